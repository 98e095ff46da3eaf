/-! ===== calls that land in an interface's default method ===== -/
theorem dm_dcl_bare (vm : Vm) : declaredIn vm.bare = declaredIn vm := by
  funext name desc k
  simp only [declaredIn, Vm.method?_bare, Vm.classes_bare]
  cases vm.classes[k]? <;> rfl
theorem dm_held_bare (vm : Vm) (c : ClassId) (name desc : String) : held vm.bare c name desc = held vm c name desc := by
  simp only [held, Vm.superclasses_bare, dm_dcl_bare, superinterfaceMethods_bare, Vm.superinterfaces_bare, maximallySpecific_bare, Vm.method?_bare, Vm.classes_bare, Option.any_map]
  rfl
theorem dm_near_bare (vm : Vm) (c : ClassId) (name desc : String) : nearestHeld vm.bare c name desc = nearestHeld vm c name desc := by
  simp only [nearestHeld, dm_held_bare]
theorem dm_near {vm vm' : Vm} (h : vm.Alike vm') (c : ClassId) (name desc : String) : nearestHeld vm' c name desc = nearestHeld vm c name desc := by
  rw [← dm_near_bare vm', h.bare_eq, dm_near_bare]
/-- what the table of virtual methods holds for it is m, or nothing -/
def dm_ok (vm : Vm) (c : ClassId) (name desc : String) (m : MethodId) : Prop := match nearestHeld vm c name desc with
  | some (_, .default d) => d = m
  | some (_, .thrower _) => False
  | _ => True
theorem dm_spec {args : Array Value} {s : State} {cls : String} {x y : MethodName} (h : (Cond.landsInDefault cls x y).before args s = true) :
    ∃ (c : ClassId) (r m : MethodId) (rm : Method) (mk : Class), s.vm.findClass cls = some c ∧ s.methodFound? x.cls x.name x.desc = some r ∧ s.methodNamed? y = some m ∧ s.vm.method? r = some rm ∧ selectMethod {} s.vm c r = .method m ∧ s.vm.classes[m.cls]? = some mk ∧ mk.isInterface = true ∧ rm.isPrivate = false ∧ dm_ok s.vm c rm.name rm.desc m := by
  simp only [Cond.before, Cond.holds, Cond.value] at h
  cases hc : s.vm.findClass cls with
  | none => simp [hc] at h
  | some c =>
    cases hr : s.methodFound? x.cls x.name x.desc with
    | none => simp [hc, hr] at h
    | some r =>
      cases hm : s.methodNamed? y with
      | none => simp [hc, hr, hm] at h
      | some m =>
        cases hrm : s.vm.method? r with
        | none => simp [hc, hr, hm, hrm] at h
        | some rm =>
          cases hs : selectMethod {} s.vm c r with
          | method m' =>
            cases hk : s.vm.classes[m.cls]? with
            | none => simp [hc, hr, hm, hrm, hs, hk] at h
            | some mk =>
              simp only [hc, hr, hm, hrm, hs, hk, Option.map_some, beq_iff_eq, Option.some.injEq, Bool.and_eq_true, Option.any_some, decide_eq_true_eq] at h
              obtain ⟨⟨⟨⟨h1, h2⟩, h3⟩, h4⟩, h5⟩ := h
              refine ⟨c, r, m, rm, mk, rfl, rfl, rfl, hrm, by rw [hs, h1], hk, h2, by simpa using h3, ?_⟩
              unfold dm_ok
              split at h5 <;> simp_all
          | none => simp [hc, hr, hm, hrm, hs] at h
          | several => simp [hc, hr, hm, hrm, hs] at h
          | refused => simp [hc, hr, hm, hrm, hs] at h
theorem dm_moved {cls : String} {x y : MethodName} {A A' : Array Value} {s U : State} (hW : s.vm.Alike U.vm) (h : (Cond.landsInDefault cls x y).before A s = true) : (Cond.landsInDefault cls x y).before A' U = true := by
  have e : (Cond.landsInDefault cls x y).before A' U = (Cond.landsInDefault cls x y).before A (s.setVm U.vm) := rfl
  rw [e, ← h]
  simp only [Cond.before, Cond.holds, Cond.value, State.vm_setVm, hW.findClass, State.methodFound?_setVm hW, State.methodNamed?_setVm hW, hW.method?, hW.selectMethod, hW.superclasses, hW.declaredIn, dm_near hW]
  have hi : ∀ k : ClassId, (U.vm.classes[k]?).any (·.isInterface) = (s.vm.classes[k]?).any (·.isInterface) := fun k => by
    rw [← Vm.isInterfaceAt_bare, hW.bare_eq, Vm.isInterfaceAt_bare]
  simp only [hi]
theorem dm_face {A : Array Value} {s : State} {vm' : Vm} (h : s.vm.Alike vm') {ref owner name desc : String} : (Cond.interfaceMethod ref owner name desc).before A (s.setVm vm') = (Cond.interfaceMethod ref owner name desc).before A s := by
  simp only [Cond.before, Cond.holds, Cond.value, State.vm_setVm, h.findClass, State.methodFound?_setVm h, State.methodNamed?_setVm h, arm_isInterface_setVm h]
section
variable {Q : Selection → Pre} {E : CtlPost} {e : Env} {d : Bool} {acts : List Action} {s : State} {f : JFrame}
theorem dm_selV {c : ClassId} {r m : MethodId} {rmeth meth : Method} {mk : Class} (hsel : selectMethod e.platform s.vm c r = .method m) (hrm : s.vm.method? r = some rmeth) (hm : s.vm.method? m = some meth)
    (hmk : s.vm.classes[m.cls]? = some mk) (hitf : mk.isInterface = true) (hok : dm_ok s.vm c rmeth.name rmeth.desc m) :
    wp (invokeinterface.selectVirtual c r) Q E e d acts s ↔ Q (.method m) d acts s := by
  unfold dm_ok at hok
  cases hn : nearestHeld s.vm c rmeth.name rmeth.desc with
  | none => by_cases hp : e.platform.privateHidesDefault = true <;> simp [invokeinterface.selectVirtual, hrm, selectFor_method hsel hm, hmk, hitf, hn, hp]
  | some p =>
    obtain ⟨k, hd⟩ := p
    cases hd with
    | nothing => by_cases hp : e.platform.privateHidesDefault = true <;> simp [invokeinterface.selectVirtual, hrm, selectFor_method hsel hm, hmk, hitf, hn, hp]
    | default d0 =>
      rw [hn] at hok
      subst hok
      by_cases hp : e.platform.privateHidesDefault = true <;> simp [invokeinterface.selectVirtual, hrm, selectFor_method hsel hm, hmk, hitf, hn, hp]
    | thrower cl => rw [hn] at hok; exact hok.elim
end
section
variable {Q : Unit → Pre} {E : CtlPost} {e : Env} {d : Bool} {acts : List Action} {s : State} {f : JFrame}
theorem dm_named {index a : Nat} {r m : MethodId} {c' : ClassId} {k k' mk : Class} {rmeth meth : Method} {args rest : List Value} {cell : Cell}
    (hs : s.topJava?.isSome) (hnamed : namesResolved s.vm f.method.cls index c') (hk' : s.vm.classes[c']? = some k') (hclass : k'.isInterface = false)
    (hr : s.vm.methodReady f.method.cls index r)
    (hk : s.vm.classes[r.cls]? = some k) (hrm : s.vm.method? r = some rmeth) (hpoly : signaturePolymorphic k rmeth = false)
    (hstatic : rmeth.isStatic = false)
    (hlen : args.length = rmeth.sig.parameters.length) (hstack : f.stack = args.reverse ++ .ref a :: rest)
    (hcell : s.heap[a]? = some cell) (hobj : ∀ c, cell.vm ≠ .statics c)
    (hsel : selectMethod e.platform s.vm cell.cls r = .method m) (hm : s.vm.method? m = some meth) (habs : meth.isAbstract = false)
    (hmk : s.vm.classes[m.cls]? = some mk) (hitf : mk.isInterface = true) (hok : dm_ok s.vm cell.cls rmeth.name rmeth.desc m) :
    wp (invokevirtual.sem index) Q E e d acts (s.setTop f) ↔
      E (.invoke m (.ref a :: args).toArray) acts (s.setTop { f with stack := rest }) := by
  obtain ⟨kc, cf, ci, n, h1, h2, h3, h4⟩ := hnamed
  have hpre : ∀ {Q' : ClassId → Pre}, wp (Jvm.refClassAt index) Q' E e d acts (s.setTop f) ↔ Q' c' d acts (s.setTop f) := by
    intro Q'
    rcases h3 with h3 | h3 <;>
      simp [Jvm.refClassAt, Jvm.constantAt, State.method?_setTop f hs, h1, h2, h3, W.resolveClassAt_ready (State.method?_setTop f hs) h4]
  simp only [invokevirtual.sem, wp_bind', hpre, W.theClass, State.vm_setTop, hk', Option.some.injEq, exists_eq_left', W.ite, hclass, Bool.false_eq_true, if_false, wp_pure',
    W.resolveMethodAt_ready (State.method?_setTop f hs) hr]
  simp only [W.theMethod, State.vm_setTop, hrm, Option.some.injEq, exists_eq_left', Seam.isPolymorphic, wp_bind', W.theClass, hk, wp_pure', hpoly,
    W.ite, Bool.false_eq_true, if_false, hstatic, Jvm.popArgs, ← hlen, popN_top hs hstack]
  simp [hs, hcell, hobj, dm_selV (s := s.setTop _) (show selectMethod e.platform (s.setTop _).vm cell.cls r = .method m from hsel) hrm hm hmk hitf hok, hm, habs]
end
