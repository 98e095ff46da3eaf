/-! ===== throws: methods that may throw, calls of such, handlers ===== -/
/-- how a method that may throw ends: its answer, or the thrown object -/
abbrev ah_T (α : Type) : Type := α ⊕ (Nat × ah_S)
def ah_trR (r : ah_T (Option Nat × ah_S)) : Outcome × ah_S := match r with
  | .inl p => (.returned (some (va_rf p.1)), p.2)
  | .inr p => (.threw p.1, p.2)
def ah_trI (r : ah_T (Int32 × ah_S)) : Outcome × ah_S := match r with
  | .inl p => (.returned (some (.int p.1)), p.2)
  | .inr p => (.threw p.1, p.2)
def ah_trV (r : ah_T ah_S) : Outcome × ah_S := match r with
  | .inl p => (.returned none, p)
  | .inr p => (.threw p.1, p.2)
section
variable {l : Launch} {R : Room} {p : Program} {e : Env} {below : List Frame} {s : State} {sargs : Array Value} {y : MethodName} {len : Nat}
theorem ah_backT {bytes : ByteArray} {maxL fr lo : Nat} {ret : Option FieldType} {D : ah_D} {av : List Value} {σ τ : ah_S} {x : Nat} (hM : ah_Met l y (Cond.code y bytes maxL ret) fr lo D av σ (.threw x, τ)) (hframes : fr + 1 ≤ R.frames) (hlocals : 8 + (maxL + 11) + lo ≤ R.locals)
    (hts : ∀ w ∈ lw_all, w.before sargs s = true) (hcode : Cond.code y bytes maxL ret ∈ lw_all) (hini : Cond.initialized y.cls ∈ lw_all)
    {m : MethodId} {meth : Method} {c : Code} {A : Pt} {g : JFrame} {ig : Instr} {mk : MethodId} {a : Array Value} (X : Stand p l e R s m sargs below meth c A.U A.locs A.cells A.slots) (hg : g.method = m) (hsize : g.locals.size = c.maxLocals) (hdg : decode c.code g.pc = .ok (ig, len))
    (hW : 2 * g.monitorRoom + (g.stack.map fun v => v.category).sum ≤ 8) (hn : A.U.methodNamed? y = some mk) (hp : ah_Pre D R σ av A a) :
    ∃ B : Pt, Stand p l e R s m sargs below meth c B.U B.locs B.cells B.slots ∧ ah_Post D σ τ none A a none B ∧ Steps p.tables e below (doInvoke e (A.U.setTop g) [] mk a).1 ((B.U.setTop g).pushFrame (.throwing x)) := by
  have hws := pay_in hts (lw_meth hcode)
  have h1 : (headSpec (Cond.code y bytes maxL ret :: lw_all) (ah_room σ fr lo)).pre.before a A.U = true := atoms_intro fun w hw => hws w hw _ _ X.warmed
  have h2 : (Cond.code y bytes maxL ret).before a A.U = true := hws _ List.mem_cons_self _ _ X.warmed
  have h3 : (Cond.initialized y.cls).before a A.U = true := pay_in hts lw_self _ hini _ _ X.warmed
  obtain ⟨h4, h5, ha, hHold⟩ := hp
  subst ha
  obtain ⟨U, Ls, c0, s0⟩ := A
  dsimp only [Pt.U, Pt.locs, Pt.cells, Pt.slots] at h1 h2 h3 h4 h5 X hn hHold ⊢
  obtain ⟨methY, cY, hmY, hcY, -, hlY, -, -, -, -⟩ := Cond.code_spec hn h2
  obtain ⟨kY, hkY, -⟩ := className_of_methodNamed hn
  have hinitY : kY.init = .initialized := Cond.initialized_spec (findClass_of_methodNamed hn) hkY h3
  have h : At U g.method c below := by rw [hg]; exact X.here
  have happ : (headSpec (Cond.code y bytes maxL ret :: lw_all) (ah_room σ fr lo)).appliesLoose y e.platform (U.calling g mk av.toArray) = true :=
    Spec.appliesLoose_calling (g := g) h hdg hn hkY hinitY
      (X.room_calling (g := g) (R' := ah_room σ fr lo) hsize hmY hcY hframes (by rw [hlY]; show _ + (maxL + 11) + lo ≤ _; omega) h4 h5) h1
  obtain ⟨mid, hmid⟩ := h.above
  have hfr : (U.setTop g).frames = (.java g :: mid) ++ below := by rw [State.frames_setTop' g h.top, hmid]; rfl
  obtain ⟨o, s₂, hsteps, -, hend, hq⟩ := Steps.callFree hM p X.admits X.cas X.clock (acts := []) hfr happ ⟨rfl, hHold.calling⟩ trivial
  have hq' : ah_Q D σ (.threw x, τ) (U.calling g mk av.toArray) o s₂ := hq
  obtain ⟨ho, g2, g3, g4, hW₂, L, ⟨e2, q2, q3, q4, q5, q6⟩, hL⟩ := hq'
  have ho : o = .threw x := ho
  subst ho
  have hend : s₂.frames = .throwing x :: (U.setTop g).frames := hend
  have e3 : s₂ = ({ (U.calling g mk av.toArray).setFrames s₂.frames with heap := s₂.heap, slotsUsed := s₂.slotsUsed } : State).setVm s₂.vm := by
    have : s₂ = ({ s₂ with vm := (U.calling g mk av.toArray).vm } : State).setVm s₂.vm := rfl
    rw [e2] at this
    exact this
  have hW' : U.WarmedH s₂.vm := hW₂
  obtain ⟨g₀, hg0⟩ := Option.isSome_iff_exists.mp h.top
  obtain ⟨r, hr⟩ := State.topJava?_eq_some.mp hg0
  have hs₂ : s₂ = ((({ U with heap := s₂.heap, slotsUsed := s₂.slotsUsed } : State).setVm s₂.vm).setTop g).pushFrame (.throwing x) := by
    have hr' : (({ U with heap := s₂.heap, slotsUsed := s₂.slotsUsed } : State).setVm s₂.vm).frames = .java g₀ :: r := hr
    refine e3.trans ?_
    rw [hend, State.calling_eq h.top, State.setFrames_setFrames, State.pushFrame, State.frames_setTop' g (show (({ U with heap := s₂.heap, slotsUsed := s₂.slotsUsed } : State).setVm s₂.vm).topJava?.isSome from h.top), State.setTop_of_frames _ hr', State.setFrames_setFrames, State.frames_setTop' g h.top]
    rfl
  have hsame : U.sameButNew ({ U with heap := s₂.heap, slotsUsed := s₂.slotsUsed } : State) L (ah_rc σ - ah_rc τ) (ah_rs σ - ah_rs τ) := by
    refine ⟨?_, q2, q3, q4, q5, q6⟩
    obtain ⟨t, ht, -⟩ := State.frames_cons hr
    show ({ U with heap := s₂.heap, slotsUsed := s₂.slotsUsed } : State) = { U.setFrames U.frames with heap := s₂.heap, slotsUsed := s₂.slotsUsed }
    rw [State.setFrames_self ht]
  subst hg
  refine ⟨⟨(({ U with heap := s₂.heap, slotsUsed := s₂.slotsUsed } : State).setVm s₂.vm), Ls ++ L, c0 + (ah_rc σ - ah_rc τ), s0 + (ah_rs σ - ah_rs τ)⟩,
    ⟨X.admits, X.cas, X.clock, X.frames, X.room, X.hears, X.method, X.code, (X.here.setHeapUsed s₂.heap s₂.slotsUsed).setVm hW'.alike, X.tail, State.WarmedH.trans X.warmed hW', X.limits, X.bytes, X.same.trans (hsame.setVm s.vm)⟩,
    ⟨rfl, g2, g3, g4.1, g4.2, rfl, rfl, L, rfl, hL⟩, ?_⟩
  show Steps p.tables e below _ (((({ U with heap := s₂.heap, slotsUsed := s₂.slotsUsed } : State).setVm s₂.vm).setTop g).pushFrame (.throwing x))
  rw [← hs₂]
  exact hsteps
end
theorem ah_go_cold {E : CtlPost} {e : Env} {d : Bool} {acts : List Action} {s : State} {f : JFrame} {a : Addr} {Q : Handler → Pre} {x : ExceptionTableEntry} {t : List ExceptionTableEntry} {c : ClassId} {vm' : Vm} {cell : Cell} (hx : covers x f.pc = true) (h0 : x.catchType ≠ 0)
    (hg : (Jvm.resolveClass f.method.cls x.catchType).Gives e.toSetting s.vm (.ok c) vm') (hr : vm'.classReady f.method.cls x.catchType c) (hsz : vm'.classes.size ≤ s.vm.classes.size) (hcell : s.heap[a]? = some cell) (hobj : ∀ k, cell.vm ≠ .statics k)
    (hk : ∃ k, vm'.classes[cell.cls]? = some k) (hc : ∃ k, vm'.classes[c]? = some k) (hfit : vm'.assignable cell.cls c = true) :
    wp (findHandler.go f a (x :: t)) Q E e d acts s ↔ Q (.found x.handlerPc) d acts (s.setVm vm') := by
  obtain ⟨ha, ht⟩ := hg.op (op := VmOp.resolveClass f.method.cls x.catchType) rfl
  have hcell' : (s.setVm vm').heap[a]? = some cell := hcell
  have hk' : ∃ k, (s.setVm vm').vm.classes[cell.cls]? = some k := hk
  have hc' : ∃ k, (s.setVm vm').vm.classes[c]? = some k := hc
  have hfit' : (s.setVm vm').vm.assignable cell.cls c = true := hfit
  simp only [covers] at hx
  simp [findHandler.go, hx, h0, ha, ht, hsz, VmOp.dirties, VmOp.acts]
  constructor
  · rintro ⟨c1, h1, h2, h3, h4, h5⟩
    cases hcell.symm.trans h1
    change (if (s.setVm vm').vm.assignable cell.cls c = true then _ else _) at h5
    rw [if_pos hfit'] at h5
    exact h5
  · intro h
    exact ⟨cell, hcell, hobj, hk, hc, by
      change (if (s.setVm vm').vm.assignable cell.cls c = true then _ else _)
      rw [if_pos hfit']
      exact h⟩
/-- what the search gives, the tables warmed by it -/
def ah_Finds (e : Env) (s : State) (f : JFrame) (a : Addr) (pc : Nat) (vm' : Vm) : Prop :=
  ∀ (Q : Handler → Pre) (E : CtlPost) (d : Bool) (acts : List Action), wp (findHandler f a) Q E e d acts s ↔ Q (.found pc) d acts (s.setVm vm')
theorem ah_stepCatch {e : Env} {s : State} {a : Addr} {f : JFrame} {r : List Frame} {pc : Nat} {vm' : Vm} (hfind : ah_Finds e s f a pc vm') :
    (stepThrowing e s a (.java f :: r)).Is ((s.setVm vm').setFrames (.java { f with pc := pc, stack := [.ref a] } :: r)) [] := by
  simp only [stepThrowing, searchFrame, vmDo]
  generalize hr : Sem.go _ e false [] s = res
  obtain ⟨as, rfl, ha⟩ := Sem.eq_ok_of hr (a := Handler.found pc) (s' := s.setVm vm') (acts' := []) (by simp [hfind _ _ _ _])
  exact ⟨rfl, ha⟩
theorem ah_table {c : Code} {hh : List (Nat × Nat × Nat × Nat)} (hex : c.exceptionTable.toList.map (fun x => (x.startPc, x.endPc, x.handlerPc, x.catchType)) = hh) {pre rest : List (Nat × Nat × Nat × Nat)} {q : Nat × Nat × Nat × Nat} (hs : hh = pre ++ q :: rest) :
    ∃ (P : List ExceptionTableEntry) (x : ExceptionTableEntry) (Z : List ExceptionTableEntry), c.exceptionTable.toList = P ++ x :: Z ∧ (x.startPc, x.endPc, x.handlerPc, x.catchType) = q ∧ P.map (fun x => (x.startPc, x.endPc, x.handlerPc, x.catchType)) = pre := by
  rw [hs] at hex
  obtain ⟨P, Y, h1, h2, h3⟩ := List.map_eq_append_iff.mp hex
  obtain ⟨x, Z, h4, h5, h6⟩ := List.map_eq_cons_iff.mp h3
  exact ⟨P, x, Z, by rw [h1, h4], h5, h2⟩
theorem ah_out {c : Code} {hh : List (Nat × Nat × Nat × Nat)} (hex : c.exceptionTable.toList.map (fun x => (x.startPc, x.endPc, x.handlerPc, x.catchType)) = hh) {pc : Nat} (ho : hh.all (fun q => !(decide (q.1 ≤ pc) && decide (pc < q.2.1))) = true) : ∀ x ∈ c.exceptionTable.toList, covers x pc = false := by
  intro x hx
  have h1 : (!(covers x pc)) = true := List.all_eq_true.mp ho (x.startPc, x.endPc, x.handlerPc, x.catchType) (by rw [← hex]; exact List.mem_map.mpr ⟨x, hx, rfl⟩)
  rw [Bool.not_eq_true'] at h1
  exact h1
/-- the thrown object is caught in this method -/
theorem ah_catch {p : Program} {l : Launch} {e : Env} {R : Room} {s : State} {m : MethodId} {args : Array Value} {below : List Frame} {meth : Method} {c : Code} {T : State} {locs : List Loc} {cells slots : Nat} (X : Stand p l e R s m args below meth c T locs cells slots) {g : JFrame} (hg : g.method = m) {own name : String} {st en hp ct : Nat} (hown : s.vm.findClass own = some m.cls) (hlink : (Cond.classLink own ct name).before args s = true)
    {hh pre rest : List (Nat × Nat × Nat × Nat)} (hex : c.exceptionTable.toList.map (fun x => (x.startPc, x.endPc, x.handlerPc, x.catchType)) = hh) (hs : hh = pre ++ (st, en, hp, ct) :: rest) (hpre : pre.all (fun q => !(decide (q.1 ≤ g.pc) && decide (g.pc < q.2.1))) = true) (hin : st ≤ g.pc ∧ g.pc < en) (hct : ct ≠ 0)
    {a : Addr} {cell : Cell} (hcell : T.heap[a]? = some cell) (hobj : cell.vm.isStatics = false) (hcls : s.vm.findClass name = some cell.cls) :
    ∃ vm', Stand p l e R s m args below meth c (T.setVm vm') locs cells slots ∧ ∀ target, Steps p.tables e below ((T.setVm vm').setTop { g with pc := hp, stack := [.ref a] }) target → Steps p.tables e below ((T.setTop g).pushFrame (.throwing a)) target := by
  obtain ⟨P, x, Z, hsp, hxq, hP⟩ := ah_table hex hs
  have hpl : e.platform.magicAccessors = ({} : Platform).magicAccessors := by rw [X.admits.platform]
  obtain ⟨c', hc', hcl⟩ := Cond.classLink_spec hown hlink e.platform hpl
  cases hcls.symm.trans hc'
  obtain ⟨dk, _, _, kt, hd, _, _, _, _, hkt, _, hopen⟩ := hcl.here
  have hcl₀ := X.warmed.classLinks hcl
  have hW' : s.WarmedH (T.vm.noted m.cls ct (.cls cell.cls)) := X.warmed.noted hd hopen (State.rightAt_cls hcl)
  obtain ⟨ks, hks, -⟩ := Vm.findClass_spec hcls
  obtain ⟨ks', hks', -⟩ := hW'.alike.2.2 _ _ hks
  have hxs : x.startPc = st ∧ x.endPc = en ∧ x.handlerPc = hp ∧ x.catchType = ct := by
    have e1 := congrArg Prod.fst hxq
    have e2 := congrArg (fun q => q.2.1) hxq
    have e3 := congrArg (fun q => q.2.2.1) hxq
    have e4 := congrArg (fun q => q.2.2.2) hxq
    exact ⟨e1, e2, e3, e4⟩
  obtain ⟨e1, e2, e3, e4⟩ := hxs
  refine ⟨_, X.noted hW', fun target hrest => ?_⟩
  subst hg
  have hskip : ∀ z ∈ P, covers z g.pc = false := by
    intro z hz
    have h1 : (!(covers z g.pc)) = true := List.all_eq_true.mp hpre (z.startPc, z.endPc, z.handlerPc, z.catchType) (by rw [← hP]; exact List.mem_map.mpr ⟨z, hz, rfl⟩)
    rw [Bool.not_eq_true'] at h1
    exact h1
  have hfind : ah_Finds e ((T.setTop g).pushFrame (.throwing a)) g a hp (T.vm.noted g.method.cls ct (.cls cell.cls)) := by
    intro Q E d acts
    have hvm : ((T.setTop g).pushFrame (.throwing a)).vm = T.vm := Stand.throwing_vm T g a
    have hhp : ((T.setTop g).pushFrame (.throwing a)).heap = T.heap := Stand.throwing_heap T g a
    rw [W.findHandler_eq (meth := meth) (code := c) (by rw [hvm]; exact X.method') X.code, hsp]
    have hgo : ∀ (P : List ExceptionTableEntry), (∀ z ∈ P, covers z g.pc = false) → (wp (findHandler.go g a (P ++ x :: Z)) Q E e d acts ((T.setTop g).pushFrame (.throwing a)) ↔ wp (findHandler.go g a (x :: Z)) Q E e d acts ((T.setTop g).pushFrame (.throwing a))) := by
      intro P hP
      induction P with
      | nil => exact Iff.rfl
      | cons z t ih =>
        rw [List.cons_append, W.findHandler_go_skip (hP z List.mem_cons_self)]
        exact ih (fun y hy => hP y (List.mem_cons_of_mem _ hy))
    rw [hgo P hskip]
    have hcx : covers x g.pc = true := by
      simp only [covers, e1, e2, Bool.and_eq_true, decide_eq_true_eq]
      exact hin
    have key := ah_go_cold (Q := Q) (E := E) (e := e) (d := d) (acts := acts) (s := (T.setTop g).pushFrame (.throwing a)) (f := g) (a := a) (x := x) (t := Z) (c := cell.cls) (vm' := T.vm.noted g.method.cls ct (.cls cell.cls)) (cell := cell) hcx (by rw [e4]; exact hct)
      (by rw [hvm, e4]; exact resolveClass_links e.toSetting hcl₀) (by rw [e4]; exact hcl₀.ready) (by rw [hvm]; no_record) (by rw [hhp]; exact hcell) (fun k hk => by rw [hk] at hobj; cases hobj) ⟨ks', hks'⟩ ⟨ks', hks'⟩ (va_asg _ _)
    rw [e3] at key
    exact key
  have h : At T g.method c below := X.here
  obtain ⟨hgo, hw⟩ := h.throwing a
  refine Steps.head hgo hw ?_
  rw [stepThread_throwing (frames_entered h.top _), (ah_stepCatch (s := (T.setTop g).pushFrame (.throwing a)) hfind).1]
  obtain ⟨g₀, hg0⟩ := Option.isSome_iff_exists.mp h.top
  obtain ⟨r, hr⟩ := State.topJava?_eq_some.mp hg0
  have hr' : (T.setVm (T.vm.noted g.method.cls ct (.cls cell.cls))).frames = .java g₀ :: r := hr
  rw [State.setTop_of_frames _ hr'] at hrest
  have heq : (((T.setTop g).pushFrame (.throwing a)).setVm (T.vm.noted g.method.cls ct (.cls cell.cls))).setFrames (.java { g with pc := hp, stack := [.ref a] } :: T.frames.tail) = (T.setVm (T.vm.noted g.method.cls ct (.cls cell.cls))).setFrames (.java { g with pc := hp, stack := [.ref a] } :: r) := by
    rw [State.pushFrame, State.setTop_of_frames _ hr, hr]
    show (((T.setFrames _).setFrames _).setFrames _).setVm _ = (T.setFrames _).setVm _
    rw [State.setFrames_setFrames, State.setFrames_setFrames]
    rfl
  rw [heq]
  exact hrest
section
variable {l : Launch} {R : Room} {p : Program} {e : Env} {below : List Frame} {s : State} {args : Array Value}
theorem ah_callVT {m : MethodId} {meth : Method} {c : Code} {T : State} {locs : List Loc} {cells slots : Nat} (X : Stand p l e R s m args below meth c T locs cells slots) (hexec : p.tables.exec = Jvm.exec) {own C : String} {index maxL fr lo : Nat} {y : MethodName} {bytes : ByteArray} {ret : Option FieldType} {D : ah_D} {σ τ : ah_S} {x : Nat}
    (hown : s.vm.findClass own = some m.cls) (hlink : (Cond.methodLink own index y).before args s = true) (hinst : (Cond.instanceMethod y).before args s = true) (hsel : (Cond.selects C y y).before args s = true) (hts : ∀ w ∈ lw_all, w.before args s = true)
    (hcode : Cond.code y bytes maxL ret ∈ lw_all) (hini : Cond.initialized y.cls ∈ lw_all) (hy : y.cls ≠ "java/lang/invoke/MethodHandle" ∧ y.cls ≠ "java/lang/invoke/VarHandle") {b : Addr} {argsL rest : List Value} (hM : ah_Met l y (Cond.code y bytes maxL ret) fr lo D (.ref b :: argsL) σ (.threw x, τ)) (hframes : fr + 1 ≤ R.frames) (hlocals : 8 + (maxL + 11) + lo ≤ R.locals)
    {cellB : Cell} (hcell : T.heap[b]? = some cellB) (hobj : cellB.vm.isStatics = false) (hcls : s.vm.findClass C = some cellB.cls)
    {g : JFrame} (hg : g.method = m) (hsize : g.locals.size = c.maxLocals) (hlen : ∀ sig, parseMethodDescriptor y.desc = some sig → argsL.length = sig.parameters.length)
    (hstack : g.stack = argsL.reverse ++ .ref b :: rest) (hW : 2 * g.monitorRoom + (rest.map fun v => v.category).sum ≤ 8) (hdg : decode c.code g.pc = .ok (.invokevirtual index, 3))
    (hpre : ∀ vm₁, s.WarmedH vm₁ → ah_Pre D R σ (.ref b :: argsL) ⟨T.setVm vm₁, locs, cells, slots⟩ (Value.ref b :: argsL).toArray) :
    ∃ (vm₁ : Vm) (B : Pt), Stand p l e R s m args below meth c B.U B.locs B.cells B.slots ∧ ah_Post D σ τ none ⟨T.setVm vm₁, locs, cells, slots⟩ (Value.ref b :: argsL).toArray none B ∧
      ∀ target, Steps p.tables e below ((B.U.setTop { g with stack := rest }).pushFrame (.throwing x)) target → Steps p.tables e below (T.setTop g) target := by
  obtain ⟨mk, methM, hnamed, hmethM, hstM, habM⟩ := Cond.instanceMethod_spec hinst
  obtain ⟨methM', cM, hmethM', -, -, -, -, -, -, hsigM⟩ := Cond.code_spec hnamed (hts _ hcode)
  cases hmethM.symm.trans hmethM'
  obtain ⟨c2, r2, m2, q1, q2, q3, q4, kP, hkP, hkPi⟩ := Cond.selects_spec hsel
  cases hcls.symm.trans q1
  cases (State.methodFound?_of_named hnamed hy).symm.trans q2
  cases hnamed.symm.trans q3
  have hselP : selectMethod e.platform s.vm cellB.cls mk = .method mk := by rw [Launch.admits_selectMethod X.admits]; exact q4
  obtain ⟨vm₁, X₁, hstep₁⟩ := X.invokevirtual hexec hown hlink hnamed hmethM hstM hkP hkPi hy (a := b) (cell := cellB) hcell
    (fun z h => by rw [h] at hobj; cases hobj) hselP hmethM habM hkP hkPi (g := g) hg (argsL := argsL) (rest := rest) (hlen _ hsigM) hstack hdg
  obtain ⟨B, X', hpost, hsteps⟩ := ah_backT (len := 3) (A := ⟨T.setVm vm₁, locs, cells, slots⟩) (g := { g with stack := rest }) (ig := .invokevirtual index) (mk := mk) (a := (Value.ref b :: argsL).toArray) hM hframes hlocals hts hcode hini X₁ hg hsize hdg hW (X₁.named hnamed) (hpre vm₁ X₁.warmed)
  exact ⟨vm₁, B, X', hpost, fun target h => hstep₁ _ fun acts => by rw [doInvoke_state]; exact hsteps.trans h⟩
end
/-- behind a call that threw: the heap is the callee's -/
theorem ah_onT {p : Program} {l : Launch} {e : Env} {R : Room} {s : State} {m : MethodId} {args : Array Value} {below : List Frame} {meth : Method} {c : Code} {D : ah_D} {σ0 σ τ : ah_S} {T U' : State} {vm₁ : Vm} {H : Heap} {locs l2 : List Loc} {c2 s2 : Nat} {av : Array Value}
    (le : ah_Le σ0 σ) (hS : va_S (ah_A σ0) s.heap H locs) (hT : T.heap = H) (X' : Stand p l e R s m args below meth c U' l2 c2 s2) (hp : ah_Post D σ τ none (T.setVm vm₁, locs, ah_rc σ0 - ah_rc σ, ah_rs σ0 - ah_rs σ) av none (U', l2, c2, s2)) :
    ah_Le σ0 τ ∧ ah_HH D τ U'.heap ∧ va_S (ah_A σ0) s.heap U'.heap l2 ∧ Stand p l e R s m args below meth c U' l2 (ah_rc σ0 - ah_rc τ) (ah_rs σ0 - ah_rs τ) := by
  obtain ⟨-, h2, h3, h4, h5, h6, h7, LL, h8, h9⟩ := hp
  dsimp only [Pt.U, Pt.locs, Pt.cells, Pt.slots] at h2 h4 h5 h6 h7 h8
  subst h6; subst h7; subst h8
  have hheap : (T.setVm vm₁).heap = H := hT
  rw [hheap] at h4 h5
  have a1 : ah_rc σ ≤ ah_rc σ0 := le.2.1
  have a2 : ah_rs σ ≤ ah_rs σ0 := le.2.2.1
  have b1 : ah_rc τ ≤ ah_rc σ := h3.2.1
  have b2 : ah_rs τ ≤ ah_rs σ := h3.2.2.1
  refine ⟨le.trans h3, h2, ⟨Nat.le_trans hS.1 h4, fun q g1 g2 => by
      rw [h5 q (Nat.lt_of_lt_of_le g1 hS.1) (fun z => g2 (ah_A.mono le q z))]
      exact hS.2.1 q g1 g2, fun q hq => by
      rcases List.mem_append.mp hq with g | g
      · exact hS.2.2 q g
      · exact ah_A.mono le _ (h9 q g)⟩, ?_⟩
  rw [show ah_rc σ0 - ah_rc τ = ah_rc σ0 - ah_rc σ + (ah_rc σ - ah_rc τ) by omega, show ah_rs σ0 - ah_rs τ = ah_rs σ0 - ah_rs σ + (ah_rs σ - ah_rs τ) by omega]
  exact X'
theorem ah_leave {p : Program} {l : Launch} {e : Env} {R : Room} {s : State} {m : MethodId} {args : Array Value} {below : List Frame} {meth : Method} {c : Code} {D : ah_D} {σ0 τ : ah_S} {U' : State} {l2 : List Loc} {g : JFrame} {x : Nat} (X' : Stand p l e R s m args below meth c U' l2 (ah_rc σ0 - ah_rc τ) (ah_rs σ0 - ah_rs τ)) (hg : g.method = m) (hlk : g.locked = none) (hen : g.entered = []) (hlocks : meth.locks = false) (hout : ∀ x ∈ c.exceptionTable.toList, covers x g.pc = false)
    (le : ah_Le σ0 τ) (hH : ah_HH D τ U'.heap) (hS : va_S (ah_A σ0) s.heap U'.heap l2) : ∃ t, Steps p.tables e below ((U'.setTop g).pushFrame (.throwing x)) t ∧ ah_MQ below D σ0 (.threw x, τ) s t := by
  obtain ⟨h1, h2, h3, h4, h5⟩ := X'.leaveThrown x (g := g) hg hlk hen hout hlocks
  exact ⟨_, h1, .threw x, h2, h3, rfl, hH, le, hS.F rfl, h4, l2, h5, hS.2.2⟩
section
variable {κ : ah_C} {own nm : String} {nL fr lo : Nat} {ret : Option FieldType} {hh : List (Nat × Nat × Nat × Nat)} {cc : ByteArray} {σ τ : ah_S} {pc : Nat} {L : List (Option Value)} {rest : List Value}
theorem ro_athrow {r : Option Nat} {a : Nat} (hr0 : r = some a) (hres : ah_res κ = (.threw a, σ)) (ho : hh.all (fun q => !(decide (q.1 ≤ pc) && decide (pc < q.2.1))) = true) (hd : decode cc pc = .ok (.athrow, 1)) : ah_G κ (own, nm, nL, ret, hh, fr, lo) cc σ pc L (va_rf r :: rest) := by
  subst hr0
  intro ok le H locs ls hH hS hl
  obtain ⟨p, l, e, R, s, m, args, below, meth, c, D, σ0, res⟩ := κ
  obtain ⟨hx, hb, hml, hown, hts, hK, hr, hlk, hR, hsz, hnm, hex⟩ := id ok
  have e1 : res = _ := hres
  subst e1
  show W p l e R s m args below meth c H locs (ah_rc σ0 - ah_rc σ) (ah_rs σ0 - ah_rs σ) (ah_MQ below D σ0 (_, σ) s) (F0 m pc ls _)
  intro T hT X
  obtain ⟨h1, h2, h3, h4, h5⟩ := X.athrowLeaves hx (g := F0 m pc ls (.ref a :: rest)) rfl rfl rfl (ah_out hex ho) (a := a) (rest := rest) rfl (by rw [hb]; exact hd) hlk
  exact ⟨_, h1, .threw a, h2, h3, rfl, by show ah_HH D σ T.heap; rw [hT]; exact hH, le, hS.F hT, h4, locs, h5, hS.2.2⟩
/-- athrow inside the method's own try -/
theorem ro_athrowC {r : Option Nat} {a t st en hpc ct : Nat} {pre suf : List (Nat × Nat × Nat × Nat)} {u0 : Unit} (hr0 : r = some a) (his : ah_is σ t r = some u0) (hr1 : 1 ≤ t ∧ t ≤ 22) (hq : Cond.classLink own ct (ah_nm t) ∈ lw_all) (hs : hh = pre ++ (st, en, hpc, ct) :: suf) (hpre : pre.all (fun q => !(decide (q.1 ≤ pc) && decide (pc < q.2.1))) = true) (hin : st ≤ pc ∧ pc < en) (hct : ct ≠ 0)
    (hd : decode cc pc = .ok (.athrow, 1)) (k : ah_G κ (own, nm, nL, ret, hh, fr, lo) cc σ hpc L [va_rf r]) : ah_G κ (own, nm, nL, ret, hh, fr, lo) cc σ pc L (va_rf r :: rest) := by
  subst hr0
  have htg : ah_tg σ a = t := (ah_ifs his).1
  intro ok le H locs ls hH hS hl
  obtain ⟨p, l, e, R, s, m, args, below, meth, c, D, σ0, res⟩ := κ
  obtain ⟨hx, hb, hml, hown, hts, hK, hr, hlk, hR, hsz, hnm, hex⟩ := id ok
  obtain ⟨cell, q1, q2, q3⟩ := ah_recv hH hK htg (Or.inl hr1)
  intro T hT X
  obtain ⟨vm', X', st'⟩ := ah_catch X (g := F0 m pc ls rest) rfl hown (hts _ hq) hex hs hpre hin hct (a := a) (by rw [hT]; exact q1) q2 q3
  have kk := k ok le H locs ls hH hS hl
  obtain ⟨t1, g1, g2⟩ := kk (T.setVm vm') hT X'
  refine ⟨t1, ?_, g2⟩
  have hdg : decode c.code pc = .ok (.athrow, 1) := by rw [hb]; exact hd
  show Steps p.tables e below (T.setTop (F0 m pc ls (.ref a :: rest))) t1
  jvm_step X.here [hx, hdg, athrow.wp_sem]
  exact st' t1 g1
theorem ro_callTO {idx maxL fr_ lo_ n x : Nat} {y : MethodName} {bytes : ByteArray} {rt : Option FieldType} {As : List Value} {r : Option Nat} {t : Nat} {u0 : Unit} (hr1 : 1 ≤ t ∧ t ≤ 22) (his : ah_is σ t r = some u0) (hq2 : Cond.instanceMethod y ∈ lw_all) (hq3 : Cond.selects (ah_nm t) y y ∈ lw_all) (hM : ah_Met (ah_la κ) y (Cond.code y bytes maxL rt) fr_ lo_ (ah_Dd κ) (va_rf r :: As) σ (.threw x, τ)) (hq : Cond.methodLink own idx y ∈ lw_all) (hcode : Cond.code y bytes maxL rt ∈ lw_all) (hini : Cond.initialized y.cls ∈ lw_all)
    (hd0 : y.cls ≠ "java/lang/invoke/MethodHandle" ∧ y.cls ≠ "java/lang/invoke/VarHandle" ∧ (parseMethodDescriptor y.desc).map (fun d => d.parameters.length) = some n) (hn : As.length = n) (hR0 : fr_ + 1 ≤ fr ∧ 8 + (maxL + 11) + lo_ ≤ lo) (hst : (rest.map fun v => v.category).sum ≤ 8)
    (hd : decode cc pc = .ok (.invokevirtual idx, 3)) {st0 : List Value} (hsk : st0 = As.reverse ++ va_rf r :: rest) (hres : ah_res κ = (.threw x, τ)) (ho : hh.all (fun q => !(decide (q.1 ≤ pc) && decide (pc < q.2.1))) = true) : ah_G κ (own, nm, nL, ret, hh, fr, lo) cc σ pc L st0 := by
  subst hsk
  obtain ⟨b, rfl, his⟩ := ah_bs his
  have htg : ah_tg σ b = t := (ah_ifs his).1
  intro ok le H locs ls hH hS hl
  obtain ⟨p, l, e, R, s, m, args, below, meth, c, D, σ0, res⟩ := κ
  obtain ⟨hx, hb, hml, hown, hts, hK, hr, hlk, hR, hsz, hnm, hex⟩ := id ok
  obtain ⟨cellB, hcB, hoB, hclB⟩ := ah_recv hH hK htg (Or.inl hr1)
  have a1 : ah_rc σ ≤ ah_rc σ0 := le.2.1
  have a2 : ah_rs σ ≤ ah_rs σ0 := le.2.2.1
  have hRc : R.cells = ah_rc σ0 := by rw [hR]; rfl
  have hRs : R.slots = ah_rs σ0 := by rw [hR]; rfl
  intro T hT X
  obtain ⟨vm₁, ⟨U', l2, c2, s2⟩, X', hpost, stp⟩ := ah_callVT X hx (C := ah_nm t) hown (hts _ hq) (hts _ hq2) (hts _ hq3) hts hcode hini ⟨hd0.1, hd0.2.1⟩ (b := b) (argsL := As) (rest := rest) hM (by rw [hR]; exact hR0.1) (by rw [hR]; exact hR0.2) (by rw [hT]; exact hcB) hoB hclB (g := F0 m pc ls (As.reverse ++ .ref b :: rest)) rfl (hl.1.trans hml.symm) (fun sig h => by
      have h2 := hd0.2.2
      rw [h] at h2
      exact hn.trans (Option.some.inj h2).symm) rfl (lv_room hst) (by rw [hb]; exact hd)
    (fun vm₁ hW₁ => ⟨by show ah_rc σ0 - ah_rc σ + ah_rc σ ≤ _; omega, by show ah_rs σ0 - ah_rs σ + ah_rs σ ≤ _; omega, rfl, by
      refine ⟨?_, ah_K.moved (s := s) (U := T.setVm vm₁) hW₁ hK⟩
      show ah_HH D σ T.heap
      rw [hT]; exact hH⟩)
  obtain ⟨le2, hH2, hS2, X2⟩ := ah_onT le hS hT X' hpost
  have e1 : res = _ := hres
  subst e1
  obtain ⟨t1, g1, g2⟩ := ah_leave (g := F0 m pc ls rest) (x := x) X2 rfl rfl rfl hlk (ah_out hex ho) le2 hH2 hS2
  exact ⟨t1, stp t1 g1, g2⟩
theorem ro_callTC {idx maxL fr_ lo_ n x : Nat} {y : MethodName} {bytes : ByteArray} {rt : Option FieldType} {As : List Value} {r : Option Nat} {t : Nat} {u0 : Unit} (hr1 : 1 ≤ t ∧ t ≤ 22) (his : ah_is σ t r = some u0) (hq2 : Cond.instanceMethod y ∈ lw_all) (hq3 : Cond.selects (ah_nm t) y y ∈ lw_all) (hM : ah_Met (ah_la κ) y (Cond.code y bytes maxL rt) fr_ lo_ (ah_Dd κ) (va_rf r :: As) σ (.threw x, τ)) (hq : Cond.methodLink own idx y ∈ lw_all) (hcode : Cond.code y bytes maxL rt ∈ lw_all) (hini : Cond.initialized y.cls ∈ lw_all)
    (hd0 : y.cls ≠ "java/lang/invoke/MethodHandle" ∧ y.cls ≠ "java/lang/invoke/VarHandle" ∧ (parseMethodDescriptor y.desc).map (fun d => d.parameters.length) = some n) (hn : As.length = n) (hR0 : fr_ + 1 ≤ fr ∧ 8 + (maxL + 11) + lo_ ≤ lo) (hst : (rest.map fun v => v.category).sum ≤ 8)
    (hd : decode cc pc = .ok (.invokevirtual idx, 3)) {st0 : List Value} (hsk : st0 = As.reverse ++ va_rf r :: rest) {t2 st en hpc ct : Nat} {pre suf : List (Nat × Nat × Nat × Nat)} {u1 : Unit} (his2 : ah_is τ t2 (some x) = some u1) (hr2 : 1 ≤ t2 ∧ t2 ≤ 22) (hqc : Cond.classLink own ct (ah_nm t2) ∈ lw_all) (hs : hh = pre ++ (st, en, hpc, ct) :: suf) (hpre : pre.all (fun q => !(decide (q.1 ≤ pc) && decide (pc < q.2.1))) = true) (hin : st ≤ pc ∧ pc < en) (hct : ct ≠ 0) (k : ah_G κ (own, nm, nL, ret, hh, fr, lo) cc τ hpc L [va_rf (some x)]) : ah_G κ (own, nm, nL, ret, hh, fr, lo) cc σ pc L st0 := by
  subst hsk
  obtain ⟨b, rfl, his⟩ := ah_bs his
  have htg : ah_tg σ b = t := (ah_ifs his).1
  intro ok le H locs ls hH hS hl
  obtain ⟨p, l, e, R, s, m, args, below, meth, c, D, σ0, res⟩ := κ
  obtain ⟨hx, hb, hml, hown, hts, hK, hr, hlk, hR, hsz, hnm, hex⟩ := id ok
  obtain ⟨cellB, hcB, hoB, hclB⟩ := ah_recv hH hK htg (Or.inl hr1)
  have a1 : ah_rc σ ≤ ah_rc σ0 := le.2.1
  have a2 : ah_rs σ ≤ ah_rs σ0 := le.2.2.1
  have hRc : R.cells = ah_rc σ0 := by rw [hR]; rfl
  have hRs : R.slots = ah_rs σ0 := by rw [hR]; rfl
  intro T hT X
  obtain ⟨vm₁, ⟨U', l2, c2, s2⟩, X', hpost, stp⟩ := ah_callVT X hx (C := ah_nm t) hown (hts _ hq) (hts _ hq2) (hts _ hq3) hts hcode hini ⟨hd0.1, hd0.2.1⟩ (b := b) (argsL := As) (rest := rest) hM (by rw [hR]; exact hR0.1) (by rw [hR]; exact hR0.2) (by rw [hT]; exact hcB) hoB hclB (g := F0 m pc ls (As.reverse ++ .ref b :: rest)) rfl (hl.1.trans hml.symm) (fun sig h => by
      have h2 := hd0.2.2
      rw [h] at h2
      exact hn.trans (Option.some.inj h2).symm) rfl (lv_room hst) (by rw [hb]; exact hd)
    (fun vm₁ hW₁ => ⟨by show ah_rc σ0 - ah_rc σ + ah_rc σ ≤ _; omega, by show ah_rs σ0 - ah_rs σ + ah_rs σ ≤ _; omega, rfl, by
      refine ⟨?_, ah_K.moved (s := s) (U := T.setVm vm₁) hW₁ hK⟩
      show ah_HH D σ T.heap
      rw [hT]; exact hH⟩)
  obtain ⟨le2, hH2, hS2, X2⟩ := ah_onT le hS hT X' hpost
  have htg2 : ah_tg τ x = t2 := (ah_ifs his2).1
  obtain ⟨cell, q1, q2, q3⟩ := ah_recv hH2 hK htg2 (Or.inl hr2)
  obtain ⟨vm', X3, st3⟩ := ah_catch X2 (g := F0 m pc ls rest) rfl hown (hts _ hqc) hex hs hpre hin hct (a := x) q1 q2 q3
  have kk := k ok le2 U'.heap l2 ls hH2 hS2 hl
  obtain ⟨t1, g1, g2⟩ := kk (U'.setVm vm') rfl X3
  exact ⟨t1, stp t1 (st3 t1 g1), g2⟩

end
/-- what a call that may throw gives -/
def ah_b3 {α β : Type} (o : Option (ah_T (α × ah_S))) (t : Nat → ah_S → Option β) (f : α → ah_S → Option β) : Option β := match o with
  | none => none
  | some (.inl (v, σ)) => f v σ
  | some (.inr (a, σ)) => t a σ
theorem ah_bs3 {α β : Type} {o : Option (ah_T (α × ah_S))} {t : Nat → ah_S → Option β} {f : α → ah_S → Option β} {r : β} (h : ah_b3 o t f = some r) : (∃ v σ, o = some (.inl (v, σ)) ∧ f v σ = some r) ∨ (∃ a σ, o = some (.inr (a, σ)) ∧ t a σ = some r) := by
  match o, h with
  | some (.inl (v, σ)), h => exact Or.inl ⟨v, σ, rfl, h⟩
  | some (.inr (a, σ)), h => exact Or.inr ⟨a, σ, rfl, h⟩
def ah_b3v {β : Type} (o : Option (ah_T ah_S)) (t : Nat → ah_S → Option β) (f : ah_S → Option β) : Option β := match o with
  | none => none
  | some (.inl σ) => f σ
  | some (.inr (a, σ)) => t a σ
theorem ah_bs3v {β : Type} {o : Option (ah_T ah_S)} {t : Nat → ah_S → Option β} {f : ah_S → Option β} {r : β} (h : ah_b3v o t f = some r) : (∃ σ, o = some (.inl σ) ∧ f σ = some r) ∨ (∃ a σ, o = some (.inr (a, σ)) ∧ t a σ = some r) := by
  match o, h with
  | some (.inl σ), h => exact Or.inl ⟨σ, rfl, h⟩
  | some (.inr (a, σ)), h => exact Or.inr ⟨a, σ, rfl, h⟩
/-- a contract of a method with handlers -/
theorem ah_ofGW {l : Launch} {y : MethodName} {cc : ByteArray} {maxL fr lo : Nat} {ret : Option FieldType} {hh : List (Nat × Nat × Nat × Nat)} {D : ah_D} {av : List Value} {σ : ah_S} {res : Outcome × ah_S} {own nm : String} {L0 : List (Option Value)} (hy : plainFor y = true) (ho : y.cls = own) (hn0 : y.name = nm) (hlen : L0.length = maxL) (hL0 : ah_ao 0 av L0)
    (hg : ∀ κ : ah_C, ah_res κ = res → ah_G κ (own, nm, maxL, ret, hh, fr, lo) cc σ 0 L0 []) : ah_Met l y (Cond.codeWith y cc maxL ret hh) fr lo D av σ res := by
  refine MetFree.of_bodySF (code := cc) (maxLocals := maxL) (ret := ret) hy ?_ ?_
  · intro args s m h hn
    obtain ⟨m9, meth, c, hn9, h1, h2, h3, h4, -, h5, h6, -⟩ := Cond.codeWith_spec (atoms_spec (ws := Cond.codeWith y cc maxL ret hh :: lw_all) h _ List.mem_cons_self)
    cases hn.symm.trans hn9
    exact ⟨meth, c, h1, h2, h3, h4, h5, h6⟩
  · intro p e s m args below meth c s₁ B hml hP _
    obtain ⟨rfl, hHold⟩ := hP
    have hh0 : s₁.heap = s.heap := by rw [B.state]; rfl
    have hts := atoms_spec (ws := Cond.codeWith y cc maxL ret hh :: lw_all) B.pre
    have hex : c.exceptionTable.toList.map (fun x => (x.startPc, x.endPc, x.handlerPc, x.catchType)) = hh := by
      obtain ⟨m9, meth', c', hn9, hm', hc', -, -, ht, -⟩ := Cond.codeWith_spec (hts _ List.mem_cons_self)
      have X := Stand.of_body B
      cases B.named.symm.trans hn9
      cases B.method.symm.trans hm'
      cases X.code.symm.trans hc'
      exact ht
    have hG := hg (p, l, e, (headSpec (Cond.codeWith y cc maxL ret hh :: lw_all) (ah_room σ fr lo)).room, s, m, av.toArray, below, meth, c, D, σ, res) rfl
      ⟨B.exec, B.bytes, hml, by rw [← ho]; exact findClass_of_methodNamed B.named, fun w h => hts w (List.mem_cons_of_mem _ h), hHold.2, B.returns, B.notSynchronized, rfl, hHold.1.1, by rw [← hn0]; exact (name_of_methodNamed B.named B.method).1, hex⟩ (ah_Le.refl σ) s.heap []
    have hl := lv_entry av (n := maxL) (by rw [← hlen]; exact hL0.2)
    have hG := hG _ hHold.1 va_S.rf ⟨hl.1, hl.2.1, fun i v hi => hl.2.2 (i, v) (by have := hL0.1 i v hi; rwa [Nat.zero_add] at this)⟩
    have K : W p l e (headSpec (Cond.codeWith y cc maxL ret hh :: lw_all) (ah_room σ fr lo)).room s m av.toArray below meth c s.heap [] 0 0 (ah_MQ below D σ res s) (entryFrame m av.toArray maxL) := by
      rw [lg_entry_eq]
      unfold ah_W at hG
      dsimp only at hG
      rw [Nat.sub_self, Nat.sub_self] at hG
      exact hG
    obtain ⟨t, a1, o, b1, b2, b3⟩ := K s₁ hh0 (Stand.of_body B)
    exact ⟨t, o, a1, b1, b2, b3⟩
