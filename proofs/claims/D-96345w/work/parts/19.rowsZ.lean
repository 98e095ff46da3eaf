/-! ===== rows: calls in the family of bodies ===== -/
def ah_MetD (l : Launch) (y : MethodName) (bytes : ByteArray) (maxL : Nat) (ret : Option FieldType) (fr lo : Nat) (D : ah_D) (av : List Value) (σ : ah_S) (res : Outcome × ah_S) : Prop :=
  dm_Met l y bytes maxL ret (Cond.code y bytes maxL ret :: lw_all) (ah_room σ fr lo) (va_Pc av (fun U => ah_Hold D σ U)) (fun _ st oc t => ah_Q D σ res st oc t)
theorem ah_ofGD {l : Launch} {y : MethodName} {cc : ByteArray} {maxL fr lo : Nat} {ret : Option FieldType} {D : ah_D} {av : List Value} {σ : ah_S} {res : Outcome × ah_S} {own nm : String} {L0 : List (Option Value)} (ho : y.cls = own) (hn0 : y.name = nm) (hlen : L0.length = maxL) (hL0 : ah_ao 0 av L0)
    (hg : ∀ κ : ah_C, ah_res κ = res → ah_G κ (own, nm, maxL, ret, [], fr, lo) cc σ 0 L0 []) : ah_MetD l y cc maxL ret fr lo D av σ res := by
  intro p e s m args below meth c X hexec hbytes hml hret hlk hnamed hts hP
  obtain ⟨rfl, hHold⟩ := hP
  have hex : c.exceptionTable.toList.map (fun x => (x.startPc, x.endPc, x.handlerPc, x.catchType)) = [] := by
    obtain ⟨meth', c', hm', hc', -, -, -, -, hempty, -⟩ := Cond.code_spec hnamed (hts _ List.mem_cons_self)
    cases X.method.symm.trans hm'
    cases X.code.symm.trans hc'
    have h0 : c.exceptionTable.size = 0 := by simpa [Array.isEmpty] using hempty
    have h1 : c.exceptionTable.toList = [] := List.eq_nil_of_length_eq_zero (by simpa using h0)
    rw [h1]; rfl
  have hG := hg (p, l, e, ah_room σ fr lo, s, m, av.toArray, below, meth, c, D, σ, res) rfl
    ⟨hexec, hbytes, hml, by rw [← ho]; exact findClass_of_methodNamed hnamed, fun w h => hts w (List.mem_cons_of_mem _ h), hHold.2, hret, hlk, rfl, hHold.1.1, by rw [← hn0]; exact (name_of_methodNamed hnamed X.method).1, hex⟩ (ah_Le.refl σ) s.heap []
  have hl := lv_entry av (n := maxL) (by rw [← hlen]; exact hL0.2)
  have hG := hG _ hHold.1 va_S.rf ⟨hl.1, hl.2.1, fun i v hi => hl.2.2 (i, v) (by have := hL0.1 i v hi; rwa [Nat.zero_add] at this)⟩
  have K : W p l e (ah_room σ fr lo) s m av.toArray below meth c s.heap [] 0 0 (ah_MQ below D σ res s) (entryFrame m av.toArray maxL) := by
    rw [lg_entry_eq]
    unfold ah_W at hG
    dsimp only at hG
    rw [Nat.sub_self, Nat.sub_self] at hG
    exact hG
  obtain ⟨t, a1, o, b1, b2, b3⟩ := K _ rfl X
  exact ⟨t, o, a1, b1, b2, b3⟩
/-- a contract of a class's method, or of an interface's -/
def ah_BM (l : Launch) (y : MethodName) (bytes : ByteArray) (maxL : Nat) (ret : Option FieldType) (fr lo : Nat) (D : ah_D) (av : List Value) (σ : ah_S) (v : Option Value) (τ : ah_S) : Prop :=
  (Cond.initialized y.cls ∈ lw_all ∧ ah_Met l y (Cond.code y bytes maxL ret) fr lo D av σ (.returned v, τ)) ∨ (plainFor y = true ∧ ah_MetD l y bytes maxL ret fr lo D av σ (.returned v, τ))
section
variable {l : Launch} {R : Room} {p : Program} {e : Env} {below : List Frame} {s : State} {sargs : Array Value} {y : MethodName} {len : Nat}
theorem ah_backM {bytes : ByteArray} {maxL fr lo : Nat} {ret : Option FieldType} {D : ah_D} {av : List Value} {σ τ : ah_S} {v : Option Value} (hM : ah_BM l y bytes maxL ret fr lo D av σ v τ) (hframes : fr + 1 ≤ R.frames) (hlocals : 8 + (maxL + 11) + lo ≤ R.locals)
    (hts : ∀ w ∈ lw_all, w.before sargs s = true) (hcode : Cond.code y bytes maxL ret ∈ lw_all) : Back l R p e below s sargs y len 8 (ah_Pre D R σ av) (ah_Post D σ τ v) := by
  rcases hM with ⟨hini, hM⟩ | ⟨hy, hM⟩
  · exact ah_back hM hframes hlocals hts hcode hini
  have hws := pay_in hts (lw_meth hcode)
  refine dm_back (ws := Cond.code y bytes maxL ret :: lw_all) (rm := ah_room σ fr lo) (P := va_Pc av (fun U => ah_Hold D σ U)) (Q := fun _ st oc t => ah_Q D σ (.returned v, τ) st oc t) (bytes := bytes) (maxL := maxL) (ret := ret)
    (E := fun a st o t L k n => k = ah_rc σ - ah_rc τ ∧ n = ah_rs σ - ah_rs τ ∧ ∀ q ∈ L, ah_A σ q.base) hy hM hframes hlocals ?_ ?_ ?_ ?_
  · intro m meth c A a X hp
    exact ⟨fun w hw => hws w hw _ _ X.warmed, hws _ List.mem_cons_self _ _ X.warmed, hp.1, hp.2.1⟩
  · intro m meth c A a g mk X hp
    obtain ⟨-, -, rfl, hh⟩ := hp
    exact ⟨rfl, hh.calling⟩
  · intro a st o t hq
    obtain ⟨h1, h2, h3, h4, h5, L, h6, h7⟩ := hq
    exact ⟨L, _, _, ⟨⟨v, h1⟩, h5, h6⟩, rfl, rfl, h7⟩
  · intro m meth c A a g mk v' t L k n X hp hq hF hE
    obtain ⟨e1, e2, hL⟩ := hE
    subst e1; subst e2
    obtain ⟨h1, h2, h3, h4, h5, -⟩ := hq
    exact ⟨Outcome.returned.inj h1, h2, h3, h4.1, h4.2, rfl, rfl, L, rfl, hL⟩
end
section
variable {p : Program} {l : Launch} {e : Env} {R : Room} {s : State} {m : MethodId} {args : Array Value} {below : List Frame} {meth : Method} {c : Code} {T : State} {locs : List Loc} {cells slots : Nat}
theorem dm_selx {C : String} {x x' y : MethodName} {r : MethodId} (h1 : s.methodFound? x.cls x.name x.desc = some r) (h2 : s.methodFound? x'.cls x'.name x'.desc = some r) (h : (Cond.selects C x' y).before args s = true) : (Cond.selects C x y).before args s = true := by
  simp only [Cond.before, Cond.holds, Cond.value, h1, h2] at h ⊢
  exact h
/-- invokevirtual that lands in a default -/
theorem dm_callV (X : Stand p l e R s m args below meth c T locs cells slots) (hexec : p.tables.exec = Jvm.exec) {own C owner : String} {index : Nat} {x y : MethodName}
    (hown : s.vm.findClass own = some m.cls) (hlink : (Cond.methodLink own index x).before args s = true) (hsame : (Cond.sameMethod x.cls owner x.name x.desc).before args s = true)
    (hd0 : va_Decl s ⟨owner, x.name, x.desc⟩) (howner : owner ≠ "java/lang/invoke/MethodHandle" ∧ owner ≠ "java/lang/invoke/VarHandle")
    (hsel : (Cond.landsInDefault C x y).before args s = true) (hinst : (Cond.instanceMethod y).before args s = true)
    {W : Nat} {Pre : Pt → Array Value → Prop} {Post : Pt → Array Value → Option Value → Pt → Prop} (hK : Back l R p e below s args y 3 W Pre Post)
    {b : Addr} {cellB : Cell} (hcell : T.heap[b]? = some cellB) (hobj : cellB.vm.isStatics = false) (hcls : s.vm.findClass C = some cellB.cls)
    {g : JFrame} (hg : g.method = m) (hsize : g.locals.size = c.maxLocals) {argsL rest : List Value} (hlen : ∀ sig, parseMethodDescriptor x.desc = some sig → argsL.length = sig.parameters.length)
    (hstack : g.stack = argsL.reverse ++ .ref b :: rest) (hW : 2 * g.monitorRoom + (rest.map fun v => v.category).sum ≤ W) (hdg : decode c.code g.pc = .ok (.invokevirtual index, 3))
    (hpre : ∀ vm₁, s.WarmedH vm₁ → Pre ⟨T.setVm vm₁, locs, cells, slots⟩ (Value.ref b :: argsL).toArray) :
    ∃ (v : Option Value) (vm₁ : Vm) (B : Pt), s.WarmedH vm₁ ∧ Stand p l e R s m args below meth c B.U B.locs B.cells B.slots ∧ Post ⟨T.setVm vm₁, locs, cells, slots⟩ (Value.ref b :: argsL).toArray v B ∧
      ∀ target, Steps p.tables e below (B.U.setTop { g with pc := g.pc + 3, stack := v.toList ++ rest }) target → Steps p.tables e below (T.setTop g) target := by
  obtain ⟨r0, r, hn, hrm, hstR, hsigR⟩ := hd0
  obtain ⟨cn, ck, r1, hcn, hck, hni, hf, hn1⟩ := Cond.sameMethod_found hsame
  cases hn.symm.trans hn1
  obtain ⟨mk, methM, hnamed, hmethM, -, habM⟩ := Cond.instanceMethod_spec hinst
  obtain ⟨c2, r2, m2, rm2, kP, q1, q2, q3, q4, q5, hkP, hkPi, -, hok⟩ := dm_spec hsel
  cases hcls.symm.trans q1
  cases hf.symm.trans q2
  cases hnamed.symm.trans q3
  cases hrm.symm.trans q4
  have hselP : selectMethod e.platform s.vm cellB.cls r0 = .method mk := by rw [Launch.admits_selectMethod X.admits]; exact q5
  obtain ⟨vm₁, X₁, hstep₁⟩ := dm_invV X hexec hown hlink hsame howner hn hrm hstR (a := b) (cell := cellB) hcell
    (fun z h => by rw [h] at hobj; cases hobj) hselP hmethM habM hkP hkPi hok (g := g) hg (argsL := argsL) (rest := rest) (hlen _ hsigR) hstack hdg
  obtain ⟨v, B, X', hpost, hsteps⟩ := hK m meth c ⟨T.setVm vm₁, locs, cells, slots⟩ { g with stack := rest } (.invokevirtual index) mk (Value.ref b :: argsL).toArray X₁ hg hsize hdg hW (X₁.named hnamed) (hpre vm₁ X₁.warmed)
  exact ⟨v, vm₁, B, X₁.warmed, X', hpost, fun target h => hstep₁ _ fun acts => by rw [doInvoke_state]; exact hsteps.trans h⟩
/-- a super call, wherever it lands -/
theorem dm_callS (X : Stand p l e R s m args below meth c T locs cells slots) (hexec : p.tables.exec = Jvm.exec) {own owner : String} {index : Nat} {x : MethodName} {bytes : ByteArray} {maxL : Nat} {ret : Option FieldType}
    (hown : s.vm.findClass own = some m.cls) (hlink : (Cond.methodLink own index x).before args s = true) (hsame : (Cond.sameMethod x.cls owner x.name x.desc).before args s = true) (hsup : (Cond.superclass own x.cls).before args s = true)
    (hinst : (Cond.instanceMethod ⟨owner, x.name, x.desc⟩).before args s = true) (hcode : (Cond.code ⟨owner, x.name, x.desc⟩ bytes maxL ret).before args s = true) (hno : x.name ≠ "<init>")
    (hwhere : x.cls = owner ∨ (Cond.superclass x.cls owner).before args s = true ∨ (Cond.landsInDefault x.cls x ⟨owner, x.name, x.desc⟩).before args s = true)
    {W : Nat} {Pre : Pt → Array Value → Prop} {Post : Pt → Array Value → Option Value → Pt → Prop} (hK : Back l R p e below s args ⟨owner, x.name, x.desc⟩ 3 W Pre Post)
    {b : Addr} {cellB : Cell} {kB : Class} (hcell : T.heap[b]? = some cellB) (hobj : cellB.vm.isStatics = false) (hkB : s.vm.classes[cellB.cls]? = some kB)
    {g : JFrame} (hg : g.method = m) (hsize : g.locals.size = c.maxLocals) {argsL rest : List Value} (hlen : ∀ sig, parseMethodDescriptor x.desc = some sig → argsL.length = sig.parameters.length)
    (hstack : g.stack = argsL.reverse ++ .ref b :: rest) (hW : 2 * g.monitorRoom + (rest.map fun v => v.category).sum ≤ W) (hdg : decode c.code g.pc = .ok (.invokespecial index, 3))
    (hpre : ∀ vm₁, s.WarmedH vm₁ → Pre ⟨T.setVm vm₁, locs, cells, slots⟩ (Value.ref b :: argsL).toArray) :
    ∃ (v : Option Value) (vm₁ : Vm) (B : Pt), s.WarmedH vm₁ ∧ Stand p l e R s m args below meth c B.U B.locs B.cells B.slots ∧ Post ⟨T.setVm vm₁, locs, cells, slots⟩ (Value.ref b :: argsL).toArray v B ∧
      ∀ target, Steps p.tables e below (B.U.setTop { g with pc := g.pc + 3, stack := v.toList ++ rest }) target → Steps p.tables e below (T.setTop g) target := by
  obtain ⟨mk, methM, hnamed, hmethM, hstM, habM⟩ := Cond.instanceMethod_spec hinst
  obtain ⟨methM', cM, hmethM', -, -, -, -, -, -, hsigM⟩ := Cond.code_spec hnamed hcode
  cases hmethM.symm.trans hmethM'
  obtain ⟨ps, dk, kp, hps, hdk, hkp, hsuper, -, -, hnid⟩ := Cond.superclass_spec hown hsup
  have hoc : s.vm.findClass owner = some mk.cls := findClass_of_methodNamed hnamed
  obtain ⟨hrn, hrd⟩ := name_of_methodNamed hnamed hmethM
  obtain ⟨vm₁, X₁, hstep₁⟩ := dm_invS X hexec hown hlink hsame hnamed hmethM hstM habM hno hdk hnid hps hsuper (fun ck hck hni hup => by
    rcases hwhere with h0 | h0 | h0
    · have hpm : ps = mk.cls := Option.some.inj (hps.symm.trans (by rw [h0]; exact hoc))
      subst hpm
      obtain ⟨kr, hkr, -⟩ := className_of_methodNamed hnamed
      have hdecl : kr.findMethod x.name x.desc = some mk.idx := by
        have h' := hnamed
        simp only [State.methodNamed?, hoc, hkr, Option.bind_eq_bind, Option.bind_some, Option.bind_eq_some_iff, Option.pure_def, Option.some.injEq] at h'
        obtain ⟨i, hi, hmi⟩ := h'
        rw [← hmi]; exact hi
      exact lookupSpecial_of_declared hck hni hup hkr hdecl (by simp [Vm.isSubclass, Vm.isSubclassAux]) hmethM hstM
    · obtain ⟨ps2, dk2, kp2, hps2, hdk2, hkp2, hsuper2, -, -, -⟩ := Cond.superclass_spec hps h0
      have hpm : ps2 = mk.cls := Option.some.inj (hps2.symm.trans hoc)
      subst hpm
      obtain ⟨kr, hkr, -⟩ := className_of_methodNamed hnamed
      have hdecl : kr.findMethod x.name x.desc = some mk.idx := by
        have h' := hnamed
        simp only [State.methodNamed?, hoc, hkr, Option.bind_eq_bind, Option.bind_some, Option.bind_eq_some_iff, Option.pure_def, Option.some.injEq] at h'
        obtain ⟨i, hi, hmi⟩ := h'
        rw [← hmi]; exact hi
      have hsz : ∃ n, s.vm.classes.size = n + 1 := by
        have := (Array.getElem?_eq_some_iff.mp hck).1
        exact ⟨s.vm.classes.size - 1, by omega⟩
      obtain ⟨nn, hnn⟩ := hsz
      exact lookupSpecial_of_declared hck hni hup hkr hdecl (by rw [Vm.isSubclass, hnn]; simp [Vm.isSubclassAux, hdk2, hsuper2]) hmethM hstM
    · obtain ⟨c2, r2, m2, rm2, kP, q1, q2, q3, q4, q5, hkP, hkPi, hpr, -⟩ := dm_spec h0
      cases hps.symm.trans q1
      cases hnamed.symm.trans q3
      obtain ⟨cn, ck', r1, hcn, hck', hni', hf, hn1⟩ := Cond.sameMethod_found hsame
      cases hnamed.symm.trans hn1
      cases hf.symm.trans q2
      cases hmethM.symm.trans q4
      exact dm_special hck hni hup hmethM hstM hpr ⟨hrn, hrd⟩ hkP hkPi q5) (a := b) (cell := cellB) hcell
    (fun z h => by rw [h] at hobj; cases hobj) hkB (g := g) hg (argsL := argsL) (rest := rest) (hlen _ hsigM) hstack hdg
  obtain ⟨v, B, X', hpost, hsteps⟩ := hK m meth c ⟨T.setVm vm₁, locs, cells, slots⟩ { g with stack := rest } (.invokespecial index) mk (Value.ref b :: argsL).toArray X₁ hg hsize hdg hW (X₁.named hnamed) (hpre vm₁ X₁.warmed)
  exact ⟨v, vm₁, B, X₁.warmed, X', hpost, fun target h => hstep₁ _ (by rw [doInvoke_state]; exact hsteps.trans h)⟩
end
