/-! ===== rows: calls in the family of bodies ===== -/
def ah_MetD (l : Launch) (y : MethodName) (bytes : ByteArray) (maxL : Nat) (ret : Option FieldType) (fr lo : Nat) (D : ah_D) (av : List Value) (σ : ah_S) (res : Outcome × ah_S) : Prop :=
  dm_Met l y bytes maxL ret (Cond.code y bytes maxL ret :: lw_all) (ah_room σ fr lo) (va_Pc av (fun U => ah_Hold D σ U)) (fun _ st oc t => ah_Q D σ res st oc t)
theorem ah_ofGD {l : Launch} {y : MethodName} {cc : ByteArray} {maxL fr lo : Nat} {ret : Option FieldType} {D : ah_D} {av : List Value} {σ : ah_S} {res : Outcome × ah_S} {own nm : String} {L0 : List (Option Value)} (ho : y.cls = own) (hn0 : y.name = nm) (hlen : L0.length = maxL) (hL0 : ah_ao 0 av L0)
    (hg : ∀ κ : ah_C, ah_res κ = res → ah_G κ (own, nm, maxL, ret, [], fr, lo) cc σ 0 L0 []) : ah_MetD l y cc maxL ret fr lo D av σ res := by
  intro p e s m args below meth c X hexec hbytes hml hret hlk hnamed hts hP
  obtain ⟨rfl, hHold⟩ := hP
  have hex : c.exceptionTable.toList.map (fun x => (x.startPc, x.endPc, x.handlerPc, x.catchType)) = [] := by
    obtain ⟨meth', c', hm', hc', -, -, -, -, hempty, -⟩ := Cond.code_spec hnamed (hts _ List.mem_cons_self)
    cases X.method.symm.trans hm'
    cases X.code.symm.trans hc'
    have h0 : c.exceptionTable.size = 0 := by simpa [Array.isEmpty] using hempty
    have h1 : c.exceptionTable.toList = [] := List.eq_nil_of_length_eq_zero (by simpa using h0)
    rw [h1]; rfl
  have hG := hg (p, l, e, ah_room σ fr lo, s, m, av.toArray, below, meth, c, D, σ, res) rfl
    ⟨hexec, hbytes, hml, by rw [← ho]; exact findClass_of_methodNamed hnamed, fun w h => hts w (List.mem_cons_of_mem _ h), hHold.2, hret, hlk, rfl, hHold.1.1, by rw [← hn0]; exact (name_of_methodNamed hnamed X.method).1, hex⟩ (ah_Le.refl σ) s.heap []
  have hl := lv_entry av (n := maxL) (by rw [← hlen]; exact hL0.2)
  have hG := hG _ hHold.1 va_S.rf ⟨hl.1, hl.2.1, fun i v hi => hl.2.2 (i, v) (by have := hL0.1 i v hi; rwa [Nat.zero_add] at this)⟩
  have K : W p l e (ah_room σ fr lo) s m av.toArray below meth c s.heap [] 0 0 (ah_MQ below D σ res s) (entryFrame m av.toArray maxL) := by
    rw [lg_entry_eq]
    unfold ah_W at hG
    dsimp only at hG
    rw [Nat.sub_self, Nat.sub_self] at hG
    exact hG
  obtain ⟨t, a1, o, b1, b2, b3⟩ := K (s.setFrames (.java (entryFrame m av.toArray maxL) :: below)) rfl X
  exact ⟨t, o, a1, b1, b2, b3⟩
/-- a contract of a class's method, or of an interface's -/
def ah_BM (l : Launch) (y : MethodName) (bytes : ByteArray) (maxL : Nat) (ret : Option FieldType) (fr lo : Nat) (D : ah_D) (av : List Value) (σ : ah_S) (v : Option Value) (τ : ah_S) : Prop :=
  (Cond.initialized y.cls ∈ lw_all ∧ ah_Met l y (Cond.code y bytes maxL ret) fr lo D av σ (.returned v, τ)) ∨ (plainFor y = true ∧ ah_MetD l y bytes maxL ret fr lo D av σ (.returned v, τ))
section
variable {l : Launch} {R : Room} {p : Program} {e : Env} {below : List Frame} {s : State} {sargs : Array Value} {y : MethodName} {len : Nat}
theorem ah_backM {bytes : ByteArray} {maxL fr lo : Nat} {ret : Option FieldType} {D : ah_D} {av : List Value} {σ τ : ah_S} {v : Option Value} (hM : ah_BM l y bytes maxL ret fr lo D av σ v τ) (hframes : fr + 1 ≤ R.frames) (hlocals : 8 + (maxL + 11) + lo ≤ R.locals)
    (hts : ∀ w ∈ lw_all, w.before sargs s = true) (hcode : Cond.code y bytes maxL ret ∈ lw_all) : Back l R p e below s sargs y len 8 (ah_Pre D R σ av) (ah_Post D σ τ v) := by
  rcases hM with ⟨hini, hM⟩ | ⟨hy, hM⟩
  · exact ah_back hM hframes hlocals hts hcode hini
  have hws := pay_in hts (lw_meth hcode)
  refine dm_back (ws := Cond.code y bytes maxL ret :: lw_all) (rm := ah_room σ fr lo) (P := va_Pc av (fun U => ah_Hold D σ U)) (Q := fun _ st oc t => ah_Q D σ (.returned v, τ) st oc t) (bytes := bytes) (maxL := maxL) (ret := ret)
    (E := fun a st o t L k n => k = ah_rc σ - ah_rc τ ∧ n = ah_rs σ - ah_rs τ ∧ ∀ q ∈ L, ah_A σ q.base) hy hM hframes hlocals ?_ ?_ ?_ ?_
  · intro m meth c A a X hp
    exact ⟨fun w hw => hws w hw _ _ X.warmed, hws _ List.mem_cons_self _ _ X.warmed, hp.1, hp.2.1⟩
  · intro m meth c A a g mk X hp
    obtain ⟨-, -, rfl, hh⟩ := hp
    exact ⟨rfl, hh.calling⟩
  · intro a st o t hq
    obtain ⟨h1, h2, h3, h4, h5, L, h6, h7⟩ := hq
    exact ⟨L, _, _, ⟨⟨v, h1⟩, h5, h6⟩, rfl, rfl, h7⟩
  · intro m meth c A a g mk v' t L k n X hp hq hF hE
    obtain ⟨e1, e2, hL⟩ := hE
    subst e1; subst e2
    obtain ⟨h1, h2, h3, h4, h5, -⟩ := hq
    exact ⟨Outcome.returned.inj h1, h2, h3, h4.1, h4.2, rfl, rfl, L, rfl, hL⟩
end
section
variable {p : Program} {l : Launch} {e : Env} {R : Room} {s : State} {m : MethodId} {args : Array Value} {below : List Frame} {meth : Method} {c : Code} {T : State} {locs : List Loc} {cells slots : Nat}
theorem dm_selx {C : String} {x x' y : MethodName} {r : MethodId} (h1 : s.methodFound? x.cls x.name x.desc = some r) (h2 : s.methodFound? x'.cls x'.name x'.desc = some r) (h : (Cond.selects C x' y).before args s = true) : (Cond.selects C x y).before args s = true := by
  simp only [Cond.before, Cond.holds, Cond.value, h1, h2] at h ⊢
  exact h
/-- invokevirtual that lands in a default -/
theorem dm_callV (X : Stand p l e R s m args below meth c T locs cells slots) (hexec : p.tables.exec = Jvm.exec) {own C owner : String} {index : Nat} {x y : MethodName}
    (hown : s.vm.findClass own = some m.cls) (hlink : (Cond.methodLink own index x).before args s = true) (hsame : (Cond.sameMethod x.cls owner x.name x.desc).before args s = true)
    (hd0 : va_Decl s ⟨owner, x.name, x.desc⟩) (howner : owner ≠ "java/lang/invoke/MethodHandle" ∧ owner ≠ "java/lang/invoke/VarHandle")
    (hsel : (Cond.landsInDefault C x y).before args s = true) (hinst : (Cond.instanceMethod y).before args s = true)
    {W : Nat} {Pre : Pt → Array Value → Prop} {Post : Pt → Array Value → Option Value → Pt → Prop} (hK : Back l R p e below s args y 3 W Pre Post)
    {b : Addr} {cellB : Cell} (hcell : T.heap[b]? = some cellB) (hobj : cellB.vm.isStatics = false) (hcls : s.vm.findClass C = some cellB.cls)
    {g : JFrame} (hg : g.method = m) (hsize : g.locals.size = c.maxLocals) {argsL rest : List Value} (hlen : ∀ sig, parseMethodDescriptor x.desc = some sig → argsL.length = sig.parameters.length)
    (hstack : g.stack = argsL.reverse ++ .ref b :: rest) (hW : 2 * g.monitorRoom + (rest.map fun v => v.category).sum ≤ W) (hdg : decode c.code g.pc = .ok (.invokevirtual index, 3))
    (hpre : ∀ vm₁, s.WarmedH vm₁ → Pre ⟨T.setVm vm₁, locs, cells, slots⟩ (Value.ref b :: argsL).toArray) :
    ∃ (v : Option Value) (vm₁ : Vm) (B : Pt), s.WarmedH vm₁ ∧ Stand p l e R s m args below meth c B.U B.locs B.cells B.slots ∧ Post ⟨T.setVm vm₁, locs, cells, slots⟩ (Value.ref b :: argsL).toArray v B ∧
      ∀ target, Steps p.tables e below (B.U.setTop { g with pc := g.pc + 3, stack := v.toList ++ rest }) target → Steps p.tables e below (T.setTop g) target := by
  obtain ⟨r0, r, hn, hrm, hstR, hsigR⟩ := hd0
  obtain ⟨cn, ck, r1, hcn, hck, hni, hf, hn1⟩ := Cond.sameMethod_found hsame
  cases hn.symm.trans hn1
  obtain ⟨mk, methM, hnamed, hmethM, -, habM⟩ := Cond.instanceMethod_spec hinst
  obtain ⟨c2, r2, m2, rm2, kP, q1, q2, q3, q4, q5, hkP, hkPi, -, hok⟩ := dm_spec hsel
  cases hcls.symm.trans q1
  cases hf.symm.trans q2
  cases hnamed.symm.trans q3
  cases hrm.symm.trans q4
  have hselP : selectMethod e.platform s.vm cellB.cls r0 = .method mk := by rw [Launch.admits_selectMethod X.admits]; exact q5
  obtain ⟨vm₁, X₁, hstep₁⟩ := dm_invV X hexec hown hlink hsame howner hn hrm hstR (a := b) (cell := cellB) hcell
    (fun z h => by rw [h] at hobj; cases hobj) hselP hmethM habM hkP hkPi hok (g := g) hg (argsL := argsL) (rest := rest) (hlen _ hsigR) hstack hdg
  obtain ⟨v, B, X', hpost, hsteps⟩ := hK m meth c ⟨T.setVm vm₁, locs, cells, slots⟩ { g with stack := rest } (.invokevirtual index) mk (Value.ref b :: argsL).toArray X₁ hg hsize hdg hW (X₁.named hnamed) (hpre vm₁ X₁.warmed)
  exact ⟨v, vm₁, B, X₁.warmed, X', hpost, fun target h => hstep₁ _ fun acts => by rw [doInvoke_state]; exact hsteps.trans h⟩
/-- a super call, wherever it lands -/
theorem dm_callS (X : Stand p l e R s m args below meth c T locs cells slots) (hexec : p.tables.exec = Jvm.exec) {own owner : String} {index : Nat} {x : MethodName} {bytes : ByteArray} {maxL : Nat} {ret : Option FieldType}
    (hown : s.vm.findClass own = some m.cls) (hlink : (Cond.methodLink own index x).before args s = true) (hsame : (Cond.sameMethod x.cls owner x.name x.desc).before args s = true) (hsup : (Cond.superclass own x.cls).before args s = true)
    (hinst : (Cond.instanceMethod ⟨owner, x.name, x.desc⟩).before args s = true) (hcode : (Cond.code ⟨owner, x.name, x.desc⟩ bytes maxL ret).before args s = true) (hno : x.name ≠ "<init>")
    (hwhere : x.cls = owner ∨ (Cond.superclass x.cls owner).before args s = true ∨ (Cond.landsInDefault x.cls x ⟨owner, x.name, x.desc⟩).before args s = true)
    {W : Nat} {Pre : Pt → Array Value → Prop} {Post : Pt → Array Value → Option Value → Pt → Prop} (hK : Back l R p e below s args ⟨owner, x.name, x.desc⟩ 3 W Pre Post)
    {b : Addr} {cellB : Cell} {kB : Class} (hcell : T.heap[b]? = some cellB) (hobj : cellB.vm.isStatics = false) (hkB : s.vm.classes[cellB.cls]? = some kB)
    {g : JFrame} (hg : g.method = m) (hsize : g.locals.size = c.maxLocals) {argsL rest : List Value} (hlen : ∀ sig, parseMethodDescriptor x.desc = some sig → argsL.length = sig.parameters.length)
    (hstack : g.stack = argsL.reverse ++ .ref b :: rest) (hW : 2 * g.monitorRoom + (rest.map fun v => v.category).sum ≤ W) (hdg : decode c.code g.pc = .ok (.invokespecial index, 3))
    (hpre : ∀ vm₁, s.WarmedH vm₁ → Pre ⟨T.setVm vm₁, locs, cells, slots⟩ (Value.ref b :: argsL).toArray) :
    ∃ (v : Option Value) (vm₁ : Vm) (B : Pt), s.WarmedH vm₁ ∧ Stand p l e R s m args below meth c B.U B.locs B.cells B.slots ∧ Post ⟨T.setVm vm₁, locs, cells, slots⟩ (Value.ref b :: argsL).toArray v B ∧
      ∀ target, Steps p.tables e below (B.U.setTop { g with pc := g.pc + 3, stack := v.toList ++ rest }) target → Steps p.tables e below (T.setTop g) target := by
  obtain ⟨mk, methM, hnamed, hmethM, hstM, habM⟩ := Cond.instanceMethod_spec hinst
  obtain ⟨methM', cM, hmethM', -, -, -, -, -, -, hsigM⟩ := Cond.code_spec hnamed hcode
  cases hmethM.symm.trans hmethM'
  obtain ⟨ps, dk, kp, hps, hdk, hkp, hsuper, -, -, hnid⟩ := Cond.superclass_spec hown hsup
  have hoc : s.vm.findClass owner = some mk.cls := findClass_of_methodNamed hnamed
  obtain ⟨hrn, hrd⟩ := name_of_methodNamed hnamed hmethM
  obtain ⟨vm₁, X₁, hstep₁⟩ := dm_invS X hexec hown hlink hsame hnamed hmethM hstM habM hno hdk hnid hps hsuper (fun ck hck hni hup => by
    rcases hwhere with h0 | h0 | h0
    · have hpm : ps = mk.cls := Option.some.inj (hps.symm.trans (by rw [h0]; exact hoc))
      subst hpm
      obtain ⟨kr, hkr, -⟩ := className_of_methodNamed hnamed
      have hdecl : kr.findMethod x.name x.desc = some mk.idx := by
        have h' := hnamed
        simp only [State.methodNamed?, hoc, hkr, Option.bind_eq_bind, Option.bind_some, Option.bind_eq_some_iff, Option.pure_def, Option.some.injEq] at h'
        obtain ⟨i, hi, hmi⟩ := h'
        rw [← hmi]; exact hi
      exact lookupSpecial_of_declared hck hni hup hkr hdecl (by simp [Vm.isSubclass, Vm.isSubclassAux]) hmethM hstM
    · obtain ⟨ps2, dk2, kp2, hps2, hdk2, hkp2, hsuper2, -, -, -⟩ := Cond.superclass_spec hps h0
      have hpm : ps2 = mk.cls := Option.some.inj (hps2.symm.trans hoc)
      subst hpm
      obtain ⟨kr, hkr, -⟩ := className_of_methodNamed hnamed
      have hdecl : kr.findMethod x.name x.desc = some mk.idx := by
        have h' := hnamed
        simp only [State.methodNamed?, hoc, hkr, Option.bind_eq_bind, Option.bind_some, Option.bind_eq_some_iff, Option.pure_def, Option.some.injEq] at h'
        obtain ⟨i, hi, hmi⟩ := h'
        rw [← hmi]; exact hi
      have hsz : ∃ n, s.vm.classes.size = n + 1 := by
        have := (Array.getElem?_eq_some_iff.mp hck).1
        exact ⟨s.vm.classes.size - 1, by omega⟩
      obtain ⟨nn, hnn⟩ := hsz
      exact lookupSpecial_of_declared hck hni hup hkr hdecl (by rw [Vm.isSubclass, hnn]; simp [Vm.isSubclassAux, hdk2, hsuper2]) hmethM hstM
    · obtain ⟨c2, r2, m2, rm2, kP, q1, q2, q3, q4, q5, hkP, hkPi, hpr, -⟩ := dm_spec h0
      cases hps.symm.trans q1
      cases hnamed.symm.trans q3
      obtain ⟨cn, ck', r1, hcn, hck', hni', hf, hn1⟩ := Cond.sameMethod_found hsame
      cases hnamed.symm.trans hn1
      cases hf.symm.trans q2
      cases hmethM.symm.trans q4
      exact dm_special hck hni hup hmethM hstM hpr ⟨hrn, hrd⟩ hkP hkPi q5) (a := b) (cell := cellB) hcell
    (fun z h => by rw [h] at hobj; cases hobj) hkB (g := g) hg (argsL := argsL) (rest := rest) (hlen _ hsigM) hstack hdg
  obtain ⟨v, B, X', hpost, hsteps⟩ := hK m meth c ⟨T.setVm vm₁, locs, cells, slots⟩ { g with stack := rest } (.invokespecial index) mk (Value.ref b :: argsL).toArray X₁ hg hsize hdg hW (X₁.named hnamed) (hpre vm₁ X₁.warmed)
  exact ⟨v, vm₁, B, X₁.warmed, X', hpost, fun target h => hstep₁ _ (by rw [doInvoke_state]; exact hsteps.trans h)⟩
end
/-- a word of the tables, or one of those beside them -/
def ah_w2 (w : Cond) : Prop := w ∈ lw_all ∨ w ∈ ah_nw
theorem ah_w2.use {D : ah_D} {w : Cond} (hw : w.onTables = true) {args : Array Value} {s : State} (hts : ∀ w ∈ lw_all, w.before args s = true) (hK : ah_K D s) (h : ah_w2 w) : w.before args s = true := by
  rcases h with h | h
  · exact hts _ h
  · exact va_Nw.use hw (hK.2.1 _ h)
/-- the place of a call's x: who declares it -/
def ah_dcl (x : MethodName) : Prop := Cond.declares x ∈ ah_nw ∨ (Cond.instanceMethod x ∈ lw_all ∧ ∃ b m ret, Cond.code x b m ret ∈ lw_all)
theorem ah_dcl.use {D : ah_D} {x : MethodName} {args : Array Value} {s : State} (hts : ∀ w ∈ lw_all, w.before args s = true) (hK : ah_K D s) (h : ah_dcl x) : va_Decl s x := by
  rcases h with h | ⟨h1, b, m, ret, h2⟩
  · exact va_Decl.abs (hK.2.1 _ h)
  · exact va_Decl.of (hts _ h1) (hts _ h2)
/-- a virtual call of x on r goes to a method whose contract is known -/
def ah_VB (l : Launch) (x : MethodName) (owner : String) (fr lo : Nat) (D : ah_D) (r : Option Nat) (As : List Value) (σ : ah_S) (o : Option Value) (τ : ah_S) : Prop :=
  ∃ (t : Nat) (y : MethodName) (bytes : ByteArray) (maxL : Nat) (ret : Option FieldType) (fr' lo' : Nat), ah_is σ t r = some () ∧ (1 ≤ t ∧ t ≤ 22) ∧ (Cond.selects (ah_nm t) x y ∈ lw_all ∨ Cond.selects (ah_nm t) ⟨owner, x.name, x.desc⟩ y ∈ lw_all ∨ Cond.landsInDefault (ah_nm t) x y ∈ ah_nw) ∧ Cond.instanceMethod y ∈ lw_all ∧ Cond.code y bytes maxL ret ∈ lw_all ∧ (fr' ≤ fr ∧ maxL + lo' ≤ lo) ∧
    ah_BM l y bytes maxL ret fr' lo' D (va_rf r :: As) σ o τ
/-- an interface's call -/
def ah_VI (l : Launch) (x : MethodName) (fr lo : Nat) (D : ah_D) (r : Option Nat) (As : List Value) (σ : ah_S) (o : Option Value) (τ : ah_S) : Prop :=
  ∃ (t : Nat) (y : MethodName) (bytes : ByteArray) (maxL : Nat) (ret : Option FieldType) (fr' lo' : Nat), ah_is σ t r = some () ∧ (1 ≤ t ∧ t ≤ 22) ∧ Cond.selects (ah_nm t) x y ∈ lw_all ∧ Cond.publicMethod y ∈ ah_nw ∧ Cond.unhidden (ah_nm t) x.name x.desc ∈ ah_nw ∧ Cond.castable (ah_nm t) x.cls ∈ ah_nw ∧ Cond.instanceMethod y ∈ lw_all ∧ Cond.code y bytes maxL ret ∈ lw_all ∧ (fr' ≤ fr ∧ maxL + lo' ≤ lo) ∧
    ah_BM l y bytes maxL ret fr' lo' D (va_rf r :: As) σ o τ
/-- a body -/
def ah_ob (σ : ah_S) (r : Option Nat) : Option Unit := r.bind fun a => if (decide (15 ≤ ah_tg σ a) && decide (ah_tg σ a ≤ 22)) = true then some () else none
section
variable {κ : ah_C} {own : String} {μ : String × Nat × Option FieldType × List (Nat × Nat × Nat × Nat) × Nat × Nat} {cc : ByteArray} {σ τ : ah_S} {pc pc' : Nat} {L : List (Option Value)} {rest : List Value}
theorem ro_callVB {idx fr_ lo_ n : Nat} {x : MethodName} {owner : String} {As : List Value} {v : Option Value} {r : Option Nat} (hM : ah_VB (ah_la κ) x owner fr_ lo_ (ah_Dd κ) r As σ v τ) (hq : ah_w2 (Cond.methodLink own idx x)) (hsame : ah_w2 (Cond.sameMethod x.cls owner x.name x.desc)) (hdc : ah_dcl ⟨owner, x.name, x.desc⟩)
    (hd0 : owner ≠ "java/lang/invoke/MethodHandle" ∧ owner ≠ "java/lang/invoke/VarHandle" ∧ (parseMethodDescriptor x.desc).map (fun d => d.parameters.length) = some n) (hn : As.length = n) (hR0 : fr_ + 1 ≤ μ.2.2.2.2.1 ∧ 19 + lo_ ≤ μ.2.2.2.2.2) (hst : (rest.map fun v => v.category).sum ≤ 8)
    (hd : decode cc pc = .ok (.invokevirtual idx, 3)) (hp : pc + 3 = pc') {st st' : List Value} (hsk : st = As.reverse ++ va_rf r :: rest) (hsk' : v.toList ++ rest = st') (k : ah_G κ (own, μ) cc τ pc' L st') : ah_G κ (own, μ) cc σ pc L st := by
  subst hp
  subst hsk
  subst hsk'
  obtain ⟨t, y, bytes, maxL, ret, fr', lo', his, hr1, hq3, hq2, hcode, hfl, hM⟩ := hM
  obtain ⟨b, rfl, his⟩ := ah_bs his
  have htg : ah_tg σ b = t := (ah_ifs his).1
  intro ok le H locs ls hH hS hl
  obtain ⟨p, l, e, R, s, m, args, below, meth, c, D, σ0, res⟩ := κ
  obtain ⟨nm, nL, ret, hh, fr, lo⟩ := μ
  obtain ⟨hx, hb, hml, hown, hts, hK, hr, hlk, hR, hsz, hnm, hex⟩ := id ok
  obtain ⟨hf1, hf2⟩ := hR0
  have hf1 : fr_ + 1 ≤ fr := hf1
  have hf2 : 19 + lo_ ≤ lo := hf2
  have hB : Back l R p e below s args y 3 8 (ah_Pre D R σ (.ref b :: As)) (ah_Post D σ τ v) := ah_backM hM (by rw [hR]; show fr' + 1 ≤ fr; omega) (by rw [hR]; show 8 + (maxL + 11) + lo' ≤ lo; omega) hts hcode
  obtain ⟨cellB, hcB, hoB, hclB⟩ := ah_recv hH hK htg (Or.inl hr1)
  intro T hT X
  have a1 : ah_rc σ ≤ ah_rc σ0 := le.2.1
  have a2 : ah_rs σ ≤ ah_rs σ0 := le.2.2.1
  have hRc : R.cells = ah_rc σ0 := by rw [hR]; rfl
  have hRs : R.slots = ah_rs σ0 := by rw [hR]; rfl
  have hlen : ∀ sig, parseMethodDescriptor x.desc = some sig → As.length = sig.parameters.length := fun sig h => by
    have h2 := hd0.2.2
    rw [h] at h2
    exact hn.trans (Option.some.inj h2).symm
  have hpre : ∀ vm₁, s.WarmedH vm₁ → ah_Pre D R σ (.ref b :: As) ⟨T.setVm vm₁, locs, ah_rc σ0 - ah_rc σ, ah_rs σ0 - ah_rs σ⟩ (Value.ref b :: As).toArray := fun vm₁ hW₁ => ⟨by show ah_rc σ0 - ah_rc σ + ah_rc σ ≤ _; omega, by show ah_rs σ0 - ah_rs σ + ah_rs σ ≤ _; omega, rfl, by
      refine ⟨?_, ah_K.moved (s := s) (U := T.setVm vm₁) hW₁ hK⟩
      show ah_HH D σ T.heap
      rw [hT]; exact hH⟩
  have hDc := ah_dcl.use hts hK hdc
  have hSm := ah_w2.use rfl hts hK hsame
  have hLk := ah_w2.use rfl hts hK hq
  rcases hq3 with hq3 | hq3 | hq3
  · obtain ⟨v', vm₁, ⟨U', l2, c2, s2⟩, hW₁, X', hpost, st⟩ := va_callVU X hx (C := ah_nm t) hown hLk hSm hDc ⟨hd0.1, hd0.2.1⟩ (hts _ hq3) (hts _ hq2) (hts _ hcode) hB (by rw [hT]; exact hcB) hoB hclB (g := F0 m pc ls (As.reverse ++ .ref b :: rest)) rfl (hl.1.trans hml.symm) (argsL := As) (rest := rest) hlen rfl (lv_room hst) (by rw [hb]; exact hd) hpre
    exact ah_on (len := 3) k ok le hS hl hT X' hpost st
  · obtain ⟨cn, ck, r0, hcn, hck, hni, hf, hn1⟩ := Cond.sameMethod_found hSm
    have hsel := dm_selx (x := x) hf (State.methodFound?_of_named hn1 ⟨hd0.1, hd0.2.1⟩) (hts _ hq3)
    obtain ⟨v', vm₁, ⟨U', l2, c2, s2⟩, hW₁, X', hpost, st⟩ := va_callVU X hx (C := ah_nm t) hown hLk hSm hDc ⟨hd0.1, hd0.2.1⟩ hsel (hts _ hq2) (hts _ hcode) hB (by rw [hT]; exact hcB) hoB hclB (g := F0 m pc ls (As.reverse ++ .ref b :: rest)) rfl (hl.1.trans hml.symm) (argsL := As) (rest := rest) hlen rfl (lv_room hst) (by rw [hb]; exact hd) hpre
    exact ah_on (len := 3) k ok le hS hl hT X' hpost st
  · have hsel : (Cond.landsInDefault (ah_nm t) x y).before args s = true := dm_moved (Vm.Alike.refl _) (hK.2.1 _ hq3)
    obtain ⟨v', vm₁, ⟨U', l2, c2, s2⟩, hW₁, X', hpost, st⟩ := dm_callV X hx (C := ah_nm t) hown hLk hSm hDc ⟨hd0.1, hd0.2.1⟩ hsel (hts _ hq2) hB (by rw [hT]; exact hcB) hoB hclB (g := F0 m pc ls (As.reverse ++ .ref b :: rest)) rfl (hl.1.trans hml.symm) (argsL := As) (rest := rest) hlen rfl (lv_room hst) (by rw [hb]; exact hd) hpre
    exact ah_on (len := 3) k ok le hS hl hT X' hpost st
theorem ro_callIB {idx cnt fr_ lo_ n : Nat} {x : MethodName} {As : List Value} {v : Option Value} {r : Option Nat} (hM : ah_VI (ah_la κ) x fr_ lo_ (ah_Dd κ) r As σ v τ) (hq : Cond.methodLink own idx x ∈ lw_all) (hdc : Cond.declares x ∈ ah_nw) (hif : Cond.interfaceMethod x.cls x.cls x.name x.desc ∈ ah_nw)
    (hd0 : x.cls ≠ "java/lang/invoke/MethodHandle" ∧ x.cls ≠ "java/lang/invoke/VarHandle" ∧ (parseMethodDescriptor x.desc).map (fun d => d.parameters.length) = some n) (hn : As.length = n) (hR0 : fr_ + 1 ≤ μ.2.2.2.2.1 ∧ 19 + lo_ ≤ μ.2.2.2.2.2) (hst : (rest.map fun v => v.category).sum ≤ 8)
    (hd : decode cc pc = .ok (.invokeinterface idx cnt, 5)) (hp : pc + 5 = pc') {st st' : List Value} (hsk : st = As.reverse ++ va_rf r :: rest) (hsk' : v.toList ++ rest = st') (k : ah_G κ (own, μ) cc τ pc' L st') : ah_G κ (own, μ) cc σ pc L st := by
  subst hp
  subst hsk
  subst hsk'
  obtain ⟨t, y, bytes, maxL, ret, fr', lo', his, hr1, hq3, hpb, hun, hca, hq2, hcode, hfl, hM⟩ := hM
  obtain ⟨b, rfl, his⟩ := ah_bs his
  have htg : ah_tg σ b = t := (ah_ifs his).1
  intro ok le H locs ls hH hS hl
  obtain ⟨p, l, e, R, s, m, args, below, meth, c, D, σ0, res⟩ := κ
  obtain ⟨nm, nL, ret, hh, fr, lo⟩ := μ
  obtain ⟨hx, hb, hml, hown, hts, hK, hr, hlk, hR, hsz, hnm, hex⟩ := id ok
  obtain ⟨hf1, hf2⟩ := hR0
  have hf1 : fr_ + 1 ≤ fr := hf1
  have hf2 : 19 + lo_ ≤ lo := hf2
  have hB : Back l R p e below s args y 5 8 (ah_Pre D R σ (.ref b :: As)) (ah_Post D σ τ v) := ah_backM hM (by rw [hR]; show fr' + 1 ≤ fr; omega) (by rw [hR]; show 8 + (maxL + 11) + lo' ≤ lo; omega) hts hcode
  obtain ⟨cellB, hcB, hoB, hclB⟩ := ah_recv hH hK htg (Or.inl hr1)
  obtain ⟨kB, hkB, -⟩ := Vm.findClass_spec hclB
  intro T hT X
  have a1 : ah_rc σ ≤ ah_rc σ0 := le.2.1
  have a2 : ah_rs σ ≤ ah_rs σ0 := le.2.2.1
  have hRc : R.cells = ah_rc σ0 := by rw [hR]; rfl
  have hRs : R.slots = ah_rs σ0 := by rw [hR]; rfl
  have hlen : ∀ sig, parseMethodDescriptor x.desc = some sig → As.length = sig.parameters.length := fun sig h => by
    have h2 := hd0.2.2
    rw [h] at h2
    exact hn.trans (Option.some.inj h2).symm
  have hpre : ∀ vm₁, s.WarmedH vm₁ → ah_Pre D R σ (.ref b :: As) ⟨T.setVm vm₁, locs, ah_rc σ0 - ah_rc σ, ah_rs σ0 - ah_rs σ⟩ (Value.ref b :: As).toArray := fun vm₁ hW₁ => ⟨by show ah_rc σ0 - ah_rc σ + ah_rc σ ≤ _; omega, by show ah_rs σ0 - ah_rs σ + ah_rs σ ≤ _; omega, rfl, by
      refine ⟨?_, ah_K.moved (s := s) (U := T.setVm vm₁) hW₁ hK⟩
      show ah_HH D σ T.heap
      rw [hT]; exact hH⟩
  obtain ⟨v', vm₁, ⟨U', l2, c2, s2⟩, hW₁, X', hpost, st⟩ := va_callIF X hx (C := ah_nm t) hown (hts _ hq) (va_Nw.use rfl (hK.2.1 _ hdc)) (va_Nw.use rfl (hK.2.1 _ hif)) (hts _ hq3) (hts _ hq2) (va_Nw.use rfl (hK.2.1 _ hpb)) (va_Nw.use rfl (hK.2.1 _ hun)) (va_Nw.use rfl (hK.2.1 _ hca)) (hts _ hcode) ⟨hd0.1, hd0.2.1⟩ hB (by rw [hT]; exact hcB) hoB hclB hkB (g := F0 m pc ls (As.reverse ++ .ref b :: rest)) rfl (hl.1.trans hml.symm) (argsL := As) (rest := rest) hlen rfl (lv_room hst) (by rw [hb]; exact hd) hpre
  exact ah_on (len := 5) k ok le hS hl hT X' hpost st
theorem ro_callSB {idx fr_ lo_ n maxL : Nat} {bytes : ByteArray} {ret : Option FieldType} {x : MethodName} {owner : String} {As : List Value} {v : Option Value} {r : Option Nat} {u : Unit} (hob : ah_ob σ r = some u) (hM : ah_BM (ah_la κ) ⟨owner, x.name, x.desc⟩ bytes maxL ret fr_ lo_ (ah_Dd κ) (va_rf r :: As) σ v τ) (hq : ah_w2 (Cond.methodLink own idx x)) (hsame : ah_w2 (Cond.sameMethod x.cls owner x.name x.desc)) (hsup : Cond.superclass own x.cls ∈ lw_all) (hq2 : Cond.instanceMethod ⟨owner, x.name, x.desc⟩ ∈ lw_all) (hcode : Cond.code ⟨owner, x.name, x.desc⟩ bytes maxL ret ∈ lw_all)
    (hno : x.name ≠ "<init>") (hwh : x.cls = owner ∨ Cond.superclass x.cls owner ∈ lw_all ∨ Cond.landsInDefault x.cls x ⟨owner, x.name, x.desc⟩ ∈ ah_nw)
    (hd0 : (parseMethodDescriptor x.desc).map (fun d => d.parameters.length) = some n) (hn : As.length = n) (hR0 : fr_ + 1 ≤ μ.2.2.2.2.1 ∧ 19 + (maxL + lo_) ≤ μ.2.2.2.2.2) (hst : (rest.map fun v => v.category).sum ≤ 8)
    (hd : decode cc pc = .ok (.invokespecial idx, 3)) (hp : pc + 3 = pc') {st st' : List Value} (hsk : st = As.reverse ++ va_rf r :: rest) (hsk' : v.toList ++ rest = st') (k : ah_G κ (own, μ) cc τ pc' L st') : ah_G κ (own, μ) cc σ pc L st := by
  subst hp
  subst hsk
  subst hsk'
  obtain ⟨b, rfl, his⟩ := ah_bs hob
  have htg := (ah_ifs his).1
  simp only [Bool.and_eq_true, decide_eq_true_eq] at htg
  intro ok le H locs ls hH hS hl
  obtain ⟨p, l, e, R, s, m, args, below, meth, c, D, σ0, res⟩ := κ
  obtain ⟨nm, nL, ret, hh, fr, lo⟩ := μ
  obtain ⟨hx, hb, hml, hown, hts, hK, hr, hlk, hR, hsz, hnm, hex⟩ := id ok
  obtain ⟨hf1, hf2⟩ := hR0
  have hf1 : fr_ + 1 ≤ fr := hf1
  have hf2 : 19 + (maxL + lo_) ≤ lo := hf2
  have hB : Back l R p e below s args ⟨owner, x.name, x.desc⟩ 3 8 (ah_Pre D R σ (.ref b :: As)) (ah_Post D σ τ v) := ah_backM hM (by rw [hR]; exact hf1) (by rw [hR]; show 8 + (maxL + 11) + lo_ ≤ lo; omega) hts hcode
  obtain ⟨cellB, hcB, hoB, hclB⟩ := ah_recv hH hK (t := ah_tg σ b) rfl (Or.inl ⟨by omega, by omega⟩)
  obtain ⟨kB, hkB, -⟩ := Vm.findClass_spec hclB
  intro T hT X
  have a1 : ah_rc σ ≤ ah_rc σ0 := le.2.1
  have a2 : ah_rs σ ≤ ah_rs σ0 := le.2.2.1
  have hRc : R.cells = ah_rc σ0 := by rw [hR]; rfl
  have hRs : R.slots = ah_rs σ0 := by rw [hR]; rfl
  obtain ⟨v', vm₁, ⟨U', l2, c2, s2⟩, hW₁, X', hpost, st⟩ := dm_callS X hx hown (ah_w2.use rfl hts hK hq) (ah_w2.use rfl hts hK hsame) (hts _ hsup) (hts _ hq2) (hts _ hcode) hno (by
      rcases hwh with h0 | h0 | h0
      · exact Or.inl h0
      · exact Or.inr (Or.inl (hts _ h0))
      · exact Or.inr (Or.inr (dm_moved (Vm.Alike.refl _) (hK.2.1 _ h0)))) hB (by rw [hT]; exact hcB) hoB hkB (g := F0 m pc ls (As.reverse ++ .ref b :: rest)) rfl (hl.1.trans hml.symm) (argsL := As) (rest := rest) (fun sig h => by
      have h2 := hd0
      rw [h] at h2
      exact hn.trans (Option.some.inj h2).symm) rfl (lv_room hst) (by rw [hb]; exact hd)
    (fun vm₁ hW₁ => ⟨by show ah_rc σ0 - ah_rc σ + ah_rc σ ≤ _; omega, by show ah_rs σ0 - ah_rs σ + ah_rs σ ≤ _; omega, rfl, by
      refine ⟨?_, ah_K.moved (s := s) (U := T.setVm vm₁) hW₁ hK⟩
      show ah_HH D σ T.heap
      rw [hT]; exact hH⟩)
  exact ah_on (len := 3) k ok le hS hl hT X' hpost st
end
