/-! ===== rows for the law: calls of methods with handlers, the script ===== -/
section
variable {l : Launch} {R : Room} {p : Program} {e : Env} {below : List Frame} {s : State} {sargs : Array Value} {y : MethodName} {len : Nat}
theorem ah_backW {bytes : ByteArray} {maxL fr lo : Nat} {ret : Option FieldType} {hh : List (Nat × Nat × Nat × Nat)} {D : ah_D} {av : List Value} {σ τ : ah_S} {v : Option Value} (hM : ah_Met l y (Cond.codeWith y bytes maxL ret hh) fr lo D av σ (.returned v, τ)) (hframes : fr + 1 ≤ R.frames) (hlocals : 8 + (maxL + 11) + lo ≤ R.locals)
    (hts : ∀ w ∈ lw_all, w.before sargs s = true) (hcode : Cond.codeWith y bytes maxL ret hh ∈ lw_all) (hini : Cond.initialized y.cls ∈ lw_all) : Back l R p e below s sargs y len 8 (ah_Pre D R σ av) (ah_Post D σ τ v) := by
  have hws := pay_in hts (lw_methW hcode)
  have hin : ∀ a' U, s.WarmedH U.vm → (Cond.initialized y.cls).before a' U = true := fun a' U hW => pay_in hts lw_self _ hini a' U hW
  refine va_ofFreeW (hh := hh) (S := headSpec (Cond.codeWith y bytes maxL ret hh :: lw_all) (ah_room σ fr lo)) (P := va_Pc av (fun U => ah_Hold D σ U)) (K := fun _ _ _ _ _ => True) (Q := fun _ st oc t => ah_Q D σ (.returned v, τ) st oc t) (bytes := bytes) (maxL := maxL) (ret := ret)
    (E := fun a st o t L k n => k = ah_rc σ - ah_rc τ ∧ n = ah_rs σ - ah_rs τ ∧ ∀ q ∈ L, ah_A σ q.base) hM hframes hlocals ?_ ?_ (fun _ _ _ _ _ _ _ _ _ => trivial) ?_ ?_
  · intro m meth c A a X hp
    exact ⟨atoms_intro fun w hw => hws w hw _ _ X.warmed, hws _ List.mem_cons_self _ _ X.warmed, hin _ _ X.warmed, hp.1, hp.2.1⟩
  · intro m meth c A a g mk X hp
    obtain ⟨-, -, rfl, hh⟩ := hp
    exact ⟨rfl, hh.calling⟩
  · intro a st o t hq
    obtain ⟨h1, h2, h3, h4, h5, L, h6, h7⟩ := hq
    exact ⟨L, _, _, ⟨⟨v, h1⟩, h5, h6⟩, rfl, rfl, h7⟩
  · intro m meth c A a g mk v' t L k n X hp hq hF hE
    obtain ⟨e1, e2, hL⟩ := hE
    subst e1; subst e2
    obtain ⟨h1, h2, h3, h4, h5, -⟩ := hq
    exact ⟨Outcome.returned.inj h1, h2, h3, h4.1, h4.2, rfl, rfl, L, rfl, hL⟩
end
section
variable {p : Program} {l : Launch} {e : Env} {R : Room} {s : State} {m : MethodId} {args : Array Value} {below : List Frame} {meth : Method} {c : Code} {T : State} {locs : List Loc} {cells slots : Nat}
theorem ah_callVW (X : Stand p l e R s m args below meth c T locs cells slots) (hexec : p.tables.exec = Jvm.exec) {own C : String} {index : Nat} {y : MethodName} {bytes : ByteArray} {maxL : Nat} {ret : Option FieldType} {hh : List (Nat × Nat × Nat × Nat)}
    (hown : s.vm.findClass own = some m.cls) (hlink : (Cond.methodLink own index y).before args s = true) (hinst : (Cond.instanceMethod y).before args s = true) (hsel : (Cond.selects C y y).before args s = true)
    (hcode : (Cond.codeWith y bytes maxL ret hh).before args s = true) (hy : y.cls ≠ "java/lang/invoke/MethodHandle" ∧ y.cls ≠ "java/lang/invoke/VarHandle")
    {W : Nat} {Pre : Pt → Array Value → Prop} {Post : Pt → Array Value → Option Value → Pt → Prop} (hK : Back l R p e below s args y 3 W Pre Post)
    {b : Addr} {cellB : Cell} (hcell : T.heap[b]? = some cellB) (hobj : cellB.vm.isStatics = false) (hcls : s.vm.findClass C = some cellB.cls)
    {g : JFrame} (hg : g.method = m) (hsize : g.locals.size = c.maxLocals) {argsL rest : List Value} (hlen : ∀ sig, parseMethodDescriptor y.desc = some sig → argsL.length = sig.parameters.length)
    (hstack : g.stack = argsL.reverse ++ .ref b :: rest) (hW : 2 * g.monitorRoom + (rest.map fun v => v.category).sum ≤ W) (hdg : decode c.code g.pc = .ok (.invokevirtual index, 3))
    (hpre : ∀ vm₁, s.WarmedH vm₁ → Pre ⟨T.setVm vm₁, locs, cells, slots⟩ (Value.ref b :: argsL).toArray) :
    ∃ (v : Option Value) (vm₁ : Vm) (B : Pt), s.WarmedH vm₁ ∧ Stand p l e R s m args below meth c B.U B.locs B.cells B.slots ∧ Post ⟨T.setVm vm₁, locs, cells, slots⟩ (Value.ref b :: argsL).toArray v B ∧
      ∀ target, Steps p.tables e below (B.U.setTop { g with pc := g.pc + 3, stack := v.toList ++ rest }) target → Steps p.tables e below (T.setTop g) target := by
  obtain ⟨mk, methM, hnamed, hmethM, hstM, habM⟩ := Cond.instanceMethod_spec hinst
  obtain ⟨m9, methM', cM, hn9, hmethM', -, -, -, -, -, -, hsigM⟩ := Cond.codeWith_spec hcode
  cases hnamed.symm.trans hn9
  cases hmethM.symm.trans hmethM'
  obtain ⟨c2, r2, m2, q1, q2, q3, q4, kP, hkP, hkPi⟩ := Cond.selects_spec hsel
  cases hcls.symm.trans q1
  cases (State.methodFound?_of_named hnamed hy).symm.trans q2
  cases hnamed.symm.trans q3
  have hselP : selectMethod e.platform s.vm cellB.cls mk = .method mk := by rw [Launch.admits_selectMethod X.admits]; exact q4
  obtain ⟨vm₁, X₁, hstep₁⟩ := X.invokevirtual hexec hown hlink hnamed hmethM hstM hkP hkPi hy (a := b) (cell := cellB) hcell
    (fun z h => by rw [h] at hobj; cases hobj) hselP hmethM habM hkP hkPi (g := g) hg (argsL := argsL) (rest := rest) (hlen _ hsigM) hstack hdg
  obtain ⟨v, B, X', hpost, hsteps⟩ := hK m meth c ⟨T.setVm vm₁, locs, cells, slots⟩ { g with stack := rest } (.invokevirtual index) mk (Value.ref b :: argsL).toArray X₁ hg hsize hdg hW (X₁.named hnamed) (hpre vm₁ X₁.warmed)
  exact ⟨v, vm₁, B, X₁.warmed, X', hpost, fun target h => hstep₁ _ fun acts => by rw [doInvoke_state]; exact hsteps.trans h⟩
end
/-- the script: it lies in the cell b, which the walk doesn't change -/
def ah_scr (κ : ah_C) (b L : Nat) (xs : Nat → Int32) : Prop := va_X b L xs κ.2.2.2.2.1 κ.2.2.2.2.1.heap ∧ b < κ.2.2.2.2.1.heap.size ∧ ¬ ah_A κ.2.2.2.2.2.2.2.2.2.2.2.1 b
def ah_sx (L : Nat) (xs : Nat → Int32) (i : Int32) : Option Int32 := if ah_inb i L = true then some (xs i.toNatClampNeg) else none
section
variable {κ : ah_C} {μ : ah_M} {cc : ByteArray} {σ : ah_S} {pc pc' : Nat} {L : List (Option Value)} {st : List Value} {sb sL : Nat} {sx : Nat → Int32}
theorem ro_slen (hsc : ah_scr κ sb sL sx) (hd : decode cc pc = .ok (.arraylength, 1)) (hp : pc + 1 = pc') (k : ah_G κ μ cc σ pc' L (.int (Int32.ofNat sL) :: st)) : ah_G κ μ cc σ pc L (va_rf (some sb) :: st) := by
  subst hp
  intro ok le H locs ls hH hS hl
  obtain ⟨p, l, e, R, s, m, args, below, meth, c, D, σ0, res⟩ := κ
  obtain ⟨own, nm, nL, ret, hh, fr, lo⟩ := μ
  obtain ⟨hx, hb, hml, hown, hts, hK, hr, hlk, hR, hsz, hnm, hex⟩ := id ok
  obtain ⟨h1, h2, h3⟩ := hsc
  exact va_slen hx hb h1 h2 h3 hS hd (k ok le H locs ls hH hS hl)
theorem ro_sld {i v : Int32} (hsc : ah_scr κ sb sL sx) (hd : decode cc pc = .ok (.iaload, 1)) (hp : pc + 1 = pc') (h : ah_sx sL sx i = some v) (k : ah_G κ μ cc σ pc' L (.int v :: st)) : ah_G κ μ cc σ pc L (.int i :: va_rf (some sb) :: st) := by
  subst hp
  obtain ⟨hi, rfl⟩ := ah_ifs h
  intro ok le H locs ls hH hS hl
  obtain ⟨p, l, e, R, s, m, args, below, meth, c, D, σ0, res⟩ := κ
  obtain ⟨own, nm, nL, ret, hh, fr, lo⟩ := μ
  obtain ⟨hx, hb, hml, hown, hts, hK, hr, hlk, hR, hsz, hnm, hex⟩ := id ok
  obtain ⟨h1, h2, h3⟩ := hsc
  exact va_sld hx hb h1 h2 h3 hS (ah_inb_in hi) hd (k ok le H locs ls hH hS hl)
end
section
variable {κ : ah_C} {own : String} {μ : String × Nat × Option FieldType × List (Nat × Nat × Nat × Nat) × Nat × Nat} {cc : ByteArray} {σ τ : ah_S} {pc pc' : Nat} {L : List (Option Value)} {rest : List Value}
theorem ro_callVW {idx maxL fr_ lo_ n t : Nat} {y : MethodName} {bytes : ByteArray} {ret : Option FieldType} {hh9 : List (Nat × Nat × Nat × Nat)} {As : List Value} {v : Option Value} {r : Option Nat} {u : Unit} (hr1 : 1 ≤ t ∧ t ≤ 22) (his : ah_is σ t r = some u) (hq2 : Cond.instanceMethod y ∈ lw_all) (hq3 : Cond.selects (ah_nm t) y y ∈ lw_all) (hM : ah_Met (ah_la κ) y (Cond.codeWith y bytes maxL ret hh9) fr_ lo_ (ah_Dd κ) (va_rf r :: As) σ (.returned v, τ)) (hq : Cond.methodLink own idx y ∈ lw_all) (hcode : Cond.codeWith y bytes maxL ret hh9 ∈ lw_all) (hini : Cond.initialized y.cls ∈ lw_all)
    (hd0 : y.cls ≠ "java/lang/invoke/MethodHandle" ∧ y.cls ≠ "java/lang/invoke/VarHandle" ∧ (parseMethodDescriptor y.desc).map (fun d => d.parameters.length) = some n) (hn : As.length = n) (hR0 : fr_ + 1 ≤ μ.2.2.2.2.1 ∧ 8 + (maxL + 11) + lo_ ≤ μ.2.2.2.2.2) (hst : (rest.map fun v => v.category).sum ≤ 8)
    (hd : decode cc pc = .ok (.invokevirtual idx, 3)) (hp : pc + 3 = pc') {st st' : List Value} (hsk : st = As.reverse ++ va_rf r :: rest) (hsk' : v.toList ++ rest = st') (k : ah_G κ (own, μ) cc τ pc' L st') : ah_G κ (own, μ) cc σ pc L st := by
  subst hp
  subst hsk
  subst hsk'
  obtain ⟨b, rfl, his⟩ := ah_bs his
  have htg : ah_tg σ b = t := (ah_ifs his).1
  intro ok le H locs ls hH hS hl
  obtain ⟨p, l, e, R, s, m, args, below, meth, c, D, σ0, res⟩ := κ
  obtain ⟨nm, nL, ret, hh, fr, lo⟩ := μ
  obtain ⟨hx, hb, hml, hown, hts, hK, hr, hlk, hR, hsz, hnm, hex⟩ := id ok
  obtain ⟨hf1, hf2⟩ := hR0
  have hf1 : fr_ + 1 ≤ fr := hf1
  have hf2 : 8 + (maxL + 11) + lo_ ≤ lo := hf2
  have hB : Back l R p e below s args y 3 8 (ah_Pre D R σ (.ref b :: As)) (ah_Post D σ τ v) := ah_backW hM (by rw [hR]; exact hf1) (by rw [hR]; exact hf2) hts hcode hini
  have hyy : y.cls ≠ "java/lang/invoke/MethodHandle" ∧ y.cls ≠ "java/lang/invoke/VarHandle" := ⟨hd0.1, hd0.2.1⟩
  obtain ⟨cellB, hcB, hoB, hclB⟩ := ah_recv hH hK htg (Or.inl hr1)
  intro T hT X
  have a1 : ah_rc σ ≤ ah_rc σ0 := le.2.1
  have a2 : ah_rs σ ≤ ah_rs σ0 := le.2.2.1
  have hRc : R.cells = ah_rc σ0 := by rw [hR]; rfl
  have hRs : R.slots = ah_rs σ0 := by rw [hR]; rfl
  obtain ⟨v', vm₁, ⟨U', l2, c2, s2⟩, hW₁, X', hpost, st⟩ := ah_callVW X hx (C := ah_nm t) hown (hts _ hq) (hts _ hq2) (hts _ hq3) (hts _ hcode) hyy hB (by rw [hT]; exact hcB) hoB hclB (g := F0 m pc ls (As.reverse ++ .ref b :: rest)) rfl (hl.1.trans hml.symm) (argsL := As) (rest := rest) (fun sig h => by
      have h2 := hd0.2.2
      rw [h] at h2
      exact hn.trans (Option.some.inj h2).symm) rfl (lv_room hst) (by rw [hb]; exact hd)
    (fun vm₁ hW₁ => ⟨by show ah_rc σ0 - ah_rc σ + ah_rc σ ≤ _; omega, by show ah_rs σ0 - ah_rs σ + ah_rs σ ≤ _; omega, rfl, by
      refine ⟨?_, ah_K.moved (s := s) (U := T.setVm vm₁) hW₁ hK⟩
      show ah_HH D σ T.heap
      rw [hT]; exact hH⟩)
  exact ah_on (len := 3) k ok le hS hl hT X' hpost st
end
