/-! ===== contracts: from the body; calls ===== -/
def ah_ao (k : Nat) (vs : List Value) (L : List (Option Value)) : Prop := (∀ (i : Nat) (v : Value), L[i]? = some (some v) → (k + i, v) ∈ lv_args k vs) ∧ (lg_sl vs).length ≤ L.length
theorem ah_ao_0 {k : Nat} : ah_ao k [] [] := ⟨fun i v h => by simp at h, Nat.le_refl _⟩
theorem ah_ao_n {k : Nat} {L : List (Option Value)} (h : ah_ao (k + 1) [] L) : ah_ao k [] (none :: L) := ⟨fun i v hi => by
  cases i with
  | zero => simp at hi
  | succ i =>
    simp only [List.getElem?_cons_succ] at hi
    have := h.1 i v hi
    simp [lv_args] at this, Nat.zero_le _⟩
theorem ah_sl1 {w : Value} {vs : List Value} (hc : w.category = 1) : (lg_sl (w :: vs)).length = (lg_sl vs).length + 1 := by
  cases w <;> simp [Value.category] at hc <;> simp [lg_sl, Value.category]
theorem ah_sl2 {w : Value} {vs : List Value} (hc : w.category = 2) : (lg_sl (w :: vs)).length = (lg_sl vs).length + 2 := by
  cases w <;> simp [Value.category] at hc <;> simp [lg_sl, Value.category]
theorem ah_ao_1 {k : Nat} {w : Value} {vs : List Value} {L : List (Option Value)} (hc : w.category = 1) (h : ah_ao (k + 1) vs L) : ah_ao k (w :: vs) (some w :: L) := ⟨fun i v hi => by
  unfold lv_args
  rw [if_neg (by omega)]
  cases i with
  | zero =>
    simp only [List.getElem?_cons_zero, Option.some.injEq] at hi
    subst hi
    exact List.mem_cons_self
  | succ i =>
    simp only [List.getElem?_cons_succ] at hi
    have := h.1 i v hi
    rw [show k + (i + 1) = k + 1 + i by omega]
    exact List.mem_cons_of_mem _ this, by rw [ah_sl1 hc]; exact Nat.succ_le_succ h.2⟩
theorem ah_ao_2 {k : Nat} {w : Value} {vs : List Value} {L : List (Option Value)} (hc : w.category = 2) (h : ah_ao (k + 2) vs L) : ah_ao k (w :: vs) (some w :: none :: L) := ⟨fun i v hi => by
  unfold lv_args
  rw [if_pos hc]
  match i, hi with
  | 0, hi =>
    simp only [List.getElem?_cons_zero, Option.some.injEq] at hi
    subst hi
    exact List.mem_cons_self
  | 1, hi => simp at hi
  | i + 2, hi =>
    simp only [List.getElem?_cons_succ] at hi
    have := h.1 i v hi
    rw [show k + (i + 2) = k + 2 + i by omega]
    exact List.mem_cons_of_mem _ this, by rw [ah_sl2 hc]; exact Nat.succ_le_succ (Nat.succ_le_succ h.2)⟩
theorem ah_Hold.calling {D : ah_D} {σ : ah_S} {U : State} {g : JFrame} {mk : MethodId} {a : Array Value} (h : ah_Hold D σ U) : ah_Hold D σ (U.calling g mk a) := ⟨h.1, ah_K.same (s := U) (U := U.calling g mk a) rfl h.2⟩
/-- a method's contract out of the walk of its body -/
theorem ah_ofG {l : Launch} {y : MethodName} {cc : ByteArray} {maxL fr lo : Nat} {ret : Option FieldType} {D : ah_D} {av : List Value} {σ : ah_S} {res : Outcome × ah_S} {own nm : String} {L0 : List (Option Value)} (hy : plainFor y = true) (ho : y.cls = own) (hn0 : y.name = nm) (hlen : L0.length = maxL) (hL0 : ah_ao 0 av L0)
    (hg : ∀ κ : ah_C, ah_res κ = res → ah_G κ (own, nm, maxL, ret, [], fr, lo) cc σ 0 L0 []) : ah_Met l y (Cond.code y cc maxL ret) fr lo D av σ res := by
  refine MetFree.of_bodySF (code := cc) (maxLocals := maxL) (ret := ret) hy ?_ ?_
  · intro args s m h hn
    obtain ⟨meth, c, h1, h2, h3, h4, h5, h6, -, -⟩ := Cond.code_spec hn (atoms_spec (ws := Cond.code y cc maxL ret :: lw_all) h _ List.mem_cons_self)
    exact ⟨meth, c, h1, h2, h3, h4, h5, h6⟩
  · intro p e s m args below meth c s₁ B hml hP _
    obtain ⟨rfl, hHold⟩ := hP
    have hh0 : s₁.heap = s.heap := by rw [B.state]; rfl
    have hts := atoms_spec (ws := Cond.code y cc maxL ret :: lw_all) B.pre
    have hex : c.exceptionTable.toList.map (fun x => (x.startPc, x.endPc, x.handlerPc, x.catchType)) = [] := by
      obtain ⟨meth', c', hm', hc', -, -, -, -, hempty, -⟩ := Cond.code_spec B.named (hts _ List.mem_cons_self)
      have X := Stand.of_body B
      cases B.method.symm.trans hm'
      cases X.code.symm.trans hc'
      have h0 : c.exceptionTable.size = 0 := by simpa [Array.isEmpty] using hempty
      have h1 : c.exceptionTable.toList = [] := List.eq_nil_of_length_eq_zero (by simpa using h0)
      rw [h1]; rfl
    have hG := hg (p, l, e, (headSpec (Cond.code y cc maxL ret :: lw_all) (ah_room σ fr lo)).room, s, m, av.toArray, below, meth, c, D, σ, res) rfl
      ⟨B.exec, B.bytes, hml, by rw [← ho]; exact findClass_of_methodNamed B.named, fun w h => hts w (List.mem_cons_of_mem _ h), hHold.2, B.returns, B.notSynchronized, rfl, hHold.1.1, by rw [← hn0]; exact (name_of_methodNamed B.named B.method).1, hex⟩ (ah_Le.refl σ) s.heap []
    have hl := lv_entry av (n := maxL) (by rw [← hlen]; exact hL0.2)
    have hG := hG _ hHold.1 va_S.rf ⟨hl.1, hl.2.1, fun i v hi => hl.2.2 (i, v) (by have := hL0.1 i v hi; rwa [Nat.zero_add] at this)⟩
    have K : W p l e (headSpec (Cond.code y cc maxL ret :: lw_all) (ah_room σ fr lo)).room s m av.toArray below meth c s.heap [] 0 0 (ah_MQ below D σ res s) (entryFrame m av.toArray maxL) := by
      rw [lg_entry_eq]
      unfold ah_W at hG
      dsimp only at hG
      rw [Nat.sub_self, Nat.sub_self] at hG
      exact hG
    obtain ⟨t, a1, o, b1, b2, b3⟩ := K s₁ hh0 (Stand.of_body B)
    exact ⟨t, o, a1, b1, b2, b3⟩
/-- what the callee's end says at the caller's point -/
def ah_Post (D : ah_D) (σ τ : ah_S) (v : Option Value) : Pt → Array Value → Option Value → Pt → Prop := fun A _ v' B =>
  v' = v ∧ ah_HH D τ B.U.heap ∧ ah_Le σ τ ∧ A.U.heap.size ≤ B.U.heap.size ∧ (∀ q : Nat, q < A.U.heap.size → ¬ ah_A σ q → B.U.heap[q]? = A.U.heap[q]?) ∧ B.cells = A.cells + (ah_rc σ - ah_rc τ) ∧ B.slots = A.slots + (ah_rs σ - ah_rs τ) ∧ ∃ L, B.locs = A.locs ++ L ∧ ∀ q ∈ L, ah_A σ q.base
def ah_Pre (D : ah_D) (R : Room) (σ : ah_S) (av : List Value) : Pt → Array Value → Prop := fun A a => A.cells + ah_rc σ ≤ R.cells ∧ A.slots + ah_rs σ ≤ R.slots ∧ a = av.toArray ∧ ah_Hold D σ A.U
section
variable {l : Launch} {R : Room} {p : Program} {e : Env} {below : List Frame} {s : State} {sargs : Array Value} {y : MethodName} {len : Nat}
theorem ah_back {bytes : ByteArray} {maxL fr lo : Nat} {ret : Option FieldType} {D : ah_D} {av : List Value} {σ τ : ah_S} {v : Option Value} (hM : ah_Met l y (Cond.code y bytes maxL ret) fr lo D av σ (.returned v, τ)) (hframes : fr + 1 ≤ R.frames) (hlocals : 8 + (maxL + 11) + lo ≤ R.locals)
    (hts : ∀ w ∈ lw_all, w.before sargs s = true) (hcode : Cond.code y bytes maxL ret ∈ lw_all) (hini : Cond.initialized y.cls ∈ lw_all) : Back l R p e below s sargs y len 8 (ah_Pre D R σ av) (ah_Post D σ τ v) := by
  have hws := pay_in hts (lw_meth hcode)
  have hin : ∀ a' U, s.WarmedH U.vm → (Cond.initialized y.cls).before a' U = true := fun a' U hW => pay_in hts lw_self _ hini a' U hW
  refine Back.of_free (S := headSpec (Cond.code y bytes maxL ret :: lw_all) (ah_room σ fr lo)) (P := va_Pc av (fun U => ah_Hold D σ U)) (K := fun _ _ _ _ _ => True) (Q := fun _ st oc t => ah_Q D σ (.returned v, τ) st oc t) (bytes := bytes) (maxL := maxL) (ret := ret)
    (E := fun a st o t L k n => k = ah_rc σ - ah_rc τ ∧ n = ah_rs σ - ah_rs τ ∧ ∀ q ∈ L, ah_A σ q.base) hM hframes hlocals ?_ ?_ (fun _ _ _ _ _ _ _ _ _ => trivial) ?_ ?_
  · intro m meth c A a X hp
    exact ⟨atoms_intro fun w hw => hws w hw _ _ X.warmed, hws _ List.mem_cons_self _ _ X.warmed, hin _ _ X.warmed, hp.1, hp.2.1⟩
  · intro m meth c A a g mk X hp
    obtain ⟨-, -, rfl, hh⟩ := hp
    exact ⟨rfl, hh.calling⟩
  · intro a st o t hq
    obtain ⟨h1, h2, h3, h4, h5, L, h6, h7⟩ := hq
    exact ⟨L, _, _, ⟨⟨v, h1⟩, h5, h6⟩, rfl, rfl, h7⟩
  · intro m meth c A a g mk v' t L k n X hp hq hF hE
    obtain ⟨e1, e2, hL⟩ := hE
    subst e1; subst e2
    obtain ⟨h1, h2, h3, h4, h5, -⟩ := hq
    exact ⟨Outcome.returned.inj h1, h2, h3, h4.1, h4.2, rfl, rfl, L, rfl, hL⟩
end
theorem ah_A.mono {σ τ : ah_S} (h : ah_Le σ τ) : ∀ q, ah_A τ q → ah_A σ q := fun _ hq => hq.sub h
section
variable {κ : ah_C} {own : String} {μ : String × Nat × Option FieldType × List (Nat × Nat × Nat × Nat) × Nat × Nat} {cc : ByteArray} {σ τ : ah_S} {pc pc' : Nat} {L : List (Option Value)} {rest : List Value}
abbrev ah_la (κ : ah_C) : Launch := κ.2.1
abbrev ah_Dd (κ : ah_C) : ah_D := κ.2.2.2.2.2.2.2.2.2.2.1
/-- the walk goes on behind a call -/
theorem ah_on {p : Program} {l : Launch} {e : Env} {R : Room} {s : State} {m : MethodId} {args : Array Value} {below : List Frame} {meth : Method} {c : Code} {D : ah_D} {σ0 : ah_S} {res : Outcome × ah_S} {μ : ah_M} {len : Nat} {v v' : Option Value} {T U' : State} {vm₁ : Vm} {H : Heap} {locs l2 : List Loc} {c2 s2 : Nat} {ls : Array Slot} {st0 : List Value} {av : Array Value}
    (k : ah_G (p, l, e, R, s, m, args, below, meth, c, D, σ0, res) μ cc τ (pc + len) L (v.toList ++ rest)) (ok : ah_OK (p, l, e, R, s, m, args, below, meth, c, D, σ0, res) μ cc) (le : ah_Le σ0 σ) (hS : va_S (ah_A σ0) s.heap H locs) (hl : ah_lv ls μ.2.2.1 L) (hT : T.heap = H)
    (X' : Stand p l e R s m args below meth c U' l2 c2 s2) (hp : ah_Post D σ τ v (T.setVm vm₁, locs, ah_rc σ0 - ah_rc σ, ah_rs σ0 - ah_rs σ) av v' (U', l2, c2, s2))
    (st : ∀ target, Steps p.tables e below (U'.setTop { (F0 m pc ls st0) with pc := (F0 m pc ls st0).pc + len, stack := v'.toList ++ rest }) target → Steps p.tables e below (T.setTop (F0 m pc ls st0)) target) :
    ∃ t, Steps p.tables e below (T.setTop (F0 m pc ls st0)) t ∧ ah_MQ below D σ0 res s t := by
  obtain ⟨e1, h2, h3, h4, h5, h6, h7, LL, h8, h9⟩ := hp
  subst e1
  dsimp only [Pt.U, Pt.locs, Pt.cells, Pt.slots] at h2 h4 h5 h6 h7 h8
  subst h6; subst h7; subst h8
  have hheap : (T.setVm vm₁).heap = H := hT
  rw [hheap] at h4 h5
  have kk := k ok (le.trans h3) U'.heap (locs ++ LL) ls h2 ⟨Nat.le_trans hS.1 h4, fun q g1 g2 => by
      rw [h5 q (Nat.lt_of_lt_of_le g1 hS.1) (fun z => g2 (ah_A.mono le q z))]
      exact hS.2.1 q g1 g2, fun q hq => by
      rcases List.mem_append.mp hq with g | g
      · exact hS.2.2 q g
      · exact ah_A.mono le _ (h9 q g)⟩ hl
  unfold ah_W at kk
  dsimp only at kk
  have a1 : ah_rc σ ≤ ah_rc σ0 := le.2.1
  have a2 : ah_rs σ ≤ ah_rs σ0 := le.2.2.1
  have b1 : ah_rc τ ≤ ah_rc σ := h3.2.1
  have b2 : ah_rs τ ≤ ah_rs σ := h3.2.2.1
  rw [show ah_rc σ0 - ah_rc τ = ah_rc σ0 - ah_rc σ + (ah_rc σ - ah_rc τ) by omega, show ah_rs σ0 - ah_rs τ = ah_rs σ0 - ah_rs σ + (ah_rs σ - ah_rs τ) by omega] at kk
  obtain ⟨t, g1, g2⟩ := kk U' rfl X'
  exact ⟨t, st t g1, g2⟩
theorem ro_callS {idx maxL fr_ lo_ n : Nat} {y : MethodName} {bytes : ByteArray} {ret : Option FieldType} {As : List Value} {v : Option Value} (hq2 : Cond.static y ∈ lw_all) (hM : ah_Met (ah_la κ) y (Cond.code y bytes maxL ret) fr_ lo_ (ah_Dd κ) (As) σ (.returned v, τ)) (hq : Cond.methodLink own idx y ∈ lw_all) (hcode : Cond.code y bytes maxL ret ∈ lw_all) (hini : Cond.initialized y.cls ∈ lw_all)
    (hd0 : y.cls ≠ "java/lang/invoke/MethodHandle" ∧ y.cls ≠ "java/lang/invoke/VarHandle" ∧ (parseMethodDescriptor y.desc).map (fun d => d.parameters.length) = some n) (hn : As.length = n) (hR0 : fr_ + 1 ≤ μ.2.2.2.2.1 ∧ 8 + (maxL + 11) + lo_ ≤ μ.2.2.2.2.2) (hst : (rest.map fun v => v.category).sum ≤ 8)
    (hd : decode cc pc = .ok (.invokestatic idx, 3)) (hp : pc + 3 = pc') {st st' : List Value} (hsk : st = As.reverse ++ rest) (hsk' : v.toList ++ rest = st') (k : ah_G κ (own, μ) cc τ pc' L st') : ah_G κ (own, μ) cc σ pc L st := by
  subst hp
  subst hsk
  subst hsk'
  intro ok le H locs ls hH hS hl
  obtain ⟨p, l, e, R, s, m, args, below, meth, c, D, σ0, res⟩ := κ
  obtain ⟨nm, nL, ret, hh, fr, lo⟩ := μ
  obtain ⟨hx, hb, hml, hown, hts, hK, hr, hlk, hR, hsz, hnm, hex⟩ := id ok
  obtain ⟨hf1, hf2⟩ := hR0
  have hf1 : fr_ + 1 ≤ fr := hf1
  have hf2 : 8 + (maxL + 11) + lo_ ≤ lo := hf2
  have hB : Back l R p e below s args y 3 8 (ah_Pre D R σ (As)) (ah_Post D σ τ v) := ah_back hM (by rw [hR]; exact hf1) (by rw [hR]; exact hf2) hts hcode hini
  have hyy : y.cls ≠ "java/lang/invoke/MethodHandle" ∧ y.cls ≠ "java/lang/invoke/VarHandle" := ⟨hd0.1, hd0.2.1⟩
  intro T hT X
  have a1 : ah_rc σ ≤ ah_rc σ0 := le.2.1
  have a2 : ah_rs σ ≤ ah_rs σ0 := le.2.2.1
  have hRc : R.cells = ah_rc σ0 := by rw [hR]; rfl
  have hRs : R.slots = ah_rs σ0 := by rw [hR]; rfl
  obtain ⟨v', vm₁, ⟨U', l2, c2, s2⟩, hW₁, X', hpost, st⟩ := callS X hx hown (hts _ hq) (hts _ hq2) (hts _ hini) (hts _ hcode) hyy hB (g := F0 m pc ls (As.reverse ++ rest)) rfl (hl.1.trans hml.symm) (argsL := As) (rest := rest) (fun sig h => by
      have h2 := hd0.2.2
      rw [h] at h2
      exact hn.trans (Option.some.inj h2).symm) rfl (lv_room hst) (by rw [hb]; exact hd)
    (fun vm₁ hW₁ => ⟨by show ah_rc σ0 - ah_rc σ + ah_rc σ ≤ _; omega, by show ah_rs σ0 - ah_rs σ + ah_rs σ ≤ _; omega, rfl, by
      refine ⟨?_, ah_K.moved (s := s) (U := T.setVm vm₁) hW₁ hK⟩
      show ah_HH D σ T.heap
      rw [hT]; exact hH⟩)
  exact ah_on (len := 3) k ok le hS hl hT X' hpost st
theorem ro_callV {idx maxL fr_ lo_ n : Nat} {y : MethodName} {bytes : ByteArray} {ret : Option FieldType} {As : List Value} {v : Option Value} {r : Option Nat} {t : Nat} {u0 : Unit} (hr1 : 1 ≤ t ∧ t ≤ 22) (his : ah_is σ t r = some u0) (hq2 : Cond.instanceMethod y ∈ lw_all) (hq3 : Cond.selects (ah_nm t) y y ∈ lw_all) (hM : ah_Met (ah_la κ) y (Cond.code y bytes maxL ret) fr_ lo_ (ah_Dd κ) (va_rf r :: As) σ (.returned v, τ)) (hq : Cond.methodLink own idx y ∈ lw_all) (hcode : Cond.code y bytes maxL ret ∈ lw_all) (hini : Cond.initialized y.cls ∈ lw_all)
    (hd0 : y.cls ≠ "java/lang/invoke/MethodHandle" ∧ y.cls ≠ "java/lang/invoke/VarHandle" ∧ (parseMethodDescriptor y.desc).map (fun d => d.parameters.length) = some n) (hn : As.length = n) (hR0 : fr_ + 1 ≤ μ.2.2.2.2.1 ∧ 8 + (maxL + 11) + lo_ ≤ μ.2.2.2.2.2) (hst : (rest.map fun v => v.category).sum ≤ 8)
    (hd : decode cc pc = .ok (.invokevirtual idx, 3)) (hp : pc + 3 = pc') {st st' : List Value} (hsk : st = As.reverse ++ va_rf r :: rest) (hsk' : v.toList ++ rest = st') (k : ah_G κ (own, μ) cc τ pc' L st') : ah_G κ (own, μ) cc σ pc L st := by
  subst hp
  subst hsk
  subst hsk'
  obtain ⟨b, rfl, his⟩ := ah_bs his
  have htg : ah_tg σ b = t := (ah_ifs his).1
  intro ok le H locs ls hH hS hl
  obtain ⟨p, l, e, R, s, m, args, below, meth, c, D, σ0, res⟩ := κ
  obtain ⟨nm, nL, ret, hh, fr, lo⟩ := μ
  obtain ⟨hx, hb, hml, hown, hts, hK, hr, hlk, hR, hsz, hnm, hex⟩ := id ok
  obtain ⟨hf1, hf2⟩ := hR0
  have hf1 : fr_ + 1 ≤ fr := hf1
  have hf2 : 8 + (maxL + 11) + lo_ ≤ lo := hf2
  have hB : Back l R p e below s args y 3 8 (ah_Pre D R σ (.ref b :: As)) (ah_Post D σ τ v) := ah_back hM (by rw [hR]; exact hf1) (by rw [hR]; exact hf2) hts hcode hini
  have hyy : y.cls ≠ "java/lang/invoke/MethodHandle" ∧ y.cls ≠ "java/lang/invoke/VarHandle" := ⟨hd0.1, hd0.2.1⟩
  obtain ⟨cellB, hcB, hoB, hclB⟩ := ah_recv hH hK htg (Or.inl hr1)
  intro T hT X
  have a1 : ah_rc σ ≤ ah_rc σ0 := le.2.1
  have a2 : ah_rs σ ≤ ah_rs σ0 := le.2.2.1
  have hRc : R.cells = ah_rc σ0 := by rw [hR]; rfl
  have hRs : R.slots = ah_rs σ0 := by rw [hR]; rfl
  obtain ⟨v', vm₁, ⟨U', l2, c2, s2⟩, hW₁, X', hpost, st⟩ := callV X hx (C := ah_nm t) hown (hts _ hq) (hts _ hq2) (hts _ hq3) (hts _ hcode) hyy hB (by rw [hT]; exact hcB) hoB hclB (g := F0 m pc ls (As.reverse ++ .ref b :: rest)) rfl (hl.1.trans hml.symm) (argsL := As) (rest := rest) (fun sig h => by
      have h2 := hd0.2.2
      rw [h] at h2
      exact hn.trans (Option.some.inj h2).symm) rfl (lv_room hst) (by rw [hb]; exact hd)
    (fun vm₁ hW₁ => ⟨by show ah_rc σ0 - ah_rc σ + ah_rc σ ≤ _; omega, by show ah_rs σ0 - ah_rs σ + ah_rs σ ≤ _; omega, rfl, by
      refine ⟨?_, ah_K.moved (s := s) (U := T.setVm vm₁) hW₁ hK⟩
      show ah_HH D σ T.heap
      rw [hT]; exact hH⟩)
  exact ah_on (len := 3) k ok le hS hl hT X' hpost st
theorem ro_callI {idx maxL fr_ lo_ n : Nat} {y : MethodName} {bytes : ByteArray} {As : List Value} {v : Option Value} {r : Option Nat} {b : Nat} (hrb : r = some b) (hq2 : Cond.instanceMethod y ∈ lw_all) (hy1 : y.name = "<init>") (hM : ah_Met (ah_la κ) y (Cond.code y bytes maxL none) fr_ lo_ (ah_Dd κ) (va_rf r :: As) σ (.returned v, τ)) (hq : Cond.methodLink own idx y ∈ lw_all) (hcode : Cond.code y bytes maxL none ∈ lw_all) (hini : Cond.initialized y.cls ∈ lw_all)
    (hd0 : y.cls ≠ "java/lang/invoke/MethodHandle" ∧ y.cls ≠ "java/lang/invoke/VarHandle" ∧ (parseMethodDescriptor y.desc).map (fun d => d.parameters.length) = some n) (hn : As.length = n) (hR0 : fr_ + 1 ≤ μ.2.2.2.2.1 ∧ 8 + (maxL + 11) + lo_ ≤ μ.2.2.2.2.2) (hst : (rest.map fun v => v.category).sum ≤ 8)
    (hd : decode cc pc = .ok (.invokespecial idx, 3)) (hp : pc + 3 = pc') {st st' : List Value} (hsk : st = As.reverse ++ va_rf r :: rest) (hsk' : v.toList ++ rest = st') (k : ah_G κ (own, μ) cc τ pc' L st') : ah_G κ (own, μ) cc σ pc L st := by
  subst hp
  subst hsk
  subst hsk'
  subst hrb
  intro ok le H locs ls hH hS hl
  obtain ⟨p, l, e, R, s, m, args, below, meth, c, D, σ0, res⟩ := κ
  obtain ⟨nm, nL, ret, hh, fr, lo⟩ := μ
  obtain ⟨hx, hb, hml, hown, hts, hK, hr, hlk, hR, hsz, hnm, hex⟩ := id ok
  obtain ⟨hf1, hf2⟩ := hR0
  have hf1 : fr_ + 1 ≤ fr := hf1
  have hf2 : 8 + (maxL + 11) + lo_ ≤ lo := hf2
  have hB : Back l R p e below s args y 3 8 (ah_Pre D R σ (.ref b :: As)) (ah_Post D σ τ v) := ah_back hM (by rw [hR]; exact hf1) (by rw [hR]; exact hf2) hts hcode hini
  have hyy : y.cls ≠ "java/lang/invoke/MethodHandle" ∧ y.cls ≠ "java/lang/invoke/VarHandle" := ⟨hd0.1, hd0.2.1⟩
  intro T hT X
  have a1 : ah_rc σ ≤ ah_rc σ0 := le.2.1
  have a2 : ah_rs σ ≤ ah_rs σ0 := le.2.2.1
  have hRc : R.cells = ah_rc σ0 := by rw [hR]; rfl
  have hRs : R.slots = ah_rs σ0 := by rw [hR]; rfl
  obtain ⟨v', vm₁, ⟨U', l2, c2, s2⟩, hW₁, X', hpost, st⟩ := callI X hx hown hy1 (hts _ hq) (hts _ hq2) (hts _ hcode) hyy hB (g := F0 m pc ls (As.reverse ++ .ref b :: rest)) rfl (hl.1.trans hml.symm) (a := b) (argsL := As) (rest := rest) (fun sig h => by
      have h2 := hd0.2.2
      rw [h] at h2
      exact hn.trans (Option.some.inj h2).symm) rfl (lv_room hst) (by rw [hb]; exact hd)
    (fun vm₁ hW₁ => ⟨by show ah_rc σ0 - ah_rc σ + ah_rc σ ≤ _; omega, by show ah_rs σ0 - ah_rs σ + ah_rs σ ≤ _; omega, rfl, by
      refine ⟨?_, ah_K.moved (s := s) (U := T.setVm vm₁) hW₁ hK⟩
      show ah_HH D σ T.heap
      rw [hT]; exact hH⟩)
  exact ah_on (len := 3) k ok le hS hl hT X' hpost st
theorem ro_callSN {idx maxL fr_ lo_ n : Nat} {host : String} {y : MethodName} {bytes : ByteArray} {ret : Option FieldType} {As : List Value} {v : Option Value} (hq2 : Cond.static y ∈ lw_all) (hM : ah_Met (ah_la κ) y (Cond.code y bytes maxL ret) fr_ lo_ (ah_Dd κ) (As) σ (.returned v, τ)) (hq : Cond.methodLinkNest own idx y host ∈ ah_nw) (hcode : Cond.code y bytes maxL ret ∈ lw_all) (hini : Cond.initialized y.cls ∈ lw_all)
    (hd0 : y.cls ≠ "java/lang/invoke/MethodHandle" ∧ y.cls ≠ "java/lang/invoke/VarHandle" ∧ (parseMethodDescriptor y.desc).map (fun d => d.parameters.length) = some n) (hn : As.length = n) (hR0 : fr_ + 1 ≤ μ.2.2.2.2.1 ∧ 8 + (maxL + 11) + lo_ ≤ μ.2.2.2.2.2) (hst : (rest.map fun v => v.category).sum ≤ 8)
    (hd : decode cc pc = .ok (.invokestatic idx, 3)) (hp : pc + 3 = pc') {st st' : List Value} (hsk : st = As.reverse ++ rest) (hsk' : v.toList ++ rest = st') (k : ah_G κ (own, μ) cc τ pc' L st') : ah_G κ (own, μ) cc σ pc L st := by
  subst hp
  subst hsk
  subst hsk'
  intro ok le H locs ls hH hS hl
  obtain ⟨p, l, e, R, s, m, args, below, meth, c, D, σ0, res⟩ := κ
  obtain ⟨nm, nL, ret, hh, fr, lo⟩ := μ
  obtain ⟨hx, hb, hml, hown, hts, hK, hr, hlk, hR, hsz, hnm, hex⟩ := id ok
  obtain ⟨hf1, hf2⟩ := hR0
  have hf1 : fr_ + 1 ≤ fr := hf1
  have hf2 : 8 + (maxL + 11) + lo_ ≤ lo := hf2
  have hB : Back l R p e below s args y 3 8 (ah_Pre D R σ (As)) (ah_Post D σ τ v) := ah_back hM (by rw [hR]; exact hf1) (by rw [hR]; exact hf2) hts hcode hini
  have hyy : y.cls ≠ "java/lang/invoke/MethodHandle" ∧ y.cls ≠ "java/lang/invoke/VarHandle" := ⟨hd0.1, hd0.2.1⟩
  intro T hT X
  have a1 : ah_rc σ ≤ ah_rc σ0 := le.2.1
  have a2 : ah_rs σ ≤ ah_rs σ0 := le.2.2.1
  have hRc : R.cells = ah_rc σ0 := by rw [hR]; rfl
  have hRs : R.slots = ah_rs σ0 := by rw [hR]; rfl
  obtain ⟨v', vm₁, ⟨U', l2, c2, s2⟩, hW₁, X', hpost, st⟩ := va_callSN X hx hown (va_Nw.use rfl (hK.2.1 _ hq)) (hts _ hq2) (hts _ hini) (hts _ hcode) hyy hB (g := F0 m pc ls (As.reverse ++ rest)) rfl (hl.1.trans hml.symm) (argsL := As) (rest := rest) (fun sig h => by
      have h2 := hd0.2.2
      rw [h] at h2
      exact hn.trans (Option.some.inj h2).symm) rfl (lv_room hst) (by rw [hb]; exact hd)
    (fun vm₁ hW₁ => ⟨by show ah_rc σ0 - ah_rc σ + ah_rc σ ≤ _; omega, by show ah_rs σ0 - ah_rs σ + ah_rs σ ≤ _; omega, rfl, by
      refine ⟨?_, ah_K.moved (s := s) (U := T.setVm vm₁) hW₁ hK⟩
      show ah_HH D σ T.heap
      rw [hT]; exact hH⟩)
  exact ah_on (len := 3) k ok le hS hl hT X' hpost st
theorem ro_callVN {idx maxL fr_ lo_ n : Nat} {host : String} {y : MethodName} {bytes : ByteArray} {ret : Option FieldType} {As : List Value} {v : Option Value} {r : Option Nat} {t : Nat} {u0 : Unit} (hr1 : 1 ≤ t ∧ t ≤ 22) (his : ah_is σ t r = some u0) (hq2 : Cond.instanceMethod y ∈ lw_all) (hq3 : Cond.selects (ah_nm t) y y ∈ lw_all) (hM : ah_Met (ah_la κ) y (Cond.code y bytes maxL ret) fr_ lo_ (ah_Dd κ) (va_rf r :: As) σ (.returned v, τ)) (hq : Cond.methodLinkNest own idx y host ∈ ah_nw) (hcode : Cond.code y bytes maxL ret ∈ lw_all) (hini : Cond.initialized y.cls ∈ lw_all)
    (hd0 : y.cls ≠ "java/lang/invoke/MethodHandle" ∧ y.cls ≠ "java/lang/invoke/VarHandle" ∧ (parseMethodDescriptor y.desc).map (fun d => d.parameters.length) = some n) (hn : As.length = n) (hR0 : fr_ + 1 ≤ μ.2.2.2.2.1 ∧ 8 + (maxL + 11) + lo_ ≤ μ.2.2.2.2.2) (hst : (rest.map fun v => v.category).sum ≤ 8)
    (hd : decode cc pc = .ok (.invokevirtual idx, 3)) (hp : pc + 3 = pc') {st st' : List Value} (hsk : st = As.reverse ++ va_rf r :: rest) (hsk' : v.toList ++ rest = st') (k : ah_G κ (own, μ) cc τ pc' L st') : ah_G κ (own, μ) cc σ pc L st := by
  subst hp
  subst hsk
  subst hsk'
  obtain ⟨b, rfl, his⟩ := ah_bs his
  have htg : ah_tg σ b = t := (ah_ifs his).1
  intro ok le H locs ls hH hS hl
  obtain ⟨p, l, e, R, s, m, args, below, meth, c, D, σ0, res⟩ := κ
  obtain ⟨nm, nL, ret, hh, fr, lo⟩ := μ
  obtain ⟨hx, hb, hml, hown, hts, hK, hr, hlk, hR, hsz, hnm, hex⟩ := id ok
  obtain ⟨hf1, hf2⟩ := hR0
  have hf1 : fr_ + 1 ≤ fr := hf1
  have hf2 : 8 + (maxL + 11) + lo_ ≤ lo := hf2
  have hB : Back l R p e below s args y 3 8 (ah_Pre D R σ (.ref b :: As)) (ah_Post D σ τ v) := ah_back hM (by rw [hR]; exact hf1) (by rw [hR]; exact hf2) hts hcode hini
  have hyy : y.cls ≠ "java/lang/invoke/MethodHandle" ∧ y.cls ≠ "java/lang/invoke/VarHandle" := ⟨hd0.1, hd0.2.1⟩
  obtain ⟨cellB, hcB, hoB, hclB⟩ := ah_recv hH hK htg (Or.inl hr1)
  intro T hT X
  have a1 : ah_rc σ ≤ ah_rc σ0 := le.2.1
  have a2 : ah_rs σ ≤ ah_rs σ0 := le.2.2.1
  have hRc : R.cells = ah_rc σ0 := by rw [hR]; rfl
  have hRs : R.slots = ah_rs σ0 := by rw [hR]; rfl
  obtain ⟨v', vm₁, ⟨U', l2, c2, s2⟩, hW₁, X', hpost, st⟩ := va_callVN X hx (C := ah_nm t) hown (va_Nw.use rfl (hK.2.1 _ hq)) (hts _ hq2) (hts _ hq3) (hts _ hcode) hyy hB (by rw [hT]; exact hcB) hoB hclB (g := F0 m pc ls (As.reverse ++ .ref b :: rest)) rfl (hl.1.trans hml.symm) (argsL := As) (rest := rest) (fun sig h => by
      have h2 := hd0.2.2
      rw [h] at h2
      exact hn.trans (Option.some.inj h2).symm) rfl (lv_room hst) (by rw [hb]; exact hd)
    (fun vm₁ hW₁ => ⟨by show ah_rc σ0 - ah_rc σ + ah_rc σ ≤ _; omega, by show ah_rs σ0 - ah_rs σ + ah_rs σ ≤ _; omega, rfl, by
      refine ⟨?_, ah_K.moved (s := s) (U := T.setVm vm₁) hW₁ hK⟩
      show ah_HH D σ T.heap
      rw [hT]; exact hH⟩)
  exact ah_on (len := 3) k ok le hS hl hT X' hpost st
theorem ro_callIN {idx maxL fr_ lo_ n : Nat} {host : String} {y : MethodName} {bytes : ByteArray} {As : List Value} {v : Option Value} {r : Option Nat} {b : Nat} (hrb : r = some b) (hq2 : Cond.instanceMethod y ∈ lw_all) (hy1 : y.name = "<init>") (hM : ah_Met (ah_la κ) y (Cond.code y bytes maxL none) fr_ lo_ (ah_Dd κ) (va_rf r :: As) σ (.returned v, τ)) (hq : Cond.methodLinkNest own idx y host ∈ ah_nw) (hcode : Cond.code y bytes maxL none ∈ lw_all) (hini : Cond.initialized y.cls ∈ lw_all)
    (hd0 : y.cls ≠ "java/lang/invoke/MethodHandle" ∧ y.cls ≠ "java/lang/invoke/VarHandle" ∧ (parseMethodDescriptor y.desc).map (fun d => d.parameters.length) = some n) (hn : As.length = n) (hR0 : fr_ + 1 ≤ μ.2.2.2.2.1 ∧ 8 + (maxL + 11) + lo_ ≤ μ.2.2.2.2.2) (hst : (rest.map fun v => v.category).sum ≤ 8)
    (hd : decode cc pc = .ok (.invokespecial idx, 3)) (hp : pc + 3 = pc') {st st' : List Value} (hsk : st = As.reverse ++ va_rf r :: rest) (hsk' : v.toList ++ rest = st') (k : ah_G κ (own, μ) cc τ pc' L st') : ah_G κ (own, μ) cc σ pc L st := by
  subst hp
  subst hsk
  subst hsk'
  subst hrb
  intro ok le H locs ls hH hS hl
  obtain ⟨p, l, e, R, s, m, args, below, meth, c, D, σ0, res⟩ := κ
  obtain ⟨nm, nL, ret, hh, fr, lo⟩ := μ
  obtain ⟨hx, hb, hml, hown, hts, hK, hr, hlk, hR, hsz, hnm, hex⟩ := id ok
  obtain ⟨hf1, hf2⟩ := hR0
  have hf1 : fr_ + 1 ≤ fr := hf1
  have hf2 : 8 + (maxL + 11) + lo_ ≤ lo := hf2
  have hB : Back l R p e below s args y 3 8 (ah_Pre D R σ (.ref b :: As)) (ah_Post D σ τ v) := ah_back hM (by rw [hR]; exact hf1) (by rw [hR]; exact hf2) hts hcode hini
  have hyy : y.cls ≠ "java/lang/invoke/MethodHandle" ∧ y.cls ≠ "java/lang/invoke/VarHandle" := ⟨hd0.1, hd0.2.1⟩
  intro T hT X
  have a1 : ah_rc σ ≤ ah_rc σ0 := le.2.1
  have a2 : ah_rs σ ≤ ah_rs σ0 := le.2.2.1
  have hRc : R.cells = ah_rc σ0 := by rw [hR]; rfl
  have hRs : R.slots = ah_rs σ0 := by rw [hR]; rfl
  obtain ⟨v', vm₁, ⟨U', l2, c2, s2⟩, hW₁, X', hpost, st⟩ := va_callIN X hx hown hy1 (va_Nw.use rfl (hK.2.1 _ hq)) (hts _ hq2) (hts _ hcode) hyy hB (g := F0 m pc ls (As.reverse ++ .ref b :: rest)) rfl (hl.1.trans hml.symm) (a := b) (argsL := As) (rest := rest) (fun sig h => by
      have h2 := hd0.2.2
      rw [h] at h2
      exact hn.trans (Option.some.inj h2).symm) rfl (lv_room hst) (by rw [hb]; exact hd)
    (fun vm₁ hW₁ => ⟨by show ah_rc σ0 - ah_rc σ + ah_rc σ ≤ _; omega, by show ah_rs σ0 - ah_rs σ + ah_rs σ ≤ _; omega, rfl, by
      refine ⟨?_, ah_K.moved (s := s) (U := T.setVm vm₁) hW₁ hK⟩
      show ah_HH D σ T.heap
      rw [hT]; exact hH⟩)
  exact ah_on (len := 3) k ok le hS hl hT X' hpost st

end
theorem ah_HH.cpI {D : ah_D} {σ : ah_S} {H H1 : Heap} {a b sp dp n t : Nat} (h : ah_HH D σ H) (hta : ah_tg σ a = t) (ht : ah_tg σ b = t) (h101 : 101 ≤ t) (h104 : t ≠ 104) (h111 : ¬ 111 ≤ t) (hz : H1.size = H.size) (hq : ∀ q : Nat, q ≠ b → H1[q]? = H[q]?)
    (he : H1[b]? = some (vp_cell (D.2.2 t) (ah_ln σ b, .inl (va_cpy (ah_ai σ a) (ah_ai σ b) sp dp n)))) : ah_HH D (ah_cpI σ a sp b dp n) H1 := by
  have hne : ∀ c, c ≠ b → ah_ai (ah_cpI σ a sp b dp n) c = ah_ai σ c := by
    intro c e
    show va_up (ah_ai σ) b _ c = _
    simp [va_up, e]
  have hse : ah_ai (ah_cpI σ a sp b dp n) b = va_cpy (ah_ai σ a) (ah_ai σ b) sp dp n := by
    show va_up (ah_ai σ) b _ b = _
    simp [va_up]
  refine h.upd rfl rfl rfl (fun b e ci k => rfl) (fun b e t => ?_) (fun b e j => by rw [hne b e]) hz hq ⟨fun ci' r g1 g2 => ?_, fun t' g1 g2 => ?_, fun t' g1 g2 j => ?_, fun g => by
    exfalso
    have g' : ah_tg σ b = 2 ∨ ah_tg σ b = 4 := g
    omega⟩
  · unfold ah_av
    rw [hne b e]
    rfl
  · exfalso
    have h1 : ah_tg σ b = ci' + 1 := g1
    have h2 : ci' < ah_cl.length := (List.getElem?_eq_some_iff.mp g2).1
    have h3 : ah_cl.length = 22 := rfl
    omega
  · have h1 : ah_tg σ b = t' := g2
    have e : t' = t := h1.symm.trans ht
    subst e
    rw [he, ah_av_i h104 h111, hse]
    rfl
  · have h1 : ah_tg σ b = t' := g2
    have e : t' = t := h1.symm.trans ht
    subst e
    rw [hse]
    unfold va_cpy
    split
    · exact (h.2.2 a).2.2.1 t' g1 hta _
    · exact (h.2.2 b).2.2.1 t' g1 ht _
theorem ah_HH.cpL {D : ah_D} {σ : ah_S} {H H1 : Heap} {a b sp dp n : Nat} (h : ah_HH D σ H) (ht : ah_tg σ b = 104) (hz : H1.size = H.size) (hq : ∀ q : Nat, q ≠ b → H1[q]? = H[q]?)
    (he : H1[b]? = some (vp_cell (D.2.2 104) (ah_ln σ b, .inr (.inl (va_cpy (ah_al σ a) (ah_al σ b) sp dp n))))) : ah_HH D (ah_cpL σ a sp b dp n) H1 := by
  have hne : ∀ c, c ≠ b → ah_al (ah_cpL σ a sp b dp n) c = ah_al σ c := by
    intro c e
    show va_up (ah_al σ) b _ c = _
    simp [va_up, e]
  have hse : ah_al (ah_cpL σ a sp b dp n) b = va_cpy (ah_al σ a) (ah_al σ b) sp dp n := by
    show va_up (ah_al σ) b _ b = _
    simp [va_up]
  refine h.upd rfl rfl rfl (fun b e ci k => rfl) (fun b e t => ?_) (fun b e j => rfl) hz hq ⟨fun ci' r g1 g2 => ?_, fun t' g1 g2 => ?_, fun t' g1 g2 j => ?_, fun g => by
    exfalso
    have g' : ah_tg σ b = 2 ∨ ah_tg σ b = 4 := g
    omega⟩
  · unfold ah_av
    rw [hne b e]
    rfl
  · exfalso
    have h1 : ah_tg σ b = ci' + 1 := g1
    have h2 : ci' < ah_cl.length := (List.getElem?_eq_some_iff.mp g2).1
    have h3 : ah_cl.length = 22 := rfl
    omega
  · have h1 : ah_tg σ b = t' := g2
    have e : t' = 104 := h1.symm.trans ht
    subst e
    rw [he, ah_av_l, hse]
    rfl
  · exfalso
    have h1 : ah_tg σ b = t' := g2
    omega
theorem ah_nn (z : Int32) (hz : ¬ z < 0) : z.toInt = (z.toNatClampNeg : Int) := by
  have hz0 : (0 : Int) ≤ z.toInt := by
    have := Int32.not_lt.mp hz
    simpa using Int32.le_iff_toInt_le.mp this
  show z.toInt = ((z.toInt.toNat : Nat) : Int)
  omega
section
variable {κ : ah_C} {own : String} {μ : String × Nat × Option FieldType × List (Nat × Nat × Nat × Nat) × Nat × Nat} {cc : ByteArray} {σ τ : ah_S} {pc pc' : Nat} {L : List (Option Value)} {rest : List Value}
theorem ro_copy {idx : Nat} {ra rb : Option Nat} {sp dp n : Int32} (hq : Cond.methodLink own idx arraycopyName ∈ lw_all) (hq1 : Cond.native arraycopyName ∈ lw_all) (hq2 : Cond.static arraycopyName ∈ lw_all) (hq3 : Cond.initialized "java/lang/System" ∈ lw_all) (hfr : 1 ≤ μ.2.2.2.2.1) (hlo : (rest.map fun v => v.category).sum + (nativeFrameWords "java/lang/System" "arraycopy" 5 + 11) ≤ μ.2.2.2.2.2)
    (hd : decode cc pc = .ok (.invokestatic idx, 3)) (hp : pc + 3 = pc') (h : ah_cp σ ra sp rb dp n = some τ) (k : ah_G κ (own, μ) cc τ pc' L rest) : ah_G κ (own, μ) cc σ pc L (.int n :: .int dp :: va_rf rb :: .int sp :: va_rf ra :: rest) := by
  subst hp
  obtain ⟨a, rfl, h'⟩ := ah_bs h
  obtain ⟨b, rfl, h''⟩ := ah_bs h'
  obtain ⟨hc, rfl⟩ := ah_ifs h''
  simp only [Bool.and_eq_true, Bool.not_eq_true', decide_eq_false_iff_not, decide_eq_true_eq, beq_iff_eq] at hc
  obtain ⟨⟨⟨⟨⟨⟨⟨hab, t1⟩, t2⟩, h1⟩, h2⟩, h3⟩, h4⟩, h5⟩ := hc
  intro ok le H locs ls hH hS hl
  obtain ⟨p, l, e, R, s, m, args, below, meth, c, D, σ0, res⟩ := κ
  obtain ⟨nm, nL, ret, hh, fr, lo⟩ := μ
  obtain ⟨hx, hb, hml, hown, hts, hK, hr, hlk, hR, hsz, hnm, hex⟩ := id ok
  have hfr' : 1 ≤ fr := hfr
  have hlo' : (rest.map fun v => v.category).sum + (nativeFrameWords "java/lang/System" "arraycopy" 5 + 11) ≤ lo := hlo
  have hRf : R.frames = fr := by rw [hR]; rfl
  have hRl : R.locals = lo := by rw [hR]; rfl
  have kk := fun H1 locs1 hH1 hS1 => k ok (by split <;> exact le) H1 locs1 ls hH1 hS1 hl
  intro T hT X
  by_cases e104 : ah_tg σ a = 104
  · rw [if_pos e104] at kk
    have tb : ah_tg σ b = 104 := hab.symm.trans e104
    have hc0 := (hH.2.2 a).2.1 104 (by decide) e104
    have hc1 := (hH.2.2 b).2.1 104 (by decide) tb
    rw [ah_av_l] at hc0 hc1
    obtain ⟨-, k0, hk0, cm0, hkk0⟩ := (ah_tyOf hK (t := 104) (by decide)).1 (ah_ln σ a) (fun j => .long (ah_al σ a j))
    obtain ⟨-, k1, hk1, cm1, hkk1⟩ := (ah_tyOf hK (t := 104) (by decide)).1 (ah_ln σ b) (fun j => .long (ah_al σ b j))
    obtain ⟨vm', X', step⟩ := X.arraycopy hx hown (hts _ hq) (hts _ hq1) (hts _ hq2) (hts _ hq3) (src := a) (dst := b) (cs := vp_cell (D.2.2 104) (ah_ln σ a, .inr (.inl (ah_al σ a)))) (cd := vp_cell (D.2.2 104) (ah_ln σ b, .inr (.inl (ah_al σ b)))) (srcPos := sp) (destPos := dp) (n := n) (by rw [hT]; exact hc0) (by rw [hT]; exact hc1)
      (fun _ h => by cases h) (fun _ h => by cases h) (fun h => by cases h) (fun h => by cases h) hk0 hk1 hkk0 hkk1 (by simp [ah_aty, refKind]) h1 h2 h3
      (by rw [ah_nn sp h1, ah_nn n h3]; show ¬ _ > ((arrV _ (ah_ln σ a) (fun j => .long (ah_al σ a j))).slots.size : Int); rw [arrV_size]; omega)
      (by rw [ah_nn dp h2, ah_nn n h3]; show ¬ _ > ((arrV _ (ah_ln σ b) (fun j => .long (ah_al σ b j))).slots.size : Int); rw [arrV_size]; omega)
      (fun vm₁ _ i hi => by
        have e : (vp_cell (D.2.2 104) (ah_ln σ a, .inr (.inl (ah_al σ a)))).slots.getD (sp.toNatClampNeg + i) .null = .long (ah_al σ a (sp.toNatClampNeg + i)) := by
          show (arrV _ (ah_ln σ a) (fun j => .long (ah_al σ a j))).slots.getD _ _ = _
          rw [Array.getD_eq_getD_getElem?, arrV_read _ _ (by omega)]
          rfl
        refine ⟨?_, ?_⟩
        · rw [e]; rfl
        · rw [e]
          exact trivial)
      (g := F0 m pc ls (.int n :: .int dp :: .ref b :: .int sp :: .ref a :: rest)) rfl (hl.1.trans hml.symm) (rest := rest) rfl (by rw [hb]; exact hd) (by omega) (by show 2 * 0 + _ + _ ≤ _; omega)
    have e1 : copied (vp_cell (D.2.2 104) (ah_ln σ a, .inr (.inl (ah_al σ a)))) (vp_cell (D.2.2 104) (ah_ln σ b, .inr (.inl (ah_al σ b)))) sp dp n = vp_cell (D.2.2 104) (ah_ln σ b, .inr (.inl (va_cpy (ah_al σ a) (ah_al σ b) sp.toNatClampNeg dp.toNatClampNeg n.toNatClampNeg))) := va_copied (fun z => .long z) _ _ _ _ h4
    rw [e1] at X' step
    have hlb : b < T.heap.size := by rw [hT]; exact (Array.getElem?_eq_some_iff.mp hc1).1
    obtain ⟨t, g1, g2⟩ := kk _ _ (hH.cpL (H1 := ((T.setVm vm').setCell b (vp_cell (D.2.2 104) (ah_ln σ b, .inr (.inl (va_cpy (ah_al σ a) (ah_al σ b) sp.toNatClampNeg dp.toNatClampNeg n.toNatClampNeg))))).heap) tb (by rw [size_setCell, ← hT]; rfl) (fun q hq => by rw [heapAt_setCell_ne _ (Ne.symm hq), ← hT]; rfl) (heapAt_setCell_self _ hlb))
      ⟨by rw [size_setCell]; show _ ≤ T.heap.size; rw [hT]; exact hS.1, fun q g1 g2 => by
        rw [heapAt_setCell_ne _ (fun e => g2 (by rw [← e]; exact ah_Aof le (by omega)))]
        show T.heap[q]? = _
        rw [hT]
        exact hS.2.1 q g1 g2, fun q hq => by
        rcases List.mem_append.mp hq with h | h
        · exact hS.2.2 q h
        · obtain ⟨z, -, hz⟩ := List.mem_map.mp h
          rw [← hz]
          exact ah_Aof (a := b) le (by omega)⟩ _ rfl X'
    exact ⟨t, step t g1, g2⟩
  · rw [if_neg e104] at kk
    generalize ht : ah_tg σ a = t at *
    have tb : ah_tg σ b = t := hab.symm
    have hc0 := (hH.2.2 a).2.1 t t1 ht
    have hc1 := (hH.2.2 b).2.1 t t1 tb
    rw [ah_av_i e104 (by omega)] at hc0 hc1
    have hm : t ∈ ah_tags := by rcases (show t = 101 ∨ t = 102 ∨ t = 103 ∨ t = 105 by omega) with rfl | rfl | rfl | rfl <;> decide
    obtain ⟨-, k0, hk0, cm0, hkk0⟩ := (ah_tyOf hK hm).1 (ah_ln σ a) (fun j => .int (ah_ai σ a j))
    obtain ⟨-, k1, hk1, cm1, hkk1⟩ := (ah_tyOf hK hm).1 (ah_ln σ b) (fun j => .int (ah_ai σ b j))
    have hprim : refKind (ah_aty t) = false := by rcases (show t = 101 ∨ t = 102 ∨ t = 103 ∨ t = 105 by omega) with rfl | rfl | rfl | rfl <;> rfl
    obtain ⟨vm', X', step⟩ := X.arraycopy hx hown (hts _ hq) (hts _ hq1) (hts _ hq2) (hts _ hq3) (src := a) (dst := b) (cs := vp_cell (D.2.2 t) (ah_ln σ a, .inl (ah_ai σ a))) (cd := vp_cell (D.2.2 t) (ah_ln σ b, .inl (ah_ai σ b))) (srcPos := sp) (destPos := dp) (n := n) (by rw [hT]; exact hc0) (by rw [hT]; exact hc1)
      (fun _ h => by cases h) (fun _ h => by cases h) (fun h => by cases h) (fun h => by cases h) hk0 hk1 hkk0 hkk1 (by simp [hprim]) h1 h2 h3
      (by rw [ah_nn sp h1, ah_nn n h3]; show ¬ _ > ((arrV _ (ah_ln σ a) (fun j => .int (ah_ai σ a j))).slots.size : Int); rw [arrV_size]; omega)
      (by rw [ah_nn dp h2, ah_nn n h3]; show ¬ _ > ((arrV _ (ah_ln σ b) (fun j => .int (ah_ai σ b j))).slots.size : Int); rw [arrV_size]; omega)
      (fun vm₁ _ i hi => by
        have e : (vp_cell (D.2.2 t) (ah_ln σ a, .inl (ah_ai σ a))).slots.getD (sp.toNatClampNeg + i) .null = .int (ah_ai σ a (sp.toNatClampNeg + i)) := by
          show (arrV _ (ah_ln σ a) (fun j => .int (ah_ai σ a j))).slots.getD _ _ = _
          rw [Array.getD_eq_getD_getElem?, arrV_read _ _ (by omega)]
          rfl
        refine ⟨?_, ?_⟩
        · rw [e]
          by_cases e101 : t = 101
          · subst e101; rfl
          · exact (hH.2.2 a).2.2.1 t (by omega) ht _
        · rw [e]
          exact trivial)
      (g := F0 m pc ls (.int n :: .int dp :: .ref b :: .int sp :: .ref a :: rest)) rfl (hl.1.trans hml.symm) (rest := rest) rfl (by rw [hb]; exact hd) (by omega) (by show 2 * 0 + _ + _ ≤ _; omega)
    have e1 : copied (vp_cell (D.2.2 t) (ah_ln σ a, .inl (ah_ai σ a))) (vp_cell (D.2.2 t) (ah_ln σ b, .inl (ah_ai σ b))) sp dp n = vp_cell (D.2.2 t) (ah_ln σ b, .inl (va_cpy (ah_ai σ a) (ah_ai σ b) sp.toNatClampNeg dp.toNatClampNeg n.toNatClampNeg)) := va_copied (fun z => .int z) _ _ _ _ h4
    rw [e1] at X' step
    have hlb : b < T.heap.size := by rw [hT]; exact (Array.getElem?_eq_some_iff.mp hc1).1
    obtain ⟨t', g1, g2⟩ := kk _ _ (hH.cpI (H1 := ((T.setVm vm').setCell b (vp_cell (D.2.2 t) (ah_ln σ b, .inl (va_cpy (ah_ai σ a) (ah_ai σ b) sp.toNatClampNeg dp.toNatClampNeg n.toNatClampNeg)))).heap) ht tb t1 e104 (by omega) (by rw [size_setCell, ← hT]; rfl) (fun q hq => by rw [heapAt_setCell_ne _ (Ne.symm hq), ← hT]; rfl) (heapAt_setCell_self _ hlb))
      ⟨by rw [size_setCell]; show _ ≤ T.heap.size; rw [hT]; exact hS.1, fun q g1 g2 => by
        rw [heapAt_setCell_ne _ (fun e => g2 (by rw [← e]; exact ah_Aof le (by omega)))]
        show T.heap[q]? = _
        rw [hT]
        exact hS.2.1 q g1 g2, fun q hq => by
        rcases List.mem_append.mp hq with h | h
        · exact hS.2.2 q h
        · obtain ⟨z, -, hz⟩ := List.mem_map.mp h
          rw [← hz]
          exact ah_Aof (a := b) le (by omega)⟩ _ rfl X'
    exact ⟨t', step t' g1, g2⟩
end
section
variable {κ : ah_C} {own : String} {μ : String × Nat × Option FieldType × List (Nat × Nat × Nat × Nat) × Nat × Nat} {cc : ByteArray} {σ : ah_S} {pc pc' : Nat} {L : List (Option Value)} {rest : List Value}
theorem ro_mmax {idx : Nat} {x y : Int32} (hq : Cond.methodLink own idx Lib.Math.max.name ∈ lw_all) (hfr : 1 ≤ μ.2.2.2.2.1) (hlo : (rest.map fun v => v.category).sum + 13 ≤ μ.2.2.2.2.2) (hd : decode cc pc = .ok (.invokestatic idx, 3)) (hp : pc + 3 = pc') (k : ah_G κ (own, μ) cc σ pc' L (.int (if x < y then y else x) :: rest)) : ah_G κ (own, μ) cc σ pc L (.int y :: .int x :: rest) := by
  subst hp
  intro ok le H locs ls hH hS hl
  obtain ⟨p, l, e, R, s, m, args, below, meth, c, D, σ0, res⟩ := κ
  obtain ⟨nm, nL, ret, hh, fr, lo⟩ := μ
  obtain ⟨hx, hb, hml, hown, hts, hK, hr, hlk, hR, hsz, hnm, hex⟩ := id ok
  have hfr' : 1 ≤ fr := hfr
  have hlo' : (rest.map fun v => v.category).sum + 13 ≤ lo := hlo
  have hRf : R.frames = fr := by rw [hR]; rfl
  have hRl : R.locals = lo := by rw [hR]; rfl
  have hRc : R.cells = ah_rc σ0 := by rw [hR]; rfl
  have hRs : R.slots = ah_rs σ0 := by rw [hR]; rfl
  exact va_mmax hx hb (hml.trans hl.1.symm) hown (hts _ hq) (hts _ q714) (hts _ q112) (hts _ q715) (by omega) (by omega) (by omega) (by omega) hd (k ok le H locs ls hH hS hl)
theorem ro_mmin {idx : Nat} {x y : Int32} (hq : Cond.methodLink own idx Lib.Math.min.name ∈ lw_all) (hfr : 1 ≤ μ.2.2.2.2.1) (hlo : (rest.map fun v => v.category).sum + 13 ≤ μ.2.2.2.2.2) (hd : decode cc pc = .ok (.invokestatic idx, 3)) (hp : pc + 3 = pc') (k : ah_G κ (own, μ) cc σ pc' L (.int (if y < x then y else x) :: rest)) : ah_G κ (own, μ) cc σ pc L (.int y :: .int x :: rest) := by
  subst hp
  intro ok le H locs ls hH hS hl
  obtain ⟨p, l, e, R, s, m, args, below, meth, c, D, σ0, res⟩ := κ
  obtain ⟨nm, nL, ret, hh, fr, lo⟩ := μ
  obtain ⟨hx, hb, hml, hown, hts, hK, hr, hlk, hR, hsz, hnm, hex⟩ := id ok
  have hfr' : 1 ≤ fr := hfr
  have hlo' : (rest.map fun v => v.category).sum + 13 ≤ lo := hlo
  have hRf : R.frames = fr := by rw [hR]; rfl
  have hRl : R.locals = lo := by rw [hR]; rfl
  have hRc : R.cells = ah_rc σ0 := by rw [hR]; rfl
  have hRs : R.slots = ah_rs σ0 := by rw [hR]; rfl
  exact va_mmin hx hb (hml.trans hl.1.symm) hown (hts _ hq) (hts _ q666) (hts _ q112) (hts _ q667) (by omega) (by omega) (by omega) (by omega) hd (k ok le H locs ls hH hS hl)
end
