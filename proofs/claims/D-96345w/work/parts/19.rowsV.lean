/-! ===== rows: calls that are dispatched on the receiver's class ===== -/
/-- a call of x on r goes to a method whose contract is known -/
def ah_VM (l : Launch) (x : MethodName) (ret : Option FieldType) (mL fr lo : Nat) (D : ah_D) (r : Option Nat) (As : List Value) (σ : ah_S) (o : Option Value) (τ : ah_S) : Prop :=
  ∃ (t : Nat) (y : MethodName) (bytes : ByteArray) (maxL : Nat), ah_is σ t r = some () ∧ (1 ≤ t ∧ t ≤ 22) ∧ Cond.selects (ah_nm t) x y ∈ lw_all ∧ Cond.instanceMethod y ∈ lw_all ∧ Cond.code y bytes maxL ret ∈ lw_all ∧ Cond.initialized y.cls ∈ lw_all ∧ maxL ≤ mL ∧
    ah_Met l y (Cond.code y bytes maxL ret) fr lo D (va_rf r :: As) σ (.returned o, τ)
theorem ah_is_of {σ : ah_S} {t a : Nat} (h : ah_tg σ a = t) : ah_is σ t (some a) = some () := by
  show (if ah_tg σ a = t then some () else none) = some ()
  rw [if_pos h]
section
variable {κ : ah_C} {own : String} {μ : String × Nat × Option FieldType × List (Nat × Nat × Nat × Nat) × Nat × Nat} {cc : ByteArray} {σ τ : ah_S} {pc pc' : Nat} {L : List (Option Value)} {rest : List Value}
theorem ro_callVU {idx mL fr_ lo_ n : Nat} {x : MethodName} {owner : String} {ret : Option FieldType} {As : List Value} {v : Option Value} {r : Option Nat} (hM : ah_VM (ah_la κ) x ret mL fr_ lo_ (ah_Dd κ) r As σ v τ) (hq : Cond.methodLink own idx x ∈ lw_all) (hsame : Cond.sameMethod x.cls owner x.name x.desc ∈ lw_all) (hdc : Cond.declares ⟨owner, x.name, x.desc⟩ ∈ ah_nw)
    (hd0 : owner ≠ "java/lang/invoke/MethodHandle" ∧ owner ≠ "java/lang/invoke/VarHandle" ∧ (parseMethodDescriptor x.desc).map (fun d => d.parameters.length) = some n) (hn : As.length = n) (hR0 : fr_ + 1 ≤ μ.2.2.2.2.1 ∧ 8 + (mL + 11) + lo_ ≤ μ.2.2.2.2.2) (hst : (rest.map fun v => v.category).sum ≤ 8)
    (hd : decode cc pc = .ok (.invokevirtual idx, 3)) (hp : pc + 3 = pc') {st st' : List Value} (hsk : st = As.reverse ++ va_rf r :: rest) (hsk' : v.toList ++ rest = st') (k : ah_G κ (own, μ) cc τ pc' L st') : ah_G κ (own, μ) cc σ pc L st := by
  subst hp
  subst hsk
  subst hsk'
  obtain ⟨t, y, bytes, maxL, his, hr1, hq3, hq2, hcode, hini, hmL, hM⟩ := hM
  obtain ⟨b, rfl, his⟩ := ah_bs his
  have htg : ah_tg σ b = t := (ah_ifs his).1
  intro ok le H locs ls hH hS hl
  obtain ⟨p, l, e, R, s, m, args, below, meth, c, D, σ0, res⟩ := κ
  obtain ⟨nm, nL, ret, hh, fr, lo⟩ := μ
  obtain ⟨hx, hb, hml, hown, hts, hK, hr, hlk, hR, hsz, hnm, hex⟩ := id ok
  obtain ⟨hf1, hf2⟩ := hR0
  have hf1 : fr_ + 1 ≤ fr := hf1
  have hf2 : 8 + (mL + 11) + lo_ ≤ lo := hf2
  have hB : Back l R p e below s args y 3 8 (ah_Pre D R σ (.ref b :: As)) (ah_Post D σ τ v) := ah_back hM (by rw [hR]; exact hf1) (by rw [hR]; show 8 + (maxL + 11) + lo_ ≤ lo; omega) hts hcode hini
  obtain ⟨cellB, hcB, hoB, hclB⟩ := ah_recv hH hK htg (Or.inl hr1)
  intro T hT X
  have a1 : ah_rc σ ≤ ah_rc σ0 := le.2.1
  have a2 : ah_rs σ ≤ ah_rs σ0 := le.2.2.1
  have hRc : R.cells = ah_rc σ0 := by rw [hR]; rfl
  have hRs : R.slots = ah_rs σ0 := by rw [hR]; rfl
  obtain ⟨v', vm₁, ⟨U', l2, c2, s2⟩, hW₁, X', hpost, st⟩ := va_callVU X hx (C := ah_nm t) hown (hts _ hq) (hts _ hsame) (va_Decl.abs (hK.2.1 _ hdc)) ⟨hd0.1, hd0.2.1⟩ (hts _ hq3) (hts _ hq2) (hts _ hcode) hB (by rw [hT]; exact hcB) hoB hclB (g := F0 m pc ls (As.reverse ++ .ref b :: rest)) rfl (hl.1.trans hml.symm) (argsL := As) (rest := rest) (fun sig h => by
      have h2 := hd0.2.2
      rw [h] at h2
      exact hn.trans (Option.some.inj h2).symm) rfl (lv_room hst) (by rw [hb]; exact hd)
    (fun vm₁ hW₁ => ⟨by show ah_rc σ0 - ah_rc σ + ah_rc σ ≤ _; omega, by show ah_rs σ0 - ah_rs σ + ah_rs σ ≤ _; omega, rfl, by
      refine ⟨?_, ah_K.moved (s := s) (U := T.setVm vm₁) hW₁ hK⟩
      show ah_HH D σ T.heap
      rw [hT]; exact hH⟩)
  exact ah_on (len := 3) k ok le hS hl hT X' hpost st
end
