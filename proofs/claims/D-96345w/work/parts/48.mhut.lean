/-! ===== the model's night ===== -/
theorem nu_lem1 {x : Int32} {G : Nat} (hG : G < 2147483648) : x ≤ Int32.ofNat G - 1 ↔ x < Int32.ofNat G := by
  rw [nu_le, nu_lt, nu_sub, nu_of hG]
  · have : (1 : Int32).toInt = 1 := rfl
    omega
  · rw [nu_of hG]
    have : (1 : Int32).toInt = 1 := rfl
    omega
  · rw [nu_of hG]
    have : (1 : Int32).toInt = 1 := rfl
    omega
theorem nu_m1 {n : Nat} : Int32.ofNat (n + 1) + (-1 : Int32) = Int32.ofNat n := by
  rw [← Int32.sub_eq_add_neg]
  exact nu_s1
theorem nu_divm (a : Int32) : a / (-1) = -a := by
  apply Int32.toInt_inj.mp
  rw [Int32.toInt_div, show (-1 : Int32).toInt = -1 from rfl, Int.tdiv_neg, Int.tdiv_one, Int32.toInt_neg]
theorem fm_two {σ : ah_S} {s a c : Int32} (hs : s = 37 ∨ s = 38 ∨ s = 42 ∨ s = 43 ∨ s = 45 ∨ s = 47 ∨ s = 60 ∨ s = 61 ∨ s = 62 ∨ s = 124) : F_X6_twoOf σ s a c = some (sp_op s a c, σ) := by
  have hm : a - a / (-1) * (-1) = 0 := by
    rw [nu_divm, Int32.neg_mul_neg, Int32.mul_one, Int32.sub_self]
  rcases hs with rfl | rfl | rfl | rfl | rfl | rfl | rfl | rfl | rfl | rfl
  · show (if c = 0 then some ((0 : Int32), σ) else if c = -1 then some ((0 : Int32), σ) else (ah_re a c).bind fun q1 => some (q1, σ)) = some (if c = 0 then 0 else a - a / c * c, σ)
    by_cases h : c = 0
    · rw [if_pos h, if_pos h]
    · rw [if_neg h, if_neg h]
      by_cases h2 : c = -1
      · rw [if_pos h2, h2, hm]
      · rw [if_neg h2]
        unfold ah_re
        rw [if_neg h]; rfl
  · show (if a = 0 then some ((0 : Int32), σ) else if c = 0 then some ((0 : Int32), σ) else some ((1 : Int32), σ)) = some (if a = 0 then 0 else if c = 0 then 0 else 1, σ)
    split
    · rfl
    · split <;> rfl
  · rfl
  · rfl
  · rfl
  · show (if c = 0 then some ((0 : Int32), σ) else if c = -1 then some (-a, σ) else (ah_di a c).bind fun q1 => some (q1, σ)) = some (if c = 0 then 0 else a / c, σ)
    by_cases h : c = 0
    · rw [if_pos h, if_pos h]
    · rw [if_neg h, if_neg h]
      by_cases h2 : c = -1
      · rw [if_pos h2, h2, nu_divm]
      · rw [if_neg h2]
        unfold ah_di
        rw [if_neg h]; rfl
  · show (if c ≤ a then some ((0 : Int32), σ) else some ((1 : Int32), σ)) = some (if c ≤ a then 0 else 1, σ)
    split <;> rfl
  · show (if a = c then some ((1 : Int32), σ) else some ((0 : Int32), σ)) = some (if a = c then 1 else 0, σ)
    split <;> rfl
  · show (if a ≤ c then some ((0 : Int32), σ) else some ((1 : Int32), σ)) = some (if a ≤ c then 0 else 1, σ)
    split <;> rfl
  · show (if a = 0 then (if c = 0 then some ((0 : Int32), σ) else some ((1 : Int32), σ)) else some ((1 : Int32), σ)) = some (if a = 0 then (if c = 0 then 0 else 1) else 1, σ)
    split
    · split <;> rfl
    · rfl
theorem fm_run {b e : Nat} {A W N : Nat → Int32} (he : e ≤ 130) : ∀ j k p n q n' τ m, sk_ok τ b → (∀ i, ah_ai τ (b + 136) i = A i) → (∀ i, ah_ai τ (b + 137) i = W i) → (∀ i, i < 6 → ah_ai τ (b + 141) i = N i) → (∀ i, i < n → ah_ai τ (b + 142) i = p i) → n ≤ 130 → k + j = e → j < m → 1 ≤ n' → ex_rn A W N j k p n = some (q, n') → pu_ok (F_X6_worked_12 m τ (some (b + 123)) 0 (Int32.ofNat e) (Int32.ofNat n) (Int32.ofNat k)) (fun r => r.1 = q 0 ∧ ag_ b [54] τ r.2) := by
  intro j
  induction j with
  | zero =>
    intro k p n q n' τ m s0 hA hW hN hp hn hk hm hn' hx
    obtain ⟨m, rfl⟩ : ∃ z, m = z + 1 := ⟨m - 1, by omega⟩
    have hx : some (p, n) = some (q, n') := hx
    cases hx
    show pu_ok (if ((130 : Int32) * 0) + Int32.ofNat e ≤ Int32.ofNat k then _ else _) _
    rw [if_pos (by rw [Int32.mul_zero, Int32.zero_add, nu_ofle (by omega) (by omega)]; omega)]
    simp only [sg_630 s0, pu_bs]
    rw [show ah_lA τ 101 (some (b + 142)) 0 = some (ah_ai τ (b + 142) 0) from al_142 (j := 0) s0 (by decide), pu_bs]
    exact pu_ret ⟨hp 0 (by omega), ag_rf _ s0⟩
  | succ j ih =>
    intro k p n q n' τ m s0 hA hW hN hp hn hk hm hn' hx
    obtain ⟨m, rfl⟩ : ∃ z, m = z + 1 := ⟨m - 1, by omega⟩
    obtain ⟨⟨p1, n1⟩, hx1, hx2⟩ := ah_bs (o := ex_st A W N k p n) hx
    have hn1 : n1 ≤ 130 := by
      unfold ex_st at hx1
      repeat' split at hx1
      all_goals first
        | cases hx1; done
        | (cases hx1; omega)
    have next : ∀ i v, i < 130 → (∀ l, l < n1 → (if l = i then v else ah_ai τ (b + 142) l) = p1 l) → pu_ok (F_X6_worked_12 m (ah_sA τ (b + 142) i v) (some (b + 123)) 0 (Int32.ofNat e) (Int32.ofNat n1) (Int32.ofNat (k + 1))) (fun r => r.1 = q 0 ∧ ag_ b [54] τ r.2) := by
      intro i v hi hv
      have hag : ag_ b [54] τ (ah_sA τ (b + 142) i v) := ag_wA (ag_rf _ s0) (fun _ => lb_sc (by decide) rfl (by decide))
      refine pu_mono (ih (k + 1) p1 n1 q n' (ah_sA τ (b + 142) i v) m s0 (fun l => ?_) (fun l => ?_) (fun l hl => ?_) (fun l hl => ?_) hn1 (by omega) (by omega) hn' hx2) (fun r hr => ⟨hr.1, ag_tr hag hr.2⟩)
      · rw [rw_ai_sA, if_neg (by omega)]; exact hA l
      · rw [rw_ai_sA, if_neg (by omega)]; exact hW l
      · rw [rw_ai_sA, if_neg (by omega)]; exact hN l hl
      · rw [rw_ai_sA, if_pos rfl]; exact hv l hl
    show pu_ok (if ((130 : Int32) * 0) + Int32.ofNat e ≤ Int32.ofNat k then _ else _) _
    rw [if_neg (by rw [Int32.mul_zero, Int32.zero_add, nu_ofle (by omega) (by omega)]; omega)]
    simp only [sg_624 s0, pu_bs, al_136 s0 (show k < 260 by omega), hA k]
    unfold ex_st at hx1
    by_cases c1 : A k = 1
    · rw [if_pos c1] at hx1 ⊢
      split at hx1
      · cases hx1
        unfold F_X6_worked_45
        simp only [if_pos c1, sg_630 s0, sg_625 s0, pu_bs, al_137 s0 (show k < 260 by omega), hW k, aw_142 s0 (show n < 130 by omega), nl_ar_1]
        exact next n _ (by omega) (fun l hl => by
          show _ = (if l = n then W k else p l)
          by_cases z : l = n
          · rw [if_pos z, if_pos z]
          · rw [if_neg z, if_neg z]; exact hp l (by omega))
      · cases hx1
    rw [if_neg c1] at hx1 ⊢
    by_cases c2 : A k = 2
    · rw [if_pos c2] at hx1 ⊢
      split at hx1
      · rename_i hc
        cases hx1
        obtain ⟨w, hw, hw6⟩ := nu_natl (m := 6) hc.2.1 (by decide) hc.2.2
        unfold F_X6_worked_45
        simp only [if_neg c1, sg_630 s0, sg_629 s0, sg_625 s0, pu_bs, al_137 s0 (show k < 260 by omega), hW k, hw, al_141 s0 hw6, hN w hw6, aw_142 s0 (show n < 130 by omega), nl_ar_1]
        refine next n _ (by omega) (fun l hl => ?_)
        rw [hw, nu_cl (by omega)]
        show _ = (if l = n then N w else p l)
        by_cases z : l = n
        · rw [if_pos z, if_pos z]
        · rw [if_neg z, if_neg z]; exact hp l (by omega)
      · cases hx1
    rw [if_neg c2] at hx1 ⊢
    by_cases c3 : A k = 3
    · rw [if_pos c3] at hx1 ⊢
      split at hx1
      · cases hx1
        obtain ⟨n, rfl⟩ : ∃ z, n = z + 1 := ⟨n - 1, by omega⟩
        simp only [sg_630 s0, pu_bs, nu_s1, al_142 s0 (show n < 130 by omega), hp n (by omega), nl_ar_1]
        have fin : ∀ v, v = (if p n = 0 then (1 : Int32) else 0) → pu_ok (F_X6_worked_12 m (ah_sA τ (b + 142) n v) (some (b + 123)) 0 (Int32.ofNat e) (Int32.ofNat (n + 1)) (Int32.ofNat (k + 1))) (fun r => r.1 = q 0 ∧ ag_ b [54] τ r.2) := fun v hv => by
          refine next n _ (by omega) (fun l hl => ?_)
          show _ = (if l = n then (if p n = 0 then (1 : Int32) else 0) else p l)
          by_cases z : l = n
          · rw [if_pos z, if_pos z, hv]
          · rw [if_neg z, if_neg z]; exact hp l (by omega)
        by_cases z : p n = 0
        · rw [if_pos z, aw_142 s0 (show n < 130 by omega), pu_bs]
          exact fin 1 (by rw [if_pos z])
        · rw [if_neg z, aw_142 s0 (show n < 130 by omega), pu_bs]
          exact fin 0 (by rw [if_neg z])
      · cases hx1
    rw [if_neg c3] at hx1 ⊢
    by_cases c4 : A k = 4
    · rw [if_pos c4] at hx1 ⊢
      split at hx1
      · cases hx1
        obtain ⟨n, rfl⟩ : ∃ z, n = z + 1 := ⟨n - 1, by omega⟩
        simp only [sg_630 s0, pu_bs, nu_s1, al_142 s0 (show n < 130 by omega), hp n (by omega), nl_ar_1, aw_142 s0 (show n < 130 by omega)]
        refine next n _ (by omega) (fun l hl => ?_)
        show _ = (if l = n then (-(p n)) else p l)
        by_cases z : l = n
        · rw [if_pos z, if_pos z]
        · rw [if_neg z, if_neg z]; exact hp l (by omega)
      · cases hx1
    rw [if_neg c4] at hx1 ⊢
    split at hx1
    · rename_i hc
      cases hx1
      obtain ⟨n, rfl⟩ : ∃ z, n = z + 1 + 1 := ⟨n - 2, by omega⟩
      simp only [sg_630 s0, pu_bs, nu_m1, nu_s1, al_142 s0 (show n < 130 by omega), al_142 s0 (show n + 1 < 130 by omega), hp n (by omega), hp (n + 1) (by omega), fm_two hc.2, pu_b2s, nl_ar_1, aw_142 s0 (show n < 130 by omega)]
      refine next n _ (by omega) (fun l hl => ?_)
      show _ = (if l = n then sp_op (A k) (p n) (p (n + 1)) else p l)
      by_cases z : l = n
      · rw [if_pos z, if_pos z]
      · rw [if_neg z, if_neg z]
        have hl : l < n + 1 := hl
        exact hp l (by omega)
    · cases hx1
theorem fm_work {b i j : Nat} {f : (Nat → Int32) → Int32} {N : Nat → Int32} {τ : ah_S} (s0 : sk_ok τ b) (hN : ∀ i, i < 6 → ah_ai τ (b + 141) i = N i) (hj : j ≤ 130) (H : mc_ (ah_ai τ (b + 136)) (ah_ai τ (b + 137)) i j f) : pu_ok (F_X6_worked τ (some (b + 123)) 0 (Int32.ofNat i) (Int32.ofNat j)) (fun r => r.1 = f N ∧ ag_ b [54] τ r.2) := by
  obtain ⟨hij, H⟩ := H
  obtain ⟨q, e1, e2, -⟩ := H N (fun _ => 0) 0 (by omega)
  unfold F_X6_worked
  rw [Int32.mul_zero, Int32.zero_add]
  refine pu_mono (fm_run hj (j - i) i (fun _ => 0) 0 q 1 τ 1000 s0 (fun _ => rfl) (fun _ => rfl) hN (fun l hl => absurd hl (Nat.not_lt_zero _)) (by omega) (by omega) (by omega) (by omega) e1) (fun r hr => ⟨hr.1.trans e2, hr.2⟩)
theorem fm_gives {b : Nat} {N : Nat → Int32} {A W T E : Nat → Int32} : ∀ n l s f m τ, sk_ok τ b → (∀ i, i < 6 → ah_ai τ (b + 141) i = N i) → ah_ai τ (b + 136) = A → ah_ai τ (b + 137) = W → ah_ai τ (b + 139) = T → ah_ai τ (b + 140) = E → ah_ai τ (b + 138) 0 = Int32.ofNat (l + n) → l + n ≤ 61 → n < m → mg_ A W T E n l s f → pu_ok (F_X6_gives_7 m τ (some (b + 123)) 0 (Int32.ofNat s) (Int32.ofNat l)) (fun r => r.1 = f N ∧ ag_ b [54] τ r.2) := by
  intro n
  induction n with
  | zero =>
    intro l s f m τ s0 hN hA hW hT hE h8 hl hm H
    obtain ⟨m, rfl⟩ : ∃ z, m = z + 1 := ⟨m - 1, by omega⟩
    have H : f = fun _ => 0 := H
    unfold F_X6_gives_7
    simp only [sg_626 s0, pu_bs, al_138_0 s0, h8, Int32.mul_zero, Int32.zero_add]
    rw [if_pos (by rw [nu_ofle (by omega) (by omega)]; omega)]
    exact pu_ret ⟨by rw [H], ag_rf _ s0⟩
  | succ n ih =>
    intro l s f m τ s0 hN hA hW hT hE h8 hl hm H
    obtain ⟨m, rfl⟩ : ∃ z, m = z + 1 := ⟨m - 1, by omega⟩
    obtain ⟨t, e, g, u, h1, h2, h3, h4, h5, h6, h7, h9⟩ := H
    have eT : ah_ai τ (b + 139) l = Int32.ofNat t := by rw [hT]; exact h1
    have eE : ah_ai τ (b + 140) l = Int32.ofNat e := by rw [hE]; exact h2
    rw [← hA, ← hW] at h6
    unfold F_X6_gives_7
    simp only [sg_626 s0, pu_bs, al_138_0 s0, h8, Int32.mul_zero, Int32.zero_add]
    rw [if_neg (by rw [nu_ofle (by omega) (by omega)]; omega)]
    simp only [sg_627 s0, sg_628 s0, pu_bs, al_139 s0 (show l < 122 by omega), al_140 s0 (show l < 122 by omega), eT, eE, ss_123 s0]
    rcases h9 with ⟨q1, q2⟩ | ⟨q1, v, q2, q3⟩
    · rw [if_pos (by rw [q1]), q2]
      refine pu_b2 (fm_work s0 hN h5 h6) (fun v σ hv => pu_ret hv)
    · rw [← hA, ← hW] at q2
      rw [if_neg (by rw [nu_ofeq (by omega) (by omega)]; omega), q3]
      refine pu_b2 (fm_work s0 hN (by omega) q2) ?_
      rintro x υ ⟨rfl, Aυ⟩
      have sυ := ag_sk Aυ
      have hNυ : ∀ i, i < 6 → ah_ai υ (b + 141) i = N i := fun i hi => by rw [ag_ai Aυ s0 (by decide) (by decide)]; exact hN i hi
      have k6 : ah_ai υ (b + 136) = ah_ai τ (b + 136) := funext fun i => ag_ai Aυ s0 (by decide) (by decide) i
      have k7 : ah_ai υ (b + 137) = ah_ai τ (b + 137) := funext fun i => ag_ai Aυ s0 (by decide) (by decide) i
      have k8 : ah_ai υ (b + 138) = ah_ai τ (b + 138) := funext fun i => ag_ai Aυ s0 (by decide) (by decide) i
      have k9 : ah_ai υ (b + 139) = ah_ai τ (b + 139) := funext fun i => ag_ai Aυ s0 (by decide) (by decide) i
      have k0 : ah_ai υ (b + 140) = ah_ai τ (b + 140) := funext fun i => ag_ai Aυ s0 (by decide) (by decide) i
      simp only [sg_627 sυ, sg_628 sυ, pu_bs, al_139 sυ (show l < 122 by omega), al_140 sυ (show l < 122 by omega), k9, k0, eT, eE, ss_123 sυ, nl_ar_1]
      by_cases c : v N = 0
      · rw [if_pos c, if_pos c]
        exact pu_mono (ih (l + 1) e u m υ sυ hNυ (k6.trans hA) (k7.trans hW) (k9.trans hT) (k0.trans hE) (by rw [k8, h8]; congr 1; omega) (by omega) (by omega) h7) (fun r hr => ⟨hr.1, ag_tr Aυ hr.2⟩)
      · rw [if_neg c, if_neg c]
        refine pu_b2 (fm_work sυ hNυ h5 (by rw [k6, k7]; exact h6)) (fun v σ hv => pu_ret ⟨hv.1, ag_tr Aυ hv.2⟩)
