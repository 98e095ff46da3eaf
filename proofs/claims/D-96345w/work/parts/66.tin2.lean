section
variable {σ : ah_S} {b nb G : Nat} {ga ra ba kd : Nat → Nat} {hd : Nat → Int32} {sz : Nat → Nat} {el : sp_E} {V : sp_V} {lw : sp_W} {h : sp_H} {s : Nat → Int32} {n : Nat}
theorem lm_t93 {K : ah_S → Option Nat → Int32 → Int32 → Int32 → Option (Int64 × ah_S)} {Q : Int64 × ah_S → Prop} {w : Int32} {i : Nat} {k h' : sp_H} (R : rm_ σ b V G lw s n k h') (L : ∀ t, t < 4 → ah_ai σ (b + 151) t = sp_lk V h t) : ∀ (m t q : Nat) (x : Int32), t + m = 4 → m < q → pu_ok (K σ (some (b + 123)) w (tl_ V h h' m t x) (Int32.ofNat (i + 1))) Q → pu_ok (F_X6_tin_93 K q σ (some (b + 123)) w x (Int32.ofNat i) (Int32.ofNat t)) Q := by
  have s0 := R.1.1
  intro m
  induction m with
  | zero =>
    intro t q x ht hq hK
    obtain ⟨q, rfl⟩ : ∃ z, q = z + 1 := ⟨q - 1, by omega⟩
    unfold F_X6_tin_93
    rw [if_pos ((nl_le_4 (by omega)).mpr (by omega)), nl_ar_1]
    exact hK
  | succ m ih =>
    intro t q x ht hq hK
    obtain ⟨q, rfl⟩ : ∃ z, q = z + 1 := ⟨q - 1, by omega⟩
    have h4 : t < 4 := by omega
    unfold F_X6_tin_93
    rw [if_neg (fun z => by have := (nl_le_4 (by omega)).mp z; omega)]
    simp only [ss_123 s0, pu_bs, fm_lacks s0 R.1.2.2.1 R.2.2.2 h4, pu_b2s, sg_642 s0, al_151 s0 h4, L t h4, sg_602 s0, al_125 s0 h4, R.1.2.2.1.2.2.1 t h4, nl_ar_1]
    unfold tl_ ti_ at hK
    by_cases c : sp_lk V h' t ≤ sp_lk V h t
    · rw [if_pos c] at hK ⊢
      exact ih (t + 1) q _ (by omega) (by omega) hK
    · rw [if_neg c] at hK ⊢
      exact ih (t + 1) q _ (by omega) (by omega) hK
theorem lm_t54 {K : ah_S → Option Nat → Int32 → Int32 → Int32 → Option (Int64 × ah_S)} {Q : Int64 × ah_S → Prop} {w x : Int32} {i : Nat} {k : sp_H} {ρ : ah_S} (hi : i < n) (hK : ∀ τ, ag_ b [24, 25, 37, 54, 55] ρ τ → rm_ τ b V G lw s n k (sp_go V G lw (s i) h) → pu_ok (K τ (some (b + 123)) w (tl_ V h (sp_go V G lw (s i) h) 4 0 x) (Int32.ofNat (i + 1))) Q) : ∀ m t σ q, t + m = 4 → m < q → ag_ b [24, 25, 37, 54, 55] ρ σ → rm_ σ b V G lw s n k h → (∀ j, j < t → ah_ai σ (b + 151) j = sp_lk V h j) → pu_ok (F_X6_tin_54 K q σ (some (b + 123)) w x (Int32.ofNat i) (Int32.ofNat t)) Q := by
  intro m
  induction m with
  | zero =>
    intro t σ q ht hq A R g4
    obtain ⟨q, rfl⟩ : ∃ z, q = z + 1 := ⟨q - 1, by omega⟩
    have s0 := R.1.1
    have hn := R.2.1.2.1
    unfold F_X6_tin_54
    rw [if_pos ((nl_le_4 (by omega)).mpr (by omega))]
    simp only [sg_635 s0, ss_123 s0, al_146 s0 (show i < 30 by omega), R.2.1.2.2 i hi, pu_bs]
    refine pu_bind (fm_stp R _) ?_
    rintro τ ⟨A2, R2⟩
    refine lm_t93 (h := h) (i := i) R2 (fun j hj => by rw [ag_ai A2 s0 (by decide) (by decide)]; exact g4 j (by omega)) 4 0 1000 x (by omega) (by omega) ?_
    exact hK τ (ag_tr A (ag_mo (by decide) A2)) R2
  | succ m ih =>
    intro t σ q ht hq A R g4
    obtain ⟨q, rfl⟩ : ∃ z, q = z + 1 := ⟨q - 1, by omega⟩
    have s0 := R.1.1
    have h4 : t < 4 := by omega
    unfold F_X6_tin_54
    rw [if_neg (fun z => by have := (nl_le_4 (by omega)).mp z; omega)]
    simp only [sg_642 s0, ss_123 s0, pu_bs, fm_lacks s0 R.1.2.2.1 R.2.2.2 h4, pu_b2s, aw_151 s0 h4, nl_ar_1]
    have A2 : ag_ b [37] σ (ah_sA σ (b + 151) t (sp_lk V h t)) := ag_wA (ag_rf _ s0) (fun _ => lb_sc (by decide) rfl (by decide))
    refine ih (t + 1) _ q (by omega) (by omega) (ag_tr A (ag_mo (by decide) A2)) ⟨mk_ag A2 (by decide) R.1, mst_ag A2 s0 (by decide) R.2.1, mh_ag A2 s0 (by decide) (by decide) R.2.2.1, mh_ag A2 s0 (by decide) (by decide) R.2.2.2⟩ (fun j hj => ?_)
    rw [rw_ai_sA, if_pos rfl]
    by_cases z : j = t
    · rw [if_pos z, z]
    · rw [if_neg z]; exact g4 j (by omega)
theorem ti4_r {h' : sp_H} (hr : sp_rg G V) (hv : sp_hw h) (hv' : sp_hw h') : ∀ (m t : Nat) (x : Int32) (B : Int), t + m = 4 → nu_in x B → 0 ≤ B → B + 891 * m < 1000000 → nu_in (tl_ V h h' m t x) (B + 891 * m) := by
  intro m
  induction m with
  | zero => intro t x B _ hx _ _; show nu_in x (B + 891 * ((0 : Nat) : Int)); simpa using hx
  | succ m ih =>
    intro t x B ht hx hB hB2
    have := ih (t + 1) (ti_ V h h' t x) (B + 891) (by omega) (ti_r hr hv hv' (by omega) (by omega) hx).1 (by omega) (by omega)
    rw [show B + 891 * ((m + 1 : Nat) : Int) = B + 891 + 891 * (m : Int) by omega]
    exact this
theorem lm_tin {w : Int32} {k : sp_H} (hr : sp_rg G V) : ∀ (m i : Nat) (σ : ah_S) (q : Nat) (h : sp_H) (x : Int32), i + m = n → m < q → nu_in x (3564 * (i : Int)) → sp_hw h → rm_ σ b V G lw s n k h → pu_ok (F_X6_tin_42 q σ (some (b + 123)) w x (Int32.ofNat i)) (fun r => r.1 = pt_ ((sp_ti V G lw s m i h x).toNatClampNeg * (V 8 0).toNatClampNeg) w ∧ ag_ b [24, 25, 37, 54, 55] σ r.2 ∧ mh_ r.2 b 130 k) := by
  intro m
  induction m with
  | zero =>
    intro i σ q h x hi hq hx hv R
    obtain ⟨q, rfl⟩ : ∃ z, q = z + 1 := ⟨q - 1, by omega⟩
    have s0 := R.1.1
    have hn := R.2.1.2.1
    obtain ⟨w1, w2⟩ := hr 8 0 (Or.inr (Or.inr (Or.inr ⟨by omega, by omega, rfl⟩)))
    have w2 : (V 8 0).toInt ≤ 12 := w2
    obtain ⟨x1, x2⟩ := hx
    obtain ⟨p, hp, hp2⟩ := nu_nat (a := x) (by rw [nu_le]; exact x1)
    obtain ⟨v, hv', hv2⟩ := nu_nat (a := V 8 0) (by rw [nu_le]; exact w1)
    have ep : (p : Int) ≤ 3564 * i := by rw [hp, nu_of hp2] at x2; exact x2
    have ev : (v : Int) ≤ 12 := by rw [hv', nu_of hv2] at w2; exact w2
    unfold F_X6_tin_42 sp_ti
    rw [si_636 s0, pu_bs, R.2.1.1, if_pos (by rw [nu_ofle (by omega) (by omega)]; omega), ss_123 s0, pu_bs]
    refine pu_bind (fm_layHut s0 R.2.2.1) ?_
    rintro τ ⟨A, H⟩
    have sτ := ag_sk A
    have hp8 : ah_fi τ 610 (b + 123) = V 8 0 := (mp_ag A s0 (by decide) R.1.2.2.1).2.2.2.2.2.2.2.2.2
    rw [si_610 sτ, pu_bs, hp8, hp, hv', nl_of hp2, nl_of hv2, ← Int64.ofNat_mul, fm_asPart (by
      have : p * v ≤ 106920 * 12 := Nat.mul_le_mul (by omega) (by omega)
      omega), pu_b2s, nu_cl hp2, nu_cl hv2]
    exact pu_ret ⟨rfl, ag_mo (by decide) A, H⟩
  | succ m ih =>
    intro i σ q h x hi hq hx hv R
    obtain ⟨q, rfl⟩ : ∃ z, q = z + 1 := ⟨q - 1, by omega⟩
    have s0 := R.1.1
    have hn := R.2.1.2.1
    unfold F_X6_tin_42 sp_ti
    rw [si_636 s0, pu_bs, R.2.1.1, if_neg (by rw [nu_ofle (by omega) (by omega)]; omega)]
    refine lm_t54 (k := k) (by omega) (fun τ A' R' => ?_) 4 0 σ 1000 (by omega) (by omega) (ag_rf _ s0) R (fun j hj => absurd hj (Nat.not_lt_zero _))
    have hv' := sp_hwg (x := s i) (lw := lw) hr R.1.2.1 hv
    refine pu_mono (ih (i + 1) τ q (sp_go V G lw (s i) h) _ (by omega) (by omega) ?_ hv' R') (fun r hr => ⟨hr.1, ag_tr A' hr.2.1, hr.2.2⟩)
    rw [show (3564 : Int) * ((i + 1 : Nat) : Int) = 3564 * (i : Int) + 891 * ((4 : Nat) : Int) by omega]
    exact ti4_r hr hv hv' 4 0 x (3564 * (i : Int)) (by omega) hx (by omega) (by omega)
/-- the tin: a cell is made -/
def qt_ (b : Nat) (ga ra ba : Nat → Nat) (nb : Nat) (kd : Nat → Nat) (hd : Nat → Int32) (sz : Nat → Nat) (el : sp_E) (V : sp_V) (G : Nat) (lw : sp_W) (h : sp_H) (FX FM : ah_S → Option (Int64 × ah_S)) : Prop := ∃ v, (∀ σ, qx_ b ga ra ba nb kd hd sz el V G lw h σ → 1 ≤ ah_rc σ → 4 ≤ ah_rs σ → pu_ok (FX σ) (fun r => r.1 = v ∧ ag_ b (50 :: LX_) σ r.2 ∧ ah_nx r.2 ≤ ah_nx σ + 1)) ∧ (∀ σ, qm_ b hd sz el V G lw h σ → pu_ok (FM σ) (fun r => r.1 = v ∧ ag_ b LM_ σ r.2 ∧ mh_ r.2 b 130 h))
theorem qq_tin (hw : sw_ hd sz el nb) (hv : sp_hw h) (hr : sp_rg G V) (x1 x2 : Int32) : qt_ b ga ra ba nb kd hd sz el V G lw h (fun σ => F_X0_tin σ (some b) x1 x2) (fun σ => F_X6_tin σ (some (b + 123)) x1 x2) := by
  by_cases c2 : 0 ≤ x2 ∧ x2 ≤ 1
  rotate_left
  · refine ⟨-9223372036854775808, fun σ hq _ _ => ?_, fun σ hq => ?_⟩
    · simp only [F_X0_tin, fx_w1, ra_n c2, pu_b2s, if_true]; exact pu_ret ⟨rfl, ag_rf _ hq.1.1, Nat.le_succ _⟩
    · simp only [F_X6_tin, fm_isShelf, fm_in_, ra_n c2, pu_b2s, if_true]
      split
      · exact pu_ret ⟨rfl, ag_rf _ hq.1.1, hq.2.2⟩
      · exact pu_ret ⟨rfl, ag_rf _ hq.1.1, hq.2.2⟩
  by_cases c1 : 0 ≤ x1 ∧ x1 ≤ 5
  rotate_left
  · refine ⟨-9223372036854775808, fun σ hq _ _ => ?_, fun σ hq => ?_⟩
    · simp only [F_X0_tin, fx_w1, ra_p c2, nu_10, if_false, ss_0 hq.1.1, pu_bs, fx_takesB hq.1.1 c1, pu_b2s, if_neg (show ¬ (0 : Int32) ≤ -1 by decide)]; exact pu_ret ⟨rfl, ag_rf _ hq.1.1, Nat.le_succ _⟩
    · simp only [F_X6_tin, fm_isShelf, ra_n c1, pu_b2s, if_true]; exact pu_ret ⟨rfl, ag_rf _ hq.1.1, hq.2.2⟩
  obtain ⟨d, rfl, h6⟩ := nu_natb (m := 5) c1.1 (by decide) c1.2
  have h6 : d < 6 := by omega
  have hz := (hw d h6).1
  by_cases e2 : hd d = -2
  rotate_left
  · refine ⟨-9223372036854775808, fun σ hq _ _ => ?_, fun σ hq => ?_⟩
    · have s0 := hq.1.1
      simp only [F_X0_tin, fx_w1, ra_p c2, nu_10, if_false, pu_b2s, ss_0 s0, pu_bs, fx_takesN hq.1 hq.2.1 hq.2.2.1 hw h6 e2, if_neg (rf_n e2).2.2]; exact pu_ret ⟨rfl, ag_rf _ s0, Nat.le_succ _⟩
    · have s0 := hq.1.1
      simp only [F_X6_tin, fm_isShelf, ra_p c1, fm_in_, ra_p c2, pu_b2s, nu_10, if_false, ss_123 s0, pu_bs, fm_rowFault s0 hq.2.1 h6, if_neg (rf_n e2).2.2]; exact pu_ret ⟨rfl, ag_rf _ s0, hq.2.2⟩
  have hx2 : x2 = 0 ∨ x2 = 1 := by
    obtain ⟨z1, z2⟩ := c2
    rw [nu_le] at z1 z2
    have k0 : (0 : Int32).toInt = 0 := rfl
    have k1 : (1 : Int32).toInt = 1 := rfl
    by_cases c : x2.toInt = 0
    · exact Or.inl (Int32.toInt_inj.mp (c.trans k0.symm))
    · exact Or.inr (Int32.toInt_inj.mp (by omega))
  refine ⟨pt_ ((sp_ti V G lw (fun i => (el d i).toInt32) (min (sz d) 30) 0 h 0).toNatClampNeg * (V 8 0).toNatClampNeg) x2, fun σ hq hc hs => ?_, fun σ hq => ?_⟩
  · have s0 := hq.1.1
    simp only [F_X0_tin, fx_w1, ra_p c2, nu_10, if_false, pu_b2s, ss_0 s0, pu_bs]
    refine pu_b2 (fx_takes hq.1 hq.2.1 hq.2.2.1 hw h6 e2) ?_
    rintro v τ ⟨rfl, A1, C1⟩
    dsimp only at A1 C1
    have sτ := ag_sk A1
    rw [if_pos (by decide)]
    simp only [sg_19 sτ, sg_18 sτ, hu_is sτ m17, pu_bs]
    refine pu_bind (fx_beAs sτ m17 m12 (by decide) hv (xh_ag A1 hq.1.1 m12 (by decide) hq.2.2.2)) ?_
    rintro υ ⟨A2, H2⟩
    have R : rx_ υ b ga V G lw (fun i => (el d i).toInt32) (min (sz d) 30) h := ⟨xk_ag A2 (by decide) (xk_ag A1 (by decide) hq.1), xcm_ag A2 sτ (by decide) C1, H2, hv⟩
    have A3 : ag_ b LX_ σ υ := ag_tr (ag_mo (by decide) A1) (ag_mo (by decide) A2)
    have s2 := R.1.1
    have A4 : ag_ b [5, 12] σ υ := ag_tr (ag_mo (by decide) A1) (ag_mo (by decide) A2)
    have nxe : ah_nx υ = ah_nx σ := A4.2.2.1 (by decide)
    have rce := A4.2.2.2.1
    have rse := A4.2.2.2.2.1
    have em : ah_mA υ 101 (4 : Int32) = some (ah_new υ 101 4) := by
      unfold ah_mA
      rw [show ((4 : Int32).toNatClampNeg) = 4 from rfl, decide_eq_true (show 1 ≤ ah_rc υ by omega), decide_eq_true (show 4 ≤ ah_rs υ by omega)]
      rfl
    rw [em, pu_bs]
    have A5 : ag_ b [50] υ (ah_new υ 101 4) := ag_nw (ag_rf _ s2) (by decide) (by decide) (by omega) (by omega)
    have s5 := ag_sk A5
    have R5 : rx_ (ah_new υ 101 4) b ga V G lw (fun i => (el d i).toInt32) (min (sz d) 30) h := ⟨xk_ag A5 (by decide) R.1, xcm_ag A5 s2 (by decide) R.2.1, xh_ag A5 s2 m17 (by decide) R.2.2.1, hv⟩
    refine pu_mono (lx_tin (ρ := υ) (c := ah_nx υ) (Nat.le_refl _) s2.1 hx2 (min (sz d) 30) 0 (ah_new υ 101 4) 1000 h 0 (by omega) (by omega) ⟨by decide, by decide⟩ (ag_mo (by decide) A5) R5 (if_pos rfl) (if_pos rfl) rfl) (fun r hr => ⟨hr.1, ag_tr (ag_mo (by decide) A4) (ag_mo (by decide) hr.2.1), by omega⟩)
  · have s0 := hq.1.1
    simp only [F_X6_tin, fm_isShelf, ra_p c1, fm_in_, ra_p c2, pu_b2s, nu_10, if_false, ss_123 s0, pu_bs, fm_rowFault s0 hq.2.1 h6, rf_0 e2]
    rw [if_pos (by decide)]
    refine pu_bind (fm_layStays hq.1.1 hq.2.1 (hw d h6).1 h6) ?_
    rintro τ ⟨A1, C1⟩
    have sτ := ag_sk A1
    simp only [ss_123 sτ, pu_bs]
    refine pu_bind (fm_keepHut sτ (mh_ag A1 hq.1.1 (by decide) (by decide) hq.2.2)) ?_
    rintro υ ⟨A2, H2⟩
    have R : rm_ υ b V G lw (fun i => (el d i).toInt32) (min (sz d) 30) h h := ⟨mk_ag A2 (by decide) (mk_ag A1 (by decide) hq.1), mst_ag A2 sτ (by decide) C1, H2, mh_ag A2 sτ (by decide) (by decide) (mh_ag A1 hq.1.1 (by decide) (by decide) hq.2.2)⟩
    have A3 : ag_ b LM_ σ υ := ag_tr (ag_mo (by decide) A1) (ag_mo (by decide) A2)
    exact pu_mono (lm_tin hr (min (sz d) 30) 0 υ 1000 h 0 (by omega) (by omega) ⟨by decide, by decide⟩ hv R) (fun r hr => ⟨hr.1, ag_tr A3 (ag_mo (by decide) hr.2.1), hr.2.2⟩)
end
