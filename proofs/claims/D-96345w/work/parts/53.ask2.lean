/-! ===== more questions (printed by ask.py) ===== -/
section
variable {σ : ah_S} {b nb G : Nat} {ga ra ba kd : Nat → Nat} {hd : Nat → Int32} {sz : Nat → Nat} {el : sp_E} {V : sp_V} {lw : sp_W} {h : sp_H} {s : Nat → Int32} {n : Nat}
def sp_lo (V : sp_V) (G : Nat) (lw : sp_W) (s : Nat → Int32) : Nat → Nat → sp_H → Int32 → Int32
  | 0, _, _, x => x
  | m + 1, i, h, x => sp_lo V G lw s m (i + 1) (sp_go V G lw (s i) h) (x + sp_ls V (sp_go V G lw (s i) h))
theorem lx_loss  : ∀ m i σ q h x, i + m = n → m < q → rx_ σ b ga V G lw s n h → pu_ok (F_X0_lossOfRow_15 q σ (some b) x (Int32.ofNat i)) (fun r => r.1 = sp_lo V G lw s m i h x ∧ ag_ b [5, 11] σ r.2) := by
  intro m
  induction m with
  | zero =>
    intro i σ q h x hi hq R
    obtain ⟨q, rfl⟩ : ∃ z, q = z + 1 := ⟨q - 1, by omega⟩
    have s0 := R.1.1
    have hn := R.2.1.2.1
    unfold F_X0_lossOfRow_15
    simp only [si_21 s0, pu_bs, R.2.1.1]
    rw [if_pos (by rw [nu_ofle (by omega) (by omega)]; omega)]
    exact pu_ret ⟨rfl, ag_rf _ s0⟩
  | succ m ih =>
    intro i σ q h x hi hq R
    obtain ⟨q, rfl⟩ : ∃ z, q = z + 1 := ⟨q - 1, by omega⟩
    have s0 := R.1.1
    have hn := R.2.1.2.1
    unfold F_X0_lossOfRow_15
    simp only [si_21 s0, pu_bs, R.2.1.1]
    rw [if_neg (by rw [nu_ofle (by omega) (by omega)]; omega)]
    simp only [sg_19 s0, sg_20 s0, hu_is s0 m17, al_22 s0 (show i < 30 by omega), R.2.1.2.2 i (by omega), pu_bs, nl_ar_1]
    refine pu_bind (fx_stp R _) ?_
    rintro υ ⟨A, R⟩
    have s1 := R.1.1
    simp only [sg_19 s1, hu_is s1 m17, pu_bs, fx_loss s1 R.1.2.1 R.1.2.2.2 m17 R.2.2.2 R.2.2.1, pu_b2s]
    exact pu_mono (ih (i + 1) υ q _ _ (by omega) (by omega) R) (fun r hr => ⟨hr.1, ag_tr A hr.2⟩)

theorem lm_loss {k : sp_H}  : ∀ m i σ q h x, i + m = n → m < q → rm_ σ b V G lw s n k h → pu_ok (F_X6_lossOf_8 q σ (some (b + 123)) x (Int32.ofNat i)) (fun r => r.1 = sp_lo V G lw s m i h x ∧ ag_ b [24, 25, 54, 55] σ r.2 ∧ mh_ r.2 b 130 k) := by
  intro m
  induction m with
  | zero =>
    intro i σ q h x hi hq R
    obtain ⟨q, rfl⟩ : ∃ z, q = z + 1 := ⟨q - 1, by omega⟩
    have s0 := R.1.1
    have hn := R.2.1.2.1
    unfold F_X6_lossOf_8
    simp only [si_636 s0, pu_bs, R.2.1.1]
    rw [if_pos (by rw [nu_ofle (by omega) (by omega)]; omega)]
    simp only [ss_123 s0, pu_bs]
    exact fm_end R _
  | succ m ih =>
    intro i σ q h x hi hq R
    obtain ⟨q, rfl⟩ : ∃ z, q = z + 1 := ⟨q - 1, by omega⟩
    have s0 := R.1.1
    have hn := R.2.1.2.1
    unfold F_X6_lossOf_8
    simp only [si_636 s0, pu_bs, R.2.1.1]
    rw [if_neg (by rw [nu_ofle (by omega) (by omega)]; omega)]
    simp only [sg_635 s0, ss_123 s0, al_146 s0 (show i < 30 by omega), R.2.1.2.2 i (by omega), pu_bs, nl_ar_1]
    refine pu_bind (fm_stp R _) ?_
    rintro υ ⟨A, R⟩
    have s1 := R.1.1
    simp only [ss_123 s1, pu_bs, fm_loss s1 R.1.2.2.1 R.2.2.2, pu_b2s]
    exact pu_mono (ih (i + 1) υ q _ _ (by omega) (by omega) R) (fun r hr => ⟨hr.1, ag_tr A hr.2.1, hr.2.2⟩)

/-- what the class must hold to lose as the row goes -/
theorem fx_lossRow (hx : xk_ σ b ga V G lw) (hc : xcm_ σ b G s n) (H : xh_ σ b 12 h) (hv : sp_hw h) : pu_ok (F_X0_lossOfRow σ (some b)) (fun r => r.1 = sp_lo V G lw s n 0 h 0 ∧ ag_ b [5, 11] σ r.2) := by
  have s0 := hx.1
  have hn := hc.2.1
  unfold F_X0_lossOfRow
  simp only [sg_19 s0, sg_18 s0, hu_is s0 m17, pu_bs]
  refine pu_bind (fx_beAs s0 m17 m12 (by decide) hv H) ?_
  rintro υ ⟨A2, H2⟩
  exact pu_mono (lx_loss n 0 υ 1000 h 0 (by omega) (by omega) ⟨xk_ag A2 (by decide) hx, xcm_ag A2 s0 (by decide) hc, H2, hv⟩) (fun r hr => ⟨hr.1, ag_tr (ag_mo (by decide) A2) hr.2⟩)
theorem fm_lossRow (hm : mk_ σ b V G lw) (hc : mst_ σ b s n) (H : mh_ σ b 130 h) : pu_ok (F_X6_lossOf σ (some (b + 123))) (fun r => r.1 = sp_lo V G lw s n 0 h 0 ∧ ag_ b [24, 25, 31, 54, 55] σ r.2 ∧ mh_ r.2 b 130 h) := by
  have s0 := hm.1
  have hn := hc.2.1
  unfold F_X6_lossOf
  simp only [ss_123 s0, pu_bs]
  refine pu_bind (fm_keepHut s0 H) ?_
  rintro υ ⟨A2, H2⟩
  exact pu_mono (lm_loss n 0 υ 1000 h 0 (by omega) (by omega) ⟨mk_ag A2 (by decide) hm, mst_ag A2 s0 (by decide) hc, H2, mh_ag A2 s0 (by decide) (by decide) H⟩) (fun r hr => ⟨hr.1, ag_tr (ag_mo (by decide) A2) (ag_mo (by decide) hr.2.1), hr.2.2⟩)
theorem fx_takesB {x1 : Int32} (h0 : sk_ok σ b) (c1 : ¬ (0 ≤ x1 ∧ x1 ≤ 5)) : F_X0_takes1Row σ (some b) x1 = some (-1, σ) := by
  simp only [F_X0_takes1Row, ss_0 h0, pu_bs, F_X0_lookAt, fx_isShelf, ra_n c1, pu_b2s, if_true]
  rw [if_neg (by decide)]
theorem qq_loss (hw : sw_ hd sz el nb) (hv : sp_hw h) (x1 : Int32) : qq_ b ga ra ba nb kd hd sz el V G lw h (fun σ => F_X0_loss σ (some b) x1) (fun σ => F_X6_loss σ (some (b + 123)) x1) := by
  by_cases c1 : 0 ≤ x1 ∧ x1 ≤ 5
  rotate_left
  · refine ⟨-1, fun σ hq => ?_, fun σ hq => ?_⟩
    · simp only [F_X0_loss, ss_0 hq.1.1, pu_bs, fx_takesB hq.1.1 c1, pu_b2s, if_neg (show ¬ (0 : Int32) ≤ -1 by decide)]; exact pu_ret ⟨rfl, ag_rf _ hq.1.1⟩
    · simp only [F_X6_loss, fm_isShelf, ra_n c1, pu_b2s, if_true]; exact pu_ret ⟨rfl, ag_rf _ hq.1.1, hq.2.2⟩
  obtain ⟨d, rfl, h6⟩ := nu_natb (m := 5) c1.1 (by decide) c1.2
  have h6 : d < 6 := by omega
  by_cases e2 : hd d = -2
  rotate_left
  · refine ⟨sp_rf hd d, fun σ hq => ?_, fun σ hq => ?_⟩
    · have s0 := hq.1.1
      simp only [F_X0_loss, pu_b2s, ss_0 s0, pu_bs, fx_takesN hq.1 hq.2.1 hq.2.2.1 hw h6 e2, if_neg (rf_n e2).2.2]; exact pu_ret ⟨rfl, ag_rf _ s0⟩
    · have s0 := hq.1.1
      simp only [F_X6_loss, fm_isShelf, ra_p c1, pu_b2s, nu_10, if_false, ss_123 s0, pu_bs, fm_rowFault s0 hq.2.1 h6, if_neg (rf_n e2).2.2]; exact pu_ret ⟨rfl, ag_rf _ s0, hq.2.2⟩
  refine ⟨sp_lo V G lw (fun i => (el d i).toInt32) (min (sz d) 30) 0 h 0, fun σ hq => ?_, fun σ hq => ?_⟩
  · have s0 := hq.1.1
    simp only [F_X0_loss, ss_0 s0, pu_bs]
    refine pu_b2 (fx_takes hq.1 hq.2.1 hq.2.2.1 hw h6 e2) ?_
    rintro v τ ⟨rfl, A1, C1⟩
    dsimp only at A1 C1
    have sτ := ag_sk A1
    rw [if_pos (by decide)]
    simp only [ss_0 sτ, pu_bs]
    refine pu_b2 (fx_lossRow (xk_ag A1 (by decide) hq.1) C1 (xh_ag A1 hq.1.1 m12 (by decide) hq.2.2.2) hv) ?_
    rintro v υ ⟨rfl, A2⟩
    exact pu_ret ⟨rfl, ag_tr (ag_mo (by decide) A1) (ag_mo (by decide) A2)⟩
  · have s0 := hq.1.1
    simp only [F_X6_loss, fm_isShelf, ra_p c1, pu_b2s, nu_10, if_false, ss_123 s0, pu_bs, fm_rowFault s0 hq.2.1 h6, rf_0 e2]
    rw [if_pos (by decide)]
    refine pu_bind (fm_layStays hq.1.1 hq.2.1 (hw d h6).1 h6) ?_
    rintro τ ⟨A1, C1⟩
    have sτ := ag_sk A1
    simp only [ss_123 sτ, pu_bs]
    refine pu_b2 (fm_lossRow (mk_ag A1 (by decide) hq.1) C1 (mh_ag A1 hq.1.1 (by decide) (by decide) hq.2.2)) ?_
    rintro v υ ⟨rfl, A2, H2⟩
    exact pu_ret ⟨rfl, ag_tr (ag_mo (by decide) A1) (ag_mo (by decide) A2), H2⟩
def sp_lw (V : sp_V) (G : Nat) (lw : sp_W) (s : Nat → Int32) (t : Nat) : Nat → Nat → sp_H → Int32 → Int32
  | 0, _, _, x => x
  | m + 1, i, h, x => sp_lw V G lw s t m (i + 1) (sp_go V G lw (s i) h) (if sp_go V G lw (s i) h t < x then sp_go V G lw (s i) h t else x)
theorem lx_lowest {t : Nat} (h4 : t < 4) : ∀ m i σ q h x, i + m = n → m < q → rx_ σ b ga V G lw s n h → pu_ok (F_X0_lowest_66 q σ (some b) (Int32.ofNat t) x (Int32.ofNat i)) (fun r => r.1 = sp_lw V G lw s t m i h x ∧ ag_ b [5, 11] σ r.2) := by
  intro m
  induction m with
  | zero =>
    intro i σ q h x hi hq R
    obtain ⟨q, rfl⟩ : ∃ z, q = z + 1 := ⟨q - 1, by omega⟩
    have s0 := R.1.1
    have hn := R.2.1.2.1
    unfold F_X0_lowest_66
    simp only [si_21 s0, pu_bs, R.2.1.1]
    rw [if_pos (by rw [nu_ofle (by omega) (by omega)]; omega)]
    exact pu_ret ⟨rfl, ag_rf _ s0⟩
  | succ m ih =>
    intro i σ q h x hi hq R
    obtain ⟨q, rfl⟩ : ∃ z, q = z + 1 := ⟨q - 1, by omega⟩
    have s0 := R.1.1
    have hn := R.2.1.2.1
    unfold F_X0_lowest_66
    simp only [si_21 s0, pu_bs, R.2.1.1]
    rw [if_neg (by rw [nu_ofle (by omega) (by omega)]; omega)]
    simp only [sg_19 s0, sg_20 s0, hu_is s0 m17, al_22 s0 (show i < 30 by omega), R.2.1.2.2 i (by omega), pu_bs, nl_ar_1]
    refine pu_bind (fx_stp R _) ?_
    rintro υ ⟨A, R⟩
    have s1 := R.1.1
    simp only [sg_19 s1, hu_400 s1 m17, hu_l1 s1 m17 h4, pu_bs, R.2.2.1.1 t h4]
    exact pu_mono (ih (i + 1) υ q _ _ (by omega) (by omega) R) (fun r hr => ⟨hr.1, ag_tr A hr.2⟩)

theorem lm_lowest {k : sp_H} {t : Nat} (h4 : t < 4) : ∀ m i σ q h x, i + m = n → m < q → rm_ σ b V G lw s n k h → pu_ok (F_X6_lowest_61 q σ (some (b + 123)) (Int32.ofNat t) x (Int32.ofNat i)) (fun r => r.1 = sp_lw V G lw s t m i h x ∧ ag_ b [24, 25, 54, 55] σ r.2 ∧ mh_ r.2 b 130 k) := by
  intro m
  induction m with
  | zero =>
    intro i σ q h x hi hq R
    obtain ⟨q, rfl⟩ : ∃ z, q = z + 1 := ⟨q - 1, by omega⟩
    have s0 := R.1.1
    have hn := R.2.1.2.1
    unfold F_X6_lowest_61
    simp only [si_636 s0, pu_bs, R.2.1.1]
    rw [if_pos (by rw [nu_ofle (by omega) (by omega)]; omega)]
    simp only [ss_123 s0, pu_bs]
    exact fm_end R _
  | succ m ih =>
    intro i σ q h x hi hq R
    obtain ⟨q, rfl⟩ : ∃ z, q = z + 1 := ⟨q - 1, by omega⟩
    have s0 := R.1.1
    have hn := R.2.1.2.1
    unfold F_X6_lowest_61
    simp only [si_636 s0, pu_bs, R.2.1.1]
    rw [if_neg (by rw [nu_ofle (by omega) (by omega)]; omega)]
    simp only [sg_635 s0, ss_123 s0, al_146 s0 (show i < 30 by omega), R.2.1.2.2 i (by omega), pu_bs, nl_ar_1]
    refine pu_bind (fm_stp R _) ?_
    rintro υ ⟨A, R⟩
    have s1 := R.1.1
    simp only [sg_611 s1, al_130 s1 (show t < 48 by omega), pu_bs, R.2.2.2 t (by omega)]
    unfold sp_lw
    by_cases c : sp_go V G lw (s i) h t < x
    · rw [if_pos c, if_neg (fun z => absurd (Int32.lt_of_lt_of_le c z) Int32.lt_irrefl)]
      exact pu_mono (ih (i + 1) υ q _ _ (by omega) (by omega) R) (fun r hr => ⟨hr.1, ag_tr A hr.2.1, hr.2.2⟩)
    · rw [if_neg c, if_pos ((Int32.lt_or_le _ _).resolve_left c)]
      exact pu_mono (ih (i + 1) υ q _ _ (by omega) (by omega) R) (fun r hr => ⟨hr.1, ag_tr A hr.2.1, hr.2.2⟩)

theorem qq_lowest (hw : sw_ hd sz el nb) (hv : sp_hw h) (x1 x2 : Int32) : qq_ b ga ra ba nb kd hd sz el V G lw h (fun σ => F_X0_lowest σ (some b) x1 x2) (fun σ => F_X6_lowest σ (some (b + 123)) x1 x2) := by
  by_cases c1 : 0 ≤ x1 ∧ x1 ≤ 5
  rotate_left
  · refine ⟨-1, fun σ hq => ?_, fun σ hq => ?_⟩
    · simp only [F_X0_lowest, fx_isShelf, ra_n c1, pu_b2s, if_true]; exact pu_ret ⟨rfl, ag_rf _ hq.1.1⟩
    · simp only [F_X6_lowest, fm_isShelf, ra_n c1, pu_b2s, if_true]; exact pu_ret ⟨rfl, ag_rf _ hq.1.1, hq.2.2⟩
  by_cases c2 : 0 ≤ x2 ∧ x2 ≤ 3
  rotate_left
  · refine ⟨-1, fun σ hq => ?_, fun σ hq => ?_⟩
    · simp only [F_X0_lowest, fx_isShelf, fx_isThing, ra_p c1, ra_n c2, pu_b2s, if_true, nu_10, if_false]; exact pu_ret ⟨rfl, ag_rf _ hq.1.1⟩
    · simp only [F_X6_lowest, fm_isShelf, fm_isThing, ra_p c1, ra_n c2, pu_b2s, if_true, nu_10, if_false]; exact pu_ret ⟨rfl, ag_rf _ hq.1.1, hq.2.2⟩
  obtain ⟨d, rfl, h6⟩ := nu_natb (m := 5) c1.1 (by decide) c1.2
  have h6 : d < 6 := by omega
  have hz := (hw d h6).1
  obtain ⟨t, rfl, h4⟩ := nu_natb (m := 3) c2.1 (by decide) c2.2
  have h4 : t < 4 := by omega
  by_cases e2 : hd d = -2
  rotate_left
  · refine ⟨sp_rf hd d, fun σ hq => ?_, fun σ hq => ?_⟩
    · have s0 := hq.1.1
      simp only [F_X0_lowest, fx_isShelf, fx_isThing, ra_p c1, ra_p c2, pu_b2s, nu_10, if_false, ss_0 s0, pu_bs, fx_takesN hq.1 hq.2.1 hq.2.2.1 hw h6 e2, if_neg (rf_n e2).2.2, fx_lookAt s0 hq.2.1 hq.2.2.1 hw h6]; exact pu_ret ⟨rfl, ag_rf _ s0⟩
    · have s0 := hq.1.1
      simp only [F_X6_lowest, fm_isShelf, fm_isThing, ra_p c1, ra_p c2, pu_b2s, nu_10, if_false, ss_123 s0, pu_bs, fm_rowFault s0 hq.2.1 h6, if_neg (rf_n e2).2.2]; exact pu_ret ⟨rfl, ag_rf _ s0, hq.2.2⟩
  refine ⟨sp_lw V G lw (fun i => (el d i).toInt32) t (min (sz d) 30) 0 h (if min (sz d) 30 = 0 then h t else 99), fun σ hq => ?_, fun σ hq => ?_⟩
  · have s0 := hq.1.1
    simp only [F_X0_lowest, fx_isShelf, fx_isThing, ra_p c1, ra_p c2, pu_b2s, nu_10, if_false, ss_0 s0, pu_bs]
    refine pu_b2 (fx_takes hq.1 hq.2.1 hq.2.2.1 hw h6 e2) ?_
    rintro v τ ⟨rfl, A1, C1⟩
    dsimp only at A1 C1
    have sτ := ag_sk A1
    rw [if_pos (by decide)]
    simp only [sg_19 sτ, sg_18 sτ, hu_is sτ m17, pu_bs]
    refine pu_bind (fx_beAs sτ m17 m12 (by decide) hv (xh_ag A1 hq.1.1 m12 (by decide) hq.2.2.2)) ?_
    rintro υ ⟨A2, H2⟩
    have R : rx_ υ b ga V G lw (fun i => (el d i).toInt32) (min (sz d) 30) h := ⟨xk_ag A2 (by decide) (xk_ag A1 (by decide) hq.1), xcm_ag A2 sτ (by decide) C1, H2, hv⟩
    have A3 : ag_ b LX_ σ υ := ag_tr (ag_mo (by decide) A1) (ag_mo (by decide) A2)
    have s2 := R.1.1
    simp only [si_21 s2, pu_bs, R.2.1.1]
    by_cases c : min (sz d) 30 = 0
    · rw [if_pos c, if_pos (by rw [c]; rfl)]
      simp only [sg_19 s2, hu_400 s2 m17, hu_l1 s2 m17 h4, pu_bs, R.2.2.1.1 t h4]
      exact pu_mono (lx_lowest h4 (min (sz d) 30) 0 υ 1000 h _ (by omega) (by omega) R) (fun r hr => ⟨hr.1, ag_tr A3 (ag_mo (by decide) hr.2)⟩)
    · rw [if_neg c, if_neg (fun z => c ((nl_eq_0 (by omega)).mp z))]
      exact pu_mono (lx_lowest h4 (min (sz d) 30) 0 υ 1000 h _ (by omega) (by omega) R) (fun r hr => ⟨hr.1, ag_tr A3 (ag_mo (by decide) hr.2)⟩)
  · have s0 := hq.1.1
    simp only [F_X6_lowest, fm_isShelf, fm_isThing, ra_p c1, ra_p c2, pu_b2s, nu_10, if_false, ss_123 s0, pu_bs, fm_rowFault s0 hq.2.1 h6, rf_0 e2]
    rw [if_pos (by decide)]
    refine pu_bind (fm_layStays hq.1.1 hq.2.1 (hw d h6).1 h6) ?_
    rintro τ ⟨A1, C1⟩
    have sτ := ag_sk A1
    simp only [ss_123 sτ, pu_bs]
    refine pu_bind (fm_keepHut sτ (mh_ag A1 hq.1.1 (by decide) (by decide) hq.2.2)) ?_
    rintro υ ⟨A2, H2⟩
    have R : rm_ υ b V G lw (fun i => (el d i).toInt32) (min (sz d) 30) h h := ⟨mk_ag A2 (by decide) (mk_ag A1 (by decide) hq.1), mst_ag A2 sτ (by decide) C1, H2, mh_ag A2 sτ (by decide) (by decide) (mh_ag A1 hq.1.1 (by decide) (by decide) hq.2.2)⟩
    have A3 : ag_ b LM_ σ υ := ag_tr (ag_mo (by decide) A1) (ag_mo (by decide) A2)
    have s2 := R.1.1
    simp only [si_636 s2, pu_bs, R.2.1.1]
    by_cases c : min (sz d) 30 = 0
    · rw [if_pos c, if_pos (by rw [c]; rfl)]
      simp only [sg_611 s2, al_130 s2 (show t < 48 by omega), pu_bs, R.2.2.2 t (by omega)]
      exact pu_mono (lm_lowest h4 (min (sz d) 30) 0 υ 1000 h _ (by omega) (by omega) R) (fun r hr => ⟨hr.1, ag_tr A3 (ag_mo (by decide) hr.2.1), hr.2.2⟩)
    · rw [if_neg c, if_neg (fun z => c ((nl_eq_0 (by omega)).mp z))]
      exact pu_mono (lm_lowest h4 (min (sz d) 30) 0 υ 1000 h _ (by omega) (by omega) R) (fun r hr => ⟨hr.1, ag_tr A3 (ag_mo (by decide) hr.2.1), hr.2.2⟩)

def sp_bw (V : sp_V) (G : Nat) (lw : sp_W) (s : Nat → Int32) (t : Nat) (x : Int32) : Nat → Nat → sp_H → Int32
  | 0, _, _ => -2
  | m + 1, i, h => if sp_go V G lw (s i) h t < x then Int32.ofNat i else sp_bw V G lw s t x m (i + 1) (sp_go V G lw (s i) h)
theorem lx_below {t : Nat} {x : Int32} (h4 : t < 4) : ∀ m i σ q h, i + m = n → m < q → rx_ σ b ga V G lw s n h → pu_ok (F_X0_below_56 q σ (some b) (Int32.ofNat t) x (Int32.ofNat i)) (fun r => r.1 = sp_bw V G lw s t x m i h ∧ ag_ b [5, 11] σ r.2) := by
  intro m
  induction m with
  | zero =>
    intro i σ q h hi hq R
    obtain ⟨q, rfl⟩ : ∃ z, q = z + 1 := ⟨q - 1, by omega⟩
    have s0 := R.1.1
    have hn := R.2.1.2.1
    unfold F_X0_below_56
    simp only [si_21 s0, pu_bs, R.2.1.1]
    rw [if_pos (by rw [nu_ofle (by omega) (by omega)]; omega)]
    exact pu_ret ⟨rfl, ag_rf _ s0⟩
  | succ m ih =>
    intro i σ q h hi hq R
    obtain ⟨q, rfl⟩ : ∃ z, q = z + 1 := ⟨q - 1, by omega⟩
    have s0 := R.1.1
    have hn := R.2.1.2.1
    unfold F_X0_below_56
    simp only [si_21 s0, pu_bs, R.2.1.1]
    rw [if_neg (by rw [nu_ofle (by omega) (by omega)]; omega)]
    simp only [sg_19 s0, sg_20 s0, hu_is s0 m17, al_22 s0 (show i < 30 by omega), R.2.1.2.2 i (by omega), pu_bs, nl_ar_1]
    refine pu_bind (fx_stp R _) ?_
    rintro υ ⟨A, R⟩
    have s1 := R.1.1
    simp only [sg_19 s1, hu_400 s1 m17, hu_l1 s1 m17 h4, pu_bs, R.2.2.1.1 t h4]
    unfold sp_bw
    by_cases c : sp_go V G lw (s i) h t < x
    · rw [if_pos c, if_neg (fun z => absurd (Int32.lt_of_lt_of_le c z) Int32.lt_irrefl)]
      exact pu_ret ⟨rfl, A⟩
    · rw [if_neg c, if_pos ((Int32.lt_or_le _ _).resolve_left c)]
      exact pu_mono (ih (i + 1) υ q _  (by omega) (by omega) R) (fun r hr => ⟨hr.1, ag_tr A hr.2⟩)

theorem lm_below1 {k : sp_H} {t i : Nat} {x : Int32} (hi : i < 30) (q : Nat) (j : Int32) (R : rm_ σ b V G lw s n k h) : pu_ok (F_X6_below_56 (q + 1) σ (some (b + 123)) (Int32.ofNat t) x (Int32.ofNat i) j) (fun r => r.1 = Int32.ofNat i ∧ ag_ b [24, 25, 54, 55] σ r.2 ∧ mh_ r.2 b 130 k) := by
  have s0 := R.1.1
  unfold F_X6_below_56
  simp only [si_636 s0, pu_bs, ss_123 s0, if_pos (show (0 : Int32) ≤ Int32.ofNat i from (nl_le_0 (by omega)).mpr (by omega))]
  split
  · exact fm_end R _
  · exact fm_end R _
theorem lm_below {k : sp_H} {t : Nat} {x : Int32} (h4 : t < 4) : ∀ m i σ q h, i + m = n → m < q → rm_ σ b V G lw s n k h → pu_ok (F_X6_below_56 q σ (some (b + 123)) (Int32.ofNat t) x (-2) (Int32.ofNat i)) (fun r => r.1 = sp_bw V G lw s t x m i h ∧ ag_ b [24, 25, 54, 55] σ r.2 ∧ mh_ r.2 b 130 k) := by
  intro m
  induction m with
  | zero =>
    intro i σ q h hi hq R
    obtain ⟨q, rfl⟩ : ∃ z, q = z + 1 := ⟨q - 1, by omega⟩
    have s0 := R.1.1
    have hn := R.2.1.2.1
    unfold F_X6_below_56
    simp only [si_636 s0, pu_bs, R.2.1.1]
    rw [if_pos (by rw [nu_ofle (by omega) (by omega)]; omega)]
    simp only [ss_123 s0, pu_bs]
    exact fm_end R _
  | succ m ih =>
    intro i σ q h hi hq R
    obtain ⟨q, rfl⟩ : ∃ z, q = z + 1 := ⟨q - 1, by omega⟩
    have s0 := R.1.1
    have hn := R.2.1.2.1
    unfold F_X6_below_56
    simp only [si_636 s0, pu_bs, R.2.1.1]
    rw [if_neg (by rw [nu_ofle (by omega) (by omega)]; omega), if_neg (by decide)]
    simp only [sg_635 s0, ss_123 s0, al_146 s0 (show i < 30 by omega), R.2.1.2.2 i (by omega), pu_bs, nl_ar_1]
    refine pu_bind (fm_stp R _) ?_
    rintro υ ⟨A, R⟩
    have s1 := R.1.1
    simp only [sg_611 s1, al_130 s1 (show t < 48 by omega), pu_bs, R.2.2.2 t (by omega)]
    unfold sp_bw
    by_cases c : sp_go V G lw (s i) h t < x
    · rw [if_pos c, if_neg (fun z => absurd (Int32.lt_of_lt_of_le c z) Int32.lt_irrefl)]
      obtain ⟨q, rfl⟩ : ∃ z, q = z + 1 := ⟨q - 1, by omega⟩
      exact pu_mono (lm_below1 (by omega) q _ R) (fun r hr => ⟨hr.1, ag_tr A hr.2.1, hr.2.2⟩)
    · rw [if_neg c, if_pos ((Int32.lt_or_le _ _).resolve_left c)]
      exact pu_mono (ih (i + 1) υ q _  (by omega) (by omega) R) (fun r hr => ⟨hr.1, ag_tr A hr.2.1, hr.2.2⟩)

theorem qq_below (hw : sw_ hd sz el nb) (hv : sp_hw h) (x1 x2 x3 : Int32) : qq_ b ga ra ba nb kd hd sz el V G lw h (fun σ => F_X0_below σ (some b) x1 x2 x3) (fun σ => F_X6_below σ (some (b + 123)) x1 x2 x3) := by
  by_cases c1 : 0 ≤ x1 ∧ x1 ≤ 5
  rotate_left
  · refine ⟨-1, fun σ hq => ?_, fun σ hq => ?_⟩
    · simp only [F_X0_below, fx_isShelf, ra_n c1, pu_b2s, if_true]; exact pu_ret ⟨rfl, ag_rf _ hq.1.1⟩
    · simp only [F_X6_below, fm_isShelf, ra_n c1, pu_b2s, if_true]; exact pu_ret ⟨rfl, ag_rf _ hq.1.1, hq.2.2⟩
  by_cases c2 : 0 ≤ x2 ∧ x2 ≤ 3
  rotate_left
  · refine ⟨-1, fun σ hq => ?_, fun σ hq => ?_⟩
    · simp only [F_X0_below, fx_isShelf, fx_isThing, ra_p c1, ra_n c2, pu_b2s, if_true, nu_10, if_false]; exact pu_ret ⟨rfl, ag_rf _ hq.1.1⟩
    · simp only [F_X6_below, fm_isShelf, fm_isThing, ra_p c1, ra_n c2, pu_b2s, if_true, nu_10, if_false]; exact pu_ret ⟨rfl, ag_rf _ hq.1.1, hq.2.2⟩
  by_cases c3 : 0 ≤ x3 ∧ x3 ≤ 99
  rotate_left
  · refine ⟨-1, fun σ hq => ?_, fun σ hq => ?_⟩
    · simp only [F_X0_below, fx_isShelf, fx_isThing, fx_w99, ra_p c1, ra_p c2, ra_n c3, pu_b2s, if_true, nu_10, if_false]; exact pu_ret ⟨rfl, ag_rf _ hq.1.1⟩
    · simp only [F_X6_below, fm_isShelf, fm_isThing, fm_in_, ra_p c1, ra_p c2, ra_n c3, pu_b2s, if_true, nu_10, if_false]; exact pu_ret ⟨rfl, ag_rf _ hq.1.1, hq.2.2⟩
  obtain ⟨d, rfl, h6⟩ := nu_natb (m := 5) c1.1 (by decide) c1.2
  have h6 : d < 6 := by omega
  have hz := (hw d h6).1
  obtain ⟨t, rfl, h4⟩ := nu_natb (m := 3) c2.1 (by decide) c2.2
  have h4 : t < 4 := by omega
  by_cases e2 : hd d = -2
  rotate_left
  · refine ⟨sp_rf hd d, fun σ hq => ?_, fun σ hq => ?_⟩
    · have s0 := hq.1.1
      simp only [F_X0_below, fx_isShelf, fx_isThing, fx_w99, ra_p c1, ra_p c2, ra_p c3, pu_b2s, nu_10, if_false, ss_0 s0, pu_bs, fx_takesN hq.1 hq.2.1 hq.2.2.1 hw h6 e2, if_neg (rf_n e2).2.2, fx_lookAt s0 hq.2.1 hq.2.2.1 hw h6]; exact pu_ret ⟨rfl, ag_rf _ s0⟩
    · have s0 := hq.1.1
      simp only [F_X6_below, fm_isShelf, fm_isThing, fm_in_, ra_p c1, ra_p c2, ra_p c3, pu_b2s, nu_10, if_false, ss_123 s0, pu_bs, fm_rowFault s0 hq.2.1 h6, if_neg (rf_n e2).2.2]; exact pu_ret ⟨rfl, ag_rf _ s0, hq.2.2⟩
  refine ⟨sp_bw V G lw (fun i => (el d i).toInt32) t x3 (min (sz d) 30) 0 h, fun σ hq => ?_, fun σ hq => ?_⟩
  · have s0 := hq.1.1
    simp only [F_X0_below, fx_isShelf, fx_isThing, fx_w99, ra_p c1, ra_p c2, ra_p c3, pu_b2s, nu_10, if_false, ss_0 s0, pu_bs]
    refine pu_b2 (fx_takes hq.1 hq.2.1 hq.2.2.1 hw h6 e2) ?_
    rintro v τ ⟨rfl, A1, C1⟩
    dsimp only at A1 C1
    have sτ := ag_sk A1
    rw [if_pos (by decide)]
    simp only [sg_19 sτ, sg_18 sτ, hu_is sτ m17, pu_bs]
    refine pu_bind (fx_beAs sτ m17 m12 (by decide) hv (xh_ag A1 hq.1.1 m12 (by decide) hq.2.2.2)) ?_
    rintro υ ⟨A2, H2⟩
    have R : rx_ υ b ga V G lw (fun i => (el d i).toInt32) (min (sz d) 30) h := ⟨xk_ag A2 (by decide) (xk_ag A1 (by decide) hq.1), xcm_ag A2 sτ (by decide) C1, H2, hv⟩
    have A3 : ag_ b LX_ σ υ := ag_tr (ag_mo (by decide) A1) (ag_mo (by decide) A2)
    exact pu_mono (lx_below h4 (min (sz d) 30) 0 υ 1000 h (by omega) (by omega) R) (fun r hr => ⟨hr.1, ag_tr A3 (ag_mo (by decide) hr.2)⟩)
  · have s0 := hq.1.1
    simp only [F_X6_below, fm_isShelf, fm_isThing, fm_in_, ra_p c1, ra_p c2, ra_p c3, pu_b2s, nu_10, if_false, ss_123 s0, pu_bs, fm_rowFault s0 hq.2.1 h6, rf_0 e2]
    rw [if_pos (by decide)]
    refine pu_bind (fm_layStays hq.1.1 hq.2.1 (hw d h6).1 h6) ?_
    rintro τ ⟨A1, C1⟩
    have sτ := ag_sk A1
    simp only [ss_123 sτ, pu_bs]
    refine pu_bind (fm_keepHut sτ (mh_ag A1 hq.1.1 (by decide) (by decide) hq.2.2)) ?_
    rintro υ ⟨A2, H2⟩
    have R : rm_ υ b V G lw (fun i => (el d i).toInt32) (min (sz d) 30) h h := ⟨mk_ag A2 (by decide) (mk_ag A1 (by decide) hq.1), mst_ag A2 sτ (by decide) C1, H2, mh_ag A2 sτ (by decide) (by decide) (mh_ag A1 hq.1.1 (by decide) (by decide) hq.2.2)⟩
    have A3 : ag_ b LM_ σ υ := ag_tr (ag_mo (by decide) A1) (ag_mo (by decide) A2)
    exact pu_mono (lm_below h4 (min (sz d) 30) 0 υ 1000 h (by omega) (by omega) R) (fun r hr => ⟨hr.1, ag_tr A3 (ag_mo (by decide) hr.2.1), hr.2.2⟩)

def sp_si (V : sp_V) (G : Nat) (lw : sp_W) (s : Nat → Int32) (t : Nat) (x : Int32) : Nat → Nat → sp_H → Int32 → Int32
  | 0, _, _, y => y
  | m + 1, i, h, y => sp_si V G lw s t x m (i + 1) (sp_go V G lw (s i) h) (if x < sp_lk V (sp_go V G lw (s i) h) t then y else Int32.ofNat i)
theorem lx_since {t : Nat} {x : Int32} (h4 : t < 4) : ∀ m i σ q h y, i + m = n → m < q → rx_ σ b ga V G lw s n h → pu_ok (F_X0_since_60 q σ (some b) (Int32.ofNat t) x y (Int32.ofNat i)) (fun r => r.1 = sp_si V G lw s t x m i h y ∧ ag_ b [5, 11] σ r.2) := by
  intro m
  induction m with
  | zero =>
    intro i σ q h y hi hq R
    obtain ⟨q, rfl⟩ : ∃ z, q = z + 1 := ⟨q - 1, by omega⟩
    have s0 := R.1.1
    have hn := R.2.1.2.1
    unfold F_X0_since_60
    simp only [si_21 s0, pu_bs, R.2.1.1]
    rw [if_pos (by rw [nu_ofle (by omega) (by omega)]; omega)]
    exact pu_ret ⟨rfl, ag_rf _ s0⟩
  | succ m ih =>
    intro i σ q h y hi hq R
    obtain ⟨q, rfl⟩ : ∃ z, q = z + 1 := ⟨q - 1, by omega⟩
    have s0 := R.1.1
    have hn := R.2.1.2.1
    unfold F_X0_since_60
    simp only [si_21 s0, pu_bs, R.2.1.1]
    rw [if_neg (by rw [nu_ofle (by omega) (by omega)]; omega)]
    simp only [sg_19 s0, sg_20 s0, hu_is s0 m17, al_22 s0 (show i < 30 by omega), R.2.1.2.2 i (by omega), pu_bs, nl_ar_1]
    refine pu_bind (fx_stp R _) ?_
    rintro υ ⟨A, R⟩
    have s1 := R.1.1
    simp only [sg_19 s1, hu_is s1 m17, pu_bs, fx_lacks s1 R.1.2.1 R.1.2.2.2 m17 R.2.2.2 R.2.2.1 h4, pu_b2s]
    unfold sp_si
    by_cases c : x < sp_lk V (sp_go V G lw (s i) h) t
    · rw [if_pos c, if_pos c]
      exact pu_mono (ih (i + 1) υ q _ _ (by omega) (by omega) R) (fun r hr => ⟨hr.1, ag_tr A hr.2⟩)
    · rw [if_neg c, if_neg c]
      exact pu_mono (ih (i + 1) υ q _ _ (by omega) (by omega) R) (fun r hr => ⟨hr.1, ag_tr A hr.2⟩)

theorem lm_since {k : sp_H} {t : Nat} {x : Int32} (h4 : t < 4) : ∀ m i σ q h y, i + m = n → m < q → rm_ σ b V G lw s n k h → pu_ok (F_X6_since_56 q σ (some (b + 123)) (Int32.ofNat t) x y (Int32.ofNat i)) (fun r => r.1 = sp_si V G lw s t x m i h y ∧ ag_ b [24, 25, 54, 55] σ r.2 ∧ mh_ r.2 b 130 k) := by
  intro m
  induction m with
  | zero =>
    intro i σ q h y hi hq R
    obtain ⟨q, rfl⟩ : ∃ z, q = z + 1 := ⟨q - 1, by omega⟩
    have s0 := R.1.1
    have hn := R.2.1.2.1
    unfold F_X6_since_56
    simp only [si_636 s0, pu_bs, R.2.1.1]
    rw [if_pos (by rw [nu_ofle (by omega) (by omega)]; omega)]
    simp only [ss_123 s0, pu_bs]
    exact fm_end R _
  | succ m ih =>
    intro i σ q h y hi hq R
    obtain ⟨q, rfl⟩ : ∃ z, q = z + 1 := ⟨q - 1, by omega⟩
    have s0 := R.1.1
    have hn := R.2.1.2.1
    unfold F_X6_since_56
    simp only [si_636 s0, pu_bs, R.2.1.1]
    rw [if_neg (by rw [nu_ofle (by omega) (by omega)]; omega)]
    simp only [sg_635 s0, ss_123 s0, al_146 s0 (show i < 30 by omega), R.2.1.2.2 i (by omega), pu_bs, nl_ar_1]
    refine pu_bind (fm_stp R _) ?_
    rintro υ ⟨A, R⟩
    have s1 := R.1.1
    simp only [ss_123 s1, pu_bs, fm_lacks s1 R.1.2.2.1 R.2.2.2 h4, pu_b2s]
    unfold sp_si
    by_cases c : x < sp_lk V (sp_go V G lw (s i) h) t
    · rw [if_pos c, if_pos c]
      exact pu_mono (ih (i + 1) υ q _ _ (by omega) (by omega) R) (fun r hr => ⟨hr.1, ag_tr A hr.2.1, hr.2.2⟩)
    · rw [if_neg c, if_neg c]
      exact pu_mono (ih (i + 1) υ q _ _ (by omega) (by omega) R) (fun r hr => ⟨hr.1, ag_tr A hr.2.1, hr.2.2⟩)

theorem qq_since (hw : sw_ hd sz el nb) (hv : sp_hw h) (x1 x2 x3 : Int32) : qq_ b ga ra ba nb kd hd sz el V G lw h (fun σ => F_X0_since σ (some b) x1 x2 x3) (fun σ => F_X6_since σ (some (b + 123)) x1 x2 x3) := by
  by_cases c1 : 0 ≤ x1 ∧ x1 ≤ 5
  rotate_left
  · refine ⟨-1, fun σ hq => ?_, fun σ hq => ?_⟩
    · simp only [F_X0_since, fx_isShelf, ra_n c1, pu_b2s, if_true]; exact pu_ret ⟨rfl, ag_rf _ hq.1.1⟩
    · simp only [F_X6_since, fm_isShelf, ra_n c1, pu_b2s, if_true]; exact pu_ret ⟨rfl, ag_rf _ hq.1.1, hq.2.2⟩
  by_cases c2 : 0 ≤ x2 ∧ x2 ≤ 3
  rotate_left
  · refine ⟨-1, fun σ hq => ?_, fun σ hq => ?_⟩
    · simp only [F_X0_since, fx_isShelf, fx_isThing, ra_p c1, ra_n c2, pu_b2s, if_true, nu_10, if_false]; exact pu_ret ⟨rfl, ag_rf _ hq.1.1⟩
    · simp only [F_X6_since, fm_isShelf, fm_isThing, ra_p c1, ra_n c2, pu_b2s, if_true, nu_10, if_false]; exact pu_ret ⟨rfl, ag_rf _ hq.1.1, hq.2.2⟩
  by_cases c3 : 0 ≤ x3 ∧ x3 ≤ 99
  rotate_left
  · refine ⟨-1, fun σ hq => ?_, fun σ hq => ?_⟩
    · simp only [F_X0_since, fx_isShelf, fx_isThing, fx_w99, ra_p c1, ra_p c2, ra_n c3, pu_b2s, if_true, nu_10, if_false]; exact pu_ret ⟨rfl, ag_rf _ hq.1.1⟩
    · simp only [F_X6_since, fm_isShelf, fm_isThing, fm_in_, ra_p c1, ra_p c2, ra_n c3, pu_b2s, if_true, nu_10, if_false]; exact pu_ret ⟨rfl, ag_rf _ hq.1.1, hq.2.2⟩
  obtain ⟨d, rfl, h6⟩ := nu_natb (m := 5) c1.1 (by decide) c1.2
  have h6 : d < 6 := by omega
  have hz := (hw d h6).1
  obtain ⟨t, rfl, h4⟩ := nu_natb (m := 3) c2.1 (by decide) c2.2
  have h4 : t < 4 := by omega
  by_cases e2 : hd d = -2
  rotate_left
  · refine ⟨sp_rf hd d, fun σ hq => ?_, fun σ hq => ?_⟩
    · have s0 := hq.1.1
      simp only [F_X0_since, fx_isShelf, fx_isThing, fx_w99, ra_p c1, ra_p c2, ra_p c3, pu_b2s, nu_10, if_false, ss_0 s0, pu_bs, fx_takesN hq.1 hq.2.1 hq.2.2.1 hw h6 e2, if_neg (rf_n e2).2.2, fx_lookAt s0 hq.2.1 hq.2.2.1 hw h6]; exact pu_ret ⟨rfl, ag_rf _ s0⟩
    · have s0 := hq.1.1
      simp only [F_X6_since, fm_isShelf, fm_isThing, fm_in_, ra_p c1, ra_p c2, ra_p c3, pu_b2s, nu_10, if_false, ss_123 s0, pu_bs, fm_rowFault s0 hq.2.1 h6, if_neg (rf_n e2).2.2]; exact pu_ret ⟨rfl, ag_rf _ s0, hq.2.2⟩
  refine ⟨sp_si V G lw (fun i => (el d i).toInt32) t x3 (min (sz d) 30) 0 h (-2), fun σ hq => ?_, fun σ hq => ?_⟩
  · have s0 := hq.1.1
    simp only [F_X0_since, fx_isShelf, fx_isThing, fx_w99, ra_p c1, ra_p c2, ra_p c3, pu_b2s, nu_10, if_false, ss_0 s0, pu_bs]
    refine pu_b2 (fx_takes hq.1 hq.2.1 hq.2.2.1 hw h6 e2) ?_
    rintro v τ ⟨rfl, A1, C1⟩
    dsimp only at A1 C1
    have sτ := ag_sk A1
    rw [if_pos (by decide)]
    simp only [sg_19 sτ, sg_18 sτ, hu_is sτ m17, pu_bs]
    refine pu_bind (fx_beAs sτ m17 m12 (by decide) hv (xh_ag A1 hq.1.1 m12 (by decide) hq.2.2.2)) ?_
    rintro υ ⟨A2, H2⟩
    have R : rx_ υ b ga V G lw (fun i => (el d i).toInt32) (min (sz d) 30) h := ⟨xk_ag A2 (by decide) (xk_ag A1 (by decide) hq.1), xcm_ag A2 sτ (by decide) C1, H2, hv⟩
    have A3 : ag_ b LX_ σ υ := ag_tr (ag_mo (by decide) A1) (ag_mo (by decide) A2)
    exact pu_mono (lx_since h4 (min (sz d) 30) 0 υ 1000 h _ (by omega) (by omega) R) (fun r hr => ⟨hr.1, ag_tr A3 (ag_mo (by decide) hr.2)⟩)
  · have s0 := hq.1.1
    simp only [F_X6_since, fm_isShelf, fm_isThing, fm_in_, ra_p c1, ra_p c2, ra_p c3, pu_b2s, nu_10, if_false, ss_123 s0, pu_bs, fm_rowFault s0 hq.2.1 h6, rf_0 e2]
    rw [if_pos (by decide)]
    refine pu_bind (fm_layStays hq.1.1 hq.2.1 (hw d h6).1 h6) ?_
    rintro τ ⟨A1, C1⟩
    have sτ := ag_sk A1
    simp only [ss_123 sτ, pu_bs]
    refine pu_bind (fm_keepHut sτ (mh_ag A1 hq.1.1 (by decide) (by decide) hq.2.2)) ?_
    rintro υ ⟨A2, H2⟩
    have R : rm_ υ b V G lw (fun i => (el d i).toInt32) (min (sz d) 30) h h := ⟨mk_ag A2 (by decide) (mk_ag A1 (by decide) hq.1), mst_ag A2 sτ (by decide) C1, H2, mh_ag A2 sτ (by decide) (by decide) (mh_ag A1 hq.1.1 (by decide) (by decide) hq.2.2)⟩
    have A3 : ag_ b LM_ σ υ := ag_tr (ag_mo (by decide) A1) (ag_mo (by decide) A2)
    exact pu_mono (lm_since h4 (min (sz d) 30) 0 υ 1000 h _ (by omega) (by omega) R) (fun r hr => ⟨hr.1, ag_tr A3 (ag_mo (by decide) hr.2.1), hr.2.2⟩)

end
