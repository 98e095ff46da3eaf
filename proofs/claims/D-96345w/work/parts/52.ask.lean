/-! ===== questions: both sides answer alike ===== -/
def LX_ : List Nat := [5, 11, 12, 13, 14, 15, 16, 17, 18, 19, 60, 61, 62, 63, 64, 65, 66]
def LM_ : List Nat := [24, 25, 31, 32, 33, 34, 35, 36, 37, 38, 39, 41, 42, 54, 55]
def qx_ (b : Nat) (ga ra ba : Nat → Nat) (nb : Nat) (kd : Nat → Nat) (hd : Nat → Int32) (sz : Nat → Nat) (el : sp_E) (V : sp_V) (G : Nat) (lw : sp_W) (h : sp_H) (σ : ah_S) : Prop := xk_ σ b ga V G lw ∧ xs_ σ b ra ba nb hd sz el ∧ xb_ σ b ba nb kd ∧ xh_ σ b 12 h
def qm_ (b : Nat) (hd : Nat → Int32) (sz : Nat → Nat) (el : sp_E) (V : sp_V) (G : Nat) (lw : sp_W) (h : sp_H) (σ : ah_S) : Prop := mk_ σ b V G lw ∧ ms_ σ b hd sz el ∧ mh_ σ b 130 h
def qq_ {α : Type} (b : Nat) (ga ra ba : Nat → Nat) (nb : Nat) (kd : Nat → Nat) (hd : Nat → Int32) (sz : Nat → Nat) (el : sp_E) (V : sp_V) (G : Nat) (lw : sp_W) (h : sp_H) (FX FM : ah_S → Option (α × ah_S)) : Prop := ∃ v, (∀ σ, qx_ b ga ra ba nb kd hd sz el V G lw h σ → pu_ok (FX σ) (fun r => r.1 = v ∧ ag_ b LX_ σ r.2)) ∧ (∀ σ, qm_ b hd sz el V G lw h σ → pu_ok (FM σ) (fun r => r.1 = v ∧ ag_ b LM_ σ r.2 ∧ mh_ r.2 b 130 h))
def rx_ (σ : ah_S) (b : Nat) (ga : Nat → Nat) (V : sp_V) (G : Nat) (lw : sp_W) (s : Nat → Int32) (n : Nat) (h : sp_H) : Prop := xk_ σ b ga V G lw ∧ xcm_ σ b G s n ∧ xh_ σ b 17 h ∧ sp_hw h
def rm_ (σ : ah_S) (b : Nat) (V : sp_V) (G : Nat) (lw : sp_W) (s : Nat → Int32) (n : Nat) (k h : sp_H) : Prop := mk_ σ b V G lw ∧ mst_ σ b s n ∧ mh_ σ b 145 k ∧ mh_ σ b 130 h
theorem m17 : 17 ∈ sk_H := by decide
theorem m12 : 12 ∈ sk_H := by decide
section
variable {σ : ah_S} {b nb G : Nat} {ga ra ba kd : Nat → Nat} {hd : Nat → Int32} {sz : Nat → Nat} {el : sp_E} {V : sp_V} {lw : sp_W} {h : sp_H} {s : Nat → Int32} {n : Nat}
theorem fx_stp (R : rx_ σ b ga V G lw s n h) (x : Int32) : pu_ok (F_X4_night σ (some (b + 17)) (sp_c G x)) (fun τ => ag_ b [5, 11] σ τ ∧ rx_ τ b ga V G lw s n (sp_go V G lw x h)) := by
  obtain ⟨r1, r2, r3, r4⟩ := R
  refine pu_mono (fx_go x r1.1 r1.2.1 r1.2.2.1 r1.2.2.2 m17 r4 r3) (fun τ hτ => ⟨hτ.1, xk_ag hτ.1 (by decide) r1, xcm_ag hτ.1 r1.1 (by decide) r2, hτ.2, sp_hwg r1.2.2.2 r1.2.1.1 r4⟩)
theorem fm_stp {k : sp_H} (R : rm_ σ b V G lw s n k h) (x : Int32) : pu_ok (F_X6_goNight σ (some (b + 123)) x) (fun τ => ag_ b [24, 25, 54, 55] σ τ ∧ rm_ τ b V G lw s n k (sp_go V G lw x h)) := by
  obtain ⟨r1, r2, r3, r4⟩ := R
  refine pu_mono (fm_go x r1.1 r1.2.1 r1.2.2.1 r1.2.2.2 r4) (fun τ hτ => ⟨hτ.1, mk_ag hτ.1 (by decide) r1, mst_ag hτ.1 r1.1 (by decide) r2, mh_ag hτ.1 r1.1 (by decide) (by decide) r3, hτ.2⟩)
/-- the end of the model's loops -/
theorem fm_end {α : Type} {k : sp_H} (R : rm_ σ b V G lw s n k h) (v : α) : pu_ok ((F_X6_layHut σ (some (b + 123))).bind fun τ => some (v, τ)) (fun r => r.1 = v ∧ ag_ b [24, 25, 54, 55] σ r.2 ∧ mh_ r.2 b 130 k) := pu_bind (fm_layHut R.1.1 R.2.2.1) (fun _ hτ => pu_ret ⟨rfl, ag_mo (by decide) hτ.1, hτ.2⟩)
/-- levels behind some nights -/
def sp_rn (V : sp_V) (G : Nat) (lw : sp_W) (s : Nat → Int32) : Nat → Nat → sp_H → sp_H
  | 0, _, h => h
  | m + 1, i, h => sp_rn V G lw s m (i + 1) (sp_go V G lw (s i) h)
theorem lx_level {t k : Nat} (ht : t < 4) (hk : k ≤ n) : ∀ m i σ q h, i + m = k → m < q → rx_ σ b ga V G lw s n h → pu_ok (F_X0_level_58 q σ (some b) (Int32.ofNat t) (Int32.ofNat k) (Int32.ofNat i)) (fun r => r.1 = sp_rn V G lw s m i h t ∧ ag_ b [5, 11] σ r.2) := by
  intro m
  induction m with
  | zero =>
    intro i σ q h hi hq R
    obtain ⟨q, rfl⟩ : ∃ z, q = z + 1 := ⟨q - 1, by omega⟩
    have s0 := R.1.1
    have hn := R.2.1.2.1
    unfold F_X0_level_58
    rw [if_pos (by rw [nu_ofle (by omega) (by omega)]; omega)]
    simp only [sg_19 s0, hu_400 s0 m17, hu_l1 s0 m17 ht, pu_bs, R.2.2.1.1 t ht]
    exact pu_ret ⟨rfl, ag_rf _ s0⟩
  | succ m ih =>
    intro i σ q h hi hq R
    obtain ⟨q, rfl⟩ : ∃ z, q = z + 1 := ⟨q - 1, by omega⟩
    have s0 := R.1.1
    have hn := R.2.1.2.1
    unfold F_X0_level_58
    rw [if_neg (by rw [nu_ofle (by omega) (by omega)]; omega)]
    simp only [sg_19 s0, sg_20 s0, hu_is s0 m17, al_22 s0 (show i < 30 by omega), R.2.1.2.2 i (by omega), pu_bs, nl_ar_1]
    refine pu_bind (fx_stp R _) ?_
    rintro υ ⟨A, R⟩
    have s1 := R.1.1
    exact pu_mono (ih (i + 1) υ q _ (by omega) (by omega) R) (fun r hr => ⟨hr.1, ag_tr A hr.2⟩)
theorem lm_level {t j : Nat} {k : sp_H} (ht : t < 4) (hj : j ≤ n) : ∀ m i σ q h, i + m = j → m < q → rm_ σ b V G lw s n k h → pu_ok (F_X6_level_56 q σ (some (b + 123)) (Int32.ofNat t) (Int32.ofNat j) (Int32.ofNat i)) (fun r => r.1 = sp_rn V G lw s m i h t ∧ ag_ b [24, 25, 54, 55] σ r.2 ∧ mh_ r.2 b 130 k) := by
  intro m
  induction m with
  | zero =>
    intro i σ q h hi hq R
    obtain ⟨q, rfl⟩ : ∃ z, q = z + 1 := ⟨q - 1, by omega⟩
    have s0 := R.1.1
    have hn := R.2.1.2.1
    unfold F_X6_level_56
    rw [if_pos (by rw [nu_ofle (by omega) (by omega)]; omega)]
    simp only [sg_611 s0, al_130 s0 (show t < 48 by omega), pu_bs, R.2.2.2 t (by omega), ss_123 s0]
    exact fm_end R _
  | succ m ih =>
    intro i σ q h hi hq R
    obtain ⟨q, rfl⟩ : ∃ z, q = z + 1 := ⟨q - 1, by omega⟩
    have s0 := R.1.1
    have hn := R.2.1.2.1
    unfold F_X6_level_56
    rw [if_neg (by rw [nu_ofle (by omega) (by omega)]; omega)]
    simp only [sg_635 s0, ss_123 s0, al_146 s0 (show i < 30 by omega), R.2.1.2.2 i (by omega), pu_bs, nl_ar_1]
    refine pu_bind (fm_stp R _) ?_
    rintro υ ⟨A, R⟩
    have s1 := R.1.1
    exact pu_mono (ih (i + 1) υ q _ (by omega) (by omega) R) (fun r hr => ⟨hr.1, ag_tr A hr.2.1, hr.2.2⟩)
theorem qq_level (hw : sw_ hd sz el nb) (hv : sp_hw h) (x1 x2 x3 : Int32) : qq_ b ga ra ba nb kd hd sz el V G lw h (fun σ => F_X0_level σ (some b) x1 x2 x3) (fun σ => F_X6_level σ (some (b + 123)) x1 x2 x3) := by
  by_cases c1 : 0 ≤ x1 ∧ x1 ≤ 5
  rotate_left
  · refine ⟨-1, fun σ hq => ?_, fun σ hq => ?_⟩
    · simp only [F_X0_level, fx_isShelf, ra_n c1, pu_b2s, if_true]; exact pu_ret ⟨rfl, ag_rf _ hq.1.1⟩
    · simp only [F_X6_level, fm_isShelf, ra_n c1, pu_b2s, if_true]; exact pu_ret ⟨rfl, ag_rf _ hq.1.1, hq.2.2⟩
  by_cases c2 : 0 ≤ x2 ∧ x2 ≤ 3
  rotate_left
  · refine ⟨-1, fun σ hq => ?_, fun σ hq => ?_⟩
    · simp only [F_X0_level, fx_isShelf, fx_isThing, ra_p c1, ra_n c2, pu_b2s, if_true, nu_10, if_false]; exact pu_ret ⟨rfl, ag_rf _ hq.1.1⟩
    · simp only [F_X6_level, fm_isShelf, fm_isThing, ra_p c1, ra_n c2, pu_b2s, if_true, nu_10, if_false]; exact pu_ret ⟨rfl, ag_rf _ hq.1.1, hq.2.2⟩
  by_cases c3 : 0 ≤ x3
  rotate_left
  · refine ⟨-1, fun σ hq => ?_, fun σ hq => ?_⟩
    · simp only [F_X0_level, fx_isShelf, fx_isThing, ra_p c1, ra_p c2, pu_b2s, if_true, nu_10, if_false, if_neg c3]; exact pu_ret ⟨rfl, ag_rf _ hq.1.1⟩
    · simp only [F_X6_level, fm_isShelf, fm_isThing, ra_p c1, ra_p c2, pu_b2s, if_true, nu_10, if_false, if_neg c3]; exact pu_ret ⟨rfl, ag_rf _ hq.1.1, hq.2.2⟩
  obtain ⟨d, rfl, h6⟩ := nu_natb (m := 5) c1.1 (by decide) c1.2
  obtain ⟨t, rfl, h4⟩ := nu_natb (m := 3) c2.1 (by decide) c2.2
  obtain ⟨k, rfl, hk⟩ := nu_nat c3
  have h6 : d < 6 := by omega
  have h4 : t < 4 := by omega
  by_cases e2 : hd d = -2
  rotate_left
  · refine ⟨sp_rf hd d, fun σ hq => ?_, fun σ hq => ?_⟩
    · have s0 := hq.1.1
      simp only [F_X0_level, fx_isShelf, fx_isThing, ra_p c1, ra_p c2, pu_b2s, if_true, nu_10, if_false, if_pos c3, ss_0 s0, pu_bs, fx_takesN hq.1 hq.2.1 hq.2.2.1 hw h6 e2, if_neg (rf_n e2).2.2, fx_lookAt s0 hq.2.1 hq.2.2.1 hw h6]; exact pu_ret ⟨rfl, ag_rf _ s0⟩
    · have s0 := hq.1.1
      simp only [F_X6_level, fm_isShelf, fm_isThing, ra_p c1, ra_p c2, pu_b2s, if_true, nu_10, if_false, if_pos c3, ss_123 s0, pu_bs, fm_rowFault s0 hq.2.1 h6, if_neg (rf_n e2).2.2]; exact pu_ret ⟨rfl, ag_rf _ s0, hq.2.2⟩
  have hz := (hw d h6).1
  refine ⟨if k ≤ min (sz d) 30 then sp_rn V G lw (fun i => (el d i).toInt32) k 0 h t else -1, fun σ hq => ?_, fun σ hq => ?_⟩
  · have s0 := hq.1.1
    simp only [F_X0_level, fx_isShelf, fx_isThing, ra_p c1, ra_p c2, pu_b2s, nu_10, if_false, if_pos c3, ss_0 s0, pu_bs]
    refine pu_b2 (fx_takes hq.1 hq.2.1 hq.2.2.1 hw h6 e2) ?_
    rintro v τ ⟨rfl, A1, C1⟩
    dsimp only at A1 C1
    have sτ := ag_sk A1
    rw [if_pos (by decide)]
    simp only [si_21 sτ, pu_bs, C1.1]
    by_cases c : k ≤ min (sz d) 30
    · rw [if_pos c, if_pos ((nu_ofle hk (by omega)).mpr c)]
      simp only [sg_19 sτ, sg_18 sτ, hu_is sτ m17, pu_bs]
      refine pu_bind (fx_beAs sτ m17 m12 (by decide) hv (xh_ag A1 hq.1.1 m12 (by decide) hq.2.2.2)) ?_
      rintro υ ⟨A2, H2⟩
      have R : rx_ υ b ga V G lw (fun i => (el d i).toInt32) (min (sz d) 30) h := ⟨xk_ag A2 (by decide) (xk_ag A1 (by decide) hq.1), xcm_ag A2 sτ (by decide) C1, H2, hv⟩
      have A3 : ag_ b LX_ σ υ := ag_tr (ag_mo (by decide) A1) (ag_mo (by decide) A2)
      exact pu_mono (lx_level h4 c k 0 υ 1000 h (by omega) (by omega) R) (fun r hr => ⟨hr.1, ag_tr A3 (ag_mo (by decide) hr.2)⟩)
    · rw [if_neg c, if_neg (fun q => c ((nu_ofle hk (by omega)).mp q))]
      exact pu_ret ⟨rfl, ag_mo (by decide) A1⟩
  · have s0 := hq.1.1
    simp only [F_X6_level, fm_isShelf, fm_isThing, ra_p c1, ra_p c2, pu_b2s, nu_10, if_false, if_pos c3, ss_123 s0, pu_bs, fm_rowFault s0 hq.2.1 h6, rf_0 e2]
    rw [if_pos (by decide)]
    refine pu_bind (fm_layStays hq.1.1 hq.2.1 (hw d h6).1 h6) ?_
    rintro τ ⟨A1, C1⟩
    have sτ := ag_sk A1
    simp only [si_636 sτ, pu_bs, C1.1]
    by_cases c : k ≤ min (sz d) 30
    · rw [if_pos c, if_pos ((nu_ofle hk (by omega)).mpr c)]
      simp only [ss_123 sτ, pu_bs]
      refine pu_bind (fm_keepHut sτ (mh_ag A1 hq.1.1 (by decide) (by decide) hq.2.2)) ?_
      rintro υ ⟨A2, H2⟩
      have R : rm_ υ b V G lw (fun i => (el d i).toInt32) (min (sz d) 30) h h := ⟨mk_ag A2 (by decide) (mk_ag A1 (by decide) hq.1), mst_ag A2 sτ (by decide) C1, H2, mh_ag A2 sτ (by decide) (by decide) (mh_ag A1 hq.1.1 (by decide) (by decide) hq.2.2)⟩
      have A3 : ag_ b LM_ σ υ := ag_tr (ag_mo (by decide) A1) (ag_mo (by decide) A2)
      exact pu_mono (lm_level h4 c k 0 υ 1000 h (by omega) (by omega) R) (fun r hr => ⟨hr.1, ag_tr A3 (ag_mo (by decide) hr.2.1), hr.2.2⟩)
    · rw [if_neg c, if_neg (fun q => c ((nu_ofle hk (by omega)).mp q))]
      exact pu_ret ⟨rfl, ag_mo (by decide) A1, mh_ag A1 hq.1.1 (by decide) (by decide) hq.2.2⟩
end
