/-! ===== night, image, back, count ===== -/
def sp_de (d : Nat → Int32) (L x : Int32) : Nat → Int32 := fun i => if i = 0 then d 0 + 1 else if i = 1 then d 1 + L else if L ≤ d 2 then d i else if i = 2 then L else x
section
variable {σ : ah_S} {b : Nat} {z : sp_Z}
theorem op_night (hS : SW_ z) (hX : XW_ b z σ) (x : Int32) : op_ b z σ (fun σ => F_X0_night σ (some b) x) (fun σ => F_X6_night σ (some (b + 123)) x) := by
  have s0 := XW_sk hX
  obtain ⟨⟨V, G, lw⟩, ⟨h, d, im⟩, R, S, T, U, W⟩ := z
  have hG : G ≤ 7 := hS.2.2.2.2.2.2.2.2.1
  by_cases c : 0 ≤ x ∧ x < Int32.ofNat G
  rotate_left
  · have c' : ¬ (0 ≤ x ∧ x ≤ Int32.ofNat G - 1) := by rw [nu_lem1 (by omega)]; exact c
    refine op_ret (-1) hS hX ?_ (fun τ hM => ?_)
    · obtain ⟨ga, ra, ba, h1, -⟩ := hX
      have hp : xp_ σ b ga V G := h1.1.2.1
      simp only [F_X0_night, ss_0 s0, pu_bs, fx_isGuest x s0 hp, ra_n c', pu_b2s, if_true]
    · have hp : mp_ τ b V G := hM.1.1.2.2.1
      simp only [F_X6_night, ss_123 hM.1.1.1, pu_bs, fm_isGuest x hM.1.1.1 hp, ra_n c', pu_b2s, if_true]
  have c' : 0 ≤ x ∧ x ≤ Int32.ofNat G - 1 := by rw [nu_lem1 (by omega)]; exact c
  obtain ⟨g, rfl, hg⟩ := nu_natl c.1 (by omega) c.2
  have hg7 : g < 7 := by omega
  have hv : sp_hw h := hS.2.1
  have hr : sp_rg G V := hS.2.2.2.2.2.2.2.2.2.2.2.1
  have hv' : sp_hw (sp_nt V lw g h) := sp_hwn hr hv hg7
  generalize hL : sp_ls V (sp_nt V lw g h) = L
  refine ⟨L, ((V, G, lw), (sp_nt V lw g h, sp_de d L (Int32.ofNat g), im), R, S, T, U, W), ?_, ?_, fun τ hM => ?_⟩
  · obtain ⟨a1, a2, a3, a4, a5, a6, a7, a8, a9, b1, b2, b3, b4, b5⟩ := hS
    refine ⟨a1, hv', a3, a4, a5, a6, a7, a8, a9, b1, b2, b3, fun j q1 q2 => ?_, b5⟩
    show sp_nt V lw g h (13 + j) = 0
    have q1 : G ≤ j := q1
    rw [nt_bn q2, if_neg (by omega)]; exact b4 j q1 q2
  · obtain ⟨ga, ra, ba, h1, h2, h3, h5, h6, h7⟩ := hX
    have hk : xk_ σ b ga V G lw := h1.1
    show pu_ok (F_X0_night σ (some b) (Int32.ofNat g)) _
    simp only [F_X0_night, ss_0 s0, pu_bs, fx_isGuest _ s0 hk.2.1, ra_p c', pu_b2s, nu_10, if_false, sg_18 s0, hu_is s0 m12]
    refine pu_bind (fx_night s0 hk.2.1 hk.2.2.1 hk.2.2.2 m12 hg hv h1.2.2.2) ?_
    rintro υ ⟨A, H⟩
    have A : ag_ b [4, 11] σ υ := A
    have s1 := ag_sk A
    have hk1 := xk_ag A (by decide) hk
    have D : xd_ υ b 65 d := xd_ag A s0 (by decide) (by decide) h2
    rw [sg_18 s1, pu_bs, hu_is s1 m12, pu_bs, fx_loss s1 hk1.2.1 hk1.2.2.2 m12 hv' H, pu_b2s, hL, sg_33 s1, pu_bs, al_65_0 s1, pu_bs, D 0 (by decide), aw_65_0 s1, pu_bs]
    have s2 : sk_ok (ah_sA υ (b + 65) 0 (d 0 + 1)) b := s1
    rw [sg_33 s2, pu_bs, al_65_1 s2, pu_bs, rw_ai_sA, if_pos rfl, if_neg (by decide), D 1 (by decide), aw_65_1 s2, pu_bs]
    have s3 : sk_ok (ah_sA (ah_sA υ (b + 65) 0 (d 0 + 1)) (b + 65) 1 (d 1 + L)) b := s1
    have e2 : ah_ai (ah_sA (ah_sA υ (b + 65) 0 (d 0 + 1)) (b + 65) 1 (d 1 + L)) (b + 65) 2 = d 2 := by rw [rw_ai_sA, if_pos rfl, if_neg (by decide), rw_ai_sA, if_pos rfl, if_neg (by decide)]; exact D 2 (by decide)
    rw [sg_33 s3, pu_bs, al_65_2 s3, pu_bs, e2]
    have l65 : ∀ ρ : ah_S, lb_a b ρ (b + 65) ∈ [6] := fun ρ => lb_sc (by decide) rfl (by decide)
    have fin : ∀ φ, ag_ b [6] υ φ → xd_ φ b 65 (sp_de d L (Int32.ofNat g)) → XW_ b ((V, G, lw), (sp_nt V lw g h, sp_de d L (Int32.ofNat g), im), R, S, T, U, W) φ ∧ ag_ b LXa_ σ φ ∧ ah_nx φ ≤ ah_nx σ + 1000 := fun φ B Dφ => by
      have AB : ag_ b [4, 6, 11] σ φ := ag_tr (ag_mo (by decide) A) (ag_mo (by decide) B)
      refine ⟨⟨ga, ra, ba, ⟨xk_ag AB (by decide) h1.1, xs_ag AB s0 (by decide) h1.2.1, xb_ag AB s0 (by decide) (by decide) h1.2.2.1, xh_ag B s1 m12 (by decide) H⟩, Dφ, xm_ag AB s0 (by decide) h3, xtp_ag AB s0 (by decide) h5, xch_ag AB s0 (by decide) hS.2.2.2.2.2.2.1 h6, xtr_ag AB s0 (by decide) h7⟩, ag_mo (by decide) AB, ?_⟩
      have := AB.2.2.1 (by decide)
      omega
    by_cases e : L ≤ d 2
    · rw [if_pos e]
      refine pu_ret ⟨rfl, fin _ (ag_wA (ag_wA (ag_rf _ s1) (fun _ => l65 _)) (fun _ => l65 _)) (fun i hi => ?_)⟩
      unfold sp_de
      rw [rw_ai_sA, if_pos rfl, rw_ai_sA, if_pos rfl, if_pos e]
      match i, hi with
      | 0, _ => rfl
      | 1, _ => rfl
      | 2, _ => exact D 2 (by decide)
      | 3, _ => exact D 3 (by decide)
    · rw [if_neg e, pu_bs, aw_65_2 s3, pu_bs]
      have s4 : sk_ok (ah_sA (ah_sA (ah_sA υ (b + 65) 0 (d 0 + 1)) (b + 65) 1 (d 1 + L)) (b + 65) 2 L) b := s1
      rw [sg_33 s4, pu_bs, aw_65_3 s4, pu_bs]
      refine pu_ret ⟨rfl, fin _ (ag_wA (ag_wA (ag_wA (ag_wA (ag_rf _ s1) (fun _ => l65 _)) (fun _ => l65 _)) (fun _ => l65 _)) (fun _ => l65 _)) (fun i hi => ?_)⟩
      unfold sp_de
      rw [rw_ai_sA, if_pos rfl, rw_ai_sA, if_pos rfl, rw_ai_sA, if_pos rfl, rw_ai_sA, if_pos rfl, if_neg e]
      match i, hi with
      | 0, _ => rfl
      | 1, _ => rfl
      | 2, _ => rfl
      | 3, _ => rfl
  · obtain ⟨q, h2, h3, h5, h6, h7, h8⟩ := hM
    have sτ := q.1.1
    have hk : mk_ τ b V G lw := q.1
    show pu_ok (F_X6_night τ (some (b + 123)) (Int32.ofNat g)) _
    simp only [F_X6_night, ss_123 sτ, pu_bs, fm_isGuest _ sτ hk.2.2.1, ra_p c', pu_b2s, nu_10, if_false]
    refine pu_bind (fm_nightOf sτ hG hk.2.2.1 hk.2.2.2 hg q.2.2) ?_
    rintro υ ⟨A, H⟩
    have s1 := ag_sk A
    have hk1 := mk_ag A (by decide) hk
    have D : xd_ υ b 154 d := xd_ag A sτ (by decide) (by decide) h3
    rw [ss_123 s1, pu_bs, fm_loss s1 hk1.2.2.1 H, pu_b2s, hL, sg_648 s1, pu_bs, al_154_0 s1, pu_bs, D 0 (by decide), aw_154_0 s1, pu_bs]
    have s2 : sk_ok (ah_sA υ (b + 154) 0 (d 0 + 1)) b := s1
    rw [sg_648 s2, pu_bs, al_154_1 s2, pu_bs, rw_ai_sA, if_pos rfl, if_neg (by decide), D 1 (by decide), aw_154_1 s2, pu_bs]
    have s3 : sk_ok (ah_sA (ah_sA υ (b + 154) 0 (d 0 + 1)) (b + 154) 1 (d 1 + L)) b := s1
    have e2 : ah_ai (ah_sA (ah_sA υ (b + 154) 0 (d 0 + 1)) (b + 154) 1 (d 1 + L)) (b + 154) 2 = d 2 := by rw [rw_ai_sA, if_pos rfl, if_neg (by decide), rw_ai_sA, if_pos rfl, if_neg (by decide)]; exact D 2 (by decide)
    rw [sg_648 s3, pu_bs, al_154_2 s3, pu_bs, e2]
    have l65 : ∀ ρ : ah_S, lb_a b ρ (b + 154) ∈ [26] := fun ρ => lb_sc (by decide) rfl (by decide)
    have fin : ∀ φ, ag_ b [26] υ φ → xd_ φ b 154 (sp_de d L (Int32.ofNat g)) → MW_ b ((V, G, lw), (sp_nt V lw g h, sp_de d L (Int32.ofNat g), im), R, S, T, U, W) φ ∧ ag_ b LMa_ τ φ := fun φ B Dφ => by
      have AB : ag_ b [24, 25, 26, 54, 55] τ φ := ag_tr (ag_mo (by decide) A) (ag_mo (by decide) B)
      exact ⟨⟨⟨mk_ag AB (by decide) q.1, ms_ag AB sτ (by decide) q.2.1, mh_ag B s1 (by decide) (by decide) H⟩, mb_ag AB sτ (by decide) h2, Dφ, mm_ag AB sτ (by decide) h5, mtp_ag AB sτ (by decide) h6, mch_ag AB sτ (by decide) h7, mtr_ag AB sτ (by decide) h8⟩, ag_mo (by decide) AB⟩
    by_cases e : L ≤ d 2
    · rw [if_pos e]
      refine pu_ret ⟨rfl, fin _ (ag_wA (ag_wA (ag_rf _ s1) (fun _ => l65 _)) (fun _ => l65 _)) (fun i hi => ?_)⟩
      unfold sp_de
      rw [rw_ai_sA, if_pos rfl, rw_ai_sA, if_pos rfl, if_pos e]
      match i, hi with
      | 0, _ => rfl
      | 1, _ => rfl
      | 2, _ => exact D 2 (by decide)
      | 3, _ => exact D 3 (by decide)
    · rw [if_neg e, pu_bs, aw_154_2 s3, pu_bs]
      have s4 : sk_ok (ah_sA (ah_sA (ah_sA υ (b + 154) 0 (d 0 + 1)) (b + 154) 1 (d 1 + L)) (b + 154) 2 L) b := s1
      rw [sg_648 s4, pu_bs, aw_154_3 s4, pu_bs]
      refine pu_ret ⟨rfl, fin _ (ag_wA (ag_wA (ag_wA (ag_wA (ag_rf _ s1) (fun _ => l65 _)) (fun _ => l65 _)) (fun _ => l65 _)) (fun _ => l65 _)) (fun i hi => ?_)⟩
      unfold sp_de
      rw [rw_ai_sA, if_pos rfl, rw_ai_sA, if_pos rfl, rw_ai_sA, if_pos rfl, rw_ai_sA, if_pos rfl, if_neg e]
      match i, hi with
      | 0, _ => rfl
      | 1, _ => rfl
      | 2, _ => rfl
      | 3, _ => rfl
theorem m66 : 66 ∈ sk_H := by decide
theorem op_image (hS : SW_ z) (hX : XW_ b z σ) : op_ b z σ (fun σ => F_X0_image σ (some b)) (fun σ => F_X6_image σ (some (b + 123))) := by
  have s0 := XW_sk hX
  obtain ⟨⟨V, G, lw⟩, ⟨h, d, im⟩, R, S, T, U, W⟩ := z
  have hv : sp_hw h := hS.2.1
  refine ⟨d 0, ((V, G, lw), (h, d, some (h, d)), R, S, T, U, W), ?_, ?_, fun τ hM => ?_⟩
  · obtain ⟨a1, a2, a3, a4, a5, a6, a7, a8, a9, b1, b2, b3, b4, b5, b6⟩ := hS
    exact ⟨a1, a2, fun p hp => by cases hp; exact a2, a4, a5, a6, a7, a8, a9, b1, b2, b3, b4, fun p hp => by cases hp; exact b4, b6⟩
  · obtain ⟨ga, ra, ba, h1, h2, h3, h5, h6, h7⟩ := hX
    show pu_ok (F_X0_image σ (some b)) _
    unfold F_X0_image
    have A0 : ag_ b [67] σ (ah_sI σ 34 b 1) := ag_wI (ag_rf _ s0) (fun _ => lb_fo (by decide) rfl (by decide))
    have s1 := ag_sk A0
    rw [sp_34 s0 rfl, pu_bs, sg_35 s1, pu_bs, sg_18 s1, pu_bs, hu_is s1 m66, pu_bs]
    refine pu_bind (fx_beAs s1 m66 m12 (by decide) hv (xh_ag A0 s0 m12 (by decide) h1.2.2.2)) ?_
    rintro υ ⟨A1, H1⟩
    have A1 : ag_ b [7] (ah_sI σ 34 b 1) υ := A1
    have s2 := ag_sk A1
    have e34 : ah_fi υ 34 b = 1 := by
      rw [show ah_fi υ 34 b = ah_fi (ah_sI σ 34 b 1) 34 b from ag_fi (k := 0) A1 s1 (by decide) (by decide) (by decide), rw_fi_sI, if_pos rfl, if_pos rfl]
    have A2 : ag_ b [7, 67] σ υ := ag_tr (ag_mo (by decide) A0) (ag_mo (by decide) A1)
    have D : xd_ υ b 65 d := xd_ag A2 s0 (by decide) (by decide) h2
    have A3 : ag_ b [7] υ (ah_cpI υ (b + 65) 0 (b + 71) 0 4) := ag_cI (ag_rf _ s2) (fun _ => lb_sc (by decide) rfl (by decide))
    have s3 := ag_sk A3
    rw [sg_33 s2, pu_bs, sg_36 s2, pu_bs, show ah_cp υ (some (b + 65)) 0 (some (b + 71)) 0 4 = some (ah_cpI υ (b + 65) 0 (b + 71) 0 4) from sk_cp (i := 0) (j := 0) (n := 4) (m1 := 4) (m2 := 4) s2 (by decide) (by decide) rfl rfl rfl rfl (by decide) (by decide) (by decide) (by decide), pu_bs, sg_33 s3, pu_bs, al_65_0 s3, pu_bs, rw_ai_cpI, if_neg (by omega), D 0 (by decide)]
    have A4 : ag_ b [7, 67] σ (ah_cpI υ (b + 65) 0 (b + 71) 0 4) := ag_tr A2 (ag_mo (by decide) A3)
    refine pu_ret ⟨rfl, ⟨ga, ra, ba, qx_ag A4 (by decide) h1, xd_ag A4 s0 (by decide) (by decide) h2, ⟨e34, ?_, fun i hi => ?_⟩, xtp_ag A4 s0 (by decide) h5, xch_ag A4 s0 (by decide) hS.2.2.2.2.2.2.1 h6, xtr_ag A4 s0 (by decide) h7⟩, ag_mo (by decide) A4, ?_⟩
    · obtain ⟨H1a, H2a, H3a, H4a, H5a, H6a⟩ := H1
      refine ⟨fun t ht => ?_, fun t ht => ?_, H3a, fun hs t ht => ?_, H5a, fun g t hg ht hs => ?_⟩
      · rw [rw_ai_cpI, if_neg (by omega)]; exact H1a t ht
      · rw [rw_ai_cpI, if_neg (by omega)]; exact H2a t ht
      · rw [rw_ai_cpI, if_neg (by omega)]; exact H4a hs t ht
      · rw [rw_ai_cpI, if_neg (by omega)]; exact H6a g t hg ht hs
    · rw [rw_ai_cpI, if_pos rfl, if_pos (by omega), show 0 + (i - 0) = i by omega]; exact D i hi
    · have := A4.2.2.1 (by decide)
      show ah_nx υ ≤ ah_nx σ + 1000
      have e : ah_nx (ah_cpI υ (b + 65) 0 (b + 71) 0 4) = ah_nx υ := rfl
      omega
  · obtain ⟨q, h2, h3, h5, h6, h7, h8⟩ := hM
    have sτ := q.1.1
    have H : mh_ τ b 130 h := q.2.2
    have A0 : ag_ b [27] τ (ah_sI τ 649 (b + 123) 1) := ag_wI (ag_rf _ sτ) (fun _ => lb_fo (by decide) rfl (by decide))
    have k33 : ∀ m i υ f, i + m = 4 → m < f → ag_ b [27] τ υ → ah_fi υ 649 (b + 123) = 1 → mh_ υ b 155 h → (∀ j, j < i → ah_ai υ (b + 156) j = d j) → pu_ok (F_X6_image_33 f υ (some (b + 123)) (Int32.ofNat i)) (fun r => r.1 = d 0 ∧ MW_ b ((V, G, lw), (h, d, some (h, d)), R, S, T, U, W) r.2 ∧ ag_ b LMa_ τ r.2) := by
      intro m
      induction m with
      | zero =>
        intro i υ f hi hf A e9 X Y
        obtain ⟨f, rfl⟩ : ∃ z, f = z + 1 := ⟨f - 1, by omega⟩
        have sυ := ag_sk A
        have D : xd_ υ b 154 d := xd_ag A sτ (by decide) (by decide) h3
        unfold F_X6_image_33
        rw [if_pos ((nl_le_4 (by omega)).mpr (by omega)), sg_648 sυ, pu_bs, al_154_0 sυ, pu_bs, D 0 (by decide)]
        exact pu_ret ⟨rfl, ⟨⟨mk_ag A (by decide) q.1, ms_ag A sτ (by decide) q.2.1, mh_ag A sτ (by decide) (by decide) H⟩, mb_ag A sτ (by decide) h2, D, ⟨e9, X, fun j hj => Y j (by omega)⟩, mtp_ag A sτ (by decide) h6, mch_ag A sτ (by decide) h7, mtr_ag A sτ (by decide) h8⟩, ag_mo (by decide) A⟩
      | succ m ih =>
        intro i υ f hi hf A e9 X Y
        obtain ⟨f, rfl⟩ : ∃ z, f = z + 1 := ⟨f - 1, by omega⟩
        have sυ := ag_sk A
        have D : xd_ υ b 154 d := xd_ag A sτ (by decide) (by decide) h3
        unfold F_X6_image_33
        rw [if_neg (fun z => by have := (nl_le_4 (by omega)).mp z; omega)]
        simp only [sg_651 sυ, sg_648 sυ, pu_bs, al_154 sυ (show i < 4 by omega), D i (by omega), aw_156 sυ (show i < 4 by omega), nl_ar_1]
        refine ih (i + 1) _ f (by omega) (by omega) (ag_wA A (fun _ => lb_sc (by decide) rfl (by decide))) e9 (fun j hj => by rw [rw_ai_sA, if_neg (by omega)]; exact X j hj) (fun j hj => ?_)
        rw [rw_ai_sA, if_pos rfl]
        by_cases w : j = i
        · rw [if_pos w, w]
        · rw [if_neg w]; exact Y j (by omega)
    have k7 : ∀ m i υ f, i + m = 48 → m < f → ag_ b [27] τ υ → ah_fi υ 649 (b + 123) = 1 → (∀ j, j < i → ah_ai υ (b + 155) j = h j) → pu_ok (F_X6_image_7 f υ (some (b + 123)) (Int32.ofNat i)) (fun r => r.1 = d 0 ∧ MW_ b ((V, G, lw), (h, d, some (h, d)), R, S, T, U, W) r.2 ∧ ag_ b LMa_ τ r.2) := by
      intro m
      induction m with
      | zero =>
        intro i υ f hi hf A e9 X
        obtain ⟨f, rfl⟩ : ∃ z, f = z + 1 := ⟨f - 1, by omega⟩
        unfold F_X6_image_7
        rw [if_pos ((nl_le_48 (by omega)).mpr (by omega))]
        exact k33 4 0 υ 1000 (by omega) (by omega) A e9 (fun j hj => X j (by omega)) (fun j hj => absurd hj (Nat.not_lt_zero _))
      | succ m ih =>
        intro i υ f hi hf A e9 X
        obtain ⟨f, rfl⟩ : ∃ z, f = z + 1 := ⟨f - 1, by omega⟩
        have sυ := ag_sk A
        have Hυ : mh_ υ b 130 h := mh_ag A sτ (by decide) (by decide) H
        unfold F_X6_image_7
        rw [if_neg (fun z => by have := (nl_le_48 (by omega)).mp z; omega)]
        simp only [sg_650 sυ, sg_611 sυ, pu_bs, al_130 sυ (show i < 48 by omega), Hυ i (by omega), aw_155 sυ (show i < 48 by omega), nl_ar_1]
        refine ih (i + 1) _ f (by omega) (by omega) (ag_wA A (fun _ => lb_sc (by decide) rfl (by decide))) e9 (fun j hj => ?_)
        rw [rw_ai_sA, if_pos rfl]
        by_cases w : j = i
        · rw [if_pos w, w]
        · rw [if_neg w]; exact X j (by omega)
    show pu_ok (F_X6_image τ (some (b + 123))) _
    unfold F_X6_image
    rw [sp_649 sτ rfl, pu_bs]
    exact k7 48 0 _ 1000 (by omega) (by omega) A0 (by rw [rw_fi_sI, if_pos rfl, if_pos rfl]) (fun j hj => absurd hj (Nat.not_lt_zero _))
theorem op_back (hS : SW_ z) (hX : XW_ b z σ) : op_ b z σ (fun σ => F_X0_back σ (some b)) (fun σ => F_X6_back σ (some (b + 123))) := by
  have s0 := XW_sk hX
  obtain ⟨⟨V, G, lw⟩, ⟨h, d, im⟩, R, S, T, U, W⟩ := z
  cases im with
  | none =>
    refine op_ret (-5) hS hX ?_ (fun τ hM => ?_)
    · obtain ⟨ga, ra, ba, h1, h2, h3, -⟩ := hX
      have h3 : ah_fi σ 34 b = 0 := h3
      unfold F_X0_back
      rw [si_34 s0, pu_bs, h3, if_pos rfl]
    · have h3 : ah_fi τ 649 (b + 123) = 0 := hM.2.2.2.1
      unfold F_X6_back
      rw [si_649 hM.1.1.1, pu_bs, h3, if_pos rfl]
  | some p =>
    obtain ⟨ih, id⟩ := p
    have hvi : sp_hw ih := hS.2.2.1 (ih, id) rfl
    refine ⟨id 0, ((V, G, lw), (ih, id, some (ih, id)), R, S, T, U, W), ?_, ?_, fun τ hM => ?_⟩
    · obtain ⟨a1, a2, a3, a4, a5, a6, a7, a8, a9, b1, b2, b3, b4, b5, b6⟩ := hS
      exact ⟨a1, hvi, a3, a4, a5, a6, a7, a8, a9, b1, b2, b3, b5 (ih, id) rfl, b5, b6⟩
    · obtain ⟨ga, ra, ba, h1, h2, h3, h5, h6, h7⟩ := hX
      obtain ⟨e34, I1, I2⟩ : ah_fi σ 34 b = 1 ∧ xh_ σ b 66 ih ∧ xd_ σ b 71 id := by exact h3
      show pu_ok (F_X0_back σ (some b)) _
      unfold F_X0_back
      rw [si_34 s0, pu_bs, e34, if_neg nu_10n, sg_18 s0, pu_bs, sg_35 s0, pu_bs, hu_is s0 m12, pu_bs]
      refine pu_bind (fx_beAs s0 m12 m66 (by decide) hvi I1) ?_
      rintro υ ⟨A1, H1⟩
      have A1 : ag_ b [4] σ υ := A1
      have s2 := ag_sk A1
      have D : xd_ υ b 71 id := xd_ag A1 s0 (by decide) (by decide) I2
      have A3 : ag_ b [6] υ (ah_cpI υ (b + 71) 0 (b + 65) 0 4) := ag_cI (ag_rf _ s2) (fun _ => lb_sc (by decide) rfl (by decide))
      have s3 := ag_sk A3
      have D3 : xd_ (ah_cpI υ (b + 71) 0 (b + 65) 0 4) b 65 id := fun i hi => by rw [rw_ai_cpI, if_pos rfl, if_pos (by omega), show 0 + (i - 0) = i by omega]; exact D i hi
      rw [sg_36 s2, pu_bs, sg_33 s2, pu_bs, show ah_cp υ (some (b + 71)) 0 (some (b + 65)) 0 4 = some (ah_cpI υ (b + 71) 0 (b + 65) 0 4) from sk_cp (i := 0) (j := 0) (n := 4) (m1 := 4) (m2 := 4) s2 (by decide) (by decide) rfl rfl rfl rfl (by decide) (by decide) (by decide) (by decide), pu_bs, sg_33 s3, pu_bs, al_65_0 s3, pu_bs, D3 0 (by decide)]
      have A4 : ag_ b [4, 6] σ (ah_cpI υ (b + 71) 0 (b + 65) 0 4) := ag_tr (ag_mo (by decide) A1) (ag_mo (by decide) A3)
      refine pu_ret ⟨rfl, ⟨ga, ra, ba, ⟨xk_ag A4 (by decide) h1.1, xs_ag A4 s0 (by decide) h1.2.1, xb_ag A4 s0 (by decide) (by decide) h1.2.2.1, xh_ag A3 s2 m12 (by decide) H1⟩, D3, xm_ag A4 s0 (by decide) h3, xtp_ag A4 s0 (by decide) h5, xch_ag A4 s0 (by decide) hS.2.2.2.2.2.2.1 h6, xtr_ag A4 s0 (by decide) h7⟩, ag_mo (by decide) A4, ?_⟩
      have := A4.2.2.1 (by decide)
      show ah_nx υ ≤ ah_nx σ + 1000
      have e : ah_nx (ah_cpI υ (b + 71) 0 (b + 65) 0 4) = ah_nx υ := rfl
      omega
    · obtain ⟨q, h2, h3, h5, h6, h7, h8⟩ := hM
      have sτ := q.1.1
      obtain ⟨e9, I1, I2⟩ : ah_fi τ 649 (b + 123) = 1 ∧ mh_ τ b 155 ih ∧ xd_ τ b 156 id := by exact h5
      have k38 : ∀ m i υ f, i + m = 4 → m < f → ag_ b [24, 26] τ υ → mh_ υ b 130 ih → (∀ j, j < i → ah_ai υ (b + 154) j = id j) → pu_ok (F_X6_back_38 f υ (some (b + 123)) (Int32.ofNat i)) (fun r => r.1 = id 0 ∧ MW_ b ((V, G, lw), (ih, id, some (ih, id)), R, S, T, U, W) r.2 ∧ ag_ b LMa_ τ r.2) := by
        intro m
        induction m with
        | zero =>
          intro i υ f hi hf A X Y
          obtain ⟨f, rfl⟩ : ∃ z, f = z + 1 := ⟨f - 1, by omega⟩
          have sυ := ag_sk A
          unfold F_X6_back_38
          rw [if_pos ((nl_le_4 (by omega)).mpr (by omega)), sg_648 sυ, pu_bs, al_154_0 sυ, pu_bs, Y 0 (by omega)]
          exact pu_ret ⟨rfl, ⟨⟨mk_ag A (by decide) q.1, ms_ag A sτ (by decide) q.2.1, X⟩, mb_ag A sτ (by decide) h2, fun j hj => Y j (by omega), mm_ag A sτ (by decide) h5, mtp_ag A sτ (by decide) h6, mch_ag A sτ (by decide) h7, mtr_ag A sτ (by decide) h8⟩, ag_mo (by decide) A⟩
        | succ m ihm =>
          intro i υ f hi hf A X Y
          obtain ⟨f, rfl⟩ : ∃ z, f = z + 1 := ⟨f - 1, by omega⟩
          have sυ := ag_sk A
          have D : xd_ υ b 156 id := xd_ag A sτ (by decide) (by decide) I2
          unfold F_X6_back_38
          rw [if_neg (fun z => by have := (nl_le_4 (by omega)).mp z; omega)]
          simp only [sg_651 sυ, sg_648 sυ, pu_bs, al_156 sυ (show i < 4 by omega), D i (by omega), aw_154 sυ (show i < 4 by omega), nl_ar_1]
          refine ihm (i + 1) _ f (by omega) (by omega) (ag_wA A (fun _ => lb_sc (by decide) rfl (by decide))) (fun j hj => by rw [rw_ai_sA, if_neg (by omega)]; exact X j hj) (fun j hj => ?_)
          rw [rw_ai_sA, if_pos rfl]
          by_cases w : j = i
          · rw [if_pos w, w]
          · rw [if_neg w]; exact Y j (by omega)
      have k12 : ∀ m i υ f, i + m = 48 → m < f → ag_ b [24] τ υ → (∀ j, j < i → ah_ai υ (b + 130) j = ih j) → pu_ok (F_X6_back_12 f υ (some (b + 123)) (Int32.ofNat i)) (fun r => r.1 = id 0 ∧ MW_ b ((V, G, lw), (ih, id, some (ih, id)), R, S, T, U, W) r.2 ∧ ag_ b LMa_ τ r.2) := by
        intro m
        induction m with
        | zero =>
          intro i υ f hi hf A X
          obtain ⟨f, rfl⟩ : ∃ z, f = z + 1 := ⟨f - 1, by omega⟩
          unfold F_X6_back_12
          rw [if_pos ((nl_le_48 (by omega)).mpr (by omega))]
          exact k38 4 0 υ 1000 (by omega) (by omega) (ag_mo (by decide) A) (fun j hj => X j (by omega)) (fun j hj => absurd hj (Nat.not_lt_zero _))
        | succ m ihm =>
          intro i υ f hi hf A X
          obtain ⟨f, rfl⟩ : ∃ z, f = z + 1 := ⟨f - 1, by omega⟩
          have sυ := ag_sk A
          have Iυ : mh_ υ b 155 ih := mh_ag A sτ (by decide) (by decide) I1
          unfold F_X6_back_12
          rw [if_neg (fun z => by have := (nl_le_48 (by omega)).mp z; omega)]
          simp only [sg_650 sυ, sg_611 sυ, pu_bs, al_155 sυ (show i < 48 by omega), Iυ i (by omega), aw_130 sυ (show i < 48 by omega), nl_ar_1]
          refine ihm (i + 1) _ f (by omega) (by omega) (ag_wA A (fun _ => lb_sc (by decide) rfl (by decide))) (fun j hj => ?_)
          rw [rw_ai_sA, if_pos rfl]
          by_cases w : j = i
          · rw [if_pos w, w]
          · rw [if_neg w]; exact X j (by omega)
      show pu_ok (F_X6_back τ (some (b + 123))) _
      unfold F_X6_back
      rw [si_649 sτ, pu_bs, e9, if_neg nu_10n]
      exact k12 48 0 τ 1000 (by omega) (by omega) (ag_rf _ sτ) (fun j hj => absurd hj (Nat.not_lt_zero _))
end
