/-! ===== set, forget, night, image, back ===== -/
section
variable {σ : ah_S} {b : Nat} {z : sp_Z}
/-- a level is laid -/
theorem hw_set {h : sp_H} {t : Nat} {v : Int32} (hv : sp_hw h) (ht : t < 4) (hx : nu_in v 99) : sp_hw (va_up h t v) := by
  obtain ⟨v1, v2, v3, v4⟩ := hv
  have o : ∀ i, 4 ≤ i → va_up h t v i = h i := fun i hi => by unfold va_up; rw [if_neg (by omega)]
  refine ⟨by rw [o 12 (by decide)]; exact v1, fun g hg => by rw [o _ (by omega)]; exact v2 g hg, fun g u hg hu => by rw [o _ (by omega), o _ (by omega)]; exact v3 g u hg hu, fun i hi => ?_⟩
  unfold va_up
  by_cases z : i = t
  · rw [if_pos z]; exact hx
  · rw [if_neg z]; exact v4 i hi
theorem op_set (hS : SW_ z) (hX : XW_ b z σ) (x1 x2 : Int32) : op_ b z σ (fun σ => F_X0_set σ (some b) x1 x2) (fun σ => F_X6_set σ (some (b + 123)) x1 x2) := by
  by_cases c1 : 0 ≤ x1 ∧ x1 ≤ 3
  rotate_left
  · refine op_ret (-1) hS hX ?_ (fun τ hM => ?_)
    · simp only [F_X0_set, fx_isThing, ra_n c1, pu_b2s, if_true]
    · simp only [F_X6_set, fm_isThing, ra_n c1, pu_b2s, if_true]
  by_cases c2 : 0 ≤ x2 ∧ x2 ≤ 99
  rotate_left
  · refine op_ret (-1) hS hX ?_ (fun τ hM => ?_)
    · simp only [F_X0_set, fx_isThing, fx_w99, ra_p c1, ra_n c2, nu_10, if_false, pu_b2s, if_true]
    · simp only [F_X6_set, fm_isThing, fm_in_, ra_p c1, ra_n c2, nu_10, if_false, pu_b2s, if_true]
  obtain ⟨t, rfl, h4⟩ := nu_natb (m := 3) c1.1 (by decide) c1.2
  have h4 : t < 4 := by omega
  have hx : nu_in x2 99 := by
    have q1 := c2.1
    have q2 := c2.2
    rw [nu_le] at q1 q2
    exact ⟨q1, q2⟩
  have s0 := XW_sk hX
  obtain ⟨P, ⟨h, d, im⟩, R, S, T, U, W⟩ := z
  have o : ∀ i, 4 ≤ i → va_up h t x2 i = h i := fun i hi => by unfold va_up; rw [if_neg (by omega)]
  refine ⟨h t, (P, (va_up h t x2, d, im), R, S, T, U, W), ?_, ?_, fun τ hM => ?_⟩
  · obtain ⟨a1, a2, a3, a4, a5, a6, a7, a8, a9, b1, b2, b3, b4, b5⟩ := hS
    exact ⟨a1, hw_set a2 h4 hx, a3, a4, a5, a6, a7, a8, a9, b1, b2, b3, fun g q1 q2 => by show va_up h t x2 (13 + g) = 0; rw [o _ (by omega)]; exact b4 g q1 q2, b5⟩
  · obtain ⟨ga, ra, ba, h1, h2, h3, h5, h6, h7⟩ := hX
    have H : xh_ σ b 12 h := h1.2.2.2
    have A : ag_ b [4] σ (ah_sA σ (b + (12 + 1)) t x2) := ag_wA (ag_rf _ s0) (fun _ => lb_sc (by decide) rfl (by decide))
    have e : F_X0_set σ (some b) (Int32.ofNat t) x2 = some (h t, ah_sA σ (b + (12 + 1)) t x2) := by
      simp only [F_X0_set, fx_isThing, fx_w99, ra_p c1, ra_p c2, nu_10, if_false, pu_b2s, sg_18 s0, pu_bs, hu_400 s0 m12, hu_l1 s0 m12 h4, H.1 t h4, hu_w1 s0 m12 h4]
    refine ⟨_, e, rfl, ⟨ga, ra, ba, ⟨xk_ag A (by decide) h1.1, xs_ag A s0 (by decide) h1.2.1, xb_ag A s0 (by decide) (by decide) h1.2.2.1, ?_⟩, xd_ag A s0 (by decide) (by decide) h2, xm_ag A s0 (by decide) h3, xtp_ag A s0 (by decide) h5, xch_ag A s0 (by decide) hS.2.2.2.2.2.2.1 h6, xtr_ag A s0 (by decide) h7⟩, ag_mo (by decide) A, by show ah_nx σ ≤ ah_nx σ + 1000; omega⟩
    show xh_ (ah_sA σ (b + (12 + 1)) t x2) b 12 (va_up h t x2)
    obtain ⟨H1, H2, H3, H4, ⟨n, n1, n2, n3⟩, H6⟩ := H
    refine ⟨fun j hj => ?_, fun j hj => ?_, ?_, fun hs j hj => ?_, ⟨n, n1, n2, fun g hg => by rw [o _ (by omega)]; exact n3 g hg⟩, fun g j hg hj hs => ?_⟩
    · rw [rw_ai_sA, if_pos rfl]
      unfold va_up
      by_cases z : j = t
      · rw [if_pos z, if_pos z]
      · rw [if_neg z, if_neg z]; exact H1 j hj
    · rw [rw_ai_sA, if_neg (by omega), o _ (by omega)]; exact H2 j hj
    · rw [rw_fi_sA, o _ (by omega)]; exact H3
    · rw [rw_ai_sA, if_neg (by omega), o _ (by omega)]
      rw [o _ (by omega)] at hs
      exact H4 hs j hj
    · rw [rw_ai_sA, if_neg (by omega), o _ (by omega)]
      rw [o _ (by omega)] at hs
      exact H6 g j hg hj hs
  · obtain ⟨g, h2, h3, h5, h6, h7, h8⟩ := hM
    have sτ := g.1.1
    have H : mh_ τ b 130 h := g.2.2
    have A : ag_ b [24] τ (ah_sA τ (b + 130) t x2) := ag_wA (ag_rf _ sτ) (fun _ => lb_sc (by decide) rfl (by decide))
    have e : F_X6_set τ (some (b + 123)) (Int32.ofNat t) x2 = some (h t, ah_sA τ (b + 130) t x2) := by
      simp only [F_X6_set, fm_isThing, fm_in_, ra_p c1, ra_p c2, nu_10, if_false, pu_b2s, sg_611 sτ, pu_bs, al_130 sτ (show t < 48 by omega), H t (by omega), aw_130 sτ (show t < 48 by omega)]
    refine ⟨_, e, rfl, ⟨⟨mk_ag A (by decide) g.1, ms_ag A sτ (by decide) g.2.1, fun i hi => ?_⟩, mb_ag A sτ (by decide) h2, xd_ag A sτ (by decide) (by decide) h3, mm_ag A sτ (by decide) h5, mtp_ag A sτ (by decide) h6, mch_ag A sτ (by decide) h7, mtr_ag A sτ (by decide) h8⟩, ag_mo (by decide) A⟩
    show _ = va_up h t x2 i
    rw [rw_ai_sA, if_pos rfl]
    unfold va_up
    by_cases z : i = t
    · rw [if_pos z, if_pos z]
    · rw [if_neg z, if_neg z]; exact H i hi
/-- a guest is forgotten -/
def sp_fg (g : Nat) (h : sp_H) : sp_H := fun i => if i = 13 + g then 0 else if 20 + 4 * g ≤ i ∧ i < 24 + 4 * g then 0 else h i
theorem fg_lo {g i : Nat} {h : sp_H} (hi : i < 13) : sp_fg g h i = h i := by
  unfold sp_fg; rw [if_neg (by omega), if_neg (by omega)]
theorem fg_bn {g j : Nat} {h : sp_H} (hj : j < 7) : sp_fg g h (13 + j) = if j = g then 0 else h (13 + j) := by
  unfold sp_fg
  by_cases z : j = g
  · rw [if_pos (by omega), if_pos z]
  · rw [if_neg (by omega), if_neg (by omega), if_neg z]
theorem fg_fd {g j t : Nat} {h : sp_H} (hg : g < 7) (ht : t < 4) : sp_fg g h (20 + (4 * j + t)) = if j = g then 0 else h (20 + (4 * j + t)) := by
  unfold sp_fg
  by_cases z : j = g
  · rw [if_neg (by omega), if_pos (by omega), if_pos z]
  · rw [if_neg (by omega), if_neg (by omega), if_neg z]
theorem hw_fg {h : sp_H} {g : Nat} (hv : sp_hw h) (hg : g < 7) : sp_hw (sp_fg g h) := by
  obtain ⟨v1, v2, v3, v4⟩ := hv
  refine ⟨by rw [fg_lo (by decide)]; exact v1, fun j hj => ?_, fun j t hj ht => ?_, fun i hi => ?_⟩
  · rw [fg_bn hj]
    split
    · exact Or.inl rfl
    · exact v2 j hj
  · rw [fg_bn hj, fg_fd hg ht]
    by_cases z : j = g
    · rw [if_pos z, if_pos z]; exact fun _ => rfl
    · rw [if_neg z, if_neg z]; exact v3 j t hj ht
  · unfold sp_fg
    split
    · exact ⟨by decide, by decide⟩
    · split
      · exact ⟨by decide, by decide⟩
      · exact v4 i hi
theorem op_forget (hS : SW_ z) (hX : XW_ b z σ) (x : Int32) : op_ b z σ (fun σ => F_X0_forget σ (some b) x) (fun σ => F_X6_forget σ (some (b + 123)) x) := by
  have s0 := XW_sk hX
  obtain ⟨⟨V, G, lw⟩, ⟨h, d, im⟩, R, S, T, U, W⟩ := z
  have hG : G ≤ 7 := hS.2.2.2.2.2.2.2.2.1
  by_cases c : 0 ≤ x ∧ x < Int32.ofNat G
  rotate_left
  · have c' : ¬ (0 ≤ x ∧ x ≤ Int32.ofNat G - 1) := by rw [nu_lem1 (by omega)]; exact c
    refine op_ret (-1) hS hX ?_ (fun τ hM => ?_)
    · obtain ⟨ga, ra, ba, h1, -⟩ := hX
      have hp : xp_ σ b ga V G := h1.1.2.1
      simp only [F_X0_forget, ss_0 s0, pu_bs, fx_isGuest x s0 hp, ra_n c', pu_b2s, if_true]
    · have hp : mp_ τ b V G := hM.1.1.2.2.1
      simp only [F_X6_forget, ss_123 hM.1.1.1, pu_bs, fm_isGuest x hM.1.1.1 hp, ra_n c', pu_b2s, if_true]
  have c' : 0 ≤ x ∧ x ≤ Int32.ofNat G - 1 := by rw [nu_lem1 (by omega)]; exact c
  obtain ⟨g, rfl, hg⟩ := nu_natl c.1 (by omega) c.2
  have hg7 : g < 7 := by omega
  refine ⟨h (13 + g), ((V, G, lw), (sp_fg g h, d, im), R, S, T, U, W), ?_, ?_, fun τ hM => ?_⟩
  · obtain ⟨a1, a2, a3, a4, a5, a6, a7, a8, a9, b1, b2, b3, b4, b5⟩ := hS
    refine ⟨a1, hw_fg a2 hg7, a3, a4, a5, a6, a7, a8, a9, b1, b2, b3, fun j q1 q2 => ?_, b5⟩
    show sp_fg g h (13 + j) = 0
    rw [fg_bn q2]
    split
    · rfl
    · exact b4 j q1 q2
  · obtain ⟨ga, ra, ba, h1, h2, h3, h5, h6, h7⟩ := hX
    have H : xh_ σ b 12 h := h1.2.2.2
    have hp : xp_ σ b ga V G := h1.1.2.1
    obtain ⟨H1, H2, H3, H4, ⟨n, n1, n2, n3⟩, H6⟩ := H
    obtain ⟨a1, a2, a3⟩ := bt_an n1 hg7
    have A : ag_ b [4] σ (ah_sI σ 403 (b + 12) (Int32.ofNat (n &&& (127 - 2 ^ g)))) := ag_wI (ag_rf _ s0) (fun _ => lb_fc (by decide) (by decide) rfl (by decide))
    have e : F_X0_forget σ (some b) (Int32.ofNat g) = some (h (13 + g), ah_sI σ 403 (b + 12) (Int32.ofNat (n &&& (127 - 2 ^ g)))) := by
      simp only [F_X0_forget, ss_0 s0, pu_bs, fx_isGuest _ s0 hp, ra_p c', pu_b2s, nu_10, if_false, sg_18 s0, hu_403 s0 m12, n2, a1, bt_is n1 hg7, hu_p403 s0 m12]
      rw [n3 g hg7]
    refine ⟨_, e, rfl, ⟨ga, ra, ba, ⟨xk_ag A (by decide) h1.1, xs_ag A s0 (by decide) h1.2.1, xb_ag A s0 (by decide) (by decide) h1.2.2.1, ?_⟩, xd_ag A s0 (by decide) (by decide) h2, xm_ag A s0 (by decide) h3, xtp_ag A s0 (by decide) h5, xch_ag A s0 (by decide) hS.2.2.2.2.2.2.1 h6, xtr_ag A s0 (by decide) h7⟩, ag_mo (by decide) A, by show ah_nx σ ≤ ah_nx σ + 1000; omega⟩
    show xh_ (ah_sI σ 403 (b + 12) (Int32.ofNat (n &&& (127 - 2 ^ g)))) b 12 (sp_fg g h)
    refine ⟨fun j hj => ?_, fun j hj => ?_, ?_, fun hs j hj => ?_, ⟨n &&& (127 - 2 ^ g), a2, ?_, fun j hj => ?_⟩, fun j t hj ht hs => ?_⟩
    · rw [rw_ai_sI, fg_lo (by omega)]; exact H1 j hj
    · rw [rw_ai_sI, fg_lo (by omega)]; exact H2 j hj
    · rw [rw_fi_sI, if_neg (by decide), fg_lo (by decide)]; exact H3
    · rw [rw_ai_sI, fg_lo (by omega)]
      rw [fg_lo (by decide)] at hs
      exact H4 hs j hj
    · rw [rw_fi_sI, if_pos rfl, if_pos rfl]
    · rw [fg_bn hj, a3 j hj]
      by_cases w : j = g
      · rw [if_pos w]; simp [w]
      · rw [if_neg w, n3 j hj]; simp [w]
    · rw [rw_ai_sI, fg_fd hg7 ht]
      rw [fg_bn hj] at hs
      by_cases w : j = g
      · rw [if_pos w] at hs; exact absurd rfl hs
      · rw [if_neg w] at hs ⊢; exact H6 j t hj ht hs
  · obtain ⟨q, h2, h3, h5, h6, h7, h8⟩ := hM
    have sτ := q.1.1
    have H : mh_ τ b 130 h := q.2.2
    have hp : mp_ τ b V G := q.1.2.2.1
    have A0 : ag_ b [24] τ (ah_sA τ (b + 130) (13 + g) 0) := ag_wA (ag_rf _ sτ) (fun _ => lb_sc (by decide) rfl (by decide))
    have key : ∀ m t υ f, t + m = 4 → m < f → ag_ b [24] τ υ → (∀ i, i < 48 → ah_ai υ (b + 130) i = if i = 13 + g then 0 else if 20 + 4 * g ≤ i ∧ i < 20 + 4 * g + t then 0 else h i) → pu_ok (F_X6_forget_32 f υ (some (b + 123)) (Int32.ofNat g) (h (13 + g)) (Int32.ofNat t)) (fun r => r.1 = h (13 + g) ∧ ag_ b [24] τ r.2 ∧ mh_ r.2 b 130 (sp_fg g h)) := by
      intro m
      induction m with
      | zero =>
        intro t υ f ht hf A I
        obtain ⟨f, rfl⟩ : ∃ z, f = z + 1 := ⟨f - 1, by omega⟩
        unfold F_X6_forget_32
        rw [if_pos ((nl_le_4 (by omega)).mpr (by omega))]
        refine pu_ret ⟨rfl, A, fun i hi => ?_⟩
        rw [I i hi, show 20 + 4 * g + t = 24 + 4 * g by omega]; rfl
      | succ m ih =>
        intro t υ f ht hf A I
        obtain ⟨f, rfl⟩ : ∃ z, f = z + 1 := ⟨f - 1, by omega⟩
        have sυ := ag_sk A
        unfold F_X6_forget_32
        rw [if_neg (fun z => by have := (nl_le_4 (by omega)).mp z; omega)]
        simp only [sg_611 sυ, pu_bs, nl_mu_4, nl_ad_20, nl_aa, aw_130 sυ (show 20 + 4 * g + t < 48 by omega), nl_ar_1]
        refine ih (t + 1) _ f (by omega) (by omega) (ag_wA A (fun _ => lb_sc (by decide) rfl (by decide))) (fun i hi => ?_)
        rw [rw_ai_sA, if_pos rfl]
        by_cases w : i = 20 + 4 * g + t
        · rw [if_pos w, if_neg (by omega), if_pos (by omega)]
        · rw [if_neg w, I i hi]
          by_cases w2 : i = 13 + g
          · rw [if_pos w2, if_pos w2]
          · rw [if_neg w2, if_neg w2]
            by_cases w3 : 20 + 4 * g ≤ i ∧ i < 20 + 4 * g + t
            · rw [if_pos w3, if_pos (by omega)]
            · rw [if_neg w3, if_neg (by omega)]
    show pu_ok (F_X6_forget τ (some (b + 123)) (Int32.ofNat g)) _
    simp only [F_X6_forget, ss_123 sτ, pu_bs, fm_isGuest _ sτ hp, ra_p c', pu_b2s, nu_10, if_false, sg_611 sτ, nl_ad_13, al_130 sτ (show 13 + g < 48 by omega), H (13 + g) (by omega), aw_130 sτ (show 13 + g < 48 by omega)]
    refine pu_mono (key 4 0 _ 1000 (by omega) (by omega) A0 (fun i hi => ?_)) (fun r hr => ⟨hr.1, ⟨⟨mk_ag hr.2.1 (by decide) q.1, ms_ag hr.2.1 sτ (by decide) q.2.1, hr.2.2⟩, mb_ag hr.2.1 sτ (by decide) h2, xd_ag hr.2.1 sτ (by decide) (by decide) h3, mm_ag hr.2.1 sτ (by decide) h5, mtp_ag hr.2.1 sτ (by decide) h6, mch_ag hr.2.1 sτ (by decide) h7, mtr_ag hr.2.1 sτ (by decide) h8⟩, ag_mo (by decide) hr.2.1⟩)
    rw [rw_ai_sA, if_pos rfl]
    by_cases w2 : i = 13 + g
    · rw [if_pos w2, if_pos w2]
    · rw [if_neg w2, if_neg w2, if_neg (by omega)]; exact H i hi
end
