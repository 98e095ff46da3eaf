/-! ===== simple operations ===== -/
section
variable {σ : ah_S} {b : Nat} {z : sp_Z}
theorem op_ret {α : Type} {FX FM : ah_S → Option (α × ah_S)} (v : α) (hS : SW_ z) (hX : XW_ b z σ) (h1 : FX σ = some (v, σ)) (h2 : ∀ τ, MW_ b z τ → FM τ = some (v, τ)) : op_ b z σ FX FM := by
  have h0 : sk_ok σ b := by obtain ⟨ga, ra, ba, h, -⟩ := hX; exact h.1.1
  refine ⟨v, z, hS, ?_, fun τ hM => ?_⟩
  · rw [h1]; exact pu_ret ⟨rfl, hX, ag_rf _ h0, by show ah_nx σ ≤ ah_nx σ + 1000; omega⟩
  · rw [h2 τ hM]; exact pu_ret ⟨rfl, hM, ag_rf _ hM.1.1.1⟩
theorem XW_sk (hX : XW_ b z σ) : sk_ok σ b := by obtain ⟨ga, ra, ba, h, -⟩ := hX; exact h.1.1
theorem vp_byte (x : Int32) : vp_nar .byte x.toInt8.toInt32 = x.toInt8.toInt32 := by
  show x.toInt8.toInt32.toInt8.toInt32 = _
  rw [Int8.toInt8_toInt32]
theorem op_feed (hS : SW_ z) (hX : XW_ b z σ) (x : Int32) : op_ b z σ (fun σ => F_X0_feed σ (some b) x) (fun σ => F_X6_feed σ (some (b + 123)) x) := by
  by_cases c : 0 ≤ x ∧ x ≤ 255
  rotate_left
  · refine op_ret (-1) hS hX ?_ (fun τ hM => ?_)
    · simp only [F_X0_feed, fx_w255, ra_n c, pu_b2s, if_true]
    · simp only [F_X6_feed, fm_in_, ra_n c, pu_b2s, if_true]
  have s0 := XW_sk hX
  obtain ⟨P, Q, ⟨tp, tn⟩, R, S, T, U⟩ := z
  have htn : tn ≤ 120 := hS.2.2.2.1
  have e4 : ah_fi σ 4 b = Int32.ofNat tn := by obtain ⟨ga, ra, ba, -, -, -, h4, -⟩ := hX; exact h4.1
  by_cases c2 : tn = 120
  · refine op_ret (-3) hS hX ?_ (fun τ hM => ?_)
    · simp only [F_X0_feed, fx_w255, ra_p c, pu_b2s, nu_10, if_false, si_4 s0, pu_bs, e4]
      rw [if_pos (by rw [c2]; rfl)]
    · have sτ := hM.1.1.1
      have e5 : ah_fi τ 619 (b + 123) = Int32.ofNat tn := hM.2.2.2.2.1.1
      simp only [F_X6_feed, fm_in_, ra_p c, pu_b2s, nu_10, if_false, si_619 sτ, pu_bs, e5]
      rw [if_pos (by rw [c2]; rfl)]
  have lt : tn < 120 := by omega
  have hx : nu_in x 255 := by
    have q1 := c.1
    have q2 := c.2
    rw [nu_le] at q1 q2
    exact ⟨q1, q2⟩
  refine ⟨Int32.ofNat (tn + 1), (P, Q, (va_up tp tn x, tn + 1), R, S, T, U), ?_, ?_, fun τ hM => ?_⟩
  · obtain ⟨a1, a2, a3, a4, a5, a6⟩ := hS
    refine ⟨a1, a2, a3, by show tn + 1 ≤ 120; omega, fun i hi => ?_, a6⟩
    show nu_in (va_up tp tn x i) 255
    unfold va_up
    by_cases z : i = tn
    · rw [if_pos z]; exact hx
    · rw [if_neg z]
      have hi : i < tn + 1 := hi
      exact a5 i (by show i < tn; omega)
  · have s1 : sk_ok (ah_sI σ 4 b (Int32.ofNat (tn + 1))) b := s0
    have A : ag_ b [2] σ (ah_sA (ah_sI σ 4 b (Int32.ofNat (tn + 1))) (b + 2) tn x) := ag_wA (ag_wI (ag_rf _ s0) (fun _ => lb_fo (by decide) rfl (by decide))) (fun _ => lb_sc (by decide) rfl (by decide))
    have e : F_X0_feed σ (some b) x = some (Int32.ofNat (tn + 1), ah_sA (ah_sI σ 4 b (Int32.ofNat (tn + 1))) (b + 2) tn x) := by
      simp only [F_X0_feed, fx_w255, ra_p c, pu_b2s, nu_10, if_false, si_4 s0, pu_bs, e4]
      rw [if_neg (fun z => c2 ((nl_eq_120 (by omega)).mp z)), sg_3 s0, pu_bs, nl_ar_1, sp_4 s0, pu_bs, aw_2 s1 lt, pu_bs, si_4 (ag_sk A), pu_bs, rw_fi_sA, rw_fi_sI, if_pos rfl, if_pos rfl]
    refine ⟨_, e, rfl, ?_, ag_mo (by decide) A, by show ah_nx σ ≤ ah_nx σ + 1000; omega⟩
    obtain ⟨ga, ra, ba, h1, h2, h3, h4, h5, h6⟩ := hX
    refine ⟨ga, ra, ba, qx_ag A (by decide) h1, xd_ag A s0 (by decide) (by decide) h2, xm_ag A s0 (by decide) h3, ⟨?_, fun i hi => ?_⟩, xch_ag A s0 (by decide) hS.2.2.2.2.2.2.1 h5, xtr_ag A s0 (by decide) h6⟩
    · rw [rw_fi_sA, rw_fi_sI, if_pos rfl, if_pos rfl]
    · show _ = va_up tp tn x i
      have hi : i < tn + 1 := hi
      rw [rw_ai_sA, if_pos rfl]
      unfold va_up
      by_cases z : i = tn
      · rw [if_pos z, if_pos z]
      · rw [if_neg z, if_neg z, rw_ai_sI]; exact h4.2 i (by show i < tn; omega)
  · have sτ := hM.1.1.1
    have e5 : ah_fi τ 619 (b + 123) = Int32.ofNat tn := hM.2.2.2.2.1.1
    have A : ag_ b [22] τ (ah_sI (ah_sA τ (b + 135) tn x.toInt8.toInt32) 619 (b + 123) (Int32.ofNat (tn + 1))) := ag_wI (ag_wA (ag_rf _ sτ) (fun _ => lb_sc (by decide) rfl (by decide))) (fun _ => lb_fo (by decide) rfl (by decide))
    have s1 : sk_ok (ah_sA τ (b + 135) tn x.toInt8.toInt32) b := sτ
    have e : F_X6_feed τ (some (b + 123)) x = some (Int32.ofNat (tn + 1), ah_sI (ah_sA τ (b + 135) tn x.toInt8.toInt32) 619 (b + 123) (Int32.ofNat (tn + 1))) := by
      simp only [F_X6_feed, fm_in_, ra_p c, pu_b2s, nu_10, if_false, si_619 sτ, pu_bs, e5, vp_byte]
      rw [if_neg (fun z => c2 ((nl_eq_120 (by omega)).mp z)), sg_618 sτ, pu_bs, aw_135 sτ lt, pu_bs, si_619 s1, pu_bs, rw_fi_sA, e5, nl_ar_1, sp_619 s1, pu_bs, si_619 (ag_sk A), pu_bs, rw_fi_sI, if_pos rfl, if_pos rfl]
    refine ⟨_, e, rfl, ?_, ag_mo (by decide) A⟩
    obtain ⟨g, h2, h3, h4, h5, h6, h7⟩ := hM
    refine ⟨⟨mk_ag A (by decide) g.1, ms_ag A sτ (by decide) g.2.1, mh_ag A sτ (by decide) (by decide) g.2.2⟩, mb_ag A sτ (by decide) h2, xd_ag A sτ (by decide) (by decide) h3, mm_ag A sτ (by decide) h4, ⟨?_, fun i hi => ?_⟩, mch_ag A sτ (by decide) h6, mtr_ag A sτ (by decide) h7⟩
    · rw [rw_fi_sI, if_pos rfl, if_pos rfl]
    · show _ = (va_up tp tn x i).toInt8.toInt32
      have hi : i < tn + 1 := hi
      rw [rw_ai_sI, rw_ai_sA, if_pos rfl]
      unfold va_up
      by_cases z : i = tn
      · rw [if_pos z, if_pos z]
      · rw [if_neg z, if_neg z]; exact h5.2 i (by show i < tn; omega)
theorem op_led (hS : SW_ z) (hX : XW_ b z σ) (x : Int32) : op_ b z σ (fun σ => F_X0_led σ (some b) x) (fun σ => F_X6_led σ (some (b + 123)) x) := by
  by_cases c : 0 ≤ x ∧ x ≤ 3
  rotate_left
  · refine op_ret (-1) hS hX ?_ (fun τ hM => ?_)
    · simp only [F_X0_led, fx_w3, ra_n c, pu_b2s, if_true]
    · simp only [F_X6_led, fm_in_, ra_n c, pu_b2s, if_true]
  obtain ⟨i, rfl, hi⟩ := nu_natb (m := 3) c.1 (by decide) c.2
  have s0 := XW_sk hX
  refine op_ret (z.2.1.2.1 i) hS hX ?_ (fun τ hM => ?_)
  · obtain ⟨ga, ra, ba, h1, h2, -⟩ := hX
    simp only [F_X0_led, fx_w3, ra_p c, pu_b2s, nu_10, if_false, sg_33 s0, pu_bs, al_65 s0 (show i < 4 by omega), h2 i (by omega)]
  · have sτ := hM.1.1.1
    simp only [F_X6_led, fm_in_, ra_p c, pu_b2s, nu_10, if_false, sg_648 sτ, pu_bs, al_154 sτ (show i < 4 by omega), hM.2.2.1 i (by omega)]
theorem op_trace (hS : SW_ z) (hX : XW_ b z σ) (x : Int32) : op_ b z σ (fun σ => F_X0_trace σ (some b) x) (fun σ => F_X6_trace σ (some (b + 123)) x) := by
  have s0 := XW_sk hX
  obtain ⟨P, Q, R, S, T, ⟨rn, tr⟩, U⟩ := z
  have hr : nu_in rn 100 := hS.2.2.2.2.2.2.2.2.2.2.2.2.2.2
  have e40 : ah_fi σ 40 b = rn := by obtain ⟨ga, ra, ba, -, -, -, -, -, h6⟩ := hX; exact h6.1
  have e73 : ∀ i, i < 24 → ah_ai σ (b + 73) i = tr i := by obtain ⟨ga, ra, ba, -, -, -, -, -, h6⟩ := hX; exact h6.2
  obtain ⟨r, rfl, hr2⟩ := nu_nat (a := rn) (by rw [nu_le]; exact hr.1)
  have hr3 : r ≤ 100 := by have := hr.2; rw [nu_of hr2] at this; omega
  have em : (if (24 : Int32) < Int32.ofNat r then (24 : Int32) else Int32.ofNat r) = Int32.ofNat (min r 24) := by
    by_cases c : 24 < r
    · rw [if_pos ((nl_lt_24 hr2).mpr c), Nat.min_eq_right (by omega)]; rfl
    · rw [if_neg (fun q => c ((nl_lt_24 hr2).mp q)), Nat.min_eq_left (by omega)]
  by_cases c : 0 ≤ x ∧ x ≤ Int32.ofNat (min r 24) - 1
  · have c' := c
    rw [nu_lem1 (by omega)] at c'
    obtain ⟨i, rfl, hi⟩ := nu_natl c'.1 (by omega) c'.2
    refine op_ret (tr i) hS hX ?_ (fun τ hM => ?_)
    · simp only [F_X0_trace, si_40 s0, pu_bs, e40, em, fx_w0, ra_p c, pu_b2s, nu_10, if_false, sg_39 s0, al_73 s0 (show i < 24 by omega), e73 i (by omega)]
    · have sτ := hM.1.1.1
      have e1 : ah_fi τ 654 (b + 123) = Int32.ofNat r := hM.2.2.2.2.2.2.1
      have e2 : ah_ai τ (b + 158) i = tr i := hM.2.2.2.2.2.2.2 i (by omega)
      simp only [F_X6_trace, if_neg (nu_pos i (by omega)), si_654 sτ, pu_bs, e1]
      rw [if_neg (fun q => by have := (nu_ofle (by omega) (by omega)).mp q; omega), if_neg (fun q => by have := (nl_le_24 (by omega)).mp q; omega), sg_655 sτ, pu_bs, al_158 sτ (by omega), pu_bs, e2]
  · refine op_ret (-1) hS hX ?_ (fun τ hM => ?_)
    · simp only [F_X0_trace, si_40 s0, pu_bs, e40, em, fx_w0, ra_n c, pu_b2s, if_true]
    · have sτ := hM.1.1.1
      have e1 : ah_fi τ 654 (b + 123) = Int32.ofNat r := hM.2.2.2.2.2.2.1
      unfold F_X6_trace
      by_cases c0 : x < 0
      · rw [if_pos c0]
      · obtain ⟨i, rfl, hi⟩ := nu_nat ((Int32.lt_or_le x 0).resolve_left c0)
        have hni : ¬ i < min r 24 := fun q => c ⟨(nl_le_0 hi).mpr (by omega), by rw [nu_lem1 (by omega)]; exact (nu_oflt hi (by omega)).mpr q⟩
        rw [if_neg c0, si_654 sτ, pu_bs, e1]
        by_cases c1 : r ≤ i
        · rw [if_pos ((nu_ofle (by omega) hi).mpr c1)]
        · rw [if_neg (fun q => c1 ((nu_ofle (by omega) hi).mp q)), if_pos ((nl_le_24 hi).mpr (by omega))]
end
