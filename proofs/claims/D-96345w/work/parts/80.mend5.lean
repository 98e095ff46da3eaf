section
variable {σ : ah_S} {b : Nat} {z : sp_Z}
theorem op_mend (hS : SW_ z) (hX : XW_ b z σ) (x1 x2 x3 : Int32) : op_ b z σ (fun σ => F_X0_mend σ (some b) x1 x2 x3) (fun σ => F_X6_mend σ (some (b + 123)) x1 x2 x3) := by
  have s0 := XW_sk hX
  obtain ⟨⟨V, G, lw⟩, Q, R, ⟨c, dn, mn⟩, T, U, W⟩ := z
  have hG : G ≤ 7 := hS.2.2.2.2.2.2.2.2.1
  have hdm : dn ≤ mn := hS.2.2.2.2.2.1
  have hm40 : mn ≤ 40 := hS.2.2.2.2.2.2.1
  have hr : sp_rg G V := hS.2.2.2.2.2.2.2.2.2.2.2.1
  by_cases c0 : sp_to G x1 x2
  rotate_left
  · refine op_ret (-1) hS hX ?_ (fun τ hM => ?_)
    · obtain ⟨ga, ra, ba, h1, -⟩ := hX
      have hp : xp_ σ b ga V G := h1.1.2.1
      unfold F_X0_mend
      rw [ss_0 s0, pu_bs, fx_heldN s0 hp c0, pu_b2s, if_pos rfl]
    · have hp : mp_ τ b V G := hM.1.1.2.2.1
      have sτ := hM.1.1.1
      unfold F_X6_mend
      rw [ss_123 sτ, pu_bs, fm_isOneN sτ hp hG c0, pu_b2s, if_pos rfl]
  obtain ⟨w, n, rfl, rfl, ht⟩ := c0
  obtain ⟨w9, n100⟩ := tl_lt hG ht
  have vd := tl_vd ht
  by_cases c1 : 0 ≤ x3 ∧ x3 ≤ Int32.ofNat (sp_mx w)
  rotate_left
  · refine op_ret (-1) hS hX ?_ (fun τ hM => ?_)
    · obtain ⟨ga, ra, ba, h1, -⟩ := hX
      have hp : xp_ σ b ga V G := h1.1.2.1
      unfold F_X0_mend
      rw [ss_0 s0, pu_bs, fx_heldP s0 hp ht, pu_b2s, if_neg (by simp), fx_great w9, pu_b2s, fx_w0, pu_b2s, ra_n c1, if_pos rfl]
    · have hp : mp_ τ b V G := hM.1.1.2.2.1
      have sτ := hM.1.1.1
      unfold F_X6_mend
      rw [ss_123 sτ, pu_bs, fm_isOneP sτ hp hG ht, pu_b2s, if_neg nu_10n, fm_mayBe w9, pu_b2s, ra_n c1, if_pos rfl]
  have mx1000 : sp_mx w < 1000 := by
    have : ∀ w, w < 9 → sp_mx w < 1000 := by decide
    exact this w w9
  have hv : nu_in x3 (sp_mx w) := by
    obtain ⟨q1, q2⟩ := c1
    rw [nu_le] at q1 q2
    rw [nu_of (by omega)] at q2
    exact ⟨q1, q2⟩
  have eX : ∀ ga, xp_ σ b ga V G → F_X0_mend σ (some b) (Int32.ofNat n) (Int32.ofNat w) x3 = ah_b2 (F_X0_become σ (some b) (some (xa_ b ga w (sp_ix w n))) x3) fun v9 σ10 => some (v9, σ10) := fun ga hp => by
    unfold F_X0_mend
    rw [ss_0 s0, pu_bs, fx_heldP s0 hp ht, pu_b2s, if_neg (by simp), fx_great w9, pu_b2s, fx_w0, pu_b2s, ra_p c1, if_neg nu_10n, ss_0 s0, pu_bs]
  have eM : ∀ τ, sk_ok τ b → mp_ τ b V G → F_X6_mend τ (some (b + 123)) (Int32.ofNat n) (Int32.ofNat w) x3 = ah_b2 (F_X6_changes τ (some (b + 123)) (Int32.ofNat w) (Int32.ofNat n) x3) fun v7 σ8 => some (v7, σ8) := fun τ sτ hp => by
    unfold F_X6_mend
    rw [ss_123 sτ, pu_bs, fm_isOneP sτ hp hG ht, pu_b2s, if_neg nu_10n, fm_mayBe w9, pu_b2s, ra_p c1, if_neg nu_10n, ss_123 sτ, pu_bs]
  by_cases c2 : V w (sp_ix w n) = x3
  · refine op_ret (V w (sp_ix w n)) hS hX ?_ (fun τ hM => ?_)
    · obtain ⟨ga, ra, ba, h1, -⟩ := hX
      have hp : xp_ σ b ga V G := h1.1.2.1
      obtain ⟨t1, t2, t3⟩ := xa_ok s0 hp.2.2.1 vd
      show F_X0_mend σ (some b) (Int32.ofNat n) (Int32.ofNat w) x3 = _
      rw [eX ga hp]
      unfold F_X0_become
      rw [dy_gI t1 (by decide), pu_bs, hp.2.2.2.2 w _ vd, if_pos c2, pu_b2s]
    · have hp : mp_ τ b V G := hM.1.1.2.2.1
      have sτ := hM.1.1.1
      show F_X6_mend τ (some (b + 123)) (Int32.ofNat n) (Int32.ofNat w) x3 = _
      rw [eM τ sτ hp]
      unfold F_X6_changes
      rw [ss_123 sτ, pu_bs, fm_value sτ hp hG ht, pu_b2s, if_pos c2, pu_b2s]
  have cd40 : sp_cd dn ≤ 40 := by unfold sp_cd; split <;> omega
  refine ⟨V w (sp_ix w n), ((ah_u2 V w (sp_ix w n) x3, G, lw), Q, R, (sp_ca c dn (w, n, V w (sp_ix w n), x3), sp_cd dn, sp_cd dn), T, U, W), ?_, ?_, fun τ hM => ?_⟩
  · obtain ⟨a1, a2, a3, a4, a5, a6, a7, a8, a9, b1, b2, b3, b4⟩ := hS
    refine ⟨a1, a2, a3, a4, a5, Nat.le_refl _, cd40, fun k hk => ?_, a9, b1, b2, rg_up b3 hv, b4⟩
    have hk : k < sp_cd dn := hk
    have new : sp_tl G w n ∧ nu_in (V w (sp_ix w n)) (sp_mx w) ∧ nu_in x3 (sp_mx w) := ⟨ht, hr w _ vd, hv⟩
    have old : ∀ j, j < mn → sp_tl G (c j).1 (c j).2.1 ∧ nu_in (c j).2.2.1 (sp_mx (c j).1) ∧ nu_in (c j).2.2.2 (sp_mx (c j).1) := a8
    show sp_tl G (sp_ca c dn (w, n, V w (sp_ix w n), x3) k).1 (sp_ca c dn (w, n, V w (sp_ix w n), x3) k).2.1 ∧ nu_in (sp_ca c dn (w, n, V w (sp_ix w n), x3) k).2.2.1 (sp_mx (sp_ca c dn (w, n, V w (sp_ix w n), x3) k).1) ∧ nu_in (sp_ca c dn (w, n, V w (sp_ix w n), x3) k).2.2.2 (sp_mx (sp_ca c dn (w, n, V w (sp_ix w n), x3) k).1)
    unfold sp_cd at hk
    by_cases d : dn = 40
    · rw [if_pos d] at hk
      have ec : sp_ca c dn (w, n, V w (sp_ix w n), x3) k = if k = 39 then (w, n, V w (sp_ix w n), x3) else c (k + 1) := by unfold sp_ca; rw [if_pos d]
      rw [ec]
      by_cases e : k = 39
      · rw [if_pos e]; exact new
      · rw [if_neg e]; exact old (k + 1) (by omega)
    · rw [if_neg d] at hk
      have ec : sp_ca c dn (w, n, V w (sp_ix w n), x3) k = if k = dn then (w, n, V w (sp_ix w n), x3) else c k := by unfold sp_ca; rw [if_neg d]; rfl
      rw [ec]
      by_cases e : k = dn
      · rw [if_pos e]; exact new
      · rw [if_neg e]; exact old k (by omega)
  · obtain ⟨ga, ra, ba, h1, h2, h3, h4, h5, h6⟩ := hX
    have hp : xp_ σ b ga V G := h1.1.2.1
    show pu_ok (F_X0_mend σ (some b) (Int32.ofNat n) (Int32.ofNat w) x3) _
    rw [eX ga hp]
    refine pu_b2 (fx_become s0 hp vd hdm hm40 h5 c2) ?_
    rintro v υ ⟨rfl, A, X, C⟩
    dsimp only at A X C
    refine pu_ret ⟨rfl, ⟨ga, ra, ba, ⟨⟨ag_sk A, X, xw_ag A s0 (by decide) h1.1.2.2.1, rg_up h1.1.2.2.2 hv⟩, xs_ag A s0 (by decide) h1.2.1, xb_ag A s0 (by decide) (by decide) h1.2.2.1, xh_ag A s0 m12 (by decide) h1.2.2.2⟩, xd_ag A s0 (by decide) (by decide) h2, xm_ag A s0 (by decide) h3, xtp_ag A s0 (by decide) h4, C, xtr_ag A s0 (by decide) h6⟩, ag_mo (by decide) A, ?_⟩
    have := A.2.2.1 (by decide)
    show ah_nx υ ≤ ah_nx σ + 1000
    omega
  · obtain ⟨q, h2, h3, h5, h6, h7, h8⟩ := hM
    have sτ := q.1.1
    have hp : mp_ τ b V G := q.1.2.2.1
    show pu_ok (F_X6_mend τ (some (b + 123)) (Int32.ofNat n) (Int32.ofNat w) x3) _
    rw [eM τ sτ hp]
    refine pu_b2 (fm_changes sτ hG hp ht hdm hm40 h7 c2) ?_
    rintro v υ ⟨rfl, A, X, C⟩
    dsimp only at A X C
    exact pu_ret ⟨rfl, ⟨⟨⟨ag_sk A, hG, X, mw_ag A sτ (by decide) q.1.2.2.2⟩, ms_ag A sτ (by decide) q.2.1, mh_ag A sτ (by decide) (by decide) q.2.2⟩, mb_ag A sτ (by decide) h2, xd_ag A sτ (by decide) (by decide) h3, mm_ag A sτ (by decide) h5, mtp_ag A sτ (by decide) h6, C, mtr_ag A sτ (by decide) h8⟩, ag_mo (by decide) A⟩
end
