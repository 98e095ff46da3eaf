/-! ===== undo, redo ===== -/
section
variable {σ : ah_S} {b : Nat} {z : sp_Z}
theorem rg_up {G w i : Nat} {V : sp_V} {v : Int32} (hr : sp_rg G V) (hv : nu_in v (sp_mx w)) : sp_rg G (ah_u2 V w i v) := fun w' i' h' => by
  by_cases c : w' = w
  · subst c
    rw [u2_eq]
    split
    · exact hv
    · exact hr w' i' h'
  · rw [u2_ne c]; exact hr w' i' h'
/-- the cells of a change -/
theorem ch_cl {ga ca : Nat → Nat} {c : sp_C} {mn k : Nat} (h0 : sk_ok σ b) (h3 : ∀ k, k < 40 → ah_ar σ (b + 1) k = some (b + (75 + ca k)) ∧ ca k < 40) (h5 : ∀ k, k < mn → ah_fr σ 500 (b + (75 + ca k)) = some (xa_ b ga (c k).1 (sp_ix (c k).1 (c k).2.1)) ∧ ah_fi σ 501 (b + (75 + ca k)) = (c k).2.2.1 ∧ ah_fi σ 502 (b + (75 + ca k)) = (c k).2.2.2) (hk : k < mn) (hm : mn ≤ 40) : ah_lQ σ 111 (some (b + 1)) (Int32.ofNat k) = some (some (b + (75 + ca k))) ∧ ah_gR σ 500 (some (b + (75 + ca k))) = some (some (xa_ b ga (c k).1 (sp_ix (c k).1 (c k).2.1))) ∧ ah_gI σ 501 (some (b + (75 + ca k))) = some (c k).2.2.1 ∧ ah_gI σ 502 (some (b + (75 + ca k))) = some (c k).2.2.2 := by
  obtain ⟨a1, a2⟩ := h3 k (by omega)
  obtain ⟨b1, b2, b3⟩ := h5 k hk
  have tg : ah_tg σ (b + (75 + ca k)) = 6 := by rw [h0.2.1 _ (by omega)]; exact (ch_lb _ a2).2
  exact ⟨by rw [al_1 h0 (by omega), a1], by rw [dy_gR tg (by decide), b1], by rw [dy_gI tg (by decide), b2], by rw [dy_gI tg (by decide), b3]⟩
theorem op_undo (hS : SW_ z) (hX : XW_ b z σ) : op_ b z σ (fun σ => F_X0_undo σ (some b)) (fun σ => F_X6_undo σ (some (b + 123))) := by
  have s0 := XW_sk hX
  obtain ⟨⟨V, G, lw⟩, Q, R, ⟨c, dn, mn⟩, T, U, W⟩ := z
  have hG : G ≤ 7 := hS.2.2.2.2.2.2.2.2.1
  have hdm : dn ≤ mn := hS.2.2.2.2.2.1
  have hm40 : mn ≤ 40 := hS.2.2.2.2.2.2.1
  by_cases c0 : dn = 0
  · subst c0
    refine op_ret (-5) hS hX ?_ (fun τ hM => ?_)
    · obtain ⟨ga, ra, ba, h1, h2, h3, h4, h5, h6⟩ := hX
      have e2 : ah_fi σ 2 b = Int32.ofNat 0 := h5.1
      unfold F_X0_undo
      rw [si_2 s0, pu_bs, e2, if_pos (show Int32.ofNat 0 = 0 from rfl)]
    · have e2 : ah_fi τ 612 (b + 123) = Int32.ofNat 0 := hM.2.2.2.2.2.1.1
      unfold F_X6_undo
      rw [si_612 hM.1.1.1, pu_bs, e2, if_pos (show Int32.ofNat 0 = 0 from rfl)]
  obtain ⟨k, rfl⟩ : ∃ k, dn = k + 1 := ⟨dn - 1, by omega⟩
  have hk : k < mn := by omega
  obtain ⟨tl, r1, r2⟩ := hS.2.2.2.2.2.2.2.1 k hk
  have tl : sp_tl G (c k).1 (c k).2.1 := tl
  have vd := tl_vd tl
  obtain ⟨w9, n100⟩ := tl_lt hG tl
  refine ⟨Int32.ofNat k, ((ah_u2 V (c k).1 (sp_ix (c k).1 (c k).2.1) (c k).2.2.1, G, lw), Q, R, (c, k, mn), T, U, W), ?_, ?_, fun τ hM => ?_⟩
  · obtain ⟨a1, a2, a3, a4, a5, a6, a7, a8, a9, b1, b2, b3, b4⟩ := hS
    exact ⟨a1, a2, a3, a4, a5, by show k ≤ mn; omega, a7, a8, a9, b1, b2, rg_up b3 r1, b4⟩
  · obtain ⟨ga, ra, ba, h1, h2, h3, h4, h5, h6⟩ := hX
    have hp : xp_ σ b ga V G := h1.1.2.1
    obtain ⟨e1, e2, ca, e3, e4, e5⟩ := id h5
    have e1 : ah_fi σ 2 b = Int32.ofNat (k + 1) := e1
    obtain ⟨t1, t2, t3⟩ := xa_ok s0 hp.2.2.1 vd
    have A1 : ag_ b [1] σ (ah_sI σ 2 b (Int32.ofNat k)) := ag_wI (ag_rf _ s0) (fun _ => lb_fo (by decide) rfl (by decide))
    have s1 := ag_sk A1
    obtain ⟨q1, q2, q3, -⟩ := ch_cl (σ := ah_sI σ 2 b (Int32.ofNat k)) (c := c) s1 e3 (fun j hj => by
      obtain ⟨f1, f2, f3⟩ := e5 j hj
      exact ⟨f1, by rw [rw_fi_sI, if_neg (by decide)]; exact f2, by rw [rw_fi_sI, if_neg (by decide)]; exact f3⟩) hk hm40
    have A : ag_ b [0, 1] σ (ah_sI (ah_sI σ 2 b (Int32.ofNat k)) 200 (xa_ b ga (c k).1 (sp_ix (c k).1 (c k).2.1)) (c k).2.2.1) := ag_wI (ag_mo (by decide) A1) (fun _ => by rw [lb_iy (by decide), t3]; decide)
    have e : F_X0_undo σ (some b) = some (Int32.ofNat k, ah_sI (ah_sI σ 2 b (Int32.ofNat k)) 200 (xa_ b ga (c k).1 (sp_ix (c k).1 (c k).2.1)) (c k).2.2.1) := by
      have ek : ah_fi (ah_sI σ 2 b (Int32.ofNat k)) 2 b = Int32.ofNat k := by rw [rw_fi_sI, if_pos rfl, if_pos rfl]
      unfold F_X0_undo
      rw [si_2 s0, pu_bs, e1, if_neg (fun z => by have := (nl_eq_0 (by omega)).mp z; omega), pu_bs, nu_s1, sp_2 s0, pu_bs, sg_0 s1, pu_bs, si_2 s1, pu_bs, ek, q1, pu_bs, q2, pu_bs, pu_bs, pu_bs, q1, pu_bs, q3, pu_bs, dy_pI (σ := ah_sI σ 2 b (Int32.ofNat k)) t1 (by decide), pu_bs, si_2 (ag_sk A), pu_bs, rw_fi_sI, if_neg (by decide), ek]
    have xk1 := xk_ag A1 (by decide) h1.1
    refine ⟨_, e, rfl, ⟨ga, ra, ba, ⟨⟨ag_sk A, xp_up xk1.2.1 vd, xw_ag A s0 (by decide) h1.1.2.2.1, rg_up h1.1.2.2.2 r1⟩, xs_ag A s0 (by decide) h1.2.1, xb_ag A s0 (by decide) (by decide) h1.2.2.1, xh_ag A s0 m12 (by decide) h1.2.2.2⟩, xd_ag A s0 (by decide) (by decide) h2, xm_ag A s0 (by decide) h3, xtp_ag A s0 (by decide) h4, ⟨?_, ?_, ca, e3, e4, fun j hj => ?_⟩, xtr_ag A s0 (by decide) h6⟩, ag_mo (by decide) A, by show ah_nx σ ≤ ah_nx σ + 1000; omega⟩
    · rw [rw_fi_sI, if_neg (by decide), rw_fi_sI, if_pos rfl, if_pos rfl]
    · rw [rw_fi_sI, if_neg (by decide), rw_fi_sI, if_neg (by decide)]; exact e2
    · obtain ⟨f1, f2, f3⟩ := e5 j hj
      refine ⟨f1, ?_, ?_⟩
      · rw [rw_fi_sI, if_neg (by decide), rw_fi_sI, if_neg (by decide)]; exact f2
      · rw [rw_fi_sI, if_neg (by decide), rw_fi_sI, if_neg (by decide)]; exact f3
  · obtain ⟨q, h2, h3, h5, h6, h7, h8⟩ := hM
    have sτ := q.1.1
    obtain ⟨e1, e2, e5⟩ := id h7
    have e1 : ah_fi τ 612 (b + 123) = Int32.ofNat (k + 1) := e1
    have e2 : ah_fi τ 613 (b + 123) = Int32.ofNat (mn - (k + 1)) := e2
    obtain ⟨f1, f2, f3, f4⟩ := e5 k hk
    have hp : mp_ τ b V G := q.1.2.2.1
    have A : ag_ b [21] τ (ah_sI (ah_sI τ 612 (b + 123) (Int32.ofNat k)) 613 (b + 123) (Int32.ofNat (mn - k))) := ag_wI (ag_wI (ag_rf _ sτ) (fun _ => lb_fo (by decide) rfl (by decide))) (fun _ => lb_fo (by decide) rfl (by decide))
    have s1 : sk_ok (ah_sI τ 612 (b + 123) (Int32.ofNat k)) b := sτ
    have s2 := ag_sk A
    have ek : ah_fi (ah_sI (ah_sI τ 612 (b + 123) (Int32.ofNat k)) 613 (b + 123) (Int32.ofNat (mn - k))) 612 (b + 123) = Int32.ofNat k := by rw [rw_fi_sI, if_neg (by decide), rw_fi_sI, if_pos rfl, if_pos rfl]
    show pu_ok (F_X6_undo τ (some (b + 123))) _
    unfold F_X6_undo
    rw [si_612 sτ, pu_bs, e1, if_neg (fun z => by have := (nl_eq_0 (by omega)).mp z; omega), pu_bs, nu_s1, sp_612 sτ, pu_bs, si_613 s1, pu_bs, rw_fi_sI, if_neg (by decide), e2, nu_of1, show mn - (k + 1) + 1 = mn - k by omega, sp_613 s1, pu_bs, sg_614 s2, pu_bs, si_612 s2, pu_bs, ek, al_131 s2 (by omega), pu_bs, sg_615 s2, pu_bs, pu_bs, al_132 s2 (by omega), pu_bs, sg_616 s2, pu_bs, pu_bs, al_133 s2 (by omega), pu_bs, ss_123 s2, pu_bs, rw_ai_sI, rw_ai_sI, f1, f2, f3]
    refine pu_bind (fm_lays s2 (mp_ag A sτ (by decide) hp) hG tl) ?_
    rintro υ ⟨A2, M2⟩
    have s3 := ag_sk A2
    have ek2 : ah_fi υ 612 (b + 123) = Int32.ofNat k := by rw [ag_fi A2 s2 (by decide) (by decide) (by decide)]; exact ek
    rw [si_612 s3, pu_bs, ek2]
    have AA : ag_ b [20, 21] τ υ := ag_tr (ag_mo (by decide) A) (ag_mo (by decide) A2)
    refine pu_ret ⟨rfl, ⟨⟨⟨s3, hG, M2, mw_ag AA sτ (by decide) q.1.2.2.2⟩, ms_ag AA sτ (by decide) q.2.1, mh_ag AA sτ (by decide) (by decide) q.2.2⟩, mb_ag AA sτ (by decide) h2, xd_ag AA sτ (by decide) (by decide) h3, mm_ag AA sτ (by decide) h5, mtp_ag AA sτ (by decide) h6, ⟨ek2, ?_, fun j hj => ?_⟩, mtr_ag AA sτ (by decide) h8⟩, ag_mo (by decide) AA⟩
    · rw [ag_fi A2 s2 (by decide) (by decide) (by decide), rw_fi_sI, if_pos rfl, if_pos rfl]
    · rw [ag_ai A2 s2 (by decide) (by decide), ag_ai A2 s2 (by decide) (by decide), ag_ai A2 s2 (by decide) (by decide), ag_ai A2 s2 (by decide) (by decide), rw_ai_sI, rw_ai_sI]
      exact e5 j hj
theorem op_redo (hS : SW_ z) (hX : XW_ b z σ) : op_ b z σ (fun σ => F_X0_redo σ (some b)) (fun σ => F_X6_redo σ (some (b + 123))) := by
  have s0 := XW_sk hX
  obtain ⟨⟨V, G, lw⟩, Q, R, ⟨c, k, mn⟩, T, U, W⟩ := z
  have hG : G ≤ 7 := hS.2.2.2.2.2.2.2.2.1
  have hdm : k ≤ mn := hS.2.2.2.2.2.1
  have hm40 : mn ≤ 40 := hS.2.2.2.2.2.2.1
  by_cases c0 : k = mn
  · subst c0
    refine op_ret (-5) hS hX ?_ (fun τ hM => ?_)
    · obtain ⟨ga, ra, ba, h1, h2, h3, h4, h5, h6⟩ := hX
      have e1 : ah_fi σ 2 b = Int32.ofNat k := h5.1
      have e2 : ah_fi σ 1 b = Int32.ofNat k := h5.2.1
      unfold F_X0_redo
      rw [si_2 s0, pu_bs, si_1 s0, pu_bs, e1, e2, if_pos rfl]
    · have e2 : ah_fi τ 613 (b + 123) = Int32.ofNat (k - k) := hM.2.2.2.2.2.1.2.1
      unfold F_X6_redo
      rw [si_613 hM.1.1.1, pu_bs, e2, Nat.sub_self, if_pos (show Int32.ofNat 0 = 0 from rfl)]
  have hk : k < mn := by omega
  obtain ⟨tl, r1, r2⟩ := hS.2.2.2.2.2.2.2.1 k hk
  have tl : sp_tl G (c k).1 (c k).2.1 := tl
  have vd := tl_vd tl
  obtain ⟨w9, n100⟩ := tl_lt hG tl
  refine ⟨Int32.ofNat (mn - (k + 1)), ((ah_u2 V (c k).1 (sp_ix (c k).1 (c k).2.1) (c k).2.2.2, G, lw), Q, R, (c, k + 1, mn), T, U, W), ?_, ?_, fun τ hM => ?_⟩
  · obtain ⟨a1, a2, a3, a4, a5, a6, a7, a8, a9, b1, b2, b3, b4⟩ := hS
    exact ⟨a1, a2, a3, a4, a5, by show k + 1 ≤ mn; omega, a7, a8, a9, b1, b2, rg_up b3 r2, b4⟩
  · obtain ⟨ga, ra, ba, h1, h2, h3, h4, h5, h6⟩ := hX
    have hp : xp_ σ b ga V G := h1.1.2.1
    obtain ⟨e1, e2, ca, e3, e4, e5⟩ := id h5
    have e1 : ah_fi σ 2 b = Int32.ofNat k := e1
    have e2 : ah_fi σ 1 b = Int32.ofNat mn := e2
    obtain ⟨t1, t2, t3⟩ := xa_ok s0 hp.2.2.1 vd
    obtain ⟨q1, q2, -, q3⟩ := ch_cl (c := c) s0 e3 e5 hk hm40
    have A1 : ag_ b [0] σ (ah_sI σ 200 (xa_ b ga (c k).1 (sp_ix (c k).1 (c k).2.1)) (c k).2.2.2) := ag_wI (ag_rf _ s0) (fun _ => by rw [lb_iy (by decide), t3]; decide)
    have s1 := ag_sk A1
    have A : ag_ b [0, 1] σ (ah_sI (ah_sI σ 200 (xa_ b ga (c k).1 (sp_ix (c k).1 (c k).2.1)) (c k).2.2.2) 2 b (Int32.ofNat (k + 1))) := ag_wI (ag_mo (by decide) A1) (fun _ => lb_fo (by decide) rfl (by decide))
    have e : F_X0_redo σ (some b) = some (Int32.ofNat (mn - (k + 1)), ah_sI (ah_sI σ 200 (xa_ b ga (c k).1 (sp_ix (c k).1 (c k).2.1)) (c k).2.2.2) 2 b (Int32.ofNat (k + 1))) := by
      unfold F_X0_redo
      rw [si_2 s0, pu_bs, si_1 s0, pu_bs, e1, e2, if_neg (fun z => c0 ((nu_ofeq (by omega) (by omega)).mp z)), sg_0 s0, pu_bs, pu_bs, q1, pu_bs, q2, pu_bs, pu_bs, pu_bs, q1, pu_bs, q3, pu_bs, dy_pI t1 (by decide), pu_bs, si_2 s1, pu_bs, rw_fi_sI, if_neg (by decide), e1, nu_of1, sp_2 s1, pu_bs, si_1 (ag_sk A), pu_bs, si_2 (ag_sk A), pu_bs, rw_fi_sI, if_neg (by decide), rw_fi_sI, if_neg (by decide), e2, rw_fi_sI, if_pos rfl, if_pos rfl, ← Int32.ofNat_sub mn (k + 1) (by omega)]
    refine ⟨_, e, rfl, ⟨ga, ra, ba, ⟨⟨ag_sk A, ?_, xw_ag A s0 (by decide) h1.1.2.2.1, rg_up h1.1.2.2.2 r2⟩, xs_ag A s0 (by decide) h1.2.1, xb_ag A s0 (by decide) (by decide) h1.2.2.1, xh_ag A s0 m12 (by decide) h1.2.2.2⟩, xd_ag A s0 (by decide) (by decide) h2, xm_ag A s0 (by decide) h3, xtp_ag A s0 (by decide) h4, ⟨?_, ?_, ca, e3, e4, fun j hj => ?_⟩, xtr_ag A s0 (by decide) h6⟩, ag_mo (by decide) A, by show ah_nx σ ≤ ah_nx σ + 1000; omega⟩
    · have B : ag_ b [1] (ah_sI σ 200 (xa_ b ga (c k).1 (sp_ix (c k).1 (c k).2.1)) (c k).2.2.2) (ah_sI (ah_sI σ 200 (xa_ b ga (c k).1 (sp_ix (c k).1 (c k).2.1)) (c k).2.2.2) 2 b (Int32.ofNat (k + 1))) := ag_wI (ag_rf _ s1) (fun _ => lb_fo (by decide) rfl (by decide))
      exact xp_ag B s1 (by decide) (by decide) (xp_up hp vd)
    · rw [rw_fi_sI, if_pos rfl, if_pos rfl]
    · rw [rw_fi_sI, if_neg (by decide), rw_fi_sI, if_neg (by decide)]; exact e2
    · obtain ⟨f1, f2, f3⟩ := e5 j hj
      refine ⟨f1, ?_, ?_⟩
      · rw [rw_fi_sI, if_neg (by decide), rw_fi_sI, if_neg (by decide)]; exact f2
      · rw [rw_fi_sI, if_neg (by decide), rw_fi_sI, if_neg (by decide)]; exact f3
  · obtain ⟨q, h2, h3, h5, h6, h7, h8⟩ := hM
    have sτ := q.1.1
    obtain ⟨e1, e2, e5⟩ := id h7
    have e1 : ah_fi τ 612 (b + 123) = Int32.ofNat k := e1
    have e2 : ah_fi τ 613 (b + 123) = Int32.ofNat (mn - k) := e2
    obtain ⟨f1, f2, f3, f4⟩ := e5 k hk
    have hp : mp_ τ b V G := q.1.2.2.1
    show pu_ok (F_X6_redo τ (some (b + 123))) _
    unfold F_X6_redo
    rw [si_613 sτ, pu_bs, e2, if_neg (fun z => by have := (nl_eq_0 (by omega)).mp z; omega), sg_614 sτ, pu_bs, si_612 sτ, pu_bs, e1, al_131 sτ (by omega), pu_bs, sg_615 sτ, pu_bs, pu_bs, al_132 sτ (by omega), pu_bs, sg_617 sτ, pu_bs, pu_bs, al_134 sτ (by omega), pu_bs, ss_123 sτ, pu_bs, f1, f2, f4]
    refine pu_bind (fm_lays sτ hp hG tl) ?_
    rintro υ ⟨A2, M2⟩
    have s3 := ag_sk A2
    have ek2 : ah_fi υ 612 (b + 123) = Int32.ofNat k := by rw [ag_fi A2 sτ (by decide) (by decide) (by decide)]; exact e1
    have em2 : ah_fi υ 613 (b + 123) = Int32.ofNat (mn - k) := by rw [ag_fi A2 sτ (by decide) (by decide) (by decide)]; exact e2
    have s4 : sk_ok (ah_sI υ 612 (b + 123) (Int32.ofNat (k + 1))) b := s3
    have B : ag_ b [21] υ (ah_sI (ah_sI υ 612 (b + 123) (Int32.ofNat (k + 1))) 613 (b + 123) (Int32.ofNat (mn - (k + 1)))) := ag_wI (ag_wI (ag_rf _ s3) (fun _ => lb_fo (by decide) rfl (by decide))) (fun _ => lb_fo (by decide) rfl (by decide))
    rw [si_612 s3, pu_bs, ek2, nu_of1, sp_612 s3, pu_bs, si_613 s4, pu_bs, rw_fi_sI, if_neg (by decide), em2, show mn - k = mn - (k + 1) + 1 by omega, nu_s1, sp_613 s4, pu_bs, si_613 (ag_sk B), pu_bs, rw_fi_sI, if_pos rfl, if_pos rfl]
    have AA : ag_ b [20, 21] τ (ah_sI (ah_sI υ 612 (b + 123) (Int32.ofNat (k + 1))) 613 (b + 123) (Int32.ofNat (mn - (k + 1)))) := ag_tr (ag_mo (by decide) A2) (ag_mo (by decide) B)
    refine pu_ret ⟨rfl, ⟨⟨⟨ag_sk B, hG, mp_ag B s3 (by decide) M2, mw_ag AA sτ (by decide) q.1.2.2.2⟩, ms_ag AA sτ (by decide) q.2.1, mh_ag AA sτ (by decide) (by decide) q.2.2⟩, mb_ag AA sτ (by decide) h2, xd_ag AA sτ (by decide) (by decide) h3, mm_ag AA sτ (by decide) h5, mtp_ag AA sτ (by decide) h6, ⟨?_, ?_, fun j hj => ?_⟩, mtr_ag AA sτ (by decide) h8⟩, ag_mo (by decide) AA⟩
    · rw [rw_fi_sI, if_neg (by decide), rw_fi_sI, if_pos rfl, if_pos rfl]
    · rw [rw_fi_sI, if_pos rfl, if_pos rfl]
    · rw [rw_ai_sI, rw_ai_sI, ag_ai A2 sτ (by decide) (by decide), ag_ai A2 sτ (by decide) (by decide), ag_ai A2 sτ (by decide) (by decide), ag_ai A2 sτ (by decide) (by decide)]
      exact e5 j hj
end
