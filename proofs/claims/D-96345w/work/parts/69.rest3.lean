section
variable {σ : ah_S} {b nb G : Nat} {ga ra ba kd : Nat → Nat} {hd : Nat → Int32} {sz : Nat → Nat} {el : sp_E} {V : sp_V} {lw : sp_W} {h : sp_H} {s : Nat → Int32} {n : Nat}
theorem qq_rest (hw : sw_ hd sz el nb) (hv : sp_hw h) (hr : sp_rg G V) (x1 x2 : Int32) : qq_ b ga ra ba nb kd hd sz el V G lw h (fun σ => F_X0_rest σ (some b) x1 x2) (fun σ => F_X6_rest σ (some (b + 123)) x1 x2) := by
  by_cases c1 : 0 ≤ x1 ∧ x1 ≤ 5
  rotate_left
  · refine ⟨-1, fun σ hq => ?_, fun σ hq => ?_⟩
    · simp only [F_X0_rest, fx_isShelf, ra_n c1, pu_b2s, if_true]; exact pu_ret ⟨rfl, ag_rf _ hq.1.1⟩
    · simp only [F_X6_rest, fm_isShelf, ra_n c1, pu_b2s, if_true]; exact pu_ret ⟨rfl, ag_rf _ hq.1.1, hq.2.2⟩
  by_cases c2 : 0 ≤ x2 ∧ x2 ≤ 5
  rotate_left
  · refine ⟨-1, fun σ hq => ?_, fun σ hq => ?_⟩
    · simp only [F_X0_rest, fx_isShelf, fx_w5, ra_p c1, ra_n c2, nu_10, if_false, pu_b2s, if_true]; exact pu_ret ⟨rfl, ag_rf _ hq.1.1⟩
    · simp only [F_X6_rest, fm_isShelf, fm_in_, ra_p c1, ra_n c2, nu_10, if_false, pu_b2s, if_true]; exact pu_ret ⟨rfl, ag_rf _ hq.1.1, hq.2.2⟩
  obtain ⟨d, rfl, h6⟩ := nu_natb (m := 5) c1.1 (by decide) c1.2
  obtain ⟨w, rfl, h5⟩ := nu_natb (m := 5) c2.1 (by decide) c2.2
  have h6 : d < 6 := by omega
  have hz := (hw d h6).1
  by_cases e2 : hd d = -2
  rotate_left
  · refine ⟨sp_rf hd d, fun σ hq => ?_, fun σ hq => ?_⟩
    · have s0 := hq.1.1
      simp only [F_X0_rest, fx_isShelf, fx_w5, ra_p c1, ra_p c2, pu_b2s, nu_10, if_false, ss_0 s0, pu_bs, fx_takesN hq.1 hq.2.1 hq.2.2.1 hw h6 e2, if_neg (rf_n e2).2.2, fx_lookAt s0 hq.2.1 hq.2.2.1 hw h6]; exact pu_ret ⟨rfl, ag_rf _ s0⟩
    · have s0 := hq.1.1
      simp only [F_X6_rest, fm_isShelf, fm_in_, ra_p c1, ra_p c2, pu_b2s, nu_10, if_false, ss_123 s0, pu_bs, fm_rowFault s0 hq.2.1 h6, if_neg (rf_n e2).2.2]; exact pu_ret ⟨rfl, ag_rf _ s0, hq.2.2⟩
  refine ⟨sp_ra (sp_hq V G lw (fun i => (el d i).toInt32) (min (sz d) 30) h) w (sp_fo (sp_hq V G lw (fun i => (el d i).toInt32) (min (sz d) 30) h) 200 1), fun σ hq => ?_, fun σ hq => ?_⟩
  · have s0 := hq.1.1
    simp only [F_X0_rest, fx_isShelf, fx_w5, ra_p c1, ra_p c2, pu_b2s, nu_10, if_false, ss_0 s0, pu_bs]
    refine pu_b2 (fx_takes hq.1 hq.2.1 hq.2.2.1 hw h6 e2) ?_
    rintro v τ ⟨rfl, A1, C1⟩
    dsimp only at A1 C1
    have sτ := ag_sk A1
    rw [if_pos (by decide)]
    rw [ss_0 sτ, pu_bs]
    refine pu_b2 (fx_findRest hv (xk_ag A1 (by decide) hq.1) C1 (xh_ag A1 hq.1.1 m12 (by decide) hq.2.2.2)) ?_
    generalize sp_fo (sp_hq V G lw (fun i => (el d i).toInt32) (min (sz d) 30) h) 200 1 = o
    rintro v υ ⟨A2, hm⟩
    dsimp only at A2 hm
    have s2 := ag_sk A2
    have A3 : ag_ b LX_ σ υ := ag_tr (ag_mo (by decide) A1) (ag_mo (by decide) A2)
    cases o with
    | none =>
      have hm : v = 0 := hm
      rw [if_pos hm]
      exact pu_ret ⟨rfl, A3⟩
    | some p =>
      obtain ⟨m1, m2, m3, m4, m5⟩ := hm
      have m1 : v = 1 := m1
      rw [ra_so, m1, if_neg nu_10n]
      by_cases c : w = 0
      · rw [if_pos (by rw [c]; rfl), if_pos c, si_23 s2, pu_bs, m3]; exact pu_ret ⟨rfl, A3⟩
      rw [if_neg (fun z => c ((nl_eq_0 (by omega)).mp z)), if_neg c]
      by_cases c1 : w = 1
      · rw [if_pos (by rw [c1]; rfl), if_pos c1, si_24 s2, pu_bs, m4]; exact pu_ret ⟨rfl, A3⟩
      rw [if_neg (fun z => c1 ((nl_eq_1 (by omega)).mp z)), if_neg c1, sg_22 s2, pu_bs, si_23 s2, pu_bs, m3, show Int32.ofNat w - 2 = Int32.ofNat (w - 2) from (Int32.ofNat_sub w 2 (by omega)).symm, nl_mu_2, nl_mr_37, nl_aa, al_23 s2 (by omega), pu_bs, (m5.1 (w - 2) (by omega)).1]
      exact pu_ret ⟨rfl, A3⟩
  · have s0 := hq.1.1
    simp only [F_X6_rest, fm_isShelf, fm_in_, ra_p c1, ra_p c2, pu_b2s, nu_10, if_false, ss_123 s0, pu_bs, fm_rowFault s0 hq.2.1 h6, rf_0 e2]
    rw [if_pos (by decide)]
    refine pu_bind (fm_layStays hq.1.1 hq.2.1 (hw d h6).1 h6) ?_
    rintro τ ⟨A1, C1⟩
    have sτ := ag_sk A1
    simp only [ss_123 sτ, pu_bs]
    refine pu_bind (fm_keepHut sτ (mh_ag A1 hq.1.1 (by decide) (by decide) hq.2.2)) ?_
    rintro υ ⟨A2, H2⟩
    have R : rm_ υ b V G lw (fun i => (el d i).toInt32) (min (sz d) 30) h h := ⟨mk_ag A2 (by decide) (mk_ag A1 (by decide) hq.1), mst_ag A2 sτ (by decide) C1, H2, mh_ag A2 sτ (by decide) (by decide) (mh_ag A1 hq.1.1 (by decide) (by decide) hq.2.2)⟩
    have A3 : ag_ b LM_ σ υ := ag_tr (ag_mo (by decide) A1) (ag_mo (by decide) A2)
    have e0 : sp_fo (sp_hq V G lw (fun i => (el d i).toInt32) (min (sz d) 30) h) (200 + 1) 0 = sp_fo (sp_hq V G lw (fun i => (el d i).toInt32) (min (sz d) 30) h) 200 1 := rfl
    have := lm_r51 (w := w) (k := h) h5 hr hv 201 0 υ 1000 (by omega) (by omega) R (fun i hi => absurd hi (Nat.not_lt_zero _))
    rw [show (201 : Nat) = 200 + 1 from rfl, e0] at this
    exact pu_mono this (fun r hr => ⟨hr.1, ag_tr A3 (ag_mo (by decide) hr.2.1), hr.2.2⟩)
end
