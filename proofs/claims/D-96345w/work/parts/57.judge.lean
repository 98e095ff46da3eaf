/-! ===== judge ===== -/
section
variable {σ : ah_S} {b nb G : Nat} {ga ra ba kd : Nat → Nat} {hd : Nat → Int32} {sz : Nat → Nat} {el : sp_E} {V : sp_V} {lw : sp_W} {h : sp_H} {s : Nat → Int32} {n : Nat}
theorem nu_ndi {n : Nat} (h : n < 2147483648) : ah_di (Int32.ofNat n) 10 = some (Int32.ofNat (n / 10)) := nl_di_10 h
theorem hd_no {d : Nat} (hw : sw_ hd sz el nb) (hs : xs_ σ b ra ba nb hd sz el) (h6 : d < 6) : ah_ar σ (b + 74) d = none ↔ hd d = -1 := by
  obtain ⟨h1, h2, h3⟩ := hs.1 d h6
  refine ⟨fun e => ?_, h1⟩
  rcases (hw d h6).2 with e1 | ⟨j, hj, e1⟩ | ⟨s, hs5, e1, -⟩
  · exact e1
  · rw [h2 j hj e1] at e; cases e
  · rw [(h3 s hs5 e1).1] at e; cases e
theorem qq_judge (hw : sw_ hd sz el nb) (hv : sp_hw h) (x1 x2 : Int32) : qq_ b ga ra ba nb kd hd sz el V G lw h (fun σ => F_X0_judge σ (some b) x1 x2) (fun σ => F_X6_judge σ (some (b + 123)) x1 x2) := by
  by_cases c0 : x1 < 0
  · refine ⟨-1, fun σ hq => ?_, fun σ hq => ?_⟩
    · simp only [F_X0_judge, if_pos c0]; exact pu_ret ⟨rfl, ag_rf _ hq.1.1⟩
    · simp only [F_X6_judge, if_pos c0]; exact pu_ret ⟨rfl, ag_rf _ hq.1.1, hq.2.2⟩
  obtain ⟨N, rfl, hN⟩ := nu_nat ((Int32.lt_or_le x1 0).resolve_left c0)
  by_cases c1 : 0 ≤ Int32.ofNat (N / 10) ∧ Int32.ofNat (N / 10) ≤ 5
  rotate_left
  · refine ⟨-1, fun σ hq => ?_, fun σ hq => ?_⟩
    · simp only [F_X0_judge, if_neg c0, nl_di_10 hN, pu_bs, fx_isShelf, ra_n c1, pu_b2s, if_true]; exact pu_ret ⟨rfl, ag_rf _ hq.1.1⟩
    · simp only [F_X6_judge, if_neg c0, nl_di_10 hN, pu_bs, fm_isShelf, ra_n c1, pu_b2s, if_true]; exact pu_ret ⟨rfl, ag_rf _ hq.1.1, hq.2.2⟩
  by_cases c2 : 0 ≤ Int32.ofNat (N % 10) ∧ Int32.ofNat (N % 10) ≤ 5
  rotate_left
  · refine ⟨-1, fun σ hq => ?_, fun σ hq => ?_⟩
    · simp only [F_X0_judge, if_neg c0, nl_di_10 hN, nl_re_10 hN, pu_bs, fx_isShelf, ra_p c1, ra_n c2, nu_10, if_false, pu_b2s, if_true]; exact pu_ret ⟨rfl, ag_rf _ hq.1.1⟩
    · simp only [F_X6_judge, if_neg c0, nl_di_10 hN, nl_re_10 hN, pu_bs, fm_isShelf, ra_p c1, ra_n c2, nu_10, if_false, pu_b2s, if_true]; exact pu_ret ⟨rfl, ag_rf _ hq.1.1, hq.2.2⟩
  by_cases c3 : 0 ≤ x2 ∧ x2 ≤ 3
  rotate_left
  · refine ⟨-1, fun σ hq => ?_, fun σ hq => ?_⟩
    · simp only [F_X0_judge, if_neg c0, nl_di_10 hN, nl_re_10 hN, pu_bs, fx_isShelf, fx_isThing, ra_p c1, ra_p c2, ra_n c3, nu_10, if_false, pu_b2s, if_true]; exact pu_ret ⟨rfl, ag_rf _ hq.1.1⟩
    · simp only [F_X6_judge, if_neg c0, nl_di_10 hN, nl_re_10 hN, pu_bs, fm_isShelf, fm_isThing, ra_p c1, ra_p c2, ra_n c3, nu_10, if_false, pu_b2s, if_true]; exact pu_ret ⟨rfl, ag_rf _ hq.1.1, hq.2.2⟩
  obtain ⟨t, rfl, h4⟩ := nu_natb (m := 3) c3.1 (by decide) c3.2
  have h4 : t < 4 := by omega
  have hd1 : N / 10 < 6 := by have := (nl_ge_5 (by omega)).mp c1.2; omega
  have hd2 : N % 10 < 6 := by have := (nl_ge_5 (by omega)).mp c2.2; omega
  have eD := nl_di_10 hN
  have eR := nl_re_10 hN
  generalize N / 10 = d at *
  generalize N % 10 = d2 at *
  have hz := (hw d hd1).1
  have hz2 := (hw d2 hd2).1
  by_cases e1 : hd d = -1
  · refine ⟨-11, fun σ hq => ?_, fun σ hq => ?_⟩
    · have s0 := hq.1.1
      simp only [F_X0_judge, if_neg c0, eD, eR, pu_bs, fx_isShelf, fx_isThing, ra_p c1, ra_p c2, ra_p c3, nu_10, if_false, pu_b2s, sg_41 s0, al_74 s0 hd1, (hd_no hw hq.2.1 hd1).mpr e1, if_true]; exact pu_ret ⟨rfl, ag_rf _ hq.1.1⟩
    · have s0 := hq.1.1
      simp only [F_X6_judge, if_neg c0, eD, eR, pu_bs, fm_isShelf, fm_isThing, ra_p c1, ra_p c2, ra_p c3, nu_10, if_false, pu_b2s, sg_656 s0, al_159 s0 hd1, (hq.2.1 d hd1).1, if_pos e1]; exact pu_ret ⟨rfl, ag_rf _ hq.1.1, hq.2.2⟩
  by_cases e2 : hd d2 = -1
  · refine ⟨-11, fun σ hq => ?_, fun σ hq => ?_⟩
    · have s0 := hq.1.1
      simp only [F_X0_judge, if_neg c0, eD, eR, pu_bs, fx_isShelf, fx_isThing, ra_p c1, ra_p c2, ra_p c3, nu_10, if_false, pu_b2s, sg_41 s0, al_74 s0 hd1, al_74 s0 hd2, if_neg (fun z => e1 ((hd_no hw hq.2.1 hd1).mp z)), if_pos ((hd_no hw hq.2.1 hd2).mpr e2)]; exact pu_ret ⟨rfl, ag_rf _ hq.1.1⟩
    · have s0 := hq.1.1
      simp only [F_X6_judge, if_neg c0, eD, eR, pu_bs, fm_isShelf, fm_isThing, ra_p c1, ra_p c2, ra_p c3, nu_10, if_false, pu_b2s, sg_656 s0, al_159 s0 hd1, al_159 s0 hd2, (hq.2.1 d hd1).1, (hq.2.1 d2 hd2).1, if_neg e1, if_pos e2]; exact pu_ret ⟨rfl, ag_rf _ hq.1.1, hq.2.2⟩
  by_cases f1 : hd d = -2
  rotate_left
  · refine ⟨-12, fun σ hq => ?_, fun σ hq => ?_⟩
    · have s0 := hq.1.1
      simp only [F_X0_judge, if_neg c0, eD, eR, pu_bs, fx_isShelf, fx_isThing, ra_p c1, ra_p c2, ra_p c3, nu_10, if_false, pu_b2s, sg_41 s0, al_74 s0 hd1, al_74 s0 hd2, if_neg (fun z => e1 ((hd_no hw hq.2.1 hd1).mp z)), if_neg (fun z => e2 ((hd_no hw hq.2.1 hd2).mp z)), ss_0 s0, fx_lookAt s0 hq.2.1 hq.2.2.1 hw hd1, if_pos (rf_n f1).1]; exact pu_ret ⟨rfl, ag_rf _ hq.1.1⟩
    · have s0 := hq.1.1
      simp only [F_X6_judge, if_neg c0, eD, eR, pu_bs, fm_isShelf, fm_isThing, ra_p c1, ra_p c2, ra_p c3, nu_10, if_false, pu_b2s, sg_656 s0, al_159 s0 hd1, al_159 s0 hd2, (hq.2.1 d hd1).1, (hq.2.1 d2 hd2).1, if_neg e1, if_neg e2, ss_123 s0, fm_rowFault s0 hq.2.1 hd1, if_pos (rf_n f1).1]; exact pu_ret ⟨rfl, ag_rf _ hq.1.1, hq.2.2⟩
  by_cases f2 : hd d2 = -2
  rotate_left
  · refine ⟨-12, fun σ hq => ?_, fun σ hq => ?_⟩
    · have s0 := hq.1.1
      simp only [F_X0_judge, if_neg c0, eD, eR, pu_bs, fx_isShelf, fx_isThing, ra_p c1, ra_p c2, ra_p c3, nu_10, if_false, pu_b2s, sg_41 s0, al_74 s0 hd1, al_74 s0 hd2, if_neg (fun z => e1 ((hd_no hw hq.2.1 hd1).mp z)), if_neg (fun z => e2 ((hd_no hw hq.2.1 hd2).mp z)), ss_0 s0, fx_lookAt s0 hq.2.1 hq.2.2.1 hw hd1, fx_lookAt s0 hq.2.1 hq.2.2.1 hw hd2, rf_0 f1, if_neg (show ¬ (0 : Int32) < 0 by decide), if_neg (rf_n f2).2.2]; exact pu_ret ⟨rfl, ag_rf _ hq.1.1⟩
    · have s0 := hq.1.1
      simp only [F_X6_judge, if_neg c0, eD, eR, pu_bs, fm_isShelf, fm_isThing, ra_p c1, ra_p c2, ra_p c3, nu_10, if_false, pu_b2s, sg_656 s0, al_159 s0 hd1, al_159 s0 hd2, (hq.2.1 d hd1).1, (hq.2.1 d2 hd2).1, if_neg e1, if_neg e2, ss_123 s0, fm_rowFault s0 hq.2.1 hd1, fm_rowFault s0 hq.2.1 hd2, rf_0 f1, if_neg (show ¬ (0 : Int32) < 0 by decide), if_neg (rf_n f2).2.2]; exact pu_ret ⟨rfl, ag_rf _ hq.1.1, hq.2.2⟩
  refine ⟨sp_ju V G lw (fun i => (el d i).toInt32) (fun i => (el d2 i).toInt32) t (min (min (sz d) 30) (sz d2)) 0 h, fun σ hq => ?_, fun σ hq => ?_⟩
  · have s0 := hq.1.1
    obtain ⟨r1, r2⟩ := (hq.2.1.1 d hd1).2.2 0 (by decide) f1
    obtain ⟨r3, r4⟩ := (hq.2.1.1 d2 hd2).2.2 0 (by decide) f2
    have ca : ∀ τ a, ah_tg τ a = 102 → ah_ca τ 102 (some a) = some () := fun τ a q => by
      show (if ah_tg τ a = 102 then some () else none) = _
      rw [if_pos q]
    simp only [F_X0_judge, if_neg c0, eD, eR, pu_bs, fx_isShelf, fx_isThing, ra_p c1, ra_p c2, ra_p c3, nu_10, if_false, pu_b2s, sg_41 s0, al_74 s0 hd1, al_74 s0 hd2, if_neg (fun z => e1 ((hd_no hw hq.2.1 hd1).mp z)), if_neg (fun z => e2 ((hd_no hw hq.2.1 hd2).mp z)), ss_0 s0, fx_lookAt s0 hq.2.1 hq.2.2.1 hw hd1, fx_lookAt s0 hq.2.1 hq.2.2.1 hw hd2, rf_0 f1, rf_0 f2, if_neg (show ¬ (0 : Int32) < 0 by decide), if_pos (show (0 : Int32) ≤ 0 by decide), r1, ca σ _ r2.2.2.1]
    refine pu_bind (fx_takeRow hq.1 r2 hz) ?_
    rintro τ ⟨A1, C1⟩
    have sτ := ag_sk A1
    have r5 := xs_ag A1 s0 (by decide) hq.2.1
    obtain ⟨r6, r7⟩ := (r5.1 d2 hd2).2.2 0 (by decide) f2
    simp only [sg_41 sτ, al_74 sτ hd2, r6, ca τ _ r7.2.2.1, pu_bs]
    simp only [sg_19 sτ, sg_18 sτ, hu_is sτ m17, pu_bs]
    refine pu_bind (fx_beAs sτ m17 m12 (by decide) hv (xh_ag A1 hq.1.1 m12 (by decide) hq.2.2.2)) ?_
    rintro υ ⟨A2, H2⟩
    have R : rx_ υ b ga V G lw (fun i => (el d i).toInt32) (min (sz d) 30) h := ⟨xk_ag A2 (by decide) (xk_ag A1 (by decide) hq.1), xcm_ag A2 sτ (by decide) C1, H2, hv⟩
    have A3 : ag_ b LX_ σ υ := ag_tr (ag_mo (by decide) A1) (ag_mo (by decide) A2)
    have r8 := xr_ag A2 (by decide) r7
    exact pu_mono (lx_judge h4 hz2 (min (min (sz d) 30) (sz d2)) 0 υ 1000 h (by omega) (by omega) R r8) (fun r hr => ⟨hr.1, ag_tr A3 (ag_mo (by decide) hr.2)⟩)
  · have s0 := hq.1.1
    simp only [F_X6_judge, if_neg c0, eD, eR, pu_bs, fm_isShelf, fm_isThing, ra_p c1, ra_p c2, ra_p c3, nu_10, if_false, pu_b2s, sg_656 s0, al_159 s0 hd1, al_159 s0 hd2, (hq.2.1 d hd1).1, (hq.2.1 d2 hd2).1, if_neg e1, if_neg e2, ss_123 s0, fm_rowFault s0 hq.2.1 hd1, fm_rowFault s0 hq.2.1 hd2, rf_0 f1, rf_0 f2, if_neg (show ¬ (0 : Int32) < 0 by decide), if_pos (show (0 : Int32) ≤ 0 by decide)]
    refine pu_bind (fm_layStays hq.1.1 hq.2.1 hz hd1) ?_
    rintro τ ⟨A1, C1⟩
    have sτ := ag_sk A1
    simp only [ss_123 sτ, pu_bs]
    refine pu_bind (fm_laySeen sτ (ms_ag A1 s0 (by decide) hq.2.1) hz2 hd2) ?_
    rintro τ2 ⟨A5, C5⟩
    have s5 := ag_sk A5
    simp only [ss_123 s5, pu_bs]
    have Hh := mh_ag A5 sτ (by decide) (by decide) (mh_ag A1 hq.1.1 (by decide) (by decide) hq.2.2)
    refine pu_bind (fm_keepHut s5 Hh) ?_
    rintro υ ⟨A2, H2⟩
    have R : rm_ υ b V G lw (fun i => (el d i).toInt32) (min (sz d) 30) h h := ⟨mk_ag A2 (by decide) (mk_ag A5 (by decide) (mk_ag A1 (by decide) hq.1)), mst_ag A2 s5 (by decide) (mst_ag A5 sτ (by decide) C1), H2, mh_ag A2 s5 (by decide) (by decide) Hh⟩
    exact pu_mono (lm_judge h4 (min (min (sz d) 30) (sz d2)) 0 υ 1000 h (by omega) (by omega) R (mse_ag A2 s5 (by decide) C5)) (fun r hr => ⟨hr.1, ag_tr (ag_mo (by decide) A1) (ag_tr (ag_mo (by decide) A5) (ag_tr (ag_mo (by decide) A2) (ag_mo (by decide) hr.2.1))), hr.2.2⟩)
end
