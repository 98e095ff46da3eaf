section
variable {σ : ah_S} {b G : Nat} {ga : Nat → Nat} {V : sp_V}
theorem rg_1 {x : Int32} (h : 0 ≤ x ∧ x ≤ 1) : x = 0 ∨ x = 1 := by
  obtain ⟨n, rfl, hn⟩ := nu_natb (m := 1) h.1 (by decide) h.2
  rcases (show n = 0 ∨ n = 1 by omega) with rfl | rfl
  · exact Or.inl rfl
  · exact Or.inr rfl
theorem rg_3 {x : Int32} (h : 2 ≤ x ∧ x ≤ 3) : x = 2 ∨ x = 3 := by
  obtain ⟨n, rfl, hn⟩ := nu_natb (m := 3) (Int32.le_trans (by decide) h.1) (by decide) h.2
  have := (nl_le_2 (by omega)).mp h.1
  rcases (show n = 2 ∨ n = 3 by omega) with rfl | rfl
  · exact Or.inl rfl
  · exact Or.inr rfl
theorem rg_5 {x : Int32} (h : 4 ≤ x ∧ x ≤ 5) : x = 4 ∨ x = 5 := by
  obtain ⟨n, rfl, hn⟩ := nu_natb (m := 5) (Int32.le_trans (by decide) h.1) (by decide) h.2
  have := (nl_le_4 (by omega)).mp h.1
  rcases (show n = 4 ∨ n = 5 by omega) with rfl | rfl
  · exact Or.inl rfl
  · exact Or.inr rfl
theorem rg_8 {x : Int32} (h : 6 ≤ x ∧ x ≤ 8) : x = 6 ∨ x = 7 ∨ x = 8 := by
  obtain ⟨n, rfl, hn⟩ := nu_natb (m := 8) (Int32.le_trans (by decide) h.1) (by decide) h.2
  have := (nl_le_6 (by omega)).mp h.1
  rcases (show n = 6 ∨ n = 7 ∨ n = 8 by omega) with rfl | rfl | rfl
  · exact Or.inl rfl
  · exact Or.inr (Or.inl rfl)
  · exact Or.inr (Or.inr rfl)
theorem fm_isOneN {x1 x2 : Int32} (h0 : sk_ok σ b) (hp : mp_ σ b V G) (hG : G ≤ 7) (c : ¬ sp_to G x1 x2) : F_X6_isOne σ (some (b + 123)) x1 x2 = some (0, σ) := by
  obtain ⟨n1, n2, n3, n4⟩ := to_n c hG
  unfold F_X6_isOne
  rw [fm_in_, pu_b2s]
  by_cases c1 : 0 ≤ x2 ∧ x2 ≤ 1
  · rw [ra_p c1, if_neg nu_10n, fm_isThing, ra_n (n1 (rg_1 c1)), pu_b2s]; rfl
  rw [ra_n c1, if_pos rfl, fm_in_, pu_b2s]
  by_cases c2 : 2 ≤ x2 ∧ x2 ≤ 3
  · rw [ra_p c2, if_neg nu_10n, ss_123 h0, pu_bs, fm_gtN h0 hp hG (n2 (rg_3 c2)), pu_b2s]; rfl
  rw [ra_n c2, if_pos rfl, fm_in_, pu_b2s]
  by_cases c3 : 4 ≤ x2 ∧ x2 ≤ 5
  · rw [ra_p c3, if_neg nu_10n, ss_123 h0, pu_bs, fm_isGuest _ h0 hp, ra_n (n3 (rg_5 c3)), pu_b2s]; rfl
  rw [ra_n c3, if_pos rfl, fm_in_, pu_b2s]
  by_cases c4 : 6 ≤ x2 ∧ x2 ≤ 8
  · rw [ra_p c4, if_neg nu_10n, if_neg (n4 (rg_8 c4))]
  rw [ra_n c4, if_pos rfl]
theorem fm_spot {n : Nat} (hn : n < 2147483648) : F_X6_spotAt σ (Int32.ofNat n) = some (Int32.ofNat (4 * (n / 10) + n % 10), σ) := by
  unfold F_X6_spotAt
  rw [nl_di_10 hn, pu_bs, nl_re_10 hn, pu_bs, nl_mu_4, nl_aa]
theorem fm_value {w n : Nat} (h0 : sk_ok σ b) (hp : mp_ σ b V G) (hG : G ≤ 7) (ht : sp_tl G w n) : F_X6_valueAt σ (some (b + 123)) (Int32.ofNat w) (Int32.ofNat n) = some (V w (sp_ix w n), σ) := by
  obtain ⟨p0, p1, p2, p3, p4, p5, p6, p7, p8, p9⟩ := hp
  unfold F_X6_valueAt sp_ix
  rcases ht with ⟨q1, q2⟩ | ⟨q1, q2, q3⟩ | ⟨q1, q2⟩ | ⟨q1, q2, q3⟩
  · rcases (show w = 0 ∨ w = 1 by omega) with rfl | rfl
    · rw [if_pos (show Int32.ofNat 0 = 0 from rfl), sg_601 h0, pu_bs, al_124 h0 q2, pu_bs, p1 n q2]; rfl
    · rw [if_neg (by decide), if_pos (show Int32.ofNat 1 = 1 from rfl), sg_602 h0, pu_bs, al_125 h0 q2, pu_bs, p2 n q2]; rfl
  · rcases q1 with rfl | rfl
    · rw [if_neg (by decide), if_neg (by decide), if_pos (show Int32.ofNat 2 = 2 from rfl), sg_604 h0, pu_bs, fm_spot (by omega), pu_b2s, al_126 h0 (by omega), pu_bs, p3 _ (by omega)]; rfl
    · rw [if_neg (by decide), if_neg (by decide), if_neg (by decide), if_pos (show Int32.ofNat 3 = 3 from rfl), sg_605 h0, pu_bs, fm_spot (by omega), pu_b2s, al_127 h0 (by omega), pu_bs, p4 _ (by omega)]; rfl
  · rcases q1 with rfl | rfl
    · rw [if_neg (by decide), if_neg (by decide), if_neg (by decide), if_neg (by decide), if_pos (show Int32.ofNat 4 = 4 from rfl), sg_606 h0, pu_bs, al_128 h0 (by omega), pu_bs, p5 _ q2]; rfl
    · rw [if_neg (by decide), if_neg (by decide), if_neg (by decide), if_neg (by decide), if_neg (by decide), if_pos (show Int32.ofNat 5 = 5 from rfl), sg_607 h0, pu_bs, al_129 h0 (by omega), pu_bs, p6 _ q2]; rfl
  · subst q3
    rcases (show w = 6 ∨ w = 7 ∨ w = 8 by omega) with rfl | rfl | rfl
    · rw [if_neg (by decide), if_neg (by decide), if_neg (by decide), if_neg (by decide), if_neg (by decide), if_neg (by decide), if_pos (show Int32.ofNat 6 = 6 from rfl), si_608 h0, pu_bs, p7]; rfl
    · rw [if_neg (by decide), if_neg (by decide), if_neg (by decide), if_neg (by decide), if_neg (by decide), if_neg (by decide), if_neg (by decide), if_pos (show Int32.ofNat 7 = 7 from rfl), si_609 h0, pu_bs, p8]; rfl
    · rw [if_neg (by decide), if_neg (by decide), if_neg (by decide), if_neg (by decide), if_neg (by decide), if_neg (by decide), if_neg (by decide), if_neg (by decide), si_610 h0, pu_bs, p9]; rfl
theorem u2_ne {W : sp_V} {w i w' i' : Nat} {v : Int32} (h : w' ≠ w) : ah_u2 W w i v w' i' = W w' i' := if_neg h
theorem u2_eq {W : sp_V} {w i i' : Nat} {v : Int32} : ah_u2 W w i v w i' = if i' = i then v else W w i' := if_pos rfl
theorem fm_lays {w n : Nat} {v : Int32} (h0 : sk_ok σ b) (hp : mp_ σ b V G) (hG : G ≤ 7) (ht : sp_tl G w n) : pu_ok (F_X6_lays σ (some (b + 123)) (Int32.ofNat w) (Int32.ofNat n) v) (fun τ => ag_ b [20] σ τ ∧ mp_ τ b (ah_u2 V w (sp_ix w n) v) G) := by
  obtain ⟨p0, p1, p2, p3, p4, p5, p6, p7, p8, p9⟩ := id hp
  have lA : ∀ k, 124 ≤ k → k < 130 → ∀ ρ : ah_S, lb_a b ρ (b + k) ∈ [20] := fun k q1 q2 ρ => by
    have : ∀ k, k < 130 → 124 ≤ k → sk_B.getD k 99 = 20 := by decide
    exact lb_sc (by omega) (this k q2 q1) (by decide)
  unfold F_X6_lays sp_ix
  rcases ht with ⟨q1, q2⟩ | ⟨q1, q2, q3⟩ | ⟨q1, q2⟩ | ⟨q1, q2, q3⟩
  · rcases (show w = 0 ∨ w = 1 by omega) with rfl | rfl
    · rw [if_pos (show Int32.ofNat 0 = 0 from rfl), if_neg (by decide), sg_601 h0, pu_bs, aw_124 h0 q2, pu_bs]
      refine pu_ret ⟨ag_wA (ag_rf _ h0) (fun _ => lA _ (by decide) (by decide) _), p0, fun t ht => ?_, fun t ht => ?_, fun i hi => ?_, fun i hi => ?_, fun i hi => ?_, fun i hi => ?_, ?_, ?_, ?_⟩
      · rw [rw_ai_sA, if_pos rfl, u2_eq, p1 t ht]
      all_goals (try rw [rw_ai_sA, if_neg (by omega)]) <;> rw [u2_ne (by decide)]
      · exact p2 t ht
      · exact p3 i hi
      · exact p4 i hi
      · exact p5 i hi
      · exact p6 i hi
      · exact p7
      · exact p8
      · exact p9
    · rw [if_neg (by decide), if_pos (show Int32.ofNat 1 = 1 from rfl), if_neg (by decide), sg_602 h0, pu_bs, aw_125 h0 q2, pu_bs]
      refine pu_ret ⟨ag_wA (ag_rf _ h0) (fun _ => lA _ (by decide) (by decide) _), p0, fun t ht => ?_, fun t ht => ?_, fun i hi => ?_, fun i hi => ?_, fun i hi => ?_, fun i hi => ?_, ?_, ?_, ?_⟩
      · rw [rw_ai_sA, if_neg (by omega), u2_ne (by decide)]; exact p1 t ht
      · rw [rw_ai_sA, if_pos rfl, u2_eq, p2 t ht]
      all_goals (try rw [rw_ai_sA, if_neg (by omega)]) <;> rw [u2_ne (by decide)]
      · exact p3 i hi
      · exact p4 i hi
      · exact p5 i hi
      · exact p6 i hi
      · exact p7
      · exact p8
      · exact p9
  · rcases q1 with rfl | rfl
    · rw [if_neg (by decide), if_neg (by decide), if_pos (show Int32.ofNat 2 = 2 from rfl), if_pos (Or.inl rfl), sg_604 h0, pu_bs, fm_spot (by omega), pu_b2s, aw_126 h0 (by omega), pu_bs]
      refine pu_ret ⟨ag_wA (ag_rf _ h0) (fun _ => lA _ (by decide) (by decide) _), p0, fun t ht => ?_, fun t ht => ?_, fun i hi => ?_, fun i hi => ?_, fun i hi => ?_, fun i hi => ?_, ?_, ?_, ?_⟩
      · rw [rw_ai_sA, if_neg (by omega), u2_ne (by decide)]; exact p1 t ht
      · rw [rw_ai_sA, if_neg (by omega), u2_ne (by decide)]; exact p2 t ht
      · rw [rw_ai_sA, if_pos rfl, u2_eq, p3 i hi]
      all_goals (try rw [rw_ai_sA, if_neg (by omega)]) <;> rw [u2_ne (by decide)]
      · exact p4 i hi
      · exact p5 i hi
      · exact p6 i hi
      · exact p7
      · exact p8
      · exact p9
    · rw [if_neg (by decide), if_neg (by decide), if_neg (by decide), if_pos (show Int32.ofNat 3 = 3 from rfl), if_pos (Or.inr rfl), sg_605 h0, pu_bs, fm_spot (by omega), pu_b2s, aw_127 h0 (by omega), pu_bs]
      refine pu_ret ⟨ag_wA (ag_rf _ h0) (fun _ => lA _ (by decide) (by decide) _), p0, fun t ht => ?_, fun t ht => ?_, fun i hi => ?_, fun i hi => ?_, fun i hi => ?_, fun i hi => ?_, ?_, ?_, ?_⟩
      · rw [rw_ai_sA, if_neg (by omega), u2_ne (by decide)]; exact p1 t ht
      · rw [rw_ai_sA, if_neg (by omega), u2_ne (by decide)]; exact p2 t ht
      · rw [rw_ai_sA, if_neg (by omega), u2_ne (by decide)]; exact p3 i hi
      · rw [rw_ai_sA, if_pos rfl, u2_eq, p4 i hi]
      all_goals (try rw [rw_ai_sA, if_neg (by omega)]) <;> rw [u2_ne (by decide)]
      · exact p5 i hi
      · exact p6 i hi
      · exact p7
      · exact p8
      · exact p9
  · rcases q1 with rfl | rfl
    · rw [if_neg (by decide), if_neg (by decide), if_neg (by decide), if_neg (by decide), if_pos (show Int32.ofNat 4 = 4 from rfl), if_neg (by decide), sg_606 h0, pu_bs, aw_128 h0 (by omega), pu_bs]
      refine pu_ret ⟨ag_wA (ag_rf _ h0) (fun _ => lA _ (by decide) (by decide) _), p0, fun t ht => ?_, fun t ht => ?_, fun i hi => ?_, fun i hi => ?_, fun i hi => ?_, fun i hi => ?_, ?_, ?_, ?_⟩
      · rw [rw_ai_sA, if_neg (by omega), u2_ne (by decide)]; exact p1 t ht
      · rw [rw_ai_sA, if_neg (by omega), u2_ne (by decide)]; exact p2 t ht
      · rw [rw_ai_sA, if_neg (by omega), u2_ne (by decide)]; exact p3 i hi
      · rw [rw_ai_sA, if_neg (by omega), u2_ne (by decide)]; exact p4 i hi
      · rw [rw_ai_sA, if_pos rfl, u2_eq, p5 i hi]
      all_goals (try rw [rw_ai_sA, if_neg (by omega)]) <;> rw [u2_ne (by decide)]
      · exact p6 i hi
      · exact p7
      · exact p8
      · exact p9
    · rw [if_neg (by decide), if_neg (by decide), if_neg (by decide), if_neg (by decide), if_neg (by decide), if_pos (show Int32.ofNat 5 = 5 from rfl), if_neg (by decide), sg_607 h0, pu_bs, aw_129 h0 (by omega), pu_bs]
      refine pu_ret ⟨ag_wA (ag_rf _ h0) (fun _ => lA _ (by decide) (by decide) _), p0, fun t ht => ?_, fun t ht => ?_, fun i hi => ?_, fun i hi => ?_, fun i hi => ?_, fun i hi => ?_, ?_, ?_, ?_⟩
      · rw [rw_ai_sA, if_neg (by omega), u2_ne (by decide)]; exact p1 t ht
      · rw [rw_ai_sA, if_neg (by omega), u2_ne (by decide)]; exact p2 t ht
      · rw [rw_ai_sA, if_neg (by omega), u2_ne (by decide)]; exact p3 i hi
      · rw [rw_ai_sA, if_neg (by omega), u2_ne (by decide)]; exact p4 i hi
      · rw [rw_ai_sA, if_neg (by omega), u2_ne (by decide)]; exact p5 i hi
      · rw [rw_ai_sA, if_pos rfl, u2_eq, p6 i hi]
      all_goals rw [u2_ne (by decide)]
      · exact p7
      · exact p8
      · exact p9
  · subst q3
    have lF : ∀ ρ : ah_S, ∀ f, f = 608 ∨ f = 609 ∨ f = 610 → lb_i b ρ f (b + 123) ∈ [20] := fun ρ f q => by
      rcases q with rfl | rfl | rfl <;> exact lb_fo (by decide) rfl (by decide)
    have arr : ∀ (f : Nat) (w : Nat), 6 ≤ w → f ≠ 603 → (∀ t, t < 4 → ah_ai (ah_sI σ f (b + 123) v) (b + 124) t = ah_u2 V w 0 v 0 t) ∧ (∀ t, t < 4 → ah_ai (ah_sI σ f (b + 123) v) (b + 125) t = ah_u2 V w 0 v 1 t) ∧ (∀ i, i < 4 * G → ah_ai (ah_sI σ f (b + 123) v) (b + 126) i = ah_u2 V w 0 v 2 i) ∧ (∀ i, i < 4 * G → ah_ai (ah_sI σ f (b + 123) v) (b + 127) i = ah_u2 V w 0 v 3 i) ∧ (∀ i, i < G → ah_ai (ah_sI σ f (b + 123) v) (b + 128) i = ah_u2 V w 0 v 4 i) ∧ (∀ i, i < G → ah_ai (ah_sI σ f (b + 123) v) (b + 129) i = ah_u2 V w 0 v 5 i) := fun f w hw hf => by
      refine ⟨fun t ht => ?_, fun t ht => ?_, fun i hi => ?_, fun i hi => ?_, fun i hi => ?_, fun i hi => ?_⟩ <;> rw [u2_ne (by omega), rw_ai_sI]
      · exact p1 t ht
      · exact p2 t ht
      · exact p3 i hi
      · exact p4 i hi
      · exact p5 i hi
      · exact p6 i hi
    rcases (show w = 6 ∨ w = 7 ∨ w = 8 by omega) with rfl | rfl | rfl
    · rw [if_neg (by decide), if_neg (by decide), if_neg (by decide), if_neg (by decide), if_neg (by decide), if_neg (by decide), if_pos (show Int32.ofNat 6 = 6 from rfl), if_neg (by decide), sp_608 h0, pu_bs]
      obtain ⟨a1, a2, a3, a4, a5, a6⟩ := arr 608 6 (by decide) (by decide)
      refine pu_ret ⟨ag_wI (ag_rf _ h0) (fun _ => lF _ _ (Or.inl rfl)), by rw [rw_fi_sI, if_neg (by decide)]; exact p0, a1, a2, a3, a4, a5, a6, by rw [rw_fi_sI, if_pos rfl, if_pos rfl, u2_eq, if_pos rfl], by rw [rw_fi_sI, if_neg (by decide), u2_ne (by decide)]; exact p8, by rw [rw_fi_sI, if_neg (by decide), u2_ne (by decide)]; exact p9⟩
    · rw [if_neg (by decide), if_neg (by decide), if_neg (by decide), if_neg (by decide), if_neg (by decide), if_neg (by decide), if_neg (by decide), if_pos (show Int32.ofNat 7 = 7 from rfl), if_neg (by decide), sp_609 h0, pu_bs]
      obtain ⟨a1, a2, a3, a4, a5, a6⟩ := arr 609 7 (by decide) (by decide)
      refine pu_ret ⟨ag_wI (ag_rf _ h0) (fun _ => lF _ _ (Or.inr (Or.inl rfl))), by rw [rw_fi_sI, if_neg (by decide)]; exact p0, a1, a2, a3, a4, a5, a6, by rw [rw_fi_sI, if_neg (by decide), u2_ne (by decide)]; exact p7, by rw [rw_fi_sI, if_pos rfl, if_pos rfl, u2_eq, if_pos rfl], by rw [rw_fi_sI, if_neg (by decide), u2_ne (by decide)]; exact p9⟩
    · rw [if_neg (by decide), if_neg (by decide), if_neg (by decide), if_neg (by decide), if_neg (by decide), if_neg (by decide), if_neg (by decide), if_neg (by decide), if_neg (by decide), sp_610 h0, pu_bs]
      obtain ⟨a1, a2, a3, a4, a5, a6⟩ := arr 610 8 (by decide) (by decide)
      refine pu_ret ⟨ag_wI (ag_rf _ h0) (fun _ => lF _ _ (Or.inr (Or.inr rfl))), by rw [rw_fi_sI, if_neg (by decide)]; exact p0, a1, a2, a3, a4, a5, a6, by rw [rw_fi_sI, if_neg (by decide), u2_ne (by decide)]; exact p7, by rw [rw_fi_sI, if_neg (by decide), u2_ne (by decide)]; exact p8, by rw [rw_fi_sI, if_pos rfl, if_pos rfl, u2_eq, if_pos rfl]⟩
theorem fx_great {w : Nat} (hw : w < 9) : F_X0_greatest σ (Int32.ofNat w) = some (Int32.ofNat (sp_mx w), σ) := by
  rcases (show w = 0 ∨ w = 1 ∨ w = 2 ∨ w = 3 ∨ w = 4 ∨ w = 5 ∨ w = 6 ∨ w = 7 ∨ w = 8 by omega) with rfl | rfl | rfl | rfl | rfl | rfl | rfl | rfl | rfl <;> rfl
theorem fm_mayBe {w : Nat} {x : Int32} (hw : w < 9) : F_X6_mayBe σ (Int32.ofNat w) x = some (ra_ x 0 (Int32.ofNat (sp_mx w)), σ) := by
  unfold F_X6_mayBe
  simp only [fm_in_, pu_b2s, ra_z, pu_bs]
  rcases (show w = 0 ∨ w = 1 ∨ w = 2 ∨ w = 3 ∨ w = 4 ∨ w = 5 ∨ w = 6 ∨ w = 7 ∨ w = 8 by omega) with rfl | rfl | rfl | rfl | rfl | rfl | rfl | rfl | rfl <;> rfl
/-- a Held of the class is laid anew -/
theorem xp_up {w i : Nat} {v : Int32} (hp : xp_ σ b ga V G) (hv : sp_vd G w i) : xp_ (ah_sI σ 200 (xa_ b ga w i) v) b ga (ah_u2 V w i v) G := by
  obtain ⟨p1, p2, p3, p4, p5⟩ := hp
  refine ⟨p1, by rw [rw_fi_sI, if_neg (by decide)]; exact p2, p3, p4, fun w' i' hv' => ?_⟩
  rw [rw_fi_sI, if_pos rfl]
  by_cases c : xa_ b ga w' i' = xa_ b ga w i
  · obtain ⟨e1, e2⟩ := xa_inj p3 p4 hv' hv c
    rw [if_pos c, e1, u2_eq, if_pos e2]
  · rw [if_neg c, p5 w' i' hv']
    by_cases e1 : w' = w
    · subst e1
      rw [u2_eq, if_neg (fun e2 => c (by rw [e2]))]
    · rw [u2_ne e1]
end
