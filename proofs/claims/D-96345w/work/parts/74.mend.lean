/-! ===== numbers that may be mended ===== -/
def xa_g (w i : Nat) : Nat := if w = 2 ∨ w = 3 then i / 4 else i
def xa_o (w i : Nat) : Nat := if w = 2 then 3 + 2 * (i % 4) else if w = 3 then 4 + 2 * (i % 4) else if w = 4 then 11 else 12
theorem xa_dy {b : Nat} {ga : Nat → Nat} {w i : Nat} (h1 : 2 ≤ w) (h2 : w < 6) : xa_ b ga w i = ga (xa_g w i) + xa_o w i := by
  unfold xa_ xa_g xa_o
  rcases (show w = 2 ∨ w = 3 ∨ w = 4 ∨ w = 5 by omega) with rfl | rfl | rfl | rfl <;> rfl
theorem xa_st {b : Nat} {ga : Nat → Nat} {w i : Nat} (h : w < 2 ∨ 6 ≤ w) : xa_ b ga w i = b + (if w = 0 then 115 + 2 * i else if w = 1 then 116 + 2 * i else w + 1) := by
  unfold xa_
  by_cases c0 : w = 0
  · rw [if_pos c0, if_pos c0]
  · rw [if_neg c0, if_neg c0]
    by_cases c1 : w = 1
    · rw [if_pos c1, if_pos c1]
    · rw [if_neg c1, if_neg c1, if_neg (by omega), if_neg (by omega), if_neg (by omega), if_neg (by omega)]
theorem xa_inj {σ : ah_S} {b G : Nat} {ga : Nat → Nat} {w i w' i' : Nat} (hg : ∀ g, g < G → xg_ σ b g ga) (hm : ∀ g h, g < h → h < G → ga g + 13 ≤ ga h) (v1 : sp_vd G w i) (v2 : sp_vd G w' i') (e : xa_ b ga w i = xa_ b ga w' i') : w = w' ∧ i = i' := by
  have dyv : ∀ w i, sp_vd G w i → 2 ≤ w → w < 6 → xa_g w i < G ∧ 3 ≤ xa_o w i ∧ xa_o w i < 13 ∧ b + 163 ≤ ga (xa_g w i) := fun w i v q1 q2 => by
    have lt : xa_g w i < G := by
      unfold xa_g
      rcases v with v | v | v | v
      · omega
      · rw [if_pos v.1]; omega
      · rw [if_neg (by omega)]; omega
      · omega
    refine ⟨lt, ?_, ?_, (hg _ lt).1⟩
    · unfold xa_o; split <;> (try split) <;> (try split) <;> omega
    · unfold xa_o; split <;> (try split) <;> (try split) <;> omega
  have stv : ∀ w i, sp_vd G w i → (w < 2 ∨ 6 ≤ w) → (if w = 0 then 115 + 2 * i else if w = 1 then 116 + 2 * i else w + 1) < 163 := fun w i v q => by
    rcases v with v | v | v | v
    · split <;> (try split) <;> omega
    · omega
    · omega
    · split <;> (try split) <;> omega
  by_cases c1 : 2 ≤ w ∧ w < 6
  · by_cases c2 : 2 ≤ w' ∧ w' < 6
    · rw [xa_dy c1.1 c1.2, xa_dy c2.1 c2.2] at e
      obtain ⟨a1, a2, a3, a4⟩ := dyv w i v1 c1.1 c1.2
      obtain ⟨b1, b2, b3, b4⟩ := dyv w' i' v2 c2.1 c2.2
      rcases Nat.lt_trichotomy (xa_g w i) (xa_g w' i') with l | l | l
      · have := hm _ _ l b1; omega
      · rw [l] at e
        have e : xa_o w i = xa_o w' i' := by omega
        unfold xa_g at l
        unfold xa_o at e
        rcases (show w = 2 ∨ w = 3 ∨ w = 4 ∨ w = 5 by omega) with rfl | rfl | rfl | rfl <;> rcases (show w' = 2 ∨ w' = 3 ∨ w' = 4 ∨ w' = 5 by omega) with rfl | rfl | rfl | rfl <;> simp at l e <;> omega
      · have := hm _ _ l a1; omega
    · rw [xa_dy c1.1 c1.2, xa_st (by omega)] at e
      obtain ⟨a1, a2, a3, a4⟩ := dyv w i v1 c1.1 c1.2
      have := stv w' i' v2 (by omega)
      omega
  · by_cases c2 : 2 ≤ w' ∧ w' < 6
    · rw [xa_dy c2.1 c2.2, xa_st (by omega)] at e
      obtain ⟨a1, a2, a3, a4⟩ := dyv w' i' v2 c2.1 c2.2
      have := stv w i v1 (by omega)
      omega
    · rw [xa_st (by omega), xa_st (by omega)] at e
      have e := Nat.add_left_cancel e
      rcases v1 with v1 | v1 | v1 | v1 <;> rcases v2 with v2 | v2 | v2 | v2 <;> (try omega)
      · rcases (show w = 0 ∨ w = 1 by omega) with rfl | rfl <;> rcases (show w' = 0 ∨ w' = 1 by omega) with rfl | rfl <;> simp at e <;> omega
      · rw [if_neg (show ¬ w' = 0 by omega), if_neg (show ¬ w' = 1 by omega)] at e
        rcases (show w = 0 ∨ w = 1 by omega) with rfl | rfl <;> simp at e <;> omega
      · rw [if_neg (show ¬ w = 0 by omega), if_neg (show ¬ w = 1 by omega)] at e
        rcases (show w' = 0 ∨ w' = 1 by omega) with rfl | rfl <;> simp at e <;> omega
      · rw [if_neg (show ¬ w = 0 by omega), if_neg (show ¬ w = 1 by omega), if_neg (show ¬ w' = 0 by omega), if_neg (show ¬ w' = 1 by omega)] at e
        omega
theorem tl_vd {G w n : Nat} (h : sp_tl G w n) : sp_vd G w (sp_ix w n) := by
  unfold sp_ix
  rcases h with h | h | h | h
  · rw [if_neg (by omega)]; exact Or.inl h
  · rw [if_pos h.1]; exact Or.inr (Or.inl ⟨h.1, by omega⟩)
  · rw [if_neg (by omega)]; exact Or.inr (Or.inr (Or.inl h))
  · rw [if_neg (by omega)]; exact Or.inr (Or.inr (Or.inr h))
theorem tl_lt {G w n : Nat} (hG : G ≤ 7) (h : sp_tl G w n) : w < 9 ∧ n < 100 := by
  rcases h with h | h | h | h <;> omega
/-- what is told, is told rightly -/
def sp_to (G : Nat) (x1 x2 : Int32) : Prop := ∃ w n, x2 = Int32.ofNat w ∧ x1 = Int32.ofNat n ∧ sp_tl G w n
section
variable {σ : ah_S} {b G : Nat} {ga : Nat → Nat} {V : sp_V}
theorem fx_heldP {w n : Nat} (h0 : sk_ok σ b) (hp : xp_ σ b ga V G) (ht : sp_tl G w n) : F_X0_held σ (some b) (Int32.ofNat n) (Int32.ofNat w) = some (some (xa_ b ga w (sp_ix w n)), σ) := by
  have hG := hp.1
  obtain ⟨t1, -⟩ := xp_th h0 hp
  have thing : n < 4 → ra_ (Int32.ofNat n) 0 3 = 1 := fun q => ra_p ⟨(nl_le_0 (by omega)).mpr (by omega), (nl_ge_3 (by omega)).mpr (by omega)⟩
  have guest : n < G → ra_ (Int32.ofNat n) 0 (Int32.ofNat G - 1) = 1 := fun q => ra_p ⟨(nl_le_0 (by omega)).mpr (by omega), by rw [nu_lem1 (by omega), nu_oflt (by omega) (by omega)]; exact q⟩
  unfold F_X0_held
  rcases ht with ⟨q1, q2⟩ | ⟨q1, q2, q3⟩ | ⟨q1, q2⟩ | ⟨q1, q2, q3⟩
  · rcases (show w = 0 ∨ w = 1 by omega) with rfl | rfl
    · rw [if_pos (show Int32.ofNat 0 = 0 from rfl), fx_isThing, thing q2, pu_b2s, if_neg nu_10n, sg_9 h0, pu_bs, (t1 n q2).1, pu_bs]; rfl
    · rw [if_neg (by decide), if_pos (show Int32.ofNat 1 = 1 from rfl), fx_isThing, thing q2, pu_b2s, if_neg nu_10n, sg_10 h0, pu_bs, (t1 n q2).2.2.1, pu_bs]; rfl
  · obtain ⟨g1, g2, g3, g4, g5, g6, g7, g8⟩ := xp_gst h0 hp q2
    obtain ⟨g9, g10, -⟩ := g8 (n % 10) q3
    have egt : F_X0_isGt σ (some b) (Int32.ofNat n) = some (1, σ) := by
      have := fx_gtP h0 hp q2 q3
      rw [show 10 * (n / 10) + n % 10 = n by omega] at this
      exact this
    rcases q1 with rfl | rfl
    · rw [if_neg (by decide), if_neg (by decide), if_pos (show Int32.ofNat 2 = 2 from rfl), ss_0 h0, pu_bs, egt, pu_b2s, if_neg nu_10n, sg_7 h0, pu_bs, nl_di_10 (by omega), pu_bs, g1, pu_bs, g2, pu_bs, nl_re_10 (by omega), pu_bs, g9, pu_bs, xa_dy (by decide) (by decide)]
      unfold xa_g xa_o sp_ix
      rw [if_pos (Or.inl rfl), if_pos (Or.inl rfl), if_pos rfl, show (4 * (n / 10) + n % 10) / 4 = n / 10 by omega, show (4 * (n / 10) + n % 10) % 4 = n % 10 by omega]
    · rw [if_neg (by decide), if_neg (by decide), if_neg (by decide), if_pos (show Int32.ofNat 3 = 3 from rfl), ss_0 h0, pu_bs, egt, pu_b2s, if_neg nu_10n, sg_7 h0, pu_bs, nl_di_10 (by omega), pu_bs, g1, pu_bs, g3, pu_bs, nl_re_10 (by omega), pu_bs, g10, pu_bs, xa_dy (by decide) (by decide)]
      unfold xa_g xa_o sp_ix
      rw [if_pos (Or.inr rfl), if_pos (Or.inr rfl), if_neg (by decide), if_pos rfl, show (4 * (n / 10) + n % 10) / 4 = n / 10 by omega, show (4 * (n / 10) + n % 10) % 4 = n % 10 by omega]
  · obtain ⟨g1, g2, g3, g4, g5, g6, g7, g8⟩ := xp_gst h0 hp q2
    rcases q1 with rfl | rfl
    · rw [if_neg (by decide), if_neg (by decide), if_neg (by decide), if_neg (by decide), if_pos (show Int32.ofNat 4 = 4 from rfl), ss_0 h0, pu_bs, fx_isGuest _ h0 hp, guest q2, pu_b2s, if_neg nu_10n, sg_7 h0, pu_bs, g1, pu_bs, g4, pu_bs]; rfl
    · rw [if_neg (by decide), if_neg (by decide), if_neg (by decide), if_neg (by decide), if_neg (by decide), if_pos (show Int32.ofNat 5 = 5 from rfl), ss_0 h0, pu_bs, fx_isGuest _ h0 hp, guest q2, pu_b2s, if_neg nu_10n, sg_7 h0, pu_bs, g1, pu_bs, g5, pu_bs]; rfl
  · subst q3
    rcases (show w = 6 ∨ w = 7 ∨ w = 8 by omega) with rfl | rfl | rfl
    · rw [if_neg (by decide), if_neg (by decide), if_neg (by decide), if_neg (by decide), if_neg (by decide), if_neg (by decide), if_pos (show Int32.ofNat 6 = 6 from rfl), if_pos (show Int32.ofNat 0 = 0 from rfl), sg_11 h0, pu_bs]; rfl
    · rw [if_neg (by decide), if_neg (by decide), if_neg (by decide), if_neg (by decide), if_neg (by decide), if_neg (by decide), if_neg (by decide), if_pos (show Int32.ofNat 7 = 7 from rfl), if_pos (show Int32.ofNat 0 = 0 from rfl), sg_12 h0, pu_bs]; rfl
    · rw [if_neg (by decide), if_neg (by decide), if_neg (by decide), if_neg (by decide), if_neg (by decide), if_neg (by decide), if_neg (by decide), if_neg (by decide), if_pos (show Int32.ofNat 8 = 8 from rfl), if_pos (show Int32.ofNat 0 = 0 from rfl), sg_13 h0, pu_bs]; rfl
theorem to_n {x1 x2 : Int32} (c : ¬ sp_to G x1 x2) (hG : G ≤ 7) : ((x2 = 0 ∨ x2 = 1) → ¬ (0 ≤ x1 ∧ x1 ≤ 3)) ∧ ((x2 = 2 ∨ x2 = 3) → ¬ ∃ g t, x1 = Int32.ofNat (10 * g + t) ∧ g < G ∧ t < 4) ∧ ((x2 = 4 ∨ x2 = 5) → ¬ (0 ≤ x1 ∧ x1 ≤ Int32.ofNat G - 1)) ∧ ((x2 = 6 ∨ x2 = 7 ∨ x2 = 8) → x1 ≠ 0) := by
  refine ⟨fun q r => ?_, fun q r => ?_, fun q r => ?_, fun q r => ?_⟩
  · obtain ⟨n, rfl, hn⟩ := nu_natb (m := 3) r.1 (by decide) r.2
    rcases q with rfl | rfl
    · exact c ⟨0, n, rfl, rfl, Or.inl ⟨by omega, by omega⟩⟩
    · exact c ⟨1, n, rfl, rfl, Or.inl ⟨by omega, by omega⟩⟩
  · obtain ⟨g, t, rfl, hg, ht⟩ := r
    rcases q with rfl | rfl
    · exact c ⟨2, _, rfl, rfl, Or.inr (Or.inl ⟨Or.inl rfl, by omega, by omega⟩)⟩
    · exact c ⟨3, _, rfl, rfl, Or.inr (Or.inl ⟨Or.inr rfl, by omega, by omega⟩)⟩
  · rw [nu_lem1 (by omega)] at r
    obtain ⟨n, rfl, hn⟩ := nu_natl r.1 (by omega) r.2
    rcases q with rfl | rfl
    · exact c ⟨4, n, rfl, rfl, Or.inr (Or.inr (Or.inl ⟨Or.inl rfl, hn⟩))⟩
    · exact c ⟨5, n, rfl, rfl, Or.inr (Or.inr (Or.inl ⟨Or.inr rfl, hn⟩))⟩
  · subst r
    rcases q with rfl | rfl | rfl
    · exact c ⟨6, 0, rfl, rfl, Or.inr (Or.inr (Or.inr ⟨by omega, by omega, rfl⟩))⟩
    · exact c ⟨7, 0, rfl, rfl, Or.inr (Or.inr (Or.inr ⟨by omega, by omega, rfl⟩))⟩
    · exact c ⟨8, 0, rfl, rfl, Or.inr (Or.inr (Or.inr ⟨by omega, by omega, rfl⟩))⟩
theorem fx_heldN {x1 x2 : Int32} (h0 : sk_ok σ b) (hp : xp_ σ b ga V G) (c : ¬ sp_to G x1 x2) : F_X0_held σ (some b) x1 x2 = some (none, σ) := by
  obtain ⟨n1, n2, n3, n4⟩ := to_n c hp.1
  unfold F_X0_held
  by_cases c0 : x2 = 0
  · rw [if_pos c0, fx_isThing, ra_n (n1 (Or.inl c0)), pu_b2s, if_pos rfl]
  rw [if_neg c0]
  by_cases c1 : x2 = 1
  · rw [if_pos c1, fx_isThing, ra_n (n1 (Or.inr c1)), pu_b2s, if_pos rfl]
  rw [if_neg c1]
  by_cases c2 : x2 = 2
  · rw [if_pos c2, ss_0 h0, pu_bs, fx_gtN h0 hp (n2 (Or.inl c2)), pu_b2s, if_pos rfl]
  rw [if_neg c2]
  by_cases c3 : x2 = 3
  · rw [if_pos c3, ss_0 h0, pu_bs, fx_gtN h0 hp (n2 (Or.inr c3)), pu_b2s, if_pos rfl]
  rw [if_neg c3]
  by_cases c4 : x2 = 4
  · rw [if_pos c4, ss_0 h0, pu_bs, fx_isGuest _ h0 hp, ra_n (n3 (Or.inl c4)), pu_b2s, if_pos rfl]
  rw [if_neg c4]
  by_cases c5 : x2 = 5
  · rw [if_pos c5, ss_0 h0, pu_bs, fx_isGuest _ h0 hp, ra_n (n3 (Or.inr c5)), pu_b2s, if_pos rfl]
  rw [if_neg c5]
  by_cases c6 : x2 = 6
  · rw [if_pos c6, if_neg (n4 (Or.inl c6))]
  rw [if_neg c6]
  by_cases c7 : x2 = 7
  · rw [if_pos c7, if_neg (n4 (Or.inr (Or.inl c7)))]
  rw [if_neg c7]
  by_cases c8 : x2 = 8
  · rw [if_pos c8, if_neg (n4 (Or.inr (Or.inr c8)))]
  rw [if_neg c8]
theorem fm_isOneP {w n : Nat} (h0 : sk_ok σ b) (hp : mp_ σ b V G) (hG : G ≤ 7) (ht : sp_tl G w n) : F_X6_isOne σ (some (b + 123)) (Int32.ofNat n) (Int32.ofNat w) = some (1, σ) := by
  have thing : n < 4 → ra_ (Int32.ofNat n) 0 3 = 1 := fun q => ra_p ⟨(nl_le_0 (by omega)).mpr (by omega), (nl_ge_3 (by omega)).mpr (by omega)⟩
  have guest : n < G → ra_ (Int32.ofNat n) 0 (Int32.ofNat G - 1) = 1 := fun q => ra_p ⟨(nl_le_0 (by omega)).mpr (by omega), by rw [nu_lem1 (by omega), nu_oflt (by omega) (by omega)]; exact q⟩
  unfold F_X6_isOne
  simp only [fm_in_, pu_b2s, fm_isThing]
  rcases ht with ⟨q1, q2⟩ | ⟨q1, q2, q3⟩ | ⟨q1, q2⟩ | ⟨q1, q2, q3⟩
  · rcases (show w = 0 ∨ w = 1 by omega) with rfl | rfl <;> (rw [if_neg (by decide), thing q2]; rfl)
  · have egt : F_X6_areTwo σ (some (b + 123)) (Int32.ofNat n) = some (1, σ) := by
      have := fm_gtP h0 hp hG q2 q3
      rw [show 10 * (n / 10) + n % 10 = n by omega] at this
      exact this
    rcases q1 with rfl | rfl <;> (rw [if_pos (by decide), if_neg (by decide), ss_123 h0, pu_bs, egt]; rfl)
  · rcases q1 with rfl | rfl <;> (rw [if_pos (by decide), if_pos (by decide), if_neg (by decide), ss_123 h0, pu_bs, fm_isGuest _ h0 hp, guest q2]; rfl)
  · subst q3
    rcases (show w = 6 ∨ w = 7 ∨ w = 8 by omega) with rfl | rfl | rfl <;> (rw [if_pos (by decide), if_pos (by decide), if_pos (by decide), if_neg (by decide), if_pos (show Int32.ofNat 0 = 0 from rfl)])
end
