/-! ===== what stays when the rest changes ===== -/
theorem xh_ag {b k : Nat} {L : List Nat} {σ τ : ah_S} {h : sp_H} (A : ag_ b L σ τ) (h0 : sk_ok σ b) (hk : k ∈ sk_H) (hl : sk_B.getD k 99 ∉ L) (H : xh_ σ b k h) : xh_ τ b k h := by
  obtain ⟨q1, -, -, -, -, -, -, -, -, -, -, -, -, -, -, l1, l2, l3, l4⟩ := sk_Hd k hk
  obtain ⟨H1, H2, H3, H4, ⟨n, hn, H5, H6⟩, H7⟩ := H
  refine ⟨fun t ht => ?_, fun t ht => ?_, ?_, fun hs t ht => ?_, ⟨n, hn, ?_, H6⟩, fun g t hg ht hs => ?_⟩
  · rw [ag_ai A h0 (by omega) (by rw [l1]; exact hl)]; exact H1 t ht
  · rw [ag_ai A h0 (by omega) (by rw [l2]; exact hl)]; exact H2 t ht
  · rw [ag_fc A h0 (by omega) (by decide) hl]; exact H3
  · rw [ag_ai A h0 (by omega) (by rw [l4]; exact hl)]; exact H4 hs t ht
  · rw [ag_fc A h0 (by omega) (by decide) hl]; exact H5
  · rw [ag_ai A h0 (by omega) (by rw [l3]; exact hl)]; exact H7 g t hg ht hs
theorem mh_ag {b k : Nat} {L : List Nat} {σ τ : ah_S} {h : sp_H} (A : ag_ b L σ τ) (h0 : sk_ok σ b) (hk : k < 163) (hl : sk_B.getD k 99 ∉ L) (H : mh_ σ b k h) : mh_ τ b k h := fun i hi => by
  rw [ag_ai A h0 hk hl]; exact H i hi
theorem lb_dy {b a : Nat} {σ : ah_S} (ha : b + 163 ≤ a) : lb_a b σ a = lb_d (ah_tg σ a) := by
  unfold lb_a
  rw [if_neg (by omega)]
theorem lb_iy {b f a : Nat} {σ : ah_S} (hf : ¬ (f < 100 ∨ 600 ≤ f ∧ f < 700)) : lb_i b σ f a = lb_a b σ a := by
  unfold lb_i
  rw [if_neg hf]
theorem xg_ag {b g : Nat} {L : List Nat} {σ τ : ah_S} {ga : Nat → Nat} (A : ag_ b L σ τ) (h0 : sk_ok σ b) (hl : 0 ∉ L) (h9 : 99 ∉ L) (H : xg_ σ b g ga) : xg_ τ b g ga := by
  obtain ⟨a1, a2, a3, a4, a5, a6, a7, a8, a9, a10, a11, a12, a13, a14⟩ := H
  have T := A.2.2.2.2.2.1
  have R := A.2.2.2.2.2.2.2.1
  have Q := A.2.2.2.2.2.2.2.2
  refine ⟨a1, Nat.le_trans a2 A.2.1, ?_, ?_, ?_, ?_, ?_, ?_, ?_, ?_, ?_, ?_, fun t ht => ?_, fun j hj hj2 => ?_⟩
  · rw [ag_ar A h0 (by decide) (by exact hl)]; exact a3
  · rw [(T _ (by omega)).1]; exact a4
  · rw [(T _ (by omega)).1]; exact a5
  · rw [(T _ (by omega)).2]; exact a6
  · rw [(T _ (by omega)).1]; exact a7
  · rw [(T _ (by omega)).2]; exact a8
  · rw [R 700 _ (by omega) (by exact h9)]; exact a9
  · rw [R 701 _ (by omega) (by exact h9)]; exact a10
  · rw [R 702 _ (by omega) (by exact h9)]; exact a11
  · rw [R 703 _ (by omega) (by exact h9)]; exact a12
  · rw [(Q (ga g + 1) t (by omega) (by rw [lb_dy (by omega), a5]; exact hl)).2.2, (Q (ga g + 2) t (by omega) (by rw [lb_dy (by omega), a7]; exact hl)).2.2]; exact a13 t ht
  · rw [(T _ (by omega)).1]; exact a14 j hj hj2
/-- where the class holds numbers: a Held of label 0 -/
theorem xa_ok {b G : Nat} {σ : ah_S} {ga : Nat → Nat} (h0 : sk_ok σ b) (hg : ∀ g, g < G → xg_ σ b g ga) {w i : Nat} (hv : sp_vd G w i) : ah_tg σ (xa_ b ga w i) = 3 ∧ xa_ b ga w i < ah_nx σ ∧ lb_a b σ (xa_ b ga w i) = 0 := by
  have st : ∀ k, k < 163 → sk_T.getD k 0 = 3 → sk_B.getD k 99 = 0 → ah_tg σ (b + k) = 3 ∧ b + k < ah_nx σ ∧ lb_a b σ (b + k) = 0 := fun k hk ht hb => ⟨by rw [h0.2.1 k hk, ht], by have := h0.1; omega, by rw [lb_st hk, hb]⟩
  have dy : ∀ g j, g < G → 3 ≤ j → j < 13 → ah_tg σ (ga g + j) = 3 ∧ ga g + j < ah_nx σ ∧ lb_a b σ (ga g + j) = 0 := fun g j hgG h1 h2 => by
    obtain ⟨a1, a2, -, -, -, -, -, -, -, -, -, -, -, a14⟩ := hg g hgG
    have t := a14 j h1 h2
    exact ⟨t, by omega, by rw [lb_dy (by omega), t]; rfl⟩
  have t1 : ∀ i, i < 4 → sk_T.getD (115 + 2 * i) 0 = 3 ∧ sk_B.getD (115 + 2 * i) 99 = 0 ∧ sk_T.getD (116 + 2 * i) 0 = 3 ∧ sk_B.getD (116 + 2 * i) 99 = 0 := by decide
  have t2 : ∀ w, w < 9 → 6 ≤ w → sk_T.getD (w + 1) 0 = 3 ∧ sk_B.getD (w + 1) 99 = 0 := by decide
  unfold xa_
  rcases hv with ⟨h1, h2⟩ | ⟨h1, h2⟩ | ⟨h1, h2⟩ | ⟨h1, h2, h3⟩
  · obtain ⟨u1, u2, u3, u4⟩ := t1 i h2
    by_cases e : w = 0
    · rw [if_pos e]; exact st _ (by omega) u1 u2
    · rw [if_neg e, if_pos (by omega)]; exact st _ (by omega) u3 u4
  · rw [if_neg (by omega), if_neg (by omega)]
    by_cases e : w = 2
    · rw [if_pos e]; exact dy _ _ (by omega) (by omega) (by omega)
    · rw [if_neg e, if_pos (by omega)]; exact dy _ _ (by omega) (by omega) (by omega)
  · rw [if_neg (by omega), if_neg (by omega), if_neg (by omega), if_neg (by omega)]
    by_cases e : w = 4
    · rw [if_pos e]; exact dy _ _ (by omega) (by omega) (by omega)
    · rw [if_neg e, if_pos (by omega)]; exact dy _ _ (by omega) (by omega) (by omega)
  · rw [if_neg (by omega), if_neg (by omega), if_neg (by omega), if_neg (by omega), if_neg (by omega), if_neg (by omega)]
    obtain ⟨u1, u2⟩ := t2 w h2 h1
    exact st _ (by omega) u1 u2
theorem xp_ag {b G : Nat} {L : List Nat} {σ τ : ah_S} {ga : Nat → Nat} {V : sp_V} (A : ag_ b L σ τ) (h0 : sk_ok σ b) (hl : 0 ∉ L) (h9 : 99 ∉ L) (H : xp_ σ b ga V G) : xp_ τ b ga V G := by
  obtain ⟨p1, p2, p3, p4, p5⟩ := H
  refine ⟨p1, ?_, fun g hg => xg_ag A h0 hl h9 (p3 g hg), p4, fun w i hv => ?_⟩
  · rw [← p2]; exact ag_fi (k := 0) A h0 (by decide) (by decide) (by exact hl)
  · obtain ⟨x1, x2, x3⟩ := xa_ok h0 p3 hv
    rw [← p5 w i hv]
    exact A.2.2.2.2.2.2.1 200 _ x2 (by rw [lb_iy (by decide), x3]; exact hl)
theorem mp_ag {b G : Nat} {L : List Nat} {σ τ : ah_S} {V : sp_V} (A : ag_ b L σ τ) (h0 : sk_ok σ b) (hl : 20 ∉ L) (H : mp_ σ b V G) : mp_ τ b V G := by
  obtain ⟨p0, p1, p2, p3, p4, p5, p6, p7, p8, p9⟩ := H
  refine ⟨?_, fun i hi => ?_, fun i hi => ?_, fun i hi => ?_, fun i hi => ?_, fun i hi => ?_, fun i hi => ?_, ?_, ?_, ?_⟩
  · rw [ag_fi A h0 (by decide) (by decide) (by exact hl)]; exact p0
  · rw [ag_ai A h0 (by decide) (by exact hl)]; exact p1 i hi
  · rw [ag_ai A h0 (by decide) (by exact hl)]; exact p2 i hi
  · rw [ag_ai A h0 (by decide) (by exact hl)]; exact p3 i hi
  · rw [ag_ai A h0 (by decide) (by exact hl)]; exact p4 i hi
  · rw [ag_ai A h0 (by decide) (by exact hl)]; exact p5 i hi
  · rw [ag_ai A h0 (by decide) (by exact hl)]; exact p6 i hi
  · rw [ag_fi A h0 (by decide) (by decide) (by exact hl)]; exact p7
  · rw [ag_fi A h0 (by decide) (by decide) (by exact hl)]; exact p8
  · rw [ag_fi A h0 (by decide) (by decide) (by exact hl)]; exact p9
theorem xt_ag {b : Nat} {L : List Nat} {σ τ : ah_S} (A : ag_ b L σ τ) (hl : 3 ∉ L) : ∀ d a f, xt_ σ b d a f → xt_ τ b d a f := by
  have T := A.2.2.2.2.2.1
  have I := A.2.2.2.2.2.2.1
  have R := A.2.2.2.2.2.2.2.1
  intro d
  induction d with
  | zero => intro a f h; exact h
  | succ d ih =>
    intro a f h
    obtain ⟨h1, h2, h⟩ := h
    have t := (T a h2).1
    have i : ∀ g, ¬ (g < 100 ∨ 600 ≤ g ∧ g < 700) → 11 ≤ ah_tg σ a → ah_tg σ a ≤ 14 → ah_fi τ g a = ah_fi σ g a := fun g hg q1 q2 => I g a h2 (by
      rw [lb_iy hg, lb_dy h1]
      unfold lb_d
      rw [if_neg (by omega), if_pos (by omega)]; exact hl)
    have r : ∀ g, 800 ≤ g → g < 1400 → ah_fr τ g a = ah_fr σ g a := fun g q1 q2 => R g a h2 (by
      unfold lb_r
      rw [if_pos (by omega)]; exact hl)
    refine ⟨h1, Nat.lt_of_lt_of_le h2 A.2.1, ?_⟩
    rw [t]
    rcases h with ⟨e, v, h⟩ | ⟨e, h3, j, h4, h5, h6⟩ | ⟨e, s, c, g, h3, h4, h5, h6⟩ | ⟨e, s, l, r', g, k, h3, h4, h5, h6, h7, h8⟩
    · exact Or.inl ⟨e, v, by rw [i 1000 (by decide) (by omega) (by omega)]; exact h.1, h.2⟩
    · exact Or.inr (Or.inl ⟨e, by rw [r 1101 (by decide) (by decide)]; exact h3, j, h4, by rw [i 1100 (by decide) (by omega) (by omega)]; exact h5, h6⟩)
    · exact Or.inr (Or.inr (Or.inl ⟨e, s, c, g, by rw [i 1200 (by decide) (by omega) (by omega)]; exact h3, by rw [r 1201 (by decide) (by decide)]; exact h4, ih _ _ h5, h6⟩))
    · exact Or.inr (Or.inr (Or.inr ⟨e, s, l, r', g, k, by rw [i 1300 (by decide) (by omega) (by omega)]; exact h3, by rw [r 1301 (by decide) (by decide)]; exact h4, by rw [r 1302 (by decide) (by decide)]; exact h5, ih _ _ h6, ih _ _ h7, h8⟩))
theorem xl_ag {b : Nat} {L : List Nat} {σ τ : ah_S} (A : ag_ b L σ τ) (hl : 3 ∉ L) : ∀ n r f, xl_ σ b n r f → xl_ τ b n r f := by
  intro n
  induction n with
  | zero => intro r f h; exact h
  | succ n ih =>
    intro r f h
    cases r with
    | none => exact h
    | some a =>
      obtain ⟨h1, h2, h3, c, g, m, h4, h5, h6, h7⟩ := h
      have r : ∀ g, 800 ≤ g → g < 1400 → ah_fr τ g a = ah_fr σ g a := fun g q1 q2 => A.2.2.2.2.2.2.2.1 g a h2 (by
        unfold lb_r
        rw [if_pos (by omega)]; exact hl)
      refine ⟨h1, Nat.lt_of_lt_of_le h2 A.2.1, by rw [(A.2.2.2.2.2.1 a h2).1]; exact h3, c, g, m, by rw [r 801 (by decide) (by decide)]; exact h4, xt_ag A hl _ _ _ h5, by rw [r 802 (by decide) (by decide)]; exact ih _ _ h6, ?_⟩
      rw [r 800 (by decide) (by decide)]
      rcases h7 with h7 | ⟨q, u, h7, h8, h9⟩
      · exact Or.inl h7
      · exact Or.inr ⟨q, u, h7, xt_ag A hl _ _ _ h8, h9⟩
theorem xw_ag {b : Nat} {L : List Nat} {σ τ : ah_S} {lw : sp_W} (A : ag_ b L σ τ) (h0 : sk_ok σ b) (hl : 3 ∉ L) (H : xw_ σ b lw) : xw_ τ b lw := by
  have e : ah_fr τ 17 b = ah_fr σ 17 b := A.2.2.2.2.2.2.2.1 17 b (by have := h0.1; omega) (by exact hl)
  rcases H with H | ⟨a, f, h1, h2, h3⟩
  · exact Or.inl ⟨e.trans H.1, H.2⟩
  · exact Or.inr ⟨a, f, e.trans h1, h2, xl_ag A hl _ _ _ h3⟩
theorem mw_ag {b : Nat} {L : List Nat} {σ τ : ah_S} {lw : sp_W} (A : ag_ b L σ τ) (h0 : sk_ok σ b) (hl : 23 ∉ L) (H : mw_ σ b lw) : mw_ τ b lw := by
  have e : ah_fi τ 631 (b + 123) = ah_fi σ 631 (b + 123) := ag_fi A h0 (by decide) (by decide) (by exact hl)
  have e1 : ah_ai τ (b + 136) = ah_ai σ (b + 136) := funext fun i => ag_ai A h0 (by decide) (by exact hl) i
  have e2 : ah_ai τ (b + 137) = ah_ai σ (b + 137) := funext fun i => ag_ai A h0 (by decide) (by exact hl) i
  have e3 : ah_ai τ (b + 138) = ah_ai σ (b + 138) := funext fun i => ag_ai A h0 (by decide) (by exact hl) i
  have e4 : ah_ai τ (b + 139) = ah_ai σ (b + 139) := funext fun i => ag_ai A h0 (by decide) (by exact hl) i
  have e5 : ah_ai τ (b + 140) = ah_ai σ (b + 140) := funext fun i => ag_ai A h0 (by decide) (by exact hl) i
  unfold mw_
  rw [e, e1, e2, e3, e4, e5]
  exact H
