/-! ===== cells that are made as the script goes ===== -/
theorem dy_gI {σ : ah_S} {f a t : Nat} (ht : ah_tg σ a = t) (hf : ah_hf f t = true) : ah_gI σ f (some a) = some (ah_fi σ f a) := by
  show (if ah_hf f (ah_tg σ a) = true then some (ah_fi σ f a) else none) = _
  rw [ht, if_pos hf]
theorem dy_gR {σ : ah_S} {f a t : Nat} (ht : ah_tg σ a = t) (hf : ah_hf f t = true) : ah_gR σ f (some a) = some (ah_fr σ f a) := by
  show (if ah_hf f (ah_tg σ a) = true then some (ah_fr σ f a) else none) = _
  rw [ht, if_pos hf]
theorem dy_pI {σ : ah_S} {f a t : Nat} {v : Int32} (ht : ah_tg σ a = t) (hf : ah_hf f t = true) : ah_pI σ f (some a) v = some (ah_sI σ f a v) := by
  show (if ah_hf f (ah_tg σ a) = true then some (ah_sI σ f a v) else none) = _
  rw [ht, if_pos hf]
theorem dy_pR {σ : ah_S} {f a t : Nat} {v : Option Nat} (ht : ah_tg σ a = t) (hf : ah_hf f t = true) : ah_pR σ f (some a) v = some (ah_sR σ f a v) := by
  show (if ah_hf f (ah_tg σ a) = true then some (ah_sR σ f a v) else none) = _
  rw [ht, if_pos hf]
theorem dy_lQ {σ : ah_S} {t a j n : Nat} (ht : ah_tg σ a = t) (hn : ah_ln σ a = n) (hn2 : n < 2147483648) (hj : j < n) : ah_lQ σ t (some a) (Int32.ofNat j) = some (ah_ar σ a j) := by
  show (if (ah_tg σ a == t && ah_inb (Int32.ofNat j) (ah_ln σ a)) = true then some (ah_ar σ a (Int32.ofNat j).toNatClampNeg) else none) = _
  rw [ht, hn, nu_inb hj hn2, nu_cl (by omega)]
  simp
theorem dy_lA {σ : ah_S} {t a j n : Nat} (ht : ah_tg σ a = t) (hn : ah_ln σ a = n) (hn2 : n < 2147483648) (hj : j < n) : ah_lA σ t (some a) (Int32.ofNat j) = some (ah_ai σ a j) := by
  show (if (ah_tg σ a == t && ah_inb (Int32.ofNat j) (ah_ln σ a)) = true then some (ah_ai σ a (Int32.ofNat j).toNatClampNeg) else none) = _
  rw [ht, hn, nu_inb hj hn2, nu_cl (by omega)]
  simp
/-! ===== the value of a term, of the lines ===== -/
theorem fx_bit (σ : ah_S) (v : Int32) : F_X0_bit σ v = some (if v = 0 then 0 else 1, σ) := by
  unfold F_X0_bit
  split <;> rfl
theorem fx_term {σ : ah_S} {b : Nat} {N : Nat → Int32} (h0 : sk_ok σ b) (hN : ∀ i, i < 6 → ah_ai σ (b + 11) i = N i) : ∀ d a f, xt_ σ b d a f → Z_VT d σ (some a) = some (f N, σ) := by
  intro d
  induction d with
  | zero => intro a f h; exact absurd h id
  | succ d ih =>
    intro a f h
    obtain ⟨h1, h2, h⟩ := h
    show (if ah_tg σ a = 11 then F_X10_value σ (some a) else if ah_tg σ a = 12 then F_X11_value σ (some a) else if ah_tg σ a = 13 then F_X12_value (Z_VT d) σ (some a) else if ah_tg σ a = 14 then F_X13_value (Z_VT d) σ (some a) else none) = _
    rcases h with ⟨e, v, h3, h4⟩ | ⟨e, h3, j, h4, h5, h6⟩ | ⟨e, s, c, g, h3, h4, h5, h6⟩ | ⟨e, s, l, r', g, k, h3, h4, h5, h6, h7, h8⟩
    · rw [if_pos e, h4]
      unfold F_X10_value
      rw [dy_gI e (by decide), h3]; rfl
    · rw [if_neg (by omega), if_pos e, h6]
      unfold F_X11_value
      rw [dy_gR e (by decide), h3]
      simp only [pu_bs, sg_15 h0]
      rw [dy_gI e (by decide), h5]
      simp only [pu_bs, al_11 h0 h4, hN j h4]
    · rw [if_neg (by omega), if_neg (by omega), if_pos e, h6]
      unfold F_X12_value
      rw [dy_gI e (by decide), h3]
      simp only [pu_bs]
      rw [dy_gR e (by decide), h4]
      simp only [pu_bs, ih _ _ h5, pu_b2s, fx_bit]
      by_cases q : s = 33
      · rw [if_pos q, if_pos q]
        by_cases q2 : g N = 0
        · rw [if_pos q2, if_pos q2]; rfl
        · rw [if_neg q2, if_neg q2]; rfl
      · rw [if_neg q, if_neg q]
    · rw [if_neg (by omega), if_neg (by omega), if_neg (by omega), if_pos e, h8]
      unfold F_X13_value
      rw [dy_gR e (by decide), h4]
      simp only [pu_bs, ih _ _ h6, pu_b2s]
      rw [dy_gR e (by decide), h5]
      simp only [pu_bs, ih _ _ h7, pu_b2s]
      rw [dy_gI e (by decide), h3]
      simp only [pu_bs, fx_bit, pu_b2s, sp_op]
      by_cases q : s = 38
      · simp only [if_pos q]
        by_cases q1 : g N = 0
        · simp only [if_pos q1]; rfl
        · simp only [if_neg q1]
          by_cases q2 : k N = 0
          · simp only [if_pos q2]; rfl
          · simp only [if_neg q2]; rfl
      simp only [if_neg q]
      by_cases q : s = 42
      · simp only [if_pos q]
      simp only [if_neg q]
      by_cases q : s = 43
      · simp only [if_pos q]
      simp only [if_neg q]
      by_cases q : s = 45
      · simp only [if_pos q]
      simp only [if_neg q]
      by_cases q : s = 47
      · simp only [if_pos q]
        by_cases q1 : k N = 0
        · simp only [if_pos q1]
        · simp only [if_neg q1, ah_di, pu_bs]
      simp only [if_neg q]
      by_cases q : s = 60
      · simp only [if_pos q]
        by_cases q1 : k N ≤ g N
        · simp only [if_pos q1]; rfl
        · simp only [if_neg q1]; rfl
      simp only [if_neg q]
      by_cases q : s = 61
      · simp only [if_pos q]
        by_cases q1 : g N = k N
        · simp only [if_pos q1]; rfl
        · simp only [if_neg q1]; rfl
      simp only [if_neg q]
      by_cases q : s = 62
      · simp only [if_pos q]
        by_cases q1 : g N ≤ k N
        · simp only [if_pos q1]; rfl
        · simp only [if_neg q1]; rfl
      simp only [if_neg q]
      by_cases q : s = 124
      · simp only [if_pos q]
        by_cases q1 : g N = 0
        · simp only [if_pos q1]
          by_cases q2 : k N = 0
          · simp only [if_pos q2]; rfl
          · simp only [if_neg q2]; rfl
        · simp only [if_neg q1]; rfl
      simp only [if_neg q]
      by_cases q1 : k N = 0
      · simp only [if_pos q1]
      · simp only [if_neg q1, ah_re, pu_bs]
theorem fx_lines {σ : ah_S} {b : Nat} {N : Nat → Int32} (h0 : sk_ok σ b) (hN : ∀ i, i < 6 → ah_ai σ (b + 11) i = N i) : ∀ n r f m, xl_ σ b n r f → n ≤ m → F_X0_ruled_5 m σ r = some (f N, σ) := by
  intro n
  induction n with
  | zero => intro r f m h; exact absurd h id
  | succ n ih =>
    intro r f m h hm
    obtain ⟨m, rfl⟩ : ∃ q, m = q + 1 := ⟨m - 1, by omega⟩
    cases r with
    | none =>
      have h : f = fun _ => 0 := h
      rw [h]; rfl
    | some a =>
      obtain ⟨h1, h2, h3, c, g, u, h4, h5, h6, h7⟩ := h
      show (if (some a : Option Nat) = none then some ((0 : Int32), σ) else _) = _
      rw [if_neg (by simp), dy_gR h3 (by decide)]
      rcases h7 with ⟨h7, rfl⟩ | ⟨q, v, h7, h8, h9⟩
      · rw [h7, dy_gR h3 (by decide), h4]
        simp only [pu_bs, if_true, fx_term h0 hN _ _ _ h5, pu_b2s]
      · have e1 : ah_gR σ 801 (some a) = some (some c) := by rw [dy_gR h3 (by decide), h4]
        have e2 : ah_gR σ 802 (some a) = some (ah_fr σ 802 a) := dy_gR h3 (by decide)
        rw [h7, h9]
        simp only [pu_bs, fx_term h0 hN _ _ _ h5, fx_term h0 hN _ _ _ h8, pu_b2s, e1, e2]
        rw [if_neg (by simp)]
        by_cases q1 : v N = 0
        · simp only [if_pos q1]; exact ih _ _ _ h6 (by omega)
        · simp only [if_neg q1]
/-! ===== what a guest leaves ===== -/
theorem sp_cl {v : Int32} : (if (-20 : Int32) < (if v < (20 : Int32) then v else (20 : Int32)) then (if v < (20 : Int32) then v else (20 : Int32)) else (-20 : Int32)) = sp_20 v := by
  unfold sp_20
  by_cases h : v < 20
  · rw [if_pos h, if_pos (Int32.le_of_lt h)]
    by_cases h2 : -20 < v
    · rw [if_pos h2, if_pos (Int32.le_of_lt h2)]
    · rw [if_neg h2]
      by_cases h3 : -20 ≤ v
      · rw [if_pos h3]; exact Int32.le_antisymm h3 ((Int32.lt_or_le (-20) v).resolve_left h2)
      · rw [if_neg h3]
  · have h' : (20 : Int32) ≤ v := (Int32.lt_or_le v 20).resolve_left h
    rw [if_neg h, if_pos (by decide), if_pos (Int32.le_trans (by decide) h')]
    by_cases h3 : v ≤ 20
    · rw [if_pos h3]; exact Int32.le_antisymm h' h3
    · rw [if_neg h3]
theorem sp_cl9 {v : Int32} : (if (0 : Int32) < (if v < (99 : Int32) then v else (99 : Int32)) then (if v < (99 : Int32) then v else (99 : Int32)) else (0 : Int32)) = sp_99 v := by
  unfold sp_99
  by_cases h : v < 99
  · rw [if_pos h, if_pos (Int32.le_of_lt h)]
    by_cases h2 : 0 < v
    · rw [if_pos h2, if_pos (Int32.le_of_lt h2)]
    · rw [if_neg h2]
      by_cases h3 : 0 ≤ v
      · rw [if_pos h3]; exact Int32.le_antisymm h3 ((Int32.lt_or_le 0 v).resolve_left h2)
      · rw [if_neg h3]
  · have h' : (99 : Int32) ≤ v := (Int32.lt_or_le v 99).resolve_left h
    rw [if_neg h, if_pos (by decide), if_pos (Int32.le_trans (by decide) h')]
    by_cases h3 : v ≤ 99
    · rw [if_pos h3]; exact Int32.le_antisymm h' h3
    · rw [if_neg h3]
/-- what the guests' cells hold -/
theorem xp_gst {σ : ah_S} {b g G : Nat} {ga : Nat → Nat} {V : sp_V} (h0 : sk_ok σ b) (hp : xp_ σ b ga V G) (hg : g < G) : ah_lQ σ 112 (some (b + 4)) (Int32.ofNat g) = some (some (ga g)) ∧ ah_gR σ 700 (some (ga g)) = some (some (ga g + 1)) ∧ ah_gR σ 701 (some (ga g)) = some (some (ga g + 2)) ∧ ah_gR σ 702 (some (ga g)) = some (some (ga g + 11)) ∧ ah_gR σ 703 (some (ga g)) = some (some (ga g + 12)) ∧ ah_gI σ 200 (some (ga g + 11)) = some (V 4 g) ∧ ah_gI σ 200 (some (ga g + 12)) = some (V 5 g) ∧ ∀ t, t < 4 → ah_lQ σ 113 (some (ga g + 1)) (Int32.ofNat t) = some (some (ga g + (3 + 2 * t))) ∧ ah_lQ σ 113 (some (ga g + 2)) (Int32.ofNat t) = some (some (ga g + (4 + 2 * t))) ∧ ah_gI σ 200 (some (ga g + (3 + 2 * t))) = some (V 2 (4 * g + t)) ∧ ah_gI σ 200 (some (ga g + (4 + 2 * t))) = some (V 3 (4 * g + t)) := by
  obtain ⟨p1, p2, p3, p4, p5⟩ := hp
  obtain ⟨a1, a2, a3, a4, a5, a6, a7, a8, a9, a10, a11, a12, a13, a14⟩ := p3 g hg
  refine ⟨by rw [al_4 h0 (by omega), a3], by rw [dy_gR a4 (by decide), a9], by rw [dy_gR a4 (by decide), a10], by rw [dy_gR a4 (by decide), a11], by rw [dy_gR a4 (by decide), a12], ?_, ?_, fun t ht => ⟨by rw [dy_lQ a5 a6 (by decide) ht, (a13 t ht).1], by rw [dy_lQ a7 a8 (by decide) ht, (a13 t ht).2], ?_, ?_⟩⟩
  · rw [dy_gI (a14 11 (by decide) (by decide)) (by decide)]
    have := p5 4 g (Or.inr (Or.inr (Or.inl ⟨Or.inl rfl, hg⟩)))
    rw [← this]; rfl
  · rw [dy_gI (a14 12 (by decide) (by decide)) (by decide)]
    have := p5 5 g (Or.inr (Or.inr (Or.inl ⟨Or.inr rfl, hg⟩)))
    rw [← this]; rfl
  · rw [dy_gI (a14 (3 + 2 * t) (by omega) (by omega)) (by decide)]
    have := p5 2 (4 * g + t) (Or.inr (Or.inl ⟨Or.inl rfl, by omega⟩))
    rw [← this]
    show _ = some (ah_fi σ 200 (ga ((4 * g + t) / 4) + (3 + 2 * ((4 * g + t) % 4))))
    rw [show (4 * g + t) / 4 = g by omega, show (4 * g + t) % 4 = t by omega]
  · rw [dy_gI (a14 (4 + 2 * t) (by omega) (by omega)) (by decide)]
    have := p5 3 (4 * g + t) (Or.inr (Or.inl ⟨Or.inr rfl, by omega⟩))
    rw [← this]
    show _ = some (ah_fi σ 200 (ga ((4 * g + t) / 4) + (4 + 2 * ((4 * g + t) % 4))))
    rw [show (4 * g + t) / 4 = g by omega, show (4 * g + t) % 4 = t by omega]
theorem xp_th {σ : ah_S} {b G : Nat} {ga : Nat → Nat} {V : sp_V} (h0 : sk_ok σ b) (hp : xp_ σ b ga V G) : (∀ t, t < 4 → ah_lQ σ 113 (some (b + 5)) (Int32.ofNat t) = some (some (b + (115 + 2 * t))) ∧ ah_gI σ 200 (some (b + (115 + 2 * t))) = some (V 0 t) ∧ ah_lQ σ 113 (some (b + 6)) (Int32.ofNat t) = some (some (b + (116 + 2 * t))) ∧ ah_gI σ 200 (some (b + (116 + 2 * t))) = some (V 1 t)) ∧ ah_gI σ 200 (some (b + 7)) = some (V 6 0) ∧ ah_gI σ 200 (some (b + 8)) = some (V 7 0) ∧ ah_gI σ 200 (some (b + 9)) = some (V 8 0) := by
  obtain ⟨p1, p2, p3, p4, p5⟩ := hp
  have q1 : ∀ t, t < 4 → (5, t, 115 + 2 * t) ∈ sk_Q ∧ (6, t, 116 + 2 * t) ∈ sk_Q ∧ sk_T.getD (115 + 2 * t) 0 = 3 ∧ sk_T.getD (116 + 2 * t) 0 = 3 := by decide
  refine ⟨fun t ht => ?_, ?_, ?_, ?_⟩
  · obtain ⟨u1, u2, u3, u4⟩ := q1 t ht
    refine ⟨by rw [al_5 h0 ht, h0.2.2.2.2 _ u1], ?_, by rw [al_6 h0 ht, h0.2.2.2.2 _ u2], ?_⟩
    · rw [sk_gI h0 (by omega) (by rw [u3]; decide), ← p5 0 t (Or.inl ⟨by omega, ht⟩)]; rfl
    · rw [sk_gI h0 (by omega) (by rw [u4]; decide), ← p5 1 t (Or.inl ⟨by omega, ht⟩)]; rfl
  · rw [sk_gI h0 (by omega) (by decide), ← p5 6 0 (Or.inr (Or.inr (Or.inr ⟨by omega, by omega, rfl⟩)))]; rfl
  · rw [sk_gI h0 (by omega) (by decide), ← p5 7 0 (Or.inr (Or.inr (Or.inr ⟨by omega, by omega, rfl⟩)))]; rfl
  · rw [sk_gI h0 (by omega) (by decide), ← p5 8 0 (Or.inr (Or.inr (Or.inr ⟨by omega, by omega, rfl⟩)))]; rfl
/-- a number in a range -/
def nu_in (v : Int32) (n : Int) : Prop := 0 ≤ v.toInt ∧ v.toInt ≤ n
theorem sp_lf0 {V : sp_V} {G g t : Nat} {f o : Int32} (hr : sp_rg G V) (hg : g < G) (ht : t < 4) (hf : nu_in f 99) (ho : nu_in o 99) : sp_99 (if o - f ≤ sp_s V g then f - V 2 (4 * g + t) else if (f - V 2 (4 * g + t)) + V 3 (4 * g + t) < o then (f - V 2 (4 * g + t)) + V 3 (4 * g + t) else o) = sp_lf V none g t f o := by
  have a1 := hr 2 (4 * g + t) (Or.inr (Or.inl ⟨Or.inl rfl, by omega⟩))
  have a2 := hr 3 (4 * g + t) (Or.inr (Or.inl ⟨Or.inr rfl, by omega⟩))
  have a3 := hr 4 g (Or.inr (Or.inr (Or.inl ⟨Or.inl rfl, hg⟩)))
  have a4 := hr 6 0 (Or.inr (Or.inr (Or.inr ⟨by omega, by omega, rfl⟩)))
  have hs : 0 ≤ (sp_s V g).toInt := by
    unfold sp_s
    split
    · exact a4.1
    · exact a3.1
  have b1 : (V 2 (4 * g + t)).toInt ≤ 9 := a1.2
  have b2 : (V 3 (4 * g + t)).toInt ≤ 20 := a2.2
  obtain ⟨f1, f2⟩ := hf
  obtain ⟨o1, o2⟩ := ho
  unfold sp_lf sp_is
  generalize V 2 (4 * g + t) = T at *
  generalize V 3 (4 * g + t) = B at *
  generalize sp_s V g = S at *
  obtain ⟨T1, -⟩ := a1
  obtain ⟨B1, -⟩ := a2
  have e1 : (f - T).toInt = f.toInt - T.toInt := nu_sub (by omega) (by omega)
  have e2 : (f - T + B).toInt = f.toInt - T.toInt + B.toInt := by rw [nu_add (by omega) (by omega), e1]
  have e3 : (-T).toInt = -T.toInt := nu_neg (by omega)
  have e4 : (-T + B).toInt = -T.toInt + B.toInt := by rw [nu_add (by omega) (by omega), e3]
  have e5 : (f + (-T + B)).toInt = f.toInt + (-T.toInt + B.toInt) := by rw [nu_add (by omega) (by omega), e4]
  have e6 : (o - f).toInt = o.toInt - f.toInt := nu_sub (by omega) (by omega)
  have k1 : (-20 : Int32).toInt = -20 := rfl
  have k2 : (20 : Int32).toInt = 20 := rfl
  have in20 : ∀ v : Int32, -20 ≤ v.toInt → v.toInt ≤ 20 → sp_20 v = v := fun v q1 q2 => by
    unfold sp_20
    rw [if_pos (by rw [nu_le, k1]; exact q1), if_pos (by rw [nu_le, k2]; exact q2)]
  by_cases c1 : o - f ≤ S
  · simp only [if_pos c1]
    rw [in20 _ (by omega) (by omega)]
    congr 1
    apply Int32.toInt_inj.mp
    rw [e1, nu_add (by omega) (by omega), e3]; omega
  · simp only [if_neg c1]
    rw [nu_le] at c1
    by_cases c2 : f + (-T + B) ≤ o
    · simp only [if_pos c2]
      rw [in20 _ (by omega) (by omega)]
      rw [nu_le] at c2
      by_cases c3 : f - T + B < o
      · rw [if_pos c3]
        congr 1
        apply Int32.toInt_inj.mp
        rw [e2, e5]; omega
      · rw [if_neg c3]
        rw [nu_lt] at c3
        congr 1
        apply Int32.toInt_inj.mp
        rw [e5]; omega
    · simp only [if_neg c2]
      rw [nu_le] at c2
      rw [in20 _ (by omega) (by omega), if_neg (by rw [nu_lt]; omega)]
      congr 1
      apply Int32.toInt_inj.mp
      rw [nu_add (by omega) (by omega), e6]; omega
theorem fx_leftBy {σ : ah_S} {b g t G : Nat} {ga : Nat → Nat} {V : sp_V} {lw : sp_W} {f o : Int32} (h0 : sk_ok σ b) (hp : xp_ σ b ga V G) (hw : xw_ σ b lw) (hr : sp_rg G V) (hg : g < G) (ht : t < 4) (hf : nu_in f 99) (ho : nu_in o 99) : pu_ok (F_X0_leftBy σ (some b) (some (ga g)) (Int32.ofNat t) f o) (fun r => r.1 = sp_lf V lw g t f o ∧ ag_ b [11] σ r.2) := by
  obtain ⟨g1, g2, g3, g4, g5, g6, g7, g8⟩ := xp_gst h0 hp hg
  obtain ⟨g9, g10, g11, g12⟩ := g8 t ht
  obtain ⟨t1, t2, -, -⟩ := xp_th h0 hp
  unfold F_X0_leftBy
  simp only [g2, g3, g4, g6, g9, g10, g11, g12, pu_bs, sg_11 h0, t2]
  have key : ∀ y : Int32, (lw = none → sp_99 y = sp_lf V lw g t f o) → pu_ok (F_X0_leftBy_69 σ (some b) (Int32.ofNat t) f o (V 2 (4 * g + t)) (V 3 (4 * g + t)) (sp_s V g) y) (fun r => r.1 = sp_lf V lw g t f o ∧ ag_ b [11] σ r.2) := by
    intro y hy
    unfold F_X0_leftBy_69
    have e17 : ah_gR σ 17 (some b) = some (ah_fr σ 17 b) := dy_gR (h0.2.1 0 (by decide)) (by decide)
    rcases hw with ⟨w1, w2⟩ | ⟨a, F, w1, w2, w3⟩
    · simp only [e17, w1, pu_bs, if_true, sp_cl9]
      exact pu_ret ⟨hy w2, ag_rf _ h0⟩
    · simp only [e17, w1, pu_bs]
      rw [if_neg (by simp)]
      simp (disch := first | assumption | (simp only [rk_sI, rk_sA, rk_sL, rk_cpI, rk_cpL]; assumption) | omega) only [sg_15, aw_11_0, aw_11_1, aw_11_2, aw_11_3, aw_11_4, aw_11_5, ss_0, pu_bs]
      generalize hσ' : ah_sA (ah_sA (ah_sA (ah_sA (ah_sA (ah_sA σ (b + 11) 0 f) (b + 11) 1 o) (b + 11) 2 (V 2 (4 * g + t))) (b + 11) 3 (V 3 (4 * g + t))) (b + 11) 4 (sp_s V g)) (b + 11) 5 (Int32.ofNat t) = σ'
      have A : ag_ b [11] σ σ' := by
        have l11 : ∀ ρ : ah_S, lb_a b ρ (b + 11) ∈ [11] := fun ρ => lb_sc (by decide) rfl (by decide)
        rw [← hσ']
        exact ag_wA (ag_wA (ag_wA (ag_wA (ag_wA (ag_wA (ag_rf _ h0) (fun _ => l11 _)) (fun _ => l11 _)) (fun _ => l11 _)) (fun _ => l11 _)) (fun _ => l11 _)) (fun _ => l11 _)
      have hN : ∀ i, i < 6 → ah_ai σ' (b + 11) i = sp_N V g t f o i := by
        intro i hi
        rw [← hσ']
        match i, hi with
        | 0, _ => simp [rw_ai_sA, sp_N]
        | 1, _ => simp [rw_ai_sA, sp_N]
        | 2, _ => simp [rw_ai_sA, sp_N]
        | 3, _ => simp [rw_ai_sA, sp_N]
        | 4, _ => simp [rw_ai_sA, sp_N]
        | 5, _ => simp [rw_ai_sA, sp_N]
      have er : F_X0_ruled σ' (some b) = some (F (sp_N V g t f o), σ') := by
        unfold F_X0_ruled
        have e17' : ah_gR σ' 17 (some b) = some (ah_fr σ' 17 b) := dy_gR ((ag_sk A).2.1 0 (by decide)) (by decide)
        rw [e17', show ah_fr σ' 17 b = some a by rw [← hσ']; exact w1]
        exact fx_lines (ag_sk A) hN 200 _ _ _ (xl_ag A (by decide) _ _ _ w3) (by decide)
      simp only [er, pu_b2s, sp_cl, sp_cl9]
      refine pu_ret ⟨?_, A⟩
      rw [w2]; rfl
  have es : (if V 6 0 < V 4 g then V 6 0 else V 4 g) = sp_s V g := rfl
  simp only [es]
  by_cases c : o - f ≤ sp_s V g
  · rw [if_pos c]
    refine key _ fun hl => ?_
    rw [hl, ← sp_lf0 hr hg ht hf ho, if_pos c]
  · rw [if_neg c]
    refine key _ fun hl => ?_
    rw [hl, ← sp_lf0 hr hg ht hf ho, if_neg c]
