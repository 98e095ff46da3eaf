/-! ===== questions: often, warden ===== -/
theorem nu_10n : ¬ (1 : Int32) = 0 := by decide
def sp_at (s : Nat → Int32) (n k : Nat) : Int32 := if n = 0 then -1 else s (k % n)
theorem sp_cm {G : Nat} (hG : G ≤ 7) : sp_c G (-1) = -1 := by
  unfold sp_c
  split <;> rfl
theorem sp_cg {G g : Nat} (hG : G ≤ 7) (hg : g < G) : sp_c G (Int32.ofNat g) = Int32.ofNat g := by
  unfold sp_c
  rw [if_pos ⟨(nl_le_0 (by omega)).mpr (by omega), (nu_oflt (by omega) (by omega)).mpr hg⟩]
section
variable {σ : ah_S} {b nb G : Nat} {ga ra ba kd : Nat → Nat} {hd : Nat → Int32} {sz : Nat → Nat} {el : sp_E} {V : sp_V} {lw : sp_W} {h : sp_H} {s : Nat → Int32} {n : Nat}
theorem fx_comesAt (R : rx_ σ b ga V G lw s n h) {k : Nat} (hk : k < 1000) : F_X0_comesAt σ (some b) (Int32.ofNat k) = some (sp_c G (sp_at s n k), σ) := by
  have s0 := R.1.1
  have hn := R.2.1.2.1
  unfold F_X0_comesAt sp_at
  simp only [si_21 s0, pu_bs, R.2.1.1]
  by_cases c : n = 0
  · rw [if_pos c, if_pos (by rw [c]; rfl), sp_cm R.1.2.1.1]
  · rw [if_neg c, if_neg (fun z => c ((nl_eq_0 (by omega)).mp z))]
    have hm : k % n < n := Nat.mod_lt _ (by omega)
    simp only [sg_20 s0, pu_bs, nu_re (show k < 2147483648 by omega) (show n < 2147483648 by omega) (by omega), al_22 s0 (show k % n < 30 by omega), R.2.1.2.2 _ hm]
theorem fm_againAt {k : sp_H} (R : rm_ σ b V G lw s n k h) {j : Nat} (hj : j < 1000) : F_X6_againAt σ (some (b + 123)) (Int32.ofNat j) = some (sp_at s n j, σ) := by
  have s0 := R.1.1
  have hn := R.2.1.2.1
  unfold F_X6_againAt sp_at
  simp only [si_636 s0, pu_bs, R.2.1.1]
  by_cases c : n = 0
  · rw [if_pos c, if_pos (by rw [c]; rfl)]
  · rw [if_neg c, if_neg (fun z => c ((nl_eq_0 (by omega)).mp z))]
    have hm : j % n < n := Nat.mod_lt _ (by omega)
    simp only [sg_635 s0, pu_bs, nu_re (show j < 2147483648 by omega) (show n < 2147483648 by omega) (by omega), al_146 s0 (show j % n < 30 by omega), R.2.1.2.2 _ hm]
/-- two: a guest and a thing -/
theorem gt_n {x : Int32} (c : ¬ ∃ g t, x = Int32.ofNat (10 * g + t) ∧ g < G ∧ t < 4) (hx : 0 ≤ x) (hG : G ≤ 7) : ∃ n, x = Int32.ofNat n ∧ n < 2147483648 ∧ (¬ n / 10 < G ∨ ¬ n % 10 < 4) := by
  obtain ⟨n, rfl, hn⟩ := nu_nat hx
  refine ⟨n, rfl, hn, ?_⟩
  by_cases d : n / 10 < G
  · right
    intro z
    exact c ⟨n / 10, n % 10, by congr 1; omega, d, z⟩
  · exact Or.inl d
theorem fx_gtP (h0 : sk_ok σ b) (hp : xp_ σ b ga V G) {g t : Nat} (hg : g < G) (ht : t < 4) : F_X0_isGt σ (some b) (Int32.ofNat (10 * g + t)) = some (1, σ) := by
  have hG := hp.1
  unfold F_X0_isGt
  rw [if_neg (nu_pos _ (by omega))]
  simp only [nl_di_10 (show 10 * g + t < 2147483648 by omega), nl_re_10 (show 10 * g + t < 2147483648 by omega), pu_bs, ss_0 h0, fx_isGuest _ h0 hp, pu_b2s, fx_isThing]
  rw [show (10 * g + t) / 10 = g by omega, show (10 * g + t) % 10 = t by omega, ra_p ⟨(nl_le_0 (by omega)).mpr (by omega), by rw [nu_lem1 (by omega), nu_oflt (by omega) (by omega)]; exact hg⟩, ra_p ⟨(nl_le_0 (by omega)).mpr (by omega), (nl_ge_3 (by omega)).mpr (by omega)⟩]
  rfl
theorem fx_gtN (h0 : sk_ok σ b) (hp : xp_ σ b ga V G) {x : Int32} (c : ¬ ∃ g t, x = Int32.ofNat (10 * g + t) ∧ g < G ∧ t < 4) : F_X0_isGt σ (some b) x = some (0, σ) := by
  have hG := hp.1
  unfold F_X0_isGt
  by_cases c0 : x < 0
  · rw [if_pos c0]
  rw [if_neg c0]
  obtain ⟨n, rfl, hn, hc⟩ := gt_n c ((Int32.lt_or_le x 0).resolve_left c0) hG
  simp only [nl_di_10 hn, nl_re_10 hn, pu_bs, ss_0 h0, fx_isGuest _ h0 hp, pu_b2s, fx_isThing]
  by_cases d : n / 10 < G
  · rw [ra_p ⟨(nl_le_0 (by omega)).mpr (by omega), by rw [nu_lem1 (by omega), nu_oflt (by omega) (by omega)]; exact d⟩, if_neg (by decide), ra_n (fun z => by
      have := (nl_ge_3 (by omega)).mp z.2
      omega), if_pos rfl]
  · rw [ra_n (fun z => by
      have := z.2
      rw [nu_lem1 (by omega), nu_oflt (by omega) (by omega)] at this
      exact d this), if_pos rfl]
theorem fm_gtP (h0 : sk_ok σ b) (hp : mp_ σ b V G) (hG : G ≤ 7) {g t : Nat} (hg : g < G) (ht : t < 4) : F_X6_areTwo σ (some (b + 123)) (Int32.ofNat (10 * g + t)) = some (1, σ) := by
  unfold F_X6_areTwo
  rw [if_neg (nu_pos _ (by omega))]
  simp only [nl_di_10 (show 10 * g + t < 2147483648 by omega), nl_re_10 (show 10 * g + t < 2147483648 by omega), pu_bs, ss_123 h0, fm_isGuest _ h0 hp, pu_b2s, fm_isThing]
  rw [show (10 * g + t) / 10 = g by omega, show (10 * g + t) % 10 = t by omega, ra_p ⟨(nl_le_0 (by omega)).mpr (by omega), by rw [nu_lem1 (by omega), nu_oflt (by omega) (by omega)]; exact hg⟩, ra_p ⟨(nl_le_0 (by omega)).mpr (by omega), (nl_ge_3 (by omega)).mpr (by omega)⟩]
  rfl
theorem fm_gtN (h0 : sk_ok σ b) (hp : mp_ σ b V G) (hG : G ≤ 7) {x : Int32} (c : ¬ ∃ g t, x = Int32.ofNat (10 * g + t) ∧ g < G ∧ t < 4) : F_X6_areTwo σ (some (b + 123)) x = some (0, σ) := by
  unfold F_X6_areTwo
  by_cases c0 : x < 0
  · rw [if_pos c0]
  rw [if_neg c0]
  obtain ⟨n, rfl, hn, hc⟩ := gt_n c ((Int32.lt_or_le x 0).resolve_left c0) hG
  simp only [nl_di_10 hn, nl_re_10 hn, pu_bs, ss_123 h0, fm_isGuest _ h0 hp, pu_b2s, fm_isThing]
  by_cases d : n / 10 < G
  · rw [ra_p ⟨(nl_le_0 (by omega)).mpr (by omega), by rw [nu_lem1 (by omega), nu_oflt (by omega) (by omega)]; exact d⟩, if_neg (by decide), ra_n (fun z => by
      have := (nl_ge_3 (by omega)).mp z.2
      omega), if_pos rfl]
  · rw [ra_n (fun z => by
      have := z.2
      rw [nu_lem1 (by omega), nu_oflt (by omega) (by omega)] at this
      exact d this), if_pos rfl]
/-- sixty nights with a guest behind each m others -/
def sp_ab (V : sp_V) (G : Nat) (lw : sp_W) (s : Nat → Int32) (n g t m : Nat) (x : Int32) : Nat → Nat → Nat → sp_H → Int32
  | 0, _, _, _ => 1
  | j + 1, i, r, h => if i % (m + 1) = m then (if sp_go V G lw (Int32.ofNat g) h t < x then 0 else sp_ab V G lw s n g t m x j (i + 1) r (sp_go V G lw (Int32.ofNat g) h)) else (if sp_go V G lw (sp_at s n r) h t < x then 0 else sp_ab V G lw s n g t m x j (i + 1) (r + 1) (sp_go V G lw (sp_at s n r) h))
theorem lx_above {g t m : Nat} {x : Int32} (hg : g < G) (h4 : t < 4) (hm : m < 100) : ∀ j i r σ q h, i + j = 60 → r ≤ i → j < q → rx_ σ b ga V G lw s n h → pu_ok (F_X0_staysAbove_17 q σ (some b) (Int32.ofNat g) (Int32.ofNat t) x (Int32.ofNat m) (Int32.ofNat r) (Int32.ofNat i)) (fun z => z.1 = sp_ab V G lw s n g t m x j i r h ∧ ag_ b [5, 11] σ z.2) := by
  intro j
  induction j with
  | zero =>
    intro i r σ q h hi hr hq R
    obtain ⟨q, rfl⟩ : ∃ z, q = z + 1 := ⟨q - 1, by omega⟩
    have s0 := R.1.1
    have hn := R.2.1.2.1
    unfold F_X0_staysAbove_17
    rw [if_pos ((nl_le_60 (by omega)).mpr (by omega))]
    exact pu_ret ⟨rfl, ag_rf _ s0⟩
  | succ j ih =>
    intro i r σ q h hi hr hq R
    obtain ⟨q, rfl⟩ : ∃ z, q = z + 1 := ⟨q - 1, by omega⟩
    have s0 := R.1.1
    have hn := R.2.1.2.1
    have hG := R.1.2.1.1
    unfold F_X0_staysAbove_17
    rw [if_neg (fun z => by have := (nl_le_60 (by omega)).mp z; omega)]
    simp only [sg_19 s0, pu_bs, nl_ar_1, nu_re (show i < 2147483648 by omega) (show m + 1 < 2147483648 by omega) (by omega)]
    unfold sp_ab
    have hmm : i % (m + 1) < m + 1 := Nat.mod_lt _ (by omega)
    by_cases c : i % (m + 1) = m
    · rw [if_pos c, if_pos (by rw [c])]
      simp only [hu_is s0 m17, pu_bs]
      rw [← sp_cg hG hg]
      refine pu_bind (fx_stp R _) ?_
      rintro υ ⟨A, R⟩
      have s1 := R.1.1
      rw [sp_cg hG hg]
      simp only [sg_19 s1, hu_400 s1 m17, hu_l1 s1 m17 h4, pu_bs, R.2.2.1.1 t h4]
      by_cases d : sp_go V G lw (Int32.ofNat g) h t < x
      · rw [if_pos d, if_neg (fun z => absurd (Int32.lt_of_lt_of_le d z) Int32.lt_irrefl)]
        exact pu_ret ⟨rfl, A⟩
      · rw [if_neg d, if_pos ((Int32.lt_or_le _ _).resolve_left d)]
        exact pu_mono (ih (i + 1) r υ q _ (by omega) (by omega) (by omega) R) (fun z hz => ⟨hz.1, ag_tr A hz.2⟩)
    · rw [if_neg c, if_neg (fun z => c ((nu_ofeq (by omega) (by omega)).mp z))]
      simp only [ss_0 s0, pu_bs, fx_comesAt R (show r < 1000 by omega), pu_b2s, hu_is s0 m17]
      refine pu_bind (fx_stp R _) ?_
      rintro υ ⟨A, R⟩
      have s1 := R.1.1
      simp only [sg_19 s1, hu_400 s1 m17, hu_l1 s1 m17 h4, pu_bs, R.2.2.1.1 t h4]
      by_cases d : sp_go V G lw (sp_at s n r) h t < x
      · rw [if_pos d, if_neg (fun z => absurd (Int32.lt_of_lt_of_le d z) Int32.lt_irrefl)]
        exact pu_ret ⟨rfl, A⟩
      · rw [if_neg d, if_pos ((Int32.lt_or_le _ _).resolve_left d)]
        exact pu_mono (ih (i + 1) (r + 1) υ q _ (by omega) (by omega) (by omega) R) (fun z hz => ⟨hz.1, ag_tr A hz.2⟩)
theorem lm_above {k : sp_H} {g t m : Nat} {x : Int32} (hg : g < G) (h4 : t < 4) (hm : m < 100) : ∀ j i r y σ q h, i + j = 60 → r ≤ i → j < q → (y = 0 ∨ y = 1) → rm_ σ b V G lw s n k h → pu_ok (F_X6_holds60_16 q σ (some (b + 123)) (Int32.ofNat g) (Int32.ofNat t) (Int32.ofNat m) x (Int32.ofNat r) (Int32.ofNat (i % (m + 1))) y (Int32.ofNat i)) (fun z => z.1 = (if y = 0 then 0 else sp_ab V G lw s n g t m x j i r h) ∧ ag_ b [24, 25, 54, 55] σ z.2 ∧ mh_ z.2 b 130 k) := by
  intro j
  induction j with
  | zero =>
    intro i r y σ q h hi hr hq hy R
    obtain ⟨q, rfl⟩ : ∃ z, q = z + 1 := ⟨q - 1, by omega⟩
    have s0 := R.1.1
    have hn := R.2.1.2.1
    unfold F_X6_holds60_16
    rw [if_pos ((nl_le_60 (by omega)).mpr (by omega))]
    simp only [ss_123 s0, pu_bs]
    have ez : ah_z y = some y := by rcases hy with rfl | rfl <;> rfl
    simp only [ez, pu_bs]
    refine pu_mono (fm_end R y) (fun z hz => ⟨?_, hz.2⟩)
    rw [hz.1]
    rcases hy with rfl | rfl <;> rfl
  | succ j ih =>
    intro i r y σ q h hi hr hq hy R
    obtain ⟨q, rfl⟩ : ∃ z, q = z + 1 := ⟨q - 1, by omega⟩
    have s0 := R.1.1
    have hn := R.2.1.2.1
    unfold F_X6_holds60_16
    rw [if_neg (fun z => by have := (nl_le_60 (by omega)).mp z; omega)]
    unfold sp_ab
    have hmm : i % (m + 1) < m + 1 := Nat.mod_lt _ (by omega)
    by_cases c : i % (m + 1) = m
    · rw [if_pos c, if_pos (by rw [c])]
      have e1 : (i + 1) % (m + 1) = 0 := by
        rw [← Nat.mod_add_mod, c, Nat.mod_self]
      simp only [ss_123 s0, pu_bs, nl_ar_1]
      refine pu_bind (fm_stp R _) ?_
      rintro υ ⟨A, R⟩
      have s1 := R.1.1
      simp only [sg_611 s1, al_130 s1 (show t < 48 by omega), pu_bs, R.2.2.2 t (by omega)]
      by_cases d : sp_go V G lw (Int32.ofNat g) h t < x
      · rw [if_pos d, if_neg (fun z => absurd (Int32.lt_of_lt_of_le d z) Int32.lt_irrefl)]
        have := ih (i + 1) r 0 υ q _ (by omega) (by omega) (by omega) (Or.inl rfl) R
        rw [e1] at this
        exact pu_mono this (fun z hz => ⟨by rw [hz.1, if_pos rfl]; split <;> rfl, ag_tr A hz.2.1, hz.2.2⟩)
      · rw [if_neg d, if_pos ((Int32.lt_or_le _ _).resolve_left d)]
        have := ih (i + 1) r y υ q _ (by omega) (by omega) (by omega) hy R
        rw [e1] at this
        exact pu_mono this (fun z hz => ⟨hz.1, ag_tr A hz.2.1, hz.2.2⟩)
    · rw [if_neg c, if_neg (fun z => c ((nu_ofeq (by omega) (by omega)).mp z))]
      have e1 : (i + 1) % (m + 1) = i % (m + 1) + 1 := by
        rw [← Nat.mod_add_mod, Nat.mod_eq_of_lt (by omega)]
      simp only [ss_123 s0, pu_bs, fm_againAt R (show r < 1000 by omega), pu_b2s, nl_ar_1]
      refine pu_bind (fm_stp R _) ?_
      rintro υ ⟨A, R⟩
      have s1 := R.1.1
      simp only [sg_611 s1, al_130 s1 (show t < 48 by omega), pu_bs, R.2.2.2 t (by omega)]
      by_cases d : sp_go V G lw (sp_at s n r) h t < x
      · rw [if_pos d, if_neg (fun z => absurd (Int32.lt_of_lt_of_le d z) Int32.lt_irrefl)]
        have := ih (i + 1) (r + 1) 0 υ q _ (by omega) (by omega) (by omega) (Or.inl rfl) R
        rw [e1] at this
        exact pu_mono this (fun z hz => ⟨by rw [hz.1, if_pos rfl]; split <;> rfl, ag_tr A hz.2.1, hz.2.2⟩)
      · rw [if_neg d, if_pos ((Int32.lt_or_le _ _).resolve_left d)]
        have := ih (i + 1) (r + 1) y υ q _ (by omega) (by omega) (by omega) hy R
        rw [e1] at this
        exact pu_mono this (fun z hz => ⟨hz.1, ag_tr A hz.2.1, hz.2.2⟩)
def sp_of (V : sp_V) (G : Nat) (lw : sp_W) (s : Nat → Int32) (n g t : Nat) (x : Int32) (h : sp_H) : Nat → Int32
  | 0 => -2
  | m + 1 => if sp_ab V G lw s n g t (m + 1) x 60 0 0 h = 0 then sp_of V G lw s n g t x h m else Int32.ofNat (m + 1)
theorem lx_often {g t : Nat} {x : Int32} (hg : g < G) (h4 : t < 4) (hv : sp_hw h) : ∀ m σ q, m ≤ 12 → m < q → xk_ σ b ga V G lw → xcm_ σ b G s n → xh_ σ b 12 h → pu_ok (F_X0_often_47 q σ (some b) (Int32.ofNat (10 * g + t)) x (Int32.ofNat m)) (fun z => z.1 = sp_of V G lw s n g t x h m ∧ ag_ b [5, 11] σ z.2) := by
  intro m
  induction m with
  | zero =>
    intro σ q hm hq hx hc H
    obtain ⟨q, rfl⟩ : ∃ z, q = z + 1 := ⟨q - 1, by omega⟩
    unfold F_X0_often_47
    rw [if_pos (by decide)]
    exact pu_ret ⟨rfl, ag_rf _ hx.1⟩
  | succ m ih =>
    intro σ q hm hq hx hc H
    obtain ⟨q, rfl⟩ : ∃ z, q = z + 1 := ⟨q - 1, by omega⟩
    have s0 := hx.1
    have hG := hx.2.1.1
    unfold F_X0_often_47
    rw [if_neg (fun z => by have := (nl_ge_0 (by omega)).mp z; omega)]
    simp only [nl_di_10 (show 10 * g + t < 2147483648 by omega), nl_re_10 (show 10 * g + t < 2147483648 by omega), pu_bs, ss_0 s0, nu_m1]
    rw [show (10 * g + t) / 10 = g by omega, show (10 * g + t) % 10 = t by omega]
    have key : pu_ok (F_X0_staysAbove σ (some b) (Int32.ofNat g) (Int32.ofNat t) x (Int32.ofNat (m + 1))) (fun z => z.1 = sp_ab V G lw s n g t (m + 1) x 60 0 0 h ∧ ag_ b [5, 11] σ z.2) := by
      unfold F_X0_staysAbove
      simp only [sg_19 s0, sg_18 s0, hu_is s0 m17, pu_bs]
      refine pu_bind (fx_beAs s0 m17 m12 (by decide) hv H) ?_
      rintro υ ⟨A2, H2⟩
      exact pu_mono (lx_above hg h4 (by omega) 60 0 0 υ 1000 h (by omega) (by omega) (by omega) ⟨xk_ag A2 (by decide) hx, xcm_ag A2 s0 (by decide) hc, H2, hv⟩) (fun r hr => ⟨hr.1, ag_tr (ag_mo (by decide) A2) hr.2⟩)
    refine pu_b2 key ?_
    rintro v υ ⟨rfl, A⟩
    dsimp only at A
    unfold sp_of
    by_cases c : sp_ab V G lw s n g t (m + 1) x 60 0 0 h = 0
    · rw [if_pos c, if_pos c]
      exact pu_mono (ih υ q (by omega) (by omega) (xk_ag A (by decide) hx) (xcm_ag A s0 (by decide) hc) (xh_ag A s0 m12 (by decide) H)) (fun z hz => ⟨hz.1, ag_tr A hz.2⟩)
    · rw [if_neg c, if_neg c]
      exact pu_ret ⟨rfl, A⟩
theorem lm_often {g t : Nat} {x : Int32} (hg : g < G) (h4 : t < 4) : ∀ m σ q, m ≤ 12 → m < q → mk_ σ b V G lw → mst_ σ b s n → mh_ σ b 130 h → pu_ok (F_X6_often_50 q σ (some (b + 123)) (Int32.ofNat (10 * g + t)) x (Int32.ofNat m)) (fun z => z.1 = sp_of V G lw s n g t x h m ∧ ag_ b [24, 25, 31, 54, 55] σ z.2 ∧ mh_ z.2 b 130 h) := by
  intro m
  induction m with
  | zero =>
    intro σ q hm hq hx hc H
    obtain ⟨q, rfl⟩ : ∃ z, q = z + 1 := ⟨q - 1, by omega⟩
    unfold F_X6_often_50
    rw [if_pos (by decide)]
    exact pu_ret ⟨rfl, ag_rf _ hx.1, H⟩
  | succ m ih =>
    intro σ q hm hq hx hc H
    obtain ⟨q, rfl⟩ : ∃ z, q = z + 1 := ⟨q - 1, by omega⟩
    have s0 := hx.1
    have hG := hx.2.1
    unfold F_X6_often_50
    rw [if_neg (fun z => by have := (nl_gt_1 (by omega)).mp z; omega)]
    simp only [nl_di_10 (show 10 * g + t < 2147483648 by omega), nl_re_10 (show 10 * g + t < 2147483648 by omega), pu_bs, ss_123 s0, nu_m1]
    rw [show (10 * g + t) / 10 = g by omega, show (10 * g + t) % 10 = t by omega]
    have key : pu_ok (F_X6_holds60 σ (some (b + 123)) (Int32.ofNat g) (Int32.ofNat t) (Int32.ofNat (m + 1)) x) (fun z => z.1 = sp_ab V G lw s n g t (m + 1) x 60 0 0 h ∧ ag_ b [24, 25, 31, 54, 55] σ z.2 ∧ mh_ z.2 b 130 h) := by
      unfold F_X6_holds60
      simp only [ss_123 s0, pu_bs]
      refine pu_bind (fm_keepHut s0 H) ?_
      rintro υ ⟨A2, H2⟩
      have := lm_above (k := h) hg h4 (show m + 1 < 100 by omega) (x := x) 60 0 0 1 υ 1000 h (by omega) (by omega) (by omega) (Or.inr rfl) ⟨mk_ag A2 (by decide) hx, mst_ag A2 s0 (by decide) hc, H2, mh_ag A2 s0 (by decide) (by decide) H⟩
      rw [Nat.zero_mod] at this
      exact pu_mono this (fun r hr => ⟨by rw [hr.1, if_neg nu_10n], ag_tr (ag_mo (by decide) A2) (ag_mo (by decide) hr.2.1), hr.2.2⟩)
    refine pu_b2 key ?_
    rintro v υ ⟨rfl, A, HA⟩
    dsimp only at A HA
    unfold sp_of
    by_cases c : sp_ab V G lw s n g t (m + 1) x 60 0 0 h = 0
    · rw [if_pos c, if_pos c]
      exact pu_mono (ih υ q (by omega) (by omega) (mk_ag A (by decide) hx) (mst_ag A s0 (by decide) hc) HA) (fun z hz => ⟨hz.1, ag_tr A hz.2.1, hz.2.2⟩)
    · rw [if_neg c, if_neg c]
      exact pu_ret ⟨rfl, A, HA⟩
theorem qq_often (hw : sw_ hd sz el nb) (hv : sp_hw h) (x1 x2 x3 : Int32) : qq_ b ga ra ba nb kd hd sz el V G lw h (fun σ => F_X0_often σ (some b) x1 x2 x3) (fun σ => F_X6_often σ (some (b + 123)) x1 x2 x3) := by
  by_cases c1 : 0 ≤ x1 ∧ x1 ≤ 5
  rotate_left
  · refine ⟨-1, fun σ hq => ?_, fun σ hq => ?_⟩
    · simp only [F_X0_often, fx_isShelf, ra_n c1, pu_b2s, if_true]; exact pu_ret ⟨rfl, ag_rf _ hq.1.1⟩
    · simp only [F_X6_often, fm_isShelf, ra_n c1, pu_b2s, if_true]; exact pu_ret ⟨rfl, ag_rf _ hq.1.1, hq.2.2⟩
  by_cases c2 : ∃ g t, x2 = Int32.ofNat (10 * g + t) ∧ g < G ∧ t < 4
  rotate_left
  · refine ⟨-1, fun σ hq => ?_, fun σ hq => ?_⟩
    · have s0 := hq.1.1
      simp only [F_X0_often, fx_isShelf, ra_p c1, nu_10, if_false, pu_b2s, if_true, ss_0 s0, pu_bs, fx_gtN s0 hq.1.2.1 c2]; exact pu_ret ⟨rfl, ag_rf _ hq.1.1⟩
    · have s0 := hq.1.1
      simp only [F_X6_often, fm_isShelf, ra_p c1, nu_10, if_false, pu_b2s, if_true, ss_123 s0, pu_bs, fm_gtN s0 hq.1.2.2.1 hq.1.2.1 c2]; exact pu_ret ⟨rfl, ag_rf _ hq.1.1, hq.2.2⟩
  obtain ⟨g, t, rfl, hg, h4⟩ := c2
  by_cases c3 : 0 ≤ x3 ∧ x3 ≤ 99
  rotate_left
  · refine ⟨-1, fun σ hq => ?_, fun σ hq => ?_⟩
    · have s0 := hq.1.1
      simp only [F_X0_often, fx_isShelf, ra_p c1, nu_10, if_false, pu_b2s, if_true, ss_0 s0, pu_bs, fx_gtP s0 hq.1.2.1 hg h4, fx_w99, ra_n c3]; exact pu_ret ⟨rfl, ag_rf _ hq.1.1⟩
    · have s0 := hq.1.1
      simp only [F_X6_often, fm_isShelf, ra_p c1, nu_10, if_false, pu_b2s, if_true, ss_123 s0, pu_bs, fm_gtP s0 hq.1.2.2.1 hq.1.2.1 hg h4, fm_in_, ra_n c3]; exact pu_ret ⟨rfl, ag_rf _ hq.1.1, hq.2.2⟩
  obtain ⟨d, rfl, h6⟩ := nu_natb (m := 5) c1.1 (by decide) c1.2
  have h6 : d < 6 := by omega
  have hz := (hw d h6).1
  by_cases e2 : hd d = -2
  rotate_left
  · refine ⟨sp_rf hd d, fun σ hq => ?_, fun σ hq => ?_⟩
    · have s0 := hq.1.1
      simp only [F_X0_often, fx_isShelf, ra_p c1, nu_10, if_false, pu_b2s, ss_0 s0, pu_bs, fx_gtP s0 hq.1.2.1 hg h4, fx_w99, ra_p c3, fx_takesN hq.1 hq.2.1 hq.2.2.1 hw h6 e2, if_neg (rf_n e2).2.2, fx_lookAt s0 hq.2.1 hq.2.2.1 hw h6]; exact pu_ret ⟨rfl, ag_rf _ s0⟩
    · have s0 := hq.1.1
      simp only [F_X6_often, fm_isShelf, ra_p c1, nu_10, if_false, pu_b2s, ss_123 s0, pu_bs, fm_gtP s0 hq.1.2.2.1 hq.1.2.1 hg h4, fm_in_, ra_p c3, fm_rowFault s0 hq.2.1 h6, if_neg (rf_n e2).2.2]; exact pu_ret ⟨rfl, ag_rf _ s0, hq.2.2⟩
  refine ⟨sp_of V G lw (fun i => (el d i).toInt32) (min (sz d) 30) g t x3 h 12, fun σ hq => ?_, fun σ hq => ?_⟩
  · have s0 := hq.1.1
    simp only [F_X0_often, fx_isShelf, ra_p c1, nu_10, if_false, pu_b2s, ss_0 s0, pu_bs, fx_gtP s0 hq.1.2.1 hg h4, fx_w99, ra_p c3]
    refine pu_b2 (fx_takes hq.1 hq.2.1 hq.2.2.1 hw h6 e2) ?_
    rintro v τ ⟨rfl, A1, C1⟩
    dsimp only at A1 C1
    have sτ := ag_sk A1
    rw [if_pos (by decide)]
    exact pu_mono (lx_often hg h4 hv 12 τ 1000 (by omega) (by omega) (xk_ag A1 (by decide) hq.1) C1 (xh_ag A1 hq.1.1 m12 (by decide) hq.2.2.2)) (fun r hr => ⟨hr.1, ag_tr (ag_mo (by decide) A1) (ag_mo (by decide) hr.2)⟩)
  · have s0 := hq.1.1
    simp only [F_X6_often, fm_isShelf, ra_p c1, nu_10, if_false, pu_b2s, ss_123 s0, pu_bs, fm_gtP s0 hq.1.2.2.1 hq.1.2.1 hg h4, fm_in_, ra_p c3, fm_rowFault s0 hq.2.1 h6, rf_0 e2]
    rw [if_pos (by decide)]
    refine pu_bind (fm_layStays hq.1.1 hq.2.1 (hw d h6).1 h6) ?_
    rintro τ ⟨A1, C1⟩
    have sτ := ag_sk A1
    exact pu_mono (lm_often hg h4 12 τ 1000 (by omega) (by omega) (mk_ag A1 (by decide) hq.1) C1 (mh_ag A1 hq.1.1 (by decide) (by decide) hq.2.2)) (fun r hr => ⟨hr.1, ag_tr (ag_mo (by decide) A1) (ag_mo (by decide) hr.2.1), hr.2.2⟩)
end
