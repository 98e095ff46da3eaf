/-! ===== questions: drawn, judge ===== -/
theorem nu_u32 (u : UInt32) : u.toInt32 = Int32.ofNat u.toNat := by
  apply Int32.toBitVec.inj
  apply BitVec.eq_of_toNat_eq
  simp
theorem nu_shr (y : Int32) : ∃ w, ((y.toUInt32 >>> ((8 : Int32).toUInt32 &&& Int32.toUInt32 31)).toInt32) = Int32.ofNat w ∧ w < 16777216 := by
  refine ⟨_, nu_u32 _, ?_⟩
  rw [show ((8 : Int32).toUInt32 &&& Int32.toUInt32 31) = 8 from rfl, UInt32.toNat_shiftRight]
  have := y.toUInt32.toNat_lt
  rw [show (8 : UInt32).toNat % 32 = 8 from rfl, Nat.shiftRight_eq_div_pow]
  omega
section
variable {σ : ah_S} {b nb G : Nat} {ga ra ba kd : Nat → Nat} {hd : Nat → Int32} {sz : Nat → Nat} {el : sp_E} {V : sp_V} {lw : sp_W} {h : sp_H} {s : Nat → Int32} {n : Nat}
def sp_z (z : Int32) : Int32 := (z * (1103515245 : Int32)) + (12345 : Int32)
def sp_zg (G : Nat) (z : Int32) : Int32 := ((z.toUInt32 >>> ((8 : Int32).toUInt32 &&& Int32.toUInt32 31)).toInt32) - ((z.toUInt32 >>> ((8 : Int32).toUInt32 &&& Int32.toUInt32 31)).toInt32) / (Int32.ofNat G + 1) * (Int32.ofNat G + 1)
theorem sp_zg_r (hG : G ≤ 7) (z : Int32) : ah_re ((z.toUInt32 >>> ((8 : Int32).toUInt32 &&& Int32.toUInt32 31)).toInt32) (Int32.ofNat G + 1) = some (sp_zg G z) ∧ ∃ g, sp_zg G z = Int32.ofNat g ∧ g ≤ G := by
  obtain ⟨w, e, hw⟩ := nu_shr z
  unfold sp_zg
  rw [e, nu_of1, nu_re (by omega) (by omega) (by omega), nu_rem (by omega) (by omega)]
  exact ⟨rfl, w % (G + 1), rfl, by have := Nat.mod_lt w (show 0 < G + 1 by omega); omega⟩
def sp_dr (V : sp_V) (G : Nat) (lw : sp_W) (w : Int32) : Nat → Int32 → sp_H → Int32 → Int32 → Int32
  | 0, _, _, x, y => if w = 0 then x else y
  | j + 1, z, h, x, y => sp_dr V G lw w j (sp_z z) (sp_go V G lw (sp_zg G (sp_z z)) h) (x + sp_ls V (sp_go V G lw (sp_zg G (sp_z z)) h)) (if sp_go V G lw (sp_zg G (sp_z z)) h 0 < y then sp_go V G lw (sp_zg G (sp_z z)) h 0 else y)
theorem lx_dr99 {K : ah_S → Option Nat → Int32 → Int32 → Int32 → Int32 → Int32 → Int32 → Option (Int32 × ah_S)} {Q : Int32 × ah_S → Prop} {x2 x3 x4 x5 x6 x7 : Int32} (y : Int32) (hx : xk_ σ b ga V G lw) (H : xh_ σ b 17 h) (hv : sp_hw h) (hK : ∀ υ, ag_ b [5, 11] σ υ → xk_ υ b ga V G lw → xh_ υ b 17 (sp_go V G lw y h) → pu_ok (K υ (some b) x2 x3 x4 (x5 + sp_ls V (sp_go V G lw y h)) (if sp_go V G lw y h 0 < x6 then sp_go V G lw y h 0 else x6) (x7 + 1)) Q) : pu_ok (F_X0_drawn_99 K σ (some b) x2 x3 x4 x5 x6 x7 (some (b + 17)) (sp_c G y)) Q := by
  have s0 := hx.1
  have hG := hx.2.1.1
  unfold F_X0_drawn_99
  rw [hu_is s0 m17, pu_bs]
  refine pu_bind (fx_go y s0 hx.2.1 hx.2.2.1 hx.2.2.2 m17 hv H) ?_
  rintro υ ⟨A, H1⟩
  have A : ag_ b [5, 11] σ υ := A
  have hx1 := xk_ag A (by decide) hx
  have s1 := hx1.1
  have hv1 := sp_hwg (x := y) (lw := lw) hx.2.2.2 hG hv
  have el : ah_lA υ 101 (some (b + (17 + 1))) 0 = some (ah_ai υ (b + (17 + 1)) 0) := hu_l1 (j := 0) s1 m17 (by decide)
  simp only [sg_19 s1, hu_is s1 m17, pu_bs, fx_loss s1 hx1.2.1 hx1.2.2.2 m17 hv1 H1, pu_b2s, hu_400 s1 m17, el, H1.1 0 (by decide)]
  exact hK υ A hx1 H1
theorem lx_drawn {k : Nat} {w : Int32} (hk : k ≤ 60) : ∀ j i σ q h z x y, i + j = k → j < q → xk_ σ b ga V G lw → xh_ σ b 17 h → sp_hw h → pu_ok (F_X0_drawn_48 q σ (some b) (Int32.ofNat k) w z x y (Int32.ofNat i)) (fun r => r.1 = sp_dr V G lw w j z h x y ∧ ag_ b [5, 11] σ r.2) := by
  intro j
  induction j with
  | zero =>
    intro i σ q h z x y hi hq hx H hv
    obtain ⟨q, rfl⟩ : ∃ z, q = z + 1 := ⟨q - 1, by omega⟩
    unfold F_X0_drawn_48 sp_dr
    rw [if_pos ((nu_ofle (by omega) (by omega)).mpr (by omega))]
    by_cases c : w = 0
    · rw [if_pos c, if_pos c]; exact pu_ret ⟨rfl, ag_rf _ hx.1⟩
    · rw [if_neg c, if_neg c]; exact pu_ret ⟨rfl, ag_rf _ hx.1⟩
  | succ j ih =>
    intro i σ q h z x y hi hq hx H hv
    obtain ⟨q, rfl⟩ : ∃ z, q = z + 1 := ⟨q - 1, by omega⟩
    have s0 := hx.1
    have hG := hx.2.1.1
    obtain ⟨e1, g, e2, hg⟩ := sp_zg_r (G := G) hG (sp_z z)
    unfold F_X0_drawn_48 sp_dr
    rw [if_neg (fun q => by have := (nu_ofle (by omega) (by omega)).mp q; omega)]
    have ez : (z * (1103515245 : Int32)) + (12345 : Int32) = sp_z z := rfl
    rw [ez]
    generalize sp_z z = z' at *
    rw [si_8 s0, pu_bs, hx.2.1.2.1, e1, pu_bs, sg_19 s0, pu_bs, pu_bs]
    have key : pu_ok (F_X0_drawn_99 (F_X0_drawn_48 q) σ (some b) (Int32.ofNat k) w z' x y (Int32.ofNat i) (some (b + 17)) (sp_c G (sp_zg G z'))) (fun r => r.1 = sp_dr V G lw w j z' (sp_go V G lw (sp_zg G z') h) (x + sp_ls V (sp_go V G lw (sp_zg G z') h)) (if sp_go V G lw (sp_zg G z') h 0 < y then sp_go V G lw (sp_zg G z') h 0 else y) ∧ ag_ b [5, 11] σ r.2) := by
      refine lx_dr99 (sp_zg G z') hx H hv (fun υ A hx1 H1 => ?_)
      rw [nl_ar_1]
      exact pu_mono (ih (i + 1) υ q _ _ _ _ (by omega) (by omega) hx1 H1 (sp_hwg hx.2.2.2 hG hv)) (fun r hr => ⟨hr.1, ag_tr A hr.2⟩)
    by_cases c : g = G
    · rw [if_pos (by rw [e2, c])]
      have this : sp_c G (sp_zg G z') = -1 := by
        unfold sp_c
        rw [if_neg]
        rw [e2, c]
        exact fun q => absurd q.2 Int32.lt_irrefl
      rw [this] at key
      exact key
    · rw [if_neg (by rw [e2]; exact fun q => c ((nu_ofeq (by omega) (by omega)).mp q))]
      have this : sp_c G (sp_zg G z') = sp_zg G z' := by
        rw [e2]; exact sp_cg hG (by omega)
      rw [this] at key
      exact key
theorem lm_drawn {k : Nat} {w : Int32} {kh : sp_H} (hk : k ≤ 60) : ∀ j i σ q h z x y, i + j = k → j < q → mk_ σ b V G lw → mh_ σ b 145 kh → mh_ σ b 130 h → pu_ok (F_X6_drawn_38 q σ (some (b + 123)) (Int32.ofNat k) w z x y (Int32.ofNat i)) (fun r => r.1 = sp_dr V G lw w j z h x y ∧ ag_ b [24, 25, 54, 55] σ r.2 ∧ mh_ r.2 b 130 kh) := by
  intro j
  induction j with
  | zero =>
    intro i σ q h z x y hi hq hx K H
    obtain ⟨q, rfl⟩ : ∃ z, q = z + 1 := ⟨q - 1, by omega⟩
    unfold F_X6_drawn_38 sp_dr
    rw [if_pos ((nu_ofle (by omega) (by omega)).mpr (by omega)), ss_123 hx.1, pu_bs]
    refine pu_bind (fm_layHut hx.1 K) (fun τ hτ => ?_)
    by_cases c : w = 0
    · rw [if_pos c, if_pos c]; exact pu_ret ⟨rfl, ag_mo (by decide) hτ.1, hτ.2⟩
    · rw [if_neg c, if_neg c]; exact pu_ret ⟨rfl, ag_mo (by decide) hτ.1, hτ.2⟩
  | succ j ih =>
    intro i σ q h z x y hi hq hx K H
    obtain ⟨q, rfl⟩ : ∃ z, q = z + 1 := ⟨q - 1, by omega⟩
    have s0 := hx.1
    have hG := hx.2.1
    obtain ⟨e1, g, e2, hg⟩ := sp_zg_r (G := G) hG (sp_z z)
    unfold F_X6_drawn_38 sp_dr
    rw [if_neg (fun q => by have := (nu_ofle (by omega) (by omega)).mp q; omega)]
    have ez : (z * (1103515245 : Int32)) + (12345 : Int32) = sp_z z := rfl
    simp only [ez]
    generalize sp_z z = z' at *
    simp only [si_603 s0, pu_bs, hx.2.2.1.1, e1, ss_123 s0]
    refine pu_bind (fm_go _ s0 hG hx.2.2.1 hx.2.2.2 H) ?_
    rintro υ ⟨A, H1⟩
    have hx1 := mk_ag A (by decide) hx
    have s1 := hx1.1
    have K1 := mh_ag A s0 (by decide) (by decide) K
    simp only [ss_123 s1, pu_bs, fm_loss s1 hx1.2.2.1 H1, pu_b2s, sg_611 s1]
    rw [show ah_lA υ 101 (some (b + 130)) 0 = some (ah_ai υ (b + 130) 0) from al_130 (j := 0) s1 (by decide), pu_bs, H1 0 (by decide), nl_ar_1, pu_bs]
    by_cases c : sp_go V G lw (sp_zg G z') h 0 < y
    · rw [if_pos c, if_neg (fun q => absurd (Int32.lt_of_lt_of_le c q) Int32.lt_irrefl)]
      exact pu_mono (ih (i + 1) υ q _ _ _ _ (by omega) (by omega) hx1 K1 H1) (fun r hr => ⟨hr.1, ag_tr A hr.2.1, hr.2.2⟩)
    · rw [if_neg c, if_pos ((Int32.lt_or_le _ _).resolve_left c)]
      exact pu_mono (ih (i + 1) υ q _ _ _ _ (by omega) (by omega) hx1 K1 H1) (fun r hr => ⟨hr.1, ag_tr A hr.2.1, hr.2.2⟩)
theorem qq_drawn (hw : sw_ hd sz el nb) (hv : sp_hw h) (x1 x2 x3 : Int32) : qq_ b ga ra ba nb kd hd sz el V G lw h (fun σ => F_X0_drawn σ (some b) x1 x2 x3) (fun σ => F_X6_drawn σ (some (b + 123)) x1 x2 x3) := by
  by_cases c1 : 1 ≤ x2 ∧ x2 ≤ 60
  rotate_left
  · refine ⟨-1, fun σ hq => ?_, fun σ hq => ?_⟩
    · simp only [F_X0_drawn, fx_w160, ra_n c1, pu_b2s, if_true]; exact pu_ret ⟨rfl, ag_rf _ hq.1.1⟩
    · simp only [F_X6_drawn, fm_in_, ra_n c1, pu_b2s, if_true]; exact pu_ret ⟨rfl, ag_rf _ hq.1.1, hq.2.2⟩
  by_cases c2 : 0 ≤ x3 ∧ x3 ≤ 1
  rotate_left
  · refine ⟨-1, fun σ hq => ?_, fun σ hq => ?_⟩
    · simp only [F_X0_drawn, fx_w160, fx_w1, ra_p c1, ra_n c2, nu_10, if_false, pu_b2s, if_true]; exact pu_ret ⟨rfl, ag_rf _ hq.1.1⟩
    · simp only [F_X6_drawn, fm_in_, ra_p c1, ra_n c2, nu_10, if_false, pu_b2s, if_true]; exact pu_ret ⟨rfl, ag_rf _ hq.1.1, hq.2.2⟩
  obtain ⟨k, rfl, hk⟩ := nu_natb (m := 60) (Int32.le_trans (by decide) c1.1) (by decide) c1.2
  refine ⟨sp_dr V G lw x3 k x1 h 0 99, fun σ hq => ?_, fun σ hq => ?_⟩
  · have s0 := hq.1.1
    simp only [F_X0_drawn, fx_w160, fx_w1, ra_p c1, ra_p c2, nu_10, if_false, pu_b2s, sg_19 s0, sg_18 s0, hu_is s0 m17, pu_bs]
    refine pu_bind (fx_beAs s0 m17 m12 (by decide) hv hq.2.2.2) ?_
    rintro υ ⟨A2, H2⟩
    exact pu_mono (lx_drawn hk k 0 υ 1000 h _ _ _ (by omega) (by omega) (xk_ag A2 (by decide) hq.1) H2 hv) (fun r hr => ⟨hr.1, ag_tr (ag_mo (by decide) A2) (ag_mo (by decide) hr.2)⟩)
  · have s0 := hq.1.1
    simp only [F_X6_drawn, fm_in_, ra_p c1, ra_p c2, nu_10, if_false, pu_b2s, ss_123 s0, pu_bs]
    refine pu_bind (fm_keepHut s0 hq.2.2) ?_
    rintro υ ⟨A2, H2⟩
    exact pu_mono (lm_drawn hk k 0 υ 1000 h _ _ _ (by omega) (by omega) (mk_ag A2 (by decide) hq.1) H2 (mh_ag A2 s0 (by decide) (by decide) hq.2.2)) (fun r hr => ⟨hr.1, ag_tr (ag_mo (by decide) A2) (ag_mo (by decide) hr.2.1), hr.2.2⟩)
/-! judge -/
def mse_ (σ : ah_S) (b : Nat) (s : Nat → Int32) (n : Nat) : Prop := ah_fi σ 644 (b + 123) = Int32.ofNat n ∧ n ≤ 60 ∧ ∀ k, k < n → ah_ai σ (b + 152) k = s k
theorem mse_ag {L : List Nat} {τ : ah_S} (A : ag_ b L σ τ) (h0 : sk_ok σ b) (hl : 38 ∉ L) (H : mse_ σ b s n) : mse_ τ b s n := ⟨by rw [ag_fi A h0 (by decide) (by decide) (by exact hl)]; exact H.1, H.2.1, fun k hk => by rw [ag_ai A h0 (by decide) (by exact hl)]; exact H.2.2 k hk⟩
theorem fm_seen12 {ρ : ah_S} {d : Nat} (hs : ms_ ρ b hd sz el) (h0 : sk_ok ρ b) (h6 : d < 6) (hn : n ≤ 60) : ∀ m k σ q, k + m = n → m < q → ag_ b [38] ρ σ → ah_fi σ 644 (b + 123) = Int32.ofNat n → (∀ j, j < k → ah_ai σ (b + 152) j = (el d j).toInt32) → pu_ok (F_X6_laySeen_12 q σ (some (b + 123)) (Int32.ofNat d) (Int32.ofNat k)) (fun τ => ag_ b [38] ρ τ ∧ mse_ τ b (fun i => (el d i).toInt32) n) := by
  intro m
  induction m with
  | zero =>
    intro k σ q hk hq A i1 i2
    obtain ⟨q, rfl⟩ : ∃ z, q = z + 1 := ⟨q - 1, by omega⟩
    have s0 := ag_sk A
    unfold F_X6_laySeen_12
    rw [si_644 s0, pu_bs, i1, if_pos (by rw [nu_ofle (by omega) (by omega)]; omega)]
    exact pu_ret ⟨A, i1, hn, fun j hj => i2 j (by omega)⟩
  | succ m ih =>
    intro k σ q hk hq A i1 i2
    obtain ⟨q, rfl⟩ : ∃ z, q = z + 1 := ⟨q - 1, by omega⟩
    have s0 := ag_sk A
    have hsσ := ms_ag A h0 (by decide) hs
    unfold F_X6_laySeen_12
    rw [si_644 s0, pu_bs, i1, if_neg (by rw [nu_ofle (by omega) (by omega)]; omega)]
    simp only [sg_643 s0, sg_658 s0, pu_bs, nl_mu_60, nl_aa, al_161 s0 (show 60 * d + k < 360 by omega), (hsσ d h6).2.2 k (by omega), aw_152 s0 (show k < 60 by omega), nl_ar_1]
    refine ih (k + 1) _ q (by omega) (by omega) (ag_wA A (fun _ => lb_sc (by decide) rfl (by decide))) i1 (fun j hj => ?_)
    rw [rw_ai_sA, if_pos rfl]
    by_cases z : j = k
    · rw [if_pos z, z]
    · rw [if_neg z]; exact i2 j (by omega)
theorem fm_laySeen {d : Nat} (h0 : sk_ok σ b) (hs : ms_ σ b hd sz el) (hz : sz d ≤ 60) (h6 : d < 6) : pu_ok (F_X6_laySeen σ (some (b + 123)) (Int32.ofNat d)) (fun τ => ag_ b [38] σ τ ∧ mse_ τ b (fun i => (el d i).toInt32) (sz d)) := by
  unfold F_X6_laySeen
  simp only [sg_657 h0, pu_bs, al_160 h0 h6, (hs d h6).2.1, sp_644 h0]
  exact fm_seen12 hs h0 h6 hz (sz d) 0 _ 1000 (by omega) (by omega) (ag_wI (ag_rf _ h0) (fun _ => lb_fo (by decide) rfl (by decide))) (by rw [rw_fi_sI, if_pos rfl, if_pos rfl]) (fun j hj => absurd hj (Nat.not_lt_zero _))
def sp_ju (V : sp_V) (G : Nat) (lw : sp_W) (s u : Nat → Int32) (t : Nat) : Nat → Nat → sp_H → Int32
  | 0, _, _ => -2
  | m + 1, i, h => if u i = -1 then sp_ju V G lw s u t m (i + 1) (sp_go V G lw (s i) h) else if u i = sp_go V G lw (s i) h t then sp_ju V G lw s u t m (i + 1) (sp_go V G lw (s i) h) else Int32.ofNat i
theorem lx_judge {t a N : Nat} {e : Nat → Int64} (h4 : t < 4) (hN : N ≤ 60) : ∀ m i σ q h, i + m = min n N → m < q → rx_ σ b ga V G lw s n h → xr_ σ b a 0 N e → pu_ok (F_X0_judge_128 q σ (some b) (Int32.ofNat t) (some a) (Int32.ofNat i)) (fun r => r.1 = sp_ju V G lw s (fun i => (e i).toInt32) t m i h ∧ ag_ b [5, 11] σ r.2) := by
  intro m
  induction m with
  | zero =>
    intro i σ q h hi hq R hr
    obtain ⟨q, rfl⟩ : ∃ z, q = z + 1 := ⟨q - 1, by omega⟩
    have s0 := R.1.1
    have hn := R.2.1.2.1
    have el : ah_al_ σ (some a) = some (Int32.ofNat N) := by
      show (if ((decide (101 ≤ ah_tg σ a) && decide (ah_tg σ a ≤ 105)) || (decide (111 ≤ ah_tg σ a) && decide (ah_tg σ a ≤ 116))) = true then some (Int32.ofNat (ah_ln σ a)) else none) = _
      rw [show ah_tg σ a = 102 from hr.2.2.1, hr.2.2.2.1]; rfl
    unfold F_X0_judge_128
    simp only [si_21 s0, pu_bs, R.2.1.1, el]
    by_cases c : n ≤ i
    · rw [if_pos ((nu_ofle (by omega) (by omega)).mpr c)]; exact pu_ret ⟨rfl, ag_rf _ s0⟩
    · rw [if_neg (fun z => c ((nu_ofle (by omega) (by omega)).mp z)), if_pos ((nu_ofle (by omega) (by omega)).mpr (by omega))]; exact pu_ret ⟨rfl, ag_rf _ s0⟩
  | succ m ih =>
    intro i σ q h hi hq R hr
    obtain ⟨q, rfl⟩ : ∃ z, q = z + 1 := ⟨q - 1, by omega⟩
    have s0 := R.1.1
    have hn := R.2.1.2.1
    have el : ah_al_ σ (some a) = some (Int32.ofNat N) := by
      show (if ((decide (101 ≤ ah_tg σ a) && decide (ah_tg σ a ≤ 105)) || (decide (111 ≤ ah_tg σ a) && decide (ah_tg σ a ≤ 116))) = true then some (Int32.ofNat (ah_ln σ a)) else none) = _
      rw [show ah_tg σ a = 102 from hr.2.2.1, hr.2.2.2.1]; rfl
    unfold F_X0_judge_128 sp_ju
    simp only [si_21 s0, pu_bs, R.2.1.1, el]
    rw [if_neg (fun z => by have := (nu_ofle (by omega) (by omega)).mp z; omega), if_neg (fun z => by have := (nu_ofle (by omega) (by omega)).mp z; omega)]
    simp only [sg_19 s0, sg_20 s0, hu_is s0 m17, al_22 s0 (show i < 30 by omega), R.2.1.2.2 i (by omega), pu_bs, nl_ar_1]
    refine pu_bind (fx_stp R _) ?_
    rintro υ ⟨A, R⟩
    have s1 := R.1.1
    have hr1 := xr_ag A (by decide) hr
    have e1 : ah_lA υ 102 (some a) (Int32.ofNat i) = some ((e i).toInt32) := by rw [dy_lA (show ah_tg υ a = 102 from hr1.2.2.1) hr1.2.2.2.1 (by omega) (by omega), hr1.2.2.2.2.1 (by decide) i (by omega)]
    simp only [e1, pu_bs, sg_19 s1, hu_400 s1 m17, hu_l1 s1 m17 h4, R.2.2.1.1 t h4]
    by_cases c : (e i).toInt32 = -1
    · rw [if_pos c, if_pos c]
      exact pu_mono (ih (i + 1) υ q _ (by omega) (by omega) R hr1) (fun r hr => ⟨hr.1, ag_tr A hr.2⟩)
    · rw [if_neg c, if_neg c]
      by_cases c : (e i).toInt32 = sp_go V G lw (s i) h t
      · rw [if_pos c, if_pos c]
        exact pu_mono (ih (i + 1) υ q _ (by omega) (by omega) R hr1) (fun r hr => ⟨hr.1, ag_tr A hr.2⟩)
      · rw [if_neg c, if_neg c]
        exact pu_ret ⟨rfl, A⟩
theorem lm_judge1 {k : sp_H} {t i : Nat} (hi : i < 30) (q : Nat) (j : Int32) (R : rm_ σ b V G lw s n k h) : pu_ok (F_X6_judge_113 (q + 1) σ (some (b + 123)) (Int32.ofNat t) (Int32.ofNat i) j) (fun r => r.1 = Int32.ofNat i ∧ ag_ b [24, 25, 54, 55] σ r.2 ∧ mh_ r.2 b 130 k) := by
  have s0 := R.1.1
  unfold F_X6_judge_113
  simp only [si_636 s0, si_644 s0, pu_bs, ss_123 s0, if_pos (show (0 : Int32) ≤ Int32.ofNat i from (nl_le_0 (by omega)).mpr (by omega))]
  split
  · exact fm_end R _
  · split
    · exact fm_end R _
    · exact fm_end R _
theorem lm_judge {k : sp_H} {t N : Nat} {u : Nat → Int32} (h4 : t < 4) : ∀ m i σ q h, i + m = min n N → m < q → rm_ σ b V G lw s n k h → mse_ σ b u N → pu_ok (F_X6_judge_113 q σ (some (b + 123)) (Int32.ofNat t) (-2) (Int32.ofNat i)) (fun r => r.1 = sp_ju V G lw s u t m i h ∧ ag_ b [24, 25, 54, 55] σ r.2 ∧ mh_ r.2 b 130 k) := by
  intro m
  induction m with
  | zero =>
    intro i σ q h hi hq R hs
    obtain ⟨q, rfl⟩ : ∃ z, q = z + 1 := ⟨q - 1, by omega⟩
    have s0 := R.1.1
    have hn := R.2.1.2.1
    have hN := hs.2.1
    unfold F_X6_judge_113
    simp only [si_636 s0, si_644 s0, pu_bs, R.2.1.1, hs.1, ss_123 s0]
    by_cases c : n ≤ i
    · rw [if_pos ((nu_ofle (by omega) (by omega)).mpr c)]; exact fm_end R _
    · rw [if_neg (fun z => c ((nu_ofle (by omega) (by omega)).mp z)), if_pos ((nu_ofle (by omega) (by omega)).mpr (by omega))]; exact fm_end R _
  | succ m ih =>
    intro i σ q h hi hq R hs
    obtain ⟨q, rfl⟩ : ∃ z, q = z + 1 := ⟨q - 1, by omega⟩
    have s0 := R.1.1
    have hn := R.2.1.2.1
    have hN := hs.2.1
    unfold F_X6_judge_113 sp_ju
    simp only [si_636 s0, si_644 s0, pu_bs, R.2.1.1, hs.1]
    rw [if_neg (fun z => by have := (nu_ofle (by omega) (by omega)).mp z; omega), if_neg (fun z => by have := (nu_ofle (by omega) (by omega)).mp z; omega), if_neg (by decide)]
    simp only [sg_635 s0, ss_123 s0, al_146 s0 (show i < 30 by omega), R.2.1.2.2 i (by omega), pu_bs, nl_ar_1]
    refine pu_bind (fm_stp R _) ?_
    rintro υ ⟨A, R⟩
    have s1 := R.1.1
    have hs1 := mse_ag A s0 (by decide) hs
    simp only [sg_643 s1, sg_611 s1, pu_bs, al_152 s1 (show i < 60 by omega), hs1.2.2 i (by omega), al_130 s1 (show t < 48 by omega), R.2.2.2 t (by omega)]
    by_cases c : u i = -1
    · rw [if_pos c, if_pos c]
      exact pu_mono (ih (i + 1) υ q _ (by omega) (by omega) R hs1) (fun r hr => ⟨hr.1, ag_tr A hr.2.1, hr.2.2⟩)
    · rw [if_neg c, if_neg c]
      by_cases c : u i = sp_go V G lw (s i) h t
      · rw [if_pos c, if_pos c]
        exact pu_mono (ih (i + 1) υ q _ (by omega) (by omega) R hs1) (fun r hr => ⟨hr.1, ag_tr A hr.2.1, hr.2.2⟩)
      · rw [if_neg c, if_neg c]
        obtain ⟨q, rfl⟩ : ∃ z, q = z + 1 := ⟨q - 1, by omega⟩
        exact pu_mono (lm_judge1 (by omega) q _ R) (fun r hr => ⟨hr.1, ag_tr A hr.2.1, hr.2.2⟩)
end
