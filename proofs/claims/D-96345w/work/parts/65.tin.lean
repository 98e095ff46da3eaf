/-! ===== a tin ===== -/
theorem nl_of {n : Nat} (h : n < 2147483648) : (Int32.ofNat n).toInt64 = Int64.ofNat n := by
  apply Int64.toInt_inj.mp
  rw [Int32.toInt_toInt64, nu_of h, Int64.toInt_ofNat_of_lt (by omega)]
theorem nl_eq0 {n : Nat} (h : n < 9223372036854775808) : Int64.ofNat n = 0 ↔ n = 0 := by
  rw [← Int64.toInt_inj, Int64.toInt_ofNat_of_lt (by omega)]
  have : (0 : Int64).toInt = 0 := rfl
  omega
theorem nl_di64 {a b : Nat} (ha : a < 9223372036854775808) (hb : b < 9223372036854775808) (h0 : 0 < b) : ah_ldi (Int64.ofNat a) (Int64.ofNat b) = some (Int64.ofNat (a / b)) := by
  unfold ah_ldi
  rw [if_neg (fun q => by have := (nl_eq0 hb).mp q; omega), Int64.ofNat_div ha hb]
theorem nl_re64 {a b : Nat} (ha : a < 9223372036854775808) (hb : b < 9223372036854775808) (h0 : 0 < b) : ah_lre (Int64.ofNat a) (Int64.ofNat b) = some (Int64.ofNat (a % b)) := by
  unfold ah_lre
  rw [if_neg (fun q => by have := (nl_eq0 hb).mp q; omega), ← Int64.ofNat_div ha hb, ← Int64.ofNat_mul, ← Int64.ofNat_sub _ _ (Nat.div_mul_le_self a b)]
  congr 2
  have := Nat.div_add_mod a b
  rw [Nat.mul_comm] at this
  omega
theorem gc_st (x y : Nat) : Nat.gcd y (x % y) = Nat.gcd x y := by
  rw [Nat.gcd_comm x y, Nat.gcd_rec y x, Nat.gcd_comm]
theorem fx_common {σ : ah_S} : ∀ d x y, y < d → x < 1000000000 → y < 1000000000 → Z_X0_common d σ (Int64.ofNat x) (Int64.ofNat y) = some (Int64.ofNat (Nat.gcd x y), σ) := by
  intro d
  induction d with
  | zero => intro x y h; omega
  | succ d ih =>
    intro x y hd hx hy
    show F_X0_common (Z_X0_common d) σ (Int64.ofNat x) (Int64.ofNat y) = _
    unfold F_X0_common
    simp only [nu_cmp_eq]
    by_cases c : y = 0
    · rw [if_pos ((nl_eq0 (by omega)).mpr c), c, Nat.gcd_zero_right]
    · have := Nat.mod_lt x (show 0 < y by omega)
      rw [if_neg (fun q => c ((nl_eq0 (by omega)).mp q)), nl_re64 (by omega) (by omega) (by omega), pu_bs, ih y (x % y) (by omega) (by omega) (by omega), pu_b2s, gc_st]
theorem fm_part6 {σ : ah_S} {l0 l2 : Int64} {w : Int32} : ∀ d x y, y < d → x < 1000000000 → y < 1000000000 → F_X6_asPart_6 d σ l0 l2 w (Int64.ofNat x) (Int64.ofNat y) = if w = 0 then (ah_ldi l0 (Int64.ofNat (Nat.gcd x y))).bind fun q => some (q, σ) else (ah_ldi l2 (Int64.ofNat (Nat.gcd x y))).bind fun q => some (q, σ) := by
  intro d
  induction d with
  | zero => intro x y h; omega
  | succ d ih =>
    intro x y hd hx hy
    unfold F_X6_asPart_6
    simp only [nu_cmp_eq]
    by_cases c : y = 0
    · rw [if_pos ((nl_eq0 (by omega)).mpr c), c, Nat.gcd_zero_right]
    · have := Nat.mod_lt x (show 0 < y by omega)
      rw [if_neg (fun q => c ((nl_eq0 (by omega)).mp q)), nl_re64 (by omega) (by omega) (by omega), pu_bs, ih y (x % y) (by omega) (by omega) (by omega), gc_st]
def pt_ (A : Nat) (w : Int32) : Int64 := if w = 0 then Int64.ofNat (A / Nat.gcd A 12) else Int64.ofNat (12 / Nat.gcd A 12)
theorem gc_pos (A : Nat) : 0 < Nat.gcd A 12 ∧ Nat.gcd A 12 ≤ 12 := ⟨Nat.gcd_pos_of_pos_right _ (by decide), Nat.le_of_dvd (by decide) (Nat.gcd_dvd_right _ _)⟩
theorem fx_partOf {σ : ah_S} {A : Nat} {w : Int32} (hA : A < 1000000000) (hw : w = 0 ∨ w = 1) : F_X0_partOf σ (Int64.ofNat A) 12 w = some (pt_ A w, σ) := by
  unfold F_X0_partOf pt_
  simp only [nu_cmp_eq]
  have g := gc_pos A
  by_cases c : A = 0
  · rw [if_pos ((nl_eq0 (by omega)).mpr c), c]
    rcases hw with rfl | rfl <;> rfl
  · rw [if_neg (fun q => c ((nl_eq0 (by omega)).mp q)), show (12 : Int64) = Int64.ofNat 12 from rfl, fx_common 100 A 12 (by omega) hA (by omega), pu_b2s, nl_di64 (by omega) (by omega) g.1, nl_di64 (by omega) (by omega) g.1, pu_bs, pu_bs]
    split <;> rfl
theorem fm_asPart {σ : ah_S} {A : Nat} {w : Int32} (hA : A < 1000000000) : F_X6_asPart σ (Int64.ofNat A) 12 w = some (pt_ A w, σ) := by
  unfold F_X6_asPart pt_
  have g := gc_pos A
  rw [show (12 : Int64) = Int64.ofNat 12 from rfl, fm_part6 1000 A 12 (by omega) hA (by omega), nl_di64 (by omega) (by omega) g.1, nl_di64 (by omega) (by omega) g.1, pu_bs, pu_bs]
  split <;> rfl
/-- what one thing is due behind a night -/
def ti_ (V : sp_V) (h h' : sp_H) (t : Nat) (x : Int32) : Int32 := if sp_lk V h' t ≤ sp_lk V h t then x else x + (sp_lk V h' t - sp_lk V h t) * V 1 t
def tl_ (V : sp_V) (h h' : sp_H) : Nat → Nat → Int32 → Int32
  | 0, _, x => x
  | m + 1, t, x => tl_ V h h' m (t + 1) (ti_ V h h' t x)
def sp_ti (V : sp_V) (G : Nat) (lw : sp_W) (s : Nat → Int32) : Nat → Nat → sp_H → Int32 → Int32
  | 0, _, _, x => x
  | m + 1, i, h, x => sp_ti V G lw s m (i + 1) (sp_go V G lw (s i) h) (tl_ V h (sp_go V G lw (s i) h) 4 0 x)
section
variable {σ : ah_S} {b nb G : Nat} {ga ra ba kd : Nat → Nat} {hd : Nat → Int32} {sz : Nat → Nat} {el : sp_E} {V : sp_V} {lw : sp_W} {h : sp_H} {s : Nat → Int32} {n : Nat}
theorem lk_r {t : Nat} (hr : sp_rg G V) (hv : sp_hw h) (ht : t < 4) : nu_in (sp_lk V h t) 99 := by
  have o := hr 0 t (Or.inl ⟨by omega, ht⟩)
  have o2 : (V 0 t).toInt ≤ 99 := o.2
  have l := hv.2.2.2 t (by omega)
  unfold sp_lk
  split
  · rename_i c
    rw [nu_lt] at c
    have e : (V 0 t - h t).toInt = (V 0 t).toInt - (h t).toInt := nu_sub (by omega) (by omega)
    exact ⟨by omega, by omega⟩
  · exact ⟨by decide, by decide⟩
theorem ti_r {t : Nat} {h' : sp_H} {x : Int32} {B : Int} (hr : sp_rg G V) (hv : sp_hw h) (hv' : sp_hw h') (ht : t < 4) (hB : B < 1000000) (hx : nu_in x B) : nu_in (ti_ V h h' t x) (B + 891) ∧ (ti_ V h h' t x).toInt64 = x.toInt64 + ((if (0 : Int32) < sp_lk V h' t - sp_lk V h t then sp_lk V h' t - sp_lk V h t else 0) * V 1 t).toInt64 := by
  obtain ⟨a1, a2⟩ := lk_r hr hv ht
  obtain ⟨b1, b2⟩ := lk_r hr hv' ht
  obtain ⟨w1, w2⟩ := hr 1 t (Or.inl ⟨by omega, ht⟩)
  have w2 : (V 1 t).toInt ≤ 9 := w2
  obtain ⟨x1, x2⟩ := hx
  unfold ti_
  generalize sp_lk V h' t = p at *
  generalize sp_lk V h t = o at *
  generalize V 1 t = w at *
  have e1 : (p - o).toInt = p.toInt - o.toInt := nu_sub (by omega) (by omega)
  have k0 : (0 : Int32).toInt = 0 := rfl
  by_cases c : p ≤ o
  · rw [if_pos c]
    rw [nu_le] at c
    rw [if_neg (by rw [nu_lt]; omega), show (0 : Int32) * w = 0 from Int32.zero_mul, show (0 : Int32).toInt64 = 0 from rfl, Int64.add_zero]
    exact ⟨⟨x1, by omega⟩, rfl⟩
  · rw [if_neg c]
    rw [nu_le] at c
    have m1 : 0 ≤ (p - o).toInt * w.toInt := Int.mul_nonneg (by omega) w1
    have m2 : (p - o).toInt * w.toInt ≤ 99 * 9 := Int.mul_le_mul (by omega) w2 w1 (by omega)
    have e2 : ((p - o) * w).toInt = (p - o).toInt * w.toInt := nu_mul (by omega) (by omega)
    have e3 : (x + (p - o) * w).toInt = x.toInt + (p - o).toInt * w.toInt := by rw [nu_add (by omega) (by omega), e2]
    rw [if_pos (by rw [nu_lt]; omega)]
    refine ⟨⟨by omega, by omega⟩, ?_⟩
    apply Int64.toInt_inj.mp
    rw [Int32.toInt_toInt64, e3, Int64.toInt_add, Int32.toInt_toInt64, Int32.toInt_toInt64, e2, Int.bmod_eq_of_le (by omega) (by omega)]
/-- the array of what was lacking -/
def lk_ (σ : ah_S) (c : Nat) (V : sp_V) (h : sp_H) : Prop := ah_tg σ c = 101 ∧ ah_ln σ c = 4 ∧ c < ah_nx σ ∧ ∀ t, t < 4 → ah_ai σ c t = sp_lk V h t
theorem dy_wA {a j t m : Nat} {v : Int32} (ht : ah_tg σ a = t) (hn : ah_ln σ a = m) (hn2 : m < 2147483648) (hj : j < m) : ah_wA σ t (some a) (Int32.ofNat j) v = some (ah_sA σ a j v) := by
  show (if (ah_tg σ a == t && ah_inb (Int32.ofNat j) (ah_ln σ a)) = true then some (ah_sA σ a (Int32.ofNat j).toNatClampNeg v) else none) = _
  rw [ht, hn, nu_inb hj hn2, nu_cl (by omega)]
  simp
theorem lx_t97 {K : ah_S → Option Nat → Int32 → Option Nat → Int64 → Int32 → Option (Int64 × ah_S)} {Q : Int64 × ah_S → Prop} {w : Int32} {c i : Nat} {h' : sp_H} (R : rx_ σ b ga V G lw s n h') (hv : sp_hw h) (L : lk_ σ c V h) : ∀ (m t q : Nat) (x : Int32) (B : Int), t + m = 4 → m < q → nu_in x B → B + 891 * m < 1000000 → 0 ≤ B → (∀ x', nu_in x' (B + 891 * m) → x' = tl_ V h h' m t x → pu_ok (K σ (some b) w (some c) x'.toInt64 (Int32.ofNat (i + 1))) Q) → pu_ok (F_X0_tin_97 K q σ (some b) w (some c) x.toInt64 (Int32.ofNat i) (Int32.ofNat t)) Q := by
  have s0 := R.1.1
  intro m
  induction m with
  | zero =>
    intro t q x B ht hq hx hB hB0 hK
    obtain ⟨q, rfl⟩ : ∃ z, q = z + 1 := ⟨q - 1, by omega⟩
    unfold F_X0_tin_97
    rw [if_pos ((nl_le_4 (by omega)).mpr (by omega)), nl_ar_1]
    exact hK x (by simpa using hx) rfl
  | succ m ih =>
    intro t q x B ht hq hx hB hB0 hK
    obtain ⟨q, rfl⟩ : ∃ z, q = z + 1 := ⟨q - 1, by omega⟩
    have h4 : t < 4 := by omega
    obtain ⟨t1, -⟩ := xp_th s0 R.1.2.1
    obtain ⟨u1, u2, u3, u4⟩ := t1 t h4
    obtain ⟨r1, r2⟩ := ti_r (h := h) (h' := h') (t := t) (x := x) (B := B) R.1.2.2.2 hv R.2.2.2 h4 (by omega) hx
    unfold F_X0_tin_97
    rw [if_neg (fun z => by have := (nl_le_4 (by omega)).mp z; omega)]
    simp only [sg_19 s0, hu_is s0 m17, pu_bs, fx_lacks s0 R.1.2.1 R.1.2.2.2 m17 R.2.2.2 R.2.2.1 h4, pu_b2s, dy_lA L.1 L.2.1 (by decide) h4, L.2.2.2 t h4, sg_10 s0, u3, u4, nl_ar_1, ← r2]
    refine ih (t + 1) q (ti_ V h h' t x) (B + 891) (by omega) (by omega) r1 (by omega) (by omega) (fun x' q1 q2 => ?_)
    refine hK x' ?_ q2
    rw [show B + 891 * ((m + 1 : Nat) : Int) = B + 891 + 891 * (m : Int) by omega]
    exact q1
theorem lx_t55 {K : ah_S → Option Nat → Int32 → Option Nat → Int64 → Int32 → Option (Int64 × ah_S)} {Q : Int64 × ah_S → Prop} {w : Int32} {c i : Nat} {x : Int32} {B : Int} {ρ : ah_S} (hcρ : ah_nx ρ ≤ c) (hcb : b + 163 ≤ c) (hi : i < n) (hv : sp_hw h) (hx : nu_in x B) (hB : B + 3564 < 1000000) (hB0 : 0 ≤ B) (hK : ∀ τ x', ag_ b [5, 11, 12, 50] ρ τ → rx_ τ b ga V G lw s n (sp_go V G lw (s i) h) → ah_tg τ c = 101 → ah_ln τ c = 4 → c < ah_nx τ → ah_nx τ = c + 1 → nu_in x' (B + 3564) → x' = tl_ V h (sp_go V G lw (s i) h) 4 0 x → pu_ok (K τ (some b) w (some c) x'.toInt64 (Int32.ofNat (i + 1))) Q) : ∀ m t σ q, t + m = 4 → m < q → ag_ b [5, 11, 12, 50] ρ σ → rx_ σ b ga V G lw s n h → ah_tg σ c = 101 → ah_ln σ c = 4 → ah_nx σ = c + 1 → (∀ j, j < t → ah_ai σ c j = sp_lk V h j) → pu_ok (F_X0_tin_55 K q σ (some b) w (some c) x.toInt64 (Int32.ofNat i) (Int32.ofNat t)) Q := by
  intro m
  induction m with
  | zero =>
    intro t σ q ht hq A R g1 g2 g3 g4
    obtain ⟨q, rfl⟩ : ∃ z, q = z + 1 := ⟨q - 1, by omega⟩
    have s0 := R.1.1
    have hn := R.2.1.2.1
    unfold F_X0_tin_55
    rw [if_pos ((nl_le_4 (by omega)).mpr (by omega))]
    simp only [sg_19 s0, sg_20 s0, hu_is s0 m17, al_22 s0 (show i < 30 by omega), R.2.1.2.2 i hi, pu_bs]
    refine pu_bind (fx_stp R _) ?_
    rintro τ ⟨A2, R2⟩
    have tT := A2.2.2.2.2.2.1 c (by omega)
    have nxe := A2.2.2.1 (by decide)
    have L : lk_ τ c V h := ⟨by rw [tT.1]; exact g1, by rw [tT.2]; exact g2, by omega, fun j hj => by
      rw [(A2.2.2.2.2.2.2.2.2 c j (by omega) (by rw [lb_dy hcb, g1]; decide)).1]; exact g4 j (by omega)⟩
    refine lx_t97 (i := i) R2 hv L 4 0 1000 x B (by omega) (by omega) hx (by omega) hB0 (fun x' q1 q2 => ?_)
    exact hK τ x' (ag_tr A (ag_mo (by decide) A2)) R2 L.1 L.2.1 L.2.2.1 (by omega) q1 q2
  | succ m ih =>
    intro t σ q ht hq A R g1 g2 g3 g4
    obtain ⟨q, rfl⟩ : ∃ z, q = z + 1 := ⟨q - 1, by omega⟩
    have s0 := R.1.1
    have h4 : t < 4 := by omega
    unfold F_X0_tin_55
    rw [if_neg (fun z => by have := (nl_le_4 (by omega)).mp z; omega)]
    simp only [sg_19 s0, hu_is s0 m17, pu_bs, fx_lacks s0 R.1.2.1 R.1.2.2.2 m17 R.2.2.2 R.2.2.1 h4, pu_b2s, dy_wA g1 g2 (by decide) h4, nl_ar_1]
    have A2 : ag_ b [10] σ (ah_sA σ c t (sp_lk V h t)) := ag_wA (ag_rf _ s0) (fun _ => by rw [lb_dy hcb, g1]; decide)
    refine ih (t + 1) _ q (by omega) (by omega) (ag_wA A (fun z => by omega)) ⟨xk_ag A2 (by decide) R.1, xcm_ag A2 s0 (by decide) R.2.1, xh_ag A2 s0 m17 (by decide) R.2.2.1, R.2.2.2⟩ g1 g2 g3 (fun j hj => ?_)
    rw [rw_ai_sA, if_pos rfl]
    by_cases z : j = t
    · rw [if_pos z, z]
    · rw [if_neg z]; exact g4 j (by omega)
theorem lx_tin {w : Int32} {c : Nat} {ρ : ah_S} (hcρ : ah_nx ρ ≤ c) (hcb : b + 163 ≤ c) (hw : w = 0 ∨ w = 1) : ∀ (m i : Nat) (σ : ah_S) (q : Nat) (h : sp_H) (x : Int32), i + m = n → m < q → nu_in x (3564 * (i : Int)) → ag_ b [5, 11, 12, 50] ρ σ → rx_ σ b ga V G lw s n h → ah_tg σ c = 101 → ah_ln σ c = 4 → ah_nx σ = c + 1 → pu_ok (F_X0_tin_43 q σ (some b) w (some c) x.toInt64 (Int32.ofNat i)) (fun r => r.1 = pt_ ((sp_ti V G lw s m i h x).toNatClampNeg * (V 8 0).toNatClampNeg) w ∧ ag_ b [5, 11, 12, 50] ρ r.2 ∧ ah_nx r.2 = c + 1) := by
  intro m
  induction m with
  | zero =>
    intro i σ q h x hi hq hx A R g1 g2 g3
    obtain ⟨q, rfl⟩ : ∃ z, q = z + 1 := ⟨q - 1, by omega⟩
    have s0 := R.1.1
    have hn := R.2.1.2.1
    obtain ⟨-, -, -, t8⟩ := xp_th s0 R.1.2.1
    obtain ⟨w1, w2⟩ := R.1.2.2.2 8 0 (Or.inr (Or.inr (Or.inr ⟨by omega, by omega, rfl⟩)))
    have w2 : (V 8 0).toInt ≤ 12 := w2
    obtain ⟨x1, x2⟩ := hx
    obtain ⟨p, hp, hp2⟩ := nu_nat (a := x) (by rw [nu_le]; exact x1)
    obtain ⟨v, hv', hv2⟩ := nu_nat (a := V 8 0) (by rw [nu_le]; exact w1)
    have ep : (p : Int) ≤ 3564 * i := by rw [hp, nu_of hp2] at x2; exact x2
    have ev : (v : Int) ≤ 12 := by rw [hv', nu_of hv2] at w2; exact w2
    unfold F_X0_tin_43 sp_ti
    rw [si_21 s0, pu_bs, R.2.1.1, if_pos (by rw [nu_ofle (by omega) (by omega)]; omega), sg_13 s0, pu_bs, t8, pu_bs, hp, hv', nl_of hp2, nl_of hv2, ← Int64.ofNat_mul, fx_partOf (by
      have : p * v ≤ 106920 * 12 := Nat.mul_le_mul (by omega) (by omega)
      omega) hw, pu_b2s, nu_cl hp2, nu_cl hv2]
    exact pu_ret ⟨rfl, A, g3⟩
  | succ m ih =>
    intro i σ q h x hi hq hx A R g1 g2 g3
    obtain ⟨q, rfl⟩ : ∃ z, q = z + 1 := ⟨q - 1, by omega⟩
    have s0 := R.1.1
    have hn := R.2.1.2.1
    unfold F_X0_tin_43
    rw [si_21 s0, pu_bs, R.2.1.1, if_neg (by rw [nu_ofle (by omega) (by omega)]; omega)]
    refine lx_t55 hcρ hcb (by omega) R.2.2.2 hx (by omega) (by omega) (fun τ x' A' R' k1 k2 k3 k4 k5 k6 => ?_) 4 0 σ 1000 (by omega) (by omega) A R g1 g2 g3 (fun j hj => absurd hj (Nat.not_lt_zero _))
    have := ih (i + 1) τ q (sp_go V G lw (s i) h) x' (by omega) (by omega) (by rw [show (3564 : Int) * ((i + 1 : Nat) : Int) = 3564 * (i : Int) + 3564 by omega]; exact k5) A' R' k1 k2 k4
    rw [k6] at this
    unfold sp_ti
    rw [k6]
    exact this
end
