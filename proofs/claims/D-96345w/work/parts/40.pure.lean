/-! ===== the pure part: a judgement of plain answers ===== -/
def pu_ok {α : Type} (o : Option α) (Q : α → Prop) : Prop := ∃ v, o = some v ∧ Q v
theorem pu_some {α : Type} {v : α} {Q : α → Prop} : pu_ok (some v) Q ↔ Q v := ⟨fun ⟨w, e, h⟩ => by cases e; exact h, fun h => ⟨v, rfl, h⟩⟩
theorem pu_ret {α : Type} {v : α} {Q : α → Prop} (h : Q v) : pu_ok (some v) Q := ⟨v, rfl, h⟩
theorem pu_bind {α β : Type} {o : Option α} {f : α → Option β} {P : α → Prop} {Q : β → Prop} (h : pu_ok o P) (k : ∀ v, P v → pu_ok (f v) Q) : pu_ok (o.bind f) Q := by
  obtain ⟨v, rfl, hv⟩ := h
  exact k v hv
theorem pu_b2 {α β : Type} {o : Option (α × ah_S)} {f : α → ah_S → Option β} {P : α × ah_S → Prop} {Q : β → Prop} (h : pu_ok o P) (k : ∀ v σ, P (v, σ) → pu_ok (f v σ) Q) : pu_ok (ah_b2 o f) Q := by
  obtain ⟨⟨v, σ⟩, rfl, hv⟩ := h
  exact k v σ hv
theorem pu_mono {α : Type} {o : Option α} {P Q : α → Prop} (h : pu_ok o P) (k : ∀ v, P v → Q v) : pu_ok o Q := by
  obtain ⟨v, e, hv⟩ := h
  exact ⟨v, e, k v hv⟩
theorem pu_ite {α : Type} {c : Prop} [Decidable c] {A B : Option α} {Q : α → Prop} (h1 : c → pu_ok A Q) (h2 : ¬ c → pu_ok B Q) : pu_ok (if c then A else B) Q := by
  by_cases hc : c
  · rw [if_pos hc]; exact h1 hc
  · rw [if_neg hc]; exact h2 hc
theorem pu_b2s {α β : Type} {v : α} {σ : ah_S} {f : α → ah_S → Option β} : ah_b2 (some (v, σ)) f = f v σ := rfl
theorem pu_bs {α β : Type} {v : α} {f : α → Option β} : (some v).bind f = f v := rfl
/-! numbers -/
theorem nu_bm {x : Int} (h1 : -2147483648 ≤ x) (h2 : x < 2147483648) : x.bmod (2 ^ 32) = x := Int.bmod_eq_of_le (by simpa using h1) (by simpa using h2)
theorem nu_add {a b : Int32} (h1 : -2147483648 ≤ a.toInt + b.toInt) (h2 : a.toInt + b.toInt < 2147483648) : (a + b).toInt = a.toInt + b.toInt := by rw [Int32.toInt_add]; exact nu_bm h1 h2
theorem nu_sub {a b : Int32} (h1 : -2147483648 ≤ a.toInt - b.toInt) (h2 : a.toInt - b.toInt < 2147483648) : (a - b).toInt = a.toInt - b.toInt := by rw [Int32.toInt_sub]; exact nu_bm h1 h2
theorem nu_mul {a b : Int32} (h1 : -2147483648 ≤ a.toInt * b.toInt) (h2 : a.toInt * b.toInt < 2147483648) : (a * b).toInt = a.toInt * b.toInt := by rw [Int32.toInt_mul]; exact nu_bm h1 h2
theorem nu_neg {a : Int32} (h1 : -2147483648 < a.toInt) : (-a).toInt = -a.toInt := by rw [Int32.toInt_neg]; exact nu_bm (by have := Int32.toInt_lt a; omega) (by omega)
theorem nu_of {n : Nat} (h : n < 2147483648) : (Int32.ofNat n).toInt = n := Int32.toInt_ofNat_of_lt h
theorem nu_cl {n : Nat} (h : n < 2147483648) : (Int32.ofNat n).toNatClampNeg = n := Int32.toNatClampNeg_ofNat_of_lt h
theorem nu_le {a b : Int32} : a ≤ b ↔ a.toInt ≤ b.toInt := Int32.le_iff_toInt_le
theorem nu_lt {a b : Int32} : a < b ↔ a.toInt < b.toInt := Int32.lt_iff_toInt_lt
theorem nu_ofle {a b : Nat} (ha : a < 2147483648) (hb : b < 2147483648) : Int32.ofNat a ≤ Int32.ofNat b ↔ a ≤ b := by rw [nu_le, nu_of ha, nu_of hb]; omega
theorem nu_oflt {a b : Nat} (ha : a < 2147483648) (hb : b < 2147483648) : Int32.ofNat a < Int32.ofNat b ↔ a < b := by rw [nu_lt, nu_of ha, nu_of hb]; omega
theorem nu_ofeq {a b : Nat} (ha : a < 2147483648) (hb : b < 2147483648) : Int32.ofNat a = Int32.ofNat b ↔ a = b := by
  rw [← Int32.toInt_inj, nu_of ha, nu_of hb]; omega
theorem nu_of1 (n : Nat) : Int32.ofNat n + 1 = Int32.ofNat (n + 1) := (Int32.ofNat_add n 1).symm
theorem nu_s1 {n : Nat} : Int32.ofNat (n + 1) - 1 = Int32.ofNat n := by rw [Int32.ofNat_add]; exact Int32.add_sub_cancel _ _
theorem nu_nat {a : Int32} (h : 0 ≤ a) : ∃ n, a = Int32.ofNat n ∧ n < 2147483648 := ⟨a.toNatClampNeg, (Int32.ofNat_toNatClampNeg a h).symm, Int32.toNatClampNeg_lt a⟩
theorem nu_natb {a : Int32} {m : Nat} (h : 0 ≤ a) (hm : m < 2147483648) (h2 : a ≤ Int32.ofNat m) : ∃ n, a = Int32.ofNat n ∧ n ≤ m := by
  obtain ⟨n, rfl, hn⟩ := nu_nat h
  exact ⟨n, rfl, (nu_ofle hn hm).mp h2⟩
theorem nu_natl {a : Int32} {m : Nat} (h : 0 ≤ a) (hm : m < 2147483648) (h2 : a < Int32.ofNat m) : ∃ n, a = Int32.ofNat n ∧ n < m := by
  obtain ⟨n, rfl, hn⟩ := nu_nat h
  exact ⟨n, rfl, (nu_oflt hn hm).mp h2⟩
theorem nu_pos (n : Nat) (h : n < 2147483648) : ¬ Int32.ofNat n < 0 := by
  rw [nu_lt, nu_of h]
  show ¬ ((n : Int) < 0)
  omega
theorem nu_inb {n m : Nat} (h : n < m) (hm : m < 2147483648) : ah_inb (Int32.ofNat n) m = true := by
  unfold ah_inb
  rw [nu_cl (by omega), decide_eq_false (nu_pos n (by omega)), decide_eq_true h]
  rfl
theorem nu_inbi {i : Int32} {m : Nat} (h1 : 0 ≤ i) (h2 : i.toNatClampNeg < m) : ah_inb i m = true := by
  unfold ah_inb
  rw [decide_eq_true h2, decide_eq_false (by intro h; exact absurd (Int32.lt_of_lt_of_le h h1) Int32.lt_irrefl)]
  rfl
/-- quotients and remainders of small numbers -/
theorem nu_div {a b : Nat} (ha : a < 2147483648) (hb : b < 2147483648) : Int32.ofNat a / Int32.ofNat b = Int32.ofNat (a / b) := (Int32.ofNat_div ha hb).symm
theorem nu_rem {a b : Nat} (ha : a < 2147483648) (hb : b < 2147483648) : Int32.ofNat a - Int32.ofNat a / Int32.ofNat b * Int32.ofNat b = Int32.ofNat (a % b) := by
  rw [nu_div ha hb, ← Int32.ofNat_mul, ← Int32.ofNat_sub _ _ (Nat.div_mul_le_self a b)]
  congr 1
  have := Nat.div_add_mod a b
  rw [Nat.mul_comm] at this
  omega
theorem nu_di {a b : Nat} (ha : a < 2147483648) (hb : b < 2147483648) (h0 : 0 < b) : ah_di (Int32.ofNat a) (Int32.ofNat b) = some (Int32.ofNat (a / b)) := by
  unfold ah_di
  rw [if_neg, nu_div ha hb]
  intro h
  have := (nu_ofeq hb (by omega : (0 : Nat) < 2147483648)).mp h
  omega
theorem nu_re {a b : Nat} (ha : a < 2147483648) (hb : b < 2147483648) (h0 : 0 < b) : ah_re (Int32.ofNat a) (Int32.ofNat b) = some (Int32.ofNat (a % b)) := by
  unfold ah_re
  rw [if_neg, nu_rem ha hb]
  intro h
  have := (nu_ofeq hb (by omega : (0 : Nat) < 2147483648)).mp h
  omega
theorem nu_cmp_lt {x y : Int64} : lg_cmp x y < 0 ↔ x < y := by
  unfold lg_cmp
  by_cases h : x > y
  · rw [if_pos h]
    exact ⟨fun q => absurd q (by decide), fun q => absurd (Int64.lt_trans q h) Int64.lt_irrefl⟩
  · rw [if_neg h]
    by_cases h2 : x = y
    · rw [if_pos h2]
      exact ⟨fun q => absurd q (by decide), fun q => absurd (h2 ▸ q) Int64.lt_irrefl⟩
    · rw [if_neg h2]
      exact ⟨fun _ => (Int64.lt_or_lt_of_ne h2).resolve_right h, fun _ => by decide⟩
theorem nu_cmp_gt {x y : Int64} : 0 < lg_cmp x y ↔ y < x := by
  unfold lg_cmp
  by_cases h : x > y
  · rw [if_pos h]
    exact ⟨fun _ => h, fun _ => by decide⟩
  · rw [if_neg h]
    by_cases h2 : x = y
    · rw [if_pos h2]
      exact ⟨fun q => absurd q (by decide), fun q => absurd q h⟩
    · rw [if_neg h2]
      exact ⟨fun q => absurd q (by decide), fun q => absurd q h⟩
theorem nu_cmp_eq {x y : Int64} : lg_cmp x y = 0 ↔ x = y := by
  unfold lg_cmp
  by_cases h : x > y
  · rw [if_pos h]
    exact ⟨fun q => absurd q (by decide), fun q => absurd (q ▸ h) Int64.lt_irrefl⟩
  · rw [if_neg h]
    by_cases h2 : x = y
    · rw [if_pos h2]
      exact ⟨fun _ => h2, fun _ => rfl⟩
    · rw [if_neg h2]
      exact ⟨fun q => absurd q (by decide), fun q => absurd q h2⟩
theorem nu_64lt {x y : Int32} : x.toInt64 < y.toInt64 ↔ x < y := by rw [Int64.lt_iff_toInt_lt, Int32.lt_iff_toInt_lt, Int32.toInt_toInt64, Int32.toInt_toInt64]
/-! the class's and the model's tests of ranges -/
theorem fx_within (σ : ah_S) (x a b : Int32) : F_X0_within σ x.toInt64 a.toInt64 b.toInt64 = some (if x < a then 0 else if b < x then 0 else 1, σ) := by
  unfold F_X0_within
  simp only [nu_cmp_lt, nu_cmp_gt, nu_64lt]
  split
  · rfl
  · split <;> rfl
theorem fm_in (σ : ah_S) (x a b : Int32) : F_X6_in σ x a b = some (if x < a then 0 else if b < x then 0 else 1, σ) := by
  unfold F_X6_in
  split
  · rfl
  · split <;> rfl
/-- the answer of a range test -/
def ra_ (x a b : Int32) : Int32 := if x < a then 0 else if b < x then 0 else 1
theorem ra_z (x a b : Int32) : ah_z (ra_ x a b) = some (ra_ x a b) := by
  unfold ra_
  split
  · rfl
  · split <;> rfl
theorem ra_0 {x a b : Int32} : ra_ x a b = 0 ↔ ¬ (a ≤ x ∧ x ≤ b) := by
  unfold ra_
  by_cases h : x < a
  · rw [if_pos h]
    exact ⟨fun _ q => absurd (Int32.lt_of_lt_of_le h q.1) Int32.lt_irrefl, fun _ => rfl⟩
  · rw [if_neg h]
    by_cases h2 : b < x
    · rw [if_pos h2]
      exact ⟨fun _ q => absurd (Int32.lt_of_lt_of_le h2 q.2) Int32.lt_irrefl, fun _ => rfl⟩
    · rw [if_neg h2]
      exact ⟨fun q => absurd q (by decide), fun q => absurd ⟨(Int32.lt_or_le x a).resolve_left h, (Int32.lt_or_le b x).resolve_left h2⟩ q⟩
theorem fx_in (σ : ah_S) (x a b : Int32) : F_X0_within σ x.toInt64 a.toInt64 b.toInt64 = some (ra_ x a b, σ) := fx_within σ x a b
theorem fm_in_ (σ : ah_S) (x a b : Int32) : F_X6_in σ x a b = some (ra_ x a b, σ) := fm_in σ x a b
