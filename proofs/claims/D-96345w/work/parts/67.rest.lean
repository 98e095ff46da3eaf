/-! ===== rest ===== -/
def sp_hq (V : sp_V) (G : Nat) (lw : sp_W) (s : Nat → Int32) (n : Nat) (h : sp_H) : Nat → sp_H
  | 0 => h
  | j + 1 => sp_rn V G lw s n 0 (sp_hq V G lw s n h j)
def sp_lb (h h' : sp_H) : Bool := (List.range 48).all (fun k => decide (8 ≤ k ∧ k ≤ 12) || decide (h k = h' k))
theorem lb_iff {h h' : sp_H} : sp_lb h h' = true ↔ ∀ k, k < 48 → (8 ≤ k ∧ k ≤ 12) ∨ h k = h' k := by
  unfold sp_lb
  rw [List.all_eq_true]
  constructor
  · intro q k hk
    have := q k (List.mem_range.mpr hk)
    rw [Bool.or_eq_true, decide_eq_true_eq, decide_eq_true_eq] at this
    exact this
  · intro q k hk
    rw [Bool.or_eq_true, decide_eq_true_eq, decide_eq_true_eq]
    exact q k (List.mem_range.mp hk)
def sp_fi (H : Nat → sp_H) (j : Nat) : Nat → Nat → Option Nat
  | 0, _ => none
  | m + 1, i => if sp_lb (H i) (H j) = true then some i else sp_fi H j m (i + 1)
def sp_fo (H : Nat → sp_H) : Nat → Nat → Option (Nat × Nat)
  | 0, _ => none
  | m + 1, j => match sp_fi H j j 0 with
    | some i => some (i, j)
    | none => sp_fo H m (j + 1)
def sp_ra (H : Nat → sp_H) (w : Nat) : Option (Nat × Nat) → Int32
  | none => -2
  | some p => if w = 0 then Int32.ofNat p.1 else if w = 1 then Int32.ofNat (p.2 - p.1) else H p.1 (w - 2)
/-- what the class keeps of a hut -/
def xst_ (σ : ah_S) (b j : Nat) (h : sp_H) : Prop := (∀ t, t < 4 → ah_ai σ (b + 23) (j * 37 + 2 * t) = h t ∧ ah_ai σ (b + 23) (j * 37 + 2 * t + 1) = h (4 + t)) ∧ (∀ k, k < 28 → ah_ai σ (b + 23) (j * 37 + 8 + k) = if h (13 + k / 4) = 0 then -2 else h (20 + k)) ∧ ∃ m, m < 128 ∧ ah_ai σ (b + 23) (j * 37 + 36) = Int32.ofNat m ∧ ∀ g, g < 7 → h (13 + g) = if m.testBit g then 1 else 0
theorem fi_lt {H : Nat → sp_H} {j : Nat} : ∀ m i p, sp_fi H j m i = some p → i ≤ p ∧ p < i + m := by
  intro m
  induction m with
  | zero => intro i p h; cases h
  | succ m ih =>
    intro i p h
    unfold sp_fi at h
    split at h
    · cases h; omega
    · have := ih _ _ h; omega
theorem xst_lb {σ : ah_S} {b i j : Nat} {h h' : sp_H} (hv : sp_hw h) (hv' : sp_hw h') (X : xst_ σ b i h) (Y : xst_ σ b j h') : (∀ k, k < 37 → ah_ai σ (b + 23) (i * 37 + k) = ah_ai σ (b + 23) (j * 37 + k)) ↔ sp_lb h h' = true := by
  obtain ⟨x1, x2, m, m1, m2, m3⟩ := X
  obtain ⟨y1, y2, m', m1', m2', m3'⟩ := Y
  rw [lb_iff]
  have ranges : ∀ g t, g < 7 → t < 4 → nu_in (h (20 + (4 * g + t))) 99 := fun g t hg ht => hv.2.2.2 _ (by omega)
  have ranges' : ∀ g t, g < 7 → t < 4 → nu_in (h' (20 + (4 * g + t))) 99 := fun g t hg ht => hv'.2.2.2 _ (by omega)
  constructor
  · intro E k hk
    have em : m = m' := by
      have := E 36 (by decide)
      rw [m2, m2'] at this
      exact (nu_ofeq (by omega) (by omega)).mp this
    have bn : ∀ g, g < 7 → h (13 + g) = h' (13 + g) := fun g hg => by rw [m3 g hg, m3' g hg, em]
    by_cases c1 : k < 4
    · right
      have := E (2 * k) (by omega)
      rw [(x1 k c1).1, (y1 k c1).1] at this
      exact this
    by_cases c2 : k < 8
    · right
      have := E (2 * (k - 4) + 1) (by omega)
      rw [← Nat.add_assoc, ← Nat.add_assoc, (x1 (k - 4) (by omega)).2, (y1 (k - 4) (by omega)).2, show 4 + (k - 4) = k by omega] at this
      exact this
    by_cases c3 : k ≤ 12
    · exact Or.inl ⟨by omega, c3⟩
    right
    by_cases c4 : k < 20
    · have := bn (k - 13) (by omega)
      rw [show 13 + (k - 13) = k by omega] at this
      exact this
    · have e := E (8 + (k - 20)) (by omega)
      rw [← Nat.add_assoc, ← Nat.add_assoc, x2 (k - 20) (by omega), y2 (k - 20) (by omega), ← bn ((k - 20) / 4) (by omega)] at e
      by_cases z : h (13 + (k - 20) / 4) = 0
      · have z' : h' (13 + (k - 20) / 4) = 0 := by rw [← bn _ (by omega)]; exact z
        have a1 := hv.2.2.1 ((k - 20) / 4) ((k - 20) % 4) (by omega) (by omega) z
        have a2 := hv'.2.2.1 ((k - 20) / 4) ((k - 20) % 4) (by omega) (by omega) z'
        rw [show 20 + (4 * ((k - 20) / 4) + (k - 20) % 4) = k by omega] at a1 a2
        rw [a1, a2]
      · rw [if_neg z, if_neg z, show 20 + (k - 20) = k by omega] at e
        exact e
  · intro E k hk
    have bn : ∀ g, g < 7 → h (13 + g) = h' (13 + g) := fun g hg => (E (13 + g) (by omega)).resolve_left (by omega)
    by_cases c1 : k < 8
    · by_cases c2 : k % 2 = 0
      · rw [show k = 2 * (k / 2) by omega, (x1 (k / 2) (by omega)).1, (y1 (k / 2) (by omega)).1]
        exact (E _ (by omega)).resolve_left (by omega)
      · rw [show k = 2 * (k / 2) + 1 by omega, ← Nat.add_assoc, ← Nat.add_assoc, (x1 (k / 2) (by omega)).2, (y1 (k / 2) (by omega)).2]
        exact (E _ (by omega)).resolve_left (by omega)
    · by_cases c2 : k < 36
      · rw [show k = 8 + (k - 8) by omega, ← Nat.add_assoc, ← Nat.add_assoc, x2 (k - 8) (by omega), y2 (k - 8) (by omega), bn _ (by omega), (E (20 + (k - 8)) (by omega)).resolve_left (by omega)]
      · have : k = 36 := by omega
        subst this
        rw [m2, m2']
        congr 1
        apply Nat.eq_of_testBit_eq
        intro g
        by_cases hg : g < 7
        · have := bn g hg
          rw [m3 g hg, m3' g hg] at this
          cases ha : m.testBit g <;> cases hb : m'.testBit g <;> rw [ha, hb] at this <;> first | rfl | exact absurd this (by decide)
        · have t1 : m.testBit g = false := Nat.testBit_lt_two_pow (Nat.lt_of_lt_of_le m1 (by
            show 2 ^ 7 ≤ 2 ^ g
            exact Nat.pow_le_pow_right (by decide) (by omega)))
          have t2 : m'.testBit g = false := Nat.testBit_lt_two_pow (Nat.lt_of_lt_of_le m1' (by
            show 2 ^ 7 ≤ 2 ^ g
            exact Nat.pow_le_pow_right (by decide) (by omega)))
          rw [t1, t2]
section
variable {σ : ah_S} {b nb G : Nat} {ga ra ba kd : Nat → Nat} {hd : Nat → Int32} {sz : Nat → Nat} {el : sp_E} {V : sp_V} {lw : sp_W} {h : sp_H} {s : Nat → Int32} {n : Nat}
theorem fx_isLike {i j : Nat} {h h' : sp_H} (s0 : sk_ok σ b) (hi : i ≤ 200) (hj : j ≤ 200) (hv : sp_hw h) (hv' : sp_hw h') (X : xst_ σ b i h) (Y : xst_ σ b j h') : F_X0_isLike σ (some b) (Int32.ofNat i) (Int32.ofNat j) = some (if sp_lb h h' = true then 1 else 0, σ) := by
  have key : ∀ m k q, k + m = 37 → m < q → (∀ l, l < k → ah_ai σ (b + 23) (i * 37 + l) = ah_ai σ (b + 23) (j * 37 + l)) → F_X0_isLike_2 q σ (some b) (Int32.ofNat i) (Int32.ofNat j) (Int32.ofNat k) = some (if sp_lb h h' = true then 1 else 0, σ) := by
    intro m
    induction m with
    | zero =>
      intro k q hk hq E
      obtain ⟨q, rfl⟩ : ∃ z, q = z + 1 := ⟨q - 1, by omega⟩
      unfold F_X0_isLike_2
      rw [if_pos ((nl_le_37 (by omega)).mpr (by omega)), if_pos ((xst_lb hv hv' X Y).mp (fun l hl => E l (by omega)))]
    | succ m ih =>
      intro k q hk hq E
      obtain ⟨q, rfl⟩ : ∃ z, q = z + 1 := ⟨q - 1, by omega⟩
      unfold F_X0_isLike_2
      rw [if_neg (fun z => by have := (nl_le_37 (by omega)).mp z; omega)]
      simp only [sg_22 s0, pu_bs, nl_mr_37, nl_aa, al_23 s0 (show i * 37 + k < 7437 by omega), al_23 s0 (show j * 37 + k < 7437 by omega), nl_ar_1]
      by_cases c : ah_ai σ (b + 23) (i * 37 + k) = ah_ai σ (b + 23) (j * 37 + k)
      · rw [if_pos c]
        refine ih (k + 1) q (by omega) (by omega) (fun l hl => ?_)
        by_cases z : l = k
        · rw [z]; exact c
        · exact E l (by omega)
      · rw [if_neg c, if_neg (fun z => c ((xst_lb hv hv' X Y).mpr z k (by omega)))]
  exact key 37 0 1000 (by omega) (by omega) (fun l hl => absurd hl (Nat.not_lt_zero _))
theorem fx_keepState {j : Nat} (s0 : sk_ok σ b) (hj : j ≤ 200) (H : xh_ σ b 17 h) : pu_ok (F_X0_keepState σ (some b) (Int32.ofNat j)) (fun τ => ag_ b [13] σ τ ∧ xst_ τ b j h ∧ ∀ l, l < j * 37 → ah_ai τ (b + 23) l = ah_ai σ (b + 23) l) := by
  obtain ⟨m0, m1, m2, m3⟩ := H.2.2.2.2.1
  have k56 : ∀ m k τ q, k + m = 28 → m < q → ag_ b [13] σ τ → (∀ t, t < 4 → ah_ai τ (b + 23) (j * 37 + 2 * t) = h t ∧ ah_ai τ (b + 23) (j * 37 + 2 * t + 1) = h (4 + t)) → (∀ l, l < k → ah_ai τ (b + 23) (j * 37 + 8 + l) = if h (13 + l / 4) = 0 then -2 else h (20 + l)) → (∀ l, l < j * 37 → ah_ai τ (b + 23) l = ah_ai σ (b + 23) l) → pu_ok (F_X0_keepState_56 q τ (some b) (Int32.ofNat (j * 37 + 8 + k)) (Int32.ofNat k)) (fun τ => ag_ b [13] σ τ ∧ xst_ τ b j h ∧ ∀ l, l < j * 37 → ah_ai τ (b + 23) l = ah_ai σ (b + 23) l) := by
    intro m
    induction m with
    | zero =>
      intro k τ q hk hq A i1 i2 i3
      obtain ⟨q, rfl⟩ : ∃ z, q = z + 1 := ⟨q - 1, by omega⟩
      have sτ := ag_sk A
      have Hτ := xh_ag A s0 m17 (by decide) H
      have e403 : ah_fi τ 403 (b + 17) = Int32.ofNat m0 := by rw [ag_fc A s0 (by decide) (by decide) (by decide)]; exact m2
      unfold F_X0_keepState_56
      rw [if_pos ((nl_le_28 (by omega)).mpr (by omega))]
      simp only [sg_22 sτ, sg_19 sτ, pu_bs, hu_403 sτ m17, e403, aw_23 sτ (show j * 37 + 8 + k < 7437 by omega)]
      refine pu_ret ⟨ag_wA A (fun _ => lb_sc (by decide) rfl (by decide)), ⟨fun t ht => ?_, fun l hl => ?_, m0, m1, ?_, m3⟩, fun l hl => ?_⟩
      · rw [rw_ai_sA, if_pos rfl, if_neg (by omega), rw_ai_sA, if_pos rfl, if_neg (by omega)]; exact i1 t ht
      · rw [rw_ai_sA, if_pos rfl, if_neg (by omega)]; exact i2 l (by omega)
      · rw [rw_ai_sA, if_pos rfl, if_pos (by omega)]
      · rw [rw_ai_sA, if_pos rfl, if_neg (by omega)]; exact i3 l hl
    | succ m ih =>
      intro k τ q hk hq A i1 i2 i3
      obtain ⟨q, rfl⟩ : ∃ z, q = z + 1 := ⟨q - 1, by omega⟩
      have sτ := ag_sk A
      have Hτ := xh_ag A s0 m17 (by decide) H
      have e403 : ah_fi τ 403 (b + 17) = Int32.ofNat m0 := by rw [ag_fc A s0 (by decide) (by decide) (by decide)]; exact m2
      have hb := m3 (k / 4) (by omega)
      have nxt : ∀ v, v = (if h (13 + k / 4) = 0 then (-2 : Int32) else h (20 + k)) → pu_ok (F_X0_keepState_56 q (ah_sA τ (b + 23) (j * 37 + 8 + k) v) (some b) (Int32.ofNat (j * 37 + 8 + k + 1)) (Int32.ofNat (k + 1))) (fun τ => ag_ b [13] σ τ ∧ xst_ τ b j h ∧ ∀ l, l < j * 37 → ah_ai τ (b + 23) l = ah_ai σ (b + 23) l) := fun v hv' => by
        refine ih (k + 1) _ q (by omega) (by omega) (ag_wA A (fun _ => lb_sc (by decide) rfl (by decide))) (fun t ht => ?_) (fun l hl => ?_) (fun l hl => ?_)
        · rw [rw_ai_sA, if_pos rfl, if_neg (by omega), rw_ai_sA, if_pos rfl, if_neg (by omega)]; exact i1 t ht
        · rw [rw_ai_sA, if_pos rfl]
          by_cases z : l = k
          · rw [if_pos (by omega), hv', z]
          · rw [if_neg (by omega)]; exact i2 l (by omega)
        · rw [rw_ai_sA, if_pos rfl, if_neg (by omega)]; exact i3 l hl
      unfold F_X0_keepState_56
      rw [if_neg (fun z => by have := (nl_le_28 (by omega)).mp z; omega)]
      simp only [sg_22 sτ, sg_19 sτ, pu_bs, hu_403 sτ m17, e403, nl_di_4 (show k < 2147483648 by omega), fx_isIn m1 (show k / 4 < 7 by omega), pu_b2s, nl_ar_1]
      by_cases c : m0.testBit (k / 4) = true
      · rw [if_pos c] at hb ⊢
        rw [if_neg nu_10n]
        have e3 : ah_ai τ (b + (17 + 3)) k = h (20 + k) := by
          have := Hτ.2.2.2.2.2 (k / 4) (k % 4) (by omega) (by omega) (by rw [hb]; exact nu_10n)
          rw [show 4 * (k / 4) + k % 4 = k by omega] at this
          exact this
        simp only [hu_402 sτ m17, pu_bs, hu_l3 sτ m17 (show k < 28 by omega), e3, aw_23 sτ (show j * 37 + 8 + k < 7437 by omega)]
        exact nxt _ (by rw [hb, if_neg nu_10n])
      · rw [if_neg c] at hb ⊢
        rw [if_pos rfl, aw_23 sτ (by omega), pu_bs]
        exact nxt _ (by rw [hb, if_pos rfl])
  have k7 : ∀ m t τ q, t + m = 4 → m < q → ag_ b [13] σ τ → (∀ u, u < t → ah_ai τ (b + 23) (j * 37 + 2 * u) = h u ∧ ah_ai τ (b + 23) (j * 37 + 2 * u + 1) = h (4 + u)) → (∀ l, l < j * 37 → ah_ai τ (b + 23) l = ah_ai σ (b + 23) l) → pu_ok (F_X0_keepState_7 q τ (some b) (Int32.ofNat (j * 37 + 2 * t)) (Int32.ofNat t)) (fun τ => ag_ b [13] σ τ ∧ xst_ τ b j h ∧ ∀ l, l < j * 37 → ah_ai τ (b + 23) l = ah_ai σ (b + 23) l) := by
    intro m
    induction m with
    | zero =>
      intro t τ q ht hq A i1 i3
      obtain ⟨q, rfl⟩ : ∃ z, q = z + 1 := ⟨q - 1, by omega⟩
      unfold F_X0_keepState_7
      rw [if_pos ((nl_le_4 (by omega)).mpr (by omega)), show j * 37 + 2 * t = j * 37 + 8 + 0 by omega]
      exact k56 28 0 τ 1000 (by omega) (by omega) A (fun u hu => i1 u (by omega)) (fun l hl => absurd hl (Nat.not_lt_zero _)) i3
    | succ m ih =>
      intro t τ q ht hq A i1 i3
      obtain ⟨q, rfl⟩ : ∃ z, q = z + 1 := ⟨q - 1, by omega⟩
      have h4 : t < 4 := by omega
      have sτ := ag_sk A
      have Hτ := xh_ag A s0 m17 (by decide) H
      unfold F_X0_keepState_7
      rw [if_neg (fun z => by have := (nl_le_4 (by omega)).mp z; omega)]
      have s2 : sk_ok (ah_sA τ (b + 23) (j * 37 + 2 * t) (h t)) b := sτ
      have e2 : ah_ai (ah_sA τ (b + 23) (j * 37 + 2 * t) (h t)) (b + (17 + 2)) t = h (4 + t) := by rw [rw_ai_sA, if_neg (by omega)]; exact Hτ.2.1 t h4
      simp only [sg_22 sτ, sg_19 sτ, hu_400 sτ m17, hu_l1 sτ m17 h4, Hτ.1 t h4, pu_bs, aw_23 sτ (show j * 37 + 2 * t < 7437 by omega), sg_22 s2, sg_19 s2, hu_401 s2 m17, hu_l2 s2 m17 h4, e2, nl_ar_1, aw_23 s2 (show j * 37 + 2 * t + 1 < 7437 by omega)]
      rw [show j * 37 + 2 * t + 1 + 1 = j * 37 + 2 * (t + 1) by omega]
      refine ih (t + 1) _ q (by omega) (by omega) (ag_wA (ag_wA A (fun _ => lb_sc (by decide) rfl (by decide))) (fun _ => lb_sc (by decide) rfl (by decide))) (fun u hu => ?_) (fun l hl => ?_)
      · rw [rw_ai_sA, if_pos rfl, rw_ai_sA, if_pos rfl, rw_ai_sA, if_pos rfl, rw_ai_sA, if_pos rfl]
        by_cases z : u = t
        · subst z
          rw [if_neg (by omega), if_pos rfl, if_pos rfl]; exact ⟨rfl, rfl⟩
        · rw [if_neg (by omega), if_neg (by omega), if_neg (by omega), if_neg (by omega)]; exact i1 u (by omega)
      · rw [rw_ai_sA, if_pos rfl, if_neg (by omega), rw_ai_sA, if_pos rfl, if_neg (by omega)]; exact i3 l hl
  unfold F_X0_keepState
  rw [nl_mr_37]
  exact k7 4 0 σ 1000 (by omega) (by omega) (ag_rf _ s0) (fun u hu => absurd hu (Nat.not_lt_zero _)) (fun _ _ => rfl)
end
