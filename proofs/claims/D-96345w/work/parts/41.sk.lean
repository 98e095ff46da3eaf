/-! ===== the static cells of both objects: the class's at b .. b + 122, the model's at b + 123 .. b + 162 (printed by sk.py) ===== -/
def sk_T : List Nat := [1, 111, 101, 2, 112, 113, 113, 3, 3, 3, 4, 101, 5, 101, 101, 101, 101, 5, 101, 101, 101, 101, 101, 101, 101, 101, 101, 114, 5, 101, 101, 101, 101, 5, 101, 101, 101, 101, 5, 101, 101, 101, 101, 5, 101, 101, 101, 101, 5, 101, 101, 101, 101, 5, 101, 101, 101, 101, 5, 101, 101, 101, 101, 101, 101, 101, 5, 101, 101, 101, 101, 101, 115, 101, 116, 6, 6, 6, 6, 6, 6, 6, 6, 6, 6, 6, 6, 6, 6, 6, 6, 6, 6, 6, 6, 6, 6, 6, 6, 6, 6, 6, 6, 6, 6, 6, 6, 6, 6, 6, 6, 6, 6, 6, 6, 3, 3, 3, 3, 3, 3, 3, 3, 7, 101, 101, 101, 101, 101, 101, 101, 101, 101, 101, 101, 102, 102, 101, 101, 103, 103, 101, 101, 101, 101, 101, 101, 101, 101, 101, 101, 101, 101, 101, 101, 101, 101, 101, 101, 101, 101, 104, 104]
def sk_N : List Nat := [0, 40, 120, 6, 7, 4, 4, 1, 1, 1, 6, 6, 7, 4, 4, 28, 4, 7, 4, 4, 28, 4, 30, 7437, 30, 5, 5, 7, 7, 4, 4, 28, 4, 7, 4, 4, 28, 4, 7, 4, 4, 28, 4, 7, 4, 4, 28, 4, 7, 4, 4, 28, 4, 7, 4, 4, 28, 4, 7, 4, 4, 28, 4, 6, 6, 4, 7, 4, 4, 28, 4, 4, 50, 24, 6, 3, 3, 3, 3, 3, 3, 3, 3, 3, 3, 3, 3, 3, 3, 3, 3, 3, 3, 3, 3, 3, 3, 3, 3, 3, 3, 3, 3, 3, 3, 3, 3, 3, 3, 3, 3, 3, 3, 3, 3, 1, 1, 1, 1, 1, 1, 1, 1, 0, 4, 4, 28, 28, 7, 7, 48, 40, 40, 40, 40, 120, 260, 260, 2, 122, 122, 6, 130, 4, 4, 48, 30, 9648, 30, 5, 5, 4, 60, 336, 4, 48, 4, 50, 24, 6, 6, 360, 60]
/-- labels: 0 params 1 changes 2 tape 3 law 4 hut 5 scratch 6 deed 7 image 8 bodies 9 trace 10 shelves; the model's 20 more; 99 never changed -/
def sk_B : List Nat := [99, 1, 2, 99, 0, 99, 99, 0, 0, 0, 99, 11, 4, 4, 4, 4, 4, 5, 5, 5, 5, 5, 12, 13, 14, 15, 16, 99, 60, 60, 60, 60, 60, 61, 61, 61, 61, 61, 62, 62, 62, 62, 62, 63, 63, 63, 63, 63, 64, 64, 64, 64, 64, 65, 65, 65, 65, 65, 66, 66, 66, 66, 66, 17, 18, 6, 7, 7, 7, 7, 7, 7, 8, 9, 10, 1, 1, 1, 1, 1, 1, 1, 1, 1, 1, 1, 1, 1, 1, 1, 1, 1, 1, 1, 1, 1, 1, 1, 1, 1, 1, 1, 1, 1, 1, 1, 1, 1, 1, 1, 1, 1, 1, 1, 1, 0, 0, 0, 0, 0, 0, 0, 0, 99, 20, 20, 20, 20, 20, 20, 24, 21, 21, 21, 21, 22, 23, 23, 23, 23, 23, 25, 54, 55, 55, 31, 32, 33, 34, 35, 36, 37, 38, 39, 26, 27, 27, 28, 29, 30, 30, 30, 42]
def sk_R : List (Nat × Nat × Nat) := [(400, 12, 13), (401, 12, 14), (402, 12, 15), (405, 12, 16), (406, 12, 0), (400, 17, 18), (401, 17, 19), (402, 17, 20), (405, 17, 21), (406, 17, 0), (400, 28, 29), (401, 28, 30), (402, 28, 31), (405, 28, 32), (406, 28, 0), (400, 33, 34), (401, 33, 35), (402, 33, 36), (405, 33, 37), (406, 33, 0), (400, 38, 39), (401, 38, 40), (402, 38, 41), (405, 38, 42), (406, 38, 0), (400, 43, 44), (401, 43, 45), (402, 43, 46), (405, 43, 47), (406, 43, 0), (400, 48, 49), (401, 48, 50), (402, 48, 51), (405, 48, 52), (406, 48, 0), (400, 53, 54), (401, 53, 55), (402, 53, 56), (405, 53, 57), (406, 53, 0), (400, 58, 59), (401, 58, 60), (402, 58, 61), (405, 58, 62), (406, 58, 0), (400, 66, 67), (401, 66, 68), (402, 66, 69), (405, 66, 70), (406, 66, 0), (0, 0, 1), (3, 0, 2), (5, 0, 3), (7, 0, 4), (9, 0, 5), (10, 0, 6), (11, 0, 7), (12, 0, 8), (13, 0, 9), (14, 0, 10), (15, 0, 11), (18, 0, 12), (19, 0, 17), (20, 0, 22), (22, 0, 23), (25, 0, 24), (26, 0, 25), (27, 0, 26), (29, 0, 27), (30, 0, 63), (31, 0, 64), (33, 0, 65), (35, 0, 66), (36, 0, 71), (37, 0, 72), (39, 0, 73), (41, 0, 74), (601, 123, 124), (602, 123, 125), (604, 123, 126), (605, 123, 127), (606, 123, 128), (607, 123, 129), (611, 123, 130), (614, 123, 131), (615, 123, 132), (616, 123, 133), (617, 123, 134), (618, 123, 135), (624, 123, 136), (625, 123, 137), (626, 123, 138), (627, 123, 139), (628, 123, 140), (629, 123, 141), (630, 123, 142), (632, 123, 143), (633, 123, 144), (634, 123, 145), (635, 123, 146), (637, 123, 147), (638, 123, 148), (639, 123, 149), (640, 123, 150), (642, 123, 151), (643, 123, 152), (645, 123, 153), (648, 123, 154), (650, 123, 155), (651, 123, 156), (653, 123, 157), (655, 123, 158), (656, 123, 159), (657, 123, 160), (658, 123, 161), (659, 123, 162)]
def sk_Q : List (Nat × Nat × Nat) := [(27, 0, 28), (27, 1, 33), (27, 2, 38), (27, 3, 43), (27, 4, 48), (27, 5, 53), (27, 6, 58), (5, 0, 115), (6, 0, 116), (5, 1, 117), (6, 1, 118), (5, 2, 119), (6, 2, 120), (5, 3, 121), (6, 3, 122)]
def sk_ok (σ : ah_S) (b : Nat) : Prop := b + 163 ≤ ah_nx σ ∧ (∀ k, k < 163 → ah_tg σ (b + k) = sk_T.getD k 0) ∧ (∀ k, k < 163 → ah_ln σ (b + k) = sk_N.getD k 0) ∧ (∀ q ∈ sk_R, ah_fr σ q.1 (b + q.2.1) = some (b + q.2.2)) ∧ (∀ q ∈ sk_Q, ah_ar σ (b + q.1) q.2.1 = some (b + q.2.2))
theorem sk_gI {σ : ah_S} {b f k : Nat} (h : sk_ok σ b) (hk : k < 163) (hf : ah_hf f (sk_T.getD k 0) = true) : ah_gI σ f (some (b + k)) = some (ah_fi σ f (b + k)) := by
  show (if ah_hf f (ah_tg σ (b + k)) = true then some (ah_fi σ f (b + k)) else none) = _
  rw [h.2.1 k hk, if_pos hf]
theorem sk_pI {σ : ah_S} {b f k : Nat} {v : Int32} (h : sk_ok σ b) (hk : k < 163) (hf : ah_hf f (sk_T.getD k 0) = true) : ah_pI σ f (some (b + k)) v = some (ah_sI σ f (b + k) v) := by
  show (if ah_hf f (ah_tg σ (b + k)) = true then some (ah_sI σ f (b + k) v) else none) = _
  rw [h.2.1 k hk, if_pos hf]
theorem sk_pZ {σ : ah_S} {b f k : Nat} {v : Int32} (h : sk_ok σ b) (hk : k < 163) (hf : ah_hf f (sk_T.getD k 0) = true) (hv : (v == 0 || v == 1) = true) : ah_pZ σ f (some (b + k)) v = some (ah_sI σ f (b + k) v) := by
  show (if (ah_hf f (ah_tg σ (b + k)) && (v == 0 || v == 1)) = true then some (ah_sI σ f (b + k) v) else none) = _
  rw [h.2.1 k hk, hf, hv]; rfl
theorem sk_gR {σ : ah_S} {b f k j : Nat} (h : sk_ok σ b) (hk : k < 163) (hf : ah_hf f (sk_T.getD k 0) = true) (hm : (f, k, j) ∈ sk_R) : ah_gR σ f (some (b + k)) = some (some (b + j)) := by
  show (if ah_hf f (ah_tg σ (b + k)) = true then some (ah_fr σ f (b + k)) else none) = _
  rw [h.2.1 k hk, if_pos hf, h.2.2.2.1 _ hm]
theorem sk_lA {σ : ah_S} {b k t j n : Nat} (h : sk_ok σ b) (hk : k < 163) (ht : sk_T.getD k 0 = t) (hn : sk_N.getD k 0 = n) (hn2 : n < 2147483648) (hj : j < n) : ah_lA σ t (some (b + k)) (Int32.ofNat j) = some (ah_ai σ (b + k) j) := by
  show (if (ah_tg σ (b + k) == t && ah_inb (Int32.ofNat j) (ah_ln σ (b + k))) = true then some (ah_ai σ (b + k) (Int32.ofNat j).toNatClampNeg) else none) = _
  rw [h.2.1 k hk, h.2.2.1 k hk, ht, hn, nu_inb hj hn2, nu_cl (by omega)]
  simp
theorem sk_wA {σ : ah_S} {b k t j n : Nat} {v : Int32} (h : sk_ok σ b) (hk : k < 163) (ht : sk_T.getD k 0 = t) (hn : sk_N.getD k 0 = n) (hn2 : n < 2147483648) (hj : j < n) : ah_wA σ t (some (b + k)) (Int32.ofNat j) v = some (ah_sA σ (b + k) j v) := by
  show (if (ah_tg σ (b + k) == t && ah_inb (Int32.ofNat j) (ah_ln σ (b + k))) = true then some (ah_sA σ (b + k) (Int32.ofNat j).toNatClampNeg v) else none) = _
  rw [h.2.1 k hk, h.2.2.1 k hk, ht, hn, nu_inb hj hn2, nu_cl (by omega)]
  simp
theorem sk_lL {σ : ah_S} {b k j n : Nat} (h : sk_ok σ b) (hk : k < 163) (ht : sk_T.getD k 0 = 104) (hn : sk_N.getD k 0 = n) (hn2 : n < 2147483648) (hj : j < n) : ah_lL σ (some (b + k)) (Int32.ofNat j) = some (ah_al σ (b + k) j) := by
  show (if (ah_tg σ (b + k) == 104 && ah_inb (Int32.ofNat j) (ah_ln σ (b + k))) = true then some (ah_al σ (b + k) (Int32.ofNat j).toNatClampNeg) else none) = _
  rw [h.2.1 k hk, h.2.2.1 k hk, ht, hn, nu_inb hj hn2, nu_cl (by omega)]
  simp
theorem sk_wL {σ : ah_S} {b k j n : Nat} {v : Int64} (h : sk_ok σ b) (hk : k < 163) (ht : sk_T.getD k 0 = 104) (hn : sk_N.getD k 0 = n) (hn2 : n < 2147483648) (hj : j < n) : ah_wL σ (some (b + k)) (Int32.ofNat j) v = some (ah_sL σ (b + k) j v) := by
  show (if (ah_tg σ (b + k) == 104 && ah_inb (Int32.ofNat j) (ah_ln σ (b + k))) = true then some (ah_sL σ (b + k) (Int32.ofNat j).toNatClampNeg v) else none) = _
  rw [h.2.1 k hk, h.2.2.1 k hk, ht, hn, nu_inb hj hn2, nu_cl (by omega)]
  simp
theorem sk_lQ {σ : ah_S} {b k t j n : Nat} (h : sk_ok σ b) (hk : k < 163) (ht : sk_T.getD k 0 = t) (hn : sk_N.getD k 0 = n) (hn2 : n < 2147483648) (hj : j < n) : ah_lQ σ t (some (b + k)) (Int32.ofNat j) = some (ah_ar σ (b + k) j) := by
  show (if (ah_tg σ (b + k) == t && ah_inb (Int32.ofNat j) (ah_ln σ (b + k))) = true then some (ah_ar σ (b + k) (Int32.ofNat j).toNatClampNeg) else none) = _
  rw [h.2.1 k hk, h.2.2.1 k hk, ht, hn, nu_inb hj hn2, nu_cl (by omega)]
  simp
theorem sk_wQ {σ : ah_S} {b k t j n : Nat} {v : Option Nat} (h : sk_ok σ b) (hk : k < 163) (ht : sk_T.getD k 0 = t) (hn : sk_N.getD k 0 = n) (hn2 : n < 2147483648) (hj : j < n) (hv : ∀ c, v = some c → ah_tk t (ah_tg σ c) = true) : ah_wQ σ t (some (b + k)) (Int32.ofNat j) v = some (ah_sQ σ (b + k) j v) := by
  cases v with
  | none =>
    show (if (ah_tg σ (b + k) == t && ah_inb (Int32.ofNat j) (ah_ln σ (b + k)) && true) = true then some (ah_sQ σ (b + k) (Int32.ofNat j).toNatClampNeg none) else none) = _
    rw [h.2.1 k hk, h.2.2.1 k hk, ht, hn, nu_inb hj hn2, nu_cl (by omega)]
    simp
  | some c =>
    show (if (ah_tg σ (b + k) == t && ah_inb (Int32.ofNat j) (ah_ln σ (b + k)) && ah_tk t (ah_tg σ c)) = true then some (ah_sQ σ (b + k) (Int32.ofNat j).toNatClampNeg (some c)) else none) = _
    rw [h.2.1 k hk, h.2.2.1 k hk, ht, hn, nu_inb hj hn2, nu_cl (by omega), hv c rfl]
    simp
theorem sk_is {σ : ah_S} {b k t : Nat} (h : sk_ok σ b) (hk : k < 163) (ht : sk_T.getD k 0 = t) : ah_is σ t (some (b + k)) = some () := by
  show (if ah_tg σ (b + k) = t then some () else none) = _
  rw [h.2.1 k hk, if_pos ht]
theorem sk_cp {σ : ah_S} {b k c i j n m1 m2 : Nat} (h : sk_ok σ b) (hk : k < 163) (hc : c < 163) (ht : sk_T.getD k 0 = 101) (hu : sk_T.getD c 0 = 101) (hm1 : sk_N.getD k 0 = m1) (hm2 : sk_N.getD c 0 = m2) (h1 : i + n ≤ m1) (h2 : j + n ≤ m2) (h3 : m1 < 2147483648) (h4 : m2 < 2147483648) : ah_cp σ (some (b + k)) (Int32.ofNat i) (some (b + c)) (Int32.ofNat j) (Int32.ofNat n) = some (ah_cpI σ (b + k) i (b + c) j n) := by
  show (if (ah_tg σ (b + k) == ah_tg σ (b + c) && decide (101 ≤ ah_tg σ (b + k)) && decide (ah_tg σ (b + k) ≤ 105) && !(decide (Int32.ofNat i < 0)) && !(decide (Int32.ofNat j < 0)) && !(decide (Int32.ofNat n < 0)) && decide ((Int32.ofNat i).toNatClampNeg + (Int32.ofNat n).toNatClampNeg ≤ ah_ln σ (b + k)) && decide ((Int32.ofNat j).toNatClampNeg + (Int32.ofNat n).toNatClampNeg ≤ ah_ln σ (b + c))) = true then some (if ah_tg σ (b + k) = 104 then ah_cpL σ (b + k) (Int32.ofNat i).toNatClampNeg (b + c) (Int32.ofNat j).toNatClampNeg (Int32.ofNat n).toNatClampNeg else ah_cpI σ (b + k) (Int32.ofNat i).toNatClampNeg (b + c) (Int32.ofNat j).toNatClampNeg (Int32.ofNat n).toNatClampNeg) else none) = _
  rw [h.2.1 k hk, h.2.1 c hc, h.2.2.1 k hk, h.2.2.1 c hc, ht, hu, hm1, hm2, nu_cl (by omega : i < 2147483648), nu_cl (by omega : j < 2147483648), nu_cl (by omega : n < 2147483648), decide_eq_false (nu_pos i (by omega)), decide_eq_false (nu_pos j (by omega)), decide_eq_false (nu_pos n (by omega)), decide_eq_true h1, decide_eq_true h2]
  rfl
theorem sg_0 {σ : ah_S} {b : Nat} (h : sk_ok σ b) : ah_gR σ 0 (some b) = some (some (b + 1)) := sk_gR (k := 0) h (by decide) (by decide) (by decide)
theorem sg_3 {σ : ah_S} {b : Nat} (h : sk_ok σ b) : ah_gR σ 3 (some b) = some (some (b + 2)) := sk_gR (k := 0) h (by decide) (by decide) (by decide)
theorem sg_5 {σ : ah_S} {b : Nat} (h : sk_ok σ b) : ah_gR σ 5 (some b) = some (some (b + 3)) := sk_gR (k := 0) h (by decide) (by decide) (by decide)
theorem sg_7 {σ : ah_S} {b : Nat} (h : sk_ok σ b) : ah_gR σ 7 (some b) = some (some (b + 4)) := sk_gR (k := 0) h (by decide) (by decide) (by decide)
theorem sg_9 {σ : ah_S} {b : Nat} (h : sk_ok σ b) : ah_gR σ 9 (some b) = some (some (b + 5)) := sk_gR (k := 0) h (by decide) (by decide) (by decide)
theorem sg_10 {σ : ah_S} {b : Nat} (h : sk_ok σ b) : ah_gR σ 10 (some b) = some (some (b + 6)) := sk_gR (k := 0) h (by decide) (by decide) (by decide)
theorem sg_11 {σ : ah_S} {b : Nat} (h : sk_ok σ b) : ah_gR σ 11 (some b) = some (some (b + 7)) := sk_gR (k := 0) h (by decide) (by decide) (by decide)
theorem sg_12 {σ : ah_S} {b : Nat} (h : sk_ok σ b) : ah_gR σ 12 (some b) = some (some (b + 8)) := sk_gR (k := 0) h (by decide) (by decide) (by decide)
theorem sg_13 {σ : ah_S} {b : Nat} (h : sk_ok σ b) : ah_gR σ 13 (some b) = some (some (b + 9)) := sk_gR (k := 0) h (by decide) (by decide) (by decide)
theorem sg_14 {σ : ah_S} {b : Nat} (h : sk_ok σ b) : ah_gR σ 14 (some b) = some (some (b + 10)) := sk_gR (k := 0) h (by decide) (by decide) (by decide)
theorem sg_15 {σ : ah_S} {b : Nat} (h : sk_ok σ b) : ah_gR σ 15 (some b) = some (some (b + 11)) := sk_gR (k := 0) h (by decide) (by decide) (by decide)
theorem sg_18 {σ : ah_S} {b : Nat} (h : sk_ok σ b) : ah_gR σ 18 (some b) = some (some (b + 12)) := sk_gR (k := 0) h (by decide) (by decide) (by decide)
theorem sg_19 {σ : ah_S} {b : Nat} (h : sk_ok σ b) : ah_gR σ 19 (some b) = some (some (b + 17)) := sk_gR (k := 0) h (by decide) (by decide) (by decide)
theorem sg_20 {σ : ah_S} {b : Nat} (h : sk_ok σ b) : ah_gR σ 20 (some b) = some (some (b + 22)) := sk_gR (k := 0) h (by decide) (by decide) (by decide)
theorem sg_22 {σ : ah_S} {b : Nat} (h : sk_ok σ b) : ah_gR σ 22 (some b) = some (some (b + 23)) := sk_gR (k := 0) h (by decide) (by decide) (by decide)
theorem sg_25 {σ : ah_S} {b : Nat} (h : sk_ok σ b) : ah_gR σ 25 (some b) = some (some (b + 24)) := sk_gR (k := 0) h (by decide) (by decide) (by decide)
theorem sg_26 {σ : ah_S} {b : Nat} (h : sk_ok σ b) : ah_gR σ 26 (some b) = some (some (b + 25)) := sk_gR (k := 0) h (by decide) (by decide) (by decide)
theorem sg_27 {σ : ah_S} {b : Nat} (h : sk_ok σ b) : ah_gR σ 27 (some b) = some (some (b + 26)) := sk_gR (k := 0) h (by decide) (by decide) (by decide)
theorem sg_29 {σ : ah_S} {b : Nat} (h : sk_ok σ b) : ah_gR σ 29 (some b) = some (some (b + 27)) := sk_gR (k := 0) h (by decide) (by decide) (by decide)
theorem sg_30 {σ : ah_S} {b : Nat} (h : sk_ok σ b) : ah_gR σ 30 (some b) = some (some (b + 63)) := sk_gR (k := 0) h (by decide) (by decide) (by decide)
theorem sg_31 {σ : ah_S} {b : Nat} (h : sk_ok σ b) : ah_gR σ 31 (some b) = some (some (b + 64)) := sk_gR (k := 0) h (by decide) (by decide) (by decide)
theorem sg_33 {σ : ah_S} {b : Nat} (h : sk_ok σ b) : ah_gR σ 33 (some b) = some (some (b + 65)) := sk_gR (k := 0) h (by decide) (by decide) (by decide)
theorem sg_35 {σ : ah_S} {b : Nat} (h : sk_ok σ b) : ah_gR σ 35 (some b) = some (some (b + 66)) := sk_gR (k := 0) h (by decide) (by decide) (by decide)
theorem sg_36 {σ : ah_S} {b : Nat} (h : sk_ok σ b) : ah_gR σ 36 (some b) = some (some (b + 71)) := sk_gR (k := 0) h (by decide) (by decide) (by decide)
theorem sg_37 {σ : ah_S} {b : Nat} (h : sk_ok σ b) : ah_gR σ 37 (some b) = some (some (b + 72)) := sk_gR (k := 0) h (by decide) (by decide) (by decide)
theorem sg_39 {σ : ah_S} {b : Nat} (h : sk_ok σ b) : ah_gR σ 39 (some b) = some (some (b + 73)) := sk_gR (k := 0) h (by decide) (by decide) (by decide)
theorem sg_41 {σ : ah_S} {b : Nat} (h : sk_ok σ b) : ah_gR σ 41 (some b) = some (some (b + 74)) := sk_gR (k := 0) h (by decide) (by decide) (by decide)
theorem si_1 {σ : ah_S} {b : Nat} (h : sk_ok σ b) : ah_gI σ 1 (some b) = some (ah_fi σ 1 b) := sk_gI (k := 0) h (by decide) (by decide)
theorem sp_1 {σ : ah_S} {b : Nat} (h : sk_ok σ b) {v : Int32} : ah_pI σ 1 (some b) v = some (ah_sI σ 1 b v) := sk_pI (k := 0) h (by decide) (by decide)
theorem si_2 {σ : ah_S} {b : Nat} (h : sk_ok σ b) : ah_gI σ 2 (some b) = some (ah_fi σ 2 b) := sk_gI (k := 0) h (by decide) (by decide)
theorem sp_2 {σ : ah_S} {b : Nat} (h : sk_ok σ b) {v : Int32} : ah_pI σ 2 (some b) v = some (ah_sI σ 2 b v) := sk_pI (k := 0) h (by decide) (by decide)
theorem si_4 {σ : ah_S} {b : Nat} (h : sk_ok σ b) : ah_gI σ 4 (some b) = some (ah_fi σ 4 b) := sk_gI (k := 0) h (by decide) (by decide)
theorem sp_4 {σ : ah_S} {b : Nat} (h : sk_ok σ b) {v : Int32} : ah_pI σ 4 (some b) v = some (ah_sI σ 4 b v) := sk_pI (k := 0) h (by decide) (by decide)
theorem si_6 {σ : ah_S} {b : Nat} (h : sk_ok σ b) : ah_gI σ 6 (some b) = some (ah_fi σ 6 b) := sk_gI (k := 0) h (by decide) (by decide)
theorem sp_6 {σ : ah_S} {b : Nat} (h : sk_ok σ b) {v : Int32} : ah_pI σ 6 (some b) v = some (ah_sI σ 6 b v) := sk_pI (k := 0) h (by decide) (by decide)
theorem si_8 {σ : ah_S} {b : Nat} (h : sk_ok σ b) : ah_gI σ 8 (some b) = some (ah_fi σ 8 b) := sk_gI (k := 0) h (by decide) (by decide)
theorem sp_8 {σ : ah_S} {b : Nat} (h : sk_ok σ b) {v : Int32} : ah_pI σ 8 (some b) v = some (ah_sI σ 8 b v) := sk_pI (k := 0) h (by decide) (by decide)
theorem si_16 {σ : ah_S} {b : Nat} (h : sk_ok σ b) : ah_gI σ 16 (some b) = some (ah_fi σ 16 b) := sk_gI (k := 0) h (by decide) (by decide)
theorem sp_16 {σ : ah_S} {b : Nat} (h : sk_ok σ b) {v : Int32} : ah_pI σ 16 (some b) v = some (ah_sI σ 16 b v) := sk_pI (k := 0) h (by decide) (by decide)
theorem si_21 {σ : ah_S} {b : Nat} (h : sk_ok σ b) : ah_gI σ 21 (some b) = some (ah_fi σ 21 b) := sk_gI (k := 0) h (by decide) (by decide)
theorem sp_21 {σ : ah_S} {b : Nat} (h : sk_ok σ b) {v : Int32} : ah_pI σ 21 (some b) v = some (ah_sI σ 21 b v) := sk_pI (k := 0) h (by decide) (by decide)
theorem si_23 {σ : ah_S} {b : Nat} (h : sk_ok σ b) : ah_gI σ 23 (some b) = some (ah_fi σ 23 b) := sk_gI (k := 0) h (by decide) (by decide)
theorem sp_23 {σ : ah_S} {b : Nat} (h : sk_ok σ b) {v : Int32} : ah_pI σ 23 (some b) v = some (ah_sI σ 23 b v) := sk_pI (k := 0) h (by decide) (by decide)
theorem si_24 {σ : ah_S} {b : Nat} (h : sk_ok σ b) : ah_gI σ 24 (some b) = some (ah_fi σ 24 b) := sk_gI (k := 0) h (by decide) (by decide)
theorem sp_24 {σ : ah_S} {b : Nat} (h : sk_ok σ b) {v : Int32} : ah_pI σ 24 (some b) v = some (ah_sI σ 24 b v) := sk_pI (k := 0) h (by decide) (by decide)
theorem si_28 {σ : ah_S} {b : Nat} (h : sk_ok σ b) : ah_gI σ 28 (some b) = some (ah_fi σ 28 b) := sk_gI (k := 0) h (by decide) (by decide)
theorem sp_28 {σ : ah_S} {b : Nat} (h : sk_ok σ b) {v : Int32} : ah_pI σ 28 (some b) v = some (ah_sI σ 28 b v) := sk_pI (k := 0) h (by decide) (by decide)
theorem si_32 {σ : ah_S} {b : Nat} (h : sk_ok σ b) : ah_gI σ 32 (some b) = some (ah_fi σ 32 b) := sk_gI (k := 0) h (by decide) (by decide)
theorem sp_32 {σ : ah_S} {b : Nat} (h : sk_ok σ b) {v : Int32} : ah_pI σ 32 (some b) v = some (ah_sI σ 32 b v) := sk_pI (k := 0) h (by decide) (by decide)
theorem si_34 {σ : ah_S} {b : Nat} (h : sk_ok σ b) : ah_gI σ 34 (some b) = some (ah_fi σ 34 b) := sk_gI (k := 0) h (by decide) (by decide)
theorem sp_34 {σ : ah_S} {b : Nat} (h : sk_ok σ b) {v : Int32} (hv : (v == 0 || v == 1) = true) : ah_pZ σ 34 (some b) v = some (ah_sI σ 34 b v) := sk_pZ (k := 0) h (by decide) (by decide) hv
theorem si_38 {σ : ah_S} {b : Nat} (h : sk_ok σ b) : ah_gI σ 38 (some b) = some (ah_fi σ 38 b) := sk_gI (k := 0) h (by decide) (by decide)
theorem sp_38 {σ : ah_S} {b : Nat} (h : sk_ok σ b) {v : Int32} : ah_pI σ 38 (some b) v = some (ah_sI σ 38 b v) := sk_pI (k := 0) h (by decide) (by decide)
theorem si_40 {σ : ah_S} {b : Nat} (h : sk_ok σ b) : ah_gI σ 40 (some b) = some (ah_fi σ 40 b) := sk_gI (k := 0) h (by decide) (by decide)
theorem sp_40 {σ : ah_S} {b : Nat} (h : sk_ok σ b) {v : Int32} : ah_pI σ 40 (some b) v = some (ah_sI σ 40 b v) := sk_pI (k := 0) h (by decide) (by decide)
theorem ss_0 {σ : ah_S} {b : Nat} (h : sk_ok σ b) : ah_is σ 1 (some b) = some () := sk_is (k := 0) h (by decide) (by decide)
theorem sg_601 {σ : ah_S} {b : Nat} (h : sk_ok σ b) : ah_gR σ 601 (some (b + 123)) = some (some (b + 124)) := sk_gR (k := 123) h (by decide) (by decide) (by decide)
theorem sg_602 {σ : ah_S} {b : Nat} (h : sk_ok σ b) : ah_gR σ 602 (some (b + 123)) = some (some (b + 125)) := sk_gR (k := 123) h (by decide) (by decide) (by decide)
theorem sg_604 {σ : ah_S} {b : Nat} (h : sk_ok σ b) : ah_gR σ 604 (some (b + 123)) = some (some (b + 126)) := sk_gR (k := 123) h (by decide) (by decide) (by decide)
theorem sg_605 {σ : ah_S} {b : Nat} (h : sk_ok σ b) : ah_gR σ 605 (some (b + 123)) = some (some (b + 127)) := sk_gR (k := 123) h (by decide) (by decide) (by decide)
theorem sg_606 {σ : ah_S} {b : Nat} (h : sk_ok σ b) : ah_gR σ 606 (some (b + 123)) = some (some (b + 128)) := sk_gR (k := 123) h (by decide) (by decide) (by decide)
theorem sg_607 {σ : ah_S} {b : Nat} (h : sk_ok σ b) : ah_gR σ 607 (some (b + 123)) = some (some (b + 129)) := sk_gR (k := 123) h (by decide) (by decide) (by decide)
theorem sg_611 {σ : ah_S} {b : Nat} (h : sk_ok σ b) : ah_gR σ 611 (some (b + 123)) = some (some (b + 130)) := sk_gR (k := 123) h (by decide) (by decide) (by decide)
theorem sg_614 {σ : ah_S} {b : Nat} (h : sk_ok σ b) : ah_gR σ 614 (some (b + 123)) = some (some (b + 131)) := sk_gR (k := 123) h (by decide) (by decide) (by decide)
theorem sg_615 {σ : ah_S} {b : Nat} (h : sk_ok σ b) : ah_gR σ 615 (some (b + 123)) = some (some (b + 132)) := sk_gR (k := 123) h (by decide) (by decide) (by decide)
theorem sg_616 {σ : ah_S} {b : Nat} (h : sk_ok σ b) : ah_gR σ 616 (some (b + 123)) = some (some (b + 133)) := sk_gR (k := 123) h (by decide) (by decide) (by decide)
theorem sg_617 {σ : ah_S} {b : Nat} (h : sk_ok σ b) : ah_gR σ 617 (some (b + 123)) = some (some (b + 134)) := sk_gR (k := 123) h (by decide) (by decide) (by decide)
theorem sg_618 {σ : ah_S} {b : Nat} (h : sk_ok σ b) : ah_gR σ 618 (some (b + 123)) = some (some (b + 135)) := sk_gR (k := 123) h (by decide) (by decide) (by decide)
theorem sg_624 {σ : ah_S} {b : Nat} (h : sk_ok σ b) : ah_gR σ 624 (some (b + 123)) = some (some (b + 136)) := sk_gR (k := 123) h (by decide) (by decide) (by decide)
theorem sg_625 {σ : ah_S} {b : Nat} (h : sk_ok σ b) : ah_gR σ 625 (some (b + 123)) = some (some (b + 137)) := sk_gR (k := 123) h (by decide) (by decide) (by decide)
theorem sg_626 {σ : ah_S} {b : Nat} (h : sk_ok σ b) : ah_gR σ 626 (some (b + 123)) = some (some (b + 138)) := sk_gR (k := 123) h (by decide) (by decide) (by decide)
theorem sg_627 {σ : ah_S} {b : Nat} (h : sk_ok σ b) : ah_gR σ 627 (some (b + 123)) = some (some (b + 139)) := sk_gR (k := 123) h (by decide) (by decide) (by decide)
theorem sg_628 {σ : ah_S} {b : Nat} (h : sk_ok σ b) : ah_gR σ 628 (some (b + 123)) = some (some (b + 140)) := sk_gR (k := 123) h (by decide) (by decide) (by decide)
theorem sg_629 {σ : ah_S} {b : Nat} (h : sk_ok σ b) : ah_gR σ 629 (some (b + 123)) = some (some (b + 141)) := sk_gR (k := 123) h (by decide) (by decide) (by decide)
theorem sg_630 {σ : ah_S} {b : Nat} (h : sk_ok σ b) : ah_gR σ 630 (some (b + 123)) = some (some (b + 142)) := sk_gR (k := 123) h (by decide) (by decide) (by decide)
theorem sg_632 {σ : ah_S} {b : Nat} (h : sk_ok σ b) : ah_gR σ 632 (some (b + 123)) = some (some (b + 143)) := sk_gR (k := 123) h (by decide) (by decide) (by decide)
theorem sg_633 {σ : ah_S} {b : Nat} (h : sk_ok σ b) : ah_gR σ 633 (some (b + 123)) = some (some (b + 144)) := sk_gR (k := 123) h (by decide) (by decide) (by decide)
theorem sg_634 {σ : ah_S} {b : Nat} (h : sk_ok σ b) : ah_gR σ 634 (some (b + 123)) = some (some (b + 145)) := sk_gR (k := 123) h (by decide) (by decide) (by decide)
theorem sg_635 {σ : ah_S} {b : Nat} (h : sk_ok σ b) : ah_gR σ 635 (some (b + 123)) = some (some (b + 146)) := sk_gR (k := 123) h (by decide) (by decide) (by decide)
theorem sg_637 {σ : ah_S} {b : Nat} (h : sk_ok σ b) : ah_gR σ 637 (some (b + 123)) = some (some (b + 147)) := sk_gR (k := 123) h (by decide) (by decide) (by decide)
theorem sg_638 {σ : ah_S} {b : Nat} (h : sk_ok σ b) : ah_gR σ 638 (some (b + 123)) = some (some (b + 148)) := sk_gR (k := 123) h (by decide) (by decide) (by decide)
theorem sg_639 {σ : ah_S} {b : Nat} (h : sk_ok σ b) : ah_gR σ 639 (some (b + 123)) = some (some (b + 149)) := sk_gR (k := 123) h (by decide) (by decide) (by decide)
theorem sg_640 {σ : ah_S} {b : Nat} (h : sk_ok σ b) : ah_gR σ 640 (some (b + 123)) = some (some (b + 150)) := sk_gR (k := 123) h (by decide) (by decide) (by decide)
theorem sg_642 {σ : ah_S} {b : Nat} (h : sk_ok σ b) : ah_gR σ 642 (some (b + 123)) = some (some (b + 151)) := sk_gR (k := 123) h (by decide) (by decide) (by decide)
theorem sg_643 {σ : ah_S} {b : Nat} (h : sk_ok σ b) : ah_gR σ 643 (some (b + 123)) = some (some (b + 152)) := sk_gR (k := 123) h (by decide) (by decide) (by decide)
theorem sg_645 {σ : ah_S} {b : Nat} (h : sk_ok σ b) : ah_gR σ 645 (some (b + 123)) = some (some (b + 153)) := sk_gR (k := 123) h (by decide) (by decide) (by decide)
theorem sg_648 {σ : ah_S} {b : Nat} (h : sk_ok σ b) : ah_gR σ 648 (some (b + 123)) = some (some (b + 154)) := sk_gR (k := 123) h (by decide) (by decide) (by decide)
theorem sg_650 {σ : ah_S} {b : Nat} (h : sk_ok σ b) : ah_gR σ 650 (some (b + 123)) = some (some (b + 155)) := sk_gR (k := 123) h (by decide) (by decide) (by decide)
theorem sg_651 {σ : ah_S} {b : Nat} (h : sk_ok σ b) : ah_gR σ 651 (some (b + 123)) = some (some (b + 156)) := sk_gR (k := 123) h (by decide) (by decide) (by decide)
theorem sg_653 {σ : ah_S} {b : Nat} (h : sk_ok σ b) : ah_gR σ 653 (some (b + 123)) = some (some (b + 157)) := sk_gR (k := 123) h (by decide) (by decide) (by decide)
theorem sg_655 {σ : ah_S} {b : Nat} (h : sk_ok σ b) : ah_gR σ 655 (some (b + 123)) = some (some (b + 158)) := sk_gR (k := 123) h (by decide) (by decide) (by decide)
theorem sg_656 {σ : ah_S} {b : Nat} (h : sk_ok σ b) : ah_gR σ 656 (some (b + 123)) = some (some (b + 159)) := sk_gR (k := 123) h (by decide) (by decide) (by decide)
theorem sg_657 {σ : ah_S} {b : Nat} (h : sk_ok σ b) : ah_gR σ 657 (some (b + 123)) = some (some (b + 160)) := sk_gR (k := 123) h (by decide) (by decide) (by decide)
theorem sg_658 {σ : ah_S} {b : Nat} (h : sk_ok σ b) : ah_gR σ 658 (some (b + 123)) = some (some (b + 161)) := sk_gR (k := 123) h (by decide) (by decide) (by decide)
theorem sg_659 {σ : ah_S} {b : Nat} (h : sk_ok σ b) : ah_gR σ 659 (some (b + 123)) = some (some (b + 162)) := sk_gR (k := 123) h (by decide) (by decide) (by decide)
theorem si_603 {σ : ah_S} {b : Nat} (h : sk_ok σ b) : ah_gI σ 603 (some (b + 123)) = some (ah_fi σ 603 (b + 123)) := sk_gI (k := 123) h (by decide) (by decide)
theorem sp_603 {σ : ah_S} {b : Nat} (h : sk_ok σ b) {v : Int32} : ah_pI σ 603 (some (b + 123)) v = some (ah_sI σ 603 (b + 123) v) := sk_pI (k := 123) h (by decide) (by decide)
theorem si_608 {σ : ah_S} {b : Nat} (h : sk_ok σ b) : ah_gI σ 608 (some (b + 123)) = some (ah_fi σ 608 (b + 123)) := sk_gI (k := 123) h (by decide) (by decide)
theorem sp_608 {σ : ah_S} {b : Nat} (h : sk_ok σ b) {v : Int32} : ah_pI σ 608 (some (b + 123)) v = some (ah_sI σ 608 (b + 123) v) := sk_pI (k := 123) h (by decide) (by decide)
theorem si_609 {σ : ah_S} {b : Nat} (h : sk_ok σ b) : ah_gI σ 609 (some (b + 123)) = some (ah_fi σ 609 (b + 123)) := sk_gI (k := 123) h (by decide) (by decide)
theorem sp_609 {σ : ah_S} {b : Nat} (h : sk_ok σ b) {v : Int32} : ah_pI σ 609 (some (b + 123)) v = some (ah_sI σ 609 (b + 123) v) := sk_pI (k := 123) h (by decide) (by decide)
theorem si_610 {σ : ah_S} {b : Nat} (h : sk_ok σ b) : ah_gI σ 610 (some (b + 123)) = some (ah_fi σ 610 (b + 123)) := sk_gI (k := 123) h (by decide) (by decide)
theorem sp_610 {σ : ah_S} {b : Nat} (h : sk_ok σ b) {v : Int32} : ah_pI σ 610 (some (b + 123)) v = some (ah_sI σ 610 (b + 123) v) := sk_pI (k := 123) h (by decide) (by decide)
theorem si_612 {σ : ah_S} {b : Nat} (h : sk_ok σ b) : ah_gI σ 612 (some (b + 123)) = some (ah_fi σ 612 (b + 123)) := sk_gI (k := 123) h (by decide) (by decide)
theorem sp_612 {σ : ah_S} {b : Nat} (h : sk_ok σ b) {v : Int32} : ah_pI σ 612 (some (b + 123)) v = some (ah_sI σ 612 (b + 123) v) := sk_pI (k := 123) h (by decide) (by decide)
theorem si_613 {σ : ah_S} {b : Nat} (h : sk_ok σ b) : ah_gI σ 613 (some (b + 123)) = some (ah_fi σ 613 (b + 123)) := sk_gI (k := 123) h (by decide) (by decide)
theorem sp_613 {σ : ah_S} {b : Nat} (h : sk_ok σ b) {v : Int32} : ah_pI σ 613 (some (b + 123)) v = some (ah_sI σ 613 (b + 123) v) := sk_pI (k := 123) h (by decide) (by decide)
theorem si_619 {σ : ah_S} {b : Nat} (h : sk_ok σ b) : ah_gI σ 619 (some (b + 123)) = some (ah_fi σ 619 (b + 123)) := sk_gI (k := 123) h (by decide) (by decide)
theorem sp_619 {σ : ah_S} {b : Nat} (h : sk_ok σ b) {v : Int32} : ah_pI σ 619 (some (b + 123)) v = some (ah_sI σ 619 (b + 123) v) := sk_pI (k := 123) h (by decide) (by decide)
theorem si_620 {σ : ah_S} {b : Nat} (h : sk_ok σ b) : ah_gI σ 620 (some (b + 123)) = some (ah_fi σ 620 (b + 123)) := sk_gI (k := 123) h (by decide) (by decide)
theorem sp_620 {σ : ah_S} {b : Nat} (h : sk_ok σ b) {v : Int32} : ah_pI σ 620 (some (b + 123)) v = some (ah_sI σ 620 (b + 123) v) := sk_pI (k := 123) h (by decide) (by decide)
theorem si_621 {σ : ah_S} {b : Nat} (h : sk_ok σ b) : ah_gI σ 621 (some (b + 123)) = some (ah_fi σ 621 (b + 123)) := sk_gI (k := 123) h (by decide) (by decide)
theorem sp_621 {σ : ah_S} {b : Nat} (h : sk_ok σ b) {v : Int32} : ah_pI σ 621 (some (b + 123)) v = some (ah_sI σ 621 (b + 123) v) := sk_pI (k := 123) h (by decide) (by decide)
theorem si_622 {σ : ah_S} {b : Nat} (h : sk_ok σ b) : ah_gI σ 622 (some (b + 123)) = some (ah_fi σ 622 (b + 123)) := sk_gI (k := 123) h (by decide) (by decide)
theorem sp_622 {σ : ah_S} {b : Nat} (h : sk_ok σ b) {v : Int32} : ah_pI σ 622 (some (b + 123)) v = some (ah_sI σ 622 (b + 123) v) := sk_pI (k := 123) h (by decide) (by decide)
theorem si_623 {σ : ah_S} {b : Nat} (h : sk_ok σ b) : ah_gI σ 623 (some (b + 123)) = some (ah_fi σ 623 (b + 123)) := sk_gI (k := 123) h (by decide) (by decide)
theorem sp_623 {σ : ah_S} {b : Nat} (h : sk_ok σ b) {v : Int32} : ah_pI σ 623 (some (b + 123)) v = some (ah_sI σ 623 (b + 123) v) := sk_pI (k := 123) h (by decide) (by decide)
theorem si_631 {σ : ah_S} {b : Nat} (h : sk_ok σ b) : ah_gI σ 631 (some (b + 123)) = some (ah_fi σ 631 (b + 123)) := sk_gI (k := 123) h (by decide) (by decide)
theorem sp_631 {σ : ah_S} {b : Nat} (h : sk_ok σ b) {v : Int32} (hv : (v == 0 || v == 1) = true) : ah_pZ σ 631 (some (b + 123)) v = some (ah_sI σ 631 (b + 123) v) := sk_pZ (k := 123) h (by decide) (by decide) hv
theorem si_636 {σ : ah_S} {b : Nat} (h : sk_ok σ b) : ah_gI σ 636 (some (b + 123)) = some (ah_fi σ 636 (b + 123)) := sk_gI (k := 123) h (by decide) (by decide)
theorem sp_636 {σ : ah_S} {b : Nat} (h : sk_ok σ b) {v : Int32} : ah_pI σ 636 (some (b + 123)) v = some (ah_sI σ 636 (b + 123) v) := sk_pI (k := 123) h (by decide) (by decide)
theorem si_641 {σ : ah_S} {b : Nat} (h : sk_ok σ b) : ah_gI σ 641 (some (b + 123)) = some (ah_fi σ 641 (b + 123)) := sk_gI (k := 123) h (by decide) (by decide)
theorem sp_641 {σ : ah_S} {b : Nat} (h : sk_ok σ b) {v : Int32} : ah_pI σ 641 (some (b + 123)) v = some (ah_sI σ 641 (b + 123) v) := sk_pI (k := 123) h (by decide) (by decide)
theorem si_644 {σ : ah_S} {b : Nat} (h : sk_ok σ b) : ah_gI σ 644 (some (b + 123)) = some (ah_fi σ 644 (b + 123)) := sk_gI (k := 123) h (by decide) (by decide)
theorem sp_644 {σ : ah_S} {b : Nat} (h : sk_ok σ b) {v : Int32} : ah_pI σ 644 (some (b + 123)) v = some (ah_sI σ 644 (b + 123) v) := sk_pI (k := 123) h (by decide) (by decide)
theorem si_646 {σ : ah_S} {b : Nat} (h : sk_ok σ b) : ah_gI σ 646 (some (b + 123)) = some (ah_fi σ 646 (b + 123)) := sk_gI (k := 123) h (by decide) (by decide)
theorem sp_646 {σ : ah_S} {b : Nat} (h : sk_ok σ b) {v : Int32} : ah_pI σ 646 (some (b + 123)) v = some (ah_sI σ 646 (b + 123) v) := sk_pI (k := 123) h (by decide) (by decide)
theorem si_647 {σ : ah_S} {b : Nat} (h : sk_ok σ b) : ah_gI σ 647 (some (b + 123)) = some (ah_fi σ 647 (b + 123)) := sk_gI (k := 123) h (by decide) (by decide)
theorem sp_647 {σ : ah_S} {b : Nat} (h : sk_ok σ b) {v : Int32} : ah_pI σ 647 (some (b + 123)) v = some (ah_sI σ 647 (b + 123) v) := sk_pI (k := 123) h (by decide) (by decide)
theorem si_649 {σ : ah_S} {b : Nat} (h : sk_ok σ b) : ah_gI σ 649 (some (b + 123)) = some (ah_fi σ 649 (b + 123)) := sk_gI (k := 123) h (by decide) (by decide)
theorem sp_649 {σ : ah_S} {b : Nat} (h : sk_ok σ b) {v : Int32} (hv : (v == 0 || v == 1) = true) : ah_pZ σ 649 (some (b + 123)) v = some (ah_sI σ 649 (b + 123) v) := sk_pZ (k := 123) h (by decide) (by decide) hv
theorem si_652 {σ : ah_S} {b : Nat} (h : sk_ok σ b) : ah_gI σ 652 (some (b + 123)) = some (ah_fi σ 652 (b + 123)) := sk_gI (k := 123) h (by decide) (by decide)
theorem sp_652 {σ : ah_S} {b : Nat} (h : sk_ok σ b) {v : Int32} : ah_pI σ 652 (some (b + 123)) v = some (ah_sI σ 652 (b + 123) v) := sk_pI (k := 123) h (by decide) (by decide)
theorem si_654 {σ : ah_S} {b : Nat} (h : sk_ok σ b) : ah_gI σ 654 (some (b + 123)) = some (ah_fi σ 654 (b + 123)) := sk_gI (k := 123) h (by decide) (by decide)
theorem sp_654 {σ : ah_S} {b : Nat} (h : sk_ok σ b) {v : Int32} : ah_pI σ 654 (some (b + 123)) v = some (ah_sI σ 654 (b + 123) v) := sk_pI (k := 123) h (by decide) (by decide)
theorem ss_123 {σ : ah_S} {b : Nat} (h : sk_ok σ b) : ah_is σ 7 (some (b + 123)) = some () := sk_is (k := 123) h (by decide) (by decide)
theorem al_1 {σ : ah_S} {b : Nat} (h : sk_ok σ b) {j : Nat} (hj : j < 40) : ah_lQ σ 111 (some (b + 1)) (Int32.ofNat j) = some (ah_ar σ (b + 1) j) := sk_lQ h (by decide) (by decide) (by decide) (by decide) hj
theorem aw_1 {σ : ah_S} {b : Nat} (h : sk_ok σ b) {j : Nat} {v : Option Nat} (hj : j < 40) (hv : ∀ c, v = some c → ah_tk 111 (ah_tg σ c) = true) : ah_wQ σ 111 (some (b + 1)) (Int32.ofNat j) v = some (ah_sQ σ (b + 1) j v) := sk_wQ h (by decide) (by decide) (by decide) (by decide) hj hv
theorem al_2 {σ : ah_S} {b : Nat} (h : sk_ok σ b) {j : Nat} (hj : j < 120) : ah_lA σ 101 (some (b + 2)) (Int32.ofNat j) = some (ah_ai σ (b + 2) j) := sk_lA h (by decide) (by decide) (by decide) (by decide) hj
theorem aw_2 {σ : ah_S} {b : Nat} (h : sk_ok σ b) {j : Nat} {v : Int32} (hj : j < 120) : ah_wA σ 101 (some (b + 2)) (Int32.ofNat j) v = some (ah_sA σ (b + 2) j v) := sk_wA h (by decide) (by decide) (by decide) (by decide) hj
theorem al_4 {σ : ah_S} {b : Nat} (h : sk_ok σ b) {j : Nat} (hj : j < 7) : ah_lQ σ 112 (some (b + 4)) (Int32.ofNat j) = some (ah_ar σ (b + 4) j) := sk_lQ h (by decide) (by decide) (by decide) (by decide) hj
theorem aw_4 {σ : ah_S} {b : Nat} (h : sk_ok σ b) {j : Nat} {v : Option Nat} (hj : j < 7) (hv : ∀ c, v = some c → ah_tk 112 (ah_tg σ c) = true) : ah_wQ σ 112 (some (b + 4)) (Int32.ofNat j) v = some (ah_sQ σ (b + 4) j v) := sk_wQ h (by decide) (by decide) (by decide) (by decide) hj hv
theorem al_5 {σ : ah_S} {b : Nat} (h : sk_ok σ b) {j : Nat} (hj : j < 4) : ah_lQ σ 113 (some (b + 5)) (Int32.ofNat j) = some (ah_ar σ (b + 5) j) := sk_lQ h (by decide) (by decide) (by decide) (by decide) hj
theorem aw_5 {σ : ah_S} {b : Nat} (h : sk_ok σ b) {j : Nat} {v : Option Nat} (hj : j < 4) (hv : ∀ c, v = some c → ah_tk 113 (ah_tg σ c) = true) : ah_wQ σ 113 (some (b + 5)) (Int32.ofNat j) v = some (ah_sQ σ (b + 5) j v) := sk_wQ h (by decide) (by decide) (by decide) (by decide) hj hv
theorem al_6 {σ : ah_S} {b : Nat} (h : sk_ok σ b) {j : Nat} (hj : j < 4) : ah_lQ σ 113 (some (b + 6)) (Int32.ofNat j) = some (ah_ar σ (b + 6) j) := sk_lQ h (by decide) (by decide) (by decide) (by decide) hj
theorem aw_6 {σ : ah_S} {b : Nat} (h : sk_ok σ b) {j : Nat} {v : Option Nat} (hj : j < 4) (hv : ∀ c, v = some c → ah_tk 113 (ah_tg σ c) = true) : ah_wQ σ 113 (some (b + 6)) (Int32.ofNat j) v = some (ah_sQ σ (b + 6) j v) := sk_wQ h (by decide) (by decide) (by decide) (by decide) hj hv
theorem al_11 {σ : ah_S} {b : Nat} (h : sk_ok σ b) {j : Nat} (hj : j < 6) : ah_lA σ 101 (some (b + 11)) (Int32.ofNat j) = some (ah_ai σ (b + 11) j) := sk_lA h (by decide) (by decide) (by decide) (by decide) hj
theorem aw_11 {σ : ah_S} {b : Nat} (h : sk_ok σ b) {j : Nat} {v : Int32} (hj : j < 6) : ah_wA σ 101 (some (b + 11)) (Int32.ofNat j) v = some (ah_sA σ (b + 11) j v) := sk_wA h (by decide) (by decide) (by decide) (by decide) hj
theorem al_11_0 {σ : ah_S} {b : Nat} (h : sk_ok σ b) : ah_lA σ 101 (some (b + 11)) (0 : Int32) = some (ah_ai σ (b + 11) 0) := sk_lA h (by decide) (by decide) (by decide) (by decide) (by decide : 0 < 6)
theorem aw_11_0 {σ : ah_S} {b : Nat} (h : sk_ok σ b) {v : Int32} : ah_wA σ 101 (some (b + 11)) (0 : Int32) v = some (ah_sA σ (b + 11) 0 v) := sk_wA h (by decide) (by decide) (by decide) (by decide) (by decide : 0 < 6)
theorem al_11_1 {σ : ah_S} {b : Nat} (h : sk_ok σ b) : ah_lA σ 101 (some (b + 11)) (1 : Int32) = some (ah_ai σ (b + 11) 1) := sk_lA h (by decide) (by decide) (by decide) (by decide) (by decide : 1 < 6)
theorem aw_11_1 {σ : ah_S} {b : Nat} (h : sk_ok σ b) {v : Int32} : ah_wA σ 101 (some (b + 11)) (1 : Int32) v = some (ah_sA σ (b + 11) 1 v) := sk_wA h (by decide) (by decide) (by decide) (by decide) (by decide : 1 < 6)
theorem al_11_2 {σ : ah_S} {b : Nat} (h : sk_ok σ b) : ah_lA σ 101 (some (b + 11)) (2 : Int32) = some (ah_ai σ (b + 11) 2) := sk_lA h (by decide) (by decide) (by decide) (by decide) (by decide : 2 < 6)
theorem aw_11_2 {σ : ah_S} {b : Nat} (h : sk_ok σ b) {v : Int32} : ah_wA σ 101 (some (b + 11)) (2 : Int32) v = some (ah_sA σ (b + 11) 2 v) := sk_wA h (by decide) (by decide) (by decide) (by decide) (by decide : 2 < 6)
theorem al_11_3 {σ : ah_S} {b : Nat} (h : sk_ok σ b) : ah_lA σ 101 (some (b + 11)) (3 : Int32) = some (ah_ai σ (b + 11) 3) := sk_lA h (by decide) (by decide) (by decide) (by decide) (by decide : 3 < 6)
theorem aw_11_3 {σ : ah_S} {b : Nat} (h : sk_ok σ b) {v : Int32} : ah_wA σ 101 (some (b + 11)) (3 : Int32) v = some (ah_sA σ (b + 11) 3 v) := sk_wA h (by decide) (by decide) (by decide) (by decide) (by decide : 3 < 6)
theorem al_11_4 {σ : ah_S} {b : Nat} (h : sk_ok σ b) : ah_lA σ 101 (some (b + 11)) (4 : Int32) = some (ah_ai σ (b + 11) 4) := sk_lA h (by decide) (by decide) (by decide) (by decide) (by decide : 4 < 6)
theorem aw_11_4 {σ : ah_S} {b : Nat} (h : sk_ok σ b) {v : Int32} : ah_wA σ 101 (some (b + 11)) (4 : Int32) v = some (ah_sA σ (b + 11) 4 v) := sk_wA h (by decide) (by decide) (by decide) (by decide) (by decide : 4 < 6)
theorem al_11_5 {σ : ah_S} {b : Nat} (h : sk_ok σ b) : ah_lA σ 101 (some (b + 11)) (5 : Int32) = some (ah_ai σ (b + 11) 5) := sk_lA h (by decide) (by decide) (by decide) (by decide) (by decide : 5 < 6)
theorem aw_11_5 {σ : ah_S} {b : Nat} (h : sk_ok σ b) {v : Int32} : ah_wA σ 101 (some (b + 11)) (5 : Int32) v = some (ah_sA σ (b + 11) 5 v) := sk_wA h (by decide) (by decide) (by decide) (by decide) (by decide : 5 < 6)
theorem al_13 {σ : ah_S} {b : Nat} (h : sk_ok σ b) {j : Nat} (hj : j < 4) : ah_lA σ 101 (some (b + 13)) (Int32.ofNat j) = some (ah_ai σ (b + 13) j) := sk_lA h (by decide) (by decide) (by decide) (by decide) hj
theorem aw_13 {σ : ah_S} {b : Nat} (h : sk_ok σ b) {j : Nat} {v : Int32} (hj : j < 4) : ah_wA σ 101 (some (b + 13)) (Int32.ofNat j) v = some (ah_sA σ (b + 13) j v) := sk_wA h (by decide) (by decide) (by decide) (by decide) hj
theorem al_13_0 {σ : ah_S} {b : Nat} (h : sk_ok σ b) : ah_lA σ 101 (some (b + 13)) (0 : Int32) = some (ah_ai σ (b + 13) 0) := sk_lA h (by decide) (by decide) (by decide) (by decide) (by decide : 0 < 4)
theorem aw_13_0 {σ : ah_S} {b : Nat} (h : sk_ok σ b) {v : Int32} : ah_wA σ 101 (some (b + 13)) (0 : Int32) v = some (ah_sA σ (b + 13) 0 v) := sk_wA h (by decide) (by decide) (by decide) (by decide) (by decide : 0 < 4)
theorem al_13_1 {σ : ah_S} {b : Nat} (h : sk_ok σ b) : ah_lA σ 101 (some (b + 13)) (1 : Int32) = some (ah_ai σ (b + 13) 1) := sk_lA h (by decide) (by decide) (by decide) (by decide) (by decide : 1 < 4)
theorem aw_13_1 {σ : ah_S} {b : Nat} (h : sk_ok σ b) {v : Int32} : ah_wA σ 101 (some (b + 13)) (1 : Int32) v = some (ah_sA σ (b + 13) 1 v) := sk_wA h (by decide) (by decide) (by decide) (by decide) (by decide : 1 < 4)
theorem al_13_2 {σ : ah_S} {b : Nat} (h : sk_ok σ b) : ah_lA σ 101 (some (b + 13)) (2 : Int32) = some (ah_ai σ (b + 13) 2) := sk_lA h (by decide) (by decide) (by decide) (by decide) (by decide : 2 < 4)
theorem aw_13_2 {σ : ah_S} {b : Nat} (h : sk_ok σ b) {v : Int32} : ah_wA σ 101 (some (b + 13)) (2 : Int32) v = some (ah_sA σ (b + 13) 2 v) := sk_wA h (by decide) (by decide) (by decide) (by decide) (by decide : 2 < 4)
theorem al_13_3 {σ : ah_S} {b : Nat} (h : sk_ok σ b) : ah_lA σ 101 (some (b + 13)) (3 : Int32) = some (ah_ai σ (b + 13) 3) := sk_lA h (by decide) (by decide) (by decide) (by decide) (by decide : 3 < 4)
theorem aw_13_3 {σ : ah_S} {b : Nat} (h : sk_ok σ b) {v : Int32} : ah_wA σ 101 (some (b + 13)) (3 : Int32) v = some (ah_sA σ (b + 13) 3 v) := sk_wA h (by decide) (by decide) (by decide) (by decide) (by decide : 3 < 4)
theorem al_14 {σ : ah_S} {b : Nat} (h : sk_ok σ b) {j : Nat} (hj : j < 4) : ah_lA σ 101 (some (b + 14)) (Int32.ofNat j) = some (ah_ai σ (b + 14) j) := sk_lA h (by decide) (by decide) (by decide) (by decide) hj
theorem aw_14 {σ : ah_S} {b : Nat} (h : sk_ok σ b) {j : Nat} {v : Int32} (hj : j < 4) : ah_wA σ 101 (some (b + 14)) (Int32.ofNat j) v = some (ah_sA σ (b + 14) j v) := sk_wA h (by decide) (by decide) (by decide) (by decide) hj
theorem al_14_0 {σ : ah_S} {b : Nat} (h : sk_ok σ b) : ah_lA σ 101 (some (b + 14)) (0 : Int32) = some (ah_ai σ (b + 14) 0) := sk_lA h (by decide) (by decide) (by decide) (by decide) (by decide : 0 < 4)
theorem aw_14_0 {σ : ah_S} {b : Nat} (h : sk_ok σ b) {v : Int32} : ah_wA σ 101 (some (b + 14)) (0 : Int32) v = some (ah_sA σ (b + 14) 0 v) := sk_wA h (by decide) (by decide) (by decide) (by decide) (by decide : 0 < 4)
theorem al_14_1 {σ : ah_S} {b : Nat} (h : sk_ok σ b) : ah_lA σ 101 (some (b + 14)) (1 : Int32) = some (ah_ai σ (b + 14) 1) := sk_lA h (by decide) (by decide) (by decide) (by decide) (by decide : 1 < 4)
theorem aw_14_1 {σ : ah_S} {b : Nat} (h : sk_ok σ b) {v : Int32} : ah_wA σ 101 (some (b + 14)) (1 : Int32) v = some (ah_sA σ (b + 14) 1 v) := sk_wA h (by decide) (by decide) (by decide) (by decide) (by decide : 1 < 4)
theorem al_14_2 {σ : ah_S} {b : Nat} (h : sk_ok σ b) : ah_lA σ 101 (some (b + 14)) (2 : Int32) = some (ah_ai σ (b + 14) 2) := sk_lA h (by decide) (by decide) (by decide) (by decide) (by decide : 2 < 4)
theorem aw_14_2 {σ : ah_S} {b : Nat} (h : sk_ok σ b) {v : Int32} : ah_wA σ 101 (some (b + 14)) (2 : Int32) v = some (ah_sA σ (b + 14) 2 v) := sk_wA h (by decide) (by decide) (by decide) (by decide) (by decide : 2 < 4)
theorem al_14_3 {σ : ah_S} {b : Nat} (h : sk_ok σ b) : ah_lA σ 101 (some (b + 14)) (3 : Int32) = some (ah_ai σ (b + 14) 3) := sk_lA h (by decide) (by decide) (by decide) (by decide) (by decide : 3 < 4)
theorem aw_14_3 {σ : ah_S} {b : Nat} (h : sk_ok σ b) {v : Int32} : ah_wA σ 101 (some (b + 14)) (3 : Int32) v = some (ah_sA σ (b + 14) 3 v) := sk_wA h (by decide) (by decide) (by decide) (by decide) (by decide : 3 < 4)
theorem al_15 {σ : ah_S} {b : Nat} (h : sk_ok σ b) {j : Nat} (hj : j < 28) : ah_lA σ 101 (some (b + 15)) (Int32.ofNat j) = some (ah_ai σ (b + 15) j) := sk_lA h (by decide) (by decide) (by decide) (by decide) hj
theorem aw_15 {σ : ah_S} {b : Nat} (h : sk_ok σ b) {j : Nat} {v : Int32} (hj : j < 28) : ah_wA σ 101 (some (b + 15)) (Int32.ofNat j) v = some (ah_sA σ (b + 15) j v) := sk_wA h (by decide) (by decide) (by decide) (by decide) hj
theorem al_16 {σ : ah_S} {b : Nat} (h : sk_ok σ b) {j : Nat} (hj : j < 4) : ah_lA σ 101 (some (b + 16)) (Int32.ofNat j) = some (ah_ai σ (b + 16) j) := sk_lA h (by decide) (by decide) (by decide) (by decide) hj
theorem aw_16 {σ : ah_S} {b : Nat} (h : sk_ok σ b) {j : Nat} {v : Int32} (hj : j < 4) : ah_wA σ 101 (some (b + 16)) (Int32.ofNat j) v = some (ah_sA σ (b + 16) j v) := sk_wA h (by decide) (by decide) (by decide) (by decide) hj
theorem al_16_0 {σ : ah_S} {b : Nat} (h : sk_ok σ b) : ah_lA σ 101 (some (b + 16)) (0 : Int32) = some (ah_ai σ (b + 16) 0) := sk_lA h (by decide) (by decide) (by decide) (by decide) (by decide : 0 < 4)
theorem aw_16_0 {σ : ah_S} {b : Nat} (h : sk_ok σ b) {v : Int32} : ah_wA σ 101 (some (b + 16)) (0 : Int32) v = some (ah_sA σ (b + 16) 0 v) := sk_wA h (by decide) (by decide) (by decide) (by decide) (by decide : 0 < 4)
theorem al_16_1 {σ : ah_S} {b : Nat} (h : sk_ok σ b) : ah_lA σ 101 (some (b + 16)) (1 : Int32) = some (ah_ai σ (b + 16) 1) := sk_lA h (by decide) (by decide) (by decide) (by decide) (by decide : 1 < 4)
theorem aw_16_1 {σ : ah_S} {b : Nat} (h : sk_ok σ b) {v : Int32} : ah_wA σ 101 (some (b + 16)) (1 : Int32) v = some (ah_sA σ (b + 16) 1 v) := sk_wA h (by decide) (by decide) (by decide) (by decide) (by decide : 1 < 4)
theorem al_16_2 {σ : ah_S} {b : Nat} (h : sk_ok σ b) : ah_lA σ 101 (some (b + 16)) (2 : Int32) = some (ah_ai σ (b + 16) 2) := sk_lA h (by decide) (by decide) (by decide) (by decide) (by decide : 2 < 4)
theorem aw_16_2 {σ : ah_S} {b : Nat} (h : sk_ok σ b) {v : Int32} : ah_wA σ 101 (some (b + 16)) (2 : Int32) v = some (ah_sA σ (b + 16) 2 v) := sk_wA h (by decide) (by decide) (by decide) (by decide) (by decide : 2 < 4)
theorem al_16_3 {σ : ah_S} {b : Nat} (h : sk_ok σ b) : ah_lA σ 101 (some (b + 16)) (3 : Int32) = some (ah_ai σ (b + 16) 3) := sk_lA h (by decide) (by decide) (by decide) (by decide) (by decide : 3 < 4)
theorem aw_16_3 {σ : ah_S} {b : Nat} (h : sk_ok σ b) {v : Int32} : ah_wA σ 101 (some (b + 16)) (3 : Int32) v = some (ah_sA σ (b + 16) 3 v) := sk_wA h (by decide) (by decide) (by decide) (by decide) (by decide : 3 < 4)
theorem al_18 {σ : ah_S} {b : Nat} (h : sk_ok σ b) {j : Nat} (hj : j < 4) : ah_lA σ 101 (some (b + 18)) (Int32.ofNat j) = some (ah_ai σ (b + 18) j) := sk_lA h (by decide) (by decide) (by decide) (by decide) hj
theorem aw_18 {σ : ah_S} {b : Nat} (h : sk_ok σ b) {j : Nat} {v : Int32} (hj : j < 4) : ah_wA σ 101 (some (b + 18)) (Int32.ofNat j) v = some (ah_sA σ (b + 18) j v) := sk_wA h (by decide) (by decide) (by decide) (by decide) hj
theorem al_18_0 {σ : ah_S} {b : Nat} (h : sk_ok σ b) : ah_lA σ 101 (some (b + 18)) (0 : Int32) = some (ah_ai σ (b + 18) 0) := sk_lA h (by decide) (by decide) (by decide) (by decide) (by decide : 0 < 4)
theorem aw_18_0 {σ : ah_S} {b : Nat} (h : sk_ok σ b) {v : Int32} : ah_wA σ 101 (some (b + 18)) (0 : Int32) v = some (ah_sA σ (b + 18) 0 v) := sk_wA h (by decide) (by decide) (by decide) (by decide) (by decide : 0 < 4)
theorem al_18_1 {σ : ah_S} {b : Nat} (h : sk_ok σ b) : ah_lA σ 101 (some (b + 18)) (1 : Int32) = some (ah_ai σ (b + 18) 1) := sk_lA h (by decide) (by decide) (by decide) (by decide) (by decide : 1 < 4)
theorem aw_18_1 {σ : ah_S} {b : Nat} (h : sk_ok σ b) {v : Int32} : ah_wA σ 101 (some (b + 18)) (1 : Int32) v = some (ah_sA σ (b + 18) 1 v) := sk_wA h (by decide) (by decide) (by decide) (by decide) (by decide : 1 < 4)
theorem al_18_2 {σ : ah_S} {b : Nat} (h : sk_ok σ b) : ah_lA σ 101 (some (b + 18)) (2 : Int32) = some (ah_ai σ (b + 18) 2) := sk_lA h (by decide) (by decide) (by decide) (by decide) (by decide : 2 < 4)
theorem aw_18_2 {σ : ah_S} {b : Nat} (h : sk_ok σ b) {v : Int32} : ah_wA σ 101 (some (b + 18)) (2 : Int32) v = some (ah_sA σ (b + 18) 2 v) := sk_wA h (by decide) (by decide) (by decide) (by decide) (by decide : 2 < 4)
theorem al_18_3 {σ : ah_S} {b : Nat} (h : sk_ok σ b) : ah_lA σ 101 (some (b + 18)) (3 : Int32) = some (ah_ai σ (b + 18) 3) := sk_lA h (by decide) (by decide) (by decide) (by decide) (by decide : 3 < 4)
theorem aw_18_3 {σ : ah_S} {b : Nat} (h : sk_ok σ b) {v : Int32} : ah_wA σ 101 (some (b + 18)) (3 : Int32) v = some (ah_sA σ (b + 18) 3 v) := sk_wA h (by decide) (by decide) (by decide) (by decide) (by decide : 3 < 4)
theorem al_19 {σ : ah_S} {b : Nat} (h : sk_ok σ b) {j : Nat} (hj : j < 4) : ah_lA σ 101 (some (b + 19)) (Int32.ofNat j) = some (ah_ai σ (b + 19) j) := sk_lA h (by decide) (by decide) (by decide) (by decide) hj
theorem aw_19 {σ : ah_S} {b : Nat} (h : sk_ok σ b) {j : Nat} {v : Int32} (hj : j < 4) : ah_wA σ 101 (some (b + 19)) (Int32.ofNat j) v = some (ah_sA σ (b + 19) j v) := sk_wA h (by decide) (by decide) (by decide) (by decide) hj
theorem al_19_0 {σ : ah_S} {b : Nat} (h : sk_ok σ b) : ah_lA σ 101 (some (b + 19)) (0 : Int32) = some (ah_ai σ (b + 19) 0) := sk_lA h (by decide) (by decide) (by decide) (by decide) (by decide : 0 < 4)
theorem aw_19_0 {σ : ah_S} {b : Nat} (h : sk_ok σ b) {v : Int32} : ah_wA σ 101 (some (b + 19)) (0 : Int32) v = some (ah_sA σ (b + 19) 0 v) := sk_wA h (by decide) (by decide) (by decide) (by decide) (by decide : 0 < 4)
theorem al_19_1 {σ : ah_S} {b : Nat} (h : sk_ok σ b) : ah_lA σ 101 (some (b + 19)) (1 : Int32) = some (ah_ai σ (b + 19) 1) := sk_lA h (by decide) (by decide) (by decide) (by decide) (by decide : 1 < 4)
theorem aw_19_1 {σ : ah_S} {b : Nat} (h : sk_ok σ b) {v : Int32} : ah_wA σ 101 (some (b + 19)) (1 : Int32) v = some (ah_sA σ (b + 19) 1 v) := sk_wA h (by decide) (by decide) (by decide) (by decide) (by decide : 1 < 4)
theorem al_19_2 {σ : ah_S} {b : Nat} (h : sk_ok σ b) : ah_lA σ 101 (some (b + 19)) (2 : Int32) = some (ah_ai σ (b + 19) 2) := sk_lA h (by decide) (by decide) (by decide) (by decide) (by decide : 2 < 4)
theorem aw_19_2 {σ : ah_S} {b : Nat} (h : sk_ok σ b) {v : Int32} : ah_wA σ 101 (some (b + 19)) (2 : Int32) v = some (ah_sA σ (b + 19) 2 v) := sk_wA h (by decide) (by decide) (by decide) (by decide) (by decide : 2 < 4)
theorem al_19_3 {σ : ah_S} {b : Nat} (h : sk_ok σ b) : ah_lA σ 101 (some (b + 19)) (3 : Int32) = some (ah_ai σ (b + 19) 3) := sk_lA h (by decide) (by decide) (by decide) (by decide) (by decide : 3 < 4)
theorem aw_19_3 {σ : ah_S} {b : Nat} (h : sk_ok σ b) {v : Int32} : ah_wA σ 101 (some (b + 19)) (3 : Int32) v = some (ah_sA σ (b + 19) 3 v) := sk_wA h (by decide) (by decide) (by decide) (by decide) (by decide : 3 < 4)
theorem al_20 {σ : ah_S} {b : Nat} (h : sk_ok σ b) {j : Nat} (hj : j < 28) : ah_lA σ 101 (some (b + 20)) (Int32.ofNat j) = some (ah_ai σ (b + 20) j) := sk_lA h (by decide) (by decide) (by decide) (by decide) hj
theorem aw_20 {σ : ah_S} {b : Nat} (h : sk_ok σ b) {j : Nat} {v : Int32} (hj : j < 28) : ah_wA σ 101 (some (b + 20)) (Int32.ofNat j) v = some (ah_sA σ (b + 20) j v) := sk_wA h (by decide) (by decide) (by decide) (by decide) hj
theorem al_21 {σ : ah_S} {b : Nat} (h : sk_ok σ b) {j : Nat} (hj : j < 4) : ah_lA σ 101 (some (b + 21)) (Int32.ofNat j) = some (ah_ai σ (b + 21) j) := sk_lA h (by decide) (by decide) (by decide) (by decide) hj
theorem aw_21 {σ : ah_S} {b : Nat} (h : sk_ok σ b) {j : Nat} {v : Int32} (hj : j < 4) : ah_wA σ 101 (some (b + 21)) (Int32.ofNat j) v = some (ah_sA σ (b + 21) j v) := sk_wA h (by decide) (by decide) (by decide) (by decide) hj
theorem al_21_0 {σ : ah_S} {b : Nat} (h : sk_ok σ b) : ah_lA σ 101 (some (b + 21)) (0 : Int32) = some (ah_ai σ (b + 21) 0) := sk_lA h (by decide) (by decide) (by decide) (by decide) (by decide : 0 < 4)
theorem aw_21_0 {σ : ah_S} {b : Nat} (h : sk_ok σ b) {v : Int32} : ah_wA σ 101 (some (b + 21)) (0 : Int32) v = some (ah_sA σ (b + 21) 0 v) := sk_wA h (by decide) (by decide) (by decide) (by decide) (by decide : 0 < 4)
theorem al_21_1 {σ : ah_S} {b : Nat} (h : sk_ok σ b) : ah_lA σ 101 (some (b + 21)) (1 : Int32) = some (ah_ai σ (b + 21) 1) := sk_lA h (by decide) (by decide) (by decide) (by decide) (by decide : 1 < 4)
theorem aw_21_1 {σ : ah_S} {b : Nat} (h : sk_ok σ b) {v : Int32} : ah_wA σ 101 (some (b + 21)) (1 : Int32) v = some (ah_sA σ (b + 21) 1 v) := sk_wA h (by decide) (by decide) (by decide) (by decide) (by decide : 1 < 4)
theorem al_21_2 {σ : ah_S} {b : Nat} (h : sk_ok σ b) : ah_lA σ 101 (some (b + 21)) (2 : Int32) = some (ah_ai σ (b + 21) 2) := sk_lA h (by decide) (by decide) (by decide) (by decide) (by decide : 2 < 4)
theorem aw_21_2 {σ : ah_S} {b : Nat} (h : sk_ok σ b) {v : Int32} : ah_wA σ 101 (some (b + 21)) (2 : Int32) v = some (ah_sA σ (b + 21) 2 v) := sk_wA h (by decide) (by decide) (by decide) (by decide) (by decide : 2 < 4)
theorem al_21_3 {σ : ah_S} {b : Nat} (h : sk_ok σ b) : ah_lA σ 101 (some (b + 21)) (3 : Int32) = some (ah_ai σ (b + 21) 3) := sk_lA h (by decide) (by decide) (by decide) (by decide) (by decide : 3 < 4)
theorem aw_21_3 {σ : ah_S} {b : Nat} (h : sk_ok σ b) {v : Int32} : ah_wA σ 101 (some (b + 21)) (3 : Int32) v = some (ah_sA σ (b + 21) 3 v) := sk_wA h (by decide) (by decide) (by decide) (by decide) (by decide : 3 < 4)
theorem al_22 {σ : ah_S} {b : Nat} (h : sk_ok σ b) {j : Nat} (hj : j < 30) : ah_lA σ 101 (some (b + 22)) (Int32.ofNat j) = some (ah_ai σ (b + 22) j) := sk_lA h (by decide) (by decide) (by decide) (by decide) hj
theorem aw_22 {σ : ah_S} {b : Nat} (h : sk_ok σ b) {j : Nat} {v : Int32} (hj : j < 30) : ah_wA σ 101 (some (b + 22)) (Int32.ofNat j) v = some (ah_sA σ (b + 22) j v) := sk_wA h (by decide) (by decide) (by decide) (by decide) hj
theorem al_23 {σ : ah_S} {b : Nat} (h : sk_ok σ b) {j : Nat} (hj : j < 7437) : ah_lA σ 101 (some (b + 23)) (Int32.ofNat j) = some (ah_ai σ (b + 23) j) := sk_lA h (by decide) (by decide) (by decide) (by decide) hj
theorem aw_23 {σ : ah_S} {b : Nat} (h : sk_ok σ b) {j : Nat} {v : Int32} (hj : j < 7437) : ah_wA σ 101 (some (b + 23)) (Int32.ofNat j) v = some (ah_sA σ (b + 23) j v) := sk_wA h (by decide) (by decide) (by decide) (by decide) hj
theorem al_24 {σ : ah_S} {b : Nat} (h : sk_ok σ b) {j : Nat} (hj : j < 30) : ah_lA σ 101 (some (b + 24)) (Int32.ofNat j) = some (ah_ai σ (b + 24) j) := sk_lA h (by decide) (by decide) (by decide) (by decide) hj
theorem aw_24 {σ : ah_S} {b : Nat} (h : sk_ok σ b) {j : Nat} {v : Int32} (hj : j < 30) : ah_wA σ 101 (some (b + 24)) (Int32.ofNat j) v = some (ah_sA σ (b + 24) j v) := sk_wA h (by decide) (by decide) (by decide) (by decide) hj
theorem al_25 {σ : ah_S} {b : Nat} (h : sk_ok σ b) {j : Nat} (hj : j < 5) : ah_lA σ 101 (some (b + 25)) (Int32.ofNat j) = some (ah_ai σ (b + 25) j) := sk_lA h (by decide) (by decide) (by decide) (by decide) hj
theorem aw_25 {σ : ah_S} {b : Nat} (h : sk_ok σ b) {j : Nat} {v : Int32} (hj : j < 5) : ah_wA σ 101 (some (b + 25)) (Int32.ofNat j) v = some (ah_sA σ (b + 25) j v) := sk_wA h (by decide) (by decide) (by decide) (by decide) hj
theorem al_25_0 {σ : ah_S} {b : Nat} (h : sk_ok σ b) : ah_lA σ 101 (some (b + 25)) (0 : Int32) = some (ah_ai σ (b + 25) 0) := sk_lA h (by decide) (by decide) (by decide) (by decide) (by decide : 0 < 5)
theorem aw_25_0 {σ : ah_S} {b : Nat} (h : sk_ok σ b) {v : Int32} : ah_wA σ 101 (some (b + 25)) (0 : Int32) v = some (ah_sA σ (b + 25) 0 v) := sk_wA h (by decide) (by decide) (by decide) (by decide) (by decide : 0 < 5)
theorem al_25_1 {σ : ah_S} {b : Nat} (h : sk_ok σ b) : ah_lA σ 101 (some (b + 25)) (1 : Int32) = some (ah_ai σ (b + 25) 1) := sk_lA h (by decide) (by decide) (by decide) (by decide) (by decide : 1 < 5)
theorem aw_25_1 {σ : ah_S} {b : Nat} (h : sk_ok σ b) {v : Int32} : ah_wA σ 101 (some (b + 25)) (1 : Int32) v = some (ah_sA σ (b + 25) 1 v) := sk_wA h (by decide) (by decide) (by decide) (by decide) (by decide : 1 < 5)
theorem al_25_2 {σ : ah_S} {b : Nat} (h : sk_ok σ b) : ah_lA σ 101 (some (b + 25)) (2 : Int32) = some (ah_ai σ (b + 25) 2) := sk_lA h (by decide) (by decide) (by decide) (by decide) (by decide : 2 < 5)
theorem aw_25_2 {σ : ah_S} {b : Nat} (h : sk_ok σ b) {v : Int32} : ah_wA σ 101 (some (b + 25)) (2 : Int32) v = some (ah_sA σ (b + 25) 2 v) := sk_wA h (by decide) (by decide) (by decide) (by decide) (by decide : 2 < 5)
theorem al_25_3 {σ : ah_S} {b : Nat} (h : sk_ok σ b) : ah_lA σ 101 (some (b + 25)) (3 : Int32) = some (ah_ai σ (b + 25) 3) := sk_lA h (by decide) (by decide) (by decide) (by decide) (by decide : 3 < 5)
theorem aw_25_3 {σ : ah_S} {b : Nat} (h : sk_ok σ b) {v : Int32} : ah_wA σ 101 (some (b + 25)) (3 : Int32) v = some (ah_sA σ (b + 25) 3 v) := sk_wA h (by decide) (by decide) (by decide) (by decide) (by decide : 3 < 5)
theorem al_25_4 {σ : ah_S} {b : Nat} (h : sk_ok σ b) : ah_lA σ 101 (some (b + 25)) (4 : Int32) = some (ah_ai σ (b + 25) 4) := sk_lA h (by decide) (by decide) (by decide) (by decide) (by decide : 4 < 5)
theorem aw_25_4 {σ : ah_S} {b : Nat} (h : sk_ok σ b) {v : Int32} : ah_wA σ 101 (some (b + 25)) (4 : Int32) v = some (ah_sA σ (b + 25) 4 v) := sk_wA h (by decide) (by decide) (by decide) (by decide) (by decide : 4 < 5)
theorem al_26 {σ : ah_S} {b : Nat} (h : sk_ok σ b) {j : Nat} (hj : j < 5) : ah_lA σ 101 (some (b + 26)) (Int32.ofNat j) = some (ah_ai σ (b + 26) j) := sk_lA h (by decide) (by decide) (by decide) (by decide) hj
theorem aw_26 {σ : ah_S} {b : Nat} (h : sk_ok σ b) {j : Nat} {v : Int32} (hj : j < 5) : ah_wA σ 101 (some (b + 26)) (Int32.ofNat j) v = some (ah_sA σ (b + 26) j v) := sk_wA h (by decide) (by decide) (by decide) (by decide) hj
theorem al_26_0 {σ : ah_S} {b : Nat} (h : sk_ok σ b) : ah_lA σ 101 (some (b + 26)) (0 : Int32) = some (ah_ai σ (b + 26) 0) := sk_lA h (by decide) (by decide) (by decide) (by decide) (by decide : 0 < 5)
theorem aw_26_0 {σ : ah_S} {b : Nat} (h : sk_ok σ b) {v : Int32} : ah_wA σ 101 (some (b + 26)) (0 : Int32) v = some (ah_sA σ (b + 26) 0 v) := sk_wA h (by decide) (by decide) (by decide) (by decide) (by decide : 0 < 5)
theorem al_26_1 {σ : ah_S} {b : Nat} (h : sk_ok σ b) : ah_lA σ 101 (some (b + 26)) (1 : Int32) = some (ah_ai σ (b + 26) 1) := sk_lA h (by decide) (by decide) (by decide) (by decide) (by decide : 1 < 5)
theorem aw_26_1 {σ : ah_S} {b : Nat} (h : sk_ok σ b) {v : Int32} : ah_wA σ 101 (some (b + 26)) (1 : Int32) v = some (ah_sA σ (b + 26) 1 v) := sk_wA h (by decide) (by decide) (by decide) (by decide) (by decide : 1 < 5)
theorem al_26_2 {σ : ah_S} {b : Nat} (h : sk_ok σ b) : ah_lA σ 101 (some (b + 26)) (2 : Int32) = some (ah_ai σ (b + 26) 2) := sk_lA h (by decide) (by decide) (by decide) (by decide) (by decide : 2 < 5)
theorem aw_26_2 {σ : ah_S} {b : Nat} (h : sk_ok σ b) {v : Int32} : ah_wA σ 101 (some (b + 26)) (2 : Int32) v = some (ah_sA σ (b + 26) 2 v) := sk_wA h (by decide) (by decide) (by decide) (by decide) (by decide : 2 < 5)
theorem al_26_3 {σ : ah_S} {b : Nat} (h : sk_ok σ b) : ah_lA σ 101 (some (b + 26)) (3 : Int32) = some (ah_ai σ (b + 26) 3) := sk_lA h (by decide) (by decide) (by decide) (by decide) (by decide : 3 < 5)
theorem aw_26_3 {σ : ah_S} {b : Nat} (h : sk_ok σ b) {v : Int32} : ah_wA σ 101 (some (b + 26)) (3 : Int32) v = some (ah_sA σ (b + 26) 3 v) := sk_wA h (by decide) (by decide) (by decide) (by decide) (by decide : 3 < 5)
theorem al_26_4 {σ : ah_S} {b : Nat} (h : sk_ok σ b) : ah_lA σ 101 (some (b + 26)) (4 : Int32) = some (ah_ai σ (b + 26) 4) := sk_lA h (by decide) (by decide) (by decide) (by decide) (by decide : 4 < 5)
theorem aw_26_4 {σ : ah_S} {b : Nat} (h : sk_ok σ b) {v : Int32} : ah_wA σ 101 (some (b + 26)) (4 : Int32) v = some (ah_sA σ (b + 26) 4 v) := sk_wA h (by decide) (by decide) (by decide) (by decide) (by decide : 4 < 5)
theorem al_27 {σ : ah_S} {b : Nat} (h : sk_ok σ b) {j : Nat} (hj : j < 7) : ah_lQ σ 114 (some (b + 27)) (Int32.ofNat j) = some (ah_ar σ (b + 27) j) := sk_lQ h (by decide) (by decide) (by decide) (by decide) hj
theorem aw_27 {σ : ah_S} {b : Nat} (h : sk_ok σ b) {j : Nat} {v : Option Nat} (hj : j < 7) (hv : ∀ c, v = some c → ah_tk 114 (ah_tg σ c) = true) : ah_wQ σ 114 (some (b + 27)) (Int32.ofNat j) v = some (ah_sQ σ (b + 27) j v) := sk_wQ h (by decide) (by decide) (by decide) (by decide) hj hv
theorem al_29 {σ : ah_S} {b : Nat} (h : sk_ok σ b) {j : Nat} (hj : j < 4) : ah_lA σ 101 (some (b + 29)) (Int32.ofNat j) = some (ah_ai σ (b + 29) j) := sk_lA h (by decide) (by decide) (by decide) (by decide) hj
theorem aw_29 {σ : ah_S} {b : Nat} (h : sk_ok σ b) {j : Nat} {v : Int32} (hj : j < 4) : ah_wA σ 101 (some (b + 29)) (Int32.ofNat j) v = some (ah_sA σ (b + 29) j v) := sk_wA h (by decide) (by decide) (by decide) (by decide) hj
theorem al_29_0 {σ : ah_S} {b : Nat} (h : sk_ok σ b) : ah_lA σ 101 (some (b + 29)) (0 : Int32) = some (ah_ai σ (b + 29) 0) := sk_lA h (by decide) (by decide) (by decide) (by decide) (by decide : 0 < 4)
theorem aw_29_0 {σ : ah_S} {b : Nat} (h : sk_ok σ b) {v : Int32} : ah_wA σ 101 (some (b + 29)) (0 : Int32) v = some (ah_sA σ (b + 29) 0 v) := sk_wA h (by decide) (by decide) (by decide) (by decide) (by decide : 0 < 4)
theorem al_29_1 {σ : ah_S} {b : Nat} (h : sk_ok σ b) : ah_lA σ 101 (some (b + 29)) (1 : Int32) = some (ah_ai σ (b + 29) 1) := sk_lA h (by decide) (by decide) (by decide) (by decide) (by decide : 1 < 4)
theorem aw_29_1 {σ : ah_S} {b : Nat} (h : sk_ok σ b) {v : Int32} : ah_wA σ 101 (some (b + 29)) (1 : Int32) v = some (ah_sA σ (b + 29) 1 v) := sk_wA h (by decide) (by decide) (by decide) (by decide) (by decide : 1 < 4)
theorem al_29_2 {σ : ah_S} {b : Nat} (h : sk_ok σ b) : ah_lA σ 101 (some (b + 29)) (2 : Int32) = some (ah_ai σ (b + 29) 2) := sk_lA h (by decide) (by decide) (by decide) (by decide) (by decide : 2 < 4)
theorem aw_29_2 {σ : ah_S} {b : Nat} (h : sk_ok σ b) {v : Int32} : ah_wA σ 101 (some (b + 29)) (2 : Int32) v = some (ah_sA σ (b + 29) 2 v) := sk_wA h (by decide) (by decide) (by decide) (by decide) (by decide : 2 < 4)
theorem al_29_3 {σ : ah_S} {b : Nat} (h : sk_ok σ b) : ah_lA σ 101 (some (b + 29)) (3 : Int32) = some (ah_ai σ (b + 29) 3) := sk_lA h (by decide) (by decide) (by decide) (by decide) (by decide : 3 < 4)
theorem aw_29_3 {σ : ah_S} {b : Nat} (h : sk_ok σ b) {v : Int32} : ah_wA σ 101 (some (b + 29)) (3 : Int32) v = some (ah_sA σ (b + 29) 3 v) := sk_wA h (by decide) (by decide) (by decide) (by decide) (by decide : 3 < 4)
theorem al_30 {σ : ah_S} {b : Nat} (h : sk_ok σ b) {j : Nat} (hj : j < 4) : ah_lA σ 101 (some (b + 30)) (Int32.ofNat j) = some (ah_ai σ (b + 30) j) := sk_lA h (by decide) (by decide) (by decide) (by decide) hj
theorem aw_30 {σ : ah_S} {b : Nat} (h : sk_ok σ b) {j : Nat} {v : Int32} (hj : j < 4) : ah_wA σ 101 (some (b + 30)) (Int32.ofNat j) v = some (ah_sA σ (b + 30) j v) := sk_wA h (by decide) (by decide) (by decide) (by decide) hj
theorem al_30_0 {σ : ah_S} {b : Nat} (h : sk_ok σ b) : ah_lA σ 101 (some (b + 30)) (0 : Int32) = some (ah_ai σ (b + 30) 0) := sk_lA h (by decide) (by decide) (by decide) (by decide) (by decide : 0 < 4)
theorem aw_30_0 {σ : ah_S} {b : Nat} (h : sk_ok σ b) {v : Int32} : ah_wA σ 101 (some (b + 30)) (0 : Int32) v = some (ah_sA σ (b + 30) 0 v) := sk_wA h (by decide) (by decide) (by decide) (by decide) (by decide : 0 < 4)
theorem al_30_1 {σ : ah_S} {b : Nat} (h : sk_ok σ b) : ah_lA σ 101 (some (b + 30)) (1 : Int32) = some (ah_ai σ (b + 30) 1) := sk_lA h (by decide) (by decide) (by decide) (by decide) (by decide : 1 < 4)
theorem aw_30_1 {σ : ah_S} {b : Nat} (h : sk_ok σ b) {v : Int32} : ah_wA σ 101 (some (b + 30)) (1 : Int32) v = some (ah_sA σ (b + 30) 1 v) := sk_wA h (by decide) (by decide) (by decide) (by decide) (by decide : 1 < 4)
theorem al_30_2 {σ : ah_S} {b : Nat} (h : sk_ok σ b) : ah_lA σ 101 (some (b + 30)) (2 : Int32) = some (ah_ai σ (b + 30) 2) := sk_lA h (by decide) (by decide) (by decide) (by decide) (by decide : 2 < 4)
theorem aw_30_2 {σ : ah_S} {b : Nat} (h : sk_ok σ b) {v : Int32} : ah_wA σ 101 (some (b + 30)) (2 : Int32) v = some (ah_sA σ (b + 30) 2 v) := sk_wA h (by decide) (by decide) (by decide) (by decide) (by decide : 2 < 4)
theorem al_30_3 {σ : ah_S} {b : Nat} (h : sk_ok σ b) : ah_lA σ 101 (some (b + 30)) (3 : Int32) = some (ah_ai σ (b + 30) 3) := sk_lA h (by decide) (by decide) (by decide) (by decide) (by decide : 3 < 4)
theorem aw_30_3 {σ : ah_S} {b : Nat} (h : sk_ok σ b) {v : Int32} : ah_wA σ 101 (some (b + 30)) (3 : Int32) v = some (ah_sA σ (b + 30) 3 v) := sk_wA h (by decide) (by decide) (by decide) (by decide) (by decide : 3 < 4)
theorem al_31 {σ : ah_S} {b : Nat} (h : sk_ok σ b) {j : Nat} (hj : j < 28) : ah_lA σ 101 (some (b + 31)) (Int32.ofNat j) = some (ah_ai σ (b + 31) j) := sk_lA h (by decide) (by decide) (by decide) (by decide) hj
theorem aw_31 {σ : ah_S} {b : Nat} (h : sk_ok σ b) {j : Nat} {v : Int32} (hj : j < 28) : ah_wA σ 101 (some (b + 31)) (Int32.ofNat j) v = some (ah_sA σ (b + 31) j v) := sk_wA h (by decide) (by decide) (by decide) (by decide) hj
theorem al_32 {σ : ah_S} {b : Nat} (h : sk_ok σ b) {j : Nat} (hj : j < 4) : ah_lA σ 101 (some (b + 32)) (Int32.ofNat j) = some (ah_ai σ (b + 32) j) := sk_lA h (by decide) (by decide) (by decide) (by decide) hj
theorem aw_32 {σ : ah_S} {b : Nat} (h : sk_ok σ b) {j : Nat} {v : Int32} (hj : j < 4) : ah_wA σ 101 (some (b + 32)) (Int32.ofNat j) v = some (ah_sA σ (b + 32) j v) := sk_wA h (by decide) (by decide) (by decide) (by decide) hj
theorem al_32_0 {σ : ah_S} {b : Nat} (h : sk_ok σ b) : ah_lA σ 101 (some (b + 32)) (0 : Int32) = some (ah_ai σ (b + 32) 0) := sk_lA h (by decide) (by decide) (by decide) (by decide) (by decide : 0 < 4)
theorem aw_32_0 {σ : ah_S} {b : Nat} (h : sk_ok σ b) {v : Int32} : ah_wA σ 101 (some (b + 32)) (0 : Int32) v = some (ah_sA σ (b + 32) 0 v) := sk_wA h (by decide) (by decide) (by decide) (by decide) (by decide : 0 < 4)
theorem al_32_1 {σ : ah_S} {b : Nat} (h : sk_ok σ b) : ah_lA σ 101 (some (b + 32)) (1 : Int32) = some (ah_ai σ (b + 32) 1) := sk_lA h (by decide) (by decide) (by decide) (by decide) (by decide : 1 < 4)
theorem aw_32_1 {σ : ah_S} {b : Nat} (h : sk_ok σ b) {v : Int32} : ah_wA σ 101 (some (b + 32)) (1 : Int32) v = some (ah_sA σ (b + 32) 1 v) := sk_wA h (by decide) (by decide) (by decide) (by decide) (by decide : 1 < 4)
theorem al_32_2 {σ : ah_S} {b : Nat} (h : sk_ok σ b) : ah_lA σ 101 (some (b + 32)) (2 : Int32) = some (ah_ai σ (b + 32) 2) := sk_lA h (by decide) (by decide) (by decide) (by decide) (by decide : 2 < 4)
theorem aw_32_2 {σ : ah_S} {b : Nat} (h : sk_ok σ b) {v : Int32} : ah_wA σ 101 (some (b + 32)) (2 : Int32) v = some (ah_sA σ (b + 32) 2 v) := sk_wA h (by decide) (by decide) (by decide) (by decide) (by decide : 2 < 4)
theorem al_32_3 {σ : ah_S} {b : Nat} (h : sk_ok σ b) : ah_lA σ 101 (some (b + 32)) (3 : Int32) = some (ah_ai σ (b + 32) 3) := sk_lA h (by decide) (by decide) (by decide) (by decide) (by decide : 3 < 4)
theorem aw_32_3 {σ : ah_S} {b : Nat} (h : sk_ok σ b) {v : Int32} : ah_wA σ 101 (some (b + 32)) (3 : Int32) v = some (ah_sA σ (b + 32) 3 v) := sk_wA h (by decide) (by decide) (by decide) (by decide) (by decide : 3 < 4)
theorem al_34 {σ : ah_S} {b : Nat} (h : sk_ok σ b) {j : Nat} (hj : j < 4) : ah_lA σ 101 (some (b + 34)) (Int32.ofNat j) = some (ah_ai σ (b + 34) j) := sk_lA h (by decide) (by decide) (by decide) (by decide) hj
theorem aw_34 {σ : ah_S} {b : Nat} (h : sk_ok σ b) {j : Nat} {v : Int32} (hj : j < 4) : ah_wA σ 101 (some (b + 34)) (Int32.ofNat j) v = some (ah_sA σ (b + 34) j v) := sk_wA h (by decide) (by decide) (by decide) (by decide) hj
theorem al_34_0 {σ : ah_S} {b : Nat} (h : sk_ok σ b) : ah_lA σ 101 (some (b + 34)) (0 : Int32) = some (ah_ai σ (b + 34) 0) := sk_lA h (by decide) (by decide) (by decide) (by decide) (by decide : 0 < 4)
theorem aw_34_0 {σ : ah_S} {b : Nat} (h : sk_ok σ b) {v : Int32} : ah_wA σ 101 (some (b + 34)) (0 : Int32) v = some (ah_sA σ (b + 34) 0 v) := sk_wA h (by decide) (by decide) (by decide) (by decide) (by decide : 0 < 4)
theorem al_34_1 {σ : ah_S} {b : Nat} (h : sk_ok σ b) : ah_lA σ 101 (some (b + 34)) (1 : Int32) = some (ah_ai σ (b + 34) 1) := sk_lA h (by decide) (by decide) (by decide) (by decide) (by decide : 1 < 4)
theorem aw_34_1 {σ : ah_S} {b : Nat} (h : sk_ok σ b) {v : Int32} : ah_wA σ 101 (some (b + 34)) (1 : Int32) v = some (ah_sA σ (b + 34) 1 v) := sk_wA h (by decide) (by decide) (by decide) (by decide) (by decide : 1 < 4)
theorem al_34_2 {σ : ah_S} {b : Nat} (h : sk_ok σ b) : ah_lA σ 101 (some (b + 34)) (2 : Int32) = some (ah_ai σ (b + 34) 2) := sk_lA h (by decide) (by decide) (by decide) (by decide) (by decide : 2 < 4)
theorem aw_34_2 {σ : ah_S} {b : Nat} (h : sk_ok σ b) {v : Int32} : ah_wA σ 101 (some (b + 34)) (2 : Int32) v = some (ah_sA σ (b + 34) 2 v) := sk_wA h (by decide) (by decide) (by decide) (by decide) (by decide : 2 < 4)
theorem al_34_3 {σ : ah_S} {b : Nat} (h : sk_ok σ b) : ah_lA σ 101 (some (b + 34)) (3 : Int32) = some (ah_ai σ (b + 34) 3) := sk_lA h (by decide) (by decide) (by decide) (by decide) (by decide : 3 < 4)
theorem aw_34_3 {σ : ah_S} {b : Nat} (h : sk_ok σ b) {v : Int32} : ah_wA σ 101 (some (b + 34)) (3 : Int32) v = some (ah_sA σ (b + 34) 3 v) := sk_wA h (by decide) (by decide) (by decide) (by decide) (by decide : 3 < 4)
theorem al_35 {σ : ah_S} {b : Nat} (h : sk_ok σ b) {j : Nat} (hj : j < 4) : ah_lA σ 101 (some (b + 35)) (Int32.ofNat j) = some (ah_ai σ (b + 35) j) := sk_lA h (by decide) (by decide) (by decide) (by decide) hj
theorem aw_35 {σ : ah_S} {b : Nat} (h : sk_ok σ b) {j : Nat} {v : Int32} (hj : j < 4) : ah_wA σ 101 (some (b + 35)) (Int32.ofNat j) v = some (ah_sA σ (b + 35) j v) := sk_wA h (by decide) (by decide) (by decide) (by decide) hj
theorem al_35_0 {σ : ah_S} {b : Nat} (h : sk_ok σ b) : ah_lA σ 101 (some (b + 35)) (0 : Int32) = some (ah_ai σ (b + 35) 0) := sk_lA h (by decide) (by decide) (by decide) (by decide) (by decide : 0 < 4)
theorem aw_35_0 {σ : ah_S} {b : Nat} (h : sk_ok σ b) {v : Int32} : ah_wA σ 101 (some (b + 35)) (0 : Int32) v = some (ah_sA σ (b + 35) 0 v) := sk_wA h (by decide) (by decide) (by decide) (by decide) (by decide : 0 < 4)
theorem al_35_1 {σ : ah_S} {b : Nat} (h : sk_ok σ b) : ah_lA σ 101 (some (b + 35)) (1 : Int32) = some (ah_ai σ (b + 35) 1) := sk_lA h (by decide) (by decide) (by decide) (by decide) (by decide : 1 < 4)
theorem aw_35_1 {σ : ah_S} {b : Nat} (h : sk_ok σ b) {v : Int32} : ah_wA σ 101 (some (b + 35)) (1 : Int32) v = some (ah_sA σ (b + 35) 1 v) := sk_wA h (by decide) (by decide) (by decide) (by decide) (by decide : 1 < 4)
theorem al_35_2 {σ : ah_S} {b : Nat} (h : sk_ok σ b) : ah_lA σ 101 (some (b + 35)) (2 : Int32) = some (ah_ai σ (b + 35) 2) := sk_lA h (by decide) (by decide) (by decide) (by decide) (by decide : 2 < 4)
theorem aw_35_2 {σ : ah_S} {b : Nat} (h : sk_ok σ b) {v : Int32} : ah_wA σ 101 (some (b + 35)) (2 : Int32) v = some (ah_sA σ (b + 35) 2 v) := sk_wA h (by decide) (by decide) (by decide) (by decide) (by decide : 2 < 4)
theorem al_35_3 {σ : ah_S} {b : Nat} (h : sk_ok σ b) : ah_lA σ 101 (some (b + 35)) (3 : Int32) = some (ah_ai σ (b + 35) 3) := sk_lA h (by decide) (by decide) (by decide) (by decide) (by decide : 3 < 4)
theorem aw_35_3 {σ : ah_S} {b : Nat} (h : sk_ok σ b) {v : Int32} : ah_wA σ 101 (some (b + 35)) (3 : Int32) v = some (ah_sA σ (b + 35) 3 v) := sk_wA h (by decide) (by decide) (by decide) (by decide) (by decide : 3 < 4)
theorem al_36 {σ : ah_S} {b : Nat} (h : sk_ok σ b) {j : Nat} (hj : j < 28) : ah_lA σ 101 (some (b + 36)) (Int32.ofNat j) = some (ah_ai σ (b + 36) j) := sk_lA h (by decide) (by decide) (by decide) (by decide) hj
theorem aw_36 {σ : ah_S} {b : Nat} (h : sk_ok σ b) {j : Nat} {v : Int32} (hj : j < 28) : ah_wA σ 101 (some (b + 36)) (Int32.ofNat j) v = some (ah_sA σ (b + 36) j v) := sk_wA h (by decide) (by decide) (by decide) (by decide) hj
theorem al_37 {σ : ah_S} {b : Nat} (h : sk_ok σ b) {j : Nat} (hj : j < 4) : ah_lA σ 101 (some (b + 37)) (Int32.ofNat j) = some (ah_ai σ (b + 37) j) := sk_lA h (by decide) (by decide) (by decide) (by decide) hj
theorem aw_37 {σ : ah_S} {b : Nat} (h : sk_ok σ b) {j : Nat} {v : Int32} (hj : j < 4) : ah_wA σ 101 (some (b + 37)) (Int32.ofNat j) v = some (ah_sA σ (b + 37) j v) := sk_wA h (by decide) (by decide) (by decide) (by decide) hj
theorem al_37_0 {σ : ah_S} {b : Nat} (h : sk_ok σ b) : ah_lA σ 101 (some (b + 37)) (0 : Int32) = some (ah_ai σ (b + 37) 0) := sk_lA h (by decide) (by decide) (by decide) (by decide) (by decide : 0 < 4)
theorem aw_37_0 {σ : ah_S} {b : Nat} (h : sk_ok σ b) {v : Int32} : ah_wA σ 101 (some (b + 37)) (0 : Int32) v = some (ah_sA σ (b + 37) 0 v) := sk_wA h (by decide) (by decide) (by decide) (by decide) (by decide : 0 < 4)
theorem al_37_1 {σ : ah_S} {b : Nat} (h : sk_ok σ b) : ah_lA σ 101 (some (b + 37)) (1 : Int32) = some (ah_ai σ (b + 37) 1) := sk_lA h (by decide) (by decide) (by decide) (by decide) (by decide : 1 < 4)
theorem aw_37_1 {σ : ah_S} {b : Nat} (h : sk_ok σ b) {v : Int32} : ah_wA σ 101 (some (b + 37)) (1 : Int32) v = some (ah_sA σ (b + 37) 1 v) := sk_wA h (by decide) (by decide) (by decide) (by decide) (by decide : 1 < 4)
theorem al_37_2 {σ : ah_S} {b : Nat} (h : sk_ok σ b) : ah_lA σ 101 (some (b + 37)) (2 : Int32) = some (ah_ai σ (b + 37) 2) := sk_lA h (by decide) (by decide) (by decide) (by decide) (by decide : 2 < 4)
theorem aw_37_2 {σ : ah_S} {b : Nat} (h : sk_ok σ b) {v : Int32} : ah_wA σ 101 (some (b + 37)) (2 : Int32) v = some (ah_sA σ (b + 37) 2 v) := sk_wA h (by decide) (by decide) (by decide) (by decide) (by decide : 2 < 4)
theorem al_37_3 {σ : ah_S} {b : Nat} (h : sk_ok σ b) : ah_lA σ 101 (some (b + 37)) (3 : Int32) = some (ah_ai σ (b + 37) 3) := sk_lA h (by decide) (by decide) (by decide) (by decide) (by decide : 3 < 4)
theorem aw_37_3 {σ : ah_S} {b : Nat} (h : sk_ok σ b) {v : Int32} : ah_wA σ 101 (some (b + 37)) (3 : Int32) v = some (ah_sA σ (b + 37) 3 v) := sk_wA h (by decide) (by decide) (by decide) (by decide) (by decide : 3 < 4)
theorem al_39 {σ : ah_S} {b : Nat} (h : sk_ok σ b) {j : Nat} (hj : j < 4) : ah_lA σ 101 (some (b + 39)) (Int32.ofNat j) = some (ah_ai σ (b + 39) j) := sk_lA h (by decide) (by decide) (by decide) (by decide) hj
theorem aw_39 {σ : ah_S} {b : Nat} (h : sk_ok σ b) {j : Nat} {v : Int32} (hj : j < 4) : ah_wA σ 101 (some (b + 39)) (Int32.ofNat j) v = some (ah_sA σ (b + 39) j v) := sk_wA h (by decide) (by decide) (by decide) (by decide) hj
theorem al_39_0 {σ : ah_S} {b : Nat} (h : sk_ok σ b) : ah_lA σ 101 (some (b + 39)) (0 : Int32) = some (ah_ai σ (b + 39) 0) := sk_lA h (by decide) (by decide) (by decide) (by decide) (by decide : 0 < 4)
theorem aw_39_0 {σ : ah_S} {b : Nat} (h : sk_ok σ b) {v : Int32} : ah_wA σ 101 (some (b + 39)) (0 : Int32) v = some (ah_sA σ (b + 39) 0 v) := sk_wA h (by decide) (by decide) (by decide) (by decide) (by decide : 0 < 4)
theorem al_39_1 {σ : ah_S} {b : Nat} (h : sk_ok σ b) : ah_lA σ 101 (some (b + 39)) (1 : Int32) = some (ah_ai σ (b + 39) 1) := sk_lA h (by decide) (by decide) (by decide) (by decide) (by decide : 1 < 4)
theorem aw_39_1 {σ : ah_S} {b : Nat} (h : sk_ok σ b) {v : Int32} : ah_wA σ 101 (some (b + 39)) (1 : Int32) v = some (ah_sA σ (b + 39) 1 v) := sk_wA h (by decide) (by decide) (by decide) (by decide) (by decide : 1 < 4)
theorem al_39_2 {σ : ah_S} {b : Nat} (h : sk_ok σ b) : ah_lA σ 101 (some (b + 39)) (2 : Int32) = some (ah_ai σ (b + 39) 2) := sk_lA h (by decide) (by decide) (by decide) (by decide) (by decide : 2 < 4)
theorem aw_39_2 {σ : ah_S} {b : Nat} (h : sk_ok σ b) {v : Int32} : ah_wA σ 101 (some (b + 39)) (2 : Int32) v = some (ah_sA σ (b + 39) 2 v) := sk_wA h (by decide) (by decide) (by decide) (by decide) (by decide : 2 < 4)
theorem al_39_3 {σ : ah_S} {b : Nat} (h : sk_ok σ b) : ah_lA σ 101 (some (b + 39)) (3 : Int32) = some (ah_ai σ (b + 39) 3) := sk_lA h (by decide) (by decide) (by decide) (by decide) (by decide : 3 < 4)
theorem aw_39_3 {σ : ah_S} {b : Nat} (h : sk_ok σ b) {v : Int32} : ah_wA σ 101 (some (b + 39)) (3 : Int32) v = some (ah_sA σ (b + 39) 3 v) := sk_wA h (by decide) (by decide) (by decide) (by decide) (by decide : 3 < 4)
theorem al_40 {σ : ah_S} {b : Nat} (h : sk_ok σ b) {j : Nat} (hj : j < 4) : ah_lA σ 101 (some (b + 40)) (Int32.ofNat j) = some (ah_ai σ (b + 40) j) := sk_lA h (by decide) (by decide) (by decide) (by decide) hj
theorem aw_40 {σ : ah_S} {b : Nat} (h : sk_ok σ b) {j : Nat} {v : Int32} (hj : j < 4) : ah_wA σ 101 (some (b + 40)) (Int32.ofNat j) v = some (ah_sA σ (b + 40) j v) := sk_wA h (by decide) (by decide) (by decide) (by decide) hj
theorem al_40_0 {σ : ah_S} {b : Nat} (h : sk_ok σ b) : ah_lA σ 101 (some (b + 40)) (0 : Int32) = some (ah_ai σ (b + 40) 0) := sk_lA h (by decide) (by decide) (by decide) (by decide) (by decide : 0 < 4)
theorem aw_40_0 {σ : ah_S} {b : Nat} (h : sk_ok σ b) {v : Int32} : ah_wA σ 101 (some (b + 40)) (0 : Int32) v = some (ah_sA σ (b + 40) 0 v) := sk_wA h (by decide) (by decide) (by decide) (by decide) (by decide : 0 < 4)
theorem al_40_1 {σ : ah_S} {b : Nat} (h : sk_ok σ b) : ah_lA σ 101 (some (b + 40)) (1 : Int32) = some (ah_ai σ (b + 40) 1) := sk_lA h (by decide) (by decide) (by decide) (by decide) (by decide : 1 < 4)
theorem aw_40_1 {σ : ah_S} {b : Nat} (h : sk_ok σ b) {v : Int32} : ah_wA σ 101 (some (b + 40)) (1 : Int32) v = some (ah_sA σ (b + 40) 1 v) := sk_wA h (by decide) (by decide) (by decide) (by decide) (by decide : 1 < 4)
theorem al_40_2 {σ : ah_S} {b : Nat} (h : sk_ok σ b) : ah_lA σ 101 (some (b + 40)) (2 : Int32) = some (ah_ai σ (b + 40) 2) := sk_lA h (by decide) (by decide) (by decide) (by decide) (by decide : 2 < 4)
theorem aw_40_2 {σ : ah_S} {b : Nat} (h : sk_ok σ b) {v : Int32} : ah_wA σ 101 (some (b + 40)) (2 : Int32) v = some (ah_sA σ (b + 40) 2 v) := sk_wA h (by decide) (by decide) (by decide) (by decide) (by decide : 2 < 4)
theorem al_40_3 {σ : ah_S} {b : Nat} (h : sk_ok σ b) : ah_lA σ 101 (some (b + 40)) (3 : Int32) = some (ah_ai σ (b + 40) 3) := sk_lA h (by decide) (by decide) (by decide) (by decide) (by decide : 3 < 4)
theorem aw_40_3 {σ : ah_S} {b : Nat} (h : sk_ok σ b) {v : Int32} : ah_wA σ 101 (some (b + 40)) (3 : Int32) v = some (ah_sA σ (b + 40) 3 v) := sk_wA h (by decide) (by decide) (by decide) (by decide) (by decide : 3 < 4)
theorem al_41 {σ : ah_S} {b : Nat} (h : sk_ok σ b) {j : Nat} (hj : j < 28) : ah_lA σ 101 (some (b + 41)) (Int32.ofNat j) = some (ah_ai σ (b + 41) j) := sk_lA h (by decide) (by decide) (by decide) (by decide) hj
theorem aw_41 {σ : ah_S} {b : Nat} (h : sk_ok σ b) {j : Nat} {v : Int32} (hj : j < 28) : ah_wA σ 101 (some (b + 41)) (Int32.ofNat j) v = some (ah_sA σ (b + 41) j v) := sk_wA h (by decide) (by decide) (by decide) (by decide) hj
theorem al_42 {σ : ah_S} {b : Nat} (h : sk_ok σ b) {j : Nat} (hj : j < 4) : ah_lA σ 101 (some (b + 42)) (Int32.ofNat j) = some (ah_ai σ (b + 42) j) := sk_lA h (by decide) (by decide) (by decide) (by decide) hj
theorem aw_42 {σ : ah_S} {b : Nat} (h : sk_ok σ b) {j : Nat} {v : Int32} (hj : j < 4) : ah_wA σ 101 (some (b + 42)) (Int32.ofNat j) v = some (ah_sA σ (b + 42) j v) := sk_wA h (by decide) (by decide) (by decide) (by decide) hj
theorem al_42_0 {σ : ah_S} {b : Nat} (h : sk_ok σ b) : ah_lA σ 101 (some (b + 42)) (0 : Int32) = some (ah_ai σ (b + 42) 0) := sk_lA h (by decide) (by decide) (by decide) (by decide) (by decide : 0 < 4)
theorem aw_42_0 {σ : ah_S} {b : Nat} (h : sk_ok σ b) {v : Int32} : ah_wA σ 101 (some (b + 42)) (0 : Int32) v = some (ah_sA σ (b + 42) 0 v) := sk_wA h (by decide) (by decide) (by decide) (by decide) (by decide : 0 < 4)
theorem al_42_1 {σ : ah_S} {b : Nat} (h : sk_ok σ b) : ah_lA σ 101 (some (b + 42)) (1 : Int32) = some (ah_ai σ (b + 42) 1) := sk_lA h (by decide) (by decide) (by decide) (by decide) (by decide : 1 < 4)
theorem aw_42_1 {σ : ah_S} {b : Nat} (h : sk_ok σ b) {v : Int32} : ah_wA σ 101 (some (b + 42)) (1 : Int32) v = some (ah_sA σ (b + 42) 1 v) := sk_wA h (by decide) (by decide) (by decide) (by decide) (by decide : 1 < 4)
theorem al_42_2 {σ : ah_S} {b : Nat} (h : sk_ok σ b) : ah_lA σ 101 (some (b + 42)) (2 : Int32) = some (ah_ai σ (b + 42) 2) := sk_lA h (by decide) (by decide) (by decide) (by decide) (by decide : 2 < 4)
theorem aw_42_2 {σ : ah_S} {b : Nat} (h : sk_ok σ b) {v : Int32} : ah_wA σ 101 (some (b + 42)) (2 : Int32) v = some (ah_sA σ (b + 42) 2 v) := sk_wA h (by decide) (by decide) (by decide) (by decide) (by decide : 2 < 4)
theorem al_42_3 {σ : ah_S} {b : Nat} (h : sk_ok σ b) : ah_lA σ 101 (some (b + 42)) (3 : Int32) = some (ah_ai σ (b + 42) 3) := sk_lA h (by decide) (by decide) (by decide) (by decide) (by decide : 3 < 4)
theorem aw_42_3 {σ : ah_S} {b : Nat} (h : sk_ok σ b) {v : Int32} : ah_wA σ 101 (some (b + 42)) (3 : Int32) v = some (ah_sA σ (b + 42) 3 v) := sk_wA h (by decide) (by decide) (by decide) (by decide) (by decide : 3 < 4)
theorem al_44 {σ : ah_S} {b : Nat} (h : sk_ok σ b) {j : Nat} (hj : j < 4) : ah_lA σ 101 (some (b + 44)) (Int32.ofNat j) = some (ah_ai σ (b + 44) j) := sk_lA h (by decide) (by decide) (by decide) (by decide) hj
theorem aw_44 {σ : ah_S} {b : Nat} (h : sk_ok σ b) {j : Nat} {v : Int32} (hj : j < 4) : ah_wA σ 101 (some (b + 44)) (Int32.ofNat j) v = some (ah_sA σ (b + 44) j v) := sk_wA h (by decide) (by decide) (by decide) (by decide) hj
theorem al_44_0 {σ : ah_S} {b : Nat} (h : sk_ok σ b) : ah_lA σ 101 (some (b + 44)) (0 : Int32) = some (ah_ai σ (b + 44) 0) := sk_lA h (by decide) (by decide) (by decide) (by decide) (by decide : 0 < 4)
theorem aw_44_0 {σ : ah_S} {b : Nat} (h : sk_ok σ b) {v : Int32} : ah_wA σ 101 (some (b + 44)) (0 : Int32) v = some (ah_sA σ (b + 44) 0 v) := sk_wA h (by decide) (by decide) (by decide) (by decide) (by decide : 0 < 4)
theorem al_44_1 {σ : ah_S} {b : Nat} (h : sk_ok σ b) : ah_lA σ 101 (some (b + 44)) (1 : Int32) = some (ah_ai σ (b + 44) 1) := sk_lA h (by decide) (by decide) (by decide) (by decide) (by decide : 1 < 4)
theorem aw_44_1 {σ : ah_S} {b : Nat} (h : sk_ok σ b) {v : Int32} : ah_wA σ 101 (some (b + 44)) (1 : Int32) v = some (ah_sA σ (b + 44) 1 v) := sk_wA h (by decide) (by decide) (by decide) (by decide) (by decide : 1 < 4)
theorem al_44_2 {σ : ah_S} {b : Nat} (h : sk_ok σ b) : ah_lA σ 101 (some (b + 44)) (2 : Int32) = some (ah_ai σ (b + 44) 2) := sk_lA h (by decide) (by decide) (by decide) (by decide) (by decide : 2 < 4)
theorem aw_44_2 {σ : ah_S} {b : Nat} (h : sk_ok σ b) {v : Int32} : ah_wA σ 101 (some (b + 44)) (2 : Int32) v = some (ah_sA σ (b + 44) 2 v) := sk_wA h (by decide) (by decide) (by decide) (by decide) (by decide : 2 < 4)
theorem al_44_3 {σ : ah_S} {b : Nat} (h : sk_ok σ b) : ah_lA σ 101 (some (b + 44)) (3 : Int32) = some (ah_ai σ (b + 44) 3) := sk_lA h (by decide) (by decide) (by decide) (by decide) (by decide : 3 < 4)
theorem aw_44_3 {σ : ah_S} {b : Nat} (h : sk_ok σ b) {v : Int32} : ah_wA σ 101 (some (b + 44)) (3 : Int32) v = some (ah_sA σ (b + 44) 3 v) := sk_wA h (by decide) (by decide) (by decide) (by decide) (by decide : 3 < 4)
theorem al_45 {σ : ah_S} {b : Nat} (h : sk_ok σ b) {j : Nat} (hj : j < 4) : ah_lA σ 101 (some (b + 45)) (Int32.ofNat j) = some (ah_ai σ (b + 45) j) := sk_lA h (by decide) (by decide) (by decide) (by decide) hj
theorem aw_45 {σ : ah_S} {b : Nat} (h : sk_ok σ b) {j : Nat} {v : Int32} (hj : j < 4) : ah_wA σ 101 (some (b + 45)) (Int32.ofNat j) v = some (ah_sA σ (b + 45) j v) := sk_wA h (by decide) (by decide) (by decide) (by decide) hj
theorem al_45_0 {σ : ah_S} {b : Nat} (h : sk_ok σ b) : ah_lA σ 101 (some (b + 45)) (0 : Int32) = some (ah_ai σ (b + 45) 0) := sk_lA h (by decide) (by decide) (by decide) (by decide) (by decide : 0 < 4)
theorem aw_45_0 {σ : ah_S} {b : Nat} (h : sk_ok σ b) {v : Int32} : ah_wA σ 101 (some (b + 45)) (0 : Int32) v = some (ah_sA σ (b + 45) 0 v) := sk_wA h (by decide) (by decide) (by decide) (by decide) (by decide : 0 < 4)
theorem al_45_1 {σ : ah_S} {b : Nat} (h : sk_ok σ b) : ah_lA σ 101 (some (b + 45)) (1 : Int32) = some (ah_ai σ (b + 45) 1) := sk_lA h (by decide) (by decide) (by decide) (by decide) (by decide : 1 < 4)
theorem aw_45_1 {σ : ah_S} {b : Nat} (h : sk_ok σ b) {v : Int32} : ah_wA σ 101 (some (b + 45)) (1 : Int32) v = some (ah_sA σ (b + 45) 1 v) := sk_wA h (by decide) (by decide) (by decide) (by decide) (by decide : 1 < 4)
theorem al_45_2 {σ : ah_S} {b : Nat} (h : sk_ok σ b) : ah_lA σ 101 (some (b + 45)) (2 : Int32) = some (ah_ai σ (b + 45) 2) := sk_lA h (by decide) (by decide) (by decide) (by decide) (by decide : 2 < 4)
theorem aw_45_2 {σ : ah_S} {b : Nat} (h : sk_ok σ b) {v : Int32} : ah_wA σ 101 (some (b + 45)) (2 : Int32) v = some (ah_sA σ (b + 45) 2 v) := sk_wA h (by decide) (by decide) (by decide) (by decide) (by decide : 2 < 4)
theorem al_45_3 {σ : ah_S} {b : Nat} (h : sk_ok σ b) : ah_lA σ 101 (some (b + 45)) (3 : Int32) = some (ah_ai σ (b + 45) 3) := sk_lA h (by decide) (by decide) (by decide) (by decide) (by decide : 3 < 4)
theorem aw_45_3 {σ : ah_S} {b : Nat} (h : sk_ok σ b) {v : Int32} : ah_wA σ 101 (some (b + 45)) (3 : Int32) v = some (ah_sA σ (b + 45) 3 v) := sk_wA h (by decide) (by decide) (by decide) (by decide) (by decide : 3 < 4)
theorem al_46 {σ : ah_S} {b : Nat} (h : sk_ok σ b) {j : Nat} (hj : j < 28) : ah_lA σ 101 (some (b + 46)) (Int32.ofNat j) = some (ah_ai σ (b + 46) j) := sk_lA h (by decide) (by decide) (by decide) (by decide) hj
theorem aw_46 {σ : ah_S} {b : Nat} (h : sk_ok σ b) {j : Nat} {v : Int32} (hj : j < 28) : ah_wA σ 101 (some (b + 46)) (Int32.ofNat j) v = some (ah_sA σ (b + 46) j v) := sk_wA h (by decide) (by decide) (by decide) (by decide) hj
theorem al_47 {σ : ah_S} {b : Nat} (h : sk_ok σ b) {j : Nat} (hj : j < 4) : ah_lA σ 101 (some (b + 47)) (Int32.ofNat j) = some (ah_ai σ (b + 47) j) := sk_lA h (by decide) (by decide) (by decide) (by decide) hj
theorem aw_47 {σ : ah_S} {b : Nat} (h : sk_ok σ b) {j : Nat} {v : Int32} (hj : j < 4) : ah_wA σ 101 (some (b + 47)) (Int32.ofNat j) v = some (ah_sA σ (b + 47) j v) := sk_wA h (by decide) (by decide) (by decide) (by decide) hj
theorem al_47_0 {σ : ah_S} {b : Nat} (h : sk_ok σ b) : ah_lA σ 101 (some (b + 47)) (0 : Int32) = some (ah_ai σ (b + 47) 0) := sk_lA h (by decide) (by decide) (by decide) (by decide) (by decide : 0 < 4)
theorem aw_47_0 {σ : ah_S} {b : Nat} (h : sk_ok σ b) {v : Int32} : ah_wA σ 101 (some (b + 47)) (0 : Int32) v = some (ah_sA σ (b + 47) 0 v) := sk_wA h (by decide) (by decide) (by decide) (by decide) (by decide : 0 < 4)
theorem al_47_1 {σ : ah_S} {b : Nat} (h : sk_ok σ b) : ah_lA σ 101 (some (b + 47)) (1 : Int32) = some (ah_ai σ (b + 47) 1) := sk_lA h (by decide) (by decide) (by decide) (by decide) (by decide : 1 < 4)
theorem aw_47_1 {σ : ah_S} {b : Nat} (h : sk_ok σ b) {v : Int32} : ah_wA σ 101 (some (b + 47)) (1 : Int32) v = some (ah_sA σ (b + 47) 1 v) := sk_wA h (by decide) (by decide) (by decide) (by decide) (by decide : 1 < 4)
theorem al_47_2 {σ : ah_S} {b : Nat} (h : sk_ok σ b) : ah_lA σ 101 (some (b + 47)) (2 : Int32) = some (ah_ai σ (b + 47) 2) := sk_lA h (by decide) (by decide) (by decide) (by decide) (by decide : 2 < 4)
theorem aw_47_2 {σ : ah_S} {b : Nat} (h : sk_ok σ b) {v : Int32} : ah_wA σ 101 (some (b + 47)) (2 : Int32) v = some (ah_sA σ (b + 47) 2 v) := sk_wA h (by decide) (by decide) (by decide) (by decide) (by decide : 2 < 4)
theorem al_47_3 {σ : ah_S} {b : Nat} (h : sk_ok σ b) : ah_lA σ 101 (some (b + 47)) (3 : Int32) = some (ah_ai σ (b + 47) 3) := sk_lA h (by decide) (by decide) (by decide) (by decide) (by decide : 3 < 4)
theorem aw_47_3 {σ : ah_S} {b : Nat} (h : sk_ok σ b) {v : Int32} : ah_wA σ 101 (some (b + 47)) (3 : Int32) v = some (ah_sA σ (b + 47) 3 v) := sk_wA h (by decide) (by decide) (by decide) (by decide) (by decide : 3 < 4)
theorem al_49 {σ : ah_S} {b : Nat} (h : sk_ok σ b) {j : Nat} (hj : j < 4) : ah_lA σ 101 (some (b + 49)) (Int32.ofNat j) = some (ah_ai σ (b + 49) j) := sk_lA h (by decide) (by decide) (by decide) (by decide) hj
theorem aw_49 {σ : ah_S} {b : Nat} (h : sk_ok σ b) {j : Nat} {v : Int32} (hj : j < 4) : ah_wA σ 101 (some (b + 49)) (Int32.ofNat j) v = some (ah_sA σ (b + 49) j v) := sk_wA h (by decide) (by decide) (by decide) (by decide) hj
theorem al_49_0 {σ : ah_S} {b : Nat} (h : sk_ok σ b) : ah_lA σ 101 (some (b + 49)) (0 : Int32) = some (ah_ai σ (b + 49) 0) := sk_lA h (by decide) (by decide) (by decide) (by decide) (by decide : 0 < 4)
theorem aw_49_0 {σ : ah_S} {b : Nat} (h : sk_ok σ b) {v : Int32} : ah_wA σ 101 (some (b + 49)) (0 : Int32) v = some (ah_sA σ (b + 49) 0 v) := sk_wA h (by decide) (by decide) (by decide) (by decide) (by decide : 0 < 4)
theorem al_49_1 {σ : ah_S} {b : Nat} (h : sk_ok σ b) : ah_lA σ 101 (some (b + 49)) (1 : Int32) = some (ah_ai σ (b + 49) 1) := sk_lA h (by decide) (by decide) (by decide) (by decide) (by decide : 1 < 4)
theorem aw_49_1 {σ : ah_S} {b : Nat} (h : sk_ok σ b) {v : Int32} : ah_wA σ 101 (some (b + 49)) (1 : Int32) v = some (ah_sA σ (b + 49) 1 v) := sk_wA h (by decide) (by decide) (by decide) (by decide) (by decide : 1 < 4)
theorem al_49_2 {σ : ah_S} {b : Nat} (h : sk_ok σ b) : ah_lA σ 101 (some (b + 49)) (2 : Int32) = some (ah_ai σ (b + 49) 2) := sk_lA h (by decide) (by decide) (by decide) (by decide) (by decide : 2 < 4)
theorem aw_49_2 {σ : ah_S} {b : Nat} (h : sk_ok σ b) {v : Int32} : ah_wA σ 101 (some (b + 49)) (2 : Int32) v = some (ah_sA σ (b + 49) 2 v) := sk_wA h (by decide) (by decide) (by decide) (by decide) (by decide : 2 < 4)
theorem al_49_3 {σ : ah_S} {b : Nat} (h : sk_ok σ b) : ah_lA σ 101 (some (b + 49)) (3 : Int32) = some (ah_ai σ (b + 49) 3) := sk_lA h (by decide) (by decide) (by decide) (by decide) (by decide : 3 < 4)
theorem aw_49_3 {σ : ah_S} {b : Nat} (h : sk_ok σ b) {v : Int32} : ah_wA σ 101 (some (b + 49)) (3 : Int32) v = some (ah_sA σ (b + 49) 3 v) := sk_wA h (by decide) (by decide) (by decide) (by decide) (by decide : 3 < 4)
theorem al_50 {σ : ah_S} {b : Nat} (h : sk_ok σ b) {j : Nat} (hj : j < 4) : ah_lA σ 101 (some (b + 50)) (Int32.ofNat j) = some (ah_ai σ (b + 50) j) := sk_lA h (by decide) (by decide) (by decide) (by decide) hj
theorem aw_50 {σ : ah_S} {b : Nat} (h : sk_ok σ b) {j : Nat} {v : Int32} (hj : j < 4) : ah_wA σ 101 (some (b + 50)) (Int32.ofNat j) v = some (ah_sA σ (b + 50) j v) := sk_wA h (by decide) (by decide) (by decide) (by decide) hj
theorem al_50_0 {σ : ah_S} {b : Nat} (h : sk_ok σ b) : ah_lA σ 101 (some (b + 50)) (0 : Int32) = some (ah_ai σ (b + 50) 0) := sk_lA h (by decide) (by decide) (by decide) (by decide) (by decide : 0 < 4)
theorem aw_50_0 {σ : ah_S} {b : Nat} (h : sk_ok σ b) {v : Int32} : ah_wA σ 101 (some (b + 50)) (0 : Int32) v = some (ah_sA σ (b + 50) 0 v) := sk_wA h (by decide) (by decide) (by decide) (by decide) (by decide : 0 < 4)
theorem al_50_1 {σ : ah_S} {b : Nat} (h : sk_ok σ b) : ah_lA σ 101 (some (b + 50)) (1 : Int32) = some (ah_ai σ (b + 50) 1) := sk_lA h (by decide) (by decide) (by decide) (by decide) (by decide : 1 < 4)
theorem aw_50_1 {σ : ah_S} {b : Nat} (h : sk_ok σ b) {v : Int32} : ah_wA σ 101 (some (b + 50)) (1 : Int32) v = some (ah_sA σ (b + 50) 1 v) := sk_wA h (by decide) (by decide) (by decide) (by decide) (by decide : 1 < 4)
theorem al_50_2 {σ : ah_S} {b : Nat} (h : sk_ok σ b) : ah_lA σ 101 (some (b + 50)) (2 : Int32) = some (ah_ai σ (b + 50) 2) := sk_lA h (by decide) (by decide) (by decide) (by decide) (by decide : 2 < 4)
theorem aw_50_2 {σ : ah_S} {b : Nat} (h : sk_ok σ b) {v : Int32} : ah_wA σ 101 (some (b + 50)) (2 : Int32) v = some (ah_sA σ (b + 50) 2 v) := sk_wA h (by decide) (by decide) (by decide) (by decide) (by decide : 2 < 4)
theorem al_50_3 {σ : ah_S} {b : Nat} (h : sk_ok σ b) : ah_lA σ 101 (some (b + 50)) (3 : Int32) = some (ah_ai σ (b + 50) 3) := sk_lA h (by decide) (by decide) (by decide) (by decide) (by decide : 3 < 4)
theorem aw_50_3 {σ : ah_S} {b : Nat} (h : sk_ok σ b) {v : Int32} : ah_wA σ 101 (some (b + 50)) (3 : Int32) v = some (ah_sA σ (b + 50) 3 v) := sk_wA h (by decide) (by decide) (by decide) (by decide) (by decide : 3 < 4)
theorem al_51 {σ : ah_S} {b : Nat} (h : sk_ok σ b) {j : Nat} (hj : j < 28) : ah_lA σ 101 (some (b + 51)) (Int32.ofNat j) = some (ah_ai σ (b + 51) j) := sk_lA h (by decide) (by decide) (by decide) (by decide) hj
theorem aw_51 {σ : ah_S} {b : Nat} (h : sk_ok σ b) {j : Nat} {v : Int32} (hj : j < 28) : ah_wA σ 101 (some (b + 51)) (Int32.ofNat j) v = some (ah_sA σ (b + 51) j v) := sk_wA h (by decide) (by decide) (by decide) (by decide) hj
theorem al_52 {σ : ah_S} {b : Nat} (h : sk_ok σ b) {j : Nat} (hj : j < 4) : ah_lA σ 101 (some (b + 52)) (Int32.ofNat j) = some (ah_ai σ (b + 52) j) := sk_lA h (by decide) (by decide) (by decide) (by decide) hj
theorem aw_52 {σ : ah_S} {b : Nat} (h : sk_ok σ b) {j : Nat} {v : Int32} (hj : j < 4) : ah_wA σ 101 (some (b + 52)) (Int32.ofNat j) v = some (ah_sA σ (b + 52) j v) := sk_wA h (by decide) (by decide) (by decide) (by decide) hj
theorem al_52_0 {σ : ah_S} {b : Nat} (h : sk_ok σ b) : ah_lA σ 101 (some (b + 52)) (0 : Int32) = some (ah_ai σ (b + 52) 0) := sk_lA h (by decide) (by decide) (by decide) (by decide) (by decide : 0 < 4)
theorem aw_52_0 {σ : ah_S} {b : Nat} (h : sk_ok σ b) {v : Int32} : ah_wA σ 101 (some (b + 52)) (0 : Int32) v = some (ah_sA σ (b + 52) 0 v) := sk_wA h (by decide) (by decide) (by decide) (by decide) (by decide : 0 < 4)
theorem al_52_1 {σ : ah_S} {b : Nat} (h : sk_ok σ b) : ah_lA σ 101 (some (b + 52)) (1 : Int32) = some (ah_ai σ (b + 52) 1) := sk_lA h (by decide) (by decide) (by decide) (by decide) (by decide : 1 < 4)
theorem aw_52_1 {σ : ah_S} {b : Nat} (h : sk_ok σ b) {v : Int32} : ah_wA σ 101 (some (b + 52)) (1 : Int32) v = some (ah_sA σ (b + 52) 1 v) := sk_wA h (by decide) (by decide) (by decide) (by decide) (by decide : 1 < 4)
theorem al_52_2 {σ : ah_S} {b : Nat} (h : sk_ok σ b) : ah_lA σ 101 (some (b + 52)) (2 : Int32) = some (ah_ai σ (b + 52) 2) := sk_lA h (by decide) (by decide) (by decide) (by decide) (by decide : 2 < 4)
theorem aw_52_2 {σ : ah_S} {b : Nat} (h : sk_ok σ b) {v : Int32} : ah_wA σ 101 (some (b + 52)) (2 : Int32) v = some (ah_sA σ (b + 52) 2 v) := sk_wA h (by decide) (by decide) (by decide) (by decide) (by decide : 2 < 4)
theorem al_52_3 {σ : ah_S} {b : Nat} (h : sk_ok σ b) : ah_lA σ 101 (some (b + 52)) (3 : Int32) = some (ah_ai σ (b + 52) 3) := sk_lA h (by decide) (by decide) (by decide) (by decide) (by decide : 3 < 4)
theorem aw_52_3 {σ : ah_S} {b : Nat} (h : sk_ok σ b) {v : Int32} : ah_wA σ 101 (some (b + 52)) (3 : Int32) v = some (ah_sA σ (b + 52) 3 v) := sk_wA h (by decide) (by decide) (by decide) (by decide) (by decide : 3 < 4)
theorem al_54 {σ : ah_S} {b : Nat} (h : sk_ok σ b) {j : Nat} (hj : j < 4) : ah_lA σ 101 (some (b + 54)) (Int32.ofNat j) = some (ah_ai σ (b + 54) j) := sk_lA h (by decide) (by decide) (by decide) (by decide) hj
theorem aw_54 {σ : ah_S} {b : Nat} (h : sk_ok σ b) {j : Nat} {v : Int32} (hj : j < 4) : ah_wA σ 101 (some (b + 54)) (Int32.ofNat j) v = some (ah_sA σ (b + 54) j v) := sk_wA h (by decide) (by decide) (by decide) (by decide) hj
theorem al_54_0 {σ : ah_S} {b : Nat} (h : sk_ok σ b) : ah_lA σ 101 (some (b + 54)) (0 : Int32) = some (ah_ai σ (b + 54) 0) := sk_lA h (by decide) (by decide) (by decide) (by decide) (by decide : 0 < 4)
theorem aw_54_0 {σ : ah_S} {b : Nat} (h : sk_ok σ b) {v : Int32} : ah_wA σ 101 (some (b + 54)) (0 : Int32) v = some (ah_sA σ (b + 54) 0 v) := sk_wA h (by decide) (by decide) (by decide) (by decide) (by decide : 0 < 4)
theorem al_54_1 {σ : ah_S} {b : Nat} (h : sk_ok σ b) : ah_lA σ 101 (some (b + 54)) (1 : Int32) = some (ah_ai σ (b + 54) 1) := sk_lA h (by decide) (by decide) (by decide) (by decide) (by decide : 1 < 4)
theorem aw_54_1 {σ : ah_S} {b : Nat} (h : sk_ok σ b) {v : Int32} : ah_wA σ 101 (some (b + 54)) (1 : Int32) v = some (ah_sA σ (b + 54) 1 v) := sk_wA h (by decide) (by decide) (by decide) (by decide) (by decide : 1 < 4)
theorem al_54_2 {σ : ah_S} {b : Nat} (h : sk_ok σ b) : ah_lA σ 101 (some (b + 54)) (2 : Int32) = some (ah_ai σ (b + 54) 2) := sk_lA h (by decide) (by decide) (by decide) (by decide) (by decide : 2 < 4)
theorem aw_54_2 {σ : ah_S} {b : Nat} (h : sk_ok σ b) {v : Int32} : ah_wA σ 101 (some (b + 54)) (2 : Int32) v = some (ah_sA σ (b + 54) 2 v) := sk_wA h (by decide) (by decide) (by decide) (by decide) (by decide : 2 < 4)
theorem al_54_3 {σ : ah_S} {b : Nat} (h : sk_ok σ b) : ah_lA σ 101 (some (b + 54)) (3 : Int32) = some (ah_ai σ (b + 54) 3) := sk_lA h (by decide) (by decide) (by decide) (by decide) (by decide : 3 < 4)
theorem aw_54_3 {σ : ah_S} {b : Nat} (h : sk_ok σ b) {v : Int32} : ah_wA σ 101 (some (b + 54)) (3 : Int32) v = some (ah_sA σ (b + 54) 3 v) := sk_wA h (by decide) (by decide) (by decide) (by decide) (by decide : 3 < 4)
theorem al_55 {σ : ah_S} {b : Nat} (h : sk_ok σ b) {j : Nat} (hj : j < 4) : ah_lA σ 101 (some (b + 55)) (Int32.ofNat j) = some (ah_ai σ (b + 55) j) := sk_lA h (by decide) (by decide) (by decide) (by decide) hj
theorem aw_55 {σ : ah_S} {b : Nat} (h : sk_ok σ b) {j : Nat} {v : Int32} (hj : j < 4) : ah_wA σ 101 (some (b + 55)) (Int32.ofNat j) v = some (ah_sA σ (b + 55) j v) := sk_wA h (by decide) (by decide) (by decide) (by decide) hj
theorem al_55_0 {σ : ah_S} {b : Nat} (h : sk_ok σ b) : ah_lA σ 101 (some (b + 55)) (0 : Int32) = some (ah_ai σ (b + 55) 0) := sk_lA h (by decide) (by decide) (by decide) (by decide) (by decide : 0 < 4)
theorem aw_55_0 {σ : ah_S} {b : Nat} (h : sk_ok σ b) {v : Int32} : ah_wA σ 101 (some (b + 55)) (0 : Int32) v = some (ah_sA σ (b + 55) 0 v) := sk_wA h (by decide) (by decide) (by decide) (by decide) (by decide : 0 < 4)
theorem al_55_1 {σ : ah_S} {b : Nat} (h : sk_ok σ b) : ah_lA σ 101 (some (b + 55)) (1 : Int32) = some (ah_ai σ (b + 55) 1) := sk_lA h (by decide) (by decide) (by decide) (by decide) (by decide : 1 < 4)
theorem aw_55_1 {σ : ah_S} {b : Nat} (h : sk_ok σ b) {v : Int32} : ah_wA σ 101 (some (b + 55)) (1 : Int32) v = some (ah_sA σ (b + 55) 1 v) := sk_wA h (by decide) (by decide) (by decide) (by decide) (by decide : 1 < 4)
theorem al_55_2 {σ : ah_S} {b : Nat} (h : sk_ok σ b) : ah_lA σ 101 (some (b + 55)) (2 : Int32) = some (ah_ai σ (b + 55) 2) := sk_lA h (by decide) (by decide) (by decide) (by decide) (by decide : 2 < 4)
theorem aw_55_2 {σ : ah_S} {b : Nat} (h : sk_ok σ b) {v : Int32} : ah_wA σ 101 (some (b + 55)) (2 : Int32) v = some (ah_sA σ (b + 55) 2 v) := sk_wA h (by decide) (by decide) (by decide) (by decide) (by decide : 2 < 4)
theorem al_55_3 {σ : ah_S} {b : Nat} (h : sk_ok σ b) : ah_lA σ 101 (some (b + 55)) (3 : Int32) = some (ah_ai σ (b + 55) 3) := sk_lA h (by decide) (by decide) (by decide) (by decide) (by decide : 3 < 4)
theorem aw_55_3 {σ : ah_S} {b : Nat} (h : sk_ok σ b) {v : Int32} : ah_wA σ 101 (some (b + 55)) (3 : Int32) v = some (ah_sA σ (b + 55) 3 v) := sk_wA h (by decide) (by decide) (by decide) (by decide) (by decide : 3 < 4)
theorem al_56 {σ : ah_S} {b : Nat} (h : sk_ok σ b) {j : Nat} (hj : j < 28) : ah_lA σ 101 (some (b + 56)) (Int32.ofNat j) = some (ah_ai σ (b + 56) j) := sk_lA h (by decide) (by decide) (by decide) (by decide) hj
theorem aw_56 {σ : ah_S} {b : Nat} (h : sk_ok σ b) {j : Nat} {v : Int32} (hj : j < 28) : ah_wA σ 101 (some (b + 56)) (Int32.ofNat j) v = some (ah_sA σ (b + 56) j v) := sk_wA h (by decide) (by decide) (by decide) (by decide) hj
theorem al_57 {σ : ah_S} {b : Nat} (h : sk_ok σ b) {j : Nat} (hj : j < 4) : ah_lA σ 101 (some (b + 57)) (Int32.ofNat j) = some (ah_ai σ (b + 57) j) := sk_lA h (by decide) (by decide) (by decide) (by decide) hj
theorem aw_57 {σ : ah_S} {b : Nat} (h : sk_ok σ b) {j : Nat} {v : Int32} (hj : j < 4) : ah_wA σ 101 (some (b + 57)) (Int32.ofNat j) v = some (ah_sA σ (b + 57) j v) := sk_wA h (by decide) (by decide) (by decide) (by decide) hj
theorem al_57_0 {σ : ah_S} {b : Nat} (h : sk_ok σ b) : ah_lA σ 101 (some (b + 57)) (0 : Int32) = some (ah_ai σ (b + 57) 0) := sk_lA h (by decide) (by decide) (by decide) (by decide) (by decide : 0 < 4)
theorem aw_57_0 {σ : ah_S} {b : Nat} (h : sk_ok σ b) {v : Int32} : ah_wA σ 101 (some (b + 57)) (0 : Int32) v = some (ah_sA σ (b + 57) 0 v) := sk_wA h (by decide) (by decide) (by decide) (by decide) (by decide : 0 < 4)
theorem al_57_1 {σ : ah_S} {b : Nat} (h : sk_ok σ b) : ah_lA σ 101 (some (b + 57)) (1 : Int32) = some (ah_ai σ (b + 57) 1) := sk_lA h (by decide) (by decide) (by decide) (by decide) (by decide : 1 < 4)
theorem aw_57_1 {σ : ah_S} {b : Nat} (h : sk_ok σ b) {v : Int32} : ah_wA σ 101 (some (b + 57)) (1 : Int32) v = some (ah_sA σ (b + 57) 1 v) := sk_wA h (by decide) (by decide) (by decide) (by decide) (by decide : 1 < 4)
theorem al_57_2 {σ : ah_S} {b : Nat} (h : sk_ok σ b) : ah_lA σ 101 (some (b + 57)) (2 : Int32) = some (ah_ai σ (b + 57) 2) := sk_lA h (by decide) (by decide) (by decide) (by decide) (by decide : 2 < 4)
theorem aw_57_2 {σ : ah_S} {b : Nat} (h : sk_ok σ b) {v : Int32} : ah_wA σ 101 (some (b + 57)) (2 : Int32) v = some (ah_sA σ (b + 57) 2 v) := sk_wA h (by decide) (by decide) (by decide) (by decide) (by decide : 2 < 4)
theorem al_57_3 {σ : ah_S} {b : Nat} (h : sk_ok σ b) : ah_lA σ 101 (some (b + 57)) (3 : Int32) = some (ah_ai σ (b + 57) 3) := sk_lA h (by decide) (by decide) (by decide) (by decide) (by decide : 3 < 4)
theorem aw_57_3 {σ : ah_S} {b : Nat} (h : sk_ok σ b) {v : Int32} : ah_wA σ 101 (some (b + 57)) (3 : Int32) v = some (ah_sA σ (b + 57) 3 v) := sk_wA h (by decide) (by decide) (by decide) (by decide) (by decide : 3 < 4)
theorem al_59 {σ : ah_S} {b : Nat} (h : sk_ok σ b) {j : Nat} (hj : j < 4) : ah_lA σ 101 (some (b + 59)) (Int32.ofNat j) = some (ah_ai σ (b + 59) j) := sk_lA h (by decide) (by decide) (by decide) (by decide) hj
theorem aw_59 {σ : ah_S} {b : Nat} (h : sk_ok σ b) {j : Nat} {v : Int32} (hj : j < 4) : ah_wA σ 101 (some (b + 59)) (Int32.ofNat j) v = some (ah_sA σ (b + 59) j v) := sk_wA h (by decide) (by decide) (by decide) (by decide) hj
theorem al_59_0 {σ : ah_S} {b : Nat} (h : sk_ok σ b) : ah_lA σ 101 (some (b + 59)) (0 : Int32) = some (ah_ai σ (b + 59) 0) := sk_lA h (by decide) (by decide) (by decide) (by decide) (by decide : 0 < 4)
theorem aw_59_0 {σ : ah_S} {b : Nat} (h : sk_ok σ b) {v : Int32} : ah_wA σ 101 (some (b + 59)) (0 : Int32) v = some (ah_sA σ (b + 59) 0 v) := sk_wA h (by decide) (by decide) (by decide) (by decide) (by decide : 0 < 4)
theorem al_59_1 {σ : ah_S} {b : Nat} (h : sk_ok σ b) : ah_lA σ 101 (some (b + 59)) (1 : Int32) = some (ah_ai σ (b + 59) 1) := sk_lA h (by decide) (by decide) (by decide) (by decide) (by decide : 1 < 4)
theorem aw_59_1 {σ : ah_S} {b : Nat} (h : sk_ok σ b) {v : Int32} : ah_wA σ 101 (some (b + 59)) (1 : Int32) v = some (ah_sA σ (b + 59) 1 v) := sk_wA h (by decide) (by decide) (by decide) (by decide) (by decide : 1 < 4)
theorem al_59_2 {σ : ah_S} {b : Nat} (h : sk_ok σ b) : ah_lA σ 101 (some (b + 59)) (2 : Int32) = some (ah_ai σ (b + 59) 2) := sk_lA h (by decide) (by decide) (by decide) (by decide) (by decide : 2 < 4)
theorem aw_59_2 {σ : ah_S} {b : Nat} (h : sk_ok σ b) {v : Int32} : ah_wA σ 101 (some (b + 59)) (2 : Int32) v = some (ah_sA σ (b + 59) 2 v) := sk_wA h (by decide) (by decide) (by decide) (by decide) (by decide : 2 < 4)
theorem al_59_3 {σ : ah_S} {b : Nat} (h : sk_ok σ b) : ah_lA σ 101 (some (b + 59)) (3 : Int32) = some (ah_ai σ (b + 59) 3) := sk_lA h (by decide) (by decide) (by decide) (by decide) (by decide : 3 < 4)
theorem aw_59_3 {σ : ah_S} {b : Nat} (h : sk_ok σ b) {v : Int32} : ah_wA σ 101 (some (b + 59)) (3 : Int32) v = some (ah_sA σ (b + 59) 3 v) := sk_wA h (by decide) (by decide) (by decide) (by decide) (by decide : 3 < 4)
theorem al_60 {σ : ah_S} {b : Nat} (h : sk_ok σ b) {j : Nat} (hj : j < 4) : ah_lA σ 101 (some (b + 60)) (Int32.ofNat j) = some (ah_ai σ (b + 60) j) := sk_lA h (by decide) (by decide) (by decide) (by decide) hj
theorem aw_60 {σ : ah_S} {b : Nat} (h : sk_ok σ b) {j : Nat} {v : Int32} (hj : j < 4) : ah_wA σ 101 (some (b + 60)) (Int32.ofNat j) v = some (ah_sA σ (b + 60) j v) := sk_wA h (by decide) (by decide) (by decide) (by decide) hj
theorem al_60_0 {σ : ah_S} {b : Nat} (h : sk_ok σ b) : ah_lA σ 101 (some (b + 60)) (0 : Int32) = some (ah_ai σ (b + 60) 0) := sk_lA h (by decide) (by decide) (by decide) (by decide) (by decide : 0 < 4)
theorem aw_60_0 {σ : ah_S} {b : Nat} (h : sk_ok σ b) {v : Int32} : ah_wA σ 101 (some (b + 60)) (0 : Int32) v = some (ah_sA σ (b + 60) 0 v) := sk_wA h (by decide) (by decide) (by decide) (by decide) (by decide : 0 < 4)
theorem al_60_1 {σ : ah_S} {b : Nat} (h : sk_ok σ b) : ah_lA σ 101 (some (b + 60)) (1 : Int32) = some (ah_ai σ (b + 60) 1) := sk_lA h (by decide) (by decide) (by decide) (by decide) (by decide : 1 < 4)
theorem aw_60_1 {σ : ah_S} {b : Nat} (h : sk_ok σ b) {v : Int32} : ah_wA σ 101 (some (b + 60)) (1 : Int32) v = some (ah_sA σ (b + 60) 1 v) := sk_wA h (by decide) (by decide) (by decide) (by decide) (by decide : 1 < 4)
theorem al_60_2 {σ : ah_S} {b : Nat} (h : sk_ok σ b) : ah_lA σ 101 (some (b + 60)) (2 : Int32) = some (ah_ai σ (b + 60) 2) := sk_lA h (by decide) (by decide) (by decide) (by decide) (by decide : 2 < 4)
theorem aw_60_2 {σ : ah_S} {b : Nat} (h : sk_ok σ b) {v : Int32} : ah_wA σ 101 (some (b + 60)) (2 : Int32) v = some (ah_sA σ (b + 60) 2 v) := sk_wA h (by decide) (by decide) (by decide) (by decide) (by decide : 2 < 4)
theorem al_60_3 {σ : ah_S} {b : Nat} (h : sk_ok σ b) : ah_lA σ 101 (some (b + 60)) (3 : Int32) = some (ah_ai σ (b + 60) 3) := sk_lA h (by decide) (by decide) (by decide) (by decide) (by decide : 3 < 4)
theorem aw_60_3 {σ : ah_S} {b : Nat} (h : sk_ok σ b) {v : Int32} : ah_wA σ 101 (some (b + 60)) (3 : Int32) v = some (ah_sA σ (b + 60) 3 v) := sk_wA h (by decide) (by decide) (by decide) (by decide) (by decide : 3 < 4)
theorem al_61 {σ : ah_S} {b : Nat} (h : sk_ok σ b) {j : Nat} (hj : j < 28) : ah_lA σ 101 (some (b + 61)) (Int32.ofNat j) = some (ah_ai σ (b + 61) j) := sk_lA h (by decide) (by decide) (by decide) (by decide) hj
theorem aw_61 {σ : ah_S} {b : Nat} (h : sk_ok σ b) {j : Nat} {v : Int32} (hj : j < 28) : ah_wA σ 101 (some (b + 61)) (Int32.ofNat j) v = some (ah_sA σ (b + 61) j v) := sk_wA h (by decide) (by decide) (by decide) (by decide) hj
theorem al_62 {σ : ah_S} {b : Nat} (h : sk_ok σ b) {j : Nat} (hj : j < 4) : ah_lA σ 101 (some (b + 62)) (Int32.ofNat j) = some (ah_ai σ (b + 62) j) := sk_lA h (by decide) (by decide) (by decide) (by decide) hj
theorem aw_62 {σ : ah_S} {b : Nat} (h : sk_ok σ b) {j : Nat} {v : Int32} (hj : j < 4) : ah_wA σ 101 (some (b + 62)) (Int32.ofNat j) v = some (ah_sA σ (b + 62) j v) := sk_wA h (by decide) (by decide) (by decide) (by decide) hj
theorem al_62_0 {σ : ah_S} {b : Nat} (h : sk_ok σ b) : ah_lA σ 101 (some (b + 62)) (0 : Int32) = some (ah_ai σ (b + 62) 0) := sk_lA h (by decide) (by decide) (by decide) (by decide) (by decide : 0 < 4)
theorem aw_62_0 {σ : ah_S} {b : Nat} (h : sk_ok σ b) {v : Int32} : ah_wA σ 101 (some (b + 62)) (0 : Int32) v = some (ah_sA σ (b + 62) 0 v) := sk_wA h (by decide) (by decide) (by decide) (by decide) (by decide : 0 < 4)
theorem al_62_1 {σ : ah_S} {b : Nat} (h : sk_ok σ b) : ah_lA σ 101 (some (b + 62)) (1 : Int32) = some (ah_ai σ (b + 62) 1) := sk_lA h (by decide) (by decide) (by decide) (by decide) (by decide : 1 < 4)
theorem aw_62_1 {σ : ah_S} {b : Nat} (h : sk_ok σ b) {v : Int32} : ah_wA σ 101 (some (b + 62)) (1 : Int32) v = some (ah_sA σ (b + 62) 1 v) := sk_wA h (by decide) (by decide) (by decide) (by decide) (by decide : 1 < 4)
theorem al_62_2 {σ : ah_S} {b : Nat} (h : sk_ok σ b) : ah_lA σ 101 (some (b + 62)) (2 : Int32) = some (ah_ai σ (b + 62) 2) := sk_lA h (by decide) (by decide) (by decide) (by decide) (by decide : 2 < 4)
theorem aw_62_2 {σ : ah_S} {b : Nat} (h : sk_ok σ b) {v : Int32} : ah_wA σ 101 (some (b + 62)) (2 : Int32) v = some (ah_sA σ (b + 62) 2 v) := sk_wA h (by decide) (by decide) (by decide) (by decide) (by decide : 2 < 4)
theorem al_62_3 {σ : ah_S} {b : Nat} (h : sk_ok σ b) : ah_lA σ 101 (some (b + 62)) (3 : Int32) = some (ah_ai σ (b + 62) 3) := sk_lA h (by decide) (by decide) (by decide) (by decide) (by decide : 3 < 4)
theorem aw_62_3 {σ : ah_S} {b : Nat} (h : sk_ok σ b) {v : Int32} : ah_wA σ 101 (some (b + 62)) (3 : Int32) v = some (ah_sA σ (b + 62) 3 v) := sk_wA h (by decide) (by decide) (by decide) (by decide) (by decide : 3 < 4)
theorem al_63 {σ : ah_S} {b : Nat} (h : sk_ok σ b) {j : Nat} (hj : j < 6) : ah_lA σ 101 (some (b + 63)) (Int32.ofNat j) = some (ah_ai σ (b + 63) j) := sk_lA h (by decide) (by decide) (by decide) (by decide) hj
theorem aw_63 {σ : ah_S} {b : Nat} (h : sk_ok σ b) {j : Nat} {v : Int32} (hj : j < 6) : ah_wA σ 101 (some (b + 63)) (Int32.ofNat j) v = some (ah_sA σ (b + 63) j v) := sk_wA h (by decide) (by decide) (by decide) (by decide) hj
theorem al_63_0 {σ : ah_S} {b : Nat} (h : sk_ok σ b) : ah_lA σ 101 (some (b + 63)) (0 : Int32) = some (ah_ai σ (b + 63) 0) := sk_lA h (by decide) (by decide) (by decide) (by decide) (by decide : 0 < 6)
theorem aw_63_0 {σ : ah_S} {b : Nat} (h : sk_ok σ b) {v : Int32} : ah_wA σ 101 (some (b + 63)) (0 : Int32) v = some (ah_sA σ (b + 63) 0 v) := sk_wA h (by decide) (by decide) (by decide) (by decide) (by decide : 0 < 6)
theorem al_63_1 {σ : ah_S} {b : Nat} (h : sk_ok σ b) : ah_lA σ 101 (some (b + 63)) (1 : Int32) = some (ah_ai σ (b + 63) 1) := sk_lA h (by decide) (by decide) (by decide) (by decide) (by decide : 1 < 6)
theorem aw_63_1 {σ : ah_S} {b : Nat} (h : sk_ok σ b) {v : Int32} : ah_wA σ 101 (some (b + 63)) (1 : Int32) v = some (ah_sA σ (b + 63) 1 v) := sk_wA h (by decide) (by decide) (by decide) (by decide) (by decide : 1 < 6)
theorem al_63_2 {σ : ah_S} {b : Nat} (h : sk_ok σ b) : ah_lA σ 101 (some (b + 63)) (2 : Int32) = some (ah_ai σ (b + 63) 2) := sk_lA h (by decide) (by decide) (by decide) (by decide) (by decide : 2 < 6)
theorem aw_63_2 {σ : ah_S} {b : Nat} (h : sk_ok σ b) {v : Int32} : ah_wA σ 101 (some (b + 63)) (2 : Int32) v = some (ah_sA σ (b + 63) 2 v) := sk_wA h (by decide) (by decide) (by decide) (by decide) (by decide : 2 < 6)
theorem al_63_3 {σ : ah_S} {b : Nat} (h : sk_ok σ b) : ah_lA σ 101 (some (b + 63)) (3 : Int32) = some (ah_ai σ (b + 63) 3) := sk_lA h (by decide) (by decide) (by decide) (by decide) (by decide : 3 < 6)
theorem aw_63_3 {σ : ah_S} {b : Nat} (h : sk_ok σ b) {v : Int32} : ah_wA σ 101 (some (b + 63)) (3 : Int32) v = some (ah_sA σ (b + 63) 3 v) := sk_wA h (by decide) (by decide) (by decide) (by decide) (by decide : 3 < 6)
theorem al_63_4 {σ : ah_S} {b : Nat} (h : sk_ok σ b) : ah_lA σ 101 (some (b + 63)) (4 : Int32) = some (ah_ai σ (b + 63) 4) := sk_lA h (by decide) (by decide) (by decide) (by decide) (by decide : 4 < 6)
theorem aw_63_4 {σ : ah_S} {b : Nat} (h : sk_ok σ b) {v : Int32} : ah_wA σ 101 (some (b + 63)) (4 : Int32) v = some (ah_sA σ (b + 63) 4 v) := sk_wA h (by decide) (by decide) (by decide) (by decide) (by decide : 4 < 6)
theorem al_63_5 {σ : ah_S} {b : Nat} (h : sk_ok σ b) : ah_lA σ 101 (some (b + 63)) (5 : Int32) = some (ah_ai σ (b + 63) 5) := sk_lA h (by decide) (by decide) (by decide) (by decide) (by decide : 5 < 6)
theorem aw_63_5 {σ : ah_S} {b : Nat} (h : sk_ok σ b) {v : Int32} : ah_wA σ 101 (some (b + 63)) (5 : Int32) v = some (ah_sA σ (b + 63) 5 v) := sk_wA h (by decide) (by decide) (by decide) (by decide) (by decide : 5 < 6)
theorem al_64 {σ : ah_S} {b : Nat} (h : sk_ok σ b) {j : Nat} (hj : j < 6) : ah_lA σ 101 (some (b + 64)) (Int32.ofNat j) = some (ah_ai σ (b + 64) j) := sk_lA h (by decide) (by decide) (by decide) (by decide) hj
theorem aw_64 {σ : ah_S} {b : Nat} (h : sk_ok σ b) {j : Nat} {v : Int32} (hj : j < 6) : ah_wA σ 101 (some (b + 64)) (Int32.ofNat j) v = some (ah_sA σ (b + 64) j v) := sk_wA h (by decide) (by decide) (by decide) (by decide) hj
theorem al_64_0 {σ : ah_S} {b : Nat} (h : sk_ok σ b) : ah_lA σ 101 (some (b + 64)) (0 : Int32) = some (ah_ai σ (b + 64) 0) := sk_lA h (by decide) (by decide) (by decide) (by decide) (by decide : 0 < 6)
theorem aw_64_0 {σ : ah_S} {b : Nat} (h : sk_ok σ b) {v : Int32} : ah_wA σ 101 (some (b + 64)) (0 : Int32) v = some (ah_sA σ (b + 64) 0 v) := sk_wA h (by decide) (by decide) (by decide) (by decide) (by decide : 0 < 6)
theorem al_64_1 {σ : ah_S} {b : Nat} (h : sk_ok σ b) : ah_lA σ 101 (some (b + 64)) (1 : Int32) = some (ah_ai σ (b + 64) 1) := sk_lA h (by decide) (by decide) (by decide) (by decide) (by decide : 1 < 6)
theorem aw_64_1 {σ : ah_S} {b : Nat} (h : sk_ok σ b) {v : Int32} : ah_wA σ 101 (some (b + 64)) (1 : Int32) v = some (ah_sA σ (b + 64) 1 v) := sk_wA h (by decide) (by decide) (by decide) (by decide) (by decide : 1 < 6)
theorem al_64_2 {σ : ah_S} {b : Nat} (h : sk_ok σ b) : ah_lA σ 101 (some (b + 64)) (2 : Int32) = some (ah_ai σ (b + 64) 2) := sk_lA h (by decide) (by decide) (by decide) (by decide) (by decide : 2 < 6)
theorem aw_64_2 {σ : ah_S} {b : Nat} (h : sk_ok σ b) {v : Int32} : ah_wA σ 101 (some (b + 64)) (2 : Int32) v = some (ah_sA σ (b + 64) 2 v) := sk_wA h (by decide) (by decide) (by decide) (by decide) (by decide : 2 < 6)
theorem al_64_3 {σ : ah_S} {b : Nat} (h : sk_ok σ b) : ah_lA σ 101 (some (b + 64)) (3 : Int32) = some (ah_ai σ (b + 64) 3) := sk_lA h (by decide) (by decide) (by decide) (by decide) (by decide : 3 < 6)
theorem aw_64_3 {σ : ah_S} {b : Nat} (h : sk_ok σ b) {v : Int32} : ah_wA σ 101 (some (b + 64)) (3 : Int32) v = some (ah_sA σ (b + 64) 3 v) := sk_wA h (by decide) (by decide) (by decide) (by decide) (by decide : 3 < 6)
theorem al_64_4 {σ : ah_S} {b : Nat} (h : sk_ok σ b) : ah_lA σ 101 (some (b + 64)) (4 : Int32) = some (ah_ai σ (b + 64) 4) := sk_lA h (by decide) (by decide) (by decide) (by decide) (by decide : 4 < 6)
theorem aw_64_4 {σ : ah_S} {b : Nat} (h : sk_ok σ b) {v : Int32} : ah_wA σ 101 (some (b + 64)) (4 : Int32) v = some (ah_sA σ (b + 64) 4 v) := sk_wA h (by decide) (by decide) (by decide) (by decide) (by decide : 4 < 6)
theorem al_64_5 {σ : ah_S} {b : Nat} (h : sk_ok σ b) : ah_lA σ 101 (some (b + 64)) (5 : Int32) = some (ah_ai σ (b + 64) 5) := sk_lA h (by decide) (by decide) (by decide) (by decide) (by decide : 5 < 6)
theorem aw_64_5 {σ : ah_S} {b : Nat} (h : sk_ok σ b) {v : Int32} : ah_wA σ 101 (some (b + 64)) (5 : Int32) v = some (ah_sA σ (b + 64) 5 v) := sk_wA h (by decide) (by decide) (by decide) (by decide) (by decide : 5 < 6)
theorem al_65 {σ : ah_S} {b : Nat} (h : sk_ok σ b) {j : Nat} (hj : j < 4) : ah_lA σ 101 (some (b + 65)) (Int32.ofNat j) = some (ah_ai σ (b + 65) j) := sk_lA h (by decide) (by decide) (by decide) (by decide) hj
theorem aw_65 {σ : ah_S} {b : Nat} (h : sk_ok σ b) {j : Nat} {v : Int32} (hj : j < 4) : ah_wA σ 101 (some (b + 65)) (Int32.ofNat j) v = some (ah_sA σ (b + 65) j v) := sk_wA h (by decide) (by decide) (by decide) (by decide) hj
theorem al_65_0 {σ : ah_S} {b : Nat} (h : sk_ok σ b) : ah_lA σ 101 (some (b + 65)) (0 : Int32) = some (ah_ai σ (b + 65) 0) := sk_lA h (by decide) (by decide) (by decide) (by decide) (by decide : 0 < 4)
theorem aw_65_0 {σ : ah_S} {b : Nat} (h : sk_ok σ b) {v : Int32} : ah_wA σ 101 (some (b + 65)) (0 : Int32) v = some (ah_sA σ (b + 65) 0 v) := sk_wA h (by decide) (by decide) (by decide) (by decide) (by decide : 0 < 4)
theorem al_65_1 {σ : ah_S} {b : Nat} (h : sk_ok σ b) : ah_lA σ 101 (some (b + 65)) (1 : Int32) = some (ah_ai σ (b + 65) 1) := sk_lA h (by decide) (by decide) (by decide) (by decide) (by decide : 1 < 4)
theorem aw_65_1 {σ : ah_S} {b : Nat} (h : sk_ok σ b) {v : Int32} : ah_wA σ 101 (some (b + 65)) (1 : Int32) v = some (ah_sA σ (b + 65) 1 v) := sk_wA h (by decide) (by decide) (by decide) (by decide) (by decide : 1 < 4)
theorem al_65_2 {σ : ah_S} {b : Nat} (h : sk_ok σ b) : ah_lA σ 101 (some (b + 65)) (2 : Int32) = some (ah_ai σ (b + 65) 2) := sk_lA h (by decide) (by decide) (by decide) (by decide) (by decide : 2 < 4)
theorem aw_65_2 {σ : ah_S} {b : Nat} (h : sk_ok σ b) {v : Int32} : ah_wA σ 101 (some (b + 65)) (2 : Int32) v = some (ah_sA σ (b + 65) 2 v) := sk_wA h (by decide) (by decide) (by decide) (by decide) (by decide : 2 < 4)
theorem al_65_3 {σ : ah_S} {b : Nat} (h : sk_ok σ b) : ah_lA σ 101 (some (b + 65)) (3 : Int32) = some (ah_ai σ (b + 65) 3) := sk_lA h (by decide) (by decide) (by decide) (by decide) (by decide : 3 < 4)
theorem aw_65_3 {σ : ah_S} {b : Nat} (h : sk_ok σ b) {v : Int32} : ah_wA σ 101 (some (b + 65)) (3 : Int32) v = some (ah_sA σ (b + 65) 3 v) := sk_wA h (by decide) (by decide) (by decide) (by decide) (by decide : 3 < 4)
theorem al_67 {σ : ah_S} {b : Nat} (h : sk_ok σ b) {j : Nat} (hj : j < 4) : ah_lA σ 101 (some (b + 67)) (Int32.ofNat j) = some (ah_ai σ (b + 67) j) := sk_lA h (by decide) (by decide) (by decide) (by decide) hj
theorem aw_67 {σ : ah_S} {b : Nat} (h : sk_ok σ b) {j : Nat} {v : Int32} (hj : j < 4) : ah_wA σ 101 (some (b + 67)) (Int32.ofNat j) v = some (ah_sA σ (b + 67) j v) := sk_wA h (by decide) (by decide) (by decide) (by decide) hj
theorem al_67_0 {σ : ah_S} {b : Nat} (h : sk_ok σ b) : ah_lA σ 101 (some (b + 67)) (0 : Int32) = some (ah_ai σ (b + 67) 0) := sk_lA h (by decide) (by decide) (by decide) (by decide) (by decide : 0 < 4)
theorem aw_67_0 {σ : ah_S} {b : Nat} (h : sk_ok σ b) {v : Int32} : ah_wA σ 101 (some (b + 67)) (0 : Int32) v = some (ah_sA σ (b + 67) 0 v) := sk_wA h (by decide) (by decide) (by decide) (by decide) (by decide : 0 < 4)
theorem al_67_1 {σ : ah_S} {b : Nat} (h : sk_ok σ b) : ah_lA σ 101 (some (b + 67)) (1 : Int32) = some (ah_ai σ (b + 67) 1) := sk_lA h (by decide) (by decide) (by decide) (by decide) (by decide : 1 < 4)
theorem aw_67_1 {σ : ah_S} {b : Nat} (h : sk_ok σ b) {v : Int32} : ah_wA σ 101 (some (b + 67)) (1 : Int32) v = some (ah_sA σ (b + 67) 1 v) := sk_wA h (by decide) (by decide) (by decide) (by decide) (by decide : 1 < 4)
theorem al_67_2 {σ : ah_S} {b : Nat} (h : sk_ok σ b) : ah_lA σ 101 (some (b + 67)) (2 : Int32) = some (ah_ai σ (b + 67) 2) := sk_lA h (by decide) (by decide) (by decide) (by decide) (by decide : 2 < 4)
theorem aw_67_2 {σ : ah_S} {b : Nat} (h : sk_ok σ b) {v : Int32} : ah_wA σ 101 (some (b + 67)) (2 : Int32) v = some (ah_sA σ (b + 67) 2 v) := sk_wA h (by decide) (by decide) (by decide) (by decide) (by decide : 2 < 4)
theorem al_67_3 {σ : ah_S} {b : Nat} (h : sk_ok σ b) : ah_lA σ 101 (some (b + 67)) (3 : Int32) = some (ah_ai σ (b + 67) 3) := sk_lA h (by decide) (by decide) (by decide) (by decide) (by decide : 3 < 4)
theorem aw_67_3 {σ : ah_S} {b : Nat} (h : sk_ok σ b) {v : Int32} : ah_wA σ 101 (some (b + 67)) (3 : Int32) v = some (ah_sA σ (b + 67) 3 v) := sk_wA h (by decide) (by decide) (by decide) (by decide) (by decide : 3 < 4)
theorem al_68 {σ : ah_S} {b : Nat} (h : sk_ok σ b) {j : Nat} (hj : j < 4) : ah_lA σ 101 (some (b + 68)) (Int32.ofNat j) = some (ah_ai σ (b + 68) j) := sk_lA h (by decide) (by decide) (by decide) (by decide) hj
theorem aw_68 {σ : ah_S} {b : Nat} (h : sk_ok σ b) {j : Nat} {v : Int32} (hj : j < 4) : ah_wA σ 101 (some (b + 68)) (Int32.ofNat j) v = some (ah_sA σ (b + 68) j v) := sk_wA h (by decide) (by decide) (by decide) (by decide) hj
theorem al_68_0 {σ : ah_S} {b : Nat} (h : sk_ok σ b) : ah_lA σ 101 (some (b + 68)) (0 : Int32) = some (ah_ai σ (b + 68) 0) := sk_lA h (by decide) (by decide) (by decide) (by decide) (by decide : 0 < 4)
theorem aw_68_0 {σ : ah_S} {b : Nat} (h : sk_ok σ b) {v : Int32} : ah_wA σ 101 (some (b + 68)) (0 : Int32) v = some (ah_sA σ (b + 68) 0 v) := sk_wA h (by decide) (by decide) (by decide) (by decide) (by decide : 0 < 4)
theorem al_68_1 {σ : ah_S} {b : Nat} (h : sk_ok σ b) : ah_lA σ 101 (some (b + 68)) (1 : Int32) = some (ah_ai σ (b + 68) 1) := sk_lA h (by decide) (by decide) (by decide) (by decide) (by decide : 1 < 4)
theorem aw_68_1 {σ : ah_S} {b : Nat} (h : sk_ok σ b) {v : Int32} : ah_wA σ 101 (some (b + 68)) (1 : Int32) v = some (ah_sA σ (b + 68) 1 v) := sk_wA h (by decide) (by decide) (by decide) (by decide) (by decide : 1 < 4)
theorem al_68_2 {σ : ah_S} {b : Nat} (h : sk_ok σ b) : ah_lA σ 101 (some (b + 68)) (2 : Int32) = some (ah_ai σ (b + 68) 2) := sk_lA h (by decide) (by decide) (by decide) (by decide) (by decide : 2 < 4)
theorem aw_68_2 {σ : ah_S} {b : Nat} (h : sk_ok σ b) {v : Int32} : ah_wA σ 101 (some (b + 68)) (2 : Int32) v = some (ah_sA σ (b + 68) 2 v) := sk_wA h (by decide) (by decide) (by decide) (by decide) (by decide : 2 < 4)
theorem al_68_3 {σ : ah_S} {b : Nat} (h : sk_ok σ b) : ah_lA σ 101 (some (b + 68)) (3 : Int32) = some (ah_ai σ (b + 68) 3) := sk_lA h (by decide) (by decide) (by decide) (by decide) (by decide : 3 < 4)
theorem aw_68_3 {σ : ah_S} {b : Nat} (h : sk_ok σ b) {v : Int32} : ah_wA σ 101 (some (b + 68)) (3 : Int32) v = some (ah_sA σ (b + 68) 3 v) := sk_wA h (by decide) (by decide) (by decide) (by decide) (by decide : 3 < 4)
theorem al_69 {σ : ah_S} {b : Nat} (h : sk_ok σ b) {j : Nat} (hj : j < 28) : ah_lA σ 101 (some (b + 69)) (Int32.ofNat j) = some (ah_ai σ (b + 69) j) := sk_lA h (by decide) (by decide) (by decide) (by decide) hj
theorem aw_69 {σ : ah_S} {b : Nat} (h : sk_ok σ b) {j : Nat} {v : Int32} (hj : j < 28) : ah_wA σ 101 (some (b + 69)) (Int32.ofNat j) v = some (ah_sA σ (b + 69) j v) := sk_wA h (by decide) (by decide) (by decide) (by decide) hj
theorem al_70 {σ : ah_S} {b : Nat} (h : sk_ok σ b) {j : Nat} (hj : j < 4) : ah_lA σ 101 (some (b + 70)) (Int32.ofNat j) = some (ah_ai σ (b + 70) j) := sk_lA h (by decide) (by decide) (by decide) (by decide) hj
theorem aw_70 {σ : ah_S} {b : Nat} (h : sk_ok σ b) {j : Nat} {v : Int32} (hj : j < 4) : ah_wA σ 101 (some (b + 70)) (Int32.ofNat j) v = some (ah_sA σ (b + 70) j v) := sk_wA h (by decide) (by decide) (by decide) (by decide) hj
theorem al_70_0 {σ : ah_S} {b : Nat} (h : sk_ok σ b) : ah_lA σ 101 (some (b + 70)) (0 : Int32) = some (ah_ai σ (b + 70) 0) := sk_lA h (by decide) (by decide) (by decide) (by decide) (by decide : 0 < 4)
theorem aw_70_0 {σ : ah_S} {b : Nat} (h : sk_ok σ b) {v : Int32} : ah_wA σ 101 (some (b + 70)) (0 : Int32) v = some (ah_sA σ (b + 70) 0 v) := sk_wA h (by decide) (by decide) (by decide) (by decide) (by decide : 0 < 4)
theorem al_70_1 {σ : ah_S} {b : Nat} (h : sk_ok σ b) : ah_lA σ 101 (some (b + 70)) (1 : Int32) = some (ah_ai σ (b + 70) 1) := sk_lA h (by decide) (by decide) (by decide) (by decide) (by decide : 1 < 4)
theorem aw_70_1 {σ : ah_S} {b : Nat} (h : sk_ok σ b) {v : Int32} : ah_wA σ 101 (some (b + 70)) (1 : Int32) v = some (ah_sA σ (b + 70) 1 v) := sk_wA h (by decide) (by decide) (by decide) (by decide) (by decide : 1 < 4)
theorem al_70_2 {σ : ah_S} {b : Nat} (h : sk_ok σ b) : ah_lA σ 101 (some (b + 70)) (2 : Int32) = some (ah_ai σ (b + 70) 2) := sk_lA h (by decide) (by decide) (by decide) (by decide) (by decide : 2 < 4)
theorem aw_70_2 {σ : ah_S} {b : Nat} (h : sk_ok σ b) {v : Int32} : ah_wA σ 101 (some (b + 70)) (2 : Int32) v = some (ah_sA σ (b + 70) 2 v) := sk_wA h (by decide) (by decide) (by decide) (by decide) (by decide : 2 < 4)
theorem al_70_3 {σ : ah_S} {b : Nat} (h : sk_ok σ b) : ah_lA σ 101 (some (b + 70)) (3 : Int32) = some (ah_ai σ (b + 70) 3) := sk_lA h (by decide) (by decide) (by decide) (by decide) (by decide : 3 < 4)
theorem aw_70_3 {σ : ah_S} {b : Nat} (h : sk_ok σ b) {v : Int32} : ah_wA σ 101 (some (b + 70)) (3 : Int32) v = some (ah_sA σ (b + 70) 3 v) := sk_wA h (by decide) (by decide) (by decide) (by decide) (by decide : 3 < 4)
theorem al_71 {σ : ah_S} {b : Nat} (h : sk_ok σ b) {j : Nat} (hj : j < 4) : ah_lA σ 101 (some (b + 71)) (Int32.ofNat j) = some (ah_ai σ (b + 71) j) := sk_lA h (by decide) (by decide) (by decide) (by decide) hj
theorem aw_71 {σ : ah_S} {b : Nat} (h : sk_ok σ b) {j : Nat} {v : Int32} (hj : j < 4) : ah_wA σ 101 (some (b + 71)) (Int32.ofNat j) v = some (ah_sA σ (b + 71) j v) := sk_wA h (by decide) (by decide) (by decide) (by decide) hj
theorem al_71_0 {σ : ah_S} {b : Nat} (h : sk_ok σ b) : ah_lA σ 101 (some (b + 71)) (0 : Int32) = some (ah_ai σ (b + 71) 0) := sk_lA h (by decide) (by decide) (by decide) (by decide) (by decide : 0 < 4)
theorem aw_71_0 {σ : ah_S} {b : Nat} (h : sk_ok σ b) {v : Int32} : ah_wA σ 101 (some (b + 71)) (0 : Int32) v = some (ah_sA σ (b + 71) 0 v) := sk_wA h (by decide) (by decide) (by decide) (by decide) (by decide : 0 < 4)
theorem al_71_1 {σ : ah_S} {b : Nat} (h : sk_ok σ b) : ah_lA σ 101 (some (b + 71)) (1 : Int32) = some (ah_ai σ (b + 71) 1) := sk_lA h (by decide) (by decide) (by decide) (by decide) (by decide : 1 < 4)
theorem aw_71_1 {σ : ah_S} {b : Nat} (h : sk_ok σ b) {v : Int32} : ah_wA σ 101 (some (b + 71)) (1 : Int32) v = some (ah_sA σ (b + 71) 1 v) := sk_wA h (by decide) (by decide) (by decide) (by decide) (by decide : 1 < 4)
theorem al_71_2 {σ : ah_S} {b : Nat} (h : sk_ok σ b) : ah_lA σ 101 (some (b + 71)) (2 : Int32) = some (ah_ai σ (b + 71) 2) := sk_lA h (by decide) (by decide) (by decide) (by decide) (by decide : 2 < 4)
theorem aw_71_2 {σ : ah_S} {b : Nat} (h : sk_ok σ b) {v : Int32} : ah_wA σ 101 (some (b + 71)) (2 : Int32) v = some (ah_sA σ (b + 71) 2 v) := sk_wA h (by decide) (by decide) (by decide) (by decide) (by decide : 2 < 4)
theorem al_71_3 {σ : ah_S} {b : Nat} (h : sk_ok σ b) : ah_lA σ 101 (some (b + 71)) (3 : Int32) = some (ah_ai σ (b + 71) 3) := sk_lA h (by decide) (by decide) (by decide) (by decide) (by decide : 3 < 4)
theorem aw_71_3 {σ : ah_S} {b : Nat} (h : sk_ok σ b) {v : Int32} : ah_wA σ 101 (some (b + 71)) (3 : Int32) v = some (ah_sA σ (b + 71) 3 v) := sk_wA h (by decide) (by decide) (by decide) (by decide) (by decide : 3 < 4)
theorem al_72 {σ : ah_S} {b : Nat} (h : sk_ok σ b) {j : Nat} (hj : j < 50) : ah_lQ σ 115 (some (b + 72)) (Int32.ofNat j) = some (ah_ar σ (b + 72) j) := sk_lQ h (by decide) (by decide) (by decide) (by decide) hj
theorem aw_72 {σ : ah_S} {b : Nat} (h : sk_ok σ b) {j : Nat} {v : Option Nat} (hj : j < 50) (hv : ∀ c, v = some c → ah_tk 115 (ah_tg σ c) = true) : ah_wQ σ 115 (some (b + 72)) (Int32.ofNat j) v = some (ah_sQ σ (b + 72) j v) := sk_wQ h (by decide) (by decide) (by decide) (by decide) hj hv
theorem al_73 {σ : ah_S} {b : Nat} (h : sk_ok σ b) {j : Nat} (hj : j < 24) : ah_lA σ 101 (some (b + 73)) (Int32.ofNat j) = some (ah_ai σ (b + 73) j) := sk_lA h (by decide) (by decide) (by decide) (by decide) hj
theorem aw_73 {σ : ah_S} {b : Nat} (h : sk_ok σ b) {j : Nat} {v : Int32} (hj : j < 24) : ah_wA σ 101 (some (b + 73)) (Int32.ofNat j) v = some (ah_sA σ (b + 73) j v) := sk_wA h (by decide) (by decide) (by decide) (by decide) hj
theorem al_74 {σ : ah_S} {b : Nat} (h : sk_ok σ b) {j : Nat} (hj : j < 6) : ah_lQ σ 116 (some (b + 74)) (Int32.ofNat j) = some (ah_ar σ (b + 74) j) := sk_lQ h (by decide) (by decide) (by decide) (by decide) hj
theorem aw_74 {σ : ah_S} {b : Nat} (h : sk_ok σ b) {j : Nat} {v : Option Nat} (hj : j < 6) (hv : ∀ c, v = some c → ah_tk 116 (ah_tg σ c) = true) : ah_wQ σ 116 (some (b + 74)) (Int32.ofNat j) v = some (ah_sQ σ (b + 74) j v) := sk_wQ h (by decide) (by decide) (by decide) (by decide) hj hv
theorem al_124 {σ : ah_S} {b : Nat} (h : sk_ok σ b) {j : Nat} (hj : j < 4) : ah_lA σ 101 (some (b + 124)) (Int32.ofNat j) = some (ah_ai σ (b + 124) j) := sk_lA h (by decide) (by decide) (by decide) (by decide) hj
theorem aw_124 {σ : ah_S} {b : Nat} (h : sk_ok σ b) {j : Nat} {v : Int32} (hj : j < 4) : ah_wA σ 101 (some (b + 124)) (Int32.ofNat j) v = some (ah_sA σ (b + 124) j v) := sk_wA h (by decide) (by decide) (by decide) (by decide) hj
theorem al_124_0 {σ : ah_S} {b : Nat} (h : sk_ok σ b) : ah_lA σ 101 (some (b + 124)) (0 : Int32) = some (ah_ai σ (b + 124) 0) := sk_lA h (by decide) (by decide) (by decide) (by decide) (by decide : 0 < 4)
theorem aw_124_0 {σ : ah_S} {b : Nat} (h : sk_ok σ b) {v : Int32} : ah_wA σ 101 (some (b + 124)) (0 : Int32) v = some (ah_sA σ (b + 124) 0 v) := sk_wA h (by decide) (by decide) (by decide) (by decide) (by decide : 0 < 4)
theorem al_124_1 {σ : ah_S} {b : Nat} (h : sk_ok σ b) : ah_lA σ 101 (some (b + 124)) (1 : Int32) = some (ah_ai σ (b + 124) 1) := sk_lA h (by decide) (by decide) (by decide) (by decide) (by decide : 1 < 4)
theorem aw_124_1 {σ : ah_S} {b : Nat} (h : sk_ok σ b) {v : Int32} : ah_wA σ 101 (some (b + 124)) (1 : Int32) v = some (ah_sA σ (b + 124) 1 v) := sk_wA h (by decide) (by decide) (by decide) (by decide) (by decide : 1 < 4)
theorem al_124_2 {σ : ah_S} {b : Nat} (h : sk_ok σ b) : ah_lA σ 101 (some (b + 124)) (2 : Int32) = some (ah_ai σ (b + 124) 2) := sk_lA h (by decide) (by decide) (by decide) (by decide) (by decide : 2 < 4)
theorem aw_124_2 {σ : ah_S} {b : Nat} (h : sk_ok σ b) {v : Int32} : ah_wA σ 101 (some (b + 124)) (2 : Int32) v = some (ah_sA σ (b + 124) 2 v) := sk_wA h (by decide) (by decide) (by decide) (by decide) (by decide : 2 < 4)
theorem al_124_3 {σ : ah_S} {b : Nat} (h : sk_ok σ b) : ah_lA σ 101 (some (b + 124)) (3 : Int32) = some (ah_ai σ (b + 124) 3) := sk_lA h (by decide) (by decide) (by decide) (by decide) (by decide : 3 < 4)
theorem aw_124_3 {σ : ah_S} {b : Nat} (h : sk_ok σ b) {v : Int32} : ah_wA σ 101 (some (b + 124)) (3 : Int32) v = some (ah_sA σ (b + 124) 3 v) := sk_wA h (by decide) (by decide) (by decide) (by decide) (by decide : 3 < 4)
theorem al_125 {σ : ah_S} {b : Nat} (h : sk_ok σ b) {j : Nat} (hj : j < 4) : ah_lA σ 101 (some (b + 125)) (Int32.ofNat j) = some (ah_ai σ (b + 125) j) := sk_lA h (by decide) (by decide) (by decide) (by decide) hj
theorem aw_125 {σ : ah_S} {b : Nat} (h : sk_ok σ b) {j : Nat} {v : Int32} (hj : j < 4) : ah_wA σ 101 (some (b + 125)) (Int32.ofNat j) v = some (ah_sA σ (b + 125) j v) := sk_wA h (by decide) (by decide) (by decide) (by decide) hj
theorem al_125_0 {σ : ah_S} {b : Nat} (h : sk_ok σ b) : ah_lA σ 101 (some (b + 125)) (0 : Int32) = some (ah_ai σ (b + 125) 0) := sk_lA h (by decide) (by decide) (by decide) (by decide) (by decide : 0 < 4)
theorem aw_125_0 {σ : ah_S} {b : Nat} (h : sk_ok σ b) {v : Int32} : ah_wA σ 101 (some (b + 125)) (0 : Int32) v = some (ah_sA σ (b + 125) 0 v) := sk_wA h (by decide) (by decide) (by decide) (by decide) (by decide : 0 < 4)
theorem al_125_1 {σ : ah_S} {b : Nat} (h : sk_ok σ b) : ah_lA σ 101 (some (b + 125)) (1 : Int32) = some (ah_ai σ (b + 125) 1) := sk_lA h (by decide) (by decide) (by decide) (by decide) (by decide : 1 < 4)
theorem aw_125_1 {σ : ah_S} {b : Nat} (h : sk_ok σ b) {v : Int32} : ah_wA σ 101 (some (b + 125)) (1 : Int32) v = some (ah_sA σ (b + 125) 1 v) := sk_wA h (by decide) (by decide) (by decide) (by decide) (by decide : 1 < 4)
theorem al_125_2 {σ : ah_S} {b : Nat} (h : sk_ok σ b) : ah_lA σ 101 (some (b + 125)) (2 : Int32) = some (ah_ai σ (b + 125) 2) := sk_lA h (by decide) (by decide) (by decide) (by decide) (by decide : 2 < 4)
theorem aw_125_2 {σ : ah_S} {b : Nat} (h : sk_ok σ b) {v : Int32} : ah_wA σ 101 (some (b + 125)) (2 : Int32) v = some (ah_sA σ (b + 125) 2 v) := sk_wA h (by decide) (by decide) (by decide) (by decide) (by decide : 2 < 4)
theorem al_125_3 {σ : ah_S} {b : Nat} (h : sk_ok σ b) : ah_lA σ 101 (some (b + 125)) (3 : Int32) = some (ah_ai σ (b + 125) 3) := sk_lA h (by decide) (by decide) (by decide) (by decide) (by decide : 3 < 4)
theorem aw_125_3 {σ : ah_S} {b : Nat} (h : sk_ok σ b) {v : Int32} : ah_wA σ 101 (some (b + 125)) (3 : Int32) v = some (ah_sA σ (b + 125) 3 v) := sk_wA h (by decide) (by decide) (by decide) (by decide) (by decide : 3 < 4)
theorem al_126 {σ : ah_S} {b : Nat} (h : sk_ok σ b) {j : Nat} (hj : j < 28) : ah_lA σ 101 (some (b + 126)) (Int32.ofNat j) = some (ah_ai σ (b + 126) j) := sk_lA h (by decide) (by decide) (by decide) (by decide) hj
theorem aw_126 {σ : ah_S} {b : Nat} (h : sk_ok σ b) {j : Nat} {v : Int32} (hj : j < 28) : ah_wA σ 101 (some (b + 126)) (Int32.ofNat j) v = some (ah_sA σ (b + 126) j v) := sk_wA h (by decide) (by decide) (by decide) (by decide) hj
theorem al_127 {σ : ah_S} {b : Nat} (h : sk_ok σ b) {j : Nat} (hj : j < 28) : ah_lA σ 101 (some (b + 127)) (Int32.ofNat j) = some (ah_ai σ (b + 127) j) := sk_lA h (by decide) (by decide) (by decide) (by decide) hj
theorem aw_127 {σ : ah_S} {b : Nat} (h : sk_ok σ b) {j : Nat} {v : Int32} (hj : j < 28) : ah_wA σ 101 (some (b + 127)) (Int32.ofNat j) v = some (ah_sA σ (b + 127) j v) := sk_wA h (by decide) (by decide) (by decide) (by decide) hj
theorem al_128 {σ : ah_S} {b : Nat} (h : sk_ok σ b) {j : Nat} (hj : j < 7) : ah_lA σ 101 (some (b + 128)) (Int32.ofNat j) = some (ah_ai σ (b + 128) j) := sk_lA h (by decide) (by decide) (by decide) (by decide) hj
theorem aw_128 {σ : ah_S} {b : Nat} (h : sk_ok σ b) {j : Nat} {v : Int32} (hj : j < 7) : ah_wA σ 101 (some (b + 128)) (Int32.ofNat j) v = some (ah_sA σ (b + 128) j v) := sk_wA h (by decide) (by decide) (by decide) (by decide) hj
theorem al_128_0 {σ : ah_S} {b : Nat} (h : sk_ok σ b) : ah_lA σ 101 (some (b + 128)) (0 : Int32) = some (ah_ai σ (b + 128) 0) := sk_lA h (by decide) (by decide) (by decide) (by decide) (by decide : 0 < 7)
theorem aw_128_0 {σ : ah_S} {b : Nat} (h : sk_ok σ b) {v : Int32} : ah_wA σ 101 (some (b + 128)) (0 : Int32) v = some (ah_sA σ (b + 128) 0 v) := sk_wA h (by decide) (by decide) (by decide) (by decide) (by decide : 0 < 7)
theorem al_128_1 {σ : ah_S} {b : Nat} (h : sk_ok σ b) : ah_lA σ 101 (some (b + 128)) (1 : Int32) = some (ah_ai σ (b + 128) 1) := sk_lA h (by decide) (by decide) (by decide) (by decide) (by decide : 1 < 7)
theorem aw_128_1 {σ : ah_S} {b : Nat} (h : sk_ok σ b) {v : Int32} : ah_wA σ 101 (some (b + 128)) (1 : Int32) v = some (ah_sA σ (b + 128) 1 v) := sk_wA h (by decide) (by decide) (by decide) (by decide) (by decide : 1 < 7)
theorem al_128_2 {σ : ah_S} {b : Nat} (h : sk_ok σ b) : ah_lA σ 101 (some (b + 128)) (2 : Int32) = some (ah_ai σ (b + 128) 2) := sk_lA h (by decide) (by decide) (by decide) (by decide) (by decide : 2 < 7)
theorem aw_128_2 {σ : ah_S} {b : Nat} (h : sk_ok σ b) {v : Int32} : ah_wA σ 101 (some (b + 128)) (2 : Int32) v = some (ah_sA σ (b + 128) 2 v) := sk_wA h (by decide) (by decide) (by decide) (by decide) (by decide : 2 < 7)
theorem al_128_3 {σ : ah_S} {b : Nat} (h : sk_ok σ b) : ah_lA σ 101 (some (b + 128)) (3 : Int32) = some (ah_ai σ (b + 128) 3) := sk_lA h (by decide) (by decide) (by decide) (by decide) (by decide : 3 < 7)
theorem aw_128_3 {σ : ah_S} {b : Nat} (h : sk_ok σ b) {v : Int32} : ah_wA σ 101 (some (b + 128)) (3 : Int32) v = some (ah_sA σ (b + 128) 3 v) := sk_wA h (by decide) (by decide) (by decide) (by decide) (by decide : 3 < 7)
theorem al_128_4 {σ : ah_S} {b : Nat} (h : sk_ok σ b) : ah_lA σ 101 (some (b + 128)) (4 : Int32) = some (ah_ai σ (b + 128) 4) := sk_lA h (by decide) (by decide) (by decide) (by decide) (by decide : 4 < 7)
theorem aw_128_4 {σ : ah_S} {b : Nat} (h : sk_ok σ b) {v : Int32} : ah_wA σ 101 (some (b + 128)) (4 : Int32) v = some (ah_sA σ (b + 128) 4 v) := sk_wA h (by decide) (by decide) (by decide) (by decide) (by decide : 4 < 7)
theorem al_128_5 {σ : ah_S} {b : Nat} (h : sk_ok σ b) : ah_lA σ 101 (some (b + 128)) (5 : Int32) = some (ah_ai σ (b + 128) 5) := sk_lA h (by decide) (by decide) (by decide) (by decide) (by decide : 5 < 7)
theorem aw_128_5 {σ : ah_S} {b : Nat} (h : sk_ok σ b) {v : Int32} : ah_wA σ 101 (some (b + 128)) (5 : Int32) v = some (ah_sA σ (b + 128) 5 v) := sk_wA h (by decide) (by decide) (by decide) (by decide) (by decide : 5 < 7)
theorem al_128_6 {σ : ah_S} {b : Nat} (h : sk_ok σ b) : ah_lA σ 101 (some (b + 128)) (6 : Int32) = some (ah_ai σ (b + 128) 6) := sk_lA h (by decide) (by decide) (by decide) (by decide) (by decide : 6 < 7)
theorem aw_128_6 {σ : ah_S} {b : Nat} (h : sk_ok σ b) {v : Int32} : ah_wA σ 101 (some (b + 128)) (6 : Int32) v = some (ah_sA σ (b + 128) 6 v) := sk_wA h (by decide) (by decide) (by decide) (by decide) (by decide : 6 < 7)
theorem al_129 {σ : ah_S} {b : Nat} (h : sk_ok σ b) {j : Nat} (hj : j < 7) : ah_lA σ 101 (some (b + 129)) (Int32.ofNat j) = some (ah_ai σ (b + 129) j) := sk_lA h (by decide) (by decide) (by decide) (by decide) hj
theorem aw_129 {σ : ah_S} {b : Nat} (h : sk_ok σ b) {j : Nat} {v : Int32} (hj : j < 7) : ah_wA σ 101 (some (b + 129)) (Int32.ofNat j) v = some (ah_sA σ (b + 129) j v) := sk_wA h (by decide) (by decide) (by decide) (by decide) hj
theorem al_129_0 {σ : ah_S} {b : Nat} (h : sk_ok σ b) : ah_lA σ 101 (some (b + 129)) (0 : Int32) = some (ah_ai σ (b + 129) 0) := sk_lA h (by decide) (by decide) (by decide) (by decide) (by decide : 0 < 7)
theorem aw_129_0 {σ : ah_S} {b : Nat} (h : sk_ok σ b) {v : Int32} : ah_wA σ 101 (some (b + 129)) (0 : Int32) v = some (ah_sA σ (b + 129) 0 v) := sk_wA h (by decide) (by decide) (by decide) (by decide) (by decide : 0 < 7)
theorem al_129_1 {σ : ah_S} {b : Nat} (h : sk_ok σ b) : ah_lA σ 101 (some (b + 129)) (1 : Int32) = some (ah_ai σ (b + 129) 1) := sk_lA h (by decide) (by decide) (by decide) (by decide) (by decide : 1 < 7)
theorem aw_129_1 {σ : ah_S} {b : Nat} (h : sk_ok σ b) {v : Int32} : ah_wA σ 101 (some (b + 129)) (1 : Int32) v = some (ah_sA σ (b + 129) 1 v) := sk_wA h (by decide) (by decide) (by decide) (by decide) (by decide : 1 < 7)
theorem al_129_2 {σ : ah_S} {b : Nat} (h : sk_ok σ b) : ah_lA σ 101 (some (b + 129)) (2 : Int32) = some (ah_ai σ (b + 129) 2) := sk_lA h (by decide) (by decide) (by decide) (by decide) (by decide : 2 < 7)
theorem aw_129_2 {σ : ah_S} {b : Nat} (h : sk_ok σ b) {v : Int32} : ah_wA σ 101 (some (b + 129)) (2 : Int32) v = some (ah_sA σ (b + 129) 2 v) := sk_wA h (by decide) (by decide) (by decide) (by decide) (by decide : 2 < 7)
theorem al_129_3 {σ : ah_S} {b : Nat} (h : sk_ok σ b) : ah_lA σ 101 (some (b + 129)) (3 : Int32) = some (ah_ai σ (b + 129) 3) := sk_lA h (by decide) (by decide) (by decide) (by decide) (by decide : 3 < 7)
theorem aw_129_3 {σ : ah_S} {b : Nat} (h : sk_ok σ b) {v : Int32} : ah_wA σ 101 (some (b + 129)) (3 : Int32) v = some (ah_sA σ (b + 129) 3 v) := sk_wA h (by decide) (by decide) (by decide) (by decide) (by decide : 3 < 7)
theorem al_129_4 {σ : ah_S} {b : Nat} (h : sk_ok σ b) : ah_lA σ 101 (some (b + 129)) (4 : Int32) = some (ah_ai σ (b + 129) 4) := sk_lA h (by decide) (by decide) (by decide) (by decide) (by decide : 4 < 7)
theorem aw_129_4 {σ : ah_S} {b : Nat} (h : sk_ok σ b) {v : Int32} : ah_wA σ 101 (some (b + 129)) (4 : Int32) v = some (ah_sA σ (b + 129) 4 v) := sk_wA h (by decide) (by decide) (by decide) (by decide) (by decide : 4 < 7)
theorem al_129_5 {σ : ah_S} {b : Nat} (h : sk_ok σ b) : ah_lA σ 101 (some (b + 129)) (5 : Int32) = some (ah_ai σ (b + 129) 5) := sk_lA h (by decide) (by decide) (by decide) (by decide) (by decide : 5 < 7)
theorem aw_129_5 {σ : ah_S} {b : Nat} (h : sk_ok σ b) {v : Int32} : ah_wA σ 101 (some (b + 129)) (5 : Int32) v = some (ah_sA σ (b + 129) 5 v) := sk_wA h (by decide) (by decide) (by decide) (by decide) (by decide : 5 < 7)
theorem al_129_6 {σ : ah_S} {b : Nat} (h : sk_ok σ b) : ah_lA σ 101 (some (b + 129)) (6 : Int32) = some (ah_ai σ (b + 129) 6) := sk_lA h (by decide) (by decide) (by decide) (by decide) (by decide : 6 < 7)
theorem aw_129_6 {σ : ah_S} {b : Nat} (h : sk_ok σ b) {v : Int32} : ah_wA σ 101 (some (b + 129)) (6 : Int32) v = some (ah_sA σ (b + 129) 6 v) := sk_wA h (by decide) (by decide) (by decide) (by decide) (by decide : 6 < 7)
theorem al_130 {σ : ah_S} {b : Nat} (h : sk_ok σ b) {j : Nat} (hj : j < 48) : ah_lA σ 101 (some (b + 130)) (Int32.ofNat j) = some (ah_ai σ (b + 130) j) := sk_lA h (by decide) (by decide) (by decide) (by decide) hj
theorem aw_130 {σ : ah_S} {b : Nat} (h : sk_ok σ b) {j : Nat} {v : Int32} (hj : j < 48) : ah_wA σ 101 (some (b + 130)) (Int32.ofNat j) v = some (ah_sA σ (b + 130) j v) := sk_wA h (by decide) (by decide) (by decide) (by decide) hj
theorem al_131 {σ : ah_S} {b : Nat} (h : sk_ok σ b) {j : Nat} (hj : j < 40) : ah_lA σ 101 (some (b + 131)) (Int32.ofNat j) = some (ah_ai σ (b + 131) j) := sk_lA h (by decide) (by decide) (by decide) (by decide) hj
theorem aw_131 {σ : ah_S} {b : Nat} (h : sk_ok σ b) {j : Nat} {v : Int32} (hj : j < 40) : ah_wA σ 101 (some (b + 131)) (Int32.ofNat j) v = some (ah_sA σ (b + 131) j v) := sk_wA h (by decide) (by decide) (by decide) (by decide) hj
theorem al_132 {σ : ah_S} {b : Nat} (h : sk_ok σ b) {j : Nat} (hj : j < 40) : ah_lA σ 101 (some (b + 132)) (Int32.ofNat j) = some (ah_ai σ (b + 132) j) := sk_lA h (by decide) (by decide) (by decide) (by decide) hj
theorem aw_132 {σ : ah_S} {b : Nat} (h : sk_ok σ b) {j : Nat} {v : Int32} (hj : j < 40) : ah_wA σ 101 (some (b + 132)) (Int32.ofNat j) v = some (ah_sA σ (b + 132) j v) := sk_wA h (by decide) (by decide) (by decide) (by decide) hj
theorem al_133 {σ : ah_S} {b : Nat} (h : sk_ok σ b) {j : Nat} (hj : j < 40) : ah_lA σ 101 (some (b + 133)) (Int32.ofNat j) = some (ah_ai σ (b + 133) j) := sk_lA h (by decide) (by decide) (by decide) (by decide) hj
theorem aw_133 {σ : ah_S} {b : Nat} (h : sk_ok σ b) {j : Nat} {v : Int32} (hj : j < 40) : ah_wA σ 101 (some (b + 133)) (Int32.ofNat j) v = some (ah_sA σ (b + 133) j v) := sk_wA h (by decide) (by decide) (by decide) (by decide) hj
theorem al_134 {σ : ah_S} {b : Nat} (h : sk_ok σ b) {j : Nat} (hj : j < 40) : ah_lA σ 101 (some (b + 134)) (Int32.ofNat j) = some (ah_ai σ (b + 134) j) := sk_lA h (by decide) (by decide) (by decide) (by decide) hj
theorem aw_134 {σ : ah_S} {b : Nat} (h : sk_ok σ b) {j : Nat} {v : Int32} (hj : j < 40) : ah_wA σ 101 (some (b + 134)) (Int32.ofNat j) v = some (ah_sA σ (b + 134) j v) := sk_wA h (by decide) (by decide) (by decide) (by decide) hj
theorem al_135 {σ : ah_S} {b : Nat} (h : sk_ok σ b) {j : Nat} (hj : j < 120) : ah_lA σ 102 (some (b + 135)) (Int32.ofNat j) = some (ah_ai σ (b + 135) j) := sk_lA h (by decide) (by decide) (by decide) (by decide) hj
theorem aw_135 {σ : ah_S} {b : Nat} (h : sk_ok σ b) {j : Nat} {v : Int32} (hj : j < 120) : ah_wA σ 102 (some (b + 135)) (Int32.ofNat j) v = some (ah_sA σ (b + 135) j v) := sk_wA h (by decide) (by decide) (by decide) (by decide) hj
theorem al_136 {σ : ah_S} {b : Nat} (h : sk_ok σ b) {j : Nat} (hj : j < 260) : ah_lA σ 102 (some (b + 136)) (Int32.ofNat j) = some (ah_ai σ (b + 136) j) := sk_lA h (by decide) (by decide) (by decide) (by decide) hj
theorem aw_136 {σ : ah_S} {b : Nat} (h : sk_ok σ b) {j : Nat} {v : Int32} (hj : j < 260) : ah_wA σ 102 (some (b + 136)) (Int32.ofNat j) v = some (ah_sA σ (b + 136) j v) := sk_wA h (by decide) (by decide) (by decide) (by decide) hj
theorem al_137 {σ : ah_S} {b : Nat} (h : sk_ok σ b) {j : Nat} (hj : j < 260) : ah_lA σ 101 (some (b + 137)) (Int32.ofNat j) = some (ah_ai σ (b + 137) j) := sk_lA h (by decide) (by decide) (by decide) (by decide) hj
theorem aw_137 {σ : ah_S} {b : Nat} (h : sk_ok σ b) {j : Nat} {v : Int32} (hj : j < 260) : ah_wA σ 101 (some (b + 137)) (Int32.ofNat j) v = some (ah_sA σ (b + 137) j v) := sk_wA h (by decide) (by decide) (by decide) (by decide) hj
theorem al_138 {σ : ah_S} {b : Nat} (h : sk_ok σ b) {j : Nat} (hj : j < 2) : ah_lA σ 101 (some (b + 138)) (Int32.ofNat j) = some (ah_ai σ (b + 138) j) := sk_lA h (by decide) (by decide) (by decide) (by decide) hj
theorem aw_138 {σ : ah_S} {b : Nat} (h : sk_ok σ b) {j : Nat} {v : Int32} (hj : j < 2) : ah_wA σ 101 (some (b + 138)) (Int32.ofNat j) v = some (ah_sA σ (b + 138) j v) := sk_wA h (by decide) (by decide) (by decide) (by decide) hj
theorem al_138_0 {σ : ah_S} {b : Nat} (h : sk_ok σ b) : ah_lA σ 101 (some (b + 138)) (0 : Int32) = some (ah_ai σ (b + 138) 0) := sk_lA h (by decide) (by decide) (by decide) (by decide) (by decide : 0 < 2)
theorem aw_138_0 {σ : ah_S} {b : Nat} (h : sk_ok σ b) {v : Int32} : ah_wA σ 101 (some (b + 138)) (0 : Int32) v = some (ah_sA σ (b + 138) 0 v) := sk_wA h (by decide) (by decide) (by decide) (by decide) (by decide : 0 < 2)
theorem al_138_1 {σ : ah_S} {b : Nat} (h : sk_ok σ b) : ah_lA σ 101 (some (b + 138)) (1 : Int32) = some (ah_ai σ (b + 138) 1) := sk_lA h (by decide) (by decide) (by decide) (by decide) (by decide : 1 < 2)
theorem aw_138_1 {σ : ah_S} {b : Nat} (h : sk_ok σ b) {v : Int32} : ah_wA σ 101 (some (b + 138)) (1 : Int32) v = some (ah_sA σ (b + 138) 1 v) := sk_wA h (by decide) (by decide) (by decide) (by decide) (by decide : 1 < 2)
theorem al_139 {σ : ah_S} {b : Nat} (h : sk_ok σ b) {j : Nat} (hj : j < 122) : ah_lA σ 103 (some (b + 139)) (Int32.ofNat j) = some (ah_ai σ (b + 139) j) := sk_lA h (by decide) (by decide) (by decide) (by decide) hj
theorem aw_139 {σ : ah_S} {b : Nat} (h : sk_ok σ b) {j : Nat} {v : Int32} (hj : j < 122) : ah_wA σ 103 (some (b + 139)) (Int32.ofNat j) v = some (ah_sA σ (b + 139) j v) := sk_wA h (by decide) (by decide) (by decide) (by decide) hj
theorem al_140 {σ : ah_S} {b : Nat} (h : sk_ok σ b) {j : Nat} (hj : j < 122) : ah_lA σ 103 (some (b + 140)) (Int32.ofNat j) = some (ah_ai σ (b + 140) j) := sk_lA h (by decide) (by decide) (by decide) (by decide) hj
theorem aw_140 {σ : ah_S} {b : Nat} (h : sk_ok σ b) {j : Nat} {v : Int32} (hj : j < 122) : ah_wA σ 103 (some (b + 140)) (Int32.ofNat j) v = some (ah_sA σ (b + 140) j v) := sk_wA h (by decide) (by decide) (by decide) (by decide) hj
theorem al_141 {σ : ah_S} {b : Nat} (h : sk_ok σ b) {j : Nat} (hj : j < 6) : ah_lA σ 101 (some (b + 141)) (Int32.ofNat j) = some (ah_ai σ (b + 141) j) := sk_lA h (by decide) (by decide) (by decide) (by decide) hj
theorem aw_141 {σ : ah_S} {b : Nat} (h : sk_ok σ b) {j : Nat} {v : Int32} (hj : j < 6) : ah_wA σ 101 (some (b + 141)) (Int32.ofNat j) v = some (ah_sA σ (b + 141) j v) := sk_wA h (by decide) (by decide) (by decide) (by decide) hj
theorem al_141_0 {σ : ah_S} {b : Nat} (h : sk_ok σ b) : ah_lA σ 101 (some (b + 141)) (0 : Int32) = some (ah_ai σ (b + 141) 0) := sk_lA h (by decide) (by decide) (by decide) (by decide) (by decide : 0 < 6)
theorem aw_141_0 {σ : ah_S} {b : Nat} (h : sk_ok σ b) {v : Int32} : ah_wA σ 101 (some (b + 141)) (0 : Int32) v = some (ah_sA σ (b + 141) 0 v) := sk_wA h (by decide) (by decide) (by decide) (by decide) (by decide : 0 < 6)
theorem al_141_1 {σ : ah_S} {b : Nat} (h : sk_ok σ b) : ah_lA σ 101 (some (b + 141)) (1 : Int32) = some (ah_ai σ (b + 141) 1) := sk_lA h (by decide) (by decide) (by decide) (by decide) (by decide : 1 < 6)
theorem aw_141_1 {σ : ah_S} {b : Nat} (h : sk_ok σ b) {v : Int32} : ah_wA σ 101 (some (b + 141)) (1 : Int32) v = some (ah_sA σ (b + 141) 1 v) := sk_wA h (by decide) (by decide) (by decide) (by decide) (by decide : 1 < 6)
theorem al_141_2 {σ : ah_S} {b : Nat} (h : sk_ok σ b) : ah_lA σ 101 (some (b + 141)) (2 : Int32) = some (ah_ai σ (b + 141) 2) := sk_lA h (by decide) (by decide) (by decide) (by decide) (by decide : 2 < 6)
theorem aw_141_2 {σ : ah_S} {b : Nat} (h : sk_ok σ b) {v : Int32} : ah_wA σ 101 (some (b + 141)) (2 : Int32) v = some (ah_sA σ (b + 141) 2 v) := sk_wA h (by decide) (by decide) (by decide) (by decide) (by decide : 2 < 6)
theorem al_141_3 {σ : ah_S} {b : Nat} (h : sk_ok σ b) : ah_lA σ 101 (some (b + 141)) (3 : Int32) = some (ah_ai σ (b + 141) 3) := sk_lA h (by decide) (by decide) (by decide) (by decide) (by decide : 3 < 6)
theorem aw_141_3 {σ : ah_S} {b : Nat} (h : sk_ok σ b) {v : Int32} : ah_wA σ 101 (some (b + 141)) (3 : Int32) v = some (ah_sA σ (b + 141) 3 v) := sk_wA h (by decide) (by decide) (by decide) (by decide) (by decide : 3 < 6)
theorem al_141_4 {σ : ah_S} {b : Nat} (h : sk_ok σ b) : ah_lA σ 101 (some (b + 141)) (4 : Int32) = some (ah_ai σ (b + 141) 4) := sk_lA h (by decide) (by decide) (by decide) (by decide) (by decide : 4 < 6)
theorem aw_141_4 {σ : ah_S} {b : Nat} (h : sk_ok σ b) {v : Int32} : ah_wA σ 101 (some (b + 141)) (4 : Int32) v = some (ah_sA σ (b + 141) 4 v) := sk_wA h (by decide) (by decide) (by decide) (by decide) (by decide : 4 < 6)
theorem al_141_5 {σ : ah_S} {b : Nat} (h : sk_ok σ b) : ah_lA σ 101 (some (b + 141)) (5 : Int32) = some (ah_ai σ (b + 141) 5) := sk_lA h (by decide) (by decide) (by decide) (by decide) (by decide : 5 < 6)
theorem aw_141_5 {σ : ah_S} {b : Nat} (h : sk_ok σ b) {v : Int32} : ah_wA σ 101 (some (b + 141)) (5 : Int32) v = some (ah_sA σ (b + 141) 5 v) := sk_wA h (by decide) (by decide) (by decide) (by decide) (by decide : 5 < 6)
theorem al_142 {σ : ah_S} {b : Nat} (h : sk_ok σ b) {j : Nat} (hj : j < 130) : ah_lA σ 101 (some (b + 142)) (Int32.ofNat j) = some (ah_ai σ (b + 142) j) := sk_lA h (by decide) (by decide) (by decide) (by decide) hj
theorem aw_142 {σ : ah_S} {b : Nat} (h : sk_ok σ b) {j : Nat} {v : Int32} (hj : j < 130) : ah_wA σ 101 (some (b + 142)) (Int32.ofNat j) v = some (ah_sA σ (b + 142) j v) := sk_wA h (by decide) (by decide) (by decide) (by decide) hj
theorem al_143 {σ : ah_S} {b : Nat} (h : sk_ok σ b) {j : Nat} (hj : j < 4) : ah_lA σ 101 (some (b + 143)) (Int32.ofNat j) = some (ah_ai σ (b + 143) j) := sk_lA h (by decide) (by decide) (by decide) (by decide) hj
theorem aw_143 {σ : ah_S} {b : Nat} (h : sk_ok σ b) {j : Nat} {v : Int32} (hj : j < 4) : ah_wA σ 101 (some (b + 143)) (Int32.ofNat j) v = some (ah_sA σ (b + 143) j v) := sk_wA h (by decide) (by decide) (by decide) (by decide) hj
theorem al_143_0 {σ : ah_S} {b : Nat} (h : sk_ok σ b) : ah_lA σ 101 (some (b + 143)) (0 : Int32) = some (ah_ai σ (b + 143) 0) := sk_lA h (by decide) (by decide) (by decide) (by decide) (by decide : 0 < 4)
theorem aw_143_0 {σ : ah_S} {b : Nat} (h : sk_ok σ b) {v : Int32} : ah_wA σ 101 (some (b + 143)) (0 : Int32) v = some (ah_sA σ (b + 143) 0 v) := sk_wA h (by decide) (by decide) (by decide) (by decide) (by decide : 0 < 4)
theorem al_143_1 {σ : ah_S} {b : Nat} (h : sk_ok σ b) : ah_lA σ 101 (some (b + 143)) (1 : Int32) = some (ah_ai σ (b + 143) 1) := sk_lA h (by decide) (by decide) (by decide) (by decide) (by decide : 1 < 4)
theorem aw_143_1 {σ : ah_S} {b : Nat} (h : sk_ok σ b) {v : Int32} : ah_wA σ 101 (some (b + 143)) (1 : Int32) v = some (ah_sA σ (b + 143) 1 v) := sk_wA h (by decide) (by decide) (by decide) (by decide) (by decide : 1 < 4)
theorem al_143_2 {σ : ah_S} {b : Nat} (h : sk_ok σ b) : ah_lA σ 101 (some (b + 143)) (2 : Int32) = some (ah_ai σ (b + 143) 2) := sk_lA h (by decide) (by decide) (by decide) (by decide) (by decide : 2 < 4)
theorem aw_143_2 {σ : ah_S} {b : Nat} (h : sk_ok σ b) {v : Int32} : ah_wA σ 101 (some (b + 143)) (2 : Int32) v = some (ah_sA σ (b + 143) 2 v) := sk_wA h (by decide) (by decide) (by decide) (by decide) (by decide : 2 < 4)
theorem al_143_3 {σ : ah_S} {b : Nat} (h : sk_ok σ b) : ah_lA σ 101 (some (b + 143)) (3 : Int32) = some (ah_ai σ (b + 143) 3) := sk_lA h (by decide) (by decide) (by decide) (by decide) (by decide : 3 < 4)
theorem aw_143_3 {σ : ah_S} {b : Nat} (h : sk_ok σ b) {v : Int32} : ah_wA σ 101 (some (b + 143)) (3 : Int32) v = some (ah_sA σ (b + 143) 3 v) := sk_wA h (by decide) (by decide) (by decide) (by decide) (by decide : 3 < 4)
theorem al_144 {σ : ah_S} {b : Nat} (h : sk_ok σ b) {j : Nat} (hj : j < 4) : ah_lA σ 101 (some (b + 144)) (Int32.ofNat j) = some (ah_ai σ (b + 144) j) := sk_lA h (by decide) (by decide) (by decide) (by decide) hj
theorem aw_144 {σ : ah_S} {b : Nat} (h : sk_ok σ b) {j : Nat} {v : Int32} (hj : j < 4) : ah_wA σ 101 (some (b + 144)) (Int32.ofNat j) v = some (ah_sA σ (b + 144) j v) := sk_wA h (by decide) (by decide) (by decide) (by decide) hj
theorem al_144_0 {σ : ah_S} {b : Nat} (h : sk_ok σ b) : ah_lA σ 101 (some (b + 144)) (0 : Int32) = some (ah_ai σ (b + 144) 0) := sk_lA h (by decide) (by decide) (by decide) (by decide) (by decide : 0 < 4)
theorem aw_144_0 {σ : ah_S} {b : Nat} (h : sk_ok σ b) {v : Int32} : ah_wA σ 101 (some (b + 144)) (0 : Int32) v = some (ah_sA σ (b + 144) 0 v) := sk_wA h (by decide) (by decide) (by decide) (by decide) (by decide : 0 < 4)
theorem al_144_1 {σ : ah_S} {b : Nat} (h : sk_ok σ b) : ah_lA σ 101 (some (b + 144)) (1 : Int32) = some (ah_ai σ (b + 144) 1) := sk_lA h (by decide) (by decide) (by decide) (by decide) (by decide : 1 < 4)
theorem aw_144_1 {σ : ah_S} {b : Nat} (h : sk_ok σ b) {v : Int32} : ah_wA σ 101 (some (b + 144)) (1 : Int32) v = some (ah_sA σ (b + 144) 1 v) := sk_wA h (by decide) (by decide) (by decide) (by decide) (by decide : 1 < 4)
theorem al_144_2 {σ : ah_S} {b : Nat} (h : sk_ok σ b) : ah_lA σ 101 (some (b + 144)) (2 : Int32) = some (ah_ai σ (b + 144) 2) := sk_lA h (by decide) (by decide) (by decide) (by decide) (by decide : 2 < 4)
theorem aw_144_2 {σ : ah_S} {b : Nat} (h : sk_ok σ b) {v : Int32} : ah_wA σ 101 (some (b + 144)) (2 : Int32) v = some (ah_sA σ (b + 144) 2 v) := sk_wA h (by decide) (by decide) (by decide) (by decide) (by decide : 2 < 4)
theorem al_144_3 {σ : ah_S} {b : Nat} (h : sk_ok σ b) : ah_lA σ 101 (some (b + 144)) (3 : Int32) = some (ah_ai σ (b + 144) 3) := sk_lA h (by decide) (by decide) (by decide) (by decide) (by decide : 3 < 4)
theorem aw_144_3 {σ : ah_S} {b : Nat} (h : sk_ok σ b) {v : Int32} : ah_wA σ 101 (some (b + 144)) (3 : Int32) v = some (ah_sA σ (b + 144) 3 v) := sk_wA h (by decide) (by decide) (by decide) (by decide) (by decide : 3 < 4)
theorem al_145 {σ : ah_S} {b : Nat} (h : sk_ok σ b) {j : Nat} (hj : j < 48) : ah_lA σ 101 (some (b + 145)) (Int32.ofNat j) = some (ah_ai σ (b + 145) j) := sk_lA h (by decide) (by decide) (by decide) (by decide) hj
theorem aw_145 {σ : ah_S} {b : Nat} (h : sk_ok σ b) {j : Nat} {v : Int32} (hj : j < 48) : ah_wA σ 101 (some (b + 145)) (Int32.ofNat j) v = some (ah_sA σ (b + 145) j v) := sk_wA h (by decide) (by decide) (by decide) (by decide) hj
theorem al_146 {σ : ah_S} {b : Nat} (h : sk_ok σ b) {j : Nat} (hj : j < 30) : ah_lA σ 101 (some (b + 146)) (Int32.ofNat j) = some (ah_ai σ (b + 146) j) := sk_lA h (by decide) (by decide) (by decide) (by decide) hj
theorem aw_146 {σ : ah_S} {b : Nat} (h : sk_ok σ b) {j : Nat} {v : Int32} (hj : j < 30) : ah_wA σ 101 (some (b + 146)) (Int32.ofNat j) v = some (ah_sA σ (b + 146) j v) := sk_wA h (by decide) (by decide) (by decide) (by decide) hj
theorem al_147 {σ : ah_S} {b : Nat} (h : sk_ok σ b) {j : Nat} (hj : j < 9648) : ah_lA σ 101 (some (b + 147)) (Int32.ofNat j) = some (ah_ai σ (b + 147) j) := sk_lA h (by decide) (by decide) (by decide) (by decide) hj
theorem aw_147 {σ : ah_S} {b : Nat} (h : sk_ok σ b) {j : Nat} {v : Int32} (hj : j < 9648) : ah_wA σ 101 (some (b + 147)) (Int32.ofNat j) v = some (ah_sA σ (b + 147) j v) := sk_wA h (by decide) (by decide) (by decide) (by decide) hj
theorem al_148 {σ : ah_S} {b : Nat} (h : sk_ok σ b) {j : Nat} (hj : j < 30) : ah_lA σ 101 (some (b + 148)) (Int32.ofNat j) = some (ah_ai σ (b + 148) j) := sk_lA h (by decide) (by decide) (by decide) (by decide) hj
theorem aw_148 {σ : ah_S} {b : Nat} (h : sk_ok σ b) {j : Nat} {v : Int32} (hj : j < 30) : ah_wA σ 101 (some (b + 148)) (Int32.ofNat j) v = some (ah_sA σ (b + 148) j v) := sk_wA h (by decide) (by decide) (by decide) (by decide) hj
theorem al_149 {σ : ah_S} {b : Nat} (h : sk_ok σ b) {j : Nat} (hj : j < 5) : ah_lA σ 101 (some (b + 149)) (Int32.ofNat j) = some (ah_ai σ (b + 149) j) := sk_lA h (by decide) (by decide) (by decide) (by decide) hj
theorem aw_149 {σ : ah_S} {b : Nat} (h : sk_ok σ b) {j : Nat} {v : Int32} (hj : j < 5) : ah_wA σ 101 (some (b + 149)) (Int32.ofNat j) v = some (ah_sA σ (b + 149) j v) := sk_wA h (by decide) (by decide) (by decide) (by decide) hj
theorem al_149_0 {σ : ah_S} {b : Nat} (h : sk_ok σ b) : ah_lA σ 101 (some (b + 149)) (0 : Int32) = some (ah_ai σ (b + 149) 0) := sk_lA h (by decide) (by decide) (by decide) (by decide) (by decide : 0 < 5)
theorem aw_149_0 {σ : ah_S} {b : Nat} (h : sk_ok σ b) {v : Int32} : ah_wA σ 101 (some (b + 149)) (0 : Int32) v = some (ah_sA σ (b + 149) 0 v) := sk_wA h (by decide) (by decide) (by decide) (by decide) (by decide : 0 < 5)
theorem al_149_1 {σ : ah_S} {b : Nat} (h : sk_ok σ b) : ah_lA σ 101 (some (b + 149)) (1 : Int32) = some (ah_ai σ (b + 149) 1) := sk_lA h (by decide) (by decide) (by decide) (by decide) (by decide : 1 < 5)
theorem aw_149_1 {σ : ah_S} {b : Nat} (h : sk_ok σ b) {v : Int32} : ah_wA σ 101 (some (b + 149)) (1 : Int32) v = some (ah_sA σ (b + 149) 1 v) := sk_wA h (by decide) (by decide) (by decide) (by decide) (by decide : 1 < 5)
theorem al_149_2 {σ : ah_S} {b : Nat} (h : sk_ok σ b) : ah_lA σ 101 (some (b + 149)) (2 : Int32) = some (ah_ai σ (b + 149) 2) := sk_lA h (by decide) (by decide) (by decide) (by decide) (by decide : 2 < 5)
theorem aw_149_2 {σ : ah_S} {b : Nat} (h : sk_ok σ b) {v : Int32} : ah_wA σ 101 (some (b + 149)) (2 : Int32) v = some (ah_sA σ (b + 149) 2 v) := sk_wA h (by decide) (by decide) (by decide) (by decide) (by decide : 2 < 5)
theorem al_149_3 {σ : ah_S} {b : Nat} (h : sk_ok σ b) : ah_lA σ 101 (some (b + 149)) (3 : Int32) = some (ah_ai σ (b + 149) 3) := sk_lA h (by decide) (by decide) (by decide) (by decide) (by decide : 3 < 5)
theorem aw_149_3 {σ : ah_S} {b : Nat} (h : sk_ok σ b) {v : Int32} : ah_wA σ 101 (some (b + 149)) (3 : Int32) v = some (ah_sA σ (b + 149) 3 v) := sk_wA h (by decide) (by decide) (by decide) (by decide) (by decide : 3 < 5)
theorem al_149_4 {σ : ah_S} {b : Nat} (h : sk_ok σ b) : ah_lA σ 101 (some (b + 149)) (4 : Int32) = some (ah_ai σ (b + 149) 4) := sk_lA h (by decide) (by decide) (by decide) (by decide) (by decide : 4 < 5)
theorem aw_149_4 {σ : ah_S} {b : Nat} (h : sk_ok σ b) {v : Int32} : ah_wA σ 101 (some (b + 149)) (4 : Int32) v = some (ah_sA σ (b + 149) 4 v) := sk_wA h (by decide) (by decide) (by decide) (by decide) (by decide : 4 < 5)
theorem al_150 {σ : ah_S} {b : Nat} (h : sk_ok σ b) {j : Nat} (hj : j < 5) : ah_lA σ 101 (some (b + 150)) (Int32.ofNat j) = some (ah_ai σ (b + 150) j) := sk_lA h (by decide) (by decide) (by decide) (by decide) hj
theorem aw_150 {σ : ah_S} {b : Nat} (h : sk_ok σ b) {j : Nat} {v : Int32} (hj : j < 5) : ah_wA σ 101 (some (b + 150)) (Int32.ofNat j) v = some (ah_sA σ (b + 150) j v) := sk_wA h (by decide) (by decide) (by decide) (by decide) hj
theorem al_150_0 {σ : ah_S} {b : Nat} (h : sk_ok σ b) : ah_lA σ 101 (some (b + 150)) (0 : Int32) = some (ah_ai σ (b + 150) 0) := sk_lA h (by decide) (by decide) (by decide) (by decide) (by decide : 0 < 5)
theorem aw_150_0 {σ : ah_S} {b : Nat} (h : sk_ok σ b) {v : Int32} : ah_wA σ 101 (some (b + 150)) (0 : Int32) v = some (ah_sA σ (b + 150) 0 v) := sk_wA h (by decide) (by decide) (by decide) (by decide) (by decide : 0 < 5)
theorem al_150_1 {σ : ah_S} {b : Nat} (h : sk_ok σ b) : ah_lA σ 101 (some (b + 150)) (1 : Int32) = some (ah_ai σ (b + 150) 1) := sk_lA h (by decide) (by decide) (by decide) (by decide) (by decide : 1 < 5)
theorem aw_150_1 {σ : ah_S} {b : Nat} (h : sk_ok σ b) {v : Int32} : ah_wA σ 101 (some (b + 150)) (1 : Int32) v = some (ah_sA σ (b + 150) 1 v) := sk_wA h (by decide) (by decide) (by decide) (by decide) (by decide : 1 < 5)
theorem al_150_2 {σ : ah_S} {b : Nat} (h : sk_ok σ b) : ah_lA σ 101 (some (b + 150)) (2 : Int32) = some (ah_ai σ (b + 150) 2) := sk_lA h (by decide) (by decide) (by decide) (by decide) (by decide : 2 < 5)
theorem aw_150_2 {σ : ah_S} {b : Nat} (h : sk_ok σ b) {v : Int32} : ah_wA σ 101 (some (b + 150)) (2 : Int32) v = some (ah_sA σ (b + 150) 2 v) := sk_wA h (by decide) (by decide) (by decide) (by decide) (by decide : 2 < 5)
theorem al_150_3 {σ : ah_S} {b : Nat} (h : sk_ok σ b) : ah_lA σ 101 (some (b + 150)) (3 : Int32) = some (ah_ai σ (b + 150) 3) := sk_lA h (by decide) (by decide) (by decide) (by decide) (by decide : 3 < 5)
theorem aw_150_3 {σ : ah_S} {b : Nat} (h : sk_ok σ b) {v : Int32} : ah_wA σ 101 (some (b + 150)) (3 : Int32) v = some (ah_sA σ (b + 150) 3 v) := sk_wA h (by decide) (by decide) (by decide) (by decide) (by decide : 3 < 5)
theorem al_150_4 {σ : ah_S} {b : Nat} (h : sk_ok σ b) : ah_lA σ 101 (some (b + 150)) (4 : Int32) = some (ah_ai σ (b + 150) 4) := sk_lA h (by decide) (by decide) (by decide) (by decide) (by decide : 4 < 5)
theorem aw_150_4 {σ : ah_S} {b : Nat} (h : sk_ok σ b) {v : Int32} : ah_wA σ 101 (some (b + 150)) (4 : Int32) v = some (ah_sA σ (b + 150) 4 v) := sk_wA h (by decide) (by decide) (by decide) (by decide) (by decide : 4 < 5)
theorem al_151 {σ : ah_S} {b : Nat} (h : sk_ok σ b) {j : Nat} (hj : j < 4) : ah_lA σ 101 (some (b + 151)) (Int32.ofNat j) = some (ah_ai σ (b + 151) j) := sk_lA h (by decide) (by decide) (by decide) (by decide) hj
theorem aw_151 {σ : ah_S} {b : Nat} (h : sk_ok σ b) {j : Nat} {v : Int32} (hj : j < 4) : ah_wA σ 101 (some (b + 151)) (Int32.ofNat j) v = some (ah_sA σ (b + 151) j v) := sk_wA h (by decide) (by decide) (by decide) (by decide) hj
theorem al_151_0 {σ : ah_S} {b : Nat} (h : sk_ok σ b) : ah_lA σ 101 (some (b + 151)) (0 : Int32) = some (ah_ai σ (b + 151) 0) := sk_lA h (by decide) (by decide) (by decide) (by decide) (by decide : 0 < 4)
theorem aw_151_0 {σ : ah_S} {b : Nat} (h : sk_ok σ b) {v : Int32} : ah_wA σ 101 (some (b + 151)) (0 : Int32) v = some (ah_sA σ (b + 151) 0 v) := sk_wA h (by decide) (by decide) (by decide) (by decide) (by decide : 0 < 4)
theorem al_151_1 {σ : ah_S} {b : Nat} (h : sk_ok σ b) : ah_lA σ 101 (some (b + 151)) (1 : Int32) = some (ah_ai σ (b + 151) 1) := sk_lA h (by decide) (by decide) (by decide) (by decide) (by decide : 1 < 4)
theorem aw_151_1 {σ : ah_S} {b : Nat} (h : sk_ok σ b) {v : Int32} : ah_wA σ 101 (some (b + 151)) (1 : Int32) v = some (ah_sA σ (b + 151) 1 v) := sk_wA h (by decide) (by decide) (by decide) (by decide) (by decide : 1 < 4)
theorem al_151_2 {σ : ah_S} {b : Nat} (h : sk_ok σ b) : ah_lA σ 101 (some (b + 151)) (2 : Int32) = some (ah_ai σ (b + 151) 2) := sk_lA h (by decide) (by decide) (by decide) (by decide) (by decide : 2 < 4)
theorem aw_151_2 {σ : ah_S} {b : Nat} (h : sk_ok σ b) {v : Int32} : ah_wA σ 101 (some (b + 151)) (2 : Int32) v = some (ah_sA σ (b + 151) 2 v) := sk_wA h (by decide) (by decide) (by decide) (by decide) (by decide : 2 < 4)
theorem al_151_3 {σ : ah_S} {b : Nat} (h : sk_ok σ b) : ah_lA σ 101 (some (b + 151)) (3 : Int32) = some (ah_ai σ (b + 151) 3) := sk_lA h (by decide) (by decide) (by decide) (by decide) (by decide : 3 < 4)
theorem aw_151_3 {σ : ah_S} {b : Nat} (h : sk_ok σ b) {v : Int32} : ah_wA σ 101 (some (b + 151)) (3 : Int32) v = some (ah_sA σ (b + 151) 3 v) := sk_wA h (by decide) (by decide) (by decide) (by decide) (by decide : 3 < 4)
theorem al_152 {σ : ah_S} {b : Nat} (h : sk_ok σ b) {j : Nat} (hj : j < 60) : ah_lA σ 101 (some (b + 152)) (Int32.ofNat j) = some (ah_ai σ (b + 152) j) := sk_lA h (by decide) (by decide) (by decide) (by decide) hj
theorem aw_152 {σ : ah_S} {b : Nat} (h : sk_ok σ b) {j : Nat} {v : Int32} (hj : j < 60) : ah_wA σ 101 (some (b + 152)) (Int32.ofNat j) v = some (ah_sA σ (b + 152) j v) := sk_wA h (by decide) (by decide) (by decide) (by decide) hj
theorem al_153 {σ : ah_S} {b : Nat} (h : sk_ok σ b) {j : Nat} (hj : j < 336) : ah_lA σ 101 (some (b + 153)) (Int32.ofNat j) = some (ah_ai σ (b + 153) j) := sk_lA h (by decide) (by decide) (by decide) (by decide) hj
theorem aw_153 {σ : ah_S} {b : Nat} (h : sk_ok σ b) {j : Nat} {v : Int32} (hj : j < 336) : ah_wA σ 101 (some (b + 153)) (Int32.ofNat j) v = some (ah_sA σ (b + 153) j v) := sk_wA h (by decide) (by decide) (by decide) (by decide) hj
theorem al_154 {σ : ah_S} {b : Nat} (h : sk_ok σ b) {j : Nat} (hj : j < 4) : ah_lA σ 101 (some (b + 154)) (Int32.ofNat j) = some (ah_ai σ (b + 154) j) := sk_lA h (by decide) (by decide) (by decide) (by decide) hj
theorem aw_154 {σ : ah_S} {b : Nat} (h : sk_ok σ b) {j : Nat} {v : Int32} (hj : j < 4) : ah_wA σ 101 (some (b + 154)) (Int32.ofNat j) v = some (ah_sA σ (b + 154) j v) := sk_wA h (by decide) (by decide) (by decide) (by decide) hj
theorem al_154_0 {σ : ah_S} {b : Nat} (h : sk_ok σ b) : ah_lA σ 101 (some (b + 154)) (0 : Int32) = some (ah_ai σ (b + 154) 0) := sk_lA h (by decide) (by decide) (by decide) (by decide) (by decide : 0 < 4)
theorem aw_154_0 {σ : ah_S} {b : Nat} (h : sk_ok σ b) {v : Int32} : ah_wA σ 101 (some (b + 154)) (0 : Int32) v = some (ah_sA σ (b + 154) 0 v) := sk_wA h (by decide) (by decide) (by decide) (by decide) (by decide : 0 < 4)
theorem al_154_1 {σ : ah_S} {b : Nat} (h : sk_ok σ b) : ah_lA σ 101 (some (b + 154)) (1 : Int32) = some (ah_ai σ (b + 154) 1) := sk_lA h (by decide) (by decide) (by decide) (by decide) (by decide : 1 < 4)
theorem aw_154_1 {σ : ah_S} {b : Nat} (h : sk_ok σ b) {v : Int32} : ah_wA σ 101 (some (b + 154)) (1 : Int32) v = some (ah_sA σ (b + 154) 1 v) := sk_wA h (by decide) (by decide) (by decide) (by decide) (by decide : 1 < 4)
theorem al_154_2 {σ : ah_S} {b : Nat} (h : sk_ok σ b) : ah_lA σ 101 (some (b + 154)) (2 : Int32) = some (ah_ai σ (b + 154) 2) := sk_lA h (by decide) (by decide) (by decide) (by decide) (by decide : 2 < 4)
theorem aw_154_2 {σ : ah_S} {b : Nat} (h : sk_ok σ b) {v : Int32} : ah_wA σ 101 (some (b + 154)) (2 : Int32) v = some (ah_sA σ (b + 154) 2 v) := sk_wA h (by decide) (by decide) (by decide) (by decide) (by decide : 2 < 4)
theorem al_154_3 {σ : ah_S} {b : Nat} (h : sk_ok σ b) : ah_lA σ 101 (some (b + 154)) (3 : Int32) = some (ah_ai σ (b + 154) 3) := sk_lA h (by decide) (by decide) (by decide) (by decide) (by decide : 3 < 4)
theorem aw_154_3 {σ : ah_S} {b : Nat} (h : sk_ok σ b) {v : Int32} : ah_wA σ 101 (some (b + 154)) (3 : Int32) v = some (ah_sA σ (b + 154) 3 v) := sk_wA h (by decide) (by decide) (by decide) (by decide) (by decide : 3 < 4)
theorem al_155 {σ : ah_S} {b : Nat} (h : sk_ok σ b) {j : Nat} (hj : j < 48) : ah_lA σ 101 (some (b + 155)) (Int32.ofNat j) = some (ah_ai σ (b + 155) j) := sk_lA h (by decide) (by decide) (by decide) (by decide) hj
theorem aw_155 {σ : ah_S} {b : Nat} (h : sk_ok σ b) {j : Nat} {v : Int32} (hj : j < 48) : ah_wA σ 101 (some (b + 155)) (Int32.ofNat j) v = some (ah_sA σ (b + 155) j v) := sk_wA h (by decide) (by decide) (by decide) (by decide) hj
theorem al_156 {σ : ah_S} {b : Nat} (h : sk_ok σ b) {j : Nat} (hj : j < 4) : ah_lA σ 101 (some (b + 156)) (Int32.ofNat j) = some (ah_ai σ (b + 156) j) := sk_lA h (by decide) (by decide) (by decide) (by decide) hj
theorem aw_156 {σ : ah_S} {b : Nat} (h : sk_ok σ b) {j : Nat} {v : Int32} (hj : j < 4) : ah_wA σ 101 (some (b + 156)) (Int32.ofNat j) v = some (ah_sA σ (b + 156) j v) := sk_wA h (by decide) (by decide) (by decide) (by decide) hj
theorem al_156_0 {σ : ah_S} {b : Nat} (h : sk_ok σ b) : ah_lA σ 101 (some (b + 156)) (0 : Int32) = some (ah_ai σ (b + 156) 0) := sk_lA h (by decide) (by decide) (by decide) (by decide) (by decide : 0 < 4)
theorem aw_156_0 {σ : ah_S} {b : Nat} (h : sk_ok σ b) {v : Int32} : ah_wA σ 101 (some (b + 156)) (0 : Int32) v = some (ah_sA σ (b + 156) 0 v) := sk_wA h (by decide) (by decide) (by decide) (by decide) (by decide : 0 < 4)
theorem al_156_1 {σ : ah_S} {b : Nat} (h : sk_ok σ b) : ah_lA σ 101 (some (b + 156)) (1 : Int32) = some (ah_ai σ (b + 156) 1) := sk_lA h (by decide) (by decide) (by decide) (by decide) (by decide : 1 < 4)
theorem aw_156_1 {σ : ah_S} {b : Nat} (h : sk_ok σ b) {v : Int32} : ah_wA σ 101 (some (b + 156)) (1 : Int32) v = some (ah_sA σ (b + 156) 1 v) := sk_wA h (by decide) (by decide) (by decide) (by decide) (by decide : 1 < 4)
theorem al_156_2 {σ : ah_S} {b : Nat} (h : sk_ok σ b) : ah_lA σ 101 (some (b + 156)) (2 : Int32) = some (ah_ai σ (b + 156) 2) := sk_lA h (by decide) (by decide) (by decide) (by decide) (by decide : 2 < 4)
theorem aw_156_2 {σ : ah_S} {b : Nat} (h : sk_ok σ b) {v : Int32} : ah_wA σ 101 (some (b + 156)) (2 : Int32) v = some (ah_sA σ (b + 156) 2 v) := sk_wA h (by decide) (by decide) (by decide) (by decide) (by decide : 2 < 4)
theorem al_156_3 {σ : ah_S} {b : Nat} (h : sk_ok σ b) : ah_lA σ 101 (some (b + 156)) (3 : Int32) = some (ah_ai σ (b + 156) 3) := sk_lA h (by decide) (by decide) (by decide) (by decide) (by decide : 3 < 4)
theorem aw_156_3 {σ : ah_S} {b : Nat} (h : sk_ok σ b) {v : Int32} : ah_wA σ 101 (some (b + 156)) (3 : Int32) v = some (ah_sA σ (b + 156) 3 v) := sk_wA h (by decide) (by decide) (by decide) (by decide) (by decide : 3 < 4)
theorem al_157 {σ : ah_S} {b : Nat} (h : sk_ok σ b) {j : Nat} (hj : j < 50) : ah_lA σ 101 (some (b + 157)) (Int32.ofNat j) = some (ah_ai σ (b + 157) j) := sk_lA h (by decide) (by decide) (by decide) (by decide) hj
theorem aw_157 {σ : ah_S} {b : Nat} (h : sk_ok σ b) {j : Nat} {v : Int32} (hj : j < 50) : ah_wA σ 101 (some (b + 157)) (Int32.ofNat j) v = some (ah_sA σ (b + 157) j v) := sk_wA h (by decide) (by decide) (by decide) (by decide) hj
theorem al_158 {σ : ah_S} {b : Nat} (h : sk_ok σ b) {j : Nat} (hj : j < 24) : ah_lA σ 101 (some (b + 158)) (Int32.ofNat j) = some (ah_ai σ (b + 158) j) := sk_lA h (by decide) (by decide) (by decide) (by decide) hj
theorem aw_158 {σ : ah_S} {b : Nat} (h : sk_ok σ b) {j : Nat} {v : Int32} (hj : j < 24) : ah_wA σ 101 (some (b + 158)) (Int32.ofNat j) v = some (ah_sA σ (b + 158) j v) := sk_wA h (by decide) (by decide) (by decide) (by decide) hj
theorem al_159 {σ : ah_S} {b : Nat} (h : sk_ok σ b) {j : Nat} (hj : j < 6) : ah_lA σ 101 (some (b + 159)) (Int32.ofNat j) = some (ah_ai σ (b + 159) j) := sk_lA h (by decide) (by decide) (by decide) (by decide) hj
theorem aw_159 {σ : ah_S} {b : Nat} (h : sk_ok σ b) {j : Nat} {v : Int32} (hj : j < 6) : ah_wA σ 101 (some (b + 159)) (Int32.ofNat j) v = some (ah_sA σ (b + 159) j v) := sk_wA h (by decide) (by decide) (by decide) (by decide) hj
theorem al_159_0 {σ : ah_S} {b : Nat} (h : sk_ok σ b) : ah_lA σ 101 (some (b + 159)) (0 : Int32) = some (ah_ai σ (b + 159) 0) := sk_lA h (by decide) (by decide) (by decide) (by decide) (by decide : 0 < 6)
theorem aw_159_0 {σ : ah_S} {b : Nat} (h : sk_ok σ b) {v : Int32} : ah_wA σ 101 (some (b + 159)) (0 : Int32) v = some (ah_sA σ (b + 159) 0 v) := sk_wA h (by decide) (by decide) (by decide) (by decide) (by decide : 0 < 6)
theorem al_159_1 {σ : ah_S} {b : Nat} (h : sk_ok σ b) : ah_lA σ 101 (some (b + 159)) (1 : Int32) = some (ah_ai σ (b + 159) 1) := sk_lA h (by decide) (by decide) (by decide) (by decide) (by decide : 1 < 6)
theorem aw_159_1 {σ : ah_S} {b : Nat} (h : sk_ok σ b) {v : Int32} : ah_wA σ 101 (some (b + 159)) (1 : Int32) v = some (ah_sA σ (b + 159) 1 v) := sk_wA h (by decide) (by decide) (by decide) (by decide) (by decide : 1 < 6)
theorem al_159_2 {σ : ah_S} {b : Nat} (h : sk_ok σ b) : ah_lA σ 101 (some (b + 159)) (2 : Int32) = some (ah_ai σ (b + 159) 2) := sk_lA h (by decide) (by decide) (by decide) (by decide) (by decide : 2 < 6)
theorem aw_159_2 {σ : ah_S} {b : Nat} (h : sk_ok σ b) {v : Int32} : ah_wA σ 101 (some (b + 159)) (2 : Int32) v = some (ah_sA σ (b + 159) 2 v) := sk_wA h (by decide) (by decide) (by decide) (by decide) (by decide : 2 < 6)
theorem al_159_3 {σ : ah_S} {b : Nat} (h : sk_ok σ b) : ah_lA σ 101 (some (b + 159)) (3 : Int32) = some (ah_ai σ (b + 159) 3) := sk_lA h (by decide) (by decide) (by decide) (by decide) (by decide : 3 < 6)
theorem aw_159_3 {σ : ah_S} {b : Nat} (h : sk_ok σ b) {v : Int32} : ah_wA σ 101 (some (b + 159)) (3 : Int32) v = some (ah_sA σ (b + 159) 3 v) := sk_wA h (by decide) (by decide) (by decide) (by decide) (by decide : 3 < 6)
theorem al_159_4 {σ : ah_S} {b : Nat} (h : sk_ok σ b) : ah_lA σ 101 (some (b + 159)) (4 : Int32) = some (ah_ai σ (b + 159) 4) := sk_lA h (by decide) (by decide) (by decide) (by decide) (by decide : 4 < 6)
theorem aw_159_4 {σ : ah_S} {b : Nat} (h : sk_ok σ b) {v : Int32} : ah_wA σ 101 (some (b + 159)) (4 : Int32) v = some (ah_sA σ (b + 159) 4 v) := sk_wA h (by decide) (by decide) (by decide) (by decide) (by decide : 4 < 6)
theorem al_159_5 {σ : ah_S} {b : Nat} (h : sk_ok σ b) : ah_lA σ 101 (some (b + 159)) (5 : Int32) = some (ah_ai σ (b + 159) 5) := sk_lA h (by decide) (by decide) (by decide) (by decide) (by decide : 5 < 6)
theorem aw_159_5 {σ : ah_S} {b : Nat} (h : sk_ok σ b) {v : Int32} : ah_wA σ 101 (some (b + 159)) (5 : Int32) v = some (ah_sA σ (b + 159) 5 v) := sk_wA h (by decide) (by decide) (by decide) (by decide) (by decide : 5 < 6)
theorem al_160 {σ : ah_S} {b : Nat} (h : sk_ok σ b) {j : Nat} (hj : j < 6) : ah_lA σ 101 (some (b + 160)) (Int32.ofNat j) = some (ah_ai σ (b + 160) j) := sk_lA h (by decide) (by decide) (by decide) (by decide) hj
theorem aw_160 {σ : ah_S} {b : Nat} (h : sk_ok σ b) {j : Nat} {v : Int32} (hj : j < 6) : ah_wA σ 101 (some (b + 160)) (Int32.ofNat j) v = some (ah_sA σ (b + 160) j v) := sk_wA h (by decide) (by decide) (by decide) (by decide) hj
theorem al_160_0 {σ : ah_S} {b : Nat} (h : sk_ok σ b) : ah_lA σ 101 (some (b + 160)) (0 : Int32) = some (ah_ai σ (b + 160) 0) := sk_lA h (by decide) (by decide) (by decide) (by decide) (by decide : 0 < 6)
theorem aw_160_0 {σ : ah_S} {b : Nat} (h : sk_ok σ b) {v : Int32} : ah_wA σ 101 (some (b + 160)) (0 : Int32) v = some (ah_sA σ (b + 160) 0 v) := sk_wA h (by decide) (by decide) (by decide) (by decide) (by decide : 0 < 6)
theorem al_160_1 {σ : ah_S} {b : Nat} (h : sk_ok σ b) : ah_lA σ 101 (some (b + 160)) (1 : Int32) = some (ah_ai σ (b + 160) 1) := sk_lA h (by decide) (by decide) (by decide) (by decide) (by decide : 1 < 6)
theorem aw_160_1 {σ : ah_S} {b : Nat} (h : sk_ok σ b) {v : Int32} : ah_wA σ 101 (some (b + 160)) (1 : Int32) v = some (ah_sA σ (b + 160) 1 v) := sk_wA h (by decide) (by decide) (by decide) (by decide) (by decide : 1 < 6)
theorem al_160_2 {σ : ah_S} {b : Nat} (h : sk_ok σ b) : ah_lA σ 101 (some (b + 160)) (2 : Int32) = some (ah_ai σ (b + 160) 2) := sk_lA h (by decide) (by decide) (by decide) (by decide) (by decide : 2 < 6)
theorem aw_160_2 {σ : ah_S} {b : Nat} (h : sk_ok σ b) {v : Int32} : ah_wA σ 101 (some (b + 160)) (2 : Int32) v = some (ah_sA σ (b + 160) 2 v) := sk_wA h (by decide) (by decide) (by decide) (by decide) (by decide : 2 < 6)
theorem al_160_3 {σ : ah_S} {b : Nat} (h : sk_ok σ b) : ah_lA σ 101 (some (b + 160)) (3 : Int32) = some (ah_ai σ (b + 160) 3) := sk_lA h (by decide) (by decide) (by decide) (by decide) (by decide : 3 < 6)
theorem aw_160_3 {σ : ah_S} {b : Nat} (h : sk_ok σ b) {v : Int32} : ah_wA σ 101 (some (b + 160)) (3 : Int32) v = some (ah_sA σ (b + 160) 3 v) := sk_wA h (by decide) (by decide) (by decide) (by decide) (by decide : 3 < 6)
theorem al_160_4 {σ : ah_S} {b : Nat} (h : sk_ok σ b) : ah_lA σ 101 (some (b + 160)) (4 : Int32) = some (ah_ai σ (b + 160) 4) := sk_lA h (by decide) (by decide) (by decide) (by decide) (by decide : 4 < 6)
theorem aw_160_4 {σ : ah_S} {b : Nat} (h : sk_ok σ b) {v : Int32} : ah_wA σ 101 (some (b + 160)) (4 : Int32) v = some (ah_sA σ (b + 160) 4 v) := sk_wA h (by decide) (by decide) (by decide) (by decide) (by decide : 4 < 6)
theorem al_160_5 {σ : ah_S} {b : Nat} (h : sk_ok σ b) : ah_lA σ 101 (some (b + 160)) (5 : Int32) = some (ah_ai σ (b + 160) 5) := sk_lA h (by decide) (by decide) (by decide) (by decide) (by decide : 5 < 6)
theorem aw_160_5 {σ : ah_S} {b : Nat} (h : sk_ok σ b) {v : Int32} : ah_wA σ 101 (some (b + 160)) (5 : Int32) v = some (ah_sA σ (b + 160) 5 v) := sk_wA h (by decide) (by decide) (by decide) (by decide) (by decide : 5 < 6)
theorem al_161 {σ : ah_S} {b : Nat} (h : sk_ok σ b) {j : Nat} (hj : j < 360) : ah_lL σ (some (b + 161)) (Int32.ofNat j) = some (ah_al σ (b + 161) j) := sk_lL h (by decide) (by decide) (by decide) (by decide) hj
theorem aw_161 {σ : ah_S} {b : Nat} (h : sk_ok σ b) {j : Nat} {v : Int64} (hj : j < 360) : ah_wL σ (some (b + 161)) (Int32.ofNat j) v = some (ah_sL σ (b + 161) j v) := sk_wL h (by decide) (by decide) (by decide) (by decide) hj
theorem al_162 {σ : ah_S} {b : Nat} (h : sk_ok σ b) {j : Nat} (hj : j < 60) : ah_lL σ (some (b + 162)) (Int32.ofNat j) = some (ah_al σ (b + 162) j) := sk_lL h (by decide) (by decide) (by decide) (by decide) hj
theorem aw_162 {σ : ah_S} {b : Nat} (h : sk_ok σ b) {j : Nat} {v : Int64} (hj : j < 60) : ah_wL σ (some (b + 162)) (Int32.ofNat j) v = some (ah_sL σ (b + 162) j v) := sk_wL h (by decide) (by decide) (by decide) (by decide) hj
theorem sq_27_0 {σ : ah_S} {b : Nat} (h : sk_ok σ b) : ah_ar σ (b + 27) 0 = some (b + 28) := h.2.2.2.2 (27, 0, 28) (by decide)
theorem sq_27_1 {σ : ah_S} {b : Nat} (h : sk_ok σ b) : ah_ar σ (b + 27) 1 = some (b + 33) := h.2.2.2.2 (27, 1, 33) (by decide)
theorem sq_27_2 {σ : ah_S} {b : Nat} (h : sk_ok σ b) : ah_ar σ (b + 27) 2 = some (b + 38) := h.2.2.2.2 (27, 2, 38) (by decide)
theorem sq_27_3 {σ : ah_S} {b : Nat} (h : sk_ok σ b) : ah_ar σ (b + 27) 3 = some (b + 43) := h.2.2.2.2 (27, 3, 43) (by decide)
theorem sq_27_4 {σ : ah_S} {b : Nat} (h : sk_ok σ b) : ah_ar σ (b + 27) 4 = some (b + 48) := h.2.2.2.2 (27, 4, 48) (by decide)
theorem sq_27_5 {σ : ah_S} {b : Nat} (h : sk_ok σ b) : ah_ar σ (b + 27) 5 = some (b + 53) := h.2.2.2.2 (27, 5, 53) (by decide)
theorem sq_27_6 {σ : ah_S} {b : Nat} (h : sk_ok σ b) : ah_ar σ (b + 27) 6 = some (b + 58) := h.2.2.2.2 (27, 6, 58) (by decide)
theorem sq_5_0 {σ : ah_S} {b : Nat} (h : sk_ok σ b) : ah_ar σ (b + 5) 0 = some (b + 115) := h.2.2.2.2 (5, 0, 115) (by decide)
theorem sq_6_0 {σ : ah_S} {b : Nat} (h : sk_ok σ b) : ah_ar σ (b + 6) 0 = some (b + 116) := h.2.2.2.2 (6, 0, 116) (by decide)
theorem sq_5_1 {σ : ah_S} {b : Nat} (h : sk_ok σ b) : ah_ar σ (b + 5) 1 = some (b + 117) := h.2.2.2.2 (5, 1, 117) (by decide)
theorem sq_6_1 {σ : ah_S} {b : Nat} (h : sk_ok σ b) : ah_ar σ (b + 6) 1 = some (b + 118) := h.2.2.2.2 (6, 1, 118) (by decide)
theorem sq_5_2 {σ : ah_S} {b : Nat} (h : sk_ok σ b) : ah_ar σ (b + 5) 2 = some (b + 119) := h.2.2.2.2 (5, 2, 119) (by decide)
theorem sq_6_2 {σ : ah_S} {b : Nat} (h : sk_ok σ b) : ah_ar σ (b + 6) 2 = some (b + 120) := h.2.2.2.2 (6, 2, 120) (by decide)
theorem sq_5_3 {σ : ah_S} {b : Nat} (h : sk_ok σ b) : ah_ar σ (b + 5) 3 = some (b + 121) := h.2.2.2.2 (5, 3, 121) (by decide)
theorem sq_6_3 {σ : ah_S} {b : Nat} (h : sk_ok σ b) : ah_ar σ (b + 6) 3 = some (b + 122) := h.2.2.2.2 (6, 3, 122) (by decide)
theorem hg_12_400 {σ : ah_S} {b : Nat} (h : sk_ok σ b) : ah_gR σ 400 (some (b + 12)) = some (some (b + 13)) := sk_gR h (by decide) (by decide) (by decide)
theorem hg_12_401 {σ : ah_S} {b : Nat} (h : sk_ok σ b) : ah_gR σ 401 (some (b + 12)) = some (some (b + 14)) := sk_gR h (by decide) (by decide) (by decide)
theorem hg_12_402 {σ : ah_S} {b : Nat} (h : sk_ok σ b) : ah_gR σ 402 (some (b + 12)) = some (some (b + 15)) := sk_gR h (by decide) (by decide) (by decide)
theorem hg_12_405 {σ : ah_S} {b : Nat} (h : sk_ok σ b) : ah_gR σ 405 (some (b + 12)) = some (some (b + 16)) := sk_gR h (by decide) (by decide) (by decide)
theorem hg_12_406 {σ : ah_S} {b : Nat} (h : sk_ok σ b) : ah_gR σ 406 (some (b + 12)) = some (some b) := sk_gR (j := 0) h (by decide) (by decide) (by decide)
theorem hs_12 {σ : ah_S} {b : Nat} (h : sk_ok σ b) : ah_is σ 5 (some (b + 12)) = some () := sk_is h (by decide) (by decide)
theorem hg_17_400 {σ : ah_S} {b : Nat} (h : sk_ok σ b) : ah_gR σ 400 (some (b + 17)) = some (some (b + 18)) := sk_gR h (by decide) (by decide) (by decide)
theorem hg_17_401 {σ : ah_S} {b : Nat} (h : sk_ok σ b) : ah_gR σ 401 (some (b + 17)) = some (some (b + 19)) := sk_gR h (by decide) (by decide) (by decide)
theorem hg_17_402 {σ : ah_S} {b : Nat} (h : sk_ok σ b) : ah_gR σ 402 (some (b + 17)) = some (some (b + 20)) := sk_gR h (by decide) (by decide) (by decide)
theorem hg_17_405 {σ : ah_S} {b : Nat} (h : sk_ok σ b) : ah_gR σ 405 (some (b + 17)) = some (some (b + 21)) := sk_gR h (by decide) (by decide) (by decide)
theorem hg_17_406 {σ : ah_S} {b : Nat} (h : sk_ok σ b) : ah_gR σ 406 (some (b + 17)) = some (some b) := sk_gR (j := 0) h (by decide) (by decide) (by decide)
theorem hs_17 {σ : ah_S} {b : Nat} (h : sk_ok σ b) : ah_is σ 5 (some (b + 17)) = some () := sk_is h (by decide) (by decide)
theorem hg_28_400 {σ : ah_S} {b : Nat} (h : sk_ok σ b) : ah_gR σ 400 (some (b + 28)) = some (some (b + 29)) := sk_gR h (by decide) (by decide) (by decide)
theorem hg_28_401 {σ : ah_S} {b : Nat} (h : sk_ok σ b) : ah_gR σ 401 (some (b + 28)) = some (some (b + 30)) := sk_gR h (by decide) (by decide) (by decide)
theorem hg_28_402 {σ : ah_S} {b : Nat} (h : sk_ok σ b) : ah_gR σ 402 (some (b + 28)) = some (some (b + 31)) := sk_gR h (by decide) (by decide) (by decide)
theorem hg_28_405 {σ : ah_S} {b : Nat} (h : sk_ok σ b) : ah_gR σ 405 (some (b + 28)) = some (some (b + 32)) := sk_gR h (by decide) (by decide) (by decide)
theorem hg_28_406 {σ : ah_S} {b : Nat} (h : sk_ok σ b) : ah_gR σ 406 (some (b + 28)) = some (some b) := sk_gR (j := 0) h (by decide) (by decide) (by decide)
theorem hs_28 {σ : ah_S} {b : Nat} (h : sk_ok σ b) : ah_is σ 5 (some (b + 28)) = some () := sk_is h (by decide) (by decide)
theorem hg_33_400 {σ : ah_S} {b : Nat} (h : sk_ok σ b) : ah_gR σ 400 (some (b + 33)) = some (some (b + 34)) := sk_gR h (by decide) (by decide) (by decide)
theorem hg_33_401 {σ : ah_S} {b : Nat} (h : sk_ok σ b) : ah_gR σ 401 (some (b + 33)) = some (some (b + 35)) := sk_gR h (by decide) (by decide) (by decide)
theorem hg_33_402 {σ : ah_S} {b : Nat} (h : sk_ok σ b) : ah_gR σ 402 (some (b + 33)) = some (some (b + 36)) := sk_gR h (by decide) (by decide) (by decide)
theorem hg_33_405 {σ : ah_S} {b : Nat} (h : sk_ok σ b) : ah_gR σ 405 (some (b + 33)) = some (some (b + 37)) := sk_gR h (by decide) (by decide) (by decide)
theorem hg_33_406 {σ : ah_S} {b : Nat} (h : sk_ok σ b) : ah_gR σ 406 (some (b + 33)) = some (some b) := sk_gR (j := 0) h (by decide) (by decide) (by decide)
theorem hs_33 {σ : ah_S} {b : Nat} (h : sk_ok σ b) : ah_is σ 5 (some (b + 33)) = some () := sk_is h (by decide) (by decide)
theorem hg_38_400 {σ : ah_S} {b : Nat} (h : sk_ok σ b) : ah_gR σ 400 (some (b + 38)) = some (some (b + 39)) := sk_gR h (by decide) (by decide) (by decide)
theorem hg_38_401 {σ : ah_S} {b : Nat} (h : sk_ok σ b) : ah_gR σ 401 (some (b + 38)) = some (some (b + 40)) := sk_gR h (by decide) (by decide) (by decide)
theorem hg_38_402 {σ : ah_S} {b : Nat} (h : sk_ok σ b) : ah_gR σ 402 (some (b + 38)) = some (some (b + 41)) := sk_gR h (by decide) (by decide) (by decide)
theorem hg_38_405 {σ : ah_S} {b : Nat} (h : sk_ok σ b) : ah_gR σ 405 (some (b + 38)) = some (some (b + 42)) := sk_gR h (by decide) (by decide) (by decide)
theorem hg_38_406 {σ : ah_S} {b : Nat} (h : sk_ok σ b) : ah_gR σ 406 (some (b + 38)) = some (some b) := sk_gR (j := 0) h (by decide) (by decide) (by decide)
theorem hs_38 {σ : ah_S} {b : Nat} (h : sk_ok σ b) : ah_is σ 5 (some (b + 38)) = some () := sk_is h (by decide) (by decide)
theorem hg_43_400 {σ : ah_S} {b : Nat} (h : sk_ok σ b) : ah_gR σ 400 (some (b + 43)) = some (some (b + 44)) := sk_gR h (by decide) (by decide) (by decide)
theorem hg_43_401 {σ : ah_S} {b : Nat} (h : sk_ok σ b) : ah_gR σ 401 (some (b + 43)) = some (some (b + 45)) := sk_gR h (by decide) (by decide) (by decide)
theorem hg_43_402 {σ : ah_S} {b : Nat} (h : sk_ok σ b) : ah_gR σ 402 (some (b + 43)) = some (some (b + 46)) := sk_gR h (by decide) (by decide) (by decide)
theorem hg_43_405 {σ : ah_S} {b : Nat} (h : sk_ok σ b) : ah_gR σ 405 (some (b + 43)) = some (some (b + 47)) := sk_gR h (by decide) (by decide) (by decide)
theorem hg_43_406 {σ : ah_S} {b : Nat} (h : sk_ok σ b) : ah_gR σ 406 (some (b + 43)) = some (some b) := sk_gR (j := 0) h (by decide) (by decide) (by decide)
theorem hs_43 {σ : ah_S} {b : Nat} (h : sk_ok σ b) : ah_is σ 5 (some (b + 43)) = some () := sk_is h (by decide) (by decide)
theorem hg_48_400 {σ : ah_S} {b : Nat} (h : sk_ok σ b) : ah_gR σ 400 (some (b + 48)) = some (some (b + 49)) := sk_gR h (by decide) (by decide) (by decide)
theorem hg_48_401 {σ : ah_S} {b : Nat} (h : sk_ok σ b) : ah_gR σ 401 (some (b + 48)) = some (some (b + 50)) := sk_gR h (by decide) (by decide) (by decide)
theorem hg_48_402 {σ : ah_S} {b : Nat} (h : sk_ok σ b) : ah_gR σ 402 (some (b + 48)) = some (some (b + 51)) := sk_gR h (by decide) (by decide) (by decide)
theorem hg_48_405 {σ : ah_S} {b : Nat} (h : sk_ok σ b) : ah_gR σ 405 (some (b + 48)) = some (some (b + 52)) := sk_gR h (by decide) (by decide) (by decide)
theorem hg_48_406 {σ : ah_S} {b : Nat} (h : sk_ok σ b) : ah_gR σ 406 (some (b + 48)) = some (some b) := sk_gR (j := 0) h (by decide) (by decide) (by decide)
theorem hs_48 {σ : ah_S} {b : Nat} (h : sk_ok σ b) : ah_is σ 5 (some (b + 48)) = some () := sk_is h (by decide) (by decide)
theorem hg_53_400 {σ : ah_S} {b : Nat} (h : sk_ok σ b) : ah_gR σ 400 (some (b + 53)) = some (some (b + 54)) := sk_gR h (by decide) (by decide) (by decide)
theorem hg_53_401 {σ : ah_S} {b : Nat} (h : sk_ok σ b) : ah_gR σ 401 (some (b + 53)) = some (some (b + 55)) := sk_gR h (by decide) (by decide) (by decide)
theorem hg_53_402 {σ : ah_S} {b : Nat} (h : sk_ok σ b) : ah_gR σ 402 (some (b + 53)) = some (some (b + 56)) := sk_gR h (by decide) (by decide) (by decide)
theorem hg_53_405 {σ : ah_S} {b : Nat} (h : sk_ok σ b) : ah_gR σ 405 (some (b + 53)) = some (some (b + 57)) := sk_gR h (by decide) (by decide) (by decide)
theorem hg_53_406 {σ : ah_S} {b : Nat} (h : sk_ok σ b) : ah_gR σ 406 (some (b + 53)) = some (some b) := sk_gR (j := 0) h (by decide) (by decide) (by decide)
theorem hs_53 {σ : ah_S} {b : Nat} (h : sk_ok σ b) : ah_is σ 5 (some (b + 53)) = some () := sk_is h (by decide) (by decide)
theorem hg_58_400 {σ : ah_S} {b : Nat} (h : sk_ok σ b) : ah_gR σ 400 (some (b + 58)) = some (some (b + 59)) := sk_gR h (by decide) (by decide) (by decide)
theorem hg_58_401 {σ : ah_S} {b : Nat} (h : sk_ok σ b) : ah_gR σ 401 (some (b + 58)) = some (some (b + 60)) := sk_gR h (by decide) (by decide) (by decide)
theorem hg_58_402 {σ : ah_S} {b : Nat} (h : sk_ok σ b) : ah_gR σ 402 (some (b + 58)) = some (some (b + 61)) := sk_gR h (by decide) (by decide) (by decide)
theorem hg_58_405 {σ : ah_S} {b : Nat} (h : sk_ok σ b) : ah_gR σ 405 (some (b + 58)) = some (some (b + 62)) := sk_gR h (by decide) (by decide) (by decide)
theorem hg_58_406 {σ : ah_S} {b : Nat} (h : sk_ok σ b) : ah_gR σ 406 (some (b + 58)) = some (some b) := sk_gR (j := 0) h (by decide) (by decide) (by decide)
theorem hs_58 {σ : ah_S} {b : Nat} (h : sk_ok σ b) : ah_is σ 5 (some (b + 58)) = some () := sk_is h (by decide) (by decide)
theorem hg_66_400 {σ : ah_S} {b : Nat} (h : sk_ok σ b) : ah_gR σ 400 (some (b + 66)) = some (some (b + 67)) := sk_gR h (by decide) (by decide) (by decide)
theorem hg_66_401 {σ : ah_S} {b : Nat} (h : sk_ok σ b) : ah_gR σ 401 (some (b + 66)) = some (some (b + 68)) := sk_gR h (by decide) (by decide) (by decide)
theorem hg_66_402 {σ : ah_S} {b : Nat} (h : sk_ok σ b) : ah_gR σ 402 (some (b + 66)) = some (some (b + 69)) := sk_gR h (by decide) (by decide) (by decide)
theorem hg_66_405 {σ : ah_S} {b : Nat} (h : sk_ok σ b) : ah_gR σ 405 (some (b + 66)) = some (some (b + 70)) := sk_gR h (by decide) (by decide) (by decide)
theorem hg_66_406 {σ : ah_S} {b : Nat} (h : sk_ok σ b) : ah_gR σ 406 (some (b + 66)) = some (some b) := sk_gR (j := 0) h (by decide) (by decide) (by decide)
theorem hs_66 {σ : ah_S} {b : Nat} (h : sk_ok σ b) : ah_is σ 5 (some (b + 66)) = some () := sk_is h (by decide) (by decide)
theorem rw_nx_sI (σ : ah_S) (f a : Nat) (v : Int32) : ah_nx (ah_sI σ f a v) = ah_nx σ := rfl
theorem rw_rc_sI (σ : ah_S) (f a : Nat) (v : Int32) : ah_rc (ah_sI σ f a v) = ah_rc σ := rfl
theorem rw_rs_sI (σ : ah_S) (f a : Nat) (v : Int32) : ah_rs (ah_sI σ f a v) = ah_rs σ := rfl
theorem rw_tg_sI (σ : ah_S) (f a : Nat) (v : Int32) : ah_tg (ah_sI σ f a v) = ah_tg σ := rfl
theorem rw_ln_sI (σ : ah_S) (f a : Nat) (v : Int32) : ah_ln (ah_sI σ f a v) = ah_ln σ := rfl
theorem rw_fi_sI (σ : ah_S) (f a : Nat) (v : Int32) (p q : Nat) : ah_fi (ah_sI σ f a v) p q = if p = f then (if q = a then v else ah_fi σ p q) else ah_fi σ p q := rfl
theorem rw_fr_sI (σ : ah_S) (f a : Nat) (v : Int32) : ah_fr (ah_sI σ f a v) = ah_fr σ := rfl
theorem rw_ai_sI (σ : ah_S) (f a : Nat) (v : Int32) : ah_ai (ah_sI σ f a v) = ah_ai σ := rfl
theorem rw_al_sI (σ : ah_S) (f a : Nat) (v : Int32) : ah_al (ah_sI σ f a v) = ah_al σ := rfl
theorem rw_ar_sI (σ : ah_S) (f a : Nat) (v : Int32) : ah_ar (ah_sI σ f a v) = ah_ar σ := rfl
theorem rk_sI {σ : ah_S} {b : Nat} {f a : Nat} {v : Int32} : sk_ok (ah_sI σ f a v) b ↔ sk_ok σ b := Iff.rfl
theorem rw_nx_sR (σ : ah_S) (f a : Nat) (v : Option Nat) : ah_nx (ah_sR σ f a v) = ah_nx σ := rfl
theorem rw_rc_sR (σ : ah_S) (f a : Nat) (v : Option Nat) : ah_rc (ah_sR σ f a v) = ah_rc σ := rfl
theorem rw_rs_sR (σ : ah_S) (f a : Nat) (v : Option Nat) : ah_rs (ah_sR σ f a v) = ah_rs σ := rfl
theorem rw_tg_sR (σ : ah_S) (f a : Nat) (v : Option Nat) : ah_tg (ah_sR σ f a v) = ah_tg σ := rfl
theorem rw_ln_sR (σ : ah_S) (f a : Nat) (v : Option Nat) : ah_ln (ah_sR σ f a v) = ah_ln σ := rfl
theorem rw_fi_sR (σ : ah_S) (f a : Nat) (v : Option Nat) : ah_fi (ah_sR σ f a v) = ah_fi σ := rfl
theorem rw_fr_sR (σ : ah_S) (f a : Nat) (v : Option Nat) (p q : Nat) : ah_fr (ah_sR σ f a v) p q = if p = f then (if q = a then v else ah_fr σ p q) else ah_fr σ p q := rfl
theorem rw_ai_sR (σ : ah_S) (f a : Nat) (v : Option Nat) : ah_ai (ah_sR σ f a v) = ah_ai σ := rfl
theorem rw_al_sR (σ : ah_S) (f a : Nat) (v : Option Nat) : ah_al (ah_sR σ f a v) = ah_al σ := rfl
theorem rw_ar_sR (σ : ah_S) (f a : Nat) (v : Option Nat) : ah_ar (ah_sR σ f a v) = ah_ar σ := rfl
theorem rw_nx_sA (σ : ah_S) (a i : Nat) (v : Int32) : ah_nx (ah_sA σ a i v) = ah_nx σ := rfl
theorem rw_rc_sA (σ : ah_S) (a i : Nat) (v : Int32) : ah_rc (ah_sA σ a i v) = ah_rc σ := rfl
theorem rw_rs_sA (σ : ah_S) (a i : Nat) (v : Int32) : ah_rs (ah_sA σ a i v) = ah_rs σ := rfl
theorem rw_tg_sA (σ : ah_S) (a i : Nat) (v : Int32) : ah_tg (ah_sA σ a i v) = ah_tg σ := rfl
theorem rw_ln_sA (σ : ah_S) (a i : Nat) (v : Int32) : ah_ln (ah_sA σ a i v) = ah_ln σ := rfl
theorem rw_fi_sA (σ : ah_S) (a i : Nat) (v : Int32) : ah_fi (ah_sA σ a i v) = ah_fi σ := rfl
theorem rw_fr_sA (σ : ah_S) (a i : Nat) (v : Int32) : ah_fr (ah_sA σ a i v) = ah_fr σ := rfl
theorem rw_ai_sA (σ : ah_S) (a i : Nat) (v : Int32) (p q : Nat) : ah_ai (ah_sA σ a i v) p q = if p = a then (if q = i then v else ah_ai σ p q) else ah_ai σ p q := rfl
theorem rw_al_sA (σ : ah_S) (a i : Nat) (v : Int32) : ah_al (ah_sA σ a i v) = ah_al σ := rfl
theorem rw_ar_sA (σ : ah_S) (a i : Nat) (v : Int32) : ah_ar (ah_sA σ a i v) = ah_ar σ := rfl
theorem rk_sA {σ : ah_S} {b : Nat} {a i : Nat} {v : Int32} : sk_ok (ah_sA σ a i v) b ↔ sk_ok σ b := Iff.rfl
theorem rw_nx_sL (σ : ah_S) (a i : Nat) (v : Int64) : ah_nx (ah_sL σ a i v) = ah_nx σ := rfl
theorem rw_rc_sL (σ : ah_S) (a i : Nat) (v : Int64) : ah_rc (ah_sL σ a i v) = ah_rc σ := rfl
theorem rw_rs_sL (σ : ah_S) (a i : Nat) (v : Int64) : ah_rs (ah_sL σ a i v) = ah_rs σ := rfl
theorem rw_tg_sL (σ : ah_S) (a i : Nat) (v : Int64) : ah_tg (ah_sL σ a i v) = ah_tg σ := rfl
theorem rw_ln_sL (σ : ah_S) (a i : Nat) (v : Int64) : ah_ln (ah_sL σ a i v) = ah_ln σ := rfl
theorem rw_fi_sL (σ : ah_S) (a i : Nat) (v : Int64) : ah_fi (ah_sL σ a i v) = ah_fi σ := rfl
theorem rw_fr_sL (σ : ah_S) (a i : Nat) (v : Int64) : ah_fr (ah_sL σ a i v) = ah_fr σ := rfl
theorem rw_ai_sL (σ : ah_S) (a i : Nat) (v : Int64) : ah_ai (ah_sL σ a i v) = ah_ai σ := rfl
theorem rw_al_sL (σ : ah_S) (a i : Nat) (v : Int64) (p q : Nat) : ah_al (ah_sL σ a i v) p q = if p = a then (if q = i then v else ah_al σ p q) else ah_al σ p q := rfl
theorem rw_ar_sL (σ : ah_S) (a i : Nat) (v : Int64) : ah_ar (ah_sL σ a i v) = ah_ar σ := rfl
theorem rk_sL {σ : ah_S} {b : Nat} {a i : Nat} {v : Int64} : sk_ok (ah_sL σ a i v) b ↔ sk_ok σ b := Iff.rfl
theorem rw_nx_sQ (σ : ah_S) (a i : Nat) (v : Option Nat) : ah_nx (ah_sQ σ a i v) = ah_nx σ := rfl
theorem rw_rc_sQ (σ : ah_S) (a i : Nat) (v : Option Nat) : ah_rc (ah_sQ σ a i v) = ah_rc σ := rfl
theorem rw_rs_sQ (σ : ah_S) (a i : Nat) (v : Option Nat) : ah_rs (ah_sQ σ a i v) = ah_rs σ := rfl
theorem rw_tg_sQ (σ : ah_S) (a i : Nat) (v : Option Nat) : ah_tg (ah_sQ σ a i v) = ah_tg σ := rfl
theorem rw_ln_sQ (σ : ah_S) (a i : Nat) (v : Option Nat) : ah_ln (ah_sQ σ a i v) = ah_ln σ := rfl
theorem rw_fi_sQ (σ : ah_S) (a i : Nat) (v : Option Nat) : ah_fi (ah_sQ σ a i v) = ah_fi σ := rfl
theorem rw_fr_sQ (σ : ah_S) (a i : Nat) (v : Option Nat) : ah_fr (ah_sQ σ a i v) = ah_fr σ := rfl
theorem rw_ai_sQ (σ : ah_S) (a i : Nat) (v : Option Nat) : ah_ai (ah_sQ σ a i v) = ah_ai σ := rfl
theorem rw_al_sQ (σ : ah_S) (a i : Nat) (v : Option Nat) : ah_al (ah_sQ σ a i v) = ah_al σ := rfl
theorem rw_ar_sQ (σ : ah_S) (a i : Nat) (v : Option Nat) (p q : Nat) : ah_ar (ah_sQ σ a i v) p q = if p = a then (if q = i then v else ah_ar σ p q) else ah_ar σ p q := rfl
theorem rw_nx_cpI (σ : ah_S) (a sp c dp n : Nat) : ah_nx (ah_cpI σ a sp c dp n) = ah_nx σ := rfl
theorem rw_rc_cpI (σ : ah_S) (a sp c dp n : Nat) : ah_rc (ah_cpI σ a sp c dp n) = ah_rc σ := rfl
theorem rw_rs_cpI (σ : ah_S) (a sp c dp n : Nat) : ah_rs (ah_cpI σ a sp c dp n) = ah_rs σ := rfl
theorem rw_tg_cpI (σ : ah_S) (a sp c dp n : Nat) : ah_tg (ah_cpI σ a sp c dp n) = ah_tg σ := rfl
theorem rw_ln_cpI (σ : ah_S) (a sp c dp n : Nat) : ah_ln (ah_cpI σ a sp c dp n) = ah_ln σ := rfl
theorem rw_fi_cpI (σ : ah_S) (a sp c dp n : Nat) : ah_fi (ah_cpI σ a sp c dp n) = ah_fi σ := rfl
theorem rw_fr_cpI (σ : ah_S) (a sp c dp n : Nat) : ah_fr (ah_cpI σ a sp c dp n) = ah_fr σ := rfl
theorem rw_ai_cpI (σ : ah_S) (a sp c dp n : Nat) (d j : Nat) : ah_ai (ah_cpI σ a sp c dp n) d j = if d = c then (if dp ≤ j ∧ j < dp + n then ah_ai σ a (sp + (j - dp)) else ah_ai σ c j) else ah_ai σ d j := by
  show va_up (ah_ai σ) c (va_cpy (ah_ai σ a) (ah_ai σ c) sp dp n) d j = _
  unfold va_up va_cpy
  by_cases h : d = c
  · simp only [if_pos h]
  · simp only [if_neg h]
theorem rw_al_cpI (σ : ah_S) (a sp c dp n : Nat) : ah_al (ah_cpI σ a sp c dp n) = ah_al σ := rfl
theorem rw_ar_cpI (σ : ah_S) (a sp c dp n : Nat) : ah_ar (ah_cpI σ a sp c dp n) = ah_ar σ := rfl
theorem rk_cpI {σ : ah_S} {b : Nat} {a sp c dp n : Nat} : sk_ok (ah_cpI σ a sp c dp n) b ↔ sk_ok σ b := Iff.rfl
theorem rw_nx_cpL (σ : ah_S) (a sp c dp n : Nat) : ah_nx (ah_cpL σ a sp c dp n) = ah_nx σ := rfl
theorem rw_rc_cpL (σ : ah_S) (a sp c dp n : Nat) : ah_rc (ah_cpL σ a sp c dp n) = ah_rc σ := rfl
theorem rw_rs_cpL (σ : ah_S) (a sp c dp n : Nat) : ah_rs (ah_cpL σ a sp c dp n) = ah_rs σ := rfl
theorem rw_tg_cpL (σ : ah_S) (a sp c dp n : Nat) : ah_tg (ah_cpL σ a sp c dp n) = ah_tg σ := rfl
theorem rw_ln_cpL (σ : ah_S) (a sp c dp n : Nat) : ah_ln (ah_cpL σ a sp c dp n) = ah_ln σ := rfl
theorem rw_fi_cpL (σ : ah_S) (a sp c dp n : Nat) : ah_fi (ah_cpL σ a sp c dp n) = ah_fi σ := rfl
theorem rw_fr_cpL (σ : ah_S) (a sp c dp n : Nat) : ah_fr (ah_cpL σ a sp c dp n) = ah_fr σ := rfl
theorem rw_ai_cpL (σ : ah_S) (a sp c dp n : Nat) : ah_ai (ah_cpL σ a sp c dp n) = ah_ai σ := rfl
theorem rw_al_cpL (σ : ah_S) (a sp c dp n : Nat) (d j : Nat) : ah_al (ah_cpL σ a sp c dp n) d j = if d = c then (if dp ≤ j ∧ j < dp + n then ah_al σ a (sp + (j - dp)) else ah_al σ c j) else ah_al σ d j := by
  show va_up (ah_al σ) c (va_cpy (ah_al σ a) (ah_al σ c) sp dp n) d j = _
  unfold va_up va_cpy
  by_cases h : d = c
  · simp only [if_pos h]
  · simp only [if_neg h]
theorem rw_ar_cpL (σ : ah_S) (a sp c dp n : Nat) : ah_ar (ah_cpL σ a sp c dp n) = ah_ar σ := rfl
theorem rk_cpL {σ : ah_S} {b : Nat} {a sp c dp n : Nat} : sk_ok (ah_cpL σ a sp c dp n) b ↔ sk_ok σ b := Iff.rfl
theorem rk_sR {σ : ah_S} {b f a : Nat} {v : Option Nat} (h : sk_ok σ b) (hf : ∀ q ∈ sk_R, q.1 ≠ f) : sk_ok (ah_sR σ f a v) b := ⟨h.1, h.2.1, h.2.2.1, fun q hq => by
  rw [rw_fr_sR, if_neg (hf q hq)]
  exact h.2.2.2.1 q hq, h.2.2.2.2⟩
theorem rk_sQ {σ : ah_S} {b a i : Nat} {v : Option Nat} (h : sk_ok σ b) (ha : ∀ q ∈ sk_Q, b + q.1 ≠ a) : sk_ok (ah_sQ σ a i v) b := ⟨h.1, h.2.1, h.2.2.1, h.2.2.2.1, fun q hq => by
  rw [rw_ar_sQ, if_neg (ha q hq)]
  exact h.2.2.2.2 q hq⟩
theorem rk_new {σ : ah_S} {b t n : Nat} (h : sk_ok σ b) : sk_ok (ah_new σ t n) b := by
  obtain ⟨h1, h2, h3, h4, h5⟩ := h
  have hq : ∀ q ∈ sk_R, q.2.1 < 163 := by decide
  have hq2 : ∀ q ∈ sk_Q, q.1 < 163 := by decide
  refine ⟨Nat.le_succ_of_le h1, fun k hk => ?_, fun k hk => ?_, fun q hm => ?_, fun q hm => ?_⟩
  · exact (if_neg (by omega : ¬ b + k = ah_nx σ)).trans (h2 k hk)
  · exact (if_neg (by omega : ¬ b + k = ah_nx σ)).trans (h3 k hk)
  · have := hq q hm
    exact (if_neg (by omega : ¬ b + q.2.1 = ah_nx σ)).trans (h4 q hm)
  · have := hq2 q hm
    have e : ah_ar (ah_new σ t n) (b + q.1) = ah_ar σ (b + q.1) := if_neg (by omega : ¬ b + q.1 = ah_nx σ)
    rw [e]
    exact h5 q hm
/-- the label of an int field of the two objects -/
def lb_f : List (Nat × Nat) := [(1, 1), (2, 1), (4, 2), (6, 51), (8, 0), (16, 52), (21, 12), (23, 19), (24, 19), (28, 16), (32, 17), (34, 67), (38, 8), (40, 9), (603, 20), (608, 20), (609, 20), (610, 20), (612, 21), (613, 21), (619, 22), (620, 53), (621, 53), (622, 53), (623, 53), (631, 23), (636, 32), (641, 36), (644, 38), (646, 41), (647, 41), (649, 27), (652, 28), (654, 29)]
def lb_d (t : Nat) : Nat := if t = 3 ∨ t = 8 ∨ t = 113 then 0 else if 9 ≤ t ∧ t ≤ 14 then 3 else if 15 ≤ t ∧ t ≤ 22 then 8 else if 101 ≤ t ∧ t ≤ 105 then 10 else 99
def lb_a (b : Nat) (σ : ah_S) (a : Nat) : Nat := if a < b + 163 then sk_B.getD (a - b) 99 else lb_d (ah_tg σ a)
def lb_i (b : Nat) (σ : ah_S) (f a : Nat) : Nat := if f < 100 ∨ 600 ≤ f ∧ f < 700 then (lb_f.lookup f).getD 99 else lb_a b σ a
def lb_r (f : Nat) : Nat := if f = 17 ∨ 800 ≤ f ∧ f < 1400 then 3 else if f = 500 then 1 else 99
/-- the later world is as the earlier one, but for cells with labels in L; new cells only if 50 is in L -/
def ag_ (b : Nat) (L : List Nat) (σ τ : ah_S) : Prop := sk_ok τ b ∧ ah_nx σ ≤ ah_nx τ ∧ (50 ∉ L → ah_nx τ = ah_nx σ) ∧ ah_rc τ + ah_nx τ = ah_rc σ + ah_nx σ ∧ ah_rs σ ≤ ah_rs τ + 60 * (ah_nx τ - ah_nx σ) ∧ (∀ a, a < ah_nx σ → ah_tg τ a = ah_tg σ a ∧ ah_ln τ a = ah_ln σ a) ∧ (∀ f a, a < ah_nx σ → lb_i b σ f a ∉ L → ah_fi τ f a = ah_fi σ f a) ∧ (∀ f a, a < ah_nx σ → lb_r f ∉ L → ah_fr τ f a = ah_fr σ f a) ∧ (∀ a i, a < ah_nx σ → lb_a b σ a ∉ L → ah_ai τ a i = ah_ai σ a i ∧ ah_al τ a i = ah_al σ a i ∧ ah_ar τ a i = ah_ar σ a i)
theorem ag_rf {b : Nat} {σ : ah_S} (L : List Nat) (h : sk_ok σ b) : ag_ b L σ σ := ⟨h, Nat.le_refl _, fun _ => rfl, rfl, Nat.le_add_right _ _, fun _ _ => ⟨rfl, rfl⟩, fun _ _ _ _ => rfl, fun _ _ _ _ => rfl, fun _ _ _ _ => ⟨rfl, rfl, rfl⟩⟩
theorem ag_sk {b : Nat} {L : List Nat} {σ τ : ah_S} (h : ag_ b L σ τ) : sk_ok τ b := h.1
theorem lb_ae {b : Nat} {L : List Nat} {σ τ : ah_S} (h : ag_ b L σ τ) {a : Nat} (ha : a < ah_nx σ) : lb_a b τ a = lb_a b σ a := by
  unfold lb_a
  rw [(h.2.2.2.2.2.1 a ha).1]
theorem lb_ie {b : Nat} {L : List Nat} {σ τ : ah_S} (h : ag_ b L σ τ) {f a : Nat} (ha : a < ah_nx σ) : lb_i b τ f a = lb_i b σ f a := by
  unfold lb_i
  rw [lb_ae h ha]
theorem ag_tr {b : Nat} {L : List Nat} {σ τ υ : ah_S} (h : ag_ b L σ τ) (k : ag_ b L τ υ) : ag_ b L σ υ := by
  obtain ⟨k1, k2, k3, k4, k5, k6, k7, k8, k9⟩ := k
  refine ⟨k1, Nat.le_trans h.2.1 k2, fun n => (k3 n).trans (h.2.2.1 n), k4.trans h.2.2.2.1, ?_, fun a ha => ?_, fun f a ha hl => ?_, fun f a ha hl => ?_, fun a i ha hl => ?_⟩
  · have := h.2.2.2.2.1
    have := h.2.1
    omega
  · have q := k6 a (Nat.lt_of_lt_of_le ha h.2.1)
    have p := h.2.2.2.2.2.1 a ha
    exact ⟨q.1.trans p.1, q.2.trans p.2⟩
  · exact (k7 f a (Nat.lt_of_lt_of_le ha h.2.1) (by rw [lb_ie h ha]; exact hl)).trans (h.2.2.2.2.2.2.1 f a ha hl)
  · exact (k8 f a (Nat.lt_of_lt_of_le ha h.2.1) hl).trans (h.2.2.2.2.2.2.2.1 f a ha hl)
  · have q := k9 a i (Nat.lt_of_lt_of_le ha h.2.1) (by rw [lb_ae h ha]; exact hl)
    have p := h.2.2.2.2.2.2.2.2 a i ha hl
    exact ⟨q.1.trans p.1, q.2.1.trans p.2.1, q.2.2.trans p.2.2⟩
theorem ag_mo {b : Nat} {L M : List Nat} {σ τ : ah_S} (hs : ∀ l ∈ L, l ∈ M) (h : ag_ b L σ τ) : ag_ b M σ τ := ⟨h.1, h.2.1, fun n => h.2.2.1 fun q => n (hs _ q), h.2.2.2.1, h.2.2.2.2.1, h.2.2.2.2.2.1, fun f a ha hl => h.2.2.2.2.2.2.1 f a ha fun q => hl (hs _ q), fun f a ha hl => h.2.2.2.2.2.2.2.1 f a ha fun q => hl (hs _ q), fun a i ha hl => h.2.2.2.2.2.2.2.2 a i ha fun q => hl (hs _ q)⟩
theorem ag_wI {b : Nat} {L : List Nat} {ρ σ : ah_S} {f a : Nat} {v : Int32} (h : ag_ b L ρ σ) (hl : a < ah_nx ρ → lb_i b ρ f a ∈ L) : ag_ b L ρ (ah_sI σ f a v) := ⟨h.1, h.2.1, h.2.2.1, h.2.2.2.1, h.2.2.2.2.1, h.2.2.2.2.2.1, fun g c hc hn => by
  rw [rw_fi_sI]
  by_cases e : g = f
  · by_cases e2 : c = a
    · subst e; subst e2; exact absurd (hl hc) hn
    · rw [if_pos e, if_neg e2]; exact h.2.2.2.2.2.2.1 g c hc hn
  · rw [if_neg e]; exact h.2.2.2.2.2.2.1 g c hc hn, h.2.2.2.2.2.2.2.1, h.2.2.2.2.2.2.2.2⟩
theorem ag_wR {b : Nat} {L : List Nat} {ρ σ : ah_S} {f a : Nat} {v : Option Nat} (h : ag_ b L ρ σ) (hl : a < ah_nx ρ → lb_r f ∈ L) (hf : ∀ q ∈ sk_R, q.1 ≠ f) : ag_ b L ρ (ah_sR σ f a v) := ⟨rk_sR h.1 hf, h.2.1, h.2.2.1, h.2.2.2.1, h.2.2.2.2.1, h.2.2.2.2.2.1, h.2.2.2.2.2.2.1, fun g c hc hn => by
  rw [rw_fr_sR]
  by_cases e : g = f
  · by_cases e2 : c = a
    · subst e; subst e2; exact absurd (hl hc) hn
    · rw [if_pos e, if_neg e2]; exact h.2.2.2.2.2.2.2.1 g c hc hn
  · rw [if_neg e]; exact h.2.2.2.2.2.2.2.1 g c hc hn, h.2.2.2.2.2.2.2.2⟩
theorem ag_wA {b : Nat} {L : List Nat} {ρ σ : ah_S} {a i : Nat} {v : Int32} (h : ag_ b L ρ σ) (hl : a < ah_nx ρ → lb_a b ρ a ∈ L) : ag_ b L ρ (ah_sA σ a i v) := ⟨h.1, h.2.1, h.2.2.1, h.2.2.2.1, h.2.2.2.2.1, h.2.2.2.2.2.1, h.2.2.2.2.2.2.1, h.2.2.2.2.2.2.2.1, fun c j hc hn => by
  have q := h.2.2.2.2.2.2.2.2 c j hc hn
  refine ⟨?_, q.2⟩
  rw [rw_ai_sA, if_neg (fun e => by subst e; exact hn (hl hc))]
  exact q.1⟩
theorem ag_wL {b : Nat} {L : List Nat} {ρ σ : ah_S} {a i : Nat} {v : Int64} (h : ag_ b L ρ σ) (hl : a < ah_nx ρ → lb_a b ρ a ∈ L) : ag_ b L ρ (ah_sL σ a i v) := ⟨h.1, h.2.1, h.2.2.1, h.2.2.2.1, h.2.2.2.2.1, h.2.2.2.2.2.1, h.2.2.2.2.2.2.1, h.2.2.2.2.2.2.2.1, fun c j hc hn => by
  have q := h.2.2.2.2.2.2.2.2 c j hc hn
  refine ⟨q.1, ?_, q.2.2⟩
  rw [rw_al_sL, if_neg (fun e => by subst e; exact hn (hl hc))]
  exact q.2.1⟩
theorem ag_wQ {b : Nat} {L : List Nat} {ρ σ : ah_S} {a i : Nat} {v : Option Nat} (h : ag_ b L ρ σ) (hl : a < ah_nx ρ → lb_a b ρ a ∈ L) (ha : ∀ q ∈ sk_Q, b + q.1 ≠ a) : ag_ b L ρ (ah_sQ σ a i v) := ⟨rk_sQ h.1 ha, h.2.1, h.2.2.1, h.2.2.2.1, h.2.2.2.2.1, h.2.2.2.2.2.1, h.2.2.2.2.2.2.1, h.2.2.2.2.2.2.2.1, fun c j hc hn => by
  have q := h.2.2.2.2.2.2.2.2 c j hc hn
  refine ⟨q.1, q.2.1, ?_⟩
  rw [rw_ar_sQ, if_neg (fun e => by subst e; exact hn (hl hc))]
  exact q.2.2⟩
theorem ag_cI {b : Nat} {L : List Nat} {ρ σ : ah_S} {a sp c dp n : Nat} (h : ag_ b L ρ σ) (hl : c < ah_nx ρ → lb_a b ρ c ∈ L) : ag_ b L ρ (ah_cpI σ a sp c dp n) := ⟨h.1, h.2.1, h.2.2.1, h.2.2.2.1, h.2.2.2.2.1, h.2.2.2.2.2.1, h.2.2.2.2.2.2.1, h.2.2.2.2.2.2.2.1, fun d j hc hn => by
  have q := h.2.2.2.2.2.2.2.2 d j hc hn
  refine ⟨?_, q.2⟩
  rw [rw_ai_cpI, if_neg (fun e => by subst e; exact hn (hl hc))]
  exact q.1⟩
theorem ag_cL {b : Nat} {L : List Nat} {ρ σ : ah_S} {a sp c dp n : Nat} (h : ag_ b L ρ σ) (hl : c < ah_nx ρ → lb_a b ρ c ∈ L) : ag_ b L ρ (ah_cpL σ a sp c dp n) := ⟨h.1, h.2.1, h.2.2.1, h.2.2.2.1, h.2.2.2.2.1, h.2.2.2.2.2.1, h.2.2.2.2.2.2.1, h.2.2.2.2.2.2.2.1, fun d j hc hn => by
  have q := h.2.2.2.2.2.2.2.2 d j hc hn
  refine ⟨q.1, ?_, q.2.2⟩
  rw [rw_al_cpL, if_neg (fun e => by subst e; exact hn (hl hc))]
  exact q.2.1⟩
theorem ag_nw {b : Nat} {L : List Nat} {ρ σ : ah_S} {t n : Nat} (h : ag_ b L ρ σ) (hl : 50 ∈ L) (hn : n ≤ 60) (hc : 1 ≤ ah_rc σ) (hs : n ≤ ah_rs σ) : ag_ b L ρ (ah_new σ t n) := by
  obtain ⟨h1, h2, h3, h4, h5, h6, h7, h8, h9⟩ := h
  refine ⟨rk_new h1, Nat.le_succ_of_le h2, fun q => absurd hl q, ?_, ?_, fun a ha => ?_, fun f a ha hl => ?_, fun f a ha hl => ?_, fun a i ha hl => ?_⟩
  · show ah_rc σ - 1 + (ah_nx σ + 1) = _
    omega
  · show ah_rs ρ ≤ ah_rs σ - n + 60 * (ah_nx σ + 1 - ah_nx ρ)
    omega
  · have e : ¬ a = ah_nx σ := by omega
    exact ⟨(if_neg e).trans (h6 a ha).1, (if_neg e).trans (h6 a ha).2⟩
  · exact (if_neg (by omega : ¬ a = ah_nx σ)).trans (h7 f a ha hl)
  · exact (if_neg (by omega : ¬ a = ah_nx σ)).trans (h8 f a ha hl)
  · have e : ¬ a = ah_nx σ := by omega
    have e1 : ah_ai (ah_new σ t n) a = ah_ai σ a := if_neg e
    have e2 : ah_al (ah_new σ t n) a = ah_al σ a := if_neg e
    have e3 : ah_ar (ah_new σ t n) a = ah_ar σ a := if_neg e
    rw [e1, e2, e3]
    exact h9 a i ha hl
/-- labels of static cells -/
theorem lb_st {b k : Nat} {σ : ah_S} (hk : k < 163) : lb_a b σ (b + k) = sk_B.getD k 99 := by
  unfold lb_a
  rw [if_pos (by omega), Nat.add_sub_cancel_left]
theorem lb_sc {b k l : Nat} {σ : ah_S} {L : List Nat} (hk : k < 163) (hl : sk_B.getD k 99 = l) (hL : l ∈ L) : lb_a b σ (b + k) ∈ L := by
  rw [lb_st hk, hl]; exact hL
theorem lb_fo {b f a l : Nat} {σ : ah_S} {L : List Nat} (hf : f < 100 ∨ 600 ≤ f ∧ f < 700) (hl : (lb_f.lookup f).getD 99 = l) (hL : l ∈ L) : lb_i b σ f a ∈ L := by
  unfold lb_i
  rw [if_pos hf, hl]; exact hL
theorem lb_fc {b f k l : Nat} {σ : ah_S} {L : List Nat} (hf : ¬ (f < 100 ∨ 600 ≤ f ∧ f < 700)) (hk : k < 163) (hl : sk_B.getD k 99 = l) (hL : l ∈ L) : lb_i b σ f (b + k) ∈ L := by
  unfold lb_i
  rw [if_neg hf]
  exact lb_sc hk hl hL
/-- what stays: an array, an int field of the two objects -/
theorem ag_ai {b k : Nat} {L : List Nat} {σ τ : ah_S} (h : ag_ b L σ τ) (h0 : sk_ok σ b) (hk : k < 163) (hl : sk_B.getD k 99 ∉ L) (i : Nat) : ah_ai τ (b + k) i = ah_ai σ (b + k) i := (h.2.2.2.2.2.2.2.2 (b + k) i (by have := h0.1; omega) (by rw [lb_st hk]; exact hl)).1
theorem ag_al {b k : Nat} {L : List Nat} {σ τ : ah_S} (h : ag_ b L σ τ) (h0 : sk_ok σ b) (hk : k < 163) (hl : sk_B.getD k 99 ∉ L) (i : Nat) : ah_al τ (b + k) i = ah_al σ (b + k) i := (h.2.2.2.2.2.2.2.2 (b + k) i (by have := h0.1; omega) (by rw [lb_st hk]; exact hl)).2.1
theorem ag_ar {b k : Nat} {L : List Nat} {σ τ : ah_S} (h : ag_ b L σ τ) (h0 : sk_ok σ b) (hk : k < 163) (hl : sk_B.getD k 99 ∉ L) (i : Nat) : ah_ar τ (b + k) i = ah_ar σ (b + k) i := (h.2.2.2.2.2.2.2.2 (b + k) i (by have := h0.1; omega) (by rw [lb_st hk]; exact hl)).2.2
theorem ag_fi {b k f : Nat} {L : List Nat} {σ τ : ah_S} (h : ag_ b L σ τ) (h0 : sk_ok σ b) (hk : k < 163) (hf : f < 100 ∨ 600 ≤ f ∧ f < 700) (hl : (lb_f.lookup f).getD 99 ∉ L) : ah_fi τ f (b + k) = ah_fi σ f (b + k) := h.2.2.2.2.2.2.1 f (b + k) (by have := h0.1; omega) (by unfold lb_i; rw [if_pos hf]; exact hl)
theorem ag_fc {b k f : Nat} {L : List Nat} {σ τ : ah_S} (h : ag_ b L σ τ) (h0 : sk_ok σ b) (hk : k < 163) (hf : ¬ (f < 100 ∨ 600 ≤ f ∧ f < 700)) (hl : sk_B.getD k 99 ∉ L) : ah_fi τ f (b + k) = ah_fi σ f (b + k) := h.2.2.2.2.2.2.1 f (b + k) (by have := h0.1; omega) (by unfold lb_i; rw [if_neg hf, lb_st hk]; exact hl)
