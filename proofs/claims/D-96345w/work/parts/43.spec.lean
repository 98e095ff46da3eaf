/-! ===== what is computed: a hut is 48 numbers as in the model (levels, book, ahead, somebody, been, found) ===== -/
abbrev sp_V : Type := Nat → Nat → Int32
abbrev sp_W : Type := Option ((Nat → Int32) → Int32)
abbrev sp_H : Type := Nat → Int32
def sp_20 (v : Int32) : Int32 := if -20 ≤ v then (if v ≤ 20 then v else 20) else -20
def sp_99 (v : Int32) : Int32 := if 0 ≤ v then (if v ≤ 99 then v else 99) else 0
def sp_s (V : sp_V) (g : Nat) : Int32 := if V 6 0 < V 4 g then V 6 0 else V 4 g
def sp_N (V : sp_V) (g t : Nat) (f o : Int32) : Nat → Int32 := fun i => if i = 0 then f else if i = 1 then o else if i = 2 then V 2 (4 * g + t) else if i = 3 then V 3 (4 * g + t) else if i = 4 then sp_s V g else Int32.ofNat t
def sp_is (V : sp_V) (lw : sp_W) (g t : Nat) (f o : Int32) : Int32 := match lw with
  | some F => F (sp_N V g t f o)
  | none => if o - f ≤ sp_s V g then -(V 2 (4 * g + t)) else if f + (-(V 2 (4 * g + t)) + V 3 (4 * g + t)) ≤ o then -(V 2 (4 * g + t)) + V 3 (4 * g + t) else o - f
def sp_lf (V : sp_V) (lw : sp_W) (g t : Nat) (f o : Int32) : Int32 := sp_99 (f + sp_20 (sp_is V lw g t f o))
def sp_bl (V : sp_V) (g : Nat) (h : sp_H) (t : Nat) : Int32 := if V 5 g = 0 then (if h (13 + g) = 0 then h t else h (20 + (4 * g + t))) else if V 5 g = 1 then h (4 + t) else if V 5 g = 2 then V 0 t else if h 12 = 0 then V 0 t else h (8 + t)
def sp_nt (V : sp_V) (lw : sp_W) (g : Nat) (h : sp_H) : sp_H := fun i => if i < 4 then sp_lf V lw g i (h i) (sp_bl V g h i) else if i < 8 then (if V 5 g = 1 then sp_lf V lw g (i - 4) (h (i - 4)) (sp_bl V g h (i - 4)) else h i) else if i < 12 then sp_bl V g h (i - 8) else if i = 12 then 1 else if i = 13 + g then 1 else if h (13 + g) = 0 ∧ 20 + 4 * g ≤ i ∧ i < 24 + 4 * g then h (i - (20 + 4 * g)) else h i
/-- the night of a guest, or of nobody -/
def sp_go (V : sp_V) (G : Nat) (lw : sp_W) (g : Int32) (h : sp_H) : sp_H := if 0 ≤ g ∧ g < Int32.ofNat G then sp_nt V lw g.toNatClampNeg h else h
def sp_lk (V : sp_V) (h : sp_H) (t : Nat) : Int32 := if h t < V 0 t then V 0 t - h t else 0
def sp_ls (V : sp_V) (h : sp_H) : Int32 := (((0 + sp_lk V h 0 * V 1 0) + sp_lk V h 1 * V 1 1) + sp_lk V h 2 * V 1 2) + sp_lk V h 3 * V 1 3
/-- one of the numbers that may be mended -/
def sp_vd (G w i : Nat) : Prop := (w < 2 ∧ i < 4) ∨ ((w = 2 ∨ w = 3) ∧ i < 4 * G) ∨ ((w = 4 ∨ w = 5) ∧ i < G) ∨ (6 ≤ w ∧ w < 9 ∧ i = 0)
def sp_mx : Nat → Nat
  | 0 => 99
  | 3 => 20
  | 4 => 50
  | 5 => 3
  | 6 => 50
  | 7 => 999
  | 8 => 12
  | _ => 9
def sp_rg (G : Nat) (V : sp_V) : Prop := ∀ w i, sp_vd G w i → 0 ≤ (V w i).toInt ∧ (V w i).toInt ≤ sp_mx w
/-- a hut as it may be -/
def sp_hw (h : sp_H) : Prop := (h 12 = 0 ∨ h 12 = 1) ∧ (∀ g, g < 7 → h (13 + g) = 0 ∨ h (13 + g) = 1) ∧ (∀ g t, g < 7 → t < 4 → h (13 + g) = 0 → h (20 + (4 * g + t)) = 0) ∧ (∀ i, i < 12 ∨ 20 ≤ i ∧ i < 48 → 0 ≤ (h i).toInt ∧ (h i).toInt ≤ 99)
/-! ===== how the class and the model hold it ===== -/
def sk_H : List Nat := [12, 17, 28, 33, 38, 43, 48, 53, 58, 66]
set_option maxRecDepth 10000 in
theorem sk_Hd : ∀ k ∈ sk_H, k + 5 ≤ 163 ∧ sk_T.getD k 0 = 5 ∧ (400, k, k + 1) ∈ sk_R ∧ (401, k, k + 2) ∈ sk_R ∧ (402, k, k + 3) ∈ sk_R ∧ (405, k, k + 4) ∈ sk_R ∧ (406, k, 0) ∈ sk_R ∧ sk_T.getD (k + 1) 0 = 101 ∧ sk_T.getD (k + 2) 0 = 101 ∧ sk_T.getD (k + 3) 0 = 101 ∧ sk_T.getD (k + 4) 0 = 101 ∧ sk_N.getD (k + 1) 0 = 4 ∧ sk_N.getD (k + 2) 0 = 4 ∧ sk_N.getD (k + 3) 0 = 28 ∧ sk_N.getD (k + 4) 0 = 4 ∧ sk_B.getD (k + 1) 99 = sk_B.getD k 99 ∧ sk_B.getD (k + 2) 99 = sk_B.getD k 99 ∧ sk_B.getD (k + 3) 99 = sk_B.getD k 99 ∧ sk_B.getD (k + 4) 99 = sk_B.getD k 99 := by decide
theorem hu_400 {σ : ah_S} {b k : Nat} (h : sk_ok σ b) (hk : k ∈ sk_H) : ah_gR σ 400 (some (b + k)) = some (some (b + (k + 1))) := by
  obtain ⟨q1, q2, q3, q4, q5, q6, q7, -⟩ := sk_Hd k hk
  exact sk_gR h (by omega) (by rw [q2]; decide) q3
theorem hu_401 {σ : ah_S} {b k : Nat} (h : sk_ok σ b) (hk : k ∈ sk_H) : ah_gR σ 401 (some (b + k)) = some (some (b + (k + 2))) := by
  obtain ⟨q1, q2, q3, q4, q5, q6, q7, -⟩ := sk_Hd k hk
  exact sk_gR h (by omega) (by rw [q2]; decide) q4
theorem hu_402 {σ : ah_S} {b k : Nat} (h : sk_ok σ b) (hk : k ∈ sk_H) : ah_gR σ 402 (some (b + k)) = some (some (b + (k + 3))) := by
  obtain ⟨q1, q2, q3, q4, q5, q6, q7, -⟩ := sk_Hd k hk
  exact sk_gR h (by omega) (by rw [q2]; decide) q5
theorem hu_405 {σ : ah_S} {b k : Nat} (h : sk_ok σ b) (hk : k ∈ sk_H) : ah_gR σ 405 (some (b + k)) = some (some (b + (k + 4))) := by
  obtain ⟨q1, q2, q3, q4, q5, q6, q7, -⟩ := sk_Hd k hk
  exact sk_gR h (by omega) (by rw [q2]; decide) q6
theorem hu_406 {σ : ah_S} {b k : Nat} (h : sk_ok σ b) (hk : k ∈ sk_H) : ah_gR σ 406 (some (b + k)) = some (some b) := by
  obtain ⟨q1, q2, q3, q4, q5, q6, q7, -⟩ := sk_Hd k hk
  exact sk_gR (j := 0) h (by omega) (by rw [q2]; decide) q7
theorem hu_403 {σ : ah_S} {b k : Nat} (h : sk_ok σ b) (hk : k ∈ sk_H) : ah_gI σ 403 (some (b + k)) = some (ah_fi σ 403 (b + k)) := by
  obtain ⟨q1, q2, q3, q4, q5, q6, q7, -⟩ := sk_Hd k hk
  exact sk_gI h (by omega) (by rw [q2]; decide)
theorem hu_404 {σ : ah_S} {b k : Nat} (h : sk_ok σ b) (hk : k ∈ sk_H) : ah_gI σ 404 (some (b + k)) = some (ah_fi σ 404 (b + k)) := by
  obtain ⟨q1, q2, q3, q4, q5, q6, q7, -⟩ := sk_Hd k hk
  exact sk_gI h (by omega) (by rw [q2]; decide)
theorem hu_p403 {σ : ah_S} {b k : Nat} (h : sk_ok σ b) (hk : k ∈ sk_H) {v : Int32} : ah_pI σ 403 (some (b + k)) v = some (ah_sI σ 403 (b + k) v) := by
  obtain ⟨q1, q2, q3, q4, q5, q6, q7, -⟩ := sk_Hd k hk
  exact sk_pI h (by omega) (by rw [q2]; decide)
theorem hu_p404 {σ : ah_S} {b k : Nat} (h : sk_ok σ b) (hk : k ∈ sk_H) {v : Int32} (hv : (v == 0 || v == 1) = true) : ah_pZ σ 404 (some (b + k)) v = some (ah_sI σ 404 (b + k) v) := by
  obtain ⟨q1, q2, q3, q4, q5, q6, q7, -⟩ := sk_Hd k hk
  exact sk_pZ h (by omega) (by rw [q2]; decide) hv
theorem hu_p404_1 {σ : ah_S} {b k : Nat} (h : sk_ok σ b) (hk : k ∈ sk_H) : ah_pZ σ 404 (some (b + k)) (1 : Int32) = some (ah_sI σ 404 (b + k) 1) := hu_p404 h hk rfl
theorem hu_is {σ : ah_S} {b k : Nat} (h : sk_ok σ b) (hk : k ∈ sk_H) : ah_is σ 5 (some (b + k)) = some () := by
  obtain ⟨q1, q2, q3, q4, q5, q6, q7, -⟩ := sk_Hd k hk
  exact sk_is h (by omega) q2
theorem hu_l1 {σ : ah_S} {b k : Nat} (h : sk_ok σ b) (hk : k ∈ sk_H) {j : Nat} (hj : j < 4) : ah_lA σ 101 (some (b + (k + 1))) (Int32.ofNat j) = some (ah_ai σ (b + (k + 1)) j) := by
  obtain ⟨q1, -, -, -, -, -, -, q2, -, -, -, q3, -⟩ := sk_Hd k hk
  exact sk_lA h (by omega) q2 q3 (by decide) hj
theorem hu_l2 {σ : ah_S} {b k : Nat} (h : sk_ok σ b) (hk : k ∈ sk_H) {j : Nat} (hj : j < 4) : ah_lA σ 101 (some (b + (k + 2))) (Int32.ofNat j) = some (ah_ai σ (b + (k + 2)) j) := by
  obtain ⟨q1, -, -, -, -, -, -, -, q2, -, -, -, q3, -⟩ := sk_Hd k hk
  exact sk_lA h (by omega) q2 q3 (by decide) hj
theorem hu_l3 {σ : ah_S} {b k : Nat} (h : sk_ok σ b) (hk : k ∈ sk_H) {j : Nat} (hj : j < 28) : ah_lA σ 101 (some (b + (k + 3))) (Int32.ofNat j) = some (ah_ai σ (b + (k + 3)) j) := by
  obtain ⟨q1, -, -, -, -, -, -, -, -, q2, -, -, -, q3, -⟩ := sk_Hd k hk
  exact sk_lA h (by omega) q2 q3 (by decide) hj
theorem hu_l4 {σ : ah_S} {b k : Nat} (h : sk_ok σ b) (hk : k ∈ sk_H) {j : Nat} (hj : j < 4) : ah_lA σ 101 (some (b + (k + 4))) (Int32.ofNat j) = some (ah_ai σ (b + (k + 4)) j) := by
  obtain ⟨q1, -, -, -, -, -, -, -, -, -, q2, -, -, -, q3, -⟩ := sk_Hd k hk
  exact sk_lA h (by omega) q2 q3 (by decide) hj
theorem hu_w1 {σ : ah_S} {b k : Nat} (h : sk_ok σ b) (hk : k ∈ sk_H) {j : Nat} {v : Int32} (hj : j < 4) : ah_wA σ 101 (some (b + (k + 1))) (Int32.ofNat j) v = some (ah_sA σ (b + (k + 1)) j v) := by
  obtain ⟨q1, -, -, -, -, -, -, q2, -, -, -, q3, -⟩ := sk_Hd k hk
  exact sk_wA h (by omega) q2 q3 (by decide) hj
theorem hu_w4 {σ : ah_S} {b k : Nat} (h : sk_ok σ b) (hk : k ∈ sk_H) {j : Nat} {v : Int32} (hj : j < 4) : ah_wA σ 101 (some (b + (k + 4))) (Int32.ofNat j) v = some (ah_sA σ (b + (k + 4)) j v) := by
  obtain ⟨q1, -, -, -, -, -, -, -, -, -, q2, -, -, -, q3, -⟩ := sk_Hd k hk
  exact sk_wA h (by omega) q2 q3 (by decide) hj
/-- a Hut of the class at b + k -/
def xh_ (σ : ah_S) (b k : Nat) (h : sp_H) : Prop := (∀ t, t < 4 → ah_ai σ (b + (k + 1)) t = h t) ∧ (∀ t, t < 4 → ah_ai σ (b + (k + 2)) t = h (4 + t)) ∧ ah_fi σ 404 (b + k) = h 12 ∧ (h 12 ≠ 0 → ∀ t, t < 4 → ah_ai σ (b + (k + 4)) t = h (8 + t)) ∧ (∃ n, n < 128 ∧ ah_fi σ 403 (b + k) = Int32.ofNat n ∧ ∀ g, g < 7 → h (13 + g) = if n.testBit g then 1 else 0) ∧ (∀ g t, g < 7 → t < 4 → h (13 + g) ≠ 0 → ah_ai σ (b + (k + 3)) (4 * g + t) = h (20 + (4 * g + t)))
/-- the model's hut, or a copy of it, at b + k -/
def mh_ (σ : ah_S) (b k : Nat) (h : sp_H) : Prop := ∀ i, i < 48 → ah_ai σ (b + k) i = h i
/-- where the class holds a number that may be mended; ga: the guests' blocks -/
def xa_ (b : Nat) (ga : Nat → Nat) (w i : Nat) : Nat := if w = 0 then b + (115 + 2 * i) else if w = 1 then b + (116 + 2 * i) else if w = 2 then ga (i / 4) + (3 + 2 * (i % 4)) else if w = 3 then ga (i / 4) + (4 + 2 * (i % 4)) else if w = 4 then ga i + 11 else if w = 5 then ga i + 12 else b + (w + 1)
/-- a guest's block -/
def xg_ (σ : ah_S) (b g : Nat) (ga : Nat → Nat) : Prop := b + 163 ≤ ga g ∧ ga g + 13 ≤ ah_nx σ ∧ ah_ar σ (b + 4) g = some (ga g) ∧ ah_tg σ (ga g) = 8 ∧ ah_tg σ (ga g + 1) = 113 ∧ ah_ln σ (ga g + 1) = 4 ∧ ah_tg σ (ga g + 2) = 113 ∧ ah_ln σ (ga g + 2) = 4 ∧ ah_fr σ 700 (ga g) = some (ga g + 1) ∧ ah_fr σ 701 (ga g) = some (ga g + 2) ∧ ah_fr σ 702 (ga g) = some (ga g + 11) ∧ ah_fr σ 703 (ga g) = some (ga g + 12) ∧ (∀ t, t < 4 → ah_ar σ (ga g + 1) t = some (ga g + (3 + 2 * t)) ∧ ah_ar σ (ga g + 2) t = some (ga g + (4 + 2 * t))) ∧ (∀ j, 3 ≤ j → j < 13 → ah_tg σ (ga g + j) = 3)
def xp_ (σ : ah_S) (b : Nat) (ga : Nat → Nat) (V : sp_V) (G : Nat) : Prop := G ≤ 7 ∧ ah_fi σ 8 b = Int32.ofNat G ∧ (∀ g, g < G → xg_ σ b g ga) ∧ (∀ g h, g < h → h < G → ga g + 13 ≤ ga h) ∧ (∀ w i, sp_vd G w i → ah_fi σ 200 (xa_ b ga w i) = V w i)
def mp_ (σ : ah_S) (b : Nat) (V : sp_V) (G : Nat) : Prop := ah_fi σ 603 (b + 123) = Int32.ofNat G ∧ (∀ t, t < 4 → ah_ai σ (b + 124) t = V 0 t) ∧ (∀ t, t < 4 → ah_ai σ (b + 125) t = V 1 t) ∧ (∀ i, i < 4 * G → ah_ai σ (b + 126) i = V 2 i) ∧ (∀ i, i < 4 * G → ah_ai σ (b + 127) i = V 3 i) ∧ (∀ i, i < G → ah_ai σ (b + 128) i = V 4 i) ∧ (∀ i, i < G → ah_ai σ (b + 129) i = V 5 i) ∧ ah_fi σ 608 (b + 123) = V 6 0 ∧ ah_fi σ 609 (b + 123) = V 7 0 ∧ ah_fi σ 610 (b + 123) = V 8 0
/-- what two give behind a sign -/
def sp_op (s a c : Int32) : Int32 := if s = 38 then (if a = 0 then 0 else if c = 0 then 0 else 1) else if s = 42 then a * c else if s = 43 then a + c else if s = 45 then a - c else if s = 47 then (if c = 0 then 0 else a / c) else if s = 60 then (if c ≤ a then 0 else 1) else if s = 61 then (if a = c then 1 else 0) else if s = 62 then (if a ≤ c then 0 else 1) else if s = 124 then (if a = 0 then (if c = 0 then 0 else 1) else 1) else (if c = 0 then 0 else a - a / c * c)
/-- a term of the class gives f -/
def xt_ (σ : ah_S) (b : Nat) : Nat → Nat → ((Nat → Int32) → Int32) → Prop
  | 0, _, _ => False
  | d + 1, a, f => b + 163 ≤ a ∧ a < ah_nx σ ∧ ((ah_tg σ a = 11 ∧ ∃ v, ah_fi σ 1000 a = v ∧ f = fun _ => v) ∨ (ah_tg σ a = 12 ∧ ah_fr σ 1101 a = some b ∧ ∃ j, j < 6 ∧ ah_fi σ 1100 a = Int32.ofNat j ∧ f = fun N => N j) ∨ (ah_tg σ a = 13 ∧ ∃ s c g, ah_fi σ 1200 a = s ∧ ah_fr σ 1201 a = some c ∧ xt_ σ b d c g ∧ f = fun N => if s = 33 then (if g N = 0 then 1 else 0) else -(g N)) ∨ (ah_tg σ a = 14 ∧ ∃ s l r g k, ah_fi σ 1300 a = s ∧ ah_fr σ 1301 a = some l ∧ ah_fr σ 1302 a = some r ∧ xt_ σ b d l g ∧ xt_ σ b d r k ∧ f = fun N => sp_op s (g N) (k N)))
/-- lines of the class give f -/
def xl_ (σ : ah_S) (b : Nat) : Nat → Option Nat → ((Nat → Int32) → Int32) → Prop
  | 0, _, _ => False
  | _ + 1, none, f => f = fun _ => 0
  | n + 1, some a, f => b + 163 ≤ a ∧ a < ah_nx σ ∧ ah_tg σ a = 9 ∧ ∃ c g m, ah_fr σ 801 a = some c ∧ xt_ σ b 130 c g ∧ xl_ σ b n (ah_fr σ 802 a) m ∧ ((ah_fr σ 800 a = none ∧ f = g) ∨ (∃ q u, ah_fr σ 800 a = some q ∧ xt_ σ b 130 q u ∧ f = fun N => if u N = 0 then m N else g N))
def xw_ (σ : ah_S) (b : Nat) (lw : sp_W) : Prop := (ah_fr σ 17 b = none ∧ lw = none) ∨ (∃ a f, ah_fr σ 17 b = some a ∧ lw = some f ∧ xl_ σ b 200 (some a) f)
/-! the model's steps: a pile p of n numbers -/
def ex_st (A W N : Nat → Int32) (k : Nat) (p : Nat → Int32) (n : Nat) : Option ((Nat → Int32) × Nat) :=
  if A k = 1 then (if n < 130 then some (va_up p n (W k), n + 1) else none) else
  if A k = 2 then (if n < 130 ∧ 0 ≤ W k ∧ W k < 6 then some (va_up p n (N (W k).toNatClampNeg), n + 1) else none) else
  if A k = 3 then (if 1 ≤ n then some (va_up p (n - 1) (if p (n - 1) = 0 then 1 else 0), n) else none) else
  if A k = 4 then (if 1 ≤ n then some (va_up p (n - 1) (-(p (n - 1))), n) else none) else
  (if 2 ≤ n ∧ (A k = 37 ∨ A k = 38 ∨ A k = 42 ∨ A k = 43 ∨ A k = 45 ∨ A k = 47 ∨ A k = 60 ∨ A k = 61 ∨ A k = 62 ∨ A k = 124) then some (va_up p (n - 2) (sp_op (A k) (p (n - 2)) (p (n - 1))), n - 1) else none)
def ex_rn (A W N : Nat → Int32) : Nat → Nat → (Nat → Int32) → Nat → Option ((Nat → Int32) × Nat)
  | 0, _, p, n => some (p, n)
  | j + 1, k, p, n => (ex_st A W N k p n).bind fun q => ex_rn A W N j (k + 1) q.1 q.2
/-- steps i .. j put f on the pile -/
def mc_ (A W : Nat → Int32) (i j : Nat) (f : (Nat → Int32) → Int32) : Prop := i < j ∧ ∀ N p n, n + (j - i) ≤ 130 → ∃ q, ex_rn A W N (j - i) i p n = some (q, n + 1) ∧ q n = f N ∧ ∀ m, m < n → q m = p m
def mg_ (A W T E : Nat → Int32) : Nat → Nat → Nat → ((Nat → Int32) → Int32) → Prop
  | 0, _, _, f => f = fun _ => 0
  | n + 1, l, s, f => ∃ t e g m, T l = Int32.ofNat t ∧ E l = Int32.ofNat e ∧ s ≤ t ∧ t ≤ e ∧ e ≤ 130 ∧ mc_ A W t e g ∧ mg_ A W T E n (l + 1) e m ∧ ((t = s ∧ f = g) ∨ (s < t ∧ ∃ u, mc_ A W s t u ∧ f = fun N => if u N = 0 then m N else g N))
def mw_ (σ : ah_S) (b : Nat) (lw : sp_W) : Prop := (ah_fi σ 631 (b + 123) = 0 ∧ lw = none) ∨ (ah_fi σ 631 (b + 123) = 1 ∧ ∃ f n, lw = some f ∧ n ≤ 61 ∧ ah_ai σ (b + 138) 0 = Int32.ofNat n ∧ mg_ (ah_ai σ (b + 136)) (ah_ai σ (b + 137)) (ah_ai σ (b + 139)) (ah_ai σ (b + 140)) n 0 0 f)
