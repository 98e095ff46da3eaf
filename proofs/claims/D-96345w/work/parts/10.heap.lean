/-! ===== the abstract heap: what the methods' cells hold; `none` of an operation: the machine would go wrong there ===== -/
/-- ((next address, cells left, slots left), (tag, length), int fields, ref fields, int-like array elements, long elements, ref elements) -/
abbrev ah_S : Type := (Nat × Nat × Nat) × ((Nat → Nat) × (Nat → Nat)) × (Nat → Nat → Int32) × (Nat → Nat → Option Nat) × (Nat → Nat → Int32) × (Nat → Nat → Int64) × (Nat → Nat → Option Nat)
def ah_nx (σ : ah_S) : Nat := σ.1.1
def ah_rc (σ : ah_S) : Nat := σ.1.2.1
def ah_rs (σ : ah_S) : Nat := σ.1.2.2
def ah_tg (σ : ah_S) : Nat → Nat := σ.2.1.1
def ah_ln (σ : ah_S) : Nat → Nat := σ.2.1.2
def ah_fi (σ : ah_S) : Nat → Nat → Int32 := σ.2.2.1
def ah_fr (σ : ah_S) : Nat → Nat → Option Nat := σ.2.2.2.1
def ah_ai (σ : ah_S) : Nat → Nat → Int32 := σ.2.2.2.2.1
def ah_al (σ : ah_S) : Nat → Nat → Int64 := σ.2.2.2.2.2.1
def ah_ar (σ : ah_S) : Nat → Nat → Option Nat := σ.2.2.2.2.2.2
def ah_u2 {α : Type} (g : Nat → Nat → α) (f a : Nat) (v : α) : Nat → Nat → α := fun f' a' => if f' = f then (if a' = a then v else g f' a') else g f' a'
def ah_sI (σ : ah_S) (f a : Nat) (v : Int32) : ah_S := (σ.1, σ.2.1, ah_u2 (ah_fi σ) f a v, σ.2.2.2)
def ah_sR (σ : ah_S) (f a : Nat) (v : Option Nat) : ah_S := (σ.1, σ.2.1, σ.2.2.1, ah_u2 (ah_fr σ) f a v, σ.2.2.2.2)
def ah_sA (σ : ah_S) (a i : Nat) (v : Int32) : ah_S := (σ.1, σ.2.1, σ.2.2.1, σ.2.2.2.1, ah_u2 (ah_ai σ) a i v, σ.2.2.2.2.2)
def ah_sL (σ : ah_S) (a i : Nat) (v : Int64) : ah_S := (σ.1, σ.2.1, σ.2.2.1, σ.2.2.2.1, σ.2.2.2.2.1, ah_u2 (ah_al σ) a i v, σ.2.2.2.2.2.2)
def ah_sQ (σ : ah_S) (a i : Nat) (v : Option Nat) : ah_S := (σ.1, σ.2.1, σ.2.2.1, σ.2.2.2.1, σ.2.2.2.2.1, σ.2.2.2.2.2.1, ah_u2 (ah_ar σ) a i v)
/-- a new cell of tag t, with n slots: object fields and elements all zero or null -/
def ah_new (σ : ah_S) (t n : Nat) : ah_S :=
  ((ah_nx σ + 1, ah_rc σ - 1, ah_rs σ - n), (va_up (ah_tg σ) (ah_nx σ) t, va_up (ah_ln σ) (ah_nx σ) n), (fun f a => if a = ah_nx σ then 0 else ah_fi σ f a), (fun f a => if a = ah_nx σ then none else ah_fr σ f a),
    va_up (ah_ai σ) (ah_nx σ) (fun _ => 0), va_up (ah_al σ) (ah_nx σ) (fun _ => 0), va_up (ah_ar σ) (ah_nx σ) (fun _ => none))
/-- elements of one array laid into another (or the same) -/
def ah_cpI (σ : ah_S) (a sp b dp n : Nat) : ah_S := (σ.1, σ.2.1, σ.2.2.1, σ.2.2.2.1, va_up (ah_ai σ) b (va_cpy (ah_ai σ a) (ah_ai σ b) sp dp n), σ.2.2.2.2.2)
def ah_cpL (σ : ah_S) (a sp b dp n : Nat) : ah_S := (σ.1, σ.2.1, σ.2.2.1, σ.2.2.2.1, σ.2.2.2.2.1, va_up (ah_al σ) b (va_cpy (ah_al σ a) (ah_al σ b) sp dp n), σ.2.2.2.2.2.2)
/-! tags: a class's number + 1; 101 int[], 102 byte[], 103 short[], 104 long[], 105 boolean[], 111.. arrays of references.
field ids: 100 times the number of the declaring class + place -/
/-- class d is class c or below it -/
def ah_sub (c d : Nat) : Bool := (d == c) || (c == 14 && decide (15 ≤ d) && decide (d ≤ 21)) || (c == 15 && d == 18) || (c == 16 && (d == 17 || d == 19)) || (c == 17 && d == 19) || (c == 20 && d == 21)
/-- an object of tag t has the field f -/
def ah_hf (f t : Nat) : Bool := decide (1 ≤ t) && ah_sub (f / 100) (t - 1)
def ah_inb (i : Int32) (n : Nat) : Bool := !(decide (i < 0)) && decide (i.toNatClampNeg < n)
def ah_gI (σ : ah_S) (f : Nat) (r : Option Nat) : Option Int32 := r.bind fun a => if ah_hf f (ah_tg σ a) = true then some (ah_fi σ f a) else none
def ah_gR (σ : ah_S) (f : Nat) (r : Option Nat) : Option (Option Nat) := r.bind fun a => if ah_hf f (ah_tg σ a) = true then some (ah_fr σ f a) else none
def ah_pI (σ : ah_S) (f : Nat) (r : Option Nat) (v : Int32) : Option ah_S := r.bind fun a => if ah_hf f (ah_tg σ a) = true then some (ah_sI σ f a v) else none
def ah_pZ (σ : ah_S) (f : Nat) (r : Option Nat) (v : Int32) : Option ah_S := r.bind fun a => if (ah_hf f (ah_tg σ a) && (v == 0 || v == 1)) = true then some (ah_sI σ f a v) else none
def ah_pR (σ : ah_S) (f : Nat) (r v : Option Nat) : Option ah_S := r.bind fun a => if ah_hf f (ah_tg σ a) = true then some (ah_sR σ f a v) else none
def ah_lA (σ : ah_S) (t : Nat) (r : Option Nat) (i : Int32) : Option Int32 := r.bind fun a => if (ah_tg σ a == t && ah_inb i (ah_ln σ a)) = true then some (ah_ai σ a i.toNatClampNeg) else none
def ah_lL (σ : ah_S) (r : Option Nat) (i : Int32) : Option Int64 := r.bind fun a => if (ah_tg σ a == 104 && ah_inb i (ah_ln σ a)) = true then some (ah_al σ a i.toNatClampNeg) else none
def ah_lQ (σ : ah_S) (t : Nat) (r : Option Nat) (i : Int32) : Option (Option Nat) := r.bind fun a => if (ah_tg σ a == t && ah_inb i (ah_ln σ a)) = true then some (ah_ar σ a i.toNatClampNeg) else none
def ah_wA (σ : ah_S) (t : Nat) (r : Option Nat) (i v : Int32) : Option ah_S := r.bind fun a => if (ah_tg σ a == t && ah_inb i (ah_ln σ a)) = true then some (ah_sA σ a i.toNatClampNeg v) else none
def ah_wL (σ : ah_S) (r : Option Nat) (i : Int32) (v : Int64) : Option ah_S := r.bind fun a => if (ah_tg σ a == 104 && ah_inb i (ah_ln σ a)) = true then some (ah_sL σ a i.toNatClampNeg v) else none
/-- what an array of references of tag t takes: null, or an object of its class -/
def ah_tk (t u : Nat) : Bool := match t with
  | 111 => u == 6
  | 112 => u == 8
  | 113 => u == 3
  | 114 => u == 5
  | 115 => decide (15 ≤ u) && decide (u ≤ 22)
  | 116 => (decide (15 ≤ u) && decide (u ≤ 22)) || (decide (101 ≤ u) && decide (u ≤ 105))
  | _ => false
def ah_wQ (σ : ah_S) (t : Nat) (r : Option Nat) (i : Int32) (v : Option Nat) : Option ah_S := r.bind fun a => if (ah_tg σ a == t && ah_inb i (ah_ln σ a) && (match v with | none => true | some b => ah_tk t (ah_tg σ b))) = true then some (ah_sQ σ a i.toNatClampNeg v) else none
/-- an array's length -/
def ah_al_ (σ : ah_S) (r : Option Nat) : Option Int32 := r.bind fun a => if ((decide (101 ≤ ah_tg σ a) && decide (ah_tg σ a ≤ 105)) || (decide (111 ≤ ah_tg σ a) && decide (ah_tg σ a ≤ 116))) = true then some (Int32.ofNat (ah_ln σ a)) else none
/-- a new object of tag t with n slots; its address is the state's next one -/
def ah_mO (σ : ah_S) (t n : Nat) : Option ah_S := if (decide (1 ≤ ah_rc σ) && decide (n ≤ ah_rs σ)) = true then some (ah_new σ t n) else none
def ah_mA (σ : ah_S) (t : Nat) (n : Int32) : Option ah_S := if (!(decide (n < 0)) && decide (n.toNatClampNeg * 8 ≤ 536870912) && decide (1 ≤ ah_rc σ) && decide (n.toNatClampNeg ≤ ah_rs σ)) = true then some (ah_new σ t n.toNatClampNeg) else none
/-- the reference is an object of tag t -/
def ah_is (σ : ah_S) (t : Nat) (r : Option Nat) : Option Unit := r.bind fun a => if ah_tg σ a = t then some () else none
/-- System.arraycopy between arrays of one primitive type -/
def ah_cp (σ : ah_S) (r : Option Nat) (i : Int32) (q : Option Nat) (j n : Int32) : Option ah_S := r.bind fun a => q.bind fun b =>
  if (ah_tg σ a == ah_tg σ b && decide (101 ≤ ah_tg σ a) && decide (ah_tg σ a ≤ 105) && !(decide (i < 0)) && !(decide (j < 0)) && !(decide (n < 0)) && decide (i.toNatClampNeg + n.toNatClampNeg ≤ ah_ln σ a) && decide (j.toNatClampNeg + n.toNatClampNeg ≤ ah_ln σ b)) = true then
    some (if ah_tg σ a = 104 then ah_cpL σ a i.toNatClampNeg b j.toNatClampNeg n.toNatClampNeg else ah_cpI σ a i.toNatClampNeg b j.toNatClampNeg n.toNatClampNeg) else none
def ah_di (x y : Int32) : Option Int32 := if y = 0 then none else some (x / y)
def ah_re (x y : Int32) : Option Int32 := if y = 0 then none else some (x - x / y * y)
def ah_ldi (x y : Int64) : Option Int64 := if y = 0 then none else some (x / y)
def ah_lre (x y : Int64) : Option Int64 := if y = 0 then none else some (x - x / y * y)
/-- an answer of a boolean method -/
def ah_z (v : Int32) : Option Int32 := if (v == 0 || v == 1) = true then some v else none
/-- the later state has no fewer cells, no more room, and old cells are the old ones -/
def ah_Le (σ τ : ah_S) : Prop := ah_nx σ ≤ ah_nx τ ∧ ah_rc τ ≤ ah_rc σ ∧ ah_rs τ ≤ ah_rs σ ∧ ∀ a, ah_tg τ a ≠ 0 → ah_tg σ a ≠ 0 ∨ ah_nx σ ≤ a
theorem ah_Le.refl (σ : ah_S) : ah_Le σ σ := ⟨Nat.le_refl _, Nat.le_refl _, Nat.le_refl _, fun _ h => Or.inl h⟩
theorem ah_Le.trans {σ τ υ : ah_S} (h : ah_Le σ τ) (k : ah_Le τ υ) : ah_Le σ υ := ⟨Nat.le_trans h.1 k.1, Nat.le_trans k.2.1 h.2.1, Nat.le_trans k.2.2.1 h.2.2.1, fun a ha => by
  rcases k.2.2.2 a ha with q | q
  · exact h.2.2.2 a q
  · exact Or.inr (Nat.le_trans h.1 q)⟩
theorem ah_bs {α β : Type} {o : Option α} {f : α → Option β} {r : β} (h : o.bind f = some r) : ∃ v, o = some v ∧ f v = some r := by
  cases o with
  | none => cases h
  | some v => exact ⟨v, rfl, h⟩
theorem ah_ip {α : Type} {c : Prop} [Decidable c] {A B : Option α} {r : α} (hc : c) (h : (if c then A else B) = some r) : A = some r := by rw [if_pos hc] at h; exact h
theorem ah_in_ {α : Type} {c : Prop} [Decidable c] {A B : Option α} {r : α} (hc : ¬ c) (h : (if c then A else B) = some r) : B = some r := by rw [if_neg hc] at h; exact h
theorem ah_ifs {α : Type} {c : Prop} [Decidable c] {A : α} {r : α} (h : (if c then some A else none) = some r) : c ∧ A = r := by
  by_cases hc : c
  · rw [if_pos hc] at h; exact ⟨hc, Option.some.inj h⟩
  · rw [if_neg hc] at h; cases h
theorem ah_inb_in {i : Int32} {n : Nat} (h : ah_inb i n = true) : vp_in i n := by
  simp only [ah_inb, Bool.and_eq_true, Bool.not_eq_true', decide_eq_false_iff_not, decide_eq_true_eq] at h
  intro q
  rcases q with q | q
  · exact h.1 q
  · omega
theorem ah_inb_lt {i : Int32} {n : Nat} (h : ah_inb i n = true) : i.toNatClampNeg < n := by
  simp only [ah_inb, Bool.and_eq_true, decide_eq_true_eq] at h
  exact h.2
/-- checkcast to the array type of tag t; to Body -/
def ah_ca (σ : ah_S) (t : Nat) (r : Option Nat) : Option Unit := match r with
  | none => some ()
  | some a => if ah_tg σ a = t then some () else none
def ah_cb (σ : ah_S) (r : Option Nat) : Option Unit := match r with
  | none => some ()
  | some a => if (decide (15 ≤ ah_tg σ a) && decide (ah_tg σ a ≤ 22)) = true then some () else none
/-- instanceof the array type of tag t; of Body -/
def ah_io (σ : ah_S) (t : Nat) (r : Option Nat) : Option Int32 := match r with
  | none => some 0
  | some a => if ah_tg σ a = t then some 1 else if ((decide (15 ≤ ah_tg σ a) && decide (ah_tg σ a ≤ 22)) || (decide (101 ≤ ah_tg σ a) && decide (ah_tg σ a ≤ 105))) = true then some 0 else none
def ah_ib (σ : ah_S) (r : Option Nat) : Option Int32 := match r with
  | none => some 0
  | some a => if (decide (15 ≤ ah_tg σ a) && decide (ah_tg σ a ≤ 22)) = true then some 1 else if (decide (101 ≤ ah_tg σ a) && decide (ah_tg σ a ≤ 105)) = true then some 0 else none
/-- behind a call that answers -/
def ah_b2 {α β : Type} (o : Option (α × ah_S)) (f : α → ah_S → Option β) : Option β := match o with
  | none => none
  | some (v, σ) => f v σ
theorem ah_bs2 {α β : Type} {o : Option (α × ah_S)} {f : α → ah_S → Option β} {r : β} (h : ah_b2 o f = some r) : ∃ v σ, o = some (v, σ) ∧ f v σ = some r := by
  cases o with
  | none => cases h
  | some p => exact ⟨p.1, p.2, rfl, h⟩
/-- a Fault or a Torn -/
def ah_iu (σ : ah_S) (r : Option Nat) : Option Unit := r.bind fun a => if (ah_tg σ a == 2 || ah_tg σ a == 4) = true then some () else none
theorem ah_iu_a {σ : ah_S} {r : Option Nat} {u : Unit} (h : ah_iu σ r = some u) : ∃ a, r = some a ∧ (ah_tg σ a = 2 ∨ ah_tg σ a = 4) := by
  obtain ⟨a, e, h2⟩ := ah_bs h
  have h3 := (ah_ifs h2).1
  exact ⟨a, e, by simpa using h3⟩
