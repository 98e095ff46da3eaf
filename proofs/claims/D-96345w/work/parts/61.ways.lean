/-! ===== who was there: plain counting; index G stands for nobody ===== -/
def sm_ (f : Nat → Nat) : Nat → Nat → Nat
  | 0, _ => 0
  | m + 1, p => f p + sm_ f m (p + 1)
/-- ways from a night on, in the night a of the one ag alone -/
def wy_ (V : sp_V) (G : Nat) (lw : sp_W) (u : Nat → Int32) (t M a ag : Nat) : Nat → Nat → sp_H → Nat
  | 0, _, _ => 0
  | d + 1, k, h => if k = M then 1 else sm_ (fun g => if k = a ∧ g ≠ ag then 0 else if u k = -1 ∨ u k = sp_go V G lw (Int32.ofNat g) h t then wy_ V G lw u t M a ag d (k + 1) (sp_go V G lw (Int32.ofNat g) h) else 0) (G + 1) 0
abbrev sp_Y : Type := Nat × (Nat → Nat)
def ix_ (G p : Nat) : Nat := if p = 0 then G else p - 1
def eb_ (G g : Nat) : Nat := if g = G then 7 else g
def xy_ (V : sp_V) (G : Nat) (lw : sp_W) (u : Nat → Int32) (t M : Nat) : Nat → Nat → sp_H → (Nat → Nat) → sp_Y → sp_Y
  | 0, _, _, _, y => y
  | d + 1, k, h, pa, y => if k = M then (y.1 + 1, fun i => if i < M then y.2 i ||| 2 ^ pa i else y.2 i) else lp_ (fun p y => if u k = -1 ∨ u k = sp_go V G lw (Int32.ofNat (ix_ G p)) h t then xy_ V G lw u t M d (k + 1) (sp_go V G lw (Int32.ofNat (ix_ G p)) h) (va_up pa k (eb_ G (ix_ G p))) y else y) (G + 1) 0 y
theorem sm_cg {f g : Nat → Nat} : ∀ m p, (∀ q, p ≤ q → q < p + m → f q = g q) → sm_ f m p = sm_ g m p := by
  intro m
  induction m with
  | zero => intro p _; rfl
  | succ m ih =>
    intro p hq
    unfold sm_
    rw [hq p (by omega) (by omega), ih (p + 1) (fun q h1 h2 => hq q (by omega) (by omega))]
theorem sm_pos {f : Nat → Nat} : ∀ m p, 0 < sm_ f m p ↔ ∃ q, p ≤ q ∧ q < p + m ∧ 0 < f q := by
  intro m
  induction m with
  | zero => intro p; exact ⟨fun q => absurd q (Nat.lt_irrefl 0), fun ⟨q, h1, h2, _⟩ => by omega⟩
  | succ m ih =>
    intro p
    unfold sm_
    constructor
    · intro q
      by_cases c : 0 < f p
      · exact ⟨p, by omega, by omega, c⟩
      · obtain ⟨q, h1, h2, h3⟩ := (ih (p + 1)).mp (by omega)
        exact ⟨q, by omega, by omega, h3⟩
    · rintro ⟨q, h1, h2, h3⟩
      by_cases c : q = p
      · subst c; omega
      · have := (ih (p + 1)).mpr ⟨q, by omega, by omega, h3⟩
        omega
theorem sm_last {f : Nat → Nat} : ∀ m p, sm_ f (m + 1) p = sm_ f m p + f (p + m) := by
  intro m
  induction m with
  | zero => intro p; show f p + 0 = 0 + f p; omega
  | succ m ih =>
    intro p
    show f p + sm_ f (m + 1) (p + 1) = (f p + sm_ f m (p + 1)) + f (p + (m + 1))
    rw [ih (p + 1), show p + 1 + m = p + (m + 1) by omega]; omega
theorem sm_shift {f : Nat → Nat} : ∀ m p, sm_ (fun q => f (q + 1)) m p = sm_ f m (p + 1) := by
  intro m
  induction m with
  | zero => intro p; rfl
  | succ m ih => intro p; unfold sm_; rw [ih (p + 1)]
theorem sm_ix {f : Nat → Nat} {G : Nat} : sm_ (fun p => f (ix_ G p)) (G + 1) 0 = sm_ f (G + 1) 0 := by
  rw [sm_last (f := f) G 0]
  show f (ix_ G 0) + sm_ (fun p => f (ix_ G p)) G 1 = _
  rw [← sm_shift, sm_cg (f := fun q => f (ix_ G (q + 1))) (g := f) G 0 (fun q _ _ => rfl), Nat.zero_add]
  show f G + _ = _
  omega
section
variable {V : sp_V} {G : Nat} {lw : sp_W} {u : Nat → Int32} {t M : Nat}
theorem wy_past {a ag : Nat} : ∀ d k h, a < k → k ≤ M → wy_ V G lw u t M a ag d k h = wy_ V G lw u t M M 0 d k h := by
  intro d
  induction d with
  | zero => intro k h _ _; rfl
  | succ d ih =>
    intro k h hk hkM
    unfold wy_
    by_cases e : k = M
    · rw [if_pos e, if_pos e]
    · rw [if_neg e, if_neg e]
      refine sm_cg _ _ (fun q _ _ => ?_)
      rw [if_neg (show ¬ (k = a ∧ q ≠ ag) by omega), if_neg (show ¬ (k = M ∧ q ≠ 0) by omega)]
      split
      · exact ih (k + 1) _ (by omega) (by omega)
      · rfl
theorem or_tb {n j i : Nat} : (n ||| 2 ^ j).testBit i = (n.testBit i || decide (i = j)) := by
  rw [Nat.testBit_or, Nat.testBit_two_pow]
  congr 1
  by_cases c : i = j
  · rw [decide_eq_true c, decide_eq_true c.symm]
  · rw [decide_eq_false c, decide_eq_false (fun q => c q.symm)]
/-- what the class counts -/
theorem xy_cnt : ∀ d k h pa y, k ≤ M → (xy_ V G lw u t M d k h pa y).1 = y.1 + wy_ V G lw u t M M 0 d k h := by
  intro d
  induction d with
  | zero => intro k h pa y _; rfl
  | succ d ih =>
    intro k h pa y hk
    unfold xy_ wy_
    by_cases e : k = M
    · rw [if_pos e, if_pos e]
    · rw [if_neg e, if_neg e, ← sm_ix]
      have key : ∀ m p y, (lp_ (fun p y => if u k = -1 ∨ u k = sp_go V G lw (Int32.ofNat (ix_ G p)) h t then xy_ V G lw u t M d (k + 1) (sp_go V G lw (Int32.ofNat (ix_ G p)) h) (va_up pa k (eb_ G (ix_ G p))) y else y) m p y).1 = y.1 + sm_ (fun p => if k = M ∧ ix_ G p ≠ 0 then 0 else if u k = -1 ∨ u k = sp_go V G lw (Int32.ofNat (ix_ G p)) h t then wy_ V G lw u t M M 0 d (k + 1) (sp_go V G lw (Int32.ofNat (ix_ G p)) h) else 0) m p := by
        intro m
        induction m with
        | zero => intro p y; rfl
        | succ m ihm =>
          intro p y
          unfold lp_ sm_
          rw [ihm (p + 1), if_neg (show ¬ (k = M ∧ ix_ G p ≠ 0) from fun q => e q.1)]
          by_cases c : u k = -1 ∨ u k = sp_go V G lw (Int32.ofNat (ix_ G p)) h t
          · rw [if_pos c, if_pos c, ih (k + 1) _ _ _ (by omega)]; omega
          · rw [if_neg c, if_neg c]; omega
      exact key (G + 1) 0 y
/-- whom the class sets -/
theorem xy_set {i j : Nat} (hi : i < M) (hG : G ≤ 7) : ∀ d k h pa y, k ≤ M → M - k < d → (((xy_ V G lw u t M d k h pa y).2 i).testBit j = true ↔ (y.2 i).testBit j = true ∨ (i < k ∧ 0 < wy_ V G lw u t M M 0 d k h ∧ j = pa i) ∨ (k ≤ i ∧ ∃ g, g ≤ G ∧ j = eb_ G g ∧ 0 < wy_ V G lw u t M i g d k h)) := by
  intro d
  induction d with
  | zero => intro k h pa y hk hd; omega
  | succ d ih =>
    intro k h pa y hk hd
    unfold xy_
    by_cases e : k = M
    · rw [if_pos e]
      show ((if i < M then y.2 i ||| 2 ^ pa i else y.2 i).testBit j = true) ↔ _
      rw [if_pos hi, or_tb, Bool.or_eq_true, decide_eq_true_eq]
      constructor
      · rintro (q | q)
        · exact Or.inl q
        · refine Or.inr (Or.inl ⟨by omega, ?_, q⟩)
          unfold wy_; rw [if_pos e]; exact Nat.one_pos
      · rintro (q | ⟨-, -, q⟩ | ⟨q, -⟩)
        · exact Or.inl q
        · exact Or.inr q
        · omega
    · rw [if_neg e]
      have key : ∀ m p y, p + m = G + 1 → (((lp_ (fun p y => if u k = -1 ∨ u k = sp_go V G lw (Int32.ofNat (ix_ G p)) h t then xy_ V G lw u t M d (k + 1) (sp_go V G lw (Int32.ofNat (ix_ G p)) h) (va_up pa k (eb_ G (ix_ G p))) y else y) m p y).2 i).testBit j = true ↔ (y.2 i).testBit j = true ∨ ∃ q, p ≤ q ∧ q < p + m ∧ (u k = -1 ∨ u k = sp_go V G lw (Int32.ofNat (ix_ G q)) h t) ∧ ((i < k + 1 ∧ 0 < wy_ V G lw u t M M 0 d (k + 1) (sp_go V G lw (Int32.ofNat (ix_ G q)) h) ∧ j = va_up pa k (eb_ G (ix_ G q)) i) ∨ (k + 1 ≤ i ∧ ∃ g, g ≤ G ∧ j = eb_ G g ∧ 0 < wy_ V G lw u t M i g d (k + 1) (sp_go V G lw (Int32.ofNat (ix_ G q)) h)))) := by
        intro m
        induction m with
        | zero =>
          intro p y _
          exact ⟨fun q => Or.inl q, fun q => q.elim id (fun ⟨q, h1, h2, _⟩ => absurd h2 (by omega))⟩
        | succ m ihm =>
          intro p y hp
          unfold lp_
          rw [ihm (p + 1) _ (by omega)]
          by_cases c : u k = -1 ∨ u k = sp_go V G lw (Int32.ofNat (ix_ G p)) h t
          · rw [if_pos c, ih (k + 1) _ _ _ (by omega) (by omega)]
            constructor
            · rintro ((q | q) | ⟨q, h1, h2, h3⟩)
              · exact Or.inl q
              · exact Or.inr ⟨p, by omega, by omega, c, q⟩
              · exact Or.inr ⟨q, by omega, by omega, h3⟩
            · rintro (q | ⟨q, h1, h2, h3, h4⟩)
              · exact Or.inl (Or.inl q)
              · by_cases z : q = p
                · subst z; exact Or.inl (Or.inr h4)
                · exact Or.inr ⟨q, by omega, by omega, h3, h4⟩
          · rw [if_neg c]
            constructor
            · rintro (q | ⟨q, h1, h2, h3⟩)
              · exact Or.inl q
              · exact Or.inr ⟨q, by omega, by omega, h3⟩
            · rintro (q | ⟨q, h1, h2, h3, h4⟩)
              · exact Or.inl q
              · by_cases z : q = p
                · subst z; exact absurd h3 c
                · exact Or.inr ⟨q, by omega, by omega, h3, h4⟩
      rw [key (G + 1) 0 y (by omega)]
      have ixle : ∀ q, q < G + 1 → ix_ G q ≤ G := fun q hq => by unfold ix_; split <;> omega
      have ixs : ∀ g, g ≤ G → ∃ q, q < 0 + (G + 1) ∧ ix_ G q = g := fun g hg => by
        by_cases z : g = G
        · exact ⟨0, by omega, by unfold ix_; rw [if_pos rfl, z]⟩
        · exact ⟨g + 1, by omega, by unfold ix_; rw [if_neg (by omega)]; omega⟩
      constructor
      · rintro (q | ⟨q, h1, h2, h3, h4⟩)
        · exact Or.inl q
        · right
          rcases h4 with ⟨h4, h5, h6⟩ | ⟨h4, g, h5, h6, h7⟩
          · unfold va_up at h6
            by_cases z : i = k
            · right
              rw [if_pos z] at h6
              refine ⟨by omega, ix_ G q, ixle q (by omega), h6, ?_⟩
              unfold wy_
              rw [if_neg e, sm_pos]
              refine ⟨ix_ G q, by omega, by have := ixle q (by omega); omega, ?_⟩
              rw [if_neg (by simp), if_pos h3, wy_past _ _ _ (by omega) (by omega)]
              exact h5
            · left
              rw [if_neg z] at h6
              refine ⟨by omega, ?_, h6⟩
              unfold wy_
              rw [if_neg e, sm_pos]
              exact ⟨ix_ G q, by omega, by have := ixle q (by omega); omega, by rw [if_neg (fun z => e z.1), if_pos h3]; exact h5⟩
          · right
            refine ⟨by omega, g, h5, h6, ?_⟩
            unfold wy_
            rw [if_neg e, sm_pos]
            exact ⟨ix_ G q, by omega, by have := ixle q (by omega); omega, by rw [if_neg (by omega), if_pos h3]; exact h7⟩
      · rintro (q | ⟨h1, h2, h3⟩ | ⟨h1, g, h2, h3, h4⟩)
        · exact Or.inl q
        · right
          unfold wy_ at h2
          rw [if_neg e, sm_pos] at h2
          obtain ⟨g, -, g2, g3⟩ := h2
          rw [if_neg (fun z => e z.1)] at g3
          by_cases c : u k = -1 ∨ u k = sp_go V G lw (Int32.ofNat g) h t
          · rw [if_pos c] at g3
            obtain ⟨q, q1, q2⟩ := ixs g (by omega)
            refine ⟨q, by omega, q1, by rw [q2]; exact c, Or.inl ⟨by omega, by rw [q2]; exact g3, ?_⟩⟩
            unfold va_up; rw [if_neg (by omega)]; exact h3
          · rw [if_neg c] at g3; omega
        · right
          unfold wy_ at h4
          rw [if_neg e, sm_pos] at h4
          obtain ⟨g', -, g2, g3⟩ := h4
          by_cases cn : k = i ∧ g' ≠ g
          · rw [if_pos cn] at g3; omega
          rw [if_neg cn] at g3
          by_cases c : u k = -1 ∨ u k = sp_go V G lw (Int32.ofNat g') h t
          · rw [if_pos c] at g3
            obtain ⟨q, q1, q2⟩ := ixs g' (by omega)
            refine ⟨q, by omega, q1, by rw [q2]; exact c, ?_⟩
            rw [q2]
            by_cases z : k = i
            · left
              refine ⟨by omega, ?_, ?_⟩
              · rw [wy_past _ _ _ (by omega) (by omega)] at g3; exact g3
              · unfold va_up
                rw [if_pos z.symm, h3]
                congr 1
                by_cases w : g' = g
                · exact w.symm
                · exact absurd ⟨z, w⟩ cn
            · exact Or.inr ⟨by omega, g, h2, h3, g3⟩
          · rw [if_neg c] at g3; omega
end
