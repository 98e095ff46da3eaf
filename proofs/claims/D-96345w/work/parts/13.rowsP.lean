/-! ===== rows without the heap ===== -/
theorem ah_lv.at {ls : Array Slot} {nL : Nat} {L : List (Option Value)} (h : ah_lv ls nL L) {i : Nat} {v : Value} (hi : L[i]? = some (some v)) : ls[i]? = some (.val v) := h.2.2 i v hi
/-- what is known of the locals as a list of pairs -/
def ah_as (L : List (Option Value)) : List (Nat × Value) := (List.range L.length).filterMap (fun i => (L.getD i none).map (fun v => (i, v)))
theorem ah_as_mem {L : List (Option Value)} {i : Nat} {v : Value} (h : L[i]? = some (some v)) : (i, v) ∈ ah_as L := by
  have hi := (List.getElem?_eq_some_iff.mp h).1
  refine List.mem_filterMap.mpr ⟨i, List.mem_range.mpr hi, ?_⟩
  simp [List.getD, h]
theorem ah_as_of {L : List (Option Value)} {q : Nat × Value} (h : q ∈ ah_as L) : L[q.1]? = some (some q.2) := by
  obtain ⟨i, hi, h2⟩ := List.mem_filterMap.mp h
  have hl := List.mem_range.mp hi
  cases e : L.getD i none with
  | none => rw [e] at h2; cases h2
  | some v =>
    rw [e] at h2
    have : (i, v) = q := Option.some.inj h2
    subst this
    simp only [List.getD, List.getElem?_eq_getElem hl, Option.getD_some] at e
    simp [List.getElem?_eq_getElem hl, e]
theorem ah_lv.has {ls : Array Slot} {nL : Nat} {L : List (Option Value)} (h : ah_lv ls nL L) : lv_has ls nL (ah_as L) := ⟨h.1, h.2.1, fun q hq => h.2.2 q.1 q.2 (ah_as_of hq)⟩
def ah_okp (o : Option (Option Value)) : Prop := ∀ w, o = some (some w) → w.category = 1
theorem ah_okp_n : ah_okp none := fun w h => by cases h
theorem ah_okp_u : ah_okp (some none) := fun w h => by cases h
theorem ah_okp_i (x : Int32) : ah_okp (some (some (.int x))) := fun w h => by cases h; rfl
theorem ah_rf_cat (r : Option Nat) : (va_rf r).category = 1 := by cases r <;> rfl
theorem ah_cat_i (x : Int32) : (Value.int x).category = 1 := rfl
theorem ah_cat_l (x : Int64) : (Value.long x).category = 2 := rfl
theorem ah_okp_r (r : Option Nat) : ah_okp (some (some (va_rf r))) := fun w h => by cases h; exact ah_rf_cat r
def ah_pv (L : List (Option Value)) (i : Nat) : Option (Option Value) := match i with
  | 0 => none
  | j + 1 => L[j]?
theorem ah_lv.set1 {ls' : Array Slot} {nL i : Nat} {L L' : List (Option Value)} {x : Value} (h : lv_has ls' nL ((i, x) :: (ah_as L).filter (fun q => !(q.1 == i) && !(q.1 + 1 == i && q.2.category == 2)))) (hL : L.set i (some x) = L') (ho : ah_okp (ah_pv L i)) : ah_lv ls' nL L' := by
  refine ⟨h.1, h.2.1, fun j w hj => ?_⟩
  subst hL
  by_cases e : j = i
  · subst e
    have : w = x := by
      rw [List.getElem?_set] at hj
      simp at hj
      exact hj.2.symm
    subst this
    exact h.2.2 (j, w) List.mem_cons_self
  · rw [List.getElem?_set_ne (Ne.symm e)] at hj
    refine h.2.2 (j, w) (List.mem_cons_of_mem _ (List.mem_filter.mpr ⟨ah_as_mem hj, ?_⟩))
    have h2 : j + 1 = i → w.category = 1 := by
      intro e2
      subst e2
      exact ho w hj
    by_cases e2 : j + 1 = i
    · simp [e, h2 e2]
    · simp [e, e2]
theorem ah_lv.set2 {ls' : Array Slot} {nL i : Nat} {L L' : List (Option Value)} {x : Value} (h : lv_has ls' nL ((i, x) :: (ah_as L).filter (fun q => !(q.1 == i) && (!(q.1 == i + 1) && !(q.1 + 1 == i && q.2.category == 2))))) (hL : (L.set i (some x)).set (i + 1) none = L') (ho : ah_okp (ah_pv L i)) : ah_lv ls' nL L' := by
  refine ⟨h.1, h.2.1, fun j w hj => ?_⟩
  subst hL
  have e1 : j ≠ i + 1 := by
    intro e
    subst e
    rw [List.getElem?_set] at hj
    simp at hj
  rw [List.getElem?_set_ne (Ne.symm e1)] at hj
  by_cases e : j = i
  · subst e
    have : w = x := by
      rw [List.getElem?_set] at hj
      simp at hj
      exact hj.2.symm
    subst this
    exact h.2.2 (j, w) List.mem_cons_self
  · rw [List.getElem?_set_ne (Ne.symm e)] at hj
    refine h.2.2 (j, w) (List.mem_cons_of_mem _ (List.mem_filter.mpr ⟨ah_as_mem hj, ?_⟩))
    have h2 : j + 1 = i → w.category = 1 := by
      intro e2
      subst e2
      exact ho w hj
    by_cases e2 : j + 1 = i
    · simp [e, e1, h2 e2]
    · simp [e, e1, e2]
/-- fewer locals -/
def ah_ls (L L' : List (Option Value)) : Prop := ∀ (i : Nat) (v : Value), L'[i]? = some (some v) → L[i]? = some (some v)
theorem ah_ls_0 {L : List (Option Value)} : ah_ls L [] := fun i v h => by simp at h
theorem ah_ls_s {L L' : List (Option Value)} {x : Option Value} (h : ah_ls L L') : ah_ls (x :: L) (x :: L') := fun i v hi => by
  cases i with
  | zero => simpa using hi
  | succ i => simp only [List.getElem?_cons_succ] at hi ⊢; exact h i v hi
theorem ah_ls_n {L L' : List (Option Value)} {x : Option Value} (h : ah_ls L L') : ah_ls (x :: L) (none :: L') := fun i v hi => by
  cases i with
  | zero => simp at hi
  | succ i => simp only [List.getElem?_cons_succ] at hi ⊢; exact h i v hi
section
variable {κ : ah_C} {μ : ah_M} {cc : ByteArray} {σ : ah_S} {pc pc' : Nat} {L L' : List (Option Value)} {st : List Value}
theorem ro_weak (hL : ah_ls L L') (k : ah_G κ μ cc σ pc L' st) : ah_G κ μ cc σ pc L st := fun ok le H locs ls hH hS hl => k ok le H locs ls hH hS ⟨hl.1, hl.2.1, fun i v h => hl.2.2 i v (hL i v h)⟩
theorem ro_iconst {n : Int} {v : Int32} (hd : decode cc pc = .ok (.iconst n, 1)) (hv : Int32.ofInt n = v) (hp : pc + 1 = pc') (k : ah_G κ μ cc σ pc' L (.int v :: st)) : ah_G κ μ cc σ pc L st := by
  subst hp
  intro ok le H locs ls hH hS hl
  obtain ⟨p, l, e, R, s, m, args, below, meth, c, D, σ0, res⟩ := κ
  obtain ⟨own, nm, nL, ret, hh, fr, lo⟩ := μ
  obtain ⟨hx, hb, hml, hown, hts, hK, hr, hlk, hR, hsz, hnm, hex⟩ := id ok
  exact lv_iconst hx hb hd hv (k ok le H locs ls hH hS hl)
theorem ro_bipush {n : Int} {v : Int32} (hd : decode cc pc = .ok (.bipush n, 2)) (hv : (Int8.ofInt n).toInt32 = v) (hp : pc + 2 = pc') (k : ah_G κ μ cc σ pc' L (.int v :: st)) : ah_G κ μ cc σ pc L st := by
  subst hp
  intro ok le H locs ls hH hS hl
  obtain ⟨p, l, e, R, s, m, args, below, meth, c, D, σ0, res⟩ := κ
  obtain ⟨own, nm, nL, ret, hh, fr, lo⟩ := μ
  obtain ⟨hx, hb, hml, hown, hts, hK, hr, hlk, hR, hsz, hnm, hex⟩ := id ok
  exact lv_bipush hx hb hd hv (k ok le H locs ls hH hS hl)
theorem ro_sipush {n : Int} {v : Int32} (hd : decode cc pc = .ok (.sipush n, 3)) (hv : (Int16.ofInt n).toInt32 = v) (hp : pc + 3 = pc') (k : ah_G κ μ cc σ pc' L (.int v :: st)) : ah_G κ μ cc σ pc L st := by
  subst hp
  intro ok le H locs ls hH hS hl
  obtain ⟨p, l, e, R, s, m, args, below, meth, c, D, σ0, res⟩ := κ
  obtain ⟨own, nm, nL, ret, hh, fr, lo⟩ := μ
  obtain ⟨hx, hb, hml, hown, hts, hK, hr, hlk, hR, hsz, hnm, hex⟩ := id ok
  exact lv_sipush hx hb hd hv (k ok le H locs ls hH hS hl)
theorem ro_lconst {n : Fin 2} {v : Int64} (hd : decode cc pc = .ok (.lconst n, 1)) (hv : Int64.ofNat (n : Nat) = v) (hp : pc + 1 = pc') (k : ah_G κ μ cc σ pc' L (.long v :: st)) : ah_G κ μ cc σ pc L st := by
  subst hp
  intro ok le H locs ls hH hS hl
  obtain ⟨p, l, e, R, s, m, args, below, meth, c, D, σ0, res⟩ := κ
  obtain ⟨own, nm, nL, ret, hh, fr, lo⟩ := μ
  obtain ⟨hx, hb, hml, hown, hts, hK, hr, hlk, hR, hsz, hnm, hex⟩ := id ok
  exact lv_lconst hx hb hd hv (k ok le H locs ls hH hS hl)
theorem ro_iload_n {n : Fin 4} {i : Nat} {x : Int32} (hd : decode cc pc = .ok (.iload_n n, 1)) (hi : (n : Nat) = i) (hL : L[i]? = some (some (.int x))) (hp : pc + 1 = pc') (k : ah_G κ μ cc σ pc' L (.int x :: st)) : ah_G κ μ cc σ pc L st := by
  subst hp
  intro ok le H locs ls hH hS hl
  obtain ⟨p, l, e, R, s, m, args, below, meth, c, D, σ0, res⟩ := κ
  obtain ⟨own, nm, nL, ret, hh, fr, lo⟩ := μ
  obtain ⟨hx, hb, hml, hown, hts, hK, hr, hlk, hR, hsz, hnm, hex⟩ := id ok
  exact lv_iload_n hx hb hd hi (hl.at hL) (k ok le H locs ls hH hS hl)
theorem ro_iload {i : Nat} {x : Int32} (hd : decode cc pc = .ok (.iload i, 2)) (hL : L[i]? = some (some (.int x))) (hp : pc + 2 = pc') (k : ah_G κ μ cc σ pc' L (.int x :: st)) : ah_G κ μ cc σ pc L st := by
  subst hp
  intro ok le H locs ls hH hS hl
  obtain ⟨p, l, e, R, s, m, args, below, meth, c, D, σ0, res⟩ := κ
  obtain ⟨own, nm, nL, ret, hh, fr, lo⟩ := μ
  obtain ⟨hx, hb, hml, hown, hts, hK, hr, hlk, hR, hsz, hnm, hex⟩ := id ok
  exact lv_iload hx hb hd (hl.at hL) (k ok le H locs ls hH hS hl)
theorem ro_lload_n {n : Fin 4} {i : Nat} {x : Int64} (hd : decode cc pc = .ok (.lload_n n, 1)) (hi : (n : Nat) = i) (hL : L[i]? = some (some (.long x))) (hp : pc + 1 = pc') (k : ah_G κ μ cc σ pc' L (.long x :: st)) : ah_G κ μ cc σ pc L st := by
  subst hp
  intro ok le H locs ls hH hS hl
  obtain ⟨p, l, e, R, s, m, args, below, meth, c, D, σ0, res⟩ := κ
  obtain ⟨own, nm, nL, ret, hh, fr, lo⟩ := μ
  obtain ⟨hx, hb, hml, hown, hts, hK, hr, hlk, hR, hsz, hnm, hex⟩ := id ok
  exact lv_lload_n hx hb hd hi (hl.at hL) (k ok le H locs ls hH hS hl)
theorem ro_lload {i : Nat} {x : Int64} (hd : decode cc pc = .ok (.lload i, 2)) (hL : L[i]? = some (some (.long x))) (hp : pc + 2 = pc') (k : ah_G κ μ cc σ pc' L (.long x :: st)) : ah_G κ μ cc σ pc L st := by
  subst hp
  intro ok le H locs ls hH hS hl
  obtain ⟨p, l, e, R, s, m, args, below, meth, c, D, σ0, res⟩ := κ
  obtain ⟨own, nm, nL, ret, hh, fr, lo⟩ := μ
  obtain ⟨hx, hb, hml, hown, hts, hK, hr, hlk, hR, hsz, hnm, hex⟩ := id ok
  exact lv_lload hx hb hd (hl.at hL) (k ok le H locs ls hH hS hl)
theorem ro_aload_n {n : Fin 4} {i : Nat} {r : Option Nat} (hd : decode cc pc = .ok (.aload_n n, 1)) (hi : (n : Nat) = i) (hL : L[i]? = some (some (va_rf r))) (hp : pc + 1 = pc') (k : ah_G κ μ cc σ pc' L (va_rf r :: st)) : ah_G κ μ cc σ pc L st := by
  subst hp
  intro ok le H locs ls hH hS hl
  obtain ⟨p, l, e, R, s, m, args, below, meth, c, D, σ0, res⟩ := κ
  obtain ⟨own, nm, nL, ret, hh, fr, lo⟩ := μ
  obtain ⟨hx, hb, hml, hown, hts, hK, hr, hlk, hR, hsz, hnm, hex⟩ := id ok
  cases r with
  | none => exact lv_aload_nN hx hb hd hi (hl.at hL) (k ok le H locs ls hH hS hl)
  | some a => exact lv_aload_n hx hb hd hi (hl.at hL) (k ok le H locs ls hH hS hl)
theorem ro_aload {i : Nat} {r : Option Nat} (hd : decode cc pc = .ok (.aload i, 2)) (hL : L[i]? = some (some (va_rf r))) (hp : pc + 2 = pc') (k : ah_G κ μ cc σ pc' L (va_rf r :: st)) : ah_G κ μ cc σ pc L st := by
  subst hp
  intro ok le H locs ls hH hS hl
  obtain ⟨p, l, e, R, s, m, args, below, meth, c, D, σ0, res⟩ := κ
  obtain ⟨own, nm, nL, ret, hh, fr, lo⟩ := μ
  obtain ⟨hx, hb, hml, hown, hts, hK, hr, hlk, hR, hsz, hnm, hex⟩ := id ok
  cases r with
  | none => exact lv_aloadN hx hb hd (hl.at hL) (k ok le H locs ls hH hS hl)
  | some a => exact lv_aload hx hb hd (hl.at hL) (k ok le H locs ls hH hS hl)
theorem ro_istore_n {n : Fin 4} {i : Nat} {x : Int32} (hd : decode cc pc = .ok (.istore_n n, 1)) (hi : (n : Nat) = i) (hn : i < μ.2.2.1) (hL : L.set i (some (.int x)) = L') (ho : ah_okp (ah_pv L i)) (hp : pc + 1 = pc') (k : ah_G κ μ cc σ pc' L' st) : ah_G κ μ cc σ pc L (.int x :: st) := by
  subst hp
  intro ok le H locs ls hH hS hl
  obtain ⟨p, l, e, R, s, m, args, below, meth, c, D, σ0, res⟩ := κ
  obtain ⟨own, nm, nL, ret, hh, fr, lo⟩ := μ
  obtain ⟨hx, hb, hml, hown, hts, hK, hr, hlk, hR, hsz, hnm, hex⟩ := id ok
  exact lv_istore_n hx hb hd hi hl.has hn rfl (fun ls' h => k ok le H locs ls' hH hS (ah_lv.set1 h hL ho))
theorem ro_istore {i : Nat} {x : Int32} (hd : decode cc pc = .ok (.istore i, 2)) (hn : i < μ.2.2.1) (hL : L.set i (some (.int x)) = L') (ho : ah_okp (ah_pv L i)) (hp : pc + 2 = pc') (k : ah_G κ μ cc σ pc' L' st) : ah_G κ μ cc σ pc L (.int x :: st) := by
  subst hp
  intro ok le H locs ls hH hS hl
  obtain ⟨p, l, e, R, s, m, args, below, meth, c, D, σ0, res⟩ := κ
  obtain ⟨own, nm, nL, ret, hh, fr, lo⟩ := μ
  obtain ⟨hx, hb, hml, hown, hts, hK, hr, hlk, hR, hsz, hnm, hex⟩ := id ok
  exact lv_istore hx hb hd hl.has hn rfl (fun ls' h => k ok le H locs ls' hH hS (ah_lv.set1 h hL ho))
theorem ro_lstore_n {n : Fin 4} {i : Nat} {x : Int64} (hd : decode cc pc = .ok (.lstore_n n, 1)) (hi : (n : Nat) = i) (hn : i + 1 < μ.2.2.1) (hL : (L.set i (some (.long x))).set (i + 1) none = L') (ho : ah_okp (ah_pv L i)) (hp : pc + 1 = pc') (k : ah_G κ μ cc σ pc' L' st) : ah_G κ μ cc σ pc L (.long x :: st) := by
  subst hp
  intro ok le H locs ls hH hS hl
  obtain ⟨p, l, e, R, s, m, args, below, meth, c, D, σ0, res⟩ := κ
  obtain ⟨own, nm, nL, ret, hh, fr, lo⟩ := μ
  obtain ⟨hx, hb, hml, hown, hts, hK, hr, hlk, hR, hsz, hnm, hex⟩ := id ok
  exact lv_lstore_n hx hb hd hi hl.has hn rfl (fun ls' h => k ok le H locs ls' hH hS (ah_lv.set2 h hL ho))
theorem ro_lstore {i : Nat} {x : Int64} (hd : decode cc pc = .ok (.lstore i, 2)) (hn : i + 1 < μ.2.2.1) (hL : (L.set i (some (.long x))).set (i + 1) none = L') (ho : ah_okp (ah_pv L i)) (hp : pc + 2 = pc') (k : ah_G κ μ cc σ pc' L' st) : ah_G κ μ cc σ pc L (.long x :: st) := by
  subst hp
  intro ok le H locs ls hH hS hl
  obtain ⟨p, l, e, R, s, m, args, below, meth, c, D, σ0, res⟩ := κ
  obtain ⟨own, nm, nL, ret, hh, fr, lo⟩ := μ
  obtain ⟨hx, hb, hml, hown, hts, hK, hr, hlk, hR, hsz, hnm, hex⟩ := id ok
  exact lv_lstore hx hb hd hl.has hn rfl (fun ls' h => k ok le H locs ls' hH hS (ah_lv.set2 h hL ho))
theorem ro_astore_n {n : Fin 4} {i : Nat} {r : Option Nat} (hd : decode cc pc = .ok (.astore_n n, 1)) (hi : (n : Nat) = i) (hn : i < μ.2.2.1) (hL : L.set i (some (va_rf r)) = L') (ho : ah_okp (ah_pv L i)) (hp : pc + 1 = pc') (k : ah_G κ μ cc σ pc' L' st) : ah_G κ μ cc σ pc L (va_rf r :: st) := by
  subst hp
  intro ok le H locs ls hH hS hl
  obtain ⟨p, l, e, R, s, m, args, below, meth, c, D, σ0, res⟩ := κ
  obtain ⟨own, nm, nL, ret, hh, fr, lo⟩ := μ
  obtain ⟨hx, hb, hml, hown, hts, hK, hr, hlk, hR, hsz, hnm, hex⟩ := id ok
  cases r with
  | none => exact lv_astore_nN hx hb hd hi hl.has hn rfl (fun ls' h => k ok le H locs ls' hH hS (ah_lv.set1 h hL ho))
  | some a => exact lv_astore_n hx hb hd hi hl.has hn rfl (fun ls' h => k ok le H locs ls' hH hS (ah_lv.set1 h hL ho))
theorem ro_astore {i : Nat} {r : Option Nat} (hd : decode cc pc = .ok (.astore i, 2)) (hn : i < μ.2.2.1) (hL : L.set i (some (va_rf r)) = L') (ho : ah_okp (ah_pv L i)) (hp : pc + 2 = pc') (k : ah_G κ μ cc σ pc' L' st) : ah_G κ μ cc σ pc L (va_rf r :: st) := by
  subst hp
  intro ok le H locs ls hH hS hl
  obtain ⟨p, l, e, R, s, m, args, below, meth, c, D, σ0, res⟩ := κ
  obtain ⟨own, nm, nL, ret, hh, fr, lo⟩ := μ
  obtain ⟨hx, hb, hml, hown, hts, hK, hr, hlk, hR, hsz, hnm, hex⟩ := id ok
  cases r with
  | none => exact lv_astoreN hx hb hd hl.has hn rfl (fun ls' h => k ok le H locs ls' hH hS (ah_lv.set1 h hL ho))
  | some a => exact lv_astore hx hb hd hl.has hn rfl (fun ls' h => k ok le H locs ls' hH hS (ah_lv.set1 h hL ho))
theorem ro_iinc {i : Nat} {n : Int} {x v : Int32} (hd : decode cc pc = .ok (.iinc i n, 3)) (hi : L[i]? = some (some (.int x))) (hv : Int32.ofInt n = v) (hn : i < μ.2.2.1) (hL : L.set i (some (.int (x + v))) = L') (ho : ah_okp (ah_pv L i)) (hp : pc + 3 = pc') (k : ah_G κ μ cc σ pc' L' st) : ah_G κ μ cc σ pc L st := by
  subst hp
  subst hv
  intro ok le H locs ls hH hS hl
  obtain ⟨p, l, e, R, s, m, args, below, meth, c, D, σ0, res⟩ := κ
  obtain ⟨own, nm, nL, ret, hh, fr, lo⟩ := μ
  obtain ⟨hx, hb, hml, hown, hts, hK, hr, hlk, hR, hsz, hnm, hex⟩ := id ok
  obtain ⟨q, hq⟩ := List.getElem?_of_mem (ah_as_mem hi)
  exact lv_iinc hx hb hd hl.has hq rfl hn rfl (fun ls' h => k ok le H locs ls' hH hS (ah_lv.set1 h hL ho))
theorem ro_iadd {x y : Int32} (hd : decode cc pc = .ok (.iadd, 1)) (hp : pc + 1 = pc') (k : ah_G κ μ cc σ pc' L (.int (x + y) :: st)) : ah_G κ μ cc σ pc L (.int y :: .int x :: st) := by
  subst hp
  intro ok le H locs ls hH hS hl
  obtain ⟨p, l, e, R, s, m, args, below, meth, c, D, σ0, res⟩ := κ
  obtain ⟨own, nm, nL, ret, hh, fr, lo⟩ := μ
  obtain ⟨hx, hb, hml, hown, hts, hK, hr, hlk, hR, hsz, hnm, hex⟩ := id ok
  exact lv_iadd hx hb hd (k ok le H locs ls hH hS hl)
theorem ro_isub {x y : Int32} (hd : decode cc pc = .ok (.isub, 1)) (hp : pc + 1 = pc') (k : ah_G κ μ cc σ pc' L (.int (x - y) :: st)) : ah_G κ μ cc σ pc L (.int y :: .int x :: st) := by
  subst hp
  intro ok le H locs ls hH hS hl
  obtain ⟨p, l, e, R, s, m, args, below, meth, c, D, σ0, res⟩ := κ
  obtain ⟨own, nm, nL, ret, hh, fr, lo⟩ := μ
  obtain ⟨hx, hb, hml, hown, hts, hK, hr, hlk, hR, hsz, hnm, hex⟩ := id ok
  exact lv_isub hx hb hd (k ok le H locs ls hH hS hl)
theorem ro_imul {x y : Int32} (hd : decode cc pc = .ok (.imul, 1)) (hp : pc + 1 = pc') (k : ah_G κ μ cc σ pc' L (.int (x * y) :: st)) : ah_G κ μ cc σ pc L (.int y :: .int x :: st) := by
  subst hp
  intro ok le H locs ls hH hS hl
  obtain ⟨p, l, e, R, s, m, args, below, meth, c, D, σ0, res⟩ := κ
  obtain ⟨own, nm, nL, ret, hh, fr, lo⟩ := μ
  obtain ⟨hx, hb, hml, hown, hts, hK, hr, hlk, hR, hsz, hnm, hex⟩ := id ok
  exact lv_imul hx hb hd (k ok le H locs ls hH hS hl)
theorem ro_iand {x y : Int32} (hd : decode cc pc = .ok (.iand, 1)) (hp : pc + 1 = pc') (k : ah_G κ μ cc σ pc' L (.int (x &&& y) :: st)) : ah_G κ μ cc σ pc L (.int y :: .int x :: st) := by
  subst hp
  intro ok le H locs ls hH hS hl
  obtain ⟨p, l, e, R, s, m, args, below, meth, c, D, σ0, res⟩ := κ
  obtain ⟨own, nm, nL, ret, hh, fr, lo⟩ := μ
  obtain ⟨hx, hb, hml, hown, hts, hK, hr, hlk, hR, hsz, hnm, hex⟩ := id ok
  exact lv_iand hx hb hd (k ok le H locs ls hH hS hl)
theorem ro_ior {x y : Int32} (hd : decode cc pc = .ok (.ior, 1)) (hp : pc + 1 = pc') (k : ah_G κ μ cc σ pc' L (.int (x ||| y) :: st)) : ah_G κ μ cc σ pc L (.int y :: .int x :: st) := by
  subst hp
  intro ok le H locs ls hH hS hl
  obtain ⟨p, l, e, R, s, m, args, below, meth, c, D, σ0, res⟩ := κ
  obtain ⟨own, nm, nL, ret, hh, fr, lo⟩ := μ
  obtain ⟨hx, hb, hml, hown, hts, hK, hr, hlk, hR, hsz, hnm, hex⟩ := id ok
  exact lv_ior hx hb hd (k ok le H locs ls hH hS hl)
theorem ro_ixor {x y : Int32} (hd : decode cc pc = .ok (.ixor, 1)) (hp : pc + 1 = pc') (k : ah_G κ μ cc σ pc' L (.int (x ^^^ y) :: st)) : ah_G κ μ cc σ pc L (.int y :: .int x :: st) := by
  subst hp
  intro ok le H locs ls hH hS hl
  obtain ⟨p, l, e, R, s, m, args, below, meth, c, D, σ0, res⟩ := κ
  obtain ⟨own, nm, nL, ret, hh, fr, lo⟩ := μ
  obtain ⟨hx, hb, hml, hown, hts, hK, hr, hlk, hR, hsz, hnm, hex⟩ := id ok
  exact lv_ixor hx hb hd (k ok le H locs ls hH hS hl)
theorem ro_ishl {x y : Int32} (hd : decode cc pc = .ok (.ishl, 1)) (hp : pc + 1 = pc') (k : ah_G κ μ cc σ pc' L (.int (x <<< (y &&& 31)) :: st)) : ah_G κ μ cc σ pc L (.int y :: .int x :: st) := by
  subst hp
  intro ok le H locs ls hH hS hl
  obtain ⟨p, l, e, R, s, m, args, below, meth, c, D, σ0, res⟩ := κ
  obtain ⟨own, nm, nL, ret, hh, fr, lo⟩ := μ
  obtain ⟨hx, hb, hml, hown, hts, hK, hr, hlk, hR, hsz, hnm, hex⟩ := id ok
  exact lv_ishl hx hb hd (k ok le H locs ls hH hS hl)
theorem ro_ishr {x y : Int32} (hd : decode cc pc = .ok (.ishr, 1)) (hp : pc + 1 = pc') (k : ah_G κ μ cc σ pc' L (.int (x >>> (y &&& 31)) :: st)) : ah_G κ μ cc σ pc L (.int y :: .int x :: st) := by
  subst hp
  intro ok le H locs ls hH hS hl
  obtain ⟨p, l, e, R, s, m, args, below, meth, c, D, σ0, res⟩ := κ
  obtain ⟨own, nm, nL, ret, hh, fr, lo⟩ := μ
  obtain ⟨hx, hb, hml, hown, hts, hK, hr, hlk, hR, hsz, hnm, hex⟩ := id ok
  exact lv_ishr hx hb hd (k ok le H locs ls hH hS hl)
theorem ro_ladd {x y : Int64} (hd : decode cc pc = .ok (.ladd, 1)) (hp : pc + 1 = pc') (k : ah_G κ μ cc σ pc' L (.long (x + y) :: st)) : ah_G κ μ cc σ pc L (.long y :: .long x :: st) := by
  subst hp
  intro ok le H locs ls hH hS hl
  obtain ⟨p, l, e, R, s, m, args, below, meth, c, D, σ0, res⟩ := κ
  obtain ⟨own, nm, nL, ret, hh, fr, lo⟩ := μ
  obtain ⟨hx, hb, hml, hown, hts, hK, hr, hlk, hR, hsz, hnm, hex⟩ := id ok
  exact lv_ladd hx hb hd (k ok le H locs ls hH hS hl)
theorem ro_lmul {x y : Int64} (hd : decode cc pc = .ok (.lmul, 1)) (hp : pc + 1 = pc') (k : ah_G κ μ cc σ pc' L (.long (x * y) :: st)) : ah_G κ μ cc σ pc L (.long y :: .long x :: st) := by
  subst hp
  intro ok le H locs ls hH hS hl
  obtain ⟨p, l, e, R, s, m, args, below, meth, c, D, σ0, res⟩ := κ
  obtain ⟨own, nm, nL, ret, hh, fr, lo⟩ := μ
  obtain ⟨hx, hb, hml, hown, hts, hK, hr, hlk, hR, hsz, hnm, hex⟩ := id ok
  exact lv_lmul hx hb hd (k ok le H locs ls hH hS hl)
theorem ro_land {x y : Int64} (hd : decode cc pc = .ok (.land, 1)) (hp : pc + 1 = pc') (k : ah_G κ μ cc σ pc' L (.long (x &&& y) :: st)) : ah_G κ μ cc σ pc L (.long y :: .long x :: st) := by
  subst hp
  intro ok le H locs ls hH hS hl
  obtain ⟨p, l, e, R, s, m, args, below, meth, c, D, σ0, res⟩ := κ
  obtain ⟨own, nm, nL, ret, hh, fr, lo⟩ := μ
  obtain ⟨hx, hb, hml, hown, hts, hK, hr, hlk, hR, hsz, hnm, hex⟩ := id ok
  exact lv_land hx hb hd (k ok le H locs ls hH hS hl)
theorem ro_lor {x y : Int64} (hd : decode cc pc = .ok (.lor, 1)) (hp : pc + 1 = pc') (k : ah_G κ μ cc σ pc' L (.long (x ||| y) :: st)) : ah_G κ μ cc σ pc L (.long y :: .long x :: st) := by
  subst hp
  intro ok le H locs ls hH hS hl
  obtain ⟨p, l, e, R, s, m, args, below, meth, c, D, σ0, res⟩ := κ
  obtain ⟨own, nm, nL, ret, hh, fr, lo⟩ := μ
  obtain ⟨hx, hb, hml, hown, hts, hK, hr, hlk, hR, hsz, hnm, hex⟩ := id ok
  exact lv_lor hx hb hd (k ok le H locs ls hH hS hl)
theorem ro_i2l {x : Int32} (hd : decode cc pc = .ok (.i2l, 1)) (hp : pc + 1 = pc') (k : ah_G κ μ cc σ pc' L (.long (x.toInt64) :: st)) : ah_G κ μ cc σ pc L (.int x :: st) := by
  subst hp
  intro ok le H locs ls hH hS hl
  obtain ⟨p, l, e, R, s, m, args, below, meth, c, D, σ0, res⟩ := κ
  obtain ⟨own, nm, nL, ret, hh, fr, lo⟩ := μ
  obtain ⟨hx, hb, hml, hown, hts, hK, hr, hlk, hR, hsz, hnm, hex⟩ := id ok
  exact lv_i2l hx hb hd rfl (k ok le H locs ls hH hS hl)
theorem ro_l2i {x : Int64} (hd : decode cc pc = .ok (.l2i, 1)) (hp : pc + 1 = pc') (k : ah_G κ μ cc σ pc' L (.int (x.toInt32) :: st)) : ah_G κ μ cc σ pc L (.long x :: st) := by
  subst hp
  intro ok le H locs ls hH hS hl
  obtain ⟨p, l, e, R, s, m, args, below, meth, c, D, σ0, res⟩ := κ
  obtain ⟨own, nm, nL, ret, hh, fr, lo⟩ := μ
  obtain ⟨hx, hb, hml, hown, hts, hK, hr, hlk, hR, hsz, hnm, hex⟩ := id ok
  exact lv_l2i hx hb hd rfl (k ok le H locs ls hH hS hl)
theorem ro_i2b {x : Int32} (hd : decode cc pc = .ok (.i2b, 1)) (hp : pc + 1 = pc') (k : ah_G κ μ cc σ pc' L (.int (x.toInt8.toInt32) :: st)) : ah_G κ μ cc σ pc L (.int x :: st) := by
  subst hp
  intro ok le H locs ls hH hS hl
  obtain ⟨p, l, e, R, s, m, args, below, meth, c, D, σ0, res⟩ := κ
  obtain ⟨own, nm, nL, ret, hh, fr, lo⟩ := μ
  obtain ⟨hx, hb, hml, hown, hts, hK, hr, hlk, hR, hsz, hnm, hex⟩ := id ok
  exact lv_i2b hx hb hd rfl (k ok le H locs ls hH hS hl)
theorem ro_i2s {x : Int32} (hd : decode cc pc = .ok (.i2s, 1)) (hp : pc + 1 = pc') (k : ah_G κ μ cc σ pc' L (.int (x.toInt16.toInt32) :: st)) : ah_G κ μ cc σ pc L (.int x :: st) := by
  subst hp
  intro ok le H locs ls hH hS hl
  obtain ⟨p, l, e, R, s, m, args, below, meth, c, D, σ0, res⟩ := κ
  obtain ⟨own, nm, nL, ret, hh, fr, lo⟩ := μ
  obtain ⟨hx, hb, hml, hown, hts, hK, hr, hlk, hR, hsz, hnm, hex⟩ := id ok
  exact lv_i2s hx hb hd rfl (k ok le H locs ls hH hS hl)
theorem ro_ineg {x : Int32} (hd : decode cc pc = .ok (.ineg, 1)) (hp : pc + 1 = pc') (k : ah_G κ μ cc σ pc' L (.int (-x) :: st)) : ah_G κ μ cc σ pc L (.int x :: st) := by
  subst hp
  intro ok le H locs ls hH hS hl
  obtain ⟨p, l, e, R, s, m, args, below, meth, c, D, σ0, res⟩ := κ
  obtain ⟨own, nm, nL, ret, hh, fr, lo⟩ := μ
  obtain ⟨hx, hb, hml, hown, hts, hK, hr, hlk, hR, hsz, hnm, hex⟩ := id ok
  exact lv_ineg hx hb hd (k ok le H locs ls hH hS hl)
theorem ro_iushr {x y : Int32} (hd : decode cc pc = .ok (.iushr, 1)) (hp : pc + 1 = pc') (k : ah_G κ μ cc σ pc' L (.int (x.toUInt32 >>> (y.toUInt32 &&& Int32.toUInt32 31)).toInt32 :: st)) : ah_G κ μ cc σ pc L (.int y :: .int x :: st) := by
  subst hp
  intro ok le H locs ls hH hS hl
  obtain ⟨p, l, e, R, s, m, args, below, meth, c, D, σ0, res⟩ := κ
  obtain ⟨own, nm, nL, ret, hh, fr, lo⟩ := μ
  obtain ⟨hx, hb, hml, hown, hts, hK, hr, hlk, hR, hsz, hnm, hex⟩ := id ok
  exact lv_iushr hx hb hd rfl (k ok le H locs ls hH hS hl)
theorem ro_lshl {x : Int64} {y : Int32} (hd : decode cc pc = .ok (.lshl, 1)) (hp : pc + 1 = pc') (k : ah_G κ μ cc σ pc' L (.long (x <<< (y.toInt64 &&& 63)) :: st)) : ah_G κ μ cc σ pc L (.int y :: .long x :: st) := by
  subst hp
  intro ok le H locs ls hH hS hl
  obtain ⟨p, l, e, R, s, m, args, below, meth, c, D, σ0, res⟩ := κ
  obtain ⟨own, nm, nL, ret, hh, fr, lo⟩ := μ
  obtain ⟨hx, hb, hml, hown, hts, hK, hr, hlk, hR, hsz, hnm, hex⟩ := id ok
  exact lv_lshl hx hb hd rfl (k ok le H locs ls hH hS hl)

theorem ro_idiv {x y v : Int32} (hd : decode cc pc = .ok (.idiv, 1)) (hp : pc + 1 = pc') (h : ah_di x y = some v) (k : ah_G κ μ cc σ pc' L (.int v :: st)) : ah_G κ μ cc σ pc L (.int y :: .int x :: st) := by
  subst hp
  have h0 : ¬ y = 0 := by
    intro e
    rw [ah_di, if_pos e] at h
    cases h
  have h1 : x / y = v := by rw [ah_di, if_neg h0] at h; exact Option.some.inj h
  subst h1
  intro ok le H locs ls hH hS hl
  obtain ⟨p, l, e, R, s, m, args, below, meth, c, D, σ0, res⟩ := κ
  obtain ⟨own, nm, nL, ret, hh, fr, lo⟩ := μ
  obtain ⟨hx, hb, hml, hown, hts, hK, hr, hlk, hR, hsz, hnm, hex⟩ := id ok
  exact lv_idiv hx hb hd h0 (k ok le H locs ls hH hS hl)
theorem ro_irem {x y v : Int32} (hd : decode cc pc = .ok (.irem, 1)) (hp : pc + 1 = pc') (h : ah_re x y = some v) (k : ah_G κ μ cc σ pc' L (.int v :: st)) : ah_G κ μ cc σ pc L (.int y :: .int x :: st) := by
  subst hp
  have h0 : ¬ y = 0 := by
    intro e
    rw [ah_re, if_pos e] at h
    cases h
  have h1 : x - x / y * y = v := by rw [ah_re, if_neg h0] at h; exact Option.some.inj h
  subst h1
  intro ok le H locs ls hH hS hl
  obtain ⟨p, l, e, R, s, m, args, below, meth, c, D, σ0, res⟩ := κ
  obtain ⟨own, nm, nL, ret, hh, fr, lo⟩ := μ
  obtain ⟨hx, hb, hml, hown, hts, hK, hr, hlk, hR, hsz, hnm, hex⟩ := id ok
  exact lv_irem hx hb hd h0 (k ok le H locs ls hH hS hl)
theorem ro_ldiv {x y v : Int64} (hd : decode cc pc = .ok (.ldiv, 1)) (hp : pc + 1 = pc') (h : ah_ldi x y = some v) (k : ah_G κ μ cc σ pc' L (.long v :: st)) : ah_G κ μ cc σ pc L (.long y :: .long x :: st) := by
  subst hp
  have h0 : ¬ y = 0 := by
    intro e
    rw [ah_ldi, if_pos e] at h
    cases h
  have h1 : x / y = v := by rw [ah_ldi, if_neg h0] at h; exact Option.some.inj h
  subst h1
  intro ok le H locs ls hH hS hl
  obtain ⟨p, l, e, R, s, m, args, below, meth, c, D, σ0, res⟩ := κ
  obtain ⟨own, nm, nL, ret, hh, fr, lo⟩ := μ
  obtain ⟨hx, hb, hml, hown, hts, hK, hr, hlk, hR, hsz, hnm, hex⟩ := id ok
  exact lv_ldiv hx hb hd h0 (k ok le H locs ls hH hS hl)
theorem ro_lrem {x y v : Int64} (hd : decode cc pc = .ok (.lrem, 1)) (hp : pc + 1 = pc') (h : ah_lre x y = some v) (k : ah_G κ μ cc σ pc' L (.long v :: st)) : ah_G κ μ cc σ pc L (.long y :: .long x :: st) := by
  subst hp
  have h0 : ¬ y = 0 := by
    intro e
    rw [ah_lre, if_pos e] at h
    cases h
  have h1 : x - x / y * y = v := by rw [ah_lre, if_neg h0] at h; exact Option.some.inj h
  subst h1
  intro ok le H locs ls hH hS hl
  obtain ⟨p, l, e, R, s, m, args, below, meth, c, D, σ0, res⟩ := κ
  obtain ⟨own, nm, nL, ret, hh, fr, lo⟩ := μ
  obtain ⟨hx, hb, hml, hown, hts, hK, hr, hlk, hR, hsz, hnm, hex⟩ := id ok
  exact lv_lrem hx hb hd h0 (k ok le H locs ls hH hS hl)
theorem ro_dup {v : Value} (hd : decode cc pc = .ok (.dup, 1)) (hc : v.category = 1) (hp : pc + 1 = pc') (k : ah_G κ μ cc σ pc' L (v :: v :: st)) : ah_G κ μ cc σ pc L (v :: st) := by
  subst hp
  intro ok le H locs ls hH hS hl
  obtain ⟨p, l, e, R, s, m, args, below, meth, c, D, σ0, res⟩ := κ
  obtain ⟨own, nm, nL, ret, hh, fr, lo⟩ := μ
  obtain ⟨hx, hb, hml, hown, hts, hK, hr, hlk, hR, hsz, hnm, hex⟩ := id ok
  exact lv_dup hx hb hd hc (k ok le H locs ls hH hS hl)
theorem ro_pop {v : Value} (hd : decode cc pc = .ok (.pop, 1)) (hc : v.category = 1) (hp : pc + 1 = pc') (k : ah_G κ μ cc σ pc' L st) : ah_G κ μ cc σ pc L (v :: st) := by
  subst hp
  intro ok le H locs ls hH hS hl
  obtain ⟨p, l, e, R, s, m, args, below, meth, c, D, σ0, res⟩ := κ
  obtain ⟨own, nm, nL, ret, hh, fr, lo⟩ := μ
  obtain ⟨hx, hb, hml, hown, hts, hK, hr, hlk, hR, hsz, hnm, hex⟩ := id ok
  exact lv_pop hx hb hd hc (k ok le H locs ls hH hS hl)
theorem ro_dup_x1 {v w : Value} (hd : decode cc pc = .ok (.dup_x1, 1)) (hc : v.category = 1) (hw : w.category = 1) (hp : pc + 1 = pc') (k : ah_G κ μ cc σ pc' L (v :: w :: v :: st)) : ah_G κ μ cc σ pc L (v :: w :: st) := by
  subst hp
  intro ok le H locs ls hH hS hl
  obtain ⟨p, l, e, R, s, m, args, below, meth, c, D, σ0, res⟩ := κ
  obtain ⟨own, nm, nL, ret, hh, fr, lo⟩ := μ
  obtain ⟨hx, hb, hml, hown, hts, hK, hr, hlk, hR, hsz, hnm, hex⟩ := id ok
  exact lv_dup_x1 hx hb hd hc hw (k ok le H locs ls hH hS hl)
theorem ro_dup2 {v w : Value} (hd : decode cc pc = .ok (.dup2, 1)) (hc : v.category = 1) (hw : w.category = 1) (hp : pc + 1 = pc') (k : ah_G κ μ cc σ pc' L (v :: w :: v :: w :: st)) : ah_G κ μ cc σ pc L (v :: w :: st) := by
  subst hp
  intro ok le H locs ls hH hS hl
  obtain ⟨p, l, e, R, s, m, args, below, meth, c, D, σ0, res⟩ := κ
  obtain ⟨own, nm, nL, ret, hh, fr, lo⟩ := μ
  obtain ⟨hx, hb, hml, hown, hts, hK, hr, hlk, hR, hsz, hnm, hex⟩ := id ok
  exact lv_dup2_11 hx hb hd hc hw (k ok le H locs ls hH hS hl)
theorem ro_if_eq {x : Int32} {off : Int} {tgt : Nat} (hd : decode cc pc = .ok (.ifCond .eq off, 3)) (ht : (pc : Int) + off = (tgt : Int)) (hp : pc + 3 = pc') (k1 : x = 0 → ah_G κ μ cc σ tgt L st) (k2 : ¬ x = 0 → ah_G κ μ cc σ pc' L st) : ah_G κ μ cc σ pc L (.int x :: st) := by
  subst hp
  intro ok le H locs ls hH hS hl
  obtain ⟨p, l, e, R, s, m, args, below, meth, c, D, σ0, res⟩ := κ
  obtain ⟨own, nm, nL, ret, hh, fr, lo⟩ := μ
  obtain ⟨hx, hb, hml, hown, hts, hK, hr, hlk, hR, hsz, hnm, hex⟩ := id ok
  exact lv_if_eq hx hb hd ht (fun h => k1 h ok le H locs ls hH hS hl) (fun h => k2 h ok le H locs ls hH hS hl)
theorem ro_icmp_eq {x y : Int32} {off : Int} {tgt : Nat} (hd : decode cc pc = .ok (.if_icmp .eq off, 3)) (ht : (pc : Int) + off = (tgt : Int)) (hp : pc + 3 = pc') (k1 : x = y → ah_G κ μ cc σ tgt L st) (k2 : ¬ x = y → ah_G κ μ cc σ pc' L st) : ah_G κ μ cc σ pc L (.int y :: .int x :: st) := by
  subst hp
  intro ok le H locs ls hH hS hl
  obtain ⟨p, l, e, R, s, m, args, below, meth, c, D, σ0, res⟩ := κ
  obtain ⟨own, nm, nL, ret, hh, fr, lo⟩ := μ
  obtain ⟨hx, hb, hml, hown, hts, hK, hr, hlk, hR, hsz, hnm, hex⟩ := id ok
  exact lv_icmp_eq hx hb hd ht (fun h => k1 h ok le H locs ls hH hS hl) (fun h => k2 h ok le H locs ls hH hS hl)
theorem ro_if_ne {x : Int32} {off : Int} {tgt : Nat} (hd : decode cc pc = .ok (.ifCond .ne off, 3)) (ht : (pc : Int) + off = (tgt : Int)) (hp : pc + 3 = pc') (k1 : ¬ x = 0 → ah_G κ μ cc σ tgt L st) (k2 : x = 0 → ah_G κ μ cc σ pc' L st) : ah_G κ μ cc σ pc L (.int x :: st) := by
  subst hp
  intro ok le H locs ls hH hS hl
  obtain ⟨p, l, e, R, s, m, args, below, meth, c, D, σ0, res⟩ := κ
  obtain ⟨own, nm, nL, ret, hh, fr, lo⟩ := μ
  obtain ⟨hx, hb, hml, hown, hts, hK, hr, hlk, hR, hsz, hnm, hex⟩ := id ok
  exact lv_if_ne hx hb hd ht (fun h => k1 h ok le H locs ls hH hS hl) (fun h => k2 h ok le H locs ls hH hS hl)
theorem ro_icmp_ne {x y : Int32} {off : Int} {tgt : Nat} (hd : decode cc pc = .ok (.if_icmp .ne off, 3)) (ht : (pc : Int) + off = (tgt : Int)) (hp : pc + 3 = pc') (k1 : ¬ x = y → ah_G κ μ cc σ tgt L st) (k2 : x = y → ah_G κ μ cc σ pc' L st) : ah_G κ μ cc σ pc L (.int y :: .int x :: st) := by
  subst hp
  intro ok le H locs ls hH hS hl
  obtain ⟨p, l, e, R, s, m, args, below, meth, c, D, σ0, res⟩ := κ
  obtain ⟨own, nm, nL, ret, hh, fr, lo⟩ := μ
  obtain ⟨hx, hb, hml, hown, hts, hK, hr, hlk, hR, hsz, hnm, hex⟩ := id ok
  exact lv_icmp_ne hx hb hd ht (fun h => k1 h ok le H locs ls hH hS hl) (fun h => k2 h ok le H locs ls hH hS hl)
theorem ro_if_lt {x : Int32} {off : Int} {tgt : Nat} (hd : decode cc pc = .ok (.ifCond .lt off, 3)) (ht : (pc : Int) + off = (tgt : Int)) (hp : pc + 3 = pc') (k1 : x < 0 → ah_G κ μ cc σ tgt L st) (k2 : ¬ x < 0 → ah_G κ μ cc σ pc' L st) : ah_G κ μ cc σ pc L (.int x :: st) := by
  subst hp
  intro ok le H locs ls hH hS hl
  obtain ⟨p, l, e, R, s, m, args, below, meth, c, D, σ0, res⟩ := κ
  obtain ⟨own, nm, nL, ret, hh, fr, lo⟩ := μ
  obtain ⟨hx, hb, hml, hown, hts, hK, hr, hlk, hR, hsz, hnm, hex⟩ := id ok
  exact lv_if_lt hx hb hd ht (fun h => k1 h ok le H locs ls hH hS hl) (fun h => k2 h ok le H locs ls hH hS hl)
theorem ro_icmp_lt {x y : Int32} {off : Int} {tgt : Nat} (hd : decode cc pc = .ok (.if_icmp .lt off, 3)) (ht : (pc : Int) + off = (tgt : Int)) (hp : pc + 3 = pc') (k1 : x < y → ah_G κ μ cc σ tgt L st) (k2 : ¬ x < y → ah_G κ μ cc σ pc' L st) : ah_G κ μ cc σ pc L (.int y :: .int x :: st) := by
  subst hp
  intro ok le H locs ls hH hS hl
  obtain ⟨p, l, e, R, s, m, args, below, meth, c, D, σ0, res⟩ := κ
  obtain ⟨own, nm, nL, ret, hh, fr, lo⟩ := μ
  obtain ⟨hx, hb, hml, hown, hts, hK, hr, hlk, hR, hsz, hnm, hex⟩ := id ok
  exact lv_icmp_lt hx hb hd ht (fun h => k1 h ok le H locs ls hH hS hl) (fun h => k2 h ok le H locs ls hH hS hl)
theorem ro_if_ge {x : Int32} {off : Int} {tgt : Nat} (hd : decode cc pc = .ok (.ifCond .ge off, 3)) (ht : (pc : Int) + off = (tgt : Int)) (hp : pc + 3 = pc') (k1 : 0 ≤ x → ah_G κ μ cc σ tgt L st) (k2 : ¬ 0 ≤ x → ah_G κ μ cc σ pc' L st) : ah_G κ μ cc σ pc L (.int x :: st) := by
  subst hp
  intro ok le H locs ls hH hS hl
  obtain ⟨p, l, e, R, s, m, args, below, meth, c, D, σ0, res⟩ := κ
  obtain ⟨own, nm, nL, ret, hh, fr, lo⟩ := μ
  obtain ⟨hx, hb, hml, hown, hts, hK, hr, hlk, hR, hsz, hnm, hex⟩ := id ok
  exact lv_if_ge hx hb hd ht (fun h => k1 h ok le H locs ls hH hS hl) (fun h => k2 h ok le H locs ls hH hS hl)
theorem ro_icmp_ge {x y : Int32} {off : Int} {tgt : Nat} (hd : decode cc pc = .ok (.if_icmp .ge off, 3)) (ht : (pc : Int) + off = (tgt : Int)) (hp : pc + 3 = pc') (k1 : y ≤ x → ah_G κ μ cc σ tgt L st) (k2 : ¬ y ≤ x → ah_G κ μ cc σ pc' L st) : ah_G κ μ cc σ pc L (.int y :: .int x :: st) := by
  subst hp
  intro ok le H locs ls hH hS hl
  obtain ⟨p, l, e, R, s, m, args, below, meth, c, D, σ0, res⟩ := κ
  obtain ⟨own, nm, nL, ret, hh, fr, lo⟩ := μ
  obtain ⟨hx, hb, hml, hown, hts, hK, hr, hlk, hR, hsz, hnm, hex⟩ := id ok
  exact lv_icmp_ge hx hb hd ht (fun h => k1 h ok le H locs ls hH hS hl) (fun h => k2 h ok le H locs ls hH hS hl)
theorem ro_if_gt {x : Int32} {off : Int} {tgt : Nat} (hd : decode cc pc = .ok (.ifCond .gt off, 3)) (ht : (pc : Int) + off = (tgt : Int)) (hp : pc + 3 = pc') (k1 : 0 < x → ah_G κ μ cc σ tgt L st) (k2 : ¬ 0 < x → ah_G κ μ cc σ pc' L st) : ah_G κ μ cc σ pc L (.int x :: st) := by
  subst hp
  intro ok le H locs ls hH hS hl
  obtain ⟨p, l, e, R, s, m, args, below, meth, c, D, σ0, res⟩ := κ
  obtain ⟨own, nm, nL, ret, hh, fr, lo⟩ := μ
  obtain ⟨hx, hb, hml, hown, hts, hK, hr, hlk, hR, hsz, hnm, hex⟩ := id ok
  exact lv_if_gt hx hb hd ht (fun h => k1 h ok le H locs ls hH hS hl) (fun h => k2 h ok le H locs ls hH hS hl)
theorem ro_icmp_gt {x y : Int32} {off : Int} {tgt : Nat} (hd : decode cc pc = .ok (.if_icmp .gt off, 3)) (ht : (pc : Int) + off = (tgt : Int)) (hp : pc + 3 = pc') (k1 : y < x → ah_G κ μ cc σ tgt L st) (k2 : ¬ y < x → ah_G κ μ cc σ pc' L st) : ah_G κ μ cc σ pc L (.int y :: .int x :: st) := by
  subst hp
  intro ok le H locs ls hH hS hl
  obtain ⟨p, l, e, R, s, m, args, below, meth, c, D, σ0, res⟩ := κ
  obtain ⟨own, nm, nL, ret, hh, fr, lo⟩ := μ
  obtain ⟨hx, hb, hml, hown, hts, hK, hr, hlk, hR, hsz, hnm, hex⟩ := id ok
  exact lv_icmp_gt hx hb hd ht (fun h => k1 h ok le H locs ls hH hS hl) (fun h => k2 h ok le H locs ls hH hS hl)
theorem ro_if_le {x : Int32} {off : Int} {tgt : Nat} (hd : decode cc pc = .ok (.ifCond .le off, 3)) (ht : (pc : Int) + off = (tgt : Int)) (hp : pc + 3 = pc') (k1 : x ≤ 0 → ah_G κ μ cc σ tgt L st) (k2 : ¬ x ≤ 0 → ah_G κ μ cc σ pc' L st) : ah_G κ μ cc σ pc L (.int x :: st) := by
  subst hp
  intro ok le H locs ls hH hS hl
  obtain ⟨p, l, e, R, s, m, args, below, meth, c, D, σ0, res⟩ := κ
  obtain ⟨own, nm, nL, ret, hh, fr, lo⟩ := μ
  obtain ⟨hx, hb, hml, hown, hts, hK, hr, hlk, hR, hsz, hnm, hex⟩ := id ok
  exact lv_if_le hx hb hd ht (fun h => k1 h ok le H locs ls hH hS hl) (fun h => k2 h ok le H locs ls hH hS hl)
theorem ro_icmp_le {x y : Int32} {off : Int} {tgt : Nat} (hd : decode cc pc = .ok (.if_icmp .le off, 3)) (ht : (pc : Int) + off = (tgt : Int)) (hp : pc + 3 = pc') (k1 : x ≤ y → ah_G κ μ cc σ tgt L st) (k2 : ¬ x ≤ y → ah_G κ μ cc σ pc' L st) : ah_G κ μ cc σ pc L (.int y :: .int x :: st) := by
  subst hp
  intro ok le H locs ls hH hS hl
  obtain ⟨p, l, e, R, s, m, args, below, meth, c, D, σ0, res⟩ := κ
  obtain ⟨own, nm, nL, ret, hh, fr, lo⟩ := μ
  obtain ⟨hx, hb, hml, hown, hts, hK, hr, hlk, hR, hsz, hnm, hex⟩ := id ok
  exact lv_icmp_le hx hb hd ht (fun h => k1 h ok le H locs ls hH hS hl) (fun h => k2 h ok le H locs ls hH hS hl)

theorem ro_goto {off : Int} {tgt : Nat} (hd : decode cc pc = .ok (.goto off, 3)) (ht : (pc : Int) + off = (tgt : Int)) (k : ah_G κ μ cc σ tgt L st) : ah_G κ μ cc σ pc L st := by
  intro ok le H locs ls hH hS hl
  obtain ⟨p, l, e, R, s, m, args, below, meth, c, D, σ0, res⟩ := κ
  obtain ⟨own, nm, nL, ret, hh, fr, lo⟩ := μ
  obtain ⟨hx, hb, hml, hown, hts, hK, hr, hlk, hR, hsz, hnm, hex⟩ := id ok
  exact lv_goto hx hb hd ht (k ok le H locs ls hH hS hl)
theorem ro_ifnull {r : Option Nat} {off : Int} {tgt : Nat} (hd : decode cc pc = .ok (.ifnull off, 3)) (ht : (pc : Int) + off = (tgt : Int)) (hp : pc + 3 = pc') (k1 : r = none → ah_G κ μ cc σ tgt L st) (k2 : ¬ r = none → ah_G κ μ cc σ pc' L st) : ah_G κ μ cc σ pc L (va_rf r :: st) := by
  subst hp
  intro ok le H locs ls hH hS hl
  obtain ⟨p, l, e, R, s, m, args, below, meth, c, D, σ0, res⟩ := κ
  obtain ⟨own, nm, nL, ret, hh, fr, lo⟩ := μ
  obtain ⟨hx, hb, hml, hown, hts, hK, hr, hlk, hR, hsz, hnm, hex⟩ := id ok
  cases r with
  | none => exact lv_ifnullN hx hb hd ht (k1 rfl ok le H locs ls hH hS hl)
  | some a => exact lv_ifnull hx hb hd (k2 (fun h => by cases h) ok le H locs ls hH hS hl)
theorem ro_ifnonnull {r : Option Nat} {off : Int} {tgt : Nat} (hd : decode cc pc = .ok (.ifnonnull off, 3)) (ht : (pc : Int) + off = (tgt : Int)) (hp : pc + 3 = pc') (k1 : ¬ r = none → ah_G κ μ cc σ tgt L st) (k2 : r = none → ah_G κ μ cc σ pc' L st) : ah_G κ μ cc σ pc L (va_rf r :: st) := by
  subst hp
  intro ok le H locs ls hH hS hl
  obtain ⟨p, l, e, R, s, m, args, below, meth, c, D, σ0, res⟩ := κ
  obtain ⟨own, nm, nL, ret, hh, fr, lo⟩ := μ
  obtain ⟨hx, hb, hml, hown, hts, hK, hr, hlk, hR, hsz, hnm, hex⟩ := id ok
  cases r with
  | none => exact lv_ifnonnullN hx hb hd (k2 rfl ok le H locs ls hH hS hl)
  | some a => exact lv_ifnonnull hx hb hd ht (k1 (fun h => by cases h) ok le H locs ls hH hS hl)
theorem ro_null (hd : decode cc pc = .ok (.aconst_null, 1)) (hp : pc + 1 = pc') (k : ah_G κ μ cc σ pc' L (va_rf none :: st)) : ah_G κ μ cc σ pc L st := by
  subst hp
  intro ok le H locs ls hH hS hl
  obtain ⟨p, l, e, R, s, m, args, below, meth, c, D, σ0, res⟩ := κ
  obtain ⟨own, nm, nL, ret, hh, fr, lo⟩ := μ
  obtain ⟨hx, hb, hml, hown, hts, hK, hr, hlk, hR, hsz, hnm, hex⟩ := id ok
  exact lv_null hx hb hd (k ok le H locs ls hH hS hl)
theorem ro_lcmp {x y : Int64} (hd : decode cc pc = .ok (.lcmp, 1)) (hp : pc + 1 = pc') (k : ah_G κ μ cc σ pc' L (.int (lg_cmp x y) :: st)) : ah_G κ μ cc σ pc L (.long y :: .long x :: st) := by
  subst hp
  intro ok le H locs ls hH hS hl
  obtain ⟨p, l, e, R, s, m, args, below, meth, c, D, σ0, res⟩ := κ
  obtain ⟨own, nm, nL, ret, hh, fr, lo⟩ := μ
  obtain ⟨hx, hb, hml, hown, hts, hK, hr, hlk, hR, hsz, hnm, hex⟩ := id ok
  exact W.lcmp hx hb hd (k ok le H locs ls hH hS hl)
theorem ro_tabOut {x : Int32} {dflt lo hi : Int} {offs : Array Int} {len tgt : Nat} (hd : decode cc pc = .ok (.tableswitch dflt lo hi offs, len)) (h : x.toInt < lo ∨ hi < x.toInt) (ht : (pc : Int) + dflt = (tgt : Int)) (k : ah_G κ μ cc σ tgt L st) : ah_G κ μ cc σ pc L (.int x :: st) := by
  intro ok le H locs ls hH hS hl
  obtain ⟨p, l, e, R, s, m, args, below, meth, c, D, σ0, res⟩ := κ
  obtain ⟨own, nm, nL, ret, hh, fr, lo⟩ := μ
  obtain ⟨hx, hb, hml, hown, hts, hK, hr, hlk, hR, hsz, hnm, hex⟩ := id ok
  exact lv_tableOut hx hb hd h ht (k ok le H locs ls hH hS hl)
theorem ro_tabIn {x y : Int32} {dflt lo hi : Int} {offs : Array Int} {len tgt : Nat} {off : Int} (j : Nat) (hxy : x = y) (hd : decode cc pc = .ok (.tableswitch dflt lo hi offs, len)) (hy : y.toInt = lo + j) (hj : (j : Int) ≤ hi - lo) (ho : offs[j]? = some off) (ht : (pc : Int) + off = (tgt : Int)) (k : ah_G κ μ cc σ tgt L st) : ah_G κ μ cc σ pc L (.int x :: st) := by
  subst hxy
  intro ok le H locs ls hH hS hl
  obtain ⟨p, l, e, R, s, m, args, below, meth, c, D, σ0, res⟩ := κ
  obtain ⟨own, nm, nL, ret, hh, fr, lo⟩ := μ
  obtain ⟨hx, hb, hml, hown, hts, hK, hr, hlk, hR, hsz, hnm, hex⟩ := id ok
  exact lv_tableIn hx hb hd (by omega) (by omega) (by rw [show (x.toInt - _).toNat = j from by rw [hy]; omega]; exact ho) ht (k ok le H locs ls hH hS hl)
theorem ro_look {x : Int32} {dflt : Int} {ps : Array (Int × Int)} {len tgt : Nat} {off : Int} (hd : decode cc pc = .ok (.lookupswitch dflt ps, len)) (hp : (ps.toList.zip (ps.toList.drop 1)).all (fun (a, next) => a.1 < next.1) = true) (ho : Op.lookupswitch.offset ps.toList dflt x.toInt = off) (ht : (pc : Int) + off = (tgt : Int)) (k : ah_G κ μ cc σ tgt L st) : ah_G κ μ cc σ pc L (.int x :: st) := by
  intro ok le H locs ls hH hS hl
  obtain ⟨p, l, e, R, s, m, args, below, meth, c, D, σ0, res⟩ := κ
  obtain ⟨own, nm, nL, ret, hh, fr, lo⟩ := μ
  obtain ⟨hx, hb, hml, hown, hts, hK, hr, hlk, hR, hsz, hnm, hex⟩ := id ok
  exact lv_lookup hx hb hd hp ho ht (k ok le H locs ls hH hS hl)
end
section
variable {κ : ah_C} {own : String} {μ : String × Nat × Option FieldType × List (Nat × Nat × Nat × Nat) × Nat × Nat} {cc : ByteArray} {σ : ah_S} {pc pc' : Nat} {L L' : List (Option Value)} {st : List Value}
theorem ro_ldc {idx : Nat} {v : Int32} (hq : Cond.constant own idx v ∈ lw_all) (hd : decode cc pc = .ok (.ldc idx, 2)) (hp : pc + 2 = pc') (k : ah_G κ (own, μ) cc σ pc' L (.int v :: st)) : ah_G κ (own, μ) cc σ pc L st := by
  subst hp
  intro ok le H locs ls hH hS hl
  obtain ⟨p, l, e, R, s, m, args, below, meth, c, D, σ0, res⟩ := κ
  obtain ⟨nm, nL, ret, hh, fr, lo⟩ := μ
  obtain ⟨hx, hb, hml, hown, hts, hK, hr, hlk, hR, hsz, hnm, hex⟩ := id ok
  exact lv_ldc hx hb hown (hts _ hq) hd (k ok le H locs ls hH hS hl)
theorem ro_ldc_w {idx : Nat} {v : Int32} (hq : Cond.constant own idx v ∈ lw_all) (hd : decode cc pc = .ok (.ldc_w idx, 3)) (hp : pc + 3 = pc') (k : ah_G κ (own, μ) cc σ pc' L (.int v :: st)) : ah_G κ (own, μ) cc σ pc L st := by
  subst hp
  intro ok le H locs ls hH hS hl
  obtain ⟨p, l, e, R, s, m, args, below, meth, c, D, σ0, res⟩ := κ
  obtain ⟨nm, nL, ret, hh, fr, lo⟩ := μ
  obtain ⟨hx, hb, hml, hown, hts, hK, hr, hlk, hR, hsz, hnm, hex⟩ := id ok
  exact lv_ldcw hx hb hown (hts _ hq) hd (k ok le H locs ls hH hS hl)
theorem ro_ldc2 {idx : Nat} {v : Int64} (hq : Cond.constantLong own idx v ∈ lw_all) (hd : decode cc pc = .ok (.ldc2_w idx, 3)) (hp : pc + 3 = pc') (k : ah_G κ (own, μ) cc σ pc' L (.long v :: st)) : ah_G κ (own, μ) cc σ pc L st := by
  subst hp
  intro ok le H locs ls hH hS hl
  obtain ⟨p, l, e, R, s, m, args, below, meth, c, D, σ0, res⟩ := κ
  obtain ⟨nm, nL, ret, hh, fr, lo⟩ := μ
  obtain ⟨hx, hb, hml, hown, hts, hK, hr, hlk, hR, hsz, hnm, hex⟩ := id ok
  exact lv_ldc2 hx hb hown (hts _ hq) hd (k ok le H locs ls hH hS hl)
end
