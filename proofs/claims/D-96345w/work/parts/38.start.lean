/-! ===== the start: what the tables say ===== -/
theorem st_cls {args : Array Value} {s : State} (hall : ∀ w ∈ lw_all, w.before args s = true) : ∀ q ∈ ah_cl, ∃ (cC : ClassId) (iS : Nat → Nat), u_Kn s q.1 q.2.1 q.2.2 cC iS := by
  exact List.forall_mem_cons.mpr ⟨(u_known hall ct_X0.2.1 (hall _ q131)), List.forall_mem_cons.mpr ⟨(u_known hall ct_X1.2.1 (hall _ q141)), List.forall_mem_cons.mpr ⟨(u_known hall ct_X2.2.1 (hall _ q213)), List.forall_mem_cons.mpr ⟨(u_known hall ct_X3.2.1 (hall _ q224)), List.forall_mem_cons.mpr ⟨(u_known hall ct_X4.2.1 (hall _ q239)), List.forall_mem_cons.mpr ⟨(u_known hall ct_X5.2.1 (hall _ q275)), List.forall_mem_cons.mpr ⟨(u_known hall ct_X6.2.1 (hall _ q1304)), List.forall_mem_cons.mpr ⟨(u_known hall ct_X7.2.1 (hall _ q441)), List.forall_mem_cons.mpr ⟨(u_known hall ct_X8.2.1 (hall _ q534)), List.forall_mem_cons.mpr ⟨(u_known hall ct_X2.2.1 (hall _ q213)), List.forall_mem_cons.mpr ⟨(u_known hall ct_X10.2.1 (hall _ q584)), List.forall_mem_cons.mpr ⟨(u_known hall ct_X11.2.1 (hall _ q600)), List.forall_mem_cons.mpr ⟨(u_known hall ct_X12.2.1 (hall _ q613)), List.forall_mem_cons.mpr ⟨(u_known hall ct_X13.2.1 (hall _ q634)), List.forall_mem_cons.mpr ⟨(u_known hall ct_X14.2.1 (hall _ q963)), List.forall_mem_cons.mpr ⟨(u_known hall ct_X15.2.1 (hall _ q868)), List.forall_mem_cons.mpr ⟨(u_known hall ct_X16.2.1 (hall _ q887)), List.forall_mem_cons.mpr ⟨(u_known hall ct_X17.2.1 (hall _ q899)), List.forall_mem_cons.mpr ⟨(u_known hall ct_X18.2.1 (hall _ q912)), List.forall_mem_cons.mpr ⟨(u_known hall ct_X19.2.1 (hall _ q925)), List.forall_mem_cons.mpr ⟨(u_known hall ct_X20.2.1 (hall _ q939)), List.forall_mem_cons.mpr ⟨(u_known hall ct_X21.2.1 (hall _ q951)), fun _ h => absurd h List.not_mem_nil⟩⟩⟩⟩⟩⟩⟩⟩⟩⟩⟩⟩⟩⟩⟩⟩⟩⟩⟩⟩⟩⟩
theorem st_arr {args : Array Value} {s : State} (hall : ∀ w ∈ lw_all, w.before args s = true) (hts : ∀ w ∈ lw_tbl, w.before args s = true) : ∀ t ∈ ah_tags, ∃ cA : ClassId, ArrOfT s cA (ah_aty t) ∧ va_RA s cA (ah_aty t) := by
  have prim : ∀ ty : FieldType, (Cond.arrayClass ty).before args s = true → ∃ c : ClassId, ArrOfT s c ty ∧ s.vm.findClass ("[" ++ ty.toString) = some c := fun ty h => by
    obtain ⟨c, k, comp, h1, h2, h3⟩ := Cond.arrayClass_spec h
    exact ⟨c, fun n z => ⟨fun k h => (by cases h), k, h2, comp, h3⟩, h1⟩
  have ref : ∀ C : String, (Cond.arrayOver (.object C)).before args s = true → ∃ c : ClassId, ArrOfT s c (.object C) ∧ va_RA s c (.object C) := fun C h => by
    obtain ⟨comp, c, k, h0, -, h2, h3, h4⟩ := Cond.arrayOver_spec h
    exact ⟨c, fun n z => ⟨fun k h => (by cases h), k, h2, comp, h3⟩, k, comp, h2, h3, h0, h4⟩
  exact List.forall_mem_cons.mpr ⟨(prim _ (hall _ q205)), List.forall_mem_cons.mpr ⟨(prim _ (hall _ q1210)), List.forall_mem_cons.mpr ⟨(prim _ (hall _ q1211)), List.forall_mem_cons.mpr ⟨(prim _ (hall _ q1212)), List.forall_mem_cons.mpr ⟨(prim _ (hall _ q1213)), List.forall_mem_cons.mpr ⟨(ref _ (hts _ q139)), List.forall_mem_cons.mpr ⟨(ref _ (hts _ q207)), List.forall_mem_cons.mpr ⟨(ref _ (hts _ q209)), List.forall_mem_cons.mpr ⟨(ref _ (hts _ q270)), List.forall_mem_cons.mpr ⟨(ref _ (hts _ q272)), List.forall_mem_cons.mpr ⟨(ref _ (hts _ q274)), fun _ h => absurd h List.not_mem_nil⟩⟩⟩⟩⟩⟩⟩⟩⟩⟩⟩
theorem st_nw {w : Cond} (hk : ah_nwk w = true) {A : Array Value} {s : State} (h : w.before A s = true) : va_Nw w s := by
  unfold ah_nwk at hk
  split at hk
  · exact va_Nw.of rfl h
  · exact va_Nw.of rfl h
  · exact va_Nw.of rfl h
  · exact va_Nw.of rfl h
  · exact h
  · exact va_Nw.of rfl h
  · exact va_Nw.of rfl h
  · exact va_Nw.of rfl h
  · exact va_Nw.of rfl h
  · exact va_Nw.of rfl h
  · exact dm_moved (Vm.Alike.refl _) h
  · cases hk
set_option maxRecDepth 100000 in
theorem st_nd : ∀ w ∈ ah_nd, w ∈ flatC (Jvm.Cond.and given_1 narrow_1) := by decide +kernel
set_option maxRecDepth 100000 in
theorem st_nc : ∀ q ∈ ah_nc, Cond.not (.castable q.1 q.2) ∈ flatC (Jvm.Cond.and given_1 narrow_1) := by decide +kernel
theorem st_K {args : Array Value} {s : State} (hts : ∀ w ∈ lw_tbl, w.before args s = true) (hgv : (Jvm.Cond.and given_1 narrow_1).before args s = true) : ∃ D : ah_D, ah_K D s := by
  have hall : ∀ w ∈ lw_all, w.before args s = true := fun w h => hts w (lw_all_tbl h)
  have hs := flat_of_before _ hgv
  have h1 : ∀ c : Nat, ∃ x : ClassId × (Nat → Nat), ∀ q, ah_cl[c]? = some q → u_Kn s q.1 q.2.1 q.2.2 x.1 x.2 := fun c => by
    cases hc : ah_cl[c]? with
    | none => exact ⟨(0, fun _ => 0), fun q h => by cases h⟩
    | some q =>
      obtain ⟨cC, iS, hu⟩ := st_cls hall q (List.mem_of_getElem? hc)
      exact ⟨(cC, iS), fun q' h => by cases h; exact hu⟩
  have h2 : ∀ t : Nat, ∃ cA : ClassId, t ∈ ah_tags → ArrOfT s cA (ah_aty t) ∧ va_RA s cA (ah_aty t) := fun t => by
    by_cases ht : t ∈ ah_tags
    · obtain ⟨cA, h⟩ := st_arr hall hts t ht
      exact ⟨cA, fun _ => h⟩
    · exact ⟨0, fun h => absurd h ht⟩
  obtain ⟨f, hf⟩ := Classical.axiomOfChoice h1
  obtain ⟨g, hg⟩ := Classical.axiomOfChoice h2
  refine ⟨(fun c => (f c).1, fun c => (f c).2, g), ⟨fun c q hq => hf c q hq, fun k q hk => ?_⟩, fun w hw => ?_, fun q hq => va_Nc.of (hs _ (st_nc q hq))⟩
  · obtain ⟨t, ht, rfl⟩ := List.mem_map.mp (List.mem_of_getElem? hk)
    exact hg t ht
  · refine st_nw (ah_nw_k w hw) (A := args) ?_
    rcases List.mem_append.mp hw with h | h
    · exact hts _ (ah_nw_tbl w h)
    · exact hs _ (st_nd w h)
/-- the abstract heap at the start: nothing is known, n cells are there -/
def ah_0 (n : Nat) : ah_S := ((n, 824571, 6622392), (fun _ => 0, fun _ => 0), fun _ _ => 0, fun _ _ => none, fun _ _ => 0, fun _ _ => 0, fun _ _ => none)
theorem st_A {n q : Nat} : ah_A (ah_0 n) q ↔ n ≤ q := ⟨fun h => by
  rcases h with h | h
  · exact absurd rfl h
  · exact h, fun h => Or.inr h⟩
theorem st_HH (D : ah_D) (H : Heap) : ah_HH D (ah_0 H.size) H := by
  refine ⟨rfl, fun a h => absurd rfl h, fun a => ⟨fun ci r h => ?_, fun t h1 h2 => ?_, fun t h1 h2 => ?_, fun h => ?_⟩⟩
  · have h' : (0 : Nat) = ci + 1 := h
    omega
  · have h' : (0 : Nat) = t := h2
    omega
  · have h' : (0 : Nat) = t := h2
    omega
  · have h' : (0 : Nat) = 2 ∨ (0 : Nat) = 4 := h
    omega
set_option maxRecDepth 100000 in
theorem st_SO {args : Array Value} {s : State} (hts : ∀ w ∈ lw_tbl, w.before args s = true) (hgv : (Jvm.Cond.and given_1 narrow_1).before args s = true) : ah_SO (ah_A (ah_0 s.heap.size)) s := by
  have hs := flat_of_before _ hgv
  have hA : ∀ a : Nat, a < s.heap.size → ¬ ah_A (ah_0 s.heap.size) a := fun a h q => by have := st_A.mp q; omega
  exact ⟨va_Zqof (hts _ q167) (hts _ (lw_all_tbl q96)) (hs _ (by decide +kernel)) hA, va_Zqof (hts _ q169) (hts _ (lw_all_tbl q96)) (hs _ (by decide +kernel)) hA⟩
theorem st_same {s t : State} {L : List Loc} {a b c d : Nat} (h : s.sameButNew t L a b) (hL : ∀ q ∈ L, s.heap.size ≤ q.base) (hc : a ≤ c) (hd : b ≤ d) : s.sameButNew t [] c d := by
  obtain ⟨h1, h2, h3, h4, h5, h6⟩ := h
  refine ⟨h1, h2, by omega, h4, by omega, fun x y hx => ?_⟩
  obtain ⟨c', e1, e2, e3, e4⟩ := h6 x y hx
  refine ⟨c', e1, e2, e3, fun i _ => e4 i (fun hm => ?_)⟩
  have g1 : s.heap.size ≤ x := hL _ hm
  have g2 := (Array.getElem?_eq_some_iff.mp hx).1
  omega
