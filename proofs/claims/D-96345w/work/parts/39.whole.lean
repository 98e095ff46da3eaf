/-! ===== from the pure theorem to the law's walk ===== -/
def R_law : String := "LeftAsFoundLaw"
def lw_P (b : Addr) (xs : List Int32) (args : Array Value) (s : State) : Prop := args = #[.ref b] ∧ s.IntsAt b xs ∧ xs.length ≤ 384 ∧ (Jvm.Cond.and given_1 narrow_1).before args s = true
def lw_Q (_ : Array Value) (s : State) (o : Outcome) (t : State) : Prop := o = .returned (some (.int 1)) ∧ Framed s o t [] 824571 6622392
def lw_Z (below : List Frame) (a : Array Value) (s : State) : State → Prop := fun t => ∃ o, t.status = .running ∧ Ended t below o ∧ lw_Q a s o t
/-- what holds at the law's entry -/
def lw_At (p : Program) (s : State) (m : MethodId) (meth : Method) (c : Code) (b L : Nat) (xs : Nat → Int32) : Prop :=
  p.tables.exec = Jvm.exec ∧ c.code = code ∧ meth.sig.returnType = ret ∧ c.maxLocals = 4 ∧ s.vm.findClass R_law = some m.cls ∧ (∀ w ∈ lw_tbl, w.before #[Value.ref b] s = true) ∧ va_X b L xs s s.heap ∧ b < s.heap.size ∧ meth.locks = false ∧ (Jvm.Cond.and given_1 narrow_1).before #[Value.ref b] s = true ∧ meth.name = "law" ∧ c.exceptionTable.toList.map (fun x => (x.startPc, x.endPc, x.handlerPc, x.catchType)) = []
/-- what the pure part owes -/
def lw_Pure : Prop := ∀ (L : Nat) (xs : Nat → Int32) (n : Nat), L ≤ 384 → ∃ τ, F_L_law L xs (ah_0 n) = some (1, τ)
theorem wh_start (hpure : lw_Pure) {p : Program} {e : Env} {s : State} {m : MethodId} {below : List Frame} {meth : Method} {c : Code} (l : Launch) {b L : Nat} {xs : Nat → Int32} (hL : L ≤ 384) (C0 : lw_At p s m meth c b L xs) : W p l e room_1 s m #[Value.ref b] below meth c s.heap [] 0 0 (lw_Z below #[Value.ref b] s) (entryFrame m ([Value.ref b] : List Value).toArray 4) := by
  obtain ⟨hx, hb, hr, hml, hown, hts, hX, hbl, hlk, hgv, hnm, hex⟩ := C0
  obtain ⟨D, hK⟩ := st_K hts hgv
  have hall : ∀ w ∈ lw_all, w.before #[Value.ref b] s = true := fun w h => hts w (lw_all_tbl h)
  obtain ⟨τ, hF⟩ := hpure L xs s.heap.size hL
  have hA : ∀ q : Nat, q < s.heap.size → ¬ ah_A (ah_0 s.heap.size) q := fun q h z => by have := st_A.mp z; omega
  have hG := W_L_law (κ := (p, l, e, room_1, s, m, #[Value.ref b], below, meth, c, D, ah_0 s.heap.size, (.returned (some (.int 1)), τ))) (rr := ((1 : Int32), τ)) rfl (st_SO hts hgv) (sb := b) (sL := L) (sx := xs) ⟨hX, hbl, hA b hbl⟩ (ah_0 s.heap.size) hF
  have hG := hG ⟨hx, hb, hml, hown, hall, hK, hr, hlk, rfl, rfl, hnm, hex⟩ (ah_Le.refl _) s.heap []
  have hl := lv_entry [Value.ref b] (n := 4) (Nat.le_of_ble_eq_true rfl)
  have hG := hG _ (st_HH D s.heap) va_S.rf ⟨hl.1, hl.2.1, fun i v hi => hl.2.2 (i, v) (by
    match i, hi with
    | 0, hi =>
      cases hi
      exact List.mem_cons_self
    | 1, hi => cases hi
    | 2, hi => cases hi
    | 3, hi => cases hi
    | j + 4, hi => simp at hi)⟩
  have K : W p l e room_1 s m #[Value.ref b] below meth c s.heap [] 0 0 (ah_MQ below D (ah_0 s.heap.size) (.returned (some (.int 1)), τ) s) (entryFrame m ([Value.ref b] : List Value).toArray 4) := by
    rw [lg_entry_eq]
    unfold ah_W at hG
    dsimp only at hG
    rw [Nat.sub_self, Nat.sub_self] at hG
    exact hG
  intro T hT X
  obtain ⟨t, a1, o, b1, b2, b3⟩ := K T hT X
  obtain ⟨e1, -, le, -, hW, Ls, hsame, hLs⟩ := b3
  refine ⟨t, a1, o, b1, b2, e1, ?_⟩
  refine ⟨⟨_, e1⟩, hW, st_same hsame (fun q hq => st_A.mp (hLs q hq)) ?_ ?_⟩
  · show 824571 - _ ≤ 824571
    omega
  · show 6622392 - _ ≤ 6622392
    omega
