/-! ===== the heap of the machine holds the abstract one ===== -/
/-- class numbers, slots of fields, array classes by tag -/
abbrev ah_D : Type := (Nat → ClassId) × (Nat → Nat → Nat) × (Nat → ClassId)
def ah_fv (σ : ah_S) (ci k a : Nat) : Value := if ah_isR (ah_fid ci k) = true then va_rf (ah_fr σ (ah_fid ci k) a) else .int (ah_fi σ (ah_fid ci k) a)
def ah_av (σ : ah_S) (t a : Nat) : (Nat → Int32) ⊕ (Nat → Int64) ⊕ (Nat → UInt32) ⊕ (Nat → UInt64) ⊕ (Nat → Option Nat) := if t = 104 then .inr (.inl (ah_al σ a)) else if 111 ≤ t then .inr (.inr (.inr (.inr (ah_ar σ a)))) else .inl (ah_ai σ a)
def ah_aty (t : Nat) : FieldType := match t with
  | 101 => .int
  | 102 => .byte
  | 103 => .short
  | 104 => .long
  | 105 => .boolean
  | 111 => .object "LeftAsFound$Change"
  | 112 => .object "LeftAsFound$Guest"
  | 113 => .object "LeftAsFound$Held"
  | 114 => .object "LeftAsFound$Hut"
  | 115 => .object "LeftAsFound$Body"
  | _ => .object "java/lang/Object"
def ah_at (D : ah_D) (σ : ah_S) (H : Heap) (a : Nat) : Prop :=
  (∀ (ci : Nat) (r : vw_C), ah_tg σ a = ci + 1 → ah_cl[ci]? = some r → t_OB a (D.1 ci) r.2.2 (D.2.1 ci) H (fun k => ah_fv σ ci k a)) ∧
  (∀ t, 101 ≤ t → ah_tg σ a = t → H[a]? = some (vp_cell (D.2.2 t) (ah_ln σ a, ah_av σ t a))) ∧
  (∀ t, 102 ≤ t ∧ t ≤ 105 ∧ t ≠ 104 → ah_tg σ a = t → ∀ j, fits (ah_aty t) (.int (ah_ai σ a j)) = true) ∧
  (ah_tg σ a = 2 ∨ ah_tg σ a = 4 → ∃ cell : Cell, H[a]? = some cell ∧ cell.slots.size = 6)
def ah_HH (D : ah_D) (σ : ah_S) (H : Heap) : Prop := H.size = ah_nx σ ∧ (∀ a, ah_tg σ a ≠ 0 → a < ah_nx σ) ∧ ∀ a, ah_at D σ H a
def ah_tags : List Nat := [101, 102, 103, 104, 105, 111, 112, 113, 114, 115, 116]
def ah_tys (D : ah_D) : List (ClassId × FieldType) := ah_tags.map (fun t => (D.2.2 t, ah_aty t))
def ah_K (D : ah_D) (U : State) : Prop := va_K (D.1, D.2.1) ah_cl (ah_tys D) U ∧ (∀ w ∈ ah_nw, va_Nw w U) ∧ (∀ q ∈ ah_nc, va_Nc q.1 q.2 U)
def ah_nwk : Cond → Bool
  | .fieldLinkNest .. => true
  | .methodLinkNest .. => true
  | .castable .. => true
  | .declares _ => true
  | .arrayOver (.object _) => true
  | .interfaceMethod .. => true
  | .publicMethod _ => true
  | .unhidden .. => true
  | .sameMethod .. => true
  | .methodLink .. => true
  | .landsInDefault .. => true
  | _ => false
theorem ah_nw_k : ∀ w ∈ ah_nw, ah_nwk w = true := List.all_eq_true.mp (by decide +kernel)
theorem ah_nwk_moved {w : Cond} (hk : ah_nwk w = true) {s U : State} (hW : s.WarmedH U.vm) (h1 : va_Nw w s) : va_Nw w U := by
  unfold ah_nwk at hk
  split at hk
  · exact va_Nw.warmF hW h1
  · exact va_Nw.warmM hW h1
  · exact va_Nw.warmC hW h1
  · exact va_Nw.warmD hW h1
  · exact va_AO.moved hW.alike h1
  · exact va_tabs rfl (rfl : (s.setVm U.vm).vm = U.vm) (by rw [dm_face hW.alike]; exact h1)
  · exact va_tabs rfl (rfl : (s.setVm U.vm).vm = U.vm) (by rw [Cond.publicMethod_setVm hW.alike]; exact h1)
  · exact va_tabs rfl (rfl : (s.setVm U.vm).vm = U.vm) (by rw [Cond.unhidden_setVm hW.alike]; exact h1)
  · exact Cond.onTables_warm (T := U) hW rfl rfl h1
  · exact Cond.onTables_warm (T := U) hW rfl rfl h1
  · exact dm_moved hW.alike h1
  · cases hk
theorem ah_nwk_same {w : Cond} (hk : ah_nwk w = true) {s U : State} (hW : s.vm = U.vm) (h1 : va_Nw w s) : va_Nw w U := by
  unfold ah_nwk at hk
  split at hk
  · exact va_Nw.same rfl hW h1
  · exact va_Nw.same rfl hW h1
  · exact va_Nw.same rfl hW h1
  · exact va_Nw.same rfl hW h1
  · exact va_AO.moved (by rw [hW]; exact Vm.Alike.refl _) h1
  · exact va_Nw.same rfl hW h1
  · exact va_Nw.same rfl hW h1
  · exact va_Nw.same rfl hW h1
  · exact va_Nw.same rfl hW h1
  · exact va_Nw.same rfl hW h1
  · exact dm_moved (by rw [hW]; exact Vm.Alike.refl _) h1
  · cases hk
theorem ah_nw_moved {s U : State} (hW : s.WarmedH U.vm) (h : ∀ w ∈ ah_nw, va_Nw w s) : ∀ w ∈ ah_nw, va_Nw w U := fun w hw => ah_nwk_moved (ah_nw_k w hw) hW (h w hw)
theorem ah_K.moved {D : ah_D} {s U : State} (hW : s.WarmedH U.vm) (h : ah_K D s) : ah_K D U := ⟨va_K.moved hW.alike h.1, ah_nw_moved hW h.2.1, fun q hq => va_Nc.moved hW.alike (h.2.2 q hq)⟩
theorem ah_K.same {D : ah_D} {s U : State} (hW : s.vm = U.vm) (h : ah_K D s) : ah_K D U := by
  refine ⟨va_K.moved (by rw [hW]; exact Vm.Alike.refl _) h.1, fun w hw => ?_, fun q hq => va_Nc.moved (by rw [hW]; exact Vm.Alike.refl _) (h.2.2 q hq)⟩
  exact ah_nwk_same (ah_nw_k w hw) hW (h.2.1 w hw)
theorem ah_at.kept {D : ah_D} {σ : ah_S} {H H1 : Heap} {a : Nat} (h : ah_at D σ H a) (hq : H1[a]? = H[a]?) : ah_at D σ H1 a := ⟨fun ci r h1 h2 => (h.1 ci r h1 h2).kept hq, fun t h1 h2 => hq.trans (h.2.1 t h1 h2), h.2.2.1, fun g => by rw [hq]; exact h.2.2.2 g⟩
theorem ah_HH.lt {D : ah_D} {σ : ah_S} {H : Heap} (h : ah_HH D σ H) {a : Nat} (ha : ah_tg σ a ≠ 0) : a < H.size := by rw [h.1]; exact h.2.1 a ha
/-- which cells a method may change -/
def ah_A (σ : ah_S) : Nat → Prop := fun q => ah_tg σ q ≠ 0 ∨ ah_nx σ ≤ q
theorem ah_A.sub {σ τ : ah_S} (h : ah_Le σ τ) {q : Nat} (hq : ah_A τ q) : ah_A σ q := by
  rcases hq with q1 | q1
  · exact h.2.2.2 _ q1
  · exact Or.inr (Nat.le_trans h.1 q1)
def ah_Hold (D : ah_D) (σ : ah_S) (U : State) : Prop := ah_HH D σ U.heap ∧ ah_K D U
/-- how a method ends: its answer o, the heap τ -/
def ah_Q (D : ah_D) (σ : ah_S) (res : Outcome × ah_S) (st : State) (oc : Outcome) (t : State) : Prop :=
  oc = res.1 ∧ ah_HH D res.2 t.heap ∧ ah_Le σ res.2 ∧ va_F (ah_A σ) st t ∧ st.WarmedH t.vm ∧ ∃ L, st.sameButNew ({ t with vm := st.vm } : State) L (ah_rc σ - ah_rc res.2) (ah_rs σ - ah_rs res.2) ∧ ∀ q ∈ L, ah_A σ q.base
def ah_room (σ : ah_S) (fr lo : Nat) : Room := { frames := fr, cells := ah_rc σ, slots := ah_rs σ, locals := lo }
/-- the contract of a method: from the heap σ with the arguments av it ends with res -/
def ah_Met (l : Launch) (y : MethodName) (cw : Cond) (fr lo : Nat) (D : ah_D) (av : List Value) (σ : ah_S) (res : Outcome × ah_S) : Prop :=
  MetFree l y (headSpec (cw :: lw_all) (ah_room σ fr lo)) (va_Pc av (fun U => ah_Hold D σ U)) (fun _ _ _ _ _ => True) (fun _ st oc t => ah_Q D σ res st oc t)
def ah_MQ (below : List Frame) (D : ah_D) (σ : ah_S) (res : Outcome × ah_S) (s : State) : State → Prop := fun t => ∃ o, t.status = .running ∧ Ended t below o ∧ ah_Q D σ res s o t
/-- locals: what is known of each -/
def ah_lv (ls : Array Slot) (nL : Nat) (L : List (Option Value)) : Prop := ls.size = nL ∧ lv_wf ls ∧ ∀ (i : Nat) (v : Value), L[i]? = some (some v) → ls[i]? = some (.val v)
/-- p l e R s m args below meth c; D; the heap at the entry; the end -/
abbrev ah_C : Type := Program × Launch × Env × Room × State × MethodId × Array Value × List Frame × Method × Code × ah_D × ah_S × (Outcome × ah_S)
/-- own class, method's name, locals, answer, handlers, frames, locals' room -/
abbrev ah_M : Type := String × String × Nat × Option FieldType × List (Nat × Nat × Nat × Nat) × Nat × Nat
def ah_OK (κ : ah_C) (μ : ah_M) (cc : ByteArray) : Prop := match κ, μ with
  | (p, l, e, R, s, m, args, below, meth, c, D, σ, res), (own, nm, nL, ret, hh, fr, lo) =>
    p.tables.exec = Jvm.exec ∧ c.code = cc ∧ c.maxLocals = nL ∧ s.vm.findClass own = some m.cls ∧ (∀ w ∈ lw_all, w.before args s = true) ∧ ah_K D s ∧ meth.sig.returnType = ret ∧ meth.locks = false ∧ R = ah_room σ fr lo ∧ s.heap.size = ah_nx σ ∧ meth.name = nm ∧
      c.exceptionTable.toList.map (fun x => (x.startPc, x.endPc, x.handlerPc, x.catchType)) = hh
def ah_W (κ : ah_C) (H : Heap) (locs : List Loc) (σ : ah_S) (g : MethodId → JFrame) : Prop := match κ with
  | (p, l, e, R, s, m, args, below, meth, c, D, σ0, res) => W p l e R s m args below meth c H locs (ah_rc σ0 - ah_rc σ) (ah_rs σ0 - ah_rs σ) (ah_MQ below D σ0 res s) (g m)
/-- the judgement: from here, with the heap σ, the locals L and the stack st, the method comes to its end -/
def ah_G (κ : ah_C) (μ : ah_M) (cc : ByteArray) (σ : ah_S) (pc : Nat) (L : List (Option Value)) (st : List Value) : Prop :=
  ah_OK κ μ cc → ah_Le κ.2.2.2.2.2.2.2.2.2.2.2.1 σ → ∀ (H : Heap) (locs : List Loc) (ls : Array Slot), ah_HH κ.2.2.2.2.2.2.2.2.2.2.1 σ H → va_S (ah_A κ.2.2.2.2.2.2.2.2.2.2.2.1) κ.2.2.2.2.1.heap H locs → ah_lv ls μ.2.2.1 L →
    ah_W κ H locs σ (fun m => F0 m pc ls st)
