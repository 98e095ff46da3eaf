/-! ===== a method of an interface that isn't said to be initialised: its contract, and the call ===== -/
/-- as MetFree, without the class's being initialised -/
def dm_Met (l : Launch) (y : MethodName) (bytes : ByteArray) (maxL : Nat) (ret : Option FieldType) (ws : List Cond) (rm : Room) (P : Array Value → State → Prop) (Q : Array Value → State → Outcome → State → Prop) : Prop :=
  ∀ (p : Program) (e : Env) (s : State) (m : MethodId) (args : Array Value) (below : List Frame) (meth : Method) (c : Code), Stand p l e rm s m args below meth c (s.setFrames (.java (entryFrame m args maxL) :: below)) [] 0 0 → p.tables.exec = Jvm.exec → c.code = bytes → c.maxLocals = maxL → meth.sig.returnType = ret → meth.locks = false → s.methodNamed? y = some m → (∀ w ∈ ws, w.before args s = true) → P args s →
    ∃ s₂ o, Steps p.tables e below ((s.setFrames (.java (entryFrame m args maxL) :: below)).setTop (entryFrame m args maxL)) s₂ ∧ s₂.status = .running ∧ Ended s₂ below o ∧ Q args s o s₂
theorem dm_weak {tb : Tables} {e : Env} {mid below : List Frame} {s t : State} (h : Steps tb e (mid ++ below) s t) : Steps tb e below s t := by
  obtain ⟨n, hn, hw⟩ := h
  exact ⟨n, hn, fun k hk => (hw k hk).weaken⟩
section
variable {l : Launch} {R : Room} {p : Program} {e : Env} {below : List Frame} {s : State} {sargs : Array Value} {y : MethodName} {len W : Nat}
theorem dm_back {Pre : Pt → Array Value → Prop} {Post : Pt → Array Value → Option Value → Pt → Prop} {ws : List Cond} {rm : Room} {P : Array Value → State → Prop}
    {Q : Array Value → State → Outcome → State → Prop} {bytes : ByteArray} {maxL : Nat} {ret : Option FieldType}
    {E : Array Value → State → Outcome → State → List Loc → Nat → Nat → Prop} (hy : plainFor y = true)
    (hM : dm_Met l y bytes maxL ret ws rm P Q)
    (hframes : rm.frames + 1 ≤ R.frames) (hlocals : W + (maxL + 11) + rm.locals ≤ R.locals)
    (hpre : ∀ m meth c (A : Pt) a, Stand p l e R s m sargs below meth c A.U A.locs A.cells A.slots → Pre A a → (∀ w ∈ ws, w.before a A.U = true) ∧ (Cond.code y bytes maxL ret).before a A.U = true ∧ A.cells + rm.cells ≤ R.cells ∧ A.slots + rm.slots ≤ R.slots)
    (hP : ∀ m meth c (A : Pt) a (g : JFrame) mk, Stand p l e R s m sargs below meth c A.U A.locs A.cells A.slots → Pre A a → P a (A.U.calling g mk a))
    (hQ : ∀ a first o t, Q a first o t → ∃ L k n, FrameEnd first o t L k n ∧ E a first o t L k n)
    (hpost : ∀ m meth c (A : Pt) a (g : JFrame) mk v t L k n, Stand p l e R s m sargs below meth c A.U A.locs A.cells A.slots → Pre A a → Q a (A.U.calling g mk a) (.returned v) t → FrameEnd (A.U.calling g mk a) (.returned v) t L k n → E a (A.U.calling g mk a) (.returned v) t L k n →
      Post A a v ⟨(({ A.U with heap := t.heap, slotsUsed := t.slotsUsed } : State).setVm t.vm), A.locs ++ L, A.cells + k, A.slots + n⟩) :
    Back l R p e below s sargs y len W Pre Post := by
  intro m meth c A g ig mk a X hg hsize hdg hW hn hp
  obtain ⟨h1, h2, h4, h5⟩ := hpre m meth c A a X hp
  obtain ⟨U, Ls, c0, s0⟩ := A
  dsimp only [Pt.U, Pt.locs, Pt.cells, Pt.slots] at h1 h2 h4 h5 X hn ⊢
  obtain ⟨methY, cY, hmY, hcY, hbY, hlY, hrY, hkY, -, -⟩ := Cond.code_spec hn h2
  have h : At U g.method c below := by rw [hg]; exact X.here
  have hroom : (U.calling g mk a).hasRoom e.platform rm = true := X.room_calling (g := g) (R' := rm) hsize hmY hcY hframes (by rw [hlY]; omega) h4 h5
  have hf : (U.calling g mk a).frames = .invoking mk a :: (U.setTop g).frames := by
    rw [State.frames_calling h.top g mk a, State.frames_setTop' g h.top]
  have hcur := State.cur_lt_of_frames hf
  have hf1 : ((U.calling g mk a).setFrames (.java (entryFrame mk a maxL) :: (U.setTop g).frames)).frames = .java (entryFrame mk a maxL) :: (U.setTop g).frames := State.frames_setFrames _ hcur
  have ht1 := State.topJava?_of_frames hf1
  have hcode : (U.calling g mk a).code? g.method = some c := by
    have := h.code
    rw [State.code?_eq] at this ⊢
    simpa [State.calling, State.pushFrame, State.setFrames] using this
  have hnC : (U.calling g mk a).methodNamed? y = some mk := hn
  have hmC : (U.calling g mk a).vm.method? mk = some methY := hmY
  have hplain : ((U.calling g mk a).setFrames (.java (entryFrame mk a maxL) :: (U.setTop g).frames)).plainMethod mk := State.plainMethod.of_named (s := U.calling g mk a) hy hnC hmC
  have hAt : At ((U.calling g mk a).setFrames (.java (entryFrame mk a maxL) :: (U.setTop g).frames)) mk cY (U.setTop g).frames :=
    ⟨by rw [ht1]; rfl, ⟨[], by rw [hf1]; rfl⟩, h.running, by simpa [State.calling] using h.runnable, by simpa [State.calling] using h.alone,
      by rw [State.code?_eq]; simp [State.setFrames, hmC, hcY], hplain⟩
  have hhears : (U.calling g mk a).hears mk (U.setTop g).frames = true := by
    rw [State.frames_setTop' g h.top]
    simp [State.hears, hcode, hdg, Except.toOption]
  obtain ⟨t0, ht0, -⟩ := State.frames_cons hf
  have XC : Stand p l e rm (U.calling g mk a) mk a (U.setTop g).frames methY cY ((U.calling g mk a).setFrames (.java (entryFrame mk a maxL) :: (U.setTop g).frames)) [] 0 0 :=
    ⟨X.admits, X.cas, X.clock, hf, hroom, hhears, hmC, hcY, hAt, by rw [hf1]; rfl, State.WarmedH.refl _, by rw [State.stackLimits_setFrames], by rw [State.stackBytes_setFrames], (State.sameButNew.refl (U.calling g mk a) ht0).setFrames (.java (entryFrame mk a maxL) :: (U.setTop g).frames) hcur⟩
  obtain ⟨s₂, o, hs, hr, hend, hq⟩ := hM p e (U.calling g mk a) mk a (U.setTop g).frames methY cY XC (by cases p <;> rfl) hbY hlY hrY hkY hnC (fun w hw => by rw [State.calling_eq h.top, Cond.before_setFrames]; exact h1 w hw) (hP m meth c ⟨U, Ls, c0, s0⟩ a g mk X hp)
  have hstep : (doInvoke e (U.setTop g) [] mk a).1 = ((U.calling g mk a).setFrames (.java (entryFrame mk a maxL) :: (U.setTop g).frames)).setTop (entryFrame mk a maxL) := by
    have hfull : e.platform.stackFull (U.setTop g).me (U.setTop g).frames cY.maxLocals = false := by
      obtain ⟨-, a1, -, a2⟩ := State.hasRoom_stack hroom
      rw [hf, List.length_cons] at a1
      rw [State.localsInUse_invoking hf hmC hcY] at a2
      have hw := stackUse_le_stackWeight (U.setTop g).frames
      have hlim : e.platform.stackLimits (U.calling g mk a).me = e.platform.stackLimits (U.setTop g).me := by
        show e.platform.stackLimits ((U.setTop g).pushFrame (.invoking mk a)).me = _
        rw [State.pushFrame, State.stackLimits_setFrames]
      rw [hlim] at a1 a2
      exact Platform.stackFull_eq_false (by omega) (by omega)
    rw [(doInvoke_java (s := U.setTop g) (e := e) (meth := methY) (code := cY) hmY hcY hkY hfull).1, State.setTop_self ht1]
    have hcur2 : (U.setTop g).cur < (U.setTop g).threads.size := by
      obtain ⟨g₀, hg0⟩ := Option.isSome_iff_exists.mp h.top
      obtain ⟨r, hr⟩ := State.topJava?_eq_some.mp hg0
      exact State.cur_lt_of_frames (State.frames_setTop' g h.top)
    show (U.setTop g).pushFrame _ = ((U.setTop g).pushFrame (.invoking mk a)).setFrames _
    simp only [State.pushFrame, State.setFrames_setFrames, hlY, entryFrame]
  obtain ⟨mid, hmid⟩ := h.above
  have hfr : (U.setTop g).frames = (.java g :: mid) ++ below := by rw [State.frames_setTop' g h.top, hmid]; rfl
  have hsteps : Steps p.tables e below (doInvoke e (U.setTop g) [] mk a).1 s₂ := by
    rw [hstep]
    rw [hfr] at hs ⊢
    exact dm_weak hs
  have hq' : Q a (U.calling g mk a) o s₂ := hq
  rw [State.frames_setTop' g h.top] at hend
  obtain ⟨L, k, n, hfe, hE⟩ := hQ _ _ _ _ hq'
  obtain ⟨⟨v, rfl⟩, hW₂, e2, q2, q3, q4, q5, q6⟩ := id hfe
  have e3 : s₂ = ({ (U.calling g mk a).setFrames s₂.frames with heap := s₂.heap, slotsUsed := s₂.slotsUsed } : State).setVm s₂.vm := by
    have : s₂ = ({ s₂ with vm := (U.calling g mk a).vm } : State).setVm s₂.vm := rfl
    rw [e2] at this
    exact this
  obtain ⟨c₂, i₂, len₂, hc₂, hd₂, hf₂⟩ := hend
  have hW' : U.WarmedH s₂.vm := hW₂
  have hcc : c₂ = c := by
    have h1 : s₂.code? g.method = U.code? g.method := by
      rw [State.code?_eq, State.code?_eq, hW'.alike.method?]
    exact Option.some.inj (hc₂.symm.trans (h1.trans h.code))
  subst hcc
  have hlen : len₂ = len := by rw [hdg] at hd₂; cases hd₂; rfl
  subst hlen
  obtain ⟨g₀, hg0⟩ := Option.isSome_iff_exists.mp h.top
  obtain ⟨r, hr⟩ := State.topJava?_eq_some.mp hg0
  have hs₂ : s₂ = (({ U with heap := s₂.heap, slotsUsed := s₂.slotsUsed } : State).setVm s₂.vm).setTop { g with pc := g.pc + len₂, stack := v.toList ++ g.stack } := by
    have hr' : (({ U with heap := s₂.heap, slotsUsed := s₂.slotsUsed } : State).setVm s₂.vm).frames = .java g₀ :: r := hr
    refine e3.trans ?_
    rw [hf₂, State.calling_eq h.top, State.setFrames_setFrames, State.setTop_of_frames _ hr', hr]
    rfl
  have hsame : U.sameButNew ({ U with heap := s₂.heap, slotsUsed := s₂.slotsUsed } : State) L k n := by
    refine ⟨?_, q2, q3, q4, q5, q6⟩
    obtain ⟨t, ht, -⟩ := State.frames_cons hr
    show ({ U with heap := s₂.heap, slotsUsed := s₂.slotsUsed } : State) = { U.setFrames U.frames with heap := s₂.heap, slotsUsed := s₂.slotsUsed }
    rw [State.setFrames_self ht]
  subst hg
  refine ⟨v, ⟨(({ U with heap := s₂.heap, slotsUsed := s₂.slotsUsed } : State).setVm s₂.vm), Ls ++ L, c0 + k, s0 + n⟩,
    ⟨X.admits, X.cas, X.clock, X.frames, X.room, X.hears, X.method, X.code, (X.here.setHeapUsed s₂.heap s₂.slotsUsed).setVm hW'.alike, X.tail, State.WarmedH.trans X.warmed hW', X.limits, X.bytes, X.same.trans (hsame.setVm s.vm)⟩,
    hpost _ meth _ ⟨U, Ls, c0, s0⟩ a g mk v s₂ L k n X hp hq' hfe hE, ?_⟩
  show Steps p.tables e below _ ((({ U with heap := s₂.heap, slotsUsed := s₂.slotsUsed } : State).setVm s₂.vm).setTop { g with pc := g.pc + len₂, stack := v.toList ++ g.stack })
  rw [← hs₂]
  exact hsteps
end
