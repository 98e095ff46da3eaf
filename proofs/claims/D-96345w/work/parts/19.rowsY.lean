/-! ===== Throwable's constructor: statics that it reads, fields of Fault and Torn that nobody asks ===== -/
def ah_SO (A : Nat → Prop) (U : State) : Prop := va_Zq "java/lang/Throwable" "UNASSIGNED_STACK" "[Ljava/lang/StackTraceElement;" A U U.heap ∧ va_Zq "java/lang/Throwable" "SUPPRESSED_SENTINEL" "Ljava/util/List;" A U U.heap
abbrev ah_kso (κ : ah_C) : Prop := ah_SO (ah_A κ.2.2.2.2.2.2.2.2.2.2.2.1) κ.2.2.2.2.1
def ah_MetS (l : Launch) (y : MethodName) (cw : Cond) (fr lo : Nat) (D : ah_D) (av : List Value) (σ : ah_S) (res : Outcome × ah_S) : Prop :=
  MetFree l y (headSpec (cw :: lw_all) (ah_room σ fr lo)) (va_Pc av (fun U => ah_Hold D σ U ∧ ah_SO (ah_A σ) U)) (fun _ _ _ _ _ => True) (fun _ st oc t => ah_Q D σ res st oc t)
theorem ah_SO.same {A : Nat → Prop} {u U : State} (hvm : u.vm = U.vm) (hh : u.heap = U.heap) (h : ah_SO A u) : ah_SO A U := by
  unfold ah_SO at h ⊢
  rw [hh] at h
  exact ⟨va_Zq.moved (by rw [hvm]; exact Vm.Alike.refl _) h.1, va_Zq.moved (by rw [hvm]; exact Vm.Alike.refl _) h.2⟩
theorem ah_SO.on {σ0 σ : ah_S} {s U : State} {locs : List Loc} (h : ah_SO (ah_A σ0) s) (le : ah_Le σ0 σ) (hS : va_S (ah_A σ0) s.heap U.heap locs) (hW : s.WarmedH U.vm) : ah_SO (ah_A σ) U :=
  ⟨((va_Zq.moved hW.alike h.1).kept hS.2.1).narrow (ah_A.mono le), ((va_Zq.moved hW.alike h.2).kept hS.2.1).narrow (ah_A.mono le)⟩
theorem ah_ofGS {l : Launch} {y : MethodName} {cc : ByteArray} {maxL fr lo : Nat} {ret : Option FieldType} {D : ah_D} {av : List Value} {σ : ah_S} {res : Outcome × ah_S} {own nm : String} {L0 : List (Option Value)} (hy : plainFor y = true) (ho : y.cls = own) (hn0 : y.name = nm) (hlen : L0.length = maxL) (hL0 : ah_ao 0 av L0)
    (hg : ∀ κ : ah_C, ah_res κ = res → ah_kso κ → ah_G κ (own, nm, maxL, ret, [], fr, lo) cc σ 0 L0 []) : ah_MetS l y (Cond.code y cc maxL ret) fr lo D av σ res := by
  refine MetFree.of_bodySF (code := cc) (maxLocals := maxL) (ret := ret) hy ?_ ?_
  · intro args s m h hn
    obtain ⟨meth, c, h1, h2, h3, h4, h5, h6, -, -⟩ := Cond.code_spec hn (atoms_spec (ws := Cond.code y cc maxL ret :: lw_all) h _ List.mem_cons_self)
    exact ⟨meth, c, h1, h2, h3, h4, h5, h6⟩
  · intro p e s m args below meth c s₁ B hml hP _
    obtain ⟨rfl, hHold, hso⟩ := hP
    have hh0 : s₁.heap = s.heap := by rw [B.state]; rfl
    have hts := atoms_spec (ws := Cond.code y cc maxL ret :: lw_all) B.pre
    have hex : c.exceptionTable.toList.map (fun x => (x.startPc, x.endPc, x.handlerPc, x.catchType)) = [] := by
      obtain ⟨meth', c', hm', hc', -, -, -, -, hempty, -⟩ := Cond.code_spec B.named (hts _ List.mem_cons_self)
      have X := Stand.of_body B
      cases B.method.symm.trans hm'
      cases X.code.symm.trans hc'
      have h0 : c.exceptionTable.size = 0 := by simpa [Array.isEmpty] using hempty
      have h1 : c.exceptionTable.toList = [] := List.eq_nil_of_length_eq_zero (by simpa using h0)
      rw [h1]; rfl
    have hG := hg (p, l, e, (headSpec (Cond.code y cc maxL ret :: lw_all) (ah_room σ fr lo)).room, s, m, av.toArray, below, meth, c, D, σ, res) rfl hso
      ⟨B.exec, B.bytes, hml, by rw [← ho]; exact findClass_of_methodNamed B.named, fun w h => hts w (List.mem_cons_of_mem _ h), hHold.2, B.returns, B.notSynchronized, rfl, hHold.1.1, by rw [← hn0]; exact (name_of_methodNamed B.named B.method).1, hex⟩ (ah_Le.refl σ) s.heap []
    have hl := lv_entry av (n := maxL) (by rw [← hlen]; exact hL0.2)
    have hG := hG _ hHold.1 va_S.rf ⟨hl.1, hl.2.1, fun i v hi => hl.2.2 (i, v) (by have := hL0.1 i v hi; rwa [Nat.zero_add] at this)⟩
    have K : W p l e (headSpec (Cond.code y cc maxL ret :: lw_all) (ah_room σ fr lo)).room s m av.toArray below meth c s.heap [] 0 0 (ah_MQ below D σ res s) (entryFrame m av.toArray maxL) := by
      rw [lg_entry_eq]
      unfold ah_W at hG
      dsimp only at hG
      rw [Nat.sub_self, Nat.sub_self] at hG
      exact hG
    obtain ⟨t, a1, o, b1, b2, b3⟩ := K s₁ hh0 (Stand.of_body B)
    exact ⟨t, o, a1, b1, b2, b3⟩
section
variable {l : Launch} {R : Room} {p : Program} {e : Env} {below : List Frame} {s : State} {sargs : Array Value} {y : MethodName} {len : Nat}
theorem ah_backS {bytes : ByteArray} {maxL fr lo : Nat} {ret : Option FieldType} {D : ah_D} {av : List Value} {σ τ : ah_S} {v : Option Value} (hM : ah_MetS l y (Cond.code y bytes maxL ret) fr lo D av σ (.returned v, τ)) (hframes : fr + 1 ≤ R.frames) (hlocals : 8 + (maxL + 11) + lo ≤ R.locals)
    (hts : ∀ w ∈ lw_all, w.before sargs s = true) (hcode : Cond.code y bytes maxL ret ∈ lw_all) (hini : Cond.initialized y.cls ∈ lw_all) : Back l R p e below s sargs y len 8 (fun A a => ah_Pre D R σ av A a ∧ ah_SO (ah_A σ) A.U) (ah_Post D σ τ v) := by
  have hws := pay_in hts (lw_meth hcode)
  have hin : ∀ a' U, s.WarmedH U.vm → (Cond.initialized y.cls).before a' U = true := fun a' U hW => pay_in hts lw_self _ hini a' U hW
  refine Back.of_free (S := headSpec (Cond.code y bytes maxL ret :: lw_all) (ah_room σ fr lo)) (P := va_Pc av (fun U => ah_Hold D σ U ∧ ah_SO (ah_A σ) U)) (K := fun _ _ _ _ _ => True) (Q := fun _ st oc t => ah_Q D σ (.returned v, τ) st oc t) (bytes := bytes) (maxL := maxL) (ret := ret)
    (E := fun a st o t L k n => k = ah_rc σ - ah_rc τ ∧ n = ah_rs σ - ah_rs τ ∧ ∀ q ∈ L, ah_A σ q.base) hM hframes hlocals ?_ ?_ (fun _ _ _ _ _ _ _ _ _ => trivial) ?_ ?_
  · intro m meth c A a X hp
    exact ⟨atoms_intro fun w hw => hws w hw _ _ X.warmed, hws _ List.mem_cons_self _ _ X.warmed, hin _ _ X.warmed, hp.1.1, hp.1.2.1⟩
  · intro m meth c A a g mk X hp
    obtain ⟨⟨-, -, rfl, hh⟩, hso⟩ := hp
    exact ⟨rfl, hh.calling, ah_SO.same rfl rfl hso⟩
  · intro a st o t hq
    obtain ⟨h1, h2, h3, h4, h5, L, h6, h7⟩ := hq
    exact ⟨L, _, _, ⟨⟨v, h1⟩, h5, h6⟩, rfl, rfl, h7⟩
  · intro m meth c A a g mk v' t L k n X hp hq hF hE
    obtain ⟨e1, e2, hL⟩ := hE
    subst e1; subst e2
    obtain ⟨h1, h2, h3, h4, h5, -⟩ := hq
    exact ⟨Outcome.returned.inj h1, h2, h3, h4.1, h4.2, rfl, rfl, L, rfl, hL⟩
end
section
variable {κ : ah_C} {own : String} {μ : String × Nat × Option FieldType × List (Nat × Nat × Nat × Nat) × Nat × Nat} {cc : ByteArray} {σ τ : ah_S} {pc pc' : Nat} {L : List (Option Value)} {rest : List Value}
theorem ro_callIS {idx maxL fr_ lo_ n : Nat} {y : MethodName} {bytes : ByteArray} {As : List Value} {v : Option Value} {r : Option Nat} {b : Nat} (hso : ah_kso κ) (hrb : r = some b) (hq2 : Cond.instanceMethod y ∈ lw_all) (hy1 : y.name = "<init>") (hM : ah_MetS (ah_la κ) y (Cond.code y bytes maxL none) fr_ lo_ (ah_Dd κ) (va_rf r :: As) σ (.returned v, τ)) (hq : Cond.methodLink own idx y ∈ lw_all) (hcode : Cond.code y bytes maxL none ∈ lw_all) (hini : Cond.initialized y.cls ∈ lw_all)
    (hd0 : y.cls ≠ "java/lang/invoke/MethodHandle" ∧ y.cls ≠ "java/lang/invoke/VarHandle" ∧ (parseMethodDescriptor y.desc).map (fun d => d.parameters.length) = some n) (hn : As.length = n) (hR0 : fr_ + 1 ≤ μ.2.2.2.2.1 ∧ 8 + (maxL + 11) + lo_ ≤ μ.2.2.2.2.2) (hst : (rest.map fun v => v.category).sum ≤ 8)
    (hd : decode cc pc = .ok (.invokespecial idx, 3)) (hp : pc + 3 = pc') {st st' : List Value} (hsk : st = As.reverse ++ va_rf r :: rest) (hsk' : v.toList ++ rest = st') (k : ah_G κ (own, μ) cc τ pc' L st') : ah_G κ (own, μ) cc σ pc L st := by
  subst hp
  subst hsk
  subst hsk'
  subst hrb
  intro ok le H locs ls hH hS hl
  obtain ⟨p, l, e, R, s, m, args, below, meth, c, D, σ0, res⟩ := κ
  obtain ⟨nm, nL, ret, hh, fr, lo⟩ := μ
  obtain ⟨hx, hb, hml, hown, hts, hK, hr, hlk, hR, hsz, hnm, hex⟩ := id ok
  obtain ⟨hf1, hf2⟩ := hR0
  have hf1 : fr_ + 1 ≤ fr := hf1
  have hf2 : 8 + (maxL + 11) + lo_ ≤ lo := hf2
  have hso : ah_SO (ah_A σ0) s := hso
  have hB : Back l R p e below s args y 3 8 (fun A a => ah_Pre D R σ (.ref b :: As) A a ∧ ah_SO (ah_A σ) A.U) (ah_Post D σ τ v) := ah_backS hM (by rw [hR]; exact hf1) (by rw [hR]; exact hf2) hts hcode hini
  have hyy : y.cls ≠ "java/lang/invoke/MethodHandle" ∧ y.cls ≠ "java/lang/invoke/VarHandle" := ⟨hd0.1, hd0.2.1⟩
  intro T hT X
  have a1 : ah_rc σ ≤ ah_rc σ0 := le.2.1
  have a2 : ah_rs σ ≤ ah_rs σ0 := le.2.2.1
  have hRc : R.cells = ah_rc σ0 := by rw [hR]; rfl
  have hRs : R.slots = ah_rs σ0 := by rw [hR]; rfl
  obtain ⟨v', vm₁, ⟨U', l2, c2, s2⟩, hW₁, X', hpost, st⟩ := callI X hx hown hy1 (hts _ hq) (hts _ hq2) (hts _ hcode) hyy hB (g := F0 m pc ls (As.reverse ++ .ref b :: rest)) rfl (hl.1.trans hml.symm) (a := b) (argsL := As) (rest := rest) (fun sig h => by
      have h2 := hd0.2.2
      rw [h] at h2
      exact hn.trans (Option.some.inj h2).symm) rfl (lv_room hst) (by rw [hb]; exact hd)
    (fun vm₁ hW₁ => ⟨⟨by show ah_rc σ0 - ah_rc σ + ah_rc σ ≤ _; omega, by show ah_rs σ0 - ah_rs σ + ah_rs σ ≤ _; omega, rfl, by
      refine ⟨?_, ah_K.moved (s := s) (U := T.setVm vm₁) hW₁ hK⟩
      show ah_HH D σ T.heap
      rw [hT]; exact hH⟩, ah_SO.on (U := T.setVm vm₁) hso le (by show va_S _ _ T.heap _; rw [hT]; exact hS) hW₁⟩)
  exact ah_on (len := 3) k ok le hS hl hT X' hpost st
theorem ro_gets {idx : Nat} {n d : String} (hso : ah_kso κ) (hnd : (n = "UNASSIGNED_STACK" ∧ d = "[Ljava/lang/StackTraceElement;") ∨ (n = "SUPPRESSED_SENTINEL" ∧ d = "Ljava/util/List;")) (hq : Cond.fieldLink own idx "java/lang/Throwable" n d ∈ lw_all) (hd : decode cc pc = .ok (.getstatic idx, 3)) (hp : pc + 3 = pc') (k : ∀ r : Option Nat, ah_G κ (own, μ) cc σ pc' L (va_rf r :: rest)) : ah_G κ (own, μ) cc σ pc L rest := by
  subst hp
  intro ok le H locs ls hH hS hl
  obtain ⟨p, l, e, R, s, m, args, below, meth, c, D, σ0, res⟩ := κ
  obtain ⟨nm, nL, ret, hh, fr, lo⟩ := μ
  obtain ⟨hx, hb, hml, hown, hts, hK, hr, hlk, hR, hsz, hnm, hex⟩ := id ok
  have hZ : va_Zq "java/lang/Throwable" n d (ah_A σ0) s s.heap := by
    have hso : ah_SO (ah_A σ0) s := hso
    rcases hnd with ⟨rfl, rfl⟩ | ⟨rfl, rfl⟩
    · exact hso.1
    · exact hso.2
  rcases hZ with hZ | ⟨t, hZ⟩
  · exact va_gets hx hb hZ hS hown (hts _ hq) (fun _ h => h) hd (k none ok le H locs ls hH hS hl)
  · exact va_gets hx hb hZ hS hown (hts _ hq) (fun _ h => h) hd (k (some t) ok le H locs ls hH hS hl)
/-- a field of Fault or Torn is written: nobody asks which value -/
theorem ro_putU {idx kk : Nat} {name desc : String} {r v : Option Nat} {ty0 : FieldType} (hkk : kk < 6) (h1 : TX1 kk = ("java/lang/Throwable", name, desc, false)) (h3 : TX3 kk = ("java/lang/Throwable", name, desc, false)) (hty0 : parseFieldDescriptor desc = some ty0) (hrt : ty0.isReference = true) (hq : Cond.fieldLink own idx "java/lang/Throwable" name desc ∈ lw_all) {a : Nat} (hra : r = some a) (htg : ah_tg σ a = 2 ∨ ah_tg σ a = 4)
    (hd : decode cc pc = .ok (.putfield idx, 3)) (hp : pc + 3 = pc') (k : ah_G κ (own, μ) cc σ pc' L rest) : ah_G κ (own, μ) cc σ pc L (va_rf v :: va_rf r :: rest) := by
  subst hp
  subst hra
  intro ok le H locs ls hH hS hl
  obtain ⟨p, l, e, R, s, m, args, below, meth, c, D, σ0, res⟩ := κ
  obtain ⟨nm, nL, ret, hh, fr, lo⟩ := μ
  obtain ⟨hx, hb, hml, hown, hts, hK, hr, hlk, hR, hsz, hnm, hex⟩ := id ok
  have hnr : narrow ty0 (va_rf v) = va_rf v := by cases ty0 <;> first | (cases v <;> rfl) | (simp [FieldType.isReference] at hrt)
  have hft : fits ty0 (va_rf v) = true := by cases ty0 <;> first | (cases v <;> rfl) | (simp [FieldType.isReference] at hrt)
  have key : ∀ (ci : Nat) (C : String) (T : u_T), ah_tg σ a = ci + 1 → ah_cl[ci]? = some (C, T, 0) → (∀ w ∈ u_ws C T 6, w ∈ lw_all) → T kk = ("java/lang/Throwable", name, desc, false) → Cond.instantiable C 6 ∈ lw_all → ah_W (p, l, e, R, s, m, args, below, meth, c, D, σ0, res) H locs σ (fun m => F0 m pc ls (va_rf v :: va_rf (some a) :: rest)) := by
    intro ci C T etg hcl hin hT hinst
    obtain ⟨cell, q1, q2, q3, -⟩ := (hH.2.2 a).1 ci _ etg hcl
    obtain ⟨cell', q1', q5⟩ := (hH.2.2 a).2.2.2 htg
    cases q1.symm.trans q1'
    obtain ⟨-, hfc, kC, hkC, hkind⟩ := hK.1.1 ci _ hcl
    obtain ⟨i, cf, kf, fi, fd, hi, hsl⟩ := u_found (u_lays hts hin hkk)
    have hlay := hts _ (hin _ (u_in_lay hkk))
    unfold u_lay at hlay
    rw [if_neg (by rw [hT]; intro h; cases h)] at hlay
    obtain ⟨hst, -, hity⟩ := u_facts hfc hkC (u_lays hts hin hkk) hi
    have hdd : parseFieldDescriptor (T kk).2.2.1 = some ty0 := by rw [hT]; exact hty0
    have h6 := u_store hfc hkC hkind hlay hi hdd hnr hft
    have hi' : s.fieldFound? "java/lang/Throwable" name desc = some (cf, kf, fi, fd) := by rw [hT] at hi; exact hi
    obtain ⟨cC, kC', f1, f2, -, -, -, f3⟩ := Cond.instantiable_spec (hts _ hinst)
    cases f1.symm.trans hfc
    cases hkC.symm.trans f2
    have hlt : fd.slot < cell.slots.size := by
      rw [q5, ← f3]
      exact (Array.getElem?_eq_some_iff.mp hity).1
    refine W.putK hx hb (f := fd) ⟨hown, hts _ hq, ⟨_, _, _, hi'⟩, hst⟩ (by rw [q2]; exact h6) q1 q3 hlt rfl rfl hd fun H' e1 e2 e3 => ?_
    have hne : ah_tg σ a ≠ 0 := by omega
    refine k ok le H' _ ls (hH.upd (a := a) rfl rfl rfl (fun b _ ci k => rfl) (fun b _ t => rfl) (fun b _ j => rfl) e2 e3 ⟨fun ci' r g1 g2 => ?_, fun t g1 g2 => by exfalso; omega, fun t g1 g2 j => by exfalso; omega, fun _ => ⟨_, e1, by rw [Cell.setSlot]; simp [q5]⟩⟩) (hS.put e2 e3 (ah_Aof le hne)) hl
    have e : ci' = ci := by omega
    subst e
    rw [hcl] at g2
    cases g2
    exact ⟨_, e1, q2, q3, fun k hk => absurd hk (Nat.not_lt_zero _)⟩
  rcases htg with h | h
  · exact key 1 RX1 TX1 h rfl in_X1 h1 q141
  · exact key 3 RX3 TX3 h rfl in_X3 h3 q224
end
