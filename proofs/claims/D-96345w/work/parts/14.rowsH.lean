/-! ===== rows on the heap ===== -/
theorem ah_ownF {args : Array Value} {s : State} {C O f d : String} (h : (Cond.lays C O f d).before args s = true ∨ (Cond.laysFinal C O f d).before args s = true) {cf fi : Nat} {kf : Class} {fd : Field} (hi : s.fieldFound? O f d = some (cf, kf, fi, fd)) : s.vm.findClass O = some cf ∧ ∃ a dd, s.vm.findClass C = some a ∧ Jmm.declares? s.vm fd.slot (a + 1) a = some dd ∧ dd.1.name = kf.name := by
  rcases h with h | h
  · have h2 := Cond.lays_spec h
    obtain ⟨a, k, c', k', i', f', r1, r2, hi', -, -, -, -, dd, hd, hn, -⟩ := h2
    cases hi.symm.trans hi'
    refine ⟨?_, a, dd, r1, hd, hn⟩
    simp only [Cond.before, Cond.holds, Cond.value, r1, hi, r2] at h
    simp at h
    exact h.1.1.2
  · obtain ⟨a, k, c', k', i', f', r1, r2, hi', -, -, -, ho, -, dd, hd, hn, -⟩ := Cond.laysFinal_spec h
    cases hi.symm.trans hi'
    exact ⟨ho, a, dd, r1, hd, hn⟩
theorem ah_fcls {s : State} {cls name desc : String} {c i : Nat} {k : Class} {f : Field} (h : s.fieldFound? cls name desc = some (c, k, i, f)) : s.vm.classes[c]? = some k := by
  simp only [State.fieldFound?, Option.bind_eq_bind, Option.bind_eq_some_iff, Option.pure_def, Option.some.injEq, Prod.mk.injEq, Prod.exists] at h
  obtain ⟨t, ht, c₀, hc₀, c₁, i₁, hl, k₁, hk₁, f₁, hf₁, rfl, rfl, rfl, rfl⟩ := h
  exact hk₁
theorem ah_apart {s : State} {args : Array Value} {D : ah_D} {ci : Nat} {C : String} {T : u_T} {N : Nat} {ty : Nat → FieldType} (hts : ∀ w ∈ lw_all, w.before args s = true) (ct : ah_CT ci C T N ty) (hK : ah_K D s) : ∀ x y, x < N → y < N → x ≠ y → (D.2.1 ci) x ≠ (D.2.1 ci) y := by
  obtain ⟨hcl, hin, hty, hap, hinj⟩ := ct
  intro x y hx hy hne
  obtain ⟨hS, -⟩ := hK.1.1 ci _ hcl
  obtain ⟨ca, ka, ia, fa, hia, ea⟩ := hS x hx
  obtain ⟨cb, kb, ib, fb, hib, eb⟩ := hS y hy
  dsimp only at hia ea hib eb
  rw [← ea, ← eb]
  rcases hap x hx y hy hne with ho | hn
  · intro es
    obtain ⟨o1, a1, d1, f1, g1, n1⟩ := ah_ownF (u_lays hts hin hx) hia
    obtain ⟨o2, a2, d2, f2, g2, n2⟩ := ah_ownF (u_lays hts hin hy) hib
    cases f1.symm.trans f2
    have es' : fa.slot = fb.slot := es
    rw [es'] at g1
    cases g1.symm.trans g2
    obtain ⟨k1, e1, m1⟩ := Vm.findClass_spec o1
    obtain ⟨k2, e2, m2⟩ := Vm.findClass_spec o2
    cases (ah_fcls hia).symm.trans e1
    cases (ah_fcls hib).symm.trans e2
    exact ho (m1.symm.trans (n1.symm.trans (n2.trans m2)))
  · refine u_apart (u_lays hts hin hx) (u_lays hts hin hy) hia hib ?_
    rw [(State.fieldFound?_type hia (hty x hx)).1, (State.fieldFound?_type hib (hty y hy)).1]
    exact hn
/-- one cell is written -/
theorem ah_HH.upd {D : ah_D} {σ τ : ah_S} {H H1 : Heap} {a : Nat} (h : ah_HH D σ H) (htg : ah_tg τ = ah_tg σ) (hln : ah_ln τ = ah_ln σ) (hnx : ah_nx τ = ah_nx σ) (h1 : ∀ b, b ≠ a → ∀ ci k, ah_fv τ ci k b = ah_fv σ ci k b) (h2 : ∀ b, b ≠ a → ∀ t, ah_av τ t b = ah_av σ t b) (h3 : ∀ b, b ≠ a → ∀ j, ah_ai τ b j = ah_ai σ b j)
    (hz : H1.size = H.size) (hq : ∀ q : Nat, q ≠ a → H1[q]? = H[q]?) (ha : ah_at D τ H1 a) : ah_HH D τ H1 := by
  refine ⟨by rw [hz, hnx]; exact h.1, fun b hb => by rw [hnx]; rw [htg] at hb; exact h.2.1 b hb, fun b => ?_⟩
  by_cases e : b = a
  · subst e; exact ha
  · have hb := (h.2.2 b).kept (hq b e)
    refine ⟨fun ci r g1 g2 => ?_, fun t g1 g2 => ?_, fun t g1 g2 j => ?_, fun g => hb.2.2.2 (by rw [htg] at g; exact g)⟩
    · rw [htg] at g1
      exact (hb.1 ci r g1 g2).to (fun k _ => (h1 b e ci k).symm)
    · rw [htg] at g2
      rw [hln, h2 b e t]
      exact hb.2.1 t g1 g2
    · rw [htg] at g2
      rw [h3 b e j]
      exact hb.2.2.1 t g1 g2 j
theorem ah_fv_sI {σ : ah_S} {f a : Nat} {v : Int32} {b ci k : Nat} (h : b ≠ a) : ah_fv (ah_sI σ f a v) ci k b = ah_fv σ ci k b := by
  unfold ah_fv
  show (if _ then va_rf (ah_fr σ _ b) else Value.int (ah_u2 (ah_fi σ) f a v _ b)) = _
  simp [ah_u2, h]
theorem ah_fv_sR {σ : ah_S} {f a : Nat} {v : Option Nat} {b ci k : Nat} (h : b ≠ a) : ah_fv (ah_sR σ f a v) ci k b = ah_fv σ ci k b := by
  unfold ah_fv
  show (if _ then va_rf (ah_u2 (ah_fr σ) f a v _ b) else Value.int (ah_fi σ _ b)) = _
  simp [ah_u2, h]
theorem ah_HH.sI {D : ah_D} {σ : ah_S} {H H1 : Heap} {f a ci k : Nat} {v : Int32} {C : String} {T : u_T} {N : Nat} {ty : Nat → FieldType} (h : ah_HH D σ H) (ct : ah_CT ci C T N ty) (ht : ah_tg σ a = ci + 1) (hk : k < N) (hf : ah_fid ci k = f) (hR : ah_isR f = false) (hz : H1.size = H.size) (hq : ∀ q : Nat, q ≠ a → H1[q]? = H[q]?)
    (ho : t_OB a (D.1 ci) N (D.2.1 ci) H1 (updV (fun k => ah_fv σ ci k a) k (.int v))) (hci : ci < 22) : ah_HH D (ah_sI σ f a v) H1 := by
  refine h.upd rfl rfl rfl (fun b e ci k => ah_fv_sI e) (fun b e t => rfl) (fun b e j => rfl) hz hq ⟨fun ci' r g1 g2 => ?_, fun t g1 g2 => ?_, fun t g1 g2 j => ?_, fun g => ?_⟩
  · have e : ci' = ci := by
      have : ah_tg σ a = ci' + 1 := g1
      omega
    subst e
    rw [ct.1] at g2
    cases g2
    refine ho.to (fun j hj => ?_)
    show updV (fun k => ah_fv σ ci' k a) k (.int v) j = ah_fv (ah_sI σ f a v) ci' j a
    by_cases e : j = k
    · subst e
      simp only [updV, if_true]
      unfold ah_fv
      rw [hf, hR]
      show _ = (if false = true then _ else Value.int (ah_u2 (ah_fi σ) f a v f a))
      simp [ah_u2]
    · have hne : ah_fid ci' j ≠ f := fun q => e (ct.2.2.2.2 j hj k hk (q.trans hf.symm))
      simp only [updV, if_neg e]
      unfold ah_fv
      show _ = (if _ then va_rf (ah_fr σ _ a) else Value.int (ah_u2 (ah_fi σ) f a v _ a))
      simp [ah_u2, hne]
  · have : ah_tg σ a = t := g2
    omega
  · have : ah_tg σ a = t := g2
    omega
  · exfalso
    have g' : ah_tg σ a = 2 ∨ ah_tg σ a = 4 := g
    have hc1 := ct.1
    rcases (show ci = 1 ∨ ci = 3 by omega) with e | e
    · subst e; cases hc1; exact absurd hk (Nat.not_lt_zero _)
    · subst e; cases hc1; exact absurd hk (Nat.not_lt_zero _)
theorem ah_HH.sR {D : ah_D} {σ : ah_S} {H H1 : Heap} {f a ci k : Nat} {v : Option Nat} {C : String} {T : u_T} {N : Nat} {ty : Nat → FieldType} (h : ah_HH D σ H) (ct : ah_CT ci C T N ty) (ht : ah_tg σ a = ci + 1) (hk : k < N) (hf : ah_fid ci k = f) (hR : ah_isR f = true) (hz : H1.size = H.size) (hq : ∀ q : Nat, q ≠ a → H1[q]? = H[q]?)
    (ho : t_OB a (D.1 ci) N (D.2.1 ci) H1 (updV (fun k => ah_fv σ ci k a) k (va_rf v))) (hci : ci < 22) : ah_HH D (ah_sR σ f a v) H1 := by
  refine h.upd rfl rfl rfl (fun b e ci k => ah_fv_sR e) (fun b e t => rfl) (fun b e j => rfl) hz hq ⟨fun ci' r g1 g2 => ?_, fun t g1 g2 => ?_, fun t g1 g2 j => ?_, fun g => ?_⟩
  · have e : ci' = ci := by
      have : ah_tg σ a = ci' + 1 := g1
      omega
    subst e
    rw [ct.1] at g2
    cases g2
    refine ho.to (fun j hj => ?_)
    show updV (fun k => ah_fv σ ci' k a) k (va_rf v) j = ah_fv (ah_sR σ f a v) ci' j a
    by_cases e : j = k
    · subst e
      simp only [updV, if_true]
      unfold ah_fv
      rw [hf, hR]
      show _ = (if true = true then va_rf (ah_u2 (ah_fr σ) f a v f a) else _)
      simp [ah_u2]
    · have hne : ah_fid ci' j ≠ f := fun q => e (ct.2.2.2.2 j hj k hk (q.trans hf.symm))
      simp only [updV, if_neg e]
      unfold ah_fv
      show _ = (if _ then va_rf (ah_u2 (ah_fr σ) f a v _ a) else Value.int (ah_fi σ _ a))
      simp [ah_u2, hne]
  · have : ah_tg σ a = t := g2
    omega
  · have : ah_tg σ a = t := g2
    omega
  · exfalso
    have g' : ah_tg σ a = 2 ∨ ah_tg σ a = 4 := g
    have hc1 := ct.1
    rcases (show ci = 1 ∨ ci = 3 by omega) with e | e
    · subst e; cases hc1; exact absurd hk (Nat.not_lt_zero _)
    · subst e; cases hc1; exact absurd hk (Nat.not_lt_zero _)
theorem ah_CT.lt {ci : Nat} {C : String} {T : u_T} {N : Nat} {ty : Nat → FieldType} (ct : ah_CT ci C T N ty) : ci < 22 := (List.getElem?_eq_some_iff.mp ct.1).1
theorem ah_Aof {σ0 σ : ah_S} (le : ah_Le σ0 σ) {a : Nat} (h : ah_tg σ a ≠ 0) : ah_A σ0 a := le.2.2.2 a h
section
variable {κ : ah_C} {own : String} {μ : String × Nat × Option FieldType × List (Nat × Nat × Nat × Nat) × Nat × Nat} {cc : ByteArray} {σ : ah_S} {pc pc' : Nat} {L L' : List (Option Value)} {st : List Value}
theorem ro_getI {f idx : Nat} {ref name desc : String} {fin : Bool} {r : Option Nat} {v : Int32} (hF : ah_FT f ref name desc fin) (hIR : ah_isR f = false) (hq : Cond.fieldLink own idx ref name desc ∈ lw_all) (hd : decode cc pc = .ok (.getfield idx, 3)) (hp : pc + 3 = pc') (h : ah_gI σ f r = some v) (k : ah_G κ (own, μ) cc σ pc' L (.int v :: st)) : ah_G κ (own, μ) cc σ pc L (va_rf r :: st) := by
  subst hp
  obtain ⟨a, rfl, h⟩ := ah_bs h
  obtain ⟨ht, rfl⟩ := ah_ifs h
  intro ok le H locs ls hH hS hl
  obtain ⟨p, l, e, R, s, m, args, below, meth, c, D, σ0, res⟩ := κ
  obtain ⟨nm, nL, ret, hh, fr, lo⟩ := μ
  obtain ⟨hx, hb, hml, hown, hts, hK, hr, hlk, hR, hsz, hnm, hex⟩ := id ok
  obtain ⟨ci, k0, C, T, N, ty, etg, ct, hk, hfid, hT⟩ := hF _ ht
  obtain ⟨hcl, hin, hty, hap, hinj⟩ := id ct
  obtain ⟨cell, q1, q2, q3, q4⟩ := (hH.2.2 a).1 ci _ etg hcl
  obtain ⟨hSl, hfc, kC, hkC, hkind⟩ := hK.1.1 ci _ hcl
  obtain ⟨cf, kf, fi, fd, hi, hsl⟩ := hSl k0 hk
  have hi2 : s.fieldFound? (T k0).1 (T k0).2.1 (T k0).2.2.1 = some (cf, kf, fi, fd) := hi
  have hi' : s.fieldFound? ref name desc = some (cf, kf, fi, fd) := by rw [hT] at hi2; exact hi2
  refine W.getf hx hb hown (hts _ hq) hi' (u_facts hfc hkC (u_lays hts hin hk) hi2).1 q1 (by rw [q3]; exact fun h => by cases h) ?_ rfl rfl hd (k ok le H locs ls hH hS hl)
  rw [hsl]
  refine (q4 k0 hk).trans ?_
  simp [ah_fv, hfid, hIR]
theorem ro_getIN {f idx : Nat} {ref name desc host : String} {fin : Bool} {r : Option Nat} {v : Int32} (hF : ah_FT f ref name desc fin) (hIR : ah_isR f = false) (hq : Cond.fieldLinkNest own idx ref name desc host ∈ ah_nw) (hd : decode cc pc = .ok (.getfield idx, 3)) (hp : pc + 3 = pc') (h : ah_gI σ f r = some v) (k : ah_G κ (own, μ) cc σ pc' L (.int v :: st)) : ah_G κ (own, μ) cc σ pc L (va_rf r :: st) := by
  subst hp
  obtain ⟨a, rfl, h⟩ := ah_bs h
  obtain ⟨ht, rfl⟩ := ah_ifs h
  intro ok le H locs ls hH hS hl
  obtain ⟨p, l, e, R, s, m, args, below, meth, c, D, σ0, res⟩ := κ
  obtain ⟨nm, nL, ret, hh, fr, lo⟩ := μ
  obtain ⟨hx, hb, hml, hown, hts, hK, hr, hlk, hR, hsz, hnm, hex⟩ := id ok
  obtain ⟨ci, k0, C, T, N, ty, etg, ct, hk, hfid, hT⟩ := hF _ ht
  obtain ⟨hcl, hin, hty, hap, hinj⟩ := id ct
  obtain ⟨cell, q1, q2, q3, q4⟩ := (hH.2.2 a).1 ci _ etg hcl
  obtain ⟨hSl, hfc, kC, hkC, hkind⟩ := hK.1.1 ci _ hcl
  obtain ⟨cf, kf, fi, fd, hi, hsl⟩ := hSl k0 hk
  have hi2 : s.fieldFound? (T k0).1 (T k0).2.1 (T k0).2.2.1 = some (cf, kf, fi, fd) := hi
  have hi' : s.fieldFound? ref name desc = some (cf, kf, fi, fd) := by rw [hT] at hi2; exact hi2
  refine va_Wgetf hx hb hown (va_Nw.use rfl (hK.2.1 _ hq)) hi' (u_facts hfc hkC (u_lays hts hin hk) hi2).1 q1 (by rw [q3]; exact fun h => by cases h) ?_ rfl rfl hd (k ok le H locs ls hH hS hl)
  rw [hsl]
  refine (q4 k0 hk).trans ?_
  simp [ah_fv, hfid, hIR]
theorem ro_getR {f idx : Nat} {ref name desc : String} {fin : Bool} {r : Option Nat} {v : Option Nat} (hF : ah_FT f ref name desc fin) (hIR : ah_isR f = true) (hq : Cond.fieldLink own idx ref name desc ∈ lw_all) (hd : decode cc pc = .ok (.getfield idx, 3)) (hp : pc + 3 = pc') (h : ah_gR σ f r = some v) (k : ah_G κ (own, μ) cc σ pc' L (va_rf v :: st)) : ah_G κ (own, μ) cc σ pc L (va_rf r :: st) := by
  subst hp
  obtain ⟨a, rfl, h⟩ := ah_bs h
  obtain ⟨ht, rfl⟩ := ah_ifs h
  intro ok le H locs ls hH hS hl
  obtain ⟨p, l, e, R, s, m, args, below, meth, c, D, σ0, res⟩ := κ
  obtain ⟨nm, nL, ret, hh, fr, lo⟩ := μ
  obtain ⟨hx, hb, hml, hown, hts, hK, hr, hlk, hR, hsz, hnm, hex⟩ := id ok
  obtain ⟨ci, k0, C, T, N, ty, etg, ct, hk, hfid, hT⟩ := hF _ ht
  obtain ⟨hcl, hin, hty, hap, hinj⟩ := id ct
  obtain ⟨cell, q1, q2, q3, q4⟩ := (hH.2.2 a).1 ci _ etg hcl
  obtain ⟨hSl, hfc, kC, hkC, hkind⟩ := hK.1.1 ci _ hcl
  obtain ⟨cf, kf, fi, fd, hi, hsl⟩ := hSl k0 hk
  have hi2 : s.fieldFound? (T k0).1 (T k0).2.1 (T k0).2.2.1 = some (cf, kf, fi, fd) := hi
  have hi' : s.fieldFound? ref name desc = some (cf, kf, fi, fd) := by rw [hT] at hi2; exact hi2
  refine W.getf hx hb hown (hts _ hq) hi' (u_facts hfc hkC (u_lays hts hin hk) hi2).1 q1 (by rw [q3]; exact fun h => by cases h) ?_ rfl rfl hd (k ok le H locs ls hH hS hl)
  rw [hsl]
  refine (q4 k0 hk).trans ?_
  simp [ah_fv, hfid, hIR]
theorem ro_getRN {f idx : Nat} {ref name desc host : String} {fin : Bool} {r : Option Nat} {v : Option Nat} (hF : ah_FT f ref name desc fin) (hIR : ah_isR f = true) (hq : Cond.fieldLinkNest own idx ref name desc host ∈ ah_nw) (hd : decode cc pc = .ok (.getfield idx, 3)) (hp : pc + 3 = pc') (h : ah_gR σ f r = some v) (k : ah_G κ (own, μ) cc σ pc' L (va_rf v :: st)) : ah_G κ (own, μ) cc σ pc L (va_rf r :: st) := by
  subst hp
  obtain ⟨a, rfl, h⟩ := ah_bs h
  obtain ⟨ht, rfl⟩ := ah_ifs h
  intro ok le H locs ls hH hS hl
  obtain ⟨p, l, e, R, s, m, args, below, meth, c, D, σ0, res⟩ := κ
  obtain ⟨nm, nL, ret, hh, fr, lo⟩ := μ
  obtain ⟨hx, hb, hml, hown, hts, hK, hr, hlk, hR, hsz, hnm, hex⟩ := id ok
  obtain ⟨ci, k0, C, T, N, ty, etg, ct, hk, hfid, hT⟩ := hF _ ht
  obtain ⟨hcl, hin, hty, hap, hinj⟩ := id ct
  obtain ⟨cell, q1, q2, q3, q4⟩ := (hH.2.2 a).1 ci _ etg hcl
  obtain ⟨hSl, hfc, kC, hkC, hkind⟩ := hK.1.1 ci _ hcl
  obtain ⟨cf, kf, fi, fd, hi, hsl⟩ := hSl k0 hk
  have hi2 : s.fieldFound? (T k0).1 (T k0).2.1 (T k0).2.2.1 = some (cf, kf, fi, fd) := hi
  have hi' : s.fieldFound? ref name desc = some (cf, kf, fi, fd) := by rw [hT] at hi2; exact hi2
  refine va_Wgetf hx hb hown (va_Nw.use rfl (hK.2.1 _ hq)) hi' (u_facts hfc hkC (u_lays hts hin hk) hi2).1 q1 (by rw [q3]; exact fun h => by cases h) ?_ rfl rfl hd (k ok le H locs ls hH hS hl)
  rw [hsl]
  refine (q4 k0 hk).trans ?_
  simp [ah_fv, hfid, hIR]

theorem ro_putI {f idx : Nat} {ref name desc : String} {r : Option Nat} {v : Int32} {τ : ah_S} (hF : ah_FT f ref name desc false) (hIR : ah_isR f = false) (hq : Cond.fieldLink own idx ref name desc ∈ lw_all) (hty0 : parseFieldDescriptor desc = some .int) (hd : decode cc pc = .ok (.putfield idx, 3)) (hp : pc + 3 = pc') (h : ah_pI σ f r v = some τ) (k : ah_G κ (own, μ) cc τ pc' L st) : ah_G κ (own, μ) cc σ pc L (.int v :: va_rf r :: st) := by
  subst hp
  obtain ⟨a, rfl, h⟩ := ah_bs h
  obtain ⟨ht, rfl⟩ := ah_ifs h
  intro ok le H locs ls hH hS hl
  obtain ⟨p, l, e, R, s, m, args, below, meth, c, D, σ0, res⟩ := κ
  obtain ⟨nm, nL, ret, hh, fr, lo⟩ := μ
  obtain ⟨hx, hb, hml, hown, hts, hK, hr, hlk, hR, hsz, hnm, hex⟩ := id ok
  obtain ⟨ci, k0, C, T, N, ty, etg, ct, hk, hfid, hT⟩ := hF _ ht
  obtain ⟨hcl, hin, hty, hap, hinj⟩ := id ct
  obtain ⟨cell, q1, q2, q3, q4⟩ := (hH.2.2 a).1 ci _ etg hcl
  obtain ⟨hSl, hfc, kC, hkC, hkind⟩ := hK.1.1 ci _ hcl
  obtain ⟨cf, kf, fi, fd, hi, hsl⟩ := hSl k0 hk
  have hsl : fd.slot = D.2.1 ci k0 := hsl
  have hi2 : s.fieldFound? (T k0).1 (T k0).2.1 (T k0).2.2.1 = some (cf, kf, fi, fd) := hi
  have hi' : s.fieldFound? ref name desc = some (cf, kf, fi, fd) := by rw [hT] at hi2; exact hi2
  have hapt := ah_apart hts ct hK
  have hnr : narrow .int (.int v) = .int v := rfl
  have hft : fits .int (.int v) = true := rfl
  have hdd : parseFieldDescriptor (T k0).2.2.1 = some .int := by rw [hT]; exact hty0
  have hlay := hts _ (hin _ (u_in_lay hk))
  unfold u_lay at hlay
  rw [if_neg (by rw [hT]; intro h; cases h)] at hlay
  have hst := (u_facts hfc hkC (u_lays hts hin hk) hi2).1
  have h6 := u_store hfc hkC hkind hlay hi2 hdd hnr hft
  refine W.putK hx hb (f := fd) ⟨hown, (hts _ hq), ⟨_, _, _, hi'⟩, hst⟩ (by rw [q2]; exact h6) q1 q3 (by rw [hsl]; exact k2_hasslot (q4 k0 hk)) rfl rfl hd fun H' e1 e2 e3 => ?_
  rw [hsl] at e1 ⊢
  have hne : ah_tg σ a ≠ 0 := by omega
  exact k ok le H' _ ls (hH.sI ct etg hk hfid hIR e2 e3 ⟨_, e1, q2, q3, t_set q4 hapt hk _⟩ ct.lt) (hS.put e2 e3 (ah_Aof le hne)) hl
theorem ro_putIN {f idx : Nat} {ref name desc host : String} {r : Option Nat} {v : Int32} {τ : ah_S} (hF : ah_FT f ref name desc false) (hIR : ah_isR f = false) (hq : Cond.fieldLinkNest own idx ref name desc host ∈ ah_nw) (hty0 : parseFieldDescriptor desc = some .int) (hd : decode cc pc = .ok (.putfield idx, 3)) (hp : pc + 3 = pc') (h : ah_pI σ f r v = some τ) (k : ah_G κ (own, μ) cc τ pc' L st) : ah_G κ (own, μ) cc σ pc L (.int v :: va_rf r :: st) := by
  subst hp
  obtain ⟨a, rfl, h⟩ := ah_bs h
  obtain ⟨ht, rfl⟩ := ah_ifs h
  intro ok le H locs ls hH hS hl
  obtain ⟨p, l, e, R, s, m, args, below, meth, c, D, σ0, res⟩ := κ
  obtain ⟨nm, nL, ret, hh, fr, lo⟩ := μ
  obtain ⟨hx, hb, hml, hown, hts, hK, hr, hlk, hR, hsz, hnm, hex⟩ := id ok
  obtain ⟨ci, k0, C, T, N, ty, etg, ct, hk, hfid, hT⟩ := hF _ ht
  obtain ⟨hcl, hin, hty, hap, hinj⟩ := id ct
  obtain ⟨cell, q1, q2, q3, q4⟩ := (hH.2.2 a).1 ci _ etg hcl
  obtain ⟨hSl, hfc, kC, hkC, hkind⟩ := hK.1.1 ci _ hcl
  obtain ⟨cf, kf, fi, fd, hi, hsl⟩ := hSl k0 hk
  have hsl : fd.slot = D.2.1 ci k0 := hsl
  have hi2 : s.fieldFound? (T k0).1 (T k0).2.1 (T k0).2.2.1 = some (cf, kf, fi, fd) := hi
  have hi' : s.fieldFound? ref name desc = some (cf, kf, fi, fd) := by rw [hT] at hi2; exact hi2
  have hapt := ah_apart hts ct hK
  have hnr : narrow .int (.int v) = .int v := rfl
  have hft : fits .int (.int v) = true := rfl
  have hdd : parseFieldDescriptor (T k0).2.2.1 = some .int := by rw [hT]; exact hty0
  have hlay := hts _ (hin _ (u_in_lay hk))
  unfold u_lay at hlay
  rw [if_neg (by rw [hT]; intro h; cases h)] at hlay
  have hst := (u_facts hfc hkC (u_lays hts hin hk) hi2).1
  have h6 := u_store hfc hkC hkind hlay hi2 hdd hnr hft
  refine va_WputK hx hb (f := fd) hown (va_Nw.use rfl (hK.2.1 _ hq)) hi' hst (by rw [q2]; exact h6) q1 q3 (by rw [hsl]; exact k2_hasslot (q4 k0 hk)) rfl rfl hd fun H' e1 e2 e3 => ?_
  rw [hsl] at e1 ⊢
  have hne : ah_tg σ a ≠ 0 := by omega
  exact k ok le H' _ ls (hH.sI ct etg hk hfid hIR e2 e3 ⟨_, e1, q2, q3, t_set q4 hapt hk _⟩ ct.lt) (hS.put e2 e3 (ah_Aof le hne)) hl
theorem ro_putIF {f idx : Nat} {ref name desc : String} {r : Option Nat} {v : Int32} {τ : ah_S} (hF : ah_FT f ref name desc true) (hIR : ah_isR f = false) (hq : Cond.fieldLink own idx ref name desc ∈ lw_all) (hty0 : parseFieldDescriptor desc = some .int) (hin2 : μ.1 = "<init>") (hdecl : ref = own) (hd : decode cc pc = .ok (.putfield idx, 3)) (hp : pc + 3 = pc') (h : ah_pI σ f r v = some τ) (k : ah_G κ (own, μ) cc τ pc' L st) : ah_G κ (own, μ) cc σ pc L (.int v :: va_rf r :: st) := by
  subst hp
  obtain ⟨a, rfl, h⟩ := ah_bs h
  obtain ⟨ht, rfl⟩ := ah_ifs h
  intro ok le H locs ls hH hS hl
  obtain ⟨p, l, e, R, s, m, args, below, meth, c, D, σ0, res⟩ := κ
  obtain ⟨nm, nL, ret, hh, fr, lo⟩ := μ
  obtain ⟨hx, hb, hml, hown, hts, hK, hr, hlk, hR, hsz, hnm, hex⟩ := id ok
  obtain ⟨ci, k0, C, T, N, ty, etg, ct, hk, hfid, hT⟩ := hF _ ht
  obtain ⟨hcl, hin, hty, hap, hinj⟩ := id ct
  obtain ⟨cell, q1, q2, q3, q4⟩ := (hH.2.2 a).1 ci _ etg hcl
  obtain ⟨hSl, hfc, kC, hkC, hkind⟩ := hK.1.1 ci _ hcl
  obtain ⟨cf, kf, fi, fd, hi, hsl⟩ := hSl k0 hk
  have hsl : fd.slot = D.2.1 ci k0 := hsl
  have hi2 : s.fieldFound? (T k0).1 (T k0).2.1 (T k0).2.2.1 = some (cf, kf, fi, fd) := hi
  have hi' : s.fieldFound? ref name desc = some (cf, kf, fi, fd) := by rw [hT] at hi2; exact hi2
  have hapt := ah_apart hts ct hK
  have hnr : narrow .int (.int v) = .int v := rfl
  have hft : fits .int (.int v) = true := rfl
  have hdd : parseFieldDescriptor (T k0).2.2.1 = some .int := by rw [hT]; exact hty0
  have hlay := hts _ (hin _ (u_in_lay hk))
  unfold u_lay at hlay
  rw [if_pos (by rw [hT])] at hlay
  have hst := (u_facts hfc hkC (u_lays hts hin hk) hi2).1
  have hcf : m.cls = cf := by
    obtain ⟨_, _, c', _, _, _, -, -, hf', -, -, -, hown2, -⟩ := Cond.laysFinal_spec hlay
    have e1 : c' = cf := by have := hi2.symm.trans hf'; simp at this; exact this.1.symm
    rw [hT] at hown2
    have hown2 : s.vm.findClass ref = some c' := hown2
    rw [hdecl] at hown2
    rw [← e1]; exact Option.some.inj (hown.symm.trans hown2)
  have h6 := u_fits hfc hkC hkind (Or.inr hlay) hi2 hdd hnr hft
  refine W.putFinK hx hb hown (hts _ hq) hi' hst hcf (hnm.trans hin2) (by rw [q2]; exact h6) q1 q3 (by rw [hsl]; exact k2_hasslot (q4 k0 hk)) rfl rfl hd fun H' e1 e2 e3 => ?_
  rw [hsl] at e1 ⊢
  have hne : ah_tg σ a ≠ 0 := by omega
  exact k ok le H' _ ls (hH.sI ct etg hk hfid hIR e2 e3 ⟨_, e1, q2, q3, t_set q4 hapt hk _⟩ ct.lt) (hS.put e2 e3 (ah_Aof le hne)) hl
theorem ro_putZ {f idx : Nat} {ref name desc : String} {r : Option Nat} {v : Int32} {τ : ah_S} (hF : ah_FT f ref name desc false) (hIR : ah_isR f = false) (hq : Cond.fieldLink own idx ref name desc ∈ lw_all) (hty0 : parseFieldDescriptor desc = some .boolean) (hd : decode cc pc = .ok (.putfield idx, 3)) (hp : pc + 3 = pc') (h : ah_pZ σ f r v = some τ) (k : ah_G κ (own, μ) cc τ pc' L st) : ah_G κ (own, μ) cc σ pc L (.int v :: va_rf r :: st) := by
  subst hp
  obtain ⟨a, rfl, h⟩ := ah_bs h
  obtain ⟨ht, rfl⟩ := ah_ifs h
  rw [Bool.and_eq_true] at ht
  obtain ⟨ht, hz01⟩ := ht
  have hz01 : v = 0 ∨ v = 1 := by simpa using hz01
  intro ok le H locs ls hH hS hl
  obtain ⟨p, l, e, R, s, m, args, below, meth, c, D, σ0, res⟩ := κ
  obtain ⟨nm, nL, ret, hh, fr, lo⟩ := μ
  obtain ⟨hx, hb, hml, hown, hts, hK, hr, hlk, hR, hsz, hnm, hex⟩ := id ok
  obtain ⟨ci, k0, C, T, N, ty, etg, ct, hk, hfid, hT⟩ := hF _ ht
  obtain ⟨hcl, hin, hty, hap, hinj⟩ := id ct
  obtain ⟨cell, q1, q2, q3, q4⟩ := (hH.2.2 a).1 ci _ etg hcl
  obtain ⟨hSl, hfc, kC, hkC, hkind⟩ := hK.1.1 ci _ hcl
  obtain ⟨cf, kf, fi, fd, hi, hsl⟩ := hSl k0 hk
  have hsl : fd.slot = D.2.1 ci k0 := hsl
  have hi2 : s.fieldFound? (T k0).1 (T k0).2.1 (T k0).2.2.1 = some (cf, kf, fi, fd) := hi
  have hi' : s.fieldFound? ref name desc = some (cf, kf, fi, fd) := by rw [hT] at hi2; exact hi2
  have hapt := ah_apart hts ct hK
  have hnr : narrow .boolean (.int v) = .int v := by rcases hz01 with rfl | rfl <;> rfl
  have hft : fits .boolean (.int v) = true := by rcases hz01 with rfl | rfl <;> rfl
  have hdd : parseFieldDescriptor (T k0).2.2.1 = some .boolean := by rw [hT]; exact hty0
  have hlay := hts _ (hin _ (u_in_lay hk))
  unfold u_lay at hlay
  rw [if_neg (by rw [hT]; intro h; cases h)] at hlay
  have hst := (u_facts hfc hkC (u_lays hts hin hk) hi2).1
  have h6 := u_store hfc hkC hkind hlay hi2 hdd hnr hft
  refine W.putK hx hb (f := fd) ⟨hown, (hts _ hq), ⟨_, _, _, hi'⟩, hst⟩ (by rw [q2]; exact h6) q1 q3 (by rw [hsl]; exact k2_hasslot (q4 k0 hk)) rfl rfl hd fun H' e1 e2 e3 => ?_
  rw [hsl] at e1 ⊢
  have hne : ah_tg σ a ≠ 0 := by omega
  exact k ok le H' _ ls (hH.sI ct etg hk hfid hIR e2 e3 ⟨_, e1, q2, q3, t_set q4 hapt hk _⟩ ct.lt) (hS.put e2 e3 (ah_Aof le hne)) hl
theorem ro_putR {f idx : Nat} {ref name desc : String} {r : Option Nat} {v : Option Nat} {τ : ah_S} (hF : ah_FT f ref name desc false) (hIR : ah_isR f = true) (hq : Cond.fieldLink own idx ref name desc ∈ lw_all) {ty0 : FieldType} (hty0 : parseFieldDescriptor desc = some ty0) (hrt : ty0.isReference = true) (hd : decode cc pc = .ok (.putfield idx, 3)) (hp : pc + 3 = pc') (h : ah_pR σ f r v = some τ) (k : ah_G κ (own, μ) cc τ pc' L st) : ah_G κ (own, μ) cc σ pc L (va_rf v :: va_rf r :: st) := by
  subst hp
  obtain ⟨a, rfl, h⟩ := ah_bs h
  obtain ⟨ht, rfl⟩ := ah_ifs h
  intro ok le H locs ls hH hS hl
  obtain ⟨p, l, e, R, s, m, args, below, meth, c, D, σ0, res⟩ := κ
  obtain ⟨nm, nL, ret, hh, fr, lo⟩ := μ
  obtain ⟨hx, hb, hml, hown, hts, hK, hr, hlk, hR, hsz, hnm, hex⟩ := id ok
  obtain ⟨ci, k0, C, T, N, ty, etg, ct, hk, hfid, hT⟩ := hF _ ht
  obtain ⟨hcl, hin, hty, hap, hinj⟩ := id ct
  obtain ⟨cell, q1, q2, q3, q4⟩ := (hH.2.2 a).1 ci _ etg hcl
  obtain ⟨hSl, hfc, kC, hkC, hkind⟩ := hK.1.1 ci _ hcl
  obtain ⟨cf, kf, fi, fd, hi, hsl⟩ := hSl k0 hk
  have hsl : fd.slot = D.2.1 ci k0 := hsl
  have hi2 : s.fieldFound? (T k0).1 (T k0).2.1 (T k0).2.2.1 = some (cf, kf, fi, fd) := hi
  have hi' : s.fieldFound? ref name desc = some (cf, kf, fi, fd) := by rw [hT] at hi2; exact hi2
  have hapt := ah_apart hts ct hK
  have hnr : narrow ty0 (va_rf v) = va_rf v := by cases ty0 <;> first | (cases v <;> rfl) | (simp [FieldType.isReference] at hrt)
  have hft : fits ty0 (va_rf v) = true := by cases ty0 <;> first | (cases v <;> rfl) | (simp [FieldType.isReference] at hrt)
  have hdd : parseFieldDescriptor (T k0).2.2.1 = some ty0 := by rw [hT]; exact hty0
  have hlay := hts _ (hin _ (u_in_lay hk))
  unfold u_lay at hlay
  rw [if_neg (by rw [hT]; intro h; cases h)] at hlay
  have hst := (u_facts hfc hkC (u_lays hts hin hk) hi2).1
  have h6 := u_store hfc hkC hkind hlay hi2 hdd hnr hft
  refine W.putK hx hb (f := fd) ⟨hown, (hts _ hq), ⟨_, _, _, hi'⟩, hst⟩ (by rw [q2]; exact h6) q1 q3 (by rw [hsl]; exact k2_hasslot (q4 k0 hk)) rfl rfl hd fun H' e1 e2 e3 => ?_
  rw [hsl] at e1 ⊢
  have hne : ah_tg σ a ≠ 0 := by omega
  exact k ok le H' _ ls (hH.sR ct etg hk hfid hIR e2 e3 ⟨_, e1, q2, q3, t_set q4 hapt hk _⟩ ct.lt) (hS.put e2 e3 (ah_Aof le hne)) hl
theorem ro_putRN {f idx : Nat} {ref name desc host : String} {r : Option Nat} {v : Option Nat} {τ : ah_S} (hF : ah_FT f ref name desc false) (hIR : ah_isR f = true) (hq : Cond.fieldLinkNest own idx ref name desc host ∈ ah_nw) {ty0 : FieldType} (hty0 : parseFieldDescriptor desc = some ty0) (hrt : ty0.isReference = true) (hd : decode cc pc = .ok (.putfield idx, 3)) (hp : pc + 3 = pc') (h : ah_pR σ f r v = some τ) (k : ah_G κ (own, μ) cc τ pc' L st) : ah_G κ (own, μ) cc σ pc L (va_rf v :: va_rf r :: st) := by
  subst hp
  obtain ⟨a, rfl, h⟩ := ah_bs h
  obtain ⟨ht, rfl⟩ := ah_ifs h
  intro ok le H locs ls hH hS hl
  obtain ⟨p, l, e, R, s, m, args, below, meth, c, D, σ0, res⟩ := κ
  obtain ⟨nm, nL, ret, hh, fr, lo⟩ := μ
  obtain ⟨hx, hb, hml, hown, hts, hK, hr, hlk, hR, hsz, hnm, hex⟩ := id ok
  obtain ⟨ci, k0, C, T, N, ty, etg, ct, hk, hfid, hT⟩ := hF _ ht
  obtain ⟨hcl, hin, hty, hap, hinj⟩ := id ct
  obtain ⟨cell, q1, q2, q3, q4⟩ := (hH.2.2 a).1 ci _ etg hcl
  obtain ⟨hSl, hfc, kC, hkC, hkind⟩ := hK.1.1 ci _ hcl
  obtain ⟨cf, kf, fi, fd, hi, hsl⟩ := hSl k0 hk
  have hsl : fd.slot = D.2.1 ci k0 := hsl
  have hi2 : s.fieldFound? (T k0).1 (T k0).2.1 (T k0).2.2.1 = some (cf, kf, fi, fd) := hi
  have hi' : s.fieldFound? ref name desc = some (cf, kf, fi, fd) := by rw [hT] at hi2; exact hi2
  have hapt := ah_apart hts ct hK
  have hnr : narrow ty0 (va_rf v) = va_rf v := by cases ty0 <;> first | (cases v <;> rfl) | (simp [FieldType.isReference] at hrt)
  have hft : fits ty0 (va_rf v) = true := by cases ty0 <;> first | (cases v <;> rfl) | (simp [FieldType.isReference] at hrt)
  have hdd : parseFieldDescriptor (T k0).2.2.1 = some ty0 := by rw [hT]; exact hty0
  have hlay := hts _ (hin _ (u_in_lay hk))
  unfold u_lay at hlay
  rw [if_neg (by rw [hT]; intro h; cases h)] at hlay
  have hst := (u_facts hfc hkC (u_lays hts hin hk) hi2).1
  have h6 := u_store hfc hkC hkind hlay hi2 hdd hnr hft
  refine va_WputK hx hb (f := fd) hown (va_Nw.use rfl (hK.2.1 _ hq)) hi' hst (by rw [q2]; exact h6) q1 q3 (by rw [hsl]; exact k2_hasslot (q4 k0 hk)) rfl rfl hd fun H' e1 e2 e3 => ?_
  rw [hsl] at e1 ⊢
  have hne : ah_tg σ a ≠ 0 := by omega
  exact k ok le H' _ ls (hH.sR ct etg hk hfid hIR e2 e3 ⟨_, e1, q2, q3, t_set q4 hapt hk _⟩ ct.lt) (hS.put e2 e3 (ah_Aof le hne)) hl
theorem ro_putRF {f idx : Nat} {ref name desc : String} {r : Option Nat} {v : Option Nat} {τ : ah_S} (hF : ah_FT f ref name desc true) (hIR : ah_isR f = true) (hq : Cond.fieldLink own idx ref name desc ∈ lw_all) {ty0 : FieldType} (hty0 : parseFieldDescriptor desc = some ty0) (hrt : ty0.isReference = true) (hin2 : μ.1 = "<init>") (hdecl : ref = own) (hd : decode cc pc = .ok (.putfield idx, 3)) (hp : pc + 3 = pc') (h : ah_pR σ f r v = some τ) (k : ah_G κ (own, μ) cc τ pc' L st) : ah_G κ (own, μ) cc σ pc L (va_rf v :: va_rf r :: st) := by
  subst hp
  obtain ⟨a, rfl, h⟩ := ah_bs h
  obtain ⟨ht, rfl⟩ := ah_ifs h
  intro ok le H locs ls hH hS hl
  obtain ⟨p, l, e, R, s, m, args, below, meth, c, D, σ0, res⟩ := κ
  obtain ⟨nm, nL, ret, hh, fr, lo⟩ := μ
  obtain ⟨hx, hb, hml, hown, hts, hK, hr, hlk, hR, hsz, hnm, hex⟩ := id ok
  obtain ⟨ci, k0, C, T, N, ty, etg, ct, hk, hfid, hT⟩ := hF _ ht
  obtain ⟨hcl, hin, hty, hap, hinj⟩ := id ct
  obtain ⟨cell, q1, q2, q3, q4⟩ := (hH.2.2 a).1 ci _ etg hcl
  obtain ⟨hSl, hfc, kC, hkC, hkind⟩ := hK.1.1 ci _ hcl
  obtain ⟨cf, kf, fi, fd, hi, hsl⟩ := hSl k0 hk
  have hsl : fd.slot = D.2.1 ci k0 := hsl
  have hi2 : s.fieldFound? (T k0).1 (T k0).2.1 (T k0).2.2.1 = some (cf, kf, fi, fd) := hi
  have hi' : s.fieldFound? ref name desc = some (cf, kf, fi, fd) := by rw [hT] at hi2; exact hi2
  have hapt := ah_apart hts ct hK
  have hnr : narrow ty0 (va_rf v) = va_rf v := by cases ty0 <;> first | (cases v <;> rfl) | (simp [FieldType.isReference] at hrt)
  have hft : fits ty0 (va_rf v) = true := by cases ty0 <;> first | (cases v <;> rfl) | (simp [FieldType.isReference] at hrt)
  have hdd : parseFieldDescriptor (T k0).2.2.1 = some ty0 := by rw [hT]; exact hty0
  have hlay := hts _ (hin _ (u_in_lay hk))
  unfold u_lay at hlay
  rw [if_pos (by rw [hT])] at hlay
  have hst := (u_facts hfc hkC (u_lays hts hin hk) hi2).1
  have hcf : m.cls = cf := by
    obtain ⟨_, _, c', _, _, _, -, -, hf', -, -, -, hown2, -⟩ := Cond.laysFinal_spec hlay
    have e1 : c' = cf := by have := hi2.symm.trans hf'; simp at this; exact this.1.symm
    rw [hT] at hown2
    have hown2 : s.vm.findClass ref = some c' := hown2
    rw [hdecl] at hown2
    rw [← e1]; exact Option.some.inj (hown.symm.trans hown2)
  have h6 := u_fits hfc hkC hkind (Or.inr hlay) hi2 hdd hnr hft
  refine W.putFinK hx hb hown (hts _ hq) hi' hst hcf (hnm.trans hin2) (by rw [q2]; exact h6) q1 q3 (by rw [hsl]; exact k2_hasslot (q4 k0 hk)) rfl rfl hd fun H' e1 e2 e3 => ?_
  rw [hsl] at e1 ⊢
  have hne : ah_tg σ a ≠ 0 := by omega
  exact k ok le H' _ ls (hH.sR ct etg hk hfid hIR e2 e3 ⟨_, e1, q2, q3, t_set q4 hapt hk _⟩ ct.lt) (hS.put e2 e3 (ah_Aof le hne)) hl

end
