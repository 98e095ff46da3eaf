/-! ===== rows: stores of references, casts, System.arraycopy, ends ===== -/
theorem ah_any {D : ah_D} {σ : ah_S} {H : Heap} {s : State} {v u : Nat} {E : String} (hH : ah_HH D σ H) (hK : ah_K D s) (hu : ah_tg σ v = u) (hr : (1 ≤ u ∧ u ≤ 22) ∨ (101 ≤ u ∧ u ≤ 105)) (hc : ah_nm u = E ∨ Cond.castable (ah_nm u) E ∈ ah_nw) : va_Any E s H v := by
  obtain ⟨cell, h1, h2, h3⟩ := ah_recv hH hK hu hr
  obtain ⟨kC, hkC, -⟩ := Vm.findClass_spec h3
  refine ⟨cell, h1, h2, ⟨kC, hkC⟩, fun comp hcomp => ?_⟩
  rcases hc with e | hw
  · rw [e] at h3
    cases h3.symm.trans hcomp
    exact va_asg _ _
  · obtain ⟨c0, t0, f1, f2, f3⟩ := Cond.castable_spec (va_Nw.use (A := #[]) rfl (hK.2.1 _ hw))
    cases h3.symm.trans f1
    cases hcomp.symm.trans f2
    exact f3
theorem ah_tk_any {D : ah_D} {σ : ah_S} {H : Heap} {s : State} {t b : Nat} {E : String} (hE : ah_aty t = .object E) (hH : ah_HH D σ H) (hK : ah_K D s) (h : ah_tk t (ah_tg σ b) = true) : va_Any E s H b := by
  unfold ah_tk at h
  split at h
  · have e : ah_tg σ b = 6 := by simpa using h
    cases hE
    exact ah_any hH hK e (Or.inl (by decide)) (Or.inl rfl)
  · have e : ah_tg σ b = 8 := by simpa using h
    cases hE
    exact ah_any hH hK e (Or.inl (by decide)) (Or.inl rfl)
  · have e : ah_tg σ b = 3 := by simpa using h
    cases hE
    exact ah_any hH hK e (Or.inl (by decide)) (Or.inl rfl)
  · have e : ah_tg σ b = 5 := by simpa using h
    cases hE
    exact ah_any hH hK e (Or.inl (by decide)) (Or.inl rfl)
  · simp only [Bool.and_eq_true, decide_eq_true_eq] at h
    cases hE
    rcases (show ah_tg σ b = 15 ∨ ah_tg σ b = 16 ∨ ah_tg σ b = 17 ∨ ah_tg σ b = 18 ∨ ah_tg σ b = 19 ∨ ah_tg σ b = 20 ∨ ah_tg σ b = 21 ∨ ah_tg σ b = 22 by omega) with e | e | e | e | e | e | e | e
    · exact ah_any hH hK e (Or.inl (by decide)) (Or.inl rfl)
    · exact ah_any hH hK e (Or.inl (by decide)) (Or.inr nq1934)
    · exact ah_any hH hK e (Or.inl (by decide)) (Or.inr nq1937)
    · exact ah_any hH hK e (Or.inl (by decide)) (Or.inr nq1933)
    · exact ah_any hH hK e (Or.inl (by decide)) (Or.inr nq1936)
    · exact ah_any hH hK e (Or.inl (by decide)) (Or.inr nq1938)
    · exact ah_any hH hK e (Or.inl (by decide)) (Or.inr nq1932)
    · exact ah_any hH hK e (Or.inl (by decide)) (Or.inr nq1935)
  · simp only [Bool.or_eq_true, Bool.and_eq_true, decide_eq_true_eq] at h
    cases hE
    rcases (show ah_tg σ b = 15 ∨ ah_tg σ b = 16 ∨ ah_tg σ b = 17 ∨ ah_tg σ b = 18 ∨ ah_tg σ b = 19 ∨ ah_tg σ b = 20 ∨ ah_tg σ b = 21 ∨ ah_tg σ b = 22 ∨ ah_tg σ b = 101 ∨ ah_tg σ b = 102 ∨ ah_tg σ b = 103 ∨ ah_tg σ b = 104 ∨ ah_tg σ b = 105 by omega) with e | e | e | e | e | e | e | e | e | e | e | e | e
    · exact ah_any hH hK e (Or.inl (by decide)) (Or.inr nq1959)
    · exact ah_any hH hK e (Or.inl (by decide)) (Or.inr nq1952)
    · exact ah_any hH hK e (Or.inl (by decide)) (Or.inr nq1953)
    · exact ah_any hH hK e (Or.inl (by decide)) (Or.inr nq1954)
    · exact ah_any hH hK e (Or.inl (by decide)) (Or.inr nq1955)
    · exact ah_any hH hK e (Or.inl (by decide)) (Or.inr nq1956)
    · exact ah_any hH hK e (Or.inl (by decide)) (Or.inr nq1957)
    · exact ah_any hH hK e (Or.inl (by decide)) (Or.inr nq1958)
    · exact ah_any hH hK e (Or.inr (by decide)) (Or.inr nq1962)
    · exact ah_any hH hK e (Or.inr (by decide)) (Or.inr nq1968)
    · exact ah_any hH hK e (Or.inr (by decide)) (Or.inr nq1969)
    · exact ah_any hH hK e (Or.inr (by decide)) (Or.inr nq1970)
    · exact ah_any hH hK e (Or.inr (by decide)) (Or.inr nq1971)
  · cases h
theorem ah_ncs : ∀ u ∈ [15, 16, 17, 18, 19, 20, 21, 22, 101, 102, 103, 104, 105], ∀ t ∈ [101, 102, 103, 104, 105], u ≠ t → (ah_nm u, ah_nm t) ∈ ah_nc := by decide +kernel
theorem ah_ncb : ∀ u ∈ [101, 102, 103, 104, 105], (ah_nm u, "LeftAsFound$Body") ∈ ah_nc := by decide +kernel
section
variable {κ : ah_C} {μ : ah_M} {cc : ByteArray} {σ : ah_S} {pc pc' : Nat} {L L' : List (Option Value)} {st : List Value}
theorem ro_aastore {t : Nat} {r : Option Nat} {i : Int32} {v : Option Nat} {τ : ah_S} {E : String} (ht0 : t ∈ ah_tags) (h111 : 111 ≤ t) (hE : ah_aty t = .object E) (hd : decode cc pc = .ok (.aastore, 1)) (hp : pc + 1 = pc') (h : ah_wQ σ t r i v = some τ) (k : ah_G κ μ cc τ pc' L st) : ah_G κ μ cc σ pc L (va_rf v :: .int i :: va_rf r :: st) := by
  subst hp
  obtain ⟨a, rfl, h⟩ := ah_bs h
  obtain ⟨ht, rfl⟩ := ah_ifs h
  rw [Bool.and_eq_true, Bool.and_eq_true] at ht
  obtain ⟨⟨ht, hi⟩, hv⟩ := ht
  have ht : ah_tg σ a = t := by simpa using ht
  intro ok le H locs ls hH hS hl
  obtain ⟨p, l, e, R, s, m, args, below, meth, c, D, σ0, res⟩ := κ
  obtain ⟨own, nm, nL, ret, hh, fr, lo⟩ := μ
  obtain ⟨hx, hb, hml, hown, hts, hK, hr, hlk, hR, hsz, hnm, hex⟩ := id ok
  have hc := (hH.2.2 a).2.1 t (by omega) ht
  rw [ah_av_q (by omega) h111] at hc
  obtain ⟨hA, hRA⟩ := ah_tyOf hK ht0
  rw [hE] at hA hRA
  have hlt := ah_inb_lt hi
  have hin := ah_inb_in hi
  have h0 : ¬ i < 0 := fun q => hin (Or.inl q)
  cases v with
  | none =>
    refine va_WaastN (C := E) hx hb hc (hA _ (fun j => va_rf (ah_ar σ a j))) (fun h => by cases h) (by show ¬ (i < 0 ∨ (arrV _ _ _).slots.size ≤ _); rw [arrV_size]; exact hin) rfl rfl hd fun H1 e z oq => ?_
    exact k ok le H1 _ ls (hH.sQ ht h111 z oq e) (hS.put z oq (ah_Aof le (by omega))) hl
  | some b =>
    obtain ⟨cellV, g1, g3, ⟨kC, hkC⟩, hasg⟩ := ah_tk_any hE hH hK hv
    obtain ⟨kA, comp, k1, k2, k3, -⟩ := hRA
    obtain ⟨kE, hkE, -⟩ := Vm.findClass_spec k3
    refine W.aast hx hb hc (fun q h => by cases h) (fun h => by cases h) k1 k2 rfl hkE ⟨h0, by show _ < (arrV _ _ _).slots.size; rw [arrV_size]; exact hlt⟩ g1 (fun q h => by rw [h] at g3; cases g3) hkC (hasg _ k3) rfl rfl hd fun H1 e z oq => ?_
    exact k ok le H1 _ ls (hH.sQ ht h111 z oq e) (hS.put z oq (ah_Aof le (by omega))) hl
end
section
variable {κ : ah_C} {own : String} {μ : String × Nat × Option FieldType × List (Nat × Nat × Nat × Nat) × Nat × Nat} {cc : ByteArray} {σ : ah_S} {pc pc' : Nat} {L L' : List (Option Value)} {st : List Value}
theorem ro_castA {t idx : Nat} {r : Option Nat} {u : Unit} (ht0 : 101 ≤ t ∧ t ≤ 105) (hq : Cond.classLink own idx (ah_nm t) ∈ lw_all) (hd : decode cc pc = .ok (.checkcast idx, 3)) (hp : pc + 3 = pc') (h : ah_ca σ t r = some u) (k : ah_G κ (own, μ) cc σ pc' L (va_rf r :: st)) : ah_G κ (own, μ) cc σ pc L (va_rf r :: st) := by
  subst hp
  intro ok le H locs ls hH hS hl
  obtain ⟨p, l, e, R, s, m, args, below, meth, c, D, σ0, res⟩ := κ
  obtain ⟨nm, nL, ret, hh, fr, lo⟩ := μ
  obtain ⟨hx, hb, hml, hown, hts, hK, hr, hlk, hR, hsz, hnm, hex⟩ := id ok
  cases r with
  | none => exact lv_castN hx hb hd (k ok le H locs ls hH hS hl)
  | some a =>
    have ht : ah_tg σ a = t := (ah_ifs h).1
    exact va_castE hx hb hown (hts _ hq) (ah_recv hH hK ht (Or.inr ht0)) hd (k ok le H locs ls hH hS hl)
theorem ro_castB {idx : Nat} {r : Option Nat} {u : Unit} (hq : Cond.classLink own idx "LeftAsFound$Body" ∈ lw_all) (hd : decode cc pc = .ok (.checkcast idx, 3)) (hp : pc + 3 = pc') (h : ah_cb σ r = some u) (k : ah_G κ (own, μ) cc σ pc' L (va_rf r :: st)) : ah_G κ (own, μ) cc σ pc L (va_rf r :: st) := by
  subst hp
  intro ok le H locs ls hH hS hl
  obtain ⟨p, l, e, R, s, m, args, below, meth, c, D, σ0, res⟩ := κ
  obtain ⟨nm, nL, ret, hh, fr, lo⟩ := μ
  obtain ⟨hx, hb, hml, hown, hts, hK, hr, hlk, hR, hsz, hnm, hex⟩ := id ok
  cases r with
  | none => exact lv_castN hx hb hd (k ok le H locs ls hH hS hl)
  | some a =>
    have ht := (ah_ifs h).1
    simp only [Bool.and_eq_true, decide_eq_true_eq] at ht
    have kk := k ok le H locs ls hH hS hl
    rcases (show ah_tg σ a = 15 ∨ ah_tg σ a = 16 ∨ ah_tg σ a = 17 ∨ ah_tg σ a = 18 ∨ ah_tg σ a = 19 ∨ ah_tg σ a = 20 ∨ ah_tg σ a = 21 ∨ ah_tg σ a = 22 by omega) with e | e | e | e | e | e | e | e
    · exact va_castE hx hb hown (hts _ hq) (ah_recv hH hK e (Or.inl (by decide))) hd kk
    · exact va_castY hx hb hown (hts _ hq) (hK.2.1 _ nq1934) (ah_recv hH hK e (Or.inl (by decide))) hd kk
    · exact va_castY hx hb hown (hts _ hq) (hK.2.1 _ nq1937) (ah_recv hH hK e (Or.inl (by decide))) hd kk
    · exact va_castY hx hb hown (hts _ hq) (hK.2.1 _ nq1933) (ah_recv hH hK e (Or.inl (by decide))) hd kk
    · exact va_castY hx hb hown (hts _ hq) (hK.2.1 _ nq1936) (ah_recv hH hK e (Or.inl (by decide))) hd kk
    · exact va_castY hx hb hown (hts _ hq) (hK.2.1 _ nq1938) (ah_recv hH hK e (Or.inl (by decide))) hd kk
    · exact va_castY hx hb hown (hts _ hq) (hK.2.1 _ nq1932) (ah_recv hH hK e (Or.inl (by decide))) hd kk
    · exact va_castY hx hb hown (hts _ hq) (hK.2.1 _ nq1935) (ah_recv hH hK e (Or.inl (by decide))) hd kk
theorem ro_instA {t idx : Nat} {r : Option Nat} {v : Int32} (ht0 : 101 ≤ t ∧ t ≤ 105) (hq : Cond.classLink own idx (ah_nm t) ∈ lw_all) (hd : decode cc pc = .ok (.instanceof idx, 3)) (hp : pc + 3 = pc') (h : ah_io σ t r = some v) (k : ah_G κ (own, μ) cc σ pc' L (.int v :: st)) : ah_G κ (own, μ) cc σ pc L (va_rf r :: st) := by
  subst hp
  intro ok le H locs ls hH hS hl
  obtain ⟨p, l, e, R, s, m, args, below, meth, c, D, σ0, res⟩ := κ
  obtain ⟨nm, nL, ret, hh, fr, lo⟩ := μ
  obtain ⟨hx, hb, hml, hown, hts, hK, hr, hlk, hR, hsz, hnm, hex⟩ := id ok
  have kk := k ok le H locs ls hH hS hl
  cases r with
  | none =>
    cases h
    exact lv_instN hx hb hd kk
  | some a =>
    unfold ah_io at h
    dsimp only at h
    by_cases e : ah_tg σ a = t
    · rw [if_pos e] at h
      cases h
      exact va_instE hx hb hown (hts _ hq) (ah_recv hH hK e (Or.inr ht0)) hd kk
    · rw [if_neg e] at h
      obtain ⟨hu, rfl⟩ := ah_ifs h
      simp only [Bool.or_eq_true, Bool.and_eq_true, decide_eq_true_eq] at hu
      have m1 : ah_tg σ a ∈ [15, 16, 17, 18, 19, 20, 21, 22, 101, 102, 103, 104, 105] := by simp only [List.mem_cons, List.not_mem_nil, or_false]; omega
      have m2 : t ∈ [101, 102, 103, 104, 105] := by simp only [List.mem_cons, List.not_mem_nil, or_false]; omega
      exact va_instNo hx hb hown (hts _ hq) (hK.2.2 _ (ah_ncs _ m1 _ m2 e)) (ah_recv hH hK rfl (by omega)) hd kk
theorem ro_instB {idx : Nat} {r : Option Nat} {v : Int32} (hq : Cond.classLink own idx "LeftAsFound$Body" ∈ lw_all) (hd : decode cc pc = .ok (.instanceof idx, 3)) (hp : pc + 3 = pc') (h : ah_ib σ r = some v) (k : ah_G κ (own, μ) cc σ pc' L (.int v :: st)) : ah_G κ (own, μ) cc σ pc L (va_rf r :: st) := by
  subst hp
  intro ok le H locs ls hH hS hl
  obtain ⟨p, l, e, R, s, m, args, below, meth, c, D, σ0, res⟩ := κ
  obtain ⟨nm, nL, ret, hh, fr, lo⟩ := μ
  obtain ⟨hx, hb, hml, hown, hts, hK, hr, hlk, hR, hsz, hnm, hex⟩ := id ok
  have kk := k ok le H locs ls hH hS hl
  cases r with
  | none =>
    cases h
    exact lv_instN hx hb hd kk
  | some a =>
    unfold ah_ib at h
    dsimp only at h
    by_cases e0 : (decide (15 ≤ ah_tg σ a) && decide (ah_tg σ a ≤ 22)) = true
    · rw [if_pos e0] at h
      cases h
      simp only [Bool.and_eq_true, decide_eq_true_eq] at e0
      rcases (show ah_tg σ a = 15 ∨ ah_tg σ a = 16 ∨ ah_tg σ a = 17 ∨ ah_tg σ a = 18 ∨ ah_tg σ a = 19 ∨ ah_tg σ a = 20 ∨ ah_tg σ a = 21 ∨ ah_tg σ a = 22 by omega) with e | e | e | e | e | e | e | e
      · exact va_instE hx hb hown (hts _ hq) (ah_recv hH hK e (Or.inl (by decide))) hd kk
      · exact va_instY hx hb hown (hts _ hq) (hK.2.1 _ nq1934) (ah_recv hH hK e (Or.inl (by decide))) hd kk
      · exact va_instY hx hb hown (hts _ hq) (hK.2.1 _ nq1937) (ah_recv hH hK e (Or.inl (by decide))) hd kk
      · exact va_instY hx hb hown (hts _ hq) (hK.2.1 _ nq1933) (ah_recv hH hK e (Or.inl (by decide))) hd kk
      · exact va_instY hx hb hown (hts _ hq) (hK.2.1 _ nq1936) (ah_recv hH hK e (Or.inl (by decide))) hd kk
      · exact va_instY hx hb hown (hts _ hq) (hK.2.1 _ nq1938) (ah_recv hH hK e (Or.inl (by decide))) hd kk
      · exact va_instY hx hb hown (hts _ hq) (hK.2.1 _ nq1932) (ah_recv hH hK e (Or.inl (by decide))) hd kk
      · exact va_instY hx hb hown (hts _ hq) (hK.2.1 _ nq1935) (ah_recv hH hK e (Or.inl (by decide))) hd kk
    · rw [if_neg e0] at h
      obtain ⟨hu, rfl⟩ := ah_ifs h
      simp only [Bool.and_eq_true, decide_eq_true_eq] at hu
      have m1 : ah_tg σ a ∈ [101, 102, 103, 104, 105] := by simp only [List.mem_cons, List.not_mem_nil, or_false]; omega
      exact va_instNo hx hb hown (hts _ hq) (hK.2.2 _ (ah_ncb _ m1)) (ah_recv hH hK rfl (by omega)) hd kk
theorem ro_objInit {idx : Nat} {r : Option Nat} {a : Nat} (hr0 : r = some a) (hq : Cond.methodLink own idx objectInit ∈ lw_all) (hq2 : Cond.instanceMethod objectInit ∈ lw_all) (hq3 : Cond.code objectInit ⟨#[0xb1]⟩ 1 none ∈ lw_all) (hst : (st.map fun v => v.category).sum + 12 ≤ μ.2.2.2.2.2) (hfr : 1 ≤ μ.2.2.2.2.1) (hd : decode cc pc = .ok (.invokespecial idx, 3)) (hp : pc + 3 = pc') (k : ah_G κ (own, μ) cc σ pc' L st) : ah_G κ (own, μ) cc σ pc L (va_rf r :: st) := by
  subst hp
  subst hr0
  intro ok le H locs ls hH hS hl
  obtain ⟨p, l, e, R, s, m, args, below, meth, c, D, σ0, res⟩ := κ
  obtain ⟨nm, nL, ret, hh, fr, lo⟩ := μ
  obtain ⟨hx, hb, hml, hown, hts, hK, hr, hlk, hR, hsz, hnm, hex⟩ := id ok
  have hRf : R.frames = fr := by rw [hR]; rfl
  have hRl : R.locals = lo := by rw [hR]; rfl
  have hst' : (st.map fun v => v.category).sum + 12 ≤ lo := hst
  have hfr' : 1 ≤ fr := hfr
  exact W.objInit hx hb hown (hts _ hq) (hts _ hq2) (hts _ hq3) rfl (by rw [hml]; exact hl.1) rfl hd (by omega) (by show 2 * 0 + _ + 12 ≤ _; omega) (k ok le H locs ls hH hS hl)
end
abbrev ah_res (κ : ah_C) : Outcome × ah_S := κ.2.2.2.2.2.2.2.2.2.2.2.2
section
variable {κ : ah_C} {own nm : String} {nL : Nat} {ret : Option FieldType} {μ : List (Nat × Nat × Nat × Nat) × Nat × Nat} {cc : ByteArray} {σ : ah_S} {pc : Nat} {L : List (Option Value)}
theorem ah_fin {p : Program} {l : Launch} {e : Env} {R : Room} {s : State} {m : MethodId} {args : Array Value} {below : List Frame} {meth : Method} {c : Code} {H : Heap} {locs : List Loc} {D : ah_D} {σ0 σ : ah_S} {o : Outcome} {g : JFrame} (le : ah_Le σ0 σ) (hH : ah_HH D σ H) (hS : va_S (ah_A σ0) s.heap H locs)
    (hW : W p l e R s m args below meth c H locs (ah_rc σ0 - ah_rc σ) (ah_rs σ0 - ah_rs σ) (MQ below (fun _ st oc t => oc = o ∧ t.heap = H) args s (ah_rc σ0 - ah_rc σ) (ah_rs σ0 - ah_rs σ) (ah_A σ0)) g) :
    W p l e R s m args below meth c H locs (ah_rc σ0 - ah_rc σ) (ah_rs σ0 - ah_rs σ) (ah_MQ below D σ0 (o, σ) s) g := by
  intro T hT X
  obtain ⟨t, st, oc, h1, h2, ⟨h3, h4⟩, LL, ⟨h5, h6, h7⟩, h8⟩ := hW T hT X
  exact ⟨t, st, oc, h1, h2, h3, by rw [h4]; exact hH, le, hS.F h4, h6, LL, h7, h8⟩
theorem ro_iret {v : Int32} (hres : ah_res κ = (.returned (some (.int v)), σ)) (hd : decode cc pc = .ok (.ireturn, 1)) : ah_G κ (own, nm, nL, some .int, μ) cc σ pc L [.int v] := by
  intro ok le H locs ls hH hS hl
  obtain ⟨p, l, e, R, s, m, args, below, meth, c, D, σ0, res⟩ := κ
  obtain ⟨hh, fr, lo⟩ := μ
  obtain ⟨hx, hb, hml, hown, hts, hK, hr, hlk, hR, hsz, hnm, hex⟩ := id ok
  have e1 : res = _ := hres
  subst e1
  show W p l e R s m args below meth c H locs (ah_rc σ0 - ah_rc σ) (ah_rs σ0 - ah_rs σ) (ah_MQ below D σ0 (_, σ) s) (F0 m pc ls _)
  refine ah_fin (σ0 := σ0) (σ := σ) le hH hS ?_
  exact W.iret hx hb hr (fun t ht _ => ⟨rfl, ht⟩) hS.2.2 hd hlk
theorem ro_zret {v : Int32} (hz : narrow .boolean (.int v) = .int v) (hres : ah_res κ = (.returned (some (.int v)), σ)) (hd : decode cc pc = .ok (.ireturn, 1)) : ah_G κ (own, nm, nL, some .boolean, μ) cc σ pc L [.int v] := by
  intro ok le H locs ls hH hS hl
  obtain ⟨p, l, e, R, s, m, args, below, meth, c, D, σ0, res⟩ := κ
  obtain ⟨hh, fr, lo⟩ := μ
  obtain ⟨hx, hb, hml, hown, hts, hK, hr, hlk, hR, hsz, hnm, hex⟩ := id ok
  have e1 : res = _ := hres
  subst e1
  show W p l e R s m args below meth c H locs (ah_rc σ0 - ah_rc σ) (ah_rs σ0 - ah_rs σ) (ah_MQ below D σ0 (_, σ) s) (F0 m pc ls _)
  refine ah_fin (σ0 := σ0) (σ := σ) le hH hS ?_
  exact W.zret hx hb hr hz (fun t ht _ => ⟨rfl, ht⟩) hS.2.2 hd hlk
theorem ro_lret {v : Int64} (hres : ah_res κ = (.returned (some (.long v)), σ)) (hd : decode cc pc = .ok (.lreturn, 1)) : ah_G κ (own, nm, nL, some .long, μ) cc σ pc L [.long v] := by
  intro ok le H locs ls hH hS hl
  obtain ⟨p, l, e, R, s, m, args, below, meth, c, D, σ0, res⟩ := κ
  obtain ⟨hh, fr, lo⟩ := μ
  obtain ⟨hx, hb, hml, hown, hts, hK, hr, hlk, hR, hsz, hnm, hex⟩ := id ok
  have e1 : res = _ := hres
  subst e1
  show W p l e R s m args below meth c H locs (ah_rc σ0 - ah_rc σ) (ah_rs σ0 - ah_rs σ) (ah_MQ below D σ0 (_, σ) s) (F0 m pc ls _)
  refine ah_fin (σ0 := σ0) (σ := σ) le hH hS ?_
  exact W.lret hx hb hr (fun t ht _ => ⟨rfl, ht⟩) hS.2.2 hd hlk
theorem ro_aret {r : Option Nat} {n : String} (hres : ah_res κ = (.returned (some (va_rf r)), σ)) (hd : decode cc pc = .ok (.areturn, 1)) : ah_G κ (own, nm, nL, some (.object n), μ) cc σ pc L [va_rf r] := by
  intro ok le H locs ls hH hS hl
  obtain ⟨p, l, e, R, s, m, args, below, meth, c, D, σ0, res⟩ := κ
  obtain ⟨hh, fr, lo⟩ := μ
  obtain ⟨hx, hb, hml, hown, hts, hK, hr, hlk, hR, hsz, hnm, hex⟩ := id ok
  have e1 : res = _ := hres
  subst e1
  show W p l e R s m args below meth c H locs (ah_rc σ0 - ah_rc σ) (ah_rs σ0 - ah_rs σ) (ah_MQ below D σ0 (_, σ) s) (F0 m pc ls _)
  refine ah_fin (σ0 := σ0) (σ := σ) le hH hS ?_
  exact W.aret hx hb hr (Or.inl ⟨n, rfl⟩) (by cases r <;> simp [va_rf]) (fun t ht _ => ⟨rfl, ht⟩) hS.2.2 hd hlk
theorem ro_vret (hres : ah_res κ = (.returned none, σ)) (hd : decode cc pc = .ok (.return_, 1)) : ah_G κ (own, nm, nL, none, μ) cc σ pc L [] := by
  intro ok le H locs ls hH hS hl
  obtain ⟨p, l, e, R, s, m, args, below, meth, c, D, σ0, res⟩ := κ
  obtain ⟨hh, fr, lo⟩ := μ
  obtain ⟨hx, hb, hml, hown, hts, hK, hr, hlk, hR, hsz, hnm, hex⟩ := id ok
  have e1 : res = _ := hres
  subst e1
  show W p l e R s m args below meth c H locs (ah_rc σ0 - ah_rc σ) (ah_rs σ0 - ah_rs σ) (ah_MQ below D σ0 (_, σ) s) (F0 m pc ls _)
  refine ah_fin (σ0 := σ0) (σ := σ) le hH hS ?_
  exact W.vret hx hb hr (fun t ht _ => ⟨rfl, ht⟩) hS.2.2 hd hlk
theorem ah_z_n {v w : Int32} (h : ah_z v = some w) : w = v ∧ narrow .boolean (.int v) = .int v := by
  obtain ⟨h1, h2⟩ := ah_ifs h
  have : v = 0 ∨ v = 1 := by simpa using h1
  refine ⟨h2.symm, ?_⟩
  rcases this with rfl | rfl <;> rfl
end
