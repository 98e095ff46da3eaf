/-! ===== orders of the model; the question ===== -/
section
variable {σ : ah_S} {b nb G : Nat} {ga ra ba kd : Nat → Nat} {hd : Nat → Int32} {sz : Nat → Nat} {el : sp_E} {V : sp_V} {lw : sp_W} {h : sp_H} {s : Nat → Int32} {n : Nat}
theorem lm_leaf {M : Nat} {ord : Nat → Nat} {o : sp_O} {F : ah_S → Option Nat → Int32 → Int32 → Int32 → Option ah_S} {ρ : ah_S} (hn : n ≤ 30) (hM : M ≤ 5) (hMn : M ≤ n) (ho : ∀ i, i < M → ord i < M) (O : mo_ ρ b V G lw s n h M M ord o) : ∀ m i σ q, i + m = M → m < q → ag_ b [32] ρ σ → ah_fi σ 636 (b + 123) = Int32.ofNat n → (∀ j, M ≤ j → j < n → ah_ai σ (b + 146) j = s j) → (∀ j, j < i → ah_ai σ (b + 146) j = s (ord j)) → pu_ok (F_X6_goOrders_8 F q σ (some (b + 123)) (Int32.ofNat M) (Int32.ofNat i)) (fun υ => ag_ b [24, 25, 31, 32, 35, 36, 54, 55] ρ υ ∧ mo_ υ b V G lw s n h M M ord (sp_le V G lw s n h M ord o)) := by
  obtain ⟨o1, o2, o3, o4, o5, o6, o7, o8⟩ := O
  have r0 := o1.1
  intro m
  induction m with
  | zero =>
    intro i σ q hi hq A i1 i2 i3
    obtain ⟨q, rfl⟩ : ∃ z, q = z + 1 := ⟨q - 1, by omega⟩
    have s0 := ag_sk A
    unfold F_X6_goOrders_8
    rw [if_pos ((nu_ofle (by omega) (by omega)).mpr (by omega)), ss_123 s0, pu_bs]
    have hc : mst_ σ b (sp_so s M ord) n := ⟨i1, hn, fun j hj => by
      unfold sp_so
      by_cases c : j < M
      · rw [if_pos c]; exact i3 j (by omega)
      · rw [if_neg c]; exact i2 j (by omega) hj⟩
    refine pu_b2 (fm_lossRow (mk_ag A (by decide) o1) hc (mh_ag A r0 (by decide) (by decide) o2)) ?_
    rintro v υ ⟨rfl, A2, H2⟩
    dsimp only at A2 H2 ⊢
    have s2 := ag_sk A2
    have hc2 := mst_ag A2 s0 (by decide) hc
    have A3 : ag_ b [24, 25, 31, 32, 35, 36, 54, 55] ρ υ := ag_tr (ag_mo (by decide) A) (ag_mo (by decide) A2)
    have A4 : ag_ b [24, 25, 31, 32, 54, 55] ρ υ := ag_tr (ag_mo (by decide) A) (ag_mo (by decide) A2)
    have e28 : ah_fi υ 641 (b + 123) = o.1 := by rw [← o6]; exact ag_fi A4 r0 (by decide) (by decide) (by decide)
    have c5 : ∀ j, M ≤ j → j < n → ah_ai υ (b + 146) j = s j := fun j q1 q2 => by
      rw [hc2.2.2 j q2]
      unfold sp_so
      rw [if_neg (by omega)]
    have same : mo_ υ b V G lw s n h M M ord o := ⟨mk_ag A4 (by decide) o1, H2, hc2.1, fun j hj => by rw [ag_ai A4 r0 (by decide) (by decide)]; exact o4 j hj, c5, e28, fun f hf i hi => by rw [ag_ai A4 r0 (by decide) (by decide)]; exact o7 f hf i hi, fun i hi => by rw [ag_ai A4 r0 (by decide) (by decide)]; exact o8 i hi⟩
    have setn : ∀ x, pu_ok ((ah_pI υ 641 (some (b + 123)) x).bind fun σ5 => F_X6_goOrders_71 F 1000 σ5 (some (b + 123)) (Int32.ofNat M) 0) (fun τ => ag_ b [24, 25, 31, 32, 35, 36, 54, 55] ρ τ ∧ mo_ τ b V G lw s n h M M ord (x, some ord)) := by
      intro x
      rw [sp_641 s2, pu_bs]
      have A5 : ag_ b [36] υ (ah_sI υ 641 (b + 123) x) := ag_wI (ag_rf _ s2) (fun _ => lb_fo (by decide) rfl (by decide))
      have cp : ∀ m i τ q, i + m = M → m < q → ag_ b [36] υ τ → ah_fi τ 641 (b + 123) = x → (∀ j, j < i → ah_ai τ (b + 150) j = Int32.ofNat (ord j)) → pu_ok (F_X6_goOrders_71 F q τ (some (b + 123)) (Int32.ofNat M) (Int32.ofNat i)) (fun τ => ag_ b [24, 25, 31, 32, 35, 36, 54, 55] ρ τ ∧ mo_ τ b V G lw s n h M M ord (x, some ord)) := by
        intro m
        induction m with
        | zero =>
          intro i τ q hi hq Aτ j1 j2
          obtain ⟨q, rfl⟩ : ∃ z, q = z + 1 := ⟨q - 1, by omega⟩
          unfold F_X6_goOrders_71
          rw [if_pos ((nu_ofle (by omega) (by omega)).mpr (by omega))]
          obtain ⟨p1, p2, p3, p4, p5, p6, p7, p8⟩ := same
          refine pu_ret ⟨ag_tr A3 (ag_mo (by decide) Aτ), mk_ag Aτ (by decide) p1, mh_ag Aτ s2 (by decide) (by decide) p2, ?_, fun j hj => ?_, fun j q1 q2 => ?_, j1, fun f hf i hi => ?_, fun i hi => ?_⟩
          · rw [← p3]; exact ag_fi Aτ s2 (by decide) (by decide) (by decide)
          · rw [ag_ai Aτ s2 (by decide) (by decide)]; exact p4 j hj
          · rw [ag_ai Aτ s2 (by decide) (by decide)]; exact p5 j q1 q2
          · cases hf; exact j2 i (by omega)
          · rw [ag_ai Aτ s2 (by decide) (by decide)]; exact p8 i hi
        | succ m ihm =>
          intro i τ q hi hq Aτ j1 j2
          obtain ⟨q, rfl⟩ : ∃ z, q = z + 1 := ⟨q - 1, by omega⟩
          have sτ := ag_sk Aτ
          have e9 : ah_ai τ (b + 149) i = Int32.ofNat (ord i) := by rw [ag_ai Aτ s2 (by decide) (by decide)]; exact same.2.2.2.2.2.2.2 i (by omega)
          unfold F_X6_goOrders_71
          rw [if_neg (fun z => by have := (nu_ofle (by omega) (by omega)).mp z; omega)]
          simp only [sg_640 sτ, sg_639 sτ, pu_bs, al_149 sτ (show i < 5 by omega), e9, aw_150 sτ (show i < 5 by omega), nl_ar_1]
          refine ihm (i + 1) _ q (by omega) (by omega) (ag_wA Aτ (fun _ => lb_sc (by decide) rfl (by decide))) j1 (fun j hj => ?_)
          rw [rw_ai_sA, if_pos rfl]
          by_cases z : j = i
          · rw [if_pos z, z]
          · rw [if_neg z]; exact j2 j (by omega)
      exact cp M 0 _ 1000 (by omega) (by omega) A5 (by rw [rw_fi_sI, if_pos rfl, if_pos rfl]) (fun j hj => absurd hj (Nat.not_lt_zero _))
    rw [si_641 s2, pu_bs, e28, pu_bs]
    unfold sp_le
    by_cases c : o.1 < 0
    · rw [if_pos c, if_pos c]; exact setn _
    · rw [if_neg c, if_neg c]
      by_cases d : sp_lo V G lw (sp_so s M ord) n 0 h 0 < o.1
      · rw [if_pos d, if_pos d]; exact setn _
      · rw [if_neg d, if_neg d]; exact pu_ret ⟨A3, same⟩
  | succ m ih =>
    intro i σ q hi hq A i1 i2 i3
    obtain ⟨q, rfl⟩ : ∃ z, q = z + 1 := ⟨q - 1, by omega⟩
    have s0 := ag_sk A
    have hoi := ho i (by omega)
    have e25 : ah_ai σ (b + 149) i = Int32.ofNat (ord i) := by rw [ag_ai A r0 (by decide) (by decide)]; exact o8 i (by omega)
    have e24 : ah_ai σ (b + 148) (ord i) = s (ord i) := by rw [ag_ai A r0 (by decide) (by decide)]; exact o4 _ (by omega)
    unfold F_X6_goOrders_8
    rw [if_neg (fun z => by have := (nu_ofle (by omega) (by omega)).mp z; omega)]
    simp only [sg_635 s0, sg_638 s0, sg_639 s0, pu_bs, al_149 s0 (show i < 5 by omega), e25, al_148 s0 (show ord i < 30 by omega), e24, aw_146 s0 (show i < 30 by omega), nl_ar_1]
    refine ih (i + 1) _ q (by omega) (by omega) (ag_wA A (fun _ => lb_sc (by decide) rfl (by decide))) i1 (fun j q1 q2 => ?_) (fun j hj => ?_)
    · rw [rw_ai_sA, if_pos rfl, if_neg (by omega)]; exact i2 j q1 q2
    · rw [rw_ai_sA, if_pos rfl]
      by_cases z : j = i
      · rw [if_pos z, z]
      · rw [if_neg z]; exact i3 j (by omega)
theorem lm_order {M : Nat} (hn : n ≤ 30) (hM : M ≤ 5) (hMn : M ≤ n) : ∀ d k u ord o σ, k ≤ M → M - k < d → u < 128 → (∀ i, i < k → ord i < M) → mo_ σ b V G lw s n h M k ord o → pu_ok (Z_X6_goOrders d σ (some (b + 123)) (Int32.ofNat k) (Int32.ofNat M) (Int32.ofNat u)) (fun υ => ag_ b [24, 25, 31, 32, 35, 36, 54, 55] σ υ ∧ mo_ υ b V G lw s n h M k ord (sp_od V G lw s n h M d k u ord o)) := by
  intro d
  induction d with
  | zero => intro k u ord o σ hk hd; omega
  | succ d ih =>
    intro k u ord o σ hk hd hu ho O
    show pu_ok (F_X6_goOrders (Z_X6_goOrders d) σ (some (b + 123)) (Int32.ofNat k) (Int32.ofNat M) (Int32.ofNat u)) _
    unfold F_X6_goOrders sp_od
    have s0 := O.1.1
    by_cases c : k = M
    · subst c
      rw [if_pos rfl, if_pos rfl]
      exact lm_leaf hn hM hMn ho O k 0 σ 1000 (by omega) (by omega) (ag_rf _ s0) O.2.2.1 O.2.2.2.2.1 (fun j hj => absurd hj (Nat.not_lt_zero _))
    · rw [if_neg c, if_neg (fun z => c ((nu_ofeq (by omega) (by omega)).mp z))]
      have key : ∀ m p τ q o', p + m = M → m < q → ag_ b [24, 25, 31, 32, 35, 36, 54, 55] σ τ → mo_ τ b V G lw s n h M k ord o' → pu_ok (F_X6_goOrders_101 (Z_X6_goOrders d) q τ (some (b + 123)) (Int32.ofNat k) (Int32.ofNat M) (Int32.ofNat u) (Int32.ofNat p)) (fun υ => ag_ b [24, 25, 31, 32, 35, 36, 54, 55] σ υ ∧ mo_ υ b V G lw s n h M k ord (lp_ (fun p o => if u.testBit p then o else sp_od V G lw s n h M d (k + 1) (u ||| 2 ^ p) (va_up ord k p) o) m p o')) := by
        intro m
        induction m with
        | zero =>
          intro p τ q o' hp hq A O'
          obtain ⟨q, rfl⟩ : ∃ z, q = z + 1 := ⟨q - 1, by omega⟩
          unfold F_X6_goOrders_101
          rw [if_pos ((nu_ofle (by omega) (by omega)).mpr (by omega))]
          exact pu_ret ⟨A, O'⟩
        | succ m ihm =>
          intro p τ q o' hp hq A O'
          obtain ⟨q, rfl⟩ : ∃ z, q = z + 1 := ⟨q - 1, by omega⟩
          have sτ := ag_sk A
          unfold F_X6_goOrders_101 lp_
          rw [if_neg (fun z => by have := (nu_ofle (by omega) (by omega)).mp z; omega), bt_is hu (by omega)]
          by_cases e : u.testBit p = true
          · rw [if_pos e, if_pos e, if_pos rfl, nl_ar_1]
            exact ihm (p + 1) τ q o' (by omega) (by omega) A O'
          · rw [if_neg e, if_neg e, if_neg (by decide), sg_639 sτ, pu_bs, aw_149 sτ (by omega), pu_bs]
            have A2 : ag_ b [35] τ (ah_sA τ (b + 149) k (Int32.ofNat p)) := ag_wA (ag_rf _ sτ) (fun _ => lb_sc (by decide) rfl (by decide))
            have s2 := ag_sk A2
            have O2 : mo_ (ah_sA τ (b + 149) k (Int32.ofNat p)) b V G lw s n h M (k + 1) (va_up ord k p) o' := by
              obtain ⟨o1, o2, o3, o4, o5, o6, o7, o8⟩ := O'
              refine ⟨mk_ag A2 (by decide) o1, mh_ag A2 sτ (by decide) (by decide) o2, o3, fun j hj => by rw [ag_ai A2 sτ (by decide) (by decide)]; exact o4 j hj, fun j q1 q2 => by rw [ag_ai A2 sτ (by decide) (by decide)]; exact o5 j q1 q2, o6, fun f hf i hi => by rw [ag_ai A2 sτ (by decide) (by decide)]; exact o7 f hf i hi, fun i hi => ?_⟩
              rw [rw_ai_sA, if_pos rfl]
              unfold va_up
              by_cases z : i = k
              · rw [if_pos z, if_pos z]
              · rw [if_neg z, if_neg z]; exact o8 i (by omega)
            obtain ⟨b1, b2, -⟩ := bt_or hu (show p < 7 by omega)
            rw [ss_123 s2, pu_bs, nl_ar_1, b1]
            refine pu_bind (ih (k + 1) (u ||| 2 ^ p) (va_up ord k p) o' _ (by omega) (by omega) b2 (fun i hi => ?_) O2) ?_
            · unfold va_up
              by_cases z : i = k
              · rw [if_pos z]; omega
              · rw [if_neg z]; exact ho i (by omega)
            · rintro υ ⟨A3, O3⟩
              rw [nl_ar_1]
              refine ihm (p + 1) υ q _ (by omega) (by omega) (ag_tr A (ag_tr (ag_mo (by decide) A2) A3)) ?_
              obtain ⟨o1, o2, o3, o4, o5, o6, o7, o8⟩ := O3
              refine ⟨o1, o2, o3, o4, o5, o6, o7, fun i hi => ?_⟩
              rw [o8 i (by omega)]
              unfold va_up
              rw [if_neg (by omega)]
      exact key M 0 σ 1000 o (by omega) (by omega) (ag_rf _ s0) O
/-! some order is found -/
theorem od_le {M : Nat} {ord : Nat → Nat} {o : sp_O} (h1 : o.2.isSome = true ∨ o.1 < 0) : (sp_le V G lw s n h M ord o).2.isSome = true := by
  unfold sp_le
  by_cases c : o.1 < 0
  · rw [if_pos c]; rfl
  · rw [if_neg c]
    split
    · rfl
    · exact h1.resolve_right c
theorem od_mono {M : Nat} : ∀ d k u ord o, o.2.isSome = true → (sp_od V G lw s n h M d k u ord o).2.isSome = true := by
  intro d
  induction d with
  | zero => intro k u ord o ho; exact ho
  | succ d ih =>
    intro k u ord o ho
    unfold sp_od
    by_cases c : k = M
    · rw [if_pos c]; exact od_le (Or.inl ho)
    · rw [if_neg c]
      have key : ∀ m p o', o'.2.isSome = true → (lp_ (fun p o => if u.testBit p then o else sp_od V G lw s n h M d (k + 1) (u ||| 2 ^ p) (va_up ord k p) o) m p o').2.isSome = true := by
        intro m
        induction m with
        | zero => intro p o' h'; exact h'
        | succ m ihm =>
          intro p o' h'
          unfold lp_
          refine ihm _ _ ?_
          split
          · exact h'
          · exact ih _ _ _ _ h'
      exact key M 0 o ho
theorem od_some {M : Nat} (hM : M ≤ 5) : ∀ d k ord o, k ≤ M → M - k < d → o.1 < 0 → (sp_od V G lw s n h M d k (2 ^ k - 1) ord o).2.isSome = true := by
  have tb : ∀ k, k < 6 → ∀ p, p < 6 → (2 ^ k - 1).testBit p = decide (p < k) := by decide
  have ob : ∀ k, k < 6 → (2 ^ k - 1) ||| 2 ^ k = 2 ^ (k + 1) - 1 := by decide
  intro d
  induction d with
  | zero => intro k ord o hk hd; omega
  | succ d ih =>
    intro k ord o hk hd ho
    unfold sp_od
    by_cases c : k = M
    · rw [if_pos c]; exact od_le (Or.inr ho)
    · rw [if_neg c]
      have mono : ∀ m p o', o'.2.isSome = true → (lp_ (fun p o => if (2 ^ k - 1).testBit p then o else sp_od V G lw s n h M d (k + 1) ((2 ^ k - 1) ||| 2 ^ p) (va_up ord k p) o) m p o').2.isSome = true := by
        intro m
        induction m with
        | zero => intro p o' h'; exact h'
        | succ m ihm =>
          intro p o' h'
          unfold lp_
          refine ihm _ _ ?_
          split
          · exact h'
          · exact od_mono _ _ _ _ _ h'
      have key : ∀ m p, p + m = M → p ≤ k → (lp_ (fun p o => if (2 ^ k - 1).testBit p then o else sp_od V G lw s n h M d (k + 1) ((2 ^ k - 1) ||| 2 ^ p) (va_up ord k p) o) m p o).2.isSome = true := by
        intro m
        induction m with
        | zero => intro p hp hpk; omega
        | succ m ihm =>
          intro p hp hpk
          unfold lp_
          by_cases e : p < k
          · rw [if_pos (by rw [tb k (by omega) p (by omega)]; exact decide_eq_true e)]
            exact ihm (p + 1) (by omega) (by omega)
          · have : p = k := by omega
            subst this
            rw [if_neg (by rw [tb p (by omega) p (by omega)]; simp), ob p (by omega)]
            exact mono _ _ _ (ih (p + 1) _ _ (by omega) (by omega) ho)
      exact key M 0 (by omega) (by omega)
theorem nu_min5 {n : Nat} (h : n ≤ 30) : (if Int32.ofNat n < (5 : Int32) then Int32.ofNat n else (5 : Int32)) = Int32.ofNat (min n 5) := by
  by_cases c : n < 5
  · rw [if_pos ((nl_gt_5 (by omega)).mpr c), Nat.min_eq_left (by omega)]
  · rw [if_neg (fun q => c ((nl_gt_5 (by omega)).mp q)), Nat.min_eq_right (by omega)]; rfl
theorem qq_order (hw : sw_ hd sz el nb) (hv : sp_hw h) (x1 x2 : Int32) : qq_ b ga ra ba nb kd hd sz el V G lw h (fun σ => F_X0_order σ (some b) x1 x2) (fun σ => F_X6_order σ (some (b + 123)) x1 x2) := by
  by_cases c1 : 0 ≤ x1 ∧ x1 ≤ 5
  rotate_left
  · refine ⟨-1, fun σ hq => ?_, fun σ hq => ?_⟩
    · simp only [F_X0_order, fx_isShelf, ra_n c1, pu_b2s, if_true]; exact pu_ret ⟨rfl, ag_rf _ hq.1.1⟩
    · simp only [F_X6_order, fm_isShelf, ra_n c1, pu_b2s, if_true]; exact pu_ret ⟨rfl, ag_rf _ hq.1.1, hq.2.2⟩
  by_cases c2 : -1 ≤ x2
  rotate_left
  · refine ⟨-1, fun σ hq => ?_, fun σ hq => ?_⟩
    · simp only [F_X0_order, fx_isShelf, ra_p c1, nu_10, if_false, pu_b2s, if_neg c2]; exact pu_ret ⟨rfl, ag_rf _ hq.1.1⟩
    · simp only [F_X6_order, fm_isShelf, ra_p c1, nu_10, if_false, pu_b2s, if_neg c2]; exact pu_ret ⟨rfl, ag_rf _ hq.1.1, hq.2.2⟩
  obtain ⟨d, rfl, h6⟩ := nu_natb (m := 5) c1.1 (by decide) c1.2
  have h6 : d < 6 := by omega
  have hz := (hw d h6).1
  by_cases e2 : hd d = -2
  rotate_left
  · refine ⟨sp_rf hd d, fun σ hq => ?_, fun σ hq => ?_⟩
    · have s0 := hq.1.1
      simp only [F_X0_order, fx_isShelf, ra_p c1, pu_b2s, nu_10, if_false, if_pos c2, ss_0 s0, pu_bs, fx_takesN hq.1 hq.2.1 hq.2.2.1 hw h6 e2, if_neg (rf_n e2).2.2, fx_lookAt s0 hq.2.1 hq.2.2.1 hw h6]; exact pu_ret ⟨rfl, ag_rf _ s0⟩
    · have s0 := hq.1.1
      simp only [F_X6_order, fm_isShelf, ra_p c1, pu_b2s, nu_10, if_false, if_pos c2, ss_123 s0, pu_bs, fm_rowFault s0 hq.2.1 h6, if_neg (rf_n e2).2.2]; exact pu_ret ⟨rfl, ag_rf _ s0, hq.2.2⟩
  generalize hs : (fun i => (el d i).toInt32) = s
  generalize hn : min (sz d) 30 = n
  have hn30 : n ≤ 30 := by omega
  have hM5 : min n 5 ≤ 5 := Nat.min_le_right _ _
  have hMn : min n 5 ≤ n := Nat.min_le_left _ _
  generalize hMe : min n 5 = M at *
  obtain ⟨f, hf⟩ : ∃ f, (sp_od V G lw s n h M 10 0 0 (fun _ => 0) (-1, none)).2 = some f := Option.isSome_iff_exists.mp (od_some (d := 10) (k := 0) (ord := fun _ => 0) (o := (-1, none)) hM5 (by omega) (by omega) (by decide))
  generalize ho : sp_od V G lw s n h M 10 0 0 (fun _ => 0) (-1, none) = o at *
  refine ⟨if x2 = -1 then o.1 else if Int32.ofNat M ≤ x2 then -2 else Int32.ofNat (f x2.toNatClampNeg), fun σ hq => ?_, fun σ hq => ?_⟩
  · have s0 := hq.1.1
    simp only [F_X0_order, fx_isShelf, ra_p c1, pu_b2s, nu_10, if_false, if_pos c2, ss_0 s0, pu_bs]
    refine pu_b2 (fx_takes hq.1 hq.2.1 hq.2.2.1 hw h6 e2) ?_
    rintro v τ ⟨rfl, A1, C1⟩
    dsimp only at A1 C1
    have sτ := ag_sk A1
    rw [if_pos (by decide)]
    rw [hs, hn] at C1
    obtain ⟨t1, t2, t3⟩ := fx_told sτ C1
    generalize ah_cpI τ (b + 22) 0 (b + 24) 0 n = τ2 at *
    have s2 := ag_sk t2
    have C2 := xcm_ag t2 sτ (by decide) C1
    simp only [sg_20 sτ, sg_25 sτ, si_21 sτ, pu_bs, C1.1, t1, si_21 s2, C2.1, sp_28 s2, nu_min5 hn30, hMe]
    have A5 : ag_ b [16] τ2 (ah_sI τ2 28 b (-1)) := ag_wI (ag_rf _ s2) (fun _ => lb_fo (by decide) rfl (by decide))
    have s5 := ag_sk A5
    have C5 := xcm_ag A5 s2 (by decide) C2
    have O5 : xo_ (ah_sI τ2 28 b (-1)) b ga V G lw s n h M 0 (fun _ => 0) (-1, none) := ⟨xk_ag A5 (by decide) (xk_ag t2 (by decide) (xk_ag A1 (by decide) hq.1)), xh_ag A5 s2 m12 (by decide) (xh_ag t2 sτ m12 (by decide) (xh_ag A1 hq.1.1 m12 (by decide) hq.2.2.2)), C5.1, fun j hj => by rw [ag_ai A5 s2 (by decide) (by decide)]; exact t3 j hj, fun j _ hj => C5.2.2 j hj, by rw [rw_fi_sI, if_pos rfl, if_pos rfl], fun f hf => (by cases hf), fun i hi => absurd hi (Nat.not_lt_zero _)⟩
    rw [ss_0 s5, pu_bs]
    refine pu_bind (lx_order hv hn30 hM5 hMn 10 0 0 (fun _ => 0) (-1, none) _ (by omega) (by omega) (by decide) (fun i hi => absurd hi (Nat.not_lt_zero _)) O5) ?_
    rintro υ ⟨A6, O6⟩
    rw [ho] at O6
    have s6 := ag_sk A6
    have A7 : ag_ b LX_ σ υ := ag_tr (ag_mo (by decide) A1) (ag_tr (ag_mo (by decide) t2) (ag_tr (ag_mo (by decide) A5) (ag_mo (by decide) A6)))
    by_cases c : x2 = -1
    · rw [if_pos c, if_pos c, si_28 s6, pu_bs, O6.2.2.2.2.2.1]
      exact pu_ret ⟨rfl, A7⟩
    · rw [if_neg c, if_neg c]
      by_cases e : Int32.ofNat M ≤ x2
      · rw [if_pos e, if_pos e]; exact pu_ret ⟨rfl, A7⟩
      · rw [if_neg e, if_neg e]
        have hx0 : 0 ≤ x2 := by
          rw [nu_le] at c2 ⊢
          have k1 : (-1 : Int32).toInt = -1 := rfl
          have k0 : (0 : Int32).toInt = 0 := rfl
          have : x2.toInt ≠ -1 := fun q => c (Int32.toInt_inj.mp (q.trans k1.symm))
          omega
        obtain ⟨k, rfl, hk⟩ := nu_nat hx0
        have hkM : k < M := by
          have := (Int32.lt_or_le (Int32.ofNat k) (Int32.ofNat M)).resolve_right e
          exact (nu_oflt hk (by omega)).mp this
        rw [sg_27 s6, pu_bs, al_26 s6 (by omega), pu_bs, O6.2.2.2.2.2.2.1 f hf k hkM, nu_cl hk]
        exact pu_ret ⟨rfl, A7⟩
  · have s0 := hq.1.1
    simp only [F_X6_order, fm_isShelf, ra_p c1, pu_b2s, nu_10, if_false, if_pos c2, ss_123 s0, pu_bs, fm_rowFault s0 hq.2.1 h6, rf_0 e2]
    rw [if_pos (by decide)]
    refine pu_bind (fm_layStays hq.1.1 hq.2.1 (hw d h6).1 h6) ?_
    rintro τ ⟨A1, C1⟩
    have sτ := ag_sk A1
    rw [hs, hn] at C1
    rw [ss_123 sτ, pu_bs]
    refine pu_bind (fm_keepStays sτ C1) ?_
    rintro τ2 ⟨t2, t3⟩
    have s2 := ag_sk t2
    have C2 := mst_ag t2 sτ (by decide) C1
    have key : pu_ok (F_X6_order_53 τ2 (some (b + 123)) x2 (Int32.ofNat M)) (fun r => r.1 = (if x2 = -1 then o.1 else if Int32.ofNat M ≤ x2 then -2 else Int32.ofNat (f x2.toNatClampNeg)) ∧ ag_ b LM_ σ r.2 ∧ mh_ r.2 b 130 h) := by
      unfold F_X6_order_53
      rw [sp_641 s2, pu_bs]
      have A5 : ag_ b [36] τ2 (ah_sI τ2 641 (b + 123) (-1)) := ag_wI (ag_rf _ s2) (fun _ => lb_fo (by decide) rfl (by decide))
      have s5 := ag_sk A5
      have C5 := mst_ag A5 s2 (by decide) C2
      have O5 : mo_ (ah_sI τ2 641 (b + 123) (-1)) b V G lw s n h M 0 (fun _ => 0) (-1, none) := ⟨mk_ag A5 (by decide) (mk_ag t2 (by decide) (mk_ag A1 (by decide) hq.1)), mh_ag A5 s2 (by decide) (by decide) (mh_ag t2 sτ (by decide) (by decide) (mh_ag A1 hq.1.1 (by decide) (by decide) hq.2.2)), C5.1, fun j hj => by rw [ag_ai A5 s2 (by decide) (by decide)]; exact t3 j hj, fun j _ hj => C5.2.2 j hj, by rw [rw_fi_sI, if_pos rfl, if_pos rfl], fun f hf => (by cases hf), fun i hi => absurd hi (Nat.not_lt_zero _)⟩
      rw [ss_123 s5, pu_bs]
      refine pu_bind (lm_order hn30 hM5 hMn 10 0 0 (fun _ => 0) (-1, none) _ (by omega) (by omega) (by decide) (fun i hi => absurd hi (Nat.not_lt_zero _)) O5) ?_
      rintro υ ⟨A6, O6⟩
      rw [ho] at O6
      have s6 := ag_sk A6
      have A7 : ag_ b LM_ σ υ := ag_tr (ag_mo (by decide) A1) (ag_tr (ag_mo (by decide) t2) (ag_tr (ag_mo (by decide) A5) (ag_mo (by decide) A6)))
      by_cases c : x2 = -1
      · rw [if_pos c, if_neg (by rw [c]; decide), si_641 s6, pu_bs, O6.2.2.2.2.2.1]
        exact pu_ret ⟨rfl, A7, O6.2.1⟩
      · have hx0 : 0 ≤ x2 := by
          rw [nu_le] at c2 ⊢
          have k1 : (-1 : Int32).toInt = -1 := rfl
          have k0 : (0 : Int32).toInt = 0 := rfl
          have : x2.toInt ≠ -1 := fun q => c (Int32.toInt_inj.mp (q.trans k1.symm))
          omega
        rw [if_neg c, if_pos hx0]
        by_cases e : Int32.ofNat M ≤ x2
        · rw [if_pos e, if_pos e]; exact pu_ret ⟨rfl, A7, O6.2.1⟩
        · rw [if_neg e, if_neg e]
          obtain ⟨k, rfl, hk⟩ := nu_nat hx0
          have hkM : k < M := by
            have := (Int32.lt_or_le (Int32.ofNat k) (Int32.ofNat M)).resolve_right e
            exact (nu_oflt hk (by omega)).mp this
          rw [sg_640 s6, pu_bs, al_150 s6 (by omega), pu_bs, O6.2.2.2.2.2.2.1 f hf k hkM, nu_cl hk]
          exact pu_ret ⟨rfl, A7, O6.2.1⟩
    rw [si_636 s2, pu_bs, C2.1]
    by_cases c5 : 5 ≤ n
    · rw [if_pos ((nl_le_5 (by omega)).mpr c5)]
      have e5 : F_X6_order_53 τ2 (some (b + 123)) x2 5 = F_X6_order_53 τ2 (some (b + 123)) x2 (Int32.ofNat M) := by rw [show M = 5 by omega]; rfl
      rw [e5]
      exact key
    · rw [if_neg (fun z => c5 ((nl_le_5 (by omega)).mp z)), pu_bs]
      have e5 : F_X6_order_53 τ2 (some (b + 123)) x2 (Int32.ofNat n) = F_X6_order_53 τ2 (some (b + 123)) x2 (Int32.ofNat M) := by rw [show M = n by omega]
      rw [e5]
      exact key
end
