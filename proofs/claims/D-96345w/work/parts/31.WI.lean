set_option maxRecDepth 20000 in
set_option maxHeartbeats 4000000 in
theorem W_J0_init_2 {κ : ah_C} {rr : ah_S} (hκ : ah_res κ = (.returned none, rr)) (hso : ah_kso κ) (σ : ah_S) (r0 : Option Nat) (r1 : Option Nat) (r2 : Option Nat) (x3 : Int32) (x4 : Int32) (h : F_J0_init_2 σ r0 r1 r2 x3 x4 = some rr) : ah_G κ ("java/lang/Throwable", "<init>", 5, none, [], 1, 24) cJ0_init_2 σ 0 [some (va_rf r0), some (va_rf r1), some (va_rf r2), some (.int x3), some (.int x4)] [] := by
  unfold F_J0_init_2 at h
  refine ro_aload_n (pc' := 1) dJ0_init_2_0 rfl rfl rfl ?_
  obtain ⟨a1, ha1, h⟩ := ah_bs h
  refine ro_objInit (pc' := 4) ha1 q165 q136 q137 (Nat.le_of_ble_eq_true rfl) (Nat.le_of_ble_eq_true rfl) dJ0_init_2_1 rfl ?_
  refine ro_aload_n (pc' := 5) dJ0_init_2_4 rfl rfl rfl ?_
  refine ro_aload_n (pc' := 6) dJ0_init_2_5 rfl rfl rfl ?_
  obtain ⟨u2, hu2, h⟩ := ah_bs h
  obtain ⟨au2, hau2, htu2⟩ := ah_iu_a hu2
  refine ro_putU (pc' := 9) (kk := 0) (by decide) rfl rfl (tyX1_ok 0 (by decide)) rfl q194 hau2 htu2 dJ0_init_2_6 rfl ?_
  refine ro_aload_n (pc' := 10) dJ0_init_2_9 rfl rfl rfl ?_
  refine ro_gets (pc' := 13) hso (Or.inl ⟨rfl, rfl⟩) q166 dJ0_init_2_10 rfl (fun g3 => ?_)
  obtain ⟨u4, hu4, h⟩ := ah_bs h
  obtain ⟨au4, hau4, htu4⟩ := ah_iu_a hu4
  refine ro_putU (pc' := 16) (kk := 1) (by decide) rfl rfl (tyX1_ok 1 (by decide)) rfl q195 hau4 htu4 dJ0_init_2_13 rfl ?_
  refine ro_aload_n (pc' := 17) dJ0_init_2_16 rfl rfl rfl ?_
  refine ro_gets (pc' := 20) hso (Or.inr ⟨rfl, rfl⟩) q168 dJ0_init_2_17 rfl (fun g5 => ?_)
  obtain ⟨u6, hu6, h⟩ := ah_bs h
  obtain ⟨au6, hau6, htu6⟩ := ah_iu_a hu6
  refine ro_putU (pc' := 23) (kk := 2) (by decide) rfl rfl (tyX1_ok 2 (by decide)) rfl q196 hau6 htu6 dJ0_init_2_20 rfl ?_
  refine ro_iload (pc' := 25) dJ0_init_2_23 rfl rfl ?_
  refine ro_if_eq (pc' := 28) (tgt := 36) dJ0_init_2_25 rfl rfl (fun c => ?_) (fun c => ?_)
  · replace h := ah_ip c h
    refine ro_aload_n (pc' := 37) dJ0_init_2_36 rfl rfl rfl ?_
    refine ro_null (pc' := 38) dJ0_init_2_37 rfl ?_
    obtain ⟨u7, hu7, h⟩ := ah_bs h
    obtain ⟨au7, hau7, htu7⟩ := ah_iu_a hu7
    refine ro_putU (pc' := 41) (kk := 1) (by decide) rfl rfl (tyX1_ok 1 (by decide)) rfl q195 hau7 htu7 dJ0_init_2_38 rfl ?_
    refine ro_aload_n (pc' := 42) dJ0_init_2_41 rfl rfl rfl ?_
    refine ro_aload_n (pc' := 43) dJ0_init_2_42 rfl rfl rfl ?_
    obtain ⟨u8, hu8, h⟩ := ah_bs h
    obtain ⟨au8, hau8, htu8⟩ := ah_iu_a hu8
    refine ro_putU (pc' := 46) (kk := 3) (by decide) rfl rfl (tyX1_ok 3 (by decide)) rfl q193 hau8 htu8 dJ0_init_2_43 rfl ?_
    refine ro_aload_n (pc' := 47) dJ0_init_2_46 rfl rfl rfl ?_
    refine ro_aload_n (pc' := 48) dJ0_init_2_47 rfl rfl rfl ?_
    obtain ⟨u9, hu9, h⟩ := ah_bs h
    obtain ⟨au9, hau9, htu9⟩ := ah_iu_a hu9
    refine ro_putU (pc' := 51) (kk := 0) (by decide) rfl rfl (tyX1_ok 0 (by decide)) rfl q194 hau9 htu9 dJ0_init_2_48 rfl ?_
    refine ro_iload_n (pc' := 52) dJ0_init_2_51 rfl rfl rfl ?_
    refine ro_if_ne (pc' := 55) (tgt := 60) dJ0_init_2_52 rfl rfl (fun c => ?_) (fun c => ?_)
    · replace h := ah_in_ c h
      obtain rfl := Option.some.inj h
      exact ro_vret hκ dJ0_init_2_60
    · replace h := ah_ip c h
      refine ro_aload_n (pc' := 56) dJ0_init_2_55 rfl rfl rfl ?_
      refine ro_null (pc' := 57) dJ0_init_2_56 rfl ?_
      obtain ⟨u10, hu10, h⟩ := ah_bs h
      obtain ⟨au10, hau10, htu10⟩ := ah_iu_a hu10
      refine ro_putU (pc' := 60) (kk := 2) (by decide) rfl rfl (tyX1_ok 2 (by decide)) rfl q196 hau10 htu10 dJ0_init_2_57 rfl ?_
      obtain rfl := Option.some.inj h
      exact ro_vret hκ dJ0_init_2_60
  · replace h := ah_in_ c h
    refine ro_aload_n (pc' := 29) dJ0_init_2_28 rfl rfl rfl ?_
    cases h
theorem M_J0_init_2 {l : Launch} {D : ah_D}  {σ : ah_S} {r0 : Option Nat} {r1 : Option Nat} {r2 : Option Nat} {x3 : Int32} {x4 : Int32} {σ1 : ah_S} (h : F_J0_init_2 σ r0 r1 r2 x3 x4 = some σ1) : ah_MetS l yJ0_init_2 (Cond.code yJ0_init_2 cJ0_init_2 5 none) 1 24 D [va_rf r0, va_rf r1, va_rf r2, .int x3, .int x4] σ (.returned none, σ1) :=
  ah_ofGS (own := "java/lang/Throwable") (nm := "<init>") (L0 := [some (va_rf r0), some (va_rf r1), some (va_rf r2), some (.int x3), some (.int x4)]) (by decide) rfl rfl rfl (ah_ao_1 (ah_rf_cat _) (ah_ao_1 (ah_rf_cat _) (ah_ao_1 (ah_rf_cat _) (ah_ao_1 rfl (ah_ao_1 rfl ah_ao_0))))) (fun κ hκ hso => W_J0_init_2 hκ hso σ r0 r1 r2 x3 x4 h)
set_option maxRecDepth 20000 in
set_option maxHeartbeats 4000000 in
theorem W_J1_init {κ : ah_C} {rr : ah_S} (hκ : ah_res κ = (.returned none, rr)) (hso : ah_kso κ) (σ : ah_S) (r0 : Option Nat) (r1 : Option Nat) (r2 : Option Nat) (x3 : Int32) (x4 : Int32) (h : F_J1_init σ r0 r1 r2 x3 x4 = some rr) : ah_G κ ("java/lang/Exception", "<init>", 5, none, [], 2, 48) cJ1_init σ 0 [some (va_rf r0), some (va_rf r1), some (va_rf r2), some (.int x3), some (.int x4)] [] := by
  unfold F_J1_init at h
  refine ro_aload_n (pc' := 1) dJ1_init_0 rfl rfl rfl ?_
  refine ro_aload_n (pc' := 2) dJ1_init_1 rfl rfl rfl ?_
  refine ro_aload_n (pc' := 3) dJ1_init_2 rfl rfl rfl ?_
  refine ro_iload_n (pc' := 4) dJ1_init_3 rfl rfl rfl ?_
  refine ro_iload (pc' := 6) dJ1_init_4 rfl rfl ?_
  obtain ⟨a1, ha1, h⟩ := ah_bs h
  obtain ⟨σ2, hσ2, h⟩ := ah_bs h
  refine ro_callIS (pc' := 9) (As := [va_rf r1, va_rf r2, .int x3, .int x4]) (rest := []) (st' := []) hso ha1 q190 rfl (M_J0_init_2 hσ2) q189 q191 q96 dd_J0_init_2 rfl ⟨Nat.le_of_ble_eq_true rfl, Nat.le_of_ble_eq_true rfl⟩ (Nat.le_of_ble_eq_true rfl) dJ1_init_6 rfl rfl rfl ?_
  obtain rfl := Option.some.inj h
  exact ro_vret hκ dJ1_init_9
theorem M_J1_init {l : Launch} {D : ah_D}  {σ : ah_S} {r0 : Option Nat} {r1 : Option Nat} {r2 : Option Nat} {x3 : Int32} {x4 : Int32} {σ1 : ah_S} (h : F_J1_init σ r0 r1 r2 x3 x4 = some σ1) : ah_MetS l yJ1_init (Cond.code yJ1_init cJ1_init 5 none) 2 48 D [va_rf r0, va_rf r1, va_rf r2, .int x3, .int x4] σ (.returned none, σ1) :=
  ah_ofGS (own := "java/lang/Exception") (nm := "<init>") (L0 := [some (va_rf r0), some (va_rf r1), some (va_rf r2), some (.int x3), some (.int x4)]) (by decide) rfl rfl rfl (ah_ao_1 (ah_rf_cat _) (ah_ao_1 (ah_rf_cat _) (ah_ao_1 (ah_rf_cat _) (ah_ao_1 rfl (ah_ao_1 rfl ah_ao_0))))) (fun κ hκ hso => W_J1_init hκ hso σ r0 r1 r2 x3 x4 h)
set_option maxRecDepth 20000 in
set_option maxHeartbeats 4000000 in
theorem W_J2_init {κ : ah_C} {rr : ah_S} (hκ : ah_res κ = (.returned none, rr)) (hso : ah_kso κ) (σ : ah_S) (r0 : Option Nat) (r1 : Option Nat) (r2 : Option Nat) (x3 : Int32) (x4 : Int32) (h : F_J2_init σ r0 r1 r2 x3 x4 = some rr) : ah_G κ ("java/lang/RuntimeException", "<init>", 5, none, [], 3, 72) cJ2_init σ 0 [some (va_rf r0), some (va_rf r1), some (va_rf r2), some (.int x3), some (.int x4)] [] := by
  unfold F_J2_init at h
  refine ro_aload_n (pc' := 1) dJ2_init_0 rfl rfl rfl ?_
  refine ro_aload_n (pc' := 2) dJ2_init_1 rfl rfl rfl ?_
  refine ro_aload_n (pc' := 3) dJ2_init_2 rfl rfl rfl ?_
  refine ro_iload_n (pc' := 4) dJ2_init_3 rfl rfl rfl ?_
  refine ro_iload (pc' := 6) dJ2_init_4 rfl rfl ?_
  obtain ⟨a1, ha1, h⟩ := ah_bs h
  obtain ⟨σ2, hσ2, h⟩ := ah_bs h
  refine ro_callIS (pc' := 9) (As := [va_rf r1, va_rf r2, .int x3, .int x4]) (rest := []) (st' := []) hso ha1 q187 rfl (M_J1_init hσ2) q186 q188 q97 dd_J1_init rfl ⟨Nat.le_of_ble_eq_true rfl, Nat.le_of_ble_eq_true rfl⟩ (Nat.le_of_ble_eq_true rfl) dJ2_init_6 rfl rfl rfl ?_
  obtain rfl := Option.some.inj h
  exact ro_vret hκ dJ2_init_9
theorem M_J2_init {l : Launch} {D : ah_D}  {σ : ah_S} {r0 : Option Nat} {r1 : Option Nat} {r2 : Option Nat} {x3 : Int32} {x4 : Int32} {σ1 : ah_S} (h : F_J2_init σ r0 r1 r2 x3 x4 = some σ1) : ah_MetS l yJ2_init (Cond.code yJ2_init cJ2_init 5 none) 3 72 D [va_rf r0, va_rf r1, va_rf r2, .int x3, .int x4] σ (.returned none, σ1) :=
  ah_ofGS (own := "java/lang/RuntimeException") (nm := "<init>") (L0 := [some (va_rf r0), some (va_rf r1), some (va_rf r2), some (.int x3), some (.int x4)]) (by decide) rfl rfl rfl (ah_ao_1 (ah_rf_cat _) (ah_ao_1 (ah_rf_cat _) (ah_ao_1 (ah_rf_cat _) (ah_ao_1 rfl (ah_ao_1 rfl ah_ao_0))))) (fun κ hκ hso => W_J2_init hκ hso σ r0 r1 r2 x3 x4 h)
set_option maxRecDepth 20000 in
set_option maxHeartbeats 4000000 in
theorem W_X1_init {κ : ah_C} {rr : ah_S} (hκ : ah_res κ = (.returned none, rr)) (hso : ah_kso κ) (σ : ah_S) (r0 : Option Nat) (h : F_X1_init σ r0 = some rr) : ah_G κ ("LeftAsFound$Fault", "<init>", 1, none, [], 4, 96) cX1_init σ 0 [some (va_rf r0)] [] := by
  unfold F_X1_init at h
  refine ro_aload_n (pc' := 1) dX1_init_0 rfl rfl rfl ?_
  refine ro_null (pc' := 2) dX1_init_1 rfl ?_
  refine ro_null (pc' := 3) dX1_init_2 rfl ?_
  refine ro_iconst (pc' := 4) dX1_init_3 ic_0 rfl ?_
  refine ro_iconst (pc' := 5) dX1_init_4 ic_0 rfl ?_
  obtain ⟨a1, ha1, h⟩ := ah_bs h
  obtain ⟨σ2, hσ2, h⟩ := ah_bs h
  refine ro_callIS (pc' := 8) (As := [va_rf none, va_rf none, .int (0 : Int32), .int (0 : Int32)]) (rest := []) (st' := []) hso ha1 q184 rfl (M_J2_init hσ2) q183 q185 q98 dd_J2_init rfl ⟨Nat.le_of_ble_eq_true rfl, Nat.le_of_ble_eq_true rfl⟩ (Nat.le_of_ble_eq_true rfl) dX1_init_5 rfl rfl rfl ?_
  obtain rfl := Option.some.inj h
  exact ro_vret hκ dX1_init_8
theorem M_X1_init {l : Launch} {D : ah_D}  {σ : ah_S} {r0 : Option Nat} {σ1 : ah_S} (h : F_X1_init σ r0 = some σ1) : ah_MetS l yX1_init (Cond.code yX1_init cX1_init 1 none) 4 96 D [va_rf r0] σ (.returned none, σ1) :=
  ah_ofGS (own := "LeftAsFound$Fault") (nm := "<init>") (L0 := [some (va_rf r0)]) (by decide) rfl rfl rfl (ah_ao_1 (ah_rf_cat _) ah_ao_0) (fun κ hκ hso => W_X1_init hκ hso σ r0 h)
set_option maxRecDepth 20000 in
set_option maxHeartbeats 4000000 in
theorem W_X3_init {κ : ah_C} {rr : ah_S} (hκ : ah_res κ = (.returned none, rr)) (hso : ah_kso κ) (σ : ah_S) (r0 : Option Nat) (h : F_X3_init σ r0 = some rr) : ah_G κ ("LeftAsFound$Torn", "<init>", 1, none, [], 4, 96) cX3_init σ 0 [some (va_rf r0)] [] := by
  unfold F_X3_init at h
  refine ro_aload_n (pc' := 1) dX3_init_0 rfl rfl rfl ?_
  refine ro_null (pc' := 2) dX3_init_1 rfl ?_
  refine ro_null (pc' := 3) dX3_init_2 rfl ?_
  refine ro_iconst (pc' := 4) dX3_init_3 ic_0 rfl ?_
  refine ro_iconst (pc' := 5) dX3_init_4 ic_0 rfl ?_
  obtain ⟨a1, ha1, h⟩ := ah_bs h
  obtain ⟨σ2, hσ2, h⟩ := ah_bs h
  refine ro_callIS (pc' := 8) (As := [va_rf none, va_rf none, .int (0 : Int32), .int (0 : Int32)]) (rest := []) (st' := []) hso ha1 q184 rfl (M_J2_init hσ2) q235 q185 q98 dd_J2_init rfl ⟨Nat.le_of_ble_eq_true rfl, Nat.le_of_ble_eq_true rfl⟩ (Nat.le_of_ble_eq_true rfl) dX3_init_5 rfl rfl rfl ?_
  obtain rfl := Option.some.inj h
  exact ro_vret hκ dX3_init_8
theorem M_X3_init {l : Launch} {D : ah_D}  {σ : ah_S} {r0 : Option Nat} {σ1 : ah_S} (h : F_X3_init σ r0 = some σ1) : ah_MetS l yX3_init (Cond.code yX3_init cX3_init 1 none) 4 96 D [va_rf r0] σ (.returned none, σ1) :=
  ah_ofGS (own := "LeftAsFound$Torn") (nm := "<init>") (L0 := [some (va_rf r0)]) (by decide) rfl rfl rfl (ah_ao_1 (ah_rf_cat _) ah_ao_0) (fun κ hκ hso => W_X3_init hκ hso σ r0 h)
set_option maxRecDepth 20000 in
set_option maxHeartbeats 4000000 in
theorem W_X0_init_367 {κ : ah_C} {rr : ah_S} (hκ : ah_res κ = (.returned none, rr)) (hso : ah_kso κ)   : ∀ (n : Nat) (σ : ah_S) (r0 : Option Nat) (x1 : Int32), F_X0_init_367 n σ r0 x1 = some rr → ah_G κ ("LeftAsFound", "<init>", 2, none, [], 5, 116) cX0_init σ 367 [some (va_rf r0), some (.int x1)] [] := by
  intro n
  induction n with
  | zero => intro σ r0 x1 h; cases h
  | succ n ih =>
    intro σ r0 x1 h
    rw [F_X0_init_367] at h
    refine ro_iload_n (pc' := 368) dX0_init_367 rfl rfl rfl ?_
    refine ro_iconst (pc' := 369) dX0_init_368 ic_4 rfl ?_
    refine ro_icmp_ge (pc' := 372) (tgt := 399) dX0_init_369 rfl rfl (fun c => ?_) (fun c => ?_)
    · replace h := ah_ip c h
      obtain rfl := Option.some.inj h
      exact ro_vret hκ dX0_init_399
    · replace h := ah_in_ c h
      refine ro_aload_n (pc' := 373) dX0_init_372 rfl rfl rfl ?_
      obtain ⟨v1, hv1, h⟩ := ah_bs h
      refine ro_getR (pc' := 376) ft_9 fk_9 q301 dX0_init_373 rfl hv1 ?_
      refine ro_iload_n (pc' := 377) dX0_init_376 rfl rfl rfl ?_
      refine ro_bipush (pc' := 379) dX0_init_377 ib_50 rfl ?_
      obtain ⟨v2, σ3, hv2, h⟩ := ah_bs2 h
      refine ro_callS (pc' := 382) (As := [.int (50 : Int32)]) (rest := [.int x1, va_rf v1]) (st' := [va_rf v2, .int x1, va_rf v1]) q211 (M_X0_heldAt hv2) q210 q212 q95 dd_X0_heldAt rfl ⟨Nat.le_of_ble_eq_true rfl, Nat.le_of_ble_eq_true rfl⟩ (by simp only [List.map_cons, List.map_nil, List.sum_cons, List.sum_nil, ah_rf_cat, ah_cat_i, ah_cat_l]; decide) dX0_init_379 rfl rfl rfl ?_
      obtain ⟨σ4, hσ4, h⟩ := ah_bs h
      refine ro_aastore (pc' := 383) (by decide) (by decide) rfl dX0_init_382 rfl hσ4 ?_
      refine ro_aload_n (pc' := 384) dX0_init_383 rfl rfl rfl ?_
      obtain ⟨v5, hv5, h⟩ := ah_bs h
      refine ro_getR (pc' := 387) ft_10 fk_10 q303 dX0_init_384 rfl hv5 ?_
      refine ro_iload_n (pc' := 388) dX0_init_387 rfl rfl rfl ?_
      refine ro_iconst (pc' := 389) dX0_init_388 ic_1 rfl ?_
      obtain ⟨v6, σ7, hv6, h⟩ := ah_bs2 h
      refine ro_callS (pc' := 392) (As := [.int (1 : Int32)]) (rest := [.int x1, va_rf v5]) (st' := [va_rf v6, .int x1, va_rf v5]) q211 (M_X0_heldAt hv6) q210 q212 q95 dd_X0_heldAt rfl ⟨Nat.le_of_ble_eq_true rfl, Nat.le_of_ble_eq_true rfl⟩ (by simp only [List.map_cons, List.map_nil, List.sum_cons, List.sum_nil, ah_rf_cat, ah_cat_i, ah_cat_l]; decide) dX0_init_389 rfl rfl rfl ?_
      obtain ⟨σ8, hσ8, h⟩ := ah_bs h
      refine ro_aastore (pc' := 393) (by decide) (by decide) rfl dX0_init_392 rfl hσ8 ?_
      refine ro_iinc (pc' := 396) (L' := [some (va_rf r0), some (.int (x1 + (1 : Int32)))]) dX0_init_393 rfl ic_1 (Nat.le_of_ble_eq_true rfl) rfl (ah_okp_r _) rfl ?_
      refine ro_goto (tgt := 367) dX0_init_396 rfl ?_
      exact ih _ _ _ h
set_option maxRecDepth 20000 in
set_option maxHeartbeats 4000000 in
theorem W_X0_init_340 {κ : ah_C} {rr : ah_S} (hκ : ah_res κ = (.returned none, rr)) (hso : ah_kso κ)   : ∀ (n : Nat) (σ : ah_S) (r0 : Option Nat) (x1 : Int32), F_X0_init_340 n σ r0 x1 = some rr → ah_G κ ("LeftAsFound", "<init>", 2, none, [], 5, 116) cX0_init σ 340 [some (va_rf r0), some (.int x1)] [] := by
  intro n
  induction n with
  | zero => intro σ r0 x1 h; cases h
  | succ n ih =>
    intro σ r0 x1 h
    rw [F_X0_init_340] at h
    refine ro_iload_n (pc' := 341) dX0_init_340 rfl rfl rfl ?_
    refine ro_bipush (pc' := 343) dX0_init_341 ib_40 rfl ?_
    refine ro_icmp_ge (pc' := 346) (tgt := 365) dX0_init_343 rfl rfl (fun c => ?_) (fun c => ?_)
    · replace h := ah_ip c h
      refine ro_iconst (pc' := 366) dX0_init_365 ic_0 rfl ?_
      refine ro_istore_n (pc' := 367) (L' := [some (va_rf r0), some (.int (0 : Int32))]) dX0_init_366 rfl (Nat.le_of_ble_eq_true rfl) rfl (ah_okp_r _) rfl ?_
      exact W_X0_init_367 hκ hso _ _ _ _ h
    · replace h := ah_in_ c h
      refine ro_aload_n (pc' := 347) dX0_init_346 rfl rfl rfl ?_
      obtain ⟨v1, hv1, h⟩ := ah_bs h
      refine ro_getR (pc' := 350) ft_0 fk_0 q290 dX0_init_347 rfl hv1 ?_
      refine ro_iload_n (pc' := 351) dX0_init_350 rfl rfl rfl ?_
      obtain ⟨σ2, hσ2, h⟩ := ah_bs h
      refine ro_new (pc' := 354) ct_X5 df_X5 (by decide) q138 q275 q103 dX0_init_351 rfl hσ2 ?_
      refine ro_dup (pc' := 355) dX0_init_354 (ah_rf_cat _) rfl ?_
      obtain ⟨σ3, hσ3, h⟩ := ah_bs h
      refine ro_callIN (pc' := 358) (As := []) (rest := [va_rf (some (ah_nx σ)), .int x1, va_rf v1]) (st' := [va_rf (some (ah_nx σ)), .int x1, va_rf v1]) rfl q277 rfl (M_X5_init hσ3) nq276 q278 q103 dd_X5_init rfl ⟨Nat.le_of_ble_eq_true rfl, Nat.le_of_ble_eq_true rfl⟩ (by simp only [List.map_cons, List.map_nil, List.sum_cons, List.sum_nil, ah_rf_cat, ah_cat_i, ah_cat_l]; decide) dX0_init_355 rfl rfl rfl ?_
      obtain ⟨σ4, hσ4, h⟩ := ah_bs h
      refine ro_aastore (pc' := 359) (by decide) (by decide) rfl dX0_init_358 rfl hσ4 ?_
      refine ro_iinc (pc' := 362) (L' := [some (va_rf r0), some (.int (x1 + (1 : Int32)))]) dX0_init_359 rfl ic_1 (Nat.le_of_ble_eq_true rfl) rfl (ah_okp_r _) rfl ?_
      refine ro_goto (tgt := 340) dX0_init_362 rfl ?_
      exact ih _ _ _ h
set_option maxRecDepth 20000 in
set_option maxHeartbeats 4000000 in
theorem W_X0_init {κ : ah_C} {rr : ah_S} (hκ : ah_res κ = (.returned none, rr)) (hso : ah_kso κ) (σ : ah_S) (r0 : Option Nat) (h : F_X0_init σ r0 = some rr) : ah_G κ ("LeftAsFound", "<init>", 2, none, [], 5, 116) cX0_init σ 0 [some (va_rf r0), none] [] := by
  unfold F_X0_init at h
  refine ro_aload_n (pc' := 1) dX0_init_0 rfl rfl rfl ?_
  obtain ⟨a1, ha1, h⟩ := ah_bs h
  refine ro_objInit (pc' := 4) ha1 q135 q136 q137 (Nat.le_of_ble_eq_true rfl) (Nat.le_of_ble_eq_true rfl) dX0_init_1 rfl ?_
  refine ro_aload_n (pc' := 5) dX0_init_4 rfl rfl rfl ?_
  refine ro_bipush (pc' := 7) dX0_init_5 ib_40 rfl ?_
  obtain ⟨σ2, hσ2, h⟩ := ah_bs h
  refine ro_anew (pc' := 10) (t := 111) (by decide) rfl q138 nq139 dX0_init_7 rfl hσ2 ?_
  obtain ⟨σ3, hσ3, h⟩ := ah_bs h
  refine ro_putRF (pc' := 13) ft_0 fk_0 q290 pd_0 rfl rfl rfl dX0_init_10 rfl hσ3 ?_
  refine ro_aload_n (pc' := 14) dX0_init_13 rfl rfl rfl ?_
  refine ro_bipush (pc' := 16) dX0_init_14 ib_120 rfl ?_
  obtain ⟨σ4, hσ4, h⟩ := ah_bs h
  refine ro_newa (pc' := 18) (t := 101) (by decide) rfl q205 dX0_init_16 rfl hσ4 ?_
  obtain ⟨σ5, hσ5, h⟩ := ah_bs h
  refine ro_putRF (pc' := 21) ft_3 fk_3 q293 pd_3 rfl rfl rfl dX0_init_18 rfl hσ5 ?_
  refine ro_aload_n (pc' := 22) dX0_init_21 rfl rfl rfl ?_
  obtain ⟨σ6, hσ6, h⟩ := ah_bs h
  refine ro_new (pc' := 25) ct_X1 df_X1 (by decide) q140 q141 q99 dX0_init_22 rfl hσ6 ?_
  refine ro_dup (pc' := 26) dX0_init_25 (ah_rf_cat _) rfl ?_
  obtain ⟨σ7, hσ7, h⟩ := ah_bs h
  refine ro_callIS (pc' := 29) (As := []) (rest := [va_rf (some (ah_nx σ5)), va_rf r0]) (st' := [va_rf (some (ah_nx σ5)), va_rf r0]) hso rfl q181 rfl (M_X1_init hσ7) q180 q182 q99 dd_X1_init rfl ⟨Nat.le_of_ble_eq_true rfl, Nat.le_of_ble_eq_true rfl⟩ (by simp only [List.map_cons, List.map_nil, List.sum_cons, List.sum_nil, ah_rf_cat, ah_cat_i, ah_cat_l]; decide) dX0_init_26 rfl rfl rfl ?_
  obtain ⟨σ8, hσ8, h⟩ := ah_bs h
  refine ro_putRF (pc' := 32) ft_5 fk_5 q295 pd_5 rfl rfl rfl dX0_init_29 rfl hσ8 ?_
  refine ro_aload_n (pc' := 33) dX0_init_32 rfl rfl rfl ?_
  refine ro_bipush (pc' := 35) dX0_init_33 ib_7 rfl ?_
  obtain ⟨σ9, hσ9, h⟩ := ah_bs h
  refine ro_anew (pc' := 38) (t := 112) (by decide) rfl q206 nq207 dX0_init_35 rfl hσ9 ?_
  obtain ⟨σ10, hσ10, h⟩ := ah_bs h
  refine ro_putRF (pc' := 41) ft_7 fk_7 q298 pd_7 rfl rfl rfl dX0_init_38 rfl hσ10 ?_
  refine ro_aload_n (pc' := 42) dX0_init_41 rfl rfl rfl ?_
  refine ro_iconst (pc' := 43) dX0_init_42 ic_4 rfl ?_
  obtain ⟨σ11, hσ11, h⟩ := ah_bs h
  refine ro_anew (pc' := 46) (t := 113) (by decide) rfl q208 nq209 dX0_init_43 rfl hσ11 ?_
  obtain ⟨σ12, hσ12, h⟩ := ah_bs h
  refine ro_putRF (pc' := 49) ft_9 fk_9 q301 pd_9 rfl rfl rfl dX0_init_46 rfl hσ12 ?_
  refine ro_aload_n (pc' := 50) dX0_init_49 rfl rfl rfl ?_
  refine ro_iconst (pc' := 51) dX0_init_50 ic_4 rfl ?_
  obtain ⟨σ13, hσ13, h⟩ := ah_bs h
  refine ro_anew (pc' := 54) (t := 113) (by decide) rfl q208 nq209 dX0_init_51 rfl hσ13 ?_
  obtain ⟨σ14, hσ14, h⟩ := ah_bs h
  refine ro_putRF (pc' := 57) ft_10 fk_10 q303 pd_10 rfl rfl rfl dX0_init_54 rfl hσ14 ?_
  refine ro_aload_n (pc' := 58) dX0_init_57 rfl rfl rfl ?_
  refine ro_bipush (pc' := 60) dX0_init_58 ib_50 rfl ?_
  obtain ⟨v15, σ16, hv15, h⟩ := ah_bs2 h
  refine ro_callS (pc' := 63) (As := [.int (50 : Int32)]) (rest := [va_rf r0]) (st' := [va_rf v15, va_rf r0]) q211 (M_X0_heldAt hv15) q210 q212 q95 dd_X0_heldAt rfl ⟨Nat.le_of_ble_eq_true rfl, Nat.le_of_ble_eq_true rfl⟩ (by simp only [List.map_cons, List.map_nil, List.sum_cons, List.sum_nil, ah_rf_cat, ah_cat_i, ah_cat_l]; decide) dX0_init_60 rfl rfl rfl ?_
  obtain ⟨σ17, hσ17, h⟩ := ah_bs h
  refine ro_putRF (pc' := 66) ft_11 fk_11 q304 pd_11 rfl rfl rfl dX0_init_63 rfl hσ17 ?_
  refine ro_aload_n (pc' := 67) dX0_init_66 rfl rfl rfl ?_
  refine ro_bipush (pc' := 69) dX0_init_67 ib_20 rfl ?_
  obtain ⟨v18, σ19, hv18, h⟩ := ah_bs2 h
  refine ro_callS (pc' := 72) (As := [.int (20 : Int32)]) (rest := [va_rf r0]) (st' := [va_rf v18, va_rf r0]) q211 (M_X0_heldAt hv18) q210 q212 q95 dd_X0_heldAt rfl ⟨Nat.le_of_ble_eq_true rfl, Nat.le_of_ble_eq_true rfl⟩ (by simp only [List.map_cons, List.map_nil, List.sum_cons, List.sum_nil, ah_rf_cat, ah_cat_i, ah_cat_l]; decide) dX0_init_69 rfl rfl rfl ?_
  obtain ⟨σ20, hσ20, h⟩ := ah_bs h
  refine ro_putRF (pc' := 75) ft_12 fk_12 q305 pd_12 rfl rfl rfl dX0_init_72 rfl hσ20 ?_
  refine ro_aload_n (pc' := 76) dX0_init_75 rfl rfl rfl ?_
  refine ro_bipush (pc' := 78) dX0_init_76 ib_6 rfl ?_
  obtain ⟨v21, σ22, hv21, h⟩ := ah_bs2 h
  refine ro_callS (pc' := 81) (As := [.int (6 : Int32)]) (rest := [va_rf r0]) (st' := [va_rf v21, va_rf r0]) q211 (M_X0_heldAt hv21) q210 q212 q95 dd_X0_heldAt rfl ⟨Nat.le_of_ble_eq_true rfl, Nat.le_of_ble_eq_true rfl⟩ (by simp only [List.map_cons, List.map_nil, List.sum_cons, List.sum_nil, ah_rf_cat, ah_cat_i, ah_cat_l]; decide) dX0_init_78 rfl rfl rfl ?_
  obtain ⟨σ23, hσ23, h⟩ := ah_bs h
  refine ro_putRF (pc' := 84) ft_13 fk_13 q306 pd_13 rfl rfl rfl dX0_init_81 rfl hσ23 ?_
  refine ro_aload_n (pc' := 85) dX0_init_84 rfl rfl rfl ?_
  obtain ⟨σ24, hσ24, h⟩ := ah_bs h
  refine ro_new (pc' := 88) ct_X3 df_X3 (by decide) q223 q224 q101 dX0_init_85 rfl hσ24 ?_
  refine ro_dup (pc' := 89) dX0_init_88 (ah_rf_cat _) rfl ?_
  obtain ⟨σ25, hσ25, h⟩ := ah_bs h
  refine ro_callIS (pc' := 92) (As := []) (rest := [va_rf (some (ah_nx σ23)), va_rf r0]) (st' := [va_rf (some (ah_nx σ23)), va_rf r0]) hso rfl q233 rfl (M_X3_init hσ25) q232 q234 q101 dd_X3_init rfl ⟨Nat.le_of_ble_eq_true rfl, Nat.le_of_ble_eq_true rfl⟩ (by simp only [List.map_cons, List.map_nil, List.sum_cons, List.sum_nil, ah_rf_cat, ah_cat_i, ah_cat_l]; decide) dX0_init_89 rfl rfl rfl ?_
  obtain ⟨σ26, hσ26, h⟩ := ah_bs h
  refine ro_putRF (pc' := 95) ft_14 fk_14 q307 pd_14 rfl rfl rfl dX0_init_92 rfl hσ26 ?_
  refine ro_aload_n (pc' := 96) dX0_init_95 rfl rfl rfl ?_
  refine ro_bipush (pc' := 98) dX0_init_96 ib_6 rfl ?_
  obtain ⟨σ27, hσ27, h⟩ := ah_bs h
  refine ro_newa (pc' := 100) (t := 101) (by decide) rfl q205 dX0_init_98 rfl hσ27 ?_
  obtain ⟨σ28, hσ28, h⟩ := ah_bs h
  refine ro_putRF (pc' := 103) ft_15 fk_15 q309 pd_15 rfl rfl rfl dX0_init_100 rfl hσ28 ?_
  refine ro_aload_n (pc' := 104) dX0_init_103 rfl rfl rfl ?_
  obtain ⟨σ29, hσ29, h⟩ := ah_bs h
  refine ro_new (pc' := 107) ct_X4 df_X4 (by decide) q238 q239 q102 dX0_init_104 rfl hσ29 ?_
  refine ro_dup (pc' := 108) dX0_init_107 (ah_rf_cat _) rfl ?_
  refine ro_aload_n (pc' := 109) dX0_init_108 rfl rfl rfl ?_
  obtain ⟨σ30, hσ30, h⟩ := ah_bs h
  refine ro_callI (pc' := 112) (As := [va_rf r0]) (rest := [va_rf (some (ah_nx σ28)), va_rf r0]) (st' := [va_rf (some (ah_nx σ28)), va_rf r0]) rfl q241 rfl (M_X4_init hσ30) q240 q242 q102 dd_X4_init rfl ⟨Nat.le_of_ble_eq_true rfl, Nat.le_of_ble_eq_true rfl⟩ (by simp only [List.map_cons, List.map_nil, List.sum_cons, List.sum_nil, ah_rf_cat, ah_cat_i, ah_cat_l]; decide) dX0_init_109 rfl rfl rfl ?_
  obtain ⟨σ31, hσ31, h⟩ := ah_bs h
  refine ro_putRF (pc' := 115) ft_18 fk_18 q312 pd_18 rfl rfl rfl dX0_init_112 rfl hσ31 ?_
  refine ro_aload_n (pc' := 116) dX0_init_115 rfl rfl rfl ?_
  obtain ⟨σ32, hσ32, h⟩ := ah_bs h
  refine ro_new (pc' := 119) ct_X4 df_X4 (by decide) q238 q239 q102 dX0_init_116 rfl hσ32 ?_
  refine ro_dup (pc' := 120) dX0_init_119 (ah_rf_cat _) rfl ?_
  refine ro_aload_n (pc' := 121) dX0_init_120 rfl rfl rfl ?_
  obtain ⟨σ33, hσ33, h⟩ := ah_bs h
  refine ro_callI (pc' := 124) (As := [va_rf r0]) (rest := [va_rf (some (ah_nx σ31)), va_rf r0]) (st' := [va_rf (some (ah_nx σ31)), va_rf r0]) rfl q241 rfl (M_X4_init hσ33) q240 q242 q102 dd_X4_init rfl ⟨Nat.le_of_ble_eq_true rfl, Nat.le_of_ble_eq_true rfl⟩ (by simp only [List.map_cons, List.map_nil, List.sum_cons, List.sum_nil, ah_rf_cat, ah_cat_i, ah_cat_l]; decide) dX0_init_121 rfl rfl rfl ?_
  obtain ⟨σ34, hσ34, h⟩ := ah_bs h
  refine ro_putRF (pc' := 127) ft_19 fk_19 q313 pd_19 rfl rfl rfl dX0_init_124 rfl hσ34 ?_
  refine ro_aload_n (pc' := 128) dX0_init_127 rfl rfl rfl ?_
  refine ro_bipush (pc' := 130) dX0_init_128 ib_30 rfl ?_
  obtain ⟨σ35, hσ35, h⟩ := ah_bs h
  refine ro_newa (pc' := 132) (t := 101) (by decide) rfl q205 dX0_init_130 rfl hσ35 ?_
  obtain ⟨σ36, hσ36, h⟩ := ah_bs h
  refine ro_putRF (pc' := 135) ft_20 fk_20 q314 pd_20 rfl rfl rfl dX0_init_132 rfl hσ36 ?_
  refine ro_aload_n (pc' := 136) dX0_init_135 rfl rfl rfl ?_
  refine ro_sipush (pc' := 139) dX0_init_136 is_7437 rfl ?_
  obtain ⟨σ37, hσ37, h⟩ := ah_bs h
  refine ro_newa (pc' := 141) (t := 101) (by decide) rfl q205 dX0_init_139 rfl hσ37 ?_
  obtain ⟨σ38, hσ38, h⟩ := ah_bs h
  refine ro_putRF (pc' := 144) ft_22 fk_22 q316 pd_22 rfl rfl rfl dX0_init_141 rfl hσ38 ?_
  refine ro_aload_n (pc' := 145) dX0_init_144 rfl rfl rfl ?_
  refine ro_bipush (pc' := 147) dX0_init_145 ib_30 rfl ?_
  obtain ⟨σ39, hσ39, h⟩ := ah_bs h
  refine ro_newa (pc' := 149) (t := 101) (by decide) rfl q205 dX0_init_147 rfl hσ39 ?_
  obtain ⟨σ40, hσ40, h⟩ := ah_bs h
  refine ro_putRF (pc' := 152) ft_25 fk_25 q319 pd_25 rfl rfl rfl dX0_init_149 rfl hσ40 ?_
  refine ro_aload_n (pc' := 153) dX0_init_152 rfl rfl rfl ?_
  refine ro_iconst (pc' := 154) dX0_init_153 ic_5 rfl ?_
  obtain ⟨σ41, hσ41, h⟩ := ah_bs h
  refine ro_newa (pc' := 156) (t := 101) (by decide) rfl q205 dX0_init_154 rfl hσ41 ?_
  obtain ⟨σ42, hσ42, h⟩ := ah_bs h
  refine ro_putRF (pc' := 159) ft_26 fk_26 q320 pd_26 rfl rfl rfl dX0_init_156 rfl hσ42 ?_
  refine ro_aload_n (pc' := 160) dX0_init_159 rfl rfl rfl ?_
  refine ro_iconst (pc' := 161) dX0_init_160 ic_5 rfl ?_
  obtain ⟨σ43, hσ43, h⟩ := ah_bs h
  refine ro_newa (pc' := 163) (t := 101) (by decide) rfl q205 dX0_init_161 rfl hσ43 ?_
  obtain ⟨σ44, hσ44, h⟩ := ah_bs h
  refine ro_putRF (pc' := 166) ft_27 fk_27 q321 pd_27 rfl rfl rfl dX0_init_163 rfl hσ44 ?_
  refine ro_aload_n (pc' := 167) dX0_init_166 rfl rfl rfl ?_
  refine ro_bipush (pc' := 169) dX0_init_167 ib_7 rfl ?_
  obtain ⟨σ45, hσ45, h⟩ := ah_bs h
  refine ro_anew (pc' := 172) (t := 114) (by decide) rfl q238 nq270 dX0_init_169 rfl hσ45 ?_
  refine ro_dup (pc' := 173) dX0_init_172 (ah_rf_cat _) rfl ?_
  refine ro_iconst (pc' := 174) dX0_init_173 ic_0 rfl ?_
  obtain ⟨σ46, hσ46, h⟩ := ah_bs h
  refine ro_new (pc' := 177) ct_X4 df_X4 (by decide) q238 q239 q102 dX0_init_174 rfl hσ46 ?_
  refine ro_dup (pc' := 178) dX0_init_177 (ah_rf_cat _) rfl ?_
  refine ro_aload_n (pc' := 179) dX0_init_178 rfl rfl rfl ?_
  obtain ⟨σ47, hσ47, h⟩ := ah_bs h
  refine ro_callI (pc' := 182) (As := [va_rf r0]) (rest := [va_rf (some (ah_nx σ45)), .int (0 : Int32), va_rf (some (ah_nx σ44)), va_rf (some (ah_nx σ44)), va_rf r0]) (st' := [va_rf (some (ah_nx σ45)), .int (0 : Int32), va_rf (some (ah_nx σ44)), va_rf (some (ah_nx σ44)), va_rf r0]) rfl q241 rfl (M_X4_init hσ47) q240 q242 q102 dd_X4_init rfl ⟨Nat.le_of_ble_eq_true rfl, Nat.le_of_ble_eq_true rfl⟩ (by simp only [List.map_cons, List.map_nil, List.sum_cons, List.sum_nil, ah_rf_cat, ah_cat_i, ah_cat_l]; decide) dX0_init_179 rfl rfl rfl ?_
  obtain ⟨σ48, hσ48, h⟩ := ah_bs h
  refine ro_aastore (pc' := 183) (by decide) (by decide) rfl dX0_init_182 rfl hσ48 ?_
  refine ro_dup (pc' := 184) dX0_init_183 (ah_rf_cat _) rfl ?_
  refine ro_iconst (pc' := 185) dX0_init_184 ic_1 rfl ?_
  obtain ⟨σ49, hσ49, h⟩ := ah_bs h
  refine ro_new (pc' := 188) ct_X4 df_X4 (by decide) q238 q239 q102 dX0_init_185 rfl hσ49 ?_
  refine ro_dup (pc' := 189) dX0_init_188 (ah_rf_cat _) rfl ?_
  refine ro_aload_n (pc' := 190) dX0_init_189 rfl rfl rfl ?_
  obtain ⟨σ50, hσ50, h⟩ := ah_bs h
  refine ro_callI (pc' := 193) (As := [va_rf r0]) (rest := [va_rf (some (ah_nx σ48)), .int (1 : Int32), va_rf (some (ah_nx σ44)), va_rf (some (ah_nx σ44)), va_rf r0]) (st' := [va_rf (some (ah_nx σ48)), .int (1 : Int32), va_rf (some (ah_nx σ44)), va_rf (some (ah_nx σ44)), va_rf r0]) rfl q241 rfl (M_X4_init hσ50) q240 q242 q102 dd_X4_init rfl ⟨Nat.le_of_ble_eq_true rfl, Nat.le_of_ble_eq_true rfl⟩ (by simp only [List.map_cons, List.map_nil, List.sum_cons, List.sum_nil, ah_rf_cat, ah_cat_i, ah_cat_l]; decide) dX0_init_190 rfl rfl rfl ?_
  obtain ⟨σ51, hσ51, h⟩ := ah_bs h
  refine ro_aastore (pc' := 194) (by decide) (by decide) rfl dX0_init_193 rfl hσ51 ?_
  refine ro_dup (pc' := 195) dX0_init_194 (ah_rf_cat _) rfl ?_
  refine ro_iconst (pc' := 196) dX0_init_195 ic_2 rfl ?_
  obtain ⟨σ52, hσ52, h⟩ := ah_bs h
  refine ro_new (pc' := 199) ct_X4 df_X4 (by decide) q238 q239 q102 dX0_init_196 rfl hσ52 ?_
  refine ro_dup (pc' := 200) dX0_init_199 (ah_rf_cat _) rfl ?_
  refine ro_aload_n (pc' := 201) dX0_init_200 rfl rfl rfl ?_
  obtain ⟨σ53, hσ53, h⟩ := ah_bs h
  refine ro_callI (pc' := 204) (As := [va_rf r0]) (rest := [va_rf (some (ah_nx σ51)), .int (2 : Int32), va_rf (some (ah_nx σ44)), va_rf (some (ah_nx σ44)), va_rf r0]) (st' := [va_rf (some (ah_nx σ51)), .int (2 : Int32), va_rf (some (ah_nx σ44)), va_rf (some (ah_nx σ44)), va_rf r0]) rfl q241 rfl (M_X4_init hσ53) q240 q242 q102 dd_X4_init rfl ⟨Nat.le_of_ble_eq_true rfl, Nat.le_of_ble_eq_true rfl⟩ (by simp only [List.map_cons, List.map_nil, List.sum_cons, List.sum_nil, ah_rf_cat, ah_cat_i, ah_cat_l]; decide) dX0_init_201 rfl rfl rfl ?_
  obtain ⟨σ54, hσ54, h⟩ := ah_bs h
  refine ro_aastore (pc' := 205) (by decide) (by decide) rfl dX0_init_204 rfl hσ54 ?_
  refine ro_dup (pc' := 206) dX0_init_205 (ah_rf_cat _) rfl ?_
  refine ro_iconst (pc' := 207) dX0_init_206 ic_3 rfl ?_
  obtain ⟨σ55, hσ55, h⟩ := ah_bs h
  refine ro_new (pc' := 210) ct_X4 df_X4 (by decide) q238 q239 q102 dX0_init_207 rfl hσ55 ?_
  refine ro_dup (pc' := 211) dX0_init_210 (ah_rf_cat _) rfl ?_
  refine ro_aload_n (pc' := 212) dX0_init_211 rfl rfl rfl ?_
  obtain ⟨σ56, hσ56, h⟩ := ah_bs h
  refine ro_callI (pc' := 215) (As := [va_rf r0]) (rest := [va_rf (some (ah_nx σ54)), .int (3 : Int32), va_rf (some (ah_nx σ44)), va_rf (some (ah_nx σ44)), va_rf r0]) (st' := [va_rf (some (ah_nx σ54)), .int (3 : Int32), va_rf (some (ah_nx σ44)), va_rf (some (ah_nx σ44)), va_rf r0]) rfl q241 rfl (M_X4_init hσ56) q240 q242 q102 dd_X4_init rfl ⟨Nat.le_of_ble_eq_true rfl, Nat.le_of_ble_eq_true rfl⟩ (by simp only [List.map_cons, List.map_nil, List.sum_cons, List.sum_nil, ah_rf_cat, ah_cat_i, ah_cat_l]; decide) dX0_init_212 rfl rfl rfl ?_
  obtain ⟨σ57, hσ57, h⟩ := ah_bs h
  refine ro_aastore (pc' := 216) (by decide) (by decide) rfl dX0_init_215 rfl hσ57 ?_
  refine ro_dup (pc' := 217) dX0_init_216 (ah_rf_cat _) rfl ?_
  refine ro_iconst (pc' := 218) dX0_init_217 ic_4 rfl ?_
  obtain ⟨σ58, hσ58, h⟩ := ah_bs h
  refine ro_new (pc' := 221) ct_X4 df_X4 (by decide) q238 q239 q102 dX0_init_218 rfl hσ58 ?_
  refine ro_dup (pc' := 222) dX0_init_221 (ah_rf_cat _) rfl ?_
  refine ro_aload_n (pc' := 223) dX0_init_222 rfl rfl rfl ?_
  obtain ⟨σ59, hσ59, h⟩ := ah_bs h
  refine ro_callI (pc' := 226) (As := [va_rf r0]) (rest := [va_rf (some (ah_nx σ57)), .int (4 : Int32), va_rf (some (ah_nx σ44)), va_rf (some (ah_nx σ44)), va_rf r0]) (st' := [va_rf (some (ah_nx σ57)), .int (4 : Int32), va_rf (some (ah_nx σ44)), va_rf (some (ah_nx σ44)), va_rf r0]) rfl q241 rfl (M_X4_init hσ59) q240 q242 q102 dd_X4_init rfl ⟨Nat.le_of_ble_eq_true rfl, Nat.le_of_ble_eq_true rfl⟩ (by simp only [List.map_cons, List.map_nil, List.sum_cons, List.sum_nil, ah_rf_cat, ah_cat_i, ah_cat_l]; decide) dX0_init_223 rfl rfl rfl ?_
  obtain ⟨σ60, hσ60, h⟩ := ah_bs h
  refine ro_aastore (pc' := 227) (by decide) (by decide) rfl dX0_init_226 rfl hσ60 ?_
  refine ro_dup (pc' := 228) dX0_init_227 (ah_rf_cat _) rfl ?_
  refine ro_iconst (pc' := 229) dX0_init_228 ic_5 rfl ?_
  obtain ⟨σ61, hσ61, h⟩ := ah_bs h
  refine ro_new (pc' := 232) ct_X4 df_X4 (by decide) q238 q239 q102 dX0_init_229 rfl hσ61 ?_
  refine ro_dup (pc' := 233) dX0_init_232 (ah_rf_cat _) rfl ?_
  refine ro_aload_n (pc' := 234) dX0_init_233 rfl rfl rfl ?_
  obtain ⟨σ62, hσ62, h⟩ := ah_bs h
  refine ro_callI (pc' := 237) (As := [va_rf r0]) (rest := [va_rf (some (ah_nx σ60)), .int (5 : Int32), va_rf (some (ah_nx σ44)), va_rf (some (ah_nx σ44)), va_rf r0]) (st' := [va_rf (some (ah_nx σ60)), .int (5 : Int32), va_rf (some (ah_nx σ44)), va_rf (some (ah_nx σ44)), va_rf r0]) rfl q241 rfl (M_X4_init hσ62) q240 q242 q102 dd_X4_init rfl ⟨Nat.le_of_ble_eq_true rfl, Nat.le_of_ble_eq_true rfl⟩ (by simp only [List.map_cons, List.map_nil, List.sum_cons, List.sum_nil, ah_rf_cat, ah_cat_i, ah_cat_l]; decide) dX0_init_234 rfl rfl rfl ?_
  obtain ⟨σ63, hσ63, h⟩ := ah_bs h
  refine ro_aastore (pc' := 238) (by decide) (by decide) rfl dX0_init_237 rfl hσ63 ?_
  refine ro_dup (pc' := 239) dX0_init_238 (ah_rf_cat _) rfl ?_
  refine ro_bipush (pc' := 241) dX0_init_239 ib_6 rfl ?_
  obtain ⟨σ64, hσ64, h⟩ := ah_bs h
  refine ro_new (pc' := 244) ct_X4 df_X4 (by decide) q238 q239 q102 dX0_init_241 rfl hσ64 ?_
  refine ro_dup (pc' := 245) dX0_init_244 (ah_rf_cat _) rfl ?_
  refine ro_aload_n (pc' := 246) dX0_init_245 rfl rfl rfl ?_
  obtain ⟨σ65, hσ65, h⟩ := ah_bs h
  refine ro_callI (pc' := 249) (As := [va_rf r0]) (rest := [va_rf (some (ah_nx σ63)), .int (6 : Int32), va_rf (some (ah_nx σ44)), va_rf (some (ah_nx σ44)), va_rf r0]) (st' := [va_rf (some (ah_nx σ63)), .int (6 : Int32), va_rf (some (ah_nx σ44)), va_rf (some (ah_nx σ44)), va_rf r0]) rfl q241 rfl (M_X4_init hσ65) q240 q242 q102 dd_X4_init rfl ⟨Nat.le_of_ble_eq_true rfl, Nat.le_of_ble_eq_true rfl⟩ (by simp only [List.map_cons, List.map_nil, List.sum_cons, List.sum_nil, ah_rf_cat, ah_cat_i, ah_cat_l]; decide) dX0_init_246 rfl rfl rfl ?_
  obtain ⟨σ66, hσ66, h⟩ := ah_bs h
  refine ro_aastore (pc' := 250) (by decide) (by decide) rfl dX0_init_249 rfl hσ66 ?_
  obtain ⟨σ67, hσ67, h⟩ := ah_bs h
  refine ro_putRF (pc' := 253) ft_29 fk_29 q323 pd_29 rfl rfl rfl dX0_init_250 rfl hσ67 ?_
  refine ro_aload_n (pc' := 254) dX0_init_253 rfl rfl rfl ?_
  refine ro_bipush (pc' := 256) dX0_init_254 ib_6 rfl ?_
  obtain ⟨σ68, hσ68, h⟩ := ah_bs h
  refine ro_newa (pc' := 258) (t := 101) (by decide) rfl q205 dX0_init_256 rfl hσ68 ?_
  obtain ⟨σ69, hσ69, h⟩ := ah_bs h
  refine ro_putRF (pc' := 261) ft_30 fk_30 q324 pd_30 rfl rfl rfl dX0_init_258 rfl hσ69 ?_
  refine ro_aload_n (pc' := 262) dX0_init_261 rfl rfl rfl ?_
  refine ro_bipush (pc' := 264) dX0_init_262 ib_6 rfl ?_
  obtain ⟨σ70, hσ70, h⟩ := ah_bs h
  refine ro_newa (pc' := 266) (t := 101) (by decide) rfl q205 dX0_init_264 rfl hσ70 ?_
  obtain ⟨σ71, hσ71, h⟩ := ah_bs h
  refine ro_putRF (pc' := 269) ft_31 fk_31 q325 pd_31 rfl rfl rfl dX0_init_266 rfl hσ71 ?_
  refine ro_aload_n (pc' := 270) dX0_init_269 rfl rfl rfl ?_
  refine ro_iconst (pc' := 271) dX0_init_270 ic_4 rfl ?_
  obtain ⟨σ72, hσ72, h⟩ := ah_bs h
  refine ro_newa (pc' := 273) (t := 101) (by decide) rfl q205 dX0_init_271 rfl hσ72 ?_
  refine ro_dup (pc' := 274) dX0_init_273 (ah_rf_cat _) rfl ?_
  refine ro_iconst (pc' := 275) dX0_init_274 ic_0 rfl ?_
  refine ro_iconst (pc' := 276) dX0_init_275 ic_0 rfl ?_
  obtain ⟨σ73, hσ73, h⟩ := ah_bs h
  refine ro_iastore (pc' := 277) dX0_init_276 rfl hσ73 ?_
  refine ro_dup (pc' := 278) dX0_init_277 (ah_rf_cat _) rfl ?_
  refine ro_iconst (pc' := 279) dX0_init_278 ic_1 rfl ?_
  refine ro_iconst (pc' := 280) dX0_init_279 ic_0 rfl ?_
  obtain ⟨σ74, hσ74, h⟩ := ah_bs h
  refine ro_iastore (pc' := 281) dX0_init_280 rfl hσ74 ?_
  refine ro_dup (pc' := 282) dX0_init_281 (ah_rf_cat _) rfl ?_
  refine ro_iconst (pc' := 283) dX0_init_282 ic_2 rfl ?_
  refine ro_iconst (pc' := 284) dX0_init_283 ic_0 rfl ?_
  obtain ⟨σ75, hσ75, h⟩ := ah_bs h
  refine ro_iastore (pc' := 285) dX0_init_284 rfl hσ75 ?_
  refine ro_dup (pc' := 286) dX0_init_285 (ah_rf_cat _) rfl ?_
  refine ro_iconst (pc' := 287) dX0_init_286 ic_3 rfl ?_
  refine ro_bipush (pc' := 289) dX0_init_287 ib_m2 rfl ?_
  obtain ⟨σ76, hσ76, h⟩ := ah_bs h
  refine ro_iastore (pc' := 290) dX0_init_289 rfl hσ76 ?_
  obtain ⟨σ77, hσ77, h⟩ := ah_bs h
  refine ro_putRF (pc' := 293) ft_33 fk_33 q327 pd_33 rfl rfl rfl dX0_init_290 rfl hσ77 ?_
  refine ro_aload_n (pc' := 294) dX0_init_293 rfl rfl rfl ?_
  obtain ⟨σ78, hσ78, h⟩ := ah_bs h
  refine ro_new (pc' := 297) ct_X4 df_X4 (by decide) q238 q239 q102 dX0_init_294 rfl hσ78 ?_
  refine ro_dup (pc' := 298) dX0_init_297 (ah_rf_cat _) rfl ?_
  refine ro_aload_n (pc' := 299) dX0_init_298 rfl rfl rfl ?_
  obtain ⟨σ79, hσ79, h⟩ := ah_bs h
  refine ro_callI (pc' := 302) (As := [va_rf r0]) (rest := [va_rf (some (ah_nx σ77)), va_rf r0]) (st' := [va_rf (some (ah_nx σ77)), va_rf r0]) rfl q241 rfl (M_X4_init hσ79) q240 q242 q102 dd_X4_init rfl ⟨Nat.le_of_ble_eq_true rfl, Nat.le_of_ble_eq_true rfl⟩ (by simp only [List.map_cons, List.map_nil, List.sum_cons, List.sum_nil, ah_rf_cat, ah_cat_i, ah_cat_l]; decide) dX0_init_299 rfl rfl rfl ?_
  obtain ⟨σ80, hσ80, h⟩ := ah_bs h
  refine ro_putRF (pc' := 305) ft_35 fk_35 q329 pd_35 rfl rfl rfl dX0_init_302 rfl hσ80 ?_
  refine ro_aload_n (pc' := 306) dX0_init_305 rfl rfl rfl ?_
  refine ro_iconst (pc' := 307) dX0_init_306 ic_4 rfl ?_
  obtain ⟨σ81, hσ81, h⟩ := ah_bs h
  refine ro_newa (pc' := 309) (t := 101) (by decide) rfl q205 dX0_init_307 rfl hσ81 ?_
  obtain ⟨σ82, hσ82, h⟩ := ah_bs h
  refine ro_putRF (pc' := 312) ft_36 fk_36 q330 pd_36 rfl rfl rfl dX0_init_309 rfl hσ82 ?_
  refine ro_aload_n (pc' := 313) dX0_init_312 rfl rfl rfl ?_
  refine ro_bipush (pc' := 315) dX0_init_313 ib_50 rfl ?_
  obtain ⟨σ83, hσ83, h⟩ := ah_bs h
  refine ro_anew (pc' := 318) (t := 115) (by decide) rfl q271 nq272 dX0_init_315 rfl hσ83 ?_
  obtain ⟨σ84, hσ84, h⟩ := ah_bs h
  refine ro_putRF (pc' := 321) ft_37 fk_37 q331 pd_37 rfl rfl rfl dX0_init_318 rfl hσ84 ?_
  refine ro_aload_n (pc' := 322) dX0_init_321 rfl rfl rfl ?_
  refine ro_bipush (pc' := 324) dX0_init_322 ib_24 rfl ?_
  obtain ⟨σ85, hσ85, h⟩ := ah_bs h
  refine ro_newa (pc' := 326) (t := 101) (by decide) rfl q205 dX0_init_324 rfl hσ85 ?_
  obtain ⟨σ86, hσ86, h⟩ := ah_bs h
  refine ro_putRF (pc' := 329) ft_39 fk_39 q334 pd_39 rfl rfl rfl dX0_init_326 rfl hσ86 ?_
  refine ro_aload_n (pc' := 330) dX0_init_329 rfl rfl rfl ?_
  refine ro_bipush (pc' := 332) dX0_init_330 ib_6 rfl ?_
  obtain ⟨σ87, hσ87, h⟩ := ah_bs h
  refine ro_anew (pc' := 335) (t := 116) (by decide) rfl q273 nq274 dX0_init_332 rfl hσ87 ?_
  obtain ⟨σ88, hσ88, h⟩ := ah_bs h
  refine ro_putRF (pc' := 338) ft_41 fk_41 q337 pd_41 rfl rfl rfl dX0_init_335 rfl hσ88 ?_
  refine ro_iconst (pc' := 339) dX0_init_338 ic_0 rfl ?_
  refine ro_istore_n (pc' := 340) (L' := [some (va_rf r0), some (.int (0 : Int32))]) dX0_init_339 rfl (Nat.le_of_ble_eq_true rfl) rfl (ah_okp_r _) rfl ?_
  exact W_X0_init_340 hκ hso _ _ _ _ h
theorem M_X0_init {l : Launch} {D : ah_D}  {σ : ah_S} {r0 : Option Nat} {σ1 : ah_S} (h : F_X0_init σ r0 = some σ1) : ah_MetS l yX0_init (Cond.code yX0_init cX0_init 2 none) 5 116 D [va_rf r0] σ (.returned none, σ1) :=
  ah_ofGS (own := "LeftAsFound") (nm := "<init>") (L0 := [some (va_rf r0), none]) (by decide) rfl rfl rfl (ah_ao_1 (ah_rf_cat _) (ah_ao_n ah_ao_0)) (fun κ hκ hso => W_X0_init hκ hso σ r0 h)
