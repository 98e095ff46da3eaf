set_option maxRecDepth 20000 in
set_option maxHeartbeats 4000000 in
theorem W_X6_in {κ : ah_C} {rr : (Int32 × ah_S)} (hκ : ah_res κ = (.returned (some (.int rr.1)), rr.2))  (σ : ah_S) (x0 : Int32) (x1 : Int32) (x2 : Int32) (h : F_X6_in σ x0 x1 x2 = some rr) : ah_G κ ("LeftAsFoundModel", "in", 3, (some FieldType.boolean), [], 1, 24) cX6_in σ 0 [some (.int x0), some (.int x1), some (.int x2)] [] := by
  unfold F_X6_in at h
  refine ro_iload_n (pc' := 1) dX6_in_0 rfl rfl rfl ?_
  refine ro_iload_n (pc' := 2) dX6_in_1 rfl rfl rfl ?_
  refine ro_icmp_lt (pc' := 5) (tgt := 14) dX6_in_2 rfl rfl (fun c => ?_) (fun c => ?_)
  · replace h := ah_ip c h
    refine ro_iconst (pc' := 15) dX6_in_14 ic_0 rfl ?_
    obtain rfl := Option.some.inj h
    exact ro_zret rfl hκ dX6_in_15
  · replace h := ah_in_ c h
    refine ro_iload_n (pc' := 6) dX6_in_5 rfl rfl rfl ?_
    refine ro_iload_n (pc' := 7) dX6_in_6 rfl rfl rfl ?_
    refine ro_icmp_gt (pc' := 10) (tgt := 14) dX6_in_7 rfl rfl (fun c => ?_) (fun c => ?_)
    · replace h := ah_ip c h
      refine ro_iconst (pc' := 15) dX6_in_14 ic_0 rfl ?_
      obtain rfl := Option.some.inj h
      exact ro_zret rfl hκ dX6_in_15
    · replace h := ah_in_ c h
      refine ro_iconst (pc' := 11) dX6_in_10 ic_1 rfl ?_
      refine ro_goto (tgt := 15) dX6_in_11 rfl ?_
      obtain rfl := Option.some.inj h
      exact ro_zret rfl hκ dX6_in_15
theorem M_X6_in {l : Launch} {D : ah_D}  {σ : ah_S} {x0 : Int32} {x1 : Int32} {x2 : Int32} {v : Int32} {σ1 : ah_S} (h : F_X6_in σ x0 x1 x2 = some (v, σ1)) : ah_Met l yX6_in (Cond.code yX6_in cX6_in 3 (some FieldType.boolean)) 1 24 D [.int x0, .int x1, .int x2] σ (.returned (some (.int v)), σ1) :=
  ah_ofG (own := "LeftAsFoundModel") (nm := "in") (L0 := [some (.int x0), some (.int x1), some (.int x2)]) (by decide) rfl rfl rfl (ah_ao_1 rfl (ah_ao_1 rfl (ah_ao_1 rfl ah_ao_0))) (fun κ hκ => W_X6_in hκ  σ x0 x1 x2 h)
set_option maxRecDepth 20000 in
set_option maxHeartbeats 4000000 in
theorem W_X6_isBody {κ : ah_C} {rr : (Int32 × ah_S)} (hκ : ah_res κ = (.returned (some (.int rr.1)), rr.2))  (σ : ah_S) (r0 : Option Nat) (x1 : Int32) (h : F_X6_isBody σ r0 x1 = some rr) : ah_G κ ("LeftAsFoundModel", "isBody", 2, (some FieldType.boolean), [], 2, 46) cX6_isBody σ 0 [some (va_rf r0), some (.int x1)] [] := by
  unfold F_X6_isBody at h
  refine ro_iload_n (pc' := 1) dX6_isBody_0 rfl rfl rfl ?_
  refine ro_iconst (pc' := 2) dX6_isBody_1 ic_0 rfl ?_
  refine ro_aload_n (pc' := 3) dX6_isBody_2 rfl rfl rfl ?_
  obtain ⟨v1, hv1, h⟩ := ah_bs h
  refine ro_getI (pc' := 6) ft_652 fk_652 q1360 dX6_isBody_3 rfl hv1 ?_
  refine ro_iconst (pc' := 7) dX6_isBody_6 ic_1 rfl ?_
  refine ro_isub (pc' := 8) dX6_isBody_7 rfl ?_
  obtain ⟨v2, σ3, hv2, h⟩ := ah_bs2 h
  refine ro_callS (pc' := 11) (As := [.int x1, .int (0 : Int32), .int (v1 - (1 : Int32))]) (rest := []) (st' := [.int v2]) q1494 (M_X6_in hv2) q1493 q1495 q104 dd_X6_in rfl ⟨Nat.le_of_ble_eq_true rfl, Nat.le_of_ble_eq_true rfl⟩ (Nat.le_of_ble_eq_true rfl) dX6_isBody_8 rfl rfl rfl ?_
  obtain ⟨z4, hz4, g⟩ := ah_bs h
  obtain ⟨ez4, hz4⟩ := ah_z_n hz4
  subst ez4
  obtain rfl := Option.some.inj g
  exact ro_zret hz4 hκ dX6_isBody_11
theorem M_X6_isBody {l : Launch} {D : ah_D}  {σ : ah_S} {r0 : Option Nat} {x1 : Int32} {v : Int32} {σ1 : ah_S} (h : F_X6_isBody σ r0 x1 = some (v, σ1)) : ah_Met l yX6_isBody (Cond.code yX6_isBody cX6_isBody 2 (some FieldType.boolean)) 2 46 D [va_rf r0, .int x1] σ (.returned (some (.int v)), σ1) :=
  ah_ofG (own := "LeftAsFoundModel") (nm := "isBody") (L0 := [some (va_rf r0), some (.int x1)]) (by decide) rfl rfl rfl (ah_ao_1 (ah_rf_cat _) (ah_ao_1 rfl ah_ao_0)) (fun κ hκ => W_X6_isBody hκ  σ r0 x1 h)
set_option maxRecDepth 20000 in
set_option maxHeartbeats 4000000 in
theorem W_X6_isUnder_34 {κ : ah_C} {rr : (Int32 × ah_S)} (hκ : ah_res κ = (.returned (some (.int rr.1)), rr.2))    : ∀ (σ : ah_S) (x0 : Int32) (x1 : Int32), F_X6_isUnder_34 σ x0 x1 = some rr → ah_G κ ("LeftAsFoundModel", "isUnder", 2, (some FieldType.boolean), [], 1, 24) cX6_isUnder σ 34 [some (.int x0), some (.int x1)] [] := by
  intro σ x0 x1 h
  unfold F_X6_isUnder_34 at h
  refine ro_iload_n (pc' := 35) dX6_isUnder_34 rfl rfl rfl ?_
  refine ro_iconst (pc' := 36) dX6_isUnder_35 ic_3 rfl ?_
  refine ro_icmp_ne (pc' := 39) (tgt := 44) dX6_isUnder_36 rfl rfl (fun c => ?_) (fun c => ?_)
  · replace h := ah_in_ c h
    refine ro_iload_n (pc' := 45) dX6_isUnder_44 rfl rfl rfl ?_
    refine ro_bipush (pc' := 47) dX6_isUnder_45 ib_6 rfl ?_
    refine ro_icmp_ne (pc' := 50) (tgt := 60) dX6_isUnder_47 rfl rfl (fun c => ?_) (fun c => ?_)
    · replace h := ah_in_ c h
      refine ro_iconst (pc' := 61) dX6_isUnder_60 ic_0 rfl ?_
      obtain rfl := Option.some.inj h
      exact ro_zret rfl hκ dX6_isUnder_61
    · replace h := ah_ip c h
      refine ro_iload_n (pc' := 51) dX6_isUnder_50 rfl rfl rfl ?_
      refine ro_bipush (pc' := 53) dX6_isUnder_51 ib_7 rfl ?_
      refine ro_icmp_ne (pc' := 56) (tgt := 60) dX6_isUnder_53 rfl rfl (fun c => ?_) (fun c => ?_)
      · replace h := ah_in_ c h
        refine ro_iconst (pc' := 61) dX6_isUnder_60 ic_0 rfl ?_
        obtain rfl := Option.some.inj h
        exact ro_zret rfl hκ dX6_isUnder_61
      · replace h := ah_ip c h
        refine ro_iconst (pc' := 57) dX6_isUnder_56 ic_1 rfl ?_
        refine ro_goto (tgt := 61) dX6_isUnder_57 rfl ?_
        obtain rfl := Option.some.inj h
        exact ro_zret rfl hκ dX6_isUnder_61
  · replace h := ah_ip c h
    refine ro_iload_n (pc' := 40) dX6_isUnder_39 rfl rfl rfl ?_
    refine ro_iconst (pc' := 41) dX6_isUnder_40 ic_5 rfl ?_
    refine ro_icmp_eq (pc' := 44) (tgt := 56) dX6_isUnder_41 rfl rfl (fun c => ?_) (fun c => ?_)
    · replace h := ah_ip c h
      refine ro_iconst (pc' := 57) dX6_isUnder_56 ic_1 rfl ?_
      refine ro_goto (tgt := 61) dX6_isUnder_57 rfl ?_
      obtain rfl := Option.some.inj h
      exact ro_zret rfl hκ dX6_isUnder_61
    · replace h := ah_in_ c h
      refine ro_iload_n (pc' := 45) dX6_isUnder_44 rfl rfl rfl ?_
      refine ro_bipush (pc' := 47) dX6_isUnder_45 ib_6 rfl ?_
      refine ro_icmp_ne (pc' := 50) (tgt := 60) dX6_isUnder_47 rfl rfl (fun c => ?_) (fun c => ?_)
      · replace h := ah_in_ c h
        refine ro_iconst (pc' := 61) dX6_isUnder_60 ic_0 rfl ?_
        obtain rfl := Option.some.inj h
        exact ro_zret rfl hκ dX6_isUnder_61
      · replace h := ah_ip c h
        refine ro_iload_n (pc' := 51) dX6_isUnder_50 rfl rfl rfl ?_
        refine ro_bipush (pc' := 53) dX6_isUnder_51 ib_7 rfl ?_
        refine ro_icmp_ne (pc' := 56) (tgt := 60) dX6_isUnder_53 rfl rfl (fun c => ?_) (fun c => ?_)
        · replace h := ah_in_ c h
          refine ro_iconst (pc' := 61) dX6_isUnder_60 ic_0 rfl ?_
          obtain rfl := Option.some.inj h
          exact ro_zret rfl hκ dX6_isUnder_61
        · replace h := ah_ip c h
          refine ro_iconst (pc' := 57) dX6_isUnder_56 ic_1 rfl ?_
          refine ro_goto (tgt := 61) dX6_isUnder_57 rfl ?_
          obtain rfl := Option.some.inj h
          exact ro_zret rfl hκ dX6_isUnder_61
set_option maxRecDepth 20000 in
set_option maxHeartbeats 4000000 in
theorem W_X6_isUnder_19 {κ : ah_C} {rr : (Int32 × ah_S)} (hκ : ah_res κ = (.returned (some (.int rr.1)), rr.2))    : ∀ (σ : ah_S) (x0 : Int32) (x1 : Int32), F_X6_isUnder_19 σ x0 x1 = some rr → ah_G κ ("LeftAsFoundModel", "isUnder", 2, (some FieldType.boolean), [], 1, 24) cX6_isUnder σ 19 [some (.int x0), some (.int x1)] [] := by
  intro σ x0 x1 h
  unfold F_X6_isUnder_19 at h
  refine ro_iload_n (pc' := 20) dX6_isUnder_19 rfl rfl rfl ?_
  refine ro_iconst (pc' := 21) dX6_isUnder_20 ic_2 rfl ?_
  refine ro_icmp_ne (pc' := 24) (tgt := 34) dX6_isUnder_21 rfl rfl (fun c => ?_) (fun c => ?_)
  · replace h := ah_in_ c h
    exact W_X6_isUnder_34 hκ _ _ _ h
  · replace h := ah_ip c h
    refine ro_iload_n (pc' := 25) dX6_isUnder_24 rfl rfl rfl ?_
    refine ro_iconst (pc' := 26) dX6_isUnder_25 ic_3 rfl ?_
    refine ro_icmp_eq (pc' := 29) (tgt := 56) dX6_isUnder_26 rfl rfl (fun c => ?_) (fun c => ?_)
    · replace h := ah_ip c h
      refine ro_iconst (pc' := 57) dX6_isUnder_56 ic_1 rfl ?_
      refine ro_goto (tgt := 61) dX6_isUnder_57 rfl ?_
      obtain rfl := Option.some.inj h
      exact ro_zret rfl hκ dX6_isUnder_61
    · replace h := ah_in_ c h
      refine ro_iload_n (pc' := 30) dX6_isUnder_29 rfl rfl rfl ?_
      refine ro_iconst (pc' := 31) dX6_isUnder_30 ic_5 rfl ?_
      refine ro_icmp_eq (pc' := 34) (tgt := 56) dX6_isUnder_31 rfl rfl (fun c => ?_) (fun c => ?_)
      · replace h := ah_ip c h
        refine ro_iconst (pc' := 57) dX6_isUnder_56 ic_1 rfl ?_
        refine ro_goto (tgt := 61) dX6_isUnder_57 rfl ?_
        obtain rfl := Option.some.inj h
        exact ro_zret rfl hκ dX6_isUnder_61
      · replace h := ah_in_ c h
        exact W_X6_isUnder_34 hκ _ _ _ h
set_option maxRecDepth 20000 in
set_option maxHeartbeats 4000000 in
theorem W_X6_isUnder {κ : ah_C} {rr : (Int32 × ah_S)} (hκ : ah_res κ = (.returned (some (.int rr.1)), rr.2))  (σ : ah_S) (x0 : Int32) (x1 : Int32) (h : F_X6_isUnder σ x0 x1 = some rr) : ah_G κ ("LeftAsFoundModel", "isUnder", 2, (some FieldType.boolean), [], 1, 24) cX6_isUnder σ 0 [some (.int x0), some (.int x1)] [] := by
  unfold F_X6_isUnder at h
  refine ro_iload_n (pc' := 1) dX6_isUnder_0 rfl rfl rfl ?_
  refine ro_if_eq (pc' := 4) (tgt := 56) dX6_isUnder_1 rfl rfl (fun c => ?_) (fun c => ?_)
  · replace h := ah_ip c h
    refine ro_iconst (pc' := 57) dX6_isUnder_56 ic_1 rfl ?_
    refine ro_goto (tgt := 61) dX6_isUnder_57 rfl ?_
    obtain rfl := Option.some.inj h
    exact ro_zret rfl hκ dX6_isUnder_61
  · replace h := ah_in_ c h
    refine ro_iload_n (pc' := 5) dX6_isUnder_4 rfl rfl rfl ?_
    refine ro_iload_n (pc' := 6) dX6_isUnder_5 rfl rfl rfl ?_
    refine ro_icmp_eq (pc' := 9) (tgt := 56) dX6_isUnder_6 rfl rfl (fun c => ?_) (fun c => ?_)
    · replace h := ah_ip c h
      refine ro_iconst (pc' := 57) dX6_isUnder_56 ic_1 rfl ?_
      refine ro_goto (tgt := 61) dX6_isUnder_57 rfl ?_
      obtain rfl := Option.some.inj h
      exact ro_zret rfl hκ dX6_isUnder_61
    · replace h := ah_in_ c h
      refine ro_iload_n (pc' := 10) dX6_isUnder_9 rfl rfl rfl ?_
      refine ro_iconst (pc' := 11) dX6_isUnder_10 ic_1 rfl ?_
      refine ro_icmp_ne (pc' := 14) (tgt := 19) dX6_isUnder_11 rfl rfl (fun c => ?_) (fun c => ?_)
      · replace h := ah_in_ c h
        exact W_X6_isUnder_19 hκ _ _ _ h
      · replace h := ah_ip c h
        refine ro_iload_n (pc' := 15) dX6_isUnder_14 rfl rfl rfl ?_
        refine ro_iconst (pc' := 16) dX6_isUnder_15 ic_4 rfl ?_
        refine ro_icmp_eq (pc' := 19) (tgt := 56) dX6_isUnder_16 rfl rfl (fun c => ?_) (fun c => ?_)
        · replace h := ah_ip c h
          refine ro_iconst (pc' := 57) dX6_isUnder_56 ic_1 rfl ?_
          refine ro_goto (tgt := 61) dX6_isUnder_57 rfl ?_
          obtain rfl := Option.some.inj h
          exact ro_zret rfl hκ dX6_isUnder_61
        · replace h := ah_in_ c h
          exact W_X6_isUnder_19 hκ _ _ _ h
theorem M_X6_isUnder {l : Launch} {D : ah_D}  {σ : ah_S} {x0 : Int32} {x1 : Int32} {v : Int32} {σ1 : ah_S} (h : F_X6_isUnder σ x0 x1 = some (v, σ1)) : ah_Met l yX6_isUnder (Cond.code yX6_isUnder cX6_isUnder 2 (some FieldType.boolean)) 1 24 D [.int x0, .int x1] σ (.returned (some (.int v)), σ1) :=
  ah_ofG (own := "LeftAsFoundModel") (nm := "isUnder") (L0 := [some (.int x0), some (.int x1)]) (by decide) rfl rfl rfl (ah_ao_1 rfl (ah_ao_1 rfl ah_ao_0)) (fun κ hκ => W_X6_isUnder hκ  σ x0 x1 h)
set_option maxRecDepth 20000 in
set_option maxHeartbeats 4000000 in
theorem W_X6_ran {κ : ah_C} {rr : ah_S} (hκ : ah_res κ = (.returned none, rr))  (σ : ah_S) (r0 : Option Nat) (x1 : Int32) (h : F_X6_ran σ r0 x1 = some rr) : ah_G κ ("LeftAsFoundModel", "ran", 2, none, [], 1, 24) cX6_ran σ 0 [some (va_rf r0), some (.int x1)] [] := by
  unfold F_X6_ran at h
  refine ro_aload_n (pc' := 1) dX6_ran_0 rfl rfl rfl ?_
  obtain ⟨v1, hv1, h⟩ := ah_bs h
  refine ro_getI (pc' := 4) ft_654 fk_654 q1362 dX6_ran_1 rfl hv1 ?_
  refine ro_bipush (pc' := 6) dX6_ran_4 ib_24 rfl ?_
  refine ro_icmp_ge (pc' := 9) (tgt := 19) dX6_ran_6 rfl rfl (fun c => ?_) (fun c => ?_)
  · replace h := ah_ip c h
    refine ro_aload_n (pc' := 20) dX6_ran_19 rfl rfl rfl ?_
    refine ro_dup (pc' := 21) dX6_ran_20 (ah_rf_cat _) rfl ?_
    obtain ⟨v2, hv2, h⟩ := ah_bs h
    refine ro_getI (pc' := 24) ft_654 fk_654 q1362 dX6_ran_21 rfl hv2 ?_
    refine ro_iconst (pc' := 25) dX6_ran_24 ic_1 rfl ?_
    refine ro_iadd (pc' := 26) dX6_ran_25 rfl ?_
    obtain ⟨σ3, hσ3, h⟩ := ah_bs h
    refine ro_putI (pc' := 29) ft_654 fk_654 q1362 pd_654 dX6_ran_26 rfl hσ3 ?_
    obtain rfl := Option.some.inj h
    exact ro_vret hκ dX6_ran_29
  · replace h := ah_in_ c h
    refine ro_aload_n (pc' := 10) dX6_ran_9 rfl rfl rfl ?_
    obtain ⟨v4, hv4, h⟩ := ah_bs h
    refine ro_getR (pc' := 13) ft_655 fk_655 q1363 dX6_ran_10 rfl hv4 ?_
    refine ro_aload_n (pc' := 14) dX6_ran_13 rfl rfl rfl ?_
    obtain ⟨v5, hv5, h⟩ := ah_bs h
    refine ro_getI (pc' := 17) ft_654 fk_654 q1362 dX6_ran_14 rfl hv5 ?_
    refine ro_iload_n (pc' := 18) dX6_ran_17 rfl rfl rfl ?_
    obtain ⟨σ6, hσ6, h⟩ := ah_bs h
    refine ro_iastore (pc' := 19) dX6_ran_18 rfl hσ6 ?_
    refine ro_aload_n (pc' := 20) dX6_ran_19 rfl rfl rfl ?_
    refine ro_dup (pc' := 21) dX6_ran_20 (ah_rf_cat _) rfl ?_
    obtain ⟨v7, hv7, h⟩ := ah_bs h
    refine ro_getI (pc' := 24) ft_654 fk_654 q1362 dX6_ran_21 rfl hv7 ?_
    refine ro_iconst (pc' := 25) dX6_ran_24 ic_1 rfl ?_
    refine ro_iadd (pc' := 26) dX6_ran_25 rfl ?_
    obtain ⟨σ8, hσ8, h⟩ := ah_bs h
    refine ro_putI (pc' := 29) ft_654 fk_654 q1362 pd_654 dX6_ran_26 rfl hσ8 ?_
    obtain rfl := Option.some.inj h
    exact ro_vret hκ dX6_ran_29
theorem M_X6_ran {l : Launch} {D : ah_D}  {σ : ah_S} {r0 : Option Nat} {x1 : Int32} {σ1 : ah_S} (h : F_X6_ran σ r0 x1 = some σ1) : ah_Met l yX6_ran (Cond.code yX6_ran cX6_ran 2 none) 1 24 D [va_rf r0, .int x1] σ (.returned none, σ1) :=
  ah_ofG (own := "LeftAsFoundModel") (nm := "ran") (L0 := [some (va_rf r0), some (.int x1)]) (by decide) rfl rfl rfl (ah_ao_1 (ah_rf_cat _) (ah_ao_1 rfl ah_ao_0)) (fun κ hκ => W_X6_ran hκ  σ r0 x1 h)
set_option maxRecDepth 20000 in
set_option maxHeartbeats 4000000 in
theorem W_X6_plainComes {κ : ah_C} {rr : (Int32 × ah_S)} (hκ : ah_res κ = (.returned (some (.int rr.1)), rr.2))  (σ : ah_S) (r0 : Option Nat) (x1 : Int32) (x2 : Int32) (h : F_X6_plainComes σ r0 x1 x2 = some rr) : ah_G κ ("LeftAsFoundModel", "plainComes", 3, (some FieldType.int), [], 2, 45) cX6_plainComes σ 0 [some (va_rf r0), some (.int x1), some (.int x2)] [] := by
  unfold F_X6_plainComes at h
  refine ro_aload_n (pc' := 1) dX6_plainComes_0 rfl rfl rfl ?_
  refine ro_iconst (pc' := 2) dX6_plainComes_1 ic_1 rfl ?_
  obtain ⟨u1, hu1, h⟩ := ah_bs h
  obtain ⟨σ2, hσ2, h⟩ := ah_bs h
  refine ro_callV (pc' := 5) (As := [.int (1 : Int32)]) (rest := []) (st' := []) (by decide) hu1 q1827 sl_X6_ran (M_X6_ran hσ2) q1825 q1828 q104 dd_X6_ran rfl ⟨Nat.le_of_ble_eq_true rfl, Nat.le_of_ble_eq_true rfl⟩ (Nat.le_of_ble_eq_true rfl) dX6_plainComes_2 rfl rfl rfl ?_
  refine ro_iload_n (pc' := 6) dX6_plainComes_5 rfl rfl rfl ?_
  refine ro_iload_n (pc' := 7) dX6_plainComes_6 rfl rfl rfl ?_
  refine ro_iadd (pc' := 8) dX6_plainComes_7 rfl ?_
  obtain rfl := Option.some.inj h
  exact ro_iret hκ dX6_plainComes_8
theorem M_X6_plainComes {l : Launch} {D : ah_D}  {σ : ah_S} {r0 : Option Nat} {x1 : Int32} {x2 : Int32} {v : Int32} {σ1 : ah_S} (h : F_X6_plainComes σ r0 x1 x2 = some (v, σ1)) : ah_Met l yX6_plainComes (Cond.code yX6_plainComes cX6_plainComes 3 (some FieldType.int)) 2 45 D [va_rf r0, .int x1, .int x2] σ (.returned (some (.int v)), σ1) :=
  ah_ofG (own := "LeftAsFoundModel") (nm := "plainComes") (L0 := [some (va_rf r0), some (.int x1), some (.int x2)]) (by decide) rfl rfl rfl (ah_ao_1 (ah_rf_cat _) (ah_ao_1 rfl (ah_ao_1 rfl ah_ao_0))) (fun κ hκ => W_X6_plainComes hκ  σ r0 x1 x2 h)
set_option maxRecDepth 20000 in
set_option maxHeartbeats 4000000 in
theorem W_X6_bareComes {κ : ah_C} {rr : (Int32 × ah_S)} (hκ : ah_res κ = (.returned (some (.int rr.1)), rr.2))  (σ : ah_S) (r0 : Option Nat) (x1 : Int32) (x2 : Int32) (h : F_X6_bareComes σ r0 x1 x2 = some rr) : ah_G κ ("LeftAsFoundModel", "bareComes", 3, (some FieldType.int), [], 3, 67) cX6_bareComes σ 0 [some (va_rf r0), some (.int x1), some (.int x2)] [] := by
  unfold F_X6_bareComes at h
  refine ro_aload_n (pc' := 1) dX6_bareComes_0 rfl rfl rfl ?_
  refine ro_bipush (pc' := 3) dX6_bareComes_1 ib_70 rfl ?_
  obtain ⟨u1, hu1, h⟩ := ah_bs h
  obtain ⟨σ2, hσ2, h⟩ := ah_bs h
  refine ro_callV (pc' := 6) (As := [.int (70 : Int32)]) (rest := []) (st' := []) (by decide) hu1 q1827 sl_X6_ran (M_X6_ran hσ2) q1825 q1828 q104 dd_X6_ran rfl ⟨Nat.le_of_ble_eq_true rfl, Nat.le_of_ble_eq_true rfl⟩ (Nat.le_of_ble_eq_true rfl) dX6_bareComes_3 rfl rfl rfl ?_
  refine ro_aload_n (pc' := 7) dX6_bareComes_6 rfl rfl rfl ?_
  refine ro_iload_n (pc' := 8) dX6_bareComes_7 rfl rfl rfl ?_
  refine ro_iload_n (pc' := 9) dX6_bareComes_8 rfl rfl rfl ?_
  obtain ⟨u3, hu3, h⟩ := ah_bs h
  obtain ⟨v4, σ5, hv4, h⟩ := ah_bs2 h
  refine ro_callV (pc' := 12) (As := [.int x1, .int x2]) (rest := []) (st' := [.int v4]) (by decide) hu3 q1831 sl_X6_plainComes (M_X6_plainComes hv4) q1829 q1832 q104 dd_X6_plainComes rfl ⟨Nat.le_of_ble_eq_true rfl, Nat.le_of_ble_eq_true rfl⟩ (Nat.le_of_ble_eq_true rfl) dX6_bareComes_9 rfl rfl rfl ?_
  refine ro_iconst (pc' := 13) dX6_bareComes_12 ic_2 rfl ?_
  refine ro_imul (pc' := 14) dX6_bareComes_13 rfl ?_
  obtain rfl := Option.some.inj h
  exact ro_iret hκ dX6_bareComes_14
theorem M_X6_bareComes {l : Launch} {D : ah_D}  {σ : ah_S} {r0 : Option Nat} {x1 : Int32} {x2 : Int32} {v : Int32} {σ1 : ah_S} (h : F_X6_bareComes σ r0 x1 x2 = some (v, σ1)) : ah_Met l yX6_bareComes (Cond.code yX6_bareComes cX6_bareComes 3 (some FieldType.int)) 3 67 D [va_rf r0, .int x1, .int x2] σ (.returned (some (.int v)), σ1) :=
  ah_ofG (own := "LeftAsFoundModel") (nm := "bareComes") (L0 := [some (va_rf r0), some (.int x1), some (.int x2)]) (by decide) rfl rfl rfl (ah_ao_1 (ah_rf_cat _) (ah_ao_1 rfl (ah_ao_1 rfl ah_ao_0))) (fun κ hκ => W_X6_bareComes hκ  σ r0 x1 x2 h)
set_option maxRecDepth 20000 in
set_option maxHeartbeats 4000000 in
theorem W_X6_coming {κ : ah_C} {rr : (Int32 × ah_S)} (hκ : ah_res κ = (.returned (some (.int rr.1)), rr.2))  (σ : ah_S) (r0 : Option Nat) (x1 : Int32) (x2 : Int32) (h : F_X6_coming σ r0 x1 x2 = some rr) : ah_G κ ("LeftAsFoundModel", "coming", 3, (some FieldType.int), [], 4, 89) cX6_coming σ 0 [some (va_rf r0), some (.int x1), some (.int x2)] [] := by
  unfold F_X6_coming at h
  refine ro_aload_n (pc' := 1) dX6_coming_0 rfl rfl rfl ?_
  obtain ⟨v1, hv1, h⟩ := ah_bs h
  refine ro_getR (pc' := 4) ft_653 fk_653 q1361 dX6_coming_1 rfl hv1 ?_
  refine ro_iload_n (pc' := 5) dX6_coming_4 rfl rfl rfl ?_
  obtain ⟨v2, hv2, h⟩ := ah_bs h
  refine ro_iaload (pc' := 6) dX6_coming_5 rfl hv2 ?_
  refine ro_iconst (pc' := 7) dX6_coming_6 ic_1 rfl ?_
  obtain ⟨v3, σ4, hv3, h⟩ := ah_bs2 h
  refine ro_callS (pc' := 10) (As := [.int v2, .int (1 : Int32)]) (rest := []) (st' := [.int v3]) q1823 (M_X6_isUnder hv3) q1822 q1824 q104 dd_X6_isUnder rfl ⟨Nat.le_of_ble_eq_true rfl, Nat.le_of_ble_eq_true rfl⟩ (Nat.le_of_ble_eq_true rfl) dX6_coming_7 rfl rfl rfl ?_
  refine ro_if_eq (pc' := 13) (tgt := 28) dX6_coming_10 rfl rfl (fun c => ?_) (fun c => ?_)
  · replace h := ah_ip c h
    refine ro_aload_n (pc' := 29) dX6_coming_28 rfl rfl rfl ?_
    obtain ⟨v5, hv5, h⟩ := ah_bs h
    refine ro_getR (pc' := 32) ft_653 fk_653 q1361 dX6_coming_29 rfl hv5 ?_
    refine ro_iload_n (pc' := 33) dX6_coming_32 rfl rfl rfl ?_
    obtain ⟨v6, hv6, h⟩ := ah_bs h
    refine ro_iaload (pc' := 34) dX6_coming_33 rfl hv6 ?_
    refine ro_bipush (pc' := 36) dX6_coming_34 ib_7 rfl ?_
    refine ro_icmp_ne (pc' := 39) (tgt := 54) dX6_coming_36 rfl rfl (fun c => ?_) (fun c => ?_)
    · replace h := ah_in_ c h
      refine ro_aload_n (pc' := 55) dX6_coming_54 rfl rfl rfl ?_
      obtain ⟨v7, hv7, h⟩ := ah_bs h
      refine ro_getR (pc' := 58) ft_653 fk_653 q1361 dX6_coming_55 rfl hv7 ?_
      refine ro_iload_n (pc' := 59) dX6_coming_58 rfl rfl rfl ?_
      obtain ⟨v8, hv8, h⟩ := ah_bs h
      refine ro_iaload (pc' := 60) dX6_coming_59 rfl hv8 ?_
      refine ro_bipush (pc' := 62) dX6_coming_60 ib_6 rfl ?_
      refine ro_icmp_ne (pc' := 65) (tgt := 74) dX6_coming_62 rfl rfl (fun c => ?_) (fun c => ?_)
      · replace h := ah_in_ c h
        refine ro_aload_n (pc' := 75) dX6_coming_74 rfl rfl rfl ?_
        refine ro_iload_n (pc' := 76) dX6_coming_75 rfl rfl rfl ?_
        refine ro_iload_n (pc' := 77) dX6_coming_76 rfl rfl rfl ?_
        obtain ⟨u9, hu9, h⟩ := ah_bs h
        obtain ⟨v10, σ11, hv10, h⟩ := ah_bs2 h
        refine ro_callV (pc' := 80) (As := [.int x1, .int x2]) (rest := []) (st' := [.int v10]) (by decide) hu9 q1831 sl_X6_plainComes (M_X6_plainComes hv10) q1829 q1832 q104 dd_X6_plainComes rfl ⟨Nat.le_of_ble_eq_true rfl, Nat.le_of_ble_eq_true rfl⟩ (Nat.le_of_ble_eq_true rfl) dX6_coming_77 rfl rfl rfl ?_
        obtain rfl := Option.some.inj h
        exact ro_iret hκ dX6_coming_80
      · replace h := ah_ip c h
        refine ro_aload_n (pc' := 66) dX6_coming_65 rfl rfl rfl ?_
        refine ro_iload_n (pc' := 67) dX6_coming_66 rfl rfl rfl ?_
        refine ro_iload_n (pc' := 68) dX6_coming_67 rfl rfl rfl ?_
        obtain ⟨u12, hu12, h⟩ := ah_bs h
        obtain ⟨v13, σ14, hv13, h⟩ := ah_bs2 h
        refine ro_callV (pc' := 71) (As := [.int x1, .int x2]) (rest := []) (st' := [.int v13]) (by decide) hu12 q1835 sl_X6_bareComes (M_X6_bareComes hv13) q1833 q1836 q104 dd_X6_bareComes rfl ⟨Nat.le_of_ble_eq_true rfl, Nat.le_of_ble_eq_true rfl⟩ (Nat.le_of_ble_eq_true rfl) dX6_coming_68 rfl rfl rfl ?_
        refine ro_goto (tgt := 80) dX6_coming_71 rfl ?_
        obtain rfl := Option.some.inj h
        exact ro_iret hκ dX6_coming_80
    · replace h := ah_ip c h
      refine ro_aload_n (pc' := 40) dX6_coming_39 rfl rfl rfl ?_
      refine ro_bipush (pc' := 42) dX6_coming_40 ib_81 rfl ?_
      obtain ⟨u15, hu15, h⟩ := ah_bs h
      obtain ⟨σ16, hσ16, h⟩ := ah_bs h
      refine ro_callV (pc' := 45) (As := [.int (81 : Int32)]) (rest := []) (st' := []) (by decide) hu15 q1827 sl_X6_ran (M_X6_ran hσ16) q1825 q1828 q104 dd_X6_ran rfl ⟨Nat.le_of_ble_eq_true rfl, Nat.le_of_ble_eq_true rfl⟩ (Nat.le_of_ble_eq_true rfl) dX6_coming_42 rfl rfl rfl ?_
      refine ro_aload_n (pc' := 46) dX6_coming_45 rfl rfl rfl ?_
      refine ro_iload_n (pc' := 47) dX6_coming_46 rfl rfl rfl ?_
      refine ro_iload_n (pc' := 48) dX6_coming_47 rfl rfl rfl ?_
      obtain ⟨u17, hu17, h⟩ := ah_bs h
      obtain ⟨v18, σ19, hv18, h⟩ := ah_bs2 h
      refine ro_callV (pc' := 51) (As := [.int x1, .int x2]) (rest := []) (st' := [.int v18]) (by decide) hu17 q1835 sl_X6_bareComes (M_X6_bareComes hv18) q1833 q1836 q104 dd_X6_bareComes rfl ⟨Nat.le_of_ble_eq_true rfl, Nat.le_of_ble_eq_true rfl⟩ (Nat.le_of_ble_eq_true rfl) dX6_coming_48 rfl rfl rfl ?_
      refine ro_iconst (pc' := 52) dX6_coming_51 ic_1 rfl ?_
      refine ro_isub (pc' := 53) dX6_coming_52 rfl ?_
      obtain rfl := Option.some.inj h
      exact ro_iret hκ dX6_coming_53
  · replace h := ah_in_ c h
    refine ro_aload_n (pc' := 14) dX6_coming_13 rfl rfl rfl ?_
    refine ro_bipush (pc' := 16) dX6_coming_14 ib_20 rfl ?_
    obtain ⟨u20, hu20, h⟩ := ah_bs h
    obtain ⟨σ21, hσ21, h⟩ := ah_bs h
    refine ro_callV (pc' := 19) (As := [.int (20 : Int32)]) (rest := []) (st' := []) (by decide) hu20 q1827 sl_X6_ran (M_X6_ran hσ21) q1825 q1828 q104 dd_X6_ran rfl ⟨Nat.le_of_ble_eq_true rfl, Nat.le_of_ble_eq_true rfl⟩ (Nat.le_of_ble_eq_true rfl) dX6_coming_16 rfl rfl rfl ?_
    refine ro_aload_n (pc' := 20) dX6_coming_19 rfl rfl rfl ?_
    refine ro_iload_n (pc' := 21) dX6_coming_20 rfl rfl rfl ?_
    refine ro_iload_n (pc' := 22) dX6_coming_21 rfl rfl rfl ?_
    obtain ⟨u22, hu22, h⟩ := ah_bs h
    obtain ⟨v23, σ24, hv23, h⟩ := ah_bs2 h
    refine ro_callV (pc' := 25) (As := [.int x1, .int x2]) (rest := []) (st' := [.int v23]) (by decide) hu22 q1831 sl_X6_plainComes (M_X6_plainComes hv23) q1829 q1832 q104 dd_X6_plainComes rfl ⟨Nat.le_of_ble_eq_true rfl, Nat.le_of_ble_eq_true rfl⟩ (Nat.le_of_ble_eq_true rfl) dX6_coming_22 rfl rfl rfl ?_
    refine ro_iconst (pc' := 26) dX6_coming_25 ic_3 rfl ?_
    refine ro_iadd (pc' := 27) dX6_coming_26 rfl ?_
    obtain rfl := Option.some.inj h
    exact ro_iret hκ dX6_coming_27
theorem M_X6_coming {l : Launch} {D : ah_D}  {σ : ah_S} {r0 : Option Nat} {x1 : Int32} {x2 : Int32} {v : Int32} {σ1 : ah_S} (h : F_X6_coming σ r0 x1 x2 = some (v, σ1)) : ah_Met l yX6_coming (Cond.code yX6_coming cX6_coming 3 (some FieldType.int)) 4 89 D [va_rf r0, .int x1, .int x2] σ (.returned (some (.int v)), σ1) :=
  ah_ofG (own := "LeftAsFoundModel") (nm := "coming") (L0 := [some (va_rf r0), some (.int x1), some (.int x2)]) (by decide) rfl rfl rfl (ah_ao_1 (ah_rf_cat _) (ah_ao_1 rfl (ah_ao_1 rfl ah_ao_0))) (fun κ hκ => W_X6_coming hκ  σ r0 x1 x2 h)
set_option maxRecDepth 20000 in
set_option maxHeartbeats 4000000 in
theorem W_X6_plainLeaves {κ : ah_C} {rr : (Int32 × ah_S)} (hκ : ah_res κ = (.returned (some (.int rr.1)), rr.2))  (σ : ah_S) (r0 : Option Nat) (x1 : Int32) (x2 : Int32) (h : F_X6_plainLeaves σ r0 x1 x2 = some rr) : ah_G κ ("LeftAsFoundModel", "plainLeaves", 3, (some FieldType.int), [], 5, 111) cX6_plainLeaves σ 0 [some (va_rf r0), some (.int x1), some (.int x2)] [] := by
  unfold F_X6_plainLeaves at h
  refine ro_aload_n (pc' := 1) dX6_plainLeaves_0 rfl rfl rfl ?_
  refine ro_bipush (pc' := 3) dX6_plainLeaves_1 ib_10 rfl ?_
  obtain ⟨u1, hu1, h⟩ := ah_bs h
  obtain ⟨σ2, hσ2, h⟩ := ah_bs h
  refine ro_callV (pc' := 6) (As := [.int (10 : Int32)]) (rest := []) (st' := []) (by decide) hu1 q1827 sl_X6_ran (M_X6_ran hσ2) q1825 q1828 q104 dd_X6_ran rfl ⟨Nat.le_of_ble_eq_true rfl, Nat.le_of_ble_eq_true rfl⟩ (Nat.le_of_ble_eq_true rfl) dX6_plainLeaves_3 rfl rfl rfl ?_
  refine ro_aload_n (pc' := 7) dX6_plainLeaves_6 rfl rfl rfl ?_
  refine ro_iload_n (pc' := 8) dX6_plainLeaves_7 rfl rfl rfl ?_
  refine ro_iload_n (pc' := 9) dX6_plainLeaves_8 rfl rfl rfl ?_
  obtain ⟨u3, hu3, h⟩ := ah_bs h
  obtain ⟨v4, σ5, hv4, h⟩ := ah_bs2 h
  refine ro_callV (pc' := 12) (As := [.int x1, .int x2]) (rest := []) (st' := [.int v4]) (by decide) hu3 q1820 sl_X6_coming (M_X6_coming hv4) q1818 q1821 q104 dd_X6_coming rfl ⟨Nat.le_of_ble_eq_true rfl, Nat.le_of_ble_eq_true rfl⟩ (Nat.le_of_ble_eq_true rfl) dX6_plainLeaves_9 rfl rfl rfl ?_
  refine ro_iconst (pc' := 13) dX6_plainLeaves_12 ic_2 rfl ?_
  refine ro_imul (pc' := 14) dX6_plainLeaves_13 rfl ?_
  obtain rfl := Option.some.inj h
  exact ro_iret hκ dX6_plainLeaves_14
theorem M_X6_plainLeaves {l : Launch} {D : ah_D}  {σ : ah_S} {r0 : Option Nat} {x1 : Int32} {x2 : Int32} {v : Int32} {σ1 : ah_S} (h : F_X6_plainLeaves σ r0 x1 x2 = some (v, σ1)) : ah_Met l yX6_plainLeaves (Cond.code yX6_plainLeaves cX6_plainLeaves 3 (some FieldType.int)) 5 111 D [va_rf r0, .int x1, .int x2] σ (.returned (some (.int v)), σ1) :=
  ah_ofG (own := "LeftAsFoundModel") (nm := "plainLeaves") (L0 := [some (va_rf r0), some (.int x1), some (.int x2)]) (by decide) rfl rfl rfl (ah_ao_1 (ah_rf_cat _) (ah_ao_1 rfl (ah_ao_1 rfl ah_ao_0))) (fun κ hκ => W_X6_plainLeaves hκ  σ r0 x1 x2 h)
set_option maxRecDepth 20000 in
set_option maxHeartbeats 4000000 in
theorem W_X6_takenLeaves {κ : ah_C} {rr : (Int32 × ah_S)} (hκ : ah_res κ = (.returned (some (.int rr.1)), rr.2))  (σ : ah_S) (r0 : Option Nat) (x1 : Int32) (x2 : Int32) (h : F_X6_takenLeaves σ r0 x1 x2 = some rr) : ah_G κ ("LeftAsFoundModel", "takenLeaves", 3, (some FieldType.int), [], 6, 133) cX6_takenLeaves σ 0 [some (va_rf r0), some (.int x1), some (.int x2)] [] := by
  unfold F_X6_takenLeaves at h
  refine ro_aload_n (pc' := 1) dX6_takenLeaves_0 rfl rfl rfl ?_
  refine ro_bipush (pc' := 3) dX6_takenLeaves_1 ib_30 rfl ?_
  obtain ⟨u1, hu1, h⟩ := ah_bs h
  obtain ⟨σ2, hσ2, h⟩ := ah_bs h
  refine ro_callV (pc' := 6) (As := [.int (30 : Int32)]) (rest := []) (st' := []) (by decide) hu1 q1827 sl_X6_ran (M_X6_ran hσ2) q1825 q1828 q104 dd_X6_ran rfl ⟨Nat.le_of_ble_eq_true rfl, Nat.le_of_ble_eq_true rfl⟩ (Nat.le_of_ble_eq_true rfl) dX6_takenLeaves_3 rfl rfl rfl ?_
  refine ro_aload_n (pc' := 7) dX6_takenLeaves_6 rfl rfl rfl ?_
  refine ro_iload_n (pc' := 8) dX6_takenLeaves_7 rfl rfl rfl ?_
  refine ro_iload_n (pc' := 9) dX6_takenLeaves_8 rfl rfl rfl ?_
  obtain ⟨u3, hu3, h⟩ := ah_bs h
  obtain ⟨v4, σ5, hv4, h⟩ := ah_bs2 h
  refine ro_callV (pc' := 12) (As := [.int x1, .int x2]) (rest := []) (st' := [.int v4]) (by decide) hu3 q1847 sl_X6_plainLeaves (M_X6_plainLeaves hv4) q1845 q1848 q104 dd_X6_plainLeaves rfl ⟨Nat.le_of_ble_eq_true rfl, Nat.le_of_ble_eq_true rfl⟩ (Nat.le_of_ble_eq_true rfl) dX6_takenLeaves_9 rfl rfl rfl ?_
  refine ro_ineg (pc' := 13) dX6_takenLeaves_12 rfl ?_
  obtain rfl := Option.some.inj h
  exact ro_iret hκ dX6_takenLeaves_13
theorem M_X6_takenLeaves {l : Launch} {D : ah_D}  {σ : ah_S} {r0 : Option Nat} {x1 : Int32} {x2 : Int32} {v : Int32} {σ1 : ah_S} (h : F_X6_takenLeaves σ r0 x1 x2 = some (v, σ1)) : ah_Met l yX6_takenLeaves (Cond.code yX6_takenLeaves cX6_takenLeaves 3 (some FieldType.int)) 6 133 D [va_rf r0, .int x1, .int x2] σ (.returned (some (.int v)), σ1) :=
  ah_ofG (own := "LeftAsFoundModel") (nm := "takenLeaves") (L0 := [some (va_rf r0), some (.int x1), some (.int x2)]) (by decide) rfl rfl rfl (ah_ao_1 (ah_rf_cat _) (ah_ao_1 rfl (ah_ao_1 rfl ah_ao_0))) (fun κ hκ => W_X6_takenLeaves hκ  σ r0 x1 x2 h)
set_option maxRecDepth 20000 in
set_option maxHeartbeats 4000000 in
theorem W_X6_plainSees {κ : ah_C} {rr : (Int32 × ah_S)} (hκ : ah_res κ = (.returned (some (.int rr.1)), rr.2))  (σ : ah_S) (r0 : Option Nat) (x1 : Int32) (x2 : Int32) (h : F_X6_plainSees σ r0 x1 x2 = some rr) : ah_G κ ("LeftAsFoundModel", "plainSees", 3, (some FieldType.int), [], 2, 45) cX6_plainSees σ 0 [some (va_rf r0), some (.int x1), some (.int x2)] [] := by
  unfold F_X6_plainSees at h
  refine ro_aload_n (pc' := 1) dX6_plainSees_0 rfl rfl rfl ?_
  refine ro_bipush (pc' := 3) dX6_plainSees_1 ib_11 rfl ?_
  obtain ⟨u1, hu1, h⟩ := ah_bs h
  obtain ⟨σ2, hσ2, h⟩ := ah_bs h
  refine ro_callV (pc' := 6) (As := [.int (11 : Int32)]) (rest := []) (st' := []) (by decide) hu1 q1827 sl_X6_ran (M_X6_ran hσ2) q1825 q1828 q104 dd_X6_ran rfl ⟨Nat.le_of_ble_eq_true rfl, Nat.le_of_ble_eq_true rfl⟩ (Nat.le_of_ble_eq_true rfl) dX6_plainSees_3 rfl rfl rfl ?_
  refine ro_iload_n (pc' := 7) dX6_plainSees_6 rfl rfl rfl ?_
  refine ro_iload_n (pc' := 8) dX6_plainSees_7 rfl rfl rfl ?_
  refine ro_ixor (pc' := 9) dX6_plainSees_8 rfl ?_
  obtain rfl := Option.some.inj h
  exact ro_iret hκ dX6_plainSees_9
theorem M_X6_plainSees {l : Launch} {D : ah_D}  {σ : ah_S} {r0 : Option Nat} {x1 : Int32} {x2 : Int32} {v : Int32} {σ1 : ah_S} (h : F_X6_plainSees σ r0 x1 x2 = some (v, σ1)) : ah_Met l yX6_plainSees (Cond.code yX6_plainSees cX6_plainSees 3 (some FieldType.int)) 2 45 D [va_rf r0, .int x1, .int x2] σ (.returned (some (.int v)), σ1) :=
  ah_ofG (own := "LeftAsFoundModel") (nm := "plainSees") (L0 := [some (va_rf r0), some (.int x1), some (.int x2)]) (by decide) rfl rfl rfl (ah_ao_1 (ah_rf_cat _) (ah_ao_1 rfl (ah_ao_1 rfl ah_ao_0))) (fun κ hκ => W_X6_plainSees hκ  σ r0 x1 x2 h)
set_option maxRecDepth 20000 in
set_option maxHeartbeats 4000000 in
theorem W_X6_broughtSees {κ : ah_C} {rr : (Int32 × ah_S)} (hκ : ah_res κ = (.returned (some (.int rr.1)), rr.2))  (σ : ah_S) (r0 : Option Nat) (x1 : Int32) (x2 : Int32) (h : F_X6_broughtSees σ r0 x1 x2 = some rr) : ah_G κ ("LeftAsFoundModel", "broughtSees", 3, (some FieldType.int), [], 3, 67) cX6_broughtSees σ 0 [some (va_rf r0), some (.int x1), some (.int x2)] [] := by
  unfold F_X6_broughtSees at h
  refine ro_aload_n (pc' := 1) dX6_broughtSees_0 rfl rfl rfl ?_
  refine ro_bipush (pc' := 3) dX6_broughtSees_1 ib_40 rfl ?_
  obtain ⟨u1, hu1, h⟩ := ah_bs h
  obtain ⟨σ2, hσ2, h⟩ := ah_bs h
  refine ro_callV (pc' := 6) (As := [.int (40 : Int32)]) (rest := []) (st' := []) (by decide) hu1 q1827 sl_X6_ran (M_X6_ran hσ2) q1825 q1828 q104 dd_X6_ran rfl ⟨Nat.le_of_ble_eq_true rfl, Nat.le_of_ble_eq_true rfl⟩ (Nat.le_of_ble_eq_true rfl) dX6_broughtSees_3 rfl rfl rfl ?_
  refine ro_aload_n (pc' := 7) dX6_broughtSees_6 rfl rfl rfl ?_
  refine ro_iload_n (pc' := 8) dX6_broughtSees_7 rfl rfl rfl ?_
  refine ro_iload_n (pc' := 9) dX6_broughtSees_8 rfl rfl rfl ?_
  obtain ⟨u3, hu3, h⟩ := ah_bs h
  obtain ⟨v4, σ5, hv4, h⟩ := ah_bs2 h
  refine ro_callV (pc' := 12) (As := [.int x1, .int x2]) (rest := []) (st' := [.int v4]) (by decide) hu3 q1859 sl_X6_plainSees (M_X6_plainSees hv4) q1857 q1860 q104 dd_X6_plainSees rfl ⟨Nat.le_of_ble_eq_true rfl, Nat.le_of_ble_eq_true rfl⟩ (Nat.le_of_ble_eq_true rfl) dX6_broughtSees_9 rfl rfl rfl ?_
  refine ro_iconst (pc' := 13) dX6_broughtSees_12 ic_3 rfl ?_
  refine ro_imul (pc' := 14) dX6_broughtSees_13 rfl ?_
  obtain rfl := Option.some.inj h
  exact ro_iret hκ dX6_broughtSees_14
theorem M_X6_broughtSees {l : Launch} {D : ah_D}  {σ : ah_S} {r0 : Option Nat} {x1 : Int32} {x2 : Int32} {v : Int32} {σ1 : ah_S} (h : F_X6_broughtSees σ r0 x1 x2 = some (v, σ1)) : ah_Met l yX6_broughtSees (Cond.code yX6_broughtSees cX6_broughtSees 3 (some FieldType.int)) 3 67 D [va_rf r0, .int x1, .int x2] σ (.returned (some (.int v)), σ1) :=
  ah_ofG (own := "LeftAsFoundModel") (nm := "broughtSees") (L0 := [some (va_rf r0), some (.int x1), some (.int x2)]) (by decide) rfl rfl rfl (ah_ao_1 (ah_rf_cat _) (ah_ao_1 rfl (ah_ao_1 rfl ah_ao_0))) (fun κ hκ => W_X6_broughtSees hκ  σ r0 x1 x2 h)
set_option maxRecDepth 20000 in
set_option maxHeartbeats 4000000 in
theorem W_X6_seeing {κ : ah_C} {rr : (Int32 × ah_S)} (hκ : ah_res κ = (.returned (some (.int rr.1)), rr.2))  (σ : ah_S) (r0 : Option Nat) (x1 : Int32) (x2 : Int32) (h : F_X6_seeing σ r0 x1 x2 = some rr) : ah_G κ ("LeftAsFoundModel", "seeing", 4, (some FieldType.int), [], 5, 111) cX6_seeing σ 0 [some (va_rf r0), some (.int x1), some (.int x2), none] [] := by
  unfold F_X6_seeing at h
  refine ro_aload_n (pc' := 1) dX6_seeing_0 rfl rfl rfl ?_
  obtain ⟨v1, hv1, h⟩ := ah_bs h
  refine ro_getR (pc' := 4) ft_653 fk_653 q1361 dX6_seeing_1 rfl hv1 ?_
  refine ro_iload_n (pc' := 5) dX6_seeing_4 rfl rfl rfl ?_
  obtain ⟨v2, hv2, h⟩ := ah_bs h
  refine ro_iaload (pc' := 6) dX6_seeing_5 rfl hv2 ?_
  refine ro_iconst (pc' := 7) dX6_seeing_6 ic_5 rfl ?_
  refine ro_icmp_ne (pc' := 10) (tgt := 32) dX6_seeing_7 rfl rfl (fun c => ?_) (fun c => ?_)
  · replace h := ah_in_ c h
    refine ro_aload_n (pc' := 33) dX6_seeing_32 rfl rfl rfl ?_
    obtain ⟨v3, hv3, h⟩ := ah_bs h
    refine ro_getR (pc' := 36) ft_653 fk_653 q1361 dX6_seeing_33 rfl hv3 ?_
    refine ro_iload_n (pc' := 37) dX6_seeing_36 rfl rfl rfl ?_
    obtain ⟨v4, hv4, h⟩ := ah_bs h
    refine ro_iaload (pc' := 38) dX6_seeing_37 rfl hv4 ?_
    refine ro_iconst (pc' := 39) dX6_seeing_38 ic_3 rfl ?_
    refine ro_icmp_ne (pc' := 42) (tgt := 51) dX6_seeing_39 rfl rfl (fun c => ?_) (fun c => ?_)
    · replace h := ah_in_ c h
      refine ro_aload_n (pc' := 52) dX6_seeing_51 rfl rfl rfl ?_
      refine ro_iload_n (pc' := 53) dX6_seeing_52 rfl rfl rfl ?_
      refine ro_iload_n (pc' := 54) dX6_seeing_53 rfl rfl rfl ?_
      obtain ⟨u5, hu5, h⟩ := ah_bs h
      obtain ⟨v6, σ7, hv6, h⟩ := ah_bs2 h
      refine ro_callV (pc' := 57) (As := [.int x1, .int x2]) (rest := []) (st' := [.int v6]) (by decide) hu5 q1859 sl_X6_plainSees (M_X6_plainSees hv6) q1857 q1860 q104 dd_X6_plainSees rfl ⟨Nat.le_of_ble_eq_true rfl, Nat.le_of_ble_eq_true rfl⟩ (Nat.le_of_ble_eq_true rfl) dX6_seeing_54 rfl rfl rfl ?_
      obtain rfl := Option.some.inj h
      exact ro_iret hκ dX6_seeing_57
    · replace h := ah_ip c h
      refine ro_aload_n (pc' := 43) dX6_seeing_42 rfl rfl rfl ?_
      refine ro_iload_n (pc' := 44) dX6_seeing_43 rfl rfl rfl ?_
      refine ro_iload_n (pc' := 45) dX6_seeing_44 rfl rfl rfl ?_
      obtain ⟨u8, hu8, h⟩ := ah_bs h
      obtain ⟨v9, σ10, hv9, h⟩ := ah_bs2 h
      refine ro_callV (pc' := 48) (As := [.int x1, .int x2]) (rest := []) (st' := [.int v9]) (by decide) hu8 q1855 sl_X6_broughtSees (M_X6_broughtSees hv9) q1853 q1856 q104 dd_X6_broughtSees rfl ⟨Nat.le_of_ble_eq_true rfl, Nat.le_of_ble_eq_true rfl⟩ (Nat.le_of_ble_eq_true rfl) dX6_seeing_45 rfl rfl rfl ?_
      refine ro_goto (tgt := 57) dX6_seeing_48 rfl ?_
      obtain rfl := Option.some.inj h
      exact ro_iret hκ dX6_seeing_57
  · replace h := ah_ip c h
    refine ro_aload_n (pc' := 11) dX6_seeing_10 rfl rfl rfl ?_
    refine ro_bipush (pc' := 13) dX6_seeing_11 ib_60 rfl ?_
    obtain ⟨u11, hu11, h⟩ := ah_bs h
    obtain ⟨σ12, hσ12, h⟩ := ah_bs h
    refine ro_callV (pc' := 16) (As := [.int (60 : Int32)]) (rest := []) (st' := []) (by decide) hu11 q1827 sl_X6_ran (M_X6_ran hσ12) q1825 q1828 q104 dd_X6_ran rfl ⟨Nat.le_of_ble_eq_true rfl, Nat.le_of_ble_eq_true rfl⟩ (Nat.le_of_ble_eq_true rfl) dX6_seeing_13 rfl rfl rfl ?_
    refine ro_aload_n (pc' := 17) dX6_seeing_16 rfl rfl rfl ?_
    refine ro_iload_n (pc' := 18) dX6_seeing_17 rfl rfl rfl ?_
    refine ro_iload_n (pc' := 19) dX6_seeing_18 rfl rfl rfl ?_
    obtain ⟨u13, hu13, h⟩ := ah_bs h
    obtain ⟨v14, σ15, hv14, h⟩ := ah_bs2 h
    refine ro_callV (pc' := 22) (As := [.int x1, .int x2]) (rest := []) (st' := [.int v14]) (by decide) hu13 q1855 sl_X6_broughtSees (M_X6_broughtSees hv14) q1853 q1856 q104 dd_X6_broughtSees rfl ⟨Nat.le_of_ble_eq_true rfl, Nat.le_of_ble_eq_true rfl⟩ (Nat.le_of_ble_eq_true rfl) dX6_seeing_19 rfl rfl rfl ?_
    refine ro_istore_n (pc' := 23) (L' := [some (va_rf r0), some (.int x1), some (.int x2), some (.int v14)]) dX6_seeing_22 rfl (Nat.le_of_ble_eq_true rfl) rfl (ah_okp_i _) rfl ?_
    refine ro_iload_n (pc' := 24) dX6_seeing_23 rfl rfl rfl ?_
    refine ro_aload_n (pc' := 25) dX6_seeing_24 rfl rfl rfl ?_
    refine ro_iload_n (pc' := 26) dX6_seeing_25 rfl rfl rfl ?_
    refine ro_iconst (pc' := 27) dX6_seeing_26 ic_2 rfl ?_
    obtain ⟨u16, hu16, h⟩ := ah_bs h
    obtain ⟨v17, σ18, hv17, h⟩ := ah_bs2 h
    refine ro_callV (pc' := 30) (As := [.int x1, .int (2 : Int32)]) (rest := [.int v14]) (st' := [.int v17, .int v14]) (by decide) hu16 q1820 sl_X6_coming (M_X6_coming hv17) q1818 q1821 q104 dd_X6_coming rfl ⟨Nat.le_of_ble_eq_true rfl, Nat.le_of_ble_eq_true rfl⟩ (Nat.le_of_ble_eq_true rfl) dX6_seeing_27 rfl rfl rfl ?_
    refine ro_isub (pc' := 31) dX6_seeing_30 rfl ?_
    obtain rfl := Option.some.inj h
    exact ro_iret hκ dX6_seeing_31
theorem M_X6_seeing {l : Launch} {D : ah_D}  {σ : ah_S} {r0 : Option Nat} {x1 : Int32} {x2 : Int32} {v : Int32} {σ1 : ah_S} (h : F_X6_seeing σ r0 x1 x2 = some (v, σ1)) : ah_Met l yX6_seeing (Cond.code yX6_seeing cX6_seeing 4 (some FieldType.int)) 5 111 D [va_rf r0, .int x1, .int x2] σ (.returned (some (.int v)), σ1) :=
  ah_ofG (own := "LeftAsFoundModel") (nm := "seeing") (L0 := [some (va_rf r0), some (.int x1), some (.int x2), none]) (by decide) rfl rfl rfl (ah_ao_1 (ah_rf_cat _) (ah_ao_1 rfl (ah_ao_1 rfl (ah_ao_n ah_ao_0)))) (fun κ hκ => W_X6_seeing hκ  σ r0 x1 x2 h)
set_option maxRecDepth 20000 in
set_option maxHeartbeats 4000000 in
theorem W_X6_leaving {κ : ah_C} {rr : (Int32 × ah_S)} (hκ : ah_res κ = (.returned (some (.int rr.1)), rr.2))  (σ : ah_S) (r0 : Option Nat) (x1 : Int32) (x2 : Int32) (h : F_X6_leaving σ r0 x1 x2 = some rr) : ah_G κ ("LeftAsFoundModel", "leaving", 4, (some FieldType.int), [], 7, 155) cX6_leaving σ 0 [some (va_rf r0), some (.int x1), some (.int x2), none] [] := by
  unfold F_X6_leaving at h
  refine ro_aload_n (pc' := 1) dX6_leaving_0 rfl rfl rfl ?_
  obtain ⟨v1, hv1, h⟩ := ah_bs h
  refine ro_getR (pc' := 4) ft_653 fk_653 q1361 dX6_leaving_1 rfl hv1 ?_
  refine ro_iload_n (pc' := 5) dX6_leaving_4 rfl rfl rfl ?_
  obtain ⟨v2, hv2, h⟩ := ah_bs h
  refine ro_iaload (pc' := 6) dX6_leaving_5 rfl hv2 ?_
  refine ro_iconst (pc' := 7) dX6_leaving_6 ic_3 rfl ?_
  obtain ⟨v3, σ4, hv3, h⟩ := ah_bs2 h
  refine ro_callS (pc' := 10) (As := [.int v2, .int (3 : Int32)]) (rest := []) (st' := [.int v3]) q1823 (M_X6_isUnder hv3) q1822 q1824 q104 dd_X6_isUnder rfl ⟨Nat.le_of_ble_eq_true rfl, Nat.le_of_ble_eq_true rfl⟩ (Nat.le_of_ble_eq_true rfl) dX6_leaving_7 rfl rfl rfl ?_
  refine ro_if_eq (pc' := 13) (tgt := 28) dX6_leaving_10 rfl rfl (fun c => ?_) (fun c => ?_)
  · replace h := ah_ip c h
    refine ro_aload_n (pc' := 29) dX6_leaving_28 rfl rfl rfl ?_
    obtain ⟨v5, hv5, h⟩ := ah_bs h
    refine ro_getR (pc' := 32) ft_653 fk_653 q1361 dX6_leaving_29 rfl hv5 ?_
    refine ro_iload_n (pc' := 33) dX6_leaving_32 rfl rfl rfl ?_
    obtain ⟨v6, hv6, h⟩ := ah_bs h
    refine ro_iaload (pc' := 34) dX6_leaving_33 rfl hv6 ?_
    refine ro_bipush (pc' := 36) dX6_leaving_34 ib_7 rfl ?_
    refine ro_icmp_ne (pc' := 39) (tgt := 61) dX6_leaving_36 rfl rfl (fun c => ?_) (fun c => ?_)
    · replace h := ah_in_ c h
      refine ro_aload_n (pc' := 62) dX6_leaving_61 rfl rfl rfl ?_
      obtain ⟨v7, hv7, h⟩ := ah_bs h
      refine ro_getR (pc' := 65) ft_653 fk_653 q1361 dX6_leaving_62 rfl hv7 ?_
      refine ro_iload_n (pc' := 66) dX6_leaving_65 rfl rfl rfl ?_
      obtain ⟨v8, hv8, h⟩ := ah_bs h
      refine ro_iaload (pc' := 67) dX6_leaving_66 rfl hv8 ?_
      refine ro_iconst (pc' := 68) dX6_leaving_67 ic_2 rfl ?_
      refine ro_icmp_ne (pc' := 71) (tgt := 80) dX6_leaving_68 rfl rfl (fun c => ?_) (fun c => ?_)
      · replace h := ah_in_ c h
        refine ro_aload_n (pc' := 81) dX6_leaving_80 rfl rfl rfl ?_
        refine ro_iload_n (pc' := 82) dX6_leaving_81 rfl rfl rfl ?_
        refine ro_iload_n (pc' := 83) dX6_leaving_82 rfl rfl rfl ?_
        obtain ⟨u9, hu9, h⟩ := ah_bs h
        obtain ⟨v10, σ11, hv10, h⟩ := ah_bs2 h
        refine ro_callV (pc' := 86) (As := [.int x1, .int x2]) (rest := []) (st' := [.int v10]) (by decide) hu9 q1847 sl_X6_plainLeaves (M_X6_plainLeaves hv10) q1845 q1848 q104 dd_X6_plainLeaves rfl ⟨Nat.le_of_ble_eq_true rfl, Nat.le_of_ble_eq_true rfl⟩ (Nat.le_of_ble_eq_true rfl) dX6_leaving_83 rfl rfl rfl ?_
        obtain rfl := Option.some.inj h
        exact ro_iret hκ dX6_leaving_86
      · replace h := ah_ip c h
        refine ro_aload_n (pc' := 72) dX6_leaving_71 rfl rfl rfl ?_
        refine ro_iload_n (pc' := 73) dX6_leaving_72 rfl rfl rfl ?_
        refine ro_iload_n (pc' := 74) dX6_leaving_73 rfl rfl rfl ?_
        obtain ⟨u12, hu12, h⟩ := ah_bs h
        obtain ⟨v13, σ14, hv13, h⟩ := ah_bs2 h
        refine ro_callV (pc' := 77) (As := [.int x1, .int x2]) (rest := []) (st' := [.int v13]) (by decide) hu12 q1843 sl_X6_takenLeaves (M_X6_takenLeaves hv13) q1841 q1844 q104 dd_X6_takenLeaves rfl ⟨Nat.le_of_ble_eq_true rfl, Nat.le_of_ble_eq_true rfl⟩ (Nat.le_of_ble_eq_true rfl) dX6_leaving_74 rfl rfl rfl ?_
        refine ro_goto (tgt := 86) dX6_leaving_77 rfl ?_
        obtain rfl := Option.some.inj h
        exact ro_iret hκ dX6_leaving_86
    · replace h := ah_ip c h
      refine ro_aload_n (pc' := 40) dX6_leaving_39 rfl rfl rfl ?_
      refine ro_bipush (pc' := 42) dX6_leaving_40 ib_80 rfl ?_
      obtain ⟨u15, hu15, h⟩ := ah_bs h
      obtain ⟨σ16, hσ16, h⟩ := ah_bs h
      refine ro_callV (pc' := 45) (As := [.int (80 : Int32)]) (rest := []) (st' := []) (by decide) hu15 q1827 sl_X6_ran (M_X6_ran hσ16) q1825 q1828 q104 dd_X6_ran rfl ⟨Nat.le_of_ble_eq_true rfl, Nat.le_of_ble_eq_true rfl⟩ (Nat.le_of_ble_eq_true rfl) dX6_leaving_42 rfl rfl rfl ?_
      refine ro_aload_n (pc' := 46) dX6_leaving_45 rfl rfl rfl ?_
      refine ro_iload_n (pc' := 47) dX6_leaving_46 rfl rfl rfl ?_
      refine ro_iload_n (pc' := 48) dX6_leaving_47 rfl rfl rfl ?_
      obtain ⟨u17, hu17, h⟩ := ah_bs h
      obtain ⟨v18, σ19, hv18, h⟩ := ah_bs2 h
      refine ro_callV (pc' := 51) (As := [.int x1, .int x2]) (rest := []) (st' := [.int v18]) (by decide) hu17 q1847 sl_X6_plainLeaves (M_X6_plainLeaves hv18) q1845 q1848 q104 dd_X6_plainLeaves rfl ⟨Nat.le_of_ble_eq_true rfl, Nat.le_of_ble_eq_true rfl⟩ (Nat.le_of_ble_eq_true rfl) dX6_leaving_48 rfl rfl rfl ?_
      refine ro_istore_n (pc' := 52) (L' := [some (va_rf r0), some (.int x1), some (.int x2), some (.int v18)]) dX6_leaving_51 rfl (Nat.le_of_ble_eq_true rfl) rfl (ah_okp_i _) rfl ?_
      refine ro_iload_n (pc' := 53) dX6_leaving_52 rfl rfl rfl ?_
      refine ro_aload_n (pc' := 54) dX6_leaving_53 rfl rfl rfl ?_
      refine ro_iload_n (pc' := 55) dX6_leaving_54 rfl rfl rfl ?_
      refine ro_iconst (pc' := 56) dX6_leaving_55 ic_2 rfl ?_
      obtain ⟨u20, hu20, h⟩ := ah_bs h
      obtain ⟨v21, σ22, hv21, h⟩ := ah_bs2 h
      refine ro_callV (pc' := 59) (As := [.int x1, .int (2 : Int32)]) (rest := [.int v18]) (st' := [.int v21, .int v18]) (by decide) hu20 q1851 sl_X6_seeing (M_X6_seeing hv21) q1849 q1852 q104 dd_X6_seeing rfl ⟨Nat.le_of_ble_eq_true rfl, Nat.le_of_ble_eq_true rfl⟩ (Nat.le_of_ble_eq_true rfl) dX6_leaving_56 rfl rfl rfl ?_
      refine ro_iadd (pc' := 60) dX6_leaving_59 rfl ?_
      obtain rfl := Option.some.inj h
      exact ro_iret hκ dX6_leaving_60
  · replace h := ah_in_ c h
    refine ro_aload_n (pc' := 14) dX6_leaving_13 rfl rfl rfl ?_
    refine ro_bipush (pc' := 16) dX6_leaving_14 ib_41 rfl ?_
    obtain ⟨u23, hu23, h⟩ := ah_bs h
    obtain ⟨σ24, hσ24, h⟩ := ah_bs h
    refine ro_callV (pc' := 19) (As := [.int (41 : Int32)]) (rest := []) (st' := []) (by decide) hu23 q1827 sl_X6_ran (M_X6_ran hσ24) q1825 q1828 q104 dd_X6_ran rfl ⟨Nat.le_of_ble_eq_true rfl, Nat.le_of_ble_eq_true rfl⟩ (Nat.le_of_ble_eq_true rfl) dX6_leaving_16 rfl rfl rfl ?_
    refine ro_aload_n (pc' := 20) dX6_leaving_19 rfl rfl rfl ?_
    refine ro_iload_n (pc' := 21) dX6_leaving_20 rfl rfl rfl ?_
    refine ro_iload_n (pc' := 22) dX6_leaving_21 rfl rfl rfl ?_
    refine ro_iconst (pc' := 23) dX6_leaving_22 ic_1 rfl ?_
    refine ro_iadd (pc' := 24) dX6_leaving_23 rfl ?_
    obtain ⟨u25, hu25, h⟩ := ah_bs h
    obtain ⟨v26, σ27, hv26, h⟩ := ah_bs2 h
    refine ro_callV (pc' := 27) (As := [.int x1, .int (x2 + (1 : Int32))]) (rest := []) (st' := [.int v26]) (by decide) hu25 q1843 sl_X6_takenLeaves (M_X6_takenLeaves hv26) q1841 q1844 q104 dd_X6_takenLeaves rfl ⟨Nat.le_of_ble_eq_true rfl, Nat.le_of_ble_eq_true rfl⟩ (Nat.le_of_ble_eq_true rfl) dX6_leaving_24 rfl rfl rfl ?_
    obtain rfl := Option.some.inj h
    exact ro_iret hκ dX6_leaving_27
theorem M_X6_leaving {l : Launch} {D : ah_D}  {σ : ah_S} {r0 : Option Nat} {x1 : Int32} {x2 : Int32} {v : Int32} {σ1 : ah_S} (h : F_X6_leaving σ r0 x1 x2 = some (v, σ1)) : ah_Met l yX6_leaving (Cond.code yX6_leaving cX6_leaving 4 (some FieldType.int)) 7 155 D [va_rf r0, .int x1, .int x2] σ (.returned (some (.int v)), σ1) :=
  ah_ofG (own := "LeftAsFoundModel") (nm := "leaving") (L0 := [some (va_rf r0), some (.int x1), some (.int x2), none]) (by decide) rfl rfl rfl (ah_ao_1 (ah_rf_cat _) (ah_ao_1 rfl (ah_ao_1 rfl (ah_ao_n ah_ao_0)))) (fun κ hκ => W_X6_leaving hκ  σ r0 x1 x2 h)
set_option maxRecDepth 20000 in
set_option maxHeartbeats 4000000 in
theorem W_X6_plainTells {κ : ah_C} {rr : (Int32 × ah_S)} (hκ : ah_res κ = (.returned (some (.int rr.1)), rr.2))  (σ : ah_S) (r0 : Option Nat) (x1 : Int32) (x2 : Int32) (h : F_X6_plainTells σ r0 x1 x2 = some rr) : ah_G κ ("LeftAsFoundModel", "plainTells", 4, (some FieldType.int), [], 8, 178) cX6_plainTells σ 0 [some (va_rf r0), some (.int x1), some (.int x2), none] [] := by
  unfold F_X6_plainTells at h
  refine ro_aload_n (pc' := 1) dX6_plainTells_0 rfl rfl rfl ?_
  refine ro_iconst (pc' := 2) dX6_plainTells_1 ic_2 rfl ?_
  obtain ⟨u1, hu1, h⟩ := ah_bs h
  obtain ⟨σ2, hσ2, h⟩ := ah_bs h
  refine ro_callV (pc' := 5) (As := [.int (2 : Int32)]) (rest := []) (st' := []) (by decide) hu1 q1827 sl_X6_ran (M_X6_ran hσ2) q1825 q1828 q104 dd_X6_ran rfl ⟨Nat.le_of_ble_eq_true rfl, Nat.le_of_ble_eq_true rfl⟩ (Nat.le_of_ble_eq_true rfl) dX6_plainTells_2 rfl rfl rfl ?_
  refine ro_aload_n (pc' := 6) dX6_plainTells_5 rfl rfl rfl ?_
  refine ro_iload_n (pc' := 7) dX6_plainTells_6 rfl rfl rfl ?_
  refine ro_iload_n (pc' := 8) dX6_plainTells_7 rfl rfl rfl ?_
  obtain ⟨u3, hu3, h⟩ := ah_bs h
  obtain ⟨v4, σ5, hv4, h⟩ := ah_bs2 h
  refine ro_callV (pc' := 11) (As := [.int x1, .int x2]) (rest := []) (st' := [.int v4]) (by decide) hu3 q1839 sl_X6_leaving (M_X6_leaving hv4) q1837 q1840 q104 dd_X6_leaving rfl ⟨Nat.le_of_ble_eq_true rfl, Nat.le_of_ble_eq_true rfl⟩ (Nat.le_of_ble_eq_true rfl) dX6_plainTells_8 rfl rfl rfl ?_
  refine ro_istore_n (pc' := 12) (L' := [some (va_rf r0), some (.int x1), some (.int x2), some (.int v4)]) dX6_plainTells_11 rfl (Nat.le_of_ble_eq_true rfl) rfl (ah_okp_i _) rfl ?_
  refine ro_iload_n (pc' := 13) dX6_plainTells_12 rfl rfl rfl ?_
  refine ro_aload_n (pc' := 14) dX6_plainTells_13 rfl rfl rfl ?_
  refine ro_iload_n (pc' := 15) dX6_plainTells_14 rfl rfl rfl ?_
  refine ro_iconst (pc' := 16) dX6_plainTells_15 ic_1 rfl ?_
  obtain ⟨u6, hu6, h⟩ := ah_bs h
  obtain ⟨v7, σ8, hv7, h⟩ := ah_bs2 h
  refine ro_callV (pc' := 19) (As := [.int x1, .int (1 : Int32)]) (rest := [.int v4]) (st' := [.int v7, .int v4]) (by decide) hu6 q1851 sl_X6_seeing (M_X6_seeing hv7) q1849 q1852 q104 dd_X6_seeing rfl ⟨Nat.le_of_ble_eq_true rfl, Nat.le_of_ble_eq_true rfl⟩ (Nat.le_of_ble_eq_true rfl) dX6_plainTells_16 rfl rfl rfl ?_
  refine ro_isub (pc' := 20) dX6_plainTells_19 rfl ?_
  obtain rfl := Option.some.inj h
  exact ro_iret hκ dX6_plainTells_20
theorem M_X6_plainTells {l : Launch} {D : ah_D}  {σ : ah_S} {r0 : Option Nat} {x1 : Int32} {x2 : Int32} {v : Int32} {σ1 : ah_S} (h : F_X6_plainTells σ r0 x1 x2 = some (v, σ1)) : ah_Met l yX6_plainTells (Cond.code yX6_plainTells cX6_plainTells 4 (some FieldType.int)) 8 178 D [va_rf r0, .int x1, .int x2] σ (.returned (some (.int v)), σ1) :=
  ah_ofG (own := "LeftAsFoundModel") (nm := "plainTells") (L0 := [some (va_rf r0), some (.int x1), some (.int x2), none]) (by decide) rfl rfl rfl (ah_ao_1 (ah_rf_cat _) (ah_ao_1 rfl (ah_ao_1 rfl (ah_ao_n ah_ao_0)))) (fun κ hκ => W_X6_plainTells hκ  σ r0 x1 x2 h)
set_option maxRecDepth 20000 in
set_option maxHeartbeats 4000000 in
theorem W_X6_telling {κ : ah_C} {rr : (Int32 × ah_S)} (hκ : ah_res κ = (.returned (some (.int rr.1)), rr.2))  (σ : ah_S) (r0 : Option Nat) (x1 : Int32) (x2 : Int32) (h : F_X6_telling σ r0 x1 x2 = some rr) : ah_G κ ("LeftAsFoundModel", "telling", 3, (some FieldType.int), [], 9, 201) cX6_telling σ 0 [some (va_rf r0), some (.int x1), some (.int x2)] [] := by
  unfold F_X6_telling at h
  refine ro_aload_n (pc' := 1) dX6_telling_0 rfl rfl rfl ?_
  obtain ⟨v1, hv1, h⟩ := ah_bs h
  refine ro_getR (pc' := 4) ft_653 fk_653 q1361 dX6_telling_1 rfl hv1 ?_
  refine ro_iload_n (pc' := 5) dX6_telling_4 rfl rfl rfl ?_
  obtain ⟨v2, hv2, h⟩ := ah_bs h
  refine ro_iaload (pc' := 6) dX6_telling_5 rfl hv2 ?_
  refine ro_iconst (pc' := 7) dX6_telling_6 ic_4 rfl ?_
  refine ro_icmp_ne (pc' := 10) (tgt := 25) dX6_telling_7 rfl rfl (fun c => ?_) (fun c => ?_)
  · replace h := ah_in_ c h
    refine ro_aload_n (pc' := 26) dX6_telling_25 rfl rfl rfl ?_
    obtain ⟨v3, hv3, h⟩ := ah_bs h
    refine ro_getR (pc' := 29) ft_653 fk_653 q1361 dX6_telling_26 rfl hv3 ?_
    refine ro_iload_n (pc' := 30) dX6_telling_29 rfl rfl rfl ?_
    obtain ⟨v4, hv4, h⟩ := ah_bs h
    refine ro_iaload (pc' := 31) dX6_telling_30 rfl hv4 ?_
    refine ro_iconst (pc' := 32) dX6_telling_31 ic_5 rfl ?_
    refine ro_icmp_ne (pc' := 35) (tgt := 50) dX6_telling_32 rfl rfl (fun c => ?_) (fun c => ?_)
    · replace h := ah_in_ c h
      refine ro_aload_n (pc' := 51) dX6_telling_50 rfl rfl rfl ?_
      refine ro_iload_n (pc' := 52) dX6_telling_51 rfl rfl rfl ?_
      refine ro_iload_n (pc' := 53) dX6_telling_52 rfl rfl rfl ?_
      obtain ⟨u5, hu5, h⟩ := ah_bs h
      obtain ⟨v6, σ7, hv6, h⟩ := ah_bs2 h
      refine ro_callV (pc' := 56) (As := [.int x1, .int x2]) (rest := []) (st' := [.int v6]) (by decide) hu5 q1867 sl_X6_plainTells (M_X6_plainTells hv6) q1865 q1868 q104 dd_X6_plainTells rfl ⟨Nat.le_of_ble_eq_true rfl, Nat.le_of_ble_eq_true rfl⟩ (Nat.le_of_ble_eq_true rfl) dX6_telling_53 rfl rfl rfl ?_
      obtain rfl := Option.some.inj h
      exact ro_iret hκ dX6_telling_56
    · replace h := ah_ip c h
      refine ro_aload_n (pc' := 36) dX6_telling_35 rfl rfl rfl ?_
      refine ro_bipush (pc' := 38) dX6_telling_36 ib_61 rfl ?_
      obtain ⟨u8, hu8, h⟩ := ah_bs h
      obtain ⟨σ9, hσ9, h⟩ := ah_bs h
      refine ro_callV (pc' := 41) (As := [.int (61 : Int32)]) (rest := []) (st' := []) (by decide) hu8 q1827 sl_X6_ran (M_X6_ran hσ9) q1825 q1828 q104 dd_X6_ran rfl ⟨Nat.le_of_ble_eq_true rfl, Nat.le_of_ble_eq_true rfl⟩ (Nat.le_of_ble_eq_true rfl) dX6_telling_38 rfl rfl rfl ?_
      refine ro_aload_n (pc' := 42) dX6_telling_41 rfl rfl rfl ?_
      refine ro_iload_n (pc' := 43) dX6_telling_42 rfl rfl rfl ?_
      refine ro_iload_n (pc' := 44) dX6_telling_43 rfl rfl rfl ?_
      obtain ⟨u10, hu10, h⟩ := ah_bs h
      obtain ⟨v11, σ12, hv11, h⟩ := ah_bs2 h
      refine ro_callV (pc' := 47) (As := [.int x1, .int x2]) (rest := []) (st' := [.int v11]) (by decide) hu10 q1867 sl_X6_plainTells (M_X6_plainTells hv11) q1865 q1868 q104 dd_X6_plainTells rfl ⟨Nat.le_of_ble_eq_true rfl, Nat.le_of_ble_eq_true rfl⟩ (Nat.le_of_ble_eq_true rfl) dX6_telling_44 rfl rfl rfl ?_
      refine ro_iconst (pc' := 48) dX6_telling_47 ic_1 rfl ?_
      refine ro_iadd (pc' := 49) dX6_telling_48 rfl ?_
      obtain rfl := Option.some.inj h
      exact ro_iret hκ dX6_telling_49
  · replace h := ah_ip c h
    refine ro_aload_n (pc' := 11) dX6_telling_10 rfl rfl rfl ?_
    refine ro_bipush (pc' := 13) dX6_telling_11 ib_50 rfl ?_
    obtain ⟨u13, hu13, h⟩ := ah_bs h
    obtain ⟨σ14, hσ14, h⟩ := ah_bs h
    refine ro_callV (pc' := 16) (As := [.int (50 : Int32)]) (rest := []) (st' := []) (by decide) hu13 q1827 sl_X6_ran (M_X6_ran hσ14) q1825 q1828 q104 dd_X6_ran rfl ⟨Nat.le_of_ble_eq_true rfl, Nat.le_of_ble_eq_true rfl⟩ (Nat.le_of_ble_eq_true rfl) dX6_telling_13 rfl rfl rfl ?_
    refine ro_aload_n (pc' := 17) dX6_telling_16 rfl rfl rfl ?_
    refine ro_iload_n (pc' := 18) dX6_telling_17 rfl rfl rfl ?_
    refine ro_iload_n (pc' := 19) dX6_telling_18 rfl rfl rfl ?_
    obtain ⟨u15, hu15, h⟩ := ah_bs h
    obtain ⟨v16, σ17, hv16, h⟩ := ah_bs2 h
    refine ro_callV (pc' := 22) (As := [.int x1, .int x2]) (rest := []) (st' := [.int v16]) (by decide) hu15 q1867 sl_X6_plainTells (M_X6_plainTells hv16) q1865 q1868 q104 dd_X6_plainTells rfl ⟨Nat.le_of_ble_eq_true rfl, Nat.le_of_ble_eq_true rfl⟩ (Nat.le_of_ble_eq_true rfl) dX6_telling_19 rfl rfl rfl ?_
    refine ro_iconst (pc' := 23) dX6_telling_22 ic_5 rfl ?_
    refine ro_ixor (pc' := 24) dX6_telling_23 rfl ?_
    obtain rfl := Option.some.inj h
    exact ro_iret hκ dX6_telling_24
theorem M_X6_telling {l : Launch} {D : ah_D}  {σ : ah_S} {r0 : Option Nat} {x1 : Int32} {x2 : Int32} {v : Int32} {σ1 : ah_S} (h : F_X6_telling σ r0 x1 x2 = some (v, σ1)) : ah_Met l yX6_telling (Cond.code yX6_telling cX6_telling 3 (some FieldType.int)) 9 201 D [va_rf r0, .int x1, .int x2] σ (.returned (some (.int v)), σ1) :=
  ah_ofG (own := "LeftAsFoundModel") (nm := "telling") (L0 := [some (va_rf r0), some (.int x1), some (.int x2)]) (by decide) rfl rfl rfl (ah_ao_1 (ah_rf_cat _) (ah_ao_1 rfl (ah_ao_1 rfl ah_ao_0))) (fun κ hκ => W_X6_telling hκ  σ r0 x1 x2 h)
set_option maxRecDepth 20000 in
set_option maxHeartbeats 4000000 in
theorem W_X6_act {κ : ah_C} {rr : (Int32 × ah_S)} (hκ : ah_res κ = (.returned (some (.int rr.1)), rr.2))  (σ : ah_S) (r0 : Option Nat) (x1 : Int32) (x2 : Int32) (x3 : Int32) (h : F_X6_act σ r0 x1 x2 x3 = some rr) : ah_G κ ("LeftAsFoundModel", "act", 4, (some FieldType.int), [], 10, 223) cX6_act σ 0 [some (va_rf r0), some (.int x1), some (.int x2), some (.int x3)] [] := by
  unfold F_X6_act at h
  refine ro_aload_n (pc' := 1) dX6_act_0 rfl rfl rfl ?_
  refine ro_iconst (pc' := 2) dX6_act_1 ic_0 rfl ?_
  obtain ⟨σ1, hσ1, h⟩ := ah_bs h
  refine ro_putI (pc' := 5) ft_654 fk_654 q1362 pd_654 dX6_act_2 rfl hσ1 ?_
  refine ro_aload_n (pc' := 6) dX6_act_5 rfl rfl rfl ?_
  refine ro_iload_n (pc' := 7) dX6_act_6 rfl rfl rfl ?_
  obtain ⟨u2, hu2, h⟩ := ah_bs h
  obtain ⟨v3, σ4, hv3, h⟩ := ah_bs2 h
  refine ro_callV (pc' := 10) (As := [.int x1]) (rest := []) (st' := [.int v3]) (by decide) hu2 q1816 sl_X6_isBody (M_X6_isBody hv3) q1814 q1817 q104 dd_X6_isBody rfl ⟨Nat.le_of_ble_eq_true rfl, Nat.le_of_ble_eq_true rfl⟩ (Nat.le_of_ble_eq_true rfl) dX6_act_7 rfl rfl rfl ?_
  refine ro_if_eq (pc' := 13) (tgt := 22) dX6_act_10 rfl rfl (fun c => ?_) (fun c => ?_)
  · replace h := ah_ip c h
    refine ro_iconst (pc' := 23) dX6_act_22 ic_0 rfl ?_
    obtain rfl := Option.some.inj h
    exact ro_iret hκ dX6_act_23
  · replace h := ah_in_ c h
    refine ro_iload_n (pc' := 14) dX6_act_13 rfl rfl rfl ?_
    refine ro_iconst (pc' := 15) dX6_act_14 ic_0 rfl ?_
    refine ro_iconst (pc' := 16) dX6_act_15 ic_3 rfl ?_
    obtain ⟨v5, σ6, hv5, h⟩ := ah_bs2 h
    refine ro_callS (pc' := 19) (As := [.int x2, .int (0 : Int32), .int (3 : Int32)]) (rest := []) (st' := [.int v5]) q1494 (M_X6_in hv5) q1493 q1495 q104 dd_X6_in rfl ⟨Nat.le_of_ble_eq_true rfl, Nat.le_of_ble_eq_true rfl⟩ (Nat.le_of_ble_eq_true rfl) dX6_act_16 rfl rfl rfl ?_
    refine ro_if_ne (pc' := 22) (tgt := 24) dX6_act_19 rfl rfl (fun c => ?_) (fun c => ?_)
    · replace h := ah_in_ c h
      refine ro_iload_n (pc' := 25) dX6_act_24 rfl rfl rfl ?_
      refine ro_if_ne (pc' := 28) (tgt := 37) dX6_act_25 rfl rfl (fun c => ?_) (fun c => ?_)
      · replace h := ah_in_ c h
        refine ro_iload_n (pc' := 38) dX6_act_37 rfl rfl rfl ?_
        refine ro_iconst (pc' := 39) dX6_act_38 ic_1 rfl ?_
        refine ro_icmp_ne (pc' := 42) (tgt := 51) dX6_act_39 rfl rfl (fun c => ?_) (fun c => ?_)
        · replace h := ah_in_ c h
          refine ro_iload_n (pc' := 52) dX6_act_51 rfl rfl rfl ?_
          refine ro_iconst (pc' := 53) dX6_act_52 ic_2 rfl ?_
          refine ro_icmp_ne (pc' := 56) (tgt := 65) dX6_act_53 rfl rfl (fun c => ?_) (fun c => ?_)
          · replace h := ah_in_ c h
            refine ro_aload_n (pc' := 66) dX6_act_65 rfl rfl rfl ?_
            refine ro_iload_n (pc' := 67) dX6_act_66 rfl rfl rfl ?_
            refine ro_iload_n (pc' := 68) dX6_act_67 rfl rfl rfl ?_
            obtain ⟨u7, hu7, h⟩ := ah_bs h
            obtain ⟨v8, σ9, hv8, h⟩ := ah_bs2 h
            refine ro_callV (pc' := 71) (As := [.int x1, .int x3]) (rest := []) (st' := [.int v8]) (by decide) hu7 q1863 sl_X6_telling (M_X6_telling hv8) q1861 q1864 q104 dd_X6_telling rfl ⟨Nat.le_of_ble_eq_true rfl, Nat.le_of_ble_eq_true rfl⟩ (Nat.le_of_ble_eq_true rfl) dX6_act_68 rfl rfl rfl ?_
            obtain rfl := Option.some.inj h
            exact ro_iret hκ dX6_act_71
          · replace h := ah_ip c h
            refine ro_aload_n (pc' := 57) dX6_act_56 rfl rfl rfl ?_
            refine ro_iload_n (pc' := 58) dX6_act_57 rfl rfl rfl ?_
            refine ro_iload_n (pc' := 59) dX6_act_58 rfl rfl rfl ?_
            obtain ⟨u10, hu10, h⟩ := ah_bs h
            obtain ⟨v11, σ12, hv11, h⟩ := ah_bs2 h
            refine ro_callV (pc' := 62) (As := [.int x1, .int x3]) (rest := []) (st' := [.int v11]) (by decide) hu10 q1851 sl_X6_seeing (M_X6_seeing hv11) q1849 q1852 q104 dd_X6_seeing rfl ⟨Nat.le_of_ble_eq_true rfl, Nat.le_of_ble_eq_true rfl⟩ (Nat.le_of_ble_eq_true rfl) dX6_act_59 rfl rfl rfl ?_
            refine ro_goto (tgt := 71) dX6_act_62 rfl ?_
            obtain rfl := Option.some.inj h
            exact ro_iret hκ dX6_act_71
        · replace h := ah_ip c h
          refine ro_aload_n (pc' := 43) dX6_act_42 rfl rfl rfl ?_
          refine ro_iload_n (pc' := 44) dX6_act_43 rfl rfl rfl ?_
          refine ro_iload_n (pc' := 45) dX6_act_44 rfl rfl rfl ?_
          obtain ⟨u13, hu13, h⟩ := ah_bs h
          obtain ⟨v14, σ15, hv14, h⟩ := ah_bs2 h
          refine ro_callV (pc' := 48) (As := [.int x1, .int x3]) (rest := []) (st' := [.int v14]) (by decide) hu13 q1839 sl_X6_leaving (M_X6_leaving hv14) q1837 q1840 q104 dd_X6_leaving rfl ⟨Nat.le_of_ble_eq_true rfl, Nat.le_of_ble_eq_true rfl⟩ (Nat.le_of_ble_eq_true rfl) dX6_act_45 rfl rfl rfl ?_
          refine ro_goto (tgt := 71) dX6_act_48 rfl ?_
          obtain rfl := Option.some.inj h
          exact ro_iret hκ dX6_act_71
      · replace h := ah_ip c h
        refine ro_aload_n (pc' := 29) dX6_act_28 rfl rfl rfl ?_
        refine ro_iload_n (pc' := 30) dX6_act_29 rfl rfl rfl ?_
        refine ro_iload_n (pc' := 31) dX6_act_30 rfl rfl rfl ?_
        obtain ⟨u16, hu16, h⟩ := ah_bs h
        obtain ⟨v17, σ18, hv17, h⟩ := ah_bs2 h
        refine ro_callV (pc' := 34) (As := [.int x1, .int x3]) (rest := []) (st' := [.int v17]) (by decide) hu16 q1820 sl_X6_coming (M_X6_coming hv17) q1818 q1821 q104 dd_X6_coming rfl ⟨Nat.le_of_ble_eq_true rfl, Nat.le_of_ble_eq_true rfl⟩ (Nat.le_of_ble_eq_true rfl) dX6_act_31 rfl rfl rfl ?_
        refine ro_goto (tgt := 71) dX6_act_34 rfl ?_
        obtain rfl := Option.some.inj h
        exact ro_iret hκ dX6_act_71
    · replace h := ah_ip c h
      refine ro_iconst (pc' := 23) dX6_act_22 ic_0 rfl ?_
      obtain rfl := Option.some.inj h
      exact ro_iret hκ dX6_act_23
theorem M_X6_act {l : Launch} {D : ah_D}  {σ : ah_S} {r0 : Option Nat} {x1 : Int32} {x2 : Int32} {x3 : Int32} {v : Int32} {σ1 : ah_S} (h : F_X6_act σ r0 x1 x2 x3 = some (v, σ1)) : ah_Met l yX6_act (Cond.code yX6_act cX6_act 4 (some FieldType.int)) 10 223 D [va_rf r0, .int x1, .int x2, .int x3] σ (.returned (some (.int v)), σ1) :=
  ah_ofG (own := "LeftAsFoundModel") (nm := "act") (L0 := [some (va_rf r0), some (.int x1), some (.int x2), some (.int x3)]) (by decide) rfl rfl rfl (ah_ao_1 (ah_rf_cat _) (ah_ao_1 rfl (ah_ao_1 rfl (ah_ao_1 rfl ah_ao_0)))) (fun κ hκ => W_X6_act hκ  σ r0 x1 x2 x3 h)
set_option maxRecDepth 20000 in
set_option maxHeartbeats 4000000 in
theorem W_X6_addGuest_3 {κ : ah_C} {rr : (Int32 × ah_S)} (hκ : ah_res κ = (.returned (some (.int rr.1)), rr.2))    : ∀ (n : Nat) (σ : ah_S) (r0 : Option Nat) (x1 : Int32) (x2 : Int32) (x3 : Int32) (x4 : Int32), F_X6_addGuest_3 n σ r0 x1 x2 x3 x4 = some rr → ah_G κ ("LeftAsFoundModel", "addGuest", 5, (some FieldType.int), [], 1, 24) cX6_addGuest σ 3 [some (va_rf r0), some (.int x1), some (.int x2), some (.int x3), some (.int x4)] [] := by
  intro n
  induction n with
  | zero => intro σ r0 x1 x2 x3 x4 h; cases h
  | succ n ih =>
    intro σ r0 x1 x2 x3 x4 h
    rw [F_X6_addGuest_3] at h
    refine ro_iload (pc' := 5) dX6_addGuest_3 rfl rfl ?_
    refine ro_iconst (pc' := 6) dX6_addGuest_5 ic_4 rfl ?_
    refine ro_icmp_ge (pc' := 9) (tgt := 45) dX6_addGuest_6 rfl rfl (fun c => ?_) (fun c => ?_)
    · replace h := ah_ip c h
      refine ro_aload_n (pc' := 46) dX6_addGuest_45 rfl rfl rfl ?_
      obtain ⟨v1, hv1, h⟩ := ah_bs h
      refine ro_getR (pc' := 49) ft_606 fk_606 q1314 dX6_addGuest_46 rfl hv1 ?_
      refine ro_aload_n (pc' := 50) dX6_addGuest_49 rfl rfl rfl ?_
      obtain ⟨v2, hv2, h⟩ := ah_bs h
      refine ro_getI (pc' := 53) ft_603 fk_603 q1311 dX6_addGuest_50 rfl hv2 ?_
      refine ro_iload_n (pc' := 54) dX6_addGuest_53 rfl rfl rfl ?_
      obtain ⟨σ3, hσ3, h⟩ := ah_bs h
      refine ro_iastore (pc' := 55) dX6_addGuest_54 rfl hσ3 ?_
      refine ro_aload_n (pc' := 56) dX6_addGuest_55 rfl rfl rfl ?_
      obtain ⟨v4, hv4, h⟩ := ah_bs h
      refine ro_getR (pc' := 59) ft_607 fk_607 q1315 dX6_addGuest_56 rfl hv4 ?_
      refine ro_aload_n (pc' := 60) dX6_addGuest_59 rfl rfl rfl ?_
      obtain ⟨v5, hv5, h⟩ := ah_bs h
      refine ro_getI (pc' := 63) ft_603 fk_603 q1311 dX6_addGuest_60 rfl hv5 ?_
      refine ro_iload_n (pc' := 64) dX6_addGuest_63 rfl rfl rfl ?_
      obtain ⟨σ6, hσ6, h⟩ := ah_bs h
      refine ro_iastore (pc' := 65) dX6_addGuest_64 rfl hσ6 ?_
      refine ro_aload_n (pc' := 66) dX6_addGuest_65 rfl rfl rfl ?_
      refine ro_dup (pc' := 67) dX6_addGuest_66 (ah_rf_cat _) rfl ?_
      obtain ⟨v7, hv7, h⟩ := ah_bs h
      refine ro_getI (pc' := 70) ft_603 fk_603 q1311 dX6_addGuest_67 rfl hv7 ?_
      refine ro_iconst (pc' := 71) dX6_addGuest_70 ic_1 rfl ?_
      refine ro_iadd (pc' := 72) dX6_addGuest_71 rfl ?_
      obtain ⟨σ8, hσ8, h⟩ := ah_bs h
      refine ro_putI (pc' := 75) ft_603 fk_603 q1311 pd_603 dX6_addGuest_72 rfl hσ8 ?_
      refine ro_aload_n (pc' := 76) dX6_addGuest_75 rfl rfl rfl ?_
      obtain ⟨v9, hv9, h⟩ := ah_bs h
      refine ro_getI (pc' := 79) ft_603 fk_603 q1311 dX6_addGuest_76 rfl hv9 ?_
      refine ro_iconst (pc' := 80) dX6_addGuest_79 ic_1 rfl ?_
      refine ro_isub (pc' := 81) dX6_addGuest_80 rfl ?_
      obtain rfl := Option.some.inj h
      exact ro_iret hκ dX6_addGuest_81
    · replace h := ah_in_ c h
      refine ro_aload_n (pc' := 10) dX6_addGuest_9 rfl rfl rfl ?_
      obtain ⟨v10, hv10, h⟩ := ah_bs h
      refine ro_getR (pc' := 13) ft_604 fk_604 q1312 dX6_addGuest_10 rfl hv10 ?_
      refine ro_iconst (pc' := 14) dX6_addGuest_13 ic_4 rfl ?_
      refine ro_aload_n (pc' := 15) dX6_addGuest_14 rfl rfl rfl ?_
      obtain ⟨v11, hv11, h⟩ := ah_bs h
      refine ro_getI (pc' := 18) ft_603 fk_603 q1311 dX6_addGuest_15 rfl hv11 ?_
      refine ro_imul (pc' := 19) dX6_addGuest_18 rfl ?_
      refine ro_iload (pc' := 21) dX6_addGuest_19 rfl rfl ?_
      refine ro_iadd (pc' := 22) dX6_addGuest_21 rfl ?_
      refine ro_iload_n (pc' := 23) dX6_addGuest_22 rfl rfl rfl ?_
      obtain ⟨σ12, hσ12, h⟩ := ah_bs h
      refine ro_iastore (pc' := 24) dX6_addGuest_23 rfl hσ12 ?_
      refine ro_aload_n (pc' := 25) dX6_addGuest_24 rfl rfl rfl ?_
      obtain ⟨v13, hv13, h⟩ := ah_bs h
      refine ro_getR (pc' := 28) ft_605 fk_605 q1313 dX6_addGuest_25 rfl hv13 ?_
      refine ro_iconst (pc' := 29) dX6_addGuest_28 ic_4 rfl ?_
      refine ro_aload_n (pc' := 30) dX6_addGuest_29 rfl rfl rfl ?_
      obtain ⟨v14, hv14, h⟩ := ah_bs h
      refine ro_getI (pc' := 33) ft_603 fk_603 q1311 dX6_addGuest_30 rfl hv14 ?_
      refine ro_imul (pc' := 34) dX6_addGuest_33 rfl ?_
      refine ro_iload (pc' := 36) dX6_addGuest_34 rfl rfl ?_
      refine ro_iadd (pc' := 37) dX6_addGuest_36 rfl ?_
      refine ro_iconst (pc' := 38) dX6_addGuest_37 ic_0 rfl ?_
      obtain ⟨σ15, hσ15, h⟩ := ah_bs h
      refine ro_iastore (pc' := 39) dX6_addGuest_38 rfl hσ15 ?_
      refine ro_iinc (pc' := 42) (L' := [some (va_rf r0), some (.int x1), some (.int x2), some (.int x3), some (.int (x4 + (1 : Int32)))]) dX6_addGuest_39 rfl ic_1 (Nat.le_of_ble_eq_true rfl) rfl (ah_okp_i _) rfl ?_
      refine ro_goto (tgt := 3) dX6_addGuest_42 rfl ?_
      exact ih _ _ _ _ _ _ h
set_option maxRecDepth 20000 in
set_option maxHeartbeats 4000000 in
theorem W_X6_addGuest {κ : ah_C} {rr : (Int32 × ah_S)} (hκ : ah_res κ = (.returned (some (.int rr.1)), rr.2))  (σ : ah_S) (r0 : Option Nat) (x1 : Int32) (x2 : Int32) (x3 : Int32) (h : F_X6_addGuest σ r0 x1 x2 x3 = some rr) : ah_G κ ("LeftAsFoundModel", "addGuest", 5, (some FieldType.int), [], 1, 24) cX6_addGuest σ 0 [some (va_rf r0), some (.int x1), some (.int x2), some (.int x3), none] [] := by
  unfold F_X6_addGuest at h
  refine ro_iconst (pc' := 1) dX6_addGuest_0 ic_0 rfl ?_
  refine ro_istore (pc' := 3) (L' := [some (va_rf r0), some (.int x1), some (.int x2), some (.int x3), some (.int (0 : Int32))]) dX6_addGuest_1 (Nat.le_of_ble_eq_true rfl) rfl (ah_okp_i _) rfl ?_
  exact W_X6_addGuest_3 hκ _ _ _ _ _ _ _ h
theorem M_X6_addGuest {l : Launch} {D : ah_D}  {σ : ah_S} {r0 : Option Nat} {x1 : Int32} {x2 : Int32} {x3 : Int32} {v : Int32} {σ1 : ah_S} (h : F_X6_addGuest σ r0 x1 x2 x3 = some (v, σ1)) : ah_Met l yX6_addGuest (Cond.code yX6_addGuest cX6_addGuest 5 (some FieldType.int)) 1 24 D [va_rf r0, .int x1, .int x2, .int x3] σ (.returned (some (.int v)), σ1) :=
  ah_ofG (own := "LeftAsFoundModel") (nm := "addGuest") (L0 := [some (va_rf r0), some (.int x1), some (.int x2), some (.int x3), none]) (by decide) rfl rfl rfl (ah_ao_1 (ah_rf_cat _) (ah_ao_1 rfl (ah_ao_1 rfl (ah_ao_1 rfl (ah_ao_n ah_ao_0))))) (fun κ hκ => W_X6_addGuest hκ  σ r0 x1 x2 x3 h)
set_option maxRecDepth 20000 in
set_option maxHeartbeats 4000000 in
theorem W_X6_addStep {κ : ah_C} {rr : ah_S} (hκ : ah_res κ = (.returned none, rr))  (σ : ah_S) (r0 : Option Nat) (x1 : Int32) (x2 : Int32) (h : F_X6_addStep σ r0 x1 x2 = some rr) : ah_G κ ("LeftAsFoundModel", "addStep", 3, none, [], 1, 24) cX6_addStep σ 0 [some (va_rf r0), some (.int x1), some (.int x2)] [] := by
  unfold F_X6_addStep at h
  refine ro_aload_n (pc' := 1) dX6_addStep_0 rfl rfl rfl ?_
  obtain ⟨v1, hv1, h⟩ := ah_bs h
  refine ro_getR (pc' := 4) ft_624 fk_624 q1332 dX6_addStep_1 rfl hv1 ?_
  refine ro_sipush (pc' := 7) dX6_addStep_4 is_130 rfl ?_
  refine ro_aload_n (pc' := 8) dX6_addStep_7 rfl rfl rfl ?_
  obtain ⟨v2, hv2, h⟩ := ah_bs h
  refine ro_getI (pc' := 11) ft_623 fk_623 q1331 dX6_addStep_8 rfl hv2 ?_
  refine ro_iadd (pc' := 12) dX6_addStep_11 rfl ?_
  refine ro_iload_n (pc' := 13) dX6_addStep_12 rfl rfl rfl ?_
  refine ro_i2b (pc' := 14) dX6_addStep_13 rfl ?_
  obtain ⟨σ3, hσ3, h⟩ := ah_bs h
  refine ro_bastore (pc' := 15) dX6_addStep_14 rfl hσ3 ?_
  refine ro_aload_n (pc' := 16) dX6_addStep_15 rfl rfl rfl ?_
  obtain ⟨v4, hv4, h⟩ := ah_bs h
  refine ro_getR (pc' := 19) ft_625 fk_625 q1333 dX6_addStep_16 rfl hv4 ?_
  refine ro_sipush (pc' := 22) dX6_addStep_19 is_130 rfl ?_
  refine ro_aload_n (pc' := 23) dX6_addStep_22 rfl rfl rfl ?_
  obtain ⟨v5, hv5, h⟩ := ah_bs h
  refine ro_getI (pc' := 26) ft_623 fk_623 q1331 dX6_addStep_23 rfl hv5 ?_
  refine ro_iadd (pc' := 27) dX6_addStep_26 rfl ?_
  refine ro_iload_n (pc' := 28) dX6_addStep_27 rfl rfl rfl ?_
  obtain ⟨σ6, hσ6, h⟩ := ah_bs h
  refine ro_iastore (pc' := 29) dX6_addStep_28 rfl hσ6 ?_
  refine ro_aload_n (pc' := 30) dX6_addStep_29 rfl rfl rfl ?_
  refine ro_dup (pc' := 31) dX6_addStep_30 (ah_rf_cat _) rfl ?_
  obtain ⟨v7, hv7, h⟩ := ah_bs h
  refine ro_getI (pc' := 34) ft_623 fk_623 q1331 dX6_addStep_31 rfl hv7 ?_
  refine ro_iconst (pc' := 35) dX6_addStep_34 ic_1 rfl ?_
  refine ro_iadd (pc' := 36) dX6_addStep_35 rfl ?_
  obtain ⟨σ8, hσ8, h⟩ := ah_bs h
  refine ro_putI (pc' := 39) ft_623 fk_623 q1331 pd_623 dX6_addStep_36 rfl hσ8 ?_
  obtain rfl := Option.some.inj h
  exact ro_vret hκ dX6_addStep_39
theorem M_X6_addStep {l : Launch} {D : ah_D}  {σ : ah_S} {r0 : Option Nat} {x1 : Int32} {x2 : Int32} {σ1 : ah_S} (h : F_X6_addStep σ r0 x1 x2 = some σ1) : ah_Met l yX6_addStep (Cond.code yX6_addStep cX6_addStep 3 none) 1 24 D [va_rf r0, .int x1, .int x2] σ (.returned none, σ1) :=
  ah_ofG (own := "LeftAsFoundModel") (nm := "addStep") (L0 := [some (va_rf r0), some (.int x1), some (.int x2)]) (by decide) rfl rfl rfl (ah_ao_1 (ah_rf_cat _) (ah_ao_1 rfl (ah_ao_1 rfl ah_ao_0))) (fun κ hκ => W_X6_addStep hκ  σ r0 x1 x2 h)
set_option maxRecDepth 20000 in
set_option maxHeartbeats 4000000 in
theorem W_X6_againAt {κ : ah_C} {rr : (Int32 × ah_S)} (hκ : ah_res κ = (.returned (some (.int rr.1)), rr.2))  (σ : ah_S) (r0 : Option Nat) (x1 : Int32) (h : F_X6_againAt σ r0 x1 = some rr) : ah_G κ ("LeftAsFoundModel", "againAt", 2, (some FieldType.int), [], 1, 24) cX6_againAt σ 0 [some (va_rf r0), some (.int x1)] [] := by
  unfold F_X6_againAt at h
  refine ro_aload_n (pc' := 1) dX6_againAt_0 rfl rfl rfl ?_
  obtain ⟨v1, hv1, h⟩ := ah_bs h
  refine ro_getI (pc' := 4) ft_636 fk_636 q1344 dX6_againAt_1 rfl hv1 ?_
  refine ro_if_ne (pc' := 7) (tgt := 11) dX6_againAt_4 rfl rfl (fun c => ?_) (fun c => ?_)
  · replace h := ah_in_ c h
    refine ro_aload_n (pc' := 12) dX6_againAt_11 rfl rfl rfl ?_
    obtain ⟨v2, hv2, h⟩ := ah_bs h
    refine ro_getR (pc' := 15) ft_635 fk_635 q1343 dX6_againAt_12 rfl hv2 ?_
    refine ro_iload_n (pc' := 16) dX6_againAt_15 rfl rfl rfl ?_
    refine ro_aload_n (pc' := 17) dX6_againAt_16 rfl rfl rfl ?_
    obtain ⟨v3, hv3, h⟩ := ah_bs h
    refine ro_getI (pc' := 20) ft_636 fk_636 q1344 dX6_againAt_17 rfl hv3 ?_
    obtain ⟨q4, hq4, h⟩ := ah_bs h
    refine ro_irem (pc' := 21) dX6_againAt_20 rfl hq4 ?_
    obtain ⟨v5, hv5, h⟩ := ah_bs h
    refine ro_iaload (pc' := 22) dX6_againAt_21 rfl hv5 ?_
    obtain rfl := Option.some.inj h
    exact ro_iret hκ dX6_againAt_22
  · replace h := ah_ip c h
    refine ro_iconst (pc' := 8) dX6_againAt_7 ic_m1 rfl ?_
    refine ro_goto (tgt := 22) dX6_againAt_8 rfl ?_
    obtain rfl := Option.some.inj h
    exact ro_iret hκ dX6_againAt_22
theorem M_X6_againAt {l : Launch} {D : ah_D}  {σ : ah_S} {r0 : Option Nat} {x1 : Int32} {v : Int32} {σ1 : ah_S} (h : F_X6_againAt σ r0 x1 = some (v, σ1)) : ah_Met l yX6_againAt (Cond.code yX6_againAt cX6_againAt 2 (some FieldType.int)) 1 24 D [va_rf r0, .int x1] σ (.returned (some (.int v)), σ1) :=
  ah_ofG (own := "LeftAsFoundModel") (nm := "againAt") (L0 := [some (va_rf r0), some (.int x1)]) (by decide) rfl rfl rfl (ah_ao_1 (ah_rf_cat _) (ah_ao_1 rfl ah_ao_0)) (fun κ hκ => W_X6_againAt hκ  σ r0 x1 h)
set_option maxRecDepth 20000 in
set_option maxHeartbeats 4000000 in
theorem W_X6_isGuest {κ : ah_C} {rr : (Int32 × ah_S)} (hκ : ah_res κ = (.returned (some (.int rr.1)), rr.2))  (σ : ah_S) (r0 : Option Nat) (x1 : Int32) (h : F_X6_isGuest σ r0 x1 = some rr) : ah_G κ ("LeftAsFoundModel", "isGuest", 2, (some FieldType.boolean), [], 2, 46) cX6_isGuest σ 0 [some (va_rf r0), some (.int x1)] [] := by
  unfold F_X6_isGuest at h
  refine ro_iload_n (pc' := 1) dX6_isGuest_0 rfl rfl rfl ?_
  refine ro_iconst (pc' := 2) dX6_isGuest_1 ic_0 rfl ?_
  refine ro_aload_n (pc' := 3) dX6_isGuest_2 rfl rfl rfl ?_
  obtain ⟨v1, hv1, h⟩ := ah_bs h
  refine ro_getI (pc' := 6) ft_603 fk_603 q1311 dX6_isGuest_3 rfl hv1 ?_
  refine ro_iconst (pc' := 7) dX6_isGuest_6 ic_1 rfl ?_
  refine ro_isub (pc' := 8) dX6_isGuest_7 rfl ?_
  obtain ⟨v2, σ3, hv2, h⟩ := ah_bs2 h
  refine ro_callS (pc' := 11) (As := [.int x1, .int (0 : Int32), .int (v1 - (1 : Int32))]) (rest := []) (st' := [.int v2]) q1494 (M_X6_in hv2) q1493 q1495 q104 dd_X6_in rfl ⟨Nat.le_of_ble_eq_true rfl, Nat.le_of_ble_eq_true rfl⟩ (Nat.le_of_ble_eq_true rfl) dX6_isGuest_8 rfl rfl rfl ?_
  obtain ⟨z4, hz4, g⟩ := ah_bs h
  obtain ⟨ez4, hz4⟩ := ah_z_n hz4
  subst ez4
  obtain rfl := Option.some.inj g
  exact ro_zret hz4 hκ dX6_isGuest_11
theorem M_X6_isGuest {l : Launch} {D : ah_D}  {σ : ah_S} {r0 : Option Nat} {x1 : Int32} {v : Int32} {σ1 : ah_S} (h : F_X6_isGuest σ r0 x1 = some (v, σ1)) : ah_Met l yX6_isGuest (Cond.code yX6_isGuest cX6_isGuest 2 (some FieldType.boolean)) 2 46 D [va_rf r0, .int x1] σ (.returned (some (.int v)), σ1) :=
  ah_ofG (own := "LeftAsFoundModel") (nm := "isGuest") (L0 := [some (va_rf r0), some (.int x1)]) (by decide) rfl rfl rfl (ah_ao_1 (ah_rf_cat _) (ah_ao_1 rfl ah_ao_0)) (fun κ hκ => W_X6_isGuest hκ  σ r0 x1 h)
set_option maxRecDepth 20000 in
set_option maxHeartbeats 4000000 in
theorem W_X6_isThing {κ : ah_C} {rr : (Int32 × ah_S)} (hκ : ah_res κ = (.returned (some (.int rr.1)), rr.2))  (σ : ah_S) (x0 : Int32) (h : F_X6_isThing σ x0 = some rr) : ah_G κ ("LeftAsFoundModel", "isThing", 1, (some FieldType.boolean), [], 2, 46) cX6_isThing σ 0 [some (.int x0)] [] := by
  unfold F_X6_isThing at h
  refine ro_iload_n (pc' := 1) dX6_isThing_0 rfl rfl rfl ?_
  refine ro_iconst (pc' := 2) dX6_isThing_1 ic_0 rfl ?_
  refine ro_iconst (pc' := 3) dX6_isThing_2 ic_3 rfl ?_
  obtain ⟨v1, σ2, hv1, h⟩ := ah_bs2 h
  refine ro_callS (pc' := 6) (As := [.int x0, .int (0 : Int32), .int (3 : Int32)]) (rest := []) (st' := [.int v1]) q1494 (M_X6_in hv1) q1493 q1495 q104 dd_X6_in rfl ⟨Nat.le_of_ble_eq_true rfl, Nat.le_of_ble_eq_true rfl⟩ (Nat.le_of_ble_eq_true rfl) dX6_isThing_3 rfl rfl rfl ?_
  obtain ⟨z3, hz3, g⟩ := ah_bs h
  obtain ⟨ez3, hz3⟩ := ah_z_n hz3
  subst ez3
  obtain rfl := Option.some.inj g
  exact ro_zret hz3 hκ dX6_isThing_6
theorem M_X6_isThing {l : Launch} {D : ah_D}  {σ : ah_S} {x0 : Int32} {v : Int32} {σ1 : ah_S} (h : F_X6_isThing σ x0 = some (v, σ1)) : ah_Met l yX6_isThing (Cond.code yX6_isThing cX6_isThing 1 (some FieldType.boolean)) 2 46 D [.int x0] σ (.returned (some (.int v)), σ1) :=
  ah_ofG (own := "LeftAsFoundModel") (nm := "isThing") (L0 := [some (.int x0)]) (by decide) rfl rfl rfl (ah_ao_1 rfl ah_ao_0) (fun κ hκ => W_X6_isThing hκ  σ x0 h)
set_option maxRecDepth 20000 in
set_option maxHeartbeats 4000000 in
theorem W_X6_areTwo {κ : ah_C} {rr : (Int32 × ah_S)} (hκ : ah_res κ = (.returned (some (.int rr.1)), rr.2))  (σ : ah_S) (r0 : Option Nat) (x1 : Int32) (h : F_X6_areTwo σ r0 x1 = some rr) : ah_G κ ("LeftAsFoundModel", "areTwo", 2, (some FieldType.boolean), [], 3, 67) cX6_areTwo σ 0 [some (va_rf r0), some (.int x1)] [] := by
  unfold F_X6_areTwo at h
  refine ro_iload_n (pc' := 1) dX6_areTwo_0 rfl rfl rfl ?_
  refine ro_if_lt (pc' := 4) (tgt := 29) dX6_areTwo_1 rfl rfl (fun c => ?_) (fun c => ?_)
  · replace h := ah_ip c h
    refine ro_iconst (pc' := 30) dX6_areTwo_29 ic_0 rfl ?_
    obtain rfl := Option.some.inj h
    exact ro_zret rfl hκ dX6_areTwo_30
  · replace h := ah_in_ c h
    refine ro_aload_n (pc' := 5) dX6_areTwo_4 rfl rfl rfl ?_
    refine ro_iload_n (pc' := 6) dX6_areTwo_5 rfl rfl rfl ?_
    refine ro_bipush (pc' := 8) dX6_areTwo_6 ib_10 rfl ?_
    obtain ⟨q1, hq1, h⟩ := ah_bs h
    refine ro_idiv (pc' := 9) dX6_areTwo_8 rfl hq1 ?_
    obtain ⟨u2, hu2, h⟩ := ah_bs h
    obtain ⟨v3, σ4, hv3, h⟩ := ah_bs2 h
    refine ro_callV (pc' := 12) (As := [.int q1]) (rest := []) (st' := [.int v3]) (by decide) hu2 q1540 sl_X6_isGuest (M_X6_isGuest hv3) q1538 q1541 q104 dd_X6_isGuest rfl ⟨Nat.le_of_ble_eq_true rfl, Nat.le_of_ble_eq_true rfl⟩ (Nat.le_of_ble_eq_true rfl) dX6_areTwo_9 rfl rfl rfl ?_
    refine ro_if_eq (pc' := 15) (tgt := 29) dX6_areTwo_12 rfl rfl (fun c => ?_) (fun c => ?_)
    · replace h := ah_ip c h
      refine ro_iconst (pc' := 30) dX6_areTwo_29 ic_0 rfl ?_
      obtain rfl := Option.some.inj h
      exact ro_zret rfl hκ dX6_areTwo_30
    · replace h := ah_in_ c h
      refine ro_iload_n (pc' := 16) dX6_areTwo_15 rfl rfl rfl ?_
      refine ro_bipush (pc' := 18) dX6_areTwo_16 ib_10 rfl ?_
      obtain ⟨q5, hq5, h⟩ := ah_bs h
      refine ro_irem (pc' := 19) dX6_areTwo_18 rfl hq5 ?_
      obtain ⟨v6, σ7, hv6, h⟩ := ah_bs2 h
      refine ro_callS (pc' := 22) (As := [.int q5]) (rest := []) (st' := [.int v6]) q1532 (M_X6_isThing hv6) q1531 q1533 q104 dd_X6_isThing rfl ⟨Nat.le_of_ble_eq_true rfl, Nat.le_of_ble_eq_true rfl⟩ (Nat.le_of_ble_eq_true rfl) dX6_areTwo_19 rfl rfl rfl ?_
      refine ro_if_eq (pc' := 25) (tgt := 29) dX6_areTwo_22 rfl rfl (fun c => ?_) (fun c => ?_)
      · replace h := ah_ip c h
        refine ro_iconst (pc' := 30) dX6_areTwo_29 ic_0 rfl ?_
        obtain rfl := Option.some.inj h
        exact ro_zret rfl hκ dX6_areTwo_30
      · replace h := ah_in_ c h
        refine ro_iconst (pc' := 26) dX6_areTwo_25 ic_1 rfl ?_
        refine ro_goto (tgt := 30) dX6_areTwo_26 rfl ?_
        obtain rfl := Option.some.inj h
        exact ro_zret rfl hκ dX6_areTwo_30
theorem M_X6_areTwo {l : Launch} {D : ah_D}  {σ : ah_S} {r0 : Option Nat} {x1 : Int32} {v : Int32} {σ1 : ah_S} (h : F_X6_areTwo σ r0 x1 = some (v, σ1)) : ah_Met l yX6_areTwo (Cond.code yX6_areTwo cX6_areTwo 2 (some FieldType.boolean)) 3 67 D [va_rf r0, .int x1] σ (.returned (some (.int v)), σ1) :=
  ah_ofG (own := "LeftAsFoundModel") (nm := "areTwo") (L0 := [some (va_rf r0), some (.int x1)]) (by decide) rfl rfl rfl (ah_ao_1 (ah_rf_cat _) (ah_ao_1 rfl ah_ao_0)) (fun κ hκ => W_X6_areTwo hκ  σ r0 x1 h)
set_option maxRecDepth 20000 in
set_option maxHeartbeats 4000000 in
theorem W_X6_asPart_6 {κ : ah_C} {rr : (Int64 × ah_S)} (hκ : ah_res κ = (.returned (some (.long rr.1)), rr.2))    : ∀ (n : Nat) (σ : ah_S) (l0 : Int64) (l2 : Int64) (x4 : Int32) (l5 : Int64) (l7 : Int64), F_X6_asPart_6 n σ l0 l2 x4 l5 l7 = some rr → ah_G κ ("LeftAsFoundModel", "asPart", 11, (some FieldType.long), [], 1, 24) cX6_asPart σ 6 [some (.long l0), none, some (.long l2), none, some (.int x4), some (.long l5), none, some (.long l7), none, none, none] [] := by
  intro n
  induction n with
  | zero => intro σ l0 l2 x4 l5 l7 h; cases h
  | succ n ih =>
    intro σ l0 l2 x4 l5 l7 h
    rw [F_X6_asPart_6] at h
    refine ro_lload (pc' := 8) dX6_asPart_6 rfl rfl ?_
    refine ro_lconst (pc' := 9) dX6_asPart_8 lc_0 rfl ?_
    refine ro_lcmp (pc' := 10) dX6_asPart_9 rfl ?_
    refine ro_if_eq (pc' := 13) (tgt := 31) dX6_asPart_10 rfl rfl (fun c => ?_) (fun c => ?_)
    · replace h := ah_ip c h
      refine ro_iload (pc' := 33) dX6_asPart_31 rfl rfl ?_
      refine ro_if_ne (pc' := 36) (tgt := 43) dX6_asPart_33 rfl rfl (fun c => ?_) (fun c => ?_)
      · replace h := ah_in_ c h
        refine ro_lload_n (pc' := 44) dX6_asPart_43 rfl rfl rfl ?_
        refine ro_lload (pc' := 46) dX6_asPart_44 rfl rfl ?_
        obtain ⟨q1, hq1, h⟩ := ah_bs h
        refine ro_ldiv (pc' := 47) dX6_asPart_46 rfl hq1 ?_
        obtain rfl := Option.some.inj h
        exact ro_lret hκ dX6_asPart_47
      · replace h := ah_ip c h
        refine ro_lload_n (pc' := 37) dX6_asPart_36 rfl rfl rfl ?_
        refine ro_lload (pc' := 39) dX6_asPart_37 rfl rfl ?_
        obtain ⟨q2, hq2, h⟩ := ah_bs h
        refine ro_ldiv (pc' := 40) dX6_asPart_39 rfl hq2 ?_
        refine ro_goto (tgt := 47) dX6_asPart_40 rfl ?_
        obtain rfl := Option.some.inj h
        exact ro_lret hκ dX6_asPart_47
    · replace h := ah_in_ c h
      refine ro_lload (pc' := 15) dX6_asPart_13 rfl rfl ?_
      refine ro_lload (pc' := 17) dX6_asPart_15 rfl rfl ?_
      obtain ⟨q3, hq3, h⟩ := ah_bs h
      refine ro_lrem (pc' := 18) dX6_asPart_17 rfl hq3 ?_
      refine ro_lstore (pc' := 20) (L' := [some (.long l0), none, some (.long l2), none, some (.int x4), some (.long l5), none, some (.long l7), none, some (.long q3), none]) dX6_asPart_18 (Nat.le_of_ble_eq_true rfl) rfl ah_okp_u rfl ?_
      refine ro_lload (pc' := 22) dX6_asPart_20 rfl rfl ?_
      refine ro_lstore (pc' := 24) (L' := [some (.long l0), none, some (.long l2), none, some (.int x4), some (.long l7), none, some (.long l7), none, some (.long q3), none]) dX6_asPart_22 (Nat.le_of_ble_eq_true rfl) rfl (ah_okp_i _) rfl ?_
      refine ro_lload (pc' := 26) dX6_asPart_24 rfl rfl ?_
      refine ro_lstore (pc' := 28) (L' := [some (.long l0), none, some (.long l2), none, some (.int x4), some (.long l7), none, some (.long q3), none, some (.long q3), none]) dX6_asPart_26 (Nat.le_of_ble_eq_true rfl) rfl ah_okp_u rfl ?_
      refine ro_goto (tgt := 6) dX6_asPart_28 rfl ?_
      refine ro_weak (L' := [some (.long l0), none, some (.long l2), none, some (.int x4), some (.long l7), none, some (.long q3), none, none, none]) (ah_ls_s (ah_ls_s (ah_ls_s (ah_ls_s (ah_ls_s (ah_ls_s (ah_ls_s (ah_ls_s (ah_ls_s (ah_ls_n (ah_ls_s ah_ls_0))))))))))) ?_
      exact ih _ _ _ _ _ _ h
set_option maxRecDepth 20000 in
set_option maxHeartbeats 4000000 in
theorem W_X6_asPart {κ : ah_C} {rr : (Int64 × ah_S)} (hκ : ah_res κ = (.returned (some (.long rr.1)), rr.2))  (σ : ah_S) (l0 : Int64) (l2 : Int64) (x4 : Int32) (h : F_X6_asPart σ l0 l2 x4 = some rr) : ah_G κ ("LeftAsFoundModel", "asPart", 11, (some FieldType.long), [], 1, 24) cX6_asPart σ 0 [some (.long l0), none, some (.long l2), none, some (.int x4), none, none, none, none, none, none] [] := by
  unfold F_X6_asPart at h
  refine ro_lload_n (pc' := 1) dX6_asPart_0 rfl rfl rfl ?_
  refine ro_lstore (pc' := 3) (L' := [some (.long l0), none, some (.long l2), none, some (.int x4), some (.long l0), none, none, none, none, none]) dX6_asPart_1 (Nat.le_of_ble_eq_true rfl) rfl (ah_okp_i _) rfl ?_
  refine ro_lload_n (pc' := 4) dX6_asPart_3 rfl rfl rfl ?_
  refine ro_lstore (pc' := 6) (L' := [some (.long l0), none, some (.long l2), none, some (.int x4), some (.long l0), none, some (.long l2), none, none, none]) dX6_asPart_4 (Nat.le_of_ble_eq_true rfl) rfl ah_okp_u rfl ?_
  exact W_X6_asPart_6 hκ _ _ _ _ _ _ _ h
theorem M_X6_asPart {l : Launch} {D : ah_D}  {σ : ah_S} {l0 : Int64} {l2 : Int64} {x4 : Int32} {v : Int64} {σ1 : ah_S} (h : F_X6_asPart σ l0 l2 x4 = some (v, σ1)) : ah_Met l yX6_asPart (Cond.code yX6_asPart cX6_asPart 11 (some FieldType.long)) 1 24 D [.long l0, .long l2, .int x4] σ (.returned (some (.long v)), σ1) :=
  ah_ofG (own := "LeftAsFoundModel") (nm := "asPart") (L0 := [some (.long l0), none, some (.long l2), none, some (.int x4), none, none, none, none, none, none]) (by decide) rfl rfl rfl (ah_ao_2 rfl (ah_ao_2 rfl (ah_ao_1 rfl (ah_ao_n (ah_ao_n (ah_ao_n (ah_ao_n (ah_ao_n (ah_ao_n ah_ao_0))))))))) (fun κ hκ => W_X6_asPart hκ  σ l0 l2 x4 h)
set_option maxRecDepth 20000 in
set_option maxHeartbeats 4000000 in
theorem W_X6_back_38 {κ : ah_C} {rr : (Int32 × ah_S)} (hκ : ah_res κ = (.returned (some (.int rr.1)), rr.2))    : ∀ (n : Nat) (σ : ah_S) (r0 : Option Nat) (x1 : Int32), F_X6_back_38 n σ r0 x1 = some rr → ah_G κ ("LeftAsFoundModel", "back", 2, (some FieldType.int), [], 1, 24) cX6_back σ 38 [some (va_rf r0), some (.int x1)] [] := by
  intro n
  induction n with
  | zero => intro σ r0 x1 h; cases h
  | succ n ih =>
    intro σ r0 x1 h
    rw [F_X6_back_38] at h
    refine ro_iload_n (pc' := 39) dX6_back_38 rfl rfl rfl ?_
    refine ro_iconst (pc' := 40) dX6_back_39 ic_4 rfl ?_
    refine ro_icmp_ge (pc' := 43) (tgt := 61) dX6_back_40 rfl rfl (fun c => ?_) (fun c => ?_)
    · replace h := ah_ip c h
      refine ro_aload_n (pc' := 62) dX6_back_61 rfl rfl rfl ?_
      obtain ⟨v1, hv1, h⟩ := ah_bs h
      refine ro_getR (pc' := 65) ft_648 fk_648 q1356 dX6_back_62 rfl hv1 ?_
      refine ro_iconst (pc' := 66) dX6_back_65 ic_0 rfl ?_
      obtain ⟨v2, hv2, h⟩ := ah_bs h
      refine ro_iaload (pc' := 67) dX6_back_66 rfl hv2 ?_
      obtain rfl := Option.some.inj h
      exact ro_iret hκ dX6_back_67
    · replace h := ah_in_ c h
      refine ro_aload_n (pc' := 44) dX6_back_43 rfl rfl rfl ?_
      obtain ⟨v3, hv3, h⟩ := ah_bs h
      refine ro_getR (pc' := 47) ft_648 fk_648 q1356 dX6_back_44 rfl hv3 ?_
      refine ro_iload_n (pc' := 48) dX6_back_47 rfl rfl rfl ?_
      refine ro_aload_n (pc' := 49) dX6_back_48 rfl rfl rfl ?_
      obtain ⟨v4, hv4, h⟩ := ah_bs h
      refine ro_getR (pc' := 52) ft_651 fk_651 q1359 dX6_back_49 rfl hv4 ?_
      refine ro_iload_n (pc' := 53) dX6_back_52 rfl rfl rfl ?_
      obtain ⟨v5, hv5, h⟩ := ah_bs h
      refine ro_iaload (pc' := 54) dX6_back_53 rfl hv5 ?_
      obtain ⟨σ6, hσ6, h⟩ := ah_bs h
      refine ro_iastore (pc' := 55) dX6_back_54 rfl hσ6 ?_
      refine ro_iinc (pc' := 58) (L' := [some (va_rf r0), some (.int (x1 + (1 : Int32)))]) dX6_back_55 rfl ic_1 (Nat.le_of_ble_eq_true rfl) rfl (ah_okp_r _) rfl ?_
      refine ro_goto (tgt := 38) dX6_back_58 rfl ?_
      exact ih _ _ _ h
set_option maxRecDepth 20000 in
set_option maxHeartbeats 4000000 in
theorem W_X6_back_12 {κ : ah_C} {rr : (Int32 × ah_S)} (hκ : ah_res κ = (.returned (some (.int rr.1)), rr.2))    : ∀ (n : Nat) (σ : ah_S) (r0 : Option Nat) (x1 : Int32), F_X6_back_12 n σ r0 x1 = some rr → ah_G κ ("LeftAsFoundModel", "back", 2, (some FieldType.int), [], 1, 24) cX6_back σ 12 [some (va_rf r0), some (.int x1)] [] := by
  intro n
  induction n with
  | zero => intro σ r0 x1 h; cases h
  | succ n ih =>
    intro σ r0 x1 h
    rw [F_X6_back_12] at h
    refine ro_iload_n (pc' := 13) dX6_back_12 rfl rfl rfl ?_
    refine ro_bipush (pc' := 15) dX6_back_13 ib_48 rfl ?_
    refine ro_icmp_ge (pc' := 18) (tgt := 36) dX6_back_15 rfl rfl (fun c => ?_) (fun c => ?_)
    · replace h := ah_ip c h
      refine ro_iconst (pc' := 37) dX6_back_36 ic_0 rfl ?_
      refine ro_istore_n (pc' := 38) (L' := [some (va_rf r0), some (.int (0 : Int32))]) dX6_back_37 rfl (Nat.le_of_ble_eq_true rfl) rfl (ah_okp_r _) rfl ?_
      exact W_X6_back_38 hκ _ _ _ _ h
    · replace h := ah_in_ c h
      refine ro_aload_n (pc' := 19) dX6_back_18 rfl rfl rfl ?_
      obtain ⟨v1, hv1, h⟩ := ah_bs h
      refine ro_getR (pc' := 22) ft_611 fk_611 q1319 dX6_back_19 rfl hv1 ?_
      refine ro_iload_n (pc' := 23) dX6_back_22 rfl rfl rfl ?_
      refine ro_aload_n (pc' := 24) dX6_back_23 rfl rfl rfl ?_
      obtain ⟨v2, hv2, h⟩ := ah_bs h
      refine ro_getR (pc' := 27) ft_650 fk_650 q1358 dX6_back_24 rfl hv2 ?_
      refine ro_iload_n (pc' := 28) dX6_back_27 rfl rfl rfl ?_
      obtain ⟨v3, hv3, h⟩ := ah_bs h
      refine ro_iaload (pc' := 29) dX6_back_28 rfl hv3 ?_
      obtain ⟨σ4, hσ4, h⟩ := ah_bs h
      refine ro_iastore (pc' := 30) dX6_back_29 rfl hσ4 ?_
      refine ro_iinc (pc' := 33) (L' := [some (va_rf r0), some (.int (x1 + (1 : Int32)))]) dX6_back_30 rfl ic_1 (Nat.le_of_ble_eq_true rfl) rfl (ah_okp_r _) rfl ?_
      refine ro_goto (tgt := 12) dX6_back_33 rfl ?_
      exact ih _ _ _ h
set_option maxRecDepth 20000 in
set_option maxHeartbeats 4000000 in
theorem W_X6_back {κ : ah_C} {rr : (Int32 × ah_S)} (hκ : ah_res κ = (.returned (some (.int rr.1)), rr.2))  (σ : ah_S) (r0 : Option Nat) (h : F_X6_back σ r0 = some rr) : ah_G κ ("LeftAsFoundModel", "back", 2, (some FieldType.int), [], 1, 24) cX6_back σ 0 [some (va_rf r0), none] [] := by
  unfold F_X6_back at h
  refine ro_aload_n (pc' := 1) dX6_back_0 rfl rfl rfl ?_
  obtain ⟨v1, hv1, h⟩ := ah_bs h
  refine ro_getI (pc' := 4) ft_649 fk_649 q1357 dX6_back_1 rfl hv1 ?_
  refine ro_if_ne (pc' := 7) (tgt := 10) dX6_back_4 rfl rfl (fun c => ?_) (fun c => ?_)
  · replace h := ah_in_ c h
    refine ro_iconst (pc' := 11) dX6_back_10 ic_0 rfl ?_
    refine ro_istore_n (pc' := 12) (L' := [some (va_rf r0), some (.int (0 : Int32))]) dX6_back_11 rfl (Nat.le_of_ble_eq_true rfl) rfl (ah_okp_r _) rfl ?_
    exact W_X6_back_12 hκ _ _ _ _ h
  · replace h := ah_ip c h
    refine ro_bipush (pc' := 9) dX6_back_7 ib_m5 rfl ?_
    obtain rfl := Option.some.inj h
    exact ro_iret hκ dX6_back_9
theorem M_X6_back {l : Launch} {D : ah_D}  {σ : ah_S} {r0 : Option Nat} {v : Int32} {σ1 : ah_S} (h : F_X6_back σ r0 = some (v, σ1)) : ah_Met l yX6_back (Cond.code yX6_back cX6_back 2 (some FieldType.int)) 1 24 D [va_rf r0] σ (.returned (some (.int v)), σ1) :=
  ah_ofG (own := "LeftAsFoundModel") (nm := "back") (L0 := [some (va_rf r0), none]) (by decide) rfl rfl rfl (ah_ao_1 (ah_rf_cat _) (ah_ao_n ah_ao_0)) (fun κ hκ => W_X6_back hκ  σ r0 h)
set_option maxRecDepth 20000 in
set_option maxHeartbeats 4000000 in
theorem W_X6_beenMany_4 {κ : ah_C} {rr : (Int32 × ah_S)} (hκ : ah_res κ = (.returned (some (.int rr.1)), rr.2))    : ∀ (n : Nat) (σ : ah_S) (r0 : Option Nat) (x1 : Int32) (x2 : Int32), F_X6_beenMany_4 n σ r0 x1 x2 = some rr → ah_G κ ("LeftAsFoundModel", "beenMany", 3, (some FieldType.int), [], 1, 24) cX6_beenMany σ 4 [some (va_rf r0), some (.int x1), some (.int x2)] [] := by
  intro n
  induction n with
  | zero => intro σ r0 x1 x2 h; cases h
  | succ n ih =>
    intro σ r0 x1 x2 h
    rw [F_X6_beenMany_4] at h
    refine ro_iload_n (pc' := 5) dX6_beenMany_4 rfl rfl rfl ?_
    refine ro_aload_n (pc' := 6) dX6_beenMany_5 rfl rfl rfl ?_
    obtain ⟨v1, hv1, h⟩ := ah_bs h
    refine ro_getI (pc' := 9) ft_603 fk_603 q1311 dX6_beenMany_6 rfl hv1 ?_
    refine ro_icmp_ge (pc' := 12) (tgt := 30) dX6_beenMany_9 rfl rfl (fun c => ?_) (fun c => ?_)
    · replace h := ah_ip c h
      refine ro_iload_n (pc' := 31) dX6_beenMany_30 rfl rfl rfl ?_
      obtain rfl := Option.some.inj h
      exact ro_iret hκ dX6_beenMany_31
    · replace h := ah_in_ c h
      refine ro_iload_n (pc' := 13) dX6_beenMany_12 rfl rfl rfl ?_
      refine ro_aload_n (pc' := 14) dX6_beenMany_13 rfl rfl rfl ?_
      obtain ⟨v2, hv2, h⟩ := ah_bs h
      refine ro_getR (pc' := 17) ft_611 fk_611 q1319 dX6_beenMany_14 rfl hv2 ?_
      refine ro_bipush (pc' := 19) dX6_beenMany_17 ib_13 rfl ?_
      refine ro_iload_n (pc' := 20) dX6_beenMany_19 rfl rfl rfl ?_
      refine ro_iadd (pc' := 21) dX6_beenMany_20 rfl ?_
      obtain ⟨v3, hv3, h⟩ := ah_bs h
      refine ro_iaload (pc' := 22) dX6_beenMany_21 rfl hv3 ?_
      refine ro_iadd (pc' := 23) dX6_beenMany_22 rfl ?_
      refine ro_istore_n (pc' := 24) (L' := [some (va_rf r0), some (.int (x1 + v3)), some (.int x2)]) dX6_beenMany_23 rfl (Nat.le_of_ble_eq_true rfl) rfl (ah_okp_r _) rfl ?_
      refine ro_iinc (pc' := 27) (L' := [some (va_rf r0), some (.int (x1 + v3)), some (.int (x2 + (1 : Int32)))]) dX6_beenMany_24 rfl ic_1 (Nat.le_of_ble_eq_true rfl) rfl (ah_okp_i _) rfl ?_
      refine ro_goto (tgt := 4) dX6_beenMany_27 rfl ?_
      exact ih _ _ _ _ h
set_option maxRecDepth 20000 in
set_option maxHeartbeats 4000000 in
theorem W_X6_beenMany {κ : ah_C} {rr : (Int32 × ah_S)} (hκ : ah_res κ = (.returned (some (.int rr.1)), rr.2))  (σ : ah_S) (r0 : Option Nat) (h : F_X6_beenMany σ r0 = some rr) : ah_G κ ("LeftAsFoundModel", "beenMany", 3, (some FieldType.int), [], 1, 24) cX6_beenMany σ 0 [some (va_rf r0), none, none] [] := by
  unfold F_X6_beenMany at h
  refine ro_iconst (pc' := 1) dX6_beenMany_0 ic_0 rfl ?_
  refine ro_istore_n (pc' := 2) (L' := [some (va_rf r0), some (.int (0 : Int32)), none]) dX6_beenMany_1 rfl (Nat.le_of_ble_eq_true rfl) rfl (ah_okp_r _) rfl ?_
  refine ro_iconst (pc' := 3) dX6_beenMany_2 ic_0 rfl ?_
  refine ro_istore_n (pc' := 4) (L' := [some (va_rf r0), some (.int (0 : Int32)), some (.int (0 : Int32))]) dX6_beenMany_3 rfl (Nat.le_of_ble_eq_true rfl) rfl (ah_okp_i _) rfl ?_
  exact W_X6_beenMany_4 hκ _ _ _ _ _ h
theorem M_X6_beenMany {l : Launch} {D : ah_D}  {σ : ah_S} {r0 : Option Nat} {v : Int32} {σ1 : ah_S} (h : F_X6_beenMany σ r0 = some (v, σ1)) : ah_Met l yX6_beenMany (Cond.code yX6_beenMany cX6_beenMany 3 (some FieldType.int)) 1 24 D [va_rf r0] σ (.returned (some (.int v)), σ1) :=
  ah_ofG (own := "LeftAsFoundModel") (nm := "beenMany") (L0 := [some (va_rf r0), none, none]) (by decide) rfl rfl rfl (ah_ao_1 (ah_rf_cat _) (ah_ao_n (ah_ao_n ah_ao_0))) (fun κ hκ => W_X6_beenMany hκ  σ r0 h)
set_option maxRecDepth 20000 in
set_option maxHeartbeats 4000000 in
theorem W_X6_isShelf {κ : ah_C} {rr : (Int32 × ah_S)} (hκ : ah_res κ = (.returned (some (.int rr.1)), rr.2))  (σ : ah_S) (x0 : Int32) (h : F_X6_isShelf σ x0 = some rr) : ah_G κ ("LeftAsFoundModel", "isShelf", 1, (some FieldType.boolean), [], 2, 46) cX6_isShelf σ 0 [some (.int x0)] [] := by
  unfold F_X6_isShelf at h
  refine ro_iload_n (pc' := 1) dX6_isShelf_0 rfl rfl rfl ?_
  refine ro_iconst (pc' := 2) dX6_isShelf_1 ic_0 rfl ?_
  refine ro_iconst (pc' := 3) dX6_isShelf_2 ic_5 rfl ?_
  obtain ⟨v1, σ2, hv1, h⟩ := ah_bs2 h
  refine ro_callS (pc' := 6) (As := [.int x0, .int (0 : Int32), .int (5 : Int32)]) (rest := []) (st' := [.int v1]) q1494 (M_X6_in hv1) q1493 q1495 q104 dd_X6_in rfl ⟨Nat.le_of_ble_eq_true rfl, Nat.le_of_ble_eq_true rfl⟩ (Nat.le_of_ble_eq_true rfl) dX6_isShelf_3 rfl rfl rfl ?_
  obtain ⟨z3, hz3, g⟩ := ah_bs h
  obtain ⟨ez3, hz3⟩ := ah_z_n hz3
  subst ez3
  obtain rfl := Option.some.inj g
  exact ro_zret hz3 hκ dX6_isShelf_6
theorem M_X6_isShelf {l : Launch} {D : ah_D}  {σ : ah_S} {x0 : Int32} {v : Int32} {σ1 : ah_S} (h : F_X6_isShelf σ x0 = some (v, σ1)) : ah_Met l yX6_isShelf (Cond.code yX6_isShelf cX6_isShelf 1 (some FieldType.boolean)) 2 46 D [.int x0] σ (.returned (some (.int v)), σ1) :=
  ah_ofG (own := "LeftAsFoundModel") (nm := "isShelf") (L0 := [some (.int x0)]) (by decide) rfl rfl rfl (ah_ao_1 rfl ah_ao_0) (fun κ hκ => W_X6_isShelf hκ  σ x0 h)
set_option maxRecDepth 20000 in
set_option maxHeartbeats 4000000 in
theorem W_X6_rowFault {κ : ah_C} {rr : (Int32 × ah_S)} (hκ : ah_res κ = (.returned (some (.int rr.1)), rr.2))  (σ : ah_S) (r0 : Option Nat) (x1 : Int32) (h : F_X6_rowFault σ r0 x1 = some rr) : ah_G κ ("LeftAsFoundModel", "rowFault", 2, (some FieldType.int), [], 1, 24) cX6_rowFault σ 0 [some (va_rf r0), some (.int x1)] [] := by
  unfold F_X6_rowFault at h
  refine ro_aload_n (pc' := 1) dX6_rowFault_0 rfl rfl rfl ?_
  obtain ⟨v1, hv1, h⟩ := ah_bs h
  refine ro_getR (pc' := 4) ft_656 fk_656 q1364 dX6_rowFault_1 rfl hv1 ?_
  refine ro_iload_n (pc' := 5) dX6_rowFault_4 rfl rfl rfl ?_
  obtain ⟨v2, hv2, h⟩ := ah_bs h
  refine ro_iaload (pc' := 6) dX6_rowFault_5 rfl hv2 ?_
  refine ro_iconst (pc' := 7) dX6_rowFault_6 ic_m1 rfl ?_
  refine ro_icmp_ne (pc' := 10) (tgt := 15) dX6_rowFault_7 rfl rfl (fun c => ?_) (fun c => ?_)
  · replace h := ah_in_ c h
    refine ro_aload_n (pc' := 16) dX6_rowFault_15 rfl rfl rfl ?_
    obtain ⟨v3, hv3, h⟩ := ah_bs h
    refine ro_getR (pc' := 19) ft_656 fk_656 q1364 dX6_rowFault_16 rfl hv3 ?_
    refine ro_iload_n (pc' := 20) dX6_rowFault_19 rfl rfl rfl ?_
    obtain ⟨v4, hv4, h⟩ := ah_bs h
    refine ro_iaload (pc' := 21) dX6_rowFault_20 rfl hv4 ?_
    refine ro_bipush (pc' := 23) dX6_rowFault_21 ib_m2 rfl ?_
    refine ro_icmp_ne (pc' := 26) (tgt := 30) dX6_rowFault_23 rfl rfl (fun c => ?_) (fun c => ?_)
    · replace h := ah_in_ c h
      refine ro_bipush (pc' := 32) dX6_rowFault_30 ib_m12 rfl ?_
      obtain rfl := Option.some.inj h
      exact ro_iret hκ dX6_rowFault_32
    · replace h := ah_ip c h
      refine ro_iconst (pc' := 27) dX6_rowFault_26 ic_0 rfl ?_
      refine ro_goto (tgt := 32) dX6_rowFault_27 rfl ?_
      obtain rfl := Option.some.inj h
      exact ro_iret hκ dX6_rowFault_32
  · replace h := ah_ip c h
    refine ro_bipush (pc' := 12) dX6_rowFault_10 ib_m11 rfl ?_
    refine ro_goto (tgt := 32) dX6_rowFault_12 rfl ?_
    obtain rfl := Option.some.inj h
    exact ro_iret hκ dX6_rowFault_32
theorem M_X6_rowFault {l : Launch} {D : ah_D}  {σ : ah_S} {r0 : Option Nat} {x1 : Int32} {v : Int32} {σ1 : ah_S} (h : F_X6_rowFault σ r0 x1 = some (v, σ1)) : ah_Met l yX6_rowFault (Cond.code yX6_rowFault cX6_rowFault 2 (some FieldType.int)) 1 24 D [va_rf r0, .int x1] σ (.returned (some (.int v)), σ1) :=
  ah_ofG (own := "LeftAsFoundModel") (nm := "rowFault") (L0 := [some (va_rf r0), some (.int x1)]) (by decide) rfl rfl rfl (ah_ao_1 (ah_rf_cat _) (ah_ao_1 rfl ah_ao_0)) (fun κ hκ => W_X6_rowFault hκ  σ r0 x1 h)
set_option maxRecDepth 20000 in
set_option maxHeartbeats 4000000 in
theorem W_X6_layStays_28 {κ : ah_C} {rr : ah_S} (hκ : ah_res κ = (.returned none, rr))    : ∀ (n : Nat) (σ : ah_S) (r0 : Option Nat) (x1 : Int32) (x2 : Int32), F_X6_layStays_28 n σ r0 x1 x2 = some rr → ah_G κ ("LeftAsFoundModel", "layStays", 3, none, [], 1, 24) cX6_layStays σ 28 [some (va_rf r0), some (.int x1), some (.int x2)] [] := by
  intro n
  induction n with
  | zero => intro σ r0 x1 x2 h; cases h
  | succ n ih =>
    intro σ r0 x1 x2 h
    rw [F_X6_layStays_28] at h
    refine ro_iload_n (pc' := 29) dX6_layStays_28 rfl rfl rfl ?_
    refine ro_aload_n (pc' := 30) dX6_layStays_29 rfl rfl rfl ?_
    obtain ⟨v1, hv1, h⟩ := ah_bs h
    refine ro_getI (pc' := 33) ft_636 fk_636 q1344 dX6_layStays_30 rfl hv1 ?_
    refine ro_icmp_ge (pc' := 36) (tgt := 60) dX6_layStays_33 rfl rfl (fun c => ?_) (fun c => ?_)
    · replace h := ah_ip c h
      obtain rfl := Option.some.inj h
      exact ro_vret hκ dX6_layStays_60
    · replace h := ah_in_ c h
      refine ro_aload_n (pc' := 37) dX6_layStays_36 rfl rfl rfl ?_
      obtain ⟨v2, hv2, h⟩ := ah_bs h
      refine ro_getR (pc' := 40) ft_635 fk_635 q1343 dX6_layStays_37 rfl hv2 ?_
      refine ro_iload_n (pc' := 41) dX6_layStays_40 rfl rfl rfl ?_
      refine ro_aload_n (pc' := 42) dX6_layStays_41 rfl rfl rfl ?_
      obtain ⟨v3, hv3, h⟩ := ah_bs h
      refine ro_getR (pc' := 45) ft_658 fk_658 q1366 dX6_layStays_42 rfl hv3 ?_
      refine ro_bipush (pc' := 47) dX6_layStays_45 ib_60 rfl ?_
      refine ro_iload_n (pc' := 48) dX6_layStays_47 rfl rfl rfl ?_
      refine ro_imul (pc' := 49) dX6_layStays_48 rfl ?_
      refine ro_iload_n (pc' := 50) dX6_layStays_49 rfl rfl rfl ?_
      refine ro_iadd (pc' := 51) dX6_layStays_50 rfl ?_
      obtain ⟨v4, hv4, h⟩ := ah_bs h
      refine ro_laload (pc' := 52) dX6_layStays_51 rfl hv4 ?_
      refine ro_l2i (pc' := 53) dX6_layStays_52 rfl ?_
      obtain ⟨σ5, hσ5, h⟩ := ah_bs h
      refine ro_iastore (pc' := 54) dX6_layStays_53 rfl hσ5 ?_
      refine ro_iinc (pc' := 57) (L' := [some (va_rf r0), some (.int x1), some (.int (x2 + (1 : Int32)))]) dX6_layStays_54 rfl ic_1 (Nat.le_of_ble_eq_true rfl) rfl (ah_okp_i _) rfl ?_
      refine ro_goto (tgt := 28) dX6_layStays_57 rfl ?_
      exact ih _ _ _ _ h
set_option maxRecDepth 20000 in
set_option maxHeartbeats 4000000 in
theorem W_X6_layStays {κ : ah_C} {rr : ah_S} (hκ : ah_res κ = (.returned none, rr))  (σ : ah_S) (r0 : Option Nat) (x1 : Int32) (h : F_X6_layStays σ r0 x1 = some rr) : ah_G κ ("LeftAsFoundModel", "layStays", 3, none, [], 1, 24) cX6_layStays σ 0 [some (va_rf r0), some (.int x1), none] [] := by
  unfold F_X6_layStays at h
  refine ro_aload_n (pc' := 1) dX6_layStays_0 rfl rfl rfl ?_
  refine ro_aload_n (pc' := 2) dX6_layStays_1 rfl rfl rfl ?_
  obtain ⟨v1, hv1, h⟩ := ah_bs h
  refine ro_getR (pc' := 5) ft_657 fk_657 q1365 dX6_layStays_2 rfl hv1 ?_
  refine ro_iload_n (pc' := 6) dX6_layStays_5 rfl rfl rfl ?_
  obtain ⟨v2, hv2, h⟩ := ah_bs h
  refine ro_iaload (pc' := 7) dX6_layStays_6 rfl hv2 ?_
  refine ro_bipush (pc' := 9) dX6_layStays_7 ib_30 rfl ?_
  refine ro_icmp_ge (pc' := 12) (tgt := 21) dX6_layStays_9 rfl rfl (fun c => ?_) (fun c => ?_)
  · replace h := ah_ip c h
    refine ro_bipush (pc' := 23) dX6_layStays_21 ib_30 rfl ?_
    obtain ⟨σ3, hσ3, h⟩ := ah_bs h
    refine ro_putI (pc' := 26) ft_636 fk_636 q1344 pd_636 dX6_layStays_23 rfl hσ3 ?_
    refine ro_iconst (pc' := 27) dX6_layStays_26 ic_0 rfl ?_
    refine ro_istore_n (pc' := 28) (L' := [some (va_rf r0), some (.int x1), some (.int (0 : Int32))]) dX6_layStays_27 rfl (Nat.le_of_ble_eq_true rfl) rfl (ah_okp_i _) rfl ?_
    exact W_X6_layStays_28 hκ _ _ _ _ _ h
  · replace h := ah_in_ c h
    refine ro_aload_n (pc' := 13) dX6_layStays_12 rfl rfl rfl ?_
    obtain ⟨v4, hv4, h⟩ := ah_bs h
    refine ro_getR (pc' := 16) ft_657 fk_657 q1365 dX6_layStays_13 rfl hv4 ?_
    refine ro_iload_n (pc' := 17) dX6_layStays_16 rfl rfl rfl ?_
    obtain ⟨v5, hv5, h⟩ := ah_bs h
    refine ro_iaload (pc' := 18) dX6_layStays_17 rfl hv5 ?_
    refine ro_goto (tgt := 23) dX6_layStays_18 rfl ?_
    obtain ⟨σ6, hσ6, h⟩ := ah_bs h
    refine ro_putI (pc' := 26) ft_636 fk_636 q1344 pd_636 dX6_layStays_23 rfl hσ6 ?_
    refine ro_iconst (pc' := 27) dX6_layStays_26 ic_0 rfl ?_
    refine ro_istore_n (pc' := 28) (L' := [some (va_rf r0), some (.int x1), some (.int (0 : Int32))]) dX6_layStays_27 rfl (Nat.le_of_ble_eq_true rfl) rfl (ah_okp_i _) rfl ?_
    exact W_X6_layStays_28 hκ _ _ _ _ _ h
theorem M_X6_layStays {l : Launch} {D : ah_D}  {σ : ah_S} {r0 : Option Nat} {x1 : Int32} {σ1 : ah_S} (h : F_X6_layStays σ r0 x1 = some σ1) : ah_Met l yX6_layStays (Cond.code yX6_layStays cX6_layStays 3 none) 1 24 D [va_rf r0, .int x1] σ (.returned none, σ1) :=
  ah_ofG (own := "LeftAsFoundModel") (nm := "layStays") (L0 := [some (va_rf r0), some (.int x1), none]) (by decide) rfl rfl rfl (ah_ao_1 (ah_rf_cat _) (ah_ao_1 rfl (ah_ao_n ah_ao_0))) (fun κ hκ => W_X6_layStays hκ  σ r0 x1 h)
set_option maxRecDepth 20000 in
set_option maxHeartbeats 4000000 in
theorem W_X6_keepHut_2 {κ : ah_C} {rr : ah_S} (hκ : ah_res κ = (.returned none, rr))    : ∀ (n : Nat) (σ : ah_S) (r0 : Option Nat) (x1 : Int32), F_X6_keepHut_2 n σ r0 x1 = some rr → ah_G κ ("LeftAsFoundModel", "keepHut", 2, none, [], 1, 24) cX6_keepHut σ 2 [some (va_rf r0), some (.int x1)] [] := by
  intro n
  induction n with
  | zero => intro σ r0 x1 h; cases h
  | succ n ih =>
    intro σ r0 x1 h
    rw [F_X6_keepHut_2] at h
    refine ro_iload_n (pc' := 3) dX6_keepHut_2 rfl rfl rfl ?_
    refine ro_bipush (pc' := 5) dX6_keepHut_3 ib_48 rfl ?_
    refine ro_icmp_ge (pc' := 8) (tgt := 26) dX6_keepHut_5 rfl rfl (fun c => ?_) (fun c => ?_)
    · replace h := ah_ip c h
      obtain rfl := Option.some.inj h
      exact ro_vret hκ dX6_keepHut_26
    · replace h := ah_in_ c h
      refine ro_aload_n (pc' := 9) dX6_keepHut_8 rfl rfl rfl ?_
      obtain ⟨v1, hv1, h⟩ := ah_bs h
      refine ro_getR (pc' := 12) ft_634 fk_634 q1342 dX6_keepHut_9 rfl hv1 ?_
      refine ro_iload_n (pc' := 13) dX6_keepHut_12 rfl rfl rfl ?_
      refine ro_aload_n (pc' := 14) dX6_keepHut_13 rfl rfl rfl ?_
      obtain ⟨v2, hv2, h⟩ := ah_bs h
      refine ro_getR (pc' := 17) ft_611 fk_611 q1319 dX6_keepHut_14 rfl hv2 ?_
      refine ro_iload_n (pc' := 18) dX6_keepHut_17 rfl rfl rfl ?_
      obtain ⟨v3, hv3, h⟩ := ah_bs h
      refine ro_iaload (pc' := 19) dX6_keepHut_18 rfl hv3 ?_
      obtain ⟨σ4, hσ4, h⟩ := ah_bs h
      refine ro_iastore (pc' := 20) dX6_keepHut_19 rfl hσ4 ?_
      refine ro_iinc (pc' := 23) (L' := [some (va_rf r0), some (.int (x1 + (1 : Int32)))]) dX6_keepHut_20 rfl ic_1 (Nat.le_of_ble_eq_true rfl) rfl (ah_okp_r _) rfl ?_
      refine ro_goto (tgt := 2) dX6_keepHut_23 rfl ?_
      exact ih _ _ _ h
set_option maxRecDepth 20000 in
set_option maxHeartbeats 4000000 in
theorem W_X6_keepHut {κ : ah_C} {rr : ah_S} (hκ : ah_res κ = (.returned none, rr))  (σ : ah_S) (r0 : Option Nat) (h : F_X6_keepHut σ r0 = some rr) : ah_G κ ("LeftAsFoundModel", "keepHut", 2, none, [], 1, 24) cX6_keepHut σ 0 [some (va_rf r0), none] [] := by
  unfold F_X6_keepHut at h
  refine ro_iconst (pc' := 1) dX6_keepHut_0 ic_0 rfl ?_
  refine ro_istore_n (pc' := 2) (L' := [some (va_rf r0), some (.int (0 : Int32))]) dX6_keepHut_1 rfl (Nat.le_of_ble_eq_true rfl) rfl (ah_okp_r _) rfl ?_
  exact W_X6_keepHut_2 hκ _ _ _ _ h
theorem M_X6_keepHut {l : Launch} {D : ah_D}  {σ : ah_S} {r0 : Option Nat} {σ1 : ah_S} (h : F_X6_keepHut σ r0 = some σ1) : ah_Met l yX6_keepHut (Cond.code yX6_keepHut cX6_keepHut 2 none) 1 24 D [va_rf r0] σ (.returned none, σ1) :=
  ah_ofG (own := "LeftAsFoundModel") (nm := "keepHut") (L0 := [some (va_rf r0), none]) (by decide) rfl rfl rfl (ah_ao_1 (ah_rf_cat _) (ah_ao_n ah_ao_0)) (fun κ hκ => W_X6_keepHut hκ  σ r0 h)
set_option maxRecDepth 20000 in
set_option maxHeartbeats 4000000 in
theorem W_X6_oughtBy {κ : ah_C} {rr : (Int32 × ah_S)} (hκ : ah_res κ = (.returned (some (.int rr.1)), rr.2))  (σ : ah_S) (r0 : Option Nat) (x1 : Int32) (x2 : Int32) (h : F_X6_oughtBy σ r0 x1 x2 = some rr) : ah_G κ ("LeftAsFoundModel", "oughtBy", 3, (some FieldType.int), [], 1, 24) cX6_oughtBy σ 0 [some (va_rf r0), some (.int x1), some (.int x2)] [] := by
  unfold F_X6_oughtBy at h
  refine ro_aload_n (pc' := 1) dX6_oughtBy_0 rfl rfl rfl ?_
  obtain ⟨v1, hv1, h⟩ := ah_bs h
  refine ro_getR (pc' := 4) ft_607 fk_607 q1315 dX6_oughtBy_1 rfl hv1 ?_
  refine ro_iload_n (pc' := 5) dX6_oughtBy_4 rfl rfl rfl ?_
  obtain ⟨v2, hv2, h⟩ := ah_bs h
  refine ro_iaload (pc' := 6) dX6_oughtBy_5 rfl hv2 ?_
  by_cases c6_0 : v2 = (0 : Int32)
  · replace h := ah_ip c6_0 h
    refine ro_tabIn (tgt := 32) 0 c6_0 dX6_oughtBy_6 (by decide) (by decide) rfl rfl ?_
    refine ro_aload_n (pc' := 33) dX6_oughtBy_32 rfl rfl rfl ?_
    obtain ⟨v3, hv3, h⟩ := ah_bs h
    refine ro_getR (pc' := 36) ft_611 fk_611 q1319 dX6_oughtBy_33 rfl hv3 ?_
    refine ro_bipush (pc' := 38) dX6_oughtBy_36 ib_13 rfl ?_
    refine ro_iload_n (pc' := 39) dX6_oughtBy_38 rfl rfl rfl ?_
    refine ro_iadd (pc' := 40) dX6_oughtBy_39 rfl ?_
    obtain ⟨v4, hv4, h⟩ := ah_bs h
    refine ro_iaload (pc' := 41) dX6_oughtBy_40 rfl hv4 ?_
    refine ro_if_ne (pc' := 44) (tgt := 53) dX6_oughtBy_41 rfl rfl (fun c => ?_) (fun c => ?_)
    · replace h := ah_in_ c h
      refine ro_aload_n (pc' := 54) dX6_oughtBy_53 rfl rfl rfl ?_
      obtain ⟨v5, hv5, h⟩ := ah_bs h
      refine ro_getR (pc' := 57) ft_611 fk_611 q1319 dX6_oughtBy_54 rfl hv5 ?_
      refine ro_bipush (pc' := 59) dX6_oughtBy_57 ib_20 rfl ?_
      refine ro_iconst (pc' := 60) dX6_oughtBy_59 ic_4 rfl ?_
      refine ro_iload_n (pc' := 61) dX6_oughtBy_60 rfl rfl rfl ?_
      refine ro_imul (pc' := 62) dX6_oughtBy_61 rfl ?_
      refine ro_iadd (pc' := 63) dX6_oughtBy_62 rfl ?_
      refine ro_iload_n (pc' := 64) dX6_oughtBy_63 rfl rfl rfl ?_
      refine ro_iadd (pc' := 65) dX6_oughtBy_64 rfl ?_
      obtain ⟨v6, hv6, h⟩ := ah_bs h
      refine ro_iaload (pc' := 66) dX6_oughtBy_65 rfl hv6 ?_
      obtain rfl := Option.some.inj h
      exact ro_iret hκ dX6_oughtBy_66
    · replace h := ah_ip c h
      refine ro_aload_n (pc' := 45) dX6_oughtBy_44 rfl rfl rfl ?_
      obtain ⟨v7, hv7, h⟩ := ah_bs h
      refine ro_getR (pc' := 48) ft_611 fk_611 q1319 dX6_oughtBy_45 rfl hv7 ?_
      refine ro_iload_n (pc' := 49) dX6_oughtBy_48 rfl rfl rfl ?_
      obtain ⟨v8, hv8, h⟩ := ah_bs h
      refine ro_iaload (pc' := 50) dX6_oughtBy_49 rfl hv8 ?_
      refine ro_goto (tgt := 66) dX6_oughtBy_50 rfl ?_
      obtain rfl := Option.some.inj h
      exact ro_iret hκ dX6_oughtBy_66
  replace h := ah_in_ c6_0 h
  by_cases c6_1 : v2 = (1 : Int32)
  · replace h := ah_ip c6_1 h
    refine ro_tabIn (tgt := 67) 1 c6_1 dX6_oughtBy_6 (by decide) (by decide) rfl rfl ?_
    refine ro_aload_n (pc' := 68) dX6_oughtBy_67 rfl rfl rfl ?_
    obtain ⟨v9, hv9, h⟩ := ah_bs h
    refine ro_getR (pc' := 71) ft_611 fk_611 q1319 dX6_oughtBy_68 rfl hv9 ?_
    refine ro_iconst (pc' := 72) dX6_oughtBy_71 ic_4 rfl ?_
    refine ro_iload_n (pc' := 73) dX6_oughtBy_72 rfl rfl rfl ?_
    refine ro_iadd (pc' := 74) dX6_oughtBy_73 rfl ?_
    obtain ⟨v10, hv10, h⟩ := ah_bs h
    refine ro_iaload (pc' := 75) dX6_oughtBy_74 rfl hv10 ?_
    obtain rfl := Option.some.inj h
    exact ro_iret hκ dX6_oughtBy_75
  replace h := ah_in_ c6_1 h
  by_cases c6_2 : v2 = (2 : Int32)
  · replace h := ah_ip c6_2 h
    refine ro_tabIn (tgt := 76) 2 c6_2 dX6_oughtBy_6 (by decide) (by decide) rfl rfl ?_
    refine ro_aload_n (pc' := 77) dX6_oughtBy_76 rfl rfl rfl ?_
    obtain ⟨v11, hv11, h⟩ := ah_bs h
    refine ro_getR (pc' := 80) ft_601 fk_601 q1309 dX6_oughtBy_77 rfl hv11 ?_
    refine ro_iload_n (pc' := 81) dX6_oughtBy_80 rfl rfl rfl ?_
    obtain ⟨v12, hv12, h⟩ := ah_bs h
    refine ro_iaload (pc' := 82) dX6_oughtBy_81 rfl hv12 ?_
    obtain rfl := Option.some.inj h
    exact ro_iret hκ dX6_oughtBy_82
  replace h := ah_in_ c6_2 h
  refine ro_tabOut (tgt := 83) dX6_oughtBy_6 (by have e0 := lv_neT (a := 0) c6_0 (by decide); have e1 := lv_neT (a := 1) c6_1 (by decide); have e2 := lv_neT (a := 2) c6_2 (by decide); omega) rfl ?_
  refine ro_aload_n (pc' := 84) dX6_oughtBy_83 rfl rfl rfl ?_
  obtain ⟨v13, hv13, h⟩ := ah_bs h
  refine ro_getR (pc' := 87) ft_611 fk_611 q1319 dX6_oughtBy_84 rfl hv13 ?_
  refine ro_bipush (pc' := 89) dX6_oughtBy_87 ib_12 rfl ?_
  obtain ⟨v14, hv14, h⟩ := ah_bs h
  refine ro_iaload (pc' := 90) dX6_oughtBy_89 rfl hv14 ?_
  refine ro_if_ne (pc' := 93) (tgt := 102) dX6_oughtBy_90 rfl rfl (fun c => ?_) (fun c => ?_)
  · replace h := ah_in_ c h
    refine ro_aload_n (pc' := 103) dX6_oughtBy_102 rfl rfl rfl ?_
    obtain ⟨v15, hv15, h⟩ := ah_bs h
    refine ro_getR (pc' := 106) ft_611 fk_611 q1319 dX6_oughtBy_103 rfl hv15 ?_
    refine ro_bipush (pc' := 108) dX6_oughtBy_106 ib_8 rfl ?_
    refine ro_iload_n (pc' := 109) dX6_oughtBy_108 rfl rfl rfl ?_
    refine ro_iadd (pc' := 110) dX6_oughtBy_109 rfl ?_
    obtain ⟨v16, hv16, h⟩ := ah_bs h
    refine ro_iaload (pc' := 111) dX6_oughtBy_110 rfl hv16 ?_
    obtain rfl := Option.some.inj h
    exact ro_iret hκ dX6_oughtBy_111
  · replace h := ah_ip c h
    refine ro_aload_n (pc' := 94) dX6_oughtBy_93 rfl rfl rfl ?_
    obtain ⟨v17, hv17, h⟩ := ah_bs h
    refine ro_getR (pc' := 97) ft_601 fk_601 q1309 dX6_oughtBy_94 rfl hv17 ?_
    refine ro_iload_n (pc' := 98) dX6_oughtBy_97 rfl rfl rfl ?_
    obtain ⟨v18, hv18, h⟩ := ah_bs h
    refine ro_iaload (pc' := 99) dX6_oughtBy_98 rfl hv18 ?_
    refine ro_goto (tgt := 111) dX6_oughtBy_99 rfl ?_
    obtain rfl := Option.some.inj h
    exact ro_iret hκ dX6_oughtBy_111
theorem M_X6_oughtBy {l : Launch} {D : ah_D}  {σ : ah_S} {r0 : Option Nat} {x1 : Int32} {x2 : Int32} {v : Int32} {σ1 : ah_S} (h : F_X6_oughtBy σ r0 x1 x2 = some (v, σ1)) : ah_Met l yX6_oughtBy (Cond.code yX6_oughtBy cX6_oughtBy 3 (some FieldType.int)) 1 24 D [va_rf r0, .int x1, .int x2] σ (.returned (some (.int v)), σ1) :=
  ah_ofG (own := "LeftAsFoundModel") (nm := "oughtBy") (L0 := [some (va_rf r0), some (.int x1), some (.int x2)]) (by decide) rfl rfl rfl (ah_ao_1 (ah_rf_cat _) (ah_ao_1 rfl (ah_ao_1 rfl ah_ao_0))) (fun κ hκ => W_X6_oughtBy hκ  σ r0 x1 x2 h)
set_option maxRecDepth 20000 in
set_option maxHeartbeats 4000000 in
theorem W_X6_twoOf {κ : ah_C} {rr : (Int32 × ah_S)} (hκ : ah_res κ = (.returned (some (.int rr.1)), rr.2))  (σ : ah_S) (x0 : Int32) (x1 : Int32) (x2 : Int32) (h : F_X6_twoOf σ x0 x1 x2 = some rr) : ah_G κ ("LeftAsFoundModel", "twoOf", 3, (some FieldType.int), [], 1, 24) cX6_twoOf σ 0 [some (.int x0), some (.int x1), some (.int x2)] [] := by
  unfold F_X6_twoOf at h
  refine ro_iload_n (pc' := 1) dX6_twoOf_0 rfl rfl rfl ?_
  by_cases c1_0 : x0 = (37 : Int32)
  · replace h := ah_ip c1_0 h
    refine ro_tabIn (tgt := 154) 0 c1_0 dX6_twoOf_1 (by decide) (by decide) rfl rfl ?_
    refine ro_iload_n (pc' := 155) dX6_twoOf_154 rfl rfl rfl ?_
    refine ro_if_eq (pc' := 158) (tgt := 163) dX6_twoOf_155 rfl rfl (fun c => ?_) (fun c => ?_)
    · replace h := ah_ip c h
      refine ro_iconst (pc' := 164) dX6_twoOf_163 ic_0 rfl ?_
      refine ro_goto (tgt := 170) dX6_twoOf_164 rfl ?_
      obtain rfl := Option.some.inj h
      exact ro_iret hκ dX6_twoOf_170
    · replace h := ah_in_ c h
      refine ro_iload_n (pc' := 159) dX6_twoOf_158 rfl rfl rfl ?_
      refine ro_iconst (pc' := 160) dX6_twoOf_159 ic_m1 rfl ?_
      refine ro_icmp_ne (pc' := 163) (tgt := 167) dX6_twoOf_160 rfl rfl (fun c => ?_) (fun c => ?_)
      · replace h := ah_in_ c h
        refine ro_iload_n (pc' := 168) dX6_twoOf_167 rfl rfl rfl ?_
        refine ro_iload_n (pc' := 169) dX6_twoOf_168 rfl rfl rfl ?_
        obtain ⟨q1, hq1, h⟩ := ah_bs h
        refine ro_irem (pc' := 170) dX6_twoOf_169 rfl hq1 ?_
        obtain rfl := Option.some.inj h
        exact ro_iret hκ dX6_twoOf_170
      · replace h := ah_ip c h
        refine ro_iconst (pc' := 164) dX6_twoOf_163 ic_0 rfl ?_
        refine ro_goto (tgt := 170) dX6_twoOf_164 rfl ?_
        obtain rfl := Option.some.inj h
        exact ro_iret hκ dX6_twoOf_170
  replace h := ah_in_ c1_0 h
  by_cases c1_1 : x0 = (38 : Int32)
  · replace h := ah_ip c1_1 h
    refine ro_tabIn (tgt := 204) 1 c1_1 dX6_twoOf_1 (by decide) (by decide) rfl rfl ?_
    refine ro_iload_n (pc' := 205) dX6_twoOf_204 rfl rfl rfl ?_
    refine ro_if_eq (pc' := 208) (tgt := 216) dX6_twoOf_205 rfl rfl (fun c => ?_) (fun c => ?_)
    · replace h := ah_ip c h
      refine ro_iconst (pc' := 217) dX6_twoOf_216 ic_0 rfl ?_
      obtain rfl := Option.some.inj h
      exact ro_iret hκ dX6_twoOf_217
    · replace h := ah_in_ c h
      refine ro_iload_n (pc' := 209) dX6_twoOf_208 rfl rfl rfl ?_
      refine ro_if_eq (pc' := 212) (tgt := 216) dX6_twoOf_209 rfl rfl (fun c => ?_) (fun c => ?_)
      · replace h := ah_ip c h
        refine ro_iconst (pc' := 217) dX6_twoOf_216 ic_0 rfl ?_
        obtain rfl := Option.some.inj h
        exact ro_iret hκ dX6_twoOf_217
      · replace h := ah_in_ c h
        refine ro_iconst (pc' := 213) dX6_twoOf_212 ic_1 rfl ?_
        refine ro_goto (tgt := 217) dX6_twoOf_213 rfl ?_
        obtain rfl := Option.some.inj h
        exact ro_iret hκ dX6_twoOf_217
  replace h := ah_in_ c1_1 h
  by_cases c1_2 : x0 = (39 : Int32)
  · replace h := ah_ip c1_2 h
    refine ro_tabIn (tgt := 218) 2 c1_2 dX6_twoOf_1 (by decide) (by decide) rfl rfl ?_
    refine ro_iload_n (pc' := 219) dX6_twoOf_218 rfl rfl rfl ?_
    refine ro_if_ne (pc' := 222) (tgt := 226) dX6_twoOf_219 rfl rfl (fun c => ?_) (fun c => ?_)
    · replace h := ah_in_ c h
      refine ro_iconst (pc' := 227) dX6_twoOf_226 ic_1 rfl ?_
      refine ro_goto (tgt := 231) dX6_twoOf_227 rfl ?_
      obtain rfl := Option.some.inj h
      exact ro_iret hκ dX6_twoOf_231
    · replace h := ah_ip c h
      refine ro_iload_n (pc' := 223) dX6_twoOf_222 rfl rfl rfl ?_
      refine ro_if_eq (pc' := 226) (tgt := 230) dX6_twoOf_223 rfl rfl (fun c => ?_) (fun c => ?_)
      · replace h := ah_ip c h
        refine ro_iconst (pc' := 231) dX6_twoOf_230 ic_0 rfl ?_
        obtain rfl := Option.some.inj h
        exact ro_iret hκ dX6_twoOf_231
      · replace h := ah_in_ c h
        refine ro_iconst (pc' := 227) dX6_twoOf_226 ic_1 rfl ?_
        refine ro_goto (tgt := 231) dX6_twoOf_227 rfl ?_
        obtain rfl := Option.some.inj h
        exact ro_iret hκ dX6_twoOf_231
  replace h := ah_in_ c1_2 h
  by_cases c1_3 : x0 = (40 : Int32)
  · replace h := ah_ip c1_3 h
    refine ro_tabIn (tgt := 218) 3 c1_3 dX6_twoOf_1 (by decide) (by decide) rfl rfl ?_
    refine ro_iload_n (pc' := 219) dX6_twoOf_218 rfl rfl rfl ?_
    refine ro_if_ne (pc' := 222) (tgt := 226) dX6_twoOf_219 rfl rfl (fun c => ?_) (fun c => ?_)
    · replace h := ah_in_ c h
      refine ro_iconst (pc' := 227) dX6_twoOf_226 ic_1 rfl ?_
      refine ro_goto (tgt := 231) dX6_twoOf_227 rfl ?_
      obtain rfl := Option.some.inj h
      exact ro_iret hκ dX6_twoOf_231
    · replace h := ah_ip c h
      refine ro_iload_n (pc' := 223) dX6_twoOf_222 rfl rfl rfl ?_
      refine ro_if_eq (pc' := 226) (tgt := 230) dX6_twoOf_223 rfl rfl (fun c => ?_) (fun c => ?_)
      · replace h := ah_ip c h
        refine ro_iconst (pc' := 231) dX6_twoOf_230 ic_0 rfl ?_
        obtain rfl := Option.some.inj h
        exact ro_iret hκ dX6_twoOf_231
      · replace h := ah_in_ c h
        refine ro_iconst (pc' := 227) dX6_twoOf_226 ic_1 rfl ?_
        refine ro_goto (tgt := 231) dX6_twoOf_227 rfl ?_
        obtain rfl := Option.some.inj h
        exact ro_iret hκ dX6_twoOf_231
  replace h := ah_in_ c1_3 h
  by_cases c1_4 : x0 = (41 : Int32)
  · replace h := ah_ip c1_4 h
    refine ro_tabIn (tgt := 218) 4 c1_4 dX6_twoOf_1 (by decide) (by decide) rfl rfl ?_
    refine ro_iload_n (pc' := 219) dX6_twoOf_218 rfl rfl rfl ?_
    refine ro_if_ne (pc' := 222) (tgt := 226) dX6_twoOf_219 rfl rfl (fun c => ?_) (fun c => ?_)
    · replace h := ah_in_ c h
      refine ro_iconst (pc' := 227) dX6_twoOf_226 ic_1 rfl ?_
      refine ro_goto (tgt := 231) dX6_twoOf_227 rfl ?_
      obtain rfl := Option.some.inj h
      exact ro_iret hκ dX6_twoOf_231
    · replace h := ah_ip c h
      refine ro_iload_n (pc' := 223) dX6_twoOf_222 rfl rfl rfl ?_
      refine ro_if_eq (pc' := 226) (tgt := 230) dX6_twoOf_223 rfl rfl (fun c => ?_) (fun c => ?_)
      · replace h := ah_ip c h
        refine ro_iconst (pc' := 231) dX6_twoOf_230 ic_0 rfl ?_
        obtain rfl := Option.some.inj h
        exact ro_iret hκ dX6_twoOf_231
      · replace h := ah_in_ c h
        refine ro_iconst (pc' := 227) dX6_twoOf_226 ic_1 rfl ?_
        refine ro_goto (tgt := 231) dX6_twoOf_227 rfl ?_
        obtain rfl := Option.some.inj h
        exact ro_iret hκ dX6_twoOf_231
  replace h := ah_in_ c1_4 h
  by_cases c1_5 : x0 = (42 : Int32)
  · replace h := ah_ip c1_5 h
    refine ro_tabIn (tgt := 128) 5 c1_5 dX6_twoOf_1 (by decide) (by decide) rfl rfl ?_
    refine ro_iload_n (pc' := 129) dX6_twoOf_128 rfl rfl rfl ?_
    refine ro_iload_n (pc' := 130) dX6_twoOf_129 rfl rfl rfl ?_
    refine ro_imul (pc' := 131) dX6_twoOf_130 rfl ?_
    obtain rfl := Option.some.inj h
    exact ro_iret hκ dX6_twoOf_131
  replace h := ah_in_ c1_5 h
  by_cases c1_6 : x0 = (43 : Int32)
  · replace h := ah_ip c1_6 h
    refine ro_tabIn (tgt := 120) 6 c1_6 dX6_twoOf_1 (by decide) (by decide) rfl rfl ?_
    refine ro_iload_n (pc' := 121) dX6_twoOf_120 rfl rfl rfl ?_
    refine ro_iload_n (pc' := 122) dX6_twoOf_121 rfl rfl rfl ?_
    refine ro_iadd (pc' := 123) dX6_twoOf_122 rfl ?_
    obtain rfl := Option.some.inj h
    exact ro_iret hκ dX6_twoOf_123
  replace h := ah_in_ c1_6 h
  by_cases c1_7 : x0 = (44 : Int32)
  · replace h := ah_ip c1_7 h
    refine ro_tabIn (tgt := 218) 7 c1_7 dX6_twoOf_1 (by decide) (by decide) rfl rfl ?_
    refine ro_iload_n (pc' := 219) dX6_twoOf_218 rfl rfl rfl ?_
    refine ro_if_ne (pc' := 222) (tgt := 226) dX6_twoOf_219 rfl rfl (fun c => ?_) (fun c => ?_)
    · replace h := ah_in_ c h
      refine ro_iconst (pc' := 227) dX6_twoOf_226 ic_1 rfl ?_
      refine ro_goto (tgt := 231) dX6_twoOf_227 rfl ?_
      obtain rfl := Option.some.inj h
      exact ro_iret hκ dX6_twoOf_231
    · replace h := ah_ip c h
      refine ro_iload_n (pc' := 223) dX6_twoOf_222 rfl rfl rfl ?_
      refine ro_if_eq (pc' := 226) (tgt := 230) dX6_twoOf_223 rfl rfl (fun c => ?_) (fun c => ?_)
      · replace h := ah_ip c h
        refine ro_iconst (pc' := 231) dX6_twoOf_230 ic_0 rfl ?_
        obtain rfl := Option.some.inj h
        exact ro_iret hκ dX6_twoOf_231
      · replace h := ah_in_ c h
        refine ro_iconst (pc' := 227) dX6_twoOf_226 ic_1 rfl ?_
        refine ro_goto (tgt := 231) dX6_twoOf_227 rfl ?_
        obtain rfl := Option.some.inj h
        exact ro_iret hκ dX6_twoOf_231
  replace h := ah_in_ c1_7 h
  by_cases c1_8 : x0 = (45 : Int32)
  · replace h := ah_ip c1_8 h
    refine ro_tabIn (tgt := 124) 8 c1_8 dX6_twoOf_1 (by decide) (by decide) rfl rfl ?_
    refine ro_iload_n (pc' := 125) dX6_twoOf_124 rfl rfl rfl ?_
    refine ro_iload_n (pc' := 126) dX6_twoOf_125 rfl rfl rfl ?_
    refine ro_isub (pc' := 127) dX6_twoOf_126 rfl ?_
    obtain rfl := Option.some.inj h
    exact ro_iret hκ dX6_twoOf_127
  replace h := ah_in_ c1_8 h
  by_cases c1_9 : x0 = (46 : Int32)
  · replace h := ah_ip c1_9 h
    refine ro_tabIn (tgt := 218) 9 c1_9 dX6_twoOf_1 (by decide) (by decide) rfl rfl ?_
    refine ro_iload_n (pc' := 219) dX6_twoOf_218 rfl rfl rfl ?_
    refine ro_if_ne (pc' := 222) (tgt := 226) dX6_twoOf_219 rfl rfl (fun c => ?_) (fun c => ?_)
    · replace h := ah_in_ c h
      refine ro_iconst (pc' := 227) dX6_twoOf_226 ic_1 rfl ?_
      refine ro_goto (tgt := 231) dX6_twoOf_227 rfl ?_
      obtain rfl := Option.some.inj h
      exact ro_iret hκ dX6_twoOf_231
    · replace h := ah_ip c h
      refine ro_iload_n (pc' := 223) dX6_twoOf_222 rfl rfl rfl ?_
      refine ro_if_eq (pc' := 226) (tgt := 230) dX6_twoOf_223 rfl rfl (fun c => ?_) (fun c => ?_)
      · replace h := ah_ip c h
        refine ro_iconst (pc' := 231) dX6_twoOf_230 ic_0 rfl ?_
        obtain rfl := Option.some.inj h
        exact ro_iret hκ dX6_twoOf_231
      · replace h := ah_in_ c h
        refine ro_iconst (pc' := 227) dX6_twoOf_226 ic_1 rfl ?_
        refine ro_goto (tgt := 231) dX6_twoOf_227 rfl ?_
        obtain rfl := Option.some.inj h
        exact ro_iret hκ dX6_twoOf_231
  replace h := ah_in_ c1_9 h
  by_cases c1_10 : x0 = (47 : Int32)
  · replace h := ah_ip c1_10 h
    refine ro_tabIn (tgt := 132) 10 c1_10 dX6_twoOf_1 (by decide) (by decide) rfl rfl ?_
    refine ro_iload_n (pc' := 133) dX6_twoOf_132 rfl rfl rfl ?_
    refine ro_if_ne (pc' := 136) (tgt := 140) dX6_twoOf_133 rfl rfl (fun c => ?_) (fun c => ?_)
    · replace h := ah_in_ c h
      refine ro_iload_n (pc' := 141) dX6_twoOf_140 rfl rfl rfl ?_
      refine ro_iconst (pc' := 142) dX6_twoOf_141 ic_m1 rfl ?_
      refine ro_icmp_ne (pc' := 145) (tgt := 150) dX6_twoOf_142 rfl rfl (fun c => ?_) (fun c => ?_)
      · replace h := ah_in_ c h
        refine ro_iload_n (pc' := 151) dX6_twoOf_150 rfl rfl rfl ?_
        refine ro_iload_n (pc' := 152) dX6_twoOf_151 rfl rfl rfl ?_
        obtain ⟨q2, hq2, h⟩ := ah_bs h
        refine ro_idiv (pc' := 153) dX6_twoOf_152 rfl hq2 ?_
        obtain rfl := Option.some.inj h
        exact ro_iret hκ dX6_twoOf_153
      · replace h := ah_ip c h
        refine ro_iload_n (pc' := 146) dX6_twoOf_145 rfl rfl rfl ?_
        refine ro_ineg (pc' := 147) dX6_twoOf_146 rfl ?_
        refine ro_goto (tgt := 153) dX6_twoOf_147 rfl ?_
        obtain rfl := Option.some.inj h
        exact ro_iret hκ dX6_twoOf_153
    · replace h := ah_ip c h
      refine ro_iconst (pc' := 137) dX6_twoOf_136 ic_0 rfl ?_
      refine ro_goto (tgt := 153) dX6_twoOf_137 rfl ?_
      obtain rfl := Option.some.inj h
      exact ro_iret hκ dX6_twoOf_153
  replace h := ah_in_ c1_10 h
  by_cases c1_11 : x0 = (48 : Int32)
  · replace h := ah_ip c1_11 h
    refine ro_tabIn (tgt := 218) 11 c1_11 dX6_twoOf_1 (by decide) (by decide) rfl rfl ?_
    refine ro_iload_n (pc' := 219) dX6_twoOf_218 rfl rfl rfl ?_
    refine ro_if_ne (pc' := 222) (tgt := 226) dX6_twoOf_219 rfl rfl (fun c => ?_) (fun c => ?_)
    · replace h := ah_in_ c h
      refine ro_iconst (pc' := 227) dX6_twoOf_226 ic_1 rfl ?_
      refine ro_goto (tgt := 231) dX6_twoOf_227 rfl ?_
      obtain rfl := Option.some.inj h
      exact ro_iret hκ dX6_twoOf_231
    · replace h := ah_ip c h
      refine ro_iload_n (pc' := 223) dX6_twoOf_222 rfl rfl rfl ?_
      refine ro_if_eq (pc' := 226) (tgt := 230) dX6_twoOf_223 rfl rfl (fun c => ?_) (fun c => ?_)
      · replace h := ah_ip c h
        refine ro_iconst (pc' := 231) dX6_twoOf_230 ic_0 rfl ?_
        obtain rfl := Option.some.inj h
        exact ro_iret hκ dX6_twoOf_231
      · replace h := ah_in_ c h
        refine ro_iconst (pc' := 227) dX6_twoOf_226 ic_1 rfl ?_
        refine ro_goto (tgt := 231) dX6_twoOf_227 rfl ?_
        obtain rfl := Option.some.inj h
        exact ro_iret hκ dX6_twoOf_231
  replace h := ah_in_ c1_11 h
  by_cases c1_12 : x0 = (49 : Int32)
  · replace h := ah_ip c1_12 h
    refine ro_tabIn (tgt := 218) 12 c1_12 dX6_twoOf_1 (by decide) (by decide) rfl rfl ?_
    refine ro_iload_n (pc' := 219) dX6_twoOf_218 rfl rfl rfl ?_
    refine ro_if_ne (pc' := 222) (tgt := 226) dX6_twoOf_219 rfl rfl (fun c => ?_) (fun c => ?_)
    · replace h := ah_in_ c h
      refine ro_iconst (pc' := 227) dX6_twoOf_226 ic_1 rfl ?_
      refine ro_goto (tgt := 231) dX6_twoOf_227 rfl ?_
      obtain rfl := Option.some.inj h
      exact ro_iret hκ dX6_twoOf_231
    · replace h := ah_ip c h
      refine ro_iload_n (pc' := 223) dX6_twoOf_222 rfl rfl rfl ?_
      refine ro_if_eq (pc' := 226) (tgt := 230) dX6_twoOf_223 rfl rfl (fun c => ?_) (fun c => ?_)
      · replace h := ah_ip c h
        refine ro_iconst (pc' := 231) dX6_twoOf_230 ic_0 rfl ?_
        obtain rfl := Option.some.inj h
        exact ro_iret hκ dX6_twoOf_231
      · replace h := ah_in_ c h
        refine ro_iconst (pc' := 227) dX6_twoOf_226 ic_1 rfl ?_
        refine ro_goto (tgt := 231) dX6_twoOf_227 rfl ?_
        obtain rfl := Option.some.inj h
        exact ro_iret hκ dX6_twoOf_231
  replace h := ah_in_ c1_12 h
  by_cases c1_13 : x0 = (50 : Int32)
  · replace h := ah_ip c1_13 h
    refine ro_tabIn (tgt := 218) 13 c1_13 dX6_twoOf_1 (by decide) (by decide) rfl rfl ?_
    refine ro_iload_n (pc' := 219) dX6_twoOf_218 rfl rfl rfl ?_
    refine ro_if_ne (pc' := 222) (tgt := 226) dX6_twoOf_219 rfl rfl (fun c => ?_) (fun c => ?_)
    · replace h := ah_in_ c h
      refine ro_iconst (pc' := 227) dX6_twoOf_226 ic_1 rfl ?_
      refine ro_goto (tgt := 231) dX6_twoOf_227 rfl ?_
      obtain rfl := Option.some.inj h
      exact ro_iret hκ dX6_twoOf_231
    · replace h := ah_ip c h
      refine ro_iload_n (pc' := 223) dX6_twoOf_222 rfl rfl rfl ?_
      refine ro_if_eq (pc' := 226) (tgt := 230) dX6_twoOf_223 rfl rfl (fun c => ?_) (fun c => ?_)
      · replace h := ah_ip c h
        refine ro_iconst (pc' := 231) dX6_twoOf_230 ic_0 rfl ?_
        obtain rfl := Option.some.inj h
        exact ro_iret hκ dX6_twoOf_231
      · replace h := ah_in_ c h
        refine ro_iconst (pc' := 227) dX6_twoOf_226 ic_1 rfl ?_
        refine ro_goto (tgt := 231) dX6_twoOf_227 rfl ?_
        obtain rfl := Option.some.inj h
        exact ro_iret hκ dX6_twoOf_231
  replace h := ah_in_ c1_13 h
  by_cases c1_14 : x0 = (51 : Int32)
  · replace h := ah_ip c1_14 h
    refine ro_tabIn (tgt := 218) 14 c1_14 dX6_twoOf_1 (by decide) (by decide) rfl rfl ?_
    refine ro_iload_n (pc' := 219) dX6_twoOf_218 rfl rfl rfl ?_
    refine ro_if_ne (pc' := 222) (tgt := 226) dX6_twoOf_219 rfl rfl (fun c => ?_) (fun c => ?_)
    · replace h := ah_in_ c h
      refine ro_iconst (pc' := 227) dX6_twoOf_226 ic_1 rfl ?_
      refine ro_goto (tgt := 231) dX6_twoOf_227 rfl ?_
      obtain rfl := Option.some.inj h
      exact ro_iret hκ dX6_twoOf_231
    · replace h := ah_ip c h
      refine ro_iload_n (pc' := 223) dX6_twoOf_222 rfl rfl rfl ?_
      refine ro_if_eq (pc' := 226) (tgt := 230) dX6_twoOf_223 rfl rfl (fun c => ?_) (fun c => ?_)
      · replace h := ah_ip c h
        refine ro_iconst (pc' := 231) dX6_twoOf_230 ic_0 rfl ?_
        obtain rfl := Option.some.inj h
        exact ro_iret hκ dX6_twoOf_231
      · replace h := ah_in_ c h
        refine ro_iconst (pc' := 227) dX6_twoOf_226 ic_1 rfl ?_
        refine ro_goto (tgt := 231) dX6_twoOf_227 rfl ?_
        obtain rfl := Option.some.inj h
        exact ro_iret hκ dX6_twoOf_231
  replace h := ah_in_ c1_14 h
  by_cases c1_15 : x0 = (52 : Int32)
  · replace h := ah_ip c1_15 h
    refine ro_tabIn (tgt := 218) 15 c1_15 dX6_twoOf_1 (by decide) (by decide) rfl rfl ?_
    refine ro_iload_n (pc' := 219) dX6_twoOf_218 rfl rfl rfl ?_
    refine ro_if_ne (pc' := 222) (tgt := 226) dX6_twoOf_219 rfl rfl (fun c => ?_) (fun c => ?_)
    · replace h := ah_in_ c h
      refine ro_iconst (pc' := 227) dX6_twoOf_226 ic_1 rfl ?_
      refine ro_goto (tgt := 231) dX6_twoOf_227 rfl ?_
      obtain rfl := Option.some.inj h
      exact ro_iret hκ dX6_twoOf_231
    · replace h := ah_ip c h
      refine ro_iload_n (pc' := 223) dX6_twoOf_222 rfl rfl rfl ?_
      refine ro_if_eq (pc' := 226) (tgt := 230) dX6_twoOf_223 rfl rfl (fun c => ?_) (fun c => ?_)
      · replace h := ah_ip c h
        refine ro_iconst (pc' := 231) dX6_twoOf_230 ic_0 rfl ?_
        obtain rfl := Option.some.inj h
        exact ro_iret hκ dX6_twoOf_231
      · replace h := ah_in_ c h
        refine ro_iconst (pc' := 227) dX6_twoOf_226 ic_1 rfl ?_
        refine ro_goto (tgt := 231) dX6_twoOf_227 rfl ?_
        obtain rfl := Option.some.inj h
        exact ro_iret hκ dX6_twoOf_231
  replace h := ah_in_ c1_15 h
  by_cases c1_16 : x0 = (53 : Int32)
  · replace h := ah_ip c1_16 h
    refine ro_tabIn (tgt := 218) 16 c1_16 dX6_twoOf_1 (by decide) (by decide) rfl rfl ?_
    refine ro_iload_n (pc' := 219) dX6_twoOf_218 rfl rfl rfl ?_
    refine ro_if_ne (pc' := 222) (tgt := 226) dX6_twoOf_219 rfl rfl (fun c => ?_) (fun c => ?_)
    · replace h := ah_in_ c h
      refine ro_iconst (pc' := 227) dX6_twoOf_226 ic_1 rfl ?_
      refine ro_goto (tgt := 231) dX6_twoOf_227 rfl ?_
      obtain rfl := Option.some.inj h
      exact ro_iret hκ dX6_twoOf_231
    · replace h := ah_ip c h
      refine ro_iload_n (pc' := 223) dX6_twoOf_222 rfl rfl rfl ?_
      refine ro_if_eq (pc' := 226) (tgt := 230) dX6_twoOf_223 rfl rfl (fun c => ?_) (fun c => ?_)
      · replace h := ah_ip c h
        refine ro_iconst (pc' := 231) dX6_twoOf_230 ic_0 rfl ?_
        obtain rfl := Option.some.inj h
        exact ro_iret hκ dX6_twoOf_231
      · replace h := ah_in_ c h
        refine ro_iconst (pc' := 227) dX6_twoOf_226 ic_1 rfl ?_
        refine ro_goto (tgt := 231) dX6_twoOf_227 rfl ?_
        obtain rfl := Option.some.inj h
        exact ro_iret hκ dX6_twoOf_231
  replace h := ah_in_ c1_16 h
  by_cases c1_17 : x0 = (54 : Int32)
  · replace h := ah_ip c1_17 h
    refine ro_tabIn (tgt := 218) 17 c1_17 dX6_twoOf_1 (by decide) (by decide) rfl rfl ?_
    refine ro_iload_n (pc' := 219) dX6_twoOf_218 rfl rfl rfl ?_
    refine ro_if_ne (pc' := 222) (tgt := 226) dX6_twoOf_219 rfl rfl (fun c => ?_) (fun c => ?_)
    · replace h := ah_in_ c h
      refine ro_iconst (pc' := 227) dX6_twoOf_226 ic_1 rfl ?_
      refine ro_goto (tgt := 231) dX6_twoOf_227 rfl ?_
      obtain rfl := Option.some.inj h
      exact ro_iret hκ dX6_twoOf_231
    · replace h := ah_ip c h
      refine ro_iload_n (pc' := 223) dX6_twoOf_222 rfl rfl rfl ?_
      refine ro_if_eq (pc' := 226) (tgt := 230) dX6_twoOf_223 rfl rfl (fun c => ?_) (fun c => ?_)
      · replace h := ah_ip c h
        refine ro_iconst (pc' := 231) dX6_twoOf_230 ic_0 rfl ?_
        obtain rfl := Option.some.inj h
        exact ro_iret hκ dX6_twoOf_231
      · replace h := ah_in_ c h
        refine ro_iconst (pc' := 227) dX6_twoOf_226 ic_1 rfl ?_
        refine ro_goto (tgt := 231) dX6_twoOf_227 rfl ?_
        obtain rfl := Option.some.inj h
        exact ro_iret hκ dX6_twoOf_231
  replace h := ah_in_ c1_17 h
  by_cases c1_18 : x0 = (55 : Int32)
  · replace h := ah_ip c1_18 h
    refine ro_tabIn (tgt := 218) 18 c1_18 dX6_twoOf_1 (by decide) (by decide) rfl rfl ?_
    refine ro_iload_n (pc' := 219) dX6_twoOf_218 rfl rfl rfl ?_
    refine ro_if_ne (pc' := 222) (tgt := 226) dX6_twoOf_219 rfl rfl (fun c => ?_) (fun c => ?_)
    · replace h := ah_in_ c h
      refine ro_iconst (pc' := 227) dX6_twoOf_226 ic_1 rfl ?_
      refine ro_goto (tgt := 231) dX6_twoOf_227 rfl ?_
      obtain rfl := Option.some.inj h
      exact ro_iret hκ dX6_twoOf_231
    · replace h := ah_ip c h
      refine ro_iload_n (pc' := 223) dX6_twoOf_222 rfl rfl rfl ?_
      refine ro_if_eq (pc' := 226) (tgt := 230) dX6_twoOf_223 rfl rfl (fun c => ?_) (fun c => ?_)
      · replace h := ah_ip c h
        refine ro_iconst (pc' := 231) dX6_twoOf_230 ic_0 rfl ?_
        obtain rfl := Option.some.inj h
        exact ro_iret hκ dX6_twoOf_231
      · replace h := ah_in_ c h
        refine ro_iconst (pc' := 227) dX6_twoOf_226 ic_1 rfl ?_
        refine ro_goto (tgt := 231) dX6_twoOf_227 rfl ?_
        obtain rfl := Option.some.inj h
        exact ro_iret hκ dX6_twoOf_231
  replace h := ah_in_ c1_18 h
  by_cases c1_19 : x0 = (56 : Int32)
  · replace h := ah_ip c1_19 h
    refine ro_tabIn (tgt := 218) 19 c1_19 dX6_twoOf_1 (by decide) (by decide) rfl rfl ?_
    refine ro_iload_n (pc' := 219) dX6_twoOf_218 rfl rfl rfl ?_
    refine ro_if_ne (pc' := 222) (tgt := 226) dX6_twoOf_219 rfl rfl (fun c => ?_) (fun c => ?_)
    · replace h := ah_in_ c h
      refine ro_iconst (pc' := 227) dX6_twoOf_226 ic_1 rfl ?_
      refine ro_goto (tgt := 231) dX6_twoOf_227 rfl ?_
      obtain rfl := Option.some.inj h
      exact ro_iret hκ dX6_twoOf_231
    · replace h := ah_ip c h
      refine ro_iload_n (pc' := 223) dX6_twoOf_222 rfl rfl rfl ?_
      refine ro_if_eq (pc' := 226) (tgt := 230) dX6_twoOf_223 rfl rfl (fun c => ?_) (fun c => ?_)
      · replace h := ah_ip c h
        refine ro_iconst (pc' := 231) dX6_twoOf_230 ic_0 rfl ?_
        obtain rfl := Option.some.inj h
        exact ro_iret hκ dX6_twoOf_231
      · replace h := ah_in_ c h
        refine ro_iconst (pc' := 227) dX6_twoOf_226 ic_1 rfl ?_
        refine ro_goto (tgt := 231) dX6_twoOf_227 rfl ?_
        obtain rfl := Option.some.inj h
        exact ro_iret hκ dX6_twoOf_231
  replace h := ah_in_ c1_19 h
  by_cases c1_20 : x0 = (57 : Int32)
  · replace h := ah_ip c1_20 h
    refine ro_tabIn (tgt := 218) 20 c1_20 dX6_twoOf_1 (by decide) (by decide) rfl rfl ?_
    refine ro_iload_n (pc' := 219) dX6_twoOf_218 rfl rfl rfl ?_
    refine ro_if_ne (pc' := 222) (tgt := 226) dX6_twoOf_219 rfl rfl (fun c => ?_) (fun c => ?_)
    · replace h := ah_in_ c h
      refine ro_iconst (pc' := 227) dX6_twoOf_226 ic_1 rfl ?_
      refine ro_goto (tgt := 231) dX6_twoOf_227 rfl ?_
      obtain rfl := Option.some.inj h
      exact ro_iret hκ dX6_twoOf_231
    · replace h := ah_ip c h
      refine ro_iload_n (pc' := 223) dX6_twoOf_222 rfl rfl rfl ?_
      refine ro_if_eq (pc' := 226) (tgt := 230) dX6_twoOf_223 rfl rfl (fun c => ?_) (fun c => ?_)
      · replace h := ah_ip c h
        refine ro_iconst (pc' := 231) dX6_twoOf_230 ic_0 rfl ?_
        obtain rfl := Option.some.inj h
        exact ro_iret hκ dX6_twoOf_231
      · replace h := ah_in_ c h
        refine ro_iconst (pc' := 227) dX6_twoOf_226 ic_1 rfl ?_
        refine ro_goto (tgt := 231) dX6_twoOf_227 rfl ?_
        obtain rfl := Option.some.inj h
        exact ro_iret hκ dX6_twoOf_231
  replace h := ah_in_ c1_20 h
  by_cases c1_21 : x0 = (58 : Int32)
  · replace h := ah_ip c1_21 h
    refine ro_tabIn (tgt := 218) 21 c1_21 dX6_twoOf_1 (by decide) (by decide) rfl rfl ?_
    refine ro_iload_n (pc' := 219) dX6_twoOf_218 rfl rfl rfl ?_
    refine ro_if_ne (pc' := 222) (tgt := 226) dX6_twoOf_219 rfl rfl (fun c => ?_) (fun c => ?_)
    · replace h := ah_in_ c h
      refine ro_iconst (pc' := 227) dX6_twoOf_226 ic_1 rfl ?_
      refine ro_goto (tgt := 231) dX6_twoOf_227 rfl ?_
      obtain rfl := Option.some.inj h
      exact ro_iret hκ dX6_twoOf_231
    · replace h := ah_ip c h
      refine ro_iload_n (pc' := 223) dX6_twoOf_222 rfl rfl rfl ?_
      refine ro_if_eq (pc' := 226) (tgt := 230) dX6_twoOf_223 rfl rfl (fun c => ?_) (fun c => ?_)
      · replace h := ah_ip c h
        refine ro_iconst (pc' := 231) dX6_twoOf_230 ic_0 rfl ?_
        obtain rfl := Option.some.inj h
        exact ro_iret hκ dX6_twoOf_231
      · replace h := ah_in_ c h
        refine ro_iconst (pc' := 227) dX6_twoOf_226 ic_1 rfl ?_
        refine ro_goto (tgt := 231) dX6_twoOf_227 rfl ?_
        obtain rfl := Option.some.inj h
        exact ro_iret hκ dX6_twoOf_231
  replace h := ah_in_ c1_21 h
  by_cases c1_22 : x0 = (59 : Int32)
  · replace h := ah_ip c1_22 h
    refine ro_tabIn (tgt := 218) 22 c1_22 dX6_twoOf_1 (by decide) (by decide) rfl rfl ?_
    refine ro_iload_n (pc' := 219) dX6_twoOf_218 rfl rfl rfl ?_
    refine ro_if_ne (pc' := 222) (tgt := 226) dX6_twoOf_219 rfl rfl (fun c => ?_) (fun c => ?_)
    · replace h := ah_in_ c h
      refine ro_iconst (pc' := 227) dX6_twoOf_226 ic_1 rfl ?_
      refine ro_goto (tgt := 231) dX6_twoOf_227 rfl ?_
      obtain rfl := Option.some.inj h
      exact ro_iret hκ dX6_twoOf_231
    · replace h := ah_ip c h
      refine ro_iload_n (pc' := 223) dX6_twoOf_222 rfl rfl rfl ?_
      refine ro_if_eq (pc' := 226) (tgt := 230) dX6_twoOf_223 rfl rfl (fun c => ?_) (fun c => ?_)
      · replace h := ah_ip c h
        refine ro_iconst (pc' := 231) dX6_twoOf_230 ic_0 rfl ?_
        obtain rfl := Option.some.inj h
        exact ro_iret hκ dX6_twoOf_231
      · replace h := ah_in_ c h
        refine ro_iconst (pc' := 227) dX6_twoOf_226 ic_1 rfl ?_
        refine ro_goto (tgt := 231) dX6_twoOf_227 rfl ?_
        obtain rfl := Option.some.inj h
        exact ro_iret hκ dX6_twoOf_231
  replace h := ah_in_ c1_22 h
  by_cases c1_23 : x0 = (60 : Int32)
  · replace h := ah_ip c1_23 h
    refine ro_tabIn (tgt := 171) 23 c1_23 dX6_twoOf_1 (by decide) (by decide) rfl rfl ?_
    refine ro_iload_n (pc' := 172) dX6_twoOf_171 rfl rfl rfl ?_
    refine ro_iload_n (pc' := 173) dX6_twoOf_172 rfl rfl rfl ?_
    refine ro_icmp_ge (pc' := 176) (tgt := 180) dX6_twoOf_173 rfl rfl (fun c => ?_) (fun c => ?_)
    · replace h := ah_ip c h
      refine ro_iconst (pc' := 181) dX6_twoOf_180 ic_0 rfl ?_
      obtain rfl := Option.some.inj h
      exact ro_iret hκ dX6_twoOf_181
    · replace h := ah_in_ c h
      refine ro_iconst (pc' := 177) dX6_twoOf_176 ic_1 rfl ?_
      refine ro_goto (tgt := 181) dX6_twoOf_177 rfl ?_
      obtain rfl := Option.some.inj h
      exact ro_iret hκ dX6_twoOf_181
  replace h := ah_in_ c1_23 h
  by_cases c1_24 : x0 = (61 : Int32)
  · replace h := ah_ip c1_24 h
    refine ro_tabIn (tgt := 182) 24 c1_24 dX6_twoOf_1 (by decide) (by decide) rfl rfl ?_
    refine ro_iload_n (pc' := 183) dX6_twoOf_182 rfl rfl rfl ?_
    refine ro_iload_n (pc' := 184) dX6_twoOf_183 rfl rfl rfl ?_
    refine ro_icmp_ne (pc' := 187) (tgt := 191) dX6_twoOf_184 rfl rfl (fun c => ?_) (fun c => ?_)
    · replace h := ah_in_ c h
      refine ro_iconst (pc' := 192) dX6_twoOf_191 ic_0 rfl ?_
      obtain rfl := Option.some.inj h
      exact ro_iret hκ dX6_twoOf_192
    · replace h := ah_ip c h
      refine ro_iconst (pc' := 188) dX6_twoOf_187 ic_1 rfl ?_
      refine ro_goto (tgt := 192) dX6_twoOf_188 rfl ?_
      obtain rfl := Option.some.inj h
      exact ro_iret hκ dX6_twoOf_192
  replace h := ah_in_ c1_24 h
  by_cases c1_25 : x0 = (62 : Int32)
  · replace h := ah_ip c1_25 h
    refine ro_tabIn (tgt := 193) 25 c1_25 dX6_twoOf_1 (by decide) (by decide) rfl rfl ?_
    refine ro_iload_n (pc' := 194) dX6_twoOf_193 rfl rfl rfl ?_
    refine ro_iload_n (pc' := 195) dX6_twoOf_194 rfl rfl rfl ?_
    refine ro_icmp_le (pc' := 198) (tgt := 202) dX6_twoOf_195 rfl rfl (fun c => ?_) (fun c => ?_)
    · replace h := ah_ip c h
      refine ro_iconst (pc' := 203) dX6_twoOf_202 ic_0 rfl ?_
      obtain rfl := Option.some.inj h
      exact ro_iret hκ dX6_twoOf_203
    · replace h := ah_in_ c h
      refine ro_iconst (pc' := 199) dX6_twoOf_198 ic_1 rfl ?_
      refine ro_goto (tgt := 203) dX6_twoOf_199 rfl ?_
      obtain rfl := Option.some.inj h
      exact ro_iret hκ dX6_twoOf_203
  replace h := ah_in_ c1_25 h
  refine ro_tabOut (tgt := 218) dX6_twoOf_1 (by have e0 := lv_neT (a := 37) c1_0 (by decide); have e1 := lv_neT (a := 38) c1_1 (by decide); have e2 := lv_neT (a := 39) c1_2 (by decide); have e3 := lv_neT (a := 40) c1_3 (by decide); have e4 := lv_neT (a := 41) c1_4 (by decide); have e5 := lv_neT (a := 42) c1_5 (by decide); have e6 := lv_neT (a := 43) c1_6 (by decide); have e7 := lv_neT (a := 44) c1_7 (by decide); have e8 := lv_neT (a := 45) c1_8 (by decide); have e9 := lv_neT (a := 46) c1_9 (by decide); have e10 := lv_neT (a := 47) c1_10 (by decide); have e11 := lv_neT (a := 48) c1_11 (by decide); have e12 := lv_neT (a := 49) c1_12 (by decide); have e13 := lv_neT (a := 50) c1_13 (by decide); have e14 := lv_neT (a := 51) c1_14 (by decide); have e15 := lv_neT (a := 52) c1_15 (by decide); have e16 := lv_neT (a := 53) c1_16 (by decide); have e17 := lv_neT (a := 54) c1_17 (by decide); have e18 := lv_neT (a := 55) c1_18 (by decide); have e19 := lv_neT (a := 56) c1_19 (by decide); have e20 := lv_neT (a := 57) c1_20 (by decide); have e21 := lv_neT (a := 58) c1_21 (by decide); have e22 := lv_neT (a := 59) c1_22 (by decide); have e23 := lv_neT (a := 60) c1_23 (by decide); have e24 := lv_neT (a := 61) c1_24 (by decide); have e25 := lv_neT (a := 62) c1_25 (by decide); omega) rfl ?_
  refine ro_iload_n (pc' := 219) dX6_twoOf_218 rfl rfl rfl ?_
  refine ro_if_ne (pc' := 222) (tgt := 226) dX6_twoOf_219 rfl rfl (fun c => ?_) (fun c => ?_)
  · replace h := ah_in_ c h
    refine ro_iconst (pc' := 227) dX6_twoOf_226 ic_1 rfl ?_
    refine ro_goto (tgt := 231) dX6_twoOf_227 rfl ?_
    obtain rfl := Option.some.inj h
    exact ro_iret hκ dX6_twoOf_231
  · replace h := ah_ip c h
    refine ro_iload_n (pc' := 223) dX6_twoOf_222 rfl rfl rfl ?_
    refine ro_if_eq (pc' := 226) (tgt := 230) dX6_twoOf_223 rfl rfl (fun c => ?_) (fun c => ?_)
    · replace h := ah_ip c h
      refine ro_iconst (pc' := 231) dX6_twoOf_230 ic_0 rfl ?_
      obtain rfl := Option.some.inj h
      exact ro_iret hκ dX6_twoOf_231
    · replace h := ah_in_ c h
      refine ro_iconst (pc' := 227) dX6_twoOf_226 ic_1 rfl ?_
      refine ro_goto (tgt := 231) dX6_twoOf_227 rfl ?_
      obtain rfl := Option.some.inj h
      exact ro_iret hκ dX6_twoOf_231
theorem M_X6_twoOf {l : Launch} {D : ah_D}  {σ : ah_S} {x0 : Int32} {x1 : Int32} {x2 : Int32} {v : Int32} {σ1 : ah_S} (h : F_X6_twoOf σ x0 x1 x2 = some (v, σ1)) : ah_Met l yX6_twoOf (Cond.code yX6_twoOf cX6_twoOf 3 (some FieldType.int)) 1 24 D [.int x0, .int x1, .int x2] σ (.returned (some (.int v)), σ1) :=
  ah_ofG (own := "LeftAsFoundModel") (nm := "twoOf") (L0 := [some (.int x0), some (.int x1), some (.int x2)]) (by decide) rfl rfl rfl (ah_ao_1 rfl (ah_ao_1 rfl (ah_ao_1 rfl ah_ao_0))) (fun κ hκ => W_X6_twoOf hκ  σ x0 x1 x2 h)
set_option maxRecDepth 20000 in
set_option maxHeartbeats 4000000 in
theorem W_X6_worked_45 {κ : ah_C} {rr : (Int32 × ah_S)} (hκ : ah_res κ = (.returned (some (.int rr.1)), rr.2))  {k12 : ah_S → Option Nat → Int32 → Int32 → Int32 → Int32 → Option (Int32 × ah_S)} (hk12 : ∀ (σ : ah_S) (r0 : Option Nat) (x1 : Int32) (x3 : Int32) (x4 : Int32) (x5 : Int32), k12 σ r0 x1 x3 x4 x5 = some rr → ah_G κ ("LeftAsFoundModel", "worked", 7, (some FieldType.int), [], 2, 46) cX6_worked σ 12 [some (va_rf r0), some (.int x1), none, some (.int x3), some (.int x4), some (.int x5), none] []) : ∀ (σ : ah_S) (r0 : Option Nat) (x1 : Int32) (x3 : Int32) (x4 : Int32) (x5 : Int32) (x6 : Int32), F_X6_worked_45 k12 σ r0 x1 x3 x4 x5 x6 = some rr → ah_G κ ("LeftAsFoundModel", "worked", 7, (some FieldType.int), [], 2, 46) cX6_worked σ 45 [some (va_rf r0), some (.int x1), none, some (.int x3), some (.int x4), some (.int x5), some (.int x6)] [] := by
  intro σ r0 x1 x3 x4 x5 x6 h
  unfold F_X6_worked_45 at h
  refine ro_aload_n (pc' := 46) dX6_worked_45 rfl rfl rfl ?_
  obtain ⟨v1, hv1, h⟩ := ah_bs h
  refine ro_getR (pc' := 49) ft_630 fk_630 q1338 dX6_worked_46 rfl hv1 ?_
  refine ro_iload (pc' := 51) dX6_worked_49 rfl rfl ?_
  refine ro_iload (pc' := 53) dX6_worked_51 rfl rfl ?_
  refine ro_iconst (pc' := 54) dX6_worked_53 ic_1 rfl ?_
  refine ro_icmp_ne (pc' := 57) (tgt := 67) dX6_worked_54 rfl rfl (fun c => ?_) (fun c => ?_)
  · replace h := ah_in_ c h
    refine ro_aload_n (pc' := 68) dX6_worked_67 rfl rfl rfl ?_
    obtain ⟨v2, hv2, h⟩ := ah_bs h
    refine ro_getR (pc' := 71) ft_629 fk_629 q1337 dX6_worked_68 rfl hv2 ?_
    refine ro_aload_n (pc' := 72) dX6_worked_71 rfl rfl rfl ?_
    obtain ⟨v3, hv3, h⟩ := ah_bs h
    refine ro_getR (pc' := 75) ft_625 fk_625 q1333 dX6_worked_72 rfl hv3 ?_
    refine ro_iload (pc' := 77) dX6_worked_75 rfl rfl ?_
    obtain ⟨v4, hv4, h⟩ := ah_bs h
    refine ro_iaload (pc' := 78) dX6_worked_77 rfl hv4 ?_
    obtain ⟨v5, hv5, h⟩ := ah_bs h
    refine ro_iaload (pc' := 79) dX6_worked_78 rfl hv5 ?_
    obtain ⟨σ6, hσ6, h⟩ := ah_bs h
    refine ro_iastore (pc' := 80) dX6_worked_79 rfl hσ6 ?_
    refine ro_iinc (pc' := 83) (L' := [some (va_rf r0), some (.int x1), none, some (.int x3), some (.int (x4 + (1 : Int32))), some (.int x5), some (.int x6)]) dX6_worked_80 rfl ic_1 (Nat.le_of_ble_eq_true rfl) rfl (ah_okp_i _) rfl ?_
    refine ro_goto (tgt := 182) dX6_worked_83 rfl ?_
    refine ro_iinc (pc' := 185) (L' := [some (va_rf r0), some (.int x1), none, some (.int x3), some (.int (x4 + (1 : Int32))), some (.int (x5 + (1 : Int32))), some (.int x6)]) dX6_worked_182 rfl ic_1 (Nat.le_of_ble_eq_true rfl) rfl (ah_okp_i _) rfl ?_
    refine ro_goto (tgt := 12) dX6_worked_185 rfl ?_
    refine ro_weak (L' := [some (va_rf r0), some (.int x1), none, some (.int x3), some (.int (x4 + (1 : Int32))), some (.int (x5 + (1 : Int32))), none]) (ah_ls_s (ah_ls_s (ah_ls_s (ah_ls_s (ah_ls_s (ah_ls_s (ah_ls_n ah_ls_0))))))) ?_
    exact hk12 _ _ _ _ _ _ h
  · replace h := ah_ip c h
    refine ro_aload_n (pc' := 58) dX6_worked_57 rfl rfl rfl ?_
    obtain ⟨v7, hv7, h⟩ := ah_bs h
    refine ro_getR (pc' := 61) ft_625 fk_625 q1333 dX6_worked_58 rfl hv7 ?_
    refine ro_iload (pc' := 63) dX6_worked_61 rfl rfl ?_
    obtain ⟨v8, hv8, h⟩ := ah_bs h
    refine ro_iaload (pc' := 64) dX6_worked_63 rfl hv8 ?_
    refine ro_goto (tgt := 79) dX6_worked_64 rfl ?_
    obtain ⟨σ9, hσ9, h⟩ := ah_bs h
    refine ro_iastore (pc' := 80) dX6_worked_79 rfl hσ9 ?_
    refine ro_iinc (pc' := 83) (L' := [some (va_rf r0), some (.int x1), none, some (.int x3), some (.int (x4 + (1 : Int32))), some (.int x5), some (.int x6)]) dX6_worked_80 rfl ic_1 (Nat.le_of_ble_eq_true rfl) rfl (ah_okp_i _) rfl ?_
    refine ro_goto (tgt := 182) dX6_worked_83 rfl ?_
    refine ro_iinc (pc' := 185) (L' := [some (va_rf r0), some (.int x1), none, some (.int x3), some (.int (x4 + (1 : Int32))), some (.int (x5 + (1 : Int32))), some (.int x6)]) dX6_worked_182 rfl ic_1 (Nat.le_of_ble_eq_true rfl) rfl (ah_okp_i _) rfl ?_
    refine ro_goto (tgt := 12) dX6_worked_185 rfl ?_
    refine ro_weak (L' := [some (va_rf r0), some (.int x1), none, some (.int x3), some (.int (x4 + (1 : Int32))), some (.int (x5 + (1 : Int32))), none]) (ah_ls_s (ah_ls_s (ah_ls_s (ah_ls_s (ah_ls_s (ah_ls_s (ah_ls_n ah_ls_0))))))) ?_
    exact hk12 _ _ _ _ _ _ h
set_option maxRecDepth 20000 in
set_option maxHeartbeats 4000000 in
theorem W_X6_worked_12 {κ : ah_C} {rr : (Int32 × ah_S)} (hκ : ah_res κ = (.returned (some (.int rr.1)), rr.2))    : ∀ (n : Nat) (σ : ah_S) (r0 : Option Nat) (x1 : Int32) (x3 : Int32) (x4 : Int32) (x5 : Int32), F_X6_worked_12 n σ r0 x1 x3 x4 x5 = some rr → ah_G κ ("LeftAsFoundModel", "worked", 7, (some FieldType.int), [], 2, 46) cX6_worked σ 12 [some (va_rf r0), some (.int x1), none, some (.int x3), some (.int x4), some (.int x5), none] [] := by
  intro n
  induction n with
  | zero => intro σ r0 x1 x3 x4 x5 h; cases h
  | succ n ih =>
    intro σ r0 x1 x3 x4 x5 h
    rw [F_X6_worked_12] at h
    refine ro_iload (pc' := 14) dX6_worked_12 rfl rfl ?_
    refine ro_sipush (pc' := 17) dX6_worked_14 is_130 rfl ?_
    refine ro_iload_n (pc' := 18) dX6_worked_17 rfl rfl rfl ?_
    refine ro_imul (pc' := 19) dX6_worked_18 rfl ?_
    refine ro_iload_n (pc' := 20) dX6_worked_19 rfl rfl rfl ?_
    refine ro_iadd (pc' := 21) dX6_worked_20 rfl ?_
    refine ro_icmp_ge (pc' := 24) (tgt := 188) dX6_worked_21 rfl rfl (fun c => ?_) (fun c => ?_)
    · replace h := ah_ip c h
      refine ro_aload_n (pc' := 189) dX6_worked_188 rfl rfl rfl ?_
      obtain ⟨v1, hv1, h⟩ := ah_bs h
      refine ro_getR (pc' := 192) ft_630 fk_630 q1338 dX6_worked_189 rfl hv1 ?_
      refine ro_iconst (pc' := 193) dX6_worked_192 ic_0 rfl ?_
      obtain ⟨v2, hv2, h⟩ := ah_bs h
      refine ro_iaload (pc' := 194) dX6_worked_193 rfl hv2 ?_
      obtain rfl := Option.some.inj h
      exact ro_iret hκ dX6_worked_194
    · replace h := ah_in_ c h
      refine ro_aload_n (pc' := 25) dX6_worked_24 rfl rfl rfl ?_
      obtain ⟨v3, hv3, h⟩ := ah_bs h
      refine ro_getR (pc' := 28) ft_624 fk_624 q1332 dX6_worked_25 rfl hv3 ?_
      refine ro_iload (pc' := 30) dX6_worked_28 rfl rfl ?_
      obtain ⟨v4, hv4, h⟩ := ah_bs h
      refine ro_baload (pc' := 31) dX6_worked_30 rfl hv4 ?_
      refine ro_istore (pc' := 33) (L' := [some (va_rf r0), some (.int x1), none, some (.int x3), some (.int x4), some (.int x5), some (.int v4)]) dX6_worked_31 (Nat.le_of_ble_eq_true rfl) rfl (ah_okp_i _) rfl ?_
      refine ro_iload (pc' := 35) dX6_worked_33 rfl rfl ?_
      refine ro_iconst (pc' := 36) dX6_worked_35 ic_1 rfl ?_
      refine ro_icmp_eq (pc' := 39) (tgt := 45) dX6_worked_36 rfl rfl (fun c => ?_) (fun c => ?_)
      · replace h := ah_ip c h
        exact W_X6_worked_45 hκ ih _ _ _ _ _ _ _ h
      · replace h := ah_in_ c h
        refine ro_iload (pc' := 41) dX6_worked_39 rfl rfl ?_
        refine ro_iconst (pc' := 42) dX6_worked_41 ic_2 rfl ?_
        refine ro_icmp_ne (pc' := 45) (tgt := 86) dX6_worked_42 rfl rfl (fun c => ?_) (fun c => ?_)
        · replace h := ah_in_ c h
          refine ro_iload (pc' := 88) dX6_worked_86 rfl rfl ?_
          refine ro_iconst (pc' := 89) dX6_worked_88 ic_3 rfl ?_
          refine ro_icmp_ne (pc' := 92) (tgt := 121) dX6_worked_89 rfl rfl (fun c => ?_) (fun c => ?_)
          · replace h := ah_in_ c h
            refine ro_iload (pc' := 123) dX6_worked_121 rfl rfl ?_
            refine ro_iconst (pc' := 124) dX6_worked_123 ic_4 rfl ?_
            refine ro_icmp_ne (pc' := 127) (tgt := 149) dX6_worked_124 rfl rfl (fun c => ?_) (fun c => ?_)
            · replace h := ah_in_ c h
              refine ro_iinc (pc' := 152) (L' := [some (va_rf r0), some (.int x1), none, some (.int x3), some (.int (x4 + (-1 : Int32))), some (.int x5), some (.int v4)]) dX6_worked_149 rfl ic_m1 (Nat.le_of_ble_eq_true rfl) rfl (ah_okp_i _) rfl ?_
              refine ro_aload_n (pc' := 153) dX6_worked_152 rfl rfl rfl ?_
              obtain ⟨v5, hv5, h⟩ := ah_bs h
              refine ro_getR (pc' := 156) ft_630 fk_630 q1338 dX6_worked_153 rfl hv5 ?_
              refine ro_iload (pc' := 158) dX6_worked_156 rfl rfl ?_
              refine ro_iconst (pc' := 159) dX6_worked_158 ic_1 rfl ?_
              refine ro_isub (pc' := 160) dX6_worked_159 rfl ?_
              refine ro_iload (pc' := 162) dX6_worked_160 rfl rfl ?_
              refine ro_aload_n (pc' := 163) dX6_worked_162 rfl rfl rfl ?_
              obtain ⟨v6, hv6, h⟩ := ah_bs h
              refine ro_getR (pc' := 166) ft_630 fk_630 q1338 dX6_worked_163 rfl hv6 ?_
              refine ro_iload (pc' := 168) dX6_worked_166 rfl rfl ?_
              refine ro_iconst (pc' := 169) dX6_worked_168 ic_1 rfl ?_
              refine ro_isub (pc' := 170) dX6_worked_169 rfl ?_
              obtain ⟨v7, hv7, h⟩ := ah_bs h
              refine ro_iaload (pc' := 171) dX6_worked_170 rfl hv7 ?_
              refine ro_aload_n (pc' := 172) dX6_worked_171 rfl rfl rfl ?_
              obtain ⟨v8, hv8, h⟩ := ah_bs h
              refine ro_getR (pc' := 175) ft_630 fk_630 q1338 dX6_worked_172 rfl hv8 ?_
              refine ro_iload (pc' := 177) dX6_worked_175 rfl rfl ?_
              obtain ⟨v9, hv9, h⟩ := ah_bs h
              refine ro_iaload (pc' := 178) dX6_worked_177 rfl hv9 ?_
              obtain ⟨v10, σ11, hv10, h⟩ := ah_bs2 h
              refine ro_callS (pc' := 181) (As := [.int v4, .int v7, .int v9]) (rest := [.int ((x4 + (-1 : Int32)) - (1 : Int32)), va_rf v5]) (st' := [.int v10, .int ((x4 + (-1 : Int32)) - (1 : Int32)), va_rf v5]) q1661 (M_X6_twoOf hv10) q1660 q1662 q104 dd_X6_twoOf rfl ⟨Nat.le_of_ble_eq_true rfl, Nat.le_of_ble_eq_true rfl⟩ (by simp only [List.map_cons, List.map_nil, List.sum_cons, List.sum_nil, ah_rf_cat, ah_cat_i, ah_cat_l]; decide) dX6_worked_178 rfl rfl rfl ?_
              obtain ⟨σ12, hσ12, h⟩ := ah_bs h
              refine ro_iastore (pc' := 182) dX6_worked_181 rfl hσ12 ?_
              refine ro_iinc (pc' := 185) (L' := [some (va_rf r0), some (.int x1), none, some (.int x3), some (.int (x4 + (-1 : Int32))), some (.int (x5 + (1 : Int32))), some (.int v4)]) dX6_worked_182 rfl ic_1 (Nat.le_of_ble_eq_true rfl) rfl (ah_okp_i _) rfl ?_
              refine ro_goto (tgt := 12) dX6_worked_185 rfl ?_
              refine ro_weak (L' := [some (va_rf r0), some (.int x1), none, some (.int x3), some (.int (x4 + (-1 : Int32))), some (.int (x5 + (1 : Int32))), none]) (ah_ls_s (ah_ls_s (ah_ls_s (ah_ls_s (ah_ls_s (ah_ls_s (ah_ls_n ah_ls_0))))))) ?_
              exact ih _ _ _ _ _ _ h
            · replace h := ah_ip c h
              refine ro_aload_n (pc' := 128) dX6_worked_127 rfl rfl rfl ?_
              obtain ⟨v13, hv13, h⟩ := ah_bs h
              refine ro_getR (pc' := 131) ft_630 fk_630 q1338 dX6_worked_128 rfl hv13 ?_
              refine ro_iload (pc' := 133) dX6_worked_131 rfl rfl ?_
              refine ro_iconst (pc' := 134) dX6_worked_133 ic_1 rfl ?_
              refine ro_isub (pc' := 135) dX6_worked_134 rfl ?_
              refine ro_aload_n (pc' := 136) dX6_worked_135 rfl rfl rfl ?_
              obtain ⟨v14, hv14, h⟩ := ah_bs h
              refine ro_getR (pc' := 139) ft_630 fk_630 q1338 dX6_worked_136 rfl hv14 ?_
              refine ro_iload (pc' := 141) dX6_worked_139 rfl rfl ?_
              refine ro_iconst (pc' := 142) dX6_worked_141 ic_1 rfl ?_
              refine ro_isub (pc' := 143) dX6_worked_142 rfl ?_
              obtain ⟨v15, hv15, h⟩ := ah_bs h
              refine ro_iaload (pc' := 144) dX6_worked_143 rfl hv15 ?_
              refine ro_ineg (pc' := 145) dX6_worked_144 rfl ?_
              obtain ⟨σ16, hσ16, h⟩ := ah_bs h
              refine ro_iastore (pc' := 146) dX6_worked_145 rfl hσ16 ?_
              refine ro_goto (tgt := 182) dX6_worked_146 rfl ?_
              refine ro_iinc (pc' := 185) (L' := [some (va_rf r0), some (.int x1), none, some (.int x3), some (.int x4), some (.int (x5 + (1 : Int32))), some (.int v4)]) dX6_worked_182 rfl ic_1 (Nat.le_of_ble_eq_true rfl) rfl (ah_okp_i _) rfl ?_
              refine ro_goto (tgt := 12) dX6_worked_185 rfl ?_
              refine ro_weak (L' := [some (va_rf r0), some (.int x1), none, some (.int x3), some (.int x4), some (.int (x5 + (1 : Int32))), none]) (ah_ls_s (ah_ls_s (ah_ls_s (ah_ls_s (ah_ls_s (ah_ls_s (ah_ls_n ah_ls_0))))))) ?_
              exact ih _ _ _ _ _ _ h
          · replace h := ah_ip c h
            refine ro_aload_n (pc' := 93) dX6_worked_92 rfl rfl rfl ?_
            obtain ⟨v17, hv17, h⟩ := ah_bs h
            refine ro_getR (pc' := 96) ft_630 fk_630 q1338 dX6_worked_93 rfl hv17 ?_
            refine ro_iload (pc' := 98) dX6_worked_96 rfl rfl ?_
            refine ro_iconst (pc' := 99) dX6_worked_98 ic_1 rfl ?_
            refine ro_isub (pc' := 100) dX6_worked_99 rfl ?_
            refine ro_aload_n (pc' := 101) dX6_worked_100 rfl rfl rfl ?_
            obtain ⟨v18, hv18, h⟩ := ah_bs h
            refine ro_getR (pc' := 104) ft_630 fk_630 q1338 dX6_worked_101 rfl hv18 ?_
            refine ro_iload (pc' := 106) dX6_worked_104 rfl rfl ?_
            refine ro_iconst (pc' := 107) dX6_worked_106 ic_1 rfl ?_
            refine ro_isub (pc' := 108) dX6_worked_107 rfl ?_
            obtain ⟨v19, hv19, h⟩ := ah_bs h
            refine ro_iaload (pc' := 109) dX6_worked_108 rfl hv19 ?_
            refine ro_if_ne (pc' := 112) (tgt := 116) dX6_worked_109 rfl rfl (fun c => ?_) (fun c => ?_)
            · replace h := ah_in_ c h
              refine ro_iconst (pc' := 117) dX6_worked_116 ic_0 rfl ?_
              obtain ⟨σ20, hσ20, h⟩ := ah_bs h
              refine ro_iastore (pc' := 118) dX6_worked_117 rfl hσ20 ?_
              refine ro_goto (tgt := 182) dX6_worked_118 rfl ?_
              refine ro_iinc (pc' := 185) (L' := [some (va_rf r0), some (.int x1), none, some (.int x3), some (.int x4), some (.int (x5 + (1 : Int32))), some (.int v4)]) dX6_worked_182 rfl ic_1 (Nat.le_of_ble_eq_true rfl) rfl (ah_okp_i _) rfl ?_
              refine ro_goto (tgt := 12) dX6_worked_185 rfl ?_
              refine ro_weak (L' := [some (va_rf r0), some (.int x1), none, some (.int x3), some (.int x4), some (.int (x5 + (1 : Int32))), none]) (ah_ls_s (ah_ls_s (ah_ls_s (ah_ls_s (ah_ls_s (ah_ls_s (ah_ls_n ah_ls_0))))))) ?_
              exact ih _ _ _ _ _ _ h
            · replace h := ah_ip c h
              refine ro_iconst (pc' := 113) dX6_worked_112 ic_1 rfl ?_
              refine ro_goto (tgt := 117) dX6_worked_113 rfl ?_
              obtain ⟨σ21, hσ21, h⟩ := ah_bs h
              refine ro_iastore (pc' := 118) dX6_worked_117 rfl hσ21 ?_
              refine ro_goto (tgt := 182) dX6_worked_118 rfl ?_
              refine ro_iinc (pc' := 185) (L' := [some (va_rf r0), some (.int x1), none, some (.int x3), some (.int x4), some (.int (x5 + (1 : Int32))), some (.int v4)]) dX6_worked_182 rfl ic_1 (Nat.le_of_ble_eq_true rfl) rfl (ah_okp_i _) rfl ?_
              refine ro_goto (tgt := 12) dX6_worked_185 rfl ?_
              refine ro_weak (L' := [some (va_rf r0), some (.int x1), none, some (.int x3), some (.int x4), some (.int (x5 + (1 : Int32))), none]) (ah_ls_s (ah_ls_s (ah_ls_s (ah_ls_s (ah_ls_s (ah_ls_s (ah_ls_n ah_ls_0))))))) ?_
              exact ih _ _ _ _ _ _ h
        · replace h := ah_ip c h
          exact W_X6_worked_45 hκ ih _ _ _ _ _ _ _ h
set_option maxRecDepth 20000 in
set_option maxHeartbeats 4000000 in
theorem W_X6_worked {κ : ah_C} {rr : (Int32 × ah_S)} (hκ : ah_res κ = (.returned (some (.int rr.1)), rr.2))  (σ : ah_S) (r0 : Option Nat) (x1 : Int32) (x2 : Int32) (x3 : Int32) (h : F_X6_worked σ r0 x1 x2 x3 = some rr) : ah_G κ ("LeftAsFoundModel", "worked", 7, (some FieldType.int), [], 2, 46) cX6_worked σ 0 [some (va_rf r0), some (.int x1), some (.int x2), some (.int x3), none, none, none] [] := by
  unfold F_X6_worked at h
  refine ro_iconst (pc' := 1) dX6_worked_0 ic_0 rfl ?_
  refine ro_istore (pc' := 3) (L' := [some (va_rf r0), some (.int x1), some (.int x2), some (.int x3), some (.int (0 : Int32)), none, none]) dX6_worked_1 (Nat.le_of_ble_eq_true rfl) rfl (ah_okp_i _) rfl ?_
  refine ro_sipush (pc' := 6) dX6_worked_3 is_130 rfl ?_
  refine ro_iload_n (pc' := 7) dX6_worked_6 rfl rfl rfl ?_
  refine ro_imul (pc' := 8) dX6_worked_7 rfl ?_
  refine ro_iload_n (pc' := 9) dX6_worked_8 rfl rfl rfl ?_
  refine ro_iadd (pc' := 10) dX6_worked_9 rfl ?_
  refine ro_istore (pc' := 12) (L' := [some (va_rf r0), some (.int x1), some (.int x2), some (.int x3), some (.int (0 : Int32)), some (.int (((130 : Int32) * x1) + x2)), none]) dX6_worked_10 (Nat.le_of_ble_eq_true rfl) rfl (ah_okp_i _) rfl ?_
  refine ro_weak (L' := [some (va_rf r0), some (.int x1), none, some (.int x3), some (.int (0 : Int32)), some (.int (((130 : Int32) * x1) + x2)), none]) (ah_ls_s (ah_ls_s (ah_ls_n (ah_ls_s (ah_ls_s (ah_ls_s (ah_ls_s ah_ls_0))))))) ?_
  exact W_X6_worked_12 hκ _ _ _ _ _ _ _ h
theorem M_X6_worked {l : Launch} {D : ah_D}  {σ : ah_S} {r0 : Option Nat} {x1 : Int32} {x2 : Int32} {x3 : Int32} {v : Int32} {σ1 : ah_S} (h : F_X6_worked σ r0 x1 x2 x3 = some (v, σ1)) : ah_Met l yX6_worked (Cond.code yX6_worked cX6_worked 7 (some FieldType.int)) 2 46 D [va_rf r0, .int x1, .int x2, .int x3] σ (.returned (some (.int v)), σ1) :=
  ah_ofG (own := "LeftAsFoundModel") (nm := "worked") (L0 := [some (va_rf r0), some (.int x1), some (.int x2), some (.int x3), none, none, none]) (by decide) rfl rfl rfl (ah_ao_1 (ah_rf_cat _) (ah_ao_1 rfl (ah_ao_1 rfl (ah_ao_1 rfl (ah_ao_n (ah_ao_n (ah_ao_n ah_ao_0))))))) (fun κ hκ => W_X6_worked hκ  σ r0 x1 x2 x3 h)
set_option maxRecDepth 20000 in
set_option maxHeartbeats 4000000 in
theorem W_X6_gives_7 {κ : ah_C} {rr : (Int32 × ah_S)} (hκ : ah_res κ = (.returned (some (.int rr.1)), rr.2))    : ∀ (n : Nat) (σ : ah_S) (r0 : Option Nat) (x1 : Int32) (x2 : Int32) (x3 : Int32), F_X6_gives_7 n σ r0 x1 x2 x3 = some rr → ah_G κ ("LeftAsFoundModel", "gives", 4, (some FieldType.int), [], 3, 72) cX6_gives σ 7 [some (va_rf r0), some (.int x1), some (.int x2), some (.int x3)] [] := by
  intro n
  induction n with
  | zero => intro σ r0 x1 x2 x3 h; cases h
  | succ n ih =>
    intro σ r0 x1 x2 x3 h
    rw [F_X6_gives_7] at h
    refine ro_iload_n (pc' := 8) dX6_gives_7 rfl rfl rfl ?_
    refine ro_bipush (pc' := 10) dX6_gives_8 ib_61 rfl ?_
    refine ro_iload_n (pc' := 11) dX6_gives_10 rfl rfl rfl ?_
    refine ro_imul (pc' := 12) dX6_gives_11 rfl ?_
    refine ro_aload_n (pc' := 13) dX6_gives_12 rfl rfl rfl ?_
    obtain ⟨v1, hv1, h⟩ := ah_bs h
    refine ro_getR (pc' := 16) ft_626 fk_626 q1334 dX6_gives_13 rfl hv1 ?_
    refine ro_iload_n (pc' := 17) dX6_gives_16 rfl rfl rfl ?_
    obtain ⟨v2, hv2, h⟩ := ah_bs h
    refine ro_iaload (pc' := 18) dX6_gives_17 rfl hv2 ?_
    refine ro_iadd (pc' := 19) dX6_gives_18 rfl ?_
    refine ro_icmp_ge (pc' := 22) (tgt := 78) dX6_gives_19 rfl rfl (fun c => ?_) (fun c => ?_)
    · replace h := ah_ip c h
      refine ro_iconst (pc' := 79) dX6_gives_78 ic_0 rfl ?_
      obtain rfl := Option.some.inj h
      exact ro_iret hκ dX6_gives_79
    · replace h := ah_in_ c h
      refine ro_aload_n (pc' := 23) dX6_gives_22 rfl rfl rfl ?_
      obtain ⟨v3, hv3, h⟩ := ah_bs h
      refine ro_getR (pc' := 26) ft_627 fk_627 q1335 dX6_gives_23 rfl hv3 ?_
      refine ro_iload_n (pc' := 27) dX6_gives_26 rfl rfl rfl ?_
      obtain ⟨v4, hv4, h⟩ := ah_bs h
      refine ro_saload (pc' := 28) dX6_gives_27 rfl hv4 ?_
      refine ro_iload_n (pc' := 29) dX6_gives_28 rfl rfl rfl ?_
      refine ro_icmp_eq (pc' := 32) (tgt := 47) dX6_gives_29 rfl rfl (fun c => ?_) (fun c => ?_)
      · replace h := ah_ip c h
        refine ro_aload_n (pc' := 48) dX6_gives_47 rfl rfl rfl ?_
        refine ro_iload_n (pc' := 49) dX6_gives_48 rfl rfl rfl ?_
        refine ro_aload_n (pc' := 50) dX6_gives_49 rfl rfl rfl ?_
        obtain ⟨v5, hv5, h⟩ := ah_bs h
        refine ro_getR (pc' := 53) ft_627 fk_627 q1335 dX6_gives_50 rfl hv5 ?_
        refine ro_iload_n (pc' := 54) dX6_gives_53 rfl rfl rfl ?_
        obtain ⟨v6, hv6, h⟩ := ah_bs h
        refine ro_saload (pc' := 55) dX6_gives_54 rfl hv6 ?_
        refine ro_aload_n (pc' := 56) dX6_gives_55 rfl rfl rfl ?_
        obtain ⟨v7, hv7, h⟩ := ah_bs h
        refine ro_getR (pc' := 59) ft_628 fk_628 q1336 dX6_gives_56 rfl hv7 ?_
        refine ro_iload_n (pc' := 60) dX6_gives_59 rfl rfl rfl ?_
        obtain ⟨v8, hv8, h⟩ := ah_bs h
        refine ro_saload (pc' := 61) dX6_gives_60 rfl hv8 ?_
        obtain ⟨u9, hu9, h⟩ := ah_bs h
        obtain ⟨v10, σ11, hv10, h⟩ := ah_bs2 h
        refine ro_callV (pc' := 64) (As := [.int x1, .int v6, .int v8]) (rest := []) (st' := [.int v10]) (by decide) hu9 q1658 sl_X6_worked (M_X6_worked hv10) q1656 q1659 q104 dd_X6_worked rfl ⟨Nat.le_of_ble_eq_true rfl, Nat.le_of_ble_eq_true rfl⟩ (Nat.le_of_ble_eq_true rfl) dX6_gives_61 rfl rfl rfl ?_
        obtain rfl := Option.some.inj h
        exact ro_iret hκ dX6_gives_64
      · replace h := ah_in_ c h
        refine ro_aload_n (pc' := 33) dX6_gives_32 rfl rfl rfl ?_
        refine ro_iload_n (pc' := 34) dX6_gives_33 rfl rfl rfl ?_
        refine ro_iload_n (pc' := 35) dX6_gives_34 rfl rfl rfl ?_
        refine ro_aload_n (pc' := 36) dX6_gives_35 rfl rfl rfl ?_
        obtain ⟨v12, hv12, h⟩ := ah_bs h
        refine ro_getR (pc' := 39) ft_627 fk_627 q1335 dX6_gives_36 rfl hv12 ?_
        refine ro_iload_n (pc' := 40) dX6_gives_39 rfl rfl rfl ?_
        obtain ⟨v13, hv13, h⟩ := ah_bs h
        refine ro_saload (pc' := 41) dX6_gives_40 rfl hv13 ?_
        obtain ⟨u14, hu14, h⟩ := ah_bs h
        obtain ⟨v15, σ16, hv15, h⟩ := ah_bs2 h
        refine ro_callV (pc' := 44) (As := [.int x1, .int x2, .int v13]) (rest := []) (st' := [.int v15]) (by decide) hu14 q1658 sl_X6_worked (M_X6_worked hv15) q1656 q1659 q104 dd_X6_worked rfl ⟨Nat.le_of_ble_eq_true rfl, Nat.le_of_ble_eq_true rfl⟩ (Nat.le_of_ble_eq_true rfl) dX6_gives_41 rfl rfl rfl ?_
        refine ro_if_eq (pc' := 47) (tgt := 65) dX6_gives_44 rfl rfl (fun c => ?_) (fun c => ?_)
        · replace h := ah_ip c h
          refine ro_aload_n (pc' := 66) dX6_gives_65 rfl rfl rfl ?_
          obtain ⟨v17, hv17, h⟩ := ah_bs h
          refine ro_getR (pc' := 69) ft_628 fk_628 q1336 dX6_gives_66 rfl hv17 ?_
          refine ro_iload_n (pc' := 70) dX6_gives_69 rfl rfl rfl ?_
          obtain ⟨v18, hv18, h⟩ := ah_bs h
          refine ro_saload (pc' := 71) dX6_gives_70 rfl hv18 ?_
          refine ro_istore_n (pc' := 72) (L' := [some (va_rf r0), some (.int x1), some (.int v18), some (.int x3)]) dX6_gives_71 rfl (Nat.le_of_ble_eq_true rfl) rfl (ah_okp_i _) rfl ?_
          refine ro_iinc (pc' := 75) (L' := [some (va_rf r0), some (.int x1), some (.int v18), some (.int (x3 + (1 : Int32)))]) dX6_gives_72 rfl ic_1 (Nat.le_of_ble_eq_true rfl) rfl (ah_okp_i _) rfl ?_
          refine ro_goto (tgt := 7) dX6_gives_75 rfl ?_
          exact ih _ _ _ _ _ h
        · replace h := ah_in_ c h
          refine ro_aload_n (pc' := 48) dX6_gives_47 rfl rfl rfl ?_
          refine ro_iload_n (pc' := 49) dX6_gives_48 rfl rfl rfl ?_
          refine ro_aload_n (pc' := 50) dX6_gives_49 rfl rfl rfl ?_
          obtain ⟨v19, hv19, h⟩ := ah_bs h
          refine ro_getR (pc' := 53) ft_627 fk_627 q1335 dX6_gives_50 rfl hv19 ?_
          refine ro_iload_n (pc' := 54) dX6_gives_53 rfl rfl rfl ?_
          obtain ⟨v20, hv20, h⟩ := ah_bs h
          refine ro_saload (pc' := 55) dX6_gives_54 rfl hv20 ?_
          refine ro_aload_n (pc' := 56) dX6_gives_55 rfl rfl rfl ?_
          obtain ⟨v21, hv21, h⟩ := ah_bs h
          refine ro_getR (pc' := 59) ft_628 fk_628 q1336 dX6_gives_56 rfl hv21 ?_
          refine ro_iload_n (pc' := 60) dX6_gives_59 rfl rfl rfl ?_
          obtain ⟨v22, hv22, h⟩ := ah_bs h
          refine ro_saload (pc' := 61) dX6_gives_60 rfl hv22 ?_
          obtain ⟨u23, hu23, h⟩ := ah_bs h
          obtain ⟨v24, σ25, hv24, h⟩ := ah_bs2 h
          refine ro_callV (pc' := 64) (As := [.int x1, .int v20, .int v22]) (rest := []) (st' := [.int v24]) (by decide) hu23 q1658 sl_X6_worked (M_X6_worked hv24) q1656 q1659 q104 dd_X6_worked rfl ⟨Nat.le_of_ble_eq_true rfl, Nat.le_of_ble_eq_true rfl⟩ (Nat.le_of_ble_eq_true rfl) dX6_gives_61 rfl rfl rfl ?_
          obtain rfl := Option.some.inj h
          exact ro_iret hκ dX6_gives_64
set_option maxRecDepth 20000 in
set_option maxHeartbeats 4000000 in
theorem W_X6_gives {κ : ah_C} {rr : (Int32 × ah_S)} (hκ : ah_res κ = (.returned (some (.int rr.1)), rr.2))  (σ : ah_S) (r0 : Option Nat) (x1 : Int32) (h : F_X6_gives σ r0 x1 = some rr) : ah_G κ ("LeftAsFoundModel", "gives", 4, (some FieldType.int), [], 3, 72) cX6_gives σ 0 [some (va_rf r0), some (.int x1), none, none] [] := by
  unfold F_X6_gives at h
  refine ro_iconst (pc' := 1) dX6_gives_0 ic_0 rfl ?_
  refine ro_istore_n (pc' := 2) (L' := [some (va_rf r0), some (.int x1), some (.int (0 : Int32)), none]) dX6_gives_1 rfl (Nat.le_of_ble_eq_true rfl) rfl (ah_okp_i _) rfl ?_
  refine ro_bipush (pc' := 4) dX6_gives_2 ib_61 rfl ?_
  refine ro_iload_n (pc' := 5) dX6_gives_4 rfl rfl rfl ?_
  refine ro_imul (pc' := 6) dX6_gives_5 rfl ?_
  refine ro_istore_n (pc' := 7) (L' := [some (va_rf r0), some (.int x1), some (.int (0 : Int32)), some (.int ((61 : Int32) * x1))]) dX6_gives_6 rfl (Nat.le_of_ble_eq_true rfl) rfl (ah_okp_i _) rfl ?_
  exact W_X6_gives_7 hκ _ _ _ _ _ _ h
theorem M_X6_gives {l : Launch} {D : ah_D}  {σ : ah_S} {r0 : Option Nat} {x1 : Int32} {v : Int32} {σ1 : ah_S} (h : F_X6_gives σ r0 x1 = some (v, σ1)) : ah_Met l yX6_gives (Cond.code yX6_gives cX6_gives 4 (some FieldType.int)) 3 72 D [va_rf r0, .int x1] σ (.returned (some (.int v)), σ1) :=
  ah_ofG (own := "LeftAsFoundModel") (nm := "gives") (L0 := [some (va_rf r0), some (.int x1), none, none]) (by decide) rfl rfl rfl (ah_ao_1 (ah_rf_cat _) (ah_ao_1 rfl (ah_ao_n (ah_ao_n ah_ao_0)))) (fun κ hκ => W_X6_gives hκ  σ r0 x1 h)
set_option maxRecDepth 20000 in
set_option maxHeartbeats 4000000 in
theorem W_X6_levelBehind_193 {κ : ah_C} {rr : (Int32 × ah_S)} (hκ : ah_res κ = (.returned (some (.int rr.1)), rr.2))    : ∀ (σ : ah_S) (x4 : Int32) (y0 : Int32), F_X6_levelBehind_193 σ x4 y0 = some rr → ah_G κ ("LeftAsFoundModel", "levelBehind", 9, (some FieldType.int), [], 4, 95) cX6_levelBehind σ 193 [none, none, none, none, some (.int x4), none, none, none, none] [.int y0] := by
  intro σ x4 y0 h
  unfold F_X6_levelBehind_193 at h
  refine ro_istore (pc' := 195) (L' := [none, none, none, none, some (.int x4), none, none, some (.int y0), none]) dX6_levelBehind_193 (Nat.le_of_ble_eq_true rfl) rfl ah_okp_u rfl ?_
  refine ro_iload (pc' := 197) dX6_levelBehind_195 rfl rfl ?_
  refine ro_iload (pc' := 199) dX6_levelBehind_197 rfl rfl ?_
  refine ro_iadd (pc' := 200) dX6_levelBehind_199 rfl ?_
  refine ro_istore (pc' := 202) (L' := [none, none, none, none, some (.int x4), none, none, some (.int y0), some (.int (x4 + y0))]) dX6_levelBehind_200 (Nat.le_of_ble_eq_true rfl) rfl (ah_okp_i _) rfl ?_
  refine ro_iload (pc' := 204) dX6_levelBehind_202 rfl rfl ?_
  refine ro_if_ge (pc' := 207) (tgt := 211) dX6_levelBehind_204 rfl rfl (fun c => ?_) (fun c => ?_)
  · replace h := ah_ip c h
    refine ro_iload (pc' := 213) dX6_levelBehind_211 rfl rfl ?_
    refine ro_bipush (pc' := 215) dX6_levelBehind_213 ib_99 rfl ?_
    refine ro_icmp_le (pc' := 218) (tgt := 223) dX6_levelBehind_215 rfl rfl (fun c => ?_) (fun c => ?_)
    · replace h := ah_ip c h
      refine ro_iload (pc' := 225) dX6_levelBehind_223 rfl rfl ?_
      obtain rfl := Option.some.inj h
      exact ro_iret hκ dX6_levelBehind_225
    · replace h := ah_in_ c h
      refine ro_bipush (pc' := 220) dX6_levelBehind_218 ib_99 rfl ?_
      refine ro_goto (tgt := 225) dX6_levelBehind_220 rfl ?_
      obtain rfl := Option.some.inj h
      exact ro_iret hκ dX6_levelBehind_225
  · replace h := ah_in_ c h
    refine ro_iconst (pc' := 208) dX6_levelBehind_207 ic_0 rfl ?_
    refine ro_goto (tgt := 225) dX6_levelBehind_208 rfl ?_
    obtain rfl := Option.some.inj h
    exact ro_iret hκ dX6_levelBehind_225
set_option maxRecDepth 20000 in
set_option maxHeartbeats 4000000 in
theorem W_X6_levelBehind_34 {κ : ah_C} {rr : (Int32 × ah_S)} (hκ : ah_res κ = (.returned (some (.int rr.1)), rr.2))    : ∀ (σ : ah_S) (r0 : Option Nat) (x1 : Int32) (x2 : Int32) (x3 : Int32) (x4 : Int32) (y0 : Int32), F_X6_levelBehind_34 σ r0 x1 x2 x3 x4 y0 = some rr → ah_G κ ("LeftAsFoundModel", "levelBehind", 9, (some FieldType.int), [], 4, 95) cX6_levelBehind σ 34 [some (va_rf r0), some (.int x1), some (.int x2), some (.int x3), some (.int x4), none, none, none, none] [.int y0] := by
  intro σ r0 x1 x2 x3 x4 y0 h
  unfold F_X6_levelBehind_34 at h
  refine ro_istore (pc' := 36) (L' := [some (va_rf r0), some (.int x1), some (.int x2), some (.int x3), some (.int x4), some (.int y0), none, none, none]) dX6_levelBehind_34 (Nat.le_of_ble_eq_true rfl) rfl (ah_okp_i _) rfl ?_
  refine ro_aload_n (pc' := 37) dX6_levelBehind_36 rfl rfl rfl ?_
  obtain ⟨v1, hv1, h⟩ := ah_bs h
  refine ro_getR (pc' := 40) ft_604 fk_604 q1312 dX6_levelBehind_37 rfl hv1 ?_
  refine ro_iconst (pc' := 41) dX6_levelBehind_40 ic_4 rfl ?_
  refine ro_iload_n (pc' := 42) dX6_levelBehind_41 rfl rfl rfl ?_
  refine ro_imul (pc' := 43) dX6_levelBehind_42 rfl ?_
  refine ro_iload_n (pc' := 44) dX6_levelBehind_43 rfl rfl rfl ?_
  refine ro_iadd (pc' := 45) dX6_levelBehind_44 rfl ?_
  obtain ⟨v2, hv2, h⟩ := ah_bs h
  refine ro_iaload (pc' := 46) dX6_levelBehind_45 rfl hv2 ?_
  refine ro_ineg (pc' := 47) dX6_levelBehind_46 rfl ?_
  refine ro_istore (pc' := 49) (L' := [some (va_rf r0), some (.int x1), some (.int x2), some (.int x3), some (.int x4), some (.int y0), some (.int (-v2)), none, none]) dX6_levelBehind_47 (Nat.le_of_ble_eq_true rfl) rfl (ah_okp_i _) rfl ?_
  refine ro_aload_n (pc' := 50) dX6_levelBehind_49 rfl rfl rfl ?_
  obtain ⟨v3, hv3, h⟩ := ah_bs h
  refine ro_getI (pc' := 53) ft_631 fk_631 q1339 dX6_levelBehind_50 rfl hv3 ?_
  refine ro_if_eq (pc' := 56) (tgt := 128) dX6_levelBehind_53 rfl rfl (fun c => ?_) (fun c => ?_)
  · replace h := ah_ip c h
    refine ro_iload_n (pc' := 129) dX6_levelBehind_128 rfl rfl rfl ?_
    refine ro_iload (pc' := 131) dX6_levelBehind_129 rfl rfl ?_
    refine ro_isub (pc' := 132) dX6_levelBehind_131 rfl ?_
    refine ro_iload (pc' := 134) dX6_levelBehind_132 rfl rfl ?_
    refine ro_icmp_le (pc' := 137) (tgt := 167) dX6_levelBehind_134 rfl rfl (fun c => ?_) (fun c => ?_)
    · replace h := ah_ip c h
      refine ro_iload (pc' := 169) dX6_levelBehind_167 rfl rfl ?_
      refine ro_bipush (pc' := 171) dX6_levelBehind_169 ib_m20 rfl ?_
      refine ro_icmp_ge (pc' := 174) (tgt := 179) dX6_levelBehind_171 rfl rfl (fun c => ?_) (fun c => ?_)
      · replace h := ah_ip c h
        refine ro_iload (pc' := 181) dX6_levelBehind_179 rfl rfl ?_
        refine ro_bipush (pc' := 183) dX6_levelBehind_181 ib_20 rfl ?_
        refine ro_icmp_le (pc' := 186) (tgt := 191) dX6_levelBehind_183 rfl rfl (fun c => ?_) (fun c => ?_)
        · replace h := ah_ip c h
          refine ro_iload (pc' := 193) dX6_levelBehind_191 rfl rfl ?_
          refine ro_weak (L' := [none, none, none, none, some (.int x4), none, none, none, none]) (ah_ls_n (ah_ls_n (ah_ls_n (ah_ls_n (ah_ls_s (ah_ls_n (ah_ls_n (ah_ls_s (ah_ls_s ah_ls_0))))))))) ?_
          exact W_X6_levelBehind_193 hκ _ _ _ h
        · replace h := ah_in_ c h
          refine ro_bipush (pc' := 188) dX6_levelBehind_186 ib_20 rfl ?_
          refine ro_goto (tgt := 193) dX6_levelBehind_188 rfl ?_
          refine ro_weak (L' := [none, none, none, none, some (.int x4), none, none, none, none]) (ah_ls_n (ah_ls_n (ah_ls_n (ah_ls_n (ah_ls_s (ah_ls_n (ah_ls_n (ah_ls_s (ah_ls_s ah_ls_0))))))))) ?_
          exact W_X6_levelBehind_193 hκ _ _ _ h
      · replace h := ah_in_ c h
        refine ro_bipush (pc' := 176) dX6_levelBehind_174 ib_m20 rfl ?_
        refine ro_goto (tgt := 193) dX6_levelBehind_176 rfl ?_
        refine ro_weak (L' := [none, none, none, none, some (.int x4), none, none, none, none]) (ah_ls_n (ah_ls_n (ah_ls_n (ah_ls_n (ah_ls_s (ah_ls_n (ah_ls_n (ah_ls_s (ah_ls_s ah_ls_0))))))))) ?_
        exact W_X6_levelBehind_193 hκ _ _ _ h
    · replace h := ah_in_ c h
      refine ro_iload (pc' := 139) dX6_levelBehind_137 rfl rfl ?_
      refine ro_aload_n (pc' := 140) dX6_levelBehind_139 rfl rfl rfl ?_
      obtain ⟨v4, hv4, h⟩ := ah_bs h
      refine ro_getR (pc' := 143) ft_605 fk_605 q1313 dX6_levelBehind_140 rfl hv4 ?_
      refine ro_iconst (pc' := 144) dX6_levelBehind_143 ic_4 rfl ?_
      refine ro_iload_n (pc' := 145) dX6_levelBehind_144 rfl rfl rfl ?_
      refine ro_imul (pc' := 146) dX6_levelBehind_145 rfl ?_
      refine ro_iload_n (pc' := 147) dX6_levelBehind_146 rfl rfl rfl ?_
      refine ro_iadd (pc' := 148) dX6_levelBehind_147 rfl ?_
      obtain ⟨v5, hv5, h⟩ := ah_bs h
      refine ro_iaload (pc' := 149) dX6_levelBehind_148 rfl hv5 ?_
      refine ro_iadd (pc' := 150) dX6_levelBehind_149 rfl ?_
      refine ro_istore (pc' := 152) (L' := [some (va_rf r0), some (.int x1), some (.int x2), some (.int x3), some (.int x4), some (.int y0), some (.int ((-v2) + v5)), none, none]) dX6_levelBehind_150 (Nat.le_of_ble_eq_true rfl) rfl (ah_okp_i _) rfl ?_
      refine ro_iload (pc' := 154) dX6_levelBehind_152 rfl rfl ?_
      refine ro_iload (pc' := 156) dX6_levelBehind_154 rfl rfl ?_
      refine ro_iadd (pc' := 157) dX6_levelBehind_156 rfl ?_
      refine ro_iload_n (pc' := 158) dX6_levelBehind_157 rfl rfl rfl ?_
      refine ro_icmp_le (pc' := 161) (tgt := 167) dX6_levelBehind_158 rfl rfl (fun c => ?_) (fun c => ?_)
      · replace h := ah_ip c h
        refine ro_iload (pc' := 169) dX6_levelBehind_167 rfl rfl ?_
        refine ro_bipush (pc' := 171) dX6_levelBehind_169 ib_m20 rfl ?_
        refine ro_icmp_ge (pc' := 174) (tgt := 179) dX6_levelBehind_171 rfl rfl (fun c => ?_) (fun c => ?_)
        · replace h := ah_ip c h
          refine ro_iload (pc' := 181) dX6_levelBehind_179 rfl rfl ?_
          refine ro_bipush (pc' := 183) dX6_levelBehind_181 ib_20 rfl ?_
          refine ro_icmp_le (pc' := 186) (tgt := 191) dX6_levelBehind_183 rfl rfl (fun c => ?_) (fun c => ?_)
          · replace h := ah_ip c h
            refine ro_iload (pc' := 193) dX6_levelBehind_191 rfl rfl ?_
            refine ro_weak (L' := [none, none, none, none, some (.int x4), none, none, none, none]) (ah_ls_n (ah_ls_n (ah_ls_n (ah_ls_n (ah_ls_s (ah_ls_n (ah_ls_n (ah_ls_s (ah_ls_s ah_ls_0))))))))) ?_
            exact W_X6_levelBehind_193 hκ _ _ _ h
          · replace h := ah_in_ c h
            refine ro_bipush (pc' := 188) dX6_levelBehind_186 ib_20 rfl ?_
            refine ro_goto (tgt := 193) dX6_levelBehind_188 rfl ?_
            refine ro_weak (L' := [none, none, none, none, some (.int x4), none, none, none, none]) (ah_ls_n (ah_ls_n (ah_ls_n (ah_ls_n (ah_ls_s (ah_ls_n (ah_ls_n (ah_ls_s (ah_ls_s ah_ls_0))))))))) ?_
            exact W_X6_levelBehind_193 hκ _ _ _ h
        · replace h := ah_in_ c h
          refine ro_bipush (pc' := 176) dX6_levelBehind_174 ib_m20 rfl ?_
          refine ro_goto (tgt := 193) dX6_levelBehind_176 rfl ?_
          refine ro_weak (L' := [none, none, none, none, some (.int x4), none, none, none, none]) (ah_ls_n (ah_ls_n (ah_ls_n (ah_ls_n (ah_ls_s (ah_ls_n (ah_ls_n (ah_ls_s (ah_ls_s ah_ls_0))))))))) ?_
          exact W_X6_levelBehind_193 hκ _ _ _ h
      · replace h := ah_in_ c h
        refine ro_iload_n (pc' := 162) dX6_levelBehind_161 rfl rfl rfl ?_
        refine ro_iload (pc' := 164) dX6_levelBehind_162 rfl rfl ?_
        refine ro_isub (pc' := 165) dX6_levelBehind_164 rfl ?_
        refine ro_istore (pc' := 167) (L' := [some (va_rf r0), some (.int x1), some (.int x2), some (.int x3), some (.int x4), some (.int y0), some (.int (x3 - x4)), none, none]) dX6_levelBehind_165 (Nat.le_of_ble_eq_true rfl) rfl (ah_okp_i _) rfl ?_
        refine ro_iload (pc' := 169) dX6_levelBehind_167 rfl rfl ?_
        refine ro_bipush (pc' := 171) dX6_levelBehind_169 ib_m20 rfl ?_
        refine ro_icmp_ge (pc' := 174) (tgt := 179) dX6_levelBehind_171 rfl rfl (fun c => ?_) (fun c => ?_)
        · replace h := ah_ip c h
          refine ro_iload (pc' := 181) dX6_levelBehind_179 rfl rfl ?_
          refine ro_bipush (pc' := 183) dX6_levelBehind_181 ib_20 rfl ?_
          refine ro_icmp_le (pc' := 186) (tgt := 191) dX6_levelBehind_183 rfl rfl (fun c => ?_) (fun c => ?_)
          · replace h := ah_ip c h
            refine ro_iload (pc' := 193) dX6_levelBehind_191 rfl rfl ?_
            refine ro_weak (L' := [none, none, none, none, some (.int x4), none, none, none, none]) (ah_ls_n (ah_ls_n (ah_ls_n (ah_ls_n (ah_ls_s (ah_ls_n (ah_ls_n (ah_ls_s (ah_ls_s ah_ls_0))))))))) ?_
            exact W_X6_levelBehind_193 hκ _ _ _ h
          · replace h := ah_in_ c h
            refine ro_bipush (pc' := 188) dX6_levelBehind_186 ib_20 rfl ?_
            refine ro_goto (tgt := 193) dX6_levelBehind_188 rfl ?_
            refine ro_weak (L' := [none, none, none, none, some (.int x4), none, none, none, none]) (ah_ls_n (ah_ls_n (ah_ls_n (ah_ls_n (ah_ls_s (ah_ls_n (ah_ls_n (ah_ls_s (ah_ls_s ah_ls_0))))))))) ?_
            exact W_X6_levelBehind_193 hκ _ _ _ h
        · replace h := ah_in_ c h
          refine ro_bipush (pc' := 176) dX6_levelBehind_174 ib_m20 rfl ?_
          refine ro_goto (tgt := 193) dX6_levelBehind_176 rfl ?_
          refine ro_weak (L' := [none, none, none, none, some (.int x4), none, none, none, none]) (ah_ls_n (ah_ls_n (ah_ls_n (ah_ls_n (ah_ls_s (ah_ls_n (ah_ls_n (ah_ls_s (ah_ls_s ah_ls_0))))))))) ?_
          exact W_X6_levelBehind_193 hκ _ _ _ h
  · replace h := ah_in_ c h
    refine ro_aload_n (pc' := 57) dX6_levelBehind_56 rfl rfl rfl ?_
    obtain ⟨v6, hv6, h⟩ := ah_bs h
    refine ro_getR (pc' := 60) ft_629 fk_629 q1337 dX6_levelBehind_57 rfl hv6 ?_
    refine ro_iconst (pc' := 61) dX6_levelBehind_60 ic_0 rfl ?_
    refine ro_iload (pc' := 63) dX6_levelBehind_61 rfl rfl ?_
    obtain ⟨σ7, hσ7, h⟩ := ah_bs h
    refine ro_iastore (pc' := 64) dX6_levelBehind_63 rfl hσ7 ?_
    refine ro_aload_n (pc' := 65) dX6_levelBehind_64 rfl rfl rfl ?_
    obtain ⟨v8, hv8, h⟩ := ah_bs h
    refine ro_getR (pc' := 68) ft_629 fk_629 q1337 dX6_levelBehind_65 rfl hv8 ?_
    refine ro_iconst (pc' := 69) dX6_levelBehind_68 ic_1 rfl ?_
    refine ro_iload_n (pc' := 70) dX6_levelBehind_69 rfl rfl rfl ?_
    obtain ⟨σ9, hσ9, h⟩ := ah_bs h
    refine ro_iastore (pc' := 71) dX6_levelBehind_70 rfl hσ9 ?_
    refine ro_aload_n (pc' := 72) dX6_levelBehind_71 rfl rfl rfl ?_
    obtain ⟨v10, hv10, h⟩ := ah_bs h
    refine ro_getR (pc' := 75) ft_629 fk_629 q1337 dX6_levelBehind_72 rfl hv10 ?_
    refine ro_iconst (pc' := 76) dX6_levelBehind_75 ic_2 rfl ?_
    refine ro_aload_n (pc' := 77) dX6_levelBehind_76 rfl rfl rfl ?_
    obtain ⟨v11, hv11, h⟩ := ah_bs h
    refine ro_getR (pc' := 80) ft_604 fk_604 q1312 dX6_levelBehind_77 rfl hv11 ?_
    refine ro_iconst (pc' := 81) dX6_levelBehind_80 ic_4 rfl ?_
    refine ro_iload_n (pc' := 82) dX6_levelBehind_81 rfl rfl rfl ?_
    refine ro_imul (pc' := 83) dX6_levelBehind_82 rfl ?_
    refine ro_iload_n (pc' := 84) dX6_levelBehind_83 rfl rfl rfl ?_
    refine ro_iadd (pc' := 85) dX6_levelBehind_84 rfl ?_
    obtain ⟨v12, hv12, h⟩ := ah_bs h
    refine ro_iaload (pc' := 86) dX6_levelBehind_85 rfl hv12 ?_
    obtain ⟨σ13, hσ13, h⟩ := ah_bs h
    refine ro_iastore (pc' := 87) dX6_levelBehind_86 rfl hσ13 ?_
    refine ro_aload_n (pc' := 88) dX6_levelBehind_87 rfl rfl rfl ?_
    obtain ⟨v14, hv14, h⟩ := ah_bs h
    refine ro_getR (pc' := 91) ft_629 fk_629 q1337 dX6_levelBehind_88 rfl hv14 ?_
    refine ro_iconst (pc' := 92) dX6_levelBehind_91 ic_3 rfl ?_
    refine ro_aload_n (pc' := 93) dX6_levelBehind_92 rfl rfl rfl ?_
    obtain ⟨v15, hv15, h⟩ := ah_bs h
    refine ro_getR (pc' := 96) ft_605 fk_605 q1313 dX6_levelBehind_93 rfl hv15 ?_
    refine ro_iconst (pc' := 97) dX6_levelBehind_96 ic_4 rfl ?_
    refine ro_iload_n (pc' := 98) dX6_levelBehind_97 rfl rfl rfl ?_
    refine ro_imul (pc' := 99) dX6_levelBehind_98 rfl ?_
    refine ro_iload_n (pc' := 100) dX6_levelBehind_99 rfl rfl rfl ?_
    refine ro_iadd (pc' := 101) dX6_levelBehind_100 rfl ?_
    obtain ⟨v16, hv16, h⟩ := ah_bs h
    refine ro_iaload (pc' := 102) dX6_levelBehind_101 rfl hv16 ?_
    obtain ⟨σ17, hσ17, h⟩ := ah_bs h
    refine ro_iastore (pc' := 103) dX6_levelBehind_102 rfl hσ17 ?_
    refine ro_aload_n (pc' := 104) dX6_levelBehind_103 rfl rfl rfl ?_
    obtain ⟨v18, hv18, h⟩ := ah_bs h
    refine ro_getR (pc' := 107) ft_629 fk_629 q1337 dX6_levelBehind_104 rfl hv18 ?_
    refine ro_iconst (pc' := 108) dX6_levelBehind_107 ic_4 rfl ?_
    refine ro_iload (pc' := 110) dX6_levelBehind_108 rfl rfl ?_
    obtain ⟨σ19, hσ19, h⟩ := ah_bs h
    refine ro_iastore (pc' := 111) dX6_levelBehind_110 rfl hσ19 ?_
    refine ro_aload_n (pc' := 112) dX6_levelBehind_111 rfl rfl rfl ?_
    obtain ⟨v20, hv20, h⟩ := ah_bs h
    refine ro_getR (pc' := 115) ft_629 fk_629 q1337 dX6_levelBehind_112 rfl hv20 ?_
    refine ro_iconst (pc' := 116) dX6_levelBehind_115 ic_5 rfl ?_
    refine ro_iload_n (pc' := 117) dX6_levelBehind_116 rfl rfl rfl ?_
    obtain ⟨σ21, hσ21, h⟩ := ah_bs h
    refine ro_iastore (pc' := 118) dX6_levelBehind_117 rfl hσ21 ?_
    refine ro_aload_n (pc' := 119) dX6_levelBehind_118 rfl rfl rfl ?_
    refine ro_iconst (pc' := 120) dX6_levelBehind_119 ic_0 rfl ?_
    obtain ⟨u22, hu22, h⟩ := ah_bs h
    obtain ⟨v23, σ24, hv23, h⟩ := ah_bs2 h
    refine ro_callV (pc' := 123) (As := [.int (0 : Int32)]) (rest := []) (st' := [.int v23]) (by decide) hu22 q1654 sl_X6_gives (M_X6_gives hv23) q1652 q1655 q104 dd_X6_gives rfl ⟨Nat.le_of_ble_eq_true rfl, Nat.le_of_ble_eq_true rfl⟩ (Nat.le_of_ble_eq_true rfl) dX6_levelBehind_120 rfl rfl rfl ?_
    refine ro_istore (pc' := 125) (L' := [some (va_rf r0), some (.int x1), some (.int x2), some (.int x3), some (.int x4), some (.int y0), some (.int v23), none, none]) dX6_levelBehind_123 (Nat.le_of_ble_eq_true rfl) rfl (ah_okp_i _) rfl ?_
    refine ro_goto (tgt := 167) dX6_levelBehind_125 rfl ?_
    refine ro_iload (pc' := 169) dX6_levelBehind_167 rfl rfl ?_
    refine ro_bipush (pc' := 171) dX6_levelBehind_169 ib_m20 rfl ?_
    refine ro_icmp_ge (pc' := 174) (tgt := 179) dX6_levelBehind_171 rfl rfl (fun c => ?_) (fun c => ?_)
    · replace h := ah_ip c h
      refine ro_iload (pc' := 181) dX6_levelBehind_179 rfl rfl ?_
      refine ro_bipush (pc' := 183) dX6_levelBehind_181 ib_20 rfl ?_
      refine ro_icmp_le (pc' := 186) (tgt := 191) dX6_levelBehind_183 rfl rfl (fun c => ?_) (fun c => ?_)
      · replace h := ah_ip c h
        refine ro_iload (pc' := 193) dX6_levelBehind_191 rfl rfl ?_
        refine ro_weak (L' := [none, none, none, none, some (.int x4), none, none, none, none]) (ah_ls_n (ah_ls_n (ah_ls_n (ah_ls_n (ah_ls_s (ah_ls_n (ah_ls_n (ah_ls_s (ah_ls_s ah_ls_0))))))))) ?_
        exact W_X6_levelBehind_193 hκ _ _ _ h
      · replace h := ah_in_ c h
        refine ro_bipush (pc' := 188) dX6_levelBehind_186 ib_20 rfl ?_
        refine ro_goto (tgt := 193) dX6_levelBehind_188 rfl ?_
        refine ro_weak (L' := [none, none, none, none, some (.int x4), none, none, none, none]) (ah_ls_n (ah_ls_n (ah_ls_n (ah_ls_n (ah_ls_s (ah_ls_n (ah_ls_n (ah_ls_s (ah_ls_s ah_ls_0))))))))) ?_
        exact W_X6_levelBehind_193 hκ _ _ _ h
    · replace h := ah_in_ c h
      refine ro_bipush (pc' := 176) dX6_levelBehind_174 ib_m20 rfl ?_
      refine ro_goto (tgt := 193) dX6_levelBehind_176 rfl ?_
      refine ro_weak (L' := [none, none, none, none, some (.int x4), none, none, none, none]) (ah_ls_n (ah_ls_n (ah_ls_n (ah_ls_n (ah_ls_s (ah_ls_n (ah_ls_n (ah_ls_s (ah_ls_s ah_ls_0))))))))) ?_
      exact W_X6_levelBehind_193 hκ _ _ _ h
set_option maxRecDepth 20000 in
set_option maxHeartbeats 4000000 in
theorem W_X6_levelBehind {κ : ah_C} {rr : (Int32 × ah_S)} (hκ : ah_res κ = (.returned (some (.int rr.1)), rr.2))  (σ : ah_S) (r0 : Option Nat) (x1 : Int32) (x2 : Int32) (x3 : Int32) (h : F_X6_levelBehind σ r0 x1 x2 x3 = some rr) : ah_G κ ("LeftAsFoundModel", "levelBehind", 9, (some FieldType.int), [], 4, 95) cX6_levelBehind σ 0 [some (va_rf r0), some (.int x1), some (.int x2), some (.int x3), none, none, none, none, none] [] := by
  unfold F_X6_levelBehind at h
  refine ro_aload_n (pc' := 1) dX6_levelBehind_0 rfl rfl rfl ?_
  obtain ⟨v1, hv1, h⟩ := ah_bs h
  refine ro_getR (pc' := 4) ft_611 fk_611 q1319 dX6_levelBehind_1 rfl hv1 ?_
  refine ro_iload_n (pc' := 5) dX6_levelBehind_4 rfl rfl rfl ?_
  obtain ⟨v2, hv2, h⟩ := ah_bs h
  refine ro_iaload (pc' := 6) dX6_levelBehind_5 rfl hv2 ?_
  refine ro_istore (pc' := 8) (L' := [some (va_rf r0), some (.int x1), some (.int x2), some (.int x3), some (.int v2), none, none, none, none]) dX6_levelBehind_6 (Nat.le_of_ble_eq_true rfl) rfl (ah_okp_i _) rfl ?_
  refine ro_aload_n (pc' := 9) dX6_levelBehind_8 rfl rfl rfl ?_
  obtain ⟨v3, hv3, h⟩ := ah_bs h
  refine ro_getR (pc' := 12) ft_606 fk_606 q1314 dX6_levelBehind_9 rfl hv3 ?_
  refine ro_iload_n (pc' := 13) dX6_levelBehind_12 rfl rfl rfl ?_
  obtain ⟨v4, hv4, h⟩ := ah_bs h
  refine ro_iaload (pc' := 14) dX6_levelBehind_13 rfl hv4 ?_
  refine ro_aload_n (pc' := 15) dX6_levelBehind_14 rfl rfl rfl ?_
  obtain ⟨v5, hv5, h⟩ := ah_bs h
  refine ro_getI (pc' := 18) ft_608 fk_608 q1316 dX6_levelBehind_15 rfl hv5 ?_
  refine ro_icmp_ge (pc' := 21) (tgt := 30) dX6_levelBehind_18 rfl rfl (fun c => ?_) (fun c => ?_)
  · replace h := ah_ip c h
    refine ro_aload_n (pc' := 31) dX6_levelBehind_30 rfl rfl rfl ?_
    obtain ⟨v6, hv6, h⟩ := ah_bs h
    refine ro_getI (pc' := 34) ft_608 fk_608 q1316 dX6_levelBehind_31 rfl hv6 ?_
    exact W_X6_levelBehind_34 hκ _ _ _ _ _ _ _ h
  · replace h := ah_in_ c h
    refine ro_aload_n (pc' := 22) dX6_levelBehind_21 rfl rfl rfl ?_
    obtain ⟨v7, hv7, h⟩ := ah_bs h
    refine ro_getR (pc' := 25) ft_606 fk_606 q1314 dX6_levelBehind_22 rfl hv7 ?_
    refine ro_iload_n (pc' := 26) dX6_levelBehind_25 rfl rfl rfl ?_
    obtain ⟨v8, hv8, h⟩ := ah_bs h
    refine ro_iaload (pc' := 27) dX6_levelBehind_26 rfl hv8 ?_
    refine ro_goto (tgt := 34) dX6_levelBehind_27 rfl ?_
    exact W_X6_levelBehind_34 hκ _ _ _ _ _ _ _ h
theorem M_X6_levelBehind {l : Launch} {D : ah_D}  {σ : ah_S} {r0 : Option Nat} {x1 : Int32} {x2 : Int32} {x3 : Int32} {v : Int32} {σ1 : ah_S} (h : F_X6_levelBehind σ r0 x1 x2 x3 = some (v, σ1)) : ah_Met l yX6_levelBehind (Cond.code yX6_levelBehind cX6_levelBehind 9 (some FieldType.int)) 4 95 D [va_rf r0, .int x1, .int x2, .int x3] σ (.returned (some (.int v)), σ1) :=
  ah_ofG (own := "LeftAsFoundModel") (nm := "levelBehind") (L0 := [some (va_rf r0), some (.int x1), some (.int x2), some (.int x3), none, none, none, none, none]) (by decide) rfl rfl rfl (ah_ao_1 (ah_rf_cat _) (ah_ao_1 rfl (ah_ao_1 rfl (ah_ao_1 rfl (ah_ao_n (ah_ao_n (ah_ao_n (ah_ao_n (ah_ao_n ah_ao_0))))))))) (fun κ hκ => W_X6_levelBehind hκ  σ r0 x1 x2 x3 h)
set_option maxRecDepth 20000 in
set_option maxHeartbeats 4000000 in
theorem W_X6_nightOf_81 {κ : ah_C} {rr : ah_S} (hκ : ah_res κ = (.returned none, rr))  {k45 : ah_S → Option Nat → Int32 → Int32 → Option ah_S} (hk45 : ∀ (σ : ah_S) (r0 : Option Nat) (x1 : Int32) (x2 : Int32), k45 σ r0 x1 x2 = some rr → ah_G κ ("LeftAsFoundModel", "nightOf", 3, none, [], 5, 123) cX6_nightOf σ 45 [some (va_rf r0), some (.int x1), some (.int x2)] []) : ∀ (σ : ah_S) (r0 : Option Nat) (x1 : Int32) (x2 : Int32), F_X6_nightOf_81 k45 σ r0 x1 x2 = some rr → ah_G κ ("LeftAsFoundModel", "nightOf", 3, none, [], 5, 123) cX6_nightOf σ 81 [some (va_rf r0), some (.int x1), some (.int x2)] [] := by
  intro σ r0 x1 x2 h
  unfold F_X6_nightOf_81 at h
  refine ro_aload_n (pc' := 82) dX6_nightOf_81 rfl rfl rfl ?_
  obtain ⟨v1, hv1, h⟩ := ah_bs h
  refine ro_getR (pc' := 85) ft_611 fk_611 q1319 dX6_nightOf_82 rfl hv1 ?_
  refine ro_iload_n (pc' := 86) dX6_nightOf_85 rfl rfl rfl ?_
  refine ro_aload_n (pc' := 87) dX6_nightOf_86 rfl rfl rfl ?_
  obtain ⟨v2, hv2, h⟩ := ah_bs h
  refine ro_getR (pc' := 90) ft_632 fk_632 q1340 dX6_nightOf_87 rfl hv2 ?_
  refine ro_iload_n (pc' := 91) dX6_nightOf_90 rfl rfl rfl ?_
  obtain ⟨v3, hv3, h⟩ := ah_bs h
  refine ro_iaload (pc' := 92) dX6_nightOf_91 rfl hv3 ?_
  obtain ⟨σ4, hσ4, h⟩ := ah_bs h
  refine ro_iastore (pc' := 93) dX6_nightOf_92 rfl hσ4 ?_
  refine ro_aload_n (pc' := 94) dX6_nightOf_93 rfl rfl rfl ?_
  obtain ⟨v5, hv5, h⟩ := ah_bs h
  refine ro_getR (pc' := 97) ft_611 fk_611 q1319 dX6_nightOf_94 rfl hv5 ?_
  refine ro_bipush (pc' := 99) dX6_nightOf_97 ib_8 rfl ?_
  refine ro_iload_n (pc' := 100) dX6_nightOf_99 rfl rfl rfl ?_
  refine ro_iadd (pc' := 101) dX6_nightOf_100 rfl ?_
  refine ro_aload_n (pc' := 102) dX6_nightOf_101 rfl rfl rfl ?_
  obtain ⟨v6, hv6, h⟩ := ah_bs h
  refine ro_getR (pc' := 105) ft_633 fk_633 q1341 dX6_nightOf_102 rfl hv6 ?_
  refine ro_iload_n (pc' := 106) dX6_nightOf_105 rfl rfl rfl ?_
  obtain ⟨v7, hv7, h⟩ := ah_bs h
  refine ro_iaload (pc' := 107) dX6_nightOf_106 rfl hv7 ?_
  obtain ⟨σ8, hσ8, h⟩ := ah_bs h
  refine ro_iastore (pc' := 108) dX6_nightOf_107 rfl hσ8 ?_
  refine ro_aload_n (pc' := 109) dX6_nightOf_108 rfl rfl rfl ?_
  obtain ⟨v9, hv9, h⟩ := ah_bs h
  refine ro_getR (pc' := 112) ft_607 fk_607 q1315 dX6_nightOf_109 rfl hv9 ?_
  refine ro_iload_n (pc' := 113) dX6_nightOf_112 rfl rfl rfl ?_
  obtain ⟨v10, hv10, h⟩ := ah_bs h
  refine ro_iaload (pc' := 114) dX6_nightOf_113 rfl hv10 ?_
  refine ro_iconst (pc' := 115) dX6_nightOf_114 ic_1 rfl ?_
  refine ro_icmp_ne (pc' := 118) (tgt := 132) dX6_nightOf_115 rfl rfl (fun c => ?_) (fun c => ?_)
  · replace h := ah_in_ c h
    refine ro_iinc (pc' := 135) (L' := [some (va_rf r0), some (.int x1), some (.int (x2 + (1 : Int32)))]) dX6_nightOf_132 rfl ic_1 (Nat.le_of_ble_eq_true rfl) rfl (ah_okp_i _) rfl ?_
    refine ro_goto (tgt := 45) dX6_nightOf_135 rfl ?_
    exact hk45 _ _ _ _ h
  · replace h := ah_ip c h
    refine ro_aload_n (pc' := 119) dX6_nightOf_118 rfl rfl rfl ?_
    obtain ⟨v11, hv11, h⟩ := ah_bs h
    refine ro_getR (pc' := 122) ft_611 fk_611 q1319 dX6_nightOf_119 rfl hv11 ?_
    refine ro_iconst (pc' := 123) dX6_nightOf_122 ic_4 rfl ?_
    refine ro_iload_n (pc' := 124) dX6_nightOf_123 rfl rfl rfl ?_
    refine ro_iadd (pc' := 125) dX6_nightOf_124 rfl ?_
    refine ro_aload_n (pc' := 126) dX6_nightOf_125 rfl rfl rfl ?_
    obtain ⟨v12, hv12, h⟩ := ah_bs h
    refine ro_getR (pc' := 129) ft_632 fk_632 q1340 dX6_nightOf_126 rfl hv12 ?_
    refine ro_iload_n (pc' := 130) dX6_nightOf_129 rfl rfl rfl ?_
    obtain ⟨v13, hv13, h⟩ := ah_bs h
    refine ro_iaload (pc' := 131) dX6_nightOf_130 rfl hv13 ?_
    obtain ⟨σ14, hσ14, h⟩ := ah_bs h
    refine ro_iastore (pc' := 132) dX6_nightOf_131 rfl hσ14 ?_
    refine ro_iinc (pc' := 135) (L' := [some (va_rf r0), some (.int x1), some (.int (x2 + (1 : Int32)))]) dX6_nightOf_132 rfl ic_1 (Nat.le_of_ble_eq_true rfl) rfl (ah_okp_i _) rfl ?_
    refine ro_goto (tgt := 45) dX6_nightOf_135 rfl ?_
    exact hk45 _ _ _ _ h
set_option maxRecDepth 20000 in
set_option maxHeartbeats 4000000 in
theorem W_X6_nightOf_45 {κ : ah_C} {rr : ah_S} (hκ : ah_res κ = (.returned none, rr))    : ∀ (n : Nat) (σ : ah_S) (r0 : Option Nat) (x1 : Int32) (x2 : Int32), F_X6_nightOf_45 n σ r0 x1 x2 = some rr → ah_G κ ("LeftAsFoundModel", "nightOf", 3, none, [], 5, 123) cX6_nightOf σ 45 [some (va_rf r0), some (.int x1), some (.int x2)] [] := by
  intro n
  induction n with
  | zero => intro σ r0 x1 x2 h; cases h
  | succ n ih =>
    intro σ r0 x1 x2 h
    rw [F_X6_nightOf_45] at h
    refine ro_iload_n (pc' := 46) dX6_nightOf_45 rfl rfl rfl ?_
    refine ro_iconst (pc' := 47) dX6_nightOf_46 ic_4 rfl ?_
    refine ro_icmp_ge (pc' := 50) (tgt := 138) dX6_nightOf_47 rfl rfl (fun c => ?_) (fun c => ?_)
    · replace h := ah_ip c h
      refine ro_aload_n (pc' := 139) dX6_nightOf_138 rfl rfl rfl ?_
      obtain ⟨v1, hv1, h⟩ := ah_bs h
      refine ro_getR (pc' := 142) ft_611 fk_611 q1319 dX6_nightOf_139 rfl hv1 ?_
      refine ro_bipush (pc' := 144) dX6_nightOf_142 ib_13 rfl ?_
      refine ro_iload_n (pc' := 145) dX6_nightOf_144 rfl rfl rfl ?_
      refine ro_iadd (pc' := 146) dX6_nightOf_145 rfl ?_
      refine ro_iconst (pc' := 147) dX6_nightOf_146 ic_1 rfl ?_
      obtain ⟨σ2, hσ2, h⟩ := ah_bs h
      refine ro_iastore (pc' := 148) dX6_nightOf_147 rfl hσ2 ?_
      refine ro_aload_n (pc' := 149) dX6_nightOf_148 rfl rfl rfl ?_
      obtain ⟨v3, hv3, h⟩ := ah_bs h
      refine ro_getR (pc' := 152) ft_611 fk_611 q1319 dX6_nightOf_149 rfl hv3 ?_
      refine ro_bipush (pc' := 154) dX6_nightOf_152 ib_12 rfl ?_
      refine ro_iconst (pc' := 155) dX6_nightOf_154 ic_1 rfl ?_
      obtain ⟨σ4, hσ4, h⟩ := ah_bs h
      refine ro_iastore (pc' := 156) dX6_nightOf_155 rfl hσ4 ?_
      obtain rfl := Option.some.inj h
      exact ro_vret hκ dX6_nightOf_156
    · replace h := ah_in_ c h
      refine ro_aload_n (pc' := 51) dX6_nightOf_50 rfl rfl rfl ?_
      obtain ⟨v5, hv5, h⟩ := ah_bs h
      refine ro_getR (pc' := 54) ft_611 fk_611 q1319 dX6_nightOf_51 rfl hv5 ?_
      refine ro_bipush (pc' := 56) dX6_nightOf_54 ib_13 rfl ?_
      refine ro_iload_n (pc' := 57) dX6_nightOf_56 rfl rfl rfl ?_
      refine ro_iadd (pc' := 58) dX6_nightOf_57 rfl ?_
      obtain ⟨v6, hv6, h⟩ := ah_bs h
      refine ro_iaload (pc' := 59) dX6_nightOf_58 rfl hv6 ?_
      refine ro_if_ne (pc' := 62) (tgt := 81) dX6_nightOf_59 rfl rfl (fun c => ?_) (fun c => ?_)
      · replace h := ah_in_ c h
        exact W_X6_nightOf_81 hκ ih _ _ _ _ h
      · replace h := ah_ip c h
        refine ro_aload_n (pc' := 63) dX6_nightOf_62 rfl rfl rfl ?_
        obtain ⟨v7, hv7, h⟩ := ah_bs h
        refine ro_getR (pc' := 66) ft_611 fk_611 q1319 dX6_nightOf_63 rfl hv7 ?_
        refine ro_bipush (pc' := 68) dX6_nightOf_66 ib_20 rfl ?_
        refine ro_iconst (pc' := 69) dX6_nightOf_68 ic_4 rfl ?_
        refine ro_iload_n (pc' := 70) dX6_nightOf_69 rfl rfl rfl ?_
        refine ro_imul (pc' := 71) dX6_nightOf_70 rfl ?_
        refine ro_iadd (pc' := 72) dX6_nightOf_71 rfl ?_
        refine ro_iload_n (pc' := 73) dX6_nightOf_72 rfl rfl rfl ?_
        refine ro_iadd (pc' := 74) dX6_nightOf_73 rfl ?_
        refine ro_aload_n (pc' := 75) dX6_nightOf_74 rfl rfl rfl ?_
        obtain ⟨v8, hv8, h⟩ := ah_bs h
        refine ro_getR (pc' := 78) ft_611 fk_611 q1319 dX6_nightOf_75 rfl hv8 ?_
        refine ro_iload_n (pc' := 79) dX6_nightOf_78 rfl rfl rfl ?_
        obtain ⟨v9, hv9, h⟩ := ah_bs h
        refine ro_iaload (pc' := 80) dX6_nightOf_79 rfl hv9 ?_
        obtain ⟨σ10, hσ10, h⟩ := ah_bs h
        refine ro_iastore (pc' := 81) dX6_nightOf_80 rfl hσ10 ?_
        exact W_X6_nightOf_81 hκ ih _ _ _ _ h
set_option maxRecDepth 20000 in
set_option maxHeartbeats 4000000 in
theorem W_X6_nightOf_2 {κ : ah_C} {rr : ah_S} (hκ : ah_res κ = (.returned none, rr))    : ∀ (n : Nat) (σ : ah_S) (r0 : Option Nat) (x1 : Int32) (x2 : Int32), F_X6_nightOf_2 n σ r0 x1 x2 = some rr → ah_G κ ("LeftAsFoundModel", "nightOf", 3, none, [], 5, 123) cX6_nightOf σ 2 [some (va_rf r0), some (.int x1), some (.int x2)] [] := by
  intro n
  induction n with
  | zero => intro σ r0 x1 x2 h; cases h
  | succ n ih =>
    intro σ r0 x1 x2 h
    rw [F_X6_nightOf_2] at h
    refine ro_iload_n (pc' := 3) dX6_nightOf_2 rfl rfl rfl ?_
    refine ro_iconst (pc' := 4) dX6_nightOf_3 ic_4 rfl ?_
    refine ro_icmp_ge (pc' := 7) (tgt := 43) dX6_nightOf_4 rfl rfl (fun c => ?_) (fun c => ?_)
    · replace h := ah_ip c h
      refine ro_iconst (pc' := 44) dX6_nightOf_43 ic_0 rfl ?_
      refine ro_istore_n (pc' := 45) (L' := [some (va_rf r0), some (.int x1), some (.int (0 : Int32))]) dX6_nightOf_44 rfl (Nat.le_of_ble_eq_true rfl) rfl (ah_okp_i _) rfl ?_
      exact W_X6_nightOf_45 hκ _ _ _ _ _ h
    · replace h := ah_in_ c h
      refine ro_aload_n (pc' := 8) dX6_nightOf_7 rfl rfl rfl ?_
      obtain ⟨v1, hv1, h⟩ := ah_bs h
      refine ro_getR (pc' := 11) ft_633 fk_633 q1341 dX6_nightOf_8 rfl hv1 ?_
      refine ro_iload_n (pc' := 12) dX6_nightOf_11 rfl rfl rfl ?_
      refine ro_aload_n (pc' := 13) dX6_nightOf_12 rfl rfl rfl ?_
      refine ro_iload_n (pc' := 14) dX6_nightOf_13 rfl rfl rfl ?_
      refine ro_iload_n (pc' := 15) dX6_nightOf_14 rfl rfl rfl ?_
      obtain ⟨u2, hu2, h⟩ := ah_bs h
      obtain ⟨v3, σ4, hv3, h⟩ := ah_bs2 h
      refine ro_callV (pc' := 18) (As := [.int x1, .int x2]) (rest := [.int x2, va_rf v1]) (st' := [.int v3, .int x2, va_rf v1]) (by decide) hu2 q1646 sl_X6_oughtBy (M_X6_oughtBy hv3) q1644 q1647 q104 dd_X6_oughtBy rfl ⟨Nat.le_of_ble_eq_true rfl, Nat.le_of_ble_eq_true rfl⟩ (by simp only [List.map_cons, List.map_nil, List.sum_cons, List.sum_nil, ah_rf_cat, ah_cat_i, ah_cat_l]; decide) dX6_nightOf_15 rfl rfl rfl ?_
      obtain ⟨σ5, hσ5, h⟩ := ah_bs h
      refine ro_iastore (pc' := 19) dX6_nightOf_18 rfl hσ5 ?_
      refine ro_aload_n (pc' := 20) dX6_nightOf_19 rfl rfl rfl ?_
      obtain ⟨v6, hv6, h⟩ := ah_bs h
      refine ro_getR (pc' := 23) ft_632 fk_632 q1340 dX6_nightOf_20 rfl hv6 ?_
      refine ro_iload_n (pc' := 24) dX6_nightOf_23 rfl rfl rfl ?_
      refine ro_aload_n (pc' := 25) dX6_nightOf_24 rfl rfl rfl ?_
      refine ro_iload_n (pc' := 26) dX6_nightOf_25 rfl rfl rfl ?_
      refine ro_iload_n (pc' := 27) dX6_nightOf_26 rfl rfl rfl ?_
      refine ro_aload_n (pc' := 28) dX6_nightOf_27 rfl rfl rfl ?_
      obtain ⟨v7, hv7, h⟩ := ah_bs h
      refine ro_getR (pc' := 31) ft_633 fk_633 q1341 dX6_nightOf_28 rfl hv7 ?_
      refine ro_iload_n (pc' := 32) dX6_nightOf_31 rfl rfl rfl ?_
      obtain ⟨v8, hv8, h⟩ := ah_bs h
      refine ro_iaload (pc' := 33) dX6_nightOf_32 rfl hv8 ?_
      obtain ⟨u9, hu9, h⟩ := ah_bs h
      obtain ⟨v10, σ11, hv10, h⟩ := ah_bs2 h
      refine ro_callV (pc' := 36) (As := [.int x1, .int x2, .int v8]) (rest := [.int x2, va_rf v6]) (st' := [.int v10, .int x2, va_rf v6]) (by decide) hu9 q1650 sl_X6_levelBehind (M_X6_levelBehind hv10) q1648 q1651 q104 dd_X6_levelBehind rfl ⟨Nat.le_of_ble_eq_true rfl, Nat.le_of_ble_eq_true rfl⟩ (by simp only [List.map_cons, List.map_nil, List.sum_cons, List.sum_nil, ah_rf_cat, ah_cat_i, ah_cat_l]; decide) dX6_nightOf_33 rfl rfl rfl ?_
      obtain ⟨σ12, hσ12, h⟩ := ah_bs h
      refine ro_iastore (pc' := 37) dX6_nightOf_36 rfl hσ12 ?_
      refine ro_iinc (pc' := 40) (L' := [some (va_rf r0), some (.int x1), some (.int (x2 + (1 : Int32)))]) dX6_nightOf_37 rfl ic_1 (Nat.le_of_ble_eq_true rfl) rfl (ah_okp_i _) rfl ?_
      refine ro_goto (tgt := 2) dX6_nightOf_40 rfl ?_
      exact ih _ _ _ _ h
set_option maxRecDepth 20000 in
set_option maxHeartbeats 4000000 in
theorem W_X6_nightOf {κ : ah_C} {rr : ah_S} (hκ : ah_res κ = (.returned none, rr))  (σ : ah_S) (r0 : Option Nat) (x1 : Int32) (h : F_X6_nightOf σ r0 x1 = some rr) : ah_G κ ("LeftAsFoundModel", "nightOf", 3, none, [], 5, 123) cX6_nightOf σ 0 [some (va_rf r0), some (.int x1), none] [] := by
  unfold F_X6_nightOf at h
  refine ro_iconst (pc' := 1) dX6_nightOf_0 ic_0 rfl ?_
  refine ro_istore_n (pc' := 2) (L' := [some (va_rf r0), some (.int x1), some (.int (0 : Int32))]) dX6_nightOf_1 rfl (Nat.le_of_ble_eq_true rfl) rfl (ah_okp_i _) rfl ?_
  exact W_X6_nightOf_2 hκ _ _ _ _ _ h
theorem M_X6_nightOf {l : Launch} {D : ah_D}  {σ : ah_S} {r0 : Option Nat} {x1 : Int32} {σ1 : ah_S} (h : F_X6_nightOf σ r0 x1 = some σ1) : ah_Met l yX6_nightOf (Cond.code yX6_nightOf cX6_nightOf 3 none) 5 123 D [va_rf r0, .int x1] σ (.returned none, σ1) :=
  ah_ofG (own := "LeftAsFoundModel") (nm := "nightOf") (L0 := [some (va_rf r0), some (.int x1), none]) (by decide) rfl rfl rfl (ah_ao_1 (ah_rf_cat _) (ah_ao_1 rfl (ah_ao_n ah_ao_0))) (fun κ hκ => W_X6_nightOf hκ  σ r0 x1 h)
set_option maxRecDepth 20000 in
set_option maxHeartbeats 4000000 in
theorem W_X6_goNight {κ : ah_C} {rr : ah_S} (hκ : ah_res κ = (.returned none, rr))  (σ : ah_S) (r0 : Option Nat) (x1 : Int32) (h : F_X6_goNight σ r0 x1 = some rr) : ah_G κ ("LeftAsFoundModel", "goNight", 2, none, [], 6, 145) cX6_goNight σ 0 [some (va_rf r0), some (.int x1)] [] := by
  unfold F_X6_goNight at h
  refine ro_aload_n (pc' := 1) dX6_goNight_0 rfl rfl rfl ?_
  refine ro_iload_n (pc' := 2) dX6_goNight_1 rfl rfl rfl ?_
  obtain ⟨u1, hu1, h⟩ := ah_bs h
  obtain ⟨v2, σ3, hv2, h⟩ := ah_bs2 h
  refine ro_callV (pc' := 5) (As := [.int x1]) (rest := []) (st' := [.int v2]) (by decide) hu1 q1540 sl_X6_isGuest (M_X6_isGuest hv2) q1538 q1541 q104 dd_X6_isGuest rfl ⟨Nat.le_of_ble_eq_true rfl, Nat.le_of_ble_eq_true rfl⟩ (Nat.le_of_ble_eq_true rfl) dX6_goNight_2 rfl rfl rfl ?_
  refine ro_if_eq (pc' := 8) (tgt := 13) dX6_goNight_5 rfl rfl (fun c => ?_) (fun c => ?_)
  · replace h := ah_ip c h
    obtain rfl := Option.some.inj h
    exact ro_vret hκ dX6_goNight_13
  · replace h := ah_in_ c h
    refine ro_aload_n (pc' := 9) dX6_goNight_8 rfl rfl rfl ?_
    refine ro_iload_n (pc' := 10) dX6_goNight_9 rfl rfl rfl ?_
    obtain ⟨u4, hu4, h⟩ := ah_bs h
    obtain ⟨σ5, hσ5, h⟩ := ah_bs h
    refine ro_callV (pc' := 13) (As := [.int x1]) (rest := []) (st' := []) (by decide) hu4 q1642 sl_X6_nightOf (M_X6_nightOf hσ5) q1640 q1643 q104 dd_X6_nightOf rfl ⟨Nat.le_of_ble_eq_true rfl, Nat.le_of_ble_eq_true rfl⟩ (Nat.le_of_ble_eq_true rfl) dX6_goNight_10 rfl rfl rfl ?_
    obtain rfl := Option.some.inj h
    exact ro_vret hκ dX6_goNight_13
theorem M_X6_goNight {l : Launch} {D : ah_D}  {σ : ah_S} {r0 : Option Nat} {x1 : Int32} {σ1 : ah_S} (h : F_X6_goNight σ r0 x1 = some σ1) : ah_Met l yX6_goNight (Cond.code yX6_goNight cX6_goNight 2 none) 6 145 D [va_rf r0, .int x1] σ (.returned none, σ1) :=
  ah_ofG (own := "LeftAsFoundModel") (nm := "goNight") (L0 := [some (va_rf r0), some (.int x1)]) (by decide) rfl rfl rfl (ah_ao_1 (ah_rf_cat _) (ah_ao_1 rfl ah_ao_0)) (fun κ hκ => W_X6_goNight hκ  σ r0 x1 h)
set_option maxRecDepth 20000 in
set_option maxHeartbeats 4000000 in
theorem W_X6_layHut_2 {κ : ah_C} {rr : ah_S} (hκ : ah_res κ = (.returned none, rr))    : ∀ (n : Nat) (σ : ah_S) (r0 : Option Nat) (x1 : Int32), F_X6_layHut_2 n σ r0 x1 = some rr → ah_G κ ("LeftAsFoundModel", "layHut", 2, none, [], 1, 24) cX6_layHut σ 2 [some (va_rf r0), some (.int x1)] [] := by
  intro n
  induction n with
  | zero => intro σ r0 x1 h; cases h
  | succ n ih =>
    intro σ r0 x1 h
    rw [F_X6_layHut_2] at h
    refine ro_iload_n (pc' := 3) dX6_layHut_2 rfl rfl rfl ?_
    refine ro_bipush (pc' := 5) dX6_layHut_3 ib_48 rfl ?_
    refine ro_icmp_ge (pc' := 8) (tgt := 26) dX6_layHut_5 rfl rfl (fun c => ?_) (fun c => ?_)
    · replace h := ah_ip c h
      obtain rfl := Option.some.inj h
      exact ro_vret hκ dX6_layHut_26
    · replace h := ah_in_ c h
      refine ro_aload_n (pc' := 9) dX6_layHut_8 rfl rfl rfl ?_
      obtain ⟨v1, hv1, h⟩ := ah_bs h
      refine ro_getR (pc' := 12) ft_611 fk_611 q1319 dX6_layHut_9 rfl hv1 ?_
      refine ro_iload_n (pc' := 13) dX6_layHut_12 rfl rfl rfl ?_
      refine ro_aload_n (pc' := 14) dX6_layHut_13 rfl rfl rfl ?_
      obtain ⟨v2, hv2, h⟩ := ah_bs h
      refine ro_getR (pc' := 17) ft_634 fk_634 q1342 dX6_layHut_14 rfl hv2 ?_
      refine ro_iload_n (pc' := 18) dX6_layHut_17 rfl rfl rfl ?_
      obtain ⟨v3, hv3, h⟩ := ah_bs h
      refine ro_iaload (pc' := 19) dX6_layHut_18 rfl hv3 ?_
      obtain ⟨σ4, hσ4, h⟩ := ah_bs h
      refine ro_iastore (pc' := 20) dX6_layHut_19 rfl hσ4 ?_
      refine ro_iinc (pc' := 23) (L' := [some (va_rf r0), some (.int (x1 + (1 : Int32)))]) dX6_layHut_20 rfl ic_1 (Nat.le_of_ble_eq_true rfl) rfl (ah_okp_r _) rfl ?_
      refine ro_goto (tgt := 2) dX6_layHut_23 rfl ?_
      exact ih _ _ _ h
set_option maxRecDepth 20000 in
set_option maxHeartbeats 4000000 in
theorem W_X6_layHut {κ : ah_C} {rr : ah_S} (hκ : ah_res κ = (.returned none, rr))  (σ : ah_S) (r0 : Option Nat) (h : F_X6_layHut σ r0 = some rr) : ah_G κ ("LeftAsFoundModel", "layHut", 2, none, [], 1, 24) cX6_layHut σ 0 [some (va_rf r0), none] [] := by
  unfold F_X6_layHut at h
  refine ro_iconst (pc' := 1) dX6_layHut_0 ic_0 rfl ?_
  refine ro_istore_n (pc' := 2) (L' := [some (va_rf r0), some (.int (0 : Int32))]) dX6_layHut_1 rfl (Nat.le_of_ble_eq_true rfl) rfl (ah_okp_r _) rfl ?_
  exact W_X6_layHut_2 hκ _ _ _ _ h
theorem M_X6_layHut {l : Launch} {D : ah_D}  {σ : ah_S} {r0 : Option Nat} {σ1 : ah_S} (h : F_X6_layHut σ r0 = some σ1) : ah_Met l yX6_layHut (Cond.code yX6_layHut cX6_layHut 2 none) 1 24 D [va_rf r0] σ (.returned none, σ1) :=
  ah_ofG (own := "LeftAsFoundModel") (nm := "layHut") (L0 := [some (va_rf r0), none]) (by decide) rfl rfl rfl (ah_ao_1 (ah_rf_cat _) (ah_ao_n ah_ao_0)) (fun κ hκ => W_X6_layHut hκ  σ r0 h)
set_option maxRecDepth 20000 in
set_option maxHeartbeats 4000000 in
theorem W_X6_below_56 {κ : ah_C} {rr : (Int32 × ah_S)} (hκ : ah_res κ = (.returned (some (.int rr.1)), rr.2))    : ∀ (n : Nat) (σ : ah_S) (r0 : Option Nat) (x2 : Int32) (x3 : Int32) (x4 : Int32) (x5 : Int32), F_X6_below_56 n σ r0 x2 x3 x4 x5 = some rr → ah_G κ ("LeftAsFoundModel", "below", 6, (some FieldType.int), [], 7, 166) cX6_below σ 56 [some (va_rf r0), none, some (.int x2), some (.int x3), some (.int x4), some (.int x5)] [] := by
  intro n
  induction n with
  | zero => intro σ r0 x2 x3 x4 x5 h; cases h
  | succ n ih =>
    intro σ r0 x2 x3 x4 x5 h
    rw [F_X6_below_56] at h
    refine ro_iload (pc' := 58) dX6_below_56 rfl rfl ?_
    refine ro_aload_n (pc' := 59) dX6_below_58 rfl rfl rfl ?_
    obtain ⟨v1, hv1, h⟩ := ah_bs h
    refine ro_getI (pc' := 62) ft_636 fk_636 q1344 dX6_below_59 rfl hv1 ?_
    refine ro_icmp_ge (pc' := 65) (tgt := 101) dX6_below_62 rfl rfl (fun c => ?_) (fun c => ?_)
    · replace h := ah_ip c h
      refine ro_aload_n (pc' := 102) dX6_below_101 rfl rfl rfl ?_
      obtain ⟨u2, hu2, h⟩ := ah_bs h
      obtain ⟨σ3, hσ3, h⟩ := ah_bs h
      refine ro_callV (pc' := 105) (As := []) (rest := []) (st' := []) (by decide) hu2 q1665 sl_X6_layHut (M_X6_layHut hσ3) q1663 q1666 q104 dd_X6_layHut rfl ⟨Nat.le_of_ble_eq_true rfl, Nat.le_of_ble_eq_true rfl⟩ (Nat.le_of_ble_eq_true rfl) dX6_below_102 rfl rfl rfl ?_
      refine ro_iload (pc' := 107) dX6_below_105 rfl rfl ?_
      obtain rfl := Option.some.inj h
      exact ro_iret hκ dX6_below_107
    · replace h := ah_in_ c h
      refine ro_iload (pc' := 67) dX6_below_65 rfl rfl ?_
      refine ro_if_ge (pc' := 70) (tgt := 101) dX6_below_67 rfl rfl (fun c => ?_) (fun c => ?_)
      · replace h := ah_ip c h
        refine ro_aload_n (pc' := 102) dX6_below_101 rfl rfl rfl ?_
        obtain ⟨u4, hu4, h⟩ := ah_bs h
        obtain ⟨σ5, hσ5, h⟩ := ah_bs h
        refine ro_callV (pc' := 105) (As := []) (rest := []) (st' := []) (by decide) hu4 q1665 sl_X6_layHut (M_X6_layHut hσ5) q1663 q1666 q104 dd_X6_layHut rfl ⟨Nat.le_of_ble_eq_true rfl, Nat.le_of_ble_eq_true rfl⟩ (Nat.le_of_ble_eq_true rfl) dX6_below_102 rfl rfl rfl ?_
        refine ro_iload (pc' := 107) dX6_below_105 rfl rfl ?_
        obtain rfl := Option.some.inj h
        exact ro_iret hκ dX6_below_107
      · replace h := ah_in_ c h
        refine ro_aload_n (pc' := 71) dX6_below_70 rfl rfl rfl ?_
        refine ro_aload_n (pc' := 72) dX6_below_71 rfl rfl rfl ?_
        obtain ⟨v6, hv6, h⟩ := ah_bs h
        refine ro_getR (pc' := 75) ft_635 fk_635 q1343 dX6_below_72 rfl hv6 ?_
        refine ro_iload (pc' := 77) dX6_below_75 rfl rfl ?_
        obtain ⟨v7, hv7, h⟩ := ah_bs h
        refine ro_iaload (pc' := 78) dX6_below_77 rfl hv7 ?_
        obtain ⟨u8, hu8, h⟩ := ah_bs h
        obtain ⟨σ9, hσ9, h⟩ := ah_bs h
        refine ro_callV (pc' := 81) (As := [.int v7]) (rest := []) (st' := []) (by decide) hu8 q1638 sl_X6_goNight (M_X6_goNight hσ9) q1636 q1639 q104 dd_X6_goNight rfl ⟨Nat.le_of_ble_eq_true rfl, Nat.le_of_ble_eq_true rfl⟩ (Nat.le_of_ble_eq_true rfl) dX6_below_78 rfl rfl rfl ?_
        refine ro_aload_n (pc' := 82) dX6_below_81 rfl rfl rfl ?_
        obtain ⟨v10, hv10, h⟩ := ah_bs h
        refine ro_getR (pc' := 85) ft_611 fk_611 q1319 dX6_below_82 rfl hv10 ?_
        refine ro_iload_n (pc' := 86) dX6_below_85 rfl rfl rfl ?_
        obtain ⟨v11, hv11, h⟩ := ah_bs h
        refine ro_iaload (pc' := 87) dX6_below_86 rfl hv11 ?_
        refine ro_iload_n (pc' := 88) dX6_below_87 rfl rfl rfl ?_
        refine ro_icmp_ge (pc' := 91) (tgt := 95) dX6_below_88 rfl rfl (fun c => ?_) (fun c => ?_)
        · replace h := ah_ip c h
          refine ro_iinc (pc' := 98) (L' := [some (va_rf r0), none, some (.int x2), some (.int x3), some (.int x4), some (.int (x5 + (1 : Int32)))]) dX6_below_95 rfl ic_1 (Nat.le_of_ble_eq_true rfl) rfl (ah_okp_i _) rfl ?_
          refine ro_goto (tgt := 56) dX6_below_98 rfl ?_
          exact ih _ _ _ _ _ _ h
        · replace h := ah_in_ c h
          refine ro_iload (pc' := 93) dX6_below_91 rfl rfl ?_
          refine ro_istore (pc' := 95) (L' := [some (va_rf r0), none, some (.int x2), some (.int x3), some (.int x5), some (.int x5)]) dX6_below_93 (Nat.le_of_ble_eq_true rfl) rfl (ah_okp_i _) rfl ?_
          refine ro_iinc (pc' := 98) (L' := [some (va_rf r0), none, some (.int x2), some (.int x3), some (.int x5), some (.int (x5 + (1 : Int32)))]) dX6_below_95 rfl ic_1 (Nat.le_of_ble_eq_true rfl) rfl (ah_okp_i _) rfl ?_
          refine ro_goto (tgt := 56) dX6_below_98 rfl ?_
          exact ih _ _ _ _ _ _ h
set_option maxRecDepth 20000 in
set_option maxHeartbeats 4000000 in
theorem W_X6_below {κ : ah_C} {rr : (Int32 × ah_S)} (hκ : ah_res κ = (.returned (some (.int rr.1)), rr.2))  (σ : ah_S) (r0 : Option Nat) (x1 : Int32) (x2 : Int32) (x3 : Int32) (h : F_X6_below σ r0 x1 x2 x3 = some rr) : ah_G κ ("LeftAsFoundModel", "below", 6, (some FieldType.int), [], 7, 166) cX6_below σ 0 [some (va_rf r0), some (.int x1), some (.int x2), some (.int x3), none, none] [] := by
  unfold F_X6_below at h
  refine ro_iload_n (pc' := 1) dX6_below_0 rfl rfl rfl ?_
  obtain ⟨v1, σ2, hv1, h⟩ := ah_bs2 h
  refine ro_callS (pc' := 4) (As := [.int x1]) (rest := []) (st' := [.int v1]) q1505 (M_X6_isShelf hv1) q1504 q1506 q104 dd_X6_isShelf rfl ⟨Nat.le_of_ble_eq_true rfl, Nat.le_of_ble_eq_true rfl⟩ (Nat.le_of_ble_eq_true rfl) dX6_below_1 rfl rfl rfl ?_
  refine ro_if_eq (pc' := 7) (tgt := 24) dX6_below_4 rfl rfl (fun c => ?_) (fun c => ?_)
  · replace h := ah_ip c h
    refine ro_iconst (pc' := 25) dX6_below_24 ic_m1 rfl ?_
    obtain rfl := Option.some.inj h
    exact ro_iret hκ dX6_below_25
  · replace h := ah_in_ c h
    refine ro_iload_n (pc' := 8) dX6_below_7 rfl rfl rfl ?_
    obtain ⟨v3, σ4, hv3, h⟩ := ah_bs2 h
    refine ro_callS (pc' := 11) (As := [.int x2]) (rest := []) (st' := [.int v3]) q1532 (M_X6_isThing hv3) q1531 q1533 q104 dd_X6_isThing rfl ⟨Nat.le_of_ble_eq_true rfl, Nat.le_of_ble_eq_true rfl⟩ (Nat.le_of_ble_eq_true rfl) dX6_below_8 rfl rfl rfl ?_
    refine ro_if_eq (pc' := 14) (tgt := 24) dX6_below_11 rfl rfl (fun c => ?_) (fun c => ?_)
    · replace h := ah_ip c h
      refine ro_iconst (pc' := 25) dX6_below_24 ic_m1 rfl ?_
      obtain rfl := Option.some.inj h
      exact ro_iret hκ dX6_below_25
    · replace h := ah_in_ c h
      refine ro_iload_n (pc' := 15) dX6_below_14 rfl rfl rfl ?_
      refine ro_iconst (pc' := 16) dX6_below_15 ic_0 rfl ?_
      refine ro_bipush (pc' := 18) dX6_below_16 ib_99 rfl ?_
      obtain ⟨v5, σ6, hv5, h⟩ := ah_bs2 h
      refine ro_callS (pc' := 21) (As := [.int x3, .int (0 : Int32), .int (99 : Int32)]) (rest := []) (st' := [.int v5]) q1494 (M_X6_in hv5) q1493 q1495 q104 dd_X6_in rfl ⟨Nat.le_of_ble_eq_true rfl, Nat.le_of_ble_eq_true rfl⟩ (Nat.le_of_ble_eq_true rfl) dX6_below_18 rfl rfl rfl ?_
      refine ro_if_ne (pc' := 24) (tgt := 26) dX6_below_21 rfl rfl (fun c => ?_) (fun c => ?_)
      · replace h := ah_in_ c h
        refine ro_aload_n (pc' := 27) dX6_below_26 rfl rfl rfl ?_
        refine ro_iload_n (pc' := 28) dX6_below_27 rfl rfl rfl ?_
        obtain ⟨u7, hu7, h⟩ := ah_bs h
        obtain ⟨v8, σ9, hv8, h⟩ := ah_bs2 h
        refine ro_callV (pc' := 31) (As := [.int x1]) (rest := []) (st' := [.int v8]) (by decide) hu7 q1626 sl_X6_rowFault (M_X6_rowFault hv8) q1624 q1627 q104 dd_X6_rowFault rfl ⟨Nat.le_of_ble_eq_true rfl, Nat.le_of_ble_eq_true rfl⟩ (Nat.le_of_ble_eq_true rfl) dX6_below_28 rfl rfl rfl ?_
        refine ro_if_ge (pc' := 34) (tgt := 40) dX6_below_31 rfl rfl (fun c => ?_) (fun c => ?_)
        · replace h := ah_ip c h
          refine ro_aload_n (pc' := 41) dX6_below_40 rfl rfl rfl ?_
          refine ro_iload_n (pc' := 42) dX6_below_41 rfl rfl rfl ?_
          obtain ⟨u10, hu10, h⟩ := ah_bs h
          obtain ⟨σ11, hσ11, h⟩ := ah_bs h
          refine ro_callV (pc' := 45) (As := [.int x1]) (rest := []) (st' := []) (by decide) hu10 q1630 sl_X6_layStays (M_X6_layStays hσ11) q1628 q1631 q104 dd_X6_layStays rfl ⟨Nat.le_of_ble_eq_true rfl, Nat.le_of_ble_eq_true rfl⟩ (Nat.le_of_ble_eq_true rfl) dX6_below_42 rfl rfl rfl ?_
          refine ro_aload_n (pc' := 46) dX6_below_45 rfl rfl rfl ?_
          obtain ⟨u12, hu12, h⟩ := ah_bs h
          obtain ⟨σ13, hσ13, h⟩ := ah_bs h
          refine ro_callV (pc' := 49) (As := []) (rest := []) (st' := []) (by decide) hu12 q1634 sl_X6_keepHut (M_X6_keepHut hσ13) q1632 q1635 q104 dd_X6_keepHut rfl ⟨Nat.le_of_ble_eq_true rfl, Nat.le_of_ble_eq_true rfl⟩ (Nat.le_of_ble_eq_true rfl) dX6_below_46 rfl rfl rfl ?_
          refine ro_bipush (pc' := 51) dX6_below_49 ib_m2 rfl ?_
          refine ro_istore (pc' := 53) (L' := [some (va_rf r0), some (.int x1), some (.int x2), some (.int x3), some (.int (-2 : Int32)), none]) dX6_below_51 (Nat.le_of_ble_eq_true rfl) rfl (ah_okp_i _) rfl ?_
          refine ro_iconst (pc' := 54) dX6_below_53 ic_0 rfl ?_
          refine ro_istore (pc' := 56) (L' := [some (va_rf r0), some (.int x1), some (.int x2), some (.int x3), some (.int (-2 : Int32)), some (.int (0 : Int32))]) dX6_below_54 (Nat.le_of_ble_eq_true rfl) rfl (ah_okp_i _) rfl ?_
          refine ro_weak (L' := [some (va_rf r0), none, some (.int x2), some (.int x3), some (.int (-2 : Int32)), some (.int (0 : Int32))]) (ah_ls_s (ah_ls_n (ah_ls_s (ah_ls_s (ah_ls_s (ah_ls_s ah_ls_0)))))) ?_
          exact W_X6_below_56 hκ _ _ _ _ _ _ _ h
        · replace h := ah_in_ c h
          refine ro_aload_n (pc' := 35) dX6_below_34 rfl rfl rfl ?_
          refine ro_iload_n (pc' := 36) dX6_below_35 rfl rfl rfl ?_
          obtain ⟨u14, hu14, h⟩ := ah_bs h
          obtain ⟨v15, σ16, hv15, h⟩ := ah_bs2 h
          refine ro_callV (pc' := 39) (As := [.int x1]) (rest := []) (st' := [.int v15]) (by decide) hu14 q1626 sl_X6_rowFault (M_X6_rowFault hv15) q1624 q1627 q104 dd_X6_rowFault rfl ⟨Nat.le_of_ble_eq_true rfl, Nat.le_of_ble_eq_true rfl⟩ (Nat.le_of_ble_eq_true rfl) dX6_below_36 rfl rfl rfl ?_
          obtain rfl := Option.some.inj h
          exact ro_iret hκ dX6_below_39
      · replace h := ah_ip c h
        refine ro_iconst (pc' := 25) dX6_below_24 ic_m1 rfl ?_
        obtain rfl := Option.some.inj h
        exact ro_iret hκ dX6_below_25
theorem M_X6_below {l : Launch} {D : ah_D}  {σ : ah_S} {r0 : Option Nat} {x1 : Int32} {x2 : Int32} {x3 : Int32} {v : Int32} {σ1 : ah_S} (h : F_X6_below σ r0 x1 x2 x3 = some (v, σ1)) : ah_Met l yX6_below (Cond.code yX6_below cX6_below 6 (some FieldType.int)) 7 166 D [va_rf r0, .int x1, .int x2, .int x3] σ (.returned (some (.int v)), σ1) :=
  ah_ofG (own := "LeftAsFoundModel") (nm := "below") (L0 := [some (va_rf r0), some (.int x1), some (.int x2), some (.int x3), none, none]) (by decide) rfl rfl rfl (ah_ao_1 (ah_rf_cat _) (ah_ao_1 rfl (ah_ao_1 rfl (ah_ao_1 rfl (ah_ao_n (ah_ao_n ah_ao_0)))))) (fun κ hκ => W_X6_below hκ  σ r0 x1 x2 x3 h)
set_option maxRecDepth 20000 in
set_option maxHeartbeats 4000000 in
theorem W_X6_body {κ : ah_C} {rr : (Int32 × ah_S)} (hκ : ah_res κ = (.returned (some (.int rr.1)), rr.2))  (σ : ah_S) (r0 : Option Nat) (x1 : Int32) (h : F_X6_body σ r0 x1 = some rr) : ah_G κ ("LeftAsFoundModel", "body", 2, (some FieldType.int), [], 2, 46) cX6_body σ 0 [some (va_rf r0), some (.int x1)] [] := by
  unfold F_X6_body at h
  refine ro_iload_n (pc' := 1) dX6_body_0 rfl rfl rfl ?_
  refine ro_iconst (pc' := 2) dX6_body_1 ic_0 rfl ?_
  refine ro_bipush (pc' := 4) dX6_body_2 ib_7 rfl ?_
  obtain ⟨v1, σ2, hv1, h⟩ := ah_bs2 h
  refine ro_callS (pc' := 7) (As := [.int x1, .int (0 : Int32), .int (7 : Int32)]) (rest := []) (st' := [.int v1]) q1494 (M_X6_in hv1) q1493 q1495 q104 dd_X6_in rfl ⟨Nat.le_of_ble_eq_true rfl, Nat.le_of_ble_eq_true rfl⟩ (Nat.le_of_ble_eq_true rfl) dX6_body_4 rfl rfl rfl ?_
  refine ro_if_ne (pc' := 10) (tgt := 12) dX6_body_7 rfl rfl (fun c => ?_) (fun c => ?_)
  · replace h := ah_in_ c h
    refine ro_aload_n (pc' := 13) dX6_body_12 rfl rfl rfl ?_
    obtain ⟨v3, hv3, h⟩ := ah_bs h
    refine ro_getI (pc' := 16) ft_652 fk_652 q1360 dX6_body_13 rfl hv3 ?_
    refine ro_bipush (pc' := 18) dX6_body_16 ib_50 rfl ?_
    refine ro_icmp_ne (pc' := 21) (tgt := 24) dX6_body_18 rfl rfl (fun c => ?_) (fun c => ?_)
    · replace h := ah_in_ c h
      refine ro_aload_n (pc' := 25) dX6_body_24 rfl rfl rfl ?_
      obtain ⟨v4, hv4, h⟩ := ah_bs h
      refine ro_getR (pc' := 28) ft_653 fk_653 q1361 dX6_body_25 rfl hv4 ?_
      refine ro_aload_n (pc' := 29) dX6_body_28 rfl rfl rfl ?_
      obtain ⟨v5, hv5, h⟩ := ah_bs h
      refine ro_getI (pc' := 32) ft_652 fk_652 q1360 dX6_body_29 rfl hv5 ?_
      refine ro_iload_n (pc' := 33) dX6_body_32 rfl rfl rfl ?_
      obtain ⟨σ6, hσ6, h⟩ := ah_bs h
      refine ro_iastore (pc' := 34) dX6_body_33 rfl hσ6 ?_
      refine ro_aload_n (pc' := 35) dX6_body_34 rfl rfl rfl ?_
      refine ro_dup (pc' := 36) dX6_body_35 (ah_rf_cat _) rfl ?_
      obtain ⟨v7, hv7, h⟩ := ah_bs h
      refine ro_getI (pc' := 39) ft_652 fk_652 q1360 dX6_body_36 rfl hv7 ?_
      refine ro_iconst (pc' := 40) dX6_body_39 ic_1 rfl ?_
      refine ro_iadd (pc' := 41) dX6_body_40 rfl ?_
      obtain ⟨σ8, hσ8, h⟩ := ah_bs h
      refine ro_putI (pc' := 44) ft_652 fk_652 q1360 pd_652 dX6_body_41 rfl hσ8 ?_
      refine ro_aload_n (pc' := 45) dX6_body_44 rfl rfl rfl ?_
      obtain ⟨v9, hv9, h⟩ := ah_bs h
      refine ro_getI (pc' := 48) ft_652 fk_652 q1360 dX6_body_45 rfl hv9 ?_
      refine ro_iconst (pc' := 49) dX6_body_48 ic_1 rfl ?_
      refine ro_isub (pc' := 50) dX6_body_49 rfl ?_
      obtain rfl := Option.some.inj h
      exact ro_iret hκ dX6_body_50
    · replace h := ah_ip c h
      refine ro_bipush (pc' := 23) dX6_body_21 ib_m3 rfl ?_
      obtain rfl := Option.some.inj h
      exact ro_iret hκ dX6_body_23
  · replace h := ah_ip c h
    refine ro_iconst (pc' := 11) dX6_body_10 ic_m1 rfl ?_
    obtain rfl := Option.some.inj h
    exact ro_iret hκ dX6_body_11
theorem M_X6_body {l : Launch} {D : ah_D}  {σ : ah_S} {r0 : Option Nat} {x1 : Int32} {v : Int32} {σ1 : ah_S} (h : F_X6_body σ r0 x1 = some (v, σ1)) : ah_Met l yX6_body (Cond.code yX6_body cX6_body 2 (some FieldType.int)) 2 46 D [va_rf r0, .int x1] σ (.returned (some (.int v)), σ1) :=
  ah_ofG (own := "LeftAsFoundModel") (nm := "body") (L0 := [some (va_rf r0), some (.int x1)]) (by decide) rfl rfl rfl (ah_ao_1 (ah_rf_cat _) (ah_ao_1 rfl ah_ao_0)) (fun κ hκ => W_X6_body hκ  σ r0 x1 h)
set_option maxRecDepth 20000 in
set_option maxHeartbeats 4000000 in
theorem W_X6_spotAt {κ : ah_C} {rr : (Int32 × ah_S)} (hκ : ah_res κ = (.returned (some (.int rr.1)), rr.2))  (σ : ah_S) (x0 : Int32) (h : F_X6_spotAt σ x0 = some rr) : ah_G κ ("LeftAsFoundModel", "spotAt", 1, (some FieldType.int), [], 1, 24) cX6_spotAt σ 0 [some (.int x0)] [] := by
  unfold F_X6_spotAt at h
  refine ro_iconst (pc' := 1) dX6_spotAt_0 ic_4 rfl ?_
  refine ro_iload_n (pc' := 2) dX6_spotAt_1 rfl rfl rfl ?_
  refine ro_bipush (pc' := 4) dX6_spotAt_2 ib_10 rfl ?_
  obtain ⟨q1, hq1, h⟩ := ah_bs h
  refine ro_idiv (pc' := 5) dX6_spotAt_4 rfl hq1 ?_
  refine ro_imul (pc' := 6) dX6_spotAt_5 rfl ?_
  refine ro_iload_n (pc' := 7) dX6_spotAt_6 rfl rfl rfl ?_
  refine ro_bipush (pc' := 9) dX6_spotAt_7 ib_10 rfl ?_
  obtain ⟨q2, hq2, h⟩ := ah_bs h
  refine ro_irem (pc' := 10) dX6_spotAt_9 rfl hq2 ?_
  refine ro_iadd (pc' := 11) dX6_spotAt_10 rfl ?_
  obtain rfl := Option.some.inj h
  exact ro_iret hκ dX6_spotAt_11
theorem M_X6_spotAt {l : Launch} {D : ah_D}  {σ : ah_S} {x0 : Int32} {v : Int32} {σ1 : ah_S} (h : F_X6_spotAt σ x0 = some (v, σ1)) : ah_Met l yX6_spotAt (Cond.code yX6_spotAt cX6_spotAt 1 (some FieldType.int)) 1 24 D [.int x0] σ (.returned (some (.int v)), σ1) :=
  ah_ofG (own := "LeftAsFoundModel") (nm := "spotAt") (L0 := [some (.int x0)]) (by decide) rfl rfl rfl (ah_ao_1 rfl ah_ao_0) (fun κ hκ => W_X6_spotAt hκ  σ x0 h)
set_option maxRecDepth 20000 in
set_option maxHeartbeats 4000000 in
theorem W_X6_valueAt {κ : ah_C} {rr : (Int32 × ah_S)} (hκ : ah_res κ = (.returned (some (.int rr.1)), rr.2))  (σ : ah_S) (r0 : Option Nat) (x1 : Int32) (x2 : Int32) (h : F_X6_valueAt σ r0 x1 x2 = some rr) : ah_G κ ("LeftAsFoundModel", "valueAt", 3, (some FieldType.int), [], 2, 44) cX6_valueAt σ 0 [some (va_rf r0), some (.int x1), some (.int x2)] [] := by
  unfold F_X6_valueAt at h
  refine ro_iload_n (pc' := 1) dX6_valueAt_0 rfl rfl rfl ?_
  by_cases c1_0 : x1 = (0 : Int32)
  · replace h := ah_ip c1_0 h
    refine ro_tabIn (tgt := 48) 0 c1_0 dX6_valueAt_1 (by decide) (by decide) rfl rfl ?_
    refine ro_aload_n (pc' := 49) dX6_valueAt_48 rfl rfl rfl ?_
    obtain ⟨v1, hv1, h⟩ := ah_bs h
    refine ro_getR (pc' := 52) ft_601 fk_601 q1309 dX6_valueAt_49 rfl hv1 ?_
    refine ro_iload_n (pc' := 53) dX6_valueAt_52 rfl rfl rfl ?_
    obtain ⟨v2, hv2, h⟩ := ah_bs h
    refine ro_iaload (pc' := 54) dX6_valueAt_53 rfl hv2 ?_
    obtain rfl := Option.some.inj h
    exact ro_iret hκ dX6_valueAt_54
  replace h := ah_in_ c1_0 h
  by_cases c1_1 : x1 = (1 : Int32)
  · replace h := ah_ip c1_1 h
    refine ro_tabIn (tgt := 55) 1 c1_1 dX6_valueAt_1 (by decide) (by decide) rfl rfl ?_
    refine ro_aload_n (pc' := 56) dX6_valueAt_55 rfl rfl rfl ?_
    obtain ⟨v3, hv3, h⟩ := ah_bs h
    refine ro_getR (pc' := 59) ft_602 fk_602 q1310 dX6_valueAt_56 rfl hv3 ?_
    refine ro_iload_n (pc' := 60) dX6_valueAt_59 rfl rfl rfl ?_
    obtain ⟨v4, hv4, h⟩ := ah_bs h
    refine ro_iaload (pc' := 61) dX6_valueAt_60 rfl hv4 ?_
    obtain rfl := Option.some.inj h
    exact ro_iret hκ dX6_valueAt_61
  replace h := ah_in_ c1_1 h
  by_cases c1_2 : x1 = (2 : Int32)
  · replace h := ah_ip c1_2 h
    refine ro_tabIn (tgt := 62) 2 c1_2 dX6_valueAt_1 (by decide) (by decide) rfl rfl ?_
    refine ro_aload_n (pc' := 63) dX6_valueAt_62 rfl rfl rfl ?_
    obtain ⟨v5, hv5, h⟩ := ah_bs h
    refine ro_getR (pc' := 66) ft_604 fk_604 q1312 dX6_valueAt_63 rfl hv5 ?_
    refine ro_iload_n (pc' := 67) dX6_valueAt_66 rfl rfl rfl ?_
    obtain ⟨v6, σ7, hv6, h⟩ := ah_bs2 h
    refine ro_callS (pc' := 70) (As := [.int x2]) (rest := [va_rf v5]) (st' := [.int v6, va_rf v5]) q1517 (M_X6_spotAt hv6) q1516 q1518 q104 dd_X6_spotAt rfl ⟨Nat.le_of_ble_eq_true rfl, Nat.le_of_ble_eq_true rfl⟩ (by simp only [List.map_cons, List.map_nil, List.sum_cons, List.sum_nil, ah_rf_cat, ah_cat_i, ah_cat_l]; decide) dX6_valueAt_67 rfl rfl rfl ?_
    obtain ⟨v8, hv8, h⟩ := ah_bs h
    refine ro_iaload (pc' := 71) dX6_valueAt_70 rfl hv8 ?_
    obtain rfl := Option.some.inj h
    exact ro_iret hκ dX6_valueAt_71
  replace h := ah_in_ c1_2 h
  by_cases c1_3 : x1 = (3 : Int32)
  · replace h := ah_ip c1_3 h
    refine ro_tabIn (tgt := 72) 3 c1_3 dX6_valueAt_1 (by decide) (by decide) rfl rfl ?_
    refine ro_aload_n (pc' := 73) dX6_valueAt_72 rfl rfl rfl ?_
    obtain ⟨v9, hv9, h⟩ := ah_bs h
    refine ro_getR (pc' := 76) ft_605 fk_605 q1313 dX6_valueAt_73 rfl hv9 ?_
    refine ro_iload_n (pc' := 77) dX6_valueAt_76 rfl rfl rfl ?_
    obtain ⟨v10, σ11, hv10, h⟩ := ah_bs2 h
    refine ro_callS (pc' := 80) (As := [.int x2]) (rest := [va_rf v9]) (st' := [.int v10, va_rf v9]) q1517 (M_X6_spotAt hv10) q1516 q1518 q104 dd_X6_spotAt rfl ⟨Nat.le_of_ble_eq_true rfl, Nat.le_of_ble_eq_true rfl⟩ (by simp only [List.map_cons, List.map_nil, List.sum_cons, List.sum_nil, ah_rf_cat, ah_cat_i, ah_cat_l]; decide) dX6_valueAt_77 rfl rfl rfl ?_
    obtain ⟨v12, hv12, h⟩ := ah_bs h
    refine ro_iaload (pc' := 81) dX6_valueAt_80 rfl hv12 ?_
    obtain rfl := Option.some.inj h
    exact ro_iret hκ dX6_valueAt_81
  replace h := ah_in_ c1_3 h
  by_cases c1_4 : x1 = (4 : Int32)
  · replace h := ah_ip c1_4 h
    refine ro_tabIn (tgt := 82) 4 c1_4 dX6_valueAt_1 (by decide) (by decide) rfl rfl ?_
    refine ro_aload_n (pc' := 83) dX6_valueAt_82 rfl rfl rfl ?_
    obtain ⟨v13, hv13, h⟩ := ah_bs h
    refine ro_getR (pc' := 86) ft_606 fk_606 q1314 dX6_valueAt_83 rfl hv13 ?_
    refine ro_iload_n (pc' := 87) dX6_valueAt_86 rfl rfl rfl ?_
    obtain ⟨v14, hv14, h⟩ := ah_bs h
    refine ro_iaload (pc' := 88) dX6_valueAt_87 rfl hv14 ?_
    obtain rfl := Option.some.inj h
    exact ro_iret hκ dX6_valueAt_88
  replace h := ah_in_ c1_4 h
  by_cases c1_5 : x1 = (5 : Int32)
  · replace h := ah_ip c1_5 h
    refine ro_tabIn (tgt := 89) 5 c1_5 dX6_valueAt_1 (by decide) (by decide) rfl rfl ?_
    refine ro_aload_n (pc' := 90) dX6_valueAt_89 rfl rfl rfl ?_
    obtain ⟨v15, hv15, h⟩ := ah_bs h
    refine ro_getR (pc' := 93) ft_607 fk_607 q1315 dX6_valueAt_90 rfl hv15 ?_
    refine ro_iload_n (pc' := 94) dX6_valueAt_93 rfl rfl rfl ?_
    obtain ⟨v16, hv16, h⟩ := ah_bs h
    refine ro_iaload (pc' := 95) dX6_valueAt_94 rfl hv16 ?_
    obtain rfl := Option.some.inj h
    exact ro_iret hκ dX6_valueAt_95
  replace h := ah_in_ c1_5 h
  by_cases c1_6 : x1 = (6 : Int32)
  · replace h := ah_ip c1_6 h
    refine ro_tabIn (tgt := 96) 6 c1_6 dX6_valueAt_1 (by decide) (by decide) rfl rfl ?_
    refine ro_aload_n (pc' := 97) dX6_valueAt_96 rfl rfl rfl ?_
    obtain ⟨v17, hv17, h⟩ := ah_bs h
    refine ro_getI (pc' := 100) ft_608 fk_608 q1316 dX6_valueAt_97 rfl hv17 ?_
    obtain rfl := Option.some.inj h
    exact ro_iret hκ dX6_valueAt_100
  replace h := ah_in_ c1_6 h
  by_cases c1_7 : x1 = (7 : Int32)
  · replace h := ah_ip c1_7 h
    refine ro_tabIn (tgt := 101) 7 c1_7 dX6_valueAt_1 (by decide) (by decide) rfl rfl ?_
    refine ro_aload_n (pc' := 102) dX6_valueAt_101 rfl rfl rfl ?_
    obtain ⟨v18, hv18, h⟩ := ah_bs h
    refine ro_getI (pc' := 105) ft_609 fk_609 q1317 dX6_valueAt_102 rfl hv18 ?_
    obtain rfl := Option.some.inj h
    exact ro_iret hκ dX6_valueAt_105
  replace h := ah_in_ c1_7 h
  refine ro_tabOut (tgt := 106) dX6_valueAt_1 (by have e0 := lv_neT (a := 0) c1_0 (by decide); have e1 := lv_neT (a := 1) c1_1 (by decide); have e2 := lv_neT (a := 2) c1_2 (by decide); have e3 := lv_neT (a := 3) c1_3 (by decide); have e4 := lv_neT (a := 4) c1_4 (by decide); have e5 := lv_neT (a := 5) c1_5 (by decide); have e6 := lv_neT (a := 6) c1_6 (by decide); have e7 := lv_neT (a := 7) c1_7 (by decide); omega) rfl ?_
  refine ro_aload_n (pc' := 107) dX6_valueAt_106 rfl rfl rfl ?_
  obtain ⟨v19, hv19, h⟩ := ah_bs h
  refine ro_getI (pc' := 110) ft_610 fk_610 q1318 dX6_valueAt_107 rfl hv19 ?_
  obtain rfl := Option.some.inj h
  exact ro_iret hκ dX6_valueAt_110
theorem M_X6_valueAt {l : Launch} {D : ah_D}  {σ : ah_S} {r0 : Option Nat} {x1 : Int32} {x2 : Int32} {v : Int32} {σ1 : ah_S} (h : F_X6_valueAt σ r0 x1 x2 = some (v, σ1)) : ah_Met l yX6_valueAt (Cond.code yX6_valueAt cX6_valueAt 3 (some FieldType.int)) 2 44 D [va_rf r0, .int x1, .int x2] σ (.returned (some (.int v)), σ1) :=
  ah_ofG (own := "LeftAsFoundModel") (nm := "valueAt") (L0 := [some (va_rf r0), some (.int x1), some (.int x2)]) (by decide) rfl rfl rfl (ah_ao_1 (ah_rf_cat _) (ah_ao_1 rfl (ah_ao_1 rfl ah_ao_0))) (fun κ hκ => W_X6_valueAt hκ  σ r0 x1 x2 h)
set_option maxRecDepth 20000 in
set_option maxHeartbeats 4000000 in
theorem W_X6_lays {κ : ah_C} {rr : ah_S} (hκ : ah_res κ = (.returned none, rr))  (σ : ah_S) (r0 : Option Nat) (x1 : Int32) (x2 : Int32) (x3 : Int32) (h : F_X6_lays σ r0 x1 x2 x3 = some rr) : ah_G κ ("LeftAsFoundModel", "lays", 4, none, [], 2, 44) cX6_lays σ 0 [some (va_rf r0), some (.int x1), some (.int x2), some (.int x3)] [] := by
  unfold F_X6_lays at h
  refine ro_iload_n (pc' := 1) dX6_lays_0 rfl rfl rfl ?_
  by_cases c1_0 : x1 = (0 : Int32)
  · replace h := ah_ip c1_0 h
    refine ro_tabIn (tgt := 48) 0 c1_0 dX6_lays_1 (by decide) (by decide) rfl rfl ?_
    refine ro_aload_n (pc' := 49) dX6_lays_48 rfl rfl rfl ?_
    obtain ⟨v1, hv1, h⟩ := ah_bs h
    refine ro_getR (pc' := 52) ft_601 fk_601 q1309 dX6_lays_49 rfl hv1 ?_
    refine ro_iload_n (pc' := 53) dX6_lays_52 rfl rfl rfl ?_
    refine ro_iload_n (pc' := 54) dX6_lays_53 rfl rfl rfl ?_
    obtain ⟨σ2, hσ2, h⟩ := ah_bs h
    refine ro_iastore (pc' := 55) dX6_lays_54 rfl hσ2 ?_
    refine ro_goto (tgt := 135) dX6_lays_55 rfl ?_
    obtain rfl := Option.some.inj h
    exact ro_vret hκ dX6_lays_135
  replace h := ah_in_ c1_0 h
  by_cases c1_1 : x1 = (1 : Int32)
  · replace h := ah_ip c1_1 h
    refine ro_tabIn (tgt := 58) 1 c1_1 dX6_lays_1 (by decide) (by decide) rfl rfl ?_
    refine ro_aload_n (pc' := 59) dX6_lays_58 rfl rfl rfl ?_
    obtain ⟨v3, hv3, h⟩ := ah_bs h
    refine ro_getR (pc' := 62) ft_602 fk_602 q1310 dX6_lays_59 rfl hv3 ?_
    refine ro_iload_n (pc' := 63) dX6_lays_62 rfl rfl rfl ?_
    refine ro_iload_n (pc' := 64) dX6_lays_63 rfl rfl rfl ?_
    obtain ⟨σ4, hσ4, h⟩ := ah_bs h
    refine ro_iastore (pc' := 65) dX6_lays_64 rfl hσ4 ?_
    refine ro_goto (tgt := 135) dX6_lays_65 rfl ?_
    obtain rfl := Option.some.inj h
    exact ro_vret hκ dX6_lays_135
  replace h := ah_in_ c1_1 h
  by_cases c1_2 : x1 = (2 : Int32)
  · replace h := ah_ip c1_2 h
    refine ro_tabIn (tgt := 68) 2 c1_2 dX6_lays_1 (by decide) (by decide) rfl rfl ?_
    refine ro_aload_n (pc' := 69) dX6_lays_68 rfl rfl rfl ?_
    obtain ⟨v5, hv5, h⟩ := ah_bs h
    refine ro_getR (pc' := 72) ft_604 fk_604 q1312 dX6_lays_69 rfl hv5 ?_
    refine ro_iload_n (pc' := 73) dX6_lays_72 rfl rfl rfl ?_
    obtain ⟨v6, σ7, hv6, h⟩ := ah_bs2 h
    refine ro_callS (pc' := 76) (As := [.int x2]) (rest := [va_rf v5]) (st' := [.int v6, va_rf v5]) q1517 (M_X6_spotAt hv6) q1516 q1518 q104 dd_X6_spotAt rfl ⟨Nat.le_of_ble_eq_true rfl, Nat.le_of_ble_eq_true rfl⟩ (by simp only [List.map_cons, List.map_nil, List.sum_cons, List.sum_nil, ah_rf_cat, ah_cat_i, ah_cat_l]; decide) dX6_lays_73 rfl rfl rfl ?_
    refine ro_iload_n (pc' := 77) dX6_lays_76 rfl rfl rfl ?_
    obtain ⟨σ8, hσ8, h⟩ := ah_bs h
    refine ro_iastore (pc' := 78) dX6_lays_77 rfl hσ8 ?_
    refine ro_goto (tgt := 135) dX6_lays_78 rfl ?_
    obtain rfl := Option.some.inj h
    exact ro_vret hκ dX6_lays_135
  replace h := ah_in_ c1_2 h
  by_cases c1_3 : x1 = (3 : Int32)
  · replace h := ah_ip c1_3 h
    refine ro_tabIn (tgt := 81) 3 c1_3 dX6_lays_1 (by decide) (by decide) rfl rfl ?_
    refine ro_aload_n (pc' := 82) dX6_lays_81 rfl rfl rfl ?_
    obtain ⟨v9, hv9, h⟩ := ah_bs h
    refine ro_getR (pc' := 85) ft_605 fk_605 q1313 dX6_lays_82 rfl hv9 ?_
    refine ro_iload_n (pc' := 86) dX6_lays_85 rfl rfl rfl ?_
    obtain ⟨v10, σ11, hv10, h⟩ := ah_bs2 h
    refine ro_callS (pc' := 89) (As := [.int x2]) (rest := [va_rf v9]) (st' := [.int v10, va_rf v9]) q1517 (M_X6_spotAt hv10) q1516 q1518 q104 dd_X6_spotAt rfl ⟨Nat.le_of_ble_eq_true rfl, Nat.le_of_ble_eq_true rfl⟩ (by simp only [List.map_cons, List.map_nil, List.sum_cons, List.sum_nil, ah_rf_cat, ah_cat_i, ah_cat_l]; decide) dX6_lays_86 rfl rfl rfl ?_
    refine ro_iload_n (pc' := 90) dX6_lays_89 rfl rfl rfl ?_
    obtain ⟨σ12, hσ12, h⟩ := ah_bs h
    refine ro_iastore (pc' := 91) dX6_lays_90 rfl hσ12 ?_
    refine ro_goto (tgt := 135) dX6_lays_91 rfl ?_
    obtain rfl := Option.some.inj h
    exact ro_vret hκ dX6_lays_135
  replace h := ah_in_ c1_3 h
  by_cases c1_4 : x1 = (4 : Int32)
  · replace h := ah_ip c1_4 h
    refine ro_tabIn (tgt := 94) 4 c1_4 dX6_lays_1 (by decide) (by decide) rfl rfl ?_
    refine ro_aload_n (pc' := 95) dX6_lays_94 rfl rfl rfl ?_
    obtain ⟨v13, hv13, h⟩ := ah_bs h
    refine ro_getR (pc' := 98) ft_606 fk_606 q1314 dX6_lays_95 rfl hv13 ?_
    refine ro_iload_n (pc' := 99) dX6_lays_98 rfl rfl rfl ?_
    refine ro_iload_n (pc' := 100) dX6_lays_99 rfl rfl rfl ?_
    obtain ⟨σ14, hσ14, h⟩ := ah_bs h
    refine ro_iastore (pc' := 101) dX6_lays_100 rfl hσ14 ?_
    refine ro_goto (tgt := 135) dX6_lays_101 rfl ?_
    obtain rfl := Option.some.inj h
    exact ro_vret hκ dX6_lays_135
  replace h := ah_in_ c1_4 h
  by_cases c1_5 : x1 = (5 : Int32)
  · replace h := ah_ip c1_5 h
    refine ro_tabIn (tgt := 104) 5 c1_5 dX6_lays_1 (by decide) (by decide) rfl rfl ?_
    refine ro_aload_n (pc' := 105) dX6_lays_104 rfl rfl rfl ?_
    obtain ⟨v15, hv15, h⟩ := ah_bs h
    refine ro_getR (pc' := 108) ft_607 fk_607 q1315 dX6_lays_105 rfl hv15 ?_
    refine ro_iload_n (pc' := 109) dX6_lays_108 rfl rfl rfl ?_
    refine ro_iload_n (pc' := 110) dX6_lays_109 rfl rfl rfl ?_
    obtain ⟨σ16, hσ16, h⟩ := ah_bs h
    refine ro_iastore (pc' := 111) dX6_lays_110 rfl hσ16 ?_
    refine ro_goto (tgt := 135) dX6_lays_111 rfl ?_
    obtain rfl := Option.some.inj h
    exact ro_vret hκ dX6_lays_135
  replace h := ah_in_ c1_5 h
  by_cases c1_6 : x1 = (6 : Int32)
  · replace h := ah_ip c1_6 h
    refine ro_tabIn (tgt := 114) 6 c1_6 dX6_lays_1 (by decide) (by decide) rfl rfl ?_
    refine ro_aload_n (pc' := 115) dX6_lays_114 rfl rfl rfl ?_
    refine ro_iload_n (pc' := 116) dX6_lays_115 rfl rfl rfl ?_
    obtain ⟨σ17, hσ17, h⟩ := ah_bs h
    refine ro_putI (pc' := 119) ft_608 fk_608 q1316 pd_608 dX6_lays_116 rfl hσ17 ?_
    refine ro_goto (tgt := 135) dX6_lays_119 rfl ?_
    obtain rfl := Option.some.inj h
    exact ro_vret hκ dX6_lays_135
  replace h := ah_in_ c1_6 h
  by_cases c1_7 : x1 = (7 : Int32)
  · replace h := ah_ip c1_7 h
    refine ro_tabIn (tgt := 122) 7 c1_7 dX6_lays_1 (by decide) (by decide) rfl rfl ?_
    refine ro_aload_n (pc' := 123) dX6_lays_122 rfl rfl rfl ?_
    refine ro_iload_n (pc' := 124) dX6_lays_123 rfl rfl rfl ?_
    obtain ⟨σ18, hσ18, h⟩ := ah_bs h
    refine ro_putI (pc' := 127) ft_609 fk_609 q1317 pd_609 dX6_lays_124 rfl hσ18 ?_
    refine ro_goto (tgt := 135) dX6_lays_127 rfl ?_
    obtain rfl := Option.some.inj h
    exact ro_vret hκ dX6_lays_135
  replace h := ah_in_ c1_7 h
  refine ro_tabOut (tgt := 130) dX6_lays_1 (by have e0 := lv_neT (a := 0) c1_0 (by decide); have e1 := lv_neT (a := 1) c1_1 (by decide); have e2 := lv_neT (a := 2) c1_2 (by decide); have e3 := lv_neT (a := 3) c1_3 (by decide); have e4 := lv_neT (a := 4) c1_4 (by decide); have e5 := lv_neT (a := 5) c1_5 (by decide); have e6 := lv_neT (a := 6) c1_6 (by decide); have e7 := lv_neT (a := 7) c1_7 (by decide); omega) rfl ?_
  refine ro_aload_n (pc' := 131) dX6_lays_130 rfl rfl rfl ?_
  refine ro_iload_n (pc' := 132) dX6_lays_131 rfl rfl rfl ?_
  obtain ⟨σ19, hσ19, h⟩ := ah_bs h
  refine ro_putI (pc' := 135) ft_610 fk_610 q1318 pd_610 dX6_lays_132 rfl hσ19 ?_
  obtain rfl := Option.some.inj h
  exact ro_vret hκ dX6_lays_135
theorem M_X6_lays {l : Launch} {D : ah_D}  {σ : ah_S} {r0 : Option Nat} {x1 : Int32} {x2 : Int32} {x3 : Int32} {σ1 : ah_S} (h : F_X6_lays σ r0 x1 x2 x3 = some σ1) : ah_Met l yX6_lays (Cond.code yX6_lays cX6_lays 4 none) 2 44 D [va_rf r0, .int x1, .int x2, .int x3] σ (.returned none, σ1) :=
  ah_ofG (own := "LeftAsFoundModel") (nm := "lays") (L0 := [some (va_rf r0), some (.int x1), some (.int x2), some (.int x3)]) (by decide) rfl rfl rfl (ah_ao_1 (ah_rf_cat _) (ah_ao_1 rfl (ah_ao_1 rfl (ah_ao_1 rfl ah_ao_0)))) (fun κ hκ => W_X6_lays hκ  σ r0 x1 x2 x3 h)
set_option maxRecDepth 20000 in
set_option maxHeartbeats 4000000 in
theorem W_X6_changes_34 {κ : ah_C} {rr : (Int32 × ah_S)} (hκ : ah_res κ = (.returned (some (.int rr.1)), rr.2))  {k121 : ah_S → Option Nat → Int32 → Int32 → Int32 → Int32 → Option (Int32 × ah_S)} (hk121 : ∀ (σ : ah_S) (r0 : Option Nat) (x1 : Int32) (x2 : Int32) (x3 : Int32) (x4 : Int32), k121 σ r0 x1 x2 x3 x4 = some rr → ah_G κ ("LeftAsFoundModel", "changes", 6, (some FieldType.int), [], 3, 67) cX6_changes σ 121 [some (va_rf r0), some (.int x1), some (.int x2), some (.int x3), some (.int x4), none] []) : ∀ (n : Nat) (σ : ah_S) (r0 : Option Nat) (x1 : Int32) (x2 : Int32) (x3 : Int32) (x4 : Int32) (x5 : Int32), F_X6_changes_34 k121 n σ r0 x1 x2 x3 x4 x5 = some rr → ah_G κ ("LeftAsFoundModel", "changes", 6, (some FieldType.int), [], 3, 67) cX6_changes σ 34 [some (va_rf r0), some (.int x1), some (.int x2), some (.int x3), some (.int x4), some (.int x5)] [] := by
  intro n
  induction n with
  | zero => intro σ r0 x1 x2 x3 x4 x5 h; cases h
  | succ n ih =>
    intro σ r0 x1 x2 x3 x4 x5 h
    rw [F_X6_changes_34] at h
    refine ro_iload (pc' := 36) dX6_changes_34 rfl rfl ?_
    refine ro_bipush (pc' := 38) dX6_changes_36 ib_40 rfl ?_
    refine ro_icmp_ge (pc' := 41) (tgt := 111) dX6_changes_38 rfl rfl (fun c => ?_) (fun c => ?_)
    · replace h := ah_ip c h
      refine ro_aload_n (pc' := 112) dX6_changes_111 rfl rfl rfl ?_
      refine ro_dup (pc' := 113) dX6_changes_112 (ah_rf_cat _) rfl ?_
      obtain ⟨v1, hv1, h⟩ := ah_bs h
      refine ro_getI (pc' := 116) ft_612 fk_612 q1320 dX6_changes_113 rfl hv1 ?_
      refine ro_iconst (pc' := 117) dX6_changes_116 ic_1 rfl ?_
      refine ro_isub (pc' := 118) dX6_changes_117 rfl ?_
      obtain ⟨σ2, hσ2, h⟩ := ah_bs h
      refine ro_putI (pc' := 121) ft_612 fk_612 q1320 pd_612 dX6_changes_118 rfl hσ2 ?_
      refine ro_weak (L' := [some (va_rf r0), some (.int x1), some (.int x2), some (.int x3), some (.int x4), none]) (ah_ls_s (ah_ls_s (ah_ls_s (ah_ls_s (ah_ls_s (ah_ls_n ah_ls_0)))))) ?_
      exact hk121 _ _ _ _ _ _ h
    · replace h := ah_in_ c h
      refine ro_aload_n (pc' := 42) dX6_changes_41 rfl rfl rfl ?_
      obtain ⟨v3, hv3, h⟩ := ah_bs h
      refine ro_getR (pc' := 45) ft_614 fk_614 q1322 dX6_changes_42 rfl hv3 ?_
      refine ro_iload (pc' := 47) dX6_changes_45 rfl rfl ?_
      refine ro_iconst (pc' := 48) dX6_changes_47 ic_1 rfl ?_
      refine ro_isub (pc' := 49) dX6_changes_48 rfl ?_
      refine ro_aload_n (pc' := 50) dX6_changes_49 rfl rfl rfl ?_
      obtain ⟨v4, hv4, h⟩ := ah_bs h
      refine ro_getR (pc' := 53) ft_614 fk_614 q1322 dX6_changes_50 rfl hv4 ?_
      refine ro_iload (pc' := 55) dX6_changes_53 rfl rfl ?_
      obtain ⟨v5, hv5, h⟩ := ah_bs h
      refine ro_iaload (pc' := 56) dX6_changes_55 rfl hv5 ?_
      obtain ⟨σ6, hσ6, h⟩ := ah_bs h
      refine ro_iastore (pc' := 57) dX6_changes_56 rfl hσ6 ?_
      refine ro_aload_n (pc' := 58) dX6_changes_57 rfl rfl rfl ?_
      obtain ⟨v7, hv7, h⟩ := ah_bs h
      refine ro_getR (pc' := 61) ft_615 fk_615 q1323 dX6_changes_58 rfl hv7 ?_
      refine ro_iload (pc' := 63) dX6_changes_61 rfl rfl ?_
      refine ro_iconst (pc' := 64) dX6_changes_63 ic_1 rfl ?_
      refine ro_isub (pc' := 65) dX6_changes_64 rfl ?_
      refine ro_aload_n (pc' := 66) dX6_changes_65 rfl rfl rfl ?_
      obtain ⟨v8, hv8, h⟩ := ah_bs h
      refine ro_getR (pc' := 69) ft_615 fk_615 q1323 dX6_changes_66 rfl hv8 ?_
      refine ro_iload (pc' := 71) dX6_changes_69 rfl rfl ?_
      obtain ⟨v9, hv9, h⟩ := ah_bs h
      refine ro_iaload (pc' := 72) dX6_changes_71 rfl hv9 ?_
      obtain ⟨σ10, hσ10, h⟩ := ah_bs h
      refine ro_iastore (pc' := 73) dX6_changes_72 rfl hσ10 ?_
      refine ro_aload_n (pc' := 74) dX6_changes_73 rfl rfl rfl ?_
      obtain ⟨v11, hv11, h⟩ := ah_bs h
      refine ro_getR (pc' := 77) ft_616 fk_616 q1324 dX6_changes_74 rfl hv11 ?_
      refine ro_iload (pc' := 79) dX6_changes_77 rfl rfl ?_
      refine ro_iconst (pc' := 80) dX6_changes_79 ic_1 rfl ?_
      refine ro_isub (pc' := 81) dX6_changes_80 rfl ?_
      refine ro_aload_n (pc' := 82) dX6_changes_81 rfl rfl rfl ?_
      obtain ⟨v12, hv12, h⟩ := ah_bs h
      refine ro_getR (pc' := 85) ft_616 fk_616 q1324 dX6_changes_82 rfl hv12 ?_
      refine ro_iload (pc' := 87) dX6_changes_85 rfl rfl ?_
      obtain ⟨v13, hv13, h⟩ := ah_bs h
      refine ro_iaload (pc' := 88) dX6_changes_87 rfl hv13 ?_
      obtain ⟨σ14, hσ14, h⟩ := ah_bs h
      refine ro_iastore (pc' := 89) dX6_changes_88 rfl hσ14 ?_
      refine ro_aload_n (pc' := 90) dX6_changes_89 rfl rfl rfl ?_
      obtain ⟨v15, hv15, h⟩ := ah_bs h
      refine ro_getR (pc' := 93) ft_617 fk_617 q1325 dX6_changes_90 rfl hv15 ?_
      refine ro_iload (pc' := 95) dX6_changes_93 rfl rfl ?_
      refine ro_iconst (pc' := 96) dX6_changes_95 ic_1 rfl ?_
      refine ro_isub (pc' := 97) dX6_changes_96 rfl ?_
      refine ro_aload_n (pc' := 98) dX6_changes_97 rfl rfl rfl ?_
      obtain ⟨v16, hv16, h⟩ := ah_bs h
      refine ro_getR (pc' := 101) ft_617 fk_617 q1325 dX6_changes_98 rfl hv16 ?_
      refine ro_iload (pc' := 103) dX6_changes_101 rfl rfl ?_
      obtain ⟨v17, hv17, h⟩ := ah_bs h
      refine ro_iaload (pc' := 104) dX6_changes_103 rfl hv17 ?_
      obtain ⟨σ18, hσ18, h⟩ := ah_bs h
      refine ro_iastore (pc' := 105) dX6_changes_104 rfl hσ18 ?_
      refine ro_iinc (pc' := 108) (L' := [some (va_rf r0), some (.int x1), some (.int x2), some (.int x3), some (.int x4), some (.int (x5 + (1 : Int32)))]) dX6_changes_105 rfl ic_1 (Nat.le_of_ble_eq_true rfl) rfl (ah_okp_i _) rfl ?_
      refine ro_goto (tgt := 34) dX6_changes_108 rfl ?_
      exact ih _ _ _ _ _ _ _ h
set_option maxRecDepth 20000 in
set_option maxHeartbeats 4000000 in
theorem W_X6_changes_121 {κ : ah_C} {rr : (Int32 × ah_S)} (hκ : ah_res κ = (.returned (some (.int rr.1)), rr.2))    : ∀ (σ : ah_S) (r0 : Option Nat) (x1 : Int32) (x2 : Int32) (x3 : Int32) (x4 : Int32), F_X6_changes_121 σ r0 x1 x2 x3 x4 = some rr → ah_G κ ("LeftAsFoundModel", "changes", 6, (some FieldType.int), [], 3, 67) cX6_changes σ 121 [some (va_rf r0), some (.int x1), some (.int x2), some (.int x3), some (.int x4), none] [] := by
  intro σ r0 x1 x2 x3 x4 h
  unfold F_X6_changes_121 at h
  refine ro_aload_n (pc' := 122) dX6_changes_121 rfl rfl rfl ?_
  obtain ⟨v1, hv1, h⟩ := ah_bs h
  refine ro_getR (pc' := 125) ft_614 fk_614 q1322 dX6_changes_122 rfl hv1 ?_
  refine ro_aload_n (pc' := 126) dX6_changes_125 rfl rfl rfl ?_
  obtain ⟨v2, hv2, h⟩ := ah_bs h
  refine ro_getI (pc' := 129) ft_612 fk_612 q1320 dX6_changes_126 rfl hv2 ?_
  refine ro_iload_n (pc' := 130) dX6_changes_129 rfl rfl rfl ?_
  obtain ⟨σ3, hσ3, h⟩ := ah_bs h
  refine ro_iastore (pc' := 131) dX6_changes_130 rfl hσ3 ?_
  refine ro_aload_n (pc' := 132) dX6_changes_131 rfl rfl rfl ?_
  obtain ⟨v4, hv4, h⟩ := ah_bs h
  refine ro_getR (pc' := 135) ft_615 fk_615 q1323 dX6_changes_132 rfl hv4 ?_
  refine ro_aload_n (pc' := 136) dX6_changes_135 rfl rfl rfl ?_
  obtain ⟨v5, hv5, h⟩ := ah_bs h
  refine ro_getI (pc' := 139) ft_612 fk_612 q1320 dX6_changes_136 rfl hv5 ?_
  refine ro_iload_n (pc' := 140) dX6_changes_139 rfl rfl rfl ?_
  obtain ⟨σ6, hσ6, h⟩ := ah_bs h
  refine ro_iastore (pc' := 141) dX6_changes_140 rfl hσ6 ?_
  refine ro_aload_n (pc' := 142) dX6_changes_141 rfl rfl rfl ?_
  obtain ⟨v7, hv7, h⟩ := ah_bs h
  refine ro_getR (pc' := 145) ft_616 fk_616 q1324 dX6_changes_142 rfl hv7 ?_
  refine ro_aload_n (pc' := 146) dX6_changes_145 rfl rfl rfl ?_
  obtain ⟨v8, hv8, h⟩ := ah_bs h
  refine ro_getI (pc' := 149) ft_612 fk_612 q1320 dX6_changes_146 rfl hv8 ?_
  refine ro_iload (pc' := 151) dX6_changes_149 rfl rfl ?_
  obtain ⟨σ9, hσ9, h⟩ := ah_bs h
  refine ro_iastore (pc' := 152) dX6_changes_151 rfl hσ9 ?_
  refine ro_aload_n (pc' := 153) dX6_changes_152 rfl rfl rfl ?_
  obtain ⟨v10, hv10, h⟩ := ah_bs h
  refine ro_getR (pc' := 156) ft_617 fk_617 q1325 dX6_changes_153 rfl hv10 ?_
  refine ro_aload_n (pc' := 157) dX6_changes_156 rfl rfl rfl ?_
  obtain ⟨v11, hv11, h⟩ := ah_bs h
  refine ro_getI (pc' := 160) ft_612 fk_612 q1320 dX6_changes_157 rfl hv11 ?_
  refine ro_iload_n (pc' := 161) dX6_changes_160 rfl rfl rfl ?_
  obtain ⟨σ12, hσ12, h⟩ := ah_bs h
  refine ro_iastore (pc' := 162) dX6_changes_161 rfl hσ12 ?_
  refine ro_aload_n (pc' := 163) dX6_changes_162 rfl rfl rfl ?_
  refine ro_dup (pc' := 164) dX6_changes_163 (ah_rf_cat _) rfl ?_
  obtain ⟨v13, hv13, h⟩ := ah_bs h
  refine ro_getI (pc' := 167) ft_612 fk_612 q1320 dX6_changes_164 rfl hv13 ?_
  refine ro_iconst (pc' := 168) dX6_changes_167 ic_1 rfl ?_
  refine ro_iadd (pc' := 169) dX6_changes_168 rfl ?_
  obtain ⟨σ14, hσ14, h⟩ := ah_bs h
  refine ro_putI (pc' := 172) ft_612 fk_612 q1320 pd_612 dX6_changes_169 rfl hσ14 ?_
  refine ro_aload_n (pc' := 173) dX6_changes_172 rfl rfl rfl ?_
  refine ro_iload_n (pc' := 174) dX6_changes_173 rfl rfl rfl ?_
  refine ro_iload_n (pc' := 175) dX6_changes_174 rfl rfl rfl ?_
  refine ro_iload_n (pc' := 176) dX6_changes_175 rfl rfl rfl ?_
  obtain ⟨u15, hu15, h⟩ := ah_bs h
  obtain ⟨σ16, hσ16, h⟩ := ah_bs h
  refine ro_callV (pc' := 179) (As := [.int x1, .int x2, .int x3]) (rest := []) (st' := []) (by decide) hu15 q1514 sl_X6_lays (M_X6_lays hσ16) q1512 q1515 q104 dd_X6_lays rfl ⟨Nat.le_of_ble_eq_true rfl, Nat.le_of_ble_eq_true rfl⟩ (Nat.le_of_ble_eq_true rfl) dX6_changes_176 rfl rfl rfl ?_
  refine ro_iload (pc' := 181) dX6_changes_179 rfl rfl ?_
  obtain rfl := Option.some.inj h
  exact ro_iret hκ dX6_changes_181
set_option maxRecDepth 20000 in
set_option maxHeartbeats 4000000 in
theorem W_X6_changes {κ : ah_C} {rr : (Int32 × ah_S)} (hκ : ah_res κ = (.returned (some (.int rr.1)), rr.2))  (σ : ah_S) (r0 : Option Nat) (x1 : Int32) (x2 : Int32) (x3 : Int32) (h : F_X6_changes σ r0 x1 x2 x3 = some rr) : ah_G κ ("LeftAsFoundModel", "changes", 6, (some FieldType.int), [], 3, 67) cX6_changes σ 0 [some (va_rf r0), some (.int x1), some (.int x2), some (.int x3), none, none] [] := by
  unfold F_X6_changes at h
  refine ro_aload_n (pc' := 1) dX6_changes_0 rfl rfl rfl ?_
  refine ro_iload_n (pc' := 2) dX6_changes_1 rfl rfl rfl ?_
  refine ro_iload_n (pc' := 3) dX6_changes_2 rfl rfl rfl ?_
  obtain ⟨u1, hu1, h⟩ := ah_bs h
  obtain ⟨v2, σ3, hv2, h⟩ := ah_bs2 h
  refine ro_callV (pc' := 6) (As := [.int x1, .int x2]) (rest := []) (st' := [.int v2]) (by decide) hu1 q1551 sl_X6_valueAt (M_X6_valueAt hv2) q1549 q1552 q104 dd_X6_valueAt rfl ⟨Nat.le_of_ble_eq_true rfl, Nat.le_of_ble_eq_true rfl⟩ (Nat.le_of_ble_eq_true rfl) dX6_changes_3 rfl rfl rfl ?_
  refine ro_istore (pc' := 8) (L' := [some (va_rf r0), some (.int x1), some (.int x2), some (.int x3), some (.int v2), none]) dX6_changes_6 (Nat.le_of_ble_eq_true rfl) rfl (ah_okp_i _) rfl ?_
  refine ro_iload (pc' := 10) dX6_changes_8 rfl rfl ?_
  refine ro_iload_n (pc' := 11) dX6_changes_10 rfl rfl rfl ?_
  refine ro_icmp_ne (pc' := 14) (tgt := 17) dX6_changes_11 rfl rfl (fun c => ?_) (fun c => ?_)
  · replace h := ah_in_ c h
    refine ro_aload_n (pc' := 18) dX6_changes_17 rfl rfl rfl ?_
    refine ro_iconst (pc' := 19) dX6_changes_18 ic_0 rfl ?_
    obtain ⟨σ4, hσ4, h⟩ := ah_bs h
    refine ro_putI (pc' := 22) ft_613 fk_613 q1321 pd_613 dX6_changes_19 rfl hσ4 ?_
    refine ro_aload_n (pc' := 23) dX6_changes_22 rfl rfl rfl ?_
    obtain ⟨v5, hv5, h⟩ := ah_bs h
    refine ro_getI (pc' := 26) ft_612 fk_612 q1320 dX6_changes_23 rfl hv5 ?_
    refine ro_bipush (pc' := 28) dX6_changes_26 ib_40 rfl ?_
    refine ro_icmp_ne (pc' := 31) (tgt := 121) dX6_changes_28 rfl rfl (fun c => ?_) (fun c => ?_)
    · replace h := ah_in_ c h
      exact W_X6_changes_121 hκ _ _ _ _ _ _ h
    · replace h := ah_ip c h
      refine ro_iconst (pc' := 32) dX6_changes_31 ic_1 rfl ?_
      refine ro_istore (pc' := 34) (L' := [some (va_rf r0), some (.int x1), some (.int x2), some (.int x3), some (.int v2), some (.int (1 : Int32))]) dX6_changes_32 (Nat.le_of_ble_eq_true rfl) rfl (ah_okp_i _) rfl ?_
      exact W_X6_changes_34 hκ (W_X6_changes_121 hκ) _ _ _ _ _ _ _ _ h
  · replace h := ah_ip c h
    refine ro_iload (pc' := 16) dX6_changes_14 rfl rfl ?_
    obtain rfl := Option.some.inj h
    exact ro_iret hκ dX6_changes_16
theorem M_X6_changes {l : Launch} {D : ah_D}  {σ : ah_S} {r0 : Option Nat} {x1 : Int32} {x2 : Int32} {x3 : Int32} {v : Int32} {σ1 : ah_S} (h : F_X6_changes σ r0 x1 x2 x3 = some (v, σ1)) : ah_Met l yX6_changes (Cond.code yX6_changes cX6_changes 6 (some FieldType.int)) 3 67 D [va_rf r0, .int x1, .int x2, .int x3] σ (.returned (some (.int v)), σ1) :=
  ah_ofG (own := "LeftAsFoundModel") (nm := "changes") (L0 := [some (va_rf r0), some (.int x1), some (.int x2), some (.int x3), none, none]) (by decide) rfl rfl rfl (ah_ao_1 (ah_rf_cat _) (ah_ao_1 rfl (ah_ao_1 rfl (ah_ao_1 rfl (ah_ao_n (ah_ao_n ah_ao_0)))))) (fun κ hκ => W_X6_changes hκ  σ r0 x1 x2 x3 h)
set_option maxRecDepth 20000 in
set_option maxHeartbeats 4000000 in
theorem W_X6_count {κ : ah_C} {rr : (Int32 × ah_S)} (hκ : ah_res κ = (.returned (some (.int rr.1)), rr.2))  (σ : ah_S) (r0 : Option Nat) (x1 : Int32) (h : F_X6_count σ r0 x1 = some rr) : ah_G κ ("LeftAsFoundModel", "count", 2, (some FieldType.int), [], 2, 46) cX6_count σ 0 [some (va_rf r0), some (.int x1)] [] := by
  unfold F_X6_count at h
  refine ro_iload_n (pc' := 1) dX6_count_0 rfl rfl rfl ?_
  by_cases c1_0 : x1 = (0 : Int32)
  · replace h := ah_ip c1_0 h
    refine ro_tabIn (tgt := 40) 0 c1_0 dX6_count_1 (by decide) (by decide) rfl rfl ?_
    refine ro_aload_n (pc' := 41) dX6_count_40 rfl rfl rfl ?_
    obtain ⟨v1, hv1, h⟩ := ah_bs h
    refine ro_getI (pc' := 44) ft_603 fk_603 q1311 dX6_count_41 rfl hv1 ?_
    obtain rfl := Option.some.inj h
    exact ro_iret hκ dX6_count_44
  replace h := ah_in_ c1_0 h
  by_cases c1_1 : x1 = (1 : Int32)
  · replace h := ah_ip c1_1 h
    refine ro_tabIn (tgt := 45) 1 c1_1 dX6_count_1 (by decide) (by decide) rfl rfl ?_
    refine ro_aload_n (pc' := 46) dX6_count_45 rfl rfl rfl ?_
    obtain ⟨u2, hu2, h⟩ := ah_bs h
    obtain ⟨v3, σ4, hv3, h⟩ := ah_bs2 h
    refine ro_callV (pc' := 49) (As := []) (rest := []) (st' := [.int v3]) (by decide) hu2 q1875 sl_X6_beenMany (M_X6_beenMany hv3) q1873 q1876 q104 dd_X6_beenMany rfl ⟨Nat.le_of_ble_eq_true rfl, Nat.le_of_ble_eq_true rfl⟩ (Nat.le_of_ble_eq_true rfl) dX6_count_46 rfl rfl rfl ?_
    obtain rfl := Option.some.inj h
    exact ro_iret hκ dX6_count_49
  replace h := ah_in_ c1_1 h
  by_cases c1_2 : x1 = (2 : Int32)
  · replace h := ah_ip c1_2 h
    refine ro_tabIn (tgt := 50) 2 c1_2 dX6_count_1 (by decide) (by decide) rfl rfl ?_
    refine ro_aload_n (pc' := 51) dX6_count_50 rfl rfl rfl ?_
    obtain ⟨v5, hv5, h⟩ := ah_bs h
    refine ro_getI (pc' := 54) ft_619 fk_619 q1327 dX6_count_51 rfl hv5 ?_
    obtain rfl := Option.some.inj h
    exact ro_iret hκ dX6_count_54
  replace h := ah_in_ c1_2 h
  by_cases c1_3 : x1 = (3 : Int32)
  · replace h := ah_ip c1_3 h
    refine ro_tabIn (tgt := 55) 3 c1_3 dX6_count_1 (by decide) (by decide) rfl rfl ?_
    refine ro_aload_n (pc' := 56) dX6_count_55 rfl rfl rfl ?_
    obtain ⟨v6, hv6, h⟩ := ah_bs h
    refine ro_getI (pc' := 59) ft_612 fk_612 q1320 dX6_count_56 rfl hv6 ?_
    obtain rfl := Option.some.inj h
    exact ro_iret hκ dX6_count_59
  replace h := ah_in_ c1_3 h
  by_cases c1_4 : x1 = (4 : Int32)
  · replace h := ah_ip c1_4 h
    refine ro_tabIn (tgt := 60) 4 c1_4 dX6_count_1 (by decide) (by decide) rfl rfl ?_
    refine ro_aload_n (pc' := 61) dX6_count_60 rfl rfl rfl ?_
    obtain ⟨v7, hv7, h⟩ := ah_bs h
    refine ro_getI (pc' := 64) ft_652 fk_652 q1360 dX6_count_61 rfl hv7 ?_
    obtain rfl := Option.some.inj h
    exact ro_iret hκ dX6_count_64
  replace h := ah_in_ c1_4 h
  by_cases c1_5 : x1 = (5 : Int32)
  · replace h := ah_ip c1_5 h
    refine ro_tabIn (tgt := 65) 5 c1_5 dX6_count_1 (by decide) (by decide) rfl rfl ?_
    refine ro_aload_n (pc' := 66) dX6_count_65 rfl rfl rfl ?_
    obtain ⟨v8, hv8, h⟩ := ah_bs h
    refine ro_getI (pc' := 69) ft_654 fk_654 q1362 dX6_count_66 rfl hv8 ?_
    obtain rfl := Option.some.inj h
    exact ro_iret hκ dX6_count_69
  replace h := ah_in_ c1_5 h
  refine ro_tabOut (tgt := 70) dX6_count_1 (by have e0 := lv_neT (a := 0) c1_0 (by decide); have e1 := lv_neT (a := 1) c1_1 (by decide); have e2 := lv_neT (a := 2) c1_2 (by decide); have e3 := lv_neT (a := 3) c1_3 (by decide); have e4 := lv_neT (a := 4) c1_4 (by decide); have e5 := lv_neT (a := 5) c1_5 (by decide); omega) rfl ?_
  refine ro_iconst (pc' := 71) dX6_count_70 ic_m1 rfl ?_
  obtain rfl := Option.some.inj h
  exact ro_iret hκ dX6_count_71
theorem M_X6_count {l : Launch} {D : ah_D}  {σ : ah_S} {r0 : Option Nat} {x1 : Int32} {v : Int32} {σ1 : ah_S} (h : F_X6_count σ r0 x1 = some (v, σ1)) : ah_Met l yX6_count (Cond.code yX6_count cX6_count 2 (some FieldType.int)) 2 46 D [va_rf r0, .int x1] σ (.returned (some (.int v)), σ1) :=
  ah_ofG (own := "LeftAsFoundModel") (nm := "count") (L0 := [some (va_rf r0), some (.int x1)]) (by decide) rfl rfl rfl (ah_ao_1 (ah_rf_cat _) (ah_ao_1 rfl ah_ao_0)) (fun κ hκ => W_X6_count hκ  σ r0 x1 h)
set_option maxRecDepth 20000 in
set_option maxHeartbeats 4000000 in
theorem W_X6_lacksOf {κ : ah_C} {rr : (Int32 × ah_S)} (hκ : ah_res κ = (.returned (some (.int rr.1)), rr.2))  (σ : ah_S) (r0 : Option Nat) (x1 : Int32) (h : F_X6_lacksOf σ r0 x1 = some rr) : ah_G κ ("LeftAsFoundModel", "lacksOf", 2, (some FieldType.int), [], 1, 24) cX6_lacksOf σ 0 [some (va_rf r0), some (.int x1)] [] := by
  unfold F_X6_lacksOf at h
  refine ro_aload_n (pc' := 1) dX6_lacksOf_0 rfl rfl rfl ?_
  obtain ⟨v1, hv1, h⟩ := ah_bs h
  refine ro_getR (pc' := 4) ft_611 fk_611 q1319 dX6_lacksOf_1 rfl hv1 ?_
  refine ro_iload_n (pc' := 5) dX6_lacksOf_4 rfl rfl rfl ?_
  obtain ⟨v2, hv2, h⟩ := ah_bs h
  refine ro_iaload (pc' := 6) dX6_lacksOf_5 rfl hv2 ?_
  refine ro_aload_n (pc' := 7) dX6_lacksOf_6 rfl rfl rfl ?_
  obtain ⟨v3, hv3, h⟩ := ah_bs h
  refine ro_getR (pc' := 10) ft_601 fk_601 q1309 dX6_lacksOf_7 rfl hv3 ?_
  refine ro_iload_n (pc' := 11) dX6_lacksOf_10 rfl rfl rfl ?_
  obtain ⟨v4, hv4, h⟩ := ah_bs h
  refine ro_iaload (pc' := 12) dX6_lacksOf_11 rfl hv4 ?_
  refine ro_icmp_ge (pc' := 15) (tgt := 31) dX6_lacksOf_12 rfl rfl (fun c => ?_) (fun c => ?_)
  · replace h := ah_ip c h
    refine ro_iconst (pc' := 32) dX6_lacksOf_31 ic_0 rfl ?_
    obtain rfl := Option.some.inj h
    exact ro_iret hκ dX6_lacksOf_32
  · replace h := ah_in_ c h
    refine ro_aload_n (pc' := 16) dX6_lacksOf_15 rfl rfl rfl ?_
    obtain ⟨v5, hv5, h⟩ := ah_bs h
    refine ro_getR (pc' := 19) ft_601 fk_601 q1309 dX6_lacksOf_16 rfl hv5 ?_
    refine ro_iload_n (pc' := 20) dX6_lacksOf_19 rfl rfl rfl ?_
    obtain ⟨v6, hv6, h⟩ := ah_bs h
    refine ro_iaload (pc' := 21) dX6_lacksOf_20 rfl hv6 ?_
    refine ro_aload_n (pc' := 22) dX6_lacksOf_21 rfl rfl rfl ?_
    obtain ⟨v7, hv7, h⟩ := ah_bs h
    refine ro_getR (pc' := 25) ft_611 fk_611 q1319 dX6_lacksOf_22 rfl hv7 ?_
    refine ro_iload_n (pc' := 26) dX6_lacksOf_25 rfl rfl rfl ?_
    obtain ⟨v8, hv8, h⟩ := ah_bs h
    refine ro_iaload (pc' := 27) dX6_lacksOf_26 rfl hv8 ?_
    refine ro_isub (pc' := 28) dX6_lacksOf_27 rfl ?_
    refine ro_goto (tgt := 32) dX6_lacksOf_28 rfl ?_
    obtain rfl := Option.some.inj h
    exact ro_iret hκ dX6_lacksOf_32
theorem M_X6_lacksOf {l : Launch} {D : ah_D}  {σ : ah_S} {r0 : Option Nat} {x1 : Int32} {v : Int32} {σ1 : ah_S} (h : F_X6_lacksOf σ r0 x1 = some (v, σ1)) : ah_Met l yX6_lacksOf (Cond.code yX6_lacksOf cX6_lacksOf 2 (some FieldType.int)) 1 24 D [va_rf r0, .int x1] σ (.returned (some (.int v)), σ1) :=
  ah_ofG (own := "LeftAsFoundModel") (nm := "lacksOf") (L0 := [some (va_rf r0), some (.int x1)]) (by decide) rfl rfl rfl (ah_ao_1 (ah_rf_cat _) (ah_ao_1 rfl ah_ao_0)) (fun κ hκ => W_X6_lacksOf hκ  σ r0 x1 h)
set_option maxRecDepth 20000 in
set_option maxHeartbeats 4000000 in
theorem W_X6_lossNow_4 {κ : ah_C} {rr : (Int32 × ah_S)} (hκ : ah_res κ = (.returned (some (.int rr.1)), rr.2))    : ∀ (n : Nat) (σ : ah_S) (r0 : Option Nat) (x1 : Int32) (x2 : Int32), F_X6_lossNow_4 n σ r0 x1 x2 = some rr → ah_G κ ("LeftAsFoundModel", "lossNow", 3, (some FieldType.int), [], 2, 45) cX6_lossNow σ 4 [some (va_rf r0), some (.int x1), some (.int x2)] [] := by
  intro n
  induction n with
  | zero => intro σ r0 x1 x2 h; cases h
  | succ n ih =>
    intro σ r0 x1 x2 h
    rw [F_X6_lossNow_4] at h
    refine ro_iload_n (pc' := 5) dX6_lossNow_4 rfl rfl rfl ?_
    refine ro_iconst (pc' := 6) dX6_lossNow_5 ic_4 rfl ?_
    refine ro_icmp_ge (pc' := 9) (tgt := 30) dX6_lossNow_6 rfl rfl (fun c => ?_) (fun c => ?_)
    · replace h := ah_ip c h
      refine ro_iload_n (pc' := 31) dX6_lossNow_30 rfl rfl rfl ?_
      obtain rfl := Option.some.inj h
      exact ro_iret hκ dX6_lossNow_31
    · replace h := ah_in_ c h
      refine ro_iload_n (pc' := 10) dX6_lossNow_9 rfl rfl rfl ?_
      refine ro_aload_n (pc' := 11) dX6_lossNow_10 rfl rfl rfl ?_
      refine ro_iload_n (pc' := 12) dX6_lossNow_11 rfl rfl rfl ?_
      obtain ⟨u1, hu1, h⟩ := ah_bs h
      obtain ⟨v2, σ3, hv2, h⟩ := ah_bs2 h
      refine ro_callV (pc' := 15) (As := [.int x2]) (rest := [.int x1]) (st' := [.int v2, .int x1]) (by decide) hu1 q1689 sl_X6_lacksOf (M_X6_lacksOf hv2) q1687 q1690 q104 dd_X6_lacksOf rfl ⟨Nat.le_of_ble_eq_true rfl, Nat.le_of_ble_eq_true rfl⟩ (Nat.le_of_ble_eq_true rfl) dX6_lossNow_12 rfl rfl rfl ?_
      refine ro_aload_n (pc' := 16) dX6_lossNow_15 rfl rfl rfl ?_
      obtain ⟨v4, hv4, h⟩ := ah_bs h
      refine ro_getR (pc' := 19) ft_602 fk_602 q1310 dX6_lossNow_16 rfl hv4 ?_
      refine ro_iload_n (pc' := 20) dX6_lossNow_19 rfl rfl rfl ?_
      obtain ⟨v5, hv5, h⟩ := ah_bs h
      refine ro_iaload (pc' := 21) dX6_lossNow_20 rfl hv5 ?_
      refine ro_imul (pc' := 22) dX6_lossNow_21 rfl ?_
      refine ro_iadd (pc' := 23) dX6_lossNow_22 rfl ?_
      refine ro_istore_n (pc' := 24) (L' := [some (va_rf r0), some (.int (x1 + (v2 * v5))), some (.int x2)]) dX6_lossNow_23 rfl (Nat.le_of_ble_eq_true rfl) rfl (ah_okp_r _) rfl ?_
      refine ro_iinc (pc' := 27) (L' := [some (va_rf r0), some (.int (x1 + (v2 * v5))), some (.int (x2 + (1 : Int32)))]) dX6_lossNow_24 rfl ic_1 (Nat.le_of_ble_eq_true rfl) rfl (ah_okp_i _) rfl ?_
      refine ro_goto (tgt := 4) dX6_lossNow_27 rfl ?_
      exact ih _ _ _ _ h
set_option maxRecDepth 20000 in
set_option maxHeartbeats 4000000 in
theorem W_X6_lossNow {κ : ah_C} {rr : (Int32 × ah_S)} (hκ : ah_res κ = (.returned (some (.int rr.1)), rr.2))  (σ : ah_S) (r0 : Option Nat) (h : F_X6_lossNow σ r0 = some rr) : ah_G κ ("LeftAsFoundModel", "lossNow", 3, (some FieldType.int), [], 2, 45) cX6_lossNow σ 0 [some (va_rf r0), none, none] [] := by
  unfold F_X6_lossNow at h
  refine ro_iconst (pc' := 1) dX6_lossNow_0 ic_0 rfl ?_
  refine ro_istore_n (pc' := 2) (L' := [some (va_rf r0), some (.int (0 : Int32)), none]) dX6_lossNow_1 rfl (Nat.le_of_ble_eq_true rfl) rfl (ah_okp_r _) rfl ?_
  refine ro_iconst (pc' := 3) dX6_lossNow_2 ic_0 rfl ?_
  refine ro_istore_n (pc' := 4) (L' := [some (va_rf r0), some (.int (0 : Int32)), some (.int (0 : Int32))]) dX6_lossNow_3 rfl (Nat.le_of_ble_eq_true rfl) rfl (ah_okp_i _) rfl ?_
  exact W_X6_lossNow_4 hκ _ _ _ _ _ h
theorem M_X6_lossNow {l : Launch} {D : ah_D}  {σ : ah_S} {r0 : Option Nat} {v : Int32} {σ1 : ah_S} (h : F_X6_lossNow σ r0 = some (v, σ1)) : ah_Met l yX6_lossNow (Cond.code yX6_lossNow cX6_lossNow 3 (some FieldType.int)) 2 45 D [va_rf r0] σ (.returned (some (.int v)), σ1) :=
  ah_ofG (own := "LeftAsFoundModel") (nm := "lossNow") (L0 := [some (va_rf r0), none, none]) (by decide) rfl rfl rfl (ah_ao_1 (ah_rf_cat _) (ah_ao_n (ah_ao_n ah_ao_0))) (fun κ hκ => W_X6_lossNow hκ  σ r0 h)
set_option maxRecDepth 20000 in
set_option maxHeartbeats 4000000 in
theorem W_X6_drawn_38 {κ : ah_C} {rr : (Int32 × ah_S)} (hκ : ah_res κ = (.returned (some (.int rr.1)), rr.2))    : ∀ (n : Nat) (σ : ah_S) (r0 : Option Nat) (x2 : Int32) (x3 : Int32) (x4 : Int32) (x5 : Int32) (x6 : Int32) (x7 : Int32), F_X6_drawn_38 n σ r0 x2 x3 x4 x5 x6 x7 = some rr → ah_G κ ("LeftAsFoundModel", "drawn", 8, (some FieldType.int), [], 7, 166) cX6_drawn σ 38 [some (va_rf r0), none, some (.int x2), some (.int x3), some (.int x4), some (.int x5), some (.int x6), some (.int x7)] [] := by
  intro n
  induction n with
  | zero => intro σ r0 x2 x3 x4 x5 x6 x7 h; cases h
  | succ n ih =>
    intro σ r0 x2 x3 x4 x5 x6 x7 h
    rw [F_X6_drawn_38] at h
    refine ro_iload (pc' := 40) dX6_drawn_38 rfl rfl ?_
    refine ro_iload_n (pc' := 41) dX6_drawn_40 rfl rfl rfl ?_
    refine ro_icmp_ge (pc' := 44) (tgt := 106) dX6_drawn_41 rfl rfl (fun c => ?_) (fun c => ?_)
    · replace h := ah_ip c h
      refine ro_aload_n (pc' := 107) dX6_drawn_106 rfl rfl rfl ?_
      obtain ⟨u1, hu1, h⟩ := ah_bs h
      obtain ⟨σ2, hσ2, h⟩ := ah_bs h
      refine ro_callV (pc' := 110) (As := []) (rest := []) (st' := []) (by decide) hu1 q1665 sl_X6_layHut (M_X6_layHut hσ2) q1663 q1666 q104 dd_X6_layHut rfl ⟨Nat.le_of_ble_eq_true rfl, Nat.le_of_ble_eq_true rfl⟩ (Nat.le_of_ble_eq_true rfl) dX6_drawn_107 rfl rfl rfl ?_
      refine ro_iload_n (pc' := 111) dX6_drawn_110 rfl rfl rfl ?_
      refine ro_if_ne (pc' := 114) (tgt := 119) dX6_drawn_111 rfl rfl (fun c => ?_) (fun c => ?_)
      · replace h := ah_in_ c h
        refine ro_iload (pc' := 121) dX6_drawn_119 rfl rfl ?_
        obtain rfl := Option.some.inj h
        exact ro_iret hκ dX6_drawn_121
      · replace h := ah_ip c h
        refine ro_iload (pc' := 116) dX6_drawn_114 rfl rfl ?_
        refine ro_goto (tgt := 121) dX6_drawn_116 rfl ?_
        obtain rfl := Option.some.inj h
        exact ro_iret hκ dX6_drawn_121
    · replace h := ah_in_ c h
      refine ro_iload (pc' := 46) dX6_drawn_44 rfl rfl ?_
      refine ro_ldc_w (pc' := 49) q1777 dX6_drawn_46 rfl ?_
      refine ro_imul (pc' := 50) dX6_drawn_49 rfl ?_
      refine ro_sipush (pc' := 53) dX6_drawn_50 is_12345 rfl ?_
      refine ro_iadd (pc' := 54) dX6_drawn_53 rfl ?_
      refine ro_istore (pc' := 56) (L' := [some (va_rf r0), none, some (.int x2), some (.int x3), some (.int ((x4 * (1103515245 : Int32)) + (12345 : Int32))), some (.int x5), some (.int x6), some (.int x7)]) dX6_drawn_54 (Nat.le_of_ble_eq_true rfl) rfl (ah_okp_i _) rfl ?_
      refine ro_aload_n (pc' := 57) dX6_drawn_56 rfl rfl rfl ?_
      refine ro_iload (pc' := 59) dX6_drawn_57 rfl rfl ?_
      refine ro_bipush (pc' := 61) dX6_drawn_59 ib_8 rfl ?_
      refine ro_iushr (pc' := 62) dX6_drawn_61 rfl ?_
      refine ro_aload_n (pc' := 63) dX6_drawn_62 rfl rfl rfl ?_
      obtain ⟨v3, hv3, h⟩ := ah_bs h
      refine ro_getI (pc' := 66) ft_603 fk_603 q1311 dX6_drawn_63 rfl hv3 ?_
      refine ro_iconst (pc' := 67) dX6_drawn_66 ic_1 rfl ?_
      refine ro_iadd (pc' := 68) dX6_drawn_67 rfl ?_
      obtain ⟨q4, hq4, h⟩ := ah_bs h
      refine ro_irem (pc' := 69) dX6_drawn_68 rfl hq4 ?_
      obtain ⟨u5, hu5, h⟩ := ah_bs h
      obtain ⟨σ6, hσ6, h⟩ := ah_bs h
      refine ro_callV (pc' := 72) (As := [.int q4]) (rest := []) (st' := []) (by decide) hu5 q1638 sl_X6_goNight (M_X6_goNight hσ6) q1636 q1639 q104 dd_X6_goNight rfl ⟨Nat.le_of_ble_eq_true rfl, Nat.le_of_ble_eq_true rfl⟩ (Nat.le_of_ble_eq_true rfl) dX6_drawn_69 rfl rfl rfl ?_
      refine ro_iload (pc' := 74) dX6_drawn_72 rfl rfl ?_
      refine ro_aload_n (pc' := 75) dX6_drawn_74 rfl rfl rfl ?_
      obtain ⟨u7, hu7, h⟩ := ah_bs h
      obtain ⟨v8, σ9, hv8, h⟩ := ah_bs2 h
      refine ro_callV (pc' := 78) (As := []) (rest := [.int x5]) (st' := [.int v8, .int x5]) (by decide) hu7 q1685 sl_X6_lossNow (M_X6_lossNow hv8) q1683 q1686 q104 dd_X6_lossNow rfl ⟨Nat.le_of_ble_eq_true rfl, Nat.le_of_ble_eq_true rfl⟩ (Nat.le_of_ble_eq_true rfl) dX6_drawn_75 rfl rfl rfl ?_
      refine ro_iadd (pc' := 79) dX6_drawn_78 rfl ?_
      refine ro_istore (pc' := 81) (L' := [some (va_rf r0), none, some (.int x2), some (.int x3), some (.int ((x4 * (1103515245 : Int32)) + (12345 : Int32))), some (.int (x5 + v8)), some (.int x6), some (.int x7)]) dX6_drawn_79 (Nat.le_of_ble_eq_true rfl) rfl (ah_okp_i _) rfl ?_
      refine ro_aload_n (pc' := 82) dX6_drawn_81 rfl rfl rfl ?_
      obtain ⟨v10, hv10, h⟩ := ah_bs h
      refine ro_getR (pc' := 85) ft_611 fk_611 q1319 dX6_drawn_82 rfl hv10 ?_
      refine ro_iconst (pc' := 86) dX6_drawn_85 ic_0 rfl ?_
      obtain ⟨v11, hv11, h⟩ := ah_bs h
      refine ro_iaload (pc' := 87) dX6_drawn_86 rfl hv11 ?_
      refine ro_iload (pc' := 89) dX6_drawn_87 rfl rfl ?_
      refine ro_icmp_ge (pc' := 92) (tgt := 100) dX6_drawn_89 rfl rfl (fun c => ?_) (fun c => ?_)
      · replace h := ah_ip c h
        refine ro_iinc (pc' := 103) (L' := [some (va_rf r0), none, some (.int x2), some (.int x3), some (.int ((x4 * (1103515245 : Int32)) + (12345 : Int32))), some (.int (x5 + v8)), some (.int x6), some (.int (x7 + (1 : Int32)))]) dX6_drawn_100 rfl ic_1 (Nat.le_of_ble_eq_true rfl) rfl (ah_okp_i _) rfl ?_
        refine ro_goto (tgt := 38) dX6_drawn_103 rfl ?_
        exact ih _ _ _ _ _ _ _ _ h
      · replace h := ah_in_ c h
        refine ro_aload_n (pc' := 93) dX6_drawn_92 rfl rfl rfl ?_
        obtain ⟨v12, hv12, h⟩ := ah_bs h
        refine ro_getR (pc' := 96) ft_611 fk_611 q1319 dX6_drawn_93 rfl hv12 ?_
        refine ro_iconst (pc' := 97) dX6_drawn_96 ic_0 rfl ?_
        obtain ⟨v13, hv13, h⟩ := ah_bs h
        refine ro_iaload (pc' := 98) dX6_drawn_97 rfl hv13 ?_
        refine ro_istore (pc' := 100) (L' := [some (va_rf r0), none, some (.int x2), some (.int x3), some (.int ((x4 * (1103515245 : Int32)) + (12345 : Int32))), some (.int (x5 + v8)), some (.int v13), some (.int x7)]) dX6_drawn_98 (Nat.le_of_ble_eq_true rfl) rfl (ah_okp_i _) rfl ?_
        refine ro_iinc (pc' := 103) (L' := [some (va_rf r0), none, some (.int x2), some (.int x3), some (.int ((x4 * (1103515245 : Int32)) + (12345 : Int32))), some (.int (x5 + v8)), some (.int v13), some (.int (x7 + (1 : Int32)))]) dX6_drawn_100 rfl ic_1 (Nat.le_of_ble_eq_true rfl) rfl (ah_okp_i _) rfl ?_
        refine ro_goto (tgt := 38) dX6_drawn_103 rfl ?_
        exact ih _ _ _ _ _ _ _ _ h
set_option maxRecDepth 20000 in
set_option maxHeartbeats 4000000 in
theorem W_X6_drawn {κ : ah_C} {rr : (Int32 × ah_S)} (hκ : ah_res κ = (.returned (some (.int rr.1)), rr.2))  (σ : ah_S) (r0 : Option Nat) (x1 : Int32) (x2 : Int32) (x3 : Int32) (h : F_X6_drawn σ r0 x1 x2 x3 = some rr) : ah_G κ ("LeftAsFoundModel", "drawn", 8, (some FieldType.int), [], 7, 166) cX6_drawn σ 0 [some (va_rf r0), some (.int x1), some (.int x2), some (.int x3), none, none, none, none] [] := by
  unfold F_X6_drawn at h
  refine ro_iload_n (pc' := 1) dX6_drawn_0 rfl rfl rfl ?_
  refine ro_iconst (pc' := 2) dX6_drawn_1 ic_1 rfl ?_
  refine ro_bipush (pc' := 4) dX6_drawn_2 ib_60 rfl ?_
  obtain ⟨v1, σ2, hv1, h⟩ := ah_bs2 h
  refine ro_callS (pc' := 7) (As := [.int x2, .int (1 : Int32), .int (60 : Int32)]) (rest := []) (st' := [.int v1]) q1494 (M_X6_in hv1) q1493 q1495 q104 dd_X6_in rfl ⟨Nat.le_of_ble_eq_true rfl, Nat.le_of_ble_eq_true rfl⟩ (Nat.le_of_ble_eq_true rfl) dX6_drawn_4 rfl rfl rfl ?_
  refine ro_if_eq (pc' := 10) (tgt := 19) dX6_drawn_7 rfl rfl (fun c => ?_) (fun c => ?_)
  · replace h := ah_ip c h
    refine ro_iconst (pc' := 20) dX6_drawn_19 ic_m1 rfl ?_
    obtain rfl := Option.some.inj h
    exact ro_iret hκ dX6_drawn_20
  · replace h := ah_in_ c h
    refine ro_iload_n (pc' := 11) dX6_drawn_10 rfl rfl rfl ?_
    refine ro_iconst (pc' := 12) dX6_drawn_11 ic_0 rfl ?_
    refine ro_iconst (pc' := 13) dX6_drawn_12 ic_1 rfl ?_
    obtain ⟨v3, σ4, hv3, h⟩ := ah_bs2 h
    refine ro_callS (pc' := 16) (As := [.int x3, .int (0 : Int32), .int (1 : Int32)]) (rest := []) (st' := [.int v3]) q1494 (M_X6_in hv3) q1493 q1495 q104 dd_X6_in rfl ⟨Nat.le_of_ble_eq_true rfl, Nat.le_of_ble_eq_true rfl⟩ (Nat.le_of_ble_eq_true rfl) dX6_drawn_13 rfl rfl rfl ?_
    refine ro_if_ne (pc' := 19) (tgt := 21) dX6_drawn_16 rfl rfl (fun c => ?_) (fun c => ?_)
    · replace h := ah_in_ c h
      refine ro_aload_n (pc' := 22) dX6_drawn_21 rfl rfl rfl ?_
      obtain ⟨u5, hu5, h⟩ := ah_bs h
      obtain ⟨σ6, hσ6, h⟩ := ah_bs h
      refine ro_callV (pc' := 25) (As := []) (rest := []) (st' := []) (by decide) hu5 q1634 sl_X6_keepHut (M_X6_keepHut hσ6) q1632 q1635 q104 dd_X6_keepHut rfl ⟨Nat.le_of_ble_eq_true rfl, Nat.le_of_ble_eq_true rfl⟩ (Nat.le_of_ble_eq_true rfl) dX6_drawn_22 rfl rfl rfl ?_
      refine ro_iload_n (pc' := 26) dX6_drawn_25 rfl rfl rfl ?_
      refine ro_istore (pc' := 28) (L' := [some (va_rf r0), some (.int x1), some (.int x2), some (.int x3), some (.int x1), none, none, none]) dX6_drawn_26 (Nat.le_of_ble_eq_true rfl) rfl (ah_okp_i _) rfl ?_
      refine ro_iconst (pc' := 29) dX6_drawn_28 ic_0 rfl ?_
      refine ro_istore (pc' := 31) (L' := [some (va_rf r0), some (.int x1), some (.int x2), some (.int x3), some (.int x1), some (.int (0 : Int32)), none, none]) dX6_drawn_29 (Nat.le_of_ble_eq_true rfl) rfl (ah_okp_i _) rfl ?_
      refine ro_bipush (pc' := 33) dX6_drawn_31 ib_99 rfl ?_
      refine ro_istore (pc' := 35) (L' := [some (va_rf r0), some (.int x1), some (.int x2), some (.int x3), some (.int x1), some (.int (0 : Int32)), some (.int (99 : Int32)), none]) dX6_drawn_33 (Nat.le_of_ble_eq_true rfl) rfl (ah_okp_i _) rfl ?_
      refine ro_iconst (pc' := 36) dX6_drawn_35 ic_0 rfl ?_
      refine ro_istore (pc' := 38) (L' := [some (va_rf r0), some (.int x1), some (.int x2), some (.int x3), some (.int x1), some (.int (0 : Int32)), some (.int (99 : Int32)), some (.int (0 : Int32))]) dX6_drawn_36 (Nat.le_of_ble_eq_true rfl) rfl (ah_okp_i _) rfl ?_
      refine ro_weak (L' := [some (va_rf r0), none, some (.int x2), some (.int x3), some (.int x1), some (.int (0 : Int32)), some (.int (99 : Int32)), some (.int (0 : Int32))]) (ah_ls_s (ah_ls_n (ah_ls_s (ah_ls_s (ah_ls_s (ah_ls_s (ah_ls_s (ah_ls_s ah_ls_0)))))))) ?_
      exact W_X6_drawn_38 hκ _ _ _ _ _ _ _ _ _ h
    · replace h := ah_ip c h
      refine ro_iconst (pc' := 20) dX6_drawn_19 ic_m1 rfl ?_
      obtain rfl := Option.some.inj h
      exact ro_iret hκ dX6_drawn_20
theorem M_X6_drawn {l : Launch} {D : ah_D}  {σ : ah_S} {r0 : Option Nat} {x1 : Int32} {x2 : Int32} {x3 : Int32} {v : Int32} {σ1 : ah_S} (h : F_X6_drawn σ r0 x1 x2 x3 = some (v, σ1)) : ah_Met l yX6_drawn (Cond.code yX6_drawn cX6_drawn 8 (some FieldType.int)) 7 166 D [va_rf r0, .int x1, .int x2, .int x3] σ (.returned (some (.int v)), σ1) :=
  ah_ofG (own := "LeftAsFoundModel") (nm := "drawn") (L0 := [some (va_rf r0), some (.int x1), some (.int x2), some (.int x3), none, none, none, none]) (by decide) rfl rfl rfl (ah_ao_1 (ah_rf_cat _) (ah_ao_1 rfl (ah_ao_1 rfl (ah_ao_1 rfl (ah_ao_n (ah_ao_n (ah_ao_n (ah_ao_n ah_ao_0)))))))) (fun κ hκ => W_X6_drawn hκ  σ r0 x1 x2 x3 h)
set_option maxRecDepth 20000 in
set_option maxHeartbeats 4000000 in
theorem W_X6_whyNoPlace {κ : ah_C} {rr : (Int32 × ah_S)} (hκ : ah_res κ = (.returned (some (.int rr.1)), rr.2))  (σ : ah_S) (r0 : Option Nat) (x1 : Int32) (x2 : Int32) (h : F_X6_whyNoPlace σ r0 x1 x2 = some rr) : ah_G κ ("LeftAsFoundModel", "whyNoPlace", 3, (some FieldType.int), [], 3, 66) cX6_whyNoPlace σ 0 [some (va_rf r0), some (.int x1), some (.int x2)] [] := by
  unfold F_X6_whyNoPlace at h
  refine ro_iload_n (pc' := 1) dX6_whyNoPlace_0 rfl rfl rfl ?_
  obtain ⟨v1, σ2, hv1, h⟩ := ah_bs2 h
  refine ro_callS (pc' := 4) (As := [.int x1]) (rest := []) (st' := [.int v1]) q1505 (M_X6_isShelf hv1) q1504 q1506 q104 dd_X6_isShelf rfl ⟨Nat.le_of_ble_eq_true rfl, Nat.le_of_ble_eq_true rfl⟩ (Nat.le_of_ble_eq_true rfl) dX6_whyNoPlace_1 rfl rfl rfl ?_
  refine ro_if_ne (pc' := 7) (tgt := 9) dX6_whyNoPlace_4 rfl rfl (fun c => ?_) (fun c => ?_)
  · replace h := ah_in_ c h
    refine ro_aload_n (pc' := 10) dX6_whyNoPlace_9 rfl rfl rfl ?_
    obtain ⟨v3, hv3, h⟩ := ah_bs h
    refine ro_getR (pc' := 13) ft_656 fk_656 q1364 dX6_whyNoPlace_10 rfl hv3 ?_
    refine ro_iload_n (pc' := 14) dX6_whyNoPlace_13 rfl rfl rfl ?_
    obtain ⟨v4, hv4, h⟩ := ah_bs h
    refine ro_iaload (pc' := 15) dX6_whyNoPlace_14 rfl hv4 ?_
    refine ro_iconst (pc' := 16) dX6_whyNoPlace_15 ic_m1 rfl ?_
    refine ro_icmp_ne (pc' := 19) (tgt := 22) dX6_whyNoPlace_16 rfl rfl (fun c => ?_) (fun c => ?_)
    · replace h := ah_in_ c h
      refine ro_aload_n (pc' := 23) dX6_whyNoPlace_22 rfl rfl rfl ?_
      obtain ⟨v5, hv5, h⟩ := ah_bs h
      refine ro_getR (pc' := 26) ft_656 fk_656 q1364 dX6_whyNoPlace_23 rfl hv5 ?_
      refine ro_iload_n (pc' := 27) dX6_whyNoPlace_26 rfl rfl rfl ?_
      obtain ⟨v6, hv6, h⟩ := ah_bs h
      refine ro_iaload (pc' := 28) dX6_whyNoPlace_27 rfl hv6 ?_
      refine ro_if_lt (pc' := 31) (tgt := 34) dX6_whyNoPlace_28 rfl rfl (fun c => ?_) (fun c => ?_)
      · replace h := ah_ip c h
        refine ro_iload_n (pc' := 35) dX6_whyNoPlace_34 rfl rfl rfl ?_
        refine ro_iconst (pc' := 36) dX6_whyNoPlace_35 ic_0 rfl ?_
        refine ro_aload_n (pc' := 37) dX6_whyNoPlace_36 rfl rfl rfl ?_
        obtain ⟨v7, hv7, h⟩ := ah_bs h
        refine ro_getR (pc' := 40) ft_657 fk_657 q1365 dX6_whyNoPlace_37 rfl hv7 ?_
        refine ro_iload_n (pc' := 41) dX6_whyNoPlace_40 rfl rfl rfl ?_
        obtain ⟨v8, hv8, h⟩ := ah_bs h
        refine ro_iaload (pc' := 42) dX6_whyNoPlace_41 rfl hv8 ?_
        refine ro_iconst (pc' := 43) dX6_whyNoPlace_42 ic_1 rfl ?_
        refine ro_isub (pc' := 44) dX6_whyNoPlace_43 rfl ?_
        obtain ⟨v9, σ10, hv9, h⟩ := ah_bs2 h
        refine ro_callS (pc' := 47) (As := [.int x2, .int (0 : Int32), .int (v8 - (1 : Int32))]) (rest := []) (st' := [.int v9]) q1494 (M_X6_in hv9) q1493 q1495 q104 dd_X6_in rfl ⟨Nat.le_of_ble_eq_true rfl, Nat.le_of_ble_eq_true rfl⟩ (Nat.le_of_ble_eq_true rfl) dX6_whyNoPlace_44 rfl rfl rfl ?_
        refine ro_if_eq (pc' := 50) (tgt := 54) dX6_whyNoPlace_47 rfl rfl (fun c => ?_) (fun c => ?_)
        · replace h := ah_ip c h
          refine ro_bipush (pc' := 56) dX6_whyNoPlace_54 ib_m13 rfl ?_
          obtain rfl := Option.some.inj h
          exact ro_iret hκ dX6_whyNoPlace_56
        · replace h := ah_in_ c h
          refine ro_iconst (pc' := 51) dX6_whyNoPlace_50 ic_0 rfl ?_
          refine ro_goto (tgt := 56) dX6_whyNoPlace_51 rfl ?_
          obtain rfl := Option.some.inj h
          exact ro_iret hκ dX6_whyNoPlace_56
      · replace h := ah_in_ c h
        refine ro_bipush (pc' := 33) dX6_whyNoPlace_31 ib_m12 rfl ?_
        obtain rfl := Option.some.inj h
        exact ro_iret hκ dX6_whyNoPlace_33
    · replace h := ah_ip c h
      refine ro_bipush (pc' := 21) dX6_whyNoPlace_19 ib_m11 rfl ?_
      obtain rfl := Option.some.inj h
      exact ro_iret hκ dX6_whyNoPlace_21
  · replace h := ah_ip c h
    refine ro_iconst (pc' := 8) dX6_whyNoPlace_7 ic_m1 rfl ?_
    obtain rfl := Option.some.inj h
    exact ro_iret hκ dX6_whyNoPlace_8
theorem M_X6_whyNoPlace {l : Launch} {D : ah_D}  {σ : ah_S} {r0 : Option Nat} {x1 : Int32} {x2 : Int32} {v : Int32} {σ1 : ah_S} (h : F_X6_whyNoPlace σ r0 x1 x2 = some (v, σ1)) : ah_Met l yX6_whyNoPlace (Cond.code yX6_whyNoPlace cX6_whyNoPlace 3 (some FieldType.int)) 3 66 D [va_rf r0, .int x1, .int x2] σ (.returned (some (.int v)), σ1) :=
  ah_ofG (own := "LeftAsFoundModel") (nm := "whyNoPlace") (L0 := [some (va_rf r0), some (.int x1), some (.int x2)]) (by decide) rfl rfl rfl (ah_ao_1 (ah_rf_cat _) (ah_ao_1 rfl (ah_ao_1 rfl ah_ao_0))) (fun κ hκ => W_X6_whyNoPlace hκ  σ r0 x1 x2 h)
set_option maxRecDepth 20000 in
set_option maxHeartbeats 4000000 in
theorem W_X6_element {κ : ah_C} {rr : (Int64 × ah_S)} (hκ : ah_res κ = (.returned (some (.long rr.1)), rr.2))  (σ : ah_S) (r0 : Option Nat) (x1 : Int32) (x2 : Int32) (h : F_X6_element σ r0 x1 x2 = some rr) : ah_G κ ("LeftAsFoundModel", "element", 3, (some FieldType.long), [], 4, 88) cX6_element σ 0 [some (va_rf r0), some (.int x1), some (.int x2)] [] := by
  unfold F_X6_element at h
  refine ro_aload_n (pc' := 1) dX6_element_0 rfl rfl rfl ?_
  refine ro_iload_n (pc' := 2) dX6_element_1 rfl rfl rfl ?_
  refine ro_iload_n (pc' := 3) dX6_element_2 rfl rfl rfl ?_
  obtain ⟨u1, hu1, h⟩ := ah_bs h
  obtain ⟨v2, σ3, hv2, h⟩ := ah_bs2 h
  refine ro_callV (pc' := 6) (As := [.int x1, .int x2]) (rest := []) (st' := [.int v2]) (by decide) hu1 q1891 sl_X6_whyNoPlace (M_X6_whyNoPlace hv2) q1889 q1892 q104 dd_X6_whyNoPlace rfl ⟨Nat.le_of_ble_eq_true rfl, Nat.le_of_ble_eq_true rfl⟩ (Nat.le_of_ble_eq_true rfl) dX6_element_3 rfl rfl rfl ?_
  refine ro_if_ge (pc' := 9) (tgt := 15) dX6_element_6 rfl rfl (fun c => ?_) (fun c => ?_)
  · replace h := ah_ip c h
    refine ro_aload_n (pc' := 16) dX6_element_15 rfl rfl rfl ?_
    obtain ⟨v4, hv4, h⟩ := ah_bs h
    refine ro_getR (pc' := 19) ft_658 fk_658 q1366 dX6_element_16 rfl hv4 ?_
    refine ro_bipush (pc' := 21) dX6_element_19 ib_60 rfl ?_
    refine ro_iload_n (pc' := 22) dX6_element_21 rfl rfl rfl ?_
    refine ro_imul (pc' := 23) dX6_element_22 rfl ?_
    refine ro_iload_n (pc' := 24) dX6_element_23 rfl rfl rfl ?_
    refine ro_iadd (pc' := 25) dX6_element_24 rfl ?_
    obtain ⟨v5, hv5, h⟩ := ah_bs h
    refine ro_laload (pc' := 26) dX6_element_25 rfl hv5 ?_
    obtain rfl := Option.some.inj h
    exact ro_lret hκ dX6_element_26
  · replace h := ah_in_ c h
    refine ro_ldc2 (pc' := 12) q1740 dX6_element_9 rfl ?_
    refine ro_goto (tgt := 26) dX6_element_12 rfl ?_
    obtain rfl := Option.some.inj h
    exact ro_lret hκ dX6_element_26
theorem M_X6_element {l : Launch} {D : ah_D}  {σ : ah_S} {r0 : Option Nat} {x1 : Int32} {x2 : Int32} {v : Int64} {σ1 : ah_S} (h : F_X6_element σ r0 x1 x2 = some (v, σ1)) : ah_Met l yX6_element (Cond.code yX6_element cX6_element 3 (some FieldType.long)) 4 88 D [va_rf r0, .int x1, .int x2] σ (.returned (some (.long v)), σ1) :=
  ah_ofG (own := "LeftAsFoundModel") (nm := "element") (L0 := [some (va_rf r0), some (.int x1), some (.int x2)]) (by decide) rfl rfl rfl (ah_ao_1 (ah_rf_cat _) (ah_ao_1 rfl (ah_ao_1 rfl ah_ao_0))) (fun κ hκ => W_X6_element hκ  σ r0 x1 x2 h)
set_option maxRecDepth 20000 in
set_option maxHeartbeats 4000000 in
theorem W_X6_faulty {κ : ah_C} {rr : ah_S} (hκ : ah_res κ = (.returned none, rr))  (σ : ah_S) (r0 : Option Nat) (h : F_X6_faulty σ r0 = some rr) : ah_G κ ("LeftAsFoundModel", "faulty", 1, none, [], 1, 24) cX6_faulty σ 0 [some (va_rf r0)] [] := by
  unfold F_X6_faulty at h
  refine ro_aload_n (pc' := 1) dX6_faulty_0 rfl rfl rfl ?_
  obtain ⟨v1, hv1, h⟩ := ah_bs h
  refine ro_getI (pc' := 4) ft_621 fk_621 q1329 dX6_faulty_1 rfl hv1 ?_
  refine ro_if_ge (pc' := 7) (tgt := 15) dX6_faulty_4 rfl rfl (fun c => ?_) (fun c => ?_)
  · replace h := ah_ip c h
    obtain rfl := Option.some.inj h
    exact ro_vret hκ dX6_faulty_15
  · replace h := ah_in_ c h
    refine ro_aload_n (pc' := 8) dX6_faulty_7 rfl rfl rfl ?_
    refine ro_aload_n (pc' := 9) dX6_faulty_8 rfl rfl rfl ?_
    obtain ⟨v2, hv2, h⟩ := ah_bs h
    refine ro_getI (pc' := 12) ft_620 fk_620 q1328 dX6_faulty_9 rfl hv2 ?_
    obtain ⟨σ3, hσ3, h⟩ := ah_bs h
    refine ro_putI (pc' := 15) ft_621 fk_621 q1329 pd_621 dX6_faulty_12 rfl hσ3 ?_
    obtain rfl := Option.some.inj h
    exact ro_vret hκ dX6_faulty_15
theorem M_X6_faulty {l : Launch} {D : ah_D}  {σ : ah_S} {r0 : Option Nat} {σ1 : ah_S} (h : F_X6_faulty σ r0 = some σ1) : ah_Met l yX6_faulty (Cond.code yX6_faulty cX6_faulty 1 none) 1 24 D [va_rf r0] σ (.returned none, σ1) :=
  ah_ofG (own := "LeftAsFoundModel") (nm := "faulty") (L0 := [some (va_rf r0)]) (by decide) rfl rfl rfl (ah_ao_1 (ah_rf_cat _) ah_ao_0) (fun κ hκ => W_X6_faulty hκ  σ r0 h)
set_option maxRecDepth 20000 in
set_option maxHeartbeats 4000000 in
theorem W_X6_feed {κ : ah_C} {rr : (Int32 × ah_S)} (hκ : ah_res κ = (.returned (some (.int rr.1)), rr.2))  (σ : ah_S) (r0 : Option Nat) (x1 : Int32) (h : F_X6_feed σ r0 x1 = some rr) : ah_G κ ("LeftAsFoundModel", "feed", 2, (some FieldType.int), [], 2, 46) cX6_feed σ 0 [some (va_rf r0), some (.int x1)] [] := by
  unfold F_X6_feed at h
  refine ro_iload_n (pc' := 1) dX6_feed_0 rfl rfl rfl ?_
  refine ro_iconst (pc' := 2) dX6_feed_1 ic_0 rfl ?_
  refine ro_sipush (pc' := 5) dX6_feed_2 is_255 rfl ?_
  obtain ⟨v1, σ2, hv1, h⟩ := ah_bs2 h
  refine ro_callS (pc' := 8) (As := [.int x1, .int (0 : Int32), .int (255 : Int32)]) (rest := []) (st' := [.int v1]) q1494 (M_X6_in hv1) q1493 q1495 q104 dd_X6_in rfl ⟨Nat.le_of_ble_eq_true rfl, Nat.le_of_ble_eq_true rfl⟩ (Nat.le_of_ble_eq_true rfl) dX6_feed_5 rfl rfl rfl ?_
  refine ro_if_ne (pc' := 11) (tgt := 13) dX6_feed_8 rfl rfl (fun c => ?_) (fun c => ?_)
  · replace h := ah_in_ c h
    refine ro_aload_n (pc' := 14) dX6_feed_13 rfl rfl rfl ?_
    obtain ⟨v3, hv3, h⟩ := ah_bs h
    refine ro_getI (pc' := 17) ft_619 fk_619 q1327 dX6_feed_14 rfl hv3 ?_
    refine ro_bipush (pc' := 19) dX6_feed_17 ib_120 rfl ?_
    refine ro_icmp_ne (pc' := 22) (tgt := 25) dX6_feed_19 rfl rfl (fun c => ?_) (fun c => ?_)
    · replace h := ah_in_ c h
      refine ro_aload_n (pc' := 26) dX6_feed_25 rfl rfl rfl ?_
      obtain ⟨v4, hv4, h⟩ := ah_bs h
      refine ro_getR (pc' := 29) ft_618 fk_618 q1326 dX6_feed_26 rfl hv4 ?_
      refine ro_aload_n (pc' := 30) dX6_feed_29 rfl rfl rfl ?_
      obtain ⟨v5, hv5, h⟩ := ah_bs h
      refine ro_getI (pc' := 33) ft_619 fk_619 q1327 dX6_feed_30 rfl hv5 ?_
      refine ro_iload_n (pc' := 34) dX6_feed_33 rfl rfl rfl ?_
      refine ro_i2b (pc' := 35) dX6_feed_34 rfl ?_
      obtain ⟨σ6, hσ6, h⟩ := ah_bs h
      refine ro_bastore (pc' := 36) dX6_feed_35 rfl hσ6 ?_
      refine ro_aload_n (pc' := 37) dX6_feed_36 rfl rfl rfl ?_
      refine ro_dup (pc' := 38) dX6_feed_37 (ah_rf_cat _) rfl ?_
      obtain ⟨v7, hv7, h⟩ := ah_bs h
      refine ro_getI (pc' := 41) ft_619 fk_619 q1327 dX6_feed_38 rfl hv7 ?_
      refine ro_iconst (pc' := 42) dX6_feed_41 ic_1 rfl ?_
      refine ro_iadd (pc' := 43) dX6_feed_42 rfl ?_
      obtain ⟨σ8, hσ8, h⟩ := ah_bs h
      refine ro_putI (pc' := 46) ft_619 fk_619 q1327 pd_619 dX6_feed_43 rfl hσ8 ?_
      refine ro_aload_n (pc' := 47) dX6_feed_46 rfl rfl rfl ?_
      obtain ⟨v9, hv9, h⟩ := ah_bs h
      refine ro_getI (pc' := 50) ft_619 fk_619 q1327 dX6_feed_47 rfl hv9 ?_
      obtain rfl := Option.some.inj h
      exact ro_iret hκ dX6_feed_50
    · replace h := ah_ip c h
      refine ro_bipush (pc' := 24) dX6_feed_22 ib_m3 rfl ?_
      obtain rfl := Option.some.inj h
      exact ro_iret hκ dX6_feed_24
  · replace h := ah_ip c h
    refine ro_iconst (pc' := 12) dX6_feed_11 ic_m1 rfl ?_
    obtain rfl := Option.some.inj h
    exact ro_iret hκ dX6_feed_12
theorem M_X6_feed {l : Launch} {D : ah_D}  {σ : ah_S} {r0 : Option Nat} {x1 : Int32} {v : Int32} {σ1 : ah_S} (h : F_X6_feed σ r0 x1 = some (v, σ1)) : ah_Met l yX6_feed (Cond.code yX6_feed cX6_feed 2 (some FieldType.int)) 2 46 D [va_rf r0, .int x1] σ (.returned (some (.int v)), σ1) :=
  ah_ofG (own := "LeftAsFoundModel") (nm := "feed") (L0 := [some (va_rf r0), some (.int x1)]) (by decide) rfl rfl rfl (ah_ao_1 (ah_rf_cat _) (ah_ao_1 rfl ah_ao_0)) (fun κ hκ => W_X6_feed hκ  σ r0 x1 h)
set_option maxRecDepth 20000 in
set_option maxHeartbeats 4000000 in
theorem W_X6_look {κ : ah_C} {rr : (Int32 × ah_S)} (hκ : ah_res κ = (.returned (some (.int rr.1)), rr.2))  (σ : ah_S) (r0 : Option Nat) (h : F_X6_look σ r0 = some rr) : ah_G κ ("LeftAsFoundModel", "look", 1, (some FieldType.int), [], 1, 24) cX6_look σ 0 [some (va_rf r0)] [] := by
  unfold F_X6_look at h
  refine ro_aload_n (pc' := 1) dX6_look_0 rfl rfl rfl ?_
  obtain ⟨v1, hv1, h⟩ := ah_bs h
  refine ro_getI (pc' := 4) ft_620 fk_620 q1328 dX6_look_1 rfl hv1 ?_
  refine ro_aload_n (pc' := 5) dX6_look_4 rfl rfl rfl ?_
  obtain ⟨v2, hv2, h⟩ := ah_bs h
  refine ro_getI (pc' := 8) ft_619 fk_619 q1327 dX6_look_5 rfl hv2 ?_
  refine ro_icmp_ge (pc' := 11) (tgt := 23) dX6_look_8 rfl rfl (fun c => ?_) (fun c => ?_)
  · replace h := ah_ip c h
    refine ro_iconst (pc' := 24) dX6_look_23 ic_m1 rfl ?_
    obtain rfl := Option.some.inj h
    exact ro_iret hκ dX6_look_24
  · replace h := ah_in_ c h
    refine ro_aload_n (pc' := 12) dX6_look_11 rfl rfl rfl ?_
    obtain ⟨v3, hv3, h⟩ := ah_bs h
    refine ro_getR (pc' := 15) ft_618 fk_618 q1326 dX6_look_12 rfl hv3 ?_
    refine ro_aload_n (pc' := 16) dX6_look_15 rfl rfl rfl ?_
    obtain ⟨v4, hv4, h⟩ := ah_bs h
    refine ro_getI (pc' := 19) ft_620 fk_620 q1328 dX6_look_16 rfl hv4 ?_
    obtain ⟨v5, hv5, h⟩ := ah_bs h
    refine ro_baload (pc' := 20) dX6_look_19 rfl hv5 ?_
    refine ro_goto (tgt := 24) dX6_look_20 rfl ?_
    obtain rfl := Option.some.inj h
    exact ro_iret hκ dX6_look_24
theorem M_X6_look {l : Launch} {D : ah_D}  {σ : ah_S} {r0 : Option Nat} {v : Int32} {σ1 : ah_S} (h : F_X6_look σ r0 = some (v, σ1)) : ah_Met l yX6_look (Cond.code yX6_look cX6_look 1 (some FieldType.int)) 1 24 D [va_rf r0] σ (.returned (some (.int v)), σ1) :=
  ah_ofG (own := "LeftAsFoundModel") (nm := "look") (L0 := [some (va_rf r0)]) (by decide) rfl rfl rfl (ah_ao_1 (ah_rf_cat _) ah_ao_0) (fun κ hκ => W_X6_look hκ  σ r0 h)
set_option maxRecDepth 20000 in
set_option maxHeartbeats 4000000 in
theorem W_X6_figure_52 {κ : ah_C} {rr : ah_S} (hκ : ah_res κ = (.returned none, rr))    : ∀ (σ : ah_S) (r0 : Option Nat) (x1 : Int32) (x2 : Int32), F_X6_figure_52 σ r0 x1 x2 = some rr → ah_G κ ("LeftAsFoundModel", "figure", 3, none, [], 2, 46) cX6_figure σ 52 [some (va_rf r0), some (.int x1), some (.int x2)] [] := by
  intro σ r0 x1 x2 h
  unfold F_X6_figure_52 at h
  refine ro_iload_n (pc' := 53) dX6_figure_52 rfl rfl rfl ?_
  refine ro_if_eq (pc' := 56) (tgt := 70) dX6_figure_53 rfl rfl (fun c => ?_) (fun c => ?_)
  · replace h := ah_ip c h
    refine ro_aload_n (pc' := 71) dX6_figure_70 rfl rfl rfl ?_
    obtain ⟨u1, hu1, h⟩ := ah_bs h
    obtain ⟨σ2, hσ2, h⟩ := ah_bs h
    refine ro_callV (pc' := 74) (As := []) (rest := []) (st' := []) (by decide) hu1 q1614 sl_X6_faulty (M_X6_faulty hσ2) q1612 q1615 q104 dd_X6_faulty rfl ⟨Nat.le_of_ble_eq_true rfl, Nat.le_of_ble_eq_true rfl⟩ (Nat.le_of_ble_eq_true rfl) dX6_figure_71 rfl rfl rfl ?_
    refine ro_aload_n (pc' := 75) dX6_figure_74 rfl rfl rfl ?_
    refine ro_iconst (pc' := 76) dX6_figure_75 ic_1 rfl ?_
    refine ro_iload_n (pc' := 77) dX6_figure_76 rfl rfl rfl ?_
    obtain ⟨u3, hu3, h⟩ := ah_bs h
    obtain ⟨σ4, hσ4, h⟩ := ah_bs h
    refine ro_callV (pc' := 80) (As := [.int (1 : Int32), .int x1]) (rest := []) (st' := []) (by decide) hu3 q1606 sl_X6_addStep (M_X6_addStep hσ4) q1604 q1607 q104 dd_X6_addStep rfl ⟨Nat.le_of_ble_eq_true rfl, Nat.le_of_ble_eq_true rfl⟩ (Nat.le_of_ble_eq_true rfl) dX6_figure_77 rfl rfl rfl ?_
    obtain rfl := Option.some.inj h
    exact ro_vret hκ dX6_figure_80
  · replace h := ah_in_ c h
    refine ro_aload_n (pc' := 57) dX6_figure_56 rfl rfl rfl ?_
    obtain ⟨u5, hu5, h⟩ := ah_bs h
    obtain ⟨v6, σ7, hv6, h⟩ := ah_bs2 h
    refine ro_callV (pc' := 60) (As := []) (rest := []) (st' := [.int v6]) (by decide) hu5 q1599 sl_X6_look (M_X6_look hv6) q1597 q1600 q104 dd_X6_look rfl ⟨Nat.le_of_ble_eq_true rfl, Nat.le_of_ble_eq_true rfl⟩ (Nat.le_of_ble_eq_true rfl) dX6_figure_57 rfl rfl rfl ?_
    refine ro_bipush (pc' := 62) dX6_figure_60 ib_48 rfl ?_
    refine ro_bipush (pc' := 64) dX6_figure_62 ib_57 rfl ?_
    obtain ⟨v8, σ9, hv8, h⟩ := ah_bs2 h
    refine ro_callS (pc' := 67) (As := [.int v6, .int (48 : Int32), .int (57 : Int32)]) (rest := []) (st' := [.int v8]) q1494 (M_X6_in hv8) q1493 q1495 q104 dd_X6_in rfl ⟨Nat.le_of_ble_eq_true rfl, Nat.le_of_ble_eq_true rfl⟩ (Nat.le_of_ble_eq_true rfl) dX6_figure_64 rfl rfl rfl ?_
    refine ro_if_eq (pc' := 70) (tgt := 74) dX6_figure_67 rfl rfl (fun c => ?_) (fun c => ?_)
    · replace h := ah_ip c h
      refine ro_aload_n (pc' := 75) dX6_figure_74 rfl rfl rfl ?_
      refine ro_iconst (pc' := 76) dX6_figure_75 ic_1 rfl ?_
      refine ro_iload_n (pc' := 77) dX6_figure_76 rfl rfl rfl ?_
      obtain ⟨u10, hu10, h⟩ := ah_bs h
      obtain ⟨σ11, hσ11, h⟩ := ah_bs h
      refine ro_callV (pc' := 80) (As := [.int (1 : Int32), .int x1]) (rest := []) (st' := []) (by decide) hu10 q1606 sl_X6_addStep (M_X6_addStep hσ11) q1604 q1607 q104 dd_X6_addStep rfl ⟨Nat.le_of_ble_eq_true rfl, Nat.le_of_ble_eq_true rfl⟩ (Nat.le_of_ble_eq_true rfl) dX6_figure_77 rfl rfl rfl ?_
      obtain rfl := Option.some.inj h
      exact ro_vret hκ dX6_figure_80
    · replace h := ah_in_ c h
      refine ro_aload_n (pc' := 71) dX6_figure_70 rfl rfl rfl ?_
      obtain ⟨u12, hu12, h⟩ := ah_bs h
      obtain ⟨σ13, hσ13, h⟩ := ah_bs h
      refine ro_callV (pc' := 74) (As := []) (rest := []) (st' := []) (by decide) hu12 q1614 sl_X6_faulty (M_X6_faulty hσ13) q1612 q1615 q104 dd_X6_faulty rfl ⟨Nat.le_of_ble_eq_true rfl, Nat.le_of_ble_eq_true rfl⟩ (Nat.le_of_ble_eq_true rfl) dX6_figure_71 rfl rfl rfl ?_
      refine ro_aload_n (pc' := 75) dX6_figure_74 rfl rfl rfl ?_
      refine ro_iconst (pc' := 76) dX6_figure_75 ic_1 rfl ?_
      refine ro_iload_n (pc' := 77) dX6_figure_76 rfl rfl rfl ?_
      obtain ⟨u14, hu14, h⟩ := ah_bs h
      obtain ⟨σ15, hσ15, h⟩ := ah_bs h
      refine ro_callV (pc' := 80) (As := [.int (1 : Int32), .int x1]) (rest := []) (st' := []) (by decide) hu14 q1606 sl_X6_addStep (M_X6_addStep hσ15) q1604 q1607 q104 dd_X6_addStep rfl ⟨Nat.le_of_ble_eq_true rfl, Nat.le_of_ble_eq_true rfl⟩ (Nat.le_of_ble_eq_true rfl) dX6_figure_77 rfl rfl rfl ?_
      obtain rfl := Option.some.inj h
      exact ro_vret hκ dX6_figure_80
set_option maxRecDepth 20000 in
set_option maxHeartbeats 4000000 in
theorem W_X6_figure_4 {κ : ah_C} {rr : ah_S} (hκ : ah_res κ = (.returned none, rr))    : ∀ (n : Nat) (σ : ah_S) (r0 : Option Nat) (x1 : Int32) (x2 : Int32), F_X6_figure_4 n σ r0 x1 x2 = some rr → ah_G κ ("LeftAsFoundModel", "figure", 3, none, [], 2, 46) cX6_figure σ 4 [some (va_rf r0), some (.int x1), some (.int x2)] [] := by
  intro n
  induction n with
  | zero => intro σ r0 x1 x2 h; cases h
  | succ n ih =>
    intro σ r0 x1 x2 h
    rw [F_X6_figure_4] at h
    refine ro_iload_n (pc' := 5) dX6_figure_4 rfl rfl rfl ?_
    refine ro_iconst (pc' := 6) dX6_figure_5 ic_4 rfl ?_
    refine ro_icmp_ge (pc' := 9) (tgt := 52) dX6_figure_6 rfl rfl (fun c => ?_) (fun c => ?_)
    · replace h := ah_ip c h
      exact W_X6_figure_52 hκ _ _ _ _ h
    · replace h := ah_in_ c h
      refine ro_aload_n (pc' := 10) dX6_figure_9 rfl rfl rfl ?_
      obtain ⟨u1, hu1, h⟩ := ah_bs h
      obtain ⟨v2, σ3, hv2, h⟩ := ah_bs2 h
      refine ro_callV (pc' := 13) (As := []) (rest := []) (st' := [.int v2]) (by decide) hu1 q1599 sl_X6_look (M_X6_look hv2) q1597 q1600 q104 dd_X6_look rfl ⟨Nat.le_of_ble_eq_true rfl, Nat.le_of_ble_eq_true rfl⟩ (Nat.le_of_ble_eq_true rfl) dX6_figure_10 rfl rfl rfl ?_
      refine ro_bipush (pc' := 15) dX6_figure_13 ib_48 rfl ?_
      refine ro_bipush (pc' := 17) dX6_figure_15 ib_57 rfl ?_
      obtain ⟨v4, σ5, hv4, h⟩ := ah_bs2 h
      refine ro_callS (pc' := 20) (As := [.int v2, .int (48 : Int32), .int (57 : Int32)]) (rest := []) (st' := [.int v4]) q1494 (M_X6_in hv4) q1493 q1495 q104 dd_X6_in rfl ⟨Nat.le_of_ble_eq_true rfl, Nat.le_of_ble_eq_true rfl⟩ (Nat.le_of_ble_eq_true rfl) dX6_figure_17 rfl rfl rfl ?_
      refine ro_if_eq (pc' := 23) (tgt := 52) dX6_figure_20 rfl rfl (fun c => ?_) (fun c => ?_)
      · replace h := ah_ip c h
        exact W_X6_figure_52 hκ _ _ _ _ h
      · replace h := ah_in_ c h
        refine ro_bipush (pc' := 25) dX6_figure_23 ib_10 rfl ?_
        refine ro_iload_n (pc' := 26) dX6_figure_25 rfl rfl rfl ?_
        refine ro_imul (pc' := 27) dX6_figure_26 rfl ?_
        refine ro_aload_n (pc' := 28) dX6_figure_27 rfl rfl rfl ?_
        obtain ⟨u6, hu6, h⟩ := ah_bs h
        obtain ⟨v7, σ8, hv7, h⟩ := ah_bs2 h
        refine ro_callV (pc' := 31) (As := []) (rest := [.int ((10 : Int32) * x1)]) (st' := [.int v7, .int ((10 : Int32) * x1)]) (by decide) hu6 q1599 sl_X6_look (M_X6_look hv7) q1597 q1600 q104 dd_X6_look rfl ⟨Nat.le_of_ble_eq_true rfl, Nat.le_of_ble_eq_true rfl⟩ (Nat.le_of_ble_eq_true rfl) dX6_figure_28 rfl rfl rfl ?_
        refine ro_iadd (pc' := 32) dX6_figure_31 rfl ?_
        refine ro_bipush (pc' := 34) dX6_figure_32 ib_48 rfl ?_
        refine ro_isub (pc' := 35) dX6_figure_34 rfl ?_
        refine ro_istore_n (pc' := 36) (L' := [some (va_rf r0), some (.int ((((10 : Int32) * x1) + v7) - (48 : Int32))), some (.int x2)]) dX6_figure_35 rfl (Nat.le_of_ble_eq_true rfl) rfl (ah_okp_r _) rfl ?_
        refine ro_iinc (pc' := 39) (L' := [some (va_rf r0), some (.int ((((10 : Int32) * x1) + v7) - (48 : Int32))), some (.int (x2 + (1 : Int32)))]) dX6_figure_36 rfl ic_1 (Nat.le_of_ble_eq_true rfl) rfl (ah_okp_i _) rfl ?_
        refine ro_aload_n (pc' := 40) dX6_figure_39 rfl rfl rfl ?_
        refine ro_dup (pc' := 41) dX6_figure_40 (ah_rf_cat _) rfl ?_
        obtain ⟨v9, hv9, h⟩ := ah_bs h
        refine ro_getI (pc' := 44) ft_620 fk_620 q1328 dX6_figure_41 rfl hv9 ?_
        refine ro_iconst (pc' := 45) dX6_figure_44 ic_1 rfl ?_
        refine ro_iadd (pc' := 46) dX6_figure_45 rfl ?_
        obtain ⟨σ10, hσ10, h⟩ := ah_bs h
        refine ro_putI (pc' := 49) ft_620 fk_620 q1328 pd_620 dX6_figure_46 rfl hσ10 ?_
        refine ro_goto (tgt := 4) dX6_figure_49 rfl ?_
        exact ih _ _ _ _ h
set_option maxRecDepth 20000 in
set_option maxHeartbeats 4000000 in
theorem W_X6_figure {κ : ah_C} {rr : ah_S} (hκ : ah_res κ = (.returned none, rr))  (σ : ah_S) (r0 : Option Nat) (h : F_X6_figure σ r0 = some rr) : ah_G κ ("LeftAsFoundModel", "figure", 3, none, [], 2, 46) cX6_figure σ 0 [some (va_rf r0), none, none] [] := by
  unfold F_X6_figure at h
  refine ro_iconst (pc' := 1) dX6_figure_0 ic_0 rfl ?_
  refine ro_istore_n (pc' := 2) (L' := [some (va_rf r0), some (.int (0 : Int32)), none]) dX6_figure_1 rfl (Nat.le_of_ble_eq_true rfl) rfl (ah_okp_r _) rfl ?_
  refine ro_iconst (pc' := 3) dX6_figure_2 ic_0 rfl ?_
  refine ro_istore_n (pc' := 4) (L' := [some (va_rf r0), some (.int (0 : Int32)), some (.int (0 : Int32))]) dX6_figure_3 rfl (Nat.le_of_ble_eq_true rfl) rfl (ah_okp_i _) rfl ?_
  exact W_X6_figure_4 hκ _ _ _ _ _ h
theorem M_X6_figure {l : Launch} {D : ah_D}  {σ : ah_S} {r0 : Option Nat} {σ1 : ah_S} (h : F_X6_figure σ r0 = some σ1) : ah_Met l yX6_figure (Cond.code yX6_figure cX6_figure 3 none) 2 46 D [va_rf r0] σ (.returned none, σ1) :=
  ah_ofG (own := "LeftAsFoundModel") (nm := "figure") (L0 := [some (va_rf r0), none, none]) (by decide) rfl rfl rfl (ah_ao_1 (ah_rf_cat _) (ah_ao_n (ah_ao_n ah_ao_0))) (fun κ hκ => W_X6_figure hκ  σ r0 h)
set_option maxRecDepth 20000 in
set_option maxHeartbeats 4000000 in
theorem W_X6_forget_32 {κ : ah_C} {rr : (Int32 × ah_S)} (hκ : ah_res κ = (.returned (some (.int rr.1)), rr.2))    : ∀ (n : Nat) (σ : ah_S) (r0 : Option Nat) (x1 : Int32) (x2 : Int32) (x3 : Int32), F_X6_forget_32 n σ r0 x1 x2 x3 = some rr → ah_G κ ("LeftAsFoundModel", "forget", 4, (some FieldType.int), [], 3, 67) cX6_forget σ 32 [some (va_rf r0), some (.int x1), some (.int x2), some (.int x3)] [] := by
  intro n
  induction n with
  | zero => intro σ r0 x1 x2 x3 h; cases h
  | succ n ih =>
    intro σ r0 x1 x2 x3 h
    rw [F_X6_forget_32] at h
    refine ro_iload_n (pc' := 33) dX6_forget_32 rfl rfl rfl ?_
    refine ro_iconst (pc' := 34) dX6_forget_33 ic_4 rfl ?_
    refine ro_icmp_ge (pc' := 37) (tgt := 57) dX6_forget_34 rfl rfl (fun c => ?_) (fun c => ?_)
    · replace h := ah_ip c h
      refine ro_iload_n (pc' := 58) dX6_forget_57 rfl rfl rfl ?_
      obtain rfl := Option.some.inj h
      exact ro_iret hκ dX6_forget_58
    · replace h := ah_in_ c h
      refine ro_aload_n (pc' := 38) dX6_forget_37 rfl rfl rfl ?_
      obtain ⟨v1, hv1, h⟩ := ah_bs h
      refine ro_getR (pc' := 41) ft_611 fk_611 q1319 dX6_forget_38 rfl hv1 ?_
      refine ro_bipush (pc' := 43) dX6_forget_41 ib_20 rfl ?_
      refine ro_iconst (pc' := 44) dX6_forget_43 ic_4 rfl ?_
      refine ro_iload_n (pc' := 45) dX6_forget_44 rfl rfl rfl ?_
      refine ro_imul (pc' := 46) dX6_forget_45 rfl ?_
      refine ro_iadd (pc' := 47) dX6_forget_46 rfl ?_
      refine ro_iload_n (pc' := 48) dX6_forget_47 rfl rfl rfl ?_
      refine ro_iadd (pc' := 49) dX6_forget_48 rfl ?_
      refine ro_iconst (pc' := 50) dX6_forget_49 ic_0 rfl ?_
      obtain ⟨σ2, hσ2, h⟩ := ah_bs h
      refine ro_iastore (pc' := 51) dX6_forget_50 rfl hσ2 ?_
      refine ro_iinc (pc' := 54) (L' := [some (va_rf r0), some (.int x1), some (.int x2), some (.int (x3 + (1 : Int32)))]) dX6_forget_51 rfl ic_1 (Nat.le_of_ble_eq_true rfl) rfl (ah_okp_i _) rfl ?_
      refine ro_goto (tgt := 32) dX6_forget_54 rfl ?_
      exact ih _ _ _ _ _ h
set_option maxRecDepth 20000 in
set_option maxHeartbeats 4000000 in
theorem W_X6_forget {κ : ah_C} {rr : (Int32 × ah_S)} (hκ : ah_res κ = (.returned (some (.int rr.1)), rr.2))  (σ : ah_S) (r0 : Option Nat) (x1 : Int32) (h : F_X6_forget σ r0 x1 = some rr) : ah_G κ ("LeftAsFoundModel", "forget", 4, (some FieldType.int), [], 3, 67) cX6_forget σ 0 [some (va_rf r0), some (.int x1), none, none] [] := by
  unfold F_X6_forget at h
  refine ro_aload_n (pc' := 1) dX6_forget_0 rfl rfl rfl ?_
  refine ro_iload_n (pc' := 2) dX6_forget_1 rfl rfl rfl ?_
  obtain ⟨u1, hu1, h⟩ := ah_bs h
  obtain ⟨v2, σ3, hv2, h⟩ := ah_bs2 h
  refine ro_callV (pc' := 5) (As := [.int x1]) (rest := []) (st' := [.int v2]) (by decide) hu1 q1540 sl_X6_isGuest (M_X6_isGuest hv2) q1538 q1541 q104 dd_X6_isGuest rfl ⟨Nat.le_of_ble_eq_true rfl, Nat.le_of_ble_eq_true rfl⟩ (Nat.le_of_ble_eq_true rfl) dX6_forget_2 rfl rfl rfl ?_
  refine ro_if_ne (pc' := 8) (tgt := 10) dX6_forget_5 rfl rfl (fun c => ?_) (fun c => ?_)
  · replace h := ah_in_ c h
    refine ro_aload_n (pc' := 11) dX6_forget_10 rfl rfl rfl ?_
    obtain ⟨v4, hv4, h⟩ := ah_bs h
    refine ro_getR (pc' := 14) ft_611 fk_611 q1319 dX6_forget_11 rfl hv4 ?_
    refine ro_bipush (pc' := 16) dX6_forget_14 ib_13 rfl ?_
    refine ro_iload_n (pc' := 17) dX6_forget_16 rfl rfl rfl ?_
    refine ro_iadd (pc' := 18) dX6_forget_17 rfl ?_
    obtain ⟨v5, hv5, h⟩ := ah_bs h
    refine ro_iaload (pc' := 19) dX6_forget_18 rfl hv5 ?_
    refine ro_istore_n (pc' := 20) (L' := [some (va_rf r0), some (.int x1), some (.int v5), none]) dX6_forget_19 rfl (Nat.le_of_ble_eq_true rfl) rfl (ah_okp_i _) rfl ?_
    refine ro_aload_n (pc' := 21) dX6_forget_20 rfl rfl rfl ?_
    obtain ⟨v6, hv6, h⟩ := ah_bs h
    refine ro_getR (pc' := 24) ft_611 fk_611 q1319 dX6_forget_21 rfl hv6 ?_
    refine ro_bipush (pc' := 26) dX6_forget_24 ib_13 rfl ?_
    refine ro_iload_n (pc' := 27) dX6_forget_26 rfl rfl rfl ?_
    refine ro_iadd (pc' := 28) dX6_forget_27 rfl ?_
    refine ro_iconst (pc' := 29) dX6_forget_28 ic_0 rfl ?_
    obtain ⟨σ7, hσ7, h⟩ := ah_bs h
    refine ro_iastore (pc' := 30) dX6_forget_29 rfl hσ7 ?_
    refine ro_iconst (pc' := 31) dX6_forget_30 ic_0 rfl ?_
    refine ro_istore_n (pc' := 32) (L' := [some (va_rf r0), some (.int x1), some (.int v5), some (.int (0 : Int32))]) dX6_forget_31 rfl (Nat.le_of_ble_eq_true rfl) rfl (ah_okp_i _) rfl ?_
    exact W_X6_forget_32 hκ _ _ _ _ _ _ h
  · replace h := ah_ip c h
    refine ro_iconst (pc' := 9) dX6_forget_8 ic_m1 rfl ?_
    obtain rfl := Option.some.inj h
    exact ro_iret hκ dX6_forget_9
theorem M_X6_forget {l : Launch} {D : ah_D}  {σ : ah_S} {r0 : Option Nat} {x1 : Int32} {v : Int32} {σ1 : ah_S} (h : F_X6_forget σ r0 x1 = some (v, σ1)) : ah_Met l yX6_forget (Cond.code yX6_forget cX6_forget 4 (some FieldType.int)) 3 67 D [va_rf r0, .int x1] σ (.returned (some (.int v)), σ1) :=
  ah_ofG (own := "LeftAsFoundModel") (nm := "forget") (L0 := [some (va_rf r0), some (.int x1), none, none]) (by decide) rfl rfl rfl (ah_ao_1 (ah_rf_cat _) (ah_ao_1 rfl (ah_ao_n (ah_ao_n ah_ao_0)))) (fun κ hκ => W_X6_forget hκ  σ r0 x1 h)
set_option maxRecDepth 20000 in
set_option maxHeartbeats 4000000 in
theorem W_X6_guest {κ : ah_C} {rr : (Int32 × ah_S)} (hκ : ah_res κ = (.returned (some (.int rr.1)), rr.2))  (σ : ah_S) (r0 : Option Nat) (x1 : Int32) (x2 : Int32) (h : F_X6_guest σ r0 x1 x2 = some rr) : ah_G κ ("LeftAsFoundModel", "guest", 3, (some FieldType.int), [], 2, 48) cX6_guest σ 0 [some (va_rf r0), some (.int x1), some (.int x2)] [] := by
  unfold F_X6_guest at h
  refine ro_iload_n (pc' := 1) dX6_guest_0 rfl rfl rfl ?_
  refine ro_iconst (pc' := 2) dX6_guest_1 ic_0 rfl ?_
  refine ro_bipush (pc' := 4) dX6_guest_2 ib_9 rfl ?_
  obtain ⟨v1, σ2, hv1, h⟩ := ah_bs2 h
  refine ro_callS (pc' := 7) (As := [.int x1, .int (0 : Int32), .int (9 : Int32)]) (rest := []) (st' := [.int v1]) q1494 (M_X6_in hv1) q1493 q1495 q104 dd_X6_in rfl ⟨Nat.le_of_ble_eq_true rfl, Nat.le_of_ble_eq_true rfl⟩ (Nat.le_of_ble_eq_true rfl) dX6_guest_4 rfl rfl rfl ?_
  refine ro_if_eq (pc' := 10) (tgt := 20) dX6_guest_7 rfl rfl (fun c => ?_) (fun c => ?_)
  · replace h := ah_ip c h
    refine ro_iconst (pc' := 21) dX6_guest_20 ic_m1 rfl ?_
    obtain rfl := Option.some.inj h
    exact ro_iret hκ dX6_guest_21
  · replace h := ah_in_ c h
    refine ro_iload_n (pc' := 11) dX6_guest_10 rfl rfl rfl ?_
    refine ro_iconst (pc' := 12) dX6_guest_11 ic_0 rfl ?_
    refine ro_bipush (pc' := 14) dX6_guest_12 ib_50 rfl ?_
    obtain ⟨v3, σ4, hv3, h⟩ := ah_bs2 h
    refine ro_callS (pc' := 17) (As := [.int x2, .int (0 : Int32), .int (50 : Int32)]) (rest := []) (st' := [.int v3]) q1494 (M_X6_in hv3) q1493 q1495 q104 dd_X6_in rfl ⟨Nat.le_of_ble_eq_true rfl, Nat.le_of_ble_eq_true rfl⟩ (Nat.le_of_ble_eq_true rfl) dX6_guest_14 rfl rfl rfl ?_
    refine ro_if_ne (pc' := 20) (tgt := 22) dX6_guest_17 rfl rfl (fun c => ?_) (fun c => ?_)
    · replace h := ah_in_ c h
      refine ro_aload_n (pc' := 23) dX6_guest_22 rfl rfl rfl ?_
      obtain ⟨v5, hv5, h⟩ := ah_bs h
      refine ro_getI (pc' := 26) ft_603 fk_603 q1311 dX6_guest_23 rfl hv5 ?_
      refine ro_bipush (pc' := 28) dX6_guest_26 ib_7 rfl ?_
      refine ro_icmp_ne (pc' := 31) (tgt := 36) dX6_guest_28 rfl rfl (fun c => ?_) (fun c => ?_)
      · replace h := ah_in_ c h
        refine ro_aload_n (pc' := 37) dX6_guest_36 rfl rfl rfl ?_
        refine ro_iload_n (pc' := 38) dX6_guest_37 rfl rfl rfl ?_
        refine ro_iload_n (pc' := 39) dX6_guest_38 rfl rfl rfl ?_
        refine ro_iconst (pc' := 40) dX6_guest_39 ic_0 rfl ?_
        obtain ⟨u6, hu6, h⟩ := ah_bs h
        obtain ⟨v7, σ8, hv7, h⟩ := ah_bs2 h
        refine ro_callV (pc' := 43) (As := [.int x1, .int x2, .int (0 : Int32)]) (rest := []) (st' := [.int v7]) (by decide) hu6 q1498 sl_X6_addGuest (M_X6_addGuest hv7) q1496 q1499 q104 dd_X6_addGuest rfl ⟨Nat.le_of_ble_eq_true rfl, Nat.le_of_ble_eq_true rfl⟩ (Nat.le_of_ble_eq_true rfl) dX6_guest_40 rfl rfl rfl ?_
        obtain rfl := Option.some.inj h
        exact ro_iret hκ dX6_guest_43
      · replace h := ah_ip c h
        refine ro_bipush (pc' := 33) dX6_guest_31 ib_m3 rfl ?_
        refine ro_goto (tgt := 43) dX6_guest_33 rfl ?_
        obtain rfl := Option.some.inj h
        exact ro_iret hκ dX6_guest_43
    · replace h := ah_ip c h
      refine ro_iconst (pc' := 21) dX6_guest_20 ic_m1 rfl ?_
      obtain rfl := Option.some.inj h
      exact ro_iret hκ dX6_guest_21
theorem M_X6_guest {l : Launch} {D : ah_D}  {σ : ah_S} {r0 : Option Nat} {x1 : Int32} {x2 : Int32} {v : Int32} {σ1 : ah_S} (h : F_X6_guest σ r0 x1 x2 = some (v, σ1)) : ah_Met l yX6_guest (Cond.code yX6_guest cX6_guest 3 (some FieldType.int)) 2 48 D [va_rf r0, .int x1, .int x2] σ (.returned (some (.int v)), σ1) :=
  ah_ofG (own := "LeftAsFoundModel") (nm := "guest") (L0 := [some (va_rf r0), some (.int x1), some (.int x2)]) (by decide) rfl rfl rfl (ah_ao_1 (ah_rf_cat _) (ah_ao_1 rfl (ah_ao_1 rfl ah_ao_0))) (fun κ hκ => W_X6_guest hκ  σ r0 x1 x2 h)
set_option maxRecDepth 20000 in
set_option maxHeartbeats 4000000 in
theorem W_X6_guests_58 {κ : ah_C} {rr : (Int32 × ah_S)} (hκ : ah_res κ = (.returned (some (.int rr.1)), rr.2))    : ∀ (n : Nat) (σ : ah_S) (r0 : Option Nat) (x1 : Int32) (x2 : Int32) (x3 : Int32) (x4 : Int32), F_X6_guests_58 n σ r0 x1 x2 x3 x4 = some rr → ah_G κ ("LeftAsFoundModel", "guests", 8, (some FieldType.int), [], 3, 66) cX6_guests σ 58 [some (va_rf r0), some (.int x1), some (.int x2), some (.int x3), some (.int x4), none, none, none] [] := by
  intro n
  induction n with
  | zero => intro σ r0 x1 x2 x3 x4 h; cases h
  | succ n ih =>
    intro σ r0 x1 x2 x3 x4 h
    rw [F_X6_guests_58] at h
    refine ro_iload (pc' := 60) dX6_guests_58 rfl rfl ?_
    refine ro_iload_n (pc' := 61) dX6_guests_60 rfl rfl rfl ?_
    refine ro_icmp_ge (pc' := 64) (tgt := 216) dX6_guests_61 rfl rfl (fun c => ?_) (fun c => ?_)
    · replace h := ah_ip c h
      refine ro_iload_n (pc' := 217) dX6_guests_216 rfl rfl rfl ?_
      obtain rfl := Option.some.inj h
      exact ro_iret hκ dX6_guests_217
    · replace h := ah_in_ c h
      refine ro_iload_n (pc' := 65) dX6_guests_64 rfl rfl rfl ?_
      refine ro_i2l (pc' := 66) dX6_guests_65 rfl ?_
      refine ro_iconst (pc' := 67) dX6_guests_66 ic_3 rfl ?_
      refine ro_iload (pc' := 69) dX6_guests_67 rfl rfl ?_
      refine ro_imul (pc' := 70) dX6_guests_69 rfl ?_
      refine ro_i2l (pc' := 71) dX6_guests_70 rfl ?_
      refine ro_ladd (pc' := 72) dX6_guests_71 rfl ?_
      refine ro_lstore (pc' := 74) (L' := [some (va_rf r0), some (.int x1), some (.int x2), some (.int x3), some (.int x4), some (.long ((x2.toInt64) + (((3 : Int32) * x4).toInt64))), none, none]) dX6_guests_72 (Nat.le_of_ble_eq_true rfl) rfl (ah_okp_i _) rfl ?_
      refine ro_lload (pc' := 76) dX6_guests_74 rfl rfl ?_
      refine ro_lconst (pc' := 77) dX6_guests_76 lc_0 rfl ?_
      refine ro_lcmp (pc' := 78) dX6_guests_77 rfl ?_
      refine ro_if_lt (pc' := 81) (tgt := 107) dX6_guests_78 rfl rfl (fun c => ?_) (fun c => ?_)
      · replace h := ah_ip c h
        refine ro_iload (pc' := 109) dX6_guests_107 rfl rfl ?_
        obtain rfl := Option.some.inj h
        exact ro_iret hκ dX6_guests_109
      · replace h := ah_in_ c h
        refine ro_lload (pc' := 83) dX6_guests_81 rfl rfl ?_
        refine ro_ldc2 (pc' := 86) q1507 dX6_guests_83 rfl ?_
        refine ro_ladd (pc' := 87) dX6_guests_86 rfl ?_
        refine ro_aload_n (pc' := 88) dX6_guests_87 rfl rfl rfl ?_
        obtain ⟨v1, hv1, h⟩ := ah_bs h
        refine ro_getR (pc' := 91) ft_657 fk_657 q1365 dX6_guests_88 rfl hv1 ?_
        refine ro_iload_n (pc' := 92) dX6_guests_91 rfl rfl rfl ?_
        obtain ⟨v2, hv2, h⟩ := ah_bs h
        refine ro_iaload (pc' := 93) dX6_guests_92 rfl hv2 ?_
        refine ro_i2l (pc' := 94) dX6_guests_93 rfl ?_
        refine ro_lcmp (pc' := 95) dX6_guests_94 rfl ?_
        refine ro_if_ge (pc' := 98) (tgt := 107) dX6_guests_95 rfl rfl (fun c => ?_) (fun c => ?_)
        · replace h := ah_ip c h
          refine ro_iload (pc' := 109) dX6_guests_107 rfl rfl ?_
          obtain rfl := Option.some.inj h
          exact ro_iret hκ dX6_guests_109
        · replace h := ah_in_ c h
          refine ro_aload_n (pc' := 99) dX6_guests_98 rfl rfl rfl ?_
          obtain ⟨v3, hv3, h⟩ := ah_bs h
          refine ro_getI (pc' := 102) ft_603 fk_603 q1311 dX6_guests_99 rfl hv3 ?_
          refine ro_bipush (pc' := 104) dX6_guests_102 ib_7 rfl ?_
          refine ro_icmp_ne (pc' := 107) (tgt := 110) dX6_guests_104 rfl rfl (fun c => ?_) (fun c => ?_)
          · replace h := ah_in_ c h
            refine ro_bipush (pc' := 112) dX6_guests_110 ib_60 rfl ?_
            refine ro_iload_n (pc' := 113) dX6_guests_112 rfl rfl rfl ?_
            refine ro_imul (pc' := 114) dX6_guests_113 rfl ?_
            refine ro_lload (pc' := 116) dX6_guests_114 rfl rfl ?_
            refine ro_l2i (pc' := 117) dX6_guests_116 rfl ?_
            refine ro_iadd (pc' := 118) dX6_guests_117 rfl ?_
            refine ro_istore (pc' := 120) (L' := [some (va_rf r0), some (.int x1), some (.int x2), some (.int x3), some (.int x4), some (.long ((x2.toInt64) + (((3 : Int32) * x4).toInt64))), none, some (.int (((60 : Int32) * x1) + (((x2.toInt64) + (((3 : Int32) * x4).toInt64)).toInt32)))]) dX6_guests_118 (Nat.le_of_ble_eq_true rfl) rfl ah_okp_u rfl ?_
            refine ro_aload_n (pc' := 121) dX6_guests_120 rfl rfl rfl ?_
            obtain ⟨v4, hv4, h⟩ := ah_bs h
            refine ro_getR (pc' := 124) ft_658 fk_658 q1366 dX6_guests_121 rfl hv4 ?_
            refine ro_iload (pc' := 126) dX6_guests_124 rfl rfl ?_
            obtain ⟨v5, hv5, h⟩ := ah_bs h
            refine ro_laload (pc' := 127) dX6_guests_126 rfl hv5 ?_
            refine ro_l2i (pc' := 128) dX6_guests_127 rfl ?_
            refine ro_iconst (pc' := 129) dX6_guests_128 ic_0 rfl ?_
            refine ro_bipush (pc' := 131) dX6_guests_129 ib_9 rfl ?_
            obtain ⟨v6, σ7, hv6, h⟩ := ah_bs2 h
            refine ro_callS (pc' := 134) (As := [.int (v5.toInt32), .int (0 : Int32), .int (9 : Int32)]) (rest := []) (st' := [.int v6]) q1494 (M_X6_in hv6) q1493 q1495 q104 dd_X6_in rfl ⟨Nat.le_of_ble_eq_true rfl, Nat.le_of_ble_eq_true rfl⟩ (Nat.le_of_ble_eq_true rfl) dX6_guests_131 rfl rfl rfl ?_
            refine ro_if_eq (pc' := 137) (tgt := 174) dX6_guests_134 rfl rfl (fun c => ?_) (fun c => ?_)
            · replace h := ah_ip c h
              refine ro_iload (pc' := 176) dX6_guests_174 rfl rfl ?_
              obtain rfl := Option.some.inj h
              exact ro_iret hκ dX6_guests_176
            · replace h := ah_in_ c h
              refine ro_aload_n (pc' := 138) dX6_guests_137 rfl rfl rfl ?_
              obtain ⟨v8, hv8, h⟩ := ah_bs h
              refine ro_getR (pc' := 141) ft_658 fk_658 q1366 dX6_guests_138 rfl hv8 ?_
              refine ro_iload (pc' := 143) dX6_guests_141 rfl rfl ?_
              refine ro_iconst (pc' := 144) dX6_guests_143 ic_1 rfl ?_
              refine ro_iadd (pc' := 145) dX6_guests_144 rfl ?_
              obtain ⟨v9, hv9, h⟩ := ah_bs h
              refine ro_laload (pc' := 146) dX6_guests_145 rfl hv9 ?_
              refine ro_l2i (pc' := 147) dX6_guests_146 rfl ?_
              refine ro_iconst (pc' := 148) dX6_guests_147 ic_0 rfl ?_
              refine ro_bipush (pc' := 150) dX6_guests_148 ib_50 rfl ?_
              obtain ⟨v10, σ11, hv10, h⟩ := ah_bs2 h
              refine ro_callS (pc' := 153) (As := [.int (v9.toInt32), .int (0 : Int32), .int (50 : Int32)]) (rest := []) (st' := [.int v10]) q1494 (M_X6_in hv10) q1493 q1495 q104 dd_X6_in rfl ⟨Nat.le_of_ble_eq_true rfl, Nat.le_of_ble_eq_true rfl⟩ (Nat.le_of_ble_eq_true rfl) dX6_guests_150 rfl rfl rfl ?_
              refine ro_if_eq (pc' := 156) (tgt := 174) dX6_guests_153 rfl rfl (fun c => ?_) (fun c => ?_)
              · replace h := ah_ip c h
                refine ro_iload (pc' := 176) dX6_guests_174 rfl rfl ?_
                obtain rfl := Option.some.inj h
                exact ro_iret hκ dX6_guests_176
              · replace h := ah_in_ c h
                refine ro_aload_n (pc' := 157) dX6_guests_156 rfl rfl rfl ?_
                obtain ⟨v12, hv12, h⟩ := ah_bs h
                refine ro_getR (pc' := 160) ft_658 fk_658 q1366 dX6_guests_157 rfl hv12 ?_
                refine ro_iload (pc' := 162) dX6_guests_160 rfl rfl ?_
                refine ro_iconst (pc' := 163) dX6_guests_162 ic_2 rfl ?_
                refine ro_iadd (pc' := 164) dX6_guests_163 rfl ?_
                obtain ⟨v13, hv13, h⟩ := ah_bs h
                refine ro_laload (pc' := 165) dX6_guests_164 rfl hv13 ?_
                refine ro_l2i (pc' := 166) dX6_guests_165 rfl ?_
                refine ro_iconst (pc' := 167) dX6_guests_166 ic_0 rfl ?_
                refine ro_iconst (pc' := 168) dX6_guests_167 ic_3 rfl ?_
                obtain ⟨v14, σ15, hv14, h⟩ := ah_bs2 h
                refine ro_callS (pc' := 171) (As := [.int (v13.toInt32), .int (0 : Int32), .int (3 : Int32)]) (rest := []) (st' := [.int v14]) q1494 (M_X6_in hv14) q1493 q1495 q104 dd_X6_in rfl ⟨Nat.le_of_ble_eq_true rfl, Nat.le_of_ble_eq_true rfl⟩ (Nat.le_of_ble_eq_true rfl) dX6_guests_168 rfl rfl rfl ?_
                refine ro_if_ne (pc' := 174) (tgt := 177) dX6_guests_171 rfl rfl (fun c => ?_) (fun c => ?_)
                · replace h := ah_in_ c h
                  refine ro_aload_n (pc' := 178) dX6_guests_177 rfl rfl rfl ?_
                  refine ro_aload_n (pc' := 179) dX6_guests_178 rfl rfl rfl ?_
                  obtain ⟨v16, hv16, h⟩ := ah_bs h
                  refine ro_getR (pc' := 182) ft_658 fk_658 q1366 dX6_guests_179 rfl hv16 ?_
                  refine ro_iload (pc' := 184) dX6_guests_182 rfl rfl ?_
                  obtain ⟨v17, hv17, h⟩ := ah_bs h
                  refine ro_laload (pc' := 185) dX6_guests_184 rfl hv17 ?_
                  refine ro_l2i (pc' := 186) dX6_guests_185 rfl ?_
                  refine ro_aload_n (pc' := 187) dX6_guests_186 rfl rfl rfl ?_
                  obtain ⟨v18, hv18, h⟩ := ah_bs h
                  refine ro_getR (pc' := 190) ft_658 fk_658 q1366 dX6_guests_187 rfl hv18 ?_
                  refine ro_iload (pc' := 192) dX6_guests_190 rfl rfl ?_
                  refine ro_iconst (pc' := 193) dX6_guests_192 ic_1 rfl ?_
                  refine ro_iadd (pc' := 194) dX6_guests_193 rfl ?_
                  obtain ⟨v19, hv19, h⟩ := ah_bs h
                  refine ro_laload (pc' := 195) dX6_guests_194 rfl hv19 ?_
                  refine ro_l2i (pc' := 196) dX6_guests_195 rfl ?_
                  refine ro_aload_n (pc' := 197) dX6_guests_196 rfl rfl rfl ?_
                  obtain ⟨v20, hv20, h⟩ := ah_bs h
                  refine ro_getR (pc' := 200) ft_658 fk_658 q1366 dX6_guests_197 rfl hv20 ?_
                  refine ro_iload (pc' := 202) dX6_guests_200 rfl rfl ?_
                  refine ro_iconst (pc' := 203) dX6_guests_202 ic_2 rfl ?_
                  refine ro_iadd (pc' := 204) dX6_guests_203 rfl ?_
                  obtain ⟨v21, hv21, h⟩ := ah_bs h
                  refine ro_laload (pc' := 205) dX6_guests_204 rfl hv21 ?_
                  refine ro_l2i (pc' := 206) dX6_guests_205 rfl ?_
                  obtain ⟨u22, hu22, h⟩ := ah_bs h
                  obtain ⟨v23, σ24, hv23, h⟩ := ah_bs2 h
                  refine ro_callV (pc' := 209) (As := [.int (v17.toInt32), .int (v19.toInt32), .int (v21.toInt32)]) (rest := []) (st' := [.int v23]) (by decide) hu22 q1498 sl_X6_addGuest (M_X6_addGuest hv23) q1496 q1499 q104 dd_X6_addGuest rfl ⟨Nat.le_of_ble_eq_true rfl, Nat.le_of_ble_eq_true rfl⟩ (Nat.le_of_ble_eq_true rfl) dX6_guests_206 rfl rfl rfl ?_
                  refine ro_pop (pc' := 210) dX6_guests_209 rfl rfl ?_
                  refine ro_iinc (pc' := 213) (L' := [some (va_rf r0), some (.int x1), some (.int x2), some (.int x3), some (.int (x4 + (1 : Int32))), some (.long ((x2.toInt64) + (((3 : Int32) * x4).toInt64))), none, some (.int (((60 : Int32) * x1) + (((x2.toInt64) + (((3 : Int32) * x4).toInt64)).toInt32)))]) dX6_guests_210 rfl ic_1 (Nat.le_of_ble_eq_true rfl) rfl (ah_okp_i _) rfl ?_
                  refine ro_goto (tgt := 58) dX6_guests_213 rfl ?_
                  refine ro_weak (L' := [some (va_rf r0), some (.int x1), some (.int x2), some (.int x3), some (.int (x4 + (1 : Int32))), none, none, none]) (ah_ls_s (ah_ls_s (ah_ls_s (ah_ls_s (ah_ls_s (ah_ls_n (ah_ls_s (ah_ls_n ah_ls_0)))))))) ?_
                  exact ih _ _ _ _ _ _ h
                · replace h := ah_ip c h
                  refine ro_iload (pc' := 176) dX6_guests_174 rfl rfl ?_
                  obtain rfl := Option.some.inj h
                  exact ro_iret hκ dX6_guests_176
          · replace h := ah_ip c h
            refine ro_iload (pc' := 109) dX6_guests_107 rfl rfl ?_
            obtain rfl := Option.some.inj h
            exact ro_iret hκ dX6_guests_109
set_option maxRecDepth 20000 in
set_option maxHeartbeats 4000000 in
theorem W_X6_guests {κ : ah_C} {rr : (Int32 × ah_S)} (hκ : ah_res κ = (.returned (some (.int rr.1)), rr.2))  (σ : ah_S) (r0 : Option Nat) (x1 : Int32) (x2 : Int32) (x3 : Int32) (h : F_X6_guests σ r0 x1 x2 x3 = some rr) : ah_G κ ("LeftAsFoundModel", "guests", 8, (some FieldType.int), [], 3, 66) cX6_guests σ 0 [some (va_rf r0), some (.int x1), some (.int x2), some (.int x3), none, none, none, none] [] := by
  unfold F_X6_guests at h
  refine ro_iload_n (pc' := 1) dX6_guests_0 rfl rfl rfl ?_
  obtain ⟨v1, σ2, hv1, h⟩ := ah_bs2 h
  refine ro_callS (pc' := 4) (As := [.int x1]) (rest := []) (st' := [.int v1]) q1505 (M_X6_isShelf hv1) q1504 q1506 q104 dd_X6_isShelf rfl ⟨Nat.le_of_ble_eq_true rfl, Nat.le_of_ble_eq_true rfl⟩ (Nat.le_of_ble_eq_true rfl) dX6_guests_1 rfl rfl rfl ?_
  refine ro_if_eq (pc' := 7) (tgt := 17) dX6_guests_4 rfl rfl (fun c => ?_) (fun c => ?_)
  · replace h := ah_ip c h
    refine ro_iconst (pc' := 18) dX6_guests_17 ic_m1 rfl ?_
    obtain rfl := Option.some.inj h
    exact ro_iret hκ dX6_guests_18
  · replace h := ah_in_ c h
    refine ro_iload_n (pc' := 8) dX6_guests_7 rfl rfl rfl ?_
    refine ro_iconst (pc' := 9) dX6_guests_8 ic_1 rfl ?_
    refine ro_bipush (pc' := 11) dX6_guests_9 ib_7 rfl ?_
    obtain ⟨v3, σ4, hv3, h⟩ := ah_bs2 h
    refine ro_callS (pc' := 14) (As := [.int x3, .int (1 : Int32), .int (7 : Int32)]) (rest := []) (st' := [.int v3]) q1494 (M_X6_in hv3) q1493 q1495 q104 dd_X6_in rfl ⟨Nat.le_of_ble_eq_true rfl, Nat.le_of_ble_eq_true rfl⟩ (Nat.le_of_ble_eq_true rfl) dX6_guests_11 rfl rfl rfl ?_
    refine ro_if_ne (pc' := 17) (tgt := 19) dX6_guests_14 rfl rfl (fun c => ?_) (fun c => ?_)
    · replace h := ah_in_ c h
      refine ro_aload_n (pc' := 20) dX6_guests_19 rfl rfl rfl ?_
      obtain ⟨v5, hv5, h⟩ := ah_bs h
      refine ro_getR (pc' := 23) ft_656 fk_656 q1364 dX6_guests_20 rfl hv5 ?_
      refine ro_iload_n (pc' := 24) dX6_guests_23 rfl rfl rfl ?_
      obtain ⟨v6, hv6, h⟩ := ah_bs h
      refine ro_iaload (pc' := 25) dX6_guests_24 rfl hv6 ?_
      refine ro_iconst (pc' := 26) dX6_guests_25 ic_m1 rfl ?_
      refine ro_icmp_eq (pc' := 29) (tgt := 43) dX6_guests_26 rfl rfl (fun c => ?_) (fun c => ?_)
      · replace h := ah_ip c h
        refine ro_aload_n (pc' := 44) dX6_guests_43 rfl rfl rfl ?_
        obtain ⟨v7, hv7, h⟩ := ah_bs h
        refine ro_getR (pc' := 47) ft_656 fk_656 q1364 dX6_guests_44 rfl hv7 ?_
        refine ro_iload_n (pc' := 48) dX6_guests_47 rfl rfl rfl ?_
        obtain ⟨v8, hv8, h⟩ := ah_bs h
        refine ro_iaload (pc' := 49) dX6_guests_48 rfl hv8 ?_
        refine ro_iconst (pc' := 50) dX6_guests_49 ic_m1 rfl ?_
        refine ro_icmp_ne (pc' := 53) (tgt := 55) dX6_guests_50 rfl rfl (fun c => ?_) (fun c => ?_)
        · replace h := ah_in_ c h
          refine ro_iconst (pc' := 56) dX6_guests_55 ic_0 rfl ?_
          refine ro_istore (pc' := 58) (L' := [some (va_rf r0), some (.int x1), some (.int x2), some (.int x3), some (.int (0 : Int32)), none, none, none]) dX6_guests_56 (Nat.le_of_ble_eq_true rfl) rfl (ah_okp_i _) rfl ?_
          exact W_X6_guests_58 hκ _ _ _ _ _ _ _ h
        · replace h := ah_ip c h
          refine ro_iconst (pc' := 54) dX6_guests_53 ic_0 rfl ?_
          obtain rfl := Option.some.inj h
          exact ro_iret hκ dX6_guests_54
      · replace h := ah_in_ c h
        refine ro_aload_n (pc' := 30) dX6_guests_29 rfl rfl rfl ?_
        obtain ⟨v9, hv9, h⟩ := ah_bs h
        refine ro_getR (pc' := 33) ft_656 fk_656 q1364 dX6_guests_30 rfl hv9 ?_
        refine ro_iload_n (pc' := 34) dX6_guests_33 rfl rfl rfl ?_
        obtain ⟨v10, hv10, h⟩ := ah_bs h
        refine ro_iaload (pc' := 35) dX6_guests_34 rfl hv10 ?_
        refine ro_bipush (pc' := 37) dX6_guests_35 ib_m2 rfl ?_
        refine ro_icmp_eq (pc' := 40) (tgt := 43) dX6_guests_37 rfl rfl (fun c => ?_) (fun c => ?_)
        · replace h := ah_ip c h
          refine ro_aload_n (pc' := 44) dX6_guests_43 rfl rfl rfl ?_
          obtain ⟨v11, hv11, h⟩ := ah_bs h
          refine ro_getR (pc' := 47) ft_656 fk_656 q1364 dX6_guests_44 rfl hv11 ?_
          refine ro_iload_n (pc' := 48) dX6_guests_47 rfl rfl rfl ?_
          obtain ⟨v12, hv12, h⟩ := ah_bs h
          refine ro_iaload (pc' := 49) dX6_guests_48 rfl hv12 ?_
          refine ro_iconst (pc' := 50) dX6_guests_49 ic_m1 rfl ?_
          refine ro_icmp_ne (pc' := 53) (tgt := 55) dX6_guests_50 rfl rfl (fun c => ?_) (fun c => ?_)
          · replace h := ah_in_ c h
            refine ro_iconst (pc' := 56) dX6_guests_55 ic_0 rfl ?_
            refine ro_istore (pc' := 58) (L' := [some (va_rf r0), some (.int x1), some (.int x2), some (.int x3), some (.int (0 : Int32)), none, none, none]) dX6_guests_56 (Nat.le_of_ble_eq_true rfl) rfl (ah_okp_i _) rfl ?_
            exact W_X6_guests_58 hκ _ _ _ _ _ _ _ h
          · replace h := ah_ip c h
            refine ro_iconst (pc' := 54) dX6_guests_53 ic_0 rfl ?_
            obtain rfl := Option.some.inj h
            exact ro_iret hκ dX6_guests_54
        · replace h := ah_in_ c h
          refine ro_bipush (pc' := 42) dX6_guests_40 ib_m12 rfl ?_
          obtain rfl := Option.some.inj h
          exact ro_iret hκ dX6_guests_42
    · replace h := ah_ip c h
      refine ro_iconst (pc' := 18) dX6_guests_17 ic_m1 rfl ?_
      obtain rfl := Option.some.inj h
      exact ro_iret hκ dX6_guests_18
theorem M_X6_guests {l : Launch} {D : ah_D}  {σ : ah_S} {r0 : Option Nat} {x1 : Int32} {x2 : Int32} {x3 : Int32} {v : Int32} {σ1 : ah_S} (h : F_X6_guests σ r0 x1 x2 x3 = some (v, σ1)) : ah_Met l yX6_guests (Cond.code yX6_guests cX6_guests 8 (some FieldType.int)) 3 66 D [va_rf r0, .int x1, .int x2, .int x3] σ (.returned (some (.int v)), σ1) :=
  ah_ofG (own := "LeftAsFoundModel") (nm := "guests") (L0 := [some (va_rf r0), some (.int x1), some (.int x2), some (.int x3), none, none, none, none]) (by decide) rfl rfl rfl (ah_ao_1 (ah_rf_cat _) (ah_ao_1 rfl (ah_ao_1 rfl (ah_ao_1 rfl (ah_ao_n (ah_ao_n (ah_ao_n (ah_ao_n ah_ao_0)))))))) (fun κ hκ => W_X6_guests hκ  σ r0 x1 x2 x3 h)
set_option maxRecDepth 20000 in
set_option maxHeartbeats 4000000 in
theorem W_X6_holds60_16 {κ : ah_C} {rr : (Int32 × ah_S)} (hκ : ah_res κ = (.returned (some (.int rr.1)), rr.2))    : ∀ (n : Nat) (σ : ah_S) (r0 : Option Nat) (x1 : Int32) (x2 : Int32) (x3 : Int32) (x4 : Int32) (x5 : Int32) (x6 : Int32) (x7 : Int32) (x8 : Int32), F_X6_holds60_16 n σ r0 x1 x2 x3 x4 x5 x6 x7 x8 = some rr → ah_G κ ("LeftAsFoundModel", "holds60", 9, (some FieldType.boolean), [], 7, 166) cX6_holds60 σ 16 [some (va_rf r0), some (.int x1), some (.int x2), some (.int x3), some (.int x4), some (.int x5), some (.int x6), some (.int x7), some (.int x8)] [] := by
  intro n
  induction n with
  | zero => intro σ r0 x1 x2 x3 x4 x5 x6 x7 x8 h; cases h
  | succ n ih =>
    intro σ r0 x1 x2 x3 x4 x5 x6 x7 x8 h
    rw [F_X6_holds60_16] at h
    refine ro_iload (pc' := 18) dX6_holds60_16 rfl rfl ?_
    refine ro_bipush (pc' := 20) dX6_holds60_18 ib_60 rfl ?_
    refine ro_icmp_ge (pc' := 23) (tgt := 76) dX6_holds60_20 rfl rfl (fun c => ?_) (fun c => ?_)
    · replace h := ah_ip c h
      refine ro_aload_n (pc' := 77) dX6_holds60_76 rfl rfl rfl ?_
      obtain ⟨u1, hu1, h⟩ := ah_bs h
      obtain ⟨σ2, hσ2, h⟩ := ah_bs h
      refine ro_callV (pc' := 80) (As := []) (rest := []) (st' := []) (by decide) hu1 q1665 sl_X6_layHut (M_X6_layHut hσ2) q1663 q1666 q104 dd_X6_layHut rfl ⟨Nat.le_of_ble_eq_true rfl, Nat.le_of_ble_eq_true rfl⟩ (Nat.le_of_ble_eq_true rfl) dX6_holds60_77 rfl rfl rfl ?_
      refine ro_iload (pc' := 82) dX6_holds60_80 rfl rfl ?_
      obtain ⟨z3, hz3, g⟩ := ah_bs h
      obtain ⟨ez3, hz3⟩ := ah_z_n hz3
      subst ez3
      obtain rfl := Option.some.inj g
      exact ro_zret hz3 hκ dX6_holds60_82
    · replace h := ah_in_ c h
      refine ro_iload (pc' := 25) dX6_holds60_23 rfl rfl ?_
      refine ro_iload_n (pc' := 26) dX6_holds60_25 rfl rfl rfl ?_
      refine ro_icmp_ne (pc' := 29) (tgt := 40) dX6_holds60_26 rfl rfl (fun c => ?_) (fun c => ?_)
      · replace h := ah_in_ c h
        refine ro_aload_n (pc' := 41) dX6_holds60_40 rfl rfl rfl ?_
        refine ro_aload_n (pc' := 42) dX6_holds60_41 rfl rfl rfl ?_
        refine ro_iload (pc' := 44) dX6_holds60_42 rfl rfl ?_
        obtain ⟨u4, hu4, h⟩ := ah_bs h
        obtain ⟨v5, σ6, hv5, h⟩ := ah_bs2 h
        refine ro_callV (pc' := 47) (As := [.int x5]) (rest := [va_rf r0]) (st' := [.int v5, va_rf r0]) (by decide) hu4 q1709 sl_X6_againAt (M_X6_againAt hv5) q1707 q1710 q104 dd_X6_againAt rfl ⟨Nat.le_of_ble_eq_true rfl, Nat.le_of_ble_eq_true rfl⟩ (by simp only [List.map_cons, List.map_nil, List.sum_cons, List.sum_nil, ah_rf_cat, ah_cat_i, ah_cat_l]; decide) dX6_holds60_44 rfl rfl rfl ?_
        obtain ⟨u7, hu7, h⟩ := ah_bs h
        obtain ⟨σ8, hσ8, h⟩ := ah_bs h
        refine ro_callV (pc' := 50) (As := [.int v5]) (rest := []) (st' := []) (by decide) hu7 q1638 sl_X6_goNight (M_X6_goNight hσ8) q1636 q1639 q104 dd_X6_goNight rfl ⟨Nat.le_of_ble_eq_true rfl, Nat.le_of_ble_eq_true rfl⟩ (Nat.le_of_ble_eq_true rfl) dX6_holds60_47 rfl rfl rfl ?_
        refine ro_iinc (pc' := 53) (L' := [some (va_rf r0), some (.int x1), some (.int x2), some (.int x3), some (.int x4), some (.int (x5 + (1 : Int32))), some (.int x6), some (.int x7), some (.int x8)]) dX6_holds60_50 rfl ic_1 (Nat.le_of_ble_eq_true rfl) rfl (ah_okp_i _) rfl ?_
        refine ro_iinc (pc' := 56) (L' := [some (va_rf r0), some (.int x1), some (.int x2), some (.int x3), some (.int x4), some (.int (x5 + (1 : Int32))), some (.int (x6 + (1 : Int32))), some (.int x7), some (.int x8)]) dX6_holds60_53 rfl ic_1 (Nat.le_of_ble_eq_true rfl) rfl (ah_okp_i _) rfl ?_
        refine ro_aload_n (pc' := 57) dX6_holds60_56 rfl rfl rfl ?_
        obtain ⟨v9, hv9, h⟩ := ah_bs h
        refine ro_getR (pc' := 60) ft_611 fk_611 q1319 dX6_holds60_57 rfl hv9 ?_
        refine ro_iload_n (pc' := 61) dX6_holds60_60 rfl rfl rfl ?_
        obtain ⟨v10, hv10, h⟩ := ah_bs h
        refine ro_iaload (pc' := 62) dX6_holds60_61 rfl hv10 ?_
        refine ro_iload (pc' := 64) dX6_holds60_62 rfl rfl ?_
        refine ro_icmp_ge (pc' := 67) (tgt := 70) dX6_holds60_64 rfl rfl (fun c => ?_) (fun c => ?_)
        · replace h := ah_ip c h
          refine ro_iinc (pc' := 73) (L' := [some (va_rf r0), some (.int x1), some (.int x2), some (.int x3), some (.int x4), some (.int (x5 + (1 : Int32))), some (.int (x6 + (1 : Int32))), some (.int x7), some (.int (x8 + (1 : Int32)))]) dX6_holds60_70 rfl ic_1 (Nat.le_of_ble_eq_true rfl) rfl (ah_okp_i _) rfl ?_
          refine ro_goto (tgt := 16) dX6_holds60_73 rfl ?_
          exact ih _ _ _ _ _ _ _ _ _ _ h
        · replace h := ah_in_ c h
          refine ro_iconst (pc' := 68) dX6_holds60_67 ic_0 rfl ?_
          refine ro_istore (pc' := 70) (L' := [some (va_rf r0), some (.int x1), some (.int x2), some (.int x3), some (.int x4), some (.int (x5 + (1 : Int32))), some (.int (x6 + (1 : Int32))), some (.int (0 : Int32)), some (.int x8)]) dX6_holds60_68 (Nat.le_of_ble_eq_true rfl) rfl (ah_okp_i _) rfl ?_
          refine ro_iinc (pc' := 73) (L' := [some (va_rf r0), some (.int x1), some (.int x2), some (.int x3), some (.int x4), some (.int (x5 + (1 : Int32))), some (.int (x6 + (1 : Int32))), some (.int (0 : Int32)), some (.int (x8 + (1 : Int32)))]) dX6_holds60_70 rfl ic_1 (Nat.le_of_ble_eq_true rfl) rfl (ah_okp_i _) rfl ?_
          refine ro_goto (tgt := 16) dX6_holds60_73 rfl ?_
          exact ih _ _ _ _ _ _ _ _ _ _ h
      · replace h := ah_ip c h
        refine ro_aload_n (pc' := 30) dX6_holds60_29 rfl rfl rfl ?_
        refine ro_iload_n (pc' := 31) dX6_holds60_30 rfl rfl rfl ?_
        obtain ⟨u11, hu11, h⟩ := ah_bs h
        obtain ⟨σ12, hσ12, h⟩ := ah_bs h
        refine ro_callV (pc' := 34) (As := [.int x1]) (rest := []) (st' := []) (by decide) hu11 q1638 sl_X6_goNight (M_X6_goNight hσ12) q1636 q1639 q104 dd_X6_goNight rfl ⟨Nat.le_of_ble_eq_true rfl, Nat.le_of_ble_eq_true rfl⟩ (Nat.le_of_ble_eq_true rfl) dX6_holds60_31 rfl rfl rfl ?_
        refine ro_iconst (pc' := 35) dX6_holds60_34 ic_0 rfl ?_
        refine ro_istore (pc' := 37) (L' := [some (va_rf r0), some (.int x1), some (.int x2), some (.int x3), some (.int x4), some (.int x5), some (.int (0 : Int32)), some (.int x7), some (.int x8)]) dX6_holds60_35 (Nat.le_of_ble_eq_true rfl) rfl (ah_okp_i _) rfl ?_
        refine ro_goto (tgt := 56) dX6_holds60_37 rfl ?_
        refine ro_aload_n (pc' := 57) dX6_holds60_56 rfl rfl rfl ?_
        obtain ⟨v13, hv13, h⟩ := ah_bs h
        refine ro_getR (pc' := 60) ft_611 fk_611 q1319 dX6_holds60_57 rfl hv13 ?_
        refine ro_iload_n (pc' := 61) dX6_holds60_60 rfl rfl rfl ?_
        obtain ⟨v14, hv14, h⟩ := ah_bs h
        refine ro_iaload (pc' := 62) dX6_holds60_61 rfl hv14 ?_
        refine ro_iload (pc' := 64) dX6_holds60_62 rfl rfl ?_
        refine ro_icmp_ge (pc' := 67) (tgt := 70) dX6_holds60_64 rfl rfl (fun c => ?_) (fun c => ?_)
        · replace h := ah_ip c h
          refine ro_iinc (pc' := 73) (L' := [some (va_rf r0), some (.int x1), some (.int x2), some (.int x3), some (.int x4), some (.int x5), some (.int (0 : Int32)), some (.int x7), some (.int (x8 + (1 : Int32)))]) dX6_holds60_70 rfl ic_1 (Nat.le_of_ble_eq_true rfl) rfl (ah_okp_i _) rfl ?_
          refine ro_goto (tgt := 16) dX6_holds60_73 rfl ?_
          exact ih _ _ _ _ _ _ _ _ _ _ h
        · replace h := ah_in_ c h
          refine ro_iconst (pc' := 68) dX6_holds60_67 ic_0 rfl ?_
          refine ro_istore (pc' := 70) (L' := [some (va_rf r0), some (.int x1), some (.int x2), some (.int x3), some (.int x4), some (.int x5), some (.int (0 : Int32)), some (.int (0 : Int32)), some (.int x8)]) dX6_holds60_68 (Nat.le_of_ble_eq_true rfl) rfl (ah_okp_i _) rfl ?_
          refine ro_iinc (pc' := 73) (L' := [some (va_rf r0), some (.int x1), some (.int x2), some (.int x3), some (.int x4), some (.int x5), some (.int (0 : Int32)), some (.int (0 : Int32)), some (.int (x8 + (1 : Int32)))]) dX6_holds60_70 rfl ic_1 (Nat.le_of_ble_eq_true rfl) rfl (ah_okp_i _) rfl ?_
          refine ro_goto (tgt := 16) dX6_holds60_73 rfl ?_
          exact ih _ _ _ _ _ _ _ _ _ _ h
set_option maxRecDepth 20000 in
set_option maxHeartbeats 4000000 in
theorem W_X6_holds60 {κ : ah_C} {rr : (Int32 × ah_S)} (hκ : ah_res κ = (.returned (some (.int rr.1)), rr.2))  (σ : ah_S) (r0 : Option Nat) (x1 : Int32) (x2 : Int32) (x3 : Int32) (x4 : Int32) (h : F_X6_holds60 σ r0 x1 x2 x3 x4 = some rr) : ah_G κ ("LeftAsFoundModel", "holds60", 9, (some FieldType.boolean), [], 7, 166) cX6_holds60 σ 0 [some (va_rf r0), some (.int x1), some (.int x2), some (.int x3), some (.int x4), none, none, none, none] [] := by
  unfold F_X6_holds60 at h
  refine ro_aload_n (pc' := 1) dX6_holds60_0 rfl rfl rfl ?_
  obtain ⟨u1, hu1, h⟩ := ah_bs h
  obtain ⟨σ2, hσ2, h⟩ := ah_bs h
  refine ro_callV (pc' := 4) (As := []) (rest := []) (st' := []) (by decide) hu1 q1634 sl_X6_keepHut (M_X6_keepHut hσ2) q1632 q1635 q104 dd_X6_keepHut rfl ⟨Nat.le_of_ble_eq_true rfl, Nat.le_of_ble_eq_true rfl⟩ (Nat.le_of_ble_eq_true rfl) dX6_holds60_1 rfl rfl rfl ?_
  refine ro_iconst (pc' := 5) dX6_holds60_4 ic_0 rfl ?_
  refine ro_istore (pc' := 7) (L' := [some (va_rf r0), some (.int x1), some (.int x2), some (.int x3), some (.int x4), some (.int (0 : Int32)), none, none, none]) dX6_holds60_5 (Nat.le_of_ble_eq_true rfl) rfl (ah_okp_i _) rfl ?_
  refine ro_iconst (pc' := 8) dX6_holds60_7 ic_0 rfl ?_
  refine ro_istore (pc' := 10) (L' := [some (va_rf r0), some (.int x1), some (.int x2), some (.int x3), some (.int x4), some (.int (0 : Int32)), some (.int (0 : Int32)), none, none]) dX6_holds60_8 (Nat.le_of_ble_eq_true rfl) rfl (ah_okp_i _) rfl ?_
  refine ro_iconst (pc' := 11) dX6_holds60_10 ic_1 rfl ?_
  refine ro_istore (pc' := 13) (L' := [some (va_rf r0), some (.int x1), some (.int x2), some (.int x3), some (.int x4), some (.int (0 : Int32)), some (.int (0 : Int32)), some (.int (1 : Int32)), none]) dX6_holds60_11 (Nat.le_of_ble_eq_true rfl) rfl (ah_okp_i _) rfl ?_
  refine ro_iconst (pc' := 14) dX6_holds60_13 ic_0 rfl ?_
  refine ro_istore (pc' := 16) (L' := [some (va_rf r0), some (.int x1), some (.int x2), some (.int x3), some (.int x4), some (.int (0 : Int32)), some (.int (0 : Int32)), some (.int (1 : Int32)), some (.int (0 : Int32))]) dX6_holds60_14 (Nat.le_of_ble_eq_true rfl) rfl (ah_okp_i _) rfl ?_
  exact W_X6_holds60_16 hκ _ _ _ _ _ _ _ _ _ _ _ h
theorem M_X6_holds60 {l : Launch} {D : ah_D}  {σ : ah_S} {r0 : Option Nat} {x1 : Int32} {x2 : Int32} {x3 : Int32} {x4 : Int32} {v : Int32} {σ1 : ah_S} (h : F_X6_holds60 σ r0 x1 x2 x3 x4 = some (v, σ1)) : ah_Met l yX6_holds60 (Cond.code yX6_holds60 cX6_holds60 9 (some FieldType.boolean)) 7 166 D [va_rf r0, .int x1, .int x2, .int x3, .int x4] σ (.returned (some (.int v)), σ1) :=
  ah_ofG (own := "LeftAsFoundModel") (nm := "holds60") (L0 := [some (va_rf r0), some (.int x1), some (.int x2), some (.int x3), some (.int x4), none, none, none, none]) (by decide) rfl rfl rfl (ah_ao_1 (ah_rf_cat _) (ah_ao_1 rfl (ah_ao_1 rfl (ah_ao_1 rfl (ah_ao_1 rfl (ah_ao_n (ah_ao_n (ah_ao_n (ah_ao_n ah_ao_0))))))))) (fun κ hκ => W_X6_holds60 hκ  σ r0 x1 x2 x3 x4 h)
set_option maxRecDepth 20000 in
set_option maxHeartbeats 4000000 in
theorem W_X6_image_33 {κ : ah_C} {rr : (Int32 × ah_S)} (hκ : ah_res κ = (.returned (some (.int rr.1)), rr.2))    : ∀ (n : Nat) (σ : ah_S) (r0 : Option Nat) (x1 : Int32), F_X6_image_33 n σ r0 x1 = some rr → ah_G κ ("LeftAsFoundModel", "image", 2, (some FieldType.int), [], 1, 24) cX6_image σ 33 [some (va_rf r0), some (.int x1)] [] := by
  intro n
  induction n with
  | zero => intro σ r0 x1 h; cases h
  | succ n ih =>
    intro σ r0 x1 h
    rw [F_X6_image_33] at h
    refine ro_iload_n (pc' := 34) dX6_image_33 rfl rfl rfl ?_
    refine ro_iconst (pc' := 35) dX6_image_34 ic_4 rfl ?_
    refine ro_icmp_ge (pc' := 38) (tgt := 56) dX6_image_35 rfl rfl (fun c => ?_) (fun c => ?_)
    · replace h := ah_ip c h
      refine ro_aload_n (pc' := 57) dX6_image_56 rfl rfl rfl ?_
      obtain ⟨v1, hv1, h⟩ := ah_bs h
      refine ro_getR (pc' := 60) ft_648 fk_648 q1356 dX6_image_57 rfl hv1 ?_
      refine ro_iconst (pc' := 61) dX6_image_60 ic_0 rfl ?_
      obtain ⟨v2, hv2, h⟩ := ah_bs h
      refine ro_iaload (pc' := 62) dX6_image_61 rfl hv2 ?_
      obtain rfl := Option.some.inj h
      exact ro_iret hκ dX6_image_62
    · replace h := ah_in_ c h
      refine ro_aload_n (pc' := 39) dX6_image_38 rfl rfl rfl ?_
      obtain ⟨v3, hv3, h⟩ := ah_bs h
      refine ro_getR (pc' := 42) ft_651 fk_651 q1359 dX6_image_39 rfl hv3 ?_
      refine ro_iload_n (pc' := 43) dX6_image_42 rfl rfl rfl ?_
      refine ro_aload_n (pc' := 44) dX6_image_43 rfl rfl rfl ?_
      obtain ⟨v4, hv4, h⟩ := ah_bs h
      refine ro_getR (pc' := 47) ft_648 fk_648 q1356 dX6_image_44 rfl hv4 ?_
      refine ro_iload_n (pc' := 48) dX6_image_47 rfl rfl rfl ?_
      obtain ⟨v5, hv5, h⟩ := ah_bs h
      refine ro_iaload (pc' := 49) dX6_image_48 rfl hv5 ?_
      obtain ⟨σ6, hσ6, h⟩ := ah_bs h
      refine ro_iastore (pc' := 50) dX6_image_49 rfl hσ6 ?_
      refine ro_iinc (pc' := 53) (L' := [some (va_rf r0), some (.int (x1 + (1 : Int32)))]) dX6_image_50 rfl ic_1 (Nat.le_of_ble_eq_true rfl) rfl (ah_okp_r _) rfl ?_
      refine ro_goto (tgt := 33) dX6_image_53 rfl ?_
      exact ih _ _ _ h
set_option maxRecDepth 20000 in
set_option maxHeartbeats 4000000 in
theorem W_X6_image_7 {κ : ah_C} {rr : (Int32 × ah_S)} (hκ : ah_res κ = (.returned (some (.int rr.1)), rr.2))    : ∀ (n : Nat) (σ : ah_S) (r0 : Option Nat) (x1 : Int32), F_X6_image_7 n σ r0 x1 = some rr → ah_G κ ("LeftAsFoundModel", "image", 2, (some FieldType.int), [], 1, 24) cX6_image σ 7 [some (va_rf r0), some (.int x1)] [] := by
  intro n
  induction n with
  | zero => intro σ r0 x1 h; cases h
  | succ n ih =>
    intro σ r0 x1 h
    rw [F_X6_image_7] at h
    refine ro_iload_n (pc' := 8) dX6_image_7 rfl rfl rfl ?_
    refine ro_bipush (pc' := 10) dX6_image_8 ib_48 rfl ?_
    refine ro_icmp_ge (pc' := 13) (tgt := 31) dX6_image_10 rfl rfl (fun c => ?_) (fun c => ?_)
    · replace h := ah_ip c h
      refine ro_iconst (pc' := 32) dX6_image_31 ic_0 rfl ?_
      refine ro_istore_n (pc' := 33) (L' := [some (va_rf r0), some (.int (0 : Int32))]) dX6_image_32 rfl (Nat.le_of_ble_eq_true rfl) rfl (ah_okp_r _) rfl ?_
      exact W_X6_image_33 hκ _ _ _ _ h
    · replace h := ah_in_ c h
      refine ro_aload_n (pc' := 14) dX6_image_13 rfl rfl rfl ?_
      obtain ⟨v1, hv1, h⟩ := ah_bs h
      refine ro_getR (pc' := 17) ft_650 fk_650 q1358 dX6_image_14 rfl hv1 ?_
      refine ro_iload_n (pc' := 18) dX6_image_17 rfl rfl rfl ?_
      refine ro_aload_n (pc' := 19) dX6_image_18 rfl rfl rfl ?_
      obtain ⟨v2, hv2, h⟩ := ah_bs h
      refine ro_getR (pc' := 22) ft_611 fk_611 q1319 dX6_image_19 rfl hv2 ?_
      refine ro_iload_n (pc' := 23) dX6_image_22 rfl rfl rfl ?_
      obtain ⟨v3, hv3, h⟩ := ah_bs h
      refine ro_iaload (pc' := 24) dX6_image_23 rfl hv3 ?_
      obtain ⟨σ4, hσ4, h⟩ := ah_bs h
      refine ro_iastore (pc' := 25) dX6_image_24 rfl hσ4 ?_
      refine ro_iinc (pc' := 28) (L' := [some (va_rf r0), some (.int (x1 + (1 : Int32)))]) dX6_image_25 rfl ic_1 (Nat.le_of_ble_eq_true rfl) rfl (ah_okp_r _) rfl ?_
      refine ro_goto (tgt := 7) dX6_image_28 rfl ?_
      exact ih _ _ _ h
set_option maxRecDepth 20000 in
set_option maxHeartbeats 4000000 in
theorem W_X6_image {κ : ah_C} {rr : (Int32 × ah_S)} (hκ : ah_res κ = (.returned (some (.int rr.1)), rr.2))  (σ : ah_S) (r0 : Option Nat) (h : F_X6_image σ r0 = some rr) : ah_G κ ("LeftAsFoundModel", "image", 2, (some FieldType.int), [], 1, 24) cX6_image σ 0 [some (va_rf r0), none] [] := by
  unfold F_X6_image at h
  refine ro_aload_n (pc' := 1) dX6_image_0 rfl rfl rfl ?_
  refine ro_iconst (pc' := 2) dX6_image_1 ic_1 rfl ?_
  obtain ⟨σ1, hσ1, h⟩ := ah_bs h
  refine ro_putZ (pc' := 5) ft_649 fk_649 q1357 pd_649 dX6_image_2 rfl hσ1 ?_
  refine ro_iconst (pc' := 6) dX6_image_5 ic_0 rfl ?_
  refine ro_istore_n (pc' := 7) (L' := [some (va_rf r0), some (.int (0 : Int32))]) dX6_image_6 rfl (Nat.le_of_ble_eq_true rfl) rfl (ah_okp_r _) rfl ?_
  exact W_X6_image_7 hκ _ _ _ _ h
theorem M_X6_image {l : Launch} {D : ah_D}  {σ : ah_S} {r0 : Option Nat} {v : Int32} {σ1 : ah_S} (h : F_X6_image σ r0 = some (v, σ1)) : ah_Met l yX6_image (Cond.code yX6_image cX6_image 2 (some FieldType.int)) 1 24 D [va_rf r0] σ (.returned (some (.int v)), σ1) :=
  ah_ofG (own := "LeftAsFoundModel") (nm := "image") (L0 := [some (va_rf r0), none]) (by decide) rfl rfl rfl (ah_ao_1 (ah_rf_cat _) (ah_ao_n ah_ao_0)) (fun κ hκ => W_X6_image hκ  σ r0 h)
set_option maxRecDepth 20000 in
set_option maxHeartbeats 4000000 in
theorem W_X6_init {κ : ah_C} {rr : ah_S} (hκ : ah_res κ = (.returned none, rr))  (σ : ah_S) (r0 : Option Nat) (h : F_X6_init σ r0 = some rr) : ah_G κ ("LeftAsFoundModel", "<init>", 1, none, [], 1, 24) cX6_init σ 0 [some (va_rf r0)] [] := by
  unfold F_X6_init at h
  refine ro_aload_n (pc' := 1) dX6_init_0 rfl rfl rfl ?_
  obtain ⟨a1, ha1, h⟩ := ah_bs h
  refine ro_objInit (pc' := 4) ha1 q1308 q136 q137 (Nat.le_of_ble_eq_true rfl) (Nat.le_of_ble_eq_true rfl) dX6_init_1 rfl ?_
  refine ro_aload_n (pc' := 5) dX6_init_4 rfl rfl rfl ?_
  refine ro_iconst (pc' := 6) dX6_init_5 ic_4 rfl ?_
  obtain ⟨σ2, hσ2, h⟩ := ah_bs h
  refine ro_newa (pc' := 8) (t := 101) (by decide) rfl q205 dX6_init_6 rfl hσ2 ?_
  refine ro_dup (pc' := 9) dX6_init_8 (ah_rf_cat _) rfl ?_
  refine ro_iconst (pc' := 10) dX6_init_9 ic_0 rfl ?_
  refine ro_bipush (pc' := 12) dX6_init_10 ib_50 rfl ?_
  obtain ⟨σ3, hσ3, h⟩ := ah_bs h
  refine ro_iastore (pc' := 13) dX6_init_12 rfl hσ3 ?_
  refine ro_dup (pc' := 14) dX6_init_13 (ah_rf_cat _) rfl ?_
  refine ro_iconst (pc' := 15) dX6_init_14 ic_1 rfl ?_
  refine ro_bipush (pc' := 17) dX6_init_15 ib_50 rfl ?_
  obtain ⟨σ4, hσ4, h⟩ := ah_bs h
  refine ro_iastore (pc' := 18) dX6_init_17 rfl hσ4 ?_
  refine ro_dup (pc' := 19) dX6_init_18 (ah_rf_cat _) rfl ?_
  refine ro_iconst (pc' := 20) dX6_init_19 ic_2 rfl ?_
  refine ro_bipush (pc' := 22) dX6_init_20 ib_50 rfl ?_
  obtain ⟨σ5, hσ5, h⟩ := ah_bs h
  refine ro_iastore (pc' := 23) dX6_init_22 rfl hσ5 ?_
  refine ro_dup (pc' := 24) dX6_init_23 (ah_rf_cat _) rfl ?_
  refine ro_iconst (pc' := 25) dX6_init_24 ic_3 rfl ?_
  refine ro_bipush (pc' := 27) dX6_init_25 ib_50 rfl ?_
  obtain ⟨σ6, hσ6, h⟩ := ah_bs h
  refine ro_iastore (pc' := 28) dX6_init_27 rfl hσ6 ?_
  obtain ⟨σ7, hσ7, h⟩ := ah_bs h
  refine ro_putRF (pc' := 31) ft_601 fk_601 q1309 pd_601 rfl rfl rfl dX6_init_28 rfl hσ7 ?_
  refine ro_aload_n (pc' := 32) dX6_init_31 rfl rfl rfl ?_
  refine ro_iconst (pc' := 33) dX6_init_32 ic_4 rfl ?_
  obtain ⟨σ8, hσ8, h⟩ := ah_bs h
  refine ro_newa (pc' := 35) (t := 101) (by decide) rfl q205 dX6_init_33 rfl hσ8 ?_
  refine ro_dup (pc' := 36) dX6_init_35 (ah_rf_cat _) rfl ?_
  refine ro_iconst (pc' := 37) dX6_init_36 ic_0 rfl ?_
  refine ro_iconst (pc' := 38) dX6_init_37 ic_1 rfl ?_
  obtain ⟨σ9, hσ9, h⟩ := ah_bs h
  refine ro_iastore (pc' := 39) dX6_init_38 rfl hσ9 ?_
  refine ro_dup (pc' := 40) dX6_init_39 (ah_rf_cat _) rfl ?_
  refine ro_iconst (pc' := 41) dX6_init_40 ic_1 rfl ?_
  refine ro_iconst (pc' := 42) dX6_init_41 ic_1 rfl ?_
  obtain ⟨σ10, hσ10, h⟩ := ah_bs h
  refine ro_iastore (pc' := 43) dX6_init_42 rfl hσ10 ?_
  refine ro_dup (pc' := 44) dX6_init_43 (ah_rf_cat _) rfl ?_
  refine ro_iconst (pc' := 45) dX6_init_44 ic_2 rfl ?_
  refine ro_iconst (pc' := 46) dX6_init_45 ic_1 rfl ?_
  obtain ⟨σ11, hσ11, h⟩ := ah_bs h
  refine ro_iastore (pc' := 47) dX6_init_46 rfl hσ11 ?_
  refine ro_dup (pc' := 48) dX6_init_47 (ah_rf_cat _) rfl ?_
  refine ro_iconst (pc' := 49) dX6_init_48 ic_3 rfl ?_
  refine ro_iconst (pc' := 50) dX6_init_49 ic_1 rfl ?_
  obtain ⟨σ12, hσ12, h⟩ := ah_bs h
  refine ro_iastore (pc' := 51) dX6_init_50 rfl hσ12 ?_
  obtain ⟨σ13, hσ13, h⟩ := ah_bs h
  refine ro_putRF (pc' := 54) ft_602 fk_602 q1310 pd_602 rfl rfl rfl dX6_init_51 rfl hσ13 ?_
  refine ro_aload_n (pc' := 55) dX6_init_54 rfl rfl rfl ?_
  refine ro_bipush (pc' := 57) dX6_init_55 ib_28 rfl ?_
  obtain ⟨σ14, hσ14, h⟩ := ah_bs h
  refine ro_newa (pc' := 59) (t := 101) (by decide) rfl q205 dX6_init_57 rfl hσ14 ?_
  obtain ⟨σ15, hσ15, h⟩ := ah_bs h
  refine ro_putRF (pc' := 62) ft_604 fk_604 q1312 pd_604 rfl rfl rfl dX6_init_59 rfl hσ15 ?_
  refine ro_aload_n (pc' := 63) dX6_init_62 rfl rfl rfl ?_
  refine ro_bipush (pc' := 65) dX6_init_63 ib_28 rfl ?_
  obtain ⟨σ16, hσ16, h⟩ := ah_bs h
  refine ro_newa (pc' := 67) (t := 101) (by decide) rfl q205 dX6_init_65 rfl hσ16 ?_
  obtain ⟨σ17, hσ17, h⟩ := ah_bs h
  refine ro_putRF (pc' := 70) ft_605 fk_605 q1313 pd_605 rfl rfl rfl dX6_init_67 rfl hσ17 ?_
  refine ro_aload_n (pc' := 71) dX6_init_70 rfl rfl rfl ?_
  refine ro_bipush (pc' := 73) dX6_init_71 ib_7 rfl ?_
  obtain ⟨σ18, hσ18, h⟩ := ah_bs h
  refine ro_newa (pc' := 75) (t := 101) (by decide) rfl q205 dX6_init_73 rfl hσ18 ?_
  obtain ⟨σ19, hσ19, h⟩ := ah_bs h
  refine ro_putRF (pc' := 78) ft_606 fk_606 q1314 pd_606 rfl rfl rfl dX6_init_75 rfl hσ19 ?_
  refine ro_aload_n (pc' := 79) dX6_init_78 rfl rfl rfl ?_
  refine ro_bipush (pc' := 81) dX6_init_79 ib_7 rfl ?_
  obtain ⟨σ20, hσ20, h⟩ := ah_bs h
  refine ro_newa (pc' := 83) (t := 101) (by decide) rfl q205 dX6_init_81 rfl hσ20 ?_
  obtain ⟨σ21, hσ21, h⟩ := ah_bs h
  refine ro_putRF (pc' := 86) ft_607 fk_607 q1315 pd_607 rfl rfl rfl dX6_init_83 rfl hσ21 ?_
  refine ro_aload_n (pc' := 87) dX6_init_86 rfl rfl rfl ?_
  refine ro_bipush (pc' := 89) dX6_init_87 ib_50 rfl ?_
  obtain ⟨σ22, hσ22, h⟩ := ah_bs h
  refine ro_putI (pc' := 92) ft_608 fk_608 q1316 pd_608 dX6_init_89 rfl hσ22 ?_
  refine ro_aload_n (pc' := 93) dX6_init_92 rfl rfl rfl ?_
  refine ro_bipush (pc' := 95) dX6_init_93 ib_20 rfl ?_
  obtain ⟨σ23, hσ23, h⟩ := ah_bs h
  refine ro_putI (pc' := 98) ft_609 fk_609 q1317 pd_609 dX6_init_95 rfl hσ23 ?_
  refine ro_aload_n (pc' := 99) dX6_init_98 rfl rfl rfl ?_
  refine ro_bipush (pc' := 101) dX6_init_99 ib_6 rfl ?_
  obtain ⟨σ24, hσ24, h⟩ := ah_bs h
  refine ro_putI (pc' := 104) ft_610 fk_610 q1318 pd_610 dX6_init_101 rfl hσ24 ?_
  refine ro_aload_n (pc' := 105) dX6_init_104 rfl rfl rfl ?_
  refine ro_bipush (pc' := 107) dX6_init_105 ib_48 rfl ?_
  obtain ⟨σ25, hσ25, h⟩ := ah_bs h
  refine ro_newa (pc' := 109) (t := 101) (by decide) rfl q205 dX6_init_107 rfl hσ25 ?_
  refine ro_dup (pc' := 110) dX6_init_109 (ah_rf_cat _) rfl ?_
  refine ro_iconst (pc' := 111) dX6_init_110 ic_0 rfl ?_
  refine ro_bipush (pc' := 113) dX6_init_111 ib_50 rfl ?_
  obtain ⟨σ26, hσ26, h⟩ := ah_bs h
  refine ro_iastore (pc' := 114) dX6_init_113 rfl hσ26 ?_
  refine ro_dup (pc' := 115) dX6_init_114 (ah_rf_cat _) rfl ?_
  refine ro_iconst (pc' := 116) dX6_init_115 ic_1 rfl ?_
  refine ro_bipush (pc' := 118) dX6_init_116 ib_50 rfl ?_
  obtain ⟨σ27, hσ27, h⟩ := ah_bs h
  refine ro_iastore (pc' := 119) dX6_init_118 rfl hσ27 ?_
  refine ro_dup (pc' := 120) dX6_init_119 (ah_rf_cat _) rfl ?_
  refine ro_iconst (pc' := 121) dX6_init_120 ic_2 rfl ?_
  refine ro_bipush (pc' := 123) dX6_init_121 ib_50 rfl ?_
  obtain ⟨σ28, hσ28, h⟩ := ah_bs h
  refine ro_iastore (pc' := 124) dX6_init_123 rfl hσ28 ?_
  refine ro_dup (pc' := 125) dX6_init_124 (ah_rf_cat _) rfl ?_
  refine ro_iconst (pc' := 126) dX6_init_125 ic_3 rfl ?_
  refine ro_bipush (pc' := 128) dX6_init_126 ib_50 rfl ?_
  obtain ⟨σ29, hσ29, h⟩ := ah_bs h
  refine ro_iastore (pc' := 129) dX6_init_128 rfl hσ29 ?_
  refine ro_dup (pc' := 130) dX6_init_129 (ah_rf_cat _) rfl ?_
  refine ro_iconst (pc' := 131) dX6_init_130 ic_4 rfl ?_
  refine ro_bipush (pc' := 133) dX6_init_131 ib_50 rfl ?_
  obtain ⟨σ30, hσ30, h⟩ := ah_bs h
  refine ro_iastore (pc' := 134) dX6_init_133 rfl hσ30 ?_
  refine ro_dup (pc' := 135) dX6_init_134 (ah_rf_cat _) rfl ?_
  refine ro_iconst (pc' := 136) dX6_init_135 ic_5 rfl ?_
  refine ro_bipush (pc' := 138) dX6_init_136 ib_50 rfl ?_
  obtain ⟨σ31, hσ31, h⟩ := ah_bs h
  refine ro_iastore (pc' := 139) dX6_init_138 rfl hσ31 ?_
  refine ro_dup (pc' := 140) dX6_init_139 (ah_rf_cat _) rfl ?_
  refine ro_bipush (pc' := 142) dX6_init_140 ib_6 rfl ?_
  refine ro_bipush (pc' := 144) dX6_init_142 ib_50 rfl ?_
  obtain ⟨σ32, hσ32, h⟩ := ah_bs h
  refine ro_iastore (pc' := 145) dX6_init_144 rfl hσ32 ?_
  refine ro_dup (pc' := 146) dX6_init_145 (ah_rf_cat _) rfl ?_
  refine ro_bipush (pc' := 148) dX6_init_146 ib_7 rfl ?_
  refine ro_bipush (pc' := 150) dX6_init_148 ib_50 rfl ?_
  obtain ⟨σ33, hσ33, h⟩ := ah_bs h
  refine ro_iastore (pc' := 151) dX6_init_150 rfl hσ33 ?_
  refine ro_dup (pc' := 152) dX6_init_151 (ah_rf_cat _) rfl ?_
  refine ro_bipush (pc' := 154) dX6_init_152 ib_8 rfl ?_
  refine ro_iconst (pc' := 155) dX6_init_154 ic_0 rfl ?_
  obtain ⟨σ34, hσ34, h⟩ := ah_bs h
  refine ro_iastore (pc' := 156) dX6_init_155 rfl hσ34 ?_
  refine ro_dup (pc' := 157) dX6_init_156 (ah_rf_cat _) rfl ?_
  refine ro_bipush (pc' := 159) dX6_init_157 ib_9 rfl ?_
  refine ro_iconst (pc' := 160) dX6_init_159 ic_0 rfl ?_
  obtain ⟨σ35, hσ35, h⟩ := ah_bs h
  refine ro_iastore (pc' := 161) dX6_init_160 rfl hσ35 ?_
  refine ro_dup (pc' := 162) dX6_init_161 (ah_rf_cat _) rfl ?_
  refine ro_bipush (pc' := 164) dX6_init_162 ib_10 rfl ?_
  refine ro_iconst (pc' := 165) dX6_init_164 ic_0 rfl ?_
  obtain ⟨σ36, hσ36, h⟩ := ah_bs h
  refine ro_iastore (pc' := 166) dX6_init_165 rfl hσ36 ?_
  refine ro_dup (pc' := 167) dX6_init_166 (ah_rf_cat _) rfl ?_
  refine ro_bipush (pc' := 169) dX6_init_167 ib_11 rfl ?_
  refine ro_iconst (pc' := 170) dX6_init_169 ic_0 rfl ?_
  obtain ⟨σ37, hσ37, h⟩ := ah_bs h
  refine ro_iastore (pc' := 171) dX6_init_170 rfl hσ37 ?_
  refine ro_dup (pc' := 172) dX6_init_171 (ah_rf_cat _) rfl ?_
  refine ro_bipush (pc' := 174) dX6_init_172 ib_12 rfl ?_
  refine ro_iconst (pc' := 175) dX6_init_174 ic_0 rfl ?_
  obtain ⟨σ38, hσ38, h⟩ := ah_bs h
  refine ro_iastore (pc' := 176) dX6_init_175 rfl hσ38 ?_
  refine ro_dup (pc' := 177) dX6_init_176 (ah_rf_cat _) rfl ?_
  refine ro_bipush (pc' := 179) dX6_init_177 ib_13 rfl ?_
  refine ro_iconst (pc' := 180) dX6_init_179 ic_0 rfl ?_
  obtain ⟨σ39, hσ39, h⟩ := ah_bs h
  refine ro_iastore (pc' := 181) dX6_init_180 rfl hσ39 ?_
  refine ro_dup (pc' := 182) dX6_init_181 (ah_rf_cat _) rfl ?_
  refine ro_bipush (pc' := 184) dX6_init_182 ib_14 rfl ?_
  refine ro_iconst (pc' := 185) dX6_init_184 ic_0 rfl ?_
  obtain ⟨σ40, hσ40, h⟩ := ah_bs h
  refine ro_iastore (pc' := 186) dX6_init_185 rfl hσ40 ?_
  refine ro_dup (pc' := 187) dX6_init_186 (ah_rf_cat _) rfl ?_
  refine ro_bipush (pc' := 189) dX6_init_187 ib_15 rfl ?_
  refine ro_iconst (pc' := 190) dX6_init_189 ic_0 rfl ?_
  obtain ⟨σ41, hσ41, h⟩ := ah_bs h
  refine ro_iastore (pc' := 191) dX6_init_190 rfl hσ41 ?_
  refine ro_dup (pc' := 192) dX6_init_191 (ah_rf_cat _) rfl ?_
  refine ro_bipush (pc' := 194) dX6_init_192 ib_16 rfl ?_
  refine ro_iconst (pc' := 195) dX6_init_194 ic_0 rfl ?_
  obtain ⟨σ42, hσ42, h⟩ := ah_bs h
  refine ro_iastore (pc' := 196) dX6_init_195 rfl hσ42 ?_
  refine ro_dup (pc' := 197) dX6_init_196 (ah_rf_cat _) rfl ?_
  refine ro_bipush (pc' := 199) dX6_init_197 ib_17 rfl ?_
  refine ro_iconst (pc' := 200) dX6_init_199 ic_0 rfl ?_
  obtain ⟨σ43, hσ43, h⟩ := ah_bs h
  refine ro_iastore (pc' := 201) dX6_init_200 rfl hσ43 ?_
  refine ro_dup (pc' := 202) dX6_init_201 (ah_rf_cat _) rfl ?_
  refine ro_bipush (pc' := 204) dX6_init_202 ib_18 rfl ?_
  refine ro_iconst (pc' := 205) dX6_init_204 ic_0 rfl ?_
  obtain ⟨σ44, hσ44, h⟩ := ah_bs h
  refine ro_iastore (pc' := 206) dX6_init_205 rfl hσ44 ?_
  refine ro_dup (pc' := 207) dX6_init_206 (ah_rf_cat _) rfl ?_
  refine ro_bipush (pc' := 209) dX6_init_207 ib_19 rfl ?_
  refine ro_iconst (pc' := 210) dX6_init_209 ic_0 rfl ?_
  obtain ⟨σ45, hσ45, h⟩ := ah_bs h
  refine ro_iastore (pc' := 211) dX6_init_210 rfl hσ45 ?_
  refine ro_dup (pc' := 212) dX6_init_211 (ah_rf_cat _) rfl ?_
  refine ro_bipush (pc' := 214) dX6_init_212 ib_20 rfl ?_
  refine ro_iconst (pc' := 215) dX6_init_214 ic_0 rfl ?_
  obtain ⟨σ46, hσ46, h⟩ := ah_bs h
  refine ro_iastore (pc' := 216) dX6_init_215 rfl hσ46 ?_
  refine ro_dup (pc' := 217) dX6_init_216 (ah_rf_cat _) rfl ?_
  refine ro_bipush (pc' := 219) dX6_init_217 ib_21 rfl ?_
  refine ro_iconst (pc' := 220) dX6_init_219 ic_0 rfl ?_
  obtain ⟨σ47, hσ47, h⟩ := ah_bs h
  refine ro_iastore (pc' := 221) dX6_init_220 rfl hσ47 ?_
  refine ro_dup (pc' := 222) dX6_init_221 (ah_rf_cat _) rfl ?_
  refine ro_bipush (pc' := 224) dX6_init_222 ib_22 rfl ?_
  refine ro_iconst (pc' := 225) dX6_init_224 ic_0 rfl ?_
  obtain ⟨σ48, hσ48, h⟩ := ah_bs h
  refine ro_iastore (pc' := 226) dX6_init_225 rfl hσ48 ?_
  refine ro_dup (pc' := 227) dX6_init_226 (ah_rf_cat _) rfl ?_
  refine ro_bipush (pc' := 229) dX6_init_227 ib_23 rfl ?_
  refine ro_iconst (pc' := 230) dX6_init_229 ic_0 rfl ?_
  obtain ⟨σ49, hσ49, h⟩ := ah_bs h
  refine ro_iastore (pc' := 231) dX6_init_230 rfl hσ49 ?_
  refine ro_dup (pc' := 232) dX6_init_231 (ah_rf_cat _) rfl ?_
  refine ro_bipush (pc' := 234) dX6_init_232 ib_24 rfl ?_
  refine ro_iconst (pc' := 235) dX6_init_234 ic_0 rfl ?_
  obtain ⟨σ50, hσ50, h⟩ := ah_bs h
  refine ro_iastore (pc' := 236) dX6_init_235 rfl hσ50 ?_
  refine ro_dup (pc' := 237) dX6_init_236 (ah_rf_cat _) rfl ?_
  refine ro_bipush (pc' := 239) dX6_init_237 ib_25 rfl ?_
  refine ro_iconst (pc' := 240) dX6_init_239 ic_0 rfl ?_
  obtain ⟨σ51, hσ51, h⟩ := ah_bs h
  refine ro_iastore (pc' := 241) dX6_init_240 rfl hσ51 ?_
  refine ro_dup (pc' := 242) dX6_init_241 (ah_rf_cat _) rfl ?_
  refine ro_bipush (pc' := 244) dX6_init_242 ib_26 rfl ?_
  refine ro_iconst (pc' := 245) dX6_init_244 ic_0 rfl ?_
  obtain ⟨σ52, hσ52, h⟩ := ah_bs h
  refine ro_iastore (pc' := 246) dX6_init_245 rfl hσ52 ?_
  refine ro_dup (pc' := 247) dX6_init_246 (ah_rf_cat _) rfl ?_
  refine ro_bipush (pc' := 249) dX6_init_247 ib_27 rfl ?_
  refine ro_iconst (pc' := 250) dX6_init_249 ic_0 rfl ?_
  obtain ⟨σ53, hσ53, h⟩ := ah_bs h
  refine ro_iastore (pc' := 251) dX6_init_250 rfl hσ53 ?_
  refine ro_dup (pc' := 252) dX6_init_251 (ah_rf_cat _) rfl ?_
  refine ro_bipush (pc' := 254) dX6_init_252 ib_28 rfl ?_
  refine ro_iconst (pc' := 255) dX6_init_254 ic_0 rfl ?_
  obtain ⟨σ54, hσ54, h⟩ := ah_bs h
  refine ro_iastore (pc' := 256) dX6_init_255 rfl hσ54 ?_
  refine ro_dup (pc' := 257) dX6_init_256 (ah_rf_cat _) rfl ?_
  refine ro_bipush (pc' := 259) dX6_init_257 ib_29 rfl ?_
  refine ro_iconst (pc' := 260) dX6_init_259 ic_0 rfl ?_
  obtain ⟨σ55, hσ55, h⟩ := ah_bs h
  refine ro_iastore (pc' := 261) dX6_init_260 rfl hσ55 ?_
  refine ro_dup (pc' := 262) dX6_init_261 (ah_rf_cat _) rfl ?_
  refine ro_bipush (pc' := 264) dX6_init_262 ib_30 rfl ?_
  refine ro_iconst (pc' := 265) dX6_init_264 ic_0 rfl ?_
  obtain ⟨σ56, hσ56, h⟩ := ah_bs h
  refine ro_iastore (pc' := 266) dX6_init_265 rfl hσ56 ?_
  refine ro_dup (pc' := 267) dX6_init_266 (ah_rf_cat _) rfl ?_
  refine ro_bipush (pc' := 269) dX6_init_267 ib_31 rfl ?_
  refine ro_iconst (pc' := 270) dX6_init_269 ic_0 rfl ?_
  obtain ⟨σ57, hσ57, h⟩ := ah_bs h
  refine ro_iastore (pc' := 271) dX6_init_270 rfl hσ57 ?_
  refine ro_dup (pc' := 272) dX6_init_271 (ah_rf_cat _) rfl ?_
  refine ro_bipush (pc' := 274) dX6_init_272 ib_32 rfl ?_
  refine ro_iconst (pc' := 275) dX6_init_274 ic_0 rfl ?_
  obtain ⟨σ58, hσ58, h⟩ := ah_bs h
  refine ro_iastore (pc' := 276) dX6_init_275 rfl hσ58 ?_
  refine ro_dup (pc' := 277) dX6_init_276 (ah_rf_cat _) rfl ?_
  refine ro_bipush (pc' := 279) dX6_init_277 ib_33 rfl ?_
  refine ro_iconst (pc' := 280) dX6_init_279 ic_0 rfl ?_
  obtain ⟨σ59, hσ59, h⟩ := ah_bs h
  refine ro_iastore (pc' := 281) dX6_init_280 rfl hσ59 ?_
  refine ro_dup (pc' := 282) dX6_init_281 (ah_rf_cat _) rfl ?_
  refine ro_bipush (pc' := 284) dX6_init_282 ib_34 rfl ?_
  refine ro_iconst (pc' := 285) dX6_init_284 ic_0 rfl ?_
  obtain ⟨σ60, hσ60, h⟩ := ah_bs h
  refine ro_iastore (pc' := 286) dX6_init_285 rfl hσ60 ?_
  refine ro_dup (pc' := 287) dX6_init_286 (ah_rf_cat _) rfl ?_
  refine ro_bipush (pc' := 289) dX6_init_287 ib_35 rfl ?_
  refine ro_iconst (pc' := 290) dX6_init_289 ic_0 rfl ?_
  obtain ⟨σ61, hσ61, h⟩ := ah_bs h
  refine ro_iastore (pc' := 291) dX6_init_290 rfl hσ61 ?_
  refine ro_dup (pc' := 292) dX6_init_291 (ah_rf_cat _) rfl ?_
  refine ro_bipush (pc' := 294) dX6_init_292 ib_36 rfl ?_
  refine ro_iconst (pc' := 295) dX6_init_294 ic_0 rfl ?_
  obtain ⟨σ62, hσ62, h⟩ := ah_bs h
  refine ro_iastore (pc' := 296) dX6_init_295 rfl hσ62 ?_
  refine ro_dup (pc' := 297) dX6_init_296 (ah_rf_cat _) rfl ?_
  refine ro_bipush (pc' := 299) dX6_init_297 ib_37 rfl ?_
  refine ro_iconst (pc' := 300) dX6_init_299 ic_0 rfl ?_
  obtain ⟨σ63, hσ63, h⟩ := ah_bs h
  refine ro_iastore (pc' := 301) dX6_init_300 rfl hσ63 ?_
  refine ro_dup (pc' := 302) dX6_init_301 (ah_rf_cat _) rfl ?_
  refine ro_bipush (pc' := 304) dX6_init_302 ib_38 rfl ?_
  refine ro_iconst (pc' := 305) dX6_init_304 ic_0 rfl ?_
  obtain ⟨σ64, hσ64, h⟩ := ah_bs h
  refine ro_iastore (pc' := 306) dX6_init_305 rfl hσ64 ?_
  refine ro_dup (pc' := 307) dX6_init_306 (ah_rf_cat _) rfl ?_
  refine ro_bipush (pc' := 309) dX6_init_307 ib_39 rfl ?_
  refine ro_iconst (pc' := 310) dX6_init_309 ic_0 rfl ?_
  obtain ⟨σ65, hσ65, h⟩ := ah_bs h
  refine ro_iastore (pc' := 311) dX6_init_310 rfl hσ65 ?_
  refine ro_dup (pc' := 312) dX6_init_311 (ah_rf_cat _) rfl ?_
  refine ro_bipush (pc' := 314) dX6_init_312 ib_40 rfl ?_
  refine ro_iconst (pc' := 315) dX6_init_314 ic_0 rfl ?_
  obtain ⟨σ66, hσ66, h⟩ := ah_bs h
  refine ro_iastore (pc' := 316) dX6_init_315 rfl hσ66 ?_
  refine ro_dup (pc' := 317) dX6_init_316 (ah_rf_cat _) rfl ?_
  refine ro_bipush (pc' := 319) dX6_init_317 ib_41 rfl ?_
  refine ro_iconst (pc' := 320) dX6_init_319 ic_0 rfl ?_
  obtain ⟨σ67, hσ67, h⟩ := ah_bs h
  refine ro_iastore (pc' := 321) dX6_init_320 rfl hσ67 ?_
  refine ro_dup (pc' := 322) dX6_init_321 (ah_rf_cat _) rfl ?_
  refine ro_bipush (pc' := 324) dX6_init_322 ib_42 rfl ?_
  refine ro_iconst (pc' := 325) dX6_init_324 ic_0 rfl ?_
  obtain ⟨σ68, hσ68, h⟩ := ah_bs h
  refine ro_iastore (pc' := 326) dX6_init_325 rfl hσ68 ?_
  refine ro_dup (pc' := 327) dX6_init_326 (ah_rf_cat _) rfl ?_
  refine ro_bipush (pc' := 329) dX6_init_327 ib_43 rfl ?_
  refine ro_iconst (pc' := 330) dX6_init_329 ic_0 rfl ?_
  obtain ⟨σ69, hσ69, h⟩ := ah_bs h
  refine ro_iastore (pc' := 331) dX6_init_330 rfl hσ69 ?_
  refine ro_dup (pc' := 332) dX6_init_331 (ah_rf_cat _) rfl ?_
  refine ro_bipush (pc' := 334) dX6_init_332 ib_44 rfl ?_
  refine ro_iconst (pc' := 335) dX6_init_334 ic_0 rfl ?_
  obtain ⟨σ70, hσ70, h⟩ := ah_bs h
  refine ro_iastore (pc' := 336) dX6_init_335 rfl hσ70 ?_
  refine ro_dup (pc' := 337) dX6_init_336 (ah_rf_cat _) rfl ?_
  refine ro_bipush (pc' := 339) dX6_init_337 ib_45 rfl ?_
  refine ro_iconst (pc' := 340) dX6_init_339 ic_0 rfl ?_
  obtain ⟨σ71, hσ71, h⟩ := ah_bs h
  refine ro_iastore (pc' := 341) dX6_init_340 rfl hσ71 ?_
  refine ro_dup (pc' := 342) dX6_init_341 (ah_rf_cat _) rfl ?_
  refine ro_bipush (pc' := 344) dX6_init_342 ib_46 rfl ?_
  refine ro_iconst (pc' := 345) dX6_init_344 ic_0 rfl ?_
  obtain ⟨σ72, hσ72, h⟩ := ah_bs h
  refine ro_iastore (pc' := 346) dX6_init_345 rfl hσ72 ?_
  refine ro_dup (pc' := 347) dX6_init_346 (ah_rf_cat _) rfl ?_
  refine ro_bipush (pc' := 349) dX6_init_347 ib_47 rfl ?_
  refine ro_iconst (pc' := 350) dX6_init_349 ic_0 rfl ?_
  obtain ⟨σ73, hσ73, h⟩ := ah_bs h
  refine ro_iastore (pc' := 351) dX6_init_350 rfl hσ73 ?_
  obtain ⟨σ74, hσ74, h⟩ := ah_bs h
  refine ro_putRF (pc' := 354) ft_611 fk_611 q1319 pd_611 rfl rfl rfl dX6_init_351 rfl hσ74 ?_
  refine ro_aload_n (pc' := 355) dX6_init_354 rfl rfl rfl ?_
  refine ro_bipush (pc' := 357) dX6_init_355 ib_40 rfl ?_
  obtain ⟨σ75, hσ75, h⟩ := ah_bs h
  refine ro_newa (pc' := 359) (t := 101) (by decide) rfl q205 dX6_init_357 rfl hσ75 ?_
  obtain ⟨σ76, hσ76, h⟩ := ah_bs h
  refine ro_putRF (pc' := 362) ft_614 fk_614 q1322 pd_614 rfl rfl rfl dX6_init_359 rfl hσ76 ?_
  refine ro_aload_n (pc' := 363) dX6_init_362 rfl rfl rfl ?_
  refine ro_bipush (pc' := 365) dX6_init_363 ib_40 rfl ?_
  obtain ⟨σ77, hσ77, h⟩ := ah_bs h
  refine ro_newa (pc' := 367) (t := 101) (by decide) rfl q205 dX6_init_365 rfl hσ77 ?_
  obtain ⟨σ78, hσ78, h⟩ := ah_bs h
  refine ro_putRF (pc' := 370) ft_615 fk_615 q1323 pd_615 rfl rfl rfl dX6_init_367 rfl hσ78 ?_
  refine ro_aload_n (pc' := 371) dX6_init_370 rfl rfl rfl ?_
  refine ro_bipush (pc' := 373) dX6_init_371 ib_40 rfl ?_
  obtain ⟨σ79, hσ79, h⟩ := ah_bs h
  refine ro_newa (pc' := 375) (t := 101) (by decide) rfl q205 dX6_init_373 rfl hσ79 ?_
  obtain ⟨σ80, hσ80, h⟩ := ah_bs h
  refine ro_putRF (pc' := 378) ft_616 fk_616 q1324 pd_616 rfl rfl rfl dX6_init_375 rfl hσ80 ?_
  refine ro_aload_n (pc' := 379) dX6_init_378 rfl rfl rfl ?_
  refine ro_bipush (pc' := 381) dX6_init_379 ib_40 rfl ?_
  obtain ⟨σ81, hσ81, h⟩ := ah_bs h
  refine ro_newa (pc' := 383) (t := 101) (by decide) rfl q205 dX6_init_381 rfl hσ81 ?_
  obtain ⟨σ82, hσ82, h⟩ := ah_bs h
  refine ro_putRF (pc' := 386) ft_617 fk_617 q1325 pd_617 rfl rfl rfl dX6_init_383 rfl hσ82 ?_
  refine ro_aload_n (pc' := 387) dX6_init_386 rfl rfl rfl ?_
  refine ro_bipush (pc' := 389) dX6_init_387 ib_120 rfl ?_
  obtain ⟨σ83, hσ83, h⟩ := ah_bs h
  refine ro_newa (pc' := 391) (t := 102) (by decide) rfl q1210 dX6_init_389 rfl hσ83 ?_
  obtain ⟨σ84, hσ84, h⟩ := ah_bs h
  refine ro_putRF (pc' := 394) ft_618 fk_618 q1326 pd_618 rfl rfl rfl dX6_init_391 rfl hσ84 ?_
  refine ro_aload_n (pc' := 395) dX6_init_394 rfl rfl rfl ?_
  refine ro_sipush (pc' := 398) dX6_init_395 is_260 rfl ?_
  obtain ⟨σ85, hσ85, h⟩ := ah_bs h
  refine ro_newa (pc' := 400) (t := 102) (by decide) rfl q1210 dX6_init_398 rfl hσ85 ?_
  obtain ⟨σ86, hσ86, h⟩ := ah_bs h
  refine ro_putRF (pc' := 403) ft_624 fk_624 q1332 pd_624 rfl rfl rfl dX6_init_400 rfl hσ86 ?_
  refine ro_aload_n (pc' := 404) dX6_init_403 rfl rfl rfl ?_
  refine ro_sipush (pc' := 407) dX6_init_404 is_260 rfl ?_
  obtain ⟨σ87, hσ87, h⟩ := ah_bs h
  refine ro_newa (pc' := 409) (t := 101) (by decide) rfl q205 dX6_init_407 rfl hσ87 ?_
  obtain ⟨σ88, hσ88, h⟩ := ah_bs h
  refine ro_putRF (pc' := 412) ft_625 fk_625 q1333 pd_625 rfl rfl rfl dX6_init_409 rfl hσ88 ?_
  refine ro_aload_n (pc' := 413) dX6_init_412 rfl rfl rfl ?_
  refine ro_iconst (pc' := 414) dX6_init_413 ic_2 rfl ?_
  obtain ⟨σ89, hσ89, h⟩ := ah_bs h
  refine ro_newa (pc' := 416) (t := 101) (by decide) rfl q205 dX6_init_414 rfl hσ89 ?_
  obtain ⟨σ90, hσ90, h⟩ := ah_bs h
  refine ro_putRF (pc' := 419) ft_626 fk_626 q1334 pd_626 rfl rfl rfl dX6_init_416 rfl hσ90 ?_
  refine ro_aload_n (pc' := 420) dX6_init_419 rfl rfl rfl ?_
  refine ro_bipush (pc' := 422) dX6_init_420 ib_122 rfl ?_
  obtain ⟨σ91, hσ91, h⟩ := ah_bs h
  refine ro_newa (pc' := 424) (t := 103) (by decide) rfl q1211 dX6_init_422 rfl hσ91 ?_
  obtain ⟨σ92, hσ92, h⟩ := ah_bs h
  refine ro_putRF (pc' := 427) ft_627 fk_627 q1335 pd_627 rfl rfl rfl dX6_init_424 rfl hσ92 ?_
  refine ro_aload_n (pc' := 428) dX6_init_427 rfl rfl rfl ?_
  refine ro_bipush (pc' := 430) dX6_init_428 ib_122 rfl ?_
  obtain ⟨σ93, hσ93, h⟩ := ah_bs h
  refine ro_newa (pc' := 432) (t := 103) (by decide) rfl q1211 dX6_init_430 rfl hσ93 ?_
  obtain ⟨σ94, hσ94, h⟩ := ah_bs h
  refine ro_putRF (pc' := 435) ft_628 fk_628 q1336 pd_628 rfl rfl rfl dX6_init_432 rfl hσ94 ?_
  refine ro_aload_n (pc' := 436) dX6_init_435 rfl rfl rfl ?_
  refine ro_bipush (pc' := 438) dX6_init_436 ib_6 rfl ?_
  obtain ⟨σ95, hσ95, h⟩ := ah_bs h
  refine ro_newa (pc' := 440) (t := 101) (by decide) rfl q205 dX6_init_438 rfl hσ95 ?_
  obtain ⟨σ96, hσ96, h⟩ := ah_bs h
  refine ro_putRF (pc' := 443) ft_629 fk_629 q1337 pd_629 rfl rfl rfl dX6_init_440 rfl hσ96 ?_
  refine ro_aload_n (pc' := 444) dX6_init_443 rfl rfl rfl ?_
  refine ro_sipush (pc' := 447) dX6_init_444 is_130 rfl ?_
  obtain ⟨σ97, hσ97, h⟩ := ah_bs h
  refine ro_newa (pc' := 449) (t := 101) (by decide) rfl q205 dX6_init_447 rfl hσ97 ?_
  obtain ⟨σ98, hσ98, h⟩ := ah_bs h
  refine ro_putRF (pc' := 452) ft_630 fk_630 q1338 pd_630 rfl rfl rfl dX6_init_449 rfl hσ98 ?_
  refine ro_aload_n (pc' := 453) dX6_init_452 rfl rfl rfl ?_
  refine ro_iconst (pc' := 454) dX6_init_453 ic_4 rfl ?_
  obtain ⟨σ99, hσ99, h⟩ := ah_bs h
  refine ro_newa (pc' := 456) (t := 101) (by decide) rfl q205 dX6_init_454 rfl hσ99 ?_
  obtain ⟨σ100, hσ100, h⟩ := ah_bs h
  refine ro_putRF (pc' := 459) ft_632 fk_632 q1340 pd_632 rfl rfl rfl dX6_init_456 rfl hσ100 ?_
  refine ro_aload_n (pc' := 460) dX6_init_459 rfl rfl rfl ?_
  refine ro_iconst (pc' := 461) dX6_init_460 ic_4 rfl ?_
  obtain ⟨σ101, hσ101, h⟩ := ah_bs h
  refine ro_newa (pc' := 463) (t := 101) (by decide) rfl q205 dX6_init_461 rfl hσ101 ?_
  obtain ⟨σ102, hσ102, h⟩ := ah_bs h
  refine ro_putRF (pc' := 466) ft_633 fk_633 q1341 pd_633 rfl rfl rfl dX6_init_463 rfl hσ102 ?_
  refine ro_aload_n (pc' := 467) dX6_init_466 rfl rfl rfl ?_
  refine ro_bipush (pc' := 469) dX6_init_467 ib_48 rfl ?_
  obtain ⟨σ103, hσ103, h⟩ := ah_bs h
  refine ro_newa (pc' := 471) (t := 101) (by decide) rfl q205 dX6_init_469 rfl hσ103 ?_
  obtain ⟨σ104, hσ104, h⟩ := ah_bs h
  refine ro_putRF (pc' := 474) ft_634 fk_634 q1342 pd_634 rfl rfl rfl dX6_init_471 rfl hσ104 ?_
  refine ro_aload_n (pc' := 475) dX6_init_474 rfl rfl rfl ?_
  refine ro_bipush (pc' := 477) dX6_init_475 ib_30 rfl ?_
  obtain ⟨σ105, hσ105, h⟩ := ah_bs h
  refine ro_newa (pc' := 479) (t := 101) (by decide) rfl q205 dX6_init_477 rfl hσ105 ?_
  obtain ⟨σ106, hσ106, h⟩ := ah_bs h
  refine ro_putRF (pc' := 482) ft_635 fk_635 q1343 pd_635 rfl rfl rfl dX6_init_479 rfl hσ106 ?_
  refine ro_aload_n (pc' := 483) dX6_init_482 rfl rfl rfl ?_
  refine ro_sipush (pc' := 486) dX6_init_483 is_9648 rfl ?_
  obtain ⟨σ107, hσ107, h⟩ := ah_bs h
  refine ro_newa (pc' := 488) (t := 101) (by decide) rfl q205 dX6_init_486 rfl hσ107 ?_
  obtain ⟨σ108, hσ108, h⟩ := ah_bs h
  refine ro_putRF (pc' := 491) ft_637 fk_637 q1345 pd_637 rfl rfl rfl dX6_init_488 rfl hσ108 ?_
  refine ro_aload_n (pc' := 492) dX6_init_491 rfl rfl rfl ?_
  refine ro_bipush (pc' := 494) dX6_init_492 ib_30 rfl ?_
  obtain ⟨σ109, hσ109, h⟩ := ah_bs h
  refine ro_newa (pc' := 496) (t := 101) (by decide) rfl q205 dX6_init_494 rfl hσ109 ?_
  obtain ⟨σ110, hσ110, h⟩ := ah_bs h
  refine ro_putRF (pc' := 499) ft_638 fk_638 q1346 pd_638 rfl rfl rfl dX6_init_496 rfl hσ110 ?_
  refine ro_aload_n (pc' := 500) dX6_init_499 rfl rfl rfl ?_
  refine ro_iconst (pc' := 501) dX6_init_500 ic_5 rfl ?_
  obtain ⟨σ111, hσ111, h⟩ := ah_bs h
  refine ro_newa (pc' := 503) (t := 101) (by decide) rfl q205 dX6_init_501 rfl hσ111 ?_
  obtain ⟨σ112, hσ112, h⟩ := ah_bs h
  refine ro_putRF (pc' := 506) ft_639 fk_639 q1347 pd_639 rfl rfl rfl dX6_init_503 rfl hσ112 ?_
  refine ro_aload_n (pc' := 507) dX6_init_506 rfl rfl rfl ?_
  refine ro_iconst (pc' := 508) dX6_init_507 ic_5 rfl ?_
  obtain ⟨σ113, hσ113, h⟩ := ah_bs h
  refine ro_newa (pc' := 510) (t := 101) (by decide) rfl q205 dX6_init_508 rfl hσ113 ?_
  obtain ⟨σ114, hσ114, h⟩ := ah_bs h
  refine ro_putRF (pc' := 513) ft_640 fk_640 q1348 pd_640 rfl rfl rfl dX6_init_510 rfl hσ114 ?_
  refine ro_aload_n (pc' := 514) dX6_init_513 rfl rfl rfl ?_
  refine ro_iconst (pc' := 515) dX6_init_514 ic_4 rfl ?_
  obtain ⟨σ115, hσ115, h⟩ := ah_bs h
  refine ro_newa (pc' := 517) (t := 101) (by decide) rfl q205 dX6_init_515 rfl hσ115 ?_
  obtain ⟨σ116, hσ116, h⟩ := ah_bs h
  refine ro_putRF (pc' := 520) ft_642 fk_642 q1350 pd_642 rfl rfl rfl dX6_init_517 rfl hσ116 ?_
  refine ro_aload_n (pc' := 521) dX6_init_520 rfl rfl rfl ?_
  refine ro_bipush (pc' := 523) dX6_init_521 ib_60 rfl ?_
  obtain ⟨σ117, hσ117, h⟩ := ah_bs h
  refine ro_newa (pc' := 525) (t := 101) (by decide) rfl q205 dX6_init_523 rfl hσ117 ?_
  obtain ⟨σ118, hσ118, h⟩ := ah_bs h
  refine ro_putRF (pc' := 528) ft_643 fk_643 q1351 pd_643 rfl rfl rfl dX6_init_525 rfl hσ118 ?_
  refine ro_aload_n (pc' := 529) dX6_init_528 rfl rfl rfl ?_
  refine ro_sipush (pc' := 532) dX6_init_529 is_336 rfl ?_
  obtain ⟨σ119, hσ119, h⟩ := ah_bs h
  refine ro_newa (pc' := 534) (t := 101) (by decide) rfl q205 dX6_init_532 rfl hσ119 ?_
  obtain ⟨σ120, hσ120, h⟩ := ah_bs h
  refine ro_putRF (pc' := 537) ft_645 fk_645 q1353 pd_645 rfl rfl rfl dX6_init_534 rfl hσ120 ?_
  refine ro_aload_n (pc' := 538) dX6_init_537 rfl rfl rfl ?_
  refine ro_iconst (pc' := 539) dX6_init_538 ic_4 rfl ?_
  obtain ⟨σ121, hσ121, h⟩ := ah_bs h
  refine ro_newa (pc' := 541) (t := 101) (by decide) rfl q205 dX6_init_539 rfl hσ121 ?_
  refine ro_dup (pc' := 542) dX6_init_541 (ah_rf_cat _) rfl ?_
  refine ro_iconst (pc' := 543) dX6_init_542 ic_0 rfl ?_
  refine ro_iconst (pc' := 544) dX6_init_543 ic_0 rfl ?_
  obtain ⟨σ122, hσ122, h⟩ := ah_bs h
  refine ro_iastore (pc' := 545) dX6_init_544 rfl hσ122 ?_
  refine ro_dup (pc' := 546) dX6_init_545 (ah_rf_cat _) rfl ?_
  refine ro_iconst (pc' := 547) dX6_init_546 ic_1 rfl ?_
  refine ro_iconst (pc' := 548) dX6_init_547 ic_0 rfl ?_
  obtain ⟨σ123, hσ123, h⟩ := ah_bs h
  refine ro_iastore (pc' := 549) dX6_init_548 rfl hσ123 ?_
  refine ro_dup (pc' := 550) dX6_init_549 (ah_rf_cat _) rfl ?_
  refine ro_iconst (pc' := 551) dX6_init_550 ic_2 rfl ?_
  refine ro_iconst (pc' := 552) dX6_init_551 ic_0 rfl ?_
  obtain ⟨σ124, hσ124, h⟩ := ah_bs h
  refine ro_iastore (pc' := 553) dX6_init_552 rfl hσ124 ?_
  refine ro_dup (pc' := 554) dX6_init_553 (ah_rf_cat _) rfl ?_
  refine ro_iconst (pc' := 555) dX6_init_554 ic_3 rfl ?_
  refine ro_bipush (pc' := 557) dX6_init_555 ib_m2 rfl ?_
  obtain ⟨σ125, hσ125, h⟩ := ah_bs h
  refine ro_iastore (pc' := 558) dX6_init_557 rfl hσ125 ?_
  obtain ⟨σ126, hσ126, h⟩ := ah_bs h
  refine ro_putRF (pc' := 561) ft_648 fk_648 q1356 pd_648 rfl rfl rfl dX6_init_558 rfl hσ126 ?_
  refine ro_aload_n (pc' := 562) dX6_init_561 rfl rfl rfl ?_
  refine ro_bipush (pc' := 564) dX6_init_562 ib_48 rfl ?_
  obtain ⟨σ127, hσ127, h⟩ := ah_bs h
  refine ro_newa (pc' := 566) (t := 101) (by decide) rfl q205 dX6_init_564 rfl hσ127 ?_
  obtain ⟨σ128, hσ128, h⟩ := ah_bs h
  refine ro_putRF (pc' := 569) ft_650 fk_650 q1358 pd_650 rfl rfl rfl dX6_init_566 rfl hσ128 ?_
  refine ro_aload_n (pc' := 570) dX6_init_569 rfl rfl rfl ?_
  refine ro_iconst (pc' := 571) dX6_init_570 ic_4 rfl ?_
  obtain ⟨σ129, hσ129, h⟩ := ah_bs h
  refine ro_newa (pc' := 573) (t := 101) (by decide) rfl q205 dX6_init_571 rfl hσ129 ?_
  obtain ⟨σ130, hσ130, h⟩ := ah_bs h
  refine ro_putRF (pc' := 576) ft_651 fk_651 q1359 pd_651 rfl rfl rfl dX6_init_573 rfl hσ130 ?_
  refine ro_aload_n (pc' := 577) dX6_init_576 rfl rfl rfl ?_
  refine ro_bipush (pc' := 579) dX6_init_577 ib_50 rfl ?_
  obtain ⟨σ131, hσ131, h⟩ := ah_bs h
  refine ro_newa (pc' := 581) (t := 101) (by decide) rfl q205 dX6_init_579 rfl hσ131 ?_
  obtain ⟨σ132, hσ132, h⟩ := ah_bs h
  refine ro_putRF (pc' := 584) ft_653 fk_653 q1361 pd_653 rfl rfl rfl dX6_init_581 rfl hσ132 ?_
  refine ro_aload_n (pc' := 585) dX6_init_584 rfl rfl rfl ?_
  refine ro_bipush (pc' := 587) dX6_init_585 ib_24 rfl ?_
  obtain ⟨σ133, hσ133, h⟩ := ah_bs h
  refine ro_newa (pc' := 589) (t := 101) (by decide) rfl q205 dX6_init_587 rfl hσ133 ?_
  obtain ⟨σ134, hσ134, h⟩ := ah_bs h
  refine ro_putRF (pc' := 592) ft_655 fk_655 q1363 pd_655 rfl rfl rfl dX6_init_589 rfl hσ134 ?_
  refine ro_aload_n (pc' := 593) dX6_init_592 rfl rfl rfl ?_
  refine ro_bipush (pc' := 595) dX6_init_593 ib_6 rfl ?_
  obtain ⟨σ135, hσ135, h⟩ := ah_bs h
  refine ro_newa (pc' := 597) (t := 101) (by decide) rfl q205 dX6_init_595 rfl hσ135 ?_
  refine ro_dup (pc' := 598) dX6_init_597 (ah_rf_cat _) rfl ?_
  refine ro_iconst (pc' := 599) dX6_init_598 ic_0 rfl ?_
  refine ro_iconst (pc' := 600) dX6_init_599 ic_m1 rfl ?_
  obtain ⟨σ136, hσ136, h⟩ := ah_bs h
  refine ro_iastore (pc' := 601) dX6_init_600 rfl hσ136 ?_
  refine ro_dup (pc' := 602) dX6_init_601 (ah_rf_cat _) rfl ?_
  refine ro_iconst (pc' := 603) dX6_init_602 ic_1 rfl ?_
  refine ro_iconst (pc' := 604) dX6_init_603 ic_m1 rfl ?_
  obtain ⟨σ137, hσ137, h⟩ := ah_bs h
  refine ro_iastore (pc' := 605) dX6_init_604 rfl hσ137 ?_
  refine ro_dup (pc' := 606) dX6_init_605 (ah_rf_cat _) rfl ?_
  refine ro_iconst (pc' := 607) dX6_init_606 ic_2 rfl ?_
  refine ro_iconst (pc' := 608) dX6_init_607 ic_m1 rfl ?_
  obtain ⟨σ138, hσ138, h⟩ := ah_bs h
  refine ro_iastore (pc' := 609) dX6_init_608 rfl hσ138 ?_
  refine ro_dup (pc' := 610) dX6_init_609 (ah_rf_cat _) rfl ?_
  refine ro_iconst (pc' := 611) dX6_init_610 ic_3 rfl ?_
  refine ro_iconst (pc' := 612) dX6_init_611 ic_m1 rfl ?_
  obtain ⟨σ139, hσ139, h⟩ := ah_bs h
  refine ro_iastore (pc' := 613) dX6_init_612 rfl hσ139 ?_
  refine ro_dup (pc' := 614) dX6_init_613 (ah_rf_cat _) rfl ?_
  refine ro_iconst (pc' := 615) dX6_init_614 ic_4 rfl ?_
  refine ro_iconst (pc' := 616) dX6_init_615 ic_m1 rfl ?_
  obtain ⟨σ140, hσ140, h⟩ := ah_bs h
  refine ro_iastore (pc' := 617) dX6_init_616 rfl hσ140 ?_
  refine ro_dup (pc' := 618) dX6_init_617 (ah_rf_cat _) rfl ?_
  refine ro_iconst (pc' := 619) dX6_init_618 ic_5 rfl ?_
  refine ro_iconst (pc' := 620) dX6_init_619 ic_m1 rfl ?_
  obtain ⟨σ141, hσ141, h⟩ := ah_bs h
  refine ro_iastore (pc' := 621) dX6_init_620 rfl hσ141 ?_
  obtain ⟨σ142, hσ142, h⟩ := ah_bs h
  refine ro_putRF (pc' := 624) ft_656 fk_656 q1364 pd_656 rfl rfl rfl dX6_init_621 rfl hσ142 ?_
  refine ro_aload_n (pc' := 625) dX6_init_624 rfl rfl rfl ?_
  refine ro_bipush (pc' := 627) dX6_init_625 ib_6 rfl ?_
  obtain ⟨σ143, hσ143, h⟩ := ah_bs h
  refine ro_newa (pc' := 629) (t := 101) (by decide) rfl q205 dX6_init_627 rfl hσ143 ?_
  obtain ⟨σ144, hσ144, h⟩ := ah_bs h
  refine ro_putRF (pc' := 632) ft_657 fk_657 q1365 pd_657 rfl rfl rfl dX6_init_629 rfl hσ144 ?_
  refine ro_aload_n (pc' := 633) dX6_init_632 rfl rfl rfl ?_
  refine ro_sipush (pc' := 636) dX6_init_633 is_360 rfl ?_
  obtain ⟨σ145, hσ145, h⟩ := ah_bs h
  refine ro_newa (pc' := 638) (t := 104) (by decide) rfl q1212 dX6_init_636 rfl hσ145 ?_
  obtain ⟨σ146, hσ146, h⟩ := ah_bs h
  refine ro_putRF (pc' := 641) ft_658 fk_658 q1366 pd_658 rfl rfl rfl dX6_init_638 rfl hσ146 ?_
  refine ro_aload_n (pc' := 642) dX6_init_641 rfl rfl rfl ?_
  refine ro_bipush (pc' := 644) dX6_init_642 ib_60 rfl ?_
  obtain ⟨σ147, hσ147, h⟩ := ah_bs h
  refine ro_newa (pc' := 646) (t := 104) (by decide) rfl q1212 dX6_init_644 rfl hσ147 ?_
  obtain ⟨σ148, hσ148, h⟩ := ah_bs h
  refine ro_putRF (pc' := 649) ft_659 fk_659 q1367 pd_659 rfl rfl rfl dX6_init_646 rfl hσ148 ?_
  obtain rfl := Option.some.inj h
  exact ro_vret hκ dX6_init_649
theorem M_X6_init {l : Launch} {D : ah_D}  {σ : ah_S} {r0 : Option Nat} {σ1 : ah_S} (h : F_X6_init σ r0 = some σ1) : ah_Met l yX6_init (Cond.code yX6_init cX6_init 1 none) 1 24 D [va_rf r0] σ (.returned none, σ1) :=
  ah_ofG (own := "LeftAsFoundModel") (nm := "<init>") (L0 := [some (va_rf r0)]) (by decide) rfl rfl rfl (ah_ao_1 (ah_rf_cat _) ah_ao_0) (fun κ hκ => W_X6_init hκ  σ r0 h)
set_option maxRecDepth 20000 in
set_option maxHeartbeats 4000000 in
theorem W_X6_isAs_23 {κ : ah_C} {rr : (Int32 × ah_S)} (hκ : ah_res κ = (.returned (some (.int rr.1)), rr.2))  {k2 : ah_S → Option Nat → Int32 → Int32 → Option (Int32 × ah_S)} (hk2 : ∀ (σ : ah_S) (r0 : Option Nat) (x1 : Int32) (x2 : Int32), k2 σ r0 x1 x2 = some rr → ah_G κ ("LeftAsFoundModel", "isAs", 3, (some FieldType.boolean), [], 1, 24) cX6_isAs σ 2 [some (va_rf r0), some (.int x1), some (.int x2)] []) : ∀ (σ : ah_S) (r0 : Option Nat) (x1 : Int32) (x2 : Int32), F_X6_isAs_23 k2 σ r0 x1 x2 = some rr → ah_G κ ("LeftAsFoundModel", "isAs", 3, (some FieldType.boolean), [], 1, 24) cX6_isAs σ 23 [some (va_rf r0), some (.int x1), some (.int x2)] [] := by
  intro σ r0 x1 x2 h
  unfold F_X6_isAs_23 at h
  refine ro_aload_n (pc' := 24) dX6_isAs_23 rfl rfl rfl ?_
  obtain ⟨v1, hv1, h⟩ := ah_bs h
  refine ro_getR (pc' := 27) ft_637 fk_637 q1345 dX6_isAs_24 rfl hv1 ?_
  refine ro_bipush (pc' := 29) dX6_isAs_27 ib_48 rfl ?_
  refine ro_iload_n (pc' := 30) dX6_isAs_29 rfl rfl rfl ?_
  refine ro_imul (pc' := 31) dX6_isAs_30 rfl ?_
  refine ro_iload_n (pc' := 32) dX6_isAs_31 rfl rfl rfl ?_
  refine ro_iadd (pc' := 33) dX6_isAs_32 rfl ?_
  obtain ⟨v2, hv2, h⟩ := ah_bs h
  refine ro_iaload (pc' := 34) dX6_isAs_33 rfl hv2 ?_
  refine ro_aload_n (pc' := 35) dX6_isAs_34 rfl rfl rfl ?_
  obtain ⟨v3, hv3, h⟩ := ah_bs h
  refine ro_getR (pc' := 38) ft_611 fk_611 q1319 dX6_isAs_35 rfl hv3 ?_
  refine ro_iload_n (pc' := 39) dX6_isAs_38 rfl rfl rfl ?_
  obtain ⟨v4, hv4, h⟩ := ah_bs h
  refine ro_iaload (pc' := 40) dX6_isAs_39 rfl hv4 ?_
  refine ro_icmp_eq (pc' := 43) (tgt := 45) dX6_isAs_40 rfl rfl (fun c => ?_) (fun c => ?_)
  · replace h := ah_ip c h
    refine ro_iinc (pc' := 48) (L' := [some (va_rf r0), some (.int x1), some (.int (x2 + (1 : Int32)))]) dX6_isAs_45 rfl ic_1 (Nat.le_of_ble_eq_true rfl) rfl (ah_okp_i _) rfl ?_
    refine ro_goto (tgt := 2) dX6_isAs_48 rfl ?_
    exact hk2 _ _ _ _ h
  · replace h := ah_in_ c h
    refine ro_iconst (pc' := 44) dX6_isAs_43 ic_0 rfl ?_
    obtain rfl := Option.some.inj h
    exact ro_zret rfl hκ dX6_isAs_44
set_option maxRecDepth 20000 in
set_option maxHeartbeats 4000000 in
theorem W_X6_isAs_2 {κ : ah_C} {rr : (Int32 × ah_S)} (hκ : ah_res κ = (.returned (some (.int rr.1)), rr.2))    : ∀ (n : Nat) (σ : ah_S) (r0 : Option Nat) (x1 : Int32) (x2 : Int32), F_X6_isAs_2 n σ r0 x1 x2 = some rr → ah_G κ ("LeftAsFoundModel", "isAs", 3, (some FieldType.boolean), [], 1, 24) cX6_isAs σ 2 [some (va_rf r0), some (.int x1), some (.int x2)] [] := by
  intro n
  induction n with
  | zero => intro σ r0 x1 x2 h; cases h
  | succ n ih =>
    intro σ r0 x1 x2 h
    rw [F_X6_isAs_2] at h
    refine ro_iload_n (pc' := 3) dX6_isAs_2 rfl rfl rfl ?_
    refine ro_bipush (pc' := 5) dX6_isAs_3 ib_48 rfl ?_
    refine ro_icmp_ge (pc' := 8) (tgt := 51) dX6_isAs_5 rfl rfl (fun c => ?_) (fun c => ?_)
    · replace h := ah_ip c h
      refine ro_iconst (pc' := 52) dX6_isAs_51 ic_1 rfl ?_
      obtain rfl := Option.some.inj h
      exact ro_zret rfl hκ dX6_isAs_52
    · replace h := ah_in_ c h
      refine ro_iload_n (pc' := 9) dX6_isAs_8 rfl rfl rfl ?_
      refine ro_bipush (pc' := 11) dX6_isAs_9 ib_8 rfl ?_
      refine ro_icmp_lt (pc' := 14) (tgt := 23) dX6_isAs_11 rfl rfl (fun c => ?_) (fun c => ?_)
      · replace h := ah_ip c h
        exact W_X6_isAs_23 hκ ih _ _ _ _ h
      · replace h := ah_in_ c h
        refine ro_iload_n (pc' := 15) dX6_isAs_14 rfl rfl rfl ?_
        refine ro_bipush (pc' := 17) dX6_isAs_15 ib_12 rfl ?_
        refine ro_icmp_gt (pc' := 20) (tgt := 23) dX6_isAs_17 rfl rfl (fun c => ?_) (fun c => ?_)
        · replace h := ah_ip c h
          exact W_X6_isAs_23 hκ ih _ _ _ _ h
        · replace h := ah_in_ c h
          refine ro_goto (tgt := 45) dX6_isAs_20 rfl ?_
          refine ro_iinc (pc' := 48) (L' := [some (va_rf r0), some (.int x1), some (.int (x2 + (1 : Int32)))]) dX6_isAs_45 rfl ic_1 (Nat.le_of_ble_eq_true rfl) rfl (ah_okp_i _) rfl ?_
          refine ro_goto (tgt := 2) dX6_isAs_48 rfl ?_
          exact ih _ _ _ _ h
set_option maxRecDepth 20000 in
set_option maxHeartbeats 4000000 in
theorem W_X6_isAs {κ : ah_C} {rr : (Int32 × ah_S)} (hκ : ah_res κ = (.returned (some (.int rr.1)), rr.2))  (σ : ah_S) (r0 : Option Nat) (x1 : Int32) (h : F_X6_isAs σ r0 x1 = some rr) : ah_G κ ("LeftAsFoundModel", "isAs", 3, (some FieldType.boolean), [], 1, 24) cX6_isAs σ 0 [some (va_rf r0), some (.int x1), none] [] := by
  unfold F_X6_isAs at h
  refine ro_iconst (pc' := 1) dX6_isAs_0 ic_0 rfl ?_
  refine ro_istore_n (pc' := 2) (L' := [some (va_rf r0), some (.int x1), some (.int (0 : Int32))]) dX6_isAs_1 rfl (Nat.le_of_ble_eq_true rfl) rfl (ah_okp_i _) rfl ?_
  exact W_X6_isAs_2 hκ _ _ _ _ _ h
theorem M_X6_isAs {l : Launch} {D : ah_D}  {σ : ah_S} {r0 : Option Nat} {x1 : Int32} {v : Int32} {σ1 : ah_S} (h : F_X6_isAs σ r0 x1 = some (v, σ1)) : ah_Met l yX6_isAs (Cond.code yX6_isAs cX6_isAs 3 (some FieldType.boolean)) 1 24 D [va_rf r0, .int x1] σ (.returned (some (.int v)), σ1) :=
  ah_ofG (own := "LeftAsFoundModel") (nm := "isAs") (L0 := [some (va_rf r0), some (.int x1), none]) (by decide) rfl rfl rfl (ah_ao_1 (ah_rf_cat _) (ah_ao_1 rfl (ah_ao_n ah_ao_0))) (fun κ hκ => W_X6_isAs hκ  σ r0 x1 h)
set_option maxRecDepth 20000 in
set_option maxHeartbeats 4000000 in
theorem W_X6_isOne {κ : ah_C} {rr : (Int32 × ah_S)} (hκ : ah_res κ = (.returned (some (.int rr.1)), rr.2))  (σ : ah_S) (r0 : Option Nat) (x1 : Int32) (x2 : Int32) (h : F_X6_isOne σ r0 x1 x2 = some rr) : ah_G κ ("LeftAsFoundModel", "isOne", 3, (some FieldType.boolean), [], 4, 88) cX6_isOne σ 0 [some (va_rf r0), some (.int x1), some (.int x2)] [] := by
  unfold F_X6_isOne at h
  refine ro_iload_n (pc' := 1) dX6_isOne_0 rfl rfl rfl ?_
  refine ro_iconst (pc' := 2) dX6_isOne_1 ic_0 rfl ?_
  refine ro_iconst (pc' := 3) dX6_isOne_2 ic_1 rfl ?_
  obtain ⟨v1, σ2, hv1, h⟩ := ah_bs2 h
  refine ro_callS (pc' := 6) (As := [.int x2, .int (0 : Int32), .int (1 : Int32)]) (rest := []) (st' := [.int v1]) q1494 (M_X6_in hv1) q1493 q1495 q104 dd_X6_in rfl ⟨Nat.le_of_ble_eq_true rfl, Nat.le_of_ble_eq_true rfl⟩ (Nat.le_of_ble_eq_true rfl) dX6_isOne_3 rfl rfl rfl ?_
  refine ro_if_eq (pc' := 9) (tgt := 14) dX6_isOne_6 rfl rfl (fun c => ?_) (fun c => ?_)
  · replace h := ah_ip c h
    refine ro_iload_n (pc' := 15) dX6_isOne_14 rfl rfl rfl ?_
    refine ro_iconst (pc' := 16) dX6_isOne_15 ic_2 rfl ?_
    refine ro_iconst (pc' := 17) dX6_isOne_16 ic_3 rfl ?_
    obtain ⟨v3, σ4, hv3, h⟩ := ah_bs2 h
    refine ro_callS (pc' := 20) (As := [.int x2, .int (2 : Int32), .int (3 : Int32)]) (rest := []) (st' := [.int v3]) q1494 (M_X6_in hv3) q1493 q1495 q104 dd_X6_in rfl ⟨Nat.le_of_ble_eq_true rfl, Nat.le_of_ble_eq_true rfl⟩ (Nat.le_of_ble_eq_true rfl) dX6_isOne_17 rfl rfl rfl ?_
    refine ro_if_eq (pc' := 23) (tgt := 29) dX6_isOne_20 rfl rfl (fun c => ?_) (fun c => ?_)
    · replace h := ah_ip c h
      refine ro_iload_n (pc' := 30) dX6_isOne_29 rfl rfl rfl ?_
      refine ro_iconst (pc' := 31) dX6_isOne_30 ic_4 rfl ?_
      refine ro_iconst (pc' := 32) dX6_isOne_31 ic_5 rfl ?_
      obtain ⟨v5, σ6, hv5, h⟩ := ah_bs2 h
      refine ro_callS (pc' := 35) (As := [.int x2, .int (4 : Int32), .int (5 : Int32)]) (rest := []) (st' := [.int v5]) q1494 (M_X6_in hv5) q1493 q1495 q104 dd_X6_in rfl ⟨Nat.le_of_ble_eq_true rfl, Nat.le_of_ble_eq_true rfl⟩ (Nat.le_of_ble_eq_true rfl) dX6_isOne_32 rfl rfl rfl ?_
      refine ro_if_eq (pc' := 38) (tgt := 46) dX6_isOne_35 rfl rfl (fun c => ?_) (fun c => ?_)
      · replace h := ah_ip c h
        refine ro_iload_n (pc' := 47) dX6_isOne_46 rfl rfl rfl ?_
        refine ro_bipush (pc' := 49) dX6_isOne_47 ib_6 rfl ?_
        refine ro_bipush (pc' := 51) dX6_isOne_49 ib_8 rfl ?_
        obtain ⟨v7, σ8, hv7, h⟩ := ah_bs2 h
        refine ro_callS (pc' := 54) (As := [.int x2, .int (6 : Int32), .int (8 : Int32)]) (rest := []) (st' := [.int v7]) q1494 (M_X6_in hv7) q1493 q1495 q104 dd_X6_in rfl ⟨Nat.le_of_ble_eq_true rfl, Nat.le_of_ble_eq_true rfl⟩ (Nat.le_of_ble_eq_true rfl) dX6_isOne_51 rfl rfl rfl ?_
        refine ro_if_eq (pc' := 57) (tgt := 65) dX6_isOne_54 rfl rfl (fun c => ?_) (fun c => ?_)
        · replace h := ah_ip c h
          refine ro_iconst (pc' := 66) dX6_isOne_65 ic_0 rfl ?_
          obtain rfl := Option.some.inj h
          exact ro_zret rfl hκ dX6_isOne_66
        · replace h := ah_in_ c h
          refine ro_iload_n (pc' := 58) dX6_isOne_57 rfl rfl rfl ?_
          refine ro_if_ne (pc' := 61) (tgt := 65) dX6_isOne_58 rfl rfl (fun c => ?_) (fun c => ?_)
          · replace h := ah_in_ c h
            refine ro_iconst (pc' := 66) dX6_isOne_65 ic_0 rfl ?_
            obtain rfl := Option.some.inj h
            exact ro_zret rfl hκ dX6_isOne_66
          · replace h := ah_ip c h
            refine ro_iconst (pc' := 62) dX6_isOne_61 ic_1 rfl ?_
            refine ro_goto (tgt := 66) dX6_isOne_62 rfl ?_
            obtain rfl := Option.some.inj h
            exact ro_zret rfl hκ dX6_isOne_66
      · replace h := ah_in_ c h
        refine ro_aload_n (pc' := 39) dX6_isOne_38 rfl rfl rfl ?_
        refine ro_iload_n (pc' := 40) dX6_isOne_39 rfl rfl rfl ?_
        obtain ⟨u9, hu9, h⟩ := ah_bs h
        obtain ⟨v10, σ11, hv10, h⟩ := ah_bs2 h
        refine ro_callV (pc' := 43) (As := [.int x1]) (rest := []) (st' := [.int v10]) (by decide) hu9 q1540 sl_X6_isGuest (M_X6_isGuest hv10) q1538 q1541 q104 dd_X6_isGuest rfl ⟨Nat.le_of_ble_eq_true rfl, Nat.le_of_ble_eq_true rfl⟩ (Nat.le_of_ble_eq_true rfl) dX6_isOne_40 rfl rfl rfl ?_
        refine ro_goto (tgt := 66) dX6_isOne_43 rfl ?_
        obtain ⟨z12, hz12, g⟩ := ah_bs h
        obtain ⟨ez12, hz12⟩ := ah_z_n hz12
        subst ez12
        obtain rfl := Option.some.inj g
        exact ro_zret hz12 hκ dX6_isOne_66
    · replace h := ah_in_ c h
      refine ro_aload_n (pc' := 24) dX6_isOne_23 rfl rfl rfl ?_
      refine ro_iload_n (pc' := 25) dX6_isOne_24 rfl rfl rfl ?_
      obtain ⟨u13, hu13, h⟩ := ah_bs h
      obtain ⟨v14, σ15, hv14, h⟩ := ah_bs2 h
      refine ro_callV (pc' := 28) (As := [.int x1]) (rest := []) (st' := [.int v14]) (by decide) hu13 q1536 sl_X6_areTwo (M_X6_areTwo hv14) q1534 q1537 q104 dd_X6_areTwo rfl ⟨Nat.le_of_ble_eq_true rfl, Nat.le_of_ble_eq_true rfl⟩ (Nat.le_of_ble_eq_true rfl) dX6_isOne_25 rfl rfl rfl ?_
      obtain ⟨z16, hz16, g⟩ := ah_bs h
      obtain ⟨ez16, hz16⟩ := ah_z_n hz16
      subst ez16
      obtain rfl := Option.some.inj g
      exact ro_zret hz16 hκ dX6_isOne_28
  · replace h := ah_in_ c h
    refine ro_iload_n (pc' := 10) dX6_isOne_9 rfl rfl rfl ?_
    obtain ⟨v17, σ18, hv17, h⟩ := ah_bs2 h
    refine ro_callS (pc' := 13) (As := [.int x1]) (rest := []) (st' := [.int v17]) q1532 (M_X6_isThing hv17) q1531 q1533 q104 dd_X6_isThing rfl ⟨Nat.le_of_ble_eq_true rfl, Nat.le_of_ble_eq_true rfl⟩ (Nat.le_of_ble_eq_true rfl) dX6_isOne_10 rfl rfl rfl ?_
    obtain ⟨z19, hz19, g⟩ := ah_bs h
    obtain ⟨ez19, hz19⟩ := ah_z_n hz19
    subst ez19
    obtain rfl := Option.some.inj g
    exact ro_zret hz19 hκ dX6_isOne_13
theorem M_X6_isOne {l : Launch} {D : ah_D}  {σ : ah_S} {r0 : Option Nat} {x1 : Int32} {x2 : Int32} {v : Int32} {σ1 : ah_S} (h : F_X6_isOne σ r0 x1 x2 = some (v, σ1)) : ah_Met l yX6_isOne (Cond.code yX6_isOne cX6_isOne 3 (some FieldType.boolean)) 4 88 D [va_rf r0, .int x1, .int x2] σ (.returned (some (.int v)), σ1) :=
  ah_ofG (own := "LeftAsFoundModel") (nm := "isOne") (L0 := [some (va_rf r0), some (.int x1), some (.int x2)]) (by decide) rfl rfl rfl (ah_ao_1 (ah_rf_cat _) (ah_ao_1 rfl (ah_ao_1 rfl ah_ao_0))) (fun κ hκ => W_X6_isOne hκ  σ r0 x1 x2 h)
set_option maxRecDepth 20000 in
set_option maxHeartbeats 4000000 in
theorem W_X6_laySeen_12 {κ : ah_C} {rr : ah_S} (hκ : ah_res κ = (.returned none, rr))    : ∀ (n : Nat) (σ : ah_S) (r0 : Option Nat) (x1 : Int32) (x2 : Int32), F_X6_laySeen_12 n σ r0 x1 x2 = some rr → ah_G κ ("LeftAsFoundModel", "laySeen", 3, none, [], 1, 24) cX6_laySeen σ 12 [some (va_rf r0), some (.int x1), some (.int x2)] [] := by
  intro n
  induction n with
  | zero => intro σ r0 x1 x2 h; cases h
  | succ n ih =>
    intro σ r0 x1 x2 h
    rw [F_X6_laySeen_12] at h
    refine ro_iload_n (pc' := 13) dX6_laySeen_12 rfl rfl rfl ?_
    refine ro_aload_n (pc' := 14) dX6_laySeen_13 rfl rfl rfl ?_
    obtain ⟨v1, hv1, h⟩ := ah_bs h
    refine ro_getI (pc' := 17) ft_644 fk_644 q1352 dX6_laySeen_14 rfl hv1 ?_
    refine ro_icmp_ge (pc' := 20) (tgt := 44) dX6_laySeen_17 rfl rfl (fun c => ?_) (fun c => ?_)
    · replace h := ah_ip c h
      obtain rfl := Option.some.inj h
      exact ro_vret hκ dX6_laySeen_44
    · replace h := ah_in_ c h
      refine ro_aload_n (pc' := 21) dX6_laySeen_20 rfl rfl rfl ?_
      obtain ⟨v2, hv2, h⟩ := ah_bs h
      refine ro_getR (pc' := 24) ft_643 fk_643 q1351 dX6_laySeen_21 rfl hv2 ?_
      refine ro_iload_n (pc' := 25) dX6_laySeen_24 rfl rfl rfl ?_
      refine ro_aload_n (pc' := 26) dX6_laySeen_25 rfl rfl rfl ?_
      obtain ⟨v3, hv3, h⟩ := ah_bs h
      refine ro_getR (pc' := 29) ft_658 fk_658 q1366 dX6_laySeen_26 rfl hv3 ?_
      refine ro_bipush (pc' := 31) dX6_laySeen_29 ib_60 rfl ?_
      refine ro_iload_n (pc' := 32) dX6_laySeen_31 rfl rfl rfl ?_
      refine ro_imul (pc' := 33) dX6_laySeen_32 rfl ?_
      refine ro_iload_n (pc' := 34) dX6_laySeen_33 rfl rfl rfl ?_
      refine ro_iadd (pc' := 35) dX6_laySeen_34 rfl ?_
      obtain ⟨v4, hv4, h⟩ := ah_bs h
      refine ro_laload (pc' := 36) dX6_laySeen_35 rfl hv4 ?_
      refine ro_l2i (pc' := 37) dX6_laySeen_36 rfl ?_
      obtain ⟨σ5, hσ5, h⟩ := ah_bs h
      refine ro_iastore (pc' := 38) dX6_laySeen_37 rfl hσ5 ?_
      refine ro_iinc (pc' := 41) (L' := [some (va_rf r0), some (.int x1), some (.int (x2 + (1 : Int32)))]) dX6_laySeen_38 rfl ic_1 (Nat.le_of_ble_eq_true rfl) rfl (ah_okp_i _) rfl ?_
      refine ro_goto (tgt := 12) dX6_laySeen_41 rfl ?_
      exact ih _ _ _ _ h
set_option maxRecDepth 20000 in
set_option maxHeartbeats 4000000 in
theorem W_X6_laySeen {κ : ah_C} {rr : ah_S} (hκ : ah_res κ = (.returned none, rr))  (σ : ah_S) (r0 : Option Nat) (x1 : Int32) (h : F_X6_laySeen σ r0 x1 = some rr) : ah_G κ ("LeftAsFoundModel", "laySeen", 3, none, [], 1, 24) cX6_laySeen σ 0 [some (va_rf r0), some (.int x1), none] [] := by
  unfold F_X6_laySeen at h
  refine ro_aload_n (pc' := 1) dX6_laySeen_0 rfl rfl rfl ?_
  refine ro_aload_n (pc' := 2) dX6_laySeen_1 rfl rfl rfl ?_
  obtain ⟨v1, hv1, h⟩ := ah_bs h
  refine ro_getR (pc' := 5) ft_657 fk_657 q1365 dX6_laySeen_2 rfl hv1 ?_
  refine ro_iload_n (pc' := 6) dX6_laySeen_5 rfl rfl rfl ?_
  obtain ⟨v2, hv2, h⟩ := ah_bs h
  refine ro_iaload (pc' := 7) dX6_laySeen_6 rfl hv2 ?_
  obtain ⟨σ3, hσ3, h⟩ := ah_bs h
  refine ro_putI (pc' := 10) ft_644 fk_644 q1352 pd_644 dX6_laySeen_7 rfl hσ3 ?_
  refine ro_iconst (pc' := 11) dX6_laySeen_10 ic_0 rfl ?_
  refine ro_istore_n (pc' := 12) (L' := [some (va_rf r0), some (.int x1), some (.int (0 : Int32))]) dX6_laySeen_11 rfl (Nat.le_of_ble_eq_true rfl) rfl (ah_okp_i _) rfl ?_
  exact W_X6_laySeen_12 hκ _ _ _ _ _ h
theorem M_X6_laySeen {l : Launch} {D : ah_D}  {σ : ah_S} {r0 : Option Nat} {x1 : Int32} {σ1 : ah_S} (h : F_X6_laySeen σ r0 x1 = some σ1) : ah_Met l yX6_laySeen (Cond.code yX6_laySeen cX6_laySeen 3 none) 1 24 D [va_rf r0, .int x1] σ (.returned none, σ1) :=
  ah_ofG (own := "LeftAsFoundModel") (nm := "laySeen") (L0 := [some (va_rf r0), some (.int x1), none]) (by decide) rfl rfl rfl (ah_ao_1 (ah_rf_cat _) (ah_ao_1 rfl (ah_ao_n ah_ao_0))) (fun κ hκ => W_X6_laySeen hκ  σ r0 x1 h)
set_option maxRecDepth 20000 in
set_option maxHeartbeats 4000000 in
theorem W_X6_judge_113 {κ : ah_C} {rr : (Int32 × ah_S)} (hκ : ah_res κ = (.returned (some (.int rr.1)), rr.2))    : ∀ (n : Nat) (σ : ah_S) (r0 : Option Nat) (x2 : Int32) (x3 : Int32) (x4 : Int32), F_X6_judge_113 n σ r0 x2 x3 x4 = some rr → ah_G κ ("LeftAsFoundModel", "judge", 5, (some FieldType.int), [], 7, 166) cX6_judge σ 113 [some (va_rf r0), none, some (.int x2), some (.int x3), some (.int x4)] [] := by
  intro n
  induction n with
  | zero => intro σ r0 x2 x3 x4 h; cases h
  | succ n ih =>
    intro σ r0 x2 x3 x4 h
    rw [F_X6_judge_113] at h
    refine ro_iload (pc' := 115) dX6_judge_113 rfl rfl ?_
    refine ro_aload_n (pc' := 116) dX6_judge_115 rfl rfl rfl ?_
    obtain ⟨v1, hv1, h⟩ := ah_bs h
    refine ro_getI (pc' := 119) ft_636 fk_636 q1344 dX6_judge_116 rfl hv1 ?_
    refine ro_icmp_ge (pc' := 122) (tgt := 182) dX6_judge_119 rfl rfl (fun c => ?_) (fun c => ?_)
    · replace h := ah_ip c h
      refine ro_aload_n (pc' := 183) dX6_judge_182 rfl rfl rfl ?_
      obtain ⟨u2, hu2, h⟩ := ah_bs h
      obtain ⟨σ3, hσ3, h⟩ := ah_bs h
      refine ro_callV (pc' := 186) (As := []) (rest := []) (st' := []) (by decide) hu2 q1665 sl_X6_layHut (M_X6_layHut hσ3) q1663 q1666 q104 dd_X6_layHut rfl ⟨Nat.le_of_ble_eq_true rfl, Nat.le_of_ble_eq_true rfl⟩ (Nat.le_of_ble_eq_true rfl) dX6_judge_183 rfl rfl rfl ?_
      refine ro_iload_n (pc' := 187) dX6_judge_186 rfl rfl rfl ?_
      obtain rfl := Option.some.inj h
      exact ro_iret hκ dX6_judge_187
    · replace h := ah_in_ c h
      refine ro_iload (pc' := 124) dX6_judge_122 rfl rfl ?_
      refine ro_aload_n (pc' := 125) dX6_judge_124 rfl rfl rfl ?_
      obtain ⟨v4, hv4, h⟩ := ah_bs h
      refine ro_getI (pc' := 128) ft_644 fk_644 q1352 dX6_judge_125 rfl hv4 ?_
      refine ro_icmp_ge (pc' := 131) (tgt := 182) dX6_judge_128 rfl rfl (fun c => ?_) (fun c => ?_)
      · replace h := ah_ip c h
        refine ro_aload_n (pc' := 183) dX6_judge_182 rfl rfl rfl ?_
        obtain ⟨u5, hu5, h⟩ := ah_bs h
        obtain ⟨σ6, hσ6, h⟩ := ah_bs h
        refine ro_callV (pc' := 186) (As := []) (rest := []) (st' := []) (by decide) hu5 q1665 sl_X6_layHut (M_X6_layHut hσ6) q1663 q1666 q104 dd_X6_layHut rfl ⟨Nat.le_of_ble_eq_true rfl, Nat.le_of_ble_eq_true rfl⟩ (Nat.le_of_ble_eq_true rfl) dX6_judge_183 rfl rfl rfl ?_
        refine ro_iload_n (pc' := 187) dX6_judge_186 rfl rfl rfl ?_
        obtain rfl := Option.some.inj h
        exact ro_iret hκ dX6_judge_187
      · replace h := ah_in_ c h
        refine ro_iload_n (pc' := 132) dX6_judge_131 rfl rfl rfl ?_
        refine ro_if_ge (pc' := 135) (tgt := 182) dX6_judge_132 rfl rfl (fun c => ?_) (fun c => ?_)
        · replace h := ah_ip c h
          refine ro_aload_n (pc' := 183) dX6_judge_182 rfl rfl rfl ?_
          obtain ⟨u7, hu7, h⟩ := ah_bs h
          obtain ⟨σ8, hσ8, h⟩ := ah_bs h
          refine ro_callV (pc' := 186) (As := []) (rest := []) (st' := []) (by decide) hu7 q1665 sl_X6_layHut (M_X6_layHut hσ8) q1663 q1666 q104 dd_X6_layHut rfl ⟨Nat.le_of_ble_eq_true rfl, Nat.le_of_ble_eq_true rfl⟩ (Nat.le_of_ble_eq_true rfl) dX6_judge_183 rfl rfl rfl ?_
          refine ro_iload_n (pc' := 187) dX6_judge_186 rfl rfl rfl ?_
          obtain rfl := Option.some.inj h
          exact ro_iret hκ dX6_judge_187
        · replace h := ah_in_ c h
          refine ro_aload_n (pc' := 136) dX6_judge_135 rfl rfl rfl ?_
          refine ro_aload_n (pc' := 137) dX6_judge_136 rfl rfl rfl ?_
          obtain ⟨v9, hv9, h⟩ := ah_bs h
          refine ro_getR (pc' := 140) ft_635 fk_635 q1343 dX6_judge_137 rfl hv9 ?_
          refine ro_iload (pc' := 142) dX6_judge_140 rfl rfl ?_
          obtain ⟨v10, hv10, h⟩ := ah_bs h
          refine ro_iaload (pc' := 143) dX6_judge_142 rfl hv10 ?_
          obtain ⟨u11, hu11, h⟩ := ah_bs h
          obtain ⟨σ12, hσ12, h⟩ := ah_bs h
          refine ro_callV (pc' := 146) (As := [.int v10]) (rest := []) (st' := []) (by decide) hu11 q1638 sl_X6_goNight (M_X6_goNight hσ12) q1636 q1639 q104 dd_X6_goNight rfl ⟨Nat.le_of_ble_eq_true rfl, Nat.le_of_ble_eq_true rfl⟩ (Nat.le_of_ble_eq_true rfl) dX6_judge_143 rfl rfl rfl ?_
          refine ro_aload_n (pc' := 147) dX6_judge_146 rfl rfl rfl ?_
          obtain ⟨v13, hv13, h⟩ := ah_bs h
          refine ro_getR (pc' := 150) ft_643 fk_643 q1351 dX6_judge_147 rfl hv13 ?_
          refine ro_iload (pc' := 152) dX6_judge_150 rfl rfl ?_
          obtain ⟨v14, hv14, h⟩ := ah_bs h
          refine ro_iaload (pc' := 153) dX6_judge_152 rfl hv14 ?_
          refine ro_iconst (pc' := 154) dX6_judge_153 ic_m1 rfl ?_
          refine ro_icmp_eq (pc' := 157) (tgt := 176) dX6_judge_154 rfl rfl (fun c => ?_) (fun c => ?_)
          · replace h := ah_ip c h
            refine ro_iinc (pc' := 179) (L' := [some (va_rf r0), none, some (.int x2), some (.int x3), some (.int (x4 + (1 : Int32)))]) dX6_judge_176 rfl ic_1 (Nat.le_of_ble_eq_true rfl) rfl (ah_okp_i _) rfl ?_
            refine ro_goto (tgt := 113) dX6_judge_179 rfl ?_
            exact ih _ _ _ _ _ h
          · replace h := ah_in_ c h
            refine ro_aload_n (pc' := 158) dX6_judge_157 rfl rfl rfl ?_
            obtain ⟨v15, hv15, h⟩ := ah_bs h
            refine ro_getR (pc' := 161) ft_643 fk_643 q1351 dX6_judge_158 rfl hv15 ?_
            refine ro_iload (pc' := 163) dX6_judge_161 rfl rfl ?_
            obtain ⟨v16, hv16, h⟩ := ah_bs h
            refine ro_iaload (pc' := 164) dX6_judge_163 rfl hv16 ?_
            refine ro_aload_n (pc' := 165) dX6_judge_164 rfl rfl rfl ?_
            obtain ⟨v17, hv17, h⟩ := ah_bs h
            refine ro_getR (pc' := 168) ft_611 fk_611 q1319 dX6_judge_165 rfl hv17 ?_
            refine ro_iload_n (pc' := 169) dX6_judge_168 rfl rfl rfl ?_
            obtain ⟨v18, hv18, h⟩ := ah_bs h
            refine ro_iaload (pc' := 170) dX6_judge_169 rfl hv18 ?_
            refine ro_icmp_eq (pc' := 173) (tgt := 176) dX6_judge_170 rfl rfl (fun c => ?_) (fun c => ?_)
            · replace h := ah_ip c h
              refine ro_iinc (pc' := 179) (L' := [some (va_rf r0), none, some (.int x2), some (.int x3), some (.int (x4 + (1 : Int32)))]) dX6_judge_176 rfl ic_1 (Nat.le_of_ble_eq_true rfl) rfl (ah_okp_i _) rfl ?_
              refine ro_goto (tgt := 113) dX6_judge_179 rfl ?_
              exact ih _ _ _ _ _ h
            · replace h := ah_in_ c h
              refine ro_iload (pc' := 175) dX6_judge_173 rfl rfl ?_
              refine ro_istore_n (pc' := 176) (L' := [some (va_rf r0), none, some (.int x2), some (.int x4), some (.int x4)]) dX6_judge_175 rfl (Nat.le_of_ble_eq_true rfl) rfl (ah_okp_i _) rfl ?_
              refine ro_iinc (pc' := 179) (L' := [some (va_rf r0), none, some (.int x2), some (.int x4), some (.int (x4 + (1 : Int32)))]) dX6_judge_176 rfl ic_1 (Nat.le_of_ble_eq_true rfl) rfl (ah_okp_i _) rfl ?_
              refine ro_goto (tgt := 113) dX6_judge_179 rfl ?_
              exact ih _ _ _ _ _ h
set_option maxRecDepth 20000 in
set_option maxHeartbeats 4000000 in
theorem W_X6_judge {κ : ah_C} {rr : (Int32 × ah_S)} (hκ : ah_res κ = (.returned (some (.int rr.1)), rr.2))  (σ : ah_S) (r0 : Option Nat) (x1 : Int32) (x2 : Int32) (h : F_X6_judge σ r0 x1 x2 = some rr) : ah_G κ ("LeftAsFoundModel", "judge", 5, (some FieldType.int), [], 7, 166) cX6_judge σ 0 [some (va_rf r0), some (.int x1), some (.int x2), none, none] [] := by
  unfold F_X6_judge at h
  refine ro_iload_n (pc' := 1) dX6_judge_0 rfl rfl rfl ?_
  refine ro_if_lt (pc' := 4) (tgt := 31) dX6_judge_1 rfl rfl (fun c => ?_) (fun c => ?_)
  · replace h := ah_ip c h
    refine ro_iconst (pc' := 32) dX6_judge_31 ic_m1 rfl ?_
    obtain rfl := Option.some.inj h
    exact ro_iret hκ dX6_judge_32
  · replace h := ah_in_ c h
    refine ro_iload_n (pc' := 5) dX6_judge_4 rfl rfl rfl ?_
    refine ro_bipush (pc' := 7) dX6_judge_5 ib_10 rfl ?_
    obtain ⟨q1, hq1, h⟩ := ah_bs h
    refine ro_idiv (pc' := 8) dX6_judge_7 rfl hq1 ?_
    obtain ⟨v2, σ3, hv2, h⟩ := ah_bs2 h
    refine ro_callS (pc' := 11) (As := [.int q1]) (rest := []) (st' := [.int v2]) q1505 (M_X6_isShelf hv2) q1504 q1506 q104 dd_X6_isShelf rfl ⟨Nat.le_of_ble_eq_true rfl, Nat.le_of_ble_eq_true rfl⟩ (Nat.le_of_ble_eq_true rfl) dX6_judge_8 rfl rfl rfl ?_
    refine ro_if_eq (pc' := 14) (tgt := 31) dX6_judge_11 rfl rfl (fun c => ?_) (fun c => ?_)
    · replace h := ah_ip c h
      refine ro_iconst (pc' := 32) dX6_judge_31 ic_m1 rfl ?_
      obtain rfl := Option.some.inj h
      exact ro_iret hκ dX6_judge_32
    · replace h := ah_in_ c h
      refine ro_iload_n (pc' := 15) dX6_judge_14 rfl rfl rfl ?_
      refine ro_bipush (pc' := 17) dX6_judge_15 ib_10 rfl ?_
      obtain ⟨q4, hq4, h⟩ := ah_bs h
      refine ro_irem (pc' := 18) dX6_judge_17 rfl hq4 ?_
      obtain ⟨v5, σ6, hv5, h⟩ := ah_bs2 h
      refine ro_callS (pc' := 21) (As := [.int q4]) (rest := []) (st' := [.int v5]) q1505 (M_X6_isShelf hv5) q1504 q1506 q104 dd_X6_isShelf rfl ⟨Nat.le_of_ble_eq_true rfl, Nat.le_of_ble_eq_true rfl⟩ (Nat.le_of_ble_eq_true rfl) dX6_judge_18 rfl rfl rfl ?_
      refine ro_if_eq (pc' := 24) (tgt := 31) dX6_judge_21 rfl rfl (fun c => ?_) (fun c => ?_)
      · replace h := ah_ip c h
        refine ro_iconst (pc' := 32) dX6_judge_31 ic_m1 rfl ?_
        obtain rfl := Option.some.inj h
        exact ro_iret hκ dX6_judge_32
      · replace h := ah_in_ c h
        refine ro_iload_n (pc' := 25) dX6_judge_24 rfl rfl rfl ?_
        obtain ⟨v7, σ8, hv7, h⟩ := ah_bs2 h
        refine ro_callS (pc' := 28) (As := [.int x2]) (rest := []) (st' := [.int v7]) q1532 (M_X6_isThing hv7) q1531 q1533 q104 dd_X6_isThing rfl ⟨Nat.le_of_ble_eq_true rfl, Nat.le_of_ble_eq_true rfl⟩ (Nat.le_of_ble_eq_true rfl) dX6_judge_25 rfl rfl rfl ?_
        refine ro_if_ne (pc' := 31) (tgt := 33) dX6_judge_28 rfl rfl (fun c => ?_) (fun c => ?_)
        · replace h := ah_in_ c h
          refine ro_aload_n (pc' := 34) dX6_judge_33 rfl rfl rfl ?_
          obtain ⟨v9, hv9, h⟩ := ah_bs h
          refine ro_getR (pc' := 37) ft_656 fk_656 q1364 dX6_judge_34 rfl hv9 ?_
          refine ro_iload_n (pc' := 38) dX6_judge_37 rfl rfl rfl ?_
          refine ro_bipush (pc' := 40) dX6_judge_38 ib_10 rfl ?_
          obtain ⟨q10, hq10, h⟩ := ah_bs h
          refine ro_idiv (pc' := 41) dX6_judge_40 rfl hq10 ?_
          obtain ⟨v11, hv11, h⟩ := ah_bs h
          refine ro_iaload (pc' := 42) dX6_judge_41 rfl hv11 ?_
          refine ro_iconst (pc' := 43) dX6_judge_42 ic_m1 rfl ?_
          refine ro_icmp_eq (pc' := 46) (tgt := 59) dX6_judge_43 rfl rfl (fun c => ?_) (fun c => ?_)
          · replace h := ah_ip c h
            refine ro_bipush (pc' := 61) dX6_judge_59 ib_m11 rfl ?_
            obtain rfl := Option.some.inj h
            exact ro_iret hκ dX6_judge_61
          · replace h := ah_in_ c h
            refine ro_aload_n (pc' := 47) dX6_judge_46 rfl rfl rfl ?_
            obtain ⟨v12, hv12, h⟩ := ah_bs h
            refine ro_getR (pc' := 50) ft_656 fk_656 q1364 dX6_judge_47 rfl hv12 ?_
            refine ro_iload_n (pc' := 51) dX6_judge_50 rfl rfl rfl ?_
            refine ro_bipush (pc' := 53) dX6_judge_51 ib_10 rfl ?_
            obtain ⟨q13, hq13, h⟩ := ah_bs h
            refine ro_irem (pc' := 54) dX6_judge_53 rfl hq13 ?_
            obtain ⟨v14, hv14, h⟩ := ah_bs h
            refine ro_iaload (pc' := 55) dX6_judge_54 rfl hv14 ?_
            refine ro_iconst (pc' := 56) dX6_judge_55 ic_m1 rfl ?_
            refine ro_icmp_ne (pc' := 59) (tgt := 62) dX6_judge_56 rfl rfl (fun c => ?_) (fun c => ?_)
            · replace h := ah_in_ c h
              refine ro_aload_n (pc' := 63) dX6_judge_62 rfl rfl rfl ?_
              refine ro_iload_n (pc' := 64) dX6_judge_63 rfl rfl rfl ?_
              refine ro_bipush (pc' := 66) dX6_judge_64 ib_10 rfl ?_
              obtain ⟨q15, hq15, h⟩ := ah_bs h
              refine ro_idiv (pc' := 67) dX6_judge_66 rfl hq15 ?_
              obtain ⟨u16, hu16, h⟩ := ah_bs h
              obtain ⟨v17, σ18, hv17, h⟩ := ah_bs2 h
              refine ro_callV (pc' := 70) (As := [.int q15]) (rest := []) (st' := [.int v17]) (by decide) hu16 q1626 sl_X6_rowFault (M_X6_rowFault hv17) q1624 q1627 q104 dd_X6_rowFault rfl ⟨Nat.le_of_ble_eq_true rfl, Nat.le_of_ble_eq_true rfl⟩ (Nat.le_of_ble_eq_true rfl) dX6_judge_67 rfl rfl rfl ?_
              refine ro_if_lt (pc' := 73) (tgt := 84) dX6_judge_70 rfl rfl (fun c => ?_) (fun c => ?_)
              · replace h := ah_ip c h
                refine ro_bipush (pc' := 86) dX6_judge_84 ib_m12 rfl ?_
                obtain rfl := Option.some.inj h
                exact ro_iret hκ dX6_judge_86
              · replace h := ah_in_ c h
                refine ro_aload_n (pc' := 74) dX6_judge_73 rfl rfl rfl ?_
                refine ro_iload_n (pc' := 75) dX6_judge_74 rfl rfl rfl ?_
                refine ro_bipush (pc' := 77) dX6_judge_75 ib_10 rfl ?_
                obtain ⟨q19, hq19, h⟩ := ah_bs h
                refine ro_irem (pc' := 78) dX6_judge_77 rfl hq19 ?_
                obtain ⟨u20, hu20, h⟩ := ah_bs h
                obtain ⟨v21, σ22, hv21, h⟩ := ah_bs2 h
                refine ro_callV (pc' := 81) (As := [.int q19]) (rest := []) (st' := [.int v21]) (by decide) hu20 q1626 sl_X6_rowFault (M_X6_rowFault hv21) q1624 q1627 q104 dd_X6_rowFault rfl ⟨Nat.le_of_ble_eq_true rfl, Nat.le_of_ble_eq_true rfl⟩ (Nat.le_of_ble_eq_true rfl) dX6_judge_78 rfl rfl rfl ?_
                refine ro_if_ge (pc' := 84) (tgt := 87) dX6_judge_81 rfl rfl (fun c => ?_) (fun c => ?_)
                · replace h := ah_ip c h
                  refine ro_aload_n (pc' := 88) dX6_judge_87 rfl rfl rfl ?_
                  refine ro_iload_n (pc' := 89) dX6_judge_88 rfl rfl rfl ?_
                  refine ro_bipush (pc' := 91) dX6_judge_89 ib_10 rfl ?_
                  obtain ⟨q23, hq23, h⟩ := ah_bs h
                  refine ro_idiv (pc' := 92) dX6_judge_91 rfl hq23 ?_
                  obtain ⟨u24, hu24, h⟩ := ah_bs h
                  obtain ⟨σ25, hσ25, h⟩ := ah_bs h
                  refine ro_callV (pc' := 95) (As := [.int q23]) (rest := []) (st' := []) (by decide) hu24 q1630 sl_X6_layStays (M_X6_layStays hσ25) q1628 q1631 q104 dd_X6_layStays rfl ⟨Nat.le_of_ble_eq_true rfl, Nat.le_of_ble_eq_true rfl⟩ (Nat.le_of_ble_eq_true rfl) dX6_judge_92 rfl rfl rfl ?_
                  refine ro_aload_n (pc' := 96) dX6_judge_95 rfl rfl rfl ?_
                  refine ro_iload_n (pc' := 97) dX6_judge_96 rfl rfl rfl ?_
                  refine ro_bipush (pc' := 99) dX6_judge_97 ib_10 rfl ?_
                  obtain ⟨q26, hq26, h⟩ := ah_bs h
                  refine ro_irem (pc' := 100) dX6_judge_99 rfl hq26 ?_
                  obtain ⟨u27, hu27, h⟩ := ah_bs h
                  obtain ⟨σ28, hσ28, h⟩ := ah_bs h
                  refine ro_callV (pc' := 103) (As := [.int q26]) (rest := []) (st' := []) (by decide) hu27 q1751 sl_X6_laySeen (M_X6_laySeen hσ28) q1749 q1752 q104 dd_X6_laySeen rfl ⟨Nat.le_of_ble_eq_true rfl, Nat.le_of_ble_eq_true rfl⟩ (Nat.le_of_ble_eq_true rfl) dX6_judge_100 rfl rfl rfl ?_
                  refine ro_aload_n (pc' := 104) dX6_judge_103 rfl rfl rfl ?_
                  obtain ⟨u29, hu29, h⟩ := ah_bs h
                  obtain ⟨σ30, hσ30, h⟩ := ah_bs h
                  refine ro_callV (pc' := 107) (As := []) (rest := []) (st' := []) (by decide) hu29 q1634 sl_X6_keepHut (M_X6_keepHut hσ30) q1632 q1635 q104 dd_X6_keepHut rfl ⟨Nat.le_of_ble_eq_true rfl, Nat.le_of_ble_eq_true rfl⟩ (Nat.le_of_ble_eq_true rfl) dX6_judge_104 rfl rfl rfl ?_
                  refine ro_bipush (pc' := 109) dX6_judge_107 ib_m2 rfl ?_
                  refine ro_istore_n (pc' := 110) (L' := [some (va_rf r0), some (.int x1), some (.int x2), some (.int (-2 : Int32)), none]) dX6_judge_109 rfl (Nat.le_of_ble_eq_true rfl) rfl (ah_okp_i _) rfl ?_
                  refine ro_iconst (pc' := 111) dX6_judge_110 ic_0 rfl ?_
                  refine ro_istore (pc' := 113) (L' := [some (va_rf r0), some (.int x1), some (.int x2), some (.int (-2 : Int32)), some (.int (0 : Int32))]) dX6_judge_111 (Nat.le_of_ble_eq_true rfl) rfl (ah_okp_i _) rfl ?_
                  refine ro_weak (L' := [some (va_rf r0), none, some (.int x2), some (.int (-2 : Int32)), some (.int (0 : Int32))]) (ah_ls_s (ah_ls_n (ah_ls_s (ah_ls_s (ah_ls_s ah_ls_0))))) ?_
                  exact W_X6_judge_113 hκ _ _ _ _ _ _ h
                · replace h := ah_in_ c h
                  refine ro_bipush (pc' := 86) dX6_judge_84 ib_m12 rfl ?_
                  obtain rfl := Option.some.inj h
                  exact ro_iret hκ dX6_judge_86
            · replace h := ah_ip c h
              refine ro_bipush (pc' := 61) dX6_judge_59 ib_m11 rfl ?_
              obtain rfl := Option.some.inj h
              exact ro_iret hκ dX6_judge_61
        · replace h := ah_ip c h
          refine ro_iconst (pc' := 32) dX6_judge_31 ic_m1 rfl ?_
          obtain rfl := Option.some.inj h
          exact ro_iret hκ dX6_judge_32
theorem M_X6_judge {l : Launch} {D : ah_D}  {σ : ah_S} {r0 : Option Nat} {x1 : Int32} {x2 : Int32} {v : Int32} {σ1 : ah_S} (h : F_X6_judge σ r0 x1 x2 = some (v, σ1)) : ah_Met l yX6_judge (Cond.code yX6_judge cX6_judge 5 (some FieldType.int)) 7 166 D [va_rf r0, .int x1, .int x2] σ (.returned (some (.int v)), σ1) :=
  ah_ofG (own := "LeftAsFoundModel") (nm := "judge") (L0 := [some (va_rf r0), some (.int x1), some (.int x2), none, none]) (by decide) rfl rfl rfl (ah_ao_1 (ah_rf_cat _) (ah_ao_1 rfl (ah_ao_1 rfl (ah_ao_n (ah_ao_n ah_ao_0))))) (fun κ hκ => W_X6_judge hκ  σ r0 x1 x2 h)
set_option maxRecDepth 20000 in
set_option maxHeartbeats 4000000 in
theorem W_X6_keep {κ : ah_C} {rr : (Int32 × ah_S)} (hκ : ah_res κ = (.returned (some (.int rr.1)), rr.2))  (σ : ah_S) (r0 : Option Nat) (x1 : Int32) (x2 : Int32) (h : F_X6_keep σ r0 x1 x2 = some rr) : ah_G κ ("LeftAsFoundModel", "keep", 3, (some FieldType.int), [], 3, 67) cX6_keep σ 0 [some (va_rf r0), some (.int x1), some (.int x2)] [] := by
  unfold F_X6_keep at h
  refine ro_iload_n (pc' := 1) dX6_keep_0 rfl rfl rfl ?_
  obtain ⟨v1, σ2, hv1, h⟩ := ah_bs2 h
  refine ro_callS (pc' := 4) (As := [.int x1]) (rest := []) (st' := [.int v1]) q1505 (M_X6_isShelf hv1) q1504 q1506 q104 dd_X6_isShelf rfl ⟨Nat.le_of_ble_eq_true rfl, Nat.le_of_ble_eq_true rfl⟩ (Nat.le_of_ble_eq_true rfl) dX6_keep_1 rfl rfl rfl ?_
  refine ro_if_eq (pc' := 7) (tgt := 20) dX6_keep_4 rfl rfl (fun c => ?_) (fun c => ?_)
  · replace h := ah_ip c h
    refine ro_iconst (pc' := 21) dX6_keep_20 ic_m1 rfl ?_
    obtain rfl := Option.some.inj h
    exact ro_iret hκ dX6_keep_21
  · replace h := ah_in_ c h
    refine ro_iload_n (pc' := 8) dX6_keep_7 rfl rfl rfl ?_
    refine ro_iconst (pc' := 9) dX6_keep_8 ic_m1 rfl ?_
    refine ro_icmp_eq (pc' := 12) (tgt := 22) dX6_keep_9 rfl rfl (fun c => ?_) (fun c => ?_)
    · replace h := ah_ip c h
      refine ro_aload_n (pc' := 23) dX6_keep_22 rfl rfl rfl ?_
      obtain ⟨v3, hv3, h⟩ := ah_bs h
      refine ro_getR (pc' := 26) ft_656 fk_656 q1364 dX6_keep_23 rfl hv3 ?_
      refine ro_iload_n (pc' := 27) dX6_keep_26 rfl rfl rfl ?_
      refine ro_iload_n (pc' := 28) dX6_keep_27 rfl rfl rfl ?_
      obtain ⟨σ4, hσ4, h⟩ := ah_bs h
      refine ro_iastore (pc' := 29) dX6_keep_28 rfl hσ4 ?_
      refine ro_iconst (pc' := 30) dX6_keep_29 ic_1 rfl ?_
      obtain rfl := Option.some.inj h
      exact ro_iret hκ dX6_keep_30
    · replace h := ah_in_ c h
      refine ro_aload_n (pc' := 13) dX6_keep_12 rfl rfl rfl ?_
      refine ro_iload_n (pc' := 14) dX6_keep_13 rfl rfl rfl ?_
      obtain ⟨u5, hu5, h⟩ := ah_bs h
      obtain ⟨v6, σ7, hv6, h⟩ := ah_bs2 h
      refine ro_callV (pc' := 17) (As := [.int x2]) (rest := []) (st' := [.int v6]) (by decide) hu5 q1816 sl_X6_isBody (M_X6_isBody hv6) q1814 q1817 q104 dd_X6_isBody rfl ⟨Nat.le_of_ble_eq_true rfl, Nat.le_of_ble_eq_true rfl⟩ (Nat.le_of_ble_eq_true rfl) dX6_keep_14 rfl rfl rfl ?_
      refine ro_if_ne (pc' := 20) (tgt := 22) dX6_keep_17 rfl rfl (fun c => ?_) (fun c => ?_)
      · replace h := ah_in_ c h
        refine ro_aload_n (pc' := 23) dX6_keep_22 rfl rfl rfl ?_
        obtain ⟨v8, hv8, h⟩ := ah_bs h
        refine ro_getR (pc' := 26) ft_656 fk_656 q1364 dX6_keep_23 rfl hv8 ?_
        refine ro_iload_n (pc' := 27) dX6_keep_26 rfl rfl rfl ?_
        refine ro_iload_n (pc' := 28) dX6_keep_27 rfl rfl rfl ?_
        obtain ⟨σ9, hσ9, h⟩ := ah_bs h
        refine ro_iastore (pc' := 29) dX6_keep_28 rfl hσ9 ?_
        refine ro_iconst (pc' := 30) dX6_keep_29 ic_1 rfl ?_
        obtain rfl := Option.some.inj h
        exact ro_iret hκ dX6_keep_30
      · replace h := ah_ip c h
        refine ro_iconst (pc' := 21) dX6_keep_20 ic_m1 rfl ?_
        obtain rfl := Option.some.inj h
        exact ro_iret hκ dX6_keep_21
theorem M_X6_keep {l : Launch} {D : ah_D}  {σ : ah_S} {r0 : Option Nat} {x1 : Int32} {x2 : Int32} {v : Int32} {σ1 : ah_S} (h : F_X6_keep σ r0 x1 x2 = some (v, σ1)) : ah_Met l yX6_keep (Cond.code yX6_keep cX6_keep 3 (some FieldType.int)) 3 67 D [va_rf r0, .int x1, .int x2] σ (.returned (some (.int v)), σ1) :=
  ah_ofG (own := "LeftAsFoundModel") (nm := "keep") (L0 := [some (va_rf r0), some (.int x1), some (.int x2)]) (by decide) rfl rfl rfl (ah_ao_1 (ah_rf_cat _) (ah_ao_1 rfl (ah_ao_1 rfl ah_ao_0))) (fun κ hκ => W_X6_keep hκ  σ r0 x1 x2 h)
set_option maxRecDepth 20000 in
set_option maxHeartbeats 4000000 in
theorem W_X6_keepStays_2 {κ : ah_C} {rr : ah_S} (hκ : ah_res κ = (.returned none, rr))    : ∀ (n : Nat) (σ : ah_S) (r0 : Option Nat) (x1 : Int32), F_X6_keepStays_2 n σ r0 x1 = some rr → ah_G κ ("LeftAsFoundModel", "keepStays", 2, none, [], 1, 24) cX6_keepStays σ 2 [some (va_rf r0), some (.int x1)] [] := by
  intro n
  induction n with
  | zero => intro σ r0 x1 h; cases h
  | succ n ih =>
    intro σ r0 x1 h
    rw [F_X6_keepStays_2] at h
    refine ro_iload_n (pc' := 3) dX6_keepStays_2 rfl rfl rfl ?_
    refine ro_aload_n (pc' := 4) dX6_keepStays_3 rfl rfl rfl ?_
    obtain ⟨v1, hv1, h⟩ := ah_bs h
    refine ro_getI (pc' := 7) ft_636 fk_636 q1344 dX6_keepStays_4 rfl hv1 ?_
    refine ro_icmp_ge (pc' := 10) (tgt := 28) dX6_keepStays_7 rfl rfl (fun c => ?_) (fun c => ?_)
    · replace h := ah_ip c h
      obtain rfl := Option.some.inj h
      exact ro_vret hκ dX6_keepStays_28
    · replace h := ah_in_ c h
      refine ro_aload_n (pc' := 11) dX6_keepStays_10 rfl rfl rfl ?_
      obtain ⟨v2, hv2, h⟩ := ah_bs h
      refine ro_getR (pc' := 14) ft_638 fk_638 q1346 dX6_keepStays_11 rfl hv2 ?_
      refine ro_iload_n (pc' := 15) dX6_keepStays_14 rfl rfl rfl ?_
      refine ro_aload_n (pc' := 16) dX6_keepStays_15 rfl rfl rfl ?_
      obtain ⟨v3, hv3, h⟩ := ah_bs h
      refine ro_getR (pc' := 19) ft_635 fk_635 q1343 dX6_keepStays_16 rfl hv3 ?_
      refine ro_iload_n (pc' := 20) dX6_keepStays_19 rfl rfl rfl ?_
      obtain ⟨v4, hv4, h⟩ := ah_bs h
      refine ro_iaload (pc' := 21) dX6_keepStays_20 rfl hv4 ?_
      obtain ⟨σ5, hσ5, h⟩ := ah_bs h
      refine ro_iastore (pc' := 22) dX6_keepStays_21 rfl hσ5 ?_
      refine ro_iinc (pc' := 25) (L' := [some (va_rf r0), some (.int (x1 + (1 : Int32)))]) dX6_keepStays_22 rfl ic_1 (Nat.le_of_ble_eq_true rfl) rfl (ah_okp_r _) rfl ?_
      refine ro_goto (tgt := 2) dX6_keepStays_25 rfl ?_
      exact ih _ _ _ h
set_option maxRecDepth 20000 in
set_option maxHeartbeats 4000000 in
theorem W_X6_keepStays {κ : ah_C} {rr : ah_S} (hκ : ah_res κ = (.returned none, rr))  (σ : ah_S) (r0 : Option Nat) (h : F_X6_keepStays σ r0 = some rr) : ah_G κ ("LeftAsFoundModel", "keepStays", 2, none, [], 1, 24) cX6_keepStays σ 0 [some (va_rf r0), none] [] := by
  unfold F_X6_keepStays at h
  refine ro_iconst (pc' := 1) dX6_keepStays_0 ic_0 rfl ?_
  refine ro_istore_n (pc' := 2) (L' := [some (va_rf r0), some (.int (0 : Int32))]) dX6_keepStays_1 rfl (Nat.le_of_ble_eq_true rfl) rfl (ah_okp_r _) rfl ?_
  exact W_X6_keepStays_2 hκ _ _ _ _ h
theorem M_X6_keepStays {l : Launch} {D : ah_D}  {σ : ah_S} {r0 : Option Nat} {σ1 : ah_S} (h : F_X6_keepStays σ r0 = some σ1) : ah_Met l yX6_keepStays (Cond.code yX6_keepStays cX6_keepStays 2 none) 1 24 D [va_rf r0] σ (.returned none, σ1) :=
  ah_ofG (own := "LeftAsFoundModel") (nm := "keepStays") (L0 := [some (va_rf r0), none]) (by decide) rfl rfl rfl (ah_ao_1 (ah_rf_cat _) (ah_ao_n ah_ao_0)) (fun κ hκ => W_X6_keepStays hκ  σ r0 h)
set_option maxRecDepth 20000 in
set_option maxHeartbeats 4000000 in
theorem W_X6_led {κ : ah_C} {rr : (Int32 × ah_S)} (hκ : ah_res κ = (.returned (some (.int rr.1)), rr.2))  (σ : ah_S) (r0 : Option Nat) (x1 : Int32) (h : F_X6_led σ r0 x1 = some rr) : ah_G κ ("LeftAsFoundModel", "led", 2, (some FieldType.int), [], 2, 46) cX6_led σ 0 [some (va_rf r0), some (.int x1)] [] := by
  unfold F_X6_led at h
  refine ro_iload_n (pc' := 1) dX6_led_0 rfl rfl rfl ?_
  refine ro_iconst (pc' := 2) dX6_led_1 ic_0 rfl ?_
  refine ro_iconst (pc' := 3) dX6_led_2 ic_3 rfl ?_
  obtain ⟨v1, σ2, hv1, h⟩ := ah_bs2 h
  refine ro_callS (pc' := 6) (As := [.int x1, .int (0 : Int32), .int (3 : Int32)]) (rest := []) (st' := [.int v1]) q1494 (M_X6_in hv1) q1493 q1495 q104 dd_X6_in rfl ⟨Nat.le_of_ble_eq_true rfl, Nat.le_of_ble_eq_true rfl⟩ (Nat.le_of_ble_eq_true rfl) dX6_led_3 rfl rfl rfl ?_
  refine ro_if_eq (pc' := 9) (tgt := 18) dX6_led_6 rfl rfl (fun c => ?_) (fun c => ?_)
  · replace h := ah_ip c h
    refine ro_iconst (pc' := 19) dX6_led_18 ic_m1 rfl ?_
    obtain rfl := Option.some.inj h
    exact ro_iret hκ dX6_led_19
  · replace h := ah_in_ c h
    refine ro_aload_n (pc' := 10) dX6_led_9 rfl rfl rfl ?_
    obtain ⟨v3, hv3, h⟩ := ah_bs h
    refine ro_getR (pc' := 13) ft_648 fk_648 q1356 dX6_led_10 rfl hv3 ?_
    refine ro_iload_n (pc' := 14) dX6_led_13 rfl rfl rfl ?_
    obtain ⟨v4, hv4, h⟩ := ah_bs h
    refine ro_iaload (pc' := 15) dX6_led_14 rfl hv4 ?_
    refine ro_goto (tgt := 19) dX6_led_15 rfl ?_
    obtain rfl := Option.some.inj h
    exact ro_iret hκ dX6_led_19
theorem M_X6_led {l : Launch} {D : ah_D}  {σ : ah_S} {r0 : Option Nat} {x1 : Int32} {v : Int32} {σ1 : ah_S} (h : F_X6_led σ r0 x1 = some (v, σ1)) : ah_Met l yX6_led (Cond.code yX6_led cX6_led 2 (some FieldType.int)) 2 46 D [va_rf r0, .int x1] σ (.returned (some (.int v)), σ1) :=
  ah_ofG (own := "LeftAsFoundModel") (nm := "led") (L0 := [some (va_rf r0), some (.int x1)]) (by decide) rfl rfl rfl (ah_ao_1 (ah_rf_cat _) (ah_ao_1 rfl ah_ao_0)) (fun κ hκ => W_X6_led hκ  σ r0 x1 h)
set_option maxRecDepth 20000 in
set_option maxHeartbeats 4000000 in
theorem W_X6_level_56 {κ : ah_C} {rr : (Int32 × ah_S)} (hκ : ah_res κ = (.returned (some (.int rr.1)), rr.2))    : ∀ (n : Nat) (σ : ah_S) (r0 : Option Nat) (x2 : Int32) (x3 : Int32) (x4 : Int32), F_X6_level_56 n σ r0 x2 x3 x4 = some rr → ah_G κ ("LeftAsFoundModel", "level", 5, (some FieldType.int), [], 7, 166) cX6_level σ 56 [some (va_rf r0), none, some (.int x2), some (.int x3), some (.int x4)] [] := by
  intro n
  induction n with
  | zero => intro σ r0 x2 x3 x4 h; cases h
  | succ n ih =>
    intro σ r0 x2 x3 x4 h
    rw [F_X6_level_56] at h
    refine ro_iload (pc' := 58) dX6_level_56 rfl rfl ?_
    refine ro_iload_n (pc' := 59) dX6_level_58 rfl rfl rfl ?_
    refine ro_icmp_ge (pc' := 62) (tgt := 79) dX6_level_59 rfl rfl (fun c => ?_) (fun c => ?_)
    · replace h := ah_ip c h
      refine ro_aload_n (pc' := 80) dX6_level_79 rfl rfl rfl ?_
      obtain ⟨v1, hv1, h⟩ := ah_bs h
      refine ro_getR (pc' := 83) ft_611 fk_611 q1319 dX6_level_80 rfl hv1 ?_
      refine ro_iload_n (pc' := 84) dX6_level_83 rfl rfl rfl ?_
      obtain ⟨v2, hv2, h⟩ := ah_bs h
      refine ro_iaload (pc' := 85) dX6_level_84 rfl hv2 ?_
      refine ro_istore (pc' := 87) (L' := [some (va_rf r0), none, some (.int x2), some (.int x3), some (.int v2)]) dX6_level_85 (Nat.le_of_ble_eq_true rfl) rfl (ah_okp_i _) rfl ?_
      refine ro_aload_n (pc' := 88) dX6_level_87 rfl rfl rfl ?_
      obtain ⟨u3, hu3, h⟩ := ah_bs h
      obtain ⟨σ4, hσ4, h⟩ := ah_bs h
      refine ro_callV (pc' := 91) (As := []) (rest := []) (st' := []) (by decide) hu3 q1665 sl_X6_layHut (M_X6_layHut hσ4) q1663 q1666 q104 dd_X6_layHut rfl ⟨Nat.le_of_ble_eq_true rfl, Nat.le_of_ble_eq_true rfl⟩ (Nat.le_of_ble_eq_true rfl) dX6_level_88 rfl rfl rfl ?_
      refine ro_iload (pc' := 93) dX6_level_91 rfl rfl ?_
      obtain rfl := Option.some.inj h
      exact ro_iret hκ dX6_level_93
    · replace h := ah_in_ c h
      refine ro_aload_n (pc' := 63) dX6_level_62 rfl rfl rfl ?_
      refine ro_aload_n (pc' := 64) dX6_level_63 rfl rfl rfl ?_
      obtain ⟨v5, hv5, h⟩ := ah_bs h
      refine ro_getR (pc' := 67) ft_635 fk_635 q1343 dX6_level_64 rfl hv5 ?_
      refine ro_iload (pc' := 69) dX6_level_67 rfl rfl ?_
      obtain ⟨v6, hv6, h⟩ := ah_bs h
      refine ro_iaload (pc' := 70) dX6_level_69 rfl hv6 ?_
      obtain ⟨u7, hu7, h⟩ := ah_bs h
      obtain ⟨σ8, hσ8, h⟩ := ah_bs h
      refine ro_callV (pc' := 73) (As := [.int v6]) (rest := []) (st' := []) (by decide) hu7 q1638 sl_X6_goNight (M_X6_goNight hσ8) q1636 q1639 q104 dd_X6_goNight rfl ⟨Nat.le_of_ble_eq_true rfl, Nat.le_of_ble_eq_true rfl⟩ (Nat.le_of_ble_eq_true rfl) dX6_level_70 rfl rfl rfl ?_
      refine ro_iinc (pc' := 76) (L' := [some (va_rf r0), none, some (.int x2), some (.int x3), some (.int (x4 + (1 : Int32)))]) dX6_level_73 rfl ic_1 (Nat.le_of_ble_eq_true rfl) rfl (ah_okp_i _) rfl ?_
      refine ro_goto (tgt := 56) dX6_level_76 rfl ?_
      exact ih _ _ _ _ _ h
set_option maxRecDepth 20000 in
set_option maxHeartbeats 4000000 in
theorem W_X6_level {κ : ah_C} {rr : (Int32 × ah_S)} (hκ : ah_res κ = (.returned (some (.int rr.1)), rr.2))  (σ : ah_S) (r0 : Option Nat) (x1 : Int32) (x2 : Int32) (x3 : Int32) (h : F_X6_level σ r0 x1 x2 x3 = some rr) : ah_G κ ("LeftAsFoundModel", "level", 5, (some FieldType.int), [], 7, 166) cX6_level σ 0 [some (va_rf r0), some (.int x1), some (.int x2), some (.int x3), none] [] := by
  unfold F_X6_level at h
  refine ro_iload_n (pc' := 1) dX6_level_0 rfl rfl rfl ?_
  obtain ⟨v1, σ2, hv1, h⟩ := ah_bs2 h
  refine ro_callS (pc' := 4) (As := [.int x1]) (rest := []) (st' := [.int v1]) q1505 (M_X6_isShelf hv1) q1504 q1506 q104 dd_X6_isShelf rfl ⟨Nat.le_of_ble_eq_true rfl, Nat.le_of_ble_eq_true rfl⟩ (Nat.le_of_ble_eq_true rfl) dX6_level_1 rfl rfl rfl ?_
  refine ro_if_eq (pc' := 7) (tgt := 18) dX6_level_4 rfl rfl (fun c => ?_) (fun c => ?_)
  · replace h := ah_ip c h
    refine ro_iconst (pc' := 19) dX6_level_18 ic_m1 rfl ?_
    obtain rfl := Option.some.inj h
    exact ro_iret hκ dX6_level_19
  · replace h := ah_in_ c h
    refine ro_iload_n (pc' := 8) dX6_level_7 rfl rfl rfl ?_
    obtain ⟨v3, σ4, hv3, h⟩ := ah_bs2 h
    refine ro_callS (pc' := 11) (As := [.int x2]) (rest := []) (st' := [.int v3]) q1532 (M_X6_isThing hv3) q1531 q1533 q104 dd_X6_isThing rfl ⟨Nat.le_of_ble_eq_true rfl, Nat.le_of_ble_eq_true rfl⟩ (Nat.le_of_ble_eq_true rfl) dX6_level_8 rfl rfl rfl ?_
    refine ro_if_eq (pc' := 14) (tgt := 18) dX6_level_11 rfl rfl (fun c => ?_) (fun c => ?_)
    · replace h := ah_ip c h
      refine ro_iconst (pc' := 19) dX6_level_18 ic_m1 rfl ?_
      obtain rfl := Option.some.inj h
      exact ro_iret hκ dX6_level_19
    · replace h := ah_in_ c h
      refine ro_iload_n (pc' := 15) dX6_level_14 rfl rfl rfl ?_
      refine ro_if_ge (pc' := 18) (tgt := 20) dX6_level_15 rfl rfl (fun c => ?_) (fun c => ?_)
      · replace h := ah_ip c h
        refine ro_aload_n (pc' := 21) dX6_level_20 rfl rfl rfl ?_
        refine ro_iload_n (pc' := 22) dX6_level_21 rfl rfl rfl ?_
        obtain ⟨u5, hu5, h⟩ := ah_bs h
        obtain ⟨v6, σ7, hv6, h⟩ := ah_bs2 h
        refine ro_callV (pc' := 25) (As := [.int x1]) (rest := []) (st' := [.int v6]) (by decide) hu5 q1626 sl_X6_rowFault (M_X6_rowFault hv6) q1624 q1627 q104 dd_X6_rowFault rfl ⟨Nat.le_of_ble_eq_true rfl, Nat.le_of_ble_eq_true rfl⟩ (Nat.le_of_ble_eq_true rfl) dX6_level_22 rfl rfl rfl ?_
        refine ro_if_ge (pc' := 28) (tgt := 34) dX6_level_25 rfl rfl (fun c => ?_) (fun c => ?_)
        · replace h := ah_ip c h
          refine ro_aload_n (pc' := 35) dX6_level_34 rfl rfl rfl ?_
          refine ro_iload_n (pc' := 36) dX6_level_35 rfl rfl rfl ?_
          obtain ⟨u8, hu8, h⟩ := ah_bs h
          obtain ⟨σ9, hσ9, h⟩ := ah_bs h
          refine ro_callV (pc' := 39) (As := [.int x1]) (rest := []) (st' := []) (by decide) hu8 q1630 sl_X6_layStays (M_X6_layStays hσ9) q1628 q1631 q104 dd_X6_layStays rfl ⟨Nat.le_of_ble_eq_true rfl, Nat.le_of_ble_eq_true rfl⟩ (Nat.le_of_ble_eq_true rfl) dX6_level_36 rfl rfl rfl ?_
          refine ro_iload_n (pc' := 40) dX6_level_39 rfl rfl rfl ?_
          refine ro_aload_n (pc' := 41) dX6_level_40 rfl rfl rfl ?_
          obtain ⟨v10, hv10, h⟩ := ah_bs h
          refine ro_getI (pc' := 44) ft_636 fk_636 q1344 dX6_level_41 rfl hv10 ?_
          refine ro_icmp_le (pc' := 47) (tgt := 49) dX6_level_44 rfl rfl (fun c => ?_) (fun c => ?_)
          · replace h := ah_ip c h
            refine ro_aload_n (pc' := 50) dX6_level_49 rfl rfl rfl ?_
            obtain ⟨u11, hu11, h⟩ := ah_bs h
            obtain ⟨σ12, hσ12, h⟩ := ah_bs h
            refine ro_callV (pc' := 53) (As := []) (rest := []) (st' := []) (by decide) hu11 q1634 sl_X6_keepHut (M_X6_keepHut hσ12) q1632 q1635 q104 dd_X6_keepHut rfl ⟨Nat.le_of_ble_eq_true rfl, Nat.le_of_ble_eq_true rfl⟩ (Nat.le_of_ble_eq_true rfl) dX6_level_50 rfl rfl rfl ?_
            refine ro_iconst (pc' := 54) dX6_level_53 ic_0 rfl ?_
            refine ro_istore (pc' := 56) (L' := [some (va_rf r0), some (.int x1), some (.int x2), some (.int x3), some (.int (0 : Int32))]) dX6_level_54 (Nat.le_of_ble_eq_true rfl) rfl (ah_okp_i _) rfl ?_
            refine ro_weak (L' := [some (va_rf r0), none, some (.int x2), some (.int x3), some (.int (0 : Int32))]) (ah_ls_s (ah_ls_n (ah_ls_s (ah_ls_s (ah_ls_s ah_ls_0))))) ?_
            exact W_X6_level_56 hκ _ _ _ _ _ _ h
          · replace h := ah_in_ c h
            refine ro_iconst (pc' := 48) dX6_level_47 ic_m1 rfl ?_
            obtain rfl := Option.some.inj h
            exact ro_iret hκ dX6_level_48
        · replace h := ah_in_ c h
          refine ro_aload_n (pc' := 29) dX6_level_28 rfl rfl rfl ?_
          refine ro_iload_n (pc' := 30) dX6_level_29 rfl rfl rfl ?_
          obtain ⟨u13, hu13, h⟩ := ah_bs h
          obtain ⟨v14, σ15, hv14, h⟩ := ah_bs2 h
          refine ro_callV (pc' := 33) (As := [.int x1]) (rest := []) (st' := [.int v14]) (by decide) hu13 q1626 sl_X6_rowFault (M_X6_rowFault hv14) q1624 q1627 q104 dd_X6_rowFault rfl ⟨Nat.le_of_ble_eq_true rfl, Nat.le_of_ble_eq_true rfl⟩ (Nat.le_of_ble_eq_true rfl) dX6_level_30 rfl rfl rfl ?_
          obtain rfl := Option.some.inj h
          exact ro_iret hκ dX6_level_33
      · replace h := ah_in_ c h
        refine ro_iconst (pc' := 19) dX6_level_18 ic_m1 rfl ?_
        obtain rfl := Option.some.inj h
        exact ro_iret hκ dX6_level_19
theorem M_X6_level {l : Launch} {D : ah_D}  {σ : ah_S} {r0 : Option Nat} {x1 : Int32} {x2 : Int32} {x3 : Int32} {v : Int32} {σ1 : ah_S} (h : F_X6_level σ r0 x1 x2 x3 = some (v, σ1)) : ah_Met l yX6_level (Cond.code yX6_level cX6_level 5 (some FieldType.int)) 7 166 D [va_rf r0, .int x1, .int x2, .int x3] σ (.returned (some (.int v)), σ1) :=
  ah_ofG (own := "LeftAsFoundModel") (nm := "level") (L0 := [some (va_rf r0), some (.int x1), some (.int x2), some (.int x3), none]) (by decide) rfl rfl rfl (ah_ao_1 (ah_rf_cat _) (ah_ao_1 rfl (ah_ao_1 rfl (ah_ao_1 rfl (ah_ao_n ah_ao_0))))) (fun κ hκ => W_X6_level hκ  σ r0 x1 x2 x3 h)
set_option maxRecDepth 20000 in
set_option maxHeartbeats 4000000 in
theorem W_X6_lossOf_8 {κ : ah_C} {rr : (Int32 × ah_S)} (hκ : ah_res κ = (.returned (some (.int rr.1)), rr.2))    : ∀ (n : Nat) (σ : ah_S) (r0 : Option Nat) (x1 : Int32) (x2 : Int32), F_X6_lossOf_8 n σ r0 x1 x2 = some rr → ah_G κ ("LeftAsFoundModel", "lossOf", 3, (some FieldType.int), [], 7, 166) cX6_lossOf σ 8 [some (va_rf r0), some (.int x1), some (.int x2)] [] := by
  intro n
  induction n with
  | zero => intro σ r0 x1 x2 h; cases h
  | succ n ih =>
    intro σ r0 x1 x2 h
    rw [F_X6_lossOf_8] at h
    refine ro_iload_n (pc' := 9) dX6_lossOf_8 rfl rfl rfl ?_
    refine ro_aload_n (pc' := 10) dX6_lossOf_9 rfl rfl rfl ?_
    obtain ⟨v1, hv1, h⟩ := ah_bs h
    refine ro_getI (pc' := 13) ft_636 fk_636 q1344 dX6_lossOf_10 rfl hv1 ?_
    refine ro_icmp_ge (pc' := 16) (tgt := 39) dX6_lossOf_13 rfl rfl (fun c => ?_) (fun c => ?_)
    · replace h := ah_ip c h
      refine ro_aload_n (pc' := 40) dX6_lossOf_39 rfl rfl rfl ?_
      obtain ⟨u2, hu2, h⟩ := ah_bs h
      obtain ⟨σ3, hσ3, h⟩ := ah_bs h
      refine ro_callV (pc' := 43) (As := []) (rest := []) (st' := []) (by decide) hu2 q1665 sl_X6_layHut (M_X6_layHut hσ3) q1663 q1666 q104 dd_X6_layHut rfl ⟨Nat.le_of_ble_eq_true rfl, Nat.le_of_ble_eq_true rfl⟩ (Nat.le_of_ble_eq_true rfl) dX6_lossOf_40 rfl rfl rfl ?_
      refine ro_iload_n (pc' := 44) dX6_lossOf_43 rfl rfl rfl ?_
      obtain rfl := Option.some.inj h
      exact ro_iret hκ dX6_lossOf_44
    · replace h := ah_in_ c h
      refine ro_aload_n (pc' := 17) dX6_lossOf_16 rfl rfl rfl ?_
      refine ro_aload_n (pc' := 18) dX6_lossOf_17 rfl rfl rfl ?_
      obtain ⟨v4, hv4, h⟩ := ah_bs h
      refine ro_getR (pc' := 21) ft_635 fk_635 q1343 dX6_lossOf_18 rfl hv4 ?_
      refine ro_iload_n (pc' := 22) dX6_lossOf_21 rfl rfl rfl ?_
      obtain ⟨v5, hv5, h⟩ := ah_bs h
      refine ro_iaload (pc' := 23) dX6_lossOf_22 rfl hv5 ?_
      obtain ⟨u6, hu6, h⟩ := ah_bs h
      obtain ⟨σ7, hσ7, h⟩ := ah_bs h
      refine ro_callV (pc' := 26) (As := [.int v5]) (rest := []) (st' := []) (by decide) hu6 q1638 sl_X6_goNight (M_X6_goNight hσ7) q1636 q1639 q104 dd_X6_goNight rfl ⟨Nat.le_of_ble_eq_true rfl, Nat.le_of_ble_eq_true rfl⟩ (Nat.le_of_ble_eq_true rfl) dX6_lossOf_23 rfl rfl rfl ?_
      refine ro_iload_n (pc' := 27) dX6_lossOf_26 rfl rfl rfl ?_
      refine ro_aload_n (pc' := 28) dX6_lossOf_27 rfl rfl rfl ?_
      obtain ⟨u8, hu8, h⟩ := ah_bs h
      obtain ⟨v9, σ10, hv9, h⟩ := ah_bs2 h
      refine ro_callV (pc' := 31) (As := []) (rest := [.int x1]) (st' := [.int v9, .int x1]) (by decide) hu8 q1685 sl_X6_lossNow (M_X6_lossNow hv9) q1683 q1686 q104 dd_X6_lossNow rfl ⟨Nat.le_of_ble_eq_true rfl, Nat.le_of_ble_eq_true rfl⟩ (Nat.le_of_ble_eq_true rfl) dX6_lossOf_28 rfl rfl rfl ?_
      refine ro_iadd (pc' := 32) dX6_lossOf_31 rfl ?_
      refine ro_istore_n (pc' := 33) (L' := [some (va_rf r0), some (.int (x1 + v9)), some (.int x2)]) dX6_lossOf_32 rfl (Nat.le_of_ble_eq_true rfl) rfl (ah_okp_r _) rfl ?_
      refine ro_iinc (pc' := 36) (L' := [some (va_rf r0), some (.int (x1 + v9)), some (.int (x2 + (1 : Int32)))]) dX6_lossOf_33 rfl ic_1 (Nat.le_of_ble_eq_true rfl) rfl (ah_okp_i _) rfl ?_
      refine ro_goto (tgt := 8) dX6_lossOf_36 rfl ?_
      exact ih _ _ _ _ h
set_option maxRecDepth 20000 in
set_option maxHeartbeats 4000000 in
theorem W_X6_lossOf {κ : ah_C} {rr : (Int32 × ah_S)} (hκ : ah_res κ = (.returned (some (.int rr.1)), rr.2))  (σ : ah_S) (r0 : Option Nat) (h : F_X6_lossOf σ r0 = some rr) : ah_G κ ("LeftAsFoundModel", "lossOf", 3, (some FieldType.int), [], 7, 166) cX6_lossOf σ 0 [some (va_rf r0), none, none] [] := by
  unfold F_X6_lossOf at h
  refine ro_aload_n (pc' := 1) dX6_lossOf_0 rfl rfl rfl ?_
  obtain ⟨u1, hu1, h⟩ := ah_bs h
  obtain ⟨σ2, hσ2, h⟩ := ah_bs h
  refine ro_callV (pc' := 4) (As := []) (rest := []) (st' := []) (by decide) hu1 q1634 sl_X6_keepHut (M_X6_keepHut hσ2) q1632 q1635 q104 dd_X6_keepHut rfl ⟨Nat.le_of_ble_eq_true rfl, Nat.le_of_ble_eq_true rfl⟩ (Nat.le_of_ble_eq_true rfl) dX6_lossOf_1 rfl rfl rfl ?_
  refine ro_iconst (pc' := 5) dX6_lossOf_4 ic_0 rfl ?_
  refine ro_istore_n (pc' := 6) (L' := [some (va_rf r0), some (.int (0 : Int32)), none]) dX6_lossOf_5 rfl (Nat.le_of_ble_eq_true rfl) rfl (ah_okp_r _) rfl ?_
  refine ro_iconst (pc' := 7) dX6_lossOf_6 ic_0 rfl ?_
  refine ro_istore_n (pc' := 8) (L' := [some (va_rf r0), some (.int (0 : Int32)), some (.int (0 : Int32))]) dX6_lossOf_7 rfl (Nat.le_of_ble_eq_true rfl) rfl (ah_okp_i _) rfl ?_
  exact W_X6_lossOf_8 hκ _ _ _ _ _ h
theorem M_X6_lossOf {l : Launch} {D : ah_D}  {σ : ah_S} {r0 : Option Nat} {v : Int32} {σ1 : ah_S} (h : F_X6_lossOf σ r0 = some (v, σ1)) : ah_Met l yX6_lossOf (Cond.code yX6_lossOf cX6_lossOf 3 (some FieldType.int)) 7 166 D [va_rf r0] σ (.returned (some (.int v)), σ1) :=
  ah_ofG (own := "LeftAsFoundModel") (nm := "lossOf") (L0 := [some (va_rf r0), none, none]) (by decide) rfl rfl rfl (ah_ao_1 (ah_rf_cat _) (ah_ao_n (ah_ao_n ah_ao_0))) (fun κ hκ => W_X6_lossOf hκ  σ r0 h)
set_option maxRecDepth 20000 in
set_option maxHeartbeats 4000000 in
theorem W_X6_loss {κ : ah_C} {rr : (Int32 × ah_S)} (hκ : ah_res κ = (.returned (some (.int rr.1)), rr.2))  (σ : ah_S) (r0 : Option Nat) (x1 : Int32) (h : F_X6_loss σ r0 x1 = some rr) : ah_G κ ("LeftAsFoundModel", "loss", 2, (some FieldType.int), [], 8, 188) cX6_loss σ 0 [some (va_rf r0), some (.int x1)] [] := by
  unfold F_X6_loss at h
  refine ro_iload_n (pc' := 1) dX6_loss_0 rfl rfl rfl ?_
  obtain ⟨v1, σ2, hv1, h⟩ := ah_bs2 h
  refine ro_callS (pc' := 4) (As := [.int x1]) (rest := []) (st' := [.int v1]) q1505 (M_X6_isShelf hv1) q1504 q1506 q104 dd_X6_isShelf rfl ⟨Nat.le_of_ble_eq_true rfl, Nat.le_of_ble_eq_true rfl⟩ (Nat.le_of_ble_eq_true rfl) dX6_loss_1 rfl rfl rfl ?_
  refine ro_if_ne (pc' := 7) (tgt := 9) dX6_loss_4 rfl rfl (fun c => ?_) (fun c => ?_)
  · replace h := ah_in_ c h
    refine ro_aload_n (pc' := 10) dX6_loss_9 rfl rfl rfl ?_
    refine ro_iload_n (pc' := 11) dX6_loss_10 rfl rfl rfl ?_
    obtain ⟨u3, hu3, h⟩ := ah_bs h
    obtain ⟨v4, σ5, hv4, h⟩ := ah_bs2 h
    refine ro_callV (pc' := 14) (As := [.int x1]) (rest := []) (st' := [.int v4]) (by decide) hu3 q1626 sl_X6_rowFault (M_X6_rowFault hv4) q1624 q1627 q104 dd_X6_rowFault rfl ⟨Nat.le_of_ble_eq_true rfl, Nat.le_of_ble_eq_true rfl⟩ (Nat.le_of_ble_eq_true rfl) dX6_loss_11 rfl rfl rfl ?_
    refine ro_if_ge (pc' := 17) (tgt := 23) dX6_loss_14 rfl rfl (fun c => ?_) (fun c => ?_)
    · replace h := ah_ip c h
      refine ro_aload_n (pc' := 24) dX6_loss_23 rfl rfl rfl ?_
      refine ro_iload_n (pc' := 25) dX6_loss_24 rfl rfl rfl ?_
      obtain ⟨u6, hu6, h⟩ := ah_bs h
      obtain ⟨σ7, hσ7, h⟩ := ah_bs h
      refine ro_callV (pc' := 28) (As := [.int x1]) (rest := []) (st' := []) (by decide) hu6 q1630 sl_X6_layStays (M_X6_layStays hσ7) q1628 q1631 q104 dd_X6_layStays rfl ⟨Nat.le_of_ble_eq_true rfl, Nat.le_of_ble_eq_true rfl⟩ (Nat.le_of_ble_eq_true rfl) dX6_loss_25 rfl rfl rfl ?_
      refine ro_aload_n (pc' := 29) dX6_loss_28 rfl rfl rfl ?_
      obtain ⟨u8, hu8, h⟩ := ah_bs h
      obtain ⟨v9, σ10, hv9, h⟩ := ah_bs2 h
      refine ro_callV (pc' := 32) (As := []) (rest := []) (st' := [.int v9]) (by decide) hu8 q1681 sl_X6_lossOf (M_X6_lossOf hv9) q1679 q1682 q104 dd_X6_lossOf rfl ⟨Nat.le_of_ble_eq_true rfl, Nat.le_of_ble_eq_true rfl⟩ (Nat.le_of_ble_eq_true rfl) dX6_loss_29 rfl rfl rfl ?_
      obtain rfl := Option.some.inj h
      exact ro_iret hκ dX6_loss_32
    · replace h := ah_in_ c h
      refine ro_aload_n (pc' := 18) dX6_loss_17 rfl rfl rfl ?_
      refine ro_iload_n (pc' := 19) dX6_loss_18 rfl rfl rfl ?_
      obtain ⟨u11, hu11, h⟩ := ah_bs h
      obtain ⟨v12, σ13, hv12, h⟩ := ah_bs2 h
      refine ro_callV (pc' := 22) (As := [.int x1]) (rest := []) (st' := [.int v12]) (by decide) hu11 q1626 sl_X6_rowFault (M_X6_rowFault hv12) q1624 q1627 q104 dd_X6_rowFault rfl ⟨Nat.le_of_ble_eq_true rfl, Nat.le_of_ble_eq_true rfl⟩ (Nat.le_of_ble_eq_true rfl) dX6_loss_19 rfl rfl rfl ?_
      obtain rfl := Option.some.inj h
      exact ro_iret hκ dX6_loss_22
  · replace h := ah_ip c h
    refine ro_iconst (pc' := 8) dX6_loss_7 ic_m1 rfl ?_
    obtain rfl := Option.some.inj h
    exact ro_iret hκ dX6_loss_8
theorem M_X6_loss {l : Launch} {D : ah_D}  {σ : ah_S} {r0 : Option Nat} {x1 : Int32} {v : Int32} {σ1 : ah_S} (h : F_X6_loss σ r0 x1 = some (v, σ1)) : ah_Met l yX6_loss (Cond.code yX6_loss cX6_loss 2 (some FieldType.int)) 8 188 D [va_rf r0, .int x1] σ (.returned (some (.int v)), σ1) :=
  ah_ofG (own := "LeftAsFoundModel") (nm := "loss") (L0 := [some (va_rf r0), some (.int x1)]) (by decide) rfl rfl rfl (ah_ao_1 (ah_rf_cat _) (ah_ao_1 rfl ah_ao_0)) (fun κ hκ => W_X6_loss hκ  σ r0 x1 h)
set_option maxRecDepth 20000 in
set_option maxHeartbeats 4000000 in
theorem W_X6_lowest_61 {κ : ah_C} {rr : (Int32 × ah_S)} (hκ : ah_res κ = (.returned (some (.int rr.1)), rr.2))    : ∀ (n : Nat) (σ : ah_S) (r0 : Option Nat) (x2 : Int32) (x3 : Int32) (x4 : Int32), F_X6_lowest_61 n σ r0 x2 x3 x4 = some rr → ah_G κ ("LeftAsFoundModel", "lowest", 5, (some FieldType.int), [], 7, 166) cX6_lowest σ 61 [some (va_rf r0), none, some (.int x2), some (.int x3), some (.int x4)] [] := by
  intro n
  induction n with
  | zero => intro σ r0 x2 x3 x4 h; cases h
  | succ n ih =>
    intro σ r0 x2 x3 x4 h
    rw [F_X6_lowest_61] at h
    refine ro_iload (pc' := 63) dX6_lowest_61 rfl rfl ?_
    refine ro_aload_n (pc' := 64) dX6_lowest_63 rfl rfl rfl ?_
    obtain ⟨v1, hv1, h⟩ := ah_bs h
    refine ro_getI (pc' := 67) ft_636 fk_636 q1344 dX6_lowest_64 rfl hv1 ?_
    refine ro_icmp_ge (pc' := 70) (tgt := 104) dX6_lowest_67 rfl rfl (fun c => ?_) (fun c => ?_)
    · replace h := ah_ip c h
      refine ro_aload_n (pc' := 105) dX6_lowest_104 rfl rfl rfl ?_
      obtain ⟨u2, hu2, h⟩ := ah_bs h
      obtain ⟨σ3, hσ3, h⟩ := ah_bs h
      refine ro_callV (pc' := 108) (As := []) (rest := []) (st' := []) (by decide) hu2 q1665 sl_X6_layHut (M_X6_layHut hσ3) q1663 q1666 q104 dd_X6_layHut rfl ⟨Nat.le_of_ble_eq_true rfl, Nat.le_of_ble_eq_true rfl⟩ (Nat.le_of_ble_eq_true rfl) dX6_lowest_105 rfl rfl rfl ?_
      refine ro_iload_n (pc' := 109) dX6_lowest_108 rfl rfl rfl ?_
      obtain rfl := Option.some.inj h
      exact ro_iret hκ dX6_lowest_109
    · replace h := ah_in_ c h
      refine ro_aload_n (pc' := 71) dX6_lowest_70 rfl rfl rfl ?_
      refine ro_aload_n (pc' := 72) dX6_lowest_71 rfl rfl rfl ?_
      obtain ⟨v4, hv4, h⟩ := ah_bs h
      refine ro_getR (pc' := 75) ft_635 fk_635 q1343 dX6_lowest_72 rfl hv4 ?_
      refine ro_iload (pc' := 77) dX6_lowest_75 rfl rfl ?_
      obtain ⟨v5, hv5, h⟩ := ah_bs h
      refine ro_iaload (pc' := 78) dX6_lowest_77 rfl hv5 ?_
      obtain ⟨u6, hu6, h⟩ := ah_bs h
      obtain ⟨σ7, hσ7, h⟩ := ah_bs h
      refine ro_callV (pc' := 81) (As := [.int v5]) (rest := []) (st' := []) (by decide) hu6 q1638 sl_X6_goNight (M_X6_goNight hσ7) q1636 q1639 q104 dd_X6_goNight rfl ⟨Nat.le_of_ble_eq_true rfl, Nat.le_of_ble_eq_true rfl⟩ (Nat.le_of_ble_eq_true rfl) dX6_lowest_78 rfl rfl rfl ?_
      refine ro_aload_n (pc' := 82) dX6_lowest_81 rfl rfl rfl ?_
      obtain ⟨v8, hv8, h⟩ := ah_bs h
      refine ro_getR (pc' := 85) ft_611 fk_611 q1319 dX6_lowest_82 rfl hv8 ?_
      refine ro_iload_n (pc' := 86) dX6_lowest_85 rfl rfl rfl ?_
      obtain ⟨v9, hv9, h⟩ := ah_bs h
      refine ro_iaload (pc' := 87) dX6_lowest_86 rfl hv9 ?_
      refine ro_iload_n (pc' := 88) dX6_lowest_87 rfl rfl rfl ?_
      refine ro_icmp_ge (pc' := 91) (tgt := 98) dX6_lowest_88 rfl rfl (fun c => ?_) (fun c => ?_)
      · replace h := ah_ip c h
        refine ro_iinc (pc' := 101) (L' := [some (va_rf r0), none, some (.int x2), some (.int x3), some (.int (x4 + (1 : Int32)))]) dX6_lowest_98 rfl ic_1 (Nat.le_of_ble_eq_true rfl) rfl (ah_okp_i _) rfl ?_
        refine ro_goto (tgt := 61) dX6_lowest_101 rfl ?_
        exact ih _ _ _ _ _ h
      · replace h := ah_in_ c h
        refine ro_aload_n (pc' := 92) dX6_lowest_91 rfl rfl rfl ?_
        obtain ⟨v10, hv10, h⟩ := ah_bs h
        refine ro_getR (pc' := 95) ft_611 fk_611 q1319 dX6_lowest_92 rfl hv10 ?_
        refine ro_iload_n (pc' := 96) dX6_lowest_95 rfl rfl rfl ?_
        obtain ⟨v11, hv11, h⟩ := ah_bs h
        refine ro_iaload (pc' := 97) dX6_lowest_96 rfl hv11 ?_
        refine ro_istore_n (pc' := 98) (L' := [some (va_rf r0), none, some (.int x2), some (.int v11), some (.int x4)]) dX6_lowest_97 rfl (Nat.le_of_ble_eq_true rfl) rfl (ah_okp_i _) rfl ?_
        refine ro_iinc (pc' := 101) (L' := [some (va_rf r0), none, some (.int x2), some (.int v11), some (.int (x4 + (1 : Int32)))]) dX6_lowest_98 rfl ic_1 (Nat.le_of_ble_eq_true rfl) rfl (ah_okp_i _) rfl ?_
        refine ro_goto (tgt := 61) dX6_lowest_101 rfl ?_
        exact ih _ _ _ _ _ h
set_option maxRecDepth 20000 in
set_option maxHeartbeats 4000000 in
theorem W_X6_lowest {κ : ah_C} {rr : (Int32 × ah_S)} (hκ : ah_res κ = (.returned (some (.int rr.1)), rr.2))  (σ : ah_S) (r0 : Option Nat) (x1 : Int32) (x2 : Int32) (h : F_X6_lowest σ r0 x1 x2 = some rr) : ah_G κ ("LeftAsFoundModel", "lowest", 5, (some FieldType.int), [], 7, 166) cX6_lowest σ 0 [some (va_rf r0), some (.int x1), some (.int x2), none, none] [] := by
  unfold F_X6_lowest at h
  refine ro_iload_n (pc' := 1) dX6_lowest_0 rfl rfl rfl ?_
  obtain ⟨v1, σ2, hv1, h⟩ := ah_bs2 h
  refine ro_callS (pc' := 4) (As := [.int x1]) (rest := []) (st' := [.int v1]) q1505 (M_X6_isShelf hv1) q1504 q1506 q104 dd_X6_isShelf rfl ⟨Nat.le_of_ble_eq_true rfl, Nat.le_of_ble_eq_true rfl⟩ (Nat.le_of_ble_eq_true rfl) dX6_lowest_1 rfl rfl rfl ?_
  refine ro_if_eq (pc' := 7) (tgt := 14) dX6_lowest_4 rfl rfl (fun c => ?_) (fun c => ?_)
  · replace h := ah_ip c h
    refine ro_iconst (pc' := 15) dX6_lowest_14 ic_m1 rfl ?_
    obtain rfl := Option.some.inj h
    exact ro_iret hκ dX6_lowest_15
  · replace h := ah_in_ c h
    refine ro_iload_n (pc' := 8) dX6_lowest_7 rfl rfl rfl ?_
    obtain ⟨v3, σ4, hv3, h⟩ := ah_bs2 h
    refine ro_callS (pc' := 11) (As := [.int x2]) (rest := []) (st' := [.int v3]) q1532 (M_X6_isThing hv3) q1531 q1533 q104 dd_X6_isThing rfl ⟨Nat.le_of_ble_eq_true rfl, Nat.le_of_ble_eq_true rfl⟩ (Nat.le_of_ble_eq_true rfl) dX6_lowest_8 rfl rfl rfl ?_
    refine ro_if_ne (pc' := 14) (tgt := 16) dX6_lowest_11 rfl rfl (fun c => ?_) (fun c => ?_)
    · replace h := ah_in_ c h
      refine ro_aload_n (pc' := 17) dX6_lowest_16 rfl rfl rfl ?_
      refine ro_iload_n (pc' := 18) dX6_lowest_17 rfl rfl rfl ?_
      obtain ⟨u5, hu5, h⟩ := ah_bs h
      obtain ⟨v6, σ7, hv6, h⟩ := ah_bs2 h
      refine ro_callV (pc' := 21) (As := [.int x1]) (rest := []) (st' := [.int v6]) (by decide) hu5 q1626 sl_X6_rowFault (M_X6_rowFault hv6) q1624 q1627 q104 dd_X6_rowFault rfl ⟨Nat.le_of_ble_eq_true rfl, Nat.le_of_ble_eq_true rfl⟩ (Nat.le_of_ble_eq_true rfl) dX6_lowest_18 rfl rfl rfl ?_
      refine ro_if_ge (pc' := 24) (tgt := 30) dX6_lowest_21 rfl rfl (fun c => ?_) (fun c => ?_)
      · replace h := ah_ip c h
        refine ro_aload_n (pc' := 31) dX6_lowest_30 rfl rfl rfl ?_
        refine ro_iload_n (pc' := 32) dX6_lowest_31 rfl rfl rfl ?_
        obtain ⟨u8, hu8, h⟩ := ah_bs h
        obtain ⟨σ9, hσ9, h⟩ := ah_bs h
        refine ro_callV (pc' := 35) (As := [.int x1]) (rest := []) (st' := []) (by decide) hu8 q1630 sl_X6_layStays (M_X6_layStays hσ9) q1628 q1631 q104 dd_X6_layStays rfl ⟨Nat.le_of_ble_eq_true rfl, Nat.le_of_ble_eq_true rfl⟩ (Nat.le_of_ble_eq_true rfl) dX6_lowest_32 rfl rfl rfl ?_
        refine ro_aload_n (pc' := 36) dX6_lowest_35 rfl rfl rfl ?_
        obtain ⟨u10, hu10, h⟩ := ah_bs h
        obtain ⟨σ11, hσ11, h⟩ := ah_bs h
        refine ro_callV (pc' := 39) (As := []) (rest := []) (st' := []) (by decide) hu10 q1634 sl_X6_keepHut (M_X6_keepHut hσ11) q1632 q1635 q104 dd_X6_keepHut rfl ⟨Nat.le_of_ble_eq_true rfl, Nat.le_of_ble_eq_true rfl⟩ (Nat.le_of_ble_eq_true rfl) dX6_lowest_36 rfl rfl rfl ?_
        refine ro_aload_n (pc' := 40) dX6_lowest_39 rfl rfl rfl ?_
        obtain ⟨v12, hv12, h⟩ := ah_bs h
        refine ro_getI (pc' := 43) ft_636 fk_636 q1344 dX6_lowest_40 rfl hv12 ?_
        refine ro_if_ne (pc' := 46) (tgt := 55) dX6_lowest_43 rfl rfl (fun c => ?_) (fun c => ?_)
        · replace h := ah_in_ c h
          refine ro_bipush (pc' := 57) dX6_lowest_55 ib_99 rfl ?_
          refine ro_istore_n (pc' := 58) (L' := [some (va_rf r0), some (.int x1), some (.int x2), some (.int (99 : Int32)), none]) dX6_lowest_57 rfl (Nat.le_of_ble_eq_true rfl) rfl (ah_okp_i _) rfl ?_
          refine ro_iconst (pc' := 59) dX6_lowest_58 ic_0 rfl ?_
          refine ro_istore (pc' := 61) (L' := [some (va_rf r0), some (.int x1), some (.int x2), some (.int (99 : Int32)), some (.int (0 : Int32))]) dX6_lowest_59 (Nat.le_of_ble_eq_true rfl) rfl (ah_okp_i _) rfl ?_
          refine ro_weak (L' := [some (va_rf r0), none, some (.int x2), some (.int (99 : Int32)), some (.int (0 : Int32))]) (ah_ls_s (ah_ls_n (ah_ls_s (ah_ls_s (ah_ls_s ah_ls_0))))) ?_
          exact W_X6_lowest_61 hκ _ _ _ _ _ _ h
        · replace h := ah_ip c h
          refine ro_aload_n (pc' := 47) dX6_lowest_46 rfl rfl rfl ?_
          obtain ⟨v13, hv13, h⟩ := ah_bs h
          refine ro_getR (pc' := 50) ft_611 fk_611 q1319 dX6_lowest_47 rfl hv13 ?_
          refine ro_iload_n (pc' := 51) dX6_lowest_50 rfl rfl rfl ?_
          obtain ⟨v14, hv14, h⟩ := ah_bs h
          refine ro_iaload (pc' := 52) dX6_lowest_51 rfl hv14 ?_
          refine ro_goto (tgt := 57) dX6_lowest_52 rfl ?_
          refine ro_istore_n (pc' := 58) (L' := [some (va_rf r0), some (.int x1), some (.int x2), some (.int v14), none]) dX6_lowest_57 rfl (Nat.le_of_ble_eq_true rfl) rfl (ah_okp_i _) rfl ?_
          refine ro_iconst (pc' := 59) dX6_lowest_58 ic_0 rfl ?_
          refine ro_istore (pc' := 61) (L' := [some (va_rf r0), some (.int x1), some (.int x2), some (.int v14), some (.int (0 : Int32))]) dX6_lowest_59 (Nat.le_of_ble_eq_true rfl) rfl (ah_okp_i _) rfl ?_
          refine ro_weak (L' := [some (va_rf r0), none, some (.int x2), some (.int v14), some (.int (0 : Int32))]) (ah_ls_s (ah_ls_n (ah_ls_s (ah_ls_s (ah_ls_s ah_ls_0))))) ?_
          exact W_X6_lowest_61 hκ _ _ _ _ _ _ h
      · replace h := ah_in_ c h
        refine ro_aload_n (pc' := 25) dX6_lowest_24 rfl rfl rfl ?_
        refine ro_iload_n (pc' := 26) dX6_lowest_25 rfl rfl rfl ?_
        obtain ⟨u15, hu15, h⟩ := ah_bs h
        obtain ⟨v16, σ17, hv16, h⟩ := ah_bs2 h
        refine ro_callV (pc' := 29) (As := [.int x1]) (rest := []) (st' := [.int v16]) (by decide) hu15 q1626 sl_X6_rowFault (M_X6_rowFault hv16) q1624 q1627 q104 dd_X6_rowFault rfl ⟨Nat.le_of_ble_eq_true rfl, Nat.le_of_ble_eq_true rfl⟩ (Nat.le_of_ble_eq_true rfl) dX6_lowest_26 rfl rfl rfl ?_
        obtain rfl := Option.some.inj h
        exact ro_iret hκ dX6_lowest_29
    · replace h := ah_ip c h
      refine ro_iconst (pc' := 15) dX6_lowest_14 ic_m1 rfl ?_
      obtain rfl := Option.some.inj h
      exact ro_iret hκ dX6_lowest_15
theorem M_X6_lowest {l : Launch} {D : ah_D}  {σ : ah_S} {r0 : Option Nat} {x1 : Int32} {x2 : Int32} {v : Int32} {σ1 : ah_S} (h : F_X6_lowest σ r0 x1 x2 = some (v, σ1)) : ah_Met l yX6_lowest (Cond.code yX6_lowest cX6_lowest 5 (some FieldType.int)) 7 166 D [va_rf r0, .int x1, .int x2] σ (.returned (some (.int v)), σ1) :=
  ah_ofG (own := "LeftAsFoundModel") (nm := "lowest") (L0 := [some (va_rf r0), some (.int x1), some (.int x2), none, none]) (by decide) rfl rfl rfl (ah_ao_1 (ah_rf_cat _) (ah_ao_1 rfl (ah_ao_1 rfl (ah_ao_n (ah_ao_n ah_ao_0))))) (fun κ hκ => W_X6_lowest hκ  σ r0 x1 x2 h)
set_option maxRecDepth 20000 in
set_option maxHeartbeats 4000000 in
theorem W_X6_mayBe {κ : ah_C} {rr : (Int32 × ah_S)} (hκ : ah_res κ = (.returned (some (.int rr.1)), rr.2))  (σ : ah_S) (x0 : Int32) (x1 : Int32) (h : F_X6_mayBe σ x0 x1 = some rr) : ah_G κ ("LeftAsFoundModel", "mayBe", 2, (some FieldType.boolean), [], 2, 46) cX6_mayBe σ 0 [some (.int x0), some (.int x1)] [] := by
  unfold F_X6_mayBe at h
  refine ro_iload_n (pc' := 1) dX6_mayBe_0 rfl rfl rfl ?_
  by_cases c1_0 : x0 = (0 : Int32)
  · replace h := ah_ip c1_0 h
    refine ro_tabIn (tgt := 48) 0 c1_0 dX6_mayBe_1 (by decide) (by decide) rfl rfl ?_
    refine ro_iload_n (pc' := 49) dX6_mayBe_48 rfl rfl rfl ?_
    refine ro_iconst (pc' := 50) dX6_mayBe_49 ic_0 rfl ?_
    refine ro_bipush (pc' := 52) dX6_mayBe_50 ib_99 rfl ?_
    obtain ⟨v1, σ2, hv1, h⟩ := ah_bs2 h
    refine ro_callS (pc' := 55) (As := [.int x1, .int (0 : Int32), .int (99 : Int32)]) (rest := []) (st' := [.int v1]) q1494 (M_X6_in hv1) q1493 q1495 q104 dd_X6_in rfl ⟨Nat.le_of_ble_eq_true rfl, Nat.le_of_ble_eq_true rfl⟩ (Nat.le_of_ble_eq_true rfl) dX6_mayBe_52 rfl rfl rfl ?_
    obtain ⟨z3, hz3, g⟩ := ah_bs h
    obtain ⟨ez3, hz3⟩ := ah_z_n hz3
    subst ez3
    obtain rfl := Option.some.inj g
    exact ro_zret hz3 hκ dX6_mayBe_55
  replace h := ah_in_ c1_0 h
  by_cases c1_1 : x0 = (1 : Int32)
  · replace h := ah_ip c1_1 h
    refine ro_tabIn (tgt := 56) 1 c1_1 dX6_mayBe_1 (by decide) (by decide) rfl rfl ?_
    refine ro_iload_n (pc' := 57) dX6_mayBe_56 rfl rfl rfl ?_
    refine ro_iconst (pc' := 58) dX6_mayBe_57 ic_0 rfl ?_
    refine ro_bipush (pc' := 60) dX6_mayBe_58 ib_9 rfl ?_
    obtain ⟨v4, σ5, hv4, h⟩ := ah_bs2 h
    refine ro_callS (pc' := 63) (As := [.int x1, .int (0 : Int32), .int (9 : Int32)]) (rest := []) (st' := [.int v4]) q1494 (M_X6_in hv4) q1493 q1495 q104 dd_X6_in rfl ⟨Nat.le_of_ble_eq_true rfl, Nat.le_of_ble_eq_true rfl⟩ (Nat.le_of_ble_eq_true rfl) dX6_mayBe_60 rfl rfl rfl ?_
    obtain ⟨z6, hz6, g⟩ := ah_bs h
    obtain ⟨ez6, hz6⟩ := ah_z_n hz6
    subst ez6
    obtain rfl := Option.some.inj g
    exact ro_zret hz6 hκ dX6_mayBe_63
  replace h := ah_in_ c1_1 h
  by_cases c1_2 : x0 = (2 : Int32)
  · replace h := ah_ip c1_2 h
    refine ro_tabIn (tgt := 64) 2 c1_2 dX6_mayBe_1 (by decide) (by decide) rfl rfl ?_
    refine ro_iload_n (pc' := 65) dX6_mayBe_64 rfl rfl rfl ?_
    refine ro_iconst (pc' := 66) dX6_mayBe_65 ic_0 rfl ?_
    refine ro_bipush (pc' := 68) dX6_mayBe_66 ib_9 rfl ?_
    obtain ⟨v7, σ8, hv7, h⟩ := ah_bs2 h
    refine ro_callS (pc' := 71) (As := [.int x1, .int (0 : Int32), .int (9 : Int32)]) (rest := []) (st' := [.int v7]) q1494 (M_X6_in hv7) q1493 q1495 q104 dd_X6_in rfl ⟨Nat.le_of_ble_eq_true rfl, Nat.le_of_ble_eq_true rfl⟩ (Nat.le_of_ble_eq_true rfl) dX6_mayBe_68 rfl rfl rfl ?_
    obtain ⟨z9, hz9, g⟩ := ah_bs h
    obtain ⟨ez9, hz9⟩ := ah_z_n hz9
    subst ez9
    obtain rfl := Option.some.inj g
    exact ro_zret hz9 hκ dX6_mayBe_71
  replace h := ah_in_ c1_2 h
  by_cases c1_3 : x0 = (3 : Int32)
  · replace h := ah_ip c1_3 h
    refine ro_tabIn (tgt := 72) 3 c1_3 dX6_mayBe_1 (by decide) (by decide) rfl rfl ?_
    refine ro_iload_n (pc' := 73) dX6_mayBe_72 rfl rfl rfl ?_
    refine ro_iconst (pc' := 74) dX6_mayBe_73 ic_0 rfl ?_
    refine ro_bipush (pc' := 76) dX6_mayBe_74 ib_20 rfl ?_
    obtain ⟨v10, σ11, hv10, h⟩ := ah_bs2 h
    refine ro_callS (pc' := 79) (As := [.int x1, .int (0 : Int32), .int (20 : Int32)]) (rest := []) (st' := [.int v10]) q1494 (M_X6_in hv10) q1493 q1495 q104 dd_X6_in rfl ⟨Nat.le_of_ble_eq_true rfl, Nat.le_of_ble_eq_true rfl⟩ (Nat.le_of_ble_eq_true rfl) dX6_mayBe_76 rfl rfl rfl ?_
    obtain ⟨z12, hz12, g⟩ := ah_bs h
    obtain ⟨ez12, hz12⟩ := ah_z_n hz12
    subst ez12
    obtain rfl := Option.some.inj g
    exact ro_zret hz12 hκ dX6_mayBe_79
  replace h := ah_in_ c1_3 h
  by_cases c1_4 : x0 = (4 : Int32)
  · replace h := ah_ip c1_4 h
    refine ro_tabIn (tgt := 80) 4 c1_4 dX6_mayBe_1 (by decide) (by decide) rfl rfl ?_
    refine ro_iload_n (pc' := 81) dX6_mayBe_80 rfl rfl rfl ?_
    refine ro_iconst (pc' := 82) dX6_mayBe_81 ic_0 rfl ?_
    refine ro_bipush (pc' := 84) dX6_mayBe_82 ib_50 rfl ?_
    obtain ⟨v13, σ14, hv13, h⟩ := ah_bs2 h
    refine ro_callS (pc' := 87) (As := [.int x1, .int (0 : Int32), .int (50 : Int32)]) (rest := []) (st' := [.int v13]) q1494 (M_X6_in hv13) q1493 q1495 q104 dd_X6_in rfl ⟨Nat.le_of_ble_eq_true rfl, Nat.le_of_ble_eq_true rfl⟩ (Nat.le_of_ble_eq_true rfl) dX6_mayBe_84 rfl rfl rfl ?_
    obtain ⟨z15, hz15, g⟩ := ah_bs h
    obtain ⟨ez15, hz15⟩ := ah_z_n hz15
    subst ez15
    obtain rfl := Option.some.inj g
    exact ro_zret hz15 hκ dX6_mayBe_87
  replace h := ah_in_ c1_4 h
  by_cases c1_5 : x0 = (5 : Int32)
  · replace h := ah_ip c1_5 h
    refine ro_tabIn (tgt := 88) 5 c1_5 dX6_mayBe_1 (by decide) (by decide) rfl rfl ?_
    refine ro_iload_n (pc' := 89) dX6_mayBe_88 rfl rfl rfl ?_
    refine ro_iconst (pc' := 90) dX6_mayBe_89 ic_0 rfl ?_
    refine ro_iconst (pc' := 91) dX6_mayBe_90 ic_3 rfl ?_
    obtain ⟨v16, σ17, hv16, h⟩ := ah_bs2 h
    refine ro_callS (pc' := 94) (As := [.int x1, .int (0 : Int32), .int (3 : Int32)]) (rest := []) (st' := [.int v16]) q1494 (M_X6_in hv16) q1493 q1495 q104 dd_X6_in rfl ⟨Nat.le_of_ble_eq_true rfl, Nat.le_of_ble_eq_true rfl⟩ (Nat.le_of_ble_eq_true rfl) dX6_mayBe_91 rfl rfl rfl ?_
    obtain ⟨z18, hz18, g⟩ := ah_bs h
    obtain ⟨ez18, hz18⟩ := ah_z_n hz18
    subst ez18
    obtain rfl := Option.some.inj g
    exact ro_zret hz18 hκ dX6_mayBe_94
  replace h := ah_in_ c1_5 h
  by_cases c1_6 : x0 = (6 : Int32)
  · replace h := ah_ip c1_6 h
    refine ro_tabIn (tgt := 95) 6 c1_6 dX6_mayBe_1 (by decide) (by decide) rfl rfl ?_
    refine ro_iload_n (pc' := 96) dX6_mayBe_95 rfl rfl rfl ?_
    refine ro_iconst (pc' := 97) dX6_mayBe_96 ic_0 rfl ?_
    refine ro_bipush (pc' := 99) dX6_mayBe_97 ib_50 rfl ?_
    obtain ⟨v19, σ20, hv19, h⟩ := ah_bs2 h
    refine ro_callS (pc' := 102) (As := [.int x1, .int (0 : Int32), .int (50 : Int32)]) (rest := []) (st' := [.int v19]) q1494 (M_X6_in hv19) q1493 q1495 q104 dd_X6_in rfl ⟨Nat.le_of_ble_eq_true rfl, Nat.le_of_ble_eq_true rfl⟩ (Nat.le_of_ble_eq_true rfl) dX6_mayBe_99 rfl rfl rfl ?_
    obtain ⟨z21, hz21, g⟩ := ah_bs h
    obtain ⟨ez21, hz21⟩ := ah_z_n hz21
    subst ez21
    obtain rfl := Option.some.inj g
    exact ro_zret hz21 hκ dX6_mayBe_102
  replace h := ah_in_ c1_6 h
  by_cases c1_7 : x0 = (7 : Int32)
  · replace h := ah_ip c1_7 h
    refine ro_tabIn (tgt := 103) 7 c1_7 dX6_mayBe_1 (by decide) (by decide) rfl rfl ?_
    refine ro_iload_n (pc' := 104) dX6_mayBe_103 rfl rfl rfl ?_
    refine ro_iconst (pc' := 105) dX6_mayBe_104 ic_0 rfl ?_
    refine ro_sipush (pc' := 108) dX6_mayBe_105 is_999 rfl ?_
    obtain ⟨v22, σ23, hv22, h⟩ := ah_bs2 h
    refine ro_callS (pc' := 111) (As := [.int x1, .int (0 : Int32), .int (999 : Int32)]) (rest := []) (st' := [.int v22]) q1494 (M_X6_in hv22) q1493 q1495 q104 dd_X6_in rfl ⟨Nat.le_of_ble_eq_true rfl, Nat.le_of_ble_eq_true rfl⟩ (Nat.le_of_ble_eq_true rfl) dX6_mayBe_108 rfl rfl rfl ?_
    obtain ⟨z24, hz24, g⟩ := ah_bs h
    obtain ⟨ez24, hz24⟩ := ah_z_n hz24
    subst ez24
    obtain rfl := Option.some.inj g
    exact ro_zret hz24 hκ dX6_mayBe_111
  replace h := ah_in_ c1_7 h
  refine ro_tabOut (tgt := 112) dX6_mayBe_1 (by have e0 := lv_neT (a := 0) c1_0 (by decide); have e1 := lv_neT (a := 1) c1_1 (by decide); have e2 := lv_neT (a := 2) c1_2 (by decide); have e3 := lv_neT (a := 3) c1_3 (by decide); have e4 := lv_neT (a := 4) c1_4 (by decide); have e5 := lv_neT (a := 5) c1_5 (by decide); have e6 := lv_neT (a := 6) c1_6 (by decide); have e7 := lv_neT (a := 7) c1_7 (by decide); omega) rfl ?_
  refine ro_iload_n (pc' := 113) dX6_mayBe_112 rfl rfl rfl ?_
  refine ro_iconst (pc' := 114) dX6_mayBe_113 ic_0 rfl ?_
  refine ro_bipush (pc' := 116) dX6_mayBe_114 ib_12 rfl ?_
  obtain ⟨v25, σ26, hv25, h⟩ := ah_bs2 h
  refine ro_callS (pc' := 119) (As := [.int x1, .int (0 : Int32), .int (12 : Int32)]) (rest := []) (st' := [.int v25]) q1494 (M_X6_in hv25) q1493 q1495 q104 dd_X6_in rfl ⟨Nat.le_of_ble_eq_true rfl, Nat.le_of_ble_eq_true rfl⟩ (Nat.le_of_ble_eq_true rfl) dX6_mayBe_116 rfl rfl rfl ?_
  obtain ⟨z27, hz27, g⟩ := ah_bs h
  obtain ⟨ez27, hz27⟩ := ah_z_n hz27
  subst ez27
  obtain rfl := Option.some.inj g
  exact ro_zret hz27 hκ dX6_mayBe_119
theorem M_X6_mayBe {l : Launch} {D : ah_D}  {σ : ah_S} {x0 : Int32} {x1 : Int32} {v : Int32} {σ1 : ah_S} (h : F_X6_mayBe σ x0 x1 = some (v, σ1)) : ah_Met l yX6_mayBe (Cond.code yX6_mayBe cX6_mayBe 2 (some FieldType.boolean)) 2 46 D [.int x0, .int x1] σ (.returned (some (.int v)), σ1) :=
  ah_ofG (own := "LeftAsFoundModel") (nm := "mayBe") (L0 := [some (.int x0), some (.int x1)]) (by decide) rfl rfl rfl (ah_ao_1 rfl (ah_ao_1 rfl ah_ao_0)) (fun κ hκ => W_X6_mayBe hκ  σ x0 x1 h)
set_option maxRecDepth 20000 in
set_option maxHeartbeats 4000000 in
theorem W_X6_mend {κ : ah_C} {rr : (Int32 × ah_S)} (hκ : ah_res κ = (.returned (some (.int rr.1)), rr.2))  (σ : ah_S) (r0 : Option Nat) (x1 : Int32) (x2 : Int32) (x3 : Int32) (h : F_X6_mend σ r0 x1 x2 x3 = some rr) : ah_G κ ("LeftAsFoundModel", "mend", 4, (some FieldType.int), [], 5, 110) cX6_mend σ 0 [some (va_rf r0), some (.int x1), some (.int x2), some (.int x3)] [] := by
  unfold F_X6_mend at h
  refine ro_aload_n (pc' := 1) dX6_mend_0 rfl rfl rfl ?_
  refine ro_iload_n (pc' := 2) dX6_mend_1 rfl rfl rfl ?_
  refine ro_iload_n (pc' := 3) dX6_mend_2 rfl rfl rfl ?_
  obtain ⟨u1, hu1, h⟩ := ah_bs h
  obtain ⟨v2, σ3, hv2, h⟩ := ah_bs2 h
  refine ro_callV (pc' := 6) (As := [.int x1, .int x2]) (rest := []) (st' := [.int v2]) (by decide) hu1 q1529 sl_X6_isOne (M_X6_isOne hv2) q1527 q1530 q104 dd_X6_isOne rfl ⟨Nat.le_of_ble_eq_true rfl, Nat.le_of_ble_eq_true rfl⟩ (Nat.le_of_ble_eq_true rfl) dX6_mend_3 rfl rfl rfl ?_
  refine ro_if_eq (pc' := 9) (tgt := 27) dX6_mend_6 rfl rfl (fun c => ?_) (fun c => ?_)
  · replace h := ah_ip c h
    refine ro_iconst (pc' := 28) dX6_mend_27 ic_m1 rfl ?_
    obtain rfl := Option.some.inj h
    exact ro_iret hκ dX6_mend_28
  · replace h := ah_in_ c h
    refine ro_iload_n (pc' := 10) dX6_mend_9 rfl rfl rfl ?_
    refine ro_iload_n (pc' := 11) dX6_mend_10 rfl rfl rfl ?_
    obtain ⟨v4, σ5, hv4, h⟩ := ah_bs2 h
    refine ro_callS (pc' := 14) (As := [.int x2, .int x3]) (rest := []) (st' := [.int v4]) q1543 (M_X6_mayBe hv4) q1542 q1544 q104 dd_X6_mayBe rfl ⟨Nat.le_of_ble_eq_true rfl, Nat.le_of_ble_eq_true rfl⟩ (Nat.le_of_ble_eq_true rfl) dX6_mend_11 rfl rfl rfl ?_
    refine ro_if_eq (pc' := 17) (tgt := 27) dX6_mend_14 rfl rfl (fun c => ?_) (fun c => ?_)
    · replace h := ah_ip c h
      refine ro_iconst (pc' := 28) dX6_mend_27 ic_m1 rfl ?_
      obtain rfl := Option.some.inj h
      exact ro_iret hκ dX6_mend_28
    · replace h := ah_in_ c h
      refine ro_aload_n (pc' := 18) dX6_mend_17 rfl rfl rfl ?_
      refine ro_iload_n (pc' := 19) dX6_mend_18 rfl rfl rfl ?_
      refine ro_iload_n (pc' := 20) dX6_mend_19 rfl rfl rfl ?_
      refine ro_iload_n (pc' := 21) dX6_mend_20 rfl rfl rfl ?_
      obtain ⟨u6, hu6, h⟩ := ah_bs h
      obtain ⟨v7, σ8, hv7, h⟩ := ah_bs2 h
      refine ro_callV (pc' := 24) (As := [.int x2, .int x1, .int x3]) (rest := []) (st' := [.int v7]) (by decide) hu6 q1547 sl_X6_changes (M_X6_changes hv7) q1545 q1548 q104 dd_X6_changes rfl ⟨Nat.le_of_ble_eq_true rfl, Nat.le_of_ble_eq_true rfl⟩ (Nat.le_of_ble_eq_true rfl) dX6_mend_21 rfl rfl rfl ?_
      refine ro_goto (tgt := 28) dX6_mend_24 rfl ?_
      obtain rfl := Option.some.inj h
      exact ro_iret hκ dX6_mend_28
theorem M_X6_mend {l : Launch} {D : ah_D}  {σ : ah_S} {r0 : Option Nat} {x1 : Int32} {x2 : Int32} {x3 : Int32} {v : Int32} {σ1 : ah_S} (h : F_X6_mend σ r0 x1 x2 x3 = some (v, σ1)) : ah_Met l yX6_mend (Cond.code yX6_mend cX6_mend 4 (some FieldType.int)) 5 110 D [va_rf r0, .int x1, .int x2, .int x3] σ (.returned (some (.int v)), σ1) :=
  ah_ofG (own := "LeftAsFoundModel") (nm := "mend") (L0 := [some (va_rf r0), some (.int x1), some (.int x2), some (.int x3)]) (by decide) rfl rfl rfl (ah_ao_1 (ah_rf_cat _) (ah_ao_1 rfl (ah_ao_1 rfl (ah_ao_1 rfl ah_ao_0)))) (fun κ hκ => W_X6_mend hκ  σ r0 x1 x2 x3 h)
set_option maxRecDepth 20000 in
set_option maxHeartbeats 4000000 in
theorem W_X6_nameOf {κ : ah_C} {rr : (Int32 × ah_S)} (hκ : ah_res κ = (.returned (some (.int rr.1)), rr.2))  (σ : ah_S) (x0 : Int32) (h : F_X6_nameOf σ x0 = some rr) : ah_G κ ("LeftAsFoundModel", "nameOf", 1, (some FieldType.int), [], 1, 24) cX6_nameOf σ 0 [some (.int x0)] [] := by
  unfold F_X6_nameOf at h
  refine ro_iload_n (pc' := 1) dX6_nameOf_0 rfl rfl rfl ?_
  by_cases c1_0 : x0 = (98 : Int32)
  · replace h := ah_ip c1_0 h
    refine ro_tabIn (tgt := 98) 0 c1_0 dX6_nameOf_1 (by decide) (by decide) rfl rfl ?_
    refine ro_iconst (pc' := 99) dX6_nameOf_98 ic_3 rfl ?_
    obtain rfl := Option.some.inj h
    exact ro_iret hκ dX6_nameOf_99
  replace h := ah_in_ c1_0 h
  by_cases c1_1 : x0 = (99 : Int32)
  · replace h := ah_ip c1_1 h
    refine ro_tabIn (tgt := 104) 1 c1_1 dX6_nameOf_1 (by decide) (by decide) rfl rfl ?_
    refine ro_iconst (pc' := 105) dX6_nameOf_104 ic_m1 rfl ?_
    obtain rfl := Option.some.inj h
    exact ro_iret hκ dX6_nameOf_105
  replace h := ah_in_ c1_1 h
  by_cases c1_2 : x0 = (100 : Int32)
  · replace h := ah_ip c1_2 h
    refine ro_tabIn (tgt := 104) 2 c1_2 dX6_nameOf_1 (by decide) (by decide) rfl rfl ?_
    refine ro_iconst (pc' := 105) dX6_nameOf_104 ic_m1 rfl ?_
    obtain rfl := Option.some.inj h
    exact ro_iret hκ dX6_nameOf_105
  replace h := ah_in_ c1_2 h
  by_cases c1_3 : x0 = (101 : Int32)
  · replace h := ah_ip c1_3 h
    refine ro_tabIn (tgt := 104) 3 c1_3 dX6_nameOf_1 (by decide) (by decide) rfl rfl ?_
    refine ro_iconst (pc' := 105) dX6_nameOf_104 ic_m1 rfl ?_
    obtain rfl := Option.some.inj h
    exact ro_iret hκ dX6_nameOf_105
  replace h := ah_in_ c1_3 h
  by_cases c1_4 : x0 = (102 : Int32)
  · replace h := ah_ip c1_4 h
    refine ro_tabIn (tgt := 92) 4 c1_4 dX6_nameOf_1 (by decide) (by decide) rfl rfl ?_
    refine ro_iconst (pc' := 93) dX6_nameOf_92 ic_0 rfl ?_
    obtain rfl := Option.some.inj h
    exact ro_iret hκ dX6_nameOf_93
  replace h := ah_in_ c1_4 h
  by_cases c1_5 : x0 = (103 : Int32)
  · replace h := ah_ip c1_5 h
    refine ro_tabIn (tgt := 104) 5 c1_5 dX6_nameOf_1 (by decide) (by decide) rfl rfl ?_
    refine ro_iconst (pc' := 105) dX6_nameOf_104 ic_m1 rfl ?_
    obtain rfl := Option.some.inj h
    exact ro_iret hκ dX6_nameOf_105
  replace h := ah_in_ c1_5 h
  by_cases c1_6 : x0 = (104 : Int32)
  · replace h := ah_ip c1_6 h
    refine ro_tabIn (tgt := 104) 6 c1_6 dX6_nameOf_1 (by decide) (by decide) rfl rfl ?_
    refine ro_iconst (pc' := 105) dX6_nameOf_104 ic_m1 rfl ?_
    obtain rfl := Option.some.inj h
    exact ro_iret hκ dX6_nameOf_105
  replace h := ah_in_ c1_6 h
  by_cases c1_7 : x0 = (105 : Int32)
  · replace h := ah_ip c1_7 h
    refine ro_tabIn (tgt := 104) 7 c1_7 dX6_nameOf_1 (by decide) (by decide) rfl rfl ?_
    refine ro_iconst (pc' := 105) dX6_nameOf_104 ic_m1 rfl ?_
    obtain rfl := Option.some.inj h
    exact ro_iret hκ dX6_nameOf_105
  replace h := ah_in_ c1_7 h
  by_cases c1_8 : x0 = (106 : Int32)
  · replace h := ah_ip c1_8 h
    refine ro_tabIn (tgt := 104) 8 c1_8 dX6_nameOf_1 (by decide) (by decide) rfl rfl ?_
    refine ro_iconst (pc' := 105) dX6_nameOf_104 ic_m1 rfl ?_
    obtain rfl := Option.some.inj h
    exact ro_iret hκ dX6_nameOf_105
  replace h := ah_in_ c1_8 h
  by_cases c1_9 : x0 = (107 : Int32)
  · replace h := ah_ip c1_9 h
    refine ro_tabIn (tgt := 102) 9 c1_9 dX6_nameOf_1 (by decide) (by decide) rfl rfl ?_
    refine ro_iconst (pc' := 103) dX6_nameOf_102 ic_5 rfl ?_
    obtain rfl := Option.some.inj h
    exact ro_iret hκ dX6_nameOf_103
  replace h := ah_in_ c1_9 h
  by_cases c1_10 : x0 = (108 : Int32)
  · replace h := ah_ip c1_10 h
    refine ro_tabIn (tgt := 104) 10 c1_10 dX6_nameOf_1 (by decide) (by decide) rfl rfl ?_
    refine ro_iconst (pc' := 105) dX6_nameOf_104 ic_m1 rfl ?_
    obtain rfl := Option.some.inj h
    exact ro_iret hκ dX6_nameOf_105
  replace h := ah_in_ c1_10 h
  by_cases c1_11 : x0 = (109 : Int32)
  · replace h := ah_ip c1_11 h
    refine ro_tabIn (tgt := 104) 11 c1_11 dX6_nameOf_1 (by decide) (by decide) rfl rfl ?_
    refine ro_iconst (pc' := 105) dX6_nameOf_104 ic_m1 rfl ?_
    obtain rfl := Option.some.inj h
    exact ro_iret hκ dX6_nameOf_105
  replace h := ah_in_ c1_11 h
  by_cases c1_12 : x0 = (110 : Int32)
  · replace h := ah_ip c1_12 h
    refine ro_tabIn (tgt := 104) 12 c1_12 dX6_nameOf_1 (by decide) (by decide) rfl rfl ?_
    refine ro_iconst (pc' := 105) dX6_nameOf_104 ic_m1 rfl ?_
    obtain rfl := Option.some.inj h
    exact ro_iret hκ dX6_nameOf_105
  replace h := ah_in_ c1_12 h
  by_cases c1_13 : x0 = (111 : Int32)
  · replace h := ah_ip c1_13 h
    refine ro_tabIn (tgt := 94) 13 c1_13 dX6_nameOf_1 (by decide) (by decide) rfl rfl ?_
    refine ro_iconst (pc' := 95) dX6_nameOf_94 ic_1 rfl ?_
    obtain rfl := Option.some.inj h
    exact ro_iret hκ dX6_nameOf_95
  replace h := ah_in_ c1_13 h
  by_cases c1_14 : x0 = (112 : Int32)
  · replace h := ah_ip c1_14 h
    refine ro_tabIn (tgt := 104) 14 c1_14 dX6_nameOf_1 (by decide) (by decide) rfl rfl ?_
    refine ro_iconst (pc' := 105) dX6_nameOf_104 ic_m1 rfl ?_
    obtain rfl := Option.some.inj h
    exact ro_iret hκ dX6_nameOf_105
  replace h := ah_in_ c1_14 h
  by_cases c1_15 : x0 = (113 : Int32)
  · replace h := ah_ip c1_15 h
    refine ro_tabIn (tgt := 104) 15 c1_15 dX6_nameOf_1 (by decide) (by decide) rfl rfl ?_
    refine ro_iconst (pc' := 105) dX6_nameOf_104 ic_m1 rfl ?_
    obtain rfl := Option.some.inj h
    exact ro_iret hκ dX6_nameOf_105
  replace h := ah_in_ c1_15 h
  by_cases c1_16 : x0 = (114 : Int32)
  · replace h := ah_ip c1_16 h
    refine ro_tabIn (tgt := 104) 16 c1_16 dX6_nameOf_1 (by decide) (by decide) rfl rfl ?_
    refine ro_iconst (pc' := 105) dX6_nameOf_104 ic_m1 rfl ?_
    obtain rfl := Option.some.inj h
    exact ro_iret hκ dX6_nameOf_105
  replace h := ah_in_ c1_16 h
  by_cases c1_17 : x0 = (115 : Int32)
  · replace h := ah_ip c1_17 h
    refine ro_tabIn (tgt := 100) 17 c1_17 dX6_nameOf_1 (by decide) (by decide) rfl rfl ?_
    refine ro_iconst (pc' := 101) dX6_nameOf_100 ic_4 rfl ?_
    obtain rfl := Option.some.inj h
    exact ro_iret hκ dX6_nameOf_101
  replace h := ah_in_ c1_17 h
  by_cases c1_18 : x0 = (116 : Int32)
  · replace h := ah_ip c1_18 h
    refine ro_tabIn (tgt := 96) 18 c1_18 dX6_nameOf_1 (by decide) (by decide) rfl rfl ?_
    refine ro_iconst (pc' := 97) dX6_nameOf_96 ic_2 rfl ?_
    obtain rfl := Option.some.inj h
    exact ro_iret hκ dX6_nameOf_97
  replace h := ah_in_ c1_18 h
  refine ro_tabOut (tgt := 104) dX6_nameOf_1 (by have e0 := lv_neT (a := 98) c1_0 (by decide); have e1 := lv_neT (a := 99) c1_1 (by decide); have e2 := lv_neT (a := 100) c1_2 (by decide); have e3 := lv_neT (a := 101) c1_3 (by decide); have e4 := lv_neT (a := 102) c1_4 (by decide); have e5 := lv_neT (a := 103) c1_5 (by decide); have e6 := lv_neT (a := 104) c1_6 (by decide); have e7 := lv_neT (a := 105) c1_7 (by decide); have e8 := lv_neT (a := 106) c1_8 (by decide); have e9 := lv_neT (a := 107) c1_9 (by decide); have e10 := lv_neT (a := 108) c1_10 (by decide); have e11 := lv_neT (a := 109) c1_11 (by decide); have e12 := lv_neT (a := 110) c1_12 (by decide); have e13 := lv_neT (a := 111) c1_13 (by decide); have e14 := lv_neT (a := 112) c1_14 (by decide); have e15 := lv_neT (a := 113) c1_15 (by decide); have e16 := lv_neT (a := 114) c1_16 (by decide); have e17 := lv_neT (a := 115) c1_17 (by decide); have e18 := lv_neT (a := 116) c1_18 (by decide); omega) rfl ?_
  refine ro_iconst (pc' := 105) dX6_nameOf_104 ic_m1 rfl ?_
  obtain rfl := Option.some.inj h
  exact ro_iret hκ dX6_nameOf_105
theorem M_X6_nameOf {l : Launch} {D : ah_D}  {σ : ah_S} {x0 : Int32} {v : Int32} {σ1 : ah_S} (h : F_X6_nameOf σ x0 = some (v, σ1)) : ah_Met l yX6_nameOf (Cond.code yX6_nameOf cX6_nameOf 1 (some FieldType.int)) 1 24 D [.int x0] σ (.returned (some (.int v)), σ1) :=
  ah_ofG (own := "LeftAsFoundModel") (nm := "nameOf") (L0 := [some (.int x0)]) (by decide) rfl rfl rfl (ah_ao_1 rfl ah_ao_0) (fun κ hκ => W_X6_nameOf hκ  σ x0 h)
set_option maxRecDepth 20000 in
set_option maxHeartbeats 4000000 in
theorem W_X6_night {κ : ah_C} {rr : (Int32 × ah_S)} (hκ : ah_res κ = (.returned (some (.int rr.1)), rr.2))  (σ : ah_S) (r0 : Option Nat) (x1 : Int32) (h : F_X6_night σ r0 x1 = some rr) : ah_G κ ("LeftAsFoundModel", "night", 3, (some FieldType.int), [], 6, 145) cX6_night σ 0 [some (va_rf r0), some (.int x1), none] [] := by
  unfold F_X6_night at h
  refine ro_aload_n (pc' := 1) dX6_night_0 rfl rfl rfl ?_
  refine ro_iload_n (pc' := 2) dX6_night_1 rfl rfl rfl ?_
  obtain ⟨u1, hu1, h⟩ := ah_bs h
  obtain ⟨v2, σ3, hv2, h⟩ := ah_bs2 h
  refine ro_callV (pc' := 5) (As := [.int x1]) (rest := []) (st' := [.int v2]) (by decide) hu1 q1540 sl_X6_isGuest (M_X6_isGuest hv2) q1538 q1541 q104 dd_X6_isGuest rfl ⟨Nat.le_of_ble_eq_true rfl, Nat.le_of_ble_eq_true rfl⟩ (Nat.le_of_ble_eq_true rfl) dX6_night_2 rfl rfl rfl ?_
  refine ro_if_ne (pc' := 8) (tgt := 10) dX6_night_5 rfl rfl (fun c => ?_) (fun c => ?_)
  · replace h := ah_in_ c h
    refine ro_aload_n (pc' := 11) dX6_night_10 rfl rfl rfl ?_
    refine ro_iload_n (pc' := 12) dX6_night_11 rfl rfl rfl ?_
    obtain ⟨u4, hu4, h⟩ := ah_bs h
    obtain ⟨σ5, hσ5, h⟩ := ah_bs h
    refine ro_callV (pc' := 15) (As := [.int x1]) (rest := []) (st' := []) (by decide) hu4 q1642 sl_X6_nightOf (M_X6_nightOf hσ5) q1640 q1643 q104 dd_X6_nightOf rfl ⟨Nat.le_of_ble_eq_true rfl, Nat.le_of_ble_eq_true rfl⟩ (Nat.le_of_ble_eq_true rfl) dX6_night_12 rfl rfl rfl ?_
    refine ro_aload_n (pc' := 16) dX6_night_15 rfl rfl rfl ?_
    obtain ⟨u6, hu6, h⟩ := ah_bs h
    obtain ⟨v7, σ8, hv7, h⟩ := ah_bs2 h
    refine ro_callV (pc' := 19) (As := []) (rest := []) (st' := [.int v7]) (by decide) hu6 q1685 sl_X6_lossNow (M_X6_lossNow hv7) q1683 q1686 q104 dd_X6_lossNow rfl ⟨Nat.le_of_ble_eq_true rfl, Nat.le_of_ble_eq_true rfl⟩ (Nat.le_of_ble_eq_true rfl) dX6_night_16 rfl rfl rfl ?_
    refine ro_istore_n (pc' := 20) (L' := [some (va_rf r0), some (.int x1), some (.int v7)]) dX6_night_19 rfl (Nat.le_of_ble_eq_true rfl) rfl (ah_okp_i _) rfl ?_
    refine ro_aload_n (pc' := 21) dX6_night_20 rfl rfl rfl ?_
    obtain ⟨v9, hv9, h⟩ := ah_bs h
    refine ro_getR (pc' := 24) ft_648 fk_648 q1356 dX6_night_21 rfl hv9 ?_
    refine ro_iconst (pc' := 25) dX6_night_24 ic_0 rfl ?_
    refine ro_dup2 (pc' := 26) dX6_night_25 rfl (ah_rf_cat _) rfl ?_
    obtain ⟨v10, hv10, h⟩ := ah_bs h
    refine ro_iaload (pc' := 27) dX6_night_26 rfl hv10 ?_
    refine ro_iconst (pc' := 28) dX6_night_27 ic_1 rfl ?_
    refine ro_iadd (pc' := 29) dX6_night_28 rfl ?_
    obtain ⟨σ11, hσ11, h⟩ := ah_bs h
    refine ro_iastore (pc' := 30) dX6_night_29 rfl hσ11 ?_
    refine ro_aload_n (pc' := 31) dX6_night_30 rfl rfl rfl ?_
    obtain ⟨v12, hv12, h⟩ := ah_bs h
    refine ro_getR (pc' := 34) ft_648 fk_648 q1356 dX6_night_31 rfl hv12 ?_
    refine ro_iconst (pc' := 35) dX6_night_34 ic_1 rfl ?_
    refine ro_dup2 (pc' := 36) dX6_night_35 rfl (ah_rf_cat _) rfl ?_
    obtain ⟨v13, hv13, h⟩ := ah_bs h
    refine ro_iaload (pc' := 37) dX6_night_36 rfl hv13 ?_
    refine ro_iload_n (pc' := 38) dX6_night_37 rfl rfl rfl ?_
    refine ro_iadd (pc' := 39) dX6_night_38 rfl ?_
    obtain ⟨σ14, hσ14, h⟩ := ah_bs h
    refine ro_iastore (pc' := 40) dX6_night_39 rfl hσ14 ?_
    refine ro_iload_n (pc' := 41) dX6_night_40 rfl rfl rfl ?_
    refine ro_aload_n (pc' := 42) dX6_night_41 rfl rfl rfl ?_
    obtain ⟨v15, hv15, h⟩ := ah_bs h
    refine ro_getR (pc' := 45) ft_648 fk_648 q1356 dX6_night_42 rfl hv15 ?_
    refine ro_iconst (pc' := 46) dX6_night_45 ic_2 rfl ?_
    obtain ⟨v16, hv16, h⟩ := ah_bs h
    refine ro_iaload (pc' := 47) dX6_night_46 rfl hv16 ?_
    refine ro_icmp_le (pc' := 50) (tgt := 64) dX6_night_47 rfl rfl (fun c => ?_) (fun c => ?_)
    · replace h := ah_ip c h
      refine ro_iload_n (pc' := 65) dX6_night_64 rfl rfl rfl ?_
      obtain rfl := Option.some.inj h
      exact ro_iret hκ dX6_night_65
    · replace h := ah_in_ c h
      refine ro_aload_n (pc' := 51) dX6_night_50 rfl rfl rfl ?_
      obtain ⟨v17, hv17, h⟩ := ah_bs h
      refine ro_getR (pc' := 54) ft_648 fk_648 q1356 dX6_night_51 rfl hv17 ?_
      refine ro_iconst (pc' := 55) dX6_night_54 ic_2 rfl ?_
      refine ro_iload_n (pc' := 56) dX6_night_55 rfl rfl rfl ?_
      obtain ⟨σ18, hσ18, h⟩ := ah_bs h
      refine ro_iastore (pc' := 57) dX6_night_56 rfl hσ18 ?_
      refine ro_aload_n (pc' := 58) dX6_night_57 rfl rfl rfl ?_
      obtain ⟨v19, hv19, h⟩ := ah_bs h
      refine ro_getR (pc' := 61) ft_648 fk_648 q1356 dX6_night_58 rfl hv19 ?_
      refine ro_iconst (pc' := 62) dX6_night_61 ic_3 rfl ?_
      refine ro_iload_n (pc' := 63) dX6_night_62 rfl rfl rfl ?_
      obtain ⟨σ20, hσ20, h⟩ := ah_bs h
      refine ro_iastore (pc' := 64) dX6_night_63 rfl hσ20 ?_
      refine ro_iload_n (pc' := 65) dX6_night_64 rfl rfl rfl ?_
      obtain rfl := Option.some.inj h
      exact ro_iret hκ dX6_night_65
  · replace h := ah_ip c h
    refine ro_iconst (pc' := 9) dX6_night_8 ic_m1 rfl ?_
    obtain rfl := Option.some.inj h
    exact ro_iret hκ dX6_night_9
theorem M_X6_night {l : Launch} {D : ah_D}  {σ : ah_S} {r0 : Option Nat} {x1 : Int32} {v : Int32} {σ1 : ah_S} (h : F_X6_night σ r0 x1 = some (v, σ1)) : ah_Met l yX6_night (Cond.code yX6_night cX6_night 3 (some FieldType.int)) 6 145 D [va_rf r0, .int x1] σ (.returned (some (.int v)), σ1) :=
  ah_ofG (own := "LeftAsFoundModel") (nm := "night") (L0 := [some (va_rf r0), some (.int x1), none]) (by decide) rfl rfl rfl (ah_ao_1 (ah_rf_cat _) (ah_ao_1 rfl (ah_ao_n ah_ao_0))) (fun κ hκ => W_X6_night hκ  σ r0 x1 h)
set_option maxRecDepth 20000 in
set_option maxHeartbeats 4000000 in
theorem W_X6_of {κ : ah_C} {rr : (Int32 × ah_S)} (hκ : ah_res κ = (.returned (some (.int rr.1)), rr.2))  (σ : ah_S) (r0 : Option Nat) (x1 : Int32) (x2 : Int32) (h : F_X6_of σ r0 x1 x2 = some rr) : ah_G κ ("LeftAsFoundModel", "of", 3, (some FieldType.int), [], 5, 110) cX6_of σ 0 [some (va_rf r0), some (.int x1), some (.int x2)] [] := by
  unfold F_X6_of at h
  refine ro_iload_n (pc' := 1) dX6_of_0 rfl rfl rfl ?_
  refine ro_iconst (pc' := 2) dX6_of_1 ic_0 rfl ?_
  refine ro_bipush (pc' := 4) dX6_of_2 ib_8 rfl ?_
  obtain ⟨v1, σ2, hv1, h⟩ := ah_bs2 h
  refine ro_callS (pc' := 7) (As := [.int x2, .int (0 : Int32), .int (8 : Int32)]) (rest := []) (st' := [.int v1]) q1494 (M_X6_in hv1) q1493 q1495 q104 dd_X6_in rfl ⟨Nat.le_of_ble_eq_true rfl, Nat.le_of_ble_eq_true rfl⟩ (Nat.le_of_ble_eq_true rfl) dX6_of_4 rfl rfl rfl ?_
  refine ro_if_eq (pc' := 10) (tgt := 30) dX6_of_7 rfl rfl (fun c => ?_) (fun c => ?_)
  · replace h := ah_ip c h
    refine ro_iload_n (pc' := 31) dX6_of_30 rfl rfl rfl ?_
    refine ro_bipush (pc' := 33) dX6_of_31 ib_10 rfl ?_
    refine ro_bipush (pc' := 35) dX6_of_33 ib_11 rfl ?_
    obtain ⟨v3, σ4, hv3, h⟩ := ah_bs2 h
    refine ro_callS (pc' := 38) (As := [.int x2, .int (10 : Int32), .int (11 : Int32)]) (rest := []) (st' := [.int v3]) q1494 (M_X6_in hv3) q1493 q1495 q104 dd_X6_in rfl ⟨Nat.le_of_ble_eq_true rfl, Nat.le_of_ble_eq_true rfl⟩ (Nat.le_of_ble_eq_true rfl) dX6_of_35 rfl rfl rfl ?_
    refine ro_if_eq (pc' := 41) (tgt := 71) dX6_of_38 rfl rfl (fun c => ?_) (fun c => ?_)
    · replace h := ah_ip c h
      refine ro_iload_n (pc' := 72) dX6_of_71 rfl rfl rfl ?_
      refine ro_bipush (pc' := 74) dX6_of_72 ib_12 rfl ?_
      refine ro_icmp_ne (pc' := 77) (tgt := 85) dX6_of_74 rfl rfl (fun c => ?_) (fun c => ?_)
      · replace h := ah_in_ c h
        refine ro_iconst (pc' := 86) dX6_of_85 ic_m1 rfl ?_
        obtain rfl := Option.some.inj h
        exact ro_iret hκ dX6_of_86
      · replace h := ah_ip c h
        refine ro_aload_n (pc' := 78) dX6_of_77 rfl rfl rfl ?_
        refine ro_iload_n (pc' := 79) dX6_of_78 rfl rfl rfl ?_
        obtain ⟨u5, hu5, h⟩ := ah_bs h
        obtain ⟨v6, σ7, hv6, h⟩ := ah_bs2 h
        refine ro_callV (pc' := 82) (As := [.int x1]) (rest := []) (st' := [.int v6]) (by decide) hu5 q1536 sl_X6_areTwo (M_X6_areTwo hv6) q1534 q1537 q104 dd_X6_areTwo rfl ⟨Nat.le_of_ble_eq_true rfl, Nat.le_of_ble_eq_true rfl⟩ (Nat.le_of_ble_eq_true rfl) dX6_of_79 rfl rfl rfl ?_
        refine ro_if_ne (pc' := 85) (tgt := 87) dX6_of_82 rfl rfl (fun c => ?_) (fun c => ?_)
        · replace h := ah_in_ c h
          refine ro_aload_n (pc' := 88) dX6_of_87 rfl rfl rfl ?_
          obtain ⟨v8, hv8, h⟩ := ah_bs h
          refine ro_getR (pc' := 91) ft_611 fk_611 q1319 dX6_of_88 rfl hv8 ?_
          refine ro_bipush (pc' := 93) dX6_of_91 ib_13 rfl ?_
          refine ro_iload_n (pc' := 94) dX6_of_93 rfl rfl rfl ?_
          refine ro_bipush (pc' := 96) dX6_of_94 ib_10 rfl ?_
          obtain ⟨q9, hq9, h⟩ := ah_bs h
          refine ro_idiv (pc' := 97) dX6_of_96 rfl hq9 ?_
          refine ro_iadd (pc' := 98) dX6_of_97 rfl ?_
          obtain ⟨v10, hv10, h⟩ := ah_bs h
          refine ro_iaload (pc' := 99) dX6_of_98 rfl hv10 ?_
          refine ro_if_ne (pc' := 102) (tgt := 107) dX6_of_99 rfl rfl (fun c => ?_) (fun c => ?_)
          · replace h := ah_in_ c h
            refine ro_aload_n (pc' := 108) dX6_of_107 rfl rfl rfl ?_
            obtain ⟨v11, hv11, h⟩ := ah_bs h
            refine ro_getR (pc' := 111) ft_611 fk_611 q1319 dX6_of_108 rfl hv11 ?_
            refine ro_bipush (pc' := 113) dX6_of_111 ib_20 rfl ?_
            refine ro_iload_n (pc' := 114) dX6_of_113 rfl rfl rfl ?_
            obtain ⟨v12, σ13, hv12, h⟩ := ah_bs2 h
            refine ro_callS (pc' := 117) (As := [.int x1]) (rest := [.int (20 : Int32), va_rf v11]) (st' := [.int v12, .int (20 : Int32), va_rf v11]) q1517 (M_X6_spotAt hv12) q1516 q1518 q104 dd_X6_spotAt rfl ⟨Nat.le_of_ble_eq_true rfl, Nat.le_of_ble_eq_true rfl⟩ (by simp only [List.map_cons, List.map_nil, List.sum_cons, List.sum_nil, ah_rf_cat, ah_cat_i, ah_cat_l]; decide) dX6_of_114 rfl rfl rfl ?_
            refine ro_iadd (pc' := 118) dX6_of_117 rfl ?_
            obtain ⟨v14, hv14, h⟩ := ah_bs h
            refine ro_iaload (pc' := 119) dX6_of_118 rfl hv14 ?_
            obtain rfl := Option.some.inj h
            exact ro_iret hκ dX6_of_119
          · replace h := ah_ip c h
            refine ro_bipush (pc' := 104) dX6_of_102 ib_m2 rfl ?_
            refine ro_goto (tgt := 119) dX6_of_104 rfl ?_
            obtain rfl := Option.some.inj h
            exact ro_iret hκ dX6_of_119
        · replace h := ah_ip c h
          refine ro_iconst (pc' := 86) dX6_of_85 ic_m1 rfl ?_
          obtain rfl := Option.some.inj h
          exact ro_iret hκ dX6_of_86
    · replace h := ah_in_ c h
      refine ro_iload_n (pc' := 42) dX6_of_41 rfl rfl rfl ?_
      obtain ⟨v15, σ16, hv15, h⟩ := ah_bs2 h
      refine ro_callS (pc' := 45) (As := [.int x1]) (rest := []) (st' := [.int v15]) q1532 (M_X6_isThing hv15) q1531 q1533 q104 dd_X6_isThing rfl ⟨Nat.le_of_ble_eq_true rfl, Nat.le_of_ble_eq_true rfl⟩ (Nat.le_of_ble_eq_true rfl) dX6_of_42 rfl rfl rfl ?_
      refine ro_if_eq (pc' := 48) (tgt := 69) dX6_of_45 rfl rfl (fun c => ?_) (fun c => ?_)
      · replace h := ah_ip c h
        refine ro_iconst (pc' := 70) dX6_of_69 ic_m1 rfl ?_
        obtain rfl := Option.some.inj h
        exact ro_iret hκ dX6_of_70
      · replace h := ah_in_ c h
        refine ro_aload_n (pc' := 49) dX6_of_48 rfl rfl rfl ?_
        obtain ⟨v17, hv17, h⟩ := ah_bs h
        refine ro_getR (pc' := 52) ft_611 fk_611 q1319 dX6_of_49 rfl hv17 ?_
        refine ro_iload_n (pc' := 53) dX6_of_52 rfl rfl rfl ?_
        refine ro_iload_n (pc' := 54) dX6_of_53 rfl rfl rfl ?_
        refine ro_bipush (pc' := 56) dX6_of_54 ib_11 rfl ?_
        refine ro_icmp_ne (pc' := 59) (tgt := 63) dX6_of_56 rfl rfl (fun c => ?_) (fun c => ?_)
        · replace h := ah_in_ c h
          refine ro_iconst (pc' := 64) dX6_of_63 ic_0 rfl ?_
          refine ro_iadd (pc' := 65) dX6_of_64 rfl ?_
          obtain ⟨v18, hv18, h⟩ := ah_bs h
          refine ro_iaload (pc' := 66) dX6_of_65 rfl hv18 ?_
          refine ro_goto (tgt := 70) dX6_of_66 rfl ?_
          obtain rfl := Option.some.inj h
          exact ro_iret hκ dX6_of_70
        · replace h := ah_ip c h
          refine ro_iconst (pc' := 60) dX6_of_59 ic_4 rfl ?_
          refine ro_goto (tgt := 64) dX6_of_60 rfl ?_
          refine ro_iadd (pc' := 65) dX6_of_64 rfl ?_
          obtain ⟨v19, hv19, h⟩ := ah_bs h
          refine ro_iaload (pc' := 66) dX6_of_65 rfl hv19 ?_
          refine ro_goto (tgt := 70) dX6_of_66 rfl ?_
          obtain rfl := Option.some.inj h
          exact ro_iret hκ dX6_of_70
  · replace h := ah_in_ c h
    refine ro_aload_n (pc' := 11) dX6_of_10 rfl rfl rfl ?_
    refine ro_iload_n (pc' := 12) dX6_of_11 rfl rfl rfl ?_
    refine ro_iload_n (pc' := 13) dX6_of_12 rfl rfl rfl ?_
    obtain ⟨u20, hu20, h⟩ := ah_bs h
    obtain ⟨v21, σ22, hv21, h⟩ := ah_bs2 h
    refine ro_callV (pc' := 16) (As := [.int x1, .int x2]) (rest := []) (st' := [.int v21]) (by decide) hu20 q1529 sl_X6_isOne (M_X6_isOne hv21) q1527 q1530 q104 dd_X6_isOne rfl ⟨Nat.le_of_ble_eq_true rfl, Nat.le_of_ble_eq_true rfl⟩ (Nat.le_of_ble_eq_true rfl) dX6_of_13 rfl rfl rfl ?_
    refine ro_if_eq (pc' := 19) (tgt := 28) dX6_of_16 rfl rfl (fun c => ?_) (fun c => ?_)
    · replace h := ah_ip c h
      refine ro_iconst (pc' := 29) dX6_of_28 ic_m1 rfl ?_
      obtain rfl := Option.some.inj h
      exact ro_iret hκ dX6_of_29
    · replace h := ah_in_ c h
      refine ro_aload_n (pc' := 20) dX6_of_19 rfl rfl rfl ?_
      refine ro_iload_n (pc' := 21) dX6_of_20 rfl rfl rfl ?_
      refine ro_iload_n (pc' := 22) dX6_of_21 rfl rfl rfl ?_
      obtain ⟨u23, hu23, h⟩ := ah_bs h
      obtain ⟨v24, σ25, hv24, h⟩ := ah_bs2 h
      refine ro_callV (pc' := 25) (As := [.int x2, .int x1]) (rest := []) (st' := [.int v24]) (by decide) hu23 q1551 sl_X6_valueAt (M_X6_valueAt hv24) q1549 q1552 q104 dd_X6_valueAt rfl ⟨Nat.le_of_ble_eq_true rfl, Nat.le_of_ble_eq_true rfl⟩ (Nat.le_of_ble_eq_true rfl) dX6_of_22 rfl rfl rfl ?_
      refine ro_goto (tgt := 29) dX6_of_25 rfl ?_
      obtain rfl := Option.some.inj h
      exact ro_iret hκ dX6_of_29
theorem M_X6_of {l : Launch} {D : ah_D}  {σ : ah_S} {r0 : Option Nat} {x1 : Int32} {x2 : Int32} {v : Int32} {σ1 : ah_S} (h : F_X6_of σ r0 x1 x2 = some (v, σ1)) : ah_Met l yX6_of (Cond.code yX6_of cX6_of 3 (some FieldType.int)) 5 110 D [va_rf r0, .int x1, .int x2] σ (.returned (some (.int v)), σ1) :=
  ah_ofG (own := "LeftAsFoundModel") (nm := "of") (L0 := [some (va_rf r0), some (.int x1), some (.int x2)]) (by decide) rfl rfl rfl (ah_ao_1 (ah_rf_cat _) (ah_ao_1 rfl (ah_ao_1 rfl ah_ao_0))) (fun κ hκ => W_X6_of hκ  σ r0 x1 x2 h)
set_option maxRecDepth 20000 in
set_option maxHeartbeats 4000000 in
theorem W_X6_often_50 {κ : ah_C} {rr : (Int32 × ah_S)} (hκ : ah_res κ = (.returned (some (.int rr.1)), rr.2))    : ∀ (n : Nat) (σ : ah_S) (r0 : Option Nat) (x2 : Int32) (x3 : Int32) (x4 : Int32), F_X6_often_50 n σ r0 x2 x3 x4 = some rr → ah_G κ ("LeftAsFoundModel", "often", 5, (some FieldType.int), [], 8, 194) cX6_often σ 50 [some (va_rf r0), none, some (.int x2), some (.int x3), some (.int x4)] [] := by
  intro n
  induction n with
  | zero => intro σ r0 x2 x3 x4 h; cases h
  | succ n ih =>
    intro σ r0 x2 x3 x4 h
    rw [F_X6_often_50] at h
    refine ro_iload (pc' := 52) dX6_often_50 rfl rfl ?_
    refine ro_iconst (pc' := 53) dX6_often_52 ic_1 rfl ?_
    refine ro_icmp_lt (pc' := 56) (tgt := 83) dX6_often_53 rfl rfl (fun c => ?_) (fun c => ?_)
    · replace h := ah_ip c h
      refine ro_bipush (pc' := 85) dX6_often_83 ib_m2 rfl ?_
      obtain rfl := Option.some.inj h
      exact ro_iret hκ dX6_often_85
    · replace h := ah_in_ c h
      refine ro_aload_n (pc' := 57) dX6_often_56 rfl rfl rfl ?_
      refine ro_iload_n (pc' := 58) dX6_often_57 rfl rfl rfl ?_
      refine ro_bipush (pc' := 60) dX6_often_58 ib_10 rfl ?_
      obtain ⟨q1, hq1, h⟩ := ah_bs h
      refine ro_idiv (pc' := 61) dX6_often_60 rfl hq1 ?_
      refine ro_iload_n (pc' := 62) dX6_often_61 rfl rfl rfl ?_
      refine ro_bipush (pc' := 64) dX6_often_62 ib_10 rfl ?_
      obtain ⟨q2, hq2, h⟩ := ah_bs h
      refine ro_irem (pc' := 65) dX6_often_64 rfl hq2 ?_
      refine ro_iload (pc' := 67) dX6_often_65 rfl rfl ?_
      refine ro_iload_n (pc' := 68) dX6_often_67 rfl rfl rfl ?_
      obtain ⟨u3, hu3, h⟩ := ah_bs h
      obtain ⟨v4, σ5, hv4, h⟩ := ah_bs2 h
      refine ro_callV (pc' := 71) (As := [.int q1, .int q2, .int x4, .int x3]) (rest := []) (st' := [.int v4]) (by decide) hu3 q1705 sl_X6_holds60 (M_X6_holds60 hv4) q1703 q1706 q104 dd_X6_holds60 rfl ⟨Nat.le_of_ble_eq_true rfl, Nat.le_of_ble_eq_true rfl⟩ (Nat.le_of_ble_eq_true rfl) dX6_often_68 rfl rfl rfl ?_
      refine ro_if_eq (pc' := 74) (tgt := 77) dX6_often_71 rfl rfl (fun c => ?_) (fun c => ?_)
      · replace h := ah_ip c h
        refine ro_iinc (pc' := 80) (L' := [some (va_rf r0), none, some (.int x2), some (.int x3), some (.int (x4 + (-1 : Int32)))]) dX6_often_77 rfl ic_m1 (Nat.le_of_ble_eq_true rfl) rfl (ah_okp_i _) rfl ?_
        refine ro_goto (tgt := 50) dX6_often_80 rfl ?_
        exact ih _ _ _ _ _ h
      · replace h := ah_in_ c h
        refine ro_iload (pc' := 76) dX6_often_74 rfl rfl ?_
        obtain rfl := Option.some.inj h
        exact ro_iret hκ dX6_often_76
set_option maxRecDepth 20000 in
set_option maxHeartbeats 4000000 in
theorem W_X6_often {κ : ah_C} {rr : (Int32 × ah_S)} (hκ : ah_res κ = (.returned (some (.int rr.1)), rr.2))  (σ : ah_S) (r0 : Option Nat) (x1 : Int32) (x2 : Int32) (x3 : Int32) (h : F_X6_often σ r0 x1 x2 x3 = some rr) : ah_G κ ("LeftAsFoundModel", "often", 5, (some FieldType.int), [], 8, 194) cX6_often σ 0 [some (va_rf r0), some (.int x1), some (.int x2), some (.int x3), none] [] := by
  unfold F_X6_often at h
  refine ro_iload_n (pc' := 1) dX6_often_0 rfl rfl rfl ?_
  obtain ⟨v1, σ2, hv1, h⟩ := ah_bs2 h
  refine ro_callS (pc' := 4) (As := [.int x1]) (rest := []) (st' := [.int v1]) q1505 (M_X6_isShelf hv1) q1504 q1506 q104 dd_X6_isShelf rfl ⟨Nat.le_of_ble_eq_true rfl, Nat.le_of_ble_eq_true rfl⟩ (Nat.le_of_ble_eq_true rfl) dX6_often_1 rfl rfl rfl ?_
  refine ro_if_eq (pc' := 7) (tgt := 25) dX6_often_4 rfl rfl (fun c => ?_) (fun c => ?_)
  · replace h := ah_ip c h
    refine ro_iconst (pc' := 26) dX6_often_25 ic_m1 rfl ?_
    obtain rfl := Option.some.inj h
    exact ro_iret hκ dX6_often_26
  · replace h := ah_in_ c h
    refine ro_aload_n (pc' := 8) dX6_often_7 rfl rfl rfl ?_
    refine ro_iload_n (pc' := 9) dX6_often_8 rfl rfl rfl ?_
    obtain ⟨u3, hu3, h⟩ := ah_bs h
    obtain ⟨v4, σ5, hv4, h⟩ := ah_bs2 h
    refine ro_callV (pc' := 12) (As := [.int x2]) (rest := []) (st' := [.int v4]) (by decide) hu3 q1536 sl_X6_areTwo (M_X6_areTwo hv4) q1534 q1537 q104 dd_X6_areTwo rfl ⟨Nat.le_of_ble_eq_true rfl, Nat.le_of_ble_eq_true rfl⟩ (Nat.le_of_ble_eq_true rfl) dX6_often_9 rfl rfl rfl ?_
    refine ro_if_eq (pc' := 15) (tgt := 25) dX6_often_12 rfl rfl (fun c => ?_) (fun c => ?_)
    · replace h := ah_ip c h
      refine ro_iconst (pc' := 26) dX6_often_25 ic_m1 rfl ?_
      obtain rfl := Option.some.inj h
      exact ro_iret hκ dX6_often_26
    · replace h := ah_in_ c h
      refine ro_iload_n (pc' := 16) dX6_often_15 rfl rfl rfl ?_
      refine ro_iconst (pc' := 17) dX6_often_16 ic_0 rfl ?_
      refine ro_bipush (pc' := 19) dX6_often_17 ib_99 rfl ?_
      obtain ⟨v6, σ7, hv6, h⟩ := ah_bs2 h
      refine ro_callS (pc' := 22) (As := [.int x3, .int (0 : Int32), .int (99 : Int32)]) (rest := []) (st' := [.int v6]) q1494 (M_X6_in hv6) q1493 q1495 q104 dd_X6_in rfl ⟨Nat.le_of_ble_eq_true rfl, Nat.le_of_ble_eq_true rfl⟩ (Nat.le_of_ble_eq_true rfl) dX6_often_19 rfl rfl rfl ?_
      refine ro_if_ne (pc' := 25) (tgt := 27) dX6_often_22 rfl rfl (fun c => ?_) (fun c => ?_)
      · replace h := ah_in_ c h
        refine ro_aload_n (pc' := 28) dX6_often_27 rfl rfl rfl ?_
        refine ro_iload_n (pc' := 29) dX6_often_28 rfl rfl rfl ?_
        obtain ⟨u8, hu8, h⟩ := ah_bs h
        obtain ⟨v9, σ10, hv9, h⟩ := ah_bs2 h
        refine ro_callV (pc' := 32) (As := [.int x1]) (rest := []) (st' := [.int v9]) (by decide) hu8 q1626 sl_X6_rowFault (M_X6_rowFault hv9) q1624 q1627 q104 dd_X6_rowFault rfl ⟨Nat.le_of_ble_eq_true rfl, Nat.le_of_ble_eq_true rfl⟩ (Nat.le_of_ble_eq_true rfl) dX6_often_29 rfl rfl rfl ?_
        refine ro_if_ge (pc' := 35) (tgt := 41) dX6_often_32 rfl rfl (fun c => ?_) (fun c => ?_)
        · replace h := ah_ip c h
          refine ro_aload_n (pc' := 42) dX6_often_41 rfl rfl rfl ?_
          refine ro_iload_n (pc' := 43) dX6_often_42 rfl rfl rfl ?_
          obtain ⟨u11, hu11, h⟩ := ah_bs h
          obtain ⟨σ12, hσ12, h⟩ := ah_bs h
          refine ro_callV (pc' := 46) (As := [.int x1]) (rest := []) (st' := []) (by decide) hu11 q1630 sl_X6_layStays (M_X6_layStays hσ12) q1628 q1631 q104 dd_X6_layStays rfl ⟨Nat.le_of_ble_eq_true rfl, Nat.le_of_ble_eq_true rfl⟩ (Nat.le_of_ble_eq_true rfl) dX6_often_43 rfl rfl rfl ?_
          refine ro_bipush (pc' := 48) dX6_often_46 ib_12 rfl ?_
          refine ro_istore (pc' := 50) (L' := [some (va_rf r0), some (.int x1), some (.int x2), some (.int x3), some (.int (12 : Int32))]) dX6_often_48 (Nat.le_of_ble_eq_true rfl) rfl (ah_okp_i _) rfl ?_
          refine ro_weak (L' := [some (va_rf r0), none, some (.int x2), some (.int x3), some (.int (12 : Int32))]) (ah_ls_s (ah_ls_n (ah_ls_s (ah_ls_s (ah_ls_s ah_ls_0))))) ?_
          exact W_X6_often_50 hκ _ _ _ _ _ _ h
        · replace h := ah_in_ c h
          refine ro_aload_n (pc' := 36) dX6_often_35 rfl rfl rfl ?_
          refine ro_iload_n (pc' := 37) dX6_often_36 rfl rfl rfl ?_
          obtain ⟨u13, hu13, h⟩ := ah_bs h
          obtain ⟨v14, σ15, hv14, h⟩ := ah_bs2 h
          refine ro_callV (pc' := 40) (As := [.int x1]) (rest := []) (st' := [.int v14]) (by decide) hu13 q1626 sl_X6_rowFault (M_X6_rowFault hv14) q1624 q1627 q104 dd_X6_rowFault rfl ⟨Nat.le_of_ble_eq_true rfl, Nat.le_of_ble_eq_true rfl⟩ (Nat.le_of_ble_eq_true rfl) dX6_often_37 rfl rfl rfl ?_
          obtain rfl := Option.some.inj h
          exact ro_iret hκ dX6_often_40
      · replace h := ah_ip c h
        refine ro_iconst (pc' := 26) dX6_often_25 ic_m1 rfl ?_
        obtain rfl := Option.some.inj h
        exact ro_iret hκ dX6_often_26
theorem M_X6_often {l : Launch} {D : ah_D}  {σ : ah_S} {r0 : Option Nat} {x1 : Int32} {x2 : Int32} {x3 : Int32} {v : Int32} {σ1 : ah_S} (h : F_X6_often σ r0 x1 x2 x3 = some (v, σ1)) : ah_Met l yX6_often (Cond.code yX6_often cX6_often 5 (some FieldType.int)) 8 194 D [va_rf r0, .int x1, .int x2, .int x3] σ (.returned (some (.int v)), σ1) :=
  ah_ofG (own := "LeftAsFoundModel") (nm := "often") (L0 := [some (va_rf r0), some (.int x1), some (.int x2), some (.int x3), none]) (by decide) rfl rfl rfl (ah_ao_1 (ah_rf_cat _) (ah_ao_1 rfl (ah_ao_1 rfl (ah_ao_1 rfl (ah_ao_n ah_ao_0))))) (fun κ hκ => W_X6_often hκ  σ r0 x1 x2 x3 h)
set_option maxRecDepth 20000 in
set_option maxHeartbeats 4000000 in
theorem W_X6_opens {κ : ah_C} {rr : (Int32 × ah_S)} (hκ : ah_res κ = (.returned (some (.int rr.1)), rr.2))  (σ : ah_S) (r0 : Option Nat) (h : F_X6_opens σ r0 = some rr) : ah_G κ ("LeftAsFoundModel", "opens", 1, (some FieldType.boolean), [], 2, 44) cX6_opens σ 0 [some (va_rf r0)] [] := by
  unfold F_X6_opens at h
  refine ro_aload_n (pc' := 1) dX6_opens_0 rfl rfl rfl ?_
  obtain ⟨v1, hv1, h⟩ := ah_bs h
  refine ro_getI (pc' := 4) ft_622 fk_622 q1330 dX6_opens_1 rfl hv1 ?_
  refine ro_bipush (pc' := 6) dX6_opens_4 ib_6 rfl ?_
  refine ro_icmp_ne (pc' := 9) (tgt := 15) dX6_opens_6 rfl rfl (fun c => ?_) (fun c => ?_)
  · replace h := ah_in_ c h
    refine ro_aload_n (pc' := 16) dX6_opens_15 rfl rfl rfl ?_
    refine ro_dup (pc' := 17) dX6_opens_16 (ah_rf_cat _) rfl ?_
    obtain ⟨v2, hv2, h⟩ := ah_bs h
    refine ro_getI (pc' := 20) ft_622 fk_622 q1330 dX6_opens_17 rfl hv2 ?_
    refine ro_iconst (pc' := 21) dX6_opens_20 ic_1 rfl ?_
    refine ro_iadd (pc' := 22) dX6_opens_21 rfl ?_
    obtain ⟨σ3, hσ3, h⟩ := ah_bs h
    refine ro_putI (pc' := 25) ft_622 fk_622 q1330 pd_622 dX6_opens_22 rfl hσ3 ?_
    refine ro_aload_n (pc' := 26) dX6_opens_25 rfl rfl rfl ?_
    refine ro_dup (pc' := 27) dX6_opens_26 (ah_rf_cat _) rfl ?_
    obtain ⟨v4, hv4, h⟩ := ah_bs h
    refine ro_getI (pc' := 30) ft_620 fk_620 q1328 dX6_opens_27 rfl hv4 ?_
    refine ro_iconst (pc' := 31) dX6_opens_30 ic_1 rfl ?_
    refine ro_iadd (pc' := 32) dX6_opens_31 rfl ?_
    obtain ⟨σ5, hσ5, h⟩ := ah_bs h
    refine ro_putI (pc' := 35) ft_620 fk_620 q1328 pd_620 dX6_opens_32 rfl hσ5 ?_
    refine ro_iconst (pc' := 36) dX6_opens_35 ic_1 rfl ?_
    obtain rfl := Option.some.inj h
    exact ro_zret rfl hκ dX6_opens_36
  · replace h := ah_ip c h
    refine ro_aload_n (pc' := 10) dX6_opens_9 rfl rfl rfl ?_
    obtain ⟨u6, hu6, h⟩ := ah_bs h
    obtain ⟨σ7, hσ7, h⟩ := ah_bs h
    refine ro_callV (pc' := 13) (As := []) (rest := []) (st' := []) (by decide) hu6 q1614 sl_X6_faulty (M_X6_faulty hσ7) q1612 q1615 q104 dd_X6_faulty rfl ⟨Nat.le_of_ble_eq_true rfl, Nat.le_of_ble_eq_true rfl⟩ (Nat.le_of_ble_eq_true rfl) dX6_opens_10 rfl rfl rfl ?_
    refine ro_iconst (pc' := 14) dX6_opens_13 ic_0 rfl ?_
    obtain rfl := Option.some.inj h
    exact ro_zret rfl hκ dX6_opens_14
theorem M_X6_opens {l : Launch} {D : ah_D}  {σ : ah_S} {r0 : Option Nat} {v : Int32} {σ1 : ah_S} (h : F_X6_opens σ r0 = some (v, σ1)) : ah_Met l yX6_opens (Cond.code yX6_opens cX6_opens 1 (some FieldType.boolean)) 2 44 D [va_rf r0] σ (.returned (some (.int v)), σ1) :=
  ah_ofG (own := "LeftAsFoundModel") (nm := "opens") (L0 := [some (va_rf r0)]) (by decide) rfl rfl rfl (ah_ao_1 (ah_rf_cat _) ah_ao_0) (fun κ hκ => W_X6_opens hκ  σ r0 h)
set_option maxRecDepth 20000 in
set_option maxHeartbeats 4000000 in
theorem W_X6_put {κ : ah_C} {rr : (Int32 × ah_S)} (hκ : ah_res κ = (.returned (some (.int rr.1)), rr.2))  (σ : ah_S) (r0 : Option Nat) (x1 : Int32) (x2 : Int32) (l3 : Int64) (h : F_X6_put σ r0 x1 x2 l3 = some rr) : ah_G κ ("LeftAsFoundModel", "put", 7, (some FieldType.int), [], 4, 88) cX6_put σ 0 [some (va_rf r0), some (.int x1), some (.int x2), some (.long l3), none, none, none] [] := by
  unfold F_X6_put at h
  refine ro_aload_n (pc' := 1) dX6_put_0 rfl rfl rfl ?_
  refine ro_iload_n (pc' := 2) dX6_put_1 rfl rfl rfl ?_
  refine ro_iload_n (pc' := 3) dX6_put_2 rfl rfl rfl ?_
  obtain ⟨u1, hu1, h⟩ := ah_bs h
  obtain ⟨v2, σ3, hv2, h⟩ := ah_bs2 h
  refine ro_callV (pc' := 6) (As := [.int x1, .int x2]) (rest := []) (st' := [.int v2]) (by decide) hu1 q1891 sl_X6_whyNoPlace (M_X6_whyNoPlace hv2) q1889 q1892 q104 dd_X6_whyNoPlace rfl ⟨Nat.le_of_ble_eq_true rfl, Nat.le_of_ble_eq_true rfl⟩ (Nat.le_of_ble_eq_true rfl) dX6_put_3 rfl rfl rfl ?_
  refine ro_istore (pc' := 8) (L' := [some (va_rf r0), some (.int x1), some (.int x2), some (.long l3), none, some (.int v2), none]) dX6_put_6 (Nat.le_of_ble_eq_true rfl) rfl ah_okp_u rfl ?_
  refine ro_iload (pc' := 10) dX6_put_8 rfl rfl ?_
  refine ro_if_ge (pc' := 13) (tgt := 16) dX6_put_10 rfl rfl (fun c => ?_) (fun c => ?_)
  · replace h := ah_ip c h
    refine ro_bipush (pc' := 18) dX6_put_16 ib_m2 rfl ?_
    refine ro_aload_n (pc' := 19) dX6_put_18 rfl rfl rfl ?_
    obtain ⟨v4, hv4, h⟩ := ah_bs h
    refine ro_getR (pc' := 22) ft_656 fk_656 q1364 dX6_put_19 rfl hv4 ?_
    refine ro_iload_n (pc' := 23) dX6_put_22 rfl rfl rfl ?_
    obtain ⟨v5, hv5, h⟩ := ah_bs h
    refine ro_iaload (pc' := 24) dX6_put_23 rfl hv5 ?_
    refine ro_isub (pc' := 25) dX6_put_24 rfl ?_
    refine ro_istore (pc' := 27) (L' := [some (va_rf r0), some (.int x1), some (.int x2), some (.long l3), none, some (.int v2), some (.int ((-2 : Int32) - v5))]) dX6_put_25 (Nat.le_of_ble_eq_true rfl) rfl (ah_okp_i _) rfl ?_
    refine ro_aload_n (pc' := 28) dX6_put_27 rfl rfl rfl ?_
    obtain ⟨v6, hv6, h⟩ := ah_bs h
    refine ro_getR (pc' := 31) ft_658 fk_658 q1366 dX6_put_28 rfl hv6 ?_
    refine ro_bipush (pc' := 33) dX6_put_31 ib_60 rfl ?_
    refine ro_iload_n (pc' := 34) dX6_put_33 rfl rfl rfl ?_
    refine ro_imul (pc' := 35) dX6_put_34 rfl ?_
    refine ro_iload_n (pc' := 36) dX6_put_35 rfl rfl rfl ?_
    refine ro_iadd (pc' := 37) dX6_put_36 rfl ?_
    refine ro_iload (pc' := 39) dX6_put_37 rfl rfl ?_
    refine ro_if_ne (pc' := 42) (tgt := 49) dX6_put_39 rfl rfl (fun c => ?_) (fun c => ?_)
    · replace h := ah_in_ c h
      refine ro_iload (pc' := 51) dX6_put_49 rfl rfl ?_
      refine ro_iconst (pc' := 52) dX6_put_51 ic_1 rfl ?_
      refine ro_icmp_ne (pc' := 55) (tgt := 62) dX6_put_52 rfl rfl (fun c => ?_) (fun c => ?_)
      · replace h := ah_in_ c h
        refine ro_iload (pc' := 64) dX6_put_62 rfl rfl ?_
        refine ro_iconst (pc' := 65) dX6_put_64 ic_2 rfl ?_
        refine ro_icmp_ne (pc' := 68) (tgt := 74) dX6_put_65 rfl rfl (fun c => ?_) (fun c => ?_)
        · replace h := ah_in_ c h
          refine ro_iload (pc' := 76) dX6_put_74 rfl rfl ?_
          refine ro_iconst (pc' := 77) dX6_put_76 ic_3 rfl ?_
          refine ro_icmp_ne (pc' := 80) (tgt := 84) dX6_put_77 rfl rfl (fun c => ?_) (fun c => ?_)
          · replace h := ah_in_ c h
            refine ro_lload_n (pc' := 85) dX6_put_84 rfl rfl rfl ?_
            refine ro_lconst (pc' := 86) dX6_put_85 lc_0 rfl ?_
            refine ro_lcmp (pc' := 87) dX6_put_86 rfl ?_
            refine ro_if_eq (pc' := 90) (tgt := 94) dX6_put_87 rfl rfl (fun c => ?_) (fun c => ?_)
            · replace h := ah_ip c h
              refine ro_lconst (pc' := 95) dX6_put_94 lc_0 rfl ?_
              obtain ⟨σ7, hσ7, h⟩ := ah_bs h
              refine ro_lastore (pc' := 96) dX6_put_95 rfl hσ7 ?_
              refine ro_iconst (pc' := 97) dX6_put_96 ic_1 rfl ?_
              obtain rfl := Option.some.inj h
              exact ro_iret hκ dX6_put_97
            · replace h := ah_in_ c h
              refine ro_lconst (pc' := 91) dX6_put_90 lc_1 rfl ?_
              refine ro_goto (tgt := 95) dX6_put_91 rfl ?_
              obtain ⟨σ8, hσ8, h⟩ := ah_bs h
              refine ro_lastore (pc' := 96) dX6_put_95 rfl hσ8 ?_
              refine ro_iconst (pc' := 97) dX6_put_96 ic_1 rfl ?_
              obtain rfl := Option.some.inj h
              exact ro_iret hκ dX6_put_97
          · replace h := ah_ip c h
            refine ro_lload_n (pc' := 81) dX6_put_80 rfl rfl rfl ?_
            refine ro_goto (tgt := 95) dX6_put_81 rfl ?_
            obtain ⟨σ9, hσ9, h⟩ := ah_bs h
            refine ro_lastore (pc' := 96) dX6_put_95 rfl hσ9 ?_
            refine ro_iconst (pc' := 97) dX6_put_96 ic_1 rfl ?_
            obtain rfl := Option.some.inj h
            exact ro_iret hκ dX6_put_97
        · replace h := ah_ip c h
          refine ro_lload_n (pc' := 69) dX6_put_68 rfl rfl rfl ?_
          refine ro_l2i (pc' := 70) dX6_put_69 rfl ?_
          refine ro_i2l (pc' := 71) dX6_put_70 rfl ?_
          refine ro_goto (tgt := 95) dX6_put_71 rfl ?_
          obtain ⟨σ10, hσ10, h⟩ := ah_bs h
          refine ro_lastore (pc' := 96) dX6_put_95 rfl hσ10 ?_
          refine ro_iconst (pc' := 97) dX6_put_96 ic_1 rfl ?_
          obtain rfl := Option.some.inj h
          exact ro_iret hκ dX6_put_97
      · replace h := ah_ip c h
        refine ro_lload_n (pc' := 56) dX6_put_55 rfl rfl rfl ?_
        refine ro_l2i (pc' := 57) dX6_put_56 rfl ?_
        refine ro_i2s (pc' := 58) dX6_put_57 rfl ?_
        refine ro_i2l (pc' := 59) dX6_put_58 rfl ?_
        refine ro_goto (tgt := 95) dX6_put_59 rfl ?_
        obtain ⟨σ11, hσ11, h⟩ := ah_bs h
        refine ro_lastore (pc' := 96) dX6_put_95 rfl hσ11 ?_
        refine ro_iconst (pc' := 97) dX6_put_96 ic_1 rfl ?_
        obtain rfl := Option.some.inj h
        exact ro_iret hκ dX6_put_97
    · replace h := ah_ip c h
      refine ro_lload_n (pc' := 43) dX6_put_42 rfl rfl rfl ?_
      refine ro_l2i (pc' := 44) dX6_put_43 rfl ?_
      refine ro_i2b (pc' := 45) dX6_put_44 rfl ?_
      refine ro_i2l (pc' := 46) dX6_put_45 rfl ?_
      refine ro_goto (tgt := 95) dX6_put_46 rfl ?_
      obtain ⟨σ12, hσ12, h⟩ := ah_bs h
      refine ro_lastore (pc' := 96) dX6_put_95 rfl hσ12 ?_
      refine ro_iconst (pc' := 97) dX6_put_96 ic_1 rfl ?_
      obtain rfl := Option.some.inj h
      exact ro_iret hκ dX6_put_97
  · replace h := ah_in_ c h
    refine ro_iload (pc' := 15) dX6_put_13 rfl rfl ?_
    obtain rfl := Option.some.inj h
    exact ro_iret hκ dX6_put_15
theorem M_X6_put {l : Launch} {D : ah_D}  {σ : ah_S} {r0 : Option Nat} {x1 : Int32} {x2 : Int32} {l3 : Int64} {v : Int32} {σ1 : ah_S} (h : F_X6_put σ r0 x1 x2 l3 = some (v, σ1)) : ah_Met l yX6_put (Cond.code yX6_put cX6_put 7 (some FieldType.int)) 4 88 D [va_rf r0, .int x1, .int x2, .long l3] σ (.returned (some (.int v)), σ1) :=
  ah_ofG (own := "LeftAsFoundModel") (nm := "put") (L0 := [some (va_rf r0), some (.int x1), some (.int x2), some (.long l3), none, none, none]) (by decide) rfl rfl rfl (ah_ao_1 (ah_rf_cat _) (ah_ao_1 rfl (ah_ao_1 rfl (ah_ao_2 rfl (ah_ao_n (ah_ao_n ah_ao_0)))))) (fun κ hκ => W_X6_put hκ  σ r0 x1 x2 l3 h)
set_option maxRecDepth 20000 in
set_option maxHeartbeats 4000000 in
theorem W_X6_redo {κ : ah_C} {rr : (Int32 × ah_S)} (hκ : ah_res κ = (.returned (some (.int rr.1)), rr.2))  (σ : ah_S) (r0 : Option Nat) (h : F_X6_redo σ r0 = some rr) : ah_G κ ("LeftAsFoundModel", "redo", 1, (some FieldType.int), [], 3, 67) cX6_redo σ 0 [some (va_rf r0)] [] := by
  unfold F_X6_redo at h
  refine ro_aload_n (pc' := 1) dX6_redo_0 rfl rfl rfl ?_
  obtain ⟨v1, hv1, h⟩ := ah_bs h
  refine ro_getI (pc' := 4) ft_613 fk_613 q1321 dX6_redo_1 rfl hv1 ?_
  refine ro_if_ne (pc' := 7) (tgt := 10) dX6_redo_4 rfl rfl (fun c => ?_) (fun c => ?_)
  · replace h := ah_in_ c h
    refine ro_aload_n (pc' := 11) dX6_redo_10 rfl rfl rfl ?_
    refine ro_aload_n (pc' := 12) dX6_redo_11 rfl rfl rfl ?_
    obtain ⟨v2, hv2, h⟩ := ah_bs h
    refine ro_getR (pc' := 15) ft_614 fk_614 q1322 dX6_redo_12 rfl hv2 ?_
    refine ro_aload_n (pc' := 16) dX6_redo_15 rfl rfl rfl ?_
    obtain ⟨v3, hv3, h⟩ := ah_bs h
    refine ro_getI (pc' := 19) ft_612 fk_612 q1320 dX6_redo_16 rfl hv3 ?_
    obtain ⟨v4, hv4, h⟩ := ah_bs h
    refine ro_iaload (pc' := 20) dX6_redo_19 rfl hv4 ?_
    refine ro_aload_n (pc' := 21) dX6_redo_20 rfl rfl rfl ?_
    obtain ⟨v5, hv5, h⟩ := ah_bs h
    refine ro_getR (pc' := 24) ft_615 fk_615 q1323 dX6_redo_21 rfl hv5 ?_
    refine ro_aload_n (pc' := 25) dX6_redo_24 rfl rfl rfl ?_
    obtain ⟨v6, hv6, h⟩ := ah_bs h
    refine ro_getI (pc' := 28) ft_612 fk_612 q1320 dX6_redo_25 rfl hv6 ?_
    obtain ⟨v7, hv7, h⟩ := ah_bs h
    refine ro_iaload (pc' := 29) dX6_redo_28 rfl hv7 ?_
    refine ro_aload_n (pc' := 30) dX6_redo_29 rfl rfl rfl ?_
    obtain ⟨v8, hv8, h⟩ := ah_bs h
    refine ro_getR (pc' := 33) ft_617 fk_617 q1325 dX6_redo_30 rfl hv8 ?_
    refine ro_aload_n (pc' := 34) dX6_redo_33 rfl rfl rfl ?_
    obtain ⟨v9, hv9, h⟩ := ah_bs h
    refine ro_getI (pc' := 37) ft_612 fk_612 q1320 dX6_redo_34 rfl hv9 ?_
    obtain ⟨v10, hv10, h⟩ := ah_bs h
    refine ro_iaload (pc' := 38) dX6_redo_37 rfl hv10 ?_
    obtain ⟨u11, hu11, h⟩ := ah_bs h
    obtain ⟨σ12, hσ12, h⟩ := ah_bs h
    refine ro_callV (pc' := 41) (As := [.int v4, .int v7, .int v10]) (rest := []) (st' := []) (by decide) hu11 q1514 sl_X6_lays (M_X6_lays hσ12) q1512 q1515 q104 dd_X6_lays rfl ⟨Nat.le_of_ble_eq_true rfl, Nat.le_of_ble_eq_true rfl⟩ (Nat.le_of_ble_eq_true rfl) dX6_redo_38 rfl rfl rfl ?_
    refine ro_aload_n (pc' := 42) dX6_redo_41 rfl rfl rfl ?_
    refine ro_dup (pc' := 43) dX6_redo_42 (ah_rf_cat _) rfl ?_
    obtain ⟨v13, hv13, h⟩ := ah_bs h
    refine ro_getI (pc' := 46) ft_612 fk_612 q1320 dX6_redo_43 rfl hv13 ?_
    refine ro_iconst (pc' := 47) dX6_redo_46 ic_1 rfl ?_
    refine ro_iadd (pc' := 48) dX6_redo_47 rfl ?_
    obtain ⟨σ14, hσ14, h⟩ := ah_bs h
    refine ro_putI (pc' := 51) ft_612 fk_612 q1320 pd_612 dX6_redo_48 rfl hσ14 ?_
    refine ro_aload_n (pc' := 52) dX6_redo_51 rfl rfl rfl ?_
    refine ro_dup (pc' := 53) dX6_redo_52 (ah_rf_cat _) rfl ?_
    obtain ⟨v15, hv15, h⟩ := ah_bs h
    refine ro_getI (pc' := 56) ft_613 fk_613 q1321 dX6_redo_53 rfl hv15 ?_
    refine ro_iconst (pc' := 57) dX6_redo_56 ic_1 rfl ?_
    refine ro_isub (pc' := 58) dX6_redo_57 rfl ?_
    obtain ⟨σ16, hσ16, h⟩ := ah_bs h
    refine ro_putI (pc' := 61) ft_613 fk_613 q1321 pd_613 dX6_redo_58 rfl hσ16 ?_
    refine ro_aload_n (pc' := 62) dX6_redo_61 rfl rfl rfl ?_
    obtain ⟨v17, hv17, h⟩ := ah_bs h
    refine ro_getI (pc' := 65) ft_613 fk_613 q1321 dX6_redo_62 rfl hv17 ?_
    obtain rfl := Option.some.inj h
    exact ro_iret hκ dX6_redo_65
  · replace h := ah_ip c h
    refine ro_bipush (pc' := 9) dX6_redo_7 ib_m5 rfl ?_
    obtain rfl := Option.some.inj h
    exact ro_iret hκ dX6_redo_9
theorem M_X6_redo {l : Launch} {D : ah_D}  {σ : ah_S} {r0 : Option Nat} {v : Int32} {σ1 : ah_S} (h : F_X6_redo σ r0 = some (v, σ1)) : ah_Met l yX6_redo (Cond.code yX6_redo cX6_redo 1 (some FieldType.int)) 3 67 D [va_rf r0] σ (.returned (some (.int v)), σ1) :=
  ah_ofG (own := "LeftAsFoundModel") (nm := "redo") (L0 := [some (va_rf r0)]) (by decide) rfl rfl rfl (ah_ao_1 (ah_rf_cat _) ah_ao_0) (fun κ hκ => W_X6_redo hκ  σ r0 h)
set_option maxRecDepth 20000 in
set_option maxHeartbeats 4000000 in
theorem W_X6_rest_144 {κ : ah_C} {rr : (Int32 × ah_S)} (hκ : ah_res κ = (.returned (some (.int rr.1)), rr.2))  {k51 : ah_S → Option Nat → Int32 → Int32 → Int32 → Int32 → Option (Int32 × ah_S)} (hk51 : ∀ (σ : ah_S) (r0 : Option Nat) (x2 : Int32) (x3 : Int32) (x4 : Int32) (x5 : Int32), k51 σ r0 x2 x3 x4 x5 = some rr → ah_G κ ("LeftAsFoundModel", "rest", 7, (some FieldType.int), [], 7, 166) cX6_rest σ 51 [some (va_rf r0), none, some (.int x2), some (.int x3), some (.int x4), some (.int x5), none] []) : ∀ (n : Nat) (σ : ah_S) (r0 : Option Nat) (x2 : Int32) (x3 : Int32) (x4 : Int32) (x5 : Int32) (x6 : Int32), F_X6_rest_144 k51 n σ r0 x2 x3 x4 x5 x6 = some rr → ah_G κ ("LeftAsFoundModel", "rest", 7, (some FieldType.int), [], 7, 166) cX6_rest σ 144 [some (va_rf r0), none, some (.int x2), some (.int x3), some (.int x4), some (.int x5), some (.int x6)] [] := by
  intro n
  induction n with
  | zero => intro σ r0 x2 x3 x4 x5 x6 h; cases h
  | succ n ih =>
    intro σ r0 x2 x3 x4 x5 x6 h
    rw [F_X6_rest_144] at h
    refine ro_iload (pc' := 146) dX6_rest_144 rfl rfl ?_
    refine ro_aload_n (pc' := 147) dX6_rest_146 rfl rfl rfl ?_
    obtain ⟨v1, hv1, h⟩ := ah_bs h
    refine ro_getI (pc' := 150) ft_636 fk_636 q1344 dX6_rest_147 rfl hv1 ?_
    refine ro_icmp_ge (pc' := 153) (tgt := 170) dX6_rest_150 rfl rfl (fun c => ?_) (fun c => ?_)
    · replace h := ah_ip c h
      refine ro_iinc (pc' := 173) (L' := [some (va_rf r0), none, some (.int x2), some (.int x3), some (.int x4), some (.int (x5 + (1 : Int32))), some (.int x6)]) dX6_rest_170 rfl ic_1 (Nat.le_of_ble_eq_true rfl) rfl (ah_okp_i _) rfl ?_
      refine ro_goto (tgt := 51) dX6_rest_173 rfl ?_
      refine ro_weak (L' := [some (va_rf r0), none, some (.int x2), some (.int x3), some (.int x4), some (.int (x5 + (1 : Int32))), none]) (ah_ls_s (ah_ls_s (ah_ls_s (ah_ls_s (ah_ls_s (ah_ls_s (ah_ls_n ah_ls_0))))))) ?_
      exact hk51 _ _ _ _ _ _ h
    · replace h := ah_in_ c h
      refine ro_aload_n (pc' := 154) dX6_rest_153 rfl rfl rfl ?_
      refine ro_aload_n (pc' := 155) dX6_rest_154 rfl rfl rfl ?_
      obtain ⟨v2, hv2, h⟩ := ah_bs h
      refine ro_getR (pc' := 158) ft_635 fk_635 q1343 dX6_rest_155 rfl hv2 ?_
      refine ro_iload (pc' := 160) dX6_rest_158 rfl rfl ?_
      obtain ⟨v3, hv3, h⟩ := ah_bs h
      refine ro_iaload (pc' := 161) dX6_rest_160 rfl hv3 ?_
      obtain ⟨u4, hu4, h⟩ := ah_bs h
      obtain ⟨σ5, hσ5, h⟩ := ah_bs h
      refine ro_callV (pc' := 164) (As := [.int v3]) (rest := []) (st' := []) (by decide) hu4 q1638 sl_X6_goNight (M_X6_goNight hσ5) q1636 q1639 q104 dd_X6_goNight rfl ⟨Nat.le_of_ble_eq_true rfl, Nat.le_of_ble_eq_true rfl⟩ (Nat.le_of_ble_eq_true rfl) dX6_rest_161 rfl rfl rfl ?_
      refine ro_iinc (pc' := 167) (L' := [some (va_rf r0), none, some (.int x2), some (.int x3), some (.int x4), some (.int x5), some (.int (x6 + (1 : Int32)))]) dX6_rest_164 rfl ic_1 (Nat.le_of_ble_eq_true rfl) rfl (ah_okp_i _) rfl ?_
      refine ro_goto (tgt := 144) dX6_rest_167 rfl ?_
      exact ih _ _ _ _ _ _ _ h
set_option maxRecDepth 20000 in
set_option maxHeartbeats 4000000 in
theorem W_X6_rest_102 {κ : ah_C} {rr : (Int32 × ah_S)} (hκ : ah_res κ = (.returned (some (.int rr.1)), rr.2))  {k51 : ah_S → Option Nat → Int32 → Int32 → Int32 → Int32 → Option (Int32 × ah_S)} (hk51 : ∀ (σ : ah_S) (r0 : Option Nat) (x2 : Int32) (x3 : Int32) (x4 : Int32) (x5 : Int32), k51 σ r0 x2 x3 x4 x5 = some rr → ah_G κ ("LeftAsFoundModel", "rest", 7, (some FieldType.int), [], 7, 166) cX6_rest σ 51 [some (va_rf r0), none, some (.int x2), some (.int x3), some (.int x4), some (.int x5), none] []) : ∀ (n : Nat) (σ : ah_S) (r0 : Option Nat) (x2 : Int32) (x3 : Int32) (x4 : Int32) (x5 : Int32) (x6 : Int32), F_X6_rest_102 k51 n σ r0 x2 x3 x4 x5 x6 = some rr → ah_G κ ("LeftAsFoundModel", "rest", 7, (some FieldType.int), [], 7, 166) cX6_rest σ 102 [some (va_rf r0), none, some (.int x2), some (.int x3), some (.int x4), some (.int x5), some (.int x6)] [] := by
  intro n
  induction n with
  | zero => intro σ r0 x2 x3 x4 x5 x6 h; cases h
  | succ n ih =>
    intro σ r0 x2 x3 x4 x5 x6 h
    rw [F_X6_rest_102] at h
    refine ro_iload (pc' := 104) dX6_rest_102 rfl rfl ?_
    refine ro_iload (pc' := 106) dX6_rest_104 rfl rfl ?_
    refine ro_icmp_ge (pc' := 109) (tgt := 141) dX6_rest_106 rfl rfl (fun c => ?_) (fun c => ?_)
    · replace h := ah_ip c h
      refine ro_iconst (pc' := 142) dX6_rest_141 ic_0 rfl ?_
      refine ro_istore (pc' := 144) (L' := [some (va_rf r0), none, some (.int x2), some (.int x3), some (.int x4), some (.int x5), some (.int (0 : Int32))]) dX6_rest_142 (Nat.le_of_ble_eq_true rfl) rfl (ah_okp_i _) rfl ?_
      exact W_X6_rest_144 hκ hk51 _ _ _ _ _ _ _ _ h
    · replace h := ah_in_ c h
      refine ro_iload_n (pc' := 110) dX6_rest_109 rfl rfl rfl ?_
      refine ro_if_ge (pc' := 113) (tgt := 141) dX6_rest_110 rfl rfl (fun c => ?_) (fun c => ?_)
      · replace h := ah_ip c h
        refine ro_iconst (pc' := 142) dX6_rest_141 ic_0 rfl ?_
        refine ro_istore (pc' := 144) (L' := [some (va_rf r0), none, some (.int x2), some (.int x3), some (.int x4), some (.int x5), some (.int (0 : Int32))]) dX6_rest_142 (Nat.le_of_ble_eq_true rfl) rfl (ah_okp_i _) rfl ?_
        exact W_X6_rest_144 hκ hk51 _ _ _ _ _ _ _ _ h
      · replace h := ah_in_ c h
        refine ro_aload_n (pc' := 114) dX6_rest_113 rfl rfl rfl ?_
        refine ro_iload (pc' := 116) dX6_rest_114 rfl rfl ?_
        obtain ⟨u1, hu1, h⟩ := ah_bs h
        obtain ⟨v2, σ3, hv2, h⟩ := ah_bs2 h
        refine ro_callV (pc' := 119) (As := [.int x6]) (rest := []) (st' := [.int v2]) (by decide) hu1 q1697 sl_X6_isAs (M_X6_isAs hv2) q1695 q1698 q104 dd_X6_isAs rfl ⟨Nat.le_of_ble_eq_true rfl, Nat.le_of_ble_eq_true rfl⟩ (Nat.le_of_ble_eq_true rfl) dX6_rest_116 rfl rfl rfl ?_
        refine ro_if_ne (pc' := 122) (tgt := 125) dX6_rest_119 rfl rfl (fun c => ?_) (fun c => ?_)
        · replace h := ah_in_ c h
          refine ro_iload (pc' := 127) dX6_rest_125 rfl rfl ?_
          refine ro_istore_n (pc' := 128) (L' := [some (va_rf r0), none, some (.int x2), some (.int x6), some (.int x4), some (.int x5), some (.int x6)]) dX6_rest_127 rfl (Nat.le_of_ble_eq_true rfl) rfl (ah_okp_i _) rfl ?_
          refine ro_iload (pc' := 130) dX6_rest_128 rfl rfl ?_
          refine ro_iload (pc' := 132) dX6_rest_130 rfl rfl ?_
          refine ro_isub (pc' := 133) dX6_rest_132 rfl ?_
          refine ro_istore (pc' := 135) (L' := [some (va_rf r0), none, some (.int x2), some (.int x6), some (.int (x5 - x6)), some (.int x5), some (.int x6)]) dX6_rest_133 (Nat.le_of_ble_eq_true rfl) rfl (ah_okp_i _) rfl ?_
          refine ro_iinc (pc' := 138) (L' := [some (va_rf r0), none, some (.int x2), some (.int x6), some (.int (x5 - x6)), some (.int x5), some (.int (x6 + (1 : Int32)))]) dX6_rest_135 rfl ic_1 (Nat.le_of_ble_eq_true rfl) rfl (ah_okp_i _) rfl ?_
          refine ro_goto (tgt := 102) dX6_rest_138 rfl ?_
          exact ih _ _ _ _ _ _ _ h
        · replace h := ah_ip c h
          refine ro_goto (tgt := 135) dX6_rest_122 rfl ?_
          refine ro_iinc (pc' := 138) (L' := [some (va_rf r0), none, some (.int x2), some (.int x3), some (.int x4), some (.int x5), some (.int (x6 + (1 : Int32)))]) dX6_rest_135 rfl ic_1 (Nat.le_of_ble_eq_true rfl) rfl (ah_okp_i _) rfl ?_
          refine ro_goto (tgt := 102) dX6_rest_138 rfl ?_
          exact ih _ _ _ _ _ _ _ h
set_option maxRecDepth 20000 in
set_option maxHeartbeats 4000000 in
theorem W_X6_rest_66 {κ : ah_C} {rr : (Int32 × ah_S)} (hκ : ah_res κ = (.returned (some (.int rr.1)), rr.2))  {k51 : ah_S → Option Nat → Int32 → Int32 → Int32 → Int32 → Option (Int32 × ah_S)} (hk51 : ∀ (σ : ah_S) (r0 : Option Nat) (x2 : Int32) (x3 : Int32) (x4 : Int32) (x5 : Int32), k51 σ r0 x2 x3 x4 x5 = some rr → ah_G κ ("LeftAsFoundModel", "rest", 7, (some FieldType.int), [], 7, 166) cX6_rest σ 51 [some (va_rf r0), none, some (.int x2), some (.int x3), some (.int x4), some (.int x5), none] []) : ∀ (n : Nat) (σ : ah_S) (r0 : Option Nat) (x2 : Int32) (x3 : Int32) (x4 : Int32) (x5 : Int32) (x6 : Int32), F_X6_rest_66 k51 n σ r0 x2 x3 x4 x5 x6 = some rr → ah_G κ ("LeftAsFoundModel", "rest", 7, (some FieldType.int), [], 7, 166) cX6_rest σ 66 [some (va_rf r0), none, some (.int x2), some (.int x3), some (.int x4), some (.int x5), some (.int x6)] [] := by
  intro n
  induction n with
  | zero => intro σ r0 x2 x3 x4 x5 x6 h; cases h
  | succ n ih =>
    intro σ r0 x2 x3 x4 x5 x6 h
    rw [F_X6_rest_66] at h
    refine ro_iload (pc' := 68) dX6_rest_66 rfl rfl ?_
    refine ro_bipush (pc' := 70) dX6_rest_68 ib_48 rfl ?_
    refine ro_icmp_ge (pc' := 73) (tgt := 99) dX6_rest_70 rfl rfl (fun c => ?_) (fun c => ?_)
    · replace h := ah_ip c h
      refine ro_iconst (pc' := 100) dX6_rest_99 ic_0 rfl ?_
      refine ro_istore (pc' := 102) (L' := [some (va_rf r0), none, some (.int x2), some (.int x3), some (.int x4), some (.int x5), some (.int (0 : Int32))]) dX6_rest_100 (Nat.le_of_ble_eq_true rfl) rfl (ah_okp_i _) rfl ?_
      exact W_X6_rest_102 hκ hk51 _ _ _ _ _ _ _ _ h
    · replace h := ah_in_ c h
      refine ro_aload_n (pc' := 74) dX6_rest_73 rfl rfl rfl ?_
      obtain ⟨v1, hv1, h⟩ := ah_bs h
      refine ro_getR (pc' := 77) ft_637 fk_637 q1345 dX6_rest_74 rfl hv1 ?_
      refine ro_bipush (pc' := 79) dX6_rest_77 ib_48 rfl ?_
      refine ro_iload (pc' := 81) dX6_rest_79 rfl rfl ?_
      refine ro_imul (pc' := 82) dX6_rest_81 rfl ?_
      refine ro_iload (pc' := 84) dX6_rest_82 rfl rfl ?_
      refine ro_iadd (pc' := 85) dX6_rest_84 rfl ?_
      refine ro_aload_n (pc' := 86) dX6_rest_85 rfl rfl rfl ?_
      obtain ⟨v2, hv2, h⟩ := ah_bs h
      refine ro_getR (pc' := 89) ft_611 fk_611 q1319 dX6_rest_86 rfl hv2 ?_
      refine ro_iload (pc' := 91) dX6_rest_89 rfl rfl ?_
      obtain ⟨v3, hv3, h⟩ := ah_bs h
      refine ro_iaload (pc' := 92) dX6_rest_91 rfl hv3 ?_
      obtain ⟨σ4, hσ4, h⟩ := ah_bs h
      refine ro_iastore (pc' := 93) dX6_rest_92 rfl hσ4 ?_
      refine ro_iinc (pc' := 96) (L' := [some (va_rf r0), none, some (.int x2), some (.int x3), some (.int x4), some (.int x5), some (.int (x6 + (1 : Int32)))]) dX6_rest_93 rfl ic_1 (Nat.le_of_ble_eq_true rfl) rfl (ah_okp_i _) rfl ?_
      refine ro_goto (tgt := 66) dX6_rest_96 rfl ?_
      exact ih _ _ _ _ _ _ _ h
set_option maxRecDepth 20000 in
set_option maxHeartbeats 4000000 in
theorem W_X6_rest_176 {κ : ah_C} {rr : (Int32 × ah_S)} (hκ : ah_res κ = (.returned (some (.int rr.1)), rr.2))    : ∀ (σ : ah_S) (r0 : Option Nat) (x2 : Int32) (x3 : Int32) (x4 : Int32), F_X6_rest_176 σ r0 x2 x3 x4 = some rr → ah_G κ ("LeftAsFoundModel", "rest", 7, (some FieldType.int), [], 7, 166) cX6_rest σ 176 [some (va_rf r0), none, some (.int x2), some (.int x3), some (.int x4), none, none] [] := by
  intro σ r0 x2 x3 x4 h
  unfold F_X6_rest_176 at h
  refine ro_aload_n (pc' := 177) dX6_rest_176 rfl rfl rfl ?_
  obtain ⟨u1, hu1, h⟩ := ah_bs h
  obtain ⟨σ2, hσ2, h⟩ := ah_bs h
  refine ro_callV (pc' := 180) (As := []) (rest := []) (st' := []) (by decide) hu1 q1665 sl_X6_layHut (M_X6_layHut hσ2) q1663 q1666 q104 dd_X6_layHut rfl ⟨Nat.le_of_ble_eq_true rfl, Nat.le_of_ble_eq_true rfl⟩ (Nat.le_of_ble_eq_true rfl) dX6_rest_177 rfl rfl rfl ?_
  refine ro_iload_n (pc' := 181) dX6_rest_180 rfl rfl rfl ?_
  refine ro_if_ge (pc' := 184) (tgt := 187) dX6_rest_181 rfl rfl (fun c => ?_) (fun c => ?_)
  · replace h := ah_ip c h
    refine ro_iload_n (pc' := 188) dX6_rest_187 rfl rfl rfl ?_
    refine ro_if_ne (pc' := 191) (tgt := 195) dX6_rest_188 rfl rfl (fun c => ?_) (fun c => ?_)
    · replace h := ah_in_ c h
      refine ro_iload_n (pc' := 196) dX6_rest_195 rfl rfl rfl ?_
      refine ro_iconst (pc' := 197) dX6_rest_196 ic_1 rfl ?_
      refine ro_icmp_ne (pc' := 200) (tgt := 205) dX6_rest_197 rfl rfl (fun c => ?_) (fun c => ?_)
      · replace h := ah_in_ c h
        refine ro_aload_n (pc' := 206) dX6_rest_205 rfl rfl rfl ?_
        obtain ⟨v3, hv3, h⟩ := ah_bs h
        refine ro_getR (pc' := 209) ft_637 fk_637 q1345 dX6_rest_206 rfl hv3 ?_
        refine ro_bipush (pc' := 211) dX6_rest_209 ib_48 rfl ?_
        refine ro_iload_n (pc' := 212) dX6_rest_211 rfl rfl rfl ?_
        refine ro_imul (pc' := 213) dX6_rest_212 rfl ?_
        refine ro_iload_n (pc' := 214) dX6_rest_213 rfl rfl rfl ?_
        refine ro_iadd (pc' := 215) dX6_rest_214 rfl ?_
        refine ro_iconst (pc' := 216) dX6_rest_215 ic_2 rfl ?_
        refine ro_isub (pc' := 217) dX6_rest_216 rfl ?_
        obtain ⟨v4, hv4, h⟩ := ah_bs h
        refine ro_iaload (pc' := 218) dX6_rest_217 rfl hv4 ?_
        obtain rfl := Option.some.inj h
        exact ro_iret hκ dX6_rest_218
      · replace h := ah_ip c h
        refine ro_iload (pc' := 202) dX6_rest_200 rfl rfl ?_
        refine ro_goto (tgt := 218) dX6_rest_202 rfl ?_
        obtain rfl := Option.some.inj h
        exact ro_iret hκ dX6_rest_218
    · replace h := ah_ip c h
      refine ro_iload_n (pc' := 192) dX6_rest_191 rfl rfl rfl ?_
      refine ro_goto (tgt := 218) dX6_rest_192 rfl ?_
      obtain rfl := Option.some.inj h
      exact ro_iret hκ dX6_rest_218
  · replace h := ah_in_ c h
    refine ro_bipush (pc' := 186) dX6_rest_184 ib_m2 rfl ?_
    obtain rfl := Option.some.inj h
    exact ro_iret hκ dX6_rest_186
set_option maxRecDepth 20000 in
set_option maxHeartbeats 4000000 in
theorem W_X6_rest_51 {κ : ah_C} {rr : (Int32 × ah_S)} (hκ : ah_res κ = (.returned (some (.int rr.1)), rr.2))    : ∀ (n : Nat) (σ : ah_S) (r0 : Option Nat) (x2 : Int32) (x3 : Int32) (x4 : Int32) (x5 : Int32), F_X6_rest_51 n σ r0 x2 x3 x4 x5 = some rr → ah_G κ ("LeftAsFoundModel", "rest", 7, (some FieldType.int), [], 7, 166) cX6_rest σ 51 [some (va_rf r0), none, some (.int x2), some (.int x3), some (.int x4), some (.int x5), none] [] := by
  intro n
  induction n with
  | zero => intro σ r0 x2 x3 x4 x5 h; cases h
  | succ n ih =>
    intro σ r0 x2 x3 x4 x5 h
    rw [F_X6_rest_51] at h
    refine ro_iload (pc' := 53) dX6_rest_51 rfl rfl ?_
    refine ro_sipush (pc' := 56) dX6_rest_53 is_200 rfl ?_
    refine ro_icmp_gt (pc' := 59) (tgt := 176) dX6_rest_56 rfl rfl (fun c => ?_) (fun c => ?_)
    · replace h := ah_ip c h
      refine ro_weak (L' := [some (va_rf r0), none, some (.int x2), some (.int x3), some (.int x4), none, none]) (ah_ls_s (ah_ls_s (ah_ls_s (ah_ls_s (ah_ls_s (ah_ls_n (ah_ls_s ah_ls_0))))))) ?_
      exact W_X6_rest_176 hκ _ _ _ _ _ h
    · replace h := ah_in_ c h
      refine ro_iload_n (pc' := 60) dX6_rest_59 rfl rfl rfl ?_
      refine ro_if_ge (pc' := 63) (tgt := 176) dX6_rest_60 rfl rfl (fun c => ?_) (fun c => ?_)
      · replace h := ah_ip c h
        refine ro_weak (L' := [some (va_rf r0), none, some (.int x2), some (.int x3), some (.int x4), none, none]) (ah_ls_s (ah_ls_s (ah_ls_s (ah_ls_s (ah_ls_s (ah_ls_n (ah_ls_s ah_ls_0))))))) ?_
        exact W_X6_rest_176 hκ _ _ _ _ _ h
      · replace h := ah_in_ c h
        refine ro_iconst (pc' := 64) dX6_rest_63 ic_0 rfl ?_
        refine ro_istore (pc' := 66) (L' := [some (va_rf r0), none, some (.int x2), some (.int x3), some (.int x4), some (.int x5), some (.int (0 : Int32))]) dX6_rest_64 (Nat.le_of_ble_eq_true rfl) rfl (ah_okp_i _) rfl ?_
        exact W_X6_rest_66 hκ ih _ _ _ _ _ _ _ _ h
set_option maxRecDepth 20000 in
set_option maxHeartbeats 4000000 in
theorem W_X6_rest {κ : ah_C} {rr : (Int32 × ah_S)} (hκ : ah_res κ = (.returned (some (.int rr.1)), rr.2))  (σ : ah_S) (r0 : Option Nat) (x1 : Int32) (x2 : Int32) (h : F_X6_rest σ r0 x1 x2 = some rr) : ah_G κ ("LeftAsFoundModel", "rest", 7, (some FieldType.int), [], 7, 166) cX6_rest σ 0 [some (va_rf r0), some (.int x1), some (.int x2), none, none, none, none] [] := by
  unfold F_X6_rest at h
  refine ro_iload_n (pc' := 1) dX6_rest_0 rfl rfl rfl ?_
  obtain ⟨v1, σ2, hv1, h⟩ := ah_bs2 h
  refine ro_callS (pc' := 4) (As := [.int x1]) (rest := []) (st' := [.int v1]) q1505 (M_X6_isShelf hv1) q1504 q1506 q104 dd_X6_isShelf rfl ⟨Nat.le_of_ble_eq_true rfl, Nat.le_of_ble_eq_true rfl⟩ (Nat.le_of_ble_eq_true rfl) dX6_rest_1 rfl rfl rfl ?_
  refine ro_if_eq (pc' := 7) (tgt := 16) dX6_rest_4 rfl rfl (fun c => ?_) (fun c => ?_)
  · replace h := ah_ip c h
    refine ro_iconst (pc' := 17) dX6_rest_16 ic_m1 rfl ?_
    obtain rfl := Option.some.inj h
    exact ro_iret hκ dX6_rest_17
  · replace h := ah_in_ c h
    refine ro_iload_n (pc' := 8) dX6_rest_7 rfl rfl rfl ?_
    refine ro_iconst (pc' := 9) dX6_rest_8 ic_0 rfl ?_
    refine ro_iconst (pc' := 10) dX6_rest_9 ic_5 rfl ?_
    obtain ⟨v3, σ4, hv3, h⟩ := ah_bs2 h
    refine ro_callS (pc' := 13) (As := [.int x2, .int (0 : Int32), .int (5 : Int32)]) (rest := []) (st' := [.int v3]) q1494 (M_X6_in hv3) q1493 q1495 q104 dd_X6_in rfl ⟨Nat.le_of_ble_eq_true rfl, Nat.le_of_ble_eq_true rfl⟩ (Nat.le_of_ble_eq_true rfl) dX6_rest_10 rfl rfl rfl ?_
    refine ro_if_ne (pc' := 16) (tgt := 18) dX6_rest_13 rfl rfl (fun c => ?_) (fun c => ?_)
    · replace h := ah_in_ c h
      refine ro_aload_n (pc' := 19) dX6_rest_18 rfl rfl rfl ?_
      refine ro_iload_n (pc' := 20) dX6_rest_19 rfl rfl rfl ?_
      obtain ⟨u5, hu5, h⟩ := ah_bs h
      obtain ⟨v6, σ7, hv6, h⟩ := ah_bs2 h
      refine ro_callV (pc' := 23) (As := [.int x1]) (rest := []) (st' := [.int v6]) (by decide) hu5 q1626 sl_X6_rowFault (M_X6_rowFault hv6) q1624 q1627 q104 dd_X6_rowFault rfl ⟨Nat.le_of_ble_eq_true rfl, Nat.le_of_ble_eq_true rfl⟩ (Nat.le_of_ble_eq_true rfl) dX6_rest_20 rfl rfl rfl ?_
      refine ro_if_ge (pc' := 26) (tgt := 32) dX6_rest_23 rfl rfl (fun c => ?_) (fun c => ?_)
      · replace h := ah_ip c h
        refine ro_aload_n (pc' := 33) dX6_rest_32 rfl rfl rfl ?_
        refine ro_iload_n (pc' := 34) dX6_rest_33 rfl rfl rfl ?_
        obtain ⟨u8, hu8, h⟩ := ah_bs h
        obtain ⟨σ9, hσ9, h⟩ := ah_bs h
        refine ro_callV (pc' := 37) (As := [.int x1]) (rest := []) (st' := []) (by decide) hu8 q1630 sl_X6_layStays (M_X6_layStays hσ9) q1628 q1631 q104 dd_X6_layStays rfl ⟨Nat.le_of_ble_eq_true rfl, Nat.le_of_ble_eq_true rfl⟩ (Nat.le_of_ble_eq_true rfl) dX6_rest_34 rfl rfl rfl ?_
        refine ro_aload_n (pc' := 38) dX6_rest_37 rfl rfl rfl ?_
        obtain ⟨u10, hu10, h⟩ := ah_bs h
        obtain ⟨σ11, hσ11, h⟩ := ah_bs h
        refine ro_callV (pc' := 41) (As := []) (rest := []) (st' := []) (by decide) hu10 q1634 sl_X6_keepHut (M_X6_keepHut hσ11) q1632 q1635 q104 dd_X6_keepHut rfl ⟨Nat.le_of_ble_eq_true rfl, Nat.le_of_ble_eq_true rfl⟩ (Nat.le_of_ble_eq_true rfl) dX6_rest_38 rfl rfl rfl ?_
        refine ro_bipush (pc' := 43) dX6_rest_41 ib_m2 rfl ?_
        refine ro_istore_n (pc' := 44) (L' := [some (va_rf r0), some (.int x1), some (.int x2), some (.int (-2 : Int32)), none, none, none]) dX6_rest_43 rfl (Nat.le_of_ble_eq_true rfl) rfl (ah_okp_i _) rfl ?_
        refine ro_bipush (pc' := 46) dX6_rest_44 ib_m2 rfl ?_
        refine ro_istore (pc' := 48) (L' := [some (va_rf r0), some (.int x1), some (.int x2), some (.int (-2 : Int32)), some (.int (-2 : Int32)), none, none]) dX6_rest_46 (Nat.le_of_ble_eq_true rfl) rfl (ah_okp_i _) rfl ?_
        refine ro_iconst (pc' := 49) dX6_rest_48 ic_0 rfl ?_
        refine ro_istore (pc' := 51) (L' := [some (va_rf r0), some (.int x1), some (.int x2), some (.int (-2 : Int32)), some (.int (-2 : Int32)), some (.int (0 : Int32)), none]) dX6_rest_49 (Nat.le_of_ble_eq_true rfl) rfl (ah_okp_i _) rfl ?_
        refine ro_weak (L' := [some (va_rf r0), none, some (.int x2), some (.int (-2 : Int32)), some (.int (-2 : Int32)), some (.int (0 : Int32)), none]) (ah_ls_s (ah_ls_n (ah_ls_s (ah_ls_s (ah_ls_s (ah_ls_s (ah_ls_s ah_ls_0))))))) ?_
        exact W_X6_rest_51 hκ _ _ _ _ _ _ _ h
      · replace h := ah_in_ c h
        refine ro_aload_n (pc' := 27) dX6_rest_26 rfl rfl rfl ?_
        refine ro_iload_n (pc' := 28) dX6_rest_27 rfl rfl rfl ?_
        obtain ⟨u12, hu12, h⟩ := ah_bs h
        obtain ⟨v13, σ14, hv13, h⟩ := ah_bs2 h
        refine ro_callV (pc' := 31) (As := [.int x1]) (rest := []) (st' := [.int v13]) (by decide) hu12 q1626 sl_X6_rowFault (M_X6_rowFault hv13) q1624 q1627 q104 dd_X6_rowFault rfl ⟨Nat.le_of_ble_eq_true rfl, Nat.le_of_ble_eq_true rfl⟩ (Nat.le_of_ble_eq_true rfl) dX6_rest_28 rfl rfl rfl ?_
        obtain rfl := Option.some.inj h
        exact ro_iret hκ dX6_rest_31
    · replace h := ah_ip c h
      refine ro_iconst (pc' := 17) dX6_rest_16 ic_m1 rfl ?_
      obtain rfl := Option.some.inj h
      exact ro_iret hκ dX6_rest_17
theorem M_X6_rest {l : Launch} {D : ah_D}  {σ : ah_S} {r0 : Option Nat} {x1 : Int32} {x2 : Int32} {v : Int32} {σ1 : ah_S} (h : F_X6_rest σ r0 x1 x2 = some (v, σ1)) : ah_Met l yX6_rest (Cond.code yX6_rest cX6_rest 7 (some FieldType.int)) 7 166 D [va_rf r0, .int x1, .int x2] σ (.returned (some (.int v)), σ1) :=
  ah_ofG (own := "LeftAsFoundModel") (nm := "rest") (L0 := [some (va_rf r0), some (.int x1), some (.int x2), none, none, none, none]) (by decide) rfl rfl rfl (ah_ao_1 (ah_rf_cat _) (ah_ao_1 rfl (ah_ao_1 rfl (ah_ao_n (ah_ao_n (ah_ao_n (ah_ao_n ah_ao_0))))))) (fun κ hκ => W_X6_rest hκ  σ r0 x1 x2 h)
set_option maxRecDepth 20000 in
set_option maxHeartbeats 4000000 in
theorem W_X6_row_54 {κ : ah_C} {rr : (Int32 × ah_S)} (hκ : ah_res κ = (.returned (some (.int rr.1)), rr.2))    : ∀ (n : Nat) (σ : ah_S) (r0 : Option Nat) (x1 : Int32) (x4 : Int32), F_X6_row_54 n σ r0 x1 x4 = some rr → ah_G κ ("LeftAsFoundModel", "row", 5, (some FieldType.int), [], 3, 66) cX6_row σ 54 [some (va_rf r0), some (.int x1), none, none, some (.int x4)] [] := by
  intro n
  induction n with
  | zero => intro σ r0 x1 x4 h; cases h
  | succ n ih =>
    intro σ r0 x1 x4 h
    rw [F_X6_row_54] at h
    refine ro_iload (pc' := 56) dX6_row_54 rfl rfl ?_
    refine ro_bipush (pc' := 58) dX6_row_56 ib_60 rfl ?_
    refine ro_iload_n (pc' := 59) dX6_row_58 rfl rfl rfl ?_
    refine ro_imul (pc' := 60) dX6_row_59 rfl ?_
    refine ro_bipush (pc' := 62) dX6_row_60 ib_60 rfl ?_
    refine ro_iadd (pc' := 63) dX6_row_62 rfl ?_
    refine ro_icmp_ge (pc' := 66) (tgt := 80) dX6_row_63 rfl rfl (fun c => ?_) (fun c => ?_)
    · replace h := ah_ip c h
      refine ro_iconst (pc' := 81) dX6_row_80 ic_1 rfl ?_
      obtain rfl := Option.some.inj h
      exact ro_iret hκ dX6_row_81
    · replace h := ah_in_ c h
      refine ro_aload_n (pc' := 67) dX6_row_66 rfl rfl rfl ?_
      obtain ⟨v1, hv1, h⟩ := ah_bs h
      refine ro_getR (pc' := 70) ft_658 fk_658 q1366 dX6_row_67 rfl hv1 ?_
      refine ro_iload (pc' := 72) dX6_row_70 rfl rfl ?_
      refine ro_lconst (pc' := 73) dX6_row_72 lc_0 rfl ?_
      obtain ⟨σ2, hσ2, h⟩ := ah_bs h
      refine ro_lastore (pc' := 74) dX6_row_73 rfl hσ2 ?_
      refine ro_iinc (pc' := 77) (L' := [some (va_rf r0), some (.int x1), none, none, some (.int (x4 + (1 : Int32)))]) dX6_row_74 rfl ic_1 (Nat.le_of_ble_eq_true rfl) rfl ah_okp_u rfl ?_
      refine ro_goto (tgt := 54) dX6_row_77 rfl ?_
      exact ih _ _ _ _ h
set_option maxRecDepth 20000 in
set_option maxHeartbeats 4000000 in
theorem W_X6_row {κ : ah_C} {rr : (Int32 × ah_S)} (hκ : ah_res κ = (.returned (some (.int rr.1)), rr.2))  (σ : ah_S) (r0 : Option Nat) (x1 : Int32) (x2 : Int32) (x3 : Int32) (h : F_X6_row σ r0 x1 x2 x3 = some rr) : ah_G κ ("LeftAsFoundModel", "row", 5, (some FieldType.int), [], 3, 66) cX6_row σ 0 [some (va_rf r0), some (.int x1), some (.int x2), some (.int x3), none] [] := by
  unfold F_X6_row at h
  refine ro_iload_n (pc' := 1) dX6_row_0 rfl rfl rfl ?_
  obtain ⟨v1, σ2, hv1, h⟩ := ah_bs2 h
  refine ro_callS (pc' := 4) (As := [.int x1]) (rest := []) (st' := [.int v1]) q1505 (M_X6_isShelf hv1) q1504 q1506 q104 dd_X6_isShelf rfl ⟨Nat.le_of_ble_eq_true rfl, Nat.le_of_ble_eq_true rfl⟩ (Nat.le_of_ble_eq_true rfl) dX6_row_1 rfl rfl rfl ?_
  refine ro_if_eq (pc' := 7) (tgt := 22) dX6_row_4 rfl rfl (fun c => ?_) (fun c => ?_)
  · replace h := ah_ip c h
    refine ro_iconst (pc' := 23) dX6_row_22 ic_m1 rfl ?_
    obtain rfl := Option.some.inj h
    exact ro_iret hκ dX6_row_23
  · replace h := ah_in_ c h
    refine ro_iload_n (pc' := 8) dX6_row_7 rfl rfl rfl ?_
    refine ro_iconst (pc' := 9) dX6_row_8 ic_0 rfl ?_
    refine ro_iconst (pc' := 10) dX6_row_9 ic_4 rfl ?_
    obtain ⟨v3, σ4, hv3, h⟩ := ah_bs2 h
    refine ro_callS (pc' := 13) (As := [.int x2, .int (0 : Int32), .int (4 : Int32)]) (rest := []) (st' := [.int v3]) q1494 (M_X6_in hv3) q1493 q1495 q104 dd_X6_in rfl ⟨Nat.le_of_ble_eq_true rfl, Nat.le_of_ble_eq_true rfl⟩ (Nat.le_of_ble_eq_true rfl) dX6_row_10 rfl rfl rfl ?_
    refine ro_if_eq (pc' := 16) (tgt := 22) dX6_row_13 rfl rfl (fun c => ?_) (fun c => ?_)
    · replace h := ah_ip c h
      refine ro_iconst (pc' := 23) dX6_row_22 ic_m1 rfl ?_
      obtain rfl := Option.some.inj h
      exact ro_iret hκ dX6_row_23
    · replace h := ah_in_ c h
      refine ro_iload_n (pc' := 17) dX6_row_16 rfl rfl rfl ?_
      refine ro_bipush (pc' := 19) dX6_row_17 ib_60 rfl ?_
      refine ro_icmp_le (pc' := 22) (tgt := 24) dX6_row_19 rfl rfl (fun c => ?_) (fun c => ?_)
      · replace h := ah_ip c h
        refine ro_iload_n (pc' := 25) dX6_row_24 rfl rfl rfl ?_
        refine ro_if_ge (pc' := 28) (tgt := 31) dX6_row_25 rfl rfl (fun c => ?_) (fun c => ?_)
        · replace h := ah_ip c h
          refine ro_aload_n (pc' := 32) dX6_row_31 rfl rfl rfl ?_
          obtain ⟨v5, hv5, h⟩ := ah_bs h
          refine ro_getR (pc' := 35) ft_656 fk_656 q1364 dX6_row_32 rfl hv5 ?_
          refine ro_iload_n (pc' := 36) dX6_row_35 rfl rfl rfl ?_
          refine ro_bipush (pc' := 38) dX6_row_36 ib_m2 rfl ?_
          refine ro_iload_n (pc' := 39) dX6_row_38 rfl rfl rfl ?_
          refine ro_isub (pc' := 40) dX6_row_39 rfl ?_
          obtain ⟨σ6, hσ6, h⟩ := ah_bs h
          refine ro_iastore (pc' := 41) dX6_row_40 rfl hσ6 ?_
          refine ro_aload_n (pc' := 42) dX6_row_41 rfl rfl rfl ?_
          obtain ⟨v7, hv7, h⟩ := ah_bs h
          refine ro_getR (pc' := 45) ft_657 fk_657 q1365 dX6_row_42 rfl hv7 ?_
          refine ro_iload_n (pc' := 46) dX6_row_45 rfl rfl rfl ?_
          refine ro_iload_n (pc' := 47) dX6_row_46 rfl rfl rfl ?_
          obtain ⟨σ8, hσ8, h⟩ := ah_bs h
          refine ro_iastore (pc' := 48) dX6_row_47 rfl hσ8 ?_
          refine ro_bipush (pc' := 50) dX6_row_48 ib_60 rfl ?_
          refine ro_iload_n (pc' := 51) dX6_row_50 rfl rfl rfl ?_
          refine ro_imul (pc' := 52) dX6_row_51 rfl ?_
          refine ro_istore (pc' := 54) (L' := [some (va_rf r0), some (.int x1), some (.int x2), some (.int x3), some (.int ((60 : Int32) * x1))]) dX6_row_52 (Nat.le_of_ble_eq_true rfl) rfl (ah_okp_i _) rfl ?_
          refine ro_weak (L' := [some (va_rf r0), some (.int x1), none, none, some (.int ((60 : Int32) * x1))]) (ah_ls_s (ah_ls_s (ah_ls_n (ah_ls_n (ah_ls_s ah_ls_0))))) ?_
          exact W_X6_row_54 hκ _ _ _ _ _ h
        · replace h := ah_in_ c h
          refine ro_bipush (pc' := 30) dX6_row_28 ib_m14 rfl ?_
          obtain rfl := Option.some.inj h
          exact ro_iret hκ dX6_row_30
      · replace h := ah_in_ c h
        refine ro_iconst (pc' := 23) dX6_row_22 ic_m1 rfl ?_
        obtain rfl := Option.some.inj h
        exact ro_iret hκ dX6_row_23
theorem M_X6_row {l : Launch} {D : ah_D}  {σ : ah_S} {r0 : Option Nat} {x1 : Int32} {x2 : Int32} {x3 : Int32} {v : Int32} {σ1 : ah_S} (h : F_X6_row σ r0 x1 x2 x3 = some (v, σ1)) : ah_Met l yX6_row (Cond.code yX6_row cX6_row 5 (some FieldType.int)) 3 66 D [va_rf r0, .int x1, .int x2, .int x3] σ (.returned (some (.int v)), σ1) :=
  ah_ofG (own := "LeftAsFoundModel") (nm := "row") (L0 := [some (va_rf r0), some (.int x1), some (.int x2), some (.int x3), none]) (by decide) rfl rfl rfl (ah_ao_1 (ah_rf_cat _) (ah_ao_1 rfl (ah_ao_1 rfl (ah_ao_1 rfl (ah_ao_n ah_ao_0))))) (fun κ hκ => W_X6_row hκ  σ r0 x1 x2 x3 h)
set_option maxRecDepth 20000 in
set_option maxHeartbeats 4000000 in
theorem W_X6_set {κ : ah_C} {rr : (Int32 × ah_S)} (hκ : ah_res κ = (.returned (some (.int rr.1)), rr.2))  (σ : ah_S) (r0 : Option Nat) (x1 : Int32) (x2 : Int32) (h : F_X6_set σ r0 x1 x2 = some rr) : ah_G κ ("LeftAsFoundModel", "set", 4, (some FieldType.int), [], 3, 66) cX6_set σ 0 [some (va_rf r0), some (.int x1), some (.int x2), none] [] := by
  unfold F_X6_set at h
  refine ro_iload_n (pc' := 1) dX6_set_0 rfl rfl rfl ?_
  obtain ⟨v1, σ2, hv1, h⟩ := ah_bs2 h
  refine ro_callS (pc' := 4) (As := [.int x1]) (rest := []) (st' := [.int v1]) q1532 (M_X6_isThing hv1) q1531 q1533 q104 dd_X6_isThing rfl ⟨Nat.le_of_ble_eq_true rfl, Nat.le_of_ble_eq_true rfl⟩ (Nat.le_of_ble_eq_true rfl) dX6_set_1 rfl rfl rfl ?_
  refine ro_if_eq (pc' := 7) (tgt := 17) dX6_set_4 rfl rfl (fun c => ?_) (fun c => ?_)
  · replace h := ah_ip c h
    refine ro_iconst (pc' := 18) dX6_set_17 ic_m1 rfl ?_
    obtain rfl := Option.some.inj h
    exact ro_iret hκ dX6_set_18
  · replace h := ah_in_ c h
    refine ro_iload_n (pc' := 8) dX6_set_7 rfl rfl rfl ?_
    refine ro_iconst (pc' := 9) dX6_set_8 ic_0 rfl ?_
    refine ro_bipush (pc' := 11) dX6_set_9 ib_99 rfl ?_
    obtain ⟨v3, σ4, hv3, h⟩ := ah_bs2 h
    refine ro_callS (pc' := 14) (As := [.int x2, .int (0 : Int32), .int (99 : Int32)]) (rest := []) (st' := [.int v3]) q1494 (M_X6_in hv3) q1493 q1495 q104 dd_X6_in rfl ⟨Nat.le_of_ble_eq_true rfl, Nat.le_of_ble_eq_true rfl⟩ (Nat.le_of_ble_eq_true rfl) dX6_set_11 rfl rfl rfl ?_
    refine ro_if_ne (pc' := 17) (tgt := 19) dX6_set_14 rfl rfl (fun c => ?_) (fun c => ?_)
    · replace h := ah_in_ c h
      refine ro_aload_n (pc' := 20) dX6_set_19 rfl rfl rfl ?_
      obtain ⟨v5, hv5, h⟩ := ah_bs h
      refine ro_getR (pc' := 23) ft_611 fk_611 q1319 dX6_set_20 rfl hv5 ?_
      refine ro_iload_n (pc' := 24) dX6_set_23 rfl rfl rfl ?_
      obtain ⟨v6, hv6, h⟩ := ah_bs h
      refine ro_iaload (pc' := 25) dX6_set_24 rfl hv6 ?_
      refine ro_istore_n (pc' := 26) (L' := [some (va_rf r0), some (.int x1), some (.int x2), some (.int v6)]) dX6_set_25 rfl (Nat.le_of_ble_eq_true rfl) rfl (ah_okp_i _) rfl ?_
      refine ro_aload_n (pc' := 27) dX6_set_26 rfl rfl rfl ?_
      obtain ⟨v7, hv7, h⟩ := ah_bs h
      refine ro_getR (pc' := 30) ft_611 fk_611 q1319 dX6_set_27 rfl hv7 ?_
      refine ro_iload_n (pc' := 31) dX6_set_30 rfl rfl rfl ?_
      refine ro_iload_n (pc' := 32) dX6_set_31 rfl rfl rfl ?_
      obtain ⟨σ8, hσ8, h⟩ := ah_bs h
      refine ro_iastore (pc' := 33) dX6_set_32 rfl hσ8 ?_
      refine ro_iload_n (pc' := 34) dX6_set_33 rfl rfl rfl ?_
      obtain rfl := Option.some.inj h
      exact ro_iret hκ dX6_set_34
    · replace h := ah_ip c h
      refine ro_iconst (pc' := 18) dX6_set_17 ic_m1 rfl ?_
      obtain rfl := Option.some.inj h
      exact ro_iret hκ dX6_set_18
theorem M_X6_set {l : Launch} {D : ah_D}  {σ : ah_S} {r0 : Option Nat} {x1 : Int32} {x2 : Int32} {v : Int32} {σ1 : ah_S} (h : F_X6_set σ r0 x1 x2 = some (v, σ1)) : ah_Met l yX6_set (Cond.code yX6_set cX6_set 4 (some FieldType.int)) 3 66 D [va_rf r0, .int x1, .int x2] σ (.returned (some (.int v)), σ1) :=
  ah_ofG (own := "LeftAsFoundModel") (nm := "set") (L0 := [some (va_rf r0), some (.int x1), some (.int x2), none]) (by decide) rfl rfl rfl (ah_ao_1 (ah_rf_cat _) (ah_ao_1 rfl (ah_ao_1 rfl (ah_ao_n ah_ao_0)))) (fun κ hκ => W_X6_set hκ  σ r0 x1 x2 h)
set_option maxRecDepth 20000 in
set_option maxHeartbeats 4000000 in
theorem W_X6_shift_150 {κ : ah_C} {rr : (Int32 × ah_S)} (hκ : ah_res κ = (.returned (some (.int rr.1)), rr.2))    : ∀ (n : Nat) (σ : ah_S) (r0 : Option Nat) (x3 : Int32) (x4 : Int32) (x5 : Int32) (x6 : Int32), F_X6_shift_150 n σ r0 x3 x4 x5 x6 = some rr → ah_G κ ("LeftAsFoundModel", "shift", 7, (some FieldType.int), [], 3, 66) cX6_shift σ 150 [some (va_rf r0), none, none, some (.int x3), some (.int x4), some (.int x5), some (.int x6)] [] := by
  intro n
  induction n with
  | zero => intro σ r0 x3 x4 x5 x6 h; cases h
  | succ n ih =>
    intro σ r0 x3 x4 x5 x6 h
    rw [F_X6_shift_150] at h
    refine ro_iload (pc' := 152) dX6_shift_150 rfl rfl ?_
    refine ro_iload (pc' := 154) dX6_shift_152 rfl rfl ?_
    refine ro_icmp_ge (pc' := 157) (tgt := 185) dX6_shift_154 rfl rfl (fun c => ?_) (fun c => ?_)
    · replace h := ah_ip c h
      refine ro_iload (pc' := 187) dX6_shift_185 rfl rfl ?_
      obtain rfl := Option.some.inj h
      exact ro_iret hκ dX6_shift_187
    · replace h := ah_in_ c h
      refine ro_aload_n (pc' := 158) dX6_shift_157 rfl rfl rfl ?_
      obtain ⟨v1, hv1, h⟩ := ah_bs h
      refine ro_getR (pc' := 161) ft_658 fk_658 q1366 dX6_shift_158 rfl hv1 ?_
      refine ro_bipush (pc' := 163) dX6_shift_161 ib_60 rfl ?_
      refine ro_iload_n (pc' := 164) dX6_shift_163 rfl rfl rfl ?_
      refine ro_imul (pc' := 165) dX6_shift_164 rfl ?_
      refine ro_iload (pc' := 167) dX6_shift_165 rfl rfl ?_
      refine ro_iadd (pc' := 168) dX6_shift_167 rfl ?_
      refine ro_iload (pc' := 170) dX6_shift_168 rfl rfl ?_
      refine ro_iadd (pc' := 171) dX6_shift_170 rfl ?_
      refine ro_aload_n (pc' := 172) dX6_shift_171 rfl rfl rfl ?_
      obtain ⟨v2, hv2, h⟩ := ah_bs h
      refine ro_getR (pc' := 175) ft_659 fk_659 q1367 dX6_shift_172 rfl hv2 ?_
      refine ro_iload (pc' := 177) dX6_shift_175 rfl rfl ?_
      obtain ⟨v3, hv3, h⟩ := ah_bs h
      refine ro_laload (pc' := 178) dX6_shift_177 rfl hv3 ?_
      obtain ⟨σ4, hσ4, h⟩ := ah_bs h
      refine ro_lastore (pc' := 179) dX6_shift_178 rfl hσ4 ?_
      refine ro_iinc (pc' := 182) (L' := [some (va_rf r0), none, none, some (.int x3), some (.int x4), some (.int x5), some (.int (x6 + (1 : Int32)))]) dX6_shift_179 rfl ic_1 (Nat.le_of_ble_eq_true rfl) rfl (ah_okp_i _) rfl ?_
      refine ro_goto (tgt := 150) dX6_shift_182 rfl ?_
      exact ih _ _ _ _ _ _ h
set_option maxRecDepth 20000 in
set_option maxHeartbeats 4000000 in
theorem W_X6_shift_113 {κ : ah_C} {rr : (Int32 × ah_S)} (hκ : ah_res κ = (.returned (some (.int rr.1)), rr.2))    : ∀ (n : Nat) (σ : ah_S) (r0 : Option Nat) (x1 : Int32) (x2 : Int32) (x3 : Int32) (x4 : Int32) (x5 : Int32) (x6 : Int32), F_X6_shift_113 n σ r0 x1 x2 x3 x4 x5 x6 = some rr → ah_G κ ("LeftAsFoundModel", "shift", 7, (some FieldType.int), [], 3, 66) cX6_shift σ 113 [some (va_rf r0), some (.int x1), some (.int x2), some (.int x3), some (.int x4), some (.int x5), some (.int x6)] [] := by
  intro n
  induction n with
  | zero => intro σ r0 x1 x2 x3 x4 x5 x6 h; cases h
  | succ n ih =>
    intro σ r0 x1 x2 x3 x4 x5 x6 h
    rw [F_X6_shift_113] at h
    refine ro_iload (pc' := 115) dX6_shift_113 rfl rfl ?_
    refine ro_iload (pc' := 117) dX6_shift_115 rfl rfl ?_
    refine ro_icmp_ge (pc' := 120) (tgt := 147) dX6_shift_117 rfl rfl (fun c => ?_) (fun c => ?_)
    · replace h := ah_ip c h
      refine ro_iconst (pc' := 148) dX6_shift_147 ic_0 rfl ?_
      refine ro_istore (pc' := 150) (L' := [some (va_rf r0), some (.int x1), some (.int x2), some (.int x3), some (.int x4), some (.int x5), some (.int (0 : Int32))]) dX6_shift_148 (Nat.le_of_ble_eq_true rfl) rfl (ah_okp_i _) rfl ?_
      refine ro_weak (L' := [some (va_rf r0), none, none, some (.int x3), some (.int x4), some (.int x5), some (.int (0 : Int32))]) (ah_ls_s (ah_ls_n (ah_ls_n (ah_ls_s (ah_ls_s (ah_ls_s (ah_ls_s ah_ls_0))))))) ?_
      exact W_X6_shift_150 hκ _ _ _ _ _ _ _ h
    · replace h := ah_in_ c h
      refine ro_aload_n (pc' := 121) dX6_shift_120 rfl rfl rfl ?_
      obtain ⟨v1, hv1, h⟩ := ah_bs h
      refine ro_getR (pc' := 124) ft_659 fk_659 q1367 dX6_shift_121 rfl hv1 ?_
      refine ro_iload (pc' := 126) dX6_shift_124 rfl rfl ?_
      refine ro_aload_n (pc' := 127) dX6_shift_126 rfl rfl rfl ?_
      obtain ⟨v2, hv2, h⟩ := ah_bs h
      refine ro_getR (pc' := 130) ft_658 fk_658 q1366 dX6_shift_127 rfl hv2 ?_
      refine ro_bipush (pc' := 132) dX6_shift_130 ib_60 rfl ?_
      refine ro_iload_n (pc' := 133) dX6_shift_132 rfl rfl rfl ?_
      refine ro_imul (pc' := 134) dX6_shift_133 rfl ?_
      refine ro_iload_n (pc' := 135) dX6_shift_134 rfl rfl rfl ?_
      refine ro_iadd (pc' := 136) dX6_shift_135 rfl ?_
      refine ro_iload (pc' := 138) dX6_shift_136 rfl rfl ?_
      refine ro_iadd (pc' := 139) dX6_shift_138 rfl ?_
      obtain ⟨v3, hv3, h⟩ := ah_bs h
      refine ro_laload (pc' := 140) dX6_shift_139 rfl hv3 ?_
      obtain ⟨σ4, hσ4, h⟩ := ah_bs h
      refine ro_lastore (pc' := 141) dX6_shift_140 rfl hσ4 ?_
      refine ro_iinc (pc' := 144) (L' := [some (va_rf r0), some (.int x1), some (.int x2), some (.int x3), some (.int x4), some (.int x5), some (.int (x6 + (1 : Int32)))]) dX6_shift_141 rfl ic_1 (Nat.le_of_ble_eq_true rfl) rfl (ah_okp_i _) rfl ?_
      refine ro_goto (tgt := 113) dX6_shift_144 rfl ?_
      exact ih _ _ _ _ _ _ _ _ h
set_option maxRecDepth 20000 in
set_option maxHeartbeats 4000000 in
theorem W_X6_shift {κ : ah_C} {rr : (Int32 × ah_S)} (hκ : ah_res κ = (.returned (some (.int rr.1)), rr.2))  (σ : ah_S) (r0 : Option Nat) (x1 : Int32) (x2 : Int32) (x3 : Int32) (x4 : Int32) (x5 : Int32) (h : F_X6_shift σ r0 x1 x2 x3 x4 x5 = some rr) : ah_G κ ("LeftAsFoundModel", "shift", 7, (some FieldType.int), [], 3, 66) cX6_shift σ 0 [some (va_rf r0), some (.int x1), some (.int x2), some (.int x3), some (.int x4), some (.int x5), none] [] := by
  unfold F_X6_shift at h
  refine ro_iload_n (pc' := 1) dX6_shift_0 rfl rfl rfl ?_
  obtain ⟨v1, σ2, hv1, h⟩ := ah_bs2 h
  refine ro_callS (pc' := 4) (As := [.int x1]) (rest := []) (st' := [.int v1]) q1505 (M_X6_isShelf hv1) q1504 q1506 q104 dd_X6_isShelf rfl ⟨Nat.le_of_ble_eq_true rfl, Nat.le_of_ble_eq_true rfl⟩ (Nat.le_of_ble_eq_true rfl) dX6_shift_1 rfl rfl rfl ?_
  refine ro_if_eq (pc' := 7) (tgt := 14) dX6_shift_4 rfl rfl (fun c => ?_) (fun c => ?_)
  · replace h := ah_ip c h
    refine ro_iconst (pc' := 15) dX6_shift_14 ic_m1 rfl ?_
    obtain rfl := Option.some.inj h
    exact ro_iret hκ dX6_shift_15
  · replace h := ah_in_ c h
    refine ro_iload_n (pc' := 8) dX6_shift_7 rfl rfl rfl ?_
    obtain ⟨v3, σ4, hv3, h⟩ := ah_bs2 h
    refine ro_callS (pc' := 11) (As := [.int x3]) (rest := []) (st' := [.int v3]) q1505 (M_X6_isShelf hv3) q1504 q1506 q104 dd_X6_isShelf rfl ⟨Nat.le_of_ble_eq_true rfl, Nat.le_of_ble_eq_true rfl⟩ (Nat.le_of_ble_eq_true rfl) dX6_shift_8 rfl rfl rfl ?_
    refine ro_if_ne (pc' := 14) (tgt := 16) dX6_shift_11 rfl rfl (fun c => ?_) (fun c => ?_)
    · replace h := ah_in_ c h
      refine ro_aload_n (pc' := 17) dX6_shift_16 rfl rfl rfl ?_
      obtain ⟨v5, hv5, h⟩ := ah_bs h
      refine ro_getR (pc' := 20) ft_656 fk_656 q1364 dX6_shift_17 rfl hv5 ?_
      refine ro_iload_n (pc' := 21) dX6_shift_20 rfl rfl rfl ?_
      obtain ⟨v6, hv6, h⟩ := ah_bs h
      refine ro_iaload (pc' := 22) dX6_shift_21 rfl hv6 ?_
      refine ro_iconst (pc' := 23) dX6_shift_22 ic_m1 rfl ?_
      refine ro_icmp_eq (pc' := 26) (tgt := 36) dX6_shift_23 rfl rfl (fun c => ?_) (fun c => ?_)
      · replace h := ah_ip c h
        refine ro_bipush (pc' := 38) dX6_shift_36 ib_m11 rfl ?_
        obtain rfl := Option.some.inj h
        exact ro_iret hκ dX6_shift_38
      · replace h := ah_in_ c h
        refine ro_aload_n (pc' := 27) dX6_shift_26 rfl rfl rfl ?_
        obtain ⟨v7, hv7, h⟩ := ah_bs h
        refine ro_getR (pc' := 30) ft_656 fk_656 q1364 dX6_shift_27 rfl hv7 ?_
        refine ro_iload_n (pc' := 31) dX6_shift_30 rfl rfl rfl ?_
        obtain ⟨v8, hv8, h⟩ := ah_bs h
        refine ro_iaload (pc' := 32) dX6_shift_31 rfl hv8 ?_
        refine ro_iconst (pc' := 33) dX6_shift_32 ic_m1 rfl ?_
        refine ro_icmp_ne (pc' := 36) (tgt := 39) dX6_shift_33 rfl rfl (fun c => ?_) (fun c => ?_)
        · replace h := ah_in_ c h
          refine ro_aload_n (pc' := 40) dX6_shift_39 rfl rfl rfl ?_
          obtain ⟨v9, hv9, h⟩ := ah_bs h
          refine ro_getR (pc' := 43) ft_656 fk_656 q1364 dX6_shift_40 rfl hv9 ?_
          refine ro_iload_n (pc' := 44) dX6_shift_43 rfl rfl rfl ?_
          obtain ⟨v10, hv10, h⟩ := ah_bs h
          refine ro_iaload (pc' := 45) dX6_shift_44 rfl hv10 ?_
          refine ro_if_ge (pc' := 48) (tgt := 63) dX6_shift_45 rfl rfl (fun c => ?_) (fun c => ?_)
          · replace h := ah_ip c h
            refine ro_bipush (pc' := 65) dX6_shift_63 ib_m12 rfl ?_
            obtain rfl := Option.some.inj h
            exact ro_iret hκ dX6_shift_65
          · replace h := ah_in_ c h
            refine ro_aload_n (pc' := 49) dX6_shift_48 rfl rfl rfl ?_
            obtain ⟨v11, hv11, h⟩ := ah_bs h
            refine ro_getR (pc' := 52) ft_656 fk_656 q1364 dX6_shift_49 rfl hv11 ?_
            refine ro_iload_n (pc' := 53) dX6_shift_52 rfl rfl rfl ?_
            obtain ⟨v12, hv12, h⟩ := ah_bs h
            refine ro_iaload (pc' := 54) dX6_shift_53 rfl hv12 ?_
            refine ro_aload_n (pc' := 55) dX6_shift_54 rfl rfl rfl ?_
            obtain ⟨v13, hv13, h⟩ := ah_bs h
            refine ro_getR (pc' := 58) ft_656 fk_656 q1364 dX6_shift_55 rfl hv13 ?_
            refine ro_iload_n (pc' := 59) dX6_shift_58 rfl rfl rfl ?_
            obtain ⟨v14, hv14, h⟩ := ah_bs h
            refine ro_iaload (pc' := 60) dX6_shift_59 rfl hv14 ?_
            refine ro_icmp_eq (pc' := 63) (tgt := 66) dX6_shift_60 rfl rfl (fun c => ?_) (fun c => ?_)
            · replace h := ah_ip c h
              refine ro_iload (pc' := 68) dX6_shift_66 rfl rfl ?_
              refine ro_if_lt (pc' := 71) (tgt := 107) dX6_shift_68 rfl rfl (fun c => ?_) (fun c => ?_)
              · replace h := ah_ip c h
                refine ro_bipush (pc' := 109) dX6_shift_107 ib_m13 rfl ?_
                obtain rfl := Option.some.inj h
                exact ro_iret hκ dX6_shift_109
              · replace h := ah_in_ c h
                refine ro_iload_n (pc' := 72) dX6_shift_71 rfl rfl rfl ?_
                refine ro_if_lt (pc' := 75) (tgt := 107) dX6_shift_72 rfl rfl (fun c => ?_) (fun c => ?_)
                · replace h := ah_ip c h
                  refine ro_bipush (pc' := 109) dX6_shift_107 ib_m13 rfl ?_
                  obtain rfl := Option.some.inj h
                  exact ro_iret hκ dX6_shift_109
                · replace h := ah_in_ c h
                  refine ro_iload (pc' := 77) dX6_shift_75 rfl rfl ?_
                  refine ro_if_lt (pc' := 80) (tgt := 107) dX6_shift_77 rfl rfl (fun c => ?_) (fun c => ?_)
                  · replace h := ah_ip c h
                    refine ro_bipush (pc' := 109) dX6_shift_107 ib_m13 rfl ?_
                    obtain rfl := Option.some.inj h
                    exact ro_iret hκ dX6_shift_109
                  · replace h := ah_in_ c h
                    refine ro_iload_n (pc' := 81) dX6_shift_80 rfl rfl rfl ?_
                    refine ro_aload_n (pc' := 82) dX6_shift_81 rfl rfl rfl ?_
                    obtain ⟨v15, hv15, h⟩ := ah_bs h
                    refine ro_getR (pc' := 85) ft_657 fk_657 q1365 dX6_shift_82 rfl hv15 ?_
                    refine ro_iload_n (pc' := 86) dX6_shift_85 rfl rfl rfl ?_
                    obtain ⟨v16, hv16, h⟩ := ah_bs h
                    refine ro_iaload (pc' := 87) dX6_shift_86 rfl hv16 ?_
                    refine ro_iload (pc' := 89) dX6_shift_87 rfl rfl ?_
                    refine ro_isub (pc' := 90) dX6_shift_89 rfl ?_
                    refine ro_icmp_gt (pc' := 93) (tgt := 107) dX6_shift_90 rfl rfl (fun c => ?_) (fun c => ?_)
                    · replace h := ah_ip c h
                      refine ro_bipush (pc' := 109) dX6_shift_107 ib_m13 rfl ?_
                      obtain rfl := Option.some.inj h
                      exact ro_iret hκ dX6_shift_109
                    · replace h := ah_in_ c h
                      refine ro_iload (pc' := 95) dX6_shift_93 rfl rfl ?_
                      refine ro_aload_n (pc' := 96) dX6_shift_95 rfl rfl rfl ?_
                      obtain ⟨v17, hv17, h⟩ := ah_bs h
                      refine ro_getR (pc' := 99) ft_657 fk_657 q1365 dX6_shift_96 rfl hv17 ?_
                      refine ro_iload_n (pc' := 100) dX6_shift_99 rfl rfl rfl ?_
                      obtain ⟨v18, hv18, h⟩ := ah_bs h
                      refine ro_iaload (pc' := 101) dX6_shift_100 rfl hv18 ?_
                      refine ro_iload (pc' := 103) dX6_shift_101 rfl rfl ?_
                      refine ro_isub (pc' := 104) dX6_shift_103 rfl ?_
                      refine ro_icmp_le (pc' := 107) (tgt := 110) dX6_shift_104 rfl rfl (fun c => ?_) (fun c => ?_)
                      · replace h := ah_ip c h
                        refine ro_iconst (pc' := 111) dX6_shift_110 ic_0 rfl ?_
                        refine ro_istore (pc' := 113) (L' := [some (va_rf r0), some (.int x1), some (.int x2), some (.int x3), some (.int x4), some (.int x5), some (.int (0 : Int32))]) dX6_shift_111 (Nat.le_of_ble_eq_true rfl) rfl (ah_okp_i _) rfl ?_
                        exact W_X6_shift_113 hκ _ _ _ _ _ _ _ _ _ h
                      · replace h := ah_in_ c h
                        refine ro_bipush (pc' := 109) dX6_shift_107 ib_m13 rfl ?_
                        obtain rfl := Option.some.inj h
                        exact ro_iret hκ dX6_shift_109
            · replace h := ah_in_ c h
              refine ro_bipush (pc' := 65) dX6_shift_63 ib_m12 rfl ?_
              obtain rfl := Option.some.inj h
              exact ro_iret hκ dX6_shift_65
        · replace h := ah_ip c h
          refine ro_bipush (pc' := 38) dX6_shift_36 ib_m11 rfl ?_
          obtain rfl := Option.some.inj h
          exact ro_iret hκ dX6_shift_38
    · replace h := ah_ip c h
      refine ro_iconst (pc' := 15) dX6_shift_14 ic_m1 rfl ?_
      obtain rfl := Option.some.inj h
      exact ro_iret hκ dX6_shift_15
theorem M_X6_shift {l : Launch} {D : ah_D}  {σ : ah_S} {r0 : Option Nat} {x1 : Int32} {x2 : Int32} {x3 : Int32} {x4 : Int32} {x5 : Int32} {v : Int32} {σ1 : ah_S} (h : F_X6_shift σ r0 x1 x2 x3 x4 x5 = some (v, σ1)) : ah_Met l yX6_shift (Cond.code yX6_shift cX6_shift 7 (some FieldType.int)) 3 66 D [va_rf r0, .int x1, .int x2, .int x3, .int x4, .int x5] σ (.returned (some (.int v)), σ1) :=
  ah_ofG (own := "LeftAsFoundModel") (nm := "shift") (L0 := [some (va_rf r0), some (.int x1), some (.int x2), some (.int x3), some (.int x4), some (.int x5), none]) (by decide) rfl rfl rfl (ah_ao_1 (ah_rf_cat _) (ah_ao_1 rfl (ah_ao_1 rfl (ah_ao_1 rfl (ah_ao_1 rfl (ah_ao_1 rfl (ah_ao_n ah_ao_0))))))) (fun κ hκ => W_X6_shift hκ  σ r0 x1 x2 x3 x4 x5 h)
set_option maxRecDepth 20000 in
set_option maxHeartbeats 4000000 in
theorem W_X6_since_56 {κ : ah_C} {rr : (Int32 × ah_S)} (hκ : ah_res κ = (.returned (some (.int rr.1)), rr.2))    : ∀ (n : Nat) (σ : ah_S) (r0 : Option Nat) (x2 : Int32) (x3 : Int32) (x4 : Int32) (x5 : Int32), F_X6_since_56 n σ r0 x2 x3 x4 x5 = some rr → ah_G κ ("LeftAsFoundModel", "since", 6, (some FieldType.int), [], 7, 166) cX6_since σ 56 [some (va_rf r0), none, some (.int x2), some (.int x3), some (.int x4), some (.int x5)] [] := by
  intro n
  induction n with
  | zero => intro σ r0 x2 x3 x4 x5 h; cases h
  | succ n ih =>
    intro σ r0 x2 x3 x4 x5 h
    rw [F_X6_since_56] at h
    refine ro_iload (pc' := 58) dX6_since_56 rfl rfl ?_
    refine ro_aload_n (pc' := 59) dX6_since_58 rfl rfl rfl ?_
    obtain ⟨v1, hv1, h⟩ := ah_bs h
    refine ro_getI (pc' := 62) ft_636 fk_636 q1344 dX6_since_59 rfl hv1 ?_
    refine ro_icmp_ge (pc' := 65) (tgt := 95) dX6_since_62 rfl rfl (fun c => ?_) (fun c => ?_)
    · replace h := ah_ip c h
      refine ro_aload_n (pc' := 96) dX6_since_95 rfl rfl rfl ?_
      obtain ⟨u2, hu2, h⟩ := ah_bs h
      obtain ⟨σ3, hσ3, h⟩ := ah_bs h
      refine ro_callV (pc' := 99) (As := []) (rest := []) (st' := []) (by decide) hu2 q1665 sl_X6_layHut (M_X6_layHut hσ3) q1663 q1666 q104 dd_X6_layHut rfl ⟨Nat.le_of_ble_eq_true rfl, Nat.le_of_ble_eq_true rfl⟩ (Nat.le_of_ble_eq_true rfl) dX6_since_96 rfl rfl rfl ?_
      refine ro_iload (pc' := 101) dX6_since_99 rfl rfl ?_
      obtain rfl := Option.some.inj h
      exact ro_iret hκ dX6_since_101
    · replace h := ah_in_ c h
      refine ro_aload_n (pc' := 66) dX6_since_65 rfl rfl rfl ?_
      refine ro_aload_n (pc' := 67) dX6_since_66 rfl rfl rfl ?_
      obtain ⟨v4, hv4, h⟩ := ah_bs h
      refine ro_getR (pc' := 70) ft_635 fk_635 q1343 dX6_since_67 rfl hv4 ?_
      refine ro_iload (pc' := 72) dX6_since_70 rfl rfl ?_
      obtain ⟨v5, hv5, h⟩ := ah_bs h
      refine ro_iaload (pc' := 73) dX6_since_72 rfl hv5 ?_
      obtain ⟨u6, hu6, h⟩ := ah_bs h
      obtain ⟨σ7, hσ7, h⟩ := ah_bs h
      refine ro_callV (pc' := 76) (As := [.int v5]) (rest := []) (st' := []) (by decide) hu6 q1638 sl_X6_goNight (M_X6_goNight hσ7) q1636 q1639 q104 dd_X6_goNight rfl ⟨Nat.le_of_ble_eq_true rfl, Nat.le_of_ble_eq_true rfl⟩ (Nat.le_of_ble_eq_true rfl) dX6_since_73 rfl rfl rfl ?_
      refine ro_aload_n (pc' := 77) dX6_since_76 rfl rfl rfl ?_
      refine ro_iload_n (pc' := 78) dX6_since_77 rfl rfl rfl ?_
      obtain ⟨u8, hu8, h⟩ := ah_bs h
      obtain ⟨v9, σ10, hv9, h⟩ := ah_bs2 h
      refine ro_callV (pc' := 81) (As := [.int x2]) (rest := []) (st' := [.int v9]) (by decide) hu8 q1689 sl_X6_lacksOf (M_X6_lacksOf hv9) q1687 q1690 q104 dd_X6_lacksOf rfl ⟨Nat.le_of_ble_eq_true rfl, Nat.le_of_ble_eq_true rfl⟩ (Nat.le_of_ble_eq_true rfl) dX6_since_78 rfl rfl rfl ?_
      refine ro_iload_n (pc' := 82) dX6_since_81 rfl rfl rfl ?_
      refine ro_icmp_gt (pc' := 85) (tgt := 89) dX6_since_82 rfl rfl (fun c => ?_) (fun c => ?_)
      · replace h := ah_ip c h
        refine ro_iinc (pc' := 92) (L' := [some (va_rf r0), none, some (.int x2), some (.int x3), some (.int x4), some (.int (x5 + (1 : Int32)))]) dX6_since_89 rfl ic_1 (Nat.le_of_ble_eq_true rfl) rfl (ah_okp_i _) rfl ?_
        refine ro_goto (tgt := 56) dX6_since_92 rfl ?_
        exact ih _ _ _ _ _ _ h
      · replace h := ah_in_ c h
        refine ro_iload (pc' := 87) dX6_since_85 rfl rfl ?_
        refine ro_istore (pc' := 89) (L' := [some (va_rf r0), none, some (.int x2), some (.int x3), some (.int x5), some (.int x5)]) dX6_since_87 (Nat.le_of_ble_eq_true rfl) rfl (ah_okp_i _) rfl ?_
        refine ro_iinc (pc' := 92) (L' := [some (va_rf r0), none, some (.int x2), some (.int x3), some (.int x5), some (.int (x5 + (1 : Int32)))]) dX6_since_89 rfl ic_1 (Nat.le_of_ble_eq_true rfl) rfl (ah_okp_i _) rfl ?_
        refine ro_goto (tgt := 56) dX6_since_92 rfl ?_
        exact ih _ _ _ _ _ _ h
set_option maxRecDepth 20000 in
set_option maxHeartbeats 4000000 in
theorem W_X6_since {κ : ah_C} {rr : (Int32 × ah_S)} (hκ : ah_res κ = (.returned (some (.int rr.1)), rr.2))  (σ : ah_S) (r0 : Option Nat) (x1 : Int32) (x2 : Int32) (x3 : Int32) (h : F_X6_since σ r0 x1 x2 x3 = some rr) : ah_G κ ("LeftAsFoundModel", "since", 6, (some FieldType.int), [], 7, 166) cX6_since σ 0 [some (va_rf r0), some (.int x1), some (.int x2), some (.int x3), none, none] [] := by
  unfold F_X6_since at h
  refine ro_iload_n (pc' := 1) dX6_since_0 rfl rfl rfl ?_
  obtain ⟨v1, σ2, hv1, h⟩ := ah_bs2 h
  refine ro_callS (pc' := 4) (As := [.int x1]) (rest := []) (st' := [.int v1]) q1505 (M_X6_isShelf hv1) q1504 q1506 q104 dd_X6_isShelf rfl ⟨Nat.le_of_ble_eq_true rfl, Nat.le_of_ble_eq_true rfl⟩ (Nat.le_of_ble_eq_true rfl) dX6_since_1 rfl rfl rfl ?_
  refine ro_if_eq (pc' := 7) (tgt := 24) dX6_since_4 rfl rfl (fun c => ?_) (fun c => ?_)
  · replace h := ah_ip c h
    refine ro_iconst (pc' := 25) dX6_since_24 ic_m1 rfl ?_
    obtain rfl := Option.some.inj h
    exact ro_iret hκ dX6_since_25
  · replace h := ah_in_ c h
    refine ro_iload_n (pc' := 8) dX6_since_7 rfl rfl rfl ?_
    obtain ⟨v3, σ4, hv3, h⟩ := ah_bs2 h
    refine ro_callS (pc' := 11) (As := [.int x2]) (rest := []) (st' := [.int v3]) q1532 (M_X6_isThing hv3) q1531 q1533 q104 dd_X6_isThing rfl ⟨Nat.le_of_ble_eq_true rfl, Nat.le_of_ble_eq_true rfl⟩ (Nat.le_of_ble_eq_true rfl) dX6_since_8 rfl rfl rfl ?_
    refine ro_if_eq (pc' := 14) (tgt := 24) dX6_since_11 rfl rfl (fun c => ?_) (fun c => ?_)
    · replace h := ah_ip c h
      refine ro_iconst (pc' := 25) dX6_since_24 ic_m1 rfl ?_
      obtain rfl := Option.some.inj h
      exact ro_iret hκ dX6_since_25
    · replace h := ah_in_ c h
      refine ro_iload_n (pc' := 15) dX6_since_14 rfl rfl rfl ?_
      refine ro_iconst (pc' := 16) dX6_since_15 ic_0 rfl ?_
      refine ro_bipush (pc' := 18) dX6_since_16 ib_99 rfl ?_
      obtain ⟨v5, σ6, hv5, h⟩ := ah_bs2 h
      refine ro_callS (pc' := 21) (As := [.int x3, .int (0 : Int32), .int (99 : Int32)]) (rest := []) (st' := [.int v5]) q1494 (M_X6_in hv5) q1493 q1495 q104 dd_X6_in rfl ⟨Nat.le_of_ble_eq_true rfl, Nat.le_of_ble_eq_true rfl⟩ (Nat.le_of_ble_eq_true rfl) dX6_since_18 rfl rfl rfl ?_
      refine ro_if_ne (pc' := 24) (tgt := 26) dX6_since_21 rfl rfl (fun c => ?_) (fun c => ?_)
      · replace h := ah_in_ c h
        refine ro_aload_n (pc' := 27) dX6_since_26 rfl rfl rfl ?_
        refine ro_iload_n (pc' := 28) dX6_since_27 rfl rfl rfl ?_
        obtain ⟨u7, hu7, h⟩ := ah_bs h
        obtain ⟨v8, σ9, hv8, h⟩ := ah_bs2 h
        refine ro_callV (pc' := 31) (As := [.int x1]) (rest := []) (st' := [.int v8]) (by decide) hu7 q1626 sl_X6_rowFault (M_X6_rowFault hv8) q1624 q1627 q104 dd_X6_rowFault rfl ⟨Nat.le_of_ble_eq_true rfl, Nat.le_of_ble_eq_true rfl⟩ (Nat.le_of_ble_eq_true rfl) dX6_since_28 rfl rfl rfl ?_
        refine ro_if_ge (pc' := 34) (tgt := 40) dX6_since_31 rfl rfl (fun c => ?_) (fun c => ?_)
        · replace h := ah_ip c h
          refine ro_aload_n (pc' := 41) dX6_since_40 rfl rfl rfl ?_
          refine ro_iload_n (pc' := 42) dX6_since_41 rfl rfl rfl ?_
          obtain ⟨u10, hu10, h⟩ := ah_bs h
          obtain ⟨σ11, hσ11, h⟩ := ah_bs h
          refine ro_callV (pc' := 45) (As := [.int x1]) (rest := []) (st' := []) (by decide) hu10 q1630 sl_X6_layStays (M_X6_layStays hσ11) q1628 q1631 q104 dd_X6_layStays rfl ⟨Nat.le_of_ble_eq_true rfl, Nat.le_of_ble_eq_true rfl⟩ (Nat.le_of_ble_eq_true rfl) dX6_since_42 rfl rfl rfl ?_
          refine ro_aload_n (pc' := 46) dX6_since_45 rfl rfl rfl ?_
          obtain ⟨u12, hu12, h⟩ := ah_bs h
          obtain ⟨σ13, hσ13, h⟩ := ah_bs h
          refine ro_callV (pc' := 49) (As := []) (rest := []) (st' := []) (by decide) hu12 q1634 sl_X6_keepHut (M_X6_keepHut hσ13) q1632 q1635 q104 dd_X6_keepHut rfl ⟨Nat.le_of_ble_eq_true rfl, Nat.le_of_ble_eq_true rfl⟩ (Nat.le_of_ble_eq_true rfl) dX6_since_46 rfl rfl rfl ?_
          refine ro_bipush (pc' := 51) dX6_since_49 ib_m2 rfl ?_
          refine ro_istore (pc' := 53) (L' := [some (va_rf r0), some (.int x1), some (.int x2), some (.int x3), some (.int (-2 : Int32)), none]) dX6_since_51 (Nat.le_of_ble_eq_true rfl) rfl (ah_okp_i _) rfl ?_
          refine ro_iconst (pc' := 54) dX6_since_53 ic_0 rfl ?_
          refine ro_istore (pc' := 56) (L' := [some (va_rf r0), some (.int x1), some (.int x2), some (.int x3), some (.int (-2 : Int32)), some (.int (0 : Int32))]) dX6_since_54 (Nat.le_of_ble_eq_true rfl) rfl (ah_okp_i _) rfl ?_
          refine ro_weak (L' := [some (va_rf r0), none, some (.int x2), some (.int x3), some (.int (-2 : Int32)), some (.int (0 : Int32))]) (ah_ls_s (ah_ls_n (ah_ls_s (ah_ls_s (ah_ls_s (ah_ls_s ah_ls_0)))))) ?_
          exact W_X6_since_56 hκ _ _ _ _ _ _ _ h
        · replace h := ah_in_ c h
          refine ro_aload_n (pc' := 35) dX6_since_34 rfl rfl rfl ?_
          refine ro_iload_n (pc' := 36) dX6_since_35 rfl rfl rfl ?_
          obtain ⟨u14, hu14, h⟩ := ah_bs h
          obtain ⟨v15, σ16, hv15, h⟩ := ah_bs2 h
          refine ro_callV (pc' := 39) (As := [.int x1]) (rest := []) (st' := [.int v15]) (by decide) hu14 q1626 sl_X6_rowFault (M_X6_rowFault hv15) q1624 q1627 q104 dd_X6_rowFault rfl ⟨Nat.le_of_ble_eq_true rfl, Nat.le_of_ble_eq_true rfl⟩ (Nat.le_of_ble_eq_true rfl) dX6_since_36 rfl rfl rfl ?_
          obtain rfl := Option.some.inj h
          exact ro_iret hκ dX6_since_39
      · replace h := ah_ip c h
        refine ro_iconst (pc' := 25) dX6_since_24 ic_m1 rfl ?_
        obtain rfl := Option.some.inj h
        exact ro_iret hκ dX6_since_25
theorem M_X6_since {l : Launch} {D : ah_D}  {σ : ah_S} {r0 : Option Nat} {x1 : Int32} {x2 : Int32} {x3 : Int32} {v : Int32} {σ1 : ah_S} (h : F_X6_since σ r0 x1 x2 x3 = some (v, σ1)) : ah_Met l yX6_since (Cond.code yX6_since cX6_since 6 (some FieldType.int)) 7 166 D [va_rf r0, .int x1, .int x2, .int x3] σ (.returned (some (.int v)), σ1) :=
  ah_ofG (own := "LeftAsFoundModel") (nm := "since") (L0 := [some (va_rf r0), some (.int x1), some (.int x2), some (.int x3), none, none]) (by decide) rfl rfl rfl (ah_ao_1 (ah_rf_cat _) (ah_ao_1 rfl (ah_ao_1 rfl (ah_ao_1 rfl (ah_ao_n (ah_ao_n ah_ao_0)))))) (fun κ hκ => W_X6_since hκ  σ r0 x1 x2 x3 h)
set_option maxRecDepth 20000 in
set_option maxHeartbeats 4000000 in
theorem W_X6_spoils_103 {κ : ah_C} {rr : (Int32 × ah_S)} (hκ : ah_res κ = (.returned (some (.int rr.1)), rr.2))  {k65 : ah_S → Option Nat → Int32 → Int32 → Int32 → Int32 → Int32 → Int32 → Option (Int32 × ah_S)} (hk65 : ∀ (σ : ah_S) (r0 : Option Nat) (x2 : Int32) (x3 : Int32) (x4 : Int32) (x5 : Int32) (x6 : Int32) (x7 : Int32), k65 σ r0 x2 x3 x4 x5 x6 x7 = some rr → ah_G κ ("LeftAsFoundModel", "spoils", 8, (some FieldType.int), [], 8, 188) cX6_spoils σ 65 [some (va_rf r0), none, some (.int x2), some (.int x3), some (.int x4), some (.int x5), some (.int x6), some (.int x7)] []) : ∀ (σ : ah_S) (r0 : Option Nat) (x2 : Int32) (x3 : Int32) (x4 : Int32) (x5 : Int32) (x6 : Int32) (x7 : Int32) (w0 : Option Nat) (y1 : Int32) (y2 : Int32), F_X6_spoils_103 k65 σ r0 x2 x3 x4 x5 x6 x7 w0 y1 y2 = some rr → ah_G κ ("LeftAsFoundModel", "spoils", 8, (some FieldType.int), [], 8, 188) cX6_spoils σ 103 [some (va_rf r0), none, some (.int x2), some (.int x3), some (.int x4), some (.int x5), some (.int x6), some (.int x7)] [.int y2, .int y1, va_rf w0] := by
  intro σ r0 x2 x3 x4 x5 x6 x7 w0 y1 y2 h
  unfold F_X6_spoils_103 at h
  obtain ⟨σ1, hσ1, h⟩ := ah_bs h
  refine ro_iastore (pc' := 104) dX6_spoils_103 rfl hσ1 ?_
  refine ro_aload_n (pc' := 105) dX6_spoils_104 rfl rfl rfl ?_
  obtain ⟨v2, hv2, h⟩ := ah_bs h
  refine ro_getR (pc' := 108) ft_638 fk_638 q1346 dX6_spoils_105 rfl hv2 ?_
  refine ro_iload (pc' := 110) dX6_spoils_108 rfl rfl ?_
  obtain ⟨v3, hv3, h⟩ := ah_bs h
  refine ro_iaload (pc' := 111) dX6_spoils_110 rfl hv3 ?_
  refine ro_iload (pc' := 113) dX6_spoils_111 rfl rfl ?_
  refine ro_icmp_ne (pc' := 116) (tgt := 119) dX6_spoils_113 rfl rfl (fun c => ?_) (fun c => ?_)
  · replace h := ah_in_ c h
    refine ro_iinc (pc' := 122) (L' := [some (va_rf r0), none, some (.int x2), some (.int x3), some (.int x4), some (.int x5), some (.int x6), some (.int (x7 + (1 : Int32)))]) dX6_spoils_119 rfl ic_1 (Nat.le_of_ble_eq_true rfl) rfl (ah_okp_i _) rfl ?_
    refine ro_goto (tgt := 65) dX6_spoils_122 rfl ?_
    exact hk65 _ _ _ _ _ _ _ _ h
  · replace h := ah_ip c h
    refine ro_iconst (pc' := 117) dX6_spoils_116 ic_1 rfl ?_
    refine ro_istore (pc' := 119) (L' := [some (va_rf r0), none, some (.int x2), some (.int x3), some (.int x4), some (.int x5), some (.int (1 : Int32)), some (.int x7)]) dX6_spoils_117 (Nat.le_of_ble_eq_true rfl) rfl (ah_okp_i _) rfl ?_
    refine ro_iinc (pc' := 122) (L' := [some (va_rf r0), none, some (.int x2), some (.int x3), some (.int x4), some (.int x5), some (.int (1 : Int32)), some (.int (x7 + (1 : Int32)))]) dX6_spoils_119 rfl ic_1 (Nat.le_of_ble_eq_true rfl) rfl (ah_okp_i _) rfl ?_
    refine ro_goto (tgt := 65) dX6_spoils_122 rfl ?_
    exact hk65 _ _ _ _ _ _ _ _ h
set_option maxRecDepth 20000 in
set_option maxHeartbeats 4000000 in
theorem W_X6_spoils_138 {κ : ah_C} {rr : (Int32 × ah_S)} (hκ : ah_res κ = (.returned (some (.int rr.1)), rr.2))  {k50 : ah_S → Option Nat → Int32 → Int32 → Int32 → Int32 → Option (Int32 × ah_S)} (hk50 : ∀ (σ : ah_S) (r0 : Option Nat) (x2 : Int32) (x3 : Int32) (x4 : Int32) (x5 : Int32), k50 σ r0 x2 x3 x4 x5 = some rr → ah_G κ ("LeftAsFoundModel", "spoils", 8, (some FieldType.int), [], 8, 188) cX6_spoils σ 50 [some (va_rf r0), none, some (.int x2), some (.int x3), some (.int x4), some (.int x5), none, none] []) : ∀ (σ : ah_S) (r0 : Option Nat) (x2 : Int32) (x3 : Int32) (x4 : Int32) (x5 : Int32) (x6 : Int32) (y0 : Int32), F_X6_spoils_138 k50 σ r0 x2 x3 x4 x5 x6 y0 = some rr → ah_G κ ("LeftAsFoundModel", "spoils", 8, (some FieldType.int), [], 8, 188) cX6_spoils σ 138 [some (va_rf r0), none, some (.int x2), some (.int x3), some (.int x4), some (.int x5), some (.int x6), none] [.int y0] := by
  intro σ r0 x2 x3 x4 x5 x6 y0 h
  unfold F_X6_spoils_138 at h
  refine ro_istore (pc' := 140) (L' := [some (va_rf r0), none, some (.int x2), some (.int x3), some (.int x4), some (.int x5), some (.int x6), some (.int y0)]) dX6_spoils_138 (Nat.le_of_ble_eq_true rfl) rfl (ah_okp_i _) rfl ?_
  refine ro_iload (pc' := 142) dX6_spoils_140 rfl rfl ?_
  refine ro_if_eq (pc' := 145) (tgt := 166) dX6_spoils_142 rfl rfl (fun c => ?_) (fun c => ?_)
  · replace h := ah_ip c h
    refine ro_iinc (pc' := 169) (L' := [some (va_rf r0), none, some (.int x2), some (.int x3), some (.int x4), some (.int (x5 + (1 : Int32))), some (.int x6), some (.int y0)]) dX6_spoils_166 rfl ic_1 (Nat.le_of_ble_eq_true rfl) rfl (ah_okp_i _) rfl ?_
    refine ro_goto (tgt := 50) dX6_spoils_169 rfl ?_
    refine ro_weak (L' := [some (va_rf r0), none, some (.int x2), some (.int x3), some (.int x4), some (.int (x5 + (1 : Int32))), none, none]) (ah_ls_s (ah_ls_s (ah_ls_s (ah_ls_s (ah_ls_s (ah_ls_s (ah_ls_n (ah_ls_n ah_ls_0)))))))) ?_
    exact hk50 _ _ _ _ _ _ h
  · replace h := ah_in_ c h
    refine ro_iload_n (pc' := 146) dX6_spoils_145 rfl rfl rfl ?_
    refine ro_if_lt (pc' := 149) (tgt := 159) dX6_spoils_146 rfl rfl (fun c => ?_) (fun c => ?_)
    · replace h := ah_ip c h
      refine ro_iload (pc' := 161) dX6_spoils_159 rfl rfl ?_
      refine ro_istore_n (pc' := 162) (L' := [some (va_rf r0), none, some (.int x2), some (.int x5), some (.int x4), some (.int x5), some (.int x6), some (.int y0)]) dX6_spoils_161 rfl (Nat.le_of_ble_eq_true rfl) rfl (ah_okp_i _) rfl ?_
      refine ro_iload (pc' := 164) dX6_spoils_162 rfl rfl ?_
      refine ro_istore (pc' := 166) (L' := [some (va_rf r0), none, some (.int x2), some (.int x5), some (.int y0), some (.int x5), some (.int x6), some (.int y0)]) dX6_spoils_164 (Nat.le_of_ble_eq_true rfl) rfl (ah_okp_i _) rfl ?_
      refine ro_iinc (pc' := 169) (L' := [some (va_rf r0), none, some (.int x2), some (.int x5), some (.int y0), some (.int (x5 + (1 : Int32))), some (.int x6), some (.int y0)]) dX6_spoils_166 rfl ic_1 (Nat.le_of_ble_eq_true rfl) rfl (ah_okp_i _) rfl ?_
      refine ro_goto (tgt := 50) dX6_spoils_169 rfl ?_
      refine ro_weak (L' := [some (va_rf r0), none, some (.int x2), some (.int x5), some (.int y0), some (.int (x5 + (1 : Int32))), none, none]) (ah_ls_s (ah_ls_s (ah_ls_s (ah_ls_s (ah_ls_s (ah_ls_s (ah_ls_n (ah_ls_n ah_ls_0)))))))) ?_
      exact hk50 _ _ _ _ _ _ h
    · replace h := ah_in_ c h
      refine ro_iload (pc' := 151) dX6_spoils_149 rfl rfl ?_
      refine ro_iload (pc' := 153) dX6_spoils_151 rfl rfl ?_
      refine ro_icmp_lt (pc' := 156) (tgt := 159) dX6_spoils_153 rfl rfl (fun c => ?_) (fun c => ?_)
      · replace h := ah_ip c h
        refine ro_iload (pc' := 161) dX6_spoils_159 rfl rfl ?_
        refine ro_istore_n (pc' := 162) (L' := [some (va_rf r0), none, some (.int x2), some (.int x5), some (.int x4), some (.int x5), some (.int x6), some (.int y0)]) dX6_spoils_161 rfl (Nat.le_of_ble_eq_true rfl) rfl (ah_okp_i _) rfl ?_
        refine ro_iload (pc' := 164) dX6_spoils_162 rfl rfl ?_
        refine ro_istore (pc' := 166) (L' := [some (va_rf r0), none, some (.int x2), some (.int x5), some (.int y0), some (.int x5), some (.int x6), some (.int y0)]) dX6_spoils_164 (Nat.le_of_ble_eq_true rfl) rfl (ah_okp_i _) rfl ?_
        refine ro_iinc (pc' := 169) (L' := [some (va_rf r0), none, some (.int x2), some (.int x5), some (.int y0), some (.int (x5 + (1 : Int32))), some (.int x6), some (.int y0)]) dX6_spoils_166 rfl ic_1 (Nat.le_of_ble_eq_true rfl) rfl (ah_okp_i _) rfl ?_
        refine ro_goto (tgt := 50) dX6_spoils_169 rfl ?_
        refine ro_weak (L' := [some (va_rf r0), none, some (.int x2), some (.int x5), some (.int y0), some (.int (x5 + (1 : Int32))), none, none]) (ah_ls_s (ah_ls_s (ah_ls_s (ah_ls_s (ah_ls_s (ah_ls_s (ah_ls_n (ah_ls_n ah_ls_0)))))))) ?_
        exact hk50 _ _ _ _ _ _ h
      · replace h := ah_in_ c h
        refine ro_goto (tgt := 166) dX6_spoils_156 rfl ?_
        refine ro_iinc (pc' := 169) (L' := [some (va_rf r0), none, some (.int x2), some (.int x3), some (.int x4), some (.int (x5 + (1 : Int32))), some (.int x6), some (.int y0)]) dX6_spoils_166 rfl ic_1 (Nat.le_of_ble_eq_true rfl) rfl (ah_okp_i _) rfl ?_
        refine ro_goto (tgt := 50) dX6_spoils_169 rfl ?_
        refine ro_weak (L' := [some (va_rf r0), none, some (.int x2), some (.int x3), some (.int x4), some (.int (x5 + (1 : Int32))), none, none]) (ah_ls_s (ah_ls_s (ah_ls_s (ah_ls_s (ah_ls_s (ah_ls_s (ah_ls_n (ah_ls_n ah_ls_0)))))))) ?_
        exact hk50 _ _ _ _ _ _ h
set_option maxRecDepth 20000 in
set_option maxHeartbeats 4000000 in
theorem W_X6_spoils_65 {κ : ah_C} {rr : (Int32 × ah_S)} (hκ : ah_res κ = (.returned (some (.int rr.1)), rr.2))  {k50 : ah_S → Option Nat → Int32 → Int32 → Int32 → Int32 → Option (Int32 × ah_S)} (hk50 : ∀ (σ : ah_S) (r0 : Option Nat) (x2 : Int32) (x3 : Int32) (x4 : Int32) (x5 : Int32), k50 σ r0 x2 x3 x4 x5 = some rr → ah_G κ ("LeftAsFoundModel", "spoils", 8, (some FieldType.int), [], 8, 188) cX6_spoils σ 50 [some (va_rf r0), none, some (.int x2), some (.int x3), some (.int x4), some (.int x5), none, none] []) : ∀ (n : Nat) (σ : ah_S) (r0 : Option Nat) (x2 : Int32) (x3 : Int32) (x4 : Int32) (x5 : Int32) (x6 : Int32) (x7 : Int32), F_X6_spoils_65 k50 n σ r0 x2 x3 x4 x5 x6 x7 = some rr → ah_G κ ("LeftAsFoundModel", "spoils", 8, (some FieldType.int), [], 8, 188) cX6_spoils σ 65 [some (va_rf r0), none, some (.int x2), some (.int x3), some (.int x4), some (.int x5), some (.int x6), some (.int x7)] [] := by
  intro n
  induction n with
  | zero => intro σ r0 x2 x3 x4 x5 x6 x7 h; cases h
  | succ n ih =>
    intro σ r0 x2 x3 x4 x5 x6 x7 h
    rw [F_X6_spoils_65] at h
    refine ro_iload (pc' := 67) dX6_spoils_65 rfl rfl ?_
    refine ro_aload_n (pc' := 68) dX6_spoils_67 rfl rfl rfl ?_
    obtain ⟨v1, hv1, h⟩ := ah_bs h
    refine ro_getI (pc' := 71) ft_636 fk_636 q1344 dX6_spoils_68 rfl hv1 ?_
    refine ro_icmp_ge (pc' := 74) (tgt := 125) dX6_spoils_71 rfl rfl (fun c => ?_) (fun c => ?_)
    · replace h := ah_ip c h
      refine ro_iload (pc' := 127) dX6_spoils_125 rfl rfl ?_
      refine ro_if_eq (pc' := 130) (tgt := 137) dX6_spoils_127 rfl rfl (fun c => ?_) (fun c => ?_)
      · replace h := ah_ip c h
        refine ro_iconst (pc' := 138) dX6_spoils_137 ic_0 rfl ?_
        refine ro_weak (L' := [some (va_rf r0), none, some (.int x2), some (.int x3), some (.int x4), some (.int x5), some (.int x6), none]) (ah_ls_s (ah_ls_s (ah_ls_s (ah_ls_s (ah_ls_s (ah_ls_s (ah_ls_s (ah_ls_n ah_ls_0)))))))) ?_
        exact W_X6_spoils_138 hκ hk50 _ _ _ _ _ _ _ _ h
      · replace h := ah_in_ c h
        refine ro_aload_n (pc' := 131) dX6_spoils_130 rfl rfl rfl ?_
        obtain ⟨u2, hu2, h⟩ := ah_bs h
        obtain ⟨v3, σ4, hv3, h⟩ := ah_bs2 h
        refine ro_callV (pc' := 134) (As := []) (rest := []) (st' := [.int v3]) (by decide) hu2 q1681 sl_X6_lossOf (M_X6_lossOf hv3) q1679 q1682 q104 dd_X6_lossOf rfl ⟨Nat.le_of_ble_eq_true rfl, Nat.le_of_ble_eq_true rfl⟩ (Nat.le_of_ble_eq_true rfl) dX6_spoils_131 rfl rfl rfl ?_
        refine ro_goto (tgt := 138) dX6_spoils_134 rfl ?_
        refine ro_weak (L' := [some (va_rf r0), none, some (.int x2), some (.int x3), some (.int x4), some (.int x5), some (.int x6), none]) (ah_ls_s (ah_ls_s (ah_ls_s (ah_ls_s (ah_ls_s (ah_ls_s (ah_ls_s (ah_ls_n ah_ls_0)))))))) ?_
        exact W_X6_spoils_138 hκ hk50 _ _ _ _ _ _ _ _ h
    · replace h := ah_in_ c h
      refine ro_aload_n (pc' := 75) dX6_spoils_74 rfl rfl rfl ?_
      obtain ⟨v5, hv5, h⟩ := ah_bs h
      refine ro_getR (pc' := 78) ft_635 fk_635 q1343 dX6_spoils_75 rfl hv5 ?_
      refine ro_iload (pc' := 80) dX6_spoils_78 rfl rfl ?_
      refine ro_aload_n (pc' := 81) dX6_spoils_80 rfl rfl rfl ?_
      obtain ⟨v6, hv6, h⟩ := ah_bs h
      refine ro_getR (pc' := 84) ft_638 fk_638 q1346 dX6_spoils_81 rfl hv6 ?_
      refine ro_iload (pc' := 86) dX6_spoils_84 rfl rfl ?_
      obtain ⟨v7, hv7, h⟩ := ah_bs h
      refine ro_iaload (pc' := 87) dX6_spoils_86 rfl hv7 ?_
      refine ro_iload (pc' := 89) dX6_spoils_87 rfl rfl ?_
      refine ro_icmp_ne (pc' := 92) (tgt := 96) dX6_spoils_89 rfl rfl (fun c => ?_) (fun c => ?_)
      · replace h := ah_in_ c h
        refine ro_aload_n (pc' := 97) dX6_spoils_96 rfl rfl rfl ?_
        obtain ⟨v8, hv8, h⟩ := ah_bs h
        refine ro_getR (pc' := 100) ft_638 fk_638 q1346 dX6_spoils_97 rfl hv8 ?_
        refine ro_iload (pc' := 102) dX6_spoils_100 rfl rfl ?_
        obtain ⟨v9, hv9, h⟩ := ah_bs h
        refine ro_iaload (pc' := 103) dX6_spoils_102 rfl hv9 ?_
        exact W_X6_spoils_103 hκ ih _ _ _ _ _ _ _ _ _ _ _ h
      · replace h := ah_ip c h
        refine ro_iconst (pc' := 93) dX6_spoils_92 ic_m1 rfl ?_
        refine ro_goto (tgt := 103) dX6_spoils_93 rfl ?_
        exact W_X6_spoils_103 hκ ih _ _ _ _ _ _ _ _ _ _ _ h
set_option maxRecDepth 20000 in
set_option maxHeartbeats 4000000 in
theorem W_X6_spoils_50 {κ : ah_C} {rr : (Int32 × ah_S)} (hκ : ah_res κ = (.returned (some (.int rr.1)), rr.2))    : ∀ (n : Nat) (σ : ah_S) (r0 : Option Nat) (x2 : Int32) (x3 : Int32) (x4 : Int32) (x5 : Int32), F_X6_spoils_50 n σ r0 x2 x3 x4 x5 = some rr → ah_G κ ("LeftAsFoundModel", "spoils", 8, (some FieldType.int), [], 8, 188) cX6_spoils σ 50 [some (va_rf r0), none, some (.int x2), some (.int x3), some (.int x4), some (.int x5), none, none] [] := by
  intro n
  induction n with
  | zero => intro σ r0 x2 x3 x4 x5 h; cases h
  | succ n ih =>
    intro σ r0 x2 x3 x4 x5 h
    rw [F_X6_spoils_50] at h
    refine ro_iload (pc' := 52) dX6_spoils_50 rfl rfl ?_
    refine ro_aload_n (pc' := 53) dX6_spoils_52 rfl rfl rfl ?_
    obtain ⟨v1, hv1, h⟩ := ah_bs h
    refine ro_getI (pc' := 56) ft_603 fk_603 q1311 dX6_spoils_53 rfl hv1 ?_
    refine ro_icmp_ge (pc' := 59) (tgt := 172) dX6_spoils_56 rfl rfl (fun c => ?_) (fun c => ?_)
    · replace h := ah_ip c h
      refine ro_iload_n (pc' := 173) dX6_spoils_172 rfl rfl rfl ?_
      refine ro_if_ge (pc' := 176) (tgt := 179) dX6_spoils_173 rfl rfl (fun c => ?_) (fun c => ?_)
      · replace h := ah_ip c h
        refine ro_iload_n (pc' := 180) dX6_spoils_179 rfl rfl rfl ?_
        refine ro_if_ne (pc' := 183) (tgt := 187) dX6_spoils_180 rfl rfl (fun c => ?_) (fun c => ?_)
        · replace h := ah_in_ c h
          refine ro_iload (pc' := 189) dX6_spoils_187 rfl rfl ?_
          obtain rfl := Option.some.inj h
          exact ro_iret hκ dX6_spoils_189
        · replace h := ah_ip c h
          refine ro_iload_n (pc' := 184) dX6_spoils_183 rfl rfl rfl ?_
          refine ro_goto (tgt := 189) dX6_spoils_184 rfl ?_
          obtain rfl := Option.some.inj h
          exact ro_iret hκ dX6_spoils_189
      · replace h := ah_in_ c h
        refine ro_bipush (pc' := 178) dX6_spoils_176 ib_m2 rfl ?_
        obtain rfl := Option.some.inj h
        exact ro_iret hκ dX6_spoils_178
    · replace h := ah_in_ c h
      refine ro_iconst (pc' := 60) dX6_spoils_59 ic_0 rfl ?_
      refine ro_istore (pc' := 62) (L' := [some (va_rf r0), none, some (.int x2), some (.int x3), some (.int x4), some (.int x5), some (.int (0 : Int32)), none]) dX6_spoils_60 (Nat.le_of_ble_eq_true rfl) rfl (ah_okp_i _) rfl ?_
      refine ro_iconst (pc' := 63) dX6_spoils_62 ic_0 rfl ?_
      refine ro_istore (pc' := 65) (L' := [some (va_rf r0), none, some (.int x2), some (.int x3), some (.int x4), some (.int x5), some (.int (0 : Int32)), some (.int (0 : Int32))]) dX6_spoils_63 (Nat.le_of_ble_eq_true rfl) rfl (ah_okp_i _) rfl ?_
      exact W_X6_spoils_65 hκ ih _ _ _ _ _ _ _ _ _ h
set_option maxRecDepth 20000 in
set_option maxHeartbeats 4000000 in
theorem W_X6_spoils {κ : ah_C} {rr : (Int32 × ah_S)} (hκ : ah_res κ = (.returned (some (.int rr.1)), rr.2))  (σ : ah_S) (r0 : Option Nat) (x1 : Int32) (x2 : Int32) (h : F_X6_spoils σ r0 x1 x2 = some rr) : ah_G κ ("LeftAsFoundModel", "spoils", 8, (some FieldType.int), [], 8, 188) cX6_spoils σ 0 [some (va_rf r0), some (.int x1), some (.int x2), none, none, none, none, none] [] := by
  unfold F_X6_spoils at h
  refine ro_iload_n (pc' := 1) dX6_spoils_0 rfl rfl rfl ?_
  obtain ⟨v1, σ2, hv1, h⟩ := ah_bs2 h
  refine ro_callS (pc' := 4) (As := [.int x1]) (rest := []) (st' := [.int v1]) q1505 (M_X6_isShelf hv1) q1504 q1506 q104 dd_X6_isShelf rfl ⟨Nat.le_of_ble_eq_true rfl, Nat.le_of_ble_eq_true rfl⟩ (Nat.le_of_ble_eq_true rfl) dX6_spoils_1 rfl rfl rfl ?_
  refine ro_if_eq (pc' := 7) (tgt := 16) dX6_spoils_4 rfl rfl (fun c => ?_) (fun c => ?_)
  · replace h := ah_ip c h
    refine ro_iconst (pc' := 17) dX6_spoils_16 ic_m1 rfl ?_
    obtain rfl := Option.some.inj h
    exact ro_iret hκ dX6_spoils_17
  · replace h := ah_in_ c h
    refine ro_iload_n (pc' := 8) dX6_spoils_7 rfl rfl rfl ?_
    refine ro_iconst (pc' := 9) dX6_spoils_8 ic_0 rfl ?_
    refine ro_iconst (pc' := 10) dX6_spoils_9 ic_1 rfl ?_
    obtain ⟨v3, σ4, hv3, h⟩ := ah_bs2 h
    refine ro_callS (pc' := 13) (As := [.int x2, .int (0 : Int32), .int (1 : Int32)]) (rest := []) (st' := [.int v3]) q1494 (M_X6_in hv3) q1493 q1495 q104 dd_X6_in rfl ⟨Nat.le_of_ble_eq_true rfl, Nat.le_of_ble_eq_true rfl⟩ (Nat.le_of_ble_eq_true rfl) dX6_spoils_10 rfl rfl rfl ?_
    refine ro_if_ne (pc' := 16) (tgt := 18) dX6_spoils_13 rfl rfl (fun c => ?_) (fun c => ?_)
    · replace h := ah_in_ c h
      refine ro_aload_n (pc' := 19) dX6_spoils_18 rfl rfl rfl ?_
      refine ro_iload_n (pc' := 20) dX6_spoils_19 rfl rfl rfl ?_
      obtain ⟨u5, hu5, h⟩ := ah_bs h
      obtain ⟨v6, σ7, hv6, h⟩ := ah_bs2 h
      refine ro_callV (pc' := 23) (As := [.int x1]) (rest := []) (st' := [.int v6]) (by decide) hu5 q1626 sl_X6_rowFault (M_X6_rowFault hv6) q1624 q1627 q104 dd_X6_rowFault rfl ⟨Nat.le_of_ble_eq_true rfl, Nat.le_of_ble_eq_true rfl⟩ (Nat.le_of_ble_eq_true rfl) dX6_spoils_20 rfl rfl rfl ?_
      refine ro_if_ge (pc' := 26) (tgt := 32) dX6_spoils_23 rfl rfl (fun c => ?_) (fun c => ?_)
      · replace h := ah_ip c h
        refine ro_aload_n (pc' := 33) dX6_spoils_32 rfl rfl rfl ?_
        refine ro_iload_n (pc' := 34) dX6_spoils_33 rfl rfl rfl ?_
        obtain ⟨u8, hu8, h⟩ := ah_bs h
        obtain ⟨σ9, hσ9, h⟩ := ah_bs h
        refine ro_callV (pc' := 37) (As := [.int x1]) (rest := []) (st' := []) (by decide) hu8 q1630 sl_X6_layStays (M_X6_layStays hσ9) q1628 q1631 q104 dd_X6_layStays rfl ⟨Nat.le_of_ble_eq_true rfl, Nat.le_of_ble_eq_true rfl⟩ (Nat.le_of_ble_eq_true rfl) dX6_spoils_34 rfl rfl rfl ?_
        refine ro_aload_n (pc' := 38) dX6_spoils_37 rfl rfl rfl ?_
        obtain ⟨u10, hu10, h⟩ := ah_bs h
        obtain ⟨σ11, hσ11, h⟩ := ah_bs h
        refine ro_callV (pc' := 41) (As := []) (rest := []) (st' := []) (by decide) hu10 q1726 sl_X6_keepStays (M_X6_keepStays hσ11) q1724 q1727 q104 dd_X6_keepStays rfl ⟨Nat.le_of_ble_eq_true rfl, Nat.le_of_ble_eq_true rfl⟩ (Nat.le_of_ble_eq_true rfl) dX6_spoils_38 rfl rfl rfl ?_
        refine ro_bipush (pc' := 43) dX6_spoils_41 ib_m2 rfl ?_
        refine ro_istore_n (pc' := 44) (L' := [some (va_rf r0), some (.int x1), some (.int x2), some (.int (-2 : Int32)), none, none, none, none]) dX6_spoils_43 rfl (Nat.le_of_ble_eq_true rfl) rfl (ah_okp_i _) rfl ?_
        refine ro_iconst (pc' := 45) dX6_spoils_44 ic_0 rfl ?_
        refine ro_istore (pc' := 47) (L' := [some (va_rf r0), some (.int x1), some (.int x2), some (.int (-2 : Int32)), some (.int (0 : Int32)), none, none, none]) dX6_spoils_45 (Nat.le_of_ble_eq_true rfl) rfl (ah_okp_i _) rfl ?_
        refine ro_iconst (pc' := 48) dX6_spoils_47 ic_0 rfl ?_
        refine ro_istore (pc' := 50) (L' := [some (va_rf r0), some (.int x1), some (.int x2), some (.int (-2 : Int32)), some (.int (0 : Int32)), some (.int (0 : Int32)), none, none]) dX6_spoils_48 (Nat.le_of_ble_eq_true rfl) rfl (ah_okp_i _) rfl ?_
        refine ro_weak (L' := [some (va_rf r0), none, some (.int x2), some (.int (-2 : Int32)), some (.int (0 : Int32)), some (.int (0 : Int32)), none, none]) (ah_ls_s (ah_ls_n (ah_ls_s (ah_ls_s (ah_ls_s (ah_ls_s (ah_ls_s (ah_ls_s ah_ls_0)))))))) ?_
        exact W_X6_spoils_50 hκ _ _ _ _ _ _ _ h
      · replace h := ah_in_ c h
        refine ro_aload_n (pc' := 27) dX6_spoils_26 rfl rfl rfl ?_
        refine ro_iload_n (pc' := 28) dX6_spoils_27 rfl rfl rfl ?_
        obtain ⟨u12, hu12, h⟩ := ah_bs h
        obtain ⟨v13, σ14, hv13, h⟩ := ah_bs2 h
        refine ro_callV (pc' := 31) (As := [.int x1]) (rest := []) (st' := [.int v13]) (by decide) hu12 q1626 sl_X6_rowFault (M_X6_rowFault hv13) q1624 q1627 q104 dd_X6_rowFault rfl ⟨Nat.le_of_ble_eq_true rfl, Nat.le_of_ble_eq_true rfl⟩ (Nat.le_of_ble_eq_true rfl) dX6_spoils_28 rfl rfl rfl ?_
        obtain rfl := Option.some.inj h
        exact ro_iret hκ dX6_spoils_31
    · replace h := ah_ip c h
      refine ro_iconst (pc' := 17) dX6_spoils_16 ic_m1 rfl ?_
      obtain rfl := Option.some.inj h
      exact ro_iret hκ dX6_spoils_17
theorem M_X6_spoils {l : Launch} {D : ah_D}  {σ : ah_S} {r0 : Option Nat} {x1 : Int32} {x2 : Int32} {v : Int32} {σ1 : ah_S} (h : F_X6_spoils σ r0 x1 x2 = some (v, σ1)) : ah_Met l yX6_spoils (Cond.code yX6_spoils cX6_spoils 8 (some FieldType.int)) 8 188 D [va_rf r0, .int x1, .int x2] σ (.returned (some (.int v)), σ1) :=
  ah_ofG (own := "LeftAsFoundModel") (nm := "spoils") (L0 := [some (va_rf r0), some (.int x1), some (.int x2), none, none, none, none, none]) (by decide) rfl rfl rfl (ah_ao_1 (ah_rf_cat _) (ah_ao_1 rfl (ah_ao_1 rfl (ah_ao_n (ah_ao_n (ah_ao_n (ah_ao_n (ah_ao_n ah_ao_0)))))))) (fun κ hκ => W_X6_spoils hκ  σ r0 x1 x2 h)
set_option maxRecDepth 20000 in
set_option maxHeartbeats 4000000 in
theorem W_X6_taken {κ : ah_C} {rr : (Int32 × ah_S)} (hκ : ah_res κ = (.returned (some (.int rr.1)), rr.2))  (σ : ah_S) (r0 : Option Nat) (x1 : Int32) (x2 : Int32) (h : F_X6_taken σ r0 x1 x2 = some rr) : ah_G κ ("LeftAsFoundModel", "taken", 3, (some FieldType.int), [], 3, 66) cX6_taken σ 0 [some (va_rf r0), some (.int x1), some (.int x2)] [] := by
  unfold F_X6_taken at h
  refine ro_iload_n (pc' := 1) dX6_taken_0 rfl rfl rfl ?_
  obtain ⟨v1, σ2, hv1, h⟩ := ah_bs2 h
  refine ro_callS (pc' := 4) (As := [.int x1]) (rest := []) (st' := [.int v1]) q1505 (M_X6_isShelf hv1) q1504 q1506 q104 dd_X6_isShelf rfl ⟨Nat.le_of_ble_eq_true rfl, Nat.le_of_ble_eq_true rfl⟩ (Nat.le_of_ble_eq_true rfl) dX6_taken_1 rfl rfl rfl ?_
  refine ro_if_eq (pc' := 7) (tgt := 17) dX6_taken_4 rfl rfl (fun c => ?_) (fun c => ?_)
  · replace h := ah_ip c h
    refine ro_iconst (pc' := 18) dX6_taken_17 ic_m1 rfl ?_
    obtain rfl := Option.some.inj h
    exact ro_iret hκ dX6_taken_18
  · replace h := ah_in_ c h
    refine ro_iload_n (pc' := 8) dX6_taken_7 rfl rfl rfl ?_
    refine ro_iconst (pc' := 9) dX6_taken_8 ic_0 rfl ?_
    refine ro_bipush (pc' := 11) dX6_taken_9 ib_7 rfl ?_
    obtain ⟨v3, σ4, hv3, h⟩ := ah_bs2 h
    refine ro_callS (pc' := 14) (As := [.int x2, .int (0 : Int32), .int (7 : Int32)]) (rest := []) (st' := [.int v3]) q1494 (M_X6_in hv3) q1493 q1495 q104 dd_X6_in rfl ⟨Nat.le_of_ble_eq_true rfl, Nat.le_of_ble_eq_true rfl⟩ (Nat.le_of_ble_eq_true rfl) dX6_taken_11 rfl rfl rfl ?_
    refine ro_if_ne (pc' := 17) (tgt := 19) dX6_taken_14 rfl rfl (fun c => ?_) (fun c => ?_)
    · replace h := ah_in_ c h
      refine ro_aload_n (pc' := 20) dX6_taken_19 rfl rfl rfl ?_
      obtain ⟨v5, hv5, h⟩ := ah_bs h
      refine ro_getR (pc' := 23) ft_656 fk_656 q1364 dX6_taken_20 rfl hv5 ?_
      refine ro_iload_n (pc' := 24) dX6_taken_23 rfl rfl rfl ?_
      obtain ⟨v6, hv6, h⟩ := ah_bs h
      refine ro_iaload (pc' := 25) dX6_taken_24 rfl hv6 ?_
      refine ro_iconst (pc' := 26) dX6_taken_25 ic_m1 rfl ?_
      refine ro_icmp_ne (pc' := 29) (tgt := 32) dX6_taken_26 rfl rfl (fun c => ?_) (fun c => ?_)
      · replace h := ah_in_ c h
        refine ro_aload_n (pc' := 33) dX6_taken_32 rfl rfl rfl ?_
        obtain ⟨v7, hv7, h⟩ := ah_bs h
        refine ro_getR (pc' := 36) ft_656 fk_656 q1364 dX6_taken_33 rfl hv7 ?_
        refine ro_iload_n (pc' := 37) dX6_taken_36 rfl rfl rfl ?_
        obtain ⟨v8, hv8, h⟩ := ah_bs h
        refine ro_iaload (pc' := 38) dX6_taken_37 rfl hv8 ?_
        refine ro_if_lt (pc' := 41) (tgt := 73) dX6_taken_38 rfl rfl (fun c => ?_) (fun c => ?_)
        · replace h := ah_ip c h
          refine ro_bipush (pc' := 75) dX6_taken_73 ib_m12 rfl ?_
          obtain rfl := Option.some.inj h
          exact ro_iret hκ dX6_taken_75
        · replace h := ah_in_ c h
          refine ro_aload_n (pc' := 42) dX6_taken_41 rfl rfl rfl ?_
          obtain ⟨v9, hv9, h⟩ := ah_bs h
          refine ro_getR (pc' := 45) ft_653 fk_653 q1361 dX6_taken_42 rfl hv9 ?_
          refine ro_aload_n (pc' := 46) dX6_taken_45 rfl rfl rfl ?_
          obtain ⟨v10, hv10, h⟩ := ah_bs h
          refine ro_getR (pc' := 49) ft_656 fk_656 q1364 dX6_taken_46 rfl hv10 ?_
          refine ro_iload_n (pc' := 50) dX6_taken_49 rfl rfl rfl ?_
          obtain ⟨v11, hv11, h⟩ := ah_bs h
          refine ro_iaload (pc' := 51) dX6_taken_50 rfl hv11 ?_
          obtain ⟨v12, hv12, h⟩ := ah_bs h
          refine ro_iaload (pc' := 52) dX6_taken_51 rfl hv12 ?_
          refine ro_iload_n (pc' := 53) dX6_taken_52 rfl rfl rfl ?_
          obtain ⟨v13, σ14, hv13, h⟩ := ah_bs2 h
          refine ro_callS (pc' := 56) (As := [.int v12, .int x2]) (rest := []) (st' := [.int v13]) q1823 (M_X6_isUnder hv13) q1822 q1824 q104 dd_X6_isUnder rfl ⟨Nat.le_of_ble_eq_true rfl, Nat.le_of_ble_eq_true rfl⟩ (Nat.le_of_ble_eq_true rfl) dX6_taken_53 rfl rfl rfl ?_
          refine ro_if_eq (pc' := 59) (tgt := 73) dX6_taken_56 rfl rfl (fun c => ?_) (fun c => ?_)
          · replace h := ah_ip c h
            refine ro_bipush (pc' := 75) dX6_taken_73 ib_m12 rfl ?_
            obtain rfl := Option.some.inj h
            exact ro_iret hκ dX6_taken_75
          · replace h := ah_in_ c h
            refine ro_aload_n (pc' := 60) dX6_taken_59 rfl rfl rfl ?_
            obtain ⟨v15, hv15, h⟩ := ah_bs h
            refine ro_getR (pc' := 63) ft_653 fk_653 q1361 dX6_taken_60 rfl hv15 ?_
            refine ro_aload_n (pc' := 64) dX6_taken_63 rfl rfl rfl ?_
            obtain ⟨v16, hv16, h⟩ := ah_bs h
            refine ro_getR (pc' := 67) ft_656 fk_656 q1364 dX6_taken_64 rfl hv16 ?_
            refine ro_iload_n (pc' := 68) dX6_taken_67 rfl rfl rfl ?_
            obtain ⟨v17, hv17, h⟩ := ah_bs h
            refine ro_iaload (pc' := 69) dX6_taken_68 rfl hv17 ?_
            obtain ⟨v18, hv18, h⟩ := ah_bs h
            refine ro_iaload (pc' := 70) dX6_taken_69 rfl hv18 ?_
            refine ro_goto (tgt := 75) dX6_taken_70 rfl ?_
            obtain rfl := Option.some.inj h
            exact ro_iret hκ dX6_taken_75
      · replace h := ah_ip c h
        refine ro_bipush (pc' := 31) dX6_taken_29 ib_m11 rfl ?_
        obtain rfl := Option.some.inj h
        exact ro_iret hκ dX6_taken_31
    · replace h := ah_ip c h
      refine ro_iconst (pc' := 18) dX6_taken_17 ic_m1 rfl ?_
      obtain rfl := Option.some.inj h
      exact ro_iret hκ dX6_taken_18
theorem M_X6_taken {l : Launch} {D : ah_D}  {σ : ah_S} {r0 : Option Nat} {x1 : Int32} {x2 : Int32} {v : Int32} {σ1 : ah_S} (h : F_X6_taken σ r0 x1 x2 = some (v, σ1)) : ah_Met l yX6_taken (Cond.code yX6_taken cX6_taken 3 (some FieldType.int)) 3 66 D [va_rf r0, .int x1, .int x2] σ (.returned (some (.int v)), σ1) :=
  ah_ofG (own := "LeftAsFoundModel") (nm := "taken") (L0 := [some (va_rf r0), some (.int x1), some (.int x2)]) (by decide) rfl rfl rfl (ah_ao_1 (ah_rf_cat _) (ah_ao_1 rfl (ah_ao_1 rfl ah_ao_0))) (fun κ hκ => W_X6_taken hκ  σ r0 x1 x2 h)
set_option maxRecDepth 20000 in
set_option maxHeartbeats 4000000 in
theorem W_X6_tin_93 {κ : ah_C} {rr : (Int64 × ah_S)} (hκ : ah_res κ = (.returned (some (.long rr.1)), rr.2))  {k42 : ah_S → Option Nat → Int32 → Int32 → Int32 → Option (Int64 × ah_S)} (hk42 : ∀ (σ : ah_S) (r0 : Option Nat) (x2 : Int32) (x3 : Int32) (x4 : Int32), k42 σ r0 x2 x3 x4 = some rr → ah_G κ ("LeftAsFoundModel", "tin", 6, (some FieldType.long), [], 7, 166) cX6_tin σ 42 [some (va_rf r0), none, some (.int x2), some (.int x3), some (.int x4), none] []) : ∀ (n : Nat) (σ : ah_S) (r0 : Option Nat) (x2 : Int32) (x3 : Int32) (x4 : Int32) (x5 : Int32), F_X6_tin_93 k42 n σ r0 x2 x3 x4 x5 = some rr → ah_G κ ("LeftAsFoundModel", "tin", 6, (some FieldType.long), [], 7, 166) cX6_tin σ 93 [some (va_rf r0), none, some (.int x2), some (.int x3), some (.int x4), some (.int x5)] [] := by
  intro n
  induction n with
  | zero => intro σ r0 x2 x3 x4 x5 h; cases h
  | succ n ih =>
    intro σ r0 x2 x3 x4 x5 h
    rw [F_X6_tin_93] at h
    refine ro_iload (pc' := 95) dX6_tin_93 rfl rfl ?_
    refine ro_iconst (pc' := 96) dX6_tin_95 ic_4 rfl ?_
    refine ro_icmp_ge (pc' := 99) (tgt := 146) dX6_tin_96 rfl rfl (fun c => ?_) (fun c => ?_)
    · replace h := ah_ip c h
      refine ro_iinc (pc' := 149) (L' := [some (va_rf r0), none, some (.int x2), some (.int x3), some (.int (x4 + (1 : Int32))), some (.int x5)]) dX6_tin_146 rfl ic_1 (Nat.le_of_ble_eq_true rfl) rfl (ah_okp_i _) rfl ?_
      refine ro_goto (tgt := 42) dX6_tin_149 rfl ?_
      refine ro_weak (L' := [some (va_rf r0), none, some (.int x2), some (.int x3), some (.int (x4 + (1 : Int32))), none]) (ah_ls_s (ah_ls_s (ah_ls_s (ah_ls_s (ah_ls_s (ah_ls_n ah_ls_0)))))) ?_
      exact hk42 _ _ _ _ _ h
    · replace h := ah_in_ c h
      refine ro_aload_n (pc' := 100) dX6_tin_99 rfl rfl rfl ?_
      refine ro_iload (pc' := 102) dX6_tin_100 rfl rfl ?_
      obtain ⟨u1, hu1, h⟩ := ah_bs h
      obtain ⟨v2, σ3, hv2, h⟩ := ah_bs2 h
      refine ro_callV (pc' := 105) (As := [.int x5]) (rest := []) (st' := [.int v2]) (by decide) hu1 q1689 sl_X6_lacksOf (M_X6_lacksOf hv2) q1687 q1690 q104 dd_X6_lacksOf rfl ⟨Nat.le_of_ble_eq_true rfl, Nat.le_of_ble_eq_true rfl⟩ (Nat.le_of_ble_eq_true rfl) dX6_tin_102 rfl rfl rfl ?_
      refine ro_aload_n (pc' := 106) dX6_tin_105 rfl rfl rfl ?_
      obtain ⟨v4, hv4, h⟩ := ah_bs h
      refine ro_getR (pc' := 109) ft_642 fk_642 q1350 dX6_tin_106 rfl hv4 ?_
      refine ro_iload (pc' := 111) dX6_tin_109 rfl rfl ?_
      obtain ⟨v5, hv5, h⟩ := ah_bs h
      refine ro_iaload (pc' := 112) dX6_tin_111 rfl hv5 ?_
      refine ro_icmp_le (pc' := 115) (tgt := 140) dX6_tin_112 rfl rfl (fun c => ?_) (fun c => ?_)
      · replace h := ah_ip c h
        refine ro_iinc (pc' := 143) (L' := [some (va_rf r0), none, some (.int x2), some (.int x3), some (.int x4), some (.int (x5 + (1 : Int32)))]) dX6_tin_140 rfl ic_1 (Nat.le_of_ble_eq_true rfl) rfl (ah_okp_i _) rfl ?_
        refine ro_goto (tgt := 93) dX6_tin_143 rfl ?_
        exact ih _ _ _ _ _ _ h
      · replace h := ah_in_ c h
        refine ro_iload_n (pc' := 116) dX6_tin_115 rfl rfl rfl ?_
        refine ro_aload_n (pc' := 117) dX6_tin_116 rfl rfl rfl ?_
        refine ro_iload (pc' := 119) dX6_tin_117 rfl rfl ?_
        obtain ⟨u6, hu6, h⟩ := ah_bs h
        obtain ⟨v7, σ8, hv7, h⟩ := ah_bs2 h
        refine ro_callV (pc' := 122) (As := [.int x5]) (rest := [.int x3]) (st' := [.int v7, .int x3]) (by decide) hu6 q1689 sl_X6_lacksOf (M_X6_lacksOf hv7) q1687 q1690 q104 dd_X6_lacksOf rfl ⟨Nat.le_of_ble_eq_true rfl, Nat.le_of_ble_eq_true rfl⟩ (Nat.le_of_ble_eq_true rfl) dX6_tin_119 rfl rfl rfl ?_
        refine ro_aload_n (pc' := 123) dX6_tin_122 rfl rfl rfl ?_
        obtain ⟨v9, hv9, h⟩ := ah_bs h
        refine ro_getR (pc' := 126) ft_642 fk_642 q1350 dX6_tin_123 rfl hv9 ?_
        refine ro_iload (pc' := 128) dX6_tin_126 rfl rfl ?_
        obtain ⟨v10, hv10, h⟩ := ah_bs h
        refine ro_iaload (pc' := 129) dX6_tin_128 rfl hv10 ?_
        refine ro_isub (pc' := 130) dX6_tin_129 rfl ?_
        refine ro_aload_n (pc' := 131) dX6_tin_130 rfl rfl rfl ?_
        obtain ⟨v11, hv11, h⟩ := ah_bs h
        refine ro_getR (pc' := 134) ft_602 fk_602 q1310 dX6_tin_131 rfl hv11 ?_
        refine ro_iload (pc' := 136) dX6_tin_134 rfl rfl ?_
        obtain ⟨v12, hv12, h⟩ := ah_bs h
        refine ro_iaload (pc' := 137) dX6_tin_136 rfl hv12 ?_
        refine ro_imul (pc' := 138) dX6_tin_137 rfl ?_
        refine ro_iadd (pc' := 139) dX6_tin_138 rfl ?_
        refine ro_istore_n (pc' := 140) (L' := [some (va_rf r0), none, some (.int x2), some (.int (x3 + ((v7 - v10) * v12))), some (.int x4), some (.int x5)]) dX6_tin_139 rfl (Nat.le_of_ble_eq_true rfl) rfl (ah_okp_i _) rfl ?_
        refine ro_iinc (pc' := 143) (L' := [some (va_rf r0), none, some (.int x2), some (.int (x3 + ((v7 - v10) * v12))), some (.int x4), some (.int (x5 + (1 : Int32)))]) dX6_tin_140 rfl ic_1 (Nat.le_of_ble_eq_true rfl) rfl (ah_okp_i _) rfl ?_
        refine ro_goto (tgt := 93) dX6_tin_143 rfl ?_
        exact ih _ _ _ _ _ _ h
set_option maxRecDepth 20000 in
set_option maxHeartbeats 4000000 in
theorem W_X6_tin_54 {κ : ah_C} {rr : (Int64 × ah_S)} (hκ : ah_res κ = (.returned (some (.long rr.1)), rr.2))  {k42 : ah_S → Option Nat → Int32 → Int32 → Int32 → Option (Int64 × ah_S)} (hk42 : ∀ (σ : ah_S) (r0 : Option Nat) (x2 : Int32) (x3 : Int32) (x4 : Int32), k42 σ r0 x2 x3 x4 = some rr → ah_G κ ("LeftAsFoundModel", "tin", 6, (some FieldType.long), [], 7, 166) cX6_tin σ 42 [some (va_rf r0), none, some (.int x2), some (.int x3), some (.int x4), none] []) : ∀ (n : Nat) (σ : ah_S) (r0 : Option Nat) (x2 : Int32) (x3 : Int32) (x4 : Int32) (x5 : Int32), F_X6_tin_54 k42 n σ r0 x2 x3 x4 x5 = some rr → ah_G κ ("LeftAsFoundModel", "tin", 6, (some FieldType.long), [], 7, 166) cX6_tin σ 54 [some (va_rf r0), none, some (.int x2), some (.int x3), some (.int x4), some (.int x5)] [] := by
  intro n
  induction n with
  | zero => intro σ r0 x2 x3 x4 x5 h; cases h
  | succ n ih =>
    intro σ r0 x2 x3 x4 x5 h
    rw [F_X6_tin_54] at h
    refine ro_iload (pc' := 56) dX6_tin_54 rfl rfl ?_
    refine ro_iconst (pc' := 57) dX6_tin_56 ic_4 rfl ?_
    refine ro_icmp_ge (pc' := 60) (tgt := 79) dX6_tin_57 rfl rfl (fun c => ?_) (fun c => ?_)
    · replace h := ah_ip c h
      refine ro_aload_n (pc' := 80) dX6_tin_79 rfl rfl rfl ?_
      refine ro_aload_n (pc' := 81) dX6_tin_80 rfl rfl rfl ?_
      obtain ⟨v1, hv1, h⟩ := ah_bs h
      refine ro_getR (pc' := 84) ft_635 fk_635 q1343 dX6_tin_81 rfl hv1 ?_
      refine ro_iload (pc' := 86) dX6_tin_84 rfl rfl ?_
      obtain ⟨v2, hv2, h⟩ := ah_bs h
      refine ro_iaload (pc' := 87) dX6_tin_86 rfl hv2 ?_
      obtain ⟨u3, hu3, h⟩ := ah_bs h
      obtain ⟨σ4, hσ4, h⟩ := ah_bs h
      refine ro_callV (pc' := 90) (As := [.int v2]) (rest := []) (st' := []) (by decide) hu3 q1638 sl_X6_goNight (M_X6_goNight hσ4) q1636 q1639 q104 dd_X6_goNight rfl ⟨Nat.le_of_ble_eq_true rfl, Nat.le_of_ble_eq_true rfl⟩ (Nat.le_of_ble_eq_true rfl) dX6_tin_87 rfl rfl rfl ?_
      refine ro_iconst (pc' := 91) dX6_tin_90 ic_0 rfl ?_
      refine ro_istore (pc' := 93) (L' := [some (va_rf r0), none, some (.int x2), some (.int x3), some (.int x4), some (.int (0 : Int32))]) dX6_tin_91 (Nat.le_of_ble_eq_true rfl) rfl (ah_okp_i _) rfl ?_
      exact W_X6_tin_93 hκ hk42 _ _ _ _ _ _ _ h
    · replace h := ah_in_ c h
      refine ro_aload_n (pc' := 61) dX6_tin_60 rfl rfl rfl ?_
      obtain ⟨v5, hv5, h⟩ := ah_bs h
      refine ro_getR (pc' := 64) ft_642 fk_642 q1350 dX6_tin_61 rfl hv5 ?_
      refine ro_iload (pc' := 66) dX6_tin_64 rfl rfl ?_
      refine ro_aload_n (pc' := 67) dX6_tin_66 rfl rfl rfl ?_
      refine ro_iload (pc' := 69) dX6_tin_67 rfl rfl ?_
      obtain ⟨u6, hu6, h⟩ := ah_bs h
      obtain ⟨v7, σ8, hv7, h⟩ := ah_bs2 h
      refine ro_callV (pc' := 72) (As := [.int x5]) (rest := [.int x5, va_rf v5]) (st' := [.int v7, .int x5, va_rf v5]) (by decide) hu6 q1689 sl_X6_lacksOf (M_X6_lacksOf hv7) q1687 q1690 q104 dd_X6_lacksOf rfl ⟨Nat.le_of_ble_eq_true rfl, Nat.le_of_ble_eq_true rfl⟩ (by simp only [List.map_cons, List.map_nil, List.sum_cons, List.sum_nil, ah_rf_cat, ah_cat_i, ah_cat_l]; decide) dX6_tin_69 rfl rfl rfl ?_
      obtain ⟨σ9, hσ9, h⟩ := ah_bs h
      refine ro_iastore (pc' := 73) dX6_tin_72 rfl hσ9 ?_
      refine ro_iinc (pc' := 76) (L' := [some (va_rf r0), none, some (.int x2), some (.int x3), some (.int x4), some (.int (x5 + (1 : Int32)))]) dX6_tin_73 rfl ic_1 (Nat.le_of_ble_eq_true rfl) rfl (ah_okp_i _) rfl ?_
      refine ro_goto (tgt := 54) dX6_tin_76 rfl ?_
      exact ih _ _ _ _ _ _ h
set_option maxRecDepth 20000 in
set_option maxHeartbeats 4000000 in
theorem W_X6_tin_42 {κ : ah_C} {rr : (Int64 × ah_S)} (hκ : ah_res κ = (.returned (some (.long rr.1)), rr.2))    : ∀ (n : Nat) (σ : ah_S) (r0 : Option Nat) (x2 : Int32) (x3 : Int32) (x4 : Int32), F_X6_tin_42 n σ r0 x2 x3 x4 = some rr → ah_G κ ("LeftAsFoundModel", "tin", 6, (some FieldType.long), [], 7, 166) cX6_tin σ 42 [some (va_rf r0), none, some (.int x2), some (.int x3), some (.int x4), none] [] := by
  intro n
  induction n with
  | zero => intro σ r0 x2 x3 x4 h; cases h
  | succ n ih =>
    intro σ r0 x2 x3 x4 h
    rw [F_X6_tin_42] at h
    refine ro_iload (pc' := 44) dX6_tin_42 rfl rfl ?_
    refine ro_aload_n (pc' := 45) dX6_tin_44 rfl rfl rfl ?_
    obtain ⟨v1, hv1, h⟩ := ah_bs h
    refine ro_getI (pc' := 48) ft_636 fk_636 q1344 dX6_tin_45 rfl hv1 ?_
    refine ro_icmp_ge (pc' := 51) (tgt := 152) dX6_tin_48 rfl rfl (fun c => ?_) (fun c => ?_)
    · replace h := ah_ip c h
      refine ro_aload_n (pc' := 153) dX6_tin_152 rfl rfl rfl ?_
      obtain ⟨u2, hu2, h⟩ := ah_bs h
      obtain ⟨σ3, hσ3, h⟩ := ah_bs h
      refine ro_callV (pc' := 156) (As := []) (rest := []) (st' := []) (by decide) hu2 q1665 sl_X6_layHut (M_X6_layHut hσ3) q1663 q1666 q104 dd_X6_layHut rfl ⟨Nat.le_of_ble_eq_true rfl, Nat.le_of_ble_eq_true rfl⟩ (Nat.le_of_ble_eq_true rfl) dX6_tin_153 rfl rfl rfl ?_
      refine ro_iload_n (pc' := 157) dX6_tin_156 rfl rfl rfl ?_
      refine ro_i2l (pc' := 158) dX6_tin_157 rfl ?_
      refine ro_aload_n (pc' := 159) dX6_tin_158 rfl rfl rfl ?_
      obtain ⟨v4, hv4, h⟩ := ah_bs h
      refine ro_getI (pc' := 162) ft_610 fk_610 q1318 dX6_tin_159 rfl hv4 ?_
      refine ro_i2l (pc' := 163) dX6_tin_162 rfl ?_
      refine ro_lmul (pc' := 164) dX6_tin_163 rfl ?_
      refine ro_ldc2 (pc' := 167) q1741 dX6_tin_164 rfl ?_
      refine ro_iload_n (pc' := 168) dX6_tin_167 rfl rfl rfl ?_
      obtain ⟨v5, σ6, hv5, h⟩ := ah_bs2 h
      refine ro_callS (pc' := 171) (As := [.long ((x3.toInt64) * (v4.toInt64)), .long (12 : Int64), .int x2]) (rest := []) (st' := [.long v5]) q1743 (M_X6_asPart hv5) q1742 q1744 q104 dd_X6_asPart rfl ⟨Nat.le_of_ble_eq_true rfl, Nat.le_of_ble_eq_true rfl⟩ (Nat.le_of_ble_eq_true rfl) dX6_tin_168 rfl rfl rfl ?_
      obtain rfl := Option.some.inj h
      exact ro_lret hκ dX6_tin_171
    · replace h := ah_in_ c h
      refine ro_iconst (pc' := 52) dX6_tin_51 ic_0 rfl ?_
      refine ro_istore (pc' := 54) (L' := [some (va_rf r0), none, some (.int x2), some (.int x3), some (.int x4), some (.int (0 : Int32))]) dX6_tin_52 (Nat.le_of_ble_eq_true rfl) rfl (ah_okp_i _) rfl ?_
      exact W_X6_tin_54 hκ ih _ _ _ _ _ _ _ h
set_option maxRecDepth 20000 in
set_option maxHeartbeats 4000000 in
theorem W_X6_tin {κ : ah_C} {rr : (Int64 × ah_S)} (hκ : ah_res κ = (.returned (some (.long rr.1)), rr.2))  (σ : ah_S) (r0 : Option Nat) (x1 : Int32) (x2 : Int32) (h : F_X6_tin σ r0 x1 x2 = some rr) : ah_G κ ("LeftAsFoundModel", "tin", 6, (some FieldType.long), [], 7, 166) cX6_tin σ 0 [some (va_rf r0), some (.int x1), some (.int x2), none, none, none] [] := by
  unfold F_X6_tin at h
  refine ro_iload_n (pc' := 1) dX6_tin_0 rfl rfl rfl ?_
  obtain ⟨v1, σ2, hv1, h⟩ := ah_bs2 h
  refine ro_callS (pc' := 4) (As := [.int x1]) (rest := []) (st' := [.int v1]) q1505 (M_X6_isShelf hv1) q1504 q1506 q104 dd_X6_isShelf rfl ⟨Nat.le_of_ble_eq_true rfl, Nat.le_of_ble_eq_true rfl⟩ (Nat.le_of_ble_eq_true rfl) dX6_tin_1 rfl rfl rfl ?_
  refine ro_if_eq (pc' := 7) (tgt := 24) dX6_tin_4 rfl rfl (fun c => ?_) (fun c => ?_)
  · replace h := ah_ip c h
    refine ro_ldc2 (pc' := 27) q1740 dX6_tin_24 rfl ?_
    obtain rfl := Option.some.inj h
    exact ro_lret hκ dX6_tin_27
  · replace h := ah_in_ c h
    refine ro_iload_n (pc' := 8) dX6_tin_7 rfl rfl rfl ?_
    refine ro_iconst (pc' := 9) dX6_tin_8 ic_0 rfl ?_
    refine ro_iconst (pc' := 10) dX6_tin_9 ic_1 rfl ?_
    obtain ⟨v3, σ4, hv3, h⟩ := ah_bs2 h
    refine ro_callS (pc' := 13) (As := [.int x2, .int (0 : Int32), .int (1 : Int32)]) (rest := []) (st' := [.int v3]) q1494 (M_X6_in hv3) q1493 q1495 q104 dd_X6_in rfl ⟨Nat.le_of_ble_eq_true rfl, Nat.le_of_ble_eq_true rfl⟩ (Nat.le_of_ble_eq_true rfl) dX6_tin_10 rfl rfl rfl ?_
    refine ro_if_eq (pc' := 16) (tgt := 24) dX6_tin_13 rfl rfl (fun c => ?_) (fun c => ?_)
    · replace h := ah_ip c h
      refine ro_ldc2 (pc' := 27) q1740 dX6_tin_24 rfl ?_
      obtain rfl := Option.some.inj h
      exact ro_lret hκ dX6_tin_27
    · replace h := ah_in_ c h
      refine ro_aload_n (pc' := 17) dX6_tin_16 rfl rfl rfl ?_
      refine ro_iload_n (pc' := 18) dX6_tin_17 rfl rfl rfl ?_
      obtain ⟨u5, hu5, h⟩ := ah_bs h
      obtain ⟨v6, σ7, hv6, h⟩ := ah_bs2 h
      refine ro_callV (pc' := 21) (As := [.int x1]) (rest := []) (st' := [.int v6]) (by decide) hu5 q1626 sl_X6_rowFault (M_X6_rowFault hv6) q1624 q1627 q104 dd_X6_rowFault rfl ⟨Nat.le_of_ble_eq_true rfl, Nat.le_of_ble_eq_true rfl⟩ (Nat.le_of_ble_eq_true rfl) dX6_tin_18 rfl rfl rfl ?_
      refine ro_if_ge (pc' := 24) (tgt := 28) dX6_tin_21 rfl rfl (fun c => ?_) (fun c => ?_)
      · replace h := ah_ip c h
        refine ro_aload_n (pc' := 29) dX6_tin_28 rfl rfl rfl ?_
        refine ro_iload_n (pc' := 30) dX6_tin_29 rfl rfl rfl ?_
        obtain ⟨u8, hu8, h⟩ := ah_bs h
        obtain ⟨σ9, hσ9, h⟩ := ah_bs h
        refine ro_callV (pc' := 33) (As := [.int x1]) (rest := []) (st' := []) (by decide) hu8 q1630 sl_X6_layStays (M_X6_layStays hσ9) q1628 q1631 q104 dd_X6_layStays rfl ⟨Nat.le_of_ble_eq_true rfl, Nat.le_of_ble_eq_true rfl⟩ (Nat.le_of_ble_eq_true rfl) dX6_tin_30 rfl rfl rfl ?_
        refine ro_aload_n (pc' := 34) dX6_tin_33 rfl rfl rfl ?_
        obtain ⟨u10, hu10, h⟩ := ah_bs h
        obtain ⟨σ11, hσ11, h⟩ := ah_bs h
        refine ro_callV (pc' := 37) (As := []) (rest := []) (st' := []) (by decide) hu10 q1634 sl_X6_keepHut (M_X6_keepHut hσ11) q1632 q1635 q104 dd_X6_keepHut rfl ⟨Nat.le_of_ble_eq_true rfl, Nat.le_of_ble_eq_true rfl⟩ (Nat.le_of_ble_eq_true rfl) dX6_tin_34 rfl rfl rfl ?_
        refine ro_iconst (pc' := 38) dX6_tin_37 ic_0 rfl ?_
        refine ro_istore_n (pc' := 39) (L' := [some (va_rf r0), some (.int x1), some (.int x2), some (.int (0 : Int32)), none, none]) dX6_tin_38 rfl (Nat.le_of_ble_eq_true rfl) rfl (ah_okp_i _) rfl ?_
        refine ro_iconst (pc' := 40) dX6_tin_39 ic_0 rfl ?_
        refine ro_istore (pc' := 42) (L' := [some (va_rf r0), some (.int x1), some (.int x2), some (.int (0 : Int32)), some (.int (0 : Int32)), none]) dX6_tin_40 (Nat.le_of_ble_eq_true rfl) rfl (ah_okp_i _) rfl ?_
        refine ro_weak (L' := [some (va_rf r0), none, some (.int x2), some (.int (0 : Int32)), some (.int (0 : Int32)), none]) (ah_ls_s (ah_ls_n (ah_ls_s (ah_ls_s (ah_ls_s (ah_ls_s ah_ls_0)))))) ?_
        exact W_X6_tin_42 hκ _ _ _ _ _ _ h
      · replace h := ah_in_ c h
        refine ro_ldc2 (pc' := 27) q1740 dX6_tin_24 rfl ?_
        obtain rfl := Option.some.inj h
        exact ro_lret hκ dX6_tin_27
theorem M_X6_tin {l : Launch} {D : ah_D}  {σ : ah_S} {r0 : Option Nat} {x1 : Int32} {x2 : Int32} {v : Int64} {σ1 : ah_S} (h : F_X6_tin σ r0 x1 x2 = some (v, σ1)) : ah_Met l yX6_tin (Cond.code yX6_tin cX6_tin 6 (some FieldType.long)) 7 166 D [va_rf r0, .int x1, .int x2] σ (.returned (some (.long v)), σ1) :=
  ah_ofG (own := "LeftAsFoundModel") (nm := "tin") (L0 := [some (va_rf r0), some (.int x1), some (.int x2), none, none, none]) (by decide) rfl rfl rfl (ah_ao_1 (ah_rf_cat _) (ah_ao_1 rfl (ah_ao_1 rfl (ah_ao_n (ah_ao_n (ah_ao_n ah_ao_0)))))) (fun κ hκ => W_X6_tin hκ  σ r0 x1 x2 h)
set_option maxRecDepth 20000 in
set_option maxHeartbeats 4000000 in
theorem W_X6_trace {κ : ah_C} {rr : (Int32 × ah_S)} (hκ : ah_res κ = (.returned (some (.int rr.1)), rr.2))  (σ : ah_S) (r0 : Option Nat) (x1 : Int32) (h : F_X6_trace σ r0 x1 = some rr) : ah_G κ ("LeftAsFoundModel", "trace", 2, (some FieldType.int), [], 1, 24) cX6_trace σ 0 [some (va_rf r0), some (.int x1)] [] := by
  unfold F_X6_trace at h
  refine ro_iload_n (pc' := 1) dX6_trace_0 rfl rfl rfl ?_
  refine ro_if_lt (pc' := 4) (tgt := 27) dX6_trace_1 rfl rfl (fun c => ?_) (fun c => ?_)
  · replace h := ah_ip c h
    refine ro_iconst (pc' := 28) dX6_trace_27 ic_m1 rfl ?_
    obtain rfl := Option.some.inj h
    exact ro_iret hκ dX6_trace_28
  · replace h := ah_in_ c h
    refine ro_iload_n (pc' := 5) dX6_trace_4 rfl rfl rfl ?_
    refine ro_aload_n (pc' := 6) dX6_trace_5 rfl rfl rfl ?_
    obtain ⟨v1, hv1, h⟩ := ah_bs h
    refine ro_getI (pc' := 9) ft_654 fk_654 q1362 dX6_trace_6 rfl hv1 ?_
    refine ro_icmp_ge (pc' := 12) (tgt := 27) dX6_trace_9 rfl rfl (fun c => ?_) (fun c => ?_)
    · replace h := ah_ip c h
      refine ro_iconst (pc' := 28) dX6_trace_27 ic_m1 rfl ?_
      obtain rfl := Option.some.inj h
      exact ro_iret hκ dX6_trace_28
    · replace h := ah_in_ c h
      refine ro_iload_n (pc' := 13) dX6_trace_12 rfl rfl rfl ?_
      refine ro_bipush (pc' := 15) dX6_trace_13 ib_24 rfl ?_
      refine ro_icmp_ge (pc' := 18) (tgt := 27) dX6_trace_15 rfl rfl (fun c => ?_) (fun c => ?_)
      · replace h := ah_ip c h
        refine ro_iconst (pc' := 28) dX6_trace_27 ic_m1 rfl ?_
        obtain rfl := Option.some.inj h
        exact ro_iret hκ dX6_trace_28
      · replace h := ah_in_ c h
        refine ro_aload_n (pc' := 19) dX6_trace_18 rfl rfl rfl ?_
        obtain ⟨v2, hv2, h⟩ := ah_bs h
        refine ro_getR (pc' := 22) ft_655 fk_655 q1363 dX6_trace_19 rfl hv2 ?_
        refine ro_iload_n (pc' := 23) dX6_trace_22 rfl rfl rfl ?_
        obtain ⟨v3, hv3, h⟩ := ah_bs h
        refine ro_iaload (pc' := 24) dX6_trace_23 rfl hv3 ?_
        refine ro_goto (tgt := 28) dX6_trace_24 rfl ?_
        obtain rfl := Option.some.inj h
        exact ro_iret hκ dX6_trace_28
theorem M_X6_trace {l : Launch} {D : ah_D}  {σ : ah_S} {r0 : Option Nat} {x1 : Int32} {v : Int32} {σ1 : ah_S} (h : F_X6_trace σ r0 x1 = some (v, σ1)) : ah_Met l yX6_trace (Cond.code yX6_trace cX6_trace 2 (some FieldType.int)) 1 24 D [va_rf r0, .int x1] σ (.returned (some (.int v)), σ1) :=
  ah_ofG (own := "LeftAsFoundModel") (nm := "trace") (L0 := [some (va_rf r0), some (.int x1)]) (by decide) rfl rfl rfl (ah_ao_1 (ah_rf_cat _) (ah_ao_1 rfl ah_ao_0)) (fun κ hκ => W_X6_trace hκ  σ r0 x1 h)
set_option maxRecDepth 20000 in
set_option maxHeartbeats 4000000 in
theorem W_X6_undo {κ : ah_C} {rr : (Int32 × ah_S)} (hκ : ah_res κ = (.returned (some (.int rr.1)), rr.2))  (σ : ah_S) (r0 : Option Nat) (h : F_X6_undo σ r0 = some rr) : ah_G κ ("LeftAsFoundModel", "undo", 1, (some FieldType.int), [], 3, 67) cX6_undo σ 0 [some (va_rf r0)] [] := by
  unfold F_X6_undo at h
  refine ro_aload_n (pc' := 1) dX6_undo_0 rfl rfl rfl ?_
  obtain ⟨v1, hv1, h⟩ := ah_bs h
  refine ro_getI (pc' := 4) ft_612 fk_612 q1320 dX6_undo_1 rfl hv1 ?_
  refine ro_if_ne (pc' := 7) (tgt := 10) dX6_undo_4 rfl rfl (fun c => ?_) (fun c => ?_)
  · replace h := ah_in_ c h
    refine ro_aload_n (pc' := 11) dX6_undo_10 rfl rfl rfl ?_
    refine ro_dup (pc' := 12) dX6_undo_11 (ah_rf_cat _) rfl ?_
    obtain ⟨v2, hv2, h⟩ := ah_bs h
    refine ro_getI (pc' := 15) ft_612 fk_612 q1320 dX6_undo_12 rfl hv2 ?_
    refine ro_iconst (pc' := 16) dX6_undo_15 ic_1 rfl ?_
    refine ro_isub (pc' := 17) dX6_undo_16 rfl ?_
    obtain ⟨σ3, hσ3, h⟩ := ah_bs h
    refine ro_putI (pc' := 20) ft_612 fk_612 q1320 pd_612 dX6_undo_17 rfl hσ3 ?_
    refine ro_aload_n (pc' := 21) dX6_undo_20 rfl rfl rfl ?_
    refine ro_dup (pc' := 22) dX6_undo_21 (ah_rf_cat _) rfl ?_
    obtain ⟨v4, hv4, h⟩ := ah_bs h
    refine ro_getI (pc' := 25) ft_613 fk_613 q1321 dX6_undo_22 rfl hv4 ?_
    refine ro_iconst (pc' := 26) dX6_undo_25 ic_1 rfl ?_
    refine ro_iadd (pc' := 27) dX6_undo_26 rfl ?_
    obtain ⟨σ5, hσ5, h⟩ := ah_bs h
    refine ro_putI (pc' := 30) ft_613 fk_613 q1321 pd_613 dX6_undo_27 rfl hσ5 ?_
    refine ro_aload_n (pc' := 31) dX6_undo_30 rfl rfl rfl ?_
    refine ro_aload_n (pc' := 32) dX6_undo_31 rfl rfl rfl ?_
    obtain ⟨v6, hv6, h⟩ := ah_bs h
    refine ro_getR (pc' := 35) ft_614 fk_614 q1322 dX6_undo_32 rfl hv6 ?_
    refine ro_aload_n (pc' := 36) dX6_undo_35 rfl rfl rfl ?_
    obtain ⟨v7, hv7, h⟩ := ah_bs h
    refine ro_getI (pc' := 39) ft_612 fk_612 q1320 dX6_undo_36 rfl hv7 ?_
    obtain ⟨v8, hv8, h⟩ := ah_bs h
    refine ro_iaload (pc' := 40) dX6_undo_39 rfl hv8 ?_
    refine ro_aload_n (pc' := 41) dX6_undo_40 rfl rfl rfl ?_
    obtain ⟨v9, hv9, h⟩ := ah_bs h
    refine ro_getR (pc' := 44) ft_615 fk_615 q1323 dX6_undo_41 rfl hv9 ?_
    refine ro_aload_n (pc' := 45) dX6_undo_44 rfl rfl rfl ?_
    obtain ⟨v10, hv10, h⟩ := ah_bs h
    refine ro_getI (pc' := 48) ft_612 fk_612 q1320 dX6_undo_45 rfl hv10 ?_
    obtain ⟨v11, hv11, h⟩ := ah_bs h
    refine ro_iaload (pc' := 49) dX6_undo_48 rfl hv11 ?_
    refine ro_aload_n (pc' := 50) dX6_undo_49 rfl rfl rfl ?_
    obtain ⟨v12, hv12, h⟩ := ah_bs h
    refine ro_getR (pc' := 53) ft_616 fk_616 q1324 dX6_undo_50 rfl hv12 ?_
    refine ro_aload_n (pc' := 54) dX6_undo_53 rfl rfl rfl ?_
    obtain ⟨v13, hv13, h⟩ := ah_bs h
    refine ro_getI (pc' := 57) ft_612 fk_612 q1320 dX6_undo_54 rfl hv13 ?_
    obtain ⟨v14, hv14, h⟩ := ah_bs h
    refine ro_iaload (pc' := 58) dX6_undo_57 rfl hv14 ?_
    obtain ⟨u15, hu15, h⟩ := ah_bs h
    obtain ⟨σ16, hσ16, h⟩ := ah_bs h
    refine ro_callV (pc' := 61) (As := [.int v8, .int v11, .int v14]) (rest := []) (st' := []) (by decide) hu15 q1514 sl_X6_lays (M_X6_lays hσ16) q1512 q1515 q104 dd_X6_lays rfl ⟨Nat.le_of_ble_eq_true rfl, Nat.le_of_ble_eq_true rfl⟩ (Nat.le_of_ble_eq_true rfl) dX6_undo_58 rfl rfl rfl ?_
    refine ro_aload_n (pc' := 62) dX6_undo_61 rfl rfl rfl ?_
    obtain ⟨v17, hv17, h⟩ := ah_bs h
    refine ro_getI (pc' := 65) ft_612 fk_612 q1320 dX6_undo_62 rfl hv17 ?_
    obtain rfl := Option.some.inj h
    exact ro_iret hκ dX6_undo_65
  · replace h := ah_ip c h
    refine ro_bipush (pc' := 9) dX6_undo_7 ib_m5 rfl ?_
    obtain rfl := Option.some.inj h
    exact ro_iret hκ dX6_undo_9
theorem M_X6_undo {l : Launch} {D : ah_D}  {σ : ah_S} {r0 : Option Nat} {v : Int32} {σ1 : ah_S} (h : F_X6_undo σ r0 = some (v, σ1)) : ah_Met l yX6_undo (Cond.code yX6_undo cX6_undo 1 (some FieldType.int)) 3 67 D [va_rf r0] σ (.returned (some (.int v)), σ1) :=
  ah_ofG (own := "LeftAsFoundModel") (nm := "undo") (L0 := [some (va_rf r0)]) (by decide) rfl rfl rfl (ah_ao_1 (ah_rf_cat _) ah_ao_0) (fun κ hκ => W_X6_undo hκ  σ r0 h)
set_option maxRecDepth 20000 in
set_option maxHeartbeats 4000000 in
theorem W_X6_wardenCost_55 {κ : ah_C} {rr : (Int32 × ah_S)} (hκ : ah_res κ = (.returned (some (.int rr.1)), rr.2))  {k8 : ah_S → Option Nat → Int32 → Int32 → Int32 → Option (Int32 × ah_S)} (hk8 : ∀ (σ : ah_S) (r0 : Option Nat) (x1 : Int32) (x2 : Int32) (x3 : Int32), k8 σ r0 x1 x2 x3 = some rr → ah_G κ ("LeftAsFoundModel", "wardenCost", 5, (some FieldType.int), [], 7, 166) cX6_wardenCost σ 8 [some (va_rf r0), some (.int x1), some (.int x2), some (.int x3), none] []) : ∀ (n : Nat) (σ : ah_S) (r0 : Option Nat) (x1 : Int32) (x2 : Int32) (x3 : Int32) (x4 : Int32), F_X6_wardenCost_55 k8 n σ r0 x1 x2 x3 x4 = some rr → ah_G κ ("LeftAsFoundModel", "wardenCost", 5, (some FieldType.int), [], 7, 166) cX6_wardenCost σ 55 [some (va_rf r0), some (.int x1), some (.int x2), some (.int x3), some (.int x4)] [] := by
  intro n
  induction n with
  | zero => intro σ r0 x1 x2 x3 x4 h; cases h
  | succ n ih =>
    intro σ r0 x1 x2 x3 x4 h
    rw [F_X6_wardenCost_55] at h
    refine ro_iload (pc' := 57) dX6_wardenCost_55 rfl rfl ?_
    refine ro_iconst (pc' := 58) dX6_wardenCost_57 ic_4 rfl ?_
    refine ro_icmp_ge (pc' := 61) (tgt := 81) dX6_wardenCost_58 rfl rfl (fun c => ?_) (fun c => ?_)
    · replace h := ah_ip c h
      refine ro_iinc (pc' := 84) (L' := [some (va_rf r0), some (.int x1), some (.int x2), some (.int (x3 + (1 : Int32))), some (.int x4)]) dX6_wardenCost_81 rfl ic_1 (Nat.le_of_ble_eq_true rfl) rfl (ah_okp_i _) rfl ?_
      refine ro_goto (tgt := 8) dX6_wardenCost_84 rfl ?_
      refine ro_weak (L' := [some (va_rf r0), some (.int x1), some (.int x2), some (.int (x3 + (1 : Int32))), none]) (ah_ls_s (ah_ls_s (ah_ls_s (ah_ls_s (ah_ls_n ah_ls_0))))) ?_
      exact hk8 _ _ _ _ _ h
    · replace h := ah_in_ c h
      refine ro_aload_n (pc' := 62) dX6_wardenCost_61 rfl rfl rfl ?_
      obtain ⟨v1, hv1, h⟩ := ah_bs h
      refine ro_getR (pc' := 65) ft_611 fk_611 q1319 dX6_wardenCost_62 rfl hv1 ?_
      refine ro_iload (pc' := 67) dX6_wardenCost_65 rfl rfl ?_
      refine ro_aload_n (pc' := 68) dX6_wardenCost_67 rfl rfl rfl ?_
      obtain ⟨v2, hv2, h⟩ := ah_bs h
      refine ro_getR (pc' := 71) ft_601 fk_601 q1309 dX6_wardenCost_68 rfl hv2 ?_
      refine ro_iload (pc' := 73) dX6_wardenCost_71 rfl rfl ?_
      obtain ⟨v3, hv3, h⟩ := ah_bs h
      refine ro_iaload (pc' := 74) dX6_wardenCost_73 rfl hv3 ?_
      obtain ⟨σ4, hσ4, h⟩ := ah_bs h
      refine ro_iastore (pc' := 75) dX6_wardenCost_74 rfl hσ4 ?_
      refine ro_iinc (pc' := 78) (L' := [some (va_rf r0), some (.int x1), some (.int x2), some (.int x3), some (.int (x4 + (1 : Int32)))]) dX6_wardenCost_75 rfl ic_1 (Nat.le_of_ble_eq_true rfl) rfl (ah_okp_i _) rfl ?_
      refine ro_goto (tgt := 55) dX6_wardenCost_78 rfl ?_
      exact ih _ _ _ _ _ _ h
set_option maxRecDepth 20000 in
set_option maxHeartbeats 4000000 in
theorem W_X6_wardenCost_8 {κ : ah_C} {rr : (Int32 × ah_S)} (hκ : ah_res κ = (.returned (some (.int rr.1)), rr.2))    : ∀ (n : Nat) (σ : ah_S) (r0 : Option Nat) (x1 : Int32) (x2 : Int32) (x3 : Int32), F_X6_wardenCost_8 n σ r0 x1 x2 x3 = some rr → ah_G κ ("LeftAsFoundModel", "wardenCost", 5, (some FieldType.int), [], 7, 166) cX6_wardenCost σ 8 [some (va_rf r0), some (.int x1), some (.int x2), some (.int x3), none] [] := by
  intro n
  induction n with
  | zero => intro σ r0 x1 x2 x3 h; cases h
  | succ n ih =>
    intro σ r0 x1 x2 x3 h
    rw [F_X6_wardenCost_8] at h
    refine ro_iload_n (pc' := 9) dX6_wardenCost_8 rfl rfl rfl ?_
    refine ro_bipush (pc' := 11) dX6_wardenCost_9 ib_60 rfl ?_
    refine ro_icmp_ge (pc' := 14) (tgt := 87) dX6_wardenCost_11 rfl rfl (fun c => ?_) (fun c => ?_)
    · replace h := ah_ip c h
      refine ro_aload_n (pc' := 88) dX6_wardenCost_87 rfl rfl rfl ?_
      obtain ⟨u1, hu1, h⟩ := ah_bs h
      obtain ⟨σ2, hσ2, h⟩ := ah_bs h
      refine ro_callV (pc' := 91) (As := []) (rest := []) (st' := []) (by decide) hu1 q1665 sl_X6_layHut (M_X6_layHut hσ2) q1663 q1666 q104 dd_X6_layHut rfl ⟨Nat.le_of_ble_eq_true rfl, Nat.le_of_ble_eq_true rfl⟩ (Nat.le_of_ble_eq_true rfl) dX6_wardenCost_88 rfl rfl rfl ?_
      refine ro_iload_n (pc' := 92) dX6_wardenCost_91 rfl rfl rfl ?_
      obtain rfl := Option.some.inj h
      exact ro_iret hκ dX6_wardenCost_92
    · replace h := ah_in_ c h
      refine ro_aload_n (pc' := 15) dX6_wardenCost_14 rfl rfl rfl ?_
      refine ro_aload_n (pc' := 16) dX6_wardenCost_15 rfl rfl rfl ?_
      refine ro_iload_n (pc' := 17) dX6_wardenCost_16 rfl rfl rfl ?_
      obtain ⟨u3, hu3, h⟩ := ah_bs h
      obtain ⟨v4, σ5, hv4, h⟩ := ah_bs2 h
      refine ro_callV (pc' := 20) (As := [.int x3]) (rest := [va_rf r0]) (st' := [.int v4, va_rf r0]) (by decide) hu3 q1709 sl_X6_againAt (M_X6_againAt hv4) q1707 q1710 q104 dd_X6_againAt rfl ⟨Nat.le_of_ble_eq_true rfl, Nat.le_of_ble_eq_true rfl⟩ (by simp only [List.map_cons, List.map_nil, List.sum_cons, List.sum_nil, ah_rf_cat, ah_cat_i, ah_cat_l]; decide) dX6_wardenCost_17 rfl rfl rfl ?_
      obtain ⟨u6, hu6, h⟩ := ah_bs h
      obtain ⟨σ7, hσ7, h⟩ := ah_bs h
      refine ro_callV (pc' := 23) (As := [.int v4]) (rest := []) (st' := []) (by decide) hu6 q1638 sl_X6_goNight (M_X6_goNight hσ7) q1636 q1639 q104 dd_X6_goNight rfl ⟨Nat.le_of_ble_eq_true rfl, Nat.le_of_ble_eq_true rfl⟩ (Nat.le_of_ble_eq_true rfl) dX6_wardenCost_20 rfl rfl rfl ?_
      refine ro_iload_n (pc' := 24) dX6_wardenCost_23 rfl rfl rfl ?_
      refine ro_aload_n (pc' := 25) dX6_wardenCost_24 rfl rfl rfl ?_
      obtain ⟨u8, hu8, h⟩ := ah_bs h
      obtain ⟨v9, σ10, hv9, h⟩ := ah_bs2 h
      refine ro_callV (pc' := 28) (As := []) (rest := [.int x2]) (st' := [.int v9, .int x2]) (by decide) hu8 q1685 sl_X6_lossNow (M_X6_lossNow hv9) q1683 q1686 q104 dd_X6_lossNow rfl ⟨Nat.le_of_ble_eq_true rfl, Nat.le_of_ble_eq_true rfl⟩ (Nat.le_of_ble_eq_true rfl) dX6_wardenCost_25 rfl rfl rfl ?_
      refine ro_iadd (pc' := 29) dX6_wardenCost_28 rfl ?_
      refine ro_istore_n (pc' := 30) (L' := [some (va_rf r0), some (.int x1), some (.int (x2 + v9)), some (.int x3), none]) dX6_wardenCost_29 rfl (Nat.le_of_ble_eq_true rfl) rfl (ah_okp_i _) rfl ?_
      refine ro_iload_n (pc' := 31) dX6_wardenCost_30 rfl rfl rfl ?_
      refine ro_if_eq (pc' := 34) (tgt := 81) dX6_wardenCost_31 rfl rfl (fun c => ?_) (fun c => ?_)
      · replace h := ah_ip c h
        refine ro_iinc (pc' := 84) (L' := [some (va_rf r0), some (.int x1), some (.int (x2 + v9)), some (.int (x3 + (1 : Int32))), none]) dX6_wardenCost_81 rfl ic_1 (Nat.le_of_ble_eq_true rfl) rfl (ah_okp_i _) rfl ?_
        refine ro_goto (tgt := 8) dX6_wardenCost_84 rfl ?_
        exact ih _ _ _ _ _ h
      · replace h := ah_in_ c h
        refine ro_iload_n (pc' := 35) dX6_wardenCost_34 rfl rfl rfl ?_
        refine ro_iconst (pc' := 36) dX6_wardenCost_35 ic_1 rfl ?_
        refine ro_iadd (pc' := 37) dX6_wardenCost_36 rfl ?_
        refine ro_iload_n (pc' := 38) dX6_wardenCost_37 rfl rfl rfl ?_
        obtain ⟨q11, hq11, h⟩ := ah_bs h
        refine ro_irem (pc' := 39) dX6_wardenCost_38 rfl hq11 ?_
        refine ro_if_eq (pc' := 42) (tgt := 45) dX6_wardenCost_39 rfl rfl (fun c => ?_) (fun c => ?_)
        · replace h := ah_ip c h
          refine ro_iload_n (pc' := 46) dX6_wardenCost_45 rfl rfl rfl ?_
          refine ro_aload_n (pc' := 47) dX6_wardenCost_46 rfl rfl rfl ?_
          obtain ⟨v12, hv12, h⟩ := ah_bs h
          refine ro_getI (pc' := 50) ft_609 fk_609 q1317 dX6_wardenCost_47 rfl hv12 ?_
          refine ro_iadd (pc' := 51) dX6_wardenCost_50 rfl ?_
          refine ro_istore_n (pc' := 52) (L' := [some (va_rf r0), some (.int x1), some (.int ((x2 + v9) + v12)), some (.int x3), none]) dX6_wardenCost_51 rfl (Nat.le_of_ble_eq_true rfl) rfl (ah_okp_i _) rfl ?_
          refine ro_iconst (pc' := 53) dX6_wardenCost_52 ic_0 rfl ?_
          refine ro_istore (pc' := 55) (L' := [some (va_rf r0), some (.int x1), some (.int ((x2 + v9) + v12)), some (.int x3), some (.int (0 : Int32))]) dX6_wardenCost_53 (Nat.le_of_ble_eq_true rfl) rfl (ah_okp_i _) rfl ?_
          exact W_X6_wardenCost_55 hκ ih _ _ _ _ _ _ _ h
        · replace h := ah_in_ c h
          refine ro_goto (tgt := 81) dX6_wardenCost_42 rfl ?_
          refine ro_iinc (pc' := 84) (L' := [some (va_rf r0), some (.int x1), some (.int (x2 + v9)), some (.int (x3 + (1 : Int32))), none]) dX6_wardenCost_81 rfl ic_1 (Nat.le_of_ble_eq_true rfl) rfl (ah_okp_i _) rfl ?_
          refine ro_goto (tgt := 8) dX6_wardenCost_84 rfl ?_
          exact ih _ _ _ _ _ h
set_option maxRecDepth 20000 in
set_option maxHeartbeats 4000000 in
theorem W_X6_wardenCost {κ : ah_C} {rr : (Int32 × ah_S)} (hκ : ah_res κ = (.returned (some (.int rr.1)), rr.2))  (σ : ah_S) (r0 : Option Nat) (x1 : Int32) (h : F_X6_wardenCost σ r0 x1 = some rr) : ah_G κ ("LeftAsFoundModel", "wardenCost", 5, (some FieldType.int), [], 7, 166) cX6_wardenCost σ 0 [some (va_rf r0), some (.int x1), none, none, none] [] := by
  unfold F_X6_wardenCost at h
  refine ro_aload_n (pc' := 1) dX6_wardenCost_0 rfl rfl rfl ?_
  obtain ⟨u1, hu1, h⟩ := ah_bs h
  obtain ⟨σ2, hσ2, h⟩ := ah_bs h
  refine ro_callV (pc' := 4) (As := []) (rest := []) (st' := []) (by decide) hu1 q1634 sl_X6_keepHut (M_X6_keepHut hσ2) q1632 q1635 q104 dd_X6_keepHut rfl ⟨Nat.le_of_ble_eq_true rfl, Nat.le_of_ble_eq_true rfl⟩ (Nat.le_of_ble_eq_true rfl) dX6_wardenCost_1 rfl rfl rfl ?_
  refine ro_iconst (pc' := 5) dX6_wardenCost_4 ic_0 rfl ?_
  refine ro_istore_n (pc' := 6) (L' := [some (va_rf r0), some (.int x1), some (.int (0 : Int32)), none, none]) dX6_wardenCost_5 rfl (Nat.le_of_ble_eq_true rfl) rfl (ah_okp_i _) rfl ?_
  refine ro_iconst (pc' := 7) dX6_wardenCost_6 ic_0 rfl ?_
  refine ro_istore_n (pc' := 8) (L' := [some (va_rf r0), some (.int x1), some (.int (0 : Int32)), some (.int (0 : Int32)), none]) dX6_wardenCost_7 rfl (Nat.le_of_ble_eq_true rfl) rfl (ah_okp_i _) rfl ?_
  exact W_X6_wardenCost_8 hκ _ _ _ _ _ _ h
theorem M_X6_wardenCost {l : Launch} {D : ah_D}  {σ : ah_S} {r0 : Option Nat} {x1 : Int32} {v : Int32} {σ1 : ah_S} (h : F_X6_wardenCost σ r0 x1 = some (v, σ1)) : ah_Met l yX6_wardenCost (Cond.code yX6_wardenCost cX6_wardenCost 5 (some FieldType.int)) 7 166 D [va_rf r0, .int x1] σ (.returned (some (.int v)), σ1) :=
  ah_ofG (own := "LeftAsFoundModel") (nm := "wardenCost") (L0 := [some (va_rf r0), some (.int x1), none, none, none]) (by decide) rfl rfl rfl (ah_ao_1 (ah_rf_cat _) (ah_ao_1 rfl (ah_ao_n (ah_ao_n (ah_ao_n ah_ao_0))))) (fun κ hκ => W_X6_wardenCost hκ  σ r0 x1 h)
set_option maxRecDepth 20000 in
set_option maxHeartbeats 4000000 in
theorem W_X6_warden_48 {κ : ah_C} {rr : (Int32 × ah_S)} (hκ : ah_res κ = (.returned (some (.int rr.1)), rr.2))    : ∀ (n : Nat) (σ : ah_S) (r0 : Option Nat) (x2 : Int32) (x3 : Int32) (x4 : Int32) (x5 : Int32), F_X6_warden_48 n σ r0 x2 x3 x4 x5 = some rr → ah_G κ ("LeftAsFoundModel", "warden", 7, (some FieldType.int), [], 8, 190) cX6_warden σ 48 [some (va_rf r0), none, some (.int x2), some (.int x3), some (.int x4), some (.int x5), none] [] := by
  intro n
  induction n with
  | zero => intro σ r0 x2 x3 x4 x5 h; cases h
  | succ n ih =>
    intro σ r0 x2 x3 x4 x5 h
    rw [F_X6_warden_48] at h
    refine ro_iload (pc' := 50) dX6_warden_48 rfl rfl ?_
    refine ro_iconst (pc' := 51) dX6_warden_50 ic_1 rfl ?_
    refine ro_icmp_lt (pc' := 54) (tgt := 85) dX6_warden_51 rfl rfl (fun c => ?_) (fun c => ?_)
    · replace h := ah_ip c h
      refine ro_iload_n (pc' := 86) dX6_warden_85 rfl rfl rfl ?_
      refine ro_if_ne (pc' := 89) (tgt := 93) dX6_warden_86 rfl rfl (fun c => ?_) (fun c => ?_)
      · replace h := ah_in_ c h
        refine ro_iload_n (pc' := 94) dX6_warden_93 rfl rfl rfl ?_
        refine ro_iconst (pc' := 95) dX6_warden_94 ic_1 rfl ?_
        refine ro_icmp_ne (pc' := 98) (tgt := 103) dX6_warden_95 rfl rfl (fun c => ?_) (fun c => ?_)
        · replace h := ah_in_ c h
          refine ro_aload_n (pc' := 104) dX6_warden_103 rfl rfl rfl ?_
          refine ro_iconst (pc' := 105) dX6_warden_104 ic_0 rfl ?_
          obtain ⟨u1, hu1, h⟩ := ah_bs h
          obtain ⟨v2, σ3, hv2, h⟩ := ah_bs2 h
          refine ro_callV (pc' := 108) (As := [.int (0 : Int32)]) (rest := []) (st' := [.int v2]) (by decide) hu1 q1718 sl_X6_wardenCost (M_X6_wardenCost hv2) q1716 q1719 q104 dd_X6_wardenCost rfl ⟨Nat.le_of_ble_eq_true rfl, Nat.le_of_ble_eq_true rfl⟩ (Nat.le_of_ble_eq_true rfl) dX6_warden_105 rfl rfl rfl ?_
          refine ro_iload (pc' := 110) dX6_warden_108 rfl rfl ?_
          refine ro_isub (pc' := 111) dX6_warden_110 rfl ?_
          obtain rfl := Option.some.inj h
          exact ro_iret hκ dX6_warden_111
        · replace h := ah_ip c h
          refine ro_iload (pc' := 100) dX6_warden_98 rfl rfl ?_
          refine ro_goto (tgt := 111) dX6_warden_100 rfl ?_
          obtain rfl := Option.some.inj h
          exact ro_iret hκ dX6_warden_111
      · replace h := ah_ip c h
        refine ro_iload_n (pc' := 90) dX6_warden_89 rfl rfl rfl ?_
        refine ro_goto (tgt := 111) dX6_warden_90 rfl ?_
        obtain rfl := Option.some.inj h
        exact ro_iret hκ dX6_warden_111
    · replace h := ah_in_ c h
      refine ro_aload_n (pc' := 55) dX6_warden_54 rfl rfl rfl ?_
      refine ro_iload (pc' := 57) dX6_warden_55 rfl rfl ?_
      obtain ⟨u4, hu4, h⟩ := ah_bs h
      obtain ⟨v5, σ6, hv5, h⟩ := ah_bs2 h
      refine ro_callV (pc' := 60) (As := [.int x5]) (rest := []) (st' := [.int v5]) (by decide) hu4 q1718 sl_X6_wardenCost (M_X6_wardenCost hv5) q1716 q1719 q104 dd_X6_wardenCost rfl ⟨Nat.le_of_ble_eq_true rfl, Nat.le_of_ble_eq_true rfl⟩ (Nat.le_of_ble_eq_true rfl) dX6_warden_57 rfl rfl rfl ?_
      refine ro_istore (pc' := 62) (L' := [some (va_rf r0), none, some (.int x2), some (.int x3), some (.int x4), some (.int x5), some (.int v5)]) dX6_warden_60 (Nat.le_of_ble_eq_true rfl) rfl (ah_okp_i _) rfl ?_
      refine ro_iload (pc' := 64) dX6_warden_62 rfl rfl ?_
      refine ro_iload (pc' := 66) dX6_warden_64 rfl rfl ?_
      refine ro_icmp_lt (pc' := 69) (tgt := 72) dX6_warden_66 rfl rfl (fun c => ?_) (fun c => ?_)
      · replace h := ah_ip c h
        refine ro_iload (pc' := 74) dX6_warden_72 rfl rfl ?_
        refine ro_istore_n (pc' := 75) (L' := [some (va_rf r0), none, some (.int x2), some (.int x5), some (.int x4), some (.int x5), some (.int v5)]) dX6_warden_74 rfl (Nat.le_of_ble_eq_true rfl) rfl (ah_okp_i _) rfl ?_
        refine ro_iload (pc' := 77) dX6_warden_75 rfl rfl ?_
        refine ro_istore (pc' := 79) (L' := [some (va_rf r0), none, some (.int x2), some (.int x5), some (.int v5), some (.int x5), some (.int v5)]) dX6_warden_77 (Nat.le_of_ble_eq_true rfl) rfl (ah_okp_i _) rfl ?_
        refine ro_iinc (pc' := 82) (L' := [some (va_rf r0), none, some (.int x2), some (.int x5), some (.int v5), some (.int (x5 + (-1 : Int32))), some (.int v5)]) dX6_warden_79 rfl ic_m1 (Nat.le_of_ble_eq_true rfl) rfl (ah_okp_i _) rfl ?_
        refine ro_goto (tgt := 48) dX6_warden_82 rfl ?_
        refine ro_weak (L' := [some (va_rf r0), none, some (.int x2), some (.int x5), some (.int v5), some (.int (x5 + (-1 : Int32))), none]) (ah_ls_s (ah_ls_s (ah_ls_s (ah_ls_s (ah_ls_s (ah_ls_s (ah_ls_n ah_ls_0))))))) ?_
        exact ih _ _ _ _ _ _ h
      · replace h := ah_in_ c h
        refine ro_goto (tgt := 79) dX6_warden_69 rfl ?_
        refine ro_iinc (pc' := 82) (L' := [some (va_rf r0), none, some (.int x2), some (.int x3), some (.int x4), some (.int (x5 + (-1 : Int32))), some (.int v5)]) dX6_warden_79 rfl ic_m1 (Nat.le_of_ble_eq_true rfl) rfl (ah_okp_i _) rfl ?_
        refine ro_goto (tgt := 48) dX6_warden_82 rfl ?_
        refine ro_weak (L' := [some (va_rf r0), none, some (.int x2), some (.int x3), some (.int x4), some (.int (x5 + (-1 : Int32))), none]) (ah_ls_s (ah_ls_s (ah_ls_s (ah_ls_s (ah_ls_s (ah_ls_s (ah_ls_n ah_ls_0))))))) ?_
        exact ih _ _ _ _ _ _ h
set_option maxRecDepth 20000 in
set_option maxHeartbeats 4000000 in
theorem W_X6_warden {κ : ah_C} {rr : (Int32 × ah_S)} (hκ : ah_res κ = (.returned (some (.int rr.1)), rr.2))  (σ : ah_S) (r0 : Option Nat) (x1 : Int32) (x2 : Int32) (h : F_X6_warden σ r0 x1 x2 = some rr) : ah_G κ ("LeftAsFoundModel", "warden", 7, (some FieldType.int), [], 8, 190) cX6_warden σ 0 [some (va_rf r0), some (.int x1), some (.int x2), none, none, none, none] [] := by
  unfold F_X6_warden at h
  refine ro_iload_n (pc' := 1) dX6_warden_0 rfl rfl rfl ?_
  obtain ⟨v1, σ2, hv1, h⟩ := ah_bs2 h
  refine ro_callS (pc' := 4) (As := [.int x1]) (rest := []) (st' := [.int v1]) q1505 (M_X6_isShelf hv1) q1504 q1506 q104 dd_X6_isShelf rfl ⟨Nat.le_of_ble_eq_true rfl, Nat.le_of_ble_eq_true rfl⟩ (Nat.le_of_ble_eq_true rfl) dX6_warden_1 rfl rfl rfl ?_
  refine ro_if_eq (pc' := 7) (tgt := 24) dX6_warden_4 rfl rfl (fun c => ?_) (fun c => ?_)
  · replace h := ah_ip c h
    refine ro_ldc_w (pc' := 27) q1715 dX6_warden_24 rfl ?_
    obtain rfl := Option.some.inj h
    exact ro_iret hκ dX6_warden_27
  · replace h := ah_in_ c h
    refine ro_iload_n (pc' := 8) dX6_warden_7 rfl rfl rfl ?_
    refine ro_iconst (pc' := 9) dX6_warden_8 ic_0 rfl ?_
    refine ro_iconst (pc' := 10) dX6_warden_9 ic_2 rfl ?_
    obtain ⟨v3, σ4, hv3, h⟩ := ah_bs2 h
    refine ro_callS (pc' := 13) (As := [.int x2, .int (0 : Int32), .int (2 : Int32)]) (rest := []) (st' := [.int v3]) q1494 (M_X6_in hv3) q1493 q1495 q104 dd_X6_in rfl ⟨Nat.le_of_ble_eq_true rfl, Nat.le_of_ble_eq_true rfl⟩ (Nat.le_of_ble_eq_true rfl) dX6_warden_10 rfl rfl rfl ?_
    refine ro_if_eq (pc' := 16) (tgt := 24) dX6_warden_13 rfl rfl (fun c => ?_) (fun c => ?_)
    · replace h := ah_ip c h
      refine ro_ldc_w (pc' := 27) q1715 dX6_warden_24 rfl ?_
      obtain rfl := Option.some.inj h
      exact ro_iret hκ dX6_warden_27
    · replace h := ah_in_ c h
      refine ro_aload_n (pc' := 17) dX6_warden_16 rfl rfl rfl ?_
      refine ro_iload_n (pc' := 18) dX6_warden_17 rfl rfl rfl ?_
      obtain ⟨u5, hu5, h⟩ := ah_bs h
      obtain ⟨v6, σ7, hv6, h⟩ := ah_bs2 h
      refine ro_callV (pc' := 21) (As := [.int x1]) (rest := []) (st' := [.int v6]) (by decide) hu5 q1626 sl_X6_rowFault (M_X6_rowFault hv6) q1624 q1627 q104 dd_X6_rowFault rfl ⟨Nat.le_of_ble_eq_true rfl, Nat.le_of_ble_eq_true rfl⟩ (Nat.le_of_ble_eq_true rfl) dX6_warden_18 rfl rfl rfl ?_
      refine ro_if_ge (pc' := 24) (tgt := 28) dX6_warden_21 rfl rfl (fun c => ?_) (fun c => ?_)
      · replace h := ah_ip c h
        refine ro_aload_n (pc' := 29) dX6_warden_28 rfl rfl rfl ?_
        refine ro_iload_n (pc' := 30) dX6_warden_29 rfl rfl rfl ?_
        obtain ⟨u8, hu8, h⟩ := ah_bs h
        obtain ⟨σ9, hσ9, h⟩ := ah_bs h
        refine ro_callV (pc' := 33) (As := [.int x1]) (rest := []) (st' := []) (by decide) hu8 q1630 sl_X6_layStays (M_X6_layStays hσ9) q1628 q1631 q104 dd_X6_layStays rfl ⟨Nat.le_of_ble_eq_true rfl, Nat.le_of_ble_eq_true rfl⟩ (Nat.le_of_ble_eq_true rfl) dX6_warden_30 rfl rfl rfl ?_
        refine ro_bipush (pc' := 35) dX6_warden_33 ib_20 rfl ?_
        refine ro_istore_n (pc' := 36) (L' := [some (va_rf r0), some (.int x1), some (.int x2), some (.int (20 : Int32)), none, none, none]) dX6_warden_35 rfl (Nat.le_of_ble_eq_true rfl) rfl (ah_okp_i _) rfl ?_
        refine ro_aload_n (pc' := 37) dX6_warden_36 rfl rfl rfl ?_
        refine ro_bipush (pc' := 39) dX6_warden_37 ib_20 rfl ?_
        obtain ⟨u10, hu10, h⟩ := ah_bs h
        obtain ⟨v11, σ12, hv11, h⟩ := ah_bs2 h
        refine ro_callV (pc' := 42) (As := [.int (20 : Int32)]) (rest := []) (st' := [.int v11]) (by decide) hu10 q1718 sl_X6_wardenCost (M_X6_wardenCost hv11) q1716 q1719 q104 dd_X6_wardenCost rfl ⟨Nat.le_of_ble_eq_true rfl, Nat.le_of_ble_eq_true rfl⟩ (Nat.le_of_ble_eq_true rfl) dX6_warden_39 rfl rfl rfl ?_
        refine ro_istore (pc' := 44) (L' := [some (va_rf r0), some (.int x1), some (.int x2), some (.int (20 : Int32)), some (.int v11), none, none]) dX6_warden_42 (Nat.le_of_ble_eq_true rfl) rfl (ah_okp_i _) rfl ?_
        refine ro_bipush (pc' := 46) dX6_warden_44 ib_19 rfl ?_
        refine ro_istore (pc' := 48) (L' := [some (va_rf r0), some (.int x1), some (.int x2), some (.int (20 : Int32)), some (.int v11), some (.int (19 : Int32)), none]) dX6_warden_46 (Nat.le_of_ble_eq_true rfl) rfl (ah_okp_i _) rfl ?_
        refine ro_weak (L' := [some (va_rf r0), none, some (.int x2), some (.int (20 : Int32)), some (.int v11), some (.int (19 : Int32)), none]) (ah_ls_s (ah_ls_n (ah_ls_s (ah_ls_s (ah_ls_s (ah_ls_s (ah_ls_s ah_ls_0))))))) ?_
        exact W_X6_warden_48 hκ _ _ _ _ _ _ _ h
      · replace h := ah_in_ c h
        refine ro_ldc_w (pc' := 27) q1715 dX6_warden_24 rfl ?_
        obtain rfl := Option.some.inj h
        exact ro_iret hκ dX6_warden_27
theorem M_X6_warden {l : Launch} {D : ah_D}  {σ : ah_S} {r0 : Option Nat} {x1 : Int32} {x2 : Int32} {v : Int32} {σ1 : ah_S} (h : F_X6_warden σ r0 x1 x2 = some (v, σ1)) : ah_Met l yX6_warden (Cond.code yX6_warden cX6_warden 7 (some FieldType.int)) 8 190 D [va_rf r0, .int x1, .int x2] σ (.returned (some (.int v)), σ1) :=
  ah_ofG (own := "LeftAsFoundModel") (nm := "warden") (L0 := [some (va_rf r0), some (.int x1), some (.int x2), none, none, none, none]) (by decide) rfl rfl rfl (ah_ao_1 (ah_rf_cat _) (ah_ao_1 rfl (ah_ao_1 rfl (ah_ao_n (ah_ao_n (ah_ao_n (ah_ao_n ah_ao_0))))))) (fun κ hκ => W_X6_warden hκ  σ r0 x1 x2 h)
