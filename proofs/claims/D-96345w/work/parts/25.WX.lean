set_option maxRecDepth 20000 in
set_option maxHeartbeats 4000000 in
theorem W_X4_beAs {κ : ah_C} {rr : ah_S} (hκ : ah_res κ = (.returned none, rr))  (σ : ah_S) (r0 : Option Nat) (r1 : Option Nat) (h : F_X4_beAs σ r0 r1 = some rr) : ah_G κ ("LeftAsFound$Hut", "beAs", 2, none, [], 1, 80) cX4_beAs σ 0 [some (va_rf r0), some (va_rf r1)] [] := by
  unfold F_X4_beAs at h
  refine ro_aload_n (pc' := 1) dX4_beAs_0 rfl rfl rfl ?_
  obtain ⟨v1, hv1, h⟩ := ah_bs h
  refine ro_getR (pc' := 4) ft_400 fk_400 q244 dX4_beAs_1 rfl hv1 ?_
  refine ro_iconst (pc' := 5) dX4_beAs_4 ic_0 rfl ?_
  refine ro_aload_n (pc' := 6) dX4_beAs_5 rfl rfl rfl ?_
  obtain ⟨v2, hv2, h⟩ := ah_bs h
  refine ro_getR (pc' := 9) ft_400 fk_400 q244 dX4_beAs_6 rfl hv2 ?_
  refine ro_iconst (pc' := 10) dX4_beAs_9 ic_0 rfl ?_
  refine ro_iconst (pc' := 11) dX4_beAs_10 ic_4 rfl ?_
  obtain ⟨σ3, hσ3, h⟩ := ah_bs h
  refine ro_copy (pc' := 14) q672 q674 q673 q113 (Nat.le_of_ble_eq_true rfl) (Nat.le_of_ble_eq_true rfl) dX4_beAs_11 rfl hσ3 ?_
  refine ro_aload_n (pc' := 15) dX4_beAs_14 rfl rfl rfl ?_
  obtain ⟨v4, hv4, h⟩ := ah_bs h
  refine ro_getR (pc' := 18) ft_401 fk_401 q246 dX4_beAs_15 rfl hv4 ?_
  refine ro_iconst (pc' := 19) dX4_beAs_18 ic_0 rfl ?_
  refine ro_aload_n (pc' := 20) dX4_beAs_19 rfl rfl rfl ?_
  obtain ⟨v5, hv5, h⟩ := ah_bs h
  refine ro_getR (pc' := 23) ft_401 fk_401 q246 dX4_beAs_20 rfl hv5 ?_
  refine ro_iconst (pc' := 24) dX4_beAs_23 ic_0 rfl ?_
  refine ro_iconst (pc' := 25) dX4_beAs_24 ic_4 rfl ?_
  obtain ⟨σ6, hσ6, h⟩ := ah_bs h
  refine ro_copy (pc' := 28) q672 q674 q673 q113 (Nat.le_of_ble_eq_true rfl) (Nat.le_of_ble_eq_true rfl) dX4_beAs_25 rfl hσ6 ?_
  refine ro_aload_n (pc' := 29) dX4_beAs_28 rfl rfl rfl ?_
  obtain ⟨v7, hv7, h⟩ := ah_bs h
  refine ro_getR (pc' := 32) ft_402 fk_402 q248 dX4_beAs_29 rfl hv7 ?_
  refine ro_iconst (pc' := 33) dX4_beAs_32 ic_0 rfl ?_
  refine ro_aload_n (pc' := 34) dX4_beAs_33 rfl rfl rfl ?_
  obtain ⟨v8, hv8, h⟩ := ah_bs h
  refine ro_getR (pc' := 37) ft_402 fk_402 q248 dX4_beAs_34 rfl hv8 ?_
  refine ro_iconst (pc' := 38) dX4_beAs_37 ic_0 rfl ?_
  refine ro_bipush (pc' := 40) dX4_beAs_38 ib_28 rfl ?_
  obtain ⟨σ9, hσ9, h⟩ := ah_bs h
  refine ro_copy (pc' := 43) q672 q674 q673 q113 (Nat.le_of_ble_eq_true rfl) (Nat.le_of_ble_eq_true rfl) dX4_beAs_40 rfl hσ9 ?_
  refine ro_aload_n (pc' := 44) dX4_beAs_43 rfl rfl rfl ?_
  obtain ⟨v10, hv10, h⟩ := ah_bs h
  refine ro_getR (pc' := 47) ft_405 fk_405 q253 dX4_beAs_44 rfl hv10 ?_
  refine ro_iconst (pc' := 48) dX4_beAs_47 ic_0 rfl ?_
  refine ro_aload_n (pc' := 49) dX4_beAs_48 rfl rfl rfl ?_
  obtain ⟨v11, hv11, h⟩ := ah_bs h
  refine ro_getR (pc' := 52) ft_405 fk_405 q253 dX4_beAs_49 rfl hv11 ?_
  refine ro_iconst (pc' := 53) dX4_beAs_52 ic_0 rfl ?_
  refine ro_iconst (pc' := 54) dX4_beAs_53 ic_4 rfl ?_
  obtain ⟨σ12, hσ12, h⟩ := ah_bs h
  refine ro_copy (pc' := 57) q672 q674 q673 q113 (Nat.le_of_ble_eq_true rfl) (Nat.le_of_ble_eq_true rfl) dX4_beAs_54 rfl hσ12 ?_
  refine ro_aload_n (pc' := 58) dX4_beAs_57 rfl rfl rfl ?_
  refine ro_aload_n (pc' := 59) dX4_beAs_58 rfl rfl rfl ?_
  obtain ⟨v13, hv13, h⟩ := ah_bs h
  refine ro_getI (pc' := 62) ft_403 fk_403 q250 dX4_beAs_59 rfl hv13 ?_
  obtain ⟨σ14, hσ14, h⟩ := ah_bs h
  refine ro_putI (pc' := 65) ft_403 fk_403 q250 pd_403 dX4_beAs_62 rfl hσ14 ?_
  refine ro_aload_n (pc' := 66) dX4_beAs_65 rfl rfl rfl ?_
  refine ro_aload_n (pc' := 67) dX4_beAs_66 rfl rfl rfl ?_
  obtain ⟨v15, hv15, h⟩ := ah_bs h
  refine ro_getI (pc' := 70) ft_404 fk_404 q252 dX4_beAs_67 rfl hv15 ?_
  obtain ⟨σ16, hσ16, h⟩ := ah_bs h
  refine ro_putZ (pc' := 73) ft_404 fk_404 q252 pd_404 dX4_beAs_70 rfl hσ16 ?_
  obtain rfl := Option.some.inj h
  exact ro_vret hκ dX4_beAs_73
theorem M_X4_beAs {l : Launch} {D : ah_D}  {σ : ah_S} {r0 : Option Nat} {r1 : Option Nat} {σ1 : ah_S} (h : F_X4_beAs σ r0 r1 = some σ1) : ah_Met l yX4_beAs (Cond.code yX4_beAs cX4_beAs 2 none) 1 80 D [va_rf r0, va_rf r1] σ (.returned none, σ1) :=
  ah_ofG (own := "LeftAsFound$Hut") (nm := "beAs") (L0 := [some (va_rf r0), some (va_rf r1)]) (by decide) rfl rfl rfl (ah_ao_1 (ah_rf_cat _) (ah_ao_1 (ah_rf_cat _) ah_ao_0)) (fun κ hκ => W_X4_beAs hκ  σ r0 r1 h)
set_option maxRecDepth 20000 in
set_option maxHeartbeats 4000000 in
theorem W_X0_back {κ : ah_C} {rr : (Int32 × ah_S)} (hκ : ah_res κ = (.returned (some (.int rr.1)), rr.2))  (σ : ah_S) (r0 : Option Nat) (h : F_X0_back σ r0 = some rr) : ah_G κ ("LeftAsFound", "back", 1, (some FieldType.int), [], 2, 101) cX0_back σ 0 [some (va_rf r0)] [] := by
  unfold F_X0_back at h
  refine ro_aload_n (pc' := 1) dX0_back_0 rfl rfl rfl ?_
  obtain ⟨v1, hv1, h⟩ := ah_bs h
  refine ro_getI (pc' := 4) ft_34 fk_34 q328 dX0_back_1 rfl hv1 ?_
  refine ro_if_ne (pc' := 7) (tgt := 10) dX0_back_4 rfl rfl (fun c => ?_) (fun c => ?_)
  · replace h := ah_in_ c h
    refine ro_aload_n (pc' := 11) dX0_back_10 rfl rfl rfl ?_
    obtain ⟨v2, hv2, h⟩ := ah_bs h
    refine ro_getR (pc' := 14) ft_18 fk_18 q312 dX0_back_11 rfl hv2 ?_
    refine ro_aload_n (pc' := 15) dX0_back_14 rfl rfl rfl ?_
    obtain ⟨v3, hv3, h⟩ := ah_bs h
    refine ro_getR (pc' := 18) ft_35 fk_35 q329 dX0_back_15 rfl hv3 ?_
    obtain ⟨u4, hu4, h⟩ := ah_bs h
    obtain ⟨σ5, hσ5, h⟩ := ah_bs h
    refine ro_callV (pc' := 21) (As := [va_rf v3]) (rest := []) (st' := []) (by decide) hu4 q669 sl_X4_beAs (M_X4_beAs hσ5) q668 q671 q102 dd_X4_beAs rfl ⟨Nat.le_of_ble_eq_true rfl, Nat.le_of_ble_eq_true rfl⟩ (Nat.le_of_ble_eq_true rfl) dX0_back_18 rfl rfl rfl ?_
    refine ro_aload_n (pc' := 22) dX0_back_21 rfl rfl rfl ?_
    obtain ⟨v6, hv6, h⟩ := ah_bs h
    refine ro_getR (pc' := 25) ft_36 fk_36 q330 dX0_back_22 rfl hv6 ?_
    refine ro_iconst (pc' := 26) dX0_back_25 ic_0 rfl ?_
    refine ro_aload_n (pc' := 27) dX0_back_26 rfl rfl rfl ?_
    obtain ⟨v7, hv7, h⟩ := ah_bs h
    refine ro_getR (pc' := 30) ft_33 fk_33 q327 dX0_back_27 rfl hv7 ?_
    refine ro_iconst (pc' := 31) dX0_back_30 ic_0 rfl ?_
    refine ro_iconst (pc' := 32) dX0_back_31 ic_4 rfl ?_
    obtain ⟨σ8, hσ8, h⟩ := ah_bs h
    refine ro_copy (pc' := 35) q783 q674 q673 q113 (Nat.le_of_ble_eq_true rfl) (Nat.le_of_ble_eq_true rfl) dX0_back_32 rfl hσ8 ?_
    refine ro_aload_n (pc' := 36) dX0_back_35 rfl rfl rfl ?_
    obtain ⟨v9, hv9, h⟩ := ah_bs h
    refine ro_getR (pc' := 39) ft_33 fk_33 q327 dX0_back_36 rfl hv9 ?_
    refine ro_iconst (pc' := 40) dX0_back_39 ic_0 rfl ?_
    obtain ⟨v10, hv10, h⟩ := ah_bs h
    refine ro_iaload (pc' := 41) dX0_back_40 rfl hv10 ?_
    obtain rfl := Option.some.inj h
    exact ro_iret hκ dX0_back_41
  · replace h := ah_ip c h
    refine ro_bipush (pc' := 9) dX0_back_7 ib_m5 rfl ?_
    obtain rfl := Option.some.inj h
    exact ro_iret hκ dX0_back_9
theorem M_X0_back {l : Launch} {D : ah_D}  {σ : ah_S} {r0 : Option Nat} {v : Int32} {σ1 : ah_S} (h : F_X0_back σ r0 = some (v, σ1)) : ah_Met l yX0_back (Cond.code yX0_back cX0_back 1 (some FieldType.int)) 2 101 D [va_rf r0] σ (.returned (some (.int v)), σ1) :=
  ah_ofG (own := "LeftAsFound") (nm := "back") (L0 := [some (va_rf r0)]) (by decide) rfl rfl rfl (ah_ao_1 (ah_rf_cat _) ah_ao_0) (fun κ hκ => W_X0_back hκ  σ r0 h)
set_option maxRecDepth 20000 in
set_option maxHeartbeats 4000000 in
theorem W_X0_become_32 {κ : ah_C} {rr : (Int32 × ah_S)} (hκ : ah_res κ = (.returned (some (.int rr.1)), rr.2))  {k80 : ah_S → Option Nat → Option Nat → Int32 → Int32 → Option (Int32 × ah_S)} (hk80 : ∀ (σ : ah_S) (r0 : Option Nat) (r1 : Option Nat) (x2 : Int32) (x3 : Int32), k80 σ r0 r1 x2 x3 = some rr → ah_G κ ("LeftAsFound", "become", 6, (some FieldType.int), [], 1, 24) cX0_become σ 80 [some (va_rf r0), some (va_rf r1), some (.int x2), some (.int x3), none, none] []) : ∀ (n : Nat) (σ : ah_S) (r0 : Option Nat) (r1 : Option Nat) (x2 : Int32) (x3 : Int32) (r4 : Option Nat) (x5 : Int32), F_X0_become_32 k80 n σ r0 r1 x2 x3 r4 x5 = some rr → ah_G κ ("LeftAsFound", "become", 6, (some FieldType.int), [], 1, 24) cX0_become σ 32 [some (va_rf r0), some (va_rf r1), some (.int x2), some (.int x3), some (va_rf r4), some (.int x5)] [] := by
  intro n
  induction n with
  | zero => intro σ r0 r1 x2 x3 r4 x5 h; cases h
  | succ n ih =>
    intro σ r0 r1 x2 x3 r4 x5 h
    rw [F_X0_become_32] at h
    refine ro_iload (pc' := 34) dX0_become_32 rfl rfl ?_
    refine ro_bipush (pc' := 36) dX0_become_34 ib_40 rfl ?_
    refine ro_icmp_ge (pc' := 39) (tgt := 61) dX0_become_36 rfl rfl (fun c => ?_) (fun c => ?_)
    · replace h := ah_ip c h
      refine ro_aload_n (pc' := 62) dX0_become_61 rfl rfl rfl ?_
      obtain ⟨v1, hv1, h⟩ := ah_bs h
      refine ro_getR (pc' := 65) ft_0 fk_0 q290 dX0_become_62 rfl hv1 ?_
      refine ro_bipush (pc' := 67) dX0_become_65 ib_39 rfl ?_
      refine ro_aload (pc' := 69) dX0_become_67 rfl rfl ?_
      obtain ⟨σ2, hσ2, h⟩ := ah_bs h
      refine ro_aastore (pc' := 70) (by decide) (by decide) rfl dX0_become_69 rfl hσ2 ?_
      refine ro_aload_n (pc' := 71) dX0_become_70 rfl rfl rfl ?_
      refine ro_dup (pc' := 72) dX0_become_71 (ah_rf_cat _) rfl ?_
      obtain ⟨v3, hv3, h⟩ := ah_bs h
      refine ro_getI (pc' := 75) ft_2 fk_2 q292 dX0_become_72 rfl hv3 ?_
      refine ro_iconst (pc' := 76) dX0_become_75 ic_1 rfl ?_
      refine ro_isub (pc' := 77) dX0_become_76 rfl ?_
      obtain ⟨σ4, hσ4, h⟩ := ah_bs h
      refine ro_putI (pc' := 80) ft_2 fk_2 q292 pd_2 dX0_become_77 rfl hσ4 ?_
      refine ro_weak (L' := [some (va_rf r0), some (va_rf r1), some (.int x2), some (.int x3), none, none]) (ah_ls_s (ah_ls_s (ah_ls_s (ah_ls_s (ah_ls_n (ah_ls_n ah_ls_0)))))) ?_
      exact hk80 _ _ _ _ _ h
    · replace h := ah_in_ c h
      refine ro_aload_n (pc' := 40) dX0_become_39 rfl rfl rfl ?_
      obtain ⟨v5, hv5, h⟩ := ah_bs h
      refine ro_getR (pc' := 43) ft_0 fk_0 q290 dX0_become_40 rfl hv5 ?_
      refine ro_iload (pc' := 45) dX0_become_43 rfl rfl ?_
      refine ro_iconst (pc' := 46) dX0_become_45 ic_1 rfl ?_
      refine ro_isub (pc' := 47) dX0_become_46 rfl ?_
      refine ro_aload_n (pc' := 48) dX0_become_47 rfl rfl rfl ?_
      obtain ⟨v6, hv6, h⟩ := ah_bs h
      refine ro_getR (pc' := 51) ft_0 fk_0 q290 dX0_become_48 rfl hv6 ?_
      refine ro_iload (pc' := 53) dX0_become_51 rfl rfl ?_
      obtain ⟨v7, hv7, h⟩ := ah_bs h
      refine ro_aaload (pc' := 54) (by decide) (by decide) rfl dX0_become_53 rfl hv7 ?_
      obtain ⟨σ8, hσ8, h⟩ := ah_bs h
      refine ro_aastore (pc' := 55) (by decide) (by decide) rfl dX0_become_54 rfl hσ8 ?_
      refine ro_iinc (pc' := 58) (L' := [some (va_rf r0), some (va_rf r1), some (.int x2), some (.int x3), some (va_rf r4), some (.int (x5 + (1 : Int32)))]) dX0_become_55 rfl ic_1 (Nat.le_of_ble_eq_true rfl) rfl (ah_okp_r _) rfl ?_
      refine ro_goto (tgt := 32) dX0_become_58 rfl ?_
      exact ih _ _ _ _ _ _ _ h
set_option maxRecDepth 20000 in
set_option maxHeartbeats 4000000 in
theorem W_X0_become_80 {κ : ah_C} {rr : (Int32 × ah_S)} (hκ : ah_res κ = (.returned (some (.int rr.1)), rr.2))    : ∀ (σ : ah_S) (r0 : Option Nat) (r1 : Option Nat) (x2 : Int32) (x3 : Int32), F_X0_become_80 σ r0 r1 x2 x3 = some rr → ah_G κ ("LeftAsFound", "become", 6, (some FieldType.int), [], 1, 24) cX0_become σ 80 [some (va_rf r0), some (va_rf r1), some (.int x2), some (.int x3), none, none] [] := by
  intro σ r0 r1 x2 x3 h
  unfold F_X0_become_80 at h
  refine ro_aload_n (pc' := 81) dX0_become_80 rfl rfl rfl ?_
  obtain ⟨v1, hv1, h⟩ := ah_bs h
  refine ro_getR (pc' := 84) ft_0 fk_0 q290 dX0_become_81 rfl hv1 ?_
  refine ro_aload_n (pc' := 85) dX0_become_84 rfl rfl rfl ?_
  obtain ⟨v2, hv2, h⟩ := ah_bs h
  refine ro_getI (pc' := 88) ft_2 fk_2 q292 dX0_become_85 rfl hv2 ?_
  obtain ⟨v3, hv3, h⟩ := ah_bs h
  refine ro_aaload (pc' := 89) (by decide) (by decide) rfl dX0_become_88 rfl hv3 ?_
  refine ro_astore (pc' := 91) (L' := [some (va_rf r0), some (va_rf r1), some (.int x2), some (.int x3), some (va_rf v3), none]) dX0_become_89 (Nat.le_of_ble_eq_true rfl) rfl (ah_okp_i _) rfl ?_
  refine ro_aload (pc' := 93) dX0_become_91 rfl rfl ?_
  refine ro_aload_n (pc' := 94) dX0_become_93 rfl rfl rfl ?_
  obtain ⟨σ4, hσ4, h⟩ := ah_bs h
  refine ro_putRN (pc' := 97) ft_500 fk_500 nq280 pd_500 rfl dX0_become_94 rfl hσ4 ?_
  refine ro_aload (pc' := 99) dX0_become_97 rfl rfl ?_
  refine ro_iload_n (pc' := 100) dX0_become_99 rfl rfl rfl ?_
  obtain ⟨σ5, hσ5, h⟩ := ah_bs h
  refine ro_putIN (pc' := 103) ft_501 fk_501 nq281 pd_501 dX0_become_100 rfl hσ5 ?_
  refine ro_aload (pc' := 105) dX0_become_103 rfl rfl ?_
  refine ro_iload_n (pc' := 106) dX0_become_105 rfl rfl rfl ?_
  obtain ⟨σ6, hσ6, h⟩ := ah_bs h
  refine ro_putIN (pc' := 109) ft_502 fk_502 nq282 pd_502 dX0_become_106 rfl hσ6 ?_
  refine ro_aload_n (pc' := 110) dX0_become_109 rfl rfl rfl ?_
  refine ro_iload_n (pc' := 111) dX0_become_110 rfl rfl rfl ?_
  obtain ⟨σ7, hσ7, h⟩ := ah_bs h
  refine ro_putIN (pc' := 114) ft_200 fk_200 nq219 pd_200 dX0_become_111 rfl hσ7 ?_
  refine ro_aload_n (pc' := 115) dX0_become_114 rfl rfl rfl ?_
  refine ro_aload_n (pc' := 116) dX0_become_115 rfl rfl rfl ?_
  refine ro_dup (pc' := 117) dX0_become_116 (ah_rf_cat _) rfl ?_
  obtain ⟨v8, hv8, h⟩ := ah_bs h
  refine ro_getI (pc' := 120) ft_2 fk_2 q292 dX0_become_117 rfl hv8 ?_
  refine ro_iconst (pc' := 121) dX0_become_120 ic_1 rfl ?_
  refine ro_iadd (pc' := 122) dX0_become_121 rfl ?_
  refine ro_dup_x1 (pc' := 123) dX0_become_122 rfl (ah_rf_cat _) rfl ?_
  obtain ⟨σ9, hσ9, h⟩ := ah_bs h
  refine ro_putI (pc' := 126) ft_2 fk_2 q292 pd_2 dX0_become_123 rfl hσ9 ?_
  obtain ⟨σ10, hσ10, h⟩ := ah_bs h
  refine ro_putI (pc' := 129) ft_1 fk_1 q291 pd_1 dX0_become_126 rfl hσ10 ?_
  refine ro_iload_n (pc' := 130) dX0_become_129 rfl rfl rfl ?_
  obtain rfl := Option.some.inj h
  exact ro_iret hκ dX0_become_130
set_option maxRecDepth 20000 in
set_option maxHeartbeats 4000000 in
theorem W_X0_become {κ : ah_C} {rr : (Int32 × ah_S)} (hκ : ah_res κ = (.returned (some (.int rr.1)), rr.2))  (σ : ah_S) (r0 : Option Nat) (r1 : Option Nat) (x2 : Int32) (h : F_X0_become σ r0 r1 x2 = some rr) : ah_G κ ("LeftAsFound", "become", 6, (some FieldType.int), [], 1, 24) cX0_become σ 0 [some (va_rf r0), some (va_rf r1), some (.int x2), none, none, none] [] := by
  unfold F_X0_become at h
  refine ro_aload_n (pc' := 1) dX0_become_0 rfl rfl rfl ?_
  obtain ⟨v1, hv1, h⟩ := ah_bs h
  refine ro_getIN (pc' := 4) ft_200 fk_200 nq219 dX0_become_1 rfl hv1 ?_
  refine ro_istore_n (pc' := 5) (L' := [some (va_rf r0), some (va_rf r1), some (.int x2), some (.int v1), none, none]) dX0_become_4 rfl (Nat.le_of_ble_eq_true rfl) rfl (ah_okp_i _) rfl ?_
  refine ro_iload_n (pc' := 6) dX0_become_5 rfl rfl rfl ?_
  refine ro_iload_n (pc' := 7) dX0_become_6 rfl rfl rfl ?_
  refine ro_icmp_ne (pc' := 10) (tgt := 12) dX0_become_7 rfl rfl (fun c => ?_) (fun c => ?_)
  · replace h := ah_in_ c h
    refine ro_aload_n (pc' := 13) dX0_become_12 rfl rfl rfl ?_
    obtain ⟨v2, hv2, h⟩ := ah_bs h
    refine ro_getI (pc' := 16) ft_2 fk_2 q292 dX0_become_13 rfl hv2 ?_
    refine ro_bipush (pc' := 18) dX0_become_16 ib_40 rfl ?_
    refine ro_icmp_ne (pc' := 21) (tgt := 80) dX0_become_18 rfl rfl (fun c => ?_) (fun c => ?_)
    · replace h := ah_in_ c h
      exact W_X0_become_80 hκ _ _ _ _ _ h
    · replace h := ah_ip c h
      refine ro_aload_n (pc' := 22) dX0_become_21 rfl rfl rfl ?_
      obtain ⟨v3, hv3, h⟩ := ah_bs h
      refine ro_getR (pc' := 25) ft_0 fk_0 q290 dX0_become_22 rfl hv3 ?_
      refine ro_iconst (pc' := 26) dX0_become_25 ic_0 rfl ?_
      obtain ⟨v4, hv4, h⟩ := ah_bs h
      refine ro_aaload (pc' := 27) (by decide) (by decide) rfl dX0_become_26 rfl hv4 ?_
      refine ro_astore (pc' := 29) (L' := [some (va_rf r0), some (va_rf r1), some (.int x2), some (.int v1), some (va_rf v4), none]) dX0_become_27 (Nat.le_of_ble_eq_true rfl) rfl (ah_okp_i _) rfl ?_
      refine ro_iconst (pc' := 30) dX0_become_29 ic_1 rfl ?_
      refine ro_istore (pc' := 32) (L' := [some (va_rf r0), some (va_rf r1), some (.int x2), some (.int v1), some (va_rf v4), some (.int (1 : Int32))]) dX0_become_30 (Nat.le_of_ble_eq_true rfl) rfl (ah_okp_r _) rfl ?_
      exact W_X0_become_32 hκ (W_X0_become_80 hκ) _ _ _ _ _ _ _ _ h
  · replace h := ah_ip c h
    refine ro_iload_n (pc' := 11) dX0_become_10 rfl rfl rfl ?_
    obtain rfl := Option.some.inj h
    exact ro_iret hκ dX0_become_11
theorem M_X0_become {l : Launch} {D : ah_D}  {σ : ah_S} {r0 : Option Nat} {r1 : Option Nat} {x2 : Int32} {v : Int32} {σ1 : ah_S} (h : F_X0_become σ r0 r1 x2 = some (v, σ1)) : ah_Met l yX0_become (Cond.code yX0_become cX0_become 6 (some FieldType.int)) 1 24 D [va_rf r0, va_rf r1, .int x2] σ (.returned (some (.int v)), σ1) :=
  ah_ofG (own := "LeftAsFound") (nm := "become") (L0 := [some (va_rf r0), some (va_rf r1), some (.int x2), none, none, none]) (by decide) rfl rfl rfl (ah_ao_1 (ah_rf_cat _) (ah_ao_1 (ah_rf_cat _) (ah_ao_1 rfl (ah_ao_n (ah_ao_n (ah_ao_n ah_ao_0)))))) (fun κ hκ => W_X0_become hκ  σ r0 r1 x2 h)
set_option maxRecDepth 20000 in
set_option maxHeartbeats 4000000 in
theorem W_X0_bit {κ : ah_C} {rr : (Int32 × ah_S)} (hκ : ah_res κ = (.returned (some (.int rr.1)), rr.2))  (σ : ah_S) (x0 : Int32) (h : F_X0_bit σ x0 = some rr) : ah_G κ ("LeftAsFound", "bit", 1, (some FieldType.int), [], 1, 24) cX0_bit σ 0 [some (.int x0)] [] := by
  unfold F_X0_bit at h
  refine ro_iload_n (pc' := 1) dX0_bit_0 rfl rfl rfl ?_
  refine ro_if_eq (pc' := 4) (tgt := 8) dX0_bit_1 rfl rfl (fun c => ?_) (fun c => ?_)
  · replace h := ah_ip c h
    refine ro_iconst (pc' := 9) dX0_bit_8 ic_0 rfl ?_
    obtain rfl := Option.some.inj h
    exact ro_iret hκ dX0_bit_9
  · replace h := ah_in_ c h
    refine ro_iconst (pc' := 5) dX0_bit_4 ic_1 rfl ?_
    refine ro_goto (tgt := 9) dX0_bit_5 rfl ?_
    obtain rfl := Option.some.inj h
    exact ro_iret hκ dX0_bit_9
theorem M_X0_bit {l : Launch} {D : ah_D}  {σ : ah_S} {x0 : Int32} {v : Int32} {σ1 : ah_S} (h : F_X0_bit σ x0 = some (v, σ1)) : ah_Met l yX0_bit (Cond.code yX0_bit cX0_bit 1 (some FieldType.int)) 1 24 D [.int x0] σ (.returned (some (.int v)), σ1) :=
  ah_ofG (own := "LeftAsFound") (nm := "bit") (L0 := [some (.int x0)]) (by decide) rfl rfl rfl (ah_ao_1 rfl ah_ao_0) (fun κ hκ => W_X0_bit hκ  σ x0 h)
set_option maxRecDepth 20000 in
set_option maxHeartbeats 4000000 in
theorem W_X0_comesAt {κ : ah_C} {rr : (Int32 × ah_S)} (hκ : ah_res κ = (.returned (some (.int rr.1)), rr.2))  (σ : ah_S) (r0 : Option Nat) (x1 : Int32) (h : F_X0_comesAt σ r0 x1 = some rr) : ah_G κ ("LeftAsFound", "comesAt", 2, (some FieldType.int), [], 1, 24) cX0_comesAt σ 0 [some (va_rf r0), some (.int x1)] [] := by
  unfold F_X0_comesAt at h
  refine ro_aload_n (pc' := 1) dX0_comesAt_0 rfl rfl rfl ?_
  obtain ⟨v1, hv1, h⟩ := ah_bs h
  refine ro_getI (pc' := 4) ft_21 fk_21 q315 dX0_comesAt_1 rfl hv1 ?_
  refine ro_if_ne (pc' := 7) (tgt := 11) dX0_comesAt_4 rfl rfl (fun c => ?_) (fun c => ?_)
  · replace h := ah_in_ c h
    refine ro_aload_n (pc' := 12) dX0_comesAt_11 rfl rfl rfl ?_
    obtain ⟨v2, hv2, h⟩ := ah_bs h
    refine ro_getR (pc' := 15) ft_20 fk_20 q314 dX0_comesAt_12 rfl hv2 ?_
    refine ro_iload_n (pc' := 16) dX0_comesAt_15 rfl rfl rfl ?_
    refine ro_aload_n (pc' := 17) dX0_comesAt_16 rfl rfl rfl ?_
    obtain ⟨v3, hv3, h⟩ := ah_bs h
    refine ro_getI (pc' := 20) ft_21 fk_21 q315 dX0_comesAt_17 rfl hv3 ?_
    obtain ⟨q4, hq4, h⟩ := ah_bs h
    refine ro_irem (pc' := 21) dX0_comesAt_20 rfl hq4 ?_
    obtain ⟨v5, hv5, h⟩ := ah_bs h
    refine ro_iaload (pc' := 22) dX0_comesAt_21 rfl hv5 ?_
    obtain rfl := Option.some.inj h
    exact ro_iret hκ dX0_comesAt_22
  · replace h := ah_ip c h
    refine ro_iconst (pc' := 8) dX0_comesAt_7 ic_m1 rfl ?_
    refine ro_goto (tgt := 22) dX0_comesAt_8 rfl ?_
    obtain rfl := Option.some.inj h
    exact ro_iret hκ dX0_comesAt_22
theorem M_X0_comesAt {l : Launch} {D : ah_D}  {σ : ah_S} {r0 : Option Nat} {x1 : Int32} {v : Int32} {σ1 : ah_S} (h : F_X0_comesAt σ r0 x1 = some (v, σ1)) : ah_Met l yX0_comesAt (Cond.code yX0_comesAt cX0_comesAt 2 (some FieldType.int)) 1 24 D [va_rf r0, .int x1] σ (.returned (some (.int v)), σ1) :=
  ah_ofG (own := "LeftAsFound") (nm := "comesAt") (L0 := [some (va_rf r0), some (.int x1)]) (by decide) rfl rfl rfl (ah_ao_1 (ah_rf_cat _) (ah_ao_1 rfl ah_ao_0)) (fun κ hκ => W_X0_comesAt hκ  σ r0 x1 h)
set_option maxRecDepth 20000 in
set_option maxHeartbeats 4000000 in
theorem W_X0_ones_4 {κ : ah_C} {rr : (Int32 × ah_S)} (hκ : ah_res κ = (.returned (some (.int rr.1)), rr.2))    : ∀ (n : Nat) (σ : ah_S) (x1 : Int32) (x2 : Int32), F_X0_ones_4 n σ x1 x2 = some rr → ah_G κ ("LeftAsFound", "ones", 3, (some FieldType.int), [], 1, 24) cX0_ones σ 4 [none, some (.int x1), some (.int x2)] [] := by
  intro n
  induction n with
  | zero => intro σ x1 x2 h; cases h
  | succ n ih =>
    intro σ x1 x2 h
    rw [F_X0_ones_4] at h
    refine ro_iload_n (pc' := 5) dX0_ones_4 rfl rfl rfl ?_
    refine ro_if_eq (pc' := 8) (tgt := 20) dX0_ones_5 rfl rfl (fun c => ?_) (fun c => ?_)
    · replace h := ah_ip c h
      refine ro_iload_n (pc' := 21) dX0_ones_20 rfl rfl rfl ?_
      obtain rfl := Option.some.inj h
      exact ro_iret hκ dX0_ones_21
    · replace h := ah_in_ c h
      refine ro_iinc (pc' := 11) (L' := [none, some (.int (x1 + (1 : Int32))), some (.int x2)]) dX0_ones_8 rfl ic_1 (Nat.le_of_ble_eq_true rfl) rfl ah_okp_u rfl ?_
      refine ro_iload_n (pc' := 12) dX0_ones_11 rfl rfl rfl ?_
      refine ro_iload_n (pc' := 13) dX0_ones_12 rfl rfl rfl ?_
      refine ro_iconst (pc' := 14) dX0_ones_13 ic_1 rfl ?_
      refine ro_isub (pc' := 15) dX0_ones_14 rfl ?_
      refine ro_iand (pc' := 16) dX0_ones_15 rfl ?_
      refine ro_istore_n (pc' := 17) (L' := [none, some (.int (x1 + (1 : Int32))), some (.int (x2 &&& (x2 - (1 : Int32))))]) dX0_ones_16 rfl (Nat.le_of_ble_eq_true rfl) rfl (ah_okp_i _) rfl ?_
      refine ro_goto (tgt := 4) dX0_ones_17 rfl ?_
      exact ih _ _ _ h
set_option maxRecDepth 20000 in
set_option maxHeartbeats 4000000 in
theorem W_X0_ones {κ : ah_C} {rr : (Int32 × ah_S)} (hκ : ah_res κ = (.returned (some (.int rr.1)), rr.2))  (σ : ah_S) (x0 : Int32) (h : F_X0_ones σ x0 = some rr) : ah_G κ ("LeftAsFound", "ones", 3, (some FieldType.int), [], 1, 24) cX0_ones σ 0 [some (.int x0), none, none] [] := by
  unfold F_X0_ones at h
  refine ro_iconst (pc' := 1) dX0_ones_0 ic_0 rfl ?_
  refine ro_istore_n (pc' := 2) (L' := [some (.int x0), some (.int (0 : Int32)), none]) dX0_ones_1 rfl (Nat.le_of_ble_eq_true rfl) rfl (ah_okp_i _) rfl ?_
  refine ro_iload_n (pc' := 3) dX0_ones_2 rfl rfl rfl ?_
  refine ro_istore_n (pc' := 4) (L' := [some (.int x0), some (.int (0 : Int32)), some (.int x0)]) dX0_ones_3 rfl (Nat.le_of_ble_eq_true rfl) rfl (ah_okp_i _) rfl ?_
  refine ro_weak (L' := [none, some (.int (0 : Int32)), some (.int x0)]) (ah_ls_n (ah_ls_s (ah_ls_s ah_ls_0))) ?_
  exact W_X0_ones_4 hκ _ _ _ _ h
theorem M_X0_ones {l : Launch} {D : ah_D}  {σ : ah_S} {x0 : Int32} {v : Int32} {σ1 : ah_S} (h : F_X0_ones σ x0 = some (v, σ1)) : ah_Met l yX0_ones (Cond.code yX0_ones cX0_ones 3 (some FieldType.int)) 1 24 D [.int x0] σ (.returned (some (.int v)), σ1) :=
  ah_ofG (own := "LeftAsFound") (nm := "ones") (L0 := [some (.int x0), none, none]) (by decide) rfl rfl rfl (ah_ao_1 rfl (ah_ao_n (ah_ao_n ah_ao_0))) (fun κ hκ => W_X0_ones hκ  σ x0 h)
set_option maxRecDepth 20000 in
set_option maxHeartbeats 4000000 in
theorem W_X0_count {κ : ah_C} {rr : (Int32 × ah_S)} (hκ : ah_res κ = (.returned (some (.int rr.1)), rr.2))  (σ : ah_S) (r0 : Option Nat) (x1 : Int32) (h : F_X0_count σ r0 x1 = some rr) : ah_G κ ("LeftAsFound", "count", 2, (some FieldType.int), [], 2, 46) cX0_count σ 0 [some (va_rf r0), some (.int x1)] [] := by
  unfold F_X0_count at h
  refine ro_iload_n (pc' := 1) dX0_count_0 rfl rfl rfl ?_
  by_cases c1_0 : x1 = (0 : Int32)
  · replace h := ah_ip c1_0 h
    refine ro_tabIn (tgt := 40) 0 c1_0 dX0_count_1 (by decide) (by decide) rfl rfl ?_
    refine ro_aload_n (pc' := 41) dX0_count_40 rfl rfl rfl ?_
    obtain ⟨v1, hv1, h⟩ := ah_bs h
    refine ro_getI (pc' := 44) ft_8 fk_8 q299 dX0_count_41 rfl hv1 ?_
    obtain rfl := Option.some.inj h
    exact ro_iret hκ dX0_count_44
  replace h := ah_in_ c1_0 h
  by_cases c1_1 : x1 = (1 : Int32)
  · replace h := ah_ip c1_1 h
    refine ro_tabIn (tgt := 45) 1 c1_1 dX0_count_1 (by decide) (by decide) rfl rfl ?_
    refine ro_aload_n (pc' := 46) dX0_count_45 rfl rfl rfl ?_
    obtain ⟨v2, hv2, h⟩ := ah_bs h
    refine ro_getR (pc' := 49) ft_18 fk_18 q312 dX0_count_46 rfl hv2 ?_
    obtain ⟨v3, hv3, h⟩ := ah_bs h
    refine ro_getIN (pc' := 52) ft_403 fk_403 nq251 dX0_count_49 rfl hv3 ?_
    obtain ⟨v4, σ5, hv4, h⟩ := ah_bs2 h
    refine ro_callS (pc' := 55) (As := [.int v3]) (rest := []) (st' := [.int v4]) q1301 (M_X0_ones hv4) q1300 q1302 q95 dd_X0_ones rfl ⟨Nat.le_of_ble_eq_true rfl, Nat.le_of_ble_eq_true rfl⟩ (Nat.le_of_ble_eq_true rfl) dX0_count_52 rfl rfl rfl ?_
    obtain rfl := Option.some.inj h
    exact ro_iret hκ dX0_count_55
  replace h := ah_in_ c1_1 h
  by_cases c1_2 : x1 = (2 : Int32)
  · replace h := ah_ip c1_2 h
    refine ro_tabIn (tgt := 56) 2 c1_2 dX0_count_1 (by decide) (by decide) rfl rfl ?_
    refine ro_aload_n (pc' := 57) dX0_count_56 rfl rfl rfl ?_
    obtain ⟨v6, hv6, h⟩ := ah_bs h
    refine ro_getI (pc' := 60) ft_4 fk_4 q294 dX0_count_57 rfl hv6 ?_
    obtain rfl := Option.some.inj h
    exact ro_iret hκ dX0_count_60
  replace h := ah_in_ c1_2 h
  by_cases c1_3 : x1 = (3 : Int32)
  · replace h := ah_ip c1_3 h
    refine ro_tabIn (tgt := 61) 3 c1_3 dX0_count_1 (by decide) (by decide) rfl rfl ?_
    refine ro_aload_n (pc' := 62) dX0_count_61 rfl rfl rfl ?_
    obtain ⟨v7, hv7, h⟩ := ah_bs h
    refine ro_getI (pc' := 65) ft_2 fk_2 q292 dX0_count_62 rfl hv7 ?_
    obtain rfl := Option.some.inj h
    exact ro_iret hκ dX0_count_65
  replace h := ah_in_ c1_3 h
  by_cases c1_4 : x1 = (4 : Int32)
  · replace h := ah_ip c1_4 h
    refine ro_tabIn (tgt := 66) 4 c1_4 dX0_count_1 (by decide) (by decide) rfl rfl ?_
    refine ro_aload_n (pc' := 67) dX0_count_66 rfl rfl rfl ?_
    obtain ⟨v8, hv8, h⟩ := ah_bs h
    refine ro_getI (pc' := 70) ft_38 fk_38 q332 dX0_count_67 rfl hv8 ?_
    obtain rfl := Option.some.inj h
    exact ro_iret hκ dX0_count_70
  replace h := ah_in_ c1_4 h
  by_cases c1_5 : x1 = (5 : Int32)
  · replace h := ah_ip c1_5 h
    refine ro_tabIn (tgt := 71) 5 c1_5 dX0_count_1 (by decide) (by decide) rfl rfl ?_
    refine ro_aload_n (pc' := 72) dX0_count_71 rfl rfl rfl ?_
    obtain ⟨v9, hv9, h⟩ := ah_bs h
    refine ro_getI (pc' := 75) ft_40 fk_40 q336 dX0_count_72 rfl hv9 ?_
    obtain rfl := Option.some.inj h
    exact ro_iret hκ dX0_count_75
  replace h := ah_in_ c1_5 h
  refine ro_tabOut (tgt := 76) dX0_count_1 (by have e0 := lv_neT (a := 0) c1_0 (by decide); have e1 := lv_neT (a := 1) c1_1 (by decide); have e2 := lv_neT (a := 2) c1_2 (by decide); have e3 := lv_neT (a := 3) c1_3 (by decide); have e4 := lv_neT (a := 4) c1_4 (by decide); have e5 := lv_neT (a := 5) c1_5 (by decide); omega) rfl ?_
  refine ro_iconst (pc' := 77) dX0_count_76 ic_m1 rfl ?_
  obtain rfl := Option.some.inj h
  exact ro_iret hκ dX0_count_77
theorem M_X0_count {l : Launch} {D : ah_D}  {σ : ah_S} {r0 : Option Nat} {x1 : Int32} {v : Int32} {σ1 : ah_S} (h : F_X0_count σ r0 x1 = some (v, σ1)) : ah_Met l yX0_count (Cond.code yX0_count cX0_count 2 (some FieldType.int)) 2 46 D [va_rf r0, .int x1] σ (.returned (some (.int v)), σ1) :=
  ah_ofG (own := "LeftAsFound") (nm := "count") (L0 := [some (va_rf r0), some (.int x1)]) (by decide) rfl rfl rfl (ah_ao_1 (ah_rf_cat _) (ah_ao_1 rfl ah_ao_0)) (fun κ hκ => W_X0_count hκ  σ r0 x1 h)
set_option maxRecDepth 20000 in
set_option maxHeartbeats 4000000 in
theorem W_X0_within {κ : ah_C} {rr : (Int32 × ah_S)} (hκ : ah_res κ = (.returned (some (.int rr.1)), rr.2))  (σ : ah_S) (l0 : Int64) (l2 : Int64) (l4 : Int64) (h : F_X0_within σ l0 l2 l4 = some rr) : ah_G κ ("LeftAsFound", "within", 6, (some FieldType.boolean), [], 1, 24) cX0_within σ 0 [some (.long l0), none, some (.long l2), none, some (.long l4), none] [] := by
  unfold F_X0_within at h
  refine ro_lload_n (pc' := 1) dX0_within_0 rfl rfl rfl ?_
  refine ro_lload_n (pc' := 2) dX0_within_1 rfl rfl rfl ?_
  refine ro_lcmp (pc' := 3) dX0_within_2 rfl ?_
  refine ro_if_lt (pc' := 6) (tgt := 17) dX0_within_3 rfl rfl (fun c => ?_) (fun c => ?_)
  · replace h := ah_ip c h
    refine ro_iconst (pc' := 18) dX0_within_17 ic_0 rfl ?_
    obtain rfl := Option.some.inj h
    exact ro_zret rfl hκ dX0_within_18
  · replace h := ah_in_ c h
    refine ro_lload_n (pc' := 7) dX0_within_6 rfl rfl rfl ?_
    refine ro_lload (pc' := 9) dX0_within_7 rfl rfl ?_
    refine ro_lcmp (pc' := 10) dX0_within_9 rfl ?_
    refine ro_if_gt (pc' := 13) (tgt := 17) dX0_within_10 rfl rfl (fun c => ?_) (fun c => ?_)
    · replace h := ah_ip c h
      refine ro_iconst (pc' := 18) dX0_within_17 ic_0 rfl ?_
      obtain rfl := Option.some.inj h
      exact ro_zret rfl hκ dX0_within_18
    · replace h := ah_in_ c h
      refine ro_iconst (pc' := 14) dX0_within_13 ic_1 rfl ?_
      refine ro_goto (tgt := 18) dX0_within_14 rfl ?_
      obtain rfl := Option.some.inj h
      exact ro_zret rfl hκ dX0_within_18
theorem M_X0_within {l : Launch} {D : ah_D}  {σ : ah_S} {l0 : Int64} {l2 : Int64} {l4 : Int64} {v : Int32} {σ1 : ah_S} (h : F_X0_within σ l0 l2 l4 = some (v, σ1)) : ah_Met l yX0_within (Cond.code yX0_within cX0_within 6 (some FieldType.boolean)) 1 24 D [.long l0, .long l2, .long l4] σ (.returned (some (.int v)), σ1) :=
  ah_ofG (own := "LeftAsFound") (nm := "within") (L0 := [some (.long l0), none, some (.long l2), none, some (.long l4), none]) (by decide) rfl rfl rfl (ah_ao_2 rfl (ah_ao_2 rfl (ah_ao_2 rfl ah_ao_0))) (fun κ hκ => W_X0_within hκ  σ l0 l2 l4 h)
set_option maxRecDepth 20000 in
set_option maxHeartbeats 4000000 in
theorem W_X0_isShelf {κ : ah_C} {rr : (Int32 × ah_S)} (hκ : ah_res κ = (.returned (some (.int rr.1)), rr.2))  (σ : ah_S) (x0 : Int32) (h : F_X0_isShelf σ x0 = some rr) : ah_G κ ("LeftAsFound", "isShelf", 1, (some FieldType.boolean), [], 2, 49) cX0_isShelf σ 0 [some (.int x0)] [] := by
  unfold F_X0_isShelf at h
  refine ro_iload_n (pc' := 1) dX0_isShelf_0 rfl rfl rfl ?_
  refine ro_i2l (pc' := 2) dX0_isShelf_1 rfl ?_
  refine ro_lconst (pc' := 3) dX0_isShelf_2 lc_0 rfl ?_
  refine ro_ldc2 (pc' := 6) q473 dX0_isShelf_3 rfl ?_
  obtain ⟨v1, σ2, hv1, h⟩ := ah_bs2 h
  refine ro_callS (pc' := 9) (As := [.long (x0.toInt64), .long (0 : Int64), .long (5 : Int64)]) (rest := []) (st' := [.int v1]) q429 (M_X0_within hv1) q428 q430 q95 dd_X0_within rfl ⟨Nat.le_of_ble_eq_true rfl, Nat.le_of_ble_eq_true rfl⟩ (Nat.le_of_ble_eq_true rfl) dX0_isShelf_6 rfl rfl rfl ?_
  obtain ⟨z3, hz3, g⟩ := ah_bs h
  obtain ⟨ez3, hz3⟩ := ah_z_n hz3
  subst ez3
  obtain rfl := Option.some.inj g
  exact ro_zret hz3 hκ dX0_isShelf_9
theorem M_X0_isShelf {l : Launch} {D : ah_D}  {σ : ah_S} {x0 : Int32} {v : Int32} {σ1 : ah_S} (h : F_X0_isShelf σ x0 = some (v, σ1)) : ah_Met l yX0_isShelf (Cond.code yX0_isShelf cX0_isShelf 1 (some FieldType.boolean)) 2 49 D [.int x0] σ (.returned (some (.int v)), σ1) :=
  ah_ofG (own := "LeftAsFound") (nm := "isShelf") (L0 := [some (.int x0)]) (by decide) rfl rfl rfl (ah_ao_1 rfl ah_ao_0) (fun κ hκ => W_X0_isShelf hκ  σ x0 h)
set_option maxRecDepth 20000 in
set_option maxHeartbeats 4000000 in
theorem W_X0_sortOf {κ : ah_C} {rr : (Int32 × ah_S)} (hκ : ah_res κ = (.returned (some (.int rr.1)), rr.2))  (σ : ah_S) (r0 : Option Nat) (h : F_X0_sortOf σ r0 = some rr) : ah_G κ ("LeftAsFound", "sortOf", 1, (some FieldType.int), [], 1, 24) cX0_sortOf σ 0 [some (va_rf r0)] [] := by
  unfold F_X0_sortOf at h
  refine ro_aload_n (pc' := 1) dX0_sortOf_0 rfl rfl rfl ?_
  obtain ⟨v1, hv1, h⟩ := ah_bs h
  refine ro_instA (pc' := 4) (t := 102) (by decide) q478 dX0_sortOf_1 rfl hv1 ?_
  refine ro_if_eq (pc' := 7) (tgt := 11) dX0_sortOf_4 rfl rfl (fun c => ?_) (fun c => ?_)
  · replace h := ah_ip c h
    refine ro_aload_n (pc' := 12) dX0_sortOf_11 rfl rfl rfl ?_
    obtain ⟨v2, hv2, h⟩ := ah_bs h
    refine ro_instA (pc' := 15) (t := 103) (by decide) q479 dX0_sortOf_12 rfl hv2 ?_
    refine ro_if_eq (pc' := 18) (tgt := 22) dX0_sortOf_15 rfl rfl (fun c => ?_) (fun c => ?_)
    · replace h := ah_ip c h
      refine ro_aload_n (pc' := 23) dX0_sortOf_22 rfl rfl rfl ?_
      obtain ⟨v3, hv3, h⟩ := ah_bs h
      refine ro_instA (pc' := 26) (t := 101) (by decide) q480 dX0_sortOf_23 rfl hv3 ?_
      refine ro_if_eq (pc' := 29) (tgt := 33) dX0_sortOf_26 rfl rfl (fun c => ?_) (fun c => ?_)
      · replace h := ah_ip c h
        refine ro_aload_n (pc' := 34) dX0_sortOf_33 rfl rfl rfl ?_
        obtain ⟨v4, hv4, h⟩ := ah_bs h
        refine ro_instA (pc' := 37) (t := 104) (by decide) q481 dX0_sortOf_34 rfl hv4 ?_
        refine ro_if_eq (pc' := 40) (tgt := 44) dX0_sortOf_37 rfl rfl (fun c => ?_) (fun c => ?_)
        · replace h := ah_ip c h
          refine ro_aload_n (pc' := 45) dX0_sortOf_44 rfl rfl rfl ?_
          obtain ⟨v5, hv5, h⟩ := ah_bs h
          refine ro_instA (pc' := 48) (t := 105) (by decide) q482 dX0_sortOf_45 rfl hv5 ?_
          refine ro_if_eq (pc' := 51) (tgt := 55) dX0_sortOf_48 rfl rfl (fun c => ?_) (fun c => ?_)
          · replace h := ah_ip c h
            refine ro_iconst (pc' := 56) dX0_sortOf_55 ic_m1 rfl ?_
            obtain rfl := Option.some.inj h
            exact ro_iret hκ dX0_sortOf_56
          · replace h := ah_in_ c h
            refine ro_iconst (pc' := 52) dX0_sortOf_51 ic_4 rfl ?_
            refine ro_goto (tgt := 56) dX0_sortOf_52 rfl ?_
            obtain rfl := Option.some.inj h
            exact ro_iret hκ dX0_sortOf_56
        · replace h := ah_in_ c h
          refine ro_iconst (pc' := 41) dX0_sortOf_40 ic_3 rfl ?_
          refine ro_goto (tgt := 56) dX0_sortOf_41 rfl ?_
          obtain rfl := Option.some.inj h
          exact ro_iret hκ dX0_sortOf_56
      · replace h := ah_in_ c h
        refine ro_iconst (pc' := 30) dX0_sortOf_29 ic_2 rfl ?_
        refine ro_goto (tgt := 56) dX0_sortOf_30 rfl ?_
        obtain rfl := Option.some.inj h
        exact ro_iret hκ dX0_sortOf_56
    · replace h := ah_in_ c h
      refine ro_iconst (pc' := 19) dX0_sortOf_18 ic_1 rfl ?_
      refine ro_goto (tgt := 56) dX0_sortOf_19 rfl ?_
      obtain rfl := Option.some.inj h
      exact ro_iret hκ dX0_sortOf_56
  · replace h := ah_in_ c h
    refine ro_iconst (pc' := 8) dX0_sortOf_7 ic_0 rfl ?_
    refine ro_goto (tgt := 56) dX0_sortOf_8 rfl ?_
    obtain rfl := Option.some.inj h
    exact ro_iret hκ dX0_sortOf_56
theorem M_X0_sortOf {l : Launch} {D : ah_D}  {σ : ah_S} {r0 : Option Nat} {v : Int32} {σ1 : ah_S} (h : F_X0_sortOf σ r0 = some (v, σ1)) : ah_Met l yX0_sortOf (Cond.code yX0_sortOf cX0_sortOf 1 (some FieldType.int)) 1 24 D [va_rf r0] σ (.returned (some (.int v)), σ1) :=
  ah_ofG (own := "LeftAsFound") (nm := "sortOf") (L0 := [some (va_rf r0)]) (by decide) rfl rfl rfl (ah_ao_1 (ah_rf_cat _) ah_ao_0) (fun κ hκ => W_X0_sortOf hκ  σ r0 h)
set_option maxRecDepth 20000 in
set_option maxHeartbeats 4000000 in
theorem W_X0_sizeOf {κ : ah_C} {rr : (Int32 × ah_S)} (hκ : ah_res κ = (.returned (some (.int rr.1)), rr.2))  (σ : ah_S) (r0 : Option Nat) (h : F_X0_sizeOf σ r0 = some rr) : ah_G κ ("LeftAsFound", "sizeOf", 1, (some FieldType.int), [], 2, 44) cX0_sizeOf σ 0 [some (va_rf r0)] [] := by
  unfold F_X0_sizeOf at h
  refine ro_aload_n (pc' := 1) dX0_sizeOf_0 rfl rfl rfl ?_
  obtain ⟨v1, σ2, hv1, h⟩ := ah_bs2 h
  refine ro_callS (pc' := 4) (As := [va_rf r0]) (rest := []) (st' := [.int v1]) q476 (M_X0_sortOf hv1) q475 q477 q95 dd_X0_sortOf rfl ⟨Nat.le_of_ble_eq_true rfl, Nat.le_of_ble_eq_true rfl⟩ (Nat.le_of_ble_eq_true rfl) dX0_sizeOf_1 rfl rfl rfl ?_
  by_cases c4_0 : v1 = (0 : Int32)
  · replace h := ah_ip c4_0 h
    refine ro_tabIn (tgt := 36) 0 c4_0 dX0_sizeOf_4 (by decide) (by decide) rfl rfl ?_
    refine ro_aload_n (pc' := 37) dX0_sizeOf_36 rfl rfl rfl ?_
    obtain ⟨u3, hu3, h⟩ := ah_bs h
    refine ro_castA (pc' := 40) (t := 102) (by decide) q478 dX0_sizeOf_37 rfl hu3 ?_
    obtain ⟨v4, hv4, h⟩ := ah_bs h
    refine ro_alen (pc' := 41) dX0_sizeOf_40 rfl hv4 ?_
    obtain rfl := Option.some.inj h
    exact ro_iret hκ dX0_sizeOf_41
  replace h := ah_in_ c4_0 h
  by_cases c4_1 : v1 = (1 : Int32)
  · replace h := ah_ip c4_1 h
    refine ro_tabIn (tgt := 42) 1 c4_1 dX0_sizeOf_4 (by decide) (by decide) rfl rfl ?_
    refine ro_aload_n (pc' := 43) dX0_sizeOf_42 rfl rfl rfl ?_
    obtain ⟨u5, hu5, h⟩ := ah_bs h
    refine ro_castA (pc' := 46) (t := 103) (by decide) q479 dX0_sizeOf_43 rfl hu5 ?_
    obtain ⟨v6, hv6, h⟩ := ah_bs h
    refine ro_alen (pc' := 47) dX0_sizeOf_46 rfl hv6 ?_
    obtain rfl := Option.some.inj h
    exact ro_iret hκ dX0_sizeOf_47
  replace h := ah_in_ c4_1 h
  by_cases c4_2 : v1 = (2 : Int32)
  · replace h := ah_ip c4_2 h
    refine ro_tabIn (tgt := 48) 2 c4_2 dX0_sizeOf_4 (by decide) (by decide) rfl rfl ?_
    refine ro_aload_n (pc' := 49) dX0_sizeOf_48 rfl rfl rfl ?_
    obtain ⟨u7, hu7, h⟩ := ah_bs h
    refine ro_castA (pc' := 52) (t := 101) (by decide) q480 dX0_sizeOf_49 rfl hu7 ?_
    obtain ⟨v8, hv8, h⟩ := ah_bs h
    refine ro_alen (pc' := 53) dX0_sizeOf_52 rfl hv8 ?_
    obtain rfl := Option.some.inj h
    exact ro_iret hκ dX0_sizeOf_53
  replace h := ah_in_ c4_2 h
  by_cases c4_3 : v1 = (3 : Int32)
  · replace h := ah_ip c4_3 h
    refine ro_tabIn (tgt := 54) 3 c4_3 dX0_sizeOf_4 (by decide) (by decide) rfl rfl ?_
    refine ro_aload_n (pc' := 55) dX0_sizeOf_54 rfl rfl rfl ?_
    obtain ⟨u9, hu9, h⟩ := ah_bs h
    refine ro_castA (pc' := 58) (t := 104) (by decide) q481 dX0_sizeOf_55 rfl hu9 ?_
    obtain ⟨v10, hv10, h⟩ := ah_bs h
    refine ro_alen (pc' := 59) dX0_sizeOf_58 rfl hv10 ?_
    obtain rfl := Option.some.inj h
    exact ro_iret hκ dX0_sizeOf_59
  replace h := ah_in_ c4_3 h
  refine ro_tabOut (tgt := 60) dX0_sizeOf_4 (by have e0 := lv_neT (a := 0) c4_0 (by decide); have e1 := lv_neT (a := 1) c4_1 (by decide); have e2 := lv_neT (a := 2) c4_2 (by decide); have e3 := lv_neT (a := 3) c4_3 (by decide); omega) rfl ?_
  refine ro_aload_n (pc' := 61) dX0_sizeOf_60 rfl rfl rfl ?_
  obtain ⟨u11, hu11, h⟩ := ah_bs h
  refine ro_castA (pc' := 64) (t := 105) (by decide) q482 dX0_sizeOf_61 rfl hu11 ?_
  obtain ⟨v12, hv12, h⟩ := ah_bs h
  refine ro_alen (pc' := 65) dX0_sizeOf_64 rfl hv12 ?_
  obtain rfl := Option.some.inj h
  exact ro_iret hκ dX0_sizeOf_65
theorem M_X0_sizeOf {l : Launch} {D : ah_D}  {σ : ah_S} {r0 : Option Nat} {v : Int32} {σ1 : ah_S} (h : F_X0_sizeOf σ r0 = some (v, σ1)) : ah_Met l yX0_sizeOf (Cond.code yX0_sizeOf cX0_sizeOf 1 (some FieldType.int)) 2 44 D [va_rf r0] σ (.returned (some (.int v)), σ1) :=
  ah_ofG (own := "LeftAsFound") (nm := "sizeOf") (L0 := [some (va_rf r0)]) (by decide) rfl rfl rfl (ah_ao_1 (ah_rf_cat _) ah_ao_0) (fun κ hκ => W_X0_sizeOf hκ  σ r0 h)
set_option maxRecDepth 20000 in
set_option maxHeartbeats 4000000 in
theorem W_X0_refusal {κ : ah_C} {rr : (Int32 × ah_S)} (hκ : ah_res κ = (.returned (some (.int rr.1)), rr.2))  (σ : ah_S) (r0 : Option Nat) (x1 : Int32) (x2 : Int32) (h : F_X0_refusal σ r0 x1 x2 = some rr) : ah_G κ ("LeftAsFound", "refusal", 4, (some FieldType.int), [], 3, 69) cX0_refusal σ 0 [some (va_rf r0), some (.int x1), some (.int x2), none] [] := by
  unfold F_X0_refusal at h
  refine ro_iload_n (pc' := 1) dX0_refusal_0 rfl rfl rfl ?_
  obtain ⟨v1, σ2, hv1, h⟩ := ah_bs2 h
  refine ro_callS (pc' := 4) (As := [.int x1]) (rest := []) (st' := [.int v1]) q471 (M_X0_isShelf hv1) q470 q472 q95 dd_X0_isShelf rfl ⟨Nat.le_of_ble_eq_true rfl, Nat.le_of_ble_eq_true rfl⟩ (Nat.le_of_ble_eq_true rfl) dX0_refusal_1 rfl rfl rfl ?_
  refine ro_if_ne (pc' := 7) (tgt := 9) dX0_refusal_4 rfl rfl (fun c => ?_) (fun c => ?_)
  · replace h := ah_in_ c h
    refine ro_aload_n (pc' := 10) dX0_refusal_9 rfl rfl rfl ?_
    obtain ⟨v3, hv3, h⟩ := ah_bs h
    refine ro_getR (pc' := 13) ft_41 fk_41 q337 dX0_refusal_10 rfl hv3 ?_
    refine ro_iload_n (pc' := 14) dX0_refusal_13 rfl rfl rfl ?_
    obtain ⟨v4, hv4, h⟩ := ah_bs h
    refine ro_aaload (pc' := 15) (by decide) (by decide) rfl dX0_refusal_14 rfl hv4 ?_
    refine ro_astore_n (pc' := 16) (L' := [some (va_rf r0), some (.int x1), some (.int x2), some (va_rf v4)]) dX0_refusal_15 rfl (Nat.le_of_ble_eq_true rfl) rfl (ah_okp_i _) rfl ?_
    refine ro_aload_n (pc' := 17) dX0_refusal_16 rfl rfl rfl ?_
    refine ro_ifnonnull (pc' := 20) (tgt := 23) dX0_refusal_17 rfl rfl (fun c => ?_) (fun c => ?_)
    · replace h := ah_in_ c h
      refine ro_aload_n (pc' := 24) dX0_refusal_23 rfl rfl rfl ?_
      obtain ⟨v5, σ6, hv5, h⟩ := ah_bs2 h
      refine ro_callS (pc' := 27) (As := [va_rf v4]) (rest := []) (st' := [.int v5]) q476 (M_X0_sortOf hv5) q475 q477 q95 dd_X0_sortOf rfl ⟨Nat.le_of_ble_eq_true rfl, Nat.le_of_ble_eq_true rfl⟩ (Nat.le_of_ble_eq_true rfl) dX0_refusal_24 rfl rfl rfl ?_
      refine ro_iconst (pc' := 28) dX0_refusal_27 ic_m1 rfl ?_
      refine ro_icmp_ne (pc' := 31) (tgt := 34) dX0_refusal_28 rfl rfl (fun c => ?_) (fun c => ?_)
      · replace h := ah_in_ c h
        refine ro_iload_n (pc' := 35) dX0_refusal_34 rfl rfl rfl ?_
        refine ro_i2l (pc' := 36) dX0_refusal_35 rfl ?_
        refine ro_lconst (pc' := 37) dX0_refusal_36 lc_0 rfl ?_
        refine ro_aload_n (pc' := 38) dX0_refusal_37 rfl rfl rfl ?_
        obtain ⟨v7, σ8, hv7, h⟩ := ah_bs2 h
        refine ro_callS (pc' := 41) (As := [va_rf v4]) (rest := [.long (0 : Int64), .long (x2.toInt64)]) (st' := [.int v7, .long (0 : Int64), .long (x2.toInt64)]) q1223 (M_X0_sizeOf hv7) q1222 q1224 q95 dd_X0_sizeOf rfl ⟨Nat.le_of_ble_eq_true rfl, Nat.le_of_ble_eq_true rfl⟩ (Nat.le_of_ble_eq_true rfl) dX0_refusal_38 rfl rfl rfl ?_
        refine ro_iconst (pc' := 42) dX0_refusal_41 ic_1 rfl ?_
        refine ro_isub (pc' := 43) dX0_refusal_42 rfl ?_
        refine ro_i2l (pc' := 44) dX0_refusal_43 rfl ?_
        obtain ⟨v9, σ10, hv9, h⟩ := ah_bs2 h
        refine ro_callS (pc' := 47) (As := [.long (x2.toInt64), .long (0 : Int64), .long ((v7 - (1 : Int32)).toInt64)]) (rest := []) (st' := [.int v9]) q429 (M_X0_within hv9) q428 q430 q95 dd_X0_within rfl ⟨Nat.le_of_ble_eq_true rfl, Nat.le_of_ble_eq_true rfl⟩ (Nat.le_of_ble_eq_true rfl) dX0_refusal_44 rfl rfl rfl ?_
        refine ro_if_eq (pc' := 50) (tgt := 54) dX0_refusal_47 rfl rfl (fun c => ?_) (fun c => ?_)
        · replace h := ah_ip c h
          refine ro_bipush (pc' := 56) dX0_refusal_54 ib_m13 rfl ?_
          obtain rfl := Option.some.inj h
          exact ro_iret hκ dX0_refusal_56
        · replace h := ah_in_ c h
          refine ro_iconst (pc' := 51) dX0_refusal_50 ic_0 rfl ?_
          refine ro_goto (tgt := 56) dX0_refusal_51 rfl ?_
          obtain rfl := Option.some.inj h
          exact ro_iret hκ dX0_refusal_56
      · replace h := ah_ip c h
        refine ro_bipush (pc' := 33) dX0_refusal_31 ib_m12 rfl ?_
        obtain rfl := Option.some.inj h
        exact ro_iret hκ dX0_refusal_33
    · replace h := ah_ip c h
      refine ro_bipush (pc' := 22) dX0_refusal_20 ib_m11 rfl ?_
      obtain rfl := Option.some.inj h
      exact ro_iret hκ dX0_refusal_22
  · replace h := ah_ip c h
    refine ro_iconst (pc' := 8) dX0_refusal_7 ic_m1 rfl ?_
    obtain rfl := Option.some.inj h
    exact ro_iret hκ dX0_refusal_8
theorem M_X0_refusal {l : Launch} {D : ah_D}  {σ : ah_S} {r0 : Option Nat} {x1 : Int32} {x2 : Int32} {v : Int32} {σ1 : ah_S} (h : F_X0_refusal σ r0 x1 x2 = some (v, σ1)) : ah_Met l yX0_refusal (Cond.code yX0_refusal cX0_refusal 4 (some FieldType.int)) 3 69 D [va_rf r0, .int x1, .int x2] σ (.returned (some (.int v)), σ1) :=
  ah_ofG (own := "LeftAsFound") (nm := "refusal") (L0 := [some (va_rf r0), some (.int x1), some (.int x2), none]) (by decide) rfl rfl rfl (ah_ao_1 (ah_rf_cat _) (ah_ao_1 rfl (ah_ao_1 rfl (ah_ao_n ah_ao_0)))) (fun κ hκ => W_X0_refusal hκ  σ r0 x1 x2 h)
set_option maxRecDepth 20000 in
set_option maxHeartbeats 4000000 in
theorem W_X0_element {κ : ah_C} {rr : (Int64 × ah_S)} (hκ : ah_res κ = (.returned (some (.long rr.1)), rr.2))  (σ : ah_S) (r0 : Option Nat) (x1 : Int32) (x2 : Int32) (h : F_X0_element σ r0 x1 x2 = some rr) : ah_G κ ("LeftAsFound", "element", 4, (some FieldType.long), [], 4, 92) cX0_element σ 0 [some (va_rf r0), some (.int x1), some (.int x2), none] [] := by
  unfold F_X0_element at h
  refine ro_aload_n (pc' := 1) dX0_element_0 rfl rfl rfl ?_
  refine ro_iload_n (pc' := 2) dX0_element_1 rfl rfl rfl ?_
  refine ro_iload_n (pc' := 3) dX0_element_2 rfl rfl rfl ?_
  obtain ⟨u1, hu1, h⟩ := ah_bs h
  obtain ⟨v2, σ3, hv2, h⟩ := ah_bs2 h
  refine ro_callV (pc' := 6) (As := [.int x1, .int x2]) (rest := []) (st' := [.int v2]) (by decide) hu1 q1220 sl_X0_refusal (M_X0_refusal hv2) q1218 q1221 q95 dd_X0_refusal rfl ⟨Nat.le_of_ble_eq_true rfl, Nat.le_of_ble_eq_true rfl⟩ (Nat.le_of_ble_eq_true rfl) dX0_element_3 rfl rfl rfl ?_
  refine ro_if_eq (pc' := 9) (tgt := 13) dX0_element_6 rfl rfl (fun c => ?_) (fun c => ?_)
  · replace h := ah_ip c h
    refine ro_aload_n (pc' := 14) dX0_element_13 rfl rfl rfl ?_
    obtain ⟨v4, hv4, h⟩ := ah_bs h
    refine ro_getR (pc' := 17) ft_41 fk_41 q337 dX0_element_14 rfl hv4 ?_
    refine ro_iload_n (pc' := 18) dX0_element_17 rfl rfl rfl ?_
    obtain ⟨v5, hv5, h⟩ := ah_bs h
    refine ro_aaload (pc' := 19) (by decide) (by decide) rfl dX0_element_18 rfl hv5 ?_
    refine ro_astore_n (pc' := 20) (L' := [some (va_rf r0), some (.int x1), some (.int x2), some (va_rf v5)]) dX0_element_19 rfl (Nat.le_of_ble_eq_true rfl) rfl (ah_okp_i _) rfl ?_
    refine ro_aload_n (pc' := 21) dX0_element_20 rfl rfl rfl ?_
    obtain ⟨v6, σ7, hv6, h⟩ := ah_bs2 h
    refine ro_callS (pc' := 24) (As := [va_rf v5]) (rest := []) (st' := [.int v6]) q476 (M_X0_sortOf hv6) q475 q477 q95 dd_X0_sortOf rfl ⟨Nat.le_of_ble_eq_true rfl, Nat.le_of_ble_eq_true rfl⟩ (Nat.le_of_ble_eq_true rfl) dX0_element_21 rfl rfl rfl ?_
    by_cases c24_0 : v6 = (0 : Int32)
    · replace h := ah_ip c24_0 h
      refine ro_tabIn (tgt := 56) 0 c24_0 dX0_element_24 (by decide) (by decide) rfl rfl ?_
      refine ro_aload_n (pc' := 57) dX0_element_56 rfl rfl rfl ?_
      obtain ⟨u8, hu8, h⟩ := ah_bs h
      refine ro_castA (pc' := 60) (t := 102) (by decide) q478 dX0_element_57 rfl hu8 ?_
      refine ro_iload_n (pc' := 61) dX0_element_60 rfl rfl rfl ?_
      obtain ⟨v9, hv9, h⟩ := ah_bs h
      refine ro_baload (pc' := 62) dX0_element_61 rfl hv9 ?_
      refine ro_i2l (pc' := 63) dX0_element_62 rfl ?_
      obtain rfl := Option.some.inj h
      exact ro_lret hκ dX0_element_63
    replace h := ah_in_ c24_0 h
    by_cases c24_1 : v6 = (1 : Int32)
    · replace h := ah_ip c24_1 h
      refine ro_tabIn (tgt := 64) 1 c24_1 dX0_element_24 (by decide) (by decide) rfl rfl ?_
      refine ro_aload_n (pc' := 65) dX0_element_64 rfl rfl rfl ?_
      obtain ⟨u10, hu10, h⟩ := ah_bs h
      refine ro_castA (pc' := 68) (t := 103) (by decide) q479 dX0_element_65 rfl hu10 ?_
      refine ro_iload_n (pc' := 69) dX0_element_68 rfl rfl rfl ?_
      obtain ⟨v11, hv11, h⟩ := ah_bs h
      refine ro_saload (pc' := 70) dX0_element_69 rfl hv11 ?_
      refine ro_i2l (pc' := 71) dX0_element_70 rfl ?_
      obtain rfl := Option.some.inj h
      exact ro_lret hκ dX0_element_71
    replace h := ah_in_ c24_1 h
    by_cases c24_2 : v6 = (2 : Int32)
    · replace h := ah_ip c24_2 h
      refine ro_tabIn (tgt := 72) 2 c24_2 dX0_element_24 (by decide) (by decide) rfl rfl ?_
      refine ro_aload_n (pc' := 73) dX0_element_72 rfl rfl rfl ?_
      obtain ⟨u12, hu12, h⟩ := ah_bs h
      refine ro_castA (pc' := 76) (t := 101) (by decide) q480 dX0_element_73 rfl hu12 ?_
      refine ro_iload_n (pc' := 77) dX0_element_76 rfl rfl rfl ?_
      obtain ⟨v13, hv13, h⟩ := ah_bs h
      refine ro_iaload (pc' := 78) dX0_element_77 rfl hv13 ?_
      refine ro_i2l (pc' := 79) dX0_element_78 rfl ?_
      obtain rfl := Option.some.inj h
      exact ro_lret hκ dX0_element_79
    replace h := ah_in_ c24_2 h
    by_cases c24_3 : v6 = (3 : Int32)
    · replace h := ah_ip c24_3 h
      refine ro_tabIn (tgt := 80) 3 c24_3 dX0_element_24 (by decide) (by decide) rfl rfl ?_
      refine ro_aload_n (pc' := 81) dX0_element_80 rfl rfl rfl ?_
      obtain ⟨u14, hu14, h⟩ := ah_bs h
      refine ro_castA (pc' := 84) (t := 104) (by decide) q481 dX0_element_81 rfl hu14 ?_
      refine ro_iload_n (pc' := 85) dX0_element_84 rfl rfl rfl ?_
      obtain ⟨v15, hv15, h⟩ := ah_bs h
      refine ro_laload (pc' := 86) dX0_element_85 rfl hv15 ?_
      obtain rfl := Option.some.inj h
      exact ro_lret hκ dX0_element_86
    replace h := ah_in_ c24_3 h
    refine ro_tabOut (tgt := 87) dX0_element_24 (by have e0 := lv_neT (a := 0) c24_0 (by decide); have e1 := lv_neT (a := 1) c24_1 (by decide); have e2 := lv_neT (a := 2) c24_2 (by decide); have e3 := lv_neT (a := 3) c24_3 (by decide); omega) rfl ?_
    refine ro_aload_n (pc' := 88) dX0_element_87 rfl rfl rfl ?_
    obtain ⟨u16, hu16, h⟩ := ah_bs h
    refine ro_castA (pc' := 91) (t := 105) (by decide) q482 dX0_element_88 rfl hu16 ?_
    refine ro_iload_n (pc' := 92) dX0_element_91 rfl rfl rfl ?_
    obtain ⟨v17, hv17, h⟩ := ah_bs h
    refine ro_zaload (pc' := 93) dX0_element_92 rfl hv17 ?_
    refine ro_if_eq (pc' := 96) (tgt := 100) dX0_element_93 rfl rfl (fun c => ?_) (fun c => ?_)
    · replace h := ah_ip c h
      refine ro_lconst (pc' := 101) dX0_element_100 lc_0 rfl ?_
      obtain rfl := Option.some.inj h
      exact ro_lret hκ dX0_element_101
    · replace h := ah_in_ c h
      refine ro_lconst (pc' := 97) dX0_element_96 lc_1 rfl ?_
      refine ro_goto (tgt := 101) dX0_element_97 rfl ?_
      obtain rfl := Option.some.inj h
      exact ro_lret hκ dX0_element_101
  · replace h := ah_in_ c h
    refine ro_ldc2 (pc' := 12) q796 dX0_element_9 rfl ?_
    obtain rfl := Option.some.inj h
    exact ro_lret hκ dX0_element_12
theorem M_X0_element {l : Launch} {D : ah_D}  {σ : ah_S} {r0 : Option Nat} {x1 : Int32} {x2 : Int32} {v : Int64} {σ1 : ah_S} (h : F_X0_element σ r0 x1 x2 = some (v, σ1)) : ah_Met l yX0_element (Cond.code yX0_element cX0_element 4 (some FieldType.long)) 4 92 D [va_rf r0, .int x1, .int x2] σ (.returned (some (.long v)), σ1) :=
  ah_ofG (own := "LeftAsFound") (nm := "element") (L0 := [some (va_rf r0), some (.int x1), some (.int x2), none]) (by decide) rfl rfl rfl (ah_ao_1 (ah_rf_cat _) (ah_ao_1 rfl (ah_ao_1 rfl (ah_ao_n ah_ao_0)))) (fun κ hκ => W_X0_element hκ  σ r0 x1 x2 h)
set_option maxRecDepth 20000 in
set_option maxHeartbeats 4000000 in
theorem W_X0_feed {κ : ah_C} {rr : (Int32 × ah_S)} (hκ : ah_res κ = (.returned (some (.int rr.1)), rr.2))  (σ : ah_S) (r0 : Option Nat) (x1 : Int32) (h : F_X0_feed σ r0 x1 = some rr) : ah_G κ ("LeftAsFound", "feed", 2, (some FieldType.int), [], 2, 49) cX0_feed σ 0 [some (va_rf r0), some (.int x1)] [] := by
  unfold F_X0_feed at h
  refine ro_iload_n (pc' := 1) dX0_feed_0 rfl rfl rfl ?_
  refine ro_i2l (pc' := 2) dX0_feed_1 rfl ?_
  refine ro_lconst (pc' := 3) dX0_feed_2 lc_0 rfl ?_
  refine ro_ldc2 (pc' := 6) q427 dX0_feed_3 rfl ?_
  obtain ⟨v1, σ2, hv1, h⟩ := ah_bs2 h
  refine ro_callS (pc' := 9) (As := [.long (x1.toInt64), .long (0 : Int64), .long (255 : Int64)]) (rest := []) (st' := [.int v1]) q429 (M_X0_within hv1) q428 q430 q95 dd_X0_within rfl ⟨Nat.le_of_ble_eq_true rfl, Nat.le_of_ble_eq_true rfl⟩ (Nat.le_of_ble_eq_true rfl) dX0_feed_6 rfl rfl rfl ?_
  refine ro_if_ne (pc' := 12) (tgt := 14) dX0_feed_9 rfl rfl (fun c => ?_) (fun c => ?_)
  · replace h := ah_in_ c h
    refine ro_aload_n (pc' := 15) dX0_feed_14 rfl rfl rfl ?_
    obtain ⟨v3, hv3, h⟩ := ah_bs h
    refine ro_getI (pc' := 18) ft_4 fk_4 q294 dX0_feed_15 rfl hv3 ?_
    refine ro_bipush (pc' := 20) dX0_feed_18 ib_120 rfl ?_
    refine ro_icmp_ne (pc' := 23) (tgt := 26) dX0_feed_20 rfl rfl (fun c => ?_) (fun c => ?_)
    · replace h := ah_in_ c h
      refine ro_aload_n (pc' := 27) dX0_feed_26 rfl rfl rfl ?_
      obtain ⟨v4, hv4, h⟩ := ah_bs h
      refine ro_getR (pc' := 30) ft_3 fk_3 q293 dX0_feed_27 rfl hv4 ?_
      refine ro_aload_n (pc' := 31) dX0_feed_30 rfl rfl rfl ?_
      refine ro_dup (pc' := 32) dX0_feed_31 (ah_rf_cat _) rfl ?_
      obtain ⟨v5, hv5, h⟩ := ah_bs h
      refine ro_getI (pc' := 35) ft_4 fk_4 q294 dX0_feed_32 rfl hv5 ?_
      refine ro_dup_x1 (pc' := 36) dX0_feed_35 rfl (ah_rf_cat _) rfl ?_
      refine ro_iconst (pc' := 37) dX0_feed_36 ic_1 rfl ?_
      refine ro_iadd (pc' := 38) dX0_feed_37 rfl ?_
      obtain ⟨σ6, hσ6, h⟩ := ah_bs h
      refine ro_putI (pc' := 41) ft_4 fk_4 q294 pd_4 dX0_feed_38 rfl hσ6 ?_
      refine ro_iload_n (pc' := 42) dX0_feed_41 rfl rfl rfl ?_
      obtain ⟨σ7, hσ7, h⟩ := ah_bs h
      refine ro_iastore (pc' := 43) dX0_feed_42 rfl hσ7 ?_
      refine ro_aload_n (pc' := 44) dX0_feed_43 rfl rfl rfl ?_
      obtain ⟨v8, hv8, h⟩ := ah_bs h
      refine ro_getI (pc' := 47) ft_4 fk_4 q294 dX0_feed_44 rfl hv8 ?_
      obtain rfl := Option.some.inj h
      exact ro_iret hκ dX0_feed_47
    · replace h := ah_ip c h
      refine ro_bipush (pc' := 25) dX0_feed_23 ib_m3 rfl ?_
      obtain rfl := Option.some.inj h
      exact ro_iret hκ dX0_feed_25
  · replace h := ah_ip c h
    refine ro_iconst (pc' := 13) dX0_feed_12 ic_m1 rfl ?_
    obtain rfl := Option.some.inj h
    exact ro_iret hκ dX0_feed_13
theorem M_X0_feed {l : Launch} {D : ah_D}  {σ : ah_S} {r0 : Option Nat} {x1 : Int32} {v : Int32} {σ1 : ah_S} (h : F_X0_feed σ r0 x1 = some (v, σ1)) : ah_Met l yX0_feed (Cond.code yX0_feed cX0_feed 2 (some FieldType.int)) 2 49 D [va_rf r0, .int x1] σ (.returned (some (.int v)), σ1) :=
  ah_ofG (own := "LeftAsFound") (nm := "feed") (L0 := [some (va_rf r0), some (.int x1)]) (by decide) rfl rfl rfl (ah_ao_1 (ah_rf_cat _) (ah_ao_1 rfl ah_ao_0)) (fun κ hκ => W_X0_feed hκ  σ r0 x1 h)
set_option maxRecDepth 20000 in
set_option maxHeartbeats 4000000 in
theorem W_X0_isGuest {κ : ah_C} {rr : (Int32 × ah_S)} (hκ : ah_res κ = (.returned (some (.int rr.1)), rr.2))  (σ : ah_S) (r0 : Option Nat) (l1 : Int64) (h : F_X0_isGuest σ r0 l1 = some rr) : ah_G κ ("LeftAsFound", "isGuest", 3, (some FieldType.boolean), [], 2, 49) cX0_isGuest σ 0 [some (va_rf r0), some (.long l1), none] [] := by
  unfold F_X0_isGuest at h
  refine ro_lload_n (pc' := 1) dX0_isGuest_0 rfl rfl rfl ?_
  refine ro_lconst (pc' := 2) dX0_isGuest_1 lc_0 rfl ?_
  refine ro_aload_n (pc' := 3) dX0_isGuest_2 rfl rfl rfl ?_
  obtain ⟨v1, hv1, h⟩ := ah_bs h
  refine ro_getI (pc' := 6) ft_8 fk_8 q299 dX0_isGuest_3 rfl hv1 ?_
  refine ro_iconst (pc' := 7) dX0_isGuest_6 ic_1 rfl ?_
  refine ro_isub (pc' := 8) dX0_isGuest_7 rfl ?_
  refine ro_i2l (pc' := 9) dX0_isGuest_8 rfl ?_
  obtain ⟨v2, σ3, hv2, h⟩ := ah_bs2 h
  refine ro_callS (pc' := 12) (As := [.long l1, .long (0 : Int64), .long ((v1 - (1 : Int32)).toInt64)]) (rest := []) (st' := [.int v2]) q429 (M_X0_within hv2) q428 q430 q95 dd_X0_within rfl ⟨Nat.le_of_ble_eq_true rfl, Nat.le_of_ble_eq_true rfl⟩ (Nat.le_of_ble_eq_true rfl) dX0_isGuest_9 rfl rfl rfl ?_
  obtain ⟨z4, hz4, g⟩ := ah_bs h
  obtain ⟨ez4, hz4⟩ := ah_z_n hz4
  subst ez4
  obtain rfl := Option.some.inj g
  exact ro_zret hz4 hκ dX0_isGuest_12
theorem M_X0_isGuest {l : Launch} {D : ah_D}  {σ : ah_S} {r0 : Option Nat} {l1 : Int64} {v : Int32} {σ1 : ah_S} (h : F_X0_isGuest σ r0 l1 = some (v, σ1)) : ah_Met l yX0_isGuest (Cond.code yX0_isGuest cX0_isGuest 3 (some FieldType.boolean)) 2 49 D [va_rf r0, .long l1] σ (.returned (some (.int v)), σ1) :=
  ah_ofG (own := "LeftAsFound") (nm := "isGuest") (L0 := [some (va_rf r0), some (.long l1), none]) (by decide) rfl rfl rfl (ah_ao_1 (ah_rf_cat _) (ah_ao_2 rfl ah_ao_0)) (fun κ hκ => W_X0_isGuest hκ  σ r0 l1 h)
set_option maxRecDepth 20000 in
set_option maxHeartbeats 4000000 in
theorem W_X0_forget {κ : ah_C} {rr : (Int32 × ah_S)} (hκ : ah_res κ = (.returned (some (.int rr.1)), rr.2))  (σ : ah_S) (r0 : Option Nat) (x1 : Int32) (h : F_X0_forget σ r0 x1 = some rr) : ah_G κ ("LeftAsFound", "forget", 3, (some FieldType.int), [], 3, 71) cX0_forget σ 0 [some (va_rf r0), some (.int x1), none] [] := by
  unfold F_X0_forget at h
  refine ro_aload_n (pc' := 1) dX0_forget_0 rfl rfl rfl ?_
  refine ro_iload_n (pc' := 2) dX0_forget_1 rfl rfl rfl ?_
  refine ro_i2l (pc' := 3) dX0_forget_2 rfl ?_
  obtain ⟨u1, hu1, h⟩ := ah_bs h
  obtain ⟨v2, σ3, hv2, h⟩ := ah_bs2 h
  refine ro_callV (pc' := 6) (As := [.long (x1.toInt64)]) (rest := []) (st' := [.int v2]) (by decide) hu1 q505 sl_X0_isGuest (M_X0_isGuest hv2) q503 q506 q95 dd_X0_isGuest rfl ⟨Nat.le_of_ble_eq_true rfl, Nat.le_of_ble_eq_true rfl⟩ (Nat.le_of_ble_eq_true rfl) dX0_forget_3 rfl rfl rfl ?_
  refine ro_if_ne (pc' := 9) (tgt := 11) dX0_forget_6 rfl rfl (fun c => ?_) (fun c => ?_)
  · replace h := ah_in_ c h
    refine ro_aload_n (pc' := 12) dX0_forget_11 rfl rfl rfl ?_
    obtain ⟨v4, hv4, h⟩ := ah_bs h
    refine ro_getR (pc' := 15) ft_18 fk_18 q312 dX0_forget_12 rfl hv4 ?_
    obtain ⟨v5, hv5, h⟩ := ah_bs h
    refine ro_getIN (pc' := 18) ft_403 fk_403 nq251 dX0_forget_15 rfl hv5 ?_
    refine ro_iload_n (pc' := 19) dX0_forget_18 rfl rfl rfl ?_
    refine ro_ishr (pc' := 20) dX0_forget_19 rfl ?_
    refine ro_iconst (pc' := 21) dX0_forget_20 ic_1 rfl ?_
    refine ro_iand (pc' := 22) dX0_forget_21 rfl ?_
    refine ro_istore_n (pc' := 23) (L' := [some (va_rf r0), some (.int x1), some (.int ((v5 >>> (x1 &&& 31)) &&& (1 : Int32)))]) dX0_forget_22 rfl (Nat.le_of_ble_eq_true rfl) rfl (ah_okp_i _) rfl ?_
    refine ro_aload_n (pc' := 24) dX0_forget_23 rfl rfl rfl ?_
    obtain ⟨v6, hv6, h⟩ := ah_bs h
    refine ro_getR (pc' := 27) ft_18 fk_18 q312 dX0_forget_24 rfl hv6 ?_
    refine ro_dup (pc' := 28) dX0_forget_27 (ah_rf_cat _) rfl ?_
    obtain ⟨v7, hv7, h⟩ := ah_bs h
    refine ro_getIN (pc' := 31) ft_403 fk_403 nq251 dX0_forget_28 rfl hv7 ?_
    refine ro_iconst (pc' := 32) dX0_forget_31 ic_1 rfl ?_
    refine ro_iload_n (pc' := 33) dX0_forget_32 rfl rfl rfl ?_
    refine ro_ishl (pc' := 34) dX0_forget_33 rfl ?_
    refine ro_iconst (pc' := 35) dX0_forget_34 ic_m1 rfl ?_
    refine ro_ixor (pc' := 36) dX0_forget_35 rfl ?_
    refine ro_iand (pc' := 37) dX0_forget_36 rfl ?_
    obtain ⟨σ8, hσ8, h⟩ := ah_bs h
    refine ro_putIN (pc' := 40) ft_403 fk_403 nq251 pd_403 dX0_forget_37 rfl hσ8 ?_
    refine ro_iload_n (pc' := 41) dX0_forget_40 rfl rfl rfl ?_
    obtain rfl := Option.some.inj h
    exact ro_iret hκ dX0_forget_41
  · replace h := ah_ip c h
    refine ro_iconst (pc' := 10) dX0_forget_9 ic_m1 rfl ?_
    obtain rfl := Option.some.inj h
    exact ro_iret hκ dX0_forget_10
theorem M_X0_forget {l : Launch} {D : ah_D}  {σ : ah_S} {r0 : Option Nat} {x1 : Int32} {v : Int32} {σ1 : ah_S} (h : F_X0_forget σ r0 x1 = some (v, σ1)) : ah_Met l yX0_forget (Cond.code yX0_forget cX0_forget 3 (some FieldType.int)) 3 71 D [va_rf r0, .int x1] σ (.returned (some (.int v)), σ1) :=
  ah_ofG (own := "LeftAsFound") (nm := "forget") (L0 := [some (va_rf r0), some (.int x1), none]) (by decide) rfl rfl rfl (ah_ao_1 (ah_rf_cat _) (ah_ao_1 rfl (ah_ao_n ah_ao_0))) (fun κ hκ => W_X0_forget hκ  σ r0 x1 h)
set_option maxRecDepth 20000 in
set_option maxHeartbeats 4000000 in
theorem W_X0_greatest {κ : ah_C} {rr : (Int32 × ah_S)} (hκ : ah_res κ = (.returned (some (.int rr.1)), rr.2))  (σ : ah_S) (x0 : Int32) (h : F_X0_greatest σ x0 = some rr) : ah_G κ ("LeftAsFound", "greatest", 1, (some FieldType.int), [], 1, 24) cX0_greatest σ 0 [some (.int x0)] [] := by
  unfold F_X0_greatest at h
  refine ro_iload_n (pc' := 1) dX0_greatest_0 rfl rfl rfl ?_
  by_cases c1_0 : x0 = (0 : Int32)
  · replace h := ah_ip c1_0 h
    refine ro_tabIn (tgt := 52) 0 c1_0 dX0_greatest_1 (by decide) (by decide) rfl rfl ?_
    refine ro_bipush (pc' := 54) dX0_greatest_52 ib_99 rfl ?_
    obtain rfl := Option.some.inj h
    exact ro_iret hκ dX0_greatest_54
  replace h := ah_in_ c1_0 h
  by_cases c1_1 : x0 = (1 : Int32)
  · replace h := ah_ip c1_1 h
    refine ro_tabIn (tgt := 70) 1 c1_1 dX0_greatest_1 (by decide) (by decide) rfl rfl ?_
    refine ro_bipush (pc' := 72) dX0_greatest_70 ib_9 rfl ?_
    obtain rfl := Option.some.inj h
    exact ro_iret hκ dX0_greatest_72
  replace h := ah_in_ c1_1 h
  by_cases c1_2 : x0 = (2 : Int32)
  · replace h := ah_ip c1_2 h
    refine ro_tabIn (tgt := 70) 2 c1_2 dX0_greatest_1 (by decide) (by decide) rfl rfl ?_
    refine ro_bipush (pc' := 72) dX0_greatest_70 ib_9 rfl ?_
    obtain rfl := Option.some.inj h
    exact ro_iret hκ dX0_greatest_72
  replace h := ah_in_ c1_2 h
  by_cases c1_3 : x0 = (3 : Int32)
  · replace h := ah_ip c1_3 h
    refine ro_tabIn (tgt := 55) 3 c1_3 dX0_greatest_1 (by decide) (by decide) rfl rfl ?_
    refine ro_bipush (pc' := 57) dX0_greatest_55 ib_20 rfl ?_
    obtain rfl := Option.some.inj h
    exact ro_iret hκ dX0_greatest_57
  replace h := ah_in_ c1_3 h
  by_cases c1_4 : x0 = (4 : Int32)
  · replace h := ah_ip c1_4 h
    refine ro_tabIn (tgt := 58) 4 c1_4 dX0_greatest_1 (by decide) (by decide) rfl rfl ?_
    refine ro_bipush (pc' := 60) dX0_greatest_58 ib_50 rfl ?_
    obtain rfl := Option.some.inj h
    exact ro_iret hκ dX0_greatest_60
  replace h := ah_in_ c1_4 h
  by_cases c1_5 : x0 = (5 : Int32)
  · replace h := ah_ip c1_5 h
    refine ro_tabIn (tgt := 61) 5 c1_5 dX0_greatest_1 (by decide) (by decide) rfl rfl ?_
    refine ro_iconst (pc' := 62) dX0_greatest_61 ic_3 rfl ?_
    obtain rfl := Option.some.inj h
    exact ro_iret hκ dX0_greatest_62
  replace h := ah_in_ c1_5 h
  by_cases c1_6 : x0 = (6 : Int32)
  · replace h := ah_ip c1_6 h
    refine ro_tabIn (tgt := 58) 6 c1_6 dX0_greatest_1 (by decide) (by decide) rfl rfl ?_
    refine ro_bipush (pc' := 60) dX0_greatest_58 ib_50 rfl ?_
    obtain rfl := Option.some.inj h
    exact ro_iret hκ dX0_greatest_60
  replace h := ah_in_ c1_6 h
  by_cases c1_7 : x0 = (7 : Int32)
  · replace h := ah_ip c1_7 h
    refine ro_tabIn (tgt := 63) 7 c1_7 dX0_greatest_1 (by decide) (by decide) rfl rfl ?_
    refine ro_sipush (pc' := 66) dX0_greatest_63 is_999 rfl ?_
    obtain rfl := Option.some.inj h
    exact ro_iret hκ dX0_greatest_66
  replace h := ah_in_ c1_7 h
  by_cases c1_8 : x0 = (8 : Int32)
  · replace h := ah_ip c1_8 h
    refine ro_tabIn (tgt := 67) 8 c1_8 dX0_greatest_1 (by decide) (by decide) rfl rfl ?_
    refine ro_bipush (pc' := 69) dX0_greatest_67 ib_12 rfl ?_
    obtain rfl := Option.some.inj h
    exact ro_iret hκ dX0_greatest_69
  replace h := ah_in_ c1_8 h
  refine ro_tabOut (tgt := 70) dX0_greatest_1 (by have e0 := lv_neT (a := 0) c1_0 (by decide); have e1 := lv_neT (a := 1) c1_1 (by decide); have e2 := lv_neT (a := 2) c1_2 (by decide); have e3 := lv_neT (a := 3) c1_3 (by decide); have e4 := lv_neT (a := 4) c1_4 (by decide); have e5 := lv_neT (a := 5) c1_5 (by decide); have e6 := lv_neT (a := 6) c1_6 (by decide); have e7 := lv_neT (a := 7) c1_7 (by decide); have e8 := lv_neT (a := 8) c1_8 (by decide); omega) rfl ?_
  refine ro_bipush (pc' := 72) dX0_greatest_70 ib_9 rfl ?_
  obtain rfl := Option.some.inj h
  exact ro_iret hκ dX0_greatest_72
theorem M_X0_greatest {l : Launch} {D : ah_D}  {σ : ah_S} {x0 : Int32} {v : Int32} {σ1 : ah_S} (h : F_X0_greatest σ x0 = some (v, σ1)) : ah_Met l yX0_greatest (Cond.code yX0_greatest cX0_greatest 1 (some FieldType.int)) 1 24 D [.int x0] σ (.returned (some (.int v)), σ1) :=
  ah_ofG (own := "LeftAsFound") (nm := "greatest") (L0 := [some (.int x0)]) (by decide) rfl rfl rfl (ah_ao_1 rfl ah_ao_0) (fun κ hκ => W_X0_greatest hκ  σ x0 h)
set_option maxRecDepth 20000 in
set_option maxHeartbeats 4000000 in
theorem W_X0_mayBe {κ : ah_C} {rr : (Int32 × ah_S)} (hκ : ah_res κ = (.returned (some (.int rr.1)), rr.2))  (σ : ah_S) (x0 : Int32) (x1 : Int32) (x2 : Int32) (h : F_X0_mayBe σ x0 x1 x2 = some rr) : ah_G κ ("LeftAsFound", "mayBe", 3, (some FieldType.boolean), [], 2, 49) cX0_mayBe σ 0 [some (.int x0), some (.int x1), some (.int x2)] [] := by
  unfold F_X0_mayBe at h
  refine ro_iload_n (pc' := 1) dX0_mayBe_0 rfl rfl rfl ?_
  refine ro_i2l (pc' := 2) dX0_mayBe_1 rfl ?_
  refine ro_lconst (pc' := 3) dX0_mayBe_2 lc_0 rfl ?_
  refine ro_ldc2 (pc' := 6) q438 dX0_mayBe_3 rfl ?_
  obtain ⟨v1, σ2, hv1, h⟩ := ah_bs2 h
  refine ro_callS (pc' := 9) (As := [.long (x0.toInt64), .long (0 : Int64), .long (9 : Int64)]) (rest := []) (st' := [.int v1]) q429 (M_X0_within hv1) q428 q430 q95 dd_X0_within rfl ⟨Nat.le_of_ble_eq_true rfl, Nat.le_of_ble_eq_true rfl⟩ (Nat.le_of_ble_eq_true rfl) dX0_mayBe_6 rfl rfl rfl ?_
  refine ro_if_eq (pc' := 12) (tgt := 40) dX0_mayBe_9 rfl rfl (fun c => ?_) (fun c => ?_)
  · replace h := ah_ip c h
    refine ro_iconst (pc' := 41) dX0_mayBe_40 ic_0 rfl ?_
    obtain rfl := Option.some.inj h
    exact ro_zret rfl hκ dX0_mayBe_41
  · replace h := ah_in_ c h
    refine ro_iload_n (pc' := 13) dX0_mayBe_12 rfl rfl rfl ?_
    refine ro_i2l (pc' := 14) dX0_mayBe_13 rfl ?_
    refine ro_lconst (pc' := 15) dX0_mayBe_14 lc_0 rfl ?_
    refine ro_ldc2 (pc' := 18) q439 dX0_mayBe_15 rfl ?_
    obtain ⟨v3, σ4, hv3, h⟩ := ah_bs2 h
    refine ro_callS (pc' := 21) (As := [.long (x1.toInt64), .long (0 : Int64), .long (50 : Int64)]) (rest := []) (st' := [.int v3]) q429 (M_X0_within hv3) q428 q430 q95 dd_X0_within rfl ⟨Nat.le_of_ble_eq_true rfl, Nat.le_of_ble_eq_true rfl⟩ (Nat.le_of_ble_eq_true rfl) dX0_mayBe_18 rfl rfl rfl ?_
    refine ro_if_eq (pc' := 24) (tgt := 40) dX0_mayBe_21 rfl rfl (fun c => ?_) (fun c => ?_)
    · replace h := ah_ip c h
      refine ro_iconst (pc' := 41) dX0_mayBe_40 ic_0 rfl ?_
      obtain rfl := Option.some.inj h
      exact ro_zret rfl hκ dX0_mayBe_41
    · replace h := ah_in_ c h
      refine ro_iload_n (pc' := 25) dX0_mayBe_24 rfl rfl rfl ?_
      refine ro_i2l (pc' := 26) dX0_mayBe_25 rfl ?_
      refine ro_lconst (pc' := 27) dX0_mayBe_26 lc_0 rfl ?_
      refine ro_ldc2 (pc' := 30) q440 dX0_mayBe_27 rfl ?_
      obtain ⟨v5, σ6, hv5, h⟩ := ah_bs2 h
      refine ro_callS (pc' := 33) (As := [.long (x2.toInt64), .long (0 : Int64), .long (3 : Int64)]) (rest := []) (st' := [.int v5]) q429 (M_X0_within hv5) q428 q430 q95 dd_X0_within rfl ⟨Nat.le_of_ble_eq_true rfl, Nat.le_of_ble_eq_true rfl⟩ (Nat.le_of_ble_eq_true rfl) dX0_mayBe_30 rfl rfl rfl ?_
      refine ro_if_eq (pc' := 36) (tgt := 40) dX0_mayBe_33 rfl rfl (fun c => ?_) (fun c => ?_)
      · replace h := ah_ip c h
        refine ro_iconst (pc' := 41) dX0_mayBe_40 ic_0 rfl ?_
        obtain rfl := Option.some.inj h
        exact ro_zret rfl hκ dX0_mayBe_41
      · replace h := ah_in_ c h
        refine ro_iconst (pc' := 37) dX0_mayBe_36 ic_1 rfl ?_
        refine ro_goto (tgt := 41) dX0_mayBe_37 rfl ?_
        obtain rfl := Option.some.inj h
        exact ro_zret rfl hκ dX0_mayBe_41
theorem M_X0_mayBe {l : Launch} {D : ah_D}  {σ : ah_S} {x0 : Int32} {x1 : Int32} {x2 : Int32} {v : Int32} {σ1 : ah_S} (h : F_X0_mayBe σ x0 x1 x2 = some (v, σ1)) : ah_Met l yX0_mayBe (Cond.code yX0_mayBe cX0_mayBe 3 (some FieldType.boolean)) 2 49 D [.int x0, .int x1, .int x2] σ (.returned (some (.int v)), σ1) :=
  ah_ofG (own := "LeftAsFound") (nm := "mayBe") (L0 := [some (.int x0), some (.int x1), some (.int x2)]) (by decide) rfl rfl rfl (ah_ao_1 rfl (ah_ao_1 rfl (ah_ao_1 rfl ah_ao_0))) (fun κ hκ => W_X0_mayBe hκ  σ x0 x1 x2 h)
set_option maxRecDepth 20000 in
set_option maxHeartbeats 4000000 in
theorem W_X2_init {κ : ah_C} {rr : ah_S} (hκ : ah_res κ = (.returned none, rr))  (σ : ah_S) (r0 : Option Nat) (h : F_X2_init σ r0 = some rr) : ah_G κ ("LeftAsFound$Held", "<init>", 1, none, [], 1, 24) cX2_init σ 0 [some (va_rf r0)] [] := by
  unfold F_X2_init at h
  refine ro_aload_n (pc' := 1) dX2_init_0 rfl rfl rfl ?_
  obtain ⟨a1, ha1, h⟩ := ah_bs h
  refine ro_objInit (pc' := 4) ha1 q217 q136 q137 (Nat.le_of_ble_eq_true rfl) (Nat.le_of_ble_eq_true rfl) dX2_init_1 rfl ?_
  obtain rfl := Option.some.inj h
  exact ro_vret hκ dX2_init_4
theorem M_X2_init {l : Launch} {D : ah_D}  {σ : ah_S} {r0 : Option Nat} {σ1 : ah_S} (h : F_X2_init σ r0 = some σ1) : ah_Met l yX2_init (Cond.code yX2_init cX2_init 1 none) 1 24 D [va_rf r0] σ (.returned none, σ1) :=
  ah_ofG (own := "LeftAsFound$Held") (nm := "<init>") (L0 := [some (va_rf r0)]) (by decide) rfl rfl rfl (ah_ao_1 (ah_rf_cat _) ah_ao_0) (fun κ hκ => W_X2_init hκ  σ r0 h)
set_option maxRecDepth 20000 in
set_option maxHeartbeats 4000000 in
theorem W_X0_heldAt {κ : ah_C} {rr : (Option Nat × ah_S)} (hκ : ah_res κ = (.returned (some (va_rf rr.1)), rr.2))  (σ : ah_S) (x0 : Int32) (h : F_X0_heldAt σ x0 = some rr) : ah_G κ ("LeftAsFound", "heldAt", 2, (some (FieldType.object "LeftAsFound$Held")), [], 2, 44) cX0_heldAt σ 0 [some (.int x0), none] [] := by
  unfold F_X0_heldAt at h
  obtain ⟨σ1, hσ1, h⟩ := ah_bs h
  refine ro_new (pc' := 3) ct_X2 df_X2 (by decide) q208 q213 q100 dX0_heldAt_0 rfl hσ1 ?_
  refine ro_dup (pc' := 4) dX0_heldAt_3 (ah_rf_cat _) rfl ?_
  obtain ⟨σ2, hσ2, h⟩ := ah_bs h
  refine ro_callIN (pc' := 7) (As := []) (rest := [va_rf (some (ah_nx σ))]) (st' := [va_rf (some (ah_nx σ))]) rfl q215 rfl (M_X2_init hσ2) nq214 q216 q100 dd_X2_init rfl ⟨Nat.le_of_ble_eq_true rfl, Nat.le_of_ble_eq_true rfl⟩ (by simp only [List.map_cons, List.map_nil, List.sum_cons, List.sum_nil, ah_rf_cat, ah_cat_i, ah_cat_l]; decide) dX0_heldAt_4 rfl rfl rfl ?_
  refine ro_astore_n (pc' := 8) (L' := [some (.int x0), some (va_rf (some (ah_nx σ)))]) dX0_heldAt_7 rfl (Nat.le_of_ble_eq_true rfl) rfl (ah_okp_i _) rfl ?_
  refine ro_aload_n (pc' := 9) dX0_heldAt_8 rfl rfl rfl ?_
  refine ro_iload_n (pc' := 10) dX0_heldAt_9 rfl rfl rfl ?_
  obtain ⟨σ3, hσ3, h⟩ := ah_bs h
  refine ro_putIN (pc' := 13) ft_200 fk_200 nq219 pd_200 dX0_heldAt_10 rfl hσ3 ?_
  refine ro_aload_n (pc' := 14) dX0_heldAt_13 rfl rfl rfl ?_
  obtain rfl := Option.some.inj h
  exact ro_aret hκ dX0_heldAt_14
theorem M_X0_heldAt {l : Launch} {D : ah_D}  {σ : ah_S} {x0 : Int32} {v : Option Nat} {σ1 : ah_S} (h : F_X0_heldAt σ x0 = some (v, σ1)) : ah_Met l yX0_heldAt (Cond.code yX0_heldAt cX0_heldAt 2 (some (FieldType.object "LeftAsFound$Held"))) 2 44 D [.int x0] σ (.returned (some (va_rf v)), σ1) :=
  ah_ofG (own := "LeftAsFound") (nm := "heldAt") (L0 := [some (.int x0), none]) (by decide) rfl rfl rfl (ah_ao_1 rfl (ah_ao_n ah_ao_0)) (fun κ hκ => W_X0_heldAt hκ  σ x0 h)
set_option maxRecDepth 20000 in
set_option maxHeartbeats 4000000 in
theorem W_X7_init_23 {κ : ah_C} {rr : ah_S} (hκ : ah_res κ = (.returned none, rr))    : ∀ (n : Nat) (σ : ah_S) (r0 : Option Nat) (x1 : Int32) (x2 : Int32) (x3 : Int32) (x4 : Int32), F_X7_init_23 n σ r0 x1 x2 x3 x4 = some rr → ah_G κ ("LeftAsFound$Guest", "<init>", 5, none, [], 3, 65) cX7_init σ 23 [some (va_rf r0), some (.int x1), some (.int x2), some (.int x3), some (.int x4)] [] := by
  intro n
  induction n with
  | zero => intro σ r0 x1 x2 x3 x4 h; cases h
  | succ n ih =>
    intro σ r0 x1 x2 x3 x4 h
    rw [F_X7_init_23] at h
    refine ro_iload (pc' := 25) dX7_init_23 rfl rfl ?_
    refine ro_iconst (pc' := 26) dX7_init_25 ic_4 rfl ?_
    refine ro_icmp_ge (pc' := 29) (tgt := 57) dX7_init_26 rfl rfl (fun c => ?_) (fun c => ?_)
    · replace h := ah_ip c h
      refine ro_aload_n (pc' := 58) dX7_init_57 rfl rfl rfl ?_
      refine ro_iload_n (pc' := 59) dX7_init_58 rfl rfl rfl ?_
      obtain ⟨v1, σ2, hv1, h⟩ := ah_bs2 h
      refine ro_callSN (pc' := 62) (As := [.int x2]) (rest := [va_rf r0]) (st' := [va_rf v1, va_rf r0]) q211 (M_X0_heldAt hv1) nq447 q212 q95 dd_X0_heldAt rfl ⟨Nat.le_of_ble_eq_true rfl, Nat.le_of_ble_eq_true rfl⟩ (by simp only [List.map_cons, List.map_nil, List.sum_cons, List.sum_nil, ah_rf_cat, ah_cat_i, ah_cat_l]; decide) dX7_init_59 rfl rfl rfl ?_
      obtain ⟨σ3, hσ3, h⟩ := ah_bs h
      refine ro_putRF (pc' := 65) ft_702 fk_702 q452 pd_702 rfl rfl rfl dX7_init_62 rfl hσ3 ?_
      refine ro_aload_n (pc' := 66) dX7_init_65 rfl rfl rfl ?_
      refine ro_iload_n (pc' := 67) dX7_init_66 rfl rfl rfl ?_
      obtain ⟨v4, σ5, hv4, h⟩ := ah_bs2 h
      refine ro_callSN (pc' := 70) (As := [.int x3]) (rest := [va_rf r0]) (st' := [va_rf v4, va_rf r0]) q211 (M_X0_heldAt hv4) nq447 q212 q95 dd_X0_heldAt rfl ⟨Nat.le_of_ble_eq_true rfl, Nat.le_of_ble_eq_true rfl⟩ (by simp only [List.map_cons, List.map_nil, List.sum_cons, List.sum_nil, ah_rf_cat, ah_cat_i, ah_cat_l]; decide) dX7_init_67 rfl rfl rfl ?_
      obtain ⟨σ6, hσ6, h⟩ := ah_bs h
      refine ro_putRF (pc' := 73) ft_703 fk_703 q454 pd_703 rfl rfl rfl dX7_init_70 rfl hσ6 ?_
      obtain rfl := Option.some.inj h
      exact ro_vret hκ dX7_init_73
    · replace h := ah_in_ c h
      refine ro_aload_n (pc' := 30) dX7_init_29 rfl rfl rfl ?_
      obtain ⟨v7, hv7, h⟩ := ah_bs h
      refine ro_getR (pc' := 33) ft_700 fk_700 q448 dX7_init_30 rfl hv7 ?_
      refine ro_iload (pc' := 35) dX7_init_33 rfl rfl ?_
      refine ro_iload_n (pc' := 36) dX7_init_35 rfl rfl rfl ?_
      obtain ⟨v8, σ9, hv8, h⟩ := ah_bs2 h
      refine ro_callSN (pc' := 39) (As := [.int x1]) (rest := [.int x4, va_rf v7]) (st' := [va_rf v8, .int x4, va_rf v7]) q211 (M_X0_heldAt hv8) nq447 q212 q95 dd_X0_heldAt rfl ⟨Nat.le_of_ble_eq_true rfl, Nat.le_of_ble_eq_true rfl⟩ (by simp only [List.map_cons, List.map_nil, List.sum_cons, List.sum_nil, ah_rf_cat, ah_cat_i, ah_cat_l]; decide) dX7_init_36 rfl rfl rfl ?_
      obtain ⟨σ10, hσ10, h⟩ := ah_bs h
      refine ro_aastore (pc' := 40) (by decide) (by decide) rfl dX7_init_39 rfl hσ10 ?_
      refine ro_aload_n (pc' := 41) dX7_init_40 rfl rfl rfl ?_
      obtain ⟨v11, hv11, h⟩ := ah_bs h
      refine ro_getR (pc' := 44) ft_701 fk_701 q450 dX7_init_41 rfl hv11 ?_
      refine ro_iload (pc' := 46) dX7_init_44 rfl rfl ?_
      refine ro_iconst (pc' := 47) dX7_init_46 ic_0 rfl ?_
      obtain ⟨v12, σ13, hv12, h⟩ := ah_bs2 h
      refine ro_callSN (pc' := 50) (As := [.int (0 : Int32)]) (rest := [.int x4, va_rf v11]) (st' := [va_rf v12, .int x4, va_rf v11]) q211 (M_X0_heldAt hv12) nq447 q212 q95 dd_X0_heldAt rfl ⟨Nat.le_of_ble_eq_true rfl, Nat.le_of_ble_eq_true rfl⟩ (by simp only [List.map_cons, List.map_nil, List.sum_cons, List.sum_nil, ah_rf_cat, ah_cat_i, ah_cat_l]; decide) dX7_init_47 rfl rfl rfl ?_
      obtain ⟨σ14, hσ14, h⟩ := ah_bs h
      refine ro_aastore (pc' := 51) (by decide) (by decide) rfl dX7_init_50 rfl hσ14 ?_
      refine ro_iinc (pc' := 54) (L' := [some (va_rf r0), some (.int x1), some (.int x2), some (.int x3), some (.int (x4 + (1 : Int32)))]) dX7_init_51 rfl ic_1 (Nat.le_of_ble_eq_true rfl) rfl (ah_okp_i _) rfl ?_
      refine ro_goto (tgt := 23) dX7_init_54 rfl ?_
      exact ih _ _ _ _ _ _ h
set_option maxRecDepth 20000 in
set_option maxHeartbeats 4000000 in
theorem W_X7_init {κ : ah_C} {rr : ah_S} (hκ : ah_res κ = (.returned none, rr))  (σ : ah_S) (r0 : Option Nat) (x1 : Int32) (x2 : Int32) (x3 : Int32) (h : F_X7_init σ r0 x1 x2 x3 = some rr) : ah_G κ ("LeftAsFound$Guest", "<init>", 5, none, [], 3, 65) cX7_init σ 0 [some (va_rf r0), some (.int x1), some (.int x2), some (.int x3), none] [] := by
  unfold F_X7_init at h
  refine ro_aload_n (pc' := 1) dX7_init_0 rfl rfl rfl ?_
  obtain ⟨a1, ha1, h⟩ := ah_bs h
  refine ro_objInit (pc' := 4) ha1 q445 q136 q137 (Nat.le_of_ble_eq_true rfl) (Nat.le_of_ble_eq_true rfl) dX7_init_1 rfl ?_
  refine ro_aload_n (pc' := 5) dX7_init_4 rfl rfl rfl ?_
  refine ro_iconst (pc' := 6) dX7_init_5 ic_4 rfl ?_
  obtain ⟨σ2, hσ2, h⟩ := ah_bs h
  refine ro_anew (pc' := 9) (t := 113) (by decide) rfl q446 nq209 dX7_init_6 rfl hσ2 ?_
  obtain ⟨σ3, hσ3, h⟩ := ah_bs h
  refine ro_putRF (pc' := 12) ft_700 fk_700 q448 pd_700 rfl rfl rfl dX7_init_9 rfl hσ3 ?_
  refine ro_aload_n (pc' := 13) dX7_init_12 rfl rfl rfl ?_
  refine ro_iconst (pc' := 14) dX7_init_13 ic_4 rfl ?_
  obtain ⟨σ4, hσ4, h⟩ := ah_bs h
  refine ro_anew (pc' := 17) (t := 113) (by decide) rfl q446 nq209 dX7_init_14 rfl hσ4 ?_
  obtain ⟨σ5, hσ5, h⟩ := ah_bs h
  refine ro_putRF (pc' := 20) ft_701 fk_701 q450 pd_701 rfl rfl rfl dX7_init_17 rfl hσ5 ?_
  refine ro_iconst (pc' := 21) dX7_init_20 ic_0 rfl ?_
  refine ro_istore (pc' := 23) (L' := [some (va_rf r0), some (.int x1), some (.int x2), some (.int x3), some (.int (0 : Int32))]) dX7_init_21 (Nat.le_of_ble_eq_true rfl) rfl (ah_okp_i _) rfl ?_
  exact W_X7_init_23 hκ _ _ _ _ _ _ _ h
theorem M_X7_init {l : Launch} {D : ah_D}  {σ : ah_S} {r0 : Option Nat} {x1 : Int32} {x2 : Int32} {x3 : Int32} {σ1 : ah_S} (h : F_X7_init σ r0 x1 x2 x3 = some σ1) : ah_Met l yX7_init (Cond.code yX7_init cX7_init 5 none) 3 65 D [va_rf r0, .int x1, .int x2, .int x3] σ (.returned none, σ1) :=
  ah_ofG (own := "LeftAsFound$Guest") (nm := "<init>") (L0 := [some (va_rf r0), some (.int x1), some (.int x2), some (.int x3), none]) (by decide) rfl rfl rfl (ah_ao_1 (ah_rf_cat _) (ah_ao_1 rfl (ah_ao_1 rfl (ah_ao_1 rfl (ah_ao_n ah_ao_0))))) (fun κ hκ => W_X7_init hκ  σ r0 x1 x2 x3 h)
set_option maxRecDepth 20000 in
set_option maxHeartbeats 4000000 in
theorem W_X0_guest {κ : ah_C} {rr : (Int32 × ah_S)} (hκ : ah_res κ = (.returned (some (.int rr.1)), rr.2))  (σ : ah_S) (r0 : Option Nat) (x1 : Int32) (x2 : Int32) (h : F_X0_guest σ r0 x1 x2 = some rr) : ah_G κ ("LeftAsFound", "guest", 3, (some FieldType.int), [], 4, 89) cX0_guest σ 0 [some (va_rf r0), some (.int x1), some (.int x2)] [] := by
  unfold F_X0_guest at h
  refine ro_iload_n (pc' := 1) dX0_guest_0 rfl rfl rfl ?_
  refine ro_iload_n (pc' := 2) dX0_guest_1 rfl rfl rfl ?_
  refine ro_iconst (pc' := 3) dX0_guest_2 ic_0 rfl ?_
  obtain ⟨v1, σ2, hv1, h⟩ := ah_bs2 h
  refine ro_callS (pc' := 6) (As := [.int x1, .int x2, .int (0 : Int32)]) (rest := []) (st' := [.int v1]) q436 (M_X0_mayBe hv1) q435 q437 q95 dd_X0_mayBe rfl ⟨Nat.le_of_ble_eq_true rfl, Nat.le_of_ble_eq_true rfl⟩ (Nat.le_of_ble_eq_true rfl) dX0_guest_3 rfl rfl rfl ?_
  refine ro_if_ne (pc' := 9) (tgt := 11) dX0_guest_6 rfl rfl (fun c => ?_) (fun c => ?_)
  · replace h := ah_in_ c h
    refine ro_aload_n (pc' := 12) dX0_guest_11 rfl rfl rfl ?_
    obtain ⟨v3, hv3, h⟩ := ah_bs h
    refine ro_getI (pc' := 15) ft_8 fk_8 q299 dX0_guest_12 rfl hv3 ?_
    refine ro_bipush (pc' := 17) dX0_guest_15 ib_7 rfl ?_
    refine ro_icmp_ne (pc' := 20) (tgt := 23) dX0_guest_17 rfl rfl (fun c => ?_) (fun c => ?_)
    · replace h := ah_in_ c h
      refine ro_aload_n (pc' := 24) dX0_guest_23 rfl rfl rfl ?_
      obtain ⟨v4, hv4, h⟩ := ah_bs h
      refine ro_getR (pc' := 27) ft_7 fk_7 q298 dX0_guest_24 rfl hv4 ?_
      refine ro_aload_n (pc' := 28) dX0_guest_27 rfl rfl rfl ?_
      obtain ⟨v5, hv5, h⟩ := ah_bs h
      refine ro_getI (pc' := 31) ft_8 fk_8 q299 dX0_guest_28 rfl hv5 ?_
      obtain ⟨σ6, hσ6, h⟩ := ah_bs h
      refine ro_new (pc' := 34) ct_X7 df_X7 (by decide) q206 q441 q105 dX0_guest_31 rfl hσ6 ?_
      refine ro_dup (pc' := 35) dX0_guest_34 (ah_rf_cat _) rfl ?_
      refine ro_iload_n (pc' := 36) dX0_guest_35 rfl rfl rfl ?_
      refine ro_iload_n (pc' := 37) dX0_guest_36 rfl rfl rfl ?_
      refine ro_iconst (pc' := 38) dX0_guest_37 ic_0 rfl ?_
      obtain ⟨σ7, hσ7, h⟩ := ah_bs h
      refine ro_callI (pc' := 41) (As := [.int x1, .int x2, .int (0 : Int32)]) (rest := [va_rf (some (ah_nx σ2)), .int v5, va_rf v4]) (st' := [va_rf (some (ah_nx σ2)), .int v5, va_rf v4]) rfl q443 rfl (M_X7_init hσ7) q442 q444 q105 dd_X7_init rfl ⟨Nat.le_of_ble_eq_true rfl, Nat.le_of_ble_eq_true rfl⟩ (by simp only [List.map_cons, List.map_nil, List.sum_cons, List.sum_nil, ah_rf_cat, ah_cat_i, ah_cat_l]; decide) dX0_guest_38 rfl rfl rfl ?_
      obtain ⟨σ8, hσ8, h⟩ := ah_bs h
      refine ro_aastore (pc' := 42) (by decide) (by decide) rfl dX0_guest_41 rfl hσ8 ?_
      refine ro_aload_n (pc' := 43) dX0_guest_42 rfl rfl rfl ?_
      refine ro_dup (pc' := 44) dX0_guest_43 (ah_rf_cat _) rfl ?_
      obtain ⟨v9, hv9, h⟩ := ah_bs h
      refine ro_getI (pc' := 47) ft_8 fk_8 q299 dX0_guest_44 rfl hv9 ?_
      refine ro_dup_x1 (pc' := 48) dX0_guest_47 rfl (ah_rf_cat _) rfl ?_
      refine ro_iconst (pc' := 49) dX0_guest_48 ic_1 rfl ?_
      refine ro_iadd (pc' := 50) dX0_guest_49 rfl ?_
      obtain ⟨σ10, hσ10, h⟩ := ah_bs h
      refine ro_putI (pc' := 53) ft_8 fk_8 q299 pd_8 dX0_guest_50 rfl hσ10 ?_
      obtain rfl := Option.some.inj h
      exact ro_iret hκ dX0_guest_53
    · replace h := ah_ip c h
      refine ro_bipush (pc' := 22) dX0_guest_20 ib_m3 rfl ?_
      obtain rfl := Option.some.inj h
      exact ro_iret hκ dX0_guest_22
  · replace h := ah_ip c h
    refine ro_iconst (pc' := 10) dX0_guest_9 ic_m1 rfl ?_
    obtain rfl := Option.some.inj h
    exact ro_iret hκ dX0_guest_10
theorem M_X0_guest {l : Launch} {D : ah_D}  {σ : ah_S} {r0 : Option Nat} {x1 : Int32} {x2 : Int32} {v : Int32} {σ1 : ah_S} (h : F_X0_guest σ r0 x1 x2 = some (v, σ1)) : ah_Met l yX0_guest (Cond.code yX0_guest cX0_guest 3 (some FieldType.int)) 4 89 D [va_rf r0, .int x1, .int x2] σ (.returned (some (.int v)), σ1) :=
  ah_ofG (own := "LeftAsFound") (nm := "guest") (L0 := [some (va_rf r0), some (.int x1), some (.int x2)]) (by decide) rfl rfl rfl (ah_ao_1 (ah_rf_cat _) (ah_ao_1 rfl (ah_ao_1 rfl ah_ao_0))) (fun κ hκ => W_X0_guest hκ  σ r0 x1 x2 h)
set_option maxRecDepth 20000 in
set_option maxHeartbeats 4000000 in
theorem W_X0_isThing {κ : ah_C} {rr : (Int32 × ah_S)} (hκ : ah_res κ = (.returned (some (.int rr.1)), rr.2))  (σ : ah_S) (x0 : Int32) (h : F_X0_isThing σ x0 = some rr) : ah_G κ ("LeftAsFound", "isThing", 1, (some FieldType.boolean), [], 2, 49) cX0_isThing σ 0 [some (.int x0)] [] := by
  unfold F_X0_isThing at h
  refine ro_iload_n (pc' := 1) dX0_isThing_0 rfl rfl rfl ?_
  refine ro_i2l (pc' := 2) dX0_isThing_1 rfl ?_
  refine ro_lconst (pc' := 3) dX0_isThing_2 lc_0 rfl ?_
  refine ro_ldc2 (pc' := 6) q440 dX0_isThing_3 rfl ?_
  obtain ⟨v1, σ2, hv1, h⟩ := ah_bs2 h
  refine ro_callS (pc' := 9) (As := [.long (x0.toInt64), .long (0 : Int64), .long (3 : Int64)]) (rest := []) (st' := [.int v1]) q429 (M_X0_within hv1) q428 q430 q95 dd_X0_within rfl ⟨Nat.le_of_ble_eq_true rfl, Nat.le_of_ble_eq_true rfl⟩ (Nat.le_of_ble_eq_true rfl) dX0_isThing_6 rfl rfl rfl ?_
  obtain ⟨z3, hz3, g⟩ := ah_bs h
  obtain ⟨ez3, hz3⟩ := ah_z_n hz3
  subst ez3
  obtain rfl := Option.some.inj g
  exact ro_zret hz3 hκ dX0_isThing_9
theorem M_X0_isThing {l : Launch} {D : ah_D}  {σ : ah_S} {x0 : Int32} {v : Int32} {σ1 : ah_S} (h : F_X0_isThing σ x0 = some (v, σ1)) : ah_Met l yX0_isThing (Cond.code yX0_isThing cX0_isThing 1 (some FieldType.boolean)) 2 49 D [.int x0] σ (.returned (some (.int v)), σ1) :=
  ah_ofG (own := "LeftAsFound") (nm := "isThing") (L0 := [some (.int x0)]) (by decide) rfl rfl rfl (ah_ao_1 rfl ah_ao_0) (fun κ hκ => W_X0_isThing hκ  σ x0 h)
set_option maxRecDepth 20000 in
set_option maxHeartbeats 4000000 in
theorem W_X0_isGt {κ : ah_C} {rr : (Int32 × ah_S)} (hκ : ah_res κ = (.returned (some (.int rr.1)), rr.2))  (σ : ah_S) (r0 : Option Nat) (x1 : Int32) (h : F_X0_isGt σ r0 x1 = some rr) : ah_G κ ("LeftAsFound", "isGt", 2, (some FieldType.boolean), [], 3, 71) cX0_isGt σ 0 [some (va_rf r0), some (.int x1)] [] := by
  unfold F_X0_isGt at h
  refine ro_iload_n (pc' := 1) dX0_isGt_0 rfl rfl rfl ?_
  refine ro_if_lt (pc' := 4) (tgt := 30) dX0_isGt_1 rfl rfl (fun c => ?_) (fun c => ?_)
  · replace h := ah_ip c h
    refine ro_iconst (pc' := 31) dX0_isGt_30 ic_0 rfl ?_
    obtain rfl := Option.some.inj h
    exact ro_zret rfl hκ dX0_isGt_31
  · replace h := ah_in_ c h
    refine ro_aload_n (pc' := 5) dX0_isGt_4 rfl rfl rfl ?_
    refine ro_iload_n (pc' := 6) dX0_isGt_5 rfl rfl rfl ?_
    refine ro_bipush (pc' := 8) dX0_isGt_6 ib_10 rfl ?_
    obtain ⟨q1, hq1, h⟩ := ah_bs h
    refine ro_idiv (pc' := 9) dX0_isGt_8 rfl hq1 ?_
    refine ro_i2l (pc' := 10) dX0_isGt_9 rfl ?_
    obtain ⟨u2, hu2, h⟩ := ah_bs h
    obtain ⟨v3, σ4, hv3, h⟩ := ah_bs2 h
    refine ro_callV (pc' := 13) (As := [.long (q1.toInt64)]) (rest := []) (st' := [.int v3]) (by decide) hu2 q505 sl_X0_isGuest (M_X0_isGuest hv3) q503 q506 q95 dd_X0_isGuest rfl ⟨Nat.le_of_ble_eq_true rfl, Nat.le_of_ble_eq_true rfl⟩ (Nat.le_of_ble_eq_true rfl) dX0_isGt_10 rfl rfl rfl ?_
    refine ro_if_eq (pc' := 16) (tgt := 30) dX0_isGt_13 rfl rfl (fun c => ?_) (fun c => ?_)
    · replace h := ah_ip c h
      refine ro_iconst (pc' := 31) dX0_isGt_30 ic_0 rfl ?_
      obtain rfl := Option.some.inj h
      exact ro_zret rfl hκ dX0_isGt_31
    · replace h := ah_in_ c h
      refine ro_iload_n (pc' := 17) dX0_isGt_16 rfl rfl rfl ?_
      refine ro_bipush (pc' := 19) dX0_isGt_17 ib_10 rfl ?_
      obtain ⟨q5, hq5, h⟩ := ah_bs h
      refine ro_irem (pc' := 20) dX0_isGt_19 rfl hq5 ?_
      obtain ⟨v6, σ7, hv6, h⟩ := ah_bs2 h
      refine ro_callS (pc' := 23) (As := [.int q5]) (rest := []) (st' := [.int v6]) q497 (M_X0_isThing hv6) q496 q498 q95 dd_X0_isThing rfl ⟨Nat.le_of_ble_eq_true rfl, Nat.le_of_ble_eq_true rfl⟩ (Nat.le_of_ble_eq_true rfl) dX0_isGt_20 rfl rfl rfl ?_
      refine ro_if_eq (pc' := 26) (tgt := 30) dX0_isGt_23 rfl rfl (fun c => ?_) (fun c => ?_)
      · replace h := ah_ip c h
        refine ro_iconst (pc' := 31) dX0_isGt_30 ic_0 rfl ?_
        obtain rfl := Option.some.inj h
        exact ro_zret rfl hκ dX0_isGt_31
      · replace h := ah_in_ c h
        refine ro_iconst (pc' := 27) dX0_isGt_26 ic_1 rfl ?_
        refine ro_goto (tgt := 31) dX0_isGt_27 rfl ?_
        obtain rfl := Option.some.inj h
        exact ro_zret rfl hκ dX0_isGt_31
theorem M_X0_isGt {l : Launch} {D : ah_D}  {σ : ah_S} {r0 : Option Nat} {x1 : Int32} {v : Int32} {σ1 : ah_S} (h : F_X0_isGt σ r0 x1 = some (v, σ1)) : ah_Met l yX0_isGt (Cond.code yX0_isGt cX0_isGt 2 (some FieldType.boolean)) 3 71 D [va_rf r0, .int x1] σ (.returned (some (.int v)), σ1) :=
  ah_ofG (own := "LeftAsFound") (nm := "isGt") (L0 := [some (va_rf r0), some (.int x1)]) (by decide) rfl rfl rfl (ah_ao_1 (ah_rf_cat _) (ah_ao_1 rfl ah_ao_0)) (fun κ hκ => W_X0_isGt hκ  σ r0 x1 h)
set_option maxRecDepth 20000 in
set_option maxHeartbeats 4000000 in
theorem W_X0_held {κ : ah_C} {rr : (Option Nat × ah_S)} (hκ : ah_res κ = (.returned (some (va_rf rr.1)), rr.2))  (σ : ah_S) (r0 : Option Nat) (x1 : Int32) (x2 : Int32) (h : F_X0_held σ r0 x1 x2 = some rr) : ah_G κ ("LeftAsFound", "held", 3, (some (FieldType.object "LeftAsFound$Held")), [], 4, 92) cX0_held σ 0 [some (va_rf r0), some (.int x1), some (.int x2)] [] := by
  unfold F_X0_held at h
  refine ro_iload_n (pc' := 1) dX0_held_0 rfl rfl rfl ?_
  by_cases c1_0 : x2 = (0 : Int32)
  · replace h := ah_ip c1_0 h
    refine ro_tabIn (tgt := 52) 0 c1_0 dX0_held_1 (by decide) (by decide) rfl rfl ?_
    refine ro_iload_n (pc' := 53) dX0_held_52 rfl rfl rfl ?_
    obtain ⟨v1, σ2, hv1, h⟩ := ah_bs2 h
    refine ro_callS (pc' := 56) (As := [.int x1]) (rest := []) (st' := [.int v1]) q497 (M_X0_isThing hv1) q496 q498 q95 dd_X0_isThing rfl ⟨Nat.le_of_ble_eq_true rfl, Nat.le_of_ble_eq_true rfl⟩ (Nat.le_of_ble_eq_true rfl) dX0_held_53 rfl rfl rfl ?_
    refine ro_if_eq (pc' := 59) (tgt := 68) dX0_held_56 rfl rfl (fun c => ?_) (fun c => ?_)
    · replace h := ah_ip c h
      refine ro_null (pc' := 69) dX0_held_68 rfl ?_
      obtain rfl := Option.some.inj h
      exact ro_aret hκ dX0_held_69
    · replace h := ah_in_ c h
      refine ro_aload_n (pc' := 60) dX0_held_59 rfl rfl rfl ?_
      obtain ⟨v3, hv3, h⟩ := ah_bs h
      refine ro_getR (pc' := 63) ft_9 fk_9 q301 dX0_held_60 rfl hv3 ?_
      refine ro_iload_n (pc' := 64) dX0_held_63 rfl rfl rfl ?_
      obtain ⟨v4, hv4, h⟩ := ah_bs h
      refine ro_aaload (pc' := 65) (by decide) (by decide) rfl dX0_held_64 rfl hv4 ?_
      refine ro_goto (tgt := 69) dX0_held_65 rfl ?_
      obtain rfl := Option.some.inj h
      exact ro_aret hκ dX0_held_69
  replace h := ah_in_ c1_0 h
  by_cases c1_1 : x2 = (1 : Int32)
  · replace h := ah_ip c1_1 h
    refine ro_tabIn (tgt := 70) 1 c1_1 dX0_held_1 (by decide) (by decide) rfl rfl ?_
    refine ro_iload_n (pc' := 71) dX0_held_70 rfl rfl rfl ?_
    obtain ⟨v5, σ6, hv5, h⟩ := ah_bs2 h
    refine ro_callS (pc' := 74) (As := [.int x1]) (rest := []) (st' := [.int v5]) q497 (M_X0_isThing hv5) q496 q498 q95 dd_X0_isThing rfl ⟨Nat.le_of_ble_eq_true rfl, Nat.le_of_ble_eq_true rfl⟩ (Nat.le_of_ble_eq_true rfl) dX0_held_71 rfl rfl rfl ?_
    refine ro_if_eq (pc' := 77) (tgt := 86) dX0_held_74 rfl rfl (fun c => ?_) (fun c => ?_)
    · replace h := ah_ip c h
      refine ro_null (pc' := 87) dX0_held_86 rfl ?_
      obtain rfl := Option.some.inj h
      exact ro_aret hκ dX0_held_87
    · replace h := ah_in_ c h
      refine ro_aload_n (pc' := 78) dX0_held_77 rfl rfl rfl ?_
      obtain ⟨v7, hv7, h⟩ := ah_bs h
      refine ro_getR (pc' := 81) ft_10 fk_10 q303 dX0_held_78 rfl hv7 ?_
      refine ro_iload_n (pc' := 82) dX0_held_81 rfl rfl rfl ?_
      obtain ⟨v8, hv8, h⟩ := ah_bs h
      refine ro_aaload (pc' := 83) (by decide) (by decide) rfl dX0_held_82 rfl hv8 ?_
      refine ro_goto (tgt := 87) dX0_held_83 rfl ?_
      obtain rfl := Option.some.inj h
      exact ro_aret hκ dX0_held_87
  replace h := ah_in_ c1_1 h
  by_cases c1_2 : x2 = (2 : Int32)
  · replace h := ah_ip c1_2 h
    refine ro_tabIn (tgt := 88) 2 c1_2 dX0_held_1 (by decide) (by decide) rfl rfl ?_
    refine ro_aload_n (pc' := 89) dX0_held_88 rfl rfl rfl ?_
    refine ro_iload_n (pc' := 90) dX0_held_89 rfl rfl rfl ?_
    obtain ⟨u9, hu9, h⟩ := ah_bs h
    obtain ⟨v10, σ11, hv10, h⟩ := ah_bs2 h
    refine ro_callV (pc' := 93) (As := [.int x1]) (rest := []) (st' := [.int v10]) (by decide) hu9 q501 sl_X0_isGt (M_X0_isGt hv10) q499 q502 q95 dd_X0_isGt rfl ⟨Nat.le_of_ble_eq_true rfl, Nat.le_of_ble_eq_true rfl⟩ (Nat.le_of_ble_eq_true rfl) dX0_held_90 rfl rfl rfl ?_
    refine ro_if_eq (pc' := 96) (tgt := 116) dX0_held_93 rfl rfl (fun c => ?_) (fun c => ?_)
    · replace h := ah_ip c h
      refine ro_null (pc' := 117) dX0_held_116 rfl ?_
      obtain rfl := Option.some.inj h
      exact ro_aret hκ dX0_held_117
    · replace h := ah_in_ c h
      refine ro_aload_n (pc' := 97) dX0_held_96 rfl rfl rfl ?_
      obtain ⟨v12, hv12, h⟩ := ah_bs h
      refine ro_getR (pc' := 100) ft_7 fk_7 q298 dX0_held_97 rfl hv12 ?_
      refine ro_iload_n (pc' := 101) dX0_held_100 rfl rfl rfl ?_
      refine ro_bipush (pc' := 103) dX0_held_101 ib_10 rfl ?_
      obtain ⟨q13, hq13, h⟩ := ah_bs h
      refine ro_idiv (pc' := 104) dX0_held_103 rfl hq13 ?_
      obtain ⟨v14, hv14, h⟩ := ah_bs h
      refine ro_aaload (pc' := 105) (by decide) (by decide) rfl dX0_held_104 rfl hv14 ?_
      obtain ⟨v15, hv15, h⟩ := ah_bs h
      refine ro_getRN (pc' := 108) ft_700 fk_700 nq449 dX0_held_105 rfl hv15 ?_
      refine ro_iload_n (pc' := 109) dX0_held_108 rfl rfl rfl ?_
      refine ro_bipush (pc' := 111) dX0_held_109 ib_10 rfl ?_
      obtain ⟨q16, hq16, h⟩ := ah_bs h
      refine ro_irem (pc' := 112) dX0_held_111 rfl hq16 ?_
      obtain ⟨v17, hv17, h⟩ := ah_bs h
      refine ro_aaload (pc' := 113) (by decide) (by decide) rfl dX0_held_112 rfl hv17 ?_
      refine ro_goto (tgt := 117) dX0_held_113 rfl ?_
      obtain rfl := Option.some.inj h
      exact ro_aret hκ dX0_held_117
  replace h := ah_in_ c1_2 h
  by_cases c1_3 : x2 = (3 : Int32)
  · replace h := ah_ip c1_3 h
    refine ro_tabIn (tgt := 118) 3 c1_3 dX0_held_1 (by decide) (by decide) rfl rfl ?_
    refine ro_aload_n (pc' := 119) dX0_held_118 rfl rfl rfl ?_
    refine ro_iload_n (pc' := 120) dX0_held_119 rfl rfl rfl ?_
    obtain ⟨u18, hu18, h⟩ := ah_bs h
    obtain ⟨v19, σ20, hv19, h⟩ := ah_bs2 h
    refine ro_callV (pc' := 123) (As := [.int x1]) (rest := []) (st' := [.int v19]) (by decide) hu18 q501 sl_X0_isGt (M_X0_isGt hv19) q499 q502 q95 dd_X0_isGt rfl ⟨Nat.le_of_ble_eq_true rfl, Nat.le_of_ble_eq_true rfl⟩ (Nat.le_of_ble_eq_true rfl) dX0_held_120 rfl rfl rfl ?_
    refine ro_if_eq (pc' := 126) (tgt := 146) dX0_held_123 rfl rfl (fun c => ?_) (fun c => ?_)
    · replace h := ah_ip c h
      refine ro_null (pc' := 147) dX0_held_146 rfl ?_
      obtain rfl := Option.some.inj h
      exact ro_aret hκ dX0_held_147
    · replace h := ah_in_ c h
      refine ro_aload_n (pc' := 127) dX0_held_126 rfl rfl rfl ?_
      obtain ⟨v21, hv21, h⟩ := ah_bs h
      refine ro_getR (pc' := 130) ft_7 fk_7 q298 dX0_held_127 rfl hv21 ?_
      refine ro_iload_n (pc' := 131) dX0_held_130 rfl rfl rfl ?_
      refine ro_bipush (pc' := 133) dX0_held_131 ib_10 rfl ?_
      obtain ⟨q22, hq22, h⟩ := ah_bs h
      refine ro_idiv (pc' := 134) dX0_held_133 rfl hq22 ?_
      obtain ⟨v23, hv23, h⟩ := ah_bs h
      refine ro_aaload (pc' := 135) (by decide) (by decide) rfl dX0_held_134 rfl hv23 ?_
      obtain ⟨v24, hv24, h⟩ := ah_bs h
      refine ro_getRN (pc' := 138) ft_701 fk_701 nq451 dX0_held_135 rfl hv24 ?_
      refine ro_iload_n (pc' := 139) dX0_held_138 rfl rfl rfl ?_
      refine ro_bipush (pc' := 141) dX0_held_139 ib_10 rfl ?_
      obtain ⟨q25, hq25, h⟩ := ah_bs h
      refine ro_irem (pc' := 142) dX0_held_141 rfl hq25 ?_
      obtain ⟨v26, hv26, h⟩ := ah_bs h
      refine ro_aaload (pc' := 143) (by decide) (by decide) rfl dX0_held_142 rfl hv26 ?_
      refine ro_goto (tgt := 147) dX0_held_143 rfl ?_
      obtain rfl := Option.some.inj h
      exact ro_aret hκ dX0_held_147
  replace h := ah_in_ c1_3 h
  by_cases c1_4 : x2 = (4 : Int32)
  · replace h := ah_ip c1_4 h
    refine ro_tabIn (tgt := 148) 4 c1_4 dX0_held_1 (by decide) (by decide) rfl rfl ?_
    refine ro_aload_n (pc' := 149) dX0_held_148 rfl rfl rfl ?_
    refine ro_iload_n (pc' := 150) dX0_held_149 rfl rfl rfl ?_
    refine ro_i2l (pc' := 151) dX0_held_150 rfl ?_
    obtain ⟨u27, hu27, h⟩ := ah_bs h
    obtain ⟨v28, σ29, hv28, h⟩ := ah_bs2 h
    refine ro_callV (pc' := 154) (As := [.long (x1.toInt64)]) (rest := []) (st' := [.int v28]) (by decide) hu27 q505 sl_X0_isGuest (M_X0_isGuest hv28) q503 q506 q95 dd_X0_isGuest rfl ⟨Nat.le_of_ble_eq_true rfl, Nat.le_of_ble_eq_true rfl⟩ (Nat.le_of_ble_eq_true rfl) dX0_held_151 rfl rfl rfl ?_
    refine ro_if_eq (pc' := 157) (tgt := 169) dX0_held_154 rfl rfl (fun c => ?_) (fun c => ?_)
    · replace h := ah_ip c h
      refine ro_null (pc' := 170) dX0_held_169 rfl ?_
      obtain rfl := Option.some.inj h
      exact ro_aret hκ dX0_held_170
    · replace h := ah_in_ c h
      refine ro_aload_n (pc' := 158) dX0_held_157 rfl rfl rfl ?_
      obtain ⟨v30, hv30, h⟩ := ah_bs h
      refine ro_getR (pc' := 161) ft_7 fk_7 q298 dX0_held_158 rfl hv30 ?_
      refine ro_iload_n (pc' := 162) dX0_held_161 rfl rfl rfl ?_
      obtain ⟨v31, hv31, h⟩ := ah_bs h
      refine ro_aaload (pc' := 163) (by decide) (by decide) rfl dX0_held_162 rfl hv31 ?_
      obtain ⟨v32, hv32, h⟩ := ah_bs h
      refine ro_getRN (pc' := 166) ft_702 fk_702 nq453 dX0_held_163 rfl hv32 ?_
      refine ro_goto (tgt := 170) dX0_held_166 rfl ?_
      obtain rfl := Option.some.inj h
      exact ro_aret hκ dX0_held_170
  replace h := ah_in_ c1_4 h
  by_cases c1_5 : x2 = (5 : Int32)
  · replace h := ah_ip c1_5 h
    refine ro_tabIn (tgt := 171) 5 c1_5 dX0_held_1 (by decide) (by decide) rfl rfl ?_
    refine ro_aload_n (pc' := 172) dX0_held_171 rfl rfl rfl ?_
    refine ro_iload_n (pc' := 173) dX0_held_172 rfl rfl rfl ?_
    refine ro_i2l (pc' := 174) dX0_held_173 rfl ?_
    obtain ⟨u33, hu33, h⟩ := ah_bs h
    obtain ⟨v34, σ35, hv34, h⟩ := ah_bs2 h
    refine ro_callV (pc' := 177) (As := [.long (x1.toInt64)]) (rest := []) (st' := [.int v34]) (by decide) hu33 q505 sl_X0_isGuest (M_X0_isGuest hv34) q503 q506 q95 dd_X0_isGuest rfl ⟨Nat.le_of_ble_eq_true rfl, Nat.le_of_ble_eq_true rfl⟩ (Nat.le_of_ble_eq_true rfl) dX0_held_174 rfl rfl rfl ?_
    refine ro_if_eq (pc' := 180) (tgt := 192) dX0_held_177 rfl rfl (fun c => ?_) (fun c => ?_)
    · replace h := ah_ip c h
      refine ro_null (pc' := 193) dX0_held_192 rfl ?_
      obtain rfl := Option.some.inj h
      exact ro_aret hκ dX0_held_193
    · replace h := ah_in_ c h
      refine ro_aload_n (pc' := 181) dX0_held_180 rfl rfl rfl ?_
      obtain ⟨v36, hv36, h⟩ := ah_bs h
      refine ro_getR (pc' := 184) ft_7 fk_7 q298 dX0_held_181 rfl hv36 ?_
      refine ro_iload_n (pc' := 185) dX0_held_184 rfl rfl rfl ?_
      obtain ⟨v37, hv37, h⟩ := ah_bs h
      refine ro_aaload (pc' := 186) (by decide) (by decide) rfl dX0_held_185 rfl hv37 ?_
      obtain ⟨v38, hv38, h⟩ := ah_bs h
      refine ro_getRN (pc' := 189) ft_703 fk_703 nq456 dX0_held_186 rfl hv38 ?_
      refine ro_goto (tgt := 193) dX0_held_189 rfl ?_
      obtain rfl := Option.some.inj h
      exact ro_aret hκ dX0_held_193
  replace h := ah_in_ c1_5 h
  by_cases c1_6 : x2 = (6 : Int32)
  · replace h := ah_ip c1_6 h
    refine ro_tabIn (tgt := 194) 6 c1_6 dX0_held_1 (by decide) (by decide) rfl rfl ?_
    refine ro_iload_n (pc' := 195) dX0_held_194 rfl rfl rfl ?_
    refine ro_if_ne (pc' := 198) (tgt := 205) dX0_held_195 rfl rfl (fun c => ?_) (fun c => ?_)
    · replace h := ah_in_ c h
      refine ro_null (pc' := 206) dX0_held_205 rfl ?_
      obtain rfl := Option.some.inj h
      exact ro_aret hκ dX0_held_206
    · replace h := ah_ip c h
      refine ro_aload_n (pc' := 199) dX0_held_198 rfl rfl rfl ?_
      obtain ⟨v39, hv39, h⟩ := ah_bs h
      refine ro_getR (pc' := 202) ft_11 fk_11 q304 dX0_held_199 rfl hv39 ?_
      refine ro_goto (tgt := 206) dX0_held_202 rfl ?_
      obtain rfl := Option.some.inj h
      exact ro_aret hκ dX0_held_206
  replace h := ah_in_ c1_6 h
  by_cases c1_7 : x2 = (7 : Int32)
  · replace h := ah_ip c1_7 h
    refine ro_tabIn (tgt := 207) 7 c1_7 dX0_held_1 (by decide) (by decide) rfl rfl ?_
    refine ro_iload_n (pc' := 208) dX0_held_207 rfl rfl rfl ?_
    refine ro_if_ne (pc' := 211) (tgt := 218) dX0_held_208 rfl rfl (fun c => ?_) (fun c => ?_)
    · replace h := ah_in_ c h
      refine ro_null (pc' := 219) dX0_held_218 rfl ?_
      obtain rfl := Option.some.inj h
      exact ro_aret hκ dX0_held_219
    · replace h := ah_ip c h
      refine ro_aload_n (pc' := 212) dX0_held_211 rfl rfl rfl ?_
      obtain ⟨v40, hv40, h⟩ := ah_bs h
      refine ro_getR (pc' := 215) ft_12 fk_12 q305 dX0_held_212 rfl hv40 ?_
      refine ro_goto (tgt := 219) dX0_held_215 rfl ?_
      obtain rfl := Option.some.inj h
      exact ro_aret hκ dX0_held_219
  replace h := ah_in_ c1_7 h
  by_cases c1_8 : x2 = (8 : Int32)
  · replace h := ah_ip c1_8 h
    refine ro_tabIn (tgt := 220) 8 c1_8 dX0_held_1 (by decide) (by decide) rfl rfl ?_
    refine ro_iload_n (pc' := 221) dX0_held_220 rfl rfl rfl ?_
    refine ro_if_ne (pc' := 224) (tgt := 231) dX0_held_221 rfl rfl (fun c => ?_) (fun c => ?_)
    · replace h := ah_in_ c h
      refine ro_null (pc' := 232) dX0_held_231 rfl ?_
      obtain rfl := Option.some.inj h
      exact ro_aret hκ dX0_held_232
    · replace h := ah_ip c h
      refine ro_aload_n (pc' := 225) dX0_held_224 rfl rfl rfl ?_
      obtain ⟨v41, hv41, h⟩ := ah_bs h
      refine ro_getR (pc' := 228) ft_13 fk_13 q306 dX0_held_225 rfl hv41 ?_
      refine ro_goto (tgt := 232) dX0_held_228 rfl ?_
      obtain rfl := Option.some.inj h
      exact ro_aret hκ dX0_held_232
  replace h := ah_in_ c1_8 h
  refine ro_tabOut (tgt := 233) dX0_held_1 (by have e0 := lv_neT (a := 0) c1_0 (by decide); have e1 := lv_neT (a := 1) c1_1 (by decide); have e2 := lv_neT (a := 2) c1_2 (by decide); have e3 := lv_neT (a := 3) c1_3 (by decide); have e4 := lv_neT (a := 4) c1_4 (by decide); have e5 := lv_neT (a := 5) c1_5 (by decide); have e6 := lv_neT (a := 6) c1_6 (by decide); have e7 := lv_neT (a := 7) c1_7 (by decide); have e8 := lv_neT (a := 8) c1_8 (by decide); omega) rfl ?_
  refine ro_null (pc' := 234) dX0_held_233 rfl ?_
  obtain rfl := Option.some.inj h
  exact ro_aret hκ dX0_held_234
theorem M_X0_held {l : Launch} {D : ah_D}  {σ : ah_S} {r0 : Option Nat} {x1 : Int32} {x2 : Int32} {v : Option Nat} {σ1 : ah_S} (h : F_X0_held σ r0 x1 x2 = some (v, σ1)) : ah_Met l yX0_held (Cond.code yX0_held cX0_held 3 (some (FieldType.object "LeftAsFound$Held"))) 4 92 D [va_rf r0, .int x1, .int x2] σ (.returned (some (va_rf v)), σ1) :=
  ah_ofG (own := "LeftAsFound") (nm := "held") (L0 := [some (va_rf r0), some (.int x1), some (.int x2)]) (by decide) rfl rfl rfl (ah_ao_1 (ah_rf_cat _) (ah_ao_1 rfl (ah_ao_1 rfl ah_ao_0))) (fun κ hκ => W_X0_held hκ  σ r0 x1 x2 h)
set_option maxRecDepth 20000 in
set_option maxHeartbeats 4000000 in
theorem W_X0_image {κ : ah_C} {rr : (Int32 × ah_S)} (hκ : ah_res κ = (.returned (some (.int rr.1)), rr.2))  (σ : ah_S) (r0 : Option Nat) (h : F_X0_image σ r0 = some rr) : ah_G κ ("LeftAsFound", "image", 1, (some FieldType.int), [], 2, 101) cX0_image σ 0 [some (va_rf r0)] [] := by
  unfold F_X0_image at h
  refine ro_aload_n (pc' := 1) dX0_image_0 rfl rfl rfl ?_
  refine ro_iconst (pc' := 2) dX0_image_1 ic_1 rfl ?_
  obtain ⟨σ1, hσ1, h⟩ := ah_bs h
  refine ro_putZ (pc' := 5) ft_34 fk_34 q328 pd_34 dX0_image_2 rfl hσ1 ?_
  refine ro_aload_n (pc' := 6) dX0_image_5 rfl rfl rfl ?_
  obtain ⟨v2, hv2, h⟩ := ah_bs h
  refine ro_getR (pc' := 9) ft_35 fk_35 q329 dX0_image_6 rfl hv2 ?_
  refine ro_aload_n (pc' := 10) dX0_image_9 rfl rfl rfl ?_
  obtain ⟨v3, hv3, h⟩ := ah_bs h
  refine ro_getR (pc' := 13) ft_18 fk_18 q312 dX0_image_10 rfl hv3 ?_
  obtain ⟨u4, hu4, h⟩ := ah_bs h
  obtain ⟨σ5, hσ5, h⟩ := ah_bs h
  refine ro_callV (pc' := 16) (As := [va_rf v3]) (rest := []) (st' := []) (by decide) hu4 q669 sl_X4_beAs (M_X4_beAs hσ5) q668 q671 q102 dd_X4_beAs rfl ⟨Nat.le_of_ble_eq_true rfl, Nat.le_of_ble_eq_true rfl⟩ (Nat.le_of_ble_eq_true rfl) dX0_image_13 rfl rfl rfl ?_
  refine ro_aload_n (pc' := 17) dX0_image_16 rfl rfl rfl ?_
  obtain ⟨v6, hv6, h⟩ := ah_bs h
  refine ro_getR (pc' := 20) ft_33 fk_33 q327 dX0_image_17 rfl hv6 ?_
  refine ro_iconst (pc' := 21) dX0_image_20 ic_0 rfl ?_
  refine ro_aload_n (pc' := 22) dX0_image_21 rfl rfl rfl ?_
  obtain ⟨v7, hv7, h⟩ := ah_bs h
  refine ro_getR (pc' := 25) ft_36 fk_36 q330 dX0_image_22 rfl hv7 ?_
  refine ro_iconst (pc' := 26) dX0_image_25 ic_0 rfl ?_
  refine ro_iconst (pc' := 27) dX0_image_26 ic_4 rfl ?_
  obtain ⟨σ8, hσ8, h⟩ := ah_bs h
  refine ro_copy (pc' := 30) q783 q674 q673 q113 (Nat.le_of_ble_eq_true rfl) (Nat.le_of_ble_eq_true rfl) dX0_image_27 rfl hσ8 ?_
  refine ro_aload_n (pc' := 31) dX0_image_30 rfl rfl rfl ?_
  obtain ⟨v9, hv9, h⟩ := ah_bs h
  refine ro_getR (pc' := 34) ft_33 fk_33 q327 dX0_image_31 rfl hv9 ?_
  refine ro_iconst (pc' := 35) dX0_image_34 ic_0 rfl ?_
  obtain ⟨v10, hv10, h⟩ := ah_bs h
  refine ro_iaload (pc' := 36) dX0_image_35 rfl hv10 ?_
  obtain rfl := Option.some.inj h
  exact ro_iret hκ dX0_image_36
theorem M_X0_image {l : Launch} {D : ah_D}  {σ : ah_S} {r0 : Option Nat} {v : Int32} {σ1 : ah_S} (h : F_X0_image σ r0 = some (v, σ1)) : ah_Met l yX0_image (Cond.code yX0_image cX0_image 1 (some FieldType.int)) 2 101 D [va_rf r0] σ (.returned (some (.int v)), σ1) :=
  ah_ofG (own := "LeftAsFound") (nm := "image") (L0 := [some (va_rf r0)]) (by decide) rfl rfl rfl (ah_ao_1 (ah_rf_cat _) ah_ao_0) (fun κ hκ => W_X0_image hκ  σ r0 h)
set_option maxRecDepth 20000 in
set_option maxHeartbeats 4000000 in
theorem W_X0_isBody {κ : ah_C} {rr : (Int32 × ah_S)} (hκ : ah_res κ = (.returned (some (.int rr.1)), rr.2))  (σ : ah_S) (r0 : Option Nat) (x1 : Int32) (h : F_X0_isBody σ r0 x1 = some rr) : ah_G κ ("LeftAsFound", "isBody", 2, (some FieldType.boolean), [], 2, 49) cX0_isBody σ 0 [some (va_rf r0), some (.int x1)] [] := by
  unfold F_X0_isBody at h
  refine ro_iload_n (pc' := 1) dX0_isBody_0 rfl rfl rfl ?_
  refine ro_i2l (pc' := 2) dX0_isBody_1 rfl ?_
  refine ro_lconst (pc' := 3) dX0_isBody_2 lc_0 rfl ?_
  refine ro_aload_n (pc' := 4) dX0_isBody_3 rfl rfl rfl ?_
  obtain ⟨v1, hv1, h⟩ := ah_bs h
  refine ro_getI (pc' := 7) ft_38 fk_38 q332 dX0_isBody_4 rfl hv1 ?_
  refine ro_iconst (pc' := 8) dX0_isBody_7 ic_1 rfl ?_
  refine ro_isub (pc' := 9) dX0_isBody_8 rfl ?_
  refine ro_i2l (pc' := 10) dX0_isBody_9 rfl ?_
  obtain ⟨v2, σ3, hv2, h⟩ := ah_bs2 h
  refine ro_callS (pc' := 13) (As := [.long (x1.toInt64), .long (0 : Int64), .long ((v1 - (1 : Int32)).toInt64)]) (rest := []) (st' := [.int v2]) q429 (M_X0_within hv2) q428 q430 q95 dd_X0_within rfl ⟨Nat.le_of_ble_eq_true rfl, Nat.le_of_ble_eq_true rfl⟩ (Nat.le_of_ble_eq_true rfl) dX0_isBody_10 rfl rfl rfl ?_
  obtain ⟨z4, hz4, g⟩ := ah_bs h
  obtain ⟨ez4, hz4⟩ := ah_z_n hz4
  subst ez4
  obtain rfl := Option.some.inj g
  exact ro_zret hz4 hκ dX0_isBody_13
theorem M_X0_isBody {l : Launch} {D : ah_D}  {σ : ah_S} {r0 : Option Nat} {x1 : Int32} {v : Int32} {σ1 : ah_S} (h : F_X0_isBody σ r0 x1 = some (v, σ1)) : ah_Met l yX0_isBody (Cond.code yX0_isBody cX0_isBody 2 (some FieldType.boolean)) 2 49 D [va_rf r0, .int x1] σ (.returned (some (.int v)), σ1) :=
  ah_ofG (own := "LeftAsFound") (nm := "isBody") (L0 := [some (va_rf r0), some (.int x1)]) (by decide) rfl rfl rfl (ah_ao_1 (ah_rf_cat _) (ah_ao_1 rfl ah_ao_0)) (fun κ hκ => W_X0_isBody hκ  σ r0 x1 h)
set_option maxRecDepth 20000 in
set_option maxHeartbeats 4000000 in
theorem W_X0_peek {κ : ah_C} {rr : (Int32 × ah_S)} (hκ : ah_res κ = (.returned (some (.int rr.1)), rr.2))  (σ : ah_S) (r0 : Option Nat) (h : F_X0_peek σ r0 = some rr) : ah_G κ ("LeftAsFound", "peek", 1, (some FieldType.int), [], 1, 24) cX0_peek σ 0 [some (va_rf r0)] [] := by
  unfold F_X0_peek at h
  refine ro_aload_n (pc' := 1) dX0_peek_0 rfl rfl rfl ?_
  obtain ⟨v1, hv1, h⟩ := ah_bs h
  refine ro_getI (pc' := 4) ft_6 fk_6 q296 dX0_peek_1 rfl hv1 ?_
  refine ro_aload_n (pc' := 5) dX0_peek_4 rfl rfl rfl ?_
  obtain ⟨v2, hv2, h⟩ := ah_bs h
  refine ro_getI (pc' := 8) ft_4 fk_4 q294 dX0_peek_5 rfl hv2 ?_
  refine ro_icmp_ge (pc' := 11) (tgt := 23) dX0_peek_8 rfl rfl (fun c => ?_) (fun c => ?_)
  · replace h := ah_ip c h
    refine ro_iconst (pc' := 24) dX0_peek_23 ic_m1 rfl ?_
    obtain rfl := Option.some.inj h
    exact ro_iret hκ dX0_peek_24
  · replace h := ah_in_ c h
    refine ro_aload_n (pc' := 12) dX0_peek_11 rfl rfl rfl ?_
    obtain ⟨v3, hv3, h⟩ := ah_bs h
    refine ro_getR (pc' := 15) ft_3 fk_3 q293 dX0_peek_12 rfl hv3 ?_
    refine ro_aload_n (pc' := 16) dX0_peek_15 rfl rfl rfl ?_
    obtain ⟨v4, hv4, h⟩ := ah_bs h
    refine ro_getI (pc' := 19) ft_6 fk_6 q296 dX0_peek_16 rfl hv4 ?_
    obtain ⟨v5, hv5, h⟩ := ah_bs h
    refine ro_iaload (pc' := 20) dX0_peek_19 rfl hv5 ?_
    refine ro_goto (tgt := 24) dX0_peek_20 rfl ?_
    obtain rfl := Option.some.inj h
    exact ro_iret hκ dX0_peek_24
theorem M_X0_peek {l : Launch} {D : ah_D}  {σ : ah_S} {r0 : Option Nat} {v : Int32} {σ1 : ah_S} (h : F_X0_peek σ r0 = some (v, σ1)) : ah_Met l yX0_peek (Cond.code yX0_peek cX0_peek 1 (some FieldType.int)) 1 24 D [va_rf r0] σ (.returned (some (.int v)), σ1) :=
  ah_ofG (own := "LeftAsFound") (nm := "peek") (L0 := [some (va_rf r0)]) (by decide) rfl rfl rfl (ah_ao_1 (ah_rf_cat _) ah_ao_0) (fun κ hκ => W_X0_peek hκ  σ r0 h)
set_option maxRecDepth 20000 in
set_option maxHeartbeats 4000000 in
theorem W_X0_isDigit {κ : ah_C} {rr : (Int32 × ah_S)} (hκ : ah_res κ = (.returned (some (.int rr.1)), rr.2))  (σ : ah_S) (r0 : Option Nat) (h : F_X0_isDigit σ r0 = some rr) : ah_G κ ("LeftAsFound", "isDigit", 1, (some FieldType.boolean), [], 2, 49) cX0_isDigit σ 0 [some (va_rf r0)] [] := by
  unfold F_X0_isDigit at h
  refine ro_aload_n (pc' := 1) dX0_isDigit_0 rfl rfl rfl ?_
  obtain ⟨u1, hu1, h⟩ := ah_bs h
  obtain ⟨v2, σ3, hv2, h⟩ := ah_bs2 h
  refine ro_callV (pc' := 4) (As := []) (rest := []) (st' := [.int v2]) (by decide) hu1 q579 sl_X0_peek (M_X0_peek hv2) q577 q580 q95 dd_X0_peek rfl ⟨Nat.le_of_ble_eq_true rfl, Nat.le_of_ble_eq_true rfl⟩ (Nat.le_of_ble_eq_true rfl) dX0_isDigit_1 rfl rfl rfl ?_
  refine ro_i2l (pc' := 5) dX0_isDigit_4 rfl ?_
  refine ro_ldc2 (pc' := 8) q581 dX0_isDigit_5 rfl ?_
  refine ro_ldc2 (pc' := 11) q582 dX0_isDigit_8 rfl ?_
  obtain ⟨v4, σ5, hv4, h⟩ := ah_bs2 h
  refine ro_callS (pc' := 14) (As := [.long (v2.toInt64), .long (48 : Int64), .long (57 : Int64)]) (rest := []) (st' := [.int v4]) q429 (M_X0_within hv4) q428 q430 q95 dd_X0_within rfl ⟨Nat.le_of_ble_eq_true rfl, Nat.le_of_ble_eq_true rfl⟩ (Nat.le_of_ble_eq_true rfl) dX0_isDigit_11 rfl rfl rfl ?_
  obtain ⟨z6, hz6, g⟩ := ah_bs h
  obtain ⟨ez6, hz6⟩ := ah_z_n hz6
  subst ez6
  obtain rfl := Option.some.inj g
  exact ro_zret hz6 hκ dX0_isDigit_14
theorem M_X0_isDigit {l : Launch} {D : ah_D}  {σ : ah_S} {r0 : Option Nat} {v : Int32} {σ1 : ah_S} (h : F_X0_isDigit σ r0 = some (v, σ1)) : ah_Met l yX0_isDigit (Cond.code yX0_isDigit cX0_isDigit 1 (some FieldType.boolean)) 2 49 D [va_rf r0] σ (.returned (some (.int v)), σ1) :=
  ah_ofG (own := "LeftAsFound") (nm := "isDigit") (L0 := [some (va_rf r0)]) (by decide) rfl rfl rfl (ah_ao_1 (ah_rf_cat _) ah_ao_0) (fun κ hκ => W_X0_isDigit hκ  σ r0 h)
set_option maxRecDepth 20000 in
set_option maxHeartbeats 4000000 in
theorem W_X0_isIn {κ : ah_C} {rr : (Int32 × ah_S)} (hκ : ah_res κ = (.returned (some (.int rr.1)), rr.2))  (σ : ah_S) (x0 : Int32) (x1 : Int32) (h : F_X0_isIn σ x0 x1 = some rr) : ah_G κ ("LeftAsFound", "isIn", 2, (some FieldType.boolean), [], 1, 24) cX0_isIn σ 0 [some (.int x0), some (.int x1)] [] := by
  unfold F_X0_isIn at h
  refine ro_iload_n (pc' := 1) dX0_isIn_0 rfl rfl rfl ?_
  refine ro_iload_n (pc' := 2) dX0_isIn_1 rfl rfl rfl ?_
  refine ro_ishr (pc' := 3) dX0_isIn_2 rfl ?_
  refine ro_iconst (pc' := 4) dX0_isIn_3 ic_1 rfl ?_
  refine ro_iand (pc' := 5) dX0_isIn_4 rfl ?_
  refine ro_iconst (pc' := 6) dX0_isIn_5 ic_1 rfl ?_
  refine ro_icmp_ne (pc' := 9) (tgt := 13) dX0_isIn_6 rfl rfl (fun c => ?_) (fun c => ?_)
  · replace h := ah_in_ c h
    refine ro_iconst (pc' := 14) dX0_isIn_13 ic_0 rfl ?_
    obtain rfl := Option.some.inj h
    exact ro_zret rfl hκ dX0_isIn_14
  · replace h := ah_ip c h
    refine ro_iconst (pc' := 10) dX0_isIn_9 ic_1 rfl ?_
    refine ro_goto (tgt := 14) dX0_isIn_10 rfl ?_
    obtain rfl := Option.some.inj h
    exact ro_zret rfl hκ dX0_isIn_14
theorem M_X0_isIn {l : Launch} {D : ah_D}  {σ : ah_S} {x0 : Int32} {x1 : Int32} {v : Int32} {σ1 : ah_S} (h : F_X0_isIn σ x0 x1 = some (v, σ1)) : ah_Met l yX0_isIn (Cond.code yX0_isIn cX0_isIn 2 (some FieldType.boolean)) 1 24 D [.int x0, .int x1] σ (.returned (some (.int v)), σ1) :=
  ah_ofG (own := "LeftAsFound") (nm := "isIn") (L0 := [some (.int x0), some (.int x1)]) (by decide) rfl rfl rfl (ah_ao_1 rfl (ah_ao_1 rfl ah_ao_0)) (fun κ hκ => W_X0_isIn hκ  σ x0 x1 h)
set_option maxRecDepth 20000 in
set_option maxHeartbeats 4000000 in
theorem W_X0_isLike_2 {κ : ah_C} {rr : (Int32 × ah_S)} (hκ : ah_res κ = (.returned (some (.int rr.1)), rr.2))    : ∀ (n : Nat) (σ : ah_S) (r0 : Option Nat) (x1 : Int32) (x2 : Int32) (x3 : Int32), F_X0_isLike_2 n σ r0 x1 x2 x3 = some rr → ah_G κ ("LeftAsFound", "isLike", 4, (some FieldType.boolean), [], 1, 24) cX0_isLike σ 2 [some (va_rf r0), some (.int x1), some (.int x2), some (.int x3)] [] := by
  intro n
  induction n with
  | zero => intro σ r0 x1 x2 x3 h; cases h
  | succ n ih =>
    intro σ r0 x1 x2 x3 h
    rw [F_X0_isLike_2] at h
    refine ro_iload_n (pc' := 3) dX0_isLike_2 rfl rfl rfl ?_
    refine ro_bipush (pc' := 5) dX0_isLike_3 ib_37 rfl ?_
    refine ro_icmp_ge (pc' := 8) (tgt := 41) dX0_isLike_5 rfl rfl (fun c => ?_) (fun c => ?_)
    · replace h := ah_ip c h
      refine ro_iconst (pc' := 42) dX0_isLike_41 ic_1 rfl ?_
      obtain rfl := Option.some.inj h
      exact ro_zret rfl hκ dX0_isLike_42
    · replace h := ah_in_ c h
      refine ro_aload_n (pc' := 9) dX0_isLike_8 rfl rfl rfl ?_
      obtain ⟨v1, hv1, h⟩ := ah_bs h
      refine ro_getR (pc' := 12) ft_22 fk_22 q316 dX0_isLike_9 rfl hv1 ?_
      refine ro_iload_n (pc' := 13) dX0_isLike_12 rfl rfl rfl ?_
      refine ro_bipush (pc' := 15) dX0_isLike_13 ib_37 rfl ?_
      refine ro_imul (pc' := 16) dX0_isLike_15 rfl ?_
      refine ro_iload_n (pc' := 17) dX0_isLike_16 rfl rfl rfl ?_
      refine ro_iadd (pc' := 18) dX0_isLike_17 rfl ?_
      obtain ⟨v2, hv2, h⟩ := ah_bs h
      refine ro_iaload (pc' := 19) dX0_isLike_18 rfl hv2 ?_
      refine ro_aload_n (pc' := 20) dX0_isLike_19 rfl rfl rfl ?_
      obtain ⟨v3, hv3, h⟩ := ah_bs h
      refine ro_getR (pc' := 23) ft_22 fk_22 q316 dX0_isLike_20 rfl hv3 ?_
      refine ro_iload_n (pc' := 24) dX0_isLike_23 rfl rfl rfl ?_
      refine ro_bipush (pc' := 26) dX0_isLike_24 ib_37 rfl ?_
      refine ro_imul (pc' := 27) dX0_isLike_26 rfl ?_
      refine ro_iload_n (pc' := 28) dX0_isLike_27 rfl rfl rfl ?_
      refine ro_iadd (pc' := 29) dX0_isLike_28 rfl ?_
      obtain ⟨v4, hv4, h⟩ := ah_bs h
      refine ro_iaload (pc' := 30) dX0_isLike_29 rfl hv4 ?_
      refine ro_icmp_eq (pc' := 33) (tgt := 35) dX0_isLike_30 rfl rfl (fun c => ?_) (fun c => ?_)
      · replace h := ah_ip c h
        refine ro_iinc (pc' := 38) (L' := [some (va_rf r0), some (.int x1), some (.int x2), some (.int (x3 + (1 : Int32)))]) dX0_isLike_35 rfl ic_1 (Nat.le_of_ble_eq_true rfl) rfl (ah_okp_i _) rfl ?_
        refine ro_goto (tgt := 2) dX0_isLike_38 rfl ?_
        exact ih _ _ _ _ _ h
      · replace h := ah_in_ c h
        refine ro_iconst (pc' := 34) dX0_isLike_33 ic_0 rfl ?_
        obtain rfl := Option.some.inj h
        exact ro_zret rfl hκ dX0_isLike_34
set_option maxRecDepth 20000 in
set_option maxHeartbeats 4000000 in
theorem W_X0_isLike {κ : ah_C} {rr : (Int32 × ah_S)} (hκ : ah_res κ = (.returned (some (.int rr.1)), rr.2))  (σ : ah_S) (r0 : Option Nat) (x1 : Int32) (x2 : Int32) (h : F_X0_isLike σ r0 x1 x2 = some rr) : ah_G κ ("LeftAsFound", "isLike", 4, (some FieldType.boolean), [], 1, 24) cX0_isLike σ 0 [some (va_rf r0), some (.int x1), some (.int x2), none] [] := by
  unfold F_X0_isLike at h
  refine ro_iconst (pc' := 1) dX0_isLike_0 ic_0 rfl ?_
  refine ro_istore_n (pc' := 2) (L' := [some (va_rf r0), some (.int x1), some (.int x2), some (.int (0 : Int32))]) dX0_isLike_1 rfl (Nat.le_of_ble_eq_true rfl) rfl (ah_okp_i _) rfl ?_
  exact W_X0_isLike_2 hκ _ _ _ _ _ _ h
theorem M_X0_isLike {l : Launch} {D : ah_D}  {σ : ah_S} {r0 : Option Nat} {x1 : Int32} {x2 : Int32} {v : Int32} {σ1 : ah_S} (h : F_X0_isLike σ r0 x1 x2 = some (v, σ1)) : ah_Met l yX0_isLike (Cond.code yX0_isLike cX0_isLike 4 (some FieldType.boolean)) 1 24 D [va_rf r0, .int x1, .int x2] σ (.returned (some (.int v)), σ1) :=
  ah_ofG (own := "LeftAsFound") (nm := "isLike") (L0 := [some (va_rf r0), some (.int x1), some (.int x2), none]) (by decide) rfl rfl rfl (ah_ao_1 (ah_rf_cat _) (ah_ao_1 rfl (ah_ao_1 rfl (ah_ao_n ah_ao_0)))) (fun κ hκ => W_X0_isLike hκ  σ r0 x1 x2 h)
set_option maxRecDepth 20000 in
set_option maxHeartbeats 4000000 in
theorem W_X0_keep_22 {κ : ah_C} {rr : (Int32 × ah_S)} (hκ : ah_res κ = (.returned (some (.int rr.1)), rr.2))    : ∀ (σ : ah_S) (r0 : Option Nat) (x1 : Int32) (x2 : Int32), F_X0_keep_22 σ r0 x1 x2 = some rr → ah_G κ ("LeftAsFound", "keep", 3, (some FieldType.int), [], 3, 70) cX0_keep σ 22 [some (va_rf r0), some (.int x1), some (.int x2)] [] := by
  intro σ r0 x1 x2 h
  unfold F_X0_keep_22 at h
  refine ro_aload_n (pc' := 23) dX0_keep_22 rfl rfl rfl ?_
  obtain ⟨v1, hv1, h⟩ := ah_bs h
  refine ro_getR (pc' := 26) ft_41 fk_41 q337 dX0_keep_23 rfl hv1 ?_
  refine ro_iload_n (pc' := 27) dX0_keep_26 rfl rfl rfl ?_
  refine ro_iload_n (pc' := 28) dX0_keep_27 rfl rfl rfl ?_
  refine ro_iconst (pc' := 29) dX0_keep_28 ic_m1 rfl ?_
  refine ro_icmp_ne (pc' := 32) (tgt := 36) dX0_keep_29 rfl rfl (fun c => ?_) (fun c => ?_)
  · replace h := ah_in_ c h
    refine ro_aload_n (pc' := 37) dX0_keep_36 rfl rfl rfl ?_
    obtain ⟨v2, hv2, h⟩ := ah_bs h
    refine ro_getR (pc' := 40) ft_37 fk_37 q331 dX0_keep_37 rfl hv2 ?_
    refine ro_iload_n (pc' := 41) dX0_keep_40 rfl rfl rfl ?_
    obtain ⟨v3, hv3, h⟩ := ah_bs h
    refine ro_aaload (pc' := 42) (by decide) (by decide) rfl dX0_keep_41 rfl hv3 ?_
    obtain ⟨σ4, hσ4, h⟩ := ah_bs h
    refine ro_aastore (pc' := 43) (by decide) (by decide) rfl dX0_keep_42 rfl hσ4 ?_
    refine ro_iconst (pc' := 44) dX0_keep_43 ic_1 rfl ?_
    obtain rfl := Option.some.inj h
    exact ro_iret hκ dX0_keep_44
  · replace h := ah_ip c h
    refine ro_null (pc' := 33) dX0_keep_32 rfl ?_
    refine ro_goto (tgt := 42) dX0_keep_33 rfl ?_
    obtain ⟨σ5, hσ5, h⟩ := ah_bs h
    refine ro_aastore (pc' := 43) (by decide) (by decide) rfl dX0_keep_42 rfl hσ5 ?_
    refine ro_iconst (pc' := 44) dX0_keep_43 ic_1 rfl ?_
    obtain rfl := Option.some.inj h
    exact ro_iret hκ dX0_keep_44
set_option maxRecDepth 20000 in
set_option maxHeartbeats 4000000 in
theorem W_X0_keep {κ : ah_C} {rr : (Int32 × ah_S)} (hκ : ah_res κ = (.returned (some (.int rr.1)), rr.2))  (σ : ah_S) (r0 : Option Nat) (x1 : Int32) (x2 : Int32) (h : F_X0_keep σ r0 x1 x2 = some rr) : ah_G κ ("LeftAsFound", "keep", 3, (some FieldType.int), [], 3, 70) cX0_keep σ 0 [some (va_rf r0), some (.int x1), some (.int x2)] [] := by
  unfold F_X0_keep at h
  refine ro_iload_n (pc' := 1) dX0_keep_0 rfl rfl rfl ?_
  obtain ⟨v1, σ2, hv1, h⟩ := ah_bs2 h
  refine ro_callS (pc' := 4) (As := [.int x1]) (rest := []) (st' := [.int v1]) q471 (M_X0_isShelf hv1) q470 q472 q95 dd_X0_isShelf rfl ⟨Nat.le_of_ble_eq_true rfl, Nat.le_of_ble_eq_true rfl⟩ (Nat.le_of_ble_eq_true rfl) dX0_keep_1 rfl rfl rfl ?_
  refine ro_if_eq (pc' := 7) (tgt := 20) dX0_keep_4 rfl rfl (fun c => ?_) (fun c => ?_)
  · replace h := ah_ip c h
    refine ro_iconst (pc' := 21) dX0_keep_20 ic_m1 rfl ?_
    obtain rfl := Option.some.inj h
    exact ro_iret hκ dX0_keep_21
  · replace h := ah_in_ c h
    refine ro_iload_n (pc' := 8) dX0_keep_7 rfl rfl rfl ?_
    refine ro_iconst (pc' := 9) dX0_keep_8 ic_m1 rfl ?_
    refine ro_icmp_eq (pc' := 12) (tgt := 22) dX0_keep_9 rfl rfl (fun c => ?_) (fun c => ?_)
    · replace h := ah_ip c h
      exact W_X0_keep_22 hκ _ _ _ _ h
    · replace h := ah_in_ c h
      refine ro_aload_n (pc' := 13) dX0_keep_12 rfl rfl rfl ?_
      refine ro_iload_n (pc' := 14) dX0_keep_13 rfl rfl rfl ?_
      obtain ⟨u3, hu3, h⟩ := ah_bs h
      obtain ⟨v4, σ5, hv4, h⟩ := ah_bs2 h
      refine ro_callV (pc' := 17) (As := [.int x2]) (rest := []) (st' := [.int v4]) (by decide) hu3 q974 sl_X0_isBody (M_X0_isBody hv4) q972 q975 q95 dd_X0_isBody rfl ⟨Nat.le_of_ble_eq_true rfl, Nat.le_of_ble_eq_true rfl⟩ (Nat.le_of_ble_eq_true rfl) dX0_keep_14 rfl rfl rfl ?_
      refine ro_if_ne (pc' := 20) (tgt := 22) dX0_keep_17 rfl rfl (fun c => ?_) (fun c => ?_)
      · replace h := ah_in_ c h
        exact W_X0_keep_22 hκ _ _ _ _ h
      · replace h := ah_ip c h
        refine ro_iconst (pc' := 21) dX0_keep_20 ic_m1 rfl ?_
        obtain rfl := Option.some.inj h
        exact ro_iret hκ dX0_keep_21
theorem M_X0_keep {l : Launch} {D : ah_D}  {σ : ah_S} {r0 : Option Nat} {x1 : Int32} {x2 : Int32} {v : Int32} {σ1 : ah_S} (h : F_X0_keep σ r0 x1 x2 = some (v, σ1)) : ah_Met l yX0_keep (Cond.code yX0_keep cX0_keep 3 (some FieldType.int)) 3 70 D [va_rf r0, .int x1, .int x2] σ (.returned (some (.int v)), σ1) :=
  ah_ofG (own := "LeftAsFound") (nm := "keep") (L0 := [some (va_rf r0), some (.int x1), some (.int x2)]) (by decide) rfl rfl rfl (ah_ao_1 (ah_rf_cat _) (ah_ao_1 rfl (ah_ao_1 rfl ah_ao_0))) (fun κ hκ => W_X0_keep hκ  σ r0 x1 x2 h)
set_option maxRecDepth 20000 in
set_option maxHeartbeats 4000000 in
theorem W_X0_keepState_56 {κ : ah_C} {rr : ah_S} (hκ : ah_res κ = (.returned none, rr))    : ∀ (n : Nat) (σ : ah_S) (r0 : Option Nat) (x2 : Int32) (x3 : Int32), F_X0_keepState_56 n σ r0 x2 x3 = some rr → ah_G κ ("LeftAsFound", "keepState", 4, none, [], 2, 45) cX0_keepState σ 56 [some (va_rf r0), none, some (.int x2), some (.int x3)] [] := by
  intro n
  induction n with
  | zero => intro σ r0 x2 x3 h; cases h
  | succ n ih =>
    intro σ r0 x2 x3 h
    rw [F_X0_keepState_56] at h
    refine ro_iload_n (pc' := 57) dX0_keepState_56 rfl rfl rfl ?_
    refine ro_bipush (pc' := 59) dX0_keepState_57 ib_28 rfl ?_
    refine ro_icmp_ge (pc' := 62) (tgt := 107) dX0_keepState_59 rfl rfl (fun c => ?_) (fun c => ?_)
    · replace h := ah_ip c h
      refine ro_aload_n (pc' := 108) dX0_keepState_107 rfl rfl rfl ?_
      obtain ⟨v1, hv1, h⟩ := ah_bs h
      refine ro_getR (pc' := 111) ft_22 fk_22 q316 dX0_keepState_108 rfl hv1 ?_
      refine ro_iload_n (pc' := 112) dX0_keepState_111 rfl rfl rfl ?_
      refine ro_aload_n (pc' := 113) dX0_keepState_112 rfl rfl rfl ?_
      obtain ⟨v2, hv2, h⟩ := ah_bs h
      refine ro_getR (pc' := 116) ft_19 fk_19 q313 dX0_keepState_113 rfl hv2 ?_
      obtain ⟨v3, hv3, h⟩ := ah_bs h
      refine ro_getIN (pc' := 119) ft_403 fk_403 nq251 dX0_keepState_116 rfl hv3 ?_
      obtain ⟨σ4, hσ4, h⟩ := ah_bs h
      refine ro_iastore (pc' := 120) dX0_keepState_119 rfl hσ4 ?_
      obtain rfl := Option.some.inj h
      exact ro_vret hκ dX0_keepState_120
    · replace h := ah_in_ c h
      refine ro_aload_n (pc' := 63) dX0_keepState_62 rfl rfl rfl ?_
      obtain ⟨v5, hv5, h⟩ := ah_bs h
      refine ro_getR (pc' := 66) ft_22 fk_22 q316 dX0_keepState_63 rfl hv5 ?_
      refine ro_iload_n (pc' := 67) dX0_keepState_66 rfl rfl rfl ?_
      refine ro_iinc (pc' := 70) (L' := [some (va_rf r0), none, some (.int (x2 + (1 : Int32))), some (.int x3)]) dX0_keepState_67 rfl ic_1 (Nat.le_of_ble_eq_true rfl) rfl ah_okp_u rfl ?_
      refine ro_aload_n (pc' := 71) dX0_keepState_70 rfl rfl rfl ?_
      obtain ⟨v6, hv6, h⟩ := ah_bs h
      refine ro_getR (pc' := 74) ft_19 fk_19 q313 dX0_keepState_71 rfl hv6 ?_
      obtain ⟨v7, hv7, h⟩ := ah_bs h
      refine ro_getIN (pc' := 77) ft_403 fk_403 nq251 dX0_keepState_74 rfl hv7 ?_
      refine ro_iload_n (pc' := 78) dX0_keepState_77 rfl rfl rfl ?_
      refine ro_iconst (pc' := 79) dX0_keepState_78 ic_4 rfl ?_
      obtain ⟨q8, hq8, h⟩ := ah_bs h
      refine ro_idiv (pc' := 80) dX0_keepState_79 rfl hq8 ?_
      obtain ⟨v9, σ10, hv9, h⟩ := ah_bs2 h
      refine ro_callS (pc' := 83) (As := [.int v7, .int q8]) (rest := [.int x2, va_rf v5]) (st' := [.int v9, .int x2, va_rf v5]) q519 (M_X0_isIn hv9) q518 q520 q95 dd_X0_isIn rfl ⟨Nat.le_of_ble_eq_true rfl, Nat.le_of_ble_eq_true rfl⟩ (by simp only [List.map_cons, List.map_nil, List.sum_cons, List.sum_nil, ah_rf_cat, ah_cat_i, ah_cat_l]; decide) dX0_keepState_80 rfl rfl rfl ?_
      refine ro_if_eq (pc' := 86) (tgt := 98) dX0_keepState_83 rfl rfl (fun c => ?_) (fun c => ?_)
      · replace h := ah_ip c h
        refine ro_bipush (pc' := 100) dX0_keepState_98 ib_m2 rfl ?_
        obtain ⟨σ11, hσ11, h⟩ := ah_bs h
        refine ro_iastore (pc' := 101) dX0_keepState_100 rfl hσ11 ?_
        refine ro_iinc (pc' := 104) (L' := [some (va_rf r0), none, some (.int (x2 + (1 : Int32))), some (.int (x3 + (1 : Int32)))]) dX0_keepState_101 rfl ic_1 (Nat.le_of_ble_eq_true rfl) rfl (ah_okp_i _) rfl ?_
        refine ro_goto (tgt := 56) dX0_keepState_104 rfl ?_
        exact ih _ _ _ _ h
      · replace h := ah_in_ c h
        refine ro_aload_n (pc' := 87) dX0_keepState_86 rfl rfl rfl ?_
        obtain ⟨v12, hv12, h⟩ := ah_bs h
        refine ro_getR (pc' := 90) ft_19 fk_19 q313 dX0_keepState_87 rfl hv12 ?_
        obtain ⟨v13, hv13, h⟩ := ah_bs h
        refine ro_getRN (pc' := 93) ft_402 fk_402 nq249 dX0_keepState_90 rfl hv13 ?_
        refine ro_iload_n (pc' := 94) dX0_keepState_93 rfl rfl rfl ?_
        obtain ⟨v14, hv14, h⟩ := ah_bs h
        refine ro_iaload (pc' := 95) dX0_keepState_94 rfl hv14 ?_
        refine ro_goto (tgt := 100) dX0_keepState_95 rfl ?_
        obtain ⟨σ15, hσ15, h⟩ := ah_bs h
        refine ro_iastore (pc' := 101) dX0_keepState_100 rfl hσ15 ?_
        refine ro_iinc (pc' := 104) (L' := [some (va_rf r0), none, some (.int (x2 + (1 : Int32))), some (.int (x3 + (1 : Int32)))]) dX0_keepState_101 rfl ic_1 (Nat.le_of_ble_eq_true rfl) rfl (ah_okp_i _) rfl ?_
        refine ro_goto (tgt := 56) dX0_keepState_104 rfl ?_
        exact ih _ _ _ _ h
set_option maxRecDepth 20000 in
set_option maxHeartbeats 4000000 in
theorem W_X0_keepState_7 {κ : ah_C} {rr : ah_S} (hκ : ah_res κ = (.returned none, rr))    : ∀ (n : Nat) (σ : ah_S) (r0 : Option Nat) (x2 : Int32) (x3 : Int32), F_X0_keepState_7 n σ r0 x2 x3 = some rr → ah_G κ ("LeftAsFound", "keepState", 4, none, [], 2, 45) cX0_keepState σ 7 [some (va_rf r0), none, some (.int x2), some (.int x3)] [] := by
  intro n
  induction n with
  | zero => intro σ r0 x2 x3 h; cases h
  | succ n ih =>
    intro σ r0 x2 x3 h
    rw [F_X0_keepState_7] at h
    refine ro_iload_n (pc' := 8) dX0_keepState_7 rfl rfl rfl ?_
    refine ro_iconst (pc' := 9) dX0_keepState_8 ic_4 rfl ?_
    refine ro_icmp_ge (pc' := 12) (tgt := 54) dX0_keepState_9 rfl rfl (fun c => ?_) (fun c => ?_)
    · replace h := ah_ip c h
      refine ro_iconst (pc' := 55) dX0_keepState_54 ic_0 rfl ?_
      refine ro_istore_n (pc' := 56) (L' := [some (va_rf r0), none, some (.int x2), some (.int (0 : Int32))]) dX0_keepState_55 rfl (Nat.le_of_ble_eq_true rfl) rfl (ah_okp_i _) rfl ?_
      exact W_X0_keepState_56 hκ _ _ _ _ _ h
    · replace h := ah_in_ c h
      refine ro_aload_n (pc' := 13) dX0_keepState_12 rfl rfl rfl ?_
      obtain ⟨v1, hv1, h⟩ := ah_bs h
      refine ro_getR (pc' := 16) ft_22 fk_22 q316 dX0_keepState_13 rfl hv1 ?_
      refine ro_iload_n (pc' := 17) dX0_keepState_16 rfl rfl rfl ?_
      refine ro_iinc (pc' := 20) (L' := [some (va_rf r0), none, some (.int (x2 + (1 : Int32))), some (.int x3)]) dX0_keepState_17 rfl ic_1 (Nat.le_of_ble_eq_true rfl) rfl ah_okp_u rfl ?_
      refine ro_aload_n (pc' := 21) dX0_keepState_20 rfl rfl rfl ?_
      obtain ⟨v2, hv2, h⟩ := ah_bs h
      refine ro_getR (pc' := 24) ft_19 fk_19 q313 dX0_keepState_21 rfl hv2 ?_
      obtain ⟨v3, hv3, h⟩ := ah_bs h
      refine ro_getRN (pc' := 27) ft_400 fk_400 nq245 dX0_keepState_24 rfl hv3 ?_
      refine ro_iload_n (pc' := 28) dX0_keepState_27 rfl rfl rfl ?_
      obtain ⟨v4, hv4, h⟩ := ah_bs h
      refine ro_iaload (pc' := 29) dX0_keepState_28 rfl hv4 ?_
      obtain ⟨σ5, hσ5, h⟩ := ah_bs h
      refine ro_iastore (pc' := 30) dX0_keepState_29 rfl hσ5 ?_
      refine ro_aload_n (pc' := 31) dX0_keepState_30 rfl rfl rfl ?_
      obtain ⟨v6, hv6, h⟩ := ah_bs h
      refine ro_getR (pc' := 34) ft_22 fk_22 q316 dX0_keepState_31 rfl hv6 ?_
      refine ro_iload_n (pc' := 35) dX0_keepState_34 rfl rfl rfl ?_
      refine ro_iinc (pc' := 38) (L' := [some (va_rf r0), none, some (.int ((x2 + (1 : Int32)) + (1 : Int32))), some (.int x3)]) dX0_keepState_35 rfl ic_1 (Nat.le_of_ble_eq_true rfl) rfl ah_okp_u rfl ?_
      refine ro_aload_n (pc' := 39) dX0_keepState_38 rfl rfl rfl ?_
      obtain ⟨v7, hv7, h⟩ := ah_bs h
      refine ro_getR (pc' := 42) ft_19 fk_19 q313 dX0_keepState_39 rfl hv7 ?_
      obtain ⟨v8, hv8, h⟩ := ah_bs h
      refine ro_getRN (pc' := 45) ft_401 fk_401 nq247 dX0_keepState_42 rfl hv8 ?_
      refine ro_iload_n (pc' := 46) dX0_keepState_45 rfl rfl rfl ?_
      obtain ⟨v9, hv9, h⟩ := ah_bs h
      refine ro_iaload (pc' := 47) dX0_keepState_46 rfl hv9 ?_
      obtain ⟨σ10, hσ10, h⟩ := ah_bs h
      refine ro_iastore (pc' := 48) dX0_keepState_47 rfl hσ10 ?_
      refine ro_iinc (pc' := 51) (L' := [some (va_rf r0), none, some (.int ((x2 + (1 : Int32)) + (1 : Int32))), some (.int (x3 + (1 : Int32)))]) dX0_keepState_48 rfl ic_1 (Nat.le_of_ble_eq_true rfl) rfl (ah_okp_i _) rfl ?_
      refine ro_goto (tgt := 7) dX0_keepState_51 rfl ?_
      exact ih _ _ _ _ h
set_option maxRecDepth 20000 in
set_option maxHeartbeats 4000000 in
theorem W_X0_keepState {κ : ah_C} {rr : ah_S} (hκ : ah_res κ = (.returned none, rr))  (σ : ah_S) (r0 : Option Nat) (x1 : Int32) (h : F_X0_keepState σ r0 x1 = some rr) : ah_G κ ("LeftAsFound", "keepState", 4, none, [], 2, 45) cX0_keepState σ 0 [some (va_rf r0), some (.int x1), none, none] [] := by
  unfold F_X0_keepState at h
  refine ro_iload_n (pc' := 1) dX0_keepState_0 rfl rfl rfl ?_
  refine ro_bipush (pc' := 3) dX0_keepState_1 ib_37 rfl ?_
  refine ro_imul (pc' := 4) dX0_keepState_3 rfl ?_
  refine ro_istore_n (pc' := 5) (L' := [some (va_rf r0), some (.int x1), some (.int (x1 * (37 : Int32))), none]) dX0_keepState_4 rfl (Nat.le_of_ble_eq_true rfl) rfl (ah_okp_i _) rfl ?_
  refine ro_iconst (pc' := 6) dX0_keepState_5 ic_0 rfl ?_
  refine ro_istore_n (pc' := 7) (L' := [some (va_rf r0), some (.int x1), some (.int (x1 * (37 : Int32))), some (.int (0 : Int32))]) dX0_keepState_6 rfl (Nat.le_of_ble_eq_true rfl) rfl (ah_okp_i _) rfl ?_
  refine ro_weak (L' := [some (va_rf r0), none, some (.int (x1 * (37 : Int32))), some (.int (0 : Int32))]) (ah_ls_s (ah_ls_n (ah_ls_s (ah_ls_s ah_ls_0)))) ?_
  exact W_X0_keepState_7 hκ _ _ _ _ _ h
theorem M_X0_keepState {l : Launch} {D : ah_D}  {σ : ah_S} {r0 : Option Nat} {x1 : Int32} {σ1 : ah_S} (h : F_X0_keepState σ r0 x1 = some σ1) : ah_Met l yX0_keepState (Cond.code yX0_keepState cX0_keepState 4 none) 2 45 D [va_rf r0, .int x1] σ (.returned none, σ1) :=
  ah_ofG (own := "LeftAsFound") (nm := "keepState") (L0 := [some (va_rf r0), some (.int x1), none, none]) (by decide) rfl rfl rfl (ah_ao_1 (ah_rf_cat _) (ah_ao_1 rfl (ah_ao_n (ah_ao_n ah_ao_0)))) (fun κ hκ => W_X0_keepState hκ  σ r0 x1 h)
set_option maxRecDepth 20000 in
set_option maxHeartbeats 4000000 in
theorem W_X0_led {κ : ah_C} {rr : (Int32 × ah_S)} (hκ : ah_res κ = (.returned (some (.int rr.1)), rr.2))  (σ : ah_S) (r0 : Option Nat) (x1 : Int32) (h : F_X0_led σ r0 x1 = some rr) : ah_G κ ("LeftAsFound", "led", 2, (some FieldType.int), [], 2, 49) cX0_led σ 0 [some (va_rf r0), some (.int x1)] [] := by
  unfold F_X0_led at h
  refine ro_iload_n (pc' := 1) dX0_led_0 rfl rfl rfl ?_
  refine ro_i2l (pc' := 2) dX0_led_1 rfl ?_
  refine ro_lconst (pc' := 3) dX0_led_2 lc_0 rfl ?_
  refine ro_ldc2 (pc' := 6) q440 dX0_led_3 rfl ?_
  obtain ⟨v1, σ2, hv1, h⟩ := ah_bs2 h
  refine ro_callS (pc' := 9) (As := [.long (x1.toInt64), .long (0 : Int64), .long (3 : Int64)]) (rest := []) (st' := [.int v1]) q429 (M_X0_within hv1) q428 q430 q95 dd_X0_within rfl ⟨Nat.le_of_ble_eq_true rfl, Nat.le_of_ble_eq_true rfl⟩ (Nat.le_of_ble_eq_true rfl) dX0_led_6 rfl rfl rfl ?_
  refine ro_if_eq (pc' := 12) (tgt := 21) dX0_led_9 rfl rfl (fun c => ?_) (fun c => ?_)
  · replace h := ah_ip c h
    refine ro_iconst (pc' := 22) dX0_led_21 ic_m1 rfl ?_
    obtain rfl := Option.some.inj h
    exact ro_iret hκ dX0_led_22
  · replace h := ah_in_ c h
    refine ro_aload_n (pc' := 13) dX0_led_12 rfl rfl rfl ?_
    obtain ⟨v3, hv3, h⟩ := ah_bs h
    refine ro_getR (pc' := 16) ft_33 fk_33 q327 dX0_led_13 rfl hv3 ?_
    refine ro_iload_n (pc' := 17) dX0_led_16 rfl rfl rfl ?_
    obtain ⟨v4, hv4, h⟩ := ah_bs h
    refine ro_iaload (pc' := 18) dX0_led_17 rfl hv4 ?_
    refine ro_goto (tgt := 22) dX0_led_18 rfl ?_
    obtain rfl := Option.some.inj h
    exact ro_iret hκ dX0_led_22
theorem M_X0_led {l : Launch} {D : ah_D}  {σ : ah_S} {r0 : Option Nat} {x1 : Int32} {v : Int32} {σ1 : ah_S} (h : F_X0_led σ r0 x1 = some (v, σ1)) : ah_Met l yX0_led (Cond.code yX0_led cX0_led 2 (some FieldType.int)) 2 49 D [va_rf r0, .int x1] σ (.returned (some (.int v)), σ1) :=
  ah_ofG (own := "LeftAsFound") (nm := "led") (L0 := [some (va_rf r0), some (.int x1)]) (by decide) rfl rfl rfl (ah_ao_1 (ah_rf_cat _) (ah_ao_1 rfl ah_ao_0)) (fun κ hκ => W_X0_led hκ  σ r0 x1 h)
set_option maxRecDepth 20000 in
set_option maxHeartbeats 4000000 in
theorem W_X0_lookAt {κ : ah_C} {rr : (Int32 × ah_S)} (hκ : ah_res κ = (.returned (some (.int rr.1)), rr.2))  (σ : ah_S) (r0 : Option Nat) (x1 : Int32) (h : F_X0_lookAt σ r0 x1 = some rr) : ah_G κ ("LeftAsFound", "lookAt", 3, (some FieldType.int), [], 3, 69) cX0_lookAt σ 0 [some (va_rf r0), some (.int x1), none] [] := by
  unfold F_X0_lookAt at h
  refine ro_iload_n (pc' := 1) dX0_lookAt_0 rfl rfl rfl ?_
  obtain ⟨v1, σ2, hv1, h⟩ := ah_bs2 h
  refine ro_callS (pc' := 4) (As := [.int x1]) (rest := []) (st' := [.int v1]) q471 (M_X0_isShelf hv1) q470 q472 q95 dd_X0_isShelf rfl ⟨Nat.le_of_ble_eq_true rfl, Nat.le_of_ble_eq_true rfl⟩ (Nat.le_of_ble_eq_true rfl) dX0_lookAt_1 rfl rfl rfl ?_
  refine ro_if_ne (pc' := 7) (tgt := 9) dX0_lookAt_4 rfl rfl (fun c => ?_) (fun c => ?_)
  · replace h := ah_in_ c h
    refine ro_aload_n (pc' := 10) dX0_lookAt_9 rfl rfl rfl ?_
    obtain ⟨v3, hv3, h⟩ := ah_bs h
    refine ro_getR (pc' := 13) ft_41 fk_41 q337 dX0_lookAt_10 rfl hv3 ?_
    refine ro_iload_n (pc' := 14) dX0_lookAt_13 rfl rfl rfl ?_
    obtain ⟨v4, hv4, h⟩ := ah_bs h
    refine ro_aaload (pc' := 15) (by decide) (by decide) rfl dX0_lookAt_14 rfl hv4 ?_
    refine ro_astore_n (pc' := 16) (L' := [some (va_rf r0), some (.int x1), some (va_rf v4)]) dX0_lookAt_15 rfl (Nat.le_of_ble_eq_true rfl) rfl (ah_okp_i _) rfl ?_
    refine ro_aload_n (pc' := 17) dX0_lookAt_16 rfl rfl rfl ?_
    refine ro_ifnonnull (pc' := 20) (tgt := 25) dX0_lookAt_17 rfl rfl (fun c => ?_) (fun c => ?_)
    · replace h := ah_in_ c h
      refine ro_aload_n (pc' := 26) dX0_lookAt_25 rfl rfl rfl ?_
      obtain ⟨v5, σ6, hv5, h⟩ := ah_bs2 h
      refine ro_callS (pc' := 29) (As := [va_rf v4]) (rest := []) (st' := [.int v5]) q476 (M_X0_sortOf hv5) q475 q477 q95 dd_X0_sortOf rfl ⟨Nat.le_of_ble_eq_true rfl, Nat.le_of_ble_eq_true rfl⟩ (Nat.le_of_ble_eq_true rfl) dX0_lookAt_26 rfl rfl rfl ?_
      refine ro_if_ne (pc' := 32) (tgt := 36) dX0_lookAt_29 rfl rfl (fun c => ?_) (fun c => ?_)
      · replace h := ah_in_ c h
        refine ro_bipush (pc' := 38) dX0_lookAt_36 ib_m12 rfl ?_
        obtain rfl := Option.some.inj h
        exact ro_iret hκ dX0_lookAt_38
      · replace h := ah_ip c h
        refine ro_iconst (pc' := 33) dX0_lookAt_32 ic_0 rfl ?_
        refine ro_goto (tgt := 38) dX0_lookAt_33 rfl ?_
        obtain rfl := Option.some.inj h
        exact ro_iret hκ dX0_lookAt_38
    · replace h := ah_ip c h
      refine ro_bipush (pc' := 22) dX0_lookAt_20 ib_m11 rfl ?_
      refine ro_goto (tgt := 38) dX0_lookAt_22 rfl ?_
      obtain rfl := Option.some.inj h
      exact ro_iret hκ dX0_lookAt_38
  · replace h := ah_ip c h
    refine ro_iconst (pc' := 8) dX0_lookAt_7 ic_m1 rfl ?_
    obtain rfl := Option.some.inj h
    exact ro_iret hκ dX0_lookAt_8
theorem M_X0_lookAt {l : Launch} {D : ah_D}  {σ : ah_S} {r0 : Option Nat} {x1 : Int32} {v : Int32} {σ1 : ah_S} (h : F_X0_lookAt σ r0 x1 = some (v, σ1)) : ah_Met l yX0_lookAt (Cond.code yX0_lookAt cX0_lookAt 3 (some FieldType.int)) 3 69 D [va_rf r0, .int x1] σ (.returned (some (.int v)), σ1) :=
  ah_ofG (own := "LeftAsFound") (nm := "lookAt") (L0 := [some (va_rf r0), some (.int x1), none]) (by decide) rfl rfl rfl (ah_ao_1 (ah_rf_cat _) (ah_ao_1 rfl (ah_ao_n ah_ao_0))) (fun κ hκ => W_X0_lookAt hκ  σ r0 x1 h)
set_option maxRecDepth 20000 in
set_option maxHeartbeats 4000000 in
theorem W_X0_mend {κ : ah_C} {rr : (Int32 × ah_S)} (hκ : ah_res κ = (.returned (some (.int rr.1)), rr.2))  (σ : ah_S) (r0 : Option Nat) (x1 : Int32) (x2 : Int32) (x3 : Int32) (h : F_X0_mend σ r0 x1 x2 x3 = some rr) : ah_G κ ("LeftAsFound", "mend", 5, (some FieldType.int), [], 5, 114) cX0_mend σ 0 [some (va_rf r0), some (.int x1), some (.int x2), some (.int x3), none] [] := by
  unfold F_X0_mend at h
  refine ro_aload_n (pc' := 1) dX0_mend_0 rfl rfl rfl ?_
  refine ro_iload_n (pc' := 2) dX0_mend_1 rfl rfl rfl ?_
  refine ro_iload_n (pc' := 3) dX0_mend_2 rfl rfl rfl ?_
  obtain ⟨u1, hu1, h⟩ := ah_bs h
  obtain ⟨v2, σ3, hv2, h⟩ := ah_bs2 h
  refine ro_callV (pc' := 6) (As := [.int x1, .int x2]) (rest := []) (st' := [va_rf v2]) (by decide) hu1 q494 sl_X0_held (M_X0_held hv2) q492 q495 q95 dd_X0_held rfl ⟨Nat.le_of_ble_eq_true rfl, Nat.le_of_ble_eq_true rfl⟩ (Nat.le_of_ble_eq_true rfl) dX0_mend_3 rfl rfl rfl ?_
  refine ro_astore (pc' := 8) (L' := [some (va_rf r0), some (.int x1), some (.int x2), some (.int x3), some (va_rf v2)]) dX0_mend_6 (Nat.le_of_ble_eq_true rfl) rfl (ah_okp_i _) rfl ?_
  refine ro_aload (pc' := 10) dX0_mend_8 rfl rfl ?_
  refine ro_ifnull (pc' := 13) (tgt := 37) dX0_mend_10 rfl rfl (fun c => ?_) (fun c => ?_)
  · replace h := ah_ip c h
    refine ro_iconst (pc' := 38) dX0_mend_37 ic_m1 rfl ?_
    obtain rfl := Option.some.inj h
    exact ro_iret hκ dX0_mend_38
  · replace h := ah_in_ c h
    refine ro_iload_n (pc' := 14) dX0_mend_13 rfl rfl rfl ?_
    refine ro_i2l (pc' := 15) dX0_mend_14 rfl ?_
    refine ro_lconst (pc' := 16) dX0_mend_15 lc_0 rfl ?_
    refine ro_iload_n (pc' := 17) dX0_mend_16 rfl rfl rfl ?_
    obtain ⟨v4, σ5, hv4, h⟩ := ah_bs2 h
    refine ro_callS (pc' := 20) (As := [.int x2]) (rest := [.long (0 : Int64), .long (x3.toInt64)]) (st' := [.int v4, .long (0 : Int64), .long (x3.toInt64)]) q508 (M_X0_greatest hv4) q507 q509 q95 dd_X0_greatest rfl ⟨Nat.le_of_ble_eq_true rfl, Nat.le_of_ble_eq_true rfl⟩ (Nat.le_of_ble_eq_true rfl) dX0_mend_17 rfl rfl rfl ?_
    refine ro_i2l (pc' := 21) dX0_mend_20 rfl ?_
    obtain ⟨v6, σ7, hv6, h⟩ := ah_bs2 h
    refine ro_callS (pc' := 24) (As := [.long (x3.toInt64), .long (0 : Int64), .long (v4.toInt64)]) (rest := []) (st' := [.int v6]) q429 (M_X0_within hv6) q428 q430 q95 dd_X0_within rfl ⟨Nat.le_of_ble_eq_true rfl, Nat.le_of_ble_eq_true rfl⟩ (Nat.le_of_ble_eq_true rfl) dX0_mend_21 rfl rfl rfl ?_
    refine ro_if_eq (pc' := 27) (tgt := 37) dX0_mend_24 rfl rfl (fun c => ?_) (fun c => ?_)
    · replace h := ah_ip c h
      refine ro_iconst (pc' := 38) dX0_mend_37 ic_m1 rfl ?_
      obtain rfl := Option.some.inj h
      exact ro_iret hκ dX0_mend_38
    · replace h := ah_in_ c h
      refine ro_aload_n (pc' := 28) dX0_mend_27 rfl rfl rfl ?_
      refine ro_aload (pc' := 30) dX0_mend_28 rfl rfl ?_
      refine ro_iload_n (pc' := 31) dX0_mend_30 rfl rfl rfl ?_
      obtain ⟨u8, hu8, h⟩ := ah_bs h
      obtain ⟨v9, σ10, hv9, h⟩ := ah_bs2 h
      refine ro_callV (pc' := 34) (As := [va_rf v2, .int x3]) (rest := []) (st' := [.int v9]) (by decide) hu8 q512 sl_X0_become (M_X0_become hv9) q510 q513 q95 dd_X0_become rfl ⟨Nat.le_of_ble_eq_true rfl, Nat.le_of_ble_eq_true rfl⟩ (Nat.le_of_ble_eq_true rfl) dX0_mend_31 rfl rfl rfl ?_
      refine ro_goto (tgt := 38) dX0_mend_34 rfl ?_
      obtain rfl := Option.some.inj h
      exact ro_iret hκ dX0_mend_38
theorem M_X0_mend {l : Launch} {D : ah_D}  {σ : ah_S} {r0 : Option Nat} {x1 : Int32} {x2 : Int32} {x3 : Int32} {v : Int32} {σ1 : ah_S} (h : F_X0_mend σ r0 x1 x2 x3 = some (v, σ1)) : ah_Met l yX0_mend (Cond.code yX0_mend cX0_mend 5 (some FieldType.int)) 5 114 D [va_rf r0, .int x1, .int x2, .int x3] σ (.returned (some (.int v)), σ1) :=
  ah_ofG (own := "LeftAsFound") (nm := "mend") (L0 := [some (va_rf r0), some (.int x1), some (.int x2), some (.int x3), none]) (by decide) rfl rfl rfl (ah_ao_1 (ah_rf_cat _) (ah_ao_1 rfl (ah_ao_1 rfl (ah_ao_1 rfl (ah_ao_n ah_ao_0))))) (fun κ hκ => W_X0_mend hκ  σ r0 x1 x2 x3 h)
set_option maxRecDepth 20000 in
set_option maxHeartbeats 4000000 in
theorem W_X0_nameOf {κ : ah_C} {rr : (Int32 × ah_S)} (hκ : ah_res κ = (.returned (some (.int rr.1)), rr.2))  (σ : ah_S) (x0 : Int32) (h : F_X0_nameOf σ x0 = some rr) : ah_G κ ("LeftAsFound", "nameOf", 1, (some FieldType.int), [], 1, 24) cX0_nameOf σ 0 [some (.int x0)] [] := by
  unfold F_X0_nameOf at h
  refine ro_iload_n (pc' := 1) dX0_nameOf_0 rfl rfl rfl ?_
  by_cases c1_0 : x0 = (98 : Int32)
  · replace h := ah_ip c1_0 h
    refine ro_tabIn (tgt := 98) 0 c1_0 dX0_nameOf_1 (by decide) (by decide) rfl rfl ?_
    refine ro_iconst (pc' := 99) dX0_nameOf_98 ic_3 rfl ?_
    obtain rfl := Option.some.inj h
    exact ro_iret hκ dX0_nameOf_99
  replace h := ah_in_ c1_0 h
  by_cases c1_1 : x0 = (99 : Int32)
  · replace h := ah_ip c1_1 h
    refine ro_tabIn (tgt := 104) 1 c1_1 dX0_nameOf_1 (by decide) (by decide) rfl rfl ?_
    refine ro_iconst (pc' := 105) dX0_nameOf_104 ic_m1 rfl ?_
    obtain rfl := Option.some.inj h
    exact ro_iret hκ dX0_nameOf_105
  replace h := ah_in_ c1_1 h
  by_cases c1_2 : x0 = (100 : Int32)
  · replace h := ah_ip c1_2 h
    refine ro_tabIn (tgt := 104) 2 c1_2 dX0_nameOf_1 (by decide) (by decide) rfl rfl ?_
    refine ro_iconst (pc' := 105) dX0_nameOf_104 ic_m1 rfl ?_
    obtain rfl := Option.some.inj h
    exact ro_iret hκ dX0_nameOf_105
  replace h := ah_in_ c1_2 h
  by_cases c1_3 : x0 = (101 : Int32)
  · replace h := ah_ip c1_3 h
    refine ro_tabIn (tgt := 104) 3 c1_3 dX0_nameOf_1 (by decide) (by decide) rfl rfl ?_
    refine ro_iconst (pc' := 105) dX0_nameOf_104 ic_m1 rfl ?_
    obtain rfl := Option.some.inj h
    exact ro_iret hκ dX0_nameOf_105
  replace h := ah_in_ c1_3 h
  by_cases c1_4 : x0 = (102 : Int32)
  · replace h := ah_ip c1_4 h
    refine ro_tabIn (tgt := 92) 4 c1_4 dX0_nameOf_1 (by decide) (by decide) rfl rfl ?_
    refine ro_iconst (pc' := 93) dX0_nameOf_92 ic_0 rfl ?_
    obtain rfl := Option.some.inj h
    exact ro_iret hκ dX0_nameOf_93
  replace h := ah_in_ c1_4 h
  by_cases c1_5 : x0 = (103 : Int32)
  · replace h := ah_ip c1_5 h
    refine ro_tabIn (tgt := 104) 5 c1_5 dX0_nameOf_1 (by decide) (by decide) rfl rfl ?_
    refine ro_iconst (pc' := 105) dX0_nameOf_104 ic_m1 rfl ?_
    obtain rfl := Option.some.inj h
    exact ro_iret hκ dX0_nameOf_105
  replace h := ah_in_ c1_5 h
  by_cases c1_6 : x0 = (104 : Int32)
  · replace h := ah_ip c1_6 h
    refine ro_tabIn (tgt := 104) 6 c1_6 dX0_nameOf_1 (by decide) (by decide) rfl rfl ?_
    refine ro_iconst (pc' := 105) dX0_nameOf_104 ic_m1 rfl ?_
    obtain rfl := Option.some.inj h
    exact ro_iret hκ dX0_nameOf_105
  replace h := ah_in_ c1_6 h
  by_cases c1_7 : x0 = (105 : Int32)
  · replace h := ah_ip c1_7 h
    refine ro_tabIn (tgt := 104) 7 c1_7 dX0_nameOf_1 (by decide) (by decide) rfl rfl ?_
    refine ro_iconst (pc' := 105) dX0_nameOf_104 ic_m1 rfl ?_
    obtain rfl := Option.some.inj h
    exact ro_iret hκ dX0_nameOf_105
  replace h := ah_in_ c1_7 h
  by_cases c1_8 : x0 = (106 : Int32)
  · replace h := ah_ip c1_8 h
    refine ro_tabIn (tgt := 104) 8 c1_8 dX0_nameOf_1 (by decide) (by decide) rfl rfl ?_
    refine ro_iconst (pc' := 105) dX0_nameOf_104 ic_m1 rfl ?_
    obtain rfl := Option.some.inj h
    exact ro_iret hκ dX0_nameOf_105
  replace h := ah_in_ c1_8 h
  by_cases c1_9 : x0 = (107 : Int32)
  · replace h := ah_ip c1_9 h
    refine ro_tabIn (tgt := 102) 9 c1_9 dX0_nameOf_1 (by decide) (by decide) rfl rfl ?_
    refine ro_iconst (pc' := 103) dX0_nameOf_102 ic_5 rfl ?_
    obtain rfl := Option.some.inj h
    exact ro_iret hκ dX0_nameOf_103
  replace h := ah_in_ c1_9 h
  by_cases c1_10 : x0 = (108 : Int32)
  · replace h := ah_ip c1_10 h
    refine ro_tabIn (tgt := 104) 10 c1_10 dX0_nameOf_1 (by decide) (by decide) rfl rfl ?_
    refine ro_iconst (pc' := 105) dX0_nameOf_104 ic_m1 rfl ?_
    obtain rfl := Option.some.inj h
    exact ro_iret hκ dX0_nameOf_105
  replace h := ah_in_ c1_10 h
  by_cases c1_11 : x0 = (109 : Int32)
  · replace h := ah_ip c1_11 h
    refine ro_tabIn (tgt := 104) 11 c1_11 dX0_nameOf_1 (by decide) (by decide) rfl rfl ?_
    refine ro_iconst (pc' := 105) dX0_nameOf_104 ic_m1 rfl ?_
    obtain rfl := Option.some.inj h
    exact ro_iret hκ dX0_nameOf_105
  replace h := ah_in_ c1_11 h
  by_cases c1_12 : x0 = (110 : Int32)
  · replace h := ah_ip c1_12 h
    refine ro_tabIn (tgt := 104) 12 c1_12 dX0_nameOf_1 (by decide) (by decide) rfl rfl ?_
    refine ro_iconst (pc' := 105) dX0_nameOf_104 ic_m1 rfl ?_
    obtain rfl := Option.some.inj h
    exact ro_iret hκ dX0_nameOf_105
  replace h := ah_in_ c1_12 h
  by_cases c1_13 : x0 = (111 : Int32)
  · replace h := ah_ip c1_13 h
    refine ro_tabIn (tgt := 94) 13 c1_13 dX0_nameOf_1 (by decide) (by decide) rfl rfl ?_
    refine ro_iconst (pc' := 95) dX0_nameOf_94 ic_1 rfl ?_
    obtain rfl := Option.some.inj h
    exact ro_iret hκ dX0_nameOf_95
  replace h := ah_in_ c1_13 h
  by_cases c1_14 : x0 = (112 : Int32)
  · replace h := ah_ip c1_14 h
    refine ro_tabIn (tgt := 104) 14 c1_14 dX0_nameOf_1 (by decide) (by decide) rfl rfl ?_
    refine ro_iconst (pc' := 105) dX0_nameOf_104 ic_m1 rfl ?_
    obtain rfl := Option.some.inj h
    exact ro_iret hκ dX0_nameOf_105
  replace h := ah_in_ c1_14 h
  by_cases c1_15 : x0 = (113 : Int32)
  · replace h := ah_ip c1_15 h
    refine ro_tabIn (tgt := 104) 15 c1_15 dX0_nameOf_1 (by decide) (by decide) rfl rfl ?_
    refine ro_iconst (pc' := 105) dX0_nameOf_104 ic_m1 rfl ?_
    obtain rfl := Option.some.inj h
    exact ro_iret hκ dX0_nameOf_105
  replace h := ah_in_ c1_15 h
  by_cases c1_16 : x0 = (114 : Int32)
  · replace h := ah_ip c1_16 h
    refine ro_tabIn (tgt := 104) 16 c1_16 dX0_nameOf_1 (by decide) (by decide) rfl rfl ?_
    refine ro_iconst (pc' := 105) dX0_nameOf_104 ic_m1 rfl ?_
    obtain rfl := Option.some.inj h
    exact ro_iret hκ dX0_nameOf_105
  replace h := ah_in_ c1_16 h
  by_cases c1_17 : x0 = (115 : Int32)
  · replace h := ah_ip c1_17 h
    refine ro_tabIn (tgt := 100) 17 c1_17 dX0_nameOf_1 (by decide) (by decide) rfl rfl ?_
    refine ro_iconst (pc' := 101) dX0_nameOf_100 ic_4 rfl ?_
    obtain rfl := Option.some.inj h
    exact ro_iret hκ dX0_nameOf_101
  replace h := ah_in_ c1_17 h
  by_cases c1_18 : x0 = (116 : Int32)
  · replace h := ah_ip c1_18 h
    refine ro_tabIn (tgt := 96) 18 c1_18 dX0_nameOf_1 (by decide) (by decide) rfl rfl ?_
    refine ro_iconst (pc' := 97) dX0_nameOf_96 ic_2 rfl ?_
    obtain rfl := Option.some.inj h
    exact ro_iret hκ dX0_nameOf_97
  replace h := ah_in_ c1_18 h
  refine ro_tabOut (tgt := 104) dX0_nameOf_1 (by have e0 := lv_neT (a := 98) c1_0 (by decide); have e1 := lv_neT (a := 99) c1_1 (by decide); have e2 := lv_neT (a := 100) c1_2 (by decide); have e3 := lv_neT (a := 101) c1_3 (by decide); have e4 := lv_neT (a := 102) c1_4 (by decide); have e5 := lv_neT (a := 103) c1_5 (by decide); have e6 := lv_neT (a := 104) c1_6 (by decide); have e7 := lv_neT (a := 105) c1_7 (by decide); have e8 := lv_neT (a := 106) c1_8 (by decide); have e9 := lv_neT (a := 107) c1_9 (by decide); have e10 := lv_neT (a := 108) c1_10 (by decide); have e11 := lv_neT (a := 109) c1_11 (by decide); have e12 := lv_neT (a := 110) c1_12 (by decide); have e13 := lv_neT (a := 111) c1_13 (by decide); have e14 := lv_neT (a := 112) c1_14 (by decide); have e15 := lv_neT (a := 113) c1_15 (by decide); have e16 := lv_neT (a := 114) c1_16 (by decide); have e17 := lv_neT (a := 115) c1_17 (by decide); have e18 := lv_neT (a := 116) c1_18 (by decide); omega) rfl ?_
  refine ro_iconst (pc' := 105) dX0_nameOf_104 ic_m1 rfl ?_
  obtain rfl := Option.some.inj h
  exact ro_iret hκ dX0_nameOf_105
theorem M_X0_nameOf {l : Launch} {D : ah_D}  {σ : ah_S} {x0 : Int32} {v : Int32} {σ1 : ah_S} (h : F_X0_nameOf σ x0 = some (v, σ1)) : ah_Met l yX0_nameOf (Cond.code yX0_nameOf cX0_nameOf 1 (some FieldType.int)) 1 24 D [.int x0] σ (.returned (some (.int v)), σ1) :=
  ah_ofG (own := "LeftAsFound") (nm := "nameOf") (L0 := [some (.int x0)]) (by decide) rfl rfl rfl (ah_ao_1 rfl ah_ao_0) (fun κ hκ => W_X0_nameOf hκ  σ x0 h)
set_option maxRecDepth 20000 in
set_option maxHeartbeats 4000000 in
theorem W_X0_of {κ : ah_C} {rr : (Int32 × ah_S)} (hκ : ah_res κ = (.returned (some (.int rr.1)), rr.2))  (σ : ah_S) (r0 : Option Nat) (x1 : Int32) (x2 : Int32) (h : F_X0_of σ r0 x1 x2 = some rr) : ah_G κ ("LeftAsFound", "of", 4, (some FieldType.int), [], 5, 114) cX0_of σ 0 [some (va_rf r0), some (.int x1), some (.int x2), none] [] := by
  unfold F_X0_of at h
  refine ro_aload_n (pc' := 1) dX0_of_0 rfl rfl rfl ?_
  refine ro_iload_n (pc' := 2) dX0_of_1 rfl rfl rfl ?_
  refine ro_iload_n (pc' := 3) dX0_of_2 rfl rfl rfl ?_
  obtain ⟨u1, hu1, h⟩ := ah_bs h
  obtain ⟨v2, σ3, hv2, h⟩ := ah_bs2 h
  refine ro_callV (pc' := 6) (As := [.int x1, .int x2]) (rest := []) (st' := [va_rf v2]) (by decide) hu1 q494 sl_X0_held (M_X0_held hv2) q492 q495 q95 dd_X0_held rfl ⟨Nat.le_of_ble_eq_true rfl, Nat.le_of_ble_eq_true rfl⟩ (Nat.le_of_ble_eq_true rfl) dX0_of_3 rfl rfl rfl ?_
  refine ro_astore_n (pc' := 7) (L' := [some (va_rf r0), some (.int x1), some (.int x2), some (va_rf v2)]) dX0_of_6 rfl (Nat.le_of_ble_eq_true rfl) rfl (ah_okp_i _) rfl ?_
  refine ro_aload_n (pc' := 8) dX0_of_7 rfl rfl rfl ?_
  refine ro_ifnull (pc' := 11) (tgt := 16) dX0_of_8 rfl rfl (fun c => ?_) (fun c => ?_)
  · replace h := ah_ip c h
    refine ro_iload_n (pc' := 17) dX0_of_16 rfl rfl rfl ?_
    by_cases c17_0 : x2 = (10 : Int32)
    · replace h := ah_ip c17_0 h
      refine ro_tabIn (tgt := 44) 0 c17_0 dX0_of_17 (by decide) (by decide) rfl rfl ?_
      refine ro_iload_n (pc' := 45) dX0_of_44 rfl rfl rfl ?_
      obtain ⟨v4, σ5, hv4, h⟩ := ah_bs2 h
      refine ro_callS (pc' := 48) (As := [.int x1]) (rest := []) (st' := [.int v4]) q497 (M_X0_isThing hv4) q496 q498 q95 dd_X0_isThing rfl ⟨Nat.le_of_ble_eq_true rfl, Nat.le_of_ble_eq_true rfl⟩ (Nat.le_of_ble_eq_true rfl) dX0_of_45 rfl rfl rfl ?_
      refine ro_if_eq (pc' := 51) (tgt := 63) dX0_of_48 rfl rfl (fun c => ?_) (fun c => ?_)
      · replace h := ah_ip c h
        refine ro_iconst (pc' := 64) dX0_of_63 ic_m1 rfl ?_
        obtain rfl := Option.some.inj h
        exact ro_iret hκ dX0_of_64
      · replace h := ah_in_ c h
        refine ro_aload_n (pc' := 52) dX0_of_51 rfl rfl rfl ?_
        obtain ⟨v6, hv6, h⟩ := ah_bs h
        refine ro_getR (pc' := 55) ft_18 fk_18 q312 dX0_of_52 rfl hv6 ?_
        obtain ⟨v7, hv7, h⟩ := ah_bs h
        refine ro_getRN (pc' := 58) ft_400 fk_400 nq245 dX0_of_55 rfl hv7 ?_
        refine ro_iload_n (pc' := 59) dX0_of_58 rfl rfl rfl ?_
        obtain ⟨v8, hv8, h⟩ := ah_bs h
        refine ro_iaload (pc' := 60) dX0_of_59 rfl hv8 ?_
        refine ro_goto (tgt := 64) dX0_of_60 rfl ?_
        obtain rfl := Option.some.inj h
        exact ro_iret hκ dX0_of_64
    replace h := ah_in_ c17_0 h
    by_cases c17_1 : x2 = (11 : Int32)
    · replace h := ah_ip c17_1 h
      refine ro_tabIn (tgt := 65) 1 c17_1 dX0_of_17 (by decide) (by decide) rfl rfl ?_
      refine ro_iload_n (pc' := 66) dX0_of_65 rfl rfl rfl ?_
      obtain ⟨v9, σ10, hv9, h⟩ := ah_bs2 h
      refine ro_callS (pc' := 69) (As := [.int x1]) (rest := []) (st' := [.int v9]) q497 (M_X0_isThing hv9) q496 q498 q95 dd_X0_isThing rfl ⟨Nat.le_of_ble_eq_true rfl, Nat.le_of_ble_eq_true rfl⟩ (Nat.le_of_ble_eq_true rfl) dX0_of_66 rfl rfl rfl ?_
      refine ro_if_eq (pc' := 72) (tgt := 84) dX0_of_69 rfl rfl (fun c => ?_) (fun c => ?_)
      · replace h := ah_ip c h
        refine ro_iconst (pc' := 85) dX0_of_84 ic_m1 rfl ?_
        obtain rfl := Option.some.inj h
        exact ro_iret hκ dX0_of_85
      · replace h := ah_in_ c h
        refine ro_aload_n (pc' := 73) dX0_of_72 rfl rfl rfl ?_
        obtain ⟨v11, hv11, h⟩ := ah_bs h
        refine ro_getR (pc' := 76) ft_18 fk_18 q312 dX0_of_73 rfl hv11 ?_
        obtain ⟨v12, hv12, h⟩ := ah_bs h
        refine ro_getRN (pc' := 79) ft_401 fk_401 nq247 dX0_of_76 rfl hv12 ?_
        refine ro_iload_n (pc' := 80) dX0_of_79 rfl rfl rfl ?_
        obtain ⟨v13, hv13, h⟩ := ah_bs h
        refine ro_iaload (pc' := 81) dX0_of_80 rfl hv13 ?_
        refine ro_goto (tgt := 85) dX0_of_81 rfl ?_
        obtain rfl := Option.some.inj h
        exact ro_iret hκ dX0_of_85
    replace h := ah_in_ c17_1 h
    by_cases c17_2 : x2 = (12 : Int32)
    · replace h := ah_ip c17_2 h
      refine ro_tabIn (tgt := 86) 2 c17_2 dX0_of_17 (by decide) (by decide) rfl rfl ?_
      refine ro_aload_n (pc' := 87) dX0_of_86 rfl rfl rfl ?_
      refine ro_iload_n (pc' := 88) dX0_of_87 rfl rfl rfl ?_
      obtain ⟨u14, hu14, h⟩ := ah_bs h
      obtain ⟨v15, σ16, hv15, h⟩ := ah_bs2 h
      refine ro_callV (pc' := 91) (As := [.int x1]) (rest := []) (st' := [.int v15]) (by decide) hu14 q501 sl_X0_isGt (M_X0_isGt hv15) q499 q502 q95 dd_X0_isGt rfl ⟨Nat.le_of_ble_eq_true rfl, Nat.le_of_ble_eq_true rfl⟩ (Nat.le_of_ble_eq_true rfl) dX0_of_88 rfl rfl rfl ?_
      refine ro_if_ne (pc' := 94) (tgt := 98) dX0_of_91 rfl rfl (fun c => ?_) (fun c => ?_)
      · replace h := ah_in_ c h
        refine ro_aload_n (pc' := 99) dX0_of_98 rfl rfl rfl ?_
        obtain ⟨v17, hv17, h⟩ := ah_bs h
        refine ro_getR (pc' := 102) ft_18 fk_18 q312 dX0_of_99 rfl hv17 ?_
        obtain ⟨v18, hv18, h⟩ := ah_bs h
        refine ro_getIN (pc' := 105) ft_403 fk_403 nq251 dX0_of_102 rfl hv18 ?_
        refine ro_iload_n (pc' := 106) dX0_of_105 rfl rfl rfl ?_
        refine ro_bipush (pc' := 108) dX0_of_106 ib_10 rfl ?_
        obtain ⟨q19, hq19, h⟩ := ah_bs h
        refine ro_idiv (pc' := 109) dX0_of_108 rfl hq19 ?_
        obtain ⟨v20, σ21, hv20, h⟩ := ah_bs2 h
        refine ro_callS (pc' := 112) (As := [.int v18, .int q19]) (rest := []) (st' := [.int v20]) q519 (M_X0_isIn hv20) q518 q520 q95 dd_X0_isIn rfl ⟨Nat.le_of_ble_eq_true rfl, Nat.le_of_ble_eq_true rfl⟩ (Nat.le_of_ble_eq_true rfl) dX0_of_109 rfl rfl rfl ?_
        refine ro_if_eq (pc' := 115) (tgt := 137) dX0_of_112 rfl rfl (fun c => ?_) (fun c => ?_)
        · replace h := ah_ip c h
          refine ro_bipush (pc' := 139) dX0_of_137 ib_m2 rfl ?_
          obtain rfl := Option.some.inj h
          exact ro_iret hκ dX0_of_139
        · replace h := ah_in_ c h
          refine ro_aload_n (pc' := 116) dX0_of_115 rfl rfl rfl ?_
          obtain ⟨v22, hv22, h⟩ := ah_bs h
          refine ro_getR (pc' := 119) ft_18 fk_18 q312 dX0_of_116 rfl hv22 ?_
          obtain ⟨v23, hv23, h⟩ := ah_bs h
          refine ro_getRN (pc' := 122) ft_402 fk_402 nq249 dX0_of_119 rfl hv23 ?_
          refine ro_iconst (pc' := 123) dX0_of_122 ic_4 rfl ?_
          refine ro_iload_n (pc' := 124) dX0_of_123 rfl rfl rfl ?_
          refine ro_bipush (pc' := 126) dX0_of_124 ib_10 rfl ?_
          obtain ⟨q24, hq24, h⟩ := ah_bs h
          refine ro_idiv (pc' := 127) dX0_of_126 rfl hq24 ?_
          refine ro_imul (pc' := 128) dX0_of_127 rfl ?_
          refine ro_iload_n (pc' := 129) dX0_of_128 rfl rfl rfl ?_
          refine ro_bipush (pc' := 131) dX0_of_129 ib_10 rfl ?_
          obtain ⟨q25, hq25, h⟩ := ah_bs h
          refine ro_irem (pc' := 132) dX0_of_131 rfl hq25 ?_
          refine ro_iadd (pc' := 133) dX0_of_132 rfl ?_
          obtain ⟨v26, hv26, h⟩ := ah_bs h
          refine ro_iaload (pc' := 134) dX0_of_133 rfl hv26 ?_
          refine ro_goto (tgt := 139) dX0_of_134 rfl ?_
          obtain rfl := Option.some.inj h
          exact ro_iret hκ dX0_of_139
      · replace h := ah_ip c h
        refine ro_iconst (pc' := 95) dX0_of_94 ic_m1 rfl ?_
        refine ro_goto (tgt := 139) dX0_of_95 rfl ?_
        obtain rfl := Option.some.inj h
        exact ro_iret hκ dX0_of_139
    replace h := ah_in_ c17_2 h
    refine ro_tabOut (tgt := 140) dX0_of_17 (by have e0 := lv_neT (a := 10) c17_0 (by decide); have e1 := lv_neT (a := 11) c17_1 (by decide); have e2 := lv_neT (a := 12) c17_2 (by decide); omega) rfl ?_
    refine ro_iconst (pc' := 141) dX0_of_140 ic_m1 rfl ?_
    obtain rfl := Option.some.inj h
    exact ro_iret hκ dX0_of_141
  · replace h := ah_in_ c h
    refine ro_aload_n (pc' := 12) dX0_of_11 rfl rfl rfl ?_
    obtain ⟨v27, hv27, h⟩ := ah_bs h
    refine ro_getIN (pc' := 15) ft_200 fk_200 nq219 dX0_of_12 rfl hv27 ?_
    obtain rfl := Option.some.inj h
    exact ro_iret hκ dX0_of_15
theorem M_X0_of {l : Launch} {D : ah_D}  {σ : ah_S} {r0 : Option Nat} {x1 : Int32} {x2 : Int32} {v : Int32} {σ1 : ah_S} (h : F_X0_of σ r0 x1 x2 = some (v, σ1)) : ah_Met l yX0_of (Cond.code yX0_of cX0_of 4 (some FieldType.int)) 5 114 D [va_rf r0, .int x1, .int x2] σ (.returned (some (.int v)), σ1) :=
  ah_ofG (own := "LeftAsFound") (nm := "of") (L0 := [some (va_rf r0), some (.int x1), some (.int x2), none]) (by decide) rfl rfl rfl (ah_ao_1 (ah_rf_cat _) (ah_ao_1 rfl (ah_ao_1 rfl (ah_ao_n ah_ao_0)))) (fun κ hκ => W_X0_of hκ  σ r0 x1 x2 h)
set_option maxRecDepth 20000 in
set_option maxHeartbeats 4000000 in
theorem W_X0_put {κ : ah_C} {rr : (Int32 × ah_S)} (hκ : ah_res κ = (.returned (some (.int rr.1)), rr.2))  (σ : ah_S) (r0 : Option Nat) (x1 : Int32) (x2 : Int32) (l3 : Int64) (h : F_X0_put σ r0 x1 x2 l3 = some rr) : ah_G κ ("LeftAsFound", "put", 7, (some FieldType.int), [], 4, 92) cX0_put σ 0 [some (va_rf r0), some (.int x1), some (.int x2), some (.long l3), none, none, none] [] := by
  unfold F_X0_put at h
  refine ro_aload_n (pc' := 1) dX0_put_0 rfl rfl rfl ?_
  refine ro_iload_n (pc' := 2) dX0_put_1 rfl rfl rfl ?_
  refine ro_iload_n (pc' := 3) dX0_put_2 rfl rfl rfl ?_
  obtain ⟨u1, hu1, h⟩ := ah_bs h
  obtain ⟨v2, σ3, hv2, h⟩ := ah_bs2 h
  refine ro_callV (pc' := 6) (As := [.int x1, .int x2]) (rest := []) (st' := [.int v2]) (by decide) hu1 q1220 sl_X0_refusal (M_X0_refusal hv2) q1218 q1221 q95 dd_X0_refusal rfl ⟨Nat.le_of_ble_eq_true rfl, Nat.le_of_ble_eq_true rfl⟩ (Nat.le_of_ble_eq_true rfl) dX0_put_3 rfl rfl rfl ?_
  refine ro_istore (pc' := 8) (L' := [some (va_rf r0), some (.int x1), some (.int x2), some (.long l3), none, some (.int v2), none]) dX0_put_6 (Nat.le_of_ble_eq_true rfl) rfl ah_okp_u rfl ?_
  refine ro_iload (pc' := 10) dX0_put_8 rfl rfl ?_
  refine ro_if_eq (pc' := 13) (tgt := 16) dX0_put_10 rfl rfl (fun c => ?_) (fun c => ?_)
  · replace h := ah_ip c h
    refine ro_aload_n (pc' := 17) dX0_put_16 rfl rfl rfl ?_
    obtain ⟨v4, hv4, h⟩ := ah_bs h
    refine ro_getR (pc' := 20) ft_41 fk_41 q337 dX0_put_17 rfl hv4 ?_
    refine ro_iload_n (pc' := 21) dX0_put_20 rfl rfl rfl ?_
    obtain ⟨v5, hv5, h⟩ := ah_bs h
    refine ro_aaload (pc' := 22) (by decide) (by decide) rfl dX0_put_21 rfl hv5 ?_
    refine ro_astore (pc' := 24) (L' := [some (va_rf r0), some (.int x1), some (.int x2), some (.long l3), none, some (.int v2), some (va_rf v5)]) dX0_put_22 (Nat.le_of_ble_eq_true rfl) rfl (ah_okp_i _) rfl ?_
    refine ro_aload (pc' := 26) dX0_put_24 rfl rfl ?_
    obtain ⟨v6, σ7, hv6, h⟩ := ah_bs2 h
    refine ro_callS (pc' := 29) (As := [va_rf v5]) (rest := []) (st' := [.int v6]) q476 (M_X0_sortOf hv6) q475 q477 q95 dd_X0_sortOf rfl ⟨Nat.le_of_ble_eq_true rfl, Nat.le_of_ble_eq_true rfl⟩ (Nat.le_of_ble_eq_true rfl) dX0_put_26 rfl rfl rfl ?_
    by_cases c29_0 : v6 = (0 : Int32)
    · replace h := ah_ip c29_0 h
      refine ro_tabIn (tgt := 60) 0 c29_0 dX0_put_29 (by decide) (by decide) rfl rfl ?_
      refine ro_aload (pc' := 62) dX0_put_60 rfl rfl ?_
      obtain ⟨u8, hu8, h⟩ := ah_bs h
      refine ro_castA (pc' := 65) (t := 102) (by decide) q478 dX0_put_62 rfl hu8 ?_
      refine ro_iload_n (pc' := 66) dX0_put_65 rfl rfl rfl ?_
      refine ro_lload_n (pc' := 67) dX0_put_66 rfl rfl rfl ?_
      refine ro_l2i (pc' := 68) dX0_put_67 rfl ?_
      refine ro_i2b (pc' := 69) dX0_put_68 rfl ?_
      obtain ⟨σ9, hσ9, h⟩ := ah_bs h
      refine ro_bastore (pc' := 70) dX0_put_69 rfl hσ9 ?_
      refine ro_goto (tgt := 127) dX0_put_70 rfl ?_
      refine ro_iconst (pc' := 128) dX0_put_127 ic_1 rfl ?_
      obtain rfl := Option.some.inj h
      exact ro_iret hκ dX0_put_128
    replace h := ah_in_ c29_0 h
    by_cases c29_1 : v6 = (1 : Int32)
    · replace h := ah_ip c29_1 h
      refine ro_tabIn (tgt := 73) 1 c29_1 dX0_put_29 (by decide) (by decide) rfl rfl ?_
      refine ro_aload (pc' := 75) dX0_put_73 rfl rfl ?_
      obtain ⟨u10, hu10, h⟩ := ah_bs h
      refine ro_castA (pc' := 78) (t := 103) (by decide) q479 dX0_put_75 rfl hu10 ?_
      refine ro_iload_n (pc' := 79) dX0_put_78 rfl rfl rfl ?_
      refine ro_lload_n (pc' := 80) dX0_put_79 rfl rfl rfl ?_
      refine ro_l2i (pc' := 81) dX0_put_80 rfl ?_
      refine ro_i2s (pc' := 82) dX0_put_81 rfl ?_
      obtain ⟨σ11, hσ11, h⟩ := ah_bs h
      refine ro_sastore (pc' := 83) dX0_put_82 rfl hσ11 ?_
      refine ro_goto (tgt := 127) dX0_put_83 rfl ?_
      refine ro_iconst (pc' := 128) dX0_put_127 ic_1 rfl ?_
      obtain rfl := Option.some.inj h
      exact ro_iret hκ dX0_put_128
    replace h := ah_in_ c29_1 h
    by_cases c29_2 : v6 = (2 : Int32)
    · replace h := ah_ip c29_2 h
      refine ro_tabIn (tgt := 86) 2 c29_2 dX0_put_29 (by decide) (by decide) rfl rfl ?_
      refine ro_aload (pc' := 88) dX0_put_86 rfl rfl ?_
      obtain ⟨u12, hu12, h⟩ := ah_bs h
      refine ro_castA (pc' := 91) (t := 101) (by decide) q480 dX0_put_88 rfl hu12 ?_
      refine ro_iload_n (pc' := 92) dX0_put_91 rfl rfl rfl ?_
      refine ro_lload_n (pc' := 93) dX0_put_92 rfl rfl rfl ?_
      refine ro_l2i (pc' := 94) dX0_put_93 rfl ?_
      obtain ⟨σ13, hσ13, h⟩ := ah_bs h
      refine ro_iastore (pc' := 95) dX0_put_94 rfl hσ13 ?_
      refine ro_goto (tgt := 127) dX0_put_95 rfl ?_
      refine ro_iconst (pc' := 128) dX0_put_127 ic_1 rfl ?_
      obtain rfl := Option.some.inj h
      exact ro_iret hκ dX0_put_128
    replace h := ah_in_ c29_2 h
    by_cases c29_3 : v6 = (3 : Int32)
    · replace h := ah_ip c29_3 h
      refine ro_tabIn (tgt := 98) 3 c29_3 dX0_put_29 (by decide) (by decide) rfl rfl ?_
      refine ro_aload (pc' := 100) dX0_put_98 rfl rfl ?_
      obtain ⟨u14, hu14, h⟩ := ah_bs h
      refine ro_castA (pc' := 103) (t := 104) (by decide) q481 dX0_put_100 rfl hu14 ?_
      refine ro_iload_n (pc' := 104) dX0_put_103 rfl rfl rfl ?_
      refine ro_lload_n (pc' := 105) dX0_put_104 rfl rfl rfl ?_
      obtain ⟨σ15, hσ15, h⟩ := ah_bs h
      refine ro_lastore (pc' := 106) dX0_put_105 rfl hσ15 ?_
      refine ro_goto (tgt := 127) dX0_put_106 rfl ?_
      refine ro_iconst (pc' := 128) dX0_put_127 ic_1 rfl ?_
      obtain rfl := Option.some.inj h
      exact ro_iret hκ dX0_put_128
    replace h := ah_in_ c29_3 h
    refine ro_tabOut (tgt := 109) dX0_put_29 (by have e0 := lv_neT (a := 0) c29_0 (by decide); have e1 := lv_neT (a := 1) c29_1 (by decide); have e2 := lv_neT (a := 2) c29_2 (by decide); have e3 := lv_neT (a := 3) c29_3 (by decide); omega) rfl ?_
    refine ro_aload (pc' := 111) dX0_put_109 rfl rfl ?_
    obtain ⟨u16, hu16, h⟩ := ah_bs h
    refine ro_castA (pc' := 114) (t := 105) (by decide) q482 dX0_put_111 rfl hu16 ?_
    refine ro_iload_n (pc' := 115) dX0_put_114 rfl rfl rfl ?_
    refine ro_lload_n (pc' := 116) dX0_put_115 rfl rfl rfl ?_
    refine ro_lconst (pc' := 117) dX0_put_116 lc_0 rfl ?_
    refine ro_lcmp (pc' := 118) dX0_put_117 rfl ?_
    refine ro_if_eq (pc' := 121) (tgt := 125) dX0_put_118 rfl rfl (fun c => ?_) (fun c => ?_)
    · replace h := ah_ip c h
      refine ro_iconst (pc' := 126) dX0_put_125 ic_0 rfl ?_
      obtain ⟨σ17, hσ17, h⟩ := ah_bs h
      refine ro_zastore (pc' := 127) dX0_put_126 rfl hσ17 ?_
      refine ro_iconst (pc' := 128) dX0_put_127 ic_1 rfl ?_
      obtain rfl := Option.some.inj h
      exact ro_iret hκ dX0_put_128
    · replace h := ah_in_ c h
      refine ro_iconst (pc' := 122) dX0_put_121 ic_1 rfl ?_
      refine ro_goto (tgt := 126) dX0_put_122 rfl ?_
      obtain ⟨σ18, hσ18, h⟩ := ah_bs h
      refine ro_zastore (pc' := 127) dX0_put_126 rfl hσ18 ?_
      refine ro_iconst (pc' := 128) dX0_put_127 ic_1 rfl ?_
      obtain rfl := Option.some.inj h
      exact ro_iret hκ dX0_put_128
  · replace h := ah_in_ c h
    refine ro_iload (pc' := 15) dX0_put_13 rfl rfl ?_
    obtain rfl := Option.some.inj h
    exact ro_iret hκ dX0_put_15
theorem M_X0_put {l : Launch} {D : ah_D}  {σ : ah_S} {r0 : Option Nat} {x1 : Int32} {x2 : Int32} {l3 : Int64} {v : Int32} {σ1 : ah_S} (h : F_X0_put σ r0 x1 x2 l3 = some (v, σ1)) : ah_Met l yX0_put (Cond.code yX0_put cX0_put 7 (some FieldType.int)) 4 92 D [va_rf r0, .int x1, .int x2, .long l3] σ (.returned (some (.int v)), σ1) :=
  ah_ofG (own := "LeftAsFound") (nm := "put") (L0 := [some (va_rf r0), some (.int x1), some (.int x2), some (.long l3), none, none, none]) (by decide) rfl rfl rfl (ah_ao_1 (ah_rf_cat _) (ah_ao_1 rfl (ah_ao_1 rfl (ah_ao_2 rfl (ah_ao_n (ah_ao_n ah_ao_0)))))) (fun κ hκ => W_X0_put hκ  σ r0 x1 x2 l3 h)
set_option maxRecDepth 20000 in
set_option maxHeartbeats 4000000 in
theorem W_X0_redo {κ : ah_C} {rr : (Int32 × ah_S)} (hκ : ah_res κ = (.returned (some (.int rr.1)), rr.2))  (σ : ah_S) (r0 : Option Nat) (h : F_X0_redo σ r0 = some rr) : ah_G κ ("LeftAsFound", "redo", 1, (some FieldType.int), [], 1, 24) cX0_redo σ 0 [some (va_rf r0)] [] := by
  unfold F_X0_redo at h
  refine ro_aload_n (pc' := 1) dX0_redo_0 rfl rfl rfl ?_
  obtain ⟨v1, hv1, h⟩ := ah_bs h
  refine ro_getI (pc' := 4) ft_2 fk_2 q292 dX0_redo_1 rfl hv1 ?_
  refine ro_aload_n (pc' := 5) dX0_redo_4 rfl rfl rfl ?_
  obtain ⟨v2, hv2, h⟩ := ah_bs h
  refine ro_getI (pc' := 8) ft_1 fk_1 q291 dX0_redo_5 rfl hv2 ?_
  refine ro_icmp_ne (pc' := 11) (tgt := 14) dX0_redo_8 rfl rfl (fun c => ?_) (fun c => ?_)
  · replace h := ah_in_ c h
    refine ro_aload_n (pc' := 15) dX0_redo_14 rfl rfl rfl ?_
    obtain ⟨v3, hv3, h⟩ := ah_bs h
    refine ro_getR (pc' := 18) ft_0 fk_0 q290 dX0_redo_15 rfl hv3 ?_
    refine ro_aload_n (pc' := 19) dX0_redo_18 rfl rfl rfl ?_
    obtain ⟨v4, hv4, h⟩ := ah_bs h
    refine ro_getI (pc' := 22) ft_2 fk_2 q292 dX0_redo_19 rfl hv4 ?_
    obtain ⟨v5, hv5, h⟩ := ah_bs h
    refine ro_aaload (pc' := 23) (by decide) (by decide) rfl dX0_redo_22 rfl hv5 ?_
    obtain ⟨v6, hv6, h⟩ := ah_bs h
    refine ro_getRN (pc' := 26) ft_500 fk_500 nq280 dX0_redo_23 rfl hv6 ?_
    refine ro_aload_n (pc' := 27) dX0_redo_26 rfl rfl rfl ?_
    obtain ⟨v7, hv7, h⟩ := ah_bs h
    refine ro_getR (pc' := 30) ft_0 fk_0 q290 dX0_redo_27 rfl hv7 ?_
    refine ro_aload_n (pc' := 31) dX0_redo_30 rfl rfl rfl ?_
    obtain ⟨v8, hv8, h⟩ := ah_bs h
    refine ro_getI (pc' := 34) ft_2 fk_2 q292 dX0_redo_31 rfl hv8 ?_
    obtain ⟨v9, hv9, h⟩ := ah_bs h
    refine ro_aaload (pc' := 35) (by decide) (by decide) rfl dX0_redo_34 rfl hv9 ?_
    obtain ⟨v10, hv10, h⟩ := ah_bs h
    refine ro_getIN (pc' := 38) ft_502 fk_502 nq282 dX0_redo_35 rfl hv10 ?_
    obtain ⟨σ11, hσ11, h⟩ := ah_bs h
    refine ro_putIN (pc' := 41) ft_200 fk_200 nq219 pd_200 dX0_redo_38 rfl hσ11 ?_
    refine ro_aload_n (pc' := 42) dX0_redo_41 rfl rfl rfl ?_
    refine ro_dup (pc' := 43) dX0_redo_42 (ah_rf_cat _) rfl ?_
    obtain ⟨v12, hv12, h⟩ := ah_bs h
    refine ro_getI (pc' := 46) ft_2 fk_2 q292 dX0_redo_43 rfl hv12 ?_
    refine ro_iconst (pc' := 47) dX0_redo_46 ic_1 rfl ?_
    refine ro_iadd (pc' := 48) dX0_redo_47 rfl ?_
    obtain ⟨σ13, hσ13, h⟩ := ah_bs h
    refine ro_putI (pc' := 51) ft_2 fk_2 q292 pd_2 dX0_redo_48 rfl hσ13 ?_
    refine ro_aload_n (pc' := 52) dX0_redo_51 rfl rfl rfl ?_
    obtain ⟨v14, hv14, h⟩ := ah_bs h
    refine ro_getI (pc' := 55) ft_1 fk_1 q291 dX0_redo_52 rfl hv14 ?_
    refine ro_aload_n (pc' := 56) dX0_redo_55 rfl rfl rfl ?_
    obtain ⟨v15, hv15, h⟩ := ah_bs h
    refine ro_getI (pc' := 59) ft_2 fk_2 q292 dX0_redo_56 rfl hv15 ?_
    refine ro_isub (pc' := 60) dX0_redo_59 rfl ?_
    obtain rfl := Option.some.inj h
    exact ro_iret hκ dX0_redo_60
  · replace h := ah_ip c h
    refine ro_bipush (pc' := 13) dX0_redo_11 ib_m5 rfl ?_
    obtain rfl := Option.some.inj h
    exact ro_iret hκ dX0_redo_13
theorem M_X0_redo {l : Launch} {D : ah_D}  {σ : ah_S} {r0 : Option Nat} {v : Int32} {σ1 : ah_S} (h : F_X0_redo σ r0 = some (v, σ1)) : ah_Met l yX0_redo (Cond.code yX0_redo cX0_redo 1 (some FieldType.int)) 1 24 D [va_rf r0] σ (.returned (some (.int v)), σ1) :=
  ah_ofG (own := "LeftAsFound") (nm := "redo") (L0 := [some (va_rf r0)]) (by decide) rfl rfl rfl (ah_ao_1 (ah_rf_cat _) ah_ao_0) (fun κ hκ => W_X0_redo hκ  σ r0 h)
set_option maxRecDepth 20000 in
set_option maxHeartbeats 4000000 in
theorem W_X0_row {κ : ah_C} {rr : (Int32 × ah_S)} (hκ : ah_res κ = (.returned (some (.int rr.1)), rr.2))  (σ : ah_S) (r0 : Option Nat) (x1 : Int32) (x2 : Int32) (x3 : Int32) (h : F_X0_row σ r0 x1 x2 x3 = some rr) : ah_G κ ("LeftAsFound", "row", 4, (some FieldType.int), [], 3, 69) cX0_row σ 0 [some (va_rf r0), some (.int x1), some (.int x2), some (.int x3)] [] := by
  unfold F_X0_row at h
  refine ro_iload_n (pc' := 1) dX0_row_0 rfl rfl rfl ?_
  obtain ⟨v1, σ2, hv1, h⟩ := ah_bs2 h
  refine ro_callS (pc' := 4) (As := [.int x1]) (rest := []) (st' := [.int v1]) q471 (M_X0_isShelf hv1) q470 q472 q95 dd_X0_isShelf rfl ⟨Nat.le_of_ble_eq_true rfl, Nat.le_of_ble_eq_true rfl⟩ (Nat.le_of_ble_eq_true rfl) dX0_row_1 rfl rfl rfl ?_
  refine ro_if_eq (pc' := 7) (tgt := 25) dX0_row_4 rfl rfl (fun c => ?_) (fun c => ?_)
  · replace h := ah_ip c h
    refine ro_iconst (pc' := 26) dX0_row_25 ic_m1 rfl ?_
    obtain rfl := Option.some.inj h
    exact ro_iret hκ dX0_row_26
  · replace h := ah_in_ c h
    refine ro_iload_n (pc' := 8) dX0_row_7 rfl rfl rfl ?_
    refine ro_i2l (pc' := 9) dX0_row_8 rfl ?_
    refine ro_lconst (pc' := 10) dX0_row_9 lc_0 rfl ?_
    refine ro_ldc2 (pc' := 13) q1209 dX0_row_10 rfl ?_
    obtain ⟨v3, σ4, hv3, h⟩ := ah_bs2 h
    refine ro_callS (pc' := 16) (As := [.long (x2.toInt64), .long (0 : Int64), .long (4 : Int64)]) (rest := []) (st' := [.int v3]) q429 (M_X0_within hv3) q428 q430 q95 dd_X0_within rfl ⟨Nat.le_of_ble_eq_true rfl, Nat.le_of_ble_eq_true rfl⟩ (Nat.le_of_ble_eq_true rfl) dX0_row_13 rfl rfl rfl ?_
    refine ro_if_eq (pc' := 19) (tgt := 25) dX0_row_16 rfl rfl (fun c => ?_) (fun c => ?_)
    · replace h := ah_ip c h
      refine ro_iconst (pc' := 26) dX0_row_25 ic_m1 rfl ?_
      obtain rfl := Option.some.inj h
      exact ro_iret hκ dX0_row_26
    · replace h := ah_in_ c h
      refine ro_iload_n (pc' := 20) dX0_row_19 rfl rfl rfl ?_
      refine ro_bipush (pc' := 22) dX0_row_20 ib_60 rfl ?_
      refine ro_icmp_le (pc' := 25) (tgt := 27) dX0_row_22 rfl rfl (fun c => ?_) (fun c => ?_)
      · replace h := ah_ip c h
        refine ro_iload_n (pc' := 28) dX0_row_27 rfl rfl rfl ?_
        refine ro_if_ge (pc' := 31) (tgt := 34) dX0_row_28 rfl rfl (fun c => ?_) (fun c => ?_)
        · replace h := ah_ip c h
          refine ro_iload_n (pc' := 35) dX0_row_34 rfl rfl rfl ?_
          by_cases c35_0 : x2 = (0 : Int32)
          · replace h := ah_ip c35_0 h
            refine ro_tabIn (tgt := 64) 0 c35_0 dX0_row_35 (by decide) (by decide) rfl rfl ?_
            refine ro_aload_n (pc' := 65) dX0_row_64 rfl rfl rfl ?_
            obtain ⟨v5, hv5, h⟩ := ah_bs h
            refine ro_getR (pc' := 68) ft_41 fk_41 q337 dX0_row_65 rfl hv5 ?_
            refine ro_iload_n (pc' := 69) dX0_row_68 rfl rfl rfl ?_
            refine ro_iload_n (pc' := 70) dX0_row_69 rfl rfl rfl ?_
            obtain ⟨σ6, hσ6, h⟩ := ah_bs h
            refine ro_newa (pc' := 72) (t := 102) (by decide) rfl q1210 dX0_row_70 rfl hσ6 ?_
            obtain ⟨σ7, hσ7, h⟩ := ah_bs h
            refine ro_aastore (pc' := 73) (by decide) (by decide) rfl dX0_row_72 rfl hσ7 ?_
            refine ro_goto (tgt := 121) dX0_row_73 rfl ?_
            refine ro_iconst (pc' := 122) dX0_row_121 ic_1 rfl ?_
            obtain rfl := Option.some.inj h
            exact ro_iret hκ dX0_row_122
          replace h := ah_in_ c35_0 h
          by_cases c35_1 : x2 = (1 : Int32)
          · replace h := ah_ip c35_1 h
            refine ro_tabIn (tgt := 76) 1 c35_1 dX0_row_35 (by decide) (by decide) rfl rfl ?_
            refine ro_aload_n (pc' := 77) dX0_row_76 rfl rfl rfl ?_
            obtain ⟨v8, hv8, h⟩ := ah_bs h
            refine ro_getR (pc' := 80) ft_41 fk_41 q337 dX0_row_77 rfl hv8 ?_
            refine ro_iload_n (pc' := 81) dX0_row_80 rfl rfl rfl ?_
            refine ro_iload_n (pc' := 82) dX0_row_81 rfl rfl rfl ?_
            obtain ⟨σ9, hσ9, h⟩ := ah_bs h
            refine ro_newa (pc' := 84) (t := 103) (by decide) rfl q1211 dX0_row_82 rfl hσ9 ?_
            obtain ⟨σ10, hσ10, h⟩ := ah_bs h
            refine ro_aastore (pc' := 85) (by decide) (by decide) rfl dX0_row_84 rfl hσ10 ?_
            refine ro_goto (tgt := 121) dX0_row_85 rfl ?_
            refine ro_iconst (pc' := 122) dX0_row_121 ic_1 rfl ?_
            obtain rfl := Option.some.inj h
            exact ro_iret hκ dX0_row_122
          replace h := ah_in_ c35_1 h
          by_cases c35_2 : x2 = (2 : Int32)
          · replace h := ah_ip c35_2 h
            refine ro_tabIn (tgt := 88) 2 c35_2 dX0_row_35 (by decide) (by decide) rfl rfl ?_
            refine ro_aload_n (pc' := 89) dX0_row_88 rfl rfl rfl ?_
            obtain ⟨v11, hv11, h⟩ := ah_bs h
            refine ro_getR (pc' := 92) ft_41 fk_41 q337 dX0_row_89 rfl hv11 ?_
            refine ro_iload_n (pc' := 93) dX0_row_92 rfl rfl rfl ?_
            refine ro_iload_n (pc' := 94) dX0_row_93 rfl rfl rfl ?_
            obtain ⟨σ12, hσ12, h⟩ := ah_bs h
            refine ro_newa (pc' := 96) (t := 101) (by decide) rfl q205 dX0_row_94 rfl hσ12 ?_
            obtain ⟨σ13, hσ13, h⟩ := ah_bs h
            refine ro_aastore (pc' := 97) (by decide) (by decide) rfl dX0_row_96 rfl hσ13 ?_
            refine ro_goto (tgt := 121) dX0_row_97 rfl ?_
            refine ro_iconst (pc' := 122) dX0_row_121 ic_1 rfl ?_
            obtain rfl := Option.some.inj h
            exact ro_iret hκ dX0_row_122
          replace h := ah_in_ c35_2 h
          by_cases c35_3 : x2 = (3 : Int32)
          · replace h := ah_ip c35_3 h
            refine ro_tabIn (tgt := 100) 3 c35_3 dX0_row_35 (by decide) (by decide) rfl rfl ?_
            refine ro_aload_n (pc' := 101) dX0_row_100 rfl rfl rfl ?_
            obtain ⟨v14, hv14, h⟩ := ah_bs h
            refine ro_getR (pc' := 104) ft_41 fk_41 q337 dX0_row_101 rfl hv14 ?_
            refine ro_iload_n (pc' := 105) dX0_row_104 rfl rfl rfl ?_
            refine ro_iload_n (pc' := 106) dX0_row_105 rfl rfl rfl ?_
            obtain ⟨σ15, hσ15, h⟩ := ah_bs h
            refine ro_newa (pc' := 108) (t := 104) (by decide) rfl q1212 dX0_row_106 rfl hσ15 ?_
            obtain ⟨σ16, hσ16, h⟩ := ah_bs h
            refine ro_aastore (pc' := 109) (by decide) (by decide) rfl dX0_row_108 rfl hσ16 ?_
            refine ro_goto (tgt := 121) dX0_row_109 rfl ?_
            refine ro_iconst (pc' := 122) dX0_row_121 ic_1 rfl ?_
            obtain rfl := Option.some.inj h
            exact ro_iret hκ dX0_row_122
          replace h := ah_in_ c35_3 h
          refine ro_tabOut (tgt := 112) dX0_row_35 (by have e0 := lv_neT (a := 0) c35_0 (by decide); have e1 := lv_neT (a := 1) c35_1 (by decide); have e2 := lv_neT (a := 2) c35_2 (by decide); have e3 := lv_neT (a := 3) c35_3 (by decide); omega) rfl ?_
          refine ro_aload_n (pc' := 113) dX0_row_112 rfl rfl rfl ?_
          obtain ⟨v17, hv17, h⟩ := ah_bs h
          refine ro_getR (pc' := 116) ft_41 fk_41 q337 dX0_row_113 rfl hv17 ?_
          refine ro_iload_n (pc' := 117) dX0_row_116 rfl rfl rfl ?_
          refine ro_iload_n (pc' := 118) dX0_row_117 rfl rfl rfl ?_
          obtain ⟨σ18, hσ18, h⟩ := ah_bs h
          refine ro_newa (pc' := 120) (t := 105) (by decide) rfl q1213 dX0_row_118 rfl hσ18 ?_
          obtain ⟨σ19, hσ19, h⟩ := ah_bs h
          refine ro_aastore (pc' := 121) (by decide) (by decide) rfl dX0_row_120 rfl hσ19 ?_
          refine ro_iconst (pc' := 122) dX0_row_121 ic_1 rfl ?_
          obtain rfl := Option.some.inj h
          exact ro_iret hκ dX0_row_122
        · replace h := ah_in_ c h
          refine ro_bipush (pc' := 33) dX0_row_31 ib_m14 rfl ?_
          obtain rfl := Option.some.inj h
          exact ro_iret hκ dX0_row_33
      · replace h := ah_in_ c h
        refine ro_iconst (pc' := 26) dX0_row_25 ic_m1 rfl ?_
        obtain rfl := Option.some.inj h
        exact ro_iret hκ dX0_row_26
theorem M_X0_row {l : Launch} {D : ah_D}  {σ : ah_S} {r0 : Option Nat} {x1 : Int32} {x2 : Int32} {x3 : Int32} {v : Int32} {σ1 : ah_S} (h : F_X0_row σ r0 x1 x2 x3 = some (v, σ1)) : ah_Met l yX0_row (Cond.code yX0_row cX0_row 4 (some FieldType.int)) 3 69 D [va_rf r0, .int x1, .int x2, .int x3] σ (.returned (some (.int v)), σ1) :=
  ah_ofG (own := "LeftAsFound") (nm := "row") (L0 := [some (va_rf r0), some (.int x1), some (.int x2), some (.int x3)]) (by decide) rfl rfl rfl (ah_ao_1 (ah_rf_cat _) (ah_ao_1 rfl (ah_ao_1 rfl (ah_ao_1 rfl ah_ao_0)))) (fun κ hκ => W_X0_row hκ  σ r0 x1 x2 x3 h)
set_option maxRecDepth 20000 in
set_option maxHeartbeats 4000000 in
theorem W_X0_set {κ : ah_C} {rr : (Int32 × ah_S)} (hκ : ah_res κ = (.returned (some (.int rr.1)), rr.2))  (σ : ah_S) (r0 : Option Nat) (x1 : Int32) (x2 : Int32) (h : F_X0_set σ r0 x1 x2 = some rr) : ah_G κ ("LeftAsFound", "set", 4, (some FieldType.int), [], 3, 69) cX0_set σ 0 [some (va_rf r0), some (.int x1), some (.int x2), none] [] := by
  unfold F_X0_set at h
  refine ro_iload_n (pc' := 1) dX0_set_0 rfl rfl rfl ?_
  obtain ⟨v1, σ2, hv1, h⟩ := ah_bs2 h
  refine ro_callS (pc' := 4) (As := [.int x1]) (rest := []) (st' := [.int v1]) q497 (M_X0_isThing hv1) q496 q498 q95 dd_X0_isThing rfl ⟨Nat.le_of_ble_eq_true rfl, Nat.le_of_ble_eq_true rfl⟩ (Nat.le_of_ble_eq_true rfl) dX0_set_1 rfl rfl rfl ?_
  refine ro_if_eq (pc' := 7) (tgt := 19) dX0_set_4 rfl rfl (fun c => ?_) (fun c => ?_)
  · replace h := ah_ip c h
    refine ro_iconst (pc' := 20) dX0_set_19 ic_m1 rfl ?_
    obtain rfl := Option.some.inj h
    exact ro_iret hκ dX0_set_20
  · replace h := ah_in_ c h
    refine ro_iload_n (pc' := 8) dX0_set_7 rfl rfl rfl ?_
    refine ro_i2l (pc' := 9) dX0_set_8 rfl ?_
    refine ro_lconst (pc' := 10) dX0_set_9 lc_0 rfl ?_
    refine ro_ldc2 (pc' := 13) q724 dX0_set_10 rfl ?_
    obtain ⟨v3, σ4, hv3, h⟩ := ah_bs2 h
    refine ro_callS (pc' := 16) (As := [.long (x2.toInt64), .long (0 : Int64), .long (99 : Int64)]) (rest := []) (st' := [.int v3]) q429 (M_X0_within hv3) q428 q430 q95 dd_X0_within rfl ⟨Nat.le_of_ble_eq_true rfl, Nat.le_of_ble_eq_true rfl⟩ (Nat.le_of_ble_eq_true rfl) dX0_set_13 rfl rfl rfl ?_
    refine ro_if_ne (pc' := 19) (tgt := 21) dX0_set_16 rfl rfl (fun c => ?_) (fun c => ?_)
    · replace h := ah_in_ c h
      refine ro_aload_n (pc' := 22) dX0_set_21 rfl rfl rfl ?_
      obtain ⟨v5, hv5, h⟩ := ah_bs h
      refine ro_getR (pc' := 25) ft_18 fk_18 q312 dX0_set_22 rfl hv5 ?_
      obtain ⟨v6, hv6, h⟩ := ah_bs h
      refine ro_getRN (pc' := 28) ft_400 fk_400 nq245 dX0_set_25 rfl hv6 ?_
      refine ro_iload_n (pc' := 29) dX0_set_28 rfl rfl rfl ?_
      obtain ⟨v7, hv7, h⟩ := ah_bs h
      refine ro_iaload (pc' := 30) dX0_set_29 rfl hv7 ?_
      refine ro_istore_n (pc' := 31) (L' := [some (va_rf r0), some (.int x1), some (.int x2), some (.int v7)]) dX0_set_30 rfl (Nat.le_of_ble_eq_true rfl) rfl (ah_okp_i _) rfl ?_
      refine ro_aload_n (pc' := 32) dX0_set_31 rfl rfl rfl ?_
      obtain ⟨v8, hv8, h⟩ := ah_bs h
      refine ro_getR (pc' := 35) ft_18 fk_18 q312 dX0_set_32 rfl hv8 ?_
      obtain ⟨v9, hv9, h⟩ := ah_bs h
      refine ro_getRN (pc' := 38) ft_400 fk_400 nq245 dX0_set_35 rfl hv9 ?_
      refine ro_iload_n (pc' := 39) dX0_set_38 rfl rfl rfl ?_
      refine ro_iload_n (pc' := 40) dX0_set_39 rfl rfl rfl ?_
      obtain ⟨σ10, hσ10, h⟩ := ah_bs h
      refine ro_iastore (pc' := 41) dX0_set_40 rfl hσ10 ?_
      refine ro_iload_n (pc' := 42) dX0_set_41 rfl rfl rfl ?_
      obtain rfl := Option.some.inj h
      exact ro_iret hκ dX0_set_42
    · replace h := ah_ip c h
      refine ro_iconst (pc' := 20) dX0_set_19 ic_m1 rfl ?_
      obtain rfl := Option.some.inj h
      exact ro_iret hκ dX0_set_20
theorem M_X0_set {l : Launch} {D : ah_D}  {σ : ah_S} {r0 : Option Nat} {x1 : Int32} {x2 : Int32} {v : Int32} {σ1 : ah_S} (h : F_X0_set σ r0 x1 x2 = some (v, σ1)) : ah_Met l yX0_set (Cond.code yX0_set cX0_set 4 (some FieldType.int)) 3 69 D [va_rf r0, .int x1, .int x2] σ (.returned (some (.int v)), σ1) :=
  ah_ofG (own := "LeftAsFound") (nm := "set") (L0 := [some (va_rf r0), some (.int x1), some (.int x2), none]) (by decide) rfl rfl rfl (ah_ao_1 (ah_rf_cat _) (ah_ao_1 rfl (ah_ao_1 rfl (ah_ao_n ah_ao_0)))) (fun κ hκ => W_X0_set hκ  σ r0 x1 x2 h)
set_option maxRecDepth 20000 in
set_option maxHeartbeats 4000000 in
theorem W_X0_shift {κ : ah_C} {rr : (Int32 × ah_S)} (hκ : ah_res κ = (.returned (some (.int rr.1)), rr.2))  (σ : ah_S) (r0 : Option Nat) (x1 : Int32) (x2 : Int32) (x3 : Int32) (x4 : Int32) (x5 : Int32) (h : F_X0_shift σ r0 x1 x2 x3 x4 x5 = some rr) : ah_G κ ("LeftAsFound", "shift", 8, (some FieldType.int), [], 3, 80) cX0_shift σ 0 [some (va_rf r0), some (.int x1), some (.int x2), some (.int x3), some (.int x4), some (.int x5), none, none] [] := by
  unfold F_X0_shift at h
  refine ro_iload_n (pc' := 1) dX0_shift_0 rfl rfl rfl ?_
  obtain ⟨v1, σ2, hv1, h⟩ := ah_bs2 h
  refine ro_callS (pc' := 4) (As := [.int x1]) (rest := []) (st' := [.int v1]) q471 (M_X0_isShelf hv1) q470 q472 q95 dd_X0_isShelf rfl ⟨Nat.le_of_ble_eq_true rfl, Nat.le_of_ble_eq_true rfl⟩ (Nat.le_of_ble_eq_true rfl) dX0_shift_1 rfl rfl rfl ?_
  refine ro_if_eq (pc' := 7) (tgt := 14) dX0_shift_4 rfl rfl (fun c => ?_) (fun c => ?_)
  · replace h := ah_ip c h
    refine ro_iconst (pc' := 15) dX0_shift_14 ic_m1 rfl ?_
    obtain rfl := Option.some.inj h
    exact ro_iret hκ dX0_shift_15
  · replace h := ah_in_ c h
    refine ro_iload_n (pc' := 8) dX0_shift_7 rfl rfl rfl ?_
    obtain ⟨v3, σ4, hv3, h⟩ := ah_bs2 h
    refine ro_callS (pc' := 11) (As := [.int x3]) (rest := []) (st' := [.int v3]) q471 (M_X0_isShelf hv3) q470 q472 q95 dd_X0_isShelf rfl ⟨Nat.le_of_ble_eq_true rfl, Nat.le_of_ble_eq_true rfl⟩ (Nat.le_of_ble_eq_true rfl) dX0_shift_8 rfl rfl rfl ?_
    refine ro_if_ne (pc' := 14) (tgt := 16) dX0_shift_11 rfl rfl (fun c => ?_) (fun c => ?_)
    · replace h := ah_in_ c h
      refine ro_aload_n (pc' := 17) dX0_shift_16 rfl rfl rfl ?_
      obtain ⟨v5, hv5, h⟩ := ah_bs h
      refine ro_getR (pc' := 20) ft_41 fk_41 q337 dX0_shift_17 rfl hv5 ?_
      refine ro_iload_n (pc' := 21) dX0_shift_20 rfl rfl rfl ?_
      obtain ⟨v6, hv6, h⟩ := ah_bs h
      refine ro_aaload (pc' := 22) (by decide) (by decide) rfl dX0_shift_21 rfl hv6 ?_
      refine ro_astore (pc' := 24) (L' := [some (va_rf r0), some (.int x1), some (.int x2), some (.int x3), some (.int x4), some (.int x5), some (va_rf v6), none]) dX0_shift_22 (Nat.le_of_ble_eq_true rfl) rfl (ah_okp_i _) rfl ?_
      refine ro_aload_n (pc' := 25) dX0_shift_24 rfl rfl rfl ?_
      obtain ⟨v7, hv7, h⟩ := ah_bs h
      refine ro_getR (pc' := 28) ft_41 fk_41 q337 dX0_shift_25 rfl hv7 ?_
      refine ro_iload_n (pc' := 29) dX0_shift_28 rfl rfl rfl ?_
      obtain ⟨v8, hv8, h⟩ := ah_bs h
      refine ro_aaload (pc' := 30) (by decide) (by decide) rfl dX0_shift_29 rfl hv8 ?_
      refine ro_astore (pc' := 32) (L' := [some (va_rf r0), some (.int x1), some (.int x2), some (.int x3), some (.int x4), some (.int x5), some (va_rf v6), some (va_rf v8)]) dX0_shift_30 (Nat.le_of_ble_eq_true rfl) rfl (ah_okp_r _) rfl ?_
      refine ro_aload (pc' := 34) dX0_shift_32 rfl rfl ?_
      refine ro_ifnull (pc' := 37) (tgt := 42) dX0_shift_34 rfl rfl (fun c => ?_) (fun c => ?_)
      · replace h := ah_ip c h
        refine ro_bipush (pc' := 44) dX0_shift_42 ib_m11 rfl ?_
        obtain rfl := Option.some.inj h
        exact ro_iret hκ dX0_shift_44
      · replace h := ah_in_ c h
        refine ro_aload (pc' := 39) dX0_shift_37 rfl rfl ?_
        refine ro_ifnonnull (pc' := 42) (tgt := 45) dX0_shift_39 rfl rfl (fun c => ?_) (fun c => ?_)
        · replace h := ah_in_ c h
          refine ro_aload (pc' := 47) dX0_shift_45 rfl rfl ?_
          obtain ⟨v9, σ10, hv9, h⟩ := ah_bs2 h
          refine ro_callS (pc' := 50) (As := [va_rf v6]) (rest := []) (st' := [.int v9]) q476 (M_X0_sortOf hv9) q475 q477 q95 dd_X0_sortOf rfl ⟨Nat.le_of_ble_eq_true rfl, Nat.le_of_ble_eq_true rfl⟩ (Nat.le_of_ble_eq_true rfl) dX0_shift_47 rfl rfl rfl ?_
          refine ro_iconst (pc' := 51) dX0_shift_50 ic_m1 rfl ?_
          refine ro_icmp_eq (pc' := 54) (tgt := 67) dX0_shift_51 rfl rfl (fun c => ?_) (fun c => ?_)
          · replace h := ah_ip c h
            refine ro_bipush (pc' := 69) dX0_shift_67 ib_m12 rfl ?_
            obtain rfl := Option.some.inj h
            exact ro_iret hκ dX0_shift_69
          · replace h := ah_in_ c h
            refine ro_aload (pc' := 56) dX0_shift_54 rfl rfl ?_
            obtain ⟨v11, σ12, hv11, h⟩ := ah_bs2 h
            refine ro_callS (pc' := 59) (As := [va_rf v6]) (rest := []) (st' := [.int v11]) q476 (M_X0_sortOf hv11) q475 q477 q95 dd_X0_sortOf rfl ⟨Nat.le_of_ble_eq_true rfl, Nat.le_of_ble_eq_true rfl⟩ (Nat.le_of_ble_eq_true rfl) dX0_shift_56 rfl rfl rfl ?_
            refine ro_aload (pc' := 61) dX0_shift_59 rfl rfl ?_
            obtain ⟨v13, σ14, hv13, h⟩ := ah_bs2 h
            refine ro_callS (pc' := 64) (As := [va_rf v8]) (rest := [.int v11]) (st' := [.int v13, .int v11]) q476 (M_X0_sortOf hv13) q475 q477 q95 dd_X0_sortOf rfl ⟨Nat.le_of_ble_eq_true rfl, Nat.le_of_ble_eq_true rfl⟩ (Nat.le_of_ble_eq_true rfl) dX0_shift_61 rfl rfl rfl ?_
            refine ro_icmp_eq (pc' := 67) (tgt := 70) dX0_shift_64 rfl rfl (fun c => ?_) (fun c => ?_)
            · replace h := ah_ip c h
              refine ro_iload (pc' := 72) dX0_shift_70 rfl rfl ?_
              refine ro_if_lt (pc' := 75) (tgt := 109) dX0_shift_72 rfl rfl (fun c => ?_) (fun c => ?_)
              · replace h := ah_ip c h
                refine ro_bipush (pc' := 111) dX0_shift_109 ib_m13 rfl ?_
                obtain rfl := Option.some.inj h
                exact ro_iret hκ dX0_shift_111
              · replace h := ah_in_ c h
                refine ro_iload_n (pc' := 76) dX0_shift_75 rfl rfl rfl ?_
                refine ro_if_lt (pc' := 79) (tgt := 109) dX0_shift_76 rfl rfl (fun c => ?_) (fun c => ?_)
                · replace h := ah_ip c h
                  refine ro_bipush (pc' := 111) dX0_shift_109 ib_m13 rfl ?_
                  obtain rfl := Option.some.inj h
                  exact ro_iret hκ dX0_shift_111
                · replace h := ah_in_ c h
                  refine ro_iload (pc' := 81) dX0_shift_79 rfl rfl ?_
                  refine ro_if_lt (pc' := 84) (tgt := 109) dX0_shift_81 rfl rfl (fun c => ?_) (fun c => ?_)
                  · replace h := ah_ip c h
                    refine ro_bipush (pc' := 111) dX0_shift_109 ib_m13 rfl ?_
                    obtain rfl := Option.some.inj h
                    exact ro_iret hκ dX0_shift_111
                  · replace h := ah_in_ c h
                    refine ro_iload_n (pc' := 85) dX0_shift_84 rfl rfl rfl ?_
                    refine ro_aload (pc' := 87) dX0_shift_85 rfl rfl ?_
                    obtain ⟨v15, σ16, hv15, h⟩ := ah_bs2 h
                    refine ro_callS (pc' := 90) (As := [va_rf v6]) (rest := [.int x2]) (st' := [.int v15, .int x2]) q1223 (M_X0_sizeOf hv15) q1222 q1224 q95 dd_X0_sizeOf rfl ⟨Nat.le_of_ble_eq_true rfl, Nat.le_of_ble_eq_true rfl⟩ (Nat.le_of_ble_eq_true rfl) dX0_shift_87 rfl rfl rfl ?_
                    refine ro_iload (pc' := 92) dX0_shift_90 rfl rfl ?_
                    refine ro_isub (pc' := 93) dX0_shift_92 rfl ?_
                    refine ro_icmp_gt (pc' := 96) (tgt := 109) dX0_shift_93 rfl rfl (fun c => ?_) (fun c => ?_)
                    · replace h := ah_ip c h
                      refine ro_bipush (pc' := 111) dX0_shift_109 ib_m13 rfl ?_
                      obtain rfl := Option.some.inj h
                      exact ro_iret hκ dX0_shift_111
                    · replace h := ah_in_ c h
                      refine ro_iload (pc' := 98) dX0_shift_96 rfl rfl ?_
                      refine ro_aload (pc' := 100) dX0_shift_98 rfl rfl ?_
                      obtain ⟨v17, σ18, hv17, h⟩ := ah_bs2 h
                      refine ro_callS (pc' := 103) (As := [va_rf v8]) (rest := [.int x4]) (st' := [.int v17, .int x4]) q1223 (M_X0_sizeOf hv17) q1222 q1224 q95 dd_X0_sizeOf rfl ⟨Nat.le_of_ble_eq_true rfl, Nat.le_of_ble_eq_true rfl⟩ (Nat.le_of_ble_eq_true rfl) dX0_shift_100 rfl rfl rfl ?_
                      refine ro_iload (pc' := 105) dX0_shift_103 rfl rfl ?_
                      refine ro_isub (pc' := 106) dX0_shift_105 rfl ?_
                      refine ro_icmp_le (pc' := 109) (tgt := 112) dX0_shift_106 rfl rfl (fun c => ?_) (fun c => ?_)
                      · replace h := ah_ip c h
                        refine ro_aload (pc' := 114) dX0_shift_112 rfl rfl ?_
                        refine ro_iload_n (pc' := 115) dX0_shift_114 rfl rfl rfl ?_
                        refine ro_aload (pc' := 117) dX0_shift_115 rfl rfl ?_
                        refine ro_iload (pc' := 119) dX0_shift_117 rfl rfl ?_
                        refine ro_iload (pc' := 121) dX0_shift_119 rfl rfl ?_
                        obtain ⟨σ19, hσ19, h⟩ := ah_bs h
                        refine ro_copy (pc' := 124) q783 q674 q673 q113 (Nat.le_of_ble_eq_true rfl) (Nat.le_of_ble_eq_true rfl) dX0_shift_121 rfl hσ19 ?_
                        refine ro_iload (pc' := 126) dX0_shift_124 rfl rfl ?_
                        obtain rfl := Option.some.inj h
                        exact ro_iret hκ dX0_shift_126
                      · replace h := ah_in_ c h
                        refine ro_bipush (pc' := 111) dX0_shift_109 ib_m13 rfl ?_
                        obtain rfl := Option.some.inj h
                        exact ro_iret hκ dX0_shift_111
            · replace h := ah_in_ c h
              refine ro_bipush (pc' := 69) dX0_shift_67 ib_m12 rfl ?_
              obtain rfl := Option.some.inj h
              exact ro_iret hκ dX0_shift_69
        · replace h := ah_ip c h
          refine ro_bipush (pc' := 44) dX0_shift_42 ib_m11 rfl ?_
          obtain rfl := Option.some.inj h
          exact ro_iret hκ dX0_shift_44
    · replace h := ah_ip c h
      refine ro_iconst (pc' := 15) dX0_shift_14 ic_m1 rfl ?_
      obtain rfl := Option.some.inj h
      exact ro_iret hκ dX0_shift_15
theorem M_X0_shift {l : Launch} {D : ah_D}  {σ : ah_S} {r0 : Option Nat} {x1 : Int32} {x2 : Int32} {x3 : Int32} {x4 : Int32} {x5 : Int32} {v : Int32} {σ1 : ah_S} (h : F_X0_shift σ r0 x1 x2 x3 x4 x5 = some (v, σ1)) : ah_Met l yX0_shift (Cond.code yX0_shift cX0_shift 8 (some FieldType.int)) 3 80 D [va_rf r0, .int x1, .int x2, .int x3, .int x4, .int x5] σ (.returned (some (.int v)), σ1) :=
  ah_ofG (own := "LeftAsFound") (nm := "shift") (L0 := [some (va_rf r0), some (.int x1), some (.int x2), some (.int x3), some (.int x4), some (.int x5), none, none]) (by decide) rfl rfl rfl (ah_ao_1 (ah_rf_cat _) (ah_ao_1 rfl (ah_ao_1 rfl (ah_ao_1 rfl (ah_ao_1 rfl (ah_ao_1 rfl (ah_ao_n (ah_ao_n ah_ao_0)))))))) (fun κ hκ => W_X0_shift hκ  σ r0 x1 x2 x3 x4 x5 h)
set_option maxRecDepth 20000 in
set_option maxHeartbeats 4000000 in
theorem W_X0_take {κ : ah_C} {rr : (Int32 × ah_S)} (hκ : ah_res κ = (.returned (some (.int rr.1)), rr.2))  (σ : ah_S) (r0 : Option Nat) (x1 : Int32) (h : F_X0_take σ r0 x1 = some rr) : ah_G κ ("LeftAsFound", "take", 2, (some FieldType.boolean), [], 2, 44) cX0_take σ 0 [some (va_rf r0), some (.int x1)] [] := by
  unfold F_X0_take at h
  refine ro_aload_n (pc' := 1) dX0_take_0 rfl rfl rfl ?_
  obtain ⟨u1, hu1, h⟩ := ah_bs h
  obtain ⟨v2, σ3, hv2, h⟩ := ah_bs2 h
  refine ro_callV (pc' := 4) (As := []) (rest := []) (st' := [.int v2]) (by decide) hu1 q579 sl_X0_peek (M_X0_peek hv2) q577 q580 q95 dd_X0_peek rfl ⟨Nat.le_of_ble_eq_true rfl, Nat.le_of_ble_eq_true rfl⟩ (Nat.le_of_ble_eq_true rfl) dX0_take_1 rfl rfl rfl ?_
  refine ro_iload_n (pc' := 5) dX0_take_4 rfl rfl rfl ?_
  refine ro_icmp_eq (pc' := 8) (tgt := 10) dX0_take_5 rfl rfl (fun c => ?_) (fun c => ?_)
  · replace h := ah_ip c h
    refine ro_aload_n (pc' := 11) dX0_take_10 rfl rfl rfl ?_
    refine ro_dup (pc' := 12) dX0_take_11 (ah_rf_cat _) rfl ?_
    obtain ⟨v4, hv4, h⟩ := ah_bs h
    refine ro_getI (pc' := 15) ft_6 fk_6 q296 dX0_take_12 rfl hv4 ?_
    refine ro_iconst (pc' := 16) dX0_take_15 ic_1 rfl ?_
    refine ro_iadd (pc' := 17) dX0_take_16 rfl ?_
    obtain ⟨σ5, hσ5, h⟩ := ah_bs h
    refine ro_putI (pc' := 20) ft_6 fk_6 q296 pd_6 dX0_take_17 rfl hσ5 ?_
    refine ro_iconst (pc' := 21) dX0_take_20 ic_1 rfl ?_
    obtain rfl := Option.some.inj h
    exact ro_zret rfl hκ dX0_take_21
  · replace h := ah_in_ c h
    refine ro_iconst (pc' := 9) dX0_take_8 ic_0 rfl ?_
    obtain rfl := Option.some.inj h
    exact ro_zret rfl hκ dX0_take_9
theorem M_X0_take {l : Launch} {D : ah_D}  {σ : ah_S} {r0 : Option Nat} {x1 : Int32} {v : Int32} {σ1 : ah_S} (h : F_X0_take σ r0 x1 = some (v, σ1)) : ah_Met l yX0_take (Cond.code yX0_take cX0_take 2 (some FieldType.boolean)) 2 44 D [va_rf r0, .int x1] σ (.returned (some (.int v)), σ1) :=
  ah_ofG (own := "LeftAsFound") (nm := "take") (L0 := [some (va_rf r0), some (.int x1)]) (by decide) rfl rfl rfl (ah_ao_1 (ah_rf_cat _) (ah_ao_1 rfl ah_ao_0)) (fun κ hκ => W_X0_take hκ  σ r0 x1 h)
set_option maxRecDepth 20000 in
set_option maxHeartbeats 4000000 in
theorem W_X0_takeRow_13 {κ : ah_C} {rr : ah_S} (hκ : ah_res κ = (.returned none, rr))    : ∀ (n : Nat) (σ : ah_S) (r0 : Option Nat) (r1 : Option Nat) (x2 : Int32), F_X0_takeRow_13 n σ r0 r1 x2 = some rr → ah_G κ ("LeftAsFound", "takeRow", 3, none, [], 3, 71) cX0_takeRow σ 13 [some (va_rf r0), some (va_rf r1), some (.int x2)] [] := by
  intro n
  induction n with
  | zero => intro σ r0 r1 x2 h; cases h
  | succ n ih =>
    intro σ r0 r1 x2 h
    rw [F_X0_takeRow_13] at h
    refine ro_iload_n (pc' := 14) dX0_takeRow_13 rfl rfl rfl ?_
    refine ro_aload_n (pc' := 15) dX0_takeRow_14 rfl rfl rfl ?_
    obtain ⟨v1, hv1, h⟩ := ah_bs h
    refine ro_getI (pc' := 18) ft_21 fk_21 q315 dX0_takeRow_15 rfl hv1 ?_
    refine ro_icmp_ge (pc' := 21) (tgt := 51) dX0_takeRow_18 rfl rfl (fun c => ?_) (fun c => ?_)
    · replace h := ah_ip c h
      obtain rfl := Option.some.inj h
      exact ro_vret hκ dX0_takeRow_51
    · replace h := ah_in_ c h
      refine ro_aload_n (pc' := 22) dX0_takeRow_21 rfl rfl rfl ?_
      obtain ⟨v2, hv2, h⟩ := ah_bs h
      refine ro_getR (pc' := 25) ft_20 fk_20 q314 dX0_takeRow_22 rfl hv2 ?_
      refine ro_iload_n (pc' := 26) dX0_takeRow_25 rfl rfl rfl ?_
      refine ro_aload_n (pc' := 27) dX0_takeRow_26 rfl rfl rfl ?_
      refine ro_aload_n (pc' := 28) dX0_takeRow_27 rfl rfl rfl ?_
      refine ro_iload_n (pc' := 29) dX0_takeRow_28 rfl rfl rfl ?_
      obtain ⟨v3, hv3, h⟩ := ah_bs h
      refine ro_baload (pc' := 30) dX0_takeRow_29 rfl hv3 ?_
      refine ro_i2l (pc' := 31) dX0_takeRow_30 rfl ?_
      obtain ⟨u4, hu4, h⟩ := ah_bs h
      obtain ⟨v5, σ6, hv5, h⟩ := ah_bs2 h
      refine ro_callV (pc' := 34) (As := [.long (v3.toInt64)]) (rest := [.int x2, va_rf v2]) (st' := [.int v5, .int x2, va_rf v2]) (by decide) hu4 q505 sl_X0_isGuest (M_X0_isGuest hv5) q503 q506 q95 dd_X0_isGuest rfl ⟨Nat.le_of_ble_eq_true rfl, Nat.le_of_ble_eq_true rfl⟩ (by simp only [List.map_cons, List.map_nil, List.sum_cons, List.sum_nil, ah_rf_cat, ah_cat_i, ah_cat_l]; decide) dX0_takeRow_31 rfl rfl rfl ?_
      refine ro_if_eq (pc' := 37) (tgt := 43) dX0_takeRow_34 rfl rfl (fun c => ?_) (fun c => ?_)
      · replace h := ah_ip c h
        refine ro_iconst (pc' := 44) dX0_takeRow_43 ic_m1 rfl ?_
        obtain ⟨σ7, hσ7, h⟩ := ah_bs h
        refine ro_iastore (pc' := 45) dX0_takeRow_44 rfl hσ7 ?_
        refine ro_iinc (pc' := 48) (L' := [some (va_rf r0), some (va_rf r1), some (.int (x2 + (1 : Int32)))]) dX0_takeRow_45 rfl ic_1 (Nat.le_of_ble_eq_true rfl) rfl (ah_okp_r _) rfl ?_
        refine ro_goto (tgt := 13) dX0_takeRow_48 rfl ?_
        exact ih _ _ _ _ h
      · replace h := ah_in_ c h
        refine ro_aload_n (pc' := 38) dX0_takeRow_37 rfl rfl rfl ?_
        refine ro_iload_n (pc' := 39) dX0_takeRow_38 rfl rfl rfl ?_
        obtain ⟨v8, hv8, h⟩ := ah_bs h
        refine ro_baload (pc' := 40) dX0_takeRow_39 rfl hv8 ?_
        refine ro_goto (tgt := 44) dX0_takeRow_40 rfl ?_
        obtain ⟨σ9, hσ9, h⟩ := ah_bs h
        refine ro_iastore (pc' := 45) dX0_takeRow_44 rfl hσ9 ?_
        refine ro_iinc (pc' := 48) (L' := [some (va_rf r0), some (va_rf r1), some (.int (x2 + (1 : Int32)))]) dX0_takeRow_45 rfl ic_1 (Nat.le_of_ble_eq_true rfl) rfl (ah_okp_r _) rfl ?_
        refine ro_goto (tgt := 13) dX0_takeRow_48 rfl ?_
        exact ih _ _ _ _ h
set_option maxRecDepth 20000 in
set_option maxHeartbeats 4000000 in
theorem W_X0_takeRow {κ : ah_C} {rr : ah_S} (hκ : ah_res κ = (.returned none, rr))  (σ : ah_S) (r0 : Option Nat) (r1 : Option Nat) (h : F_X0_takeRow σ r0 r1 = some rr) : ah_G κ ("LeftAsFound", "takeRow", 3, none, [], 3, 71) cX0_takeRow σ 0 [some (va_rf r0), some (va_rf r1), none] [] := by
  unfold F_X0_takeRow at h
  refine ro_aload_n (pc' := 1) dX0_takeRow_0 rfl rfl rfl ?_
  refine ro_bipush (pc' := 3) dX0_takeRow_1 ib_30 rfl ?_
  refine ro_aload_n (pc' := 4) dX0_takeRow_3 rfl rfl rfl ?_
  obtain ⟨v1, hv1, h⟩ := ah_bs h
  refine ro_alen (pc' := 5) dX0_takeRow_4 rfl hv1 ?_
  refine ro_mmin (pc' := 8) q665 (Nat.le_of_ble_eq_true rfl) (by simp only [List.map_cons, List.map_nil, List.sum_cons, List.sum_nil, ah_rf_cat, ah_cat_i, ah_cat_l]; decide) dX0_takeRow_5 rfl ?_
  obtain ⟨σ2, hσ2, h⟩ := ah_bs h
  refine ro_putI (pc' := 11) ft_21 fk_21 q315 pd_21 dX0_takeRow_8 rfl hσ2 ?_
  refine ro_iconst (pc' := 12) dX0_takeRow_11 ic_0 rfl ?_
  refine ro_istore_n (pc' := 13) (L' := [some (va_rf r0), some (va_rf r1), some (.int (0 : Int32))]) dX0_takeRow_12 rfl (Nat.le_of_ble_eq_true rfl) rfl (ah_okp_r _) rfl ?_
  exact W_X0_takeRow_13 hκ _ _ _ _ _ h
theorem M_X0_takeRow {l : Launch} {D : ah_D}  {σ : ah_S} {r0 : Option Nat} {r1 : Option Nat} {σ1 : ah_S} (h : F_X0_takeRow σ r0 r1 = some σ1) : ah_Met l yX0_takeRow (Cond.code yX0_takeRow cX0_takeRow 3 none) 3 71 D [va_rf r0, va_rf r1] σ (.returned none, σ1) :=
  ah_ofG (own := "LeftAsFound") (nm := "takeRow") (L0 := [some (va_rf r0), some (va_rf r1), none]) (by decide) rfl rfl rfl (ah_ao_1 (ah_rf_cat _) (ah_ao_1 (ah_rf_cat _) (ah_ao_n ah_ao_0))) (fun κ hκ => W_X0_takeRow hκ  σ r0 r1 h)
set_option maxRecDepth 20000 in
set_option maxHeartbeats 4000000 in
theorem W_X0_takes1Row {κ : ah_C} {rr : (Int32 × ah_S)} (hκ : ah_res κ = (.returned (some (.int rr.1)), rr.2))  (σ : ah_S) (r0 : Option Nat) (x1 : Int32) (h : F_X0_takes1Row σ r0 x1 = some rr) : ah_G κ ("LeftAsFound", "takes1Row", 3, (some FieldType.int), [], 4, 93) cX0_takes1Row σ 0 [some (va_rf r0), some (.int x1), none] [] := by
  unfold F_X0_takes1Row at h
  refine ro_aload_n (pc' := 1) dX0_takes1Row_0 rfl rfl rfl ?_
  refine ro_iload_n (pc' := 2) dX0_takes1Row_1 rfl rfl rfl ?_
  obtain ⟨u1, hu1, h⟩ := ah_bs h
  obtain ⟨v2, σ3, hv2, h⟩ := ah_bs2 h
  refine ro_callV (pc' := 5) (As := [.int x1]) (rest := []) (st' := [.int v2]) (by decide) hu1 q659 sl_X0_lookAt (M_X0_lookAt hv2) q657 q660 q95 dd_X0_lookAt rfl ⟨Nat.le_of_ble_eq_true rfl, Nat.le_of_ble_eq_true rfl⟩ (Nat.le_of_ble_eq_true rfl) dX0_takes1Row_2 rfl rfl rfl ?_
  refine ro_istore_n (pc' := 6) (L' := [some (va_rf r0), some (.int x1), some (.int v2)]) dX0_takes1Row_5 rfl (Nat.le_of_ble_eq_true rfl) rfl (ah_okp_i _) rfl ?_
  refine ro_iload_n (pc' := 7) dX0_takes1Row_6 rfl rfl rfl ?_
  refine ro_if_ne (pc' := 10) (tgt := 23) dX0_takes1Row_7 rfl rfl (fun c => ?_) (fun c => ?_)
  · replace h := ah_in_ c h
    refine ro_iload_n (pc' := 24) dX0_takes1Row_23 rfl rfl rfl ?_
    obtain rfl := Option.some.inj h
    exact ro_iret hκ dX0_takes1Row_24
  · replace h := ah_ip c h
    refine ro_aload_n (pc' := 11) dX0_takes1Row_10 rfl rfl rfl ?_
    refine ro_aload_n (pc' := 12) dX0_takes1Row_11 rfl rfl rfl ?_
    obtain ⟨v4, hv4, h⟩ := ah_bs h
    refine ro_getR (pc' := 15) ft_41 fk_41 q337 dX0_takes1Row_12 rfl hv4 ?_
    refine ro_iload_n (pc' := 16) dX0_takes1Row_15 rfl rfl rfl ?_
    obtain ⟨v5, hv5, h⟩ := ah_bs h
    refine ro_aaload (pc' := 17) (by decide) (by decide) rfl dX0_takes1Row_16 rfl hv5 ?_
    obtain ⟨u6, hu6, h⟩ := ah_bs h
    refine ro_castA (pc' := 20) (t := 102) (by decide) q478 dX0_takes1Row_17 rfl hu6 ?_
    obtain ⟨u7, hu7, h⟩ := ah_bs h
    obtain ⟨σ8, hσ8, h⟩ := ah_bs h
    refine ro_callV (pc' := 23) (As := [va_rf v5]) (rest := []) (st' := []) (by decide) hu7 q663 sl_X0_takeRow (M_X0_takeRow hσ8) q661 q664 q95 dd_X0_takeRow rfl ⟨Nat.le_of_ble_eq_true rfl, Nat.le_of_ble_eq_true rfl⟩ (Nat.le_of_ble_eq_true rfl) dX0_takes1Row_20 rfl rfl rfl ?_
    refine ro_iload_n (pc' := 24) dX0_takes1Row_23 rfl rfl rfl ?_
    obtain rfl := Option.some.inj h
    exact ro_iret hκ dX0_takes1Row_24
theorem M_X0_takes1Row {l : Launch} {D : ah_D}  {σ : ah_S} {r0 : Option Nat} {x1 : Int32} {v : Int32} {σ1 : ah_S} (h : F_X0_takes1Row σ r0 x1 = some (v, σ1)) : ah_Met l yX0_takes1Row (Cond.code yX0_takes1Row cX0_takes1Row 3 (some FieldType.int)) 4 93 D [va_rf r0, .int x1] σ (.returned (some (.int v)), σ1) :=
  ah_ofG (own := "LeftAsFound") (nm := "takes1Row") (L0 := [some (va_rf r0), some (.int x1), none]) (by decide) rfl rfl rfl (ah_ao_1 (ah_rf_cat _) (ah_ao_1 rfl (ah_ao_n ah_ao_0))) (fun κ hκ => W_X0_takes1Row hκ  σ r0 x1 h)
set_option maxRecDepth 20000 in
set_option maxHeartbeats 4000000 in
theorem W_X0_trace {κ : ah_C} {rr : (Int32 × ah_S)} (hκ : ah_res κ = (.returned (some (.int rr.1)), rr.2))  (σ : ah_S) (r0 : Option Nat) (x1 : Int32) (h : F_X0_trace σ r0 x1 = some rr) : ah_G κ ("LeftAsFound", "trace", 2, (some FieldType.int), [], 2, 49) cX0_trace σ 0 [some (va_rf r0), some (.int x1)] [] := by
  unfold F_X0_trace at h
  refine ro_iload_n (pc' := 1) dX0_trace_0 rfl rfl rfl ?_
  refine ro_i2l (pc' := 2) dX0_trace_1 rfl ?_
  refine ro_lconst (pc' := 3) dX0_trace_2 lc_0 rfl ?_
  refine ro_aload_n (pc' := 4) dX0_trace_3 rfl rfl rfl ?_
  obtain ⟨v1, hv1, h⟩ := ah_bs h
  refine ro_getI (pc' := 7) ft_40 fk_40 q336 dX0_trace_4 rfl hv1 ?_
  refine ro_bipush (pc' := 9) dX0_trace_7 ib_24 rfl ?_
  refine ro_mmin (pc' := 12) q665 (Nat.le_of_ble_eq_true rfl) (Nat.le_of_ble_eq_true rfl) dX0_trace_9 rfl ?_
  refine ro_iconst (pc' := 13) dX0_trace_12 ic_1 rfl ?_
  refine ro_isub (pc' := 14) dX0_trace_13 rfl ?_
  refine ro_i2l (pc' := 15) dX0_trace_14 rfl ?_
  obtain ⟨v2, σ3, hv2, h⟩ := ah_bs2 h
  refine ro_callS (pc' := 18) (As := [.long (x1.toInt64), .long (0 : Int64), .long (((if (24 : Int32) < v1 then (24 : Int32) else v1) - (1 : Int32)).toInt64)]) (rest := []) (st' := [.int v2]) q429 (M_X0_within hv2) q428 q430 q95 dd_X0_within rfl ⟨Nat.le_of_ble_eq_true rfl, Nat.le_of_ble_eq_true rfl⟩ (Nat.le_of_ble_eq_true rfl) dX0_trace_15 rfl rfl rfl ?_
  refine ro_if_eq (pc' := 21) (tgt := 30) dX0_trace_18 rfl rfl (fun c => ?_) (fun c => ?_)
  · replace h := ah_ip c h
    refine ro_iconst (pc' := 31) dX0_trace_30 ic_m1 rfl ?_
    obtain rfl := Option.some.inj h
    exact ro_iret hκ dX0_trace_31
  · replace h := ah_in_ c h
    refine ro_aload_n (pc' := 22) dX0_trace_21 rfl rfl rfl ?_
    obtain ⟨v4, hv4, h⟩ := ah_bs h
    refine ro_getR (pc' := 25) ft_39 fk_39 q334 dX0_trace_22 rfl hv4 ?_
    refine ro_iload_n (pc' := 26) dX0_trace_25 rfl rfl rfl ?_
    obtain ⟨v5, hv5, h⟩ := ah_bs h
    refine ro_iaload (pc' := 27) dX0_trace_26 rfl hv5 ?_
    refine ro_goto (tgt := 31) dX0_trace_27 rfl ?_
    obtain rfl := Option.some.inj h
    exact ro_iret hκ dX0_trace_31
theorem M_X0_trace {l : Launch} {D : ah_D}  {σ : ah_S} {r0 : Option Nat} {x1 : Int32} {v : Int32} {σ1 : ah_S} (h : F_X0_trace σ r0 x1 = some (v, σ1)) : ah_Met l yX0_trace (Cond.code yX0_trace cX0_trace 2 (some FieldType.int)) 2 49 D [va_rf r0, .int x1] σ (.returned (some (.int v)), σ1) :=
  ah_ofG (own := "LeftAsFound") (nm := "trace") (L0 := [some (va_rf r0), some (.int x1)]) (by decide) rfl rfl rfl (ah_ao_1 (ah_rf_cat _) (ah_ao_1 rfl ah_ao_0)) (fun κ hκ => W_X0_trace hκ  σ r0 x1 h)
set_option maxRecDepth 20000 in
set_option maxHeartbeats 4000000 in
theorem W_X0_undo {κ : ah_C} {rr : (Int32 × ah_S)} (hκ : ah_res κ = (.returned (some (.int rr.1)), rr.2))  (σ : ah_S) (r0 : Option Nat) (h : F_X0_undo σ r0 = some rr) : ah_G κ ("LeftAsFound", "undo", 1, (some FieldType.int), [], 1, 24) cX0_undo σ 0 [some (va_rf r0)] [] := by
  unfold F_X0_undo at h
  refine ro_aload_n (pc' := 1) dX0_undo_0 rfl rfl rfl ?_
  obtain ⟨v1, hv1, h⟩ := ah_bs h
  refine ro_getI (pc' := 4) ft_2 fk_2 q292 dX0_undo_1 rfl hv1 ?_
  refine ro_if_ne (pc' := 7) (tgt := 10) dX0_undo_4 rfl rfl (fun c => ?_) (fun c => ?_)
  · replace h := ah_in_ c h
    refine ro_aload_n (pc' := 11) dX0_undo_10 rfl rfl rfl ?_
    refine ro_dup (pc' := 12) dX0_undo_11 (ah_rf_cat _) rfl ?_
    obtain ⟨v2, hv2, h⟩ := ah_bs h
    refine ro_getI (pc' := 15) ft_2 fk_2 q292 dX0_undo_12 rfl hv2 ?_
    refine ro_iconst (pc' := 16) dX0_undo_15 ic_1 rfl ?_
    refine ro_isub (pc' := 17) dX0_undo_16 rfl ?_
    obtain ⟨σ3, hσ3, h⟩ := ah_bs h
    refine ro_putI (pc' := 20) ft_2 fk_2 q292 pd_2 dX0_undo_17 rfl hσ3 ?_
    refine ro_aload_n (pc' := 21) dX0_undo_20 rfl rfl rfl ?_
    obtain ⟨v4, hv4, h⟩ := ah_bs h
    refine ro_getR (pc' := 24) ft_0 fk_0 q290 dX0_undo_21 rfl hv4 ?_
    refine ro_aload_n (pc' := 25) dX0_undo_24 rfl rfl rfl ?_
    obtain ⟨v5, hv5, h⟩ := ah_bs h
    refine ro_getI (pc' := 28) ft_2 fk_2 q292 dX0_undo_25 rfl hv5 ?_
    obtain ⟨v6, hv6, h⟩ := ah_bs h
    refine ro_aaload (pc' := 29) (by decide) (by decide) rfl dX0_undo_28 rfl hv6 ?_
    obtain ⟨v7, hv7, h⟩ := ah_bs h
    refine ro_getRN (pc' := 32) ft_500 fk_500 nq280 dX0_undo_29 rfl hv7 ?_
    refine ro_aload_n (pc' := 33) dX0_undo_32 rfl rfl rfl ?_
    obtain ⟨v8, hv8, h⟩ := ah_bs h
    refine ro_getR (pc' := 36) ft_0 fk_0 q290 dX0_undo_33 rfl hv8 ?_
    refine ro_aload_n (pc' := 37) dX0_undo_36 rfl rfl rfl ?_
    obtain ⟨v9, hv9, h⟩ := ah_bs h
    refine ro_getI (pc' := 40) ft_2 fk_2 q292 dX0_undo_37 rfl hv9 ?_
    obtain ⟨v10, hv10, h⟩ := ah_bs h
    refine ro_aaload (pc' := 41) (by decide) (by decide) rfl dX0_undo_40 rfl hv10 ?_
    obtain ⟨v11, hv11, h⟩ := ah_bs h
    refine ro_getIN (pc' := 44) ft_501 fk_501 nq281 dX0_undo_41 rfl hv11 ?_
    obtain ⟨σ12, hσ12, h⟩ := ah_bs h
    refine ro_putIN (pc' := 47) ft_200 fk_200 nq219 pd_200 dX0_undo_44 rfl hσ12 ?_
    refine ro_aload_n (pc' := 48) dX0_undo_47 rfl rfl rfl ?_
    obtain ⟨v13, hv13, h⟩ := ah_bs h
    refine ro_getI (pc' := 51) ft_2 fk_2 q292 dX0_undo_48 rfl hv13 ?_
    obtain rfl := Option.some.inj h
    exact ro_iret hκ dX0_undo_51
  · replace h := ah_ip c h
    refine ro_bipush (pc' := 9) dX0_undo_7 ib_m5 rfl ?_
    obtain rfl := Option.some.inj h
    exact ro_iret hκ dX0_undo_9
theorem M_X0_undo {l : Launch} {D : ah_D}  {σ : ah_S} {r0 : Option Nat} {v : Int32} {σ1 : ah_S} (h : F_X0_undo σ r0 = some (v, σ1)) : ah_Met l yX0_undo (Cond.code yX0_undo cX0_undo 1 (some FieldType.int)) 1 24 D [va_rf r0] σ (.returned (some (.int v)), σ1) :=
  ah_ofG (own := "LeftAsFound") (nm := "undo") (L0 := [some (va_rf r0)]) (by decide) rfl rfl rfl (ah_ao_1 (ah_rf_cat _) ah_ao_0) (fun κ hκ => W_X0_undo hκ  σ r0 h)
set_option maxRecDepth 20000 in
set_option maxHeartbeats 4000000 in
theorem W_X9_init {κ : ah_C} {rr : ah_S} (hκ : ah_res κ = (.returned none, rr))  (σ : ah_S) (r0 : Option Nat) (h : F_X9_init σ r0 = some rr) : ah_G κ ("LeftAsFound$Term", "<init>", 1, none, [], 1, 24) cX9_init σ 0 [some (va_rf r0)] [] := by
  unfold F_X9_init at h
  refine ro_aload_n (pc' := 1) dX9_init_0 rfl rfl rfl ?_
  obtain ⟨a1, ha1, h⟩ := ah_bs h
  refine ro_objInit (pc' := 4) ha1 q591 q136 q137 (Nat.le_of_ble_eq_true rfl) (Nat.le_of_ble_eq_true rfl) dX9_init_1 rfl ?_
  obtain rfl := Option.some.inj h
  exact ro_vret hκ dX9_init_4
theorem M_X9_init {l : Launch} {D : ah_D}  {σ : ah_S} {r0 : Option Nat} {σ1 : ah_S} (h : F_X9_init σ r0 = some σ1) : ah_Met l yX9_init (Cond.code yX9_init cX9_init 1 none) 1 24 D [va_rf r0] σ (.returned none, σ1) :=
  ah_ofG (own := "LeftAsFound$Term") (nm := "<init>") (L0 := [some (va_rf r0)]) (by decide) rfl rfl rfl (ah_ao_1 (ah_rf_cat _) ah_ao_0) (fun κ hκ => W_X9_init hκ  σ r0 h)
set_option maxRecDepth 20000 in
set_option maxHeartbeats 4000000 in
theorem W_X10_init {κ : ah_C} {rr : ah_S} (hκ : ah_res κ = (.returned none, rr))  (σ : ah_S) (r0 : Option Nat) (x1 : Int32) (h : F_X10_init σ r0 x1 = some rr) : ah_G κ ("LeftAsFound$Figure", "<init>", 2, none, [], 2, 44) cX10_init σ 0 [some (va_rf r0), some (.int x1)] [] := by
  unfold F_X10_init at h
  refine ro_aload_n (pc' := 1) dX10_init_0 rfl rfl rfl ?_
  obtain ⟨a1, ha1, h⟩ := ah_bs h
  obtain ⟨σ2, hσ2, h⟩ := ah_bs h
  refine ro_callIN (pc' := 4) (As := []) (rest := []) (st' := []) ha1 q589 rfl (M_X9_init hσ2) nq588 q590 q107 dd_X9_init rfl ⟨Nat.le_of_ble_eq_true rfl, Nat.le_of_ble_eq_true rfl⟩ (Nat.le_of_ble_eq_true rfl) dX10_init_1 rfl rfl rfl ?_
  refine ro_aload_n (pc' := 5) dX10_init_4 rfl rfl rfl ?_
  refine ro_iload_n (pc' := 6) dX10_init_5 rfl rfl rfl ?_
  obtain ⟨σ3, hσ3, h⟩ := ah_bs h
  refine ro_putIF (pc' := 9) ft_1000 fk_1000 q592 pd_1000 rfl rfl dX10_init_6 rfl hσ3 ?_
  obtain rfl := Option.some.inj h
  exact ro_vret hκ dX10_init_9
theorem M_X10_init {l : Launch} {D : ah_D}  {σ : ah_S} {r0 : Option Nat} {x1 : Int32} {σ1 : ah_S} (h : F_X10_init σ r0 x1 = some σ1) : ah_Met l yX10_init (Cond.code yX10_init cX10_init 2 none) 2 44 D [va_rf r0, .int x1] σ (.returned none, σ1) :=
  ah_ofG (own := "LeftAsFound$Figure") (nm := "<init>") (L0 := [some (va_rf r0), some (.int x1)]) (by decide) rfl rfl rfl (ah_ao_1 (ah_rf_cat _) (ah_ao_1 rfl ah_ao_0)) (fun κ hκ => W_X10_init hκ  σ r0 x1 h)
set_option maxRecDepth 20000 in
set_option maxHeartbeats 4000000 in
theorem W_X11_init {κ : ah_C} {rr : ah_S} (hκ : ah_res κ = (.returned none, rr))  (σ : ah_S) (r0 : Option Nat) (r1 : Option Nat) (x2 : Int32) (h : F_X11_init σ r0 r1 x2 = some rr) : ah_G κ ("LeftAsFound$Named", "<init>", 3, none, [], 2, 44) cX11_init σ 0 [some (va_rf r0), some (va_rf r1), some (.int x2)] [] := by
  unfold F_X11_init at h
  refine ro_aload_n (pc' := 1) dX11_init_0 rfl rfl rfl ?_
  refine ro_aload_n (pc' := 2) dX11_init_1 rfl rfl rfl ?_
  obtain ⟨σ1, hσ1, h⟩ := ah_bs h
  refine ro_putRF (pc' := 5) ft_1101 fk_1101 q606 pd_1101 rfl rfl rfl dX11_init_2 rfl hσ1 ?_
  refine ro_aload_n (pc' := 6) dX11_init_5 rfl rfl rfl ?_
  obtain ⟨a2, ha2, h⟩ := ah_bs h
  obtain ⟨σ3, hσ3, h⟩ := ah_bs h
  refine ro_callIN (pc' := 9) (As := []) (rest := []) (st' := []) ha2 q589 rfl (M_X9_init hσ3) nq604 q590 q107 dd_X9_init rfl ⟨Nat.le_of_ble_eq_true rfl, Nat.le_of_ble_eq_true rfl⟩ (Nat.le_of_ble_eq_true rfl) dX11_init_6 rfl rfl rfl ?_
  refine ro_aload_n (pc' := 10) dX11_init_9 rfl rfl rfl ?_
  refine ro_iload_n (pc' := 11) dX11_init_10 rfl rfl rfl ?_
  obtain ⟨σ4, hσ4, h⟩ := ah_bs h
  refine ro_putIF (pc' := 14) ft_1100 fk_1100 q605 pd_1100 rfl rfl dX11_init_11 rfl hσ4 ?_
  obtain rfl := Option.some.inj h
  exact ro_vret hκ dX11_init_14
theorem M_X11_init {l : Launch} {D : ah_D}  {σ : ah_S} {r0 : Option Nat} {r1 : Option Nat} {x2 : Int32} {σ1 : ah_S} (h : F_X11_init σ r0 r1 x2 = some σ1) : ah_Met l yX11_init (Cond.code yX11_init cX11_init 3 none) 2 44 D [va_rf r0, va_rf r1, .int x2] σ (.returned none, σ1) :=
  ah_ofG (own := "LeftAsFound$Named") (nm := "<init>") (L0 := [some (va_rf r0), some (va_rf r1), some (.int x2)]) (by decide) rfl rfl rfl (ah_ao_1 (ah_rf_cat _) (ah_ao_1 (ah_rf_cat _) (ah_ao_1 rfl ah_ao_0))) (fun κ hκ => W_X11_init hκ  σ r0 r1 x2 h)
set_option maxRecDepth 20000 in
set_option maxHeartbeats 4000000 in
theorem W_X12_init {κ : ah_C} {rr : ah_S} (hκ : ah_res κ = (.returned none, rr))  (σ : ah_S) (r0 : Option Nat) (x1 : Int32) (r2 : Option Nat) (h : F_X12_init σ r0 x1 r2 = some rr) : ah_G κ ("LeftAsFound$Signed", "<init>", 3, none, [], 2, 44) cX12_init σ 0 [some (va_rf r0), some (.int x1), some (va_rf r2)] [] := by
  unfold F_X12_init at h
  refine ro_aload_n (pc' := 1) dX12_init_0 rfl rfl rfl ?_
  obtain ⟨a1, ha1, h⟩ := ah_bs h
  obtain ⟨σ2, hσ2, h⟩ := ah_bs h
  refine ro_callIN (pc' := 4) (As := []) (rest := []) (st' := []) ha1 q589 rfl (M_X9_init hσ2) nq617 q590 q107 dd_X9_init rfl ⟨Nat.le_of_ble_eq_true rfl, Nat.le_of_ble_eq_true rfl⟩ (Nat.le_of_ble_eq_true rfl) dX12_init_1 rfl rfl rfl ?_
  refine ro_aload_n (pc' := 5) dX12_init_4 rfl rfl rfl ?_
  refine ro_iload_n (pc' := 6) dX12_init_5 rfl rfl rfl ?_
  obtain ⟨σ3, hσ3, h⟩ := ah_bs h
  refine ro_putIF (pc' := 9) ft_1200 fk_1200 q618 pd_1200 rfl rfl dX12_init_6 rfl hσ3 ?_
  refine ro_aload_n (pc' := 10) dX12_init_9 rfl rfl rfl ?_
  refine ro_aload_n (pc' := 11) dX12_init_10 rfl rfl rfl ?_
  obtain ⟨σ4, hσ4, h⟩ := ah_bs h
  refine ro_putRF (pc' := 14) ft_1201 fk_1201 q619 pd_1201 rfl rfl rfl dX12_init_11 rfl hσ4 ?_
  obtain rfl := Option.some.inj h
  exact ro_vret hκ dX12_init_14
theorem M_X12_init {l : Launch} {D : ah_D}  {σ : ah_S} {r0 : Option Nat} {x1 : Int32} {r2 : Option Nat} {σ1 : ah_S} (h : F_X12_init σ r0 x1 r2 = some σ1) : ah_Met l yX12_init (Cond.code yX12_init cX12_init 3 none) 2 44 D [va_rf r0, .int x1, va_rf r2] σ (.returned none, σ1) :=
  ah_ofG (own := "LeftAsFound$Signed") (nm := "<init>") (L0 := [some (va_rf r0), some (.int x1), some (va_rf r2)]) (by decide) rfl rfl rfl (ah_ao_1 (ah_rf_cat _) (ah_ao_1 rfl (ah_ao_1 (ah_rf_cat _) ah_ao_0))) (fun κ hκ => W_X12_init hκ  σ r0 x1 r2 h)
set_option maxRecDepth 20000 in
set_option maxHeartbeats 4000000 in
theorem W_X13_init {κ : ah_C} {rr : ah_S} (hκ : ah_res κ = (.returned none, rr))  (σ : ah_S) (r0 : Option Nat) (x1 : Int32) (r2 : Option Nat) (r3 : Option Nat) (h : F_X13_init σ r0 x1 r2 r3 = some rr) : ah_G κ ("LeftAsFound$Both", "<init>", 4, none, [], 2, 44) cX13_init σ 0 [some (va_rf r0), some (.int x1), some (va_rf r2), some (va_rf r3)] [] := by
  unfold F_X13_init at h
  refine ro_aload_n (pc' := 1) dX13_init_0 rfl rfl rfl ?_
  obtain ⟨a1, ha1, h⟩ := ah_bs h
  obtain ⟨σ2, hσ2, h⟩ := ah_bs h
  refine ro_callIN (pc' := 4) (As := []) (rest := []) (st' := []) ha1 q589 rfl (M_X9_init hσ2) nq638 q590 q107 dd_X9_init rfl ⟨Nat.le_of_ble_eq_true rfl, Nat.le_of_ble_eq_true rfl⟩ (Nat.le_of_ble_eq_true rfl) dX13_init_1 rfl rfl rfl ?_
  refine ro_aload_n (pc' := 5) dX13_init_4 rfl rfl rfl ?_
  refine ro_iload_n (pc' := 6) dX13_init_5 rfl rfl rfl ?_
  obtain ⟨σ3, hσ3, h⟩ := ah_bs h
  refine ro_putIF (pc' := 9) ft_1300 fk_1300 q639 pd_1300 rfl rfl dX13_init_6 rfl hσ3 ?_
  refine ro_aload_n (pc' := 10) dX13_init_9 rfl rfl rfl ?_
  refine ro_aload_n (pc' := 11) dX13_init_10 rfl rfl rfl ?_
  obtain ⟨σ4, hσ4, h⟩ := ah_bs h
  refine ro_putRF (pc' := 14) ft_1301 fk_1301 q640 pd_1301 rfl rfl rfl dX13_init_11 rfl hσ4 ?_
  refine ro_aload_n (pc' := 15) dX13_init_14 rfl rfl rfl ?_
  refine ro_aload_n (pc' := 16) dX13_init_15 rfl rfl rfl ?_
  obtain ⟨σ5, hσ5, h⟩ := ah_bs h
  refine ro_putRF (pc' := 19) ft_1302 fk_1302 q641 pd_1302 rfl rfl rfl dX13_init_16 rfl hσ5 ?_
  obtain rfl := Option.some.inj h
  exact ro_vret hκ dX13_init_19
theorem M_X13_init {l : Launch} {D : ah_D}  {σ : ah_S} {r0 : Option Nat} {x1 : Int32} {r2 : Option Nat} {r3 : Option Nat} {σ1 : ah_S} (h : F_X13_init σ r0 x1 r2 r3 = some σ1) : ah_Met l yX13_init (Cond.code yX13_init cX13_init 4 none) 2 44 D [va_rf r0, .int x1, va_rf r2, va_rf r3] σ (.returned none, σ1) :=
  ah_ofG (own := "LeftAsFound$Both") (nm := "<init>") (L0 := [some (va_rf r0), some (.int x1), some (va_rf r2), some (va_rf r3)]) (by decide) rfl rfl rfl (ah_ao_1 (ah_rf_cat _) (ah_ao_1 rfl (ah_ao_1 (ah_rf_cat _) (ah_ao_1 (ah_rf_cat _) ah_ao_0)))) (fun κ hκ => W_X13_init hκ  σ r0 x1 r2 r3 h)
set_option maxRecDepth 20000 in
set_option maxHeartbeats 4000000 in
theorem W_X4_believedBy {κ : ah_C} {rr : (Int32 × ah_S)} (hκ : ah_res κ = (.returned (some (.int rr.1)), rr.2))  (σ : ah_S) (r0 : Option Nat) (x1 : Int32) (x2 : Int32) (h : F_X4_believedBy σ r0 x1 x2 = some rr) : ah_G κ ("LeftAsFound$Hut", "believedBy", 3, (some FieldType.int), [], 1, 24) cX4_believedBy σ 0 [some (va_rf r0), some (.int x1), some (.int x2)] [] := by
  unfold F_X4_believedBy at h
  refine ro_aload_n (pc' := 1) dX4_believedBy_0 rfl rfl rfl ?_
  obtain ⟨v1, hv1, h⟩ := ah_bs h
  refine ro_getR (pc' := 4) ft_406 fk_406 q254 dX4_believedBy_1 rfl hv1 ?_
  obtain ⟨v2, hv2, h⟩ := ah_bs h
  refine ro_getRN (pc' := 7) ft_7 fk_7 nq297 dX4_believedBy_4 rfl hv2 ?_
  refine ro_iload_n (pc' := 8) dX4_believedBy_7 rfl rfl rfl ?_
  obtain ⟨v3, hv3, h⟩ := ah_bs h
  refine ro_aaload (pc' := 9) (by decide) (by decide) rfl dX4_believedBy_8 rfl hv3 ?_
  obtain ⟨v4, hv4, h⟩ := ah_bs h
  refine ro_getRN (pc' := 12) ft_703 fk_703 nq455 dX4_believedBy_9 rfl hv4 ?_
  obtain ⟨v5, hv5, h⟩ := ah_bs h
  refine ro_getIN (pc' := 15) ft_200 fk_200 nq218 dX4_believedBy_12 rfl hv5 ?_
  by_cases c15_0 : v5 = (0 : Int32)
  · replace h := ah_ip c15_0 h
    refine ro_tabIn (tgt := 44) 0 c15_0 dX4_believedBy_15 (by decide) (by decide) rfl rfl ?_
    refine ro_aload_n (pc' := 45) dX4_believedBy_44 rfl rfl rfl ?_
    obtain ⟨v6, hv6, h⟩ := ah_bs h
    refine ro_getR (pc' := 48) ft_402 fk_402 q248 dX4_believedBy_45 rfl hv6 ?_
    refine ro_iconst (pc' := 49) dX4_believedBy_48 ic_4 rfl ?_
    refine ro_iload_n (pc' := 50) dX4_believedBy_49 rfl rfl rfl ?_
    refine ro_imul (pc' := 51) dX4_believedBy_50 rfl ?_
    refine ro_iload_n (pc' := 52) dX4_believedBy_51 rfl rfl rfl ?_
    refine ro_iadd (pc' := 53) dX4_believedBy_52 rfl ?_
    obtain ⟨v7, hv7, h⟩ := ah_bs h
    refine ro_iaload (pc' := 54) dX4_believedBy_53 rfl hv7 ?_
    obtain rfl := Option.some.inj h
    exact ro_iret hκ dX4_believedBy_54
  replace h := ah_in_ c15_0 h
  by_cases c15_1 : v5 = (1 : Int32)
  · replace h := ah_ip c15_1 h
    refine ro_tabIn (tgt := 55) 1 c15_1 dX4_believedBy_15 (by decide) (by decide) rfl rfl ?_
    refine ro_aload_n (pc' := 56) dX4_believedBy_55 rfl rfl rfl ?_
    obtain ⟨v8, hv8, h⟩ := ah_bs h
    refine ro_getR (pc' := 59) ft_401 fk_401 q246 dX4_believedBy_56 rfl hv8 ?_
    refine ro_iload_n (pc' := 60) dX4_believedBy_59 rfl rfl rfl ?_
    obtain ⟨v9, hv9, h⟩ := ah_bs h
    refine ro_iaload (pc' := 61) dX4_believedBy_60 rfl hv9 ?_
    obtain rfl := Option.some.inj h
    exact ro_iret hκ dX4_believedBy_61
  replace h := ah_in_ c15_1 h
  by_cases c15_2 : v5 = (2 : Int32)
  · replace h := ah_ip c15_2 h
    refine ro_tabIn (tgt := 91) 2 c15_2 dX4_believedBy_15 (by decide) (by decide) rfl rfl ?_
    refine ro_aload_n (pc' := 92) dX4_believedBy_91 rfl rfl rfl ?_
    obtain ⟨v10, hv10, h⟩ := ah_bs h
    refine ro_getR (pc' := 95) ft_406 fk_406 q254 dX4_believedBy_92 rfl hv10 ?_
    obtain ⟨v11, hv11, h⟩ := ah_bs h
    refine ro_getRN (pc' := 98) ft_9 fk_9 nq300 dX4_believedBy_95 rfl hv11 ?_
    refine ro_iload_n (pc' := 99) dX4_believedBy_98 rfl rfl rfl ?_
    obtain ⟨v12, hv12, h⟩ := ah_bs h
    refine ro_aaload (pc' := 100) (by decide) (by decide) rfl dX4_believedBy_99 rfl hv12 ?_
    obtain ⟨v13, hv13, h⟩ := ah_bs h
    refine ro_getIN (pc' := 103) ft_200 fk_200 nq218 dX4_believedBy_100 rfl hv13 ?_
    obtain rfl := Option.some.inj h
    exact ro_iret hκ dX4_believedBy_103
  replace h := ah_in_ c15_2 h
  by_cases c15_3 : v5 = (3 : Int32)
  · replace h := ah_ip c15_3 h
    refine ro_tabIn (tgt := 62) 3 c15_3 dX4_believedBy_15 (by decide) (by decide) rfl rfl ?_
    refine ro_aload_n (pc' := 63) dX4_believedBy_62 rfl rfl rfl ?_
    obtain ⟨v14, hv14, h⟩ := ah_bs h
    refine ro_getI (pc' := 66) ft_404 fk_404 q252 dX4_believedBy_63 rfl hv14 ?_
    refine ro_if_eq (pc' := 69) (tgt := 78) dX4_believedBy_66 rfl rfl (fun c => ?_) (fun c => ?_)
    · replace h := ah_ip c h
      refine ro_aload_n (pc' := 79) dX4_believedBy_78 rfl rfl rfl ?_
      obtain ⟨v15, hv15, h⟩ := ah_bs h
      refine ro_getR (pc' := 82) ft_406 fk_406 q254 dX4_believedBy_79 rfl hv15 ?_
      obtain ⟨v16, hv16, h⟩ := ah_bs h
      refine ro_getRN (pc' := 85) ft_9 fk_9 nq300 dX4_believedBy_82 rfl hv16 ?_
      refine ro_iload_n (pc' := 86) dX4_believedBy_85 rfl rfl rfl ?_
      obtain ⟨v17, hv17, h⟩ := ah_bs h
      refine ro_aaload (pc' := 87) (by decide) (by decide) rfl dX4_believedBy_86 rfl hv17 ?_
      obtain ⟨v18, hv18, h⟩ := ah_bs h
      refine ro_getIN (pc' := 90) ft_200 fk_200 nq218 dX4_believedBy_87 rfl hv18 ?_
      obtain rfl := Option.some.inj h
      exact ro_iret hκ dX4_believedBy_90
    · replace h := ah_in_ c h
      refine ro_aload_n (pc' := 70) dX4_believedBy_69 rfl rfl rfl ?_
      obtain ⟨v19, hv19, h⟩ := ah_bs h
      refine ro_getR (pc' := 73) ft_405 fk_405 q253 dX4_believedBy_70 rfl hv19 ?_
      refine ro_iload_n (pc' := 74) dX4_believedBy_73 rfl rfl rfl ?_
      obtain ⟨v20, hv20, h⟩ := ah_bs h
      refine ro_iaload (pc' := 75) dX4_believedBy_74 rfl hv20 ?_
      refine ro_goto (tgt := 90) dX4_believedBy_75 rfl ?_
      obtain rfl := Option.some.inj h
      exact ro_iret hκ dX4_believedBy_90
  replace h := ah_in_ c15_3 h
  refine ro_tabOut (tgt := 91) dX4_believedBy_15 (by have e0 := lv_neT (a := 0) c15_0 (by decide); have e1 := lv_neT (a := 1) c15_1 (by decide); have e2 := lv_neT (a := 2) c15_2 (by decide); have e3 := lv_neT (a := 3) c15_3 (by decide); omega) rfl ?_
  refine ro_aload_n (pc' := 92) dX4_believedBy_91 rfl rfl rfl ?_
  obtain ⟨v21, hv21, h⟩ := ah_bs h
  refine ro_getR (pc' := 95) ft_406 fk_406 q254 dX4_believedBy_92 rfl hv21 ?_
  obtain ⟨v22, hv22, h⟩ := ah_bs h
  refine ro_getRN (pc' := 98) ft_9 fk_9 nq300 dX4_believedBy_95 rfl hv22 ?_
  refine ro_iload_n (pc' := 99) dX4_believedBy_98 rfl rfl rfl ?_
  obtain ⟨v23, hv23, h⟩ := ah_bs h
  refine ro_aaload (pc' := 100) (by decide) (by decide) rfl dX4_believedBy_99 rfl hv23 ?_
  obtain ⟨v24, hv24, h⟩ := ah_bs h
  refine ro_getIN (pc' := 103) ft_200 fk_200 nq218 dX4_believedBy_100 rfl hv24 ?_
  obtain rfl := Option.some.inj h
  exact ro_iret hκ dX4_believedBy_103
theorem M_X4_believedBy {l : Launch} {D : ah_D}  {σ : ah_S} {r0 : Option Nat} {x1 : Int32} {x2 : Int32} {v : Int32} {σ1 : ah_S} (h : F_X4_believedBy σ r0 x1 x2 = some (v, σ1)) : ah_Met l yX4_believedBy (Cond.code yX4_believedBy cX4_believedBy 3 (some FieldType.int)) 1 24 D [va_rf r0, .int x1, .int x2] σ (.returned (some (.int v)), σ1) :=
  ah_ofG (own := "LeftAsFound$Hut") (nm := "believedBy") (L0 := [some (va_rf r0), some (.int x1), some (.int x2)]) (by decide) rfl rfl rfl (ah_ao_1 (ah_rf_cat _) (ah_ao_1 rfl (ah_ao_1 rfl ah_ao_0))) (fun κ hκ => W_X4_believedBy hκ  σ r0 x1 x2 h)
set_option maxRecDepth 20000 in
set_option maxHeartbeats 4000000 in
theorem W_X4_init_40 {κ : ah_C} {rr : ah_S} (hκ : ah_res κ = (.returned none, rr))    : ∀ (n : Nat) (σ : ah_S) (r0 : Option Nat) (x2 : Int32), F_X4_init_40 n σ r0 x2 = some rr → ah_G κ ("LeftAsFound$Hut", "<init>", 3, none, [], 1, 24) cX4_init σ 40 [some (va_rf r0), none, some (.int x2)] [] := by
  intro n
  induction n with
  | zero => intro σ r0 x2 h; cases h
  | succ n ih =>
    intro σ r0 x2 h
    rw [F_X4_init_40] at h
    refine ro_iload_n (pc' := 41) dX4_init_40 rfl rfl rfl ?_
    refine ro_iconst (pc' := 42) dX4_init_41 ic_4 rfl ?_
    refine ro_icmp_ge (pc' := 45) (tgt := 67) dX4_init_42 rfl rfl (fun c => ?_) (fun c => ?_)
    · replace h := ah_ip c h
      obtain rfl := Option.some.inj h
      exact ro_vret hκ dX4_init_67
    · replace h := ah_in_ c h
      refine ro_aload_n (pc' := 46) dX4_init_45 rfl rfl rfl ?_
      obtain ⟨v1, hv1, h⟩ := ah_bs h
      refine ro_getR (pc' := 49) ft_400 fk_400 q244 dX4_init_46 rfl hv1 ?_
      refine ro_iload_n (pc' := 50) dX4_init_49 rfl rfl rfl ?_
      refine ro_bipush (pc' := 52) dX4_init_50 ib_50 rfl ?_
      obtain ⟨σ2, hσ2, h⟩ := ah_bs h
      refine ro_iastore (pc' := 53) dX4_init_52 rfl hσ2 ?_
      refine ro_aload_n (pc' := 54) dX4_init_53 rfl rfl rfl ?_
      obtain ⟨v3, hv3, h⟩ := ah_bs h
      refine ro_getR (pc' := 57) ft_401 fk_401 q246 dX4_init_54 rfl hv3 ?_
      refine ro_iload_n (pc' := 58) dX4_init_57 rfl rfl rfl ?_
      refine ro_bipush (pc' := 60) dX4_init_58 ib_50 rfl ?_
      obtain ⟨σ4, hσ4, h⟩ := ah_bs h
      refine ro_iastore (pc' := 61) dX4_init_60 rfl hσ4 ?_
      refine ro_iinc (pc' := 64) (L' := [some (va_rf r0), none, some (.int (x2 + (1 : Int32)))]) dX4_init_61 rfl ic_1 (Nat.le_of_ble_eq_true rfl) rfl ah_okp_u rfl ?_
      refine ro_goto (tgt := 40) dX4_init_64 rfl ?_
      exact ih _ _ _ h
set_option maxRecDepth 20000 in
set_option maxHeartbeats 4000000 in
theorem W_X4_init {κ : ah_C} {rr : ah_S} (hκ : ah_res κ = (.returned none, rr))  (σ : ah_S) (r0 : Option Nat) (r1 : Option Nat) (h : F_X4_init σ r0 r1 = some rr) : ah_G κ ("LeftAsFound$Hut", "<init>", 3, none, [], 1, 24) cX4_init σ 0 [some (va_rf r0), some (va_rf r1), none] [] := by
  unfold F_X4_init at h
  refine ro_aload_n (pc' := 1) dX4_init_0 rfl rfl rfl ?_
  refine ro_aload_n (pc' := 2) dX4_init_1 rfl rfl rfl ?_
  obtain ⟨σ1, hσ1, h⟩ := ah_bs h
  refine ro_putRF (pc' := 5) ft_406 fk_406 q254 pd_406 rfl rfl rfl dX4_init_2 rfl hσ1 ?_
  refine ro_aload_n (pc' := 6) dX4_init_5 rfl rfl rfl ?_
  obtain ⟨a2, ha2, h⟩ := ah_bs h
  refine ro_objInit (pc' := 9) ha2 q243 q136 q137 (Nat.le_of_ble_eq_true rfl) (Nat.le_of_ble_eq_true rfl) dX4_init_6 rfl ?_
  refine ro_aload_n (pc' := 10) dX4_init_9 rfl rfl rfl ?_
  refine ro_iconst (pc' := 11) dX4_init_10 ic_4 rfl ?_
  obtain ⟨σ3, hσ3, h⟩ := ah_bs h
  refine ro_newa (pc' := 13) (t := 101) (by decide) rfl q205 dX4_init_11 rfl hσ3 ?_
  obtain ⟨σ4, hσ4, h⟩ := ah_bs h
  refine ro_putRF (pc' := 16) ft_400 fk_400 q244 pd_400 rfl rfl rfl dX4_init_13 rfl hσ4 ?_
  refine ro_aload_n (pc' := 17) dX4_init_16 rfl rfl rfl ?_
  refine ro_iconst (pc' := 18) dX4_init_17 ic_4 rfl ?_
  obtain ⟨σ5, hσ5, h⟩ := ah_bs h
  refine ro_newa (pc' := 20) (t := 101) (by decide) rfl q205 dX4_init_18 rfl hσ5 ?_
  obtain ⟨σ6, hσ6, h⟩ := ah_bs h
  refine ro_putRF (pc' := 23) ft_401 fk_401 q246 pd_401 rfl rfl rfl dX4_init_20 rfl hσ6 ?_
  refine ro_aload_n (pc' := 24) dX4_init_23 rfl rfl rfl ?_
  refine ro_bipush (pc' := 26) dX4_init_24 ib_28 rfl ?_
  obtain ⟨σ7, hσ7, h⟩ := ah_bs h
  refine ro_newa (pc' := 28) (t := 101) (by decide) rfl q205 dX4_init_26 rfl hσ7 ?_
  obtain ⟨σ8, hσ8, h⟩ := ah_bs h
  refine ro_putRF (pc' := 31) ft_402 fk_402 q248 pd_402 rfl rfl rfl dX4_init_28 rfl hσ8 ?_
  refine ro_aload_n (pc' := 32) dX4_init_31 rfl rfl rfl ?_
  refine ro_iconst (pc' := 33) dX4_init_32 ic_4 rfl ?_
  obtain ⟨σ9, hσ9, h⟩ := ah_bs h
  refine ro_newa (pc' := 35) (t := 101) (by decide) rfl q205 dX4_init_33 rfl hσ9 ?_
  obtain ⟨σ10, hσ10, h⟩ := ah_bs h
  refine ro_putRF (pc' := 38) ft_405 fk_405 q253 pd_405 rfl rfl rfl dX4_init_35 rfl hσ10 ?_
  refine ro_iconst (pc' := 39) dX4_init_38 ic_0 rfl ?_
  refine ro_istore_n (pc' := 40) (L' := [some (va_rf r0), some (va_rf r1), some (.int (0 : Int32))]) dX4_init_39 rfl (Nat.le_of_ble_eq_true rfl) rfl (ah_okp_r _) rfl ?_
  refine ro_weak (L' := [some (va_rf r0), none, some (.int (0 : Int32))]) (ah_ls_s (ah_ls_n (ah_ls_s ah_ls_0))) ?_
  exact W_X4_init_40 hκ _ _ _ _ h
theorem M_X4_init {l : Launch} {D : ah_D}  {σ : ah_S} {r0 : Option Nat} {r1 : Option Nat} {σ1 : ah_S} (h : F_X4_init σ r0 r1 = some σ1) : ah_Met l yX4_init (Cond.code yX4_init cX4_init 3 none) 1 24 D [va_rf r0, va_rf r1] σ (.returned none, σ1) :=
  ah_ofG (own := "LeftAsFound$Hut") (nm := "<init>") (L0 := [some (va_rf r0), some (va_rf r1), none]) (by decide) rfl rfl rfl (ah_ao_1 (ah_rf_cat _) (ah_ao_1 (ah_rf_cat _) (ah_ao_n ah_ao_0))) (fun κ hκ => W_X4_init hκ  σ r0 r1 h)
set_option maxRecDepth 20000 in
set_option maxHeartbeats 4000000 in
theorem W_X4_lacks {κ : ah_C} {rr : (Int32 × ah_S)} (hκ : ah_res κ = (.returned (some (.int rr.1)), rr.2))  (σ : ah_S) (r0 : Option Nat) (x1 : Int32) (h : F_X4_lacks σ r0 x1 = some rr) : ah_G κ ("LeftAsFound$Hut", "lacks", 2, (some FieldType.int), [], 1, 24) cX4_lacks σ 0 [some (va_rf r0), some (.int x1)] [] := by
  unfold F_X4_lacks at h
  refine ro_iconst (pc' := 1) dX4_lacks_0 ic_0 rfl ?_
  refine ro_aload_n (pc' := 2) dX4_lacks_1 rfl rfl rfl ?_
  obtain ⟨v1, hv1, h⟩ := ah_bs h
  refine ro_getR (pc' := 5) ft_406 fk_406 q254 dX4_lacks_2 rfl hv1 ?_
  obtain ⟨v2, hv2, h⟩ := ah_bs h
  refine ro_getRN (pc' := 8) ft_9 fk_9 nq300 dX4_lacks_5 rfl hv2 ?_
  refine ro_iload_n (pc' := 9) dX4_lacks_8 rfl rfl rfl ?_
  obtain ⟨v3, hv3, h⟩ := ah_bs h
  refine ro_aaload (pc' := 10) (by decide) (by decide) rfl dX4_lacks_9 rfl hv3 ?_
  obtain ⟨v4, hv4, h⟩ := ah_bs h
  refine ro_getIN (pc' := 13) ft_200 fk_200 nq218 dX4_lacks_10 rfl hv4 ?_
  refine ro_aload_n (pc' := 14) dX4_lacks_13 rfl rfl rfl ?_
  obtain ⟨v5, hv5, h⟩ := ah_bs h
  refine ro_getR (pc' := 17) ft_400 fk_400 q244 dX4_lacks_14 rfl hv5 ?_
  refine ro_iload_n (pc' := 18) dX4_lacks_17 rfl rfl rfl ?_
  obtain ⟨v6, hv6, h⟩ := ah_bs h
  refine ro_iaload (pc' := 19) dX4_lacks_18 rfl hv6 ?_
  refine ro_isub (pc' := 20) dX4_lacks_19 rfl ?_
  refine ro_mmax (pc' := 23) q741 (Nat.le_of_ble_eq_true rfl) (Nat.le_of_ble_eq_true rfl) dX4_lacks_20 rfl ?_
  obtain rfl := Option.some.inj h
  exact ro_iret hκ dX4_lacks_23
theorem M_X4_lacks {l : Launch} {D : ah_D}  {σ : ah_S} {r0 : Option Nat} {x1 : Int32} {v : Int32} {σ1 : ah_S} (h : F_X4_lacks σ r0 x1 = some (v, σ1)) : ah_Met l yX4_lacks (Cond.code yX4_lacks cX4_lacks 2 (some FieldType.int)) 1 24 D [va_rf r0, .int x1] σ (.returned (some (.int v)), σ1) :=
  ah_ofG (own := "LeftAsFound$Hut") (nm := "lacks") (L0 := [some (va_rf r0), some (.int x1)]) (by decide) rfl rfl rfl (ah_ao_1 (ah_rf_cat _) (ah_ao_1 rfl ah_ao_0)) (fun κ hκ => W_X4_lacks hκ  σ r0 x1 h)
set_option maxRecDepth 20000 in
set_option maxHeartbeats 4000000 in
theorem W_X4_loss_4 {κ : ah_C} {rr : (Int32 × ah_S)} (hκ : ah_res κ = (.returned (some (.int rr.1)), rr.2))    : ∀ (n : Nat) (σ : ah_S) (r0 : Option Nat) (x1 : Int32) (x2 : Int32), F_X4_loss_4 n σ r0 x1 x2 = some rr → ah_G κ ("LeftAsFound$Hut", "loss", 3, (some FieldType.int), [], 2, 45) cX4_loss σ 4 [some (va_rf r0), some (.int x1), some (.int x2)] [] := by
  intro n
  induction n with
  | zero => intro σ r0 x1 x2 h; cases h
  | succ n ih =>
    intro σ r0 x1 x2 h
    rw [F_X4_loss_4] at h
    refine ro_iload_n (pc' := 5) dX4_loss_4 rfl rfl rfl ?_
    refine ro_iconst (pc' := 6) dX4_loss_5 ic_4 rfl ?_
    refine ro_icmp_ge (pc' := 9) (tgt := 36) dX4_loss_6 rfl rfl (fun c => ?_) (fun c => ?_)
    · replace h := ah_ip c h
      refine ro_iload_n (pc' := 37) dX4_loss_36 rfl rfl rfl ?_
      obtain rfl := Option.some.inj h
      exact ro_iret hκ dX4_loss_37
    · replace h := ah_in_ c h
      refine ro_iload_n (pc' := 10) dX4_loss_9 rfl rfl rfl ?_
      refine ro_aload_n (pc' := 11) dX4_loss_10 rfl rfl rfl ?_
      refine ro_iload_n (pc' := 12) dX4_loss_11 rfl rfl rfl ?_
      obtain ⟨u1, hu1, h⟩ := ah_bs h
      obtain ⟨v2, σ3, hv2, h⟩ := ah_bs2 h
      refine ro_callV (pc' := 15) (As := [.int x2]) (rest := [.int x1]) (st' := [.int v2, .int x1]) (by decide) hu1 q738 sl_X4_lacks (M_X4_lacks hv2) q737 q740 q102 dd_X4_lacks rfl ⟨Nat.le_of_ble_eq_true rfl, Nat.le_of_ble_eq_true rfl⟩ (Nat.le_of_ble_eq_true rfl) dX4_loss_12 rfl rfl rfl ?_
      refine ro_aload_n (pc' := 16) dX4_loss_15 rfl rfl rfl ?_
      obtain ⟨v4, hv4, h⟩ := ah_bs h
      refine ro_getR (pc' := 19) ft_406 fk_406 q254 dX4_loss_16 rfl hv4 ?_
      obtain ⟨v5, hv5, h⟩ := ah_bs h
      refine ro_getRN (pc' := 22) ft_10 fk_10 nq302 dX4_loss_19 rfl hv5 ?_
      refine ro_iload_n (pc' := 23) dX4_loss_22 rfl rfl rfl ?_
      obtain ⟨v6, hv6, h⟩ := ah_bs h
      refine ro_aaload (pc' := 24) (by decide) (by decide) rfl dX4_loss_23 rfl hv6 ?_
      obtain ⟨v7, hv7, h⟩ := ah_bs h
      refine ro_getIN (pc' := 27) ft_200 fk_200 nq218 dX4_loss_24 rfl hv7 ?_
      refine ro_imul (pc' := 28) dX4_loss_27 rfl ?_
      refine ro_iadd (pc' := 29) dX4_loss_28 rfl ?_
      refine ro_istore_n (pc' := 30) (L' := [some (va_rf r0), some (.int (x1 + (v2 * v7))), some (.int x2)]) dX4_loss_29 rfl (Nat.le_of_ble_eq_true rfl) rfl (ah_okp_r _) rfl ?_
      refine ro_iinc (pc' := 33) (L' := [some (va_rf r0), some (.int (x1 + (v2 * v7))), some (.int (x2 + (1 : Int32)))]) dX4_loss_30 rfl ic_1 (Nat.le_of_ble_eq_true rfl) rfl (ah_okp_i _) rfl ?_
      refine ro_goto (tgt := 4) dX4_loss_33 rfl ?_
      exact ih _ _ _ _ h
set_option maxRecDepth 20000 in
set_option maxHeartbeats 4000000 in
theorem W_X4_loss {κ : ah_C} {rr : (Int32 × ah_S)} (hκ : ah_res κ = (.returned (some (.int rr.1)), rr.2))  (σ : ah_S) (r0 : Option Nat) (h : F_X4_loss σ r0 = some rr) : ah_G κ ("LeftAsFound$Hut", "loss", 3, (some FieldType.int), [], 2, 45) cX4_loss σ 0 [some (va_rf r0), none, none] [] := by
  unfold F_X4_loss at h
  refine ro_iconst (pc' := 1) dX4_loss_0 ic_0 rfl ?_
  refine ro_istore_n (pc' := 2) (L' := [some (va_rf r0), some (.int (0 : Int32)), none]) dX4_loss_1 rfl (Nat.le_of_ble_eq_true rfl) rfl (ah_okp_r _) rfl ?_
  refine ro_iconst (pc' := 3) dX4_loss_2 ic_0 rfl ?_
  refine ro_istore_n (pc' := 4) (L' := [some (va_rf r0), some (.int (0 : Int32)), some (.int (0 : Int32))]) dX4_loss_3 rfl (Nat.le_of_ble_eq_true rfl) rfl (ah_okp_i _) rfl ?_
  exact W_X4_loss_4 hκ _ _ _ _ _ h
theorem M_X4_loss {l : Launch} {D : ah_D}  {σ : ah_S} {r0 : Option Nat} {v : Int32} {σ1 : ah_S} (h : F_X4_loss σ r0 = some (v, σ1)) : ah_Met l yX4_loss (Cond.code yX4_loss cX4_loss 3 (some FieldType.int)) 2 45 D [va_rf r0] σ (.returned (some (.int v)), σ1) :=
  ah_ofG (own := "LeftAsFound$Hut") (nm := "loss") (L0 := [some (va_rf r0), none, none]) (by decide) rfl rfl rfl (ah_ao_1 (ah_rf_cat _) (ah_ao_n (ah_ao_n ah_ao_0))) (fun κ hκ => W_X4_loss hκ  σ r0 h)
set_option maxRecDepth 20000 in
set_option maxHeartbeats 4000000 in
theorem W_X5_init {κ : ah_C} {rr : ah_S} (hκ : ah_res κ = (.returned none, rr))  (σ : ah_S) (r0 : Option Nat) (h : F_X5_init σ r0 = some rr) : ah_G κ ("LeftAsFound$Change", "<init>", 1, none, [], 1, 24) cX5_init σ 0 [some (va_rf r0)] [] := by
  unfold F_X5_init at h
  refine ro_aload_n (pc' := 1) dX5_init_0 rfl rfl rfl ?_
  obtain ⟨a1, ha1, h⟩ := ah_bs h
  refine ro_objInit (pc' := 4) ha1 q279 q136 q137 (Nat.le_of_ble_eq_true rfl) (Nat.le_of_ble_eq_true rfl) dX5_init_1 rfl ?_
  obtain rfl := Option.some.inj h
  exact ro_vret hκ dX5_init_4
theorem M_X5_init {l : Launch} {D : ah_D}  {σ : ah_S} {r0 : Option Nat} {σ1 : ah_S} (h : F_X5_init σ r0 = some σ1) : ah_Met l yX5_init (Cond.code yX5_init cX5_init 1 none) 1 24 D [va_rf r0] σ (.returned none, σ1) :=
  ah_ofG (own := "LeftAsFound$Change") (nm := "<init>") (L0 := [some (va_rf r0)]) (by decide) rfl rfl rfl (ah_ao_1 (ah_rf_cat _) ah_ao_0) (fun κ hκ => W_X5_init hκ  σ r0 h)
set_option maxRecDepth 20000 in
set_option maxHeartbeats 4000000 in
theorem W_X8_init {κ : ah_C} {rr : ah_S} (hκ : ah_res κ = (.returned none, rr))  (σ : ah_S) (r0 : Option Nat) (h : F_X8_init σ r0 = some rr) : ah_G κ ("LeftAsFound$Line", "<init>", 1, none, [], 1, 24) cX8_init σ 0 [some (va_rf r0)] [] := by
  unfold F_X8_init at h
  refine ro_aload_n (pc' := 1) dX8_init_0 rfl rfl rfl ?_
  obtain ⟨a1, ha1, h⟩ := ah_bs h
  refine ro_objInit (pc' := 4) ha1 q538 q136 q137 (Nat.le_of_ble_eq_true rfl) (Nat.le_of_ble_eq_true rfl) dX8_init_1 rfl ?_
  obtain rfl := Option.some.inj h
  exact ro_vret hκ dX8_init_4
theorem M_X8_init {l : Launch} {D : ah_D}  {σ : ah_S} {r0 : Option Nat} {σ1 : ah_S} (h : F_X8_init σ r0 = some σ1) : ah_Met l yX8_init (Cond.code yX8_init cX8_init 1 none) 1 24 D [va_rf r0] σ (.returned none, σ1) :=
  ah_ofG (own := "LeftAsFound$Line") (nm := "<init>") (L0 := [some (va_rf r0)]) (by decide) rfl rfl rfl (ah_ao_1 (ah_rf_cat _) ah_ao_0) (fun κ hκ => W_X8_init hκ  σ r0 h)
set_option maxRecDepth 20000 in
set_option maxHeartbeats 4000000 in
theorem W_X0_common {κ : ah_C} {rr : (Int64 × ah_S)} (hκ : ah_res κ = (.returned (some (.long rr.1)), rr.2)) {frR loR : Nat} (hF : 1 ≤ frR) (hL : 24 ≤ loR) {f_X0_common : ah_S → Int64 → Int64 → Option (Int64 × ah_S)} (h_X0_common : ∀ {l : Launch} {D : ah_D} {σ : ah_S} {l0 : Int64} {l2 : Int64} {v : Int64} {σ1 : ah_S}, f_X0_common σ l0 l2 = some (v, σ1) → ah_Met l yX0_common (Cond.code yX0_common cX0_common 4 (some FieldType.long)) frR loR D [.long l0, .long l2] σ (.returned (some (.long v)), σ1)) (σ : ah_S) (l0 : Int64) (l2 : Int64) (h : F_X0_common f_X0_common σ l0 l2 = some rr) : ah_G κ ("LeftAsFound", "common", 4, (some FieldType.long), [], (frR + 1), (loR + 23)) cX0_common σ 0 [some (.long l0), none, some (.long l2), none] [] := by
  unfold F_X0_common at h
  refine ro_lload_n (pc' := 1) dX0_common_0 rfl rfl rfl ?_
  refine ro_lconst (pc' := 2) dX0_common_1 lc_0 rfl ?_
  refine ro_lcmp (pc' := 3) dX0_common_2 rfl ?_
  refine ro_if_ne (pc' := 6) (tgt := 10) dX0_common_3 rfl rfl (fun c => ?_) (fun c => ?_)
  · replace h := ah_in_ c h
    refine ro_lload_n (pc' := 11) dX0_common_10 rfl rfl rfl ?_
    refine ro_lload_n (pc' := 12) dX0_common_11 rfl rfl rfl ?_
    refine ro_lload_n (pc' := 13) dX0_common_12 rfl rfl rfl ?_
    obtain ⟨q1, hq1, h⟩ := ah_bs h
    refine ro_lrem (pc' := 14) dX0_common_13 rfl hq1 ?_
    obtain ⟨v2, σ3, hv2, h⟩ := ah_bs2 h
    refine ro_callS (pc' := 17) (As := [.long l2, .long q1]) (rest := []) (st' := [.long v2]) q803 (h_X0_common hv2) q802 q804 q95 dd_X0_common rfl ⟨show frR + 1 ≤ frR + 1 by omega, show 8 + (4 + 11) + loR ≤ loR + 23 by omega⟩ (Nat.le_of_ble_eq_true rfl) dX0_common_14 rfl rfl rfl ?_
    obtain rfl := Option.some.inj h
    exact ro_lret hκ dX0_common_17
  · replace h := ah_ip c h
    refine ro_lload_n (pc' := 7) dX0_common_6 rfl rfl rfl ?_
    refine ro_goto (tgt := 17) dX0_common_7 rfl ?_
    obtain rfl := Option.some.inj h
    exact ro_lret hκ dX0_common_17
theorem M_X0_common {l : Launch} {D : ah_D} {frR loR : Nat} (hF : 1 ≤ frR) (hL : 24 ≤ loR) {f_X0_common : ah_S → Int64 → Int64 → Option (Int64 × ah_S)} (h_X0_common : ∀ {l : Launch} {D : ah_D} {σ : ah_S} {l0 : Int64} {l2 : Int64} {v : Int64} {σ1 : ah_S}, f_X0_common σ l0 l2 = some (v, σ1) → ah_Met l yX0_common (Cond.code yX0_common cX0_common 4 (some FieldType.long)) frR loR D [.long l0, .long l2] σ (.returned (some (.long v)), σ1)) {σ : ah_S} {l0 : Int64} {l2 : Int64} {v : Int64} {σ1 : ah_S} (h : F_X0_common f_X0_common σ l0 l2 = some (v, σ1)) : ah_Met l yX0_common (Cond.code yX0_common cX0_common 4 (some FieldType.long)) (frR + 1) (loR + 23) D [.long l0, .long l2] σ (.returned (some (.long v)), σ1) :=
  ah_ofG (own := "LeftAsFound") (nm := "common") (L0 := [some (.long l0), none, some (.long l2), none]) (by decide) rfl rfl rfl (ah_ao_2 rfl (ah_ao_2 rfl ah_ao_0)) (fun κ hκ => W_X0_common hκ hF hL h_X0_common σ l0 l2 h)
theorem N_X0_common (d : Nat) : ∀ {l : Launch} {D : ah_D} {σ : ah_S} {l0 : Int64} {l2 : Int64} {v : Int64} {σ1 : ah_S}, Z_X0_common d σ l0 l2 = some (v, σ1) → ah_Met l yX0_common (Cond.code yX0_common cX0_common 4 (some FieldType.long)) (1 + d) (24 + 23 * d) D [.long l0, .long l2] σ (.returned (some (.long v)), σ1) := by
  induction d with
  | zero => intro l D σ l0 l2 v σ1 h; cases h
  | succ d ih =>
    intro l D σ l0 l2 v σ1 h
    rw [show 1 + (d + 1) = (1 + d) + 1 by omega, show 24 + 23 * (d + 1) = (24 + 23 * d) + 23 by omega]
    exact M_X0_common (by omega) (by omega) ih h
set_option maxRecDepth 20000 in
set_option maxHeartbeats 4000000 in
theorem W_X0_partOf {κ : ah_C} {rr : (Int64 × ah_S)} (hκ : ah_res κ = (.returned (some (.long rr.1)), rr.2))  (σ : ah_S) (l0 : Int64) (l2 : Int64) (x4 : Int32) (h : F_X0_partOf σ l0 l2 x4 = some rr) : ah_G κ ("LeftAsFound", "partOf", 7, (some FieldType.long), [], 102, 2347) cX0_partOf σ 0 [some (.long l0), none, some (.long l2), none, some (.int x4), none, none] [] := by
  unfold F_X0_partOf at h
  refine ro_lload_n (pc' := 1) dX0_partOf_0 rfl rfl rfl ?_
  refine ro_lconst (pc' := 2) dX0_partOf_1 lc_0 rfl ?_
  refine ro_lcmp (pc' := 3) dX0_partOf_2 rfl ?_
  refine ro_if_ne (pc' := 6) (tgt := 10) dX0_partOf_3 rfl rfl (fun c => ?_) (fun c => ?_)
  · replace h := ah_in_ c h
    refine ro_lload_n (pc' := 11) dX0_partOf_10 rfl rfl rfl ?_
    refine ro_lload_n (pc' := 12) dX0_partOf_11 rfl rfl rfl ?_
    obtain ⟨v1, σ2, hv1, h⟩ := ah_bs2 h
    refine ro_callS (pc' := 15) (As := [.long l0, .long l2]) (rest := []) (st' := [.long v1]) q803 (N_X0_common 100 hv1) q802 q804 q95 dd_X0_common rfl ⟨Nat.le_of_ble_eq_true rfl, Nat.le_of_ble_eq_true rfl⟩ (Nat.le_of_ble_eq_true rfl) dX0_partOf_12 rfl rfl rfl ?_
    refine ro_lstore (pc' := 17) (L' := [some (.long l0), none, some (.long l2), none, some (.int x4), some (.long v1), none]) dX0_partOf_15 (Nat.le_of_ble_eq_true rfl) rfl (ah_okp_i _) rfl ?_
    refine ro_iload (pc' := 19) dX0_partOf_17 rfl rfl ?_
    refine ro_if_ne (pc' := 22) (tgt := 29) dX0_partOf_19 rfl rfl (fun c => ?_) (fun c => ?_)
    · replace h := ah_in_ c h
      refine ro_lload_n (pc' := 30) dX0_partOf_29 rfl rfl rfl ?_
      refine ro_lload (pc' := 32) dX0_partOf_30 rfl rfl ?_
      obtain ⟨q3, hq3, h⟩ := ah_bs h
      refine ro_ldiv (pc' := 33) dX0_partOf_32 rfl hq3 ?_
      obtain rfl := Option.some.inj h
      exact ro_lret hκ dX0_partOf_33
    · replace h := ah_ip c h
      refine ro_lload_n (pc' := 23) dX0_partOf_22 rfl rfl rfl ?_
      refine ro_lload (pc' := 25) dX0_partOf_23 rfl rfl ?_
      obtain ⟨q4, hq4, h⟩ := ah_bs h
      refine ro_ldiv (pc' := 26) dX0_partOf_25 rfl hq4 ?_
      refine ro_goto (tgt := 33) dX0_partOf_26 rfl ?_
      obtain rfl := Option.some.inj h
      exact ro_lret hκ dX0_partOf_33
  · replace h := ah_ip c h
    refine ro_iload (pc' := 8) dX0_partOf_6 rfl rfl ?_
    refine ro_i2l (pc' := 9) dX0_partOf_8 rfl ?_
    obtain rfl := Option.some.inj h
    exact ro_lret hκ dX0_partOf_9
theorem M_X0_partOf {l : Launch} {D : ah_D}  {σ : ah_S} {l0 : Int64} {l2 : Int64} {x4 : Int32} {v : Int64} {σ1 : ah_S} (h : F_X0_partOf σ l0 l2 x4 = some (v, σ1)) : ah_Met l yX0_partOf (Cond.code yX0_partOf cX0_partOf 7 (some FieldType.long)) 102 2347 D [.long l0, .long l2, .int x4] σ (.returned (some (.long v)), σ1) :=
  ah_ofG (own := "LeftAsFound") (nm := "partOf") (L0 := [some (.long l0), none, some (.long l2), none, some (.int x4), none, none]) (by decide) rfl rfl rfl (ah_ao_2 rfl (ah_ao_2 rfl (ah_ao_1 rfl (ah_ao_n (ah_ao_n ah_ao_0))))) (fun κ hκ => W_X0_partOf hκ  σ l0 l2 x4 h)
