set_option maxRecDepth 20000 in
set_option maxHeartbeats 4000000 in
theorem W_X6_operand_46 {κ : ah_C} {rr : ah_S} (hκ : ah_res κ = (.returned none, rr)) {frR loR : Nat} (hF : 3 ≤ frR) (hL : 68 ≤ loR) {f_X6_operand : ah_S → Option Nat → Option ah_S} (h_X6_operand : ∀ {l : Launch} {D : ah_D} {σ : ah_S} {r0 : Option Nat} {σ1 : ah_S}, f_X6_operand σ r0 = some σ1 → ah_Met l yX6_operand (Cond.code yX6_operand cX6_operand 2 none) frR loR D [va_rf r0] σ (.returned none, σ1)) {f_X6_either : ah_S → Option Nat → Option ah_S} (h_X6_either : ∀ {l : Launch} {D : ah_D} {σ : ah_S} {r0 : Option Nat} {σ1 : ah_S}, f_X6_either σ r0 = some σ1 → ah_Met l yX6_either (Cond.code yX6_either cX6_either 1 none) frR loR D [va_rf r0] σ (.returned none, σ1))   : ∀ (σ : ah_S) (r0 : Option Nat) (x1 : Int32), F_X6_operand_46 f_X6_operand f_X6_either σ r0 x1 = some rr → ah_G κ ("LeftAsFoundModel", "operand", 2, none, [], (frR + 1), (loR + 21)) cX6_operand σ 46 [some (va_rf r0), some (.int x1)] [] := by
  intro σ r0 x1 h
  unfold F_X6_operand_46 at h
  refine ro_aload_n (pc' := 47) dX6_operand_46 rfl rfl rfl ?_
  obtain ⟨u1, hu1, h⟩ := ah_bs h
  obtain ⟨v2, σ3, hv2, h⟩ := ah_bs2 h
  refine ro_callV (pc' := 50) (As := []) (rest := []) (st' := [.int v2]) (by decide) hu1 q1610 sl_X6_opens (M_X6_opens hv2) q1608 q1611 q104 dd_X6_opens rfl ⟨show 2 + 1 ≤ frR + 1 by omega, show 8 + (1 + 11) + 44 ≤ loR + 21 by omega⟩ (Nat.le_of_ble_eq_true rfl) dX6_operand_47 rfl rfl rfl ?_
  refine ro_if_ne (pc' := 53) (tgt := 54) dX6_operand_50 rfl rfl (fun c => ?_) (fun c => ?_)
  · replace h := ah_in_ c h
    refine ro_aload_n (pc' := 55) dX6_operand_54 rfl rfl rfl ?_
    obtain ⟨u4, hu4, h⟩ := ah_bs h
    obtain ⟨σ5, hσ5, h⟩ := ah_bs h
    refine ro_callV (pc' := 58) (As := []) (rest := []) (st' := []) (by decide) hu4 q1595 sl_X6_operand (h_X6_operand hσ5) q1593 q1596 q104 dd_X6_operand rfl ⟨show frR + 1 ≤ frR + 1 by omega, show 8 + (2 + 11) + loR ≤ loR + 21 by omega⟩ (Nat.le_of_ble_eq_true rfl) dX6_operand_55 rfl rfl rfl ?_
    refine ro_aload_n (pc' := 59) dX6_operand_58 rfl rfl rfl ?_
    refine ro_dup (pc' := 60) dX6_operand_59 (ah_rf_cat _) rfl ?_
    obtain ⟨v6, hv6, h⟩ := ah_bs h
    refine ro_getI (pc' := 63) ft_622 fk_622 q1330 dX6_operand_60 rfl hv6 ?_
    refine ro_iconst (pc' := 64) dX6_operand_63 ic_1 rfl ?_
    refine ro_isub (pc' := 65) dX6_operand_64 rfl ?_
    obtain ⟨σ7, hσ7, h⟩ := ah_bs h
    refine ro_putI (pc' := 68) ft_622 fk_622 q1330 pd_622 dX6_operand_65 rfl hσ7 ?_
    refine ro_aload_n (pc' := 69) dX6_operand_68 rfl rfl rfl ?_
    refine ro_iload_n (pc' := 70) dX6_operand_69 rfl rfl rfl ?_
    refine ro_bipush (pc' := 72) dX6_operand_70 ib_33 rfl ?_
    refine ro_icmp_ne (pc' := 75) (tgt := 79) dX6_operand_72 rfl rfl (fun c => ?_) (fun c => ?_)
    · replace h := ah_in_ c h
      refine ro_iconst (pc' := 80) dX6_operand_79 ic_4 rfl ?_
      refine ro_iconst (pc' := 81) dX6_operand_80 ic_0 rfl ?_
      obtain ⟨u8, hu8, h⟩ := ah_bs h
      obtain ⟨σ9, hσ9, h⟩ := ah_bs h
      refine ro_callV (pc' := 84) (As := [.int (4 : Int32), .int (0 : Int32)]) (rest := []) (st' := []) (by decide) hu8 q1606 sl_X6_addStep (M_X6_addStep hσ9) q1604 q1607 q104 dd_X6_addStep rfl ⟨show 1 + 1 ≤ frR + 1 by omega, show 8 + (3 + 11) + 24 ≤ loR + 21 by omega⟩ (Nat.le_of_ble_eq_true rfl) dX6_operand_81 rfl rfl rfl ?_
      refine ro_goto (tgt := 154) dX6_operand_84 rfl ?_
      obtain rfl := Option.some.inj h
      exact ro_vret hκ dX6_operand_154
    · replace h := ah_ip c h
      refine ro_iconst (pc' := 76) dX6_operand_75 ic_3 rfl ?_
      refine ro_goto (tgt := 80) dX6_operand_76 rfl ?_
      refine ro_iconst (pc' := 81) dX6_operand_80 ic_0 rfl ?_
      obtain ⟨u10, hu10, h⟩ := ah_bs h
      obtain ⟨σ11, hσ11, h⟩ := ah_bs h
      refine ro_callV (pc' := 84) (As := [.int (3 : Int32), .int (0 : Int32)]) (rest := []) (st' := []) (by decide) hu10 q1606 sl_X6_addStep (M_X6_addStep hσ11) q1604 q1607 q104 dd_X6_addStep rfl ⟨show 1 + 1 ≤ frR + 1 by omega, show 8 + (3 + 11) + 24 ≤ loR + 21 by omega⟩ (Nat.le_of_ble_eq_true rfl) dX6_operand_81 rfl rfl rfl ?_
      refine ro_goto (tgt := 154) dX6_operand_84 rfl ?_
      obtain rfl := Option.some.inj h
      exact ro_vret hκ dX6_operand_154
  · replace h := ah_ip c h
    obtain rfl := Option.some.inj h
    exact ro_vret hκ dX6_operand_53
set_option maxRecDepth 20000 in
set_option maxHeartbeats 4000000 in
theorem W_X6_operand {κ : ah_C} {rr : ah_S} (hκ : ah_res κ = (.returned none, rr)) {frR loR : Nat} (hF : 3 ≤ frR) (hL : 68 ≤ loR) {f_X6_operand : ah_S → Option Nat → Option ah_S} (h_X6_operand : ∀ {l : Launch} {D : ah_D} {σ : ah_S} {r0 : Option Nat} {σ1 : ah_S}, f_X6_operand σ r0 = some σ1 → ah_Met l yX6_operand (Cond.code yX6_operand cX6_operand 2 none) frR loR D [va_rf r0] σ (.returned none, σ1)) {f_X6_either : ah_S → Option Nat → Option ah_S} (h_X6_either : ∀ {l : Launch} {D : ah_D} {σ : ah_S} {r0 : Option Nat} {σ1 : ah_S}, f_X6_either σ r0 = some σ1 → ah_Met l yX6_either (Cond.code yX6_either cX6_either 1 none) frR loR D [va_rf r0] σ (.returned none, σ1)) (σ : ah_S) (r0 : Option Nat) (h : F_X6_operand f_X6_operand f_X6_either σ r0 = some rr) : ah_G κ ("LeftAsFoundModel", "operand", 2, none, [], (frR + 1), (loR + 21)) cX6_operand σ 0 [some (va_rf r0), none] [] := by
  unfold F_X6_operand at h
  refine ro_aload_n (pc' := 1) dX6_operand_0 rfl rfl rfl ?_
  obtain ⟨u1, hu1, h⟩ := ah_bs h
  obtain ⟨v2, σ3, hv2, h⟩ := ah_bs2 h
  refine ro_callV (pc' := 4) (As := []) (rest := []) (st' := [.int v2]) (by decide) hu1 q1599 sl_X6_look (M_X6_look hv2) q1597 q1600 q104 dd_X6_look rfl ⟨show 1 + 1 ≤ frR + 1 by omega, show 8 + (1 + 11) + 24 ≤ loR + 21 by omega⟩ (Nat.le_of_ble_eq_true rfl) dX6_operand_1 rfl rfl rfl ?_
  refine ro_istore_n (pc' := 5) (L' := [some (va_rf r0), some (.int v2)]) dX6_operand_4 rfl (Nat.le_of_ble_eq_true rfl) rfl (ah_okp_r _) rfl ?_
  refine ro_iload_n (pc' := 6) dX6_operand_5 rfl rfl rfl ?_
  obtain ⟨v4, σ5, hv4, h⟩ := ah_bs2 h
  refine ro_callS (pc' := 9) (As := [.int v2]) (rest := []) (st' := [.int v4]) q1602 (M_X6_nameOf hv4) q1601 q1603 q104 dd_X6_nameOf rfl ⟨show 1 + 1 ≤ frR + 1 by omega, show 8 + (1 + 11) + 24 ≤ loR + 21 by omega⟩ (Nat.le_of_ble_eq_true rfl) dX6_operand_6 rfl rfl rfl ?_
  refine ro_if_lt (pc' := 12) (tgt := 34) dX6_operand_9 rfl rfl (fun c => ?_) (fun c => ?_)
  · replace h := ah_ip c h
    refine ro_iload_n (pc' := 35) dX6_operand_34 rfl rfl rfl ?_
    refine ro_bipush (pc' := 37) dX6_operand_35 ib_33 rfl ?_
    refine ro_icmp_eq (pc' := 40) (tgt := 46) dX6_operand_37 rfl rfl (fun c => ?_) (fun c => ?_)
    · replace h := ah_ip c h
      exact W_X6_operand_46 hκ hF hL h_X6_operand h_X6_either _ _ _ h
    · replace h := ah_in_ c h
      refine ro_iload_n (pc' := 41) dX6_operand_40 rfl rfl rfl ?_
      refine ro_bipush (pc' := 43) dX6_operand_41 ib_45 rfl ?_
      refine ro_icmp_ne (pc' := 46) (tgt := 87) dX6_operand_43 rfl rfl (fun c => ?_) (fun c => ?_)
      · replace h := ah_in_ c h
        refine ro_iload_n (pc' := 88) dX6_operand_87 rfl rfl rfl ?_
        refine ro_bipush (pc' := 90) dX6_operand_88 ib_40 rfl ?_
        refine ro_icmp_ne (pc' := 93) (tgt := 150) dX6_operand_90 rfl rfl (fun c => ?_) (fun c => ?_)
        · replace h := ah_in_ c h
          refine ro_aload_n (pc' := 151) dX6_operand_150 rfl rfl rfl ?_
          obtain ⟨u6, hu6, h⟩ := ah_bs h
          obtain ⟨σ7, hσ7, h⟩ := ah_bs h
          refine ro_callV (pc' := 154) (As := []) (rest := []) (st' := []) (by decide) hu6 q1618 sl_X6_figure (M_X6_figure hσ7) q1616 q1619 q104 dd_X6_figure rfl ⟨show 2 + 1 ≤ frR + 1 by omega, show 8 + (3 + 11) + 46 ≤ loR + 21 by omega⟩ (Nat.le_of_ble_eq_true rfl) dX6_operand_151 rfl rfl rfl ?_
          obtain rfl := Option.some.inj h
          exact ro_vret hκ dX6_operand_154
        · replace h := ah_ip c h
          refine ro_aload_n (pc' := 94) dX6_operand_93 rfl rfl rfl ?_
          obtain ⟨u8, hu8, h⟩ := ah_bs h
          obtain ⟨v9, σ10, hv9, h⟩ := ah_bs2 h
          refine ro_callV (pc' := 97) (As := []) (rest := []) (st' := [.int v9]) (by decide) hu8 q1610 sl_X6_opens (M_X6_opens hv9) q1608 q1611 q104 dd_X6_opens rfl ⟨show 2 + 1 ≤ frR + 1 by omega, show 8 + (1 + 11) + 44 ≤ loR + 21 by omega⟩ (Nat.le_of_ble_eq_true rfl) dX6_operand_94 rfl rfl rfl ?_
          refine ro_if_ne (pc' := 100) (tgt := 101) dX6_operand_97 rfl rfl (fun c => ?_) (fun c => ?_)
          · replace h := ah_in_ c h
            refine ro_aload_n (pc' := 102) dX6_operand_101 rfl rfl rfl ?_
            obtain ⟨u11, hu11, h⟩ := ah_bs h
            obtain ⟨σ12, hσ12, h⟩ := ah_bs h
            refine ro_callV (pc' := 105) (As := []) (rest := []) (st' := []) (by decide) hu11 q1575 sl_X6_either (h_X6_either hσ12) q1573 q1576 q104 dd_X6_either rfl ⟨show frR + 1 ≤ frR + 1 by omega, show 8 + (1 + 11) + loR ≤ loR + 21 by omega⟩ (Nat.le_of_ble_eq_true rfl) dX6_operand_102 rfl rfl rfl ?_
            refine ro_aload_n (pc' := 106) dX6_operand_105 rfl rfl rfl ?_
            obtain ⟨v13, hv13, h⟩ := ah_bs h
            refine ro_getI (pc' := 109) ft_621 fk_621 q1329 dX6_operand_106 rfl hv13 ?_
            refine ro_if_lt (pc' := 112) (tgt := 113) dX6_operand_109 rfl rfl (fun c => ?_) (fun c => ?_)
            · replace h := ah_ip c h
              refine ro_aload_n (pc' := 114) dX6_operand_113 rfl rfl rfl ?_
              obtain ⟨u14, hu14, h⟩ := ah_bs h
              obtain ⟨v15, σ16, hv15, h⟩ := ah_bs2 h
              refine ro_callV (pc' := 117) (As := []) (rest := []) (st' := [.int v15]) (by decide) hu14 q1599 sl_X6_look (M_X6_look hv15) q1597 q1600 q104 dd_X6_look rfl ⟨show 1 + 1 ≤ frR + 1 by omega, show 8 + (1 + 11) + 24 ≤ loR + 21 by omega⟩ (Nat.le_of_ble_eq_true rfl) dX6_operand_114 rfl rfl rfl ?_
              refine ro_bipush (pc' := 119) dX6_operand_117 ib_41 rfl ?_
              refine ro_icmp_eq (pc' := 122) (tgt := 127) dX6_operand_119 rfl rfl (fun c => ?_) (fun c => ?_)
              · replace h := ah_ip c h
                refine ro_aload_n (pc' := 128) dX6_operand_127 rfl rfl rfl ?_
                refine ro_dup (pc' := 129) dX6_operand_128 (ah_rf_cat _) rfl ?_
                obtain ⟨v17, hv17, h⟩ := ah_bs h
                refine ro_getI (pc' := 132) ft_620 fk_620 q1328 dX6_operand_129 rfl hv17 ?_
                refine ro_iconst (pc' := 133) dX6_operand_132 ic_1 rfl ?_
                refine ro_iadd (pc' := 134) dX6_operand_133 rfl ?_
                obtain ⟨σ18, hσ18, h⟩ := ah_bs h
                refine ro_putI (pc' := 137) ft_620 fk_620 q1328 pd_620 dX6_operand_134 rfl hσ18 ?_
                refine ro_aload_n (pc' := 138) dX6_operand_137 rfl rfl rfl ?_
                refine ro_dup (pc' := 139) dX6_operand_138 (ah_rf_cat _) rfl ?_
                obtain ⟨v19, hv19, h⟩ := ah_bs h
                refine ro_getI (pc' := 142) ft_622 fk_622 q1330 dX6_operand_139 rfl hv19 ?_
                refine ro_iconst (pc' := 143) dX6_operand_142 ic_1 rfl ?_
                refine ro_isub (pc' := 144) dX6_operand_143 rfl ?_
                obtain ⟨σ20, hσ20, h⟩ := ah_bs h
                refine ro_putI (pc' := 147) ft_622 fk_622 q1330 pd_622 dX6_operand_144 rfl hσ20 ?_
                refine ro_goto (tgt := 154) dX6_operand_147 rfl ?_
                obtain rfl := Option.some.inj h
                exact ro_vret hκ dX6_operand_154
              · replace h := ah_in_ c h
                refine ro_aload_n (pc' := 123) dX6_operand_122 rfl rfl rfl ?_
                obtain ⟨u21, hu21, h⟩ := ah_bs h
                obtain ⟨σ22, hσ22, h⟩ := ah_bs h
                refine ro_callV (pc' := 126) (As := []) (rest := []) (st' := []) (by decide) hu21 q1614 sl_X6_faulty (M_X6_faulty hσ22) q1612 q1615 q104 dd_X6_faulty rfl ⟨show 1 + 1 ≤ frR + 1 by omega, show 8 + (1 + 11) + 24 ≤ loR + 21 by omega⟩ (Nat.le_of_ble_eq_true rfl) dX6_operand_123 rfl rfl rfl ?_
                obtain rfl := Option.some.inj h
                exact ro_vret hκ dX6_operand_126
            · replace h := ah_in_ c h
              obtain rfl := Option.some.inj h
              exact ro_vret hκ dX6_operand_112
          · replace h := ah_ip c h
            obtain rfl := Option.some.inj h
            exact ro_vret hκ dX6_operand_100
      · replace h := ah_ip c h
        exact W_X6_operand_46 hκ hF hL h_X6_operand h_X6_either _ _ _ h
  · replace h := ah_in_ c h
    refine ro_aload_n (pc' := 13) dX6_operand_12 rfl rfl rfl ?_
    refine ro_iconst (pc' := 14) dX6_operand_13 ic_2 rfl ?_
    refine ro_iload_n (pc' := 15) dX6_operand_14 rfl rfl rfl ?_
    obtain ⟨v23, σ24, hv23, h⟩ := ah_bs2 h
    refine ro_callS (pc' := 18) (As := [.int v2]) (rest := [.int (2 : Int32), va_rf r0]) (st' := [.int v23, .int (2 : Int32), va_rf r0]) q1602 (M_X6_nameOf hv23) q1601 q1603 q104 dd_X6_nameOf rfl ⟨show 1 + 1 ≤ frR + 1 by omega, show 8 + (1 + 11) + 24 ≤ loR + 21 by omega⟩ (by simp only [List.map_cons, List.map_nil, List.sum_cons, List.sum_nil, ah_rf_cat, ah_cat_i, ah_cat_l]; decide) dX6_operand_15 rfl rfl rfl ?_
    obtain ⟨u25, hu25, h⟩ := ah_bs h
    obtain ⟨σ26, hσ26, h⟩ := ah_bs h
    refine ro_callV (pc' := 21) (As := [.int (2 : Int32), .int v23]) (rest := []) (st' := []) (by decide) hu25 q1606 sl_X6_addStep (M_X6_addStep hσ26) q1604 q1607 q104 dd_X6_addStep rfl ⟨show 1 + 1 ≤ frR + 1 by omega, show 8 + (3 + 11) + 24 ≤ loR + 21 by omega⟩ (Nat.le_of_ble_eq_true rfl) dX6_operand_18 rfl rfl rfl ?_
    refine ro_aload_n (pc' := 22) dX6_operand_21 rfl rfl rfl ?_
    refine ro_dup (pc' := 23) dX6_operand_22 (ah_rf_cat _) rfl ?_
    obtain ⟨v27, hv27, h⟩ := ah_bs h
    refine ro_getI (pc' := 26) ft_620 fk_620 q1328 dX6_operand_23 rfl hv27 ?_
    refine ro_iconst (pc' := 27) dX6_operand_26 ic_1 rfl ?_
    refine ro_iadd (pc' := 28) dX6_operand_27 rfl ?_
    obtain ⟨σ28, hσ28, h⟩ := ah_bs h
    refine ro_putI (pc' := 31) ft_620 fk_620 q1328 pd_620 dX6_operand_28 rfl hσ28 ?_
    refine ro_goto (tgt := 154) dX6_operand_31 rfl ?_
    obtain rfl := Option.some.inj h
    exact ro_vret hκ dX6_operand_154
theorem M_X6_operand {l : Launch} {D : ah_D} {frR loR : Nat} (hF : 3 ≤ frR) (hL : 68 ≤ loR) {f_X6_operand : ah_S → Option Nat → Option ah_S} (h_X6_operand : ∀ {l : Launch} {D : ah_D} {σ : ah_S} {r0 : Option Nat} {σ1 : ah_S}, f_X6_operand σ r0 = some σ1 → ah_Met l yX6_operand (Cond.code yX6_operand cX6_operand 2 none) frR loR D [va_rf r0] σ (.returned none, σ1)) {f_X6_either : ah_S → Option Nat → Option ah_S} (h_X6_either : ∀ {l : Launch} {D : ah_D} {σ : ah_S} {r0 : Option Nat} {σ1 : ah_S}, f_X6_either σ r0 = some σ1 → ah_Met l yX6_either (Cond.code yX6_either cX6_either 1 none) frR loR D [va_rf r0] σ (.returned none, σ1)) {σ : ah_S} {r0 : Option Nat} {σ1 : ah_S} (h : F_X6_operand f_X6_operand f_X6_either σ r0 = some σ1) : ah_Met l yX6_operand (Cond.code yX6_operand cX6_operand 2 none) (frR + 1) (loR + 21) D [va_rf r0] σ (.returned none, σ1) :=
  ah_ofG (own := "LeftAsFoundModel") (nm := "operand") (L0 := [some (va_rf r0), none]) (by decide) rfl rfl rfl (ah_ao_1 (ah_rf_cat _) (ah_ao_n ah_ao_0)) (fun κ hκ => W_X6_operand hκ hF hL h_X6_operand h_X6_either σ r0 h)
set_option maxRecDepth 20000 in
set_option maxHeartbeats 4000000 in
theorem W_X6_product_38 {κ : ah_C} {rr : ah_S} (hκ : ah_res κ = (.returned none, rr)) {frR loR : Nat} (hF : 3 ≤ frR) (hL : 68 ≤ loR) {f_X6_operand : ah_S → Option Nat → Option ah_S} (h_X6_operand : ∀ {l : Launch} {D : ah_D} {σ : ah_S} {r0 : Option Nat} {σ1 : ah_S}, f_X6_operand σ r0 = some σ1 → ah_Met l yX6_operand (Cond.code yX6_operand cX6_operand 2 none) frR loR D [va_rf r0] σ (.returned none, σ1)) {k4 : ah_S → Option Nat → Option ah_S} (hk4 : ∀ (σ : ah_S) (r0 : Option Nat), k4 σ r0 = some rr → ah_G κ ("LeftAsFoundModel", "product", 2, none, [], (frR + 1), (loR + 21)) cX6_product σ 4 [some (va_rf r0), none] []) : ∀ (σ : ah_S) (r0 : Option Nat), F_X6_product_38 f_X6_operand k4 σ r0 = some rr → ah_G κ ("LeftAsFoundModel", "product", 2, none, [], (frR + 1), (loR + 21)) cX6_product σ 38 [some (va_rf r0), none] [] := by
  intro σ r0 h
  unfold F_X6_product_38 at h
  refine ro_aload_n (pc' := 39) dX6_product_38 rfl rfl rfl ?_
  obtain ⟨u1, hu1, h⟩ := ah_bs h
  obtain ⟨v2, σ3, hv2, h⟩ := ah_bs2 h
  refine ro_callV (pc' := 42) (As := []) (rest := []) (st' := [.int v2]) (by decide) hu1 q1599 sl_X6_look (M_X6_look hv2) q1597 q1600 q104 dd_X6_look rfl ⟨show 1 + 1 ≤ frR + 1 by omega, show 8 + (1 + 11) + 24 ≤ loR + 21 by omega⟩ (Nat.le_of_ble_eq_true rfl) dX6_product_39 rfl rfl rfl ?_
  refine ro_istore_n (pc' := 43) (L' := [some (va_rf r0), some (.int v2)]) dX6_product_42 rfl (Nat.le_of_ble_eq_true rfl) rfl (ah_okp_r _) rfl ?_
  refine ro_aload_n (pc' := 44) dX6_product_43 rfl rfl rfl ?_
  refine ro_dup (pc' := 45) dX6_product_44 (ah_rf_cat _) rfl ?_
  obtain ⟨v4, hv4, h⟩ := ah_bs h
  refine ro_getI (pc' := 48) ft_620 fk_620 q1328 dX6_product_45 rfl hv4 ?_
  refine ro_iconst (pc' := 49) dX6_product_48 ic_1 rfl ?_
  refine ro_iadd (pc' := 50) dX6_product_49 rfl ?_
  obtain ⟨σ5, hσ5, h⟩ := ah_bs h
  refine ro_putI (pc' := 53) ft_620 fk_620 q1328 pd_620 dX6_product_50 rfl hσ5 ?_
  refine ro_aload_n (pc' := 54) dX6_product_53 rfl rfl rfl ?_
  obtain ⟨u6, hu6, h⟩ := ah_bs h
  obtain ⟨σ7, hσ7, h⟩ := ah_bs h
  refine ro_callV (pc' := 57) (As := []) (rest := []) (st' := []) (by decide) hu6 q1595 sl_X6_operand (h_X6_operand hσ7) q1593 q1596 q104 dd_X6_operand rfl ⟨show frR + 1 ≤ frR + 1 by omega, show 8 + (2 + 11) + loR ≤ loR + 21 by omega⟩ (Nat.le_of_ble_eq_true rfl) dX6_product_54 rfl rfl rfl ?_
  refine ro_aload_n (pc' := 58) dX6_product_57 rfl rfl rfl ?_
  refine ro_iload_n (pc' := 59) dX6_product_58 rfl rfl rfl ?_
  refine ro_iconst (pc' := 60) dX6_product_59 ic_0 rfl ?_
  obtain ⟨u8, hu8, h⟩ := ah_bs h
  obtain ⟨σ9, hσ9, h⟩ := ah_bs h
  refine ro_callV (pc' := 63) (As := [.int v2, .int (0 : Int32)]) (rest := []) (st' := []) (by decide) hu8 q1606 sl_X6_addStep (M_X6_addStep hσ9) q1604 q1607 q104 dd_X6_addStep rfl ⟨show 1 + 1 ≤ frR + 1 by omega, show 8 + (3 + 11) + 24 ≤ loR + 21 by omega⟩ (Nat.le_of_ble_eq_true rfl) dX6_product_60 rfl rfl rfl ?_
  refine ro_goto (tgt := 4) dX6_product_63 rfl ?_
  refine ro_weak (L' := [some (va_rf r0), none]) (ah_ls_s (ah_ls_n ah_ls_0)) ?_
  exact hk4 _ _ h
set_option maxRecDepth 20000 in
set_option maxHeartbeats 4000000 in
theorem W_X6_product_4 {κ : ah_C} {rr : ah_S} (hκ : ah_res κ = (.returned none, rr)) {frR loR : Nat} (hF : 3 ≤ frR) (hL : 68 ≤ loR) {f_X6_operand : ah_S → Option Nat → Option ah_S} (h_X6_operand : ∀ {l : Launch} {D : ah_D} {σ : ah_S} {r0 : Option Nat} {σ1 : ah_S}, f_X6_operand σ r0 = some σ1 → ah_Met l yX6_operand (Cond.code yX6_operand cX6_operand 2 none) frR loR D [va_rf r0] σ (.returned none, σ1))   : ∀ (n : Nat) (σ : ah_S) (r0 : Option Nat), F_X6_product_4 f_X6_operand n σ r0 = some rr → ah_G κ ("LeftAsFoundModel", "product", 2, none, [], (frR + 1), (loR + 21)) cX6_product σ 4 [some (va_rf r0), none] [] := by
  intro n
  induction n with
  | zero => intro σ r0 h; cases h
  | succ n ih =>
    intro σ r0 h
    rw [F_X6_product_4] at h
    refine ro_aload_n (pc' := 5) dX6_product_4 rfl rfl rfl ?_
    obtain ⟨v1, hv1, h⟩ := ah_bs h
    refine ro_getI (pc' := 8) ft_621 fk_621 q1329 dX6_product_5 rfl hv1 ?_
    refine ro_if_ge (pc' := 11) (tgt := 66) dX6_product_8 rfl rfl (fun c => ?_) (fun c => ?_)
    · replace h := ah_ip c h
      obtain rfl := Option.some.inj h
      exact ro_vret hκ dX6_product_66
    · replace h := ah_in_ c h
      refine ro_aload_n (pc' := 12) dX6_product_11 rfl rfl rfl ?_
      obtain ⟨u2, hu2, h⟩ := ah_bs h
      obtain ⟨v3, σ4, hv3, h⟩ := ah_bs2 h
      refine ro_callV (pc' := 15) (As := []) (rest := []) (st' := [.int v3]) (by decide) hu2 q1599 sl_X6_look (M_X6_look hv3) q1597 q1600 q104 dd_X6_look rfl ⟨show 1 + 1 ≤ frR + 1 by omega, show 8 + (1 + 11) + 24 ≤ loR + 21 by omega⟩ (Nat.le_of_ble_eq_true rfl) dX6_product_12 rfl rfl rfl ?_
      refine ro_bipush (pc' := 17) dX6_product_15 ib_42 rfl ?_
      refine ro_icmp_eq (pc' := 20) (tgt := 38) dX6_product_17 rfl rfl (fun c => ?_) (fun c => ?_)
      · replace h := ah_ip c h
        exact W_X6_product_38 hκ hF hL h_X6_operand ih _ _ h
      · replace h := ah_in_ c h
        refine ro_aload_n (pc' := 21) dX6_product_20 rfl rfl rfl ?_
        obtain ⟨u5, hu5, h⟩ := ah_bs h
        obtain ⟨v6, σ7, hv6, h⟩ := ah_bs2 h
        refine ro_callV (pc' := 24) (As := []) (rest := []) (st' := [.int v6]) (by decide) hu5 q1599 sl_X6_look (M_X6_look hv6) q1597 q1600 q104 dd_X6_look rfl ⟨show 1 + 1 ≤ frR + 1 by omega, show 8 + (1 + 11) + 24 ≤ loR + 21 by omega⟩ (Nat.le_of_ble_eq_true rfl) dX6_product_21 rfl rfl rfl ?_
        refine ro_bipush (pc' := 26) dX6_product_24 ib_47 rfl ?_
        refine ro_icmp_eq (pc' := 29) (tgt := 38) dX6_product_26 rfl rfl (fun c => ?_) (fun c => ?_)
        · replace h := ah_ip c h
          exact W_X6_product_38 hκ hF hL h_X6_operand ih _ _ h
        · replace h := ah_in_ c h
          refine ro_aload_n (pc' := 30) dX6_product_29 rfl rfl rfl ?_
          obtain ⟨u8, hu8, h⟩ := ah_bs h
          obtain ⟨v9, σ10, hv9, h⟩ := ah_bs2 h
          refine ro_callV (pc' := 33) (As := []) (rest := []) (st' := [.int v9]) (by decide) hu8 q1599 sl_X6_look (M_X6_look hv9) q1597 q1600 q104 dd_X6_look rfl ⟨show 1 + 1 ≤ frR + 1 by omega, show 8 + (1 + 11) + 24 ≤ loR + 21 by omega⟩ (Nat.le_of_ble_eq_true rfl) dX6_product_30 rfl rfl rfl ?_
          refine ro_bipush (pc' := 35) dX6_product_33 ib_37 rfl ?_
          refine ro_icmp_ne (pc' := 38) (tgt := 66) dX6_product_35 rfl rfl (fun c => ?_) (fun c => ?_)
          · replace h := ah_in_ c h
            obtain rfl := Option.some.inj h
            exact ro_vret hκ dX6_product_66
          · replace h := ah_ip c h
            exact W_X6_product_38 hκ hF hL h_X6_operand ih _ _ h
set_option maxRecDepth 20000 in
set_option maxHeartbeats 4000000 in
theorem W_X6_product {κ : ah_C} {rr : ah_S} (hκ : ah_res κ = (.returned none, rr)) {frR loR : Nat} (hF : 3 ≤ frR) (hL : 68 ≤ loR) {f_X6_operand : ah_S → Option Nat → Option ah_S} (h_X6_operand : ∀ {l : Launch} {D : ah_D} {σ : ah_S} {r0 : Option Nat} {σ1 : ah_S}, f_X6_operand σ r0 = some σ1 → ah_Met l yX6_operand (Cond.code yX6_operand cX6_operand 2 none) frR loR D [va_rf r0] σ (.returned none, σ1)) (σ : ah_S) (r0 : Option Nat) (h : F_X6_product f_X6_operand σ r0 = some rr) : ah_G κ ("LeftAsFoundModel", "product", 2, none, [], (frR + 1), (loR + 21)) cX6_product σ 0 [some (va_rf r0), none] [] := by
  unfold F_X6_product at h
  refine ro_aload_n (pc' := 1) dX6_product_0 rfl rfl rfl ?_
  obtain ⟨u1, hu1, h⟩ := ah_bs h
  obtain ⟨σ2, hσ2, h⟩ := ah_bs h
  refine ro_callV (pc' := 4) (As := []) (rest := []) (st' := []) (by decide) hu1 q1595 sl_X6_operand (h_X6_operand hσ2) q1593 q1596 q104 dd_X6_operand rfl ⟨show frR + 1 ≤ frR + 1 by omega, show 8 + (2 + 11) + loR ≤ loR + 21 by omega⟩ (Nat.le_of_ble_eq_true rfl) dX6_product_1 rfl rfl rfl ?_
  exact W_X6_product_4 hκ hF hL h_X6_operand _ _ _ h
theorem M_X6_product {l : Launch} {D : ah_D} {frR loR : Nat} (hF : 3 ≤ frR) (hL : 68 ≤ loR) {f_X6_operand : ah_S → Option Nat → Option ah_S} (h_X6_operand : ∀ {l : Launch} {D : ah_D} {σ : ah_S} {r0 : Option Nat} {σ1 : ah_S}, f_X6_operand σ r0 = some σ1 → ah_Met l yX6_operand (Cond.code yX6_operand cX6_operand 2 none) frR loR D [va_rf r0] σ (.returned none, σ1)) {σ : ah_S} {r0 : Option Nat} {σ1 : ah_S} (h : F_X6_product f_X6_operand σ r0 = some σ1) : ah_Met l yX6_product (Cond.code yX6_product cX6_product 2 none) (frR + 1) (loR + 21) D [va_rf r0] σ (.returned none, σ1) :=
  ah_ofG (own := "LeftAsFoundModel") (nm := "product") (L0 := [some (va_rf r0), none]) (by decide) rfl rfl rfl (ah_ao_1 (ah_rf_cat _) (ah_ao_n ah_ao_0)) (fun κ hκ => W_X6_product hκ hF hL h_X6_operand σ r0 h)
set_option maxRecDepth 20000 in
set_option maxHeartbeats 4000000 in
theorem W_X6_sum_29 {κ : ah_C} {rr : ah_S} (hκ : ah_res κ = (.returned none, rr)) {frR loR : Nat} (hF : 3 ≤ frR) (hL : 68 ≤ loR) {f_X6_product : ah_S → Option Nat → Option ah_S} (h_X6_product : ∀ {l : Launch} {D : ah_D} {σ : ah_S} {r0 : Option Nat} {σ1 : ah_S}, f_X6_product σ r0 = some σ1 → ah_Met l yX6_product (Cond.code yX6_product cX6_product 2 none) frR loR D [va_rf r0] σ (.returned none, σ1)) {k4 : ah_S → Option Nat → Option ah_S} (hk4 : ∀ (σ : ah_S) (r0 : Option Nat), k4 σ r0 = some rr → ah_G κ ("LeftAsFoundModel", "sum", 2, none, [], (frR + 1), (loR + 21)) cX6_sum σ 4 [some (va_rf r0), none] []) : ∀ (σ : ah_S) (r0 : Option Nat), F_X6_sum_29 f_X6_product k4 σ r0 = some rr → ah_G κ ("LeftAsFoundModel", "sum", 2, none, [], (frR + 1), (loR + 21)) cX6_sum σ 29 [some (va_rf r0), none] [] := by
  intro σ r0 h
  unfold F_X6_sum_29 at h
  refine ro_aload_n (pc' := 30) dX6_sum_29 rfl rfl rfl ?_
  obtain ⟨u1, hu1, h⟩ := ah_bs h
  obtain ⟨v2, σ3, hv2, h⟩ := ah_bs2 h
  refine ro_callV (pc' := 33) (As := []) (rest := []) (st' := [.int v2]) (by decide) hu1 q1599 sl_X6_look (M_X6_look hv2) q1597 q1600 q104 dd_X6_look rfl ⟨show 1 + 1 ≤ frR + 1 by omega, show 8 + (1 + 11) + 24 ≤ loR + 21 by omega⟩ (Nat.le_of_ble_eq_true rfl) dX6_sum_30 rfl rfl rfl ?_
  refine ro_istore_n (pc' := 34) (L' := [some (va_rf r0), some (.int v2)]) dX6_sum_33 rfl (Nat.le_of_ble_eq_true rfl) rfl (ah_okp_r _) rfl ?_
  refine ro_aload_n (pc' := 35) dX6_sum_34 rfl rfl rfl ?_
  refine ro_dup (pc' := 36) dX6_sum_35 (ah_rf_cat _) rfl ?_
  obtain ⟨v4, hv4, h⟩ := ah_bs h
  refine ro_getI (pc' := 39) ft_620 fk_620 q1328 dX6_sum_36 rfl hv4 ?_
  refine ro_iconst (pc' := 40) dX6_sum_39 ic_1 rfl ?_
  refine ro_iadd (pc' := 41) dX6_sum_40 rfl ?_
  obtain ⟨σ5, hσ5, h⟩ := ah_bs h
  refine ro_putI (pc' := 44) ft_620 fk_620 q1328 pd_620 dX6_sum_41 rfl hσ5 ?_
  refine ro_aload_n (pc' := 45) dX6_sum_44 rfl rfl rfl ?_
  obtain ⟨u6, hu6, h⟩ := ah_bs h
  obtain ⟨σ7, hσ7, h⟩ := ah_bs h
  refine ro_callV (pc' := 48) (As := []) (rest := []) (st' := []) (by decide) hu6 q1591 sl_X6_product (h_X6_product hσ7) q1589 q1592 q104 dd_X6_product rfl ⟨show frR + 1 ≤ frR + 1 by omega, show 8 + (2 + 11) + loR ≤ loR + 21 by omega⟩ (Nat.le_of_ble_eq_true rfl) dX6_sum_45 rfl rfl rfl ?_
  refine ro_aload_n (pc' := 49) dX6_sum_48 rfl rfl rfl ?_
  refine ro_iload_n (pc' := 50) dX6_sum_49 rfl rfl rfl ?_
  refine ro_iconst (pc' := 51) dX6_sum_50 ic_0 rfl ?_
  obtain ⟨u8, hu8, h⟩ := ah_bs h
  obtain ⟨σ9, hσ9, h⟩ := ah_bs h
  refine ro_callV (pc' := 54) (As := [.int v2, .int (0 : Int32)]) (rest := []) (st' := []) (by decide) hu8 q1606 sl_X6_addStep (M_X6_addStep hσ9) q1604 q1607 q104 dd_X6_addStep rfl ⟨show 1 + 1 ≤ frR + 1 by omega, show 8 + (3 + 11) + 24 ≤ loR + 21 by omega⟩ (Nat.le_of_ble_eq_true rfl) dX6_sum_51 rfl rfl rfl ?_
  refine ro_goto (tgt := 4) dX6_sum_54 rfl ?_
  refine ro_weak (L' := [some (va_rf r0), none]) (ah_ls_s (ah_ls_n ah_ls_0)) ?_
  exact hk4 _ _ h
set_option maxRecDepth 20000 in
set_option maxHeartbeats 4000000 in
theorem W_X6_sum_4 {κ : ah_C} {rr : ah_S} (hκ : ah_res κ = (.returned none, rr)) {frR loR : Nat} (hF : 3 ≤ frR) (hL : 68 ≤ loR) {f_X6_product : ah_S → Option Nat → Option ah_S} (h_X6_product : ∀ {l : Launch} {D : ah_D} {σ : ah_S} {r0 : Option Nat} {σ1 : ah_S}, f_X6_product σ r0 = some σ1 → ah_Met l yX6_product (Cond.code yX6_product cX6_product 2 none) frR loR D [va_rf r0] σ (.returned none, σ1))   : ∀ (n : Nat) (σ : ah_S) (r0 : Option Nat), F_X6_sum_4 f_X6_product n σ r0 = some rr → ah_G κ ("LeftAsFoundModel", "sum", 2, none, [], (frR + 1), (loR + 21)) cX6_sum σ 4 [some (va_rf r0), none] [] := by
  intro n
  induction n with
  | zero => intro σ r0 h; cases h
  | succ n ih =>
    intro σ r0 h
    rw [F_X6_sum_4] at h
    refine ro_aload_n (pc' := 5) dX6_sum_4 rfl rfl rfl ?_
    obtain ⟨v1, hv1, h⟩ := ah_bs h
    refine ro_getI (pc' := 8) ft_621 fk_621 q1329 dX6_sum_5 rfl hv1 ?_
    refine ro_if_ge (pc' := 11) (tgt := 57) dX6_sum_8 rfl rfl (fun c => ?_) (fun c => ?_)
    · replace h := ah_ip c h
      obtain rfl := Option.some.inj h
      exact ro_vret hκ dX6_sum_57
    · replace h := ah_in_ c h
      refine ro_aload_n (pc' := 12) dX6_sum_11 rfl rfl rfl ?_
      obtain ⟨u2, hu2, h⟩ := ah_bs h
      obtain ⟨v3, σ4, hv3, h⟩ := ah_bs2 h
      refine ro_callV (pc' := 15) (As := []) (rest := []) (st' := [.int v3]) (by decide) hu2 q1599 sl_X6_look (M_X6_look hv3) q1597 q1600 q104 dd_X6_look rfl ⟨show 1 + 1 ≤ frR + 1 by omega, show 8 + (1 + 11) + 24 ≤ loR + 21 by omega⟩ (Nat.le_of_ble_eq_true rfl) dX6_sum_12 rfl rfl rfl ?_
      refine ro_bipush (pc' := 17) dX6_sum_15 ib_43 rfl ?_
      refine ro_icmp_eq (pc' := 20) (tgt := 29) dX6_sum_17 rfl rfl (fun c => ?_) (fun c => ?_)
      · replace h := ah_ip c h
        exact W_X6_sum_29 hκ hF hL h_X6_product ih _ _ h
      · replace h := ah_in_ c h
        refine ro_aload_n (pc' := 21) dX6_sum_20 rfl rfl rfl ?_
        obtain ⟨u5, hu5, h⟩ := ah_bs h
        obtain ⟨v6, σ7, hv6, h⟩ := ah_bs2 h
        refine ro_callV (pc' := 24) (As := []) (rest := []) (st' := [.int v6]) (by decide) hu5 q1599 sl_X6_look (M_X6_look hv6) q1597 q1600 q104 dd_X6_look rfl ⟨show 1 + 1 ≤ frR + 1 by omega, show 8 + (1 + 11) + 24 ≤ loR + 21 by omega⟩ (Nat.le_of_ble_eq_true rfl) dX6_sum_21 rfl rfl rfl ?_
        refine ro_bipush (pc' := 26) dX6_sum_24 ib_45 rfl ?_
        refine ro_icmp_ne (pc' := 29) (tgt := 57) dX6_sum_26 rfl rfl (fun c => ?_) (fun c => ?_)
        · replace h := ah_in_ c h
          obtain rfl := Option.some.inj h
          exact ro_vret hκ dX6_sum_57
        · replace h := ah_ip c h
          exact W_X6_sum_29 hκ hF hL h_X6_product ih _ _ h
set_option maxRecDepth 20000 in
set_option maxHeartbeats 4000000 in
theorem W_X6_sum {κ : ah_C} {rr : ah_S} (hκ : ah_res κ = (.returned none, rr)) {frR loR : Nat} (hF : 3 ≤ frR) (hL : 68 ≤ loR) {f_X6_product : ah_S → Option Nat → Option ah_S} (h_X6_product : ∀ {l : Launch} {D : ah_D} {σ : ah_S} {r0 : Option Nat} {σ1 : ah_S}, f_X6_product σ r0 = some σ1 → ah_Met l yX6_product (Cond.code yX6_product cX6_product 2 none) frR loR D [va_rf r0] σ (.returned none, σ1)) (σ : ah_S) (r0 : Option Nat) (h : F_X6_sum f_X6_product σ r0 = some rr) : ah_G κ ("LeftAsFoundModel", "sum", 2, none, [], (frR + 1), (loR + 21)) cX6_sum σ 0 [some (va_rf r0), none] [] := by
  unfold F_X6_sum at h
  refine ro_aload_n (pc' := 1) dX6_sum_0 rfl rfl rfl ?_
  obtain ⟨u1, hu1, h⟩ := ah_bs h
  obtain ⟨σ2, hσ2, h⟩ := ah_bs h
  refine ro_callV (pc' := 4) (As := []) (rest := []) (st' := []) (by decide) hu1 q1591 sl_X6_product (h_X6_product hσ2) q1589 q1592 q104 dd_X6_product rfl ⟨show frR + 1 ≤ frR + 1 by omega, show 8 + (2 + 11) + loR ≤ loR + 21 by omega⟩ (Nat.le_of_ble_eq_true rfl) dX6_sum_1 rfl rfl rfl ?_
  exact W_X6_sum_4 hκ hF hL h_X6_product _ _ _ h
theorem M_X6_sum {l : Launch} {D : ah_D} {frR loR : Nat} (hF : 3 ≤ frR) (hL : 68 ≤ loR) {f_X6_product : ah_S → Option Nat → Option ah_S} (h_X6_product : ∀ {l : Launch} {D : ah_D} {σ : ah_S} {r0 : Option Nat} {σ1 : ah_S}, f_X6_product σ r0 = some σ1 → ah_Met l yX6_product (Cond.code yX6_product cX6_product 2 none) frR loR D [va_rf r0] σ (.returned none, σ1)) {σ : ah_S} {r0 : Option Nat} {σ1 : ah_S} (h : F_X6_sum f_X6_product σ r0 = some σ1) : ah_Met l yX6_sum (Cond.code yX6_sum cX6_sum 2 none) (frR + 1) (loR + 21) D [va_rf r0] σ (.returned none, σ1) :=
  ah_ofG (own := "LeftAsFoundModel") (nm := "sum") (L0 := [some (va_rf r0), none]) (by decide) rfl rfl rfl (ah_ao_1 (ah_rf_cat _) (ah_ao_n ah_ao_0)) (fun κ hκ => W_X6_sum hκ hF hL h_X6_product σ r0 h)
set_option maxRecDepth 20000 in
set_option maxHeartbeats 4000000 in
theorem W_X6_compared {κ : ah_C} {rr : ah_S} (hκ : ah_res κ = (.returned none, rr)) {frR loR : Nat} (hF : 3 ≤ frR) (hL : 68 ≤ loR) {f_X6_sum : ah_S → Option Nat → Option ah_S} (h_X6_sum : ∀ {l : Launch} {D : ah_D} {σ : ah_S} {r0 : Option Nat} {σ1 : ah_S}, f_X6_sum σ r0 = some σ1 → ah_Met l yX6_sum (Cond.code yX6_sum cX6_sum 2 none) frR loR D [va_rf r0] σ (.returned none, σ1)) (σ : ah_S) (r0 : Option Nat) (h : F_X6_compared f_X6_sum σ r0 = some rr) : ah_G κ ("LeftAsFoundModel", "compared", 2, none, [], (frR + 1), (loR + 21)) cX6_compared σ 0 [some (va_rf r0), none] [] := by
  unfold F_X6_compared at h
  refine ro_aload_n (pc' := 1) dX6_compared_0 rfl rfl rfl ?_
  obtain ⟨u1, hu1, h⟩ := ah_bs h
  obtain ⟨σ2, hσ2, h⟩ := ah_bs h
  refine ro_callV (pc' := 4) (As := []) (rest := []) (st' := []) (by decide) hu1 q1587 sl_X6_sum (h_X6_sum hσ2) q1585 q1588 q104 dd_X6_sum rfl ⟨show frR + 1 ≤ frR + 1 by omega, show 8 + (2 + 11) + loR ≤ loR + 21 by omega⟩ (Nat.le_of_ble_eq_true rfl) dX6_compared_1 rfl rfl rfl ?_
  refine ro_aload_n (pc' := 5) dX6_compared_4 rfl rfl rfl ?_
  obtain ⟨u3, hu3, h⟩ := ah_bs h
  obtain ⟨v4, σ5, hv4, h⟩ := ah_bs2 h
  refine ro_callV (pc' := 8) (As := []) (rest := []) (st' := [.int v4]) (by decide) hu3 q1599 sl_X6_look (M_X6_look hv4) q1597 q1600 q104 dd_X6_look rfl ⟨show 1 + 1 ≤ frR + 1 by omega, show 8 + (1 + 11) + 24 ≤ loR + 21 by omega⟩ (Nat.le_of_ble_eq_true rfl) dX6_compared_5 rfl rfl rfl ?_
  refine ro_istore_n (pc' := 9) (L' := [some (va_rf r0), some (.int v4)]) dX6_compared_8 rfl (Nat.le_of_ble_eq_true rfl) rfl (ah_okp_r _) rfl ?_
  refine ro_aload_n (pc' := 10) dX6_compared_9 rfl rfl rfl ?_
  obtain ⟨v6, hv6, h⟩ := ah_bs h
  refine ro_getI (pc' := 13) ft_621 fk_621 q1329 dX6_compared_10 rfl hv6 ?_
  refine ro_if_ge (pc' := 16) (tgt := 34) dX6_compared_13 rfl rfl (fun c => ?_) (fun c => ?_)
  · replace h := ah_ip c h
    obtain rfl := Option.some.inj h
    exact ro_vret hκ dX6_compared_34
  · replace h := ah_in_ c h
    refine ro_iload_n (pc' := 17) dX6_compared_16 rfl rfl rfl ?_
    refine ro_bipush (pc' := 19) dX6_compared_17 ib_60 rfl ?_
    refine ro_icmp_eq (pc' := 22) (tgt := 35) dX6_compared_19 rfl rfl (fun c => ?_) (fun c => ?_)
    · replace h := ah_ip c h
      refine ro_aload_n (pc' := 36) dX6_compared_35 rfl rfl rfl ?_
      refine ro_dup (pc' := 37) dX6_compared_36 (ah_rf_cat _) rfl ?_
      obtain ⟨v7, hv7, h⟩ := ah_bs h
      refine ro_getI (pc' := 40) ft_620 fk_620 q1328 dX6_compared_37 rfl hv7 ?_
      refine ro_iconst (pc' := 41) dX6_compared_40 ic_1 rfl ?_
      refine ro_iadd (pc' := 42) dX6_compared_41 rfl ?_
      obtain ⟨σ8, hσ8, h⟩ := ah_bs h
      refine ro_putI (pc' := 45) ft_620 fk_620 q1328 pd_620 dX6_compared_42 rfl hσ8 ?_
      refine ro_aload_n (pc' := 46) dX6_compared_45 rfl rfl rfl ?_
      obtain ⟨u9, hu9, h⟩ := ah_bs h
      obtain ⟨σ10, hσ10, h⟩ := ah_bs h
      refine ro_callV (pc' := 49) (As := []) (rest := []) (st' := []) (by decide) hu9 q1587 sl_X6_sum (h_X6_sum hσ10) q1585 q1588 q104 dd_X6_sum rfl ⟨show frR + 1 ≤ frR + 1 by omega, show 8 + (2 + 11) + loR ≤ loR + 21 by omega⟩ (Nat.le_of_ble_eq_true rfl) dX6_compared_46 rfl rfl rfl ?_
      refine ro_aload_n (pc' := 50) dX6_compared_49 rfl rfl rfl ?_
      refine ro_iload_n (pc' := 51) dX6_compared_50 rfl rfl rfl ?_
      refine ro_iconst (pc' := 52) dX6_compared_51 ic_0 rfl ?_
      obtain ⟨u11, hu11, h⟩ := ah_bs h
      obtain ⟨σ12, hσ12, h⟩ := ah_bs h
      refine ro_callV (pc' := 55) (As := [.int v4, .int (0 : Int32)]) (rest := []) (st' := []) (by decide) hu11 q1606 sl_X6_addStep (M_X6_addStep hσ12) q1604 q1607 q104 dd_X6_addStep rfl ⟨show 1 + 1 ≤ frR + 1 by omega, show 8 + (3 + 11) + 24 ≤ loR + 21 by omega⟩ (Nat.le_of_ble_eq_true rfl) dX6_compared_52 rfl rfl rfl ?_
      obtain rfl := Option.some.inj h
      exact ro_vret hκ dX6_compared_55
    · replace h := ah_in_ c h
      refine ro_iload_n (pc' := 23) dX6_compared_22 rfl rfl rfl ?_
      refine ro_bipush (pc' := 25) dX6_compared_23 ib_61 rfl ?_
      refine ro_icmp_eq (pc' := 28) (tgt := 35) dX6_compared_25 rfl rfl (fun c => ?_) (fun c => ?_)
      · replace h := ah_ip c h
        refine ro_aload_n (pc' := 36) dX6_compared_35 rfl rfl rfl ?_
        refine ro_dup (pc' := 37) dX6_compared_36 (ah_rf_cat _) rfl ?_
        obtain ⟨v13, hv13, h⟩ := ah_bs h
        refine ro_getI (pc' := 40) ft_620 fk_620 q1328 dX6_compared_37 rfl hv13 ?_
        refine ro_iconst (pc' := 41) dX6_compared_40 ic_1 rfl ?_
        refine ro_iadd (pc' := 42) dX6_compared_41 rfl ?_
        obtain ⟨σ14, hσ14, h⟩ := ah_bs h
        refine ro_putI (pc' := 45) ft_620 fk_620 q1328 pd_620 dX6_compared_42 rfl hσ14 ?_
        refine ro_aload_n (pc' := 46) dX6_compared_45 rfl rfl rfl ?_
        obtain ⟨u15, hu15, h⟩ := ah_bs h
        obtain ⟨σ16, hσ16, h⟩ := ah_bs h
        refine ro_callV (pc' := 49) (As := []) (rest := []) (st' := []) (by decide) hu15 q1587 sl_X6_sum (h_X6_sum hσ16) q1585 q1588 q104 dd_X6_sum rfl ⟨show frR + 1 ≤ frR + 1 by omega, show 8 + (2 + 11) + loR ≤ loR + 21 by omega⟩ (Nat.le_of_ble_eq_true rfl) dX6_compared_46 rfl rfl rfl ?_
        refine ro_aload_n (pc' := 50) dX6_compared_49 rfl rfl rfl ?_
        refine ro_iload_n (pc' := 51) dX6_compared_50 rfl rfl rfl ?_
        refine ro_iconst (pc' := 52) dX6_compared_51 ic_0 rfl ?_
        obtain ⟨u17, hu17, h⟩ := ah_bs h
        obtain ⟨σ18, hσ18, h⟩ := ah_bs h
        refine ro_callV (pc' := 55) (As := [.int v4, .int (0 : Int32)]) (rest := []) (st' := []) (by decide) hu17 q1606 sl_X6_addStep (M_X6_addStep hσ18) q1604 q1607 q104 dd_X6_addStep rfl ⟨show 1 + 1 ≤ frR + 1 by omega, show 8 + (3 + 11) + 24 ≤ loR + 21 by omega⟩ (Nat.le_of_ble_eq_true rfl) dX6_compared_52 rfl rfl rfl ?_
        obtain rfl := Option.some.inj h
        exact ro_vret hκ dX6_compared_55
      · replace h := ah_in_ c h
        refine ro_iload_n (pc' := 29) dX6_compared_28 rfl rfl rfl ?_
        refine ro_bipush (pc' := 31) dX6_compared_29 ib_62 rfl ?_
        refine ro_icmp_eq (pc' := 34) (tgt := 35) dX6_compared_31 rfl rfl (fun c => ?_) (fun c => ?_)
        · replace h := ah_ip c h
          refine ro_aload_n (pc' := 36) dX6_compared_35 rfl rfl rfl ?_
          refine ro_dup (pc' := 37) dX6_compared_36 (ah_rf_cat _) rfl ?_
          obtain ⟨v19, hv19, h⟩ := ah_bs h
          refine ro_getI (pc' := 40) ft_620 fk_620 q1328 dX6_compared_37 rfl hv19 ?_
          refine ro_iconst (pc' := 41) dX6_compared_40 ic_1 rfl ?_
          refine ro_iadd (pc' := 42) dX6_compared_41 rfl ?_
          obtain ⟨σ20, hσ20, h⟩ := ah_bs h
          refine ro_putI (pc' := 45) ft_620 fk_620 q1328 pd_620 dX6_compared_42 rfl hσ20 ?_
          refine ro_aload_n (pc' := 46) dX6_compared_45 rfl rfl rfl ?_
          obtain ⟨u21, hu21, h⟩ := ah_bs h
          obtain ⟨σ22, hσ22, h⟩ := ah_bs h
          refine ro_callV (pc' := 49) (As := []) (rest := []) (st' := []) (by decide) hu21 q1587 sl_X6_sum (h_X6_sum hσ22) q1585 q1588 q104 dd_X6_sum rfl ⟨show frR + 1 ≤ frR + 1 by omega, show 8 + (2 + 11) + loR ≤ loR + 21 by omega⟩ (Nat.le_of_ble_eq_true rfl) dX6_compared_46 rfl rfl rfl ?_
          refine ro_aload_n (pc' := 50) dX6_compared_49 rfl rfl rfl ?_
          refine ro_iload_n (pc' := 51) dX6_compared_50 rfl rfl rfl ?_
          refine ro_iconst (pc' := 52) dX6_compared_51 ic_0 rfl ?_
          obtain ⟨u23, hu23, h⟩ := ah_bs h
          obtain ⟨σ24, hσ24, h⟩ := ah_bs h
          refine ro_callV (pc' := 55) (As := [.int v4, .int (0 : Int32)]) (rest := []) (st' := []) (by decide) hu23 q1606 sl_X6_addStep (M_X6_addStep hσ24) q1604 q1607 q104 dd_X6_addStep rfl ⟨show 1 + 1 ≤ frR + 1 by omega, show 8 + (3 + 11) + 24 ≤ loR + 21 by omega⟩ (Nat.le_of_ble_eq_true rfl) dX6_compared_52 rfl rfl rfl ?_
          obtain rfl := Option.some.inj h
          exact ro_vret hκ dX6_compared_55
        · replace h := ah_in_ c h
          obtain rfl := Option.some.inj h
          exact ro_vret hκ dX6_compared_34
theorem M_X6_compared {l : Launch} {D : ah_D} {frR loR : Nat} (hF : 3 ≤ frR) (hL : 68 ≤ loR) {f_X6_sum : ah_S → Option Nat → Option ah_S} (h_X6_sum : ∀ {l : Launch} {D : ah_D} {σ : ah_S} {r0 : Option Nat} {σ1 : ah_S}, f_X6_sum σ r0 = some σ1 → ah_Met l yX6_sum (Cond.code yX6_sum cX6_sum 2 none) frR loR D [va_rf r0] σ (.returned none, σ1)) {σ : ah_S} {r0 : Option Nat} {σ1 : ah_S} (h : F_X6_compared f_X6_sum σ r0 = some σ1) : ah_Met l yX6_compared (Cond.code yX6_compared cX6_compared 2 none) (frR + 1) (loR + 21) D [va_rf r0] σ (.returned none, σ1) :=
  ah_ofG (own := "LeftAsFoundModel") (nm := "compared") (L0 := [some (va_rf r0), none]) (by decide) rfl rfl rfl (ah_ao_1 (ah_rf_cat _) (ah_ao_n ah_ao_0)) (fun κ hκ => W_X6_compared hκ hF hL h_X6_sum σ r0 h)
set_option maxRecDepth 20000 in
set_option maxHeartbeats 4000000 in
theorem W_X6_both_4 {κ : ah_C} {rr : ah_S} (hκ : ah_res κ = (.returned none, rr)) {frR loR : Nat} (hF : 3 ≤ frR) (hL : 68 ≤ loR) {f_X6_compared : ah_S → Option Nat → Option ah_S} (h_X6_compared : ∀ {l : Launch} {D : ah_D} {σ : ah_S} {r0 : Option Nat} {σ1 : ah_S}, f_X6_compared σ r0 = some σ1 → ah_Met l yX6_compared (Cond.code yX6_compared cX6_compared 2 none) frR loR D [va_rf r0] σ (.returned none, σ1))   : ∀ (n : Nat) (σ : ah_S) (r0 : Option Nat), F_X6_both_4 f_X6_compared n σ r0 = some rr → ah_G κ ("LeftAsFoundModel", "both", 1, none, [], (frR + 1), (loR + 21)) cX6_both σ 4 [some (va_rf r0)] [] := by
  intro n
  induction n with
  | zero => intro σ r0 h; cases h
  | succ n ih =>
    intro σ r0 h
    rw [F_X6_both_4] at h
    refine ro_aload_n (pc' := 5) dX6_both_4 rfl rfl rfl ?_
    obtain ⟨v1, hv1, h⟩ := ah_bs h
    refine ro_getI (pc' := 8) ft_621 fk_621 q1329 dX6_both_5 rfl hv1 ?_
    refine ro_if_ge (pc' := 11) (tgt := 44) dX6_both_8 rfl rfl (fun c => ?_) (fun c => ?_)
    · replace h := ah_ip c h
      obtain rfl := Option.some.inj h
      exact ro_vret hκ dX6_both_44
    · replace h := ah_in_ c h
      refine ro_aload_n (pc' := 12) dX6_both_11 rfl rfl rfl ?_
      obtain ⟨u2, hu2, h⟩ := ah_bs h
      obtain ⟨v3, σ4, hv3, h⟩ := ah_bs2 h
      refine ro_callV (pc' := 15) (As := []) (rest := []) (st' := [.int v3]) (by decide) hu2 q1599 sl_X6_look (M_X6_look hv3) q1597 q1600 q104 dd_X6_look rfl ⟨show 1 + 1 ≤ frR + 1 by omega, show 8 + (1 + 11) + 24 ≤ loR + 21 by omega⟩ (Nat.le_of_ble_eq_true rfl) dX6_both_12 rfl rfl rfl ?_
      refine ro_bipush (pc' := 17) dX6_both_15 ib_38 rfl ?_
      refine ro_icmp_ne (pc' := 20) (tgt := 44) dX6_both_17 rfl rfl (fun c => ?_) (fun c => ?_)
      · replace h := ah_in_ c h
        obtain rfl := Option.some.inj h
        exact ro_vret hκ dX6_both_44
      · replace h := ah_ip c h
        refine ro_aload_n (pc' := 21) dX6_both_20 rfl rfl rfl ?_
        refine ro_dup (pc' := 22) dX6_both_21 (ah_rf_cat _) rfl ?_
        obtain ⟨v5, hv5, h⟩ := ah_bs h
        refine ro_getI (pc' := 25) ft_620 fk_620 q1328 dX6_both_22 rfl hv5 ?_
        refine ro_iconst (pc' := 26) dX6_both_25 ic_1 rfl ?_
        refine ro_iadd (pc' := 27) dX6_both_26 rfl ?_
        obtain ⟨σ6, hσ6, h⟩ := ah_bs h
        refine ro_putI (pc' := 30) ft_620 fk_620 q1328 pd_620 dX6_both_27 rfl hσ6 ?_
        refine ro_aload_n (pc' := 31) dX6_both_30 rfl rfl rfl ?_
        obtain ⟨u7, hu7, h⟩ := ah_bs h
        obtain ⟨σ8, hσ8, h⟩ := ah_bs h
        refine ro_callV (pc' := 34) (As := []) (rest := []) (st' := []) (by decide) hu7 q1583 sl_X6_compared (h_X6_compared hσ8) q1581 q1584 q104 dd_X6_compared rfl ⟨show frR + 1 ≤ frR + 1 by omega, show 8 + (2 + 11) + loR ≤ loR + 21 by omega⟩ (Nat.le_of_ble_eq_true rfl) dX6_both_31 rfl rfl rfl ?_
        refine ro_aload_n (pc' := 35) dX6_both_34 rfl rfl rfl ?_
        refine ro_bipush (pc' := 37) dX6_both_35 ib_38 rfl ?_
        refine ro_iconst (pc' := 38) dX6_both_37 ic_0 rfl ?_
        obtain ⟨u9, hu9, h⟩ := ah_bs h
        obtain ⟨σ10, hσ10, h⟩ := ah_bs h
        refine ro_callV (pc' := 41) (As := [.int (38 : Int32), .int (0 : Int32)]) (rest := []) (st' := []) (by decide) hu9 q1606 sl_X6_addStep (M_X6_addStep hσ10) q1604 q1607 q104 dd_X6_addStep rfl ⟨show 1 + 1 ≤ frR + 1 by omega, show 8 + (3 + 11) + 24 ≤ loR + 21 by omega⟩ (Nat.le_of_ble_eq_true rfl) dX6_both_38 rfl rfl rfl ?_
        refine ro_goto (tgt := 4) dX6_both_41 rfl ?_
        exact ih _ _ h
set_option maxRecDepth 20000 in
set_option maxHeartbeats 4000000 in
theorem W_X6_both {κ : ah_C} {rr : ah_S} (hκ : ah_res κ = (.returned none, rr)) {frR loR : Nat} (hF : 3 ≤ frR) (hL : 68 ≤ loR) {f_X6_compared : ah_S → Option Nat → Option ah_S} (h_X6_compared : ∀ {l : Launch} {D : ah_D} {σ : ah_S} {r0 : Option Nat} {σ1 : ah_S}, f_X6_compared σ r0 = some σ1 → ah_Met l yX6_compared (Cond.code yX6_compared cX6_compared 2 none) frR loR D [va_rf r0] σ (.returned none, σ1)) (σ : ah_S) (r0 : Option Nat) (h : F_X6_both f_X6_compared σ r0 = some rr) : ah_G κ ("LeftAsFoundModel", "both", 1, none, [], (frR + 1), (loR + 21)) cX6_both σ 0 [some (va_rf r0)] [] := by
  unfold F_X6_both at h
  refine ro_aload_n (pc' := 1) dX6_both_0 rfl rfl rfl ?_
  obtain ⟨u1, hu1, h⟩ := ah_bs h
  obtain ⟨σ2, hσ2, h⟩ := ah_bs h
  refine ro_callV (pc' := 4) (As := []) (rest := []) (st' := []) (by decide) hu1 q1583 sl_X6_compared (h_X6_compared hσ2) q1581 q1584 q104 dd_X6_compared rfl ⟨show frR + 1 ≤ frR + 1 by omega, show 8 + (2 + 11) + loR ≤ loR + 21 by omega⟩ (Nat.le_of_ble_eq_true rfl) dX6_both_1 rfl rfl rfl ?_
  exact W_X6_both_4 hκ hF hL h_X6_compared _ _ _ h
theorem M_X6_both {l : Launch} {D : ah_D} {frR loR : Nat} (hF : 3 ≤ frR) (hL : 68 ≤ loR) {f_X6_compared : ah_S → Option Nat → Option ah_S} (h_X6_compared : ∀ {l : Launch} {D : ah_D} {σ : ah_S} {r0 : Option Nat} {σ1 : ah_S}, f_X6_compared σ r0 = some σ1 → ah_Met l yX6_compared (Cond.code yX6_compared cX6_compared 2 none) frR loR D [va_rf r0] σ (.returned none, σ1)) {σ : ah_S} {r0 : Option Nat} {σ1 : ah_S} (h : F_X6_both f_X6_compared σ r0 = some σ1) : ah_Met l yX6_both (Cond.code yX6_both cX6_both 1 none) (frR + 1) (loR + 21) D [va_rf r0] σ (.returned none, σ1) :=
  ah_ofG (own := "LeftAsFoundModel") (nm := "both") (L0 := [some (va_rf r0)]) (by decide) rfl rfl rfl (ah_ao_1 (ah_rf_cat _) ah_ao_0) (fun κ hκ => W_X6_both hκ hF hL h_X6_compared σ r0 h)
set_option maxRecDepth 20000 in
set_option maxHeartbeats 4000000 in
theorem W_X6_either_4 {κ : ah_C} {rr : ah_S} (hκ : ah_res κ = (.returned none, rr)) {frR loR : Nat} (hF : 3 ≤ frR) (hL : 68 ≤ loR) {f_X6_both : ah_S → Option Nat → Option ah_S} (h_X6_both : ∀ {l : Launch} {D : ah_D} {σ : ah_S} {r0 : Option Nat} {σ1 : ah_S}, f_X6_both σ r0 = some σ1 → ah_Met l yX6_both (Cond.code yX6_both cX6_both 1 none) frR loR D [va_rf r0] σ (.returned none, σ1))   : ∀ (n : Nat) (σ : ah_S) (r0 : Option Nat), F_X6_either_4 f_X6_both n σ r0 = some rr → ah_G κ ("LeftAsFoundModel", "either", 1, none, [], (frR + 1), (loR + 21)) cX6_either σ 4 [some (va_rf r0)] [] := by
  intro n
  induction n with
  | zero => intro σ r0 h; cases h
  | succ n ih =>
    intro σ r0 h
    rw [F_X6_either_4] at h
    refine ro_aload_n (pc' := 5) dX6_either_4 rfl rfl rfl ?_
    obtain ⟨v1, hv1, h⟩ := ah_bs h
    refine ro_getI (pc' := 8) ft_621 fk_621 q1329 dX6_either_5 rfl hv1 ?_
    refine ro_if_ge (pc' := 11) (tgt := 44) dX6_either_8 rfl rfl (fun c => ?_) (fun c => ?_)
    · replace h := ah_ip c h
      obtain rfl := Option.some.inj h
      exact ro_vret hκ dX6_either_44
    · replace h := ah_in_ c h
      refine ro_aload_n (pc' := 12) dX6_either_11 rfl rfl rfl ?_
      obtain ⟨u2, hu2, h⟩ := ah_bs h
      obtain ⟨v3, σ4, hv3, h⟩ := ah_bs2 h
      refine ro_callV (pc' := 15) (As := []) (rest := []) (st' := [.int v3]) (by decide) hu2 q1599 sl_X6_look (M_X6_look hv3) q1597 q1600 q104 dd_X6_look rfl ⟨show 1 + 1 ≤ frR + 1 by omega, show 8 + (1 + 11) + 24 ≤ loR + 21 by omega⟩ (Nat.le_of_ble_eq_true rfl) dX6_either_12 rfl rfl rfl ?_
      refine ro_bipush (pc' := 17) dX6_either_15 ib_124 rfl ?_
      refine ro_icmp_ne (pc' := 20) (tgt := 44) dX6_either_17 rfl rfl (fun c => ?_) (fun c => ?_)
      · replace h := ah_in_ c h
        obtain rfl := Option.some.inj h
        exact ro_vret hκ dX6_either_44
      · replace h := ah_ip c h
        refine ro_aload_n (pc' := 21) dX6_either_20 rfl rfl rfl ?_
        refine ro_dup (pc' := 22) dX6_either_21 (ah_rf_cat _) rfl ?_
        obtain ⟨v5, hv5, h⟩ := ah_bs h
        refine ro_getI (pc' := 25) ft_620 fk_620 q1328 dX6_either_22 rfl hv5 ?_
        refine ro_iconst (pc' := 26) dX6_either_25 ic_1 rfl ?_
        refine ro_iadd (pc' := 27) dX6_either_26 rfl ?_
        obtain ⟨σ6, hσ6, h⟩ := ah_bs h
        refine ro_putI (pc' := 30) ft_620 fk_620 q1328 pd_620 dX6_either_27 rfl hσ6 ?_
        refine ro_aload_n (pc' := 31) dX6_either_30 rfl rfl rfl ?_
        obtain ⟨u7, hu7, h⟩ := ah_bs h
        obtain ⟨σ8, hσ8, h⟩ := ah_bs h
        refine ro_callV (pc' := 34) (As := []) (rest := []) (st' := []) (by decide) hu7 q1579 sl_X6_both (h_X6_both hσ8) q1577 q1580 q104 dd_X6_both rfl ⟨show frR + 1 ≤ frR + 1 by omega, show 8 + (1 + 11) + loR ≤ loR + 21 by omega⟩ (Nat.le_of_ble_eq_true rfl) dX6_either_31 rfl rfl rfl ?_
        refine ro_aload_n (pc' := 35) dX6_either_34 rfl rfl rfl ?_
        refine ro_bipush (pc' := 37) dX6_either_35 ib_124 rfl ?_
        refine ro_iconst (pc' := 38) dX6_either_37 ic_0 rfl ?_
        obtain ⟨u9, hu9, h⟩ := ah_bs h
        obtain ⟨σ10, hσ10, h⟩ := ah_bs h
        refine ro_callV (pc' := 41) (As := [.int (124 : Int32), .int (0 : Int32)]) (rest := []) (st' := []) (by decide) hu9 q1606 sl_X6_addStep (M_X6_addStep hσ10) q1604 q1607 q104 dd_X6_addStep rfl ⟨show 1 + 1 ≤ frR + 1 by omega, show 8 + (3 + 11) + 24 ≤ loR + 21 by omega⟩ (Nat.le_of_ble_eq_true rfl) dX6_either_38 rfl rfl rfl ?_
        refine ro_goto (tgt := 4) dX6_either_41 rfl ?_
        exact ih _ _ h
set_option maxRecDepth 20000 in
set_option maxHeartbeats 4000000 in
theorem W_X6_either {κ : ah_C} {rr : ah_S} (hκ : ah_res κ = (.returned none, rr)) {frR loR : Nat} (hF : 3 ≤ frR) (hL : 68 ≤ loR) {f_X6_both : ah_S → Option Nat → Option ah_S} (h_X6_both : ∀ {l : Launch} {D : ah_D} {σ : ah_S} {r0 : Option Nat} {σ1 : ah_S}, f_X6_both σ r0 = some σ1 → ah_Met l yX6_both (Cond.code yX6_both cX6_both 1 none) frR loR D [va_rf r0] σ (.returned none, σ1)) (σ : ah_S) (r0 : Option Nat) (h : F_X6_either f_X6_both σ r0 = some rr) : ah_G κ ("LeftAsFoundModel", "either", 1, none, [], (frR + 1), (loR + 21)) cX6_either σ 0 [some (va_rf r0)] [] := by
  unfold F_X6_either at h
  refine ro_aload_n (pc' := 1) dX6_either_0 rfl rfl rfl ?_
  obtain ⟨u1, hu1, h⟩ := ah_bs h
  obtain ⟨σ2, hσ2, h⟩ := ah_bs h
  refine ro_callV (pc' := 4) (As := []) (rest := []) (st' := []) (by decide) hu1 q1579 sl_X6_both (h_X6_both hσ2) q1577 q1580 q104 dd_X6_both rfl ⟨show frR + 1 ≤ frR + 1 by omega, show 8 + (1 + 11) + loR ≤ loR + 21 by omega⟩ (Nat.le_of_ble_eq_true rfl) dX6_either_1 rfl rfl rfl ?_
  exact W_X6_either_4 hκ hF hL h_X6_both _ _ _ h
theorem M_X6_either {l : Launch} {D : ah_D} {frR loR : Nat} (hF : 3 ≤ frR) (hL : 68 ≤ loR) {f_X6_both : ah_S → Option Nat → Option ah_S} (h_X6_both : ∀ {l : Launch} {D : ah_D} {σ : ah_S} {r0 : Option Nat} {σ1 : ah_S}, f_X6_both σ r0 = some σ1 → ah_Met l yX6_both (Cond.code yX6_both cX6_both 1 none) frR loR D [va_rf r0] σ (.returned none, σ1)) {σ : ah_S} {r0 : Option Nat} {σ1 : ah_S} (h : F_X6_either f_X6_both σ r0 = some σ1) : ah_Met l yX6_either (Cond.code yX6_either cX6_either 1 none) (frR + 1) (loR + 21) D [va_rf r0] σ (.returned none, σ1) :=
  ah_ofG (own := "LeftAsFoundModel") (nm := "either") (L0 := [some (va_rf r0)]) (by decide) rfl rfl rfl (ah_ao_1 (ah_rf_cat _) ah_ao_0) (fun κ hκ => W_X6_either hκ hF hL h_X6_both σ r0 h)
theorem N_Mparse (d : Nat) : (∀ {l : Launch} {D : ah_D} {σ : ah_S} {r0 : Option Nat} {σ1 : ah_S}, Z_Mparse d 0 σ r0 = some σ1 → ah_Met l yX6_operand (Cond.code yX6_operand cX6_operand 2 none) (3 + d) (68 + 21 * d) D [va_rf r0] σ (.returned none, σ1)) ∧
    (∀ {l : Launch} {D : ah_D} {σ : ah_S} {r0 : Option Nat} {σ1 : ah_S}, Z_Mparse d 1 σ r0 = some σ1 → ah_Met l yX6_product (Cond.code yX6_product cX6_product 2 none) (3 + d) (68 + 21 * d) D [va_rf r0] σ (.returned none, σ1)) ∧
    (∀ {l : Launch} {D : ah_D} {σ : ah_S} {r0 : Option Nat} {σ1 : ah_S}, Z_Mparse d 2 σ r0 = some σ1 → ah_Met l yX6_sum (Cond.code yX6_sum cX6_sum 2 none) (3 + d) (68 + 21 * d) D [va_rf r0] σ (.returned none, σ1)) ∧
    (∀ {l : Launch} {D : ah_D} {σ : ah_S} {r0 : Option Nat} {σ1 : ah_S}, Z_Mparse d 3 σ r0 = some σ1 → ah_Met l yX6_compared (Cond.code yX6_compared cX6_compared 2 none) (3 + d) (68 + 21 * d) D [va_rf r0] σ (.returned none, σ1)) ∧
    (∀ {l : Launch} {D : ah_D} {σ : ah_S} {r0 : Option Nat} {σ1 : ah_S}, Z_Mparse d 4 σ r0 = some σ1 → ah_Met l yX6_both (Cond.code yX6_both cX6_both 1 none) (3 + d) (68 + 21 * d) D [va_rf r0] σ (.returned none, σ1)) ∧
    (∀ {l : Launch} {D : ah_D} {σ : ah_S} {r0 : Option Nat} {σ1 : ah_S}, Z_Mparse d 5 σ r0 = some σ1 → ah_Met l yX6_either (Cond.code yX6_either cX6_either 1 none) (3 + d) (68 + 21 * d) D [va_rf r0] σ (.returned none, σ1)) := by
  induction d with
  | zero =>
    refine ⟨?_, ?_, ?_, ?_, ?_, ?_⟩ <;> (intro l D σ r0 σ1 h; cases h)
  | succ d ih =>
    obtain ⟨ih0, ih1, ih2, ih3, ih4, ih5⟩ := ih
    rw [show 3 + (d + 1) = (3 + d) + 1 by omega, show 68 + 21 * (d + 1) = (68 + 21 * d) + 21 by omega]
    refine ⟨?_, ?_, ?_, ?_, ?_, ?_⟩
    · intro l D σ r0 σ1 h
      exact M_X6_operand (by omega) (by omega) ih0 ih5 h
    · intro l D σ r0 σ1 h
      exact M_X6_product (by omega) (by omega) ih0 h
    · intro l D σ r0 σ1 h
      exact M_X6_sum (by omega) (by omega) ih1 h
    · intro l D σ r0 σ1 h
      exact M_X6_compared (by omega) (by omega) ih2 h
    · intro l D σ r0 σ1 h
      exact M_X6_both (by omega) (by omega) ih3 h
    · intro l D σ r0 σ1 h
      exact M_X6_either (by omega) (by omega) ih4 h
set_option maxRecDepth 20000 in
set_option maxHeartbeats 4000000 in
theorem W_X6_goOrders_71 {κ : ah_C} {rr : ah_S} (hκ : ah_res κ = (.returned none, rr)) {frR loR : Nat} (hF : 8 ≤ frR) (hL : 188 ≤ loR) {f_X6_goOrders : ah_S → Option Nat → Int32 → Int32 → Int32 → Option ah_S} (h_X6_goOrders : ∀ {l : Launch} {D : ah_D} {σ : ah_S} {r0 : Option Nat} {x1 : Int32} {x2 : Int32} {x3 : Int32} {σ1 : ah_S}, f_X6_goOrders σ r0 x1 x2 x3 = some σ1 → ah_Met l yX6_goOrders (Cond.code yX6_goOrders cX6_goOrders 6 none) frR loR D [va_rf r0, .int x1, .int x2, .int x3] σ (.returned none, σ1))   : ∀ (n : Nat) (σ : ah_S) (r0 : Option Nat) (x2 : Int32) (x5 : Int32), F_X6_goOrders_71 f_X6_goOrders n σ r0 x2 x5 = some rr → ah_G κ ("LeftAsFoundModel", "goOrders", 6, none, [], (frR + 1), (loR + 25)) cX6_goOrders σ 71 [some (va_rf r0), none, some (.int x2), none, none, some (.int x5)] [] := by
  intro n
  induction n with
  | zero => intro σ r0 x2 x5 h; cases h
  | succ n ih =>
    intro σ r0 x2 x5 h
    rw [F_X6_goOrders_71] at h
    refine ro_iload (pc' := 73) dX6_goOrders_71 rfl rfl ?_
    refine ro_iload_n (pc' := 74) dX6_goOrders_73 rfl rfl rfl ?_
    refine ro_icmp_ge (pc' := 77) (tgt := 97) dX6_goOrders_74 rfl rfl (fun c => ?_) (fun c => ?_)
    · replace h := ah_ip c h
      obtain rfl := Option.some.inj h
      exact ro_vret hκ dX6_goOrders_97
    · replace h := ah_in_ c h
      refine ro_aload_n (pc' := 78) dX6_goOrders_77 rfl rfl rfl ?_
      obtain ⟨v1, hv1, h⟩ := ah_bs h
      refine ro_getR (pc' := 81) ft_640 fk_640 q1348 dX6_goOrders_78 rfl hv1 ?_
      refine ro_iload (pc' := 83) dX6_goOrders_81 rfl rfl ?_
      refine ro_aload_n (pc' := 84) dX6_goOrders_83 rfl rfl rfl ?_
      obtain ⟨v2, hv2, h⟩ := ah_bs h
      refine ro_getR (pc' := 87) ft_639 fk_639 q1347 dX6_goOrders_84 rfl hv2 ?_
      refine ro_iload (pc' := 89) dX6_goOrders_87 rfl rfl ?_
      obtain ⟨v3, hv3, h⟩ := ah_bs h
      refine ro_iaload (pc' := 90) dX6_goOrders_89 rfl hv3 ?_
      obtain ⟨σ4, hσ4, h⟩ := ah_bs h
      refine ro_iastore (pc' := 91) dX6_goOrders_90 rfl hσ4 ?_
      refine ro_iinc (pc' := 94) (L' := [some (va_rf r0), none, some (.int x2), none, none, some (.int (x5 + (1 : Int32)))]) dX6_goOrders_91 rfl ic_1 (Nat.le_of_ble_eq_true rfl) rfl ah_okp_u rfl ?_
      refine ro_goto (tgt := 71) dX6_goOrders_94 rfl ?_
      exact ih _ _ _ _ h
set_option maxRecDepth 20000 in
set_option maxHeartbeats 4000000 in
theorem W_X6_goOrders_8 {κ : ah_C} {rr : ah_S} (hκ : ah_res κ = (.returned none, rr)) {frR loR : Nat} (hF : 8 ≤ frR) (hL : 188 ≤ loR) {f_X6_goOrders : ah_S → Option Nat → Int32 → Int32 → Int32 → Option ah_S} (h_X6_goOrders : ∀ {l : Launch} {D : ah_D} {σ : ah_S} {r0 : Option Nat} {x1 : Int32} {x2 : Int32} {x3 : Int32} {σ1 : ah_S}, f_X6_goOrders σ r0 x1 x2 x3 = some σ1 → ah_Met l yX6_goOrders (Cond.code yX6_goOrders cX6_goOrders 6 none) frR loR D [va_rf r0, .int x1, .int x2, .int x3] σ (.returned none, σ1))   : ∀ (n : Nat) (σ : ah_S) (r0 : Option Nat) (x2 : Int32) (x4 : Int32), F_X6_goOrders_8 f_X6_goOrders n σ r0 x2 x4 = some rr → ah_G κ ("LeftAsFoundModel", "goOrders", 6, none, [], (frR + 1), (loR + 25)) cX6_goOrders σ 8 [some (va_rf r0), none, some (.int x2), none, some (.int x4), none] [] := by
  intro n
  induction n with
  | zero => intro σ r0 x2 x4 h; cases h
  | succ n ih =>
    intro σ r0 x2 x4 h
    rw [F_X6_goOrders_8] at h
    refine ro_iload (pc' := 10) dX6_goOrders_8 rfl rfl ?_
    refine ro_iload_n (pc' := 11) dX6_goOrders_10 rfl rfl rfl ?_
    refine ro_icmp_ge (pc' := 14) (tgt := 39) dX6_goOrders_11 rfl rfl (fun c => ?_) (fun c => ?_)
    · replace h := ah_ip c h
      refine ro_aload_n (pc' := 40) dX6_goOrders_39 rfl rfl rfl ?_
      obtain ⟨u1, hu1, h⟩ := ah_bs h
      obtain ⟨v2, σ3, hv2, h⟩ := ah_bs2 h
      refine ro_callV (pc' := 43) (As := []) (rest := []) (st' := [.int v2]) (by decide) hu1 q1681 sl_X6_lossOf (M_X6_lossOf hv2) q1679 q1682 q104 dd_X6_lossOf rfl ⟨show 7 + 1 ≤ frR + 1 by omega, show 8 + (3 + 11) + 166 ≤ loR + 25 by omega⟩ (Nat.le_of_ble_eq_true rfl) dX6_goOrders_40 rfl rfl rfl ?_
      refine ro_istore (pc' := 45) (L' := [some (va_rf r0), none, some (.int x2), none, some (.int v2), none]) dX6_goOrders_43 (Nat.le_of_ble_eq_true rfl) rfl ah_okp_u rfl ?_
      refine ro_aload_n (pc' := 46) dX6_goOrders_45 rfl rfl rfl ?_
      obtain ⟨v4, hv4, h⟩ := ah_bs h
      refine ro_getI (pc' := 49) ft_641 fk_641 q1349 dX6_goOrders_46 rfl hv4 ?_
      refine ro_if_lt (pc' := 52) (tgt := 62) dX6_goOrders_49 rfl rfl (fun c => ?_) (fun c => ?_)
      · replace h := ah_ip c h
        refine ro_aload_n (pc' := 63) dX6_goOrders_62 rfl rfl rfl ?_
        refine ro_iload (pc' := 65) dX6_goOrders_63 rfl rfl ?_
        obtain ⟨σ5, hσ5, h⟩ := ah_bs h
        refine ro_putI (pc' := 68) ft_641 fk_641 q1349 pd_641 dX6_goOrders_65 rfl hσ5 ?_
        refine ro_iconst (pc' := 69) dX6_goOrders_68 ic_0 rfl ?_
        refine ro_istore (pc' := 71) (L' := [some (va_rf r0), none, some (.int x2), none, some (.int v2), some (.int (0 : Int32))]) dX6_goOrders_69 (Nat.le_of_ble_eq_true rfl) rfl (ah_okp_i _) rfl ?_
        refine ro_weak (L' := [some (va_rf r0), none, some (.int x2), none, none, some (.int (0 : Int32))]) (ah_ls_s (ah_ls_s (ah_ls_s (ah_ls_s (ah_ls_n (ah_ls_s ah_ls_0)))))) ?_
        exact W_X6_goOrders_71 hκ hF hL h_X6_goOrders _ _ _ _ _ h
      · replace h := ah_in_ c h
        refine ro_iload (pc' := 54) dX6_goOrders_52 rfl rfl ?_
        refine ro_aload_n (pc' := 55) dX6_goOrders_54 rfl rfl rfl ?_
        obtain ⟨v6, hv6, h⟩ := ah_bs h
        refine ro_getI (pc' := 58) ft_641 fk_641 q1349 dX6_goOrders_55 rfl hv6 ?_
        refine ro_icmp_lt (pc' := 61) (tgt := 62) dX6_goOrders_58 rfl rfl (fun c => ?_) (fun c => ?_)
        · replace h := ah_ip c h
          refine ro_aload_n (pc' := 63) dX6_goOrders_62 rfl rfl rfl ?_
          refine ro_iload (pc' := 65) dX6_goOrders_63 rfl rfl ?_
          obtain ⟨σ7, hσ7, h⟩ := ah_bs h
          refine ro_putI (pc' := 68) ft_641 fk_641 q1349 pd_641 dX6_goOrders_65 rfl hσ7 ?_
          refine ro_iconst (pc' := 69) dX6_goOrders_68 ic_0 rfl ?_
          refine ro_istore (pc' := 71) (L' := [some (va_rf r0), none, some (.int x2), none, some (.int v2), some (.int (0 : Int32))]) dX6_goOrders_69 (Nat.le_of_ble_eq_true rfl) rfl (ah_okp_i _) rfl ?_
          refine ro_weak (L' := [some (va_rf r0), none, some (.int x2), none, none, some (.int (0 : Int32))]) (ah_ls_s (ah_ls_s (ah_ls_s (ah_ls_s (ah_ls_n (ah_ls_s ah_ls_0)))))) ?_
          exact W_X6_goOrders_71 hκ hF hL h_X6_goOrders _ _ _ _ _ h
        · replace h := ah_in_ c h
          obtain rfl := Option.some.inj h
          exact ro_vret hκ dX6_goOrders_61
    · replace h := ah_in_ c h
      refine ro_aload_n (pc' := 15) dX6_goOrders_14 rfl rfl rfl ?_
      obtain ⟨v8, hv8, h⟩ := ah_bs h
      refine ro_getR (pc' := 18) ft_635 fk_635 q1343 dX6_goOrders_15 rfl hv8 ?_
      refine ro_iload (pc' := 20) dX6_goOrders_18 rfl rfl ?_
      refine ro_aload_n (pc' := 21) dX6_goOrders_20 rfl rfl rfl ?_
      obtain ⟨v9, hv9, h⟩ := ah_bs h
      refine ro_getR (pc' := 24) ft_638 fk_638 q1346 dX6_goOrders_21 rfl hv9 ?_
      refine ro_aload_n (pc' := 25) dX6_goOrders_24 rfl rfl rfl ?_
      obtain ⟨v10, hv10, h⟩ := ah_bs h
      refine ro_getR (pc' := 28) ft_639 fk_639 q1347 dX6_goOrders_25 rfl hv10 ?_
      refine ro_iload (pc' := 30) dX6_goOrders_28 rfl rfl ?_
      obtain ⟨v11, hv11, h⟩ := ah_bs h
      refine ro_iaload (pc' := 31) dX6_goOrders_30 rfl hv11 ?_
      obtain ⟨v12, hv12, h⟩ := ah_bs h
      refine ro_iaload (pc' := 32) dX6_goOrders_31 rfl hv12 ?_
      obtain ⟨σ13, hσ13, h⟩ := ah_bs h
      refine ro_iastore (pc' := 33) dX6_goOrders_32 rfl hσ13 ?_
      refine ro_iinc (pc' := 36) (L' := [some (va_rf r0), none, some (.int x2), none, some (.int (x4 + (1 : Int32))), none]) dX6_goOrders_33 rfl ic_1 (Nat.le_of_ble_eq_true rfl) rfl ah_okp_u rfl ?_
      refine ro_goto (tgt := 8) dX6_goOrders_36 rfl ?_
      exact ih _ _ _ _ h
set_option maxRecDepth 20000 in
set_option maxHeartbeats 4000000 in
theorem W_X6_goOrders_101 {κ : ah_C} {rr : ah_S} (hκ : ah_res κ = (.returned none, rr)) {frR loR : Nat} (hF : 8 ≤ frR) (hL : 188 ≤ loR) {f_X6_goOrders : ah_S → Option Nat → Int32 → Int32 → Int32 → Option ah_S} (h_X6_goOrders : ∀ {l : Launch} {D : ah_D} {σ : ah_S} {r0 : Option Nat} {x1 : Int32} {x2 : Int32} {x3 : Int32} {σ1 : ah_S}, f_X6_goOrders σ r0 x1 x2 x3 = some σ1 → ah_Met l yX6_goOrders (Cond.code yX6_goOrders cX6_goOrders 6 none) frR loR D [va_rf r0, .int x1, .int x2, .int x3] σ (.returned none, σ1))   : ∀ (n : Nat) (σ : ah_S) (r0 : Option Nat) (x1 : Int32) (x2 : Int32) (x3 : Int32) (x4 : Int32), F_X6_goOrders_101 f_X6_goOrders n σ r0 x1 x2 x3 x4 = some rr → ah_G κ ("LeftAsFoundModel", "goOrders", 6, none, [], (frR + 1), (loR + 25)) cX6_goOrders σ 101 [some (va_rf r0), some (.int x1), some (.int x2), some (.int x3), some (.int x4), none] [] := by
  intro n
  induction n with
  | zero => intro σ r0 x1 x2 x3 x4 h; cases h
  | succ n ih =>
    intro σ r0 x1 x2 x3 x4 h
    rw [F_X6_goOrders_101] at h
    refine ro_iload (pc' := 103) dX6_goOrders_101 rfl rfl ?_
    refine ro_iload_n (pc' := 104) dX6_goOrders_103 rfl rfl rfl ?_
    refine ro_icmp_ge (pc' := 107) (tgt := 148) dX6_goOrders_104 rfl rfl (fun c => ?_) (fun c => ?_)
    · replace h := ah_ip c h
      obtain rfl := Option.some.inj h
      exact ro_vret hκ dX6_goOrders_148
    · replace h := ah_in_ c h
      refine ro_iload_n (pc' := 108) dX6_goOrders_107 rfl rfl rfl ?_
      refine ro_iload (pc' := 110) dX6_goOrders_108 rfl rfl ?_
      refine ro_ishr (pc' := 111) dX6_goOrders_110 rfl ?_
      refine ro_iconst (pc' := 112) dX6_goOrders_111 ic_1 rfl ?_
      refine ro_iand (pc' := 113) dX6_goOrders_112 rfl ?_
      refine ro_iconst (pc' := 114) dX6_goOrders_113 ic_1 rfl ?_
      refine ro_icmp_ne (pc' := 117) (tgt := 120) dX6_goOrders_114 rfl rfl (fun c => ?_) (fun c => ?_)
      · replace h := ah_in_ c h
        refine ro_aload_n (pc' := 121) dX6_goOrders_120 rfl rfl rfl ?_
        obtain ⟨v1, hv1, h⟩ := ah_bs h
        refine ro_getR (pc' := 124) ft_639 fk_639 q1347 dX6_goOrders_121 rfl hv1 ?_
        refine ro_iload_n (pc' := 125) dX6_goOrders_124 rfl rfl rfl ?_
        refine ro_iload (pc' := 127) dX6_goOrders_125 rfl rfl ?_
        obtain ⟨σ2, hσ2, h⟩ := ah_bs h
        refine ro_iastore (pc' := 128) dX6_goOrders_127 rfl hσ2 ?_
        refine ro_aload_n (pc' := 129) dX6_goOrders_128 rfl rfl rfl ?_
        refine ro_iload_n (pc' := 130) dX6_goOrders_129 rfl rfl rfl ?_
        refine ro_iconst (pc' := 131) dX6_goOrders_130 ic_1 rfl ?_
        refine ro_iadd (pc' := 132) dX6_goOrders_131 rfl ?_
        refine ro_iload_n (pc' := 133) dX6_goOrders_132 rfl rfl rfl ?_
        refine ro_iload_n (pc' := 134) dX6_goOrders_133 rfl rfl rfl ?_
        refine ro_iconst (pc' := 135) dX6_goOrders_134 ic_1 rfl ?_
        refine ro_iload (pc' := 137) dX6_goOrders_135 rfl rfl ?_
        refine ro_ishl (pc' := 138) dX6_goOrders_137 rfl ?_
        refine ro_ior (pc' := 139) dX6_goOrders_138 rfl ?_
        obtain ⟨u3, hu3, h⟩ := ah_bs h
        obtain ⟨σ4, hσ4, h⟩ := ah_bs h
        refine ro_callV (pc' := 142) (As := [.int (x1 + (1 : Int32)), .int x2, .int (x3 ||| ((1 : Int32) <<< (x4 &&& 31)))]) (rest := []) (st' := []) (by decide) hu3 q1734 sl_X6_goOrders (h_X6_goOrders hσ4) q1732 q1735 q104 dd_X6_goOrders rfl ⟨show frR + 1 ≤ frR + 1 by omega, show 8 + (6 + 11) + loR ≤ loR + 25 by omega⟩ (Nat.le_of_ble_eq_true rfl) dX6_goOrders_139 rfl rfl rfl ?_
        refine ro_iinc (pc' := 145) (L' := [some (va_rf r0), some (.int x1), some (.int x2), some (.int x3), some (.int (x4 + (1 : Int32))), none]) dX6_goOrders_142 rfl ic_1 (Nat.le_of_ble_eq_true rfl) rfl (ah_okp_i _) rfl ?_
        refine ro_goto (tgt := 101) dX6_goOrders_145 rfl ?_
        exact ih _ _ _ _ _ _ h
      · replace h := ah_ip c h
        refine ro_goto (tgt := 142) dX6_goOrders_117 rfl ?_
        refine ro_iinc (pc' := 145) (L' := [some (va_rf r0), some (.int x1), some (.int x2), some (.int x3), some (.int (x4 + (1 : Int32))), none]) dX6_goOrders_142 rfl ic_1 (Nat.le_of_ble_eq_true rfl) rfl (ah_okp_i _) rfl ?_
        refine ro_goto (tgt := 101) dX6_goOrders_145 rfl ?_
        exact ih _ _ _ _ _ _ h
set_option maxRecDepth 20000 in
set_option maxHeartbeats 4000000 in
theorem W_X6_goOrders {κ : ah_C} {rr : ah_S} (hκ : ah_res κ = (.returned none, rr)) {frR loR : Nat} (hF : 8 ≤ frR) (hL : 188 ≤ loR) {f_X6_goOrders : ah_S → Option Nat → Int32 → Int32 → Int32 → Option ah_S} (h_X6_goOrders : ∀ {l : Launch} {D : ah_D} {σ : ah_S} {r0 : Option Nat} {x1 : Int32} {x2 : Int32} {x3 : Int32} {σ1 : ah_S}, f_X6_goOrders σ r0 x1 x2 x3 = some σ1 → ah_Met l yX6_goOrders (Cond.code yX6_goOrders cX6_goOrders 6 none) frR loR D [va_rf r0, .int x1, .int x2, .int x3] σ (.returned none, σ1)) (σ : ah_S) (r0 : Option Nat) (x1 : Int32) (x2 : Int32) (x3 : Int32) (h : F_X6_goOrders f_X6_goOrders σ r0 x1 x2 x3 = some rr) : ah_G κ ("LeftAsFoundModel", "goOrders", 6, none, [], (frR + 1), (loR + 25)) cX6_goOrders σ 0 [some (va_rf r0), some (.int x1), some (.int x2), some (.int x3), none, none] [] := by
  unfold F_X6_goOrders at h
  refine ro_iload_n (pc' := 1) dX6_goOrders_0 rfl rfl rfl ?_
  refine ro_iload_n (pc' := 2) dX6_goOrders_1 rfl rfl rfl ?_
  refine ro_icmp_ne (pc' := 5) (tgt := 98) dX6_goOrders_2 rfl rfl (fun c => ?_) (fun c => ?_)
  · replace h := ah_in_ c h
    refine ro_iconst (pc' := 99) dX6_goOrders_98 ic_0 rfl ?_
    refine ro_istore (pc' := 101) (L' := [some (va_rf r0), some (.int x1), some (.int x2), some (.int x3), some (.int (0 : Int32)), none]) dX6_goOrders_99 (Nat.le_of_ble_eq_true rfl) rfl (ah_okp_i _) rfl ?_
    exact W_X6_goOrders_101 hκ hF hL h_X6_goOrders _ _ _ _ _ _ _ h
  · replace h := ah_ip c h
    refine ro_iconst (pc' := 6) dX6_goOrders_5 ic_0 rfl ?_
    refine ro_istore (pc' := 8) (L' := [some (va_rf r0), some (.int x1), some (.int x2), some (.int x3), some (.int (0 : Int32)), none]) dX6_goOrders_6 (Nat.le_of_ble_eq_true rfl) rfl (ah_okp_i _) rfl ?_
    refine ro_weak (L' := [some (va_rf r0), none, some (.int x2), none, some (.int (0 : Int32)), none]) (ah_ls_s (ah_ls_n (ah_ls_s (ah_ls_n (ah_ls_s (ah_ls_s ah_ls_0)))))) ?_
    exact W_X6_goOrders_8 hκ hF hL h_X6_goOrders _ _ _ _ _ h
theorem M_X6_goOrders {l : Launch} {D : ah_D} {frR loR : Nat} (hF : 8 ≤ frR) (hL : 188 ≤ loR) {f_X6_goOrders : ah_S → Option Nat → Int32 → Int32 → Int32 → Option ah_S} (h_X6_goOrders : ∀ {l : Launch} {D : ah_D} {σ : ah_S} {r0 : Option Nat} {x1 : Int32} {x2 : Int32} {x3 : Int32} {σ1 : ah_S}, f_X6_goOrders σ r0 x1 x2 x3 = some σ1 → ah_Met l yX6_goOrders (Cond.code yX6_goOrders cX6_goOrders 6 none) frR loR D [va_rf r0, .int x1, .int x2, .int x3] σ (.returned none, σ1)) {σ : ah_S} {r0 : Option Nat} {x1 : Int32} {x2 : Int32} {x3 : Int32} {σ1 : ah_S} (h : F_X6_goOrders f_X6_goOrders σ r0 x1 x2 x3 = some σ1) : ah_Met l yX6_goOrders (Cond.code yX6_goOrders cX6_goOrders 6 none) (frR + 1) (loR + 25) D [va_rf r0, .int x1, .int x2, .int x3] σ (.returned none, σ1) :=
  ah_ofG (own := "LeftAsFoundModel") (nm := "goOrders") (L0 := [some (va_rf r0), some (.int x1), some (.int x2), some (.int x3), none, none]) (by decide) rfl rfl rfl (ah_ao_1 (ah_rf_cat _) (ah_ao_1 rfl (ah_ao_1 rfl (ah_ao_1 rfl (ah_ao_n (ah_ao_n ah_ao_0)))))) (fun κ hκ => W_X6_goOrders hκ hF hL h_X6_goOrders σ r0 x1 x2 x3 h)
theorem N_X6_goOrders (d : Nat) : ∀ {l : Launch} {D : ah_D} {σ : ah_S} {r0 : Option Nat} {x1 : Int32} {x2 : Int32} {x3 : Int32} {σ1 : ah_S}, Z_X6_goOrders d σ r0 x1 x2 x3 = some σ1 → ah_Met l yX6_goOrders (Cond.code yX6_goOrders cX6_goOrders 6 none) (8 + d) (188 + 25 * d) D [va_rf r0, .int x1, .int x2, .int x3] σ (.returned none, σ1) := by
  induction d with
  | zero => intro l D σ r0 x1 x2 x3 σ1 h; cases h
  | succ d ih =>
    intro l D σ r0 x1 x2 x3 σ1 h
    rw [show 8 + (d + 1) = (8 + d) + 1 by omega, show 188 + 25 * (d + 1) = (188 + 25 * d) + 25 by omega]
    exact M_X6_goOrders (by omega) (by omega) ih h
set_option maxRecDepth 20000 in
set_option maxHeartbeats 4000000 in
theorem W_X6_waysFrom_80 {κ : ah_C} {rr : (Int32 × ah_S)} (hκ : ah_res κ = (.returned (some (.int rr.1)), rr.2)) {frR loR : Nat} (hF : 7 ≤ frR) (hL : 166 ≤ loR) {f_X6_waysFrom : ah_S → Option Nat → Int32 → Int32 → Int32 → Option (Int32 × ah_S)} (h_X6_waysFrom : ∀ {l : Launch} {D : ah_D} {σ : ah_S} {r0 : Option Nat} {x1 : Int32} {x2 : Int32} {x3 : Int32} {v : Int32} {σ1 : ah_S}, f_X6_waysFrom σ r0 x1 x2 x3 = some (v, σ1) → ah_Met l yX6_waysFrom (Cond.code yX6_waysFrom cX6_waysFrom 7 (some FieldType.int)) frR loR D [va_rf r0, .int x1, .int x2, .int x3] σ (.returned (some (.int v)), σ1)) {k48 : ah_S → Option Nat → Int32 → Int32 → Int32 → Int32 → Int32 → Option (Int32 × ah_S)} (hk48 : ∀ (σ : ah_S) (r0 : Option Nat) (x1 : Int32) (x2 : Int32) (x3 : Int32) (x4 : Int32) (x5 : Int32), k48 σ r0 x1 x2 x3 x4 x5 = some rr → ah_G κ ("LeftAsFoundModel", "waysFrom", 7, (some FieldType.int), [], (frR + 1), (loR + 26)) cX6_waysFrom σ 48 [some (va_rf r0), some (.int x1), some (.int x2), some (.int x3), some (.int x4), some (.int x5), none] []) : ∀ (n : Nat) (σ : ah_S) (r0 : Option Nat) (x1 : Int32) (x2 : Int32) (x3 : Int32) (x4 : Int32) (x5 : Int32) (x6 : Int32), F_X6_waysFrom_80 f_X6_waysFrom k48 n σ r0 x1 x2 x3 x4 x5 x6 = some rr → ah_G κ ("LeftAsFoundModel", "waysFrom", 7, (some FieldType.int), [], (frR + 1), (loR + 26)) cX6_waysFrom σ 80 [some (va_rf r0), some (.int x1), some (.int x2), some (.int x3), some (.int x4), some (.int x5), some (.int x6)] [] := by
  intro n
  induction n with
  | zero => intro σ r0 x1 x2 x3 x4 x5 x6 h; cases h
  | succ n ih =>
    intro σ r0 x1 x2 x3 x4 x5 x6 h
    rw [F_X6_waysFrom_80] at h
    refine ro_iload (pc' := 82) dX6_waysFrom_80 rfl rfl ?_
    refine ro_bipush (pc' := 84) dX6_waysFrom_82 ib_48 rfl ?_
    refine ro_icmp_ge (pc' := 87) (tgt := 112) dX6_waysFrom_84 rfl rfl (fun c => ?_) (fun c => ?_)
    · replace h := ah_ip c h
      refine ro_aload_n (pc' := 113) dX6_waysFrom_112 rfl rfl rfl ?_
      refine ro_iload (pc' := 115) dX6_waysFrom_113 rfl rfl ?_
      obtain ⟨u1, hu1, h⟩ := ah_bs h
      obtain ⟨σ2, hσ2, h⟩ := ah_bs h
      refine ro_callV (pc' := 118) (As := [.int x5]) (rest := []) (st' := []) (by decide) hu1 q1638 sl_X6_goNight (M_X6_goNight hσ2) q1636 q1639 q104 dd_X6_goNight rfl ⟨show 6 + 1 ≤ frR + 1 by omega, show 8 + (2 + 11) + 145 ≤ loR + 26 by omega⟩ (Nat.le_of_ble_eq_true rfl) dX6_waysFrom_115 rfl rfl rfl ?_
      refine ro_aload_n (pc' := 119) dX6_waysFrom_118 rfl rfl rfl ?_
      obtain ⟨v3, hv3, h⟩ := ah_bs h
      refine ro_getR (pc' := 122) ft_643 fk_643 q1351 dX6_waysFrom_119 rfl hv3 ?_
      refine ro_iload_n (pc' := 123) dX6_waysFrom_122 rfl rfl rfl ?_
      obtain ⟨v4, hv4, h⟩ := ah_bs h
      refine ro_iaload (pc' := 124) dX6_waysFrom_123 rfl hv4 ?_
      refine ro_iconst (pc' := 125) dX6_waysFrom_124 ic_m1 rfl ?_
      refine ro_icmp_eq (pc' := 128) (tgt := 143) dX6_waysFrom_125 rfl rfl (fun c => ?_) (fun c => ?_)
      · replace h := ah_ip c h
        refine ro_iload (pc' := 145) dX6_waysFrom_143 rfl rfl ?_
        refine ro_aload_n (pc' := 146) dX6_waysFrom_145 rfl rfl rfl ?_
        refine ro_iload_n (pc' := 147) dX6_waysFrom_146 rfl rfl rfl ?_
        refine ro_iconst (pc' := 148) dX6_waysFrom_147 ic_1 rfl ?_
        refine ro_iadd (pc' := 149) dX6_waysFrom_148 rfl ?_
        refine ro_iload_n (pc' := 150) dX6_waysFrom_149 rfl rfl rfl ?_
        refine ro_iload_n (pc' := 151) dX6_waysFrom_150 rfl rfl rfl ?_
        obtain ⟨u5, hu5, h⟩ := ah_bs h
        obtain ⟨v6, σ7, hv6, h⟩ := ah_bs2 h
        refine ro_callV (pc' := 154) (As := [.int (x1 + (1 : Int32)), .int x2, .int x3]) (rest := [.int x4]) (st' := [.int v6, .int x4]) (by decide) hu5 q1759 sl_X6_waysFrom (h_X6_waysFrom hv6) q1757 q1760 q104 dd_X6_waysFrom rfl ⟨show frR + 1 ≤ frR + 1 by omega, show 8 + (7 + 11) + loR ≤ loR + 26 by omega⟩ (Nat.le_of_ble_eq_true rfl) dX6_waysFrom_151 rfl rfl rfl ?_
        refine ro_iadd (pc' := 155) dX6_waysFrom_154 rfl ?_
        refine ro_istore (pc' := 157) (L' := [some (va_rf r0), some (.int x1), some (.int x2), some (.int x3), some (.int (x4 + v6)), some (.int x5), some (.int x6)]) dX6_waysFrom_155 (Nat.le_of_ble_eq_true rfl) rfl (ah_okp_i _) rfl ?_
        refine ro_iinc (pc' := 160) (L' := [some (va_rf r0), some (.int x1), some (.int x2), some (.int x3), some (.int (x4 + v6)), some (.int (x5 + (1 : Int32))), some (.int x6)]) dX6_waysFrom_157 rfl ic_1 (Nat.le_of_ble_eq_true rfl) rfl (ah_okp_i _) rfl ?_
        refine ro_goto (tgt := 48) dX6_waysFrom_160 rfl ?_
        refine ro_weak (L' := [some (va_rf r0), some (.int x1), some (.int x2), some (.int x3), some (.int (x4 + v6)), some (.int (x5 + (1 : Int32))), none]) (ah_ls_s (ah_ls_s (ah_ls_s (ah_ls_s (ah_ls_s (ah_ls_s (ah_ls_n ah_ls_0))))))) ?_
        exact hk48 _ _ _ _ _ _ _ h
      · replace h := ah_in_ c h
        refine ro_aload_n (pc' := 129) dX6_waysFrom_128 rfl rfl rfl ?_
        obtain ⟨v8, hv8, h⟩ := ah_bs h
        refine ro_getR (pc' := 132) ft_643 fk_643 q1351 dX6_waysFrom_129 rfl hv8 ?_
        refine ro_iload_n (pc' := 133) dX6_waysFrom_132 rfl rfl rfl ?_
        obtain ⟨v9, hv9, h⟩ := ah_bs h
        refine ro_iaload (pc' := 134) dX6_waysFrom_133 rfl hv9 ?_
        refine ro_aload_n (pc' := 135) dX6_waysFrom_134 rfl rfl rfl ?_
        obtain ⟨v10, hv10, h⟩ := ah_bs h
        refine ro_getR (pc' := 138) ft_611 fk_611 q1319 dX6_waysFrom_135 rfl hv10 ?_
        refine ro_iload_n (pc' := 139) dX6_waysFrom_138 rfl rfl rfl ?_
        obtain ⟨v11, hv11, h⟩ := ah_bs h
        refine ro_iaload (pc' := 140) dX6_waysFrom_139 rfl hv11 ?_
        refine ro_icmp_ne (pc' := 143) (tgt := 157) dX6_waysFrom_140 rfl rfl (fun c => ?_) (fun c => ?_)
        · replace h := ah_in_ c h
          refine ro_iinc (pc' := 160) (L' := [some (va_rf r0), some (.int x1), some (.int x2), some (.int x3), some (.int x4), some (.int (x5 + (1 : Int32))), some (.int x6)]) dX6_waysFrom_157 rfl ic_1 (Nat.le_of_ble_eq_true rfl) rfl (ah_okp_i _) rfl ?_
          refine ro_goto (tgt := 48) dX6_waysFrom_160 rfl ?_
          refine ro_weak (L' := [some (va_rf r0), some (.int x1), some (.int x2), some (.int x3), some (.int x4), some (.int (x5 + (1 : Int32))), none]) (ah_ls_s (ah_ls_s (ah_ls_s (ah_ls_s (ah_ls_s (ah_ls_s (ah_ls_n ah_ls_0))))))) ?_
          exact hk48 _ _ _ _ _ _ _ h
        · replace h := ah_ip c h
          refine ro_iload (pc' := 145) dX6_waysFrom_143 rfl rfl ?_
          refine ro_aload_n (pc' := 146) dX6_waysFrom_145 rfl rfl rfl ?_
          refine ro_iload_n (pc' := 147) dX6_waysFrom_146 rfl rfl rfl ?_
          refine ro_iconst (pc' := 148) dX6_waysFrom_147 ic_1 rfl ?_
          refine ro_iadd (pc' := 149) dX6_waysFrom_148 rfl ?_
          refine ro_iload_n (pc' := 150) dX6_waysFrom_149 rfl rfl rfl ?_
          refine ro_iload_n (pc' := 151) dX6_waysFrom_150 rfl rfl rfl ?_
          obtain ⟨u12, hu12, h⟩ := ah_bs h
          obtain ⟨v13, σ14, hv13, h⟩ := ah_bs2 h
          refine ro_callV (pc' := 154) (As := [.int (x1 + (1 : Int32)), .int x2, .int x3]) (rest := [.int x4]) (st' := [.int v13, .int x4]) (by decide) hu12 q1759 sl_X6_waysFrom (h_X6_waysFrom hv13) q1757 q1760 q104 dd_X6_waysFrom rfl ⟨show frR + 1 ≤ frR + 1 by omega, show 8 + (7 + 11) + loR ≤ loR + 26 by omega⟩ (Nat.le_of_ble_eq_true rfl) dX6_waysFrom_151 rfl rfl rfl ?_
          refine ro_iadd (pc' := 155) dX6_waysFrom_154 rfl ?_
          refine ro_istore (pc' := 157) (L' := [some (va_rf r0), some (.int x1), some (.int x2), some (.int x3), some (.int (x4 + v13)), some (.int x5), some (.int x6)]) dX6_waysFrom_155 (Nat.le_of_ble_eq_true rfl) rfl (ah_okp_i _) rfl ?_
          refine ro_iinc (pc' := 160) (L' := [some (va_rf r0), some (.int x1), some (.int x2), some (.int x3), some (.int (x4 + v13)), some (.int (x5 + (1 : Int32))), some (.int x6)]) dX6_waysFrom_157 rfl ic_1 (Nat.le_of_ble_eq_true rfl) rfl (ah_okp_i _) rfl ?_
          refine ro_goto (tgt := 48) dX6_waysFrom_160 rfl ?_
          refine ro_weak (L' := [some (va_rf r0), some (.int x1), some (.int x2), some (.int x3), some (.int (x4 + v13)), some (.int (x5 + (1 : Int32))), none]) (ah_ls_s (ah_ls_s (ah_ls_s (ah_ls_s (ah_ls_s (ah_ls_s (ah_ls_n ah_ls_0))))))) ?_
          exact hk48 _ _ _ _ _ _ _ h
    · replace h := ah_in_ c h
      refine ro_aload_n (pc' := 88) dX6_waysFrom_87 rfl rfl rfl ?_
      obtain ⟨v15, hv15, h⟩ := ah_bs h
      refine ro_getR (pc' := 91) ft_611 fk_611 q1319 dX6_waysFrom_88 rfl hv15 ?_
      refine ro_iload (pc' := 93) dX6_waysFrom_91 rfl rfl ?_
      refine ro_aload_n (pc' := 94) dX6_waysFrom_93 rfl rfl rfl ?_
      obtain ⟨v16, hv16, h⟩ := ah_bs h
      refine ro_getR (pc' := 97) ft_645 fk_645 q1353 dX6_waysFrom_94 rfl hv16 ?_
      refine ro_bipush (pc' := 99) dX6_waysFrom_97 ib_48 rfl ?_
      refine ro_iload_n (pc' := 100) dX6_waysFrom_99 rfl rfl rfl ?_
      refine ro_imul (pc' := 101) dX6_waysFrom_100 rfl ?_
      refine ro_iload (pc' := 103) dX6_waysFrom_101 rfl rfl ?_
      refine ro_iadd (pc' := 104) dX6_waysFrom_103 rfl ?_
      obtain ⟨v17, hv17, h⟩ := ah_bs h
      refine ro_iaload (pc' := 105) dX6_waysFrom_104 rfl hv17 ?_
      obtain ⟨σ18, hσ18, h⟩ := ah_bs h
      refine ro_iastore (pc' := 106) dX6_waysFrom_105 rfl hσ18 ?_
      refine ro_iinc (pc' := 109) (L' := [some (va_rf r0), some (.int x1), some (.int x2), some (.int x3), some (.int x4), some (.int x5), some (.int (x6 + (1 : Int32)))]) dX6_waysFrom_106 rfl ic_1 (Nat.le_of_ble_eq_true rfl) rfl (ah_okp_i _) rfl ?_
      refine ro_goto (tgt := 80) dX6_waysFrom_109 rfl ?_
      exact ih _ _ _ _ _ _ _ _ h
set_option maxRecDepth 20000 in
set_option maxHeartbeats 4000000 in
theorem W_X6_waysFrom_48 {κ : ah_C} {rr : (Int32 × ah_S)} (hκ : ah_res κ = (.returned (some (.int rr.1)), rr.2)) {frR loR : Nat} (hF : 7 ≤ frR) (hL : 166 ≤ loR) {f_X6_waysFrom : ah_S → Option Nat → Int32 → Int32 → Int32 → Option (Int32 × ah_S)} (h_X6_waysFrom : ∀ {l : Launch} {D : ah_D} {σ : ah_S} {r0 : Option Nat} {x1 : Int32} {x2 : Int32} {x3 : Int32} {v : Int32} {σ1 : ah_S}, f_X6_waysFrom σ r0 x1 x2 x3 = some (v, σ1) → ah_Met l yX6_waysFrom (Cond.code yX6_waysFrom cX6_waysFrom 7 (some FieldType.int)) frR loR D [va_rf r0, .int x1, .int x2, .int x3] σ (.returned (some (.int v)), σ1))   : ∀ (n : Nat) (σ : ah_S) (r0 : Option Nat) (x1 : Int32) (x2 : Int32) (x3 : Int32) (x4 : Int32) (x5 : Int32), F_X6_waysFrom_48 f_X6_waysFrom n σ r0 x1 x2 x3 x4 x5 = some rr → ah_G κ ("LeftAsFoundModel", "waysFrom", 7, (some FieldType.int), [], (frR + 1), (loR + 26)) cX6_waysFrom σ 48 [some (va_rf r0), some (.int x1), some (.int x2), some (.int x3), some (.int x4), some (.int x5), none] [] := by
  intro n
  induction n with
  | zero => intro σ r0 x1 x2 x3 x4 x5 h; cases h
  | succ n ih =>
    intro σ r0 x1 x2 x3 x4 x5 h
    rw [F_X6_waysFrom_48] at h
    refine ro_iload (pc' := 50) dX6_waysFrom_48 rfl rfl ?_
    refine ro_aload_n (pc' := 51) dX6_waysFrom_50 rfl rfl rfl ?_
    obtain ⟨v1, hv1, h⟩ := ah_bs h
    refine ro_getI (pc' := 54) ft_603 fk_603 q1311 dX6_waysFrom_51 rfl hv1 ?_
    refine ro_icmp_gt (pc' := 57) (tgt := 163) dX6_waysFrom_54 rfl rfl (fun c => ?_) (fun c => ?_)
    · replace h := ah_ip c h
      refine ro_iload (pc' := 165) dX6_waysFrom_163 rfl rfl ?_
      obtain rfl := Option.some.inj h
      exact ro_iret hκ dX6_waysFrom_165
    · replace h := ah_in_ c h
      refine ro_iload_n (pc' := 58) dX6_waysFrom_57 rfl rfl rfl ?_
      refine ro_aload_n (pc' := 59) dX6_waysFrom_58 rfl rfl rfl ?_
      obtain ⟨v2, hv2, h⟩ := ah_bs h
      refine ro_getI (pc' := 62) ft_646 fk_646 q1354 dX6_waysFrom_59 rfl hv2 ?_
      refine ro_icmp_ne (pc' := 65) (tgt := 77) dX6_waysFrom_62 rfl rfl (fun c => ?_) (fun c => ?_)
      · replace h := ah_in_ c h
        refine ro_iconst (pc' := 78) dX6_waysFrom_77 ic_0 rfl ?_
        refine ro_istore (pc' := 80) (L' := [some (va_rf r0), some (.int x1), some (.int x2), some (.int x3), some (.int x4), some (.int x5), some (.int (0 : Int32))]) dX6_waysFrom_78 (Nat.le_of_ble_eq_true rfl) rfl (ah_okp_i _) rfl ?_
        exact W_X6_waysFrom_80 hκ hF hL h_X6_waysFrom ih _ _ _ _ _ _ _ _ _ h
      · replace h := ah_ip c h
        refine ro_iload (pc' := 67) dX6_waysFrom_65 rfl rfl ?_
        refine ro_aload_n (pc' := 68) dX6_waysFrom_67 rfl rfl rfl ?_
        obtain ⟨v3, hv3, h⟩ := ah_bs h
        refine ro_getI (pc' := 71) ft_647 fk_647 q1355 dX6_waysFrom_68 rfl hv3 ?_
        refine ro_icmp_eq (pc' := 74) (tgt := 77) dX6_waysFrom_71 rfl rfl (fun c => ?_) (fun c => ?_)
        · replace h := ah_ip c h
          refine ro_iconst (pc' := 78) dX6_waysFrom_77 ic_0 rfl ?_
          refine ro_istore (pc' := 80) (L' := [some (va_rf r0), some (.int x1), some (.int x2), some (.int x3), some (.int x4), some (.int x5), some (.int (0 : Int32))]) dX6_waysFrom_78 (Nat.le_of_ble_eq_true rfl) rfl (ah_okp_i _) rfl ?_
          exact W_X6_waysFrom_80 hκ hF hL h_X6_waysFrom ih _ _ _ _ _ _ _ _ _ h
        · replace h := ah_in_ c h
          refine ro_goto (tgt := 157) dX6_waysFrom_74 rfl ?_
          refine ro_iinc (pc' := 160) (L' := [some (va_rf r0), some (.int x1), some (.int x2), some (.int x3), some (.int x4), some (.int (x5 + (1 : Int32))), none]) dX6_waysFrom_157 rfl ic_1 (Nat.le_of_ble_eq_true rfl) rfl (ah_okp_i _) rfl ?_
          refine ro_goto (tgt := 48) dX6_waysFrom_160 rfl ?_
          exact ih _ _ _ _ _ _ _ h
set_option maxRecDepth 20000 in
set_option maxHeartbeats 4000000 in
theorem W_X6_waysFrom_13 {κ : ah_C} {rr : (Int32 × ah_S)} (hκ : ah_res κ = (.returned (some (.int rr.1)), rr.2)) {frR loR : Nat} (hF : 7 ≤ frR) (hL : 166 ≤ loR) {f_X6_waysFrom : ah_S → Option Nat → Int32 → Int32 → Int32 → Option (Int32 × ah_S)} (h_X6_waysFrom : ∀ {l : Launch} {D : ah_D} {σ : ah_S} {r0 : Option Nat} {x1 : Int32} {x2 : Int32} {x3 : Int32} {v : Int32} {σ1 : ah_S}, f_X6_waysFrom σ r0 x1 x2 x3 = some (v, σ1) → ah_Met l yX6_waysFrom (Cond.code yX6_waysFrom cX6_waysFrom 7 (some FieldType.int)) frR loR D [va_rf r0, .int x1, .int x2, .int x3] σ (.returned (some (.int v)), σ1))   : ∀ (n : Nat) (σ : ah_S) (r0 : Option Nat) (x1 : Int32) (x2 : Int32) (x3 : Int32) (x4 : Int32) (x5 : Int32), F_X6_waysFrom_13 f_X6_waysFrom n σ r0 x1 x2 x3 x4 x5 = some rr → ah_G κ ("LeftAsFoundModel", "waysFrom", 7, (some FieldType.int), [], (frR + 1), (loR + 26)) cX6_waysFrom σ 13 [some (va_rf r0), some (.int x1), some (.int x2), some (.int x3), some (.int x4), some (.int x5), none] [] := by
  intro n
  induction n with
  | zero => intro σ r0 x1 x2 x3 x4 x5 h; cases h
  | succ n ih =>
    intro σ r0 x1 x2 x3 x4 x5 h
    rw [F_X6_waysFrom_13] at h
    refine ro_iload (pc' := 15) dX6_waysFrom_13 rfl rfl ?_
    refine ro_bipush (pc' := 17) dX6_waysFrom_15 ib_48 rfl ?_
    refine ro_icmp_ge (pc' := 20) (tgt := 45) dX6_waysFrom_17 rfl rfl (fun c => ?_) (fun c => ?_)
    · replace h := ah_ip c h
      refine ro_iconst (pc' := 46) dX6_waysFrom_45 ic_0 rfl ?_
      refine ro_istore (pc' := 48) (L' := [some (va_rf r0), some (.int x1), some (.int x2), some (.int x3), some (.int x4), some (.int (0 : Int32)), none]) dX6_waysFrom_46 (Nat.le_of_ble_eq_true rfl) rfl (ah_okp_i _) rfl ?_
      exact W_X6_waysFrom_48 hκ hF hL h_X6_waysFrom _ _ _ _ _ _ _ _ h
    · replace h := ah_in_ c h
      refine ro_aload_n (pc' := 21) dX6_waysFrom_20 rfl rfl rfl ?_
      obtain ⟨v1, hv1, h⟩ := ah_bs h
      refine ro_getR (pc' := 24) ft_645 fk_645 q1353 dX6_waysFrom_21 rfl hv1 ?_
      refine ro_bipush (pc' := 26) dX6_waysFrom_24 ib_48 rfl ?_
      refine ro_iload_n (pc' := 27) dX6_waysFrom_26 rfl rfl rfl ?_
      refine ro_imul (pc' := 28) dX6_waysFrom_27 rfl ?_
      refine ro_iload (pc' := 30) dX6_waysFrom_28 rfl rfl ?_
      refine ro_iadd (pc' := 31) dX6_waysFrom_30 rfl ?_
      refine ro_aload_n (pc' := 32) dX6_waysFrom_31 rfl rfl rfl ?_
      obtain ⟨v2, hv2, h⟩ := ah_bs h
      refine ro_getR (pc' := 35) ft_611 fk_611 q1319 dX6_waysFrom_32 rfl hv2 ?_
      refine ro_iload (pc' := 37) dX6_waysFrom_35 rfl rfl ?_
      obtain ⟨v3, hv3, h⟩ := ah_bs h
      refine ro_iaload (pc' := 38) dX6_waysFrom_37 rfl hv3 ?_
      obtain ⟨σ4, hσ4, h⟩ := ah_bs h
      refine ro_iastore (pc' := 39) dX6_waysFrom_38 rfl hσ4 ?_
      refine ro_iinc (pc' := 42) (L' := [some (va_rf r0), some (.int x1), some (.int x2), some (.int x3), some (.int x4), some (.int (x5 + (1 : Int32))), none]) dX6_waysFrom_39 rfl ic_1 (Nat.le_of_ble_eq_true rfl) rfl (ah_okp_i _) rfl ?_
      refine ro_goto (tgt := 13) dX6_waysFrom_42 rfl ?_
      exact ih _ _ _ _ _ _ _ h
set_option maxRecDepth 20000 in
set_option maxHeartbeats 4000000 in
theorem W_X6_waysFrom {κ : ah_C} {rr : (Int32 × ah_S)} (hκ : ah_res κ = (.returned (some (.int rr.1)), rr.2)) {frR loR : Nat} (hF : 7 ≤ frR) (hL : 166 ≤ loR) {f_X6_waysFrom : ah_S → Option Nat → Int32 → Int32 → Int32 → Option (Int32 × ah_S)} (h_X6_waysFrom : ∀ {l : Launch} {D : ah_D} {σ : ah_S} {r0 : Option Nat} {x1 : Int32} {x2 : Int32} {x3 : Int32} {v : Int32} {σ1 : ah_S}, f_X6_waysFrom σ r0 x1 x2 x3 = some (v, σ1) → ah_Met l yX6_waysFrom (Cond.code yX6_waysFrom cX6_waysFrom 7 (some FieldType.int)) frR loR D [va_rf r0, .int x1, .int x2, .int x3] σ (.returned (some (.int v)), σ1)) (σ : ah_S) (r0 : Option Nat) (x1 : Int32) (x2 : Int32) (x3 : Int32) (h : F_X6_waysFrom f_X6_waysFrom σ r0 x1 x2 x3 = some rr) : ah_G κ ("LeftAsFoundModel", "waysFrom", 7, (some FieldType.int), [], (frR + 1), (loR + 26)) cX6_waysFrom σ 0 [some (va_rf r0), some (.int x1), some (.int x2), some (.int x3), none, none, none] [] := by
  unfold F_X6_waysFrom at h
  refine ro_iload_n (pc' := 1) dX6_waysFrom_0 rfl rfl rfl ?_
  refine ro_iload_n (pc' := 2) dX6_waysFrom_1 rfl rfl rfl ?_
  refine ro_icmp_ne (pc' := 5) (tgt := 7) dX6_waysFrom_2 rfl rfl (fun c => ?_) (fun c => ?_)
  · replace h := ah_in_ c h
    refine ro_iconst (pc' := 8) dX6_waysFrom_7 ic_0 rfl ?_
    refine ro_istore (pc' := 10) (L' := [some (va_rf r0), some (.int x1), some (.int x2), some (.int x3), some (.int (0 : Int32)), none, none]) dX6_waysFrom_8 (Nat.le_of_ble_eq_true rfl) rfl (ah_okp_i _) rfl ?_
    refine ro_iconst (pc' := 11) dX6_waysFrom_10 ic_0 rfl ?_
    refine ro_istore (pc' := 13) (L' := [some (va_rf r0), some (.int x1), some (.int x2), some (.int x3), some (.int (0 : Int32)), some (.int (0 : Int32)), none]) dX6_waysFrom_11 (Nat.le_of_ble_eq_true rfl) rfl (ah_okp_i _) rfl ?_
    exact W_X6_waysFrom_13 hκ hF hL h_X6_waysFrom _ _ _ _ _ _ _ _ h
  · replace h := ah_ip c h
    refine ro_iconst (pc' := 6) dX6_waysFrom_5 ic_1 rfl ?_
    obtain rfl := Option.some.inj h
    exact ro_iret hκ dX6_waysFrom_6
theorem M_X6_waysFrom {l : Launch} {D : ah_D} {frR loR : Nat} (hF : 7 ≤ frR) (hL : 166 ≤ loR) {f_X6_waysFrom : ah_S → Option Nat → Int32 → Int32 → Int32 → Option (Int32 × ah_S)} (h_X6_waysFrom : ∀ {l : Launch} {D : ah_D} {σ : ah_S} {r0 : Option Nat} {x1 : Int32} {x2 : Int32} {x3 : Int32} {v : Int32} {σ1 : ah_S}, f_X6_waysFrom σ r0 x1 x2 x3 = some (v, σ1) → ah_Met l yX6_waysFrom (Cond.code yX6_waysFrom cX6_waysFrom 7 (some FieldType.int)) frR loR D [va_rf r0, .int x1, .int x2, .int x3] σ (.returned (some (.int v)), σ1)) {σ : ah_S} {r0 : Option Nat} {x1 : Int32} {x2 : Int32} {x3 : Int32} {v : Int32} {σ1 : ah_S} (h : F_X6_waysFrom f_X6_waysFrom σ r0 x1 x2 x3 = some (v, σ1)) : ah_Met l yX6_waysFrom (Cond.code yX6_waysFrom cX6_waysFrom 7 (some FieldType.int)) (frR + 1) (loR + 26) D [va_rf r0, .int x1, .int x2, .int x3] σ (.returned (some (.int v)), σ1) :=
  ah_ofG (own := "LeftAsFoundModel") (nm := "waysFrom") (L0 := [some (va_rf r0), some (.int x1), some (.int x2), some (.int x3), none, none, none]) (by decide) rfl rfl rfl (ah_ao_1 (ah_rf_cat _) (ah_ao_1 rfl (ah_ao_1 rfl (ah_ao_1 rfl (ah_ao_n (ah_ao_n (ah_ao_n ah_ao_0))))))) (fun κ hκ => W_X6_waysFrom hκ hF hL h_X6_waysFrom σ r0 x1 x2 x3 h)
theorem N_X6_waysFrom (d : Nat) : ∀ {l : Launch} {D : ah_D} {σ : ah_S} {r0 : Option Nat} {x1 : Int32} {x2 : Int32} {x3 : Int32} {v : Int32} {σ1 : ah_S}, Z_X6_waysFrom d σ r0 x1 x2 x3 = some (v, σ1) → ah_Met l yX6_waysFrom (Cond.code yX6_waysFrom cX6_waysFrom 7 (some FieldType.int)) (7 + d) (166 + 26 * d) D [va_rf r0, .int x1, .int x2, .int x3] σ (.returned (some (.int v)), σ1) := by
  induction d with
  | zero => intro l D σ r0 x1 x2 x3 v σ1 h; cases h
  | succ d ih =>
    intro l D σ r0 x1 x2 x3 v σ1 h
    rw [show 7 + (d + 1) = (7 + d) + 1 by omega, show 166 + 26 * (d + 1) = (166 + 26 * d) + 26 by omega]
    exact M_X6_waysFrom (by omega) (by omega) ih h
set_option maxRecDepth 20000 in
set_option maxHeartbeats 4000000 in
theorem W_X6_line_66 {κ : ah_C} {rr : ah_S} (hκ : ah_res κ = (.returned none, rr))    : ∀ (σ : ah_S) (r0 : Option Nat) (x1 : Int32), F_X6_line_66 σ r0 x1 = some rr → ah_G κ ("LeftAsFoundModel", "line", 2, none, [], 64, 1348) cX6_line σ 66 [some (va_rf r0), some (.int x1)] [] := by
  intro σ r0 x1 h
  unfold F_X6_line_66 at h
  refine ro_aload_n (pc' := 67) dX6_line_66 rfl rfl rfl ?_
  obtain ⟨v1, hv1, h⟩ := ah_bs h
  refine ro_getR (pc' := 70) ft_628 fk_628 q1336 dX6_line_67 rfl hv1 ?_
  refine ro_iload_n (pc' := 71) dX6_line_70 rfl rfl rfl ?_
  refine ro_aload_n (pc' := 72) dX6_line_71 rfl rfl rfl ?_
  obtain ⟨v2, hv2, h⟩ := ah_bs h
  refine ro_getI (pc' := 75) ft_623 fk_623 q1331 dX6_line_72 rfl hv2 ?_
  refine ro_i2s (pc' := 76) dX6_line_75 rfl ?_
  obtain ⟨σ3, hσ3, h⟩ := ah_bs h
  refine ro_sastore (pc' := 77) dX6_line_76 rfl hσ3 ?_
  refine ro_aload_n (pc' := 78) dX6_line_77 rfl rfl rfl ?_
  obtain ⟨v4, hv4, h⟩ := ah_bs h
  refine ro_getR (pc' := 81) ft_626 fk_626 q1334 dX6_line_78 rfl hv4 ?_
  refine ro_iconst (pc' := 82) dX6_line_81 ic_1 rfl ?_
  refine ro_dup2 (pc' := 83) dX6_line_82 rfl (ah_rf_cat _) rfl ?_
  obtain ⟨v5, hv5, h⟩ := ah_bs h
  refine ro_iaload (pc' := 84) dX6_line_83 rfl hv5 ?_
  refine ro_iconst (pc' := 85) dX6_line_84 ic_1 rfl ?_
  refine ro_iadd (pc' := 86) dX6_line_85 rfl ?_
  obtain ⟨σ6, hσ6, h⟩ := ah_bs h
  refine ro_iastore (pc' := 87) dX6_line_86 rfl hσ6 ?_
  obtain rfl := Option.some.inj h
  exact ro_vret hκ dX6_line_87
set_option maxRecDepth 20000 in
set_option maxHeartbeats 4000000 in
theorem W_X6_line {κ : ah_C} {rr : ah_S} (hκ : ah_res κ = (.returned none, rr))  (σ : ah_S) (r0 : Option Nat) (h : F_X6_line σ r0 = some rr) : ah_G κ ("LeftAsFoundModel", "line", 2, none, [], 64, 1348) cX6_line σ 0 [some (va_rf r0), none] [] := by
  unfold F_X6_line at h
  refine ro_bipush (pc' := 2) dX6_line_0 ib_61 rfl ?_
  refine ro_aload_n (pc' := 3) dX6_line_2 rfl rfl rfl ?_
  obtain ⟨v1, hv1, h⟩ := ah_bs h
  refine ro_getR (pc' := 6) ft_626 fk_626 q1334 dX6_line_3 rfl hv1 ?_
  refine ro_iconst (pc' := 7) dX6_line_6 ic_1 rfl ?_
  obtain ⟨v2, hv2, h⟩ := ah_bs h
  refine ro_iaload (pc' := 8) dX6_line_7 rfl hv2 ?_
  refine ro_iadd (pc' := 9) dX6_line_8 rfl ?_
  refine ro_istore_n (pc' := 10) (L' := [some (va_rf r0), some (.int ((61 : Int32) + v2))]) dX6_line_9 rfl (Nat.le_of_ble_eq_true rfl) rfl (ah_okp_r _) rfl ?_
  refine ro_aload_n (pc' := 11) dX6_line_10 rfl rfl rfl ?_
  obtain ⟨v3, hv3, h⟩ := ah_bs h
  refine ro_getR (pc' := 14) ft_627 fk_627 q1335 dX6_line_11 rfl hv3 ?_
  refine ro_iload_n (pc' := 15) dX6_line_14 rfl rfl rfl ?_
  refine ro_aload_n (pc' := 16) dX6_line_15 rfl rfl rfl ?_
  obtain ⟨v4, hv4, h⟩ := ah_bs h
  refine ro_getI (pc' := 19) ft_623 fk_623 q1331 dX6_line_16 rfl hv4 ?_
  refine ro_i2s (pc' := 20) dX6_line_19 rfl ?_
  obtain ⟨σ5, hσ5, h⟩ := ah_bs h
  refine ro_sastore (pc' := 21) dX6_line_20 rfl hσ5 ?_
  refine ro_aload_n (pc' := 22) dX6_line_21 rfl rfl rfl ?_
  obtain ⟨u6, hu6, h⟩ := ah_bs h
  obtain ⟨σ7, hσ7, h⟩ := ah_bs h
  refine ro_callV (pc' := 25) (As := []) (rest := []) (st' := []) (by decide) hu6 q1575 sl_X6_either ((N_Mparse 60).2.2.2.2.2 hσ7) q1573 q1576 q104 dd_X6_either rfl ⟨Nat.le_of_ble_eq_true rfl, Nat.le_of_ble_eq_true rfl⟩ (Nat.le_of_ble_eq_true rfl) dX6_line_22 rfl rfl rfl ?_
  refine ro_aload_n (pc' := 26) dX6_line_25 rfl rfl rfl ?_
  obtain ⟨v8, hv8, h⟩ := ah_bs h
  refine ro_getI (pc' := 29) ft_621 fk_621 q1329 dX6_line_26 rfl hv8 ?_
  refine ro_if_ge (pc' := 32) (tgt := 66) dX6_line_29 rfl rfl (fun c => ?_) (fun c => ?_)
  · replace h := ah_ip c h
    exact W_X6_line_66 hκ _ _ _ h
  · replace h := ah_in_ c h
    refine ro_aload_n (pc' := 33) dX6_line_32 rfl rfl rfl ?_
    obtain ⟨u9, hu9, h⟩ := ah_bs h
    obtain ⟨v10, σ11, hv10, h⟩ := ah_bs2 h
    refine ro_callV (pc' := 36) (As := []) (rest := []) (st' := [.int v10]) (by decide) hu9 q1599 sl_X6_look (M_X6_look hv10) q1597 q1600 q104 dd_X6_look rfl ⟨Nat.le_of_ble_eq_true rfl, Nat.le_of_ble_eq_true rfl⟩ (Nat.le_of_ble_eq_true rfl) dX6_line_33 rfl rfl rfl ?_
    refine ro_bipush (pc' := 38) dX6_line_36 ib_63 rfl ?_
    refine ro_icmp_ne (pc' := 41) (tgt := 66) dX6_line_38 rfl rfl (fun c => ?_) (fun c => ?_)
    · replace h := ah_in_ c h
      exact W_X6_line_66 hκ _ _ _ h
    · replace h := ah_ip c h
      refine ro_aload_n (pc' := 42) dX6_line_41 rfl rfl rfl ?_
      refine ro_dup (pc' := 43) dX6_line_42 (ah_rf_cat _) rfl ?_
      obtain ⟨v12, hv12, h⟩ := ah_bs h
      refine ro_getI (pc' := 46) ft_620 fk_620 q1328 dX6_line_43 rfl hv12 ?_
      refine ro_iconst (pc' := 47) dX6_line_46 ic_1 rfl ?_
      refine ro_iadd (pc' := 48) dX6_line_47 rfl ?_
      obtain ⟨σ13, hσ13, h⟩ := ah_bs h
      refine ro_putI (pc' := 51) ft_620 fk_620 q1328 pd_620 dX6_line_48 rfl hσ13 ?_
      refine ro_aload_n (pc' := 52) dX6_line_51 rfl rfl rfl ?_
      obtain ⟨v14, hv14, h⟩ := ah_bs h
      refine ro_getR (pc' := 55) ft_627 fk_627 q1335 dX6_line_52 rfl hv14 ?_
      refine ro_iload_n (pc' := 56) dX6_line_55 rfl rfl rfl ?_
      refine ro_aload_n (pc' := 57) dX6_line_56 rfl rfl rfl ?_
      obtain ⟨v15, hv15, h⟩ := ah_bs h
      refine ro_getI (pc' := 60) ft_623 fk_623 q1331 dX6_line_57 rfl hv15 ?_
      refine ro_i2s (pc' := 61) dX6_line_60 rfl ?_
      obtain ⟨σ16, hσ16, h⟩ := ah_bs h
      refine ro_sastore (pc' := 62) dX6_line_61 rfl hσ16 ?_
      refine ro_aload_n (pc' := 63) dX6_line_62 rfl rfl rfl ?_
      obtain ⟨u17, hu17, h⟩ := ah_bs h
      obtain ⟨σ18, hσ18, h⟩ := ah_bs h
      refine ro_callV (pc' := 66) (As := []) (rest := []) (st' := []) (by decide) hu17 q1575 sl_X6_either ((N_Mparse 60).2.2.2.2.2 hσ18) q1573 q1576 q104 dd_X6_either rfl ⟨Nat.le_of_ble_eq_true rfl, Nat.le_of_ble_eq_true rfl⟩ (Nat.le_of_ble_eq_true rfl) dX6_line_63 rfl rfl rfl ?_
      exact W_X6_line_66 hκ _ _ _ h
theorem M_X6_line {l : Launch} {D : ah_D}  {σ : ah_S} {r0 : Option Nat} {σ1 : ah_S} (h : F_X6_line σ r0 = some σ1) : ah_Met l yX6_line (Cond.code yX6_line cX6_line 2 none) 64 1348 D [va_rf r0] σ (.returned none, σ1) :=
  ah_ofG (own := "LeftAsFoundModel") (nm := "line") (L0 := [some (va_rf r0), none]) (by decide) rfl rfl rfl (ah_ao_1 (ah_rf_cat _) (ah_ao_n ah_ao_0)) (fun κ hκ => W_X6_line hκ  σ r0 h)
set_option maxRecDepth 20000 in
set_option maxHeartbeats 4000000 in
theorem W_X6_readText_177 {κ : ah_C} {rr : (Int32 × ah_S)} (hκ : ah_res κ = (.returned (some (.int rr.1)), rr.2))    : ∀ (n : Nat) (σ : ah_S) (r0 : Option Nat) (x1 : Int32) (x2 : Int32), F_X6_readText_177 n σ r0 x1 x2 = some rr → ah_G κ ("LeftAsFoundModel", "readText", 3, (some FieldType.int), [], 65, 1369) cX6_readText σ 177 [some (va_rf r0), some (.int x1), some (.int x2)] [] := by
  intro n
  induction n with
  | zero => intro σ r0 x1 x2 h; cases h
  | succ n ih =>
    intro σ r0 x1 x2 h
    rw [F_X6_readText_177] at h
    refine ro_iload_n (pc' := 178) dX6_readText_177 rfl rfl rfl ?_
    refine ro_aload_n (pc' := 179) dX6_readText_178 rfl rfl rfl ?_
    obtain ⟨v1, hv1, h⟩ := ah_bs h
    refine ro_getR (pc' := 182) ft_626 fk_626 q1334 dX6_readText_179 rfl hv1 ?_
    refine ro_iload_n (pc' := 183) dX6_readText_182 rfl rfl rfl ?_
    obtain ⟨v2, hv2, h⟩ := ah_bs h
    refine ro_iaload (pc' := 184) dX6_readText_183 rfl hv2 ?_
    refine ro_icmp_ge (pc' := 187) (tgt := 233) dX6_readText_184 rfl rfl (fun c => ?_) (fun c => ?_)
    · replace h := ah_ip c h
      refine ro_iconst (pc' := 234) dX6_readText_233 ic_m1 rfl ?_
      obtain rfl := Option.some.inj h
      exact ro_iret hκ dX6_readText_234
    · replace h := ah_in_ c h
      refine ro_aload_n (pc' := 188) dX6_readText_187 rfl rfl rfl ?_
      obtain ⟨v3, hv3, h⟩ := ah_bs h
      refine ro_getR (pc' := 191) ft_627 fk_627 q1335 dX6_readText_188 rfl hv3 ?_
      refine ro_bipush (pc' := 193) dX6_readText_191 ib_61 rfl ?_
      refine ro_iload_n (pc' := 194) dX6_readText_193 rfl rfl rfl ?_
      refine ro_imul (pc' := 195) dX6_readText_194 rfl ?_
      refine ro_iload_n (pc' := 196) dX6_readText_195 rfl rfl rfl ?_
      refine ro_iadd (pc' := 197) dX6_readText_196 rfl ?_
      refine ro_aload_n (pc' := 198) dX6_readText_197 rfl rfl rfl ?_
      obtain ⟨v4, hv4, h⟩ := ah_bs h
      refine ro_getR (pc' := 201) ft_627 fk_627 q1335 dX6_readText_198 rfl hv4 ?_
      refine ro_bipush (pc' := 203) dX6_readText_201 ib_61 rfl ?_
      refine ro_iload_n (pc' := 204) dX6_readText_203 rfl rfl rfl ?_
      refine ro_iadd (pc' := 205) dX6_readText_204 rfl ?_
      obtain ⟨v5, hv5, h⟩ := ah_bs h
      refine ro_saload (pc' := 206) dX6_readText_205 rfl hv5 ?_
      obtain ⟨σ6, hσ6, h⟩ := ah_bs h
      refine ro_sastore (pc' := 207) dX6_readText_206 rfl hσ6 ?_
      refine ro_aload_n (pc' := 208) dX6_readText_207 rfl rfl rfl ?_
      obtain ⟨v7, hv7, h⟩ := ah_bs h
      refine ro_getR (pc' := 211) ft_628 fk_628 q1336 dX6_readText_208 rfl hv7 ?_
      refine ro_bipush (pc' := 213) dX6_readText_211 ib_61 rfl ?_
      refine ro_iload_n (pc' := 214) dX6_readText_213 rfl rfl rfl ?_
      refine ro_imul (pc' := 215) dX6_readText_214 rfl ?_
      refine ro_iload_n (pc' := 216) dX6_readText_215 rfl rfl rfl ?_
      refine ro_iadd (pc' := 217) dX6_readText_216 rfl ?_
      refine ro_aload_n (pc' := 218) dX6_readText_217 rfl rfl rfl ?_
      obtain ⟨v8, hv8, h⟩ := ah_bs h
      refine ro_getR (pc' := 221) ft_628 fk_628 q1336 dX6_readText_218 rfl hv8 ?_
      refine ro_bipush (pc' := 223) dX6_readText_221 ib_61 rfl ?_
      refine ro_iload_n (pc' := 224) dX6_readText_223 rfl rfl rfl ?_
      refine ro_iadd (pc' := 225) dX6_readText_224 rfl ?_
      obtain ⟨v9, hv9, h⟩ := ah_bs h
      refine ro_saload (pc' := 226) dX6_readText_225 rfl hv9 ?_
      obtain ⟨σ10, hσ10, h⟩ := ah_bs h
      refine ro_sastore (pc' := 227) dX6_readText_226 rfl hσ10 ?_
      refine ro_iinc (pc' := 230) (L' := [some (va_rf r0), some (.int x1), some (.int (x2 + (1 : Int32)))]) dX6_readText_227 rfl ic_1 (Nat.le_of_ble_eq_true rfl) rfl (ah_okp_i _) rfl ?_
      refine ro_goto (tgt := 177) dX6_readText_230 rfl ?_
      exact ih _ _ _ _ h
set_option maxRecDepth 20000 in
set_option maxHeartbeats 4000000 in
theorem W_X6_readText_105 {κ : ah_C} {rr : (Int32 × ah_S)} (hκ : ah_res κ = (.returned (some (.int rr.1)), rr.2))    : ∀ (n : Nat) (σ : ah_S) (r0 : Option Nat) (x1 : Int32) (x2 : Int32), F_X6_readText_105 n σ r0 x1 x2 = some rr → ah_G κ ("LeftAsFoundModel", "readText", 3, (some FieldType.int), [], 65, 1369) cX6_readText σ 105 [some (va_rf r0), some (.int x1), some (.int x2)] [] := by
  intro n
  induction n with
  | zero => intro σ r0 x1 x2 h; cases h
  | succ n ih =>
    intro σ r0 x1 x2 h
    rw [F_X6_readText_105] at h
    refine ro_iload_n (pc' := 106) dX6_readText_105 rfl rfl rfl ?_
    refine ro_aload_n (pc' := 107) dX6_readText_106 rfl rfl rfl ?_
    obtain ⟨v1, hv1, h⟩ := ah_bs h
    refine ro_getI (pc' := 110) ft_623 fk_623 q1331 dX6_readText_107 rfl hv1 ?_
    refine ro_icmp_ge (pc' := 113) (tgt := 163) dX6_readText_110 rfl rfl (fun c => ?_) (fun c => ?_)
    · replace h := ah_ip c h
      refine ro_aload_n (pc' := 164) dX6_readText_163 rfl rfl rfl ?_
      obtain ⟨v2, hv2, h⟩ := ah_bs h
      refine ro_getR (pc' := 167) ft_626 fk_626 q1334 dX6_readText_164 rfl hv2 ?_
      refine ro_iload_n (pc' := 168) dX6_readText_167 rfl rfl rfl ?_
      refine ro_aload_n (pc' := 169) dX6_readText_168 rfl rfl rfl ?_
      obtain ⟨v3, hv3, h⟩ := ah_bs h
      refine ro_getR (pc' := 172) ft_626 fk_626 q1334 dX6_readText_169 rfl hv3 ?_
      refine ro_iconst (pc' := 173) dX6_readText_172 ic_1 rfl ?_
      obtain ⟨v4, hv4, h⟩ := ah_bs h
      refine ro_iaload (pc' := 174) dX6_readText_173 rfl hv4 ?_
      obtain ⟨σ5, hσ5, h⟩ := ah_bs h
      refine ro_iastore (pc' := 175) dX6_readText_174 rfl hσ5 ?_
      refine ro_iconst (pc' := 176) dX6_readText_175 ic_0 rfl ?_
      refine ro_istore_n (pc' := 177) (L' := [some (va_rf r0), some (.int x1), some (.int (0 : Int32))]) dX6_readText_176 rfl (Nat.le_of_ble_eq_true rfl) rfl (ah_okp_i _) rfl ?_
      exact W_X6_readText_177 hκ _ _ _ _ _ h
    · replace h := ah_in_ c h
      refine ro_aload_n (pc' := 114) dX6_readText_113 rfl rfl rfl ?_
      obtain ⟨v6, hv6, h⟩ := ah_bs h
      refine ro_getR (pc' := 117) ft_624 fk_624 q1332 dX6_readText_114 rfl hv6 ?_
      refine ro_sipush (pc' := 120) dX6_readText_117 is_130 rfl ?_
      refine ro_iload_n (pc' := 121) dX6_readText_120 rfl rfl rfl ?_
      refine ro_imul (pc' := 122) dX6_readText_121 rfl ?_
      refine ro_iload_n (pc' := 123) dX6_readText_122 rfl rfl rfl ?_
      refine ro_iadd (pc' := 124) dX6_readText_123 rfl ?_
      refine ro_aload_n (pc' := 125) dX6_readText_124 rfl rfl rfl ?_
      obtain ⟨v7, hv7, h⟩ := ah_bs h
      refine ro_getR (pc' := 128) ft_624 fk_624 q1332 dX6_readText_125 rfl hv7 ?_
      refine ro_sipush (pc' := 131) dX6_readText_128 is_130 rfl ?_
      refine ro_iload_n (pc' := 132) dX6_readText_131 rfl rfl rfl ?_
      refine ro_iadd (pc' := 133) dX6_readText_132 rfl ?_
      obtain ⟨v8, hv8, h⟩ := ah_bs h
      refine ro_baload (pc' := 134) dX6_readText_133 rfl hv8 ?_
      obtain ⟨σ9, hσ9, h⟩ := ah_bs h
      refine ro_bastore (pc' := 135) dX6_readText_134 rfl hσ9 ?_
      refine ro_aload_n (pc' := 136) dX6_readText_135 rfl rfl rfl ?_
      obtain ⟨v10, hv10, h⟩ := ah_bs h
      refine ro_getR (pc' := 139) ft_625 fk_625 q1333 dX6_readText_136 rfl hv10 ?_
      refine ro_sipush (pc' := 142) dX6_readText_139 is_130 rfl ?_
      refine ro_iload_n (pc' := 143) dX6_readText_142 rfl rfl rfl ?_
      refine ro_imul (pc' := 144) dX6_readText_143 rfl ?_
      refine ro_iload_n (pc' := 145) dX6_readText_144 rfl rfl rfl ?_
      refine ro_iadd (pc' := 146) dX6_readText_145 rfl ?_
      refine ro_aload_n (pc' := 147) dX6_readText_146 rfl rfl rfl ?_
      obtain ⟨v11, hv11, h⟩ := ah_bs h
      refine ro_getR (pc' := 150) ft_625 fk_625 q1333 dX6_readText_147 rfl hv11 ?_
      refine ro_sipush (pc' := 153) dX6_readText_150 is_130 rfl ?_
      refine ro_iload_n (pc' := 154) dX6_readText_153 rfl rfl rfl ?_
      refine ro_iadd (pc' := 155) dX6_readText_154 rfl ?_
      obtain ⟨v12, hv12, h⟩ := ah_bs h
      refine ro_iaload (pc' := 156) dX6_readText_155 rfl hv12 ?_
      obtain ⟨σ13, hσ13, h⟩ := ah_bs h
      refine ro_iastore (pc' := 157) dX6_readText_156 rfl hσ13 ?_
      refine ro_iinc (pc' := 160) (L' := [some (va_rf r0), some (.int x1), some (.int (x2 + (1 : Int32)))]) dX6_readText_157 rfl ic_1 (Nat.le_of_ble_eq_true rfl) rfl (ah_okp_i _) rfl ?_
      refine ro_goto (tgt := 105) dX6_readText_160 rfl ?_
      exact ih _ _ _ _ h
set_option maxRecDepth 20000 in
set_option maxHeartbeats 4000000 in
theorem W_X6_readText_64 {κ : ah_C} {rr : (Int32 × ah_S)} (hκ : ah_res κ = (.returned (some (.int rr.1)), rr.2))    : ∀ (σ : ah_S) (r0 : Option Nat) (x1 : Int32), F_X6_readText_64 σ r0 x1 = some rr → ah_G κ ("LeftAsFoundModel", "readText", 3, (some FieldType.int), [], 65, 1369) cX6_readText σ 64 [some (va_rf r0), some (.int x1), none] [] := by
  intro σ r0 x1 h
  unfold F_X6_readText_64 at h
  refine ro_aload_n (pc' := 65) dX6_readText_64 rfl rfl rfl ?_
  obtain ⟨v1, hv1, h⟩ := ah_bs h
  refine ro_getI (pc' := 68) ft_621 fk_621 q1329 dX6_readText_65 rfl hv1 ?_
  refine ro_if_ge (pc' := 71) (tgt := 86) dX6_readText_68 rfl rfl (fun c => ?_) (fun c => ?_)
  · replace h := ah_ip c h
    refine ro_aload_n (pc' := 87) dX6_readText_86 rfl rfl rfl ?_
    refine ro_iconst (pc' := 88) dX6_readText_87 ic_0 rfl ?_
    obtain ⟨σ2, hσ2, h⟩ := ah_bs h
    refine ro_putI (pc' := 91) ft_619 fk_619 q1327 pd_619 dX6_readText_88 rfl hσ2 ?_
    refine ro_aload_n (pc' := 92) dX6_readText_91 rfl rfl rfl ?_
    obtain ⟨v3, hv3, h⟩ := ah_bs h
    refine ro_getI (pc' := 95) ft_621 fk_621 q1329 dX6_readText_92 rfl hv3 ?_
    refine ro_if_lt (pc' := 98) (tgt := 103) dX6_readText_95 rfl rfl (fun c => ?_) (fun c => ?_)
    · replace h := ah_ip c h
      refine ro_iconst (pc' := 104) dX6_readText_103 ic_0 rfl ?_
      refine ro_istore_n (pc' := 105) (L' := [some (va_rf r0), some (.int x1), some (.int (0 : Int32))]) dX6_readText_104 rfl (Nat.le_of_ble_eq_true rfl) rfl (ah_okp_i _) rfl ?_
      exact W_X6_readText_105 hκ _ _ _ _ _ h
    · replace h := ah_in_ c h
      refine ro_aload_n (pc' := 99) dX6_readText_98 rfl rfl rfl ?_
      obtain ⟨v4, hv4, h⟩ := ah_bs h
      refine ro_getI (pc' := 102) ft_621 fk_621 q1329 dX6_readText_99 rfl hv4 ?_
      obtain rfl := Option.some.inj h
      exact ro_iret hκ dX6_readText_102
  · replace h := ah_in_ c h
    refine ro_aload_n (pc' := 72) dX6_readText_71 rfl rfl rfl ?_
    obtain ⟨v5, hv5, h⟩ := ah_bs h
    refine ro_getI (pc' := 75) ft_620 fk_620 q1328 dX6_readText_72 rfl hv5 ?_
    refine ro_aload_n (pc' := 76) dX6_readText_75 rfl rfl rfl ?_
    obtain ⟨v6, hv6, h⟩ := ah_bs h
    refine ro_getI (pc' := 79) ft_619 fk_619 q1327 dX6_readText_76 rfl hv6 ?_
    refine ro_icmp_ge (pc' := 82) (tgt := 86) dX6_readText_79 rfl rfl (fun c => ?_) (fun c => ?_)
    · replace h := ah_ip c h
      refine ro_aload_n (pc' := 87) dX6_readText_86 rfl rfl rfl ?_
      refine ro_iconst (pc' := 88) dX6_readText_87 ic_0 rfl ?_
      obtain ⟨σ7, hσ7, h⟩ := ah_bs h
      refine ro_putI (pc' := 91) ft_619 fk_619 q1327 pd_619 dX6_readText_88 rfl hσ7 ?_
      refine ro_aload_n (pc' := 92) dX6_readText_91 rfl rfl rfl ?_
      obtain ⟨v8, hv8, h⟩ := ah_bs h
      refine ro_getI (pc' := 95) ft_621 fk_621 q1329 dX6_readText_92 rfl hv8 ?_
      refine ro_if_lt (pc' := 98) (tgt := 103) dX6_readText_95 rfl rfl (fun c => ?_) (fun c => ?_)
      · replace h := ah_ip c h
        refine ro_iconst (pc' := 104) dX6_readText_103 ic_0 rfl ?_
        refine ro_istore_n (pc' := 105) (L' := [some (va_rf r0), some (.int x1), some (.int (0 : Int32))]) dX6_readText_104 rfl (Nat.le_of_ble_eq_true rfl) rfl (ah_okp_i _) rfl ?_
        exact W_X6_readText_105 hκ _ _ _ _ _ h
      · replace h := ah_in_ c h
        refine ro_aload_n (pc' := 99) dX6_readText_98 rfl rfl rfl ?_
        obtain ⟨v9, hv9, h⟩ := ah_bs h
        refine ro_getI (pc' := 102) ft_621 fk_621 q1329 dX6_readText_99 rfl hv9 ?_
        obtain rfl := Option.some.inj h
        exact ro_iret hκ dX6_readText_102
    · replace h := ah_in_ c h
      refine ro_aload_n (pc' := 83) dX6_readText_82 rfl rfl rfl ?_
      obtain ⟨u10, hu10, h⟩ := ah_bs h
      obtain ⟨σ11, hσ11, h⟩ := ah_bs h
      refine ro_callV (pc' := 86) (As := []) (rest := []) (st' := []) (by decide) hu10 q1614 sl_X6_faulty (M_X6_faulty hσ11) q1612 q1615 q104 dd_X6_faulty rfl ⟨Nat.le_of_ble_eq_true rfl, Nat.le_of_ble_eq_true rfl⟩ (Nat.le_of_ble_eq_true rfl) dX6_readText_83 rfl rfl rfl ?_
      refine ro_aload_n (pc' := 87) dX6_readText_86 rfl rfl rfl ?_
      refine ro_iconst (pc' := 88) dX6_readText_87 ic_0 rfl ?_
      obtain ⟨σ12, hσ12, h⟩ := ah_bs h
      refine ro_putI (pc' := 91) ft_619 fk_619 q1327 pd_619 dX6_readText_88 rfl hσ12 ?_
      refine ro_aload_n (pc' := 92) dX6_readText_91 rfl rfl rfl ?_
      obtain ⟨v13, hv13, h⟩ := ah_bs h
      refine ro_getI (pc' := 95) ft_621 fk_621 q1329 dX6_readText_92 rfl hv13 ?_
      refine ro_if_lt (pc' := 98) (tgt := 103) dX6_readText_95 rfl rfl (fun c => ?_) (fun c => ?_)
      · replace h := ah_ip c h
        refine ro_iconst (pc' := 104) dX6_readText_103 ic_0 rfl ?_
        refine ro_istore_n (pc' := 105) (L' := [some (va_rf r0), some (.int x1), some (.int (0 : Int32))]) dX6_readText_104 rfl (Nat.le_of_ble_eq_true rfl) rfl (ah_okp_i _) rfl ?_
        exact W_X6_readText_105 hκ _ _ _ _ _ h
      · replace h := ah_in_ c h
        refine ro_aload_n (pc' := 99) dX6_readText_98 rfl rfl rfl ?_
        obtain ⟨v14, hv14, h⟩ := ah_bs h
        refine ro_getI (pc' := 102) ft_621 fk_621 q1329 dX6_readText_99 rfl hv14 ?_
        obtain rfl := Option.some.inj h
        exact ro_iret hκ dX6_readText_102
set_option maxRecDepth 20000 in
set_option maxHeartbeats 4000000 in
theorem W_X6_readText_31 {κ : ah_C} {rr : (Int32 × ah_S)} (hκ : ah_res κ = (.returned (some (.int rr.1)), rr.2))    : ∀ (n : Nat) (σ : ah_S) (r0 : Option Nat) (x1 : Int32), F_X6_readText_31 n σ r0 x1 = some rr → ah_G κ ("LeftAsFoundModel", "readText", 3, (some FieldType.int), [], 65, 1369) cX6_readText σ 31 [some (va_rf r0), some (.int x1), none] [] := by
  intro n
  induction n with
  | zero => intro σ r0 x1 h; cases h
  | succ n ih =>
    intro σ r0 x1 h
    rw [F_X6_readText_31] at h
    refine ro_aload_n (pc' := 32) dX6_readText_31 rfl rfl rfl ?_
    obtain ⟨v1, hv1, h⟩ := ah_bs h
    refine ro_getI (pc' := 35) ft_621 fk_621 q1329 dX6_readText_32 rfl hv1 ?_
    refine ro_if_ge (pc' := 38) (tgt := 64) dX6_readText_35 rfl rfl (fun c => ?_) (fun c => ?_)
    · replace h := ah_ip c h
      exact W_X6_readText_64 hκ _ _ _ h
    · replace h := ah_in_ c h
      refine ro_aload_n (pc' := 39) dX6_readText_38 rfl rfl rfl ?_
      obtain ⟨u2, hu2, h⟩ := ah_bs h
      obtain ⟨v3, σ4, hv3, h⟩ := ah_bs2 h
      refine ro_callV (pc' := 42) (As := []) (rest := []) (st' := [.int v3]) (by decide) hu2 q1599 sl_X6_look (M_X6_look hv3) q1597 q1600 q104 dd_X6_look rfl ⟨Nat.le_of_ble_eq_true rfl, Nat.le_of_ble_eq_true rfl⟩ (Nat.le_of_ble_eq_true rfl) dX6_readText_39 rfl rfl rfl ?_
      refine ro_bipush (pc' := 44) dX6_readText_42 ib_59 rfl ?_
      refine ro_icmp_ne (pc' := 47) (tgt := 64) dX6_readText_44 rfl rfl (fun c => ?_) (fun c => ?_)
      · replace h := ah_in_ c h
        exact W_X6_readText_64 hκ _ _ _ h
      · replace h := ah_ip c h
        refine ro_aload_n (pc' := 48) dX6_readText_47 rfl rfl rfl ?_
        refine ro_dup (pc' := 49) dX6_readText_48 (ah_rf_cat _) rfl ?_
        obtain ⟨v5, hv5, h⟩ := ah_bs h
        refine ro_getI (pc' := 52) ft_620 fk_620 q1328 dX6_readText_49 rfl hv5 ?_
        refine ro_iconst (pc' := 53) dX6_readText_52 ic_1 rfl ?_
        refine ro_iadd (pc' := 54) dX6_readText_53 rfl ?_
        obtain ⟨σ6, hσ6, h⟩ := ah_bs h
        refine ro_putI (pc' := 57) ft_620 fk_620 q1328 pd_620 dX6_readText_54 rfl hσ6 ?_
        refine ro_aload_n (pc' := 58) dX6_readText_57 rfl rfl rfl ?_
        obtain ⟨u7, hu7, h⟩ := ah_bs h
        obtain ⟨σ8, hσ8, h⟩ := ah_bs h
        refine ro_callV (pc' := 61) (As := []) (rest := []) (st' := []) (by decide) hu7 q1571 sl_X6_line (M_X6_line hσ8) q1569 q1572 q104 dd_X6_line rfl ⟨Nat.le_of_ble_eq_true rfl, Nat.le_of_ble_eq_true rfl⟩ (Nat.le_of_ble_eq_true rfl) dX6_readText_58 rfl rfl rfl ?_
        refine ro_goto (tgt := 31) dX6_readText_61 rfl ?_
        exact ih _ _ _ h
set_option maxRecDepth 20000 in
set_option maxHeartbeats 4000000 in
theorem W_X6_readText {κ : ah_C} {rr : (Int32 × ah_S)} (hκ : ah_res κ = (.returned (some (.int rr.1)), rr.2))  (σ : ah_S) (r0 : Option Nat) (x1 : Int32) (h : F_X6_readText σ r0 x1 = some rr) : ah_G κ ("LeftAsFoundModel", "readText", 3, (some FieldType.int), [], 65, 1369) cX6_readText σ 0 [some (va_rf r0), some (.int x1), none] [] := by
  unfold F_X6_readText at h
  refine ro_aload_n (pc' := 1) dX6_readText_0 rfl rfl rfl ?_
  refine ro_iconst (pc' := 2) dX6_readText_1 ic_0 rfl ?_
  obtain ⟨σ1, hσ1, h⟩ := ah_bs h
  refine ro_putI (pc' := 5) ft_620 fk_620 q1328 pd_620 dX6_readText_2 rfl hσ1 ?_
  refine ro_aload_n (pc' := 6) dX6_readText_5 rfl rfl rfl ?_
  refine ro_iconst (pc' := 7) dX6_readText_6 ic_m1 rfl ?_
  obtain ⟨σ2, hσ2, h⟩ := ah_bs h
  refine ro_putI (pc' := 10) ft_621 fk_621 q1329 pd_621 dX6_readText_7 rfl hσ2 ?_
  refine ro_aload_n (pc' := 11) dX6_readText_10 rfl rfl rfl ?_
  refine ro_iconst (pc' := 12) dX6_readText_11 ic_0 rfl ?_
  obtain ⟨σ3, hσ3, h⟩ := ah_bs h
  refine ro_putI (pc' := 15) ft_622 fk_622 q1330 pd_622 dX6_readText_12 rfl hσ3 ?_
  refine ro_aload_n (pc' := 16) dX6_readText_15 rfl rfl rfl ?_
  refine ro_iconst (pc' := 17) dX6_readText_16 ic_0 rfl ?_
  obtain ⟨σ4, hσ4, h⟩ := ah_bs h
  refine ro_putI (pc' := 20) ft_623 fk_623 q1331 pd_623 dX6_readText_17 rfl hσ4 ?_
  refine ro_aload_n (pc' := 21) dX6_readText_20 rfl rfl rfl ?_
  obtain ⟨v5, hv5, h⟩ := ah_bs h
  refine ro_getR (pc' := 24) ft_626 fk_626 q1334 dX6_readText_21 rfl hv5 ?_
  refine ro_iconst (pc' := 25) dX6_readText_24 ic_1 rfl ?_
  refine ro_iconst (pc' := 26) dX6_readText_25 ic_0 rfl ?_
  obtain ⟨σ6, hσ6, h⟩ := ah_bs h
  refine ro_iastore (pc' := 27) dX6_readText_26 rfl hσ6 ?_
  refine ro_aload_n (pc' := 28) dX6_readText_27 rfl rfl rfl ?_
  obtain ⟨u7, hu7, h⟩ := ah_bs h
  obtain ⟨σ8, hσ8, h⟩ := ah_bs h
  refine ro_callV (pc' := 31) (As := []) (rest := []) (st' := []) (by decide) hu7 q1571 sl_X6_line (M_X6_line hσ8) q1569 q1572 q104 dd_X6_line rfl ⟨Nat.le_of_ble_eq_true rfl, Nat.le_of_ble_eq_true rfl⟩ (Nat.le_of_ble_eq_true rfl) dX6_readText_28 rfl rfl rfl ?_
  exact W_X6_readText_31 hκ _ _ _ _ h
theorem M_X6_readText {l : Launch} {D : ah_D}  {σ : ah_S} {r0 : Option Nat} {x1 : Int32} {v : Int32} {σ1 : ah_S} (h : F_X6_readText σ r0 x1 = some (v, σ1)) : ah_Met l yX6_readText (Cond.code yX6_readText cX6_readText 3 (some FieldType.int)) 65 1369 D [va_rf r0, .int x1] σ (.returned (some (.int v)), σ1) :=
  ah_ofG (own := "LeftAsFoundModel") (nm := "readText") (L0 := [some (va_rf r0), some (.int x1), none]) (by decide) rfl rfl rfl (ah_ao_1 (ah_rf_cat _) (ah_ao_1 rfl (ah_ao_n ah_ao_0))) (fun κ hκ => W_X6_readText hκ  σ r0 x1 h)
set_option maxRecDepth 20000 in
set_option maxHeartbeats 4000000 in
theorem W_X6_law {κ : ah_C} {rr : (Int32 × ah_S)} (hκ : ah_res κ = (.returned (some (.int rr.1)), rr.2))  (σ : ah_S) (r0 : Option Nat) (h : F_X6_law σ r0 = some rr) : ah_G κ ("LeftAsFoundModel", "law", 2, (some FieldType.int), [], 66, 1391) cX6_law σ 0 [some (va_rf r0), none] [] := by
  unfold F_X6_law at h
  refine ro_aload_n (pc' := 1) dX6_law_0 rfl rfl rfl ?_
  refine ro_iconst (pc' := 2) dX6_law_1 ic_0 rfl ?_
  obtain ⟨u1, hu1, h⟩ := ah_bs h
  obtain ⟨v2, σ3, hv2, h⟩ := ah_bs2 h
  refine ro_callV (pc' := 5) (As := [.int (0 : Int32)]) (rest := []) (st' := [.int v2]) (by decide) hu1 q1567 sl_X6_readText (M_X6_readText hv2) q1565 q1568 q104 dd_X6_readText rfl ⟨Nat.le_of_ble_eq_true rfl, Nat.le_of_ble_eq_true rfl⟩ (Nat.le_of_ble_eq_true rfl) dX6_law_2 rfl rfl rfl ?_
  refine ro_istore_n (pc' := 6) (L' := [some (va_rf r0), some (.int v2)]) dX6_law_5 rfl (Nat.le_of_ble_eq_true rfl) rfl (ah_okp_r _) rfl ?_
  refine ro_iload_n (pc' := 7) dX6_law_6 rfl rfl rfl ?_
  refine ro_if_lt (pc' := 10) (tgt := 15) dX6_law_7 rfl rfl (fun c => ?_) (fun c => ?_)
  · replace h := ah_ip c h
    refine ro_aload_n (pc' := 16) dX6_law_15 rfl rfl rfl ?_
    refine ro_iconst (pc' := 17) dX6_law_16 ic_1 rfl ?_
    obtain ⟨σ4, hσ4, h⟩ := ah_bs h
    refine ro_putZ (pc' := 20) ft_631 fk_631 q1339 pd_631 dX6_law_17 rfl hσ4 ?_
    refine ro_iconst (pc' := 21) dX6_law_20 ic_1 rfl ?_
    obtain rfl := Option.some.inj h
    exact ro_iret hκ dX6_law_21
  · replace h := ah_in_ c h
    refine ro_bipush (pc' := 12) dX6_law_10 ib_m100 rfl ?_
    refine ro_iload_n (pc' := 13) dX6_law_12 rfl rfl rfl ?_
    refine ro_isub (pc' := 14) dX6_law_13 rfl ?_
    obtain rfl := Option.some.inj h
    exact ro_iret hκ dX6_law_14
theorem M_X6_law {l : Launch} {D : ah_D}  {σ : ah_S} {r0 : Option Nat} {v : Int32} {σ1 : ah_S} (h : F_X6_law σ r0 = some (v, σ1)) : ah_Met l yX6_law (Cond.code yX6_law cX6_law 2 (some FieldType.int)) 66 1391 D [va_rf r0] σ (.returned (some (.int v)), σ1) :=
  ah_ofG (own := "LeftAsFoundModel") (nm := "law") (L0 := [some (va_rf r0), none]) (by decide) rfl rfl rfl (ah_ao_1 (ah_rf_cat _) (ah_ao_n ah_ao_0)) (fun κ hκ => W_X6_law hκ  σ r0 h)
set_option maxRecDepth 20000 in
set_option maxHeartbeats 4000000 in
theorem W_X6_order_53 {κ : ah_C} {rr : (Int32 × ah_S)} (hκ : ah_res κ = (.returned (some (.int rr.1)), rr.2))    : ∀ (σ : ah_S) (r0 : Option Nat) (x2 : Int32) (y0 : Int32), F_X6_order_53 σ r0 x2 y0 = some rr → ah_G κ ("LeftAsFoundModel", "order", 4, (some FieldType.int), [], 19, 463) cX6_order σ 53 [some (va_rf r0), none, some (.int x2), none] [.int y0] := by
  intro σ r0 x2 y0 h
  unfold F_X6_order_53 at h
  refine ro_istore_n (pc' := 54) (L' := [some (va_rf r0), none, some (.int x2), some (.int y0)]) dX6_order_53 rfl (Nat.le_of_ble_eq_true rfl) rfl (ah_okp_i _) rfl ?_
  refine ro_aload_n (pc' := 55) dX6_order_54 rfl rfl rfl ?_
  refine ro_iconst (pc' := 56) dX6_order_55 ic_m1 rfl ?_
  obtain ⟨σ1, hσ1, h⟩ := ah_bs h
  refine ro_putI (pc' := 59) ft_641 fk_641 q1349 pd_641 dX6_order_56 rfl hσ1 ?_
  refine ro_aload_n (pc' := 60) dX6_order_59 rfl rfl rfl ?_
  refine ro_iconst (pc' := 61) dX6_order_60 ic_0 rfl ?_
  refine ro_iload_n (pc' := 62) dX6_order_61 rfl rfl rfl ?_
  refine ro_iconst (pc' := 63) dX6_order_62 ic_0 rfl ?_
  obtain ⟨u2, hu2, h⟩ := ah_bs h
  obtain ⟨σ3, hσ3, h⟩ := ah_bs h
  refine ro_callV (pc' := 66) (As := [.int (0 : Int32), .int y0, .int (0 : Int32)]) (rest := []) (st' := []) (by decide) hu2 q1734 sl_X6_goOrders (N_X6_goOrders 10 hσ3) q1732 q1735 q104 dd_X6_goOrders rfl ⟨Nat.le_of_ble_eq_true rfl, Nat.le_of_ble_eq_true rfl⟩ (Nat.le_of_ble_eq_true rfl) dX6_order_63 rfl rfl rfl ?_
  refine ro_iload_n (pc' := 67) dX6_order_66 rfl rfl rfl ?_
  refine ro_if_ge (pc' := 70) (tgt := 77) dX6_order_67 rfl rfl (fun c => ?_) (fun c => ?_)
  · replace h := ah_ip c h
    refine ro_iload_n (pc' := 78) dX6_order_77 rfl rfl rfl ?_
    refine ro_iload_n (pc' := 79) dX6_order_78 rfl rfl rfl ?_
    refine ro_icmp_ge (pc' := 82) (tgt := 91) dX6_order_79 rfl rfl (fun c => ?_) (fun c => ?_)
    · replace h := ah_ip c h
      refine ro_bipush (pc' := 93) dX6_order_91 ib_m2 rfl ?_
      obtain rfl := Option.some.inj h
      exact ro_iret hκ dX6_order_93
    · replace h := ah_in_ c h
      refine ro_aload_n (pc' := 83) dX6_order_82 rfl rfl rfl ?_
      obtain ⟨v4, hv4, h⟩ := ah_bs h
      refine ro_getR (pc' := 86) ft_640 fk_640 q1348 dX6_order_83 rfl hv4 ?_
      refine ro_iload_n (pc' := 87) dX6_order_86 rfl rfl rfl ?_
      obtain ⟨v5, hv5, h⟩ := ah_bs h
      refine ro_iaload (pc' := 88) dX6_order_87 rfl hv5 ?_
      refine ro_goto (tgt := 93) dX6_order_88 rfl ?_
      obtain rfl := Option.some.inj h
      exact ro_iret hκ dX6_order_93
  · replace h := ah_in_ c h
    refine ro_aload_n (pc' := 71) dX6_order_70 rfl rfl rfl ?_
    obtain ⟨v6, hv6, h⟩ := ah_bs h
    refine ro_getI (pc' := 74) ft_641 fk_641 q1349 dX6_order_71 rfl hv6 ?_
    refine ro_goto (tgt := 93) dX6_order_74 rfl ?_
    obtain rfl := Option.some.inj h
    exact ro_iret hκ dX6_order_93
set_option maxRecDepth 20000 in
set_option maxHeartbeats 4000000 in
theorem W_X6_order {κ : ah_C} {rr : (Int32 × ah_S)} (hκ : ah_res κ = (.returned (some (.int rr.1)), rr.2))  (σ : ah_S) (r0 : Option Nat) (x1 : Int32) (x2 : Int32) (h : F_X6_order σ r0 x1 x2 = some rr) : ah_G κ ("LeftAsFoundModel", "order", 4, (some FieldType.int), [], 19, 463) cX6_order σ 0 [some (va_rf r0), some (.int x1), some (.int x2), none] [] := by
  unfold F_X6_order at h
  refine ro_iload_n (pc' := 1) dX6_order_0 rfl rfl rfl ?_
  obtain ⟨v1, σ2, hv1, h⟩ := ah_bs2 h
  refine ro_callS (pc' := 4) (As := [.int x1]) (rest := []) (st' := [.int v1]) q1505 (M_X6_isShelf hv1) q1504 q1506 q104 dd_X6_isShelf rfl ⟨Nat.le_of_ble_eq_true rfl, Nat.le_of_ble_eq_true rfl⟩ (Nat.le_of_ble_eq_true rfl) dX6_order_1 rfl rfl rfl ?_
  refine ro_if_eq (pc' := 7) (tgt := 12) dX6_order_4 rfl rfl (fun c => ?_) (fun c => ?_)
  · replace h := ah_ip c h
    refine ro_iconst (pc' := 13) dX6_order_12 ic_m1 rfl ?_
    obtain rfl := Option.some.inj h
    exact ro_iret hκ dX6_order_13
  · replace h := ah_in_ c h
    refine ro_iload_n (pc' := 8) dX6_order_7 rfl rfl rfl ?_
    refine ro_iconst (pc' := 9) dX6_order_8 ic_m1 rfl ?_
    refine ro_icmp_ge (pc' := 12) (tgt := 14) dX6_order_9 rfl rfl (fun c => ?_) (fun c => ?_)
    · replace h := ah_ip c h
      refine ro_aload_n (pc' := 15) dX6_order_14 rfl rfl rfl ?_
      refine ro_iload_n (pc' := 16) dX6_order_15 rfl rfl rfl ?_
      obtain ⟨u3, hu3, h⟩ := ah_bs h
      obtain ⟨v4, σ5, hv4, h⟩ := ah_bs2 h
      refine ro_callV (pc' := 19) (As := [.int x1]) (rest := []) (st' := [.int v4]) (by decide) hu3 q1626 sl_X6_rowFault (M_X6_rowFault hv4) q1624 q1627 q104 dd_X6_rowFault rfl ⟨Nat.le_of_ble_eq_true rfl, Nat.le_of_ble_eq_true rfl⟩ (Nat.le_of_ble_eq_true rfl) dX6_order_16 rfl rfl rfl ?_
      refine ro_if_ge (pc' := 22) (tgt := 28) dX6_order_19 rfl rfl (fun c => ?_) (fun c => ?_)
      · replace h := ah_ip c h
        refine ro_aload_n (pc' := 29) dX6_order_28 rfl rfl rfl ?_
        refine ro_iload_n (pc' := 30) dX6_order_29 rfl rfl rfl ?_
        obtain ⟨u6, hu6, h⟩ := ah_bs h
        obtain ⟨σ7, hσ7, h⟩ := ah_bs h
        refine ro_callV (pc' := 33) (As := [.int x1]) (rest := []) (st' := []) (by decide) hu6 q1630 sl_X6_layStays (M_X6_layStays hσ7) q1628 q1631 q104 dd_X6_layStays rfl ⟨Nat.le_of_ble_eq_true rfl, Nat.le_of_ble_eq_true rfl⟩ (Nat.le_of_ble_eq_true rfl) dX6_order_30 rfl rfl rfl ?_
        refine ro_aload_n (pc' := 34) dX6_order_33 rfl rfl rfl ?_
        obtain ⟨u8, hu8, h⟩ := ah_bs h
        obtain ⟨σ9, hσ9, h⟩ := ah_bs h
        refine ro_callV (pc' := 37) (As := []) (rest := []) (st' := []) (by decide) hu8 q1726 sl_X6_keepStays (M_X6_keepStays hσ9) q1724 q1727 q104 dd_X6_keepStays rfl ⟨Nat.le_of_ble_eq_true rfl, Nat.le_of_ble_eq_true rfl⟩ (Nat.le_of_ble_eq_true rfl) dX6_order_34 rfl rfl rfl ?_
        refine ro_aload_n (pc' := 38) dX6_order_37 rfl rfl rfl ?_
        obtain ⟨v10, hv10, h⟩ := ah_bs h
        refine ro_getI (pc' := 41) ft_636 fk_636 q1344 dX6_order_38 rfl hv10 ?_
        refine ro_iconst (pc' := 42) dX6_order_41 ic_5 rfl ?_
        refine ro_icmp_ge (pc' := 45) (tgt := 52) dX6_order_42 rfl rfl (fun c => ?_) (fun c => ?_)
        · replace h := ah_ip c h
          refine ro_iconst (pc' := 53) dX6_order_52 ic_5 rfl ?_
          refine ro_weak (L' := [some (va_rf r0), none, some (.int x2), none]) (ah_ls_s (ah_ls_n (ah_ls_s (ah_ls_s ah_ls_0)))) ?_
          exact W_X6_order_53 hκ _ _ _ _ h
        · replace h := ah_in_ c h
          refine ro_aload_n (pc' := 46) dX6_order_45 rfl rfl rfl ?_
          obtain ⟨v11, hv11, h⟩ := ah_bs h
          refine ro_getI (pc' := 49) ft_636 fk_636 q1344 dX6_order_46 rfl hv11 ?_
          refine ro_goto (tgt := 53) dX6_order_49 rfl ?_
          refine ro_weak (L' := [some (va_rf r0), none, some (.int x2), none]) (ah_ls_s (ah_ls_n (ah_ls_s (ah_ls_s ah_ls_0)))) ?_
          exact W_X6_order_53 hκ _ _ _ _ h
      · replace h := ah_in_ c h
        refine ro_aload_n (pc' := 23) dX6_order_22 rfl rfl rfl ?_
        refine ro_iload_n (pc' := 24) dX6_order_23 rfl rfl rfl ?_
        obtain ⟨u12, hu12, h⟩ := ah_bs h
        obtain ⟨v13, σ14, hv13, h⟩ := ah_bs2 h
        refine ro_callV (pc' := 27) (As := [.int x1]) (rest := []) (st' := [.int v13]) (by decide) hu12 q1626 sl_X6_rowFault (M_X6_rowFault hv13) q1624 q1627 q104 dd_X6_rowFault rfl ⟨Nat.le_of_ble_eq_true rfl, Nat.le_of_ble_eq_true rfl⟩ (Nat.le_of_ble_eq_true rfl) dX6_order_24 rfl rfl rfl ?_
        obtain rfl := Option.some.inj h
        exact ro_iret hκ dX6_order_27
    · replace h := ah_in_ c h
      refine ro_iconst (pc' := 13) dX6_order_12 ic_m1 rfl ?_
      obtain rfl := Option.some.inj h
      exact ro_iret hκ dX6_order_13
theorem M_X6_order {l : Launch} {D : ah_D}  {σ : ah_S} {r0 : Option Nat} {x1 : Int32} {x2 : Int32} {v : Int32} {σ1 : ah_S} (h : F_X6_order σ r0 x1 x2 = some (v, σ1)) : ah_Met l yX6_order (Cond.code yX6_order cX6_order 4 (some FieldType.int)) 19 463 D [va_rf r0, .int x1, .int x2] σ (.returned (some (.int v)), σ1) :=
  ah_ofG (own := "LeftAsFoundModel") (nm := "order") (L0 := [some (va_rf r0), some (.int x1), some (.int x2), none]) (by decide) rfl rfl rfl (ah_ao_1 (ah_rf_cat _) (ah_ao_1 rfl (ah_ao_1 rfl (ah_ao_n ah_ao_0)))) (fun κ hκ => W_X6_order hκ  σ r0 x1 x2 h)
set_option maxRecDepth 20000 in
set_option maxHeartbeats 4000000 in
theorem W_X6_waysOf {κ : ah_C} {rr : (Int32 × ah_S)} (hκ : ah_res κ = (.returned (some (.int rr.1)), rr.2))  (σ : ah_S) (r0 : Option Nat) (x1 : Int32) (x2 : Int32) (x3 : Int32) (x4 : Int32) (h : F_X6_waysOf σ r0 x1 x2 x3 x4 = some rr) : ah_G κ ("LeftAsFoundModel", "waysOf", 6, (some FieldType.int), [], 18, 452) cX6_waysOf σ 0 [some (va_rf r0), some (.int x1), some (.int x2), some (.int x3), some (.int x4), none] [] := by
  unfold F_X6_waysOf at h
  refine ro_aload_n (pc' := 1) dX6_waysOf_0 rfl rfl rfl ?_
  refine ro_iload_n (pc' := 2) dX6_waysOf_1 rfl rfl rfl ?_
  obtain ⟨σ1, hσ1, h⟩ := ah_bs h
  refine ro_putI (pc' := 5) ft_646 fk_646 q1354 pd_646 dX6_waysOf_2 rfl hσ1 ?_
  refine ro_aload_n (pc' := 6) dX6_waysOf_5 rfl rfl rfl ?_
  refine ro_iload (pc' := 8) dX6_waysOf_6 rfl rfl ?_
  obtain ⟨σ2, hσ2, h⟩ := ah_bs h
  refine ro_putI (pc' := 11) ft_647 fk_647 q1355 pd_647 dX6_waysOf_8 rfl hσ2 ?_
  refine ro_aload_n (pc' := 12) dX6_waysOf_11 rfl rfl rfl ?_
  obtain ⟨u3, hu3, h⟩ := ah_bs h
  obtain ⟨σ4, hσ4, h⟩ := ah_bs h
  refine ro_callV (pc' := 15) (As := []) (rest := []) (st' := []) (by decide) hu3 q1634 sl_X6_keepHut (M_X6_keepHut hσ4) q1632 q1635 q104 dd_X6_keepHut rfl ⟨Nat.le_of_ble_eq_true rfl, Nat.le_of_ble_eq_true rfl⟩ (Nat.le_of_ble_eq_true rfl) dX6_waysOf_12 rfl rfl rfl ?_
  refine ro_aload_n (pc' := 16) dX6_waysOf_15 rfl rfl rfl ?_
  refine ro_iconst (pc' := 17) dX6_waysOf_16 ic_0 rfl ?_
  refine ro_iload_n (pc' := 18) dX6_waysOf_17 rfl rfl rfl ?_
  refine ro_iload_n (pc' := 19) dX6_waysOf_18 rfl rfl rfl ?_
  obtain ⟨u5, hu5, h⟩ := ah_bs h
  obtain ⟨v6, σ7, hv6, h⟩ := ah_bs2 h
  refine ro_callV (pc' := 22) (As := [.int (0 : Int32), .int x1, .int x2]) (rest := []) (st' := [.int v6]) (by decide) hu5 q1759 sl_X6_waysFrom (N_X6_waysFrom 10 hv6) q1757 q1760 q104 dd_X6_waysFrom rfl ⟨Nat.le_of_ble_eq_true rfl, Nat.le_of_ble_eq_true rfl⟩ (Nat.le_of_ble_eq_true rfl) dX6_waysOf_19 rfl rfl rfl ?_
  refine ro_istore (pc' := 24) (L' := [some (va_rf r0), some (.int x1), some (.int x2), some (.int x3), some (.int x4), some (.int v6)]) dX6_waysOf_22 (Nat.le_of_ble_eq_true rfl) rfl (ah_okp_i _) rfl ?_
  refine ro_aload_n (pc' := 25) dX6_waysOf_24 rfl rfl rfl ?_
  obtain ⟨u8, hu8, h⟩ := ah_bs h
  obtain ⟨σ9, hσ9, h⟩ := ah_bs h
  refine ro_callV (pc' := 28) (As := []) (rest := []) (st' := []) (by decide) hu8 q1665 sl_X6_layHut (M_X6_layHut hσ9) q1663 q1666 q104 dd_X6_layHut rfl ⟨Nat.le_of_ble_eq_true rfl, Nat.le_of_ble_eq_true rfl⟩ (Nat.le_of_ble_eq_true rfl) dX6_waysOf_25 rfl rfl rfl ?_
  refine ro_iload (pc' := 30) dX6_waysOf_28 rfl rfl ?_
  obtain rfl := Option.some.inj h
  exact ro_iret hκ dX6_waysOf_30
theorem M_X6_waysOf {l : Launch} {D : ah_D}  {σ : ah_S} {r0 : Option Nat} {x1 : Int32} {x2 : Int32} {x3 : Int32} {x4 : Int32} {v : Int32} {σ1 : ah_S} (h : F_X6_waysOf σ r0 x1 x2 x3 x4 = some (v, σ1)) : ah_Met l yX6_waysOf (Cond.code yX6_waysOf cX6_waysOf 6 (some FieldType.int)) 18 452 D [va_rf r0, .int x1, .int x2, .int x3, .int x4] σ (.returned (some (.int v)), σ1) :=
  ah_ofG (own := "LeftAsFoundModel") (nm := "waysOf") (L0 := [some (va_rf r0), some (.int x1), some (.int x2), some (.int x3), some (.int x4), none]) (by decide) rfl rfl rfl (ah_ao_1 (ah_rf_cat _) (ah_ao_1 rfl (ah_ao_1 rfl (ah_ao_1 rfl (ah_ao_1 rfl (ah_ao_n ah_ao_0)))))) (fun κ hκ => W_X6_waysOf hκ  σ r0 x1 x2 x3 x4 h)
set_option maxRecDepth 20000 in
set_option maxHeartbeats 4000000 in
theorem W_X6_ways {κ : ah_C} {rr : (Int32 × ah_S)} (hκ : ah_res κ = (.returned (some (.int rr.1)), rr.2))  (σ : ah_S) (r0 : Option Nat) (x1 : Int32) (x2 : Int32) (h : F_X6_ways σ r0 x1 x2 = some rr) : ah_G κ ("LeftAsFoundModel", "ways", 3, (some FieldType.int), [], 19, 477) cX6_ways σ 0 [some (va_rf r0), some (.int x1), some (.int x2)] [] := by
  unfold F_X6_ways at h
  refine ro_iload_n (pc' := 1) dX6_ways_0 rfl rfl rfl ?_
  obtain ⟨v1, σ2, hv1, h⟩ := ah_bs2 h
  refine ro_callS (pc' := 4) (As := [.int x1]) (rest := []) (st' := [.int v1]) q1505 (M_X6_isShelf hv1) q1504 q1506 q104 dd_X6_isShelf rfl ⟨Nat.le_of_ble_eq_true rfl, Nat.le_of_ble_eq_true rfl⟩ (Nat.le_of_ble_eq_true rfl) dX6_ways_1 rfl rfl rfl ?_
  refine ro_if_eq (pc' := 7) (tgt := 14) dX6_ways_4 rfl rfl (fun c => ?_) (fun c => ?_)
  · replace h := ah_ip c h
    refine ro_iconst (pc' := 15) dX6_ways_14 ic_m1 rfl ?_
    obtain rfl := Option.some.inj h
    exact ro_iret hκ dX6_ways_15
  · replace h := ah_in_ c h
    refine ro_iload_n (pc' := 8) dX6_ways_7 rfl rfl rfl ?_
    obtain ⟨v3, σ4, hv3, h⟩ := ah_bs2 h
    refine ro_callS (pc' := 11) (As := [.int x2]) (rest := []) (st' := [.int v3]) q1532 (M_X6_isThing hv3) q1531 q1533 q104 dd_X6_isThing rfl ⟨Nat.le_of_ble_eq_true rfl, Nat.le_of_ble_eq_true rfl⟩ (Nat.le_of_ble_eq_true rfl) dX6_ways_8 rfl rfl rfl ?_
    refine ro_if_ne (pc' := 14) (tgt := 16) dX6_ways_11 rfl rfl (fun c => ?_) (fun c => ?_)
    · replace h := ah_in_ c h
      refine ro_aload_n (pc' := 17) dX6_ways_16 rfl rfl rfl ?_
      refine ro_iload_n (pc' := 18) dX6_ways_17 rfl rfl rfl ?_
      obtain ⟨u5, hu5, h⟩ := ah_bs h
      obtain ⟨v6, σ7, hv6, h⟩ := ah_bs2 h
      refine ro_callV (pc' := 21) (As := [.int x1]) (rest := []) (st' := [.int v6]) (by decide) hu5 q1626 sl_X6_rowFault (M_X6_rowFault hv6) q1624 q1627 q104 dd_X6_rowFault rfl ⟨Nat.le_of_ble_eq_true rfl, Nat.le_of_ble_eq_true rfl⟩ (Nat.le_of_ble_eq_true rfl) dX6_ways_18 rfl rfl rfl ?_
      refine ro_if_ge (pc' := 24) (tgt := 30) dX6_ways_21 rfl rfl (fun c => ?_) (fun c => ?_)
      · replace h := ah_ip c h
        refine ro_aload_n (pc' := 31) dX6_ways_30 rfl rfl rfl ?_
        refine ro_iload_n (pc' := 32) dX6_ways_31 rfl rfl rfl ?_
        obtain ⟨u8, hu8, h⟩ := ah_bs h
        obtain ⟨σ9, hσ9, h⟩ := ah_bs h
        refine ro_callV (pc' := 35) (As := [.int x1]) (rest := []) (st' := []) (by decide) hu8 q1751 sl_X6_laySeen (M_X6_laySeen hσ9) q1749 q1752 q104 dd_X6_laySeen rfl ⟨Nat.le_of_ble_eq_true rfl, Nat.le_of_ble_eq_true rfl⟩ (Nat.le_of_ble_eq_true rfl) dX6_ways_32 rfl rfl rfl ?_
        refine ro_aload_n (pc' := 36) dX6_ways_35 rfl rfl rfl ?_
        refine ro_aload_n (pc' := 37) dX6_ways_36 rfl rfl rfl ?_
        obtain ⟨v10, hv10, h⟩ := ah_bs h
        refine ro_getI (pc' := 40) ft_644 fk_644 q1352 dX6_ways_37 rfl hv10 ?_
        refine ro_bipush (pc' := 42) dX6_ways_40 ib_6 rfl ?_
        refine ro_icmp_ge (pc' := 45) (tgt := 52) dX6_ways_42 rfl rfl (fun c => ?_) (fun c => ?_)
        · replace h := ah_ip c h
          refine ro_bipush (pc' := 54) dX6_ways_52 ib_6 rfl ?_
          refine ro_iload_n (pc' := 55) dX6_ways_54 rfl rfl rfl ?_
          refine ro_iconst (pc' := 56) dX6_ways_55 ic_m1 rfl ?_
          refine ro_iconst (pc' := 57) dX6_ways_56 ic_0 rfl ?_
          obtain ⟨u11, hu11, h⟩ := ah_bs h
          obtain ⟨v12, σ13, hv12, h⟩ := ah_bs2 h
          refine ro_callV (pc' := 60) (As := [.int (6 : Int32), .int x2, .int (-1 : Int32), .int (0 : Int32)]) (rest := []) (st' := [.int v12]) (by decide) hu11 q1755 sl_X6_waysOf (M_X6_waysOf hv12) q1753 q1756 q104 dd_X6_waysOf rfl ⟨Nat.le_of_ble_eq_true rfl, Nat.le_of_ble_eq_true rfl⟩ (Nat.le_of_ble_eq_true rfl) dX6_ways_57 rfl rfl rfl ?_
          obtain rfl := Option.some.inj h
          exact ro_iret hκ dX6_ways_60
        · replace h := ah_in_ c h
          refine ro_aload_n (pc' := 46) dX6_ways_45 rfl rfl rfl ?_
          obtain ⟨v14, hv14, h⟩ := ah_bs h
          refine ro_getI (pc' := 49) ft_644 fk_644 q1352 dX6_ways_46 rfl hv14 ?_
          refine ro_goto (tgt := 54) dX6_ways_49 rfl ?_
          refine ro_iload_n (pc' := 55) dX6_ways_54 rfl rfl rfl ?_
          refine ro_iconst (pc' := 56) dX6_ways_55 ic_m1 rfl ?_
          refine ro_iconst (pc' := 57) dX6_ways_56 ic_0 rfl ?_
          obtain ⟨u15, hu15, h⟩ := ah_bs h
          obtain ⟨v16, σ17, hv16, h⟩ := ah_bs2 h
          refine ro_callV (pc' := 60) (As := [.int v14, .int x2, .int (-1 : Int32), .int (0 : Int32)]) (rest := []) (st' := [.int v16]) (by decide) hu15 q1755 sl_X6_waysOf (M_X6_waysOf hv16) q1753 q1756 q104 dd_X6_waysOf rfl ⟨Nat.le_of_ble_eq_true rfl, Nat.le_of_ble_eq_true rfl⟩ (Nat.le_of_ble_eq_true rfl) dX6_ways_57 rfl rfl rfl ?_
          obtain rfl := Option.some.inj h
          exact ro_iret hκ dX6_ways_60
      · replace h := ah_in_ c h
        refine ro_aload_n (pc' := 25) dX6_ways_24 rfl rfl rfl ?_
        refine ro_iload_n (pc' := 26) dX6_ways_25 rfl rfl rfl ?_
        obtain ⟨u18, hu18, h⟩ := ah_bs h
        obtain ⟨v19, σ20, hv19, h⟩ := ah_bs2 h
        refine ro_callV (pc' := 29) (As := [.int x1]) (rest := []) (st' := [.int v19]) (by decide) hu18 q1626 sl_X6_rowFault (M_X6_rowFault hv19) q1624 q1627 q104 dd_X6_rowFault rfl ⟨Nat.le_of_ble_eq_true rfl, Nat.le_of_ble_eq_true rfl⟩ (Nat.le_of_ble_eq_true rfl) dX6_ways_26 rfl rfl rfl ?_
        obtain rfl := Option.some.inj h
        exact ro_iret hκ dX6_ways_29
    · replace h := ah_ip c h
      refine ro_iconst (pc' := 15) dX6_ways_14 ic_m1 rfl ?_
      obtain rfl := Option.some.inj h
      exact ro_iret hκ dX6_ways_15
theorem M_X6_ways {l : Launch} {D : ah_D}  {σ : ah_S} {r0 : Option Nat} {x1 : Int32} {x2 : Int32} {v : Int32} {σ1 : ah_S} (h : F_X6_ways σ r0 x1 x2 = some (v, σ1)) : ah_Met l yX6_ways (Cond.code yX6_ways cX6_ways 3 (some FieldType.int)) 19 477 D [va_rf r0, .int x1, .int x2] σ (.returned (some (.int v)), σ1) :=
  ah_ofG (own := "LeftAsFoundModel") (nm := "ways") (L0 := [some (va_rf r0), some (.int x1), some (.int x2)]) (by decide) rfl rfl rfl (ah_ao_1 (ah_rf_cat _) (ah_ao_1 rfl (ah_ao_1 rfl ah_ao_0))) (fun κ hκ => W_X6_ways hκ  σ r0 x1 x2 h)
set_option maxRecDepth 20000 in
set_option maxHeartbeats 4000000 in
theorem W_X6_who_78 {κ : ah_C} {rr : (Int32 × ah_S)} (hκ : ah_res κ = (.returned (some (.int rr.1)), rr.2))    : ∀ (n : Nat) (σ : ah_S) (r0 : Option Nat) (x2 : Int32) (x3 : Int32) (x4 : Int32) (x5 : Int32) (x6 : Int32), F_X6_who_78 n σ r0 x2 x3 x4 x5 x6 = some rr → ah_G κ ("LeftAsFoundModel", "who", 7, (some FieldType.int), [], 19, 477) cX6_who σ 78 [some (va_rf r0), none, some (.int x2), some (.int x3), some (.int x4), some (.int x5), some (.int x6)] [] := by
  intro n
  induction n with
  | zero => intro σ r0 x2 x3 x4 x5 x6 h; cases h
  | succ n ih =>
    intro σ r0 x2 x3 x4 x5 x6 h
    rw [F_X6_who_78] at h
    refine ro_iload (pc' := 80) dX6_who_78 rfl rfl ?_
    refine ro_aload_n (pc' := 81) dX6_who_80 rfl rfl rfl ?_
    obtain ⟨v1, hv1, h⟩ := ah_bs h
    refine ro_getI (pc' := 84) ft_603 fk_603 q1311 dX6_who_81 rfl hv1 ?_
    refine ro_icmp_gt (pc' := 87) (tgt := 130) dX6_who_84 rfl rfl (fun c => ?_) (fun c => ?_)
    · replace h := ah_ip c h
      refine ro_iload (pc' := 132) dX6_who_130 rfl rfl ?_
      obtain rfl := Option.some.inj h
      exact ro_iret hκ dX6_who_132
    · replace h := ah_in_ c h
      refine ro_aload_n (pc' := 88) dX6_who_87 rfl rfl rfl ?_
      refine ro_iload (pc' := 90) dX6_who_88 rfl rfl ?_
      refine ro_iload_n (pc' := 91) dX6_who_90 rfl rfl rfl ?_
      refine ro_iload_n (pc' := 92) dX6_who_91 rfl rfl rfl ?_
      refine ro_iload (pc' := 94) dX6_who_92 rfl rfl ?_
      obtain ⟨u2, hu2, h⟩ := ah_bs h
      obtain ⟨v3, σ4, hv3, h⟩ := ah_bs2 h
      refine ro_callV (pc' := 97) (As := [.int x4, .int x2, .int x3, .int x6]) (rest := []) (st' := [.int v3]) (by decide) hu2 q1755 sl_X6_waysOf (M_X6_waysOf hv3) q1753 q1756 q104 dd_X6_waysOf rfl ⟨Nat.le_of_ble_eq_true rfl, Nat.le_of_ble_eq_true rfl⟩ (Nat.le_of_ble_eq_true rfl) dX6_who_94 rfl rfl rfl ?_
      refine ro_if_le (pc' := 100) (tgt := 124) dX6_who_97 rfl rfl (fun c => ?_) (fun c => ?_)
      · replace h := ah_ip c h
        refine ro_iinc (pc' := 127) (L' := [some (va_rf r0), none, some (.int x2), some (.int x3), some (.int x4), some (.int x5), some (.int (x6 + (1 : Int32)))]) dX6_who_124 rfl ic_1 (Nat.le_of_ble_eq_true rfl) rfl (ah_okp_i _) rfl ?_
        refine ro_goto (tgt := 78) dX6_who_127 rfl ?_
        exact ih _ _ _ _ _ _ _ h
      · replace h := ah_in_ c h
        refine ro_iload (pc' := 102) dX6_who_100 rfl rfl ?_
        refine ro_iload (pc' := 104) dX6_who_102 rfl rfl ?_
        refine ro_aload_n (pc' := 105) dX6_who_104 rfl rfl rfl ?_
        obtain ⟨v5, hv5, h⟩ := ah_bs h
        refine ro_getI (pc' := 108) ft_603 fk_603 q1311 dX6_who_105 rfl hv5 ?_
        refine ro_icmp_ne (pc' := 111) (tgt := 117) dX6_who_108 rfl rfl (fun c => ?_) (fun c => ?_)
        · replace h := ah_in_ c h
          refine ro_iconst (pc' := 118) dX6_who_117 ic_1 rfl ?_
          refine ro_iload (pc' := 120) dX6_who_118 rfl rfl ?_
          refine ro_ishl (pc' := 121) dX6_who_120 rfl ?_
          refine ro_ior (pc' := 122) dX6_who_121 rfl ?_
          refine ro_istore (pc' := 124) (L' := [some (va_rf r0), none, some (.int x2), some (.int x3), some (.int x4), some (.int (x5 ||| ((1 : Int32) <<< (x6 &&& 31)))), some (.int x6)]) dX6_who_122 (Nat.le_of_ble_eq_true rfl) rfl (ah_okp_i _) rfl ?_
          refine ro_iinc (pc' := 127) (L' := [some (va_rf r0), none, some (.int x2), some (.int x3), some (.int x4), some (.int (x5 ||| ((1 : Int32) <<< (x6 &&& 31)))), some (.int (x6 + (1 : Int32)))]) dX6_who_124 rfl ic_1 (Nat.le_of_ble_eq_true rfl) rfl (ah_okp_i _) rfl ?_
          refine ro_goto (tgt := 78) dX6_who_127 rfl ?_
          exact ih _ _ _ _ _ _ _ h
        · replace h := ah_ip c h
          refine ro_sipush (pc' := 114) dX6_who_111 is_128 rfl ?_
          refine ro_goto (tgt := 121) dX6_who_114 rfl ?_
          refine ro_ior (pc' := 122) dX6_who_121 rfl ?_
          refine ro_istore (pc' := 124) (L' := [some (va_rf r0), none, some (.int x2), some (.int x3), some (.int x4), some (.int (x5 ||| (128 : Int32))), some (.int x6)]) dX6_who_122 (Nat.le_of_ble_eq_true rfl) rfl (ah_okp_i _) rfl ?_
          refine ro_iinc (pc' := 127) (L' := [some (va_rf r0), none, some (.int x2), some (.int x3), some (.int x4), some (.int (x5 ||| (128 : Int32))), some (.int (x6 + (1 : Int32)))]) dX6_who_124 rfl ic_1 (Nat.le_of_ble_eq_true rfl) rfl (ah_okp_i _) rfl ?_
          refine ro_goto (tgt := 78) dX6_who_127 rfl ?_
          exact ih _ _ _ _ _ _ _ h
set_option maxRecDepth 20000 in
set_option maxHeartbeats 4000000 in
theorem W_X6_who {κ : ah_C} {rr : (Int32 × ah_S)} (hκ : ah_res κ = (.returned (some (.int rr.1)), rr.2))  (σ : ah_S) (r0 : Option Nat) (x1 : Int32) (x2 : Int32) (x3 : Int32) (h : F_X6_who σ r0 x1 x2 x3 = some rr) : ah_G κ ("LeftAsFoundModel", "who", 7, (some FieldType.int), [], 19, 477) cX6_who σ 0 [some (va_rf r0), some (.int x1), some (.int x2), some (.int x3), none, none, none] [] := by
  unfold F_X6_who at h
  refine ro_iload_n (pc' := 1) dX6_who_0 rfl rfl rfl ?_
  obtain ⟨v1, σ2, hv1, h⟩ := ah_bs2 h
  refine ro_callS (pc' := 4) (As := [.int x1]) (rest := []) (st' := [.int v1]) q1505 (M_X6_isShelf hv1) q1504 q1506 q104 dd_X6_isShelf rfl ⟨Nat.le_of_ble_eq_true rfl, Nat.le_of_ble_eq_true rfl⟩ (Nat.le_of_ble_eq_true rfl) dX6_who_1 rfl rfl rfl ?_
  refine ro_if_eq (pc' := 7) (tgt := 23) dX6_who_4 rfl rfl (fun c => ?_) (fun c => ?_)
  · replace h := ah_ip c h
    refine ro_iconst (pc' := 24) dX6_who_23 ic_m1 rfl ?_
    obtain rfl := Option.some.inj h
    exact ro_iret hκ dX6_who_24
  · replace h := ah_in_ c h
    refine ro_iload_n (pc' := 8) dX6_who_7 rfl rfl rfl ?_
    obtain ⟨v3, σ4, hv3, h⟩ := ah_bs2 h
    refine ro_callS (pc' := 11) (As := [.int x2]) (rest := []) (st' := [.int v3]) q1532 (M_X6_isThing hv3) q1531 q1533 q104 dd_X6_isThing rfl ⟨Nat.le_of_ble_eq_true rfl, Nat.le_of_ble_eq_true rfl⟩ (Nat.le_of_ble_eq_true rfl) dX6_who_8 rfl rfl rfl ?_
    refine ro_if_eq (pc' := 14) (tgt := 23) dX6_who_11 rfl rfl (fun c => ?_) (fun c => ?_)
    · replace h := ah_ip c h
      refine ro_iconst (pc' := 24) dX6_who_23 ic_m1 rfl ?_
      obtain rfl := Option.some.inj h
      exact ro_iret hκ dX6_who_24
    · replace h := ah_in_ c h
      refine ro_iload_n (pc' := 15) dX6_who_14 rfl rfl rfl ?_
      refine ro_iconst (pc' := 16) dX6_who_15 ic_0 rfl ?_
      refine ro_iconst (pc' := 17) dX6_who_16 ic_5 rfl ?_
      obtain ⟨v5, σ6, hv5, h⟩ := ah_bs2 h
      refine ro_callS (pc' := 20) (As := [.int x3, .int (0 : Int32), .int (5 : Int32)]) (rest := []) (st' := [.int v5]) q1494 (M_X6_in hv5) q1493 q1495 q104 dd_X6_in rfl ⟨Nat.le_of_ble_eq_true rfl, Nat.le_of_ble_eq_true rfl⟩ (Nat.le_of_ble_eq_true rfl) dX6_who_17 rfl rfl rfl ?_
      refine ro_if_ne (pc' := 23) (tgt := 25) dX6_who_20 rfl rfl (fun c => ?_) (fun c => ?_)
      · replace h := ah_in_ c h
        refine ro_aload_n (pc' := 26) dX6_who_25 rfl rfl rfl ?_
        refine ro_iload_n (pc' := 27) dX6_who_26 rfl rfl rfl ?_
        obtain ⟨u7, hu7, h⟩ := ah_bs h
        obtain ⟨v8, σ9, hv8, h⟩ := ah_bs2 h
        refine ro_callV (pc' := 30) (As := [.int x1]) (rest := []) (st' := [.int v8]) (by decide) hu7 q1626 sl_X6_rowFault (M_X6_rowFault hv8) q1624 q1627 q104 dd_X6_rowFault rfl ⟨Nat.le_of_ble_eq_true rfl, Nat.le_of_ble_eq_true rfl⟩ (Nat.le_of_ble_eq_true rfl) dX6_who_27 rfl rfl rfl ?_
        refine ro_if_ge (pc' := 33) (tgt := 39) dX6_who_30 rfl rfl (fun c => ?_) (fun c => ?_)
        · replace h := ah_ip c h
          refine ro_aload_n (pc' := 40) dX6_who_39 rfl rfl rfl ?_
          refine ro_iload_n (pc' := 41) dX6_who_40 rfl rfl rfl ?_
          obtain ⟨u10, hu10, h⟩ := ah_bs h
          obtain ⟨σ11, hσ11, h⟩ := ah_bs h
          refine ro_callV (pc' := 44) (As := [.int x1]) (rest := []) (st' := []) (by decide) hu10 q1751 sl_X6_laySeen (M_X6_laySeen hσ11) q1749 q1752 q104 dd_X6_laySeen rfl ⟨Nat.le_of_ble_eq_true rfl, Nat.le_of_ble_eq_true rfl⟩ (Nat.le_of_ble_eq_true rfl) dX6_who_41 rfl rfl rfl ?_
          refine ro_aload_n (pc' := 45) dX6_who_44 rfl rfl rfl ?_
          obtain ⟨v12, hv12, h⟩ := ah_bs h
          refine ro_getI (pc' := 48) ft_644 fk_644 q1352 dX6_who_45 rfl hv12 ?_
          refine ro_bipush (pc' := 50) dX6_who_48 ib_6 rfl ?_
          refine ro_icmp_ge (pc' := 53) (tgt := 60) dX6_who_50 rfl rfl (fun c => ?_) (fun c => ?_)
          · replace h := ah_ip c h
            refine ro_bipush (pc' := 62) dX6_who_60 ib_6 rfl ?_
            refine ro_istore (pc' := 64) (L' := [some (va_rf r0), some (.int x1), some (.int x2), some (.int x3), some (.int (6 : Int32)), none, none]) dX6_who_62 (Nat.le_of_ble_eq_true rfl) rfl (ah_okp_i _) rfl ?_
            refine ro_iload_n (pc' := 65) dX6_who_64 rfl rfl rfl ?_
            refine ro_iload (pc' := 67) dX6_who_65 rfl rfl ?_
            refine ro_icmp_lt (pc' := 70) (tgt := 72) dX6_who_67 rfl rfl (fun c => ?_) (fun c => ?_)
            · replace h := ah_ip c h
              refine ro_iconst (pc' := 73) dX6_who_72 ic_0 rfl ?_
              refine ro_istore (pc' := 75) (L' := [some (va_rf r0), some (.int x1), some (.int x2), some (.int x3), some (.int (6 : Int32)), some (.int (0 : Int32)), none]) dX6_who_73 (Nat.le_of_ble_eq_true rfl) rfl (ah_okp_i _) rfl ?_
              refine ro_iconst (pc' := 76) dX6_who_75 ic_0 rfl ?_
              refine ro_istore (pc' := 78) (L' := [some (va_rf r0), some (.int x1), some (.int x2), some (.int x3), some (.int (6 : Int32)), some (.int (0 : Int32)), some (.int (0 : Int32))]) dX6_who_76 (Nat.le_of_ble_eq_true rfl) rfl (ah_okp_i _) rfl ?_
              refine ro_weak (L' := [some (va_rf r0), none, some (.int x2), some (.int x3), some (.int (6 : Int32)), some (.int (0 : Int32)), some (.int (0 : Int32))]) (ah_ls_s (ah_ls_n (ah_ls_s (ah_ls_s (ah_ls_s (ah_ls_s (ah_ls_s ah_ls_0))))))) ?_
              exact W_X6_who_78 hκ _ _ _ _ _ _ _ _ h
            · replace h := ah_in_ c h
              refine ro_iconst (pc' := 71) dX6_who_70 ic_m1 rfl ?_
              obtain rfl := Option.some.inj h
              exact ro_iret hκ dX6_who_71
          · replace h := ah_in_ c h
            refine ro_aload_n (pc' := 54) dX6_who_53 rfl rfl rfl ?_
            obtain ⟨v13, hv13, h⟩ := ah_bs h
            refine ro_getI (pc' := 57) ft_644 fk_644 q1352 dX6_who_54 rfl hv13 ?_
            refine ro_goto (tgt := 62) dX6_who_57 rfl ?_
            refine ro_istore (pc' := 64) (L' := [some (va_rf r0), some (.int x1), some (.int x2), some (.int x3), some (.int v13), none, none]) dX6_who_62 (Nat.le_of_ble_eq_true rfl) rfl (ah_okp_i _) rfl ?_
            refine ro_iload_n (pc' := 65) dX6_who_64 rfl rfl rfl ?_
            refine ro_iload (pc' := 67) dX6_who_65 rfl rfl ?_
            refine ro_icmp_lt (pc' := 70) (tgt := 72) dX6_who_67 rfl rfl (fun c => ?_) (fun c => ?_)
            · replace h := ah_ip c h
              refine ro_iconst (pc' := 73) dX6_who_72 ic_0 rfl ?_
              refine ro_istore (pc' := 75) (L' := [some (va_rf r0), some (.int x1), some (.int x2), some (.int x3), some (.int v13), some (.int (0 : Int32)), none]) dX6_who_73 (Nat.le_of_ble_eq_true rfl) rfl (ah_okp_i _) rfl ?_
              refine ro_iconst (pc' := 76) dX6_who_75 ic_0 rfl ?_
              refine ro_istore (pc' := 78) (L' := [some (va_rf r0), some (.int x1), some (.int x2), some (.int x3), some (.int v13), some (.int (0 : Int32)), some (.int (0 : Int32))]) dX6_who_76 (Nat.le_of_ble_eq_true rfl) rfl (ah_okp_i _) rfl ?_
              refine ro_weak (L' := [some (va_rf r0), none, some (.int x2), some (.int x3), some (.int v13), some (.int (0 : Int32)), some (.int (0 : Int32))]) (ah_ls_s (ah_ls_n (ah_ls_s (ah_ls_s (ah_ls_s (ah_ls_s (ah_ls_s ah_ls_0))))))) ?_
              exact W_X6_who_78 hκ _ _ _ _ _ _ _ _ h
            · replace h := ah_in_ c h
              refine ro_iconst (pc' := 71) dX6_who_70 ic_m1 rfl ?_
              obtain rfl := Option.some.inj h
              exact ro_iret hκ dX6_who_71
        · replace h := ah_in_ c h
          refine ro_aload_n (pc' := 34) dX6_who_33 rfl rfl rfl ?_
          refine ro_iload_n (pc' := 35) dX6_who_34 rfl rfl rfl ?_
          obtain ⟨u14, hu14, h⟩ := ah_bs h
          obtain ⟨v15, σ16, hv15, h⟩ := ah_bs2 h
          refine ro_callV (pc' := 38) (As := [.int x1]) (rest := []) (st' := [.int v15]) (by decide) hu14 q1626 sl_X6_rowFault (M_X6_rowFault hv15) q1624 q1627 q104 dd_X6_rowFault rfl ⟨Nat.le_of_ble_eq_true rfl, Nat.le_of_ble_eq_true rfl⟩ (Nat.le_of_ble_eq_true rfl) dX6_who_35 rfl rfl rfl ?_
          obtain rfl := Option.some.inj h
          exact ro_iret hκ dX6_who_38
      · replace h := ah_ip c h
        refine ro_iconst (pc' := 24) dX6_who_23 ic_m1 rfl ?_
        obtain rfl := Option.some.inj h
        exact ro_iret hκ dX6_who_24
theorem M_X6_who {l : Launch} {D : ah_D}  {σ : ah_S} {r0 : Option Nat} {x1 : Int32} {x2 : Int32} {x3 : Int32} {v : Int32} {σ1 : ah_S} (h : F_X6_who σ r0 x1 x2 x3 = some (v, σ1)) : ah_Met l yX6_who (Cond.code yX6_who cX6_who 7 (some FieldType.int)) 19 477 D [va_rf r0, .int x1, .int x2, .int x3] σ (.returned (some (.int v)), σ1) :=
  ah_ofG (own := "LeftAsFoundModel") (nm := "who") (L0 := [some (va_rf r0), some (.int x1), some (.int x2), some (.int x3), none, none, none]) (by decide) rfl rfl rfl (ah_ao_1 (ah_rf_cat _) (ah_ao_1 rfl (ah_ao_1 rfl (ah_ao_1 rfl (ah_ao_n (ah_ao_n (ah_ao_n ah_ao_0))))))) (fun κ hκ => W_X6_who hκ  σ r0 x1 x2 x3 h)
