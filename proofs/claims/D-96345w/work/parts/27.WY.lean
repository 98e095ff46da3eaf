set_option maxRecDepth 20000 in
set_option maxHeartbeats 4000000 in
theorem W_X10_value {κ : ah_C} {rr : (Int32 × ah_S)} (hκ : ah_res κ = (.returned (some (.int rr.1)), rr.2)) {frR loR : Nat} (hF : 3 ≤ frR) (hL : 80 ≤ loR) (σ : ah_S) (r0 : Option Nat) (h : F_X10_value σ r0 = some rr) : ah_G κ ("LeftAsFound$Figure", "value", 1, (some FieldType.int), [], (frR + 1), (loR + 29)) cX10_value σ 0 [some (va_rf r0)] [] := by
  unfold F_X10_value at h
  refine ro_aload_n (pc' := 1) dX10_value_0 rfl rfl rfl ?_
  obtain ⟨v1, hv1, h⟩ := ah_bs h
  refine ro_getI (pc' := 4) ft_1000 fk_1000 q592 dX10_value_1 rfl hv1 ?_
  obtain rfl := Option.some.inj h
  exact ro_iret hκ dX10_value_4
theorem M_X10_value {l : Launch} {D : ah_D} {frR loR : Nat} (hF : 3 ≤ frR) (hL : 80 ≤ loR) {σ : ah_S} {r0 : Option Nat} {v : Int32} {σ1 : ah_S} (h : F_X10_value σ r0 = some (v, σ1)) : ah_Met l yX10_value (Cond.code yX10_value cX10_value 1 (some FieldType.int)) (frR + 1) (loR + 29) D [va_rf r0] σ (.returned (some (.int v)), σ1) :=
  ah_ofG (own := "LeftAsFound$Figure") (nm := "value") (L0 := [some (va_rf r0)]) (by decide) rfl rfl rfl (ah_ao_1 (ah_rf_cat _) ah_ao_0) (fun κ hκ => W_X10_value hκ hF hL σ r0 h)
set_option maxRecDepth 20000 in
set_option maxHeartbeats 4000000 in
theorem W_X11_value {κ : ah_C} {rr : (Int32 × ah_S)} (hκ : ah_res κ = (.returned (some (.int rr.1)), rr.2)) {frR loR : Nat} (hF : 3 ≤ frR) (hL : 80 ≤ loR) (σ : ah_S) (r0 : Option Nat) (h : F_X11_value σ r0 = some rr) : ah_G κ ("LeftAsFound$Named", "value", 1, (some FieldType.int), [], (frR + 1), (loR + 29)) cX11_value σ 0 [some (va_rf r0)] [] := by
  unfold F_X11_value at h
  refine ro_aload_n (pc' := 1) dX11_value_0 rfl rfl rfl ?_
  obtain ⟨v1, hv1, h⟩ := ah_bs h
  refine ro_getR (pc' := 4) ft_1101 fk_1101 q606 dX11_value_1 rfl hv1 ?_
  obtain ⟨v2, hv2, h⟩ := ah_bs h
  refine ro_getRN (pc' := 7) ft_15 fk_15 nq308 dX11_value_4 rfl hv2 ?_
  refine ro_aload_n (pc' := 8) dX11_value_7 rfl rfl rfl ?_
  obtain ⟨v3, hv3, h⟩ := ah_bs h
  refine ro_getI (pc' := 11) ft_1100 fk_1100 q605 dX11_value_8 rfl hv3 ?_
  obtain ⟨v4, hv4, h⟩ := ah_bs h
  refine ro_iaload (pc' := 12) dX11_value_11 rfl hv4 ?_
  obtain rfl := Option.some.inj h
  exact ro_iret hκ dX11_value_12
theorem M_X11_value {l : Launch} {D : ah_D} {frR loR : Nat} (hF : 3 ≤ frR) (hL : 80 ≤ loR) {σ : ah_S} {r0 : Option Nat} {v : Int32} {σ1 : ah_S} (h : F_X11_value σ r0 = some (v, σ1)) : ah_Met l yX11_value (Cond.code yX11_value cX11_value 1 (some FieldType.int)) (frR + 1) (loR + 29) D [va_rf r0] σ (.returned (some (.int v)), σ1) :=
  ah_ofG (own := "LeftAsFound$Named") (nm := "value") (L0 := [some (va_rf r0)]) (by decide) rfl rfl rfl (ah_ao_1 (ah_rf_cat _) ah_ao_0) (fun κ hκ => W_X11_value hκ hF hL σ r0 h)
set_option maxRecDepth 20000 in
set_option maxHeartbeats 4000000 in
theorem W_X12_value {κ : ah_C} {rr : (Int32 × ah_S)} (hκ : ah_res κ = (.returned (some (.int rr.1)), rr.2)) {frR loR : Nat} (hF : 3 ≤ frR) (hL : 80 ≤ loR) {f_VT : ah_S → Option Nat → Option (Int32 × ah_S)} (h_VT : ∀ {l : Launch} {D : ah_D} {σ : ah_S} {r0 : Option Nat} {v : Int32} {σ1 : ah_S}, f_VT σ r0 = some (v, σ1) → ah_VM l ⟨"LeftAsFound$Term", "value", "()I"⟩ (some .int) 10 frR loR D r0 [] σ (some (.int v)) σ1) (σ : ah_S) (r0 : Option Nat) (h : F_X12_value f_VT σ r0 = some rr) : ah_G κ ("LeftAsFound$Signed", "value", 1, (some FieldType.int), [], (frR + 1), (loR + 29)) cX12_value σ 0 [some (va_rf r0)] [] := by
  unfold F_X12_value at h
  refine ro_aload_n (pc' := 1) dX12_value_0 rfl rfl rfl ?_
  obtain ⟨v1, hv1, h⟩ := ah_bs h
  refine ro_getI (pc' := 4) ft_1200 fk_1200 q618 dX12_value_1 rfl hv1 ?_
  refine ro_bipush (pc' := 6) dX12_value_4 ib_33 rfl ?_
  refine ro_icmp_ne (pc' := 9) (tgt := 30) dX12_value_6 rfl rfl (fun c => ?_) (fun c => ?_)
  · replace h := ah_in_ c h
    refine ro_aload_n (pc' := 31) dX12_value_30 rfl rfl rfl ?_
    obtain ⟨v2, hv2, h⟩ := ah_bs h
    refine ro_getR (pc' := 34) ft_1201 fk_1201 q619 dX12_value_31 rfl hv2 ?_
    obtain ⟨v3, σ4, hv3, h⟩ := ah_bs2 h
    refine ro_callVU (pc' := 37) (As := []) (rest := []) (st' := [.int v3]) (h_VT hv3) q705 q694 nq693 dd_TV rfl ⟨show frR + 1 ≤ frR + 1 by omega, show 8 + (10 + 11) + loR ≤ loR + 29 by omega⟩ (Nat.le_of_ble_eq_true rfl) dX12_value_34 rfl rfl rfl ?_
    refine ro_ineg (pc' := 38) dX12_value_37 rfl ?_
    obtain rfl := Option.some.inj h
    exact ro_iret hκ dX12_value_38
  · replace h := ah_ip c h
    refine ro_aload_n (pc' := 10) dX12_value_9 rfl rfl rfl ?_
    obtain ⟨v5, hv5, h⟩ := ah_bs h
    refine ro_getR (pc' := 13) ft_1201 fk_1201 q619 dX12_value_10 rfl hv5 ?_
    obtain ⟨v6, σ7, hv6, h⟩ := ah_bs2 h
    refine ro_callVU (pc' := 16) (As := []) (rest := []) (st' := [.int v6]) (h_VT hv6) q705 q694 nq693 dd_TV rfl ⟨show frR + 1 ≤ frR + 1 by omega, show 8 + (10 + 11) + loR ≤ loR + 29 by omega⟩ (Nat.le_of_ble_eq_true rfl) dX12_value_13 rfl rfl rfl ?_
    refine ro_if_ne (pc' := 19) (tgt := 23) dX12_value_16 rfl rfl (fun c => ?_) (fun c => ?_)
    · replace h := ah_in_ c h
      refine ro_iconst (pc' := 24) dX12_value_23 ic_0 rfl ?_
      obtain ⟨v8, σ9, hv8, h⟩ := ah_bs2 h
      refine ro_callSN (pc' := 27) (As := [.int (0 : Int32)]) (rest := []) (st' := [.int v8]) q707 (M_X0_bit hv8) nq706 q708 q95 dd_X0_bit rfl ⟨show 1 + 1 ≤ frR + 1 by omega, show 8 + (1 + 11) + 24 ≤ loR + 29 by omega⟩ (Nat.le_of_ble_eq_true rfl) dX12_value_24 rfl rfl rfl ?_
      refine ro_goto (tgt := 38) dX12_value_27 rfl ?_
      obtain rfl := Option.some.inj h
      exact ro_iret hκ dX12_value_38
    · replace h := ah_ip c h
      refine ro_iconst (pc' := 20) dX12_value_19 ic_1 rfl ?_
      refine ro_goto (tgt := 24) dX12_value_20 rfl ?_
      obtain ⟨v10, σ11, hv10, h⟩ := ah_bs2 h
      refine ro_callSN (pc' := 27) (As := [.int (1 : Int32)]) (rest := []) (st' := [.int v10]) q707 (M_X0_bit hv10) nq706 q708 q95 dd_X0_bit rfl ⟨show 1 + 1 ≤ frR + 1 by omega, show 8 + (1 + 11) + 24 ≤ loR + 29 by omega⟩ (Nat.le_of_ble_eq_true rfl) dX12_value_24 rfl rfl rfl ?_
      refine ro_goto (tgt := 38) dX12_value_27 rfl ?_
      obtain rfl := Option.some.inj h
      exact ro_iret hκ dX12_value_38
theorem M_X12_value {l : Launch} {D : ah_D} {frR loR : Nat} (hF : 3 ≤ frR) (hL : 80 ≤ loR) {f_VT : ah_S → Option Nat → Option (Int32 × ah_S)} (h_VT : ∀ {l : Launch} {D : ah_D} {σ : ah_S} {r0 : Option Nat} {v : Int32} {σ1 : ah_S}, f_VT σ r0 = some (v, σ1) → ah_VM l ⟨"LeftAsFound$Term", "value", "()I"⟩ (some .int) 10 frR loR D r0 [] σ (some (.int v)) σ1) {σ : ah_S} {r0 : Option Nat} {v : Int32} {σ1 : ah_S} (h : F_X12_value f_VT σ r0 = some (v, σ1)) : ah_Met l yX12_value (Cond.code yX12_value cX12_value 1 (some FieldType.int)) (frR + 1) (loR + 29) D [va_rf r0] σ (.returned (some (.int v)), σ1) :=
  ah_ofG (own := "LeftAsFound$Signed") (nm := "value") (L0 := [some (va_rf r0)]) (by decide) rfl rfl rfl (ah_ao_1 (ah_rf_cat _) ah_ao_0) (fun κ hκ => W_X12_value hκ hF hL h_VT σ r0 h)
set_option maxRecDepth 20000 in
set_option maxHeartbeats 4000000 in
theorem W_X13_value {κ : ah_C} {rr : (Int32 × ah_S)} (hκ : ah_res κ = (.returned (some (.int rr.1)), rr.2)) {frR loR : Nat} (hF : 3 ≤ frR) (hL : 80 ≤ loR) {f_VT : ah_S → Option Nat → Option (Int32 × ah_S)} (h_VT : ∀ {l : Launch} {D : ah_D} {σ : ah_S} {r0 : Option Nat} {v : Int32} {σ1 : ah_S}, f_VT σ r0 = some (v, σ1) → ah_VM l ⟨"LeftAsFound$Term", "value", "()I"⟩ (some .int) 10 frR loR D r0 [] σ (some (.int v)) σ1) (σ : ah_S) (r0 : Option Nat) (h : F_X13_value f_VT σ r0 = some rr) : ah_G κ ("LeftAsFound$Both", "value", 3, (some FieldType.int), [], (frR + 1), (loR + 29)) cX13_value σ 0 [some (va_rf r0), none, none] [] := by
  unfold F_X13_value at h
  refine ro_aload_n (pc' := 1) dX13_value_0 rfl rfl rfl ?_
  obtain ⟨v1, hv1, h⟩ := ah_bs h
  refine ro_getR (pc' := 4) ft_1301 fk_1301 q640 dX13_value_1 rfl hv1 ?_
  obtain ⟨v2, σ3, hv2, h⟩ := ah_bs2 h
  refine ro_callVU (pc' := 7) (As := []) (rest := []) (st' := [.int v2]) (h_VT hv2) q698 q694 nq693 dd_TV rfl ⟨show frR + 1 ≤ frR + 1 by omega, show 8 + (10 + 11) + loR ≤ loR + 29 by omega⟩ (Nat.le_of_ble_eq_true rfl) dX13_value_4 rfl rfl rfl ?_
  refine ro_istore_n (pc' := 8) (L' := [some (va_rf r0), some (.int v2), none]) dX13_value_7 rfl (Nat.le_of_ble_eq_true rfl) rfl (ah_okp_r _) rfl ?_
  refine ro_aload_n (pc' := 9) dX13_value_8 rfl rfl rfl ?_
  obtain ⟨v4, hv4, h⟩ := ah_bs h
  refine ro_getR (pc' := 12) ft_1302 fk_1302 q641 dX13_value_9 rfl hv4 ?_
  obtain ⟨v5, σ6, hv5, h⟩ := ah_bs2 h
  refine ro_callVU (pc' := 15) (As := []) (rest := []) (st' := [.int v5]) (h_VT hv5) q698 q694 nq693 dd_TV rfl ⟨show frR + 1 ≤ frR + 1 by omega, show 8 + (10 + 11) + loR ≤ loR + 29 by omega⟩ (Nat.le_of_ble_eq_true rfl) dX13_value_12 rfl rfl rfl ?_
  refine ro_istore_n (pc' := 16) (L' := [some (va_rf r0), some (.int v2), some (.int v5)]) dX13_value_15 rfl (Nat.le_of_ble_eq_true rfl) rfl (ah_okp_i _) rfl ?_
  refine ro_aload_n (pc' := 17) dX13_value_16 rfl rfl rfl ?_
  obtain ⟨v7, hv7, h⟩ := ah_bs h
  refine ro_getI (pc' := 20) ft_1300 fk_1300 q639 dX13_value_17 rfl hv7 ?_
  by_cases c20_0 : v7 = (38 : Int32)
  · replace h := ah_ip c20_0 h
    refine ro_look (tgt := 121) dX13_value_20 (by decide) (by rw [c20_0]) rfl ?_
    refine ro_iload_n (pc' := 122) dX13_value_121 rfl rfl rfl ?_
    refine ro_if_eq (pc' := 125) (tgt := 133) dX13_value_122 rfl rfl (fun c => ?_) (fun c => ?_)
    · replace h := ah_ip c h
      refine ro_iconst (pc' := 134) dX13_value_133 ic_0 rfl ?_
      obtain ⟨v8, σ9, hv8, h⟩ := ah_bs2 h
      refine ro_callSN (pc' := 137) (As := [.int (0 : Int32)]) (rest := []) (st' := [.int v8]) q707 (M_X0_bit hv8) nq709 q708 q95 dd_X0_bit rfl ⟨show 1 + 1 ≤ frR + 1 by omega, show 8 + (1 + 11) + 24 ≤ loR + 29 by omega⟩ (Nat.le_of_ble_eq_true rfl) dX13_value_134 rfl rfl rfl ?_
      obtain rfl := Option.some.inj h
      exact ro_iret hκ dX13_value_137
    · replace h := ah_in_ c h
      refine ro_iload_n (pc' := 126) dX13_value_125 rfl rfl rfl ?_
      refine ro_if_eq (pc' := 129) (tgt := 133) dX13_value_126 rfl rfl (fun c => ?_) (fun c => ?_)
      · replace h := ah_ip c h
        refine ro_iconst (pc' := 134) dX13_value_133 ic_0 rfl ?_
        obtain ⟨v10, σ11, hv10, h⟩ := ah_bs2 h
        refine ro_callSN (pc' := 137) (As := [.int (0 : Int32)]) (rest := []) (st' := [.int v10]) q707 (M_X0_bit hv10) nq709 q708 q95 dd_X0_bit rfl ⟨show 1 + 1 ≤ frR + 1 by omega, show 8 + (1 + 11) + 24 ≤ loR + 29 by omega⟩ (Nat.le_of_ble_eq_true rfl) dX13_value_134 rfl rfl rfl ?_
        obtain rfl := Option.some.inj h
        exact ro_iret hκ dX13_value_137
      · replace h := ah_in_ c h
        refine ro_iconst (pc' := 130) dX13_value_129 ic_1 rfl ?_
        refine ro_goto (tgt := 134) dX13_value_130 rfl ?_
        obtain ⟨v12, σ13, hv12, h⟩ := ah_bs2 h
        refine ro_callSN (pc' := 137) (As := [.int (1 : Int32)]) (rest := []) (st' := [.int v12]) q707 (M_X0_bit hv12) nq709 q708 q95 dd_X0_bit rfl ⟨show 1 + 1 ≤ frR + 1 by omega, show 8 + (1 + 11) + 24 ≤ loR + 29 by omega⟩ (Nat.le_of_ble_eq_true rfl) dX13_value_134 rfl rfl rfl ?_
        obtain rfl := Option.some.inj h
        exact ro_iret hκ dX13_value_137
  replace h := ah_in_ c20_0 h
  by_cases c20_1 : v7 = (42 : Int32)
  · replace h := ah_ip c20_1 h
    refine ro_look (tgt := 188) dX13_value_20 (by decide) (by rw [c20_1]) rfl ?_
    refine ro_iload_n (pc' := 189) dX13_value_188 rfl rfl rfl ?_
    refine ro_iload_n (pc' := 190) dX13_value_189 rfl rfl rfl ?_
    refine ro_imul (pc' := 191) dX13_value_190 rfl ?_
    obtain rfl := Option.some.inj h
    exact ro_iret hκ dX13_value_191
  replace h := ah_in_ c20_1 h
  by_cases c20_2 : v7 = (43 : Int32)
  · replace h := ah_ip c20_2 h
    refine ro_look (tgt := 180) dX13_value_20 (by decide) (by rw [c20_2]) rfl ?_
    refine ro_iload_n (pc' := 181) dX13_value_180 rfl rfl rfl ?_
    refine ro_iload_n (pc' := 182) dX13_value_181 rfl rfl rfl ?_
    refine ro_iadd (pc' := 183) dX13_value_182 rfl ?_
    obtain rfl := Option.some.inj h
    exact ro_iret hκ dX13_value_183
  replace h := ah_in_ c20_2 h
  by_cases c20_3 : v7 = (45 : Int32)
  · replace h := ah_ip c20_3 h
    refine ro_look (tgt := 184) dX13_value_20 (by decide) (by rw [c20_3]) rfl ?_
    refine ro_iload_n (pc' := 185) dX13_value_184 rfl rfl rfl ?_
    refine ro_iload_n (pc' := 186) dX13_value_185 rfl rfl rfl ?_
    refine ro_isub (pc' := 187) dX13_value_186 rfl ?_
    obtain rfl := Option.some.inj h
    exact ro_iret hκ dX13_value_187
  replace h := ah_in_ c20_3 h
  by_cases c20_4 : v7 = (47 : Int32)
  · replace h := ah_ip c20_4 h
    refine ro_look (tgt := 192) dX13_value_20 (by decide) (by rw [c20_4]) rfl ?_
    refine ro_iload_n (pc' := 193) dX13_value_192 rfl rfl rfl ?_
    refine ro_if_ne (pc' := 196) (tgt := 200) dX13_value_193 rfl rfl (fun c => ?_) (fun c => ?_)
    · replace h := ah_in_ c h
      refine ro_iload_n (pc' := 201) dX13_value_200 rfl rfl rfl ?_
      refine ro_iload_n (pc' := 202) dX13_value_201 rfl rfl rfl ?_
      obtain ⟨q14, hq14, h⟩ := ah_bs h
      refine ro_idiv (pc' := 203) dX13_value_202 rfl hq14 ?_
      obtain rfl := Option.some.inj h
      exact ro_iret hκ dX13_value_203
    · replace h := ah_ip c h
      refine ro_iconst (pc' := 197) dX13_value_196 ic_0 rfl ?_
      refine ro_goto (tgt := 203) dX13_value_197 rfl ?_
      obtain rfl := Option.some.inj h
      exact ro_iret hκ dX13_value_203
  replace h := ah_in_ c20_4 h
  by_cases c20_5 : v7 = (60 : Int32)
  · replace h := ah_ip c20_5 h
    refine ro_look (tgt := 138) dX13_value_20 (by decide) (by rw [c20_5]) rfl ?_
    refine ro_iload_n (pc' := 139) dX13_value_138 rfl rfl rfl ?_
    refine ro_iload_n (pc' := 140) dX13_value_139 rfl rfl rfl ?_
    refine ro_icmp_ge (pc' := 143) (tgt := 147) dX13_value_140 rfl rfl (fun c => ?_) (fun c => ?_)
    · replace h := ah_ip c h
      refine ro_iconst (pc' := 148) dX13_value_147 ic_0 rfl ?_
      obtain ⟨v15, σ16, hv15, h⟩ := ah_bs2 h
      refine ro_callSN (pc' := 151) (As := [.int (0 : Int32)]) (rest := []) (st' := [.int v15]) q707 (M_X0_bit hv15) nq709 q708 q95 dd_X0_bit rfl ⟨show 1 + 1 ≤ frR + 1 by omega, show 8 + (1 + 11) + 24 ≤ loR + 29 by omega⟩ (Nat.le_of_ble_eq_true rfl) dX13_value_148 rfl rfl rfl ?_
      obtain rfl := Option.some.inj h
      exact ro_iret hκ dX13_value_151
    · replace h := ah_in_ c h
      refine ro_iconst (pc' := 144) dX13_value_143 ic_1 rfl ?_
      refine ro_goto (tgt := 148) dX13_value_144 rfl ?_
      obtain ⟨v17, σ18, hv17, h⟩ := ah_bs2 h
      refine ro_callSN (pc' := 151) (As := [.int (1 : Int32)]) (rest := []) (st' := [.int v17]) q707 (M_X0_bit hv17) nq709 q708 q95 dd_X0_bit rfl ⟨show 1 + 1 ≤ frR + 1 by omega, show 8 + (1 + 11) + 24 ≤ loR + 29 by omega⟩ (Nat.le_of_ble_eq_true rfl) dX13_value_148 rfl rfl rfl ?_
      obtain rfl := Option.some.inj h
      exact ro_iret hκ dX13_value_151
  replace h := ah_in_ c20_5 h
  by_cases c20_6 : v7 = (61 : Int32)
  · replace h := ah_ip c20_6 h
    refine ro_look (tgt := 152) dX13_value_20 (by decide) (by rw [c20_6]) rfl ?_
    refine ro_iload_n (pc' := 153) dX13_value_152 rfl rfl rfl ?_
    refine ro_iload_n (pc' := 154) dX13_value_153 rfl rfl rfl ?_
    refine ro_icmp_ne (pc' := 157) (tgt := 161) dX13_value_154 rfl rfl (fun c => ?_) (fun c => ?_)
    · replace h := ah_in_ c h
      refine ro_iconst (pc' := 162) dX13_value_161 ic_0 rfl ?_
      obtain ⟨v19, σ20, hv19, h⟩ := ah_bs2 h
      refine ro_callSN (pc' := 165) (As := [.int (0 : Int32)]) (rest := []) (st' := [.int v19]) q707 (M_X0_bit hv19) nq709 q708 q95 dd_X0_bit rfl ⟨show 1 + 1 ≤ frR + 1 by omega, show 8 + (1 + 11) + 24 ≤ loR + 29 by omega⟩ (Nat.le_of_ble_eq_true rfl) dX13_value_162 rfl rfl rfl ?_
      obtain rfl := Option.some.inj h
      exact ro_iret hκ dX13_value_165
    · replace h := ah_ip c h
      refine ro_iconst (pc' := 158) dX13_value_157 ic_1 rfl ?_
      refine ro_goto (tgt := 162) dX13_value_158 rfl ?_
      obtain ⟨v21, σ22, hv21, h⟩ := ah_bs2 h
      refine ro_callSN (pc' := 165) (As := [.int (1 : Int32)]) (rest := []) (st' := [.int v21]) q707 (M_X0_bit hv21) nq709 q708 q95 dd_X0_bit rfl ⟨show 1 + 1 ≤ frR + 1 by omega, show 8 + (1 + 11) + 24 ≤ loR + 29 by omega⟩ (Nat.le_of_ble_eq_true rfl) dX13_value_162 rfl rfl rfl ?_
      obtain rfl := Option.some.inj h
      exact ro_iret hκ dX13_value_165
  replace h := ah_in_ c20_6 h
  by_cases c20_7 : v7 = (62 : Int32)
  · replace h := ah_ip c20_7 h
    refine ro_look (tgt := 166) dX13_value_20 (by decide) (by rw [c20_7]) rfl ?_
    refine ro_iload_n (pc' := 167) dX13_value_166 rfl rfl rfl ?_
    refine ro_iload_n (pc' := 168) dX13_value_167 rfl rfl rfl ?_
    refine ro_icmp_le (pc' := 171) (tgt := 175) dX13_value_168 rfl rfl (fun c => ?_) (fun c => ?_)
    · replace h := ah_ip c h
      refine ro_iconst (pc' := 176) dX13_value_175 ic_0 rfl ?_
      obtain ⟨v23, σ24, hv23, h⟩ := ah_bs2 h
      refine ro_callSN (pc' := 179) (As := [.int (0 : Int32)]) (rest := []) (st' := [.int v23]) q707 (M_X0_bit hv23) nq709 q708 q95 dd_X0_bit rfl ⟨show 1 + 1 ≤ frR + 1 by omega, show 8 + (1 + 11) + 24 ≤ loR + 29 by omega⟩ (Nat.le_of_ble_eq_true rfl) dX13_value_176 rfl rfl rfl ?_
      obtain rfl := Option.some.inj h
      exact ro_iret hκ dX13_value_179
    · replace h := ah_in_ c h
      refine ro_iconst (pc' := 172) dX13_value_171 ic_1 rfl ?_
      refine ro_goto (tgt := 176) dX13_value_172 rfl ?_
      obtain ⟨v25, σ26, hv25, h⟩ := ah_bs2 h
      refine ro_callSN (pc' := 179) (As := [.int (1 : Int32)]) (rest := []) (st' := [.int v25]) q707 (M_X0_bit hv25) nq709 q708 q95 dd_X0_bit rfl ⟨show 1 + 1 ≤ frR + 1 by omega, show 8 + (1 + 11) + 24 ≤ loR + 29 by omega⟩ (Nat.le_of_ble_eq_true rfl) dX13_value_176 rfl rfl rfl ?_
      obtain rfl := Option.some.inj h
      exact ro_iret hκ dX13_value_179
  replace h := ah_in_ c20_7 h
  by_cases c20_8 : v7 = (124 : Int32)
  · replace h := ah_ip c20_8 h
    refine ro_look (tgt := 104) dX13_value_20 (by decide) (by rw [c20_8]) rfl ?_
    refine ro_iload_n (pc' := 105) dX13_value_104 rfl rfl rfl ?_
    refine ro_if_ne (pc' := 108) (tgt := 112) dX13_value_105 rfl rfl (fun c => ?_) (fun c => ?_)
    · replace h := ah_in_ c h
      refine ro_iconst (pc' := 113) dX13_value_112 ic_1 rfl ?_
      refine ro_goto (tgt := 117) dX13_value_113 rfl ?_
      obtain ⟨v27, σ28, hv27, h⟩ := ah_bs2 h
      refine ro_callSN (pc' := 120) (As := [.int (1 : Int32)]) (rest := []) (st' := [.int v27]) q707 (M_X0_bit hv27) nq709 q708 q95 dd_X0_bit rfl ⟨show 1 + 1 ≤ frR + 1 by omega, show 8 + (1 + 11) + 24 ≤ loR + 29 by omega⟩ (Nat.le_of_ble_eq_true rfl) dX13_value_117 rfl rfl rfl ?_
      obtain rfl := Option.some.inj h
      exact ro_iret hκ dX13_value_120
    · replace h := ah_ip c h
      refine ro_iload_n (pc' := 109) dX13_value_108 rfl rfl rfl ?_
      refine ro_if_eq (pc' := 112) (tgt := 116) dX13_value_109 rfl rfl (fun c => ?_) (fun c => ?_)
      · replace h := ah_ip c h
        refine ro_iconst (pc' := 117) dX13_value_116 ic_0 rfl ?_
        obtain ⟨v29, σ30, hv29, h⟩ := ah_bs2 h
        refine ro_callSN (pc' := 120) (As := [.int (0 : Int32)]) (rest := []) (st' := [.int v29]) q707 (M_X0_bit hv29) nq709 q708 q95 dd_X0_bit rfl ⟨show 1 + 1 ≤ frR + 1 by omega, show 8 + (1 + 11) + 24 ≤ loR + 29 by omega⟩ (Nat.le_of_ble_eq_true rfl) dX13_value_117 rfl rfl rfl ?_
        obtain rfl := Option.some.inj h
        exact ro_iret hκ dX13_value_120
      · replace h := ah_in_ c h
        refine ro_iconst (pc' := 113) dX13_value_112 ic_1 rfl ?_
        refine ro_goto (tgt := 117) dX13_value_113 rfl ?_
        obtain ⟨v31, σ32, hv31, h⟩ := ah_bs2 h
        refine ro_callSN (pc' := 120) (As := [.int (1 : Int32)]) (rest := []) (st' := [.int v31]) q707 (M_X0_bit hv31) nq709 q708 q95 dd_X0_bit rfl ⟨show 1 + 1 ≤ frR + 1 by omega, show 8 + (1 + 11) + 24 ≤ loR + 29 by omega⟩ (Nat.le_of_ble_eq_true rfl) dX13_value_117 rfl rfl rfl ?_
        obtain rfl := Option.some.inj h
        exact ro_iret hκ dX13_value_120
  replace h := ah_in_ c20_8 h
  refine ro_look (tgt := 204) dX13_value_20 (by decide) (by rw [show (#[(38, 101), (42, 168), (43, 160), (45, 164), (47, 172), (60, 118), (61, 132), (62, 146), (124, 84)] : Array (Int × Int)).toList = [(38, 101), (42, 168), (43, 160), (45, 164), (47, 172), (60, 118), (61, 132), (62, 146), (124, 84)] from rfl, lv_osw c20_0 (by decide), lv_osw c20_1 (by decide), lv_osw c20_2 (by decide), lv_osw c20_3 (by decide), lv_osw c20_4 (by decide), lv_osw c20_5 (by decide), lv_osw c20_6 (by decide), lv_osw c20_7 (by decide), lv_osw c20_8 (by decide)]; first | rfl | done) rfl ?_
  refine ro_iload_n (pc' := 205) dX13_value_204 rfl rfl rfl ?_
  refine ro_if_ne (pc' := 208) (tgt := 212) dX13_value_205 rfl rfl (fun c => ?_) (fun c => ?_)
  · replace h := ah_in_ c h
    refine ro_iload_n (pc' := 213) dX13_value_212 rfl rfl rfl ?_
    refine ro_iload_n (pc' := 214) dX13_value_213 rfl rfl rfl ?_
    obtain ⟨q33, hq33, h⟩ := ah_bs h
    refine ro_irem (pc' := 215) dX13_value_214 rfl hq33 ?_
    obtain rfl := Option.some.inj h
    exact ro_iret hκ dX13_value_215
  · replace h := ah_ip c h
    refine ro_iconst (pc' := 209) dX13_value_208 ic_0 rfl ?_
    refine ro_goto (tgt := 215) dX13_value_209 rfl ?_
    obtain rfl := Option.some.inj h
    exact ro_iret hκ dX13_value_215
theorem M_X13_value {l : Launch} {D : ah_D} {frR loR : Nat} (hF : 3 ≤ frR) (hL : 80 ≤ loR) {f_VT : ah_S → Option Nat → Option (Int32 × ah_S)} (h_VT : ∀ {l : Launch} {D : ah_D} {σ : ah_S} {r0 : Option Nat} {v : Int32} {σ1 : ah_S}, f_VT σ r0 = some (v, σ1) → ah_VM l ⟨"LeftAsFound$Term", "value", "()I"⟩ (some .int) 10 frR loR D r0 [] σ (some (.int v)) σ1) {σ : ah_S} {r0 : Option Nat} {v : Int32} {σ1 : ah_S} (h : F_X13_value f_VT σ r0 = some (v, σ1)) : ah_Met l yX13_value (Cond.code yX13_value cX13_value 3 (some FieldType.int)) (frR + 1) (loR + 29) D [va_rf r0] σ (.returned (some (.int v)), σ1) :=
  ah_ofG (own := "LeftAsFound$Both") (nm := "value") (L0 := [some (va_rf r0), none, none]) (by decide) rfl rfl rfl (ah_ao_1 (ah_rf_cat _) (ah_ao_n (ah_ao_n ah_ao_0))) (fun κ hκ => W_X13_value hκ hF hL h_VT σ r0 h)
theorem N_VT (d : Nat) : ∀ {l : Launch} {D : ah_D} {σ : ah_S} {r0 : Option Nat} {v : Int32} {σ1 : ah_S}, Z_VT d σ r0 = some (v, σ1) → ah_VM l ⟨"LeftAsFound$Term", "value", "()I"⟩ (some .int) 10 (3 + d) (80 + 29 * d) D r0 [] σ (some (.int v)) σ1 := by
  induction d with
  | zero => intro l D σ r0 v σ1 h; cases h
  | succ d ih =>
    intro l D σ r0 v σ1 h
    rw [show 3 + (d + 1) = (3 + d) + 1 by omega, show 80 + 29 * (d + 1) = (80 + 29 * d) + 29 by omega]
    rw [Z_VT] at h
    obtain ⟨a, e, h⟩ := ah_bs h
    by_cases c1 : ah_tg σ a = 11
    · replace h := ah_ip c1 h
      exact ⟨11, yX10_value, cX10_value, 1, by rw [e]; exact ah_is_of c1, by decide, q710, q699, q700, q108, by decide, M_X10_value (by omega) (by omega) h⟩
    replace h := ah_in_ c1 h
    by_cases c2 : ah_tg σ a = 12
    · replace h := ah_ip c2 h
      exact ⟨12, yX11_value, cX11_value, 1, by rw [e]; exact ah_is_of c2, by decide, q711, q701, q702, q109, by decide, M_X11_value (by omega) (by omega) h⟩
    replace h := ah_in_ c2 h
    by_cases c3 : ah_tg σ a = 13
    · replace h := ah_ip c3 h
      exact ⟨13, yX12_value, cX12_value, 1, by rw [e]; exact ah_is_of c3, by decide, q712, q703, q704, q110, by decide, M_X12_value (by omega) (by omega) ih h⟩
    replace h := ah_in_ c3 h
    by_cases c4 : ah_tg σ a = 14
    · replace h := ah_ip c4 h
      exact ⟨14, yX13_value, cX13_value, 3, by rw [e]; exact ah_is_of c4, by decide, q695, q696, q697, q111, by decide, M_X13_value (by omega) (by omega) ih h⟩
    replace h := ah_in_ c4 h
    cases h
set_option maxRecDepth 20000 in
set_option maxHeartbeats 4000000 in
theorem W_X0_ruled_5 {κ : ah_C} {rr : (Int32 × ah_S)} (hκ : ah_res κ = (.returned (some (.int rr.1)), rr.2))    : ∀ (n : Nat) (σ : ah_S) (r1 : Option Nat), F_X0_ruled_5 n σ r1 = some rr → ah_G κ ("LeftAsFound", "ruled", 2, (some FieldType.int), [], 134, 3879) cX0_ruled σ 5 [none, some (va_rf r1)] [] := by
  intro n
  induction n with
  | zero => intro σ r1 h; cases h
  | succ n ih =>
    intro σ r1 h
    rw [F_X0_ruled_5] at h
    refine ro_aload_n (pc' := 6) dX0_ruled_5 rfl rfl rfl ?_
    refine ro_ifnull (pc' := 9) (tgt := 45) dX0_ruled_6 rfl rfl (fun c => ?_) (fun c => ?_)
    · replace h := ah_ip c h
      refine ro_iconst (pc' := 46) dX0_ruled_45 ic_0 rfl ?_
      obtain rfl := Option.some.inj h
      exact ro_iret hκ dX0_ruled_46
    · replace h := ah_in_ c h
      refine ro_aload_n (pc' := 10) dX0_ruled_9 rfl rfl rfl ?_
      obtain ⟨v1, hv1, h⟩ := ah_bs h
      refine ro_getRN (pc' := 13) ft_800 fk_800 nq539 dX0_ruled_10 rfl hv1 ?_
      refine ro_ifnull (pc' := 16) (tgt := 29) dX0_ruled_13 rfl rfl (fun c => ?_) (fun c => ?_)
      · replace h := ah_ip c h
        refine ro_aload_n (pc' := 30) dX0_ruled_29 rfl rfl rfl ?_
        obtain ⟨v2, hv2, h⟩ := ah_bs h
        refine ro_getRN (pc' := 33) ft_801 fk_801 nq540 dX0_ruled_30 rfl hv2 ?_
        obtain ⟨v3, σ4, hv3, h⟩ := ah_bs2 h
        refine ro_callVU (pc' := 36) (As := []) (rest := []) (st' := [.int v3]) (N_VT 130 hv3) q692 q694 nq693 dd_TV rfl ⟨Nat.le_of_ble_eq_true rfl, Nat.le_of_ble_eq_true rfl⟩ (Nat.le_of_ble_eq_true rfl) dX0_ruled_33 rfl rfl rfl ?_
        obtain rfl := Option.some.inj h
        exact ro_iret hκ dX0_ruled_36
      · replace h := ah_in_ c h
        refine ro_aload_n (pc' := 17) dX0_ruled_16 rfl rfl rfl ?_
        obtain ⟨v5, hv5, h⟩ := ah_bs h
        refine ro_getRN (pc' := 20) ft_800 fk_800 nq539 dX0_ruled_17 rfl hv5 ?_
        obtain ⟨v6, σ7, hv6, h⟩ := ah_bs2 h
        refine ro_callVU (pc' := 23) (As := []) (rest := []) (st' := [.int v6]) (N_VT 130 hv6) q692 q694 nq693 dd_TV rfl ⟨Nat.le_of_ble_eq_true rfl, Nat.le_of_ble_eq_true rfl⟩ (Nat.le_of_ble_eq_true rfl) dX0_ruled_20 rfl rfl rfl ?_
        refine ro_if_ne (pc' := 26) (tgt := 29) dX0_ruled_23 rfl rfl (fun c => ?_) (fun c => ?_)
        · replace h := ah_in_ c h
          refine ro_aload_n (pc' := 30) dX0_ruled_29 rfl rfl rfl ?_
          obtain ⟨v8, hv8, h⟩ := ah_bs h
          refine ro_getRN (pc' := 33) ft_801 fk_801 nq540 dX0_ruled_30 rfl hv8 ?_
          obtain ⟨v9, σ10, hv9, h⟩ := ah_bs2 h
          refine ro_callVU (pc' := 36) (As := []) (rest := []) (st' := [.int v9]) (N_VT 130 hv9) q692 q694 nq693 dd_TV rfl ⟨Nat.le_of_ble_eq_true rfl, Nat.le_of_ble_eq_true rfl⟩ (Nat.le_of_ble_eq_true rfl) dX0_ruled_33 rfl rfl rfl ?_
          obtain rfl := Option.some.inj h
          exact ro_iret hκ dX0_ruled_36
        · replace h := ah_ip c h
          refine ro_goto (tgt := 37) dX0_ruled_26 rfl ?_
          refine ro_aload_n (pc' := 38) dX0_ruled_37 rfl rfl rfl ?_
          obtain ⟨v11, hv11, h⟩ := ah_bs h
          refine ro_getRN (pc' := 41) ft_802 fk_802 nq541 dX0_ruled_38 rfl hv11 ?_
          refine ro_astore_n (pc' := 42) (L' := [none, some (va_rf v11)]) dX0_ruled_41 rfl (Nat.le_of_ble_eq_true rfl) rfl ah_okp_u rfl ?_
          refine ro_goto (tgt := 5) dX0_ruled_42 rfl ?_
          exact ih _ _ h
set_option maxRecDepth 20000 in
set_option maxHeartbeats 4000000 in
theorem W_X0_ruled {κ : ah_C} {rr : (Int32 × ah_S)} (hκ : ah_res κ = (.returned (some (.int rr.1)), rr.2))  (σ : ah_S) (r0 : Option Nat) (h : F_X0_ruled σ r0 = some rr) : ah_G κ ("LeftAsFound", "ruled", 2, (some FieldType.int), [], 134, 3879) cX0_ruled σ 0 [some (va_rf r0), none] [] := by
  unfold F_X0_ruled at h
  refine ro_aload_n (pc' := 1) dX0_ruled_0 rfl rfl rfl ?_
  obtain ⟨v1, hv1, h⟩ := ah_bs h
  refine ro_getR (pc' := 4) ft_17 fk_17 q311 dX0_ruled_1 rfl hv1 ?_
  refine ro_astore_n (pc' := 5) (L' := [some (va_rf r0), some (va_rf v1)]) dX0_ruled_4 rfl (Nat.le_of_ble_eq_true rfl) rfl (ah_okp_r _) rfl ?_
  refine ro_weak (L' := [none, some (va_rf v1)]) (ah_ls_n (ah_ls_s ah_ls_0)) ?_
  exact W_X0_ruled_5 hκ _ _ _ h
theorem M_X0_ruled {l : Launch} {D : ah_D}  {σ : ah_S} {r0 : Option Nat} {v : Int32} {σ1 : ah_S} (h : F_X0_ruled σ r0 = some (v, σ1)) : ah_Met l yX0_ruled (Cond.code yX0_ruled cX0_ruled 2 (some FieldType.int)) 134 3879 D [va_rf r0] σ (.returned (some (.int v)), σ1) :=
  ah_ofG (own := "LeftAsFound") (nm := "ruled") (L0 := [some (va_rf r0), none]) (by decide) rfl rfl rfl (ah_ao_1 (ah_rf_cat _) (ah_ao_n ah_ao_0)) (fun κ hκ => W_X0_ruled hκ  σ r0 h)
set_option maxRecDepth 20000 in
set_option maxHeartbeats 4000000 in
theorem W_X0_leftBy_69 {κ : ah_C} {rr : (Int32 × ah_S)} (hκ : ah_res κ = (.returned (some (.int rr.1)), rr.2))    : ∀ (σ : ah_S) (r0 : Option Nat) (x2 : Int32) (x3 : Int32) (x4 : Int32) (x5 : Int32) (x6 : Int32) (x7 : Int32) (y0 : Int32), F_X0_leftBy_69 σ r0 x2 x3 x4 x5 x6 x7 y0 = some rr → ah_G κ ("LeftAsFound", "leftBy", 9, (some FieldType.int), [], 135, 3900) cX0_leftBy σ 69 [some (va_rf r0), none, some (.int x2), some (.int x3), some (.int x4), some (.int x5), some (.int x6), some (.int x7), none] [.int y0] := by
  intro σ r0 x2 x3 x4 x5 x6 x7 y0 h
  unfold F_X0_leftBy_69 at h
  refine ro_istore (pc' := 71) (L' := [some (va_rf r0), none, some (.int x2), some (.int x3), some (.int x4), some (.int x5), some (.int x6), some (.int x7), some (.int y0)]) dX0_leftBy_69 (Nat.le_of_ble_eq_true rfl) rfl (ah_okp_i _) rfl ?_
  refine ro_aload_n (pc' := 72) dX0_leftBy_71 rfl rfl rfl ?_
  obtain ⟨v1, hv1, h⟩ := ah_bs h
  refine ro_getR (pc' := 75) ft_17 fk_17 q311 dX0_leftBy_72 rfl hv1 ?_
  refine ro_ifnull (pc' := 78) (tgt := 142) dX0_leftBy_75 rfl rfl (fun c => ?_) (fun c => ?_)
  · replace h := ah_ip c h
    refine ro_iconst (pc' := 143) dX0_leftBy_142 ic_0 rfl ?_
    refine ro_bipush (pc' := 145) dX0_leftBy_143 ib_99 rfl ?_
    refine ro_iload (pc' := 147) dX0_leftBy_145 rfl rfl ?_
    refine ro_mmin (pc' := 150) q665 (Nat.le_of_ble_eq_true rfl) (Nat.le_of_ble_eq_true rfl) dX0_leftBy_147 rfl ?_
    refine ro_mmax (pc' := 153) q713 (Nat.le_of_ble_eq_true rfl) (Nat.le_of_ble_eq_true rfl) dX0_leftBy_150 rfl ?_
    obtain rfl := Option.some.inj h
    exact ro_iret hκ dX0_leftBy_153
  · replace h := ah_in_ c h
    refine ro_aload_n (pc' := 79) dX0_leftBy_78 rfl rfl rfl ?_
    obtain ⟨v2, hv2, h⟩ := ah_bs h
    refine ro_getR (pc' := 82) ft_15 fk_15 q309 dX0_leftBy_79 rfl hv2 ?_
    refine ro_iconst (pc' := 83) dX0_leftBy_82 ic_0 rfl ?_
    refine ro_iload_n (pc' := 84) dX0_leftBy_83 rfl rfl rfl ?_
    obtain ⟨σ3, hσ3, h⟩ := ah_bs h
    refine ro_iastore (pc' := 85) dX0_leftBy_84 rfl hσ3 ?_
    refine ro_aload_n (pc' := 86) dX0_leftBy_85 rfl rfl rfl ?_
    obtain ⟨v4, hv4, h⟩ := ah_bs h
    refine ro_getR (pc' := 89) ft_15 fk_15 q309 dX0_leftBy_86 rfl hv4 ?_
    refine ro_iconst (pc' := 90) dX0_leftBy_89 ic_1 rfl ?_
    refine ro_iload (pc' := 92) dX0_leftBy_90 rfl rfl ?_
    obtain ⟨σ5, hσ5, h⟩ := ah_bs h
    refine ro_iastore (pc' := 93) dX0_leftBy_92 rfl hσ5 ?_
    refine ro_aload_n (pc' := 94) dX0_leftBy_93 rfl rfl rfl ?_
    obtain ⟨v6, hv6, h⟩ := ah_bs h
    refine ro_getR (pc' := 97) ft_15 fk_15 q309 dX0_leftBy_94 rfl hv6 ?_
    refine ro_iconst (pc' := 98) dX0_leftBy_97 ic_2 rfl ?_
    refine ro_iload (pc' := 100) dX0_leftBy_98 rfl rfl ?_
    obtain ⟨σ7, hσ7, h⟩ := ah_bs h
    refine ro_iastore (pc' := 101) dX0_leftBy_100 rfl hσ7 ?_
    refine ro_aload_n (pc' := 102) dX0_leftBy_101 rfl rfl rfl ?_
    obtain ⟨v8, hv8, h⟩ := ah_bs h
    refine ro_getR (pc' := 105) ft_15 fk_15 q309 dX0_leftBy_102 rfl hv8 ?_
    refine ro_iconst (pc' := 106) dX0_leftBy_105 ic_3 rfl ?_
    refine ro_iload (pc' := 108) dX0_leftBy_106 rfl rfl ?_
    obtain ⟨σ9, hσ9, h⟩ := ah_bs h
    refine ro_iastore (pc' := 109) dX0_leftBy_108 rfl hσ9 ?_
    refine ro_aload_n (pc' := 110) dX0_leftBy_109 rfl rfl rfl ?_
    obtain ⟨v10, hv10, h⟩ := ah_bs h
    refine ro_getR (pc' := 113) ft_15 fk_15 q309 dX0_leftBy_110 rfl hv10 ?_
    refine ro_iconst (pc' := 114) dX0_leftBy_113 ic_4 rfl ?_
    refine ro_iload (pc' := 116) dX0_leftBy_114 rfl rfl ?_
    obtain ⟨σ11, hσ11, h⟩ := ah_bs h
    refine ro_iastore (pc' := 117) dX0_leftBy_116 rfl hσ11 ?_
    refine ro_aload_n (pc' := 118) dX0_leftBy_117 rfl rfl rfl ?_
    obtain ⟨v12, hv12, h⟩ := ah_bs h
    refine ro_getR (pc' := 121) ft_15 fk_15 q309 dX0_leftBy_118 rfl hv12 ?_
    refine ro_iconst (pc' := 122) dX0_leftBy_121 ic_5 rfl ?_
    refine ro_iload_n (pc' := 123) dX0_leftBy_122 rfl rfl rfl ?_
    obtain ⟨σ13, hσ13, h⟩ := ah_bs h
    refine ro_iastore (pc' := 124) dX0_leftBy_123 rfl hσ13 ?_
    refine ro_iload_n (pc' := 125) dX0_leftBy_124 rfl rfl rfl ?_
    refine ro_bipush (pc' := 127) dX0_leftBy_125 ib_m20 rfl ?_
    refine ro_bipush (pc' := 129) dX0_leftBy_127 ib_20 rfl ?_
    refine ro_aload_n (pc' := 130) dX0_leftBy_129 rfl rfl rfl ?_
    obtain ⟨u14, hu14, h⟩ := ah_bs h
    obtain ⟨v15, σ16, hv15, h⟩ := ah_bs2 h
    refine ro_callV (pc' := 133) (As := []) (rest := [.int (20 : Int32), .int (-20 : Int32), .int x3]) (st' := [.int v15, .int (20 : Int32), .int (-20 : Int32), .int x3]) (by decide) hu14 q690 sl_X0_ruled (M_X0_ruled hv15) q688 q691 q95 dd_X0_ruled rfl ⟨Nat.le_of_ble_eq_true rfl, Nat.le_of_ble_eq_true rfl⟩ (Nat.le_of_ble_eq_true rfl) dX0_leftBy_130 rfl rfl rfl ?_
    refine ro_mmin (pc' := 136) q665 (Nat.le_of_ble_eq_true rfl) (Nat.le_of_ble_eq_true rfl) dX0_leftBy_133 rfl ?_
    refine ro_mmax (pc' := 139) q713 (Nat.le_of_ble_eq_true rfl) (Nat.le_of_ble_eq_true rfl) dX0_leftBy_136 rfl ?_
    refine ro_iadd (pc' := 140) dX0_leftBy_139 rfl ?_
    refine ro_istore (pc' := 142) (L' := [some (va_rf r0), none, some (.int x2), some (.int x3), some (.int x4), some (.int x5), some (.int x6), some (.int x7), some (.int (x3 + (if (-20 : Int32) < (if v15 < (20 : Int32) then v15 else (20 : Int32)) then (if v15 < (20 : Int32) then v15 else (20 : Int32)) else (-20 : Int32))))]) dX0_leftBy_140 (Nat.le_of_ble_eq_true rfl) rfl (ah_okp_i _) rfl ?_
    refine ro_iconst (pc' := 143) dX0_leftBy_142 ic_0 rfl ?_
    refine ro_bipush (pc' := 145) dX0_leftBy_143 ib_99 rfl ?_
    refine ro_iload (pc' := 147) dX0_leftBy_145 rfl rfl ?_
    refine ro_mmin (pc' := 150) q665 (Nat.le_of_ble_eq_true rfl) (Nat.le_of_ble_eq_true rfl) dX0_leftBy_147 rfl ?_
    refine ro_mmax (pc' := 153) q713 (Nat.le_of_ble_eq_true rfl) (Nat.le_of_ble_eq_true rfl) dX0_leftBy_150 rfl ?_
    obtain rfl := Option.some.inj h
    exact ro_iret hκ dX0_leftBy_153
set_option maxRecDepth 20000 in
set_option maxHeartbeats 4000000 in
theorem W_X0_leftBy {κ : ah_C} {rr : (Int32 × ah_S)} (hκ : ah_res κ = (.returned (some (.int rr.1)), rr.2))  (σ : ah_S) (r0 : Option Nat) (r1 : Option Nat) (x2 : Int32) (x3 : Int32) (x4 : Int32) (h : F_X0_leftBy σ r0 r1 x2 x3 x4 = some rr) : ah_G κ ("LeftAsFound", "leftBy", 9, (some FieldType.int), [], 135, 3900) cX0_leftBy σ 0 [some (va_rf r0), some (va_rf r1), some (.int x2), some (.int x3), some (.int x4), none, none, none, none] [] := by
  unfold F_X0_leftBy at h
  refine ro_aload_n (pc' := 1) dX0_leftBy_0 rfl rfl rfl ?_
  obtain ⟨v1, hv1, h⟩ := ah_bs h
  refine ro_getRN (pc' := 4) ft_700 fk_700 nq449 dX0_leftBy_1 rfl hv1 ?_
  refine ro_iload_n (pc' := 5) dX0_leftBy_4 rfl rfl rfl ?_
  obtain ⟨v2, hv2, h⟩ := ah_bs h
  refine ro_aaload (pc' := 6) (by decide) (by decide) rfl dX0_leftBy_5 rfl hv2 ?_
  obtain ⟨v3, hv3, h⟩ := ah_bs h
  refine ro_getIN (pc' := 9) ft_200 fk_200 nq219 dX0_leftBy_6 rfl hv3 ?_
  refine ro_istore (pc' := 11) (L' := [some (va_rf r0), some (va_rf r1), some (.int x2), some (.int x3), some (.int x4), some (.int v3), none, none, none]) dX0_leftBy_9 (Nat.le_of_ble_eq_true rfl) rfl (ah_okp_i _) rfl ?_
  refine ro_aload_n (pc' := 12) dX0_leftBy_11 rfl rfl rfl ?_
  obtain ⟨v4, hv4, h⟩ := ah_bs h
  refine ro_getRN (pc' := 15) ft_701 fk_701 nq451 dX0_leftBy_12 rfl hv4 ?_
  refine ro_iload_n (pc' := 16) dX0_leftBy_15 rfl rfl rfl ?_
  obtain ⟨v5, hv5, h⟩ := ah_bs h
  refine ro_aaload (pc' := 17) (by decide) (by decide) rfl dX0_leftBy_16 rfl hv5 ?_
  obtain ⟨v6, hv6, h⟩ := ah_bs h
  refine ro_getIN (pc' := 20) ft_200 fk_200 nq219 dX0_leftBy_17 rfl hv6 ?_
  refine ro_istore (pc' := 22) (L' := [some (va_rf r0), some (va_rf r1), some (.int x2), some (.int x3), some (.int x4), some (.int v3), some (.int v6), none, none]) dX0_leftBy_20 (Nat.le_of_ble_eq_true rfl) rfl (ah_okp_i _) rfl ?_
  refine ro_aload_n (pc' := 23) dX0_leftBy_22 rfl rfl rfl ?_
  obtain ⟨v7, hv7, h⟩ := ah_bs h
  refine ro_getRN (pc' := 26) ft_702 fk_702 nq453 dX0_leftBy_23 rfl hv7 ?_
  obtain ⟨v8, hv8, h⟩ := ah_bs h
  refine ro_getIN (pc' := 29) ft_200 fk_200 nq219 dX0_leftBy_26 rfl hv8 ?_
  refine ro_aload_n (pc' := 30) dX0_leftBy_29 rfl rfl rfl ?_
  obtain ⟨v9, hv9, h⟩ := ah_bs h
  refine ro_getR (pc' := 33) ft_11 fk_11 q304 dX0_leftBy_30 rfl hv9 ?_
  obtain ⟨v10, hv10, h⟩ := ah_bs h
  refine ro_getIN (pc' := 36) ft_200 fk_200 nq219 dX0_leftBy_33 rfl hv10 ?_
  refine ro_mmin (pc' := 39) q665 (Nat.le_of_ble_eq_true rfl) (Nat.le_of_ble_eq_true rfl) dX0_leftBy_36 rfl ?_
  refine ro_istore (pc' := 41) (L' := [some (va_rf r0), some (va_rf r1), some (.int x2), some (.int x3), some (.int x4), some (.int v3), some (.int v6), some (.int (if v10 < v8 then v10 else v8)), none]) dX0_leftBy_39 (Nat.le_of_ble_eq_true rfl) rfl (ah_okp_i _) rfl ?_
  refine ro_iload (pc' := 43) dX0_leftBy_41 rfl rfl ?_
  refine ro_iload_n (pc' := 44) dX0_leftBy_43 rfl rfl rfl ?_
  refine ro_isub (pc' := 45) dX0_leftBy_44 rfl ?_
  refine ro_iload (pc' := 47) dX0_leftBy_45 rfl rfl ?_
  refine ro_icmp_le (pc' := 50) (tgt := 65) dX0_leftBy_47 rfl rfl (fun c => ?_) (fun c => ?_)
  · replace h := ah_ip c h
    refine ro_iload_n (pc' := 66) dX0_leftBy_65 rfl rfl rfl ?_
    refine ro_iload (pc' := 68) dX0_leftBy_66 rfl rfl ?_
    refine ro_isub (pc' := 69) dX0_leftBy_68 rfl ?_
    refine ro_weak (L' := [some (va_rf r0), none, some (.int x2), some (.int x3), some (.int x4), some (.int v3), some (.int v6), some (.int (if v10 < v8 then v10 else v8)), none]) (ah_ls_s (ah_ls_n (ah_ls_s (ah_ls_s (ah_ls_s (ah_ls_s (ah_ls_s (ah_ls_s (ah_ls_s ah_ls_0))))))))) ?_
    exact W_X0_leftBy_69 hκ _ _ _ _ _ _ _ _ _ h
  · replace h := ah_in_ c h
    refine ro_iload (pc' := 52) dX0_leftBy_50 rfl rfl ?_
    refine ro_iload_n (pc' := 53) dX0_leftBy_52 rfl rfl rfl ?_
    refine ro_iload (pc' := 55) dX0_leftBy_53 rfl rfl ?_
    refine ro_isub (pc' := 56) dX0_leftBy_55 rfl ?_
    refine ro_iload (pc' := 58) dX0_leftBy_56 rfl rfl ?_
    refine ro_iadd (pc' := 59) dX0_leftBy_58 rfl ?_
    refine ro_mmin (pc' := 62) q665 (Nat.le_of_ble_eq_true rfl) (Nat.le_of_ble_eq_true rfl) dX0_leftBy_59 rfl ?_
    refine ro_goto (tgt := 69) dX0_leftBy_62 rfl ?_
    refine ro_weak (L' := [some (va_rf r0), none, some (.int x2), some (.int x3), some (.int x4), some (.int v3), some (.int v6), some (.int (if v10 < v8 then v10 else v8)), none]) (ah_ls_s (ah_ls_n (ah_ls_s (ah_ls_s (ah_ls_s (ah_ls_s (ah_ls_s (ah_ls_s (ah_ls_s ah_ls_0))))))))) ?_
    exact W_X0_leftBy_69 hκ _ _ _ _ _ _ _ _ _ h
theorem M_X0_leftBy {l : Launch} {D : ah_D}  {σ : ah_S} {r0 : Option Nat} {r1 : Option Nat} {x2 : Int32} {x3 : Int32} {x4 : Int32} {v : Int32} {σ1 : ah_S} (h : F_X0_leftBy σ r0 r1 x2 x3 x4 = some (v, σ1)) : ah_Met l yX0_leftBy (Cond.code yX0_leftBy cX0_leftBy 9 (some FieldType.int)) 135 3900 D [va_rf r0, va_rf r1, .int x2, .int x3, .int x4] σ (.returned (some (.int v)), σ1) :=
  ah_ofG (own := "LeftAsFound") (nm := "leftBy") (L0 := [some (va_rf r0), some (va_rf r1), some (.int x2), some (.int x3), some (.int x4), none, none, none, none]) (by decide) rfl rfl rfl (ah_ao_1 (ah_rf_cat _) (ah_ao_1 (ah_rf_cat _) (ah_ao_1 rfl (ah_ao_1 rfl (ah_ao_1 rfl (ah_ao_n (ah_ao_n (ah_ao_n (ah_ao_n ah_ao_0))))))))) (fun κ hκ => W_X0_leftBy hκ  σ r0 r1 x2 x3 x4 h)
set_option maxRecDepth 20000 in
set_option maxHeartbeats 4000000 in
theorem W_X4_night_47 {κ : ah_C} {rr : ah_S} (hκ : ah_res κ = (.returned none, rr))    : ∀ (n : Nat) (σ : ah_S) (r0 : Option Nat) (x1 : Int32) (x2 : Int32), F_X4_night_47 n σ r0 x1 x2 = some rr → ah_G κ ("LeftAsFound$Hut", "night", 4, none, [], 136, 3928) cX4_night σ 47 [some (va_rf r0), some (.int x1), some (.int x2), none] [] := by
  intro n
  induction n with
  | zero => intro σ r0 x1 x2 h; cases h
  | succ n ih =>
    intro σ r0 x1 x2 h
    rw [F_X4_night_47] at h
    refine ro_iload_n (pc' := 48) dX4_night_47 rfl rfl rfl ?_
    refine ro_iconst (pc' := 49) dX4_night_48 ic_4 rfl ?_
    refine ro_icmp_ge (pc' := 52) (tgt := 102) dX4_night_49 rfl rfl (fun c => ?_) (fun c => ?_)
    · replace h := ah_ip c h
      refine ro_aload_n (pc' := 103) dX4_night_102 rfl rfl rfl ?_
      refine ro_iconst (pc' := 104) dX4_night_103 ic_1 rfl ?_
      obtain ⟨σ1, hσ1, h⟩ := ah_bs h
      refine ro_putZ (pc' := 107) ft_404 fk_404 q252 pd_404 dX4_night_104 rfl hσ1 ?_
      refine ro_aload_n (pc' := 108) dX4_night_107 rfl rfl rfl ?_
      obtain ⟨v2, hv2, h⟩ := ah_bs h
      refine ro_getR (pc' := 111) ft_406 fk_406 q254 dX4_night_108 rfl hv2 ?_
      obtain ⟨v3, hv3, h⟩ := ah_bs h
      refine ro_getRN (pc' := 114) ft_7 fk_7 nq297 dX4_night_111 rfl hv3 ?_
      refine ro_iload_n (pc' := 115) dX4_night_114 rfl rfl rfl ?_
      obtain ⟨v4, hv4, h⟩ := ah_bs h
      refine ro_aaload (pc' := 116) (by decide) (by decide) rfl dX4_night_115 rfl hv4 ?_
      obtain ⟨v5, hv5, h⟩ := ah_bs h
      refine ro_getRN (pc' := 119) ft_703 fk_703 nq455 dX4_night_116 rfl hv5 ?_
      obtain ⟨v6, hv6, h⟩ := ah_bs h
      refine ro_getIN (pc' := 122) ft_200 fk_200 nq218 dX4_night_119 rfl hv6 ?_
      refine ro_iconst (pc' := 123) dX4_night_122 ic_1 rfl ?_
      refine ro_icmp_ne (pc' := 126) (tgt := 140) dX4_night_123 rfl rfl (fun c => ?_) (fun c => ?_)
      · replace h := ah_in_ c h
        obtain rfl := Option.some.inj h
        exact ro_vret hκ dX4_night_140
      · replace h := ah_ip c h
        refine ro_aload_n (pc' := 127) dX4_night_126 rfl rfl rfl ?_
        obtain ⟨v7, hv7, h⟩ := ah_bs h
        refine ro_getR (pc' := 130) ft_400 fk_400 q244 dX4_night_127 rfl hv7 ?_
        refine ro_iconst (pc' := 131) dX4_night_130 ic_0 rfl ?_
        refine ro_aload_n (pc' := 132) dX4_night_131 rfl rfl rfl ?_
        obtain ⟨v8, hv8, h⟩ := ah_bs h
        refine ro_getR (pc' := 135) ft_401 fk_401 q246 dX4_night_132 rfl hv8 ?_
        refine ro_iconst (pc' := 136) dX4_night_135 ic_0 rfl ?_
        refine ro_iconst (pc' := 137) dX4_night_136 ic_4 rfl ?_
        obtain ⟨σ9, hσ9, h⟩ := ah_bs h
        refine ro_copy (pc' := 140) q672 q674 q673 q113 (Nat.le_of_ble_eq_true rfl) (Nat.le_of_ble_eq_true rfl) dX4_night_137 rfl hσ9 ?_
        obtain rfl := Option.some.inj h
        exact ro_vret hκ dX4_night_140
    · replace h := ah_in_ c h
      refine ro_aload_n (pc' := 53) dX4_night_52 rfl rfl rfl ?_
      refine ro_iload_n (pc' := 54) dX4_night_53 rfl rfl rfl ?_
      refine ro_iload_n (pc' := 55) dX4_night_54 rfl rfl rfl ?_
      obtain ⟨u10, hu10, h⟩ := ah_bs h
      obtain ⟨v11, σ12, hv11, h⟩ := ah_bs2 h
      refine ro_callV (pc' := 58) (As := [.int x1, .int x2]) (rest := []) (st' := [.int v11]) (by decide) hu10 q682 sl_X4_believedBy (M_X4_believedBy hv11) q680 q683 q102 dd_X4_believedBy rfl ⟨Nat.le_of_ble_eq_true rfl, Nat.le_of_ble_eq_true rfl⟩ (Nat.le_of_ble_eq_true rfl) dX4_night_55 rfl rfl rfl ?_
      refine ro_istore_n (pc' := 59) (L' := [some (va_rf r0), some (.int x1), some (.int x2), some (.int v11)]) dX4_night_58 rfl (Nat.le_of_ble_eq_true rfl) rfl (ah_okp_i _) rfl ?_
      refine ro_aload_n (pc' := 60) dX4_night_59 rfl rfl rfl ?_
      obtain ⟨v13, hv13, h⟩ := ah_bs h
      refine ro_getR (pc' := 63) ft_400 fk_400 q244 dX4_night_60 rfl hv13 ?_
      refine ro_iload_n (pc' := 64) dX4_night_63 rfl rfl rfl ?_
      refine ro_aload_n (pc' := 65) dX4_night_64 rfl rfl rfl ?_
      obtain ⟨v14, hv14, h⟩ := ah_bs h
      refine ro_getR (pc' := 68) ft_406 fk_406 q254 dX4_night_65 rfl hv14 ?_
      refine ro_aload_n (pc' := 69) dX4_night_68 rfl rfl rfl ?_
      obtain ⟨v15, hv15, h⟩ := ah_bs h
      refine ro_getR (pc' := 72) ft_406 fk_406 q254 dX4_night_69 rfl hv15 ?_
      obtain ⟨v16, hv16, h⟩ := ah_bs h
      refine ro_getRN (pc' := 75) ft_7 fk_7 nq297 dX4_night_72 rfl hv16 ?_
      refine ro_iload_n (pc' := 76) dX4_night_75 rfl rfl rfl ?_
      obtain ⟨v17, hv17, h⟩ := ah_bs h
      refine ro_aaload (pc' := 77) (by decide) (by decide) rfl dX4_night_76 rfl hv17 ?_
      refine ro_iload_n (pc' := 78) dX4_night_77 rfl rfl rfl ?_
      refine ro_aload_n (pc' := 79) dX4_night_78 rfl rfl rfl ?_
      obtain ⟨v18, hv18, h⟩ := ah_bs h
      refine ro_getR (pc' := 82) ft_400 fk_400 q244 dX4_night_79 rfl hv18 ?_
      refine ro_iload_n (pc' := 83) dX4_night_82 rfl rfl rfl ?_
      obtain ⟨v19, hv19, h⟩ := ah_bs h
      refine ro_iaload (pc' := 84) dX4_night_83 rfl hv19 ?_
      refine ro_iload_n (pc' := 85) dX4_night_84 rfl rfl rfl ?_
      obtain ⟨u20, hu20, h⟩ := ah_bs h
      obtain ⟨v21, σ22, hv21, h⟩ := ah_bs2 h
      refine ro_callVN (pc' := 88) (As := [va_rf v17, .int x2, .int v19, .int v11]) (rest := [.int x2, va_rf v13]) (st' := [.int v21, .int x2, va_rf v13]) (by decide) hu20 q686 sl_X0_leftBy (M_X0_leftBy hv21) nq684 q687 q95 dd_X0_leftBy rfl ⟨Nat.le_of_ble_eq_true rfl, Nat.le_of_ble_eq_true rfl⟩ (by simp only [List.map_cons, List.map_nil, List.sum_cons, List.sum_nil, ah_rf_cat, ah_cat_i, ah_cat_l]; decide) dX4_night_85 rfl rfl rfl ?_
      obtain ⟨σ23, hσ23, h⟩ := ah_bs h
      refine ro_iastore (pc' := 89) dX4_night_88 rfl hσ23 ?_
      refine ro_aload_n (pc' := 90) dX4_night_89 rfl rfl rfl ?_
      obtain ⟨v24, hv24, h⟩ := ah_bs h
      refine ro_getR (pc' := 93) ft_405 fk_405 q253 dX4_night_90 rfl hv24 ?_
      refine ro_iload_n (pc' := 94) dX4_night_93 rfl rfl rfl ?_
      refine ro_iload_n (pc' := 95) dX4_night_94 rfl rfl rfl ?_
      obtain ⟨σ25, hσ25, h⟩ := ah_bs h
      refine ro_iastore (pc' := 96) dX4_night_95 rfl hσ25 ?_
      refine ro_iinc (pc' := 99) (L' := [some (va_rf r0), some (.int x1), some (.int (x2 + (1 : Int32))), some (.int v11)]) dX4_night_96 rfl ic_1 (Nat.le_of_ble_eq_true rfl) rfl (ah_okp_i _) rfl ?_
      refine ro_goto (tgt := 47) dX4_night_99 rfl ?_
      refine ro_weak (L' := [some (va_rf r0), some (.int x1), some (.int (x2 + (1 : Int32))), none]) (ah_ls_s (ah_ls_s (ah_ls_s (ah_ls_n ah_ls_0)))) ?_
      exact ih _ _ _ _ h
set_option maxRecDepth 20000 in
set_option maxHeartbeats 4000000 in
theorem W_X4_night {κ : ah_C} {rr : ah_S} (hκ : ah_res κ = (.returned none, rr))  (σ : ah_S) (r0 : Option Nat) (x1 : Int32) (h : F_X4_night σ r0 x1 = some rr) : ah_G κ ("LeftAsFound$Hut", "night", 4, none, [], 136, 3928) cX4_night σ 0 [some (va_rf r0), some (.int x1), none, none] [] := by
  unfold F_X4_night at h
  refine ro_iload_n (pc' := 1) dX4_night_0 rfl rfl rfl ?_
  refine ro_iconst (pc' := 2) dX4_night_1 ic_m1 rfl ?_
  refine ro_icmp_ne (pc' := 5) (tgt := 6) dX4_night_2 rfl rfl (fun c => ?_) (fun c => ?_)
  · replace h := ah_in_ c h
    refine ro_aload_n (pc' := 7) dX4_night_6 rfl rfl rfl ?_
    obtain ⟨v1, hv1, h⟩ := ah_bs h
    refine ro_getI (pc' := 10) ft_403 fk_403 q250 dX4_night_7 rfl hv1 ?_
    refine ro_iload_n (pc' := 11) dX4_night_10 rfl rfl rfl ?_
    obtain ⟨v2, σ3, hv2, h⟩ := ah_bs2 h
    refine ro_callSN (pc' := 14) (As := [.int v1, .int x1]) (rest := []) (st' := [.int v2]) q519 (M_X0_isIn hv2) nq679 q520 q95 dd_X0_isIn rfl ⟨Nat.le_of_ble_eq_true rfl, Nat.le_of_ble_eq_true rfl⟩ (Nat.le_of_ble_eq_true rfl) dX4_night_11 rfl rfl rfl ?_
    refine ro_if_ne (pc' := 17) (tgt := 33) dX4_night_14 rfl rfl (fun c => ?_) (fun c => ?_)
    · replace h := ah_in_ c h
      refine ro_aload_n (pc' := 34) dX4_night_33 rfl rfl rfl ?_
      refine ro_dup (pc' := 35) dX4_night_34 (ah_rf_cat _) rfl ?_
      obtain ⟨v4, hv4, h⟩ := ah_bs h
      refine ro_getI (pc' := 38) ft_403 fk_403 q250 dX4_night_35 rfl hv4 ?_
      refine ro_iconst (pc' := 39) dX4_night_38 ic_1 rfl ?_
      refine ro_iload_n (pc' := 40) dX4_night_39 rfl rfl rfl ?_
      refine ro_ishl (pc' := 41) dX4_night_40 rfl ?_
      refine ro_ior (pc' := 42) dX4_night_41 rfl ?_
      obtain ⟨σ5, hσ5, h⟩ := ah_bs h
      refine ro_putI (pc' := 45) ft_403 fk_403 q250 pd_403 dX4_night_42 rfl hσ5 ?_
      refine ro_iconst (pc' := 46) dX4_night_45 ic_0 rfl ?_
      refine ro_istore_n (pc' := 47) (L' := [some (va_rf r0), some (.int x1), some (.int (0 : Int32)), none]) dX4_night_46 rfl (Nat.le_of_ble_eq_true rfl) rfl (ah_okp_i _) rfl ?_
      exact W_X4_night_47 hκ _ _ _ _ _ h
    · replace h := ah_ip c h
      refine ro_aload_n (pc' := 18) dX4_night_17 rfl rfl rfl ?_
      obtain ⟨v6, hv6, h⟩ := ah_bs h
      refine ro_getR (pc' := 21) ft_400 fk_400 q244 dX4_night_18 rfl hv6 ?_
      refine ro_iconst (pc' := 22) dX4_night_21 ic_0 rfl ?_
      refine ro_aload_n (pc' := 23) dX4_night_22 rfl rfl rfl ?_
      obtain ⟨v7, hv7, h⟩ := ah_bs h
      refine ro_getR (pc' := 26) ft_402 fk_402 q248 dX4_night_23 rfl hv7 ?_
      refine ro_iconst (pc' := 27) dX4_night_26 ic_4 rfl ?_
      refine ro_iload_n (pc' := 28) dX4_night_27 rfl rfl rfl ?_
      refine ro_imul (pc' := 29) dX4_night_28 rfl ?_
      refine ro_iconst (pc' := 30) dX4_night_29 ic_4 rfl ?_
      obtain ⟨σ8, hσ8, h⟩ := ah_bs h
      refine ro_copy (pc' := 33) q672 q674 q673 q113 (Nat.le_of_ble_eq_true rfl) (Nat.le_of_ble_eq_true rfl) dX4_night_30 rfl hσ8 ?_
      refine ro_aload_n (pc' := 34) dX4_night_33 rfl rfl rfl ?_
      refine ro_dup (pc' := 35) dX4_night_34 (ah_rf_cat _) rfl ?_
      obtain ⟨v9, hv9, h⟩ := ah_bs h
      refine ro_getI (pc' := 38) ft_403 fk_403 q250 dX4_night_35 rfl hv9 ?_
      refine ro_iconst (pc' := 39) dX4_night_38 ic_1 rfl ?_
      refine ro_iload_n (pc' := 40) dX4_night_39 rfl rfl rfl ?_
      refine ro_ishl (pc' := 41) dX4_night_40 rfl ?_
      refine ro_ior (pc' := 42) dX4_night_41 rfl ?_
      obtain ⟨σ10, hσ10, h⟩ := ah_bs h
      refine ro_putI (pc' := 45) ft_403 fk_403 q250 pd_403 dX4_night_42 rfl hσ10 ?_
      refine ro_iconst (pc' := 46) dX4_night_45 ic_0 rfl ?_
      refine ro_istore_n (pc' := 47) (L' := [some (va_rf r0), some (.int x1), some (.int (0 : Int32)), none]) dX4_night_46 rfl (Nat.le_of_ble_eq_true rfl) rfl (ah_okp_i _) rfl ?_
      exact W_X4_night_47 hκ _ _ _ _ _ h
  · replace h := ah_ip c h
    obtain rfl := Option.some.inj h
    exact ro_vret hκ dX4_night_5
theorem M_X4_night {l : Launch} {D : ah_D}  {σ : ah_S} {r0 : Option Nat} {x1 : Int32} {σ1 : ah_S} (h : F_X4_night σ r0 x1 = some σ1) : ah_Met l yX4_night (Cond.code yX4_night cX4_night 4 none) 136 3928 D [va_rf r0, .int x1] σ (.returned none, σ1) :=
  ah_ofG (own := "LeftAsFound$Hut") (nm := "night") (L0 := [some (va_rf r0), some (.int x1), none, none]) (by decide) rfl rfl rfl (ah_ao_1 (ah_rf_cat _) (ah_ao_1 rfl (ah_ao_n (ah_ao_n ah_ao_0)))) (fun κ hκ => W_X4_night hκ  σ r0 x1 h)
set_option maxRecDepth 20000 in
set_option maxHeartbeats 4000000 in
theorem W_X0_below_56 {κ : ah_C} {rr : (Int32 × ah_S)} (hκ : ah_res κ = (.returned (some (.int rr.1)), rr.2))    : ∀ (n : Nat) (σ : ah_S) (r0 : Option Nat) (x2 : Int32) (x3 : Int32) (x4 : Int32), F_X0_below_56 n σ r0 x2 x3 x4 = some rr → ah_G κ ("LeftAsFound", "below", 5, (some FieldType.int), [], 137, 3951) cX0_below σ 56 [some (va_rf r0), none, some (.int x2), some (.int x3), some (.int x4)] [] := by
  intro n
  induction n with
  | zero => intro σ r0 x2 x3 x4 h; cases h
  | succ n ih =>
    intro σ r0 x2 x3 x4 h
    rw [F_X0_below_56] at h
    refine ro_iload (pc' := 58) dX0_below_56 rfl rfl ?_
    refine ro_aload_n (pc' := 59) dX0_below_58 rfl rfl rfl ?_
    obtain ⟨v1, hv1, h⟩ := ah_bs h
    refine ro_getI (pc' := 62) ft_21 fk_21 q315 dX0_below_59 rfl hv1 ?_
    refine ro_icmp_ge (pc' := 65) (tgt := 101) dX0_below_62 rfl rfl (fun c => ?_) (fun c => ?_)
    · replace h := ah_ip c h
      refine ro_bipush (pc' := 103) dX0_below_101 ib_m2 rfl ?_
      obtain rfl := Option.some.inj h
      exact ro_iret hκ dX0_below_103
    · replace h := ah_in_ c h
      refine ro_aload_n (pc' := 66) dX0_below_65 rfl rfl rfl ?_
      obtain ⟨v2, hv2, h⟩ := ah_bs h
      refine ro_getR (pc' := 69) ft_19 fk_19 q313 dX0_below_66 rfl hv2 ?_
      refine ro_aload_n (pc' := 70) dX0_below_69 rfl rfl rfl ?_
      obtain ⟨v3, hv3, h⟩ := ah_bs h
      refine ro_getR (pc' := 73) ft_20 fk_20 q314 dX0_below_70 rfl hv3 ?_
      refine ro_iload (pc' := 75) dX0_below_73 rfl rfl ?_
      obtain ⟨v4, hv4, h⟩ := ah_bs h
      refine ro_iaload (pc' := 76) dX0_below_75 rfl hv4 ?_
      obtain ⟨u5, hu5, h⟩ := ah_bs h
      obtain ⟨σ6, hσ6, h⟩ := ah_bs h
      refine ro_callV (pc' := 79) (As := [.int v4]) (rest := []) (st' := []) (by decide) hu5 q676 sl_X4_night (M_X4_night hσ6) q675 q678 q102 dd_X4_night rfl ⟨Nat.le_of_ble_eq_true rfl, Nat.le_of_ble_eq_true rfl⟩ (Nat.le_of_ble_eq_true rfl) dX0_below_76 rfl rfl rfl ?_
      refine ro_aload_n (pc' := 80) dX0_below_79 rfl rfl rfl ?_
      obtain ⟨v7, hv7, h⟩ := ah_bs h
      refine ro_getR (pc' := 83) ft_19 fk_19 q313 dX0_below_80 rfl hv7 ?_
      obtain ⟨v8, hv8, h⟩ := ah_bs h
      refine ro_getRN (pc' := 86) ft_400 fk_400 nq245 dX0_below_83 rfl hv8 ?_
      refine ro_iload_n (pc' := 87) dX0_below_86 rfl rfl rfl ?_
      obtain ⟨v9, hv9, h⟩ := ah_bs h
      refine ro_iaload (pc' := 88) dX0_below_87 rfl hv9 ?_
      refine ro_iload_n (pc' := 89) dX0_below_88 rfl rfl rfl ?_
      refine ro_icmp_ge (pc' := 92) (tgt := 95) dX0_below_89 rfl rfl (fun c => ?_) (fun c => ?_)
      · replace h := ah_ip c h
        refine ro_iinc (pc' := 98) (L' := [some (va_rf r0), none, some (.int x2), some (.int x3), some (.int (x4 + (1 : Int32)))]) dX0_below_95 rfl ic_1 (Nat.le_of_ble_eq_true rfl) rfl (ah_okp_i _) rfl ?_
        refine ro_goto (tgt := 56) dX0_below_98 rfl ?_
        exact ih _ _ _ _ _ h
      · replace h := ah_in_ c h
        refine ro_iload (pc' := 94) dX0_below_92 rfl rfl ?_
        obtain rfl := Option.some.inj h
        exact ro_iret hκ dX0_below_94
set_option maxRecDepth 20000 in
set_option maxHeartbeats 4000000 in
theorem W_X0_below {κ : ah_C} {rr : (Int32 × ah_S)} (hκ : ah_res κ = (.returned (some (.int rr.1)), rr.2))  (σ : ah_S) (r0 : Option Nat) (x1 : Int32) (x2 : Int32) (x3 : Int32) (h : F_X0_below σ r0 x1 x2 x3 = some rr) : ah_G κ ("LeftAsFound", "below", 5, (some FieldType.int), [], 137, 3951) cX0_below σ 0 [some (va_rf r0), some (.int x1), some (.int x2), some (.int x3), none] [] := by
  unfold F_X0_below at h
  refine ro_iload_n (pc' := 1) dX0_below_0 rfl rfl rfl ?_
  obtain ⟨v1, σ2, hv1, h⟩ := ah_bs2 h
  refine ro_callS (pc' := 4) (As := [.int x1]) (rest := []) (st' := [.int v1]) q471 (M_X0_isShelf hv1) q470 q472 q95 dd_X0_isShelf rfl ⟨Nat.le_of_ble_eq_true rfl, Nat.le_of_ble_eq_true rfl⟩ (Nat.le_of_ble_eq_true rfl) dX0_below_1 rfl rfl rfl ?_
  refine ro_if_eq (pc' := 7) (tgt := 26) dX0_below_4 rfl rfl (fun c => ?_) (fun c => ?_)
  · replace h := ah_ip c h
    refine ro_iconst (pc' := 27) dX0_below_26 ic_m1 rfl ?_
    obtain rfl := Option.some.inj h
    exact ro_iret hκ dX0_below_27
  · replace h := ah_in_ c h
    refine ro_iload_n (pc' := 8) dX0_below_7 rfl rfl rfl ?_
    obtain ⟨v3, σ4, hv3, h⟩ := ah_bs2 h
    refine ro_callS (pc' := 11) (As := [.int x2]) (rest := []) (st' := [.int v3]) q497 (M_X0_isThing hv3) q496 q498 q95 dd_X0_isThing rfl ⟨Nat.le_of_ble_eq_true rfl, Nat.le_of_ble_eq_true rfl⟩ (Nat.le_of_ble_eq_true rfl) dX0_below_8 rfl rfl rfl ?_
    refine ro_if_eq (pc' := 14) (tgt := 26) dX0_below_11 rfl rfl (fun c => ?_) (fun c => ?_)
    · replace h := ah_ip c h
      refine ro_iconst (pc' := 27) dX0_below_26 ic_m1 rfl ?_
      obtain rfl := Option.some.inj h
      exact ro_iret hκ dX0_below_27
    · replace h := ah_in_ c h
      refine ro_iload_n (pc' := 15) dX0_below_14 rfl rfl rfl ?_
      refine ro_i2l (pc' := 16) dX0_below_15 rfl ?_
      refine ro_lconst (pc' := 17) dX0_below_16 lc_0 rfl ?_
      refine ro_ldc2 (pc' := 20) q724 dX0_below_17 rfl ?_
      obtain ⟨v5, σ6, hv5, h⟩ := ah_bs2 h
      refine ro_callS (pc' := 23) (As := [.long (x3.toInt64), .long (0 : Int64), .long (99 : Int64)]) (rest := []) (st' := [.int v5]) q429 (M_X0_within hv5) q428 q430 q95 dd_X0_within rfl ⟨Nat.le_of_ble_eq_true rfl, Nat.le_of_ble_eq_true rfl⟩ (Nat.le_of_ble_eq_true rfl) dX0_below_20 rfl rfl rfl ?_
      refine ro_if_ne (pc' := 26) (tgt := 28) dX0_below_23 rfl rfl (fun c => ?_) (fun c => ?_)
      · replace h := ah_in_ c h
        refine ro_aload_n (pc' := 29) dX0_below_28 rfl rfl rfl ?_
        refine ro_iload_n (pc' := 30) dX0_below_29 rfl rfl rfl ?_
        obtain ⟨u7, hu7, h⟩ := ah_bs h
        obtain ⟨v8, σ9, hv8, h⟩ := ah_bs2 h
        refine ro_callV (pc' := 33) (As := [.int x1]) (rest := []) (st' := [.int v8]) (by decide) hu7 q655 sl_X0_takes1Row (M_X0_takes1Row hv8) q653 q656 q95 dd_X0_takes1Row rfl ⟨Nat.le_of_ble_eq_true rfl, Nat.le_of_ble_eq_true rfl⟩ (Nat.le_of_ble_eq_true rfl) dX0_below_30 rfl rfl rfl ?_
        refine ro_if_ge (pc' := 36) (tgt := 42) dX0_below_33 rfl rfl (fun c => ?_) (fun c => ?_)
        · replace h := ah_ip c h
          refine ro_aload_n (pc' := 43) dX0_below_42 rfl rfl rfl ?_
          obtain ⟨v10, hv10, h⟩ := ah_bs h
          refine ro_getR (pc' := 46) ft_19 fk_19 q313 dX0_below_43 rfl hv10 ?_
          refine ro_aload_n (pc' := 47) dX0_below_46 rfl rfl rfl ?_
          obtain ⟨v11, hv11, h⟩ := ah_bs h
          refine ro_getR (pc' := 50) ft_18 fk_18 q312 dX0_below_47 rfl hv11 ?_
          obtain ⟨u12, hu12, h⟩ := ah_bs h
          obtain ⟨σ13, hσ13, h⟩ := ah_bs h
          refine ro_callV (pc' := 53) (As := [va_rf v11]) (rest := []) (st' := []) (by decide) hu12 q669 sl_X4_beAs (M_X4_beAs hσ13) q668 q671 q102 dd_X4_beAs rfl ⟨Nat.le_of_ble_eq_true rfl, Nat.le_of_ble_eq_true rfl⟩ (Nat.le_of_ble_eq_true rfl) dX0_below_50 rfl rfl rfl ?_
          refine ro_iconst (pc' := 54) dX0_below_53 ic_0 rfl ?_
          refine ro_istore (pc' := 56) (L' := [some (va_rf r0), some (.int x1), some (.int x2), some (.int x3), some (.int (0 : Int32))]) dX0_below_54 (Nat.le_of_ble_eq_true rfl) rfl (ah_okp_i _) rfl ?_
          refine ro_weak (L' := [some (va_rf r0), none, some (.int x2), some (.int x3), some (.int (0 : Int32))]) (ah_ls_s (ah_ls_n (ah_ls_s (ah_ls_s (ah_ls_s ah_ls_0))))) ?_
          exact W_X0_below_56 hκ _ _ _ _ _ _ h
        · replace h := ah_in_ c h
          refine ro_aload_n (pc' := 37) dX0_below_36 rfl rfl rfl ?_
          refine ro_iload_n (pc' := 38) dX0_below_37 rfl rfl rfl ?_
          obtain ⟨u14, hu14, h⟩ := ah_bs h
          obtain ⟨v15, σ16, hv15, h⟩ := ah_bs2 h
          refine ro_callV (pc' := 41) (As := [.int x1]) (rest := []) (st' := [.int v15]) (by decide) hu14 q659 sl_X0_lookAt (M_X0_lookAt hv15) q657 q660 q95 dd_X0_lookAt rfl ⟨Nat.le_of_ble_eq_true rfl, Nat.le_of_ble_eq_true rfl⟩ (Nat.le_of_ble_eq_true rfl) dX0_below_38 rfl rfl rfl ?_
          obtain rfl := Option.some.inj h
          exact ro_iret hκ dX0_below_41
      · replace h := ah_ip c h
        refine ro_iconst (pc' := 27) dX0_below_26 ic_m1 rfl ?_
        obtain rfl := Option.some.inj h
        exact ro_iret hκ dX0_below_27
theorem M_X0_below {l : Launch} {D : ah_D}  {σ : ah_S} {r0 : Option Nat} {x1 : Int32} {x2 : Int32} {x3 : Int32} {v : Int32} {σ1 : ah_S} (h : F_X0_below σ r0 x1 x2 x3 = some (v, σ1)) : ah_Met l yX0_below (Cond.code yX0_below cX0_below 5 (some FieldType.int)) 137 3951 D [va_rf r0, .int x1, .int x2, .int x3] σ (.returned (some (.int v)), σ1) :=
  ah_ofG (own := "LeftAsFound") (nm := "below") (L0 := [some (va_rf r0), some (.int x1), some (.int x2), some (.int x3), none]) (by decide) rfl rfl rfl (ah_ao_1 (ah_rf_cat _) (ah_ao_1 rfl (ah_ao_1 rfl (ah_ao_1 rfl (ah_ao_n ah_ao_0))))) (fun κ hκ => W_X0_below hκ  σ r0 x1 x2 x3 h)
set_option maxRecDepth 20000 in
set_option maxHeartbeats 4000000 in
theorem W_X0_drawn_99 {κ : ah_C} {rr : (Int32 × ah_S)} (hκ : ah_res κ = (.returned (some (.int rr.1)), rr.2))  {k48 : ah_S → Option Nat → Int32 → Int32 → Int32 → Int32 → Int32 → Int32 → Option (Int32 × ah_S)} (hk48 : ∀ (σ : ah_S) (r0 : Option Nat) (x2 : Int32) (x3 : Int32) (x4 : Int32) (x5 : Int32) (x6 : Int32) (x7 : Int32), k48 σ r0 x2 x3 x4 x5 x6 x7 = some rr → ah_G κ ("LeftAsFound", "drawn", 9, (some FieldType.int), [], 137, 3951) cX0_drawn σ 48 [some (va_rf r0), none, some (.int x2), some (.int x3), some (.int x4), some (.int x5), some (.int x6), some (.int x7), none] []) : ∀ (σ : ah_S) (r0 : Option Nat) (x2 : Int32) (x3 : Int32) (x4 : Int32) (x5 : Int32) (x6 : Int32) (x7 : Int32) (w0 : Option Nat) (y1 : Int32), F_X0_drawn_99 k48 σ r0 x2 x3 x4 x5 x6 x7 w0 y1 = some rr → ah_G κ ("LeftAsFound", "drawn", 9, (some FieldType.int), [], 137, 3951) cX0_drawn σ 99 [some (va_rf r0), none, some (.int x2), some (.int x3), some (.int x4), some (.int x5), some (.int x6), some (.int x7), none] [.int y1, va_rf w0] := by
  intro σ r0 x2 x3 x4 x5 x6 x7 w0 y1 h
  unfold F_X0_drawn_99 at h
  obtain ⟨u1, hu1, h⟩ := ah_bs h
  obtain ⟨σ2, hσ2, h⟩ := ah_bs h
  refine ro_callV (pc' := 102) (As := [.int y1]) (rest := []) (st' := []) (by decide) hu1 q676 sl_X4_night (M_X4_night hσ2) q675 q678 q102 dd_X4_night rfl ⟨Nat.le_of_ble_eq_true rfl, Nat.le_of_ble_eq_true rfl⟩ (Nat.le_of_ble_eq_true rfl) dX0_drawn_99 rfl rfl rfl ?_
  refine ro_iload (pc' := 104) dX0_drawn_102 rfl rfl ?_
  refine ro_aload_n (pc' := 105) dX0_drawn_104 rfl rfl rfl ?_
  obtain ⟨v3, hv3, h⟩ := ah_bs h
  refine ro_getR (pc' := 108) ft_19 fk_19 q313 dX0_drawn_105 rfl hv3 ?_
  obtain ⟨u4, hu4, h⟩ := ah_bs h
  obtain ⟨v5, σ6, hv5, h⟩ := ah_bs2 h
  refine ro_callV (pc' := 111) (As := []) (rest := [.int x5]) (st' := [.int v5, .int x5]) (by decide) hu4 q734 sl_X4_loss (M_X4_loss hv5) q733 q736 q102 dd_X4_loss rfl ⟨Nat.le_of_ble_eq_true rfl, Nat.le_of_ble_eq_true rfl⟩ (Nat.le_of_ble_eq_true rfl) dX0_drawn_108 rfl rfl rfl ?_
  refine ro_iadd (pc' := 112) dX0_drawn_111 rfl ?_
  refine ro_istore (pc' := 114) (L' := [some (va_rf r0), none, some (.int x2), some (.int x3), some (.int x4), some (.int (x5 + v5)), some (.int x6), some (.int x7), none]) dX0_drawn_112 (Nat.le_of_ble_eq_true rfl) rfl (ah_okp_i _) rfl ?_
  refine ro_iload (pc' := 116) dX0_drawn_114 rfl rfl ?_
  refine ro_aload_n (pc' := 117) dX0_drawn_116 rfl rfl rfl ?_
  obtain ⟨v7, hv7, h⟩ := ah_bs h
  refine ro_getR (pc' := 120) ft_19 fk_19 q313 dX0_drawn_117 rfl hv7 ?_
  obtain ⟨v8, hv8, h⟩ := ah_bs h
  refine ro_getRN (pc' := 123) ft_400 fk_400 nq245 dX0_drawn_120 rfl hv8 ?_
  refine ro_iconst (pc' := 124) dX0_drawn_123 ic_0 rfl ?_
  obtain ⟨v9, hv9, h⟩ := ah_bs h
  refine ro_iaload (pc' := 125) dX0_drawn_124 rfl hv9 ?_
  refine ro_mmin (pc' := 128) q665 (Nat.le_of_ble_eq_true rfl) (Nat.le_of_ble_eq_true rfl) dX0_drawn_125 rfl ?_
  refine ro_istore (pc' := 130) (L' := [some (va_rf r0), none, some (.int x2), some (.int x3), some (.int x4), some (.int (x5 + v5)), some (.int (if v9 < x6 then v9 else x6)), some (.int x7), none]) dX0_drawn_128 (Nat.le_of_ble_eq_true rfl) rfl (ah_okp_i _) rfl ?_
  refine ro_iinc (pc' := 133) (L' := [some (va_rf r0), none, some (.int x2), some (.int x3), some (.int x4), some (.int (x5 + v5)), some (.int (if v9 < x6 then v9 else x6)), some (.int (x7 + (1 : Int32))), none]) dX0_drawn_130 rfl ic_1 (Nat.le_of_ble_eq_true rfl) rfl (ah_okp_i _) rfl ?_
  refine ro_goto (tgt := 48) dX0_drawn_133 rfl ?_
  exact hk48 _ _ _ _ _ _ _ _ h
set_option maxRecDepth 20000 in
set_option maxHeartbeats 4000000 in
theorem W_X0_drawn_48 {κ : ah_C} {rr : (Int32 × ah_S)} (hκ : ah_res κ = (.returned (some (.int rr.1)), rr.2))    : ∀ (n : Nat) (σ : ah_S) (r0 : Option Nat) (x2 : Int32) (x3 : Int32) (x4 : Int32) (x5 : Int32) (x6 : Int32) (x7 : Int32), F_X0_drawn_48 n σ r0 x2 x3 x4 x5 x6 x7 = some rr → ah_G κ ("LeftAsFound", "drawn", 9, (some FieldType.int), [], 137, 3951) cX0_drawn σ 48 [some (va_rf r0), none, some (.int x2), some (.int x3), some (.int x4), some (.int x5), some (.int x6), some (.int x7), none] [] := by
  intro n
  induction n with
  | zero => intro σ r0 x2 x3 x4 x5 x6 x7 h; cases h
  | succ n ih =>
    intro σ r0 x2 x3 x4 x5 x6 x7 h
    rw [F_X0_drawn_48] at h
    refine ro_iload (pc' := 50) dX0_drawn_48 rfl rfl ?_
    refine ro_iload_n (pc' := 51) dX0_drawn_50 rfl rfl rfl ?_
    refine ro_icmp_ge (pc' := 54) (tgt := 136) dX0_drawn_51 rfl rfl (fun c => ?_) (fun c => ?_)
    · replace h := ah_ip c h
      refine ro_iload_n (pc' := 137) dX0_drawn_136 rfl rfl rfl ?_
      refine ro_if_ne (pc' := 140) (tgt := 145) dX0_drawn_137 rfl rfl (fun c => ?_) (fun c => ?_)
      · replace h := ah_in_ c h
        refine ro_iload (pc' := 147) dX0_drawn_145 rfl rfl ?_
        obtain rfl := Option.some.inj h
        exact ro_iret hκ dX0_drawn_147
      · replace h := ah_ip c h
        refine ro_iload (pc' := 142) dX0_drawn_140 rfl rfl ?_
        refine ro_goto (tgt := 147) dX0_drawn_142 rfl ?_
        obtain rfl := Option.some.inj h
        exact ro_iret hκ dX0_drawn_147
    · replace h := ah_in_ c h
      refine ro_iload (pc' := 56) dX0_drawn_54 rfl rfl ?_
      refine ro_ldc_w (pc' := 59) q834 dX0_drawn_56 rfl ?_
      refine ro_imul (pc' := 60) dX0_drawn_59 rfl ?_
      refine ro_sipush (pc' := 63) dX0_drawn_60 is_12345 rfl ?_
      refine ro_iadd (pc' := 64) dX0_drawn_63 rfl ?_
      refine ro_istore (pc' := 66) (L' := [some (va_rf r0), none, some (.int x2), some (.int x3), some (.int ((x4 * (1103515245 : Int32)) + (12345 : Int32))), some (.int x5), some (.int x6), some (.int x7), none]) dX0_drawn_64 (Nat.le_of_ble_eq_true rfl) rfl (ah_okp_i _) rfl ?_
      refine ro_iload (pc' := 68) dX0_drawn_66 rfl rfl ?_
      refine ro_bipush (pc' := 70) dX0_drawn_68 ib_8 rfl ?_
      refine ro_iushr (pc' := 71) dX0_drawn_70 rfl ?_
      refine ro_aload_n (pc' := 72) dX0_drawn_71 rfl rfl rfl ?_
      obtain ⟨v1, hv1, h⟩ := ah_bs h
      refine ro_getI (pc' := 75) ft_8 fk_8 q299 dX0_drawn_72 rfl hv1 ?_
      refine ro_iconst (pc' := 76) dX0_drawn_75 ic_1 rfl ?_
      refine ro_iadd (pc' := 77) dX0_drawn_76 rfl ?_
      obtain ⟨q2, hq2, h⟩ := ah_bs h
      refine ro_irem (pc' := 78) dX0_drawn_77 rfl hq2 ?_
      refine ro_istore (pc' := 80) (L' := [some (va_rf r0), none, some (.int x2), some (.int x3), some (.int ((x4 * (1103515245 : Int32)) + (12345 : Int32))), some (.int x5), some (.int x6), some (.int x7), some (.int q2)]) dX0_drawn_78 (Nat.le_of_ble_eq_true rfl) rfl (ah_okp_i _) rfl ?_
      refine ro_aload_n (pc' := 81) dX0_drawn_80 rfl rfl rfl ?_
      obtain ⟨v3, hv3, h⟩ := ah_bs h
      refine ro_getR (pc' := 84) ft_19 fk_19 q313 dX0_drawn_81 rfl hv3 ?_
      refine ro_iload (pc' := 86) dX0_drawn_84 rfl rfl ?_
      refine ro_aload_n (pc' := 87) dX0_drawn_86 rfl rfl rfl ?_
      obtain ⟨v4, hv4, h⟩ := ah_bs h
      refine ro_getI (pc' := 90) ft_8 fk_8 q299 dX0_drawn_87 rfl hv4 ?_
      refine ro_icmp_ne (pc' := 93) (tgt := 97) dX0_drawn_90 rfl rfl (fun c => ?_) (fun c => ?_)
      · replace h := ah_in_ c h
        refine ro_iload (pc' := 99) dX0_drawn_97 rfl rfl ?_
        refine ro_weak (L' := [some (va_rf r0), none, some (.int x2), some (.int x3), some (.int ((x4 * (1103515245 : Int32)) + (12345 : Int32))), some (.int x5), some (.int x6), some (.int x7), none]) (ah_ls_s (ah_ls_s (ah_ls_s (ah_ls_s (ah_ls_s (ah_ls_s (ah_ls_s (ah_ls_s (ah_ls_n ah_ls_0))))))))) ?_
        exact W_X0_drawn_99 hκ ih _ _ _ _ _ _ _ _ _ _ h
      · replace h := ah_ip c h
        refine ro_iconst (pc' := 94) dX0_drawn_93 ic_m1 rfl ?_
        refine ro_goto (tgt := 99) dX0_drawn_94 rfl ?_
        refine ro_weak (L' := [some (va_rf r0), none, some (.int x2), some (.int x3), some (.int ((x4 * (1103515245 : Int32)) + (12345 : Int32))), some (.int x5), some (.int x6), some (.int x7), none]) (ah_ls_s (ah_ls_s (ah_ls_s (ah_ls_s (ah_ls_s (ah_ls_s (ah_ls_s (ah_ls_s (ah_ls_n ah_ls_0))))))))) ?_
        exact W_X0_drawn_99 hκ ih _ _ _ _ _ _ _ _ _ _ h
set_option maxRecDepth 20000 in
set_option maxHeartbeats 4000000 in
theorem W_X0_drawn {κ : ah_C} {rr : (Int32 × ah_S)} (hκ : ah_res κ = (.returned (some (.int rr.1)), rr.2))  (σ : ah_S) (r0 : Option Nat) (x1 : Int32) (x2 : Int32) (x3 : Int32) (h : F_X0_drawn σ r0 x1 x2 x3 = some rr) : ah_G κ ("LeftAsFound", "drawn", 9, (some FieldType.int), [], 137, 3951) cX0_drawn σ 0 [some (va_rf r0), some (.int x1), some (.int x2), some (.int x3), none, none, none, none, none] [] := by
  unfold F_X0_drawn at h
  refine ro_iload_n (pc' := 1) dX0_drawn_0 rfl rfl rfl ?_
  refine ro_i2l (pc' := 2) dX0_drawn_1 rfl ?_
  refine ro_lconst (pc' := 3) dX0_drawn_2 lc_1 rfl ?_
  refine ro_ldc2 (pc' := 6) q833 dX0_drawn_3 rfl ?_
  obtain ⟨v1, σ2, hv1, h⟩ := ah_bs2 h
  refine ro_callS (pc' := 9) (As := [.long (x2.toInt64), .long (1 : Int64), .long (60 : Int64)]) (rest := []) (st' := [.int v1]) q429 (M_X0_within hv1) q428 q430 q95 dd_X0_within rfl ⟨Nat.le_of_ble_eq_true rfl, Nat.le_of_ble_eq_true rfl⟩ (Nat.le_of_ble_eq_true rfl) dX0_drawn_6 rfl rfl rfl ?_
  refine ro_if_eq (pc' := 12) (tgt := 22) dX0_drawn_9 rfl rfl (fun c => ?_) (fun c => ?_)
  · replace h := ah_ip c h
    refine ro_iconst (pc' := 23) dX0_drawn_22 ic_m1 rfl ?_
    obtain rfl := Option.some.inj h
    exact ro_iret hκ dX0_drawn_23
  · replace h := ah_in_ c h
    refine ro_iload_n (pc' := 13) dX0_drawn_12 rfl rfl rfl ?_
    refine ro_i2l (pc' := 14) dX0_drawn_13 rfl ?_
    refine ro_lconst (pc' := 15) dX0_drawn_14 lc_0 rfl ?_
    refine ro_lconst (pc' := 16) dX0_drawn_15 lc_1 rfl ?_
    obtain ⟨v3, σ4, hv3, h⟩ := ah_bs2 h
    refine ro_callS (pc' := 19) (As := [.long (x3.toInt64), .long (0 : Int64), .long (1 : Int64)]) (rest := []) (st' := [.int v3]) q429 (M_X0_within hv3) q428 q430 q95 dd_X0_within rfl ⟨Nat.le_of_ble_eq_true rfl, Nat.le_of_ble_eq_true rfl⟩ (Nat.le_of_ble_eq_true rfl) dX0_drawn_16 rfl rfl rfl ?_
    refine ro_if_ne (pc' := 22) (tgt := 24) dX0_drawn_19 rfl rfl (fun c => ?_) (fun c => ?_)
    · replace h := ah_in_ c h
      refine ro_aload_n (pc' := 25) dX0_drawn_24 rfl rfl rfl ?_
      obtain ⟨v5, hv5, h⟩ := ah_bs h
      refine ro_getR (pc' := 28) ft_19 fk_19 q313 dX0_drawn_25 rfl hv5 ?_
      refine ro_aload_n (pc' := 29) dX0_drawn_28 rfl rfl rfl ?_
      obtain ⟨v6, hv6, h⟩ := ah_bs h
      refine ro_getR (pc' := 32) ft_18 fk_18 q312 dX0_drawn_29 rfl hv6 ?_
      obtain ⟨u7, hu7, h⟩ := ah_bs h
      obtain ⟨σ8, hσ8, h⟩ := ah_bs h
      refine ro_callV (pc' := 35) (As := [va_rf v6]) (rest := []) (st' := []) (by decide) hu7 q669 sl_X4_beAs (M_X4_beAs hσ8) q668 q671 q102 dd_X4_beAs rfl ⟨Nat.le_of_ble_eq_true rfl, Nat.le_of_ble_eq_true rfl⟩ (Nat.le_of_ble_eq_true rfl) dX0_drawn_32 rfl rfl rfl ?_
      refine ro_iload_n (pc' := 36) dX0_drawn_35 rfl rfl rfl ?_
      refine ro_istore (pc' := 38) (L' := [some (va_rf r0), some (.int x1), some (.int x2), some (.int x3), some (.int x1), none, none, none, none]) dX0_drawn_36 (Nat.le_of_ble_eq_true rfl) rfl (ah_okp_i _) rfl ?_
      refine ro_iconst (pc' := 39) dX0_drawn_38 ic_0 rfl ?_
      refine ro_istore (pc' := 41) (L' := [some (va_rf r0), some (.int x1), some (.int x2), some (.int x3), some (.int x1), some (.int (0 : Int32)), none, none, none]) dX0_drawn_39 (Nat.le_of_ble_eq_true rfl) rfl (ah_okp_i _) rfl ?_
      refine ro_bipush (pc' := 43) dX0_drawn_41 ib_99 rfl ?_
      refine ro_istore (pc' := 45) (L' := [some (va_rf r0), some (.int x1), some (.int x2), some (.int x3), some (.int x1), some (.int (0 : Int32)), some (.int (99 : Int32)), none, none]) dX0_drawn_43 (Nat.le_of_ble_eq_true rfl) rfl (ah_okp_i _) rfl ?_
      refine ro_iconst (pc' := 46) dX0_drawn_45 ic_0 rfl ?_
      refine ro_istore (pc' := 48) (L' := [some (va_rf r0), some (.int x1), some (.int x2), some (.int x3), some (.int x1), some (.int (0 : Int32)), some (.int (99 : Int32)), some (.int (0 : Int32)), none]) dX0_drawn_46 (Nat.le_of_ble_eq_true rfl) rfl (ah_okp_i _) rfl ?_
      refine ro_weak (L' := [some (va_rf r0), none, some (.int x2), some (.int x3), some (.int x1), some (.int (0 : Int32)), some (.int (99 : Int32)), some (.int (0 : Int32)), none]) (ah_ls_s (ah_ls_n (ah_ls_s (ah_ls_s (ah_ls_s (ah_ls_s (ah_ls_s (ah_ls_s (ah_ls_s ah_ls_0))))))))) ?_
      exact W_X0_drawn_48 hκ _ _ _ _ _ _ _ _ _ h
    · replace h := ah_ip c h
      refine ro_iconst (pc' := 23) dX0_drawn_22 ic_m1 rfl ?_
      obtain rfl := Option.some.inj h
      exact ro_iret hκ dX0_drawn_23
theorem M_X0_drawn {l : Launch} {D : ah_D}  {σ : ah_S} {r0 : Option Nat} {x1 : Int32} {x2 : Int32} {x3 : Int32} {v : Int32} {σ1 : ah_S} (h : F_X0_drawn σ r0 x1 x2 x3 = some (v, σ1)) : ah_Met l yX0_drawn (Cond.code yX0_drawn cX0_drawn 9 (some FieldType.int)) 137 3951 D [va_rf r0, .int x1, .int x2, .int x3] σ (.returned (some (.int v)), σ1) :=
  ah_ofG (own := "LeftAsFound") (nm := "drawn") (L0 := [some (va_rf r0), some (.int x1), some (.int x2), some (.int x3), none, none, none, none, none]) (by decide) rfl rfl rfl (ah_ao_1 (ah_rf_cat _) (ah_ao_1 rfl (ah_ao_1 rfl (ah_ao_1 rfl (ah_ao_n (ah_ao_n (ah_ao_n (ah_ao_n (ah_ao_n ah_ao_0))))))))) (fun κ hκ => W_X0_drawn hκ  σ r0 x1 x2 x3 h)
set_option maxRecDepth 20000 in
set_option maxHeartbeats 4000000 in
theorem W_X0_findRest_61 {κ : ah_C} {rr : (Int32 × ah_S)} (hκ : ah_res κ = (.returned (some (.int rr.1)), rr.2))  {k18 : ah_S → Option Nat → Int32 → Option (Int32 × ah_S)} (hk18 : ∀ (σ : ah_S) (r0 : Option Nat) (x1 : Int32), k18 σ r0 x1 = some rr → ah_G κ ("LeftAsFound", "findRest", 3, (some FieldType.boolean), [], 137, 3951) cX0_findRest σ 18 [some (va_rf r0), some (.int x1), none] []) : ∀ (n : Nat) (σ : ah_S) (r0 : Option Nat) (x1 : Int32) (x2 : Int32), F_X0_findRest_61 k18 n σ r0 x1 x2 = some rr → ah_G κ ("LeftAsFound", "findRest", 3, (some FieldType.boolean), [], 137, 3951) cX0_findRest σ 61 [some (va_rf r0), some (.int x1), some (.int x2)] [] := by
  intro n
  induction n with
  | zero => intro σ r0 x1 x2 h; cases h
  | succ n ih =>
    intro σ r0 x1 x2 h
    rw [F_X0_findRest_61] at h
    refine ro_iload_n (pc' := 62) dX0_findRest_61 rfl rfl rfl ?_
    refine ro_iload_n (pc' := 63) dX0_findRest_62 rfl rfl rfl ?_
    refine ro_icmp_ge (pc' := 66) (tgt := 98) dX0_findRest_63 rfl rfl (fun c => ?_) (fun c => ?_)
    · replace h := ah_ip c h
      refine ro_iinc (pc' := 101) (L' := [some (va_rf r0), some (.int (x1 + (1 : Int32))), some (.int x2)]) dX0_findRest_98 rfl ic_1 (Nat.le_of_ble_eq_true rfl) rfl (ah_okp_r _) rfl ?_
      refine ro_goto (tgt := 18) dX0_findRest_101 rfl ?_
      refine ro_weak (L' := [some (va_rf r0), some (.int (x1 + (1 : Int32))), none]) (ah_ls_s (ah_ls_s (ah_ls_n ah_ls_0))) ?_
      exact hk18 _ _ _ h
    · replace h := ah_in_ c h
      refine ro_aload_n (pc' := 67) dX0_findRest_66 rfl rfl rfl ?_
      refine ro_iload_n (pc' := 68) dX0_findRest_67 rfl rfl rfl ?_
      refine ro_iload_n (pc' := 69) dX0_findRest_68 rfl rfl rfl ?_
      obtain ⟨u1, hu1, h⟩ := ah_bs h
      obtain ⟨v2, σ3, hv2, h⟩ := ah_bs2 h
      refine ro_callV (pc' := 72) (As := [.int x2, .int x1]) (rest := []) (st' := [.int v2]) (by decide) hu1 q756 sl_X0_isLike (M_X0_isLike hv2) q754 q757 q95 dd_X0_isLike rfl ⟨Nat.le_of_ble_eq_true rfl, Nat.le_of_ble_eq_true rfl⟩ (Nat.le_of_ble_eq_true rfl) dX0_findRest_69 rfl rfl rfl ?_
      refine ro_if_ne (pc' := 75) (tgt := 78) dX0_findRest_72 rfl rfl (fun c => ?_) (fun c => ?_)
      · replace h := ah_in_ c h
        refine ro_aload_n (pc' := 79) dX0_findRest_78 rfl rfl rfl ?_
        refine ro_iload_n (pc' := 80) dX0_findRest_79 rfl rfl rfl ?_
        obtain ⟨σ4, hσ4, h⟩ := ah_bs h
        refine ro_putI (pc' := 83) ft_23 fk_23 q317 pd_23 dX0_findRest_80 rfl hσ4 ?_
        refine ro_aload_n (pc' := 84) dX0_findRest_83 rfl rfl rfl ?_
        refine ro_iload_n (pc' := 85) dX0_findRest_84 rfl rfl rfl ?_
        refine ro_iload_n (pc' := 86) dX0_findRest_85 rfl rfl rfl ?_
        refine ro_isub (pc' := 87) dX0_findRest_86 rfl ?_
        obtain ⟨σ5, hσ5, h⟩ := ah_bs h
        refine ro_putI (pc' := 90) ft_24 fk_24 q318 pd_24 dX0_findRest_87 rfl hσ5 ?_
        refine ro_iconst (pc' := 91) dX0_findRest_90 ic_1 rfl ?_
        obtain rfl := Option.some.inj h
        exact ro_zret rfl hκ dX0_findRest_91
      · replace h := ah_ip c h
        refine ro_goto (tgt := 92) dX0_findRest_75 rfl ?_
        refine ro_iinc (pc' := 95) (L' := [some (va_rf r0), some (.int x1), some (.int (x2 + (1 : Int32)))]) dX0_findRest_92 rfl ic_1 (Nat.le_of_ble_eq_true rfl) rfl (ah_okp_i _) rfl ?_
        refine ro_goto (tgt := 61) dX0_findRest_95 rfl ?_
        exact ih _ _ _ _ h
set_option maxRecDepth 20000 in
set_option maxHeartbeats 4000000 in
theorem W_X0_findRest_27 {κ : ah_C} {rr : (Int32 × ah_S)} (hκ : ah_res κ = (.returned (some (.int rr.1)), rr.2))  {k18 : ah_S → Option Nat → Int32 → Option (Int32 × ah_S)} (hk18 : ∀ (σ : ah_S) (r0 : Option Nat) (x1 : Int32), k18 σ r0 x1 = some rr → ah_G κ ("LeftAsFound", "findRest", 3, (some FieldType.boolean), [], 137, 3951) cX0_findRest σ 18 [some (va_rf r0), some (.int x1), none] []) : ∀ (n : Nat) (σ : ah_S) (r0 : Option Nat) (x1 : Int32) (x2 : Int32), F_X0_findRest_27 k18 n σ r0 x1 x2 = some rr → ah_G κ ("LeftAsFound", "findRest", 3, (some FieldType.boolean), [], 137, 3951) cX0_findRest σ 27 [some (va_rf r0), some (.int x1), some (.int x2)] [] := by
  intro n
  induction n with
  | zero => intro σ r0 x1 x2 h; cases h
  | succ n ih =>
    intro σ r0 x1 x2 h
    rw [F_X0_findRest_27] at h
    refine ro_iload_n (pc' := 28) dX0_findRest_27 rfl rfl rfl ?_
    refine ro_aload_n (pc' := 29) dX0_findRest_28 rfl rfl rfl ?_
    obtain ⟨v1, hv1, h⟩ := ah_bs h
    refine ro_getI (pc' := 32) ft_21 fk_21 q315 dX0_findRest_29 rfl hv1 ?_
    refine ro_icmp_ge (pc' := 35) (tgt := 54) dX0_findRest_32 rfl rfl (fun c => ?_) (fun c => ?_)
    · replace h := ah_ip c h
      refine ro_aload_n (pc' := 55) dX0_findRest_54 rfl rfl rfl ?_
      refine ro_iload_n (pc' := 56) dX0_findRest_55 rfl rfl rfl ?_
      obtain ⟨u2, hu2, h⟩ := ah_bs h
      obtain ⟨σ3, hσ3, h⟩ := ah_bs h
      refine ro_callV (pc' := 59) (As := [.int x1]) (rest := []) (st' := []) (by decide) hu2 q752 sl_X0_keepState (M_X0_keepState hσ3) q750 q753 q95 dd_X0_keepState rfl ⟨Nat.le_of_ble_eq_true rfl, Nat.le_of_ble_eq_true rfl⟩ (Nat.le_of_ble_eq_true rfl) dX0_findRest_56 rfl rfl rfl ?_
      refine ro_iconst (pc' := 60) dX0_findRest_59 ic_0 rfl ?_
      refine ro_istore_n (pc' := 61) (L' := [some (va_rf r0), some (.int x1), some (.int (0 : Int32))]) dX0_findRest_60 rfl (Nat.le_of_ble_eq_true rfl) rfl (ah_okp_i _) rfl ?_
      exact W_X0_findRest_61 hκ hk18 _ _ _ _ _ h
    · replace h := ah_in_ c h
      refine ro_aload_n (pc' := 36) dX0_findRest_35 rfl rfl rfl ?_
      obtain ⟨v4, hv4, h⟩ := ah_bs h
      refine ro_getR (pc' := 39) ft_19 fk_19 q313 dX0_findRest_36 rfl hv4 ?_
      refine ro_aload_n (pc' := 40) dX0_findRest_39 rfl rfl rfl ?_
      obtain ⟨v5, hv5, h⟩ := ah_bs h
      refine ro_getR (pc' := 43) ft_20 fk_20 q314 dX0_findRest_40 rfl hv5 ?_
      refine ro_iload_n (pc' := 44) dX0_findRest_43 rfl rfl rfl ?_
      obtain ⟨v6, hv6, h⟩ := ah_bs h
      refine ro_iaload (pc' := 45) dX0_findRest_44 rfl hv6 ?_
      obtain ⟨u7, hu7, h⟩ := ah_bs h
      obtain ⟨σ8, hσ8, h⟩ := ah_bs h
      refine ro_callV (pc' := 48) (As := [.int v6]) (rest := []) (st' := []) (by decide) hu7 q676 sl_X4_night (M_X4_night hσ8) q675 q678 q102 dd_X4_night rfl ⟨Nat.le_of_ble_eq_true rfl, Nat.le_of_ble_eq_true rfl⟩ (Nat.le_of_ble_eq_true rfl) dX0_findRest_45 rfl rfl rfl ?_
      refine ro_iinc (pc' := 51) (L' := [some (va_rf r0), some (.int x1), some (.int (x2 + (1 : Int32)))]) dX0_findRest_48 rfl ic_1 (Nat.le_of_ble_eq_true rfl) rfl (ah_okp_i _) rfl ?_
      refine ro_goto (tgt := 27) dX0_findRest_51 rfl ?_
      exact ih _ _ _ _ h
set_option maxRecDepth 20000 in
set_option maxHeartbeats 4000000 in
theorem W_X0_findRest_18 {κ : ah_C} {rr : (Int32 × ah_S)} (hκ : ah_res κ = (.returned (some (.int rr.1)), rr.2))    : ∀ (n : Nat) (σ : ah_S) (r0 : Option Nat) (x1 : Int32), F_X0_findRest_18 n σ r0 x1 = some rr → ah_G κ ("LeftAsFound", "findRest", 3, (some FieldType.boolean), [], 137, 3951) cX0_findRest σ 18 [some (va_rf r0), some (.int x1), none] [] := by
  intro n
  induction n with
  | zero => intro σ r0 x1 h; cases h
  | succ n ih =>
    intro σ r0 x1 h
    rw [F_X0_findRest_18] at h
    refine ro_iload_n (pc' := 19) dX0_findRest_18 rfl rfl rfl ?_
    refine ro_sipush (pc' := 22) dX0_findRest_19 is_200 rfl ?_
    refine ro_icmp_gt (pc' := 25) (tgt := 104) dX0_findRest_22 rfl rfl (fun c => ?_) (fun c => ?_)
    · replace h := ah_ip c h
      refine ro_iconst (pc' := 105) dX0_findRest_104 ic_0 rfl ?_
      obtain rfl := Option.some.inj h
      exact ro_zret rfl hκ dX0_findRest_105
    · replace h := ah_in_ c h
      refine ro_iconst (pc' := 26) dX0_findRest_25 ic_0 rfl ?_
      refine ro_istore_n (pc' := 27) (L' := [some (va_rf r0), some (.int x1), some (.int (0 : Int32))]) dX0_findRest_26 rfl (Nat.le_of_ble_eq_true rfl) rfl (ah_okp_i _) rfl ?_
      exact W_X0_findRest_27 hκ ih _ _ _ _ _ h
set_option maxRecDepth 20000 in
set_option maxHeartbeats 4000000 in
theorem W_X0_findRest {κ : ah_C} {rr : (Int32 × ah_S)} (hκ : ah_res κ = (.returned (some (.int rr.1)), rr.2))  (σ : ah_S) (r0 : Option Nat) (h : F_X0_findRest σ r0 = some rr) : ah_G κ ("LeftAsFound", "findRest", 3, (some FieldType.boolean), [], 137, 3951) cX0_findRest σ 0 [some (va_rf r0), none, none] [] := by
  unfold F_X0_findRest at h
  refine ro_aload_n (pc' := 1) dX0_findRest_0 rfl rfl rfl ?_
  obtain ⟨v1, hv1, h⟩ := ah_bs h
  refine ro_getR (pc' := 4) ft_19 fk_19 q313 dX0_findRest_1 rfl hv1 ?_
  refine ro_aload_n (pc' := 5) dX0_findRest_4 rfl rfl rfl ?_
  obtain ⟨v2, hv2, h⟩ := ah_bs h
  refine ro_getR (pc' := 8) ft_18 fk_18 q312 dX0_findRest_5 rfl hv2 ?_
  obtain ⟨u3, hu3, h⟩ := ah_bs h
  obtain ⟨σ4, hσ4, h⟩ := ah_bs h
  refine ro_callV (pc' := 11) (As := [va_rf v2]) (rest := []) (st' := []) (by decide) hu3 q669 sl_X4_beAs (M_X4_beAs hσ4) q668 q671 q102 dd_X4_beAs rfl ⟨Nat.le_of_ble_eq_true rfl, Nat.le_of_ble_eq_true rfl⟩ (Nat.le_of_ble_eq_true rfl) dX0_findRest_8 rfl rfl rfl ?_
  refine ro_aload_n (pc' := 12) dX0_findRest_11 rfl rfl rfl ?_
  refine ro_iconst (pc' := 13) dX0_findRest_12 ic_0 rfl ?_
  obtain ⟨u5, hu5, h⟩ := ah_bs h
  obtain ⟨σ6, hσ6, h⟩ := ah_bs h
  refine ro_callV (pc' := 16) (As := [.int (0 : Int32)]) (rest := []) (st' := []) (by decide) hu5 q752 sl_X0_keepState (M_X0_keepState hσ6) q750 q753 q95 dd_X0_keepState rfl ⟨Nat.le_of_ble_eq_true rfl, Nat.le_of_ble_eq_true rfl⟩ (Nat.le_of_ble_eq_true rfl) dX0_findRest_13 rfl rfl rfl ?_
  refine ro_iconst (pc' := 17) dX0_findRest_16 ic_1 rfl ?_
  refine ro_istore_n (pc' := 18) (L' := [some (va_rf r0), some (.int (1 : Int32)), none]) dX0_findRest_17 rfl (Nat.le_of_ble_eq_true rfl) rfl (ah_okp_r _) rfl ?_
  exact W_X0_findRest_18 hκ _ _ _ _ h
theorem M_X0_findRest {l : Launch} {D : ah_D}  {σ : ah_S} {r0 : Option Nat} {v : Int32} {σ1 : ah_S} (h : F_X0_findRest σ r0 = some (v, σ1)) : ah_Met l yX0_findRest (Cond.code yX0_findRest cX0_findRest 3 (some FieldType.boolean)) 137 3951 D [va_rf r0] σ (.returned (some (.int v)), σ1) :=
  ah_ofG (own := "LeftAsFound") (nm := "findRest") (L0 := [some (va_rf r0), none, none]) (by decide) rfl rfl rfl (ah_ao_1 (ah_rf_cat _) (ah_ao_n (ah_ao_n ah_ao_0))) (fun κ hκ => W_X0_findRest hκ  σ r0 h)
set_option maxRecDepth 20000 in
set_option maxHeartbeats 4000000 in
theorem W_X0_judge_128 {κ : ah_C} {rr : (Int32 × ah_S)} (hκ : ah_res κ = (.returned (some (.int rr.1)), rr.2))    : ∀ (n : Nat) (σ : ah_S) (r0 : Option Nat) (x2 : Int32) (r3 : Option Nat) (x4 : Int32), F_X0_judge_128 n σ r0 x2 r3 x4 = some rr → ah_G κ ("LeftAsFound", "judge", 5, (some FieldType.int), [], 137, 3951) cX0_judge σ 128 [some (va_rf r0), none, some (.int x2), some (va_rf r3), some (.int x4)] [] := by
  intro n
  induction n with
  | zero => intro σ r0 x2 r3 x4 h; cases h
  | succ n ih =>
    intro σ r0 x2 r3 x4 h
    rw [F_X0_judge_128] at h
    refine ro_iload (pc' := 130) dX0_judge_128 rfl rfl ?_
    refine ro_aload_n (pc' := 131) dX0_judge_130 rfl rfl rfl ?_
    obtain ⟨v1, hv1, h⟩ := ah_bs h
    refine ro_getI (pc' := 134) ft_21 fk_21 q315 dX0_judge_131 rfl hv1 ?_
    refine ro_icmp_ge (pc' := 137) (tgt := 191) dX0_judge_134 rfl rfl (fun c => ?_) (fun c => ?_)
    · replace h := ah_ip c h
      refine ro_bipush (pc' := 193) dX0_judge_191 ib_m2 rfl ?_
      obtain rfl := Option.some.inj h
      exact ro_iret hκ dX0_judge_193
    · replace h := ah_in_ c h
      refine ro_iload (pc' := 139) dX0_judge_137 rfl rfl ?_
      refine ro_aload_n (pc' := 140) dX0_judge_139 rfl rfl rfl ?_
      obtain ⟨v2, hv2, h⟩ := ah_bs h
      refine ro_alen (pc' := 141) dX0_judge_140 rfl hv2 ?_
      refine ro_icmp_ge (pc' := 144) (tgt := 191) dX0_judge_141 rfl rfl (fun c => ?_) (fun c => ?_)
      · replace h := ah_ip c h
        refine ro_bipush (pc' := 193) dX0_judge_191 ib_m2 rfl ?_
        obtain rfl := Option.some.inj h
        exact ro_iret hκ dX0_judge_193
      · replace h := ah_in_ c h
        refine ro_aload_n (pc' := 145) dX0_judge_144 rfl rfl rfl ?_
        obtain ⟨v3, hv3, h⟩ := ah_bs h
        refine ro_getR (pc' := 148) ft_19 fk_19 q313 dX0_judge_145 rfl hv3 ?_
        refine ro_aload_n (pc' := 149) dX0_judge_148 rfl rfl rfl ?_
        obtain ⟨v4, hv4, h⟩ := ah_bs h
        refine ro_getR (pc' := 152) ft_20 fk_20 q314 dX0_judge_149 rfl hv4 ?_
        refine ro_iload (pc' := 154) dX0_judge_152 rfl rfl ?_
        obtain ⟨v5, hv5, h⟩ := ah_bs h
        refine ro_iaload (pc' := 155) dX0_judge_154 rfl hv5 ?_
        obtain ⟨u6, hu6, h⟩ := ah_bs h
        obtain ⟨σ7, hσ7, h⟩ := ah_bs h
        refine ro_callV (pc' := 158) (As := [.int v5]) (rest := []) (st' := []) (by decide) hu6 q676 sl_X4_night (M_X4_night hσ7) q675 q678 q102 dd_X4_night rfl ⟨Nat.le_of_ble_eq_true rfl, Nat.le_of_ble_eq_true rfl⟩ (Nat.le_of_ble_eq_true rfl) dX0_judge_155 rfl rfl rfl ?_
        refine ro_aload_n (pc' := 159) dX0_judge_158 rfl rfl rfl ?_
        refine ro_iload (pc' := 161) dX0_judge_159 rfl rfl ?_
        obtain ⟨v8, hv8, h⟩ := ah_bs h
        refine ro_baload (pc' := 162) dX0_judge_161 rfl hv8 ?_
        refine ro_iconst (pc' := 163) dX0_judge_162 ic_m1 rfl ?_
        refine ro_icmp_eq (pc' := 166) (tgt := 185) dX0_judge_163 rfl rfl (fun c => ?_) (fun c => ?_)
        · replace h := ah_ip c h
          refine ro_iinc (pc' := 188) (L' := [some (va_rf r0), none, some (.int x2), some (va_rf r3), some (.int (x4 + (1 : Int32)))]) dX0_judge_185 rfl ic_1 (Nat.le_of_ble_eq_true rfl) rfl (ah_okp_r _) rfl ?_
          refine ro_goto (tgt := 128) dX0_judge_188 rfl ?_
          exact ih _ _ _ _ _ h
        · replace h := ah_in_ c h
          refine ro_aload_n (pc' := 167) dX0_judge_166 rfl rfl rfl ?_
          refine ro_iload (pc' := 169) dX0_judge_167 rfl rfl ?_
          obtain ⟨v9, hv9, h⟩ := ah_bs h
          refine ro_baload (pc' := 170) dX0_judge_169 rfl hv9 ?_
          refine ro_aload_n (pc' := 171) dX0_judge_170 rfl rfl rfl ?_
          obtain ⟨v10, hv10, h⟩ := ah_bs h
          refine ro_getR (pc' := 174) ft_19 fk_19 q313 dX0_judge_171 rfl hv10 ?_
          obtain ⟨v11, hv11, h⟩ := ah_bs h
          refine ro_getRN (pc' := 177) ft_400 fk_400 nq245 dX0_judge_174 rfl hv11 ?_
          refine ro_iload_n (pc' := 178) dX0_judge_177 rfl rfl rfl ?_
          obtain ⟨v12, hv12, h⟩ := ah_bs h
          refine ro_iaload (pc' := 179) dX0_judge_178 rfl hv12 ?_
          refine ro_icmp_eq (pc' := 182) (tgt := 185) dX0_judge_179 rfl rfl (fun c => ?_) (fun c => ?_)
          · replace h := ah_ip c h
            refine ro_iinc (pc' := 188) (L' := [some (va_rf r0), none, some (.int x2), some (va_rf r3), some (.int (x4 + (1 : Int32)))]) dX0_judge_185 rfl ic_1 (Nat.le_of_ble_eq_true rfl) rfl (ah_okp_r _) rfl ?_
            refine ro_goto (tgt := 128) dX0_judge_188 rfl ?_
            exact ih _ _ _ _ _ h
          · replace h := ah_in_ c h
            refine ro_iload (pc' := 184) dX0_judge_182 rfl rfl ?_
            obtain rfl := Option.some.inj h
            exact ro_iret hκ dX0_judge_184
set_option maxRecDepth 20000 in
set_option maxHeartbeats 4000000 in
theorem W_X0_judge {κ : ah_C} {rr : (Int32 × ah_S)} (hκ : ah_res κ = (.returned (some (.int rr.1)), rr.2))  (σ : ah_S) (r0 : Option Nat) (x1 : Int32) (x2 : Int32) (h : F_X0_judge σ r0 x1 x2 = some rr) : ah_G κ ("LeftAsFound", "judge", 5, (some FieldType.int), [], 137, 3951) cX0_judge σ 0 [some (va_rf r0), some (.int x1), some (.int x2), none, none] [] := by
  unfold F_X0_judge at h
  refine ro_iload_n (pc' := 1) dX0_judge_0 rfl rfl rfl ?_
  refine ro_if_lt (pc' := 4) (tgt := 31) dX0_judge_1 rfl rfl (fun c => ?_) (fun c => ?_)
  · replace h := ah_ip c h
    refine ro_iconst (pc' := 32) dX0_judge_31 ic_m1 rfl ?_
    obtain rfl := Option.some.inj h
    exact ro_iret hκ dX0_judge_32
  · replace h := ah_in_ c h
    refine ro_iload_n (pc' := 5) dX0_judge_4 rfl rfl rfl ?_
    refine ro_bipush (pc' := 7) dX0_judge_5 ib_10 rfl ?_
    obtain ⟨q1, hq1, h⟩ := ah_bs h
    refine ro_idiv (pc' := 8) dX0_judge_7 rfl hq1 ?_
    obtain ⟨v2, σ3, hv2, h⟩ := ah_bs2 h
    refine ro_callS (pc' := 11) (As := [.int q1]) (rest := []) (st' := [.int v2]) q471 (M_X0_isShelf hv2) q470 q472 q95 dd_X0_isShelf rfl ⟨Nat.le_of_ble_eq_true rfl, Nat.le_of_ble_eq_true rfl⟩ (Nat.le_of_ble_eq_true rfl) dX0_judge_8 rfl rfl rfl ?_
    refine ro_if_eq (pc' := 14) (tgt := 31) dX0_judge_11 rfl rfl (fun c => ?_) (fun c => ?_)
    · replace h := ah_ip c h
      refine ro_iconst (pc' := 32) dX0_judge_31 ic_m1 rfl ?_
      obtain rfl := Option.some.inj h
      exact ro_iret hκ dX0_judge_32
    · replace h := ah_in_ c h
      refine ro_iload_n (pc' := 15) dX0_judge_14 rfl rfl rfl ?_
      refine ro_bipush (pc' := 17) dX0_judge_15 ib_10 rfl ?_
      obtain ⟨q4, hq4, h⟩ := ah_bs h
      refine ro_irem (pc' := 18) dX0_judge_17 rfl hq4 ?_
      obtain ⟨v5, σ6, hv5, h⟩ := ah_bs2 h
      refine ro_callS (pc' := 21) (As := [.int q4]) (rest := []) (st' := [.int v5]) q471 (M_X0_isShelf hv5) q470 q472 q95 dd_X0_isShelf rfl ⟨Nat.le_of_ble_eq_true rfl, Nat.le_of_ble_eq_true rfl⟩ (Nat.le_of_ble_eq_true rfl) dX0_judge_18 rfl rfl rfl ?_
      refine ro_if_eq (pc' := 24) (tgt := 31) dX0_judge_21 rfl rfl (fun c => ?_) (fun c => ?_)
      · replace h := ah_ip c h
        refine ro_iconst (pc' := 32) dX0_judge_31 ic_m1 rfl ?_
        obtain rfl := Option.some.inj h
        exact ro_iret hκ dX0_judge_32
      · replace h := ah_in_ c h
        refine ro_iload_n (pc' := 25) dX0_judge_24 rfl rfl rfl ?_
        obtain ⟨v7, σ8, hv7, h⟩ := ah_bs2 h
        refine ro_callS (pc' := 28) (As := [.int x2]) (rest := []) (st' := [.int v7]) q497 (M_X0_isThing hv7) q496 q498 q95 dd_X0_isThing rfl ⟨Nat.le_of_ble_eq_true rfl, Nat.le_of_ble_eq_true rfl⟩ (Nat.le_of_ble_eq_true rfl) dX0_judge_25 rfl rfl rfl ?_
        refine ro_if_ne (pc' := 31) (tgt := 33) dX0_judge_28 rfl rfl (fun c => ?_) (fun c => ?_)
        · replace h := ah_in_ c h
          refine ro_aload_n (pc' := 34) dX0_judge_33 rfl rfl rfl ?_
          obtain ⟨v9, hv9, h⟩ := ah_bs h
          refine ro_getR (pc' := 37) ft_41 fk_41 q337 dX0_judge_34 rfl hv9 ?_
          refine ro_iload_n (pc' := 38) dX0_judge_37 rfl rfl rfl ?_
          refine ro_bipush (pc' := 40) dX0_judge_38 ib_10 rfl ?_
          obtain ⟨q10, hq10, h⟩ := ah_bs h
          refine ro_idiv (pc' := 41) dX0_judge_40 rfl hq10 ?_
          obtain ⟨v11, hv11, h⟩ := ah_bs h
          refine ro_aaload (pc' := 42) (by decide) (by decide) rfl dX0_judge_41 rfl hv11 ?_
          refine ro_ifnull (pc' := 45) (tgt := 57) dX0_judge_42 rfl rfl (fun c => ?_) (fun c => ?_)
          · replace h := ah_ip c h
            refine ro_bipush (pc' := 59) dX0_judge_57 ib_m11 rfl ?_
            obtain rfl := Option.some.inj h
            exact ro_iret hκ dX0_judge_59
          · replace h := ah_in_ c h
            refine ro_aload_n (pc' := 46) dX0_judge_45 rfl rfl rfl ?_
            obtain ⟨v12, hv12, h⟩ := ah_bs h
            refine ro_getR (pc' := 49) ft_41 fk_41 q337 dX0_judge_46 rfl hv12 ?_
            refine ro_iload_n (pc' := 50) dX0_judge_49 rfl rfl rfl ?_
            refine ro_bipush (pc' := 52) dX0_judge_50 ib_10 rfl ?_
            obtain ⟨q13, hq13, h⟩ := ah_bs h
            refine ro_irem (pc' := 53) dX0_judge_52 rfl hq13 ?_
            obtain ⟨v14, hv14, h⟩ := ah_bs h
            refine ro_aaload (pc' := 54) (by decide) (by decide) rfl dX0_judge_53 rfl hv14 ?_
            refine ro_ifnonnull (pc' := 57) (tgt := 60) dX0_judge_54 rfl rfl (fun c => ?_) (fun c => ?_)
            · replace h := ah_in_ c h
              refine ro_aload_n (pc' := 61) dX0_judge_60 rfl rfl rfl ?_
              refine ro_iload_n (pc' := 62) dX0_judge_61 rfl rfl rfl ?_
              refine ro_bipush (pc' := 64) dX0_judge_62 ib_10 rfl ?_
              obtain ⟨q15, hq15, h⟩ := ah_bs h
              refine ro_idiv (pc' := 65) dX0_judge_64 rfl hq15 ?_
              obtain ⟨u16, hu16, h⟩ := ah_bs h
              obtain ⟨v17, σ18, hv17, h⟩ := ah_bs2 h
              refine ro_callV (pc' := 68) (As := [.int q15]) (rest := []) (st' := [.int v17]) (by decide) hu16 q659 sl_X0_lookAt (M_X0_lookAt hv17) q657 q660 q95 dd_X0_lookAt rfl ⟨Nat.le_of_ble_eq_true rfl, Nat.le_of_ble_eq_true rfl⟩ (Nat.le_of_ble_eq_true rfl) dX0_judge_65 rfl rfl rfl ?_
              refine ro_if_lt (pc' := 71) (tgt := 82) dX0_judge_68 rfl rfl (fun c => ?_) (fun c => ?_)
              · replace h := ah_ip c h
                refine ro_bipush (pc' := 84) dX0_judge_82 ib_m12 rfl ?_
                obtain rfl := Option.some.inj h
                exact ro_iret hκ dX0_judge_84
              · replace h := ah_in_ c h
                refine ro_aload_n (pc' := 72) dX0_judge_71 rfl rfl rfl ?_
                refine ro_iload_n (pc' := 73) dX0_judge_72 rfl rfl rfl ?_
                refine ro_bipush (pc' := 75) dX0_judge_73 ib_10 rfl ?_
                obtain ⟨q19, hq19, h⟩ := ah_bs h
                refine ro_irem (pc' := 76) dX0_judge_75 rfl hq19 ?_
                obtain ⟨u20, hu20, h⟩ := ah_bs h
                obtain ⟨v21, σ22, hv21, h⟩ := ah_bs2 h
                refine ro_callV (pc' := 79) (As := [.int q19]) (rest := []) (st' := [.int v21]) (by decide) hu20 q659 sl_X0_lookAt (M_X0_lookAt hv21) q657 q660 q95 dd_X0_lookAt rfl ⟨Nat.le_of_ble_eq_true rfl, Nat.le_of_ble_eq_true rfl⟩ (Nat.le_of_ble_eq_true rfl) dX0_judge_76 rfl rfl rfl ?_
                refine ro_if_ge (pc' := 82) (tgt := 85) dX0_judge_79 rfl rfl (fun c => ?_) (fun c => ?_)
                · replace h := ah_ip c h
                  refine ro_aload_n (pc' := 86) dX0_judge_85 rfl rfl rfl ?_
                  refine ro_aload_n (pc' := 87) dX0_judge_86 rfl rfl rfl ?_
                  obtain ⟨v23, hv23, h⟩ := ah_bs h
                  refine ro_getR (pc' := 90) ft_41 fk_41 q337 dX0_judge_87 rfl hv23 ?_
                  refine ro_iload_n (pc' := 91) dX0_judge_90 rfl rfl rfl ?_
                  refine ro_bipush (pc' := 93) dX0_judge_91 ib_10 rfl ?_
                  obtain ⟨q24, hq24, h⟩ := ah_bs h
                  refine ro_idiv (pc' := 94) dX0_judge_93 rfl hq24 ?_
                  obtain ⟨v25, hv25, h⟩ := ah_bs h
                  refine ro_aaload (pc' := 95) (by decide) (by decide) rfl dX0_judge_94 rfl hv25 ?_
                  obtain ⟨u26, hu26, h⟩ := ah_bs h
                  refine ro_castA (pc' := 98) (t := 102) (by decide) q478 dX0_judge_95 rfl hu26 ?_
                  obtain ⟨u27, hu27, h⟩ := ah_bs h
                  obtain ⟨σ28, hσ28, h⟩ := ah_bs h
                  refine ro_callV (pc' := 101) (As := [va_rf v25]) (rest := []) (st' := []) (by decide) hu27 q663 sl_X0_takeRow (M_X0_takeRow hσ28) q661 q664 q95 dd_X0_takeRow rfl ⟨Nat.le_of_ble_eq_true rfl, Nat.le_of_ble_eq_true rfl⟩ (Nat.le_of_ble_eq_true rfl) dX0_judge_98 rfl rfl rfl ?_
                  refine ro_aload_n (pc' := 102) dX0_judge_101 rfl rfl rfl ?_
                  obtain ⟨v29, hv29, h⟩ := ah_bs h
                  refine ro_getR (pc' := 105) ft_41 fk_41 q337 dX0_judge_102 rfl hv29 ?_
                  refine ro_iload_n (pc' := 106) dX0_judge_105 rfl rfl rfl ?_
                  refine ro_bipush (pc' := 108) dX0_judge_106 ib_10 rfl ?_
                  obtain ⟨q30, hq30, h⟩ := ah_bs h
                  refine ro_irem (pc' := 109) dX0_judge_108 rfl hq30 ?_
                  obtain ⟨v31, hv31, h⟩ := ah_bs h
                  refine ro_aaload (pc' := 110) (by decide) (by decide) rfl dX0_judge_109 rfl hv31 ?_
                  obtain ⟨u32, hu32, h⟩ := ah_bs h
                  refine ro_castA (pc' := 113) (t := 102) (by decide) q478 dX0_judge_110 rfl hu32 ?_
                  refine ro_astore_n (pc' := 114) (L' := [some (va_rf r0), some (.int x1), some (.int x2), some (va_rf v31), none]) dX0_judge_113 rfl (Nat.le_of_ble_eq_true rfl) rfl (ah_okp_i _) rfl ?_
                  refine ro_aload_n (pc' := 115) dX0_judge_114 rfl rfl rfl ?_
                  obtain ⟨v33, hv33, h⟩ := ah_bs h
                  refine ro_getR (pc' := 118) ft_19 fk_19 q313 dX0_judge_115 rfl hv33 ?_
                  refine ro_aload_n (pc' := 119) dX0_judge_118 rfl rfl rfl ?_
                  obtain ⟨v34, hv34, h⟩ := ah_bs h
                  refine ro_getR (pc' := 122) ft_18 fk_18 q312 dX0_judge_119 rfl hv34 ?_
                  obtain ⟨u35, hu35, h⟩ := ah_bs h
                  obtain ⟨σ36, hσ36, h⟩ := ah_bs h
                  refine ro_callV (pc' := 125) (As := [va_rf v34]) (rest := []) (st' := []) (by decide) hu35 q669 sl_X4_beAs (M_X4_beAs hσ36) q668 q671 q102 dd_X4_beAs rfl ⟨Nat.le_of_ble_eq_true rfl, Nat.le_of_ble_eq_true rfl⟩ (Nat.le_of_ble_eq_true rfl) dX0_judge_122 rfl rfl rfl ?_
                  refine ro_iconst (pc' := 126) dX0_judge_125 ic_0 rfl ?_
                  refine ro_istore (pc' := 128) (L' := [some (va_rf r0), some (.int x1), some (.int x2), some (va_rf v31), some (.int (0 : Int32))]) dX0_judge_126 (Nat.le_of_ble_eq_true rfl) rfl (ah_okp_r _) rfl ?_
                  refine ro_weak (L' := [some (va_rf r0), none, some (.int x2), some (va_rf v31), some (.int (0 : Int32))]) (ah_ls_s (ah_ls_n (ah_ls_s (ah_ls_s (ah_ls_s ah_ls_0))))) ?_
                  exact W_X0_judge_128 hκ _ _ _ _ _ _ h
                · replace h := ah_in_ c h
                  refine ro_bipush (pc' := 84) dX0_judge_82 ib_m12 rfl ?_
                  obtain rfl := Option.some.inj h
                  exact ro_iret hκ dX0_judge_84
            · replace h := ah_ip c h
              refine ro_bipush (pc' := 59) dX0_judge_57 ib_m11 rfl ?_
              obtain rfl := Option.some.inj h
              exact ro_iret hκ dX0_judge_59
        · replace h := ah_ip c h
          refine ro_iconst (pc' := 32) dX0_judge_31 ic_m1 rfl ?_
          obtain rfl := Option.some.inj h
          exact ro_iret hκ dX0_judge_32
theorem M_X0_judge {l : Launch} {D : ah_D}  {σ : ah_S} {r0 : Option Nat} {x1 : Int32} {x2 : Int32} {v : Int32} {σ1 : ah_S} (h : F_X0_judge σ r0 x1 x2 = some (v, σ1)) : ah_Met l yX0_judge (Cond.code yX0_judge cX0_judge 5 (some FieldType.int)) 137 3951 D [va_rf r0, .int x1, .int x2] σ (.returned (some (.int v)), σ1) :=
  ah_ofG (own := "LeftAsFound") (nm := "judge") (L0 := [some (va_rf r0), some (.int x1), some (.int x2), none, none]) (by decide) rfl rfl rfl (ah_ao_1 (ah_rf_cat _) (ah_ao_1 rfl (ah_ao_1 rfl (ah_ao_n (ah_ao_n ah_ao_0))))) (fun κ hκ => W_X0_judge hκ  σ r0 x1 x2 h)
set_option maxRecDepth 20000 in
set_option maxHeartbeats 4000000 in
theorem W_X0_level_58 {κ : ah_C} {rr : (Int32 × ah_S)} (hκ : ah_res κ = (.returned (some (.int rr.1)), rr.2))    : ∀ (n : Nat) (σ : ah_S) (r0 : Option Nat) (x2 : Int32) (x3 : Int32) (x4 : Int32), F_X0_level_58 n σ r0 x2 x3 x4 = some rr → ah_G κ ("LeftAsFound", "level", 5, (some FieldType.int), [], 137, 3951) cX0_level σ 58 [some (va_rf r0), none, some (.int x2), some (.int x3), some (.int x4)] [] := by
  intro n
  induction n with
  | zero => intro σ r0 x2 x3 x4 h; cases h
  | succ n ih =>
    intro σ r0 x2 x3 x4 h
    rw [F_X0_level_58] at h
    refine ro_iload (pc' := 60) dX0_level_58 rfl rfl ?_
    refine ro_iload_n (pc' := 61) dX0_level_60 rfl rfl rfl ?_
    refine ro_icmp_ge (pc' := 64) (tgt := 84) dX0_level_61 rfl rfl (fun c => ?_) (fun c => ?_)
    · replace h := ah_ip c h
      refine ro_aload_n (pc' := 85) dX0_level_84 rfl rfl rfl ?_
      obtain ⟨v1, hv1, h⟩ := ah_bs h
      refine ro_getR (pc' := 88) ft_19 fk_19 q313 dX0_level_85 rfl hv1 ?_
      obtain ⟨v2, hv2, h⟩ := ah_bs h
      refine ro_getRN (pc' := 91) ft_400 fk_400 nq245 dX0_level_88 rfl hv2 ?_
      refine ro_iload_n (pc' := 92) dX0_level_91 rfl rfl rfl ?_
      obtain ⟨v3, hv3, h⟩ := ah_bs h
      refine ro_iaload (pc' := 93) dX0_level_92 rfl hv3 ?_
      obtain rfl := Option.some.inj h
      exact ro_iret hκ dX0_level_93
    · replace h := ah_in_ c h
      refine ro_aload_n (pc' := 65) dX0_level_64 rfl rfl rfl ?_
      obtain ⟨v4, hv4, h⟩ := ah_bs h
      refine ro_getR (pc' := 68) ft_19 fk_19 q313 dX0_level_65 rfl hv4 ?_
      refine ro_aload_n (pc' := 69) dX0_level_68 rfl rfl rfl ?_
      obtain ⟨v5, hv5, h⟩ := ah_bs h
      refine ro_getR (pc' := 72) ft_20 fk_20 q314 dX0_level_69 rfl hv5 ?_
      refine ro_iload (pc' := 74) dX0_level_72 rfl rfl ?_
      obtain ⟨v6, hv6, h⟩ := ah_bs h
      refine ro_iaload (pc' := 75) dX0_level_74 rfl hv6 ?_
      obtain ⟨u7, hu7, h⟩ := ah_bs h
      obtain ⟨σ8, hσ8, h⟩ := ah_bs h
      refine ro_callV (pc' := 78) (As := [.int v6]) (rest := []) (st' := []) (by decide) hu7 q676 sl_X4_night (M_X4_night hσ8) q675 q678 q102 dd_X4_night rfl ⟨Nat.le_of_ble_eq_true rfl, Nat.le_of_ble_eq_true rfl⟩ (Nat.le_of_ble_eq_true rfl) dX0_level_75 rfl rfl rfl ?_
      refine ro_iinc (pc' := 81) (L' := [some (va_rf r0), none, some (.int x2), some (.int x3), some (.int (x4 + (1 : Int32)))]) dX0_level_78 rfl ic_1 (Nat.le_of_ble_eq_true rfl) rfl (ah_okp_i _) rfl ?_
      refine ro_goto (tgt := 58) dX0_level_81 rfl ?_
      exact ih _ _ _ _ _ h
set_option maxRecDepth 20000 in
set_option maxHeartbeats 4000000 in
theorem W_X0_level {κ : ah_C} {rr : (Int32 × ah_S)} (hκ : ah_res κ = (.returned (some (.int rr.1)), rr.2))  (σ : ah_S) (r0 : Option Nat) (x1 : Int32) (x2 : Int32) (x3 : Int32) (h : F_X0_level σ r0 x1 x2 x3 = some rr) : ah_G κ ("LeftAsFound", "level", 5, (some FieldType.int), [], 137, 3951) cX0_level σ 0 [some (va_rf r0), some (.int x1), some (.int x2), some (.int x3), none] [] := by
  unfold F_X0_level at h
  refine ro_iload_n (pc' := 1) dX0_level_0 rfl rfl rfl ?_
  obtain ⟨v1, σ2, hv1, h⟩ := ah_bs2 h
  refine ro_callS (pc' := 4) (As := [.int x1]) (rest := []) (st' := [.int v1]) q471 (M_X0_isShelf hv1) q470 q472 q95 dd_X0_isShelf rfl ⟨Nat.le_of_ble_eq_true rfl, Nat.le_of_ble_eq_true rfl⟩ (Nat.le_of_ble_eq_true rfl) dX0_level_1 rfl rfl rfl ?_
  refine ro_if_eq (pc' := 7) (tgt := 18) dX0_level_4 rfl rfl (fun c => ?_) (fun c => ?_)
  · replace h := ah_ip c h
    refine ro_iconst (pc' := 19) dX0_level_18 ic_m1 rfl ?_
    obtain rfl := Option.some.inj h
    exact ro_iret hκ dX0_level_19
  · replace h := ah_in_ c h
    refine ro_iload_n (pc' := 8) dX0_level_7 rfl rfl rfl ?_
    obtain ⟨v3, σ4, hv3, h⟩ := ah_bs2 h
    refine ro_callS (pc' := 11) (As := [.int x2]) (rest := []) (st' := [.int v3]) q497 (M_X0_isThing hv3) q496 q498 q95 dd_X0_isThing rfl ⟨Nat.le_of_ble_eq_true rfl, Nat.le_of_ble_eq_true rfl⟩ (Nat.le_of_ble_eq_true rfl) dX0_level_8 rfl rfl rfl ?_
    refine ro_if_eq (pc' := 14) (tgt := 18) dX0_level_11 rfl rfl (fun c => ?_) (fun c => ?_)
    · replace h := ah_ip c h
      refine ro_iconst (pc' := 19) dX0_level_18 ic_m1 rfl ?_
      obtain rfl := Option.some.inj h
      exact ro_iret hκ dX0_level_19
    · replace h := ah_in_ c h
      refine ro_iload_n (pc' := 15) dX0_level_14 rfl rfl rfl ?_
      refine ro_if_ge (pc' := 18) (tgt := 20) dX0_level_15 rfl rfl (fun c => ?_) (fun c => ?_)
      · replace h := ah_ip c h
        refine ro_aload_n (pc' := 21) dX0_level_20 rfl rfl rfl ?_
        refine ro_iload_n (pc' := 22) dX0_level_21 rfl rfl rfl ?_
        obtain ⟨u5, hu5, h⟩ := ah_bs h
        obtain ⟨v6, σ7, hv6, h⟩ := ah_bs2 h
        refine ro_callV (pc' := 25) (As := [.int x1]) (rest := []) (st' := [.int v6]) (by decide) hu5 q655 sl_X0_takes1Row (M_X0_takes1Row hv6) q653 q656 q95 dd_X0_takes1Row rfl ⟨Nat.le_of_ble_eq_true rfl, Nat.le_of_ble_eq_true rfl⟩ (Nat.le_of_ble_eq_true rfl) dX0_level_22 rfl rfl rfl ?_
        refine ro_if_ge (pc' := 28) (tgt := 34) dX0_level_25 rfl rfl (fun c => ?_) (fun c => ?_)
        · replace h := ah_ip c h
          refine ro_iload_n (pc' := 35) dX0_level_34 rfl rfl rfl ?_
          refine ro_aload_n (pc' := 36) dX0_level_35 rfl rfl rfl ?_
          obtain ⟨v8, hv8, h⟩ := ah_bs h
          refine ro_getI (pc' := 39) ft_21 fk_21 q315 dX0_level_36 rfl hv8 ?_
          refine ro_icmp_le (pc' := 42) (tgt := 44) dX0_level_39 rfl rfl (fun c => ?_) (fun c => ?_)
          · replace h := ah_ip c h
            refine ro_aload_n (pc' := 45) dX0_level_44 rfl rfl rfl ?_
            obtain ⟨v9, hv9, h⟩ := ah_bs h
            refine ro_getR (pc' := 48) ft_19 fk_19 q313 dX0_level_45 rfl hv9 ?_
            refine ro_aload_n (pc' := 49) dX0_level_48 rfl rfl rfl ?_
            obtain ⟨v10, hv10, h⟩ := ah_bs h
            refine ro_getR (pc' := 52) ft_18 fk_18 q312 dX0_level_49 rfl hv10 ?_
            obtain ⟨u11, hu11, h⟩ := ah_bs h
            obtain ⟨σ12, hσ12, h⟩ := ah_bs h
            refine ro_callV (pc' := 55) (As := [va_rf v10]) (rest := []) (st' := []) (by decide) hu11 q669 sl_X4_beAs (M_X4_beAs hσ12) q668 q671 q102 dd_X4_beAs rfl ⟨Nat.le_of_ble_eq_true rfl, Nat.le_of_ble_eq_true rfl⟩ (Nat.le_of_ble_eq_true rfl) dX0_level_52 rfl rfl rfl ?_
            refine ro_iconst (pc' := 56) dX0_level_55 ic_0 rfl ?_
            refine ro_istore (pc' := 58) (L' := [some (va_rf r0), some (.int x1), some (.int x2), some (.int x3), some (.int (0 : Int32))]) dX0_level_56 (Nat.le_of_ble_eq_true rfl) rfl (ah_okp_i _) rfl ?_
            refine ro_weak (L' := [some (va_rf r0), none, some (.int x2), some (.int x3), some (.int (0 : Int32))]) (ah_ls_s (ah_ls_n (ah_ls_s (ah_ls_s (ah_ls_s ah_ls_0))))) ?_
            exact W_X0_level_58 hκ _ _ _ _ _ _ h
          · replace h := ah_in_ c h
            refine ro_iconst (pc' := 43) dX0_level_42 ic_m1 rfl ?_
            obtain rfl := Option.some.inj h
            exact ro_iret hκ dX0_level_43
        · replace h := ah_in_ c h
          refine ro_aload_n (pc' := 29) dX0_level_28 rfl rfl rfl ?_
          refine ro_iload_n (pc' := 30) dX0_level_29 rfl rfl rfl ?_
          obtain ⟨u13, hu13, h⟩ := ah_bs h
          obtain ⟨v14, σ15, hv14, h⟩ := ah_bs2 h
          refine ro_callV (pc' := 33) (As := [.int x1]) (rest := []) (st' := [.int v14]) (by decide) hu13 q659 sl_X0_lookAt (M_X0_lookAt hv14) q657 q660 q95 dd_X0_lookAt rfl ⟨Nat.le_of_ble_eq_true rfl, Nat.le_of_ble_eq_true rfl⟩ (Nat.le_of_ble_eq_true rfl) dX0_level_30 rfl rfl rfl ?_
          obtain rfl := Option.some.inj h
          exact ro_iret hκ dX0_level_33
      · replace h := ah_in_ c h
        refine ro_iconst (pc' := 19) dX0_level_18 ic_m1 rfl ?_
        obtain rfl := Option.some.inj h
        exact ro_iret hκ dX0_level_19
theorem M_X0_level {l : Launch} {D : ah_D}  {σ : ah_S} {r0 : Option Nat} {x1 : Int32} {x2 : Int32} {x3 : Int32} {v : Int32} {σ1 : ah_S} (h : F_X0_level σ r0 x1 x2 x3 = some (v, σ1)) : ah_Met l yX0_level (Cond.code yX0_level cX0_level 5 (some FieldType.int)) 137 3951 D [va_rf r0, .int x1, .int x2, .int x3] σ (.returned (some (.int v)), σ1) :=
  ah_ofG (own := "LeftAsFound") (nm := "level") (L0 := [some (va_rf r0), some (.int x1), some (.int x2), some (.int x3), none]) (by decide) rfl rfl rfl (ah_ao_1 (ah_rf_cat _) (ah_ao_1 rfl (ah_ao_1 rfl (ah_ao_1 rfl (ah_ao_n ah_ao_0))))) (fun κ hκ => W_X0_level hκ  σ r0 x1 x2 x3 h)
set_option maxRecDepth 20000 in
set_option maxHeartbeats 4000000 in
theorem W_X0_lossOfRow_15 {κ : ah_C} {rr : (Int32 × ah_S)} (hκ : ah_res κ = (.returned (some (.int rr.1)), rr.2))    : ∀ (n : Nat) (σ : ah_S) (r0 : Option Nat) (x1 : Int32) (x2 : Int32), F_X0_lossOfRow_15 n σ r0 x1 x2 = some rr → ah_G κ ("LeftAsFound", "lossOfRow", 3, (some FieldType.int), [], 137, 3951) cX0_lossOfRow σ 15 [some (va_rf r0), some (.int x1), some (.int x2)] [] := by
  intro n
  induction n with
  | zero => intro σ r0 x1 x2 h; cases h
  | succ n ih =>
    intro σ r0 x1 x2 h
    rw [F_X0_lossOfRow_15] at h
    refine ro_iload_n (pc' := 16) dX0_lossOfRow_15 rfl rfl rfl ?_
    refine ro_aload_n (pc' := 17) dX0_lossOfRow_16 rfl rfl rfl ?_
    obtain ⟨v1, hv1, h⟩ := ah_bs h
    refine ro_getI (pc' := 20) ft_21 fk_21 q315 dX0_lossOfRow_17 rfl hv1 ?_
    refine ro_icmp_ge (pc' := 23) (tgt := 52) dX0_lossOfRow_20 rfl rfl (fun c => ?_) (fun c => ?_)
    · replace h := ah_ip c h
      refine ro_iload_n (pc' := 53) dX0_lossOfRow_52 rfl rfl rfl ?_
      obtain rfl := Option.some.inj h
      exact ro_iret hκ dX0_lossOfRow_53
    · replace h := ah_in_ c h
      refine ro_aload_n (pc' := 24) dX0_lossOfRow_23 rfl rfl rfl ?_
      obtain ⟨v2, hv2, h⟩ := ah_bs h
      refine ro_getR (pc' := 27) ft_19 fk_19 q313 dX0_lossOfRow_24 rfl hv2 ?_
      refine ro_aload_n (pc' := 28) dX0_lossOfRow_27 rfl rfl rfl ?_
      obtain ⟨v3, hv3, h⟩ := ah_bs h
      refine ro_getR (pc' := 31) ft_20 fk_20 q314 dX0_lossOfRow_28 rfl hv3 ?_
      refine ro_iload_n (pc' := 32) dX0_lossOfRow_31 rfl rfl rfl ?_
      obtain ⟨v4, hv4, h⟩ := ah_bs h
      refine ro_iaload (pc' := 33) dX0_lossOfRow_32 rfl hv4 ?_
      obtain ⟨u5, hu5, h⟩ := ah_bs h
      obtain ⟨σ6, hσ6, h⟩ := ah_bs h
      refine ro_callV (pc' := 36) (As := [.int v4]) (rest := []) (st' := []) (by decide) hu5 q676 sl_X4_night (M_X4_night hσ6) q675 q678 q102 dd_X4_night rfl ⟨Nat.le_of_ble_eq_true rfl, Nat.le_of_ble_eq_true rfl⟩ (Nat.le_of_ble_eq_true rfl) dX0_lossOfRow_33 rfl rfl rfl ?_
      refine ro_iload_n (pc' := 37) dX0_lossOfRow_36 rfl rfl rfl ?_
      refine ro_aload_n (pc' := 38) dX0_lossOfRow_37 rfl rfl rfl ?_
      obtain ⟨v7, hv7, h⟩ := ah_bs h
      refine ro_getR (pc' := 41) ft_19 fk_19 q313 dX0_lossOfRow_38 rfl hv7 ?_
      obtain ⟨u8, hu8, h⟩ := ah_bs h
      obtain ⟨v9, σ10, hv9, h⟩ := ah_bs2 h
      refine ro_callV (pc' := 44) (As := []) (rest := [.int x1]) (st' := [.int v9, .int x1]) (by decide) hu8 q734 sl_X4_loss (M_X4_loss hv9) q733 q736 q102 dd_X4_loss rfl ⟨Nat.le_of_ble_eq_true rfl, Nat.le_of_ble_eq_true rfl⟩ (Nat.le_of_ble_eq_true rfl) dX0_lossOfRow_41 rfl rfl rfl ?_
      refine ro_iadd (pc' := 45) dX0_lossOfRow_44 rfl ?_
      refine ro_istore_n (pc' := 46) (L' := [some (va_rf r0), some (.int (x1 + v9)), some (.int x2)]) dX0_lossOfRow_45 rfl (Nat.le_of_ble_eq_true rfl) rfl (ah_okp_r _) rfl ?_
      refine ro_iinc (pc' := 49) (L' := [some (va_rf r0), some (.int (x1 + v9)), some (.int (x2 + (1 : Int32)))]) dX0_lossOfRow_46 rfl ic_1 (Nat.le_of_ble_eq_true rfl) rfl (ah_okp_i _) rfl ?_
      refine ro_goto (tgt := 15) dX0_lossOfRow_49 rfl ?_
      exact ih _ _ _ _ h
set_option maxRecDepth 20000 in
set_option maxHeartbeats 4000000 in
theorem W_X0_lossOfRow {κ : ah_C} {rr : (Int32 × ah_S)} (hκ : ah_res κ = (.returned (some (.int rr.1)), rr.2))  (σ : ah_S) (r0 : Option Nat) (h : F_X0_lossOfRow σ r0 = some rr) : ah_G κ ("LeftAsFound", "lossOfRow", 3, (some FieldType.int), [], 137, 3951) cX0_lossOfRow σ 0 [some (va_rf r0), none, none] [] := by
  unfold F_X0_lossOfRow at h
  refine ro_aload_n (pc' := 1) dX0_lossOfRow_0 rfl rfl rfl ?_
  obtain ⟨v1, hv1, h⟩ := ah_bs h
  refine ro_getR (pc' := 4) ft_19 fk_19 q313 dX0_lossOfRow_1 rfl hv1 ?_
  refine ro_aload_n (pc' := 5) dX0_lossOfRow_4 rfl rfl rfl ?_
  obtain ⟨v2, hv2, h⟩ := ah_bs h
  refine ro_getR (pc' := 8) ft_18 fk_18 q312 dX0_lossOfRow_5 rfl hv2 ?_
  obtain ⟨u3, hu3, h⟩ := ah_bs h
  obtain ⟨σ4, hσ4, h⟩ := ah_bs h
  refine ro_callV (pc' := 11) (As := [va_rf v2]) (rest := []) (st' := []) (by decide) hu3 q669 sl_X4_beAs (M_X4_beAs hσ4) q668 q671 q102 dd_X4_beAs rfl ⟨Nat.le_of_ble_eq_true rfl, Nat.le_of_ble_eq_true rfl⟩ (Nat.le_of_ble_eq_true rfl) dX0_lossOfRow_8 rfl rfl rfl ?_
  refine ro_iconst (pc' := 12) dX0_lossOfRow_11 ic_0 rfl ?_
  refine ro_istore_n (pc' := 13) (L' := [some (va_rf r0), some (.int (0 : Int32)), none]) dX0_lossOfRow_12 rfl (Nat.le_of_ble_eq_true rfl) rfl (ah_okp_r _) rfl ?_
  refine ro_iconst (pc' := 14) dX0_lossOfRow_13 ic_0 rfl ?_
  refine ro_istore_n (pc' := 15) (L' := [some (va_rf r0), some (.int (0 : Int32)), some (.int (0 : Int32))]) dX0_lossOfRow_14 rfl (Nat.le_of_ble_eq_true rfl) rfl (ah_okp_i _) rfl ?_
  exact W_X0_lossOfRow_15 hκ _ _ _ _ _ h
theorem M_X0_lossOfRow {l : Launch} {D : ah_D}  {σ : ah_S} {r0 : Option Nat} {v : Int32} {σ1 : ah_S} (h : F_X0_lossOfRow σ r0 = some (v, σ1)) : ah_Met l yX0_lossOfRow (Cond.code yX0_lossOfRow cX0_lossOfRow 3 (some FieldType.int)) 137 3951 D [va_rf r0] σ (.returned (some (.int v)), σ1) :=
  ah_ofG (own := "LeftAsFound") (nm := "lossOfRow") (L0 := [some (va_rf r0), none, none]) (by decide) rfl rfl rfl (ah_ao_1 (ah_rf_cat _) (ah_ao_n (ah_ao_n ah_ao_0))) (fun κ hκ => W_X0_lossOfRow hκ  σ r0 h)
set_option maxRecDepth 20000 in
set_option maxHeartbeats 4000000 in
theorem W_X0_loss {κ : ah_C} {rr : (Int32 × ah_S)} (hκ : ah_res κ = (.returned (some (.int rr.1)), rr.2))  (σ : ah_S) (r0 : Option Nat) (x1 : Int32) (h : F_X0_loss σ r0 x1 = some rr) : ah_G κ ("LeftAsFound", "loss", 3, (some FieldType.int), [], 138, 3973) cX0_loss σ 0 [some (va_rf r0), some (.int x1), none] [] := by
  unfold F_X0_loss at h
  refine ro_aload_n (pc' := 1) dX0_loss_0 rfl rfl rfl ?_
  refine ro_iload_n (pc' := 2) dX0_loss_1 rfl rfl rfl ?_
  obtain ⟨u1, hu1, h⟩ := ah_bs h
  obtain ⟨v2, σ3, hv2, h⟩ := ah_bs2 h
  refine ro_callV (pc' := 5) (As := [.int x1]) (rest := []) (st' := [.int v2]) (by decide) hu1 q655 sl_X0_takes1Row (M_X0_takes1Row hv2) q653 q656 q95 dd_X0_takes1Row rfl ⟨Nat.le_of_ble_eq_true rfl, Nat.le_of_ble_eq_true rfl⟩ (Nat.le_of_ble_eq_true rfl) dX0_loss_2 rfl rfl rfl ?_
  refine ro_istore_n (pc' := 6) (L' := [some (va_rf r0), some (.int x1), some (.int v2)]) dX0_loss_5 rfl (Nat.le_of_ble_eq_true rfl) rfl (ah_okp_i _) rfl ?_
  refine ro_iload_n (pc' := 7) dX0_loss_6 rfl rfl rfl ?_
  refine ro_if_ge (pc' := 10) (tgt := 14) dX0_loss_7 rfl rfl (fun c => ?_) (fun c => ?_)
  · replace h := ah_ip c h
    refine ro_aload_n (pc' := 15) dX0_loss_14 rfl rfl rfl ?_
    obtain ⟨u4, hu4, h⟩ := ah_bs h
    obtain ⟨v5, σ6, hv5, h⟩ := ah_bs2 h
    refine ro_callV (pc' := 18) (As := []) (rest := []) (st' := [.int v5]) (by decide) hu4 q731 sl_X0_lossOfRow (M_X0_lossOfRow hv5) q729 q732 q95 dd_X0_lossOfRow rfl ⟨Nat.le_of_ble_eq_true rfl, Nat.le_of_ble_eq_true rfl⟩ (Nat.le_of_ble_eq_true rfl) dX0_loss_15 rfl rfl rfl ?_
    obtain rfl := Option.some.inj h
    exact ro_iret hκ dX0_loss_18
  · replace h := ah_in_ c h
    refine ro_iload_n (pc' := 11) dX0_loss_10 rfl rfl rfl ?_
    refine ro_goto (tgt := 18) dX0_loss_11 rfl ?_
    obtain rfl := Option.some.inj h
    exact ro_iret hκ dX0_loss_18
theorem M_X0_loss {l : Launch} {D : ah_D}  {σ : ah_S} {r0 : Option Nat} {x1 : Int32} {v : Int32} {σ1 : ah_S} (h : F_X0_loss σ r0 x1 = some (v, σ1)) : ah_Met l yX0_loss (Cond.code yX0_loss cX0_loss 3 (some FieldType.int)) 138 3973 D [va_rf r0, .int x1] σ (.returned (some (.int v)), σ1) :=
  ah_ofG (own := "LeftAsFound") (nm := "loss") (L0 := [some (va_rf r0), some (.int x1), none]) (by decide) rfl rfl rfl (ah_ao_1 (ah_rf_cat _) (ah_ao_1 rfl (ah_ao_n ah_ao_0))) (fun κ hκ => W_X0_loss hκ  σ r0 x1 h)
set_option maxRecDepth 20000 in
set_option maxHeartbeats 4000000 in
theorem W_X0_lowest_66 {κ : ah_C} {rr : (Int32 × ah_S)} (hκ : ah_res κ = (.returned (some (.int rr.1)), rr.2))    : ∀ (n : Nat) (σ : ah_S) (r0 : Option Nat) (x2 : Int32) (x3 : Int32) (x4 : Int32), F_X0_lowest_66 n σ r0 x2 x3 x4 = some rr → ah_G κ ("LeftAsFound", "lowest", 5, (some FieldType.int), [], 137, 3951) cX0_lowest σ 66 [some (va_rf r0), none, some (.int x2), some (.int x3), some (.int x4)] [] := by
  intro n
  induction n with
  | zero => intro σ r0 x2 x3 x4 h; cases h
  | succ n ih =>
    intro σ r0 x2 x3 x4 h
    rw [F_X0_lowest_66] at h
    refine ro_iload (pc' := 68) dX0_lowest_66 rfl rfl ?_
    refine ro_aload_n (pc' := 69) dX0_lowest_68 rfl rfl rfl ?_
    obtain ⟨v1, hv1, h⟩ := ah_bs h
    refine ro_getI (pc' := 72) ft_21 fk_21 q315 dX0_lowest_69 rfl hv1 ?_
    refine ro_icmp_ge (pc' := 75) (tgt := 109) dX0_lowest_72 rfl rfl (fun c => ?_) (fun c => ?_)
    · replace h := ah_ip c h
      refine ro_iload_n (pc' := 110) dX0_lowest_109 rfl rfl rfl ?_
      obtain rfl := Option.some.inj h
      exact ro_iret hκ dX0_lowest_110
    · replace h := ah_in_ c h
      refine ro_aload_n (pc' := 76) dX0_lowest_75 rfl rfl rfl ?_
      obtain ⟨v2, hv2, h⟩ := ah_bs h
      refine ro_getR (pc' := 79) ft_19 fk_19 q313 dX0_lowest_76 rfl hv2 ?_
      refine ro_aload_n (pc' := 80) dX0_lowest_79 rfl rfl rfl ?_
      obtain ⟨v3, hv3, h⟩ := ah_bs h
      refine ro_getR (pc' := 83) ft_20 fk_20 q314 dX0_lowest_80 rfl hv3 ?_
      refine ro_iload (pc' := 85) dX0_lowest_83 rfl rfl ?_
      obtain ⟨v4, hv4, h⟩ := ah_bs h
      refine ro_iaload (pc' := 86) dX0_lowest_85 rfl hv4 ?_
      obtain ⟨u5, hu5, h⟩ := ah_bs h
      obtain ⟨σ6, hσ6, h⟩ := ah_bs h
      refine ro_callV (pc' := 89) (As := [.int v4]) (rest := []) (st' := []) (by decide) hu5 q676 sl_X4_night (M_X4_night hσ6) q675 q678 q102 dd_X4_night rfl ⟨Nat.le_of_ble_eq_true rfl, Nat.le_of_ble_eq_true rfl⟩ (Nat.le_of_ble_eq_true rfl) dX0_lowest_86 rfl rfl rfl ?_
      refine ro_iload_n (pc' := 90) dX0_lowest_89 rfl rfl rfl ?_
      refine ro_aload_n (pc' := 91) dX0_lowest_90 rfl rfl rfl ?_
      obtain ⟨v7, hv7, h⟩ := ah_bs h
      refine ro_getR (pc' := 94) ft_19 fk_19 q313 dX0_lowest_91 rfl hv7 ?_
      obtain ⟨v8, hv8, h⟩ := ah_bs h
      refine ro_getRN (pc' := 97) ft_400 fk_400 nq245 dX0_lowest_94 rfl hv8 ?_
      refine ro_iload_n (pc' := 98) dX0_lowest_97 rfl rfl rfl ?_
      obtain ⟨v9, hv9, h⟩ := ah_bs h
      refine ro_iaload (pc' := 99) dX0_lowest_98 rfl hv9 ?_
      refine ro_mmin (pc' := 102) q665 (Nat.le_of_ble_eq_true rfl) (Nat.le_of_ble_eq_true rfl) dX0_lowest_99 rfl ?_
      refine ro_istore_n (pc' := 103) (L' := [some (va_rf r0), none, some (.int x2), some (.int (if v9 < x3 then v9 else x3)), some (.int x4)]) dX0_lowest_102 rfl (Nat.le_of_ble_eq_true rfl) rfl (ah_okp_i _) rfl ?_
      refine ro_iinc (pc' := 106) (L' := [some (va_rf r0), none, some (.int x2), some (.int (if v9 < x3 then v9 else x3)), some (.int (x4 + (1 : Int32)))]) dX0_lowest_103 rfl ic_1 (Nat.le_of_ble_eq_true rfl) rfl (ah_okp_i _) rfl ?_
      refine ro_goto (tgt := 66) dX0_lowest_106 rfl ?_
      exact ih _ _ _ _ _ h
set_option maxRecDepth 20000 in
set_option maxHeartbeats 4000000 in
theorem W_X0_lowest {κ : ah_C} {rr : (Int32 × ah_S)} (hκ : ah_res κ = (.returned (some (.int rr.1)), rr.2))  (σ : ah_S) (r0 : Option Nat) (x1 : Int32) (x2 : Int32) (h : F_X0_lowest σ r0 x1 x2 = some rr) : ah_G κ ("LeftAsFound", "lowest", 5, (some FieldType.int), [], 137, 3951) cX0_lowest σ 0 [some (va_rf r0), some (.int x1), some (.int x2), none, none] [] := by
  unfold F_X0_lowest at h
  refine ro_iload_n (pc' := 1) dX0_lowest_0 rfl rfl rfl ?_
  obtain ⟨v1, σ2, hv1, h⟩ := ah_bs2 h
  refine ro_callS (pc' := 4) (As := [.int x1]) (rest := []) (st' := [.int v1]) q471 (M_X0_isShelf hv1) q470 q472 q95 dd_X0_isShelf rfl ⟨Nat.le_of_ble_eq_true rfl, Nat.le_of_ble_eq_true rfl⟩ (Nat.le_of_ble_eq_true rfl) dX0_lowest_1 rfl rfl rfl ?_
  refine ro_if_eq (pc' := 7) (tgt := 14) dX0_lowest_4 rfl rfl (fun c => ?_) (fun c => ?_)
  · replace h := ah_ip c h
    refine ro_iconst (pc' := 15) dX0_lowest_14 ic_m1 rfl ?_
    obtain rfl := Option.some.inj h
    exact ro_iret hκ dX0_lowest_15
  · replace h := ah_in_ c h
    refine ro_iload_n (pc' := 8) dX0_lowest_7 rfl rfl rfl ?_
    obtain ⟨v3, σ4, hv3, h⟩ := ah_bs2 h
    refine ro_callS (pc' := 11) (As := [.int x2]) (rest := []) (st' := [.int v3]) q497 (M_X0_isThing hv3) q496 q498 q95 dd_X0_isThing rfl ⟨Nat.le_of_ble_eq_true rfl, Nat.le_of_ble_eq_true rfl⟩ (Nat.le_of_ble_eq_true rfl) dX0_lowest_8 rfl rfl rfl ?_
    refine ro_if_ne (pc' := 14) (tgt := 16) dX0_lowest_11 rfl rfl (fun c => ?_) (fun c => ?_)
    · replace h := ah_in_ c h
      refine ro_aload_n (pc' := 17) dX0_lowest_16 rfl rfl rfl ?_
      refine ro_iload_n (pc' := 18) dX0_lowest_17 rfl rfl rfl ?_
      obtain ⟨u5, hu5, h⟩ := ah_bs h
      obtain ⟨v6, σ7, hv6, h⟩ := ah_bs2 h
      refine ro_callV (pc' := 21) (As := [.int x1]) (rest := []) (st' := [.int v6]) (by decide) hu5 q655 sl_X0_takes1Row (M_X0_takes1Row hv6) q653 q656 q95 dd_X0_takes1Row rfl ⟨Nat.le_of_ble_eq_true rfl, Nat.le_of_ble_eq_true rfl⟩ (Nat.le_of_ble_eq_true rfl) dX0_lowest_18 rfl rfl rfl ?_
      refine ro_if_ge (pc' := 24) (tgt := 30) dX0_lowest_21 rfl rfl (fun c => ?_) (fun c => ?_)
      · replace h := ah_ip c h
        refine ro_aload_n (pc' := 31) dX0_lowest_30 rfl rfl rfl ?_
        obtain ⟨v8, hv8, h⟩ := ah_bs h
        refine ro_getR (pc' := 34) ft_19 fk_19 q313 dX0_lowest_31 rfl hv8 ?_
        refine ro_aload_n (pc' := 35) dX0_lowest_34 rfl rfl rfl ?_
        obtain ⟨v9, hv9, h⟩ := ah_bs h
        refine ro_getR (pc' := 38) ft_18 fk_18 q312 dX0_lowest_35 rfl hv9 ?_
        obtain ⟨u10, hu10, h⟩ := ah_bs h
        obtain ⟨σ11, hσ11, h⟩ := ah_bs h
        refine ro_callV (pc' := 41) (As := [va_rf v9]) (rest := []) (st' := []) (by decide) hu10 q669 sl_X4_beAs (M_X4_beAs hσ11) q668 q671 q102 dd_X4_beAs rfl ⟨Nat.le_of_ble_eq_true rfl, Nat.le_of_ble_eq_true rfl⟩ (Nat.le_of_ble_eq_true rfl) dX0_lowest_38 rfl rfl rfl ?_
        refine ro_aload_n (pc' := 42) dX0_lowest_41 rfl rfl rfl ?_
        obtain ⟨v12, hv12, h⟩ := ah_bs h
        refine ro_getI (pc' := 45) ft_21 fk_21 q315 dX0_lowest_42 rfl hv12 ?_
        refine ro_if_ne (pc' := 48) (tgt := 60) dX0_lowest_45 rfl rfl (fun c => ?_) (fun c => ?_)
        · replace h := ah_in_ c h
          refine ro_bipush (pc' := 62) dX0_lowest_60 ib_99 rfl ?_
          refine ro_istore_n (pc' := 63) (L' := [some (va_rf r0), some (.int x1), some (.int x2), some (.int (99 : Int32)), none]) dX0_lowest_62 rfl (Nat.le_of_ble_eq_true rfl) rfl (ah_okp_i _) rfl ?_
          refine ro_iconst (pc' := 64) dX0_lowest_63 ic_0 rfl ?_
          refine ro_istore (pc' := 66) (L' := [some (va_rf r0), some (.int x1), some (.int x2), some (.int (99 : Int32)), some (.int (0 : Int32))]) dX0_lowest_64 (Nat.le_of_ble_eq_true rfl) rfl (ah_okp_i _) rfl ?_
          refine ro_weak (L' := [some (va_rf r0), none, some (.int x2), some (.int (99 : Int32)), some (.int (0 : Int32))]) (ah_ls_s (ah_ls_n (ah_ls_s (ah_ls_s (ah_ls_s ah_ls_0))))) ?_
          exact W_X0_lowest_66 hκ _ _ _ _ _ _ h
        · replace h := ah_ip c h
          refine ro_aload_n (pc' := 49) dX0_lowest_48 rfl rfl rfl ?_
          obtain ⟨v13, hv13, h⟩ := ah_bs h
          refine ro_getR (pc' := 52) ft_19 fk_19 q313 dX0_lowest_49 rfl hv13 ?_
          obtain ⟨v14, hv14, h⟩ := ah_bs h
          refine ro_getRN (pc' := 55) ft_400 fk_400 nq245 dX0_lowest_52 rfl hv14 ?_
          refine ro_iload_n (pc' := 56) dX0_lowest_55 rfl rfl rfl ?_
          obtain ⟨v15, hv15, h⟩ := ah_bs h
          refine ro_iaload (pc' := 57) dX0_lowest_56 rfl hv15 ?_
          refine ro_goto (tgt := 62) dX0_lowest_57 rfl ?_
          refine ro_istore_n (pc' := 63) (L' := [some (va_rf r0), some (.int x1), some (.int x2), some (.int v15), none]) dX0_lowest_62 rfl (Nat.le_of_ble_eq_true rfl) rfl (ah_okp_i _) rfl ?_
          refine ro_iconst (pc' := 64) dX0_lowest_63 ic_0 rfl ?_
          refine ro_istore (pc' := 66) (L' := [some (va_rf r0), some (.int x1), some (.int x2), some (.int v15), some (.int (0 : Int32))]) dX0_lowest_64 (Nat.le_of_ble_eq_true rfl) rfl (ah_okp_i _) rfl ?_
          refine ro_weak (L' := [some (va_rf r0), none, some (.int x2), some (.int v15), some (.int (0 : Int32))]) (ah_ls_s (ah_ls_n (ah_ls_s (ah_ls_s (ah_ls_s ah_ls_0))))) ?_
          exact W_X0_lowest_66 hκ _ _ _ _ _ _ h
      · replace h := ah_in_ c h
        refine ro_aload_n (pc' := 25) dX0_lowest_24 rfl rfl rfl ?_
        refine ro_iload_n (pc' := 26) dX0_lowest_25 rfl rfl rfl ?_
        obtain ⟨u16, hu16, h⟩ := ah_bs h
        obtain ⟨v17, σ18, hv17, h⟩ := ah_bs2 h
        refine ro_callV (pc' := 29) (As := [.int x1]) (rest := []) (st' := [.int v17]) (by decide) hu16 q659 sl_X0_lookAt (M_X0_lookAt hv17) q657 q660 q95 dd_X0_lookAt rfl ⟨Nat.le_of_ble_eq_true rfl, Nat.le_of_ble_eq_true rfl⟩ (Nat.le_of_ble_eq_true rfl) dX0_lowest_26 rfl rfl rfl ?_
        obtain rfl := Option.some.inj h
        exact ro_iret hκ dX0_lowest_29
    · replace h := ah_ip c h
      refine ro_iconst (pc' := 15) dX0_lowest_14 ic_m1 rfl ?_
      obtain rfl := Option.some.inj h
      exact ro_iret hκ dX0_lowest_15
theorem M_X0_lowest {l : Launch} {D : ah_D}  {σ : ah_S} {r0 : Option Nat} {x1 : Int32} {x2 : Int32} {v : Int32} {σ1 : ah_S} (h : F_X0_lowest σ r0 x1 x2 = some (v, σ1)) : ah_Met l yX0_lowest (Cond.code yX0_lowest cX0_lowest 5 (some FieldType.int)) 137 3951 D [va_rf r0, .int x1, .int x2] σ (.returned (some (.int v)), σ1) :=
  ah_ofG (own := "LeftAsFound") (nm := "lowest") (L0 := [some (va_rf r0), some (.int x1), some (.int x2), none, none]) (by decide) rfl rfl rfl (ah_ao_1 (ah_rf_cat _) (ah_ao_1 rfl (ah_ao_1 rfl (ah_ao_n (ah_ao_n ah_ao_0))))) (fun κ hκ => W_X0_lowest hκ  σ r0 x1 x2 h)
set_option maxRecDepth 20000 in
set_option maxHeartbeats 4000000 in
theorem W_X0_night {κ : ah_C} {rr : (Int32 × ah_S)} (hκ : ah_res κ = (.returned (some (.int rr.1)), rr.2))  (σ : ah_S) (r0 : Option Nat) (x1 : Int32) (h : F_X0_night σ r0 x1 = some rr) : ah_G κ ("LeftAsFound", "night", 3, (some FieldType.int), [], 137, 3951) cX0_night σ 0 [some (va_rf r0), some (.int x1), none] [] := by
  unfold F_X0_night at h
  refine ro_aload_n (pc' := 1) dX0_night_0 rfl rfl rfl ?_
  refine ro_iload_n (pc' := 2) dX0_night_1 rfl rfl rfl ?_
  refine ro_i2l (pc' := 3) dX0_night_2 rfl ?_
  obtain ⟨u1, hu1, h⟩ := ah_bs h
  obtain ⟨v2, σ3, hv2, h⟩ := ah_bs2 h
  refine ro_callV (pc' := 6) (As := [.long (x1.toInt64)]) (rest := []) (st' := [.int v2]) (by decide) hu1 q505 sl_X0_isGuest (M_X0_isGuest hv2) q503 q506 q95 dd_X0_isGuest rfl ⟨Nat.le_of_ble_eq_true rfl, Nat.le_of_ble_eq_true rfl⟩ (Nat.le_of_ble_eq_true rfl) dX0_night_3 rfl rfl rfl ?_
  refine ro_if_ne (pc' := 9) (tgt := 11) dX0_night_6 rfl rfl (fun c => ?_) (fun c => ?_)
  · replace h := ah_in_ c h
    refine ro_aload_n (pc' := 12) dX0_night_11 rfl rfl rfl ?_
    obtain ⟨v4, hv4, h⟩ := ah_bs h
    refine ro_getR (pc' := 15) ft_18 fk_18 q312 dX0_night_12 rfl hv4 ?_
    refine ro_iload_n (pc' := 16) dX0_night_15 rfl rfl rfl ?_
    obtain ⟨u5, hu5, h⟩ := ah_bs h
    obtain ⟨σ6, hσ6, h⟩ := ah_bs h
    refine ro_callV (pc' := 19) (As := [.int x1]) (rest := []) (st' := []) (by decide) hu5 q676 sl_X4_night (M_X4_night hσ6) q675 q678 q102 dd_X4_night rfl ⟨Nat.le_of_ble_eq_true rfl, Nat.le_of_ble_eq_true rfl⟩ (Nat.le_of_ble_eq_true rfl) dX0_night_16 rfl rfl rfl ?_
    refine ro_aload_n (pc' := 20) dX0_night_19 rfl rfl rfl ?_
    obtain ⟨v7, hv7, h⟩ := ah_bs h
    refine ro_getR (pc' := 23) ft_18 fk_18 q312 dX0_night_20 rfl hv7 ?_
    obtain ⟨u8, hu8, h⟩ := ah_bs h
    obtain ⟨v9, σ10, hv9, h⟩ := ah_bs2 h
    refine ro_callV (pc' := 26) (As := []) (rest := []) (st' := [.int v9]) (by decide) hu8 q734 sl_X4_loss (M_X4_loss hv9) q733 q736 q102 dd_X4_loss rfl ⟨Nat.le_of_ble_eq_true rfl, Nat.le_of_ble_eq_true rfl⟩ (Nat.le_of_ble_eq_true rfl) dX0_night_23 rfl rfl rfl ?_
    refine ro_istore_n (pc' := 27) (L' := [some (va_rf r0), some (.int x1), some (.int v9)]) dX0_night_26 rfl (Nat.le_of_ble_eq_true rfl) rfl (ah_okp_i _) rfl ?_
    refine ro_aload_n (pc' := 28) dX0_night_27 rfl rfl rfl ?_
    obtain ⟨v11, hv11, h⟩ := ah_bs h
    refine ro_getR (pc' := 31) ft_33 fk_33 q327 dX0_night_28 rfl hv11 ?_
    refine ro_iconst (pc' := 32) dX0_night_31 ic_0 rfl ?_
    refine ro_dup2 (pc' := 33) dX0_night_32 rfl (ah_rf_cat _) rfl ?_
    obtain ⟨v12, hv12, h⟩ := ah_bs h
    refine ro_iaload (pc' := 34) dX0_night_33 rfl hv12 ?_
    refine ro_iconst (pc' := 35) dX0_night_34 ic_1 rfl ?_
    refine ro_iadd (pc' := 36) dX0_night_35 rfl ?_
    obtain ⟨σ13, hσ13, h⟩ := ah_bs h
    refine ro_iastore (pc' := 37) dX0_night_36 rfl hσ13 ?_
    refine ro_aload_n (pc' := 38) dX0_night_37 rfl rfl rfl ?_
    obtain ⟨v14, hv14, h⟩ := ah_bs h
    refine ro_getR (pc' := 41) ft_33 fk_33 q327 dX0_night_38 rfl hv14 ?_
    refine ro_iconst (pc' := 42) dX0_night_41 ic_1 rfl ?_
    refine ro_dup2 (pc' := 43) dX0_night_42 rfl (ah_rf_cat _) rfl ?_
    obtain ⟨v15, hv15, h⟩ := ah_bs h
    refine ro_iaload (pc' := 44) dX0_night_43 rfl hv15 ?_
    refine ro_iload_n (pc' := 45) dX0_night_44 rfl rfl rfl ?_
    refine ro_iadd (pc' := 46) dX0_night_45 rfl ?_
    obtain ⟨σ16, hσ16, h⟩ := ah_bs h
    refine ro_iastore (pc' := 47) dX0_night_46 rfl hσ16 ?_
    refine ro_iload_n (pc' := 48) dX0_night_47 rfl rfl rfl ?_
    refine ro_aload_n (pc' := 49) dX0_night_48 rfl rfl rfl ?_
    obtain ⟨v17, hv17, h⟩ := ah_bs h
    refine ro_getR (pc' := 52) ft_33 fk_33 q327 dX0_night_49 rfl hv17 ?_
    refine ro_iconst (pc' := 53) dX0_night_52 ic_2 rfl ?_
    obtain ⟨v18, hv18, h⟩ := ah_bs h
    refine ro_iaload (pc' := 54) dX0_night_53 rfl hv18 ?_
    refine ro_icmp_le (pc' := 57) (tgt := 71) dX0_night_54 rfl rfl (fun c => ?_) (fun c => ?_)
    · replace h := ah_ip c h
      refine ro_iload_n (pc' := 72) dX0_night_71 rfl rfl rfl ?_
      obtain rfl := Option.some.inj h
      exact ro_iret hκ dX0_night_72
    · replace h := ah_in_ c h
      refine ro_aload_n (pc' := 58) dX0_night_57 rfl rfl rfl ?_
      obtain ⟨v19, hv19, h⟩ := ah_bs h
      refine ro_getR (pc' := 61) ft_33 fk_33 q327 dX0_night_58 rfl hv19 ?_
      refine ro_iconst (pc' := 62) dX0_night_61 ic_2 rfl ?_
      refine ro_iload_n (pc' := 63) dX0_night_62 rfl rfl rfl ?_
      obtain ⟨σ20, hσ20, h⟩ := ah_bs h
      refine ro_iastore (pc' := 64) dX0_night_63 rfl hσ20 ?_
      refine ro_aload_n (pc' := 65) dX0_night_64 rfl rfl rfl ?_
      obtain ⟨v21, hv21, h⟩ := ah_bs h
      refine ro_getR (pc' := 68) ft_33 fk_33 q327 dX0_night_65 rfl hv21 ?_
      refine ro_iconst (pc' := 69) dX0_night_68 ic_3 rfl ?_
      refine ro_iload_n (pc' := 70) dX0_night_69 rfl rfl rfl ?_
      obtain ⟨σ22, hσ22, h⟩ := ah_bs h
      refine ro_iastore (pc' := 71) dX0_night_70 rfl hσ22 ?_
      refine ro_iload_n (pc' := 72) dX0_night_71 rfl rfl rfl ?_
      obtain rfl := Option.some.inj h
      exact ro_iret hκ dX0_night_72
  · replace h := ah_ip c h
    refine ro_iconst (pc' := 10) dX0_night_9 ic_m1 rfl ?_
    obtain rfl := Option.some.inj h
    exact ro_iret hκ dX0_night_10
theorem M_X0_night {l : Launch} {D : ah_D}  {σ : ah_S} {r0 : Option Nat} {x1 : Int32} {v : Int32} {σ1 : ah_S} (h : F_X0_night σ r0 x1 = some (v, σ1)) : ah_Met l yX0_night (Cond.code yX0_night cX0_night 3 (some FieldType.int)) 137 3951 D [va_rf r0, .int x1] σ (.returned (some (.int v)), σ1) :=
  ah_ofG (own := "LeftAsFound") (nm := "night") (L0 := [some (va_rf r0), some (.int x1), none]) (by decide) rfl rfl rfl (ah_ao_1 (ah_rf_cat _) (ah_ao_1 rfl (ah_ao_n ah_ao_0))) (fun κ hκ => W_X0_night hκ  σ r0 x1 h)
set_option maxRecDepth 20000 in
set_option maxHeartbeats 4000000 in
theorem W_X0_staysAbove_17 {κ : ah_C} {rr : (Int32 × ah_S)} (hκ : ah_res κ = (.returned (some (.int rr.1)), rr.2))    : ∀ (n : Nat) (σ : ah_S) (r0 : Option Nat) (x1 : Int32) (x2 : Int32) (x3 : Int32) (x4 : Int32) (x5 : Int32) (x6 : Int32), F_X0_staysAbove_17 n σ r0 x1 x2 x3 x4 x5 x6 = some rr → ah_G κ ("LeftAsFound", "staysAbove", 7, (some FieldType.boolean), [], 137, 3951) cX0_staysAbove σ 17 [some (va_rf r0), some (.int x1), some (.int x2), some (.int x3), some (.int x4), some (.int x5), some (.int x6)] [] := by
  intro n
  induction n with
  | zero => intro σ r0 x1 x2 x3 x4 x5 x6 h; cases h
  | succ n ih =>
    intro σ r0 x1 x2 x3 x4 x5 x6 h
    rw [F_X0_staysAbove_17] at h
    refine ro_iload (pc' := 19) dX0_staysAbove_17 rfl rfl ?_
    refine ro_bipush (pc' := 21) dX0_staysAbove_19 ib_60 rfl ?_
    refine ro_icmp_ge (pc' := 24) (tgt := 77) dX0_staysAbove_21 rfl rfl (fun c => ?_) (fun c => ?_)
    · replace h := ah_ip c h
      refine ro_iconst (pc' := 78) dX0_staysAbove_77 ic_1 rfl ?_
      obtain rfl := Option.some.inj h
      exact ro_zret rfl hκ dX0_staysAbove_78
    · replace h := ah_in_ c h
      refine ro_aload_n (pc' := 25) dX0_staysAbove_24 rfl rfl rfl ?_
      obtain ⟨v1, hv1, h⟩ := ah_bs h
      refine ro_getR (pc' := 28) ft_19 fk_19 q313 dX0_staysAbove_25 rfl hv1 ?_
      refine ro_iload (pc' := 30) dX0_staysAbove_28 rfl rfl ?_
      refine ro_iload (pc' := 32) dX0_staysAbove_30 rfl rfl ?_
      refine ro_iconst (pc' := 33) dX0_staysAbove_32 ic_1 rfl ?_
      refine ro_iadd (pc' := 34) dX0_staysAbove_33 rfl ?_
      obtain ⟨q2, hq2, h⟩ := ah_bs h
      refine ro_irem (pc' := 35) dX0_staysAbove_34 rfl hq2 ?_
      refine ro_iload (pc' := 37) dX0_staysAbove_35 rfl rfl ?_
      refine ro_icmp_ne (pc' := 40) (tgt := 44) dX0_staysAbove_37 rfl rfl (fun c => ?_) (fun c => ?_)
      · replace h := ah_in_ c h
        refine ro_aload_n (pc' := 45) dX0_staysAbove_44 rfl rfl rfl ?_
        refine ro_iload (pc' := 47) dX0_staysAbove_45 rfl rfl ?_
        refine ro_iinc (pc' := 50) (L' := [some (va_rf r0), some (.int x1), some (.int x2), some (.int x3), some (.int x4), some (.int (x5 + (1 : Int32))), some (.int x6)]) dX0_staysAbove_47 rfl ic_1 (Nat.le_of_ble_eq_true rfl) rfl (ah_okp_i _) rfl ?_
        obtain ⟨u3, hu3, h⟩ := ah_bs h
        obtain ⟨v4, σ5, hv4, h⟩ := ah_bs2 h
        refine ro_callV (pc' := 53) (As := [.int x5]) (rest := [va_rf v1]) (st' := [.int v4, va_rf v1]) (by decide) hu3 q768 sl_X0_comesAt (M_X0_comesAt hv4) q766 q769 q95 dd_X0_comesAt rfl ⟨Nat.le_of_ble_eq_true rfl, Nat.le_of_ble_eq_true rfl⟩ (by simp only [List.map_cons, List.map_nil, List.sum_cons, List.sum_nil, ah_rf_cat, ah_cat_i, ah_cat_l]; decide) dX0_staysAbove_50 rfl rfl rfl ?_
        obtain ⟨u6, hu6, h⟩ := ah_bs h
        obtain ⟨σ7, hσ7, h⟩ := ah_bs h
        refine ro_callV (pc' := 56) (As := [.int v4]) (rest := []) (st' := []) (by decide) hu6 q676 sl_X4_night (M_X4_night hσ7) q675 q678 q102 dd_X4_night rfl ⟨Nat.le_of_ble_eq_true rfl, Nat.le_of_ble_eq_true rfl⟩ (Nat.le_of_ble_eq_true rfl) dX0_staysAbove_53 rfl rfl rfl ?_
        refine ro_aload_n (pc' := 57) dX0_staysAbove_56 rfl rfl rfl ?_
        obtain ⟨v8, hv8, h⟩ := ah_bs h
        refine ro_getR (pc' := 60) ft_19 fk_19 q313 dX0_staysAbove_57 rfl hv8 ?_
        obtain ⟨v9, hv9, h⟩ := ah_bs h
        refine ro_getRN (pc' := 63) ft_400 fk_400 nq245 dX0_staysAbove_60 rfl hv9 ?_
        refine ro_iload_n (pc' := 64) dX0_staysAbove_63 rfl rfl rfl ?_
        obtain ⟨v10, hv10, h⟩ := ah_bs h
        refine ro_iaload (pc' := 65) dX0_staysAbove_64 rfl hv10 ?_
        refine ro_iload_n (pc' := 66) dX0_staysAbove_65 rfl rfl rfl ?_
        refine ro_icmp_ge (pc' := 69) (tgt := 71) dX0_staysAbove_66 rfl rfl (fun c => ?_) (fun c => ?_)
        · replace h := ah_ip c h
          refine ro_iinc (pc' := 74) (L' := [some (va_rf r0), some (.int x1), some (.int x2), some (.int x3), some (.int x4), some (.int (x5 + (1 : Int32))), some (.int (x6 + (1 : Int32)))]) dX0_staysAbove_71 rfl ic_1 (Nat.le_of_ble_eq_true rfl) rfl (ah_okp_i _) rfl ?_
          refine ro_goto (tgt := 17) dX0_staysAbove_74 rfl ?_
          exact ih _ _ _ _ _ _ _ _ h
        · replace h := ah_in_ c h
          refine ro_iconst (pc' := 70) dX0_staysAbove_69 ic_0 rfl ?_
          obtain rfl := Option.some.inj h
          exact ro_zret rfl hκ dX0_staysAbove_70
      · replace h := ah_ip c h
        refine ro_iload_n (pc' := 41) dX0_staysAbove_40 rfl rfl rfl ?_
        refine ro_goto (tgt := 53) dX0_staysAbove_41 rfl ?_
        obtain ⟨u11, hu11, h⟩ := ah_bs h
        obtain ⟨σ12, hσ12, h⟩ := ah_bs h
        refine ro_callV (pc' := 56) (As := [.int x1]) (rest := []) (st' := []) (by decide) hu11 q676 sl_X4_night (M_X4_night hσ12) q675 q678 q102 dd_X4_night rfl ⟨Nat.le_of_ble_eq_true rfl, Nat.le_of_ble_eq_true rfl⟩ (Nat.le_of_ble_eq_true rfl) dX0_staysAbove_53 rfl rfl rfl ?_
        refine ro_aload_n (pc' := 57) dX0_staysAbove_56 rfl rfl rfl ?_
        obtain ⟨v13, hv13, h⟩ := ah_bs h
        refine ro_getR (pc' := 60) ft_19 fk_19 q313 dX0_staysAbove_57 rfl hv13 ?_
        obtain ⟨v14, hv14, h⟩ := ah_bs h
        refine ro_getRN (pc' := 63) ft_400 fk_400 nq245 dX0_staysAbove_60 rfl hv14 ?_
        refine ro_iload_n (pc' := 64) dX0_staysAbove_63 rfl rfl rfl ?_
        obtain ⟨v15, hv15, h⟩ := ah_bs h
        refine ro_iaload (pc' := 65) dX0_staysAbove_64 rfl hv15 ?_
        refine ro_iload_n (pc' := 66) dX0_staysAbove_65 rfl rfl rfl ?_
        refine ro_icmp_ge (pc' := 69) (tgt := 71) dX0_staysAbove_66 rfl rfl (fun c => ?_) (fun c => ?_)
        · replace h := ah_ip c h
          refine ro_iinc (pc' := 74) (L' := [some (va_rf r0), some (.int x1), some (.int x2), some (.int x3), some (.int x4), some (.int x5), some (.int (x6 + (1 : Int32)))]) dX0_staysAbove_71 rfl ic_1 (Nat.le_of_ble_eq_true rfl) rfl (ah_okp_i _) rfl ?_
          refine ro_goto (tgt := 17) dX0_staysAbove_74 rfl ?_
          exact ih _ _ _ _ _ _ _ _ h
        · replace h := ah_in_ c h
          refine ro_iconst (pc' := 70) dX0_staysAbove_69 ic_0 rfl ?_
          obtain rfl := Option.some.inj h
          exact ro_zret rfl hκ dX0_staysAbove_70
set_option maxRecDepth 20000 in
set_option maxHeartbeats 4000000 in
theorem W_X0_staysAbove {κ : ah_C} {rr : (Int32 × ah_S)} (hκ : ah_res κ = (.returned (some (.int rr.1)), rr.2))  (σ : ah_S) (r0 : Option Nat) (x1 : Int32) (x2 : Int32) (x3 : Int32) (x4 : Int32) (h : F_X0_staysAbove σ r0 x1 x2 x3 x4 = some rr) : ah_G κ ("LeftAsFound", "staysAbove", 7, (some FieldType.boolean), [], 137, 3951) cX0_staysAbove σ 0 [some (va_rf r0), some (.int x1), some (.int x2), some (.int x3), some (.int x4), none, none] [] := by
  unfold F_X0_staysAbove at h
  refine ro_aload_n (pc' := 1) dX0_staysAbove_0 rfl rfl rfl ?_
  obtain ⟨v1, hv1, h⟩ := ah_bs h
  refine ro_getR (pc' := 4) ft_19 fk_19 q313 dX0_staysAbove_1 rfl hv1 ?_
  refine ro_aload_n (pc' := 5) dX0_staysAbove_4 rfl rfl rfl ?_
  obtain ⟨v2, hv2, h⟩ := ah_bs h
  refine ro_getR (pc' := 8) ft_18 fk_18 q312 dX0_staysAbove_5 rfl hv2 ?_
  obtain ⟨u3, hu3, h⟩ := ah_bs h
  obtain ⟨σ4, hσ4, h⟩ := ah_bs h
  refine ro_callV (pc' := 11) (As := [va_rf v2]) (rest := []) (st' := []) (by decide) hu3 q669 sl_X4_beAs (M_X4_beAs hσ4) q668 q671 q102 dd_X4_beAs rfl ⟨Nat.le_of_ble_eq_true rfl, Nat.le_of_ble_eq_true rfl⟩ (Nat.le_of_ble_eq_true rfl) dX0_staysAbove_8 rfl rfl rfl ?_
  refine ro_iconst (pc' := 12) dX0_staysAbove_11 ic_0 rfl ?_
  refine ro_istore (pc' := 14) (L' := [some (va_rf r0), some (.int x1), some (.int x2), some (.int x3), some (.int x4), some (.int (0 : Int32)), none]) dX0_staysAbove_12 (Nat.le_of_ble_eq_true rfl) rfl (ah_okp_i _) rfl ?_
  refine ro_iconst (pc' := 15) dX0_staysAbove_14 ic_0 rfl ?_
  refine ro_istore (pc' := 17) (L' := [some (va_rf r0), some (.int x1), some (.int x2), some (.int x3), some (.int x4), some (.int (0 : Int32)), some (.int (0 : Int32))]) dX0_staysAbove_15 (Nat.le_of_ble_eq_true rfl) rfl (ah_okp_i _) rfl ?_
  exact W_X0_staysAbove_17 hκ _ _ _ _ _ _ _ _ _ h
theorem M_X0_staysAbove {l : Launch} {D : ah_D}  {σ : ah_S} {r0 : Option Nat} {x1 : Int32} {x2 : Int32} {x3 : Int32} {x4 : Int32} {v : Int32} {σ1 : ah_S} (h : F_X0_staysAbove σ r0 x1 x2 x3 x4 = some (v, σ1)) : ah_Met l yX0_staysAbove (Cond.code yX0_staysAbove cX0_staysAbove 7 (some FieldType.boolean)) 137 3951 D [va_rf r0, .int x1, .int x2, .int x3, .int x4] σ (.returned (some (.int v)), σ1) :=
  ah_ofG (own := "LeftAsFound") (nm := "staysAbove") (L0 := [some (va_rf r0), some (.int x1), some (.int x2), some (.int x3), some (.int x4), none, none]) (by decide) rfl rfl rfl (ah_ao_1 (ah_rf_cat _) (ah_ao_1 rfl (ah_ao_1 rfl (ah_ao_1 rfl (ah_ao_1 rfl (ah_ao_n (ah_ao_n ah_ao_0))))))) (fun κ hκ => W_X0_staysAbove hκ  σ r0 x1 x2 x3 x4 h)
set_option maxRecDepth 20000 in
set_option maxHeartbeats 4000000 in
theorem W_X0_often_47 {κ : ah_C} {rr : (Int32 × ah_S)} (hκ : ah_res κ = (.returned (some (.int rr.1)), rr.2))    : ∀ (n : Nat) (σ : ah_S) (r0 : Option Nat) (x2 : Int32) (x3 : Int32) (x4 : Int32), F_X0_often_47 n σ r0 x2 x3 x4 = some rr → ah_G κ ("LeftAsFound", "often", 5, (some FieldType.int), [], 138, 3977) cX0_often σ 47 [some (va_rf r0), none, some (.int x2), some (.int x3), some (.int x4)] [] := by
  intro n
  induction n with
  | zero => intro σ r0 x2 x3 x4 h; cases h
  | succ n ih =>
    intro σ r0 x2 x3 x4 h
    rw [F_X0_often_47] at h
    refine ro_iload (pc' := 49) dX0_often_47 rfl rfl ?_
    refine ro_if_le (pc' := 52) (tgt := 79) dX0_often_49 rfl rfl (fun c => ?_) (fun c => ?_)
    · replace h := ah_ip c h
      refine ro_bipush (pc' := 81) dX0_often_79 ib_m2 rfl ?_
      obtain rfl := Option.some.inj h
      exact ro_iret hκ dX0_often_81
    · replace h := ah_in_ c h
      refine ro_aload_n (pc' := 53) dX0_often_52 rfl rfl rfl ?_
      refine ro_iload_n (pc' := 54) dX0_often_53 rfl rfl rfl ?_
      refine ro_bipush (pc' := 56) dX0_often_54 ib_10 rfl ?_
      obtain ⟨q1, hq1, h⟩ := ah_bs h
      refine ro_idiv (pc' := 57) dX0_often_56 rfl hq1 ?_
      refine ro_iload_n (pc' := 58) dX0_often_57 rfl rfl rfl ?_
      refine ro_bipush (pc' := 60) dX0_often_58 ib_10 rfl ?_
      obtain ⟨q2, hq2, h⟩ := ah_bs h
      refine ro_irem (pc' := 61) dX0_often_60 rfl hq2 ?_
      refine ro_iload_n (pc' := 62) dX0_often_61 rfl rfl rfl ?_
      refine ro_iload (pc' := 64) dX0_often_62 rfl rfl ?_
      obtain ⟨u3, hu3, h⟩ := ah_bs h
      obtain ⟨v4, σ5, hv4, h⟩ := ah_bs2 h
      refine ro_callV (pc' := 67) (As := [.int q1, .int q2, .int x3, .int x4]) (rest := []) (st' := [.int v4]) (by decide) hu3 q764 sl_X0_staysAbove (M_X0_staysAbove hv4) q762 q765 q95 dd_X0_staysAbove rfl ⟨Nat.le_of_ble_eq_true rfl, Nat.le_of_ble_eq_true rfl⟩ (Nat.le_of_ble_eq_true rfl) dX0_often_64 rfl rfl rfl ?_
      refine ro_if_eq (pc' := 70) (tgt := 73) dX0_often_67 rfl rfl (fun c => ?_) (fun c => ?_)
      · replace h := ah_ip c h
        refine ro_iinc (pc' := 76) (L' := [some (va_rf r0), none, some (.int x2), some (.int x3), some (.int (x4 + (-1 : Int32)))]) dX0_often_73 rfl ic_m1 (Nat.le_of_ble_eq_true rfl) rfl (ah_okp_i _) rfl ?_
        refine ro_goto (tgt := 47) dX0_often_76 rfl ?_
        exact ih _ _ _ _ _ h
      · replace h := ah_in_ c h
        refine ro_iload (pc' := 72) dX0_often_70 rfl rfl ?_
        obtain rfl := Option.some.inj h
        exact ro_iret hκ dX0_often_72
set_option maxRecDepth 20000 in
set_option maxHeartbeats 4000000 in
theorem W_X0_often {κ : ah_C} {rr : (Int32 × ah_S)} (hκ : ah_res κ = (.returned (some (.int rr.1)), rr.2))  (σ : ah_S) (r0 : Option Nat) (x1 : Int32) (x2 : Int32) (x3 : Int32) (h : F_X0_often σ r0 x1 x2 x3 = some rr) : ah_G κ ("LeftAsFound", "often", 5, (some FieldType.int), [], 138, 3977) cX0_often σ 0 [some (va_rf r0), some (.int x1), some (.int x2), some (.int x3), none] [] := by
  unfold F_X0_often at h
  refine ro_iload_n (pc' := 1) dX0_often_0 rfl rfl rfl ?_
  obtain ⟨v1, σ2, hv1, h⟩ := ah_bs2 h
  refine ro_callS (pc' := 4) (As := [.int x1]) (rest := []) (st' := [.int v1]) q471 (M_X0_isShelf hv1) q470 q472 q95 dd_X0_isShelf rfl ⟨Nat.le_of_ble_eq_true rfl, Nat.le_of_ble_eq_true rfl⟩ (Nat.le_of_ble_eq_true rfl) dX0_often_1 rfl rfl rfl ?_
  refine ro_if_eq (pc' := 7) (tgt := 27) dX0_often_4 rfl rfl (fun c => ?_) (fun c => ?_)
  · replace h := ah_ip c h
    refine ro_iconst (pc' := 28) dX0_often_27 ic_m1 rfl ?_
    obtain rfl := Option.some.inj h
    exact ro_iret hκ dX0_often_28
  · replace h := ah_in_ c h
    refine ro_aload_n (pc' := 8) dX0_often_7 rfl rfl rfl ?_
    refine ro_iload_n (pc' := 9) dX0_often_8 rfl rfl rfl ?_
    obtain ⟨u3, hu3, h⟩ := ah_bs h
    obtain ⟨v4, σ5, hv4, h⟩ := ah_bs2 h
    refine ro_callV (pc' := 12) (As := [.int x2]) (rest := []) (st' := [.int v4]) (by decide) hu3 q501 sl_X0_isGt (M_X0_isGt hv4) q499 q502 q95 dd_X0_isGt rfl ⟨Nat.le_of_ble_eq_true rfl, Nat.le_of_ble_eq_true rfl⟩ (Nat.le_of_ble_eq_true rfl) dX0_often_9 rfl rfl rfl ?_
    refine ro_if_eq (pc' := 15) (tgt := 27) dX0_often_12 rfl rfl (fun c => ?_) (fun c => ?_)
    · replace h := ah_ip c h
      refine ro_iconst (pc' := 28) dX0_often_27 ic_m1 rfl ?_
      obtain rfl := Option.some.inj h
      exact ro_iret hκ dX0_often_28
    · replace h := ah_in_ c h
      refine ro_iload_n (pc' := 16) dX0_often_15 rfl rfl rfl ?_
      refine ro_i2l (pc' := 17) dX0_often_16 rfl ?_
      refine ro_lconst (pc' := 18) dX0_often_17 lc_0 rfl ?_
      refine ro_ldc2 (pc' := 21) q724 dX0_often_18 rfl ?_
      obtain ⟨v6, σ7, hv6, h⟩ := ah_bs2 h
      refine ro_callS (pc' := 24) (As := [.long (x3.toInt64), .long (0 : Int64), .long (99 : Int64)]) (rest := []) (st' := [.int v6]) q429 (M_X0_within hv6) q428 q430 q95 dd_X0_within rfl ⟨Nat.le_of_ble_eq_true rfl, Nat.le_of_ble_eq_true rfl⟩ (Nat.le_of_ble_eq_true rfl) dX0_often_21 rfl rfl rfl ?_
      refine ro_if_ne (pc' := 27) (tgt := 29) dX0_often_24 rfl rfl (fun c => ?_) (fun c => ?_)
      · replace h := ah_in_ c h
        refine ro_aload_n (pc' := 30) dX0_often_29 rfl rfl rfl ?_
        refine ro_iload_n (pc' := 31) dX0_often_30 rfl rfl rfl ?_
        obtain ⟨u8, hu8, h⟩ := ah_bs h
        obtain ⟨v9, σ10, hv9, h⟩ := ah_bs2 h
        refine ro_callV (pc' := 34) (As := [.int x1]) (rest := []) (st' := [.int v9]) (by decide) hu8 q655 sl_X0_takes1Row (M_X0_takes1Row hv9) q653 q656 q95 dd_X0_takes1Row rfl ⟨Nat.le_of_ble_eq_true rfl, Nat.le_of_ble_eq_true rfl⟩ (Nat.le_of_ble_eq_true rfl) dX0_often_31 rfl rfl rfl ?_
        refine ro_if_ge (pc' := 37) (tgt := 43) dX0_often_34 rfl rfl (fun c => ?_) (fun c => ?_)
        · replace h := ah_ip c h
          refine ro_bipush (pc' := 45) dX0_often_43 ib_12 rfl ?_
          refine ro_istore (pc' := 47) (L' := [some (va_rf r0), some (.int x1), some (.int x2), some (.int x3), some (.int (12 : Int32))]) dX0_often_45 (Nat.le_of_ble_eq_true rfl) rfl (ah_okp_i _) rfl ?_
          refine ro_weak (L' := [some (va_rf r0), none, some (.int x2), some (.int x3), some (.int (12 : Int32))]) (ah_ls_s (ah_ls_n (ah_ls_s (ah_ls_s (ah_ls_s ah_ls_0))))) ?_
          exact W_X0_often_47 hκ _ _ _ _ _ _ h
        · replace h := ah_in_ c h
          refine ro_aload_n (pc' := 38) dX0_often_37 rfl rfl rfl ?_
          refine ro_iload_n (pc' := 39) dX0_often_38 rfl rfl rfl ?_
          obtain ⟨u11, hu11, h⟩ := ah_bs h
          obtain ⟨v12, σ13, hv12, h⟩ := ah_bs2 h
          refine ro_callV (pc' := 42) (As := [.int x1]) (rest := []) (st' := [.int v12]) (by decide) hu11 q659 sl_X0_lookAt (M_X0_lookAt hv12) q657 q660 q95 dd_X0_lookAt rfl ⟨Nat.le_of_ble_eq_true rfl, Nat.le_of_ble_eq_true rfl⟩ (Nat.le_of_ble_eq_true rfl) dX0_often_39 rfl rfl rfl ?_
          obtain rfl := Option.some.inj h
          exact ro_iret hκ dX0_often_42
      · replace h := ah_ip c h
        refine ro_iconst (pc' := 28) dX0_often_27 ic_m1 rfl ?_
        obtain rfl := Option.some.inj h
        exact ro_iret hκ dX0_often_28
theorem M_X0_often {l : Launch} {D : ah_D}  {σ : ah_S} {r0 : Option Nat} {x1 : Int32} {x2 : Int32} {x3 : Int32} {v : Int32} {σ1 : ah_S} (h : F_X0_often σ r0 x1 x2 x3 = some (v, σ1)) : ah_Met l yX0_often (Cond.code yX0_often cX0_often 5 (some FieldType.int)) 138 3977 D [va_rf r0, .int x1, .int x2, .int x3] σ (.returned (some (.int v)), σ1) :=
  ah_ofG (own := "LeftAsFound") (nm := "often") (L0 := [some (va_rf r0), some (.int x1), some (.int x2), some (.int x3), none]) (by decide) rfl rfl rfl (ah_ao_1 (ah_rf_cat _) (ah_ao_1 rfl (ah_ao_1 rfl (ah_ao_1 rfl (ah_ao_n ah_ao_0))))) (fun κ hκ => W_X0_often hκ  σ r0 x1 x2 x3 h)
set_option maxRecDepth 20000 in
set_option maxHeartbeats 4000000 in
theorem W_X0_rest {κ : ah_C} {rr : (Int32 × ah_S)} (hκ : ah_res κ = (.returned (some (.int rr.1)), rr.2))  (σ : ah_S) (r0 : Option Nat) (x1 : Int32) (x2 : Int32) (h : F_X0_rest σ r0 x1 x2 = some rr) : ah_G κ ("LeftAsFound", "rest", 3, (some FieldType.int), [], 138, 3973) cX0_rest σ 0 [some (va_rf r0), some (.int x1), some (.int x2)] [] := by
  unfold F_X0_rest at h
  refine ro_iload_n (pc' := 1) dX0_rest_0 rfl rfl rfl ?_
  obtain ⟨v1, σ2, hv1, h⟩ := ah_bs2 h
  refine ro_callS (pc' := 4) (As := [.int x1]) (rest := []) (st' := [.int v1]) q471 (M_X0_isShelf hv1) q470 q472 q95 dd_X0_isShelf rfl ⟨Nat.le_of_ble_eq_true rfl, Nat.le_of_ble_eq_true rfl⟩ (Nat.le_of_ble_eq_true rfl) dX0_rest_1 rfl rfl rfl ?_
  refine ro_if_eq (pc' := 7) (tgt := 19) dX0_rest_4 rfl rfl (fun c => ?_) (fun c => ?_)
  · replace h := ah_ip c h
    refine ro_iconst (pc' := 20) dX0_rest_19 ic_m1 rfl ?_
    obtain rfl := Option.some.inj h
    exact ro_iret hκ dX0_rest_20
  · replace h := ah_in_ c h
    refine ro_iload_n (pc' := 8) dX0_rest_7 rfl rfl rfl ?_
    refine ro_i2l (pc' := 9) dX0_rest_8 rfl ?_
    refine ro_lconst (pc' := 10) dX0_rest_9 lc_0 rfl ?_
    refine ro_ldc2 (pc' := 13) q473 dX0_rest_10 rfl ?_
    obtain ⟨v3, σ4, hv3, h⟩ := ah_bs2 h
    refine ro_callS (pc' := 16) (As := [.long (x2.toInt64), .long (0 : Int64), .long (5 : Int64)]) (rest := []) (st' := [.int v3]) q429 (M_X0_within hv3) q428 q430 q95 dd_X0_within rfl ⟨Nat.le_of_ble_eq_true rfl, Nat.le_of_ble_eq_true rfl⟩ (Nat.le_of_ble_eq_true rfl) dX0_rest_13 rfl rfl rfl ?_
    refine ro_if_ne (pc' := 19) (tgt := 21) dX0_rest_16 rfl rfl (fun c => ?_) (fun c => ?_)
    · replace h := ah_in_ c h
      refine ro_aload_n (pc' := 22) dX0_rest_21 rfl rfl rfl ?_
      refine ro_iload_n (pc' := 23) dX0_rest_22 rfl rfl rfl ?_
      obtain ⟨u5, hu5, h⟩ := ah_bs h
      obtain ⟨v6, σ7, hv6, h⟩ := ah_bs2 h
      refine ro_callV (pc' := 26) (As := [.int x1]) (rest := []) (st' := [.int v6]) (by decide) hu5 q655 sl_X0_takes1Row (M_X0_takes1Row hv6) q653 q656 q95 dd_X0_takes1Row rfl ⟨Nat.le_of_ble_eq_true rfl, Nat.le_of_ble_eq_true rfl⟩ (Nat.le_of_ble_eq_true rfl) dX0_rest_23 rfl rfl rfl ?_
      refine ro_if_ge (pc' := 29) (tgt := 35) dX0_rest_26 rfl rfl (fun c => ?_) (fun c => ?_)
      · replace h := ah_ip c h
        refine ro_aload_n (pc' := 36) dX0_rest_35 rfl rfl rfl ?_
        obtain ⟨u8, hu8, h⟩ := ah_bs h
        obtain ⟨v9, σ10, hv9, h⟩ := ah_bs2 h
        refine ro_callV (pc' := 39) (As := []) (rest := []) (st' := [.int v9]) (by decide) hu8 q748 sl_X0_findRest (M_X0_findRest hv9) q746 q749 q95 dd_X0_findRest rfl ⟨Nat.le_of_ble_eq_true rfl, Nat.le_of_ble_eq_true rfl⟩ (Nat.le_of_ble_eq_true rfl) dX0_rest_36 rfl rfl rfl ?_
        refine ro_if_ne (pc' := 42) (tgt := 45) dX0_rest_39 rfl rfl (fun c => ?_) (fun c => ?_)
        · replace h := ah_in_ c h
          refine ro_iload_n (pc' := 46) dX0_rest_45 rfl rfl rfl ?_
          refine ro_if_ne (pc' := 49) (tgt := 56) dX0_rest_46 rfl rfl (fun c => ?_) (fun c => ?_)
          · replace h := ah_in_ c h
            refine ro_iload_n (pc' := 57) dX0_rest_56 rfl rfl rfl ?_
            refine ro_iconst (pc' := 58) dX0_rest_57 ic_1 rfl ?_
            refine ro_icmp_ne (pc' := 61) (tgt := 68) dX0_rest_58 rfl rfl (fun c => ?_) (fun c => ?_)
            · replace h := ah_in_ c h
              refine ro_aload_n (pc' := 69) dX0_rest_68 rfl rfl rfl ?_
              obtain ⟨v11, hv11, h⟩ := ah_bs h
              refine ro_getR (pc' := 72) ft_22 fk_22 q316 dX0_rest_69 rfl hv11 ?_
              refine ro_aload_n (pc' := 73) dX0_rest_72 rfl rfl rfl ?_
              obtain ⟨v12, hv12, h⟩ := ah_bs h
              refine ro_getI (pc' := 76) ft_23 fk_23 q317 dX0_rest_73 rfl hv12 ?_
              refine ro_bipush (pc' := 78) dX0_rest_76 ib_37 rfl ?_
              refine ro_imul (pc' := 79) dX0_rest_78 rfl ?_
              refine ro_iconst (pc' := 80) dX0_rest_79 ic_2 rfl ?_
              refine ro_iload_n (pc' := 81) dX0_rest_80 rfl rfl rfl ?_
              refine ro_iconst (pc' := 82) dX0_rest_81 ic_2 rfl ?_
              refine ro_isub (pc' := 83) dX0_rest_82 rfl ?_
              refine ro_imul (pc' := 84) dX0_rest_83 rfl ?_
              refine ro_iadd (pc' := 85) dX0_rest_84 rfl ?_
              obtain ⟨v13, hv13, h⟩ := ah_bs h
              refine ro_iaload (pc' := 86) dX0_rest_85 rfl hv13 ?_
              obtain rfl := Option.some.inj h
              exact ro_iret hκ dX0_rest_86
            · replace h := ah_ip c h
              refine ro_aload_n (pc' := 62) dX0_rest_61 rfl rfl rfl ?_
              obtain ⟨v14, hv14, h⟩ := ah_bs h
              refine ro_getI (pc' := 65) ft_24 fk_24 q318 dX0_rest_62 rfl hv14 ?_
              refine ro_goto (tgt := 86) dX0_rest_65 rfl ?_
              obtain rfl := Option.some.inj h
              exact ro_iret hκ dX0_rest_86
          · replace h := ah_ip c h
            refine ro_aload_n (pc' := 50) dX0_rest_49 rfl rfl rfl ?_
            obtain ⟨v15, hv15, h⟩ := ah_bs h
            refine ro_getI (pc' := 53) ft_23 fk_23 q317 dX0_rest_50 rfl hv15 ?_
            refine ro_goto (tgt := 86) dX0_rest_53 rfl ?_
            obtain rfl := Option.some.inj h
            exact ro_iret hκ dX0_rest_86
        · replace h := ah_ip c h
          refine ro_bipush (pc' := 44) dX0_rest_42 ib_m2 rfl ?_
          obtain rfl := Option.some.inj h
          exact ro_iret hκ dX0_rest_44
      · replace h := ah_in_ c h
        refine ro_aload_n (pc' := 30) dX0_rest_29 rfl rfl rfl ?_
        refine ro_iload_n (pc' := 31) dX0_rest_30 rfl rfl rfl ?_
        obtain ⟨u16, hu16, h⟩ := ah_bs h
        obtain ⟨v17, σ18, hv17, h⟩ := ah_bs2 h
        refine ro_callV (pc' := 34) (As := [.int x1]) (rest := []) (st' := [.int v17]) (by decide) hu16 q659 sl_X0_lookAt (M_X0_lookAt hv17) q657 q660 q95 dd_X0_lookAt rfl ⟨Nat.le_of_ble_eq_true rfl, Nat.le_of_ble_eq_true rfl⟩ (Nat.le_of_ble_eq_true rfl) dX0_rest_31 rfl rfl rfl ?_
        obtain rfl := Option.some.inj h
        exact ro_iret hκ dX0_rest_34
    · replace h := ah_ip c h
      refine ro_iconst (pc' := 20) dX0_rest_19 ic_m1 rfl ?_
      obtain rfl := Option.some.inj h
      exact ro_iret hκ dX0_rest_20
theorem M_X0_rest {l : Launch} {D : ah_D}  {σ : ah_S} {r0 : Option Nat} {x1 : Int32} {x2 : Int32} {v : Int32} {σ1 : ah_S} (h : F_X0_rest σ r0 x1 x2 = some (v, σ1)) : ah_Met l yX0_rest (Cond.code yX0_rest cX0_rest 3 (some FieldType.int)) 138 3973 D [va_rf r0, .int x1, .int x2] σ (.returned (some (.int v)), σ1) :=
  ah_ofG (own := "LeftAsFound") (nm := "rest") (L0 := [some (va_rf r0), some (.int x1), some (.int x2)]) (by decide) rfl rfl rfl (ah_ao_1 (ah_rf_cat _) (ah_ao_1 rfl (ah_ao_1 rfl ah_ao_0))) (fun κ hκ => W_X0_rest hκ  σ r0 x1 x2 h)
set_option maxRecDepth 20000 in
set_option maxHeartbeats 4000000 in
theorem W_X0_since_60 {κ : ah_C} {rr : (Int32 × ah_S)} (hκ : ah_res κ = (.returned (some (.int rr.1)), rr.2))    : ∀ (n : Nat) (σ : ah_S) (r0 : Option Nat) (x2 : Int32) (x3 : Int32) (x4 : Int32) (x5 : Int32), F_X0_since_60 n σ r0 x2 x3 x4 x5 = some rr → ah_G κ ("LeftAsFound", "since", 6, (some FieldType.int), [], 137, 3951) cX0_since σ 60 [some (va_rf r0), none, some (.int x2), some (.int x3), some (.int x4), some (.int x5)] [] := by
  intro n
  induction n with
  | zero => intro σ r0 x2 x3 x4 x5 h; cases h
  | succ n ih =>
    intro σ r0 x2 x3 x4 x5 h
    rw [F_X0_since_60] at h
    refine ro_iload (pc' := 62) dX0_since_60 rfl rfl ?_
    refine ro_aload_n (pc' := 63) dX0_since_62 rfl rfl rfl ?_
    obtain ⟨v1, hv1, h⟩ := ah_bs h
    refine ro_getI (pc' := 66) ft_21 fk_21 q315 dX0_since_63 rfl hv1 ?_
    refine ro_icmp_ge (pc' := 69) (tgt := 105) dX0_since_66 rfl rfl (fun c => ?_) (fun c => ?_)
    · replace h := ah_ip c h
      refine ro_iload (pc' := 107) dX0_since_105 rfl rfl ?_
      obtain rfl := Option.some.inj h
      exact ro_iret hκ dX0_since_107
    · replace h := ah_in_ c h
      refine ro_aload_n (pc' := 70) dX0_since_69 rfl rfl rfl ?_
      obtain ⟨v2, hv2, h⟩ := ah_bs h
      refine ro_getR (pc' := 73) ft_19 fk_19 q313 dX0_since_70 rfl hv2 ?_
      refine ro_aload_n (pc' := 74) dX0_since_73 rfl rfl rfl ?_
      obtain ⟨v3, hv3, h⟩ := ah_bs h
      refine ro_getR (pc' := 77) ft_20 fk_20 q314 dX0_since_74 rfl hv3 ?_
      refine ro_iload (pc' := 79) dX0_since_77 rfl rfl ?_
      obtain ⟨v4, hv4, h⟩ := ah_bs h
      refine ro_iaload (pc' := 80) dX0_since_79 rfl hv4 ?_
      obtain ⟨u5, hu5, h⟩ := ah_bs h
      obtain ⟨σ6, hσ6, h⟩ := ah_bs h
      refine ro_callV (pc' := 83) (As := [.int v4]) (rest := []) (st' := []) (by decide) hu5 q676 sl_X4_night (M_X4_night hσ6) q675 q678 q102 dd_X4_night rfl ⟨Nat.le_of_ble_eq_true rfl, Nat.le_of_ble_eq_true rfl⟩ (Nat.le_of_ble_eq_true rfl) dX0_since_80 rfl rfl rfl ?_
      refine ro_aload_n (pc' := 84) dX0_since_83 rfl rfl rfl ?_
      obtain ⟨v7, hv7, h⟩ := ah_bs h
      refine ro_getR (pc' := 87) ft_19 fk_19 q313 dX0_since_84 rfl hv7 ?_
      refine ro_iload_n (pc' := 88) dX0_since_87 rfl rfl rfl ?_
      obtain ⟨u8, hu8, h⟩ := ah_bs h
      obtain ⟨v9, σ10, hv9, h⟩ := ah_bs2 h
      refine ro_callV (pc' := 91) (As := [.int x2]) (rest := []) (st' := [.int v9]) (by decide) hu8 q738 sl_X4_lacks (M_X4_lacks hv9) q797 q740 q102 dd_X4_lacks rfl ⟨Nat.le_of_ble_eq_true rfl, Nat.le_of_ble_eq_true rfl⟩ (Nat.le_of_ble_eq_true rfl) dX0_since_88 rfl rfl rfl ?_
      refine ro_iload_n (pc' := 92) dX0_since_91 rfl rfl rfl ?_
      refine ro_icmp_gt (pc' := 95) (tgt := 99) dX0_since_92 rfl rfl (fun c => ?_) (fun c => ?_)
      · replace h := ah_ip c h
        refine ro_iinc (pc' := 102) (L' := [some (va_rf r0), none, some (.int x2), some (.int x3), some (.int x4), some (.int (x5 + (1 : Int32)))]) dX0_since_99 rfl ic_1 (Nat.le_of_ble_eq_true rfl) rfl (ah_okp_i _) rfl ?_
        refine ro_goto (tgt := 60) dX0_since_102 rfl ?_
        exact ih _ _ _ _ _ _ h
      · replace h := ah_in_ c h
        refine ro_iload (pc' := 97) dX0_since_95 rfl rfl ?_
        refine ro_istore (pc' := 99) (L' := [some (va_rf r0), none, some (.int x2), some (.int x3), some (.int x5), some (.int x5)]) dX0_since_97 (Nat.le_of_ble_eq_true rfl) rfl (ah_okp_i _) rfl ?_
        refine ro_iinc (pc' := 102) (L' := [some (va_rf r0), none, some (.int x2), some (.int x3), some (.int x5), some (.int (x5 + (1 : Int32)))]) dX0_since_99 rfl ic_1 (Nat.le_of_ble_eq_true rfl) rfl (ah_okp_i _) rfl ?_
        refine ro_goto (tgt := 60) dX0_since_102 rfl ?_
        exact ih _ _ _ _ _ _ h
set_option maxRecDepth 20000 in
set_option maxHeartbeats 4000000 in
theorem W_X0_since {κ : ah_C} {rr : (Int32 × ah_S)} (hκ : ah_res κ = (.returned (some (.int rr.1)), rr.2))  (σ : ah_S) (r0 : Option Nat) (x1 : Int32) (x2 : Int32) (x3 : Int32) (h : F_X0_since σ r0 x1 x2 x3 = some rr) : ah_G κ ("LeftAsFound", "since", 6, (some FieldType.int), [], 137, 3951) cX0_since σ 0 [some (va_rf r0), some (.int x1), some (.int x2), some (.int x3), none, none] [] := by
  unfold F_X0_since at h
  refine ro_iload_n (pc' := 1) dX0_since_0 rfl rfl rfl ?_
  obtain ⟨v1, σ2, hv1, h⟩ := ah_bs2 h
  refine ro_callS (pc' := 4) (As := [.int x1]) (rest := []) (st' := [.int v1]) q471 (M_X0_isShelf hv1) q470 q472 q95 dd_X0_isShelf rfl ⟨Nat.le_of_ble_eq_true rfl, Nat.le_of_ble_eq_true rfl⟩ (Nat.le_of_ble_eq_true rfl) dX0_since_1 rfl rfl rfl ?_
  refine ro_if_eq (pc' := 7) (tgt := 26) dX0_since_4 rfl rfl (fun c => ?_) (fun c => ?_)
  · replace h := ah_ip c h
    refine ro_iconst (pc' := 27) dX0_since_26 ic_m1 rfl ?_
    obtain rfl := Option.some.inj h
    exact ro_iret hκ dX0_since_27
  · replace h := ah_in_ c h
    refine ro_iload_n (pc' := 8) dX0_since_7 rfl rfl rfl ?_
    obtain ⟨v3, σ4, hv3, h⟩ := ah_bs2 h
    refine ro_callS (pc' := 11) (As := [.int x2]) (rest := []) (st' := [.int v3]) q497 (M_X0_isThing hv3) q496 q498 q95 dd_X0_isThing rfl ⟨Nat.le_of_ble_eq_true rfl, Nat.le_of_ble_eq_true rfl⟩ (Nat.le_of_ble_eq_true rfl) dX0_since_8 rfl rfl rfl ?_
    refine ro_if_eq (pc' := 14) (tgt := 26) dX0_since_11 rfl rfl (fun c => ?_) (fun c => ?_)
    · replace h := ah_ip c h
      refine ro_iconst (pc' := 27) dX0_since_26 ic_m1 rfl ?_
      obtain rfl := Option.some.inj h
      exact ro_iret hκ dX0_since_27
    · replace h := ah_in_ c h
      refine ro_iload_n (pc' := 15) dX0_since_14 rfl rfl rfl ?_
      refine ro_i2l (pc' := 16) dX0_since_15 rfl ?_
      refine ro_lconst (pc' := 17) dX0_since_16 lc_0 rfl ?_
      refine ro_ldc2 (pc' := 20) q724 dX0_since_17 rfl ?_
      obtain ⟨v5, σ6, hv5, h⟩ := ah_bs2 h
      refine ro_callS (pc' := 23) (As := [.long (x3.toInt64), .long (0 : Int64), .long (99 : Int64)]) (rest := []) (st' := [.int v5]) q429 (M_X0_within hv5) q428 q430 q95 dd_X0_within rfl ⟨Nat.le_of_ble_eq_true rfl, Nat.le_of_ble_eq_true rfl⟩ (Nat.le_of_ble_eq_true rfl) dX0_since_20 rfl rfl rfl ?_
      refine ro_if_ne (pc' := 26) (tgt := 28) dX0_since_23 rfl rfl (fun c => ?_) (fun c => ?_)
      · replace h := ah_in_ c h
        refine ro_aload_n (pc' := 29) dX0_since_28 rfl rfl rfl ?_
        refine ro_iload_n (pc' := 30) dX0_since_29 rfl rfl rfl ?_
        obtain ⟨u7, hu7, h⟩ := ah_bs h
        obtain ⟨v8, σ9, hv8, h⟩ := ah_bs2 h
        refine ro_callV (pc' := 33) (As := [.int x1]) (rest := []) (st' := [.int v8]) (by decide) hu7 q655 sl_X0_takes1Row (M_X0_takes1Row hv8) q653 q656 q95 dd_X0_takes1Row rfl ⟨Nat.le_of_ble_eq_true rfl, Nat.le_of_ble_eq_true rfl⟩ (Nat.le_of_ble_eq_true rfl) dX0_since_30 rfl rfl rfl ?_
        refine ro_if_ge (pc' := 36) (tgt := 42) dX0_since_33 rfl rfl (fun c => ?_) (fun c => ?_)
        · replace h := ah_ip c h
          refine ro_aload_n (pc' := 43) dX0_since_42 rfl rfl rfl ?_
          obtain ⟨v10, hv10, h⟩ := ah_bs h
          refine ro_getR (pc' := 46) ft_19 fk_19 q313 dX0_since_43 rfl hv10 ?_
          refine ro_aload_n (pc' := 47) dX0_since_46 rfl rfl rfl ?_
          obtain ⟨v11, hv11, h⟩ := ah_bs h
          refine ro_getR (pc' := 50) ft_18 fk_18 q312 dX0_since_47 rfl hv11 ?_
          obtain ⟨u12, hu12, h⟩ := ah_bs h
          obtain ⟨σ13, hσ13, h⟩ := ah_bs h
          refine ro_callV (pc' := 53) (As := [va_rf v11]) (rest := []) (st' := []) (by decide) hu12 q669 sl_X4_beAs (M_X4_beAs hσ13) q668 q671 q102 dd_X4_beAs rfl ⟨Nat.le_of_ble_eq_true rfl, Nat.le_of_ble_eq_true rfl⟩ (Nat.le_of_ble_eq_true rfl) dX0_since_50 rfl rfl rfl ?_
          refine ro_bipush (pc' := 55) dX0_since_53 ib_m2 rfl ?_
          refine ro_istore (pc' := 57) (L' := [some (va_rf r0), some (.int x1), some (.int x2), some (.int x3), some (.int (-2 : Int32)), none]) dX0_since_55 (Nat.le_of_ble_eq_true rfl) rfl (ah_okp_i _) rfl ?_
          refine ro_iconst (pc' := 58) dX0_since_57 ic_0 rfl ?_
          refine ro_istore (pc' := 60) (L' := [some (va_rf r0), some (.int x1), some (.int x2), some (.int x3), some (.int (-2 : Int32)), some (.int (0 : Int32))]) dX0_since_58 (Nat.le_of_ble_eq_true rfl) rfl (ah_okp_i _) rfl ?_
          refine ro_weak (L' := [some (va_rf r0), none, some (.int x2), some (.int x3), some (.int (-2 : Int32)), some (.int (0 : Int32))]) (ah_ls_s (ah_ls_n (ah_ls_s (ah_ls_s (ah_ls_s (ah_ls_s ah_ls_0)))))) ?_
          exact W_X0_since_60 hκ _ _ _ _ _ _ _ h
        · replace h := ah_in_ c h
          refine ro_aload_n (pc' := 37) dX0_since_36 rfl rfl rfl ?_
          refine ro_iload_n (pc' := 38) dX0_since_37 rfl rfl rfl ?_
          obtain ⟨u14, hu14, h⟩ := ah_bs h
          obtain ⟨v15, σ16, hv15, h⟩ := ah_bs2 h
          refine ro_callV (pc' := 41) (As := [.int x1]) (rest := []) (st' := [.int v15]) (by decide) hu14 q659 sl_X0_lookAt (M_X0_lookAt hv15) q657 q660 q95 dd_X0_lookAt rfl ⟨Nat.le_of_ble_eq_true rfl, Nat.le_of_ble_eq_true rfl⟩ (Nat.le_of_ble_eq_true rfl) dX0_since_38 rfl rfl rfl ?_
          obtain rfl := Option.some.inj h
          exact ro_iret hκ dX0_since_41
      · replace h := ah_ip c h
        refine ro_iconst (pc' := 27) dX0_since_26 ic_m1 rfl ?_
        obtain rfl := Option.some.inj h
        exact ro_iret hκ dX0_since_27
theorem M_X0_since {l : Launch} {D : ah_D}  {σ : ah_S} {r0 : Option Nat} {x1 : Int32} {x2 : Int32} {x3 : Int32} {v : Int32} {σ1 : ah_S} (h : F_X0_since σ r0 x1 x2 x3 = some (v, σ1)) : ah_Met l yX0_since (Cond.code yX0_since cX0_since 6 (some FieldType.int)) 137 3951 D [va_rf r0, .int x1, .int x2, .int x3] σ (.returned (some (.int v)), σ1) :=
  ah_ofG (own := "LeftAsFound") (nm := "since") (L0 := [some (va_rf r0), some (.int x1), some (.int x2), some (.int x3), none, none]) (by decide) rfl rfl rfl (ah_ao_1 (ah_rf_cat _) (ah_ao_1 rfl (ah_ao_1 rfl (ah_ao_1 rfl (ah_ao_n (ah_ao_n ah_ao_0)))))) (fun κ hκ => W_X0_since hκ  σ r0 x1 x2 x3 h)
set_option maxRecDepth 20000 in
set_option maxHeartbeats 4000000 in
theorem W_X0_spoils_103 {κ : ah_C} {rr : (Int32 × ah_S)} (hκ : ah_res κ = (.returned (some (.int rr.1)), rr.2))  {k75 : ah_S → Option Nat → Int32 → Int32 → Int32 → Int32 → Int32 → Int32 → Option (Int32 × ah_S)} (hk75 : ∀ (σ : ah_S) (r0 : Option Nat) (x2 : Int32) (x3 : Int32) (x4 : Int32) (x5 : Int32) (x6 : Int32) (x7 : Int32), k75 σ r0 x2 x3 x4 x5 x6 x7 = some rr → ah_G κ ("LeftAsFound", "spoils", 8, (some FieldType.int), [], 138, 3973) cX0_spoils σ 75 [some (va_rf r0), none, some (.int x2), some (.int x3), some (.int x4), some (.int x5), some (.int x6), some (.int x7)] []) : ∀ (σ : ah_S) (r0 : Option Nat) (x2 : Int32) (x3 : Int32) (x4 : Int32) (x5 : Int32) (x7 : Int32) (y0 : Int32) (y1 : Int32), F_X0_spoils_103 k75 σ r0 x2 x3 x4 x5 x7 y0 y1 = some rr → ah_G κ ("LeftAsFound", "spoils", 8, (some FieldType.int), [], 138, 3973) cX0_spoils σ 103 [some (va_rf r0), none, some (.int x2), some (.int x3), some (.int x4), some (.int x5), none, some (.int x7)] [.int y1, .int y0] := by
  intro σ r0 x2 x3 x4 x5 x7 y0 y1 h
  unfold F_X0_spoils_103 at h
  refine ro_ior (pc' := 104) dX0_spoils_103 rfl ?_
  refine ro_istore (pc' := 106) (L' := [some (va_rf r0), none, some (.int x2), some (.int x3), some (.int x4), some (.int x5), some (.int (y0 ||| y1)), some (.int x7)]) dX0_spoils_104 (Nat.le_of_ble_eq_true rfl) rfl (ah_okp_i _) rfl ?_
  refine ro_aload_n (pc' := 107) dX0_spoils_106 rfl rfl rfl ?_
  obtain ⟨v1, hv1, h⟩ := ah_bs h
  refine ro_getR (pc' := 110) ft_20 fk_20 q314 dX0_spoils_107 rfl hv1 ?_
  refine ro_iload (pc' := 112) dX0_spoils_110 rfl rfl ?_
  refine ro_aload_n (pc' := 113) dX0_spoils_112 rfl rfl rfl ?_
  obtain ⟨v2, hv2, h⟩ := ah_bs h
  refine ro_getR (pc' := 116) ft_25 fk_25 q319 dX0_spoils_113 rfl hv2 ?_
  refine ro_iload (pc' := 118) dX0_spoils_116 rfl rfl ?_
  obtain ⟨v3, hv3, h⟩ := ah_bs h
  refine ro_iaload (pc' := 119) dX0_spoils_118 rfl hv3 ?_
  refine ro_iload (pc' := 121) dX0_spoils_119 rfl rfl ?_
  refine ro_icmp_ne (pc' := 124) (tgt := 128) dX0_spoils_121 rfl rfl (fun c => ?_) (fun c => ?_)
  · replace h := ah_in_ c h
    refine ro_aload_n (pc' := 129) dX0_spoils_128 rfl rfl rfl ?_
    obtain ⟨v4, hv4, h⟩ := ah_bs h
    refine ro_getR (pc' := 132) ft_25 fk_25 q319 dX0_spoils_129 rfl hv4 ?_
    refine ro_iload (pc' := 134) dX0_spoils_132 rfl rfl ?_
    obtain ⟨v5, hv5, h⟩ := ah_bs h
    refine ro_iaload (pc' := 135) dX0_spoils_134 rfl hv5 ?_
    obtain ⟨σ6, hσ6, h⟩ := ah_bs h
    refine ro_iastore (pc' := 136) dX0_spoils_135 rfl hσ6 ?_
    refine ro_iinc (pc' := 139) (L' := [some (va_rf r0), none, some (.int x2), some (.int x3), some (.int x4), some (.int x5), some (.int (y0 ||| y1)), some (.int (x7 + (1 : Int32)))]) dX0_spoils_136 rfl ic_1 (Nat.le_of_ble_eq_true rfl) rfl (ah_okp_i _) rfl ?_
    refine ro_goto (tgt := 75) dX0_spoils_139 rfl ?_
    exact hk75 _ _ _ _ _ _ _ _ h
  · replace h := ah_ip c h
    refine ro_iconst (pc' := 125) dX0_spoils_124 ic_m1 rfl ?_
    refine ro_goto (tgt := 135) dX0_spoils_125 rfl ?_
    obtain ⟨σ7, hσ7, h⟩ := ah_bs h
    refine ro_iastore (pc' := 136) dX0_spoils_135 rfl hσ7 ?_
    refine ro_iinc (pc' := 139) (L' := [some (va_rf r0), none, some (.int x2), some (.int x3), some (.int x4), some (.int x5), some (.int (y0 ||| y1)), some (.int (x7 + (1 : Int32)))]) dX0_spoils_136 rfl ic_1 (Nat.le_of_ble_eq_true rfl) rfl (ah_okp_i _) rfl ?_
    refine ro_goto (tgt := 75) dX0_spoils_139 rfl ?_
    exact hk75 _ _ _ _ _ _ _ _ h
set_option maxRecDepth 20000 in
set_option maxHeartbeats 4000000 in
theorem W_X0_spoils_75 {κ : ah_C} {rr : (Int32 × ah_S)} (hκ : ah_res κ = (.returned (some (.int rr.1)), rr.2))  {k60 : ah_S → Option Nat → Int32 → Int32 → Int32 → Int32 → Option (Int32 × ah_S)} (hk60 : ∀ (σ : ah_S) (r0 : Option Nat) (x2 : Int32) (x3 : Int32) (x4 : Int32) (x5 : Int32), k60 σ r0 x2 x3 x4 x5 = some rr → ah_G κ ("LeftAsFound", "spoils", 8, (some FieldType.int), [], 138, 3973) cX0_spoils σ 60 [some (va_rf r0), none, some (.int x2), some (.int x3), some (.int x4), some (.int x5), none, none] []) : ∀ (n : Nat) (σ : ah_S) (r0 : Option Nat) (x2 : Int32) (x3 : Int32) (x4 : Int32) (x5 : Int32) (x6 : Int32) (x7 : Int32), F_X0_spoils_75 k60 n σ r0 x2 x3 x4 x5 x6 x7 = some rr → ah_G κ ("LeftAsFound", "spoils", 8, (some FieldType.int), [], 138, 3973) cX0_spoils σ 75 [some (va_rf r0), none, some (.int x2), some (.int x3), some (.int x4), some (.int x5), some (.int x6), some (.int x7)] [] := by
  intro n
  induction n with
  | zero => intro σ r0 x2 x3 x4 x5 x6 x7 h; cases h
  | succ n ih =>
    intro σ r0 x2 x3 x4 x5 x6 x7 h
    rw [F_X0_spoils_75] at h
    refine ro_iload (pc' := 77) dX0_spoils_75 rfl rfl ?_
    refine ro_aload_n (pc' := 78) dX0_spoils_77 rfl rfl rfl ?_
    obtain ⟨v1, hv1, h⟩ := ah_bs h
    refine ro_getI (pc' := 81) ft_21 fk_21 q315 dX0_spoils_78 rfl hv1 ?_
    refine ro_icmp_ge (pc' := 84) (tgt := 142) dX0_spoils_81 rfl rfl (fun c => ?_) (fun c => ?_)
    · replace h := ah_ip c h
      refine ro_iload (pc' := 144) dX0_spoils_142 rfl rfl ?_
      refine ro_if_ne (pc' := 147) (tgt := 150) dX0_spoils_144 rfl rfl (fun c => ?_) (fun c => ?_)
      · replace h := ah_in_ c h
        refine ro_aload_n (pc' := 151) dX0_spoils_150 rfl rfl rfl ?_
        obtain ⟨u2, hu2, h⟩ := ah_bs h
        obtain ⟨v3, σ4, hv3, h⟩ := ah_bs2 h
        refine ro_callV (pc' := 154) (As := []) (rest := []) (st' := [.int v3]) (by decide) hu2 q731 sl_X0_lossOfRow (M_X0_lossOfRow hv3) q729 q732 q95 dd_X0_lossOfRow rfl ⟨Nat.le_of_ble_eq_true rfl, Nat.le_of_ble_eq_true rfl⟩ (Nat.le_of_ble_eq_true rfl) dX0_spoils_151 rfl rfl rfl ?_
        refine ro_istore (pc' := 156) (L' := [some (va_rf r0), none, some (.int x2), some (.int x3), some (.int x4), some (.int x5), some (.int x6), some (.int v3)]) dX0_spoils_154 (Nat.le_of_ble_eq_true rfl) rfl (ah_okp_i _) rfl ?_
        refine ro_iload_n (pc' := 157) dX0_spoils_156 rfl rfl rfl ?_
        refine ro_bipush (pc' := 159) dX0_spoils_157 ib_m2 rfl ?_
        refine ro_icmp_eq (pc' := 162) (tgt := 172) dX0_spoils_159 rfl rfl (fun c => ?_) (fun c => ?_)
        · replace h := ah_ip c h
          refine ro_iload (pc' := 174) dX0_spoils_172 rfl rfl ?_
          refine ro_istore_n (pc' := 175) (L' := [some (va_rf r0), none, some (.int x2), some (.int x5), some (.int x4), some (.int x5), some (.int x6), some (.int v3)]) dX0_spoils_174 rfl (Nat.le_of_ble_eq_true rfl) rfl (ah_okp_i _) rfl ?_
          refine ro_iload (pc' := 177) dX0_spoils_175 rfl rfl ?_
          refine ro_istore (pc' := 179) (L' := [some (va_rf r0), none, some (.int x2), some (.int x5), some (.int v3), some (.int x5), some (.int x6), some (.int v3)]) dX0_spoils_177 (Nat.le_of_ble_eq_true rfl) rfl (ah_okp_i _) rfl ?_
          refine ro_iinc (pc' := 182) (L' := [some (va_rf r0), none, some (.int x2), some (.int x5), some (.int v3), some (.int (x5 + (1 : Int32))), some (.int x6), some (.int v3)]) dX0_spoils_179 rfl ic_1 (Nat.le_of_ble_eq_true rfl) rfl (ah_okp_i _) rfl ?_
          refine ro_goto (tgt := 60) dX0_spoils_182 rfl ?_
          refine ro_weak (L' := [some (va_rf r0), none, some (.int x2), some (.int x5), some (.int v3), some (.int (x5 + (1 : Int32))), none, none]) (ah_ls_s (ah_ls_s (ah_ls_s (ah_ls_s (ah_ls_s (ah_ls_s (ah_ls_n (ah_ls_n ah_ls_0)))))))) ?_
          exact hk60 _ _ _ _ _ _ h
        · replace h := ah_in_ c h
          refine ro_iload (pc' := 164) dX0_spoils_162 rfl rfl ?_
          refine ro_iload (pc' := 166) dX0_spoils_164 rfl rfl ?_
          refine ro_icmp_lt (pc' := 169) (tgt := 172) dX0_spoils_166 rfl rfl (fun c => ?_) (fun c => ?_)
          · replace h := ah_ip c h
            refine ro_iload (pc' := 174) dX0_spoils_172 rfl rfl ?_
            refine ro_istore_n (pc' := 175) (L' := [some (va_rf r0), none, some (.int x2), some (.int x5), some (.int x4), some (.int x5), some (.int x6), some (.int v3)]) dX0_spoils_174 rfl (Nat.le_of_ble_eq_true rfl) rfl (ah_okp_i _) rfl ?_
            refine ro_iload (pc' := 177) dX0_spoils_175 rfl rfl ?_
            refine ro_istore (pc' := 179) (L' := [some (va_rf r0), none, some (.int x2), some (.int x5), some (.int v3), some (.int x5), some (.int x6), some (.int v3)]) dX0_spoils_177 (Nat.le_of_ble_eq_true rfl) rfl (ah_okp_i _) rfl ?_
            refine ro_iinc (pc' := 182) (L' := [some (va_rf r0), none, some (.int x2), some (.int x5), some (.int v3), some (.int (x5 + (1 : Int32))), some (.int x6), some (.int v3)]) dX0_spoils_179 rfl ic_1 (Nat.le_of_ble_eq_true rfl) rfl (ah_okp_i _) rfl ?_
            refine ro_goto (tgt := 60) dX0_spoils_182 rfl ?_
            refine ro_weak (L' := [some (va_rf r0), none, some (.int x2), some (.int x5), some (.int v3), some (.int (x5 + (1 : Int32))), none, none]) (ah_ls_s (ah_ls_s (ah_ls_s (ah_ls_s (ah_ls_s (ah_ls_s (ah_ls_n (ah_ls_n ah_ls_0)))))))) ?_
            exact hk60 _ _ _ _ _ _ h
          · replace h := ah_in_ c h
            refine ro_goto (tgt := 179) dX0_spoils_169 rfl ?_
            refine ro_iinc (pc' := 182) (L' := [some (va_rf r0), none, some (.int x2), some (.int x3), some (.int x4), some (.int (x5 + (1 : Int32))), some (.int x6), some (.int v3)]) dX0_spoils_179 rfl ic_1 (Nat.le_of_ble_eq_true rfl) rfl (ah_okp_i _) rfl ?_
            refine ro_goto (tgt := 60) dX0_spoils_182 rfl ?_
            refine ro_weak (L' := [some (va_rf r0), none, some (.int x2), some (.int x3), some (.int x4), some (.int (x5 + (1 : Int32))), none, none]) (ah_ls_s (ah_ls_s (ah_ls_s (ah_ls_s (ah_ls_s (ah_ls_s (ah_ls_n (ah_ls_n ah_ls_0)))))))) ?_
            exact hk60 _ _ _ _ _ _ h
      · replace h := ah_ip c h
        refine ro_goto (tgt := 179) dX0_spoils_147 rfl ?_
        refine ro_iinc (pc' := 182) (L' := [some (va_rf r0), none, some (.int x2), some (.int x3), some (.int x4), some (.int (x5 + (1 : Int32))), some (.int x6), some (.int x7)]) dX0_spoils_179 rfl ic_1 (Nat.le_of_ble_eq_true rfl) rfl (ah_okp_i _) rfl ?_
        refine ro_goto (tgt := 60) dX0_spoils_182 rfl ?_
        refine ro_weak (L' := [some (va_rf r0), none, some (.int x2), some (.int x3), some (.int x4), some (.int (x5 + (1 : Int32))), none, none]) (ah_ls_s (ah_ls_s (ah_ls_s (ah_ls_s (ah_ls_s (ah_ls_s (ah_ls_n (ah_ls_n ah_ls_0)))))))) ?_
        exact hk60 _ _ _ _ _ _ h
    · replace h := ah_in_ c h
      refine ro_iload (pc' := 86) dX0_spoils_84 rfl rfl ?_
      refine ro_aload_n (pc' := 87) dX0_spoils_86 rfl rfl rfl ?_
      obtain ⟨v5, hv5, h⟩ := ah_bs h
      refine ro_getR (pc' := 90) ft_25 fk_25 q319 dX0_spoils_87 rfl hv5 ?_
      refine ro_iload (pc' := 92) dX0_spoils_90 rfl rfl ?_
      obtain ⟨v6, hv6, h⟩ := ah_bs h
      refine ro_iaload (pc' := 93) dX0_spoils_92 rfl hv6 ?_
      refine ro_iload (pc' := 95) dX0_spoils_93 rfl rfl ?_
      refine ro_icmp_ne (pc' := 98) (tgt := 102) dX0_spoils_95 rfl rfl (fun c => ?_) (fun c => ?_)
      · replace h := ah_in_ c h
        refine ro_iconst (pc' := 103) dX0_spoils_102 ic_0 rfl ?_
        refine ro_weak (L' := [some (va_rf r0), none, some (.int x2), some (.int x3), some (.int x4), some (.int x5), none, some (.int x7)]) (ah_ls_s (ah_ls_s (ah_ls_s (ah_ls_s (ah_ls_s (ah_ls_s (ah_ls_n (ah_ls_s ah_ls_0)))))))) ?_
        exact W_X0_spoils_103 hκ ih _ _ _ _ _ _ _ _ _ h
      · replace h := ah_ip c h
        refine ro_iconst (pc' := 99) dX0_spoils_98 ic_1 rfl ?_
        refine ro_goto (tgt := 103) dX0_spoils_99 rfl ?_
        refine ro_weak (L' := [some (va_rf r0), none, some (.int x2), some (.int x3), some (.int x4), some (.int x5), none, some (.int x7)]) (ah_ls_s (ah_ls_s (ah_ls_s (ah_ls_s (ah_ls_s (ah_ls_s (ah_ls_n (ah_ls_s ah_ls_0)))))))) ?_
        exact W_X0_spoils_103 hκ ih _ _ _ _ _ _ _ _ _ h
set_option maxRecDepth 20000 in
set_option maxHeartbeats 4000000 in
theorem W_X0_spoils_60 {κ : ah_C} {rr : (Int32 × ah_S)} (hκ : ah_res κ = (.returned (some (.int rr.1)), rr.2))    : ∀ (n : Nat) (σ : ah_S) (r0 : Option Nat) (x2 : Int32) (x3 : Int32) (x4 : Int32) (x5 : Int32), F_X0_spoils_60 n σ r0 x2 x3 x4 x5 = some rr → ah_G κ ("LeftAsFound", "spoils", 8, (some FieldType.int), [], 138, 3973) cX0_spoils σ 60 [some (va_rf r0), none, some (.int x2), some (.int x3), some (.int x4), some (.int x5), none, none] [] := by
  intro n
  induction n with
  | zero => intro σ r0 x2 x3 x4 x5 h; cases h
  | succ n ih =>
    intro σ r0 x2 x3 x4 x5 h
    rw [F_X0_spoils_60] at h
    refine ro_iload (pc' := 62) dX0_spoils_60 rfl rfl ?_
    refine ro_aload_n (pc' := 63) dX0_spoils_62 rfl rfl rfl ?_
    obtain ⟨v1, hv1, h⟩ := ah_bs h
    refine ro_getI (pc' := 66) ft_8 fk_8 q299 dX0_spoils_63 rfl hv1 ?_
    refine ro_icmp_ge (pc' := 69) (tgt := 185) dX0_spoils_66 rfl rfl (fun c => ?_) (fun c => ?_)
    · replace h := ah_ip c h
      refine ro_iload_n (pc' := 186) dX0_spoils_185 rfl rfl rfl ?_
      refine ro_if_ne (pc' := 189) (tgt := 193) dX0_spoils_186 rfl rfl (fun c => ?_) (fun c => ?_)
      · replace h := ah_in_ c h
        refine ro_iload (pc' := 195) dX0_spoils_193 rfl rfl ?_
        obtain rfl := Option.some.inj h
        exact ro_iret hκ dX0_spoils_195
      · replace h := ah_ip c h
        refine ro_iload_n (pc' := 190) dX0_spoils_189 rfl rfl rfl ?_
        refine ro_goto (tgt := 195) dX0_spoils_190 rfl ?_
        obtain rfl := Option.some.inj h
        exact ro_iret hκ dX0_spoils_195
    · replace h := ah_in_ c h
      refine ro_iconst (pc' := 70) dX0_spoils_69 ic_0 rfl ?_
      refine ro_istore (pc' := 72) (L' := [some (va_rf r0), none, some (.int x2), some (.int x3), some (.int x4), some (.int x5), some (.int (0 : Int32)), none]) dX0_spoils_70 (Nat.le_of_ble_eq_true rfl) rfl (ah_okp_i _) rfl ?_
      refine ro_iconst (pc' := 73) dX0_spoils_72 ic_0 rfl ?_
      refine ro_istore (pc' := 75) (L' := [some (va_rf r0), none, some (.int x2), some (.int x3), some (.int x4), some (.int x5), some (.int (0 : Int32)), some (.int (0 : Int32))]) dX0_spoils_73 (Nat.le_of_ble_eq_true rfl) rfl (ah_okp_i _) rfl ?_
      exact W_X0_spoils_75 hκ ih _ _ _ _ _ _ _ _ _ h
set_option maxRecDepth 20000 in
set_option maxHeartbeats 4000000 in
theorem W_X0_spoils {κ : ah_C} {rr : (Int32 × ah_S)} (hκ : ah_res κ = (.returned (some (.int rr.1)), rr.2))  (σ : ah_S) (r0 : Option Nat) (x1 : Int32) (x2 : Int32) (h : F_X0_spoils σ r0 x1 x2 = some rr) : ah_G κ ("LeftAsFound", "spoils", 8, (some FieldType.int), [], 138, 3973) cX0_spoils σ 0 [some (va_rf r0), some (.int x1), some (.int x2), none, none, none, none, none] [] := by
  unfold F_X0_spoils at h
  refine ro_iload_n (pc' := 1) dX0_spoils_0 rfl rfl rfl ?_
  obtain ⟨v1, σ2, hv1, h⟩ := ah_bs2 h
  refine ro_callS (pc' := 4) (As := [.int x1]) (rest := []) (st' := [.int v1]) q471 (M_X0_isShelf hv1) q470 q472 q95 dd_X0_isShelf rfl ⟨Nat.le_of_ble_eq_true rfl, Nat.le_of_ble_eq_true rfl⟩ (Nat.le_of_ble_eq_true rfl) dX0_spoils_1 rfl rfl rfl ?_
  refine ro_if_eq (pc' := 7) (tgt := 17) dX0_spoils_4 rfl rfl (fun c => ?_) (fun c => ?_)
  · replace h := ah_ip c h
    refine ro_iconst (pc' := 18) dX0_spoils_17 ic_m1 rfl ?_
    obtain rfl := Option.some.inj h
    exact ro_iret hκ dX0_spoils_18
  · replace h := ah_in_ c h
    refine ro_iload_n (pc' := 8) dX0_spoils_7 rfl rfl rfl ?_
    refine ro_i2l (pc' := 9) dX0_spoils_8 rfl ?_
    refine ro_lconst (pc' := 10) dX0_spoils_9 lc_0 rfl ?_
    refine ro_lconst (pc' := 11) dX0_spoils_10 lc_1 rfl ?_
    obtain ⟨v3, σ4, hv3, h⟩ := ah_bs2 h
    refine ro_callS (pc' := 14) (As := [.long (x2.toInt64), .long (0 : Int64), .long (1 : Int64)]) (rest := []) (st' := [.int v3]) q429 (M_X0_within hv3) q428 q430 q95 dd_X0_within rfl ⟨Nat.le_of_ble_eq_true rfl, Nat.le_of_ble_eq_true rfl⟩ (Nat.le_of_ble_eq_true rfl) dX0_spoils_11 rfl rfl rfl ?_
    refine ro_if_ne (pc' := 17) (tgt := 19) dX0_spoils_14 rfl rfl (fun c => ?_) (fun c => ?_)
    · replace h := ah_in_ c h
      refine ro_aload_n (pc' := 20) dX0_spoils_19 rfl rfl rfl ?_
      refine ro_iload_n (pc' := 21) dX0_spoils_20 rfl rfl rfl ?_
      obtain ⟨u5, hu5, h⟩ := ah_bs h
      obtain ⟨v6, σ7, hv6, h⟩ := ah_bs2 h
      refine ro_callV (pc' := 24) (As := [.int x1]) (rest := []) (st' := [.int v6]) (by decide) hu5 q655 sl_X0_takes1Row (M_X0_takes1Row hv6) q653 q656 q95 dd_X0_takes1Row rfl ⟨Nat.le_of_ble_eq_true rfl, Nat.le_of_ble_eq_true rfl⟩ (Nat.le_of_ble_eq_true rfl) dX0_spoils_21 rfl rfl rfl ?_
      refine ro_if_ge (pc' := 27) (tgt := 33) dX0_spoils_24 rfl rfl (fun c => ?_) (fun c => ?_)
      · replace h := ah_ip c h
        refine ro_aload_n (pc' := 34) dX0_spoils_33 rfl rfl rfl ?_
        obtain ⟨v8, hv8, h⟩ := ah_bs h
        refine ro_getR (pc' := 37) ft_20 fk_20 q314 dX0_spoils_34 rfl hv8 ?_
        refine ro_iconst (pc' := 38) dX0_spoils_37 ic_0 rfl ?_
        refine ro_aload_n (pc' := 39) dX0_spoils_38 rfl rfl rfl ?_
        obtain ⟨v9, hv9, h⟩ := ah_bs h
        refine ro_getR (pc' := 42) ft_25 fk_25 q319 dX0_spoils_39 rfl hv9 ?_
        refine ro_iconst (pc' := 43) dX0_spoils_42 ic_0 rfl ?_
        refine ro_aload_n (pc' := 44) dX0_spoils_43 rfl rfl rfl ?_
        obtain ⟨v10, hv10, h⟩ := ah_bs h
        refine ro_getI (pc' := 47) ft_21 fk_21 q315 dX0_spoils_44 rfl hv10 ?_
        obtain ⟨σ11, hσ11, h⟩ := ah_bs h
        refine ro_copy (pc' := 50) q783 q674 q673 q113 (Nat.le_of_ble_eq_true rfl) (Nat.le_of_ble_eq_true rfl) dX0_spoils_47 rfl hσ11 ?_
        refine ro_bipush (pc' := 52) dX0_spoils_50 ib_m2 rfl ?_
        refine ro_istore_n (pc' := 53) (L' := [some (va_rf r0), some (.int x1), some (.int x2), some (.int (-2 : Int32)), none, none, none, none]) dX0_spoils_52 rfl (Nat.le_of_ble_eq_true rfl) rfl (ah_okp_i _) rfl ?_
        refine ro_bipush (pc' := 55) dX0_spoils_53 ib_m2 rfl ?_
        refine ro_istore (pc' := 57) (L' := [some (va_rf r0), some (.int x1), some (.int x2), some (.int (-2 : Int32)), some (.int (-2 : Int32)), none, none, none]) dX0_spoils_55 (Nat.le_of_ble_eq_true rfl) rfl (ah_okp_i _) rfl ?_
        refine ro_iconst (pc' := 58) dX0_spoils_57 ic_0 rfl ?_
        refine ro_istore (pc' := 60) (L' := [some (va_rf r0), some (.int x1), some (.int x2), some (.int (-2 : Int32)), some (.int (-2 : Int32)), some (.int (0 : Int32)), none, none]) dX0_spoils_58 (Nat.le_of_ble_eq_true rfl) rfl (ah_okp_i _) rfl ?_
        refine ro_weak (L' := [some (va_rf r0), none, some (.int x2), some (.int (-2 : Int32)), some (.int (-2 : Int32)), some (.int (0 : Int32)), none, none]) (ah_ls_s (ah_ls_n (ah_ls_s (ah_ls_s (ah_ls_s (ah_ls_s (ah_ls_s (ah_ls_s ah_ls_0)))))))) ?_
        exact W_X0_spoils_60 hκ _ _ _ _ _ _ _ h
      · replace h := ah_in_ c h
        refine ro_aload_n (pc' := 28) dX0_spoils_27 rfl rfl rfl ?_
        refine ro_iload_n (pc' := 29) dX0_spoils_28 rfl rfl rfl ?_
        obtain ⟨u12, hu12, h⟩ := ah_bs h
        obtain ⟨v13, σ14, hv13, h⟩ := ah_bs2 h
        refine ro_callV (pc' := 32) (As := [.int x1]) (rest := []) (st' := [.int v13]) (by decide) hu12 q659 sl_X0_lookAt (M_X0_lookAt hv13) q657 q660 q95 dd_X0_lookAt rfl ⟨Nat.le_of_ble_eq_true rfl, Nat.le_of_ble_eq_true rfl⟩ (Nat.le_of_ble_eq_true rfl) dX0_spoils_29 rfl rfl rfl ?_
        obtain rfl := Option.some.inj h
        exact ro_iret hκ dX0_spoils_32
    · replace h := ah_ip c h
      refine ro_iconst (pc' := 18) dX0_spoils_17 ic_m1 rfl ?_
      obtain rfl := Option.some.inj h
      exact ro_iret hκ dX0_spoils_18
theorem M_X0_spoils {l : Launch} {D : ah_D}  {σ : ah_S} {r0 : Option Nat} {x1 : Int32} {x2 : Int32} {v : Int32} {σ1 : ah_S} (h : F_X0_spoils σ r0 x1 x2 = some (v, σ1)) : ah_Met l yX0_spoils (Cond.code yX0_spoils cX0_spoils 8 (some FieldType.int)) 138 3973 D [va_rf r0, .int x1, .int x2] σ (.returned (some (.int v)), σ1) :=
  ah_ofG (own := "LeftAsFound") (nm := "spoils") (L0 := [some (va_rf r0), some (.int x1), some (.int x2), none, none, none, none, none]) (by decide) rfl rfl rfl (ah_ao_1 (ah_rf_cat _) (ah_ao_1 rfl (ah_ao_1 rfl (ah_ao_n (ah_ao_n (ah_ao_n (ah_ao_n (ah_ao_n ah_ao_0)))))))) (fun κ hκ => W_X0_spoils hκ  σ r0 x1 x2 h)
set_option maxRecDepth 20000 in
set_option maxHeartbeats 4000000 in
theorem W_X0_tin_97 {κ : ah_C} {rr : (Int64 × ah_S)} (hκ : ah_res κ = (.returned (some (.long rr.1)), rr.2))  {k43 : ah_S → Option Nat → Int32 → Option Nat → Int64 → Int32 → Option (Int64 × ah_S)} (hk43 : ∀ (σ : ah_S) (r0 : Option Nat) (x2 : Int32) (r3 : Option Nat) (l4 : Int64) (x6 : Int32), k43 σ r0 x2 r3 l4 x6 = some rr → ah_G κ ("LeftAsFound", "tin", 8, (some FieldType.long), [], 137, 3951) cX0_tin σ 43 [some (va_rf r0), none, some (.int x2), some (va_rf r3), some (.long l4), none, some (.int x6), none] []) : ∀ (n : Nat) (σ : ah_S) (r0 : Option Nat) (x2 : Int32) (r3 : Option Nat) (l4 : Int64) (x6 : Int32) (x7 : Int32), F_X0_tin_97 k43 n σ r0 x2 r3 l4 x6 x7 = some rr → ah_G κ ("LeftAsFound", "tin", 8, (some FieldType.long), [], 137, 3951) cX0_tin σ 97 [some (va_rf r0), none, some (.int x2), some (va_rf r3), some (.long l4), none, some (.int x6), some (.int x7)] [] := by
  intro n
  induction n with
  | zero => intro σ r0 x2 r3 l4 x6 x7 h; cases h
  | succ n ih =>
    intro σ r0 x2 r3 l4 x6 x7 h
    rw [F_X0_tin_97] at h
    refine ro_iload (pc' := 99) dX0_tin_97 rfl rfl ?_
    refine ro_iconst (pc' := 100) dX0_tin_99 ic_4 rfl ?_
    refine ro_icmp_ge (pc' := 103) (tgt := 144) dX0_tin_100 rfl rfl (fun c => ?_) (fun c => ?_)
    · replace h := ah_ip c h
      refine ro_iinc (pc' := 147) (L' := [some (va_rf r0), none, some (.int x2), some (va_rf r3), some (.long l4), none, some (.int (x6 + (1 : Int32))), some (.int x7)]) dX0_tin_144 rfl ic_1 (Nat.le_of_ble_eq_true rfl) rfl ah_okp_u rfl ?_
      refine ro_goto (tgt := 43) dX0_tin_147 rfl ?_
      refine ro_weak (L' := [some (va_rf r0), none, some (.int x2), some (va_rf r3), some (.long l4), none, some (.int (x6 + (1 : Int32))), none]) (ah_ls_s (ah_ls_s (ah_ls_s (ah_ls_s (ah_ls_s (ah_ls_s (ah_ls_s (ah_ls_n ah_ls_0)))))))) ?_
      exact hk43 _ _ _ _ _ _ h
    · replace h := ah_in_ c h
      refine ro_lload (pc' := 105) dX0_tin_103 rfl rfl ?_
      refine ro_iconst (pc' := 106) dX0_tin_105 ic_0 rfl ?_
      refine ro_aload_n (pc' := 107) dX0_tin_106 rfl rfl rfl ?_
      obtain ⟨v1, hv1, h⟩ := ah_bs h
      refine ro_getR (pc' := 110) ft_19 fk_19 q313 dX0_tin_107 rfl hv1 ?_
      refine ro_iload (pc' := 112) dX0_tin_110 rfl rfl ?_
      obtain ⟨u2, hu2, h⟩ := ah_bs h
      obtain ⟨v3, σ4, hv3, h⟩ := ah_bs2 h
      refine ro_callV (pc' := 115) (As := [.int x7]) (rest := [.int (0 : Int32), .long l4]) (st' := [.int v3, .int (0 : Int32), .long l4]) (by decide) hu2 q738 sl_X4_lacks (M_X4_lacks hv3) q797 q740 q102 dd_X4_lacks rfl ⟨Nat.le_of_ble_eq_true rfl, Nat.le_of_ble_eq_true rfl⟩ (Nat.le_of_ble_eq_true rfl) dX0_tin_112 rfl rfl rfl ?_
      refine ro_aload_n (pc' := 116) dX0_tin_115 rfl rfl rfl ?_
      refine ro_iload (pc' := 118) dX0_tin_116 rfl rfl ?_
      obtain ⟨v5, hv5, h⟩ := ah_bs h
      refine ro_iaload (pc' := 119) dX0_tin_118 rfl hv5 ?_
      refine ro_isub (pc' := 120) dX0_tin_119 rfl ?_
      refine ro_mmax (pc' := 123) q713 (Nat.le_of_ble_eq_true rfl) (Nat.le_of_ble_eq_true rfl) dX0_tin_120 rfl ?_
      refine ro_aload_n (pc' := 124) dX0_tin_123 rfl rfl rfl ?_
      obtain ⟨v6, hv6, h⟩ := ah_bs h
      refine ro_getR (pc' := 127) ft_10 fk_10 q303 dX0_tin_124 rfl hv6 ?_
      refine ro_iload (pc' := 129) dX0_tin_127 rfl rfl ?_
      obtain ⟨v7, hv7, h⟩ := ah_bs h
      refine ro_aaload (pc' := 130) (by decide) (by decide) rfl dX0_tin_129 rfl hv7 ?_
      obtain ⟨v8, hv8, h⟩ := ah_bs h
      refine ro_getIN (pc' := 133) ft_200 fk_200 nq219 dX0_tin_130 rfl hv8 ?_
      refine ro_imul (pc' := 134) dX0_tin_133 rfl ?_
      refine ro_i2l (pc' := 135) dX0_tin_134 rfl ?_
      refine ro_ladd (pc' := 136) dX0_tin_135 rfl ?_
      refine ro_lstore (pc' := 138) (L' := [some (va_rf r0), none, some (.int x2), some (va_rf r3), some (.long (l4 + (((if (0 : Int32) < (v3 - v5) then (v3 - v5) else (0 : Int32)) * v8).toInt64))), none, some (.int x6), some (.int x7)]) dX0_tin_136 (Nat.le_of_ble_eq_true rfl) rfl (ah_okp_r _) rfl ?_
      refine ro_iinc (pc' := 141) (L' := [some (va_rf r0), none, some (.int x2), some (va_rf r3), some (.long (l4 + (((if (0 : Int32) < (v3 - v5) then (v3 - v5) else (0 : Int32)) * v8).toInt64))), none, some (.int x6), some (.int (x7 + (1 : Int32)))]) dX0_tin_138 rfl ic_1 (Nat.le_of_ble_eq_true rfl) rfl (ah_okp_i _) rfl ?_
      refine ro_goto (tgt := 97) dX0_tin_141 rfl ?_
      exact ih _ _ _ _ _ _ _ h
set_option maxRecDepth 20000 in
set_option maxHeartbeats 4000000 in
theorem W_X0_tin_55 {κ : ah_C} {rr : (Int64 × ah_S)} (hκ : ah_res κ = (.returned (some (.long rr.1)), rr.2))  {k43 : ah_S → Option Nat → Int32 → Option Nat → Int64 → Int32 → Option (Int64 × ah_S)} (hk43 : ∀ (σ : ah_S) (r0 : Option Nat) (x2 : Int32) (r3 : Option Nat) (l4 : Int64) (x6 : Int32), k43 σ r0 x2 r3 l4 x6 = some rr → ah_G κ ("LeftAsFound", "tin", 8, (some FieldType.long), [], 137, 3951) cX0_tin σ 43 [some (va_rf r0), none, some (.int x2), some (va_rf r3), some (.long l4), none, some (.int x6), none] []) : ∀ (n : Nat) (σ : ah_S) (r0 : Option Nat) (x2 : Int32) (r3 : Option Nat) (l4 : Int64) (x6 : Int32) (x7 : Int32), F_X0_tin_55 k43 n σ r0 x2 r3 l4 x6 x7 = some rr → ah_G κ ("LeftAsFound", "tin", 8, (some FieldType.long), [], 137, 3951) cX0_tin σ 55 [some (va_rf r0), none, some (.int x2), some (va_rf r3), some (.long l4), none, some (.int x6), some (.int x7)] [] := by
  intro n
  induction n with
  | zero => intro σ r0 x2 r3 l4 x6 x7 h; cases h
  | succ n ih =>
    intro σ r0 x2 r3 l4 x6 x7 h
    rw [F_X0_tin_55] at h
    refine ro_iload (pc' := 57) dX0_tin_55 rfl rfl ?_
    refine ro_iconst (pc' := 58) dX0_tin_57 ic_4 rfl ?_
    refine ro_icmp_ge (pc' := 61) (tgt := 80) dX0_tin_58 rfl rfl (fun c => ?_) (fun c => ?_)
    · replace h := ah_ip c h
      refine ro_aload_n (pc' := 81) dX0_tin_80 rfl rfl rfl ?_
      obtain ⟨v1, hv1, h⟩ := ah_bs h
      refine ro_getR (pc' := 84) ft_19 fk_19 q313 dX0_tin_81 rfl hv1 ?_
      refine ro_aload_n (pc' := 85) dX0_tin_84 rfl rfl rfl ?_
      obtain ⟨v2, hv2, h⟩ := ah_bs h
      refine ro_getR (pc' := 88) ft_20 fk_20 q314 dX0_tin_85 rfl hv2 ?_
      refine ro_iload (pc' := 90) dX0_tin_88 rfl rfl ?_
      obtain ⟨v3, hv3, h⟩ := ah_bs h
      refine ro_iaload (pc' := 91) dX0_tin_90 rfl hv3 ?_
      obtain ⟨u4, hu4, h⟩ := ah_bs h
      obtain ⟨σ5, hσ5, h⟩ := ah_bs h
      refine ro_callV (pc' := 94) (As := [.int v3]) (rest := []) (st' := []) (by decide) hu4 q676 sl_X4_night (M_X4_night hσ5) q675 q678 q102 dd_X4_night rfl ⟨Nat.le_of_ble_eq_true rfl, Nat.le_of_ble_eq_true rfl⟩ (Nat.le_of_ble_eq_true rfl) dX0_tin_91 rfl rfl rfl ?_
      refine ro_iconst (pc' := 95) dX0_tin_94 ic_0 rfl ?_
      refine ro_istore (pc' := 97) (L' := [some (va_rf r0), none, some (.int x2), some (va_rf r3), some (.long l4), none, some (.int x6), some (.int (0 : Int32))]) dX0_tin_95 (Nat.le_of_ble_eq_true rfl) rfl (ah_okp_i _) rfl ?_
      exact W_X0_tin_97 hκ hk43 _ _ _ _ _ _ _ _ h
    · replace h := ah_in_ c h
      refine ro_aload_n (pc' := 62) dX0_tin_61 rfl rfl rfl ?_
      refine ro_iload (pc' := 64) dX0_tin_62 rfl rfl ?_
      refine ro_aload_n (pc' := 65) dX0_tin_64 rfl rfl rfl ?_
      obtain ⟨v6, hv6, h⟩ := ah_bs h
      refine ro_getR (pc' := 68) ft_19 fk_19 q313 dX0_tin_65 rfl hv6 ?_
      refine ro_iload (pc' := 70) dX0_tin_68 rfl rfl ?_
      obtain ⟨u7, hu7, h⟩ := ah_bs h
      obtain ⟨v8, σ9, hv8, h⟩ := ah_bs2 h
      refine ro_callV (pc' := 73) (As := [.int x7]) (rest := [.int x7, va_rf r3]) (st' := [.int v8, .int x7, va_rf r3]) (by decide) hu7 q738 sl_X4_lacks (M_X4_lacks hv8) q797 q740 q102 dd_X4_lacks rfl ⟨Nat.le_of_ble_eq_true rfl, Nat.le_of_ble_eq_true rfl⟩ (by simp only [List.map_cons, List.map_nil, List.sum_cons, List.sum_nil, ah_rf_cat, ah_cat_i, ah_cat_l]; decide) dX0_tin_70 rfl rfl rfl ?_
      obtain ⟨σ10, hσ10, h⟩ := ah_bs h
      refine ro_iastore (pc' := 74) dX0_tin_73 rfl hσ10 ?_
      refine ro_iinc (pc' := 77) (L' := [some (va_rf r0), none, some (.int x2), some (va_rf r3), some (.long l4), none, some (.int x6), some (.int (x7 + (1 : Int32)))]) dX0_tin_74 rfl ic_1 (Nat.le_of_ble_eq_true rfl) rfl (ah_okp_i _) rfl ?_
      refine ro_goto (tgt := 55) dX0_tin_77 rfl ?_
      exact ih _ _ _ _ _ _ _ h
set_option maxRecDepth 20000 in
set_option maxHeartbeats 4000000 in
theorem W_X0_tin_43 {κ : ah_C} {rr : (Int64 × ah_S)} (hκ : ah_res κ = (.returned (some (.long rr.1)), rr.2))    : ∀ (n : Nat) (σ : ah_S) (r0 : Option Nat) (x2 : Int32) (r3 : Option Nat) (l4 : Int64) (x6 : Int32), F_X0_tin_43 n σ r0 x2 r3 l4 x6 = some rr → ah_G κ ("LeftAsFound", "tin", 8, (some FieldType.long), [], 137, 3951) cX0_tin σ 43 [some (va_rf r0), none, some (.int x2), some (va_rf r3), some (.long l4), none, some (.int x6), none] [] := by
  intro n
  induction n with
  | zero => intro σ r0 x2 r3 l4 x6 h; cases h
  | succ n ih =>
    intro σ r0 x2 r3 l4 x6 h
    rw [F_X0_tin_43] at h
    refine ro_iload (pc' := 45) dX0_tin_43 rfl rfl ?_
    refine ro_aload_n (pc' := 46) dX0_tin_45 rfl rfl rfl ?_
    obtain ⟨v1, hv1, h⟩ := ah_bs h
    refine ro_getI (pc' := 49) ft_21 fk_21 q315 dX0_tin_46 rfl hv1 ?_
    refine ro_icmp_ge (pc' := 52) (tgt := 150) dX0_tin_49 rfl rfl (fun c => ?_) (fun c => ?_)
    · replace h := ah_ip c h
      refine ro_lload (pc' := 152) dX0_tin_150 rfl rfl ?_
      refine ro_aload_n (pc' := 153) dX0_tin_152 rfl rfl rfl ?_
      obtain ⟨v2, hv2, h⟩ := ah_bs h
      refine ro_getR (pc' := 156) ft_13 fk_13 q306 dX0_tin_153 rfl hv2 ?_
      obtain ⟨v3, hv3, h⟩ := ah_bs h
      refine ro_getIN (pc' := 159) ft_200 fk_200 nq219 dX0_tin_156 rfl hv3 ?_
      refine ro_i2l (pc' := 160) dX0_tin_159 rfl ?_
      refine ro_lmul (pc' := 161) dX0_tin_160 rfl ?_
      refine ro_ldc2 (pc' := 164) q798 dX0_tin_161 rfl ?_
      refine ro_iload_n (pc' := 165) dX0_tin_164 rfl rfl rfl ?_
      obtain ⟨v4, σ5, hv4, h⟩ := ah_bs2 h
      refine ro_callS (pc' := 168) (As := [.long (l4 * (v3.toInt64)), .long (12 : Int64), .int x2]) (rest := []) (st' := [.long v4]) q800 (M_X0_partOf hv4) q799 q801 q95 dd_X0_partOf rfl ⟨Nat.le_of_ble_eq_true rfl, Nat.le_of_ble_eq_true rfl⟩ (Nat.le_of_ble_eq_true rfl) dX0_tin_165 rfl rfl rfl ?_
      obtain rfl := Option.some.inj h
      exact ro_lret hκ dX0_tin_168
    · replace h := ah_in_ c h
      refine ro_iconst (pc' := 53) dX0_tin_52 ic_0 rfl ?_
      refine ro_istore (pc' := 55) (L' := [some (va_rf r0), none, some (.int x2), some (va_rf r3), some (.long l4), none, some (.int x6), some (.int (0 : Int32))]) dX0_tin_53 (Nat.le_of_ble_eq_true rfl) rfl (ah_okp_i _) rfl ?_
      exact W_X0_tin_55 hκ ih _ _ _ _ _ _ _ _ h
set_option maxRecDepth 20000 in
set_option maxHeartbeats 4000000 in
theorem W_X0_tin {κ : ah_C} {rr : (Int64 × ah_S)} (hκ : ah_res κ = (.returned (some (.long rr.1)), rr.2))  (σ : ah_S) (r0 : Option Nat) (x1 : Int32) (x2 : Int32) (h : F_X0_tin σ r0 x1 x2 = some rr) : ah_G κ ("LeftAsFound", "tin", 8, (some FieldType.long), [], 137, 3951) cX0_tin σ 0 [some (va_rf r0), some (.int x1), some (.int x2), none, none, none, none, none] [] := by
  unfold F_X0_tin at h
  refine ro_iload_n (pc' := 1) dX0_tin_0 rfl rfl rfl ?_
  refine ro_i2l (pc' := 2) dX0_tin_1 rfl ?_
  refine ro_lconst (pc' := 3) dX0_tin_2 lc_0 rfl ?_
  refine ro_lconst (pc' := 4) dX0_tin_3 lc_1 rfl ?_
  obtain ⟨v1, σ2, hv1, h⟩ := ah_bs2 h
  refine ro_callS (pc' := 7) (As := [.long (x2.toInt64), .long (0 : Int64), .long (1 : Int64)]) (rest := []) (st' := [.int v1]) q429 (M_X0_within hv1) q428 q430 q95 dd_X0_within rfl ⟨Nat.le_of_ble_eq_true rfl, Nat.le_of_ble_eq_true rfl⟩ (Nat.le_of_ble_eq_true rfl) dX0_tin_4 rfl rfl rfl ?_
  refine ro_if_eq (pc' := 10) (tgt := 18) dX0_tin_7 rfl rfl (fun c => ?_) (fun c => ?_)
  · replace h := ah_ip c h
    refine ro_ldc2 (pc' := 21) q796 dX0_tin_18 rfl ?_
    obtain rfl := Option.some.inj h
    exact ro_lret hκ dX0_tin_21
  · replace h := ah_in_ c h
    refine ro_aload_n (pc' := 11) dX0_tin_10 rfl rfl rfl ?_
    refine ro_iload_n (pc' := 12) dX0_tin_11 rfl rfl rfl ?_
    obtain ⟨u3, hu3, h⟩ := ah_bs h
    obtain ⟨v4, σ5, hv4, h⟩ := ah_bs2 h
    refine ro_callV (pc' := 15) (As := [.int x1]) (rest := []) (st' := [.int v4]) (by decide) hu3 q655 sl_X0_takes1Row (M_X0_takes1Row hv4) q653 q656 q95 dd_X0_takes1Row rfl ⟨Nat.le_of_ble_eq_true rfl, Nat.le_of_ble_eq_true rfl⟩ (Nat.le_of_ble_eq_true rfl) dX0_tin_12 rfl rfl rfl ?_
    refine ro_if_ge (pc' := 18) (tgt := 22) dX0_tin_15 rfl rfl (fun c => ?_) (fun c => ?_)
    · replace h := ah_ip c h
      refine ro_aload_n (pc' := 23) dX0_tin_22 rfl rfl rfl ?_
      obtain ⟨v6, hv6, h⟩ := ah_bs h
      refine ro_getR (pc' := 26) ft_19 fk_19 q313 dX0_tin_23 rfl hv6 ?_
      refine ro_aload_n (pc' := 27) dX0_tin_26 rfl rfl rfl ?_
      obtain ⟨v7, hv7, h⟩ := ah_bs h
      refine ro_getR (pc' := 30) ft_18 fk_18 q312 dX0_tin_27 rfl hv7 ?_
      obtain ⟨u8, hu8, h⟩ := ah_bs h
      obtain ⟨σ9, hσ9, h⟩ := ah_bs h
      refine ro_callV (pc' := 33) (As := [va_rf v7]) (rest := []) (st' := []) (by decide) hu8 q669 sl_X4_beAs (M_X4_beAs hσ9) q668 q671 q102 dd_X4_beAs rfl ⟨Nat.le_of_ble_eq_true rfl, Nat.le_of_ble_eq_true rfl⟩ (Nat.le_of_ble_eq_true rfl) dX0_tin_30 rfl rfl rfl ?_
      refine ro_iconst (pc' := 34) dX0_tin_33 ic_4 rfl ?_
      obtain ⟨σ10, hσ10, h⟩ := ah_bs h
      refine ro_newa (pc' := 36) (t := 101) (by decide) rfl q205 dX0_tin_34 rfl hσ10 ?_
      refine ro_astore_n (pc' := 37) (L' := [some (va_rf r0), some (.int x1), some (.int x2), some (va_rf (some (ah_nx σ9))), none, none, none, none]) dX0_tin_36 rfl (Nat.le_of_ble_eq_true rfl) rfl (ah_okp_i _) rfl ?_
      refine ro_lconst (pc' := 38) dX0_tin_37 lc_0 rfl ?_
      refine ro_lstore (pc' := 40) (L' := [some (va_rf r0), some (.int x1), some (.int x2), some (va_rf (some (ah_nx σ9))), some (.long (0 : Int64)), none, none, none]) dX0_tin_38 (Nat.le_of_ble_eq_true rfl) rfl (ah_okp_r _) rfl ?_
      refine ro_iconst (pc' := 41) dX0_tin_40 ic_0 rfl ?_
      refine ro_istore (pc' := 43) (L' := [some (va_rf r0), some (.int x1), some (.int x2), some (va_rf (some (ah_nx σ9))), some (.long (0 : Int64)), none, some (.int (0 : Int32)), none]) dX0_tin_41 (Nat.le_of_ble_eq_true rfl) rfl ah_okp_u rfl ?_
      refine ro_weak (L' := [some (va_rf r0), none, some (.int x2), some (va_rf (some (ah_nx σ9))), some (.long (0 : Int64)), none, some (.int (0 : Int32)), none]) (ah_ls_s (ah_ls_n (ah_ls_s (ah_ls_s (ah_ls_s (ah_ls_s (ah_ls_s (ah_ls_s ah_ls_0)))))))) ?_
      exact W_X0_tin_43 hκ _ _ _ _ _ _ _ h
    · replace h := ah_in_ c h
      refine ro_ldc2 (pc' := 21) q796 dX0_tin_18 rfl ?_
      obtain rfl := Option.some.inj h
      exact ro_lret hκ dX0_tin_21
theorem M_X0_tin {l : Launch} {D : ah_D}  {σ : ah_S} {r0 : Option Nat} {x1 : Int32} {x2 : Int32} {v : Int64} {σ1 : ah_S} (h : F_X0_tin σ r0 x1 x2 = some (v, σ1)) : ah_Met l yX0_tin (Cond.code yX0_tin cX0_tin 8 (some FieldType.long)) 137 3951 D [va_rf r0, .int x1, .int x2] σ (.returned (some (.long v)), σ1) :=
  ah_ofG (own := "LeftAsFound") (nm := "tin") (L0 := [some (va_rf r0), some (.int x1), some (.int x2), none, none, none, none, none]) (by decide) rfl rfl rfl (ah_ao_1 (ah_rf_cat _) (ah_ao_1 rfl (ah_ao_1 rfl (ah_ao_n (ah_ao_n (ah_ao_n (ah_ao_n (ah_ao_n ah_ao_0)))))))) (fun κ hκ => W_X0_tin hκ  σ r0 x1 x2 h)
set_option maxRecDepth 20000 in
set_option maxHeartbeats 4000000 in
theorem W_X0_wardenCost_72 {κ : ah_C} {rr : (Int32 × ah_S)} (hκ : ah_res κ = (.returned (some (.int rr.1)), rr.2))  {k15 : ah_S → Option Nat → Int32 → Int32 → Int32 → Option (Int32 × ah_S)} (hk15 : ∀ (σ : ah_S) (r0 : Option Nat) (x1 : Int32) (x2 : Int32) (x3 : Int32), k15 σ r0 x1 x2 x3 = some rr → ah_G κ ("LeftAsFound", "wardenCost", 5, (some FieldType.int), [], 137, 3951) cX0_wardenCost σ 15 [some (va_rf r0), some (.int x1), some (.int x2), some (.int x3), none] []) : ∀ (n : Nat) (σ : ah_S) (r0 : Option Nat) (x1 : Int32) (x2 : Int32) (x3 : Int32) (x4 : Int32), F_X0_wardenCost_72 k15 n σ r0 x1 x2 x3 x4 = some rr → ah_G κ ("LeftAsFound", "wardenCost", 5, (some FieldType.int), [], 137, 3951) cX0_wardenCost σ 72 [some (va_rf r0), some (.int x1), some (.int x2), some (.int x3), some (.int x4)] [] := by
  intro n
  induction n with
  | zero => intro σ r0 x1 x2 x3 x4 h; cases h
  | succ n ih =>
    intro σ r0 x1 x2 x3 x4 h
    rw [F_X0_wardenCost_72] at h
    refine ro_iload (pc' := 74) dX0_wardenCost_72 rfl rfl ?_
    refine ro_iconst (pc' := 75) dX0_wardenCost_74 ic_4 rfl ?_
    refine ro_icmp_ge (pc' := 78) (tgt := 104) dX0_wardenCost_75 rfl rfl (fun c => ?_) (fun c => ?_)
    · replace h := ah_ip c h
      refine ro_iinc (pc' := 107) (L' := [some (va_rf r0), some (.int x1), some (.int x2), some (.int (x3 + (1 : Int32))), some (.int x4)]) dX0_wardenCost_104 rfl ic_1 (Nat.le_of_ble_eq_true rfl) rfl (ah_okp_i _) rfl ?_
      refine ro_goto (tgt := 15) dX0_wardenCost_107 rfl ?_
      refine ro_weak (L' := [some (va_rf r0), some (.int x1), some (.int x2), some (.int (x3 + (1 : Int32))), none]) (ah_ls_s (ah_ls_s (ah_ls_s (ah_ls_s (ah_ls_n ah_ls_0))))) ?_
      exact hk15 _ _ _ _ _ h
    · replace h := ah_in_ c h
      refine ro_aload_n (pc' := 79) dX0_wardenCost_78 rfl rfl rfl ?_
      obtain ⟨v1, hv1, h⟩ := ah_bs h
      refine ro_getR (pc' := 82) ft_19 fk_19 q313 dX0_wardenCost_79 rfl hv1 ?_
      obtain ⟨v2, hv2, h⟩ := ah_bs h
      refine ro_getRN (pc' := 85) ft_400 fk_400 nq245 dX0_wardenCost_82 rfl hv2 ?_
      refine ro_iload (pc' := 87) dX0_wardenCost_85 rfl rfl ?_
      refine ro_aload_n (pc' := 88) dX0_wardenCost_87 rfl rfl rfl ?_
      obtain ⟨v3, hv3, h⟩ := ah_bs h
      refine ro_getR (pc' := 91) ft_9 fk_9 q301 dX0_wardenCost_88 rfl hv3 ?_
      refine ro_iload (pc' := 93) dX0_wardenCost_91 rfl rfl ?_
      obtain ⟨v4, hv4, h⟩ := ah_bs h
      refine ro_aaload (pc' := 94) (by decide) (by decide) rfl dX0_wardenCost_93 rfl hv4 ?_
      obtain ⟨v5, hv5, h⟩ := ah_bs h
      refine ro_getIN (pc' := 97) ft_200 fk_200 nq219 dX0_wardenCost_94 rfl hv5 ?_
      obtain ⟨σ6, hσ6, h⟩ := ah_bs h
      refine ro_iastore (pc' := 98) dX0_wardenCost_97 rfl hσ6 ?_
      refine ro_iinc (pc' := 101) (L' := [some (va_rf r0), some (.int x1), some (.int x2), some (.int x3), some (.int (x4 + (1 : Int32)))]) dX0_wardenCost_98 rfl ic_1 (Nat.le_of_ble_eq_true rfl) rfl (ah_okp_i _) rfl ?_
      refine ro_goto (tgt := 72) dX0_wardenCost_101 rfl ?_
      exact ih _ _ _ _ _ _ h
set_option maxRecDepth 20000 in
set_option maxHeartbeats 4000000 in
theorem W_X0_wardenCost_15 {κ : ah_C} {rr : (Int32 × ah_S)} (hκ : ah_res κ = (.returned (some (.int rr.1)), rr.2))    : ∀ (n : Nat) (σ : ah_S) (r0 : Option Nat) (x1 : Int32) (x2 : Int32) (x3 : Int32), F_X0_wardenCost_15 n σ r0 x1 x2 x3 = some rr → ah_G κ ("LeftAsFound", "wardenCost", 5, (some FieldType.int), [], 137, 3951) cX0_wardenCost σ 15 [some (va_rf r0), some (.int x1), some (.int x2), some (.int x3), none] [] := by
  intro n
  induction n with
  | zero => intro σ r0 x1 x2 x3 h; cases h
  | succ n ih =>
    intro σ r0 x1 x2 x3 h
    rw [F_X0_wardenCost_15] at h
    refine ro_iload_n (pc' := 16) dX0_wardenCost_15 rfl rfl rfl ?_
    refine ro_bipush (pc' := 18) dX0_wardenCost_16 ib_60 rfl ?_
    refine ro_icmp_ge (pc' := 21) (tgt := 110) dX0_wardenCost_18 rfl rfl (fun c => ?_) (fun c => ?_)
    · replace h := ah_ip c h
      refine ro_iload_n (pc' := 111) dX0_wardenCost_110 rfl rfl rfl ?_
      obtain rfl := Option.some.inj h
      exact ro_iret hκ dX0_wardenCost_111
    · replace h := ah_in_ c h
      refine ro_aload_n (pc' := 22) dX0_wardenCost_21 rfl rfl rfl ?_
      obtain ⟨v1, hv1, h⟩ := ah_bs h
      refine ro_getR (pc' := 25) ft_19 fk_19 q313 dX0_wardenCost_22 rfl hv1 ?_
      refine ro_aload_n (pc' := 26) dX0_wardenCost_25 rfl rfl rfl ?_
      refine ro_iload_n (pc' := 27) dX0_wardenCost_26 rfl rfl rfl ?_
      obtain ⟨u2, hu2, h⟩ := ah_bs h
      obtain ⟨v3, σ4, hv3, h⟩ := ah_bs2 h
      refine ro_callV (pc' := 30) (As := [.int x3]) (rest := [va_rf v1]) (st' := [.int v3, va_rf v1]) (by decide) hu2 q768 sl_X0_comesAt (M_X0_comesAt hv3) q766 q769 q95 dd_X0_comesAt rfl ⟨Nat.le_of_ble_eq_true rfl, Nat.le_of_ble_eq_true rfl⟩ (by simp only [List.map_cons, List.map_nil, List.sum_cons, List.sum_nil, ah_rf_cat, ah_cat_i, ah_cat_l]; decide) dX0_wardenCost_27 rfl rfl rfl ?_
      obtain ⟨u5, hu5, h⟩ := ah_bs h
      obtain ⟨σ6, hσ6, h⟩ := ah_bs h
      refine ro_callV (pc' := 33) (As := [.int v3]) (rest := []) (st' := []) (by decide) hu5 q676 sl_X4_night (M_X4_night hσ6) q675 q678 q102 dd_X4_night rfl ⟨Nat.le_of_ble_eq_true rfl, Nat.le_of_ble_eq_true rfl⟩ (Nat.le_of_ble_eq_true rfl) dX0_wardenCost_30 rfl rfl rfl ?_
      refine ro_iload_n (pc' := 34) dX0_wardenCost_33 rfl rfl rfl ?_
      refine ro_aload_n (pc' := 35) dX0_wardenCost_34 rfl rfl rfl ?_
      obtain ⟨v7, hv7, h⟩ := ah_bs h
      refine ro_getR (pc' := 38) ft_19 fk_19 q313 dX0_wardenCost_35 rfl hv7 ?_
      obtain ⟨u8, hu8, h⟩ := ah_bs h
      obtain ⟨v9, σ10, hv9, h⟩ := ah_bs2 h
      refine ro_callV (pc' := 41) (As := []) (rest := [.int x2]) (st' := [.int v9, .int x2]) (by decide) hu8 q734 sl_X4_loss (M_X4_loss hv9) q733 q736 q102 dd_X4_loss rfl ⟨Nat.le_of_ble_eq_true rfl, Nat.le_of_ble_eq_true rfl⟩ (Nat.le_of_ble_eq_true rfl) dX0_wardenCost_38 rfl rfl rfl ?_
      refine ro_iadd (pc' := 42) dX0_wardenCost_41 rfl ?_
      refine ro_istore_n (pc' := 43) (L' := [some (va_rf r0), some (.int x1), some (.int (x2 + v9)), some (.int x3), none]) dX0_wardenCost_42 rfl (Nat.le_of_ble_eq_true rfl) rfl (ah_okp_i _) rfl ?_
      refine ro_iload_n (pc' := 44) dX0_wardenCost_43 rfl rfl rfl ?_
      refine ro_iconst (pc' := 45) dX0_wardenCost_44 ic_m1 rfl ?_
      refine ro_icmp_eq (pc' := 48) (tgt := 104) dX0_wardenCost_45 rfl rfl (fun c => ?_) (fun c => ?_)
      · replace h := ah_ip c h
        refine ro_iinc (pc' := 107) (L' := [some (va_rf r0), some (.int x1), some (.int (x2 + v9)), some (.int (x3 + (1 : Int32))), none]) dX0_wardenCost_104 rfl ic_1 (Nat.le_of_ble_eq_true rfl) rfl (ah_okp_i _) rfl ?_
        refine ro_goto (tgt := 15) dX0_wardenCost_107 rfl ?_
        exact ih _ _ _ _ _ h
      · replace h := ah_in_ c h
        refine ro_iload_n (pc' := 49) dX0_wardenCost_48 rfl rfl rfl ?_
        refine ro_iconst (pc' := 50) dX0_wardenCost_49 ic_1 rfl ?_
        refine ro_iadd (pc' := 51) dX0_wardenCost_50 rfl ?_
        refine ro_iload_n (pc' := 52) dX0_wardenCost_51 rfl rfl rfl ?_
        obtain ⟨q11, hq11, h⟩ := ah_bs h
        refine ro_irem (pc' := 53) dX0_wardenCost_52 rfl hq11 ?_
        refine ro_if_eq (pc' := 56) (tgt := 59) dX0_wardenCost_53 rfl rfl (fun c => ?_) (fun c => ?_)
        · replace h := ah_ip c h
          refine ro_iload_n (pc' := 60) dX0_wardenCost_59 rfl rfl rfl ?_
          refine ro_aload_n (pc' := 61) dX0_wardenCost_60 rfl rfl rfl ?_
          obtain ⟨v12, hv12, h⟩ := ah_bs h
          refine ro_getR (pc' := 64) ft_12 fk_12 q305 dX0_wardenCost_61 rfl hv12 ?_
          obtain ⟨v13, hv13, h⟩ := ah_bs h
          refine ro_getIN (pc' := 67) ft_200 fk_200 nq219 dX0_wardenCost_64 rfl hv13 ?_
          refine ro_iadd (pc' := 68) dX0_wardenCost_67 rfl ?_
          refine ro_istore_n (pc' := 69) (L' := [some (va_rf r0), some (.int x1), some (.int ((x2 + v9) + v13)), some (.int x3), none]) dX0_wardenCost_68 rfl (Nat.le_of_ble_eq_true rfl) rfl (ah_okp_i _) rfl ?_
          refine ro_iconst (pc' := 70) dX0_wardenCost_69 ic_0 rfl ?_
          refine ro_istore (pc' := 72) (L' := [some (va_rf r0), some (.int x1), some (.int ((x2 + v9) + v13)), some (.int x3), some (.int (0 : Int32))]) dX0_wardenCost_70 (Nat.le_of_ble_eq_true rfl) rfl (ah_okp_i _) rfl ?_
          exact W_X0_wardenCost_72 hκ ih _ _ _ _ _ _ _ h
        · replace h := ah_in_ c h
          refine ro_goto (tgt := 104) dX0_wardenCost_56 rfl ?_
          refine ro_iinc (pc' := 107) (L' := [some (va_rf r0), some (.int x1), some (.int (x2 + v9)), some (.int (x3 + (1 : Int32))), none]) dX0_wardenCost_104 rfl ic_1 (Nat.le_of_ble_eq_true rfl) rfl (ah_okp_i _) rfl ?_
          refine ro_goto (tgt := 15) dX0_wardenCost_107 rfl ?_
          exact ih _ _ _ _ _ h
set_option maxRecDepth 20000 in
set_option maxHeartbeats 4000000 in
theorem W_X0_wardenCost {κ : ah_C} {rr : (Int32 × ah_S)} (hκ : ah_res κ = (.returned (some (.int rr.1)), rr.2))  (σ : ah_S) (r0 : Option Nat) (x1 : Int32) (h : F_X0_wardenCost σ r0 x1 = some rr) : ah_G κ ("LeftAsFound", "wardenCost", 5, (some FieldType.int), [], 137, 3951) cX0_wardenCost σ 0 [some (va_rf r0), some (.int x1), none, none, none] [] := by
  unfold F_X0_wardenCost at h
  refine ro_aload_n (pc' := 1) dX0_wardenCost_0 rfl rfl rfl ?_
  obtain ⟨v1, hv1, h⟩ := ah_bs h
  refine ro_getR (pc' := 4) ft_19 fk_19 q313 dX0_wardenCost_1 rfl hv1 ?_
  refine ro_aload_n (pc' := 5) dX0_wardenCost_4 rfl rfl rfl ?_
  obtain ⟨v2, hv2, h⟩ := ah_bs h
  refine ro_getR (pc' := 8) ft_18 fk_18 q312 dX0_wardenCost_5 rfl hv2 ?_
  obtain ⟨u3, hu3, h⟩ := ah_bs h
  obtain ⟨σ4, hσ4, h⟩ := ah_bs h
  refine ro_callV (pc' := 11) (As := [va_rf v2]) (rest := []) (st' := []) (by decide) hu3 q669 sl_X4_beAs (M_X4_beAs hσ4) q668 q671 q102 dd_X4_beAs rfl ⟨Nat.le_of_ble_eq_true rfl, Nat.le_of_ble_eq_true rfl⟩ (Nat.le_of_ble_eq_true rfl) dX0_wardenCost_8 rfl rfl rfl ?_
  refine ro_iconst (pc' := 12) dX0_wardenCost_11 ic_0 rfl ?_
  refine ro_istore_n (pc' := 13) (L' := [some (va_rf r0), some (.int x1), some (.int (0 : Int32)), none, none]) dX0_wardenCost_12 rfl (Nat.le_of_ble_eq_true rfl) rfl (ah_okp_i _) rfl ?_
  refine ro_iconst (pc' := 14) dX0_wardenCost_13 ic_0 rfl ?_
  refine ro_istore_n (pc' := 15) (L' := [some (va_rf r0), some (.int x1), some (.int (0 : Int32)), some (.int (0 : Int32)), none]) dX0_wardenCost_14 rfl (Nat.le_of_ble_eq_true rfl) rfl (ah_okp_i _) rfl ?_
  exact W_X0_wardenCost_15 hκ _ _ _ _ _ _ h
theorem M_X0_wardenCost {l : Launch} {D : ah_D}  {σ : ah_S} {r0 : Option Nat} {x1 : Int32} {v : Int32} {σ1 : ah_S} (h : F_X0_wardenCost σ r0 x1 = some (v, σ1)) : ah_Met l yX0_wardenCost (Cond.code yX0_wardenCost cX0_wardenCost 5 (some FieldType.int)) 137 3951 D [va_rf r0, .int x1] σ (.returned (some (.int v)), σ1) :=
  ah_ofG (own := "LeftAsFound") (nm := "wardenCost") (L0 := [some (va_rf r0), some (.int x1), none, none, none]) (by decide) rfl rfl rfl (ah_ao_1 (ah_rf_cat _) (ah_ao_1 rfl (ah_ao_n (ah_ao_n (ah_ao_n ah_ao_0))))) (fun κ hκ => W_X0_wardenCost hκ  σ r0 x1 h)
set_option maxRecDepth 20000 in
set_option maxHeartbeats 4000000 in
theorem W_X0_warden_39 {κ : ah_C} {rr : (Int32 × ah_S)} (hκ : ah_res κ = (.returned (some (.int rr.1)), rr.2))    : ∀ (n : Nat) (σ : ah_S) (r0 : Option Nat) (x2 : Int32) (x3 : Int32) (x4 : Int32) (x5 : Int32), F_X0_warden_39 n σ r0 x2 x3 x4 x5 = some rr → ah_G κ ("LeftAsFound", "warden", 7, (some FieldType.int), [], 138, 3975) cX0_warden σ 39 [some (va_rf r0), none, some (.int x2), some (.int x3), some (.int x4), some (.int x5), none] [] := by
  intro n
  induction n with
  | zero => intro σ r0 x2 x3 x4 x5 h; cases h
  | succ n ih =>
    intro σ r0 x2 x3 x4 x5 h
    rw [F_X0_warden_39] at h
    refine ro_iload (pc' := 41) dX0_warden_39 rfl rfl ?_
    refine ro_if_le (pc' := 44) (tgt := 75) dX0_warden_41 rfl rfl (fun c => ?_) (fun c => ?_)
    · replace h := ah_ip c h
      refine ro_iload_n (pc' := 76) dX0_warden_75 rfl rfl rfl ?_
      refine ro_if_ne (pc' := 79) (tgt := 83) dX0_warden_76 rfl rfl (fun c => ?_) (fun c => ?_)
      · replace h := ah_in_ c h
        refine ro_iload_n (pc' := 84) dX0_warden_83 rfl rfl rfl ?_
        refine ro_iconst (pc' := 85) dX0_warden_84 ic_1 rfl ?_
        refine ro_icmp_ne (pc' := 88) (tgt := 93) dX0_warden_85 rfl rfl (fun c => ?_) (fun c => ?_)
        · replace h := ah_in_ c h
          refine ro_aload_n (pc' := 94) dX0_warden_93 rfl rfl rfl ?_
          refine ro_iconst (pc' := 95) dX0_warden_94 ic_m1 rfl ?_
          obtain ⟨u1, hu1, h⟩ := ah_bs h
          obtain ⟨v2, σ3, hv2, h⟩ := ah_bs2 h
          refine ro_callV (pc' := 98) (As := [.int (-1 : Int32)]) (rest := []) (st' := [.int v2]) (by decide) hu1 q777 sl_X0_wardenCost (M_X0_wardenCost hv2) q775 q778 q95 dd_X0_wardenCost rfl ⟨Nat.le_of_ble_eq_true rfl, Nat.le_of_ble_eq_true rfl⟩ (Nat.le_of_ble_eq_true rfl) dX0_warden_95 rfl rfl rfl ?_
          refine ro_iload (pc' := 100) dX0_warden_98 rfl rfl ?_
          refine ro_isub (pc' := 101) dX0_warden_100 rfl ?_
          obtain rfl := Option.some.inj h
          exact ro_iret hκ dX0_warden_101
        · replace h := ah_ip c h
          refine ro_iload (pc' := 90) dX0_warden_88 rfl rfl ?_
          refine ro_goto (tgt := 101) dX0_warden_90 rfl ?_
          obtain rfl := Option.some.inj h
          exact ro_iret hκ dX0_warden_101
      · replace h := ah_ip c h
        refine ro_iload_n (pc' := 80) dX0_warden_79 rfl rfl rfl ?_
        refine ro_goto (tgt := 101) dX0_warden_80 rfl ?_
        obtain rfl := Option.some.inj h
        exact ro_iret hκ dX0_warden_101
    · replace h := ah_in_ c h
      refine ro_aload_n (pc' := 45) dX0_warden_44 rfl rfl rfl ?_
      refine ro_iload (pc' := 47) dX0_warden_45 rfl rfl ?_
      obtain ⟨u4, hu4, h⟩ := ah_bs h
      obtain ⟨v5, σ6, hv5, h⟩ := ah_bs2 h
      refine ro_callV (pc' := 50) (As := [.int x5]) (rest := []) (st' := [.int v5]) (by decide) hu4 q777 sl_X0_wardenCost (M_X0_wardenCost hv5) q775 q778 q95 dd_X0_wardenCost rfl ⟨Nat.le_of_ble_eq_true rfl, Nat.le_of_ble_eq_true rfl⟩ (Nat.le_of_ble_eq_true rfl) dX0_warden_47 rfl rfl rfl ?_
      refine ro_istore (pc' := 52) (L' := [some (va_rf r0), none, some (.int x2), some (.int x3), some (.int x4), some (.int x5), some (.int v5)]) dX0_warden_50 (Nat.le_of_ble_eq_true rfl) rfl (ah_okp_i _) rfl ?_
      refine ro_iload (pc' := 54) dX0_warden_52 rfl rfl ?_
      refine ro_iload (pc' := 56) dX0_warden_54 rfl rfl ?_
      refine ro_icmp_lt (pc' := 59) (tgt := 62) dX0_warden_56 rfl rfl (fun c => ?_) (fun c => ?_)
      · replace h := ah_ip c h
        refine ro_iload (pc' := 64) dX0_warden_62 rfl rfl ?_
        refine ro_istore (pc' := 66) (L' := [some (va_rf r0), none, some (.int x2), some (.int x3), some (.int v5), some (.int x5), some (.int v5)]) dX0_warden_64 (Nat.le_of_ble_eq_true rfl) rfl (ah_okp_i _) rfl ?_
        refine ro_iload (pc' := 68) dX0_warden_66 rfl rfl ?_
        refine ro_istore_n (pc' := 69) (L' := [some (va_rf r0), none, some (.int x2), some (.int x5), some (.int v5), some (.int x5), some (.int v5)]) dX0_warden_68 rfl (Nat.le_of_ble_eq_true rfl) rfl (ah_okp_i _) rfl ?_
        refine ro_iinc (pc' := 72) (L' := [some (va_rf r0), none, some (.int x2), some (.int x5), some (.int v5), some (.int (x5 + (-1 : Int32))), some (.int v5)]) dX0_warden_69 rfl ic_m1 (Nat.le_of_ble_eq_true rfl) rfl (ah_okp_i _) rfl ?_
        refine ro_goto (tgt := 39) dX0_warden_72 rfl ?_
        refine ro_weak (L' := [some (va_rf r0), none, some (.int x2), some (.int x5), some (.int v5), some (.int (x5 + (-1 : Int32))), none]) (ah_ls_s (ah_ls_s (ah_ls_s (ah_ls_s (ah_ls_s (ah_ls_s (ah_ls_n ah_ls_0))))))) ?_
        exact ih _ _ _ _ _ _ h
      · replace h := ah_in_ c h
        refine ro_goto (tgt := 69) dX0_warden_59 rfl ?_
        refine ro_iinc (pc' := 72) (L' := [some (va_rf r0), none, some (.int x2), some (.int x3), some (.int x4), some (.int (x5 + (-1 : Int32))), some (.int v5)]) dX0_warden_69 rfl ic_m1 (Nat.le_of_ble_eq_true rfl) rfl (ah_okp_i _) rfl ?_
        refine ro_goto (tgt := 39) dX0_warden_72 rfl ?_
        refine ro_weak (L' := [some (va_rf r0), none, some (.int x2), some (.int x3), some (.int x4), some (.int (x5 + (-1 : Int32))), none]) (ah_ls_s (ah_ls_s (ah_ls_s (ah_ls_s (ah_ls_s (ah_ls_s (ah_ls_n ah_ls_0))))))) ?_
        exact ih _ _ _ _ _ _ h
set_option maxRecDepth 20000 in
set_option maxHeartbeats 4000000 in
theorem W_X0_warden {κ : ah_C} {rr : (Int32 × ah_S)} (hκ : ah_res κ = (.returned (some (.int rr.1)), rr.2))  (σ : ah_S) (r0 : Option Nat) (x1 : Int32) (x2 : Int32) (h : F_X0_warden σ r0 x1 x2 = some rr) : ah_G κ ("LeftAsFound", "warden", 7, (some FieldType.int), [], 138, 3975) cX0_warden σ 0 [some (va_rf r0), some (.int x1), some (.int x2), none, none, none, none] [] := by
  unfold F_X0_warden at h
  refine ro_iload_n (pc' := 1) dX0_warden_0 rfl rfl rfl ?_
  refine ro_i2l (pc' := 2) dX0_warden_1 rfl ?_
  refine ro_lconst (pc' := 3) dX0_warden_2 lc_0 rfl ?_
  refine ro_ldc2 (pc' := 6) q487 dX0_warden_3 rfl ?_
  obtain ⟨v1, σ2, hv1, h⟩ := ah_bs2 h
  refine ro_callS (pc' := 9) (As := [.long (x2.toInt64), .long (0 : Int64), .long (2 : Int64)]) (rest := []) (st' := [.int v1]) q429 (M_X0_within hv1) q428 q430 q95 dd_X0_within rfl ⟨Nat.le_of_ble_eq_true rfl, Nat.le_of_ble_eq_true rfl⟩ (Nat.le_of_ble_eq_true rfl) dX0_warden_6 rfl rfl rfl ?_
  refine ro_if_eq (pc' := 12) (tgt := 20) dX0_warden_9 rfl rfl (fun c => ?_) (fun c => ?_)
  · replace h := ah_ip c h
    refine ro_ldc_w (pc' := 23) q774 dX0_warden_20 rfl ?_
    obtain rfl := Option.some.inj h
    exact ro_iret hκ dX0_warden_23
  · replace h := ah_in_ c h
    refine ro_aload_n (pc' := 13) dX0_warden_12 rfl rfl rfl ?_
    refine ro_iload_n (pc' := 14) dX0_warden_13 rfl rfl rfl ?_
    obtain ⟨u3, hu3, h⟩ := ah_bs h
    obtain ⟨v4, σ5, hv4, h⟩ := ah_bs2 h
    refine ro_callV (pc' := 17) (As := [.int x1]) (rest := []) (st' := [.int v4]) (by decide) hu3 q655 sl_X0_takes1Row (M_X0_takes1Row hv4) q653 q656 q95 dd_X0_takes1Row rfl ⟨Nat.le_of_ble_eq_true rfl, Nat.le_of_ble_eq_true rfl⟩ (Nat.le_of_ble_eq_true rfl) dX0_warden_14 rfl rfl rfl ?_
    refine ro_if_ge (pc' := 20) (tgt := 24) dX0_warden_17 rfl rfl (fun c => ?_) (fun c => ?_)
    · replace h := ah_ip c h
      refine ro_bipush (pc' := 26) dX0_warden_24 ib_20 rfl ?_
      refine ro_istore_n (pc' := 27) (L' := [some (va_rf r0), some (.int x1), some (.int x2), some (.int (20 : Int32)), none, none, none]) dX0_warden_26 rfl (Nat.le_of_ble_eq_true rfl) rfl (ah_okp_i _) rfl ?_
      refine ro_aload_n (pc' := 28) dX0_warden_27 rfl rfl rfl ?_
      refine ro_bipush (pc' := 30) dX0_warden_28 ib_20 rfl ?_
      obtain ⟨u6, hu6, h⟩ := ah_bs h
      obtain ⟨v7, σ8, hv7, h⟩ := ah_bs2 h
      refine ro_callV (pc' := 33) (As := [.int (20 : Int32)]) (rest := []) (st' := [.int v7]) (by decide) hu6 q777 sl_X0_wardenCost (M_X0_wardenCost hv7) q775 q778 q95 dd_X0_wardenCost rfl ⟨Nat.le_of_ble_eq_true rfl, Nat.le_of_ble_eq_true rfl⟩ (Nat.le_of_ble_eq_true rfl) dX0_warden_30 rfl rfl rfl ?_
      refine ro_istore (pc' := 35) (L' := [some (va_rf r0), some (.int x1), some (.int x2), some (.int (20 : Int32)), some (.int v7), none, none]) dX0_warden_33 (Nat.le_of_ble_eq_true rfl) rfl (ah_okp_i _) rfl ?_
      refine ro_bipush (pc' := 37) dX0_warden_35 ib_19 rfl ?_
      refine ro_istore (pc' := 39) (L' := [some (va_rf r0), some (.int x1), some (.int x2), some (.int (20 : Int32)), some (.int v7), some (.int (19 : Int32)), none]) dX0_warden_37 (Nat.le_of_ble_eq_true rfl) rfl (ah_okp_i _) rfl ?_
      refine ro_weak (L' := [some (va_rf r0), none, some (.int x2), some (.int (20 : Int32)), some (.int v7), some (.int (19 : Int32)), none]) (ah_ls_s (ah_ls_n (ah_ls_s (ah_ls_s (ah_ls_s (ah_ls_s (ah_ls_s ah_ls_0))))))) ?_
      exact W_X0_warden_39 hκ _ _ _ _ _ _ _ h
    · replace h := ah_in_ c h
      refine ro_ldc_w (pc' := 23) q774 dX0_warden_20 rfl ?_
      obtain rfl := Option.some.inj h
      exact ro_iret hκ dX0_warden_23
theorem M_X0_warden {l : Launch} {D : ah_D}  {σ : ah_S} {r0 : Option Nat} {x1 : Int32} {x2 : Int32} {v : Int32} {σ1 : ah_S} (h : F_X0_warden σ r0 x1 x2 = some (v, σ1)) : ah_Met l yX0_warden (Cond.code yX0_warden cX0_warden 7 (some FieldType.int)) 138 3975 D [va_rf r0, .int x1, .int x2] σ (.returned (some (.int v)), σ1) :=
  ah_ofG (own := "LeftAsFound") (nm := "warden") (L0 := [some (va_rf r0), some (.int x1), some (.int x2), none, none, none, none]) (by decide) rfl rfl rfl (ah_ao_1 (ah_rf_cat _) (ah_ao_1 rfl (ah_ao_1 rfl (ah_ao_n (ah_ao_n (ah_ao_n (ah_ao_n ah_ao_0))))))) (fun κ hκ => W_X0_warden hκ  σ r0 x1 x2 h)
set_option maxRecDepth 20000 in
set_option maxHeartbeats 4000000 in
theorem W_X0_tryOrders_8 {κ : ah_C} {rr : ah_S} (hκ : ah_res κ = (.returned none, rr)) {frR loR : Nat} (hF : 138 ≤ frR) (hL : 3973 ≤ loR) {f_X0_tryOrders : ah_S → Option Nat → Int32 → Int32 → Int32 → Option ah_S} (h_X0_tryOrders : ∀ {l : Launch} {D : ah_D} {σ : ah_S} {r0 : Option Nat} {x1 : Int32} {x2 : Int32} {x3 : Int32} {σ1 : ah_S}, f_X0_tryOrders σ r0 x1 x2 x3 = some σ1 → ah_Met l yX0_tryOrders (Cond.code yX0_tryOrders cX0_tryOrders 5 none) frR loR D [va_rf r0, .int x1, .int x2, .int x3] σ (.returned none, σ1))   : ∀ (n : Nat) (σ : ah_S) (r0 : Option Nat) (x3 : Int32) (x4 : Int32), F_X0_tryOrders_8 f_X0_tryOrders n σ r0 x3 x4 = some rr → ah_G κ ("LeftAsFound", "tryOrders", 5, none, [], (frR + 1), (loR + 24)) cX0_tryOrders σ 8 [some (va_rf r0), none, none, some (.int x3), some (.int x4)] [] := by
  intro n
  induction n with
  | zero => intro σ r0 x3 x4 h; cases h
  | succ n ih =>
    intro σ r0 x3 x4 h
    rw [F_X0_tryOrders_8] at h
    refine ro_iload (pc' := 10) dX0_tryOrders_8 rfl rfl ?_
    refine ro_iload_n (pc' := 11) dX0_tryOrders_10 rfl rfl rfl ?_
    refine ro_icmp_ge (pc' := 14) (tgt := 39) dX0_tryOrders_11 rfl rfl (fun c => ?_) (fun c => ?_)
    · replace h := ah_ip c h
      refine ro_aload_n (pc' := 40) dX0_tryOrders_39 rfl rfl rfl ?_
      obtain ⟨u1, hu1, h⟩ := ah_bs h
      obtain ⟨v2, σ3, hv2, h⟩ := ah_bs2 h
      refine ro_callV (pc' := 43) (As := []) (rest := []) (st' := [.int v2]) (by decide) hu1 q731 sl_X0_lossOfRow (M_X0_lossOfRow hv2) q729 q732 q95 dd_X0_lossOfRow rfl ⟨show 137 + 1 ≤ frR + 1 by omega, show 8 + (3 + 11) + 3951 ≤ loR + 24 by omega⟩ (Nat.le_of_ble_eq_true rfl) dX0_tryOrders_40 rfl rfl rfl ?_
      refine ro_istore (pc' := 45) (L' := [some (va_rf r0), none, none, some (.int x3), some (.int v2)]) dX0_tryOrders_43 (Nat.le_of_ble_eq_true rfl) rfl (ah_okp_i _) rfl ?_
      refine ro_aload_n (pc' := 46) dX0_tryOrders_45 rfl rfl rfl ?_
      obtain ⟨v4, hv4, h⟩ := ah_bs h
      refine ro_getI (pc' := 49) ft_28 fk_28 q322 dX0_tryOrders_46 rfl hv4 ?_
      refine ro_if_lt (pc' := 52) (tgt := 62) dX0_tryOrders_49 rfl rfl (fun c => ?_) (fun c => ?_)
      · replace h := ah_ip c h
        refine ro_aload_n (pc' := 63) dX0_tryOrders_62 rfl rfl rfl ?_
        refine ro_iload (pc' := 65) dX0_tryOrders_63 rfl rfl ?_
        obtain ⟨σ5, hσ5, h⟩ := ah_bs h
        refine ro_putI (pc' := 68) ft_28 fk_28 q322 pd_28 dX0_tryOrders_65 rfl hσ5 ?_
        refine ro_aload_n (pc' := 69) dX0_tryOrders_68 rfl rfl rfl ?_
        obtain ⟨v6, hv6, h⟩ := ah_bs h
        refine ro_getR (pc' := 72) ft_26 fk_26 q320 dX0_tryOrders_69 rfl hv6 ?_
        refine ro_iconst (pc' := 73) dX0_tryOrders_72 ic_0 rfl ?_
        refine ro_aload_n (pc' := 74) dX0_tryOrders_73 rfl rfl rfl ?_
        obtain ⟨v7, hv7, h⟩ := ah_bs h
        refine ro_getR (pc' := 77) ft_27 fk_27 q321 dX0_tryOrders_74 rfl hv7 ?_
        refine ro_iconst (pc' := 78) dX0_tryOrders_77 ic_0 rfl ?_
        refine ro_iload_n (pc' := 79) dX0_tryOrders_78 rfl rfl rfl ?_
        obtain ⟨σ8, hσ8, h⟩ := ah_bs h
        refine ro_copy (pc' := 82) q783 q674 q673 q113 (Nat.le_of_ble_eq_true rfl) (by have hnf := ah_nfw; show _ ≤ loR + 24; simp only [List.map_cons, List.map_nil, List.sum_cons, List.sum_nil, ah_rf_cat, ah_cat_i, ah_cat_l]; omega) dX0_tryOrders_79 rfl hσ8 ?_
        obtain rfl := Option.some.inj h
        exact ro_vret hκ dX0_tryOrders_82
      · replace h := ah_in_ c h
        refine ro_iload (pc' := 54) dX0_tryOrders_52 rfl rfl ?_
        refine ro_aload_n (pc' := 55) dX0_tryOrders_54 rfl rfl rfl ?_
        obtain ⟨v9, hv9, h⟩ := ah_bs h
        refine ro_getI (pc' := 58) ft_28 fk_28 q322 dX0_tryOrders_55 rfl hv9 ?_
        refine ro_icmp_lt (pc' := 61) (tgt := 62) dX0_tryOrders_58 rfl rfl (fun c => ?_) (fun c => ?_)
        · replace h := ah_ip c h
          refine ro_aload_n (pc' := 63) dX0_tryOrders_62 rfl rfl rfl ?_
          refine ro_iload (pc' := 65) dX0_tryOrders_63 rfl rfl ?_
          obtain ⟨σ10, hσ10, h⟩ := ah_bs h
          refine ro_putI (pc' := 68) ft_28 fk_28 q322 pd_28 dX0_tryOrders_65 rfl hσ10 ?_
          refine ro_aload_n (pc' := 69) dX0_tryOrders_68 rfl rfl rfl ?_
          obtain ⟨v11, hv11, h⟩ := ah_bs h
          refine ro_getR (pc' := 72) ft_26 fk_26 q320 dX0_tryOrders_69 rfl hv11 ?_
          refine ro_iconst (pc' := 73) dX0_tryOrders_72 ic_0 rfl ?_
          refine ro_aload_n (pc' := 74) dX0_tryOrders_73 rfl rfl rfl ?_
          obtain ⟨v12, hv12, h⟩ := ah_bs h
          refine ro_getR (pc' := 77) ft_27 fk_27 q321 dX0_tryOrders_74 rfl hv12 ?_
          refine ro_iconst (pc' := 78) dX0_tryOrders_77 ic_0 rfl ?_
          refine ro_iload_n (pc' := 79) dX0_tryOrders_78 rfl rfl rfl ?_
          obtain ⟨σ13, hσ13, h⟩ := ah_bs h
          refine ro_copy (pc' := 82) q783 q674 q673 q113 (Nat.le_of_ble_eq_true rfl) (by have hnf := ah_nfw; show _ ≤ loR + 24; simp only [List.map_cons, List.map_nil, List.sum_cons, List.sum_nil, ah_rf_cat, ah_cat_i, ah_cat_l]; omega) dX0_tryOrders_79 rfl hσ13 ?_
          obtain rfl := Option.some.inj h
          exact ro_vret hκ dX0_tryOrders_82
        · replace h := ah_in_ c h
          obtain rfl := Option.some.inj h
          exact ro_vret hκ dX0_tryOrders_61
    · replace h := ah_in_ c h
      refine ro_aload_n (pc' := 15) dX0_tryOrders_14 rfl rfl rfl ?_
      obtain ⟨v14, hv14, h⟩ := ah_bs h
      refine ro_getR (pc' := 18) ft_20 fk_20 q314 dX0_tryOrders_15 rfl hv14 ?_
      refine ro_iload (pc' := 20) dX0_tryOrders_18 rfl rfl ?_
      refine ro_aload_n (pc' := 21) dX0_tryOrders_20 rfl rfl rfl ?_
      obtain ⟨v15, hv15, h⟩ := ah_bs h
      refine ro_getR (pc' := 24) ft_25 fk_25 q319 dX0_tryOrders_21 rfl hv15 ?_
      refine ro_aload_n (pc' := 25) dX0_tryOrders_24 rfl rfl rfl ?_
      obtain ⟨v16, hv16, h⟩ := ah_bs h
      refine ro_getR (pc' := 28) ft_26 fk_26 q320 dX0_tryOrders_25 rfl hv16 ?_
      refine ro_iload (pc' := 30) dX0_tryOrders_28 rfl rfl ?_
      obtain ⟨v17, hv17, h⟩ := ah_bs h
      refine ro_iaload (pc' := 31) dX0_tryOrders_30 rfl hv17 ?_
      obtain ⟨v18, hv18, h⟩ := ah_bs h
      refine ro_iaload (pc' := 32) dX0_tryOrders_31 rfl hv18 ?_
      obtain ⟨σ19, hσ19, h⟩ := ah_bs h
      refine ro_iastore (pc' := 33) dX0_tryOrders_32 rfl hσ19 ?_
      refine ro_iinc (pc' := 36) (L' := [some (va_rf r0), none, none, some (.int x3), some (.int (x4 + (1 : Int32)))]) dX0_tryOrders_33 rfl ic_1 (Nat.le_of_ble_eq_true rfl) rfl (ah_okp_i _) rfl ?_
      refine ro_goto (tgt := 8) dX0_tryOrders_36 rfl ?_
      exact ih _ _ _ _ h
set_option maxRecDepth 20000 in
set_option maxHeartbeats 4000000 in
theorem W_X0_tryOrders_86 {κ : ah_C} {rr : ah_S} (hκ : ah_res κ = (.returned none, rr)) {frR loR : Nat} (hF : 138 ≤ frR) (hL : 3973 ≤ loR) {f_X0_tryOrders : ah_S → Option Nat → Int32 → Int32 → Int32 → Option ah_S} (h_X0_tryOrders : ∀ {l : Launch} {D : ah_D} {σ : ah_S} {r0 : Option Nat} {x1 : Int32} {x2 : Int32} {x3 : Int32} {σ1 : ah_S}, f_X0_tryOrders σ r0 x1 x2 x3 = some σ1 → ah_Met l yX0_tryOrders (Cond.code yX0_tryOrders cX0_tryOrders 5 none) frR loR D [va_rf r0, .int x1, .int x2, .int x3] σ (.returned none, σ1))   : ∀ (n : Nat) (σ : ah_S) (r0 : Option Nat) (x1 : Int32) (x2 : Int32) (x3 : Int32) (x4 : Int32), F_X0_tryOrders_86 f_X0_tryOrders n σ r0 x1 x2 x3 x4 = some rr → ah_G κ ("LeftAsFound", "tryOrders", 5, none, [], (frR + 1), (loR + 24)) cX0_tryOrders σ 86 [some (va_rf r0), some (.int x1), some (.int x2), some (.int x3), some (.int x4)] [] := by
  intro n
  induction n with
  | zero => intro σ r0 x1 x2 x3 x4 h; cases h
  | succ n ih =>
    intro σ r0 x1 x2 x3 x4 h
    rw [F_X0_tryOrders_86] at h
    refine ro_iload (pc' := 88) dX0_tryOrders_86 rfl rfl ?_
    refine ro_iload_n (pc' := 89) dX0_tryOrders_88 rfl rfl rfl ?_
    refine ro_icmp_ge (pc' := 92) (tgt := 132) dX0_tryOrders_89 rfl rfl (fun c => ?_) (fun c => ?_)
    · replace h := ah_ip c h
      obtain rfl := Option.some.inj h
      exact ro_vret hκ dX0_tryOrders_132
    · replace h := ah_in_ c h
      refine ro_iload_n (pc' := 93) dX0_tryOrders_92 rfl rfl rfl ?_
      refine ro_iload (pc' := 95) dX0_tryOrders_93 rfl rfl ?_
      obtain ⟨v1, σ2, hv1, h⟩ := ah_bs2 h
      refine ro_callS (pc' := 98) (As := [.int x2, .int x4]) (rest := []) (st' := [.int v1]) q519 (M_X0_isIn hv1) q518 q520 q95 dd_X0_isIn rfl ⟨show 1 + 1 ≤ frR + 1 by omega, show 8 + (2 + 11) + 24 ≤ loR + 24 by omega⟩ (Nat.le_of_ble_eq_true rfl) dX0_tryOrders_95 rfl rfl rfl ?_
      refine ro_if_eq (pc' := 101) (tgt := 104) dX0_tryOrders_98 rfl rfl (fun c => ?_) (fun c => ?_)
      · replace h := ah_ip c h
        refine ro_aload_n (pc' := 105) dX0_tryOrders_104 rfl rfl rfl ?_
        obtain ⟨v3, hv3, h⟩ := ah_bs h
        refine ro_getR (pc' := 108) ft_26 fk_26 q320 dX0_tryOrders_105 rfl hv3 ?_
        refine ro_iload_n (pc' := 109) dX0_tryOrders_108 rfl rfl rfl ?_
        refine ro_iload (pc' := 111) dX0_tryOrders_109 rfl rfl ?_
        obtain ⟨σ4, hσ4, h⟩ := ah_bs h
        refine ro_iastore (pc' := 112) dX0_tryOrders_111 rfl hσ4 ?_
        refine ro_aload_n (pc' := 113) dX0_tryOrders_112 rfl rfl rfl ?_
        refine ro_iload_n (pc' := 114) dX0_tryOrders_113 rfl rfl rfl ?_
        refine ro_iconst (pc' := 115) dX0_tryOrders_114 ic_1 rfl ?_
        refine ro_iadd (pc' := 116) dX0_tryOrders_115 rfl ?_
        refine ro_iload_n (pc' := 117) dX0_tryOrders_116 rfl rfl rfl ?_
        refine ro_iconst (pc' := 118) dX0_tryOrders_117 ic_1 rfl ?_
        refine ro_iload (pc' := 120) dX0_tryOrders_118 rfl rfl ?_
        refine ro_ishl (pc' := 121) dX0_tryOrders_120 rfl ?_
        refine ro_ior (pc' := 122) dX0_tryOrders_121 rfl ?_
        refine ro_iload_n (pc' := 123) dX0_tryOrders_122 rfl rfl rfl ?_
        obtain ⟨u5, hu5, h⟩ := ah_bs h
        obtain ⟨σ6, hσ6, h⟩ := ah_bs h
        refine ro_callV (pc' := 126) (As := [.int (x1 + (1 : Int32)), .int (x2 ||| ((1 : Int32) <<< (x4 &&& 31))), .int x3]) (rest := []) (st' := []) (by decide) hu5 q790 sl_X0_tryOrders (h_X0_tryOrders hσ6) q788 q791 q95 dd_X0_tryOrders rfl ⟨show frR + 1 ≤ frR + 1 by omega, show 8 + (5 + 11) + loR ≤ loR + 24 by omega⟩ (Nat.le_of_ble_eq_true rfl) dX0_tryOrders_123 rfl rfl rfl ?_
        refine ro_iinc (pc' := 129) (L' := [some (va_rf r0), some (.int x1), some (.int x2), some (.int x3), some (.int (x4 + (1 : Int32)))]) dX0_tryOrders_126 rfl ic_1 (Nat.le_of_ble_eq_true rfl) rfl (ah_okp_i _) rfl ?_
        refine ro_goto (tgt := 86) dX0_tryOrders_129 rfl ?_
        exact ih _ _ _ _ _ _ h
      · replace h := ah_in_ c h
        refine ro_goto (tgt := 126) dX0_tryOrders_101 rfl ?_
        refine ro_iinc (pc' := 129) (L' := [some (va_rf r0), some (.int x1), some (.int x2), some (.int x3), some (.int (x4 + (1 : Int32)))]) dX0_tryOrders_126 rfl ic_1 (Nat.le_of_ble_eq_true rfl) rfl (ah_okp_i _) rfl ?_
        refine ro_goto (tgt := 86) dX0_tryOrders_129 rfl ?_
        exact ih _ _ _ _ _ _ h
set_option maxRecDepth 20000 in
set_option maxHeartbeats 4000000 in
theorem W_X0_tryOrders {κ : ah_C} {rr : ah_S} (hκ : ah_res κ = (.returned none, rr)) {frR loR : Nat} (hF : 138 ≤ frR) (hL : 3973 ≤ loR) {f_X0_tryOrders : ah_S → Option Nat → Int32 → Int32 → Int32 → Option ah_S} (h_X0_tryOrders : ∀ {l : Launch} {D : ah_D} {σ : ah_S} {r0 : Option Nat} {x1 : Int32} {x2 : Int32} {x3 : Int32} {σ1 : ah_S}, f_X0_tryOrders σ r0 x1 x2 x3 = some σ1 → ah_Met l yX0_tryOrders (Cond.code yX0_tryOrders cX0_tryOrders 5 none) frR loR D [va_rf r0, .int x1, .int x2, .int x3] σ (.returned none, σ1)) (σ : ah_S) (r0 : Option Nat) (x1 : Int32) (x2 : Int32) (x3 : Int32) (h : F_X0_tryOrders f_X0_tryOrders σ r0 x1 x2 x3 = some rr) : ah_G κ ("LeftAsFound", "tryOrders", 5, none, [], (frR + 1), (loR + 24)) cX0_tryOrders σ 0 [some (va_rf r0), some (.int x1), some (.int x2), some (.int x3), none] [] := by
  unfold F_X0_tryOrders at h
  refine ro_iload_n (pc' := 1) dX0_tryOrders_0 rfl rfl rfl ?_
  refine ro_iload_n (pc' := 2) dX0_tryOrders_1 rfl rfl rfl ?_
  refine ro_icmp_ne (pc' := 5) (tgt := 83) dX0_tryOrders_2 rfl rfl (fun c => ?_) (fun c => ?_)
  · replace h := ah_in_ c h
    refine ro_iconst (pc' := 84) dX0_tryOrders_83 ic_0 rfl ?_
    refine ro_istore (pc' := 86) (L' := [some (va_rf r0), some (.int x1), some (.int x2), some (.int x3), some (.int (0 : Int32))]) dX0_tryOrders_84 (Nat.le_of_ble_eq_true rfl) rfl (ah_okp_i _) rfl ?_
    exact W_X0_tryOrders_86 hκ hF hL h_X0_tryOrders _ _ _ _ _ _ _ h
  · replace h := ah_ip c h
    refine ro_iconst (pc' := 6) dX0_tryOrders_5 ic_0 rfl ?_
    refine ro_istore (pc' := 8) (L' := [some (va_rf r0), some (.int x1), some (.int x2), some (.int x3), some (.int (0 : Int32))]) dX0_tryOrders_6 (Nat.le_of_ble_eq_true rfl) rfl (ah_okp_i _) rfl ?_
    refine ro_weak (L' := [some (va_rf r0), none, none, some (.int x3), some (.int (0 : Int32))]) (ah_ls_s (ah_ls_n (ah_ls_n (ah_ls_s (ah_ls_s ah_ls_0))))) ?_
    exact W_X0_tryOrders_8 hκ hF hL h_X0_tryOrders _ _ _ _ _ h
theorem M_X0_tryOrders {l : Launch} {D : ah_D} {frR loR : Nat} (hF : 138 ≤ frR) (hL : 3973 ≤ loR) {f_X0_tryOrders : ah_S → Option Nat → Int32 → Int32 → Int32 → Option ah_S} (h_X0_tryOrders : ∀ {l : Launch} {D : ah_D} {σ : ah_S} {r0 : Option Nat} {x1 : Int32} {x2 : Int32} {x3 : Int32} {σ1 : ah_S}, f_X0_tryOrders σ r0 x1 x2 x3 = some σ1 → ah_Met l yX0_tryOrders (Cond.code yX0_tryOrders cX0_tryOrders 5 none) frR loR D [va_rf r0, .int x1, .int x2, .int x3] σ (.returned none, σ1)) {σ : ah_S} {r0 : Option Nat} {x1 : Int32} {x2 : Int32} {x3 : Int32} {σ1 : ah_S} (h : F_X0_tryOrders f_X0_tryOrders σ r0 x1 x2 x3 = some σ1) : ah_Met l yX0_tryOrders (Cond.code yX0_tryOrders cX0_tryOrders 5 none) (frR + 1) (loR + 24) D [va_rf r0, .int x1, .int x2, .int x3] σ (.returned none, σ1) :=
  ah_ofG (own := "LeftAsFound") (nm := "tryOrders") (L0 := [some (va_rf r0), some (.int x1), some (.int x2), some (.int x3), none]) (by decide) rfl rfl rfl (ah_ao_1 (ah_rf_cat _) (ah_ao_1 rfl (ah_ao_1 rfl (ah_ao_1 rfl (ah_ao_n ah_ao_0))))) (fun κ hκ => W_X0_tryOrders hκ hF hL h_X0_tryOrders σ r0 x1 x2 x3 h)
theorem N_X0_tryOrders (d : Nat) : ∀ {l : Launch} {D : ah_D} {σ : ah_S} {r0 : Option Nat} {x1 : Int32} {x2 : Int32} {x3 : Int32} {σ1 : ah_S}, Z_X0_tryOrders d σ r0 x1 x2 x3 = some σ1 → ah_Met l yX0_tryOrders (Cond.code yX0_tryOrders cX0_tryOrders 5 none) (138 + d) (3973 + 24 * d) D [va_rf r0, .int x1, .int x2, .int x3] σ (.returned none, σ1) := by
  induction d with
  | zero => intro l D σ r0 x1 x2 x3 σ1 h; cases h
  | succ d ih =>
    intro l D σ r0 x1 x2 x3 σ1 h
    rw [show 138 + (d + 1) = (138 + d) + 1 by omega, show 3973 + 24 * (d + 1) = (3973 + 24 * d) + 24 by omega]
    exact M_X0_tryOrders (by omega) (by omega) ih h
set_option maxRecDepth 20000 in
set_option maxHeartbeats 4000000 in
theorem W_X0_goDeeper_19 {κ : ah_C} {rr : ah_S} (hκ : ah_res κ = (.returned none, rr)) {frR loR : Nat} (hF : 137 ≤ frR) (hL : 3951 ≤ loR) {f_X0_goDeeper : ah_S → Option Nat → Option Nat → Int32 → Int32 → Int32 → Option ah_S} (h_X0_goDeeper : ∀ {l : Launch} {D : ah_D} {σ : ah_S} {r0 : Option Nat} {r1 : Option Nat} {x2 : Int32} {x3 : Int32} {x4 : Int32} {σ1 : ah_S}, f_X0_goDeeper σ r0 r1 x2 x3 x4 = some σ1 → ah_Met l yX0_goDeeper (Cond.code yX0_goDeeper cX0_goDeeper 6 none) frR loR D [va_rf r0, va_rf r1, .int x2, .int x3, .int x4] σ (.returned none, σ1))   : ∀ (n : Nat) (σ : ah_S) (r0 : Option Nat) (x4 : Int32) (x5 : Int32), F_X0_goDeeper_19 f_X0_goDeeper n σ r0 x4 x5 = some rr → ah_G κ ("LeftAsFound", "goDeeper", 6, none, [], (frR + 1), (loR + 25)) cX0_goDeeper σ 19 [some (va_rf r0), none, none, none, some (.int x4), some (.int x5)] [] := by
  intro n
  induction n with
  | zero => intro σ r0 x4 x5 h; cases h
  | succ n ih =>
    intro σ r0 x4 x5 h
    rw [F_X0_goDeeper_19] at h
    refine ro_iload (pc' := 21) dX0_goDeeper_19 rfl rfl ?_
    refine ro_iload (pc' := 23) dX0_goDeeper_21 rfl rfl ?_
    refine ro_icmp_ge (pc' := 26) (tgt := 49) dX0_goDeeper_23 rfl rfl (fun c => ?_) (fun c => ?_)
    · replace h := ah_ip c h
      obtain rfl := Option.some.inj h
      exact ro_vret hκ dX0_goDeeper_49
    · replace h := ah_in_ c h
      refine ro_aload_n (pc' := 27) dX0_goDeeper_26 rfl rfl rfl ?_
      obtain ⟨v1, hv1, h⟩ := ah_bs h
      refine ro_getR (pc' := 30) ft_30 fk_30 q324 dX0_goDeeper_27 rfl hv1 ?_
      refine ro_iload (pc' := 32) dX0_goDeeper_30 rfl rfl ?_
      refine ro_dup2 (pc' := 33) dX0_goDeeper_32 rfl (ah_rf_cat _) rfl ?_
      obtain ⟨v2, hv2, h⟩ := ah_bs h
      refine ro_iaload (pc' := 34) dX0_goDeeper_33 rfl hv2 ?_
      refine ro_aload_n (pc' := 35) dX0_goDeeper_34 rfl rfl rfl ?_
      obtain ⟨v3, hv3, h⟩ := ah_bs h
      refine ro_getR (pc' := 38) ft_31 fk_31 q325 dX0_goDeeper_35 rfl hv3 ?_
      refine ro_iload (pc' := 40) dX0_goDeeper_38 rfl rfl ?_
      obtain ⟨v4, hv4, h⟩ := ah_bs h
      refine ro_iaload (pc' := 41) dX0_goDeeper_40 rfl hv4 ?_
      refine ro_ior (pc' := 42) dX0_goDeeper_41 rfl ?_
      obtain ⟨σ5, hσ5, h⟩ := ah_bs h
      refine ro_iastore (pc' := 43) dX0_goDeeper_42 rfl hσ5 ?_
      refine ro_iinc (pc' := 46) (L' := [some (va_rf r0), none, none, none, some (.int x4), some (.int (x5 + (1 : Int32)))]) dX0_goDeeper_43 rfl ic_1 (Nat.le_of_ble_eq_true rfl) rfl (ah_okp_i _) rfl ?_
      refine ro_goto (tgt := 19) dX0_goDeeper_46 rfl ?_
      exact ih _ _ _ _ h
set_option maxRecDepth 20000 in
set_option maxHeartbeats 4000000 in
theorem W_X0_goDeeper_121 {κ : ah_C} {rr : ah_S} (hκ : ah_res κ = (.returned none, rr)) {frR loR : Nat} (hF : 137 ≤ frR) (hL : 3951 ≤ loR) {f_X0_goDeeper : ah_S → Option Nat → Option Nat → Int32 → Int32 → Int32 → Option ah_S} (h_X0_goDeeper : ∀ {l : Launch} {D : ah_D} {σ : ah_S} {r0 : Option Nat} {r1 : Option Nat} {x2 : Int32} {x3 : Int32} {x4 : Int32} {σ1 : ah_S}, f_X0_goDeeper σ r0 r1 x2 x3 x4 = some σ1 → ah_Met l yX0_goDeeper (Cond.code yX0_goDeeper cX0_goDeeper 6 none) frR loR D [va_rf r0, va_rf r1, .int x2, .int x3, .int x4] σ (.returned none, σ1)) {k53 : ah_S → Option Nat → Option Nat → Int32 → Int32 → Int32 → Int32 → Option ah_S} (hk53 : ∀ (σ : ah_S) (r0 : Option Nat) (r1 : Option Nat) (x2 : Int32) (x3 : Int32) (x4 : Int32) (x5 : Int32), k53 σ r0 r1 x2 x3 x4 x5 = some rr → ah_G κ ("LeftAsFound", "goDeeper", 6, none, [], (frR + 1), (loR + 25)) cX0_goDeeper σ 53 [some (va_rf r0), some (va_rf r1), some (.int x2), some (.int x3), some (.int x4), some (.int x5)] []) : ∀ (σ : ah_S) (r0 : Option Nat) (r1 : Option Nat) (x2 : Int32) (x3 : Int32) (x4 : Int32) (x5 : Int32), F_X0_goDeeper_121 f_X0_goDeeper k53 σ r0 r1 x2 x3 x4 x5 = some rr → ah_G κ ("LeftAsFound", "goDeeper", 6, none, [], (frR + 1), (loR + 25)) cX0_goDeeper σ 121 [some (va_rf r0), some (va_rf r1), some (.int x2), some (.int x3), some (.int x4), some (.int x5)] [] := by
  intro σ r0 r1 x2 x3 x4 x5 h
  unfold F_X0_goDeeper_121 at h
  refine ro_aload_n (pc' := 122) dX0_goDeeper_121 rfl rfl rfl ?_
  obtain ⟨v1, hv1, h⟩ := ah_bs h
  refine ro_getR (pc' := 125) ft_31 fk_31 q325 dX0_goDeeper_122 rfl hv1 ?_
  refine ro_iload_n (pc' := 126) dX0_goDeeper_125 rfl rfl rfl ?_
  refine ro_iload (pc' := 128) dX0_goDeeper_126 rfl rfl ?_
  refine ro_iconst (pc' := 129) dX0_goDeeper_128 ic_m1 rfl ?_
  refine ro_icmp_ne (pc' := 132) (tgt := 138) dX0_goDeeper_129 rfl rfl (fun c => ?_) (fun c => ?_)
  · replace h := ah_in_ c h
    refine ro_iconst (pc' := 139) dX0_goDeeper_138 ic_1 rfl ?_
    refine ro_iload (pc' := 141) dX0_goDeeper_139 rfl rfl ?_
    refine ro_ishl (pc' := 142) dX0_goDeeper_141 rfl ?_
    obtain ⟨σ2, hσ2, h⟩ := ah_bs h
    refine ro_iastore (pc' := 143) dX0_goDeeper_142 rfl hσ2 ?_
    refine ro_aload_n (pc' := 144) dX0_goDeeper_143 rfl rfl rfl ?_
    refine ro_aload_n (pc' := 145) dX0_goDeeper_144 rfl rfl rfl ?_
    refine ro_iload_n (pc' := 146) dX0_goDeeper_145 rfl rfl rfl ?_
    refine ro_iload_n (pc' := 147) dX0_goDeeper_146 rfl rfl rfl ?_
    refine ro_iconst (pc' := 148) dX0_goDeeper_147 ic_1 rfl ?_
    refine ro_iadd (pc' := 149) dX0_goDeeper_148 rfl ?_
    refine ro_iload (pc' := 151) dX0_goDeeper_149 rfl rfl ?_
    obtain ⟨u3, hu3, h⟩ := ah_bs h
    obtain ⟨σ4, hσ4, h⟩ := ah_bs h
    refine ro_callV (pc' := 154) (As := [va_rf r1, .int x2, .int (x3 + (1 : Int32)), .int x4]) (rest := []) (st' := []) (by decide) hu3 q815 sl_X0_goDeeper (h_X0_goDeeper hσ4) q813 q816 q95 dd_X0_goDeeper rfl ⟨show frR + 1 ≤ frR + 1 by omega, show 8 + (6 + 11) + loR ≤ loR + 25 by omega⟩ (Nat.le_of_ble_eq_true rfl) dX0_goDeeper_151 rfl rfl rfl ?_
    refine ro_iinc (pc' := 157) (L' := [some (va_rf r0), some (va_rf r1), some (.int x2), some (.int x3), some (.int x4), some (.int (x5 + (1 : Int32)))]) dX0_goDeeper_154 rfl ic_1 (Nat.le_of_ble_eq_true rfl) rfl (ah_okp_i _) rfl ?_
    refine ro_goto (tgt := 53) dX0_goDeeper_157 rfl ?_
    exact hk53 _ _ _ _ _ _ _ h
  · replace h := ah_ip c h
    refine ro_sipush (pc' := 135) dX0_goDeeper_132 is_128 rfl ?_
    refine ro_goto (tgt := 142) dX0_goDeeper_135 rfl ?_
    obtain ⟨σ5, hσ5, h⟩ := ah_bs h
    refine ro_iastore (pc' := 143) dX0_goDeeper_142 rfl hσ5 ?_
    refine ro_aload_n (pc' := 144) dX0_goDeeper_143 rfl rfl rfl ?_
    refine ro_aload_n (pc' := 145) dX0_goDeeper_144 rfl rfl rfl ?_
    refine ro_iload_n (pc' := 146) dX0_goDeeper_145 rfl rfl rfl ?_
    refine ro_iload_n (pc' := 147) dX0_goDeeper_146 rfl rfl rfl ?_
    refine ro_iconst (pc' := 148) dX0_goDeeper_147 ic_1 rfl ?_
    refine ro_iadd (pc' := 149) dX0_goDeeper_148 rfl ?_
    refine ro_iload (pc' := 151) dX0_goDeeper_149 rfl rfl ?_
    obtain ⟨u6, hu6, h⟩ := ah_bs h
    obtain ⟨σ7, hσ7, h⟩ := ah_bs h
    refine ro_callV (pc' := 154) (As := [va_rf r1, .int x2, .int (x3 + (1 : Int32)), .int x4]) (rest := []) (st' := []) (by decide) hu6 q815 sl_X0_goDeeper (h_X0_goDeeper hσ7) q813 q816 q95 dd_X0_goDeeper rfl ⟨show frR + 1 ≤ frR + 1 by omega, show 8 + (6 + 11) + loR ≤ loR + 25 by omega⟩ (Nat.le_of_ble_eq_true rfl) dX0_goDeeper_151 rfl rfl rfl ?_
    refine ro_iinc (pc' := 157) (L' := [some (va_rf r0), some (va_rf r1), some (.int x2), some (.int x3), some (.int x4), some (.int (x5 + (1 : Int32)))]) dX0_goDeeper_154 rfl ic_1 (Nat.le_of_ble_eq_true rfl) rfl (ah_okp_i _) rfl ?_
    refine ro_goto (tgt := 53) dX0_goDeeper_157 rfl ?_
    exact hk53 _ _ _ _ _ _ _ h
set_option maxRecDepth 20000 in
set_option maxHeartbeats 4000000 in
theorem W_X0_goDeeper_53 {κ : ah_C} {rr : ah_S} (hκ : ah_res κ = (.returned none, rr)) {frR loR : Nat} (hF : 137 ≤ frR) (hL : 3951 ≤ loR) {f_X0_goDeeper : ah_S → Option Nat → Option Nat → Int32 → Int32 → Int32 → Option ah_S} (h_X0_goDeeper : ∀ {l : Launch} {D : ah_D} {σ : ah_S} {r0 : Option Nat} {r1 : Option Nat} {x2 : Int32} {x3 : Int32} {x4 : Int32} {σ1 : ah_S}, f_X0_goDeeper σ r0 r1 x2 x3 x4 = some σ1 → ah_Met l yX0_goDeeper (Cond.code yX0_goDeeper cX0_goDeeper 6 none) frR loR D [va_rf r0, va_rf r1, .int x2, .int x3, .int x4] σ (.returned none, σ1))   : ∀ (n : Nat) (σ : ah_S) (r0 : Option Nat) (r1 : Option Nat) (x2 : Int32) (x3 : Int32) (x4 : Int32) (x5 : Int32), F_X0_goDeeper_53 f_X0_goDeeper n σ r0 r1 x2 x3 x4 x5 = some rr → ah_G κ ("LeftAsFound", "goDeeper", 6, none, [], (frR + 1), (loR + 25)) cX0_goDeeper σ 53 [some (va_rf r0), some (va_rf r1), some (.int x2), some (.int x3), some (.int x4), some (.int x5)] [] := by
  intro n
  induction n with
  | zero => intro σ r0 r1 x2 x3 x4 x5 h; cases h
  | succ n ih =>
    intro σ r0 r1 x2 x3 x4 x5 h
    rw [F_X0_goDeeper_53] at h
    refine ro_iload (pc' := 55) dX0_goDeeper_53 rfl rfl ?_
    refine ro_aload_n (pc' := 56) dX0_goDeeper_55 rfl rfl rfl ?_
    obtain ⟨v1, hv1, h⟩ := ah_bs h
    refine ro_getI (pc' := 59) ft_8 fk_8 q299 dX0_goDeeper_56 rfl hv1 ?_
    refine ro_icmp_ge (pc' := 62) (tgt := 160) dX0_goDeeper_59 rfl rfl (fun c => ?_) (fun c => ?_)
    · replace h := ah_ip c h
      obtain rfl := Option.some.inj h
      exact ro_vret hκ dX0_goDeeper_160
    · replace h := ah_in_ c h
      refine ro_aload_n (pc' := 63) dX0_goDeeper_62 rfl rfl rfl ?_
      obtain ⟨v2, hv2, h⟩ := ah_bs h
      refine ro_getR (pc' := 66) ft_29 fk_29 q323 dX0_goDeeper_63 rfl hv2 ?_
      refine ro_iload_n (pc' := 67) dX0_goDeeper_66 rfl rfl rfl ?_
      refine ro_iconst (pc' := 68) dX0_goDeeper_67 ic_1 rfl ?_
      refine ro_iadd (pc' := 69) dX0_goDeeper_68 rfl ?_
      obtain ⟨v3, hv3, h⟩ := ah_bs h
      refine ro_aaload (pc' := 70) (by decide) (by decide) rfl dX0_goDeeper_69 rfl hv3 ?_
      refine ro_aload_n (pc' := 71) dX0_goDeeper_70 rfl rfl rfl ?_
      obtain ⟨v4, hv4, h⟩ := ah_bs h
      refine ro_getR (pc' := 74) ft_29 fk_29 q323 dX0_goDeeper_71 rfl hv4 ?_
      refine ro_iload_n (pc' := 75) dX0_goDeeper_74 rfl rfl rfl ?_
      obtain ⟨v5, hv5, h⟩ := ah_bs h
      refine ro_aaload (pc' := 76) (by decide) (by decide) rfl dX0_goDeeper_75 rfl hv5 ?_
      obtain ⟨u6, hu6, h⟩ := ah_bs h
      obtain ⟨σ7, hσ7, h⟩ := ah_bs h
      refine ro_callV (pc' := 79) (As := [va_rf v5]) (rest := []) (st' := []) (by decide) hu6 q669 sl_X4_beAs (M_X4_beAs hσ7) q668 q671 q102 dd_X4_beAs rfl ⟨show 1 + 1 ≤ frR + 1 by omega, show 8 + (2 + 11) + 80 ≤ loR + 25 by omega⟩ (Nat.le_of_ble_eq_true rfl) dX0_goDeeper_76 rfl rfl rfl ?_
      refine ro_aload_n (pc' := 80) dX0_goDeeper_79 rfl rfl rfl ?_
      obtain ⟨v8, hv8, h⟩ := ah_bs h
      refine ro_getR (pc' := 83) ft_29 fk_29 q323 dX0_goDeeper_80 rfl hv8 ?_
      refine ro_iload_n (pc' := 84) dX0_goDeeper_83 rfl rfl rfl ?_
      refine ro_iconst (pc' := 85) dX0_goDeeper_84 ic_1 rfl ?_
      refine ro_iadd (pc' := 86) dX0_goDeeper_85 rfl ?_
      obtain ⟨v9, hv9, h⟩ := ah_bs h
      refine ro_aaload (pc' := 87) (by decide) (by decide) rfl dX0_goDeeper_86 rfl hv9 ?_
      refine ro_iload (pc' := 89) dX0_goDeeper_87 rfl rfl ?_
      obtain ⟨u10, hu10, h⟩ := ah_bs h
      obtain ⟨σ11, hσ11, h⟩ := ah_bs h
      refine ro_callV (pc' := 92) (As := [.int x5]) (rest := []) (st' := []) (by decide) hu10 q676 sl_X4_night (M_X4_night hσ11) q675 q678 q102 dd_X4_night rfl ⟨show 136 + 1 ≤ frR + 1 by omega, show 8 + (4 + 11) + 3928 ≤ loR + 25 by omega⟩ (Nat.le_of_ble_eq_true rfl) dX0_goDeeper_89 rfl rfl rfl ?_
      refine ro_aload_n (pc' := 93) dX0_goDeeper_92 rfl rfl rfl ?_
      refine ro_iload_n (pc' := 94) dX0_goDeeper_93 rfl rfl rfl ?_
      obtain ⟨v12, hv12, h⟩ := ah_bs h
      refine ro_baload (pc' := 95) dX0_goDeeper_94 rfl hv12 ?_
      refine ro_iconst (pc' := 96) dX0_goDeeper_95 ic_m1 rfl ?_
      refine ro_icmp_eq (pc' := 99) (tgt := 121) dX0_goDeeper_96 rfl rfl (fun c => ?_) (fun c => ?_)
      · replace h := ah_ip c h
        exact W_X0_goDeeper_121 hκ hF hL h_X0_goDeeper ih _ _ _ _ _ _ _ h
      · replace h := ah_in_ c h
        refine ro_aload_n (pc' := 100) dX0_goDeeper_99 rfl rfl rfl ?_
        refine ro_iload_n (pc' := 101) dX0_goDeeper_100 rfl rfl rfl ?_
        obtain ⟨v13, hv13, h⟩ := ah_bs h
        refine ro_baload (pc' := 102) dX0_goDeeper_101 rfl hv13 ?_
        refine ro_aload_n (pc' := 103) dX0_goDeeper_102 rfl rfl rfl ?_
        obtain ⟨v14, hv14, h⟩ := ah_bs h
        refine ro_getR (pc' := 106) ft_29 fk_29 q323 dX0_goDeeper_103 rfl hv14 ?_
        refine ro_iload_n (pc' := 107) dX0_goDeeper_106 rfl rfl rfl ?_
        refine ro_iconst (pc' := 108) dX0_goDeeper_107 ic_1 rfl ?_
        refine ro_iadd (pc' := 109) dX0_goDeeper_108 rfl ?_
        obtain ⟨v15, hv15, h⟩ := ah_bs h
        refine ro_aaload (pc' := 110) (by decide) (by decide) rfl dX0_goDeeper_109 rfl hv15 ?_
        obtain ⟨v16, hv16, h⟩ := ah_bs h
        refine ro_getRN (pc' := 113) ft_400 fk_400 nq245 dX0_goDeeper_110 rfl hv16 ?_
        refine ro_iload_n (pc' := 114) dX0_goDeeper_113 rfl rfl rfl ?_
        obtain ⟨v17, hv17, h⟩ := ah_bs h
        refine ro_iaload (pc' := 115) dX0_goDeeper_114 rfl hv17 ?_
        refine ro_icmp_eq (pc' := 118) (tgt := 121) dX0_goDeeper_115 rfl rfl (fun c => ?_) (fun c => ?_)
        · replace h := ah_ip c h
          exact W_X0_goDeeper_121 hκ hF hL h_X0_goDeeper ih _ _ _ _ _ _ _ h
        · replace h := ah_in_ c h
          refine ro_goto (tgt := 154) dX0_goDeeper_118 rfl ?_
          refine ro_iinc (pc' := 157) (L' := [some (va_rf r0), some (va_rf r1), some (.int x2), some (.int x3), some (.int x4), some (.int (x5 + (1 : Int32)))]) dX0_goDeeper_154 rfl ic_1 (Nat.le_of_ble_eq_true rfl) rfl (ah_okp_i _) rfl ?_
          refine ro_goto (tgt := 53) dX0_goDeeper_157 rfl ?_
          exact ih _ _ _ _ _ _ _ h
set_option maxRecDepth 20000 in
set_option maxHeartbeats 4000000 in
theorem W_X0_goDeeper {κ : ah_C} {rr : ah_S} (hκ : ah_res κ = (.returned none, rr)) {frR loR : Nat} (hF : 137 ≤ frR) (hL : 3951 ≤ loR) {f_X0_goDeeper : ah_S → Option Nat → Option Nat → Int32 → Int32 → Int32 → Option ah_S} (h_X0_goDeeper : ∀ {l : Launch} {D : ah_D} {σ : ah_S} {r0 : Option Nat} {r1 : Option Nat} {x2 : Int32} {x3 : Int32} {x4 : Int32} {σ1 : ah_S}, f_X0_goDeeper σ r0 r1 x2 x3 x4 = some σ1 → ah_Met l yX0_goDeeper (Cond.code yX0_goDeeper cX0_goDeeper 6 none) frR loR D [va_rf r0, va_rf r1, .int x2, .int x3, .int x4] σ (.returned none, σ1)) (σ : ah_S) (r0 : Option Nat) (r1 : Option Nat) (x2 : Int32) (x3 : Int32) (x4 : Int32) (h : F_X0_goDeeper f_X0_goDeeper σ r0 r1 x2 x3 x4 = some rr) : ah_G κ ("LeftAsFound", "goDeeper", 6, none, [], (frR + 1), (loR + 25)) cX0_goDeeper σ 0 [some (va_rf r0), some (va_rf r1), some (.int x2), some (.int x3), some (.int x4), none] [] := by
  unfold F_X0_goDeeper at h
  refine ro_iload_n (pc' := 1) dX0_goDeeper_0 rfl rfl rfl ?_
  refine ro_iload (pc' := 3) dX0_goDeeper_1 rfl rfl ?_
  refine ro_icmp_ne (pc' := 6) (tgt := 50) dX0_goDeeper_3 rfl rfl (fun c => ?_) (fun c => ?_)
  · replace h := ah_in_ c h
    refine ro_iconst (pc' := 51) dX0_goDeeper_50 ic_m1 rfl ?_
    refine ro_istore (pc' := 53) (L' := [some (va_rf r0), some (va_rf r1), some (.int x2), some (.int x3), some (.int x4), some (.int (-1 : Int32))]) dX0_goDeeper_51 (Nat.le_of_ble_eq_true rfl) rfl (ah_okp_i _) rfl ?_
    exact W_X0_goDeeper_53 hκ hF hL h_X0_goDeeper _ _ _ _ _ _ _ _ h
  · replace h := ah_ip c h
    refine ro_aload_n (pc' := 7) dX0_goDeeper_6 rfl rfl rfl ?_
    refine ro_dup (pc' := 8) dX0_goDeeper_7 (ah_rf_cat _) rfl ?_
    obtain ⟨v1, hv1, h⟩ := ah_bs h
    refine ro_getI (pc' := 11) ft_32 fk_32 q326 dX0_goDeeper_8 rfl hv1 ?_
    refine ro_iconst (pc' := 12) dX0_goDeeper_11 ic_1 rfl ?_
    refine ro_iadd (pc' := 13) dX0_goDeeper_12 rfl ?_
    obtain ⟨σ2, hσ2, h⟩ := ah_bs h
    refine ro_putI (pc' := 16) ft_32 fk_32 q326 pd_32 dX0_goDeeper_13 rfl hσ2 ?_
    refine ro_iconst (pc' := 17) dX0_goDeeper_16 ic_0 rfl ?_
    refine ro_istore (pc' := 19) (L' := [some (va_rf r0), some (va_rf r1), some (.int x2), some (.int x3), some (.int x4), some (.int (0 : Int32))]) dX0_goDeeper_17 (Nat.le_of_ble_eq_true rfl) rfl (ah_okp_i _) rfl ?_
    refine ro_weak (L' := [some (va_rf r0), none, none, none, some (.int x4), some (.int (0 : Int32))]) (ah_ls_s (ah_ls_n (ah_ls_n (ah_ls_n (ah_ls_s (ah_ls_s ah_ls_0)))))) ?_
    exact W_X0_goDeeper_19 hκ hF hL h_X0_goDeeper _ _ _ _ _ h
theorem M_X0_goDeeper {l : Launch} {D : ah_D} {frR loR : Nat} (hF : 137 ≤ frR) (hL : 3951 ≤ loR) {f_X0_goDeeper : ah_S → Option Nat → Option Nat → Int32 → Int32 → Int32 → Option ah_S} (h_X0_goDeeper : ∀ {l : Launch} {D : ah_D} {σ : ah_S} {r0 : Option Nat} {r1 : Option Nat} {x2 : Int32} {x3 : Int32} {x4 : Int32} {σ1 : ah_S}, f_X0_goDeeper σ r0 r1 x2 x3 x4 = some σ1 → ah_Met l yX0_goDeeper (Cond.code yX0_goDeeper cX0_goDeeper 6 none) frR loR D [va_rf r0, va_rf r1, .int x2, .int x3, .int x4] σ (.returned none, σ1)) {σ : ah_S} {r0 : Option Nat} {r1 : Option Nat} {x2 : Int32} {x3 : Int32} {x4 : Int32} {σ1 : ah_S} (h : F_X0_goDeeper f_X0_goDeeper σ r0 r1 x2 x3 x4 = some σ1) : ah_Met l yX0_goDeeper (Cond.code yX0_goDeeper cX0_goDeeper 6 none) (frR + 1) (loR + 25) D [va_rf r0, va_rf r1, .int x2, .int x3, .int x4] σ (.returned none, σ1) :=
  ah_ofG (own := "LeftAsFound") (nm := "goDeeper") (L0 := [some (va_rf r0), some (va_rf r1), some (.int x2), some (.int x3), some (.int x4), none]) (by decide) rfl rfl rfl (ah_ao_1 (ah_rf_cat _) (ah_ao_1 (ah_rf_cat _) (ah_ao_1 rfl (ah_ao_1 rfl (ah_ao_1 rfl (ah_ao_n ah_ao_0)))))) (fun κ hκ => W_X0_goDeeper hκ hF hL h_X0_goDeeper σ r0 r1 x2 x3 x4 h)
theorem N_X0_goDeeper (d : Nat) : ∀ {l : Launch} {D : ah_D} {σ : ah_S} {r0 : Option Nat} {r1 : Option Nat} {x2 : Int32} {x3 : Int32} {x4 : Int32} {σ1 : ah_S}, Z_X0_goDeeper d σ r0 r1 x2 x3 x4 = some σ1 → ah_Met l yX0_goDeeper (Cond.code yX0_goDeeper cX0_goDeeper 6 none) (137 + d) (3951 + 25 * d) D [va_rf r0, va_rf r1, .int x2, .int x3, .int x4] σ (.returned none, σ1) := by
  induction d with
  | zero => intro l D σ r0 r1 x2 x3 x4 σ1 h; cases h
  | succ d ih =>
    intro l D σ r0 r1 x2 x3 x4 σ1 h
    rw [show 137 + (d + 1) = (137 + d) + 1 by omega, show 3951 + 25 * (d + 1) = (3951 + 25 * d) + 25 by omega]
    exact M_X0_goDeeper (by omega) (by omega) ih h
set_option maxRecDepth 20000 in
set_option maxHeartbeats 4000000 in
theorem W_X0_order {κ : ah_C} {rr : (Int32 × ah_S)} (hκ : ah_res κ = (.returned (some (.int rr.1)), rr.2))  (σ : ah_S) (r0 : Option Nat) (x1 : Int32) (x2 : Int32) (h : F_X0_order σ r0 x1 x2 = some rr) : ah_G κ ("LeftAsFound", "order", 4, (some FieldType.int), [], 149, 4237) cX0_order σ 0 [some (va_rf r0), some (.int x1), some (.int x2), none] [] := by
  unfold F_X0_order at h
  refine ro_iload_n (pc' := 1) dX0_order_0 rfl rfl rfl ?_
  obtain ⟨v1, σ2, hv1, h⟩ := ah_bs2 h
  refine ro_callS (pc' := 4) (As := [.int x1]) (rest := []) (st' := [.int v1]) q471 (M_X0_isShelf hv1) q470 q472 q95 dd_X0_isShelf rfl ⟨Nat.le_of_ble_eq_true rfl, Nat.le_of_ble_eq_true rfl⟩ (Nat.le_of_ble_eq_true rfl) dX0_order_1 rfl rfl rfl ?_
  refine ro_if_eq (pc' := 7) (tgt := 12) dX0_order_4 rfl rfl (fun c => ?_) (fun c => ?_)
  · replace h := ah_ip c h
    refine ro_iconst (pc' := 13) dX0_order_12 ic_m1 rfl ?_
    obtain rfl := Option.some.inj h
    exact ro_iret hκ dX0_order_13
  · replace h := ah_in_ c h
    refine ro_iload_n (pc' := 8) dX0_order_7 rfl rfl rfl ?_
    refine ro_iconst (pc' := 9) dX0_order_8 ic_m1 rfl ?_
    refine ro_icmp_ge (pc' := 12) (tgt := 14) dX0_order_9 rfl rfl (fun c => ?_) (fun c => ?_)
    · replace h := ah_ip c h
      refine ro_aload_n (pc' := 15) dX0_order_14 rfl rfl rfl ?_
      refine ro_iload_n (pc' := 16) dX0_order_15 rfl rfl rfl ?_
      obtain ⟨u3, hu3, h⟩ := ah_bs h
      obtain ⟨v4, σ5, hv4, h⟩ := ah_bs2 h
      refine ro_callV (pc' := 19) (As := [.int x1]) (rest := []) (st' := [.int v4]) (by decide) hu3 q655 sl_X0_takes1Row (M_X0_takes1Row hv4) q653 q656 q95 dd_X0_takes1Row rfl ⟨Nat.le_of_ble_eq_true rfl, Nat.le_of_ble_eq_true rfl⟩ (Nat.le_of_ble_eq_true rfl) dX0_order_16 rfl rfl rfl ?_
      refine ro_if_ge (pc' := 22) (tgt := 28) dX0_order_19 rfl rfl (fun c => ?_) (fun c => ?_)
      · replace h := ah_ip c h
        refine ro_aload_n (pc' := 29) dX0_order_28 rfl rfl rfl ?_
        obtain ⟨v6, hv6, h⟩ := ah_bs h
        refine ro_getR (pc' := 32) ft_20 fk_20 q314 dX0_order_29 rfl hv6 ?_
        refine ro_iconst (pc' := 33) dX0_order_32 ic_0 rfl ?_
        refine ro_aload_n (pc' := 34) dX0_order_33 rfl rfl rfl ?_
        obtain ⟨v7, hv7, h⟩ := ah_bs h
        refine ro_getR (pc' := 37) ft_25 fk_25 q319 dX0_order_34 rfl hv7 ?_
        refine ro_iconst (pc' := 38) dX0_order_37 ic_0 rfl ?_
        refine ro_aload_n (pc' := 39) dX0_order_38 rfl rfl rfl ?_
        obtain ⟨v8, hv8, h⟩ := ah_bs h
        refine ro_getI (pc' := 42) ft_21 fk_21 q315 dX0_order_39 rfl hv8 ?_
        obtain ⟨σ9, hσ9, h⟩ := ah_bs h
        refine ro_copy (pc' := 45) q783 q674 q673 q113 (Nat.le_of_ble_eq_true rfl) (Nat.le_of_ble_eq_true rfl) dX0_order_42 rfl hσ9 ?_
        refine ro_iconst (pc' := 46) dX0_order_45 ic_5 rfl ?_
        refine ro_aload_n (pc' := 47) dX0_order_46 rfl rfl rfl ?_
        obtain ⟨v10, hv10, h⟩ := ah_bs h
        refine ro_getI (pc' := 50) ft_21 fk_21 q315 dX0_order_47 rfl hv10 ?_
        refine ro_mmin (pc' := 53) q665 (Nat.le_of_ble_eq_true rfl) (Nat.le_of_ble_eq_true rfl) dX0_order_50 rfl ?_
        refine ro_istore_n (pc' := 54) (L' := [some (va_rf r0), some (.int x1), some (.int x2), some (.int (if v10 < (5 : Int32) then v10 else (5 : Int32)))]) dX0_order_53 rfl (Nat.le_of_ble_eq_true rfl) rfl (ah_okp_i _) rfl ?_
        refine ro_aload_n (pc' := 55) dX0_order_54 rfl rfl rfl ?_
        refine ro_iconst (pc' := 56) dX0_order_55 ic_m1 rfl ?_
        obtain ⟨σ11, hσ11, h⟩ := ah_bs h
        refine ro_putI (pc' := 59) ft_28 fk_28 q322 pd_28 dX0_order_56 rfl hσ11 ?_
        refine ro_aload_n (pc' := 60) dX0_order_59 rfl rfl rfl ?_
        refine ro_iconst (pc' := 61) dX0_order_60 ic_0 rfl ?_
        refine ro_iconst (pc' := 62) dX0_order_61 ic_0 rfl ?_
        refine ro_iload_n (pc' := 63) dX0_order_62 rfl rfl rfl ?_
        obtain ⟨u12, hu12, h⟩ := ah_bs h
        obtain ⟨σ13, hσ13, h⟩ := ah_bs h
        refine ro_callV (pc' := 66) (As := [.int (0 : Int32), .int (0 : Int32), .int (if v10 < (5 : Int32) then v10 else (5 : Int32))]) (rest := []) (st' := []) (by decide) hu12 q790 sl_X0_tryOrders (N_X0_tryOrders 10 hσ13) q788 q791 q95 dd_X0_tryOrders rfl ⟨Nat.le_of_ble_eq_true rfl, Nat.le_of_ble_eq_true rfl⟩ (Nat.le_of_ble_eq_true rfl) dX0_order_63 rfl rfl rfl ?_
        refine ro_iload_n (pc' := 67) dX0_order_66 rfl rfl rfl ?_
        refine ro_iconst (pc' := 68) dX0_order_67 ic_m1 rfl ?_
        refine ro_icmp_ne (pc' := 71) (tgt := 78) dX0_order_68 rfl rfl (fun c => ?_) (fun c => ?_)
        · replace h := ah_in_ c h
          refine ro_iload_n (pc' := 79) dX0_order_78 rfl rfl rfl ?_
          refine ro_iload_n (pc' := 80) dX0_order_79 rfl rfl rfl ?_
          refine ro_icmp_ge (pc' := 83) (tgt := 92) dX0_order_80 rfl rfl (fun c => ?_) (fun c => ?_)
          · replace h := ah_ip c h
            refine ro_bipush (pc' := 94) dX0_order_92 ib_m2 rfl ?_
            obtain rfl := Option.some.inj h
            exact ro_iret hκ dX0_order_94
          · replace h := ah_in_ c h
            refine ro_aload_n (pc' := 84) dX0_order_83 rfl rfl rfl ?_
            obtain ⟨v14, hv14, h⟩ := ah_bs h
            refine ro_getR (pc' := 87) ft_27 fk_27 q321 dX0_order_84 rfl hv14 ?_
            refine ro_iload_n (pc' := 88) dX0_order_87 rfl rfl rfl ?_
            obtain ⟨v15, hv15, h⟩ := ah_bs h
            refine ro_iaload (pc' := 89) dX0_order_88 rfl hv15 ?_
            refine ro_goto (tgt := 94) dX0_order_89 rfl ?_
            obtain rfl := Option.some.inj h
            exact ro_iret hκ dX0_order_94
        · replace h := ah_ip c h
          refine ro_aload_n (pc' := 72) dX0_order_71 rfl rfl rfl ?_
          obtain ⟨v16, hv16, h⟩ := ah_bs h
          refine ro_getI (pc' := 75) ft_28 fk_28 q322 dX0_order_72 rfl hv16 ?_
          refine ro_goto (tgt := 94) dX0_order_75 rfl ?_
          obtain rfl := Option.some.inj h
          exact ro_iret hκ dX0_order_94
      · replace h := ah_in_ c h
        refine ro_aload_n (pc' := 23) dX0_order_22 rfl rfl rfl ?_
        refine ro_iload_n (pc' := 24) dX0_order_23 rfl rfl rfl ?_
        obtain ⟨u17, hu17, h⟩ := ah_bs h
        obtain ⟨v18, σ19, hv18, h⟩ := ah_bs2 h
        refine ro_callV (pc' := 27) (As := [.int x1]) (rest := []) (st' := [.int v18]) (by decide) hu17 q659 sl_X0_lookAt (M_X0_lookAt hv18) q657 q660 q95 dd_X0_lookAt rfl ⟨Nat.le_of_ble_eq_true rfl, Nat.le_of_ble_eq_true rfl⟩ (Nat.le_of_ble_eq_true rfl) dX0_order_24 rfl rfl rfl ?_
        obtain rfl := Option.some.inj h
        exact ro_iret hκ dX0_order_27
    · replace h := ah_in_ c h
      refine ro_iconst (pc' := 13) dX0_order_12 ic_m1 rfl ?_
      obtain rfl := Option.some.inj h
      exact ro_iret hκ dX0_order_13
theorem M_X0_order {l : Launch} {D : ah_D}  {σ : ah_S} {r0 : Option Nat} {x1 : Int32} {x2 : Int32} {v : Int32} {σ1 : ah_S} (h : F_X0_order σ r0 x1 x2 = some (v, σ1)) : ah_Met l yX0_order (Cond.code yX0_order cX0_order 4 (some FieldType.int)) 149 4237 D [va_rf r0, .int x1, .int x2] σ (.returned (some (.int v)), σ1) :=
  ah_ofG (own := "LeftAsFound") (nm := "order") (L0 := [some (va_rf r0), some (.int x1), some (.int x2), none]) (by decide) rfl rfl rfl (ah_ao_1 (ah_rf_cat _) (ah_ao_1 rfl (ah_ao_1 rfl (ah_ao_n ah_ao_0)))) (fun κ hκ => W_X0_order hκ  σ r0 x1 x2 h)
set_option maxRecDepth 20000 in
set_option maxHeartbeats 4000000 in
theorem W_X0_readBack_7 {κ : ah_C} {rr : ah_S} (hκ : ah_res κ = (.returned none, rr))    : ∀ (n : Nat) (σ : ah_S) (r0 : Option Nat) (r1 : Option Nat) (x2 : Int32) (x3 : Int32), F_X0_readBack_7 n σ r0 r1 x2 x3 = some rr → ah_G κ ("LeftAsFound", "readBack", 4, none, [], 148, 4226) cX0_readBack σ 7 [some (va_rf r0), some (va_rf r1), some (.int x2), some (.int x3)] [] := by
  intro n
  induction n with
  | zero => intro σ r0 r1 x2 x3 h; cases h
  | succ n ih =>
    intro σ r0 r1 x2 x3 h
    rw [F_X0_readBack_7] at h
    refine ro_iload_n (pc' := 8) dX0_readBack_7 rfl rfl rfl ?_
    refine ro_bipush (pc' := 10) dX0_readBack_8 ib_6 rfl ?_
    refine ro_icmp_ge (pc' := 13) (tgt := 26) dX0_readBack_10 rfl rfl (fun c => ?_) (fun c => ?_)
    · replace h := ah_ip c h
      refine ro_aload_n (pc' := 27) dX0_readBack_26 rfl rfl rfl ?_
      obtain ⟨v1, hv1, h⟩ := ah_bs h
      refine ro_getR (pc' := 30) ft_29 fk_29 q323 dX0_readBack_27 rfl hv1 ?_
      refine ro_iconst (pc' := 31) dX0_readBack_30 ic_0 rfl ?_
      obtain ⟨v2, hv2, h⟩ := ah_bs h
      refine ro_aaload (pc' := 32) (by decide) (by decide) rfl dX0_readBack_31 rfl hv2 ?_
      refine ro_aload_n (pc' := 33) dX0_readBack_32 rfl rfl rfl ?_
      obtain ⟨v3, hv3, h⟩ := ah_bs h
      refine ro_getR (pc' := 36) ft_18 fk_18 q312 dX0_readBack_33 rfl hv3 ?_
      obtain ⟨u4, hu4, h⟩ := ah_bs h
      obtain ⟨σ5, hσ5, h⟩ := ah_bs h
      refine ro_callV (pc' := 39) (As := [va_rf v3]) (rest := []) (st' := []) (by decide) hu4 q669 sl_X4_beAs (M_X4_beAs hσ5) q668 q671 q102 dd_X4_beAs rfl ⟨Nat.le_of_ble_eq_true rfl, Nat.le_of_ble_eq_true rfl⟩ (Nat.le_of_ble_eq_true rfl) dX0_readBack_36 rfl rfl rfl ?_
      refine ro_aload_n (pc' := 40) dX0_readBack_39 rfl rfl rfl ?_
      refine ro_aload_n (pc' := 41) dX0_readBack_40 rfl rfl rfl ?_
      refine ro_iload_n (pc' := 42) dX0_readBack_41 rfl rfl rfl ?_
      refine ro_iconst (pc' := 43) dX0_readBack_42 ic_0 rfl ?_
      refine ro_bipush (pc' := 45) dX0_readBack_43 ib_6 rfl ?_
      refine ro_aload_n (pc' := 46) dX0_readBack_45 rfl rfl rfl ?_
      obtain ⟨v6, hv6, h⟩ := ah_bs h
      refine ro_alen (pc' := 47) dX0_readBack_46 rfl hv6 ?_
      refine ro_mmin (pc' := 50) q665 (Nat.le_of_ble_eq_true rfl) (by simp only [List.map_cons, List.map_nil, List.sum_cons, List.sum_nil, ah_rf_cat, ah_cat_i, ah_cat_l]; decide) dX0_readBack_47 rfl ?_
      obtain ⟨u7, hu7, h⟩ := ah_bs h
      obtain ⟨σ8, hσ8, h⟩ := ah_bs h
      refine ro_callV (pc' := 53) (As := [va_rf r1, .int x2, .int (0 : Int32), .int (if v6 < (6 : Int32) then v6 else (6 : Int32))]) (rest := []) (st' := []) (by decide) hu7 q815 sl_X0_goDeeper (N_X0_goDeeper 10 hσ8) q813 q816 q95 dd_X0_goDeeper rfl ⟨Nat.le_of_ble_eq_true rfl, Nat.le_of_ble_eq_true rfl⟩ (Nat.le_of_ble_eq_true rfl) dX0_readBack_50 rfl rfl rfl ?_
      obtain rfl := Option.some.inj h
      exact ro_vret hκ dX0_readBack_53
    · replace h := ah_in_ c h
      refine ro_aload_n (pc' := 14) dX0_readBack_13 rfl rfl rfl ?_
      obtain ⟨v9, hv9, h⟩ := ah_bs h
      refine ro_getR (pc' := 17) ft_30 fk_30 q324 dX0_readBack_14 rfl hv9 ?_
      refine ro_iload_n (pc' := 18) dX0_readBack_17 rfl rfl rfl ?_
      refine ro_iconst (pc' := 19) dX0_readBack_18 ic_0 rfl ?_
      obtain ⟨σ10, hσ10, h⟩ := ah_bs h
      refine ro_iastore (pc' := 20) dX0_readBack_19 rfl hσ10 ?_
      refine ro_iinc (pc' := 23) (L' := [some (va_rf r0), some (va_rf r1), some (.int x2), some (.int (x3 + (1 : Int32)))]) dX0_readBack_20 rfl ic_1 (Nat.le_of_ble_eq_true rfl) rfl (ah_okp_i _) rfl ?_
      refine ro_goto (tgt := 7) dX0_readBack_23 rfl ?_
      exact ih _ _ _ _ _ h
set_option maxRecDepth 20000 in
set_option maxHeartbeats 4000000 in
theorem W_X0_readBack {κ : ah_C} {rr : ah_S} (hκ : ah_res κ = (.returned none, rr))  (σ : ah_S) (r0 : Option Nat) (r1 : Option Nat) (x2 : Int32) (h : F_X0_readBack σ r0 r1 x2 = some rr) : ah_G κ ("LeftAsFound", "readBack", 4, none, [], 148, 4226) cX0_readBack σ 0 [some (va_rf r0), some (va_rf r1), some (.int x2), none] [] := by
  unfold F_X0_readBack at h
  refine ro_aload_n (pc' := 1) dX0_readBack_0 rfl rfl rfl ?_
  refine ro_iconst (pc' := 2) dX0_readBack_1 ic_0 rfl ?_
  obtain ⟨σ1, hσ1, h⟩ := ah_bs h
  refine ro_putI (pc' := 5) ft_32 fk_32 q326 pd_32 dX0_readBack_2 rfl hσ1 ?_
  refine ro_iconst (pc' := 6) dX0_readBack_5 ic_0 rfl ?_
  refine ro_istore_n (pc' := 7) (L' := [some (va_rf r0), some (va_rf r1), some (.int x2), some (.int (0 : Int32))]) dX0_readBack_6 rfl (Nat.le_of_ble_eq_true rfl) rfl (ah_okp_i _) rfl ?_
  exact W_X0_readBack_7 hκ _ _ _ _ _ _ h
theorem M_X0_readBack {l : Launch} {D : ah_D}  {σ : ah_S} {r0 : Option Nat} {r1 : Option Nat} {x2 : Int32} {σ1 : ah_S} (h : F_X0_readBack σ r0 r1 x2 = some σ1) : ah_Met l yX0_readBack (Cond.code yX0_readBack cX0_readBack 4 none) 148 4226 D [va_rf r0, va_rf r1, .int x2] σ (.returned none, σ1) :=
  ah_ofG (own := "LeftAsFound") (nm := "readBack") (L0 := [some (va_rf r0), some (va_rf r1), some (.int x2), none]) (by decide) rfl rfl rfl (ah_ao_1 (ah_rf_cat _) (ah_ao_1 (ah_rf_cat _) (ah_ao_1 rfl (ah_ao_n ah_ao_0)))) (fun κ hκ => W_X0_readBack hκ  σ r0 r1 x2 h)
set_option maxRecDepth 20000 in
set_option maxHeartbeats 4000000 in
theorem W_X0_ways {κ : ah_C} {rr : (Int32 × ah_S)} (hκ : ah_res κ = (.returned (some (.int rr.1)), rr.2))  (σ : ah_S) (r0 : Option Nat) (x1 : Int32) (x2 : Int32) (h : F_X0_ways σ r0 x1 x2 = some rr) : ah_G κ ("LeftAsFound", "ways", 3, (some FieldType.int), [], 149, 4249) cX0_ways σ 0 [some (va_rf r0), some (.int x1), some (.int x2)] [] := by
  unfold F_X0_ways at h
  refine ro_iload_n (pc' := 1) dX0_ways_0 rfl rfl rfl ?_
  obtain ⟨v1, σ2, hv1, h⟩ := ah_bs2 h
  refine ro_callS (pc' := 4) (As := [.int x1]) (rest := []) (st' := [.int v1]) q471 (M_X0_isShelf hv1) q470 q472 q95 dd_X0_isShelf rfl ⟨Nat.le_of_ble_eq_true rfl, Nat.le_of_ble_eq_true rfl⟩ (Nat.le_of_ble_eq_true rfl) dX0_ways_1 rfl rfl rfl ?_
  refine ro_if_eq (pc' := 7) (tgt := 14) dX0_ways_4 rfl rfl (fun c => ?_) (fun c => ?_)
  · replace h := ah_ip c h
    refine ro_iconst (pc' := 15) dX0_ways_14 ic_m1 rfl ?_
    obtain rfl := Option.some.inj h
    exact ro_iret hκ dX0_ways_15
  · replace h := ah_in_ c h
    refine ro_iload_n (pc' := 8) dX0_ways_7 rfl rfl rfl ?_
    obtain ⟨v3, σ4, hv3, h⟩ := ah_bs2 h
    refine ro_callS (pc' := 11) (As := [.int x2]) (rest := []) (st' := [.int v3]) q497 (M_X0_isThing hv3) q496 q498 q95 dd_X0_isThing rfl ⟨Nat.le_of_ble_eq_true rfl, Nat.le_of_ble_eq_true rfl⟩ (Nat.le_of_ble_eq_true rfl) dX0_ways_8 rfl rfl rfl ?_
    refine ro_if_ne (pc' := 14) (tgt := 16) dX0_ways_11 rfl rfl (fun c => ?_) (fun c => ?_)
    · replace h := ah_in_ c h
      refine ro_aload_n (pc' := 17) dX0_ways_16 rfl rfl rfl ?_
      refine ro_iload_n (pc' := 18) dX0_ways_17 rfl rfl rfl ?_
      obtain ⟨u5, hu5, h⟩ := ah_bs h
      obtain ⟨v6, σ7, hv6, h⟩ := ah_bs2 h
      refine ro_callV (pc' := 21) (As := [.int x1]) (rest := []) (st' := [.int v6]) (by decide) hu5 q659 sl_X0_lookAt (M_X0_lookAt hv6) q657 q660 q95 dd_X0_lookAt rfl ⟨Nat.le_of_ble_eq_true rfl, Nat.le_of_ble_eq_true rfl⟩ (Nat.le_of_ble_eq_true rfl) dX0_ways_18 rfl rfl rfl ?_
      refine ro_if_ge (pc' := 24) (tgt := 30) dX0_ways_21 rfl rfl (fun c => ?_) (fun c => ?_)
      · replace h := ah_ip c h
        refine ro_aload_n (pc' := 31) dX0_ways_30 rfl rfl rfl ?_
        refine ro_aload_n (pc' := 32) dX0_ways_31 rfl rfl rfl ?_
        obtain ⟨v8, hv8, h⟩ := ah_bs h
        refine ro_getR (pc' := 35) ft_41 fk_41 q337 dX0_ways_32 rfl hv8 ?_
        refine ro_iload_n (pc' := 36) dX0_ways_35 rfl rfl rfl ?_
        obtain ⟨v9, hv9, h⟩ := ah_bs h
        refine ro_aaload (pc' := 37) (by decide) (by decide) rfl dX0_ways_36 rfl hv9 ?_
        obtain ⟨u10, hu10, h⟩ := ah_bs h
        refine ro_castA (pc' := 40) (t := 102) (by decide) q478 dX0_ways_37 rfl hu10 ?_
        refine ro_iload_n (pc' := 41) dX0_ways_40 rfl rfl rfl ?_
        obtain ⟨u11, hu11, h⟩ := ah_bs h
        obtain ⟨σ12, hσ12, h⟩ := ah_bs h
        refine ro_callV (pc' := 44) (As := [va_rf v9, .int x2]) (rest := []) (st' := []) (by decide) hu11 q811 sl_X0_readBack (M_X0_readBack hσ12) q809 q812 q95 dd_X0_readBack rfl ⟨Nat.le_of_ble_eq_true rfl, Nat.le_of_ble_eq_true rfl⟩ (Nat.le_of_ble_eq_true rfl) dX0_ways_41 rfl rfl rfl ?_
        refine ro_aload_n (pc' := 45) dX0_ways_44 rfl rfl rfl ?_
        obtain ⟨v13, hv13, h⟩ := ah_bs h
        refine ro_getI (pc' := 48) ft_32 fk_32 q326 dX0_ways_45 rfl hv13 ?_
        obtain rfl := Option.some.inj h
        exact ro_iret hκ dX0_ways_48
      · replace h := ah_in_ c h
        refine ro_aload_n (pc' := 25) dX0_ways_24 rfl rfl rfl ?_
        refine ro_iload_n (pc' := 26) dX0_ways_25 rfl rfl rfl ?_
        obtain ⟨u14, hu14, h⟩ := ah_bs h
        obtain ⟨v15, σ16, hv15, h⟩ := ah_bs2 h
        refine ro_callV (pc' := 29) (As := [.int x1]) (rest := []) (st' := [.int v15]) (by decide) hu14 q659 sl_X0_lookAt (M_X0_lookAt hv15) q657 q660 q95 dd_X0_lookAt rfl ⟨Nat.le_of_ble_eq_true rfl, Nat.le_of_ble_eq_true rfl⟩ (Nat.le_of_ble_eq_true rfl) dX0_ways_26 rfl rfl rfl ?_
        obtain rfl := Option.some.inj h
        exact ro_iret hκ dX0_ways_29
    · replace h := ah_ip c h
      refine ro_iconst (pc' := 15) dX0_ways_14 ic_m1 rfl ?_
      obtain rfl := Option.some.inj h
      exact ro_iret hκ dX0_ways_15
theorem M_X0_ways {l : Launch} {D : ah_D}  {σ : ah_S} {r0 : Option Nat} {x1 : Int32} {x2 : Int32} {v : Int32} {σ1 : ah_S} (h : F_X0_ways σ r0 x1 x2 = some (v, σ1)) : ah_Met l yX0_ways (Cond.code yX0_ways cX0_ways 3 (some FieldType.int)) 149 4249 D [va_rf r0, .int x1, .int x2] σ (.returned (some (.int v)), σ1) :=
  ah_ofG (own := "LeftAsFound") (nm := "ways") (L0 := [some (va_rf r0), some (.int x1), some (.int x2)]) (by decide) rfl rfl rfl (ah_ao_1 (ah_rf_cat _) (ah_ao_1 rfl (ah_ao_1 rfl ah_ao_0))) (fun κ hκ => W_X0_ways hκ  σ r0 x1 x2 h)
set_option maxRecDepth 20000 in
set_option maxHeartbeats 4000000 in
theorem W_X0_who {κ : ah_C} {rr : (Int32 × ah_S)} (hκ : ah_res κ = (.returned (some (.int rr.1)), rr.2))  (σ : ah_S) (r0 : Option Nat) (x1 : Int32) (x2 : Int32) (x3 : Int32) (h : F_X0_who σ r0 x1 x2 x3 = some rr) : ah_G κ ("LeftAsFound", "who", 5, (some FieldType.int), [], 149, 4249) cX0_who σ 0 [some (va_rf r0), some (.int x1), some (.int x2), some (.int x3), none] [] := by
  unfold F_X0_who at h
  refine ro_iload_n (pc' := 1) dX0_who_0 rfl rfl rfl ?_
  obtain ⟨v1, σ2, hv1, h⟩ := ah_bs2 h
  refine ro_callS (pc' := 4) (As := [.int x1]) (rest := []) (st' := [.int v1]) q471 (M_X0_isShelf hv1) q470 q472 q95 dd_X0_isShelf rfl ⟨Nat.le_of_ble_eq_true rfl, Nat.le_of_ble_eq_true rfl⟩ (Nat.le_of_ble_eq_true rfl) dX0_who_1 rfl rfl rfl ?_
  refine ro_if_eq (pc' := 7) (tgt := 26) dX0_who_4 rfl rfl (fun c => ?_) (fun c => ?_)
  · replace h := ah_ip c h
    refine ro_iconst (pc' := 27) dX0_who_26 ic_m1 rfl ?_
    obtain rfl := Option.some.inj h
    exact ro_iret hκ dX0_who_27
  · replace h := ah_in_ c h
    refine ro_iload_n (pc' := 8) dX0_who_7 rfl rfl rfl ?_
    obtain ⟨v3, σ4, hv3, h⟩ := ah_bs2 h
    refine ro_callS (pc' := 11) (As := [.int x2]) (rest := []) (st' := [.int v3]) q497 (M_X0_isThing hv3) q496 q498 q95 dd_X0_isThing rfl ⟨Nat.le_of_ble_eq_true rfl, Nat.le_of_ble_eq_true rfl⟩ (Nat.le_of_ble_eq_true rfl) dX0_who_8 rfl rfl rfl ?_
    refine ro_if_eq (pc' := 14) (tgt := 26) dX0_who_11 rfl rfl (fun c => ?_) (fun c => ?_)
    · replace h := ah_ip c h
      refine ro_iconst (pc' := 27) dX0_who_26 ic_m1 rfl ?_
      obtain rfl := Option.some.inj h
      exact ro_iret hκ dX0_who_27
    · replace h := ah_in_ c h
      refine ro_iload_n (pc' := 15) dX0_who_14 rfl rfl rfl ?_
      refine ro_i2l (pc' := 16) dX0_who_15 rfl ?_
      refine ro_lconst (pc' := 17) dX0_who_16 lc_0 rfl ?_
      refine ro_ldc2 (pc' := 20) q473 dX0_who_17 rfl ?_
      obtain ⟨v5, σ6, hv5, h⟩ := ah_bs2 h
      refine ro_callS (pc' := 23) (As := [.long (x3.toInt64), .long (0 : Int64), .long (5 : Int64)]) (rest := []) (st' := [.int v5]) q429 (M_X0_within hv5) q428 q430 q95 dd_X0_within rfl ⟨Nat.le_of_ble_eq_true rfl, Nat.le_of_ble_eq_true rfl⟩ (Nat.le_of_ble_eq_true rfl) dX0_who_20 rfl rfl rfl ?_
      refine ro_if_ne (pc' := 26) (tgt := 28) dX0_who_23 rfl rfl (fun c => ?_) (fun c => ?_)
      · replace h := ah_in_ c h
        refine ro_aload_n (pc' := 29) dX0_who_28 rfl rfl rfl ?_
        refine ro_iload_n (pc' := 30) dX0_who_29 rfl rfl rfl ?_
        obtain ⟨u7, hu7, h⟩ := ah_bs h
        obtain ⟨v8, σ9, hv8, h⟩ := ah_bs2 h
        refine ro_callV (pc' := 33) (As := [.int x1]) (rest := []) (st' := [.int v8]) (by decide) hu7 q659 sl_X0_lookAt (M_X0_lookAt hv8) q657 q660 q95 dd_X0_lookAt rfl ⟨Nat.le_of_ble_eq_true rfl, Nat.le_of_ble_eq_true rfl⟩ (Nat.le_of_ble_eq_true rfl) dX0_who_30 rfl rfl rfl ?_
        refine ro_if_ge (pc' := 36) (tgt := 42) dX0_who_33 rfl rfl (fun c => ?_) (fun c => ?_)
        · replace h := ah_ip c h
          refine ro_aload_n (pc' := 43) dX0_who_42 rfl rfl rfl ?_
          obtain ⟨v10, hv10, h⟩ := ah_bs h
          refine ro_getR (pc' := 46) ft_41 fk_41 q337 dX0_who_43 rfl hv10 ?_
          refine ro_iload_n (pc' := 47) dX0_who_46 rfl rfl rfl ?_
          obtain ⟨v11, hv11, h⟩ := ah_bs h
          refine ro_aaload (pc' := 48) (by decide) (by decide) rfl dX0_who_47 rfl hv11 ?_
          obtain ⟨u12, hu12, h⟩ := ah_bs h
          refine ro_castA (pc' := 51) (t := 102) (by decide) q478 dX0_who_48 rfl hu12 ?_
          refine ro_astore (pc' := 53) (L' := [some (va_rf r0), some (.int x1), some (.int x2), some (.int x3), some (va_rf v11)]) dX0_who_51 (Nat.le_of_ble_eq_true rfl) rfl (ah_okp_i _) rfl ?_
          refine ro_iload_n (pc' := 54) dX0_who_53 rfl rfl rfl ?_
          refine ro_aload (pc' := 56) dX0_who_54 rfl rfl ?_
          obtain ⟨v13, hv13, h⟩ := ah_bs h
          refine ro_alen (pc' := 57) dX0_who_56 rfl hv13 ?_
          refine ro_icmp_lt (pc' := 60) (tgt := 62) dX0_who_57 rfl rfl (fun c => ?_) (fun c => ?_)
          · replace h := ah_ip c h
            refine ro_aload_n (pc' := 63) dX0_who_62 rfl rfl rfl ?_
            refine ro_aload (pc' := 65) dX0_who_63 rfl rfl ?_
            refine ro_iload_n (pc' := 66) dX0_who_65 rfl rfl rfl ?_
            obtain ⟨u14, hu14, h⟩ := ah_bs h
            obtain ⟨σ15, hσ15, h⟩ := ah_bs h
            refine ro_callV (pc' := 69) (As := [va_rf v11, .int x2]) (rest := []) (st' := []) (by decide) hu14 q811 sl_X0_readBack (M_X0_readBack hσ15) q809 q812 q95 dd_X0_readBack rfl ⟨Nat.le_of_ble_eq_true rfl, Nat.le_of_ble_eq_true rfl⟩ (Nat.le_of_ble_eq_true rfl) dX0_who_66 rfl rfl rfl ?_
            refine ro_aload_n (pc' := 70) dX0_who_69 rfl rfl rfl ?_
            obtain ⟨v16, hv16, h⟩ := ah_bs h
            refine ro_getR (pc' := 73) ft_30 fk_30 q324 dX0_who_70 rfl hv16 ?_
            refine ro_iload_n (pc' := 74) dX0_who_73 rfl rfl rfl ?_
            obtain ⟨v17, hv17, h⟩ := ah_bs h
            refine ro_iaload (pc' := 75) dX0_who_74 rfl hv17 ?_
            obtain rfl := Option.some.inj h
            exact ro_iret hκ dX0_who_75
          · replace h := ah_in_ c h
            refine ro_iconst (pc' := 61) dX0_who_60 ic_m1 rfl ?_
            obtain rfl := Option.some.inj h
            exact ro_iret hκ dX0_who_61
        · replace h := ah_in_ c h
          refine ro_aload_n (pc' := 37) dX0_who_36 rfl rfl rfl ?_
          refine ro_iload_n (pc' := 38) dX0_who_37 rfl rfl rfl ?_
          obtain ⟨u18, hu18, h⟩ := ah_bs h
          obtain ⟨v19, σ20, hv19, h⟩ := ah_bs2 h
          refine ro_callV (pc' := 41) (As := [.int x1]) (rest := []) (st' := [.int v19]) (by decide) hu18 q659 sl_X0_lookAt (M_X0_lookAt hv19) q657 q660 q95 dd_X0_lookAt rfl ⟨Nat.le_of_ble_eq_true rfl, Nat.le_of_ble_eq_true rfl⟩ (Nat.le_of_ble_eq_true rfl) dX0_who_38 rfl rfl rfl ?_
          obtain rfl := Option.some.inj h
          exact ro_iret hκ dX0_who_41
      · replace h := ah_ip c h
        refine ro_iconst (pc' := 27) dX0_who_26 ic_m1 rfl ?_
        obtain rfl := Option.some.inj h
        exact ro_iret hκ dX0_who_27
theorem M_X0_who {l : Launch} {D : ah_D}  {σ : ah_S} {r0 : Option Nat} {x1 : Int32} {x2 : Int32} {x3 : Int32} {v : Int32} {σ1 : ah_S} (h : F_X0_who σ r0 x1 x2 x3 = some (v, σ1)) : ah_Met l yX0_who (Cond.code yX0_who cX0_who 5 (some FieldType.int)) 149 4249 D [va_rf r0, .int x1, .int x2, .int x3] σ (.returned (some (.int v)), σ1) :=
  ah_ofG (own := "LeftAsFound") (nm := "who") (L0 := [some (va_rf r0), some (.int x1), some (.int x2), some (.int x3), none]) (by decide) rfl rfl rfl (ah_ao_1 (ah_rf_cat _) (ah_ao_1 rfl (ah_ao_1 rfl (ah_ao_1 rfl (ah_ao_n ah_ao_0))))) (fun κ hκ => W_X0_who hκ  σ r0 x1 x2 x3 h)
