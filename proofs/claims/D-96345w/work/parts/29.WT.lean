set_option maxRecDepth 20000 in
set_option maxHeartbeats 4000000 in
theorem W_X0_expect {κ : ah_C} {rr : (ah_T ah_S)} (hκ : ah_res κ = (ah_trV rr))  (σ : ah_S) (r0 : Option Nat) (x1 : Int32) (h : F_X0_expect σ r0 x1 = some rr) : ah_G κ ("LeftAsFound", "expect", 2, none, [], 3, 65) cX0_expect σ 0 [some (va_rf r0), some (.int x1)] [] := by
  unfold F_X0_expect at h
  refine ro_aload_n (pc' := 1) dX0_expect_0 rfl rfl rfl ?_
  refine ro_iload_n (pc' := 2) dX0_expect_1 rfl rfl rfl ?_
  obtain ⟨u1, hu1, h⟩ := ah_bs h
  obtain ⟨v2, σ3, hv2, h⟩ := ah_bs2 h
  refine ro_callV (pc' := 5) (As := [.int x1]) (rest := []) (st' := [.int v2]) (by decide) hu1 q631 sl_X0_take (M_X0_take hv2) q629 q632 q95 dd_X0_take rfl ⟨Nat.le_of_ble_eq_true rfl, Nat.le_of_ble_eq_true rfl⟩ (Nat.le_of_ble_eq_true rfl) dX0_expect_2 rfl rfl rfl ?_
  refine ro_if_ne (pc' := 8) (tgt := 13) dX0_expect_5 rfl rfl (fun c => ?_) (fun c => ?_)
  · replace h := ah_in_ c h
    obtain rfl := Option.some.inj h
    exact ro_vret hκ dX0_expect_13
  · replace h := ah_ip c h
    refine ro_aload_n (pc' := 9) dX0_expect_8 rfl rfl rfl ?_
    obtain ⟨v4, hv4, h⟩ := ah_bs h
    refine ro_getR (pc' := 12) ft_5 fk_5 q295 dX0_expect_9 rfl hv4 ?_
    obtain ⟨a5, ha5, h⟩ := ah_bs h
    obtain rfl := Option.some.inj h
    exact ro_athrow ha5 hκ rfl dX0_expect_12
theorem M_X0_expect {l : Launch} {D : ah_D}  {σ : ah_S} {r0 : Option Nat} {x1 : Int32} {rr : (ah_T ah_S)} (h : F_X0_expect σ r0 x1 = some rr) : ah_Met l yX0_expect (Cond.code yX0_expect cX0_expect 2 none) 3 65 D [va_rf r0, .int x1] σ (ah_trV rr) :=
  ah_ofG (own := "LeftAsFound") (nm := "expect") (L0 := [some (va_rf r0), some (.int x1)]) (by decide) rfl rfl rfl (ah_ao_1 (ah_rf_cat _) (ah_ao_1 rfl ah_ao_0)) (fun κ hκ => W_X0_expect hκ  σ r0 x1 h)
set_option maxRecDepth 20000 in
set_option maxHeartbeats 4000000 in
theorem W_X0_toldIn {κ : ah_C} {rr : (ah_T (Int32 × ah_S))} (hκ : ah_res κ = (ah_trI rr))  (σ : ah_S) (r0 : Option Nat) (r1 : Option Nat) (l2 : Int64) (h : F_X0_toldIn σ r0 r1 l2 = some rr) : ah_G κ ("LeftAsFound", "toldIn", 4, (some FieldType.int), [], 1, 24) cX0_toldIn σ 0 [some (va_rf r0), some (va_rf r1), some (.long l2), none] [] := by
  unfold F_X0_toldIn at h
  refine ro_aload_n (pc' := 1) dX0_toldIn_0 rfl rfl rfl ?_
  refine ro_ifnull (pc' := 4) (tgt := 21) dX0_toldIn_1 rfl rfl (fun c => ?_) (fun c => ?_)
  · replace h := ah_ip c h
    refine ro_aload_n (pc' := 22) dX0_toldIn_21 rfl rfl rfl ?_
    obtain ⟨v1, hv1, h⟩ := ah_bs h
    refine ro_getR (pc' := 25) ft_14 fk_14 q307 dX0_toldIn_22 rfl hv1 ?_
    obtain ⟨a2, ha2, h⟩ := ah_bs h
    obtain rfl := Option.some.inj h
    exact ro_athrow ha2 hκ rfl dX0_toldIn_25
  · replace h := ah_in_ c h
    refine ro_lload_n (pc' := 5) dX0_toldIn_4 rfl rfl rfl ?_
    refine ro_lconst (pc' := 6) dX0_toldIn_5 lc_0 rfl ?_
    refine ro_lcmp (pc' := 7) dX0_toldIn_6 rfl ?_
    refine ro_if_lt (pc' := 10) (tgt := 21) dX0_toldIn_7 rfl rfl (fun c => ?_) (fun c => ?_)
    · replace h := ah_ip c h
      refine ro_aload_n (pc' := 22) dX0_toldIn_21 rfl rfl rfl ?_
      obtain ⟨v3, hv3, h⟩ := ah_bs h
      refine ro_getR (pc' := 25) ft_14 fk_14 q307 dX0_toldIn_22 rfl hv3 ?_
      obtain ⟨a4, ha4, h⟩ := ah_bs h
      obtain rfl := Option.some.inj h
      exact ro_athrow ha4 hκ rfl dX0_toldIn_25
    · replace h := ah_in_ c h
      refine ro_lload_n (pc' := 11) dX0_toldIn_10 rfl rfl rfl ?_
      refine ro_aload_n (pc' := 12) dX0_toldIn_11 rfl rfl rfl ?_
      obtain ⟨u5, hu5, h⟩ := ah_bs h
      refine ro_castA (pc' := 15) (t := 102) (by decide) q478 dX0_toldIn_12 rfl hu5 ?_
      obtain ⟨v6, hv6, h⟩ := ah_bs h
      refine ro_alen (pc' := 16) dX0_toldIn_15 rfl hv6 ?_
      refine ro_i2l (pc' := 17) dX0_toldIn_16 rfl ?_
      refine ro_lcmp (pc' := 18) dX0_toldIn_17 rfl ?_
      refine ro_if_lt (pc' := 21) (tgt := 26) dX0_toldIn_18 rfl rfl (fun c => ?_) (fun c => ?_)
      · replace h := ah_ip c h
        refine ro_aload_n (pc' := 27) dX0_toldIn_26 rfl rfl rfl ?_
        obtain ⟨u7, hu7, h⟩ := ah_bs h
        refine ro_castA (pc' := 30) (t := 102) (by decide) q478 dX0_toldIn_27 rfl hu7 ?_
        refine ro_lload_n (pc' := 31) dX0_toldIn_30 rfl rfl rfl ?_
        refine ro_l2i (pc' := 32) dX0_toldIn_31 rfl ?_
        obtain ⟨v8, hv8, h⟩ := ah_bs h
        refine ro_baload (pc' := 33) dX0_toldIn_32 rfl hv8 ?_
        obtain rfl := Option.some.inj h
        exact ro_iret hκ dX0_toldIn_33
      · replace h := ah_in_ c h
        refine ro_aload_n (pc' := 22) dX0_toldIn_21 rfl rfl rfl ?_
        obtain ⟨v9, hv9, h⟩ := ah_bs h
        refine ro_getR (pc' := 25) ft_14 fk_14 q307 dX0_toldIn_22 rfl hv9 ?_
        obtain ⟨a10, ha10, h⟩ := ah_bs h
        obtain rfl := Option.some.inj h
        exact ro_athrow ha10 hκ rfl dX0_toldIn_25
theorem M_X0_toldIn {l : Launch} {D : ah_D}  {σ : ah_S} {r0 : Option Nat} {r1 : Option Nat} {l2 : Int64} {rr : (ah_T (Int32 × ah_S))} (h : F_X0_toldIn σ r0 r1 l2 = some rr) : ah_Met l yX0_toldIn (Cond.code yX0_toldIn cX0_toldIn 4 (some FieldType.int)) 1 24 D [va_rf r0, va_rf r1, .long l2] σ (ah_trI rr) :=
  ah_ofG (own := "LeftAsFound") (nm := "toldIn") (L0 := [some (va_rf r0), some (va_rf r1), some (.long l2), none]) (by decide) rfl rfl rfl (ah_ao_1 (ah_rf_cat _) (ah_ao_1 (ah_rf_cat _) (ah_ao_2 rfl ah_ao_0))) (fun κ hκ => W_X0_toldIn hκ  σ r0 r1 l2 h)
set_option maxRecDepth 20000 in
set_option maxHeartbeats 4000000 in
theorem W_X0_readOne_14 {κ : ah_C} {rr : (ah_T (Option Nat × ah_S))} (hκ : ah_res κ = (ah_trR rr)) {frR loR : Nat} (hF : 4 ≤ frR) (hL : 86 ≤ loR) {f_X0_readEither : ah_S → Option Nat → Option (ah_T (Option Nat × ah_S))} (h_X0_readEither : ∀ {l : Launch} {D : ah_D} {σ : ah_S} {r0 : Option Nat} {rr : ah_T (Option Nat × ah_S)}, f_X0_readEither σ r0 = some rr → ah_Met l yX0_readEither (Cond.code yX0_readEither cX0_readEither 2 (some (FieldType.object "LeftAsFound$Term"))) frR loR D [va_rf r0] σ (ah_trR rr)) {f_X0_readOne : ah_S → Option Nat → Option (ah_T (Option Nat × ah_S))} (h_X0_readOne : ∀ {l : Launch} {D : ah_D} {σ : ah_S} {r0 : Option Nat} {rr : ah_T (Option Nat × ah_S)}, f_X0_readOne σ r0 = some rr → ah_Met l yX0_readOne (Cond.code yX0_readOne cX0_readOne 4 (some (FieldType.object "LeftAsFound$Term"))) frR loR D [va_rf r0] σ (ah_trR rr))   : ∀ (n : Nat) (σ : ah_S) (r0 : Option Nat) (x1 : Int32) (x2 : Int32), F_X0_readOne_14 f_X0_readEither f_X0_readOne n σ r0 x1 x2 = some rr → ah_G κ ("LeftAsFound", "readOne", 4, (some (FieldType.object "LeftAsFound$Term")), [], (frR + 1), (loR + 23)) cX0_readOne σ 14 [some (va_rf r0), some (.int x1), some (.int x2), none] [] := by
  intro n
  induction n with
  | zero => intro σ r0 x1 x2 h; cases h
  | succ n ih =>
    intro σ r0 x1 x2 h
    rw [F_X0_readOne_14] at h
    refine ro_aload_n (pc' := 15) dX0_readOne_14 rfl rfl rfl ?_
    obtain ⟨v1, hv1, h⟩ := ah_bs h
    refine ro_getI (pc' := 18) ft_6 fk_6 q296 dX0_readOne_15 rfl hv1 ?_
    refine ro_iload_n (pc' := 19) dX0_readOne_18 rfl rfl rfl ?_
    refine ro_iconst (pc' := 20) dX0_readOne_19 ic_4 rfl ?_
    refine ro_iadd (pc' := 21) dX0_readOne_20 rfl ?_
    refine ro_icmp_ge (pc' := 24) (tgt := 59) dX0_readOne_21 rfl rfl (fun c => ?_) (fun c => ?_)
    · replace h := ah_ip c h
      obtain ⟨σ2, hσ2, h⟩ := ah_bs h
      refine ro_new (pc' := 62) ct_X10 df_X10 (by decide) q583 q584 q108 dX0_readOne_59 rfl hσ2 ?_
      refine ro_dup (pc' := 63) dX0_readOne_62 (ah_rf_cat _) rfl ?_
      refine ro_iload_n (pc' := 64) dX0_readOne_63 rfl rfl rfl ?_
      obtain ⟨σ3, hσ3, h⟩ := ah_bs h
      refine ro_callI (pc' := 67) (As := [.int x1]) (rest := [va_rf (some (ah_nx σ))]) (st' := [va_rf (some (ah_nx σ))]) rfl q586 rfl (M_X10_init hσ3) q585 q587 q108 dd_X10_init rfl ⟨show 2 + 1 ≤ frR + 1 by omega, show 8 + (2 + 11) + 44 ≤ loR + 23 by omega⟩ (by simp only [List.map_cons, List.map_nil, List.sum_cons, List.sum_nil, ah_rf_cat, ah_cat_i, ah_cat_l]; decide) dX0_readOne_64 rfl rfl rfl ?_
      obtain rfl := Option.some.inj h
      exact ro_aret hκ dX0_readOne_67
    · replace h := ah_in_ c h
      refine ro_aload_n (pc' := 25) dX0_readOne_24 rfl rfl rfl ?_
      obtain ⟨u4, hu4, h⟩ := ah_bs h
      obtain ⟨v5, σ6, hv5, h⟩ := ah_bs2 h
      refine ro_callV (pc' := 28) (As := []) (rest := []) (st' := [.int v5]) (by decide) hu4 q575 sl_X0_isDigit (M_X0_isDigit hv5) q573 q576 q95 dd_X0_isDigit rfl ⟨show 2 + 1 ≤ frR + 1 by omega, show 8 + (1 + 11) + 49 ≤ loR + 23 by omega⟩ (Nat.le_of_ble_eq_true rfl) dX0_readOne_25 rfl rfl rfl ?_
      refine ro_if_eq (pc' := 31) (tgt := 59) dX0_readOne_28 rfl rfl (fun c => ?_) (fun c => ?_)
      · replace h := ah_ip c h
        obtain ⟨σ7, hσ7, h⟩ := ah_bs h
        refine ro_new (pc' := 62) ct_X10 df_X10 (by decide) q583 q584 q108 dX0_readOne_59 rfl hσ7 ?_
        refine ro_dup (pc' := 63) dX0_readOne_62 (ah_rf_cat _) rfl ?_
        refine ro_iload_n (pc' := 64) dX0_readOne_63 rfl rfl rfl ?_
        obtain ⟨σ8, hσ8, h⟩ := ah_bs h
        refine ro_callI (pc' := 67) (As := [.int x1]) (rest := [va_rf (some (ah_nx σ6))]) (st' := [va_rf (some (ah_nx σ6))]) rfl q586 rfl (M_X10_init hσ8) q585 q587 q108 dd_X10_init rfl ⟨show 2 + 1 ≤ frR + 1 by omega, show 8 + (2 + 11) + 44 ≤ loR + 23 by omega⟩ (by simp only [List.map_cons, List.map_nil, List.sum_cons, List.sum_nil, ah_rf_cat, ah_cat_i, ah_cat_l]; decide) dX0_readOne_64 rfl rfl rfl ?_
        obtain rfl := Option.some.inj h
        exact ro_aret hκ dX0_readOne_67
      · replace h := ah_in_ c h
        refine ro_bipush (pc' := 33) dX0_readOne_31 ib_10 rfl ?_
        refine ro_iload_n (pc' := 34) dX0_readOne_33 rfl rfl rfl ?_
        refine ro_imul (pc' := 35) dX0_readOne_34 rfl ?_
        refine ro_aload_n (pc' := 36) dX0_readOne_35 rfl rfl rfl ?_
        obtain ⟨v9, hv9, h⟩ := ah_bs h
        refine ro_getR (pc' := 39) ft_3 fk_3 q293 dX0_readOne_36 rfl hv9 ?_
        refine ro_aload_n (pc' := 40) dX0_readOne_39 rfl rfl rfl ?_
        refine ro_dup (pc' := 41) dX0_readOne_40 (ah_rf_cat _) rfl ?_
        obtain ⟨v10, hv10, h⟩ := ah_bs h
        refine ro_getI (pc' := 44) ft_6 fk_6 q296 dX0_readOne_41 rfl hv10 ?_
        refine ro_dup_x1 (pc' := 45) dX0_readOne_44 rfl (ah_rf_cat _) rfl ?_
        refine ro_iconst (pc' := 46) dX0_readOne_45 ic_1 rfl ?_
        refine ro_iadd (pc' := 47) dX0_readOne_46 rfl ?_
        obtain ⟨σ11, hσ11, h⟩ := ah_bs h
        refine ro_putI (pc' := 50) ft_6 fk_6 q296 pd_6 dX0_readOne_47 rfl hσ11 ?_
        obtain ⟨v12, hv12, h⟩ := ah_bs h
        refine ro_iaload (pc' := 51) dX0_readOne_50 rfl hv12 ?_
        refine ro_iadd (pc' := 52) dX0_readOne_51 rfl ?_
        refine ro_bipush (pc' := 54) dX0_readOne_52 ib_48 rfl ?_
        refine ro_isub (pc' := 55) dX0_readOne_54 rfl ?_
        refine ro_istore_n (pc' := 56) (L' := [some (va_rf r0), some (.int ((((10 : Int32) * x1) + v12) - (48 : Int32))), some (.int x2), none]) dX0_readOne_55 rfl (Nat.le_of_ble_eq_true rfl) rfl (ah_okp_r _) rfl ?_
        refine ro_goto (tgt := 14) dX0_readOne_56 rfl ?_
        exact ih _ _ _ _ h
set_option maxRecDepth 20000 in
set_option maxHeartbeats 4000000 in
theorem W_X0_readOne_183 {κ : ah_C} {rr : (ah_T (Option Nat × ah_S))} (hκ : ah_res κ = (ah_trR rr)) {frR loR : Nat} (hF : 4 ≤ frR) (hL : 86 ≤ loR) {f_X0_readEither : ah_S → Option Nat → Option (ah_T (Option Nat × ah_S))} (h_X0_readEither : ∀ {l : Launch} {D : ah_D} {σ : ah_S} {r0 : Option Nat} {rr : ah_T (Option Nat × ah_S)}, f_X0_readEither σ r0 = some rr → ah_Met l yX0_readEither (Cond.code yX0_readEither cX0_readEither 2 (some (FieldType.object "LeftAsFound$Term"))) frR loR D [va_rf r0] σ (ah_trR rr)) {f_X0_readOne : ah_S → Option Nat → Option (ah_T (Option Nat × ah_S))} (h_X0_readOne : ∀ {l : Launch} {D : ah_D} {σ : ah_S} {r0 : Option Nat} {rr : ah_T (Option Nat × ah_S)}, f_X0_readOne σ r0 = some rr → ah_Met l yX0_readOne (Cond.code yX0_readOne cX0_readOne 4 (some (FieldType.object "LeftAsFound$Term"))) frR loR D [va_rf r0] σ (ah_trR rr))   : ∀ (σ : ah_S) (r0 : Option Nat) (x2 : Int32) (w0 : Option Nat), F_X0_readOne_183 f_X0_readEither f_X0_readOne σ r0 x2 w0 = some rr → ah_G κ ("LeftAsFound", "readOne", 4, (some (FieldType.object "LeftAsFound$Term")), [], (frR + 1), (loR + 23)) cX0_readOne σ 183 [some (va_rf r0), none, some (.int x2), none] [va_rf w0] := by
  intro σ r0 x2 w0 h
  unfold F_X0_readOne_183 at h
  refine ro_astore_n (pc' := 184) (L' := [some (va_rf r0), none, some (.int x2), some (va_rf w0)]) dX0_readOne_183 rfl (Nat.le_of_ble_eq_true rfl) rfl (ah_okp_i _) rfl ?_
  refine ro_iload_n (pc' := 185) dX0_readOne_184 rfl rfl rfl ?_
  refine ro_bipush (pc' := 187) dX0_readOne_185 ib_40 rfl ?_
  refine ro_icmp_ne (pc' := 190) (tgt := 196) dX0_readOne_187 rfl rfl (fun c => ?_) (fun c => ?_)
  · replace h := ah_in_ c h
    refine ro_aload_n (pc' := 197) dX0_readOne_196 rfl rfl rfl ?_
    refine ro_dup (pc' := 198) dX0_readOne_197 (ah_rf_cat _) rfl ?_
    obtain ⟨v1, hv1, h⟩ := ah_bs h
    refine ro_getI (pc' := 201) ft_16 fk_16 q310 dX0_readOne_198 rfl hv1 ?_
    refine ro_iconst (pc' := 202) dX0_readOne_201 ic_1 rfl ?_
    refine ro_isub (pc' := 203) dX0_readOne_202 rfl ?_
    obtain ⟨σ2, hσ2, h⟩ := ah_bs h
    refine ro_putI (pc' := 206) ft_16 fk_16 q310 pd_16 dX0_readOne_203 rfl hσ2 ?_
    refine ro_aload_n (pc' := 207) dX0_readOne_206 rfl rfl rfl ?_
    obtain rfl := Option.some.inj h
    exact ro_aret hκ dX0_readOne_207
  · replace h := ah_ip c h
    refine ro_aload_n (pc' := 191) dX0_readOne_190 rfl rfl rfl ?_
    refine ro_bipush (pc' := 193) dX0_readOne_191 ib_41 rfl ?_
    obtain ⟨u3, hu3, h⟩ := ah_bs h
    rcases (ah_bs3v h).symm with ⟨a4, σ5, ha4, h⟩ | ⟨σ6, hσ6, h⟩
    · obtain rfl := Option.some.inj h
      exact ro_callTO (As := [.int (41 : Int32)]) (rest := []) (by decide) hu3 q627 sl_X0_expect (M_X0_expect ha4) q625 q628 q95 dd_X0_expect rfl ⟨show 3 + 1 ≤ frR + 1 by omega, show 8 + (2 + 11) + 65 ≤ loR + 23 by omega⟩ (Nat.le_of_ble_eq_true rfl) dX0_readOne_193 rfl hκ rfl
    refine ro_callV (pc' := 196) (As := [.int (41 : Int32)]) (rest := []) (st' := []) (by decide) hu3 q627 sl_X0_expect (M_X0_expect hσ6) q625 q628 q95 dd_X0_expect rfl ⟨show 3 + 1 ≤ frR + 1 by omega, show 8 + (2 + 11) + 65 ≤ loR + 23 by omega⟩ (Nat.le_of_ble_eq_true rfl) dX0_readOne_193 rfl rfl rfl ?_
    refine ro_aload_n (pc' := 197) dX0_readOne_196 rfl rfl rfl ?_
    refine ro_dup (pc' := 198) dX0_readOne_197 (ah_rf_cat _) rfl ?_
    obtain ⟨v7, hv7, h⟩ := ah_bs h
    refine ro_getI (pc' := 201) ft_16 fk_16 q310 dX0_readOne_198 rfl hv7 ?_
    refine ro_iconst (pc' := 202) dX0_readOne_201 ic_1 rfl ?_
    refine ro_isub (pc' := 203) dX0_readOne_202 rfl ?_
    obtain ⟨σ8, hσ8, h⟩ := ah_bs h
    refine ro_putI (pc' := 206) ft_16 fk_16 q310 pd_16 dX0_readOne_203 rfl hσ8 ?_
    refine ro_aload_n (pc' := 207) dX0_readOne_206 rfl rfl rfl ?_
    obtain rfl := Option.some.inj h
    exact ro_aret hκ dX0_readOne_207
set_option maxRecDepth 20000 in
set_option maxHeartbeats 4000000 in
theorem W_X0_readOne_124 {κ : ah_C} {rr : (ah_T (Option Nat × ah_S))} (hκ : ah_res κ = (ah_trR rr)) {frR loR : Nat} (hF : 4 ≤ frR) (hL : 86 ≤ loR) {f_X0_readEither : ah_S → Option Nat → Option (ah_T (Option Nat × ah_S))} (h_X0_readEither : ∀ {l : Launch} {D : ah_D} {σ : ah_S} {r0 : Option Nat} {rr : ah_T (Option Nat × ah_S)}, f_X0_readEither σ r0 = some rr → ah_Met l yX0_readEither (Cond.code yX0_readEither cX0_readEither 2 (some (FieldType.object "LeftAsFound$Term"))) frR loR D [va_rf r0] σ (ah_trR rr)) {f_X0_readOne : ah_S → Option Nat → Option (ah_T (Option Nat × ah_S))} (h_X0_readOne : ∀ {l : Launch} {D : ah_D} {σ : ah_S} {r0 : Option Nat} {rr : ah_T (Option Nat × ah_S)}, f_X0_readOne σ r0 = some rr → ah_Met l yX0_readOne (Cond.code yX0_readOne cX0_readOne 4 (some (FieldType.object "LeftAsFound$Term"))) frR loR D [va_rf r0] σ (ah_trR rr))   : ∀ (σ : ah_S) (r0 : Option Nat) (x2 : Int32), F_X0_readOne_124 f_X0_readEither f_X0_readOne σ r0 x2 = some rr → ah_G κ ("LeftAsFound", "readOne", 4, (some (FieldType.object "LeftAsFound$Term")), [], (frR + 1), (loR + 23)) cX0_readOne σ 124 [some (va_rf r0), none, some (.int x2), none] [] := by
  intro σ r0 x2 h
  unfold F_X0_readOne_124 at h
  refine ro_aload_n (pc' := 125) dX0_readOne_124 rfl rfl rfl ?_
  obtain ⟨v1, hv1, h⟩ := ah_bs h
  refine ro_getI (pc' := 128) ft_16 fk_16 q310 dX0_readOne_125 rfl hv1 ?_
  refine ro_bipush (pc' := 130) dX0_readOne_128 ib_6 rfl ?_
  refine ro_icmp_ne (pc' := 133) (tgt := 138) dX0_readOne_130 rfl rfl (fun c => ?_) (fun c => ?_)
  · replace h := ah_in_ c h
    refine ro_aload_n (pc' := 139) dX0_readOne_138 rfl rfl rfl ?_
    refine ro_dup (pc' := 140) dX0_readOne_139 (ah_rf_cat _) rfl ?_
    obtain ⟨v2, hv2, h⟩ := ah_bs h
    refine ro_getI (pc' := 143) ft_6 fk_6 q296 dX0_readOne_140 rfl hv2 ?_
    refine ro_iconst (pc' := 144) dX0_readOne_143 ic_1 rfl ?_
    refine ro_iadd (pc' := 145) dX0_readOne_144 rfl ?_
    obtain ⟨σ3, hσ3, h⟩ := ah_bs h
    refine ro_putI (pc' := 148) ft_6 fk_6 q296 pd_6 dX0_readOne_145 rfl hσ3 ?_
    refine ro_aload_n (pc' := 149) dX0_readOne_148 rfl rfl rfl ?_
    refine ro_dup (pc' := 150) dX0_readOne_149 (ah_rf_cat _) rfl ?_
    obtain ⟨v4, hv4, h⟩ := ah_bs h
    refine ro_getI (pc' := 153) ft_16 fk_16 q310 dX0_readOne_150 rfl hv4 ?_
    refine ro_iconst (pc' := 154) dX0_readOne_153 ic_1 rfl ?_
    refine ro_iadd (pc' := 155) dX0_readOne_154 rfl ?_
    obtain ⟨σ5, hσ5, h⟩ := ah_bs h
    refine ro_putI (pc' := 158) ft_16 fk_16 q310 pd_16 dX0_readOne_155 rfl hσ5 ?_
    refine ro_iload_n (pc' := 159) dX0_readOne_158 rfl rfl rfl ?_
    refine ro_bipush (pc' := 161) dX0_readOne_159 ib_40 rfl ?_
    refine ro_icmp_ne (pc' := 164) (tgt := 171) dX0_readOne_161 rfl rfl (fun c => ?_) (fun c => ?_)
    · replace h := ah_in_ c h
      obtain ⟨σ6, hσ6, h⟩ := ah_bs h
      refine ro_new (pc' := 174) ct_X12 df_X12 (by decide) q612 q613 q110 dX0_readOne_171 rfl hσ6 ?_
      refine ro_dup (pc' := 175) dX0_readOne_174 (ah_rf_cat _) rfl ?_
      refine ro_iload_n (pc' := 176) dX0_readOne_175 rfl rfl rfl ?_
      refine ro_aload_n (pc' := 177) dX0_readOne_176 rfl rfl rfl ?_
      obtain ⟨u7, hu7, h⟩ := ah_bs h
      rcases (ah_bs3 h).symm with ⟨a8, σ9, ha8, h⟩ | ⟨v11, σ10, hv11, h⟩
      · obtain rfl := Option.some.inj h
        exact ro_callTO (As := []) (rest := [.int x2, va_rf (some (ah_nx σ5)), va_rf (some (ah_nx σ5))]) (by decide) hu7 q571 sl_X0_readOne (h_X0_readOne ha8) q569 q572 q95 dd_X0_readOne rfl ⟨show frR + 1 ≤ frR + 1 by omega, show 8 + (4 + 11) + loR ≤ loR + 23 by omega⟩ (by simp only [List.map_cons, List.map_nil, List.sum_cons, List.sum_nil, ah_rf_cat, ah_cat_i, ah_cat_l]; decide) dX0_readOne_177 rfl hκ rfl
      refine ro_callV (pc' := 180) (As := []) (rest := [.int x2, va_rf (some (ah_nx σ5)), va_rf (some (ah_nx σ5))]) (st' := [va_rf v11, .int x2, va_rf (some (ah_nx σ5)), va_rf (some (ah_nx σ5))]) (by decide) hu7 q571 sl_X0_readOne (h_X0_readOne hv11) q569 q572 q95 dd_X0_readOne rfl ⟨show frR + 1 ≤ frR + 1 by omega, show 8 + (4 + 11) + loR ≤ loR + 23 by omega⟩ (by simp only [List.map_cons, List.map_nil, List.sum_cons, List.sum_nil, ah_rf_cat, ah_cat_i, ah_cat_l]; decide) dX0_readOne_177 rfl rfl rfl ?_
      obtain ⟨σ12, hσ12, h⟩ := ah_bs h
      refine ro_callI (pc' := 183) (As := [.int x2, va_rf v11]) (rest := [va_rf (some (ah_nx σ5))]) (st' := [va_rf (some (ah_nx σ5))]) rfl q615 rfl (M_X12_init hσ12) q614 q616 q110 dd_X12_init rfl ⟨show 2 + 1 ≤ frR + 1 by omega, show 8 + (3 + 11) + 44 ≤ loR + 23 by omega⟩ (by simp only [List.map_cons, List.map_nil, List.sum_cons, List.sum_nil, ah_rf_cat, ah_cat_i, ah_cat_l]; decide) dX0_readOne_180 rfl rfl rfl ?_
      exact W_X0_readOne_183 hκ hF hL h_X0_readEither h_X0_readOne _ _ _ _ h
    · replace h := ah_ip c h
      refine ro_aload_n (pc' := 165) dX0_readOne_164 rfl rfl rfl ?_
      obtain ⟨u13, hu13, h⟩ := ah_bs h
      rcases (ah_bs3 h).symm with ⟨a14, σ15, ha14, h⟩ | ⟨v17, σ16, hv17, h⟩
      · obtain rfl := Option.some.inj h
        exact ro_callTO (As := []) (rest := []) (by decide) hu13 q551 sl_X0_readEither (h_X0_readEither ha14) q549 q552 q95 dd_X0_readEither rfl ⟨show frR + 1 ≤ frR + 1 by omega, show 8 + (2 + 11) + loR ≤ loR + 23 by omega⟩ (Nat.le_of_ble_eq_true rfl) dX0_readOne_165 rfl hκ rfl
      refine ro_callV (pc' := 168) (As := []) (rest := []) (st' := [va_rf v17]) (by decide) hu13 q551 sl_X0_readEither (h_X0_readEither hv17) q549 q552 q95 dd_X0_readEither rfl ⟨show frR + 1 ≤ frR + 1 by omega, show 8 + (2 + 11) + loR ≤ loR + 23 by omega⟩ (Nat.le_of_ble_eq_true rfl) dX0_readOne_165 rfl rfl rfl ?_
      refine ro_goto (tgt := 183) dX0_readOne_168 rfl ?_
      exact W_X0_readOne_183 hκ hF hL h_X0_readEither h_X0_readOne _ _ _ _ h
  · replace h := ah_ip c h
    refine ro_aload_n (pc' := 134) dX0_readOne_133 rfl rfl rfl ?_
    obtain ⟨v18, hv18, h⟩ := ah_bs h
    refine ro_getR (pc' := 137) ft_5 fk_5 q295 dX0_readOne_134 rfl hv18 ?_
    obtain ⟨a19, ha19, h⟩ := ah_bs h
    obtain rfl := Option.some.inj h
    exact ro_athrow ha19 hκ rfl dX0_readOne_137
set_option maxRecDepth 20000 in
set_option maxHeartbeats 4000000 in
theorem W_X0_readOne {κ : ah_C} {rr : (ah_T (Option Nat × ah_S))} (hκ : ah_res κ = (ah_trR rr)) {frR loR : Nat} (hF : 4 ≤ frR) (hL : 86 ≤ loR) {f_X0_readEither : ah_S → Option Nat → Option (ah_T (Option Nat × ah_S))} (h_X0_readEither : ∀ {l : Launch} {D : ah_D} {σ : ah_S} {r0 : Option Nat} {rr : ah_T (Option Nat × ah_S)}, f_X0_readEither σ r0 = some rr → ah_Met l yX0_readEither (Cond.code yX0_readEither cX0_readEither 2 (some (FieldType.object "LeftAsFound$Term"))) frR loR D [va_rf r0] σ (ah_trR rr)) {f_X0_readOne : ah_S → Option Nat → Option (ah_T (Option Nat × ah_S))} (h_X0_readOne : ∀ {l : Launch} {D : ah_D} {σ : ah_S} {r0 : Option Nat} {rr : ah_T (Option Nat × ah_S)}, f_X0_readOne σ r0 = some rr → ah_Met l yX0_readOne (Cond.code yX0_readOne cX0_readOne 4 (some (FieldType.object "LeftAsFound$Term"))) frR loR D [va_rf r0] σ (ah_trR rr)) (σ : ah_S) (r0 : Option Nat) (h : F_X0_readOne f_X0_readEither f_X0_readOne σ r0 = some rr) : ah_G κ ("LeftAsFound", "readOne", 4, (some (FieldType.object "LeftAsFound$Term")), [], (frR + 1), (loR + 23)) cX0_readOne σ 0 [some (va_rf r0), none, none, none] [] := by
  unfold F_X0_readOne at h
  refine ro_aload_n (pc' := 1) dX0_readOne_0 rfl rfl rfl ?_
  obtain ⟨u1, hu1, h⟩ := ah_bs h
  obtain ⟨v2, σ3, hv2, h⟩ := ah_bs2 h
  refine ro_callV (pc' := 4) (As := []) (rest := []) (st' := [.int v2]) (by decide) hu1 q575 sl_X0_isDigit (M_X0_isDigit hv2) q573 q576 q95 dd_X0_isDigit rfl ⟨show 2 + 1 ≤ frR + 1 by omega, show 8 + (1 + 11) + 49 ≤ loR + 23 by omega⟩ (Nat.le_of_ble_eq_true rfl) dX0_readOne_1 rfl rfl rfl ?_
  refine ro_if_eq (pc' := 7) (tgt := 68) dX0_readOne_4 rfl rfl (fun c => ?_) (fun c => ?_)
  · replace h := ah_ip c h
    refine ro_aload_n (pc' := 69) dX0_readOne_68 rfl rfl rfl ?_
    obtain ⟨u4, hu4, h⟩ := ah_bs h
    obtain ⟨v5, σ6, hv5, h⟩ := ah_bs2 h
    refine ro_callV (pc' := 72) (As := []) (rest := []) (st' := [.int v5]) (by decide) hu4 q579 sl_X0_peek (M_X0_peek hv5) q577 q580 q95 dd_X0_peek rfl ⟨show 1 + 1 ≤ frR + 1 by omega, show 8 + (1 + 11) + 24 ≤ loR + 23 by omega⟩ (Nat.le_of_ble_eq_true rfl) dX0_readOne_69 rfl rfl rfl ?_
    obtain ⟨v7, σ8, hv7, h⟩ := ah_bs2 h
    refine ro_callS (pc' := 75) (As := [.int v5]) (rest := []) (st' := [.int v7]) q597 (M_X0_nameOf hv7) q596 q598 q95 dd_X0_nameOf rfl ⟨show 1 + 1 ≤ frR + 1 by omega, show 8 + (1 + 11) + 24 ≤ loR + 23 by omega⟩ (Nat.le_of_ble_eq_true rfl) dX0_readOne_72 rfl rfl rfl ?_
    refine ro_istore_n (pc' := 76) (L' := [some (va_rf r0), some (.int v7), none, none]) dX0_readOne_75 rfl (Nat.le_of_ble_eq_true rfl) rfl (ah_okp_r _) rfl ?_
    refine ro_iload_n (pc' := 77) dX0_readOne_76 rfl rfl rfl ?_
    refine ro_iconst (pc' := 78) dX0_readOne_77 ic_m1 rfl ?_
    refine ro_icmp_eq (pc' := 81) (tgt := 101) dX0_readOne_78 rfl rfl (fun c => ?_) (fun c => ?_)
    · replace h := ah_ip c h
      refine ro_aload_n (pc' := 102) dX0_readOne_101 rfl rfl rfl ?_
      obtain ⟨u9, hu9, h⟩ := ah_bs h
      obtain ⟨v10, σ11, hv10, h⟩ := ah_bs2 h
      refine ro_callV (pc' := 105) (As := []) (rest := []) (st' := [.int v10]) (by decide) hu9 q579 sl_X0_peek (M_X0_peek hv10) q577 q580 q95 dd_X0_peek rfl ⟨show 1 + 1 ≤ frR + 1 by omega, show 8 + (1 + 11) + 24 ≤ loR + 23 by omega⟩ (Nat.le_of_ble_eq_true rfl) dX0_readOne_102 rfl rfl rfl ?_
      refine ro_istore_n (pc' := 106) (L' := [some (va_rf r0), some (.int v7), some (.int v10), none]) dX0_readOne_105 rfl (Nat.le_of_ble_eq_true rfl) rfl (ah_okp_i _) rfl ?_
      refine ro_iload_n (pc' := 107) dX0_readOne_106 rfl rfl rfl ?_
      refine ro_bipush (pc' := 109) dX0_readOne_107 ib_33 rfl ?_
      refine ro_icmp_eq (pc' := 112) (tgt := 124) dX0_readOne_109 rfl rfl (fun c => ?_) (fun c => ?_)
      · replace h := ah_ip c h
        refine ro_weak (L' := [some (va_rf r0), none, some (.int v10), none]) (ah_ls_s (ah_ls_n (ah_ls_s (ah_ls_s ah_ls_0)))) ?_
        exact W_X0_readOne_124 hκ hF hL h_X0_readEither h_X0_readOne _ _ _ h
      · replace h := ah_in_ c h
        refine ro_iload_n (pc' := 113) dX0_readOne_112 rfl rfl rfl ?_
        refine ro_bipush (pc' := 115) dX0_readOne_113 ib_45 rfl ?_
        refine ro_icmp_eq (pc' := 118) (tgt := 124) dX0_readOne_115 rfl rfl (fun c => ?_) (fun c => ?_)
        · replace h := ah_ip c h
          refine ro_weak (L' := [some (va_rf r0), none, some (.int v10), none]) (ah_ls_s (ah_ls_n (ah_ls_s (ah_ls_s ah_ls_0)))) ?_
          exact W_X0_readOne_124 hκ hF hL h_X0_readEither h_X0_readOne _ _ _ h
        · replace h := ah_in_ c h
          refine ro_iload_n (pc' := 119) dX0_readOne_118 rfl rfl rfl ?_
          refine ro_bipush (pc' := 121) dX0_readOne_119 ib_40 rfl ?_
          refine ro_icmp_ne (pc' := 124) (tgt := 133) dX0_readOne_121 rfl rfl (fun c => ?_) (fun c => ?_)
          · replace h := ah_in_ c h
            refine ro_aload_n (pc' := 134) dX0_readOne_133 rfl rfl rfl ?_
            obtain ⟨v12, hv12, h⟩ := ah_bs h
            refine ro_getR (pc' := 137) ft_5 fk_5 q295 dX0_readOne_134 rfl hv12 ?_
            obtain ⟨a13, ha13, h⟩ := ah_bs h
            obtain rfl := Option.some.inj h
            exact ro_athrow ha13 hκ rfl dX0_readOne_137
          · replace h := ah_ip c h
            refine ro_weak (L' := [some (va_rf r0), none, some (.int v10), none]) (ah_ls_s (ah_ls_n (ah_ls_s (ah_ls_s ah_ls_0)))) ?_
            exact W_X0_readOne_124 hκ hF hL h_X0_readEither h_X0_readOne _ _ _ h
    · replace h := ah_in_ c h
      refine ro_aload_n (pc' := 82) dX0_readOne_81 rfl rfl rfl ?_
      refine ro_dup (pc' := 83) dX0_readOne_82 (ah_rf_cat _) rfl ?_
      obtain ⟨v14, hv14, h⟩ := ah_bs h
      refine ro_getI (pc' := 86) ft_6 fk_6 q296 dX0_readOne_83 rfl hv14 ?_
      refine ro_iconst (pc' := 87) dX0_readOne_86 ic_1 rfl ?_
      refine ro_iadd (pc' := 88) dX0_readOne_87 rfl ?_
      obtain ⟨σ15, hσ15, h⟩ := ah_bs h
      refine ro_putI (pc' := 91) ft_6 fk_6 q296 pd_6 dX0_readOne_88 rfl hσ15 ?_
      obtain ⟨σ16, hσ16, h⟩ := ah_bs h
      refine ro_new (pc' := 94) ct_X11 df_X11 (by decide) q599 q600 q109 dX0_readOne_91 rfl hσ16 ?_
      refine ro_dup (pc' := 95) dX0_readOne_94 (ah_rf_cat _) rfl ?_
      refine ro_aload_n (pc' := 96) dX0_readOne_95 rfl rfl rfl ?_
      refine ro_iload_n (pc' := 97) dX0_readOne_96 rfl rfl rfl ?_
      obtain ⟨σ17, hσ17, h⟩ := ah_bs h
      refine ro_callI (pc' := 100) (As := [va_rf r0, .int v7]) (rest := [va_rf (some (ah_nx σ15))]) (st' := [va_rf (some (ah_nx σ15))]) rfl q602 rfl (M_X11_init hσ17) q601 q603 q109 dd_X11_init rfl ⟨show 2 + 1 ≤ frR + 1 by omega, show 8 + (3 + 11) + 44 ≤ loR + 23 by omega⟩ (by simp only [List.map_cons, List.map_nil, List.sum_cons, List.sum_nil, ah_rf_cat, ah_cat_i, ah_cat_l]; decide) dX0_readOne_97 rfl rfl rfl ?_
      obtain rfl := Option.some.inj h
      exact ro_aret hκ dX0_readOne_100
  · replace h := ah_in_ c h
    refine ro_iconst (pc' := 8) dX0_readOne_7 ic_0 rfl ?_
    refine ro_istore_n (pc' := 9) (L' := [some (va_rf r0), some (.int (0 : Int32)), none, none]) dX0_readOne_8 rfl (Nat.le_of_ble_eq_true rfl) rfl (ah_okp_r _) rfl ?_
    refine ro_aload_n (pc' := 10) dX0_readOne_9 rfl rfl rfl ?_
    obtain ⟨v18, hv18, h⟩ := ah_bs h
    refine ro_getI (pc' := 13) ft_6 fk_6 q296 dX0_readOne_10 rfl hv18 ?_
    refine ro_istore_n (pc' := 14) (L' := [some (va_rf r0), some (.int (0 : Int32)), some (.int v18), none]) dX0_readOne_13 rfl (Nat.le_of_ble_eq_true rfl) rfl (ah_okp_i _) rfl ?_
    exact W_X0_readOne_14 hκ hF hL h_X0_readEither h_X0_readOne _ _ _ _ _ h
theorem M_X0_readOne {l : Launch} {D : ah_D} {frR loR : Nat} (hF : 4 ≤ frR) (hL : 86 ≤ loR) {f_X0_readEither : ah_S → Option Nat → Option (ah_T (Option Nat × ah_S))} (h_X0_readEither : ∀ {l : Launch} {D : ah_D} {σ : ah_S} {r0 : Option Nat} {rr : ah_T (Option Nat × ah_S)}, f_X0_readEither σ r0 = some rr → ah_Met l yX0_readEither (Cond.code yX0_readEither cX0_readEither 2 (some (FieldType.object "LeftAsFound$Term"))) frR loR D [va_rf r0] σ (ah_trR rr)) {f_X0_readOne : ah_S → Option Nat → Option (ah_T (Option Nat × ah_S))} (h_X0_readOne : ∀ {l : Launch} {D : ah_D} {σ : ah_S} {r0 : Option Nat} {rr : ah_T (Option Nat × ah_S)}, f_X0_readOne σ r0 = some rr → ah_Met l yX0_readOne (Cond.code yX0_readOne cX0_readOne 4 (some (FieldType.object "LeftAsFound$Term"))) frR loR D [va_rf r0] σ (ah_trR rr)) {σ : ah_S} {r0 : Option Nat} {rr : (ah_T (Option Nat × ah_S))} (h : F_X0_readOne f_X0_readEither f_X0_readOne σ r0 = some rr) : ah_Met l yX0_readOne (Cond.code yX0_readOne cX0_readOne 4 (some (FieldType.object "LeftAsFound$Term"))) (frR + 1) (loR + 23) D [va_rf r0] σ (ah_trR rr) :=
  ah_ofG (own := "LeftAsFound") (nm := "readOne") (L0 := [some (va_rf r0), none, none, none]) (by decide) rfl rfl rfl (ah_ao_1 (ah_rf_cat _) (ah_ao_n (ah_ao_n (ah_ao_n ah_ao_0)))) (fun κ hκ => W_X0_readOne hκ hF hL h_X0_readEither h_X0_readOne σ r0 h)
set_option maxRecDepth 20000 in
set_option maxHeartbeats 4000000 in
theorem W_X0_readTimes_32 {κ : ah_C} {rr : (ah_T (Option Nat × ah_S))} (hκ : ah_res κ = (ah_trR rr)) {frR loR : Nat} (hF : 4 ≤ frR) (hL : 86 ≤ loR) {f_X0_readOne : ah_S → Option Nat → Option (ah_T (Option Nat × ah_S))} (h_X0_readOne : ∀ {l : Launch} {D : ah_D} {σ : ah_S} {r0 : Option Nat} {rr : ah_T (Option Nat × ah_S)}, f_X0_readOne σ r0 = some rr → ah_Met l yX0_readOne (Cond.code yX0_readOne cX0_readOne 4 (some (FieldType.object "LeftAsFound$Term"))) frR loR D [va_rf r0] σ (ah_trR rr)) {k5 : ah_S → Option Nat → Option Nat → Option (ah_T (Option Nat × ah_S))} (hk5 : ∀ (σ : ah_S) (r0 : Option Nat) (r1 : Option Nat), k5 σ r0 r1 = some rr → ah_G κ ("LeftAsFound", "readTimes", 3, (some (FieldType.object "LeftAsFound$Term")), [], (frR + 1), (loR + 23)) cX0_readTimes σ 5 [some (va_rf r0), some (va_rf r1), none] []) : ∀ (σ : ah_S) (r0 : Option Nat) (r1 : Option Nat), F_X0_readTimes_32 f_X0_readOne k5 σ r0 r1 = some rr → ah_G κ ("LeftAsFound", "readTimes", 3, (some (FieldType.object "LeftAsFound$Term")), [], (frR + 1), (loR + 23)) cX0_readTimes σ 32 [some (va_rf r0), some (va_rf r1), none] [] := by
  intro σ r0 r1 h
  unfold F_X0_readTimes_32 at h
  refine ro_aload_n (pc' := 33) dX0_readTimes_32 rfl rfl rfl ?_
  obtain ⟨v1, hv1, h⟩ := ah_bs h
  refine ro_getR (pc' := 36) ft_3 fk_3 q293 dX0_readTimes_33 rfl hv1 ?_
  refine ro_aload_n (pc' := 37) dX0_readTimes_36 rfl rfl rfl ?_
  refine ro_dup (pc' := 38) dX0_readTimes_37 (ah_rf_cat _) rfl ?_
  obtain ⟨v2, hv2, h⟩ := ah_bs h
  refine ro_getI (pc' := 41) ft_6 fk_6 q296 dX0_readTimes_38 rfl hv2 ?_
  refine ro_dup_x1 (pc' := 42) dX0_readTimes_41 rfl (ah_rf_cat _) rfl ?_
  refine ro_iconst (pc' := 43) dX0_readTimes_42 ic_1 rfl ?_
  refine ro_iadd (pc' := 44) dX0_readTimes_43 rfl ?_
  obtain ⟨σ3, hσ3, h⟩ := ah_bs h
  refine ro_putI (pc' := 47) ft_6 fk_6 q296 pd_6 dX0_readTimes_44 rfl hσ3 ?_
  obtain ⟨v4, hv4, h⟩ := ah_bs h
  refine ro_iaload (pc' := 48) dX0_readTimes_47 rfl hv4 ?_
  refine ro_istore_n (pc' := 49) (L' := [some (va_rf r0), some (va_rf r1), some (.int v4)]) dX0_readTimes_48 rfl (Nat.le_of_ble_eq_true rfl) rfl (ah_okp_r _) rfl ?_
  obtain ⟨σ5, hσ5, h⟩ := ah_bs h
  refine ro_new (pc' := 52) ct_X13 df_X13 (by decide) q633 q634 q111 dX0_readTimes_49 rfl hσ5 ?_
  refine ro_dup (pc' := 53) dX0_readTimes_52 (ah_rf_cat _) rfl ?_
  refine ro_iload_n (pc' := 54) dX0_readTimes_53 rfl rfl rfl ?_
  refine ro_aload_n (pc' := 55) dX0_readTimes_54 rfl rfl rfl ?_
  refine ro_aload_n (pc' := 56) dX0_readTimes_55 rfl rfl rfl ?_
  obtain ⟨u6, hu6, h⟩ := ah_bs h
  rcases (ah_bs3 h).symm with ⟨a7, σ8, ha7, h⟩ | ⟨v10, σ9, hv10, h⟩
  · obtain rfl := Option.some.inj h
    exact ro_callTO (As := []) (rest := [va_rf r1, .int v4, va_rf (some (ah_nx σ3)), va_rf (some (ah_nx σ3))]) (by decide) hu6 q571 sl_X0_readOne (h_X0_readOne ha7) q569 q572 q95 dd_X0_readOne rfl ⟨show frR + 1 ≤ frR + 1 by omega, show 8 + (4 + 11) + loR ≤ loR + 23 by omega⟩ (by simp only [List.map_cons, List.map_nil, List.sum_cons, List.sum_nil, ah_rf_cat, ah_cat_i, ah_cat_l]; decide) dX0_readTimes_56 rfl hκ rfl
  refine ro_callV (pc' := 59) (As := []) (rest := [va_rf r1, .int v4, va_rf (some (ah_nx σ3)), va_rf (some (ah_nx σ3))]) (st' := [va_rf v10, va_rf r1, .int v4, va_rf (some (ah_nx σ3)), va_rf (some (ah_nx σ3))]) (by decide) hu6 q571 sl_X0_readOne (h_X0_readOne hv10) q569 q572 q95 dd_X0_readOne rfl ⟨show frR + 1 ≤ frR + 1 by omega, show 8 + (4 + 11) + loR ≤ loR + 23 by omega⟩ (by simp only [List.map_cons, List.map_nil, List.sum_cons, List.sum_nil, ah_rf_cat, ah_cat_i, ah_cat_l]; decide) dX0_readTimes_56 rfl rfl rfl ?_
  obtain ⟨σ11, hσ11, h⟩ := ah_bs h
  refine ro_callI (pc' := 62) (As := [.int v4, va_rf r1, va_rf v10]) (rest := [va_rf (some (ah_nx σ3))]) (st' := [va_rf (some (ah_nx σ3))]) rfl q636 rfl (M_X13_init hσ11) q635 q637 q111 dd_X13_init rfl ⟨show 2 + 1 ≤ frR + 1 by omega, show 8 + (4 + 11) + 44 ≤ loR + 23 by omega⟩ (by simp only [List.map_cons, List.map_nil, List.sum_cons, List.sum_nil, ah_rf_cat, ah_cat_i, ah_cat_l]; decide) dX0_readTimes_59 rfl rfl rfl ?_
  refine ro_astore_n (pc' := 63) (L' := [some (va_rf r0), some (va_rf (some (ah_nx σ3))), some (.int v4)]) dX0_readTimes_62 rfl (Nat.le_of_ble_eq_true rfl) rfl (ah_okp_r _) rfl ?_
  refine ro_goto (tgt := 5) dX0_readTimes_63 rfl ?_
  refine ro_weak (L' := [some (va_rf r0), some (va_rf (some (ah_nx σ3))), none]) (ah_ls_s (ah_ls_s (ah_ls_n ah_ls_0))) ?_
  exact hk5 _ _ _ h
set_option maxRecDepth 20000 in
set_option maxHeartbeats 4000000 in
theorem W_X0_readTimes_5 {κ : ah_C} {rr : (ah_T (Option Nat × ah_S))} (hκ : ah_res κ = (ah_trR rr)) {frR loR : Nat} (hF : 4 ≤ frR) (hL : 86 ≤ loR) {f_X0_readOne : ah_S → Option Nat → Option (ah_T (Option Nat × ah_S))} (h_X0_readOne : ∀ {l : Launch} {D : ah_D} {σ : ah_S} {r0 : Option Nat} {rr : ah_T (Option Nat × ah_S)}, f_X0_readOne σ r0 = some rr → ah_Met l yX0_readOne (Cond.code yX0_readOne cX0_readOne 4 (some (FieldType.object "LeftAsFound$Term"))) frR loR D [va_rf r0] σ (ah_trR rr))   : ∀ (n : Nat) (σ : ah_S) (r0 : Option Nat) (r1 : Option Nat), F_X0_readTimes_5 f_X0_readOne n σ r0 r1 = some rr → ah_G κ ("LeftAsFound", "readTimes", 3, (some (FieldType.object "LeftAsFound$Term")), [], (frR + 1), (loR + 23)) cX0_readTimes σ 5 [some (va_rf r0), some (va_rf r1), none] [] := by
  intro n
  induction n with
  | zero => intro σ r0 r1 h; cases h
  | succ n ih =>
    intro σ r0 r1 h
    rw [F_X0_readTimes_5] at h
    refine ro_aload_n (pc' := 6) dX0_readTimes_5 rfl rfl rfl ?_
    obtain ⟨u1, hu1, h⟩ := ah_bs h
    obtain ⟨v2, σ3, hv2, h⟩ := ah_bs2 h
    refine ro_callV (pc' := 9) (As := []) (rest := []) (st' := [.int v2]) (by decide) hu1 q579 sl_X0_peek (M_X0_peek hv2) q577 q580 q95 dd_X0_peek rfl ⟨show 1 + 1 ≤ frR + 1 by omega, show 8 + (1 + 11) + 24 ≤ loR + 23 by omega⟩ (Nat.le_of_ble_eq_true rfl) dX0_readTimes_6 rfl rfl rfl ?_
    refine ro_bipush (pc' := 11) dX0_readTimes_9 ib_42 rfl ?_
    refine ro_icmp_eq (pc' := 14) (tgt := 32) dX0_readTimes_11 rfl rfl (fun c => ?_) (fun c => ?_)
    · replace h := ah_ip c h
      exact W_X0_readTimes_32 hκ hF hL h_X0_readOne ih _ _ _ h
    · replace h := ah_in_ c h
      refine ro_aload_n (pc' := 15) dX0_readTimes_14 rfl rfl rfl ?_
      obtain ⟨u4, hu4, h⟩ := ah_bs h
      obtain ⟨v5, σ6, hv5, h⟩ := ah_bs2 h
      refine ro_callV (pc' := 18) (As := []) (rest := []) (st' := [.int v5]) (by decide) hu4 q579 sl_X0_peek (M_X0_peek hv5) q577 q580 q95 dd_X0_peek rfl ⟨show 1 + 1 ≤ frR + 1 by omega, show 8 + (1 + 11) + 24 ≤ loR + 23 by omega⟩ (Nat.le_of_ble_eq_true rfl) dX0_readTimes_15 rfl rfl rfl ?_
      refine ro_bipush (pc' := 20) dX0_readTimes_18 ib_47 rfl ?_
      refine ro_icmp_eq (pc' := 23) (tgt := 32) dX0_readTimes_20 rfl rfl (fun c => ?_) (fun c => ?_)
      · replace h := ah_ip c h
        exact W_X0_readTimes_32 hκ hF hL h_X0_readOne ih _ _ _ h
      · replace h := ah_in_ c h
        refine ro_aload_n (pc' := 24) dX0_readTimes_23 rfl rfl rfl ?_
        obtain ⟨u7, hu7, h⟩ := ah_bs h
        obtain ⟨v8, σ9, hv8, h⟩ := ah_bs2 h
        refine ro_callV (pc' := 27) (As := []) (rest := []) (st' := [.int v8]) (by decide) hu7 q579 sl_X0_peek (M_X0_peek hv8) q577 q580 q95 dd_X0_peek rfl ⟨show 1 + 1 ≤ frR + 1 by omega, show 8 + (1 + 11) + 24 ≤ loR + 23 by omega⟩ (Nat.le_of_ble_eq_true rfl) dX0_readTimes_24 rfl rfl rfl ?_
        refine ro_bipush (pc' := 29) dX0_readTimes_27 ib_37 rfl ?_
        refine ro_icmp_ne (pc' := 32) (tgt := 66) dX0_readTimes_29 rfl rfl (fun c => ?_) (fun c => ?_)
        · replace h := ah_in_ c h
          refine ro_aload_n (pc' := 67) dX0_readTimes_66 rfl rfl rfl ?_
          obtain rfl := Option.some.inj h
          exact ro_aret hκ dX0_readTimes_67
        · replace h := ah_ip c h
          exact W_X0_readTimes_32 hκ hF hL h_X0_readOne ih _ _ _ h
set_option maxRecDepth 20000 in
set_option maxHeartbeats 4000000 in
theorem W_X0_readTimes {κ : ah_C} {rr : (ah_T (Option Nat × ah_S))} (hκ : ah_res κ = (ah_trR rr)) {frR loR : Nat} (hF : 4 ≤ frR) (hL : 86 ≤ loR) {f_X0_readOne : ah_S → Option Nat → Option (ah_T (Option Nat × ah_S))} (h_X0_readOne : ∀ {l : Launch} {D : ah_D} {σ : ah_S} {r0 : Option Nat} {rr : ah_T (Option Nat × ah_S)}, f_X0_readOne σ r0 = some rr → ah_Met l yX0_readOne (Cond.code yX0_readOne cX0_readOne 4 (some (FieldType.object "LeftAsFound$Term"))) frR loR D [va_rf r0] σ (ah_trR rr)) (σ : ah_S) (r0 : Option Nat) (h : F_X0_readTimes f_X0_readOne σ r0 = some rr) : ah_G κ ("LeftAsFound", "readTimes", 3, (some (FieldType.object "LeftAsFound$Term")), [], (frR + 1), (loR + 23)) cX0_readTimes σ 0 [some (va_rf r0), none, none] [] := by
  unfold F_X0_readTimes at h
  refine ro_aload_n (pc' := 1) dX0_readTimes_0 rfl rfl rfl ?_
  obtain ⟨u1, hu1, h⟩ := ah_bs h
  rcases (ah_bs3 h).symm with ⟨a2, σ3, ha2, h⟩ | ⟨v5, σ4, hv5, h⟩
  · obtain rfl := Option.some.inj h
    exact ro_callTO (As := []) (rest := []) (by decide) hu1 q571 sl_X0_readOne (h_X0_readOne ha2) q569 q572 q95 dd_X0_readOne rfl ⟨show frR + 1 ≤ frR + 1 by omega, show 8 + (4 + 11) + loR ≤ loR + 23 by omega⟩ (Nat.le_of_ble_eq_true rfl) dX0_readTimes_1 rfl hκ rfl
  refine ro_callV (pc' := 4) (As := []) (rest := []) (st' := [va_rf v5]) (by decide) hu1 q571 sl_X0_readOne (h_X0_readOne hv5) q569 q572 q95 dd_X0_readOne rfl ⟨show frR + 1 ≤ frR + 1 by omega, show 8 + (4 + 11) + loR ≤ loR + 23 by omega⟩ (Nat.le_of_ble_eq_true rfl) dX0_readTimes_1 rfl rfl rfl ?_
  refine ro_astore_n (pc' := 5) (L' := [some (va_rf r0), some (va_rf v5), none]) dX0_readTimes_4 rfl (Nat.le_of_ble_eq_true rfl) rfl (ah_okp_r _) rfl ?_
  exact W_X0_readTimes_5 hκ hF hL h_X0_readOne _ _ _ _ h
theorem M_X0_readTimes {l : Launch} {D : ah_D} {frR loR : Nat} (hF : 4 ≤ frR) (hL : 86 ≤ loR) {f_X0_readOne : ah_S → Option Nat → Option (ah_T (Option Nat × ah_S))} (h_X0_readOne : ∀ {l : Launch} {D : ah_D} {σ : ah_S} {r0 : Option Nat} {rr : ah_T (Option Nat × ah_S)}, f_X0_readOne σ r0 = some rr → ah_Met l yX0_readOne (Cond.code yX0_readOne cX0_readOne 4 (some (FieldType.object "LeftAsFound$Term"))) frR loR D [va_rf r0] σ (ah_trR rr)) {σ : ah_S} {r0 : Option Nat} {rr : (ah_T (Option Nat × ah_S))} (h : F_X0_readTimes f_X0_readOne σ r0 = some rr) : ah_Met l yX0_readTimes (Cond.code yX0_readTimes cX0_readTimes 3 (some (FieldType.object "LeftAsFound$Term"))) (frR + 1) (loR + 23) D [va_rf r0] σ (ah_trR rr) :=
  ah_ofG (own := "LeftAsFound") (nm := "readTimes") (L0 := [some (va_rf r0), none, none]) (by decide) rfl rfl rfl (ah_ao_1 (ah_rf_cat _) (ah_ao_n (ah_ao_n ah_ao_0))) (fun κ hκ => W_X0_readTimes hκ hF hL h_X0_readOne σ r0 h)
set_option maxRecDepth 20000 in
set_option maxHeartbeats 4000000 in
theorem W_X0_readPlus_23 {κ : ah_C} {rr : (ah_T (Option Nat × ah_S))} (hκ : ah_res κ = (ah_trR rr)) {frR loR : Nat} (hF : 4 ≤ frR) (hL : 86 ≤ loR) {f_X0_readTimes : ah_S → Option Nat → Option (ah_T (Option Nat × ah_S))} (h_X0_readTimes : ∀ {l : Launch} {D : ah_D} {σ : ah_S} {r0 : Option Nat} {rr : ah_T (Option Nat × ah_S)}, f_X0_readTimes σ r0 = some rr → ah_Met l yX0_readTimes (Cond.code yX0_readTimes cX0_readTimes 3 (some (FieldType.object "LeftAsFound$Term"))) frR loR D [va_rf r0] σ (ah_trR rr)) {k5 : ah_S → Option Nat → Option Nat → Option (ah_T (Option Nat × ah_S))} (hk5 : ∀ (σ : ah_S) (r0 : Option Nat) (r1 : Option Nat), k5 σ r0 r1 = some rr → ah_G κ ("LeftAsFound", "readPlus", 3, (some (FieldType.object "LeftAsFound$Term")), [], (frR + 1), (loR + 23)) cX0_readPlus σ 5 [some (va_rf r0), some (va_rf r1), none] []) : ∀ (σ : ah_S) (r0 : Option Nat) (r1 : Option Nat), F_X0_readPlus_23 f_X0_readTimes k5 σ r0 r1 = some rr → ah_G κ ("LeftAsFound", "readPlus", 3, (some (FieldType.object "LeftAsFound$Term")), [], (frR + 1), (loR + 23)) cX0_readPlus σ 23 [some (va_rf r0), some (va_rf r1), none] [] := by
  intro σ r0 r1 h
  unfold F_X0_readPlus_23 at h
  refine ro_aload_n (pc' := 24) dX0_readPlus_23 rfl rfl rfl ?_
  obtain ⟨v1, hv1, h⟩ := ah_bs h
  refine ro_getR (pc' := 27) ft_3 fk_3 q293 dX0_readPlus_24 rfl hv1 ?_
  refine ro_aload_n (pc' := 28) dX0_readPlus_27 rfl rfl rfl ?_
  refine ro_dup (pc' := 29) dX0_readPlus_28 (ah_rf_cat _) rfl ?_
  obtain ⟨v2, hv2, h⟩ := ah_bs h
  refine ro_getI (pc' := 32) ft_6 fk_6 q296 dX0_readPlus_29 rfl hv2 ?_
  refine ro_dup_x1 (pc' := 33) dX0_readPlus_32 rfl (ah_rf_cat _) rfl ?_
  refine ro_iconst (pc' := 34) dX0_readPlus_33 ic_1 rfl ?_
  refine ro_iadd (pc' := 35) dX0_readPlus_34 rfl ?_
  obtain ⟨σ3, hσ3, h⟩ := ah_bs h
  refine ro_putI (pc' := 38) ft_6 fk_6 q296 pd_6 dX0_readPlus_35 rfl hσ3 ?_
  obtain ⟨v4, hv4, h⟩ := ah_bs h
  refine ro_iaload (pc' := 39) dX0_readPlus_38 rfl hv4 ?_
  refine ro_istore_n (pc' := 40) (L' := [some (va_rf r0), some (va_rf r1), some (.int v4)]) dX0_readPlus_39 rfl (Nat.le_of_ble_eq_true rfl) rfl (ah_okp_r _) rfl ?_
  obtain ⟨σ5, hσ5, h⟩ := ah_bs h
  refine ro_new (pc' := 43) ct_X13 df_X13 (by decide) q633 q634 q111 dX0_readPlus_40 rfl hσ5 ?_
  refine ro_dup (pc' := 44) dX0_readPlus_43 (ah_rf_cat _) rfl ?_
  refine ro_iload_n (pc' := 45) dX0_readPlus_44 rfl rfl rfl ?_
  refine ro_aload_n (pc' := 46) dX0_readPlus_45 rfl rfl rfl ?_
  refine ro_aload_n (pc' := 47) dX0_readPlus_46 rfl rfl rfl ?_
  obtain ⟨u6, hu6, h⟩ := ah_bs h
  rcases (ah_bs3 h).symm with ⟨a7, σ8, ha7, h⟩ | ⟨v10, σ9, hv10, h⟩
  · obtain rfl := Option.some.inj h
    exact ro_callTO (As := []) (rest := [va_rf r1, .int v4, va_rf (some (ah_nx σ3)), va_rf (some (ah_nx σ3))]) (by decide) hu6 q567 sl_X0_readTimes (h_X0_readTimes ha7) q565 q568 q95 dd_X0_readTimes rfl ⟨show frR + 1 ≤ frR + 1 by omega, show 8 + (3 + 11) + loR ≤ loR + 23 by omega⟩ (by simp only [List.map_cons, List.map_nil, List.sum_cons, List.sum_nil, ah_rf_cat, ah_cat_i, ah_cat_l]; decide) dX0_readPlus_47 rfl hκ rfl
  refine ro_callV (pc' := 50) (As := []) (rest := [va_rf r1, .int v4, va_rf (some (ah_nx σ3)), va_rf (some (ah_nx σ3))]) (st' := [va_rf v10, va_rf r1, .int v4, va_rf (some (ah_nx σ3)), va_rf (some (ah_nx σ3))]) (by decide) hu6 q567 sl_X0_readTimes (h_X0_readTimes hv10) q565 q568 q95 dd_X0_readTimes rfl ⟨show frR + 1 ≤ frR + 1 by omega, show 8 + (3 + 11) + loR ≤ loR + 23 by omega⟩ (by simp only [List.map_cons, List.map_nil, List.sum_cons, List.sum_nil, ah_rf_cat, ah_cat_i, ah_cat_l]; decide) dX0_readPlus_47 rfl rfl rfl ?_
  obtain ⟨σ11, hσ11, h⟩ := ah_bs h
  refine ro_callI (pc' := 53) (As := [.int v4, va_rf r1, va_rf v10]) (rest := [va_rf (some (ah_nx σ3))]) (st' := [va_rf (some (ah_nx σ3))]) rfl q636 rfl (M_X13_init hσ11) q635 q637 q111 dd_X13_init rfl ⟨show 2 + 1 ≤ frR + 1 by omega, show 8 + (4 + 11) + 44 ≤ loR + 23 by omega⟩ (by simp only [List.map_cons, List.map_nil, List.sum_cons, List.sum_nil, ah_rf_cat, ah_cat_i, ah_cat_l]; decide) dX0_readPlus_50 rfl rfl rfl ?_
  refine ro_astore_n (pc' := 54) (L' := [some (va_rf r0), some (va_rf (some (ah_nx σ3))), some (.int v4)]) dX0_readPlus_53 rfl (Nat.le_of_ble_eq_true rfl) rfl (ah_okp_r _) rfl ?_
  refine ro_goto (tgt := 5) dX0_readPlus_54 rfl ?_
  refine ro_weak (L' := [some (va_rf r0), some (va_rf (some (ah_nx σ3))), none]) (ah_ls_s (ah_ls_s (ah_ls_n ah_ls_0))) ?_
  exact hk5 _ _ _ h
set_option maxRecDepth 20000 in
set_option maxHeartbeats 4000000 in
theorem W_X0_readPlus_5 {κ : ah_C} {rr : (ah_T (Option Nat × ah_S))} (hκ : ah_res κ = (ah_trR rr)) {frR loR : Nat} (hF : 4 ≤ frR) (hL : 86 ≤ loR) {f_X0_readTimes : ah_S → Option Nat → Option (ah_T (Option Nat × ah_S))} (h_X0_readTimes : ∀ {l : Launch} {D : ah_D} {σ : ah_S} {r0 : Option Nat} {rr : ah_T (Option Nat × ah_S)}, f_X0_readTimes σ r0 = some rr → ah_Met l yX0_readTimes (Cond.code yX0_readTimes cX0_readTimes 3 (some (FieldType.object "LeftAsFound$Term"))) frR loR D [va_rf r0] σ (ah_trR rr))   : ∀ (n : Nat) (σ : ah_S) (r0 : Option Nat) (r1 : Option Nat), F_X0_readPlus_5 f_X0_readTimes n σ r0 r1 = some rr → ah_G κ ("LeftAsFound", "readPlus", 3, (some (FieldType.object "LeftAsFound$Term")), [], (frR + 1), (loR + 23)) cX0_readPlus σ 5 [some (va_rf r0), some (va_rf r1), none] [] := by
  intro n
  induction n with
  | zero => intro σ r0 r1 h; cases h
  | succ n ih =>
    intro σ r0 r1 h
    rw [F_X0_readPlus_5] at h
    refine ro_aload_n (pc' := 6) dX0_readPlus_5 rfl rfl rfl ?_
    obtain ⟨u1, hu1, h⟩ := ah_bs h
    obtain ⟨v2, σ3, hv2, h⟩ := ah_bs2 h
    refine ro_callV (pc' := 9) (As := []) (rest := []) (st' := [.int v2]) (by decide) hu1 q579 sl_X0_peek (M_X0_peek hv2) q577 q580 q95 dd_X0_peek rfl ⟨show 1 + 1 ≤ frR + 1 by omega, show 8 + (1 + 11) + 24 ≤ loR + 23 by omega⟩ (Nat.le_of_ble_eq_true rfl) dX0_readPlus_6 rfl rfl rfl ?_
    refine ro_bipush (pc' := 11) dX0_readPlus_9 ib_43 rfl ?_
    refine ro_icmp_eq (pc' := 14) (tgt := 23) dX0_readPlus_11 rfl rfl (fun c => ?_) (fun c => ?_)
    · replace h := ah_ip c h
      exact W_X0_readPlus_23 hκ hF hL h_X0_readTimes ih _ _ _ h
    · replace h := ah_in_ c h
      refine ro_aload_n (pc' := 15) dX0_readPlus_14 rfl rfl rfl ?_
      obtain ⟨u4, hu4, h⟩ := ah_bs h
      obtain ⟨v5, σ6, hv5, h⟩ := ah_bs2 h
      refine ro_callV (pc' := 18) (As := []) (rest := []) (st' := [.int v5]) (by decide) hu4 q579 sl_X0_peek (M_X0_peek hv5) q577 q580 q95 dd_X0_peek rfl ⟨show 1 + 1 ≤ frR + 1 by omega, show 8 + (1 + 11) + 24 ≤ loR + 23 by omega⟩ (Nat.le_of_ble_eq_true rfl) dX0_readPlus_15 rfl rfl rfl ?_
      refine ro_bipush (pc' := 20) dX0_readPlus_18 ib_45 rfl ?_
      refine ro_icmp_ne (pc' := 23) (tgt := 57) dX0_readPlus_20 rfl rfl (fun c => ?_) (fun c => ?_)
      · replace h := ah_in_ c h
        refine ro_aload_n (pc' := 58) dX0_readPlus_57 rfl rfl rfl ?_
        obtain rfl := Option.some.inj h
        exact ro_aret hκ dX0_readPlus_58
      · replace h := ah_ip c h
        exact W_X0_readPlus_23 hκ hF hL h_X0_readTimes ih _ _ _ h
set_option maxRecDepth 20000 in
set_option maxHeartbeats 4000000 in
theorem W_X0_readPlus {κ : ah_C} {rr : (ah_T (Option Nat × ah_S))} (hκ : ah_res κ = (ah_trR rr)) {frR loR : Nat} (hF : 4 ≤ frR) (hL : 86 ≤ loR) {f_X0_readTimes : ah_S → Option Nat → Option (ah_T (Option Nat × ah_S))} (h_X0_readTimes : ∀ {l : Launch} {D : ah_D} {σ : ah_S} {r0 : Option Nat} {rr : ah_T (Option Nat × ah_S)}, f_X0_readTimes σ r0 = some rr → ah_Met l yX0_readTimes (Cond.code yX0_readTimes cX0_readTimes 3 (some (FieldType.object "LeftAsFound$Term"))) frR loR D [va_rf r0] σ (ah_trR rr)) (σ : ah_S) (r0 : Option Nat) (h : F_X0_readPlus f_X0_readTimes σ r0 = some rr) : ah_G κ ("LeftAsFound", "readPlus", 3, (some (FieldType.object "LeftAsFound$Term")), [], (frR + 1), (loR + 23)) cX0_readPlus σ 0 [some (va_rf r0), none, none] [] := by
  unfold F_X0_readPlus at h
  refine ro_aload_n (pc' := 1) dX0_readPlus_0 rfl rfl rfl ?_
  obtain ⟨u1, hu1, h⟩ := ah_bs h
  rcases (ah_bs3 h).symm with ⟨a2, σ3, ha2, h⟩ | ⟨v5, σ4, hv5, h⟩
  · obtain rfl := Option.some.inj h
    exact ro_callTO (As := []) (rest := []) (by decide) hu1 q567 sl_X0_readTimes (h_X0_readTimes ha2) q565 q568 q95 dd_X0_readTimes rfl ⟨show frR + 1 ≤ frR + 1 by omega, show 8 + (3 + 11) + loR ≤ loR + 23 by omega⟩ (Nat.le_of_ble_eq_true rfl) dX0_readPlus_1 rfl hκ rfl
  refine ro_callV (pc' := 4) (As := []) (rest := []) (st' := [va_rf v5]) (by decide) hu1 q567 sl_X0_readTimes (h_X0_readTimes hv5) q565 q568 q95 dd_X0_readTimes rfl ⟨show frR + 1 ≤ frR + 1 by omega, show 8 + (3 + 11) + loR ≤ loR + 23 by omega⟩ (Nat.le_of_ble_eq_true rfl) dX0_readPlus_1 rfl rfl rfl ?_
  refine ro_astore_n (pc' := 5) (L' := [some (va_rf r0), some (va_rf v5), none]) dX0_readPlus_4 rfl (Nat.le_of_ble_eq_true rfl) rfl (ah_okp_r _) rfl ?_
  exact W_X0_readPlus_5 hκ hF hL h_X0_readTimes _ _ _ _ h
theorem M_X0_readPlus {l : Launch} {D : ah_D} {frR loR : Nat} (hF : 4 ≤ frR) (hL : 86 ≤ loR) {f_X0_readTimes : ah_S → Option Nat → Option (ah_T (Option Nat × ah_S))} (h_X0_readTimes : ∀ {l : Launch} {D : ah_D} {σ : ah_S} {r0 : Option Nat} {rr : ah_T (Option Nat × ah_S)}, f_X0_readTimes σ r0 = some rr → ah_Met l yX0_readTimes (Cond.code yX0_readTimes cX0_readTimes 3 (some (FieldType.object "LeftAsFound$Term"))) frR loR D [va_rf r0] σ (ah_trR rr)) {σ : ah_S} {r0 : Option Nat} {rr : (ah_T (Option Nat × ah_S))} (h : F_X0_readPlus f_X0_readTimes σ r0 = some rr) : ah_Met l yX0_readPlus (Cond.code yX0_readPlus cX0_readPlus 3 (some (FieldType.object "LeftAsFound$Term"))) (frR + 1) (loR + 23) D [va_rf r0] σ (ah_trR rr) :=
  ah_ofG (own := "LeftAsFound") (nm := "readPlus") (L0 := [some (va_rf r0), none, none]) (by decide) rfl rfl rfl (ah_ao_1 (ah_rf_cat _) (ah_ao_n (ah_ao_n ah_ao_0))) (fun κ hκ => W_X0_readPlus hκ hF hL h_X0_readTimes σ r0 h)
set_option maxRecDepth 20000 in
set_option maxHeartbeats 4000000 in
theorem W_X0_readLike_34 {κ : ah_C} {rr : (ah_T (Option Nat × ah_S))} (hκ : ah_res κ = (ah_trR rr)) {frR loR : Nat} (hF : 4 ≤ frR) (hL : 86 ≤ loR) {f_X0_readPlus : ah_S → Option Nat → Option (ah_T (Option Nat × ah_S))} (h_X0_readPlus : ∀ {l : Launch} {D : ah_D} {σ : ah_S} {r0 : Option Nat} {rr : ah_T (Option Nat × ah_S)}, f_X0_readPlus σ r0 = some rr → ah_Met l yX0_readPlus (Cond.code yX0_readPlus cX0_readPlus 3 (some (FieldType.object "LeftAsFound$Term"))) frR loR D [va_rf r0] σ (ah_trR rr))   : ∀ (σ : ah_S) (r0 : Option Nat) (r1 : Option Nat), F_X0_readLike_34 f_X0_readPlus σ r0 r1 = some rr → ah_G κ ("LeftAsFound", "readLike", 3, (some (FieldType.object "LeftAsFound$Term")), [], (frR + 1), (loR + 23)) cX0_readLike σ 34 [some (va_rf r0), some (va_rf r1), none] [] := by
  intro σ r0 r1 h
  unfold F_X0_readLike_34 at h
  refine ro_aload_n (pc' := 35) dX0_readLike_34 rfl rfl rfl ?_
  obtain ⟨v1, hv1, h⟩ := ah_bs h
  refine ro_getR (pc' := 38) ft_3 fk_3 q293 dX0_readLike_35 rfl hv1 ?_
  refine ro_aload_n (pc' := 39) dX0_readLike_38 rfl rfl rfl ?_
  refine ro_dup (pc' := 40) dX0_readLike_39 (ah_rf_cat _) rfl ?_
  obtain ⟨v2, hv2, h⟩ := ah_bs h
  refine ro_getI (pc' := 43) ft_6 fk_6 q296 dX0_readLike_40 rfl hv2 ?_
  refine ro_dup_x1 (pc' := 44) dX0_readLike_43 rfl (ah_rf_cat _) rfl ?_
  refine ro_iconst (pc' := 45) dX0_readLike_44 ic_1 rfl ?_
  refine ro_iadd (pc' := 46) dX0_readLike_45 rfl ?_
  obtain ⟨σ3, hσ3, h⟩ := ah_bs h
  refine ro_putI (pc' := 49) ft_6 fk_6 q296 pd_6 dX0_readLike_46 rfl hσ3 ?_
  obtain ⟨v4, hv4, h⟩ := ah_bs h
  refine ro_iaload (pc' := 50) dX0_readLike_49 rfl hv4 ?_
  refine ro_istore_n (pc' := 51) (L' := [some (va_rf r0), some (va_rf r1), some (.int v4)]) dX0_readLike_50 rfl (Nat.le_of_ble_eq_true rfl) rfl (ah_okp_r _) rfl ?_
  obtain ⟨σ5, hσ5, h⟩ := ah_bs h
  refine ro_new (pc' := 54) ct_X13 df_X13 (by decide) q633 q634 q111 dX0_readLike_51 rfl hσ5 ?_
  refine ro_dup (pc' := 55) dX0_readLike_54 (ah_rf_cat _) rfl ?_
  refine ro_iload_n (pc' := 56) dX0_readLike_55 rfl rfl rfl ?_
  refine ro_aload_n (pc' := 57) dX0_readLike_56 rfl rfl rfl ?_
  refine ro_aload_n (pc' := 58) dX0_readLike_57 rfl rfl rfl ?_
  obtain ⟨u6, hu6, h⟩ := ah_bs h
  rcases (ah_bs3 h).symm with ⟨a7, σ8, ha7, h⟩ | ⟨v10, σ9, hv10, h⟩
  · obtain rfl := Option.some.inj h
    exact ro_callTO (As := []) (rest := [va_rf r1, .int v4, va_rf (some (ah_nx σ3)), va_rf (some (ah_nx σ3))]) (by decide) hu6 q563 sl_X0_readPlus (h_X0_readPlus ha7) q561 q564 q95 dd_X0_readPlus rfl ⟨show frR + 1 ≤ frR + 1 by omega, show 8 + (3 + 11) + loR ≤ loR + 23 by omega⟩ (by simp only [List.map_cons, List.map_nil, List.sum_cons, List.sum_nil, ah_rf_cat, ah_cat_i, ah_cat_l]; decide) dX0_readLike_58 rfl hκ rfl
  refine ro_callV (pc' := 61) (As := []) (rest := [va_rf r1, .int v4, va_rf (some (ah_nx σ3)), va_rf (some (ah_nx σ3))]) (st' := [va_rf v10, va_rf r1, .int v4, va_rf (some (ah_nx σ3)), va_rf (some (ah_nx σ3))]) (by decide) hu6 q563 sl_X0_readPlus (h_X0_readPlus hv10) q561 q564 q95 dd_X0_readPlus rfl ⟨show frR + 1 ≤ frR + 1 by omega, show 8 + (3 + 11) + loR ≤ loR + 23 by omega⟩ (by simp only [List.map_cons, List.map_nil, List.sum_cons, List.sum_nil, ah_rf_cat, ah_cat_i, ah_cat_l]; decide) dX0_readLike_58 rfl rfl rfl ?_
  obtain ⟨σ11, hσ11, h⟩ := ah_bs h
  refine ro_callI (pc' := 64) (As := [.int v4, va_rf r1, va_rf v10]) (rest := [va_rf (some (ah_nx σ3))]) (st' := [va_rf (some (ah_nx σ3))]) rfl q636 rfl (M_X13_init hσ11) q635 q637 q111 dd_X13_init rfl ⟨show 2 + 1 ≤ frR + 1 by omega, show 8 + (4 + 11) + 44 ≤ loR + 23 by omega⟩ (by simp only [List.map_cons, List.map_nil, List.sum_cons, List.sum_nil, ah_rf_cat, ah_cat_i, ah_cat_l]; decide) dX0_readLike_61 rfl rfl rfl ?_
  obtain rfl := Option.some.inj h
  exact ro_aret hκ dX0_readLike_64
set_option maxRecDepth 20000 in
set_option maxHeartbeats 4000000 in
theorem W_X0_readLike {κ : ah_C} {rr : (ah_T (Option Nat × ah_S))} (hκ : ah_res κ = (ah_trR rr)) {frR loR : Nat} (hF : 4 ≤ frR) (hL : 86 ≤ loR) {f_X0_readPlus : ah_S → Option Nat → Option (ah_T (Option Nat × ah_S))} (h_X0_readPlus : ∀ {l : Launch} {D : ah_D} {σ : ah_S} {r0 : Option Nat} {rr : ah_T (Option Nat × ah_S)}, f_X0_readPlus σ r0 = some rr → ah_Met l yX0_readPlus (Cond.code yX0_readPlus cX0_readPlus 3 (some (FieldType.object "LeftAsFound$Term"))) frR loR D [va_rf r0] σ (ah_trR rr)) (σ : ah_S) (r0 : Option Nat) (h : F_X0_readLike f_X0_readPlus σ r0 = some rr) : ah_G κ ("LeftAsFound", "readLike", 3, (some (FieldType.object "LeftAsFound$Term")), [], (frR + 1), (loR + 23)) cX0_readLike σ 0 [some (va_rf r0), none, none] [] := by
  unfold F_X0_readLike at h
  refine ro_aload_n (pc' := 1) dX0_readLike_0 rfl rfl rfl ?_
  obtain ⟨u1, hu1, h⟩ := ah_bs h
  rcases (ah_bs3 h).symm with ⟨a2, σ3, ha2, h⟩ | ⟨v5, σ4, hv5, h⟩
  · obtain rfl := Option.some.inj h
    exact ro_callTO (As := []) (rest := []) (by decide) hu1 q563 sl_X0_readPlus (h_X0_readPlus ha2) q561 q564 q95 dd_X0_readPlus rfl ⟨show frR + 1 ≤ frR + 1 by omega, show 8 + (3 + 11) + loR ≤ loR + 23 by omega⟩ (Nat.le_of_ble_eq_true rfl) dX0_readLike_1 rfl hκ rfl
  refine ro_callV (pc' := 4) (As := []) (rest := []) (st' := [va_rf v5]) (by decide) hu1 q563 sl_X0_readPlus (h_X0_readPlus hv5) q561 q564 q95 dd_X0_readPlus rfl ⟨show frR + 1 ≤ frR + 1 by omega, show 8 + (3 + 11) + loR ≤ loR + 23 by omega⟩ (Nat.le_of_ble_eq_true rfl) dX0_readLike_1 rfl rfl rfl ?_
  refine ro_astore_n (pc' := 5) (L' := [some (va_rf r0), some (va_rf v5), none]) dX0_readLike_4 rfl (Nat.le_of_ble_eq_true rfl) rfl (ah_okp_r _) rfl ?_
  refine ro_aload_n (pc' := 6) dX0_readLike_5 rfl rfl rfl ?_
  obtain ⟨u6, hu6, h⟩ := ah_bs h
  obtain ⟨v7, σ8, hv7, h⟩ := ah_bs2 h
  refine ro_callV (pc' := 9) (As := []) (rest := []) (st' := [.int v7]) (by decide) hu6 q579 sl_X0_peek (M_X0_peek hv7) q577 q580 q95 dd_X0_peek rfl ⟨show 1 + 1 ≤ frR + 1 by omega, show 8 + (1 + 11) + 24 ≤ loR + 23 by omega⟩ (Nat.le_of_ble_eq_true rfl) dX0_readLike_6 rfl rfl rfl ?_
  refine ro_bipush (pc' := 11) dX0_readLike_9 ib_60 rfl ?_
  refine ro_icmp_eq (pc' := 14) (tgt := 34) dX0_readLike_11 rfl rfl (fun c => ?_) (fun c => ?_)
  · replace h := ah_ip c h
    exact W_X0_readLike_34 hκ hF hL h_X0_readPlus _ _ _ h
  · replace h := ah_in_ c h
    refine ro_aload_n (pc' := 15) dX0_readLike_14 rfl rfl rfl ?_
    obtain ⟨u9, hu9, h⟩ := ah_bs h
    obtain ⟨v10, σ11, hv10, h⟩ := ah_bs2 h
    refine ro_callV (pc' := 18) (As := []) (rest := []) (st' := [.int v10]) (by decide) hu9 q579 sl_X0_peek (M_X0_peek hv10) q577 q580 q95 dd_X0_peek rfl ⟨show 1 + 1 ≤ frR + 1 by omega, show 8 + (1 + 11) + 24 ≤ loR + 23 by omega⟩ (Nat.le_of_ble_eq_true rfl) dX0_readLike_15 rfl rfl rfl ?_
    refine ro_bipush (pc' := 20) dX0_readLike_18 ib_61 rfl ?_
    refine ro_icmp_eq (pc' := 23) (tgt := 34) dX0_readLike_20 rfl rfl (fun c => ?_) (fun c => ?_)
    · replace h := ah_ip c h
      exact W_X0_readLike_34 hκ hF hL h_X0_readPlus _ _ _ h
    · replace h := ah_in_ c h
      refine ro_aload_n (pc' := 24) dX0_readLike_23 rfl rfl rfl ?_
      obtain ⟨u12, hu12, h⟩ := ah_bs h
      obtain ⟨v13, σ14, hv13, h⟩ := ah_bs2 h
      refine ro_callV (pc' := 27) (As := []) (rest := []) (st' := [.int v13]) (by decide) hu12 q579 sl_X0_peek (M_X0_peek hv13) q577 q580 q95 dd_X0_peek rfl ⟨show 1 + 1 ≤ frR + 1 by omega, show 8 + (1 + 11) + 24 ≤ loR + 23 by omega⟩ (Nat.le_of_ble_eq_true rfl) dX0_readLike_24 rfl rfl rfl ?_
      refine ro_bipush (pc' := 29) dX0_readLike_27 ib_62 rfl ?_
      refine ro_icmp_eq (pc' := 32) (tgt := 34) dX0_readLike_29 rfl rfl (fun c => ?_) (fun c => ?_)
      · replace h := ah_ip c h
        exact W_X0_readLike_34 hκ hF hL h_X0_readPlus _ _ _ h
      · replace h := ah_in_ c h
        refine ro_aload_n (pc' := 33) dX0_readLike_32 rfl rfl rfl ?_
        obtain rfl := Option.some.inj h
        exact ro_aret hκ dX0_readLike_33
theorem M_X0_readLike {l : Launch} {D : ah_D} {frR loR : Nat} (hF : 4 ≤ frR) (hL : 86 ≤ loR) {f_X0_readPlus : ah_S → Option Nat → Option (ah_T (Option Nat × ah_S))} (h_X0_readPlus : ∀ {l : Launch} {D : ah_D} {σ : ah_S} {r0 : Option Nat} {rr : ah_T (Option Nat × ah_S)}, f_X0_readPlus σ r0 = some rr → ah_Met l yX0_readPlus (Cond.code yX0_readPlus cX0_readPlus 3 (some (FieldType.object "LeftAsFound$Term"))) frR loR D [va_rf r0] σ (ah_trR rr)) {σ : ah_S} {r0 : Option Nat} {rr : (ah_T (Option Nat × ah_S))} (h : F_X0_readLike f_X0_readPlus σ r0 = some rr) : ah_Met l yX0_readLike (Cond.code yX0_readLike cX0_readLike 3 (some (FieldType.object "LeftAsFound$Term"))) (frR + 1) (loR + 23) D [va_rf r0] σ (ah_trR rr) :=
  ah_ofG (own := "LeftAsFound") (nm := "readLike") (L0 := [some (va_rf r0), none, none]) (by decide) rfl rfl rfl (ah_ao_1 (ah_rf_cat _) (ah_ao_n (ah_ao_n ah_ao_0))) (fun κ hκ => W_X0_readLike hκ hF hL h_X0_readPlus σ r0 h)
set_option maxRecDepth 20000 in
set_option maxHeartbeats 4000000 in
theorem W_X0_readAll_5 {κ : ah_C} {rr : (ah_T (Option Nat × ah_S))} (hκ : ah_res κ = (ah_trR rr)) {frR loR : Nat} (hF : 4 ≤ frR) (hL : 86 ≤ loR) {f_X0_readLike : ah_S → Option Nat → Option (ah_T (Option Nat × ah_S))} (h_X0_readLike : ∀ {l : Launch} {D : ah_D} {σ : ah_S} {r0 : Option Nat} {rr : ah_T (Option Nat × ah_S)}, f_X0_readLike σ r0 = some rr → ah_Met l yX0_readLike (Cond.code yX0_readLike cX0_readLike 3 (some (FieldType.object "LeftAsFound$Term"))) frR loR D [va_rf r0] σ (ah_trR rr))   : ∀ (n : Nat) (σ : ah_S) (r0 : Option Nat) (r1 : Option Nat), F_X0_readAll_5 f_X0_readLike n σ r0 r1 = some rr → ah_G κ ("LeftAsFound", "readAll", 2, (some (FieldType.object "LeftAsFound$Term")), [], (frR + 1), (loR + 23)) cX0_readAll σ 5 [some (va_rf r0), some (va_rf r1)] [] := by
  intro n
  induction n with
  | zero => intro σ r0 r1 h; cases h
  | succ n ih =>
    intro σ r0 r1 h
    rw [F_X0_readAll_5] at h
    refine ro_aload_n (pc' := 6) dX0_readAll_5 rfl rfl rfl ?_
    refine ro_bipush (pc' := 8) dX0_readAll_6 ib_38 rfl ?_
    obtain ⟨u1, hu1, h⟩ := ah_bs h
    obtain ⟨v2, σ3, hv2, h⟩ := ah_bs2 h
    refine ro_callV (pc' := 11) (As := [.int (38 : Int32)]) (rest := []) (st' := [.int v2]) (by decide) hu1 q631 sl_X0_take (M_X0_take hv2) q629 q632 q95 dd_X0_take rfl ⟨show 2 + 1 ≤ frR + 1 by omega, show 8 + (2 + 11) + 44 ≤ loR + 23 by omega⟩ (Nat.le_of_ble_eq_true rfl) dX0_readAll_8 rfl rfl rfl ?_
    refine ro_if_eq (pc' := 14) (tgt := 32) dX0_readAll_11 rfl rfl (fun c => ?_) (fun c => ?_)
    · replace h := ah_ip c h
      refine ro_aload_n (pc' := 33) dX0_readAll_32 rfl rfl rfl ?_
      obtain rfl := Option.some.inj h
      exact ro_aret hκ dX0_readAll_33
    · replace h := ah_in_ c h
      obtain ⟨σ4, hσ4, h⟩ := ah_bs h
      refine ro_new (pc' := 17) ct_X13 df_X13 (by decide) q633 q634 q111 dX0_readAll_14 rfl hσ4 ?_
      refine ro_dup (pc' := 18) dX0_readAll_17 (ah_rf_cat _) rfl ?_
      refine ro_bipush (pc' := 20) dX0_readAll_18 ib_38 rfl ?_
      refine ro_aload_n (pc' := 21) dX0_readAll_20 rfl rfl rfl ?_
      refine ro_aload_n (pc' := 22) dX0_readAll_21 rfl rfl rfl ?_
      obtain ⟨u5, hu5, h⟩ := ah_bs h
      rcases (ah_bs3 h).symm with ⟨a6, σ7, ha6, h⟩ | ⟨v9, σ8, hv9, h⟩
      · obtain rfl := Option.some.inj h
        exact ro_callTO (As := []) (rest := [va_rf r1, .int (38 : Int32), va_rf (some (ah_nx σ3)), va_rf (some (ah_nx σ3))]) (by decide) hu5 q559 sl_X0_readLike (h_X0_readLike ha6) q557 q560 q95 dd_X0_readLike rfl ⟨show frR + 1 ≤ frR + 1 by omega, show 8 + (3 + 11) + loR ≤ loR + 23 by omega⟩ (by simp only [List.map_cons, List.map_nil, List.sum_cons, List.sum_nil, ah_rf_cat, ah_cat_i, ah_cat_l]; decide) dX0_readAll_22 rfl hκ rfl
      refine ro_callV (pc' := 25) (As := []) (rest := [va_rf r1, .int (38 : Int32), va_rf (some (ah_nx σ3)), va_rf (some (ah_nx σ3))]) (st' := [va_rf v9, va_rf r1, .int (38 : Int32), va_rf (some (ah_nx σ3)), va_rf (some (ah_nx σ3))]) (by decide) hu5 q559 sl_X0_readLike (h_X0_readLike hv9) q557 q560 q95 dd_X0_readLike rfl ⟨show frR + 1 ≤ frR + 1 by omega, show 8 + (3 + 11) + loR ≤ loR + 23 by omega⟩ (by simp only [List.map_cons, List.map_nil, List.sum_cons, List.sum_nil, ah_rf_cat, ah_cat_i, ah_cat_l]; decide) dX0_readAll_22 rfl rfl rfl ?_
      obtain ⟨σ10, hσ10, h⟩ := ah_bs h
      refine ro_callI (pc' := 28) (As := [.int (38 : Int32), va_rf r1, va_rf v9]) (rest := [va_rf (some (ah_nx σ3))]) (st' := [va_rf (some (ah_nx σ3))]) rfl q636 rfl (M_X13_init hσ10) q635 q637 q111 dd_X13_init rfl ⟨show 2 + 1 ≤ frR + 1 by omega, show 8 + (4 + 11) + 44 ≤ loR + 23 by omega⟩ (by simp only [List.map_cons, List.map_nil, List.sum_cons, List.sum_nil, ah_rf_cat, ah_cat_i, ah_cat_l]; decide) dX0_readAll_25 rfl rfl rfl ?_
      refine ro_astore_n (pc' := 29) (L' := [some (va_rf r0), some (va_rf (some (ah_nx σ3)))]) dX0_readAll_28 rfl (Nat.le_of_ble_eq_true rfl) rfl (ah_okp_r _) rfl ?_
      refine ro_goto (tgt := 5) dX0_readAll_29 rfl ?_
      exact ih _ _ _ h
set_option maxRecDepth 20000 in
set_option maxHeartbeats 4000000 in
theorem W_X0_readAll {κ : ah_C} {rr : (ah_T (Option Nat × ah_S))} (hκ : ah_res κ = (ah_trR rr)) {frR loR : Nat} (hF : 4 ≤ frR) (hL : 86 ≤ loR) {f_X0_readLike : ah_S → Option Nat → Option (ah_T (Option Nat × ah_S))} (h_X0_readLike : ∀ {l : Launch} {D : ah_D} {σ : ah_S} {r0 : Option Nat} {rr : ah_T (Option Nat × ah_S)}, f_X0_readLike σ r0 = some rr → ah_Met l yX0_readLike (Cond.code yX0_readLike cX0_readLike 3 (some (FieldType.object "LeftAsFound$Term"))) frR loR D [va_rf r0] σ (ah_trR rr)) (σ : ah_S) (r0 : Option Nat) (h : F_X0_readAll f_X0_readLike σ r0 = some rr) : ah_G κ ("LeftAsFound", "readAll", 2, (some (FieldType.object "LeftAsFound$Term")), [], (frR + 1), (loR + 23)) cX0_readAll σ 0 [some (va_rf r0), none] [] := by
  unfold F_X0_readAll at h
  refine ro_aload_n (pc' := 1) dX0_readAll_0 rfl rfl rfl ?_
  obtain ⟨u1, hu1, h⟩ := ah_bs h
  rcases (ah_bs3 h).symm with ⟨a2, σ3, ha2, h⟩ | ⟨v5, σ4, hv5, h⟩
  · obtain rfl := Option.some.inj h
    exact ro_callTO (As := []) (rest := []) (by decide) hu1 q559 sl_X0_readLike (h_X0_readLike ha2) q557 q560 q95 dd_X0_readLike rfl ⟨show frR + 1 ≤ frR + 1 by omega, show 8 + (3 + 11) + loR ≤ loR + 23 by omega⟩ (Nat.le_of_ble_eq_true rfl) dX0_readAll_1 rfl hκ rfl
  refine ro_callV (pc' := 4) (As := []) (rest := []) (st' := [va_rf v5]) (by decide) hu1 q559 sl_X0_readLike (h_X0_readLike hv5) q557 q560 q95 dd_X0_readLike rfl ⟨show frR + 1 ≤ frR + 1 by omega, show 8 + (3 + 11) + loR ≤ loR + 23 by omega⟩ (Nat.le_of_ble_eq_true rfl) dX0_readAll_1 rfl rfl rfl ?_
  refine ro_astore_n (pc' := 5) (L' := [some (va_rf r0), some (va_rf v5)]) dX0_readAll_4 rfl (Nat.le_of_ble_eq_true rfl) rfl (ah_okp_r _) rfl ?_
  exact W_X0_readAll_5 hκ hF hL h_X0_readLike _ _ _ _ h
theorem M_X0_readAll {l : Launch} {D : ah_D} {frR loR : Nat} (hF : 4 ≤ frR) (hL : 86 ≤ loR) {f_X0_readLike : ah_S → Option Nat → Option (ah_T (Option Nat × ah_S))} (h_X0_readLike : ∀ {l : Launch} {D : ah_D} {σ : ah_S} {r0 : Option Nat} {rr : ah_T (Option Nat × ah_S)}, f_X0_readLike σ r0 = some rr → ah_Met l yX0_readLike (Cond.code yX0_readLike cX0_readLike 3 (some (FieldType.object "LeftAsFound$Term"))) frR loR D [va_rf r0] σ (ah_trR rr)) {σ : ah_S} {r0 : Option Nat} {rr : (ah_T (Option Nat × ah_S))} (h : F_X0_readAll f_X0_readLike σ r0 = some rr) : ah_Met l yX0_readAll (Cond.code yX0_readAll cX0_readAll 2 (some (FieldType.object "LeftAsFound$Term"))) (frR + 1) (loR + 23) D [va_rf r0] σ (ah_trR rr) :=
  ah_ofG (own := "LeftAsFound") (nm := "readAll") (L0 := [some (va_rf r0), none]) (by decide) rfl rfl rfl (ah_ao_1 (ah_rf_cat _) (ah_ao_n ah_ao_0)) (fun κ hκ => W_X0_readAll hκ hF hL h_X0_readLike σ r0 h)
set_option maxRecDepth 20000 in
set_option maxHeartbeats 4000000 in
theorem W_X0_readEither_5 {κ : ah_C} {rr : (ah_T (Option Nat × ah_S))} (hκ : ah_res κ = (ah_trR rr)) {frR loR : Nat} (hF : 4 ≤ frR) (hL : 86 ≤ loR) {f_X0_readAll : ah_S → Option Nat → Option (ah_T (Option Nat × ah_S))} (h_X0_readAll : ∀ {l : Launch} {D : ah_D} {σ : ah_S} {r0 : Option Nat} {rr : ah_T (Option Nat × ah_S)}, f_X0_readAll σ r0 = some rr → ah_Met l yX0_readAll (Cond.code yX0_readAll cX0_readAll 2 (some (FieldType.object "LeftAsFound$Term"))) frR loR D [va_rf r0] σ (ah_trR rr))   : ∀ (n : Nat) (σ : ah_S) (r0 : Option Nat) (r1 : Option Nat), F_X0_readEither_5 f_X0_readAll n σ r0 r1 = some rr → ah_G κ ("LeftAsFound", "readEither", 2, (some (FieldType.object "LeftAsFound$Term")), [], (frR + 1), (loR + 23)) cX0_readEither σ 5 [some (va_rf r0), some (va_rf r1)] [] := by
  intro n
  induction n with
  | zero => intro σ r0 r1 h; cases h
  | succ n ih =>
    intro σ r0 r1 h
    rw [F_X0_readEither_5] at h
    refine ro_aload_n (pc' := 6) dX0_readEither_5 rfl rfl rfl ?_
    refine ro_bipush (pc' := 8) dX0_readEither_6 ib_124 rfl ?_
    obtain ⟨u1, hu1, h⟩ := ah_bs h
    obtain ⟨v2, σ3, hv2, h⟩ := ah_bs2 h
    refine ro_callV (pc' := 11) (As := [.int (124 : Int32)]) (rest := []) (st' := [.int v2]) (by decide) hu1 q631 sl_X0_take (M_X0_take hv2) q629 q632 q95 dd_X0_take rfl ⟨show 2 + 1 ≤ frR + 1 by omega, show 8 + (2 + 11) + 44 ≤ loR + 23 by omega⟩ (Nat.le_of_ble_eq_true rfl) dX0_readEither_8 rfl rfl rfl ?_
    refine ro_if_eq (pc' := 14) (tgt := 32) dX0_readEither_11 rfl rfl (fun c => ?_) (fun c => ?_)
    · replace h := ah_ip c h
      refine ro_aload_n (pc' := 33) dX0_readEither_32 rfl rfl rfl ?_
      obtain rfl := Option.some.inj h
      exact ro_aret hκ dX0_readEither_33
    · replace h := ah_in_ c h
      obtain ⟨σ4, hσ4, h⟩ := ah_bs h
      refine ro_new (pc' := 17) ct_X13 df_X13 (by decide) q633 q634 q111 dX0_readEither_14 rfl hσ4 ?_
      refine ro_dup (pc' := 18) dX0_readEither_17 (ah_rf_cat _) rfl ?_
      refine ro_bipush (pc' := 20) dX0_readEither_18 ib_124 rfl ?_
      refine ro_aload_n (pc' := 21) dX0_readEither_20 rfl rfl rfl ?_
      refine ro_aload_n (pc' := 22) dX0_readEither_21 rfl rfl rfl ?_
      obtain ⟨u5, hu5, h⟩ := ah_bs h
      rcases (ah_bs3 h).symm with ⟨a6, σ7, ha6, h⟩ | ⟨v9, σ8, hv9, h⟩
      · obtain rfl := Option.some.inj h
        exact ro_callTO (As := []) (rest := [va_rf r1, .int (124 : Int32), va_rf (some (ah_nx σ3)), va_rf (some (ah_nx σ3))]) (by decide) hu5 q555 sl_X0_readAll (h_X0_readAll ha6) q553 q556 q95 dd_X0_readAll rfl ⟨show frR + 1 ≤ frR + 1 by omega, show 8 + (2 + 11) + loR ≤ loR + 23 by omega⟩ (by simp only [List.map_cons, List.map_nil, List.sum_cons, List.sum_nil, ah_rf_cat, ah_cat_i, ah_cat_l]; decide) dX0_readEither_22 rfl hκ rfl
      refine ro_callV (pc' := 25) (As := []) (rest := [va_rf r1, .int (124 : Int32), va_rf (some (ah_nx σ3)), va_rf (some (ah_nx σ3))]) (st' := [va_rf v9, va_rf r1, .int (124 : Int32), va_rf (some (ah_nx σ3)), va_rf (some (ah_nx σ3))]) (by decide) hu5 q555 sl_X0_readAll (h_X0_readAll hv9) q553 q556 q95 dd_X0_readAll rfl ⟨show frR + 1 ≤ frR + 1 by omega, show 8 + (2 + 11) + loR ≤ loR + 23 by omega⟩ (by simp only [List.map_cons, List.map_nil, List.sum_cons, List.sum_nil, ah_rf_cat, ah_cat_i, ah_cat_l]; decide) dX0_readEither_22 rfl rfl rfl ?_
      obtain ⟨σ10, hσ10, h⟩ := ah_bs h
      refine ro_callI (pc' := 28) (As := [.int (124 : Int32), va_rf r1, va_rf v9]) (rest := [va_rf (some (ah_nx σ3))]) (st' := [va_rf (some (ah_nx σ3))]) rfl q636 rfl (M_X13_init hσ10) q635 q637 q111 dd_X13_init rfl ⟨show 2 + 1 ≤ frR + 1 by omega, show 8 + (4 + 11) + 44 ≤ loR + 23 by omega⟩ (by simp only [List.map_cons, List.map_nil, List.sum_cons, List.sum_nil, ah_rf_cat, ah_cat_i, ah_cat_l]; decide) dX0_readEither_25 rfl rfl rfl ?_
      refine ro_astore_n (pc' := 29) (L' := [some (va_rf r0), some (va_rf (some (ah_nx σ3)))]) dX0_readEither_28 rfl (Nat.le_of_ble_eq_true rfl) rfl (ah_okp_r _) rfl ?_
      refine ro_goto (tgt := 5) dX0_readEither_29 rfl ?_
      exact ih _ _ _ h
set_option maxRecDepth 20000 in
set_option maxHeartbeats 4000000 in
theorem W_X0_readEither {κ : ah_C} {rr : (ah_T (Option Nat × ah_S))} (hκ : ah_res κ = (ah_trR rr)) {frR loR : Nat} (hF : 4 ≤ frR) (hL : 86 ≤ loR) {f_X0_readAll : ah_S → Option Nat → Option (ah_T (Option Nat × ah_S))} (h_X0_readAll : ∀ {l : Launch} {D : ah_D} {σ : ah_S} {r0 : Option Nat} {rr : ah_T (Option Nat × ah_S)}, f_X0_readAll σ r0 = some rr → ah_Met l yX0_readAll (Cond.code yX0_readAll cX0_readAll 2 (some (FieldType.object "LeftAsFound$Term"))) frR loR D [va_rf r0] σ (ah_trR rr)) (σ : ah_S) (r0 : Option Nat) (h : F_X0_readEither f_X0_readAll σ r0 = some rr) : ah_G κ ("LeftAsFound", "readEither", 2, (some (FieldType.object "LeftAsFound$Term")), [], (frR + 1), (loR + 23)) cX0_readEither σ 0 [some (va_rf r0), none] [] := by
  unfold F_X0_readEither at h
  refine ro_aload_n (pc' := 1) dX0_readEither_0 rfl rfl rfl ?_
  obtain ⟨u1, hu1, h⟩ := ah_bs h
  rcases (ah_bs3 h).symm with ⟨a2, σ3, ha2, h⟩ | ⟨v5, σ4, hv5, h⟩
  · obtain rfl := Option.some.inj h
    exact ro_callTO (As := []) (rest := []) (by decide) hu1 q555 sl_X0_readAll (h_X0_readAll ha2) q553 q556 q95 dd_X0_readAll rfl ⟨show frR + 1 ≤ frR + 1 by omega, show 8 + (2 + 11) + loR ≤ loR + 23 by omega⟩ (Nat.le_of_ble_eq_true rfl) dX0_readEither_1 rfl hκ rfl
  refine ro_callV (pc' := 4) (As := []) (rest := []) (st' := [va_rf v5]) (by decide) hu1 q555 sl_X0_readAll (h_X0_readAll hv5) q553 q556 q95 dd_X0_readAll rfl ⟨show frR + 1 ≤ frR + 1 by omega, show 8 + (2 + 11) + loR ≤ loR + 23 by omega⟩ (Nat.le_of_ble_eq_true rfl) dX0_readEither_1 rfl rfl rfl ?_
  refine ro_astore_n (pc' := 5) (L' := [some (va_rf r0), some (va_rf v5)]) dX0_readEither_4 rfl (Nat.le_of_ble_eq_true rfl) rfl (ah_okp_r _) rfl ?_
  exact W_X0_readEither_5 hκ hF hL h_X0_readAll _ _ _ _ h
theorem M_X0_readEither {l : Launch} {D : ah_D} {frR loR : Nat} (hF : 4 ≤ frR) (hL : 86 ≤ loR) {f_X0_readAll : ah_S → Option Nat → Option (ah_T (Option Nat × ah_S))} (h_X0_readAll : ∀ {l : Launch} {D : ah_D} {σ : ah_S} {r0 : Option Nat} {rr : ah_T (Option Nat × ah_S)}, f_X0_readAll σ r0 = some rr → ah_Met l yX0_readAll (Cond.code yX0_readAll cX0_readAll 2 (some (FieldType.object "LeftAsFound$Term"))) frR loR D [va_rf r0] σ (ah_trR rr)) {σ : ah_S} {r0 : Option Nat} {rr : (ah_T (Option Nat × ah_S))} (h : F_X0_readEither f_X0_readAll σ r0 = some rr) : ah_Met l yX0_readEither (Cond.code yX0_readEither cX0_readEither 2 (some (FieldType.object "LeftAsFound$Term"))) (frR + 1) (loR + 23) D [va_rf r0] σ (ah_trR rr) :=
  ah_ofG (own := "LeftAsFound") (nm := "readEither") (L0 := [some (va_rf r0), none]) (by decide) rfl rfl rfl (ah_ao_1 (ah_rf_cat _) (ah_ao_n ah_ao_0)) (fun κ hκ => W_X0_readEither hκ hF hL h_X0_readAll σ r0 h)
theorem N_Xparse (d : Nat) : (∀ {l : Launch} {D : ah_D} {σ : ah_S} {r0 : Option Nat} {rr : ah_T (Option Nat × ah_S)}, Z_Xparse d 0 σ r0 = some rr → ah_Met l yX0_readOne (Cond.code yX0_readOne cX0_readOne 4 (some (FieldType.object "LeftAsFound$Term"))) (4 + d) (86 + 23 * d) D [va_rf r0] σ (ah_trR rr)) ∧
    (∀ {l : Launch} {D : ah_D} {σ : ah_S} {r0 : Option Nat} {rr : ah_T (Option Nat × ah_S)}, Z_Xparse d 1 σ r0 = some rr → ah_Met l yX0_readTimes (Cond.code yX0_readTimes cX0_readTimes 3 (some (FieldType.object "LeftAsFound$Term"))) (4 + d) (86 + 23 * d) D [va_rf r0] σ (ah_trR rr)) ∧
    (∀ {l : Launch} {D : ah_D} {σ : ah_S} {r0 : Option Nat} {rr : ah_T (Option Nat × ah_S)}, Z_Xparse d 2 σ r0 = some rr → ah_Met l yX0_readPlus (Cond.code yX0_readPlus cX0_readPlus 3 (some (FieldType.object "LeftAsFound$Term"))) (4 + d) (86 + 23 * d) D [va_rf r0] σ (ah_trR rr)) ∧
    (∀ {l : Launch} {D : ah_D} {σ : ah_S} {r0 : Option Nat} {rr : ah_T (Option Nat × ah_S)}, Z_Xparse d 3 σ r0 = some rr → ah_Met l yX0_readLike (Cond.code yX0_readLike cX0_readLike 3 (some (FieldType.object "LeftAsFound$Term"))) (4 + d) (86 + 23 * d) D [va_rf r0] σ (ah_trR rr)) ∧
    (∀ {l : Launch} {D : ah_D} {σ : ah_S} {r0 : Option Nat} {rr : ah_T (Option Nat × ah_S)}, Z_Xparse d 4 σ r0 = some rr → ah_Met l yX0_readAll (Cond.code yX0_readAll cX0_readAll 2 (some (FieldType.object "LeftAsFound$Term"))) (4 + d) (86 + 23 * d) D [va_rf r0] σ (ah_trR rr)) ∧
    (∀ {l : Launch} {D : ah_D} {σ : ah_S} {r0 : Option Nat} {rr : ah_T (Option Nat × ah_S)}, Z_Xparse d 5 σ r0 = some rr → ah_Met l yX0_readEither (Cond.code yX0_readEither cX0_readEither 2 (some (FieldType.object "LeftAsFound$Term"))) (4 + d) (86 + 23 * d) D [va_rf r0] σ (ah_trR rr)) := by
  induction d with
  | zero =>
    refine ⟨?_, ?_, ?_, ?_, ?_, ?_⟩ <;> (intro l D σ r0 rr h; cases h)
  | succ d ih =>
    obtain ⟨ih0, ih1, ih2, ih3, ih4, ih5⟩ := ih
    rw [show 4 + (d + 1) = (4 + d) + 1 by omega, show 86 + 23 * (d + 1) = (86 + 23 * d) + 23 by omega]
    refine ⟨?_, ?_, ?_, ?_, ?_, ?_⟩
    · intro l D σ r0 rr h
      exact M_X0_readOne (by omega) (by omega) ih5 ih0 h
    · intro l D σ r0 rr h
      exact M_X0_readTimes (by omega) (by omega) ih0 h
    · intro l D σ r0 rr h
      exact M_X0_readPlus (by omega) (by omega) ih1 h
    · intro l D σ r0 rr h
      exact M_X0_readLike (by omega) (by omega) ih2 h
    · intro l D σ r0 rr h
      exact M_X0_readAll (by omega) (by omega) ih3 h
    · intro l D σ r0 rr h
      exact M_X0_readEither (by omega) (by omega) ih4 h
set_option maxRecDepth 20000 in
set_option maxHeartbeats 4000000 in
theorem W_X0_readLine {κ : ah_C} {rr : (ah_T (Option Nat × ah_S))} (hκ : ah_res κ = (ah_trR rr))  (σ : ah_S) (r0 : Option Nat) (h : F_X0_readLine σ r0 = some rr) : ah_G κ ("LeftAsFound", "readLine", 2, (some (FieldType.object "LeftAsFound$Line")), [], 65, 1487) cX0_readLine σ 0 [some (va_rf r0), none] [] := by
  unfold F_X0_readLine at h
  obtain ⟨σ1, hσ1, h⟩ := ah_bs h
  refine ro_new (pc' := 3) ct_X8 df_X8 (by decide) q533 q534 q106 dX0_readLine_0 rfl hσ1 ?_
  refine ro_dup (pc' := 4) dX0_readLine_3 (ah_rf_cat _) rfl ?_
  obtain ⟨σ2, hσ2, h⟩ := ah_bs h
  refine ro_callIN (pc' := 7) (As := []) (rest := [va_rf (some (ah_nx σ))]) (st' := [va_rf (some (ah_nx σ))]) rfl q536 rfl (M_X8_init hσ2) nq535 q537 q106 dd_X8_init rfl ⟨Nat.le_of_ble_eq_true rfl, Nat.le_of_ble_eq_true rfl⟩ (by simp only [List.map_cons, List.map_nil, List.sum_cons, List.sum_nil, ah_rf_cat, ah_cat_i, ah_cat_l]; decide) dX0_readLine_4 rfl rfl rfl ?_
  refine ro_astore_n (pc' := 8) (L' := [some (va_rf r0), some (va_rf (some (ah_nx σ)))]) dX0_readLine_7 rfl (Nat.le_of_ble_eq_true rfl) rfl (ah_okp_r _) rfl ?_
  refine ro_aload_n (pc' := 9) dX0_readLine_8 rfl rfl rfl ?_
  refine ro_aload_n (pc' := 10) dX0_readLine_9 rfl rfl rfl ?_
  obtain ⟨u3, hu3, h⟩ := ah_bs h
  rcases (ah_bs3 h).symm with ⟨a4, σ5, ha4, h⟩ | ⟨v7, σ6, hv7, h⟩
  · obtain rfl := Option.some.inj h
    exact ro_callTO (As := []) (rest := [va_rf (some (ah_nx σ))]) (by decide) hu3 q551 sl_X0_readEither ((N_Xparse 60).2.2.2.2.2 ha4) q549 q552 q95 dd_X0_readEither rfl ⟨Nat.le_of_ble_eq_true rfl, Nat.le_of_ble_eq_true rfl⟩ (by simp only [List.map_cons, List.map_nil, List.sum_cons, List.sum_nil, ah_rf_cat, ah_cat_i, ah_cat_l]; decide) dX0_readLine_10 rfl hκ rfl
  refine ro_callV (pc' := 13) (As := []) (rest := [va_rf (some (ah_nx σ))]) (st' := [va_rf v7, va_rf (some (ah_nx σ))]) (by decide) hu3 q551 sl_X0_readEither ((N_Xparse 60).2.2.2.2.2 hv7) q549 q552 q95 dd_X0_readEither rfl ⟨Nat.le_of_ble_eq_true rfl, Nat.le_of_ble_eq_true rfl⟩ (by simp only [List.map_cons, List.map_nil, List.sum_cons, List.sum_nil, ah_rf_cat, ah_cat_i, ah_cat_l]; decide) dX0_readLine_10 rfl rfl rfl ?_
  obtain ⟨σ8, hσ8, h⟩ := ah_bs h
  refine ro_putRN (pc' := 16) ft_801 fk_801 nq540 pd_801 rfl dX0_readLine_13 rfl hσ8 ?_
  refine ro_aload_n (pc' := 17) dX0_readLine_16 rfl rfl rfl ?_
  refine ro_bipush (pc' := 19) dX0_readLine_17 ib_63 rfl ?_
  obtain ⟨u9, hu9, h⟩ := ah_bs h
  obtain ⟨v10, σ11, hv10, h⟩ := ah_bs2 h
  refine ro_callV (pc' := 22) (As := [.int (63 : Int32)]) (rest := []) (st' := [.int v10]) (by decide) hu9 q631 sl_X0_take (M_X0_take hv10) q629 q632 q95 dd_X0_take rfl ⟨Nat.le_of_ble_eq_true rfl, Nat.le_of_ble_eq_true rfl⟩ (Nat.le_of_ble_eq_true rfl) dX0_readLine_19 rfl rfl rfl ?_
  refine ro_if_eq (pc' := 25) (tgt := 41) dX0_readLine_22 rfl rfl (fun c => ?_) (fun c => ?_)
  · replace h := ah_ip c h
    refine ro_aload_n (pc' := 42) dX0_readLine_41 rfl rfl rfl ?_
    obtain rfl := Option.some.inj h
    exact ro_aret hκ dX0_readLine_42
  · replace h := ah_in_ c h
    refine ro_aload_n (pc' := 26) dX0_readLine_25 rfl rfl rfl ?_
    refine ro_aload_n (pc' := 27) dX0_readLine_26 rfl rfl rfl ?_
    obtain ⟨v12, hv12, h⟩ := ah_bs h
    refine ro_getRN (pc' := 30) ft_801 fk_801 nq540 dX0_readLine_27 rfl hv12 ?_
    obtain ⟨σ13, hσ13, h⟩ := ah_bs h
    refine ro_putRN (pc' := 33) ft_800 fk_800 nq539 pd_800 rfl dX0_readLine_30 rfl hσ13 ?_
    refine ro_aload_n (pc' := 34) dX0_readLine_33 rfl rfl rfl ?_
    refine ro_aload_n (pc' := 35) dX0_readLine_34 rfl rfl rfl ?_
    obtain ⟨u14, hu14, h⟩ := ah_bs h
    rcases (ah_bs3 h).symm with ⟨a15, σ16, ha15, h⟩ | ⟨v18, σ17, hv18, h⟩
    · obtain rfl := Option.some.inj h
      exact ro_callTO (As := []) (rest := [va_rf (some (ah_nx σ))]) (by decide) hu14 q551 sl_X0_readEither ((N_Xparse 60).2.2.2.2.2 ha15) q549 q552 q95 dd_X0_readEither rfl ⟨Nat.le_of_ble_eq_true rfl, Nat.le_of_ble_eq_true rfl⟩ (by simp only [List.map_cons, List.map_nil, List.sum_cons, List.sum_nil, ah_rf_cat, ah_cat_i, ah_cat_l]; decide) dX0_readLine_35 rfl hκ rfl
    refine ro_callV (pc' := 38) (As := []) (rest := [va_rf (some (ah_nx σ))]) (st' := [va_rf v18, va_rf (some (ah_nx σ))]) (by decide) hu14 q551 sl_X0_readEither ((N_Xparse 60).2.2.2.2.2 hv18) q549 q552 q95 dd_X0_readEither rfl ⟨Nat.le_of_ble_eq_true rfl, Nat.le_of_ble_eq_true rfl⟩ (by simp only [List.map_cons, List.map_nil, List.sum_cons, List.sum_nil, ah_rf_cat, ah_cat_i, ah_cat_l]; decide) dX0_readLine_35 rfl rfl rfl ?_
    obtain ⟨σ19, hσ19, h⟩ := ah_bs h
    refine ro_putRN (pc' := 41) ft_801 fk_801 nq540 pd_801 rfl dX0_readLine_38 rfl hσ19 ?_
    refine ro_aload_n (pc' := 42) dX0_readLine_41 rfl rfl rfl ?_
    obtain rfl := Option.some.inj h
    exact ro_aret hκ dX0_readLine_42
theorem M_X0_readLine {l : Launch} {D : ah_D}  {σ : ah_S} {r0 : Option Nat} {rr : (ah_T (Option Nat × ah_S))} (h : F_X0_readLine σ r0 = some rr) : ah_Met l yX0_readLine (Cond.code yX0_readLine cX0_readLine 2 (some (FieldType.object "LeftAsFound$Line"))) 65 1487 D [va_rf r0] σ (ah_trR rr) :=
  ah_ofG (own := "LeftAsFound") (nm := "readLine") (L0 := [some (va_rf r0), none]) (by decide) rfl rfl rfl (ah_ao_1 (ah_rf_cat _) (ah_ao_n ah_ao_0)) (fun κ hκ => W_X0_readLine hκ  σ r0 h)
set_option maxRecDepth 20000 in
set_option maxHeartbeats 4000000 in
theorem W_X0_readLaw_12 {κ : ah_C} {rr : (ah_T (Option Nat × ah_S))} (hκ : ah_res κ = (ah_trR rr))    : ∀ (n : Nat) (σ : ah_S) (r0 : Option Nat) (r1 : Option Nat) (r2 : Option Nat), F_X0_readLaw_12 n σ r0 r1 r2 = some rr → ah_G κ ("LeftAsFound", "readLaw", 3, (some (FieldType.object "LeftAsFound$Line")), [], 66, 1508) cX0_readLaw σ 12 [some (va_rf r0), some (va_rf r1), some (va_rf r2)] [] := by
  intro n
  induction n with
  | zero => intro σ r0 r1 r2 h; cases h
  | succ n ih =>
    intro σ r0 r1 r2 h
    rw [F_X0_readLaw_12] at h
    refine ro_aload_n (pc' := 13) dX0_readLaw_12 rfl rfl rfl ?_
    refine ro_bipush (pc' := 15) dX0_readLaw_13 ib_59 rfl ?_
    obtain ⟨u1, hu1, h⟩ := ah_bs h
    obtain ⟨v2, σ3, hv2, h⟩ := ah_bs2 h
    refine ro_callV (pc' := 18) (As := [.int (59 : Int32)]) (rest := []) (st' := [.int v2]) (by decide) hu1 q631 sl_X0_take (M_X0_take hv2) q629 q632 q95 dd_X0_take rfl ⟨Nat.le_of_ble_eq_true rfl, Nat.le_of_ble_eq_true rfl⟩ (Nat.le_of_ble_eq_true rfl) dX0_readLaw_15 rfl rfl rfl ?_
    refine ro_if_eq (pc' := 21) (tgt := 37) dX0_readLaw_18 rfl rfl (fun c => ?_) (fun c => ?_)
    · replace h := ah_ip c h
      refine ro_aload_n (pc' := 38) dX0_readLaw_37 rfl rfl rfl ?_
      obtain ⟨v4, hv4, h⟩ := ah_bs h
      refine ro_getI (pc' := 41) ft_6 fk_6 q296 dX0_readLaw_38 rfl hv4 ?_
      refine ro_aload_n (pc' := 42) dX0_readLaw_41 rfl rfl rfl ?_
      obtain ⟨v5, hv5, h⟩ := ah_bs h
      refine ro_getI (pc' := 45) ft_4 fk_4 q294 dX0_readLaw_42 rfl hv5 ?_
      refine ro_icmp_ge (pc' := 48) (tgt := 53) dX0_readLaw_45 rfl rfl (fun c => ?_) (fun c => ?_)
      · replace h := ah_ip c h
        refine ro_aload_n (pc' := 54) dX0_readLaw_53 rfl rfl rfl ?_
        obtain rfl := Option.some.inj h
        exact ro_aret hκ dX0_readLaw_54
      · replace h := ah_in_ c h
        refine ro_aload_n (pc' := 49) dX0_readLaw_48 rfl rfl rfl ?_
        obtain ⟨v6, hv6, h⟩ := ah_bs h
        refine ro_getR (pc' := 52) ft_5 fk_5 q295 dX0_readLaw_49 rfl hv6 ?_
        obtain ⟨a7, ha7, h⟩ := ah_bs h
        obtain rfl := Option.some.inj h
        exact ro_athrow ha7 hκ rfl dX0_readLaw_52
    · replace h := ah_in_ c h
      refine ro_aload_n (pc' := 22) dX0_readLaw_21 rfl rfl rfl ?_
      refine ro_aload_n (pc' := 23) dX0_readLaw_22 rfl rfl rfl ?_
      obtain ⟨u8, hu8, h⟩ := ah_bs h
      rcases (ah_bs3 h).symm with ⟨a9, σ10, ha9, h⟩ | ⟨v12, σ11, hv12, h⟩
      · obtain rfl := Option.some.inj h
        exact ro_callTO (As := []) (rest := [va_rf r2]) (by decide) hu8 q531 sl_X0_readLine (M_X0_readLine ha9) q529 q532 q95 dd_X0_readLine rfl ⟨Nat.le_of_ble_eq_true rfl, Nat.le_of_ble_eq_true rfl⟩ (by simp only [List.map_cons, List.map_nil, List.sum_cons, List.sum_nil, ah_rf_cat, ah_cat_i, ah_cat_l]; decide) dX0_readLaw_23 rfl hκ rfl
      refine ro_callV (pc' := 26) (As := []) (rest := [va_rf r2]) (st' := [va_rf v12, va_rf r2]) (by decide) hu8 q531 sl_X0_readLine (M_X0_readLine hv12) q529 q532 q95 dd_X0_readLine rfl ⟨Nat.le_of_ble_eq_true rfl, Nat.le_of_ble_eq_true rfl⟩ (by simp only [List.map_cons, List.map_nil, List.sum_cons, List.sum_nil, ah_rf_cat, ah_cat_i, ah_cat_l]; decide) dX0_readLaw_23 rfl rfl rfl ?_
      obtain ⟨σ13, hσ13, h⟩ := ah_bs h
      refine ro_putRN (pc' := 29) ft_802 fk_802 nq541 pd_802 rfl dX0_readLaw_26 rfl hσ13 ?_
      refine ro_aload_n (pc' := 30) dX0_readLaw_29 rfl rfl rfl ?_
      obtain ⟨v14, hv14, h⟩ := ah_bs h
      refine ro_getRN (pc' := 33) ft_802 fk_802 nq541 dX0_readLaw_30 rfl hv14 ?_
      refine ro_astore_n (pc' := 34) (L' := [some (va_rf r0), some (va_rf r1), some (va_rf v14)]) dX0_readLaw_33 rfl (Nat.le_of_ble_eq_true rfl) rfl (ah_okp_r _) rfl ?_
      refine ro_goto (tgt := 12) dX0_readLaw_34 rfl ?_
      exact ih _ _ _ _ h
set_option maxRecDepth 20000 in
set_option maxHeartbeats 4000000 in
theorem W_X0_readLaw {κ : ah_C} {rr : (ah_T (Option Nat × ah_S))} (hκ : ah_res κ = (ah_trR rr))  (σ : ah_S) (r0 : Option Nat) (h : F_X0_readLaw σ r0 = some rr) : ah_G κ ("LeftAsFound", "readLaw", 3, (some (FieldType.object "LeftAsFound$Line")), [], 66, 1508) cX0_readLaw σ 0 [some (va_rf r0), none, none] [] := by
  unfold F_X0_readLaw at h
  refine ro_aload_n (pc' := 1) dX0_readLaw_0 rfl rfl rfl ?_
  refine ro_iconst (pc' := 2) dX0_readLaw_1 ic_0 rfl ?_
  obtain ⟨σ1, hσ1, h⟩ := ah_bs h
  refine ro_putI (pc' := 5) ft_16 fk_16 q310 pd_16 dX0_readLaw_2 rfl hσ1 ?_
  refine ro_aload_n (pc' := 6) dX0_readLaw_5 rfl rfl rfl ?_
  obtain ⟨u2, hu2, h⟩ := ah_bs h
  rcases (ah_bs3 h).symm with ⟨a3, σ4, ha3, h⟩ | ⟨v6, σ5, hv6, h⟩
  · obtain rfl := Option.some.inj h
    exact ro_callTO (As := []) (rest := []) (by decide) hu2 q531 sl_X0_readLine (M_X0_readLine ha3) q529 q532 q95 dd_X0_readLine rfl ⟨Nat.le_of_ble_eq_true rfl, Nat.le_of_ble_eq_true rfl⟩ (Nat.le_of_ble_eq_true rfl) dX0_readLaw_6 rfl hκ rfl
  refine ro_callV (pc' := 9) (As := []) (rest := []) (st' := [va_rf v6]) (by decide) hu2 q531 sl_X0_readLine (M_X0_readLine hv6) q529 q532 q95 dd_X0_readLine rfl ⟨Nat.le_of_ble_eq_true rfl, Nat.le_of_ble_eq_true rfl⟩ (Nat.le_of_ble_eq_true rfl) dX0_readLaw_6 rfl rfl rfl ?_
  refine ro_astore_n (pc' := 10) (L' := [some (va_rf r0), some (va_rf v6), none]) dX0_readLaw_9 rfl (Nat.le_of_ble_eq_true rfl) rfl (ah_okp_r _) rfl ?_
  refine ro_aload_n (pc' := 11) dX0_readLaw_10 rfl rfl rfl ?_
  refine ro_astore_n (pc' := 12) (L' := [some (va_rf r0), some (va_rf v6), some (va_rf v6)]) dX0_readLaw_11 rfl (Nat.le_of_ble_eq_true rfl) rfl (ah_okp_r _) rfl ?_
  exact W_X0_readLaw_12 hκ _ _ _ _ _ h
theorem M_X0_readLaw {l : Launch} {D : ah_D}  {σ : ah_S} {r0 : Option Nat} {rr : (ah_T (Option Nat × ah_S))} (h : F_X0_readLaw σ r0 = some rr) : ah_Met l yX0_readLaw (Cond.code yX0_readLaw cX0_readLaw 3 (some (FieldType.object "LeftAsFound$Line"))) 66 1508 D [va_rf r0] σ (ah_trR rr) :=
  ah_ofG (own := "LeftAsFound") (nm := "readLaw") (L0 := [some (va_rf r0), none, none]) (by decide) rfl rfl rfl (ah_ao_1 (ah_rf_cat _) (ah_ao_n (ah_ao_n ah_ao_0))) (fun κ hκ => W_X0_readLaw hκ  σ r0 h)
set_option maxRecDepth 20000 in
set_option maxHeartbeats 4000000 in
theorem W_X0_law {κ : ah_C} {rr : (Int32 × ah_S)} (hκ : ah_res κ = (.returned (some (.int rr.1)), rr.2))  (σ : ah_S) (r0 : Option Nat) (h : F_X0_law σ r0 = some rr) : ah_G κ ("LeftAsFound", "law", 4, (some FieldType.int), [(5, 15, 22, 41), (5, 15, 38, 0), (22, 31, 38, 0)], 67, 1530) cX0_law σ 0 [some (va_rf r0), none, none, none] [] := by
  unfold F_X0_law at h
  refine ro_aload_n (pc' := 1) dX0_law_0 rfl rfl rfl ?_
  refine ro_iconst (pc' := 2) dX0_law_1 ic_0 rfl ?_
  obtain ⟨σ1, hσ1, h⟩ := ah_bs h
  refine ro_putI (pc' := 5) ft_6 fk_6 q296 pd_6 dX0_law_2 rfl hσ1 ?_
  refine ro_aload_n (pc' := 6) dX0_law_5 rfl rfl rfl ?_
  refine ro_aload_n (pc' := 7) dX0_law_6 rfl rfl rfl ?_
  obtain ⟨u2, hu2, h⟩ := ah_bs h
  rcases (ah_bs3 h).symm with ⟨a3, σ4, ha3, h⟩ | ⟨v6, σ5, hv6, h⟩
  · obtain ⟨u7, hu7, h⟩ := ah_bs h
    refine ro_callTC (t2 := 2) (pre := []) (suf := [(5, 15, 38, 0), (22, 31, 38, 0)]) (As := []) (rest := [va_rf r0]) (by decide) hu2 q527 sl_X0_readLaw (M_X0_readLaw ha3) q525 q528 q95 dd_X0_readLaw rfl ⟨Nat.le_of_ble_eq_true rfl, Nat.le_of_ble_eq_true rfl⟩ (by simp only [List.map_cons, List.map_nil, List.sum_cons, List.sum_nil, ah_rf_cat, ah_cat_i, ah_cat_l]; decide) dX0_law_7 rfl hu7 (by decide) q140 rfl rfl (by decide) (by decide) ?_
    refine ro_astore_n (pc' := 23) (L' := [some (va_rf r0), some (va_rf (some a3)), none, none]) dX0_law_22 rfl (Nat.le_of_ble_eq_true rfl) rfl (ah_okp_r _) rfl ?_
    refine ro_bipush (pc' := 25) dX0_law_23 ib_m100 rfl ?_
    refine ro_aload_n (pc' := 26) dX0_law_25 rfl rfl rfl ?_
    obtain ⟨v8, hv8, h⟩ := ah_bs h
    refine ro_getI (pc' := 29) ft_6 fk_6 q296 dX0_law_26 rfl hv8 ?_
    refine ro_isub (pc' := 30) dX0_law_29 rfl ?_
    refine ro_istore_n (pc' := 31) (L' := [some (va_rf r0), some (va_rf (some a3)), some (.int ((-100 : Int32) - v8)), none]) dX0_law_30 rfl (Nat.le_of_ble_eq_true rfl) rfl (ah_okp_r _) rfl ?_
    refine ro_aload_n (pc' := 32) dX0_law_31 rfl rfl rfl ?_
    refine ro_iconst (pc' := 33) dX0_law_32 ic_0 rfl ?_
    obtain ⟨σ9, hσ9, h⟩ := ah_bs h
    refine ro_putI (pc' := 36) ft_4 fk_4 q294 pd_4 dX0_law_33 rfl hσ9 ?_
    refine ro_iload_n (pc' := 37) dX0_law_36 rfl rfl rfl ?_
    obtain rfl := Option.some.inj h
    exact ro_iret hκ dX0_law_37
  refine ro_callV (pc' := 10) (As := []) (rest := [va_rf r0]) (st' := [va_rf v6, va_rf r0]) (by decide) hu2 q527 sl_X0_readLaw (M_X0_readLaw hv6) q525 q528 q95 dd_X0_readLaw rfl ⟨Nat.le_of_ble_eq_true rfl, Nat.le_of_ble_eq_true rfl⟩ (by simp only [List.map_cons, List.map_nil, List.sum_cons, List.sum_nil, ah_rf_cat, ah_cat_i, ah_cat_l]; decide) dX0_law_7 rfl rfl rfl ?_
  obtain ⟨σ10, hσ10, h⟩ := ah_bs h
  refine ro_putR (pc' := 13) ft_17 fk_17 q311 pd_17 rfl dX0_law_10 rfl hσ10 ?_
  refine ro_iconst (pc' := 14) dX0_law_13 ic_1 rfl ?_
  refine ro_istore_n (pc' := 15) (L' := [some (va_rf r0), some (.int (1 : Int32)), none, none]) dX0_law_14 rfl (Nat.le_of_ble_eq_true rfl) rfl (ah_okp_r _) rfl ?_
  refine ro_aload_n (pc' := 16) dX0_law_15 rfl rfl rfl ?_
  refine ro_iconst (pc' := 17) dX0_law_16 ic_0 rfl ?_
  obtain ⟨σ11, hσ11, h⟩ := ah_bs h
  refine ro_putI (pc' := 20) ft_4 fk_4 q294 pd_4 dX0_law_17 rfl hσ11 ?_
  refine ro_iload_n (pc' := 21) dX0_law_20 rfl rfl rfl ?_
  obtain rfl := Option.some.inj h
  exact ro_iret hκ dX0_law_21
theorem M_X0_law {l : Launch} {D : ah_D}  {σ : ah_S} {r0 : Option Nat} {v : Int32} {σ1 : ah_S} (h : F_X0_law σ r0 = some (v, σ1)) : ah_Met l yX0_law (Cond.codeWith yX0_law cX0_law 4 (some FieldType.int) [(5, 15, 22, 41), (5, 15, 38, 0), (22, 31, 38, 0)]) 67 1530 D [va_rf r0] σ (.returned (some (.int v)), σ1) :=
  ah_ofGW (own := "LeftAsFound") (nm := "law") (L0 := [some (va_rf r0), none, none, none]) (by decide) rfl rfl rfl (ah_ao_1 (ah_rf_cat _) (ah_ao_n (ah_ao_n (ah_ao_n ah_ao_0)))) (fun κ hκ => W_X0_law hκ  σ r0 h)
set_option maxRecDepth 20000 in
set_option maxHeartbeats 4000000 in
theorem W_X0_guests_54 {κ : ah_C} {rr : (Int32 × ah_S)} (hκ : ah_res κ = (.returned (some (.int rr.1)), rr.2))    : ∀ (n : Nat) (σ : ah_S) (r0 : Option Nat) (x2 : Int32) (x3 : Int32) (r4 : Option Nat) (x5 : Int32) (x6 : Int32), F_X0_guests_54 n σ r0 x2 x3 r4 x5 x6 = some rr → ah_G κ ("LeftAsFound", "guests", 12, (some FieldType.int), [(54, 169, 172, 74)], 4, 89) cX0_guests σ 54 [some (va_rf r0), none, some (.int x2), some (.int x3), some (va_rf r4), some (.int x5), some (.int x6), none, none, none, none, none] [] := by
  intro n
  induction n with
  | zero => intro σ r0 x2 x3 r4 x5 x6 h; cases h
  | succ n ih =>
    intro σ r0 x2 x3 r4 x5 x6 h
    rw [F_X0_guests_54] at h
    refine ro_iload (pc' := 56) dX0_guests_54 rfl rfl ?_
    refine ro_iload_n (pc' := 57) dX0_guests_56 rfl rfl rfl ?_
    refine ro_icmp_ge (pc' := 60) (tgt := 169) dX0_guests_57 rfl rfl (fun c => ?_) (fun c => ?_)
    · replace h := ah_ip c h
      refine ro_goto (tgt := 183) dX0_guests_169 rfl ?_
      refine ro_iload (pc' := 185) dX0_guests_183 rfl rfl ?_
      obtain rfl := Option.some.inj h
      exact ro_iret hκ dX0_guests_185
    · replace h := ah_in_ c h
      refine ro_iload_n (pc' := 61) dX0_guests_60 rfl rfl rfl ?_
      refine ro_i2l (pc' := 62) dX0_guests_61 rfl ?_
      refine ro_ldc2 (pc' := 65) q440 dX0_guests_62 rfl ?_
      refine ro_iload (pc' := 67) dX0_guests_65 rfl rfl ?_
      refine ro_i2l (pc' := 68) dX0_guests_67 rfl ?_
      refine ro_lmul (pc' := 69) dX0_guests_68 rfl ?_
      refine ro_ladd (pc' := 70) dX0_guests_69 rfl ?_
      refine ro_lstore (pc' := 72) (L' := [some (va_rf r0), none, some (.int x2), some (.int x3), some (va_rf r4), some (.int x5), some (.int x6), some (.long ((x2.toInt64) + ((3 : Int64) * (x6.toInt64)))), none, none, none, none]) dX0_guests_70 (Nat.le_of_ble_eq_true rfl) rfl (ah_okp_i _) rfl ?_
      refine ro_aload_n (pc' := 73) dX0_guests_72 rfl rfl rfl ?_
      refine ro_aload (pc' := 75) dX0_guests_73 rfl rfl ?_
      refine ro_lload (pc' := 77) dX0_guests_75 rfl rfl ?_
      obtain ⟨u1, hu1, h⟩ := ah_bs h
      rcases (ah_bs3 h).symm with ⟨a2, σ3, ha2, h⟩ | ⟨v5, σ4, hv5, h⟩
      · obtain ⟨u6, hu6, h⟩ := ah_bs h
        refine ro_callTC (t2 := 4) (pre := []) (suf := []) (As := [va_rf r4, .long ((x2.toInt64) + ((3 : Int64) * (x6.toInt64)))]) (rest := []) (by decide) hu1 q485 sl_X0_toldIn (M_X0_toldIn ha2) q483 q486 q95 dd_X0_toldIn rfl ⟨Nat.le_of_ble_eq_true rfl, Nat.le_of_ble_eq_true rfl⟩ (Nat.le_of_ble_eq_true rfl) dX0_guests_77 rfl hu6 (by decide) q223 rfl rfl (by decide) (by decide) ?_
        refine ro_astore (pc' := 174) (L' := [some (va_rf r0), none, some (.int x2), some (.int x3), some (va_rf r4), some (.int x5), some (.int x6), some (va_rf (some a2)), none, none, none, none]) dX0_guests_172 (Nat.le_of_ble_eq_true rfl) rfl (ah_okp_i _) rfl ?_
        refine ro_aload_n (pc' := 175) dX0_guests_174 rfl rfl rfl ?_
        obtain ⟨v7, hv7, h⟩ := ah_bs h
        refine ro_getI (pc' := 178) ft_8 fk_8 q299 dX0_guests_175 rfl hv7 ?_
        refine ro_iload (pc' := 180) dX0_guests_178 rfl rfl ?_
        refine ro_isub (pc' := 181) dX0_guests_180 rfl ?_
        refine ro_istore (pc' := 183) (L' := [some (va_rf r0), none, some (.int x2), some (.int x3), some (va_rf r4), some (.int x5), some (.int (v7 - x5)), some (va_rf (some a2)), none, none, none, none]) dX0_guests_181 (Nat.le_of_ble_eq_true rfl) rfl (ah_okp_i _) rfl ?_
        refine ro_iload (pc' := 185) dX0_guests_183 rfl rfl ?_
        obtain rfl := Option.some.inj h
        exact ro_iret hκ dX0_guests_185
      refine ro_callV (pc' := 80) (As := [va_rf r4, .long ((x2.toInt64) + ((3 : Int64) * (x6.toInt64)))]) (rest := []) (st' := [.int v5]) (by decide) hu1 q485 sl_X0_toldIn (M_X0_toldIn hv5) q483 q486 q95 dd_X0_toldIn rfl ⟨Nat.le_of_ble_eq_true rfl, Nat.le_of_ble_eq_true rfl⟩ (Nat.le_of_ble_eq_true rfl) dX0_guests_77 rfl rfl rfl ?_
      refine ro_istore (pc' := 82) (L' := [some (va_rf r0), none, some (.int x2), some (.int x3), some (va_rf r4), some (.int x5), some (.int x6), some (.long ((x2.toInt64) + ((3 : Int64) * (x6.toInt64)))), none, some (.int v5), none, none]) dX0_guests_80 (Nat.le_of_ble_eq_true rfl) rfl ah_okp_u rfl ?_
      refine ro_aload_n (pc' := 83) dX0_guests_82 rfl rfl rfl ?_
      refine ro_aload (pc' := 85) dX0_guests_83 rfl rfl ?_
      refine ro_lload (pc' := 87) dX0_guests_85 rfl rfl ?_
      refine ro_lconst (pc' := 88) dX0_guests_87 lc_1 rfl ?_
      refine ro_ladd (pc' := 89) dX0_guests_88 rfl ?_
      obtain ⟨u8, hu8, h⟩ := ah_bs h
      rcases (ah_bs3 h).symm with ⟨a9, σ10, ha9, h⟩ | ⟨v12, σ11, hv12, h⟩
      · obtain ⟨u13, hu13, h⟩ := ah_bs h
        refine ro_callTC (t2 := 4) (pre := []) (suf := []) (As := [va_rf r4, .long (((x2.toInt64) + ((3 : Int64) * (x6.toInt64))) + (1 : Int64))]) (rest := []) (by decide) hu8 q485 sl_X0_toldIn (M_X0_toldIn ha9) q483 q486 q95 dd_X0_toldIn rfl ⟨Nat.le_of_ble_eq_true rfl, Nat.le_of_ble_eq_true rfl⟩ (Nat.le_of_ble_eq_true rfl) dX0_guests_89 rfl hu13 (by decide) q223 rfl rfl (by decide) (by decide) ?_
        refine ro_astore (pc' := 174) (L' := [some (va_rf r0), none, some (.int x2), some (.int x3), some (va_rf r4), some (.int x5), some (.int x6), some (va_rf (some a9)), none, some (.int v5), none, none]) dX0_guests_172 (Nat.le_of_ble_eq_true rfl) rfl (ah_okp_i _) rfl ?_
        refine ro_aload_n (pc' := 175) dX0_guests_174 rfl rfl rfl ?_
        obtain ⟨v14, hv14, h⟩ := ah_bs h
        refine ro_getI (pc' := 178) ft_8 fk_8 q299 dX0_guests_175 rfl hv14 ?_
        refine ro_iload (pc' := 180) dX0_guests_178 rfl rfl ?_
        refine ro_isub (pc' := 181) dX0_guests_180 rfl ?_
        refine ro_istore (pc' := 183) (L' := [some (va_rf r0), none, some (.int x2), some (.int x3), some (va_rf r4), some (.int x5), some (.int (v14 - x5)), some (va_rf (some a9)), none, some (.int v5), none, none]) dX0_guests_181 (Nat.le_of_ble_eq_true rfl) rfl (ah_okp_i _) rfl ?_
        refine ro_iload (pc' := 185) dX0_guests_183 rfl rfl ?_
        obtain rfl := Option.some.inj h
        exact ro_iret hκ dX0_guests_185
      refine ro_callV (pc' := 92) (As := [va_rf r4, .long (((x2.toInt64) + ((3 : Int64) * (x6.toInt64))) + (1 : Int64))]) (rest := []) (st' := [.int v12]) (by decide) hu8 q485 sl_X0_toldIn (M_X0_toldIn hv12) q483 q486 q95 dd_X0_toldIn rfl ⟨Nat.le_of_ble_eq_true rfl, Nat.le_of_ble_eq_true rfl⟩ (Nat.le_of_ble_eq_true rfl) dX0_guests_89 rfl rfl rfl ?_
      refine ro_istore (pc' := 94) (L' := [some (va_rf r0), none, some (.int x2), some (.int x3), some (va_rf r4), some (.int x5), some (.int x6), some (.long ((x2.toInt64) + ((3 : Int64) * (x6.toInt64)))), none, some (.int v5), some (.int v12), none]) dX0_guests_92 (Nat.le_of_ble_eq_true rfl) rfl (ah_okp_i _) rfl ?_
      refine ro_aload_n (pc' := 95) dX0_guests_94 rfl rfl rfl ?_
      refine ro_aload (pc' := 97) dX0_guests_95 rfl rfl ?_
      refine ro_lload (pc' := 99) dX0_guests_97 rfl rfl ?_
      refine ro_ldc2 (pc' := 102) q487 dX0_guests_99 rfl ?_
      refine ro_ladd (pc' := 103) dX0_guests_102 rfl ?_
      obtain ⟨u15, hu15, h⟩ := ah_bs h
      rcases (ah_bs3 h).symm with ⟨a16, σ17, ha16, h⟩ | ⟨v19, σ18, hv19, h⟩
      · obtain ⟨u20, hu20, h⟩ := ah_bs h
        refine ro_callTC (t2 := 4) (pre := []) (suf := []) (As := [va_rf r4, .long (((x2.toInt64) + ((3 : Int64) * (x6.toInt64))) + (2 : Int64))]) (rest := []) (by decide) hu15 q485 sl_X0_toldIn (M_X0_toldIn ha16) q483 q486 q95 dd_X0_toldIn rfl ⟨Nat.le_of_ble_eq_true rfl, Nat.le_of_ble_eq_true rfl⟩ (Nat.le_of_ble_eq_true rfl) dX0_guests_103 rfl hu20 (by decide) q223 rfl rfl (by decide) (by decide) ?_
        refine ro_astore (pc' := 174) (L' := [some (va_rf r0), none, some (.int x2), some (.int x3), some (va_rf r4), some (.int x5), some (.int x6), some (va_rf (some a16)), none, some (.int v5), some (.int v12), none]) dX0_guests_172 (Nat.le_of_ble_eq_true rfl) rfl (ah_okp_i _) rfl ?_
        refine ro_aload_n (pc' := 175) dX0_guests_174 rfl rfl rfl ?_
        obtain ⟨v21, hv21, h⟩ := ah_bs h
        refine ro_getI (pc' := 178) ft_8 fk_8 q299 dX0_guests_175 rfl hv21 ?_
        refine ro_iload (pc' := 180) dX0_guests_178 rfl rfl ?_
        refine ro_isub (pc' := 181) dX0_guests_180 rfl ?_
        refine ro_istore (pc' := 183) (L' := [some (va_rf r0), none, some (.int x2), some (.int x3), some (va_rf r4), some (.int x5), some (.int (v21 - x5)), some (va_rf (some a16)), none, some (.int v5), some (.int v12), none]) dX0_guests_181 (Nat.le_of_ble_eq_true rfl) rfl (ah_okp_i _) rfl ?_
        refine ro_iload (pc' := 185) dX0_guests_183 rfl rfl ?_
        obtain rfl := Option.some.inj h
        exact ro_iret hκ dX0_guests_185
      refine ro_callV (pc' := 106) (As := [va_rf r4, .long (((x2.toInt64) + ((3 : Int64) * (x6.toInt64))) + (2 : Int64))]) (rest := []) (st' := [.int v19]) (by decide) hu15 q485 sl_X0_toldIn (M_X0_toldIn hv19) q483 q486 q95 dd_X0_toldIn rfl ⟨Nat.le_of_ble_eq_true rfl, Nat.le_of_ble_eq_true rfl⟩ (Nat.le_of_ble_eq_true rfl) dX0_guests_103 rfl rfl rfl ?_
      refine ro_istore (pc' := 108) (L' := [some (va_rf r0), none, some (.int x2), some (.int x3), some (va_rf r4), some (.int x5), some (.int x6), some (.long ((x2.toInt64) + ((3 : Int64) * (x6.toInt64)))), none, some (.int v5), some (.int v12), some (.int v19)]) dX0_guests_106 (Nat.le_of_ble_eq_true rfl) rfl (ah_okp_i _) rfl ?_
      refine ro_aload_n (pc' := 109) dX0_guests_108 rfl rfl rfl ?_
      obtain ⟨v22, hv22, h⟩ := ah_bs h
      refine ro_getI (pc' := 112) ft_8 fk_8 q299 dX0_guests_109 rfl hv22 ?_
      refine ro_bipush (pc' := 114) dX0_guests_112 ib_7 rfl ?_
      refine ro_icmp_eq (pc' := 117) (tgt := 129) dX0_guests_114 rfl rfl (fun c => ?_) (fun c => ?_)
      · replace h := ah_ip c h
        refine ro_aload_n (pc' := 130) dX0_guests_129 rfl rfl rfl ?_
        obtain ⟨v23, hv23, h⟩ := ah_bs h
        refine ro_getR (pc' := 133) ft_14 fk_14 q307 dX0_guests_130 rfl hv23 ?_
        obtain ⟨u24, hu24, h⟩ := ah_bs h
        obtain ⟨a25, ha25, h⟩ := ah_bs h
        refine ro_athrowC (t := 4) (pre := []) (suf := []) (rest := []) ha25 hu24 (by decide) q223 rfl rfl (by decide) (by decide) dX0_guests_133 ?_
        refine ro_astore (pc' := 174) (L' := [some (va_rf r0), none, some (.int x2), some (.int x3), some (va_rf r4), some (.int x5), some (.int x6), some (va_rf v23), none, some (.int v5), some (.int v12), some (.int v19)]) dX0_guests_172 (Nat.le_of_ble_eq_true rfl) rfl (ah_okp_i _) rfl ?_
        refine ro_aload_n (pc' := 175) dX0_guests_174 rfl rfl rfl ?_
        obtain ⟨v26, hv26, h⟩ := ah_bs h
        refine ro_getI (pc' := 178) ft_8 fk_8 q299 dX0_guests_175 rfl hv26 ?_
        refine ro_iload (pc' := 180) dX0_guests_178 rfl rfl ?_
        refine ro_isub (pc' := 181) dX0_guests_180 rfl ?_
        refine ro_istore (pc' := 183) (L' := [some (va_rf r0), none, some (.int x2), some (.int x3), some (va_rf r4), some (.int x5), some (.int (v26 - x5)), some (va_rf v23), none, some (.int v5), some (.int v12), some (.int v19)]) dX0_guests_181 (Nat.le_of_ble_eq_true rfl) rfl (ah_okp_i _) rfl ?_
        refine ro_iload (pc' := 185) dX0_guests_183 rfl rfl ?_
        obtain rfl := Option.some.inj h
        exact ro_iret hκ dX0_guests_185
      · replace h := ah_in_ c h
        refine ro_iload (pc' := 119) dX0_guests_117 rfl rfl ?_
        refine ro_iload (pc' := 121) dX0_guests_119 rfl rfl ?_
        refine ro_iload (pc' := 123) dX0_guests_121 rfl rfl ?_
        obtain ⟨v27, σ28, hv27, h⟩ := ah_bs2 h
        refine ro_callS (pc' := 126) (As := [.int v5, .int v12, .int v19]) (rest := []) (st' := [.int v27]) q436 (M_X0_mayBe hv27) q435 q437 q95 dd_X0_mayBe rfl ⟨Nat.le_of_ble_eq_true rfl, Nat.le_of_ble_eq_true rfl⟩ (Nat.le_of_ble_eq_true rfl) dX0_guests_123 rfl rfl rfl ?_
        refine ro_if_ne (pc' := 129) (tgt := 134) dX0_guests_126 rfl rfl (fun c => ?_) (fun c => ?_)
        · replace h := ah_in_ c h
          refine ro_aload_n (pc' := 135) dX0_guests_134 rfl rfl rfl ?_
          obtain ⟨v29, hv29, h⟩ := ah_bs h
          refine ro_getR (pc' := 138) ft_7 fk_7 q298 dX0_guests_135 rfl hv29 ?_
          refine ro_aload_n (pc' := 139) dX0_guests_138 rfl rfl rfl ?_
          refine ro_dup (pc' := 140) dX0_guests_139 (ah_rf_cat _) rfl ?_
          obtain ⟨v30, hv30, h⟩ := ah_bs h
          refine ro_getI (pc' := 143) ft_8 fk_8 q299 dX0_guests_140 rfl hv30 ?_
          refine ro_dup_x1 (pc' := 144) dX0_guests_143 rfl (ah_rf_cat _) rfl ?_
          refine ro_iconst (pc' := 145) dX0_guests_144 ic_1 rfl ?_
          refine ro_iadd (pc' := 146) dX0_guests_145 rfl ?_
          obtain ⟨σ31, hσ31, h⟩ := ah_bs h
          refine ro_putI (pc' := 149) ft_8 fk_8 q299 pd_8 dX0_guests_146 rfl hσ31 ?_
          obtain ⟨σ32, hσ32, h⟩ := ah_bs h
          refine ro_new (pc' := 152) ct_X7 df_X7 (by decide) q206 q441 q105 dX0_guests_149 rfl hσ32 ?_
          refine ro_dup (pc' := 153) dX0_guests_152 (ah_rf_cat _) rfl ?_
          refine ro_iload (pc' := 155) dX0_guests_153 rfl rfl ?_
          refine ro_iload (pc' := 157) dX0_guests_155 rfl rfl ?_
          refine ro_iload (pc' := 159) dX0_guests_157 rfl rfl ?_
          obtain ⟨σ33, hσ33, h⟩ := ah_bs h
          refine ro_callI (pc' := 162) (As := [.int v5, .int v12, .int v19]) (rest := [va_rf (some (ah_nx σ31)), .int v30, va_rf v29]) (st' := [va_rf (some (ah_nx σ31)), .int v30, va_rf v29]) rfl q443 rfl (M_X7_init hσ33) q442 q444 q105 dd_X7_init rfl ⟨Nat.le_of_ble_eq_true rfl, Nat.le_of_ble_eq_true rfl⟩ (by simp only [List.map_cons, List.map_nil, List.sum_cons, List.sum_nil, ah_rf_cat, ah_cat_i, ah_cat_l]; decide) dX0_guests_159 rfl rfl rfl ?_
          obtain ⟨σ34, hσ34, h⟩ := ah_bs h
          refine ro_aastore (pc' := 163) (by decide) (by decide) rfl dX0_guests_162 rfl hσ34 ?_
          refine ro_iinc (pc' := 166) (L' := [some (va_rf r0), none, some (.int x2), some (.int x3), some (va_rf r4), some (.int x5), some (.int (x6 + (1 : Int32))), some (.long ((x2.toInt64) + ((3 : Int64) * (x6.toInt64)))), none, some (.int v5), some (.int v12), some (.int v19)]) dX0_guests_163 rfl ic_1 (Nat.le_of_ble_eq_true rfl) rfl (ah_okp_i _) rfl ?_
          refine ro_goto (tgt := 54) dX0_guests_166 rfl ?_
          refine ro_weak (L' := [some (va_rf r0), none, some (.int x2), some (.int x3), some (va_rf r4), some (.int x5), some (.int (x6 + (1 : Int32))), none, none, none, none, none]) (ah_ls_s (ah_ls_s (ah_ls_s (ah_ls_s (ah_ls_s (ah_ls_s (ah_ls_s (ah_ls_n (ah_ls_s (ah_ls_n (ah_ls_n (ah_ls_n ah_ls_0)))))))))))) ?_
          exact ih _ _ _ _ _ _ _ h
        · replace h := ah_ip c h
          refine ro_aload_n (pc' := 130) dX0_guests_129 rfl rfl rfl ?_
          obtain ⟨v35, hv35, h⟩ := ah_bs h
          refine ro_getR (pc' := 133) ft_14 fk_14 q307 dX0_guests_130 rfl hv35 ?_
          obtain ⟨u36, hu36, h⟩ := ah_bs h
          obtain ⟨a37, ha37, h⟩ := ah_bs h
          refine ro_athrowC (t := 4) (pre := []) (suf := []) (rest := []) ha37 hu36 (by decide) q223 rfl rfl (by decide) (by decide) dX0_guests_133 ?_
          refine ro_astore (pc' := 174) (L' := [some (va_rf r0), none, some (.int x2), some (.int x3), some (va_rf r4), some (.int x5), some (.int x6), some (va_rf v35), none, some (.int v5), some (.int v12), some (.int v19)]) dX0_guests_172 (Nat.le_of_ble_eq_true rfl) rfl (ah_okp_i _) rfl ?_
          refine ro_aload_n (pc' := 175) dX0_guests_174 rfl rfl rfl ?_
          obtain ⟨v38, hv38, h⟩ := ah_bs h
          refine ro_getI (pc' := 178) ft_8 fk_8 q299 dX0_guests_175 rfl hv38 ?_
          refine ro_iload (pc' := 180) dX0_guests_178 rfl rfl ?_
          refine ro_isub (pc' := 181) dX0_guests_180 rfl ?_
          refine ro_istore (pc' := 183) (L' := [some (va_rf r0), none, some (.int x2), some (.int x3), some (va_rf r4), some (.int x5), some (.int (v38 - x5)), some (va_rf v35), none, some (.int v5), some (.int v12), some (.int v19)]) dX0_guests_181 (Nat.le_of_ble_eq_true rfl) rfl (ah_okp_i _) rfl ?_
          refine ro_iload (pc' := 185) dX0_guests_183 rfl rfl ?_
          obtain rfl := Option.some.inj h
          exact ro_iret hκ dX0_guests_185
set_option maxRecDepth 20000 in
set_option maxHeartbeats 4000000 in
theorem W_X0_guests {κ : ah_C} {rr : (Int32 × ah_S)} (hκ : ah_res κ = (.returned (some (.int rr.1)), rr.2))  (σ : ah_S) (r0 : Option Nat) (x1 : Int32) (x2 : Int32) (x3 : Int32) (h : F_X0_guests σ r0 x1 x2 x3 = some rr) : ah_G κ ("LeftAsFound", "guests", 12, (some FieldType.int), [(54, 169, 172, 74)], 4, 89) cX0_guests σ 0 [some (va_rf r0), some (.int x1), some (.int x2), some (.int x3), none, none, none, none, none, none, none, none] [] := by
  unfold F_X0_guests at h
  refine ro_iload_n (pc' := 1) dX0_guests_0 rfl rfl rfl ?_
  obtain ⟨v1, σ2, hv1, h⟩ := ah_bs2 h
  refine ro_callS (pc' := 4) (As := [.int x1]) (rest := []) (st' := [.int v1]) q471 (M_X0_isShelf hv1) q470 q472 q95 dd_X0_isShelf rfl ⟨Nat.le_of_ble_eq_true rfl, Nat.le_of_ble_eq_true rfl⟩ (Nat.le_of_ble_eq_true rfl) dX0_guests_1 rfl rfl rfl ?_
  refine ro_if_eq (pc' := 7) (tgt := 19) dX0_guests_4 rfl rfl (fun c => ?_) (fun c => ?_)
  · replace h := ah_ip c h
    refine ro_iconst (pc' := 20) dX0_guests_19 ic_m1 rfl ?_
    obtain rfl := Option.some.inj h
    exact ro_iret hκ dX0_guests_20
  · replace h := ah_in_ c h
    refine ro_iload_n (pc' := 8) dX0_guests_7 rfl rfl rfl ?_
    refine ro_i2l (pc' := 9) dX0_guests_8 rfl ?_
    refine ro_lconst (pc' := 10) dX0_guests_9 lc_1 rfl ?_
    refine ro_ldc2 (pc' := 13) q474 dX0_guests_10 rfl ?_
    obtain ⟨v3, σ4, hv3, h⟩ := ah_bs2 h
    refine ro_callS (pc' := 16) (As := [.long (x3.toInt64), .long (1 : Int64), .long (7 : Int64)]) (rest := []) (st' := [.int v3]) q429 (M_X0_within hv3) q428 q430 q95 dd_X0_within rfl ⟨Nat.le_of_ble_eq_true rfl, Nat.le_of_ble_eq_true rfl⟩ (Nat.le_of_ble_eq_true rfl) dX0_guests_13 rfl rfl rfl ?_
    refine ro_if_ne (pc' := 19) (tgt := 21) dX0_guests_16 rfl rfl (fun c => ?_) (fun c => ?_)
    · replace h := ah_in_ c h
      refine ro_aload_n (pc' := 22) dX0_guests_21 rfl rfl rfl ?_
      obtain ⟨v5, hv5, h⟩ := ah_bs h
      refine ro_getR (pc' := 25) ft_41 fk_41 q337 dX0_guests_22 rfl hv5 ?_
      refine ro_iload_n (pc' := 26) dX0_guests_25 rfl rfl rfl ?_
      obtain ⟨v6, hv6, h⟩ := ah_bs h
      refine ro_aaload (pc' := 27) (by decide) (by decide) rfl dX0_guests_26 rfl hv6 ?_
      refine ro_astore (pc' := 29) (L' := [some (va_rf r0), some (.int x1), some (.int x2), some (.int x3), some (va_rf v6), none, none, none, none, none, none, none]) dX0_guests_27 (Nat.le_of_ble_eq_true rfl) rfl (ah_okp_i _) rfl ?_
      refine ro_aload (pc' := 31) dX0_guests_29 rfl rfl ?_
      refine ro_ifnull (pc' := 34) (tgt := 45) dX0_guests_31 rfl rfl (fun c => ?_) (fun c => ?_)
      · replace h := ah_ip c h
        refine ro_aload_n (pc' := 46) dX0_guests_45 rfl rfl rfl ?_
        obtain ⟨v7, hv7, h⟩ := ah_bs h
        refine ro_getI (pc' := 49) ft_8 fk_8 q299 dX0_guests_46 rfl hv7 ?_
        refine ro_istore (pc' := 51) (L' := [some (va_rf r0), some (.int x1), some (.int x2), some (.int x3), some (va_rf v6), some (.int v7), none, none, none, none, none, none]) dX0_guests_49 (Nat.le_of_ble_eq_true rfl) rfl (ah_okp_r _) rfl ?_
        refine ro_iconst (pc' := 52) dX0_guests_51 ic_0 rfl ?_
        refine ro_istore (pc' := 54) (L' := [some (va_rf r0), some (.int x1), some (.int x2), some (.int x3), some (va_rf v6), some (.int v7), some (.int (0 : Int32)), none, none, none, none, none]) dX0_guests_52 (Nat.le_of_ble_eq_true rfl) rfl (ah_okp_i _) rfl ?_
        refine ro_weak (L' := [some (va_rf r0), none, some (.int x2), some (.int x3), some (va_rf v6), some (.int v7), some (.int (0 : Int32)), none, none, none, none, none]) (ah_ls_s (ah_ls_n (ah_ls_s (ah_ls_s (ah_ls_s (ah_ls_s (ah_ls_s (ah_ls_s (ah_ls_s (ah_ls_s (ah_ls_s (ah_ls_s ah_ls_0)))))))))))) ?_
        exact W_X0_guests_54 hκ _ _ _ _ _ _ _ _ h
      · replace h := ah_in_ c h
        refine ro_aload (pc' := 36) dX0_guests_34 rfl rfl ?_
        obtain ⟨v8, σ9, hv8, h⟩ := ah_bs2 h
        refine ro_callS (pc' := 39) (As := [va_rf v6]) (rest := []) (st' := [.int v8]) q476 (M_X0_sortOf hv8) q475 q477 q95 dd_X0_sortOf rfl ⟨Nat.le_of_ble_eq_true rfl, Nat.le_of_ble_eq_true rfl⟩ (Nat.le_of_ble_eq_true rfl) dX0_guests_36 rfl rfl rfl ?_
        refine ro_if_eq (pc' := 42) (tgt := 45) dX0_guests_39 rfl rfl (fun c => ?_) (fun c => ?_)
        · replace h := ah_ip c h
          refine ro_aload_n (pc' := 46) dX0_guests_45 rfl rfl rfl ?_
          obtain ⟨v10, hv10, h⟩ := ah_bs h
          refine ro_getI (pc' := 49) ft_8 fk_8 q299 dX0_guests_46 rfl hv10 ?_
          refine ro_istore (pc' := 51) (L' := [some (va_rf r0), some (.int x1), some (.int x2), some (.int x3), some (va_rf v6), some (.int v10), none, none, none, none, none, none]) dX0_guests_49 (Nat.le_of_ble_eq_true rfl) rfl (ah_okp_r _) rfl ?_
          refine ro_iconst (pc' := 52) dX0_guests_51 ic_0 rfl ?_
          refine ro_istore (pc' := 54) (L' := [some (va_rf r0), some (.int x1), some (.int x2), some (.int x3), some (va_rf v6), some (.int v10), some (.int (0 : Int32)), none, none, none, none, none]) dX0_guests_52 (Nat.le_of_ble_eq_true rfl) rfl (ah_okp_i _) rfl ?_
          refine ro_weak (L' := [some (va_rf r0), none, some (.int x2), some (.int x3), some (va_rf v6), some (.int v10), some (.int (0 : Int32)), none, none, none, none, none]) (ah_ls_s (ah_ls_n (ah_ls_s (ah_ls_s (ah_ls_s (ah_ls_s (ah_ls_s (ah_ls_s (ah_ls_s (ah_ls_s (ah_ls_s (ah_ls_s ah_ls_0)))))))))))) ?_
          exact W_X0_guests_54 hκ _ _ _ _ _ _ _ _ h
        · replace h := ah_in_ c h
          refine ro_bipush (pc' := 44) dX0_guests_42 ib_m12 rfl ?_
          obtain rfl := Option.some.inj h
          exact ro_iret hκ dX0_guests_44
    · replace h := ah_ip c h
      refine ro_iconst (pc' := 20) dX0_guests_19 ic_m1 rfl ?_
      obtain rfl := Option.some.inj h
      exact ro_iret hκ dX0_guests_20
theorem M_X0_guests {l : Launch} {D : ah_D}  {σ : ah_S} {r0 : Option Nat} {x1 : Int32} {x2 : Int32} {x3 : Int32} {v : Int32} {σ1 : ah_S} (h : F_X0_guests σ r0 x1 x2 x3 = some (v, σ1)) : ah_Met l yX0_guests (Cond.codeWith yX0_guests cX0_guests 12 (some FieldType.int) [(54, 169, 172, 74)]) 4 89 D [va_rf r0, .int x1, .int x2, .int x3] σ (.returned (some (.int v)), σ1) :=
  ah_ofGW (own := "LeftAsFound") (nm := "guests") (L0 := [some (va_rf r0), some (.int x1), some (.int x2), some (.int x3), none, none, none, none, none, none, none, none]) (by decide) rfl rfl rfl (ah_ao_1 (ah_rf_cat _) (ah_ao_1 rfl (ah_ao_1 rfl (ah_ao_1 rfl (ah_ao_n (ah_ao_n (ah_ao_n (ah_ao_n (ah_ao_n (ah_ao_n (ah_ao_n (ah_ao_n ah_ao_0)))))))))))) (fun κ hκ => W_X0_guests hκ  σ r0 x1 x2 x3 h)
