set_option maxRecDepth 20000 in
set_option maxHeartbeats 4000000 in
theorem W_X14_init {κ : ah_C} {rr : ah_S} (hκ : ah_res κ = (.returned none, rr))  (σ : ah_S) (r0 : Option Nat) (r1 : Option Nat) (x2 : Int32) (h : F_X14_init σ r0 r1 x2 = some rr) : ah_G κ ("LeftAsFound$Body", "<init>", 3, none, [], 1, 24) cX14_init σ 0 [some (va_rf r0), some (va_rf r1), some (.int x2)] [] := by
  unfold F_X14_init at h
  refine ro_aload_n (pc' := 1) dX14_init_0 rfl rfl rfl ?_
  refine ro_aload_n (pc' := 2) dX14_init_1 rfl rfl rfl ?_
  obtain ⟨σ1, hσ1, h⟩ := ah_bs h
  refine ro_putRF (pc' := 5) ft_1401 fk_1401 q878 pd_1401 rfl rfl rfl dX14_init_2 rfl hσ1 ?_
  refine ro_aload_n (pc' := 6) dX14_init_5 rfl rfl rfl ?_
  obtain ⟨a2, ha2, h⟩ := ah_bs h
  refine ro_objInit (pc' := 9) ha2 q875 q136 q137 (Nat.le_of_ble_eq_true rfl) (Nat.le_of_ble_eq_true rfl) dX14_init_6 rfl ?_
  refine ro_aload_n (pc' := 10) dX14_init_9 rfl rfl rfl ?_
  refine ro_iload_n (pc' := 11) dX14_init_10 rfl rfl rfl ?_
  obtain ⟨σ3, hσ3, h⟩ := ah_bs h
  refine ro_putIF (pc' := 14) ft_1400 fk_1400 q877 pd_1400 rfl rfl dX14_init_11 rfl hσ3 ?_
  obtain rfl := Option.some.inj h
  exact ro_vret hκ dX14_init_14
theorem M_X14_init {l : Launch} {D : ah_D}  {σ : ah_S} {r0 : Option Nat} {r1 : Option Nat} {x2 : Int32} {σ1 : ah_S} (h : F_X14_init σ r0 r1 x2 = some σ1) : ah_Met l yX14_init (Cond.code yX14_init cX14_init 3 none) 1 24 D [va_rf r0, va_rf r1, .int x2] σ (.returned none, σ1) :=
  ah_ofG (own := "LeftAsFound$Body") (nm := "<init>") (L0 := [some (va_rf r0), some (va_rf r1), some (.int x2)]) (by decide) rfl rfl rfl (ah_ao_1 (ah_rf_cat _) (ah_ao_1 (ah_rf_cat _) (ah_ao_1 rfl ah_ao_0))) (fun κ hκ => W_X14_init hκ  σ r0 r1 x2 h)
set_option maxRecDepth 20000 in
set_option maxHeartbeats 4000000 in
theorem W_X15_init {κ : ah_C} {rr : ah_S} (hκ : ah_res κ = (.returned none, rr))  (σ : ah_S) (r0 : Option Nat) (r1 : Option Nat) (x2 : Int32) (h : F_X15_init σ r0 r1 x2 = some rr) : ah_G κ ("LeftAsFound$FoundStay", "<init>", 3, none, [], 2, 46) cX15_init σ 0 [some (va_rf r0), some (va_rf r1), some (.int x2)] [] := by
  unfold F_X15_init at h
  refine ro_aload_n (pc' := 1) dX15_init_0 rfl rfl rfl ?_
  refine ro_aload_n (pc' := 2) dX15_init_1 rfl rfl rfl ?_
  obtain ⟨σ1, hσ1, h⟩ := ah_bs h
  refine ro_putRF (pc' := 5) ft_1502 fk_1502 q876 pd_1502 rfl rfl rfl dX15_init_2 rfl hσ1 ?_
  refine ro_aload_n (pc' := 6) dX15_init_5 rfl rfl rfl ?_
  refine ro_aload_n (pc' := 7) dX15_init_6 rfl rfl rfl ?_
  refine ro_iload_n (pc' := 8) dX15_init_7 rfl rfl rfl ?_
  obtain ⟨a2, ha2, h⟩ := ah_bs h
  obtain ⟨σ3, hσ3, h⟩ := ah_bs h
  refine ro_callI (pc' := 11) (As := [va_rf r1, .int x2]) (rest := []) (st' := []) ha2 q873 rfl (M_X14_init hσ3) q872 q874 q114 dd_X14_init rfl ⟨Nat.le_of_ble_eq_true rfl, Nat.le_of_ble_eq_true rfl⟩ (Nat.le_of_ble_eq_true rfl) dX15_init_8 rfl rfl rfl ?_
  obtain rfl := Option.some.inj h
  exact ro_vret hκ dX15_init_11
theorem M_X15_init {l : Launch} {D : ah_D}  {σ : ah_S} {r0 : Option Nat} {r1 : Option Nat} {x2 : Int32} {σ1 : ah_S} (h : F_X15_init σ r0 r1 x2 = some σ1) : ah_Met l yX15_init (Cond.code yX15_init cX15_init 3 none) 2 46 D [va_rf r0, va_rf r1, .int x2] σ (.returned none, σ1) :=
  ah_ofG (own := "LeftAsFound$FoundStay") (nm := "<init>") (L0 := [some (va_rf r0), some (va_rf r1), some (.int x2)]) (by decide) rfl rfl rfl (ah_ao_1 (ah_rf_cat _) (ah_ao_1 (ah_rf_cat _) (ah_ao_1 rfl ah_ao_0))) (fun κ hκ => W_X15_init hκ  σ r0 r1 x2 h)
set_option maxRecDepth 20000 in
set_option maxHeartbeats 4000000 in
theorem W_X16_init {κ : ah_C} {rr : ah_S} (hκ : ah_res κ = (.returned none, rr))  (σ : ah_S) (r0 : Option Nat) (r1 : Option Nat) (x2 : Int32) (h : F_X16_init σ r0 r1 x2 = some rr) : ah_G κ ("LeftAsFound$TakenStay", "<init>", 3, none, [], 2, 46) cX16_init σ 0 [some (va_rf r0), some (va_rf r1), some (.int x2)] [] := by
  unfold F_X16_init at h
  refine ro_aload_n (pc' := 1) dX16_init_0 rfl rfl rfl ?_
  refine ro_aload_n (pc' := 2) dX16_init_1 rfl rfl rfl ?_
  obtain ⟨σ1, hσ1, h⟩ := ah_bs h
  refine ro_putRF (pc' := 5) ft_1602 fk_1602 q892 pd_1602 rfl rfl rfl dX16_init_2 rfl hσ1 ?_
  refine ro_aload_n (pc' := 6) dX16_init_5 rfl rfl rfl ?_
  refine ro_aload_n (pc' := 7) dX16_init_6 rfl rfl rfl ?_
  refine ro_iload_n (pc' := 8) dX16_init_7 rfl rfl rfl ?_
  obtain ⟨a2, ha2, h⟩ := ah_bs h
  obtain ⟨σ3, hσ3, h⟩ := ah_bs h
  refine ro_callI (pc' := 11) (As := [va_rf r1, .int x2]) (rest := []) (st' := []) ha2 q873 rfl (M_X14_init hσ3) q891 q874 q114 dd_X14_init rfl ⟨Nat.le_of_ble_eq_true rfl, Nat.le_of_ble_eq_true rfl⟩ (Nat.le_of_ble_eq_true rfl) dX16_init_8 rfl rfl rfl ?_
  obtain rfl := Option.some.inj h
  exact ro_vret hκ dX16_init_11
theorem M_X16_init {l : Launch} {D : ah_D}  {σ : ah_S} {r0 : Option Nat} {r1 : Option Nat} {x2 : Int32} {σ1 : ah_S} (h : F_X16_init σ r0 r1 x2 = some σ1) : ah_Met l yX16_init (Cond.code yX16_init cX16_init 3 none) 2 46 D [va_rf r0, va_rf r1, .int x2] σ (.returned none, σ1) :=
  ah_ofG (own := "LeftAsFound$TakenStay") (nm := "<init>") (L0 := [some (va_rf r0), some (va_rf r1), some (.int x2)]) (by decide) rfl rfl rfl (ah_ao_1 (ah_rf_cat _) (ah_ao_1 (ah_rf_cat _) (ah_ao_1 rfl ah_ao_0))) (fun κ hκ => W_X16_init hκ  σ r0 r1 x2 h)
set_option maxRecDepth 20000 in
set_option maxHeartbeats 4000000 in
theorem W_X17_init {κ : ah_C} {rr : ah_S} (hκ : ah_res κ = (.returned none, rr))  (σ : ah_S) (r0 : Option Nat) (r1 : Option Nat) (x2 : Int32) (h : F_X17_init σ r0 r1 x2 = some rr) : ah_G κ ("LeftAsFound$BroughtStay", "<init>", 3, none, [], 3, 68) cX17_init σ 0 [some (va_rf r0), some (va_rf r1), some (.int x2)] [] := by
  unfold F_X17_init at h
  refine ro_aload_n (pc' := 1) dX17_init_0 rfl rfl rfl ?_
  refine ro_aload_n (pc' := 2) dX17_init_1 rfl rfl rfl ?_
  obtain ⟨σ1, hσ1, h⟩ := ah_bs h
  refine ro_putRF (pc' := 5) ft_1703 fk_1703 q904 pd_1703 rfl rfl rfl dX17_init_2 rfl hσ1 ?_
  refine ro_aload_n (pc' := 6) dX17_init_5 rfl rfl rfl ?_
  refine ro_aload_n (pc' := 7) dX17_init_6 rfl rfl rfl ?_
  refine ro_iload_n (pc' := 8) dX17_init_7 rfl rfl rfl ?_
  obtain ⟨a2, ha2, h⟩ := ah_bs h
  obtain ⟨σ3, hσ3, h⟩ := ah_bs h
  refine ro_callI (pc' := 11) (As := [va_rf r1, .int x2]) (rest := []) (st' := []) ha2 q889 rfl (M_X16_init hσ3) q903 q890 q116 dd_X16_init rfl ⟨Nat.le_of_ble_eq_true rfl, Nat.le_of_ble_eq_true rfl⟩ (Nat.le_of_ble_eq_true rfl) dX17_init_8 rfl rfl rfl ?_
  obtain rfl := Option.some.inj h
  exact ro_vret hκ dX17_init_11
theorem M_X17_init {l : Launch} {D : ah_D}  {σ : ah_S} {r0 : Option Nat} {r1 : Option Nat} {x2 : Int32} {σ1 : ah_S} (h : F_X17_init σ r0 r1 x2 = some σ1) : ah_Met l yX17_init (Cond.code yX17_init cX17_init 3 none) 3 68 D [va_rf r0, va_rf r1, .int x2] σ (.returned none, σ1) :=
  ah_ofG (own := "LeftAsFound$BroughtStay") (nm := "<init>") (L0 := [some (va_rf r0), some (va_rf r1), some (.int x2)]) (by decide) rfl rfl rfl (ah_ao_1 (ah_rf_cat _) (ah_ao_1 (ah_rf_cat _) (ah_ao_1 rfl ah_ao_0))) (fun κ hκ => W_X17_init hκ  σ r0 r1 x2 h)
set_option maxRecDepth 20000 in
set_option maxHeartbeats 4000000 in
theorem W_X18_init {κ : ah_C} {rr : ah_S} (hκ : ah_res κ = (.returned none, rr))  (σ : ah_S) (r0 : Option Nat) (r1 : Option Nat) (x2 : Int32) (h : F_X18_init σ r0 r1 x2 = some rr) : ah_G κ ("LeftAsFound$SeenStay", "<init>", 3, none, [], 3, 68) cX18_init σ 0 [some (va_rf r0), some (va_rf r1), some (.int x2)] [] := by
  unfold F_X18_init at h
  refine ro_aload_n (pc' := 1) dX18_init_0 rfl rfl rfl ?_
  refine ro_aload_n (pc' := 2) dX18_init_1 rfl rfl rfl ?_
  obtain ⟨σ1, hσ1, h⟩ := ah_bs h
  refine ro_putRF (pc' := 5) ft_1803 fk_1803 q917 pd_1803 rfl rfl rfl dX18_init_2 rfl hσ1 ?_
  refine ro_aload_n (pc' := 6) dX18_init_5 rfl rfl rfl ?_
  refine ro_aload_n (pc' := 7) dX18_init_6 rfl rfl rfl ?_
  refine ro_iload_n (pc' := 8) dX18_init_7 rfl rfl rfl ?_
  obtain ⟨a2, ha2, h⟩ := ah_bs h
  obtain ⟨σ3, hσ3, h⟩ := ah_bs h
  refine ro_callI (pc' := 11) (As := [va_rf r1, .int x2]) (rest := []) (st' := []) ha2 q870 rfl (M_X15_init hσ3) q916 q871 q115 dd_X15_init rfl ⟨Nat.le_of_ble_eq_true rfl, Nat.le_of_ble_eq_true rfl⟩ (Nat.le_of_ble_eq_true rfl) dX18_init_8 rfl rfl rfl ?_
  obtain rfl := Option.some.inj h
  exact ro_vret hκ dX18_init_11
theorem M_X18_init {l : Launch} {D : ah_D}  {σ : ah_S} {r0 : Option Nat} {r1 : Option Nat} {x2 : Int32} {σ1 : ah_S} (h : F_X18_init σ r0 r1 x2 = some σ1) : ah_Met l yX18_init (Cond.code yX18_init cX18_init 3 none) 3 68 D [va_rf r0, va_rf r1, .int x2] σ (.returned none, σ1) :=
  ah_ofG (own := "LeftAsFound$SeenStay") (nm := "<init>") (L0 := [some (va_rf r0), some (va_rf r1), some (.int x2)]) (by decide) rfl rfl rfl (ah_ao_1 (ah_rf_cat _) (ah_ao_1 (ah_rf_cat _) (ah_ao_1 rfl ah_ao_0))) (fun κ hκ => W_X18_init hκ  σ r0 r1 x2 h)
set_option maxRecDepth 20000 in
set_option maxHeartbeats 4000000 in
theorem W_X19_init {κ : ah_C} {rr : ah_S} (hκ : ah_res κ = (.returned none, rr))  (σ : ah_S) (r0 : Option Nat) (r1 : Option Nat) (x2 : Int32) (h : F_X19_init σ r0 r1 x2 = some rr) : ah_G κ ("LeftAsFound$WrittenStay", "<init>", 3, none, [], 4, 90) cX19_init σ 0 [some (va_rf r0), some (va_rf r1), some (.int x2)] [] := by
  unfold F_X19_init at h
  refine ro_aload_n (pc' := 1) dX19_init_0 rfl rfl rfl ?_
  refine ro_aload_n (pc' := 2) dX19_init_1 rfl rfl rfl ?_
  obtain ⟨σ1, hσ1, h⟩ := ah_bs h
  refine ro_putRF (pc' := 5) ft_1904 fk_1904 q930 pd_1904 rfl rfl rfl dX19_init_2 rfl hσ1 ?_
  refine ro_aload_n (pc' := 6) dX19_init_5 rfl rfl rfl ?_
  refine ro_aload_n (pc' := 7) dX19_init_6 rfl rfl rfl ?_
  refine ro_iload_n (pc' := 8) dX19_init_7 rfl rfl rfl ?_
  obtain ⟨a2, ha2, h⟩ := ah_bs h
  obtain ⟨σ3, hσ3, h⟩ := ah_bs h
  refine ro_callI (pc' := 11) (As := [va_rf r1, .int x2]) (rest := []) (st' := []) ha2 q901 rfl (M_X17_init hσ3) q929 q902 q117 dd_X17_init rfl ⟨Nat.le_of_ble_eq_true rfl, Nat.le_of_ble_eq_true rfl⟩ (Nat.le_of_ble_eq_true rfl) dX19_init_8 rfl rfl rfl ?_
  obtain rfl := Option.some.inj h
  exact ro_vret hκ dX19_init_11
theorem M_X19_init {l : Launch} {D : ah_D}  {σ : ah_S} {r0 : Option Nat} {r1 : Option Nat} {x2 : Int32} {σ1 : ah_S} (h : F_X19_init σ r0 r1 x2 = some σ1) : ah_Met l yX19_init (Cond.code yX19_init cX19_init 3 none) 4 90 D [va_rf r0, va_rf r1, .int x2] σ (.returned none, σ1) :=
  ah_ofG (own := "LeftAsFound$WrittenStay") (nm := "<init>") (L0 := [some (va_rf r0), some (va_rf r1), some (.int x2)]) (by decide) rfl rfl rfl (ah_ao_1 (ah_rf_cat _) (ah_ao_1 (ah_rf_cat _) (ah_ao_1 rfl ah_ao_0))) (fun κ hκ => W_X19_init hκ  σ r0 r1 x2 h)
set_option maxRecDepth 20000 in
set_option maxHeartbeats 4000000 in
theorem W_X20_init {κ : ah_C} {rr : ah_S} (hκ : ah_res κ = (.returned none, rr))  (σ : ah_S) (r0 : Option Nat) (r1 : Option Nat) (x2 : Int32) (h : F_X20_init σ r0 r1 x2 = some rr) : ah_G κ ("LeftAsFound$BareStay", "<init>", 3, none, [], 2, 46) cX20_init σ 0 [some (va_rf r0), some (va_rf r1), some (.int x2)] [] := by
  unfold F_X20_init at h
  refine ro_aload_n (pc' := 1) dX20_init_0 rfl rfl rfl ?_
  refine ro_aload_n (pc' := 2) dX20_init_1 rfl rfl rfl ?_
  obtain ⟨σ1, hσ1, h⟩ := ah_bs h
  refine ro_putRF (pc' := 5) ft_2002 fk_2002 q944 pd_2002 rfl rfl rfl dX20_init_2 rfl hσ1 ?_
  refine ro_aload_n (pc' := 6) dX20_init_5 rfl rfl rfl ?_
  refine ro_aload_n (pc' := 7) dX20_init_6 rfl rfl rfl ?_
  refine ro_iload_n (pc' := 8) dX20_init_7 rfl rfl rfl ?_
  obtain ⟨a2, ha2, h⟩ := ah_bs h
  obtain ⟨σ3, hσ3, h⟩ := ah_bs h
  refine ro_callI (pc' := 11) (As := [va_rf r1, .int x2]) (rest := []) (st' := []) ha2 q873 rfl (M_X14_init hσ3) q943 q874 q114 dd_X14_init rfl ⟨Nat.le_of_ble_eq_true rfl, Nat.le_of_ble_eq_true rfl⟩ (Nat.le_of_ble_eq_true rfl) dX20_init_8 rfl rfl rfl ?_
  obtain rfl := Option.some.inj h
  exact ro_vret hκ dX20_init_11
theorem M_X20_init {l : Launch} {D : ah_D}  {σ : ah_S} {r0 : Option Nat} {r1 : Option Nat} {x2 : Int32} {σ1 : ah_S} (h : F_X20_init σ r0 r1 x2 = some σ1) : ah_Met l yX20_init (Cond.code yX20_init cX20_init 3 none) 2 46 D [va_rf r0, va_rf r1, .int x2] σ (.returned none, σ1) :=
  ah_ofG (own := "LeftAsFound$BareStay") (nm := "<init>") (L0 := [some (va_rf r0), some (va_rf r1), some (.int x2)]) (by decide) rfl rfl rfl (ah_ao_1 (ah_rf_cat _) (ah_ao_1 (ah_rf_cat _) (ah_ao_1 rfl ah_ao_0))) (fun κ hκ => W_X20_init hκ  σ r0 r1 x2 h)
set_option maxRecDepth 20000 in
set_option maxHeartbeats 4000000 in
theorem W_X21_init {κ : ah_C} {rr : ah_S} (hκ : ah_res κ = (.returned none, rr))  (σ : ah_S) (r0 : Option Nat) (r1 : Option Nat) (x2 : Int32) (h : F_X21_init σ r0 r1 x2 = some rr) : ah_G κ ("LeftAsFound$MouseStay", "<init>", 3, none, [], 3, 68) cX21_init σ 0 [some (va_rf r0), some (va_rf r1), some (.int x2)] [] := by
  unfold F_X21_init at h
  refine ro_aload_n (pc' := 1) dX21_init_0 rfl rfl rfl ?_
  refine ro_aload_n (pc' := 2) dX21_init_1 rfl rfl rfl ?_
  obtain ⟨σ1, hσ1, h⟩ := ah_bs h
  refine ro_putRF (pc' := 5) ft_2103 fk_2103 q956 pd_2103 rfl rfl rfl dX21_init_2 rfl hσ1 ?_
  refine ro_aload_n (pc' := 6) dX21_init_5 rfl rfl rfl ?_
  refine ro_aload_n (pc' := 7) dX21_init_6 rfl rfl rfl ?_
  refine ro_iload_n (pc' := 8) dX21_init_7 rfl rfl rfl ?_
  obtain ⟨a2, ha2, h⟩ := ah_bs h
  obtain ⟨σ3, hσ3, h⟩ := ah_bs h
  refine ro_callI (pc' := 11) (As := [va_rf r1, .int x2]) (rest := []) (st' := []) ha2 q941 rfl (M_X20_init hσ3) q955 q942 q120 dd_X20_init rfl ⟨Nat.le_of_ble_eq_true rfl, Nat.le_of_ble_eq_true rfl⟩ (Nat.le_of_ble_eq_true rfl) dX21_init_8 rfl rfl rfl ?_
  obtain rfl := Option.some.inj h
  exact ro_vret hκ dX21_init_11
theorem M_X21_init {l : Launch} {D : ah_D}  {σ : ah_S} {r0 : Option Nat} {r1 : Option Nat} {x2 : Int32} {σ1 : ah_S} (h : F_X21_init σ r0 r1 x2 = some σ1) : ah_Met l yX21_init (Cond.code yX21_init cX21_init 3 none) 3 68 D [va_rf r0, va_rf r1, .int x2] σ (.returned none, σ1) :=
  ah_ofG (own := "LeftAsFound$MouseStay") (nm := "<init>") (L0 := [some (va_rf r0), some (va_rf r1), some (.int x2)]) (by decide) rfl rfl rfl (ah_ao_1 (ah_rf_cat _) (ah_ao_1 (ah_rf_cat _) (ah_ao_1 rfl ah_ao_0))) (fun κ hκ => W_X21_init hκ  σ r0 r1 x2 h)
set_option maxRecDepth 20000 in
set_option maxHeartbeats 4000000 in
theorem W_X14_kind {κ : ah_C} {rr : (Int32 × ah_S)} (hκ : ah_res κ = (.returned (some (.int rr.1)), rr.2))  (σ : ah_S) (r0 : Option Nat) (h : F_X14_kind σ r0 = some rr) : ah_G κ ("LeftAsFound$Body", "kind", 1, (some FieldType.int), [], 1, 24) cX14_kind σ 0 [some (va_rf r0)] [] := by
  unfold F_X14_kind at h
  refine ro_iconst (pc' := 1) dX14_kind_0 ic_0 rfl ?_
  obtain rfl := Option.some.inj h
  exact ro_iret hκ dX14_kind_1
theorem M_X14_kind {l : Launch} {D : ah_D}  {σ : ah_S} {r0 : Option Nat} {v : Int32} {σ1 : ah_S} (h : F_X14_kind σ r0 = some (v, σ1)) : ah_Met l yX14_kind (Cond.code yX14_kind cX14_kind 1 (some FieldType.int)) 1 24 D [va_rf r0] σ (.returned (some (.int v)), σ1) :=
  ah_ofG (own := "LeftAsFound$Body") (nm := "kind") (L0 := [some (va_rf r0)]) (by decide) rfl rfl rfl (ah_ao_1 (ah_rf_cat _) ah_ao_0) (fun κ hκ => W_X14_kind hκ  σ r0 h)
set_option maxRecDepth 20000 in
set_option maxHeartbeats 4000000 in
theorem W_X15_kind {κ : ah_C} {rr : (Int32 × ah_S)} (hκ : ah_res κ = (.returned (some (.int rr.1)), rr.2))  (σ : ah_S) (r0 : Option Nat) (h : F_X15_kind σ r0 = some rr) : ah_G κ ("LeftAsFound$FoundStay", "kind", 1, (some FieldType.int), [], 1, 24) cX15_kind σ 0 [some (va_rf r0)] [] := by
  unfold F_X15_kind at h
  refine ro_iconst (pc' := 1) dX15_kind_0 ic_1 rfl ?_
  obtain rfl := Option.some.inj h
  exact ro_iret hκ dX15_kind_1
theorem M_X15_kind {l : Launch} {D : ah_D}  {σ : ah_S} {r0 : Option Nat} {v : Int32} {σ1 : ah_S} (h : F_X15_kind σ r0 = some (v, σ1)) : ah_Met l yX15_kind (Cond.code yX15_kind cX15_kind 1 (some FieldType.int)) 1 24 D [va_rf r0] σ (.returned (some (.int v)), σ1) :=
  ah_ofG (own := "LeftAsFound$FoundStay") (nm := "kind") (L0 := [some (va_rf r0)]) (by decide) rfl rfl rfl (ah_ao_1 (ah_rf_cat _) ah_ao_0) (fun κ hκ => W_X15_kind hκ  σ r0 h)
set_option maxRecDepth 20000 in
set_option maxHeartbeats 4000000 in
theorem W_X16_kind {κ : ah_C} {rr : (Int32 × ah_S)} (hκ : ah_res κ = (.returned (some (.int rr.1)), rr.2))  (σ : ah_S) (r0 : Option Nat) (h : F_X16_kind σ r0 = some rr) : ah_G κ ("LeftAsFound$TakenStay", "kind", 1, (some FieldType.int), [], 1, 24) cX16_kind σ 0 [some (va_rf r0)] [] := by
  unfold F_X16_kind at h
  refine ro_iconst (pc' := 1) dX16_kind_0 ic_2 rfl ?_
  obtain rfl := Option.some.inj h
  exact ro_iret hκ dX16_kind_1
theorem M_X16_kind {l : Launch} {D : ah_D}  {σ : ah_S} {r0 : Option Nat} {v : Int32} {σ1 : ah_S} (h : F_X16_kind σ r0 = some (v, σ1)) : ah_Met l yX16_kind (Cond.code yX16_kind cX16_kind 1 (some FieldType.int)) 1 24 D [va_rf r0] σ (.returned (some (.int v)), σ1) :=
  ah_ofG (own := "LeftAsFound$TakenStay") (nm := "kind") (L0 := [some (va_rf r0)]) (by decide) rfl rfl rfl (ah_ao_1 (ah_rf_cat _) ah_ao_0) (fun κ hκ => W_X16_kind hκ  σ r0 h)
set_option maxRecDepth 20000 in
set_option maxHeartbeats 4000000 in
theorem W_X17_kind {κ : ah_C} {rr : (Int32 × ah_S)} (hκ : ah_res κ = (.returned (some (.int rr.1)), rr.2))  (σ : ah_S) (r0 : Option Nat) (h : F_X17_kind σ r0 = some rr) : ah_G κ ("LeftAsFound$BroughtStay", "kind", 1, (some FieldType.int), [], 1, 24) cX17_kind σ 0 [some (va_rf r0)] [] := by
  unfold F_X17_kind at h
  refine ro_iconst (pc' := 1) dX17_kind_0 ic_3 rfl ?_
  obtain rfl := Option.some.inj h
  exact ro_iret hκ dX17_kind_1
theorem M_X17_kind {l : Launch} {D : ah_D}  {σ : ah_S} {r0 : Option Nat} {v : Int32} {σ1 : ah_S} (h : F_X17_kind σ r0 = some (v, σ1)) : ah_Met l yX17_kind (Cond.code yX17_kind cX17_kind 1 (some FieldType.int)) 1 24 D [va_rf r0] σ (.returned (some (.int v)), σ1) :=
  ah_ofG (own := "LeftAsFound$BroughtStay") (nm := "kind") (L0 := [some (va_rf r0)]) (by decide) rfl rfl rfl (ah_ao_1 (ah_rf_cat _) ah_ao_0) (fun κ hκ => W_X17_kind hκ  σ r0 h)
set_option maxRecDepth 20000 in
set_option maxHeartbeats 4000000 in
theorem W_X18_kind {κ : ah_C} {rr : (Int32 × ah_S)} (hκ : ah_res κ = (.returned (some (.int rr.1)), rr.2))  (σ : ah_S) (r0 : Option Nat) (h : F_X18_kind σ r0 = some rr) : ah_G κ ("LeftAsFound$SeenStay", "kind", 1, (some FieldType.int), [], 1, 24) cX18_kind σ 0 [some (va_rf r0)] [] := by
  unfold F_X18_kind at h
  refine ro_iconst (pc' := 1) dX18_kind_0 ic_4 rfl ?_
  obtain rfl := Option.some.inj h
  exact ro_iret hκ dX18_kind_1
theorem M_X18_kind {l : Launch} {D : ah_D}  {σ : ah_S} {r0 : Option Nat} {v : Int32} {σ1 : ah_S} (h : F_X18_kind σ r0 = some (v, σ1)) : ah_Met l yX18_kind (Cond.code yX18_kind cX18_kind 1 (some FieldType.int)) 1 24 D [va_rf r0] σ (.returned (some (.int v)), σ1) :=
  ah_ofG (own := "LeftAsFound$SeenStay") (nm := "kind") (L0 := [some (va_rf r0)]) (by decide) rfl rfl rfl (ah_ao_1 (ah_rf_cat _) ah_ao_0) (fun κ hκ => W_X18_kind hκ  σ r0 h)
set_option maxRecDepth 20000 in
set_option maxHeartbeats 4000000 in
theorem W_X19_kind {κ : ah_C} {rr : (Int32 × ah_S)} (hκ : ah_res κ = (.returned (some (.int rr.1)), rr.2))  (σ : ah_S) (r0 : Option Nat) (h : F_X19_kind σ r0 = some rr) : ah_G κ ("LeftAsFound$WrittenStay", "kind", 1, (some FieldType.int), [], 1, 24) cX19_kind σ 0 [some (va_rf r0)] [] := by
  unfold F_X19_kind at h
  refine ro_iconst (pc' := 1) dX19_kind_0 ic_5 rfl ?_
  obtain rfl := Option.some.inj h
  exact ro_iret hκ dX19_kind_1
theorem M_X19_kind {l : Launch} {D : ah_D}  {σ : ah_S} {r0 : Option Nat} {v : Int32} {σ1 : ah_S} (h : F_X19_kind σ r0 = some (v, σ1)) : ah_Met l yX19_kind (Cond.code yX19_kind cX19_kind 1 (some FieldType.int)) 1 24 D [va_rf r0] σ (.returned (some (.int v)), σ1) :=
  ah_ofG (own := "LeftAsFound$WrittenStay") (nm := "kind") (L0 := [some (va_rf r0)]) (by decide) rfl rfl rfl (ah_ao_1 (ah_rf_cat _) ah_ao_0) (fun κ hκ => W_X19_kind hκ  σ r0 h)
set_option maxRecDepth 20000 in
set_option maxHeartbeats 4000000 in
theorem W_X20_kind {κ : ah_C} {rr : (Int32 × ah_S)} (hκ : ah_res κ = (.returned (some (.int rr.1)), rr.2))  (σ : ah_S) (r0 : Option Nat) (h : F_X20_kind σ r0 = some rr) : ah_G κ ("LeftAsFound$BareStay", "kind", 1, (some FieldType.int), [], 1, 24) cX20_kind σ 0 [some (va_rf r0)] [] := by
  unfold F_X20_kind at h
  refine ro_bipush (pc' := 2) dX20_kind_0 ib_6 rfl ?_
  obtain rfl := Option.some.inj h
  exact ro_iret hκ dX20_kind_2
theorem M_X20_kind {l : Launch} {D : ah_D}  {σ : ah_S} {r0 : Option Nat} {v : Int32} {σ1 : ah_S} (h : F_X20_kind σ r0 = some (v, σ1)) : ah_Met l yX20_kind (Cond.code yX20_kind cX20_kind 1 (some FieldType.int)) 1 24 D [va_rf r0] σ (.returned (some (.int v)), σ1) :=
  ah_ofG (own := "LeftAsFound$BareStay") (nm := "kind") (L0 := [some (va_rf r0)]) (by decide) rfl rfl rfl (ah_ao_1 (ah_rf_cat _) ah_ao_0) (fun κ hκ => W_X20_kind hκ  σ r0 h)
set_option maxRecDepth 20000 in
set_option maxHeartbeats 4000000 in
theorem W_X21_kind {κ : ah_C} {rr : (Int32 × ah_S)} (hκ : ah_res κ = (.returned (some (.int rr.1)), rr.2))  (σ : ah_S) (r0 : Option Nat) (h : F_X21_kind σ r0 = some rr) : ah_G κ ("LeftAsFound$MouseStay", "kind", 1, (some FieldType.int), [], 1, 24) cX21_kind σ 0 [some (va_rf r0)] [] := by
  unfold F_X21_kind at h
  refine ro_bipush (pc' := 2) dX21_kind_0 ib_7 rfl ?_
  obtain rfl := Option.some.inj h
  exact ro_iret hκ dX21_kind_2
theorem M_X21_kind {l : Launch} {D : ah_D}  {σ : ah_S} {r0 : Option Nat} {v : Int32} {σ1 : ah_S} (h : F_X21_kind σ r0 = some (v, σ1)) : ah_Met l yX21_kind (Cond.code yX21_kind cX21_kind 1 (some FieldType.int)) 1 24 D [va_rf r0] σ (.returned (some (.int v)), σ1) :=
  ah_ofG (own := "LeftAsFound$MouseStay") (nm := "kind") (L0 := [some (va_rf r0)]) (by decide) rfl rfl rfl (ah_ao_1 (ah_rf_cat _) ah_ao_0) (fun κ hκ => W_X21_kind hκ  σ r0 h)
set_option maxRecDepth 20000 in
set_option maxHeartbeats 4000000 in
theorem W_X14_isUnder {κ : ah_C} {rr : (Int32 × ah_S)} (hκ : ah_res κ = (.returned (some (.int rr.1)), rr.2))  (σ : ah_S) (r0 : Option Nat) (x1 : Int32) (h : F_X14_isUnder σ r0 x1 = some rr) : ah_G κ ("LeftAsFound$Body", "isUnder", 2, (some FieldType.boolean), [], 1, 24) cX14_isUnder σ 0 [some (va_rf r0), some (.int x1)] [] := by
  unfold F_X14_isUnder at h
  refine ro_iload_n (pc' := 1) dX14_isUnder_0 rfl rfl rfl ?_
  refine ro_if_ne (pc' := 4) (tgt := 8) dX14_isUnder_1 rfl rfl (fun c => ?_) (fun c => ?_)
  · replace h := ah_in_ c h
    refine ro_iconst (pc' := 9) dX14_isUnder_8 ic_0 rfl ?_
    obtain rfl := Option.some.inj h
    exact ro_zret rfl hκ dX14_isUnder_9
  · replace h := ah_ip c h
    refine ro_iconst (pc' := 5) dX14_isUnder_4 ic_1 rfl ?_
    refine ro_goto (tgt := 9) dX14_isUnder_5 rfl ?_
    obtain rfl := Option.some.inj h
    exact ro_zret rfl hκ dX14_isUnder_9
theorem M_X14_isUnder {l : Launch} {D : ah_D}  {σ : ah_S} {r0 : Option Nat} {x1 : Int32} {v : Int32} {σ1 : ah_S} (h : F_X14_isUnder σ r0 x1 = some (v, σ1)) : ah_Met l yX14_isUnder (Cond.code yX14_isUnder cX14_isUnder 2 (some FieldType.boolean)) 1 24 D [va_rf r0, .int x1] σ (.returned (some (.int v)), σ1) :=
  ah_ofG (own := "LeftAsFound$Body") (nm := "isUnder") (L0 := [some (va_rf r0), some (.int x1)]) (by decide) rfl rfl rfl (ah_ao_1 (ah_rf_cat _) (ah_ao_1 rfl ah_ao_0)) (fun κ hκ => W_X14_isUnder hκ  σ r0 x1 h)
set_option maxRecDepth 20000 in
set_option maxHeartbeats 4000000 in
theorem W_X15_isUnder {κ : ah_C} {rr : (Int32 × ah_S)} (hκ : ah_res κ = (.returned (some (.int rr.1)), rr.2))  (σ : ah_S) (r0 : Option Nat) (x1 : Int32) (h : F_X15_isUnder σ r0 x1 = some rr) : ah_G κ ("LeftAsFound$FoundStay", "isUnder", 2, (some FieldType.boolean), [], 2, 45) cX15_isUnder σ 0 [some (va_rf r0), some (.int x1)] [] := by
  unfold F_X15_isUnder at h
  refine ro_iload_n (pc' := 1) dX15_isUnder_0 rfl rfl rfl ?_
  refine ro_iconst (pc' := 2) dX15_isUnder_1 ic_1 rfl ?_
  refine ro_icmp_eq (pc' := 5) (tgt := 13) dX15_isUnder_2 rfl rfl (fun c => ?_) (fun c => ?_)
  · replace h := ah_ip c h
    refine ro_iconst (pc' := 14) dX15_isUnder_13 ic_1 rfl ?_
    refine ro_goto (tgt := 18) dX15_isUnder_14 rfl ?_
    obtain rfl := Option.some.inj h
    exact ro_zret rfl hκ dX15_isUnder_18
  · replace h := ah_in_ c h
    refine ro_aload_n (pc' := 6) dX15_isUnder_5 rfl rfl rfl ?_
    refine ro_iload_n (pc' := 7) dX15_isUnder_6 rfl rfl rfl ?_
    obtain ⟨u1, hu1, h⟩ := ah_bs h
    obtain ⟨v2, σ3, hv2, h⟩ := ah_bs2 h
    refine ro_callSB (pc' := 10) (x := ⟨"LeftAsFound$Body", "isUnder", "(I)Z"⟩) (owner := "LeftAsFound$Body") (bytes := cX14_isUnder) (maxL := 2) (ret := (some FieldType.boolean)) (As := [.int x1]) (rest := []) (st' := [.int v2]) hu1 (Or.inl ⟨q114, M_X14_isUnder hv2⟩) (Or.inl q1255) (Or.inl q1240) q885 q1238 q1269 (by decide) (Or.inl rfl) sd_1_1 rfl ⟨Nat.le_of_ble_eq_true rfl, Nat.le_of_ble_eq_true rfl⟩ (Nat.le_of_ble_eq_true rfl) dX15_isUnder_7 rfl rfl rfl ?_
    refine ro_if_eq (pc' := 13) (tgt := 17) dX15_isUnder_10 rfl rfl (fun c => ?_) (fun c => ?_)
    · replace h := ah_ip c h
      refine ro_iconst (pc' := 18) dX15_isUnder_17 ic_0 rfl ?_
      obtain rfl := Option.some.inj h
      exact ro_zret rfl hκ dX15_isUnder_18
    · replace h := ah_in_ c h
      refine ro_iconst (pc' := 14) dX15_isUnder_13 ic_1 rfl ?_
      refine ro_goto (tgt := 18) dX15_isUnder_14 rfl ?_
      obtain rfl := Option.some.inj h
      exact ro_zret rfl hκ dX15_isUnder_18
theorem M_X15_isUnder {l : Launch} {D : ah_D}  {σ : ah_S} {r0 : Option Nat} {x1 : Int32} {v : Int32} {σ1 : ah_S} (h : F_X15_isUnder σ r0 x1 = some (v, σ1)) : ah_Met l yX15_isUnder (Cond.code yX15_isUnder cX15_isUnder 2 (some FieldType.boolean)) 2 45 D [va_rf r0, .int x1] σ (.returned (some (.int v)), σ1) :=
  ah_ofG (own := "LeftAsFound$FoundStay") (nm := "isUnder") (L0 := [some (va_rf r0), some (.int x1)]) (by decide) rfl rfl rfl (ah_ao_1 (ah_rf_cat _) (ah_ao_1 rfl ah_ao_0)) (fun κ hκ => W_X15_isUnder hκ  σ r0 x1 h)
set_option maxRecDepth 20000 in
set_option maxHeartbeats 4000000 in
theorem W_X16_isUnder {κ : ah_C} {rr : (Int32 × ah_S)} (hκ : ah_res κ = (.returned (some (.int rr.1)), rr.2))  (σ : ah_S) (r0 : Option Nat) (x1 : Int32) (h : F_X16_isUnder σ r0 x1 = some rr) : ah_G κ ("LeftAsFound$TakenStay", "isUnder", 2, (some FieldType.boolean), [], 2, 45) cX16_isUnder σ 0 [some (va_rf r0), some (.int x1)] [] := by
  unfold F_X16_isUnder at h
  refine ro_iload_n (pc' := 1) dX16_isUnder_0 rfl rfl rfl ?_
  refine ro_iconst (pc' := 2) dX16_isUnder_1 ic_2 rfl ?_
  refine ro_icmp_eq (pc' := 5) (tgt := 13) dX16_isUnder_2 rfl rfl (fun c => ?_) (fun c => ?_)
  · replace h := ah_ip c h
    refine ro_iconst (pc' := 14) dX16_isUnder_13 ic_1 rfl ?_
    refine ro_goto (tgt := 18) dX16_isUnder_14 rfl ?_
    obtain rfl := Option.some.inj h
    exact ro_zret rfl hκ dX16_isUnder_18
  · replace h := ah_in_ c h
    refine ro_aload_n (pc' := 6) dX16_isUnder_5 rfl rfl rfl ?_
    refine ro_iload_n (pc' := 7) dX16_isUnder_6 rfl rfl rfl ?_
    obtain ⟨u1, hu1, h⟩ := ah_bs h
    obtain ⟨v2, σ3, hv2, h⟩ := ah_bs2 h
    refine ro_callSB (pc' := 10) (x := ⟨"LeftAsFound$Body", "isUnder", "(I)Z"⟩) (owner := "LeftAsFound$Body") (bytes := cX14_isUnder) (maxL := 2) (ret := (some FieldType.boolean)) (As := [.int x1]) (rest := []) (st' := [.int v2]) hu1 (Or.inl ⟨q114, M_X14_isUnder hv2⟩) (Or.inl q1251) (Or.inl q1240) q897 q1238 q1269 (by decide) (Or.inl rfl) sd_1_1 rfl ⟨Nat.le_of_ble_eq_true rfl, Nat.le_of_ble_eq_true rfl⟩ (Nat.le_of_ble_eq_true rfl) dX16_isUnder_7 rfl rfl rfl ?_
    refine ro_if_eq (pc' := 13) (tgt := 17) dX16_isUnder_10 rfl rfl (fun c => ?_) (fun c => ?_)
    · replace h := ah_ip c h
      refine ro_iconst (pc' := 18) dX16_isUnder_17 ic_0 rfl ?_
      obtain rfl := Option.some.inj h
      exact ro_zret rfl hκ dX16_isUnder_18
    · replace h := ah_in_ c h
      refine ro_iconst (pc' := 14) dX16_isUnder_13 ic_1 rfl ?_
      refine ro_goto (tgt := 18) dX16_isUnder_14 rfl ?_
      obtain rfl := Option.some.inj h
      exact ro_zret rfl hκ dX16_isUnder_18
theorem M_X16_isUnder {l : Launch} {D : ah_D}  {σ : ah_S} {r0 : Option Nat} {x1 : Int32} {v : Int32} {σ1 : ah_S} (h : F_X16_isUnder σ r0 x1 = some (v, σ1)) : ah_Met l yX16_isUnder (Cond.code yX16_isUnder cX16_isUnder 2 (some FieldType.boolean)) 2 45 D [va_rf r0, .int x1] σ (.returned (some (.int v)), σ1) :=
  ah_ofG (own := "LeftAsFound$TakenStay") (nm := "isUnder") (L0 := [some (va_rf r0), some (.int x1)]) (by decide) rfl rfl rfl (ah_ao_1 (ah_rf_cat _) (ah_ao_1 rfl ah_ao_0)) (fun κ hκ => W_X16_isUnder hκ  σ r0 x1 h)
set_option maxRecDepth 20000 in
set_option maxHeartbeats 4000000 in
theorem W_X17_isUnder {κ : ah_C} {rr : (Int32 × ah_S)} (hκ : ah_res κ = (.returned (some (.int rr.1)), rr.2))  (σ : ah_S) (r0 : Option Nat) (x1 : Int32) (h : F_X17_isUnder σ r0 x1 = some rr) : ah_G κ ("LeftAsFound$BroughtStay", "isUnder", 2, (some FieldType.boolean), [], 3, 66) cX17_isUnder σ 0 [some (va_rf r0), some (.int x1)] [] := by
  unfold F_X17_isUnder at h
  refine ro_iload_n (pc' := 1) dX17_isUnder_0 rfl rfl rfl ?_
  refine ro_iconst (pc' := 2) dX17_isUnder_1 ic_3 rfl ?_
  refine ro_icmp_eq (pc' := 5) (tgt := 13) dX17_isUnder_2 rfl rfl (fun c => ?_) (fun c => ?_)
  · replace h := ah_ip c h
    refine ro_iconst (pc' := 14) dX17_isUnder_13 ic_1 rfl ?_
    refine ro_goto (tgt := 18) dX17_isUnder_14 rfl ?_
    obtain rfl := Option.some.inj h
    exact ro_zret rfl hκ dX17_isUnder_18
  · replace h := ah_in_ c h
    refine ro_aload_n (pc' := 6) dX17_isUnder_5 rfl rfl rfl ?_
    refine ro_iload_n (pc' := 7) dX17_isUnder_6 rfl rfl rfl ?_
    obtain ⟨u1, hu1, h⟩ := ah_bs h
    obtain ⟨v2, σ3, hv2, h⟩ := ah_bs2 h
    refine ro_callSB (pc' := 10) (x := ⟨"LeftAsFound$TakenStay", "isUnder", "(I)Z"⟩) (owner := "LeftAsFound$TakenStay") (bytes := cX16_isUnder) (maxL := 2) (ret := (some FieldType.boolean)) (As := [.int x1]) (rest := []) (st' := [.int v2]) hu1 (Or.inl ⟨q116, M_X16_isUnder hv2⟩) (Or.inl q1248) (Or.inl q1928) q910 q1249 q1250 (by decide) (Or.inl rfl) sd_1_1 rfl ⟨Nat.le_of_ble_eq_true rfl, Nat.le_of_ble_eq_true rfl⟩ (Nat.le_of_ble_eq_true rfl) dX17_isUnder_7 rfl rfl rfl ?_
    refine ro_if_eq (pc' := 13) (tgt := 17) dX17_isUnder_10 rfl rfl (fun c => ?_) (fun c => ?_)
    · replace h := ah_ip c h
      refine ro_iconst (pc' := 18) dX17_isUnder_17 ic_0 rfl ?_
      obtain rfl := Option.some.inj h
      exact ro_zret rfl hκ dX17_isUnder_18
    · replace h := ah_in_ c h
      refine ro_iconst (pc' := 14) dX17_isUnder_13 ic_1 rfl ?_
      refine ro_goto (tgt := 18) dX17_isUnder_14 rfl ?_
      obtain rfl := Option.some.inj h
      exact ro_zret rfl hκ dX17_isUnder_18
theorem M_X17_isUnder {l : Launch} {D : ah_D}  {σ : ah_S} {r0 : Option Nat} {x1 : Int32} {v : Int32} {σ1 : ah_S} (h : F_X17_isUnder σ r0 x1 = some (v, σ1)) : ah_Met l yX17_isUnder (Cond.code yX17_isUnder cX17_isUnder 2 (some FieldType.boolean)) 3 66 D [va_rf r0, .int x1] σ (.returned (some (.int v)), σ1) :=
  ah_ofG (own := "LeftAsFound$BroughtStay") (nm := "isUnder") (L0 := [some (va_rf r0), some (.int x1)]) (by decide) rfl rfl rfl (ah_ao_1 (ah_rf_cat _) (ah_ao_1 rfl ah_ao_0)) (fun κ hκ => W_X17_isUnder hκ  σ r0 x1 h)
set_option maxRecDepth 20000 in
set_option maxHeartbeats 4000000 in
theorem W_X18_isUnder {κ : ah_C} {rr : (Int32 × ah_S)} (hκ : ah_res κ = (.returned (some (.int rr.1)), rr.2))  (σ : ah_S) (r0 : Option Nat) (x1 : Int32) (h : F_X18_isUnder σ r0 x1 = some rr) : ah_G κ ("LeftAsFound$SeenStay", "isUnder", 2, (some FieldType.boolean), [], 3, 66) cX18_isUnder σ 0 [some (va_rf r0), some (.int x1)] [] := by
  unfold F_X18_isUnder at h
  refine ro_iload_n (pc' := 1) dX18_isUnder_0 rfl rfl rfl ?_
  refine ro_iconst (pc' := 2) dX18_isUnder_1 ic_4 rfl ?_
  refine ro_icmp_eq (pc' := 5) (tgt := 13) dX18_isUnder_2 rfl rfl (fun c => ?_) (fun c => ?_)
  · replace h := ah_ip c h
    refine ro_iconst (pc' := 14) dX18_isUnder_13 ic_1 rfl ?_
    refine ro_goto (tgt := 18) dX18_isUnder_14 rfl ?_
    obtain rfl := Option.some.inj h
    exact ro_zret rfl hκ dX18_isUnder_18
  · replace h := ah_in_ c h
    refine ro_aload_n (pc' := 6) dX18_isUnder_5 rfl rfl rfl ?_
    refine ro_iload_n (pc' := 7) dX18_isUnder_6 rfl rfl rfl ?_
    obtain ⟨u1, hu1, h⟩ := ah_bs h
    obtain ⟨v2, σ3, hv2, h⟩ := ah_bs2 h
    refine ro_callSB (pc' := 10) (x := ⟨"LeftAsFound$FoundStay", "isUnder", "(I)Z"⟩) (owner := "LeftAsFound$FoundStay") (bytes := cX15_isUnder) (maxL := 2) (ret := (some FieldType.boolean)) (As := [.int x1]) (rest := []) (st' := [.int v2]) hu1 (Or.inl ⟨q115, M_X15_isUnder hv2⟩) (Or.inl q1263) (Or.inl q1930) q923 q1253 q1254 (by decide) (Or.inl rfl) sd_1_1 rfl ⟨Nat.le_of_ble_eq_true rfl, Nat.le_of_ble_eq_true rfl⟩ (Nat.le_of_ble_eq_true rfl) dX18_isUnder_7 rfl rfl rfl ?_
    refine ro_if_eq (pc' := 13) (tgt := 17) dX18_isUnder_10 rfl rfl (fun c => ?_) (fun c => ?_)
    · replace h := ah_ip c h
      refine ro_iconst (pc' := 18) dX18_isUnder_17 ic_0 rfl ?_
      obtain rfl := Option.some.inj h
      exact ro_zret rfl hκ dX18_isUnder_18
    · replace h := ah_in_ c h
      refine ro_iconst (pc' := 14) dX18_isUnder_13 ic_1 rfl ?_
      refine ro_goto (tgt := 18) dX18_isUnder_14 rfl ?_
      obtain rfl := Option.some.inj h
      exact ro_zret rfl hκ dX18_isUnder_18
theorem M_X18_isUnder {l : Launch} {D : ah_D}  {σ : ah_S} {r0 : Option Nat} {x1 : Int32} {v : Int32} {σ1 : ah_S} (h : F_X18_isUnder σ r0 x1 = some (v, σ1)) : ah_Met l yX18_isUnder (Cond.code yX18_isUnder cX18_isUnder 2 (some FieldType.boolean)) 3 66 D [va_rf r0, .int x1] σ (.returned (some (.int v)), σ1) :=
  ah_ofG (own := "LeftAsFound$SeenStay") (nm := "isUnder") (L0 := [some (va_rf r0), some (.int x1)]) (by decide) rfl rfl rfl (ah_ao_1 (ah_rf_cat _) (ah_ao_1 rfl ah_ao_0)) (fun κ hκ => W_X18_isUnder hκ  σ r0 x1 h)
set_option maxRecDepth 20000 in
set_option maxHeartbeats 4000000 in
theorem W_X19_isUnder {κ : ah_C} {rr : (Int32 × ah_S)} (hκ : ah_res κ = (.returned (some (.int rr.1)), rr.2))  (σ : ah_S) (r0 : Option Nat) (x1 : Int32) (h : F_X19_isUnder σ r0 x1 = some rr) : ah_G κ ("LeftAsFound$WrittenStay", "isUnder", 2, (some FieldType.boolean), [], 4, 87) cX19_isUnder σ 0 [some (va_rf r0), some (.int x1)] [] := by
  unfold F_X19_isUnder at h
  refine ro_iload_n (pc' := 1) dX19_isUnder_0 rfl rfl rfl ?_
  refine ro_iconst (pc' := 2) dX19_isUnder_1 ic_5 rfl ?_
  refine ro_icmp_eq (pc' := 5) (tgt := 13) dX19_isUnder_2 rfl rfl (fun c => ?_) (fun c => ?_)
  · replace h := ah_ip c h
    refine ro_iconst (pc' := 14) dX19_isUnder_13 ic_1 rfl ?_
    refine ro_goto (tgt := 18) dX19_isUnder_14 rfl ?_
    obtain rfl := Option.some.inj h
    exact ro_zret rfl hκ dX19_isUnder_18
  · replace h := ah_in_ c h
    refine ro_aload_n (pc' := 6) dX19_isUnder_5 rfl rfl rfl ?_
    refine ro_iload_n (pc' := 7) dX19_isUnder_6 rfl rfl rfl ?_
    obtain ⟨u1, hu1, h⟩ := ah_bs h
    obtain ⟨v2, σ3, hv2, h⟩ := ah_bs2 h
    refine ro_callSB (pc' := 10) (x := ⟨"LeftAsFound$BroughtStay", "isUnder", "(I)Z"⟩) (owner := "LeftAsFound$BroughtStay") (bytes := cX17_isUnder) (maxL := 2) (ret := (some FieldType.boolean)) (As := [.int x1]) (rest := []) (st' := [.int v2]) hu1 (Or.inl ⟨q117, M_X17_isUnder hv2⟩) (Or.inl q1268) (Or.inl q1931) q937 q1246 q1247 (by decide) (Or.inl rfl) sd_1_1 rfl ⟨Nat.le_of_ble_eq_true rfl, Nat.le_of_ble_eq_true rfl⟩ (Nat.le_of_ble_eq_true rfl) dX19_isUnder_7 rfl rfl rfl ?_
    refine ro_if_eq (pc' := 13) (tgt := 17) dX19_isUnder_10 rfl rfl (fun c => ?_) (fun c => ?_)
    · replace h := ah_ip c h
      refine ro_iconst (pc' := 18) dX19_isUnder_17 ic_0 rfl ?_
      obtain rfl := Option.some.inj h
      exact ro_zret rfl hκ dX19_isUnder_18
    · replace h := ah_in_ c h
      refine ro_iconst (pc' := 14) dX19_isUnder_13 ic_1 rfl ?_
      refine ro_goto (tgt := 18) dX19_isUnder_14 rfl ?_
      obtain rfl := Option.some.inj h
      exact ro_zret rfl hκ dX19_isUnder_18
theorem M_X19_isUnder {l : Launch} {D : ah_D}  {σ : ah_S} {r0 : Option Nat} {x1 : Int32} {v : Int32} {σ1 : ah_S} (h : F_X19_isUnder σ r0 x1 = some (v, σ1)) : ah_Met l yX19_isUnder (Cond.code yX19_isUnder cX19_isUnder 2 (some FieldType.boolean)) 4 87 D [va_rf r0, .int x1] σ (.returned (some (.int v)), σ1) :=
  ah_ofG (own := "LeftAsFound$WrittenStay") (nm := "isUnder") (L0 := [some (va_rf r0), some (.int x1)]) (by decide) rfl rfl rfl (ah_ao_1 (ah_rf_cat _) (ah_ao_1 rfl ah_ao_0)) (fun κ hκ => W_X19_isUnder hκ  σ r0 x1 h)
set_option maxRecDepth 20000 in
set_option maxHeartbeats 4000000 in
theorem W_X20_isUnder {κ : ah_C} {rr : (Int32 × ah_S)} (hκ : ah_res κ = (.returned (some (.int rr.1)), rr.2))  (σ : ah_S) (r0 : Option Nat) (x1 : Int32) (h : F_X20_isUnder σ r0 x1 = some rr) : ah_G κ ("LeftAsFound$BareStay", "isUnder", 2, (some FieldType.boolean), [], 2, 45) cX20_isUnder σ 0 [some (va_rf r0), some (.int x1)] [] := by
  unfold F_X20_isUnder at h
  refine ro_iload_n (pc' := 1) dX20_isUnder_0 rfl rfl rfl ?_
  refine ro_bipush (pc' := 3) dX20_isUnder_1 ib_6 rfl ?_
  refine ro_icmp_eq (pc' := 6) (tgt := 14) dX20_isUnder_3 rfl rfl (fun c => ?_) (fun c => ?_)
  · replace h := ah_ip c h
    refine ro_iconst (pc' := 15) dX20_isUnder_14 ic_1 rfl ?_
    refine ro_goto (tgt := 19) dX20_isUnder_15 rfl ?_
    obtain rfl := Option.some.inj h
    exact ro_zret rfl hκ dX20_isUnder_19
  · replace h := ah_in_ c h
    refine ro_aload_n (pc' := 7) dX20_isUnder_6 rfl rfl rfl ?_
    refine ro_iload_n (pc' := 8) dX20_isUnder_7 rfl rfl rfl ?_
    obtain ⟨u1, hu1, h⟩ := ah_bs h
    obtain ⟨v2, σ3, hv2, h⟩ := ah_bs2 h
    refine ro_callSB (pc' := 11) (x := ⟨"LeftAsFound$Body", "isUnder", "(I)Z"⟩) (owner := "LeftAsFound$Body") (bytes := cX14_isUnder) (maxL := 2) (ret := (some FieldType.boolean)) (As := [.int x1]) (rest := []) (st' := [.int v2]) hu1 (Or.inl ⟨q114, M_X14_isUnder hv2⟩) (Or.inl q1244) (Or.inl q1240) q949 q1238 q1269 (by decide) (Or.inl rfl) sd_1_1 rfl ⟨Nat.le_of_ble_eq_true rfl, Nat.le_of_ble_eq_true rfl⟩ (Nat.le_of_ble_eq_true rfl) dX20_isUnder_8 rfl rfl rfl ?_
    refine ro_if_eq (pc' := 14) (tgt := 18) dX20_isUnder_11 rfl rfl (fun c => ?_) (fun c => ?_)
    · replace h := ah_ip c h
      refine ro_iconst (pc' := 19) dX20_isUnder_18 ic_0 rfl ?_
      obtain rfl := Option.some.inj h
      exact ro_zret rfl hκ dX20_isUnder_19
    · replace h := ah_in_ c h
      refine ro_iconst (pc' := 15) dX20_isUnder_14 ic_1 rfl ?_
      refine ro_goto (tgt := 19) dX20_isUnder_15 rfl ?_
      obtain rfl := Option.some.inj h
      exact ro_zret rfl hκ dX20_isUnder_19
theorem M_X20_isUnder {l : Launch} {D : ah_D}  {σ : ah_S} {r0 : Option Nat} {x1 : Int32} {v : Int32} {σ1 : ah_S} (h : F_X20_isUnder σ r0 x1 = some (v, σ1)) : ah_Met l yX20_isUnder (Cond.code yX20_isUnder cX20_isUnder 2 (some FieldType.boolean)) 2 45 D [va_rf r0, .int x1] σ (.returned (some (.int v)), σ1) :=
  ah_ofG (own := "LeftAsFound$BareStay") (nm := "isUnder") (L0 := [some (va_rf r0), some (.int x1)]) (by decide) rfl rfl rfl (ah_ao_1 (ah_rf_cat _) (ah_ao_1 rfl ah_ao_0)) (fun κ hκ => W_X20_isUnder hκ  σ r0 x1 h)
set_option maxRecDepth 20000 in
set_option maxHeartbeats 4000000 in
theorem W_X21_isUnder {κ : ah_C} {rr : (Int32 × ah_S)} (hκ : ah_res κ = (.returned (some (.int rr.1)), rr.2))  (σ : ah_S) (r0 : Option Nat) (x1 : Int32) (h : F_X21_isUnder σ r0 x1 = some rr) : ah_G κ ("LeftAsFound$MouseStay", "isUnder", 2, (some FieldType.boolean), [], 3, 66) cX21_isUnder σ 0 [some (va_rf r0), some (.int x1)] [] := by
  unfold F_X21_isUnder at h
  refine ro_iload_n (pc' := 1) dX21_isUnder_0 rfl rfl rfl ?_
  refine ro_bipush (pc' := 3) dX21_isUnder_1 ib_7 rfl ?_
  refine ro_icmp_eq (pc' := 6) (tgt := 14) dX21_isUnder_3 rfl rfl (fun c => ?_) (fun c => ?_)
  · replace h := ah_ip c h
    refine ro_iconst (pc' := 15) dX21_isUnder_14 ic_1 rfl ?_
    refine ro_goto (tgt := 19) dX21_isUnder_15 rfl ?_
    obtain rfl := Option.some.inj h
    exact ro_zret rfl hκ dX21_isUnder_19
  · replace h := ah_in_ c h
    refine ro_aload_n (pc' := 7) dX21_isUnder_6 rfl rfl rfl ?_
    refine ro_iload_n (pc' := 8) dX21_isUnder_7 rfl rfl rfl ?_
    obtain ⟨u1, hu1, h⟩ := ah_bs h
    obtain ⟨v2, σ3, hv2, h⟩ := ah_bs2 h
    refine ro_callSB (pc' := 11) (x := ⟨"LeftAsFound$BareStay", "isUnder", "(I)Z"⟩) (owner := "LeftAsFound$BareStay") (bytes := cX20_isUnder) (maxL := 2) (ret := (some FieldType.boolean)) (As := [.int x1]) (rest := []) (st' := [.int v2]) hu1 (Or.inl ⟨q120, M_X20_isUnder hv2⟩) (Or.inl q1259) (Or.inl q1929) q962 q1242 q1243 (by decide) (Or.inl rfl) sd_1_1 rfl ⟨Nat.le_of_ble_eq_true rfl, Nat.le_of_ble_eq_true rfl⟩ (Nat.le_of_ble_eq_true rfl) dX21_isUnder_8 rfl rfl rfl ?_
    refine ro_if_eq (pc' := 14) (tgt := 18) dX21_isUnder_11 rfl rfl (fun c => ?_) (fun c => ?_)
    · replace h := ah_ip c h
      refine ro_iconst (pc' := 19) dX21_isUnder_18 ic_0 rfl ?_
      obtain rfl := Option.some.inj h
      exact ro_zret rfl hκ dX21_isUnder_19
    · replace h := ah_in_ c h
      refine ro_iconst (pc' := 15) dX21_isUnder_14 ic_1 rfl ?_
      refine ro_goto (tgt := 19) dX21_isUnder_15 rfl ?_
      obtain rfl := Option.some.inj h
      exact ro_zret rfl hκ dX21_isUnder_19
theorem M_X21_isUnder {l : Launch} {D : ah_D}  {σ : ah_S} {r0 : Option Nat} {x1 : Int32} {v : Int32} {σ1 : ah_S} (h : F_X21_isUnder σ r0 x1 = some (v, σ1)) : ah_Met l yX21_isUnder (Cond.code yX21_isUnder cX21_isUnder 2 (some FieldType.boolean)) 3 66 D [va_rf r0, .int x1] σ (.returned (some (.int v)), σ1) :=
  ah_ofG (own := "LeftAsFound$MouseStay") (nm := "isUnder") (L0 := [some (va_rf r0), some (.int x1)]) (by decide) rfl rfl rfl (ah_ao_1 (ah_rf_cat _) (ah_ao_1 rfl ah_ao_0)) (fun κ hκ => W_X21_isUnder hκ  σ r0 x1 h)
set_option maxRecDepth 20000 in
set_option maxHeartbeats 4000000 in
theorem W_X14_begins {κ : ah_C} {rr : ah_S} (hκ : ah_res κ = (.returned none, rr))  (σ : ah_S) (r0 : Option Nat) (x1 : Int32) (h : F_X14_begins σ r0 x1 = some rr) : ah_G κ ("LeftAsFound$Body", "begins", 2, none, [], 1, 24) cX14_begins σ 0 [some (va_rf r0), some (.int x1)] [] := by
  unfold F_X14_begins at h
  refine ro_aload_n (pc' := 1) dX14_begins_0 rfl rfl rfl ?_
  obtain ⟨v1, hv1, h⟩ := ah_bs h
  refine ro_getR (pc' := 4) ft_1401 fk_1401 q878 dX14_begins_1 rfl hv1 ?_
  obtain ⟨v2, hv2, h⟩ := ah_bs h
  refine ro_getIN (pc' := 7) ft_40 fk_40 nq335 dX14_begins_4 rfl hv2 ?_
  refine ro_bipush (pc' := 9) dX14_begins_7 ib_24 rfl ?_
  refine ro_icmp_ge (pc' := 12) (tgt := 28) dX14_begins_9 rfl rfl (fun c => ?_) (fun c => ?_)
  · replace h := ah_ip c h
    refine ro_aload_n (pc' := 29) dX14_begins_28 rfl rfl rfl ?_
    obtain ⟨v3, hv3, h⟩ := ah_bs h
    refine ro_getR (pc' := 32) ft_1401 fk_1401 q878 dX14_begins_29 rfl hv3 ?_
    refine ro_dup (pc' := 33) dX14_begins_32 (ah_rf_cat _) rfl ?_
    obtain ⟨v4, hv4, h⟩ := ah_bs h
    refine ro_getIN (pc' := 36) ft_40 fk_40 nq335 dX14_begins_33 rfl hv4 ?_
    refine ro_iconst (pc' := 37) dX14_begins_36 ic_1 rfl ?_
    refine ro_iadd (pc' := 38) dX14_begins_37 rfl ?_
    obtain ⟨σ5, hσ5, h⟩ := ah_bs h
    refine ro_putIN (pc' := 41) ft_40 fk_40 nq335 pd_40 dX14_begins_38 rfl hσ5 ?_
    obtain rfl := Option.some.inj h
    exact ro_vret hκ dX14_begins_41
  · replace h := ah_in_ c h
    refine ro_aload_n (pc' := 13) dX14_begins_12 rfl rfl rfl ?_
    obtain ⟨v6, hv6, h⟩ := ah_bs h
    refine ro_getR (pc' := 16) ft_1401 fk_1401 q878 dX14_begins_13 rfl hv6 ?_
    obtain ⟨v7, hv7, h⟩ := ah_bs h
    refine ro_getRN (pc' := 19) ft_39 fk_39 nq333 dX14_begins_16 rfl hv7 ?_
    refine ro_aload_n (pc' := 20) dX14_begins_19 rfl rfl rfl ?_
    obtain ⟨v8, hv8, h⟩ := ah_bs h
    refine ro_getR (pc' := 23) ft_1401 fk_1401 q878 dX14_begins_20 rfl hv8 ?_
    obtain ⟨v9, hv9, h⟩ := ah_bs h
    refine ro_getIN (pc' := 26) ft_40 fk_40 nq335 dX14_begins_23 rfl hv9 ?_
    refine ro_iload_n (pc' := 27) dX14_begins_26 rfl rfl rfl ?_
    obtain ⟨σ10, hσ10, h⟩ := ah_bs h
    refine ro_iastore (pc' := 28) dX14_begins_27 rfl hσ10 ?_
    refine ro_aload_n (pc' := 29) dX14_begins_28 rfl rfl rfl ?_
    obtain ⟨v11, hv11, h⟩ := ah_bs h
    refine ro_getR (pc' := 32) ft_1401 fk_1401 q878 dX14_begins_29 rfl hv11 ?_
    refine ro_dup (pc' := 33) dX14_begins_32 (ah_rf_cat _) rfl ?_
    obtain ⟨v12, hv12, h⟩ := ah_bs h
    refine ro_getIN (pc' := 36) ft_40 fk_40 nq335 dX14_begins_33 rfl hv12 ?_
    refine ro_iconst (pc' := 37) dX14_begins_36 ic_1 rfl ?_
    refine ro_iadd (pc' := 38) dX14_begins_37 rfl ?_
    obtain ⟨σ13, hσ13, h⟩ := ah_bs h
    refine ro_putIN (pc' := 41) ft_40 fk_40 nq335 pd_40 dX14_begins_38 rfl hσ13 ?_
    obtain rfl := Option.some.inj h
    exact ro_vret hκ dX14_begins_41
theorem M_X14_begins {l : Launch} {D : ah_D}  {σ : ah_S} {r0 : Option Nat} {x1 : Int32} {σ1 : ah_S} (h : F_X14_begins σ r0 x1 = some σ1) : ah_Met l yX14_begins (Cond.code yX14_begins cX14_begins 2 none) 1 24 D [va_rf r0, .int x1] σ (.returned none, σ1) :=
  ah_ofG (own := "LeftAsFound$Body") (nm := "begins") (L0 := [some (va_rf r0), some (.int x1)]) (by decide) rfl rfl rfl (ah_ao_1 (ah_rf_cat _) (ah_ao_1 rfl ah_ao_0)) (fun κ hκ => W_X14_begins hκ  σ r0 x1 h)
set_option maxRecDepth 20000 in
set_option maxHeartbeats 4000000 in
theorem W_X14_number {κ : ah_C} {rr : (Int32 × ah_S)} (hκ : ah_res κ = (.returned (some (.int rr.1)), rr.2))  (σ : ah_S) (r0 : Option Nat) (h : F_X14_number σ r0 = some rr) : ah_G κ ("LeftAsFound$Body", "number", 1, (some FieldType.int), [], 1, 24) cX14_number σ 0 [some (va_rf r0)] [] := by
  unfold F_X14_number at h
  refine ro_aload_n (pc' := 1) dX14_number_0 rfl rfl rfl ?_
  obtain ⟨v1, hv1, h⟩ := ah_bs h
  refine ro_getI (pc' := 4) ft_1400 fk_1400 q877 dX14_number_1 rfl hv1 ?_
  obtain rfl := Option.some.inj h
  exact ro_iret hκ dX14_number_4
theorem M_X14_number {l : Launch} {D : ah_D}  {σ : ah_S} {r0 : Option Nat} {v : Int32} {σ1 : ah_S} (h : F_X14_number σ r0 = some (v, σ1)) : ah_Met l yX14_number (Cond.code yX14_number cX14_number 1 (some FieldType.int)) 1 24 D [va_rf r0] σ (.returned (some (.int v)), σ1) :=
  ah_ofG (own := "LeftAsFound$Body") (nm := "number") (L0 := [some (va_rf r0)]) (by decide) rfl rfl rfl (ah_ao_1 (ah_rf_cat _) ah_ao_0) (fun κ hκ => W_X14_number hκ  σ r0 h)
theorem N_B22_begins {l : Launch} {D : ah_D} {σ : ah_S} {r : Option Nat} {x1 : Int32} {σ1 : ah_S} (h : Z_B22_begins σ r x1 = some σ1) : ah_VI l ⟨"LeftAsFound$Comes", "begins", "(I)V"⟩  1 26 D r [.int x1] σ none σ1 := by
  obtain ⟨a, e, h⟩ := ah_bs h
  by_cases c15 : ah_tg σ a = 15
  · replace h := ah_ip c15 h
    exact ⟨15, yX14_begins, cX14_begins, 2, none, 1, 24, by rw [e]; exact ah_is_of c15, by decide, q998, nq996, nq999, nq997, q985, q986, ⟨by decide, by decide⟩, Or.inl ⟨q114, M_X14_begins h⟩⟩
  replace h := ah_in_ c15 h
  by_cases c16 : ah_tg σ a = 16
  · replace h := ah_ip c16 h
    exact ⟨16, yX14_begins, cX14_begins, 2, none, 1, 24, by rw [e]; exact ah_is_of c16, by decide, q1004, nq996, nq1005, nq1003, q985, q986, ⟨by decide, by decide⟩, Or.inl ⟨q114, M_X14_begins h⟩⟩
  replace h := ah_in_ c16 h
  by_cases c17 : ah_tg σ a = 17
  · replace h := ah_ip c17 h
    exact ⟨17, yX14_begins, cX14_begins, 2, none, 1, 24, by rw [e]; exact ah_is_of c17, by decide, q1013, nq996, nq1014, nq1012, q985, q986, ⟨by decide, by decide⟩, Or.inl ⟨q114, M_X14_begins h⟩⟩
  replace h := ah_in_ c17 h
  by_cases c18 : ah_tg σ a = 18
  · replace h := ah_ip c18 h
    exact ⟨18, yX14_begins, cX14_begins, 2, none, 1, 24, by rw [e]; exact ah_is_of c18, by decide, q1001, nq996, nq1002, nq1000, q985, q986, ⟨by decide, by decide⟩, Or.inl ⟨q114, M_X14_begins h⟩⟩
  replace h := ah_in_ c18 h
  by_cases c19 : ah_tg σ a = 19
  · replace h := ah_ip c19 h
    exact ⟨19, yX14_begins, cX14_begins, 2, none, 1, 24, by rw [e]; exact ah_is_of c19, by decide, q1010, nq996, nq1011, nq1009, q985, q986, ⟨by decide, by decide⟩, Or.inl ⟨q114, M_X14_begins h⟩⟩
  replace h := ah_in_ c19 h
  by_cases c20 : ah_tg σ a = 20
  · replace h := ah_ip c20 h
    exact ⟨20, yX14_begins, cX14_begins, 2, none, 1, 24, by rw [e]; exact ah_is_of c20, by decide, q1016, nq996, nq1017, nq1015, q985, q986, ⟨by decide, by decide⟩, Or.inl ⟨q114, M_X14_begins h⟩⟩
  replace h := ah_in_ c20 h
  by_cases c21 : ah_tg σ a = 21
  · replace h := ah_ip c21 h
    exact ⟨21, yX14_begins, cX14_begins, 2, none, 1, 24, by rw [e]; exact ah_is_of c21, by decide, q994, nq996, nq995, nq993, q985, q986, ⟨by decide, by decide⟩, Or.inl ⟨q114, M_X14_begins h⟩⟩
  replace h := ah_in_ c21 h
  by_cases c22 : ah_tg σ a = 22
  · replace h := ah_ip c22 h
    exact ⟨22, yX14_begins, cX14_begins, 2, none, 1, 24, by rw [e]; exact ah_is_of c22, by decide, q1007, nq996, nq1008, nq1006, q985, q986, ⟨by decide, by decide⟩, Or.inl ⟨q114, M_X14_begins h⟩⟩
  replace h := ah_in_ c22 h
  cases h
theorem N_B22_number {l : Launch} {D : ah_D} {σ : ah_S} {r : Option Nat}  {v : Int32} {σ1 : ah_S} (h : Z_B22_number σ r  = some (v, σ1)) : ah_VI l ⟨"LeftAsFound$Comes", "number", "()I"⟩  1 25 D r [] σ (some (.int v)) σ1 := by
  obtain ⟨a, e, h⟩ := ah_bs h
  by_cases c15 : ah_tg σ a = 15
  · replace h := ah_ip c15 h
    exact ⟨15, yX14_number, cX14_number, 1, (some FieldType.int), 1, 24, by rw [e]; exact ah_is_of c15, by decide, q1027, nq1025, nq1028, nq997, q1024, q1026, ⟨by decide, by decide⟩, Or.inl ⟨q114, M_X14_number h⟩⟩
  replace h := ah_in_ c15 h
  by_cases c16 : ah_tg σ a = 16
  · replace h := ah_ip c16 h
    exact ⟨16, yX14_number, cX14_number, 1, (some FieldType.int), 1, 24, by rw [e]; exact ah_is_of c16, by decide, q1031, nq1025, nq1032, nq1003, q1024, q1026, ⟨by decide, by decide⟩, Or.inl ⟨q114, M_X14_number h⟩⟩
  replace h := ah_in_ c16 h
  by_cases c17 : ah_tg σ a = 17
  · replace h := ah_ip c17 h
    exact ⟨17, yX14_number, cX14_number, 1, (some FieldType.int), 1, 24, by rw [e]; exact ah_is_of c17, by decide, q1037, nq1025, nq1038, nq1012, q1024, q1026, ⟨by decide, by decide⟩, Or.inl ⟨q114, M_X14_number h⟩⟩
  replace h := ah_in_ c17 h
  by_cases c18 : ah_tg σ a = 18
  · replace h := ah_ip c18 h
    exact ⟨18, yX14_number, cX14_number, 1, (some FieldType.int), 1, 24, by rw [e]; exact ah_is_of c18, by decide, q1029, nq1025, nq1030, nq1000, q1024, q1026, ⟨by decide, by decide⟩, Or.inl ⟨q114, M_X14_number h⟩⟩
  replace h := ah_in_ c18 h
  by_cases c19 : ah_tg σ a = 19
  · replace h := ah_ip c19 h
    exact ⟨19, yX14_number, cX14_number, 1, (some FieldType.int), 1, 24, by rw [e]; exact ah_is_of c19, by decide, q1035, nq1025, nq1036, nq1009, q1024, q1026, ⟨by decide, by decide⟩, Or.inl ⟨q114, M_X14_number h⟩⟩
  replace h := ah_in_ c19 h
  by_cases c20 : ah_tg σ a = 20
  · replace h := ah_ip c20 h
    exact ⟨20, yX14_number, cX14_number, 1, (some FieldType.int), 1, 24, by rw [e]; exact ah_is_of c20, by decide, q1039, nq1025, nq1040, nq1015, q1024, q1026, ⟨by decide, by decide⟩, Or.inl ⟨q114, M_X14_number h⟩⟩
  replace h := ah_in_ c20 h
  by_cases c21 : ah_tg σ a = 21
  · replace h := ah_ip c21 h
    exact ⟨21, yX14_number, cX14_number, 1, (some FieldType.int), 1, 24, by rw [e]; exact ah_is_of c21, by decide, q1022, nq1025, nq1023, nq993, q1024, q1026, ⟨by decide, by decide⟩, Or.inl ⟨q114, M_X14_number h⟩⟩
  replace h := ah_in_ c21 h
  by_cases c22 : ah_tg σ a = 22
  · replace h := ah_ip c22 h
    exact ⟨22, yX14_number, cX14_number, 1, (some FieldType.int), 1, 24, by rw [e]; exact ah_is_of c22, by decide, q1033, nq1025, nq1034, nq1006, q1024, q1026, ⟨by decide, by decide⟩, Or.inl ⟨q114, M_X14_number h⟩⟩
  replace h := ah_in_ c22 h
  cases h
set_option maxRecDepth 20000 in
set_option maxHeartbeats 4000000 in
theorem W_X22_comes {κ : ah_C} {rr : (Int32 × ah_S)} (hκ : ah_res κ = (.returned (some (.int rr.1)), rr.2))  (σ : ah_S) (r0 : Option Nat) (x1 : Int32) (h : F_X22_comes σ r0 x1 = some rr) : ah_G κ ("LeftAsFound$Comes", "comes", 2, (some FieldType.int), [], 2, 45) cX22_comes σ 0 [some (va_rf r0), some (.int x1)] [] := by
  unfold F_X22_comes at h
  refine ro_aload_n (pc' := 1) dX22_comes_0 rfl rfl rfl ?_
  refine ro_iconst (pc' := 2) dX22_comes_1 ic_1 rfl ?_
  obtain ⟨σ1, hσ1, h⟩ := ah_bs h
  refine ro_callIB (pc' := 7) (As := [.int (1 : Int32)]) (rest := []) (st' := []) (N_B22_begins hσ1) q990 nq992 nq991 dd_B22_begins rfl ⟨Nat.le_of_ble_eq_true rfl, Nat.le_of_ble_eq_true rfl⟩ (Nat.le_of_ble_eq_true rfl) dX22_comes_2 rfl rfl rfl ?_
  refine ro_iload_n (pc' := 8) dX22_comes_7 rfl rfl rfl ?_
  refine ro_aload_n (pc' := 9) dX22_comes_8 rfl rfl rfl ?_
  obtain ⟨v2, σ3, hv2, h⟩ := ah_bs2 h
  refine ro_callIB (pc' := 14) (As := []) (rest := [.int x1]) (st' := [.int v2, .int x1]) (N_B22_number hv2) q1019 nq1021 nq1020 dd_B22_number rfl ⟨Nat.le_of_ble_eq_true rfl, Nat.le_of_ble_eq_true rfl⟩ (Nat.le_of_ble_eq_true rfl) dX22_comes_9 rfl rfl rfl ?_
  refine ro_iadd (pc' := 15) dX22_comes_14 rfl ?_
  obtain rfl := Option.some.inj h
  exact ro_iret hκ dX22_comes_15
theorem M_X22_comes {l : Launch} {D : ah_D} {σ : ah_S} {r0 : Option Nat} {x1 : Int32} {v : Int32} {σ1 : ah_S} (h : F_X22_comes σ r0 x1 = some (v, σ1)) : ah_MetD l yX22_comes cX22_comes 2 (some FieldType.int) 2 45 D [va_rf r0, .int x1] σ (.returned (some (.int v)), σ1) :=
  ah_ofGD (own := "LeftAsFound$Comes") (nm := "comes") (L0 := [some (va_rf r0), some (.int x1)]) rfl rfl rfl (ah_ao_1 (ah_rf_cat _) (ah_ao_1 rfl ah_ao_0)) (fun κ hκ => W_X22_comes hκ σ r0 x1 h)
theorem N_B15_begins {l : Launch} {D : ah_D} {σ : ah_S} {r : Option Nat} {x1 : Int32} {σ1 : ah_S} (h : Z_B15_begins σ r x1 = some σ1) : ah_VB l ⟨"LeftAsFound$FoundStay", "begins", "(I)V"⟩ "LeftAsFound$Body" 1 26 D r [.int x1] σ none σ1 := by
  obtain ⟨a, e, h⟩ := ah_bs h
  by_cases c16 : ah_tg σ a = 16
  · replace h := ah_ip c16 h
    exact ⟨16, yX14_begins, cX14_begins, 2, none, 1, 24, by rw [e]; exact ah_is_of c16, by decide, Or.inl q1048, q985, q986, ⟨by decide, by decide⟩, Or.inl ⟨q114, M_X14_begins h⟩⟩
  replace h := ah_in_ c16 h
  by_cases c19 : ah_tg σ a = 19
  · replace h := ah_ip c19 h
    exact ⟨19, yX14_begins, cX14_begins, 2, none, 1, 24, by rw [e]; exact ah_is_of c19, by decide, Or.inl q1049, q985, q986, ⟨by decide, by decide⟩, Or.inl ⟨q114, M_X14_begins h⟩⟩
  replace h := ah_in_ c19 h
  cases h
set_option maxRecDepth 20000 in
set_option maxHeartbeats 4000000 in
theorem W_X15_comes {κ : ah_C} {rr : (Int32 × ah_S)} (hκ : ah_res κ = (.returned (some (.int rr.1)), rr.2))  (σ : ah_S) (r0 : Option Nat) (x1 : Int32) (h : F_X15_comes σ r0 x1 = some rr) : ah_G κ ("LeftAsFound$FoundStay", "comes", 2, (some FieldType.int), [], 3, 66) cX15_comes σ 0 [some (va_rf r0), some (.int x1)] [] := by
  unfold F_X15_comes at h
  refine ro_aload_n (pc' := 1) dX15_comes_0 rfl rfl rfl ?_
  refine ro_bipush (pc' := 3) dX15_comes_1 ib_20 rfl ?_
  obtain ⟨σ1, hσ1, h⟩ := ah_bs h
  refine ro_callVB (pc' := 6) (As := [.int (20 : Int32)]) (rest := []) (st' := []) (N_B15_begins hσ1) (Or.inl q1046) (Or.inl q1047) (Or.inl nq982) dd_B15_begins rfl ⟨Nat.le_of_ble_eq_true rfl, Nat.le_of_ble_eq_true rfl⟩ (Nat.le_of_ble_eq_true rfl) dX15_comes_3 rfl rfl rfl ?_
  refine ro_aload_n (pc' := 7) dX15_comes_6 rfl rfl rfl ?_
  refine ro_iload_n (pc' := 8) dX15_comes_7 rfl rfl rfl ?_
  obtain ⟨u2, hu2, h⟩ := ah_bs h
  obtain ⟨v3, σ4, hv3, h⟩ := ah_bs2 h
  refine ro_callSB (pc' := 11) (x := ⟨"LeftAsFound$Body", "comes", "(I)I"⟩) (owner := "LeftAsFound$Comes") (bytes := cX22_comes) (maxL := 2) (ret := (some FieldType.int)) (As := [.int x1]) (rest := []) (st' := [.int v3]) hu2 (Or.inr ⟨by decide, M_X22_comes hv3⟩) (Or.inr nd_3) (Or.inr nd_1) q885 q987 q988 (by decide) (Or.inr (Or.inr nd_13)) sd_1_0 rfl ⟨Nat.le_of_ble_eq_true rfl, Nat.le_of_ble_eq_true rfl⟩ (Nat.le_of_ble_eq_true rfl) dX15_comes_8 rfl rfl rfl ?_
  refine ro_iconst (pc' := 12) dX15_comes_11 ic_3 rfl ?_
  refine ro_iadd (pc' := 13) dX15_comes_12 rfl ?_
  obtain rfl := Option.some.inj h
  exact ro_iret hκ dX15_comes_13
theorem M_X15_comes {l : Launch} {D : ah_D}  {σ : ah_S} {r0 : Option Nat} {x1 : Int32} {v : Int32} {σ1 : ah_S} (h : F_X15_comes σ r0 x1 = some (v, σ1)) : ah_Met l yX15_comes (Cond.code yX15_comes cX15_comes 2 (some FieldType.int)) 3 66 D [va_rf r0, .int x1] σ (.returned (some (.int v)), σ1) :=
  ah_ofG (own := "LeftAsFound$FoundStay") (nm := "comes") (L0 := [some (va_rf r0), some (.int x1)]) (by decide) rfl rfl rfl (ah_ao_1 (ah_rf_cat _) (ah_ao_1 rfl ah_ao_0)) (fun κ hκ => W_X15_comes hκ  σ r0 x1 h)
theorem N_B20_begins {l : Launch} {D : ah_D} {σ : ah_S} {r : Option Nat} {x1 : Int32} {σ1 : ah_S} (h : Z_B20_begins σ r x1 = some σ1) : ah_VB l ⟨"LeftAsFound$BareStay", "begins", "(I)V"⟩ "LeftAsFound$Body" 1 26 D r [.int x1] σ none σ1 := by
  obtain ⟨a, e, h⟩ := ah_bs h
  by_cases c21 : ah_tg σ a = 21
  · replace h := ah_ip c21 h
    exact ⟨21, yX14_begins, cX14_begins, 2, none, 1, 24, by rw [e]; exact ah_is_of c21, by decide, Or.inl q983, q985, q986, ⟨by decide, by decide⟩, Or.inl ⟨q114, M_X14_begins h⟩⟩
  replace h := ah_in_ c21 h
  by_cases c22 : ah_tg σ a = 22
  · replace h := ah_ip c22 h
    exact ⟨22, yX14_begins, cX14_begins, 2, none, 1, 24, by rw [e]; exact ah_is_of c22, by decide, Or.inl q984, q985, q986, ⟨by decide, by decide⟩, Or.inl ⟨q114, M_X14_begins h⟩⟩
  replace h := ah_in_ c22 h
  cases h
set_option maxRecDepth 20000 in
set_option maxHeartbeats 4000000 in
theorem W_X20_comes {κ : ah_C} {rr : (Int32 × ah_S)} (hκ : ah_res κ = (.returned (some (.int rr.1)), rr.2))  (σ : ah_S) (r0 : Option Nat) (x1 : Int32) (h : F_X20_comes σ r0 x1 = some rr) : ah_G κ ("LeftAsFound$BareStay", "comes", 2, (some FieldType.int), [], 3, 66) cX20_comes σ 0 [some (va_rf r0), some (.int x1)] [] := by
  unfold F_X20_comes at h
  refine ro_aload_n (pc' := 1) dX20_comes_0 rfl rfl rfl ?_
  refine ro_bipush (pc' := 3) dX20_comes_1 ib_70 rfl ?_
  obtain ⟨σ1, hσ1, h⟩ := ah_bs h
  refine ro_callVB (pc' := 6) (As := [.int (70 : Int32)]) (rest := []) (st' := []) (N_B20_begins hσ1) (Or.inl q980) (Or.inl q981) (Or.inl nq982) dd_B20_begins rfl ⟨Nat.le_of_ble_eq_true rfl, Nat.le_of_ble_eq_true rfl⟩ (Nat.le_of_ble_eq_true rfl) dX20_comes_3 rfl rfl rfl ?_
  refine ro_aload_n (pc' := 7) dX20_comes_6 rfl rfl rfl ?_
  refine ro_iload_n (pc' := 8) dX20_comes_7 rfl rfl rfl ?_
  obtain ⟨u2, hu2, h⟩ := ah_bs h
  obtain ⟨v3, σ4, hv3, h⟩ := ah_bs2 h
  refine ro_callSB (pc' := 11) (x := ⟨"LeftAsFound$Body", "comes", "(I)I"⟩) (owner := "LeftAsFound$Comes") (bytes := cX22_comes) (maxL := 2) (ret := (some FieldType.int)) (As := [.int x1]) (rest := []) (st' := [.int v3]) hu2 (Or.inr ⟨by decide, M_X22_comes hv3⟩) (Or.inr nd_2) (Or.inr nd_1) q949 q987 q988 (by decide) (Or.inr (Or.inr nd_13)) sd_1_0 rfl ⟨Nat.le_of_ble_eq_true rfl, Nat.le_of_ble_eq_true rfl⟩ (Nat.le_of_ble_eq_true rfl) dX20_comes_8 rfl rfl rfl ?_
  refine ro_iconst (pc' := 12) dX20_comes_11 ic_2 rfl ?_
  refine ro_imul (pc' := 13) dX20_comes_12 rfl ?_
  obtain rfl := Option.some.inj h
  exact ro_iret hκ dX20_comes_13
theorem M_X20_comes {l : Launch} {D : ah_D}  {σ : ah_S} {r0 : Option Nat} {x1 : Int32} {v : Int32} {σ1 : ah_S} (h : F_X20_comes σ r0 x1 = some (v, σ1)) : ah_Met l yX20_comes (Cond.code yX20_comes cX20_comes 2 (some FieldType.int)) 3 66 D [va_rf r0, .int x1] σ (.returned (some (.int v)), σ1) :=
  ah_ofG (own := "LeftAsFound$BareStay") (nm := "comes") (L0 := [some (va_rf r0), some (.int x1)]) (by decide) rfl rfl rfl (ah_ao_1 (ah_rf_cat _) (ah_ao_1 rfl ah_ao_0)) (fun κ hκ => W_X20_comes hκ  σ r0 x1 h)
theorem N_B21_begins {l : Launch} {D : ah_D} {σ : ah_S} {r : Option Nat} {x1 : Int32} {σ1 : ah_S} (h : Z_B21_begins σ r x1 = some σ1) : ah_VB l ⟨"LeftAsFound$MouseStay", "begins", "(I)V"⟩ "LeftAsFound$Body" 1 26 D r [.int x1] σ none σ1 := by
  obtain ⟨a, e, h⟩ := ah_bs h
  by_cases c22 : ah_tg σ a = 22
  · replace h := ah_ip c22 h
    exact ⟨22, yX14_begins, cX14_begins, 2, none, 1, 24, by rw [e]; exact ah_is_of c22, by decide, Or.inl q1055, q985, q986, ⟨by decide, by decide⟩, Or.inl ⟨q114, M_X14_begins h⟩⟩
  replace h := ah_in_ c22 h
  cases h
set_option maxRecDepth 20000 in
set_option maxHeartbeats 4000000 in
theorem W_X21_comes {κ : ah_C} {rr : (Int32 × ah_S)} (hκ : ah_res κ = (.returned (some (.int rr.1)), rr.2))  (σ : ah_S) (r0 : Option Nat) (x1 : Int32) (h : F_X21_comes σ r0 x1 = some rr) : ah_G κ ("LeftAsFound$MouseStay", "comes", 2, (some FieldType.int), [], 4, 87) cX21_comes σ 0 [some (va_rf r0), some (.int x1)] [] := by
  unfold F_X21_comes at h
  refine ro_aload_n (pc' := 1) dX21_comes_0 rfl rfl rfl ?_
  refine ro_bipush (pc' := 3) dX21_comes_1 ib_81 rfl ?_
  obtain ⟨σ1, hσ1, h⟩ := ah_bs h
  refine ro_callVB (pc' := 6) (As := [.int (81 : Int32)]) (rest := []) (st' := []) (N_B21_begins hσ1) (Or.inl q1053) (Or.inl q1054) (Or.inl nq982) dd_B21_begins rfl ⟨Nat.le_of_ble_eq_true rfl, Nat.le_of_ble_eq_true rfl⟩ (Nat.le_of_ble_eq_true rfl) dX21_comes_3 rfl rfl rfl ?_
  refine ro_aload_n (pc' := 7) dX21_comes_6 rfl rfl rfl ?_
  refine ro_iload_n (pc' := 8) dX21_comes_7 rfl rfl rfl ?_
  obtain ⟨u2, hu2, h⟩ := ah_bs h
  obtain ⟨v3, σ4, hv3, h⟩ := ah_bs2 h
  refine ro_callSB (pc' := 11) (x := ⟨"LeftAsFound$BareStay", "comes", "(I)I"⟩) (owner := "LeftAsFound$BareStay") (bytes := cX20_comes) (maxL := 2) (ret := (some FieldType.int)) (As := [.int x1]) (rest := []) (st' := [.int v3]) hu2 (Or.inl ⟨q120, M_X20_comes hv3⟩) (Or.inl q1056) (Or.inl q1907) q962 q978 q979 (by decide) (Or.inl rfl) sd_1_0 rfl ⟨Nat.le_of_ble_eq_true rfl, Nat.le_of_ble_eq_true rfl⟩ (Nat.le_of_ble_eq_true rfl) dX21_comes_8 rfl rfl rfl ?_
  refine ro_iconst (pc' := 12) dX21_comes_11 ic_1 rfl ?_
  refine ro_isub (pc' := 13) dX21_comes_12 rfl ?_
  obtain rfl := Option.some.inj h
  exact ro_iret hκ dX21_comes_13
theorem M_X21_comes {l : Launch} {D : ah_D}  {σ : ah_S} {r0 : Option Nat} {x1 : Int32} {v : Int32} {σ1 : ah_S} (h : F_X21_comes σ r0 x1 = some (v, σ1)) : ah_Met l yX21_comes (Cond.code yX21_comes cX21_comes 2 (some FieldType.int)) 4 87 D [va_rf r0, .int x1] σ (.returned (some (.int v)), σ1) :=
  ah_ofG (own := "LeftAsFound$MouseStay") (nm := "comes") (L0 := [some (va_rf r0), some (.int x1)]) (by decide) rfl rfl rfl (ah_ao_1 (ah_rf_cat _) (ah_ao_1 rfl ah_ao_0)) (fun κ hκ => W_X21_comes hκ  σ r0 x1 h)
theorem N_B14_begins {l : Launch} {D : ah_D} {σ : ah_S} {r : Option Nat} {x1 : Int32} {σ1 : ah_S} (h : Z_B14_begins σ r x1 = some σ1) : ah_VB l ⟨"LeftAsFound$Body", "begins", "(I)V"⟩ "LeftAsFound$Body" 1 26 D r [.int x1] σ none σ1 := by
  obtain ⟨a, e, h⟩ := ah_bs h
  by_cases c15 : ah_tg σ a = 15
  · replace h := ah_ip c15 h
    exact ⟨15, yX14_begins, cX14_begins, 2, none, 1, 24, by rw [e]; exact ah_is_of c15, by decide, Or.inl q1911, q985, q986, ⟨by decide, by decide⟩, Or.inl ⟨q114, M_X14_begins h⟩⟩
  replace h := ah_in_ c15 h
  by_cases c16 : ah_tg σ a = 16
  · replace h := ah_ip c16 h
    exact ⟨16, yX14_begins, cX14_begins, 2, none, 1, 24, by rw [e]; exact ah_is_of c16, by decide, Or.inl q1913, q985, q986, ⟨by decide, by decide⟩, Or.inl ⟨q114, M_X14_begins h⟩⟩
  replace h := ah_in_ c16 h
  by_cases c17 : ah_tg σ a = 17
  · replace h := ah_ip c17 h
    exact ⟨17, yX14_begins, cX14_begins, 2, none, 1, 24, by rw [e]; exact ah_is_of c17, by decide, Or.inl q1916, q985, q986, ⟨by decide, by decide⟩, Or.inl ⟨q114, M_X14_begins h⟩⟩
  replace h := ah_in_ c17 h
  by_cases c18 : ah_tg σ a = 18
  · replace h := ah_ip c18 h
    exact ⟨18, yX14_begins, cX14_begins, 2, none, 1, 24, by rw [e]; exact ah_is_of c18, by decide, Or.inl q1912, q985, q986, ⟨by decide, by decide⟩, Or.inl ⟨q114, M_X14_begins h⟩⟩
  replace h := ah_in_ c18 h
  by_cases c19 : ah_tg σ a = 19
  · replace h := ah_ip c19 h
    exact ⟨19, yX14_begins, cX14_begins, 2, none, 1, 24, by rw [e]; exact ah_is_of c19, by decide, Or.inl q1915, q985, q986, ⟨by decide, by decide⟩, Or.inl ⟨q114, M_X14_begins h⟩⟩
  replace h := ah_in_ c19 h
  by_cases c20 : ah_tg σ a = 20
  · replace h := ah_ip c20 h
    exact ⟨20, yX14_begins, cX14_begins, 2, none, 1, 24, by rw [e]; exact ah_is_of c20, by decide, Or.inl q1917, q985, q986, ⟨by decide, by decide⟩, Or.inl ⟨q114, M_X14_begins h⟩⟩
  replace h := ah_in_ c20 h
  by_cases c21 : ah_tg σ a = 21
  · replace h := ah_ip c21 h
    exact ⟨21, yX14_begins, cX14_begins, 2, none, 1, 24, by rw [e]; exact ah_is_of c21, by decide, Or.inl q1910, q985, q986, ⟨by decide, by decide⟩, Or.inl ⟨q114, M_X14_begins h⟩⟩
  replace h := ah_in_ c21 h
  by_cases c22 : ah_tg σ a = 22
  · replace h := ah_ip c22 h
    exact ⟨22, yX14_begins, cX14_begins, 2, none, 1, 24, by rw [e]; exact ah_is_of c22, by decide, Or.inl q1914, q985, q986, ⟨by decide, by decide⟩, Or.inl ⟨q114, M_X14_begins h⟩⟩
  replace h := ah_in_ c22 h
  cases h
set_option maxRecDepth 20000 in
set_option maxHeartbeats 4000000 in
theorem W_X14_sees {κ : ah_C} {rr : (Int32 × ah_S)} (hκ : ah_res κ = (.returned (some (.int rr.1)), rr.2))  (σ : ah_S) (r0 : Option Nat) (x1 : Int32) (h : F_X14_sees σ r0 x1 = some rr) : ah_G κ ("LeftAsFound$Body", "sees", 2, (some FieldType.int), [], 2, 45) cX14_sees σ 0 [some (va_rf r0), some (.int x1)] [] := by
  unfold F_X14_sees at h
  refine ro_aload_n (pc' := 1) dX14_sees_0 rfl rfl rfl ?_
  refine ro_bipush (pc' := 3) dX14_sees_1 ib_11 rfl ?_
  obtain ⟨σ1, hσ1, h⟩ := ah_bs h
  refine ro_callVB (pc' := 6) (As := [.int (11 : Int32)]) (rest := []) (st' := []) (N_B14_begins hσ1) (Or.inl q1095) (Or.inl q1909) (Or.inl nq982) dd_B14_begins rfl ⟨Nat.le_of_ble_eq_true rfl, Nat.le_of_ble_eq_true rfl⟩ (Nat.le_of_ble_eq_true rfl) dX14_sees_3 rfl rfl rfl ?_
  refine ro_iload_n (pc' := 7) dX14_sees_6 rfl rfl rfl ?_
  refine ro_aload_n (pc' := 8) dX14_sees_7 rfl rfl rfl ?_
  obtain ⟨v2, hv2, h⟩ := ah_bs h
  refine ro_getI (pc' := 11) ft_1400 fk_1400 q877 dX14_sees_8 rfl hv2 ?_
  refine ro_ixor (pc' := 12) dX14_sees_11 rfl ?_
  obtain rfl := Option.some.inj h
  exact ro_iret hκ dX14_sees_12
theorem M_X14_sees {l : Launch} {D : ah_D}  {σ : ah_S} {r0 : Option Nat} {x1 : Int32} {v : Int32} {σ1 : ah_S} (h : F_X14_sees σ r0 x1 = some (v, σ1)) : ah_Met l yX14_sees (Cond.code yX14_sees cX14_sees 2 (some FieldType.int)) 2 45 D [va_rf r0, .int x1] σ (.returned (some (.int v)), σ1) :=
  ah_ofG (own := "LeftAsFound$Body") (nm := "sees") (L0 := [some (va_rf r0), some (.int x1)]) (by decide) rfl rfl rfl (ah_ao_1 (ah_rf_cat _) (ah_ao_1 rfl ah_ao_0)) (fun κ hκ => W_X14_sees hκ  σ r0 x1 h)
theorem N_B17_begins {l : Launch} {D : ah_D} {σ : ah_S} {r : Option Nat} {x1 : Int32} {σ1 : ah_S} (h : Z_B17_begins σ r x1 = some σ1) : ah_VB l ⟨"LeftAsFound$BroughtStay", "begins", "(I)V"⟩ "LeftAsFound$Body" 1 26 D r [.int x1] σ none σ1 := by
  obtain ⟨a, e, h⟩ := ah_bs h
  by_cases c18 : ah_tg σ a = 18
  · replace h := ah_ip c18 h
    exact ⟨18, yX14_begins, cX14_begins, 2, none, 1, 24, by rw [e]; exact ah_is_of c18, by decide, Or.inl q1071, q985, q986, ⟨by decide, by decide⟩, Or.inl ⟨q114, M_X14_begins h⟩⟩
  replace h := ah_in_ c18 h
  by_cases c20 : ah_tg σ a = 20
  · replace h := ah_ip c20 h
    exact ⟨20, yX14_begins, cX14_begins, 2, none, 1, 24, by rw [e]; exact ah_is_of c20, by decide, Or.inl q1072, q985, q986, ⟨by decide, by decide⟩, Or.inl ⟨q114, M_X14_begins h⟩⟩
  replace h := ah_in_ c20 h
  cases h
set_option maxRecDepth 20000 in
set_option maxHeartbeats 4000000 in
theorem W_X17_sees {κ : ah_C} {rr : (Int32 × ah_S)} (hκ : ah_res κ = (.returned (some (.int rr.1)), rr.2))  (σ : ah_S) (r0 : Option Nat) (x1 : Int32) (h : F_X17_sees σ r0 x1 = some rr) : ah_G κ ("LeftAsFound$BroughtStay", "sees", 2, (some FieldType.int), [], 3, 66) cX17_sees σ 0 [some (va_rf r0), some (.int x1)] [] := by
  unfold F_X17_sees at h
  refine ro_aload_n (pc' := 1) dX17_sees_0 rfl rfl rfl ?_
  refine ro_bipush (pc' := 3) dX17_sees_1 ib_40 rfl ?_
  obtain ⟨σ1, hσ1, h⟩ := ah_bs h
  refine ro_callVB (pc' := 6) (As := [.int (40 : Int32)]) (rest := []) (st' := []) (N_B17_begins hσ1) (Or.inl q1069) (Or.inl q1070) (Or.inl nq982) dd_B17_begins rfl ⟨Nat.le_of_ble_eq_true rfl, Nat.le_of_ble_eq_true rfl⟩ (Nat.le_of_ble_eq_true rfl) dX17_sees_3 rfl rfl rfl ?_
  refine ro_aload_n (pc' := 7) dX17_sees_6 rfl rfl rfl ?_
  refine ro_iload_n (pc' := 8) dX17_sees_7 rfl rfl rfl ?_
  obtain ⟨u2, hu2, h⟩ := ah_bs h
  obtain ⟨v3, σ4, hv3, h⟩ := ah_bs2 h
  refine ro_callSB (pc' := 11) (x := ⟨"LeftAsFound$TakenStay", "sees", "(I)I"⟩) (owner := "LeftAsFound$Body") (bytes := cX14_sees) (maxL := 2) (ret := (some FieldType.int)) (As := [.int x1]) (rest := []) (st' := [.int v3]) hu2 (Or.inl ⟨q114, M_X14_sees hv3⟩) (Or.inl q1103) (Or.inl q1104) q910 q1093 q1094 (by decide) (Or.inr (Or.inl q897)) sd_1_0 rfl ⟨Nat.le_of_ble_eq_true rfl, Nat.le_of_ble_eq_true rfl⟩ (Nat.le_of_ble_eq_true rfl) dX17_sees_8 rfl rfl rfl ?_
  refine ro_iconst (pc' := 12) dX17_sees_11 ic_3 rfl ?_
  refine ro_imul (pc' := 13) dX17_sees_12 rfl ?_
  obtain rfl := Option.some.inj h
  exact ro_iret hκ dX17_sees_13
theorem M_X17_sees {l : Launch} {D : ah_D}  {σ : ah_S} {r0 : Option Nat} {x1 : Int32} {v : Int32} {σ1 : ah_S} (h : F_X17_sees σ r0 x1 = some (v, σ1)) : ah_Met l yX17_sees (Cond.code yX17_sees cX17_sees 2 (some FieldType.int)) 3 66 D [va_rf r0, .int x1] σ (.returned (some (.int v)), σ1) :=
  ah_ofG (own := "LeftAsFound$BroughtStay") (nm := "sees") (L0 := [some (va_rf r0), some (.int x1)]) (by decide) rfl rfl rfl (ah_ao_1 (ah_rf_cat _) (ah_ao_1 rfl ah_ao_0)) (fun κ hκ => W_X17_sees hκ  σ r0 x1 h)
theorem N_B19_begins {l : Launch} {D : ah_D} {σ : ah_S} {r : Option Nat} {x1 : Int32} {σ1 : ah_S} (h : Z_B19_begins σ r x1 = some σ1) : ah_VB l ⟨"LeftAsFound$WrittenStay", "begins", "(I)V"⟩ "LeftAsFound$Body" 1 26 D r [.int x1] σ none σ1 := by
  obtain ⟨a, e, h⟩ := ah_bs h
  by_cases c20 : ah_tg σ a = 20
  · replace h := ah_ip c20 h
    exact ⟨20, yX14_begins, cX14_begins, 2, none, 1, 24, by rw [e]; exact ah_is_of c20, by decide, Or.inl q1109, q985, q986, ⟨by decide, by decide⟩, Or.inl ⟨q114, M_X14_begins h⟩⟩
  replace h := ah_in_ c20 h
  cases h
theorem N_B19_comes {l : Launch} {D : ah_D} {σ : ah_S} {r : Option Nat} {x1 : Int32} {v : Int32} {σ1 : ah_S} (h : Z_B19_comes σ r x1 = some (v, σ1)) : ah_VB l ⟨"LeftAsFound$WrittenStay", "comes", "(I)I"⟩ "LeftAsFound$Comes" 2 47 D r [.int x1] σ (some (.int v)) σ1 := by
  obtain ⟨a, e, h⟩ := ah_bs h
  by_cases c20 : ah_tg σ a = 20
  · replace h := ah_ip c20 h
    exact ⟨20, yX22_comes, cX22_comes, 2, (some FieldType.int), 2, 45, by rw [e]; exact ah_is_of c20, by decide, Or.inr (Or.inr nd_17), q987, q988, ⟨by decide, by decide⟩, Or.inr ⟨by decide, M_X22_comes h⟩⟩
  replace h := ah_in_ c20 h
  cases h
set_option maxRecDepth 20000 in
set_option maxHeartbeats 4000000 in
theorem W_X19_sees {κ : ah_C} {rr : (Int32 × ah_S)} (hκ : ah_res κ = (.returned (some (.int rr.1)), rr.2))  (σ : ah_S) (r0 : Option Nat) (x1 : Int32) (h : F_X19_sees σ r0 x1 = some rr) : ah_G κ ("LeftAsFound$WrittenStay", "sees", 3, (some FieldType.int), [], 4, 87) cX19_sees σ 0 [some (va_rf r0), some (.int x1), none] [] := by
  unfold F_X19_sees at h
  refine ro_aload_n (pc' := 1) dX19_sees_0 rfl rfl rfl ?_
  refine ro_bipush (pc' := 3) dX19_sees_1 ib_60 rfl ?_
  obtain ⟨σ1, hσ1, h⟩ := ah_bs h
  refine ro_callVB (pc' := 6) (As := [.int (60 : Int32)]) (rest := []) (st' := []) (N_B19_begins hσ1) (Or.inl q1107) (Or.inl q1108) (Or.inl nq982) dd_B19_begins rfl ⟨Nat.le_of_ble_eq_true rfl, Nat.le_of_ble_eq_true rfl⟩ (Nat.le_of_ble_eq_true rfl) dX19_sees_3 rfl rfl rfl ?_
  refine ro_aload_n (pc' := 7) dX19_sees_6 rfl rfl rfl ?_
  refine ro_iload_n (pc' := 8) dX19_sees_7 rfl rfl rfl ?_
  obtain ⟨u2, hu2, h⟩ := ah_bs h
  obtain ⟨v3, σ4, hv3, h⟩ := ah_bs2 h
  refine ro_callSB (pc' := 11) (x := ⟨"LeftAsFound$BroughtStay", "sees", "(I)I"⟩) (owner := "LeftAsFound$BroughtStay") (bytes := cX17_sees) (maxL := 2) (ret := (some FieldType.int)) (As := [.int x1]) (rest := []) (st' := [.int v3]) hu2 (Or.inl ⟨q117, M_X17_sees hv3⟩) (Or.inl q1110) (Or.inl q1927) q937 q1101 q1102 (by decide) (Or.inl rfl) sd_1_0 rfl ⟨Nat.le_of_ble_eq_true rfl, Nat.le_of_ble_eq_true rfl⟩ (Nat.le_of_ble_eq_true rfl) dX19_sees_8 rfl rfl rfl ?_
  refine ro_istore_n (pc' := 12) (L' := [some (va_rf r0), some (.int x1), some (.int v3)]) dX19_sees_11 rfl (Nat.le_of_ble_eq_true rfl) rfl (ah_okp_i _) rfl ?_
  refine ro_iload_n (pc' := 13) dX19_sees_12 rfl rfl rfl ?_
  refine ro_aload_n (pc' := 14) dX19_sees_13 rfl rfl rfl ?_
  refine ro_iconst (pc' := 15) dX19_sees_14 ic_2 rfl ?_
  obtain ⟨v5, σ6, hv5, h⟩ := ah_bs2 h
  refine ro_callVB (pc' := 18) (As := [.int (2 : Int32)]) (rest := [.int v3]) (st' := [.int v5, .int v3]) (N_B19_comes hv5) (Or.inr nd_5) (Or.inr nd_6) (Or.inl nq976) dd_B19_comes rfl ⟨Nat.le_of_ble_eq_true rfl, Nat.le_of_ble_eq_true rfl⟩ (Nat.le_of_ble_eq_true rfl) dX19_sees_15 rfl rfl rfl ?_
  refine ro_isub (pc' := 19) dX19_sees_18 rfl ?_
  obtain rfl := Option.some.inj h
  exact ro_iret hκ dX19_sees_19
theorem M_X19_sees {l : Launch} {D : ah_D}  {σ : ah_S} {r0 : Option Nat} {x1 : Int32} {v : Int32} {σ1 : ah_S} (h : F_X19_sees σ r0 x1 = some (v, σ1)) : ah_Met l yX19_sees (Cond.code yX19_sees cX19_sees 3 (some FieldType.int)) 4 87 D [va_rf r0, .int x1] σ (.returned (some (.int v)), σ1) :=
  ah_ofG (own := "LeftAsFound$WrittenStay") (nm := "sees") (L0 := [some (va_rf r0), some (.int x1), none]) (by decide) rfl rfl rfl (ah_ao_1 (ah_rf_cat _) (ah_ao_1 rfl (ah_ao_n ah_ao_0))) (fun κ hκ => W_X19_sees hκ  σ r0 x1 h)
theorem N_B14_comes {l : Launch} {D : ah_D} {σ : ah_S} {r : Option Nat} {x1 : Int32} {v : Int32} {σ1 : ah_S} (h : Z_B14_comes σ r x1 = some (v, σ1)) : ah_VB l ⟨"LeftAsFound$Body", "comes", "(I)I"⟩ "LeftAsFound$Comes" 4 89 D r [.int x1] σ (some (.int v)) σ1 := by
  obtain ⟨a, e, h⟩ := ah_bs h
  by_cases c15 : ah_tg σ a = 15
  · replace h := ah_ip c15 h
    exact ⟨15, yX22_comes, cX22_comes, 2, (some FieldType.int), 2, 45, by rw [e]; exact ah_is_of c15, by decide, Or.inr (Or.inr nd_13), q987, q988, ⟨by decide, by decide⟩, Or.inr ⟨by decide, M_X22_comes h⟩⟩
  replace h := ah_in_ c15 h
  by_cases c16 : ah_tg σ a = 16
  · replace h := ah_ip c16 h
    exact ⟨16, yX15_comes, cX15_comes, 2, (some FieldType.int), 3, 66, by rw [e]; exact ah_is_of c16, by decide, Or.inr (Or.inl q1043), q1044, q1045, ⟨by decide, by decide⟩, Or.inl ⟨q115, M_X15_comes h⟩⟩
  replace h := ah_in_ c16 h
  by_cases c17 : ah_tg σ a = 17
  · replace h := ah_ip c17 h
    exact ⟨17, yX22_comes, cX22_comes, 2, (some FieldType.int), 2, 45, by rw [e]; exact ah_is_of c17, by decide, Or.inr (Or.inr nd_15), q987, q988, ⟨by decide, by decide⟩, Or.inr ⟨by decide, M_X22_comes h⟩⟩
  replace h := ah_in_ c17 h
  by_cases c18 : ah_tg σ a = 18
  · replace h := ah_ip c18 h
    exact ⟨18, yX22_comes, cX22_comes, 2, (some FieldType.int), 2, 45, by rw [e]; exact ah_is_of c18, by decide, Or.inr (Or.inr nd_14), q987, q988, ⟨by decide, by decide⟩, Or.inr ⟨by decide, M_X22_comes h⟩⟩
  replace h := ah_in_ c18 h
  by_cases c19 : ah_tg σ a = 19
  · replace h := ah_ip c19 h
    exact ⟨19, yX15_comes, cX15_comes, 2, (some FieldType.int), 3, 66, by rw [e]; exact ah_is_of c19, by decide, Or.inr (Or.inl q1057), q1044, q1045, ⟨by decide, by decide⟩, Or.inl ⟨q115, M_X15_comes h⟩⟩
  replace h := ah_in_ c19 h
  by_cases c20 : ah_tg σ a = 20
  · replace h := ah_ip c20 h
    exact ⟨20, yX22_comes, cX22_comes, 2, (some FieldType.int), 2, 45, by rw [e]; exact ah_is_of c20, by decide, Or.inr (Or.inr nd_16), q987, q988, ⟨by decide, by decide⟩, Or.inr ⟨by decide, M_X22_comes h⟩⟩
  replace h := ah_in_ c20 h
  by_cases c21 : ah_tg σ a = 21
  · replace h := ah_ip c21 h
    exact ⟨21, yX20_comes, cX20_comes, 2, (some FieldType.int), 3, 66, by rw [e]; exact ah_is_of c21, by decide, Or.inr (Or.inl q977), q978, q979, ⟨by decide, by decide⟩, Or.inl ⟨q120, M_X20_comes h⟩⟩
  replace h := ah_in_ c21 h
  by_cases c22 : ah_tg σ a = 22
  · replace h := ah_ip c22 h
    exact ⟨22, yX21_comes, cX21_comes, 2, (some FieldType.int), 4, 87, by rw [e]; exact ah_is_of c22, by decide, Or.inr (Or.inl q1050), q1051, q1052, ⟨by decide, by decide⟩, Or.inl ⟨q121, M_X21_comes h⟩⟩
  replace h := ah_in_ c22 h
  cases h
set_option maxRecDepth 20000 in
set_option maxHeartbeats 4000000 in
theorem W_X14_leaves {κ : ah_C} {rr : (Int32 × ah_S)} (hκ : ah_res κ = (.returned (some (.int rr.1)), rr.2))  (σ : ah_S) (r0 : Option Nat) (x1 : Int32) (h : F_X14_leaves σ r0 x1 = some rr) : ah_G κ ("LeftAsFound$Body", "leaves", 2, (some FieldType.int), [], 5, 108) cX14_leaves σ 0 [some (va_rf r0), some (.int x1)] [] := by
  unfold F_X14_leaves at h
  refine ro_aload_n (pc' := 1) dX14_leaves_0 rfl rfl rfl ?_
  refine ro_bipush (pc' := 3) dX14_leaves_1 ib_10 rfl ?_
  obtain ⟨σ1, hσ1, h⟩ := ah_bs h
  refine ro_callVB (pc' := 6) (As := [.int (10 : Int32)]) (rest := []) (st' := []) (N_B14_begins hσ1) (Or.inl q1095) (Or.inl q1909) (Or.inl nq982) dd_B14_begins rfl ⟨Nat.le_of_ble_eq_true rfl, Nat.le_of_ble_eq_true rfl⟩ (Nat.le_of_ble_eq_true rfl) dX14_leaves_3 rfl rfl rfl ?_
  refine ro_aload_n (pc' := 7) dX14_leaves_6 rfl rfl rfl ?_
  refine ro_iload_n (pc' := 8) dX14_leaves_7 rfl rfl rfl ?_
  obtain ⟨v2, σ3, hv2, h⟩ := ah_bs2 h
  refine ro_callVB (pc' := 11) (As := [.int x1]) (rest := []) (st' := [.int v2]) (N_B14_comes hv2) (Or.inr nd_4) (Or.inr nd_1) (Or.inl nq976) dd_B14_comes rfl ⟨Nat.le_of_ble_eq_true rfl, Nat.le_of_ble_eq_true rfl⟩ (Nat.le_of_ble_eq_true rfl) dX14_leaves_8 rfl rfl rfl ?_
  refine ro_iconst (pc' := 12) dX14_leaves_11 ic_2 rfl ?_
  refine ro_imul (pc' := 13) dX14_leaves_12 rfl ?_
  obtain rfl := Option.some.inj h
  exact ro_iret hκ dX14_leaves_13
theorem M_X14_leaves {l : Launch} {D : ah_D}  {σ : ah_S} {r0 : Option Nat} {x1 : Int32} {v : Int32} {σ1 : ah_S} (h : F_X14_leaves σ r0 x1 = some (v, σ1)) : ah_Met l yX14_leaves (Cond.code yX14_leaves cX14_leaves 2 (some FieldType.int)) 5 108 D [va_rf r0, .int x1] σ (.returned (some (.int v)), σ1) :=
  ah_ofG (own := "LeftAsFound$Body") (nm := "leaves") (L0 := [some (va_rf r0), some (.int x1)]) (by decide) rfl rfl rfl (ah_ao_1 (ah_rf_cat _) (ah_ao_1 rfl ah_ao_0)) (fun κ hκ => W_X14_leaves hκ  σ r0 x1 h)
theorem N_B16_begins {l : Launch} {D : ah_D} {σ : ah_S} {r : Option Nat} {x1 : Int32} {σ1 : ah_S} (h : Z_B16_begins σ r x1 = some σ1) : ah_VB l ⟨"LeftAsFound$TakenStay", "begins", "(I)V"⟩ "LeftAsFound$Body" 1 26 D r [.int x1] σ none σ1 := by
  obtain ⟨a, e, h⟩ := ah_bs h
  by_cases c17 : ah_tg σ a = 17
  · replace h := ah_ip c17 h
    exact ⟨17, yX14_begins, cX14_begins, 2, none, 1, 24, by rw [e]; exact ah_is_of c17, by decide, Or.inl q1079, q985, q986, ⟨by decide, by decide⟩, Or.inl ⟨q114, M_X14_begins h⟩⟩
  replace h := ah_in_ c17 h
  by_cases c18 : ah_tg σ a = 18
  · replace h := ah_ip c18 h
    exact ⟨18, yX14_begins, cX14_begins, 2, none, 1, 24, by rw [e]; exact ah_is_of c18, by decide, Or.inl q1078, q985, q986, ⟨by decide, by decide⟩, Or.inl ⟨q114, M_X14_begins h⟩⟩
  replace h := ah_in_ c18 h
  by_cases c20 : ah_tg σ a = 20
  · replace h := ah_ip c20 h
    exact ⟨20, yX14_begins, cX14_begins, 2, none, 1, 24, by rw [e]; exact ah_is_of c20, by decide, Or.inl q1080, q985, q986, ⟨by decide, by decide⟩, Or.inl ⟨q114, M_X14_begins h⟩⟩
  replace h := ah_in_ c20 h
  cases h
set_option maxRecDepth 20000 in
set_option maxHeartbeats 4000000 in
theorem W_X16_leaves {κ : ah_C} {rr : (Int32 × ah_S)} (hκ : ah_res κ = (.returned (some (.int rr.1)), rr.2))  (σ : ah_S) (r0 : Option Nat) (x1 : Int32) (h : F_X16_leaves σ r0 x1 = some rr) : ah_G κ ("LeftAsFound$TakenStay", "leaves", 2, (some FieldType.int), [], 6, 129) cX16_leaves σ 0 [some (va_rf r0), some (.int x1)] [] := by
  unfold F_X16_leaves at h
  refine ro_aload_n (pc' := 1) dX16_leaves_0 rfl rfl rfl ?_
  refine ro_bipush (pc' := 3) dX16_leaves_1 ib_30 rfl ?_
  obtain ⟨σ1, hσ1, h⟩ := ah_bs h
  refine ro_callVB (pc' := 6) (As := [.int (30 : Int32)]) (rest := []) (st' := []) (N_B16_begins hσ1) (Or.inl q1076) (Or.inl q1077) (Or.inl nq982) dd_B16_begins rfl ⟨Nat.le_of_ble_eq_true rfl, Nat.le_of_ble_eq_true rfl⟩ (Nat.le_of_ble_eq_true rfl) dX16_leaves_3 rfl rfl rfl ?_
  refine ro_aload_n (pc' := 7) dX16_leaves_6 rfl rfl rfl ?_
  refine ro_iload_n (pc' := 8) dX16_leaves_7 rfl rfl rfl ?_
  obtain ⟨u2, hu2, h⟩ := ah_bs h
  obtain ⟨v3, σ4, hv3, h⟩ := ah_bs2 h
  refine ro_callSB (pc' := 11) (x := ⟨"LeftAsFound$Body", "leaves", "(I)I"⟩) (owner := "LeftAsFound$Body") (bytes := cX14_leaves) (maxL := 2) (ret := (some FieldType.int)) (As := [.int x1]) (rest := []) (st' := [.int v3]) hu2 (Or.inl ⟨q114, M_X14_leaves hv3⟩) (Or.inl q1081) (Or.inl q1064) q897 q1062 q1099 (by decide) (Or.inl rfl) sd_1_0 rfl ⟨Nat.le_of_ble_eq_true rfl, Nat.le_of_ble_eq_true rfl⟩ (Nat.le_of_ble_eq_true rfl) dX16_leaves_8 rfl rfl rfl ?_
  refine ro_ineg (pc' := 12) dX16_leaves_11 rfl ?_
  obtain rfl := Option.some.inj h
  exact ro_iret hκ dX16_leaves_12
theorem M_X16_leaves {l : Launch} {D : ah_D}  {σ : ah_S} {r0 : Option Nat} {x1 : Int32} {v : Int32} {σ1 : ah_S} (h : F_X16_leaves σ r0 x1 = some (v, σ1)) : ah_Met l yX16_leaves (Cond.code yX16_leaves cX16_leaves 2 (some FieldType.int)) 6 129 D [va_rf r0, .int x1] σ (.returned (some (.int v)), σ1) :=
  ah_ofG (own := "LeftAsFound$TakenStay") (nm := "leaves") (L0 := [some (va_rf r0), some (.int x1)]) (by decide) rfl rfl rfl (ah_ao_1 (ah_rf_cat _) (ah_ao_1 rfl ah_ao_0)) (fun κ hκ => W_X16_leaves hκ  σ r0 x1 h)
set_option maxRecDepth 20000 in
set_option maxHeartbeats 4000000 in
theorem W_X17_leaves {κ : ah_C} {rr : (Int32 × ah_S)} (hκ : ah_res κ = (.returned (some (.int rr.1)), rr.2))  (σ : ah_S) (r0 : Option Nat) (x1 : Int32) (h : F_X17_leaves σ r0 x1 = some rr) : ah_G κ ("LeftAsFound$BroughtStay", "leaves", 2, (some FieldType.int), [], 7, 150) cX17_leaves σ 0 [some (va_rf r0), some (.int x1)] [] := by
  unfold F_X17_leaves at h
  refine ro_aload_n (pc' := 1) dX17_leaves_0 rfl rfl rfl ?_
  refine ro_bipush (pc' := 3) dX17_leaves_1 ib_41 rfl ?_
  obtain ⟨σ1, hσ1, h⟩ := ah_bs h
  refine ro_callVB (pc' := 6) (As := [.int (41 : Int32)]) (rest := []) (st' := []) (N_B17_begins hσ1) (Or.inl q1069) (Or.inl q1070) (Or.inl nq982) dd_B17_begins rfl ⟨Nat.le_of_ble_eq_true rfl, Nat.le_of_ble_eq_true rfl⟩ (Nat.le_of_ble_eq_true rfl) dX17_leaves_3 rfl rfl rfl ?_
  refine ro_aload_n (pc' := 7) dX17_leaves_6 rfl rfl rfl ?_
  refine ro_iload_n (pc' := 8) dX17_leaves_7 rfl rfl rfl ?_
  refine ro_iconst (pc' := 9) dX17_leaves_8 ic_1 rfl ?_
  refine ro_iadd (pc' := 10) dX17_leaves_9 rfl ?_
  obtain ⟨u2, hu2, h⟩ := ah_bs h
  obtain ⟨v3, σ4, hv3, h⟩ := ah_bs2 h
  refine ro_callSB (pc' := 13) (x := ⟨"LeftAsFound$TakenStay", "leaves", "(I)I"⟩) (owner := "LeftAsFound$TakenStay") (bytes := cX16_leaves) (maxL := 2) (ret := (some FieldType.int)) (As := [.int (x1 + (1 : Int32))]) (rest := []) (st' := [.int v3]) hu2 (Or.inl ⟨q116, M_X16_leaves hv3⟩) (Or.inl q1073) (Or.inl q1908) q910 q1074 q1075 (by decide) (Or.inl rfl) sd_1_0 rfl ⟨Nat.le_of_ble_eq_true rfl, Nat.le_of_ble_eq_true rfl⟩ (Nat.le_of_ble_eq_true rfl) dX17_leaves_10 rfl rfl rfl ?_
  obtain rfl := Option.some.inj h
  exact ro_iret hκ dX17_leaves_13
theorem M_X17_leaves {l : Launch} {D : ah_D}  {σ : ah_S} {r0 : Option Nat} {x1 : Int32} {v : Int32} {σ1 : ah_S} (h : F_X17_leaves σ r0 x1 = some (v, σ1)) : ah_Met l yX17_leaves (Cond.code yX17_leaves cX17_leaves 2 (some FieldType.int)) 7 150 D [va_rf r0, .int x1] σ (.returned (some (.int v)), σ1) :=
  ah_ofG (own := "LeftAsFound$BroughtStay") (nm := "leaves") (L0 := [some (va_rf r0), some (.int x1)]) (by decide) rfl rfl rfl (ah_ao_1 (ah_rf_cat _) (ah_ao_1 rfl ah_ao_0)) (fun κ hκ => W_X17_leaves hκ  σ r0 x1 h)
theorem N_B21_sees {l : Launch} {D : ah_D} {σ : ah_S} {r : Option Nat} {x1 : Int32} {v : Int32} {σ1 : ah_S} (h : Z_B21_sees σ r x1 = some (v, σ1)) : ah_VB l ⟨"LeftAsFound$MouseStay", "sees", "(I)I"⟩ "LeftAsFound$Body" 2 47 D r [.int x1] σ (some (.int v)) σ1 := by
  obtain ⟨a, e, h⟩ := ah_bs h
  by_cases c22 : ah_tg σ a = 22
  · replace h := ah_ip c22 h
    exact ⟨22, yX14_sees, cX14_sees, 2, (some FieldType.int), 2, 45, by rw [e]; exact ah_is_of c22, by decide, Or.inl q1092, q1093, q1094, ⟨by decide, by decide⟩, Or.inl ⟨q114, M_X14_sees h⟩⟩
  replace h := ah_in_ c22 h
  cases h
set_option maxRecDepth 20000 in
set_option maxHeartbeats 4000000 in
theorem W_X21_leaves {κ : ah_C} {rr : (Int32 × ah_S)} (hκ : ah_res κ = (.returned (some (.int rr.1)), rr.2))  (σ : ah_S) (r0 : Option Nat) (x1 : Int32) (h : F_X21_leaves σ r0 x1 = some rr) : ah_G κ ("LeftAsFound$MouseStay", "leaves", 3, (some FieldType.int), [], 6, 129) cX21_leaves σ 0 [some (va_rf r0), some (.int x1), none] [] := by
  unfold F_X21_leaves at h
  refine ro_aload_n (pc' := 1) dX21_leaves_0 rfl rfl rfl ?_
  refine ro_bipush (pc' := 3) dX21_leaves_1 ib_80 rfl ?_
  obtain ⟨σ1, hσ1, h⟩ := ah_bs h
  refine ro_callVB (pc' := 6) (As := [.int (80 : Int32)]) (rest := []) (st' := []) (N_B21_begins hσ1) (Or.inl q1053) (Or.inl q1054) (Or.inl nq982) dd_B21_begins rfl ⟨Nat.le_of_ble_eq_true rfl, Nat.le_of_ble_eq_true rfl⟩ (Nat.le_of_ble_eq_true rfl) dX21_leaves_3 rfl rfl rfl ?_
  refine ro_aload_n (pc' := 7) dX21_leaves_6 rfl rfl rfl ?_
  refine ro_iload_n (pc' := 8) dX21_leaves_7 rfl rfl rfl ?_
  obtain ⟨u2, hu2, h⟩ := ah_bs h
  obtain ⟨v3, σ4, hv3, h⟩ := ah_bs2 h
  refine ro_callSB (pc' := 11) (x := ⟨"LeftAsFound$BareStay", "leaves", "(I)I"⟩) (owner := "LeftAsFound$Body") (bytes := cX14_leaves) (maxL := 2) (ret := (some FieldType.int)) (As := [.int x1]) (rest := []) (st' := [.int v3]) hu2 (Or.inl ⟨q114, M_X14_leaves hv3⟩) (Or.inl q1086) (Or.inl q1087) q962 q1062 q1099 (by decide) (Or.inr (Or.inl q949)) sd_1_0 rfl ⟨Nat.le_of_ble_eq_true rfl, Nat.le_of_ble_eq_true rfl⟩ (Nat.le_of_ble_eq_true rfl) dX21_leaves_8 rfl rfl rfl ?_
  refine ro_istore_n (pc' := 12) (L' := [some (va_rf r0), some (.int x1), some (.int v3)]) dX21_leaves_11 rfl (Nat.le_of_ble_eq_true rfl) rfl (ah_okp_i _) rfl ?_
  refine ro_iload_n (pc' := 13) dX21_leaves_12 rfl rfl rfl ?_
  refine ro_aload_n (pc' := 14) dX21_leaves_13 rfl rfl rfl ?_
  refine ro_iconst (pc' := 15) dX21_leaves_14 ic_2 rfl ?_
  obtain ⟨v5, σ6, hv5, h⟩ := ah_bs2 h
  refine ro_callVB (pc' := 18) (As := [.int (2 : Int32)]) (rest := [.int v3]) (st' := [.int v5, .int v3]) (N_B21_sees hv5) (Or.inl q1089) (Or.inl q1090) (Or.inl nq1091) dd_B21_sees rfl ⟨Nat.le_of_ble_eq_true rfl, Nat.le_of_ble_eq_true rfl⟩ (Nat.le_of_ble_eq_true rfl) dX21_leaves_15 rfl rfl rfl ?_
  refine ro_iadd (pc' := 19) dX21_leaves_18 rfl ?_
  obtain rfl := Option.some.inj h
  exact ro_iret hκ dX21_leaves_19
theorem M_X21_leaves {l : Launch} {D : ah_D}  {σ : ah_S} {r0 : Option Nat} {x1 : Int32} {v : Int32} {σ1 : ah_S} (h : F_X21_leaves σ r0 x1 = some (v, σ1)) : ah_Met l yX21_leaves (Cond.code yX21_leaves cX21_leaves 3 (some FieldType.int)) 6 129 D [va_rf r0, .int x1] σ (.returned (some (.int v)), σ1) :=
  ah_ofG (own := "LeftAsFound$MouseStay") (nm := "leaves") (L0 := [some (va_rf r0), some (.int x1), none]) (by decide) rfl rfl rfl (ah_ao_1 (ah_rf_cat _) (ah_ao_1 rfl (ah_ao_n ah_ao_0))) (fun κ hκ => W_X21_leaves hκ  σ r0 x1 h)
theorem N_B23_begins {l : Launch} {D : ah_D} {σ : ah_S} {r : Option Nat} {x1 : Int32} {σ1 : ah_S} (h : Z_B23_begins σ r x1 = some σ1) : ah_VI l ⟨"LeftAsFound$Tells", "begins", "(I)V"⟩  1 26 D r [.int x1] σ none σ1 := by
  obtain ⟨a, e, h⟩ := ah_bs h
  by_cases c15 : ah_tg σ a = 15
  · replace h := ah_ip c15 h
    exact ⟨15, yX14_begins, cX14_begins, 2, none, 1, 24, by rw [e]; exact ah_is_of c15, by decide, q1132, nq996, nq999, nq1131, q985, q986, ⟨by decide, by decide⟩, Or.inl ⟨q114, M_X14_begins h⟩⟩
  replace h := ah_in_ c15 h
  by_cases c16 : ah_tg σ a = 16
  · replace h := ah_ip c16 h
    exact ⟨16, yX14_begins, cX14_begins, 2, none, 1, 24, by rw [e]; exact ah_is_of c16, by decide, q1136, nq996, nq1005, nq1135, q985, q986, ⟨by decide, by decide⟩, Or.inl ⟨q114, M_X14_begins h⟩⟩
  replace h := ah_in_ c16 h
  by_cases c17 : ah_tg σ a = 17
  · replace h := ah_ip c17 h
    exact ⟨17, yX14_begins, cX14_begins, 2, none, 1, 24, by rw [e]; exact ah_is_of c17, by decide, q1142, nq996, nq1014, nq1141, q985, q986, ⟨by decide, by decide⟩, Or.inl ⟨q114, M_X14_begins h⟩⟩
  replace h := ah_in_ c17 h
  by_cases c18 : ah_tg σ a = 18
  · replace h := ah_ip c18 h
    exact ⟨18, yX14_begins, cX14_begins, 2, none, 1, 24, by rw [e]; exact ah_is_of c18, by decide, q1134, nq996, nq1002, nq1133, q985, q986, ⟨by decide, by decide⟩, Or.inl ⟨q114, M_X14_begins h⟩⟩
  replace h := ah_in_ c18 h
  by_cases c19 : ah_tg σ a = 19
  · replace h := ah_ip c19 h
    exact ⟨19, yX14_begins, cX14_begins, 2, none, 1, 24, by rw [e]; exact ah_is_of c19, by decide, q1140, nq996, nq1011, nq1139, q985, q986, ⟨by decide, by decide⟩, Or.inl ⟨q114, M_X14_begins h⟩⟩
  replace h := ah_in_ c19 h
  by_cases c20 : ah_tg σ a = 20
  · replace h := ah_ip c20 h
    exact ⟨20, yX14_begins, cX14_begins, 2, none, 1, 24, by rw [e]; exact ah_is_of c20, by decide, q1144, nq996, nq1017, nq1143, q985, q986, ⟨by decide, by decide⟩, Or.inl ⟨q114, M_X14_begins h⟩⟩
  replace h := ah_in_ c20 h
  by_cases c21 : ah_tg σ a = 21
  · replace h := ah_ip c21 h
    exact ⟨21, yX14_begins, cX14_begins, 2, none, 1, 24, by rw [e]; exact ah_is_of c21, by decide, q1130, nq996, nq995, nq1129, q985, q986, ⟨by decide, by decide⟩, Or.inl ⟨q114, M_X14_begins h⟩⟩
  replace h := ah_in_ c21 h
  by_cases c22 : ah_tg σ a = 22
  · replace h := ah_ip c22 h
    exact ⟨22, yX14_begins, cX14_begins, 2, none, 1, 24, by rw [e]; exact ah_is_of c22, by decide, q1138, nq996, nq1008, nq1137, q985, q986, ⟨by decide, by decide⟩, Or.inl ⟨q114, M_X14_begins h⟩⟩
  replace h := ah_in_ c22 h
  cases h
theorem N_B23_leaves {l : Launch} {D : ah_D} {σ : ah_S} {r : Option Nat} {x1 : Int32} {v : Int32} {σ1 : ah_S} (h : Z_B23_leaves σ r x1 = some (v, σ1)) : ah_VI l ⟨"LeftAsFound$Tells", "leaves", "(I)I"⟩  7 152 D r [.int x1] σ (some (.int v)) σ1 := by
  obtain ⟨a, e, h⟩ := ah_bs h
  by_cases c15 : ah_tg σ a = 15
  · replace h := ah_ip c15 h
    exact ⟨15, yX14_leaves, cX14_leaves, 2, (some FieldType.int), 5, 108, by rw [e]; exact ah_is_of c15, by decide, q1152, nq1151, nq1153, nq1131, q1062, q1099, ⟨by decide, by decide⟩, Or.inl ⟨q114, M_X14_leaves h⟩⟩
  replace h := ah_in_ c15 h
  by_cases c16 : ah_tg σ a = 16
  · replace h := ah_ip c16 h
    exact ⟨16, yX14_leaves, cX14_leaves, 2, (some FieldType.int), 5, 108, by rw [e]; exact ah_is_of c16, by decide, q1157, nq1151, nq1158, nq1135, q1062, q1099, ⟨by decide, by decide⟩, Or.inl ⟨q114, M_X14_leaves h⟩⟩
  replace h := ah_in_ c16 h
  by_cases c17 : ah_tg σ a = 17
  · replace h := ah_ip c17 h
    exact ⟨17, yX16_leaves, cX16_leaves, 2, (some FieldType.int), 6, 129, by rw [e]; exact ah_is_of c17, by decide, q1164, nq1166, nq1165, nq1141, q1074, q1075, ⟨by decide, by decide⟩, Or.inl ⟨q116, M_X16_leaves h⟩⟩
  replace h := ah_in_ c17 h
  by_cases c18 : ah_tg σ a = 18
  · replace h := ah_ip c18 h
    exact ⟨18, yX17_leaves, cX17_leaves, 2, (some FieldType.int), 7, 150, by rw [e]; exact ah_is_of c18, by decide, q1154, nq1156, nq1155, nq1133, q1067, q1068, ⟨by decide, by decide⟩, Or.inl ⟨q117, M_X17_leaves h⟩⟩
  replace h := ah_in_ c18 h
  by_cases c19 : ah_tg σ a = 19
  · replace h := ah_ip c19 h
    exact ⟨19, yX14_leaves, cX14_leaves, 2, (some FieldType.int), 5, 108, by rw [e]; exact ah_is_of c19, by decide, q1162, nq1151, nq1163, nq1139, q1062, q1099, ⟨by decide, by decide⟩, Or.inl ⟨q114, M_X14_leaves h⟩⟩
  replace h := ah_in_ c19 h
  by_cases c20 : ah_tg σ a = 20
  · replace h := ah_ip c20 h
    exact ⟨20, yX17_leaves, cX17_leaves, 2, (some FieldType.int), 7, 150, by rw [e]; exact ah_is_of c20, by decide, q1167, nq1156, nq1168, nq1143, q1067, q1068, ⟨by decide, by decide⟩, Or.inl ⟨q117, M_X17_leaves h⟩⟩
  replace h := ah_in_ c20 h
  by_cases c21 : ah_tg σ a = 21
  · replace h := ah_ip c21 h
    exact ⟨21, yX14_leaves, cX14_leaves, 2, (some FieldType.int), 5, 108, by rw [e]; exact ah_is_of c21, by decide, q1149, nq1151, nq1150, nq1129, q1062, q1099, ⟨by decide, by decide⟩, Or.inl ⟨q114, M_X14_leaves h⟩⟩
  replace h := ah_in_ c21 h
  by_cases c22 : ah_tg σ a = 22
  · replace h := ah_ip c22 h
    exact ⟨22, yX21_leaves, cX21_leaves, 3, (some FieldType.int), 6, 129, by rw [e]; exact ah_is_of c22, by decide, q1159, nq1161, nq1160, nq1137, q1084, q1085, ⟨by decide, by decide⟩, Or.inl ⟨q121, M_X21_leaves h⟩⟩
  replace h := ah_in_ c22 h
  cases h
theorem N_B23_sees {l : Launch} {D : ah_D} {σ : ah_S} {r : Option Nat} {x1 : Int32} {v : Int32} {σ1 : ah_S} (h : Z_B23_sees σ r x1 = some (v, σ1)) : ah_VI l ⟨"LeftAsFound$Tells", "sees", "(I)I"⟩  4 90 D r [.int x1] σ (some (.int v)) σ1 := by
  obtain ⟨a, e, h⟩ := ah_bs h
  by_cases c15 : ah_tg σ a = 15
  · replace h := ah_ip c15 h
    exact ⟨15, yX14_sees, cX14_sees, 2, (some FieldType.int), 2, 45, by rw [e]; exact ah_is_of c15, by decide, q1176, nq1175, nq1177, nq1131, q1093, q1094, ⟨by decide, by decide⟩, Or.inl ⟨q114, M_X14_sees h⟩⟩
  replace h := ah_in_ c15 h
  by_cases c16 : ah_tg σ a = 16
  · replace h := ah_ip c16 h
    exact ⟨16, yX14_sees, cX14_sees, 2, (some FieldType.int), 2, 45, by rw [e]; exact ah_is_of c16, by decide, q1181, nq1175, nq1182, nq1135, q1093, q1094, ⟨by decide, by decide⟩, Or.inl ⟨q114, M_X14_sees h⟩⟩
  replace h := ah_in_ c16 h
  by_cases c17 : ah_tg σ a = 17
  · replace h := ah_ip c17 h
    exact ⟨17, yX14_sees, cX14_sees, 2, (some FieldType.int), 2, 45, by rw [e]; exact ah_is_of c17, by decide, q1187, nq1175, nq1188, nq1141, q1093, q1094, ⟨by decide, by decide⟩, Or.inl ⟨q114, M_X14_sees h⟩⟩
  replace h := ah_in_ c17 h
  by_cases c18 : ah_tg σ a = 18
  · replace h := ah_ip c18 h
    exact ⟨18, yX17_sees, cX17_sees, 2, (some FieldType.int), 3, 66, by rw [e]; exact ah_is_of c18, by decide, q1178, nq1180, nq1179, nq1133, q1101, q1102, ⟨by decide, by decide⟩, Or.inl ⟨q117, M_X17_sees h⟩⟩
  replace h := ah_in_ c18 h
  by_cases c19 : ah_tg σ a = 19
  · replace h := ah_ip c19 h
    exact ⟨19, yX14_sees, cX14_sees, 2, (some FieldType.int), 2, 45, by rw [e]; exact ah_is_of c19, by decide, q1185, nq1175, nq1186, nq1139, q1093, q1094, ⟨by decide, by decide⟩, Or.inl ⟨q114, M_X14_sees h⟩⟩
  replace h := ah_in_ c19 h
  by_cases c20 : ah_tg σ a = 20
  · replace h := ah_ip c20 h
    exact ⟨20, yX19_sees, cX19_sees, 3, (some FieldType.int), 4, 87, by rw [e]; exact ah_is_of c20, by decide, q1189, nq1191, nq1190, nq1143, q1105, q1106, ⟨by decide, by decide⟩, Or.inl ⟨q119, M_X19_sees h⟩⟩
  replace h := ah_in_ c20 h
  by_cases c21 : ah_tg σ a = 21
  · replace h := ah_ip c21 h
    exact ⟨21, yX14_sees, cX14_sees, 2, (some FieldType.int), 2, 45, by rw [e]; exact ah_is_of c21, by decide, q1173, nq1175, nq1174, nq1129, q1093, q1094, ⟨by decide, by decide⟩, Or.inl ⟨q114, M_X14_sees h⟩⟩
  replace h := ah_in_ c21 h
  by_cases c22 : ah_tg σ a = 22
  · replace h := ah_ip c22 h
    exact ⟨22, yX14_sees, cX14_sees, 2, (some FieldType.int), 2, 45, by rw [e]; exact ah_is_of c22, by decide, q1183, nq1175, nq1184, nq1137, q1093, q1094, ⟨by decide, by decide⟩, Or.inl ⟨q114, M_X14_sees h⟩⟩
  replace h := ah_in_ c22 h
  cases h
set_option maxRecDepth 20000 in
set_option maxHeartbeats 4000000 in
theorem W_X23_tells {κ : ah_C} {rr : (Int32 × ah_S)} (hκ : ah_res κ = (.returned (some (.int rr.1)), rr.2))  (σ : ah_S) (r0 : Option Nat) (x1 : Int32) (h : F_X23_tells σ r0 x1 = some rr) : ah_G κ ("LeftAsFound$Tells", "tells", 3, (some FieldType.int), [], 8, 171) cX23_tells σ 0 [some (va_rf r0), some (.int x1), none] [] := by
  unfold F_X23_tells at h
  refine ro_aload_n (pc' := 1) dX23_tells_0 rfl rfl rfl ?_
  refine ro_iconst (pc' := 2) dX23_tells_1 ic_2 rfl ?_
  obtain ⟨σ1, hσ1, h⟩ := ah_bs h
  refine ro_callIB (pc' := 7) (As := [.int (2 : Int32)]) (rest := []) (st' := []) (N_B23_begins hσ1) q1126 nq1128 nq1127 dd_B23_begins rfl ⟨Nat.le_of_ble_eq_true rfl, Nat.le_of_ble_eq_true rfl⟩ (Nat.le_of_ble_eq_true rfl) dX23_tells_2 rfl rfl rfl ?_
  refine ro_aload_n (pc' := 8) dX23_tells_7 rfl rfl rfl ?_
  refine ro_iload_n (pc' := 9) dX23_tells_8 rfl rfl rfl ?_
  obtain ⟨v2, σ3, hv2, h⟩ := ah_bs2 h
  refine ro_callIB (pc' := 14) (As := [.int x1]) (rest := []) (st' := [.int v2]) (N_B23_leaves hv2) q1146 nq1148 nq1147 dd_B23_leaves rfl ⟨Nat.le_of_ble_eq_true rfl, Nat.le_of_ble_eq_true rfl⟩ (Nat.le_of_ble_eq_true rfl) dX23_tells_9 rfl rfl rfl ?_
  refine ro_istore_n (pc' := 15) (L' := [some (va_rf r0), some (.int x1), some (.int v2)]) dX23_tells_14 rfl (Nat.le_of_ble_eq_true rfl) rfl (ah_okp_i _) rfl ?_
  refine ro_iload_n (pc' := 16) dX23_tells_15 rfl rfl rfl ?_
  refine ro_aload_n (pc' := 17) dX23_tells_16 rfl rfl rfl ?_
  refine ro_iconst (pc' := 18) dX23_tells_17 ic_1 rfl ?_
  obtain ⟨v4, σ5, hv4, h⟩ := ah_bs2 h
  refine ro_callIB (pc' := 23) (As := [.int (1 : Int32)]) (rest := [.int v2]) (st' := [.int v4, .int v2]) (N_B23_sees hv4) q1170 nq1172 nq1171 dd_B23_sees rfl ⟨Nat.le_of_ble_eq_true rfl, Nat.le_of_ble_eq_true rfl⟩ (Nat.le_of_ble_eq_true rfl) dX23_tells_18 rfl rfl rfl ?_
  refine ro_isub (pc' := 24) dX23_tells_23 rfl ?_
  obtain rfl := Option.some.inj h
  exact ro_iret hκ dX23_tells_24
theorem M_X23_tells {l : Launch} {D : ah_D} {σ : ah_S} {r0 : Option Nat} {x1 : Int32} {v : Int32} {σ1 : ah_S} (h : F_X23_tells σ r0 x1 = some (v, σ1)) : ah_MetD l yX23_tells cX23_tells 3 (some FieldType.int) 8 171 D [va_rf r0, .int x1] σ (.returned (some (.int v)), σ1) :=
  ah_ofGD (own := "LeftAsFound$Tells") (nm := "tells") (L0 := [some (va_rf r0), some (.int x1), none]) rfl rfl rfl (ah_ao_1 (ah_rf_cat _) (ah_ao_1 rfl (ah_ao_n ah_ao_0))) (fun κ hκ => W_X23_tells hκ σ r0 x1 h)
theorem N_B18_begins {l : Launch} {D : ah_D} {σ : ah_S} {r : Option Nat} {x1 : Int32} {σ1 : ah_S} (h : Z_B18_begins σ r x1 = some σ1) : ah_VB l ⟨"LeftAsFound$SeenStay", "begins", "(I)V"⟩ "LeftAsFound$Body" 1 26 D r [.int x1] σ none σ1 := by
  obtain ⟨a, e, h⟩ := ah_bs h
  by_cases c19 : ah_tg σ a = 19
  · replace h := ah_ip c19 h
    exact ⟨19, yX14_begins, cX14_begins, 2, none, 1, 24, by rw [e]; exact ah_is_of c19, by decide, Or.inl q1122, q985, q986, ⟨by decide, by decide⟩, Or.inl ⟨q114, M_X14_begins h⟩⟩
  replace h := ah_in_ c19 h
  cases h
set_option maxRecDepth 20000 in
set_option maxHeartbeats 4000000 in
theorem W_X18_tells {κ : ah_C} {rr : (Int32 × ah_S)} (hκ : ah_res κ = (.returned (some (.int rr.1)), rr.2))  (σ : ah_S) (r0 : Option Nat) (x1 : Int32) (h : F_X18_tells σ r0 x1 = some rr) : ah_G κ ("LeftAsFound$SeenStay", "tells", 2, (some FieldType.int), [], 9, 193) cX18_tells σ 0 [some (va_rf r0), some (.int x1)] [] := by
  unfold F_X18_tells at h
  refine ro_aload_n (pc' := 1) dX18_tells_0 rfl rfl rfl ?_
  refine ro_bipush (pc' := 3) dX18_tells_1 ib_50 rfl ?_
  obtain ⟨σ1, hσ1, h⟩ := ah_bs h
  refine ro_callVB (pc' := 6) (As := [.int (50 : Int32)]) (rest := []) (st' := []) (N_B18_begins hσ1) (Or.inl q1120) (Or.inl q1121) (Or.inl nq982) dd_B18_begins rfl ⟨Nat.le_of_ble_eq_true rfl, Nat.le_of_ble_eq_true rfl⟩ (Nat.le_of_ble_eq_true rfl) dX18_tells_3 rfl rfl rfl ?_
  refine ro_aload_n (pc' := 7) dX18_tells_6 rfl rfl rfl ?_
  refine ro_iload_n (pc' := 8) dX18_tells_7 rfl rfl rfl ?_
  obtain ⟨u2, hu2, h⟩ := ah_bs h
  obtain ⟨v3, σ4, hv3, h⟩ := ah_bs2 h
  refine ro_callSB (pc' := 11) (x := ⟨"LeftAsFound$FoundStay", "tells", "(I)I"⟩) (owner := "LeftAsFound$Tells") (bytes := cX23_tells) (maxL := 3) (ret := (some FieldType.int)) (As := [.int x1]) (rest := []) (st' := [.int v3]) hu2 (Or.inr ⟨by decide, M_X23_tells hv3⟩) (Or.inr nd_9) (Or.inr nd_10) q923 q1123 q1124 (by decide) (Or.inr (Or.inr nd_23)) sd_1_0 rfl ⟨Nat.le_of_ble_eq_true rfl, Nat.le_of_ble_eq_true rfl⟩ (Nat.le_of_ble_eq_true rfl) dX18_tells_8 rfl rfl rfl ?_
  refine ro_iconst (pc' := 12) dX18_tells_11 ic_5 rfl ?_
  refine ro_ixor (pc' := 13) dX18_tells_12 rfl ?_
  obtain rfl := Option.some.inj h
  exact ro_iret hκ dX18_tells_13
theorem M_X18_tells {l : Launch} {D : ah_D}  {σ : ah_S} {r0 : Option Nat} {x1 : Int32} {v : Int32} {σ1 : ah_S} (h : F_X18_tells σ r0 x1 = some (v, σ1)) : ah_Met l yX18_tells (Cond.code yX18_tells cX18_tells 2 (some FieldType.int)) 9 193 D [va_rf r0, .int x1] σ (.returned (some (.int v)), σ1) :=
  ah_ofG (own := "LeftAsFound$SeenStay") (nm := "tells") (L0 := [some (va_rf r0), some (.int x1)]) (by decide) rfl rfl rfl (ah_ao_1 (ah_rf_cat _) (ah_ao_1 rfl ah_ao_0)) (fun κ hκ => W_X18_tells hκ  σ r0 x1 h)
set_option maxRecDepth 20000 in
set_option maxHeartbeats 4000000 in
theorem W_X19_tells {κ : ah_C} {rr : (Int32 × ah_S)} (hκ : ah_res κ = (.returned (some (.int rr.1)), rr.2))  (σ : ah_S) (r0 : Option Nat) (x1 : Int32) (h : F_X19_tells σ r0 x1 = some rr) : ah_G κ ("LeftAsFound$WrittenStay", "tells", 2, (some FieldType.int), [], 9, 193) cX19_tells σ 0 [some (va_rf r0), some (.int x1)] [] := by
  unfold F_X19_tells at h
  refine ro_aload_n (pc' := 1) dX19_tells_0 rfl rfl rfl ?_
  refine ro_bipush (pc' := 3) dX19_tells_1 ib_61 rfl ?_
  obtain ⟨σ1, hσ1, h⟩ := ah_bs h
  refine ro_callVB (pc' := 6) (As := [.int (61 : Int32)]) (rest := []) (st' := []) (N_B19_begins hσ1) (Or.inl q1107) (Or.inl q1108) (Or.inl nq982) dd_B19_begins rfl ⟨Nat.le_of_ble_eq_true rfl, Nat.le_of_ble_eq_true rfl⟩ (Nat.le_of_ble_eq_true rfl) dX19_tells_3 rfl rfl rfl ?_
  refine ro_aload_n (pc' := 7) dX19_tells_6 rfl rfl rfl ?_
  refine ro_iload_n (pc' := 8) dX19_tells_7 rfl rfl rfl ?_
  obtain ⟨u2, hu2, h⟩ := ah_bs h
  obtain ⟨v3, σ4, hv3, h⟩ := ah_bs2 h
  refine ro_callSB (pc' := 11) (x := ⟨"LeftAsFound$BroughtStay", "tells", "(I)I"⟩) (owner := "LeftAsFound$Tells") (bytes := cX23_tells) (maxL := 3) (ret := (some FieldType.int)) (As := [.int x1]) (rest := []) (st' := [.int v3]) hu2 (Or.inr ⟨by decide, M_X23_tells hv3⟩) (Or.inr nd_11) (Or.inr nd_12) q937 q1123 q1124 (by decide) (Or.inr (Or.inr nd_25)) sd_1_0 rfl ⟨Nat.le_of_ble_eq_true rfl, Nat.le_of_ble_eq_true rfl⟩ (Nat.le_of_ble_eq_true rfl) dX19_tells_8 rfl rfl rfl ?_
  refine ro_iconst (pc' := 12) dX19_tells_11 ic_1 rfl ?_
  refine ro_iadd (pc' := 13) dX19_tells_12 rfl ?_
  obtain rfl := Option.some.inj h
  exact ro_iret hκ dX19_tells_13
theorem M_X19_tells {l : Launch} {D : ah_D}  {σ : ah_S} {r0 : Option Nat} {x1 : Int32} {v : Int32} {σ1 : ah_S} (h : F_X19_tells σ r0 x1 = some (v, σ1)) : ah_Met l yX19_tells (Cond.code yX19_tells cX19_tells 2 (some FieldType.int)) 9 193 D [va_rf r0, .int x1] σ (.returned (some (.int v)), σ1) :=
  ah_ofG (own := "LeftAsFound$WrittenStay") (nm := "tells") (L0 := [some (va_rf r0), some (.int x1)]) (by decide) rfl rfl rfl (ah_ao_1 (ah_rf_cat _) (ah_ao_1 rfl ah_ao_0)) (fun κ hκ => W_X19_tells hκ  σ r0 x1 h)
set_option maxRecDepth 20000 in
set_option maxHeartbeats 4000000 in
theorem W_X0_made {κ : ah_C} {rr : (Option Nat × ah_S)} (hκ : ah_res κ = (.returned (some (va_rf rr.1)), rr.2))  (σ : ah_S) (r0 : Option Nat) (x1 : Int32) (h : F_X0_made σ r0 x1 = some rr) : ah_G κ ("LeftAsFound", "made", 2, (some (FieldType.object "LeftAsFound$Body")), [], 5, 112) cX0_made σ 0 [some (va_rf r0), some (.int x1)] [] := by
  unfold F_X0_made at h
  refine ro_iload_n (pc' := 1) dX0_made_0 rfl rfl rfl ?_
  by_cases c1_0 : x1 = (1 : Int32)
  · replace h := ah_ip c1_0 h
    refine ro_tabIn (tgt := 44) 0 c1_0 dX0_made_1 (by decide) (by decide) rfl rfl ?_
    obtain ⟨σ1, hσ1, h⟩ := ah_bs h
    refine ro_new (pc' := 47) ct_X15 df_X15 (by decide) q867 q868 q115 dX0_made_44 rfl hσ1 ?_
    refine ro_dup (pc' := 48) dX0_made_47 (ah_rf_cat _) rfl ?_
    refine ro_aload_n (pc' := 49) dX0_made_48 rfl rfl rfl ?_
    refine ro_aload_n (pc' := 50) dX0_made_49 rfl rfl rfl ?_
    obtain ⟨v2, hv2, h⟩ := ah_bs h
    refine ro_getI (pc' := 53) ft_38 fk_38 q332 dX0_made_50 rfl hv2 ?_
    obtain ⟨σ3, hσ3, h⟩ := ah_bs h
    refine ro_callI (pc' := 56) (As := [va_rf r0, .int v2]) (rest := [va_rf (some (ah_nx σ))]) (st' := [va_rf (some (ah_nx σ))]) rfl q870 rfl (M_X15_init hσ3) q869 q871 q115 dd_X15_init rfl ⟨Nat.le_of_ble_eq_true rfl, Nat.le_of_ble_eq_true rfl⟩ (by simp only [List.map_cons, List.map_nil, List.sum_cons, List.sum_nil, ah_rf_cat, ah_cat_i, ah_cat_l]; decide) dX0_made_53 rfl rfl rfl ?_
    obtain rfl := Option.some.inj h
    exact ro_aret hκ dX0_made_56
  replace h := ah_in_ c1_0 h
  by_cases c1_1 : x1 = (2 : Int32)
  · replace h := ah_ip c1_1 h
    refine ro_tabIn (tgt := 57) 1 c1_1 dX0_made_1 (by decide) (by decide) rfl rfl ?_
    obtain ⟨σ4, hσ4, h⟩ := ah_bs h
    refine ro_new (pc' := 60) ct_X16 df_X16 (by decide) q886 q887 q116 dX0_made_57 rfl hσ4 ?_
    refine ro_dup (pc' := 61) dX0_made_60 (ah_rf_cat _) rfl ?_
    refine ro_aload_n (pc' := 62) dX0_made_61 rfl rfl rfl ?_
    refine ro_aload_n (pc' := 63) dX0_made_62 rfl rfl rfl ?_
    obtain ⟨v5, hv5, h⟩ := ah_bs h
    refine ro_getI (pc' := 66) ft_38 fk_38 q332 dX0_made_63 rfl hv5 ?_
    obtain ⟨σ6, hσ6, h⟩ := ah_bs h
    refine ro_callI (pc' := 69) (As := [va_rf r0, .int v5]) (rest := [va_rf (some (ah_nx σ))]) (st' := [va_rf (some (ah_nx σ))]) rfl q889 rfl (M_X16_init hσ6) q888 q890 q116 dd_X16_init rfl ⟨Nat.le_of_ble_eq_true rfl, Nat.le_of_ble_eq_true rfl⟩ (by simp only [List.map_cons, List.map_nil, List.sum_cons, List.sum_nil, ah_rf_cat, ah_cat_i, ah_cat_l]; decide) dX0_made_66 rfl rfl rfl ?_
    obtain rfl := Option.some.inj h
    exact ro_aret hκ dX0_made_69
  replace h := ah_in_ c1_1 h
  by_cases c1_2 : x1 = (3 : Int32)
  · replace h := ah_ip c1_2 h
    refine ro_tabIn (tgt := 70) 2 c1_2 dX0_made_1 (by decide) (by decide) rfl rfl ?_
    obtain ⟨σ7, hσ7, h⟩ := ah_bs h
    refine ro_new (pc' := 73) ct_X17 df_X17 (by decide) q898 q899 q117 dX0_made_70 rfl hσ7 ?_
    refine ro_dup (pc' := 74) dX0_made_73 (ah_rf_cat _) rfl ?_
    refine ro_aload_n (pc' := 75) dX0_made_74 rfl rfl rfl ?_
    refine ro_aload_n (pc' := 76) dX0_made_75 rfl rfl rfl ?_
    obtain ⟨v8, hv8, h⟩ := ah_bs h
    refine ro_getI (pc' := 79) ft_38 fk_38 q332 dX0_made_76 rfl hv8 ?_
    obtain ⟨σ9, hσ9, h⟩ := ah_bs h
    refine ro_callI (pc' := 82) (As := [va_rf r0, .int v8]) (rest := [va_rf (some (ah_nx σ))]) (st' := [va_rf (some (ah_nx σ))]) rfl q901 rfl (M_X17_init hσ9) q900 q902 q117 dd_X17_init rfl ⟨Nat.le_of_ble_eq_true rfl, Nat.le_of_ble_eq_true rfl⟩ (by simp only [List.map_cons, List.map_nil, List.sum_cons, List.sum_nil, ah_rf_cat, ah_cat_i, ah_cat_l]; decide) dX0_made_79 rfl rfl rfl ?_
    obtain rfl := Option.some.inj h
    exact ro_aret hκ dX0_made_82
  replace h := ah_in_ c1_2 h
  by_cases c1_3 : x1 = (4 : Int32)
  · replace h := ah_ip c1_3 h
    refine ro_tabIn (tgt := 83) 3 c1_3 dX0_made_1 (by decide) (by decide) rfl rfl ?_
    obtain ⟨σ10, hσ10, h⟩ := ah_bs h
    refine ro_new (pc' := 86) ct_X18 df_X18 (by decide) q911 q912 q118 dX0_made_83 rfl hσ10 ?_
    refine ro_dup (pc' := 87) dX0_made_86 (ah_rf_cat _) rfl ?_
    refine ro_aload_n (pc' := 88) dX0_made_87 rfl rfl rfl ?_
    refine ro_aload_n (pc' := 89) dX0_made_88 rfl rfl rfl ?_
    obtain ⟨v11, hv11, h⟩ := ah_bs h
    refine ro_getI (pc' := 92) ft_38 fk_38 q332 dX0_made_89 rfl hv11 ?_
    obtain ⟨σ12, hσ12, h⟩ := ah_bs h
    refine ro_callI (pc' := 95) (As := [va_rf r0, .int v11]) (rest := [va_rf (some (ah_nx σ))]) (st' := [va_rf (some (ah_nx σ))]) rfl q914 rfl (M_X18_init hσ12) q913 q915 q118 dd_X18_init rfl ⟨Nat.le_of_ble_eq_true rfl, Nat.le_of_ble_eq_true rfl⟩ (by simp only [List.map_cons, List.map_nil, List.sum_cons, List.sum_nil, ah_rf_cat, ah_cat_i, ah_cat_l]; decide) dX0_made_92 rfl rfl rfl ?_
    obtain rfl := Option.some.inj h
    exact ro_aret hκ dX0_made_95
  replace h := ah_in_ c1_3 h
  by_cases c1_4 : x1 = (5 : Int32)
  · replace h := ah_ip c1_4 h
    refine ro_tabIn (tgt := 96) 4 c1_4 dX0_made_1 (by decide) (by decide) rfl rfl ?_
    obtain ⟨σ13, hσ13, h⟩ := ah_bs h
    refine ro_new (pc' := 99) ct_X19 df_X19 (by decide) q924 q925 q119 dX0_made_96 rfl hσ13 ?_
    refine ro_dup (pc' := 100) dX0_made_99 (ah_rf_cat _) rfl ?_
    refine ro_aload_n (pc' := 101) dX0_made_100 rfl rfl rfl ?_
    refine ro_aload_n (pc' := 102) dX0_made_101 rfl rfl rfl ?_
    obtain ⟨v14, hv14, h⟩ := ah_bs h
    refine ro_getI (pc' := 105) ft_38 fk_38 q332 dX0_made_102 rfl hv14 ?_
    obtain ⟨σ15, hσ15, h⟩ := ah_bs h
    refine ro_callI (pc' := 108) (As := [va_rf r0, .int v14]) (rest := [va_rf (some (ah_nx σ))]) (st' := [va_rf (some (ah_nx σ))]) rfl q927 rfl (M_X19_init hσ15) q926 q928 q119 dd_X19_init rfl ⟨Nat.le_of_ble_eq_true rfl, Nat.le_of_ble_eq_true rfl⟩ (by simp only [List.map_cons, List.map_nil, List.sum_cons, List.sum_nil, ah_rf_cat, ah_cat_i, ah_cat_l]; decide) dX0_made_105 rfl rfl rfl ?_
    obtain rfl := Option.some.inj h
    exact ro_aret hκ dX0_made_108
  replace h := ah_in_ c1_4 h
  by_cases c1_5 : x1 = (6 : Int32)
  · replace h := ah_ip c1_5 h
    refine ro_tabIn (tgt := 109) 5 c1_5 dX0_made_1 (by decide) (by decide) rfl rfl ?_
    obtain ⟨σ16, hσ16, h⟩ := ah_bs h
    refine ro_new (pc' := 112) ct_X20 df_X20 (by decide) q938 q939 q120 dX0_made_109 rfl hσ16 ?_
    refine ro_dup (pc' := 113) dX0_made_112 (ah_rf_cat _) rfl ?_
    refine ro_aload_n (pc' := 114) dX0_made_113 rfl rfl rfl ?_
    refine ro_aload_n (pc' := 115) dX0_made_114 rfl rfl rfl ?_
    obtain ⟨v17, hv17, h⟩ := ah_bs h
    refine ro_getI (pc' := 118) ft_38 fk_38 q332 dX0_made_115 rfl hv17 ?_
    obtain ⟨σ18, hσ18, h⟩ := ah_bs h
    refine ro_callI (pc' := 121) (As := [va_rf r0, .int v17]) (rest := [va_rf (some (ah_nx σ))]) (st' := [va_rf (some (ah_nx σ))]) rfl q941 rfl (M_X20_init hσ18) q940 q942 q120 dd_X20_init rfl ⟨Nat.le_of_ble_eq_true rfl, Nat.le_of_ble_eq_true rfl⟩ (by simp only [List.map_cons, List.map_nil, List.sum_cons, List.sum_nil, ah_rf_cat, ah_cat_i, ah_cat_l]; decide) dX0_made_118 rfl rfl rfl ?_
    obtain rfl := Option.some.inj h
    exact ro_aret hκ dX0_made_121
  replace h := ah_in_ c1_5 h
  by_cases c1_6 : x1 = (7 : Int32)
  · replace h := ah_ip c1_6 h
    refine ro_tabIn (tgt := 122) 6 c1_6 dX0_made_1 (by decide) (by decide) rfl rfl ?_
    obtain ⟨σ19, hσ19, h⟩ := ah_bs h
    refine ro_new (pc' := 125) ct_X21 df_X21 (by decide) q950 q951 q121 dX0_made_122 rfl hσ19 ?_
    refine ro_dup (pc' := 126) dX0_made_125 (ah_rf_cat _) rfl ?_
    refine ro_aload_n (pc' := 127) dX0_made_126 rfl rfl rfl ?_
    refine ro_aload_n (pc' := 128) dX0_made_127 rfl rfl rfl ?_
    obtain ⟨v20, hv20, h⟩ := ah_bs h
    refine ro_getI (pc' := 131) ft_38 fk_38 q332 dX0_made_128 rfl hv20 ?_
    obtain ⟨σ21, hσ21, h⟩ := ah_bs h
    refine ro_callI (pc' := 134) (As := [va_rf r0, .int v20]) (rest := [va_rf (some (ah_nx σ))]) (st' := [va_rf (some (ah_nx σ))]) rfl q953 rfl (M_X21_init hσ21) q952 q954 q121 dd_X21_init rfl ⟨Nat.le_of_ble_eq_true rfl, Nat.le_of_ble_eq_true rfl⟩ (by simp only [List.map_cons, List.map_nil, List.sum_cons, List.sum_nil, ah_rf_cat, ah_cat_i, ah_cat_l]; decide) dX0_made_131 rfl rfl rfl ?_
    obtain rfl := Option.some.inj h
    exact ro_aret hκ dX0_made_134
  replace h := ah_in_ c1_6 h
  refine ro_tabOut (tgt := 135) dX0_made_1 (by have e0 := lv_neT (a := 1) c1_0 (by decide); have e1 := lv_neT (a := 2) c1_1 (by decide); have e2 := lv_neT (a := 3) c1_2 (by decide); have e3 := lv_neT (a := 4) c1_3 (by decide); have e4 := lv_neT (a := 5) c1_4 (by decide); have e5 := lv_neT (a := 6) c1_5 (by decide); have e6 := lv_neT (a := 7) c1_6 (by decide); omega) rfl ?_
  obtain ⟨σ22, hσ22, h⟩ := ah_bs h
  refine ro_new (pc' := 138) ct_X14 df_X14 (by decide) q271 q963 q114 dX0_made_135 rfl hσ22 ?_
  refine ro_dup (pc' := 139) dX0_made_138 (ah_rf_cat _) rfl ?_
  refine ro_aload_n (pc' := 140) dX0_made_139 rfl rfl rfl ?_
  refine ro_aload_n (pc' := 141) dX0_made_140 rfl rfl rfl ?_
  obtain ⟨v23, hv23, h⟩ := ah_bs h
  refine ro_getI (pc' := 144) ft_38 fk_38 q332 dX0_made_141 rfl hv23 ?_
  obtain ⟨σ24, hσ24, h⟩ := ah_bs h
  refine ro_callI (pc' := 147) (As := [va_rf r0, .int v23]) (rest := [va_rf (some (ah_nx σ))]) (st' := [va_rf (some (ah_nx σ))]) rfl q873 rfl (M_X14_init hσ24) q964 q874 q114 dd_X14_init rfl ⟨Nat.le_of_ble_eq_true rfl, Nat.le_of_ble_eq_true rfl⟩ (by simp only [List.map_cons, List.map_nil, List.sum_cons, List.sum_nil, ah_rf_cat, ah_cat_i, ah_cat_l]; decide) dX0_made_144 rfl rfl rfl ?_
  obtain rfl := Option.some.inj h
  exact ro_aret hκ dX0_made_147
theorem M_X0_made {l : Launch} {D : ah_D}  {σ : ah_S} {r0 : Option Nat} {x1 : Int32} {v : Option Nat} {σ1 : ah_S} (h : F_X0_made σ r0 x1 = some (v, σ1)) : ah_Met l yX0_made (Cond.code yX0_made cX0_made 2 (some (FieldType.object "LeftAsFound$Body"))) 5 112 D [va_rf r0, .int x1] σ (.returned (some (va_rf v)), σ1) :=
  ah_ofG (own := "LeftAsFound") (nm := "made") (L0 := [some (va_rf r0), some (.int x1)]) (by decide) rfl rfl rfl (ah_ao_1 (ah_rf_cat _) (ah_ao_1 rfl ah_ao_0)) (fun κ hκ => W_X0_made hκ  σ r0 x1 h)
set_option maxRecDepth 20000 in
set_option maxHeartbeats 4000000 in
theorem W_X0_body {κ : ah_C} {rr : (Int32 × ah_S)} (hκ : ah_res κ = (.returned (some (.int rr.1)), rr.2))  (σ : ah_S) (r0 : Option Nat) (x1 : Int32) (h : F_X0_body σ r0 x1 = some rr) : ah_G κ ("LeftAsFound", "body", 2, (some FieldType.int), [], 6, 133) cX0_body σ 0 [some (va_rf r0), some (.int x1)] [] := by
  unfold F_X0_body at h
  refine ro_iload_n (pc' := 1) dX0_body_0 rfl rfl rfl ?_
  refine ro_i2l (pc' := 2) dX0_body_1 rfl ?_
  refine ro_lconst (pc' := 3) dX0_body_2 lc_0 rfl ?_
  refine ro_ldc2 (pc' := 6) q474 dX0_body_3 rfl ?_
  obtain ⟨v1, σ2, hv1, h⟩ := ah_bs2 h
  refine ro_callS (pc' := 9) (As := [.long (x1.toInt64), .long (0 : Int64), .long (7 : Int64)]) (rest := []) (st' := [.int v1]) q429 (M_X0_within hv1) q428 q430 q95 dd_X0_within rfl ⟨Nat.le_of_ble_eq_true rfl, Nat.le_of_ble_eq_true rfl⟩ (Nat.le_of_ble_eq_true rfl) dX0_body_6 rfl rfl rfl ?_
  refine ro_if_ne (pc' := 12) (tgt := 14) dX0_body_9 rfl rfl (fun c => ?_) (fun c => ?_)
  · replace h := ah_in_ c h
    refine ro_aload_n (pc' := 15) dX0_body_14 rfl rfl rfl ?_
    obtain ⟨v3, hv3, h⟩ := ah_bs h
    refine ro_getI (pc' := 18) ft_38 fk_38 q332 dX0_body_15 rfl hv3 ?_
    refine ro_bipush (pc' := 20) dX0_body_18 ib_50 rfl ?_
    refine ro_icmp_ne (pc' := 23) (tgt := 26) dX0_body_20 rfl rfl (fun c => ?_) (fun c => ?_)
    · replace h := ah_in_ c h
      refine ro_aload_n (pc' := 27) dX0_body_26 rfl rfl rfl ?_
      obtain ⟨v4, hv4, h⟩ := ah_bs h
      refine ro_getR (pc' := 30) ft_37 fk_37 q331 dX0_body_27 rfl hv4 ?_
      refine ro_aload_n (pc' := 31) dX0_body_30 rfl rfl rfl ?_
      obtain ⟨v5, hv5, h⟩ := ah_bs h
      refine ro_getI (pc' := 34) ft_38 fk_38 q332 dX0_body_31 rfl hv5 ?_
      refine ro_aload_n (pc' := 35) dX0_body_34 rfl rfl rfl ?_
      refine ro_iload_n (pc' := 36) dX0_body_35 rfl rfl rfl ?_
      obtain ⟨u6, hu6, h⟩ := ah_bs h
      obtain ⟨v7, σ8, hv7, h⟩ := ah_bs2 h
      refine ro_callV (pc' := 39) (As := [.int x1]) (rest := [.int v5, va_rf v4]) (st' := [va_rf v7, .int v5, va_rf v4]) (by decide) hu6 q865 sl_X0_made (M_X0_made hv7) q863 q866 q95 dd_X0_made rfl ⟨Nat.le_of_ble_eq_true rfl, Nat.le_of_ble_eq_true rfl⟩ (by simp only [List.map_cons, List.map_nil, List.sum_cons, List.sum_nil, ah_rf_cat, ah_cat_i, ah_cat_l]; decide) dX0_body_36 rfl rfl rfl ?_
      obtain ⟨σ9, hσ9, h⟩ := ah_bs h
      refine ro_aastore (pc' := 40) (by decide) (by decide) rfl dX0_body_39 rfl hσ9 ?_
      refine ro_aload_n (pc' := 41) dX0_body_40 rfl rfl rfl ?_
      refine ro_dup (pc' := 42) dX0_body_41 (ah_rf_cat _) rfl ?_
      obtain ⟨v10, hv10, h⟩ := ah_bs h
      refine ro_getI (pc' := 45) ft_38 fk_38 q332 dX0_body_42 rfl hv10 ?_
      refine ro_dup_x1 (pc' := 46) dX0_body_45 rfl (ah_rf_cat _) rfl ?_
      refine ro_iconst (pc' := 47) dX0_body_46 ic_1 rfl ?_
      refine ro_iadd (pc' := 48) dX0_body_47 rfl ?_
      obtain ⟨σ11, hσ11, h⟩ := ah_bs h
      refine ro_putI (pc' := 51) ft_38 fk_38 q332 pd_38 dX0_body_48 rfl hσ11 ?_
      obtain rfl := Option.some.inj h
      exact ro_iret hκ dX0_body_51
    · replace h := ah_ip c h
      refine ro_bipush (pc' := 25) dX0_body_23 ib_m3 rfl ?_
      obtain rfl := Option.some.inj h
      exact ro_iret hκ dX0_body_25
  · replace h := ah_ip c h
    refine ro_iconst (pc' := 13) dX0_body_12 ic_m1 rfl ?_
    obtain rfl := Option.some.inj h
    exact ro_iret hκ dX0_body_13
theorem M_X0_body {l : Launch} {D : ah_D}  {σ : ah_S} {r0 : Option Nat} {x1 : Int32} {v : Int32} {σ1 : ah_S} (h : F_X0_body σ r0 x1 = some (v, σ1)) : ah_Met l yX0_body (Cond.code yX0_body cX0_body 2 (some FieldType.int)) 6 133 D [va_rf r0, .int x1] σ (.returned (some (.int v)), σ1) :=
  ah_ofG (own := "LeftAsFound") (nm := "body") (L0 := [some (va_rf r0), some (.int x1)]) (by decide) rfl rfl rfl (ah_ao_1 (ah_rf_cat _) (ah_ao_1 rfl ah_ao_0)) (fun κ hκ => W_X0_body hκ  σ r0 x1 h)
theorem N_B14_leaves {l : Launch} {D : ah_D} {σ : ah_S} {r : Option Nat} {x1 : Int32} {v : Int32} {σ1 : ah_S} (h : Z_B14_leaves σ r x1 = some (v, σ1)) : ah_VB l ⟨"LeftAsFound$Body", "leaves", "(I)I"⟩ "LeftAsFound$Body" 7 152 D r [.int x1] σ (some (.int v)) σ1 := by
  obtain ⟨a, e, h⟩ := ah_bs h
  by_cases c15 : ah_tg σ a = 15
  · replace h := ah_ip c15 h
    exact ⟨15, yX14_leaves, cX14_leaves, 2, (some FieldType.int), 5, 108, by rw [e]; exact ah_is_of c15, by decide, Or.inl q1063, q1062, q1099, ⟨by decide, by decide⟩, Or.inl ⟨q114, M_X14_leaves h⟩⟩
  replace h := ah_in_ c15 h
  by_cases c16 : ah_tg σ a = 16
  · replace h := ah_ip c16 h
    exact ⟨16, yX14_leaves, cX14_leaves, 2, (some FieldType.int), 5, 108, by rw [e]; exact ah_is_of c16, by decide, Or.inl q1082, q1062, q1099, ⟨by decide, by decide⟩, Or.inl ⟨q114, M_X14_leaves h⟩⟩
  replace h := ah_in_ c16 h
  by_cases c17 : ah_tg σ a = 17
  · replace h := ah_ip c17 h
    exact ⟨17, yX16_leaves, cX16_leaves, 2, (some FieldType.int), 6, 129, by rw [e]; exact ah_is_of c17, by decide, Or.inl q1097, q1074, q1075, ⟨by decide, by decide⟩, Or.inl ⟨q116, M_X16_leaves h⟩⟩
  replace h := ah_in_ c17 h
  by_cases c18 : ah_tg σ a = 18
  · replace h := ah_ip c18 h
    exact ⟨18, yX17_leaves, cX17_leaves, 2, (some FieldType.int), 7, 150, by rw [e]; exact ah_is_of c18, by decide, Or.inl q1066, q1067, q1068, ⟨by decide, by decide⟩, Or.inl ⟨q117, M_X17_leaves h⟩⟩
  replace h := ah_in_ c18 h
  by_cases c19 : ah_tg σ a = 19
  · replace h := ah_ip c19 h
    exact ⟨19, yX14_leaves, cX14_leaves, 2, (some FieldType.int), 5, 108, by rw [e]; exact ah_is_of c19, by decide, Or.inl q1096, q1062, q1099, ⟨by decide, by decide⟩, Or.inl ⟨q114, M_X14_leaves h⟩⟩
  replace h := ah_in_ c19 h
  by_cases c20 : ah_tg σ a = 20
  · replace h := ah_ip c20 h
    exact ⟨20, yX17_leaves, cX17_leaves, 2, (some FieldType.int), 7, 150, by rw [e]; exact ah_is_of c20, by decide, Or.inl q1098, q1067, q1068, ⟨by decide, by decide⟩, Or.inl ⟨q117, M_X17_leaves h⟩⟩
  replace h := ah_in_ c20 h
  by_cases c21 : ah_tg σ a = 21
  · replace h := ah_ip c21 h
    exact ⟨21, yX14_leaves, cX14_leaves, 2, (some FieldType.int), 5, 108, by rw [e]; exact ah_is_of c21, by decide, Or.inl q1065, q1062, q1099, ⟨by decide, by decide⟩, Or.inl ⟨q114, M_X14_leaves h⟩⟩
  replace h := ah_in_ c21 h
  by_cases c22 : ah_tg σ a = 22
  · replace h := ah_ip c22 h
    exact ⟨22, yX21_leaves, cX21_leaves, 3, (some FieldType.int), 6, 129, by rw [e]; exact ah_is_of c22, by decide, Or.inl q1083, q1084, q1085, ⟨by decide, by decide⟩, Or.inl ⟨q121, M_X21_leaves h⟩⟩
  replace h := ah_in_ c22 h
  cases h
theorem N_B14_sees {l : Launch} {D : ah_D} {σ : ah_S} {r : Option Nat} {x1 : Int32} {v : Int32} {σ1 : ah_S} (h : Z_B14_sees σ r x1 = some (v, σ1)) : ah_VB l ⟨"LeftAsFound$Body", "sees", "(I)I"⟩ "LeftAsFound$Body" 4 90 D r [.int x1] σ (some (.int v)) σ1 := by
  obtain ⟨a, e, h⟩ := ah_bs h
  by_cases c15 : ah_tg σ a = 15
  · replace h := ah_ip c15 h
    exact ⟨15, yX14_sees, cX14_sees, 2, (some FieldType.int), 2, 45, by rw [e]; exact ah_is_of c15, by decide, Or.inl q1920, q1093, q1094, ⟨by decide, by decide⟩, Or.inl ⟨q114, M_X14_sees h⟩⟩
  replace h := ah_in_ c15 h
  by_cases c16 : ah_tg σ a = 16
  · replace h := ah_ip c16 h
    exact ⟨16, yX14_sees, cX14_sees, 2, (some FieldType.int), 2, 45, by rw [e]; exact ah_is_of c16, by decide, Or.inl q1922, q1093, q1094, ⟨by decide, by decide⟩, Or.inl ⟨q114, M_X14_sees h⟩⟩
  replace h := ah_in_ c16 h
  by_cases c17 : ah_tg σ a = 17
  · replace h := ah_ip c17 h
    exact ⟨17, yX14_sees, cX14_sees, 2, (some FieldType.int), 2, 45, by rw [e]; exact ah_is_of c17, by decide, Or.inl q1925, q1093, q1094, ⟨by decide, by decide⟩, Or.inl ⟨q114, M_X14_sees h⟩⟩
  replace h := ah_in_ c17 h
  by_cases c18 : ah_tg σ a = 18
  · replace h := ah_ip c18 h
    exact ⟨18, yX17_sees, cX17_sees, 2, (some FieldType.int), 3, 66, by rw [e]; exact ah_is_of c18, by decide, Or.inl q1921, q1101, q1102, ⟨by decide, by decide⟩, Or.inl ⟨q117, M_X17_sees h⟩⟩
  replace h := ah_in_ c18 h
  by_cases c19 : ah_tg σ a = 19
  · replace h := ah_ip c19 h
    exact ⟨19, yX14_sees, cX14_sees, 2, (some FieldType.int), 2, 45, by rw [e]; exact ah_is_of c19, by decide, Or.inl q1924, q1093, q1094, ⟨by decide, by decide⟩, Or.inl ⟨q114, M_X14_sees h⟩⟩
  replace h := ah_in_ c19 h
  by_cases c20 : ah_tg σ a = 20
  · replace h := ah_ip c20 h
    exact ⟨20, yX19_sees, cX19_sees, 3, (some FieldType.int), 4, 87, by rw [e]; exact ah_is_of c20, by decide, Or.inl q1926, q1105, q1106, ⟨by decide, by decide⟩, Or.inl ⟨q119, M_X19_sees h⟩⟩
  replace h := ah_in_ c20 h
  by_cases c21 : ah_tg σ a = 21
  · replace h := ah_ip c21 h
    exact ⟨21, yX14_sees, cX14_sees, 2, (some FieldType.int), 2, 45, by rw [e]; exact ah_is_of c21, by decide, Or.inl q1919, q1093, q1094, ⟨by decide, by decide⟩, Or.inl ⟨q114, M_X14_sees h⟩⟩
  replace h := ah_in_ c21 h
  by_cases c22 : ah_tg σ a = 22
  · replace h := ah_ip c22 h
    exact ⟨22, yX14_sees, cX14_sees, 2, (some FieldType.int), 2, 45, by rw [e]; exact ah_is_of c22, by decide, Or.inl q1923, q1093, q1094, ⟨by decide, by decide⟩, Or.inl ⟨q114, M_X14_sees h⟩⟩
  replace h := ah_in_ c22 h
  cases h
theorem N_B14_tells {l : Launch} {D : ah_D} {σ : ah_S} {r : Option Nat} {x1 : Int32} {v : Int32} {σ1 : ah_S} (h : Z_B14_tells σ r x1 = some (v, σ1)) : ah_VB l ⟨"LeftAsFound$Body", "tells", "(I)I"⟩ "LeftAsFound$Tells" 9 195 D r [.int x1] σ (some (.int v)) σ1 := by
  obtain ⟨a, e, h⟩ := ah_bs h
  by_cases c15 : ah_tg σ a = 15
  · replace h := ah_ip c15 h
    exact ⟨15, yX23_tells, cX23_tells, 3, (some FieldType.int), 8, 171, by rw [e]; exact ah_is_of c15, by decide, Or.inr (Or.inr nd_19), q1123, q1124, ⟨by decide, by decide⟩, Or.inr ⟨by decide, M_X23_tells h⟩⟩
  replace h := ah_in_ c15 h
  by_cases c16 : ah_tg σ a = 16
  · replace h := ah_ip c16 h
    exact ⟨16, yX23_tells, cX23_tells, 3, (some FieldType.int), 8, 171, by rw [e]; exact ah_is_of c16, by decide, Or.inr (Or.inr nd_21), q1123, q1124, ⟨by decide, by decide⟩, Or.inr ⟨by decide, M_X23_tells h⟩⟩
  replace h := ah_in_ c16 h
  by_cases c17 : ah_tg σ a = 17
  · replace h := ah_ip c17 h
    exact ⟨17, yX23_tells, cX23_tells, 3, (some FieldType.int), 8, 171, by rw [e]; exact ah_is_of c17, by decide, Or.inr (Or.inr nd_24), q1123, q1124, ⟨by decide, by decide⟩, Or.inr ⟨by decide, M_X23_tells h⟩⟩
  replace h := ah_in_ c17 h
  by_cases c18 : ah_tg σ a = 18
  · replace h := ah_ip c18 h
    exact ⟨18, yX23_tells, cX23_tells, 3, (some FieldType.int), 8, 171, by rw [e]; exact ah_is_of c18, by decide, Or.inr (Or.inr nd_20), q1123, q1124, ⟨by decide, by decide⟩, Or.inr ⟨by decide, M_X23_tells h⟩⟩
  replace h := ah_in_ c18 h
  by_cases c19 : ah_tg σ a = 19
  · replace h := ah_ip c19 h
    exact ⟨19, yX18_tells, cX18_tells, 2, (some FieldType.int), 9, 193, by rw [e]; exact ah_is_of c19, by decide, Or.inr (Or.inl q1117), q1118, q1119, ⟨by decide, by decide⟩, Or.inl ⟨q118, M_X18_tells h⟩⟩
  replace h := ah_in_ c19 h
  by_cases c20 : ah_tg σ a = 20
  · replace h := ah_ip c20 h
    exact ⟨20, yX19_tells, cX19_tells, 2, (some FieldType.int), 9, 193, by rw [e]; exact ah_is_of c20, by decide, Or.inr (Or.inl q1193), q1194, q1195, ⟨by decide, by decide⟩, Or.inl ⟨q119, M_X19_tells h⟩⟩
  replace h := ah_in_ c20 h
  by_cases c21 : ah_tg σ a = 21
  · replace h := ah_ip c21 h
    exact ⟨21, yX23_tells, cX23_tells, 3, (some FieldType.int), 8, 171, by rw [e]; exact ah_is_of c21, by decide, Or.inr (Or.inr nd_18), q1123, q1124, ⟨by decide, by decide⟩, Or.inr ⟨by decide, M_X23_tells h⟩⟩
  replace h := ah_in_ c21 h
  by_cases c22 : ah_tg σ a = 22
  · replace h := ah_ip c22 h
    exact ⟨22, yX23_tells, cX23_tells, 3, (some FieldType.int), 8, 171, by rw [e]; exact ah_is_of c22, by decide, Or.inr (Or.inr nd_22), q1123, q1124, ⟨by decide, by decide⟩, Or.inr ⟨by decide, M_X23_tells h⟩⟩
  replace h := ah_in_ c22 h
  cases h
set_option maxRecDepth 20000 in
set_option maxHeartbeats 4000000 in
theorem W_X0_act {κ : ah_C} {rr : (Int32 × ah_S)} (hκ : ah_res κ = (.returned (some (.int rr.1)), rr.2))  (σ : ah_S) (r0 : Option Nat) (x1 : Int32) (x2 : Int32) (x3 : Int32) (h : F_X0_act σ r0 x1 x2 x3 = some rr) : ah_G κ ("LeftAsFound", "act", 5, (some FieldType.int), [], 10, 214) cX0_act σ 0 [some (va_rf r0), some (.int x1), some (.int x2), some (.int x3), none] [] := by
  unfold F_X0_act at h
  refine ro_aload_n (pc' := 1) dX0_act_0 rfl rfl rfl ?_
  refine ro_iconst (pc' := 2) dX0_act_1 ic_0 rfl ?_
  obtain ⟨σ1, hσ1, h⟩ := ah_bs h
  refine ro_putI (pc' := 5) ft_40 fk_40 q336 pd_40 dX0_act_2 rfl hσ1 ?_
  refine ro_aload_n (pc' := 6) dX0_act_5 rfl rfl rfl ?_
  refine ro_iload_n (pc' := 7) dX0_act_6 rfl rfl rfl ?_
  obtain ⟨u2, hu2, h⟩ := ah_bs h
  obtain ⟨v3, σ4, hv3, h⟩ := ah_bs2 h
  refine ro_callV (pc' := 10) (As := [.int x1]) (rest := []) (st' := [.int v3]) (by decide) hu2 q974 sl_X0_isBody (M_X0_isBody hv3) q972 q975 q95 dd_X0_isBody rfl ⟨Nat.le_of_ble_eq_true rfl, Nat.le_of_ble_eq_true rfl⟩ (Nat.le_of_ble_eq_true rfl) dX0_act_7 rfl rfl rfl ?_
  refine ro_if_eq (pc' := 13) (tgt := 25) dX0_act_10 rfl rfl (fun c => ?_) (fun c => ?_)
  · replace h := ah_ip c h
    refine ro_iconst (pc' := 26) dX0_act_25 ic_0 rfl ?_
    obtain rfl := Option.some.inj h
    exact ro_iret hκ dX0_act_26
  · replace h := ah_in_ c h
    refine ro_iload_n (pc' := 14) dX0_act_13 rfl rfl rfl ?_
    refine ro_i2l (pc' := 15) dX0_act_14 rfl ?_
    refine ro_lconst (pc' := 16) dX0_act_15 lc_0 rfl ?_
    refine ro_ldc2 (pc' := 19) q440 dX0_act_16 rfl ?_
    obtain ⟨v5, σ6, hv5, h⟩ := ah_bs2 h
    refine ro_callS (pc' := 22) (As := [.long (x2.toInt64), .long (0 : Int64), .long (3 : Int64)]) (rest := []) (st' := [.int v5]) q429 (M_X0_within hv5) q428 q430 q95 dd_X0_within rfl ⟨Nat.le_of_ble_eq_true rfl, Nat.le_of_ble_eq_true rfl⟩ (Nat.le_of_ble_eq_true rfl) dX0_act_19 rfl rfl rfl ?_
    refine ro_if_ne (pc' := 25) (tgt := 27) dX0_act_22 rfl rfl (fun c => ?_) (fun c => ?_)
    · replace h := ah_in_ c h
      refine ro_aload_n (pc' := 28) dX0_act_27 rfl rfl rfl ?_
      obtain ⟨v7, hv7, h⟩ := ah_bs h
      refine ro_getR (pc' := 31) ft_37 fk_37 q331 dX0_act_28 rfl hv7 ?_
      refine ro_iload_n (pc' := 32) dX0_act_31 rfl rfl rfl ?_
      obtain ⟨v8, hv8, h⟩ := ah_bs h
      refine ro_aaload (pc' := 33) (by decide) (by decide) rfl dX0_act_32 rfl hv8 ?_
      refine ro_astore (pc' := 35) (L' := [some (va_rf r0), some (.int x1), some (.int x2), some (.int x3), some (va_rf v8)]) dX0_act_33 (Nat.le_of_ble_eq_true rfl) rfl (ah_okp_i _) rfl ?_
      refine ro_iload_n (pc' := 36) dX0_act_35 rfl rfl rfl ?_
      by_cases c36_0 : x2 = (0 : Int32)
      · replace h := ah_ip c36_0 h
        refine ro_tabIn (tgt := 64) 0 c36_0 dX0_act_36 (by decide) (by decide) rfl rfl ?_
        refine ro_aload (pc' := 66) dX0_act_64 rfl rfl ?_
        refine ro_iload_n (pc' := 67) dX0_act_66 rfl rfl rfl ?_
        obtain ⟨v9, σ10, hv9, h⟩ := ah_bs2 h
        refine ro_callVB (pc' := 70) (As := [.int x3]) (rest := []) (st' := [.int v9]) (N_B14_comes hv9) (Or.inr nd_0) (Or.inr nd_1) (Or.inl nq976) dd_B14_comes rfl ⟨Nat.le_of_ble_eq_true rfl, Nat.le_of_ble_eq_true rfl⟩ (Nat.le_of_ble_eq_true rfl) dX0_act_67 rfl rfl rfl ?_
        obtain rfl := Option.some.inj h
        exact ro_iret hκ dX0_act_70
      replace h := ah_in_ c36_0 h
      by_cases c36_1 : x2 = (1 : Int32)
      · replace h := ah_ip c36_1 h
        refine ro_tabIn (tgt := 71) 1 c36_1 dX0_act_36 (by decide) (by decide) rfl rfl ?_
        refine ro_aload (pc' := 73) dX0_act_71 rfl rfl ?_
        refine ro_iload_n (pc' := 74) dX0_act_73 rfl rfl rfl ?_
        obtain ⟨v11, σ12, hv11, h⟩ := ah_bs2 h
        refine ro_callVB (pc' := 77) (As := [.int x3]) (rest := []) (st' := [.int v11]) (N_B14_leaves hv11) (Or.inl q1061) (Or.inl q1064) (Or.inl nq1088) dd_B14_leaves rfl ⟨Nat.le_of_ble_eq_true rfl, Nat.le_of_ble_eq_true rfl⟩ (Nat.le_of_ble_eq_true rfl) dX0_act_74 rfl rfl rfl ?_
        obtain rfl := Option.some.inj h
        exact ro_iret hκ dX0_act_77
      replace h := ah_in_ c36_1 h
      by_cases c36_2 : x2 = (2 : Int32)
      · replace h := ah_ip c36_2 h
        refine ro_tabIn (tgt := 78) 2 c36_2 dX0_act_36 (by decide) (by decide) rfl rfl ?_
        refine ro_aload (pc' := 80) dX0_act_78 rfl rfl ?_
        refine ro_iload_n (pc' := 81) dX0_act_80 rfl rfl rfl ?_
        obtain ⟨v13, σ14, hv13, h⟩ := ah_bs2 h
        refine ro_callVB (pc' := 84) (As := [.int x3]) (rest := []) (st' := [.int v13]) (N_B14_sees hv13) (Or.inl q1100) (Or.inl q1918) (Or.inl nq1091) dd_B14_sees rfl ⟨Nat.le_of_ble_eq_true rfl, Nat.le_of_ble_eq_true rfl⟩ (Nat.le_of_ble_eq_true rfl) dX0_act_81 rfl rfl rfl ?_
        obtain rfl := Option.some.inj h
        exact ro_iret hκ dX0_act_84
      replace h := ah_in_ c36_2 h
      refine ro_tabOut (tgt := 85) dX0_act_36 (by have e0 := lv_neT (a := 0) c36_0 (by decide); have e1 := lv_neT (a := 1) c36_1 (by decide); have e2 := lv_neT (a := 2) c36_2 (by decide); omega) rfl ?_
      refine ro_aload (pc' := 87) dX0_act_85 rfl rfl ?_
      refine ro_iload_n (pc' := 88) dX0_act_87 rfl rfl rfl ?_
      obtain ⟨v15, σ16, hv15, h⟩ := ah_bs2 h
      refine ro_callVB (pc' := 91) (As := [.int x3]) (rest := []) (st' := [.int v15]) (N_B14_tells hv15) (Or.inr nd_7) (Or.inr nd_8) (Or.inl nq1111) dd_B14_tells rfl ⟨Nat.le_of_ble_eq_true rfl, Nat.le_of_ble_eq_true rfl⟩ (Nat.le_of_ble_eq_true rfl) dX0_act_88 rfl rfl rfl ?_
      obtain rfl := Option.some.inj h
      exact ro_iret hκ dX0_act_91
    · replace h := ah_ip c h
      refine ro_iconst (pc' := 26) dX0_act_25 ic_0 rfl ?_
      obtain rfl := Option.some.inj h
      exact ro_iret hκ dX0_act_26
theorem M_X0_act {l : Launch} {D : ah_D}  {σ : ah_S} {r0 : Option Nat} {x1 : Int32} {x2 : Int32} {x3 : Int32} {v : Int32} {σ1 : ah_S} (h : F_X0_act σ r0 x1 x2 x3 = some (v, σ1)) : ah_Met l yX0_act (Cond.code yX0_act cX0_act 5 (some FieldType.int)) 10 214 D [va_rf r0, .int x1, .int x2, .int x3] σ (.returned (some (.int v)), σ1) :=
  ah_ofG (own := "LeftAsFound") (nm := "act") (L0 := [some (va_rf r0), some (.int x1), some (.int x2), some (.int x3), none]) (by decide) rfl rfl rfl (ah_ao_1 (ah_rf_cat _) (ah_ao_1 rfl (ah_ao_1 rfl (ah_ao_1 rfl (ah_ao_n ah_ao_0))))) (fun κ hκ => W_X0_act hκ  σ r0 x1 x2 x3 h)
theorem N_B14_isUnder {l : Launch} {D : ah_D} {σ : ah_S} {r : Option Nat} {x1 : Int32} {v : Int32} {σ1 : ah_S} (h : Z_B14_isUnder σ r x1 = some (v, σ1)) : ah_VB l ⟨"LeftAsFound$Body", "isUnder", "(I)Z"⟩ "LeftAsFound$Body" 4 89 D r [.int x1] σ (some (.int v)) σ1 := by
  obtain ⟨a, e, h⟩ := ah_bs h
  by_cases c15 : ah_tg σ a = 15
  · replace h := ah_ip c15 h
    exact ⟨15, yX14_isUnder, cX14_isUnder, 2, (some FieldType.boolean), 1, 24, by rw [e]; exact ah_is_of c15, by decide, Or.inl q1239, q1238, q1269, ⟨by decide, by decide⟩, Or.inl ⟨q114, M_X14_isUnder h⟩⟩
  replace h := ah_in_ c15 h
  by_cases c16 : ah_tg σ a = 16
  · replace h := ah_ip c16 h
    exact ⟨16, yX15_isUnder, cX15_isUnder, 2, (some FieldType.boolean), 2, 45, by rw [e]; exact ah_is_of c16, by decide, Or.inl q1252, q1253, q1254, ⟨by decide, by decide⟩, Or.inl ⟨q115, M_X15_isUnder h⟩⟩
  replace h := ah_in_ c16 h
  by_cases c17 : ah_tg σ a = 17
  · replace h := ah_ip c17 h
    exact ⟨17, yX16_isUnder, cX16_isUnder, 2, (some FieldType.boolean), 2, 45, by rw [e]; exact ah_is_of c17, by decide, Or.inl q1264, q1249, q1250, ⟨by decide, by decide⟩, Or.inl ⟨q116, M_X16_isUnder h⟩⟩
  replace h := ah_in_ c17 h
  by_cases c18 : ah_tg σ a = 18
  · replace h := ah_ip c18 h
    exact ⟨18, yX17_isUnder, cX17_isUnder, 2, (some FieldType.boolean), 3, 66, by rw [e]; exact ah_is_of c18, by decide, Or.inl q1245, q1246, q1247, ⟨by decide, by decide⟩, Or.inl ⟨q117, M_X17_isUnder h⟩⟩
  replace h := ah_in_ c18 h
  by_cases c19 : ah_tg σ a = 19
  · replace h := ah_ip c19 h
    exact ⟨19, yX18_isUnder, cX18_isUnder, 2, (some FieldType.boolean), 3, 66, by rw [e]; exact ah_is_of c19, by decide, Or.inl q1260, q1261, q1262, ⟨by decide, by decide⟩, Or.inl ⟨q118, M_X18_isUnder h⟩⟩
  replace h := ah_in_ c19 h
  by_cases c20 : ah_tg σ a = 20
  · replace h := ah_ip c20 h
    exact ⟨20, yX19_isUnder, cX19_isUnder, 2, (some FieldType.boolean), 4, 87, by rw [e]; exact ah_is_of c20, by decide, Or.inl q1265, q1266, q1267, ⟨by decide, by decide⟩, Or.inl ⟨q119, M_X19_isUnder h⟩⟩
  replace h := ah_in_ c20 h
  by_cases c21 : ah_tg σ a = 21
  · replace h := ah_ip c21 h
    exact ⟨21, yX20_isUnder, cX20_isUnder, 2, (some FieldType.boolean), 2, 45, by rw [e]; exact ah_is_of c21, by decide, Or.inl q1241, q1242, q1243, ⟨by decide, by decide⟩, Or.inl ⟨q120, M_X20_isUnder h⟩⟩
  replace h := ah_in_ c21 h
  by_cases c22 : ah_tg σ a = 22
  · replace h := ah_ip c22 h
    exact ⟨22, yX21_isUnder, cX21_isUnder, 2, (some FieldType.boolean), 3, 66, by rw [e]; exact ah_is_of c22, by decide, Or.inl q1256, q1257, q1258, ⟨by decide, by decide⟩, Or.inl ⟨q121, M_X21_isUnder h⟩⟩
  replace h := ah_in_ c22 h
  cases h
theorem N_B14_kind {l : Launch} {D : ah_D} {σ : ah_S} {r : Option Nat}  {v : Int32} {σ1 : ah_S} (h : Z_B14_kind σ r  = some (v, σ1)) : ah_VB l ⟨"LeftAsFound$Body", "kind", "()I"⟩ "LeftAsFound$Body" 1 25 D r [] σ (some (.int v)) σ1 := by
  obtain ⟨a, e, h⟩ := ah_bs h
  by_cases c15 : ah_tg σ a = 15
  · replace h := ah_ip c15 h
    exact ⟨15, yX14_kind, cX14_kind, 1, (some FieldType.int), 1, 24, by rw [e]; exact ah_is_of c15, by decide, Or.inl q1272, q1271, q1295, ⟨by decide, by decide⟩, Or.inl ⟨q114, M_X14_kind h⟩⟩
  replace h := ah_in_ c15 h
  by_cases c16 : ah_tg σ a = 16
  · replace h := ah_ip c16 h
    exact ⟨16, yX15_kind, cX15_kind, 1, (some FieldType.int), 1, 24, by rw [e]; exact ah_is_of c16, by decide, Or.inl q1280, q1281, q1282, ⟨by decide, by decide⟩, Or.inl ⟨q115, M_X15_kind h⟩⟩
  replace h := ah_in_ c16 h
  by_cases c17 : ah_tg σ a = 17
  · replace h := ah_ip c17 h
    exact ⟨17, yX16_kind, cX16_kind, 1, (some FieldType.int), 1, 24, by rw [e]; exact ah_is_of c17, by decide, Or.inl q1289, q1290, q1291, ⟨by decide, by decide⟩, Or.inl ⟨q116, M_X16_kind h⟩⟩
  replace h := ah_in_ c17 h
  by_cases c18 : ah_tg σ a = 18
  · replace h := ah_ip c18 h
    exact ⟨18, yX17_kind, cX17_kind, 1, (some FieldType.int), 1, 24, by rw [e]; exact ah_is_of c18, by decide, Or.inl q1277, q1278, q1279, ⟨by decide, by decide⟩, Or.inl ⟨q117, M_X17_kind h⟩⟩
  replace h := ah_in_ c18 h
  by_cases c19 : ah_tg σ a = 19
  · replace h := ah_ip c19 h
    exact ⟨19, yX18_kind, cX18_kind, 1, (some FieldType.int), 1, 24, by rw [e]; exact ah_is_of c19, by decide, Or.inl q1286, q1287, q1288, ⟨by decide, by decide⟩, Or.inl ⟨q118, M_X18_kind h⟩⟩
  replace h := ah_in_ c19 h
  by_cases c20 : ah_tg σ a = 20
  · replace h := ah_ip c20 h
    exact ⟨20, yX19_kind, cX19_kind, 1, (some FieldType.int), 1, 24, by rw [e]; exact ah_is_of c20, by decide, Or.inl q1292, q1293, q1294, ⟨by decide, by decide⟩, Or.inl ⟨q119, M_X19_kind h⟩⟩
  replace h := ah_in_ c20 h
  by_cases c21 : ah_tg σ a = 21
  · replace h := ah_ip c21 h
    exact ⟨21, yX20_kind, cX20_kind, 1, (some FieldType.int), 1, 24, by rw [e]; exact ah_is_of c21, by decide, Or.inl q1274, q1275, q1276, ⟨by decide, by decide⟩, Or.inl ⟨q120, M_X20_kind h⟩⟩
  replace h := ah_in_ c21 h
  by_cases c22 : ah_tg σ a = 22
  · replace h := ah_ip c22 h
    exact ⟨22, yX21_kind, cX21_kind, 1, (some FieldType.int), 1, 24, by rw [e]; exact ah_is_of c22, by decide, Or.inl q1283, q1284, q1285, ⟨by decide, by decide⟩, Or.inl ⟨q121, M_X21_kind h⟩⟩
  replace h := ah_in_ c22 h
  cases h
set_option maxRecDepth 20000 in
set_option maxHeartbeats 4000000 in
theorem W_X0_taken {κ : ah_C} {rr : (Int32 × ah_S)} (hκ : ah_res κ = (.returned (some (.int rr.1)), rr.2))  (σ : ah_S) (r0 : Option Nat) (x1 : Int32) (x2 : Int32) (h : F_X0_taken σ r0 x1 x2 = some rr) : ah_G κ ("LeftAsFound", "taken", 5, (some FieldType.int), [], 5, 108) cX0_taken σ 0 [some (va_rf r0), some (.int x1), some (.int x2), none, none] [] := by
  unfold F_X0_taken at h
  refine ro_iload_n (pc' := 1) dX0_taken_0 rfl rfl rfl ?_
  obtain ⟨v1, σ2, hv1, h⟩ := ah_bs2 h
  refine ro_callS (pc' := 4) (As := [.int x1]) (rest := []) (st' := [.int v1]) q471 (M_X0_isShelf hv1) q470 q472 q95 dd_X0_isShelf rfl ⟨Nat.le_of_ble_eq_true rfl, Nat.le_of_ble_eq_true rfl⟩ (Nat.le_of_ble_eq_true rfl) dX0_taken_1 rfl rfl rfl ?_
  refine ro_if_eq (pc' := 7) (tgt := 19) dX0_taken_4 rfl rfl (fun c => ?_) (fun c => ?_)
  · replace h := ah_ip c h
    refine ro_iconst (pc' := 20) dX0_taken_19 ic_m1 rfl ?_
    obtain rfl := Option.some.inj h
    exact ro_iret hκ dX0_taken_20
  · replace h := ah_in_ c h
    refine ro_iload_n (pc' := 8) dX0_taken_7 rfl rfl rfl ?_
    refine ro_i2l (pc' := 9) dX0_taken_8 rfl ?_
    refine ro_lconst (pc' := 10) dX0_taken_9 lc_0 rfl ?_
    refine ro_ldc2 (pc' := 13) q474 dX0_taken_10 rfl ?_
    obtain ⟨v3, σ4, hv3, h⟩ := ah_bs2 h
    refine ro_callS (pc' := 16) (As := [.long (x2.toInt64), .long (0 : Int64), .long (7 : Int64)]) (rest := []) (st' := [.int v3]) q429 (M_X0_within hv3) q428 q430 q95 dd_X0_within rfl ⟨Nat.le_of_ble_eq_true rfl, Nat.le_of_ble_eq_true rfl⟩ (Nat.le_of_ble_eq_true rfl) dX0_taken_13 rfl rfl rfl ?_
    refine ro_if_ne (pc' := 19) (tgt := 21) dX0_taken_16 rfl rfl (fun c => ?_) (fun c => ?_)
    · replace h := ah_in_ c h
      refine ro_aload_n (pc' := 22) dX0_taken_21 rfl rfl rfl ?_
      obtain ⟨v5, hv5, h⟩ := ah_bs h
      refine ro_getR (pc' := 25) ft_41 fk_41 q337 dX0_taken_22 rfl hv5 ?_
      refine ro_iload_n (pc' := 26) dX0_taken_25 rfl rfl rfl ?_
      obtain ⟨v6, hv6, h⟩ := ah_bs h
      refine ro_aaload (pc' := 27) (by decide) (by decide) rfl dX0_taken_26 rfl hv6 ?_
      refine ro_astore_n (pc' := 28) (L' := [some (va_rf r0), some (.int x1), some (.int x2), some (va_rf v6), none]) dX0_taken_27 rfl (Nat.le_of_ble_eq_true rfl) rfl (ah_okp_i _) rfl ?_
      refine ro_aload_n (pc' := 29) dX0_taken_28 rfl rfl rfl ?_
      refine ro_ifnonnull (pc' := 32) (tgt := 35) dX0_taken_29 rfl rfl (fun c => ?_) (fun c => ?_)
      · replace h := ah_in_ c h
        refine ro_aload_n (pc' := 36) dX0_taken_35 rfl rfl rfl ?_
        obtain ⟨v7, hv7, h⟩ := ah_bs h
        refine ro_instB (pc' := 39) q271 dX0_taken_36 rfl hv7 ?_
        refine ro_if_ne (pc' := 42) (tgt := 45) dX0_taken_39 rfl rfl (fun c => ?_) (fun c => ?_)
        · replace h := ah_in_ c h
          refine ro_aload_n (pc' := 46) dX0_taken_45 rfl rfl rfl ?_
          obtain ⟨u8, hu8, h⟩ := ah_bs h
          refine ro_castB (pc' := 49) q271 dX0_taken_46 rfl hu8 ?_
          refine ro_astore (pc' := 51) (L' := [some (va_rf r0), some (.int x1), some (.int x2), some (va_rf v6), some (va_rf v6)]) dX0_taken_49 (Nat.le_of_ble_eq_true rfl) rfl (ah_okp_r _) rfl ?_
          refine ro_aload (pc' := 53) dX0_taken_51 rfl rfl ?_
          refine ro_iload_n (pc' := 54) dX0_taken_53 rfl rfl rfl ?_
          obtain ⟨v9, σ10, hv9, h⟩ := ah_bs2 h
          refine ro_callVB (pc' := 57) (As := [.int x2]) (rest := []) (st' := [.int v9]) (N_B14_isUnder hv9) (Or.inl q1237) (Or.inl q1240) (Or.inr ⟨q1238, _, _, _, q1269⟩) dd_B14_isUnder rfl ⟨Nat.le_of_ble_eq_true rfl, Nat.le_of_ble_eq_true rfl⟩ (Nat.le_of_ble_eq_true rfl) dX0_taken_54 rfl rfl rfl ?_
          refine ro_if_eq (pc' := 60) (tgt := 68) dX0_taken_57 rfl rfl (fun c => ?_) (fun c => ?_)
          · replace h := ah_ip c h
            refine ro_bipush (pc' := 70) dX0_taken_68 ib_m12 rfl ?_
            obtain rfl := Option.some.inj h
            exact ro_iret hκ dX0_taken_70
          · replace h := ah_in_ c h
            refine ro_aload (pc' := 62) dX0_taken_60 rfl rfl ?_
            obtain ⟨v11, σ12, hv11, h⟩ := ah_bs2 h
            refine ro_callVB (pc' := 65) (As := []) (rest := []) (st' := [.int v11]) (N_B14_kind hv11) (Or.inl q1270) (Or.inl q1273) (Or.inr ⟨q1271, _, _, _, q1295⟩) dd_B14_kind rfl ⟨Nat.le_of_ble_eq_true rfl, Nat.le_of_ble_eq_true rfl⟩ (Nat.le_of_ble_eq_true rfl) dX0_taken_62 rfl rfl rfl ?_
            refine ro_goto (tgt := 70) dX0_taken_65 rfl ?_
            obtain rfl := Option.some.inj h
            exact ro_iret hκ dX0_taken_70
        · replace h := ah_ip c h
          refine ro_bipush (pc' := 44) dX0_taken_42 ib_m12 rfl ?_
          obtain rfl := Option.some.inj h
          exact ro_iret hκ dX0_taken_44
      · replace h := ah_ip c h
        refine ro_bipush (pc' := 34) dX0_taken_32 ib_m11 rfl ?_
        obtain rfl := Option.some.inj h
        exact ro_iret hκ dX0_taken_34
    · replace h := ah_ip c h
      refine ro_iconst (pc' := 20) dX0_taken_19 ic_m1 rfl ?_
      obtain rfl := Option.some.inj h
      exact ro_iret hκ dX0_taken_20
theorem M_X0_taken {l : Launch} {D : ah_D}  {σ : ah_S} {r0 : Option Nat} {x1 : Int32} {x2 : Int32} {v : Int32} {σ1 : ah_S} (h : F_X0_taken σ r0 x1 x2 = some (v, σ1)) : ah_Met l yX0_taken (Cond.code yX0_taken cX0_taken 5 (some FieldType.int)) 5 108 D [va_rf r0, .int x1, .int x2] σ (.returned (some (.int v)), σ1) :=
  ah_ofG (own := "LeftAsFound") (nm := "taken") (L0 := [some (va_rf r0), some (.int x1), some (.int x2), none, none]) (by decide) rfl rfl rfl (ah_ao_1 (ah_rf_cat _) (ah_ao_1 rfl (ah_ao_1 rfl (ah_ao_n (ah_ao_n ah_ao_0))))) (fun κ hκ => W_X0_taken hκ  σ r0 x1 x2 h)
