/-! ===== the classes and their fields ===== -/
abbrev ah_cl : List vw_C := [(RX0, TX0, 42), (RX1, TX1, 0), (RX2, TX2, 1), (RX3, TX3, 0), (RX4, TX4, 7), (RX5, TX5, 3), (RX6, TX6, 60), (RX7, TX7, 4), (RX8, TX8, 3), (RX2, TX2, 1), (RX10, TX10, 1), (RX11, TX11, 2), (RX12, TX12, 2), (RX13, TX13, 3), (RX14, TX14, 2), (RX15, TX15, 3), (RX16, TX16, 3), (RX17, TX17, 4), (RX18, TX18, 4), (RX19, TX19, 5), (RX20, TX20, 3), (RX21, TX21, 4)]
def ah_fid (ci k : Nat) : Nat := match ci, k with
  | 15, 0 => 1400
  | 15, 1 => 1401
  | 16, 0 => 1400
  | 16, 1 => 1401
  | 17, 0 => 1400
  | 17, 1 => 1401
  | 17, 2 => 1602
  | 18, 0 => 1400
  | 18, 1 => 1401
  | 18, 2 => 1502
  | 19, 0 => 1400
  | 19, 1 => 1401
  | 19, 2 => 1602
  | 19, 3 => 1703
  | 20, 0 => 1400
  | 20, 1 => 1401
  | 21, 0 => 1400
  | 21, 1 => 1401
  | 21, 2 => 2002
  | _, _ => 100 * ci + k
def ah_isR (f : Nat) : Bool := match f with
  | 0 => true
  | 3 => true
  | 5 => true
  | 7 => true
  | 9 => true
  | 10 => true
  | 11 => true
  | 12 => true
  | 13 => true
  | 14 => true
  | 15 => true
  | 17 => true
  | 18 => true
  | 19 => true
  | 20 => true
  | 22 => true
  | 25 => true
  | 26 => true
  | 27 => true
  | 29 => true
  | 30 => true
  | 31 => true
  | 33 => true
  | 35 => true
  | 36 => true
  | 37 => true
  | 39 => true
  | 41 => true
  | 400 => true
  | 401 => true
  | 402 => true
  | 405 => true
  | 406 => true
  | 500 => true
  | 601 => true
  | 602 => true
  | 604 => true
  | 605 => true
  | 606 => true
  | 607 => true
  | 611 => true
  | 614 => true
  | 615 => true
  | 616 => true
  | 617 => true
  | 618 => true
  | 624 => true
  | 625 => true
  | 626 => true
  | 627 => true
  | 628 => true
  | 629 => true
  | 630 => true
  | 632 => true
  | 633 => true
  | 634 => true
  | 635 => true
  | 637 => true
  | 638 => true
  | 639 => true
  | 640 => true
  | 642 => true
  | 643 => true
  | 645 => true
  | 648 => true
  | 650 => true
  | 651 => true
  | 653 => true
  | 655 => true
  | 656 => true
  | 657 => true
  | 658 => true
  | 659 => true
  | 700 => true
  | 701 => true
  | 702 => true
  | 703 => true
  | 800 => true
  | 801 => true
  | 802 => true
  | 1101 => true
  | 1201 => true
  | 1301 => true
  | 1302 => true
  | 1401 => true
  | 1502 => true
  | 1602 => true
  | 1703 => true
  | 1803 => true
  | 1904 => true
  | 2002 => true
  | 2103 => true
  | _ => false
/-- a class's tables -/
def ah_CT (ci : Nat) (C : String) (T : u_T) (N : Nat) (ty : Nat → FieldType) : Prop := ah_cl[ci]? = some (C, T, N) ∧ (∀ w ∈ u_ws C T N, w ∈ lw_all) ∧ (∀ k, k < N → parseFieldDescriptor (T k).2.2.1 = some (ty k)) ∧ (∀ a, a < N → ∀ b, b < N → a ≠ b → (T a).1 ≠ (T b).1 ∨ (T a).2.1 ≠ (T b).2.1) ∧ (∀ a, a < N → ∀ b, b < N → ah_fid ci a = ah_fid ci b → a = b)
/-- a field's tables: in every class that has it -/
def ah_FT (f : Nat) (ref name desc : String) (fin : Bool) : Prop := ∀ t, ah_hf f t = true → ∃ (ci k : Nat) (C : String) (T : u_T) (N : Nat) (ty : Nat → FieldType), t = ci + 1 ∧ ah_CT ci C T N ty ∧ k < N ∧ ah_fid ci k = f ∧ T k = (ref, name, desc, fin)
set_option maxRecDepth 100000 in
theorem ct_X0 : ah_CT 0 RX0 TX0 42 tyX0 := ⟨rfl, in_X0, tyX0_ok, fun a ha b hb h => Or.inr (nmX0 a ha b hb h), by decide +kernel⟩
theorem ct_X1 : ah_CT 1 RX1 TX1 0 tyX1 := ⟨rfl, fun w h => by simp [u_ws] at h, fun k h => absurd h (Nat.not_lt_zero _), fun a h => absurd h (Nat.not_lt_zero _), fun a h => absurd h (Nat.not_lt_zero _)⟩
set_option maxRecDepth 100000 in
theorem ct_X2 : ah_CT 2 RX2 TX2 1 tyX2 := ⟨rfl, in_X2, tyX2_ok, fun a ha b hb h => Or.inr (nmX2 a ha b hb h), by decide +kernel⟩
theorem ct_X3 : ah_CT 3 RX3 TX3 0 tyX3 := ⟨rfl, fun w h => by simp [u_ws] at h, fun k h => absurd h (Nat.not_lt_zero _), fun a h => absurd h (Nat.not_lt_zero _), fun a h => absurd h (Nat.not_lt_zero _)⟩
set_option maxRecDepth 100000 in
theorem ct_X4 : ah_CT 4 RX4 TX4 7 tyX4 := ⟨rfl, in_X4, tyX4_ok, fun a ha b hb h => Or.inr (nmX4 a ha b hb h), by decide +kernel⟩
set_option maxRecDepth 100000 in
theorem ct_X5 : ah_CT 5 RX5 TX5 3 tyX5 := ⟨rfl, in_X5, tyX5_ok, fun a ha b hb h => Or.inr (nmX5 a ha b hb h), by decide +kernel⟩
set_option maxRecDepth 100000 in
theorem ct_X6 : ah_CT 6 RX6 TX6 60 tyX6 := ⟨rfl, in_X6, tyX6_ok, fun a ha b hb h => Or.inr (nmX6 a ha b hb h), by decide +kernel⟩
set_option maxRecDepth 100000 in
theorem ct_X7 : ah_CT 7 RX7 TX7 4 tyX7 := ⟨rfl, in_X7, tyX7_ok, fun a ha b hb h => Or.inr (nmX7 a ha b hb h), by decide +kernel⟩
set_option maxRecDepth 100000 in
theorem ct_X8 : ah_CT 8 RX8 TX8 3 tyX8 := ⟨rfl, in_X8, tyX8_ok, fun a ha b hb h => Or.inr (nmX8 a ha b hb h), by decide +kernel⟩
set_option maxRecDepth 100000 in
theorem ct_X10 : ah_CT 10 RX10 TX10 1 tyX10 := ⟨rfl, in_X10, tyX10_ok, fun a ha b hb h => Or.inr (nmX10 a ha b hb h), by decide +kernel⟩
set_option maxRecDepth 100000 in
theorem ct_X11 : ah_CT 11 RX11 TX11 2 tyX11 := ⟨rfl, in_X11, tyX11_ok, fun a ha b hb h => Or.inr (nmX11 a ha b hb h), by decide +kernel⟩
set_option maxRecDepth 100000 in
theorem ct_X12 : ah_CT 12 RX12 TX12 2 tyX12 := ⟨rfl, in_X12, tyX12_ok, fun a ha b hb h => Or.inr (nmX12 a ha b hb h), by decide +kernel⟩
set_option maxRecDepth 100000 in
theorem ct_X13 : ah_CT 13 RX13 TX13 3 tyX13 := ⟨rfl, in_X13, tyX13_ok, fun a ha b hb h => Or.inr (nmX13 a ha b hb h), by decide +kernel⟩
set_option maxRecDepth 100000 in
theorem ct_X14 : ah_CT 14 RX14 TX14 2 tyX14 := ⟨rfl, in_X14, tyX14_ok, fun a ha b hb h => Or.inr (nmX14 a ha b hb h), by decide +kernel⟩
set_option maxRecDepth 100000 in
theorem ct_X15 : ah_CT 15 RX15 TX15 3 tyX15 := ⟨rfl, in_X15, tyX15_ok, by decide +kernel, by decide +kernel⟩
set_option maxRecDepth 100000 in
theorem ct_X16 : ah_CT 16 RX16 TX16 3 tyX16 := ⟨rfl, in_X16, tyX16_ok, by decide +kernel, by decide +kernel⟩
set_option maxRecDepth 100000 in
theorem ct_X17 : ah_CT 17 RX17 TX17 4 tyX17 := ⟨rfl, in_X17, tyX17_ok, by decide +kernel, by decide +kernel⟩
set_option maxRecDepth 100000 in
theorem ct_X18 : ah_CT 18 RX18 TX18 4 tyX18 := ⟨rfl, in_X18, tyX18_ok, by decide +kernel, by decide +kernel⟩
set_option maxRecDepth 100000 in
theorem ct_X19 : ah_CT 19 RX19 TX19 5 tyX19 := ⟨rfl, in_X19, tyX19_ok, by decide +kernel, by decide +kernel⟩
set_option maxRecDepth 100000 in
theorem ct_X20 : ah_CT 20 RX20 TX20 3 tyX20 := ⟨rfl, in_X20, tyX20_ok, by decide +kernel, by decide +kernel⟩
set_option maxRecDepth 100000 in
theorem ct_X21 : ah_CT 21 RX21 TX21 4 tyX21 := ⟨rfl, in_X21, tyX21_ok, by decide +kernel, by decide +kernel⟩
theorem ft_0 : ah_FT 0 "LeftAsFound" "changes" "[LLeftAsFound$Change;" true := by
  intro t h
  have e : t = 1 := by simp [ah_hf, ah_sub] at h; omega
  subst e
  exact ⟨0, 0, _, _, _, _, rfl, ct_X0, by decide, rfl, rfl⟩
theorem ft_1 : ah_FT 1 "LeftAsFound" "changeMany" "I" false := by
  intro t h
  have e : t = 1 := by simp [ah_hf, ah_sub] at h; omega
  subst e
  exact ⟨0, 1, _, _, _, _, rfl, ct_X0, by decide, rfl, rfl⟩
theorem ft_2 : ah_FT 2 "LeftAsFound" "done" "I" false := by
  intro t h
  have e : t = 1 := by simp [ah_hf, ah_sub] at h; omega
  subst e
  exact ⟨0, 2, _, _, _, _, rfl, ct_X0, by decide, rfl, rfl⟩
theorem ft_3 : ah_FT 3 "LeftAsFound" "tape" "[I" true := by
  intro t h
  have e : t = 1 := by simp [ah_hf, ah_sub] at h; omega
  subst e
  exact ⟨0, 3, _, _, _, _, rfl, ct_X0, by decide, rfl, rfl⟩
theorem ft_4 : ah_FT 4 "LeftAsFound" "length" "I" false := by
  intro t h
  have e : t = 1 := by simp [ah_hf, ah_sub] at h; omega
  subst e
  exact ⟨0, 4, _, _, _, _, rfl, ct_X0, by decide, rfl, rfl⟩
theorem ft_5 : ah_FT 5 "LeftAsFound" "fault" "LLeftAsFound$Fault;" true := by
  intro t h
  have e : t = 1 := by simp [ah_hf, ah_sub] at h; omega
  subst e
  exact ⟨0, 5, _, _, _, _, rfl, ct_X0, by decide, rfl, rfl⟩
theorem ft_6 : ah_FT 6 "LeftAsFound" "at" "I" false := by
  intro t h
  have e : t = 1 := by simp [ah_hf, ah_sub] at h; omega
  subst e
  exact ⟨0, 6, _, _, _, _, rfl, ct_X0, by decide, rfl, rfl⟩
theorem ft_7 : ah_FT 7 "LeftAsFound" "guests" "[LLeftAsFound$Guest;" true := by
  intro t h
  have e : t = 1 := by simp [ah_hf, ah_sub] at h; omega
  subst e
  exact ⟨0, 7, _, _, _, _, rfl, ct_X0, by decide, rfl, rfl⟩
theorem ft_8 : ah_FT 8 "LeftAsFound" "guestMany" "I" false := by
  intro t h
  have e : t = 1 := by simp [ah_hf, ah_sub] at h; omega
  subst e
  exact ⟨0, 8, _, _, _, _, rfl, ct_X0, by decide, rfl, rfl⟩
theorem ft_9 : ah_FT 9 "LeftAsFound" "oughts" "[LLeftAsFound$Held;" true := by
  intro t h
  have e : t = 1 := by simp [ah_hf, ah_sub] at h; omega
  subst e
  exact ⟨0, 9, _, _, _, _, rfl, ct_X0, by decide, rfl, rfl⟩
theorem ft_10 : ah_FT 10 "LeftAsFound" "worths" "[LLeftAsFound$Held;" true := by
  intro t h
  have e : t = 1 := by simp [ah_hf, ah_sub] at h; omega
  subst e
  exact ⟨0, 10, _, _, _, _, rfl, ct_X0, by decide, rfl, rfl⟩
theorem ft_11 : ah_FT 11 "LeftAsFound" "rule" "LLeftAsFound$Held;" true := by
  intro t h
  have e : t = 1 := by simp [ah_hf, ah_sub] at h; omega
  subst e
  exact ⟨0, 11, _, _, _, _, rfl, ct_X0, by decide, rfl, rfl⟩
theorem ft_12 : ah_FT 12 "LeftAsFound" "price" "LLeftAsFound$Held;" true := by
  intro t h
  have e : t = 1 := by simp [ah_hf, ah_sub] at h; omega
  subst e
  exact ⟨0, 12, _, _, _, _, rfl, ct_X0, by decide, rfl, rfl⟩
theorem ft_13 : ah_FT 13 "LeftAsFound" "honest" "LLeftAsFound$Held;" true := by
  intro t h
  have e : t = 1 := by simp [ah_hf, ah_sub] at h; omega
  subst e
  exact ⟨0, 13, _, _, _, _, rfl, ct_X0, by decide, rfl, rfl⟩
theorem ft_14 : ah_FT 14 "LeftAsFound" "torn" "LLeftAsFound$Torn;" true := by
  intro t h
  have e : t = 1 := by simp [ah_hf, ah_sub] at h; omega
  subst e
  exact ⟨0, 14, _, _, _, _, rfl, ct_X0, by decide, rfl, rfl⟩
theorem ft_15 : ah_FT 15 "LeftAsFound" "names" "[I" true := by
  intro t h
  have e : t = 1 := by simp [ah_hf, ah_sub] at h; omega
  subst e
  exact ⟨0, 15, _, _, _, _, rfl, ct_X0, by decide, rfl, rfl⟩
theorem ft_16 : ah_FT 16 "LeftAsFound" "opened" "I" false := by
  intro t h
  have e : t = 1 := by simp [ah_hf, ah_sub] at h; omega
  subst e
  exact ⟨0, 16, _, _, _, _, rfl, ct_X0, by decide, rfl, rfl⟩
theorem ft_17 : ah_FT 17 "LeftAsFound" "leaving" "LLeftAsFound$Line;" false := by
  intro t h
  have e : t = 1 := by simp [ah_hf, ah_sub] at h; omega
  subst e
  exact ⟨0, 17, _, _, _, _, rfl, ct_X0, by decide, rfl, rfl⟩
theorem ft_18 : ah_FT 18 "LeftAsFound" "self" "LLeftAsFound$Hut;" true := by
  intro t h
  have e : t = 1 := by simp [ah_hf, ah_sub] at h; omega
  subst e
  exact ⟨0, 18, _, _, _, _, rfl, ct_X0, by decide, rfl, rfl⟩
theorem ft_19 : ah_FT 19 "LeftAsFound" "thought" "LLeftAsFound$Hut;" true := by
  intro t h
  have e : t = 1 := by simp [ah_hf, ah_sub] at h; omega
  subst e
  exact ⟨0, 19, _, _, _, _, rfl, ct_X0, by decide, rfl, rfl⟩
theorem ft_20 : ah_FT 20 "LeftAsFound" "comes" "[I" true := by
  intro t h
  have e : t = 1 := by simp [ah_hf, ah_sub] at h; omega
  subst e
  exact ⟨0, 20, _, _, _, _, rfl, ct_X0, by decide, rfl, rfl⟩
theorem ft_21 : ah_FT 21 "LeftAsFound" "nightMany" "I" false := by
  intro t h
  have e : t = 1 := by simp [ah_hf, ah_sub] at h; omega
  subst e
  exact ⟨0, 21, _, _, _, _, rfl, ct_X0, by decide, rfl, rfl⟩
theorem ft_22 : ah_FT 22 "LeftAsFound" "states" "[I" true := by
  intro t h
  have e : t = 1 := by simp [ah_hf, ah_sub] at h; omega
  subst e
  exact ⟨0, 22, _, _, _, _, rfl, ct_X0, by decide, rfl, rfl⟩
theorem ft_23 : ah_FT 23 "LeftAsFound" "restAt" "I" false := by
  intro t h
  have e : t = 1 := by simp [ah_hf, ah_sub] at h; omega
  subst e
  exact ⟨0, 23, _, _, _, _, rfl, ct_X0, by decide, rfl, rfl⟩
theorem ft_24 : ah_FT 24 "LeftAsFound" "round" "I" false := by
  intro t h
  have e : t = 1 := by simp [ah_hf, ah_sub] at h; omega
  subst e
  exact ⟨0, 24, _, _, _, _, rfl, ct_X0, by decide, rfl, rfl⟩
theorem ft_25 : ah_FT 25 "LeftAsFound" "asTold" "[I" true := by
  intro t h
  have e : t = 1 := by simp [ah_hf, ah_sub] at h; omega
  subst e
  exact ⟨0, 25, _, _, _, _, rfl, ct_X0, by decide, rfl, rfl⟩
theorem ft_26 : ah_FT 26 "LeftAsFound" "order" "[I" true := by
  intro t h
  have e : t = 1 := by simp [ah_hf, ah_sub] at h; omega
  subst e
  exact ⟨0, 26, _, _, _, _, rfl, ct_X0, by decide, rfl, rfl⟩
theorem ft_27 : ah_FT 27 "LeftAsFound" "bestOrder" "[I" true := by
  intro t h
  have e : t = 1 := by simp [ah_hf, ah_sub] at h; omega
  subst e
  exact ⟨0, 27, _, _, _, _, rfl, ct_X0, by decide, rfl, rfl⟩
theorem ft_28 : ah_FT 28 "LeftAsFound" "leastLoss" "I" false := by
  intro t h
  have e : t = 1 := by simp [ah_hf, ah_sub] at h; omega
  subst e
  exact ⟨0, 28, _, _, _, _, rfl, ct_X0, by decide, rfl, rfl⟩
theorem ft_29 : ah_FT 29 "LeftAsFound" "behind" "[LLeftAsFound$Hut;" true := by
  intro t h
  have e : t = 1 := by simp [ah_hf, ah_sub] at h; omega
  subst e
  exact ⟨0, 29, _, _, _, _, rfl, ct_X0, by decide, rfl, rfl⟩
theorem ft_30 : ah_FT 30 "LeftAsFound" "maySet" "[I" true := by
  intro t h
  have e : t = 1 := by simp [ah_hf, ah_sub] at h; omega
  subst e
  exact ⟨0, 30, _, _, _, _, rfl, ct_X0, by decide, rfl, rfl⟩
theorem ft_31 : ah_FT 31 "LeftAsFound" "path" "[I" true := by
  intro t h
  have e : t = 1 := by simp [ah_hf, ah_sub] at h; omega
  subst e
  exact ⟨0, 31, _, _, _, _, rfl, ct_X0, by decide, rfl, rfl⟩
theorem ft_32 : ah_FT 32 "LeftAsFound" "wayMany" "I" false := by
  intro t h
  have e : t = 1 := by simp [ah_hf, ah_sub] at h; omega
  subst e
  exact ⟨0, 32, _, _, _, _, rfl, ct_X0, by decide, rfl, rfl⟩
theorem ft_33 : ah_FT 33 "LeftAsFound" "ledNow" "[I" true := by
  intro t h
  have e : t = 1 := by simp [ah_hf, ah_sub] at h; omega
  subst e
  exact ⟨0, 33, _, _, _, _, rfl, ct_X0, by decide, rfl, rfl⟩
theorem ft_34 : ah_FT 34 "LeftAsFound" "isKept" "Z" false := by
  intro t h
  have e : t = 1 := by simp [ah_hf, ah_sub] at h; omega
  subst e
  exact ⟨0, 34, _, _, _, _, rfl, ct_X0, by decide, rfl, rfl⟩
theorem ft_35 : ah_FT 35 "LeftAsFound" "imageHut" "LLeftAsFound$Hut;" true := by
  intro t h
  have e : t = 1 := by simp [ah_hf, ah_sub] at h; omega
  subst e
  exact ⟨0, 35, _, _, _, _, rfl, ct_X0, by decide, rfl, rfl⟩
theorem ft_36 : ah_FT 36 "LeftAsFound" "imageLed" "[I" true := by
  intro t h
  have e : t = 1 := by simp [ah_hf, ah_sub] at h; omega
  subst e
  exact ⟨0, 36, _, _, _, _, rfl, ct_X0, by decide, rfl, rfl⟩
theorem ft_37 : ah_FT 37 "LeftAsFound" "bodies" "[LLeftAsFound$Body;" true := by
  intro t h
  have e : t = 1 := by simp [ah_hf, ah_sub] at h; omega
  subst e
  exact ⟨0, 37, _, _, _, _, rfl, ct_X0, by decide, rfl, rfl⟩
theorem ft_38 : ah_FT 38 "LeftAsFound" "bodyMany" "I" false := by
  intro t h
  have e : t = 1 := by simp [ah_hf, ah_sub] at h; omega
  subst e
  exact ⟨0, 38, _, _, _, _, rfl, ct_X0, by decide, rfl, rfl⟩
theorem ft_39 : ah_FT 39 "LeftAsFound" "trace" "[I" true := by
  intro t h
  have e : t = 1 := by simp [ah_hf, ah_sub] at h; omega
  subst e
  exact ⟨0, 39, _, _, _, _, rfl, ct_X0, by decide, rfl, rfl⟩
theorem ft_40 : ah_FT 40 "LeftAsFound" "ran" "I" false := by
  intro t h
  have e : t = 1 := by simp [ah_hf, ah_sub] at h; omega
  subst e
  exact ⟨0, 40, _, _, _, _, rfl, ct_X0, by decide, rfl, rfl⟩
theorem ft_41 : ah_FT 41 "LeftAsFound" "shelves" "[Ljava/lang/Object;" true := by
  intro t h
  have e : t = 1 := by simp [ah_hf, ah_sub] at h; omega
  subst e
  exact ⟨0, 41, _, _, _, _, rfl, ct_X0, by decide, rfl, rfl⟩
theorem ft_200 : ah_FT 200 "LeftAsFound$Held" "v" "I" false := by
  intro t h
  have e : t = 3 := by simp [ah_hf, ah_sub] at h; omega
  subst e
  exact ⟨2, 0, _, _, _, _, rfl, ct_X2, by decide, rfl, rfl⟩
theorem ft_400 : ah_FT 400 "LeftAsFound$Hut" "levels" "[I" true := by
  intro t h
  have e : t = 5 := by simp [ah_hf, ah_sub] at h; omega
  subst e
  exact ⟨4, 0, _, _, _, _, rfl, ct_X4, by decide, rfl, rfl⟩
theorem ft_401 : ah_FT 401 "LeftAsFound$Hut" "book" "[I" true := by
  intro t h
  have e : t = 5 := by simp [ah_hf, ah_sub] at h; omega
  subst e
  exact ⟨4, 1, _, _, _, _, rfl, ct_X4, by decide, rfl, rfl⟩
theorem ft_402 : ah_FT 402 "LeftAsFound$Hut" "first" "[I" true := by
  intro t h
  have e : t = 5 := by simp [ah_hf, ah_sub] at h; omega
  subst e
  exact ⟨4, 2, _, _, _, _, rfl, ct_X4, by decide, rfl, rfl⟩
theorem ft_403 : ah_FT 403 "LeftAsFound$Hut" "there" "I" false := by
  intro t h
  have e : t = 5 := by simp [ah_hf, ah_sub] at h; omega
  subst e
  exact ⟨4, 3, _, _, _, _, rfl, ct_X4, by decide, rfl, rfl⟩
theorem ft_404 : ah_FT 404 "LeftAsFound$Hut" "isAhead" "Z" false := by
  intro t h
  have e : t = 5 := by simp [ah_hf, ah_sub] at h; omega
  subst e
  exact ⟨4, 4, _, _, _, _, rfl, ct_X4, by decide, rfl, rfl⟩
theorem ft_405 : ah_FT 405 "LeftAsFound$Hut" "ahead" "[I" true := by
  intro t h
  have e : t = 5 := by simp [ah_hf, ah_sub] at h; omega
  subst e
  exact ⟨4, 5, _, _, _, _, rfl, ct_X4, by decide, rfl, rfl⟩
theorem ft_406 : ah_FT 406 "LeftAsFound$Hut" "this$0" "LLeftAsFound;" true := by
  intro t h
  have e : t = 5 := by simp [ah_hf, ah_sub] at h; omega
  subst e
  exact ⟨4, 6, _, _, _, _, rfl, ct_X4, by decide, rfl, rfl⟩
theorem ft_500 : ah_FT 500 "LeftAsFound$Change" "of" "LLeftAsFound$Held;" false := by
  intro t h
  have e : t = 6 := by simp [ah_hf, ah_sub] at h; omega
  subst e
  exact ⟨5, 0, _, _, _, _, rfl, ct_X5, by decide, rfl, rfl⟩
theorem ft_501 : ah_FT 501 "LeftAsFound$Change" "was" "I" false := by
  intro t h
  have e : t = 6 := by simp [ah_hf, ah_sub] at h; omega
  subst e
  exact ⟨5, 1, _, _, _, _, rfl, ct_X5, by decide, rfl, rfl⟩
theorem ft_502 : ah_FT 502 "LeftAsFound$Change" "is" "I" false := by
  intro t h
  have e : t = 6 := by simp [ah_hf, ah_sub] at h; omega
  subst e
  exact ⟨5, 2, _, _, _, _, rfl, ct_X5, by decide, rfl, rfl⟩
theorem ft_600 : ah_FT 600 "LeftAsFoundModel" "code" "I" false := by
  intro t h
  have e : t = 7 := by simp [ah_hf, ah_sub] at h; omega
  subst e
  exact ⟨6, 0, _, _, _, _, rfl, ct_X6, by decide, rfl, rfl⟩
theorem ft_601 : ah_FT 601 "LeftAsFoundModel" "ought" "[I" true := by
  intro t h
  have e : t = 7 := by simp [ah_hf, ah_sub] at h; omega
  subst e
  exact ⟨6, 1, _, _, _, _, rfl, ct_X6, by decide, rfl, rfl⟩
theorem ft_602 : ah_FT 602 "LeftAsFoundModel" "worth1" "[I" true := by
  intro t h
  have e : t = 7 := by simp [ah_hf, ah_sub] at h; omega
  subst e
  exact ⟨6, 2, _, _, _, _, rfl, ct_X6, by decide, rfl, rfl⟩
theorem ft_603 : ah_FT 603 "LeftAsFoundModel" "guests" "I" false := by
  intro t h
  have e : t = 7 := by simp [ah_hf, ah_sub] at h; omega
  subst e
  exact ⟨6, 3, _, _, _, _, rfl, ct_X6, by decide, rfl, rfl⟩
theorem ft_604 : ah_FT 604 "LeftAsFoundModel" "takes" "[I" true := by
  intro t h
  have e : t = 7 := by simp [ah_hf, ah_sub] at h; omega
  subst e
  exact ⟨6, 4, _, _, _, _, rfl, ct_X6, by decide, rfl, rfl⟩
theorem ft_605 : ah_FT 605 "LeftAsFoundModel" "brings" "[I" true := by
  intro t h
  have e : t = 7 := by simp [ah_hf, ah_sub] at h; omega
  subst e
  exact ⟨6, 5, _, _, _, _, rfl, ct_X6, by decide, rfl, rfl⟩
theorem ft_606 : ah_FT 606 "LeftAsFoundModel" "sees1" "[I" true := by
  intro t h
  have e : t = 7 := by simp [ah_hf, ah_sub] at h; omega
  subst e
  exact ⟨6, 6, _, _, _, _, rfl, ct_X6, by decide, rfl, rfl⟩
theorem ft_607 : ah_FT 607 "LeftAsFoundModel" "believes" "[I" true := by
  intro t h
  have e : t = 7 := by simp [ah_hf, ah_sub] at h; omega
  subst e
  exact ⟨6, 7, _, _, _, _, rfl, ct_X6, by decide, rfl, rfl⟩
theorem ft_608 : ah_FT 608 "LeftAsFoundModel" "rule" "I" false := by
  intro t h
  have e : t = 7 := by simp [ah_hf, ah_sub] at h; omega
  subst e
  exact ⟨6, 8, _, _, _, _, rfl, ct_X6, by decide, rfl, rfl⟩
theorem ft_609 : ah_FT 609 "LeftAsFoundModel" "price" "I" false := by
  intro t h
  have e : t = 7 := by simp [ah_hf, ah_sub] at h; omega
  subst e
  exact ⟨6, 9, _, _, _, _, rfl, ct_X6, by decide, rfl, rfl⟩
theorem ft_610 : ah_FT 610 "LeftAsFoundModel" "honest" "I" false := by
  intro t h
  have e : t = 7 := by simp [ah_hf, ah_sub] at h; omega
  subst e
  exact ⟨6, 10, _, _, _, _, rfl, ct_X6, by decide, rfl, rfl⟩
theorem ft_611 : ah_FT 611 "LeftAsFoundModel" "hut" "[I" true := by
  intro t h
  have e : t = 7 := by simp [ah_hf, ah_sub] at h; omega
  subst e
  exact ⟨6, 11, _, _, _, _, rfl, ct_X6, by decide, rfl, rfl⟩
theorem ft_612 : ah_FT 612 "LeftAsFoundModel" "doneMany" "I" false := by
  intro t h
  have e : t = 7 := by simp [ah_hf, ah_sub] at h; omega
  subst e
  exact ⟨6, 12, _, _, _, _, rfl, ct_X6, by decide, rfl, rfl⟩
theorem ft_613 : ah_FT 613 "LeftAsFoundModel" "undoneMany" "I" false := by
  intro t h
  have e : t = 7 := by simp [ah_hf, ah_sub] at h; omega
  subst e
  exact ⟨6, 13, _, _, _, _, rfl, ct_X6, by decide, rfl, rfl⟩
theorem ft_614 : ah_FT 614 "LeftAsFoundModel" "changeOf" "[I" true := by
  intro t h
  have e : t = 7 := by simp [ah_hf, ah_sub] at h; omega
  subst e
  exact ⟨6, 14, _, _, _, _, rfl, ct_X6, by decide, rfl, rfl⟩
theorem ft_615 : ah_FT 615 "LeftAsFoundModel" "changeAt" "[I" true := by
  intro t h
  have e : t = 7 := by simp [ah_hf, ah_sub] at h; omega
  subst e
  exact ⟨6, 15, _, _, _, _, rfl, ct_X6, by decide, rfl, rfl⟩
theorem ft_616 : ah_FT 616 "LeftAsFoundModel" "before" "[I" true := by
  intro t h
  have e : t = 7 := by simp [ah_hf, ah_sub] at h; omega
  subst e
  exact ⟨6, 16, _, _, _, _, rfl, ct_X6, by decide, rfl, rfl⟩
theorem ft_617 : ah_FT 617 "LeftAsFoundModel" "behind" "[I" true := by
  intro t h
  have e : t = 7 := by simp [ah_hf, ah_sub] at h; omega
  subst e
  exact ⟨6, 17, _, _, _, _, rfl, ct_X6, by decide, rfl, rfl⟩
theorem ft_618 : ah_FT 618 "LeftAsFoundModel" "tape" "[B" true := by
  intro t h
  have e : t = 7 := by simp [ah_hf, ah_sub] at h; omega
  subst e
  exact ⟨6, 18, _, _, _, _, rfl, ct_X6, by decide, rfl, rfl⟩
theorem ft_619 : ah_FT 619 "LeftAsFoundModel" "taped" "I" false := by
  intro t h
  have e : t = 7 := by simp [ah_hf, ah_sub] at h; omega
  subst e
  exact ⟨6, 19, _, _, _, _, rfl, ct_X6, by decide, rfl, rfl⟩
theorem ft_620 : ah_FT 620 "LeftAsFoundModel" "here" "I" false := by
  intro t h
  have e : t = 7 := by simp [ah_hf, ah_sub] at h; omega
  subst e
  exact ⟨6, 20, _, _, _, _, rfl, ct_X6, by decide, rfl, rfl⟩
theorem ft_621 : ah_FT 621 "LeftAsFoundModel" "fault" "I" false := by
  intro t h
  have e : t = 7 := by simp [ah_hf, ah_sub] at h; omega
  subst e
  exact ⟨6, 21, _, _, _, _, rfl, ct_X6, by decide, rfl, rfl⟩
theorem ft_622 : ah_FT 622 "LeftAsFoundModel" "open" "I" false := by
  intro t h
  have e : t = 7 := by simp [ah_hf, ah_sub] at h; omega
  subst e
  exact ⟨6, 22, _, _, _, _, rfl, ct_X6, by decide, rfl, rfl⟩
theorem ft_623 : ah_FT 623 "LeftAsFoundModel" "laid" "I" false := by
  intro t h
  have e : t = 7 := by simp [ah_hf, ah_sub] at h; omega
  subst e
  exact ⟨6, 23, _, _, _, _, rfl, ct_X6, by decide, rfl, rfl⟩
theorem ft_624 : ah_FT 624 "LeftAsFoundModel" "act" "[B" true := by
  intro t h
  have e : t = 7 := by simp [ah_hf, ah_sub] at h; omega
  subst e
  exact ⟨6, 24, _, _, _, _, rfl, ct_X6, by decide, rfl, rfl⟩
theorem ft_625 : ah_FT 625 "LeftAsFoundModel" "with" "[I" true := by
  intro t h
  have e : t = 7 := by simp [ah_hf, ah_sub] at h; omega
  subst e
  exact ⟨6, 25, _, _, _, _, rfl, ct_X6, by decide, rfl, rfl⟩
theorem ft_626 : ah_FT 626 "LeftAsFoundModel" "lineMany" "[I" true := by
  intro t h
  have e : t = 7 := by simp [ah_hf, ah_sub] at h; omega
  subst e
  exact ⟨6, 26, _, _, _, _, rfl, ct_X6, by decide, rfl, rfl⟩
theorem ft_627 : ah_FT 627 "LeftAsFoundModel" "testEnd" "[S" true := by
  intro t h
  have e : t = 7 := by simp [ah_hf, ah_sub] at h; omega
  subst e
  exact ⟨6, 27, _, _, _, _, rfl, ct_X6, by decide, rfl, rfl⟩
theorem ft_628 : ah_FT 628 "LeftAsFoundModel" "lineEnd" "[S" true := by
  intro t h
  have e : t = 7 := by simp [ah_hf, ah_sub] at h; omega
  subst e
  exact ⟨6, 28, _, _, _, _, rfl, ct_X6, by decide, rfl, rfl⟩
theorem ft_629 : ah_FT 629 "LeftAsFoundModel" "facts" "[I" true := by
  intro t h
  have e : t = 7 := by simp [ah_hf, ah_sub] at h; omega
  subst e
  exact ⟨6, 29, _, _, _, _, rfl, ct_X6, by decide, rfl, rfl⟩
theorem ft_630 : ah_FT 630 "LeftAsFoundModel" "pile" "[I" true := by
  intro t h
  have e : t = 7 := by simp [ah_hf, ah_sub] at h; omega
  subst e
  exact ⟨6, 30, _, _, _, _, rfl, ct_X6, by decide, rfl, rfl⟩
theorem ft_631 : ah_FT 631 "LeftAsFoundModel" "hasLaw" "Z" false := by
  intro t h
  have e : t = 7 := by simp [ah_hf, ah_sub] at h; omega
  subst e
  exact ⟨6, 31, _, _, _, _, rfl, ct_X6, by decide, rfl, rfl⟩
theorem ft_632 : ah_FT 632 "LeftAsFoundModel" "then1" "[I" true := by
  intro t h
  have e : t = 7 := by simp [ah_hf, ah_sub] at h; omega
  subst e
  exact ⟨6, 32, _, _, _, _, rfl, ct_X6, by decide, rfl, rfl⟩
theorem ft_633 : ah_FT 633 "LeftAsFoundModel" "oughts" "[I" true := by
  intro t h
  have e : t = 7 := by simp [ah_hf, ah_sub] at h; omega
  subst e
  exact ⟨6, 33, _, _, _, _, rfl, ct_X6, by decide, rfl, rfl⟩
theorem ft_634 : ah_FT 634 "LeftAsFoundModel" "keptHut" "[I" true := by
  intro t h
  have e : t = 7 := by simp [ah_hf, ah_sub] at h; omega
  subst e
  exact ⟨6, 34, _, _, _, _, rfl, ct_X6, by decide, rfl, rfl⟩
theorem ft_635 : ah_FT 635 "LeftAsFoundModel" "stay" "[I" true := by
  intro t h
  have e : t = 7 := by simp [ah_hf, ah_sub] at h; omega
  subst e
  exact ⟨6, 35, _, _, _, _, rfl, ct_X6, by decide, rfl, rfl⟩
theorem ft_636 : ah_FT 636 "LeftAsFoundModel" "stays" "I" false := by
  intro t h
  have e : t = 7 := by simp [ah_hf, ah_sub] at h; omega
  subst e
  exact ⟨6, 36, _, _, _, _, rfl, ct_X6, by decide, rfl, rfl⟩
theorem ft_637 : ah_FT 637 "LeftAsFoundModel" "hutsBehind" "[I" true := by
  intro t h
  have e : t = 7 := by simp [ah_hf, ah_sub] at h; omega
  subst e
  exact ⟨6, 37, _, _, _, _, rfl, ct_X6, by decide, rfl, rfl⟩
theorem ft_638 : ah_FT 638 "LeftAsFoundModel" "toldStay" "[I" true := by
  intro t h
  have e : t = 7 := by simp [ah_hf, ah_sub] at h; omega
  subst e
  exact ⟨6, 38, _, _, _, _, rfl, ct_X6, by decide, rfl, rfl⟩
theorem ft_639 : ah_FT 639 "LeftAsFoundModel" "places" "[I" true := by
  intro t h
  have e : t = 7 := by simp [ah_hf, ah_sub] at h; omega
  subst e
  exact ⟨6, 39, _, _, _, _, rfl, ct_X6, by decide, rfl, rfl⟩
theorem ft_640 : ah_FT 640 "LeftAsFoundModel" "bestPlaces" "[I" true := by
  intro t h
  have e : t = 7 := by simp [ah_hf, ah_sub] at h; omega
  subst e
  exact ⟨6, 40, _, _, _, _, rfl, ct_X6, by decide, rfl, rfl⟩
theorem ft_641 : ah_FT 641 "LeftAsFoundModel" "leastLoss" "I" false := by
  intro t h
  have e : t = 7 := by simp [ah_hf, ah_sub] at h; omega
  subst e
  exact ⟨6, 41, _, _, _, _, rfl, ct_X6, by decide, rfl, rfl⟩
theorem ft_642 : ah_FT 642 "LeftAsFoundModel" "lackedAhead" "[I" true := by
  intro t h
  have e : t = 7 := by simp [ah_hf, ah_sub] at h; omega
  subst e
  exact ⟨6, 42, _, _, _, _, rfl, ct_X6, by decide, rfl, rfl⟩
theorem ft_643 : ah_FT 643 "LeftAsFoundModel" "seen" "[I" true := by
  intro t h
  have e : t = 7 := by simp [ah_hf, ah_sub] at h; omega
  subst e
  exact ⟨6, 43, _, _, _, _, rfl, ct_X6, by decide, rfl, rfl⟩
theorem ft_644 : ah_FT 644 "LeftAsFoundModel" "seenMany" "I" false := by
  intro t h
  have e : t = 7 := by simp [ah_hf, ah_sub] at h; omega
  subst e
  exact ⟨6, 44, _, _, _, _, rfl, ct_X6, by decide, rfl, rfl⟩
theorem ft_645 : ah_FT 645 "LeftAsFoundModel" "hutAt" "[I" true := by
  intro t h
  have e : t = 7 := by simp [ah_hf, ah_sub] at h; omega
  subst e
  exact ⟨6, 45, _, _, _, _, rfl, ct_X6, by decide, rfl, rfl⟩
theorem ft_646 : ah_FT 646 "LeftAsFoundModel" "askedNight" "I" false := by
  intro t h
  have e : t = 7 := by simp [ah_hf, ah_sub] at h; omega
  subst e
  exact ⟨6, 46, _, _, _, _, rfl, ct_X6, by decide, rfl, rfl⟩
theorem ft_647 : ah_FT 647 "LeftAsFoundModel" "askedGuest" "I" false := by
  intro t h
  have e : t = 7 := by simp [ah_hf, ah_sub] at h; omega
  subst e
  exact ⟨6, 47, _, _, _, _, rfl, ct_X6, by decide, rfl, rfl⟩
theorem ft_648 : ah_FT 648 "LeftAsFoundModel" "deed" "[I" true := by
  intro t h
  have e : t = 7 := by simp [ah_hf, ah_sub] at h; omega
  subst e
  exact ⟨6, 48, _, _, _, _, rfl, ct_X6, by decide, rfl, rfl⟩
theorem ft_649 : ah_FT 649 "LeftAsFoundModel" "hasImage" "Z" false := by
  intro t h
  have e : t = 7 := by simp [ah_hf, ah_sub] at h; omega
  subst e
  exact ⟨6, 49, _, _, _, _, rfl, ct_X6, by decide, rfl, rfl⟩
theorem ft_650 : ah_FT 650 "LeftAsFoundModel" "imageHut" "[I" true := by
  intro t h
  have e : t = 7 := by simp [ah_hf, ah_sub] at h; omega
  subst e
  exact ⟨6, 50, _, _, _, _, rfl, ct_X6, by decide, rfl, rfl⟩
theorem ft_651 : ah_FT 651 "LeftAsFoundModel" "imageDeed" "[I" true := by
  intro t h
  have e : t = 7 := by simp [ah_hf, ah_sub] at h; omega
  subst e
  exact ⟨6, 51, _, _, _, _, rfl, ct_X6, by decide, rfl, rfl⟩
theorem ft_652 : ah_FT 652 "LeftAsFoundModel" "bodies" "I" false := by
  intro t h
  have e : t = 7 := by simp [ah_hf, ah_sub] at h; omega
  subst e
  exact ⟨6, 52, _, _, _, _, rfl, ct_X6, by decide, rfl, rfl⟩
theorem ft_653 : ah_FT 653 "LeftAsFoundModel" "kind" "[I" true := by
  intro t h
  have e : t = 7 := by simp [ah_hf, ah_sub] at h; omega
  subst e
  exact ⟨6, 53, _, _, _, _, rfl, ct_X6, by decide, rfl, rfl⟩
theorem ft_654 : ah_FT 654 "LeftAsFoundModel" "traces" "I" false := by
  intro t h
  have e : t = 7 := by simp [ah_hf, ah_sub] at h; omega
  subst e
  exact ⟨6, 54, _, _, _, _, rfl, ct_X6, by decide, rfl, rfl⟩
theorem ft_655 : ah_FT 655 "LeftAsFoundModel" "traced" "[I" true := by
  intro t h
  have e : t = 7 := by simp [ah_hf, ah_sub] at h; omega
  subst e
  exact ⟨6, 55, _, _, _, _, rfl, ct_X6, by decide, rfl, rfl⟩
theorem ft_656 : ah_FT 656 "LeftAsFoundModel" "holds" "[I" true := by
  intro t h
  have e : t = 7 := by simp [ah_hf, ah_sub] at h; omega
  subst e
  exact ⟨6, 56, _, _, _, _, rfl, ct_X6, by decide, rfl, rfl⟩
theorem ft_657 : ah_FT 657 "LeftAsFoundModel" "size" "[I" true := by
  intro t h
  have e : t = 7 := by simp [ah_hf, ah_sub] at h; omega
  subst e
  exact ⟨6, 57, _, _, _, _, rfl, ct_X6, by decide, rfl, rfl⟩
theorem ft_658 : ah_FT 658 "LeftAsFoundModel" "elements" "[J" true := by
  intro t h
  have e : t = 7 := by simp [ah_hf, ah_sub] at h; omega
  subst e
  exact ⟨6, 58, _, _, _, _, rfl, ct_X6, by decide, rfl, rfl⟩
theorem ft_659 : ah_FT 659 "LeftAsFoundModel" "shifted" "[J" true := by
  intro t h
  have e : t = 7 := by simp [ah_hf, ah_sub] at h; omega
  subst e
  exact ⟨6, 59, _, _, _, _, rfl, ct_X6, by decide, rfl, rfl⟩
theorem ft_700 : ah_FT 700 "LeftAsFound$Guest" "takes" "[LLeftAsFound$Held;" true := by
  intro t h
  have e : t = 8 := by simp [ah_hf, ah_sub] at h; omega
  subst e
  exact ⟨7, 0, _, _, _, _, rfl, ct_X7, by decide, rfl, rfl⟩
theorem ft_701 : ah_FT 701 "LeftAsFound$Guest" "brings" "[LLeftAsFound$Held;" true := by
  intro t h
  have e : t = 8 := by simp [ah_hf, ah_sub] at h; omega
  subst e
  exact ⟨7, 1, _, _, _, _, rfl, ct_X7, by decide, rfl, rfl⟩
theorem ft_702 : ah_FT 702 "LeftAsFound$Guest" "sees" "LLeftAsFound$Held;" true := by
  intro t h
  have e : t = 8 := by simp [ah_hf, ah_sub] at h; omega
  subst e
  exact ⟨7, 2, _, _, _, _, rfl, ct_X7, by decide, rfl, rfl⟩
theorem ft_703 : ah_FT 703 "LeftAsFound$Guest" "believes" "LLeftAsFound$Held;" true := by
  intro t h
  have e : t = 8 := by simp [ah_hf, ah_sub] at h; omega
  subst e
  exact ⟨7, 3, _, _, _, _, rfl, ct_X7, by decide, rfl, rfl⟩
theorem ft_800 : ah_FT 800 "LeftAsFound$Line" "asked" "LLeftAsFound$Term;" false := by
  intro t h
  have e : t = 9 := by simp [ah_hf, ah_sub] at h; omega
  subst e
  exact ⟨8, 0, _, _, _, _, rfl, ct_X8, by decide, rfl, rfl⟩
theorem ft_801 : ah_FT 801 "LeftAsFound$Line" "counts" "LLeftAsFound$Term;" false := by
  intro t h
  have e : t = 9 := by simp [ah_hf, ah_sub] at h; omega
  subst e
  exact ⟨8, 1, _, _, _, _, rfl, ct_X8, by decide, rfl, rfl⟩
theorem ft_802 : ah_FT 802 "LeftAsFound$Line" "next" "LLeftAsFound$Line;" false := by
  intro t h
  have e : t = 9 := by simp [ah_hf, ah_sub] at h; omega
  subst e
  exact ⟨8, 2, _, _, _, _, rfl, ct_X8, by decide, rfl, rfl⟩
theorem ft_1000 : ah_FT 1000 "LeftAsFound$Figure" "v" "I" true := by
  intro t h
  have e : t = 11 := by simp [ah_hf, ah_sub] at h; omega
  subst e
  exact ⟨10, 0, _, _, _, _, rfl, ct_X10, by decide, rfl, rfl⟩
theorem ft_1100 : ah_FT 1100 "LeftAsFound$Named" "name" "I" true := by
  intro t h
  have e : t = 12 := by simp [ah_hf, ah_sub] at h; omega
  subst e
  exact ⟨11, 0, _, _, _, _, rfl, ct_X11, by decide, rfl, rfl⟩
theorem ft_1101 : ah_FT 1101 "LeftAsFound$Named" "this$0" "LLeftAsFound;" true := by
  intro t h
  have e : t = 12 := by simp [ah_hf, ah_sub] at h; omega
  subst e
  exact ⟨11, 1, _, _, _, _, rfl, ct_X11, by decide, rfl, rfl⟩
theorem ft_1200 : ah_FT 1200 "LeftAsFound$Signed" "sign" "I" true := by
  intro t h
  have e : t = 13 := by simp [ah_hf, ah_sub] at h; omega
  subst e
  exact ⟨12, 0, _, _, _, _, rfl, ct_X12, by decide, rfl, rfl⟩
theorem ft_1201 : ah_FT 1201 "LeftAsFound$Signed" "of" "LLeftAsFound$Term;" true := by
  intro t h
  have e : t = 13 := by simp [ah_hf, ah_sub] at h; omega
  subst e
  exact ⟨12, 1, _, _, _, _, rfl, ct_X12, by decide, rfl, rfl⟩
theorem ft_1300 : ah_FT 1300 "LeftAsFound$Both" "sign" "I" true := by
  intro t h
  have e : t = 14 := by simp [ah_hf, ah_sub] at h; omega
  subst e
  exact ⟨13, 0, _, _, _, _, rfl, ct_X13, by decide, rfl, rfl⟩
theorem ft_1301 : ah_FT 1301 "LeftAsFound$Both" "left" "LLeftAsFound$Term;" true := by
  intro t h
  have e : t = 14 := by simp [ah_hf, ah_sub] at h; omega
  subst e
  exact ⟨13, 1, _, _, _, _, rfl, ct_X13, by decide, rfl, rfl⟩
theorem ft_1302 : ah_FT 1302 "LeftAsFound$Both" "right" "LLeftAsFound$Term;" true := by
  intro t h
  have e : t = 14 := by simp [ah_hf, ah_sub] at h; omega
  subst e
  exact ⟨13, 2, _, _, _, _, rfl, ct_X13, by decide, rfl, rfl⟩
theorem ft_1400 : ah_FT 1400 "LeftAsFound$Body" "number" "I" true := by
  intro t h
  have e : t = 15 ∨ t = 16 ∨ t = 17 ∨ t = 18 ∨ t = 19 ∨ t = 20 ∨ t = 21 ∨ t = 22 := by simp [ah_hf, ah_sub] at h; omega
  rcases e with rfl | rfl | rfl | rfl | rfl | rfl | rfl | rfl
  · exact ⟨14, 0, _, _, _, _, rfl, ct_X14, by decide, rfl, rfl⟩
  · exact ⟨15, 0, _, _, _, _, rfl, ct_X15, by decide, rfl, rfl⟩
  · exact ⟨16, 0, _, _, _, _, rfl, ct_X16, by decide, rfl, rfl⟩
  · exact ⟨17, 0, _, _, _, _, rfl, ct_X17, by decide, rfl, rfl⟩
  · exact ⟨18, 0, _, _, _, _, rfl, ct_X18, by decide, rfl, rfl⟩
  · exact ⟨19, 0, _, _, _, _, rfl, ct_X19, by decide, rfl, rfl⟩
  · exact ⟨20, 0, _, _, _, _, rfl, ct_X20, by decide, rfl, rfl⟩
  · exact ⟨21, 0, _, _, _, _, rfl, ct_X21, by decide, rfl, rfl⟩
theorem ft_1401 : ah_FT 1401 "LeftAsFound$Body" "this$0" "LLeftAsFound;" true := by
  intro t h
  have e : t = 15 ∨ t = 16 ∨ t = 17 ∨ t = 18 ∨ t = 19 ∨ t = 20 ∨ t = 21 ∨ t = 22 := by simp [ah_hf, ah_sub] at h; omega
  rcases e with rfl | rfl | rfl | rfl | rfl | rfl | rfl | rfl
  · exact ⟨14, 1, _, _, _, _, rfl, ct_X14, by decide, rfl, rfl⟩
  · exact ⟨15, 1, _, _, _, _, rfl, ct_X15, by decide, rfl, rfl⟩
  · exact ⟨16, 1, _, _, _, _, rfl, ct_X16, by decide, rfl, rfl⟩
  · exact ⟨17, 1, _, _, _, _, rfl, ct_X17, by decide, rfl, rfl⟩
  · exact ⟨18, 1, _, _, _, _, rfl, ct_X18, by decide, rfl, rfl⟩
  · exact ⟨19, 1, _, _, _, _, rfl, ct_X19, by decide, rfl, rfl⟩
  · exact ⟨20, 1, _, _, _, _, rfl, ct_X20, by decide, rfl, rfl⟩
  · exact ⟨21, 1, _, _, _, _, rfl, ct_X21, by decide, rfl, rfl⟩
theorem ft_1502 : ah_FT 1502 "LeftAsFound$FoundStay" "this$0" "LLeftAsFound;" true := by
  intro t h
  have e : t = 16 ∨ t = 19 := by simp [ah_hf, ah_sub] at h; omega
  rcases e with rfl | rfl
  · exact ⟨15, 2, _, _, _, _, rfl, ct_X15, by decide, rfl, rfl⟩
  · exact ⟨18, 2, _, _, _, _, rfl, ct_X18, by decide, rfl, rfl⟩
theorem ft_1602 : ah_FT 1602 "LeftAsFound$TakenStay" "this$0" "LLeftAsFound;" true := by
  intro t h
  have e : t = 17 ∨ t = 18 ∨ t = 20 := by simp [ah_hf, ah_sub] at h; omega
  rcases e with rfl | rfl | rfl
  · exact ⟨16, 2, _, _, _, _, rfl, ct_X16, by decide, rfl, rfl⟩
  · exact ⟨17, 2, _, _, _, _, rfl, ct_X17, by decide, rfl, rfl⟩
  · exact ⟨19, 2, _, _, _, _, rfl, ct_X19, by decide, rfl, rfl⟩
theorem ft_1703 : ah_FT 1703 "LeftAsFound$BroughtStay" "this$0" "LLeftAsFound;" true := by
  intro t h
  have e : t = 18 ∨ t = 20 := by simp [ah_hf, ah_sub] at h; omega
  rcases e with rfl | rfl
  · exact ⟨17, 3, _, _, _, _, rfl, ct_X17, by decide, rfl, rfl⟩
  · exact ⟨19, 3, _, _, _, _, rfl, ct_X19, by decide, rfl, rfl⟩
theorem ft_1803 : ah_FT 1803 "LeftAsFound$SeenStay" "this$0" "LLeftAsFound;" true := by
  intro t h
  have e : t = 19 := by simp [ah_hf, ah_sub] at h; omega
  subst e
  exact ⟨18, 3, _, _, _, _, rfl, ct_X18, by decide, rfl, rfl⟩
theorem ft_1904 : ah_FT 1904 "LeftAsFound$WrittenStay" "this$0" "LLeftAsFound;" true := by
  intro t h
  have e : t = 20 := by simp [ah_hf, ah_sub] at h; omega
  subst e
  exact ⟨19, 4, _, _, _, _, rfl, ct_X19, by decide, rfl, rfl⟩
theorem ft_2002 : ah_FT 2002 "LeftAsFound$BareStay" "this$0" "LLeftAsFound;" true := by
  intro t h
  have e : t = 21 ∨ t = 22 := by simp [ah_hf, ah_sub] at h; omega
  rcases e with rfl | rfl
  · exact ⟨20, 2, _, _, _, _, rfl, ct_X20, by decide, rfl, rfl⟩
  · exact ⟨21, 2, _, _, _, _, rfl, ct_X21, by decide, rfl, rfl⟩
theorem ft_2103 : ah_FT 2103 "LeftAsFound$MouseStay" "this$0" "LLeftAsFound;" true := by
  intro t h
  have e : t = 22 := by simp [ah_hf, ah_sub] at h; omega
  subst e
  exact ⟨21, 3, _, _, _, _, rfl, ct_X21, by decide, rfl, rfl⟩
/-- words of the tables that do not ride in lw_all; every method carries them -/
def ah_nwT : List Cond := [(Jvm.Cond.arrayOver (Jvm.ClassFile.FieldType.object "LeftAsFound$Change")),
  (Jvm.Cond.castable "LeftAsFound$Fault" "LeftAsFound$Fault"),
  (Jvm.Cond.declares ({ cls := "java/lang/RuntimeException", name := "<init>", desc := "()V" } : Jvm.MethodName)),
  (Jvm.Cond.declares ({ cls := "java/lang/RuntimeException", name := "<init>", desc := "(Ljava/lang/String;)V" } : Jvm.MethodName)),
  (Jvm.Cond.declares ({ cls := "java/lang/Exception", name := "<init>", desc := "()V" } : Jvm.MethodName)),
  (Jvm.Cond.declares ({ cls := "java/lang/Exception", name := "<init>", desc := "(Ljava/lang/String;)V" } : Jvm.MethodName)),
  (Jvm.Cond.declares ({ cls := "java/lang/Throwable", name := "<init>", desc := "()V" } : Jvm.MethodName)),
  (Jvm.Cond.declares ({ cls := "java/lang/Throwable", name := "<init>", desc := "(Ljava/lang/String;)V" } : Jvm.MethodName)),
  (Jvm.Cond.arrayOver (Jvm.ClassFile.FieldType.object "LeftAsFound$Guest")),
  (Jvm.Cond.arrayOver (Jvm.ClassFile.FieldType.object "LeftAsFound$Held")),
  (Jvm.Cond.methodLinkNest "LeftAsFound" (144 : Nat) ({ cls := "LeftAsFound$Held", name := "<init>", desc := "()V" } : Jvm.MethodName) "LeftAsFound"),
  (Jvm.Cond.fieldLinkNest "LeftAsFound$Hut" (52 : Nat) "LeftAsFound$Held" "v" "I" "LeftAsFound"),
  (Jvm.Cond.fieldLinkNest "LeftAsFound" (3 : Nat) "LeftAsFound$Held" "v" "I" "LeftAsFound"),
  (Jvm.Cond.castable "LeftAsFound$Torn" "LeftAsFound$Torn"),
  (Jvm.Cond.fieldLinkNest "LeftAsFound" (236 : Nat) "LeftAsFound$Hut" "levels" "[I" "LeftAsFound"),
  (Jvm.Cond.fieldLinkNest "LeftAsFound" (239 : Nat) "LeftAsFound$Hut" "book" "[I" "LeftAsFound"),
  (Jvm.Cond.fieldLinkNest "LeftAsFound" (249 : Nat) "LeftAsFound$Hut" "first" "[I" "LeftAsFound"),
  (Jvm.Cond.fieldLinkNest "LeftAsFound" (242 : Nat) "LeftAsFound$Hut" "there" "I" "LeftAsFound"),
  (Jvm.Cond.arrayOver (Jvm.ClassFile.FieldType.object "LeftAsFound$Hut")),
  (Jvm.Cond.arrayOver (Jvm.ClassFile.FieldType.object "LeftAsFound$Body")),
  (Jvm.Cond.arrayOver (Jvm.ClassFile.FieldType.object "java/lang/Object")),
  (Jvm.Cond.methodLinkNest "LeftAsFound" (143 : Nat) ({ cls := "LeftAsFound$Change", name := "<init>", desc := "()V" } : Jvm.MethodName) "LeftAsFound"),
  (Jvm.Cond.fieldLinkNest "LeftAsFound" (16 : Nat) "LeftAsFound$Change" "of" "LLeftAsFound$Held;" "LeftAsFound"),
  (Jvm.Cond.fieldLinkNest "LeftAsFound" (22 : Nat) "LeftAsFound$Change" "was" "I" "LeftAsFound"),
  (Jvm.Cond.fieldLinkNest "LeftAsFound" (25 : Nat) "LeftAsFound$Change" "is" "I" "LeftAsFound"),
  (Jvm.Cond.fieldLinkNest "LeftAsFound$Hut" (42 : Nat) "LeftAsFound" "guests" "[LLeftAsFound$Guest;" "LeftAsFound"),
  (Jvm.Cond.fieldLinkNest "LeftAsFound$Hut" (57 : Nat) "LeftAsFound" "oughts" "[LLeftAsFound$Held;" "LeftAsFound"),
  (Jvm.Cond.fieldLinkNest "LeftAsFound$Hut" (82 : Nat) "LeftAsFound" "worths" "[LLeftAsFound$Held;" "LeftAsFound"),
  (Jvm.Cond.fieldLinkNest "LeftAsFound$Named" (17 : Nat) "LeftAsFound" "names" "[I" "LeftAsFound"),
  (Jvm.Cond.fieldLinkNest "LeftAsFound$Body" (22 : Nat) "LeftAsFound" "trace" "[I" "LeftAsFound"),
  (Jvm.Cond.fieldLinkNest "LeftAsFound$Body" (19 : Nat) "LeftAsFound" "ran" "I" "LeftAsFound"),
  (Jvm.Cond.methodLinkNest "LeftAsFound$Guest" (20 : Nat) ({ cls := "LeftAsFound", name := "heldAt", desc := "(I)LLeftAsFound$Held;" } : Jvm.MethodName) "LeftAsFound"),
  (Jvm.Cond.fieldLinkNest "LeftAsFound" (212 : Nat) "LeftAsFound$Guest" "takes" "[LLeftAsFound$Held;" "LeftAsFound"),
  (Jvm.Cond.fieldLinkNest "LeftAsFound" (215 : Nat) "LeftAsFound$Guest" "brings" "[LLeftAsFound$Held;" "LeftAsFound"),
  (Jvm.Cond.fieldLinkNest "LeftAsFound" (218 : Nat) "LeftAsFound$Guest" "sees" "LLeftAsFound$Held;" "LeftAsFound"),
  (Jvm.Cond.fieldLinkNest "LeftAsFound$Hut" (46 : Nat) "LeftAsFound$Guest" "believes" "LLeftAsFound$Held;" "LeftAsFound"),
  (Jvm.Cond.fieldLinkNest "LeftAsFound" (221 : Nat) "LeftAsFound$Guest" "believes" "LLeftAsFound$Held;" "LeftAsFound"),
  (Jvm.Cond.methodLinkNest "LeftAsFound" (306 : Nat) ({ cls := "LeftAsFound$Line", name := "<init>", desc := "()V" } : Jvm.MethodName) "LeftAsFound"),
  (Jvm.Cond.fieldLinkNest "LeftAsFound" (311 : Nat) "LeftAsFound$Line" "asked" "LLeftAsFound$Term;" "LeftAsFound"),
  (Jvm.Cond.fieldLinkNest "LeftAsFound" (307 : Nat) "LeftAsFound$Line" "counts" "LLeftAsFound$Term;" "LeftAsFound"),
  (Jvm.Cond.fieldLinkNest "LeftAsFound" (318 : Nat) "LeftAsFound$Line" "next" "LLeftAsFound$Line;" "LeftAsFound"),
  (Jvm.Cond.methodLinkNest "LeftAsFound$Figure" (1 : Nat) ({ cls := "LeftAsFound$Term", name := "<init>", desc := "()V" } : Jvm.MethodName) "LeftAsFound"),
  (Jvm.Cond.methodLinkNest "LeftAsFound$Named" (7 : Nat) ({ cls := "LeftAsFound$Term", name := "<init>", desc := "()V" } : Jvm.MethodName) "LeftAsFound"),
  (Jvm.Cond.methodLinkNest "LeftAsFound$Signed" (1 : Nat) ({ cls := "LeftAsFound$Term", name := "<init>", desc := "()V" } : Jvm.MethodName) "LeftAsFound"),
  (Jvm.Cond.methodLinkNest "LeftAsFound$Both" (1 : Nat) ({ cls := "LeftAsFound$Term", name := "<init>", desc := "()V" } : Jvm.MethodName) "LeftAsFound"),
  (Jvm.Cond.methodLinkNest "LeftAsFound$Hut" (61 : Nat) ({ cls := "LeftAsFound", name := "isIn", desc := "(II)Z" } : Jvm.MethodName) "LeftAsFound"),
  (Jvm.Cond.methodLinkNest "LeftAsFound$Hut" (69 : Nat) ({ cls := "LeftAsFound", name := "leftBy", desc := "(LLeftAsFound$Guest;III)I" } : Jvm.MethodName) "LeftAsFound"),
  (Jvm.Cond.declares ({ cls := "LeftAsFound$Term", name := "value", desc := "()I" } : Jvm.MethodName)),
  (Jvm.Cond.methodLinkNest "LeftAsFound$Signed" (21 : Nat) ({ cls := "LeftAsFound", name := "bit", desc := "(Z)I" } : Jvm.MethodName) "LeftAsFound"),
  (Jvm.Cond.methodLinkNest "LeftAsFound$Both" (24 : Nat) ({ cls := "LeftAsFound", name := "bit", desc := "(Z)I" } : Jvm.MethodName) "LeftAsFound"),
  (Jvm.Cond.declares ({ cls := "LeftAsFound$Comes", name := "comes", desc := "(I)I" } : Jvm.MethodName)),
  (Jvm.Cond.declares ({ cls := "LeftAsFound$Body", name := "begins", desc := "(I)V" } : Jvm.MethodName)),
  (Jvm.Cond.interfaceMethod "LeftAsFound$Comes" "LeftAsFound$Comes" "begins" "(I)V"),
  (Jvm.Cond.declares ({ cls := "LeftAsFound$Comes", name := "begins", desc := "(I)V" } : Jvm.MethodName)),
  (Jvm.Cond.castable "LeftAsFound$BareStay" "LeftAsFound$Comes"),
  (Jvm.Cond.unhidden "LeftAsFound$BareStay" "begins" "(I)V"),
  (Jvm.Cond.publicMethod ({ cls := "LeftAsFound$Body", name := "begins", desc := "(I)V" } : Jvm.MethodName)),
  (Jvm.Cond.castable "LeftAsFound$Body" "LeftAsFound$Comes"),
  (Jvm.Cond.unhidden "LeftAsFound$Body" "begins" "(I)V"),
  (Jvm.Cond.castable "LeftAsFound$BroughtStay" "LeftAsFound$Comes"),
  (Jvm.Cond.unhidden "LeftAsFound$BroughtStay" "begins" "(I)V"),
  (Jvm.Cond.castable "LeftAsFound$FoundStay" "LeftAsFound$Comes"),
  (Jvm.Cond.unhidden "LeftAsFound$FoundStay" "begins" "(I)V"),
  (Jvm.Cond.castable "LeftAsFound$MouseStay" "LeftAsFound$Comes"),
  (Jvm.Cond.unhidden "LeftAsFound$MouseStay" "begins" "(I)V"),
  (Jvm.Cond.castable "LeftAsFound$SeenStay" "LeftAsFound$Comes"),
  (Jvm.Cond.unhidden "LeftAsFound$SeenStay" "begins" "(I)V"),
  (Jvm.Cond.castable "LeftAsFound$TakenStay" "LeftAsFound$Comes"),
  (Jvm.Cond.unhidden "LeftAsFound$TakenStay" "begins" "(I)V"),
  (Jvm.Cond.castable "LeftAsFound$WrittenStay" "LeftAsFound$Comes"),
  (Jvm.Cond.unhidden "LeftAsFound$WrittenStay" "begins" "(I)V"),
  (Jvm.Cond.interfaceMethod "LeftAsFound$Comes" "LeftAsFound$Comes" "number" "()I"),
  (Jvm.Cond.declares ({ cls := "LeftAsFound$Comes", name := "number", desc := "()I" } : Jvm.MethodName)),
  (Jvm.Cond.unhidden "LeftAsFound$BareStay" "number" "()I"),
  (Jvm.Cond.publicMethod ({ cls := "LeftAsFound$Body", name := "number", desc := "()I" } : Jvm.MethodName)),
  (Jvm.Cond.unhidden "LeftAsFound$Body" "number" "()I"),
  (Jvm.Cond.unhidden "LeftAsFound$BroughtStay" "number" "()I"),
  (Jvm.Cond.unhidden "LeftAsFound$FoundStay" "number" "()I"),
  (Jvm.Cond.unhidden "LeftAsFound$MouseStay" "number" "()I"),
  (Jvm.Cond.unhidden "LeftAsFound$SeenStay" "number" "()I"),
  (Jvm.Cond.unhidden "LeftAsFound$TakenStay" "number" "()I"),
  (Jvm.Cond.unhidden "LeftAsFound$WrittenStay" "number" "()I"),
  (Jvm.Cond.unhidden "LeftAsFound$Body" "comes" "(I)I"),
  (Jvm.Cond.unhidden "LeftAsFound$BroughtStay" "comes" "(I)I"),
  (Jvm.Cond.unhidden "LeftAsFound$TakenStay" "comes" "(I)I"),
  (Jvm.Cond.unhidden "LeftAsFound$WrittenStay" "comes" "(I)I"),
  (Jvm.Cond.publicMethod ({ cls := "LeftAsFound$Comes", name := "comes", desc := "(I)I" } : Jvm.MethodName)),
  (Jvm.Cond.declares ({ cls := "LeftAsFound$Body", name := "leaves", desc := "(I)I" } : Jvm.MethodName)),
  (Jvm.Cond.declares ({ cls := "LeftAsFound$Body", name := "sees", desc := "(I)I" } : Jvm.MethodName)),
  (Jvm.Cond.declares ({ cls := "LeftAsFound$Tells", name := "tells", desc := "(I)I" } : Jvm.MethodName)),
  (Jvm.Cond.unhidden "LeftAsFound$BareStay" "tells" "(I)I"),
  (Jvm.Cond.unhidden "LeftAsFound$Body" "tells" "(I)I"),
  (Jvm.Cond.unhidden "LeftAsFound$BroughtStay" "tells" "(I)I"),
  (Jvm.Cond.unhidden "LeftAsFound$FoundStay" "tells" "(I)I"),
  (Jvm.Cond.unhidden "LeftAsFound$MouseStay" "tells" "(I)I"),
  (Jvm.Cond.interfaceMethod "LeftAsFound$Tells" "LeftAsFound$Tells" "begins" "(I)V"),
  (Jvm.Cond.declares ({ cls := "LeftAsFound$Tells", name := "begins", desc := "(I)V" } : Jvm.MethodName)),
  (Jvm.Cond.castable "LeftAsFound$BareStay" "LeftAsFound$Tells"),
  (Jvm.Cond.castable "LeftAsFound$Body" "LeftAsFound$Tells"),
  (Jvm.Cond.castable "LeftAsFound$BroughtStay" "LeftAsFound$Tells"),
  (Jvm.Cond.castable "LeftAsFound$FoundStay" "LeftAsFound$Tells"),
  (Jvm.Cond.castable "LeftAsFound$MouseStay" "LeftAsFound$Tells"),
  (Jvm.Cond.castable "LeftAsFound$SeenStay" "LeftAsFound$Tells"),
  (Jvm.Cond.castable "LeftAsFound$TakenStay" "LeftAsFound$Tells"),
  (Jvm.Cond.castable "LeftAsFound$WrittenStay" "LeftAsFound$Tells"),
  (Jvm.Cond.interfaceMethod "LeftAsFound$Tells" "LeftAsFound$Tells" "leaves" "(I)I"),
  (Jvm.Cond.declares ({ cls := "LeftAsFound$Tells", name := "leaves", desc := "(I)I" } : Jvm.MethodName)),
  (Jvm.Cond.unhidden "LeftAsFound$BareStay" "leaves" "(I)I"),
  (Jvm.Cond.publicMethod ({ cls := "LeftAsFound$Body", name := "leaves", desc := "(I)I" } : Jvm.MethodName)),
  (Jvm.Cond.unhidden "LeftAsFound$Body" "leaves" "(I)I"),
  (Jvm.Cond.unhidden "LeftAsFound$BroughtStay" "leaves" "(I)I"),
  (Jvm.Cond.publicMethod ({ cls := "LeftAsFound$BroughtStay", name := "leaves", desc := "(I)I" } : Jvm.MethodName)),
  (Jvm.Cond.unhidden "LeftAsFound$FoundStay" "leaves" "(I)I"),
  (Jvm.Cond.unhidden "LeftAsFound$MouseStay" "leaves" "(I)I"),
  (Jvm.Cond.publicMethod ({ cls := "LeftAsFound$MouseStay", name := "leaves", desc := "(I)I" } : Jvm.MethodName)),
  (Jvm.Cond.unhidden "LeftAsFound$SeenStay" "leaves" "(I)I"),
  (Jvm.Cond.unhidden "LeftAsFound$TakenStay" "leaves" "(I)I"),
  (Jvm.Cond.publicMethod ({ cls := "LeftAsFound$TakenStay", name := "leaves", desc := "(I)I" } : Jvm.MethodName)),
  (Jvm.Cond.unhidden "LeftAsFound$WrittenStay" "leaves" "(I)I"),
  (Jvm.Cond.interfaceMethod "LeftAsFound$Tells" "LeftAsFound$Tells" "sees" "(I)I"),
  (Jvm.Cond.declares ({ cls := "LeftAsFound$Tells", name := "sees", desc := "(I)I" } : Jvm.MethodName)),
  (Jvm.Cond.unhidden "LeftAsFound$BareStay" "sees" "(I)I"),
  (Jvm.Cond.publicMethod ({ cls := "LeftAsFound$Body", name := "sees", desc := "(I)I" } : Jvm.MethodName)),
  (Jvm.Cond.unhidden "LeftAsFound$Body" "sees" "(I)I"),
  (Jvm.Cond.unhidden "LeftAsFound$BroughtStay" "sees" "(I)I"),
  (Jvm.Cond.publicMethod ({ cls := "LeftAsFound$BroughtStay", name := "sees", desc := "(I)I" } : Jvm.MethodName)),
  (Jvm.Cond.unhidden "LeftAsFound$FoundStay" "sees" "(I)I"),
  (Jvm.Cond.unhidden "LeftAsFound$MouseStay" "sees" "(I)I"),
  (Jvm.Cond.unhidden "LeftAsFound$SeenStay" "sees" "(I)I"),
  (Jvm.Cond.unhidden "LeftAsFound$TakenStay" "sees" "(I)I"),
  (Jvm.Cond.unhidden "LeftAsFound$WrittenStay" "sees" "(I)I"),
  (Jvm.Cond.publicMethod ({ cls := "LeftAsFound$WrittenStay", name := "sees", desc := "(I)I" } : Jvm.MethodName)),
  (Jvm.Cond.unhidden "LeftAsFound$TakenStay" "tells" "(I)I"),
  (Jvm.Cond.publicMethod ({ cls := "LeftAsFound$Tells", name := "tells", desc := "(I)I" } : Jvm.MethodName)),
  (Jvm.Cond.castable "LeftAsFound$BareStay" "LeftAsFound$Body"),
  (Jvm.Cond.castable "LeftAsFound$BroughtStay" "LeftAsFound$Body"),
  (Jvm.Cond.castable "LeftAsFound$FoundStay" "LeftAsFound$Body"),
  (Jvm.Cond.castable "LeftAsFound$MouseStay" "LeftAsFound$Body"),
  (Jvm.Cond.castable "LeftAsFound$SeenStay" "LeftAsFound$Body"),
  (Jvm.Cond.castable "LeftAsFound$TakenStay" "LeftAsFound$Body"),
  (Jvm.Cond.castable "LeftAsFound$WrittenStay" "LeftAsFound$Body"),
  (Jvm.Cond.castable "LeftAsFound" "java/lang/Object"),
  (Jvm.Cond.castable "LeftAsFound$Fault" "java/lang/Object"),
  (Jvm.Cond.castable "LeftAsFound$Held" "java/lang/Object"),
  (Jvm.Cond.castable "LeftAsFound$Torn" "java/lang/Object"),
  (Jvm.Cond.castable "LeftAsFound$Hut" "java/lang/Object"),
  (Jvm.Cond.castable "LeftAsFound$Change" "java/lang/Object"),
  (Jvm.Cond.castable "LeftAsFoundModel" "java/lang/Object"),
  (Jvm.Cond.castable "LeftAsFound$Guest" "java/lang/Object"),
  (Jvm.Cond.castable "LeftAsFound$Line" "java/lang/Object"),
  (Jvm.Cond.castable "LeftAsFound$Figure" "java/lang/Object"),
  (Jvm.Cond.castable "LeftAsFound$Named" "java/lang/Object"),
  (Jvm.Cond.castable "LeftAsFound$Signed" "java/lang/Object"),
  (Jvm.Cond.castable "LeftAsFound$Both" "java/lang/Object"),
  (Jvm.Cond.castable "LeftAsFound$FoundStay" "java/lang/Object"),
  (Jvm.Cond.castable "LeftAsFound$TakenStay" "java/lang/Object"),
  (Jvm.Cond.castable "LeftAsFound$BroughtStay" "java/lang/Object"),
  (Jvm.Cond.castable "LeftAsFound$SeenStay" "java/lang/Object"),
  (Jvm.Cond.castable "LeftAsFound$WrittenStay" "java/lang/Object"),
  (Jvm.Cond.castable "LeftAsFound$BareStay" "java/lang/Object"),
  (Jvm.Cond.castable "LeftAsFound$MouseStay" "java/lang/Object"),
  (Jvm.Cond.castable "LeftAsFound$Body" "java/lang/Object"),
  (Jvm.Cond.castable "java/lang/Throwable" "java/lang/Object"),
  (Jvm.Cond.castable "[LLeftAsFound$Change;" "java/lang/Object"),
  (Jvm.Cond.castable "[I" "java/lang/Object"),
  (Jvm.Cond.castable "[LLeftAsFound$Guest;" "java/lang/Object"),
  (Jvm.Cond.castable "[LLeftAsFound$Held;" "java/lang/Object"),
  (Jvm.Cond.castable "[LLeftAsFound$Hut;" "java/lang/Object"),
  (Jvm.Cond.castable "[LLeftAsFound$Body;" "java/lang/Object"),
  (Jvm.Cond.castable "[Ljava/lang/Object;" "java/lang/Object"),
  (Jvm.Cond.castable "[B" "java/lang/Object"),
  (Jvm.Cond.castable "[S" "java/lang/Object"),
  (Jvm.Cond.castable "[J" "java/lang/Object"),
  (Jvm.Cond.castable "[Z" "java/lang/Object")]
set_option maxRecDepth 20000 in
theorem ah_nw_tbl : ∀ w ∈ ah_nwT, w ∈ lw_tbl := List.forall_mem_cons.mpr ⟨q139, List.forall_mem_cons.mpr ⟨q142, List.forall_mem_cons.mpr ⟨q143, List.forall_mem_cons.mpr ⟨q144, List.forall_mem_cons.mpr ⟨q145, List.forall_mem_cons.mpr ⟨q146, List.forall_mem_cons.mpr ⟨q147, List.forall_mem_cons.mpr ⟨q148, List.forall_mem_cons.mpr ⟨q207, List.forall_mem_cons.mpr ⟨q209, List.forall_mem_cons.mpr ⟨q214, List.forall_mem_cons.mpr ⟨q218, List.forall_mem_cons.mpr ⟨q219, List.forall_mem_cons.mpr ⟨q225, List.forall_mem_cons.mpr ⟨q245, List.forall_mem_cons.mpr ⟨q247, List.forall_mem_cons.mpr ⟨q249, List.forall_mem_cons.mpr ⟨q251, List.forall_mem_cons.mpr ⟨q270, List.forall_mem_cons.mpr ⟨q272, List.forall_mem_cons.mpr ⟨q274, List.forall_mem_cons.mpr ⟨q276, List.forall_mem_cons.mpr ⟨q280, List.forall_mem_cons.mpr ⟨q281, List.forall_mem_cons.mpr ⟨q282, List.forall_mem_cons.mpr ⟨q297, List.forall_mem_cons.mpr ⟨q300, List.forall_mem_cons.mpr ⟨q302, List.forall_mem_cons.mpr ⟨q308, List.forall_mem_cons.mpr ⟨q333, List.forall_mem_cons.mpr ⟨q335, List.forall_mem_cons.mpr ⟨q447, List.forall_mem_cons.mpr ⟨q449, List.forall_mem_cons.mpr ⟨q451, List.forall_mem_cons.mpr ⟨q453, List.forall_mem_cons.mpr ⟨q455, List.forall_mem_cons.mpr ⟨q456, List.forall_mem_cons.mpr ⟨q535, List.forall_mem_cons.mpr ⟨q539, List.forall_mem_cons.mpr ⟨q540, List.forall_mem_cons.mpr ⟨q541, List.forall_mem_cons.mpr ⟨q588, List.forall_mem_cons.mpr ⟨q604, List.forall_mem_cons.mpr ⟨q617, List.forall_mem_cons.mpr ⟨q638, List.forall_mem_cons.mpr ⟨q679, List.forall_mem_cons.mpr ⟨q684, List.forall_mem_cons.mpr ⟨q693, List.forall_mem_cons.mpr ⟨q706, List.forall_mem_cons.mpr ⟨q709, List.forall_mem_cons.mpr ⟨q976, List.forall_mem_cons.mpr ⟨q982, List.forall_mem_cons.mpr ⟨q991, List.forall_mem_cons.mpr ⟨q992, List.forall_mem_cons.mpr ⟨q993, List.forall_mem_cons.mpr ⟨q995, List.forall_mem_cons.mpr ⟨q996, List.forall_mem_cons.mpr ⟨q997, List.forall_mem_cons.mpr ⟨q999, List.forall_mem_cons.mpr ⟨q1000, List.forall_mem_cons.mpr ⟨q1002, List.forall_mem_cons.mpr ⟨q1003, List.forall_mem_cons.mpr ⟨q1005, List.forall_mem_cons.mpr ⟨q1006, List.forall_mem_cons.mpr ⟨q1008, List.forall_mem_cons.mpr ⟨q1009, List.forall_mem_cons.mpr ⟨q1011, List.forall_mem_cons.mpr ⟨q1012, List.forall_mem_cons.mpr ⟨q1014, List.forall_mem_cons.mpr ⟨q1015, List.forall_mem_cons.mpr ⟨q1017, List.forall_mem_cons.mpr ⟨q1020, List.forall_mem_cons.mpr ⟨q1021, List.forall_mem_cons.mpr ⟨q1023, List.forall_mem_cons.mpr ⟨q1025, List.forall_mem_cons.mpr ⟨q1028, List.forall_mem_cons.mpr ⟨q1030, List.forall_mem_cons.mpr ⟨q1032, List.forall_mem_cons.mpr ⟨q1034, List.forall_mem_cons.mpr ⟨q1036, List.forall_mem_cons.mpr ⟨q1038, List.forall_mem_cons.mpr ⟨q1040, List.forall_mem_cons.mpr ⟨q1041, List.forall_mem_cons.mpr ⟨q1042, List.forall_mem_cons.mpr ⟨q1058, List.forall_mem_cons.mpr ⟨q1059, List.forall_mem_cons.mpr ⟨q1060, List.forall_mem_cons.mpr ⟨q1088, List.forall_mem_cons.mpr ⟨q1091, List.forall_mem_cons.mpr ⟨q1111, List.forall_mem_cons.mpr ⟨q1112, List.forall_mem_cons.mpr ⟨q1113, List.forall_mem_cons.mpr ⟨q1114, List.forall_mem_cons.mpr ⟨q1115, List.forall_mem_cons.mpr ⟨q1116, List.forall_mem_cons.mpr ⟨q1127, List.forall_mem_cons.mpr ⟨q1128, List.forall_mem_cons.mpr ⟨q1129, List.forall_mem_cons.mpr ⟨q1131, List.forall_mem_cons.mpr ⟨q1133, List.forall_mem_cons.mpr ⟨q1135, List.forall_mem_cons.mpr ⟨q1137, List.forall_mem_cons.mpr ⟨q1139, List.forall_mem_cons.mpr ⟨q1141, List.forall_mem_cons.mpr ⟨q1143, List.forall_mem_cons.mpr ⟨q1147, List.forall_mem_cons.mpr ⟨q1148, List.forall_mem_cons.mpr ⟨q1150, List.forall_mem_cons.mpr ⟨q1151, List.forall_mem_cons.mpr ⟨q1153, List.forall_mem_cons.mpr ⟨q1155, List.forall_mem_cons.mpr ⟨q1156, List.forall_mem_cons.mpr ⟨q1158, List.forall_mem_cons.mpr ⟨q1160, List.forall_mem_cons.mpr ⟨q1161, List.forall_mem_cons.mpr ⟨q1163, List.forall_mem_cons.mpr ⟨q1165, List.forall_mem_cons.mpr ⟨q1166, List.forall_mem_cons.mpr ⟨q1168, List.forall_mem_cons.mpr ⟨q1171, List.forall_mem_cons.mpr ⟨q1172, List.forall_mem_cons.mpr ⟨q1174, List.forall_mem_cons.mpr ⟨q1175, List.forall_mem_cons.mpr ⟨q1177, List.forall_mem_cons.mpr ⟨q1179, List.forall_mem_cons.mpr ⟨q1180, List.forall_mem_cons.mpr ⟨q1182, List.forall_mem_cons.mpr ⟨q1184, List.forall_mem_cons.mpr ⟨q1186, List.forall_mem_cons.mpr ⟨q1188, List.forall_mem_cons.mpr ⟨q1190, List.forall_mem_cons.mpr ⟨q1191, List.forall_mem_cons.mpr ⟨q1192, List.forall_mem_cons.mpr ⟨q1196, List.forall_mem_cons.mpr ⟨q1932, List.forall_mem_cons.mpr ⟨q1933, List.forall_mem_cons.mpr ⟨q1934, List.forall_mem_cons.mpr ⟨q1935, List.forall_mem_cons.mpr ⟨q1936, List.forall_mem_cons.mpr ⟨q1937, List.forall_mem_cons.mpr ⟨q1938, List.forall_mem_cons.mpr ⟨q1939, List.forall_mem_cons.mpr ⟨q1940, List.forall_mem_cons.mpr ⟨q1941, List.forall_mem_cons.mpr ⟨q1942, List.forall_mem_cons.mpr ⟨q1943, List.forall_mem_cons.mpr ⟨q1944, List.forall_mem_cons.mpr ⟨q1945, List.forall_mem_cons.mpr ⟨q1946, List.forall_mem_cons.mpr ⟨q1947, List.forall_mem_cons.mpr ⟨q1948, List.forall_mem_cons.mpr ⟨q1949, List.forall_mem_cons.mpr ⟨q1950, List.forall_mem_cons.mpr ⟨q1951, List.forall_mem_cons.mpr ⟨q1952, List.forall_mem_cons.mpr ⟨q1953, List.forall_mem_cons.mpr ⟨q1954, List.forall_mem_cons.mpr ⟨q1955, List.forall_mem_cons.mpr ⟨q1956, List.forall_mem_cons.mpr ⟨q1957, List.forall_mem_cons.mpr ⟨q1958, List.forall_mem_cons.mpr ⟨q1959, List.forall_mem_cons.mpr ⟨q1960, List.forall_mem_cons.mpr ⟨q1961, List.forall_mem_cons.mpr ⟨q1962, List.forall_mem_cons.mpr ⟨q1963, List.forall_mem_cons.mpr ⟨q1964, List.forall_mem_cons.mpr ⟨q1965, List.forall_mem_cons.mpr ⟨q1966, List.forall_mem_cons.mpr ⟨q1967, List.forall_mem_cons.mpr ⟨q1968, List.forall_mem_cons.mpr ⟨q1969, List.forall_mem_cons.mpr ⟨q1970, List.forall_mem_cons.mpr ⟨q1971, fun _ h => absurd h List.not_mem_nil⟩⟩⟩⟩⟩⟩⟩⟩⟩⟩⟩⟩⟩⟩⟩⟩⟩⟩⟩⟩⟩⟩⟩⟩⟩⟩⟩⟩⟩⟩⟩⟩⟩⟩⟩⟩⟩⟩⟩⟩⟩⟩⟩⟩⟩⟩⟩⟩⟩⟩⟩⟩⟩⟩⟩⟩⟩⟩⟩⟩⟩⟩⟩⟩⟩⟩⟩⟩⟩⟩⟩⟩⟩⟩⟩⟩⟩⟩⟩⟩⟩⟩⟩⟩⟩⟩⟩⟩⟩⟩⟩⟩⟩⟩⟩⟩⟩⟩⟩⟩⟩⟩⟩⟩⟩⟩⟩⟩⟩⟩⟩⟩⟩⟩⟩⟩⟩⟩⟩⟩⟩⟩⟩⟩⟩⟩⟩⟩⟩⟩⟩⟩⟩⟩⟩⟩⟩⟩⟩⟩⟩⟩⟩⟩⟩⟩⟩⟩⟩⟩⟩⟩⟩⟩⟩⟩⟩⟩⟩⟩⟩⟩⟩⟩⟩⟩⟩⟩⟩⟩⟩⟩⟩⟩
/-- words of narrow_1 on calls that land in defaults -/
def ah_nd : List Cond := [(Jvm.Cond.methodLink "LeftAsFound" (483 : Nat) ({ cls := "LeftAsFound$Body", name := "comes", desc := "(I)I" } : Jvm.MethodName)),
  (Jvm.Cond.sameMethod "LeftAsFound$Body" "LeftAsFound$Comes" "comes" "(I)I"),
  (Jvm.Cond.methodLink "LeftAsFound$BareStay" (23 : Nat) ({ cls := "LeftAsFound$Body", name := "comes", desc := "(I)I" } : Jvm.MethodName)),
  (Jvm.Cond.methodLink "LeftAsFound$FoundStay" (23 : Nat) ({ cls := "LeftAsFound$Body", name := "comes", desc := "(I)I" } : Jvm.MethodName)),
  (Jvm.Cond.methodLink "LeftAsFound$Body" (30 : Nat) ({ cls := "LeftAsFound$Body", name := "comes", desc := "(I)I" } : Jvm.MethodName)),
  (Jvm.Cond.methodLink "LeftAsFound$WrittenStay" (27 : Nat) ({ cls := "LeftAsFound$WrittenStay", name := "comes", desc := "(I)I" } : Jvm.MethodName)),
  (Jvm.Cond.sameMethod "LeftAsFound$WrittenStay" "LeftAsFound$Comes" "comes" "(I)I"),
  (Jvm.Cond.methodLink "LeftAsFound" (490 : Nat) ({ cls := "LeftAsFound$Body", name := "tells", desc := "(I)I" } : Jvm.MethodName)),
  (Jvm.Cond.sameMethod "LeftAsFound$Body" "LeftAsFound$Tells" "tells" "(I)I"),
  (Jvm.Cond.methodLink "LeftAsFound$SeenStay" (23 : Nat) ({ cls := "LeftAsFound$FoundStay", name := "tells", desc := "(I)I" } : Jvm.MethodName)),
  (Jvm.Cond.sameMethod "LeftAsFound$FoundStay" "LeftAsFound$Tells" "tells" "(I)I"),
  (Jvm.Cond.methodLink "LeftAsFound$WrittenStay" (30 : Nat) ({ cls := "LeftAsFound$BroughtStay", name := "tells", desc := "(I)I" } : Jvm.MethodName)),
  (Jvm.Cond.sameMethod "LeftAsFound$BroughtStay" "LeftAsFound$Tells" "tells" "(I)I"),
  (Jvm.Cond.landsInDefault "LeftAsFound$Body" ({ cls := "LeftAsFound$Body", name := "comes", desc := "(I)I" } : Jvm.MethodName) ({ cls := "LeftAsFound$Comes", name := "comes", desc := "(I)I" } : Jvm.MethodName)),
  (Jvm.Cond.landsInDefault "LeftAsFound$BroughtStay" ({ cls := "LeftAsFound$Body", name := "comes", desc := "(I)I" } : Jvm.MethodName) ({ cls := "LeftAsFound$Comes", name := "comes", desc := "(I)I" } : Jvm.MethodName)),
  (Jvm.Cond.landsInDefault "LeftAsFound$TakenStay" ({ cls := "LeftAsFound$Body", name := "comes", desc := "(I)I" } : Jvm.MethodName) ({ cls := "LeftAsFound$Comes", name := "comes", desc := "(I)I" } : Jvm.MethodName)),
  (Jvm.Cond.landsInDefault "LeftAsFound$WrittenStay" ({ cls := "LeftAsFound$Body", name := "comes", desc := "(I)I" } : Jvm.MethodName) ({ cls := "LeftAsFound$Comes", name := "comes", desc := "(I)I" } : Jvm.MethodName)),
  (Jvm.Cond.landsInDefault "LeftAsFound$WrittenStay" ({ cls := "LeftAsFound$WrittenStay", name := "comes", desc := "(I)I" } : Jvm.MethodName) ({ cls := "LeftAsFound$Comes", name := "comes", desc := "(I)I" } : Jvm.MethodName)),
  (Jvm.Cond.landsInDefault "LeftAsFound$BareStay" ({ cls := "LeftAsFound$Body", name := "tells", desc := "(I)I" } : Jvm.MethodName) ({ cls := "LeftAsFound$Tells", name := "tells", desc := "(I)I" } : Jvm.MethodName)),
  (Jvm.Cond.landsInDefault "LeftAsFound$Body" ({ cls := "LeftAsFound$Body", name := "tells", desc := "(I)I" } : Jvm.MethodName) ({ cls := "LeftAsFound$Tells", name := "tells", desc := "(I)I" } : Jvm.MethodName)),
  (Jvm.Cond.landsInDefault "LeftAsFound$BroughtStay" ({ cls := "LeftAsFound$Body", name := "tells", desc := "(I)I" } : Jvm.MethodName) ({ cls := "LeftAsFound$Tells", name := "tells", desc := "(I)I" } : Jvm.MethodName)),
  (Jvm.Cond.landsInDefault "LeftAsFound$FoundStay" ({ cls := "LeftAsFound$Body", name := "tells", desc := "(I)I" } : Jvm.MethodName) ({ cls := "LeftAsFound$Tells", name := "tells", desc := "(I)I" } : Jvm.MethodName)),
  (Jvm.Cond.landsInDefault "LeftAsFound$MouseStay" ({ cls := "LeftAsFound$Body", name := "tells", desc := "(I)I" } : Jvm.MethodName) ({ cls := "LeftAsFound$Tells", name := "tells", desc := "(I)I" } : Jvm.MethodName)),
  (Jvm.Cond.landsInDefault "LeftAsFound$FoundStay" ({ cls := "LeftAsFound$FoundStay", name := "tells", desc := "(I)I" } : Jvm.MethodName) ({ cls := "LeftAsFound$Tells", name := "tells", desc := "(I)I" } : Jvm.MethodName)),
  (Jvm.Cond.landsInDefault "LeftAsFound$TakenStay" ({ cls := "LeftAsFound$Body", name := "tells", desc := "(I)I" } : Jvm.MethodName) ({ cls := "LeftAsFound$Tells", name := "tells", desc := "(I)I" } : Jvm.MethodName)),
  (Jvm.Cond.landsInDefault "LeftAsFound$BroughtStay" ({ cls := "LeftAsFound$BroughtStay", name := "tells", desc := "(I)I" } : Jvm.MethodName) ({ cls := "LeftAsFound$Tells", name := "tells", desc := "(I)I" } : Jvm.MethodName))]
def ah_nw : List Cond := ah_nwT ++ ah_nd
theorem nq139 : (Jvm.Cond.arrayOver (Jvm.ClassFile.FieldType.object "LeftAsFound$Change")) ∈ ah_nw := List.mem_append_left _ (List.mem_of_getElem? (i := 0) rfl)
theorem nq142 : (Jvm.Cond.castable "LeftAsFound$Fault" "LeftAsFound$Fault") ∈ ah_nw := List.mem_append_left _ (List.mem_of_getElem? (i := 1) rfl)
theorem nq143 : (Jvm.Cond.declares ({ cls := "java/lang/RuntimeException", name := "<init>", desc := "()V" } : Jvm.MethodName)) ∈ ah_nw := List.mem_append_left _ (List.mem_of_getElem? (i := 2) rfl)
theorem nq144 : (Jvm.Cond.declares ({ cls := "java/lang/RuntimeException", name := "<init>", desc := "(Ljava/lang/String;)V" } : Jvm.MethodName)) ∈ ah_nw := List.mem_append_left _ (List.mem_of_getElem? (i := 3) rfl)
theorem nq145 : (Jvm.Cond.declares ({ cls := "java/lang/Exception", name := "<init>", desc := "()V" } : Jvm.MethodName)) ∈ ah_nw := List.mem_append_left _ (List.mem_of_getElem? (i := 4) rfl)
theorem nq146 : (Jvm.Cond.declares ({ cls := "java/lang/Exception", name := "<init>", desc := "(Ljava/lang/String;)V" } : Jvm.MethodName)) ∈ ah_nw := List.mem_append_left _ (List.mem_of_getElem? (i := 5) rfl)
theorem nq147 : (Jvm.Cond.declares ({ cls := "java/lang/Throwable", name := "<init>", desc := "()V" } : Jvm.MethodName)) ∈ ah_nw := List.mem_append_left _ (List.mem_of_getElem? (i := 6) rfl)
theorem nq148 : (Jvm.Cond.declares ({ cls := "java/lang/Throwable", name := "<init>", desc := "(Ljava/lang/String;)V" } : Jvm.MethodName)) ∈ ah_nw := List.mem_append_left _ (List.mem_of_getElem? (i := 7) rfl)
theorem nq207 : (Jvm.Cond.arrayOver (Jvm.ClassFile.FieldType.object "LeftAsFound$Guest")) ∈ ah_nw := List.mem_append_left _ (List.mem_of_getElem? (i := 8) rfl)
theorem nq209 : (Jvm.Cond.arrayOver (Jvm.ClassFile.FieldType.object "LeftAsFound$Held")) ∈ ah_nw := List.mem_append_left _ (List.mem_of_getElem? (i := 9) rfl)
theorem nq214 : (Jvm.Cond.methodLinkNest "LeftAsFound" (144 : Nat) ({ cls := "LeftAsFound$Held", name := "<init>", desc := "()V" } : Jvm.MethodName) "LeftAsFound") ∈ ah_nw := List.mem_append_left _ (List.mem_of_getElem? (i := 10) rfl)
theorem nq218 : (Jvm.Cond.fieldLinkNest "LeftAsFound$Hut" (52 : Nat) "LeftAsFound$Held" "v" "I" "LeftAsFound") ∈ ah_nw := List.mem_append_left _ (List.mem_of_getElem? (i := 11) rfl)
theorem nq219 : (Jvm.Cond.fieldLinkNest "LeftAsFound" (3 : Nat) "LeftAsFound$Held" "v" "I" "LeftAsFound") ∈ ah_nw := List.mem_append_left _ (List.mem_of_getElem? (i := 12) rfl)
theorem nq225 : (Jvm.Cond.castable "LeftAsFound$Torn" "LeftAsFound$Torn") ∈ ah_nw := List.mem_append_left _ (List.mem_of_getElem? (i := 13) rfl)
theorem nq245 : (Jvm.Cond.fieldLinkNest "LeftAsFound" (236 : Nat) "LeftAsFound$Hut" "levels" "[I" "LeftAsFound") ∈ ah_nw := List.mem_append_left _ (List.mem_of_getElem? (i := 14) rfl)
theorem nq247 : (Jvm.Cond.fieldLinkNest "LeftAsFound" (239 : Nat) "LeftAsFound$Hut" "book" "[I" "LeftAsFound") ∈ ah_nw := List.mem_append_left _ (List.mem_of_getElem? (i := 15) rfl)
theorem nq249 : (Jvm.Cond.fieldLinkNest "LeftAsFound" (249 : Nat) "LeftAsFound$Hut" "first" "[I" "LeftAsFound") ∈ ah_nw := List.mem_append_left _ (List.mem_of_getElem? (i := 16) rfl)
theorem nq251 : (Jvm.Cond.fieldLinkNest "LeftAsFound" (242 : Nat) "LeftAsFound$Hut" "there" "I" "LeftAsFound") ∈ ah_nw := List.mem_append_left _ (List.mem_of_getElem? (i := 17) rfl)
theorem nq270 : (Jvm.Cond.arrayOver (Jvm.ClassFile.FieldType.object "LeftAsFound$Hut")) ∈ ah_nw := List.mem_append_left _ (List.mem_of_getElem? (i := 18) rfl)
theorem nq272 : (Jvm.Cond.arrayOver (Jvm.ClassFile.FieldType.object "LeftAsFound$Body")) ∈ ah_nw := List.mem_append_left _ (List.mem_of_getElem? (i := 19) rfl)
theorem nq274 : (Jvm.Cond.arrayOver (Jvm.ClassFile.FieldType.object "java/lang/Object")) ∈ ah_nw := List.mem_append_left _ (List.mem_of_getElem? (i := 20) rfl)
theorem nq276 : (Jvm.Cond.methodLinkNest "LeftAsFound" (143 : Nat) ({ cls := "LeftAsFound$Change", name := "<init>", desc := "()V" } : Jvm.MethodName) "LeftAsFound") ∈ ah_nw := List.mem_append_left _ (List.mem_of_getElem? (i := 21) rfl)
theorem nq280 : (Jvm.Cond.fieldLinkNest "LeftAsFound" (16 : Nat) "LeftAsFound$Change" "of" "LLeftAsFound$Held;" "LeftAsFound") ∈ ah_nw := List.mem_append_left _ (List.mem_of_getElem? (i := 22) rfl)
theorem nq281 : (Jvm.Cond.fieldLinkNest "LeftAsFound" (22 : Nat) "LeftAsFound$Change" "was" "I" "LeftAsFound") ∈ ah_nw := List.mem_append_left _ (List.mem_of_getElem? (i := 23) rfl)
theorem nq282 : (Jvm.Cond.fieldLinkNest "LeftAsFound" (25 : Nat) "LeftAsFound$Change" "is" "I" "LeftAsFound") ∈ ah_nw := List.mem_append_left _ (List.mem_of_getElem? (i := 24) rfl)
theorem nq297 : (Jvm.Cond.fieldLinkNest "LeftAsFound$Hut" (42 : Nat) "LeftAsFound" "guests" "[LLeftAsFound$Guest;" "LeftAsFound") ∈ ah_nw := List.mem_append_left _ (List.mem_of_getElem? (i := 25) rfl)
theorem nq300 : (Jvm.Cond.fieldLinkNest "LeftAsFound$Hut" (57 : Nat) "LeftAsFound" "oughts" "[LLeftAsFound$Held;" "LeftAsFound") ∈ ah_nw := List.mem_append_left _ (List.mem_of_getElem? (i := 26) rfl)
theorem nq302 : (Jvm.Cond.fieldLinkNest "LeftAsFound$Hut" (82 : Nat) "LeftAsFound" "worths" "[LLeftAsFound$Held;" "LeftAsFound") ∈ ah_nw := List.mem_append_left _ (List.mem_of_getElem? (i := 27) rfl)
theorem nq308 : (Jvm.Cond.fieldLinkNest "LeftAsFound$Named" (17 : Nat) "LeftAsFound" "names" "[I" "LeftAsFound") ∈ ah_nw := List.mem_append_left _ (List.mem_of_getElem? (i := 28) rfl)
theorem nq333 : (Jvm.Cond.fieldLinkNest "LeftAsFound$Body" (22 : Nat) "LeftAsFound" "trace" "[I" "LeftAsFound") ∈ ah_nw := List.mem_append_left _ (List.mem_of_getElem? (i := 29) rfl)
theorem nq335 : (Jvm.Cond.fieldLinkNest "LeftAsFound$Body" (19 : Nat) "LeftAsFound" "ran" "I" "LeftAsFound") ∈ ah_nw := List.mem_append_left _ (List.mem_of_getElem? (i := 30) rfl)
theorem nq447 : (Jvm.Cond.methodLinkNest "LeftAsFound$Guest" (20 : Nat) ({ cls := "LeftAsFound", name := "heldAt", desc := "(I)LLeftAsFound$Held;" } : Jvm.MethodName) "LeftAsFound") ∈ ah_nw := List.mem_append_left _ (List.mem_of_getElem? (i := 31) rfl)
theorem nq449 : (Jvm.Cond.fieldLinkNest "LeftAsFound" (212 : Nat) "LeftAsFound$Guest" "takes" "[LLeftAsFound$Held;" "LeftAsFound") ∈ ah_nw := List.mem_append_left _ (List.mem_of_getElem? (i := 32) rfl)
theorem nq451 : (Jvm.Cond.fieldLinkNest "LeftAsFound" (215 : Nat) "LeftAsFound$Guest" "brings" "[LLeftAsFound$Held;" "LeftAsFound") ∈ ah_nw := List.mem_append_left _ (List.mem_of_getElem? (i := 33) rfl)
theorem nq453 : (Jvm.Cond.fieldLinkNest "LeftAsFound" (218 : Nat) "LeftAsFound$Guest" "sees" "LLeftAsFound$Held;" "LeftAsFound") ∈ ah_nw := List.mem_append_left _ (List.mem_of_getElem? (i := 34) rfl)
theorem nq455 : (Jvm.Cond.fieldLinkNest "LeftAsFound$Hut" (46 : Nat) "LeftAsFound$Guest" "believes" "LLeftAsFound$Held;" "LeftAsFound") ∈ ah_nw := List.mem_append_left _ (List.mem_of_getElem? (i := 35) rfl)
theorem nq456 : (Jvm.Cond.fieldLinkNest "LeftAsFound" (221 : Nat) "LeftAsFound$Guest" "believes" "LLeftAsFound$Held;" "LeftAsFound") ∈ ah_nw := List.mem_append_left _ (List.mem_of_getElem? (i := 36) rfl)
theorem nq535 : (Jvm.Cond.methodLinkNest "LeftAsFound" (306 : Nat) ({ cls := "LeftAsFound$Line", name := "<init>", desc := "()V" } : Jvm.MethodName) "LeftAsFound") ∈ ah_nw := List.mem_append_left _ (List.mem_of_getElem? (i := 37) rfl)
theorem nq539 : (Jvm.Cond.fieldLinkNest "LeftAsFound" (311 : Nat) "LeftAsFound$Line" "asked" "LLeftAsFound$Term;" "LeftAsFound") ∈ ah_nw := List.mem_append_left _ (List.mem_of_getElem? (i := 38) rfl)
theorem nq540 : (Jvm.Cond.fieldLinkNest "LeftAsFound" (307 : Nat) "LeftAsFound$Line" "counts" "LLeftAsFound$Term;" "LeftAsFound") ∈ ah_nw := List.mem_append_left _ (List.mem_of_getElem? (i := 39) rfl)
theorem nq541 : (Jvm.Cond.fieldLinkNest "LeftAsFound" (318 : Nat) "LeftAsFound$Line" "next" "LLeftAsFound$Line;" "LeftAsFound") ∈ ah_nw := List.mem_append_left _ (List.mem_of_getElem? (i := 40) rfl)
theorem nq588 : (Jvm.Cond.methodLinkNest "LeftAsFound$Figure" (1 : Nat) ({ cls := "LeftAsFound$Term", name := "<init>", desc := "()V" } : Jvm.MethodName) "LeftAsFound") ∈ ah_nw := List.mem_append_left _ (List.mem_of_getElem? (i := 41) rfl)
theorem nq604 : (Jvm.Cond.methodLinkNest "LeftAsFound$Named" (7 : Nat) ({ cls := "LeftAsFound$Term", name := "<init>", desc := "()V" } : Jvm.MethodName) "LeftAsFound") ∈ ah_nw := List.mem_append_left _ (List.mem_of_getElem? (i := 42) rfl)
theorem nq617 : (Jvm.Cond.methodLinkNest "LeftAsFound$Signed" (1 : Nat) ({ cls := "LeftAsFound$Term", name := "<init>", desc := "()V" } : Jvm.MethodName) "LeftAsFound") ∈ ah_nw := List.mem_append_left _ (List.mem_of_getElem? (i := 43) rfl)
theorem nq638 : (Jvm.Cond.methodLinkNest "LeftAsFound$Both" (1 : Nat) ({ cls := "LeftAsFound$Term", name := "<init>", desc := "()V" } : Jvm.MethodName) "LeftAsFound") ∈ ah_nw := List.mem_append_left _ (List.mem_of_getElem? (i := 44) rfl)
theorem nq679 : (Jvm.Cond.methodLinkNest "LeftAsFound$Hut" (61 : Nat) ({ cls := "LeftAsFound", name := "isIn", desc := "(II)Z" } : Jvm.MethodName) "LeftAsFound") ∈ ah_nw := List.mem_append_left _ (List.mem_of_getElem? (i := 45) rfl)
theorem nq684 : (Jvm.Cond.methodLinkNest "LeftAsFound$Hut" (69 : Nat) ({ cls := "LeftAsFound", name := "leftBy", desc := "(LLeftAsFound$Guest;III)I" } : Jvm.MethodName) "LeftAsFound") ∈ ah_nw := List.mem_append_left _ (List.mem_of_getElem? (i := 46) rfl)
theorem nq693 : (Jvm.Cond.declares ({ cls := "LeftAsFound$Term", name := "value", desc := "()I" } : Jvm.MethodName)) ∈ ah_nw := List.mem_append_left _ (List.mem_of_getElem? (i := 47) rfl)
theorem nq706 : (Jvm.Cond.methodLinkNest "LeftAsFound$Signed" (21 : Nat) ({ cls := "LeftAsFound", name := "bit", desc := "(Z)I" } : Jvm.MethodName) "LeftAsFound") ∈ ah_nw := List.mem_append_left _ (List.mem_of_getElem? (i := 48) rfl)
theorem nq709 : (Jvm.Cond.methodLinkNest "LeftAsFound$Both" (24 : Nat) ({ cls := "LeftAsFound", name := "bit", desc := "(Z)I" } : Jvm.MethodName) "LeftAsFound") ∈ ah_nw := List.mem_append_left _ (List.mem_of_getElem? (i := 49) rfl)
theorem nq976 : (Jvm.Cond.declares ({ cls := "LeftAsFound$Comes", name := "comes", desc := "(I)I" } : Jvm.MethodName)) ∈ ah_nw := List.mem_append_left _ (List.mem_of_getElem? (i := 50) rfl)
theorem nq982 : (Jvm.Cond.declares ({ cls := "LeftAsFound$Body", name := "begins", desc := "(I)V" } : Jvm.MethodName)) ∈ ah_nw := List.mem_append_left _ (List.mem_of_getElem? (i := 51) rfl)
theorem nq991 : (Jvm.Cond.interfaceMethod "LeftAsFound$Comes" "LeftAsFound$Comes" "begins" "(I)V") ∈ ah_nw := List.mem_append_left _ (List.mem_of_getElem? (i := 52) rfl)
theorem nq992 : (Jvm.Cond.declares ({ cls := "LeftAsFound$Comes", name := "begins", desc := "(I)V" } : Jvm.MethodName)) ∈ ah_nw := List.mem_append_left _ (List.mem_of_getElem? (i := 53) rfl)
theorem nq993 : (Jvm.Cond.castable "LeftAsFound$BareStay" "LeftAsFound$Comes") ∈ ah_nw := List.mem_append_left _ (List.mem_of_getElem? (i := 54) rfl)
theorem nq995 : (Jvm.Cond.unhidden "LeftAsFound$BareStay" "begins" "(I)V") ∈ ah_nw := List.mem_append_left _ (List.mem_of_getElem? (i := 55) rfl)
theorem nq996 : (Jvm.Cond.publicMethod ({ cls := "LeftAsFound$Body", name := "begins", desc := "(I)V" } : Jvm.MethodName)) ∈ ah_nw := List.mem_append_left _ (List.mem_of_getElem? (i := 56) rfl)
theorem nq997 : (Jvm.Cond.castable "LeftAsFound$Body" "LeftAsFound$Comes") ∈ ah_nw := List.mem_append_left _ (List.mem_of_getElem? (i := 57) rfl)
theorem nq999 : (Jvm.Cond.unhidden "LeftAsFound$Body" "begins" "(I)V") ∈ ah_nw := List.mem_append_left _ (List.mem_of_getElem? (i := 58) rfl)
theorem nq1000 : (Jvm.Cond.castable "LeftAsFound$BroughtStay" "LeftAsFound$Comes") ∈ ah_nw := List.mem_append_left _ (List.mem_of_getElem? (i := 59) rfl)
theorem nq1002 : (Jvm.Cond.unhidden "LeftAsFound$BroughtStay" "begins" "(I)V") ∈ ah_nw := List.mem_append_left _ (List.mem_of_getElem? (i := 60) rfl)
theorem nq1003 : (Jvm.Cond.castable "LeftAsFound$FoundStay" "LeftAsFound$Comes") ∈ ah_nw := List.mem_append_left _ (List.mem_of_getElem? (i := 61) rfl)
theorem nq1005 : (Jvm.Cond.unhidden "LeftAsFound$FoundStay" "begins" "(I)V") ∈ ah_nw := List.mem_append_left _ (List.mem_of_getElem? (i := 62) rfl)
theorem nq1006 : (Jvm.Cond.castable "LeftAsFound$MouseStay" "LeftAsFound$Comes") ∈ ah_nw := List.mem_append_left _ (List.mem_of_getElem? (i := 63) rfl)
theorem nq1008 : (Jvm.Cond.unhidden "LeftAsFound$MouseStay" "begins" "(I)V") ∈ ah_nw := List.mem_append_left _ (List.mem_of_getElem? (i := 64) rfl)
theorem nq1009 : (Jvm.Cond.castable "LeftAsFound$SeenStay" "LeftAsFound$Comes") ∈ ah_nw := List.mem_append_left _ (List.mem_of_getElem? (i := 65) rfl)
theorem nq1011 : (Jvm.Cond.unhidden "LeftAsFound$SeenStay" "begins" "(I)V") ∈ ah_nw := List.mem_append_left _ (List.mem_of_getElem? (i := 66) rfl)
theorem nq1012 : (Jvm.Cond.castable "LeftAsFound$TakenStay" "LeftAsFound$Comes") ∈ ah_nw := List.mem_append_left _ (List.mem_of_getElem? (i := 67) rfl)
theorem nq1014 : (Jvm.Cond.unhidden "LeftAsFound$TakenStay" "begins" "(I)V") ∈ ah_nw := List.mem_append_left _ (List.mem_of_getElem? (i := 68) rfl)
theorem nq1015 : (Jvm.Cond.castable "LeftAsFound$WrittenStay" "LeftAsFound$Comes") ∈ ah_nw := List.mem_append_left _ (List.mem_of_getElem? (i := 69) rfl)
theorem nq1017 : (Jvm.Cond.unhidden "LeftAsFound$WrittenStay" "begins" "(I)V") ∈ ah_nw := List.mem_append_left _ (List.mem_of_getElem? (i := 70) rfl)
theorem nq1020 : (Jvm.Cond.interfaceMethod "LeftAsFound$Comes" "LeftAsFound$Comes" "number" "()I") ∈ ah_nw := List.mem_append_left _ (List.mem_of_getElem? (i := 71) rfl)
theorem nq1021 : (Jvm.Cond.declares ({ cls := "LeftAsFound$Comes", name := "number", desc := "()I" } : Jvm.MethodName)) ∈ ah_nw := List.mem_append_left _ (List.mem_of_getElem? (i := 72) rfl)
theorem nq1023 : (Jvm.Cond.unhidden "LeftAsFound$BareStay" "number" "()I") ∈ ah_nw := List.mem_append_left _ (List.mem_of_getElem? (i := 73) rfl)
theorem nq1025 : (Jvm.Cond.publicMethod ({ cls := "LeftAsFound$Body", name := "number", desc := "()I" } : Jvm.MethodName)) ∈ ah_nw := List.mem_append_left _ (List.mem_of_getElem? (i := 74) rfl)
theorem nq1028 : (Jvm.Cond.unhidden "LeftAsFound$Body" "number" "()I") ∈ ah_nw := List.mem_append_left _ (List.mem_of_getElem? (i := 75) rfl)
theorem nq1030 : (Jvm.Cond.unhidden "LeftAsFound$BroughtStay" "number" "()I") ∈ ah_nw := List.mem_append_left _ (List.mem_of_getElem? (i := 76) rfl)
theorem nq1032 : (Jvm.Cond.unhidden "LeftAsFound$FoundStay" "number" "()I") ∈ ah_nw := List.mem_append_left _ (List.mem_of_getElem? (i := 77) rfl)
theorem nq1034 : (Jvm.Cond.unhidden "LeftAsFound$MouseStay" "number" "()I") ∈ ah_nw := List.mem_append_left _ (List.mem_of_getElem? (i := 78) rfl)
theorem nq1036 : (Jvm.Cond.unhidden "LeftAsFound$SeenStay" "number" "()I") ∈ ah_nw := List.mem_append_left _ (List.mem_of_getElem? (i := 79) rfl)
theorem nq1038 : (Jvm.Cond.unhidden "LeftAsFound$TakenStay" "number" "()I") ∈ ah_nw := List.mem_append_left _ (List.mem_of_getElem? (i := 80) rfl)
theorem nq1040 : (Jvm.Cond.unhidden "LeftAsFound$WrittenStay" "number" "()I") ∈ ah_nw := List.mem_append_left _ (List.mem_of_getElem? (i := 81) rfl)
theorem nq1041 : (Jvm.Cond.unhidden "LeftAsFound$Body" "comes" "(I)I") ∈ ah_nw := List.mem_append_left _ (List.mem_of_getElem? (i := 82) rfl)
theorem nq1042 : (Jvm.Cond.unhidden "LeftAsFound$BroughtStay" "comes" "(I)I") ∈ ah_nw := List.mem_append_left _ (List.mem_of_getElem? (i := 83) rfl)
theorem nq1058 : (Jvm.Cond.unhidden "LeftAsFound$TakenStay" "comes" "(I)I") ∈ ah_nw := List.mem_append_left _ (List.mem_of_getElem? (i := 84) rfl)
theorem nq1059 : (Jvm.Cond.unhidden "LeftAsFound$WrittenStay" "comes" "(I)I") ∈ ah_nw := List.mem_append_left _ (List.mem_of_getElem? (i := 85) rfl)
theorem nq1060 : (Jvm.Cond.publicMethod ({ cls := "LeftAsFound$Comes", name := "comes", desc := "(I)I" } : Jvm.MethodName)) ∈ ah_nw := List.mem_append_left _ (List.mem_of_getElem? (i := 86) rfl)
theorem nq1088 : (Jvm.Cond.declares ({ cls := "LeftAsFound$Body", name := "leaves", desc := "(I)I" } : Jvm.MethodName)) ∈ ah_nw := List.mem_append_left _ (List.mem_of_getElem? (i := 87) rfl)
theorem nq1091 : (Jvm.Cond.declares ({ cls := "LeftAsFound$Body", name := "sees", desc := "(I)I" } : Jvm.MethodName)) ∈ ah_nw := List.mem_append_left _ (List.mem_of_getElem? (i := 88) rfl)
theorem nq1111 : (Jvm.Cond.declares ({ cls := "LeftAsFound$Tells", name := "tells", desc := "(I)I" } : Jvm.MethodName)) ∈ ah_nw := List.mem_append_left _ (List.mem_of_getElem? (i := 89) rfl)
theorem nq1112 : (Jvm.Cond.unhidden "LeftAsFound$BareStay" "tells" "(I)I") ∈ ah_nw := List.mem_append_left _ (List.mem_of_getElem? (i := 90) rfl)
theorem nq1113 : (Jvm.Cond.unhidden "LeftAsFound$Body" "tells" "(I)I") ∈ ah_nw := List.mem_append_left _ (List.mem_of_getElem? (i := 91) rfl)
theorem nq1114 : (Jvm.Cond.unhidden "LeftAsFound$BroughtStay" "tells" "(I)I") ∈ ah_nw := List.mem_append_left _ (List.mem_of_getElem? (i := 92) rfl)
theorem nq1115 : (Jvm.Cond.unhidden "LeftAsFound$FoundStay" "tells" "(I)I") ∈ ah_nw := List.mem_append_left _ (List.mem_of_getElem? (i := 93) rfl)
theorem nq1116 : (Jvm.Cond.unhidden "LeftAsFound$MouseStay" "tells" "(I)I") ∈ ah_nw := List.mem_append_left _ (List.mem_of_getElem? (i := 94) rfl)
theorem nq1127 : (Jvm.Cond.interfaceMethod "LeftAsFound$Tells" "LeftAsFound$Tells" "begins" "(I)V") ∈ ah_nw := List.mem_append_left _ (List.mem_of_getElem? (i := 95) rfl)
theorem nq1128 : (Jvm.Cond.declares ({ cls := "LeftAsFound$Tells", name := "begins", desc := "(I)V" } : Jvm.MethodName)) ∈ ah_nw := List.mem_append_left _ (List.mem_of_getElem? (i := 96) rfl)
theorem nq1129 : (Jvm.Cond.castable "LeftAsFound$BareStay" "LeftAsFound$Tells") ∈ ah_nw := List.mem_append_left _ (List.mem_of_getElem? (i := 97) rfl)
theorem nq1131 : (Jvm.Cond.castable "LeftAsFound$Body" "LeftAsFound$Tells") ∈ ah_nw := List.mem_append_left _ (List.mem_of_getElem? (i := 98) rfl)
theorem nq1133 : (Jvm.Cond.castable "LeftAsFound$BroughtStay" "LeftAsFound$Tells") ∈ ah_nw := List.mem_append_left _ (List.mem_of_getElem? (i := 99) rfl)
theorem nq1135 : (Jvm.Cond.castable "LeftAsFound$FoundStay" "LeftAsFound$Tells") ∈ ah_nw := List.mem_append_left _ (List.mem_of_getElem? (i := 100) rfl)
theorem nq1137 : (Jvm.Cond.castable "LeftAsFound$MouseStay" "LeftAsFound$Tells") ∈ ah_nw := List.mem_append_left _ (List.mem_of_getElem? (i := 101) rfl)
theorem nq1139 : (Jvm.Cond.castable "LeftAsFound$SeenStay" "LeftAsFound$Tells") ∈ ah_nw := List.mem_append_left _ (List.mem_of_getElem? (i := 102) rfl)
theorem nq1141 : (Jvm.Cond.castable "LeftAsFound$TakenStay" "LeftAsFound$Tells") ∈ ah_nw := List.mem_append_left _ (List.mem_of_getElem? (i := 103) rfl)
theorem nq1143 : (Jvm.Cond.castable "LeftAsFound$WrittenStay" "LeftAsFound$Tells") ∈ ah_nw := List.mem_append_left _ (List.mem_of_getElem? (i := 104) rfl)
theorem nq1147 : (Jvm.Cond.interfaceMethod "LeftAsFound$Tells" "LeftAsFound$Tells" "leaves" "(I)I") ∈ ah_nw := List.mem_append_left _ (List.mem_of_getElem? (i := 105) rfl)
theorem nq1148 : (Jvm.Cond.declares ({ cls := "LeftAsFound$Tells", name := "leaves", desc := "(I)I" } : Jvm.MethodName)) ∈ ah_nw := List.mem_append_left _ (List.mem_of_getElem? (i := 106) rfl)
theorem nq1150 : (Jvm.Cond.unhidden "LeftAsFound$BareStay" "leaves" "(I)I") ∈ ah_nw := List.mem_append_left _ (List.mem_of_getElem? (i := 107) rfl)
theorem nq1151 : (Jvm.Cond.publicMethod ({ cls := "LeftAsFound$Body", name := "leaves", desc := "(I)I" } : Jvm.MethodName)) ∈ ah_nw := List.mem_append_left _ (List.mem_of_getElem? (i := 108) rfl)
theorem nq1153 : (Jvm.Cond.unhidden "LeftAsFound$Body" "leaves" "(I)I") ∈ ah_nw := List.mem_append_left _ (List.mem_of_getElem? (i := 109) rfl)
theorem nq1155 : (Jvm.Cond.unhidden "LeftAsFound$BroughtStay" "leaves" "(I)I") ∈ ah_nw := List.mem_append_left _ (List.mem_of_getElem? (i := 110) rfl)
theorem nq1156 : (Jvm.Cond.publicMethod ({ cls := "LeftAsFound$BroughtStay", name := "leaves", desc := "(I)I" } : Jvm.MethodName)) ∈ ah_nw := List.mem_append_left _ (List.mem_of_getElem? (i := 111) rfl)
theorem nq1158 : (Jvm.Cond.unhidden "LeftAsFound$FoundStay" "leaves" "(I)I") ∈ ah_nw := List.mem_append_left _ (List.mem_of_getElem? (i := 112) rfl)
theorem nq1160 : (Jvm.Cond.unhidden "LeftAsFound$MouseStay" "leaves" "(I)I") ∈ ah_nw := List.mem_append_left _ (List.mem_of_getElem? (i := 113) rfl)
theorem nq1161 : (Jvm.Cond.publicMethod ({ cls := "LeftAsFound$MouseStay", name := "leaves", desc := "(I)I" } : Jvm.MethodName)) ∈ ah_nw := List.mem_append_left _ (List.mem_of_getElem? (i := 114) rfl)
theorem nq1163 : (Jvm.Cond.unhidden "LeftAsFound$SeenStay" "leaves" "(I)I") ∈ ah_nw := List.mem_append_left _ (List.mem_of_getElem? (i := 115) rfl)
theorem nq1165 : (Jvm.Cond.unhidden "LeftAsFound$TakenStay" "leaves" "(I)I") ∈ ah_nw := List.mem_append_left _ (List.mem_of_getElem? (i := 116) rfl)
theorem nq1166 : (Jvm.Cond.publicMethod ({ cls := "LeftAsFound$TakenStay", name := "leaves", desc := "(I)I" } : Jvm.MethodName)) ∈ ah_nw := List.mem_append_left _ (List.mem_of_getElem? (i := 117) rfl)
theorem nq1168 : (Jvm.Cond.unhidden "LeftAsFound$WrittenStay" "leaves" "(I)I") ∈ ah_nw := List.mem_append_left _ (List.mem_of_getElem? (i := 118) rfl)
theorem nq1171 : (Jvm.Cond.interfaceMethod "LeftAsFound$Tells" "LeftAsFound$Tells" "sees" "(I)I") ∈ ah_nw := List.mem_append_left _ (List.mem_of_getElem? (i := 119) rfl)
theorem nq1172 : (Jvm.Cond.declares ({ cls := "LeftAsFound$Tells", name := "sees", desc := "(I)I" } : Jvm.MethodName)) ∈ ah_nw := List.mem_append_left _ (List.mem_of_getElem? (i := 120) rfl)
theorem nq1174 : (Jvm.Cond.unhidden "LeftAsFound$BareStay" "sees" "(I)I") ∈ ah_nw := List.mem_append_left _ (List.mem_of_getElem? (i := 121) rfl)
theorem nq1175 : (Jvm.Cond.publicMethod ({ cls := "LeftAsFound$Body", name := "sees", desc := "(I)I" } : Jvm.MethodName)) ∈ ah_nw := List.mem_append_left _ (List.mem_of_getElem? (i := 122) rfl)
theorem nq1177 : (Jvm.Cond.unhidden "LeftAsFound$Body" "sees" "(I)I") ∈ ah_nw := List.mem_append_left _ (List.mem_of_getElem? (i := 123) rfl)
theorem nq1179 : (Jvm.Cond.unhidden "LeftAsFound$BroughtStay" "sees" "(I)I") ∈ ah_nw := List.mem_append_left _ (List.mem_of_getElem? (i := 124) rfl)
theorem nq1180 : (Jvm.Cond.publicMethod ({ cls := "LeftAsFound$BroughtStay", name := "sees", desc := "(I)I" } : Jvm.MethodName)) ∈ ah_nw := List.mem_append_left _ (List.mem_of_getElem? (i := 125) rfl)
theorem nq1182 : (Jvm.Cond.unhidden "LeftAsFound$FoundStay" "sees" "(I)I") ∈ ah_nw := List.mem_append_left _ (List.mem_of_getElem? (i := 126) rfl)
theorem nq1184 : (Jvm.Cond.unhidden "LeftAsFound$MouseStay" "sees" "(I)I") ∈ ah_nw := List.mem_append_left _ (List.mem_of_getElem? (i := 127) rfl)
theorem nq1186 : (Jvm.Cond.unhidden "LeftAsFound$SeenStay" "sees" "(I)I") ∈ ah_nw := List.mem_append_left _ (List.mem_of_getElem? (i := 128) rfl)
theorem nq1188 : (Jvm.Cond.unhidden "LeftAsFound$TakenStay" "sees" "(I)I") ∈ ah_nw := List.mem_append_left _ (List.mem_of_getElem? (i := 129) rfl)
theorem nq1190 : (Jvm.Cond.unhidden "LeftAsFound$WrittenStay" "sees" "(I)I") ∈ ah_nw := List.mem_append_left _ (List.mem_of_getElem? (i := 130) rfl)
theorem nq1191 : (Jvm.Cond.publicMethod ({ cls := "LeftAsFound$WrittenStay", name := "sees", desc := "(I)I" } : Jvm.MethodName)) ∈ ah_nw := List.mem_append_left _ (List.mem_of_getElem? (i := 131) rfl)
theorem nq1192 : (Jvm.Cond.unhidden "LeftAsFound$TakenStay" "tells" "(I)I") ∈ ah_nw := List.mem_append_left _ (List.mem_of_getElem? (i := 132) rfl)
theorem nq1196 : (Jvm.Cond.publicMethod ({ cls := "LeftAsFound$Tells", name := "tells", desc := "(I)I" } : Jvm.MethodName)) ∈ ah_nw := List.mem_append_left _ (List.mem_of_getElem? (i := 133) rfl)
theorem nq1932 : (Jvm.Cond.castable "LeftAsFound$BareStay" "LeftAsFound$Body") ∈ ah_nw := List.mem_append_left _ (List.mem_of_getElem? (i := 134) rfl)
theorem nq1933 : (Jvm.Cond.castable "LeftAsFound$BroughtStay" "LeftAsFound$Body") ∈ ah_nw := List.mem_append_left _ (List.mem_of_getElem? (i := 135) rfl)
theorem nq1934 : (Jvm.Cond.castable "LeftAsFound$FoundStay" "LeftAsFound$Body") ∈ ah_nw := List.mem_append_left _ (List.mem_of_getElem? (i := 136) rfl)
theorem nq1935 : (Jvm.Cond.castable "LeftAsFound$MouseStay" "LeftAsFound$Body") ∈ ah_nw := List.mem_append_left _ (List.mem_of_getElem? (i := 137) rfl)
theorem nq1936 : (Jvm.Cond.castable "LeftAsFound$SeenStay" "LeftAsFound$Body") ∈ ah_nw := List.mem_append_left _ (List.mem_of_getElem? (i := 138) rfl)
theorem nq1937 : (Jvm.Cond.castable "LeftAsFound$TakenStay" "LeftAsFound$Body") ∈ ah_nw := List.mem_append_left _ (List.mem_of_getElem? (i := 139) rfl)
theorem nq1938 : (Jvm.Cond.castable "LeftAsFound$WrittenStay" "LeftAsFound$Body") ∈ ah_nw := List.mem_append_left _ (List.mem_of_getElem? (i := 140) rfl)
theorem nq1939 : (Jvm.Cond.castable "LeftAsFound" "java/lang/Object") ∈ ah_nw := List.mem_append_left _ (List.mem_of_getElem? (i := 141) rfl)
theorem nq1940 : (Jvm.Cond.castable "LeftAsFound$Fault" "java/lang/Object") ∈ ah_nw := List.mem_append_left _ (List.mem_of_getElem? (i := 142) rfl)
theorem nq1941 : (Jvm.Cond.castable "LeftAsFound$Held" "java/lang/Object") ∈ ah_nw := List.mem_append_left _ (List.mem_of_getElem? (i := 143) rfl)
theorem nq1942 : (Jvm.Cond.castable "LeftAsFound$Torn" "java/lang/Object") ∈ ah_nw := List.mem_append_left _ (List.mem_of_getElem? (i := 144) rfl)
theorem nq1943 : (Jvm.Cond.castable "LeftAsFound$Hut" "java/lang/Object") ∈ ah_nw := List.mem_append_left _ (List.mem_of_getElem? (i := 145) rfl)
theorem nq1944 : (Jvm.Cond.castable "LeftAsFound$Change" "java/lang/Object") ∈ ah_nw := List.mem_append_left _ (List.mem_of_getElem? (i := 146) rfl)
theorem nq1945 : (Jvm.Cond.castable "LeftAsFoundModel" "java/lang/Object") ∈ ah_nw := List.mem_append_left _ (List.mem_of_getElem? (i := 147) rfl)
theorem nq1946 : (Jvm.Cond.castable "LeftAsFound$Guest" "java/lang/Object") ∈ ah_nw := List.mem_append_left _ (List.mem_of_getElem? (i := 148) rfl)
theorem nq1947 : (Jvm.Cond.castable "LeftAsFound$Line" "java/lang/Object") ∈ ah_nw := List.mem_append_left _ (List.mem_of_getElem? (i := 149) rfl)
theorem nq1948 : (Jvm.Cond.castable "LeftAsFound$Figure" "java/lang/Object") ∈ ah_nw := List.mem_append_left _ (List.mem_of_getElem? (i := 150) rfl)
theorem nq1949 : (Jvm.Cond.castable "LeftAsFound$Named" "java/lang/Object") ∈ ah_nw := List.mem_append_left _ (List.mem_of_getElem? (i := 151) rfl)
theorem nq1950 : (Jvm.Cond.castable "LeftAsFound$Signed" "java/lang/Object") ∈ ah_nw := List.mem_append_left _ (List.mem_of_getElem? (i := 152) rfl)
theorem nq1951 : (Jvm.Cond.castable "LeftAsFound$Both" "java/lang/Object") ∈ ah_nw := List.mem_append_left _ (List.mem_of_getElem? (i := 153) rfl)
theorem nq1952 : (Jvm.Cond.castable "LeftAsFound$FoundStay" "java/lang/Object") ∈ ah_nw := List.mem_append_left _ (List.mem_of_getElem? (i := 154) rfl)
theorem nq1953 : (Jvm.Cond.castable "LeftAsFound$TakenStay" "java/lang/Object") ∈ ah_nw := List.mem_append_left _ (List.mem_of_getElem? (i := 155) rfl)
theorem nq1954 : (Jvm.Cond.castable "LeftAsFound$BroughtStay" "java/lang/Object") ∈ ah_nw := List.mem_append_left _ (List.mem_of_getElem? (i := 156) rfl)
theorem nq1955 : (Jvm.Cond.castable "LeftAsFound$SeenStay" "java/lang/Object") ∈ ah_nw := List.mem_append_left _ (List.mem_of_getElem? (i := 157) rfl)
theorem nq1956 : (Jvm.Cond.castable "LeftAsFound$WrittenStay" "java/lang/Object") ∈ ah_nw := List.mem_append_left _ (List.mem_of_getElem? (i := 158) rfl)
theorem nq1957 : (Jvm.Cond.castable "LeftAsFound$BareStay" "java/lang/Object") ∈ ah_nw := List.mem_append_left _ (List.mem_of_getElem? (i := 159) rfl)
theorem nq1958 : (Jvm.Cond.castable "LeftAsFound$MouseStay" "java/lang/Object") ∈ ah_nw := List.mem_append_left _ (List.mem_of_getElem? (i := 160) rfl)
theorem nq1959 : (Jvm.Cond.castable "LeftAsFound$Body" "java/lang/Object") ∈ ah_nw := List.mem_append_left _ (List.mem_of_getElem? (i := 161) rfl)
theorem nq1960 : (Jvm.Cond.castable "java/lang/Throwable" "java/lang/Object") ∈ ah_nw := List.mem_append_left _ (List.mem_of_getElem? (i := 162) rfl)
theorem nq1961 : (Jvm.Cond.castable "[LLeftAsFound$Change;" "java/lang/Object") ∈ ah_nw := List.mem_append_left _ (List.mem_of_getElem? (i := 163) rfl)
theorem nq1962 : (Jvm.Cond.castable "[I" "java/lang/Object") ∈ ah_nw := List.mem_append_left _ (List.mem_of_getElem? (i := 164) rfl)
theorem nq1963 : (Jvm.Cond.castable "[LLeftAsFound$Guest;" "java/lang/Object") ∈ ah_nw := List.mem_append_left _ (List.mem_of_getElem? (i := 165) rfl)
theorem nq1964 : (Jvm.Cond.castable "[LLeftAsFound$Held;" "java/lang/Object") ∈ ah_nw := List.mem_append_left _ (List.mem_of_getElem? (i := 166) rfl)
theorem nq1965 : (Jvm.Cond.castable "[LLeftAsFound$Hut;" "java/lang/Object") ∈ ah_nw := List.mem_append_left _ (List.mem_of_getElem? (i := 167) rfl)
theorem nq1966 : (Jvm.Cond.castable "[LLeftAsFound$Body;" "java/lang/Object") ∈ ah_nw := List.mem_append_left _ (List.mem_of_getElem? (i := 168) rfl)
theorem nq1967 : (Jvm.Cond.castable "[Ljava/lang/Object;" "java/lang/Object") ∈ ah_nw := List.mem_append_left _ (List.mem_of_getElem? (i := 169) rfl)
theorem nq1968 : (Jvm.Cond.castable "[B" "java/lang/Object") ∈ ah_nw := List.mem_append_left _ (List.mem_of_getElem? (i := 170) rfl)
theorem nq1969 : (Jvm.Cond.castable "[S" "java/lang/Object") ∈ ah_nw := List.mem_append_left _ (List.mem_of_getElem? (i := 171) rfl)
theorem nq1970 : (Jvm.Cond.castable "[J" "java/lang/Object") ∈ ah_nw := List.mem_append_left _ (List.mem_of_getElem? (i := 172) rfl)
theorem nq1971 : (Jvm.Cond.castable "[Z" "java/lang/Object") ∈ ah_nw := List.mem_append_left _ (List.mem_of_getElem? (i := 173) rfl)
theorem nd_0 : (Jvm.Cond.methodLink "LeftAsFound" (483 : Nat) ({ cls := "LeftAsFound$Body", name := "comes", desc := "(I)I" } : Jvm.MethodName)) ∈ ah_nw := List.mem_append_right _ (List.mem_of_getElem? (i := 0) rfl)
theorem nd_1 : (Jvm.Cond.sameMethod "LeftAsFound$Body" "LeftAsFound$Comes" "comes" "(I)I") ∈ ah_nw := List.mem_append_right _ (List.mem_of_getElem? (i := 1) rfl)
theorem nd_2 : (Jvm.Cond.methodLink "LeftAsFound$BareStay" (23 : Nat) ({ cls := "LeftAsFound$Body", name := "comes", desc := "(I)I" } : Jvm.MethodName)) ∈ ah_nw := List.mem_append_right _ (List.mem_of_getElem? (i := 2) rfl)
theorem nd_3 : (Jvm.Cond.methodLink "LeftAsFound$FoundStay" (23 : Nat) ({ cls := "LeftAsFound$Body", name := "comes", desc := "(I)I" } : Jvm.MethodName)) ∈ ah_nw := List.mem_append_right _ (List.mem_of_getElem? (i := 3) rfl)
theorem nd_4 : (Jvm.Cond.methodLink "LeftAsFound$Body" (30 : Nat) ({ cls := "LeftAsFound$Body", name := "comes", desc := "(I)I" } : Jvm.MethodName)) ∈ ah_nw := List.mem_append_right _ (List.mem_of_getElem? (i := 4) rfl)
theorem nd_5 : (Jvm.Cond.methodLink "LeftAsFound$WrittenStay" (27 : Nat) ({ cls := "LeftAsFound$WrittenStay", name := "comes", desc := "(I)I" } : Jvm.MethodName)) ∈ ah_nw := List.mem_append_right _ (List.mem_of_getElem? (i := 5) rfl)
theorem nd_6 : (Jvm.Cond.sameMethod "LeftAsFound$WrittenStay" "LeftAsFound$Comes" "comes" "(I)I") ∈ ah_nw := List.mem_append_right _ (List.mem_of_getElem? (i := 6) rfl)
theorem nd_7 : (Jvm.Cond.methodLink "LeftAsFound" (490 : Nat) ({ cls := "LeftAsFound$Body", name := "tells", desc := "(I)I" } : Jvm.MethodName)) ∈ ah_nw := List.mem_append_right _ (List.mem_of_getElem? (i := 7) rfl)
theorem nd_8 : (Jvm.Cond.sameMethod "LeftAsFound$Body" "LeftAsFound$Tells" "tells" "(I)I") ∈ ah_nw := List.mem_append_right _ (List.mem_of_getElem? (i := 8) rfl)
theorem nd_9 : (Jvm.Cond.methodLink "LeftAsFound$SeenStay" (23 : Nat) ({ cls := "LeftAsFound$FoundStay", name := "tells", desc := "(I)I" } : Jvm.MethodName)) ∈ ah_nw := List.mem_append_right _ (List.mem_of_getElem? (i := 9) rfl)
theorem nd_10 : (Jvm.Cond.sameMethod "LeftAsFound$FoundStay" "LeftAsFound$Tells" "tells" "(I)I") ∈ ah_nw := List.mem_append_right _ (List.mem_of_getElem? (i := 10) rfl)
theorem nd_11 : (Jvm.Cond.methodLink "LeftAsFound$WrittenStay" (30 : Nat) ({ cls := "LeftAsFound$BroughtStay", name := "tells", desc := "(I)I" } : Jvm.MethodName)) ∈ ah_nw := List.mem_append_right _ (List.mem_of_getElem? (i := 11) rfl)
theorem nd_12 : (Jvm.Cond.sameMethod "LeftAsFound$BroughtStay" "LeftAsFound$Tells" "tells" "(I)I") ∈ ah_nw := List.mem_append_right _ (List.mem_of_getElem? (i := 12) rfl)
theorem nd_13 : (Jvm.Cond.landsInDefault "LeftAsFound$Body" ({ cls := "LeftAsFound$Body", name := "comes", desc := "(I)I" } : Jvm.MethodName) ({ cls := "LeftAsFound$Comes", name := "comes", desc := "(I)I" } : Jvm.MethodName)) ∈ ah_nw := List.mem_append_right _ (List.mem_of_getElem? (i := 13) rfl)
theorem nd_14 : (Jvm.Cond.landsInDefault "LeftAsFound$BroughtStay" ({ cls := "LeftAsFound$Body", name := "comes", desc := "(I)I" } : Jvm.MethodName) ({ cls := "LeftAsFound$Comes", name := "comes", desc := "(I)I" } : Jvm.MethodName)) ∈ ah_nw := List.mem_append_right _ (List.mem_of_getElem? (i := 14) rfl)
theorem nd_15 : (Jvm.Cond.landsInDefault "LeftAsFound$TakenStay" ({ cls := "LeftAsFound$Body", name := "comes", desc := "(I)I" } : Jvm.MethodName) ({ cls := "LeftAsFound$Comes", name := "comes", desc := "(I)I" } : Jvm.MethodName)) ∈ ah_nw := List.mem_append_right _ (List.mem_of_getElem? (i := 15) rfl)
theorem nd_16 : (Jvm.Cond.landsInDefault "LeftAsFound$WrittenStay" ({ cls := "LeftAsFound$Body", name := "comes", desc := "(I)I" } : Jvm.MethodName) ({ cls := "LeftAsFound$Comes", name := "comes", desc := "(I)I" } : Jvm.MethodName)) ∈ ah_nw := List.mem_append_right _ (List.mem_of_getElem? (i := 16) rfl)
theorem nd_17 : (Jvm.Cond.landsInDefault "LeftAsFound$WrittenStay" ({ cls := "LeftAsFound$WrittenStay", name := "comes", desc := "(I)I" } : Jvm.MethodName) ({ cls := "LeftAsFound$Comes", name := "comes", desc := "(I)I" } : Jvm.MethodName)) ∈ ah_nw := List.mem_append_right _ (List.mem_of_getElem? (i := 17) rfl)
theorem nd_18 : (Jvm.Cond.landsInDefault "LeftAsFound$BareStay" ({ cls := "LeftAsFound$Body", name := "tells", desc := "(I)I" } : Jvm.MethodName) ({ cls := "LeftAsFound$Tells", name := "tells", desc := "(I)I" } : Jvm.MethodName)) ∈ ah_nw := List.mem_append_right _ (List.mem_of_getElem? (i := 18) rfl)
theorem nd_19 : (Jvm.Cond.landsInDefault "LeftAsFound$Body" ({ cls := "LeftAsFound$Body", name := "tells", desc := "(I)I" } : Jvm.MethodName) ({ cls := "LeftAsFound$Tells", name := "tells", desc := "(I)I" } : Jvm.MethodName)) ∈ ah_nw := List.mem_append_right _ (List.mem_of_getElem? (i := 19) rfl)
theorem nd_20 : (Jvm.Cond.landsInDefault "LeftAsFound$BroughtStay" ({ cls := "LeftAsFound$Body", name := "tells", desc := "(I)I" } : Jvm.MethodName) ({ cls := "LeftAsFound$Tells", name := "tells", desc := "(I)I" } : Jvm.MethodName)) ∈ ah_nw := List.mem_append_right _ (List.mem_of_getElem? (i := 20) rfl)
theorem nd_21 : (Jvm.Cond.landsInDefault "LeftAsFound$FoundStay" ({ cls := "LeftAsFound$Body", name := "tells", desc := "(I)I" } : Jvm.MethodName) ({ cls := "LeftAsFound$Tells", name := "tells", desc := "(I)I" } : Jvm.MethodName)) ∈ ah_nw := List.mem_append_right _ (List.mem_of_getElem? (i := 21) rfl)
theorem nd_22 : (Jvm.Cond.landsInDefault "LeftAsFound$MouseStay" ({ cls := "LeftAsFound$Body", name := "tells", desc := "(I)I" } : Jvm.MethodName) ({ cls := "LeftAsFound$Tells", name := "tells", desc := "(I)I" } : Jvm.MethodName)) ∈ ah_nw := List.mem_append_right _ (List.mem_of_getElem? (i := 22) rfl)
theorem nd_23 : (Jvm.Cond.landsInDefault "LeftAsFound$FoundStay" ({ cls := "LeftAsFound$FoundStay", name := "tells", desc := "(I)I" } : Jvm.MethodName) ({ cls := "LeftAsFound$Tells", name := "tells", desc := "(I)I" } : Jvm.MethodName)) ∈ ah_nw := List.mem_append_right _ (List.mem_of_getElem? (i := 23) rfl)
theorem nd_24 : (Jvm.Cond.landsInDefault "LeftAsFound$TakenStay" ({ cls := "LeftAsFound$Body", name := "tells", desc := "(I)I" } : Jvm.MethodName) ({ cls := "LeftAsFound$Tells", name := "tells", desc := "(I)I" } : Jvm.MethodName)) ∈ ah_nw := List.mem_append_right _ (List.mem_of_getElem? (i := 24) rfl)
theorem nd_25 : (Jvm.Cond.landsInDefault "LeftAsFound$BroughtStay" ({ cls := "LeftAsFound$BroughtStay", name := "tells", desc := "(I)I" } : Jvm.MethodName) ({ cls := "LeftAsFound$Tells", name := "tells", desc := "(I)I" } : Jvm.MethodName)) ∈ ah_nw := List.mem_append_right _ (List.mem_of_getElem? (i := 25) rfl)
def ah_nc : List (String × String) := [("LeftAsFound$BareStay", "[B"), ("LeftAsFound$BareStay", "[I"), ("LeftAsFound$BareStay", "[J"), ("LeftAsFound$BareStay", "[S"), ("LeftAsFound$BareStay", "[Z"), ("LeftAsFound$Body", "[B"), ("LeftAsFound$Body", "[I"), ("LeftAsFound$Body", "[J"), ("LeftAsFound$Body", "[S"), ("LeftAsFound$Body", "[Z"), ("LeftAsFound$BroughtStay", "[B"), ("LeftAsFound$BroughtStay", "[I"), ("LeftAsFound$BroughtStay", "[J"), ("LeftAsFound$BroughtStay", "[S"), ("LeftAsFound$BroughtStay", "[Z"), ("LeftAsFound$FoundStay", "[B"), ("LeftAsFound$FoundStay", "[I"), ("LeftAsFound$FoundStay", "[J"), ("LeftAsFound$FoundStay", "[S"), ("LeftAsFound$FoundStay", "[Z"), ("LeftAsFound$MouseStay", "[B"), ("LeftAsFound$MouseStay", "[I"), ("LeftAsFound$MouseStay", "[J"), ("LeftAsFound$MouseStay", "[S"), ("LeftAsFound$MouseStay", "[Z"), ("LeftAsFound$SeenStay", "[B"), ("LeftAsFound$SeenStay", "[I"), ("LeftAsFound$SeenStay", "[J"), ("LeftAsFound$SeenStay", "[S"), ("LeftAsFound$SeenStay", "[Z"), ("LeftAsFound$TakenStay", "[B"), ("LeftAsFound$TakenStay", "[I"), ("LeftAsFound$TakenStay", "[J"), ("LeftAsFound$TakenStay", "[S"), ("LeftAsFound$TakenStay", "[Z"), ("LeftAsFound$WrittenStay", "[B"), ("LeftAsFound$WrittenStay", "[I"), ("LeftAsFound$WrittenStay", "[J"), ("LeftAsFound$WrittenStay", "[S"), ("LeftAsFound$WrittenStay", "[Z"), ("[B", "LeftAsFound$Body"), ("[B", "[I"), ("[B", "[J"), ("[B", "[S"), ("[B", "[Z"), ("[I", "LeftAsFound$Body"), ("[I", "[B"), ("[I", "[J"), ("[I", "[S"), ("[I", "[Z"), ("[J", "LeftAsFound$Body"), ("[J", "[B"), ("[J", "[I"), ("[J", "[S"), ("[J", "[Z"), ("[S", "LeftAsFound$Body"), ("[S", "[B"), ("[S", "[I"), ("[S", "[J"), ("[S", "[Z"), ("[Z", "LeftAsFound$Body"), ("[Z", "[B"), ("[Z", "[I"), ("[Z", "[J"), ("[Z", "[S")]
