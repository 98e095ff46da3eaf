/-! ===== literals (printed by nums.py) ===== -/
theorem nl_le_0 {k : Nat} (h : k < 2147483648) : (0 : Int32) ≤ Int32.ofNat k ↔ 0 ≤ k := nu_ofle (a := 0) (by decide) h
theorem nl_ge_0 {k : Nat} (h : k < 2147483648) : Int32.ofNat k ≤ (0 : Int32) ↔ k ≤ 0 := nu_ofle (b := 0) h (by decide)
theorem nl_lt_0 {k : Nat} (h : k < 2147483648) : (0 : Int32) < Int32.ofNat k ↔ 0 < k := nu_oflt (a := 0) (by decide) h
theorem nl_gt_0 {k : Nat} (h : k < 2147483648) : Int32.ofNat k < (0 : Int32) ↔ k < 0 := nu_oflt (b := 0) h (by decide)
theorem nl_eq_0 {k : Nat} (h : k < 2147483648) : Int32.ofNat k = (0 : Int32) ↔ k = 0 := nu_ofeq (b := 0) h (by decide)
theorem nl_le_1 {k : Nat} (h : k < 2147483648) : (1 : Int32) ≤ Int32.ofNat k ↔ 1 ≤ k := nu_ofle (a := 1) (by decide) h
theorem nl_ge_1 {k : Nat} (h : k < 2147483648) : Int32.ofNat k ≤ (1 : Int32) ↔ k ≤ 1 := nu_ofle (b := 1) h (by decide)
theorem nl_lt_1 {k : Nat} (h : k < 2147483648) : (1 : Int32) < Int32.ofNat k ↔ 1 < k := nu_oflt (a := 1) (by decide) h
theorem nl_gt_1 {k : Nat} (h : k < 2147483648) : Int32.ofNat k < (1 : Int32) ↔ k < 1 := nu_oflt (b := 1) h (by decide)
theorem nl_eq_1 {k : Nat} (h : k < 2147483648) : Int32.ofNat k = (1 : Int32) ↔ k = 1 := nu_ofeq (b := 1) h (by decide)
theorem nl_le_2 {k : Nat} (h : k < 2147483648) : (2 : Int32) ≤ Int32.ofNat k ↔ 2 ≤ k := nu_ofle (a := 2) (by decide) h
theorem nl_ge_2 {k : Nat} (h : k < 2147483648) : Int32.ofNat k ≤ (2 : Int32) ↔ k ≤ 2 := nu_ofle (b := 2) h (by decide)
theorem nl_lt_2 {k : Nat} (h : k < 2147483648) : (2 : Int32) < Int32.ofNat k ↔ 2 < k := nu_oflt (a := 2) (by decide) h
theorem nl_gt_2 {k : Nat} (h : k < 2147483648) : Int32.ofNat k < (2 : Int32) ↔ k < 2 := nu_oflt (b := 2) h (by decide)
theorem nl_eq_2 {k : Nat} (h : k < 2147483648) : Int32.ofNat k = (2 : Int32) ↔ k = 2 := nu_ofeq (b := 2) h (by decide)
theorem nl_le_3 {k : Nat} (h : k < 2147483648) : (3 : Int32) ≤ Int32.ofNat k ↔ 3 ≤ k := nu_ofle (a := 3) (by decide) h
theorem nl_ge_3 {k : Nat} (h : k < 2147483648) : Int32.ofNat k ≤ (3 : Int32) ↔ k ≤ 3 := nu_ofle (b := 3) h (by decide)
theorem nl_lt_3 {k : Nat} (h : k < 2147483648) : (3 : Int32) < Int32.ofNat k ↔ 3 < k := nu_oflt (a := 3) (by decide) h
theorem nl_gt_3 {k : Nat} (h : k < 2147483648) : Int32.ofNat k < (3 : Int32) ↔ k < 3 := nu_oflt (b := 3) h (by decide)
theorem nl_eq_3 {k : Nat} (h : k < 2147483648) : Int32.ofNat k = (3 : Int32) ↔ k = 3 := nu_ofeq (b := 3) h (by decide)
theorem nl_le_4 {k : Nat} (h : k < 2147483648) : (4 : Int32) ≤ Int32.ofNat k ↔ 4 ≤ k := nu_ofle (a := 4) (by decide) h
theorem nl_ge_4 {k : Nat} (h : k < 2147483648) : Int32.ofNat k ≤ (4 : Int32) ↔ k ≤ 4 := nu_ofle (b := 4) h (by decide)
theorem nl_lt_4 {k : Nat} (h : k < 2147483648) : (4 : Int32) < Int32.ofNat k ↔ 4 < k := nu_oflt (a := 4) (by decide) h
theorem nl_gt_4 {k : Nat} (h : k < 2147483648) : Int32.ofNat k < (4 : Int32) ↔ k < 4 := nu_oflt (b := 4) h (by decide)
theorem nl_eq_4 {k : Nat} (h : k < 2147483648) : Int32.ofNat k = (4 : Int32) ↔ k = 4 := nu_ofeq (b := 4) h (by decide)
theorem nl_le_5 {k : Nat} (h : k < 2147483648) : (5 : Int32) ≤ Int32.ofNat k ↔ 5 ≤ k := nu_ofle (a := 5) (by decide) h
theorem nl_ge_5 {k : Nat} (h : k < 2147483648) : Int32.ofNat k ≤ (5 : Int32) ↔ k ≤ 5 := nu_ofle (b := 5) h (by decide)
theorem nl_lt_5 {k : Nat} (h : k < 2147483648) : (5 : Int32) < Int32.ofNat k ↔ 5 < k := nu_oflt (a := 5) (by decide) h
theorem nl_gt_5 {k : Nat} (h : k < 2147483648) : Int32.ofNat k < (5 : Int32) ↔ k < 5 := nu_oflt (b := 5) h (by decide)
theorem nl_eq_5 {k : Nat} (h : k < 2147483648) : Int32.ofNat k = (5 : Int32) ↔ k = 5 := nu_ofeq (b := 5) h (by decide)
theorem nl_le_6 {k : Nat} (h : k < 2147483648) : (6 : Int32) ≤ Int32.ofNat k ↔ 6 ≤ k := nu_ofle (a := 6) (by decide) h
theorem nl_ge_6 {k : Nat} (h : k < 2147483648) : Int32.ofNat k ≤ (6 : Int32) ↔ k ≤ 6 := nu_ofle (b := 6) h (by decide)
theorem nl_lt_6 {k : Nat} (h : k < 2147483648) : (6 : Int32) < Int32.ofNat k ↔ 6 < k := nu_oflt (a := 6) (by decide) h
theorem nl_gt_6 {k : Nat} (h : k < 2147483648) : Int32.ofNat k < (6 : Int32) ↔ k < 6 := nu_oflt (b := 6) h (by decide)
theorem nl_eq_6 {k : Nat} (h : k < 2147483648) : Int32.ofNat k = (6 : Int32) ↔ k = 6 := nu_ofeq (b := 6) h (by decide)
theorem nl_le_7 {k : Nat} (h : k < 2147483648) : (7 : Int32) ≤ Int32.ofNat k ↔ 7 ≤ k := nu_ofle (a := 7) (by decide) h
theorem nl_ge_7 {k : Nat} (h : k < 2147483648) : Int32.ofNat k ≤ (7 : Int32) ↔ k ≤ 7 := nu_ofle (b := 7) h (by decide)
theorem nl_lt_7 {k : Nat} (h : k < 2147483648) : (7 : Int32) < Int32.ofNat k ↔ 7 < k := nu_oflt (a := 7) (by decide) h
theorem nl_gt_7 {k : Nat} (h : k < 2147483648) : Int32.ofNat k < (7 : Int32) ↔ k < 7 := nu_oflt (b := 7) h (by decide)
theorem nl_eq_7 {k : Nat} (h : k < 2147483648) : Int32.ofNat k = (7 : Int32) ↔ k = 7 := nu_ofeq (b := 7) h (by decide)
theorem nl_le_8 {k : Nat} (h : k < 2147483648) : (8 : Int32) ≤ Int32.ofNat k ↔ 8 ≤ k := nu_ofle (a := 8) (by decide) h
theorem nl_ge_8 {k : Nat} (h : k < 2147483648) : Int32.ofNat k ≤ (8 : Int32) ↔ k ≤ 8 := nu_ofle (b := 8) h (by decide)
theorem nl_lt_8 {k : Nat} (h : k < 2147483648) : (8 : Int32) < Int32.ofNat k ↔ 8 < k := nu_oflt (a := 8) (by decide) h
theorem nl_gt_8 {k : Nat} (h : k < 2147483648) : Int32.ofNat k < (8 : Int32) ↔ k < 8 := nu_oflt (b := 8) h (by decide)
theorem nl_eq_8 {k : Nat} (h : k < 2147483648) : Int32.ofNat k = (8 : Int32) ↔ k = 8 := nu_ofeq (b := 8) h (by decide)
theorem nl_le_9 {k : Nat} (h : k < 2147483648) : (9 : Int32) ≤ Int32.ofNat k ↔ 9 ≤ k := nu_ofle (a := 9) (by decide) h
theorem nl_ge_9 {k : Nat} (h : k < 2147483648) : Int32.ofNat k ≤ (9 : Int32) ↔ k ≤ 9 := nu_ofle (b := 9) h (by decide)
theorem nl_lt_9 {k : Nat} (h : k < 2147483648) : (9 : Int32) < Int32.ofNat k ↔ 9 < k := nu_oflt (a := 9) (by decide) h
theorem nl_gt_9 {k : Nat} (h : k < 2147483648) : Int32.ofNat k < (9 : Int32) ↔ k < 9 := nu_oflt (b := 9) h (by decide)
theorem nl_eq_9 {k : Nat} (h : k < 2147483648) : Int32.ofNat k = (9 : Int32) ↔ k = 9 := nu_ofeq (b := 9) h (by decide)
theorem nl_le_10 {k : Nat} (h : k < 2147483648) : (10 : Int32) ≤ Int32.ofNat k ↔ 10 ≤ k := nu_ofle (a := 10) (by decide) h
theorem nl_ge_10 {k : Nat} (h : k < 2147483648) : Int32.ofNat k ≤ (10 : Int32) ↔ k ≤ 10 := nu_ofle (b := 10) h (by decide)
theorem nl_lt_10 {k : Nat} (h : k < 2147483648) : (10 : Int32) < Int32.ofNat k ↔ 10 < k := nu_oflt (a := 10) (by decide) h
theorem nl_gt_10 {k : Nat} (h : k < 2147483648) : Int32.ofNat k < (10 : Int32) ↔ k < 10 := nu_oflt (b := 10) h (by decide)
theorem nl_eq_10 {k : Nat} (h : k < 2147483648) : Int32.ofNat k = (10 : Int32) ↔ k = 10 := nu_ofeq (b := 10) h (by decide)
theorem nl_le_12 {k : Nat} (h : k < 2147483648) : (12 : Int32) ≤ Int32.ofNat k ↔ 12 ≤ k := nu_ofle (a := 12) (by decide) h
theorem nl_ge_12 {k : Nat} (h : k < 2147483648) : Int32.ofNat k ≤ (12 : Int32) ↔ k ≤ 12 := nu_ofle (b := 12) h (by decide)
theorem nl_lt_12 {k : Nat} (h : k < 2147483648) : (12 : Int32) < Int32.ofNat k ↔ 12 < k := nu_oflt (a := 12) (by decide) h
theorem nl_gt_12 {k : Nat} (h : k < 2147483648) : Int32.ofNat k < (12 : Int32) ↔ k < 12 := nu_oflt (b := 12) h (by decide)
theorem nl_eq_12 {k : Nat} (h : k < 2147483648) : Int32.ofNat k = (12 : Int32) ↔ k = 12 := nu_ofeq (b := 12) h (by decide)
theorem nl_le_13 {k : Nat} (h : k < 2147483648) : (13 : Int32) ≤ Int32.ofNat k ↔ 13 ≤ k := nu_ofle (a := 13) (by decide) h
theorem nl_ge_13 {k : Nat} (h : k < 2147483648) : Int32.ofNat k ≤ (13 : Int32) ↔ k ≤ 13 := nu_ofle (b := 13) h (by decide)
theorem nl_lt_13 {k : Nat} (h : k < 2147483648) : (13 : Int32) < Int32.ofNat k ↔ 13 < k := nu_oflt (a := 13) (by decide) h
theorem nl_gt_13 {k : Nat} (h : k < 2147483648) : Int32.ofNat k < (13 : Int32) ↔ k < 13 := nu_oflt (b := 13) h (by decide)
theorem nl_eq_13 {k : Nat} (h : k < 2147483648) : Int32.ofNat k = (13 : Int32) ↔ k = 13 := nu_ofeq (b := 13) h (by decide)
theorem nl_le_20 {k : Nat} (h : k < 2147483648) : (20 : Int32) ≤ Int32.ofNat k ↔ 20 ≤ k := nu_ofle (a := 20) (by decide) h
theorem nl_ge_20 {k : Nat} (h : k < 2147483648) : Int32.ofNat k ≤ (20 : Int32) ↔ k ≤ 20 := nu_ofle (b := 20) h (by decide)
theorem nl_lt_20 {k : Nat} (h : k < 2147483648) : (20 : Int32) < Int32.ofNat k ↔ 20 < k := nu_oflt (a := 20) (by decide) h
theorem nl_gt_20 {k : Nat} (h : k < 2147483648) : Int32.ofNat k < (20 : Int32) ↔ k < 20 := nu_oflt (b := 20) h (by decide)
theorem nl_eq_20 {k : Nat} (h : k < 2147483648) : Int32.ofNat k = (20 : Int32) ↔ k = 20 := nu_ofeq (b := 20) h (by decide)
theorem nl_le_24 {k : Nat} (h : k < 2147483648) : (24 : Int32) ≤ Int32.ofNat k ↔ 24 ≤ k := nu_ofle (a := 24) (by decide) h
theorem nl_ge_24 {k : Nat} (h : k < 2147483648) : Int32.ofNat k ≤ (24 : Int32) ↔ k ≤ 24 := nu_ofle (b := 24) h (by decide)
theorem nl_lt_24 {k : Nat} (h : k < 2147483648) : (24 : Int32) < Int32.ofNat k ↔ 24 < k := nu_oflt (a := 24) (by decide) h
theorem nl_gt_24 {k : Nat} (h : k < 2147483648) : Int32.ofNat k < (24 : Int32) ↔ k < 24 := nu_oflt (b := 24) h (by decide)
theorem nl_eq_24 {k : Nat} (h : k < 2147483648) : Int32.ofNat k = (24 : Int32) ↔ k = 24 := nu_ofeq (b := 24) h (by decide)
theorem nl_le_28 {k : Nat} (h : k < 2147483648) : (28 : Int32) ≤ Int32.ofNat k ↔ 28 ≤ k := nu_ofle (a := 28) (by decide) h
theorem nl_ge_28 {k : Nat} (h : k < 2147483648) : Int32.ofNat k ≤ (28 : Int32) ↔ k ≤ 28 := nu_ofle (b := 28) h (by decide)
theorem nl_lt_28 {k : Nat} (h : k < 2147483648) : (28 : Int32) < Int32.ofNat k ↔ 28 < k := nu_oflt (a := 28) (by decide) h
theorem nl_gt_28 {k : Nat} (h : k < 2147483648) : Int32.ofNat k < (28 : Int32) ↔ k < 28 := nu_oflt (b := 28) h (by decide)
theorem nl_eq_28 {k : Nat} (h : k < 2147483648) : Int32.ofNat k = (28 : Int32) ↔ k = 28 := nu_ofeq (b := 28) h (by decide)
theorem nl_le_30 {k : Nat} (h : k < 2147483648) : (30 : Int32) ≤ Int32.ofNat k ↔ 30 ≤ k := nu_ofle (a := 30) (by decide) h
theorem nl_ge_30 {k : Nat} (h : k < 2147483648) : Int32.ofNat k ≤ (30 : Int32) ↔ k ≤ 30 := nu_ofle (b := 30) h (by decide)
theorem nl_lt_30 {k : Nat} (h : k < 2147483648) : (30 : Int32) < Int32.ofNat k ↔ 30 < k := nu_oflt (a := 30) (by decide) h
theorem nl_gt_30 {k : Nat} (h : k < 2147483648) : Int32.ofNat k < (30 : Int32) ↔ k < 30 := nu_oflt (b := 30) h (by decide)
theorem nl_eq_30 {k : Nat} (h : k < 2147483648) : Int32.ofNat k = (30 : Int32) ↔ k = 30 := nu_ofeq (b := 30) h (by decide)
theorem nl_le_37 {k : Nat} (h : k < 2147483648) : (37 : Int32) ≤ Int32.ofNat k ↔ 37 ≤ k := nu_ofle (a := 37) (by decide) h
theorem nl_ge_37 {k : Nat} (h : k < 2147483648) : Int32.ofNat k ≤ (37 : Int32) ↔ k ≤ 37 := nu_ofle (b := 37) h (by decide)
theorem nl_lt_37 {k : Nat} (h : k < 2147483648) : (37 : Int32) < Int32.ofNat k ↔ 37 < k := nu_oflt (a := 37) (by decide) h
theorem nl_gt_37 {k : Nat} (h : k < 2147483648) : Int32.ofNat k < (37 : Int32) ↔ k < 37 := nu_oflt (b := 37) h (by decide)
theorem nl_eq_37 {k : Nat} (h : k < 2147483648) : Int32.ofNat k = (37 : Int32) ↔ k = 37 := nu_ofeq (b := 37) h (by decide)
theorem nl_le_40 {k : Nat} (h : k < 2147483648) : (40 : Int32) ≤ Int32.ofNat k ↔ 40 ≤ k := nu_ofle (a := 40) (by decide) h
theorem nl_ge_40 {k : Nat} (h : k < 2147483648) : Int32.ofNat k ≤ (40 : Int32) ↔ k ≤ 40 := nu_ofle (b := 40) h (by decide)
theorem nl_lt_40 {k : Nat} (h : k < 2147483648) : (40 : Int32) < Int32.ofNat k ↔ 40 < k := nu_oflt (a := 40) (by decide) h
theorem nl_gt_40 {k : Nat} (h : k < 2147483648) : Int32.ofNat k < (40 : Int32) ↔ k < 40 := nu_oflt (b := 40) h (by decide)
theorem nl_eq_40 {k : Nat} (h : k < 2147483648) : Int32.ofNat k = (40 : Int32) ↔ k = 40 := nu_ofeq (b := 40) h (by decide)
theorem nl_le_48 {k : Nat} (h : k < 2147483648) : (48 : Int32) ≤ Int32.ofNat k ↔ 48 ≤ k := nu_ofle (a := 48) (by decide) h
theorem nl_ge_48 {k : Nat} (h : k < 2147483648) : Int32.ofNat k ≤ (48 : Int32) ↔ k ≤ 48 := nu_ofle (b := 48) h (by decide)
theorem nl_lt_48 {k : Nat} (h : k < 2147483648) : (48 : Int32) < Int32.ofNat k ↔ 48 < k := nu_oflt (a := 48) (by decide) h
theorem nl_gt_48 {k : Nat} (h : k < 2147483648) : Int32.ofNat k < (48 : Int32) ↔ k < 48 := nu_oflt (b := 48) h (by decide)
theorem nl_eq_48 {k : Nat} (h : k < 2147483648) : Int32.ofNat k = (48 : Int32) ↔ k = 48 := nu_ofeq (b := 48) h (by decide)
theorem nl_le_50 {k : Nat} (h : k < 2147483648) : (50 : Int32) ≤ Int32.ofNat k ↔ 50 ≤ k := nu_ofle (a := 50) (by decide) h
theorem nl_ge_50 {k : Nat} (h : k < 2147483648) : Int32.ofNat k ≤ (50 : Int32) ↔ k ≤ 50 := nu_ofle (b := 50) h (by decide)
theorem nl_lt_50 {k : Nat} (h : k < 2147483648) : (50 : Int32) < Int32.ofNat k ↔ 50 < k := nu_oflt (a := 50) (by decide) h
theorem nl_gt_50 {k : Nat} (h : k < 2147483648) : Int32.ofNat k < (50 : Int32) ↔ k < 50 := nu_oflt (b := 50) h (by decide)
theorem nl_eq_50 {k : Nat} (h : k < 2147483648) : Int32.ofNat k = (50 : Int32) ↔ k = 50 := nu_ofeq (b := 50) h (by decide)
theorem nl_le_60 {k : Nat} (h : k < 2147483648) : (60 : Int32) ≤ Int32.ofNat k ↔ 60 ≤ k := nu_ofle (a := 60) (by decide) h
theorem nl_ge_60 {k : Nat} (h : k < 2147483648) : Int32.ofNat k ≤ (60 : Int32) ↔ k ≤ 60 := nu_ofle (b := 60) h (by decide)
theorem nl_lt_60 {k : Nat} (h : k < 2147483648) : (60 : Int32) < Int32.ofNat k ↔ 60 < k := nu_oflt (a := 60) (by decide) h
theorem nl_gt_60 {k : Nat} (h : k < 2147483648) : Int32.ofNat k < (60 : Int32) ↔ k < 60 := nu_oflt (b := 60) h (by decide)
theorem nl_eq_60 {k : Nat} (h : k < 2147483648) : Int32.ofNat k = (60 : Int32) ↔ k = 60 := nu_ofeq (b := 60) h (by decide)
theorem nl_le_99 {k : Nat} (h : k < 2147483648) : (99 : Int32) ≤ Int32.ofNat k ↔ 99 ≤ k := nu_ofle (a := 99) (by decide) h
theorem nl_ge_99 {k : Nat} (h : k < 2147483648) : Int32.ofNat k ≤ (99 : Int32) ↔ k ≤ 99 := nu_ofle (b := 99) h (by decide)
theorem nl_lt_99 {k : Nat} (h : k < 2147483648) : (99 : Int32) < Int32.ofNat k ↔ 99 < k := nu_oflt (a := 99) (by decide) h
theorem nl_gt_99 {k : Nat} (h : k < 2147483648) : Int32.ofNat k < (99 : Int32) ↔ k < 99 := nu_oflt (b := 99) h (by decide)
theorem nl_eq_99 {k : Nat} (h : k < 2147483648) : Int32.ofNat k = (99 : Int32) ↔ k = 99 := nu_ofeq (b := 99) h (by decide)
theorem nl_le_120 {k : Nat} (h : k < 2147483648) : (120 : Int32) ≤ Int32.ofNat k ↔ 120 ≤ k := nu_ofle (a := 120) (by decide) h
theorem nl_ge_120 {k : Nat} (h : k < 2147483648) : Int32.ofNat k ≤ (120 : Int32) ↔ k ≤ 120 := nu_ofle (b := 120) h (by decide)
theorem nl_lt_120 {k : Nat} (h : k < 2147483648) : (120 : Int32) < Int32.ofNat k ↔ 120 < k := nu_oflt (a := 120) (by decide) h
theorem nl_gt_120 {k : Nat} (h : k < 2147483648) : Int32.ofNat k < (120 : Int32) ↔ k < 120 := nu_oflt (b := 120) h (by decide)
theorem nl_eq_120 {k : Nat} (h : k < 2147483648) : Int32.ofNat k = (120 : Int32) ↔ k = 120 := nu_ofeq (b := 120) h (by decide)
theorem nl_le_128 {k : Nat} (h : k < 2147483648) : (128 : Int32) ≤ Int32.ofNat k ↔ 128 ≤ k := nu_ofle (a := 128) (by decide) h
theorem nl_ge_128 {k : Nat} (h : k < 2147483648) : Int32.ofNat k ≤ (128 : Int32) ↔ k ≤ 128 := nu_ofle (b := 128) h (by decide)
theorem nl_lt_128 {k : Nat} (h : k < 2147483648) : (128 : Int32) < Int32.ofNat k ↔ 128 < k := nu_oflt (a := 128) (by decide) h
theorem nl_gt_128 {k : Nat} (h : k < 2147483648) : Int32.ofNat k < (128 : Int32) ↔ k < 128 := nu_oflt (b := 128) h (by decide)
theorem nl_eq_128 {k : Nat} (h : k < 2147483648) : Int32.ofNat k = (128 : Int32) ↔ k = 128 := nu_ofeq (b := 128) h (by decide)
theorem nl_le_130 {k : Nat} (h : k < 2147483648) : (130 : Int32) ≤ Int32.ofNat k ↔ 130 ≤ k := nu_ofle (a := 130) (by decide) h
theorem nl_ge_130 {k : Nat} (h : k < 2147483648) : Int32.ofNat k ≤ (130 : Int32) ↔ k ≤ 130 := nu_ofle (b := 130) h (by decide)
theorem nl_lt_130 {k : Nat} (h : k < 2147483648) : (130 : Int32) < Int32.ofNat k ↔ 130 < k := nu_oflt (a := 130) (by decide) h
theorem nl_gt_130 {k : Nat} (h : k < 2147483648) : Int32.ofNat k < (130 : Int32) ↔ k < 130 := nu_oflt (b := 130) h (by decide)
theorem nl_eq_130 {k : Nat} (h : k < 2147483648) : Int32.ofNat k = (130 : Int32) ↔ k = 130 := nu_ofeq (b := 130) h (by decide)
theorem nl_le_200 {k : Nat} (h : k < 2147483648) : (200 : Int32) ≤ Int32.ofNat k ↔ 200 ≤ k := nu_ofle (a := 200) (by decide) h
theorem nl_ge_200 {k : Nat} (h : k < 2147483648) : Int32.ofNat k ≤ (200 : Int32) ↔ k ≤ 200 := nu_ofle (b := 200) h (by decide)
theorem nl_lt_200 {k : Nat} (h : k < 2147483648) : (200 : Int32) < Int32.ofNat k ↔ 200 < k := nu_oflt (a := 200) (by decide) h
theorem nl_gt_200 {k : Nat} (h : k < 2147483648) : Int32.ofNat k < (200 : Int32) ↔ k < 200 := nu_oflt (b := 200) h (by decide)
theorem nl_eq_200 {k : Nat} (h : k < 2147483648) : Int32.ofNat k = (200 : Int32) ↔ k = 200 := nu_ofeq (b := 200) h (by decide)
theorem nl_le_255 {k : Nat} (h : k < 2147483648) : (255 : Int32) ≤ Int32.ofNat k ↔ 255 ≤ k := nu_ofle (a := 255) (by decide) h
theorem nl_ge_255 {k : Nat} (h : k < 2147483648) : Int32.ofNat k ≤ (255 : Int32) ↔ k ≤ 255 := nu_ofle (b := 255) h (by decide)
theorem nl_lt_255 {k : Nat} (h : k < 2147483648) : (255 : Int32) < Int32.ofNat k ↔ 255 < k := nu_oflt (a := 255) (by decide) h
theorem nl_gt_255 {k : Nat} (h : k < 2147483648) : Int32.ofNat k < (255 : Int32) ↔ k < 255 := nu_oflt (b := 255) h (by decide)
theorem nl_eq_255 {k : Nat} (h : k < 2147483648) : Int32.ofNat k = (255 : Int32) ↔ k = 255 := nu_ofeq (b := 255) h (by decide)
theorem nl_ad_0 (k : Nat) : (0 : Int32) + Int32.ofNat k = Int32.ofNat (0 + k) := (Int32.ofNat_add 0 k).symm
theorem nl_ad_1 (k : Nat) : (1 : Int32) + Int32.ofNat k = Int32.ofNat (1 + k) := (Int32.ofNat_add 1 k).symm
theorem nl_ad_2 (k : Nat) : (2 : Int32) + Int32.ofNat k = Int32.ofNat (2 + k) := (Int32.ofNat_add 2 k).symm
theorem nl_ad_3 (k : Nat) : (3 : Int32) + Int32.ofNat k = Int32.ofNat (3 + k) := (Int32.ofNat_add 3 k).symm
theorem nl_ad_4 (k : Nat) : (4 : Int32) + Int32.ofNat k = Int32.ofNat (4 + k) := (Int32.ofNat_add 4 k).symm
theorem nl_ad_5 (k : Nat) : (5 : Int32) + Int32.ofNat k = Int32.ofNat (5 + k) := (Int32.ofNat_add 5 k).symm
theorem nl_ad_6 (k : Nat) : (6 : Int32) + Int32.ofNat k = Int32.ofNat (6 + k) := (Int32.ofNat_add 6 k).symm
theorem nl_ad_7 (k : Nat) : (7 : Int32) + Int32.ofNat k = Int32.ofNat (7 + k) := (Int32.ofNat_add 7 k).symm
theorem nl_ad_8 (k : Nat) : (8 : Int32) + Int32.ofNat k = Int32.ofNat (8 + k) := (Int32.ofNat_add 8 k).symm
theorem nl_ad_9 (k : Nat) : (9 : Int32) + Int32.ofNat k = Int32.ofNat (9 + k) := (Int32.ofNat_add 9 k).symm
theorem nl_ad_10 (k : Nat) : (10 : Int32) + Int32.ofNat k = Int32.ofNat (10 + k) := (Int32.ofNat_add 10 k).symm
theorem nl_ad_12 (k : Nat) : (12 : Int32) + Int32.ofNat k = Int32.ofNat (12 + k) := (Int32.ofNat_add 12 k).symm
theorem nl_ad_13 (k : Nat) : (13 : Int32) + Int32.ofNat k = Int32.ofNat (13 + k) := (Int32.ofNat_add 13 k).symm
theorem nl_ad_20 (k : Nat) : (20 : Int32) + Int32.ofNat k = Int32.ofNat (20 + k) := (Int32.ofNat_add 20 k).symm
theorem nl_ad_24 (k : Nat) : (24 : Int32) + Int32.ofNat k = Int32.ofNat (24 + k) := (Int32.ofNat_add 24 k).symm
theorem nl_ad_28 (k : Nat) : (28 : Int32) + Int32.ofNat k = Int32.ofNat (28 + k) := (Int32.ofNat_add 28 k).symm
theorem nl_ad_30 (k : Nat) : (30 : Int32) + Int32.ofNat k = Int32.ofNat (30 + k) := (Int32.ofNat_add 30 k).symm
theorem nl_ad_37 (k : Nat) : (37 : Int32) + Int32.ofNat k = Int32.ofNat (37 + k) := (Int32.ofNat_add 37 k).symm
theorem nl_ad_40 (k : Nat) : (40 : Int32) + Int32.ofNat k = Int32.ofNat (40 + k) := (Int32.ofNat_add 40 k).symm
theorem nl_ad_48 (k : Nat) : (48 : Int32) + Int32.ofNat k = Int32.ofNat (48 + k) := (Int32.ofNat_add 48 k).symm
theorem nl_ad_50 (k : Nat) : (50 : Int32) + Int32.ofNat k = Int32.ofNat (50 + k) := (Int32.ofNat_add 50 k).symm
theorem nl_ad_60 (k : Nat) : (60 : Int32) + Int32.ofNat k = Int32.ofNat (60 + k) := (Int32.ofNat_add 60 k).symm
theorem nl_ad_99 (k : Nat) : (99 : Int32) + Int32.ofNat k = Int32.ofNat (99 + k) := (Int32.ofNat_add 99 k).symm
theorem nl_ad_120 (k : Nat) : (120 : Int32) + Int32.ofNat k = Int32.ofNat (120 + k) := (Int32.ofNat_add 120 k).symm
theorem nl_ad_128 (k : Nat) : (128 : Int32) + Int32.ofNat k = Int32.ofNat (128 + k) := (Int32.ofNat_add 128 k).symm
theorem nl_ad_130 (k : Nat) : (130 : Int32) + Int32.ofNat k = Int32.ofNat (130 + k) := (Int32.ofNat_add 130 k).symm
theorem nl_ad_200 (k : Nat) : (200 : Int32) + Int32.ofNat k = Int32.ofNat (200 + k) := (Int32.ofNat_add 200 k).symm
theorem nl_ad_255 (k : Nat) : (255 : Int32) + Int32.ofNat k = Int32.ofNat (255 + k) := (Int32.ofNat_add 255 k).symm
theorem nl_mu_2 (k : Nat) : (2 : Int32) * Int32.ofNat k = Int32.ofNat (2 * k) := (Int32.ofNat_mul 2 k).symm
theorem nl_mu_3 (k : Nat) : (3 : Int32) * Int32.ofNat k = Int32.ofNat (3 * k) := (Int32.ofNat_mul 3 k).symm
theorem nl_mu_4 (k : Nat) : (4 : Int32) * Int32.ofNat k = Int32.ofNat (4 * k) := (Int32.ofNat_mul 4 k).symm
theorem nl_mu_6 (k : Nat) : (6 : Int32) * Int32.ofNat k = Int32.ofNat (6 * k) := (Int32.ofNat_mul 6 k).symm
theorem nl_mu_10 (k : Nat) : (10 : Int32) * Int32.ofNat k = Int32.ofNat (10 * k) := (Int32.ofNat_mul 10 k).symm
theorem nl_mu_48 (k : Nat) : (48 : Int32) * Int32.ofNat k = Int32.ofNat (48 * k) := (Int32.ofNat_mul 48 k).symm
theorem nl_mu_60 (k : Nat) : (60 : Int32) * Int32.ofNat k = Int32.ofNat (60 * k) := (Int32.ofNat_mul 60 k).symm
theorem nl_mu_61 (k : Nat) : (61 : Int32) * Int32.ofNat k = Int32.ofNat (61 * k) := (Int32.ofNat_mul 61 k).symm
theorem nl_mu_130 (k : Nat) : (130 : Int32) * Int32.ofNat k = Int32.ofNat (130 * k) := (Int32.ofNat_mul 130 k).symm
theorem nl_mu_37 (k : Nat) : (37 : Int32) * Int32.ofNat k = Int32.ofNat (37 * k) := (Int32.ofNat_mul 37 k).symm
theorem nl_mr_37 (k : Nat) : Int32.ofNat k * (37 : Int32) = Int32.ofNat (k * 37) := (Int32.ofNat_mul k 37).symm
theorem nl_mr_2 (k : Nat) : Int32.ofNat k * (2 : Int32) = Int32.ofNat (k * 2) := (Int32.ofNat_mul k 2).symm
theorem nl_mr_3 (k : Nat) : Int32.ofNat k * (3 : Int32) = Int32.ofNat (k * 3) := (Int32.ofNat_mul k 3).symm
theorem nl_mr_4 (k : Nat) : Int32.ofNat k * (4 : Int32) = Int32.ofNat (k * 4) := (Int32.ofNat_mul k 4).symm
theorem nl_mr_48 (k : Nat) : Int32.ofNat k * (48 : Int32) = Int32.ofNat (k * 48) := (Int32.ofNat_mul k 48).symm
theorem nl_ar_1 (k : Nat) : Int32.ofNat k + (1 : Int32) = Int32.ofNat (k + 1) := (Int32.ofNat_add k 1).symm
theorem nl_ar_2 (k : Nat) : Int32.ofNat k + (2 : Int32) = Int32.ofNat (k + 2) := (Int32.ofNat_add k 2).symm
theorem nl_ar_3 (k : Nat) : Int32.ofNat k + (3 : Int32) = Int32.ofNat (k + 3) := (Int32.ofNat_add k 3).symm
theorem nl_ar_6 (k : Nat) : Int32.ofNat k + (6 : Int32) = Int32.ofNat (k + 6) := (Int32.ofNat_add k 6).symm
theorem nl_aa (j k : Nat) : Int32.ofNat j + Int32.ofNat k = Int32.ofNat (j + k) := (Int32.ofNat_add j k).symm
theorem nl_di {a : Nat} (n : Nat) (h : a < 2147483648) (h1 : n < 2147483648) (h0 : 0 < n) : ah_di (Int32.ofNat a) (Int32.ofNat n) = some (Int32.ofNat (a / n)) := nu_di h h1 h0
theorem nl_di_10 {a : Nat} (h : a < 2147483648) : ah_di (Int32.ofNat a) (10 : Int32) = some (Int32.ofNat (a / 10)) := nu_di (b := 10) h (by decide) (by decide)
theorem nl_re_10 {a : Nat} (h : a < 2147483648) : ah_re (Int32.ofNat a) (10 : Int32) = some (Int32.ofNat (a % 10)) := nu_re (b := 10) h (by decide) (by decide)
theorem nl_di_4 {a : Nat} (h : a < 2147483648) : ah_di (Int32.ofNat a) (4 : Int32) = some (Int32.ofNat (a / 4)) := nu_di (b := 4) h (by decide) (by decide)
theorem nl_re_4 {a : Nat} (h : a < 2147483648) : ah_re (Int32.ofNat a) (4 : Int32) = some (Int32.ofNat (a % 4)) := nu_re (b := 4) h (by decide) (by decide)
theorem nl_di_20 {a : Nat} (h : a < 2147483648) : ah_di (Int32.ofNat a) (20 : Int32) = some (Int32.ofNat (a / 20)) := nu_di (b := 20) h (by decide) (by decide)
theorem nl_re_20 {a : Nat} (h : a < 2147483648) : ah_re (Int32.ofNat a) (20 : Int32) = some (Int32.ofNat (a % 20)) := nu_re (b := 20) h (by decide) (by decide)
