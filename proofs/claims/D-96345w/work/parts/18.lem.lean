theorem ib_m100 : (Int8.ofInt (-100)).toInt32 = (-100 : Int32) := by decide
theorem ib_m20 : (Int8.ofInt (-20)).toInt32 = (-20 : Int32) := by decide
theorem ib_m14 : (Int8.ofInt (-14)).toInt32 = (-14 : Int32) := by decide
theorem ib_m13 : (Int8.ofInt (-13)).toInt32 = (-13 : Int32) := by decide
theorem ib_m12 : (Int8.ofInt (-12)).toInt32 = (-12 : Int32) := by decide
theorem ib_m11 : (Int8.ofInt (-11)).toInt32 = (-11 : Int32) := by decide
theorem ib_m5 : (Int8.ofInt (-5)).toInt32 = (-5 : Int32) := by decide
theorem ib_m3 : (Int8.ofInt (-3)).toInt32 = (-3 : Int32) := by decide
theorem ib_m2 : (Int8.ofInt (-2)).toInt32 = (-2 : Int32) := by decide
theorem ib_6 : (Int8.ofInt 6).toInt32 = (6 : Int32) := by decide
theorem ib_7 : (Int8.ofInt 7).toInt32 = (7 : Int32) := by decide
theorem ib_8 : (Int8.ofInt 8).toInt32 = (8 : Int32) := by decide
theorem ib_9 : (Int8.ofInt 9).toInt32 = (9 : Int32) := by decide
theorem ib_10 : (Int8.ofInt 10).toInt32 = (10 : Int32) := by decide
theorem ib_11 : (Int8.ofInt 11).toInt32 = (11 : Int32) := by decide
theorem ib_12 : (Int8.ofInt 12).toInt32 = (12 : Int32) := by decide
theorem ib_13 : (Int8.ofInt 13).toInt32 = (13 : Int32) := by decide
theorem ib_14 : (Int8.ofInt 14).toInt32 = (14 : Int32) := by decide
theorem ib_15 : (Int8.ofInt 15).toInt32 = (15 : Int32) := by decide
theorem ib_16 : (Int8.ofInt 16).toInt32 = (16 : Int32) := by decide
theorem ib_17 : (Int8.ofInt 17).toInt32 = (17 : Int32) := by decide
theorem ib_18 : (Int8.ofInt 18).toInt32 = (18 : Int32) := by decide
theorem ib_19 : (Int8.ofInt 19).toInt32 = (19 : Int32) := by decide
theorem ib_20 : (Int8.ofInt 20).toInt32 = (20 : Int32) := by decide
theorem ib_21 : (Int8.ofInt 21).toInt32 = (21 : Int32) := by decide
theorem ib_22 : (Int8.ofInt 22).toInt32 = (22 : Int32) := by decide
theorem ib_23 : (Int8.ofInt 23).toInt32 = (23 : Int32) := by decide
theorem ib_24 : (Int8.ofInt 24).toInt32 = (24 : Int32) := by decide
theorem ib_25 : (Int8.ofInt 25).toInt32 = (25 : Int32) := by decide
theorem ib_26 : (Int8.ofInt 26).toInt32 = (26 : Int32) := by decide
theorem ib_27 : (Int8.ofInt 27).toInt32 = (27 : Int32) := by decide
theorem ib_28 : (Int8.ofInt 28).toInt32 = (28 : Int32) := by decide
theorem ib_29 : (Int8.ofInt 29).toInt32 = (29 : Int32) := by decide
theorem ib_30 : (Int8.ofInt 30).toInt32 = (30 : Int32) := by decide
theorem ib_31 : (Int8.ofInt 31).toInt32 = (31 : Int32) := by decide
theorem ib_32 : (Int8.ofInt 32).toInt32 = (32 : Int32) := by decide
theorem ib_33 : (Int8.ofInt 33).toInt32 = (33 : Int32) := by decide
theorem ib_34 : (Int8.ofInt 34).toInt32 = (34 : Int32) := by decide
theorem ib_35 : (Int8.ofInt 35).toInt32 = (35 : Int32) := by decide
theorem ib_36 : (Int8.ofInt 36).toInt32 = (36 : Int32) := by decide
theorem ib_37 : (Int8.ofInt 37).toInt32 = (37 : Int32) := by decide
theorem ib_38 : (Int8.ofInt 38).toInt32 = (38 : Int32) := by decide
theorem ib_39 : (Int8.ofInt 39).toInt32 = (39 : Int32) := by decide
theorem ib_40 : (Int8.ofInt 40).toInt32 = (40 : Int32) := by decide
theorem ib_41 : (Int8.ofInt 41).toInt32 = (41 : Int32) := by decide
theorem ib_42 : (Int8.ofInt 42).toInt32 = (42 : Int32) := by decide
theorem ib_43 : (Int8.ofInt 43).toInt32 = (43 : Int32) := by decide
theorem ib_44 : (Int8.ofInt 44).toInt32 = (44 : Int32) := by decide
theorem ib_45 : (Int8.ofInt 45).toInt32 = (45 : Int32) := by decide
theorem ib_46 : (Int8.ofInt 46).toInt32 = (46 : Int32) := by decide
theorem ib_47 : (Int8.ofInt 47).toInt32 = (47 : Int32) := by decide
theorem ib_48 : (Int8.ofInt 48).toInt32 = (48 : Int32) := by decide
theorem ib_50 : (Int8.ofInt 50).toInt32 = (50 : Int32) := by decide
theorem ib_57 : (Int8.ofInt 57).toInt32 = (57 : Int32) := by decide
theorem ib_59 : (Int8.ofInt 59).toInt32 = (59 : Int32) := by decide
theorem ib_60 : (Int8.ofInt 60).toInt32 = (60 : Int32) := by decide
theorem ib_61 : (Int8.ofInt 61).toInt32 = (61 : Int32) := by decide
theorem ib_62 : (Int8.ofInt 62).toInt32 = (62 : Int32) := by decide
theorem ib_63 : (Int8.ofInt 63).toInt32 = (63 : Int32) := by decide
theorem ib_70 : (Int8.ofInt 70).toInt32 = (70 : Int32) := by decide
theorem ib_80 : (Int8.ofInt 80).toInt32 = (80 : Int32) := by decide
theorem ib_81 : (Int8.ofInt 81).toInt32 = (81 : Int32) := by decide
theorem ib_99 : (Int8.ofInt 99).toInt32 = (99 : Int32) := by decide
theorem ib_120 : (Int8.ofInt 120).toInt32 = (120 : Int32) := by decide
theorem ib_122 : (Int8.ofInt 122).toInt32 = (122 : Int32) := by decide
theorem ib_124 : (Int8.ofInt 124).toInt32 = (124 : Int32) := by decide
theorem ic_m1 : Int32.ofInt (-1) = (-1 : Int32) := by decide
theorem ic_0 : Int32.ofInt 0 = (0 : Int32) := by decide
theorem ic_1 : Int32.ofInt 1 = (1 : Int32) := by decide
theorem ic_2 : Int32.ofInt 2 = (2 : Int32) := by decide
theorem ic_3 : Int32.ofInt 3 = (3 : Int32) := by decide
theorem ic_4 : Int32.ofInt 4 = (4 : Int32) := by decide
theorem ic_5 : Int32.ofInt 5 = (5 : Int32) := by decide
theorem is_128 : (Int16.ofInt 128).toInt32 = (128 : Int32) := by decide
theorem is_130 : (Int16.ofInt 130).toInt32 = (130 : Int32) := by decide
theorem is_200 : (Int16.ofInt 200).toInt32 = (200 : Int32) := by decide
theorem is_255 : (Int16.ofInt 255).toInt32 = (255 : Int32) := by decide
theorem is_260 : (Int16.ofInt 260).toInt32 = (260 : Int32) := by decide
theorem is_336 : (Int16.ofInt 336).toInt32 = (336 : Int32) := by decide
theorem is_360 : (Int16.ofInt 360).toInt32 = (360 : Int32) := by decide
theorem is_999 : (Int16.ofInt 999).toInt32 = (999 : Int32) := by decide
theorem is_7437 : (Int16.ofInt 7437).toInt32 = (7437 : Int32) := by decide
theorem is_9648 : (Int16.ofInt 9648).toInt32 = (9648 : Int32) := by decide
theorem is_12345 : (Int16.ofInt 12345).toInt32 = (12345 : Int32) := by decide
theorem lc_0 : Int64.ofNat 0 = (0 : Int64) := by decide
theorem lc_1 : Int64.ofNat 1 = (1 : Int64) := by decide
theorem fk_0 : ah_isR 0 = true := rfl
theorem pd_0 : parseFieldDescriptor "[LLeftAsFound$Change;" = some (tyX0 0) := tyX0_ok 0 (by decide)
theorem fk_1 : ah_isR 1 = false := rfl
theorem pd_1 : parseFieldDescriptor "I" = some .int := by decide +kernel
theorem fk_2 : ah_isR 2 = false := rfl
theorem pd_2 : parseFieldDescriptor "I" = some .int := by decide +kernel
theorem fk_3 : ah_isR 3 = true := rfl
theorem pd_3 : parseFieldDescriptor "[I" = some (tyX0 3) := tyX0_ok 3 (by decide)
theorem fk_4 : ah_isR 4 = false := rfl
theorem pd_4 : parseFieldDescriptor "I" = some .int := by decide +kernel
theorem fk_5 : ah_isR 5 = true := rfl
theorem pd_5 : parseFieldDescriptor "LLeftAsFound$Fault;" = some (tyX0 5) := tyX0_ok 5 (by decide)
theorem fk_6 : ah_isR 6 = false := rfl
theorem pd_6 : parseFieldDescriptor "I" = some .int := by decide +kernel
theorem fk_7 : ah_isR 7 = true := rfl
theorem pd_7 : parseFieldDescriptor "[LLeftAsFound$Guest;" = some (tyX0 7) := tyX0_ok 7 (by decide)
theorem fk_8 : ah_isR 8 = false := rfl
theorem pd_8 : parseFieldDescriptor "I" = some .int := by decide +kernel
theorem fk_9 : ah_isR 9 = true := rfl
theorem pd_9 : parseFieldDescriptor "[LLeftAsFound$Held;" = some (tyX0 9) := tyX0_ok 9 (by decide)
theorem fk_10 : ah_isR 10 = true := rfl
theorem pd_10 : parseFieldDescriptor "[LLeftAsFound$Held;" = some (tyX0 10) := tyX0_ok 10 (by decide)
theorem fk_11 : ah_isR 11 = true := rfl
theorem pd_11 : parseFieldDescriptor "LLeftAsFound$Held;" = some (tyX0 11) := tyX0_ok 11 (by decide)
theorem fk_12 : ah_isR 12 = true := rfl
theorem pd_12 : parseFieldDescriptor "LLeftAsFound$Held;" = some (tyX0 12) := tyX0_ok 12 (by decide)
theorem fk_13 : ah_isR 13 = true := rfl
theorem pd_13 : parseFieldDescriptor "LLeftAsFound$Held;" = some (tyX0 13) := tyX0_ok 13 (by decide)
theorem fk_14 : ah_isR 14 = true := rfl
theorem pd_14 : parseFieldDescriptor "LLeftAsFound$Torn;" = some (tyX0 14) := tyX0_ok 14 (by decide)
theorem fk_15 : ah_isR 15 = true := rfl
theorem pd_15 : parseFieldDescriptor "[I" = some (tyX0 15) := tyX0_ok 15 (by decide)
theorem fk_16 : ah_isR 16 = false := rfl
theorem pd_16 : parseFieldDescriptor "I" = some .int := by decide +kernel
theorem fk_17 : ah_isR 17 = true := rfl
theorem pd_17 : parseFieldDescriptor "LLeftAsFound$Line;" = some (tyX0 17) := tyX0_ok 17 (by decide)
theorem fk_18 : ah_isR 18 = true := rfl
theorem pd_18 : parseFieldDescriptor "LLeftAsFound$Hut;" = some (tyX0 18) := tyX0_ok 18 (by decide)
theorem fk_19 : ah_isR 19 = true := rfl
theorem pd_19 : parseFieldDescriptor "LLeftAsFound$Hut;" = some (tyX0 19) := tyX0_ok 19 (by decide)
theorem fk_20 : ah_isR 20 = true := rfl
theorem pd_20 : parseFieldDescriptor "[I" = some (tyX0 20) := tyX0_ok 20 (by decide)
theorem fk_21 : ah_isR 21 = false := rfl
theorem pd_21 : parseFieldDescriptor "I" = some .int := by decide +kernel
theorem fk_22 : ah_isR 22 = true := rfl
theorem pd_22 : parseFieldDescriptor "[I" = some (tyX0 22) := tyX0_ok 22 (by decide)
theorem fk_23 : ah_isR 23 = false := rfl
theorem pd_23 : parseFieldDescriptor "I" = some .int := by decide +kernel
theorem fk_24 : ah_isR 24 = false := rfl
theorem pd_24 : parseFieldDescriptor "I" = some .int := by decide +kernel
theorem fk_25 : ah_isR 25 = true := rfl
theorem pd_25 : parseFieldDescriptor "[I" = some (tyX0 25) := tyX0_ok 25 (by decide)
theorem fk_26 : ah_isR 26 = true := rfl
theorem pd_26 : parseFieldDescriptor "[I" = some (tyX0 26) := tyX0_ok 26 (by decide)
theorem fk_27 : ah_isR 27 = true := rfl
theorem pd_27 : parseFieldDescriptor "[I" = some (tyX0 27) := tyX0_ok 27 (by decide)
theorem fk_28 : ah_isR 28 = false := rfl
theorem pd_28 : parseFieldDescriptor "I" = some .int := by decide +kernel
theorem fk_29 : ah_isR 29 = true := rfl
theorem pd_29 : parseFieldDescriptor "[LLeftAsFound$Hut;" = some (tyX0 29) := tyX0_ok 29 (by decide)
theorem fk_30 : ah_isR 30 = true := rfl
theorem pd_30 : parseFieldDescriptor "[I" = some (tyX0 30) := tyX0_ok 30 (by decide)
theorem fk_31 : ah_isR 31 = true := rfl
theorem pd_31 : parseFieldDescriptor "[I" = some (tyX0 31) := tyX0_ok 31 (by decide)
theorem fk_32 : ah_isR 32 = false := rfl
theorem pd_32 : parseFieldDescriptor "I" = some .int := by decide +kernel
theorem fk_33 : ah_isR 33 = true := rfl
theorem pd_33 : parseFieldDescriptor "[I" = some (tyX0 33) := tyX0_ok 33 (by decide)
theorem fk_34 : ah_isR 34 = false := rfl
theorem pd_34 : parseFieldDescriptor "Z" = some .boolean := by decide +kernel
theorem fk_35 : ah_isR 35 = true := rfl
theorem pd_35 : parseFieldDescriptor "LLeftAsFound$Hut;" = some (tyX0 35) := tyX0_ok 35 (by decide)
theorem fk_36 : ah_isR 36 = true := rfl
theorem pd_36 : parseFieldDescriptor "[I" = some (tyX0 36) := tyX0_ok 36 (by decide)
theorem fk_37 : ah_isR 37 = true := rfl
theorem pd_37 : parseFieldDescriptor "[LLeftAsFound$Body;" = some (tyX0 37) := tyX0_ok 37 (by decide)
theorem fk_38 : ah_isR 38 = false := rfl
theorem pd_38 : parseFieldDescriptor "I" = some .int := by decide +kernel
theorem fk_39 : ah_isR 39 = true := rfl
theorem pd_39 : parseFieldDescriptor "[I" = some (tyX0 39) := tyX0_ok 39 (by decide)
theorem fk_40 : ah_isR 40 = false := rfl
theorem pd_40 : parseFieldDescriptor "I" = some .int := by decide +kernel
theorem fk_41 : ah_isR 41 = true := rfl
theorem pd_41 : parseFieldDescriptor "[Ljava/lang/Object;" = some (tyX0 41) := tyX0_ok 41 (by decide)
theorem df_X0 : ∀ j, j < 42 → defaultValue (tyX0 j) = if ah_isR (ah_fid 0 j) = true then .null else .int 0 := by decide +kernel
theorem df_X1 : ∀ j, j < 0 → defaultValue (tyX1 j) = if ah_isR (ah_fid 1 j) = true then .null else .int 0 := by decide +kernel
theorem fk_200 : ah_isR 200 = false := rfl
theorem pd_200 : parseFieldDescriptor "I" = some .int := by decide +kernel
theorem df_X2 : ∀ j, j < 1 → defaultValue (tyX2 j) = if ah_isR (ah_fid 2 j) = true then .null else .int 0 := by decide +kernel
theorem df_X3 : ∀ j, j < 0 → defaultValue (tyX3 j) = if ah_isR (ah_fid 3 j) = true then .null else .int 0 := by decide +kernel
theorem fk_400 : ah_isR 400 = true := rfl
theorem pd_400 : parseFieldDescriptor "[I" = some (tyX4 0) := tyX4_ok 0 (by decide)
theorem fk_401 : ah_isR 401 = true := rfl
theorem pd_401 : parseFieldDescriptor "[I" = some (tyX4 1) := tyX4_ok 1 (by decide)
theorem fk_402 : ah_isR 402 = true := rfl
theorem pd_402 : parseFieldDescriptor "[I" = some (tyX4 2) := tyX4_ok 2 (by decide)
theorem fk_403 : ah_isR 403 = false := rfl
theorem pd_403 : parseFieldDescriptor "I" = some .int := by decide +kernel
theorem fk_404 : ah_isR 404 = false := rfl
theorem pd_404 : parseFieldDescriptor "Z" = some .boolean := by decide +kernel
theorem fk_405 : ah_isR 405 = true := rfl
theorem pd_405 : parseFieldDescriptor "[I" = some (tyX4 5) := tyX4_ok 5 (by decide)
theorem fk_406 : ah_isR 406 = true := rfl
theorem pd_406 : parseFieldDescriptor "LLeftAsFound;" = some (tyX4 6) := tyX4_ok 6 (by decide)
theorem df_X4 : ∀ j, j < 7 → defaultValue (tyX4 j) = if ah_isR (ah_fid 4 j) = true then .null else .int 0 := by decide +kernel
theorem fk_500 : ah_isR 500 = true := rfl
theorem pd_500 : parseFieldDescriptor "LLeftAsFound$Held;" = some (tyX5 0) := tyX5_ok 0 (by decide)
theorem fk_501 : ah_isR 501 = false := rfl
theorem pd_501 : parseFieldDescriptor "I" = some .int := by decide +kernel
theorem fk_502 : ah_isR 502 = false := rfl
theorem pd_502 : parseFieldDescriptor "I" = some .int := by decide +kernel
theorem df_X5 : ∀ j, j < 3 → defaultValue (tyX5 j) = if ah_isR (ah_fid 5 j) = true then .null else .int 0 := by decide +kernel
theorem fk_600 : ah_isR 600 = false := rfl
theorem pd_600 : parseFieldDescriptor "I" = some .int := by decide +kernel
theorem fk_601 : ah_isR 601 = true := rfl
theorem pd_601 : parseFieldDescriptor "[I" = some (tyX6 1) := tyX6_ok 1 (by decide)
theorem fk_602 : ah_isR 602 = true := rfl
theorem pd_602 : parseFieldDescriptor "[I" = some (tyX6 2) := tyX6_ok 2 (by decide)
theorem fk_603 : ah_isR 603 = false := rfl
theorem pd_603 : parseFieldDescriptor "I" = some .int := by decide +kernel
theorem fk_604 : ah_isR 604 = true := rfl
theorem pd_604 : parseFieldDescriptor "[I" = some (tyX6 4) := tyX6_ok 4 (by decide)
theorem fk_605 : ah_isR 605 = true := rfl
theorem pd_605 : parseFieldDescriptor "[I" = some (tyX6 5) := tyX6_ok 5 (by decide)
theorem fk_606 : ah_isR 606 = true := rfl
theorem pd_606 : parseFieldDescriptor "[I" = some (tyX6 6) := tyX6_ok 6 (by decide)
theorem fk_607 : ah_isR 607 = true := rfl
theorem pd_607 : parseFieldDescriptor "[I" = some (tyX6 7) := tyX6_ok 7 (by decide)
theorem fk_608 : ah_isR 608 = false := rfl
theorem pd_608 : parseFieldDescriptor "I" = some .int := by decide +kernel
theorem fk_609 : ah_isR 609 = false := rfl
theorem pd_609 : parseFieldDescriptor "I" = some .int := by decide +kernel
theorem fk_610 : ah_isR 610 = false := rfl
theorem pd_610 : parseFieldDescriptor "I" = some .int := by decide +kernel
theorem fk_611 : ah_isR 611 = true := rfl
theorem pd_611 : parseFieldDescriptor "[I" = some (tyX6 11) := tyX6_ok 11 (by decide)
theorem fk_612 : ah_isR 612 = false := rfl
theorem pd_612 : parseFieldDescriptor "I" = some .int := by decide +kernel
theorem fk_613 : ah_isR 613 = false := rfl
theorem pd_613 : parseFieldDescriptor "I" = some .int := by decide +kernel
theorem fk_614 : ah_isR 614 = true := rfl
theorem pd_614 : parseFieldDescriptor "[I" = some (tyX6 14) := tyX6_ok 14 (by decide)
theorem fk_615 : ah_isR 615 = true := rfl
theorem pd_615 : parseFieldDescriptor "[I" = some (tyX6 15) := tyX6_ok 15 (by decide)
theorem fk_616 : ah_isR 616 = true := rfl
theorem pd_616 : parseFieldDescriptor "[I" = some (tyX6 16) := tyX6_ok 16 (by decide)
theorem fk_617 : ah_isR 617 = true := rfl
theorem pd_617 : parseFieldDescriptor "[I" = some (tyX6 17) := tyX6_ok 17 (by decide)
theorem fk_618 : ah_isR 618 = true := rfl
theorem pd_618 : parseFieldDescriptor "[B" = some (tyX6 18) := tyX6_ok 18 (by decide)
theorem fk_619 : ah_isR 619 = false := rfl
theorem pd_619 : parseFieldDescriptor "I" = some .int := by decide +kernel
theorem fk_620 : ah_isR 620 = false := rfl
theorem pd_620 : parseFieldDescriptor "I" = some .int := by decide +kernel
theorem fk_621 : ah_isR 621 = false := rfl
theorem pd_621 : parseFieldDescriptor "I" = some .int := by decide +kernel
theorem fk_622 : ah_isR 622 = false := rfl
theorem pd_622 : parseFieldDescriptor "I" = some .int := by decide +kernel
theorem fk_623 : ah_isR 623 = false := rfl
theorem pd_623 : parseFieldDescriptor "I" = some .int := by decide +kernel
theorem fk_624 : ah_isR 624 = true := rfl
theorem pd_624 : parseFieldDescriptor "[B" = some (tyX6 24) := tyX6_ok 24 (by decide)
theorem fk_625 : ah_isR 625 = true := rfl
theorem pd_625 : parseFieldDescriptor "[I" = some (tyX6 25) := tyX6_ok 25 (by decide)
theorem fk_626 : ah_isR 626 = true := rfl
theorem pd_626 : parseFieldDescriptor "[I" = some (tyX6 26) := tyX6_ok 26 (by decide)
theorem fk_627 : ah_isR 627 = true := rfl
theorem pd_627 : parseFieldDescriptor "[S" = some (tyX6 27) := tyX6_ok 27 (by decide)
theorem fk_628 : ah_isR 628 = true := rfl
theorem pd_628 : parseFieldDescriptor "[S" = some (tyX6 28) := tyX6_ok 28 (by decide)
theorem fk_629 : ah_isR 629 = true := rfl
theorem pd_629 : parseFieldDescriptor "[I" = some (tyX6 29) := tyX6_ok 29 (by decide)
theorem fk_630 : ah_isR 630 = true := rfl
theorem pd_630 : parseFieldDescriptor "[I" = some (tyX6 30) := tyX6_ok 30 (by decide)
theorem fk_631 : ah_isR 631 = false := rfl
theorem pd_631 : parseFieldDescriptor "Z" = some .boolean := by decide +kernel
theorem fk_632 : ah_isR 632 = true := rfl
theorem pd_632 : parseFieldDescriptor "[I" = some (tyX6 32) := tyX6_ok 32 (by decide)
theorem fk_633 : ah_isR 633 = true := rfl
theorem pd_633 : parseFieldDescriptor "[I" = some (tyX6 33) := tyX6_ok 33 (by decide)
theorem fk_634 : ah_isR 634 = true := rfl
theorem pd_634 : parseFieldDescriptor "[I" = some (tyX6 34) := tyX6_ok 34 (by decide)
theorem fk_635 : ah_isR 635 = true := rfl
theorem pd_635 : parseFieldDescriptor "[I" = some (tyX6 35) := tyX6_ok 35 (by decide)
theorem fk_636 : ah_isR 636 = false := rfl
theorem pd_636 : parseFieldDescriptor "I" = some .int := by decide +kernel
theorem fk_637 : ah_isR 637 = true := rfl
theorem pd_637 : parseFieldDescriptor "[I" = some (tyX6 37) := tyX6_ok 37 (by decide)
theorem fk_638 : ah_isR 638 = true := rfl
theorem pd_638 : parseFieldDescriptor "[I" = some (tyX6 38) := tyX6_ok 38 (by decide)
theorem fk_639 : ah_isR 639 = true := rfl
theorem pd_639 : parseFieldDescriptor "[I" = some (tyX6 39) := tyX6_ok 39 (by decide)
theorem fk_640 : ah_isR 640 = true := rfl
theorem pd_640 : parseFieldDescriptor "[I" = some (tyX6 40) := tyX6_ok 40 (by decide)
theorem fk_641 : ah_isR 641 = false := rfl
theorem pd_641 : parseFieldDescriptor "I" = some .int := by decide +kernel
theorem fk_642 : ah_isR 642 = true := rfl
theorem pd_642 : parseFieldDescriptor "[I" = some (tyX6 42) := tyX6_ok 42 (by decide)
theorem fk_643 : ah_isR 643 = true := rfl
theorem pd_643 : parseFieldDescriptor "[I" = some (tyX6 43) := tyX6_ok 43 (by decide)
theorem fk_644 : ah_isR 644 = false := rfl
theorem pd_644 : parseFieldDescriptor "I" = some .int := by decide +kernel
theorem fk_645 : ah_isR 645 = true := rfl
theorem pd_645 : parseFieldDescriptor "[I" = some (tyX6 45) := tyX6_ok 45 (by decide)
theorem fk_646 : ah_isR 646 = false := rfl
theorem pd_646 : parseFieldDescriptor "I" = some .int := by decide +kernel
theorem fk_647 : ah_isR 647 = false := rfl
theorem pd_647 : parseFieldDescriptor "I" = some .int := by decide +kernel
theorem fk_648 : ah_isR 648 = true := rfl
theorem pd_648 : parseFieldDescriptor "[I" = some (tyX6 48) := tyX6_ok 48 (by decide)
theorem fk_649 : ah_isR 649 = false := rfl
theorem pd_649 : parseFieldDescriptor "Z" = some .boolean := by decide +kernel
theorem fk_650 : ah_isR 650 = true := rfl
theorem pd_650 : parseFieldDescriptor "[I" = some (tyX6 50) := tyX6_ok 50 (by decide)
theorem fk_651 : ah_isR 651 = true := rfl
theorem pd_651 : parseFieldDescriptor "[I" = some (tyX6 51) := tyX6_ok 51 (by decide)
theorem fk_652 : ah_isR 652 = false := rfl
theorem pd_652 : parseFieldDescriptor "I" = some .int := by decide +kernel
theorem fk_653 : ah_isR 653 = true := rfl
theorem pd_653 : parseFieldDescriptor "[I" = some (tyX6 53) := tyX6_ok 53 (by decide)
theorem fk_654 : ah_isR 654 = false := rfl
theorem pd_654 : parseFieldDescriptor "I" = some .int := by decide +kernel
theorem fk_655 : ah_isR 655 = true := rfl
theorem pd_655 : parseFieldDescriptor "[I" = some (tyX6 55) := tyX6_ok 55 (by decide)
theorem fk_656 : ah_isR 656 = true := rfl
theorem pd_656 : parseFieldDescriptor "[I" = some (tyX6 56) := tyX6_ok 56 (by decide)
theorem fk_657 : ah_isR 657 = true := rfl
theorem pd_657 : parseFieldDescriptor "[I" = some (tyX6 57) := tyX6_ok 57 (by decide)
theorem fk_658 : ah_isR 658 = true := rfl
theorem pd_658 : parseFieldDescriptor "[J" = some (tyX6 58) := tyX6_ok 58 (by decide)
theorem fk_659 : ah_isR 659 = true := rfl
theorem pd_659 : parseFieldDescriptor "[J" = some (tyX6 59) := tyX6_ok 59 (by decide)
theorem df_X6 : ∀ j, j < 60 → defaultValue (tyX6 j) = if ah_isR (ah_fid 6 j) = true then .null else .int 0 := by decide +kernel
theorem fk_700 : ah_isR 700 = true := rfl
theorem pd_700 : parseFieldDescriptor "[LLeftAsFound$Held;" = some (tyX7 0) := tyX7_ok 0 (by decide)
theorem fk_701 : ah_isR 701 = true := rfl
theorem pd_701 : parseFieldDescriptor "[LLeftAsFound$Held;" = some (tyX7 1) := tyX7_ok 1 (by decide)
theorem fk_702 : ah_isR 702 = true := rfl
theorem pd_702 : parseFieldDescriptor "LLeftAsFound$Held;" = some (tyX7 2) := tyX7_ok 2 (by decide)
theorem fk_703 : ah_isR 703 = true := rfl
theorem pd_703 : parseFieldDescriptor "LLeftAsFound$Held;" = some (tyX7 3) := tyX7_ok 3 (by decide)
theorem df_X7 : ∀ j, j < 4 → defaultValue (tyX7 j) = if ah_isR (ah_fid 7 j) = true then .null else .int 0 := by decide +kernel
theorem fk_800 : ah_isR 800 = true := rfl
theorem pd_800 : parseFieldDescriptor "LLeftAsFound$Term;" = some (tyX8 0) := tyX8_ok 0 (by decide)
theorem fk_801 : ah_isR 801 = true := rfl
theorem pd_801 : parseFieldDescriptor "LLeftAsFound$Term;" = some (tyX8 1) := tyX8_ok 1 (by decide)
theorem fk_802 : ah_isR 802 = true := rfl
theorem pd_802 : parseFieldDescriptor "LLeftAsFound$Line;" = some (tyX8 2) := tyX8_ok 2 (by decide)
theorem df_X8 : ∀ j, j < 3 → defaultValue (tyX8 j) = if ah_isR (ah_fid 8 j) = true then .null else .int 0 := by decide +kernel
theorem fk_1000 : ah_isR 1000 = false := rfl
theorem pd_1000 : parseFieldDescriptor "I" = some .int := by decide +kernel
theorem df_X10 : ∀ j, j < 1 → defaultValue (tyX10 j) = if ah_isR (ah_fid 10 j) = true then .null else .int 0 := by decide +kernel
theorem fk_1100 : ah_isR 1100 = false := rfl
theorem pd_1100 : parseFieldDescriptor "I" = some .int := by decide +kernel
theorem fk_1101 : ah_isR 1101 = true := rfl
theorem pd_1101 : parseFieldDescriptor "LLeftAsFound;" = some (tyX11 1) := tyX11_ok 1 (by decide)
theorem df_X11 : ∀ j, j < 2 → defaultValue (tyX11 j) = if ah_isR (ah_fid 11 j) = true then .null else .int 0 := by decide +kernel
theorem fk_1200 : ah_isR 1200 = false := rfl
theorem pd_1200 : parseFieldDescriptor "I" = some .int := by decide +kernel
theorem fk_1201 : ah_isR 1201 = true := rfl
theorem pd_1201 : parseFieldDescriptor "LLeftAsFound$Term;" = some (tyX12 1) := tyX12_ok 1 (by decide)
theorem df_X12 : ∀ j, j < 2 → defaultValue (tyX12 j) = if ah_isR (ah_fid 12 j) = true then .null else .int 0 := by decide +kernel
theorem fk_1300 : ah_isR 1300 = false := rfl
theorem pd_1300 : parseFieldDescriptor "I" = some .int := by decide +kernel
theorem fk_1301 : ah_isR 1301 = true := rfl
theorem pd_1301 : parseFieldDescriptor "LLeftAsFound$Term;" = some (tyX13 1) := tyX13_ok 1 (by decide)
theorem fk_1302 : ah_isR 1302 = true := rfl
theorem pd_1302 : parseFieldDescriptor "LLeftAsFound$Term;" = some (tyX13 2) := tyX13_ok 2 (by decide)
theorem df_X13 : ∀ j, j < 3 → defaultValue (tyX13 j) = if ah_isR (ah_fid 13 j) = true then .null else .int 0 := by decide +kernel
theorem fk_1400 : ah_isR 1400 = false := rfl
theorem pd_1400 : parseFieldDescriptor "I" = some .int := by decide +kernel
theorem fk_1401 : ah_isR 1401 = true := rfl
theorem pd_1401 : parseFieldDescriptor "LLeftAsFound;" = some (tyX14 1) := tyX14_ok 1 (by decide)
theorem df_X14 : ∀ j, j < 2 → defaultValue (tyX14 j) = if ah_isR (ah_fid 14 j) = true then .null else .int 0 := by decide +kernel
theorem fk_1502 : ah_isR 1502 = true := rfl
theorem pd_1502 : parseFieldDescriptor "LLeftAsFound;" = some (tyX15 2) := tyX15_ok 2 (by decide)
theorem df_X15 : ∀ j, j < 3 → defaultValue (tyX15 j) = if ah_isR (ah_fid 15 j) = true then .null else .int 0 := by decide +kernel
theorem fk_1602 : ah_isR 1602 = true := rfl
theorem pd_1602 : parseFieldDescriptor "LLeftAsFound;" = some (tyX16 2) := tyX16_ok 2 (by decide)
theorem df_X16 : ∀ j, j < 3 → defaultValue (tyX16 j) = if ah_isR (ah_fid 16 j) = true then .null else .int 0 := by decide +kernel
theorem fk_1703 : ah_isR 1703 = true := rfl
theorem pd_1703 : parseFieldDescriptor "LLeftAsFound;" = some (tyX17 3) := tyX17_ok 3 (by decide)
theorem df_X17 : ∀ j, j < 4 → defaultValue (tyX17 j) = if ah_isR (ah_fid 17 j) = true then .null else .int 0 := by decide +kernel
theorem fk_1803 : ah_isR 1803 = true := rfl
theorem pd_1803 : parseFieldDescriptor "LLeftAsFound;" = some (tyX18 3) := tyX18_ok 3 (by decide)
theorem df_X18 : ∀ j, j < 4 → defaultValue (tyX18 j) = if ah_isR (ah_fid 18 j) = true then .null else .int 0 := by decide +kernel
theorem fk_1904 : ah_isR 1904 = true := rfl
theorem pd_1904 : parseFieldDescriptor "LLeftAsFound;" = some (tyX19 4) := tyX19_ok 4 (by decide)
theorem df_X19 : ∀ j, j < 5 → defaultValue (tyX19 j) = if ah_isR (ah_fid 19 j) = true then .null else .int 0 := by decide +kernel
theorem fk_2002 : ah_isR 2002 = true := rfl
theorem pd_2002 : parseFieldDescriptor "LLeftAsFound;" = some (tyX20 2) := tyX20_ok 2 (by decide)
theorem df_X20 : ∀ j, j < 3 → defaultValue (tyX20 j) = if ah_isR (ah_fid 20 j) = true then .null else .int 0 := by decide +kernel
theorem fk_2103 : ah_isR 2103 = true := rfl
theorem pd_2103 : parseFieldDescriptor "LLeftAsFound;" = some (tyX21 3) := tyX21_ok 3 (by decide)
theorem df_X21 : ∀ j, j < 4 → defaultValue (tyX21 j) = if ah_isR (ah_fid 21 j) = true then .null else .int 0 := by decide +kernel
theorem dd_J0_init_2 : yJ0_init_2.cls ≠ "java/lang/invoke/MethodHandle" ∧ yJ0_init_2.cls ≠ "java/lang/invoke/VarHandle" ∧ (parseMethodDescriptor yJ0_init_2.desc).map (fun d => d.parameters.length) = some 4 := by decide +kernel
theorem dd_J1_init : yJ1_init.cls ≠ "java/lang/invoke/MethodHandle" ∧ yJ1_init.cls ≠ "java/lang/invoke/VarHandle" ∧ (parseMethodDescriptor yJ1_init.desc).map (fun d => d.parameters.length) = some 4 := by decide +kernel
theorem dd_J2_init : yJ2_init.cls ≠ "java/lang/invoke/MethodHandle" ∧ yJ2_init.cls ≠ "java/lang/invoke/VarHandle" ∧ (parseMethodDescriptor yJ2_init.desc).map (fun d => d.parameters.length) = some 4 := by decide +kernel
theorem dd_X0_become : yX0_become.cls ≠ "java/lang/invoke/MethodHandle" ∧ yX0_become.cls ≠ "java/lang/invoke/VarHandle" ∧ (parseMethodDescriptor yX0_become.desc).map (fun d => d.parameters.length) = some 2 := by decide +kernel
theorem dd_X0_bit : yX0_bit.cls ≠ "java/lang/invoke/MethodHandle" ∧ yX0_bit.cls ≠ "java/lang/invoke/VarHandle" ∧ (parseMethodDescriptor yX0_bit.desc).map (fun d => d.parameters.length) = some 1 := by decide +kernel
theorem dd_X0_comesAt : yX0_comesAt.cls ≠ "java/lang/invoke/MethodHandle" ∧ yX0_comesAt.cls ≠ "java/lang/invoke/VarHandle" ∧ (parseMethodDescriptor yX0_comesAt.desc).map (fun d => d.parameters.length) = some 1 := by decide +kernel
theorem dd_X0_common : yX0_common.cls ≠ "java/lang/invoke/MethodHandle" ∧ yX0_common.cls ≠ "java/lang/invoke/VarHandle" ∧ (parseMethodDescriptor yX0_common.desc).map (fun d => d.parameters.length) = some 2 := by decide +kernel
theorem dd_X0_expect : yX0_expect.cls ≠ "java/lang/invoke/MethodHandle" ∧ yX0_expect.cls ≠ "java/lang/invoke/VarHandle" ∧ (parseMethodDescriptor yX0_expect.desc).map (fun d => d.parameters.length) = some 1 := by decide +kernel
theorem dd_X0_findRest : yX0_findRest.cls ≠ "java/lang/invoke/MethodHandle" ∧ yX0_findRest.cls ≠ "java/lang/invoke/VarHandle" ∧ (parseMethodDescriptor yX0_findRest.desc).map (fun d => d.parameters.length) = some 0 := by decide +kernel
theorem dd_X0_goDeeper : yX0_goDeeper.cls ≠ "java/lang/invoke/MethodHandle" ∧ yX0_goDeeper.cls ≠ "java/lang/invoke/VarHandle" ∧ (parseMethodDescriptor yX0_goDeeper.desc).map (fun d => d.parameters.length) = some 4 := by decide +kernel
theorem dd_X0_greatest : yX0_greatest.cls ≠ "java/lang/invoke/MethodHandle" ∧ yX0_greatest.cls ≠ "java/lang/invoke/VarHandle" ∧ (parseMethodDescriptor yX0_greatest.desc).map (fun d => d.parameters.length) = some 1 := by decide +kernel
theorem dd_X0_held : yX0_held.cls ≠ "java/lang/invoke/MethodHandle" ∧ yX0_held.cls ≠ "java/lang/invoke/VarHandle" ∧ (parseMethodDescriptor yX0_held.desc).map (fun d => d.parameters.length) = some 2 := by decide +kernel
theorem dd_X0_heldAt : yX0_heldAt.cls ≠ "java/lang/invoke/MethodHandle" ∧ yX0_heldAt.cls ≠ "java/lang/invoke/VarHandle" ∧ (parseMethodDescriptor yX0_heldAt.desc).map (fun d => d.parameters.length) = some 1 := by decide +kernel
theorem dd_X0_isBody : yX0_isBody.cls ≠ "java/lang/invoke/MethodHandle" ∧ yX0_isBody.cls ≠ "java/lang/invoke/VarHandle" ∧ (parseMethodDescriptor yX0_isBody.desc).map (fun d => d.parameters.length) = some 1 := by decide +kernel
theorem dd_X0_isDigit : yX0_isDigit.cls ≠ "java/lang/invoke/MethodHandle" ∧ yX0_isDigit.cls ≠ "java/lang/invoke/VarHandle" ∧ (parseMethodDescriptor yX0_isDigit.desc).map (fun d => d.parameters.length) = some 0 := by decide +kernel
theorem dd_X0_isGt : yX0_isGt.cls ≠ "java/lang/invoke/MethodHandle" ∧ yX0_isGt.cls ≠ "java/lang/invoke/VarHandle" ∧ (parseMethodDescriptor yX0_isGt.desc).map (fun d => d.parameters.length) = some 1 := by decide +kernel
theorem dd_X0_isGuest : yX0_isGuest.cls ≠ "java/lang/invoke/MethodHandle" ∧ yX0_isGuest.cls ≠ "java/lang/invoke/VarHandle" ∧ (parseMethodDescriptor yX0_isGuest.desc).map (fun d => d.parameters.length) = some 1 := by decide +kernel
theorem dd_X0_isIn : yX0_isIn.cls ≠ "java/lang/invoke/MethodHandle" ∧ yX0_isIn.cls ≠ "java/lang/invoke/VarHandle" ∧ (parseMethodDescriptor yX0_isIn.desc).map (fun d => d.parameters.length) = some 2 := by decide +kernel
theorem dd_X0_isLike : yX0_isLike.cls ≠ "java/lang/invoke/MethodHandle" ∧ yX0_isLike.cls ≠ "java/lang/invoke/VarHandle" ∧ (parseMethodDescriptor yX0_isLike.desc).map (fun d => d.parameters.length) = some 2 := by decide +kernel
theorem dd_X0_isShelf : yX0_isShelf.cls ≠ "java/lang/invoke/MethodHandle" ∧ yX0_isShelf.cls ≠ "java/lang/invoke/VarHandle" ∧ (parseMethodDescriptor yX0_isShelf.desc).map (fun d => d.parameters.length) = some 1 := by decide +kernel
theorem dd_X0_isThing : yX0_isThing.cls ≠ "java/lang/invoke/MethodHandle" ∧ yX0_isThing.cls ≠ "java/lang/invoke/VarHandle" ∧ (parseMethodDescriptor yX0_isThing.desc).map (fun d => d.parameters.length) = some 1 := by decide +kernel
theorem dd_X0_keepState : yX0_keepState.cls ≠ "java/lang/invoke/MethodHandle" ∧ yX0_keepState.cls ≠ "java/lang/invoke/VarHandle" ∧ (parseMethodDescriptor yX0_keepState.desc).map (fun d => d.parameters.length) = some 1 := by decide +kernel
theorem dd_X0_leftBy : yX0_leftBy.cls ≠ "java/lang/invoke/MethodHandle" ∧ yX0_leftBy.cls ≠ "java/lang/invoke/VarHandle" ∧ (parseMethodDescriptor yX0_leftBy.desc).map (fun d => d.parameters.length) = some 4 := by decide +kernel
theorem dd_X0_lookAt : yX0_lookAt.cls ≠ "java/lang/invoke/MethodHandle" ∧ yX0_lookAt.cls ≠ "java/lang/invoke/VarHandle" ∧ (parseMethodDescriptor yX0_lookAt.desc).map (fun d => d.parameters.length) = some 1 := by decide +kernel
theorem dd_X0_lossOfRow : yX0_lossOfRow.cls ≠ "java/lang/invoke/MethodHandle" ∧ yX0_lossOfRow.cls ≠ "java/lang/invoke/VarHandle" ∧ (parseMethodDescriptor yX0_lossOfRow.desc).map (fun d => d.parameters.length) = some 0 := by decide +kernel
theorem dd_X0_mayBe : yX0_mayBe.cls ≠ "java/lang/invoke/MethodHandle" ∧ yX0_mayBe.cls ≠ "java/lang/invoke/VarHandle" ∧ (parseMethodDescriptor yX0_mayBe.desc).map (fun d => d.parameters.length) = some 3 := by decide +kernel
theorem dd_X0_nameOf : yX0_nameOf.cls ≠ "java/lang/invoke/MethodHandle" ∧ yX0_nameOf.cls ≠ "java/lang/invoke/VarHandle" ∧ (parseMethodDescriptor yX0_nameOf.desc).map (fun d => d.parameters.length) = some 1 := by decide +kernel
theorem dd_X0_ones : yX0_ones.cls ≠ "java/lang/invoke/MethodHandle" ∧ yX0_ones.cls ≠ "java/lang/invoke/VarHandle" ∧ (parseMethodDescriptor yX0_ones.desc).map (fun d => d.parameters.length) = some 1 := by decide +kernel
theorem dd_X0_partOf : yX0_partOf.cls ≠ "java/lang/invoke/MethodHandle" ∧ yX0_partOf.cls ≠ "java/lang/invoke/VarHandle" ∧ (parseMethodDescriptor yX0_partOf.desc).map (fun d => d.parameters.length) = some 3 := by decide +kernel
theorem dd_X0_peek : yX0_peek.cls ≠ "java/lang/invoke/MethodHandle" ∧ yX0_peek.cls ≠ "java/lang/invoke/VarHandle" ∧ (parseMethodDescriptor yX0_peek.desc).map (fun d => d.parameters.length) = some 0 := by decide +kernel
theorem dd_X0_readAll : yX0_readAll.cls ≠ "java/lang/invoke/MethodHandle" ∧ yX0_readAll.cls ≠ "java/lang/invoke/VarHandle" ∧ (parseMethodDescriptor yX0_readAll.desc).map (fun d => d.parameters.length) = some 0 := by decide +kernel
theorem dd_X0_readBack : yX0_readBack.cls ≠ "java/lang/invoke/MethodHandle" ∧ yX0_readBack.cls ≠ "java/lang/invoke/VarHandle" ∧ (parseMethodDescriptor yX0_readBack.desc).map (fun d => d.parameters.length) = some 2 := by decide +kernel
theorem dd_X0_readEither : yX0_readEither.cls ≠ "java/lang/invoke/MethodHandle" ∧ yX0_readEither.cls ≠ "java/lang/invoke/VarHandle" ∧ (parseMethodDescriptor yX0_readEither.desc).map (fun d => d.parameters.length) = some 0 := by decide +kernel
theorem dd_X0_readLaw : yX0_readLaw.cls ≠ "java/lang/invoke/MethodHandle" ∧ yX0_readLaw.cls ≠ "java/lang/invoke/VarHandle" ∧ (parseMethodDescriptor yX0_readLaw.desc).map (fun d => d.parameters.length) = some 0 := by decide +kernel
theorem dd_X0_readLike : yX0_readLike.cls ≠ "java/lang/invoke/MethodHandle" ∧ yX0_readLike.cls ≠ "java/lang/invoke/VarHandle" ∧ (parseMethodDescriptor yX0_readLike.desc).map (fun d => d.parameters.length) = some 0 := by decide +kernel
theorem dd_X0_readLine : yX0_readLine.cls ≠ "java/lang/invoke/MethodHandle" ∧ yX0_readLine.cls ≠ "java/lang/invoke/VarHandle" ∧ (parseMethodDescriptor yX0_readLine.desc).map (fun d => d.parameters.length) = some 0 := by decide +kernel
theorem dd_X0_readOne : yX0_readOne.cls ≠ "java/lang/invoke/MethodHandle" ∧ yX0_readOne.cls ≠ "java/lang/invoke/VarHandle" ∧ (parseMethodDescriptor yX0_readOne.desc).map (fun d => d.parameters.length) = some 0 := by decide +kernel
theorem dd_X0_readPlus : yX0_readPlus.cls ≠ "java/lang/invoke/MethodHandle" ∧ yX0_readPlus.cls ≠ "java/lang/invoke/VarHandle" ∧ (parseMethodDescriptor yX0_readPlus.desc).map (fun d => d.parameters.length) = some 0 := by decide +kernel
theorem dd_X0_readTimes : yX0_readTimes.cls ≠ "java/lang/invoke/MethodHandle" ∧ yX0_readTimes.cls ≠ "java/lang/invoke/VarHandle" ∧ (parseMethodDescriptor yX0_readTimes.desc).map (fun d => d.parameters.length) = some 0 := by decide +kernel
theorem dd_X0_refusal : yX0_refusal.cls ≠ "java/lang/invoke/MethodHandle" ∧ yX0_refusal.cls ≠ "java/lang/invoke/VarHandle" ∧ (parseMethodDescriptor yX0_refusal.desc).map (fun d => d.parameters.length) = some 2 := by decide +kernel
theorem dd_X0_ruled : yX0_ruled.cls ≠ "java/lang/invoke/MethodHandle" ∧ yX0_ruled.cls ≠ "java/lang/invoke/VarHandle" ∧ (parseMethodDescriptor yX0_ruled.desc).map (fun d => d.parameters.length) = some 0 := by decide +kernel
theorem dd_X0_sizeOf : yX0_sizeOf.cls ≠ "java/lang/invoke/MethodHandle" ∧ yX0_sizeOf.cls ≠ "java/lang/invoke/VarHandle" ∧ (parseMethodDescriptor yX0_sizeOf.desc).map (fun d => d.parameters.length) = some 1 := by decide +kernel
theorem dd_X0_sortOf : yX0_sortOf.cls ≠ "java/lang/invoke/MethodHandle" ∧ yX0_sortOf.cls ≠ "java/lang/invoke/VarHandle" ∧ (parseMethodDescriptor yX0_sortOf.desc).map (fun d => d.parameters.length) = some 1 := by decide +kernel
theorem dd_X0_staysAbove : yX0_staysAbove.cls ≠ "java/lang/invoke/MethodHandle" ∧ yX0_staysAbove.cls ≠ "java/lang/invoke/VarHandle" ∧ (parseMethodDescriptor yX0_staysAbove.desc).map (fun d => d.parameters.length) = some 4 := by decide +kernel
theorem dd_X0_take : yX0_take.cls ≠ "java/lang/invoke/MethodHandle" ∧ yX0_take.cls ≠ "java/lang/invoke/VarHandle" ∧ (parseMethodDescriptor yX0_take.desc).map (fun d => d.parameters.length) = some 1 := by decide +kernel
theorem dd_X0_takeRow : yX0_takeRow.cls ≠ "java/lang/invoke/MethodHandle" ∧ yX0_takeRow.cls ≠ "java/lang/invoke/VarHandle" ∧ (parseMethodDescriptor yX0_takeRow.desc).map (fun d => d.parameters.length) = some 1 := by decide +kernel
theorem dd_X0_takes1Row : yX0_takes1Row.cls ≠ "java/lang/invoke/MethodHandle" ∧ yX0_takes1Row.cls ≠ "java/lang/invoke/VarHandle" ∧ (parseMethodDescriptor yX0_takes1Row.desc).map (fun d => d.parameters.length) = some 1 := by decide +kernel
theorem dd_X0_toldIn : yX0_toldIn.cls ≠ "java/lang/invoke/MethodHandle" ∧ yX0_toldIn.cls ≠ "java/lang/invoke/VarHandle" ∧ (parseMethodDescriptor yX0_toldIn.desc).map (fun d => d.parameters.length) = some 2 := by decide +kernel
theorem dd_X0_tryOrders : yX0_tryOrders.cls ≠ "java/lang/invoke/MethodHandle" ∧ yX0_tryOrders.cls ≠ "java/lang/invoke/VarHandle" ∧ (parseMethodDescriptor yX0_tryOrders.desc).map (fun d => d.parameters.length) = some 3 := by decide +kernel
theorem dd_X0_wardenCost : yX0_wardenCost.cls ≠ "java/lang/invoke/MethodHandle" ∧ yX0_wardenCost.cls ≠ "java/lang/invoke/VarHandle" ∧ (parseMethodDescriptor yX0_wardenCost.desc).map (fun d => d.parameters.length) = some 1 := by decide +kernel
theorem dd_X0_within : yX0_within.cls ≠ "java/lang/invoke/MethodHandle" ∧ yX0_within.cls ≠ "java/lang/invoke/VarHandle" ∧ (parseMethodDescriptor yX0_within.desc).map (fun d => d.parameters.length) = some 3 := by decide +kernel
theorem dd_X10_init : yX10_init.cls ≠ "java/lang/invoke/MethodHandle" ∧ yX10_init.cls ≠ "java/lang/invoke/VarHandle" ∧ (parseMethodDescriptor yX10_init.desc).map (fun d => d.parameters.length) = some 1 := by decide +kernel
theorem dd_X11_init : yX11_init.cls ≠ "java/lang/invoke/MethodHandle" ∧ yX11_init.cls ≠ "java/lang/invoke/VarHandle" ∧ (parseMethodDescriptor yX11_init.desc).map (fun d => d.parameters.length) = some 2 := by decide +kernel
theorem dd_X12_init : yX12_init.cls ≠ "java/lang/invoke/MethodHandle" ∧ yX12_init.cls ≠ "java/lang/invoke/VarHandle" ∧ (parseMethodDescriptor yX12_init.desc).map (fun d => d.parameters.length) = some 2 := by decide +kernel
theorem dd_X13_init : yX13_init.cls ≠ "java/lang/invoke/MethodHandle" ∧ yX13_init.cls ≠ "java/lang/invoke/VarHandle" ∧ (parseMethodDescriptor yX13_init.desc).map (fun d => d.parameters.length) = some 3 := by decide +kernel
theorem dd_X1_init : yX1_init.cls ≠ "java/lang/invoke/MethodHandle" ∧ yX1_init.cls ≠ "java/lang/invoke/VarHandle" ∧ (parseMethodDescriptor yX1_init.desc).map (fun d => d.parameters.length) = some 0 := by decide +kernel
theorem dd_X2_init : yX2_init.cls ≠ "java/lang/invoke/MethodHandle" ∧ yX2_init.cls ≠ "java/lang/invoke/VarHandle" ∧ (parseMethodDescriptor yX2_init.desc).map (fun d => d.parameters.length) = some 0 := by decide +kernel
theorem dd_X3_init : yX3_init.cls ≠ "java/lang/invoke/MethodHandle" ∧ yX3_init.cls ≠ "java/lang/invoke/VarHandle" ∧ (parseMethodDescriptor yX3_init.desc).map (fun d => d.parameters.length) = some 0 := by decide +kernel
theorem dd_X4_beAs : yX4_beAs.cls ≠ "java/lang/invoke/MethodHandle" ∧ yX4_beAs.cls ≠ "java/lang/invoke/VarHandle" ∧ (parseMethodDescriptor yX4_beAs.desc).map (fun d => d.parameters.length) = some 1 := by decide +kernel
theorem dd_X4_believedBy : yX4_believedBy.cls ≠ "java/lang/invoke/MethodHandle" ∧ yX4_believedBy.cls ≠ "java/lang/invoke/VarHandle" ∧ (parseMethodDescriptor yX4_believedBy.desc).map (fun d => d.parameters.length) = some 2 := by decide +kernel
theorem dd_X4_init : yX4_init.cls ≠ "java/lang/invoke/MethodHandle" ∧ yX4_init.cls ≠ "java/lang/invoke/VarHandle" ∧ (parseMethodDescriptor yX4_init.desc).map (fun d => d.parameters.length) = some 1 := by decide +kernel
theorem dd_X4_lacks : yX4_lacks.cls ≠ "java/lang/invoke/MethodHandle" ∧ yX4_lacks.cls ≠ "java/lang/invoke/VarHandle" ∧ (parseMethodDescriptor yX4_lacks.desc).map (fun d => d.parameters.length) = some 1 := by decide +kernel
theorem dd_X4_loss : yX4_loss.cls ≠ "java/lang/invoke/MethodHandle" ∧ yX4_loss.cls ≠ "java/lang/invoke/VarHandle" ∧ (parseMethodDescriptor yX4_loss.desc).map (fun d => d.parameters.length) = some 0 := by decide +kernel
theorem dd_X4_night : yX4_night.cls ≠ "java/lang/invoke/MethodHandle" ∧ yX4_night.cls ≠ "java/lang/invoke/VarHandle" ∧ (parseMethodDescriptor yX4_night.desc).map (fun d => d.parameters.length) = some 1 := by decide +kernel
theorem dd_X5_init : yX5_init.cls ≠ "java/lang/invoke/MethodHandle" ∧ yX5_init.cls ≠ "java/lang/invoke/VarHandle" ∧ (parseMethodDescriptor yX5_init.desc).map (fun d => d.parameters.length) = some 0 := by decide +kernel
theorem dd_X6_addGuest : yX6_addGuest.cls ≠ "java/lang/invoke/MethodHandle" ∧ yX6_addGuest.cls ≠ "java/lang/invoke/VarHandle" ∧ (parseMethodDescriptor yX6_addGuest.desc).map (fun d => d.parameters.length) = some 3 := by decide +kernel
theorem dd_X6_addStep : yX6_addStep.cls ≠ "java/lang/invoke/MethodHandle" ∧ yX6_addStep.cls ≠ "java/lang/invoke/VarHandle" ∧ (parseMethodDescriptor yX6_addStep.desc).map (fun d => d.parameters.length) = some 2 := by decide +kernel
theorem dd_X6_againAt : yX6_againAt.cls ≠ "java/lang/invoke/MethodHandle" ∧ yX6_againAt.cls ≠ "java/lang/invoke/VarHandle" ∧ (parseMethodDescriptor yX6_againAt.desc).map (fun d => d.parameters.length) = some 1 := by decide +kernel
theorem dd_X6_areTwo : yX6_areTwo.cls ≠ "java/lang/invoke/MethodHandle" ∧ yX6_areTwo.cls ≠ "java/lang/invoke/VarHandle" ∧ (parseMethodDescriptor yX6_areTwo.desc).map (fun d => d.parameters.length) = some 1 := by decide +kernel
theorem dd_X6_asPart : yX6_asPart.cls ≠ "java/lang/invoke/MethodHandle" ∧ yX6_asPart.cls ≠ "java/lang/invoke/VarHandle" ∧ (parseMethodDescriptor yX6_asPart.desc).map (fun d => d.parameters.length) = some 3 := by decide +kernel
theorem dd_X6_bareComes : yX6_bareComes.cls ≠ "java/lang/invoke/MethodHandle" ∧ yX6_bareComes.cls ≠ "java/lang/invoke/VarHandle" ∧ (parseMethodDescriptor yX6_bareComes.desc).map (fun d => d.parameters.length) = some 2 := by decide +kernel
theorem dd_X6_beenMany : yX6_beenMany.cls ≠ "java/lang/invoke/MethodHandle" ∧ yX6_beenMany.cls ≠ "java/lang/invoke/VarHandle" ∧ (parseMethodDescriptor yX6_beenMany.desc).map (fun d => d.parameters.length) = some 0 := by decide +kernel
theorem dd_X6_both : yX6_both.cls ≠ "java/lang/invoke/MethodHandle" ∧ yX6_both.cls ≠ "java/lang/invoke/VarHandle" ∧ (parseMethodDescriptor yX6_both.desc).map (fun d => d.parameters.length) = some 0 := by decide +kernel
theorem dd_X6_broughtSees : yX6_broughtSees.cls ≠ "java/lang/invoke/MethodHandle" ∧ yX6_broughtSees.cls ≠ "java/lang/invoke/VarHandle" ∧ (parseMethodDescriptor yX6_broughtSees.desc).map (fun d => d.parameters.length) = some 2 := by decide +kernel
theorem dd_X6_changes : yX6_changes.cls ≠ "java/lang/invoke/MethodHandle" ∧ yX6_changes.cls ≠ "java/lang/invoke/VarHandle" ∧ (parseMethodDescriptor yX6_changes.desc).map (fun d => d.parameters.length) = some 3 := by decide +kernel
theorem dd_X6_coming : yX6_coming.cls ≠ "java/lang/invoke/MethodHandle" ∧ yX6_coming.cls ≠ "java/lang/invoke/VarHandle" ∧ (parseMethodDescriptor yX6_coming.desc).map (fun d => d.parameters.length) = some 2 := by decide +kernel
theorem dd_X6_compared : yX6_compared.cls ≠ "java/lang/invoke/MethodHandle" ∧ yX6_compared.cls ≠ "java/lang/invoke/VarHandle" ∧ (parseMethodDescriptor yX6_compared.desc).map (fun d => d.parameters.length) = some 0 := by decide +kernel
theorem dd_X6_either : yX6_either.cls ≠ "java/lang/invoke/MethodHandle" ∧ yX6_either.cls ≠ "java/lang/invoke/VarHandle" ∧ (parseMethodDescriptor yX6_either.desc).map (fun d => d.parameters.length) = some 0 := by decide +kernel
theorem dd_X6_faulty : yX6_faulty.cls ≠ "java/lang/invoke/MethodHandle" ∧ yX6_faulty.cls ≠ "java/lang/invoke/VarHandle" ∧ (parseMethodDescriptor yX6_faulty.desc).map (fun d => d.parameters.length) = some 0 := by decide +kernel
theorem dd_X6_figure : yX6_figure.cls ≠ "java/lang/invoke/MethodHandle" ∧ yX6_figure.cls ≠ "java/lang/invoke/VarHandle" ∧ (parseMethodDescriptor yX6_figure.desc).map (fun d => d.parameters.length) = some 0 := by decide +kernel
theorem dd_X6_gives : yX6_gives.cls ≠ "java/lang/invoke/MethodHandle" ∧ yX6_gives.cls ≠ "java/lang/invoke/VarHandle" ∧ (parseMethodDescriptor yX6_gives.desc).map (fun d => d.parameters.length) = some 1 := by decide +kernel
theorem dd_X6_goNight : yX6_goNight.cls ≠ "java/lang/invoke/MethodHandle" ∧ yX6_goNight.cls ≠ "java/lang/invoke/VarHandle" ∧ (parseMethodDescriptor yX6_goNight.desc).map (fun d => d.parameters.length) = some 1 := by decide +kernel
theorem dd_X6_goOrders : yX6_goOrders.cls ≠ "java/lang/invoke/MethodHandle" ∧ yX6_goOrders.cls ≠ "java/lang/invoke/VarHandle" ∧ (parseMethodDescriptor yX6_goOrders.desc).map (fun d => d.parameters.length) = some 3 := by decide +kernel
theorem dd_X6_holds60 : yX6_holds60.cls ≠ "java/lang/invoke/MethodHandle" ∧ yX6_holds60.cls ≠ "java/lang/invoke/VarHandle" ∧ (parseMethodDescriptor yX6_holds60.desc).map (fun d => d.parameters.length) = some 4 := by decide +kernel
theorem dd_X6_in : yX6_in.cls ≠ "java/lang/invoke/MethodHandle" ∧ yX6_in.cls ≠ "java/lang/invoke/VarHandle" ∧ (parseMethodDescriptor yX6_in.desc).map (fun d => d.parameters.length) = some 3 := by decide +kernel
theorem dd_X6_isAs : yX6_isAs.cls ≠ "java/lang/invoke/MethodHandle" ∧ yX6_isAs.cls ≠ "java/lang/invoke/VarHandle" ∧ (parseMethodDescriptor yX6_isAs.desc).map (fun d => d.parameters.length) = some 1 := by decide +kernel
theorem dd_X6_isBody : yX6_isBody.cls ≠ "java/lang/invoke/MethodHandle" ∧ yX6_isBody.cls ≠ "java/lang/invoke/VarHandle" ∧ (parseMethodDescriptor yX6_isBody.desc).map (fun d => d.parameters.length) = some 1 := by decide +kernel
theorem dd_X6_isGuest : yX6_isGuest.cls ≠ "java/lang/invoke/MethodHandle" ∧ yX6_isGuest.cls ≠ "java/lang/invoke/VarHandle" ∧ (parseMethodDescriptor yX6_isGuest.desc).map (fun d => d.parameters.length) = some 1 := by decide +kernel
theorem dd_X6_isOne : yX6_isOne.cls ≠ "java/lang/invoke/MethodHandle" ∧ yX6_isOne.cls ≠ "java/lang/invoke/VarHandle" ∧ (parseMethodDescriptor yX6_isOne.desc).map (fun d => d.parameters.length) = some 2 := by decide +kernel
theorem dd_X6_isShelf : yX6_isShelf.cls ≠ "java/lang/invoke/MethodHandle" ∧ yX6_isShelf.cls ≠ "java/lang/invoke/VarHandle" ∧ (parseMethodDescriptor yX6_isShelf.desc).map (fun d => d.parameters.length) = some 1 := by decide +kernel
theorem dd_X6_isThing : yX6_isThing.cls ≠ "java/lang/invoke/MethodHandle" ∧ yX6_isThing.cls ≠ "java/lang/invoke/VarHandle" ∧ (parseMethodDescriptor yX6_isThing.desc).map (fun d => d.parameters.length) = some 1 := by decide +kernel
theorem dd_X6_isUnder : yX6_isUnder.cls ≠ "java/lang/invoke/MethodHandle" ∧ yX6_isUnder.cls ≠ "java/lang/invoke/VarHandle" ∧ (parseMethodDescriptor yX6_isUnder.desc).map (fun d => d.parameters.length) = some 2 := by decide +kernel
theorem dd_X6_keepHut : yX6_keepHut.cls ≠ "java/lang/invoke/MethodHandle" ∧ yX6_keepHut.cls ≠ "java/lang/invoke/VarHandle" ∧ (parseMethodDescriptor yX6_keepHut.desc).map (fun d => d.parameters.length) = some 0 := by decide +kernel
theorem dd_X6_keepStays : yX6_keepStays.cls ≠ "java/lang/invoke/MethodHandle" ∧ yX6_keepStays.cls ≠ "java/lang/invoke/VarHandle" ∧ (parseMethodDescriptor yX6_keepStays.desc).map (fun d => d.parameters.length) = some 0 := by decide +kernel
theorem dd_X6_lacksOf : yX6_lacksOf.cls ≠ "java/lang/invoke/MethodHandle" ∧ yX6_lacksOf.cls ≠ "java/lang/invoke/VarHandle" ∧ (parseMethodDescriptor yX6_lacksOf.desc).map (fun d => d.parameters.length) = some 1 := by decide +kernel
theorem dd_X6_layHut : yX6_layHut.cls ≠ "java/lang/invoke/MethodHandle" ∧ yX6_layHut.cls ≠ "java/lang/invoke/VarHandle" ∧ (parseMethodDescriptor yX6_layHut.desc).map (fun d => d.parameters.length) = some 0 := by decide +kernel
theorem dd_X6_laySeen : yX6_laySeen.cls ≠ "java/lang/invoke/MethodHandle" ∧ yX6_laySeen.cls ≠ "java/lang/invoke/VarHandle" ∧ (parseMethodDescriptor yX6_laySeen.desc).map (fun d => d.parameters.length) = some 1 := by decide +kernel
theorem dd_X6_layStays : yX6_layStays.cls ≠ "java/lang/invoke/MethodHandle" ∧ yX6_layStays.cls ≠ "java/lang/invoke/VarHandle" ∧ (parseMethodDescriptor yX6_layStays.desc).map (fun d => d.parameters.length) = some 1 := by decide +kernel
theorem dd_X6_lays : yX6_lays.cls ≠ "java/lang/invoke/MethodHandle" ∧ yX6_lays.cls ≠ "java/lang/invoke/VarHandle" ∧ (parseMethodDescriptor yX6_lays.desc).map (fun d => d.parameters.length) = some 3 := by decide +kernel
theorem dd_X6_leaving : yX6_leaving.cls ≠ "java/lang/invoke/MethodHandle" ∧ yX6_leaving.cls ≠ "java/lang/invoke/VarHandle" ∧ (parseMethodDescriptor yX6_leaving.desc).map (fun d => d.parameters.length) = some 2 := by decide +kernel
theorem dd_X6_levelBehind : yX6_levelBehind.cls ≠ "java/lang/invoke/MethodHandle" ∧ yX6_levelBehind.cls ≠ "java/lang/invoke/VarHandle" ∧ (parseMethodDescriptor yX6_levelBehind.desc).map (fun d => d.parameters.length) = some 3 := by decide +kernel
theorem dd_X6_line : yX6_line.cls ≠ "java/lang/invoke/MethodHandle" ∧ yX6_line.cls ≠ "java/lang/invoke/VarHandle" ∧ (parseMethodDescriptor yX6_line.desc).map (fun d => d.parameters.length) = some 0 := by decide +kernel
theorem dd_X6_look : yX6_look.cls ≠ "java/lang/invoke/MethodHandle" ∧ yX6_look.cls ≠ "java/lang/invoke/VarHandle" ∧ (parseMethodDescriptor yX6_look.desc).map (fun d => d.parameters.length) = some 0 := by decide +kernel
theorem dd_X6_lossNow : yX6_lossNow.cls ≠ "java/lang/invoke/MethodHandle" ∧ yX6_lossNow.cls ≠ "java/lang/invoke/VarHandle" ∧ (parseMethodDescriptor yX6_lossNow.desc).map (fun d => d.parameters.length) = some 0 := by decide +kernel
theorem dd_X6_lossOf : yX6_lossOf.cls ≠ "java/lang/invoke/MethodHandle" ∧ yX6_lossOf.cls ≠ "java/lang/invoke/VarHandle" ∧ (parseMethodDescriptor yX6_lossOf.desc).map (fun d => d.parameters.length) = some 0 := by decide +kernel
theorem dd_X6_mayBe : yX6_mayBe.cls ≠ "java/lang/invoke/MethodHandle" ∧ yX6_mayBe.cls ≠ "java/lang/invoke/VarHandle" ∧ (parseMethodDescriptor yX6_mayBe.desc).map (fun d => d.parameters.length) = some 2 := by decide +kernel
theorem dd_X6_nameOf : yX6_nameOf.cls ≠ "java/lang/invoke/MethodHandle" ∧ yX6_nameOf.cls ≠ "java/lang/invoke/VarHandle" ∧ (parseMethodDescriptor yX6_nameOf.desc).map (fun d => d.parameters.length) = some 1 := by decide +kernel
theorem dd_X6_nightOf : yX6_nightOf.cls ≠ "java/lang/invoke/MethodHandle" ∧ yX6_nightOf.cls ≠ "java/lang/invoke/VarHandle" ∧ (parseMethodDescriptor yX6_nightOf.desc).map (fun d => d.parameters.length) = some 1 := by decide +kernel
theorem dd_X6_opens : yX6_opens.cls ≠ "java/lang/invoke/MethodHandle" ∧ yX6_opens.cls ≠ "java/lang/invoke/VarHandle" ∧ (parseMethodDescriptor yX6_opens.desc).map (fun d => d.parameters.length) = some 0 := by decide +kernel
theorem dd_X6_operand : yX6_operand.cls ≠ "java/lang/invoke/MethodHandle" ∧ yX6_operand.cls ≠ "java/lang/invoke/VarHandle" ∧ (parseMethodDescriptor yX6_operand.desc).map (fun d => d.parameters.length) = some 0 := by decide +kernel
theorem dd_X6_oughtBy : yX6_oughtBy.cls ≠ "java/lang/invoke/MethodHandle" ∧ yX6_oughtBy.cls ≠ "java/lang/invoke/VarHandle" ∧ (parseMethodDescriptor yX6_oughtBy.desc).map (fun d => d.parameters.length) = some 2 := by decide +kernel
theorem dd_X6_plainComes : yX6_plainComes.cls ≠ "java/lang/invoke/MethodHandle" ∧ yX6_plainComes.cls ≠ "java/lang/invoke/VarHandle" ∧ (parseMethodDescriptor yX6_plainComes.desc).map (fun d => d.parameters.length) = some 2 := by decide +kernel
theorem dd_X6_plainLeaves : yX6_plainLeaves.cls ≠ "java/lang/invoke/MethodHandle" ∧ yX6_plainLeaves.cls ≠ "java/lang/invoke/VarHandle" ∧ (parseMethodDescriptor yX6_plainLeaves.desc).map (fun d => d.parameters.length) = some 2 := by decide +kernel
theorem dd_X6_plainSees : yX6_plainSees.cls ≠ "java/lang/invoke/MethodHandle" ∧ yX6_plainSees.cls ≠ "java/lang/invoke/VarHandle" ∧ (parseMethodDescriptor yX6_plainSees.desc).map (fun d => d.parameters.length) = some 2 := by decide +kernel
theorem dd_X6_plainTells : yX6_plainTells.cls ≠ "java/lang/invoke/MethodHandle" ∧ yX6_plainTells.cls ≠ "java/lang/invoke/VarHandle" ∧ (parseMethodDescriptor yX6_plainTells.desc).map (fun d => d.parameters.length) = some 2 := by decide +kernel
theorem dd_X6_product : yX6_product.cls ≠ "java/lang/invoke/MethodHandle" ∧ yX6_product.cls ≠ "java/lang/invoke/VarHandle" ∧ (parseMethodDescriptor yX6_product.desc).map (fun d => d.parameters.length) = some 0 := by decide +kernel
theorem dd_X6_ran : yX6_ran.cls ≠ "java/lang/invoke/MethodHandle" ∧ yX6_ran.cls ≠ "java/lang/invoke/VarHandle" ∧ (parseMethodDescriptor yX6_ran.desc).map (fun d => d.parameters.length) = some 1 := by decide +kernel
theorem dd_X6_readText : yX6_readText.cls ≠ "java/lang/invoke/MethodHandle" ∧ yX6_readText.cls ≠ "java/lang/invoke/VarHandle" ∧ (parseMethodDescriptor yX6_readText.desc).map (fun d => d.parameters.length) = some 1 := by decide +kernel
theorem dd_X6_rowFault : yX6_rowFault.cls ≠ "java/lang/invoke/MethodHandle" ∧ yX6_rowFault.cls ≠ "java/lang/invoke/VarHandle" ∧ (parseMethodDescriptor yX6_rowFault.desc).map (fun d => d.parameters.length) = some 1 := by decide +kernel
theorem dd_X6_seeing : yX6_seeing.cls ≠ "java/lang/invoke/MethodHandle" ∧ yX6_seeing.cls ≠ "java/lang/invoke/VarHandle" ∧ (parseMethodDescriptor yX6_seeing.desc).map (fun d => d.parameters.length) = some 2 := by decide +kernel
theorem dd_X6_spotAt : yX6_spotAt.cls ≠ "java/lang/invoke/MethodHandle" ∧ yX6_spotAt.cls ≠ "java/lang/invoke/VarHandle" ∧ (parseMethodDescriptor yX6_spotAt.desc).map (fun d => d.parameters.length) = some 1 := by decide +kernel
theorem dd_X6_sum : yX6_sum.cls ≠ "java/lang/invoke/MethodHandle" ∧ yX6_sum.cls ≠ "java/lang/invoke/VarHandle" ∧ (parseMethodDescriptor yX6_sum.desc).map (fun d => d.parameters.length) = some 0 := by decide +kernel
theorem dd_X6_takenLeaves : yX6_takenLeaves.cls ≠ "java/lang/invoke/MethodHandle" ∧ yX6_takenLeaves.cls ≠ "java/lang/invoke/VarHandle" ∧ (parseMethodDescriptor yX6_takenLeaves.desc).map (fun d => d.parameters.length) = some 2 := by decide +kernel
theorem dd_X6_telling : yX6_telling.cls ≠ "java/lang/invoke/MethodHandle" ∧ yX6_telling.cls ≠ "java/lang/invoke/VarHandle" ∧ (parseMethodDescriptor yX6_telling.desc).map (fun d => d.parameters.length) = some 2 := by decide +kernel
theorem dd_X6_twoOf : yX6_twoOf.cls ≠ "java/lang/invoke/MethodHandle" ∧ yX6_twoOf.cls ≠ "java/lang/invoke/VarHandle" ∧ (parseMethodDescriptor yX6_twoOf.desc).map (fun d => d.parameters.length) = some 3 := by decide +kernel
theorem dd_X6_valueAt : yX6_valueAt.cls ≠ "java/lang/invoke/MethodHandle" ∧ yX6_valueAt.cls ≠ "java/lang/invoke/VarHandle" ∧ (parseMethodDescriptor yX6_valueAt.desc).map (fun d => d.parameters.length) = some 2 := by decide +kernel
theorem dd_X6_wardenCost : yX6_wardenCost.cls ≠ "java/lang/invoke/MethodHandle" ∧ yX6_wardenCost.cls ≠ "java/lang/invoke/VarHandle" ∧ (parseMethodDescriptor yX6_wardenCost.desc).map (fun d => d.parameters.length) = some 1 := by decide +kernel
theorem dd_X6_waysFrom : yX6_waysFrom.cls ≠ "java/lang/invoke/MethodHandle" ∧ yX6_waysFrom.cls ≠ "java/lang/invoke/VarHandle" ∧ (parseMethodDescriptor yX6_waysFrom.desc).map (fun d => d.parameters.length) = some 3 := by decide +kernel
theorem dd_X6_waysOf : yX6_waysOf.cls ≠ "java/lang/invoke/MethodHandle" ∧ yX6_waysOf.cls ≠ "java/lang/invoke/VarHandle" ∧ (parseMethodDescriptor yX6_waysOf.desc).map (fun d => d.parameters.length) = some 4 := by decide +kernel
theorem dd_X6_whyNoPlace : yX6_whyNoPlace.cls ≠ "java/lang/invoke/MethodHandle" ∧ yX6_whyNoPlace.cls ≠ "java/lang/invoke/VarHandle" ∧ (parseMethodDescriptor yX6_whyNoPlace.desc).map (fun d => d.parameters.length) = some 2 := by decide +kernel
theorem dd_X6_worked : yX6_worked.cls ≠ "java/lang/invoke/MethodHandle" ∧ yX6_worked.cls ≠ "java/lang/invoke/VarHandle" ∧ (parseMethodDescriptor yX6_worked.desc).map (fun d => d.parameters.length) = some 3 := by decide +kernel
theorem dd_X7_init : yX7_init.cls ≠ "java/lang/invoke/MethodHandle" ∧ yX7_init.cls ≠ "java/lang/invoke/VarHandle" ∧ (parseMethodDescriptor yX7_init.desc).map (fun d => d.parameters.length) = some 3 := by decide +kernel
theorem dd_X8_init : yX8_init.cls ≠ "java/lang/invoke/MethodHandle" ∧ yX8_init.cls ≠ "java/lang/invoke/VarHandle" ∧ (parseMethodDescriptor yX8_init.desc).map (fun d => d.parameters.length) = some 0 := by decide +kernel
theorem dd_X9_init : yX9_init.cls ≠ "java/lang/invoke/MethodHandle" ∧ yX9_init.cls ≠ "java/lang/invoke/VarHandle" ∧ (parseMethodDescriptor yX9_init.desc).map (fun d => d.parameters.length) = some 0 := by decide +kernel
theorem sl_X0_become : Cond.selects (ah_nm 1) yX0_become yX0_become ∈ lw_all := qs5
theorem sl_X0_comesAt : Cond.selects (ah_nm 1) yX0_comesAt yX0_comesAt ∈ lw_all := qs29
theorem sl_X0_expect : Cond.selects (ah_nm 1) yX0_expect yX0_expect ∈ lw_all := qs16
theorem sl_X0_findRest : Cond.selects (ah_nm 1) yX0_findRest yX0_findRest ∈ lw_all := qs25
theorem sl_X0_goDeeper : Cond.selects (ah_nm 1) yX0_goDeeper yX0_goDeeper ∈ lw_all := qs33
theorem sl_X0_held : Cond.selects (ah_nm 1) yX0_held yX0_held ∈ lw_all := qs2
theorem sl_X0_isBody : Cond.selects (ah_nm 1) yX0_isBody yX0_isBody ∈ lw_all := qs35
theorem sl_X0_isDigit : Cond.selects (ah_nm 1) yX0_isDigit yX0_isDigit ∈ lw_all := qs14
theorem sl_X0_isGt : Cond.selects (ah_nm 1) yX0_isGt yX0_isGt ∈ lw_all := qs3
theorem sl_X0_isGuest : Cond.selects (ah_nm 1) yX0_isGuest yX0_isGuest ∈ lw_all := qs4
theorem sl_X0_isLike : Cond.selects (ah_nm 1) yX0_isLike yX0_isLike ∈ lw_all := qs27
theorem sl_X0_keepState : Cond.selects (ah_nm 1) yX0_keepState yX0_keepState ∈ lw_all := qs26
theorem sl_X0_leftBy : Cond.selects (ah_nm 1) yX0_leftBy yX0_leftBy ∈ lw_all := qs22
theorem sl_X0_lookAt : Cond.selects (ah_nm 1) yX0_lookAt yX0_lookAt ∈ lw_all := qs19
theorem sl_X0_lossOfRow : Cond.selects (ah_nm 1) yX0_lossOfRow yX0_lossOfRow ∈ lw_all := qs24
theorem sl_X0_peek : Cond.selects (ah_nm 1) yX0_peek yX0_peek ∈ lw_all := qs15
theorem sl_X0_readAll : Cond.selects (ah_nm 1) yX0_readAll yX0_readAll ∈ lw_all := qs9
theorem sl_X0_readBack : Cond.selects (ah_nm 1) yX0_readBack yX0_readBack ∈ lw_all := qs32
theorem sl_X0_readEither : Cond.selects (ah_nm 1) yX0_readEither yX0_readEither ∈ lw_all := qs8
theorem sl_X0_readLaw : Cond.selects (ah_nm 1) yX0_readLaw yX0_readLaw ∈ lw_all := qs6
theorem sl_X0_readLike : Cond.selects (ah_nm 1) yX0_readLike yX0_readLike ∈ lw_all := qs10
theorem sl_X0_readLine : Cond.selects (ah_nm 1) yX0_readLine yX0_readLine ∈ lw_all := qs7
theorem sl_X0_readOne : Cond.selects (ah_nm 1) yX0_readOne yX0_readOne ∈ lw_all := qs13
theorem sl_X0_readPlus : Cond.selects (ah_nm 1) yX0_readPlus yX0_readPlus ∈ lw_all := qs11
theorem sl_X0_readTimes : Cond.selects (ah_nm 1) yX0_readTimes yX0_readTimes ∈ lw_all := qs12
theorem sl_X0_refusal : Cond.selects (ah_nm 1) yX0_refusal yX0_refusal ∈ lw_all := qs36
theorem sl_X0_ruled : Cond.selects (ah_nm 1) yX0_ruled yX0_ruled ∈ lw_all := qs23
theorem sl_X0_staysAbove : Cond.selects (ah_nm 1) yX0_staysAbove yX0_staysAbove ∈ lw_all := qs28
theorem sl_X0_take : Cond.selects (ah_nm 1) yX0_take yX0_take ∈ lw_all := qs17
theorem sl_X0_takeRow : Cond.selects (ah_nm 1) yX0_takeRow yX0_takeRow ∈ lw_all := qs20
theorem sl_X0_takes1Row : Cond.selects (ah_nm 1) yX0_takes1Row yX0_takes1Row ∈ lw_all := qs18
theorem sl_X0_toldIn : Cond.selects (ah_nm 1) yX0_toldIn yX0_toldIn ∈ lw_all := qs1
theorem sl_X0_tryOrders : Cond.selects (ah_nm 1) yX0_tryOrders yX0_tryOrders ∈ lw_all := qs31
theorem sl_X0_wardenCost : Cond.selects (ah_nm 1) yX0_wardenCost yX0_wardenCost ∈ lw_all := qs30
theorem sl_X4_beAs : Cond.selects (ah_nm 5) yX4_beAs yX4_beAs ∈ lw_all := q670
theorem sl_X4_believedBy : Cond.selects (ah_nm 5) yX4_believedBy yX4_believedBy ∈ lw_all := qs21
theorem sl_X4_lacks : Cond.selects (ah_nm 5) yX4_lacks yX4_lacks ∈ lw_all := q739
theorem sl_X4_loss : Cond.selects (ah_nm 5) yX4_loss yX4_loss ∈ lw_all := q735
theorem sl_X4_night : Cond.selects (ah_nm 5) yX4_night yX4_night ∈ lw_all := q677
theorem sl_X6_addGuest : Cond.selects (ah_nm 7) yX6_addGuest yX6_addGuest ∈ lw_all := qs37
theorem sl_X6_addStep : Cond.selects (ah_nm 7) yX6_addStep yX6_addStep ∈ lw_all := qs53
theorem sl_X6_againAt : Cond.selects (ah_nm 7) yX6_againAt yX6_againAt ∈ lw_all := qs72
theorem sl_X6_areTwo : Cond.selects (ah_nm 7) yX6_areTwo yX6_areTwo ∈ lw_all := qs40
theorem sl_X6_bareComes : Cond.selects (ah_nm 7) yX6_bareComes yX6_bareComes ∈ lw_all := qs83
theorem sl_X6_beenMany : Cond.selects (ah_nm 7) yX6_beenMany yX6_beenMany ∈ lw_all := qs92
theorem sl_X6_both : Cond.selects (ah_nm 7) yX6_both yX6_both ∈ lw_all := qs47
theorem sl_X6_broughtSees : Cond.selects (ah_nm 7) yX6_broughtSees yX6_broughtSees ∈ lw_all := qs88
theorem sl_X6_changes : Cond.selects (ah_nm 7) yX6_changes yX6_changes ∈ lw_all := qs42
theorem sl_X6_coming : Cond.selects (ah_nm 7) yX6_coming yX6_coming ∈ lw_all := qs80
theorem sl_X6_compared : Cond.selects (ah_nm 7) yX6_compared yX6_compared ∈ lw_all := qs48
theorem sl_X6_either : Cond.selects (ah_nm 7) yX6_either yX6_either ∈ lw_all := qs46
theorem sl_X6_faulty : Cond.selects (ah_nm 7) yX6_faulty yX6_faulty ∈ lw_all := qs55
theorem sl_X6_figure : Cond.selects (ah_nm 7) yX6_figure yX6_figure ∈ lw_all := qs56
theorem sl_X6_gives : Cond.selects (ah_nm 7) yX6_gives yX6_gives ∈ lw_all := qs64
theorem sl_X6_goNight : Cond.selects (ah_nm 7) yX6_goNight yX6_goNight ∈ lw_all := qs60
theorem sl_X6_goOrders : Cond.selects (ah_nm 7) yX6_goOrders yX6_goOrders ∈ lw_all := qs75
theorem sl_X6_holds60 : Cond.selects (ah_nm 7) yX6_holds60 yX6_holds60 ∈ lw_all := qs71
theorem sl_X6_isAs : Cond.selects (ah_nm 7) yX6_isAs yX6_isAs ∈ lw_all := qs70
theorem sl_X6_isBody : Cond.selects (ah_nm 7) yX6_isBody yX6_isBody ∈ lw_all := qs79
theorem sl_X6_isGuest : Cond.selects (ah_nm 7) yX6_isGuest yX6_isGuest ∈ lw_all := qs41
theorem sl_X6_isOne : Cond.selects (ah_nm 7) yX6_isOne yX6_isOne ∈ lw_all := qs39
theorem sl_X6_keepHut : Cond.selects (ah_nm 7) yX6_keepHut yX6_keepHut ∈ lw_all := qs59
theorem sl_X6_keepStays : Cond.selects (ah_nm 7) yX6_keepStays yX6_keepStays ∈ lw_all := qs74
theorem sl_X6_lacksOf : Cond.selects (ah_nm 7) yX6_lacksOf yX6_lacksOf ∈ lw_all := qs69
theorem sl_X6_layHut : Cond.selects (ah_nm 7) yX6_layHut yX6_layHut ∈ lw_all := qs66
theorem sl_X6_laySeen : Cond.selects (ah_nm 7) yX6_laySeen yX6_laySeen ∈ lw_all := qs76
theorem sl_X6_layStays : Cond.selects (ah_nm 7) yX6_layStays yX6_layStays ∈ lw_all := qs58
theorem sl_X6_lays : Cond.selects (ah_nm 7) yX6_lays yX6_lays ∈ lw_all := qs38
theorem sl_X6_leaving : Cond.selects (ah_nm 7) yX6_leaving yX6_leaving ∈ lw_all := qs84
theorem sl_X6_levelBehind : Cond.selects (ah_nm 7) yX6_levelBehind yX6_levelBehind ∈ lw_all := qs63
theorem sl_X6_line : Cond.selects (ah_nm 7) yX6_line yX6_line ∈ lw_all := qs45
theorem sl_X6_look : Cond.selects (ah_nm 7) yX6_look yX6_look ∈ lw_all := qs52
theorem sl_X6_lossNow : Cond.selects (ah_nm 7) yX6_lossNow yX6_lossNow ∈ lw_all := qs68
theorem sl_X6_lossOf : Cond.selects (ah_nm 7) yX6_lossOf yX6_lossOf ∈ lw_all := qs67
theorem sl_X6_nightOf : Cond.selects (ah_nm 7) yX6_nightOf yX6_nightOf ∈ lw_all := qs61
theorem sl_X6_opens : Cond.selects (ah_nm 7) yX6_opens yX6_opens ∈ lw_all := qs54
theorem sl_X6_operand : Cond.selects (ah_nm 7) yX6_operand yX6_operand ∈ lw_all := qs51
theorem sl_X6_oughtBy : Cond.selects (ah_nm 7) yX6_oughtBy yX6_oughtBy ∈ lw_all := qs62
theorem sl_X6_plainComes : Cond.selects (ah_nm 7) yX6_plainComes yX6_plainComes ∈ lw_all := qs82
theorem sl_X6_plainLeaves : Cond.selects (ah_nm 7) yX6_plainLeaves yX6_plainLeaves ∈ lw_all := qs86
theorem sl_X6_plainSees : Cond.selects (ah_nm 7) yX6_plainSees yX6_plainSees ∈ lw_all := qs89
theorem sl_X6_plainTells : Cond.selects (ah_nm 7) yX6_plainTells yX6_plainTells ∈ lw_all := qs91
theorem sl_X6_product : Cond.selects (ah_nm 7) yX6_product yX6_product ∈ lw_all := qs50
theorem sl_X6_ran : Cond.selects (ah_nm 7) yX6_ran yX6_ran ∈ lw_all := qs81
theorem sl_X6_readText : Cond.selects (ah_nm 7) yX6_readText yX6_readText ∈ lw_all := qs44
theorem sl_X6_rowFault : Cond.selects (ah_nm 7) yX6_rowFault yX6_rowFault ∈ lw_all := qs57
theorem sl_X6_seeing : Cond.selects (ah_nm 7) yX6_seeing yX6_seeing ∈ lw_all := qs87
theorem sl_X6_sum : Cond.selects (ah_nm 7) yX6_sum yX6_sum ∈ lw_all := qs49
theorem sl_X6_takenLeaves : Cond.selects (ah_nm 7) yX6_takenLeaves yX6_takenLeaves ∈ lw_all := qs85
theorem sl_X6_telling : Cond.selects (ah_nm 7) yX6_telling yX6_telling ∈ lw_all := qs90
theorem sl_X6_valueAt : Cond.selects (ah_nm 7) yX6_valueAt yX6_valueAt ∈ lw_all := qs43
theorem sl_X6_wardenCost : Cond.selects (ah_nm 7) yX6_wardenCost yX6_wardenCost ∈ lw_all := qs73
theorem sl_X6_waysFrom : Cond.selects (ah_nm 7) yX6_waysFrom yX6_waysFrom ∈ lw_all := qs78
theorem sl_X6_waysOf : Cond.selects (ah_nm 7) yX6_waysOf yX6_waysOf ∈ lw_all := qs77
theorem sl_X6_whyNoPlace : Cond.selects (ah_nm 7) yX6_whyNoPlace yX6_whyNoPlace ∈ lw_all := qs93
theorem sl_X6_worked : Cond.selects (ah_nm 7) yX6_worked yX6_worked ∈ lw_all := qs65
theorem ah_nfw : nativeFrameWords "java/lang/System" "arraycopy" 5 ≤ 50 := by decide
theorem dd_TV : ("LeftAsFound$Term" : String) ≠ "java/lang/invoke/MethodHandle" ∧ ("LeftAsFound$Term" : String) ≠ "java/lang/invoke/VarHandle" ∧ (parseMethodDescriptor "()I").map (fun d => d.parameters.length) = some 0 := by decide +kernel
