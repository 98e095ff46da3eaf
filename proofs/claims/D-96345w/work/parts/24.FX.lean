def F_X4_beAs  (σ : ah_S) (r0 : Option Nat) (r1 : Option Nat) : Option ah_S :=
  (ah_gR σ 400 r1).bind fun v1 =>
  (ah_gR σ 400 r0).bind fun v2 =>
  (ah_cp σ v1 (0 : Int32) v2 (0 : Int32) (4 : Int32)).bind fun σ3 =>
  (ah_gR σ3 401 r1).bind fun v4 =>
  (ah_gR σ3 401 r0).bind fun v5 =>
  (ah_cp σ3 v4 (0 : Int32) v5 (0 : Int32) (4 : Int32)).bind fun σ6 =>
  (ah_gR σ6 402 r1).bind fun v7 =>
  (ah_gR σ6 402 r0).bind fun v8 =>
  (ah_cp σ6 v7 (0 : Int32) v8 (0 : Int32) (28 : Int32)).bind fun σ9 =>
  (ah_gR σ9 405 r1).bind fun v10 =>
  (ah_gR σ9 405 r0).bind fun v11 =>
  (ah_cp σ9 v10 (0 : Int32) v11 (0 : Int32) (4 : Int32)).bind fun σ12 =>
  (ah_gI σ12 403 r1).bind fun v13 =>
  (ah_pI σ12 403 r0 v13).bind fun σ14 =>
  (ah_gI σ14 404 r1).bind fun v15 =>
  (ah_pZ σ14 404 r0 v15).bind fun σ16 =>
  some σ16
def F_X0_back  (σ : ah_S) (r0 : Option Nat) : Option (Int32 × ah_S) :=
  (ah_gI σ 34 r0).bind fun v1 =>
  if v1 = 0 then
    some ((-5 : Int32), σ)
  else
    (ah_gR σ 18 r0).bind fun v2 =>
    (ah_gR σ 35 r0).bind fun v3 =>
    (ah_is σ 5 v2).bind fun u4 =>
    (F_X4_beAs σ v2 v3).bind fun σ5 =>
    (ah_gR σ5 36 r0).bind fun v6 =>
    (ah_gR σ5 33 r0).bind fun v7 =>
    (ah_cp σ5 v6 (0 : Int32) v7 (0 : Int32) (4 : Int32)).bind fun σ8 =>
    (ah_gR σ8 33 r0).bind fun v9 =>
    (ah_lA σ8 101 v9 (0 : Int32)).bind fun v10 =>
    some (v10, σ8)
def F_X0_become_32 (k80 : ah_S → Option Nat → Option Nat → Int32 → Int32 → Option (Int32 × ah_S)) : Nat → ah_S → Option Nat → Option Nat → Int32 → Int32 → Option Nat → Int32 → Option (Int32 × ah_S)
  | 0, _, _, _, _, _, _, _ => none
  | n + 1, σ, r0, r1, x2, x3, r4, x5 =>
    if (40 : Int32) ≤ x5 then
      (ah_gR σ 0 r0).bind fun v1 =>
      (ah_wQ σ 111 v1 (39 : Int32) r4).bind fun σ2 =>
      (ah_gI σ2 2 r0).bind fun v3 =>
      (ah_pI σ2 2 r0 (v3 - (1 : Int32))).bind fun σ4 =>
      k80 σ4 r0 r1 x2 x3
    else
      (ah_gR σ 0 r0).bind fun v5 =>
      (ah_gR σ 0 r0).bind fun v6 =>
      (ah_lQ σ 111 v6 x5).bind fun v7 =>
      (ah_wQ σ 111 v5 (x5 - (1 : Int32)) v7).bind fun σ8 =>
      F_X0_become_32 k80 n σ8 r0 r1 x2 x3 r4 (x5 + (1 : Int32))
def F_X0_become_80  (σ : ah_S) (r0 : Option Nat) (r1 : Option Nat) (x2 : Int32) (x3 : Int32) : Option (Int32 × ah_S) :=
  (ah_gR σ 0 r0).bind fun v1 =>
  (ah_gI σ 2 r0).bind fun v2 =>
  (ah_lQ σ 111 v1 v2).bind fun v3 =>
  (ah_pR σ 500 v3 r1).bind fun σ4 =>
  (ah_pI σ4 501 v3 x3).bind fun σ5 =>
  (ah_pI σ5 502 v3 x2).bind fun σ6 =>
  (ah_pI σ6 200 r1 x2).bind fun σ7 =>
  (ah_gI σ7 2 r0).bind fun v8 =>
  (ah_pI σ7 2 r0 (v8 + (1 : Int32))).bind fun σ9 =>
  (ah_pI σ9 1 r0 (v8 + (1 : Int32))).bind fun σ10 =>
  some (x3, σ10)
def F_X0_become  (σ : ah_S) (r0 : Option Nat) (r1 : Option Nat) (x2 : Int32) : Option (Int32 × ah_S) :=
  (ah_gI σ 200 r1).bind fun v1 =>
  if v1 = x2 then
    some (v1, σ)
  else
    (ah_gI σ 2 r0).bind fun v2 =>
    if v2 = (40 : Int32) then
      (ah_gR σ 0 r0).bind fun v3 =>
      (ah_lQ σ 111 v3 (0 : Int32)).bind fun v4 =>
      F_X0_become_32 (F_X0_become_80) 1000 σ r0 r1 x2 v1 v4 (1 : Int32)
    else
      F_X0_become_80 σ r0 r1 x2 v1
def F_X0_bit  (σ : ah_S) (x0 : Int32) : Option (Int32 × ah_S) :=
  if x0 = 0 then
    some ((0 : Int32), σ)
  else
    some ((1 : Int32), σ)
def F_X0_comesAt  (σ : ah_S) (r0 : Option Nat) (x1 : Int32) : Option (Int32 × ah_S) :=
  (ah_gI σ 21 r0).bind fun v1 =>
  if v1 = 0 then
    some ((-1 : Int32), σ)
  else
    (ah_gR σ 20 r0).bind fun v2 =>
    (ah_gI σ 21 r0).bind fun v3 =>
    (ah_re x1 v3).bind fun q4 =>
    (ah_lA σ 101 v2 q4).bind fun v5 =>
    some (v5, σ)
def F_X0_ones_4  : Nat → ah_S → Int32 → Int32 → Option (Int32 × ah_S)
  | 0, _, _, _ => none
  | n + 1, σ, x1, x2 =>
    if x2 = 0 then
      some (x1, σ)
    else
      F_X0_ones_4 n σ (x1 + (1 : Int32)) (x2 &&& (x2 - (1 : Int32)))
def F_X0_ones  (σ : ah_S) (x0 : Int32) : Option (Int32 × ah_S) :=
  F_X0_ones_4 1000 σ (0 : Int32) x0
def F_X0_count  (σ : ah_S) (r0 : Option Nat) (x1 : Int32) : Option (Int32 × ah_S) :=
  if x1 = (0 : Int32) then
    (ah_gI σ 8 r0).bind fun v1 =>
    some (v1, σ)
  else
  if x1 = (1 : Int32) then
    (ah_gR σ 18 r0).bind fun v2 =>
    (ah_gI σ 403 v2).bind fun v3 =>
    ah_b2 (F_X0_ones σ v3) fun v4 σ5 =>
    some (v4, σ5)
  else
  if x1 = (2 : Int32) then
    (ah_gI σ 4 r0).bind fun v6 =>
    some (v6, σ)
  else
  if x1 = (3 : Int32) then
    (ah_gI σ 2 r0).bind fun v7 =>
    some (v7, σ)
  else
  if x1 = (4 : Int32) then
    (ah_gI σ 38 r0).bind fun v8 =>
    some (v8, σ)
  else
  if x1 = (5 : Int32) then
    (ah_gI σ 40 r0).bind fun v9 =>
    some (v9, σ)
  else
  some ((-1 : Int32), σ)
def F_X0_within  (σ : ah_S) (l0 : Int64) (l2 : Int64) (l4 : Int64) : Option (Int32 × ah_S) :=
  if (lg_cmp l0 l2) < 0 then
    some ((0 : Int32), σ)
  else
    if 0 < (lg_cmp l0 l4) then
      some ((0 : Int32), σ)
    else
      some ((1 : Int32), σ)
def F_X0_isShelf  (σ : ah_S) (x0 : Int32) : Option (Int32 × ah_S) :=
  ah_b2 (F_X0_within σ (x0.toInt64) (0 : Int64) (5 : Int64)) fun v1 σ2 =>
  (ah_z v1).bind fun z3 => some (z3, σ2)
def F_X0_sortOf  (σ : ah_S) (r0 : Option Nat) : Option (Int32 × ah_S) :=
  (ah_io σ 102 r0).bind fun v1 =>
  if v1 = 0 then
    (ah_io σ 103 r0).bind fun v2 =>
    if v2 = 0 then
      (ah_io σ 101 r0).bind fun v3 =>
      if v3 = 0 then
        (ah_io σ 104 r0).bind fun v4 =>
        if v4 = 0 then
          (ah_io σ 105 r0).bind fun v5 =>
          if v5 = 0 then
            some ((-1 : Int32), σ)
          else
            some ((4 : Int32), σ)
        else
          some ((3 : Int32), σ)
      else
        some ((2 : Int32), σ)
    else
      some ((1 : Int32), σ)
  else
    some ((0 : Int32), σ)
def F_X0_sizeOf  (σ : ah_S) (r0 : Option Nat) : Option (Int32 × ah_S) :=
  ah_b2 (F_X0_sortOf σ r0) fun v1 σ2 =>
  if v1 = (0 : Int32) then
    (ah_ca σ2 102 r0).bind fun u3 =>
    (ah_al_ σ2 r0).bind fun v4 =>
    some (v4, σ2)
  else
  if v1 = (1 : Int32) then
    (ah_ca σ2 103 r0).bind fun u5 =>
    (ah_al_ σ2 r0).bind fun v6 =>
    some (v6, σ2)
  else
  if v1 = (2 : Int32) then
    (ah_ca σ2 101 r0).bind fun u7 =>
    (ah_al_ σ2 r0).bind fun v8 =>
    some (v8, σ2)
  else
  if v1 = (3 : Int32) then
    (ah_ca σ2 104 r0).bind fun u9 =>
    (ah_al_ σ2 r0).bind fun v10 =>
    some (v10, σ2)
  else
  (ah_ca σ2 105 r0).bind fun u11 =>
  (ah_al_ σ2 r0).bind fun v12 =>
  some (v12, σ2)
def F_X0_refusal  (σ : ah_S) (r0 : Option Nat) (x1 : Int32) (x2 : Int32) : Option (Int32 × ah_S) :=
  ah_b2 (F_X0_isShelf σ x1) fun v1 σ2 =>
  if v1 = 0 then
    some ((-1 : Int32), σ2)
  else
    (ah_gR σ2 41 r0).bind fun v3 =>
    (ah_lQ σ2 116 v3 x1).bind fun v4 =>
    if v4 = none then
      some ((-11 : Int32), σ2)
    else
      ah_b2 (F_X0_sortOf σ2 v4) fun v5 σ6 =>
      if v5 = (-1 : Int32) then
        some ((-12 : Int32), σ6)
      else
        ah_b2 (F_X0_sizeOf σ6 v4) fun v7 σ8 =>
        ah_b2 (F_X0_within σ8 (x2.toInt64) (0 : Int64) ((v7 - (1 : Int32)).toInt64)) fun v9 σ10 =>
        if v9 = 0 then
          some ((-13 : Int32), σ10)
        else
          some ((0 : Int32), σ10)
def F_X0_element  (σ : ah_S) (r0 : Option Nat) (x1 : Int32) (x2 : Int32) : Option (Int64 × ah_S) :=
  (ah_is σ 1 r0).bind fun u1 =>
  ah_b2 (F_X0_refusal σ r0 x1 x2) fun v2 σ3 =>
  if v2 = 0 then
    (ah_gR σ3 41 r0).bind fun v4 =>
    (ah_lQ σ3 116 v4 x1).bind fun v5 =>
    ah_b2 (F_X0_sortOf σ3 v5) fun v6 σ7 =>
    if v6 = (0 : Int32) then
      (ah_ca σ7 102 v5).bind fun u8 =>
      (ah_lA σ7 102 v5 x2).bind fun v9 =>
      some ((v9.toInt64), σ7)
    else
    if v6 = (1 : Int32) then
      (ah_ca σ7 103 v5).bind fun u10 =>
      (ah_lA σ7 103 v5 x2).bind fun v11 =>
      some ((v11.toInt64), σ7)
    else
    if v6 = (2 : Int32) then
      (ah_ca σ7 101 v5).bind fun u12 =>
      (ah_lA σ7 101 v5 x2).bind fun v13 =>
      some ((v13.toInt64), σ7)
    else
    if v6 = (3 : Int32) then
      (ah_ca σ7 104 v5).bind fun u14 =>
      (ah_lL σ7 v5 x2).bind fun v15 =>
      some (v15, σ7)
    else
    (ah_ca σ7 105 v5).bind fun u16 =>
    (ah_lA σ7 105 v5 x2).bind fun v17 =>
    if v17 = 0 then
      some ((0 : Int64), σ7)
    else
      some ((1 : Int64), σ7)
  else
    some ((-9223372036854775808 : Int64), σ3)
def F_X0_feed  (σ : ah_S) (r0 : Option Nat) (x1 : Int32) : Option (Int32 × ah_S) :=
  ah_b2 (F_X0_within σ (x1.toInt64) (0 : Int64) (255 : Int64)) fun v1 σ2 =>
  if v1 = 0 then
    some ((-1 : Int32), σ2)
  else
    (ah_gI σ2 4 r0).bind fun v3 =>
    if v3 = (120 : Int32) then
      some ((-3 : Int32), σ2)
    else
      (ah_gR σ2 3 r0).bind fun v4 =>
      (ah_gI σ2 4 r0).bind fun v5 =>
      (ah_pI σ2 4 r0 (v5 + (1 : Int32))).bind fun σ6 =>
      (ah_wA σ6 101 v4 v5 x1).bind fun σ7 =>
      (ah_gI σ7 4 r0).bind fun v8 =>
      some (v8, σ7)
def F_X0_isGuest  (σ : ah_S) (r0 : Option Nat) (l1 : Int64) : Option (Int32 × ah_S) :=
  (ah_gI σ 8 r0).bind fun v1 =>
  ah_b2 (F_X0_within σ l1 (0 : Int64) ((v1 - (1 : Int32)).toInt64)) fun v2 σ3 =>
  (ah_z v2).bind fun z4 => some (z4, σ3)
def F_X0_forget  (σ : ah_S) (r0 : Option Nat) (x1 : Int32) : Option (Int32 × ah_S) :=
  (ah_is σ 1 r0).bind fun u1 =>
  ah_b2 (F_X0_isGuest σ r0 (x1.toInt64)) fun v2 σ3 =>
  if v2 = 0 then
    some ((-1 : Int32), σ3)
  else
    (ah_gR σ3 18 r0).bind fun v4 =>
    (ah_gI σ3 403 v4).bind fun v5 =>
    (ah_gR σ3 18 r0).bind fun v6 =>
    (ah_gI σ3 403 v6).bind fun v7 =>
    (ah_pI σ3 403 v6 (v7 &&& (((1 : Int32) <<< (x1 &&& 31)) ^^^ (-1 : Int32)))).bind fun σ8 =>
    some (((v5 >>> (x1 &&& 31)) &&& (1 : Int32)), σ8)
def F_X0_greatest  (σ : ah_S) (x0 : Int32) : Option (Int32 × ah_S) :=
  if x0 = (0 : Int32) then
    some ((99 : Int32), σ)
  else
  if x0 = (1 : Int32) then
    some ((9 : Int32), σ)
  else
  if x0 = (2 : Int32) then
    some ((9 : Int32), σ)
  else
  if x0 = (3 : Int32) then
    some ((20 : Int32), σ)
  else
  if x0 = (4 : Int32) then
    some ((50 : Int32), σ)
  else
  if x0 = (5 : Int32) then
    some ((3 : Int32), σ)
  else
  if x0 = (6 : Int32) then
    some ((50 : Int32), σ)
  else
  if x0 = (7 : Int32) then
    some ((999 : Int32), σ)
  else
  if x0 = (8 : Int32) then
    some ((12 : Int32), σ)
  else
  some ((9 : Int32), σ)
def F_X0_mayBe  (σ : ah_S) (x0 : Int32) (x1 : Int32) (x2 : Int32) : Option (Int32 × ah_S) :=
  ah_b2 (F_X0_within σ (x0.toInt64) (0 : Int64) (9 : Int64)) fun v1 σ2 =>
  if v1 = 0 then
    some ((0 : Int32), σ2)
  else
    ah_b2 (F_X0_within σ2 (x1.toInt64) (0 : Int64) (50 : Int64)) fun v3 σ4 =>
    if v3 = 0 then
      some ((0 : Int32), σ4)
    else
      ah_b2 (F_X0_within σ4 (x2.toInt64) (0 : Int64) (3 : Int64)) fun v5 σ6 =>
      if v5 = 0 then
        some ((0 : Int32), σ6)
      else
        some ((1 : Int32), σ6)
def F_X2_init  (σ : ah_S) (r0 : Option Nat) : Option ah_S :=
  (r0).bind fun a1 =>
  some σ
def F_X0_heldAt  (σ : ah_S) (x0 : Int32) : Option (Option Nat × ah_S) :=
  (ah_mO σ 3 1).bind fun σ1 =>
  (F_X2_init σ1 (some (ah_nx σ))).bind fun σ2 =>
  (ah_pI σ2 200 (some (ah_nx σ)) x0).bind fun σ3 =>
  some ((some (ah_nx σ)), σ3)
def F_X7_init_23  : Nat → ah_S → Option Nat → Int32 → Int32 → Int32 → Int32 → Option ah_S
  | 0, _, _, _, _, _, _ => none
  | n + 1, σ, r0, x1, x2, x3, x4 =>
    if (4 : Int32) ≤ x4 then
      ah_b2 (F_X0_heldAt σ x2) fun v1 σ2 =>
      (ah_pR σ2 702 r0 v1).bind fun σ3 =>
      ah_b2 (F_X0_heldAt σ3 x3) fun v4 σ5 =>
      (ah_pR σ5 703 r0 v4).bind fun σ6 =>
      some σ6
    else
      (ah_gR σ 700 r0).bind fun v7 =>
      ah_b2 (F_X0_heldAt σ x1) fun v8 σ9 =>
      (ah_wQ σ9 113 v7 x4 v8).bind fun σ10 =>
      (ah_gR σ10 701 r0).bind fun v11 =>
      ah_b2 (F_X0_heldAt σ10 (0 : Int32)) fun v12 σ13 =>
      (ah_wQ σ13 113 v11 x4 v12).bind fun σ14 =>
      F_X7_init_23 n σ14 r0 x1 x2 x3 (x4 + (1 : Int32))
def F_X7_init  (σ : ah_S) (r0 : Option Nat) (x1 : Int32) (x2 : Int32) (x3 : Int32) : Option ah_S :=
  (r0).bind fun a1 =>
  (ah_mA σ 113 (4 : Int32)).bind fun σ2 =>
  (ah_pR σ2 700 r0 (some (ah_nx σ))).bind fun σ3 =>
  (ah_mA σ3 113 (4 : Int32)).bind fun σ4 =>
  (ah_pR σ4 701 r0 (some (ah_nx σ3))).bind fun σ5 =>
  F_X7_init_23 1000 σ5 r0 x1 x2 x3 (0 : Int32)
def F_X0_guest  (σ : ah_S) (r0 : Option Nat) (x1 : Int32) (x2 : Int32) : Option (Int32 × ah_S) :=
  ah_b2 (F_X0_mayBe σ x1 x2 (0 : Int32)) fun v1 σ2 =>
  if v1 = 0 then
    some ((-1 : Int32), σ2)
  else
    (ah_gI σ2 8 r0).bind fun v3 =>
    if v3 = (7 : Int32) then
      some ((-3 : Int32), σ2)
    else
      (ah_gR σ2 7 r0).bind fun v4 =>
      (ah_gI σ2 8 r0).bind fun v5 =>
      (ah_mO σ2 8 4).bind fun σ6 =>
      (F_X7_init σ6 (some (ah_nx σ2)) x1 x2 (0 : Int32)).bind fun σ7 =>
      (ah_wQ σ7 112 v4 v5 (some (ah_nx σ2))).bind fun σ8 =>
      (ah_gI σ8 8 r0).bind fun v9 =>
      (ah_pI σ8 8 r0 (v9 + (1 : Int32))).bind fun σ10 =>
      some (v9, σ10)
def F_X0_isThing  (σ : ah_S) (x0 : Int32) : Option (Int32 × ah_S) :=
  ah_b2 (F_X0_within σ (x0.toInt64) (0 : Int64) (3 : Int64)) fun v1 σ2 =>
  (ah_z v1).bind fun z3 => some (z3, σ2)
def F_X0_isGt  (σ : ah_S) (r0 : Option Nat) (x1 : Int32) : Option (Int32 × ah_S) :=
  if x1 < 0 then
    some ((0 : Int32), σ)
  else
    (ah_di x1 (10 : Int32)).bind fun q1 =>
    (ah_is σ 1 r0).bind fun u2 =>
    ah_b2 (F_X0_isGuest σ r0 (q1.toInt64)) fun v3 σ4 =>
    if v3 = 0 then
      some ((0 : Int32), σ4)
    else
      (ah_re x1 (10 : Int32)).bind fun q5 =>
      ah_b2 (F_X0_isThing σ4 q5) fun v6 σ7 =>
      if v6 = 0 then
        some ((0 : Int32), σ7)
      else
        some ((1 : Int32), σ7)
def F_X0_held  (σ : ah_S) (r0 : Option Nat) (x1 : Int32) (x2 : Int32) : Option (Option Nat × ah_S) :=
  if x2 = (0 : Int32) then
    ah_b2 (F_X0_isThing σ x1) fun v1 σ2 =>
    if v1 = 0 then
      some (none, σ2)
    else
      (ah_gR σ2 9 r0).bind fun v3 =>
      (ah_lQ σ2 113 v3 x1).bind fun v4 =>
      some (v4, σ2)
  else
  if x2 = (1 : Int32) then
    ah_b2 (F_X0_isThing σ x1) fun v5 σ6 =>
    if v5 = 0 then
      some (none, σ6)
    else
      (ah_gR σ6 10 r0).bind fun v7 =>
      (ah_lQ σ6 113 v7 x1).bind fun v8 =>
      some (v8, σ6)
  else
  if x2 = (2 : Int32) then
    (ah_is σ 1 r0).bind fun u9 =>
    ah_b2 (F_X0_isGt σ r0 x1) fun v10 σ11 =>
    if v10 = 0 then
      some (none, σ11)
    else
      (ah_gR σ11 7 r0).bind fun v12 =>
      (ah_di x1 (10 : Int32)).bind fun q13 =>
      (ah_lQ σ11 112 v12 q13).bind fun v14 =>
      (ah_gR σ11 700 v14).bind fun v15 =>
      (ah_re x1 (10 : Int32)).bind fun q16 =>
      (ah_lQ σ11 113 v15 q16).bind fun v17 =>
      some (v17, σ11)
  else
  if x2 = (3 : Int32) then
    (ah_is σ 1 r0).bind fun u18 =>
    ah_b2 (F_X0_isGt σ r0 x1) fun v19 σ20 =>
    if v19 = 0 then
      some (none, σ20)
    else
      (ah_gR σ20 7 r0).bind fun v21 =>
      (ah_di x1 (10 : Int32)).bind fun q22 =>
      (ah_lQ σ20 112 v21 q22).bind fun v23 =>
      (ah_gR σ20 701 v23).bind fun v24 =>
      (ah_re x1 (10 : Int32)).bind fun q25 =>
      (ah_lQ σ20 113 v24 q25).bind fun v26 =>
      some (v26, σ20)
  else
  if x2 = (4 : Int32) then
    (ah_is σ 1 r0).bind fun u27 =>
    ah_b2 (F_X0_isGuest σ r0 (x1.toInt64)) fun v28 σ29 =>
    if v28 = 0 then
      some (none, σ29)
    else
      (ah_gR σ29 7 r0).bind fun v30 =>
      (ah_lQ σ29 112 v30 x1).bind fun v31 =>
      (ah_gR σ29 702 v31).bind fun v32 =>
      some (v32, σ29)
  else
  if x2 = (5 : Int32) then
    (ah_is σ 1 r0).bind fun u33 =>
    ah_b2 (F_X0_isGuest σ r0 (x1.toInt64)) fun v34 σ35 =>
    if v34 = 0 then
      some (none, σ35)
    else
      (ah_gR σ35 7 r0).bind fun v36 =>
      (ah_lQ σ35 112 v36 x1).bind fun v37 =>
      (ah_gR σ35 703 v37).bind fun v38 =>
      some (v38, σ35)
  else
  if x2 = (6 : Int32) then
    if x1 = 0 then
      (ah_gR σ 11 r0).bind fun v39 =>
      some (v39, σ)
    else
      some (none, σ)
  else
  if x2 = (7 : Int32) then
    if x1 = 0 then
      (ah_gR σ 12 r0).bind fun v40 =>
      some (v40, σ)
    else
      some (none, σ)
  else
  if x2 = (8 : Int32) then
    if x1 = 0 then
      (ah_gR σ 13 r0).bind fun v41 =>
      some (v41, σ)
    else
      some (none, σ)
  else
  some (none, σ)
def F_X0_image  (σ : ah_S) (r0 : Option Nat) : Option (Int32 × ah_S) :=
  (ah_pZ σ 34 r0 (1 : Int32)).bind fun σ1 =>
  (ah_gR σ1 35 r0).bind fun v2 =>
  (ah_gR σ1 18 r0).bind fun v3 =>
  (ah_is σ1 5 v2).bind fun u4 =>
  (F_X4_beAs σ1 v2 v3).bind fun σ5 =>
  (ah_gR σ5 33 r0).bind fun v6 =>
  (ah_gR σ5 36 r0).bind fun v7 =>
  (ah_cp σ5 v6 (0 : Int32) v7 (0 : Int32) (4 : Int32)).bind fun σ8 =>
  (ah_gR σ8 33 r0).bind fun v9 =>
  (ah_lA σ8 101 v9 (0 : Int32)).bind fun v10 =>
  some (v10, σ8)
def F_X0_isBody  (σ : ah_S) (r0 : Option Nat) (x1 : Int32) : Option (Int32 × ah_S) :=
  (ah_gI σ 38 r0).bind fun v1 =>
  ah_b2 (F_X0_within σ (x1.toInt64) (0 : Int64) ((v1 - (1 : Int32)).toInt64)) fun v2 σ3 =>
  (ah_z v2).bind fun z4 => some (z4, σ3)
def F_X0_peek  (σ : ah_S) (r0 : Option Nat) : Option (Int32 × ah_S) :=
  (ah_gI σ 6 r0).bind fun v1 =>
  (ah_gI σ 4 r0).bind fun v2 =>
  if v2 ≤ v1 then
    some ((-1 : Int32), σ)
  else
    (ah_gR σ 3 r0).bind fun v3 =>
    (ah_gI σ 6 r0).bind fun v4 =>
    (ah_lA σ 101 v3 v4).bind fun v5 =>
    some (v5, σ)
def F_X0_isDigit  (σ : ah_S) (r0 : Option Nat) : Option (Int32 × ah_S) :=
  (ah_is σ 1 r0).bind fun u1 =>
  ah_b2 (F_X0_peek σ r0) fun v2 σ3 =>
  ah_b2 (F_X0_within σ3 (v2.toInt64) (48 : Int64) (57 : Int64)) fun v4 σ5 =>
  (ah_z v4).bind fun z6 => some (z6, σ5)
def F_X0_isIn  (σ : ah_S) (x0 : Int32) (x1 : Int32) : Option (Int32 × ah_S) :=
  if ((x0 >>> (x1 &&& 31)) &&& (1 : Int32)) = (1 : Int32) then
    some ((1 : Int32), σ)
  else
    some ((0 : Int32), σ)
def F_X0_isLike_2  : Nat → ah_S → Option Nat → Int32 → Int32 → Int32 → Option (Int32 × ah_S)
  | 0, _, _, _, _, _ => none
  | n + 1, σ, r0, x1, x2, x3 =>
    if (37 : Int32) ≤ x3 then
      some ((1 : Int32), σ)
    else
      (ah_gR σ 22 r0).bind fun v1 =>
      (ah_lA σ 101 v1 ((x1 * (37 : Int32)) + x3)).bind fun v2 =>
      (ah_gR σ 22 r0).bind fun v3 =>
      (ah_lA σ 101 v3 ((x2 * (37 : Int32)) + x3)).bind fun v4 =>
      if v2 = v4 then
        F_X0_isLike_2 n σ r0 x1 x2 (x3 + (1 : Int32))
      else
        some ((0 : Int32), σ)
def F_X0_isLike  (σ : ah_S) (r0 : Option Nat) (x1 : Int32) (x2 : Int32) : Option (Int32 × ah_S) :=
  F_X0_isLike_2 1000 σ r0 x1 x2 (0 : Int32)
def F_X0_keep_22  (σ : ah_S) (r0 : Option Nat) (x1 : Int32) (x2 : Int32) : Option (Int32 × ah_S) :=
  (ah_gR σ 41 r0).bind fun v1 =>
  if x2 = (-1 : Int32) then
    (ah_wQ σ 116 v1 x1 none).bind fun σ5 =>
    some ((1 : Int32), σ5)
  else
    (ah_gR σ 37 r0).bind fun v2 =>
    (ah_lQ σ 115 v2 x2).bind fun v3 =>
    (ah_wQ σ 116 v1 x1 v3).bind fun σ4 =>
    some ((1 : Int32), σ4)
def F_X0_keep  (σ : ah_S) (r0 : Option Nat) (x1 : Int32) (x2 : Int32) : Option (Int32 × ah_S) :=
  ah_b2 (F_X0_isShelf σ x1) fun v1 σ2 =>
  if v1 = 0 then
    some ((-1 : Int32), σ2)
  else
    if x2 = (-1 : Int32) then
      F_X0_keep_22 σ2 r0 x1 x2
    else
      (ah_is σ2 1 r0).bind fun u3 =>
      ah_b2 (F_X0_isBody σ2 r0 x2) fun v4 σ5 =>
      if v4 = 0 then
        some ((-1 : Int32), σ5)
      else
        F_X0_keep_22 σ5 r0 x1 x2
def F_X0_keepState_56  : Nat → ah_S → Option Nat → Int32 → Int32 → Option ah_S
  | 0, _, _, _, _ => none
  | n + 1, σ, r0, x2, x3 =>
    if (28 : Int32) ≤ x3 then
      (ah_gR σ 22 r0).bind fun v1 =>
      (ah_gR σ 19 r0).bind fun v2 =>
      (ah_gI σ 403 v2).bind fun v3 =>
      (ah_wA σ 101 v1 x2 v3).bind fun σ4 =>
      some σ4
    else
      (ah_gR σ 22 r0).bind fun v5 =>
      (ah_gR σ 19 r0).bind fun v6 =>
      (ah_gI σ 403 v6).bind fun v7 =>
      (ah_di x3 (4 : Int32)).bind fun q8 =>
      ah_b2 (F_X0_isIn σ v7 q8) fun v9 σ10 =>
      if v9 = 0 then
        (ah_wA σ10 101 v5 x2 (-2 : Int32)).bind fun σ11 =>
        F_X0_keepState_56 n σ11 r0 (x2 + (1 : Int32)) (x3 + (1 : Int32))
      else
        (ah_gR σ10 19 r0).bind fun v12 =>
        (ah_gR σ10 402 v12).bind fun v13 =>
        (ah_lA σ10 101 v13 x3).bind fun v14 =>
        (ah_wA σ10 101 v5 x2 v14).bind fun σ15 =>
        F_X0_keepState_56 n σ15 r0 (x2 + (1 : Int32)) (x3 + (1 : Int32))
def F_X0_keepState_7  : Nat → ah_S → Option Nat → Int32 → Int32 → Option ah_S
  | 0, _, _, _, _ => none
  | n + 1, σ, r0, x2, x3 =>
    if (4 : Int32) ≤ x3 then
      F_X0_keepState_56 1000 σ r0 x2 (0 : Int32)
    else
      (ah_gR σ 22 r0).bind fun v1 =>
      (ah_gR σ 19 r0).bind fun v2 =>
      (ah_gR σ 400 v2).bind fun v3 =>
      (ah_lA σ 101 v3 x3).bind fun v4 =>
      (ah_wA σ 101 v1 x2 v4).bind fun σ5 =>
      (ah_gR σ5 22 r0).bind fun v6 =>
      (ah_gR σ5 19 r0).bind fun v7 =>
      (ah_gR σ5 401 v7).bind fun v8 =>
      (ah_lA σ5 101 v8 x3).bind fun v9 =>
      (ah_wA σ5 101 v6 (x2 + (1 : Int32)) v9).bind fun σ10 =>
      F_X0_keepState_7 n σ10 r0 ((x2 + (1 : Int32)) + (1 : Int32)) (x3 + (1 : Int32))
def F_X0_keepState  (σ : ah_S) (r0 : Option Nat) (x1 : Int32) : Option ah_S :=
  F_X0_keepState_7 1000 σ r0 (x1 * (37 : Int32)) (0 : Int32)
def F_X0_led  (σ : ah_S) (r0 : Option Nat) (x1 : Int32) : Option (Int32 × ah_S) :=
  ah_b2 (F_X0_within σ (x1.toInt64) (0 : Int64) (3 : Int64)) fun v1 σ2 =>
  if v1 = 0 then
    some ((-1 : Int32), σ2)
  else
    (ah_gR σ2 33 r0).bind fun v3 =>
    (ah_lA σ2 101 v3 x1).bind fun v4 =>
    some (v4, σ2)
def F_X0_lookAt  (σ : ah_S) (r0 : Option Nat) (x1 : Int32) : Option (Int32 × ah_S) :=
  ah_b2 (F_X0_isShelf σ x1) fun v1 σ2 =>
  if v1 = 0 then
    some ((-1 : Int32), σ2)
  else
    (ah_gR σ2 41 r0).bind fun v3 =>
    (ah_lQ σ2 116 v3 x1).bind fun v4 =>
    if v4 = none then
      some ((-11 : Int32), σ2)
    else
      ah_b2 (F_X0_sortOf σ2 v4) fun v5 σ6 =>
      if v5 = 0 then
        some ((0 : Int32), σ6)
      else
        some ((-12 : Int32), σ6)
def F_X0_mend  (σ : ah_S) (r0 : Option Nat) (x1 : Int32) (x2 : Int32) (x3 : Int32) : Option (Int32 × ah_S) :=
  (ah_is σ 1 r0).bind fun u1 =>
  ah_b2 (F_X0_held σ r0 x1 x2) fun v2 σ3 =>
  if v2 = none then
    some ((-1 : Int32), σ3)
  else
    ah_b2 (F_X0_greatest σ3 x2) fun v4 σ5 =>
    ah_b2 (F_X0_within σ5 (x3.toInt64) (0 : Int64) (v4.toInt64)) fun v6 σ7 =>
    if v6 = 0 then
      some ((-1 : Int32), σ7)
    else
      (ah_is σ7 1 r0).bind fun u8 =>
      ah_b2 (F_X0_become σ7 r0 v2 x3) fun v9 σ10 =>
      some (v9, σ10)
def F_X0_nameOf  (σ : ah_S) (x0 : Int32) : Option (Int32 × ah_S) :=
  if x0 = (98 : Int32) then
    some ((3 : Int32), σ)
  else
  if x0 = (99 : Int32) then
    some ((-1 : Int32), σ)
  else
  if x0 = (100 : Int32) then
    some ((-1 : Int32), σ)
  else
  if x0 = (101 : Int32) then
    some ((-1 : Int32), σ)
  else
  if x0 = (102 : Int32) then
    some ((0 : Int32), σ)
  else
  if x0 = (103 : Int32) then
    some ((-1 : Int32), σ)
  else
  if x0 = (104 : Int32) then
    some ((-1 : Int32), σ)
  else
  if x0 = (105 : Int32) then
    some ((-1 : Int32), σ)
  else
  if x0 = (106 : Int32) then
    some ((-1 : Int32), σ)
  else
  if x0 = (107 : Int32) then
    some ((5 : Int32), σ)
  else
  if x0 = (108 : Int32) then
    some ((-1 : Int32), σ)
  else
  if x0 = (109 : Int32) then
    some ((-1 : Int32), σ)
  else
  if x0 = (110 : Int32) then
    some ((-1 : Int32), σ)
  else
  if x0 = (111 : Int32) then
    some ((1 : Int32), σ)
  else
  if x0 = (112 : Int32) then
    some ((-1 : Int32), σ)
  else
  if x0 = (113 : Int32) then
    some ((-1 : Int32), σ)
  else
  if x0 = (114 : Int32) then
    some ((-1 : Int32), σ)
  else
  if x0 = (115 : Int32) then
    some ((4 : Int32), σ)
  else
  if x0 = (116 : Int32) then
    some ((2 : Int32), σ)
  else
  some ((-1 : Int32), σ)
def F_X0_of  (σ : ah_S) (r0 : Option Nat) (x1 : Int32) (x2 : Int32) : Option (Int32 × ah_S) :=
  (ah_is σ 1 r0).bind fun u1 =>
  ah_b2 (F_X0_held σ r0 x1 x2) fun v2 σ3 =>
  if v2 = none then
    if x2 = (10 : Int32) then
      ah_b2 (F_X0_isThing σ3 x1) fun v4 σ5 =>
      if v4 = 0 then
        some ((-1 : Int32), σ5)
      else
        (ah_gR σ5 18 r0).bind fun v6 =>
        (ah_gR σ5 400 v6).bind fun v7 =>
        (ah_lA σ5 101 v7 x1).bind fun v8 =>
        some (v8, σ5)
    else
    if x2 = (11 : Int32) then
      ah_b2 (F_X0_isThing σ3 x1) fun v9 σ10 =>
      if v9 = 0 then
        some ((-1 : Int32), σ10)
      else
        (ah_gR σ10 18 r0).bind fun v11 =>
        (ah_gR σ10 401 v11).bind fun v12 =>
        (ah_lA σ10 101 v12 x1).bind fun v13 =>
        some (v13, σ10)
    else
    if x2 = (12 : Int32) then
      (ah_is σ3 1 r0).bind fun u14 =>
      ah_b2 (F_X0_isGt σ3 r0 x1) fun v15 σ16 =>
      if v15 = 0 then
        some ((-1 : Int32), σ16)
      else
        (ah_gR σ16 18 r0).bind fun v17 =>
        (ah_gI σ16 403 v17).bind fun v18 =>
        (ah_di x1 (10 : Int32)).bind fun q19 =>
        ah_b2 (F_X0_isIn σ16 v18 q19) fun v20 σ21 =>
        if v20 = 0 then
          some ((-2 : Int32), σ21)
        else
          (ah_gR σ21 18 r0).bind fun v22 =>
          (ah_gR σ21 402 v22).bind fun v23 =>
          (ah_di x1 (10 : Int32)).bind fun q24 =>
          (ah_re x1 (10 : Int32)).bind fun q25 =>
          (ah_lA σ21 101 v23 (((4 : Int32) * q24) + q25)).bind fun v26 =>
          some (v26, σ21)
    else
    some ((-1 : Int32), σ3)
  else
    (ah_gI σ3 200 v2).bind fun v27 =>
    some (v27, σ3)
def F_X0_put  (σ : ah_S) (r0 : Option Nat) (x1 : Int32) (x2 : Int32) (l3 : Int64) : Option (Int32 × ah_S) :=
  (ah_is σ 1 r0).bind fun u1 =>
  ah_b2 (F_X0_refusal σ r0 x1 x2) fun v2 σ3 =>
  if v2 = 0 then
    (ah_gR σ3 41 r0).bind fun v4 =>
    (ah_lQ σ3 116 v4 x1).bind fun v5 =>
    ah_b2 (F_X0_sortOf σ3 v5) fun v6 σ7 =>
    if v6 = (0 : Int32) then
      (ah_ca σ7 102 v5).bind fun u8 =>
      (ah_wA σ7 102 v5 x2 (vp_nar .byte ((l3.toInt32).toInt8.toInt32))).bind fun σ9 =>
      some ((1 : Int32), σ9)
    else
    if v6 = (1 : Int32) then
      (ah_ca σ7 103 v5).bind fun u10 =>
      (ah_wA σ7 103 v5 x2 (vp_nar .short ((l3.toInt32).toInt16.toInt32))).bind fun σ11 =>
      some ((1 : Int32), σ11)
    else
    if v6 = (2 : Int32) then
      (ah_ca σ7 101 v5).bind fun u12 =>
      (ah_wA σ7 101 v5 x2 (l3.toInt32)).bind fun σ13 =>
      some ((1 : Int32), σ13)
    else
    if v6 = (3 : Int32) then
      (ah_ca σ7 104 v5).bind fun u14 =>
      (ah_wL σ7 v5 x2 l3).bind fun σ15 =>
      some ((1 : Int32), σ15)
    else
    (ah_ca σ7 105 v5).bind fun u16 =>
    if (lg_cmp l3 (0 : Int64)) = 0 then
      (ah_wA σ7 105 v5 x2 (vp_nar .boolean (0 : Int32))).bind fun σ17 =>
      some ((1 : Int32), σ17)
    else
      (ah_wA σ7 105 v5 x2 (vp_nar .boolean (1 : Int32))).bind fun σ18 =>
      some ((1 : Int32), σ18)
  else
    some (v2, σ3)
def F_X0_redo  (σ : ah_S) (r0 : Option Nat) : Option (Int32 × ah_S) :=
  (ah_gI σ 2 r0).bind fun v1 =>
  (ah_gI σ 1 r0).bind fun v2 =>
  if v1 = v2 then
    some ((-5 : Int32), σ)
  else
    (ah_gR σ 0 r0).bind fun v3 =>
    (ah_gI σ 2 r0).bind fun v4 =>
    (ah_lQ σ 111 v3 v4).bind fun v5 =>
    (ah_gR σ 500 v5).bind fun v6 =>
    (ah_gR σ 0 r0).bind fun v7 =>
    (ah_gI σ 2 r0).bind fun v8 =>
    (ah_lQ σ 111 v7 v8).bind fun v9 =>
    (ah_gI σ 502 v9).bind fun v10 =>
    (ah_pI σ 200 v6 v10).bind fun σ11 =>
    (ah_gI σ11 2 r0).bind fun v12 =>
    (ah_pI σ11 2 r0 (v12 + (1 : Int32))).bind fun σ13 =>
    (ah_gI σ13 1 r0).bind fun v14 =>
    (ah_gI σ13 2 r0).bind fun v15 =>
    some ((v14 - v15), σ13)
def F_X0_row  (σ : ah_S) (r0 : Option Nat) (x1 : Int32) (x2 : Int32) (x3 : Int32) : Option (Int32 × ah_S) :=
  ah_b2 (F_X0_isShelf σ x1) fun v1 σ2 =>
  if v1 = 0 then
    some ((-1 : Int32), σ2)
  else
    ah_b2 (F_X0_within σ2 (x2.toInt64) (0 : Int64) (4 : Int64)) fun v3 σ4 =>
    if v3 = 0 then
      some ((-1 : Int32), σ4)
    else
      if x3 ≤ (60 : Int32) then
        if 0 ≤ x3 then
          if x2 = (0 : Int32) then
            (ah_gR σ4 41 r0).bind fun v5 =>
            (ah_mA σ4 102 x3).bind fun σ6 =>
            (ah_wQ σ6 116 v5 x1 (some (ah_nx σ4))).bind fun σ7 =>
            some ((1 : Int32), σ7)
          else
          if x2 = (1 : Int32) then
            (ah_gR σ4 41 r0).bind fun v8 =>
            (ah_mA σ4 103 x3).bind fun σ9 =>
            (ah_wQ σ9 116 v8 x1 (some (ah_nx σ4))).bind fun σ10 =>
            some ((1 : Int32), σ10)
          else
          if x2 = (2 : Int32) then
            (ah_gR σ4 41 r0).bind fun v11 =>
            (ah_mA σ4 101 x3).bind fun σ12 =>
            (ah_wQ σ12 116 v11 x1 (some (ah_nx σ4))).bind fun σ13 =>
            some ((1 : Int32), σ13)
          else
          if x2 = (3 : Int32) then
            (ah_gR σ4 41 r0).bind fun v14 =>
            (ah_mA σ4 104 x3).bind fun σ15 =>
            (ah_wQ σ15 116 v14 x1 (some (ah_nx σ4))).bind fun σ16 =>
            some ((1 : Int32), σ16)
          else
          (ah_gR σ4 41 r0).bind fun v17 =>
          (ah_mA σ4 105 x3).bind fun σ18 =>
          (ah_wQ σ18 116 v17 x1 (some (ah_nx σ4))).bind fun σ19 =>
          some ((1 : Int32), σ19)
        else
          some ((-14 : Int32), σ4)
      else
        some ((-1 : Int32), σ4)
def F_X0_set  (σ : ah_S) (r0 : Option Nat) (x1 : Int32) (x2 : Int32) : Option (Int32 × ah_S) :=
  ah_b2 (F_X0_isThing σ x1) fun v1 σ2 =>
  if v1 = 0 then
    some ((-1 : Int32), σ2)
  else
    ah_b2 (F_X0_within σ2 (x2.toInt64) (0 : Int64) (99 : Int64)) fun v3 σ4 =>
    if v3 = 0 then
      some ((-1 : Int32), σ4)
    else
      (ah_gR σ4 18 r0).bind fun v5 =>
      (ah_gR σ4 400 v5).bind fun v6 =>
      (ah_lA σ4 101 v6 x1).bind fun v7 =>
      (ah_gR σ4 18 r0).bind fun v8 =>
      (ah_gR σ4 400 v8).bind fun v9 =>
      (ah_wA σ4 101 v9 x1 x2).bind fun σ10 =>
      some (v7, σ10)
def F_X0_shift  (σ : ah_S) (r0 : Option Nat) (x1 : Int32) (x2 : Int32) (x3 : Int32) (x4 : Int32) (x5 : Int32) : Option (Int32 × ah_S) :=
  ah_b2 (F_X0_isShelf σ x1) fun v1 σ2 =>
  if v1 = 0 then
    some ((-1 : Int32), σ2)
  else
    ah_b2 (F_X0_isShelf σ2 x3) fun v3 σ4 =>
    if v3 = 0 then
      some ((-1 : Int32), σ4)
    else
      (ah_gR σ4 41 r0).bind fun v5 =>
      (ah_lQ σ4 116 v5 x1).bind fun v6 =>
      (ah_gR σ4 41 r0).bind fun v7 =>
      (ah_lQ σ4 116 v7 x3).bind fun v8 =>
      if v6 = none then
        some ((-11 : Int32), σ4)
      else
        if v8 = none then
          some ((-11 : Int32), σ4)
        else
          ah_b2 (F_X0_sortOf σ4 v6) fun v9 σ10 =>
          if v9 = (-1 : Int32) then
            some ((-12 : Int32), σ10)
          else
            ah_b2 (F_X0_sortOf σ10 v6) fun v11 σ12 =>
            ah_b2 (F_X0_sortOf σ12 v8) fun v13 σ14 =>
            if v11 = v13 then
              if x5 < 0 then
                some ((-13 : Int32), σ14)
              else
                if x2 < 0 then
                  some ((-13 : Int32), σ14)
                else
                  if x4 < 0 then
                    some ((-13 : Int32), σ14)
                  else
                    ah_b2 (F_X0_sizeOf σ14 v6) fun v15 σ16 =>
                    if (v15 - x5) < x2 then
                      some ((-13 : Int32), σ16)
                    else
                      ah_b2 (F_X0_sizeOf σ16 v8) fun v17 σ18 =>
                      if x4 ≤ (v17 - x5) then
                        (ah_cp σ18 v6 x2 v8 x4 x5).bind fun σ19 =>
                        some (x5, σ19)
                      else
                        some ((-13 : Int32), σ18)
            else
              some ((-12 : Int32), σ14)
def F_X0_take  (σ : ah_S) (r0 : Option Nat) (x1 : Int32) : Option (Int32 × ah_S) :=
  (ah_is σ 1 r0).bind fun u1 =>
  ah_b2 (F_X0_peek σ r0) fun v2 σ3 =>
  if v2 = x1 then
    (ah_gI σ3 6 r0).bind fun v4 =>
    (ah_pI σ3 6 r0 (v4 + (1 : Int32))).bind fun σ5 =>
    some ((1 : Int32), σ5)
  else
    some ((0 : Int32), σ3)
def F_X0_takeRow_13  : Nat → ah_S → Option Nat → Option Nat → Int32 → Option ah_S
  | 0, _, _, _, _ => none
  | n + 1, σ, r0, r1, x2 =>
    (ah_gI σ 21 r0).bind fun v1 =>
    if v1 ≤ x2 then
      some σ
    else
      (ah_gR σ 20 r0).bind fun v2 =>
      (ah_lA σ 102 r1 x2).bind fun v3 =>
      (ah_is σ 1 r0).bind fun u4 =>
      ah_b2 (F_X0_isGuest σ r0 (v3.toInt64)) fun v5 σ6 =>
      if v5 = 0 then
        (ah_wA σ6 101 v2 x2 (-1 : Int32)).bind fun σ7 =>
        F_X0_takeRow_13 n σ7 r0 r1 (x2 + (1 : Int32))
      else
        (ah_lA σ6 102 r1 x2).bind fun v8 =>
        (ah_wA σ6 101 v2 x2 v8).bind fun σ9 =>
        F_X0_takeRow_13 n σ9 r0 r1 (x2 + (1 : Int32))
def F_X0_takeRow  (σ : ah_S) (r0 : Option Nat) (r1 : Option Nat) : Option ah_S :=
  (ah_al_ σ r1).bind fun v1 =>
  (ah_pI σ 21 r0 (if v1 < (30 : Int32) then v1 else (30 : Int32))).bind fun σ2 =>
  F_X0_takeRow_13 1000 σ2 r0 r1 (0 : Int32)
def F_X0_takes1Row  (σ : ah_S) (r0 : Option Nat) (x1 : Int32) : Option (Int32 × ah_S) :=
  (ah_is σ 1 r0).bind fun u1 =>
  ah_b2 (F_X0_lookAt σ r0 x1) fun v2 σ3 =>
  if v2 = 0 then
    (ah_gR σ3 41 r0).bind fun v4 =>
    (ah_lQ σ3 116 v4 x1).bind fun v5 =>
    (ah_ca σ3 102 v5).bind fun u6 =>
    (ah_is σ3 1 r0).bind fun u7 =>
    (F_X0_takeRow σ3 r0 v5).bind fun σ8 =>
    some (v2, σ8)
  else
    some (v2, σ3)
def F_X0_trace  (σ : ah_S) (r0 : Option Nat) (x1 : Int32) : Option (Int32 × ah_S) :=
  (ah_gI σ 40 r0).bind fun v1 =>
  ah_b2 (F_X0_within σ (x1.toInt64) (0 : Int64) (((if (24 : Int32) < v1 then (24 : Int32) else v1) - (1 : Int32)).toInt64)) fun v2 σ3 =>
  if v2 = 0 then
    some ((-1 : Int32), σ3)
  else
    (ah_gR σ3 39 r0).bind fun v4 =>
    (ah_lA σ3 101 v4 x1).bind fun v5 =>
    some (v5, σ3)
def F_X0_undo  (σ : ah_S) (r0 : Option Nat) : Option (Int32 × ah_S) :=
  (ah_gI σ 2 r0).bind fun v1 =>
  if v1 = 0 then
    some ((-5 : Int32), σ)
  else
    (ah_gI σ 2 r0).bind fun v2 =>
    (ah_pI σ 2 r0 (v2 - (1 : Int32))).bind fun σ3 =>
    (ah_gR σ3 0 r0).bind fun v4 =>
    (ah_gI σ3 2 r0).bind fun v5 =>
    (ah_lQ σ3 111 v4 v5).bind fun v6 =>
    (ah_gR σ3 500 v6).bind fun v7 =>
    (ah_gR σ3 0 r0).bind fun v8 =>
    (ah_gI σ3 2 r0).bind fun v9 =>
    (ah_lQ σ3 111 v8 v9).bind fun v10 =>
    (ah_gI σ3 501 v10).bind fun v11 =>
    (ah_pI σ3 200 v7 v11).bind fun σ12 =>
    (ah_gI σ12 2 r0).bind fun v13 =>
    some (v13, σ12)
def F_X9_init  (σ : ah_S) (r0 : Option Nat) : Option ah_S :=
  (r0).bind fun a1 =>
  some σ
def F_X10_init  (σ : ah_S) (r0 : Option Nat) (x1 : Int32) : Option ah_S :=
  (r0).bind fun a1 =>
  (F_X9_init σ r0).bind fun σ2 =>
  (ah_pI σ2 1000 r0 x1).bind fun σ3 =>
  some σ3
def F_X11_init  (σ : ah_S) (r0 : Option Nat) (r1 : Option Nat) (x2 : Int32) : Option ah_S :=
  (ah_pR σ 1101 r0 r1).bind fun σ1 =>
  (r0).bind fun a2 =>
  (F_X9_init σ1 r0).bind fun σ3 =>
  (ah_pI σ3 1100 r0 x2).bind fun σ4 =>
  some σ4
def F_X12_init  (σ : ah_S) (r0 : Option Nat) (x1 : Int32) (r2 : Option Nat) : Option ah_S :=
  (r0).bind fun a1 =>
  (F_X9_init σ r0).bind fun σ2 =>
  (ah_pI σ2 1200 r0 x1).bind fun σ3 =>
  (ah_pR σ3 1201 r0 r2).bind fun σ4 =>
  some σ4
def F_X13_init  (σ : ah_S) (r0 : Option Nat) (x1 : Int32) (r2 : Option Nat) (r3 : Option Nat) : Option ah_S :=
  (r0).bind fun a1 =>
  (F_X9_init σ r0).bind fun σ2 =>
  (ah_pI σ2 1300 r0 x1).bind fun σ3 =>
  (ah_pR σ3 1301 r0 r2).bind fun σ4 =>
  (ah_pR σ4 1302 r0 r3).bind fun σ5 =>
  some σ5
def F_X4_believedBy  (σ : ah_S) (r0 : Option Nat) (x1 : Int32) (x2 : Int32) : Option (Int32 × ah_S) :=
  (ah_gR σ 406 r0).bind fun v1 =>
  (ah_gR σ 7 v1).bind fun v2 =>
  (ah_lQ σ 112 v2 x1).bind fun v3 =>
  (ah_gR σ 703 v3).bind fun v4 =>
  (ah_gI σ 200 v4).bind fun v5 =>
  if v5 = (0 : Int32) then
    (ah_gR σ 402 r0).bind fun v6 =>
    (ah_lA σ 101 v6 (((4 : Int32) * x1) + x2)).bind fun v7 =>
    some (v7, σ)
  else
  if v5 = (1 : Int32) then
    (ah_gR σ 401 r0).bind fun v8 =>
    (ah_lA σ 101 v8 x2).bind fun v9 =>
    some (v9, σ)
  else
  if v5 = (2 : Int32) then
    (ah_gR σ 406 r0).bind fun v10 =>
    (ah_gR σ 9 v10).bind fun v11 =>
    (ah_lQ σ 113 v11 x2).bind fun v12 =>
    (ah_gI σ 200 v12).bind fun v13 =>
    some (v13, σ)
  else
  if v5 = (3 : Int32) then
    (ah_gI σ 404 r0).bind fun v14 =>
    if v14 = 0 then
      (ah_gR σ 406 r0).bind fun v15 =>
      (ah_gR σ 9 v15).bind fun v16 =>
      (ah_lQ σ 113 v16 x2).bind fun v17 =>
      (ah_gI σ 200 v17).bind fun v18 =>
      some (v18, σ)
    else
      (ah_gR σ 405 r0).bind fun v19 =>
      (ah_lA σ 101 v19 x2).bind fun v20 =>
      some (v20, σ)
  else
  (ah_gR σ 406 r0).bind fun v21 =>
  (ah_gR σ 9 v21).bind fun v22 =>
  (ah_lQ σ 113 v22 x2).bind fun v23 =>
  (ah_gI σ 200 v23).bind fun v24 =>
  some (v24, σ)
def F_X4_init_40  : Nat → ah_S → Option Nat → Int32 → Option ah_S
  | 0, _, _, _ => none
  | n + 1, σ, r0, x2 =>
    if (4 : Int32) ≤ x2 then
      some σ
    else
      (ah_gR σ 400 r0).bind fun v1 =>
      (ah_wA σ 101 v1 x2 (50 : Int32)).bind fun σ2 =>
      (ah_gR σ2 401 r0).bind fun v3 =>
      (ah_wA σ2 101 v3 x2 (50 : Int32)).bind fun σ4 =>
      F_X4_init_40 n σ4 r0 (x2 + (1 : Int32))
def F_X4_init  (σ : ah_S) (r0 : Option Nat) (r1 : Option Nat) : Option ah_S :=
  (ah_pR σ 406 r0 r1).bind fun σ1 =>
  (r0).bind fun a2 =>
  (ah_mA σ1 101 (4 : Int32)).bind fun σ3 =>
  (ah_pR σ3 400 r0 (some (ah_nx σ1))).bind fun σ4 =>
  (ah_mA σ4 101 (4 : Int32)).bind fun σ5 =>
  (ah_pR σ5 401 r0 (some (ah_nx σ4))).bind fun σ6 =>
  (ah_mA σ6 101 (28 : Int32)).bind fun σ7 =>
  (ah_pR σ7 402 r0 (some (ah_nx σ6))).bind fun σ8 =>
  (ah_mA σ8 101 (4 : Int32)).bind fun σ9 =>
  (ah_pR σ9 405 r0 (some (ah_nx σ8))).bind fun σ10 =>
  F_X4_init_40 1000 σ10 r0 (0 : Int32)
def F_X4_lacks  (σ : ah_S) (r0 : Option Nat) (x1 : Int32) : Option (Int32 × ah_S) :=
  (ah_gR σ 406 r0).bind fun v1 =>
  (ah_gR σ 9 v1).bind fun v2 =>
  (ah_lQ σ 113 v2 x1).bind fun v3 =>
  (ah_gI σ 200 v3).bind fun v4 =>
  (ah_gR σ 400 r0).bind fun v5 =>
  (ah_lA σ 101 v5 x1).bind fun v6 =>
  some ((if (0 : Int32) < (v4 - v6) then (v4 - v6) else (0 : Int32)), σ)
def F_X4_loss_4  : Nat → ah_S → Option Nat → Int32 → Int32 → Option (Int32 × ah_S)
  | 0, _, _, _, _ => none
  | n + 1, σ, r0, x1, x2 =>
    if (4 : Int32) ≤ x2 then
      some (x1, σ)
    else
      (ah_is σ 5 r0).bind fun u1 =>
      ah_b2 (F_X4_lacks σ r0 x2) fun v2 σ3 =>
      (ah_gR σ3 406 r0).bind fun v4 =>
      (ah_gR σ3 10 v4).bind fun v5 =>
      (ah_lQ σ3 113 v5 x2).bind fun v6 =>
      (ah_gI σ3 200 v6).bind fun v7 =>
      F_X4_loss_4 n σ3 r0 (x1 + (v2 * v7)) (x2 + (1 : Int32))
def F_X4_loss  (σ : ah_S) (r0 : Option Nat) : Option (Int32 × ah_S) :=
  F_X4_loss_4 1000 σ r0 (0 : Int32) (0 : Int32)
def F_X5_init  (σ : ah_S) (r0 : Option Nat) : Option ah_S :=
  (r0).bind fun a1 =>
  some σ
def F_X8_init  (σ : ah_S) (r0 : Option Nat) : Option ah_S :=
  (r0).bind fun a1 =>
  some σ
def F_X0_common (f_X0_common : ah_S → Int64 → Int64 → Option (Int64 × ah_S)) (σ : ah_S) (l0 : Int64) (l2 : Int64) : Option (Int64 × ah_S) :=
  if (lg_cmp l2 (0 : Int64)) = 0 then
    some (l0, σ)
  else
    (ah_lre l0 l2).bind fun q1 =>
    ah_b2 (f_X0_common σ l2 q1) fun v2 σ3 =>
    some (v2, σ3)
def Z_X0_common : Nat → ah_S → Int64 → Int64 → Option (Int64 × ah_S)
  | 0, _, _, _ => none
  | d + 1, σ, l0, l2 => F_X0_common (Z_X0_common d) σ l0 l2
def F_X0_partOf  (σ : ah_S) (l0 : Int64) (l2 : Int64) (x4 : Int32) : Option (Int64 × ah_S) :=
  if (lg_cmp l0 (0 : Int64)) = 0 then
    some ((x4.toInt64), σ)
  else
    ah_b2 (Z_X0_common 100 σ l0 l2) fun v1 σ2 =>
    if x4 = 0 then
      (ah_ldi l0 v1).bind fun q4 =>
      some (q4, σ2)
    else
      (ah_ldi l2 v1).bind fun q3 =>
      some (q3, σ2)
