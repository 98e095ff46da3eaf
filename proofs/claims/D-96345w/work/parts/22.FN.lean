def F_X6_operand_46 (f_X6_operand : ah_S → Option Nat → Option ah_S) (f_X6_either : ah_S → Option Nat → Option ah_S) (σ : ah_S) (r0 : Option Nat) (x1 : Int32) : Option ah_S :=
  (ah_is σ 7 r0).bind fun u1 =>
  ah_b2 (F_X6_opens σ r0) fun v2 σ3 =>
  if v2 = 0 then
    some σ3
  else
    (ah_is σ3 7 r0).bind fun u4 =>
    (f_X6_operand σ3 r0).bind fun σ5 =>
    (ah_gI σ5 622 r0).bind fun v6 =>
    (ah_pI σ5 622 r0 (v6 - (1 : Int32))).bind fun σ7 =>
    if x1 = (33 : Int32) then
      (ah_is σ7 7 r0).bind fun u10 =>
      (F_X6_addStep σ7 r0 (3 : Int32) (0 : Int32)).bind fun σ11 =>
      some σ11
    else
      (ah_is σ7 7 r0).bind fun u8 =>
      (F_X6_addStep σ7 r0 (4 : Int32) (0 : Int32)).bind fun σ9 =>
      some σ9
def F_X6_operand (f_X6_operand : ah_S → Option Nat → Option ah_S) (f_X6_either : ah_S → Option Nat → Option ah_S) (σ : ah_S) (r0 : Option Nat) : Option ah_S :=
  (ah_is σ 7 r0).bind fun u1 =>
  ah_b2 (F_X6_look σ r0) fun v2 σ3 =>
  ah_b2 (F_X6_nameOf σ3 v2) fun v4 σ5 =>
  if v4 < 0 then
    if v2 = (33 : Int32) then
      F_X6_operand_46 f_X6_operand f_X6_either σ5 r0 v2
    else
      if v2 = (45 : Int32) then
        F_X6_operand_46 f_X6_operand f_X6_either σ5 r0 v2
      else
        if v2 = (40 : Int32) then
          (ah_is σ5 7 r0).bind fun u8 =>
          ah_b2 (F_X6_opens σ5 r0) fun v9 σ10 =>
          if v9 = 0 then
            some σ10
          else
            (ah_is σ10 7 r0).bind fun u11 =>
            (f_X6_either σ10 r0).bind fun σ12 =>
            (ah_gI σ12 621 r0).bind fun v13 =>
            if v13 < 0 then
              (ah_is σ12 7 r0).bind fun u14 =>
              ah_b2 (F_X6_look σ12 r0) fun v15 σ16 =>
              if v15 = (41 : Int32) then
                (ah_gI σ16 620 r0).bind fun v17 =>
                (ah_pI σ16 620 r0 (v17 + (1 : Int32))).bind fun σ18 =>
                (ah_gI σ18 622 r0).bind fun v19 =>
                (ah_pI σ18 622 r0 (v19 - (1 : Int32))).bind fun σ20 =>
                some σ20
              else
                (ah_is σ16 7 r0).bind fun u21 =>
                (F_X6_faulty σ16 r0).bind fun σ22 =>
                some σ22
            else
              some σ12
        else
          (ah_is σ5 7 r0).bind fun u6 =>
          (F_X6_figure σ5 r0).bind fun σ7 =>
          some σ7
  else
    ah_b2 (F_X6_nameOf σ5 v2) fun v23 σ24 =>
    (ah_is σ24 7 r0).bind fun u25 =>
    (F_X6_addStep σ24 r0 (2 : Int32) v23).bind fun σ26 =>
    (ah_gI σ26 620 r0).bind fun v27 =>
    (ah_pI σ26 620 r0 (v27 + (1 : Int32))).bind fun σ28 =>
    some σ28
def F_X6_product_38 (f_X6_operand : ah_S → Option Nat → Option ah_S) (k4 : ah_S → Option Nat → Option ah_S) (σ : ah_S) (r0 : Option Nat) : Option ah_S :=
  (ah_is σ 7 r0).bind fun u1 =>
  ah_b2 (F_X6_look σ r0) fun v2 σ3 =>
  (ah_gI σ3 620 r0).bind fun v4 =>
  (ah_pI σ3 620 r0 (v4 + (1 : Int32))).bind fun σ5 =>
  (ah_is σ5 7 r0).bind fun u6 =>
  (f_X6_operand σ5 r0).bind fun σ7 =>
  (ah_is σ7 7 r0).bind fun u8 =>
  (F_X6_addStep σ7 r0 v2 (0 : Int32)).bind fun σ9 =>
  k4 σ9 r0
def F_X6_product_4 (f_X6_operand : ah_S → Option Nat → Option ah_S) : Nat → ah_S → Option Nat → Option ah_S
  | 0, _, _ => none
  | n + 1, σ, r0 =>
    (ah_gI σ 621 r0).bind fun v1 =>
    if 0 ≤ v1 then
      some σ
    else
      (ah_is σ 7 r0).bind fun u2 =>
      ah_b2 (F_X6_look σ r0) fun v3 σ4 =>
      if v3 = (42 : Int32) then
        F_X6_product_38 f_X6_operand (F_X6_product_4 f_X6_operand n) σ4 r0
      else
        (ah_is σ4 7 r0).bind fun u5 =>
        ah_b2 (F_X6_look σ4 r0) fun v6 σ7 =>
        if v6 = (47 : Int32) then
          F_X6_product_38 f_X6_operand (F_X6_product_4 f_X6_operand n) σ7 r0
        else
          (ah_is σ7 7 r0).bind fun u8 =>
          ah_b2 (F_X6_look σ7 r0) fun v9 σ10 =>
          if v9 = (37 : Int32) then
            F_X6_product_38 f_X6_operand (F_X6_product_4 f_X6_operand n) σ10 r0
          else
            some σ10
def F_X6_product (f_X6_operand : ah_S → Option Nat → Option ah_S) (σ : ah_S) (r0 : Option Nat) : Option ah_S :=
  (ah_is σ 7 r0).bind fun u1 =>
  (f_X6_operand σ r0).bind fun σ2 =>
  F_X6_product_4 f_X6_operand 1000 σ2 r0
def F_X6_sum_29 (f_X6_product : ah_S → Option Nat → Option ah_S) (k4 : ah_S → Option Nat → Option ah_S) (σ : ah_S) (r0 : Option Nat) : Option ah_S :=
  (ah_is σ 7 r0).bind fun u1 =>
  ah_b2 (F_X6_look σ r0) fun v2 σ3 =>
  (ah_gI σ3 620 r0).bind fun v4 =>
  (ah_pI σ3 620 r0 (v4 + (1 : Int32))).bind fun σ5 =>
  (ah_is σ5 7 r0).bind fun u6 =>
  (f_X6_product σ5 r0).bind fun σ7 =>
  (ah_is σ7 7 r0).bind fun u8 =>
  (F_X6_addStep σ7 r0 v2 (0 : Int32)).bind fun σ9 =>
  k4 σ9 r0
def F_X6_sum_4 (f_X6_product : ah_S → Option Nat → Option ah_S) : Nat → ah_S → Option Nat → Option ah_S
  | 0, _, _ => none
  | n + 1, σ, r0 =>
    (ah_gI σ 621 r0).bind fun v1 =>
    if 0 ≤ v1 then
      some σ
    else
      (ah_is σ 7 r0).bind fun u2 =>
      ah_b2 (F_X6_look σ r0) fun v3 σ4 =>
      if v3 = (43 : Int32) then
        F_X6_sum_29 f_X6_product (F_X6_sum_4 f_X6_product n) σ4 r0
      else
        (ah_is σ4 7 r0).bind fun u5 =>
        ah_b2 (F_X6_look σ4 r0) fun v6 σ7 =>
        if v6 = (45 : Int32) then
          F_X6_sum_29 f_X6_product (F_X6_sum_4 f_X6_product n) σ7 r0
        else
          some σ7
def F_X6_sum (f_X6_product : ah_S → Option Nat → Option ah_S) (σ : ah_S) (r0 : Option Nat) : Option ah_S :=
  (ah_is σ 7 r0).bind fun u1 =>
  (f_X6_product σ r0).bind fun σ2 =>
  F_X6_sum_4 f_X6_product 1000 σ2 r0
def F_X6_compared (f_X6_sum : ah_S → Option Nat → Option ah_S) (σ : ah_S) (r0 : Option Nat) : Option ah_S :=
  (ah_is σ 7 r0).bind fun u1 =>
  (f_X6_sum σ r0).bind fun σ2 =>
  (ah_is σ2 7 r0).bind fun u3 =>
  ah_b2 (F_X6_look σ2 r0) fun v4 σ5 =>
  (ah_gI σ5 621 r0).bind fun v6 =>
  if 0 ≤ v6 then
    some σ5
  else
    if v4 = (60 : Int32) then
      (ah_gI σ5 620 r0).bind fun v7 =>
      (ah_pI σ5 620 r0 (v7 + (1 : Int32))).bind fun σ8 =>
      (ah_is σ8 7 r0).bind fun u9 =>
      (f_X6_sum σ8 r0).bind fun σ10 =>
      (ah_is σ10 7 r0).bind fun u11 =>
      (F_X6_addStep σ10 r0 v4 (0 : Int32)).bind fun σ12 =>
      some σ12
    else
      if v4 = (61 : Int32) then
        (ah_gI σ5 620 r0).bind fun v13 =>
        (ah_pI σ5 620 r0 (v13 + (1 : Int32))).bind fun σ14 =>
        (ah_is σ14 7 r0).bind fun u15 =>
        (f_X6_sum σ14 r0).bind fun σ16 =>
        (ah_is σ16 7 r0).bind fun u17 =>
        (F_X6_addStep σ16 r0 v4 (0 : Int32)).bind fun σ18 =>
        some σ18
      else
        if v4 = (62 : Int32) then
          (ah_gI σ5 620 r0).bind fun v19 =>
          (ah_pI σ5 620 r0 (v19 + (1 : Int32))).bind fun σ20 =>
          (ah_is σ20 7 r0).bind fun u21 =>
          (f_X6_sum σ20 r0).bind fun σ22 =>
          (ah_is σ22 7 r0).bind fun u23 =>
          (F_X6_addStep σ22 r0 v4 (0 : Int32)).bind fun σ24 =>
          some σ24
        else
          some σ5
def F_X6_both_4 (f_X6_compared : ah_S → Option Nat → Option ah_S) : Nat → ah_S → Option Nat → Option ah_S
  | 0, _, _ => none
  | n + 1, σ, r0 =>
    (ah_gI σ 621 r0).bind fun v1 =>
    if 0 ≤ v1 then
      some σ
    else
      (ah_is σ 7 r0).bind fun u2 =>
      ah_b2 (F_X6_look σ r0) fun v3 σ4 =>
      if v3 = (38 : Int32) then
        (ah_gI σ4 620 r0).bind fun v5 =>
        (ah_pI σ4 620 r0 (v5 + (1 : Int32))).bind fun σ6 =>
        (ah_is σ6 7 r0).bind fun u7 =>
        (f_X6_compared σ6 r0).bind fun σ8 =>
        (ah_is σ8 7 r0).bind fun u9 =>
        (F_X6_addStep σ8 r0 (38 : Int32) (0 : Int32)).bind fun σ10 =>
        F_X6_both_4 f_X6_compared n σ10 r0
      else
        some σ4
def F_X6_both (f_X6_compared : ah_S → Option Nat → Option ah_S) (σ : ah_S) (r0 : Option Nat) : Option ah_S :=
  (ah_is σ 7 r0).bind fun u1 =>
  (f_X6_compared σ r0).bind fun σ2 =>
  F_X6_both_4 f_X6_compared 1000 σ2 r0
def F_X6_either_4 (f_X6_both : ah_S → Option Nat → Option ah_S) : Nat → ah_S → Option Nat → Option ah_S
  | 0, _, _ => none
  | n + 1, σ, r0 =>
    (ah_gI σ 621 r0).bind fun v1 =>
    if 0 ≤ v1 then
      some σ
    else
      (ah_is σ 7 r0).bind fun u2 =>
      ah_b2 (F_X6_look σ r0) fun v3 σ4 =>
      if v3 = (124 : Int32) then
        (ah_gI σ4 620 r0).bind fun v5 =>
        (ah_pI σ4 620 r0 (v5 + (1 : Int32))).bind fun σ6 =>
        (ah_is σ6 7 r0).bind fun u7 =>
        (f_X6_both σ6 r0).bind fun σ8 =>
        (ah_is σ8 7 r0).bind fun u9 =>
        (F_X6_addStep σ8 r0 (124 : Int32) (0 : Int32)).bind fun σ10 =>
        F_X6_either_4 f_X6_both n σ10 r0
      else
        some σ4
def F_X6_either (f_X6_both : ah_S → Option Nat → Option ah_S) (σ : ah_S) (r0 : Option Nat) : Option ah_S :=
  (ah_is σ 7 r0).bind fun u1 =>
  (f_X6_both σ r0).bind fun σ2 =>
  F_X6_either_4 f_X6_both 1000 σ2 r0
def Z_Mparse : Nat → Nat → ah_S → Option Nat → Option ah_S
  | 0, _, _, _ => none
  | d + 1, j, σ, r0 =>
    if j = 0 then F_X6_operand (Z_Mparse d 0) (Z_Mparse d 5) σ r0 else
    if j = 1 then F_X6_product (Z_Mparse d 0) σ r0 else
    if j = 2 then F_X6_sum (Z_Mparse d 1) σ r0 else
    if j = 3 then F_X6_compared (Z_Mparse d 2) σ r0 else
    if j = 4 then F_X6_both (Z_Mparse d 3) σ r0 else
    F_X6_either (Z_Mparse d 4) σ r0
def F_X6_goOrders_71 (f_X6_goOrders : ah_S → Option Nat → Int32 → Int32 → Int32 → Option ah_S) : Nat → ah_S → Option Nat → Int32 → Int32 → Option ah_S
  | 0, _, _, _, _ => none
  | n + 1, σ, r0, x2, x5 =>
    if x2 ≤ x5 then
      some σ
    else
      (ah_gR σ 640 r0).bind fun v1 =>
      (ah_gR σ 639 r0).bind fun v2 =>
      (ah_lA σ 101 v2 x5).bind fun v3 =>
      (ah_wA σ 101 v1 x5 v3).bind fun σ4 =>
      F_X6_goOrders_71 f_X6_goOrders n σ4 r0 x2 (x5 + (1 : Int32))
def F_X6_goOrders_8 (f_X6_goOrders : ah_S → Option Nat → Int32 → Int32 → Int32 → Option ah_S) : Nat → ah_S → Option Nat → Int32 → Int32 → Option ah_S
  | 0, _, _, _, _ => none
  | n + 1, σ, r0, x2, x4 =>
    if x2 ≤ x4 then
      (ah_is σ 7 r0).bind fun u1 =>
      ah_b2 (F_X6_lossOf σ r0) fun v2 σ3 =>
      (ah_gI σ3 641 r0).bind fun v4 =>
      if v4 < 0 then
        (ah_pI σ3 641 r0 v2).bind fun σ5 =>
        F_X6_goOrders_71 f_X6_goOrders 1000 σ5 r0 x2 (0 : Int32)
      else
        (ah_gI σ3 641 r0).bind fun v6 =>
        if v2 < v6 then
          (ah_pI σ3 641 r0 v2).bind fun σ7 =>
          F_X6_goOrders_71 f_X6_goOrders 1000 σ7 r0 x2 (0 : Int32)
        else
          some σ3
    else
      (ah_gR σ 635 r0).bind fun v8 =>
      (ah_gR σ 638 r0).bind fun v9 =>
      (ah_gR σ 639 r0).bind fun v10 =>
      (ah_lA σ 101 v10 x4).bind fun v11 =>
      (ah_lA σ 101 v9 v11).bind fun v12 =>
      (ah_wA σ 101 v8 x4 v12).bind fun σ13 =>
      F_X6_goOrders_8 f_X6_goOrders n σ13 r0 x2 (x4 + (1 : Int32))
def F_X6_goOrders_101 (f_X6_goOrders : ah_S → Option Nat → Int32 → Int32 → Int32 → Option ah_S) : Nat → ah_S → Option Nat → Int32 → Int32 → Int32 → Int32 → Option ah_S
  | 0, _, _, _, _, _, _ => none
  | n + 1, σ, r0, x1, x2, x3, x4 =>
    if x2 ≤ x4 then
      some σ
    else
      if ((x3 >>> (x4 &&& 31)) &&& (1 : Int32)) = (1 : Int32) then
        F_X6_goOrders_101 f_X6_goOrders n σ r0 x1 x2 x3 (x4 + (1 : Int32))
      else
        (ah_gR σ 639 r0).bind fun v1 =>
        (ah_wA σ 101 v1 x1 x4).bind fun σ2 =>
        (ah_is σ2 7 r0).bind fun u3 =>
        (f_X6_goOrders σ2 r0 (x1 + (1 : Int32)) x2 (x3 ||| ((1 : Int32) <<< (x4 &&& 31)))).bind fun σ4 =>
        F_X6_goOrders_101 f_X6_goOrders n σ4 r0 x1 x2 x3 (x4 + (1 : Int32))
def F_X6_goOrders (f_X6_goOrders : ah_S → Option Nat → Int32 → Int32 → Int32 → Option ah_S) (σ : ah_S) (r0 : Option Nat) (x1 : Int32) (x2 : Int32) (x3 : Int32) : Option ah_S :=
  if x1 = x2 then
    F_X6_goOrders_8 f_X6_goOrders 1000 σ r0 x2 (0 : Int32)
  else
    F_X6_goOrders_101 f_X6_goOrders 1000 σ r0 x1 x2 x3 (0 : Int32)
def Z_X6_goOrders : Nat → ah_S → Option Nat → Int32 → Int32 → Int32 → Option ah_S
  | 0, _, _, _, _, _ => none
  | d + 1, σ, r0, x1, x2, x3 => F_X6_goOrders (Z_X6_goOrders d) σ r0 x1 x2 x3
def F_X6_waysFrom_80 (f_X6_waysFrom : ah_S → Option Nat → Int32 → Int32 → Int32 → Option (Int32 × ah_S)) (k48 : ah_S → Option Nat → Int32 → Int32 → Int32 → Int32 → Int32 → Option (Int32 × ah_S)) : Nat → ah_S → Option Nat → Int32 → Int32 → Int32 → Int32 → Int32 → Int32 → Option (Int32 × ah_S)
  | 0, _, _, _, _, _, _, _, _ => none
  | n + 1, σ, r0, x1, x2, x3, x4, x5, x6 =>
    if (48 : Int32) ≤ x6 then
      (ah_is σ 7 r0).bind fun u1 =>
      (F_X6_goNight σ r0 x5).bind fun σ2 =>
      (ah_gR σ2 643 r0).bind fun v3 =>
      (ah_lA σ2 101 v3 x1).bind fun v4 =>
      if v4 = (-1 : Int32) then
        (ah_is σ2 7 r0).bind fun u5 =>
        ah_b2 (f_X6_waysFrom σ2 r0 (x1 + (1 : Int32)) x2 x3) fun v6 σ7 =>
        k48 σ7 r0 x1 x2 x3 (x4 + v6) (x5 + (1 : Int32))
      else
        (ah_gR σ2 643 r0).bind fun v8 =>
        (ah_lA σ2 101 v8 x1).bind fun v9 =>
        (ah_gR σ2 611 r0).bind fun v10 =>
        (ah_lA σ2 101 v10 x3).bind fun v11 =>
        if v9 = v11 then
          (ah_is σ2 7 r0).bind fun u12 =>
          ah_b2 (f_X6_waysFrom σ2 r0 (x1 + (1 : Int32)) x2 x3) fun v13 σ14 =>
          k48 σ14 r0 x1 x2 x3 (x4 + v13) (x5 + (1 : Int32))
        else
          k48 σ2 r0 x1 x2 x3 x4 (x5 + (1 : Int32))
    else
      (ah_gR σ 611 r0).bind fun v15 =>
      (ah_gR σ 645 r0).bind fun v16 =>
      (ah_lA σ 101 v16 (((48 : Int32) * x1) + x6)).bind fun v17 =>
      (ah_wA σ 101 v15 x6 v17).bind fun σ18 =>
      F_X6_waysFrom_80 f_X6_waysFrom k48 n σ18 r0 x1 x2 x3 x4 x5 (x6 + (1 : Int32))
def F_X6_waysFrom_48 (f_X6_waysFrom : ah_S → Option Nat → Int32 → Int32 → Int32 → Option (Int32 × ah_S)) : Nat → ah_S → Option Nat → Int32 → Int32 → Int32 → Int32 → Int32 → Option (Int32 × ah_S)
  | 0, _, _, _, _, _, _, _ => none
  | n + 1, σ, r0, x1, x2, x3, x4, x5 =>
    (ah_gI σ 603 r0).bind fun v1 =>
    if v1 < x5 then
      some (x4, σ)
    else
      (ah_gI σ 646 r0).bind fun v2 =>
      if x1 = v2 then
        (ah_gI σ 647 r0).bind fun v3 =>
        if x5 = v3 then
          F_X6_waysFrom_80 f_X6_waysFrom (F_X6_waysFrom_48 f_X6_waysFrom n) 1000 σ r0 x1 x2 x3 x4 x5 (0 : Int32)
        else
          F_X6_waysFrom_48 f_X6_waysFrom n σ r0 x1 x2 x3 x4 (x5 + (1 : Int32))
      else
        F_X6_waysFrom_80 f_X6_waysFrom (F_X6_waysFrom_48 f_X6_waysFrom n) 1000 σ r0 x1 x2 x3 x4 x5 (0 : Int32)
def F_X6_waysFrom_13 (f_X6_waysFrom : ah_S → Option Nat → Int32 → Int32 → Int32 → Option (Int32 × ah_S)) : Nat → ah_S → Option Nat → Int32 → Int32 → Int32 → Int32 → Int32 → Option (Int32 × ah_S)
  | 0, _, _, _, _, _, _, _ => none
  | n + 1, σ, r0, x1, x2, x3, x4, x5 =>
    if (48 : Int32) ≤ x5 then
      F_X6_waysFrom_48 f_X6_waysFrom 1000 σ r0 x1 x2 x3 x4 (0 : Int32)
    else
      (ah_gR σ 645 r0).bind fun v1 =>
      (ah_gR σ 611 r0).bind fun v2 =>
      (ah_lA σ 101 v2 x5).bind fun v3 =>
      (ah_wA σ 101 v1 (((48 : Int32) * x1) + x5) v3).bind fun σ4 =>
      F_X6_waysFrom_13 f_X6_waysFrom n σ4 r0 x1 x2 x3 x4 (x5 + (1 : Int32))
def F_X6_waysFrom (f_X6_waysFrom : ah_S → Option Nat → Int32 → Int32 → Int32 → Option (Int32 × ah_S)) (σ : ah_S) (r0 : Option Nat) (x1 : Int32) (x2 : Int32) (x3 : Int32) : Option (Int32 × ah_S) :=
  if x1 = x2 then
    some ((1 : Int32), σ)
  else
    F_X6_waysFrom_13 f_X6_waysFrom 1000 σ r0 x1 x2 x3 (0 : Int32) (0 : Int32)
def Z_X6_waysFrom : Nat → ah_S → Option Nat → Int32 → Int32 → Int32 → Option (Int32 × ah_S)
  | 0, _, _, _, _, _ => none
  | d + 1, σ, r0, x1, x2, x3 => F_X6_waysFrom (Z_X6_waysFrom d) σ r0 x1 x2 x3
def F_X6_line_66  (σ : ah_S) (r0 : Option Nat) (x1 : Int32) : Option ah_S :=
  (ah_gR σ 628 r0).bind fun v1 =>
  (ah_gI σ 623 r0).bind fun v2 =>
  (ah_wA σ 103 v1 x1 (vp_nar .short (v2.toInt16.toInt32))).bind fun σ3 =>
  (ah_gR σ3 626 r0).bind fun v4 =>
  (ah_lA σ3 101 v4 (1 : Int32)).bind fun v5 =>
  (ah_wA σ3 101 v4 (1 : Int32) (v5 + (1 : Int32))).bind fun σ6 =>
  some σ6
def F_X6_line  (σ : ah_S) (r0 : Option Nat) : Option ah_S :=
  (ah_gR σ 626 r0).bind fun v1 =>
  (ah_lA σ 101 v1 (1 : Int32)).bind fun v2 =>
  (ah_gR σ 627 r0).bind fun v3 =>
  (ah_gI σ 623 r0).bind fun v4 =>
  (ah_wA σ 103 v3 ((61 : Int32) + v2) (vp_nar .short (v4.toInt16.toInt32))).bind fun σ5 =>
  (ah_is σ5 7 r0).bind fun u6 =>
  (Z_Mparse 60 5 σ5 r0).bind fun σ7 =>
  (ah_gI σ7 621 r0).bind fun v8 =>
  if 0 ≤ v8 then
    F_X6_line_66 σ7 r0 ((61 : Int32) + v2)
  else
    (ah_is σ7 7 r0).bind fun u9 =>
    ah_b2 (F_X6_look σ7 r0) fun v10 σ11 =>
    if v10 = (63 : Int32) then
      (ah_gI σ11 620 r0).bind fun v12 =>
      (ah_pI σ11 620 r0 (v12 + (1 : Int32))).bind fun σ13 =>
      (ah_gR σ13 627 r0).bind fun v14 =>
      (ah_gI σ13 623 r0).bind fun v15 =>
      (ah_wA σ13 103 v14 ((61 : Int32) + v2) (vp_nar .short (v15.toInt16.toInt32))).bind fun σ16 =>
      (ah_is σ16 7 r0).bind fun u17 =>
      (Z_Mparse 60 5 σ16 r0).bind fun σ18 =>
      F_X6_line_66 σ18 r0 ((61 : Int32) + v2)
    else
      F_X6_line_66 σ11 r0 ((61 : Int32) + v2)
def F_X6_readText_177  : Nat → ah_S → Option Nat → Int32 → Int32 → Option (Int32 × ah_S)
  | 0, _, _, _, _ => none
  | n + 1, σ, r0, x1, x2 =>
    (ah_gR σ 626 r0).bind fun v1 =>
    (ah_lA σ 101 v1 x1).bind fun v2 =>
    if v2 ≤ x2 then
      some ((-1 : Int32), σ)
    else
      (ah_gR σ 627 r0).bind fun v3 =>
      (ah_gR σ 627 r0).bind fun v4 =>
      (ah_lA σ 103 v4 ((61 : Int32) + x2)).bind fun v5 =>
      (ah_wA σ 103 v3 (((61 : Int32) * x1) + x2) (vp_nar .short v5)).bind fun σ6 =>
      (ah_gR σ6 628 r0).bind fun v7 =>
      (ah_gR σ6 628 r0).bind fun v8 =>
      (ah_lA σ6 103 v8 ((61 : Int32) + x2)).bind fun v9 =>
      (ah_wA σ6 103 v7 (((61 : Int32) * x1) + x2) (vp_nar .short v9)).bind fun σ10 =>
      F_X6_readText_177 n σ10 r0 x1 (x2 + (1 : Int32))
def F_X6_readText_105  : Nat → ah_S → Option Nat → Int32 → Int32 → Option (Int32 × ah_S)
  | 0, _, _, _, _ => none
  | n + 1, σ, r0, x1, x2 =>
    (ah_gI σ 623 r0).bind fun v1 =>
    if v1 ≤ x2 then
      (ah_gR σ 626 r0).bind fun v2 =>
      (ah_gR σ 626 r0).bind fun v3 =>
      (ah_lA σ 101 v3 (1 : Int32)).bind fun v4 =>
      (ah_wA σ 101 v2 x1 v4).bind fun σ5 =>
      F_X6_readText_177 1000 σ5 r0 x1 (0 : Int32)
    else
      (ah_gR σ 624 r0).bind fun v6 =>
      (ah_gR σ 624 r0).bind fun v7 =>
      (ah_lA σ 102 v7 ((130 : Int32) + x2)).bind fun v8 =>
      (ah_wA σ 102 v6 (((130 : Int32) * x1) + x2) (vp_nar .byte v8)).bind fun σ9 =>
      (ah_gR σ9 625 r0).bind fun v10 =>
      (ah_gR σ9 625 r0).bind fun v11 =>
      (ah_lA σ9 101 v11 ((130 : Int32) + x2)).bind fun v12 =>
      (ah_wA σ9 101 v10 (((130 : Int32) * x1) + x2) v12).bind fun σ13 =>
      F_X6_readText_105 n σ13 r0 x1 (x2 + (1 : Int32))
def F_X6_readText_64  (σ : ah_S) (r0 : Option Nat) (x1 : Int32) : Option (Int32 × ah_S) :=
  (ah_gI σ 621 r0).bind fun v1 =>
  if 0 ≤ v1 then
    (ah_pI σ 619 r0 (0 : Int32)).bind fun σ2 =>
    (ah_gI σ2 621 r0).bind fun v3 =>
    if v3 < 0 then
      F_X6_readText_105 1000 σ2 r0 x1 (0 : Int32)
    else
      (ah_gI σ2 621 r0).bind fun v4 =>
      some (v4, σ2)
  else
    (ah_gI σ 620 r0).bind fun v5 =>
    (ah_gI σ 619 r0).bind fun v6 =>
    if v6 ≤ v5 then
      (ah_pI σ 619 r0 (0 : Int32)).bind fun σ7 =>
      (ah_gI σ7 621 r0).bind fun v8 =>
      if v8 < 0 then
        F_X6_readText_105 1000 σ7 r0 x1 (0 : Int32)
      else
        (ah_gI σ7 621 r0).bind fun v9 =>
        some (v9, σ7)
    else
      (ah_is σ 7 r0).bind fun u10 =>
      (F_X6_faulty σ r0).bind fun σ11 =>
      (ah_pI σ11 619 r0 (0 : Int32)).bind fun σ12 =>
      (ah_gI σ12 621 r0).bind fun v13 =>
      if v13 < 0 then
        F_X6_readText_105 1000 σ12 r0 x1 (0 : Int32)
      else
        (ah_gI σ12 621 r0).bind fun v14 =>
        some (v14, σ12)
def F_X6_readText_31  : Nat → ah_S → Option Nat → Int32 → Option (Int32 × ah_S)
  | 0, _, _, _ => none
  | n + 1, σ, r0, x1 =>
    (ah_gI σ 621 r0).bind fun v1 =>
    if 0 ≤ v1 then
      F_X6_readText_64 σ r0 x1
    else
      (ah_is σ 7 r0).bind fun u2 =>
      ah_b2 (F_X6_look σ r0) fun v3 σ4 =>
      if v3 = (59 : Int32) then
        (ah_gI σ4 620 r0).bind fun v5 =>
        (ah_pI σ4 620 r0 (v5 + (1 : Int32))).bind fun σ6 =>
        (ah_is σ6 7 r0).bind fun u7 =>
        (F_X6_line σ6 r0).bind fun σ8 =>
        F_X6_readText_31 n σ8 r0 x1
      else
        F_X6_readText_64 σ4 r0 x1
def F_X6_readText  (σ : ah_S) (r0 : Option Nat) (x1 : Int32) : Option (Int32 × ah_S) :=
  (ah_pI σ 620 r0 (0 : Int32)).bind fun σ1 =>
  (ah_pI σ1 621 r0 (-1 : Int32)).bind fun σ2 =>
  (ah_pI σ2 622 r0 (0 : Int32)).bind fun σ3 =>
  (ah_pI σ3 623 r0 (0 : Int32)).bind fun σ4 =>
  (ah_gR σ4 626 r0).bind fun v5 =>
  (ah_wA σ4 101 v5 (1 : Int32) (0 : Int32)).bind fun σ6 =>
  (ah_is σ6 7 r0).bind fun u7 =>
  (F_X6_line σ6 r0).bind fun σ8 =>
  F_X6_readText_31 1000 σ8 r0 x1
def F_X6_law  (σ : ah_S) (r0 : Option Nat) : Option (Int32 × ah_S) :=
  (ah_is σ 7 r0).bind fun u1 =>
  ah_b2 (F_X6_readText σ r0 (0 : Int32)) fun v2 σ3 =>
  if v2 < 0 then
    (ah_pZ σ3 631 r0 (1 : Int32)).bind fun σ4 =>
    some ((1 : Int32), σ4)
  else
    some (((-100 : Int32) - v2), σ3)
def F_X6_order_53  (σ : ah_S) (r0 : Option Nat) (x2 : Int32) (y0 : Int32) : Option (Int32 × ah_S) :=
  (ah_pI σ 641 r0 (-1 : Int32)).bind fun σ1 =>
  (ah_is σ1 7 r0).bind fun u2 =>
  (Z_X6_goOrders 10 σ1 r0 (0 : Int32) y0 (0 : Int32)).bind fun σ3 =>
  if 0 ≤ x2 then
    if y0 ≤ x2 then
      some ((-2 : Int32), σ3)
    else
      (ah_gR σ3 640 r0).bind fun v4 =>
      (ah_lA σ3 101 v4 x2).bind fun v5 =>
      some (v5, σ3)
  else
    (ah_gI σ3 641 r0).bind fun v6 =>
    some (v6, σ3)
def F_X6_order  (σ : ah_S) (r0 : Option Nat) (x1 : Int32) (x2 : Int32) : Option (Int32 × ah_S) :=
  ah_b2 (F_X6_isShelf σ x1) fun v1 σ2 =>
  if v1 = 0 then
    some ((-1 : Int32), σ2)
  else
    if (-1 : Int32) ≤ x2 then
      (ah_is σ2 7 r0).bind fun u3 =>
      ah_b2 (F_X6_rowFault σ2 r0 x1) fun v4 σ5 =>
      if 0 ≤ v4 then
        (ah_is σ5 7 r0).bind fun u6 =>
        (F_X6_layStays σ5 r0 x1).bind fun σ7 =>
        (ah_is σ7 7 r0).bind fun u8 =>
        (F_X6_keepStays σ7 r0).bind fun σ9 =>
        (ah_gI σ9 636 r0).bind fun v10 =>
        if (5 : Int32) ≤ v10 then
          F_X6_order_53 σ9 r0 x2 (5 : Int32)
        else
          (ah_gI σ9 636 r0).bind fun v11 =>
          F_X6_order_53 σ9 r0 x2 v11
      else
        (ah_is σ5 7 r0).bind fun u12 =>
        ah_b2 (F_X6_rowFault σ5 r0 x1) fun v13 σ14 =>
        some (v13, σ14)
    else
      some ((-1 : Int32), σ2)
def F_X6_waysOf  (σ : ah_S) (r0 : Option Nat) (x1 : Int32) (x2 : Int32) (x3 : Int32) (x4 : Int32) : Option (Int32 × ah_S) :=
  (ah_pI σ 646 r0 x3).bind fun σ1 =>
  (ah_pI σ1 647 r0 x4).bind fun σ2 =>
  (ah_is σ2 7 r0).bind fun u3 =>
  (F_X6_keepHut σ2 r0).bind fun σ4 =>
  (ah_is σ4 7 r0).bind fun u5 =>
  ah_b2 (Z_X6_waysFrom 10 σ4 r0 (0 : Int32) x1 x2) fun v6 σ7 =>
  (ah_is σ7 7 r0).bind fun u8 =>
  (F_X6_layHut σ7 r0).bind fun σ9 =>
  some (v6, σ9)
def F_X6_ways  (σ : ah_S) (r0 : Option Nat) (x1 : Int32) (x2 : Int32) : Option (Int32 × ah_S) :=
  ah_b2 (F_X6_isShelf σ x1) fun v1 σ2 =>
  if v1 = 0 then
    some ((-1 : Int32), σ2)
  else
    ah_b2 (F_X6_isThing σ2 x2) fun v3 σ4 =>
    if v3 = 0 then
      some ((-1 : Int32), σ4)
    else
      (ah_is σ4 7 r0).bind fun u5 =>
      ah_b2 (F_X6_rowFault σ4 r0 x1) fun v6 σ7 =>
      if 0 ≤ v6 then
        (ah_is σ7 7 r0).bind fun u8 =>
        (F_X6_laySeen σ7 r0 x1).bind fun σ9 =>
        (ah_gI σ9 644 r0).bind fun v10 =>
        if (6 : Int32) ≤ v10 then
          (ah_is σ9 7 r0).bind fun u11 =>
          ah_b2 (F_X6_waysOf σ9 r0 (6 : Int32) x2 (-1 : Int32) (0 : Int32)) fun v12 σ13 =>
          some (v12, σ13)
        else
          (ah_gI σ9 644 r0).bind fun v14 =>
          (ah_is σ9 7 r0).bind fun u15 =>
          ah_b2 (F_X6_waysOf σ9 r0 v14 x2 (-1 : Int32) (0 : Int32)) fun v16 σ17 =>
          some (v16, σ17)
      else
        (ah_is σ7 7 r0).bind fun u18 =>
        ah_b2 (F_X6_rowFault σ7 r0 x1) fun v19 σ20 =>
        some (v19, σ20)
def F_X6_who_78  : Nat → ah_S → Option Nat → Int32 → Int32 → Int32 → Int32 → Int32 → Option (Int32 × ah_S)
  | 0, _, _, _, _, _, _, _ => none
  | n + 1, σ, r0, x2, x3, x4, x5, x6 =>
    (ah_gI σ 603 r0).bind fun v1 =>
    if v1 < x6 then
      some (x5, σ)
    else
      (ah_is σ 7 r0).bind fun u2 =>
      ah_b2 (F_X6_waysOf σ r0 x4 x2 x3 x6) fun v3 σ4 =>
      if v3 ≤ 0 then
        F_X6_who_78 n σ4 r0 x2 x3 x4 x5 (x6 + (1 : Int32))
      else
        (ah_gI σ4 603 r0).bind fun v5 =>
        if x6 = v5 then
          F_X6_who_78 n σ4 r0 x2 x3 x4 (x5 ||| (128 : Int32)) (x6 + (1 : Int32))
        else
          F_X6_who_78 n σ4 r0 x2 x3 x4 (x5 ||| ((1 : Int32) <<< (x6 &&& 31))) (x6 + (1 : Int32))
def F_X6_who  (σ : ah_S) (r0 : Option Nat) (x1 : Int32) (x2 : Int32) (x3 : Int32) : Option (Int32 × ah_S) :=
  ah_b2 (F_X6_isShelf σ x1) fun v1 σ2 =>
  if v1 = 0 then
    some ((-1 : Int32), σ2)
  else
    ah_b2 (F_X6_isThing σ2 x2) fun v3 σ4 =>
    if v3 = 0 then
      some ((-1 : Int32), σ4)
    else
      ah_b2 (F_X6_in σ4 x3 (0 : Int32) (5 : Int32)) fun v5 σ6 =>
      if v5 = 0 then
        some ((-1 : Int32), σ6)
      else
        (ah_is σ6 7 r0).bind fun u7 =>
        ah_b2 (F_X6_rowFault σ6 r0 x1) fun v8 σ9 =>
        if 0 ≤ v8 then
          (ah_is σ9 7 r0).bind fun u10 =>
          (F_X6_laySeen σ9 r0 x1).bind fun σ11 =>
          (ah_gI σ11 644 r0).bind fun v12 =>
          if (6 : Int32) ≤ v12 then
            if x3 < (6 : Int32) then
              F_X6_who_78 1000 σ11 r0 x2 x3 (6 : Int32) (0 : Int32) (0 : Int32)
            else
              some ((-1 : Int32), σ11)
          else
            (ah_gI σ11 644 r0).bind fun v13 =>
            if x3 < v13 then
              F_X6_who_78 1000 σ11 r0 x2 x3 v13 (0 : Int32) (0 : Int32)
            else
              some ((-1 : Int32), σ11)
        else
          (ah_is σ9 7 r0).bind fun u14 =>
          ah_b2 (F_X6_rowFault σ9 r0 x1) fun v15 σ16 =>
          some (v15, σ16)
