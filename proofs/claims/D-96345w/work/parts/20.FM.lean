def F_X6_in  (σ : ah_S) (x0 : Int32) (x1 : Int32) (x2 : Int32) : Option (Int32 × ah_S) :=
  if x0 < x1 then
    some ((0 : Int32), σ)
  else
    if x2 < x0 then
      some ((0 : Int32), σ)
    else
      some ((1 : Int32), σ)
def F_X6_isBody  (σ : ah_S) (r0 : Option Nat) (x1 : Int32) : Option (Int32 × ah_S) :=
  (ah_gI σ 652 r0).bind fun v1 =>
  ah_b2 (F_X6_in σ x1 (0 : Int32) (v1 - (1 : Int32))) fun v2 σ3 =>
  (ah_z v2).bind fun z4 => some (z4, σ3)
def F_X6_isUnder_34  (σ : ah_S) (x0 : Int32) (x1 : Int32) : Option (Int32 × ah_S) :=
  if x1 = (3 : Int32) then
    if x0 = (5 : Int32) then
      some ((1 : Int32), σ)
    else
      if x1 = (6 : Int32) then
        if x0 = (7 : Int32) then
          some ((1 : Int32), σ)
        else
          some ((0 : Int32), σ)
      else
        some ((0 : Int32), σ)
  else
    if x1 = (6 : Int32) then
      if x0 = (7 : Int32) then
        some ((1 : Int32), σ)
      else
        some ((0 : Int32), σ)
    else
      some ((0 : Int32), σ)
def F_X6_isUnder_19  (σ : ah_S) (x0 : Int32) (x1 : Int32) : Option (Int32 × ah_S) :=
  if x1 = (2 : Int32) then
    if x0 = (3 : Int32) then
      some ((1 : Int32), σ)
    else
      if x0 = (5 : Int32) then
        some ((1 : Int32), σ)
      else
        F_X6_isUnder_34 σ x0 x1
  else
    F_X6_isUnder_34 σ x0 x1
def F_X6_isUnder  (σ : ah_S) (x0 : Int32) (x1 : Int32) : Option (Int32 × ah_S) :=
  if x1 = 0 then
    some ((1 : Int32), σ)
  else
    if x0 = x1 then
      some ((1 : Int32), σ)
    else
      if x1 = (1 : Int32) then
        if x0 = (4 : Int32) then
          some ((1 : Int32), σ)
        else
          F_X6_isUnder_19 σ x0 x1
      else
        F_X6_isUnder_19 σ x0 x1
def F_X6_ran  (σ : ah_S) (r0 : Option Nat) (x1 : Int32) : Option ah_S :=
  (ah_gI σ 654 r0).bind fun v1 =>
  if (24 : Int32) ≤ v1 then
    (ah_gI σ 654 r0).bind fun v2 =>
    (ah_pI σ 654 r0 (v2 + (1 : Int32))).bind fun σ3 =>
    some σ3
  else
    (ah_gR σ 655 r0).bind fun v4 =>
    (ah_gI σ 654 r0).bind fun v5 =>
    (ah_wA σ 101 v4 v5 x1).bind fun σ6 =>
    (ah_gI σ6 654 r0).bind fun v7 =>
    (ah_pI σ6 654 r0 (v7 + (1 : Int32))).bind fun σ8 =>
    some σ8
def F_X6_plainComes  (σ : ah_S) (r0 : Option Nat) (x1 : Int32) (x2 : Int32) : Option (Int32 × ah_S) :=
  (ah_is σ 7 r0).bind fun u1 =>
  (F_X6_ran σ r0 (1 : Int32)).bind fun σ2 =>
  some ((x2 + x1), σ2)
def F_X6_bareComes  (σ : ah_S) (r0 : Option Nat) (x1 : Int32) (x2 : Int32) : Option (Int32 × ah_S) :=
  (ah_is σ 7 r0).bind fun u1 =>
  (F_X6_ran σ r0 (70 : Int32)).bind fun σ2 =>
  (ah_is σ2 7 r0).bind fun u3 =>
  ah_b2 (F_X6_plainComes σ2 r0 x1 x2) fun v4 σ5 =>
  some ((v4 * (2 : Int32)), σ5)
def F_X6_coming  (σ : ah_S) (r0 : Option Nat) (x1 : Int32) (x2 : Int32) : Option (Int32 × ah_S) :=
  (ah_gR σ 653 r0).bind fun v1 =>
  (ah_lA σ 101 v1 x1).bind fun v2 =>
  ah_b2 (F_X6_isUnder σ v2 (1 : Int32)) fun v3 σ4 =>
  if v3 = 0 then
    (ah_gR σ4 653 r0).bind fun v5 =>
    (ah_lA σ4 101 v5 x1).bind fun v6 =>
    if v6 = (7 : Int32) then
      (ah_is σ4 7 r0).bind fun u15 =>
      (F_X6_ran σ4 r0 (81 : Int32)).bind fun σ16 =>
      (ah_is σ16 7 r0).bind fun u17 =>
      ah_b2 (F_X6_bareComes σ16 r0 x1 x2) fun v18 σ19 =>
      some ((v18 - (1 : Int32)), σ19)
    else
      (ah_gR σ4 653 r0).bind fun v7 =>
      (ah_lA σ4 101 v7 x1).bind fun v8 =>
      if v8 = (6 : Int32) then
        (ah_is σ4 7 r0).bind fun u12 =>
        ah_b2 (F_X6_bareComes σ4 r0 x1 x2) fun v13 σ14 =>
        some (v13, σ14)
      else
        (ah_is σ4 7 r0).bind fun u9 =>
        ah_b2 (F_X6_plainComes σ4 r0 x1 x2) fun v10 σ11 =>
        some (v10, σ11)
  else
    (ah_is σ4 7 r0).bind fun u20 =>
    (F_X6_ran σ4 r0 (20 : Int32)).bind fun σ21 =>
    (ah_is σ21 7 r0).bind fun u22 =>
    ah_b2 (F_X6_plainComes σ21 r0 x1 x2) fun v23 σ24 =>
    some ((v23 + (3 : Int32)), σ24)
def F_X6_plainLeaves  (σ : ah_S) (r0 : Option Nat) (x1 : Int32) (x2 : Int32) : Option (Int32 × ah_S) :=
  (ah_is σ 7 r0).bind fun u1 =>
  (F_X6_ran σ r0 (10 : Int32)).bind fun σ2 =>
  (ah_is σ2 7 r0).bind fun u3 =>
  ah_b2 (F_X6_coming σ2 r0 x1 x2) fun v4 σ5 =>
  some ((v4 * (2 : Int32)), σ5)
def F_X6_takenLeaves  (σ : ah_S) (r0 : Option Nat) (x1 : Int32) (x2 : Int32) : Option (Int32 × ah_S) :=
  (ah_is σ 7 r0).bind fun u1 =>
  (F_X6_ran σ r0 (30 : Int32)).bind fun σ2 =>
  (ah_is σ2 7 r0).bind fun u3 =>
  ah_b2 (F_X6_plainLeaves σ2 r0 x1 x2) fun v4 σ5 =>
  some ((-v4), σ5)
def F_X6_plainSees  (σ : ah_S) (r0 : Option Nat) (x1 : Int32) (x2 : Int32) : Option (Int32 × ah_S) :=
  (ah_is σ 7 r0).bind fun u1 =>
  (F_X6_ran σ r0 (11 : Int32)).bind fun σ2 =>
  some ((x2 ^^^ x1), σ2)
def F_X6_broughtSees  (σ : ah_S) (r0 : Option Nat) (x1 : Int32) (x2 : Int32) : Option (Int32 × ah_S) :=
  (ah_is σ 7 r0).bind fun u1 =>
  (F_X6_ran σ r0 (40 : Int32)).bind fun σ2 =>
  (ah_is σ2 7 r0).bind fun u3 =>
  ah_b2 (F_X6_plainSees σ2 r0 x1 x2) fun v4 σ5 =>
  some ((v4 * (3 : Int32)), σ5)
def F_X6_seeing  (σ : ah_S) (r0 : Option Nat) (x1 : Int32) (x2 : Int32) : Option (Int32 × ah_S) :=
  (ah_gR σ 653 r0).bind fun v1 =>
  (ah_lA σ 101 v1 x1).bind fun v2 =>
  if v2 = (5 : Int32) then
    (ah_is σ 7 r0).bind fun u11 =>
    (F_X6_ran σ r0 (60 : Int32)).bind fun σ12 =>
    (ah_is σ12 7 r0).bind fun u13 =>
    ah_b2 (F_X6_broughtSees σ12 r0 x1 x2) fun v14 σ15 =>
    (ah_is σ15 7 r0).bind fun u16 =>
    ah_b2 (F_X6_coming σ15 r0 x1 (2 : Int32)) fun v17 σ18 =>
    some ((v14 - v17), σ18)
  else
    (ah_gR σ 653 r0).bind fun v3 =>
    (ah_lA σ 101 v3 x1).bind fun v4 =>
    if v4 = (3 : Int32) then
      (ah_is σ 7 r0).bind fun u8 =>
      ah_b2 (F_X6_broughtSees σ r0 x1 x2) fun v9 σ10 =>
      some (v9, σ10)
    else
      (ah_is σ 7 r0).bind fun u5 =>
      ah_b2 (F_X6_plainSees σ r0 x1 x2) fun v6 σ7 =>
      some (v6, σ7)
def F_X6_leaving  (σ : ah_S) (r0 : Option Nat) (x1 : Int32) (x2 : Int32) : Option (Int32 × ah_S) :=
  (ah_gR σ 653 r0).bind fun v1 =>
  (ah_lA σ 101 v1 x1).bind fun v2 =>
  ah_b2 (F_X6_isUnder σ v2 (3 : Int32)) fun v3 σ4 =>
  if v3 = 0 then
    (ah_gR σ4 653 r0).bind fun v5 =>
    (ah_lA σ4 101 v5 x1).bind fun v6 =>
    if v6 = (7 : Int32) then
      (ah_is σ4 7 r0).bind fun u15 =>
      (F_X6_ran σ4 r0 (80 : Int32)).bind fun σ16 =>
      (ah_is σ16 7 r0).bind fun u17 =>
      ah_b2 (F_X6_plainLeaves σ16 r0 x1 x2) fun v18 σ19 =>
      (ah_is σ19 7 r0).bind fun u20 =>
      ah_b2 (F_X6_seeing σ19 r0 x1 (2 : Int32)) fun v21 σ22 =>
      some ((v18 + v21), σ22)
    else
      (ah_gR σ4 653 r0).bind fun v7 =>
      (ah_lA σ4 101 v7 x1).bind fun v8 =>
      if v8 = (2 : Int32) then
        (ah_is σ4 7 r0).bind fun u12 =>
        ah_b2 (F_X6_takenLeaves σ4 r0 x1 x2) fun v13 σ14 =>
        some (v13, σ14)
      else
        (ah_is σ4 7 r0).bind fun u9 =>
        ah_b2 (F_X6_plainLeaves σ4 r0 x1 x2) fun v10 σ11 =>
        some (v10, σ11)
  else
    (ah_is σ4 7 r0).bind fun u23 =>
    (F_X6_ran σ4 r0 (41 : Int32)).bind fun σ24 =>
    (ah_is σ24 7 r0).bind fun u25 =>
    ah_b2 (F_X6_takenLeaves σ24 r0 x1 (x2 + (1 : Int32))) fun v26 σ27 =>
    some (v26, σ27)
def F_X6_plainTells  (σ : ah_S) (r0 : Option Nat) (x1 : Int32) (x2 : Int32) : Option (Int32 × ah_S) :=
  (ah_is σ 7 r0).bind fun u1 =>
  (F_X6_ran σ r0 (2 : Int32)).bind fun σ2 =>
  (ah_is σ2 7 r0).bind fun u3 =>
  ah_b2 (F_X6_leaving σ2 r0 x1 x2) fun v4 σ5 =>
  (ah_is σ5 7 r0).bind fun u6 =>
  ah_b2 (F_X6_seeing σ5 r0 x1 (1 : Int32)) fun v7 σ8 =>
  some ((v4 - v7), σ8)
def F_X6_telling  (σ : ah_S) (r0 : Option Nat) (x1 : Int32) (x2 : Int32) : Option (Int32 × ah_S) :=
  (ah_gR σ 653 r0).bind fun v1 =>
  (ah_lA σ 101 v1 x1).bind fun v2 =>
  if v2 = (4 : Int32) then
    (ah_is σ 7 r0).bind fun u13 =>
    (F_X6_ran σ r0 (50 : Int32)).bind fun σ14 =>
    (ah_is σ14 7 r0).bind fun u15 =>
    ah_b2 (F_X6_plainTells σ14 r0 x1 x2) fun v16 σ17 =>
    some ((v16 ^^^ (5 : Int32)), σ17)
  else
    (ah_gR σ 653 r0).bind fun v3 =>
    (ah_lA σ 101 v3 x1).bind fun v4 =>
    if v4 = (5 : Int32) then
      (ah_is σ 7 r0).bind fun u8 =>
      (F_X6_ran σ r0 (61 : Int32)).bind fun σ9 =>
      (ah_is σ9 7 r0).bind fun u10 =>
      ah_b2 (F_X6_plainTells σ9 r0 x1 x2) fun v11 σ12 =>
      some ((v11 + (1 : Int32)), σ12)
    else
      (ah_is σ 7 r0).bind fun u5 =>
      ah_b2 (F_X6_plainTells σ r0 x1 x2) fun v6 σ7 =>
      some (v6, σ7)
def F_X6_act  (σ : ah_S) (r0 : Option Nat) (x1 : Int32) (x2 : Int32) (x3 : Int32) : Option (Int32 × ah_S) :=
  (ah_pI σ 654 r0 (0 : Int32)).bind fun σ1 =>
  (ah_is σ1 7 r0).bind fun u2 =>
  ah_b2 (F_X6_isBody σ1 r0 x1) fun v3 σ4 =>
  if v3 = 0 then
    some ((0 : Int32), σ4)
  else
    ah_b2 (F_X6_in σ4 x2 (0 : Int32) (3 : Int32)) fun v5 σ6 =>
    if v5 = 0 then
      some ((0 : Int32), σ6)
    else
      if x2 = 0 then
        (ah_is σ6 7 r0).bind fun u16 =>
        ah_b2 (F_X6_coming σ6 r0 x1 x3) fun v17 σ18 =>
        some (v17, σ18)
      else
        if x2 = (1 : Int32) then
          (ah_is σ6 7 r0).bind fun u13 =>
          ah_b2 (F_X6_leaving σ6 r0 x1 x3) fun v14 σ15 =>
          some (v14, σ15)
        else
          if x2 = (2 : Int32) then
            (ah_is σ6 7 r0).bind fun u10 =>
            ah_b2 (F_X6_seeing σ6 r0 x1 x3) fun v11 σ12 =>
            some (v11, σ12)
          else
            (ah_is σ6 7 r0).bind fun u7 =>
            ah_b2 (F_X6_telling σ6 r0 x1 x3) fun v8 σ9 =>
            some (v8, σ9)
def F_X6_addGuest_3  : Nat → ah_S → Option Nat → Int32 → Int32 → Int32 → Int32 → Option (Int32 × ah_S)
  | 0, _, _, _, _, _, _ => none
  | n + 1, σ, r0, x1, x2, x3, x4 =>
    if (4 : Int32) ≤ x4 then
      (ah_gR σ 606 r0).bind fun v1 =>
      (ah_gI σ 603 r0).bind fun v2 =>
      (ah_wA σ 101 v1 v2 x2).bind fun σ3 =>
      (ah_gR σ3 607 r0).bind fun v4 =>
      (ah_gI σ3 603 r0).bind fun v5 =>
      (ah_wA σ3 101 v4 v5 x3).bind fun σ6 =>
      (ah_gI σ6 603 r0).bind fun v7 =>
      (ah_pI σ6 603 r0 (v7 + (1 : Int32))).bind fun σ8 =>
      (ah_gI σ8 603 r0).bind fun v9 =>
      some ((v9 - (1 : Int32)), σ8)
    else
      (ah_gR σ 604 r0).bind fun v10 =>
      (ah_gI σ 603 r0).bind fun v11 =>
      (ah_wA σ 101 v10 (((4 : Int32) * v11) + x4) x1).bind fun σ12 =>
      (ah_gR σ12 605 r0).bind fun v13 =>
      (ah_gI σ12 603 r0).bind fun v14 =>
      (ah_wA σ12 101 v13 (((4 : Int32) * v14) + x4) (0 : Int32)).bind fun σ15 =>
      F_X6_addGuest_3 n σ15 r0 x1 x2 x3 (x4 + (1 : Int32))
def F_X6_addGuest  (σ : ah_S) (r0 : Option Nat) (x1 : Int32) (x2 : Int32) (x3 : Int32) : Option (Int32 × ah_S) :=
  F_X6_addGuest_3 1000 σ r0 x1 x2 x3 (0 : Int32)
def F_X6_addStep  (σ : ah_S) (r0 : Option Nat) (x1 : Int32) (x2 : Int32) : Option ah_S :=
  (ah_gR σ 624 r0).bind fun v1 =>
  (ah_gI σ 623 r0).bind fun v2 =>
  (ah_wA σ 102 v1 ((130 : Int32) + v2) (vp_nar .byte (x1.toInt8.toInt32))).bind fun σ3 =>
  (ah_gR σ3 625 r0).bind fun v4 =>
  (ah_gI σ3 623 r0).bind fun v5 =>
  (ah_wA σ3 101 v4 ((130 : Int32) + v5) x2).bind fun σ6 =>
  (ah_gI σ6 623 r0).bind fun v7 =>
  (ah_pI σ6 623 r0 (v7 + (1 : Int32))).bind fun σ8 =>
  some σ8
def F_X6_againAt  (σ : ah_S) (r0 : Option Nat) (x1 : Int32) : Option (Int32 × ah_S) :=
  (ah_gI σ 636 r0).bind fun v1 =>
  if v1 = 0 then
    some ((-1 : Int32), σ)
  else
    (ah_gR σ 635 r0).bind fun v2 =>
    (ah_gI σ 636 r0).bind fun v3 =>
    (ah_re x1 v3).bind fun q4 =>
    (ah_lA σ 101 v2 q4).bind fun v5 =>
    some (v5, σ)
def F_X6_isGuest  (σ : ah_S) (r0 : Option Nat) (x1 : Int32) : Option (Int32 × ah_S) :=
  (ah_gI σ 603 r0).bind fun v1 =>
  ah_b2 (F_X6_in σ x1 (0 : Int32) (v1 - (1 : Int32))) fun v2 σ3 =>
  (ah_z v2).bind fun z4 => some (z4, σ3)
def F_X6_isThing  (σ : ah_S) (x0 : Int32) : Option (Int32 × ah_S) :=
  ah_b2 (F_X6_in σ x0 (0 : Int32) (3 : Int32)) fun v1 σ2 =>
  (ah_z v1).bind fun z3 => some (z3, σ2)
def F_X6_areTwo  (σ : ah_S) (r0 : Option Nat) (x1 : Int32) : Option (Int32 × ah_S) :=
  if x1 < 0 then
    some ((0 : Int32), σ)
  else
    (ah_di x1 (10 : Int32)).bind fun q1 =>
    (ah_is σ 7 r0).bind fun u2 =>
    ah_b2 (F_X6_isGuest σ r0 q1) fun v3 σ4 =>
    if v3 = 0 then
      some ((0 : Int32), σ4)
    else
      (ah_re x1 (10 : Int32)).bind fun q5 =>
      ah_b2 (F_X6_isThing σ4 q5) fun v6 σ7 =>
      if v6 = 0 then
        some ((0 : Int32), σ7)
      else
        some ((1 : Int32), σ7)
def F_X6_asPart_6  : Nat → ah_S → Int64 → Int64 → Int32 → Int64 → Int64 → Option (Int64 × ah_S)
  | 0, _, _, _, _, _, _ => none
  | n + 1, σ, l0, l2, x4, l5, l7 =>
    if (lg_cmp l7 (0 : Int64)) = 0 then
      if x4 = 0 then
        (ah_ldi l0 l5).bind fun q2 =>
        some (q2, σ)
      else
        (ah_ldi l2 l5).bind fun q1 =>
        some (q1, σ)
    else
      (ah_lre l5 l7).bind fun q3 =>
      F_X6_asPart_6 n σ l0 l2 x4 l7 q3
def F_X6_asPart  (σ : ah_S) (l0 : Int64) (l2 : Int64) (x4 : Int32) : Option (Int64 × ah_S) :=
  F_X6_asPart_6 1000 σ l0 l2 x4 l0 l2
def F_X6_back_38  : Nat → ah_S → Option Nat → Int32 → Option (Int32 × ah_S)
  | 0, _, _, _ => none
  | n + 1, σ, r0, x1 =>
    if (4 : Int32) ≤ x1 then
      (ah_gR σ 648 r0).bind fun v1 =>
      (ah_lA σ 101 v1 (0 : Int32)).bind fun v2 =>
      some (v2, σ)
    else
      (ah_gR σ 648 r0).bind fun v3 =>
      (ah_gR σ 651 r0).bind fun v4 =>
      (ah_lA σ 101 v4 x1).bind fun v5 =>
      (ah_wA σ 101 v3 x1 v5).bind fun σ6 =>
      F_X6_back_38 n σ6 r0 (x1 + (1 : Int32))
def F_X6_back_12  : Nat → ah_S → Option Nat → Int32 → Option (Int32 × ah_S)
  | 0, _, _, _ => none
  | n + 1, σ, r0, x1 =>
    if (48 : Int32) ≤ x1 then
      F_X6_back_38 1000 σ r0 (0 : Int32)
    else
      (ah_gR σ 611 r0).bind fun v1 =>
      (ah_gR σ 650 r0).bind fun v2 =>
      (ah_lA σ 101 v2 x1).bind fun v3 =>
      (ah_wA σ 101 v1 x1 v3).bind fun σ4 =>
      F_X6_back_12 n σ4 r0 (x1 + (1 : Int32))
def F_X6_back  (σ : ah_S) (r0 : Option Nat) : Option (Int32 × ah_S) :=
  (ah_gI σ 649 r0).bind fun v1 =>
  if v1 = 0 then
    some ((-5 : Int32), σ)
  else
    F_X6_back_12 1000 σ r0 (0 : Int32)
def F_X6_beenMany_4  : Nat → ah_S → Option Nat → Int32 → Int32 → Option (Int32 × ah_S)
  | 0, _, _, _, _ => none
  | n + 1, σ, r0, x1, x2 =>
    (ah_gI σ 603 r0).bind fun v1 =>
    if v1 ≤ x2 then
      some (x1, σ)
    else
      (ah_gR σ 611 r0).bind fun v2 =>
      (ah_lA σ 101 v2 ((13 : Int32) + x2)).bind fun v3 =>
      F_X6_beenMany_4 n σ r0 (x1 + v3) (x2 + (1 : Int32))
def F_X6_beenMany  (σ : ah_S) (r0 : Option Nat) : Option (Int32 × ah_S) :=
  F_X6_beenMany_4 1000 σ r0 (0 : Int32) (0 : Int32)
def F_X6_isShelf  (σ : ah_S) (x0 : Int32) : Option (Int32 × ah_S) :=
  ah_b2 (F_X6_in σ x0 (0 : Int32) (5 : Int32)) fun v1 σ2 =>
  (ah_z v1).bind fun z3 => some (z3, σ2)
def F_X6_rowFault  (σ : ah_S) (r0 : Option Nat) (x1 : Int32) : Option (Int32 × ah_S) :=
  (ah_gR σ 656 r0).bind fun v1 =>
  (ah_lA σ 101 v1 x1).bind fun v2 =>
  if v2 = (-1 : Int32) then
    some ((-11 : Int32), σ)
  else
    (ah_gR σ 656 r0).bind fun v3 =>
    (ah_lA σ 101 v3 x1).bind fun v4 =>
    if v4 = (-2 : Int32) then
      some ((0 : Int32), σ)
    else
      some ((-12 : Int32), σ)
def F_X6_layStays_28  : Nat → ah_S → Option Nat → Int32 → Int32 → Option ah_S
  | 0, _, _, _, _ => none
  | n + 1, σ, r0, x1, x2 =>
    (ah_gI σ 636 r0).bind fun v1 =>
    if v1 ≤ x2 then
      some σ
    else
      (ah_gR σ 635 r0).bind fun v2 =>
      (ah_gR σ 658 r0).bind fun v3 =>
      (ah_lL σ v3 (((60 : Int32) * x1) + x2)).bind fun v4 =>
      (ah_wA σ 101 v2 x2 (v4.toInt32)).bind fun σ5 =>
      F_X6_layStays_28 n σ5 r0 x1 (x2 + (1 : Int32))
def F_X6_layStays  (σ : ah_S) (r0 : Option Nat) (x1 : Int32) : Option ah_S :=
  (ah_gR σ 657 r0).bind fun v1 =>
  (ah_lA σ 101 v1 x1).bind fun v2 =>
  if (30 : Int32) ≤ v2 then
    (ah_pI σ 636 r0 (30 : Int32)).bind fun σ3 =>
    F_X6_layStays_28 1000 σ3 r0 x1 (0 : Int32)
  else
    (ah_gR σ 657 r0).bind fun v4 =>
    (ah_lA σ 101 v4 x1).bind fun v5 =>
    (ah_pI σ 636 r0 v5).bind fun σ6 =>
    F_X6_layStays_28 1000 σ6 r0 x1 (0 : Int32)
def F_X6_keepHut_2  : Nat → ah_S → Option Nat → Int32 → Option ah_S
  | 0, _, _, _ => none
  | n + 1, σ, r0, x1 =>
    if (48 : Int32) ≤ x1 then
      some σ
    else
      (ah_gR σ 634 r0).bind fun v1 =>
      (ah_gR σ 611 r0).bind fun v2 =>
      (ah_lA σ 101 v2 x1).bind fun v3 =>
      (ah_wA σ 101 v1 x1 v3).bind fun σ4 =>
      F_X6_keepHut_2 n σ4 r0 (x1 + (1 : Int32))
def F_X6_keepHut  (σ : ah_S) (r0 : Option Nat) : Option ah_S :=
  F_X6_keepHut_2 1000 σ r0 (0 : Int32)
def F_X6_oughtBy  (σ : ah_S) (r0 : Option Nat) (x1 : Int32) (x2 : Int32) : Option (Int32 × ah_S) :=
  (ah_gR σ 607 r0).bind fun v1 =>
  (ah_lA σ 101 v1 x1).bind fun v2 =>
  if v2 = (0 : Int32) then
    (ah_gR σ 611 r0).bind fun v3 =>
    (ah_lA σ 101 v3 ((13 : Int32) + x1)).bind fun v4 =>
    if v4 = 0 then
      (ah_gR σ 611 r0).bind fun v7 =>
      (ah_lA σ 101 v7 x2).bind fun v8 =>
      some (v8, σ)
    else
      (ah_gR σ 611 r0).bind fun v5 =>
      (ah_lA σ 101 v5 (((20 : Int32) + ((4 : Int32) * x1)) + x2)).bind fun v6 =>
      some (v6, σ)
  else
  if v2 = (1 : Int32) then
    (ah_gR σ 611 r0).bind fun v9 =>
    (ah_lA σ 101 v9 ((4 : Int32) + x2)).bind fun v10 =>
    some (v10, σ)
  else
  if v2 = (2 : Int32) then
    (ah_gR σ 601 r0).bind fun v11 =>
    (ah_lA σ 101 v11 x2).bind fun v12 =>
    some (v12, σ)
  else
  (ah_gR σ 611 r0).bind fun v13 =>
  (ah_lA σ 101 v13 (12 : Int32)).bind fun v14 =>
  if v14 = 0 then
    (ah_gR σ 601 r0).bind fun v17 =>
    (ah_lA σ 101 v17 x2).bind fun v18 =>
    some (v18, σ)
  else
    (ah_gR σ 611 r0).bind fun v15 =>
    (ah_lA σ 101 v15 ((8 : Int32) + x2)).bind fun v16 =>
    some (v16, σ)
def F_X6_twoOf  (σ : ah_S) (x0 : Int32) (x1 : Int32) (x2 : Int32) : Option (Int32 × ah_S) :=
  if x0 = (37 : Int32) then
    if x2 = 0 then
      some ((0 : Int32), σ)
    else
      if x2 = (-1 : Int32) then
        some ((0 : Int32), σ)
      else
        (ah_re x1 x2).bind fun q1 =>
        some (q1, σ)
  else
  if x0 = (38 : Int32) then
    if x1 = 0 then
      some ((0 : Int32), σ)
    else
      if x2 = 0 then
        some ((0 : Int32), σ)
      else
        some ((1 : Int32), σ)
  else
  if x0 = (39 : Int32) then
    if x1 = 0 then
      if x2 = 0 then
        some ((0 : Int32), σ)
      else
        some ((1 : Int32), σ)
    else
      some ((1 : Int32), σ)
  else
  if x0 = (40 : Int32) then
    if x1 = 0 then
      if x2 = 0 then
        some ((0 : Int32), σ)
      else
        some ((1 : Int32), σ)
    else
      some ((1 : Int32), σ)
  else
  if x0 = (41 : Int32) then
    if x1 = 0 then
      if x2 = 0 then
        some ((0 : Int32), σ)
      else
        some ((1 : Int32), σ)
    else
      some ((1 : Int32), σ)
  else
  if x0 = (42 : Int32) then
    some ((x1 * x2), σ)
  else
  if x0 = (43 : Int32) then
    some ((x1 + x2), σ)
  else
  if x0 = (44 : Int32) then
    if x1 = 0 then
      if x2 = 0 then
        some ((0 : Int32), σ)
      else
        some ((1 : Int32), σ)
    else
      some ((1 : Int32), σ)
  else
  if x0 = (45 : Int32) then
    some ((x1 - x2), σ)
  else
  if x0 = (46 : Int32) then
    if x1 = 0 then
      if x2 = 0 then
        some ((0 : Int32), σ)
      else
        some ((1 : Int32), σ)
    else
      some ((1 : Int32), σ)
  else
  if x0 = (47 : Int32) then
    if x2 = 0 then
      some ((0 : Int32), σ)
    else
      if x2 = (-1 : Int32) then
        some ((-x1), σ)
      else
        (ah_di x1 x2).bind fun q2 =>
        some (q2, σ)
  else
  if x0 = (48 : Int32) then
    if x1 = 0 then
      if x2 = 0 then
        some ((0 : Int32), σ)
      else
        some ((1 : Int32), σ)
    else
      some ((1 : Int32), σ)
  else
  if x0 = (49 : Int32) then
    if x1 = 0 then
      if x2 = 0 then
        some ((0 : Int32), σ)
      else
        some ((1 : Int32), σ)
    else
      some ((1 : Int32), σ)
  else
  if x0 = (50 : Int32) then
    if x1 = 0 then
      if x2 = 0 then
        some ((0 : Int32), σ)
      else
        some ((1 : Int32), σ)
    else
      some ((1 : Int32), σ)
  else
  if x0 = (51 : Int32) then
    if x1 = 0 then
      if x2 = 0 then
        some ((0 : Int32), σ)
      else
        some ((1 : Int32), σ)
    else
      some ((1 : Int32), σ)
  else
  if x0 = (52 : Int32) then
    if x1 = 0 then
      if x2 = 0 then
        some ((0 : Int32), σ)
      else
        some ((1 : Int32), σ)
    else
      some ((1 : Int32), σ)
  else
  if x0 = (53 : Int32) then
    if x1 = 0 then
      if x2 = 0 then
        some ((0 : Int32), σ)
      else
        some ((1 : Int32), σ)
    else
      some ((1 : Int32), σ)
  else
  if x0 = (54 : Int32) then
    if x1 = 0 then
      if x2 = 0 then
        some ((0 : Int32), σ)
      else
        some ((1 : Int32), σ)
    else
      some ((1 : Int32), σ)
  else
  if x0 = (55 : Int32) then
    if x1 = 0 then
      if x2 = 0 then
        some ((0 : Int32), σ)
      else
        some ((1 : Int32), σ)
    else
      some ((1 : Int32), σ)
  else
  if x0 = (56 : Int32) then
    if x1 = 0 then
      if x2 = 0 then
        some ((0 : Int32), σ)
      else
        some ((1 : Int32), σ)
    else
      some ((1 : Int32), σ)
  else
  if x0 = (57 : Int32) then
    if x1 = 0 then
      if x2 = 0 then
        some ((0 : Int32), σ)
      else
        some ((1 : Int32), σ)
    else
      some ((1 : Int32), σ)
  else
  if x0 = (58 : Int32) then
    if x1 = 0 then
      if x2 = 0 then
        some ((0 : Int32), σ)
      else
        some ((1 : Int32), σ)
    else
      some ((1 : Int32), σ)
  else
  if x0 = (59 : Int32) then
    if x1 = 0 then
      if x2 = 0 then
        some ((0 : Int32), σ)
      else
        some ((1 : Int32), σ)
    else
      some ((1 : Int32), σ)
  else
  if x0 = (60 : Int32) then
    if x2 ≤ x1 then
      some ((0 : Int32), σ)
    else
      some ((1 : Int32), σ)
  else
  if x0 = (61 : Int32) then
    if x1 = x2 then
      some ((1 : Int32), σ)
    else
      some ((0 : Int32), σ)
  else
  if x0 = (62 : Int32) then
    if x1 ≤ x2 then
      some ((0 : Int32), σ)
    else
      some ((1 : Int32), σ)
  else
  if x1 = 0 then
    if x2 = 0 then
      some ((0 : Int32), σ)
    else
      some ((1 : Int32), σ)
  else
    some ((1 : Int32), σ)
def F_X6_worked_45 (k12 : ah_S → Option Nat → Int32 → Int32 → Int32 → Int32 → Option (Int32 × ah_S)) (σ : ah_S) (r0 : Option Nat) (x1 : Int32) (x3 : Int32) (x4 : Int32) (x5 : Int32) (x6 : Int32) : Option (Int32 × ah_S) :=
  (ah_gR σ 630 r0).bind fun v1 =>
  if x6 = (1 : Int32) then
    (ah_gR σ 625 r0).bind fun v7 =>
    (ah_lA σ 101 v7 x5).bind fun v8 =>
    (ah_wA σ 101 v1 x4 v8).bind fun σ9 =>
    k12 σ9 r0 x1 x3 (x4 + (1 : Int32)) (x5 + (1 : Int32))
  else
    (ah_gR σ 629 r0).bind fun v2 =>
    (ah_gR σ 625 r0).bind fun v3 =>
    (ah_lA σ 101 v3 x5).bind fun v4 =>
    (ah_lA σ 101 v2 v4).bind fun v5 =>
    (ah_wA σ 101 v1 x4 v5).bind fun σ6 =>
    k12 σ6 r0 x1 x3 (x4 + (1 : Int32)) (x5 + (1 : Int32))
def F_X6_worked_12  : Nat → ah_S → Option Nat → Int32 → Int32 → Int32 → Int32 → Option (Int32 × ah_S)
  | 0, _, _, _, _, _, _ => none
  | n + 1, σ, r0, x1, x3, x4, x5 =>
    if (((130 : Int32) * x1) + x3) ≤ x5 then
      (ah_gR σ 630 r0).bind fun v1 =>
      (ah_lA σ 101 v1 (0 : Int32)).bind fun v2 =>
      some (v2, σ)
    else
      (ah_gR σ 624 r0).bind fun v3 =>
      (ah_lA σ 102 v3 x5).bind fun v4 =>
      if v4 = (1 : Int32) then
        F_X6_worked_45 (F_X6_worked_12 n) σ r0 x1 x3 x4 x5 v4
      else
        if v4 = (2 : Int32) then
          F_X6_worked_45 (F_X6_worked_12 n) σ r0 x1 x3 x4 x5 v4
        else
          if v4 = (3 : Int32) then
            (ah_gR σ 630 r0).bind fun v17 =>
            (ah_gR σ 630 r0).bind fun v18 =>
            (ah_lA σ 101 v18 (x4 - (1 : Int32))).bind fun v19 =>
            if v19 = 0 then
              (ah_wA σ 101 v17 (x4 - (1 : Int32)) (1 : Int32)).bind fun σ21 =>
              F_X6_worked_12 n σ21 r0 x1 x3 x4 (x5 + (1 : Int32))
            else
              (ah_wA σ 101 v17 (x4 - (1 : Int32)) (0 : Int32)).bind fun σ20 =>
              F_X6_worked_12 n σ20 r0 x1 x3 x4 (x5 + (1 : Int32))
          else
            if v4 = (4 : Int32) then
              (ah_gR σ 630 r0).bind fun v13 =>
              (ah_gR σ 630 r0).bind fun v14 =>
              (ah_lA σ 101 v14 (x4 - (1 : Int32))).bind fun v15 =>
              (ah_wA σ 101 v13 (x4 - (1 : Int32)) (-v15)).bind fun σ16 =>
              F_X6_worked_12 n σ16 r0 x1 x3 x4 (x5 + (1 : Int32))
            else
              (ah_gR σ 630 r0).bind fun v5 =>
              (ah_gR σ 630 r0).bind fun v6 =>
              (ah_lA σ 101 v6 ((x4 + (-1 : Int32)) - (1 : Int32))).bind fun v7 =>
              (ah_gR σ 630 r0).bind fun v8 =>
              (ah_lA σ 101 v8 (x4 + (-1 : Int32))).bind fun v9 =>
              ah_b2 (F_X6_twoOf σ v4 v7 v9) fun v10 σ11 =>
              (ah_wA σ11 101 v5 ((x4 + (-1 : Int32)) - (1 : Int32)) v10).bind fun σ12 =>
              F_X6_worked_12 n σ12 r0 x1 x3 (x4 + (-1 : Int32)) (x5 + (1 : Int32))
def F_X6_worked  (σ : ah_S) (r0 : Option Nat) (x1 : Int32) (x2 : Int32) (x3 : Int32) : Option (Int32 × ah_S) :=
  F_X6_worked_12 1000 σ r0 x1 x3 (0 : Int32) (((130 : Int32) * x1) + x2)
def F_X6_gives_7  : Nat → ah_S → Option Nat → Int32 → Int32 → Int32 → Option (Int32 × ah_S)
  | 0, _, _, _, _, _ => none
  | n + 1, σ, r0, x1, x2, x3 =>
    (ah_gR σ 626 r0).bind fun v1 =>
    (ah_lA σ 101 v1 x1).bind fun v2 =>
    if (((61 : Int32) * x1) + v2) ≤ x3 then
      some ((0 : Int32), σ)
    else
      (ah_gR σ 627 r0).bind fun v3 =>
      (ah_lA σ 103 v3 x3).bind fun v4 =>
      if v4 = x2 then
        (ah_gR σ 627 r0).bind fun v5 =>
        (ah_lA σ 103 v5 x3).bind fun v6 =>
        (ah_gR σ 628 r0).bind fun v7 =>
        (ah_lA σ 103 v7 x3).bind fun v8 =>
        (ah_is σ 7 r0).bind fun u9 =>
        ah_b2 (F_X6_worked σ r0 x1 v6 v8) fun v10 σ11 =>
        some (v10, σ11)
      else
        (ah_gR σ 627 r0).bind fun v12 =>
        (ah_lA σ 103 v12 x3).bind fun v13 =>
        (ah_is σ 7 r0).bind fun u14 =>
        ah_b2 (F_X6_worked σ r0 x1 x2 v13) fun v15 σ16 =>
        if v15 = 0 then
          (ah_gR σ16 628 r0).bind fun v17 =>
          (ah_lA σ16 103 v17 x3).bind fun v18 =>
          F_X6_gives_7 n σ16 r0 x1 v18 (x3 + (1 : Int32))
        else
          (ah_gR σ16 627 r0).bind fun v19 =>
          (ah_lA σ16 103 v19 x3).bind fun v20 =>
          (ah_gR σ16 628 r0).bind fun v21 =>
          (ah_lA σ16 103 v21 x3).bind fun v22 =>
          (ah_is σ16 7 r0).bind fun u23 =>
          ah_b2 (F_X6_worked σ16 r0 x1 v20 v22) fun v24 σ25 =>
          some (v24, σ25)
def F_X6_gives  (σ : ah_S) (r0 : Option Nat) (x1 : Int32) : Option (Int32 × ah_S) :=
  F_X6_gives_7 1000 σ r0 x1 (0 : Int32) ((61 : Int32) * x1)
def F_X6_levelBehind_193  (σ : ah_S) (x4 : Int32) (y0 : Int32) : Option (Int32 × ah_S) :=
  if 0 ≤ (x4 + y0) then
    if (x4 + y0) ≤ (99 : Int32) then
      some ((x4 + y0), σ)
    else
      some ((99 : Int32), σ)
  else
    some ((0 : Int32), σ)
def F_X6_levelBehind_34  (σ : ah_S) (r0 : Option Nat) (x1 : Int32) (x2 : Int32) (x3 : Int32) (x4 : Int32) (y0 : Int32) : Option (Int32 × ah_S) :=
  (ah_gR σ 604 r0).bind fun v1 =>
  (ah_lA σ 101 v1 (((4 : Int32) * x1) + x2)).bind fun v2 =>
  (ah_gI σ 631 r0).bind fun v3 =>
  if v3 = 0 then
    if (x3 - x4) ≤ y0 then
      if (-20 : Int32) ≤ (-v2) then
        if (-v2) ≤ (20 : Int32) then
          F_X6_levelBehind_193 σ x4 (-v2)
        else
          F_X6_levelBehind_193 σ x4 (20 : Int32)
      else
        F_X6_levelBehind_193 σ x4 (-20 : Int32)
    else
      (ah_gR σ 605 r0).bind fun v4 =>
      (ah_lA σ 101 v4 (((4 : Int32) * x1) + x2)).bind fun v5 =>
      if (x4 + ((-v2) + v5)) ≤ x3 then
        if (-20 : Int32) ≤ ((-v2) + v5) then
          if ((-v2) + v5) ≤ (20 : Int32) then
            F_X6_levelBehind_193 σ x4 ((-v2) + v5)
          else
            F_X6_levelBehind_193 σ x4 (20 : Int32)
        else
          F_X6_levelBehind_193 σ x4 (-20 : Int32)
      else
        if (-20 : Int32) ≤ (x3 - x4) then
          if (x3 - x4) ≤ (20 : Int32) then
            F_X6_levelBehind_193 σ x4 (x3 - x4)
          else
            F_X6_levelBehind_193 σ x4 (20 : Int32)
        else
          F_X6_levelBehind_193 σ x4 (-20 : Int32)
  else
    (ah_gR σ 629 r0).bind fun v6 =>
    (ah_wA σ 101 v6 (0 : Int32) x4).bind fun σ7 =>
    (ah_gR σ7 629 r0).bind fun v8 =>
    (ah_wA σ7 101 v8 (1 : Int32) x3).bind fun σ9 =>
    (ah_gR σ9 629 r0).bind fun v10 =>
    (ah_gR σ9 604 r0).bind fun v11 =>
    (ah_lA σ9 101 v11 (((4 : Int32) * x1) + x2)).bind fun v12 =>
    (ah_wA σ9 101 v10 (2 : Int32) v12).bind fun σ13 =>
    (ah_gR σ13 629 r0).bind fun v14 =>
    (ah_gR σ13 605 r0).bind fun v15 =>
    (ah_lA σ13 101 v15 (((4 : Int32) * x1) + x2)).bind fun v16 =>
    (ah_wA σ13 101 v14 (3 : Int32) v16).bind fun σ17 =>
    (ah_gR σ17 629 r0).bind fun v18 =>
    (ah_wA σ17 101 v18 (4 : Int32) y0).bind fun σ19 =>
    (ah_gR σ19 629 r0).bind fun v20 =>
    (ah_wA σ19 101 v20 (5 : Int32) x2).bind fun σ21 =>
    (ah_is σ21 7 r0).bind fun u22 =>
    ah_b2 (F_X6_gives σ21 r0 (0 : Int32)) fun v23 σ24 =>
    if (-20 : Int32) ≤ v23 then
      if v23 ≤ (20 : Int32) then
        F_X6_levelBehind_193 σ24 x4 v23
      else
        F_X6_levelBehind_193 σ24 x4 (20 : Int32)
    else
      F_X6_levelBehind_193 σ24 x4 (-20 : Int32)
def F_X6_levelBehind  (σ : ah_S) (r0 : Option Nat) (x1 : Int32) (x2 : Int32) (x3 : Int32) : Option (Int32 × ah_S) :=
  (ah_gR σ 611 r0).bind fun v1 =>
  (ah_lA σ 101 v1 x2).bind fun v2 =>
  (ah_gR σ 606 r0).bind fun v3 =>
  (ah_lA σ 101 v3 x1).bind fun v4 =>
  (ah_gI σ 608 r0).bind fun v5 =>
  if v5 ≤ v4 then
    (ah_gI σ 608 r0).bind fun v6 =>
    F_X6_levelBehind_34 σ r0 x1 x2 x3 v2 v6
  else
    (ah_gR σ 606 r0).bind fun v7 =>
    (ah_lA σ 101 v7 x1).bind fun v8 =>
    F_X6_levelBehind_34 σ r0 x1 x2 x3 v2 v8
def F_X6_nightOf_81 (k45 : ah_S → Option Nat → Int32 → Int32 → Option ah_S) (σ : ah_S) (r0 : Option Nat) (x1 : Int32) (x2 : Int32) : Option ah_S :=
  (ah_gR σ 611 r0).bind fun v1 =>
  (ah_gR σ 632 r0).bind fun v2 =>
  (ah_lA σ 101 v2 x2).bind fun v3 =>
  (ah_wA σ 101 v1 x2 v3).bind fun σ4 =>
  (ah_gR σ4 611 r0).bind fun v5 =>
  (ah_gR σ4 633 r0).bind fun v6 =>
  (ah_lA σ4 101 v6 x2).bind fun v7 =>
  (ah_wA σ4 101 v5 ((8 : Int32) + x2) v7).bind fun σ8 =>
  (ah_gR σ8 607 r0).bind fun v9 =>
  (ah_lA σ8 101 v9 x1).bind fun v10 =>
  if v10 = (1 : Int32) then
    (ah_gR σ8 611 r0).bind fun v11 =>
    (ah_gR σ8 632 r0).bind fun v12 =>
    (ah_lA σ8 101 v12 x2).bind fun v13 =>
    (ah_wA σ8 101 v11 ((4 : Int32) + x2) v13).bind fun σ14 =>
    k45 σ14 r0 x1 (x2 + (1 : Int32))
  else
    k45 σ8 r0 x1 (x2 + (1 : Int32))
def F_X6_nightOf_45  : Nat → ah_S → Option Nat → Int32 → Int32 → Option ah_S
  | 0, _, _, _, _ => none
  | n + 1, σ, r0, x1, x2 =>
    if (4 : Int32) ≤ x2 then
      (ah_gR σ 611 r0).bind fun v1 =>
      (ah_wA σ 101 v1 ((13 : Int32) + x1) (1 : Int32)).bind fun σ2 =>
      (ah_gR σ2 611 r0).bind fun v3 =>
      (ah_wA σ2 101 v3 (12 : Int32) (1 : Int32)).bind fun σ4 =>
      some σ4
    else
      (ah_gR σ 611 r0).bind fun v5 =>
      (ah_lA σ 101 v5 ((13 : Int32) + x1)).bind fun v6 =>
      if v6 = 0 then
        (ah_gR σ 611 r0).bind fun v7 =>
        (ah_gR σ 611 r0).bind fun v8 =>
        (ah_lA σ 101 v8 x2).bind fun v9 =>
        (ah_wA σ 101 v7 (((20 : Int32) + ((4 : Int32) * x1)) + x2) v9).bind fun σ10 =>
        F_X6_nightOf_81 (F_X6_nightOf_45 n) σ10 r0 x1 x2
      else
        F_X6_nightOf_81 (F_X6_nightOf_45 n) σ r0 x1 x2
def F_X6_nightOf_2  : Nat → ah_S → Option Nat → Int32 → Int32 → Option ah_S
  | 0, _, _, _, _ => none
  | n + 1, σ, r0, x1, x2 =>
    if (4 : Int32) ≤ x2 then
      F_X6_nightOf_45 1000 σ r0 x1 (0 : Int32)
    else
      (ah_gR σ 633 r0).bind fun v1 =>
      (ah_is σ 7 r0).bind fun u2 =>
      ah_b2 (F_X6_oughtBy σ r0 x1 x2) fun v3 σ4 =>
      (ah_wA σ4 101 v1 x2 v3).bind fun σ5 =>
      (ah_gR σ5 632 r0).bind fun v6 =>
      (ah_gR σ5 633 r0).bind fun v7 =>
      (ah_lA σ5 101 v7 x2).bind fun v8 =>
      (ah_is σ5 7 r0).bind fun u9 =>
      ah_b2 (F_X6_levelBehind σ5 r0 x1 x2 v8) fun v10 σ11 =>
      (ah_wA σ11 101 v6 x2 v10).bind fun σ12 =>
      F_X6_nightOf_2 n σ12 r0 x1 (x2 + (1 : Int32))
def F_X6_nightOf  (σ : ah_S) (r0 : Option Nat) (x1 : Int32) : Option ah_S :=
  F_X6_nightOf_2 1000 σ r0 x1 (0 : Int32)
def F_X6_goNight  (σ : ah_S) (r0 : Option Nat) (x1 : Int32) : Option ah_S :=
  (ah_is σ 7 r0).bind fun u1 =>
  ah_b2 (F_X6_isGuest σ r0 x1) fun v2 σ3 =>
  if v2 = 0 then
    some σ3
  else
    (ah_is σ3 7 r0).bind fun u4 =>
    (F_X6_nightOf σ3 r0 x1).bind fun σ5 =>
    some σ5
def F_X6_layHut_2  : Nat → ah_S → Option Nat → Int32 → Option ah_S
  | 0, _, _, _ => none
  | n + 1, σ, r0, x1 =>
    if (48 : Int32) ≤ x1 then
      some σ
    else
      (ah_gR σ 611 r0).bind fun v1 =>
      (ah_gR σ 634 r0).bind fun v2 =>
      (ah_lA σ 101 v2 x1).bind fun v3 =>
      (ah_wA σ 101 v1 x1 v3).bind fun σ4 =>
      F_X6_layHut_2 n σ4 r0 (x1 + (1 : Int32))
def F_X6_layHut  (σ : ah_S) (r0 : Option Nat) : Option ah_S :=
  F_X6_layHut_2 1000 σ r0 (0 : Int32)
def F_X6_below_56  : Nat → ah_S → Option Nat → Int32 → Int32 → Int32 → Int32 → Option (Int32 × ah_S)
  | 0, _, _, _, _, _, _ => none
  | n + 1, σ, r0, x2, x3, x4, x5 =>
    (ah_gI σ 636 r0).bind fun v1 =>
    if v1 ≤ x5 then
      (ah_is σ 7 r0).bind fun u2 =>
      (F_X6_layHut σ r0).bind fun σ3 =>
      some (x4, σ3)
    else
      if 0 ≤ x4 then
        (ah_is σ 7 r0).bind fun u4 =>
        (F_X6_layHut σ r0).bind fun σ5 =>
        some (x4, σ5)
      else
        (ah_gR σ 635 r0).bind fun v6 =>
        (ah_lA σ 101 v6 x5).bind fun v7 =>
        (ah_is σ 7 r0).bind fun u8 =>
        (F_X6_goNight σ r0 v7).bind fun σ9 =>
        (ah_gR σ9 611 r0).bind fun v10 =>
        (ah_lA σ9 101 v10 x2).bind fun v11 =>
        if x3 ≤ v11 then
          F_X6_below_56 n σ9 r0 x2 x3 x4 (x5 + (1 : Int32))
        else
          F_X6_below_56 n σ9 r0 x2 x3 x5 (x5 + (1 : Int32))
def F_X6_below  (σ : ah_S) (r0 : Option Nat) (x1 : Int32) (x2 : Int32) (x3 : Int32) : Option (Int32 × ah_S) :=
  ah_b2 (F_X6_isShelf σ x1) fun v1 σ2 =>
  if v1 = 0 then
    some ((-1 : Int32), σ2)
  else
    ah_b2 (F_X6_isThing σ2 x2) fun v3 σ4 =>
    if v3 = 0 then
      some ((-1 : Int32), σ4)
    else
      ah_b2 (F_X6_in σ4 x3 (0 : Int32) (99 : Int32)) fun v5 σ6 =>
      if v5 = 0 then
        some ((-1 : Int32), σ6)
      else
        (ah_is σ6 7 r0).bind fun u7 =>
        ah_b2 (F_X6_rowFault σ6 r0 x1) fun v8 σ9 =>
        if 0 ≤ v8 then
          (ah_is σ9 7 r0).bind fun u10 =>
          (F_X6_layStays σ9 r0 x1).bind fun σ11 =>
          (ah_is σ11 7 r0).bind fun u12 =>
          (F_X6_keepHut σ11 r0).bind fun σ13 =>
          F_X6_below_56 1000 σ13 r0 x2 x3 (-2 : Int32) (0 : Int32)
        else
          (ah_is σ9 7 r0).bind fun u14 =>
          ah_b2 (F_X6_rowFault σ9 r0 x1) fun v15 σ16 =>
          some (v15, σ16)
def F_X6_body  (σ : ah_S) (r0 : Option Nat) (x1 : Int32) : Option (Int32 × ah_S) :=
  ah_b2 (F_X6_in σ x1 (0 : Int32) (7 : Int32)) fun v1 σ2 =>
  if v1 = 0 then
    some ((-1 : Int32), σ2)
  else
    (ah_gI σ2 652 r0).bind fun v3 =>
    if v3 = (50 : Int32) then
      some ((-3 : Int32), σ2)
    else
      (ah_gR σ2 653 r0).bind fun v4 =>
      (ah_gI σ2 652 r0).bind fun v5 =>
      (ah_wA σ2 101 v4 v5 x1).bind fun σ6 =>
      (ah_gI σ6 652 r0).bind fun v7 =>
      (ah_pI σ6 652 r0 (v7 + (1 : Int32))).bind fun σ8 =>
      (ah_gI σ8 652 r0).bind fun v9 =>
      some ((v9 - (1 : Int32)), σ8)
def F_X6_spotAt  (σ : ah_S) (x0 : Int32) : Option (Int32 × ah_S) :=
  (ah_di x0 (10 : Int32)).bind fun q1 =>
  (ah_re x0 (10 : Int32)).bind fun q2 =>
  some ((((4 : Int32) * q1) + q2), σ)
def F_X6_valueAt  (σ : ah_S) (r0 : Option Nat) (x1 : Int32) (x2 : Int32) : Option (Int32 × ah_S) :=
  if x1 = (0 : Int32) then
    (ah_gR σ 601 r0).bind fun v1 =>
    (ah_lA σ 101 v1 x2).bind fun v2 =>
    some (v2, σ)
  else
  if x1 = (1 : Int32) then
    (ah_gR σ 602 r0).bind fun v3 =>
    (ah_lA σ 101 v3 x2).bind fun v4 =>
    some (v4, σ)
  else
  if x1 = (2 : Int32) then
    (ah_gR σ 604 r0).bind fun v5 =>
    ah_b2 (F_X6_spotAt σ x2) fun v6 σ7 =>
    (ah_lA σ7 101 v5 v6).bind fun v8 =>
    some (v8, σ7)
  else
  if x1 = (3 : Int32) then
    (ah_gR σ 605 r0).bind fun v9 =>
    ah_b2 (F_X6_spotAt σ x2) fun v10 σ11 =>
    (ah_lA σ11 101 v9 v10).bind fun v12 =>
    some (v12, σ11)
  else
  if x1 = (4 : Int32) then
    (ah_gR σ 606 r0).bind fun v13 =>
    (ah_lA σ 101 v13 x2).bind fun v14 =>
    some (v14, σ)
  else
  if x1 = (5 : Int32) then
    (ah_gR σ 607 r0).bind fun v15 =>
    (ah_lA σ 101 v15 x2).bind fun v16 =>
    some (v16, σ)
  else
  if x1 = (6 : Int32) then
    (ah_gI σ 608 r0).bind fun v17 =>
    some (v17, σ)
  else
  if x1 = (7 : Int32) then
    (ah_gI σ 609 r0).bind fun v18 =>
    some (v18, σ)
  else
  (ah_gI σ 610 r0).bind fun v19 =>
  some (v19, σ)
def F_X6_lays  (σ : ah_S) (r0 : Option Nat) (x1 : Int32) (x2 : Int32) (x3 : Int32) : Option ah_S :=
  if x1 = (0 : Int32) then
    (ah_gR σ 601 r0).bind fun v1 =>
    (ah_wA σ 101 v1 x2 x3).bind fun σ2 =>
    some σ2
  else
  if x1 = (1 : Int32) then
    (ah_gR σ 602 r0).bind fun v3 =>
    (ah_wA σ 101 v3 x2 x3).bind fun σ4 =>
    some σ4
  else
  if x1 = (2 : Int32) then
    (ah_gR σ 604 r0).bind fun v5 =>
    ah_b2 (F_X6_spotAt σ x2) fun v6 σ7 =>
    (ah_wA σ7 101 v5 v6 x3).bind fun σ8 =>
    some σ8
  else
  if x1 = (3 : Int32) then
    (ah_gR σ 605 r0).bind fun v9 =>
    ah_b2 (F_X6_spotAt σ x2) fun v10 σ11 =>
    (ah_wA σ11 101 v9 v10 x3).bind fun σ12 =>
    some σ12
  else
  if x1 = (4 : Int32) then
    (ah_gR σ 606 r0).bind fun v13 =>
    (ah_wA σ 101 v13 x2 x3).bind fun σ14 =>
    some σ14
  else
  if x1 = (5 : Int32) then
    (ah_gR σ 607 r0).bind fun v15 =>
    (ah_wA σ 101 v15 x2 x3).bind fun σ16 =>
    some σ16
  else
  if x1 = (6 : Int32) then
    (ah_pI σ 608 r0 x3).bind fun σ17 =>
    some σ17
  else
  if x1 = (7 : Int32) then
    (ah_pI σ 609 r0 x3).bind fun σ18 =>
    some σ18
  else
  (ah_pI σ 610 r0 x3).bind fun σ19 =>
  some σ19
def F_X6_changes_34 (k121 : ah_S → Option Nat → Int32 → Int32 → Int32 → Int32 → Option (Int32 × ah_S)) : Nat → ah_S → Option Nat → Int32 → Int32 → Int32 → Int32 → Int32 → Option (Int32 × ah_S)
  | 0, _, _, _, _, _, _, _ => none
  | n + 1, σ, r0, x1, x2, x3, x4, x5 =>
    if (40 : Int32) ≤ x5 then
      (ah_gI σ 612 r0).bind fun v1 =>
      (ah_pI σ 612 r0 (v1 - (1 : Int32))).bind fun σ2 =>
      k121 σ2 r0 x1 x2 x3 x4
    else
      (ah_gR σ 614 r0).bind fun v3 =>
      (ah_gR σ 614 r0).bind fun v4 =>
      (ah_lA σ 101 v4 x5).bind fun v5 =>
      (ah_wA σ 101 v3 (x5 - (1 : Int32)) v5).bind fun σ6 =>
      (ah_gR σ6 615 r0).bind fun v7 =>
      (ah_gR σ6 615 r0).bind fun v8 =>
      (ah_lA σ6 101 v8 x5).bind fun v9 =>
      (ah_wA σ6 101 v7 (x5 - (1 : Int32)) v9).bind fun σ10 =>
      (ah_gR σ10 616 r0).bind fun v11 =>
      (ah_gR σ10 616 r0).bind fun v12 =>
      (ah_lA σ10 101 v12 x5).bind fun v13 =>
      (ah_wA σ10 101 v11 (x5 - (1 : Int32)) v13).bind fun σ14 =>
      (ah_gR σ14 617 r0).bind fun v15 =>
      (ah_gR σ14 617 r0).bind fun v16 =>
      (ah_lA σ14 101 v16 x5).bind fun v17 =>
      (ah_wA σ14 101 v15 (x5 - (1 : Int32)) v17).bind fun σ18 =>
      F_X6_changes_34 k121 n σ18 r0 x1 x2 x3 x4 (x5 + (1 : Int32))
def F_X6_changes_121  (σ : ah_S) (r0 : Option Nat) (x1 : Int32) (x2 : Int32) (x3 : Int32) (x4 : Int32) : Option (Int32 × ah_S) :=
  (ah_gR σ 614 r0).bind fun v1 =>
  (ah_gI σ 612 r0).bind fun v2 =>
  (ah_wA σ 101 v1 v2 x1).bind fun σ3 =>
  (ah_gR σ3 615 r0).bind fun v4 =>
  (ah_gI σ3 612 r0).bind fun v5 =>
  (ah_wA σ3 101 v4 v5 x2).bind fun σ6 =>
  (ah_gR σ6 616 r0).bind fun v7 =>
  (ah_gI σ6 612 r0).bind fun v8 =>
  (ah_wA σ6 101 v7 v8 x4).bind fun σ9 =>
  (ah_gR σ9 617 r0).bind fun v10 =>
  (ah_gI σ9 612 r0).bind fun v11 =>
  (ah_wA σ9 101 v10 v11 x3).bind fun σ12 =>
  (ah_gI σ12 612 r0).bind fun v13 =>
  (ah_pI σ12 612 r0 (v13 + (1 : Int32))).bind fun σ14 =>
  (ah_is σ14 7 r0).bind fun u15 =>
  (F_X6_lays σ14 r0 x1 x2 x3).bind fun σ16 =>
  some (x4, σ16)
def F_X6_changes  (σ : ah_S) (r0 : Option Nat) (x1 : Int32) (x2 : Int32) (x3 : Int32) : Option (Int32 × ah_S) :=
  (ah_is σ 7 r0).bind fun u1 =>
  ah_b2 (F_X6_valueAt σ r0 x1 x2) fun v2 σ3 =>
  if v2 = x3 then
    some (v2, σ3)
  else
    (ah_pI σ3 613 r0 (0 : Int32)).bind fun σ4 =>
    (ah_gI σ4 612 r0).bind fun v5 =>
    if v5 = (40 : Int32) then
      F_X6_changes_34 (F_X6_changes_121) 1000 σ4 r0 x1 x2 x3 v2 (1 : Int32)
    else
      F_X6_changes_121 σ4 r0 x1 x2 x3 v2
def F_X6_count  (σ : ah_S) (r0 : Option Nat) (x1 : Int32) : Option (Int32 × ah_S) :=
  if x1 = (0 : Int32) then
    (ah_gI σ 603 r0).bind fun v1 =>
    some (v1, σ)
  else
  if x1 = (1 : Int32) then
    (ah_is σ 7 r0).bind fun u2 =>
    ah_b2 (F_X6_beenMany σ r0) fun v3 σ4 =>
    some (v3, σ4)
  else
  if x1 = (2 : Int32) then
    (ah_gI σ 619 r0).bind fun v5 =>
    some (v5, σ)
  else
  if x1 = (3 : Int32) then
    (ah_gI σ 612 r0).bind fun v6 =>
    some (v6, σ)
  else
  if x1 = (4 : Int32) then
    (ah_gI σ 652 r0).bind fun v7 =>
    some (v7, σ)
  else
  if x1 = (5 : Int32) then
    (ah_gI σ 654 r0).bind fun v8 =>
    some (v8, σ)
  else
  some ((-1 : Int32), σ)
def F_X6_lacksOf  (σ : ah_S) (r0 : Option Nat) (x1 : Int32) : Option (Int32 × ah_S) :=
  (ah_gR σ 611 r0).bind fun v1 =>
  (ah_lA σ 101 v1 x1).bind fun v2 =>
  (ah_gR σ 601 r0).bind fun v3 =>
  (ah_lA σ 101 v3 x1).bind fun v4 =>
  if v4 ≤ v2 then
    some ((0 : Int32), σ)
  else
    (ah_gR σ 601 r0).bind fun v5 =>
    (ah_lA σ 101 v5 x1).bind fun v6 =>
    (ah_gR σ 611 r0).bind fun v7 =>
    (ah_lA σ 101 v7 x1).bind fun v8 =>
    some ((v6 - v8), σ)
def F_X6_lossNow_4  : Nat → ah_S → Option Nat → Int32 → Int32 → Option (Int32 × ah_S)
  | 0, _, _, _, _ => none
  | n + 1, σ, r0, x1, x2 =>
    if (4 : Int32) ≤ x2 then
      some (x1, σ)
    else
      (ah_is σ 7 r0).bind fun u1 =>
      ah_b2 (F_X6_lacksOf σ r0 x2) fun v2 σ3 =>
      (ah_gR σ3 602 r0).bind fun v4 =>
      (ah_lA σ3 101 v4 x2).bind fun v5 =>
      F_X6_lossNow_4 n σ3 r0 (x1 + (v2 * v5)) (x2 + (1 : Int32))
def F_X6_lossNow  (σ : ah_S) (r0 : Option Nat) : Option (Int32 × ah_S) :=
  F_X6_lossNow_4 1000 σ r0 (0 : Int32) (0 : Int32)
def F_X6_drawn_38  : Nat → ah_S → Option Nat → Int32 → Int32 → Int32 → Int32 → Int32 → Int32 → Option (Int32 × ah_S)
  | 0, _, _, _, _, _, _, _, _ => none
  | n + 1, σ, r0, x2, x3, x4, x5, x6, x7 =>
    if x2 ≤ x7 then
      (ah_is σ 7 r0).bind fun u1 =>
      (F_X6_layHut σ r0).bind fun σ2 =>
      if x3 = 0 then
        some (x5, σ2)
      else
        some (x6, σ2)
    else
      (ah_gI σ 603 r0).bind fun v3 =>
      (ah_re ((((x4 * (1103515245 : Int32)) + (12345 : Int32)).toUInt32 >>> ((8 : Int32).toUInt32 &&& Int32.toUInt32 31)).toInt32) (v3 + (1 : Int32))).bind fun q4 =>
      (ah_is σ 7 r0).bind fun u5 =>
      (F_X6_goNight σ r0 q4).bind fun σ6 =>
      (ah_is σ6 7 r0).bind fun u7 =>
      ah_b2 (F_X6_lossNow σ6 r0) fun v8 σ9 =>
      (ah_gR σ9 611 r0).bind fun v10 =>
      (ah_lA σ9 101 v10 (0 : Int32)).bind fun v11 =>
      if x6 ≤ v11 then
        F_X6_drawn_38 n σ9 r0 x2 x3 ((x4 * (1103515245 : Int32)) + (12345 : Int32)) (x5 + v8) x6 (x7 + (1 : Int32))
      else
        (ah_gR σ9 611 r0).bind fun v12 =>
        (ah_lA σ9 101 v12 (0 : Int32)).bind fun v13 =>
        F_X6_drawn_38 n σ9 r0 x2 x3 ((x4 * (1103515245 : Int32)) + (12345 : Int32)) (x5 + v8) v13 (x7 + (1 : Int32))
def F_X6_drawn  (σ : ah_S) (r0 : Option Nat) (x1 : Int32) (x2 : Int32) (x3 : Int32) : Option (Int32 × ah_S) :=
  ah_b2 (F_X6_in σ x2 (1 : Int32) (60 : Int32)) fun v1 σ2 =>
  if v1 = 0 then
    some ((-1 : Int32), σ2)
  else
    ah_b2 (F_X6_in σ2 x3 (0 : Int32) (1 : Int32)) fun v3 σ4 =>
    if v3 = 0 then
      some ((-1 : Int32), σ4)
    else
      (ah_is σ4 7 r0).bind fun u5 =>
      (F_X6_keepHut σ4 r0).bind fun σ6 =>
      F_X6_drawn_38 1000 σ6 r0 x2 x3 x1 (0 : Int32) (99 : Int32) (0 : Int32)
def F_X6_whyNoPlace  (σ : ah_S) (r0 : Option Nat) (x1 : Int32) (x2 : Int32) : Option (Int32 × ah_S) :=
  ah_b2 (F_X6_isShelf σ x1) fun v1 σ2 =>
  if v1 = 0 then
    some ((-1 : Int32), σ2)
  else
    (ah_gR σ2 656 r0).bind fun v3 =>
    (ah_lA σ2 101 v3 x1).bind fun v4 =>
    if v4 = (-1 : Int32) then
      some ((-11 : Int32), σ2)
    else
      (ah_gR σ2 656 r0).bind fun v5 =>
      (ah_lA σ2 101 v5 x1).bind fun v6 =>
      if v6 < 0 then
        (ah_gR σ2 657 r0).bind fun v7 =>
        (ah_lA σ2 101 v7 x1).bind fun v8 =>
        ah_b2 (F_X6_in σ2 x2 (0 : Int32) (v8 - (1 : Int32))) fun v9 σ10 =>
        if v9 = 0 then
          some ((-13 : Int32), σ10)
        else
          some ((0 : Int32), σ10)
      else
        some ((-12 : Int32), σ2)
def F_X6_element  (σ : ah_S) (r0 : Option Nat) (x1 : Int32) (x2 : Int32) : Option (Int64 × ah_S) :=
  (ah_is σ 7 r0).bind fun u1 =>
  ah_b2 (F_X6_whyNoPlace σ r0 x1 x2) fun v2 σ3 =>
  if 0 ≤ v2 then
    (ah_gR σ3 658 r0).bind fun v4 =>
    (ah_lL σ3 v4 (((60 : Int32) * x1) + x2)).bind fun v5 =>
    some (v5, σ3)
  else
    some ((-9223372036854775808 : Int64), σ3)
def F_X6_faulty  (σ : ah_S) (r0 : Option Nat) : Option ah_S :=
  (ah_gI σ 621 r0).bind fun v1 =>
  if 0 ≤ v1 then
    some σ
  else
    (ah_gI σ 620 r0).bind fun v2 =>
    (ah_pI σ 621 r0 v2).bind fun σ3 =>
    some σ3
def F_X6_feed  (σ : ah_S) (r0 : Option Nat) (x1 : Int32) : Option (Int32 × ah_S) :=
  ah_b2 (F_X6_in σ x1 (0 : Int32) (255 : Int32)) fun v1 σ2 =>
  if v1 = 0 then
    some ((-1 : Int32), σ2)
  else
    (ah_gI σ2 619 r0).bind fun v3 =>
    if v3 = (120 : Int32) then
      some ((-3 : Int32), σ2)
    else
      (ah_gR σ2 618 r0).bind fun v4 =>
      (ah_gI σ2 619 r0).bind fun v5 =>
      (ah_wA σ2 102 v4 v5 (vp_nar .byte (x1.toInt8.toInt32))).bind fun σ6 =>
      (ah_gI σ6 619 r0).bind fun v7 =>
      (ah_pI σ6 619 r0 (v7 + (1 : Int32))).bind fun σ8 =>
      (ah_gI σ8 619 r0).bind fun v9 =>
      some (v9, σ8)
def F_X6_look  (σ : ah_S) (r0 : Option Nat) : Option (Int32 × ah_S) :=
  (ah_gI σ 620 r0).bind fun v1 =>
  (ah_gI σ 619 r0).bind fun v2 =>
  if v2 ≤ v1 then
    some ((-1 : Int32), σ)
  else
    (ah_gR σ 618 r0).bind fun v3 =>
    (ah_gI σ 620 r0).bind fun v4 =>
    (ah_lA σ 102 v3 v4).bind fun v5 =>
    some (v5, σ)
def F_X6_figure_52  (σ : ah_S) (r0 : Option Nat) (x1 : Int32) (x2 : Int32) : Option ah_S :=
  if x2 = 0 then
    (ah_is σ 7 r0).bind fun u1 =>
    (F_X6_faulty σ r0).bind fun σ2 =>
    (ah_is σ2 7 r0).bind fun u3 =>
    (F_X6_addStep σ2 r0 (1 : Int32) x1).bind fun σ4 =>
    some σ4
  else
    (ah_is σ 7 r0).bind fun u5 =>
    ah_b2 (F_X6_look σ r0) fun v6 σ7 =>
    ah_b2 (F_X6_in σ7 v6 (48 : Int32) (57 : Int32)) fun v8 σ9 =>
    if v8 = 0 then
      (ah_is σ9 7 r0).bind fun u10 =>
      (F_X6_addStep σ9 r0 (1 : Int32) x1).bind fun σ11 =>
      some σ11
    else
      (ah_is σ9 7 r0).bind fun u12 =>
      (F_X6_faulty σ9 r0).bind fun σ13 =>
      (ah_is σ13 7 r0).bind fun u14 =>
      (F_X6_addStep σ13 r0 (1 : Int32) x1).bind fun σ15 =>
      some σ15
def F_X6_figure_4  : Nat → ah_S → Option Nat → Int32 → Int32 → Option ah_S
  | 0, _, _, _, _ => none
  | n + 1, σ, r0, x1, x2 =>
    if (4 : Int32) ≤ x2 then
      F_X6_figure_52 σ r0 x1 x2
    else
      (ah_is σ 7 r0).bind fun u1 =>
      ah_b2 (F_X6_look σ r0) fun v2 σ3 =>
      ah_b2 (F_X6_in σ3 v2 (48 : Int32) (57 : Int32)) fun v4 σ5 =>
      if v4 = 0 then
        F_X6_figure_52 σ5 r0 x1 x2
      else
        (ah_is σ5 7 r0).bind fun u6 =>
        ah_b2 (F_X6_look σ5 r0) fun v7 σ8 =>
        (ah_gI σ8 620 r0).bind fun v9 =>
        (ah_pI σ8 620 r0 (v9 + (1 : Int32))).bind fun σ10 =>
        F_X6_figure_4 n σ10 r0 ((((10 : Int32) * x1) + v7) - (48 : Int32)) (x2 + (1 : Int32))
def F_X6_figure  (σ : ah_S) (r0 : Option Nat) : Option ah_S :=
  F_X6_figure_4 1000 σ r0 (0 : Int32) (0 : Int32)
def F_X6_forget_32  : Nat → ah_S → Option Nat → Int32 → Int32 → Int32 → Option (Int32 × ah_S)
  | 0, _, _, _, _, _ => none
  | n + 1, σ, r0, x1, x2, x3 =>
    if (4 : Int32) ≤ x3 then
      some (x2, σ)
    else
      (ah_gR σ 611 r0).bind fun v1 =>
      (ah_wA σ 101 v1 (((20 : Int32) + ((4 : Int32) * x1)) + x3) (0 : Int32)).bind fun σ2 =>
      F_X6_forget_32 n σ2 r0 x1 x2 (x3 + (1 : Int32))
def F_X6_forget  (σ : ah_S) (r0 : Option Nat) (x1 : Int32) : Option (Int32 × ah_S) :=
  (ah_is σ 7 r0).bind fun u1 =>
  ah_b2 (F_X6_isGuest σ r0 x1) fun v2 σ3 =>
  if v2 = 0 then
    some ((-1 : Int32), σ3)
  else
    (ah_gR σ3 611 r0).bind fun v4 =>
    (ah_lA σ3 101 v4 ((13 : Int32) + x1)).bind fun v5 =>
    (ah_gR σ3 611 r0).bind fun v6 =>
    (ah_wA σ3 101 v6 ((13 : Int32) + x1) (0 : Int32)).bind fun σ7 =>
    F_X6_forget_32 1000 σ7 r0 x1 v5 (0 : Int32)
def F_X6_guest  (σ : ah_S) (r0 : Option Nat) (x1 : Int32) (x2 : Int32) : Option (Int32 × ah_S) :=
  ah_b2 (F_X6_in σ x1 (0 : Int32) (9 : Int32)) fun v1 σ2 =>
  if v1 = 0 then
    some ((-1 : Int32), σ2)
  else
    ah_b2 (F_X6_in σ2 x2 (0 : Int32) (50 : Int32)) fun v3 σ4 =>
    if v3 = 0 then
      some ((-1 : Int32), σ4)
    else
      (ah_gI σ4 603 r0).bind fun v5 =>
      if v5 = (7 : Int32) then
        some ((-3 : Int32), σ4)
      else
        (ah_is σ4 7 r0).bind fun u6 =>
        ah_b2 (F_X6_addGuest σ4 r0 x1 x2 (0 : Int32)) fun v7 σ8 =>
        some (v7, σ8)
def F_X6_guests_58  : Nat → ah_S → Option Nat → Int32 → Int32 → Int32 → Int32 → Option (Int32 × ah_S)
  | 0, _, _, _, _, _, _ => none
  | n + 1, σ, r0, x1, x2, x3, x4 =>
    if x3 ≤ x4 then
      some (x3, σ)
    else
      if (lg_cmp ((x2.toInt64) + (((3 : Int32) * x4).toInt64)) (0 : Int64)) < 0 then
        some (x4, σ)
      else
        (ah_gR σ 657 r0).bind fun v1 =>
        (ah_lA σ 101 v1 x1).bind fun v2 =>
        if 0 ≤ (lg_cmp (((x2.toInt64) + (((3 : Int32) * x4).toInt64)) + (2 : Int64)) (v2.toInt64)) then
          some (x4, σ)
        else
          (ah_gI σ 603 r0).bind fun v3 =>
          if v3 = (7 : Int32) then
            some (x4, σ)
          else
            (ah_gR σ 658 r0).bind fun v4 =>
            (ah_lL σ v4 (((60 : Int32) * x1) + (((x2.toInt64) + (((3 : Int32) * x4).toInt64)).toInt32))).bind fun v5 =>
            ah_b2 (F_X6_in σ (v5.toInt32) (0 : Int32) (9 : Int32)) fun v6 σ7 =>
            if v6 = 0 then
              some (x4, σ7)
            else
              (ah_gR σ7 658 r0).bind fun v8 =>
              (ah_lL σ7 v8 ((((60 : Int32) * x1) + (((x2.toInt64) + (((3 : Int32) * x4).toInt64)).toInt32)) + (1 : Int32))).bind fun v9 =>
              ah_b2 (F_X6_in σ7 (v9.toInt32) (0 : Int32) (50 : Int32)) fun v10 σ11 =>
              if v10 = 0 then
                some (x4, σ11)
              else
                (ah_gR σ11 658 r0).bind fun v12 =>
                (ah_lL σ11 v12 ((((60 : Int32) * x1) + (((x2.toInt64) + (((3 : Int32) * x4).toInt64)).toInt32)) + (2 : Int32))).bind fun v13 =>
                ah_b2 (F_X6_in σ11 (v13.toInt32) (0 : Int32) (3 : Int32)) fun v14 σ15 =>
                if v14 = 0 then
                  some (x4, σ15)
                else
                  (ah_gR σ15 658 r0).bind fun v16 =>
                  (ah_lL σ15 v16 (((60 : Int32) * x1) + (((x2.toInt64) + (((3 : Int32) * x4).toInt64)).toInt32))).bind fun v17 =>
                  (ah_gR σ15 658 r0).bind fun v18 =>
                  (ah_lL σ15 v18 ((((60 : Int32) * x1) + (((x2.toInt64) + (((3 : Int32) * x4).toInt64)).toInt32)) + (1 : Int32))).bind fun v19 =>
                  (ah_gR σ15 658 r0).bind fun v20 =>
                  (ah_lL σ15 v20 ((((60 : Int32) * x1) + (((x2.toInt64) + (((3 : Int32) * x4).toInt64)).toInt32)) + (2 : Int32))).bind fun v21 =>
                  (ah_is σ15 7 r0).bind fun u22 =>
                  ah_b2 (F_X6_addGuest σ15 r0 (v17.toInt32) (v19.toInt32) (v21.toInt32)) fun v23 σ24 =>
                  F_X6_guests_58 n σ24 r0 x1 x2 x3 (x4 + (1 : Int32))
def F_X6_guests  (σ : ah_S) (r0 : Option Nat) (x1 : Int32) (x2 : Int32) (x3 : Int32) : Option (Int32 × ah_S) :=
  ah_b2 (F_X6_isShelf σ x1) fun v1 σ2 =>
  if v1 = 0 then
    some ((-1 : Int32), σ2)
  else
    ah_b2 (F_X6_in σ2 x3 (1 : Int32) (7 : Int32)) fun v3 σ4 =>
    if v3 = 0 then
      some ((-1 : Int32), σ4)
    else
      (ah_gR σ4 656 r0).bind fun v5 =>
      (ah_lA σ4 101 v5 x1).bind fun v6 =>
      if v6 = (-1 : Int32) then
        (ah_gR σ4 656 r0).bind fun v7 =>
        (ah_lA σ4 101 v7 x1).bind fun v8 =>
        if v8 = (-1 : Int32) then
          some ((0 : Int32), σ4)
        else
          F_X6_guests_58 1000 σ4 r0 x1 x2 x3 (0 : Int32)
      else
        (ah_gR σ4 656 r0).bind fun v9 =>
        (ah_lA σ4 101 v9 x1).bind fun v10 =>
        if v10 = (-2 : Int32) then
          (ah_gR σ4 656 r0).bind fun v11 =>
          (ah_lA σ4 101 v11 x1).bind fun v12 =>
          if v12 = (-1 : Int32) then
            some ((0 : Int32), σ4)
          else
            F_X6_guests_58 1000 σ4 r0 x1 x2 x3 (0 : Int32)
        else
          some ((-12 : Int32), σ4)
def F_X6_holds60_16  : Nat → ah_S → Option Nat → Int32 → Int32 → Int32 → Int32 → Int32 → Int32 → Int32 → Int32 → Option (Int32 × ah_S)
  | 0, _, _, _, _, _, _, _, _, _, _ => none
  | n + 1, σ, r0, x1, x2, x3, x4, x5, x6, x7, x8 =>
    if (60 : Int32) ≤ x8 then
      (ah_is σ 7 r0).bind fun u1 =>
      (F_X6_layHut σ r0).bind fun σ2 =>
      (ah_z x7).bind fun z3 => some (z3, σ2)
    else
      if x6 = x3 then
        (ah_is σ 7 r0).bind fun u11 =>
        (F_X6_goNight σ r0 x1).bind fun σ12 =>
        (ah_gR σ12 611 r0).bind fun v13 =>
        (ah_lA σ12 101 v13 x2).bind fun v14 =>
        if x4 ≤ v14 then
          F_X6_holds60_16 n σ12 r0 x1 x2 x3 x4 x5 (0 : Int32) x7 (x8 + (1 : Int32))
        else
          F_X6_holds60_16 n σ12 r0 x1 x2 x3 x4 x5 (0 : Int32) (0 : Int32) (x8 + (1 : Int32))
      else
        (ah_is σ 7 r0).bind fun u4 =>
        ah_b2 (F_X6_againAt σ r0 x5) fun v5 σ6 =>
        (ah_is σ6 7 r0).bind fun u7 =>
        (F_X6_goNight σ6 r0 v5).bind fun σ8 =>
        (ah_gR σ8 611 r0).bind fun v9 =>
        (ah_lA σ8 101 v9 x2).bind fun v10 =>
        if x4 ≤ v10 then
          F_X6_holds60_16 n σ8 r0 x1 x2 x3 x4 (x5 + (1 : Int32)) (x6 + (1 : Int32)) x7 (x8 + (1 : Int32))
        else
          F_X6_holds60_16 n σ8 r0 x1 x2 x3 x4 (x5 + (1 : Int32)) (x6 + (1 : Int32)) (0 : Int32) (x8 + (1 : Int32))
def F_X6_holds60  (σ : ah_S) (r0 : Option Nat) (x1 : Int32) (x2 : Int32) (x3 : Int32) (x4 : Int32) : Option (Int32 × ah_S) :=
  (ah_is σ 7 r0).bind fun u1 =>
  (F_X6_keepHut σ r0).bind fun σ2 =>
  F_X6_holds60_16 1000 σ2 r0 x1 x2 x3 x4 (0 : Int32) (0 : Int32) (1 : Int32) (0 : Int32)
def F_X6_image_33  : Nat → ah_S → Option Nat → Int32 → Option (Int32 × ah_S)
  | 0, _, _, _ => none
  | n + 1, σ, r0, x1 =>
    if (4 : Int32) ≤ x1 then
      (ah_gR σ 648 r0).bind fun v1 =>
      (ah_lA σ 101 v1 (0 : Int32)).bind fun v2 =>
      some (v2, σ)
    else
      (ah_gR σ 651 r0).bind fun v3 =>
      (ah_gR σ 648 r0).bind fun v4 =>
      (ah_lA σ 101 v4 x1).bind fun v5 =>
      (ah_wA σ 101 v3 x1 v5).bind fun σ6 =>
      F_X6_image_33 n σ6 r0 (x1 + (1 : Int32))
def F_X6_image_7  : Nat → ah_S → Option Nat → Int32 → Option (Int32 × ah_S)
  | 0, _, _, _ => none
  | n + 1, σ, r0, x1 =>
    if (48 : Int32) ≤ x1 then
      F_X6_image_33 1000 σ r0 (0 : Int32)
    else
      (ah_gR σ 650 r0).bind fun v1 =>
      (ah_gR σ 611 r0).bind fun v2 =>
      (ah_lA σ 101 v2 x1).bind fun v3 =>
      (ah_wA σ 101 v1 x1 v3).bind fun σ4 =>
      F_X6_image_7 n σ4 r0 (x1 + (1 : Int32))
def F_X6_image  (σ : ah_S) (r0 : Option Nat) : Option (Int32 × ah_S) :=
  (ah_pZ σ 649 r0 (1 : Int32)).bind fun σ1 =>
  F_X6_image_7 1000 σ1 r0 (0 : Int32)
def F_X6_init  (σ : ah_S) (r0 : Option Nat) : Option ah_S :=
  (r0).bind fun a1 =>
  (ah_mA σ 101 (4 : Int32)).bind fun σ2 =>
  (ah_wA σ2 101 (some (ah_nx σ)) (0 : Int32) (50 : Int32)).bind fun σ3 =>
  (ah_wA σ3 101 (some (ah_nx σ)) (1 : Int32) (50 : Int32)).bind fun σ4 =>
  (ah_wA σ4 101 (some (ah_nx σ)) (2 : Int32) (50 : Int32)).bind fun σ5 =>
  (ah_wA σ5 101 (some (ah_nx σ)) (3 : Int32) (50 : Int32)).bind fun σ6 =>
  (ah_pR σ6 601 r0 (some (ah_nx σ))).bind fun σ7 =>
  (ah_mA σ7 101 (4 : Int32)).bind fun σ8 =>
  (ah_wA σ8 101 (some (ah_nx σ7)) (0 : Int32) (1 : Int32)).bind fun σ9 =>
  (ah_wA σ9 101 (some (ah_nx σ7)) (1 : Int32) (1 : Int32)).bind fun σ10 =>
  (ah_wA σ10 101 (some (ah_nx σ7)) (2 : Int32) (1 : Int32)).bind fun σ11 =>
  (ah_wA σ11 101 (some (ah_nx σ7)) (3 : Int32) (1 : Int32)).bind fun σ12 =>
  (ah_pR σ12 602 r0 (some (ah_nx σ7))).bind fun σ13 =>
  (ah_mA σ13 101 (28 : Int32)).bind fun σ14 =>
  (ah_pR σ14 604 r0 (some (ah_nx σ13))).bind fun σ15 =>
  (ah_mA σ15 101 (28 : Int32)).bind fun σ16 =>
  (ah_pR σ16 605 r0 (some (ah_nx σ15))).bind fun σ17 =>
  (ah_mA σ17 101 (7 : Int32)).bind fun σ18 =>
  (ah_pR σ18 606 r0 (some (ah_nx σ17))).bind fun σ19 =>
  (ah_mA σ19 101 (7 : Int32)).bind fun σ20 =>
  (ah_pR σ20 607 r0 (some (ah_nx σ19))).bind fun σ21 =>
  (ah_pI σ21 608 r0 (50 : Int32)).bind fun σ22 =>
  (ah_pI σ22 609 r0 (20 : Int32)).bind fun σ23 =>
  (ah_pI σ23 610 r0 (6 : Int32)).bind fun σ24 =>
  (ah_mA σ24 101 (48 : Int32)).bind fun σ25 =>
  (ah_wA σ25 101 (some (ah_nx σ24)) (0 : Int32) (50 : Int32)).bind fun σ26 =>
  (ah_wA σ26 101 (some (ah_nx σ24)) (1 : Int32) (50 : Int32)).bind fun σ27 =>
  (ah_wA σ27 101 (some (ah_nx σ24)) (2 : Int32) (50 : Int32)).bind fun σ28 =>
  (ah_wA σ28 101 (some (ah_nx σ24)) (3 : Int32) (50 : Int32)).bind fun σ29 =>
  (ah_wA σ29 101 (some (ah_nx σ24)) (4 : Int32) (50 : Int32)).bind fun σ30 =>
  (ah_wA σ30 101 (some (ah_nx σ24)) (5 : Int32) (50 : Int32)).bind fun σ31 =>
  (ah_wA σ31 101 (some (ah_nx σ24)) (6 : Int32) (50 : Int32)).bind fun σ32 =>
  (ah_wA σ32 101 (some (ah_nx σ24)) (7 : Int32) (50 : Int32)).bind fun σ33 =>
  (ah_wA σ33 101 (some (ah_nx σ24)) (8 : Int32) (0 : Int32)).bind fun σ34 =>
  (ah_wA σ34 101 (some (ah_nx σ24)) (9 : Int32) (0 : Int32)).bind fun σ35 =>
  (ah_wA σ35 101 (some (ah_nx σ24)) (10 : Int32) (0 : Int32)).bind fun σ36 =>
  (ah_wA σ36 101 (some (ah_nx σ24)) (11 : Int32) (0 : Int32)).bind fun σ37 =>
  (ah_wA σ37 101 (some (ah_nx σ24)) (12 : Int32) (0 : Int32)).bind fun σ38 =>
  (ah_wA σ38 101 (some (ah_nx σ24)) (13 : Int32) (0 : Int32)).bind fun σ39 =>
  (ah_wA σ39 101 (some (ah_nx σ24)) (14 : Int32) (0 : Int32)).bind fun σ40 =>
  (ah_wA σ40 101 (some (ah_nx σ24)) (15 : Int32) (0 : Int32)).bind fun σ41 =>
  (ah_wA σ41 101 (some (ah_nx σ24)) (16 : Int32) (0 : Int32)).bind fun σ42 =>
  (ah_wA σ42 101 (some (ah_nx σ24)) (17 : Int32) (0 : Int32)).bind fun σ43 =>
  (ah_wA σ43 101 (some (ah_nx σ24)) (18 : Int32) (0 : Int32)).bind fun σ44 =>
  (ah_wA σ44 101 (some (ah_nx σ24)) (19 : Int32) (0 : Int32)).bind fun σ45 =>
  (ah_wA σ45 101 (some (ah_nx σ24)) (20 : Int32) (0 : Int32)).bind fun σ46 =>
  (ah_wA σ46 101 (some (ah_nx σ24)) (21 : Int32) (0 : Int32)).bind fun σ47 =>
  (ah_wA σ47 101 (some (ah_nx σ24)) (22 : Int32) (0 : Int32)).bind fun σ48 =>
  (ah_wA σ48 101 (some (ah_nx σ24)) (23 : Int32) (0 : Int32)).bind fun σ49 =>
  (ah_wA σ49 101 (some (ah_nx σ24)) (24 : Int32) (0 : Int32)).bind fun σ50 =>
  (ah_wA σ50 101 (some (ah_nx σ24)) (25 : Int32) (0 : Int32)).bind fun σ51 =>
  (ah_wA σ51 101 (some (ah_nx σ24)) (26 : Int32) (0 : Int32)).bind fun σ52 =>
  (ah_wA σ52 101 (some (ah_nx σ24)) (27 : Int32) (0 : Int32)).bind fun σ53 =>
  (ah_wA σ53 101 (some (ah_nx σ24)) (28 : Int32) (0 : Int32)).bind fun σ54 =>
  (ah_wA σ54 101 (some (ah_nx σ24)) (29 : Int32) (0 : Int32)).bind fun σ55 =>
  (ah_wA σ55 101 (some (ah_nx σ24)) (30 : Int32) (0 : Int32)).bind fun σ56 =>
  (ah_wA σ56 101 (some (ah_nx σ24)) (31 : Int32) (0 : Int32)).bind fun σ57 =>
  (ah_wA σ57 101 (some (ah_nx σ24)) (32 : Int32) (0 : Int32)).bind fun σ58 =>
  (ah_wA σ58 101 (some (ah_nx σ24)) (33 : Int32) (0 : Int32)).bind fun σ59 =>
  (ah_wA σ59 101 (some (ah_nx σ24)) (34 : Int32) (0 : Int32)).bind fun σ60 =>
  (ah_wA σ60 101 (some (ah_nx σ24)) (35 : Int32) (0 : Int32)).bind fun σ61 =>
  (ah_wA σ61 101 (some (ah_nx σ24)) (36 : Int32) (0 : Int32)).bind fun σ62 =>
  (ah_wA σ62 101 (some (ah_nx σ24)) (37 : Int32) (0 : Int32)).bind fun σ63 =>
  (ah_wA σ63 101 (some (ah_nx σ24)) (38 : Int32) (0 : Int32)).bind fun σ64 =>
  (ah_wA σ64 101 (some (ah_nx σ24)) (39 : Int32) (0 : Int32)).bind fun σ65 =>
  (ah_wA σ65 101 (some (ah_nx σ24)) (40 : Int32) (0 : Int32)).bind fun σ66 =>
  (ah_wA σ66 101 (some (ah_nx σ24)) (41 : Int32) (0 : Int32)).bind fun σ67 =>
  (ah_wA σ67 101 (some (ah_nx σ24)) (42 : Int32) (0 : Int32)).bind fun σ68 =>
  (ah_wA σ68 101 (some (ah_nx σ24)) (43 : Int32) (0 : Int32)).bind fun σ69 =>
  (ah_wA σ69 101 (some (ah_nx σ24)) (44 : Int32) (0 : Int32)).bind fun σ70 =>
  (ah_wA σ70 101 (some (ah_nx σ24)) (45 : Int32) (0 : Int32)).bind fun σ71 =>
  (ah_wA σ71 101 (some (ah_nx σ24)) (46 : Int32) (0 : Int32)).bind fun σ72 =>
  (ah_wA σ72 101 (some (ah_nx σ24)) (47 : Int32) (0 : Int32)).bind fun σ73 =>
  (ah_pR σ73 611 r0 (some (ah_nx σ24))).bind fun σ74 =>
  (ah_mA σ74 101 (40 : Int32)).bind fun σ75 =>
  (ah_pR σ75 614 r0 (some (ah_nx σ74))).bind fun σ76 =>
  (ah_mA σ76 101 (40 : Int32)).bind fun σ77 =>
  (ah_pR σ77 615 r0 (some (ah_nx σ76))).bind fun σ78 =>
  (ah_mA σ78 101 (40 : Int32)).bind fun σ79 =>
  (ah_pR σ79 616 r0 (some (ah_nx σ78))).bind fun σ80 =>
  (ah_mA σ80 101 (40 : Int32)).bind fun σ81 =>
  (ah_pR σ81 617 r0 (some (ah_nx σ80))).bind fun σ82 =>
  (ah_mA σ82 102 (120 : Int32)).bind fun σ83 =>
  (ah_pR σ83 618 r0 (some (ah_nx σ82))).bind fun σ84 =>
  (ah_mA σ84 102 (260 : Int32)).bind fun σ85 =>
  (ah_pR σ85 624 r0 (some (ah_nx σ84))).bind fun σ86 =>
  (ah_mA σ86 101 (260 : Int32)).bind fun σ87 =>
  (ah_pR σ87 625 r0 (some (ah_nx σ86))).bind fun σ88 =>
  (ah_mA σ88 101 (2 : Int32)).bind fun σ89 =>
  (ah_pR σ89 626 r0 (some (ah_nx σ88))).bind fun σ90 =>
  (ah_mA σ90 103 (122 : Int32)).bind fun σ91 =>
  (ah_pR σ91 627 r0 (some (ah_nx σ90))).bind fun σ92 =>
  (ah_mA σ92 103 (122 : Int32)).bind fun σ93 =>
  (ah_pR σ93 628 r0 (some (ah_nx σ92))).bind fun σ94 =>
  (ah_mA σ94 101 (6 : Int32)).bind fun σ95 =>
  (ah_pR σ95 629 r0 (some (ah_nx σ94))).bind fun σ96 =>
  (ah_mA σ96 101 (130 : Int32)).bind fun σ97 =>
  (ah_pR σ97 630 r0 (some (ah_nx σ96))).bind fun σ98 =>
  (ah_mA σ98 101 (4 : Int32)).bind fun σ99 =>
  (ah_pR σ99 632 r0 (some (ah_nx σ98))).bind fun σ100 =>
  (ah_mA σ100 101 (4 : Int32)).bind fun σ101 =>
  (ah_pR σ101 633 r0 (some (ah_nx σ100))).bind fun σ102 =>
  (ah_mA σ102 101 (48 : Int32)).bind fun σ103 =>
  (ah_pR σ103 634 r0 (some (ah_nx σ102))).bind fun σ104 =>
  (ah_mA σ104 101 (30 : Int32)).bind fun σ105 =>
  (ah_pR σ105 635 r0 (some (ah_nx σ104))).bind fun σ106 =>
  (ah_mA σ106 101 (9648 : Int32)).bind fun σ107 =>
  (ah_pR σ107 637 r0 (some (ah_nx σ106))).bind fun σ108 =>
  (ah_mA σ108 101 (30 : Int32)).bind fun σ109 =>
  (ah_pR σ109 638 r0 (some (ah_nx σ108))).bind fun σ110 =>
  (ah_mA σ110 101 (5 : Int32)).bind fun σ111 =>
  (ah_pR σ111 639 r0 (some (ah_nx σ110))).bind fun σ112 =>
  (ah_mA σ112 101 (5 : Int32)).bind fun σ113 =>
  (ah_pR σ113 640 r0 (some (ah_nx σ112))).bind fun σ114 =>
  (ah_mA σ114 101 (4 : Int32)).bind fun σ115 =>
  (ah_pR σ115 642 r0 (some (ah_nx σ114))).bind fun σ116 =>
  (ah_mA σ116 101 (60 : Int32)).bind fun σ117 =>
  (ah_pR σ117 643 r0 (some (ah_nx σ116))).bind fun σ118 =>
  (ah_mA σ118 101 (336 : Int32)).bind fun σ119 =>
  (ah_pR σ119 645 r0 (some (ah_nx σ118))).bind fun σ120 =>
  (ah_mA σ120 101 (4 : Int32)).bind fun σ121 =>
  (ah_wA σ121 101 (some (ah_nx σ120)) (0 : Int32) (0 : Int32)).bind fun σ122 =>
  (ah_wA σ122 101 (some (ah_nx σ120)) (1 : Int32) (0 : Int32)).bind fun σ123 =>
  (ah_wA σ123 101 (some (ah_nx σ120)) (2 : Int32) (0 : Int32)).bind fun σ124 =>
  (ah_wA σ124 101 (some (ah_nx σ120)) (3 : Int32) (-2 : Int32)).bind fun σ125 =>
  (ah_pR σ125 648 r0 (some (ah_nx σ120))).bind fun σ126 =>
  (ah_mA σ126 101 (48 : Int32)).bind fun σ127 =>
  (ah_pR σ127 650 r0 (some (ah_nx σ126))).bind fun σ128 =>
  (ah_mA σ128 101 (4 : Int32)).bind fun σ129 =>
  (ah_pR σ129 651 r0 (some (ah_nx σ128))).bind fun σ130 =>
  (ah_mA σ130 101 (50 : Int32)).bind fun σ131 =>
  (ah_pR σ131 653 r0 (some (ah_nx σ130))).bind fun σ132 =>
  (ah_mA σ132 101 (24 : Int32)).bind fun σ133 =>
  (ah_pR σ133 655 r0 (some (ah_nx σ132))).bind fun σ134 =>
  (ah_mA σ134 101 (6 : Int32)).bind fun σ135 =>
  (ah_wA σ135 101 (some (ah_nx σ134)) (0 : Int32) (-1 : Int32)).bind fun σ136 =>
  (ah_wA σ136 101 (some (ah_nx σ134)) (1 : Int32) (-1 : Int32)).bind fun σ137 =>
  (ah_wA σ137 101 (some (ah_nx σ134)) (2 : Int32) (-1 : Int32)).bind fun σ138 =>
  (ah_wA σ138 101 (some (ah_nx σ134)) (3 : Int32) (-1 : Int32)).bind fun σ139 =>
  (ah_wA σ139 101 (some (ah_nx σ134)) (4 : Int32) (-1 : Int32)).bind fun σ140 =>
  (ah_wA σ140 101 (some (ah_nx σ134)) (5 : Int32) (-1 : Int32)).bind fun σ141 =>
  (ah_pR σ141 656 r0 (some (ah_nx σ134))).bind fun σ142 =>
  (ah_mA σ142 101 (6 : Int32)).bind fun σ143 =>
  (ah_pR σ143 657 r0 (some (ah_nx σ142))).bind fun σ144 =>
  (ah_mA σ144 104 (360 : Int32)).bind fun σ145 =>
  (ah_pR σ145 658 r0 (some (ah_nx σ144))).bind fun σ146 =>
  (ah_mA σ146 104 (60 : Int32)).bind fun σ147 =>
  (ah_pR σ147 659 r0 (some (ah_nx σ146))).bind fun σ148 =>
  some σ148
def F_X6_isAs_23 (k2 : ah_S → Option Nat → Int32 → Int32 → Option (Int32 × ah_S)) (σ : ah_S) (r0 : Option Nat) (x1 : Int32) (x2 : Int32) : Option (Int32 × ah_S) :=
  (ah_gR σ 637 r0).bind fun v1 =>
  (ah_lA σ 101 v1 (((48 : Int32) * x1) + x2)).bind fun v2 =>
  (ah_gR σ 611 r0).bind fun v3 =>
  (ah_lA σ 101 v3 x2).bind fun v4 =>
  if v2 = v4 then
    k2 σ r0 x1 (x2 + (1 : Int32))
  else
    some ((0 : Int32), σ)
def F_X6_isAs_2  : Nat → ah_S → Option Nat → Int32 → Int32 → Option (Int32 × ah_S)
  | 0, _, _, _, _ => none
  | n + 1, σ, r0, x1, x2 =>
    if (48 : Int32) ≤ x2 then
      some ((1 : Int32), σ)
    else
      if x2 < (8 : Int32) then
        F_X6_isAs_23 (F_X6_isAs_2 n) σ r0 x1 x2
      else
        if (12 : Int32) < x2 then
          F_X6_isAs_23 (F_X6_isAs_2 n) σ r0 x1 x2
        else
          F_X6_isAs_2 n σ r0 x1 (x2 + (1 : Int32))
def F_X6_isAs  (σ : ah_S) (r0 : Option Nat) (x1 : Int32) : Option (Int32 × ah_S) :=
  F_X6_isAs_2 1000 σ r0 x1 (0 : Int32)
def F_X6_isOne  (σ : ah_S) (r0 : Option Nat) (x1 : Int32) (x2 : Int32) : Option (Int32 × ah_S) :=
  ah_b2 (F_X6_in σ x2 (0 : Int32) (1 : Int32)) fun v1 σ2 =>
  if v1 = 0 then
    ah_b2 (F_X6_in σ2 x2 (2 : Int32) (3 : Int32)) fun v3 σ4 =>
    if v3 = 0 then
      ah_b2 (F_X6_in σ4 x2 (4 : Int32) (5 : Int32)) fun v5 σ6 =>
      if v5 = 0 then
        ah_b2 (F_X6_in σ6 x2 (6 : Int32) (8 : Int32)) fun v7 σ8 =>
        if v7 = 0 then
          some ((0 : Int32), σ8)
        else
          if x1 = 0 then
            some ((1 : Int32), σ8)
          else
            some ((0 : Int32), σ8)
      else
        (ah_is σ6 7 r0).bind fun u9 =>
        ah_b2 (F_X6_isGuest σ6 r0 x1) fun v10 σ11 =>
        (ah_z v10).bind fun z12 => some (z12, σ11)
    else
      (ah_is σ4 7 r0).bind fun u13 =>
      ah_b2 (F_X6_areTwo σ4 r0 x1) fun v14 σ15 =>
      (ah_z v14).bind fun z16 => some (z16, σ15)
  else
    ah_b2 (F_X6_isThing σ2 x1) fun v17 σ18 =>
    (ah_z v17).bind fun z19 => some (z19, σ18)
def F_X6_laySeen_12  : Nat → ah_S → Option Nat → Int32 → Int32 → Option ah_S
  | 0, _, _, _, _ => none
  | n + 1, σ, r0, x1, x2 =>
    (ah_gI σ 644 r0).bind fun v1 =>
    if v1 ≤ x2 then
      some σ
    else
      (ah_gR σ 643 r0).bind fun v2 =>
      (ah_gR σ 658 r0).bind fun v3 =>
      (ah_lL σ v3 (((60 : Int32) * x1) + x2)).bind fun v4 =>
      (ah_wA σ 101 v2 x2 (v4.toInt32)).bind fun σ5 =>
      F_X6_laySeen_12 n σ5 r0 x1 (x2 + (1 : Int32))
def F_X6_laySeen  (σ : ah_S) (r0 : Option Nat) (x1 : Int32) : Option ah_S :=
  (ah_gR σ 657 r0).bind fun v1 =>
  (ah_lA σ 101 v1 x1).bind fun v2 =>
  (ah_pI σ 644 r0 v2).bind fun σ3 =>
  F_X6_laySeen_12 1000 σ3 r0 x1 (0 : Int32)
def F_X6_judge_113  : Nat → ah_S → Option Nat → Int32 → Int32 → Int32 → Option (Int32 × ah_S)
  | 0, _, _, _, _, _ => none
  | n + 1, σ, r0, x2, x3, x4 =>
    (ah_gI σ 636 r0).bind fun v1 =>
    if v1 ≤ x4 then
      (ah_is σ 7 r0).bind fun u2 =>
      (F_X6_layHut σ r0).bind fun σ3 =>
      some (x3, σ3)
    else
      (ah_gI σ 644 r0).bind fun v4 =>
      if v4 ≤ x4 then
        (ah_is σ 7 r0).bind fun u5 =>
        (F_X6_layHut σ r0).bind fun σ6 =>
        some (x3, σ6)
      else
        if 0 ≤ x3 then
          (ah_is σ 7 r0).bind fun u7 =>
          (F_X6_layHut σ r0).bind fun σ8 =>
          some (x3, σ8)
        else
          (ah_gR σ 635 r0).bind fun v9 =>
          (ah_lA σ 101 v9 x4).bind fun v10 =>
          (ah_is σ 7 r0).bind fun u11 =>
          (F_X6_goNight σ r0 v10).bind fun σ12 =>
          (ah_gR σ12 643 r0).bind fun v13 =>
          (ah_lA σ12 101 v13 x4).bind fun v14 =>
          if v14 = (-1 : Int32) then
            F_X6_judge_113 n σ12 r0 x2 x3 (x4 + (1 : Int32))
          else
            (ah_gR σ12 643 r0).bind fun v15 =>
            (ah_lA σ12 101 v15 x4).bind fun v16 =>
            (ah_gR σ12 611 r0).bind fun v17 =>
            (ah_lA σ12 101 v17 x2).bind fun v18 =>
            if v16 = v18 then
              F_X6_judge_113 n σ12 r0 x2 x3 (x4 + (1 : Int32))
            else
              F_X6_judge_113 n σ12 r0 x2 x4 (x4 + (1 : Int32))
def F_X6_judge  (σ : ah_S) (r0 : Option Nat) (x1 : Int32) (x2 : Int32) : Option (Int32 × ah_S) :=
  if x1 < 0 then
    some ((-1 : Int32), σ)
  else
    (ah_di x1 (10 : Int32)).bind fun q1 =>
    ah_b2 (F_X6_isShelf σ q1) fun v2 σ3 =>
    if v2 = 0 then
      some ((-1 : Int32), σ3)
    else
      (ah_re x1 (10 : Int32)).bind fun q4 =>
      ah_b2 (F_X6_isShelf σ3 q4) fun v5 σ6 =>
      if v5 = 0 then
        some ((-1 : Int32), σ6)
      else
        ah_b2 (F_X6_isThing σ6 x2) fun v7 σ8 =>
        if v7 = 0 then
          some ((-1 : Int32), σ8)
        else
          (ah_gR σ8 656 r0).bind fun v9 =>
          (ah_di x1 (10 : Int32)).bind fun q10 =>
          (ah_lA σ8 101 v9 q10).bind fun v11 =>
          if v11 = (-1 : Int32) then
            some ((-11 : Int32), σ8)
          else
            (ah_gR σ8 656 r0).bind fun v12 =>
            (ah_re x1 (10 : Int32)).bind fun q13 =>
            (ah_lA σ8 101 v12 q13).bind fun v14 =>
            if v14 = (-1 : Int32) then
              some ((-11 : Int32), σ8)
            else
              (ah_di x1 (10 : Int32)).bind fun q15 =>
              (ah_is σ8 7 r0).bind fun u16 =>
              ah_b2 (F_X6_rowFault σ8 r0 q15) fun v17 σ18 =>
              if v17 < 0 then
                some ((-12 : Int32), σ18)
              else
                (ah_re x1 (10 : Int32)).bind fun q19 =>
                (ah_is σ18 7 r0).bind fun u20 =>
                ah_b2 (F_X6_rowFault σ18 r0 q19) fun v21 σ22 =>
                if 0 ≤ v21 then
                  (ah_di x1 (10 : Int32)).bind fun q23 =>
                  (ah_is σ22 7 r0).bind fun u24 =>
                  (F_X6_layStays σ22 r0 q23).bind fun σ25 =>
                  (ah_re x1 (10 : Int32)).bind fun q26 =>
                  (ah_is σ25 7 r0).bind fun u27 =>
                  (F_X6_laySeen σ25 r0 q26).bind fun σ28 =>
                  (ah_is σ28 7 r0).bind fun u29 =>
                  (F_X6_keepHut σ28 r0).bind fun σ30 =>
                  F_X6_judge_113 1000 σ30 r0 x2 (-2 : Int32) (0 : Int32)
                else
                  some ((-12 : Int32), σ22)
def F_X6_keep  (σ : ah_S) (r0 : Option Nat) (x1 : Int32) (x2 : Int32) : Option (Int32 × ah_S) :=
  ah_b2 (F_X6_isShelf σ x1) fun v1 σ2 =>
  if v1 = 0 then
    some ((-1 : Int32), σ2)
  else
    if x2 = (-1 : Int32) then
      (ah_gR σ2 656 r0).bind fun v3 =>
      (ah_wA σ2 101 v3 x1 x2).bind fun σ4 =>
      some ((1 : Int32), σ4)
    else
      (ah_is σ2 7 r0).bind fun u5 =>
      ah_b2 (F_X6_isBody σ2 r0 x2) fun v6 σ7 =>
      if v6 = 0 then
        some ((-1 : Int32), σ7)
      else
        (ah_gR σ7 656 r0).bind fun v8 =>
        (ah_wA σ7 101 v8 x1 x2).bind fun σ9 =>
        some ((1 : Int32), σ9)
def F_X6_keepStays_2  : Nat → ah_S → Option Nat → Int32 → Option ah_S
  | 0, _, _, _ => none
  | n + 1, σ, r0, x1 =>
    (ah_gI σ 636 r0).bind fun v1 =>
    if v1 ≤ x1 then
      some σ
    else
      (ah_gR σ 638 r0).bind fun v2 =>
      (ah_gR σ 635 r0).bind fun v3 =>
      (ah_lA σ 101 v3 x1).bind fun v4 =>
      (ah_wA σ 101 v2 x1 v4).bind fun σ5 =>
      F_X6_keepStays_2 n σ5 r0 (x1 + (1 : Int32))
def F_X6_keepStays  (σ : ah_S) (r0 : Option Nat) : Option ah_S :=
  F_X6_keepStays_2 1000 σ r0 (0 : Int32)
def F_X6_led  (σ : ah_S) (r0 : Option Nat) (x1 : Int32) : Option (Int32 × ah_S) :=
  ah_b2 (F_X6_in σ x1 (0 : Int32) (3 : Int32)) fun v1 σ2 =>
  if v1 = 0 then
    some ((-1 : Int32), σ2)
  else
    (ah_gR σ2 648 r0).bind fun v3 =>
    (ah_lA σ2 101 v3 x1).bind fun v4 =>
    some (v4, σ2)
def F_X6_level_56  : Nat → ah_S → Option Nat → Int32 → Int32 → Int32 → Option (Int32 × ah_S)
  | 0, _, _, _, _, _ => none
  | n + 1, σ, r0, x2, x3, x4 =>
    if x3 ≤ x4 then
      (ah_gR σ 611 r0).bind fun v1 =>
      (ah_lA σ 101 v1 x2).bind fun v2 =>
      (ah_is σ 7 r0).bind fun u3 =>
      (F_X6_layHut σ r0).bind fun σ4 =>
      some (v2, σ4)
    else
      (ah_gR σ 635 r0).bind fun v5 =>
      (ah_lA σ 101 v5 x4).bind fun v6 =>
      (ah_is σ 7 r0).bind fun u7 =>
      (F_X6_goNight σ r0 v6).bind fun σ8 =>
      F_X6_level_56 n σ8 r0 x2 x3 (x4 + (1 : Int32))
def F_X6_level  (σ : ah_S) (r0 : Option Nat) (x1 : Int32) (x2 : Int32) (x3 : Int32) : Option (Int32 × ah_S) :=
  ah_b2 (F_X6_isShelf σ x1) fun v1 σ2 =>
  if v1 = 0 then
    some ((-1 : Int32), σ2)
  else
    ah_b2 (F_X6_isThing σ2 x2) fun v3 σ4 =>
    if v3 = 0 then
      some ((-1 : Int32), σ4)
    else
      if 0 ≤ x3 then
        (ah_is σ4 7 r0).bind fun u5 =>
        ah_b2 (F_X6_rowFault σ4 r0 x1) fun v6 σ7 =>
        if 0 ≤ v6 then
          (ah_is σ7 7 r0).bind fun u8 =>
          (F_X6_layStays σ7 r0 x1).bind fun σ9 =>
          (ah_gI σ9 636 r0).bind fun v10 =>
          if x3 ≤ v10 then
            (ah_is σ9 7 r0).bind fun u11 =>
            (F_X6_keepHut σ9 r0).bind fun σ12 =>
            F_X6_level_56 1000 σ12 r0 x2 x3 (0 : Int32)
          else
            some ((-1 : Int32), σ9)
        else
          (ah_is σ7 7 r0).bind fun u13 =>
          ah_b2 (F_X6_rowFault σ7 r0 x1) fun v14 σ15 =>
          some (v14, σ15)
      else
        some ((-1 : Int32), σ4)
def F_X6_lossOf_8  : Nat → ah_S → Option Nat → Int32 → Int32 → Option (Int32 × ah_S)
  | 0, _, _, _, _ => none
  | n + 1, σ, r0, x1, x2 =>
    (ah_gI σ 636 r0).bind fun v1 =>
    if v1 ≤ x2 then
      (ah_is σ 7 r0).bind fun u2 =>
      (F_X6_layHut σ r0).bind fun σ3 =>
      some (x1, σ3)
    else
      (ah_gR σ 635 r0).bind fun v4 =>
      (ah_lA σ 101 v4 x2).bind fun v5 =>
      (ah_is σ 7 r0).bind fun u6 =>
      (F_X6_goNight σ r0 v5).bind fun σ7 =>
      (ah_is σ7 7 r0).bind fun u8 =>
      ah_b2 (F_X6_lossNow σ7 r0) fun v9 σ10 =>
      F_X6_lossOf_8 n σ10 r0 (x1 + v9) (x2 + (1 : Int32))
def F_X6_lossOf  (σ : ah_S) (r0 : Option Nat) : Option (Int32 × ah_S) :=
  (ah_is σ 7 r0).bind fun u1 =>
  (F_X6_keepHut σ r0).bind fun σ2 =>
  F_X6_lossOf_8 1000 σ2 r0 (0 : Int32) (0 : Int32)
def F_X6_loss  (σ : ah_S) (r0 : Option Nat) (x1 : Int32) : Option (Int32 × ah_S) :=
  ah_b2 (F_X6_isShelf σ x1) fun v1 σ2 =>
  if v1 = 0 then
    some ((-1 : Int32), σ2)
  else
    (ah_is σ2 7 r0).bind fun u3 =>
    ah_b2 (F_X6_rowFault σ2 r0 x1) fun v4 σ5 =>
    if 0 ≤ v4 then
      (ah_is σ5 7 r0).bind fun u6 =>
      (F_X6_layStays σ5 r0 x1).bind fun σ7 =>
      (ah_is σ7 7 r0).bind fun u8 =>
      ah_b2 (F_X6_lossOf σ7 r0) fun v9 σ10 =>
      some (v9, σ10)
    else
      (ah_is σ5 7 r0).bind fun u11 =>
      ah_b2 (F_X6_rowFault σ5 r0 x1) fun v12 σ13 =>
      some (v12, σ13)
def F_X6_lowest_61  : Nat → ah_S → Option Nat → Int32 → Int32 → Int32 → Option (Int32 × ah_S)
  | 0, _, _, _, _, _ => none
  | n + 1, σ, r0, x2, x3, x4 =>
    (ah_gI σ 636 r0).bind fun v1 =>
    if v1 ≤ x4 then
      (ah_is σ 7 r0).bind fun u2 =>
      (F_X6_layHut σ r0).bind fun σ3 =>
      some (x3, σ3)
    else
      (ah_gR σ 635 r0).bind fun v4 =>
      (ah_lA σ 101 v4 x4).bind fun v5 =>
      (ah_is σ 7 r0).bind fun u6 =>
      (F_X6_goNight σ r0 v5).bind fun σ7 =>
      (ah_gR σ7 611 r0).bind fun v8 =>
      (ah_lA σ7 101 v8 x2).bind fun v9 =>
      if x3 ≤ v9 then
        F_X6_lowest_61 n σ7 r0 x2 x3 (x4 + (1 : Int32))
      else
        (ah_gR σ7 611 r0).bind fun v10 =>
        (ah_lA σ7 101 v10 x2).bind fun v11 =>
        F_X6_lowest_61 n σ7 r0 x2 v11 (x4 + (1 : Int32))
def F_X6_lowest  (σ : ah_S) (r0 : Option Nat) (x1 : Int32) (x2 : Int32) : Option (Int32 × ah_S) :=
  ah_b2 (F_X6_isShelf σ x1) fun v1 σ2 =>
  if v1 = 0 then
    some ((-1 : Int32), σ2)
  else
    ah_b2 (F_X6_isThing σ2 x2) fun v3 σ4 =>
    if v3 = 0 then
      some ((-1 : Int32), σ4)
    else
      (ah_is σ4 7 r0).bind fun u5 =>
      ah_b2 (F_X6_rowFault σ4 r0 x1) fun v6 σ7 =>
      if 0 ≤ v6 then
        (ah_is σ7 7 r0).bind fun u8 =>
        (F_X6_layStays σ7 r0 x1).bind fun σ9 =>
        (ah_is σ9 7 r0).bind fun u10 =>
        (F_X6_keepHut σ9 r0).bind fun σ11 =>
        (ah_gI σ11 636 r0).bind fun v12 =>
        if v12 = 0 then
          (ah_gR σ11 611 r0).bind fun v13 =>
          (ah_lA σ11 101 v13 x2).bind fun v14 =>
          F_X6_lowest_61 1000 σ11 r0 x2 v14 (0 : Int32)
        else
          F_X6_lowest_61 1000 σ11 r0 x2 (99 : Int32) (0 : Int32)
      else
        (ah_is σ7 7 r0).bind fun u15 =>
        ah_b2 (F_X6_rowFault σ7 r0 x1) fun v16 σ17 =>
        some (v16, σ17)
def F_X6_mayBe  (σ : ah_S) (x0 : Int32) (x1 : Int32) : Option (Int32 × ah_S) :=
  if x0 = (0 : Int32) then
    ah_b2 (F_X6_in σ x1 (0 : Int32) (99 : Int32)) fun v1 σ2 =>
    (ah_z v1).bind fun z3 => some (z3, σ2)
  else
  if x0 = (1 : Int32) then
    ah_b2 (F_X6_in σ x1 (0 : Int32) (9 : Int32)) fun v4 σ5 =>
    (ah_z v4).bind fun z6 => some (z6, σ5)
  else
  if x0 = (2 : Int32) then
    ah_b2 (F_X6_in σ x1 (0 : Int32) (9 : Int32)) fun v7 σ8 =>
    (ah_z v7).bind fun z9 => some (z9, σ8)
  else
  if x0 = (3 : Int32) then
    ah_b2 (F_X6_in σ x1 (0 : Int32) (20 : Int32)) fun v10 σ11 =>
    (ah_z v10).bind fun z12 => some (z12, σ11)
  else
  if x0 = (4 : Int32) then
    ah_b2 (F_X6_in σ x1 (0 : Int32) (50 : Int32)) fun v13 σ14 =>
    (ah_z v13).bind fun z15 => some (z15, σ14)
  else
  if x0 = (5 : Int32) then
    ah_b2 (F_X6_in σ x1 (0 : Int32) (3 : Int32)) fun v16 σ17 =>
    (ah_z v16).bind fun z18 => some (z18, σ17)
  else
  if x0 = (6 : Int32) then
    ah_b2 (F_X6_in σ x1 (0 : Int32) (50 : Int32)) fun v19 σ20 =>
    (ah_z v19).bind fun z21 => some (z21, σ20)
  else
  if x0 = (7 : Int32) then
    ah_b2 (F_X6_in σ x1 (0 : Int32) (999 : Int32)) fun v22 σ23 =>
    (ah_z v22).bind fun z24 => some (z24, σ23)
  else
  ah_b2 (F_X6_in σ x1 (0 : Int32) (12 : Int32)) fun v25 σ26 =>
  (ah_z v25).bind fun z27 => some (z27, σ26)
def F_X6_mend  (σ : ah_S) (r0 : Option Nat) (x1 : Int32) (x2 : Int32) (x3 : Int32) : Option (Int32 × ah_S) :=
  (ah_is σ 7 r0).bind fun u1 =>
  ah_b2 (F_X6_isOne σ r0 x1 x2) fun v2 σ3 =>
  if v2 = 0 then
    some ((-1 : Int32), σ3)
  else
    ah_b2 (F_X6_mayBe σ3 x2 x3) fun v4 σ5 =>
    if v4 = 0 then
      some ((-1 : Int32), σ5)
    else
      (ah_is σ5 7 r0).bind fun u6 =>
      ah_b2 (F_X6_changes σ5 r0 x2 x1 x3) fun v7 σ8 =>
      some (v7, σ8)
def F_X6_nameOf  (σ : ah_S) (x0 : Int32) : Option (Int32 × ah_S) :=
  if x0 = (98 : Int32) then
    some ((3 : Int32), σ)
  else
  if x0 = (99 : Int32) then
    some ((-1 : Int32), σ)
  else
  if x0 = (100 : Int32) then
    some ((-1 : Int32), σ)
  else
  if x0 = (101 : Int32) then
    some ((-1 : Int32), σ)
  else
  if x0 = (102 : Int32) then
    some ((0 : Int32), σ)
  else
  if x0 = (103 : Int32) then
    some ((-1 : Int32), σ)
  else
  if x0 = (104 : Int32) then
    some ((-1 : Int32), σ)
  else
  if x0 = (105 : Int32) then
    some ((-1 : Int32), σ)
  else
  if x0 = (106 : Int32) then
    some ((-1 : Int32), σ)
  else
  if x0 = (107 : Int32) then
    some ((5 : Int32), σ)
  else
  if x0 = (108 : Int32) then
    some ((-1 : Int32), σ)
  else
  if x0 = (109 : Int32) then
    some ((-1 : Int32), σ)
  else
  if x0 = (110 : Int32) then
    some ((-1 : Int32), σ)
  else
  if x0 = (111 : Int32) then
    some ((1 : Int32), σ)
  else
  if x0 = (112 : Int32) then
    some ((-1 : Int32), σ)
  else
  if x0 = (113 : Int32) then
    some ((-1 : Int32), σ)
  else
  if x0 = (114 : Int32) then
    some ((-1 : Int32), σ)
  else
  if x0 = (115 : Int32) then
    some ((4 : Int32), σ)
  else
  if x0 = (116 : Int32) then
    some ((2 : Int32), σ)
  else
  some ((-1 : Int32), σ)
def F_X6_night  (σ : ah_S) (r0 : Option Nat) (x1 : Int32) : Option (Int32 × ah_S) :=
  (ah_is σ 7 r0).bind fun u1 =>
  ah_b2 (F_X6_isGuest σ r0 x1) fun v2 σ3 =>
  if v2 = 0 then
    some ((-1 : Int32), σ3)
  else
    (ah_is σ3 7 r0).bind fun u4 =>
    (F_X6_nightOf σ3 r0 x1).bind fun σ5 =>
    (ah_is σ5 7 r0).bind fun u6 =>
    ah_b2 (F_X6_lossNow σ5 r0) fun v7 σ8 =>
    (ah_gR σ8 648 r0).bind fun v9 =>
    (ah_lA σ8 101 v9 (0 : Int32)).bind fun v10 =>
    (ah_wA σ8 101 v9 (0 : Int32) (v10 + (1 : Int32))).bind fun σ11 =>
    (ah_gR σ11 648 r0).bind fun v12 =>
    (ah_lA σ11 101 v12 (1 : Int32)).bind fun v13 =>
    (ah_wA σ11 101 v12 (1 : Int32) (v13 + v7)).bind fun σ14 =>
    (ah_gR σ14 648 r0).bind fun v15 =>
    (ah_lA σ14 101 v15 (2 : Int32)).bind fun v16 =>
    if v7 ≤ v16 then
      some (v7, σ14)
    else
      (ah_gR σ14 648 r0).bind fun v17 =>
      (ah_wA σ14 101 v17 (2 : Int32) v7).bind fun σ18 =>
      (ah_gR σ18 648 r0).bind fun v19 =>
      (ah_wA σ18 101 v19 (3 : Int32) x1).bind fun σ20 =>
      some (v7, σ20)
def F_X6_of  (σ : ah_S) (r0 : Option Nat) (x1 : Int32) (x2 : Int32) : Option (Int32 × ah_S) :=
  ah_b2 (F_X6_in σ x2 (0 : Int32) (8 : Int32)) fun v1 σ2 =>
  if v1 = 0 then
    ah_b2 (F_X6_in σ2 x2 (10 : Int32) (11 : Int32)) fun v3 σ4 =>
    if v3 = 0 then
      if x2 = (12 : Int32) then
        (ah_is σ4 7 r0).bind fun u5 =>
        ah_b2 (F_X6_areTwo σ4 r0 x1) fun v6 σ7 =>
        if v6 = 0 then
          some ((-1 : Int32), σ7)
        else
          (ah_gR σ7 611 r0).bind fun v8 =>
          (ah_di x1 (10 : Int32)).bind fun q9 =>
          (ah_lA σ7 101 v8 ((13 : Int32) + q9)).bind fun v10 =>
          if v10 = 0 then
            some ((-2 : Int32), σ7)
          else
            (ah_gR σ7 611 r0).bind fun v11 =>
            ah_b2 (F_X6_spotAt σ7 x1) fun v12 σ13 =>
            (ah_lA σ13 101 v11 ((20 : Int32) + v12)).bind fun v14 =>
            some (v14, σ13)
      else
        some ((-1 : Int32), σ4)
    else
      ah_b2 (F_X6_isThing σ4 x1) fun v15 σ16 =>
      if v15 = 0 then
        some ((-1 : Int32), σ16)
      else
        (ah_gR σ16 611 r0).bind fun v17 =>
        if x2 = (11 : Int32) then
          (ah_lA σ16 101 v17 (x1 + (4 : Int32))).bind fun v19 =>
          some (v19, σ16)
        else
          (ah_lA σ16 101 v17 (x1 + (0 : Int32))).bind fun v18 =>
          some (v18, σ16)
  else
    (ah_is σ2 7 r0).bind fun u20 =>
    ah_b2 (F_X6_isOne σ2 r0 x1 x2) fun v21 σ22 =>
    if v21 = 0 then
      some ((-1 : Int32), σ22)
    else
      (ah_is σ22 7 r0).bind fun u23 =>
      ah_b2 (F_X6_valueAt σ22 r0 x2 x1) fun v24 σ25 =>
      some (v24, σ25)
def F_X6_often_50  : Nat → ah_S → Option Nat → Int32 → Int32 → Int32 → Option (Int32 × ah_S)
  | 0, _, _, _, _, _ => none
  | n + 1, σ, r0, x2, x3, x4 =>
    if x4 < (1 : Int32) then
      some ((-2 : Int32), σ)
    else
      (ah_di x2 (10 : Int32)).bind fun q1 =>
      (ah_re x2 (10 : Int32)).bind fun q2 =>
      (ah_is σ 7 r0).bind fun u3 =>
      ah_b2 (F_X6_holds60 σ r0 q1 q2 x4 x3) fun v4 σ5 =>
      if v4 = 0 then
        F_X6_often_50 n σ5 r0 x2 x3 (x4 + (-1 : Int32))
      else
        some (x4, σ5)
def F_X6_often  (σ : ah_S) (r0 : Option Nat) (x1 : Int32) (x2 : Int32) (x3 : Int32) : Option (Int32 × ah_S) :=
  ah_b2 (F_X6_isShelf σ x1) fun v1 σ2 =>
  if v1 = 0 then
    some ((-1 : Int32), σ2)
  else
    (ah_is σ2 7 r0).bind fun u3 =>
    ah_b2 (F_X6_areTwo σ2 r0 x2) fun v4 σ5 =>
    if v4 = 0 then
      some ((-1 : Int32), σ5)
    else
      ah_b2 (F_X6_in σ5 x3 (0 : Int32) (99 : Int32)) fun v6 σ7 =>
      if v6 = 0 then
        some ((-1 : Int32), σ7)
      else
        (ah_is σ7 7 r0).bind fun u8 =>
        ah_b2 (F_X6_rowFault σ7 r0 x1) fun v9 σ10 =>
        if 0 ≤ v9 then
          (ah_is σ10 7 r0).bind fun u11 =>
          (F_X6_layStays σ10 r0 x1).bind fun σ12 =>
          F_X6_often_50 1000 σ12 r0 x2 x3 (12 : Int32)
        else
          (ah_is σ10 7 r0).bind fun u13 =>
          ah_b2 (F_X6_rowFault σ10 r0 x1) fun v14 σ15 =>
          some (v14, σ15)
def F_X6_opens  (σ : ah_S) (r0 : Option Nat) : Option (Int32 × ah_S) :=
  (ah_gI σ 622 r0).bind fun v1 =>
  if v1 = (6 : Int32) then
    (ah_is σ 7 r0).bind fun u6 =>
    (F_X6_faulty σ r0).bind fun σ7 =>
    some ((0 : Int32), σ7)
  else
    (ah_gI σ 622 r0).bind fun v2 =>
    (ah_pI σ 622 r0 (v2 + (1 : Int32))).bind fun σ3 =>
    (ah_gI σ3 620 r0).bind fun v4 =>
    (ah_pI σ3 620 r0 (v4 + (1 : Int32))).bind fun σ5 =>
    some ((1 : Int32), σ5)
def F_X6_put  (σ : ah_S) (r0 : Option Nat) (x1 : Int32) (x2 : Int32) (l3 : Int64) : Option (Int32 × ah_S) :=
  (ah_is σ 7 r0).bind fun u1 =>
  ah_b2 (F_X6_whyNoPlace σ r0 x1 x2) fun v2 σ3 =>
  if 0 ≤ v2 then
    (ah_gR σ3 656 r0).bind fun v4 =>
    (ah_lA σ3 101 v4 x1).bind fun v5 =>
    (ah_gR σ3 658 r0).bind fun v6 =>
    if ((-2 : Int32) - v5) = 0 then
      (ah_wL σ3 v6 (((60 : Int32) * x1) + x2) (((l3.toInt32).toInt8.toInt32).toInt64)).bind fun σ12 =>
      some ((1 : Int32), σ12)
    else
      if ((-2 : Int32) - v5) = (1 : Int32) then
        (ah_wL σ3 v6 (((60 : Int32) * x1) + x2) (((l3.toInt32).toInt16.toInt32).toInt64)).bind fun σ11 =>
        some ((1 : Int32), σ11)
      else
        if ((-2 : Int32) - v5) = (2 : Int32) then
          (ah_wL σ3 v6 (((60 : Int32) * x1) + x2) ((l3.toInt32).toInt64)).bind fun σ10 =>
          some ((1 : Int32), σ10)
        else
          if ((-2 : Int32) - v5) = (3 : Int32) then
            (ah_wL σ3 v6 (((60 : Int32) * x1) + x2) l3).bind fun σ9 =>
            some ((1 : Int32), σ9)
          else
            if (lg_cmp l3 (0 : Int64)) = 0 then
              (ah_wL σ3 v6 (((60 : Int32) * x1) + x2) (0 : Int64)).bind fun σ7 =>
              some ((1 : Int32), σ7)
            else
              (ah_wL σ3 v6 (((60 : Int32) * x1) + x2) (1 : Int64)).bind fun σ8 =>
              some ((1 : Int32), σ8)
  else
    some (v2, σ3)
def F_X6_redo  (σ : ah_S) (r0 : Option Nat) : Option (Int32 × ah_S) :=
  (ah_gI σ 613 r0).bind fun v1 =>
  if v1 = 0 then
    some ((-5 : Int32), σ)
  else
    (ah_gR σ 614 r0).bind fun v2 =>
    (ah_gI σ 612 r0).bind fun v3 =>
    (ah_lA σ 101 v2 v3).bind fun v4 =>
    (ah_gR σ 615 r0).bind fun v5 =>
    (ah_gI σ 612 r0).bind fun v6 =>
    (ah_lA σ 101 v5 v6).bind fun v7 =>
    (ah_gR σ 617 r0).bind fun v8 =>
    (ah_gI σ 612 r0).bind fun v9 =>
    (ah_lA σ 101 v8 v9).bind fun v10 =>
    (ah_is σ 7 r0).bind fun u11 =>
    (F_X6_lays σ r0 v4 v7 v10).bind fun σ12 =>
    (ah_gI σ12 612 r0).bind fun v13 =>
    (ah_pI σ12 612 r0 (v13 + (1 : Int32))).bind fun σ14 =>
    (ah_gI σ14 613 r0).bind fun v15 =>
    (ah_pI σ14 613 r0 (v15 - (1 : Int32))).bind fun σ16 =>
    (ah_gI σ16 613 r0).bind fun v17 =>
    some (v17, σ16)
def F_X6_rest_144 (k51 : ah_S → Option Nat → Int32 → Int32 → Int32 → Int32 → Option (Int32 × ah_S)) : Nat → ah_S → Option Nat → Int32 → Int32 → Int32 → Int32 → Int32 → Option (Int32 × ah_S)
  | 0, _, _, _, _, _, _, _ => none
  | n + 1, σ, r0, x2, x3, x4, x5, x6 =>
    (ah_gI σ 636 r0).bind fun v1 =>
    if v1 ≤ x6 then
      k51 σ r0 x2 x3 x4 (x5 + (1 : Int32))
    else
      (ah_gR σ 635 r0).bind fun v2 =>
      (ah_lA σ 101 v2 x6).bind fun v3 =>
      (ah_is σ 7 r0).bind fun u4 =>
      (F_X6_goNight σ r0 v3).bind fun σ5 =>
      F_X6_rest_144 k51 n σ5 r0 x2 x3 x4 x5 (x6 + (1 : Int32))
def F_X6_rest_102 (k51 : ah_S → Option Nat → Int32 → Int32 → Int32 → Int32 → Option (Int32 × ah_S)) : Nat → ah_S → Option Nat → Int32 → Int32 → Int32 → Int32 → Int32 → Option (Int32 × ah_S)
  | 0, _, _, _, _, _, _, _ => none
  | n + 1, σ, r0, x2, x3, x4, x5, x6 =>
    if x5 ≤ x6 then
      F_X6_rest_144 k51 1000 σ r0 x2 x3 x4 x5 (0 : Int32)
    else
      if 0 ≤ x3 then
        F_X6_rest_144 k51 1000 σ r0 x2 x3 x4 x5 (0 : Int32)
      else
        (ah_is σ 7 r0).bind fun u1 =>
        ah_b2 (F_X6_isAs σ r0 x6) fun v2 σ3 =>
        if v2 = 0 then
          F_X6_rest_102 k51 n σ3 r0 x2 x3 x4 x5 (x6 + (1 : Int32))
        else
          F_X6_rest_102 k51 n σ3 r0 x2 x6 (x5 - x6) x5 (x6 + (1 : Int32))
def F_X6_rest_66 (k51 : ah_S → Option Nat → Int32 → Int32 → Int32 → Int32 → Option (Int32 × ah_S)) : Nat → ah_S → Option Nat → Int32 → Int32 → Int32 → Int32 → Int32 → Option (Int32 × ah_S)
  | 0, _, _, _, _, _, _, _ => none
  | n + 1, σ, r0, x2, x3, x4, x5, x6 =>
    if (48 : Int32) ≤ x6 then
      F_X6_rest_102 k51 1000 σ r0 x2 x3 x4 x5 (0 : Int32)
    else
      (ah_gR σ 637 r0).bind fun v1 =>
      (ah_gR σ 611 r0).bind fun v2 =>
      (ah_lA σ 101 v2 x6).bind fun v3 =>
      (ah_wA σ 101 v1 (((48 : Int32) * x5) + x6) v3).bind fun σ4 =>
      F_X6_rest_66 k51 n σ4 r0 x2 x3 x4 x5 (x6 + (1 : Int32))
def F_X6_rest_176  (σ : ah_S) (r0 : Option Nat) (x2 : Int32) (x3 : Int32) (x4 : Int32) : Option (Int32 × ah_S) :=
  (ah_is σ 7 r0).bind fun u1 =>
  (F_X6_layHut σ r0).bind fun σ2 =>
  if 0 ≤ x3 then
    if x2 = 0 then
      some (x3, σ2)
    else
      if x2 = (1 : Int32) then
        some (x4, σ2)
      else
        (ah_gR σ2 637 r0).bind fun v3 =>
        (ah_lA σ2 101 v3 ((((48 : Int32) * x3) + x2) - (2 : Int32))).bind fun v4 =>
        some (v4, σ2)
  else
    some ((-2 : Int32), σ2)
def F_X6_rest_51  : Nat → ah_S → Option Nat → Int32 → Int32 → Int32 → Int32 → Option (Int32 × ah_S)
  | 0, _, _, _, _, _, _ => none
  | n + 1, σ, r0, x2, x3, x4, x5 =>
    if (200 : Int32) < x5 then
      F_X6_rest_176 σ r0 x2 x3 x4
    else
      if 0 ≤ x3 then
        F_X6_rest_176 σ r0 x2 x3 x4
      else
        F_X6_rest_66 (F_X6_rest_51 n) 1000 σ r0 x2 x3 x4 x5 (0 : Int32)
def F_X6_rest  (σ : ah_S) (r0 : Option Nat) (x1 : Int32) (x2 : Int32) : Option (Int32 × ah_S) :=
  ah_b2 (F_X6_isShelf σ x1) fun v1 σ2 =>
  if v1 = 0 then
    some ((-1 : Int32), σ2)
  else
    ah_b2 (F_X6_in σ2 x2 (0 : Int32) (5 : Int32)) fun v3 σ4 =>
    if v3 = 0 then
      some ((-1 : Int32), σ4)
    else
      (ah_is σ4 7 r0).bind fun u5 =>
      ah_b2 (F_X6_rowFault σ4 r0 x1) fun v6 σ7 =>
      if 0 ≤ v6 then
        (ah_is σ7 7 r0).bind fun u8 =>
        (F_X6_layStays σ7 r0 x1).bind fun σ9 =>
        (ah_is σ9 7 r0).bind fun u10 =>
        (F_X6_keepHut σ9 r0).bind fun σ11 =>
        F_X6_rest_51 1000 σ11 r0 x2 (-2 : Int32) (-2 : Int32) (0 : Int32)
      else
        (ah_is σ7 7 r0).bind fun u12 =>
        ah_b2 (F_X6_rowFault σ7 r0 x1) fun v13 σ14 =>
        some (v13, σ14)
def F_X6_row_54  : Nat → ah_S → Option Nat → Int32 → Int32 → Option (Int32 × ah_S)
  | 0, _, _, _, _ => none
  | n + 1, σ, r0, x1, x4 =>
    if (((60 : Int32) * x1) + (60 : Int32)) ≤ x4 then
      some ((1 : Int32), σ)
    else
      (ah_gR σ 658 r0).bind fun v1 =>
      (ah_wL σ v1 x4 (0 : Int64)).bind fun σ2 =>
      F_X6_row_54 n σ2 r0 x1 (x4 + (1 : Int32))
def F_X6_row  (σ : ah_S) (r0 : Option Nat) (x1 : Int32) (x2 : Int32) (x3 : Int32) : Option (Int32 × ah_S) :=
  ah_b2 (F_X6_isShelf σ x1) fun v1 σ2 =>
  if v1 = 0 then
    some ((-1 : Int32), σ2)
  else
    ah_b2 (F_X6_in σ2 x2 (0 : Int32) (4 : Int32)) fun v3 σ4 =>
    if v3 = 0 then
      some ((-1 : Int32), σ4)
    else
      if x3 ≤ (60 : Int32) then
        if 0 ≤ x3 then
          (ah_gR σ4 656 r0).bind fun v5 =>
          (ah_wA σ4 101 v5 x1 ((-2 : Int32) - x2)).bind fun σ6 =>
          (ah_gR σ6 657 r0).bind fun v7 =>
          (ah_wA σ6 101 v7 x1 x3).bind fun σ8 =>
          F_X6_row_54 1000 σ8 r0 x1 ((60 : Int32) * x1)
        else
          some ((-14 : Int32), σ4)
      else
        some ((-1 : Int32), σ4)
def F_X6_set  (σ : ah_S) (r0 : Option Nat) (x1 : Int32) (x2 : Int32) : Option (Int32 × ah_S) :=
  ah_b2 (F_X6_isThing σ x1) fun v1 σ2 =>
  if v1 = 0 then
    some ((-1 : Int32), σ2)
  else
    ah_b2 (F_X6_in σ2 x2 (0 : Int32) (99 : Int32)) fun v3 σ4 =>
    if v3 = 0 then
      some ((-1 : Int32), σ4)
    else
      (ah_gR σ4 611 r0).bind fun v5 =>
      (ah_lA σ4 101 v5 x1).bind fun v6 =>
      (ah_gR σ4 611 r0).bind fun v7 =>
      (ah_wA σ4 101 v7 x1 x2).bind fun σ8 =>
      some (v6, σ8)
def F_X6_shift_150  : Nat → ah_S → Option Nat → Int32 → Int32 → Int32 → Int32 → Option (Int32 × ah_S)
  | 0, _, _, _, _, _, _ => none
  | n + 1, σ, r0, x3, x4, x5, x6 =>
    if x5 ≤ x6 then
      some (x5, σ)
    else
      (ah_gR σ 658 r0).bind fun v1 =>
      (ah_gR σ 659 r0).bind fun v2 =>
      (ah_lL σ v2 x6).bind fun v3 =>
      (ah_wL σ v1 ((((60 : Int32) * x3) + x4) + x6) v3).bind fun σ4 =>
      F_X6_shift_150 n σ4 r0 x3 x4 x5 (x6 + (1 : Int32))
def F_X6_shift_113  : Nat → ah_S → Option Nat → Int32 → Int32 → Int32 → Int32 → Int32 → Int32 → Option (Int32 × ah_S)
  | 0, _, _, _, _, _, _, _, _ => none
  | n + 1, σ, r0, x1, x2, x3, x4, x5, x6 =>
    if x5 ≤ x6 then
      F_X6_shift_150 1000 σ r0 x3 x4 x5 (0 : Int32)
    else
      (ah_gR σ 659 r0).bind fun v1 =>
      (ah_gR σ 658 r0).bind fun v2 =>
      (ah_lL σ v2 ((((60 : Int32) * x1) + x2) + x6)).bind fun v3 =>
      (ah_wL σ v1 x6 v3).bind fun σ4 =>
      F_X6_shift_113 n σ4 r0 x1 x2 x3 x4 x5 (x6 + (1 : Int32))
def F_X6_shift  (σ : ah_S) (r0 : Option Nat) (x1 : Int32) (x2 : Int32) (x3 : Int32) (x4 : Int32) (x5 : Int32) : Option (Int32 × ah_S) :=
  ah_b2 (F_X6_isShelf σ x1) fun v1 σ2 =>
  if v1 = 0 then
    some ((-1 : Int32), σ2)
  else
    ah_b2 (F_X6_isShelf σ2 x3) fun v3 σ4 =>
    if v3 = 0 then
      some ((-1 : Int32), σ4)
    else
      (ah_gR σ4 656 r0).bind fun v5 =>
      (ah_lA σ4 101 v5 x1).bind fun v6 =>
      if v6 = (-1 : Int32) then
        some ((-11 : Int32), σ4)
      else
        (ah_gR σ4 656 r0).bind fun v7 =>
        (ah_lA σ4 101 v7 x3).bind fun v8 =>
        if v8 = (-1 : Int32) then
          some ((-11 : Int32), σ4)
        else
          (ah_gR σ4 656 r0).bind fun v9 =>
          (ah_lA σ4 101 v9 x1).bind fun v10 =>
          if 0 ≤ v10 then
            some ((-12 : Int32), σ4)
          else
            (ah_gR σ4 656 r0).bind fun v11 =>
            (ah_lA σ4 101 v11 x1).bind fun v12 =>
            (ah_gR σ4 656 r0).bind fun v13 =>
            (ah_lA σ4 101 v13 x3).bind fun v14 =>
            if v12 = v14 then
              if x5 < 0 then
                some ((-13 : Int32), σ4)
              else
                if x2 < 0 then
                  some ((-13 : Int32), σ4)
                else
                  if x4 < 0 then
                    some ((-13 : Int32), σ4)
                  else
                    (ah_gR σ4 657 r0).bind fun v15 =>
                    (ah_lA σ4 101 v15 x1).bind fun v16 =>
                    if (v16 - x5) < x2 then
                      some ((-13 : Int32), σ4)
                    else
                      (ah_gR σ4 657 r0).bind fun v17 =>
                      (ah_lA σ4 101 v17 x3).bind fun v18 =>
                      if x4 ≤ (v18 - x5) then
                        F_X6_shift_113 1000 σ4 r0 x1 x2 x3 x4 x5 (0 : Int32)
                      else
                        some ((-13 : Int32), σ4)
            else
              some ((-12 : Int32), σ4)
def F_X6_since_56  : Nat → ah_S → Option Nat → Int32 → Int32 → Int32 → Int32 → Option (Int32 × ah_S)
  | 0, _, _, _, _, _, _ => none
  | n + 1, σ, r0, x2, x3, x4, x5 =>
    (ah_gI σ 636 r0).bind fun v1 =>
    if v1 ≤ x5 then
      (ah_is σ 7 r0).bind fun u2 =>
      (F_X6_layHut σ r0).bind fun σ3 =>
      some (x4, σ3)
    else
      (ah_gR σ 635 r0).bind fun v4 =>
      (ah_lA σ 101 v4 x5).bind fun v5 =>
      (ah_is σ 7 r0).bind fun u6 =>
      (F_X6_goNight σ r0 v5).bind fun σ7 =>
      (ah_is σ7 7 r0).bind fun u8 =>
      ah_b2 (F_X6_lacksOf σ7 r0 x2) fun v9 σ10 =>
      if x3 < v9 then
        F_X6_since_56 n σ10 r0 x2 x3 x4 (x5 + (1 : Int32))
      else
        F_X6_since_56 n σ10 r0 x2 x3 x5 (x5 + (1 : Int32))
def F_X6_since  (σ : ah_S) (r0 : Option Nat) (x1 : Int32) (x2 : Int32) (x3 : Int32) : Option (Int32 × ah_S) :=
  ah_b2 (F_X6_isShelf σ x1) fun v1 σ2 =>
  if v1 = 0 then
    some ((-1 : Int32), σ2)
  else
    ah_b2 (F_X6_isThing σ2 x2) fun v3 σ4 =>
    if v3 = 0 then
      some ((-1 : Int32), σ4)
    else
      ah_b2 (F_X6_in σ4 x3 (0 : Int32) (99 : Int32)) fun v5 σ6 =>
      if v5 = 0 then
        some ((-1 : Int32), σ6)
      else
        (ah_is σ6 7 r0).bind fun u7 =>
        ah_b2 (F_X6_rowFault σ6 r0 x1) fun v8 σ9 =>
        if 0 ≤ v8 then
          (ah_is σ9 7 r0).bind fun u10 =>
          (F_X6_layStays σ9 r0 x1).bind fun σ11 =>
          (ah_is σ11 7 r0).bind fun u12 =>
          (F_X6_keepHut σ11 r0).bind fun σ13 =>
          F_X6_since_56 1000 σ13 r0 x2 x3 (-2 : Int32) (0 : Int32)
        else
          (ah_is σ9 7 r0).bind fun u14 =>
          ah_b2 (F_X6_rowFault σ9 r0 x1) fun v15 σ16 =>
          some (v15, σ16)
def F_X6_spoils_103 (k65 : ah_S → Option Nat → Int32 → Int32 → Int32 → Int32 → Int32 → Int32 → Option (Int32 × ah_S)) (σ : ah_S) (r0 : Option Nat) (x2 : Int32) (x3 : Int32) (x4 : Int32) (x5 : Int32) (x6 : Int32) (x7 : Int32) (w0 : Option Nat) (y1 : Int32) (y2 : Int32) : Option (Int32 × ah_S) :=
  (ah_wA σ 101 w0 y1 y2).bind fun σ1 =>
  (ah_gR σ1 638 r0).bind fun v2 =>
  (ah_lA σ1 101 v2 x7).bind fun v3 =>
  if v3 = x5 then
    k65 σ1 r0 x2 x3 x4 x5 (1 : Int32) (x7 + (1 : Int32))
  else
    k65 σ1 r0 x2 x3 x4 x5 x6 (x7 + (1 : Int32))
def F_X6_spoils_138 (k50 : ah_S → Option Nat → Int32 → Int32 → Int32 → Int32 → Option (Int32 × ah_S)) (σ : ah_S) (r0 : Option Nat) (x2 : Int32) (x3 : Int32) (x4 : Int32) (x5 : Int32) (x6 : Int32) (y0 : Int32) : Option (Int32 × ah_S) :=
  if x6 = 0 then
    k50 σ r0 x2 x3 x4 (x5 + (1 : Int32))
  else
    if x3 < 0 then
      k50 σ r0 x2 x5 y0 (x5 + (1 : Int32))
    else
      if y0 < x4 then
        k50 σ r0 x2 x5 y0 (x5 + (1 : Int32))
      else
        k50 σ r0 x2 x3 x4 (x5 + (1 : Int32))
def F_X6_spoils_65 (k50 : ah_S → Option Nat → Int32 → Int32 → Int32 → Int32 → Option (Int32 × ah_S)) : Nat → ah_S → Option Nat → Int32 → Int32 → Int32 → Int32 → Int32 → Int32 → Option (Int32 × ah_S)
  | 0, _, _, _, _, _, _, _, _ => none
  | n + 1, σ, r0, x2, x3, x4, x5, x6, x7 =>
    (ah_gI σ 636 r0).bind fun v1 =>
    if v1 ≤ x7 then
      if x6 = 0 then
        F_X6_spoils_138 k50 σ r0 x2 x3 x4 x5 x6 (0 : Int32)
      else
        (ah_is σ 7 r0).bind fun u2 =>
        ah_b2 (F_X6_lossOf σ r0) fun v3 σ4 =>
        F_X6_spoils_138 k50 σ4 r0 x2 x3 x4 x5 x6 v3
    else
      (ah_gR σ 635 r0).bind fun v5 =>
      (ah_gR σ 638 r0).bind fun v6 =>
      (ah_lA σ 101 v6 x7).bind fun v7 =>
      if v7 = x5 then
        F_X6_spoils_103 (F_X6_spoils_65 k50 n) σ r0 x2 x3 x4 x5 x6 x7 v5 x7 (-1 : Int32)
      else
        (ah_gR σ 638 r0).bind fun v8 =>
        (ah_lA σ 101 v8 x7).bind fun v9 =>
        F_X6_spoils_103 (F_X6_spoils_65 k50 n) σ r0 x2 x3 x4 x5 x6 x7 v5 x7 v9
def F_X6_spoils_50  : Nat → ah_S → Option Nat → Int32 → Int32 → Int32 → Int32 → Option (Int32 × ah_S)
  | 0, _, _, _, _, _, _ => none
  | n + 1, σ, r0, x2, x3, x4, x5 =>
    (ah_gI σ 603 r0).bind fun v1 =>
    if v1 ≤ x5 then
      if 0 ≤ x3 then
        if x2 = 0 then
          some (x3, σ)
        else
          some (x4, σ)
      else
        some ((-2 : Int32), σ)
    else
      F_X6_spoils_65 (F_X6_spoils_50 n) 1000 σ r0 x2 x3 x4 x5 (0 : Int32) (0 : Int32)
def F_X6_spoils  (σ : ah_S) (r0 : Option Nat) (x1 : Int32) (x2 : Int32) : Option (Int32 × ah_S) :=
  ah_b2 (F_X6_isShelf σ x1) fun v1 σ2 =>
  if v1 = 0 then
    some ((-1 : Int32), σ2)
  else
    ah_b2 (F_X6_in σ2 x2 (0 : Int32) (1 : Int32)) fun v3 σ4 =>
    if v3 = 0 then
      some ((-1 : Int32), σ4)
    else
      (ah_is σ4 7 r0).bind fun u5 =>
      ah_b2 (F_X6_rowFault σ4 r0 x1) fun v6 σ7 =>
      if 0 ≤ v6 then
        (ah_is σ7 7 r0).bind fun u8 =>
        (F_X6_layStays σ7 r0 x1).bind fun σ9 =>
        (ah_is σ9 7 r0).bind fun u10 =>
        (F_X6_keepStays σ9 r0).bind fun σ11 =>
        F_X6_spoils_50 1000 σ11 r0 x2 (-2 : Int32) (0 : Int32) (0 : Int32)
      else
        (ah_is σ7 7 r0).bind fun u12 =>
        ah_b2 (F_X6_rowFault σ7 r0 x1) fun v13 σ14 =>
        some (v13, σ14)
def F_X6_taken  (σ : ah_S) (r0 : Option Nat) (x1 : Int32) (x2 : Int32) : Option (Int32 × ah_S) :=
  ah_b2 (F_X6_isShelf σ x1) fun v1 σ2 =>
  if v1 = 0 then
    some ((-1 : Int32), σ2)
  else
    ah_b2 (F_X6_in σ2 x2 (0 : Int32) (7 : Int32)) fun v3 σ4 =>
    if v3 = 0 then
      some ((-1 : Int32), σ4)
    else
      (ah_gR σ4 656 r0).bind fun v5 =>
      (ah_lA σ4 101 v5 x1).bind fun v6 =>
      if v6 = (-1 : Int32) then
        some ((-11 : Int32), σ4)
      else
        (ah_gR σ4 656 r0).bind fun v7 =>
        (ah_lA σ4 101 v7 x1).bind fun v8 =>
        if v8 < 0 then
          some ((-12 : Int32), σ4)
        else
          (ah_gR σ4 653 r0).bind fun v9 =>
          (ah_gR σ4 656 r0).bind fun v10 =>
          (ah_lA σ4 101 v10 x1).bind fun v11 =>
          (ah_lA σ4 101 v9 v11).bind fun v12 =>
          ah_b2 (F_X6_isUnder σ4 v12 x2) fun v13 σ14 =>
          if v13 = 0 then
            some ((-12 : Int32), σ14)
          else
            (ah_gR σ14 653 r0).bind fun v15 =>
            (ah_gR σ14 656 r0).bind fun v16 =>
            (ah_lA σ14 101 v16 x1).bind fun v17 =>
            (ah_lA σ14 101 v15 v17).bind fun v18 =>
            some (v18, σ14)
def F_X6_tin_93 (k42 : ah_S → Option Nat → Int32 → Int32 → Int32 → Option (Int64 × ah_S)) : Nat → ah_S → Option Nat → Int32 → Int32 → Int32 → Int32 → Option (Int64 × ah_S)
  | 0, _, _, _, _, _, _ => none
  | n + 1, σ, r0, x2, x3, x4, x5 =>
    if (4 : Int32) ≤ x5 then
      k42 σ r0 x2 x3 (x4 + (1 : Int32))
    else
      (ah_is σ 7 r0).bind fun u1 =>
      ah_b2 (F_X6_lacksOf σ r0 x5) fun v2 σ3 =>
      (ah_gR σ3 642 r0).bind fun v4 =>
      (ah_lA σ3 101 v4 x5).bind fun v5 =>
      if v2 ≤ v5 then
        F_X6_tin_93 k42 n σ3 r0 x2 x3 x4 (x5 + (1 : Int32))
      else
        (ah_is σ3 7 r0).bind fun u6 =>
        ah_b2 (F_X6_lacksOf σ3 r0 x5) fun v7 σ8 =>
        (ah_gR σ8 642 r0).bind fun v9 =>
        (ah_lA σ8 101 v9 x5).bind fun v10 =>
        (ah_gR σ8 602 r0).bind fun v11 =>
        (ah_lA σ8 101 v11 x5).bind fun v12 =>
        F_X6_tin_93 k42 n σ8 r0 x2 (x3 + ((v7 - v10) * v12)) x4 (x5 + (1 : Int32))
def F_X6_tin_54 (k42 : ah_S → Option Nat → Int32 → Int32 → Int32 → Option (Int64 × ah_S)) : Nat → ah_S → Option Nat → Int32 → Int32 → Int32 → Int32 → Option (Int64 × ah_S)
  | 0, _, _, _, _, _, _ => none
  | n + 1, σ, r0, x2, x3, x4, x5 =>
    if (4 : Int32) ≤ x5 then
      (ah_gR σ 635 r0).bind fun v1 =>
      (ah_lA σ 101 v1 x4).bind fun v2 =>
      (ah_is σ 7 r0).bind fun u3 =>
      (F_X6_goNight σ r0 v2).bind fun σ4 =>
      F_X6_tin_93 k42 1000 σ4 r0 x2 x3 x4 (0 : Int32)
    else
      (ah_gR σ 642 r0).bind fun v5 =>
      (ah_is σ 7 r0).bind fun u6 =>
      ah_b2 (F_X6_lacksOf σ r0 x5) fun v7 σ8 =>
      (ah_wA σ8 101 v5 x5 v7).bind fun σ9 =>
      F_X6_tin_54 k42 n σ9 r0 x2 x3 x4 (x5 + (1 : Int32))
def F_X6_tin_42  : Nat → ah_S → Option Nat → Int32 → Int32 → Int32 → Option (Int64 × ah_S)
  | 0, _, _, _, _, _ => none
  | n + 1, σ, r0, x2, x3, x4 =>
    (ah_gI σ 636 r0).bind fun v1 =>
    if v1 ≤ x4 then
      (ah_is σ 7 r0).bind fun u2 =>
      (F_X6_layHut σ r0).bind fun σ3 =>
      (ah_gI σ3 610 r0).bind fun v4 =>
      ah_b2 (F_X6_asPart σ3 ((x3.toInt64) * (v4.toInt64)) (12 : Int64) x2) fun v5 σ6 =>
      some (v5, σ6)
    else
      F_X6_tin_54 (F_X6_tin_42 n) 1000 σ r0 x2 x3 x4 (0 : Int32)
def F_X6_tin  (σ : ah_S) (r0 : Option Nat) (x1 : Int32) (x2 : Int32) : Option (Int64 × ah_S) :=
  ah_b2 (F_X6_isShelf σ x1) fun v1 σ2 =>
  if v1 = 0 then
    some ((-9223372036854775808 : Int64), σ2)
  else
    ah_b2 (F_X6_in σ2 x2 (0 : Int32) (1 : Int32)) fun v3 σ4 =>
    if v3 = 0 then
      some ((-9223372036854775808 : Int64), σ4)
    else
      (ah_is σ4 7 r0).bind fun u5 =>
      ah_b2 (F_X6_rowFault σ4 r0 x1) fun v6 σ7 =>
      if 0 ≤ v6 then
        (ah_is σ7 7 r0).bind fun u8 =>
        (F_X6_layStays σ7 r0 x1).bind fun σ9 =>
        (ah_is σ9 7 r0).bind fun u10 =>
        (F_X6_keepHut σ9 r0).bind fun σ11 =>
        F_X6_tin_42 1000 σ11 r0 x2 (0 : Int32) (0 : Int32)
      else
        some ((-9223372036854775808 : Int64), σ7)
def F_X6_trace  (σ : ah_S) (r0 : Option Nat) (x1 : Int32) : Option (Int32 × ah_S) :=
  if x1 < 0 then
    some ((-1 : Int32), σ)
  else
    (ah_gI σ 654 r0).bind fun v1 =>
    if v1 ≤ x1 then
      some ((-1 : Int32), σ)
    else
      if (24 : Int32) ≤ x1 then
        some ((-1 : Int32), σ)
      else
        (ah_gR σ 655 r0).bind fun v2 =>
        (ah_lA σ 101 v2 x1).bind fun v3 =>
        some (v3, σ)
def F_X6_undo  (σ : ah_S) (r0 : Option Nat) : Option (Int32 × ah_S) :=
  (ah_gI σ 612 r0).bind fun v1 =>
  if v1 = 0 then
    some ((-5 : Int32), σ)
  else
    (ah_gI σ 612 r0).bind fun v2 =>
    (ah_pI σ 612 r0 (v2 - (1 : Int32))).bind fun σ3 =>
    (ah_gI σ3 613 r0).bind fun v4 =>
    (ah_pI σ3 613 r0 (v4 + (1 : Int32))).bind fun σ5 =>
    (ah_gR σ5 614 r0).bind fun v6 =>
    (ah_gI σ5 612 r0).bind fun v7 =>
    (ah_lA σ5 101 v6 v7).bind fun v8 =>
    (ah_gR σ5 615 r0).bind fun v9 =>
    (ah_gI σ5 612 r0).bind fun v10 =>
    (ah_lA σ5 101 v9 v10).bind fun v11 =>
    (ah_gR σ5 616 r0).bind fun v12 =>
    (ah_gI σ5 612 r0).bind fun v13 =>
    (ah_lA σ5 101 v12 v13).bind fun v14 =>
    (ah_is σ5 7 r0).bind fun u15 =>
    (F_X6_lays σ5 r0 v8 v11 v14).bind fun σ16 =>
    (ah_gI σ16 612 r0).bind fun v17 =>
    some (v17, σ16)
def F_X6_wardenCost_55 (k8 : ah_S → Option Nat → Int32 → Int32 → Int32 → Option (Int32 × ah_S)) : Nat → ah_S → Option Nat → Int32 → Int32 → Int32 → Int32 → Option (Int32 × ah_S)
  | 0, _, _, _, _, _, _ => none
  | n + 1, σ, r0, x1, x2, x3, x4 =>
    if (4 : Int32) ≤ x4 then
      k8 σ r0 x1 x2 (x3 + (1 : Int32))
    else
      (ah_gR σ 611 r0).bind fun v1 =>
      (ah_gR σ 601 r0).bind fun v2 =>
      (ah_lA σ 101 v2 x4).bind fun v3 =>
      (ah_wA σ 101 v1 x4 v3).bind fun σ4 =>
      F_X6_wardenCost_55 k8 n σ4 r0 x1 x2 x3 (x4 + (1 : Int32))
def F_X6_wardenCost_8  : Nat → ah_S → Option Nat → Int32 → Int32 → Int32 → Option (Int32 × ah_S)
  | 0, _, _, _, _, _ => none
  | n + 1, σ, r0, x1, x2, x3 =>
    if (60 : Int32) ≤ x3 then
      (ah_is σ 7 r0).bind fun u1 =>
      (F_X6_layHut σ r0).bind fun σ2 =>
      some (x2, σ2)
    else
      (ah_is σ 7 r0).bind fun u3 =>
      ah_b2 (F_X6_againAt σ r0 x3) fun v4 σ5 =>
      (ah_is σ5 7 r0).bind fun u6 =>
      (F_X6_goNight σ5 r0 v4).bind fun σ7 =>
      (ah_is σ7 7 r0).bind fun u8 =>
      ah_b2 (F_X6_lossNow σ7 r0) fun v9 σ10 =>
      if x1 = 0 then
        F_X6_wardenCost_8 n σ10 r0 x1 (x2 + v9) (x3 + (1 : Int32))
      else
        (ah_re (x3 + (1 : Int32)) x1).bind fun q11 =>
        if q11 = 0 then
          (ah_gI σ10 609 r0).bind fun v12 =>
          F_X6_wardenCost_55 (F_X6_wardenCost_8 n) 1000 σ10 r0 x1 ((x2 + v9) + v12) x3 (0 : Int32)
        else
          F_X6_wardenCost_8 n σ10 r0 x1 (x2 + v9) (x3 + (1 : Int32))
def F_X6_wardenCost  (σ : ah_S) (r0 : Option Nat) (x1 : Int32) : Option (Int32 × ah_S) :=
  (ah_is σ 7 r0).bind fun u1 =>
  (F_X6_keepHut σ r0).bind fun σ2 =>
  F_X6_wardenCost_8 1000 σ2 r0 x1 (0 : Int32) (0 : Int32)
def F_X6_warden_48  : Nat → ah_S → Option Nat → Int32 → Int32 → Int32 → Int32 → Option (Int32 × ah_S)
  | 0, _, _, _, _, _, _ => none
  | n + 1, σ, r0, x2, x3, x4, x5 =>
    if x5 < (1 : Int32) then
      if x2 = 0 then
        some (x3, σ)
      else
        if x2 = (1 : Int32) then
          some (x4, σ)
        else
          (ah_is σ 7 r0).bind fun u1 =>
          ah_b2 (F_X6_wardenCost σ r0 (0 : Int32)) fun v2 σ3 =>
          some ((v2 - x4), σ3)
    else
      (ah_is σ 7 r0).bind fun u4 =>
      ah_b2 (F_X6_wardenCost σ r0 x5) fun v5 σ6 =>
      if v5 < x4 then
        F_X6_warden_48 n σ6 r0 x2 x5 v5 (x5 + (-1 : Int32))
      else
        F_X6_warden_48 n σ6 r0 x2 x3 x4 (x5 + (-1 : Int32))
def F_X6_warden  (σ : ah_S) (r0 : Option Nat) (x1 : Int32) (x2 : Int32) : Option (Int32 × ah_S) :=
  ah_b2 (F_X6_isShelf σ x1) fun v1 σ2 =>
  if v1 = 0 then
    some ((-2000000000 : Int32), σ2)
  else
    ah_b2 (F_X6_in σ2 x2 (0 : Int32) (2 : Int32)) fun v3 σ4 =>
    if v3 = 0 then
      some ((-2000000000 : Int32), σ4)
    else
      (ah_is σ4 7 r0).bind fun u5 =>
      ah_b2 (F_X6_rowFault σ4 r0 x1) fun v6 σ7 =>
      if 0 ≤ v6 then
        (ah_is σ7 7 r0).bind fun u8 =>
        (F_X6_layStays σ7 r0 x1).bind fun σ9 =>
        (ah_is σ9 7 r0).bind fun u10 =>
        ah_b2 (F_X6_wardenCost σ9 r0 (20 : Int32)) fun v11 σ12 =>
        F_X6_warden_48 1000 σ12 r0 x2 (20 : Int32) v11 (19 : Int32)
      else
        some ((-2000000000 : Int32), σ7)
