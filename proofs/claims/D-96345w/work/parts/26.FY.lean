def F_X10_value  (σ : ah_S) (r0 : Option Nat) : Option (Int32 × ah_S) :=
  (ah_gI σ 1000 r0).bind fun v1 =>
  some (v1, σ)
def F_X11_value  (σ : ah_S) (r0 : Option Nat) : Option (Int32 × ah_S) :=
  (ah_gR σ 1101 r0).bind fun v1 =>
  (ah_gR σ 15 v1).bind fun v2 =>
  (ah_gI σ 1100 r0).bind fun v3 =>
  (ah_lA σ 101 v2 v3).bind fun v4 =>
  some (v4, σ)
def F_X12_value (f_VT : ah_S → Option Nat → Option (Int32 × ah_S)) (σ : ah_S) (r0 : Option Nat) : Option (Int32 × ah_S) :=
  (ah_gI σ 1200 r0).bind fun v1 =>
  if v1 = (33 : Int32) then
    (ah_gR σ 1201 r0).bind fun v5 =>
    ah_b2 (f_VT σ v5) fun v6 σ7 =>
    if v6 = 0 then
      ah_b2 (F_X0_bit σ7 (1 : Int32)) fun v10 σ11 =>
      some (v10, σ11)
    else
      ah_b2 (F_X0_bit σ7 (0 : Int32)) fun v8 σ9 =>
      some (v8, σ9)
  else
    (ah_gR σ 1201 r0).bind fun v2 =>
    ah_b2 (f_VT σ v2) fun v3 σ4 =>
    some ((-v3), σ4)
def F_X13_value (f_VT : ah_S → Option Nat → Option (Int32 × ah_S)) (σ : ah_S) (r0 : Option Nat) : Option (Int32 × ah_S) :=
  (ah_gR σ 1301 r0).bind fun v1 =>
  ah_b2 (f_VT σ v1) fun v2 σ3 =>
  (ah_gR σ3 1302 r0).bind fun v4 =>
  ah_b2 (f_VT σ3 v4) fun v5 σ6 =>
  (ah_gI σ6 1300 r0).bind fun v7 =>
  if v7 = (38 : Int32) then
    if v2 = 0 then
      ah_b2 (F_X0_bit σ6 (0 : Int32)) fun v8 σ9 =>
      some (v8, σ9)
    else
      if v5 = 0 then
        ah_b2 (F_X0_bit σ6 (0 : Int32)) fun v10 σ11 =>
        some (v10, σ11)
      else
        ah_b2 (F_X0_bit σ6 (1 : Int32)) fun v12 σ13 =>
        some (v12, σ13)
  else
  if v7 = (42 : Int32) then
    some ((v2 * v5), σ6)
  else
  if v7 = (43 : Int32) then
    some ((v2 + v5), σ6)
  else
  if v7 = (45 : Int32) then
    some ((v2 - v5), σ6)
  else
  if v7 = (47 : Int32) then
    if v5 = 0 then
      some ((0 : Int32), σ6)
    else
      (ah_di v2 v5).bind fun q14 =>
      some (q14, σ6)
  else
  if v7 = (60 : Int32) then
    if v5 ≤ v2 then
      ah_b2 (F_X0_bit σ6 (0 : Int32)) fun v15 σ16 =>
      some (v15, σ16)
    else
      ah_b2 (F_X0_bit σ6 (1 : Int32)) fun v17 σ18 =>
      some (v17, σ18)
  else
  if v7 = (61 : Int32) then
    if v2 = v5 then
      ah_b2 (F_X0_bit σ6 (1 : Int32)) fun v21 σ22 =>
      some (v21, σ22)
    else
      ah_b2 (F_X0_bit σ6 (0 : Int32)) fun v19 σ20 =>
      some (v19, σ20)
  else
  if v7 = (62 : Int32) then
    if v2 ≤ v5 then
      ah_b2 (F_X0_bit σ6 (0 : Int32)) fun v23 σ24 =>
      some (v23, σ24)
    else
      ah_b2 (F_X0_bit σ6 (1 : Int32)) fun v25 σ26 =>
      some (v25, σ26)
  else
  if v7 = (124 : Int32) then
    if v2 = 0 then
      if v5 = 0 then
        ah_b2 (F_X0_bit σ6 (0 : Int32)) fun v29 σ30 =>
        some (v29, σ30)
      else
        ah_b2 (F_X0_bit σ6 (1 : Int32)) fun v31 σ32 =>
        some (v31, σ32)
    else
      ah_b2 (F_X0_bit σ6 (1 : Int32)) fun v27 σ28 =>
      some (v27, σ28)
  else
  if v5 = 0 then
    some ((0 : Int32), σ6)
  else
    (ah_re v2 v5).bind fun q33 =>
    some (q33, σ6)
def Z_VT : Nat → ah_S → Option Nat → Option (Int32 × ah_S)
  | 0, _, _ => none
  | d + 1, σ, r => r.bind fun a => if ah_tg σ a = 11 then F_X10_value σ r else if ah_tg σ a = 12 then F_X11_value σ r else if ah_tg σ a = 13 then F_X12_value (Z_VT d) σ r else if ah_tg σ a = 14 then F_X13_value (Z_VT d) σ r else none
def F_X0_ruled_5  : Nat → ah_S → Option Nat → Option (Int32 × ah_S)
  | 0, _, _ => none
  | n + 1, σ, r1 =>
    if r1 = none then
      some ((0 : Int32), σ)
    else
      (ah_gR σ 800 r1).bind fun v1 =>
      if v1 = none then
        (ah_gR σ 801 r1).bind fun v2 =>
        ah_b2 (Z_VT 130 σ v2) fun v3 σ4 =>
        some (v3, σ4)
      else
        (ah_gR σ 800 r1).bind fun v5 =>
        ah_b2 (Z_VT 130 σ v5) fun v6 σ7 =>
        if v6 = 0 then
          (ah_gR σ7 802 r1).bind fun v11 =>
          F_X0_ruled_5 n σ7 v11
        else
          (ah_gR σ7 801 r1).bind fun v8 =>
          ah_b2 (Z_VT 130 σ7 v8) fun v9 σ10 =>
          some (v9, σ10)
def F_X0_ruled  (σ : ah_S) (r0 : Option Nat) : Option (Int32 × ah_S) :=
  (ah_gR σ 17 r0).bind fun v1 =>
  F_X0_ruled_5 1000 σ v1
def F_X0_leftBy_69  (σ : ah_S) (r0 : Option Nat) (x2 : Int32) (x3 : Int32) (x4 : Int32) (x5 : Int32) (x6 : Int32) (x7 : Int32) (y0 : Int32) : Option (Int32 × ah_S) :=
  (ah_gR σ 17 r0).bind fun v1 =>
  if v1 = none then
    some ((if (0 : Int32) < (if y0 < (99 : Int32) then y0 else (99 : Int32)) then (if y0 < (99 : Int32) then y0 else (99 : Int32)) else (0 : Int32)), σ)
  else
    (ah_gR σ 15 r0).bind fun v2 =>
    (ah_wA σ 101 v2 (0 : Int32) x3).bind fun σ3 =>
    (ah_gR σ3 15 r0).bind fun v4 =>
    (ah_wA σ3 101 v4 (1 : Int32) x4).bind fun σ5 =>
    (ah_gR σ5 15 r0).bind fun v6 =>
    (ah_wA σ5 101 v6 (2 : Int32) x5).bind fun σ7 =>
    (ah_gR σ7 15 r0).bind fun v8 =>
    (ah_wA σ7 101 v8 (3 : Int32) x6).bind fun σ9 =>
    (ah_gR σ9 15 r0).bind fun v10 =>
    (ah_wA σ9 101 v10 (4 : Int32) x7).bind fun σ11 =>
    (ah_gR σ11 15 r0).bind fun v12 =>
    (ah_wA σ11 101 v12 (5 : Int32) x2).bind fun σ13 =>
    (ah_is σ13 1 r0).bind fun u14 =>
    ah_b2 (F_X0_ruled σ13 r0) fun v15 σ16 =>
    some ((if (0 : Int32) < (if (x3 + (if (-20 : Int32) < (if v15 < (20 : Int32) then v15 else (20 : Int32)) then (if v15 < (20 : Int32) then v15 else (20 : Int32)) else (-20 : Int32))) < (99 : Int32) then (x3 + (if (-20 : Int32) < (if v15 < (20 : Int32) then v15 else (20 : Int32)) then (if v15 < (20 : Int32) then v15 else (20 : Int32)) else (-20 : Int32))) else (99 : Int32)) then (if (x3 + (if (-20 : Int32) < (if v15 < (20 : Int32) then v15 else (20 : Int32)) then (if v15 < (20 : Int32) then v15 else (20 : Int32)) else (-20 : Int32))) < (99 : Int32) then (x3 + (if (-20 : Int32) < (if v15 < (20 : Int32) then v15 else (20 : Int32)) then (if v15 < (20 : Int32) then v15 else (20 : Int32)) else (-20 : Int32))) else (99 : Int32)) else (0 : Int32)), σ16)
def F_X0_leftBy  (σ : ah_S) (r0 : Option Nat) (r1 : Option Nat) (x2 : Int32) (x3 : Int32) (x4 : Int32) : Option (Int32 × ah_S) :=
  (ah_gR σ 700 r1).bind fun v1 =>
  (ah_lQ σ 113 v1 x2).bind fun v2 =>
  (ah_gI σ 200 v2).bind fun v3 =>
  (ah_gR σ 701 r1).bind fun v4 =>
  (ah_lQ σ 113 v4 x2).bind fun v5 =>
  (ah_gI σ 200 v5).bind fun v6 =>
  (ah_gR σ 702 r1).bind fun v7 =>
  (ah_gI σ 200 v7).bind fun v8 =>
  (ah_gR σ 11 r0).bind fun v9 =>
  (ah_gI σ 200 v9).bind fun v10 =>
  if (x4 - x3) ≤ (if v10 < v8 then v10 else v8) then
    F_X0_leftBy_69 σ r0 x2 x3 x4 v3 v6 (if v10 < v8 then v10 else v8) (x3 - v3)
  else
    F_X0_leftBy_69 σ r0 x2 x3 x4 v3 v6 (if v10 < v8 then v10 else v8) (if ((x3 - v3) + v6) < x4 then ((x3 - v3) + v6) else x4)
def F_X4_night_47  : Nat → ah_S → Option Nat → Int32 → Int32 → Option ah_S
  | 0, _, _, _, _ => none
  | n + 1, σ, r0, x1, x2 =>
    if (4 : Int32) ≤ x2 then
      (ah_pZ σ 404 r0 (1 : Int32)).bind fun σ1 =>
      (ah_gR σ1 406 r0).bind fun v2 =>
      (ah_gR σ1 7 v2).bind fun v3 =>
      (ah_lQ σ1 112 v3 x1).bind fun v4 =>
      (ah_gR σ1 703 v4).bind fun v5 =>
      (ah_gI σ1 200 v5).bind fun v6 =>
      if v6 = (1 : Int32) then
        (ah_gR σ1 400 r0).bind fun v7 =>
        (ah_gR σ1 401 r0).bind fun v8 =>
        (ah_cp σ1 v7 (0 : Int32) v8 (0 : Int32) (4 : Int32)).bind fun σ9 =>
        some σ9
      else
        some σ1
    else
      (ah_is σ 5 r0).bind fun u10 =>
      ah_b2 (F_X4_believedBy σ r0 x1 x2) fun v11 σ12 =>
      (ah_gR σ12 400 r0).bind fun v13 =>
      (ah_gR σ12 406 r0).bind fun v14 =>
      (ah_gR σ12 406 r0).bind fun v15 =>
      (ah_gR σ12 7 v15).bind fun v16 =>
      (ah_lQ σ12 112 v16 x1).bind fun v17 =>
      (ah_gR σ12 400 r0).bind fun v18 =>
      (ah_lA σ12 101 v18 x2).bind fun v19 =>
      (ah_is σ12 1 v14).bind fun u20 =>
      ah_b2 (F_X0_leftBy σ12 v14 v17 x2 v19 v11) fun v21 σ22 =>
      (ah_wA σ22 101 v13 x2 v21).bind fun σ23 =>
      (ah_gR σ23 405 r0).bind fun v24 =>
      (ah_wA σ23 101 v24 x2 v11).bind fun σ25 =>
      F_X4_night_47 n σ25 r0 x1 (x2 + (1 : Int32))
def F_X4_night  (σ : ah_S) (r0 : Option Nat) (x1 : Int32) : Option ah_S :=
  if x1 = (-1 : Int32) then
    some σ
  else
    (ah_gI σ 403 r0).bind fun v1 =>
    ah_b2 (F_X0_isIn σ v1 x1) fun v2 σ3 =>
    if v2 = 0 then
      (ah_gR σ3 400 r0).bind fun v6 =>
      (ah_gR σ3 402 r0).bind fun v7 =>
      (ah_cp σ3 v6 (0 : Int32) v7 ((4 : Int32) * x1) (4 : Int32)).bind fun σ8 =>
      (ah_gI σ8 403 r0).bind fun v9 =>
      (ah_pI σ8 403 r0 (v9 ||| ((1 : Int32) <<< (x1 &&& 31)))).bind fun σ10 =>
      F_X4_night_47 1000 σ10 r0 x1 (0 : Int32)
    else
      (ah_gI σ3 403 r0).bind fun v4 =>
      (ah_pI σ3 403 r0 (v4 ||| ((1 : Int32) <<< (x1 &&& 31)))).bind fun σ5 =>
      F_X4_night_47 1000 σ5 r0 x1 (0 : Int32)
def F_X0_below_56  : Nat → ah_S → Option Nat → Int32 → Int32 → Int32 → Option (Int32 × ah_S)
  | 0, _, _, _, _, _ => none
  | n + 1, σ, r0, x2, x3, x4 =>
    (ah_gI σ 21 r0).bind fun v1 =>
    if v1 ≤ x4 then
      some ((-2 : Int32), σ)
    else
      (ah_gR σ 19 r0).bind fun v2 =>
      (ah_gR σ 20 r0).bind fun v3 =>
      (ah_lA σ 101 v3 x4).bind fun v4 =>
      (ah_is σ 5 v2).bind fun u5 =>
      (F_X4_night σ v2 v4).bind fun σ6 =>
      (ah_gR σ6 19 r0).bind fun v7 =>
      (ah_gR σ6 400 v7).bind fun v8 =>
      (ah_lA σ6 101 v8 x2).bind fun v9 =>
      if x3 ≤ v9 then
        F_X0_below_56 n σ6 r0 x2 x3 (x4 + (1 : Int32))
      else
        some (x4, σ6)
def F_X0_below  (σ : ah_S) (r0 : Option Nat) (x1 : Int32) (x2 : Int32) (x3 : Int32) : Option (Int32 × ah_S) :=
  ah_b2 (F_X0_isShelf σ x1) fun v1 σ2 =>
  if v1 = 0 then
    some ((-1 : Int32), σ2)
  else
    ah_b2 (F_X0_isThing σ2 x2) fun v3 σ4 =>
    if v3 = 0 then
      some ((-1 : Int32), σ4)
    else
      ah_b2 (F_X0_within σ4 (x3.toInt64) (0 : Int64) (99 : Int64)) fun v5 σ6 =>
      if v5 = 0 then
        some ((-1 : Int32), σ6)
      else
        (ah_is σ6 1 r0).bind fun u7 =>
        ah_b2 (F_X0_takes1Row σ6 r0 x1) fun v8 σ9 =>
        if 0 ≤ v8 then
          (ah_gR σ9 19 r0).bind fun v10 =>
          (ah_gR σ9 18 r0).bind fun v11 =>
          (ah_is σ9 5 v10).bind fun u12 =>
          (F_X4_beAs σ9 v10 v11).bind fun σ13 =>
          F_X0_below_56 1000 σ13 r0 x2 x3 (0 : Int32)
        else
          (ah_is σ9 1 r0).bind fun u14 =>
          ah_b2 (F_X0_lookAt σ9 r0 x1) fun v15 σ16 =>
          some (v15, σ16)
def F_X0_drawn_99 (k48 : ah_S → Option Nat → Int32 → Int32 → Int32 → Int32 → Int32 → Int32 → Option (Int32 × ah_S)) (σ : ah_S) (r0 : Option Nat) (x2 : Int32) (x3 : Int32) (x4 : Int32) (x5 : Int32) (x6 : Int32) (x7 : Int32) (w0 : Option Nat) (y1 : Int32) : Option (Int32 × ah_S) :=
  (ah_is σ 5 w0).bind fun u1 =>
  (F_X4_night σ w0 y1).bind fun σ2 =>
  (ah_gR σ2 19 r0).bind fun v3 =>
  (ah_is σ2 5 v3).bind fun u4 =>
  ah_b2 (F_X4_loss σ2 v3) fun v5 σ6 =>
  (ah_gR σ6 19 r0).bind fun v7 =>
  (ah_gR σ6 400 v7).bind fun v8 =>
  (ah_lA σ6 101 v8 (0 : Int32)).bind fun v9 =>
  k48 σ6 r0 x2 x3 x4 (x5 + v5) (if v9 < x6 then v9 else x6) (x7 + (1 : Int32))
def F_X0_drawn_48  : Nat → ah_S → Option Nat → Int32 → Int32 → Int32 → Int32 → Int32 → Int32 → Option (Int32 × ah_S)
  | 0, _, _, _, _, _, _, _, _ => none
  | n + 1, σ, r0, x2, x3, x4, x5, x6, x7 =>
    if x2 ≤ x7 then
      if x3 = 0 then
        some (x5, σ)
      else
        some (x6, σ)
    else
      (ah_gI σ 8 r0).bind fun v1 =>
      (ah_re ((((x4 * (1103515245 : Int32)) + (12345 : Int32)).toUInt32 >>> ((8 : Int32).toUInt32 &&& Int32.toUInt32 31)).toInt32) (v1 + (1 : Int32))).bind fun q2 =>
      (ah_gR σ 19 r0).bind fun v3 =>
      (ah_gI σ 8 r0).bind fun v4 =>
      if q2 = v4 then
        F_X0_drawn_99 (F_X0_drawn_48 n) σ r0 x2 x3 ((x4 * (1103515245 : Int32)) + (12345 : Int32)) x5 x6 x7 v3 (-1 : Int32)
      else
        F_X0_drawn_99 (F_X0_drawn_48 n) σ r0 x2 x3 ((x4 * (1103515245 : Int32)) + (12345 : Int32)) x5 x6 x7 v3 q2
def F_X0_drawn  (σ : ah_S) (r0 : Option Nat) (x1 : Int32) (x2 : Int32) (x3 : Int32) : Option (Int32 × ah_S) :=
  ah_b2 (F_X0_within σ (x2.toInt64) (1 : Int64) (60 : Int64)) fun v1 σ2 =>
  if v1 = 0 then
    some ((-1 : Int32), σ2)
  else
    ah_b2 (F_X0_within σ2 (x3.toInt64) (0 : Int64) (1 : Int64)) fun v3 σ4 =>
    if v3 = 0 then
      some ((-1 : Int32), σ4)
    else
      (ah_gR σ4 19 r0).bind fun v5 =>
      (ah_gR σ4 18 r0).bind fun v6 =>
      (ah_is σ4 5 v5).bind fun u7 =>
      (F_X4_beAs σ4 v5 v6).bind fun σ8 =>
      F_X0_drawn_48 1000 σ8 r0 x2 x3 x1 (0 : Int32) (99 : Int32) (0 : Int32)
def F_X0_findRest_61 (k18 : ah_S → Option Nat → Int32 → Option (Int32 × ah_S)) : Nat → ah_S → Option Nat → Int32 → Int32 → Option (Int32 × ah_S)
  | 0, _, _, _, _ => none
  | n + 1, σ, r0, x1, x2 =>
    if x1 ≤ x2 then
      k18 σ r0 (x1 + (1 : Int32))
    else
      (ah_is σ 1 r0).bind fun u1 =>
      ah_b2 (F_X0_isLike σ r0 x2 x1) fun v2 σ3 =>
      if v2 = 0 then
        F_X0_findRest_61 k18 n σ3 r0 x1 (x2 + (1 : Int32))
      else
        (ah_pI σ3 23 r0 x2).bind fun σ4 =>
        (ah_pI σ4 24 r0 (x1 - x2)).bind fun σ5 =>
        some ((1 : Int32), σ5)
def F_X0_findRest_27 (k18 : ah_S → Option Nat → Int32 → Option (Int32 × ah_S)) : Nat → ah_S → Option Nat → Int32 → Int32 → Option (Int32 × ah_S)
  | 0, _, _, _, _ => none
  | n + 1, σ, r0, x1, x2 =>
    (ah_gI σ 21 r0).bind fun v1 =>
    if v1 ≤ x2 then
      (ah_is σ 1 r0).bind fun u2 =>
      (F_X0_keepState σ r0 x1).bind fun σ3 =>
      F_X0_findRest_61 k18 1000 σ3 r0 x1 (0 : Int32)
    else
      (ah_gR σ 19 r0).bind fun v4 =>
      (ah_gR σ 20 r0).bind fun v5 =>
      (ah_lA σ 101 v5 x2).bind fun v6 =>
      (ah_is σ 5 v4).bind fun u7 =>
      (F_X4_night σ v4 v6).bind fun σ8 =>
      F_X0_findRest_27 k18 n σ8 r0 x1 (x2 + (1 : Int32))
def F_X0_findRest_18  : Nat → ah_S → Option Nat → Int32 → Option (Int32 × ah_S)
  | 0, _, _, _ => none
  | n + 1, σ, r0, x1 =>
    if (200 : Int32) < x1 then
      some ((0 : Int32), σ)
    else
      F_X0_findRest_27 (F_X0_findRest_18 n) 1000 σ r0 x1 (0 : Int32)
def F_X0_findRest  (σ : ah_S) (r0 : Option Nat) : Option (Int32 × ah_S) :=
  (ah_gR σ 19 r0).bind fun v1 =>
  (ah_gR σ 18 r0).bind fun v2 =>
  (ah_is σ 5 v1).bind fun u3 =>
  (F_X4_beAs σ v1 v2).bind fun σ4 =>
  (ah_is σ4 1 r0).bind fun u5 =>
  (F_X0_keepState σ4 r0 (0 : Int32)).bind fun σ6 =>
  F_X0_findRest_18 1000 σ6 r0 (1 : Int32)
def F_X0_judge_128  : Nat → ah_S → Option Nat → Int32 → Option Nat → Int32 → Option (Int32 × ah_S)
  | 0, _, _, _, _, _ => none
  | n + 1, σ, r0, x2, r3, x4 =>
    (ah_gI σ 21 r0).bind fun v1 =>
    if v1 ≤ x4 then
      some ((-2 : Int32), σ)
    else
      (ah_al_ σ r3).bind fun v2 =>
      if v2 ≤ x4 then
        some ((-2 : Int32), σ)
      else
        (ah_gR σ 19 r0).bind fun v3 =>
        (ah_gR σ 20 r0).bind fun v4 =>
        (ah_lA σ 101 v4 x4).bind fun v5 =>
        (ah_is σ 5 v3).bind fun u6 =>
        (F_X4_night σ v3 v5).bind fun σ7 =>
        (ah_lA σ7 102 r3 x4).bind fun v8 =>
        if v8 = (-1 : Int32) then
          F_X0_judge_128 n σ7 r0 x2 r3 (x4 + (1 : Int32))
        else
          (ah_lA σ7 102 r3 x4).bind fun v9 =>
          (ah_gR σ7 19 r0).bind fun v10 =>
          (ah_gR σ7 400 v10).bind fun v11 =>
          (ah_lA σ7 101 v11 x2).bind fun v12 =>
          if v9 = v12 then
            F_X0_judge_128 n σ7 r0 x2 r3 (x4 + (1 : Int32))
          else
            some (x4, σ7)
def F_X0_judge  (σ : ah_S) (r0 : Option Nat) (x1 : Int32) (x2 : Int32) : Option (Int32 × ah_S) :=
  if x1 < 0 then
    some ((-1 : Int32), σ)
  else
    (ah_di x1 (10 : Int32)).bind fun q1 =>
    ah_b2 (F_X0_isShelf σ q1) fun v2 σ3 =>
    if v2 = 0 then
      some ((-1 : Int32), σ3)
    else
      (ah_re x1 (10 : Int32)).bind fun q4 =>
      ah_b2 (F_X0_isShelf σ3 q4) fun v5 σ6 =>
      if v5 = 0 then
        some ((-1 : Int32), σ6)
      else
        ah_b2 (F_X0_isThing σ6 x2) fun v7 σ8 =>
        if v7 = 0 then
          some ((-1 : Int32), σ8)
        else
          (ah_gR σ8 41 r0).bind fun v9 =>
          (ah_di x1 (10 : Int32)).bind fun q10 =>
          (ah_lQ σ8 116 v9 q10).bind fun v11 =>
          if v11 = none then
            some ((-11 : Int32), σ8)
          else
            (ah_gR σ8 41 r0).bind fun v12 =>
            (ah_re x1 (10 : Int32)).bind fun q13 =>
            (ah_lQ σ8 116 v12 q13).bind fun v14 =>
            if v14 = none then
              some ((-11 : Int32), σ8)
            else
              (ah_di x1 (10 : Int32)).bind fun q15 =>
              (ah_is σ8 1 r0).bind fun u16 =>
              ah_b2 (F_X0_lookAt σ8 r0 q15) fun v17 σ18 =>
              if v17 < 0 then
                some ((-12 : Int32), σ18)
              else
                (ah_re x1 (10 : Int32)).bind fun q19 =>
                (ah_is σ18 1 r0).bind fun u20 =>
                ah_b2 (F_X0_lookAt σ18 r0 q19) fun v21 σ22 =>
                if 0 ≤ v21 then
                  (ah_gR σ22 41 r0).bind fun v23 =>
                  (ah_di x1 (10 : Int32)).bind fun q24 =>
                  (ah_lQ σ22 116 v23 q24).bind fun v25 =>
                  (ah_ca σ22 102 v25).bind fun u26 =>
                  (ah_is σ22 1 r0).bind fun u27 =>
                  (F_X0_takeRow σ22 r0 v25).bind fun σ28 =>
                  (ah_gR σ28 41 r0).bind fun v29 =>
                  (ah_re x1 (10 : Int32)).bind fun q30 =>
                  (ah_lQ σ28 116 v29 q30).bind fun v31 =>
                  (ah_ca σ28 102 v31).bind fun u32 =>
                  (ah_gR σ28 19 r0).bind fun v33 =>
                  (ah_gR σ28 18 r0).bind fun v34 =>
                  (ah_is σ28 5 v33).bind fun u35 =>
                  (F_X4_beAs σ28 v33 v34).bind fun σ36 =>
                  F_X0_judge_128 1000 σ36 r0 x2 v31 (0 : Int32)
                else
                  some ((-12 : Int32), σ22)
def F_X0_level_58  : Nat → ah_S → Option Nat → Int32 → Int32 → Int32 → Option (Int32 × ah_S)
  | 0, _, _, _, _, _ => none
  | n + 1, σ, r0, x2, x3, x4 =>
    if x3 ≤ x4 then
      (ah_gR σ 19 r0).bind fun v1 =>
      (ah_gR σ 400 v1).bind fun v2 =>
      (ah_lA σ 101 v2 x2).bind fun v3 =>
      some (v3, σ)
    else
      (ah_gR σ 19 r0).bind fun v4 =>
      (ah_gR σ 20 r0).bind fun v5 =>
      (ah_lA σ 101 v5 x4).bind fun v6 =>
      (ah_is σ 5 v4).bind fun u7 =>
      (F_X4_night σ v4 v6).bind fun σ8 =>
      F_X0_level_58 n σ8 r0 x2 x3 (x4 + (1 : Int32))
def F_X0_level  (σ : ah_S) (r0 : Option Nat) (x1 : Int32) (x2 : Int32) (x3 : Int32) : Option (Int32 × ah_S) :=
  ah_b2 (F_X0_isShelf σ x1) fun v1 σ2 =>
  if v1 = 0 then
    some ((-1 : Int32), σ2)
  else
    ah_b2 (F_X0_isThing σ2 x2) fun v3 σ4 =>
    if v3 = 0 then
      some ((-1 : Int32), σ4)
    else
      if 0 ≤ x3 then
        (ah_is σ4 1 r0).bind fun u5 =>
        ah_b2 (F_X0_takes1Row σ4 r0 x1) fun v6 σ7 =>
        if 0 ≤ v6 then
          (ah_gI σ7 21 r0).bind fun v8 =>
          if x3 ≤ v8 then
            (ah_gR σ7 19 r0).bind fun v9 =>
            (ah_gR σ7 18 r0).bind fun v10 =>
            (ah_is σ7 5 v9).bind fun u11 =>
            (F_X4_beAs σ7 v9 v10).bind fun σ12 =>
            F_X0_level_58 1000 σ12 r0 x2 x3 (0 : Int32)
          else
            some ((-1 : Int32), σ7)
        else
          (ah_is σ7 1 r0).bind fun u13 =>
          ah_b2 (F_X0_lookAt σ7 r0 x1) fun v14 σ15 =>
          some (v14, σ15)
      else
        some ((-1 : Int32), σ4)
def F_X0_lossOfRow_15  : Nat → ah_S → Option Nat → Int32 → Int32 → Option (Int32 × ah_S)
  | 0, _, _, _, _ => none
  | n + 1, σ, r0, x1, x2 =>
    (ah_gI σ 21 r0).bind fun v1 =>
    if v1 ≤ x2 then
      some (x1, σ)
    else
      (ah_gR σ 19 r0).bind fun v2 =>
      (ah_gR σ 20 r0).bind fun v3 =>
      (ah_lA σ 101 v3 x2).bind fun v4 =>
      (ah_is σ 5 v2).bind fun u5 =>
      (F_X4_night σ v2 v4).bind fun σ6 =>
      (ah_gR σ6 19 r0).bind fun v7 =>
      (ah_is σ6 5 v7).bind fun u8 =>
      ah_b2 (F_X4_loss σ6 v7) fun v9 σ10 =>
      F_X0_lossOfRow_15 n σ10 r0 (x1 + v9) (x2 + (1 : Int32))
def F_X0_lossOfRow  (σ : ah_S) (r0 : Option Nat) : Option (Int32 × ah_S) :=
  (ah_gR σ 19 r0).bind fun v1 =>
  (ah_gR σ 18 r0).bind fun v2 =>
  (ah_is σ 5 v1).bind fun u3 =>
  (F_X4_beAs σ v1 v2).bind fun σ4 =>
  F_X0_lossOfRow_15 1000 σ4 r0 (0 : Int32) (0 : Int32)
def F_X0_loss  (σ : ah_S) (r0 : Option Nat) (x1 : Int32) : Option (Int32 × ah_S) :=
  (ah_is σ 1 r0).bind fun u1 =>
  ah_b2 (F_X0_takes1Row σ r0 x1) fun v2 σ3 =>
  if 0 ≤ v2 then
    (ah_is σ3 1 r0).bind fun u4 =>
    ah_b2 (F_X0_lossOfRow σ3 r0) fun v5 σ6 =>
    some (v5, σ6)
  else
    some (v2, σ3)
def F_X0_lowest_66  : Nat → ah_S → Option Nat → Int32 → Int32 → Int32 → Option (Int32 × ah_S)
  | 0, _, _, _, _, _ => none
  | n + 1, σ, r0, x2, x3, x4 =>
    (ah_gI σ 21 r0).bind fun v1 =>
    if v1 ≤ x4 then
      some (x3, σ)
    else
      (ah_gR σ 19 r0).bind fun v2 =>
      (ah_gR σ 20 r0).bind fun v3 =>
      (ah_lA σ 101 v3 x4).bind fun v4 =>
      (ah_is σ 5 v2).bind fun u5 =>
      (F_X4_night σ v2 v4).bind fun σ6 =>
      (ah_gR σ6 19 r0).bind fun v7 =>
      (ah_gR σ6 400 v7).bind fun v8 =>
      (ah_lA σ6 101 v8 x2).bind fun v9 =>
      F_X0_lowest_66 n σ6 r0 x2 (if v9 < x3 then v9 else x3) (x4 + (1 : Int32))
def F_X0_lowest  (σ : ah_S) (r0 : Option Nat) (x1 : Int32) (x2 : Int32) : Option (Int32 × ah_S) :=
  ah_b2 (F_X0_isShelf σ x1) fun v1 σ2 =>
  if v1 = 0 then
    some ((-1 : Int32), σ2)
  else
    ah_b2 (F_X0_isThing σ2 x2) fun v3 σ4 =>
    if v3 = 0 then
      some ((-1 : Int32), σ4)
    else
      (ah_is σ4 1 r0).bind fun u5 =>
      ah_b2 (F_X0_takes1Row σ4 r0 x1) fun v6 σ7 =>
      if 0 ≤ v6 then
        (ah_gR σ7 19 r0).bind fun v8 =>
        (ah_gR σ7 18 r0).bind fun v9 =>
        (ah_is σ7 5 v8).bind fun u10 =>
        (F_X4_beAs σ7 v8 v9).bind fun σ11 =>
        (ah_gI σ11 21 r0).bind fun v12 =>
        if v12 = 0 then
          (ah_gR σ11 19 r0).bind fun v13 =>
          (ah_gR σ11 400 v13).bind fun v14 =>
          (ah_lA σ11 101 v14 x2).bind fun v15 =>
          F_X0_lowest_66 1000 σ11 r0 x2 v15 (0 : Int32)
        else
          F_X0_lowest_66 1000 σ11 r0 x2 (99 : Int32) (0 : Int32)
      else
        (ah_is σ7 1 r0).bind fun u16 =>
        ah_b2 (F_X0_lookAt σ7 r0 x1) fun v17 σ18 =>
        some (v17, σ18)
def F_X0_night  (σ : ah_S) (r0 : Option Nat) (x1 : Int32) : Option (Int32 × ah_S) :=
  (ah_is σ 1 r0).bind fun u1 =>
  ah_b2 (F_X0_isGuest σ r0 (x1.toInt64)) fun v2 σ3 =>
  if v2 = 0 then
    some ((-1 : Int32), σ3)
  else
    (ah_gR σ3 18 r0).bind fun v4 =>
    (ah_is σ3 5 v4).bind fun u5 =>
    (F_X4_night σ3 v4 x1).bind fun σ6 =>
    (ah_gR σ6 18 r0).bind fun v7 =>
    (ah_is σ6 5 v7).bind fun u8 =>
    ah_b2 (F_X4_loss σ6 v7) fun v9 σ10 =>
    (ah_gR σ10 33 r0).bind fun v11 =>
    (ah_lA σ10 101 v11 (0 : Int32)).bind fun v12 =>
    (ah_wA σ10 101 v11 (0 : Int32) (v12 + (1 : Int32))).bind fun σ13 =>
    (ah_gR σ13 33 r0).bind fun v14 =>
    (ah_lA σ13 101 v14 (1 : Int32)).bind fun v15 =>
    (ah_wA σ13 101 v14 (1 : Int32) (v15 + v9)).bind fun σ16 =>
    (ah_gR σ16 33 r0).bind fun v17 =>
    (ah_lA σ16 101 v17 (2 : Int32)).bind fun v18 =>
    if v9 ≤ v18 then
      some (v9, σ16)
    else
      (ah_gR σ16 33 r0).bind fun v19 =>
      (ah_wA σ16 101 v19 (2 : Int32) v9).bind fun σ20 =>
      (ah_gR σ20 33 r0).bind fun v21 =>
      (ah_wA σ20 101 v21 (3 : Int32) x1).bind fun σ22 =>
      some (v9, σ22)
def F_X0_staysAbove_17  : Nat → ah_S → Option Nat → Int32 → Int32 → Int32 → Int32 → Int32 → Int32 → Option (Int32 × ah_S)
  | 0, _, _, _, _, _, _, _, _ => none
  | n + 1, σ, r0, x1, x2, x3, x4, x5, x6 =>
    if (60 : Int32) ≤ x6 then
      some ((1 : Int32), σ)
    else
      (ah_gR σ 19 r0).bind fun v1 =>
      (ah_re x6 (x4 + (1 : Int32))).bind fun q2 =>
      if q2 = x4 then
        (ah_is σ 5 v1).bind fun u11 =>
        (F_X4_night σ v1 x1).bind fun σ12 =>
        (ah_gR σ12 19 r0).bind fun v13 =>
        (ah_gR σ12 400 v13).bind fun v14 =>
        (ah_lA σ12 101 v14 x2).bind fun v15 =>
        if x3 ≤ v15 then
          F_X0_staysAbove_17 n σ12 r0 x1 x2 x3 x4 x5 (x6 + (1 : Int32))
        else
          some ((0 : Int32), σ12)
      else
        (ah_is σ 1 r0).bind fun u3 =>
        ah_b2 (F_X0_comesAt σ r0 x5) fun v4 σ5 =>
        (ah_is σ5 5 v1).bind fun u6 =>
        (F_X4_night σ5 v1 v4).bind fun σ7 =>
        (ah_gR σ7 19 r0).bind fun v8 =>
        (ah_gR σ7 400 v8).bind fun v9 =>
        (ah_lA σ7 101 v9 x2).bind fun v10 =>
        if x3 ≤ v10 then
          F_X0_staysAbove_17 n σ7 r0 x1 x2 x3 x4 (x5 + (1 : Int32)) (x6 + (1 : Int32))
        else
          some ((0 : Int32), σ7)
def F_X0_staysAbove  (σ : ah_S) (r0 : Option Nat) (x1 : Int32) (x2 : Int32) (x3 : Int32) (x4 : Int32) : Option (Int32 × ah_S) :=
  (ah_gR σ 19 r0).bind fun v1 =>
  (ah_gR σ 18 r0).bind fun v2 =>
  (ah_is σ 5 v1).bind fun u3 =>
  (F_X4_beAs σ v1 v2).bind fun σ4 =>
  F_X0_staysAbove_17 1000 σ4 r0 x1 x2 x3 x4 (0 : Int32) (0 : Int32)
def F_X0_often_47  : Nat → ah_S → Option Nat → Int32 → Int32 → Int32 → Option (Int32 × ah_S)
  | 0, _, _, _, _, _ => none
  | n + 1, σ, r0, x2, x3, x4 =>
    if x4 ≤ 0 then
      some ((-2 : Int32), σ)
    else
      (ah_di x2 (10 : Int32)).bind fun q1 =>
      (ah_re x2 (10 : Int32)).bind fun q2 =>
      (ah_is σ 1 r0).bind fun u3 =>
      ah_b2 (F_X0_staysAbove σ r0 q1 q2 x3 x4) fun v4 σ5 =>
      if v4 = 0 then
        F_X0_often_47 n σ5 r0 x2 x3 (x4 + (-1 : Int32))
      else
        some (x4, σ5)
def F_X0_often  (σ : ah_S) (r0 : Option Nat) (x1 : Int32) (x2 : Int32) (x3 : Int32) : Option (Int32 × ah_S) :=
  ah_b2 (F_X0_isShelf σ x1) fun v1 σ2 =>
  if v1 = 0 then
    some ((-1 : Int32), σ2)
  else
    (ah_is σ2 1 r0).bind fun u3 =>
    ah_b2 (F_X0_isGt σ2 r0 x2) fun v4 σ5 =>
    if v4 = 0 then
      some ((-1 : Int32), σ5)
    else
      ah_b2 (F_X0_within σ5 (x3.toInt64) (0 : Int64) (99 : Int64)) fun v6 σ7 =>
      if v6 = 0 then
        some ((-1 : Int32), σ7)
      else
        (ah_is σ7 1 r0).bind fun u8 =>
        ah_b2 (F_X0_takes1Row σ7 r0 x1) fun v9 σ10 =>
        if 0 ≤ v9 then
          F_X0_often_47 1000 σ10 r0 x2 x3 (12 : Int32)
        else
          (ah_is σ10 1 r0).bind fun u11 =>
          ah_b2 (F_X0_lookAt σ10 r0 x1) fun v12 σ13 =>
          some (v12, σ13)
def F_X0_rest  (σ : ah_S) (r0 : Option Nat) (x1 : Int32) (x2 : Int32) : Option (Int32 × ah_S) :=
  ah_b2 (F_X0_isShelf σ x1) fun v1 σ2 =>
  if v1 = 0 then
    some ((-1 : Int32), σ2)
  else
    ah_b2 (F_X0_within σ2 (x2.toInt64) (0 : Int64) (5 : Int64)) fun v3 σ4 =>
    if v3 = 0 then
      some ((-1 : Int32), σ4)
    else
      (ah_is σ4 1 r0).bind fun u5 =>
      ah_b2 (F_X0_takes1Row σ4 r0 x1) fun v6 σ7 =>
      if 0 ≤ v6 then
        (ah_is σ7 1 r0).bind fun u8 =>
        ah_b2 (F_X0_findRest σ7 r0) fun v9 σ10 =>
        if v9 = 0 then
          some ((-2 : Int32), σ10)
        else
          if x2 = 0 then
            (ah_gI σ10 23 r0).bind fun v15 =>
            some (v15, σ10)
          else
            if x2 = (1 : Int32) then
              (ah_gI σ10 24 r0).bind fun v14 =>
              some (v14, σ10)
            else
              (ah_gR σ10 22 r0).bind fun v11 =>
              (ah_gI σ10 23 r0).bind fun v12 =>
              (ah_lA σ10 101 v11 ((v12 * (37 : Int32)) + ((2 : Int32) * (x2 - (2 : Int32))))).bind fun v13 =>
              some (v13, σ10)
      else
        (ah_is σ7 1 r0).bind fun u16 =>
        ah_b2 (F_X0_lookAt σ7 r0 x1) fun v17 σ18 =>
        some (v17, σ18)
def F_X0_since_60  : Nat → ah_S → Option Nat → Int32 → Int32 → Int32 → Int32 → Option (Int32 × ah_S)
  | 0, _, _, _, _, _, _ => none
  | n + 1, σ, r0, x2, x3, x4, x5 =>
    (ah_gI σ 21 r0).bind fun v1 =>
    if v1 ≤ x5 then
      some (x4, σ)
    else
      (ah_gR σ 19 r0).bind fun v2 =>
      (ah_gR σ 20 r0).bind fun v3 =>
      (ah_lA σ 101 v3 x5).bind fun v4 =>
      (ah_is σ 5 v2).bind fun u5 =>
      (F_X4_night σ v2 v4).bind fun σ6 =>
      (ah_gR σ6 19 r0).bind fun v7 =>
      (ah_is σ6 5 v7).bind fun u8 =>
      ah_b2 (F_X4_lacks σ6 v7 x2) fun v9 σ10 =>
      if x3 < v9 then
        F_X0_since_60 n σ10 r0 x2 x3 x4 (x5 + (1 : Int32))
      else
        F_X0_since_60 n σ10 r0 x2 x3 x5 (x5 + (1 : Int32))
def F_X0_since  (σ : ah_S) (r0 : Option Nat) (x1 : Int32) (x2 : Int32) (x3 : Int32) : Option (Int32 × ah_S) :=
  ah_b2 (F_X0_isShelf σ x1) fun v1 σ2 =>
  if v1 = 0 then
    some ((-1 : Int32), σ2)
  else
    ah_b2 (F_X0_isThing σ2 x2) fun v3 σ4 =>
    if v3 = 0 then
      some ((-1 : Int32), σ4)
    else
      ah_b2 (F_X0_within σ4 (x3.toInt64) (0 : Int64) (99 : Int64)) fun v5 σ6 =>
      if v5 = 0 then
        some ((-1 : Int32), σ6)
      else
        (ah_is σ6 1 r0).bind fun u7 =>
        ah_b2 (F_X0_takes1Row σ6 r0 x1) fun v8 σ9 =>
        if 0 ≤ v8 then
          (ah_gR σ9 19 r0).bind fun v10 =>
          (ah_gR σ9 18 r0).bind fun v11 =>
          (ah_is σ9 5 v10).bind fun u12 =>
          (F_X4_beAs σ9 v10 v11).bind fun σ13 =>
          F_X0_since_60 1000 σ13 r0 x2 x3 (-2 : Int32) (0 : Int32)
        else
          (ah_is σ9 1 r0).bind fun u14 =>
          ah_b2 (F_X0_lookAt σ9 r0 x1) fun v15 σ16 =>
          some (v15, σ16)
def F_X0_spoils_103 (k75 : ah_S → Option Nat → Int32 → Int32 → Int32 → Int32 → Int32 → Int32 → Option (Int32 × ah_S)) (σ : ah_S) (r0 : Option Nat) (x2 : Int32) (x3 : Int32) (x4 : Int32) (x5 : Int32) (x7 : Int32) (y0 : Int32) (y1 : Int32) : Option (Int32 × ah_S) :=
  (ah_gR σ 20 r0).bind fun v1 =>
  (ah_gR σ 25 r0).bind fun v2 =>
  (ah_lA σ 101 v2 x7).bind fun v3 =>
  if v3 = x5 then
    (ah_wA σ 101 v1 x7 (-1 : Int32)).bind fun σ7 =>
    k75 σ7 r0 x2 x3 x4 x5 (y0 ||| y1) (x7 + (1 : Int32))
  else
    (ah_gR σ 25 r0).bind fun v4 =>
    (ah_lA σ 101 v4 x7).bind fun v5 =>
    (ah_wA σ 101 v1 x7 v5).bind fun σ6 =>
    k75 σ6 r0 x2 x3 x4 x5 (y0 ||| y1) (x7 + (1 : Int32))
def F_X0_spoils_75 (k60 : ah_S → Option Nat → Int32 → Int32 → Int32 → Int32 → Option (Int32 × ah_S)) : Nat → ah_S → Option Nat → Int32 → Int32 → Int32 → Int32 → Int32 → Int32 → Option (Int32 × ah_S)
  | 0, _, _, _, _, _, _, _, _ => none
  | n + 1, σ, r0, x2, x3, x4, x5, x6, x7 =>
    (ah_gI σ 21 r0).bind fun v1 =>
    if v1 ≤ x7 then
      if x6 = 0 then
        k60 σ r0 x2 x3 x4 (x5 + (1 : Int32))
      else
        (ah_is σ 1 r0).bind fun u2 =>
        ah_b2 (F_X0_lossOfRow σ r0) fun v3 σ4 =>
        if x3 = (-2 : Int32) then
          k60 σ4 r0 x2 x5 v3 (x5 + (1 : Int32))
        else
          if v3 < x4 then
            k60 σ4 r0 x2 x5 v3 (x5 + (1 : Int32))
          else
            k60 σ4 r0 x2 x3 x4 (x5 + (1 : Int32))
    else
      (ah_gR σ 25 r0).bind fun v5 =>
      (ah_lA σ 101 v5 x7).bind fun v6 =>
      if v6 = x5 then
        F_X0_spoils_103 (F_X0_spoils_75 k60 n) σ r0 x2 x3 x4 x5 x7 x6 (1 : Int32)
      else
        F_X0_spoils_103 (F_X0_spoils_75 k60 n) σ r0 x2 x3 x4 x5 x7 x6 (0 : Int32)
def F_X0_spoils_60  : Nat → ah_S → Option Nat → Int32 → Int32 → Int32 → Int32 → Option (Int32 × ah_S)
  | 0, _, _, _, _, _, _ => none
  | n + 1, σ, r0, x2, x3, x4, x5 =>
    (ah_gI σ 8 r0).bind fun v1 =>
    if v1 ≤ x5 then
      if x2 = 0 then
        some (x3, σ)
      else
        some (x4, σ)
    else
      F_X0_spoils_75 (F_X0_spoils_60 n) 1000 σ r0 x2 x3 x4 x5 (0 : Int32) (0 : Int32)
def F_X0_spoils  (σ : ah_S) (r0 : Option Nat) (x1 : Int32) (x2 : Int32) : Option (Int32 × ah_S) :=
  ah_b2 (F_X0_isShelf σ x1) fun v1 σ2 =>
  if v1 = 0 then
    some ((-1 : Int32), σ2)
  else
    ah_b2 (F_X0_within σ2 (x2.toInt64) (0 : Int64) (1 : Int64)) fun v3 σ4 =>
    if v3 = 0 then
      some ((-1 : Int32), σ4)
    else
      (ah_is σ4 1 r0).bind fun u5 =>
      ah_b2 (F_X0_takes1Row σ4 r0 x1) fun v6 σ7 =>
      if 0 ≤ v6 then
        (ah_gR σ7 20 r0).bind fun v8 =>
        (ah_gR σ7 25 r0).bind fun v9 =>
        (ah_gI σ7 21 r0).bind fun v10 =>
        (ah_cp σ7 v8 (0 : Int32) v9 (0 : Int32) v10).bind fun σ11 =>
        F_X0_spoils_60 1000 σ11 r0 x2 (-2 : Int32) (-2 : Int32) (0 : Int32)
      else
        (ah_is σ7 1 r0).bind fun u12 =>
        ah_b2 (F_X0_lookAt σ7 r0 x1) fun v13 σ14 =>
        some (v13, σ14)
def F_X0_tin_97 (k43 : ah_S → Option Nat → Int32 → Option Nat → Int64 → Int32 → Option (Int64 × ah_S)) : Nat → ah_S → Option Nat → Int32 → Option Nat → Int64 → Int32 → Int32 → Option (Int64 × ah_S)
  | 0, _, _, _, _, _, _, _ => none
  | n + 1, σ, r0, x2, r3, l4, x6, x7 =>
    if (4 : Int32) ≤ x7 then
      k43 σ r0 x2 r3 l4 (x6 + (1 : Int32))
    else
      (ah_gR σ 19 r0).bind fun v1 =>
      (ah_is σ 5 v1).bind fun u2 =>
      ah_b2 (F_X4_lacks σ v1 x7) fun v3 σ4 =>
      (ah_lA σ4 101 r3 x7).bind fun v5 =>
      (ah_gR σ4 10 r0).bind fun v6 =>
      (ah_lQ σ4 113 v6 x7).bind fun v7 =>
      (ah_gI σ4 200 v7).bind fun v8 =>
      F_X0_tin_97 k43 n σ4 r0 x2 r3 (l4 + (((if (0 : Int32) < (v3 - v5) then (v3 - v5) else (0 : Int32)) * v8).toInt64)) x6 (x7 + (1 : Int32))
def F_X0_tin_55 (k43 : ah_S → Option Nat → Int32 → Option Nat → Int64 → Int32 → Option (Int64 × ah_S)) : Nat → ah_S → Option Nat → Int32 → Option Nat → Int64 → Int32 → Int32 → Option (Int64 × ah_S)
  | 0, _, _, _, _, _, _, _ => none
  | n + 1, σ, r0, x2, r3, l4, x6, x7 =>
    if (4 : Int32) ≤ x7 then
      (ah_gR σ 19 r0).bind fun v1 =>
      (ah_gR σ 20 r0).bind fun v2 =>
      (ah_lA σ 101 v2 x6).bind fun v3 =>
      (ah_is σ 5 v1).bind fun u4 =>
      (F_X4_night σ v1 v3).bind fun σ5 =>
      F_X0_tin_97 k43 1000 σ5 r0 x2 r3 l4 x6 (0 : Int32)
    else
      (ah_gR σ 19 r0).bind fun v6 =>
      (ah_is σ 5 v6).bind fun u7 =>
      ah_b2 (F_X4_lacks σ v6 x7) fun v8 σ9 =>
      (ah_wA σ9 101 r3 x7 v8).bind fun σ10 =>
      F_X0_tin_55 k43 n σ10 r0 x2 r3 l4 x6 (x7 + (1 : Int32))
def F_X0_tin_43  : Nat → ah_S → Option Nat → Int32 → Option Nat → Int64 → Int32 → Option (Int64 × ah_S)
  | 0, _, _, _, _, _, _ => none
  | n + 1, σ, r0, x2, r3, l4, x6 =>
    (ah_gI σ 21 r0).bind fun v1 =>
    if v1 ≤ x6 then
      (ah_gR σ 13 r0).bind fun v2 =>
      (ah_gI σ 200 v2).bind fun v3 =>
      ah_b2 (F_X0_partOf σ (l4 * (v3.toInt64)) (12 : Int64) x2) fun v4 σ5 =>
      some (v4, σ5)
    else
      F_X0_tin_55 (F_X0_tin_43 n) 1000 σ r0 x2 r3 l4 x6 (0 : Int32)
def F_X0_tin  (σ : ah_S) (r0 : Option Nat) (x1 : Int32) (x2 : Int32) : Option (Int64 × ah_S) :=
  ah_b2 (F_X0_within σ (x2.toInt64) (0 : Int64) (1 : Int64)) fun v1 σ2 =>
  if v1 = 0 then
    some ((-9223372036854775808 : Int64), σ2)
  else
    (ah_is σ2 1 r0).bind fun u3 =>
    ah_b2 (F_X0_takes1Row σ2 r0 x1) fun v4 σ5 =>
    if 0 ≤ v4 then
      (ah_gR σ5 19 r0).bind fun v6 =>
      (ah_gR σ5 18 r0).bind fun v7 =>
      (ah_is σ5 5 v6).bind fun u8 =>
      (F_X4_beAs σ5 v6 v7).bind fun σ9 =>
      (ah_mA σ9 101 (4 : Int32)).bind fun σ10 =>
      F_X0_tin_43 1000 σ10 r0 x2 (some (ah_nx σ9)) (0 : Int64) (0 : Int32)
    else
      some ((-9223372036854775808 : Int64), σ5)
def F_X0_wardenCost_72 (k15 : ah_S → Option Nat → Int32 → Int32 → Int32 → Option (Int32 × ah_S)) : Nat → ah_S → Option Nat → Int32 → Int32 → Int32 → Int32 → Option (Int32 × ah_S)
  | 0, _, _, _, _, _, _ => none
  | n + 1, σ, r0, x1, x2, x3, x4 =>
    if (4 : Int32) ≤ x4 then
      k15 σ r0 x1 x2 (x3 + (1 : Int32))
    else
      (ah_gR σ 19 r0).bind fun v1 =>
      (ah_gR σ 400 v1).bind fun v2 =>
      (ah_gR σ 9 r0).bind fun v3 =>
      (ah_lQ σ 113 v3 x4).bind fun v4 =>
      (ah_gI σ 200 v4).bind fun v5 =>
      (ah_wA σ 101 v2 x4 v5).bind fun σ6 =>
      F_X0_wardenCost_72 k15 n σ6 r0 x1 x2 x3 (x4 + (1 : Int32))
def F_X0_wardenCost_15  : Nat → ah_S → Option Nat → Int32 → Int32 → Int32 → Option (Int32 × ah_S)
  | 0, _, _, _, _, _ => none
  | n + 1, σ, r0, x1, x2, x3 =>
    if (60 : Int32) ≤ x3 then
      some (x2, σ)
    else
      (ah_gR σ 19 r0).bind fun v1 =>
      (ah_is σ 1 r0).bind fun u2 =>
      ah_b2 (F_X0_comesAt σ r0 x3) fun v3 σ4 =>
      (ah_is σ4 5 v1).bind fun u5 =>
      (F_X4_night σ4 v1 v3).bind fun σ6 =>
      (ah_gR σ6 19 r0).bind fun v7 =>
      (ah_is σ6 5 v7).bind fun u8 =>
      ah_b2 (F_X4_loss σ6 v7) fun v9 σ10 =>
      if x1 = (-1 : Int32) then
        F_X0_wardenCost_15 n σ10 r0 x1 (x2 + v9) (x3 + (1 : Int32))
      else
        (ah_re (x3 + (1 : Int32)) x1).bind fun q11 =>
        if q11 = 0 then
          (ah_gR σ10 12 r0).bind fun v12 =>
          (ah_gI σ10 200 v12).bind fun v13 =>
          F_X0_wardenCost_72 (F_X0_wardenCost_15 n) 1000 σ10 r0 x1 ((x2 + v9) + v13) x3 (0 : Int32)
        else
          F_X0_wardenCost_15 n σ10 r0 x1 (x2 + v9) (x3 + (1 : Int32))
def F_X0_wardenCost  (σ : ah_S) (r0 : Option Nat) (x1 : Int32) : Option (Int32 × ah_S) :=
  (ah_gR σ 19 r0).bind fun v1 =>
  (ah_gR σ 18 r0).bind fun v2 =>
  (ah_is σ 5 v1).bind fun u3 =>
  (F_X4_beAs σ v1 v2).bind fun σ4 =>
  F_X0_wardenCost_15 1000 σ4 r0 x1 (0 : Int32) (0 : Int32)
def F_X0_warden_39  : Nat → ah_S → Option Nat → Int32 → Int32 → Int32 → Int32 → Option (Int32 × ah_S)
  | 0, _, _, _, _, _, _ => none
  | n + 1, σ, r0, x2, x3, x4, x5 =>
    if x5 ≤ 0 then
      if x2 = 0 then
        some (x3, σ)
      else
        if x2 = (1 : Int32) then
          some (x4, σ)
        else
          (ah_is σ 1 r0).bind fun u1 =>
          ah_b2 (F_X0_wardenCost σ r0 (-1 : Int32)) fun v2 σ3 =>
          some ((v2 - x4), σ3)
    else
      (ah_is σ 1 r0).bind fun u4 =>
      ah_b2 (F_X0_wardenCost σ r0 x5) fun v5 σ6 =>
      if v5 < x4 then
        F_X0_warden_39 n σ6 r0 x2 x5 v5 (x5 + (-1 : Int32))
      else
        F_X0_warden_39 n σ6 r0 x2 x3 x4 (x5 + (-1 : Int32))
def F_X0_warden  (σ : ah_S) (r0 : Option Nat) (x1 : Int32) (x2 : Int32) : Option (Int32 × ah_S) :=
  ah_b2 (F_X0_within σ (x2.toInt64) (0 : Int64) (2 : Int64)) fun v1 σ2 =>
  if v1 = 0 then
    some ((-2000000000 : Int32), σ2)
  else
    (ah_is σ2 1 r0).bind fun u3 =>
    ah_b2 (F_X0_takes1Row σ2 r0 x1) fun v4 σ5 =>
    if 0 ≤ v4 then
      (ah_is σ5 1 r0).bind fun u6 =>
      ah_b2 (F_X0_wardenCost σ5 r0 (20 : Int32)) fun v7 σ8 =>
      F_X0_warden_39 1000 σ8 r0 x2 (20 : Int32) v7 (19 : Int32)
    else
      some ((-2000000000 : Int32), σ5)
def F_X0_tryOrders_8 (f_X0_tryOrders : ah_S → Option Nat → Int32 → Int32 → Int32 → Option ah_S) : Nat → ah_S → Option Nat → Int32 → Int32 → Option ah_S
  | 0, _, _, _, _ => none
  | n + 1, σ, r0, x3, x4 =>
    if x3 ≤ x4 then
      (ah_is σ 1 r0).bind fun u1 =>
      ah_b2 (F_X0_lossOfRow σ r0) fun v2 σ3 =>
      (ah_gI σ3 28 r0).bind fun v4 =>
      if v4 < 0 then
        (ah_pI σ3 28 r0 v2).bind fun σ5 =>
        (ah_gR σ5 26 r0).bind fun v6 =>
        (ah_gR σ5 27 r0).bind fun v7 =>
        (ah_cp σ5 v6 (0 : Int32) v7 (0 : Int32) x3).bind fun σ8 =>
        some σ8
      else
        (ah_gI σ3 28 r0).bind fun v9 =>
        if v2 < v9 then
          (ah_pI σ3 28 r0 v2).bind fun σ10 =>
          (ah_gR σ10 26 r0).bind fun v11 =>
          (ah_gR σ10 27 r0).bind fun v12 =>
          (ah_cp σ10 v11 (0 : Int32) v12 (0 : Int32) x3).bind fun σ13 =>
          some σ13
        else
          some σ3
    else
      (ah_gR σ 20 r0).bind fun v14 =>
      (ah_gR σ 25 r0).bind fun v15 =>
      (ah_gR σ 26 r0).bind fun v16 =>
      (ah_lA σ 101 v16 x4).bind fun v17 =>
      (ah_lA σ 101 v15 v17).bind fun v18 =>
      (ah_wA σ 101 v14 x4 v18).bind fun σ19 =>
      F_X0_tryOrders_8 f_X0_tryOrders n σ19 r0 x3 (x4 + (1 : Int32))
def F_X0_tryOrders_86 (f_X0_tryOrders : ah_S → Option Nat → Int32 → Int32 → Int32 → Option ah_S) : Nat → ah_S → Option Nat → Int32 → Int32 → Int32 → Int32 → Option ah_S
  | 0, _, _, _, _, _, _ => none
  | n + 1, σ, r0, x1, x2, x3, x4 =>
    if x3 ≤ x4 then
      some σ
    else
      ah_b2 (F_X0_isIn σ x2 x4) fun v1 σ2 =>
      if v1 = 0 then
        (ah_gR σ2 26 r0).bind fun v3 =>
        (ah_wA σ2 101 v3 x1 x4).bind fun σ4 =>
        (ah_is σ4 1 r0).bind fun u5 =>
        (f_X0_tryOrders σ4 r0 (x1 + (1 : Int32)) (x2 ||| ((1 : Int32) <<< (x4 &&& 31))) x3).bind fun σ6 =>
        F_X0_tryOrders_86 f_X0_tryOrders n σ6 r0 x1 x2 x3 (x4 + (1 : Int32))
      else
        F_X0_tryOrders_86 f_X0_tryOrders n σ2 r0 x1 x2 x3 (x4 + (1 : Int32))
def F_X0_tryOrders (f_X0_tryOrders : ah_S → Option Nat → Int32 → Int32 → Int32 → Option ah_S) (σ : ah_S) (r0 : Option Nat) (x1 : Int32) (x2 : Int32) (x3 : Int32) : Option ah_S :=
  if x1 = x3 then
    F_X0_tryOrders_8 f_X0_tryOrders 1000 σ r0 x3 (0 : Int32)
  else
    F_X0_tryOrders_86 f_X0_tryOrders 1000 σ r0 x1 x2 x3 (0 : Int32)
def Z_X0_tryOrders : Nat → ah_S → Option Nat → Int32 → Int32 → Int32 → Option ah_S
  | 0, _, _, _, _, _ => none
  | d + 1, σ, r0, x1, x2, x3 => F_X0_tryOrders (Z_X0_tryOrders d) σ r0 x1 x2 x3
def F_X0_goDeeper_19 (f_X0_goDeeper : ah_S → Option Nat → Option Nat → Int32 → Int32 → Int32 → Option ah_S) : Nat → ah_S → Option Nat → Int32 → Int32 → Option ah_S
  | 0, _, _, _, _ => none
  | n + 1, σ, r0, x4, x5 =>
    if x4 ≤ x5 then
      some σ
    else
      (ah_gR σ 30 r0).bind fun v1 =>
      (ah_lA σ 101 v1 x5).bind fun v2 =>
      (ah_gR σ 31 r0).bind fun v3 =>
      (ah_lA σ 101 v3 x5).bind fun v4 =>
      (ah_wA σ 101 v1 x5 (v2 ||| v4)).bind fun σ5 =>
      F_X0_goDeeper_19 f_X0_goDeeper n σ5 r0 x4 (x5 + (1 : Int32))
def F_X0_goDeeper_121 (f_X0_goDeeper : ah_S → Option Nat → Option Nat → Int32 → Int32 → Int32 → Option ah_S) (k53 : ah_S → Option Nat → Option Nat → Int32 → Int32 → Int32 → Int32 → Option ah_S) (σ : ah_S) (r0 : Option Nat) (r1 : Option Nat) (x2 : Int32) (x3 : Int32) (x4 : Int32) (x5 : Int32) : Option ah_S :=
  (ah_gR σ 31 r0).bind fun v1 =>
  if x5 = (-1 : Int32) then
    (ah_wA σ 101 v1 x3 (128 : Int32)).bind fun σ5 =>
    (ah_is σ5 1 r0).bind fun u6 =>
    (f_X0_goDeeper σ5 r0 r1 x2 (x3 + (1 : Int32)) x4).bind fun σ7 =>
    k53 σ7 r0 r1 x2 x3 x4 (x5 + (1 : Int32))
  else
    (ah_wA σ 101 v1 x3 ((1 : Int32) <<< (x5 &&& 31))).bind fun σ2 =>
    (ah_is σ2 1 r0).bind fun u3 =>
    (f_X0_goDeeper σ2 r0 r1 x2 (x3 + (1 : Int32)) x4).bind fun σ4 =>
    k53 σ4 r0 r1 x2 x3 x4 (x5 + (1 : Int32))
def F_X0_goDeeper_53 (f_X0_goDeeper : ah_S → Option Nat → Option Nat → Int32 → Int32 → Int32 → Option ah_S) : Nat → ah_S → Option Nat → Option Nat → Int32 → Int32 → Int32 → Int32 → Option ah_S
  | 0, _, _, _, _, _, _, _ => none
  | n + 1, σ, r0, r1, x2, x3, x4, x5 =>
    (ah_gI σ 8 r0).bind fun v1 =>
    if v1 ≤ x5 then
      some σ
    else
      (ah_gR σ 29 r0).bind fun v2 =>
      (ah_lQ σ 114 v2 (x3 + (1 : Int32))).bind fun v3 =>
      (ah_gR σ 29 r0).bind fun v4 =>
      (ah_lQ σ 114 v4 x3).bind fun v5 =>
      (ah_is σ 5 v3).bind fun u6 =>
      (F_X4_beAs σ v3 v5).bind fun σ7 =>
      (ah_gR σ7 29 r0).bind fun v8 =>
      (ah_lQ σ7 114 v8 (x3 + (1 : Int32))).bind fun v9 =>
      (ah_is σ7 5 v9).bind fun u10 =>
      (F_X4_night σ7 v9 x5).bind fun σ11 =>
      (ah_lA σ11 102 r1 x3).bind fun v12 =>
      if v12 = (-1 : Int32) then
        F_X0_goDeeper_121 f_X0_goDeeper (F_X0_goDeeper_53 f_X0_goDeeper n) σ11 r0 r1 x2 x3 x4 x5
      else
        (ah_lA σ11 102 r1 x3).bind fun v13 =>
        (ah_gR σ11 29 r0).bind fun v14 =>
        (ah_lQ σ11 114 v14 (x3 + (1 : Int32))).bind fun v15 =>
        (ah_gR σ11 400 v15).bind fun v16 =>
        (ah_lA σ11 101 v16 x2).bind fun v17 =>
        if v13 = v17 then
          F_X0_goDeeper_121 f_X0_goDeeper (F_X0_goDeeper_53 f_X0_goDeeper n) σ11 r0 r1 x2 x3 x4 x5
        else
          F_X0_goDeeper_53 f_X0_goDeeper n σ11 r0 r1 x2 x3 x4 (x5 + (1 : Int32))
def F_X0_goDeeper (f_X0_goDeeper : ah_S → Option Nat → Option Nat → Int32 → Int32 → Int32 → Option ah_S) (σ : ah_S) (r0 : Option Nat) (r1 : Option Nat) (x2 : Int32) (x3 : Int32) (x4 : Int32) : Option ah_S :=
  if x3 = x4 then
    (ah_gI σ 32 r0).bind fun v1 =>
    (ah_pI σ 32 r0 (v1 + (1 : Int32))).bind fun σ2 =>
    F_X0_goDeeper_19 f_X0_goDeeper 1000 σ2 r0 x4 (0 : Int32)
  else
    F_X0_goDeeper_53 f_X0_goDeeper 1000 σ r0 r1 x2 x3 x4 (-1 : Int32)
def Z_X0_goDeeper : Nat → ah_S → Option Nat → Option Nat → Int32 → Int32 → Int32 → Option ah_S
  | 0, _, _, _, _, _, _ => none
  | d + 1, σ, r0, r1, x2, x3, x4 => F_X0_goDeeper (Z_X0_goDeeper d) σ r0 r1 x2 x3 x4
def F_X0_order  (σ : ah_S) (r0 : Option Nat) (x1 : Int32) (x2 : Int32) : Option (Int32 × ah_S) :=
  ah_b2 (F_X0_isShelf σ x1) fun v1 σ2 =>
  if v1 = 0 then
    some ((-1 : Int32), σ2)
  else
    if (-1 : Int32) ≤ x2 then
      (ah_is σ2 1 r0).bind fun u3 =>
      ah_b2 (F_X0_takes1Row σ2 r0 x1) fun v4 σ5 =>
      if 0 ≤ v4 then
        (ah_gR σ5 20 r0).bind fun v6 =>
        (ah_gR σ5 25 r0).bind fun v7 =>
        (ah_gI σ5 21 r0).bind fun v8 =>
        (ah_cp σ5 v6 (0 : Int32) v7 (0 : Int32) v8).bind fun σ9 =>
        (ah_gI σ9 21 r0).bind fun v10 =>
        (ah_pI σ9 28 r0 (-1 : Int32)).bind fun σ11 =>
        (ah_is σ11 1 r0).bind fun u12 =>
        (Z_X0_tryOrders 10 σ11 r0 (0 : Int32) (0 : Int32) (if v10 < (5 : Int32) then v10 else (5 : Int32))).bind fun σ13 =>
        if x2 = (-1 : Int32) then
          (ah_gI σ13 28 r0).bind fun v16 =>
          some (v16, σ13)
        else
          if (if v10 < (5 : Int32) then v10 else (5 : Int32)) ≤ x2 then
            some ((-2 : Int32), σ13)
          else
            (ah_gR σ13 27 r0).bind fun v14 =>
            (ah_lA σ13 101 v14 x2).bind fun v15 =>
            some (v15, σ13)
      else
        (ah_is σ5 1 r0).bind fun u17 =>
        ah_b2 (F_X0_lookAt σ5 r0 x1) fun v18 σ19 =>
        some (v18, σ19)
    else
      some ((-1 : Int32), σ2)
def F_X0_readBack_7  : Nat → ah_S → Option Nat → Option Nat → Int32 → Int32 → Option ah_S
  | 0, _, _, _, _, _ => none
  | n + 1, σ, r0, r1, x2, x3 =>
    if (6 : Int32) ≤ x3 then
      (ah_gR σ 29 r0).bind fun v1 =>
      (ah_lQ σ 114 v1 (0 : Int32)).bind fun v2 =>
      (ah_gR σ 18 r0).bind fun v3 =>
      (ah_is σ 5 v2).bind fun u4 =>
      (F_X4_beAs σ v2 v3).bind fun σ5 =>
      (ah_al_ σ5 r1).bind fun v6 =>
      (ah_is σ5 1 r0).bind fun u7 =>
      (Z_X0_goDeeper 10 σ5 r0 r1 x2 (0 : Int32) (if v6 < (6 : Int32) then v6 else (6 : Int32))).bind fun σ8 =>
      some σ8
    else
      (ah_gR σ 30 r0).bind fun v9 =>
      (ah_wA σ 101 v9 x3 (0 : Int32)).bind fun σ10 =>
      F_X0_readBack_7 n σ10 r0 r1 x2 (x3 + (1 : Int32))
def F_X0_readBack  (σ : ah_S) (r0 : Option Nat) (r1 : Option Nat) (x2 : Int32) : Option ah_S :=
  (ah_pI σ 32 r0 (0 : Int32)).bind fun σ1 =>
  F_X0_readBack_7 1000 σ1 r0 r1 x2 (0 : Int32)
def F_X0_ways  (σ : ah_S) (r0 : Option Nat) (x1 : Int32) (x2 : Int32) : Option (Int32 × ah_S) :=
  ah_b2 (F_X0_isShelf σ x1) fun v1 σ2 =>
  if v1 = 0 then
    some ((-1 : Int32), σ2)
  else
    ah_b2 (F_X0_isThing σ2 x2) fun v3 σ4 =>
    if v3 = 0 then
      some ((-1 : Int32), σ4)
    else
      (ah_is σ4 1 r0).bind fun u5 =>
      ah_b2 (F_X0_lookAt σ4 r0 x1) fun v6 σ7 =>
      if 0 ≤ v6 then
        (ah_gR σ7 41 r0).bind fun v8 =>
        (ah_lQ σ7 116 v8 x1).bind fun v9 =>
        (ah_ca σ7 102 v9).bind fun u10 =>
        (ah_is σ7 1 r0).bind fun u11 =>
        (F_X0_readBack σ7 r0 v9 x2).bind fun σ12 =>
        (ah_gI σ12 32 r0).bind fun v13 =>
        some (v13, σ12)
      else
        (ah_is σ7 1 r0).bind fun u14 =>
        ah_b2 (F_X0_lookAt σ7 r0 x1) fun v15 σ16 =>
        some (v15, σ16)
def F_X0_who  (σ : ah_S) (r0 : Option Nat) (x1 : Int32) (x2 : Int32) (x3 : Int32) : Option (Int32 × ah_S) :=
  ah_b2 (F_X0_isShelf σ x1) fun v1 σ2 =>
  if v1 = 0 then
    some ((-1 : Int32), σ2)
  else
    ah_b2 (F_X0_isThing σ2 x2) fun v3 σ4 =>
    if v3 = 0 then
      some ((-1 : Int32), σ4)
    else
      ah_b2 (F_X0_within σ4 (x3.toInt64) (0 : Int64) (5 : Int64)) fun v5 σ6 =>
      if v5 = 0 then
        some ((-1 : Int32), σ6)
      else
        (ah_is σ6 1 r0).bind fun u7 =>
        ah_b2 (F_X0_lookAt σ6 r0 x1) fun v8 σ9 =>
        if 0 ≤ v8 then
          (ah_gR σ9 41 r0).bind fun v10 =>
          (ah_lQ σ9 116 v10 x1).bind fun v11 =>
          (ah_ca σ9 102 v11).bind fun u12 =>
          (ah_al_ σ9 v11).bind fun v13 =>
          if x3 < v13 then
            (ah_is σ9 1 r0).bind fun u14 =>
            (F_X0_readBack σ9 r0 v11 x2).bind fun σ15 =>
            (ah_gR σ15 30 r0).bind fun v16 =>
            (ah_lA σ15 101 v16 x3).bind fun v17 =>
            some (v17, σ15)
          else
            some ((-1 : Int32), σ9)
        else
          (ah_is σ9 1 r0).bind fun u18 =>
          ah_b2 (F_X0_lookAt σ9 r0 x1) fun v19 σ20 =>
          some (v19, σ20)
