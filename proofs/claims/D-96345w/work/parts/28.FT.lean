def F_X0_expect  (σ : ah_S) (r0 : Option Nat) (x1 : Int32) : Option (ah_T ah_S) :=
  (ah_is σ 1 r0).bind fun u1 =>
  ah_b2 (F_X0_take σ r0 x1) fun v2 σ3 =>
  if v2 = 0 then
    (ah_gR σ3 5 r0).bind fun v4 =>
    (v4).bind fun a5 =>
    some (.inr (a5, σ3))
  else
    some (.inl σ3)
def F_X0_toldIn  (σ : ah_S) (r0 : Option Nat) (r1 : Option Nat) (l2 : Int64) : Option (ah_T (Int32 × ah_S)) :=
  if r1 = none then
    (ah_gR σ 14 r0).bind fun v1 =>
    (v1).bind fun a2 =>
    some (.inr (a2, σ))
  else
    if (lg_cmp l2 (0 : Int64)) < 0 then
      (ah_gR σ 14 r0).bind fun v3 =>
      (v3).bind fun a4 =>
      some (.inr (a4, σ))
    else
      (ah_ca σ 102 r1).bind fun u5 =>
      (ah_al_ σ r1).bind fun v6 =>
      if (lg_cmp l2 (v6.toInt64)) < 0 then
        (ah_ca σ 102 r1).bind fun u7 =>
        (ah_lA σ 102 r1 (l2.toInt32)).bind fun v8 =>
        some (.inl (v8, σ))
      else
        (ah_gR σ 14 r0).bind fun v9 =>
        (v9).bind fun a10 =>
        some (.inr (a10, σ))
def F_X0_readOne_14 (f_X0_readEither : ah_S → Option Nat → Option (ah_T (Option Nat × ah_S))) (f_X0_readOne : ah_S → Option Nat → Option (ah_T (Option Nat × ah_S))) : Nat → ah_S → Option Nat → Int32 → Int32 → Option (ah_T (Option Nat × ah_S))
  | 0, _, _, _, _ => none
  | n + 1, σ, r0, x1, x2 =>
    (ah_gI σ 6 r0).bind fun v1 =>
    if (x2 + (4 : Int32)) ≤ v1 then
      (ah_mO σ 11 1).bind fun σ2 =>
      (F_X10_init σ2 (some (ah_nx σ)) x1).bind fun σ3 =>
      some (.inl ((some (ah_nx σ)), σ3))
    else
      (ah_is σ 1 r0).bind fun u4 =>
      ah_b2 (F_X0_isDigit σ r0) fun v5 σ6 =>
      if v5 = 0 then
        (ah_mO σ6 11 1).bind fun σ7 =>
        (F_X10_init σ7 (some (ah_nx σ6)) x1).bind fun σ8 =>
        some (.inl ((some (ah_nx σ6)), σ8))
      else
        (ah_gR σ6 3 r0).bind fun v9 =>
        (ah_gI σ6 6 r0).bind fun v10 =>
        (ah_pI σ6 6 r0 (v10 + (1 : Int32))).bind fun σ11 =>
        (ah_lA σ11 101 v9 v10).bind fun v12 =>
        F_X0_readOne_14 f_X0_readEither f_X0_readOne n σ11 r0 ((((10 : Int32) * x1) + v12) - (48 : Int32)) x2
def F_X0_readOne_183 (f_X0_readEither : ah_S → Option Nat → Option (ah_T (Option Nat × ah_S))) (f_X0_readOne : ah_S → Option Nat → Option (ah_T (Option Nat × ah_S))) (σ : ah_S) (r0 : Option Nat) (x2 : Int32) (w0 : Option Nat) : Option (ah_T (Option Nat × ah_S)) :=
  if x2 = (40 : Int32) then
    (ah_is σ 1 r0).bind fun u3 =>
    ah_b3v (F_X0_expect σ r0 (41 : Int32)) (fun a4 σ5 => some (.inr (a4, σ5))) fun σ6 =>
    (ah_gI σ6 16 r0).bind fun v7 =>
    (ah_pI σ6 16 r0 (v7 - (1 : Int32))).bind fun σ8 =>
    some (.inl (w0, σ8))
  else
    (ah_gI σ 16 r0).bind fun v1 =>
    (ah_pI σ 16 r0 (v1 - (1 : Int32))).bind fun σ2 =>
    some (.inl (w0, σ2))
def F_X0_readOne_124 (f_X0_readEither : ah_S → Option Nat → Option (ah_T (Option Nat × ah_S))) (f_X0_readOne : ah_S → Option Nat → Option (ah_T (Option Nat × ah_S))) (σ : ah_S) (r0 : Option Nat) (x2 : Int32) : Option (ah_T (Option Nat × ah_S)) :=
  (ah_gI σ 16 r0).bind fun v1 =>
  if v1 = (6 : Int32) then
    (ah_gR σ 5 r0).bind fun v18 =>
    (v18).bind fun a19 =>
    some (.inr (a19, σ))
  else
    (ah_gI σ 6 r0).bind fun v2 =>
    (ah_pI σ 6 r0 (v2 + (1 : Int32))).bind fun σ3 =>
    (ah_gI σ3 16 r0).bind fun v4 =>
    (ah_pI σ3 16 r0 (v4 + (1 : Int32))).bind fun σ5 =>
    if x2 = (40 : Int32) then
      (ah_is σ5 1 r0).bind fun u13 =>
      ah_b3 (f_X0_readEither σ5 r0) (fun a14 σ15 => some (.inr (a14, σ15))) fun v17 σ16 =>
      F_X0_readOne_183 f_X0_readEither f_X0_readOne σ16 r0 x2 v17
    else
      (ah_mO σ5 13 2).bind fun σ6 =>
      (ah_is σ6 1 r0).bind fun u7 =>
      ah_b3 (f_X0_readOne σ6 r0) (fun a8 σ9 => some (.inr (a8, σ9))) fun v11 σ10 =>
      (F_X12_init σ10 (some (ah_nx σ5)) x2 v11).bind fun σ12 =>
      F_X0_readOne_183 f_X0_readEither f_X0_readOne σ12 r0 x2 (some (ah_nx σ5))
def F_X0_readOne (f_X0_readEither : ah_S → Option Nat → Option (ah_T (Option Nat × ah_S))) (f_X0_readOne : ah_S → Option Nat → Option (ah_T (Option Nat × ah_S))) (σ : ah_S) (r0 : Option Nat) : Option (ah_T (Option Nat × ah_S)) :=
  (ah_is σ 1 r0).bind fun u1 =>
  ah_b2 (F_X0_isDigit σ r0) fun v2 σ3 =>
  if v2 = 0 then
    (ah_is σ3 1 r0).bind fun u4 =>
    ah_b2 (F_X0_peek σ3 r0) fun v5 σ6 =>
    ah_b2 (F_X0_nameOf σ6 v5) fun v7 σ8 =>
    if v7 = (-1 : Int32) then
      (ah_is σ8 1 r0).bind fun u9 =>
      ah_b2 (F_X0_peek σ8 r0) fun v10 σ11 =>
      if v10 = (33 : Int32) then
        F_X0_readOne_124 f_X0_readEither f_X0_readOne σ11 r0 v10
      else
        if v10 = (45 : Int32) then
          F_X0_readOne_124 f_X0_readEither f_X0_readOne σ11 r0 v10
        else
          if v10 = (40 : Int32) then
            F_X0_readOne_124 f_X0_readEither f_X0_readOne σ11 r0 v10
          else
            (ah_gR σ11 5 r0).bind fun v12 =>
            (v12).bind fun a13 =>
            some (.inr (a13, σ11))
    else
      (ah_gI σ8 6 r0).bind fun v14 =>
      (ah_pI σ8 6 r0 (v14 + (1 : Int32))).bind fun σ15 =>
      (ah_mO σ15 12 2).bind fun σ16 =>
      (F_X11_init σ16 (some (ah_nx σ15)) r0 v7).bind fun σ17 =>
      some (.inl ((some (ah_nx σ15)), σ17))
  else
    (ah_gI σ3 6 r0).bind fun v18 =>
    F_X0_readOne_14 f_X0_readEither f_X0_readOne 1000 σ3 r0 (0 : Int32) v18
def F_X0_readTimes_32 (f_X0_readOne : ah_S → Option Nat → Option (ah_T (Option Nat × ah_S))) (k5 : ah_S → Option Nat → Option Nat → Option (ah_T (Option Nat × ah_S))) (σ : ah_S) (r0 : Option Nat) (r1 : Option Nat) : Option (ah_T (Option Nat × ah_S)) :=
  (ah_gR σ 3 r0).bind fun v1 =>
  (ah_gI σ 6 r0).bind fun v2 =>
  (ah_pI σ 6 r0 (v2 + (1 : Int32))).bind fun σ3 =>
  (ah_lA σ3 101 v1 v2).bind fun v4 =>
  (ah_mO σ3 14 3).bind fun σ5 =>
  (ah_is σ5 1 r0).bind fun u6 =>
  ah_b3 (f_X0_readOne σ5 r0) (fun a7 σ8 => some (.inr (a7, σ8))) fun v10 σ9 =>
  (F_X13_init σ9 (some (ah_nx σ3)) v4 r1 v10).bind fun σ11 =>
  k5 σ11 r0 (some (ah_nx σ3))
def F_X0_readTimes_5 (f_X0_readOne : ah_S → Option Nat → Option (ah_T (Option Nat × ah_S))) : Nat → ah_S → Option Nat → Option Nat → Option (ah_T (Option Nat × ah_S))
  | 0, _, _, _ => none
  | n + 1, σ, r0, r1 =>
    (ah_is σ 1 r0).bind fun u1 =>
    ah_b2 (F_X0_peek σ r0) fun v2 σ3 =>
    if v2 = (42 : Int32) then
      F_X0_readTimes_32 f_X0_readOne (F_X0_readTimes_5 f_X0_readOne n) σ3 r0 r1
    else
      (ah_is σ3 1 r0).bind fun u4 =>
      ah_b2 (F_X0_peek σ3 r0) fun v5 σ6 =>
      if v5 = (47 : Int32) then
        F_X0_readTimes_32 f_X0_readOne (F_X0_readTimes_5 f_X0_readOne n) σ6 r0 r1
      else
        (ah_is σ6 1 r0).bind fun u7 =>
        ah_b2 (F_X0_peek σ6 r0) fun v8 σ9 =>
        if v8 = (37 : Int32) then
          F_X0_readTimes_32 f_X0_readOne (F_X0_readTimes_5 f_X0_readOne n) σ9 r0 r1
        else
          some (.inl (r1, σ9))
def F_X0_readTimes (f_X0_readOne : ah_S → Option Nat → Option (ah_T (Option Nat × ah_S))) (σ : ah_S) (r0 : Option Nat) : Option (ah_T (Option Nat × ah_S)) :=
  (ah_is σ 1 r0).bind fun u1 =>
  ah_b3 (f_X0_readOne σ r0) (fun a2 σ3 => some (.inr (a2, σ3))) fun v5 σ4 =>
  F_X0_readTimes_5 f_X0_readOne 1000 σ4 r0 v5
def F_X0_readPlus_23 (f_X0_readTimes : ah_S → Option Nat → Option (ah_T (Option Nat × ah_S))) (k5 : ah_S → Option Nat → Option Nat → Option (ah_T (Option Nat × ah_S))) (σ : ah_S) (r0 : Option Nat) (r1 : Option Nat) : Option (ah_T (Option Nat × ah_S)) :=
  (ah_gR σ 3 r0).bind fun v1 =>
  (ah_gI σ 6 r0).bind fun v2 =>
  (ah_pI σ 6 r0 (v2 + (1 : Int32))).bind fun σ3 =>
  (ah_lA σ3 101 v1 v2).bind fun v4 =>
  (ah_mO σ3 14 3).bind fun σ5 =>
  (ah_is σ5 1 r0).bind fun u6 =>
  ah_b3 (f_X0_readTimes σ5 r0) (fun a7 σ8 => some (.inr (a7, σ8))) fun v10 σ9 =>
  (F_X13_init σ9 (some (ah_nx σ3)) v4 r1 v10).bind fun σ11 =>
  k5 σ11 r0 (some (ah_nx σ3))
def F_X0_readPlus_5 (f_X0_readTimes : ah_S → Option Nat → Option (ah_T (Option Nat × ah_S))) : Nat → ah_S → Option Nat → Option Nat → Option (ah_T (Option Nat × ah_S))
  | 0, _, _, _ => none
  | n + 1, σ, r0, r1 =>
    (ah_is σ 1 r0).bind fun u1 =>
    ah_b2 (F_X0_peek σ r0) fun v2 σ3 =>
    if v2 = (43 : Int32) then
      F_X0_readPlus_23 f_X0_readTimes (F_X0_readPlus_5 f_X0_readTimes n) σ3 r0 r1
    else
      (ah_is σ3 1 r0).bind fun u4 =>
      ah_b2 (F_X0_peek σ3 r0) fun v5 σ6 =>
      if v5 = (45 : Int32) then
        F_X0_readPlus_23 f_X0_readTimes (F_X0_readPlus_5 f_X0_readTimes n) σ6 r0 r1
      else
        some (.inl (r1, σ6))
def F_X0_readPlus (f_X0_readTimes : ah_S → Option Nat → Option (ah_T (Option Nat × ah_S))) (σ : ah_S) (r0 : Option Nat) : Option (ah_T (Option Nat × ah_S)) :=
  (ah_is σ 1 r0).bind fun u1 =>
  ah_b3 (f_X0_readTimes σ r0) (fun a2 σ3 => some (.inr (a2, σ3))) fun v5 σ4 =>
  F_X0_readPlus_5 f_X0_readTimes 1000 σ4 r0 v5
def F_X0_readLike_34 (f_X0_readPlus : ah_S → Option Nat → Option (ah_T (Option Nat × ah_S))) (σ : ah_S) (r0 : Option Nat) (r1 : Option Nat) : Option (ah_T (Option Nat × ah_S)) :=
  (ah_gR σ 3 r0).bind fun v1 =>
  (ah_gI σ 6 r0).bind fun v2 =>
  (ah_pI σ 6 r0 (v2 + (1 : Int32))).bind fun σ3 =>
  (ah_lA σ3 101 v1 v2).bind fun v4 =>
  (ah_mO σ3 14 3).bind fun σ5 =>
  (ah_is σ5 1 r0).bind fun u6 =>
  ah_b3 (f_X0_readPlus σ5 r0) (fun a7 σ8 => some (.inr (a7, σ8))) fun v10 σ9 =>
  (F_X13_init σ9 (some (ah_nx σ3)) v4 r1 v10).bind fun σ11 =>
  some (.inl ((some (ah_nx σ3)), σ11))
def F_X0_readLike (f_X0_readPlus : ah_S → Option Nat → Option (ah_T (Option Nat × ah_S))) (σ : ah_S) (r0 : Option Nat) : Option (ah_T (Option Nat × ah_S)) :=
  (ah_is σ 1 r0).bind fun u1 =>
  ah_b3 (f_X0_readPlus σ r0) (fun a2 σ3 => some (.inr (a2, σ3))) fun v5 σ4 =>
  (ah_is σ4 1 r0).bind fun u6 =>
  ah_b2 (F_X0_peek σ4 r0) fun v7 σ8 =>
  if v7 = (60 : Int32) then
    F_X0_readLike_34 f_X0_readPlus σ8 r0 v5
  else
    (ah_is σ8 1 r0).bind fun u9 =>
    ah_b2 (F_X0_peek σ8 r0) fun v10 σ11 =>
    if v10 = (61 : Int32) then
      F_X0_readLike_34 f_X0_readPlus σ11 r0 v5
    else
      (ah_is σ11 1 r0).bind fun u12 =>
      ah_b2 (F_X0_peek σ11 r0) fun v13 σ14 =>
      if v13 = (62 : Int32) then
        F_X0_readLike_34 f_X0_readPlus σ14 r0 v5
      else
        some (.inl (v5, σ14))
def F_X0_readAll_5 (f_X0_readLike : ah_S → Option Nat → Option (ah_T (Option Nat × ah_S))) : Nat → ah_S → Option Nat → Option Nat → Option (ah_T (Option Nat × ah_S))
  | 0, _, _, _ => none
  | n + 1, σ, r0, r1 =>
    (ah_is σ 1 r0).bind fun u1 =>
    ah_b2 (F_X0_take σ r0 (38 : Int32)) fun v2 σ3 =>
    if v2 = 0 then
      some (.inl (r1, σ3))
    else
      (ah_mO σ3 14 3).bind fun σ4 =>
      (ah_is σ4 1 r0).bind fun u5 =>
      ah_b3 (f_X0_readLike σ4 r0) (fun a6 σ7 => some (.inr (a6, σ7))) fun v9 σ8 =>
      (F_X13_init σ8 (some (ah_nx σ3)) (38 : Int32) r1 v9).bind fun σ10 =>
      F_X0_readAll_5 f_X0_readLike n σ10 r0 (some (ah_nx σ3))
def F_X0_readAll (f_X0_readLike : ah_S → Option Nat → Option (ah_T (Option Nat × ah_S))) (σ : ah_S) (r0 : Option Nat) : Option (ah_T (Option Nat × ah_S)) :=
  (ah_is σ 1 r0).bind fun u1 =>
  ah_b3 (f_X0_readLike σ r0) (fun a2 σ3 => some (.inr (a2, σ3))) fun v5 σ4 =>
  F_X0_readAll_5 f_X0_readLike 1000 σ4 r0 v5
def F_X0_readEither_5 (f_X0_readAll : ah_S → Option Nat → Option (ah_T (Option Nat × ah_S))) : Nat → ah_S → Option Nat → Option Nat → Option (ah_T (Option Nat × ah_S))
  | 0, _, _, _ => none
  | n + 1, σ, r0, r1 =>
    (ah_is σ 1 r0).bind fun u1 =>
    ah_b2 (F_X0_take σ r0 (124 : Int32)) fun v2 σ3 =>
    if v2 = 0 then
      some (.inl (r1, σ3))
    else
      (ah_mO σ3 14 3).bind fun σ4 =>
      (ah_is σ4 1 r0).bind fun u5 =>
      ah_b3 (f_X0_readAll σ4 r0) (fun a6 σ7 => some (.inr (a6, σ7))) fun v9 σ8 =>
      (F_X13_init σ8 (some (ah_nx σ3)) (124 : Int32) r1 v9).bind fun σ10 =>
      F_X0_readEither_5 f_X0_readAll n σ10 r0 (some (ah_nx σ3))
def F_X0_readEither (f_X0_readAll : ah_S → Option Nat → Option (ah_T (Option Nat × ah_S))) (σ : ah_S) (r0 : Option Nat) : Option (ah_T (Option Nat × ah_S)) :=
  (ah_is σ 1 r0).bind fun u1 =>
  ah_b3 (f_X0_readAll σ r0) (fun a2 σ3 => some (.inr (a2, σ3))) fun v5 σ4 =>
  F_X0_readEither_5 f_X0_readAll 1000 σ4 r0 v5
def Z_Xparse : Nat → Nat → ah_S → Option Nat → Option (ah_T (Option Nat × ah_S))
  | 0, _, _, _ => none
  | d + 1, j, σ, r0 =>
    if j = 0 then F_X0_readOne (Z_Xparse d 5) (Z_Xparse d 0) σ r0 else
    if j = 1 then F_X0_readTimes (Z_Xparse d 0) σ r0 else
    if j = 2 then F_X0_readPlus (Z_Xparse d 1) σ r0 else
    if j = 3 then F_X0_readLike (Z_Xparse d 2) σ r0 else
    if j = 4 then F_X0_readAll (Z_Xparse d 3) σ r0 else
    F_X0_readEither (Z_Xparse d 4) σ r0
def F_X0_readLine  (σ : ah_S) (r0 : Option Nat) : Option (ah_T (Option Nat × ah_S)) :=
  (ah_mO σ 9 3).bind fun σ1 =>
  (F_X8_init σ1 (some (ah_nx σ))).bind fun σ2 =>
  (ah_is σ2 1 r0).bind fun u3 =>
  ah_b3 (Z_Xparse 60 5 σ2 r0) (fun a4 σ5 => some (.inr (a4, σ5))) fun v7 σ6 =>
  (ah_pR σ6 801 (some (ah_nx σ)) v7).bind fun σ8 =>
  (ah_is σ8 1 r0).bind fun u9 =>
  ah_b2 (F_X0_take σ8 r0 (63 : Int32)) fun v10 σ11 =>
  if v10 = 0 then
    some (.inl ((some (ah_nx σ)), σ11))
  else
    (ah_gR σ11 801 (some (ah_nx σ))).bind fun v12 =>
    (ah_pR σ11 800 (some (ah_nx σ)) v12).bind fun σ13 =>
    (ah_is σ13 1 r0).bind fun u14 =>
    ah_b3 (Z_Xparse 60 5 σ13 r0) (fun a15 σ16 => some (.inr (a15, σ16))) fun v18 σ17 =>
    (ah_pR σ17 801 (some (ah_nx σ)) v18).bind fun σ19 =>
    some (.inl ((some (ah_nx σ)), σ19))
def F_X0_readLaw_12  : Nat → ah_S → Option Nat → Option Nat → Option Nat → Option (ah_T (Option Nat × ah_S))
  | 0, _, _, _, _ => none
  | n + 1, σ, r0, r1, r2 =>
    (ah_is σ 1 r0).bind fun u1 =>
    ah_b2 (F_X0_take σ r0 (59 : Int32)) fun v2 σ3 =>
    if v2 = 0 then
      (ah_gI σ3 6 r0).bind fun v4 =>
      (ah_gI σ3 4 r0).bind fun v5 =>
      if v5 ≤ v4 then
        some (.inl (r1, σ3))
      else
        (ah_gR σ3 5 r0).bind fun v6 =>
        (v6).bind fun a7 =>
        some (.inr (a7, σ3))
    else
      (ah_is σ3 1 r0).bind fun u8 =>
      ah_b3 (F_X0_readLine σ3 r0) (fun a9 σ10 => some (.inr (a9, σ10))) fun v12 σ11 =>
      (ah_pR σ11 802 r2 v12).bind fun σ13 =>
      (ah_gR σ13 802 r2).bind fun v14 =>
      F_X0_readLaw_12 n σ13 r0 r1 v14
def F_X0_readLaw  (σ : ah_S) (r0 : Option Nat) : Option (ah_T (Option Nat × ah_S)) :=
  (ah_pI σ 16 r0 (0 : Int32)).bind fun σ1 =>
  (ah_is σ1 1 r0).bind fun u2 =>
  ah_b3 (F_X0_readLine σ1 r0) (fun a3 σ4 => some (.inr (a3, σ4))) fun v6 σ5 =>
  F_X0_readLaw_12 1000 σ5 r0 v6 v6
def F_X0_law  (σ : ah_S) (r0 : Option Nat) : Option (Int32 × ah_S) :=
  (ah_pI σ 6 r0 (0 : Int32)).bind fun σ1 =>
  (ah_is σ1 1 r0).bind fun u2 =>
  ah_b3 (F_X0_readLaw σ1 r0) (fun a3 σ4 => (ah_is σ4 2 (some a3)).bind fun u7 =>
      (ah_gI σ4 6 r0).bind fun v8 =>
      (ah_pI σ4 4 r0 (0 : Int32)).bind fun σ9 =>
      some (((-100 : Int32) - v8), σ9)) fun v6 σ5 =>
  (ah_pR σ5 17 r0 v6).bind fun σ10 =>
  (ah_pI σ10 4 r0 (0 : Int32)).bind fun σ11 =>
  some ((1 : Int32), σ11)
def F_X0_guests_54  : Nat → ah_S → Option Nat → Int32 → Int32 → Option Nat → Int32 → Int32 → Option (Int32 × ah_S)
  | 0, _, _, _, _, _, _, _ => none
  | n + 1, σ, r0, x2, x3, r4, x5, x6 =>
    if x3 ≤ x6 then
      some (x6, σ)
    else
      (ah_is σ 1 r0).bind fun u1 =>
      ah_b3 (F_X0_toldIn σ r0 r4 ((x2.toInt64) + ((3 : Int64) * (x6.toInt64)))) (fun a2 σ3 => (ah_is σ3 4 (some a2)).bind fun u6 =>
          (ah_gI σ3 8 r0).bind fun v7 =>
          some ((v7 - x5), σ3)) fun v5 σ4 =>
      (ah_is σ4 1 r0).bind fun u8 =>
      ah_b3 (F_X0_toldIn σ4 r0 r4 (((x2.toInt64) + ((3 : Int64) * (x6.toInt64))) + (1 : Int64))) (fun a9 σ10 => (ah_is σ10 4 (some a9)).bind fun u13 =>
          (ah_gI σ10 8 r0).bind fun v14 =>
          some ((v14 - x5), σ10)) fun v12 σ11 =>
      (ah_is σ11 1 r0).bind fun u15 =>
      ah_b3 (F_X0_toldIn σ11 r0 r4 (((x2.toInt64) + ((3 : Int64) * (x6.toInt64))) + (2 : Int64))) (fun a16 σ17 => (ah_is σ17 4 (some a16)).bind fun u20 =>
          (ah_gI σ17 8 r0).bind fun v21 =>
          some ((v21 - x5), σ17)) fun v19 σ18 =>
      (ah_gI σ18 8 r0).bind fun v22 =>
      if v22 = (7 : Int32) then
        (ah_gR σ18 14 r0).bind fun v23 =>
        (ah_is σ18 4 v23).bind fun u24 =>
        (v23).bind fun a25 =>
        (ah_gI σ18 8 r0).bind fun v26 =>
        some ((v26 - x5), σ18)
      else
        ah_b2 (F_X0_mayBe σ18 v5 v12 v19) fun v27 σ28 =>
        if v27 = 0 then
          (ah_gR σ28 14 r0).bind fun v35 =>
          (ah_is σ28 4 v35).bind fun u36 =>
          (v35).bind fun a37 =>
          (ah_gI σ28 8 r0).bind fun v38 =>
          some ((v38 - x5), σ28)
        else
          (ah_gR σ28 7 r0).bind fun v29 =>
          (ah_gI σ28 8 r0).bind fun v30 =>
          (ah_pI σ28 8 r0 (v30 + (1 : Int32))).bind fun σ31 =>
          (ah_mO σ31 8 4).bind fun σ32 =>
          (F_X7_init σ32 (some (ah_nx σ31)) v5 v12 v19).bind fun σ33 =>
          (ah_wQ σ33 112 v29 v30 (some (ah_nx σ31))).bind fun σ34 =>
          F_X0_guests_54 n σ34 r0 x2 x3 r4 x5 (x6 + (1 : Int32))
def F_X0_guests  (σ : ah_S) (r0 : Option Nat) (x1 : Int32) (x2 : Int32) (x3 : Int32) : Option (Int32 × ah_S) :=
  ah_b2 (F_X0_isShelf σ x1) fun v1 σ2 =>
  if v1 = 0 then
    some ((-1 : Int32), σ2)
  else
    ah_b2 (F_X0_within σ2 (x3.toInt64) (1 : Int64) (7 : Int64)) fun v3 σ4 =>
    if v3 = 0 then
      some ((-1 : Int32), σ4)
    else
      (ah_gR σ4 41 r0).bind fun v5 =>
      (ah_lQ σ4 116 v5 x1).bind fun v6 =>
      if v6 = none then
        (ah_gI σ4 8 r0).bind fun v7 =>
        F_X0_guests_54 1000 σ4 r0 x2 x3 v6 v7 (0 : Int32)
      else
        ah_b2 (F_X0_sortOf σ4 v6) fun v8 σ9 =>
        if v8 = 0 then
          (ah_gI σ9 8 r0).bind fun v10 =>
          F_X0_guests_54 1000 σ9 r0 x2 x3 v6 v10 (0 : Int32)
        else
          some ((-12 : Int32), σ9)
