def F_X14_init  (σ : ah_S) (r0 : Option Nat) (r1 : Option Nat) (x2 : Int32) : Option ah_S :=
  (ah_pR σ 1401 r0 r1).bind fun σ1 =>
  (r0).bind fun a2 =>
  (ah_pI σ1 1400 r0 x2).bind fun σ3 =>
  some σ3
def F_X15_init  (σ : ah_S) (r0 : Option Nat) (r1 : Option Nat) (x2 : Int32) : Option ah_S :=
  (ah_pR σ 1502 r0 r1).bind fun σ1 =>
  (r0).bind fun a2 =>
  (F_X14_init σ1 r0 r1 x2).bind fun σ3 =>
  some σ3
def F_X16_init  (σ : ah_S) (r0 : Option Nat) (r1 : Option Nat) (x2 : Int32) : Option ah_S :=
  (ah_pR σ 1602 r0 r1).bind fun σ1 =>
  (r0).bind fun a2 =>
  (F_X14_init σ1 r0 r1 x2).bind fun σ3 =>
  some σ3
def F_X17_init  (σ : ah_S) (r0 : Option Nat) (r1 : Option Nat) (x2 : Int32) : Option ah_S :=
  (ah_pR σ 1703 r0 r1).bind fun σ1 =>
  (r0).bind fun a2 =>
  (F_X16_init σ1 r0 r1 x2).bind fun σ3 =>
  some σ3
def F_X18_init  (σ : ah_S) (r0 : Option Nat) (r1 : Option Nat) (x2 : Int32) : Option ah_S :=
  (ah_pR σ 1803 r0 r1).bind fun σ1 =>
  (r0).bind fun a2 =>
  (F_X15_init σ1 r0 r1 x2).bind fun σ3 =>
  some σ3
def F_X19_init  (σ : ah_S) (r0 : Option Nat) (r1 : Option Nat) (x2 : Int32) : Option ah_S :=
  (ah_pR σ 1904 r0 r1).bind fun σ1 =>
  (r0).bind fun a2 =>
  (F_X17_init σ1 r0 r1 x2).bind fun σ3 =>
  some σ3
def F_X20_init  (σ : ah_S) (r0 : Option Nat) (r1 : Option Nat) (x2 : Int32) : Option ah_S :=
  (ah_pR σ 2002 r0 r1).bind fun σ1 =>
  (r0).bind fun a2 =>
  (F_X14_init σ1 r0 r1 x2).bind fun σ3 =>
  some σ3
def F_X21_init  (σ : ah_S) (r0 : Option Nat) (r1 : Option Nat) (x2 : Int32) : Option ah_S :=
  (ah_pR σ 2103 r0 r1).bind fun σ1 =>
  (r0).bind fun a2 =>
  (F_X20_init σ1 r0 r1 x2).bind fun σ3 =>
  some σ3
def F_X14_kind  (σ : ah_S) (r0 : Option Nat) : Option (Int32 × ah_S) :=
  some ((0 : Int32), σ)
def F_X15_kind  (σ : ah_S) (r0 : Option Nat) : Option (Int32 × ah_S) :=
  some ((1 : Int32), σ)
def F_X16_kind  (σ : ah_S) (r0 : Option Nat) : Option (Int32 × ah_S) :=
  some ((2 : Int32), σ)
def F_X17_kind  (σ : ah_S) (r0 : Option Nat) : Option (Int32 × ah_S) :=
  some ((3 : Int32), σ)
def F_X18_kind  (σ : ah_S) (r0 : Option Nat) : Option (Int32 × ah_S) :=
  some ((4 : Int32), σ)
def F_X19_kind  (σ : ah_S) (r0 : Option Nat) : Option (Int32 × ah_S) :=
  some ((5 : Int32), σ)
def F_X20_kind  (σ : ah_S) (r0 : Option Nat) : Option (Int32 × ah_S) :=
  some ((6 : Int32), σ)
def F_X21_kind  (σ : ah_S) (r0 : Option Nat) : Option (Int32 × ah_S) :=
  some ((7 : Int32), σ)
def F_X14_isUnder  (σ : ah_S) (r0 : Option Nat) (x1 : Int32) : Option (Int32 × ah_S) :=
  if x1 = 0 then
    some ((1 : Int32), σ)
  else
    some ((0 : Int32), σ)
def F_X15_isUnder  (σ : ah_S) (r0 : Option Nat) (x1 : Int32) : Option (Int32 × ah_S) :=
  if x1 = (1 : Int32) then
    some ((1 : Int32), σ)
  else
    (ah_ob σ r0).bind fun u1 =>
    ah_b2 (F_X14_isUnder σ r0 x1) fun v2 σ3 =>
    if v2 = 0 then
      some ((0 : Int32), σ3)
    else
      some ((1 : Int32), σ3)
def F_X16_isUnder  (σ : ah_S) (r0 : Option Nat) (x1 : Int32) : Option (Int32 × ah_S) :=
  if x1 = (2 : Int32) then
    some ((1 : Int32), σ)
  else
    (ah_ob σ r0).bind fun u1 =>
    ah_b2 (F_X14_isUnder σ r0 x1) fun v2 σ3 =>
    if v2 = 0 then
      some ((0 : Int32), σ3)
    else
      some ((1 : Int32), σ3)
def F_X17_isUnder  (σ : ah_S) (r0 : Option Nat) (x1 : Int32) : Option (Int32 × ah_S) :=
  if x1 = (3 : Int32) then
    some ((1 : Int32), σ)
  else
    (ah_ob σ r0).bind fun u1 =>
    ah_b2 (F_X16_isUnder σ r0 x1) fun v2 σ3 =>
    if v2 = 0 then
      some ((0 : Int32), σ3)
    else
      some ((1 : Int32), σ3)
def F_X18_isUnder  (σ : ah_S) (r0 : Option Nat) (x1 : Int32) : Option (Int32 × ah_S) :=
  if x1 = (4 : Int32) then
    some ((1 : Int32), σ)
  else
    (ah_ob σ r0).bind fun u1 =>
    ah_b2 (F_X15_isUnder σ r0 x1) fun v2 σ3 =>
    if v2 = 0 then
      some ((0 : Int32), σ3)
    else
      some ((1 : Int32), σ3)
def F_X19_isUnder  (σ : ah_S) (r0 : Option Nat) (x1 : Int32) : Option (Int32 × ah_S) :=
  if x1 = (5 : Int32) then
    some ((1 : Int32), σ)
  else
    (ah_ob σ r0).bind fun u1 =>
    ah_b2 (F_X17_isUnder σ r0 x1) fun v2 σ3 =>
    if v2 = 0 then
      some ((0 : Int32), σ3)
    else
      some ((1 : Int32), σ3)
def F_X20_isUnder  (σ : ah_S) (r0 : Option Nat) (x1 : Int32) : Option (Int32 × ah_S) :=
  if x1 = (6 : Int32) then
    some ((1 : Int32), σ)
  else
    (ah_ob σ r0).bind fun u1 =>
    ah_b2 (F_X14_isUnder σ r0 x1) fun v2 σ3 =>
    if v2 = 0 then
      some ((0 : Int32), σ3)
    else
      some ((1 : Int32), σ3)
def F_X21_isUnder  (σ : ah_S) (r0 : Option Nat) (x1 : Int32) : Option (Int32 × ah_S) :=
  if x1 = (7 : Int32) then
    some ((1 : Int32), σ)
  else
    (ah_ob σ r0).bind fun u1 =>
    ah_b2 (F_X20_isUnder σ r0 x1) fun v2 σ3 =>
    if v2 = 0 then
      some ((0 : Int32), σ3)
    else
      some ((1 : Int32), σ3)
def F_X14_begins  (σ : ah_S) (r0 : Option Nat) (x1 : Int32) : Option ah_S :=
  (ah_gR σ 1401 r0).bind fun v1 =>
  (ah_gI σ 40 v1).bind fun v2 =>
  if (24 : Int32) ≤ v2 then
    (ah_gR σ 1401 r0).bind fun v3 =>
    (ah_gI σ 40 v3).bind fun v4 =>
    (ah_pI σ 40 v3 (v4 + (1 : Int32))).bind fun σ5 =>
    some σ5
  else
    (ah_gR σ 1401 r0).bind fun v6 =>
    (ah_gR σ 39 v6).bind fun v7 =>
    (ah_gR σ 1401 r0).bind fun v8 =>
    (ah_gI σ 40 v8).bind fun v9 =>
    (ah_wA σ 101 v7 v9 x1).bind fun σ10 =>
    (ah_gR σ10 1401 r0).bind fun v11 =>
    (ah_gI σ10 40 v11).bind fun v12 =>
    (ah_pI σ10 40 v11 (v12 + (1 : Int32))).bind fun σ13 =>
    some σ13
def F_X14_number  (σ : ah_S) (r0 : Option Nat) : Option (Int32 × ah_S) :=
  (ah_gI σ 1400 r0).bind fun v1 =>
  some (v1, σ)
def Z_B22_begins (σ : ah_S) (r : Option Nat) (x1 : Int32) : Option ah_S := r.bind fun a =>
  if ah_tg σ a = 15 then F_X14_begins σ r x1 else if ah_tg σ a = 16 then F_X14_begins σ r x1 else if ah_tg σ a = 17 then F_X14_begins σ r x1 else if ah_tg σ a = 18 then F_X14_begins σ r x1 else if ah_tg σ a = 19 then F_X14_begins σ r x1 else if ah_tg σ a = 20 then F_X14_begins σ r x1 else if ah_tg σ a = 21 then F_X14_begins σ r x1 else if ah_tg σ a = 22 then F_X14_begins σ r x1 else none
def Z_B22_number (σ : ah_S) (r : Option Nat)  : Option (Int32 × ah_S) := r.bind fun a =>
  if ah_tg σ a = 15 then F_X14_number σ r  else if ah_tg σ a = 16 then F_X14_number σ r  else if ah_tg σ a = 17 then F_X14_number σ r  else if ah_tg σ a = 18 then F_X14_number σ r  else if ah_tg σ a = 19 then F_X14_number σ r  else if ah_tg σ a = 20 then F_X14_number σ r  else if ah_tg σ a = 21 then F_X14_number σ r  else if ah_tg σ a = 22 then F_X14_number σ r  else none
def F_X22_comes  (σ : ah_S) (r0 : Option Nat) (x1 : Int32) : Option (Int32 × ah_S) :=
  (Z_B22_begins σ r0 (1 : Int32)).bind fun σ1 =>
  ah_b2 (Z_B22_number σ1 r0) fun v2 σ3 =>
  some ((x1 + v2), σ3)
def Z_B15_begins (σ : ah_S) (r : Option Nat) (x1 : Int32) : Option ah_S := r.bind fun a =>
  if ah_tg σ a = 16 then F_X14_begins σ r x1 else if ah_tg σ a = 19 then F_X14_begins σ r x1 else none
def F_X15_comes  (σ : ah_S) (r0 : Option Nat) (x1 : Int32) : Option (Int32 × ah_S) :=
  (Z_B15_begins σ r0 (20 : Int32)).bind fun σ1 =>
  (ah_ob σ1 r0).bind fun u2 =>
  ah_b2 (F_X22_comes σ1 r0 x1) fun v3 σ4 =>
  some ((v3 + (3 : Int32)), σ4)
def Z_B20_begins (σ : ah_S) (r : Option Nat) (x1 : Int32) : Option ah_S := r.bind fun a =>
  if ah_tg σ a = 21 then F_X14_begins σ r x1 else if ah_tg σ a = 22 then F_X14_begins σ r x1 else none
def F_X20_comes  (σ : ah_S) (r0 : Option Nat) (x1 : Int32) : Option (Int32 × ah_S) :=
  (Z_B20_begins σ r0 (70 : Int32)).bind fun σ1 =>
  (ah_ob σ1 r0).bind fun u2 =>
  ah_b2 (F_X22_comes σ1 r0 x1) fun v3 σ4 =>
  some ((v3 * (2 : Int32)), σ4)
def Z_B21_begins (σ : ah_S) (r : Option Nat) (x1 : Int32) : Option ah_S := r.bind fun a =>
  if ah_tg σ a = 22 then F_X14_begins σ r x1 else none
def F_X21_comes  (σ : ah_S) (r0 : Option Nat) (x1 : Int32) : Option (Int32 × ah_S) :=
  (Z_B21_begins σ r0 (81 : Int32)).bind fun σ1 =>
  (ah_ob σ1 r0).bind fun u2 =>
  ah_b2 (F_X20_comes σ1 r0 x1) fun v3 σ4 =>
  some ((v3 - (1 : Int32)), σ4)
def Z_B14_begins (σ : ah_S) (r : Option Nat) (x1 : Int32) : Option ah_S := r.bind fun a =>
  if ah_tg σ a = 15 then F_X14_begins σ r x1 else if ah_tg σ a = 16 then F_X14_begins σ r x1 else if ah_tg σ a = 17 then F_X14_begins σ r x1 else if ah_tg σ a = 18 then F_X14_begins σ r x1 else if ah_tg σ a = 19 then F_X14_begins σ r x1 else if ah_tg σ a = 20 then F_X14_begins σ r x1 else if ah_tg σ a = 21 then F_X14_begins σ r x1 else if ah_tg σ a = 22 then F_X14_begins σ r x1 else none
def F_X14_sees  (σ : ah_S) (r0 : Option Nat) (x1 : Int32) : Option (Int32 × ah_S) :=
  (Z_B14_begins σ r0 (11 : Int32)).bind fun σ1 =>
  (ah_gI σ1 1400 r0).bind fun v2 =>
  some ((x1 ^^^ v2), σ1)
def Z_B17_begins (σ : ah_S) (r : Option Nat) (x1 : Int32) : Option ah_S := r.bind fun a =>
  if ah_tg σ a = 18 then F_X14_begins σ r x1 else if ah_tg σ a = 20 then F_X14_begins σ r x1 else none
def F_X17_sees  (σ : ah_S) (r0 : Option Nat) (x1 : Int32) : Option (Int32 × ah_S) :=
  (Z_B17_begins σ r0 (40 : Int32)).bind fun σ1 =>
  (ah_ob σ1 r0).bind fun u2 =>
  ah_b2 (F_X14_sees σ1 r0 x1) fun v3 σ4 =>
  some ((v3 * (3 : Int32)), σ4)
def Z_B19_begins (σ : ah_S) (r : Option Nat) (x1 : Int32) : Option ah_S := r.bind fun a =>
  if ah_tg σ a = 20 then F_X14_begins σ r x1 else none
def Z_B19_comes (σ : ah_S) (r : Option Nat) (x1 : Int32) : Option (Int32 × ah_S) := r.bind fun a =>
  if ah_tg σ a = 20 then F_X22_comes σ r x1 else none
def F_X19_sees  (σ : ah_S) (r0 : Option Nat) (x1 : Int32) : Option (Int32 × ah_S) :=
  (Z_B19_begins σ r0 (60 : Int32)).bind fun σ1 =>
  (ah_ob σ1 r0).bind fun u2 =>
  ah_b2 (F_X17_sees σ1 r0 x1) fun v3 σ4 =>
  ah_b2 (Z_B19_comes σ4 r0 (2 : Int32)) fun v5 σ6 =>
  some ((v3 - v5), σ6)
def Z_B14_comes (σ : ah_S) (r : Option Nat) (x1 : Int32) : Option (Int32 × ah_S) := r.bind fun a =>
  if ah_tg σ a = 15 then F_X22_comes σ r x1 else if ah_tg σ a = 16 then F_X15_comes σ r x1 else if ah_tg σ a = 17 then F_X22_comes σ r x1 else if ah_tg σ a = 18 then F_X22_comes σ r x1 else if ah_tg σ a = 19 then F_X15_comes σ r x1 else if ah_tg σ a = 20 then F_X22_comes σ r x1 else if ah_tg σ a = 21 then F_X20_comes σ r x1 else if ah_tg σ a = 22 then F_X21_comes σ r x1 else none
def F_X14_leaves  (σ : ah_S) (r0 : Option Nat) (x1 : Int32) : Option (Int32 × ah_S) :=
  (Z_B14_begins σ r0 (10 : Int32)).bind fun σ1 =>
  ah_b2 (Z_B14_comes σ1 r0 x1) fun v2 σ3 =>
  some ((v2 * (2 : Int32)), σ3)
def Z_B16_begins (σ : ah_S) (r : Option Nat) (x1 : Int32) : Option ah_S := r.bind fun a =>
  if ah_tg σ a = 17 then F_X14_begins σ r x1 else if ah_tg σ a = 18 then F_X14_begins σ r x1 else if ah_tg σ a = 20 then F_X14_begins σ r x1 else none
def F_X16_leaves  (σ : ah_S) (r0 : Option Nat) (x1 : Int32) : Option (Int32 × ah_S) :=
  (Z_B16_begins σ r0 (30 : Int32)).bind fun σ1 =>
  (ah_ob σ1 r0).bind fun u2 =>
  ah_b2 (F_X14_leaves σ1 r0 x1) fun v3 σ4 =>
  some ((-v3), σ4)
def F_X17_leaves  (σ : ah_S) (r0 : Option Nat) (x1 : Int32) : Option (Int32 × ah_S) :=
  (Z_B17_begins σ r0 (41 : Int32)).bind fun σ1 =>
  (ah_ob σ1 r0).bind fun u2 =>
  ah_b2 (F_X16_leaves σ1 r0 (x1 + (1 : Int32))) fun v3 σ4 =>
  some (v3, σ4)
def Z_B21_sees (σ : ah_S) (r : Option Nat) (x1 : Int32) : Option (Int32 × ah_S) := r.bind fun a =>
  if ah_tg σ a = 22 then F_X14_sees σ r x1 else none
def F_X21_leaves  (σ : ah_S) (r0 : Option Nat) (x1 : Int32) : Option (Int32 × ah_S) :=
  (Z_B21_begins σ r0 (80 : Int32)).bind fun σ1 =>
  (ah_ob σ1 r0).bind fun u2 =>
  ah_b2 (F_X14_leaves σ1 r0 x1) fun v3 σ4 =>
  ah_b2 (Z_B21_sees σ4 r0 (2 : Int32)) fun v5 σ6 =>
  some ((v3 + v5), σ6)
def Z_B23_begins (σ : ah_S) (r : Option Nat) (x1 : Int32) : Option ah_S := r.bind fun a =>
  if ah_tg σ a = 15 then F_X14_begins σ r x1 else if ah_tg σ a = 16 then F_X14_begins σ r x1 else if ah_tg σ a = 17 then F_X14_begins σ r x1 else if ah_tg σ a = 18 then F_X14_begins σ r x1 else if ah_tg σ a = 19 then F_X14_begins σ r x1 else if ah_tg σ a = 20 then F_X14_begins σ r x1 else if ah_tg σ a = 21 then F_X14_begins σ r x1 else if ah_tg σ a = 22 then F_X14_begins σ r x1 else none
def Z_B23_leaves (σ : ah_S) (r : Option Nat) (x1 : Int32) : Option (Int32 × ah_S) := r.bind fun a =>
  if ah_tg σ a = 15 then F_X14_leaves σ r x1 else if ah_tg σ a = 16 then F_X14_leaves σ r x1 else if ah_tg σ a = 17 then F_X16_leaves σ r x1 else if ah_tg σ a = 18 then F_X17_leaves σ r x1 else if ah_tg σ a = 19 then F_X14_leaves σ r x1 else if ah_tg σ a = 20 then F_X17_leaves σ r x1 else if ah_tg σ a = 21 then F_X14_leaves σ r x1 else if ah_tg σ a = 22 then F_X21_leaves σ r x1 else none
def Z_B23_sees (σ : ah_S) (r : Option Nat) (x1 : Int32) : Option (Int32 × ah_S) := r.bind fun a =>
  if ah_tg σ a = 15 then F_X14_sees σ r x1 else if ah_tg σ a = 16 then F_X14_sees σ r x1 else if ah_tg σ a = 17 then F_X14_sees σ r x1 else if ah_tg σ a = 18 then F_X17_sees σ r x1 else if ah_tg σ a = 19 then F_X14_sees σ r x1 else if ah_tg σ a = 20 then F_X19_sees σ r x1 else if ah_tg σ a = 21 then F_X14_sees σ r x1 else if ah_tg σ a = 22 then F_X14_sees σ r x1 else none
def F_X23_tells  (σ : ah_S) (r0 : Option Nat) (x1 : Int32) : Option (Int32 × ah_S) :=
  (Z_B23_begins σ r0 (2 : Int32)).bind fun σ1 =>
  ah_b2 (Z_B23_leaves σ1 r0 x1) fun v2 σ3 =>
  ah_b2 (Z_B23_sees σ3 r0 (1 : Int32)) fun v4 σ5 =>
  some ((v2 - v4), σ5)
def Z_B18_begins (σ : ah_S) (r : Option Nat) (x1 : Int32) : Option ah_S := r.bind fun a =>
  if ah_tg σ a = 19 then F_X14_begins σ r x1 else none
def F_X18_tells  (σ : ah_S) (r0 : Option Nat) (x1 : Int32) : Option (Int32 × ah_S) :=
  (Z_B18_begins σ r0 (50 : Int32)).bind fun σ1 =>
  (ah_ob σ1 r0).bind fun u2 =>
  ah_b2 (F_X23_tells σ1 r0 x1) fun v3 σ4 =>
  some ((v3 ^^^ (5 : Int32)), σ4)
def F_X19_tells  (σ : ah_S) (r0 : Option Nat) (x1 : Int32) : Option (Int32 × ah_S) :=
  (Z_B19_begins σ r0 (61 : Int32)).bind fun σ1 =>
  (ah_ob σ1 r0).bind fun u2 =>
  ah_b2 (F_X23_tells σ1 r0 x1) fun v3 σ4 =>
  some ((v3 + (1 : Int32)), σ4)
def F_X0_made  (σ : ah_S) (r0 : Option Nat) (x1 : Int32) : Option (Option Nat × ah_S) :=
  if x1 = (1 : Int32) then
    (ah_mO σ 16 3).bind fun σ1 =>
    (ah_gI σ1 38 r0).bind fun v2 =>
    (F_X15_init σ1 (some (ah_nx σ)) r0 v2).bind fun σ3 =>
    some ((some (ah_nx σ)), σ3)
  else
  if x1 = (2 : Int32) then
    (ah_mO σ 17 3).bind fun σ4 =>
    (ah_gI σ4 38 r0).bind fun v5 =>
    (F_X16_init σ4 (some (ah_nx σ)) r0 v5).bind fun σ6 =>
    some ((some (ah_nx σ)), σ6)
  else
  if x1 = (3 : Int32) then
    (ah_mO σ 18 4).bind fun σ7 =>
    (ah_gI σ7 38 r0).bind fun v8 =>
    (F_X17_init σ7 (some (ah_nx σ)) r0 v8).bind fun σ9 =>
    some ((some (ah_nx σ)), σ9)
  else
  if x1 = (4 : Int32) then
    (ah_mO σ 19 4).bind fun σ10 =>
    (ah_gI σ10 38 r0).bind fun v11 =>
    (F_X18_init σ10 (some (ah_nx σ)) r0 v11).bind fun σ12 =>
    some ((some (ah_nx σ)), σ12)
  else
  if x1 = (5 : Int32) then
    (ah_mO σ 20 5).bind fun σ13 =>
    (ah_gI σ13 38 r0).bind fun v14 =>
    (F_X19_init σ13 (some (ah_nx σ)) r0 v14).bind fun σ15 =>
    some ((some (ah_nx σ)), σ15)
  else
  if x1 = (6 : Int32) then
    (ah_mO σ 21 3).bind fun σ16 =>
    (ah_gI σ16 38 r0).bind fun v17 =>
    (F_X20_init σ16 (some (ah_nx σ)) r0 v17).bind fun σ18 =>
    some ((some (ah_nx σ)), σ18)
  else
  if x1 = (7 : Int32) then
    (ah_mO σ 22 4).bind fun σ19 =>
    (ah_gI σ19 38 r0).bind fun v20 =>
    (F_X21_init σ19 (some (ah_nx σ)) r0 v20).bind fun σ21 =>
    some ((some (ah_nx σ)), σ21)
  else
  (ah_mO σ 15 2).bind fun σ22 =>
  (ah_gI σ22 38 r0).bind fun v23 =>
  (F_X14_init σ22 (some (ah_nx σ)) r0 v23).bind fun σ24 =>
  some ((some (ah_nx σ)), σ24)
def F_X0_body  (σ : ah_S) (r0 : Option Nat) (x1 : Int32) : Option (Int32 × ah_S) :=
  ah_b2 (F_X0_within σ (x1.toInt64) (0 : Int64) (7 : Int64)) fun v1 σ2 =>
  if v1 = 0 then
    some ((-1 : Int32), σ2)
  else
    (ah_gI σ2 38 r0).bind fun v3 =>
    if v3 = (50 : Int32) then
      some ((-3 : Int32), σ2)
    else
      (ah_gR σ2 37 r0).bind fun v4 =>
      (ah_gI σ2 38 r0).bind fun v5 =>
      (ah_is σ2 1 r0).bind fun u6 =>
      ah_b2 (F_X0_made σ2 r0 x1) fun v7 σ8 =>
      (ah_wQ σ8 115 v4 v5 v7).bind fun σ9 =>
      (ah_gI σ9 38 r0).bind fun v10 =>
      (ah_pI σ9 38 r0 (v10 + (1 : Int32))).bind fun σ11 =>
      some (v10, σ11)
def Z_B14_leaves (σ : ah_S) (r : Option Nat) (x1 : Int32) : Option (Int32 × ah_S) := r.bind fun a =>
  if ah_tg σ a = 15 then F_X14_leaves σ r x1 else if ah_tg σ a = 16 then F_X14_leaves σ r x1 else if ah_tg σ a = 17 then F_X16_leaves σ r x1 else if ah_tg σ a = 18 then F_X17_leaves σ r x1 else if ah_tg σ a = 19 then F_X14_leaves σ r x1 else if ah_tg σ a = 20 then F_X17_leaves σ r x1 else if ah_tg σ a = 21 then F_X14_leaves σ r x1 else if ah_tg σ a = 22 then F_X21_leaves σ r x1 else none
def Z_B14_sees (σ : ah_S) (r : Option Nat) (x1 : Int32) : Option (Int32 × ah_S) := r.bind fun a =>
  if ah_tg σ a = 15 then F_X14_sees σ r x1 else if ah_tg σ a = 16 then F_X14_sees σ r x1 else if ah_tg σ a = 17 then F_X14_sees σ r x1 else if ah_tg σ a = 18 then F_X17_sees σ r x1 else if ah_tg σ a = 19 then F_X14_sees σ r x1 else if ah_tg σ a = 20 then F_X19_sees σ r x1 else if ah_tg σ a = 21 then F_X14_sees σ r x1 else if ah_tg σ a = 22 then F_X14_sees σ r x1 else none
def Z_B14_tells (σ : ah_S) (r : Option Nat) (x1 : Int32) : Option (Int32 × ah_S) := r.bind fun a =>
  if ah_tg σ a = 15 then F_X23_tells σ r x1 else if ah_tg σ a = 16 then F_X23_tells σ r x1 else if ah_tg σ a = 17 then F_X23_tells σ r x1 else if ah_tg σ a = 18 then F_X23_tells σ r x1 else if ah_tg σ a = 19 then F_X18_tells σ r x1 else if ah_tg σ a = 20 then F_X19_tells σ r x1 else if ah_tg σ a = 21 then F_X23_tells σ r x1 else if ah_tg σ a = 22 then F_X23_tells σ r x1 else none
def F_X0_act  (σ : ah_S) (r0 : Option Nat) (x1 : Int32) (x2 : Int32) (x3 : Int32) : Option (Int32 × ah_S) :=
  (ah_pI σ 40 r0 (0 : Int32)).bind fun σ1 =>
  (ah_is σ1 1 r0).bind fun u2 =>
  ah_b2 (F_X0_isBody σ1 r0 x1) fun v3 σ4 =>
  if v3 = 0 then
    some ((0 : Int32), σ4)
  else
    ah_b2 (F_X0_within σ4 (x2.toInt64) (0 : Int64) (3 : Int64)) fun v5 σ6 =>
    if v5 = 0 then
      some ((0 : Int32), σ6)
    else
      (ah_gR σ6 37 r0).bind fun v7 =>
      (ah_lQ σ6 115 v7 x1).bind fun v8 =>
      if x2 = (0 : Int32) then
        ah_b2 (Z_B14_comes σ6 v8 x3) fun v9 σ10 =>
        some (v9, σ10)
      else
      if x2 = (1 : Int32) then
        ah_b2 (Z_B14_leaves σ6 v8 x3) fun v11 σ12 =>
        some (v11, σ12)
      else
      if x2 = (2 : Int32) then
        ah_b2 (Z_B14_sees σ6 v8 x3) fun v13 σ14 =>
        some (v13, σ14)
      else
      ah_b2 (Z_B14_tells σ6 v8 x3) fun v15 σ16 =>
      some (v15, σ16)
def Z_B14_isUnder (σ : ah_S) (r : Option Nat) (x1 : Int32) : Option (Int32 × ah_S) := r.bind fun a =>
  if ah_tg σ a = 15 then F_X14_isUnder σ r x1 else if ah_tg σ a = 16 then F_X15_isUnder σ r x1 else if ah_tg σ a = 17 then F_X16_isUnder σ r x1 else if ah_tg σ a = 18 then F_X17_isUnder σ r x1 else if ah_tg σ a = 19 then F_X18_isUnder σ r x1 else if ah_tg σ a = 20 then F_X19_isUnder σ r x1 else if ah_tg σ a = 21 then F_X20_isUnder σ r x1 else if ah_tg σ a = 22 then F_X21_isUnder σ r x1 else none
def Z_B14_kind (σ : ah_S) (r : Option Nat)  : Option (Int32 × ah_S) := r.bind fun a =>
  if ah_tg σ a = 15 then F_X14_kind σ r  else if ah_tg σ a = 16 then F_X15_kind σ r  else if ah_tg σ a = 17 then F_X16_kind σ r  else if ah_tg σ a = 18 then F_X17_kind σ r  else if ah_tg σ a = 19 then F_X18_kind σ r  else if ah_tg σ a = 20 then F_X19_kind σ r  else if ah_tg σ a = 21 then F_X20_kind σ r  else if ah_tg σ a = 22 then F_X21_kind σ r  else none
def F_X0_taken  (σ : ah_S) (r0 : Option Nat) (x1 : Int32) (x2 : Int32) : Option (Int32 × ah_S) :=
  ah_b2 (F_X0_isShelf σ x1) fun v1 σ2 =>
  if v1 = 0 then
    some ((-1 : Int32), σ2)
  else
    ah_b2 (F_X0_within σ2 (x2.toInt64) (0 : Int64) (7 : Int64)) fun v3 σ4 =>
    if v3 = 0 then
      some ((-1 : Int32), σ4)
    else
      (ah_gR σ4 41 r0).bind fun v5 =>
      (ah_lQ σ4 116 v5 x1).bind fun v6 =>
      if v6 = none then
        some ((-11 : Int32), σ4)
      else
        (ah_ib σ4 v6).bind fun v7 =>
        if v7 = 0 then
          some ((-12 : Int32), σ4)
        else
          (ah_cb σ4 v6).bind fun u8 =>
          ah_b2 (Z_B14_isUnder σ4 v6 x2) fun v9 σ10 =>
          if v9 = 0 then
            some ((-12 : Int32), σ10)
          else
            ah_b2 (Z_B14_kind σ10 v6) fun v11 σ12 =>
            some (v11, σ12)
