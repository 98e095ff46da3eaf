def F_L_law_204 (sL : Nat) (sx : Nat → Int32) (k1483 : ah_S → Option Nat → Option Nat → Int32 → Option (Int32 × ah_S)) (σ : ah_S) (r1 : Option Nat) (r2 : Option Nat) (x3 : Int32) : Option (Int32 × ah_S) :=
  (ah_sx sL sx (x3 + (1 : Int32))).bind fun v1 =>
  (ah_sx sL sx (x3 + (2 : Int32))).bind fun v2 =>
  (ah_is σ 1 r1).bind fun u3 =>
  ah_b2 (F_X0_guest σ r1 v1 v2) fun v4 σ5 =>
  (ah_sx sL sx (x3 + (1 : Int32))).bind fun v6 =>
  (ah_sx sL sx (x3 + (2 : Int32))).bind fun v7 =>
  (ah_is σ5 7 r2).bind fun u8 =>
  ah_b2 (F_X6_guest σ5 r2 v6 v7) fun v9 σ10 =>
  if v4 = v9 then
    k1483 σ10 r1 r2 x3
  else
    some ((0 : Int32), σ10)
def F_L_law_237 (sL : Nat) (sx : Nat → Int32) (k1483 : ah_S → Option Nat → Option Nat → Int32 → Option (Int32 × ah_S)) (σ : ah_S) (r1 : Option Nat) (r2 : Option Nat) (x3 : Int32) : Option (Int32 × ah_S) :=
  (ah_sx sL sx (x3 + (1 : Int32))).bind fun v1 =>
  (ah_sx sL sx (x3 + (2 : Int32))).bind fun v2 =>
  (ah_sx sL sx (x3 + (3 : Int32))).bind fun v3 =>
  (ah_is σ 1 r1).bind fun u4 =>
  ah_b2 (F_X0_guests σ r1 v1 v2 v3) fun v5 σ6 =>
  (ah_sx sL sx (x3 + (1 : Int32))).bind fun v7 =>
  (ah_sx sL sx (x3 + (2 : Int32))).bind fun v8 =>
  (ah_sx sL sx (x3 + (3 : Int32))).bind fun v9 =>
  (ah_is σ6 7 r2).bind fun u10 =>
  ah_b2 (F_X6_guests σ6 r2 v7 v8 v9) fun v11 σ12 =>
  if v5 = v11 then
    k1483 σ12 r1 r2 x3
  else
    some ((0 : Int32), σ12)
def F_L_law_280 (sL : Nat) (sx : Nat → Int32) (k1483 : ah_S → Option Nat → Option Nat → Int32 → Option (Int32 × ah_S)) (σ : ah_S) (r1 : Option Nat) (r2 : Option Nat) (x3 : Int32) : Option (Int32 × ah_S) :=
  (ah_sx sL sx (x3 + (1 : Int32))).bind fun v1 =>
  (ah_sx sL sx (x3 + (2 : Int32))).bind fun v2 =>
  (ah_sx sL sx (x3 + (3 : Int32))).bind fun v3 =>
  (ah_is σ 1 r1).bind fun u4 =>
  ah_b2 (F_X0_mend σ r1 v1 v2 v3) fun v5 σ6 =>
  (ah_sx sL sx (x3 + (1 : Int32))).bind fun v7 =>
  (ah_sx sL sx (x3 + (2 : Int32))).bind fun v8 =>
  (ah_sx sL sx (x3 + (3 : Int32))).bind fun v9 =>
  (ah_is σ6 7 r2).bind fun u10 =>
  ah_b2 (F_X6_mend σ6 r2 v7 v8 v9) fun v11 σ12 =>
  if v5 = v11 then
    k1483 σ12 r1 r2 x3
  else
    some ((0 : Int32), σ12)
def F_L_law_323 (sL : Nat) (sx : Nat → Int32) (k1483 : ah_S → Option Nat → Option Nat → Int32 → Option (Int32 × ah_S)) (σ : ah_S) (r1 : Option Nat) (r2 : Option Nat) (x3 : Int32) : Option (Int32 × ah_S) :=
  (ah_sx sL sx (x3 + (1 : Int32))).bind fun v1 =>
  (ah_sx sL sx (x3 + (2 : Int32))).bind fun v2 =>
  (ah_is σ 1 r1).bind fun u3 =>
  ah_b2 (F_X0_of σ r1 v1 v2) fun v4 σ5 =>
  (ah_sx sL sx (x3 + (1 : Int32))).bind fun v6 =>
  (ah_sx sL sx (x3 + (2 : Int32))).bind fun v7 =>
  (ah_is σ5 7 r2).bind fun u8 =>
  ah_b2 (F_X6_of σ5 r2 v6 v7) fun v9 σ10 =>
  if v4 = v9 then
    k1483 σ10 r1 r2 x3
  else
    some ((0 : Int32), σ10)
def F_L_law_356 (sL : Nat) (sx : Nat → Int32) (k1483 : ah_S → Option Nat → Option Nat → Int32 → Option (Int32 × ah_S)) (σ : ah_S) (r1 : Option Nat) (r2 : Option Nat) (x3 : Int32) : Option (Int32 × ah_S) :=
  (ah_sx sL sx (x3 + (1 : Int32))).bind fun v1 =>
  (ah_is σ 1 r1).bind fun u2 =>
  ah_b2 (F_X0_feed σ r1 v1) fun v3 σ4 =>
  (ah_sx sL sx (x3 + (1 : Int32))).bind fun v5 =>
  (ah_is σ4 7 r2).bind fun u6 =>
  ah_b2 (F_X6_feed σ4 r2 v5) fun v7 σ8 =>
  if v3 = v7 then
    k1483 σ8 r1 r2 x3
  else
    some ((0 : Int32), σ8)
def F_L_law_379 (sL : Nat) (sx : Nat → Int32) (k1483 : ah_S → Option Nat → Option Nat → Int32 → Option (Int32 × ah_S)) (σ : ah_S) (r1 : Option Nat) (r2 : Option Nat) (x3 : Int32) : Option (Int32 × ah_S) :=
  (ah_is σ 1 r1).bind fun u1 =>
  ah_b2 (F_X0_law σ r1) fun v2 σ3 =>
  (ah_is σ3 7 r2).bind fun u4 =>
  ah_b2 (F_X6_law σ3 r2) fun v5 σ6 =>
  if v2 = v5 then
    k1483 σ6 r1 r2 x3
  else
    some ((0 : Int32), σ6)
def F_L_law_392 (sL : Nat) (sx : Nat → Int32) (k1483 : ah_S → Option Nat → Option Nat → Int32 → Option (Int32 × ah_S)) (σ : ah_S) (r1 : Option Nat) (r2 : Option Nat) (x3 : Int32) : Option (Int32 × ah_S) :=
  (ah_sx sL sx (x3 + (1 : Int32))).bind fun v1 =>
  (ah_sx sL sx (x3 + (2 : Int32))).bind fun v2 =>
  (ah_sx sL sx (x3 + (3 : Int32))).bind fun v3 =>
  (ah_is σ 1 r1).bind fun u4 =>
  ah_b2 (F_X0_level σ r1 v1 v2 v3) fun v5 σ6 =>
  (ah_sx sL sx (x3 + (1 : Int32))).bind fun v7 =>
  (ah_sx sL sx (x3 + (2 : Int32))).bind fun v8 =>
  (ah_sx sL sx (x3 + (3 : Int32))).bind fun v9 =>
  (ah_is σ6 7 r2).bind fun u10 =>
  ah_b2 (F_X6_level σ6 r2 v7 v8 v9) fun v11 σ12 =>
  if v5 = v11 then
    k1483 σ12 r1 r2 x3
  else
    some ((0 : Int32), σ12)
def F_L_law_435 (sL : Nat) (sx : Nat → Int32) (k1483 : ah_S → Option Nat → Option Nat → Int32 → Option (Int32 × ah_S)) (σ : ah_S) (r1 : Option Nat) (r2 : Option Nat) (x3 : Int32) : Option (Int32 × ah_S) :=
  (ah_sx sL sx (x3 + (1 : Int32))).bind fun v1 =>
  (ah_sx sL sx (x3 + (2 : Int32))).bind fun v2 =>
  (ah_is σ 1 r1).bind fun u3 =>
  ah_b2 (F_X0_lowest σ r1 v1 v2) fun v4 σ5 =>
  (ah_sx sL sx (x3 + (1 : Int32))).bind fun v6 =>
  (ah_sx sL sx (x3 + (2 : Int32))).bind fun v7 =>
  (ah_is σ5 7 r2).bind fun u8 =>
  ah_b2 (F_X6_lowest σ5 r2 v6 v7) fun v9 σ10 =>
  if v4 = v9 then
    k1483 σ10 r1 r2 x3
  else
    some ((0 : Int32), σ10)
def F_L_law_468 (sL : Nat) (sx : Nat → Int32) (k1483 : ah_S → Option Nat → Option Nat → Int32 → Option (Int32 × ah_S)) (σ : ah_S) (r1 : Option Nat) (r2 : Option Nat) (x3 : Int32) : Option (Int32 × ah_S) :=
  (ah_sx sL sx (x3 + (1 : Int32))).bind fun v1 =>
  (ah_sx sL sx (x3 + (2 : Int32))).bind fun v2 =>
  (ah_sx sL sx (x3 + (3 : Int32))).bind fun v3 =>
  (ah_is σ 1 r1).bind fun u4 =>
  ah_b2 (F_X0_below σ r1 v1 v2 v3) fun v5 σ6 =>
  (ah_sx sL sx (x3 + (1 : Int32))).bind fun v7 =>
  (ah_sx sL sx (x3 + (2 : Int32))).bind fun v8 =>
  (ah_sx sL sx (x3 + (3 : Int32))).bind fun v9 =>
  (ah_is σ6 7 r2).bind fun u10 =>
  ah_b2 (F_X6_below σ6 r2 v7 v8 v9) fun v11 σ12 =>
  if v5 = v11 then
    k1483 σ12 r1 r2 x3
  else
    some ((0 : Int32), σ12)
def F_L_law_511 (sL : Nat) (sx : Nat → Int32) (k1483 : ah_S → Option Nat → Option Nat → Int32 → Option (Int32 × ah_S)) (σ : ah_S) (r1 : Option Nat) (r2 : Option Nat) (x3 : Int32) : Option (Int32 × ah_S) :=
  (ah_sx sL sx (x3 + (1 : Int32))).bind fun v1 =>
  (ah_is σ 1 r1).bind fun u2 =>
  ah_b2 (F_X0_loss σ r1 v1) fun v3 σ4 =>
  (ah_sx sL sx (x3 + (1 : Int32))).bind fun v5 =>
  (ah_is σ4 7 r2).bind fun u6 =>
  ah_b2 (F_X6_loss σ4 r2 v5) fun v7 σ8 =>
  if v3 = v7 then
    k1483 σ8 r1 r2 x3
  else
    some ((0 : Int32), σ8)
def F_L_law_534 (sL : Nat) (sx : Nat → Int32) (k1483 : ah_S → Option Nat → Option Nat → Int32 → Option (Int32 × ah_S)) (σ : ah_S) (r1 : Option Nat) (r2 : Option Nat) (x3 : Int32) : Option (Int32 × ah_S) :=
  (ah_sx sL sx (x3 + (1 : Int32))).bind fun v1 =>
  (ah_sx sL sx (x3 + (2 : Int32))).bind fun v2 =>
  (ah_is σ 1 r1).bind fun u3 =>
  ah_b2 (F_X0_rest σ r1 v1 v2) fun v4 σ5 =>
  (ah_sx sL sx (x3 + (1 : Int32))).bind fun v6 =>
  (ah_sx sL sx (x3 + (2 : Int32))).bind fun v7 =>
  (ah_is σ5 7 r2).bind fun u8 =>
  ah_b2 (F_X6_rest σ5 r2 v6 v7) fun v9 σ10 =>
  if v4 = v9 then
    k1483 σ10 r1 r2 x3
  else
    some ((0 : Int32), σ10)
def F_L_law_567 (sL : Nat) (sx : Nat → Int32) (k1483 : ah_S → Option Nat → Option Nat → Int32 → Option (Int32 × ah_S)) (σ : ah_S) (r1 : Option Nat) (r2 : Option Nat) (x3 : Int32) : Option (Int32 × ah_S) :=
  (ah_sx sL sx (x3 + (1 : Int32))).bind fun v1 =>
  (ah_sx sL sx (x3 + (2 : Int32))).bind fun v2 =>
  (ah_sx sL sx (x3 + (3 : Int32))).bind fun v3 =>
  (ah_is σ 1 r1).bind fun u4 =>
  ah_b2 (F_X0_often σ r1 v1 v2 v3) fun v5 σ6 =>
  (ah_sx sL sx (x3 + (1 : Int32))).bind fun v7 =>
  (ah_sx sL sx (x3 + (2 : Int32))).bind fun v8 =>
  (ah_sx sL sx (x3 + (3 : Int32))).bind fun v9 =>
  (ah_is σ6 7 r2).bind fun u10 =>
  ah_b2 (F_X6_often σ6 r2 v7 v8 v9) fun v11 σ12 =>
  if v5 = v11 then
    k1483 σ12 r1 r2 x3
  else
    some ((0 : Int32), σ12)
def F_L_law_610 (sL : Nat) (sx : Nat → Int32) (k1483 : ah_S → Option Nat → Option Nat → Int32 → Option (Int32 × ah_S)) (σ : ah_S) (r1 : Option Nat) (r2 : Option Nat) (x3 : Int32) : Option (Int32 × ah_S) :=
  (ah_sx sL sx (x3 + (1 : Int32))).bind fun v1 =>
  (ah_sx sL sx (x3 + (2 : Int32))).bind fun v2 =>
  (ah_is σ 1 r1).bind fun u3 =>
  ah_b2 (F_X0_warden σ r1 v1 v2) fun v4 σ5 =>
  (ah_sx sL sx (x3 + (1 : Int32))).bind fun v6 =>
  (ah_sx sL sx (x3 + (2 : Int32))).bind fun v7 =>
  (ah_is σ5 7 r2).bind fun u8 =>
  ah_b2 (F_X6_warden σ5 r2 v6 v7) fun v9 σ10 =>
  if v4 = v9 then
    k1483 σ10 r1 r2 x3
  else
    some ((0 : Int32), σ10)
def F_L_law_643 (sL : Nat) (sx : Nat → Int32) (k1483 : ah_S → Option Nat → Option Nat → Int32 → Option (Int32 × ah_S)) (σ : ah_S) (r1 : Option Nat) (r2 : Option Nat) (x3 : Int32) : Option (Int32 × ah_S) :=
  (ah_sx sL sx (x3 + (1 : Int32))).bind fun v1 =>
  (ah_sx sL sx (x3 + (2 : Int32))).bind fun v2 =>
  (ah_is σ 1 r1).bind fun u3 =>
  ah_b2 (F_X0_spoils σ r1 v1 v2) fun v4 σ5 =>
  (ah_sx sL sx (x3 + (1 : Int32))).bind fun v6 =>
  (ah_sx sL sx (x3 + (2 : Int32))).bind fun v7 =>
  (ah_is σ5 7 r2).bind fun u8 =>
  ah_b2 (F_X6_spoils σ5 r2 v6 v7) fun v9 σ10 =>
  if v4 = v9 then
    k1483 σ10 r1 r2 x3
  else
    some ((0 : Int32), σ10)
def F_L_law_676 (sL : Nat) (sx : Nat → Int32) (k1483 : ah_S → Option Nat → Option Nat → Int32 → Option (Int32 × ah_S)) (σ : ah_S) (r1 : Option Nat) (r2 : Option Nat) (x3 : Int32) : Option (Int32 × ah_S) :=
  (ah_sx sL sx (x3 + (1 : Int32))).bind fun v1 =>
  (ah_sx sL sx (x3 + (2 : Int32))).bind fun v2 =>
  (ah_is σ 1 r1).bind fun u3 =>
  ah_b2 (F_X0_order σ r1 v1 v2) fun v4 σ5 =>
  (ah_sx sL sx (x3 + (1 : Int32))).bind fun v6 =>
  (ah_sx sL sx (x3 + (2 : Int32))).bind fun v7 =>
  (ah_is σ5 7 r2).bind fun u8 =>
  ah_b2 (F_X6_order σ5 r2 v6 v7) fun v9 σ10 =>
  if v4 = v9 then
    k1483 σ10 r1 r2 x3
  else
    some ((0 : Int32), σ10)
def F_L_law_709 (sL : Nat) (sx : Nat → Int32) (k1483 : ah_S → Option Nat → Option Nat → Int32 → Option (Int32 × ah_S)) (σ : ah_S) (r1 : Option Nat) (r2 : Option Nat) (x3 : Int32) : Option (Int32 × ah_S) :=
  (ah_sx sL sx (x3 + (1 : Int32))).bind fun v1 =>
  (ah_sx sL sx (x3 + (2 : Int32))).bind fun v2 =>
  (ah_is σ 1 r1).bind fun u3 =>
  ah_b2 (F_X0_tin σ r1 v1 v2) fun v4 σ5 =>
  (ah_sx sL sx (x3 + (1 : Int32))).bind fun v6 =>
  (ah_sx sL sx (x3 + (2 : Int32))).bind fun v7 =>
  (ah_is σ5 7 r2).bind fun u8 =>
  ah_b2 (F_X6_tin σ5 r2 v6 v7) fun v9 σ10 =>
  if (lg_cmp v4 v9) = 0 then
    k1483 σ10 r1 r2 x3
  else
    some ((0 : Int32), σ10)
def F_L_law_743 (sL : Nat) (sx : Nat → Int32) (k1483 : ah_S → Option Nat → Option Nat → Int32 → Option (Int32 × ah_S)) (σ : ah_S) (r1 : Option Nat) (r2 : Option Nat) (x3 : Int32) : Option (Int32 × ah_S) :=
  (ah_sx sL sx (x3 + (1 : Int32))).bind fun v1 =>
  (ah_sx sL sx (x3 + (2 : Int32))).bind fun v2 =>
  (ah_sx sL sx (x3 + (3 : Int32))).bind fun v3 =>
  (ah_is σ 1 r1).bind fun u4 =>
  ah_b2 (F_X0_who σ r1 v1 v2 v3) fun v5 σ6 =>
  (ah_sx sL sx (x3 + (1 : Int32))).bind fun v7 =>
  (ah_sx sL sx (x3 + (2 : Int32))).bind fun v8 =>
  (ah_sx sL sx (x3 + (3 : Int32))).bind fun v9 =>
  (ah_is σ6 7 r2).bind fun u10 =>
  ah_b2 (F_X6_who σ6 r2 v7 v8 v9) fun v11 σ12 =>
  if v5 = v11 then
    k1483 σ12 r1 r2 x3
  else
    some ((0 : Int32), σ12)
def F_L_law_786 (sL : Nat) (sx : Nat → Int32) (k1483 : ah_S → Option Nat → Option Nat → Int32 → Option (Int32 × ah_S)) (σ : ah_S) (r1 : Option Nat) (r2 : Option Nat) (x3 : Int32) : Option (Int32 × ah_S) :=
  (ah_sx sL sx (x3 + (1 : Int32))).bind fun v1 =>
  (ah_sx sL sx (x3 + (2 : Int32))).bind fun v2 =>
  (ah_is σ 1 r1).bind fun u3 =>
  ah_b2 (F_X0_ways σ r1 v1 v2) fun v4 σ5 =>
  (ah_sx sL sx (x3 + (1 : Int32))).bind fun v6 =>
  (ah_sx sL sx (x3 + (2 : Int32))).bind fun v7 =>
  (ah_is σ5 7 r2).bind fun u8 =>
  ah_b2 (F_X6_ways σ5 r2 v6 v7) fun v9 σ10 =>
  if v4 = v9 then
    k1483 σ10 r1 r2 x3
  else
    some ((0 : Int32), σ10)
def F_L_law_819 (sL : Nat) (sx : Nat → Int32) (k1483 : ah_S → Option Nat → Option Nat → Int32 → Option (Int32 × ah_S)) (σ : ah_S) (r1 : Option Nat) (r2 : Option Nat) (x3 : Int32) : Option (Int32 × ah_S) :=
  (ah_sx sL sx (x3 + (1 : Int32))).bind fun v1 =>
  (ah_sx sL sx (x3 + (2 : Int32))).bind fun v2 =>
  (ah_is σ 1 r1).bind fun u3 =>
  ah_b2 (F_X0_judge σ r1 v1 v2) fun v4 σ5 =>
  (ah_sx sL sx (x3 + (1 : Int32))).bind fun v6 =>
  (ah_sx sL sx (x3 + (2 : Int32))).bind fun v7 =>
  (ah_is σ5 7 r2).bind fun u8 =>
  ah_b2 (F_X6_judge σ5 r2 v6 v7) fun v9 σ10 =>
  if v4 = v9 then
    k1483 σ10 r1 r2 x3
  else
    some ((0 : Int32), σ10)
def F_L_law_852 (sL : Nat) (sx : Nat → Int32) (k1483 : ah_S → Option Nat → Option Nat → Int32 → Option (Int32 × ah_S)) (σ : ah_S) (r1 : Option Nat) (r2 : Option Nat) (x3 : Int32) : Option (Int32 × ah_S) :=
  (ah_sx sL sx (x3 + (1 : Int32))).bind fun v1 =>
  (ah_sx sL sx (x3 + (2 : Int32))).bind fun v2 =>
  (ah_sx sL sx (x3 + (3 : Int32))).bind fun v3 =>
  (ah_is σ 1 r1).bind fun u4 =>
  ah_b2 (F_X0_since σ r1 v1 v2 v3) fun v5 σ6 =>
  (ah_sx sL sx (x3 + (1 : Int32))).bind fun v7 =>
  (ah_sx sL sx (x3 + (2 : Int32))).bind fun v8 =>
  (ah_sx sL sx (x3 + (3 : Int32))).bind fun v9 =>
  (ah_is σ6 7 r2).bind fun u10 =>
  ah_b2 (F_X6_since σ6 r2 v7 v8 v9) fun v11 σ12 =>
  if v5 = v11 then
    k1483 σ12 r1 r2 x3
  else
    some ((0 : Int32), σ12)
def F_L_law_895 (sL : Nat) (sx : Nat → Int32) (k1483 : ah_S → Option Nat → Option Nat → Int32 → Option (Int32 × ah_S)) (σ : ah_S) (r1 : Option Nat) (r2 : Option Nat) (x3 : Int32) : Option (Int32 × ah_S) :=
  (ah_sx sL sx (x3 + (1 : Int32))).bind fun v1 =>
  (ah_sx sL sx (x3 + (2 : Int32))).bind fun v2 =>
  (ah_sx sL sx (x3 + (3 : Int32))).bind fun v3 =>
  (ah_is σ 1 r1).bind fun u4 =>
  ah_b2 (F_X0_drawn σ r1 v1 v2 v3) fun v5 σ6 =>
  (ah_sx sL sx (x3 + (1 : Int32))).bind fun v7 =>
  (ah_sx sL sx (x3 + (2 : Int32))).bind fun v8 =>
  (ah_sx sL sx (x3 + (3 : Int32))).bind fun v9 =>
  (ah_is σ6 7 r2).bind fun u10 =>
  ah_b2 (F_X6_drawn σ6 r2 v7 v8 v9) fun v11 σ12 =>
  if v5 = v11 then
    k1483 σ12 r1 r2 x3
  else
    some ((0 : Int32), σ12)
def F_L_law_938 (sL : Nat) (sx : Nat → Int32) (k1483 : ah_S → Option Nat → Option Nat → Int32 → Option (Int32 × ah_S)) (σ : ah_S) (r1 : Option Nat) (r2 : Option Nat) (x3 : Int32) : Option (Int32 × ah_S) :=
  (ah_sx sL sx (x3 + (1 : Int32))).bind fun v1 =>
  (ah_is σ 1 r1).bind fun u2 =>
  ah_b2 (F_X0_night σ r1 v1) fun v3 σ4 =>
  (ah_sx sL sx (x3 + (1 : Int32))).bind fun v5 =>
  (ah_is σ4 7 r2).bind fun u6 =>
  ah_b2 (F_X6_night σ4 r2 v5) fun v7 σ8 =>
  if v3 = v7 then
    k1483 σ8 r1 r2 x3
  else
    some ((0 : Int32), σ8)
def F_L_law_961 (sL : Nat) (sx : Nat → Int32) (k1483 : ah_S → Option Nat → Option Nat → Int32 → Option (Int32 × ah_S)) (σ : ah_S) (r1 : Option Nat) (r2 : Option Nat) (x3 : Int32) : Option (Int32 × ah_S) :=
  (ah_sx sL sx (x3 + (1 : Int32))).bind fun v1 =>
  (ah_sx sL sx (x3 + (2 : Int32))).bind fun v2 =>
  (ah_is σ 1 r1).bind fun u3 =>
  ah_b2 (F_X0_set σ r1 v1 v2) fun v4 σ5 =>
  (ah_sx sL sx (x3 + (1 : Int32))).bind fun v6 =>
  (ah_sx sL sx (x3 + (2 : Int32))).bind fun v7 =>
  (ah_is σ5 7 r2).bind fun u8 =>
  ah_b2 (F_X6_set σ5 r2 v6 v7) fun v9 σ10 =>
  if v4 = v9 then
    k1483 σ10 r1 r2 x3
  else
    some ((0 : Int32), σ10)
def F_L_law_994 (sL : Nat) (sx : Nat → Int32) (k1483 : ah_S → Option Nat → Option Nat → Int32 → Option (Int32 × ah_S)) (σ : ah_S) (r1 : Option Nat) (r2 : Option Nat) (x3 : Int32) : Option (Int32 × ah_S) :=
  (ah_sx sL sx (x3 + (1 : Int32))).bind fun v1 =>
  (ah_is σ 1 r1).bind fun u2 =>
  ah_b2 (F_X0_forget σ r1 v1) fun v3 σ4 =>
  (ah_sx sL sx (x3 + (1 : Int32))).bind fun v5 =>
  (ah_is σ4 7 r2).bind fun u6 =>
  ah_b2 (F_X6_forget σ4 r2 v5) fun v7 σ8 =>
  if v3 = v7 then
    k1483 σ8 r1 r2 x3
  else
    some ((0 : Int32), σ8)
def F_L_law_1017 (sL : Nat) (sx : Nat → Int32) (k1483 : ah_S → Option Nat → Option Nat → Int32 → Option (Int32 × ah_S)) (σ : ah_S) (r1 : Option Nat) (r2 : Option Nat) (x3 : Int32) : Option (Int32 × ah_S) :=
  (ah_sx sL sx (x3 + (1 : Int32))).bind fun v1 =>
  (ah_is σ 1 r1).bind fun u2 =>
  ah_b2 (F_X0_led σ r1 v1) fun v3 σ4 =>
  (ah_sx sL sx (x3 + (1 : Int32))).bind fun v5 =>
  (ah_is σ4 7 r2).bind fun u6 =>
  ah_b2 (F_X6_led σ4 r2 v5) fun v7 σ8 =>
  if v3 = v7 then
    k1483 σ8 r1 r2 x3
  else
    some ((0 : Int32), σ8)
def F_L_law_1040 (sL : Nat) (sx : Nat → Int32) (k1483 : ah_S → Option Nat → Option Nat → Int32 → Option (Int32 × ah_S)) (σ : ah_S) (r1 : Option Nat) (r2 : Option Nat) (x3 : Int32) : Option (Int32 × ah_S) :=
  (ah_is σ 1 r1).bind fun u1 =>
  ah_b2 (F_X0_image σ r1) fun v2 σ3 =>
  (ah_is σ3 7 r2).bind fun u4 =>
  ah_b2 (F_X6_image σ3 r2) fun v5 σ6 =>
  if v2 = v5 then
    k1483 σ6 r1 r2 x3
  else
    some ((0 : Int32), σ6)
def F_L_law_1053 (sL : Nat) (sx : Nat → Int32) (k1483 : ah_S → Option Nat → Option Nat → Int32 → Option (Int32 × ah_S)) (σ : ah_S) (r1 : Option Nat) (r2 : Option Nat) (x3 : Int32) : Option (Int32 × ah_S) :=
  (ah_is σ 1 r1).bind fun u1 =>
  ah_b2 (F_X0_back σ r1) fun v2 σ3 =>
  (ah_is σ3 7 r2).bind fun u4 =>
  ah_b2 (F_X6_back σ3 r2) fun v5 σ6 =>
  if v2 = v5 then
    k1483 σ6 r1 r2 x3
  else
    some ((0 : Int32), σ6)
def F_L_law_1066 (sL : Nat) (sx : Nat → Int32) (k1483 : ah_S → Option Nat → Option Nat → Int32 → Option (Int32 × ah_S)) (σ : ah_S) (r1 : Option Nat) (r2 : Option Nat) (x3 : Int32) : Option (Int32 × ah_S) :=
  (ah_is σ 1 r1).bind fun u1 =>
  ah_b2 (F_X0_undo σ r1) fun v2 σ3 =>
  (ah_is σ3 7 r2).bind fun u4 =>
  ah_b2 (F_X6_undo σ3 r2) fun v5 σ6 =>
  if v2 = v5 then
    k1483 σ6 r1 r2 x3
  else
    some ((0 : Int32), σ6)
def F_L_law_1079 (sL : Nat) (sx : Nat → Int32) (k1483 : ah_S → Option Nat → Option Nat → Int32 → Option (Int32 × ah_S)) (σ : ah_S) (r1 : Option Nat) (r2 : Option Nat) (x3 : Int32) : Option (Int32 × ah_S) :=
  (ah_is σ 1 r1).bind fun u1 =>
  ah_b2 (F_X0_redo σ r1) fun v2 σ3 =>
  (ah_is σ3 7 r2).bind fun u4 =>
  ah_b2 (F_X6_redo σ3 r2) fun v5 σ6 =>
  if v2 = v5 then
    k1483 σ6 r1 r2 x3
  else
    some ((0 : Int32), σ6)
def F_L_law_1092 (sL : Nat) (sx : Nat → Int32) (k1483 : ah_S → Option Nat → Option Nat → Int32 → Option (Int32 × ah_S)) (σ : ah_S) (r1 : Option Nat) (r2 : Option Nat) (x3 : Int32) : Option (Int32 × ah_S) :=
  (ah_sx sL sx (x3 + (1 : Int32))).bind fun v1 =>
  (ah_is σ 1 r1).bind fun u2 =>
  ah_b2 (F_X0_body σ r1 v1) fun v3 σ4 =>
  (ah_sx sL sx (x3 + (1 : Int32))).bind fun v5 =>
  (ah_is σ4 7 r2).bind fun u6 =>
  ah_b2 (F_X6_body σ4 r2 v5) fun v7 σ8 =>
  if v3 = v7 then
    k1483 σ8 r1 r2 x3
  else
    some ((0 : Int32), σ8)
def F_L_law_1115 (sL : Nat) (sx : Nat → Int32) (k1483 : ah_S → Option Nat → Option Nat → Int32 → Option (Int32 × ah_S)) (σ : ah_S) (r1 : Option Nat) (r2 : Option Nat) (x3 : Int32) : Option (Int32 × ah_S) :=
  (ah_sx sL sx (x3 + (1 : Int32))).bind fun v1 =>
  (ah_sx sL sx (x3 + (2 : Int32))).bind fun v2 =>
  (ah_sx sL sx (x3 + (3 : Int32))).bind fun v3 =>
  (ah_is σ 1 r1).bind fun u4 =>
  ah_b2 (F_X0_act σ r1 v1 v2 v3) fun v5 σ6 =>
  (ah_sx sL sx (x3 + (1 : Int32))).bind fun v7 =>
  (ah_sx sL sx (x3 + (2 : Int32))).bind fun v8 =>
  (ah_sx sL sx (x3 + (3 : Int32))).bind fun v9 =>
  (ah_is σ6 7 r2).bind fun u10 =>
  ah_b2 (F_X6_act σ6 r2 v7 v8 v9) fun v11 σ12 =>
  if v5 = v11 then
    k1483 σ12 r1 r2 x3
  else
    some ((0 : Int32), σ12)
def F_L_law_1158 (sL : Nat) (sx : Nat → Int32) (k1483 : ah_S → Option Nat → Option Nat → Int32 → Option (Int32 × ah_S)) (σ : ah_S) (r1 : Option Nat) (r2 : Option Nat) (x3 : Int32) : Option (Int32 × ah_S) :=
  (ah_sx sL sx (x3 + (1 : Int32))).bind fun v1 =>
  (ah_is σ 1 r1).bind fun u2 =>
  ah_b2 (F_X0_trace σ r1 v1) fun v3 σ4 =>
  (ah_sx sL sx (x3 + (1 : Int32))).bind fun v5 =>
  (ah_is σ4 7 r2).bind fun u6 =>
  ah_b2 (F_X6_trace σ4 r2 v5) fun v7 σ8 =>
  if v3 = v7 then
    k1483 σ8 r1 r2 x3
  else
    some ((0 : Int32), σ8)
def F_L_law_1181 (sL : Nat) (sx : Nat → Int32) (k1483 : ah_S → Option Nat → Option Nat → Int32 → Option (Int32 × ah_S)) (σ : ah_S) (r1 : Option Nat) (r2 : Option Nat) (x3 : Int32) : Option (Int32 × ah_S) :=
  (ah_sx sL sx (x3 + (1 : Int32))).bind fun v1 =>
  (ah_sx sL sx (x3 + (2 : Int32))).bind fun v2 =>
  (ah_is σ 1 r1).bind fun u3 =>
  ah_b2 (F_X0_keep σ r1 v1 v2) fun v4 σ5 =>
  (ah_sx sL sx (x3 + (1 : Int32))).bind fun v6 =>
  (ah_sx sL sx (x3 + (2 : Int32))).bind fun v7 =>
  (ah_is σ5 7 r2).bind fun u8 =>
  ah_b2 (F_X6_keep σ5 r2 v6 v7) fun v9 σ10 =>
  if v4 = v9 then
    k1483 σ10 r1 r2 x3
  else
    some ((0 : Int32), σ10)
def F_L_law_1214 (sL : Nat) (sx : Nat → Int32) (k1483 : ah_S → Option Nat → Option Nat → Int32 → Option (Int32 × ah_S)) (σ : ah_S) (r1 : Option Nat) (r2 : Option Nat) (x3 : Int32) : Option (Int32 × ah_S) :=
  (ah_sx sL sx (x3 + (1 : Int32))).bind fun v1 =>
  (ah_sx sL sx (x3 + (2 : Int32))).bind fun v2 =>
  (ah_sx sL sx (x3 + (3 : Int32))).bind fun v3 =>
  (ah_is σ 1 r1).bind fun u4 =>
  ah_b2 (F_X0_row σ r1 v1 v2 v3) fun v5 σ6 =>
  (ah_sx sL sx (x3 + (1 : Int32))).bind fun v7 =>
  (ah_sx sL sx (x3 + (2 : Int32))).bind fun v8 =>
  (ah_sx sL sx (x3 + (3 : Int32))).bind fun v9 =>
  (ah_is σ6 7 r2).bind fun u10 =>
  ah_b2 (F_X6_row σ6 r2 v7 v8 v9) fun v11 σ12 =>
  if v5 = v11 then
    k1483 σ12 r1 r2 x3
  else
    some ((0 : Int32), σ12)
def F_L_law_1257 (sL : Nat) (sx : Nat → Int32) (k1483 : ah_S → Option Nat → Option Nat → Int32 → Option (Int32 × ah_S)) (σ : ah_S) (r1 : Option Nat) (r2 : Option Nat) (x3 : Int32) : Option (Int32 × ah_S) :=
  (ah_sx sL sx (x3 + (1 : Int32))).bind fun v1 =>
  (ah_sx sL sx (x3 + (2 : Int32))).bind fun v2 =>
  (ah_sx sL sx (x3 + (3 : Int32))).bind fun v3 =>
  (ah_sx sL sx (x3 + (4 : Int32))).bind fun v4 =>
  (ah_is σ 1 r1).bind fun u5 =>
  ah_b2 (F_X0_put σ r1 v1 v2 (((v3.toInt64) <<< ((32 : Int32).toInt64 &&& 63)) ||| ((v4.toInt64) &&& (4294967295 : Int64)))) fun v6 σ7 =>
  (ah_sx sL sx (x3 + (1 : Int32))).bind fun v8 =>
  (ah_sx sL sx (x3 + (2 : Int32))).bind fun v9 =>
  (ah_sx sL sx (x3 + (3 : Int32))).bind fun v10 =>
  (ah_sx sL sx (x3 + (4 : Int32))).bind fun v11 =>
  (ah_is σ7 7 r2).bind fun u12 =>
  ah_b2 (F_X6_put σ7 r2 v8 v9 (((v10.toInt64) <<< ((32 : Int32).toInt64 &&& 63)) ||| ((v11.toInt64) &&& (4294967295 : Int64)))) fun v13 σ14 =>
  if v6 = v13 then
    k1483 σ14 r1 r2 x3
  else
    some ((0 : Int32), σ14)
def F_L_law_1330 (sL : Nat) (sx : Nat → Int32) (k1483 : ah_S → Option Nat → Option Nat → Int32 → Option (Int32 × ah_S)) (σ : ah_S) (r1 : Option Nat) (r2 : Option Nat) (x3 : Int32) : Option (Int32 × ah_S) :=
  (ah_sx sL sx (x3 + (1 : Int32))).bind fun v1 =>
  (ah_sx sL sx (x3 + (2 : Int32))).bind fun v2 =>
  (ah_is σ 1 r1).bind fun u3 =>
  ah_b2 (F_X0_element σ r1 v1 v2) fun v4 σ5 =>
  (ah_sx sL sx (x3 + (1 : Int32))).bind fun v6 =>
  (ah_sx sL sx (x3 + (2 : Int32))).bind fun v7 =>
  (ah_is σ5 7 r2).bind fun u8 =>
  ah_b2 (F_X6_element σ5 r2 v6 v7) fun v9 σ10 =>
  if (lg_cmp v4 v9) = 0 then
    k1483 σ10 r1 r2 x3
  else
    some ((0 : Int32), σ10)
def F_L_law_1364 (sL : Nat) (sx : Nat → Int32) (k1483 : ah_S → Option Nat → Option Nat → Int32 → Option (Int32 × ah_S)) (σ : ah_S) (r1 : Option Nat) (r2 : Option Nat) (x3 : Int32) : Option (Int32 × ah_S) :=
  (ah_sx sL sx (x3 + (1 : Int32))).bind fun v1 =>
  (ah_sx sL sx (x3 + (2 : Int32))).bind fun v2 =>
  (ah_sx sL sx (x3 + (3 : Int32))).bind fun v3 =>
  (ah_sx sL sx (x3 + (4 : Int32))).bind fun v4 =>
  (ah_sx sL sx (x3 + (5 : Int32))).bind fun v5 =>
  (ah_is σ 1 r1).bind fun u6 =>
  ah_b2 (F_X0_shift σ r1 v1 v2 v3 v4 v5) fun v7 σ8 =>
  (ah_sx sL sx (x3 + (1 : Int32))).bind fun v9 =>
  (ah_sx sL sx (x3 + (2 : Int32))).bind fun v10 =>
  (ah_sx sL sx (x3 + (3 : Int32))).bind fun v11 =>
  (ah_sx sL sx (x3 + (4 : Int32))).bind fun v12 =>
  (ah_sx sL sx (x3 + (5 : Int32))).bind fun v13 =>
  (ah_is σ8 7 r2).bind fun u14 =>
  ah_b2 (F_X6_shift σ8 r2 v9 v10 v11 v12 v13) fun v15 σ16 =>
  if v7 = v15 then
    k1483 σ16 r1 r2 x3
  else
    some ((0 : Int32), σ16)
def F_L_law_1427 (sL : Nat) (sx : Nat → Int32) (k1483 : ah_S → Option Nat → Option Nat → Int32 → Option (Int32 × ah_S)) (σ : ah_S) (r1 : Option Nat) (r2 : Option Nat) (x3 : Int32) : Option (Int32 × ah_S) :=
  (ah_sx sL sx (x3 + (1 : Int32))).bind fun v1 =>
  (ah_sx sL sx (x3 + (2 : Int32))).bind fun v2 =>
  (ah_is σ 1 r1).bind fun u3 =>
  ah_b2 (F_X0_taken σ r1 v1 v2) fun v4 σ5 =>
  (ah_sx sL sx (x3 + (1 : Int32))).bind fun v6 =>
  (ah_sx sL sx (x3 + (2 : Int32))).bind fun v7 =>
  (ah_is σ5 7 r2).bind fun u8 =>
  ah_b2 (F_X6_taken σ5 r2 v6 v7) fun v9 σ10 =>
  if v4 = v9 then
    k1483 σ10 r1 r2 x3
  else
    some ((0 : Int32), σ10)
def F_L_law_1460 (sL : Nat) (sx : Nat → Int32) (k1483 : ah_S → Option Nat → Option Nat → Int32 → Option (Int32 × ah_S)) (σ : ah_S) (r1 : Option Nat) (r2 : Option Nat) (x3 : Int32) : Option (Int32 × ah_S) :=
  (ah_sx sL sx (x3 + (1 : Int32))).bind fun v1 =>
  (ah_is σ 1 r1).bind fun u2 =>
  ah_b2 (F_X0_count σ r1 v1) fun v3 σ4 =>
  (ah_sx sL sx (x3 + (1 : Int32))).bind fun v5 =>
  (ah_is σ4 7 r2).bind fun u6 =>
  ah_b2 (F_X6_count σ4 r2 v5) fun v7 σ8 =>
  if v3 = v7 then
    k1483 σ8 r1 r2 x3
  else
    some ((0 : Int32), σ8)
def F_L_law_1483 (sL : Nat) (sx : Nat → Int32) (k18 : ah_S → Option Nat → Option Nat → Int32 → Option (Int32 × ah_S)) (σ : ah_S) (r1 : Option Nat) (r2 : Option Nat) (x3 : Int32) : Option (Int32 × ah_S) :=
  k18 σ r1 r2 (x3 + (6 : Int32))
def F_L_law_18 (sL : Nat) (sx : Nat → Int32) : Nat → ah_S → Option Nat → Option Nat → Int32 → Option (Int32 × ah_S)
  | 0, _, _, _, _ => none
  | n + 1, σ, r1, r2, x3 =>
    if ((Int32.ofNat sL) - (6 : Int32)) < x3 then
      some ((1 : Int32), σ)
    else
      (ah_sx sL sx x3).bind fun v1 =>
      if (v1 &&& (63 : Int32)) = (0 : Int32) then
        F_L_law_204 sL sx (F_L_law_1483 sL sx (F_L_law_18 sL sx n)) σ r1 r2 x3
      else
      if (v1 &&& (63 : Int32)) = (1 : Int32) then
        F_L_law_237 sL sx (F_L_law_1483 sL sx (F_L_law_18 sL sx n)) σ r1 r2 x3
      else
      if (v1 &&& (63 : Int32)) = (2 : Int32) then
        F_L_law_280 sL sx (F_L_law_1483 sL sx (F_L_law_18 sL sx n)) σ r1 r2 x3
      else
      if (v1 &&& (63 : Int32)) = (3 : Int32) then
        F_L_law_323 sL sx (F_L_law_1483 sL sx (F_L_law_18 sL sx n)) σ r1 r2 x3
      else
      if (v1 &&& (63 : Int32)) = (4 : Int32) then
        F_L_law_356 sL sx (F_L_law_1483 sL sx (F_L_law_18 sL sx n)) σ r1 r2 x3
      else
      if (v1 &&& (63 : Int32)) = (5 : Int32) then
        F_L_law_379 sL sx (F_L_law_1483 sL sx (F_L_law_18 sL sx n)) σ r1 r2 x3
      else
      if (v1 &&& (63 : Int32)) = (6 : Int32) then
        F_L_law_392 sL sx (F_L_law_1483 sL sx (F_L_law_18 sL sx n)) σ r1 r2 x3
      else
      if (v1 &&& (63 : Int32)) = (7 : Int32) then
        F_L_law_435 sL sx (F_L_law_1483 sL sx (F_L_law_18 sL sx n)) σ r1 r2 x3
      else
      if (v1 &&& (63 : Int32)) = (8 : Int32) then
        F_L_law_468 sL sx (F_L_law_1483 sL sx (F_L_law_18 sL sx n)) σ r1 r2 x3
      else
      if (v1 &&& (63 : Int32)) = (9 : Int32) then
        F_L_law_511 sL sx (F_L_law_1483 sL sx (F_L_law_18 sL sx n)) σ r1 r2 x3
      else
      if (v1 &&& (63 : Int32)) = (10 : Int32) then
        F_L_law_534 sL sx (F_L_law_1483 sL sx (F_L_law_18 sL sx n)) σ r1 r2 x3
      else
      if (v1 &&& (63 : Int32)) = (11 : Int32) then
        F_L_law_567 sL sx (F_L_law_1483 sL sx (F_L_law_18 sL sx n)) σ r1 r2 x3
      else
      if (v1 &&& (63 : Int32)) = (12 : Int32) then
        F_L_law_610 sL sx (F_L_law_1483 sL sx (F_L_law_18 sL sx n)) σ r1 r2 x3
      else
      if (v1 &&& (63 : Int32)) = (13 : Int32) then
        F_L_law_643 sL sx (F_L_law_1483 sL sx (F_L_law_18 sL sx n)) σ r1 r2 x3
      else
      if (v1 &&& (63 : Int32)) = (14 : Int32) then
        F_L_law_676 sL sx (F_L_law_1483 sL sx (F_L_law_18 sL sx n)) σ r1 r2 x3
      else
      if (v1 &&& (63 : Int32)) = (15 : Int32) then
        F_L_law_709 sL sx (F_L_law_1483 sL sx (F_L_law_18 sL sx n)) σ r1 r2 x3
      else
      if (v1 &&& (63 : Int32)) = (16 : Int32) then
        F_L_law_743 sL sx (F_L_law_1483 sL sx (F_L_law_18 sL sx n)) σ r1 r2 x3
      else
      if (v1 &&& (63 : Int32)) = (17 : Int32) then
        F_L_law_786 sL sx (F_L_law_1483 sL sx (F_L_law_18 sL sx n)) σ r1 r2 x3
      else
      if (v1 &&& (63 : Int32)) = (18 : Int32) then
        F_L_law_819 sL sx (F_L_law_1483 sL sx (F_L_law_18 sL sx n)) σ r1 r2 x3
      else
      if (v1 &&& (63 : Int32)) = (19 : Int32) then
        F_L_law_852 sL sx (F_L_law_1483 sL sx (F_L_law_18 sL sx n)) σ r1 r2 x3
      else
      if (v1 &&& (63 : Int32)) = (20 : Int32) then
        F_L_law_895 sL sx (F_L_law_1483 sL sx (F_L_law_18 sL sx n)) σ r1 r2 x3
      else
      if (v1 &&& (63 : Int32)) = (21 : Int32) then
        F_L_law_938 sL sx (F_L_law_1483 sL sx (F_L_law_18 sL sx n)) σ r1 r2 x3
      else
      if (v1 &&& (63 : Int32)) = (22 : Int32) then
        F_L_law_961 sL sx (F_L_law_1483 sL sx (F_L_law_18 sL sx n)) σ r1 r2 x3
      else
      if (v1 &&& (63 : Int32)) = (23 : Int32) then
        F_L_law_994 sL sx (F_L_law_1483 sL sx (F_L_law_18 sL sx n)) σ r1 r2 x3
      else
      if (v1 &&& (63 : Int32)) = (24 : Int32) then
        F_L_law_1017 sL sx (F_L_law_1483 sL sx (F_L_law_18 sL sx n)) σ r1 r2 x3
      else
      if (v1 &&& (63 : Int32)) = (25 : Int32) then
        F_L_law_1040 sL sx (F_L_law_1483 sL sx (F_L_law_18 sL sx n)) σ r1 r2 x3
      else
      if (v1 &&& (63 : Int32)) = (26 : Int32) then
        F_L_law_1053 sL sx (F_L_law_1483 sL sx (F_L_law_18 sL sx n)) σ r1 r2 x3
      else
      if (v1 &&& (63 : Int32)) = (27 : Int32) then
        F_L_law_1066 sL sx (F_L_law_1483 sL sx (F_L_law_18 sL sx n)) σ r1 r2 x3
      else
      if (v1 &&& (63 : Int32)) = (28 : Int32) then
        F_L_law_1079 sL sx (F_L_law_1483 sL sx (F_L_law_18 sL sx n)) σ r1 r2 x3
      else
      if (v1 &&& (63 : Int32)) = (29 : Int32) then
        F_L_law_1092 sL sx (F_L_law_1483 sL sx (F_L_law_18 sL sx n)) σ r1 r2 x3
      else
      if (v1 &&& (63 : Int32)) = (30 : Int32) then
        F_L_law_1115 sL sx (F_L_law_1483 sL sx (F_L_law_18 sL sx n)) σ r1 r2 x3
      else
      if (v1 &&& (63 : Int32)) = (31 : Int32) then
        F_L_law_1158 sL sx (F_L_law_1483 sL sx (F_L_law_18 sL sx n)) σ r1 r2 x3
      else
      if (v1 &&& (63 : Int32)) = (32 : Int32) then
        F_L_law_1181 sL sx (F_L_law_1483 sL sx (F_L_law_18 sL sx n)) σ r1 r2 x3
      else
      if (v1 &&& (63 : Int32)) = (33 : Int32) then
        F_L_law_1214 sL sx (F_L_law_1483 sL sx (F_L_law_18 sL sx n)) σ r1 r2 x3
      else
      if (v1 &&& (63 : Int32)) = (34 : Int32) then
        F_L_law_1257 sL sx (F_L_law_1483 sL sx (F_L_law_18 sL sx n)) σ r1 r2 x3
      else
      if (v1 &&& (63 : Int32)) = (35 : Int32) then
        F_L_law_1330 sL sx (F_L_law_1483 sL sx (F_L_law_18 sL sx n)) σ r1 r2 x3
      else
      if (v1 &&& (63 : Int32)) = (36 : Int32) then
        F_L_law_1364 sL sx (F_L_law_1483 sL sx (F_L_law_18 sL sx n)) σ r1 r2 x3
      else
      if (v1 &&& (63 : Int32)) = (37 : Int32) then
        F_L_law_1427 sL sx (F_L_law_1483 sL sx (F_L_law_18 sL sx n)) σ r1 r2 x3
      else
      if (v1 &&& (63 : Int32)) = (38 : Int32) then
        F_L_law_1460 sL sx (F_L_law_1483 sL sx (F_L_law_18 sL sx n)) σ r1 r2 x3
      else
      F_L_law_1483 sL sx (F_L_law_18 sL sx n) σ r1 r2 x3
def F_L_law (sL : Nat) (sx : Nat → Int32) (σ : ah_S) : Option (Int32 × ah_S) :=
  (ah_mO σ 1 42).bind fun σ1 =>
  (F_X0_init σ1 (some (ah_nx σ))).bind fun σ2 =>
  (ah_mO σ2 7 60).bind fun σ3 =>
  (F_X6_init σ3 (some (ah_nx σ2))).bind fun σ4 =>
  F_L_law_18 sL sx 1000 σ4 (some (ah_nx σ)) (some (ah_nx σ2)) (0 : Int32)
