def F_J0_init_2  (σ : ah_S) (r0 : Option Nat) (r1 : Option Nat) (r2 : Option Nat) (x3 : Int32) (x4 : Int32) : Option ah_S :=
  (r0).bind fun a1 =>
  (ah_iu σ r0).bind fun u2 =>
  (ah_iu σ r0).bind fun u4 =>
  (ah_iu σ r0).bind fun u6 =>
  if x4 = 0 then
    (ah_iu σ r0).bind fun u7 =>
    (ah_iu σ r0).bind fun u8 =>
    (ah_iu σ r0).bind fun u9 =>
    if x3 = 0 then
      (ah_iu σ r0).bind fun u10 =>
      some σ
    else
      some σ
  else
    none
def F_J1_init  (σ : ah_S) (r0 : Option Nat) (r1 : Option Nat) (r2 : Option Nat) (x3 : Int32) (x4 : Int32) : Option ah_S :=
  (r0).bind fun a1 =>
  (F_J0_init_2 σ r0 r1 r2 x3 x4).bind fun σ2 =>
  some σ2
def F_J2_init  (σ : ah_S) (r0 : Option Nat) (r1 : Option Nat) (r2 : Option Nat) (x3 : Int32) (x4 : Int32) : Option ah_S :=
  (r0).bind fun a1 =>
  (F_J1_init σ r0 r1 r2 x3 x4).bind fun σ2 =>
  some σ2
def F_X1_init  (σ : ah_S) (r0 : Option Nat) : Option ah_S :=
  (r0).bind fun a1 =>
  (F_J2_init σ r0 none none (0 : Int32) (0 : Int32)).bind fun σ2 =>
  some σ2
def F_X3_init  (σ : ah_S) (r0 : Option Nat) : Option ah_S :=
  (r0).bind fun a1 =>
  (F_J2_init σ r0 none none (0 : Int32) (0 : Int32)).bind fun σ2 =>
  some σ2
def F_X0_init_367  : Nat → ah_S → Option Nat → Int32 → Option ah_S
  | 0, _, _, _ => none
  | n + 1, σ, r0, x1 =>
    if (4 : Int32) ≤ x1 then
      some σ
    else
      (ah_gR σ 9 r0).bind fun v1 =>
      ah_b2 (F_X0_heldAt σ (50 : Int32)) fun v2 σ3 =>
      (ah_wQ σ3 113 v1 x1 v2).bind fun σ4 =>
      (ah_gR σ4 10 r0).bind fun v5 =>
      ah_b2 (F_X0_heldAt σ4 (1 : Int32)) fun v6 σ7 =>
      (ah_wQ σ7 113 v5 x1 v6).bind fun σ8 =>
      F_X0_init_367 n σ8 r0 (x1 + (1 : Int32))
def F_X0_init_340  : Nat → ah_S → Option Nat → Int32 → Option ah_S
  | 0, _, _, _ => none
  | n + 1, σ, r0, x1 =>
    if (40 : Int32) ≤ x1 then
      F_X0_init_367 1000 σ r0 (0 : Int32)
    else
      (ah_gR σ 0 r0).bind fun v1 =>
      (ah_mO σ 6 3).bind fun σ2 =>
      (F_X5_init σ2 (some (ah_nx σ))).bind fun σ3 =>
      (ah_wQ σ3 111 v1 x1 (some (ah_nx σ))).bind fun σ4 =>
      F_X0_init_340 n σ4 r0 (x1 + (1 : Int32))
def F_X0_init  (σ : ah_S) (r0 : Option Nat) : Option ah_S :=
  (r0).bind fun a1 =>
  (ah_mA σ 111 (40 : Int32)).bind fun σ2 =>
  (ah_pR σ2 0 r0 (some (ah_nx σ))).bind fun σ3 =>
  (ah_mA σ3 101 (120 : Int32)).bind fun σ4 =>
  (ah_pR σ4 3 r0 (some (ah_nx σ3))).bind fun σ5 =>
  (ah_mO σ5 2 6).bind fun σ6 =>
  (F_X1_init σ6 (some (ah_nx σ5))).bind fun σ7 =>
  (ah_pR σ7 5 r0 (some (ah_nx σ5))).bind fun σ8 =>
  (ah_mA σ8 112 (7 : Int32)).bind fun σ9 =>
  (ah_pR σ9 7 r0 (some (ah_nx σ8))).bind fun σ10 =>
  (ah_mA σ10 113 (4 : Int32)).bind fun σ11 =>
  (ah_pR σ11 9 r0 (some (ah_nx σ10))).bind fun σ12 =>
  (ah_mA σ12 113 (4 : Int32)).bind fun σ13 =>
  (ah_pR σ13 10 r0 (some (ah_nx σ12))).bind fun σ14 =>
  ah_b2 (F_X0_heldAt σ14 (50 : Int32)) fun v15 σ16 =>
  (ah_pR σ16 11 r0 v15).bind fun σ17 =>
  ah_b2 (F_X0_heldAt σ17 (20 : Int32)) fun v18 σ19 =>
  (ah_pR σ19 12 r0 v18).bind fun σ20 =>
  ah_b2 (F_X0_heldAt σ20 (6 : Int32)) fun v21 σ22 =>
  (ah_pR σ22 13 r0 v21).bind fun σ23 =>
  (ah_mO σ23 4 6).bind fun σ24 =>
  (F_X3_init σ24 (some (ah_nx σ23))).bind fun σ25 =>
  (ah_pR σ25 14 r0 (some (ah_nx σ23))).bind fun σ26 =>
  (ah_mA σ26 101 (6 : Int32)).bind fun σ27 =>
  (ah_pR σ27 15 r0 (some (ah_nx σ26))).bind fun σ28 =>
  (ah_mO σ28 5 7).bind fun σ29 =>
  (F_X4_init σ29 (some (ah_nx σ28)) r0).bind fun σ30 =>
  (ah_pR σ30 18 r0 (some (ah_nx σ28))).bind fun σ31 =>
  (ah_mO σ31 5 7).bind fun σ32 =>
  (F_X4_init σ32 (some (ah_nx σ31)) r0).bind fun σ33 =>
  (ah_pR σ33 19 r0 (some (ah_nx σ31))).bind fun σ34 =>
  (ah_mA σ34 101 (30 : Int32)).bind fun σ35 =>
  (ah_pR σ35 20 r0 (some (ah_nx σ34))).bind fun σ36 =>
  (ah_mA σ36 101 (7437 : Int32)).bind fun σ37 =>
  (ah_pR σ37 22 r0 (some (ah_nx σ36))).bind fun σ38 =>
  (ah_mA σ38 101 (30 : Int32)).bind fun σ39 =>
  (ah_pR σ39 25 r0 (some (ah_nx σ38))).bind fun σ40 =>
  (ah_mA σ40 101 (5 : Int32)).bind fun σ41 =>
  (ah_pR σ41 26 r0 (some (ah_nx σ40))).bind fun σ42 =>
  (ah_mA σ42 101 (5 : Int32)).bind fun σ43 =>
  (ah_pR σ43 27 r0 (some (ah_nx σ42))).bind fun σ44 =>
  (ah_mA σ44 114 (7 : Int32)).bind fun σ45 =>
  (ah_mO σ45 5 7).bind fun σ46 =>
  (F_X4_init σ46 (some (ah_nx σ45)) r0).bind fun σ47 =>
  (ah_wQ σ47 114 (some (ah_nx σ44)) (0 : Int32) (some (ah_nx σ45))).bind fun σ48 =>
  (ah_mO σ48 5 7).bind fun σ49 =>
  (F_X4_init σ49 (some (ah_nx σ48)) r0).bind fun σ50 =>
  (ah_wQ σ50 114 (some (ah_nx σ44)) (1 : Int32) (some (ah_nx σ48))).bind fun σ51 =>
  (ah_mO σ51 5 7).bind fun σ52 =>
  (F_X4_init σ52 (some (ah_nx σ51)) r0).bind fun σ53 =>
  (ah_wQ σ53 114 (some (ah_nx σ44)) (2 : Int32) (some (ah_nx σ51))).bind fun σ54 =>
  (ah_mO σ54 5 7).bind fun σ55 =>
  (F_X4_init σ55 (some (ah_nx σ54)) r0).bind fun σ56 =>
  (ah_wQ σ56 114 (some (ah_nx σ44)) (3 : Int32) (some (ah_nx σ54))).bind fun σ57 =>
  (ah_mO σ57 5 7).bind fun σ58 =>
  (F_X4_init σ58 (some (ah_nx σ57)) r0).bind fun σ59 =>
  (ah_wQ σ59 114 (some (ah_nx σ44)) (4 : Int32) (some (ah_nx σ57))).bind fun σ60 =>
  (ah_mO σ60 5 7).bind fun σ61 =>
  (F_X4_init σ61 (some (ah_nx σ60)) r0).bind fun σ62 =>
  (ah_wQ σ62 114 (some (ah_nx σ44)) (5 : Int32) (some (ah_nx σ60))).bind fun σ63 =>
  (ah_mO σ63 5 7).bind fun σ64 =>
  (F_X4_init σ64 (some (ah_nx σ63)) r0).bind fun σ65 =>
  (ah_wQ σ65 114 (some (ah_nx σ44)) (6 : Int32) (some (ah_nx σ63))).bind fun σ66 =>
  (ah_pR σ66 29 r0 (some (ah_nx σ44))).bind fun σ67 =>
  (ah_mA σ67 101 (6 : Int32)).bind fun σ68 =>
  (ah_pR σ68 30 r0 (some (ah_nx σ67))).bind fun σ69 =>
  (ah_mA σ69 101 (6 : Int32)).bind fun σ70 =>
  (ah_pR σ70 31 r0 (some (ah_nx σ69))).bind fun σ71 =>
  (ah_mA σ71 101 (4 : Int32)).bind fun σ72 =>
  (ah_wA σ72 101 (some (ah_nx σ71)) (0 : Int32) (0 : Int32)).bind fun σ73 =>
  (ah_wA σ73 101 (some (ah_nx σ71)) (1 : Int32) (0 : Int32)).bind fun σ74 =>
  (ah_wA σ74 101 (some (ah_nx σ71)) (2 : Int32) (0 : Int32)).bind fun σ75 =>
  (ah_wA σ75 101 (some (ah_nx σ71)) (3 : Int32) (-2 : Int32)).bind fun σ76 =>
  (ah_pR σ76 33 r0 (some (ah_nx σ71))).bind fun σ77 =>
  (ah_mO σ77 5 7).bind fun σ78 =>
  (F_X4_init σ78 (some (ah_nx σ77)) r0).bind fun σ79 =>
  (ah_pR σ79 35 r0 (some (ah_nx σ77))).bind fun σ80 =>
  (ah_mA σ80 101 (4 : Int32)).bind fun σ81 =>
  (ah_pR σ81 36 r0 (some (ah_nx σ80))).bind fun σ82 =>
  (ah_mA σ82 115 (50 : Int32)).bind fun σ83 =>
  (ah_pR σ83 37 r0 (some (ah_nx σ82))).bind fun σ84 =>
  (ah_mA σ84 101 (24 : Int32)).bind fun σ85 =>
  (ah_pR σ85 39 r0 (some (ah_nx σ84))).bind fun σ86 =>
  (ah_mA σ86 116 (6 : Int32)).bind fun σ87 =>
  (ah_pR σ87 41 r0 (some (ah_nx σ86))).bind fun σ88 =>
  F_X0_init_340 1000 σ88 r0 (0 : Int32)
