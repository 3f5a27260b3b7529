/-! as it computes (printed by gen/xmodel.py) -/
set_option maxRecDepth 100000
def oX1_isBoard (σ : ol_Xm) (β : ol_Bd) (bp : Nat) (x1 : Int32) : Option Int32 :=
  ((oX1_isIn x1 0 ((β.1 0 3) - 1)).bind fun y1 =>
    (if y1 = 0 then
      some 0
    else
      some 1))
def oX1_isSet (σ : ol_Xm) (β : ol_Bd) (bp : Nat) (x1 : Int32) : Option Int32 :=
  ((oX1_isIn x1 1 (((1 : Int32) <<< ((β.1 0 3) &&& 31)) - 1)).bind fun y1 =>
    (ol_og (ol_zb y1) (some y1)))
def oX1_refuses (σ : ol_Xm) (β : ol_Bd) (bp : Nat) (x1 : Int32) (x2 : Int32) (x3 : Int32) (x4 : Int32) : Option Int32 :=
  (if x1 = 0 then
    some 1
  else
    ((oX1_isPass x2).bind fun y1 =>
      (if y1 = 0 then
        some 2
      else
        ((oX1_isSet σ β bp x3).bind fun y3 =>
          (if y3 = 0 then
            some 2
          else
            ((oX1_isIn x4 0 400).bind fun y5 =>
              (if y5 = 0 then
                some 2
              else
                some 0)))))))
def oX1_about (σ : ol_Xm) (β : ol_Bd) (bp : Nat) (x1 : Int32) : Option (Int32 × ol_Xm) :=
  (if x1 = 0 then
    ((oX1_fine σ (β.1 0 0)).bind fun y1 =>
      some (y1.1, y1.2))
  else
  (if x1 = 1 then
    ((oX1_fine σ (β.1 0 1)).bind fun y4 =>
      some (y4.1, y4.2))
  else
  (if x1 = 2 then
    ((oX1_fine σ (β.1 0 2)).bind fun y7 =>
      some (y7.1, y7.2))
  else
  (if x1 = 3 then
    ((oX1_fine σ (β.1 0 3)).bind fun y10 =>
      some (y10.1, y10.2))
  else
  (if x1 = 4 then
    ((oX1_fine σ (β.1 0 4)).bind fun y13 =>
      some (y13.1, y13.2))
  else
  (if x1 = 5 then
    ((oX1_fine σ (σ.1 10 8)).bind fun y16 =>
      some (y16.1, y16.2))
  else
  ((oX1_refused σ 1).bind fun y19 =>
    some (y19.1, y19.2))))))))
def oX1_board (σ : ol_Xm) (β : ol_Bd) (bp : Nat) (x1 : Int32) (x2 : Int32) : Option (Int32 × ol_Xm) :=
  ((oX1_isBoard σ β bp x1).bind fun y1 =>
    (if y1 = 0 then
      ((oX1_refused σ 1).bind fun y35 =>
        some (y35.1, y35.2))
    else
      (ol_og (ol_ib β x1) (
        (if x2 = 0 then
          ((oX1_fine σ (β.1 2 x1.toNatClampNeg)).bind fun y4 =>
            some (y4.1, y4.2))
        else
        (if x2 = 1 then
          ((oX1_fine σ (β.1 3 x1.toNatClampNeg)).bind fun y7 =>
            some (y7.1, y7.2))
        else
        (if x2 = 2 then
          ((oX1_fine σ (β.1 1 x1.toNatClampNeg)).bind fun y10 =>
            some (y10.1, y10.2))
        else
        (if x2 = 3 then
          ((oX9_ofTheDay σ β bp 10 x1.toNatClampNeg).bind fun y13 =>
            ((oX1_fine σ y13).bind fun y15 =>
              some (y15.1, y15.2)))
        else
        (if x2 = 4 then
          (ol_og (ol_in x1 6) (
            (if (σ.1 (10 + 1) x1.toNatClampNeg) = 0 then
              ((oX1_fine σ 0).bind fun y19 =>
                some (y19.1, y19.2))
            else
              ((oX1_fine σ 1).bind fun y21 =>
                some (y21.1, y21.2)))))
        else
        (if x2 = 5 then
          (ol_og (ol_in x1 6) (
            ((oX1_fine σ (σ.1 (10 + 2) x1.toNatClampNeg)).bind fun y26 =>
              some (y26.1, y26.2))))
        else
        (if x2 = 6 then
          (ol_og (ol_in x1 6) (
            ((oX1_fine σ (σ.1 (10 + 4) x1.toNatClampNeg)).bind fun y30 =>
              some (y30.1, y30.2))))
        else
        ((oX1_refused σ 1).bind fun y33 =>
          some (y33.1, y33.2)))))))))))))
def oX1_word (σ : ol_Xm) (β : ol_Bd) (bp : Nat) (x1 : Int32) (x2 : Int32) : Option (Int32 × ol_Xm) :=
  ((oX1_isBoard σ β bp x1).bind fun y1 =>
    (if y1 = 0 then
      ((oX1_refused σ 1).bind fun y14 =>
        some (y14.1, y14.2))
    else
      ((oX1_isPass x2).bind fun y3 =>
        (if y3 = 0 then
          ((oX1_refused σ 2).bind fun y5 =>
            some (y5.1, y5.2))
        else
          (ol_og (ol_ib β x1) (
            ((oX11_of σ β bp x2 x1.toNatClampNeg).bind fun y9 =>
              ((oX1_fine σ y9).bind fun y11 =>
                some (y11.1, y11.2)))))))))
def oX1_passOf_L32 (β : ol_Bd) (bp : Nat) (x1 : Int32) (x2 : Int32) (x3 : Int32)  (σ : ol_Xm) : Option ol_Xm :=
  ((oX2_goes σ β bp 10 (fun σ i => oX11_of σ β bp x1 i) x2 400).bind fun y2 =>
    some (ol_xs (ol_xs y2 0 11 x1) 0 12 x2))
def oX1_passOf (σ : ol_Xm) (β : ol_Bd) (bp : Nat) (x1 : Int32) (x2 : Int32) (x3 : Int32) : Option ol_Xm :=
  (if x1 = (σ.1 0 11) then
    (if x2 = (σ.1 0 12) then
      (if (σ.1 2 12) < x3 then
        oX1_passOf_L32 β bp x1 x2 x3 σ
      else
        some σ)
    else
      oX1_passOf_L32 β bp x1 x2 x3 σ)
  else
    oX1_passOf_L32 β bp x1 x2 x3 σ)
def oX1_drives (σ : ol_Xm) (β : ol_Bd) (bp : Nat) (x1 : Int32) (x2 : Int32) (x3 : Int32) (x4 : Int32) : Option (Int32 × ol_Xm) :=
  ((oX1_isBoard σ β bp x3).bind fun y1 =>
    ((oX1_refuses σ β bp y1 x1 x2 x4).bind fun y3 =>
      (if y3 ≤ 0 then
        ((oX1_passOf σ β bp x1 x2 x4).bind fun y5 =>
          (ol_og (ol_in ((401 * x3) + x4) 2406) (
            ((oX1_fine y5 (y5.1 4 (((401 * x3) + x4).toNatClampNeg))).bind fun y8 =>
              some (y8.1, y8.2)))))
      else
        ((oX1_refused σ y3).bind fun y10 =>
          some (y10.1, y10.2)))))
def oX1_seen (σ : ol_Xm) (β : ol_Bd) (bp : Nat) (x1 : Int32) (x2 : Int32) (x3 : Int32) (x4 : Int32) : Option (Int32 × ol_Xm) :=
  ((oX1_isBoard σ β bp x3).bind fun y1 =>
    ((oX1_refuses σ β bp y1 x1 x2 x4).bind fun y3 =>
      (if y3 ≤ 0 then
        ((oX1_passOf σ β bp x1 x2 x4).bind fun y5 =>
          (ol_og (ol_in ((401 * x3) + x4) 2406) (
            ((oX1_fine y5 (y5.1 5 (((401 * x3) + x4).toNatClampNeg))).bind fun y8 =>
              some (y8.1, y8.2)))))
      else
        ((oX1_refused σ y3).bind fun y10 =>
          some (y10.1, y10.2)))))
def oX1_taken (σ : ol_Xm) (β : ol_Bd) (bp : Nat) (x1 : Int32) (x2 : Int32) (x3 : Int32) (x4 : Int32) : Option (Int32 × ol_Xm) :=
  ((oX1_isBoard σ β bp x3).bind fun y1 =>
    ((oX1_refuses σ β bp y1 x1 x2 x4).bind fun y3 =>
      (if y3 ≤ 0 then
        ((oX1_passOf σ β bp x1 x2 x4).bind fun y5 =>
          (ol_og (ol_in ((401 * x3) + x4) 2406) (
            ((oX1_fine y5 (y5.1 6 (((401 * x3) + x4).toNatClampNeg))).bind fun y8 =>
              some (y8.1, y8.2)))))
      else
        ((oX1_refused σ y3).bind fun y10 =>
          some (y10.1, y10.2)))))
def oX1_withdrawn (σ : ol_Xm) (β : ol_Bd) (bp : Nat) (x1 : Int32) (x2 : Int32) (x3 : Int32) (x4 : Int32) : Option (Int32 × ol_Xm) :=
  ((oX1_isBoard σ β bp x3).bind fun y1 =>
    ((oX1_refuses σ β bp y1 x1 x2 x4).bind fun y3 =>
      (if y3 ≤ 0 then
        ((oX1_passOf σ β bp x1 x2 x4).bind fun y5 =>
          (ol_og (ol_in ((401 * x3) + x4) 2406) (
            ((oX1_fine y5 (y5.1 7 (((401 * x3) + x4).toNatClampNeg))).bind fun y8 =>
              some (y8.1, y8.2)))))
      else
        ((oX1_refused σ y3).bind fun y10 =>
          some (y10.1, y10.2)))))
def oX1_winners (σ : ol_Xm) (β : ol_Bd) (bp : Nat) (x1 : Int32) (x2 : Int32) (x3 : Int32) : Option (Int32 × ol_Xm) :=
  ((oX1_refuses σ β bp 1 x1 x2 x3).bind fun y1 =>
    (if y1 ≤ 0 then
      ((oX1_passOf σ β bp x1 x2 x3).bind fun y3 =>
        ((oX2_winners y3 β bp x3).bind fun y5 =>
          ((oX1_fine y3 y5).bind fun y7 =>
            some (y7.1, y7.2))))
    else
      ((oX1_refused σ y1).bind fun y9 =>
        some (y9.1, y9.2))))
def oX1_settles (σ : ol_Xm) (β : ol_Bd) (bp : Nat) (x1 : Int32) (x2 : Int32) : Option (Int32 × ol_Xm) :=
  ((oX1_refuses σ β bp 1 x1 x2 0).bind fun y1 =>
    (if y1 ≤ 0 then
      ((oX1_passOf σ β bp x1 x2 400).bind fun y3 =>
        ((oX2_settles y3 β bp).bind fun y5 =>
          ((oX1_fine y3 y5).bind fun y7 =>
            some (y7.1, y7.2))))
    else
      ((oX1_refused σ y1).bind fun y9 =>
        some (y9.1, y9.2))))
def oX1_sure (σ : ol_Xm) (β : ol_Bd) (bp : Nat) (x1 : Int32) (x2 : Int32) : Option (Int32 × ol_Xm) :=
  ((oX1_refuses σ β bp 1 x1 x2 0).bind fun y1 =>
    (if y1 ≤ 0 then
      ((oX1_passOf σ β bp x1 x2 400).bind fun y3 =>
        ((oX2_sure y3 β bp).bind fun y5 =>
          ((oX1_fine y3 y5).bind fun y7 =>
            some (y7.1, y7.2))))
    else
      ((oX1_refused σ y1).bind fun y9 =>
        some (y9.1, y9.2))))
def oX1_right (σ : ol_Xm) (β : ol_Bd) (bp : Nat) (x1 : Int32) (x2 : Int32) : Option (Int32 × ol_Xm) :=
  ((oX1_refuses σ β bp 1 x1 x2 0).bind fun y1 =>
    (if y1 ≤ 0 then
      ((oX1_passOf σ β bp x1 x2 0).bind fun y3 =>
        ((oX2_right y3 β bp).bind fun y5 =>
          ((oX1_fine y3 y5).bind fun y7 =>
            some (y7.1, y7.2))))
    else
      ((oX1_refused σ y1).bind fun y9 =>
        some (y9.1, y9.2))))
def oX1_dips (σ : ol_Xm) (β : ol_Bd) (bp : Nat) (x1 : Int32) (x2 : Int32) : Option (Int32 × ol_Xm) :=
  ((oX1_refuses σ β bp 1 x1 x2 0).bind fun y1 =>
    (if y1 ≤ 0 then
      ((oX1_passOf σ β bp x1 x2 400).bind fun y3 =>
        ((oX1_fine y3 (y3.1 2 11)).bind fun y5 =>
          some (y5.1, y5.2)))
    else
      ((oX1_refused σ y1).bind fun y7 =>
        some (y7.1, y7.2))))
def oX1_faulty (σ : ol_Xm) (β : ol_Bd) (bp : Nat) (x1 : Int32) (x2 : Int32) (x3 : Int32) : Option (Int32 × ol_Xm) :=
  ((oX1_refuses σ β bp 1 x1 x2 x3).bind fun y1 =>
    (if y1 ≤ 0 then
      ((oX1_passOf σ β bp x1 x2 x3).bind fun y3 =>
        ((oX2_isFaulty y3 β bp x3).bind fun y5 =>
          (if y5 = 0 then
            ((oX1_fine y3 0).bind fun y7 =>
              some (y7.1, y7.2))
          else
            ((oX1_fine y3 1).bind fun y9 =>
              some (y9.1, y9.2)))))
    else
      ((oX1_refused σ y1).bind fun y12 =>
        some (y12.1, y12.2))))
def oX1_edges_L24 (β : ol_Bd) (bp : Nat) (x1 : Int32) (x2 : Int32) (x3 : Int32) (x4 : Int32)  (s0 : Int32) (σ : ol_Xm) : Option (Int32 × ol_Xm) :=
  ((oX1_refuses σ β bp s0 x1 x2 0).bind fun y1 =>
    (if y1 ≤ 0 then
      ((oX1_passOf σ β bp x1 x2 400).bind fun y3 =>
        ((oX2_edges y3 x3 x4).bind fun y5 =>
          ((oX1_fine y3 y5).bind fun y7 =>
            some (y7.1, y7.2))))
    else
      ((oX1_refused σ y1).bind fun y9 =>
        some (y9.1, y9.2))))
def oX1_edges (σ : ol_Xm) (β : ol_Bd) (bp : Nat) (x1 : Int32) (x2 : Int32) (x3 : Int32) (x4 : Int32) : Option (Int32 × ol_Xm) :=
  ((oX1_isBoard σ β bp x3).bind fun y1 =>
    (if y1 = 0 then
      oX1_edges_L24 β bp x1 x2 x3 x4 0 σ
    else
      ((oX1_isIn x4 0 5).bind fun y3 =>
        (if y3 = 0 then
          oX1_edges_L24 β bp x1 x2 x3 x4 0 σ
        else
          oX1_edges_L24 β bp x1 x2 x3 x4 1 σ))))
def oX1_filters_L26 (β : ol_Bd) (bp : Nat) (x1 : Int32) (x2 : Int32)  : Nat → Int32 → ol_Xm → Option (Int32 × ol_Xm)
  | 0, _, _ => none
  | n + 1, v4, σ =>
    (if 20 < v4 then
      ((oX1_fine σ (-2)).bind fun y1 =>
        some (y1.1, y1.2))
    else
      ((oX2_goes_2 σ β bp 10 (fun σ i => oX11_of σ β bp x1 i) x2 400 v4).bind fun y4 =>
        ((oX2_sure y4 β bp).bind fun y6 =>
          (if y6 = (-2) then
            oX1_filters_L26 β bp x1 x2 n (v4 + 1) y4
          else
            (if (β.1 0 2) < y6 then
              oX1_filters_L26 β bp x1 x2 n (v4 + 1) y4
            else
              ((oX1_fine y4 v4).bind fun y8 =>
                some (y8.1, y8.2)))))))
def oX1_filters (σ : ol_Xm) (β : ol_Bd) (bp : Nat) (x1 : Int32) (x2 : Int32) : Option (Int32 × ol_Xm) :=
  ((oX1_refuses σ β bp 1 x1 x2 0).bind fun y1 =>
    (if y1 ≤ 0 then
      ((oX1_forgets σ).bind fun y3 =>
        oX1_filters_L26 β bp x1 x2 22 0 y3)
    else
      ((oX1_refused σ y1).bind fun y5 =>
        some (y5.1, y5.2))))
def oX1_slowest_L27 (β : ol_Bd) (bp : Nat) (x1 : Int32)  : Nat → Int32 → Int32 → Int32 → ol_Xm → Option (Int32 × ol_Xm)
  | 0, _, _, _, _ => none
  | n + 1, v3, v4, v5, σ =>
    (if ((1 : Int32) <<< ((β.1 0 3) &&& 31)) ≤ v5 then
      ((oX1_fine σ v3).bind fun y1 =>
        some (y1.1, y1.2))
    else
      ((oX1_passOf σ β bp x1 v5 400).bind fun y3 =>
        ((oX2_settles y3 β bp).bind fun y5 =>
          (if v4 < y5 then
            oX1_slowest_L27 β bp x1 n v5 y5 (v5 + 1) y3
          else
            oX1_slowest_L27 β bp x1 n v3 v4 (v5 + 1) y3))))
def oX1_slowest (σ : ol_Xm) (β : ol_Bd) (bp : Nat) (x1 : Int32) : Option (Int32 × ol_Xm) :=
  ((oX1_refuses σ β bp 1 x1 1 0).bind fun y1 =>
    (if y1 ≤ 0 then
      oX1_slowest_L27 β bp x1 65 0 (-1) 1 σ
    else
      ((oX1_refused σ y1).bind fun y3 =>
        some (y3.1, y3.2))))
def oX1_settled_L25 (β : ol_Bd) (bp : Nat) (x1 : Int32) (x2 : Int32)  : Nat → Int32 → Int32 → ol_Xm → Option (Int32 × ol_Xm)
  | 0, _, _, _ => none
  | n + 1, v4, v5, σ =>
    (if ((1 : Int32) <<< ((β.1 0 3) &&& 31)) ≤ v5 then
      ((oX1_fine σ v4).bind fun y1 =>
        some (y1.1, y1.2))
    else
      ((oX1_passOf σ β bp x1 v5 400).bind fun y3 =>
        ((oX2_settles y3 β bp).bind fun y5 =>
          (if x2 < y5 then
            oX1_settled_L25 β bp x1 x2 n v4 (v5 + 1) y3
          else
            oX1_settled_L25 β bp x1 x2 n (v4 + 1) (v5 + 1) y3))))
def oX1_settled (σ : ol_Xm) (β : ol_Bd) (bp : Nat) (x1 : Int32) (x2 : Int32) : Option (Int32 × ol_Xm) :=
  ((oX1_refuses σ β bp 1 x1 1 x2).bind fun y1 =>
    (if y1 ≤ 0 then
      oX1_settled_L25 β bp x1 x2 65 0 1 σ
    else
      ((oX1_refused σ y1).bind fun y3 =>
        some (y3.1, y3.2))))
def oX1_enough_L24 (β : ol_Bd) (bp : Nat) (x1 : Int32)  : Nat → Int32 → Int32 → ol_Xm → Option (Int32 × ol_Xm)
  | 0, _, _, _ => none
  | n + 1, v3, v4, σ =>
    (if ((1 : Int32) <<< ((β.1 0 3) &&& 31)) ≤ v4 then
      ((oX1_fine σ v3).bind fun y1 =>
        some (y1.1, y1.2))
    else
      ((oX1_passOf σ β bp x1 v4 400).bind fun y3 =>
        ((oX2_sure y3 β bp).bind fun y5 =>
          (if y5 = (-2) then
            ((oX1_fine y3 (-2)).bind fun y7 =>
              some (y7.1, y7.2))
          else
            oX1_enough_L24 β bp x1 n (if v3 < y5 then y5 else v3) (v4 + 1) y3))))
def oX1_enough (σ : ol_Xm) (β : ol_Bd) (bp : Nat) (x1 : Int32) : Option (Int32 × ol_Xm) :=
  ((oX1_refuses σ β bp 1 x1 1 0).bind fun y1 =>
    (if y1 ≤ 0 then
      oX1_enough_L24 β bp x1 65 0 1 σ
    else
      ((oX1_refused σ y1).bind fun y3 =>
        some (y3.1, y3.2))))
def oX1_would (σ : ol_Xm) (β : ol_Bd) (bp : Nat) (x1 : Int32) : Option (Int32 × ol_Xm) :=
  ((oX1_isSet σ β bp x1).bind fun y1 =>
    (if y1 = 0 then
      ((oX1_refused σ 2).bind fun y3 =>
        some (y3.1, y3.2))
    else
      ((oX3_passes σ β bp 10 (fun σ i => oX11_of σ β bp 1 i) x1).bind fun y6 =>
        ((oX1_fine y6.2 y6.1).bind fun y8 =>
          some (y8.1, y8.2)))))
def oX1_now (σ : ol_Xm) (β : ol_Bd) (bp : Nat) (x1 : Int32) : Option (Int32 × ol_Xm) :=
  ((oX1_isWhat x1).bind fun y1 =>
    (if y1 = 0 then
      ((oX1_refused σ 1).bind fun y3 =>
        some (y3.1, y3.2))
    else
      ((oX3_is σ β bp 10 x1).bind fun y5 =>
        ((oX1_fine σ y5).bind fun y7 =>
          some (y7.1, y7.2)))))
def oX1_ledger (σ : ol_Xm) (β : ol_Bd) (bp : Nat) (x1 : Int32) (x2 : Int32) : Option (Int32 × ol_Xm) :=
  ((oX1_isBoard σ β bp x1).bind fun y1 =>
    (if y1 = 0 then
      ((oX1_refused σ 1).bind fun y3 =>
        some (y3.1, y3.2))
    else
      ((oX1_isIn x2 0 5).bind fun y5 =>
        (if y5 = 0 then
          ((oX1_refused σ 1).bind fun y7 =>
            some (y7.1, y7.2))
        else
          (ol_og (ol_in ((6 * x1) + x2) 36) (
            ((oX1_fine σ (σ.1 (10 + 7) (((6 * x1) + x2).toNatClampNeg))).bind fun y10 =>
              some (y10.1, y10.2))))))))
def oX1_past (σ : ol_Xm) (β : ol_Bd) (bp : Nat) (x1 : Int32) : Option (Int32 × ol_Xm) :=
  ((oX1_isIn x1 0 63).bind fun y1 =>
    (if y1 = 0 then
      ((oX1_refused σ 2).bind fun y3 =>
        some (y3.1, y3.2))
    else
      ((oX3_past σ 10 x1).bind fun y5 =>
        ((oX1_fine σ y5).bind fun y7 =>
          some (y7.1, y7.2)))))
def oX1_idle (σ : ol_Xm) (β : ol_Bd) (bp : Nat) : Option (Int32 × ol_Xm) :=
  ((oX3_idle σ 10).bind fun y1 =>
    ((oX1_fine σ y1).bind fun y3 =>
      some (y3.1, y3.2)))
def oX1_waiting (σ : ol_Xm) (β : ol_Bd) (bp : Nat) (x1 : Int32) : Option (Int32 × ol_Xm) :=
  ((oX1_isBoard σ β bp x1).bind fun y1 =>
    (if y1 = 0 then
      ((oX1_refused σ 1).bind fun y3 =>
        some (y3.1, y3.2))
    else
      ((oX3_waiting σ β bp 10 x1).bind fun y5 =>
        ((oX1_fine σ y5).bind fun y7 =>
          some (y7.1, y7.2)))))
def oX1_longest (σ : ol_Xm) (β : ol_Bd) (bp : Nat) : Option (Int32 × ol_Xm) :=
  ((oX3_longest σ β bp 10).bind fun y1 =>
    ((oX1_fine σ y1).bind fun y3 =>
      some (y3.1, y3.2)))
def oX1_ask (σ : ol_Xm) (β : ol_Bd) (bp : Nat) (x1 : Int32) (x2 : Int32) : Option (Int32 × ol_Xm) :=
  ((oX1_isBoard σ β bp x1).bind fun y1 =>
    (if y1 = 0 then
      ((oX1_refused σ 1).bind fun y19 =>
        some (y19.1, y19.2))
    else
      ((oX1_isIn x2 1 99).bind fun y3 =>
        (if y3 = 0 then
          ((oX1_refused σ 2).bind fun y16 =>
            some (y16.1, y16.2))
        else
          ((oX3_hears σ 10 x1 x2).bind fun y5 =>
            (if y5.1 = 0 then
              ((oX1_refused y5.2 5).bind fun y7 =>
                some (y7.1, y7.2))
            else
              ((oX3_asking y5.2 β bp 10).bind fun y9 =>
                ((oJ14_bitCount y9).bind fun y11 =>
                  ((oX1_fine y5.2 y11).bind fun y13 =>
                    some (y13.1, y13.2))))))))))
def oX1_waits_L61 (β : ol_Bd) (bp : Nat) (x1 : Int32) (x2 : Int32)  (σ : ol_Xm) : Option (Int32 × ol_Xm) :=
  (ol_og (ol_in x1 6) (
    ((oX1_forgets σ).bind fun y2 =>
      (if x2 = (-1) then
        (ol_og (ol_in x1 6) (
          ((oX1_fine (ol_xs y2 (10 + 4) x1.toNatClampNeg (-2)) (σ.1 (10 + 4) x1.toNatClampNeg)).bind fun y8 =>
            some (y8.1, y8.2))))
      else
        (ol_og (ol_in x1 6) (
          ((oX1_fine (ol_xs y2 (10 + 4) x1.toNatClampNeg x2) (σ.1 (10 + 4) x1.toNatClampNeg)).bind fun y5 =>
            some (y5.1, y5.2))))))))
def oX1_waits_L27 (β : ol_Bd) (bp : Nat) (x1 : Int32) (x2 : Int32)  (σ : ol_Xm) : Option (Int32 × ol_Xm) :=
  (if x2 = x1 then
    ((oX1_refused σ 2).bind fun y7 =>
      some (y7.1, y7.2))
  else
    (if x2 = (-1) then
      oX1_waits_L61 β bp x1 x2 σ
    else
      ((oX3_waitsFor σ 10 x2 x1).bind fun y1 =>
        (if y1 = 0 then
          oX1_waits_L61 β bp x1 x2 σ
        else
          ((oX1_refused σ 5).bind fun y3 =>
            some (y3.1, y3.2))))))
def oX1_waits (σ : ol_Xm) (β : ol_Bd) (bp : Nat) (x1 : Int32) (x2 : Int32) : Option (Int32 × ol_Xm) :=
  ((oX1_isBoard σ β bp x1).bind fun y1 =>
    (if y1 = 0 then
      ((oX1_refused σ 1).bind fun y9 =>
        some (y9.1, y9.2))
    else
      (if x2 = (-1) then
        oX1_waits_L27 β bp x1 x2 σ
      else
        ((oX1_isBoard σ β bp x2).bind fun y3 =>
          (if y3 = 0 then
            ((oX1_refused σ 2).bind fun y5 =>
              some (y5.1, y5.2))
          else
            oX1_waits_L27 β bp x1 x2 σ)))))
def oX1_stick (σ : ol_Xm) (β : ol_Bd) (bp : Nat) (x1 : Int32) (x2 : Int32) : Option (Int32 × ol_Xm) :=
  ((oX1_isIn x1 0 5).bind fun y1 =>
    (if y1 = 0 then
      ((oX1_refused σ 1).bind fun y14 =>
        some (y14.1, y14.2))
    else
      ((oX1_isIn x2 0 2).bind fun y3 =>
        (if y3 = 0 then
          ((oX1_refused σ 2).bind fun y11 =>
            some (y11.1, y11.2))
        else
          (ol_og (ol_in x1 6) (
            ((oX1_forgets σ).bind fun y6 =>
              (ol_og (ol_in x1 6) (
                ((oX1_fine (ol_xs y6 (10 + 5) x1.toNatClampNeg x2) (σ.1 (10 + 5) x1.toNatClampNeg)).bind fun y9 =>
                  some (y9.1, y9.2)))))))))))
def oX1_size (σ : ol_Xm) (β : ol_Bd) (bp : Nat) (x1 : Int32) : Option Int32 :=
  (if x1 = 0 then
    some (σ.1 0 4)
  else
  (if x1 = 1 then
    ((oX3_toCome σ β bp 10).bind fun y2 =>
      some y2)
  else
  (if x1 = 2 then
    (if (σ.1 0 10) = 0 then
      some 0
    else
      some 1)
  else
  (if x1 = 3 then
    ((oX1_unwhole σ).bind fun y7 =>
      some y7)
  else
  some (-1)))))
