/-! the pass, as it computes (printed by gen/xmodel.py) -/
set_option maxRecDepth 100000
def oX1_isIn (x1 : Int32) (x2 : Int32) (x3 : Int32) : Option Int32 :=
  (if x1 < x2 then
    some 0
  else
    (if x3 < x1 then
      some 0
    else
      some 1))
def oX1_has (x1 : Int32) (x2 : Int32) : Option Int32 :=
  (if ((x1 >>> (x2 &&& 31)) &&& 1) = 1 then
    some 1
  else
    some 0)
def oJ14_bitCount (x1 : Int32) : Option Int32 :=
  (ol_lt (x1 - (((x1.toUInt32 >>> ((1 : Int32).toUInt32 &&& Int32.toUInt32 31)).toInt32) &&& 1431655765)) fun y1 =>
    (ol_lt ((y1 &&& 858993459) + (((y1.toUInt32 >>> ((2 : Int32).toUInt32 &&& Int32.toUInt32 31)).toInt32) &&& 858993459)) fun y3 =>
      (ol_lt ((y3 + ((y3.toUInt32 >>> ((4 : Int32).toUInt32 &&& Int32.toUInt32 31)).toInt32)) &&& 252645135) fun y5 =>
        (ol_lt (y5 + ((y5.toUInt32 >>> ((8 : Int32).toUInt32 &&& Int32.toUInt32 31)).toInt32)) fun y7 =>
          (ol_lt (y7 + ((y7.toUInt32 >>> ((16 : Int32).toUInt32 &&& Int32.toUInt32 31)).toInt32)) fun y9 =>
            some (y9 &&& 63))))))
def oJ14_numberOfTrailingZeros_L62   (v0 : Int32) (v1 : Int32) : Option Int32 :=
  (if v0 ≤ 4 then
    some (v1 + ((v0.toUInt32 >>> ((1 : Int32).toUInt32 &&& Int32.toUInt32 31)).toInt32))
  else
    (ol_lt ((v0.toUInt32 >>> ((2 : Int32).toUInt32 &&& Int32.toUInt32 31)).toInt32) fun y1 =>
      some ((v1 + 2) + ((y1.toUInt32 >>> ((1 : Int32).toUInt32 &&& Int32.toUInt32 31)).toInt32))))
def oJ14_numberOfTrailingZeros_L34   (v0 : Int32) (v1 : Int32) : Option Int32 :=
  (if v0 ≤ 256 then
    (if v0 ≤ 16 then
      oJ14_numberOfTrailingZeros_L62 v0 v1
    else
      (ol_lt ((v0.toUInt32 >>> ((4 : Int32).toUInt32 &&& Int32.toUInt32 31)).toInt32) fun y1 =>
        oJ14_numberOfTrailingZeros_L62 y1 (v1 + 4)))
  else
    (ol_lt ((v0.toUInt32 >>> ((8 : Int32).toUInt32 &&& Int32.toUInt32 31)).toInt32) fun y4 =>
      (if y4 ≤ 16 then
        oJ14_numberOfTrailingZeros_L62 y4 (v1 + 8)
      else
        (ol_lt ((y4.toUInt32 >>> ((4 : Int32).toUInt32 &&& Int32.toUInt32 31)).toInt32) fun y6 =>
          oJ14_numberOfTrailingZeros_L62 y6 ((v1 + 8) + 4)))))
def oJ14_numberOfTrailingZeros (x1 : Int32) : Option Int32 :=
  (if 0 < ((x1 ^^^ (-1)) &&& (x1 - 1)) then
    (if ((x1 ^^^ (-1)) &&& (x1 - 1)) ≤ 65536 then
      oJ14_numberOfTrailingZeros_L34 ((x1 ^^^ (-1)) &&& (x1 - 1)) 1
    else
      (ol_lt ((((x1 ^^^ (-1)) &&& (x1 - 1)).toUInt32 >>> ((16 : Int32).toUInt32 &&& Int32.toUInt32 31)).toInt32) fun y1 =>
        oJ14_numberOfTrailingZeros_L34 y1 (1 + 16)))
  else
    some (((x1 ^^^ (-1)) &&& (x1 - 1)) &&& 32))
def oJ14_numberOfLeadingZeros_L61   (v0 : Int32) (v1 : Int32) : Option Int32 :=
  (if v0 < 4 then
    some (v1 - ((v0.toUInt32 >>> ((1 : Int32).toUInt32 &&& Int32.toUInt32 31)).toInt32))
  else
    (ol_lt ((v0.toUInt32 >>> ((2 : Int32).toUInt32 &&& Int32.toUInt32 31)).toInt32) fun y1 =>
      some ((v1 + (-2)) - ((y1.toUInt32 >>> ((1 : Int32).toUInt32 &&& Int32.toUInt32 31)).toInt32))))
def oJ14_numberOfLeadingZeros_L33   (v0 : Int32) (v1 : Int32) : Option Int32 :=
  (if v0 < 256 then
    (if v0 < 16 then
      oJ14_numberOfLeadingZeros_L61 v0 v1
    else
      (ol_lt ((v0.toUInt32 >>> ((4 : Int32).toUInt32 &&& Int32.toUInt32 31)).toInt32) fun y1 =>
        oJ14_numberOfLeadingZeros_L61 y1 (v1 + (-4))))
  else
    (ol_lt ((v0.toUInt32 >>> ((8 : Int32).toUInt32 &&& Int32.toUInt32 31)).toInt32) fun y4 =>
      (if y4 < 16 then
        oJ14_numberOfLeadingZeros_L61 y4 (v1 + (-8))
      else
        (ol_lt ((y4.toUInt32 >>> ((4 : Int32).toUInt32 &&& Int32.toUInt32 31)).toInt32) fun y6 =>
          oJ14_numberOfLeadingZeros_L61 y6 ((v1 + (-8)) + (-4))))))
def oJ14_numberOfLeadingZeros (x1 : Int32) : Option Int32 :=
  (if 0 < x1 then
    (if x1 < 65536 then
      oJ14_numberOfLeadingZeros_L33 x1 31
    else
      (ol_lt ((x1.toUInt32 >>> ((16 : Int32).toUInt32 &&& Int32.toUInt32 31)).toInt32) fun y1 =>
        oJ14_numberOfLeadingZeros_L33 y1 (31 + (-16))))
  else
    (if x1 = 0 then
      some 32
    else
      some 0))
def oJ14_highestOneBit (x1 : Int32) : Option Int32 :=
  ((oJ14_numberOfLeadingZeros x1).bind fun y1 =>
    some (x1 &&& (((-2147483648 : Int32).toUInt32 >>> (y1.toUInt32 &&& Int32.toUInt32 31)).toInt32)))
def oX1_withParity (x1 : Int32) : Option Int32 :=
  ((oJ14_bitCount x1).bind fun y1 =>
    (if (y1 - y1 / 2 * 2) = 0 then
      some (x1 ||| 1)
    else
      some x1))
def oX1_secondWord (σ : ol_Xm) (β : ol_Bd) (x1 : Nat) : Option Int32 :=
  (ol_og (ol_nb β x1) (
    ((oX1_withParity ((β.1 3 x1) <<< (1 &&& 31))).bind fun y2 =>
      some y2)))
def oX2_drivenBy_L49 (σ : ol_Xm) (β : ol_Bd) (bp : Nat) (x1 : Int32) (x2 : Int32)  (s0 : Int32) : Option Int32 :=
  (if s0 = (-2) then
    (ol_og (ol_in x1 6) (
      some (σ.1 3 x1.toNatClampNeg)))
  else
    (ol_og (ol_in x1 6) (
      some ((σ.1 3 x1.toNatClampNeg) &&& ((((2 : Int32) <<< (s0 &&& 31)) - 1) ^^^ (-1))))))
def oX2_drivenBy (σ : ol_Xm) (β : ol_Bd) (bp : Nat) (x1 : Int32) (x2 : Int32) : Option Int32 :=
  ((oX1_has (σ.1 2 8) x1).bind fun y1 =>
    (if y1 = 0 then
      some 0
    else
      (ol_og (decide (σ.2.1 3 = some bp)) (
        (if (β.1 0 0) ≤ x2 then
          (ol_og (decide (σ.2.1 3 = some bp)) (
            (ol_og (ol_in (((401 * x1) + x2) - (β.1 0 0)) 2406) (
              oX2_drivenBy_L49 σ β bp x1 x2 (σ.1 7 ((((401 * x1) + x2) - (β.1 0 0)).toNatClampNeg))))))
        else
          oX2_drivenBy_L49 σ β bp x1 x2 (-2))))))
def oX2_dips_L133 (β : ol_Bd) (bp : Nat) (x1 : Int32) (x2 : Int32) (x3 : Int32) (k103 : Int32 → Int32 → ol_Xm → Option ol_Xm) : Nat → Int32 → Int32 → Int32 → Int32 → ol_Xm → Option ol_Xm
  | 0, _, _, _, _, _ => none
  | n + 1, v4, v5, v6, v7, σ =>
    (if (v6 + (2 * v4)) ≤ v7 then
      k103 v4 (v5 + 1) σ
    else
      (if 401 ≤ v7 then
        k103 v4 (v5 + 1) σ
      else
        (ol_og (ol_in ((401 * v5) + v7) 2406) (
          (ol_og (ol_in ((401 * v5) + v7) 2406) (
            oX2_dips_L133 β bp x1 x2 x3 k103 n v4 v5 v6 (v7 + 1) (ol_xs σ 8 (((401 * v5) + v7).toNatClampNeg) ((σ.1 8 (((401 * v5) + v7).toNatClampNeg)) ||| ((1 : Int32) <<< (x2 &&& 31))))))))))
def oX2_dips_L103 (β : ol_Bd) (bp : Nat) (x1 : Int32) (x2 : Int32) (x3 : Int32)  : Nat → Int32 → Int32 → ol_Xm → Option ol_Xm
  | 0, _, _, _ => none
  | n + 1, v4, v5, σ =>
    (ol_og (decide (σ.2.1 3 = some bp)) (
      (if (β.1 0 3) ≤ v5 then
        some σ
      else
        (ol_og (decide (σ.2.1 3 = some bp)) (
          (ol_og (ol_ib β x1) (ol_og (ol_ib β v5) (
            oX2_dips_L133 β bp x1 x2 x3 (oX2_dips_L103 β bp x1 x2 x3 n) ol_fuel v4 v5 (x3 + (ol_far β x1 v5)) (x3 + (ol_far β x1 v5)) σ))))))))
def oX2_dips_L6 (β : ol_Bd) (bp : Nat) (x1 : Int32) (x2 : Int32) (x3 : Int32)  : Nat → Int32 → Int32 → ol_Xm → Option ol_Xm
  | 0, _, _, _ => none
  | n + 1, v4, v5, σ =>
    (ol_og (decide (σ.2.1 3 = some bp)) (
      (if (β.1 0 3) ≤ v5 then
        (if v4 = (-1) then
          some σ
        else
          oX2_dips_L103 β bp x1 x2 x3 ol_fuel v4 0 (ol_xs σ 2 11 ((σ.1 2 11) + 1)))
      else
        (if v5 = x1 then
          oX2_dips_L6 β bp x1 x2 x3 n v4 (v5 + 1) σ
        else
          (ol_og (ol_in ((401 * v5) + x3) 2406) (
            ((oX1_has (σ.1 4 (((401 * v5) + x3).toNatClampNeg)) x2).bind fun y4 =>
              (if y4 = 0 then
                oX2_dips_L6 β bp x1 x2 x3 n v4 (v5 + 1) σ
              else
                (if v4 = (-1) then
                  (ol_og (decide (σ.2.1 3 = some bp)) (
                    (ol_og (ol_ib β x1) (ol_og (ol_ib β v5) (
                      oX2_dips_L6 β bp x1 x2 x3 n (ol_far β x1 v5) (v5 + 1) σ)))))
                else
                  (ol_og (decide (σ.2.1 3 = some bp)) (
                    (ol_og (ol_ib β x1) (ol_og (ol_ib β v5) (
                      (if v4 ≤ (ol_far β x1 v5) then
                        oX2_dips_L6 β bp x1 x2 x3 n v4 (v5 + 1) σ
                      else
                        (ol_og (decide (σ.2.1 3 = some bp)) (
                          (ol_og (ol_ib β x1) (ol_og (ol_ib β v5) (
                            oX2_dips_L6 β bp x1 x2 x3 n (ol_far β x1 v5) (v5 + 1) σ))))))))))))))))))))
def oX2_dips (σ : ol_Xm) (β : ol_Bd) (bp : Nat) (x1 : Int32) (x2 : Int32) (x3 : Int32) : Option ol_Xm :=
  oX2_dips_L6 β bp x1 x2 x3 ol_fuel (-1) 0 σ
def oX2_letsGo_L33 (β : ol_Bd) (bp : Nat) (x1 : Int32) (x2 : Int32)  : Nat → Int32 → Int32 → ol_Xm → Option ol_Xm
  | 0, _, _, _ => none
  | n + 1, v3, v4, σ =>
    (if 6 ≤ v4 then
      some σ
    else
      ((oX1_has v3 v4).bind fun y1 =>
        (if y1 = 0 then
          oX2_letsGo_L33 β bp x1 x2 n v3 (v4 + 1) σ
        else
          ((oX2_dips σ β bp x1 v4 x2).bind fun y3 =>
            oX2_letsGo_L33 β bp x1 x2 n v3 (v4 + 1) y3))))
def oX2_letsGo (σ : ol_Xm) (β : ol_Bd) (bp : Nat) (x1 : Int32) (x2 : Int32) : Option ol_Xm :=
  (ol_og (ol_in (((401 * x1) + x2) - 1) 2406) (
    (ol_og (ol_in ((401 * x1) + x2) 2406) (
      (ol_lt ((σ.1 4 ((((401 * x1) + x2) - 1).toNatClampNeg)) &&& ((σ.1 4 (((401 * x1) + x2).toNatClampNeg)) ^^^ (-1))) fun y3 =>
        oX2_letsGo_L33 β bp x1 x2 ol_fuel y3 0 σ)))))
def oX2_sees_L220 (β : ol_Bd) (bp : Nat) (x1 : Int32) (x2 : Int32)  (v3 : Int32) (s0 : Int32) (σ : ol_Xm) : Option ol_Xm :=
  (if s0 = 0 then
    (ol_og (ol_in v3 2406) (
      some (ol_xs σ 7 v3.toNatClampNeg (-2))))
  else
    ((oJ14_highestOneBit s0).bind fun y1 =>
      ((oJ14_numberOfTrailingZeros y1).bind fun y3 =>
        (ol_og (ol_in v3 2406) (
          some (ol_xs σ 7 v3.toNatClampNeg y3))))))
def oX2_sees_L150 (β : ol_Bd) (bp : Nat) (x1 : Int32) (x2 : Int32) (k116 : Int32 → Int32 → ol_Xm → Option ol_Xm) (v3 : Int32) (v5 : Int32) (σ : ol_Xm) : Option ol_Xm :=
  (ol_og (ol_in ((6 * x1) + v5) 36) (
    (if (σ.1 2 13) < (x2 - (σ.1 9 (((6 * x1) + v5).toNatClampNeg))) then
      k116 v3 (v5 + 1) σ
    else
      (ol_og (ol_in v3 2406) (
        (ol_og (ol_in v3 2406) (
          k116 v3 (v5 + 1) (ol_xs σ 6 v3.toNatClampNeg ((σ.1 6 v3.toNatClampNeg) ||| ((1 : Int32) <<< (v5 &&& 31)))))))))))
def oX2_sees_L116 (β : ol_Bd) (bp : Nat) (x1 : Int32) (x2 : Int32)  : Nat → Int32 → Int32 → ol_Xm → Option ol_Xm
  | 0, _, _, _ => none
  | n + 1, v3, v5, σ =>
    (if 6 ≤ v5 then
      ((oX1_has (σ.1 2 8) x1).bind fun y1 =>
        (if y1 = 0 then
          oX2_sees_L220 β bp x1 x2 v3 0 σ
        else
          (ol_og (ol_in v3 2406) (
            (ol_og (ol_in x1 6) (
              oX2_sees_L220 β bp x1 x2 v3 ((σ.1 6 v3.toNatClampNeg) &&& ((σ.1 3 x1.toNatClampNeg) ^^^ (-1))) σ))))))
    else
      (ol_og (ol_in v3 2406) (
        ((oX1_has (σ.1 5 v3.toNatClampNeg) v5).bind fun y7 =>
          (if y7 = 0 then
            oX2_sees_L150 β bp x1 x2 (oX2_sees_L116 β bp x1 x2 n) v3 v5 σ
          else
            (ol_og (ol_in ((6 * x1) + v5) 36) (
              oX2_sees_L150 β bp x1 x2 (oX2_sees_L116 β bp x1 x2 n) v3 v5 (ol_xs σ 9 (((6 * x1) + v5).toNatClampNeg) x2))))))))
def oX2_sees_L14 (β : ol_Bd) (bp : Nat) (x1 : Int32) (x2 : Int32)  : Nat → Int32 → Int32 → Int32 → ol_Xm → Option ol_Xm
  | 0, _, _, _, _ => none
  | n + 1, v3, v4, v5, σ =>
    (ol_og (decide (σ.2.1 3 = some bp)) (
      (if (β.1 0 3) ≤ v5 then
        (ol_og (ol_in v3 2406) (
          (ol_og (ol_in v3 2406) (
            (ol_og (ol_in v3 2406) (
              (ol_og (ol_in v3 2406) (
                oX2_sees_L116 β bp x1 x2 ol_fuel v3 0 (ol_xs (ol_xs σ 5 v3.toNatClampNeg ((((v4 &&& ((σ.1 8 v3.toNatClampNeg) ^^^ (-1))) ||| (σ.1 2 9)) &&& ((σ.1 2 10) ^^^ (-1))) ||| (σ.1 4 v3.toNatClampNeg))) 6 v3.toNatClampNeg 0)))))))))
      else
        (ol_og (decide (σ.2.1 3 = some bp)) (
          (ol_og (ol_ib β x1) (ol_og (ol_ib β v5) (
            (if (x2 - (ol_far β x1 v5)) < 0 then
              oX2_sees_L14 β bp x1 x2 n v3 v4 (v5 + 1) σ
            else
              (ol_og (ol_in ((401 * v5) + (x2 - (ol_far β x1 v5))) 2406) (
                (ol_lt (v4 ||| (σ.1 4 (((401 * v5) + (x2 - (ol_far β x1 v5))).toNatClampNeg))) fun y10 =>
                  oX2_sees_L14 β bp x1 x2 n v3 y10 (v5 + 1) σ))))))))))))
def oX2_sees (σ : ol_Xm) (β : ol_Bd) (bp : Nat) (x1 : Int32) (x2 : Int32) : Option ol_Xm :=
  oX2_sees_L14 β bp x1 x2 ol_fuel ((401 * x1) + x2) 0 0 σ
def oX2_winners_L4 (σ : ol_Xm) (β : ol_Bd) (bp : Nat) (x1 : Int32)  : Nat → Int32 → Int32 → Option Int32
  | 0, _, _ => none
  | n + 1, v2, v3 =>
    (ol_og (decide (σ.2.1 3 = some bp)) (
      (if (β.1 0 3) ≤ v3 then
        some v2
      else
        ((oX1_has (σ.1 2 8) v3).bind fun y2 =>
          (if y2 = 0 then
            oX2_winners_L4 σ β bp x1 n v2 (v3 + 1)
          else
            (ol_og (ol_in ((401 * v3) + x1) 2406) (
              (if (σ.1 7 (((401 * v3) + x1).toNatClampNeg)) = (-2) then
                oX2_winners_L4 σ β bp x1 n (v2 ||| ((1 : Int32) <<< (v3 &&& 31))) (v3 + 1)
              else
                oX2_winners_L4 σ β bp x1 n v2 (v3 + 1)))))))))
def oX2_winners (σ : ol_Xm) (β : ol_Bd) (bp : Nat) (x1 : Int32) : Option Int32 :=
  oX2_winners_L4 σ β bp x1 ol_fuel 0 0
def oX2_right_L6 (σ : ol_Xm) (β : ol_Bd) (bp : Nat)  : Nat → Int32 → Int32 → Int32 → Option Int32
  | 0, _, _, _ => none
  | n + 1, v1, v2, v3 =>
    (ol_og (decide (σ.2.1 3 = some bp)) (
      (if (β.1 0 3) ≤ v3 then
        some v2
      else
        ((oX1_has (σ.1 2 8) v3).bind fun y2 =>
          (if y2 = 0 then
            oX2_right_L6 σ β bp n v1 v2 (v3 + 1)
          else
            (ol_og (ol_in v3 6) (
              (if v1 ≤ (σ.1 3 v3.toNatClampNeg) then
                (ol_og (ol_in v3 6) (
                  (if (σ.1 3 v3.toNatClampNeg) ≤ v1 then
                    (ol_og (ol_in v3 6) (
                      oX2_right_L6 σ β bp n (σ.1 3 v3.toNatClampNeg) (v2 ||| ((1 : Int32) <<< (v3 &&& 31))) (v3 + 1)))
                  else
                    (ol_og (ol_in v3 6) (
                      oX2_right_L6 σ β bp n (σ.1 3 v3.toNatClampNeg) (0 ||| ((1 : Int32) <<< (v3 &&& 31))) (v3 + 1))))))
              else
                oX2_right_L6 σ β bp n v1 v2 (v3 + 1)))))))))
def oX2_right (σ : ol_Xm) (β : ol_Bd) (bp : Nat) : Option Int32 :=
  oX2_right_L6 σ β bp ol_fuel 0 0 0
def oX2_settles_L11 (σ : ol_Xm) (β : ol_Bd) (bp : Nat) (k5 : Int32 → Option Int32) : Nat → Int32 → Int32 → Option Int32
  | 0, _, _ => none
  | n + 1, v1, v2 =>
    (ol_og (decide (σ.2.1 3 = some bp)) (
      (if (β.1 0 3) ≤ v2 then
        k5 (v1 + (-1))
      else
        (ol_og (ol_in ((401 * v2) + v1) 2406) (
          (ol_og (ol_in (((401 * v2) + v1) - 1) 2406) (
            (if (σ.1 4 (((401 * v2) + v1).toNatClampNeg)) = (σ.1 4 ((((401 * v2) + v1) - 1).toNatClampNeg)) then
              oX2_settles_L11 σ β bp k5 n v1 (v2 + 1)
            else
              some v1))))))))
def oX2_settles_L5 (σ : ol_Xm) (β : ol_Bd) (bp : Nat)  : Nat → Int32 → Option Int32
  | 0, _ => none
  | n + 1, v1 =>
    (if v1 ≤ 0 then
      some 0
    else
      oX2_settles_L11 σ β bp (oX2_settles_L5 σ β bp n) ol_fuel v1 0)
def oX2_settles (σ : ol_Xm) (β : ol_Bd) (bp : Nat) : Option Int32 :=
  oX2_settles_L5 σ β bp ol_fuel (σ.1 2 12)
def oX2_sure_L25 (σ : ol_Xm) (β : ol_Bd) (bp : Nat)  : Nat → Int32 → Int32 → Option Int32
  | 0, _, _ => none
  | n + 1, v1, v2 =>
    (if v2 ≤ 0 then
      some v2
    else
      ((oX2_winners σ β bp (v2 - 1)).bind fun y1 =>
        (if y1 = v1 then
          oX2_sure_L25 σ β bp n v1 (v2 + (-1))
        else
          some v2)))
def oX2_sure (σ : ol_Xm) (β : ol_Bd) (bp : Nat) : Option Int32 :=
  ((oX2_right σ β bp).bind fun y1 =>
    ((oX2_winners σ β bp (σ.1 2 12)).bind fun y3 =>
      (if y3 = y1 then
        oX2_sure_L25 σ β bp ol_fuel y1 (σ.1 2 12)
      else
        some (-2))))
def oX2_edges_L5 (σ : ol_Xm) (x1 : Int32) (x2 : Int32)  : Nat → Int32 → Int32 → Option Int32
  | 0, _, _ => none
  | n + 1, v3, v4 =>
    (if (σ.1 2 12) < v4 then
      some v3
    else
      (ol_og (ol_in ((401 * x1) + v4) 2406) (
        ((oX1_has (σ.1 5 (((401 * x1) + v4).toNatClampNeg)) x2).bind fun y2 =>
          (ol_og (ol_in (((401 * x1) + v4) - 1) 2406) (
            ((oX1_has (σ.1 5 ((((401 * x1) + v4) - 1).toNatClampNeg)) x2).bind fun y5 =>
              (if y2 = y5 then
                oX2_edges_L5 σ x1 x2 n v3 (v4 + 1)
              else
                oX2_edges_L5 σ x1 x2 n (v3 + 1) (v4 + 1)))))))))
def oX2_edges (σ : ol_Xm) (x1 : Int32) (x2 : Int32) : Option Int32 :=
  oX2_edges_L5 σ x1 x2 ol_fuel 0 1
def oX2_isFaulty_L2 (σ : ol_Xm) (β : ol_Bd) (bp : Nat) (x1 : Int32)  : Nat → Int32 → Option Int32
  | 0, _ => none
  | n + 1, v2 =>
    (ol_og (decide (σ.2.1 3 = some bp)) (
      (if (β.1 0 3) ≤ v2 then
        some 0
      else
        (ol_og (ol_in ((401 * v2) + x1) 2406) (
          ((oJ14_bitCount (σ.1 6 (((401 * v2) + x1).toNatClampNeg))).bind fun y3 =>
            (if (y3 - y3 / 2 * 2) = 0 then
              some 1
            else
              oX2_isFaulty_L2 σ β bp x1 n (v2 + 1))))))))
def oX2_isFaulty (σ : ol_Xm) (β : ol_Bd) (bp : Nat) (x1 : Int32) : Option Int32 :=
  oX2_isFaulty_L2 σ β bp x1 ol_fuel 0
def oX2_goes_2_L295 (β : ol_Bd) (bp : Nat) (lr : Nat) (wf : ol_Xm → Nat → Option Int32) (x2 : Int32) (x5 : Int32) (x6 : Int32) (k214 : Int32 → ol_Xm → Option ol_Xm) : Nat → Int32 → Int32 → ol_Xm → Option ol_Xm
  | 0, _, _, _ => none
  | n + 1, v7, v8, σ =>
    (if (β.1 0 3) ≤ v8 then
      k214 (v7 + 1) σ
    else
      ((oX2_sees σ β bp v8 v7).bind fun y1 =>
        oX2_goes_2_L295 β bp lr wf x2 x5 x6 k214 n v7 (v8 + 1) y1))
def oX2_goes_2_L264 (β : ol_Bd) (bp : Nat) (lr : Nat) (wf : ol_Xm → Nat → Option Int32) (x2 : Int32) (x5 : Int32) (x6 : Int32) (k214 : Int32 → ol_Xm → Option ol_Xm) : Nat → Int32 → Int32 → ol_Xm → Option ol_Xm
  | 0, _, _, _ => none
  | n + 1, v7, v8, σ =>
    (if (β.1 0 3) ≤ v8 then
      oX2_goes_2_L295 β bp lr wf x2 x5 x6 k214 ol_fuel v7 0 σ
    else
      (if v7 ≤ 0 then
        oX2_goes_2_L295 β bp lr wf x2 x5 x6 k214 ol_fuel v7 0 σ
      else
        ((oX2_letsGo σ β bp v8 v7).bind fun y1 =>
          oX2_goes_2_L264 β bp lr wf x2 x5 x6 k214 n v7 (v8 + 1) y1)))
def oX2_goes_2_L224 (β : ol_Bd) (bp : Nat) (lr : Nat) (wf : ol_Xm → Nat → Option Int32) (x2 : Int32) (x5 : Int32) (x6 : Int32) (k214 : Int32 → ol_Xm → Option ol_Xm) : Nat → Int32 → Int32 → ol_Xm → Option ol_Xm
  | 0, _, _, _ => none
  | n + 1, v7, v8, σ =>
    (if (β.1 0 3) ≤ v8 then
      oX2_goes_2_L264 β bp lr wf x2 x5 x6 k214 ol_fuel v7 0 σ
    else
      ((oX2_drivenBy σ β bp v8 v7).bind fun y1 =>
        (ol_og (ol_in ((401 * v8) + v7) 2406) (
          oX2_goes_2_L224 β bp lr wf x2 x5 x6 k214 n v7 (v8 + 1) (ol_xs σ 4 (((401 * v8) + v7).toNatClampNeg) y1)))))
def oX2_goes_2_L214 (β : ol_Bd) (bp : Nat) (lr : Nat) (wf : ol_Xm → Nat → Option Int32) (x2 : Int32) (x5 : Int32) (x6 : Int32)  : Nat → Int32 → ol_Xm → Option ol_Xm
  | 0, _, _ => none
  | n + 1, v7, σ =>
    (if x5 < v7 then
      some σ
    else
      oX2_goes_2_L224 β bp lr wf x2 x5 x6 (oX2_goes_2_L214 β bp lr wf x2 x5 x6 n) ol_fuel v7 0 σ)
def oX2_goes_2_L176 (β : ol_Bd) (bp : Nat) (lr : Nat) (wf : ol_Xm → Nat → Option Int32) (x2 : Int32) (x5 : Int32) (x6 : Int32) (k100 : Int32 → ol_Xm → Option ol_Xm) : Nat → Int32 → Int32 → ol_Xm → Option ol_Xm
  | 0, _, _, _ => none
  | n + 1, v7, v8, σ =>
    (if 401 ≤ v8 then
      k100 (v7 + 1) σ
    else
      (ol_og (ol_in ((401 * v7) + v8) 2406) (
        oX2_goes_2_L176 β bp lr wf x2 x5 x6 k100 n v7 (v8 + 1) (ol_xs σ 8 (((401 * v7) + v8).toNatClampNeg) 0))))
def oX2_goes_2_L144 (β : ol_Bd) (bp : Nat) (lr : Nat) (wf : ol_Xm → Nat → Option Int32) (x2 : Int32) (x5 : Int32) (x6 : Int32) (k100 : Int32 → ol_Xm → Option ol_Xm) : Nat → Int32 → Int32 → ol_Xm → Option ol_Xm
  | 0, _, _, _ => none
  | n + 1, v7, v8, σ =>
    (if 6 ≤ v8 then
      oX2_goes_2_L176 β bp lr wf x2 x5 x6 k100 ol_fuel v7 0 σ
    else
      (ol_og (ol_in ((6 * v7) + v8) 36) (
        oX2_goes_2_L144 β bp lr wf x2 x5 x6 k100 n v7 (v8 + 1) (ol_xs σ 9 (((6 * v7) + v8).toNatClampNeg) (-401)))))
def oX2_goes_2_L100 (β : ol_Bd) (bp : Nat) (lr : Nat) (wf : ol_Xm → Nat → Option Int32) (x2 : Int32) (x5 : Int32) (x6 : Int32)  : Nat → Int32 → ol_Xm → Option ol_Xm
  | 0, _, _ => none
  | n + 1, v7, σ =>
    (if (β.1 0 3) ≤ v7 then
      oX2_goes_2_L214 β bp lr wf x2 x5 x6 ol_fuel 0 σ
    else
      ((oX1_has x2 v7).bind fun y1 =>
        (if y1 = 0 then
          (ol_og (ol_in v7 6) (
            oX2_goes_2_L144 β bp lr wf x2 x5 x6 (oX2_goes_2_L100 β bp lr wf x2 x5 x6 n) ol_fuel v7 0 (ol_xs σ 3 v7.toNatClampNeg 0)))
        else
          (ol_og (ol_ib β v7) (
            ((wf σ v7.toNatClampNeg).bind fun y5 =>
              (ol_og (ol_in v7 6) (
                oX2_goes_2_L144 β bp lr wf x2 x5 x6 (oX2_goes_2_L100 β bp lr wf x2 x5 x6 n) ol_fuel v7 0 (ol_xs σ 3 v7.toNatClampNeg y5)))))))))
def oX2_goes_2_L69 (β : ol_Bd) (bp : Nat) (lr : Nat) (wf : ol_Xm → Nat → Option Int32) (x2 : Int32) (x5 : Int32) (x6 : Int32) (k40 : Int32 → ol_Xm → Option ol_Xm) (v7 : Int32) (σ : ol_Xm) : Option ol_Xm :=
  (ol_og (ol_in v7 6) (
    (if (σ.1 (lr + 5) v7.toNatClampNeg) = 2 then
      k40 (v7 + 1) (ol_xs σ 2 10 ((σ.1 2 10) ||| ((1 : Int32) <<< (v7 &&& 31))))
    else
      k40 (v7 + 1) σ)))
def oX2_goes_2_L40 (β : ol_Bd) (bp : Nat) (lr : Nat) (wf : ol_Xm → Nat → Option Int32) (x2 : Int32) (x5 : Int32) (x6 : Int32)  : Nat → Int32 → ol_Xm → Option ol_Xm
  | 0, _, _ => none
  | n + 1, v7, σ =>
    (if 6 ≤ v7 then
      oX2_goes_2_L100 β bp lr wf x2 x5 x6 ol_fuel 0 σ
    else
      (ol_og (ol_in v7 6) (
        (if (σ.1 (lr + 5) v7.toNatClampNeg) = 1 then
          oX2_goes_2_L69 β bp lr wf x2 x5 x6 (oX2_goes_2_L40 β bp lr wf x2 x5 x6 n) v7 (ol_xs σ 2 9 ((σ.1 2 9) ||| ((1 : Int32) <<< (v7 &&& 31))))
        else
          oX2_goes_2_L69 β bp lr wf x2 x5 x6 (oX2_goes_2_L40 β bp lr wf x2 x5 x6 n) v7 σ))))
def oX2_goes_2 (σ : ol_Xm) (β : ol_Bd) (bp : Nat) (lr : Nat) (wf : ol_Xm → Nat → Option Int32) (x2 : Int32) (x5 : Int32) (x6 : Int32) : Option ol_Xm :=
  oX2_goes_2_L40 β bp lr wf x2 x5 x6 ol_fuel 0 (ol_xs (ol_xs (ol_xs (ol_xs (ol_xs (ol_xs (ol_xr σ 3 (some bp)) 2 8 x2) 2 12 x5) 2 13 x6) 2 11 0) 2 9 0) 2 10 0)
def oX2_goes (σ : ol_Xm) (β : ol_Bd) (bp : Nat) (lr : Nat) (wf : ol_Xm → Nat → Option Int32) (x2 : Int32) (x5 : Int32) : Option ol_Xm :=
  ((oX2_goes_2 σ β bp lr wf x2 x5 (β.1 0 1)).bind fun y1 =>
    some y1)
