/-! as it computes (printed by gen/xmodel.py) -/
set_option maxRecDepth 100000
def oX1_refused (σ : ol_Xm) (x1 : Int32) : Option (Int32 × ol_Xm) :=
  some ((-1), (ol_xs (ol_xs σ 0 1 x1) 0 2 (-1)))
def oX1_fine (σ : ol_Xm) (x1 : Int32) : Option (Int32 × ol_Xm) :=
  some (x1, (ol_xs (ol_xs σ 0 1 0) 0 2 (-1)))
def oX1_granted (σ : ol_Xm) (x1 : Int32) : Option (Int32 × ol_Xm) :=
  (if x1 = 0 then
    (ol_og (ol_zb x1) (some (x1, (ol_xs (ol_xs σ 0 1 1) 0 2 (-1)))))
  else
    (ol_og (ol_zb x1) (some (x1, (ol_xs (ol_xs σ 0 1 0) 0 2 (-1))))))
def oX1_isPass (x1 : Int32) : Option Int32 :=
  ((oX1_isIn x1 1 2).bind fun y1 =>
    (ol_og (ol_zb y1) (some y1)))
def oX1_isWhat (x1 : Int32) : Option Int32 :=
  ((oX1_isIn x1 0 10).bind fun y1 =>
    (ol_og (ol_zb y1) (some y1)))
def oX1_fault (σ : ol_Xm) : Option Int32 :=
  some (σ.1 0 5)
def oX1_where (σ : ol_Xm) : Option Int32 :=
  some (σ.1 0 2)
def oX1_trouble (σ : ol_Xm) : Option Int32 :=
  some (σ.1 0 1)
def oX1_feedOne_L3 (x1 : Int32)  : Nat → Int32 → ol_Xm → Option ol_Xm
  | 0, _, _ => none
  | n + 1, v2, σ =>
    (if v2 < 0 then
      some σ
    else
      (ol_og (ol_in (σ.1 0 4) 700) (
        oX1_feedOne_L3 x1 n (v2 + (-8)) (ol_xs (ol_xs σ 1 ((σ.1 0 4).toNatClampNeg) (vp_nar .byte ((x1 >>> (v2 &&& 31)).toInt8.toInt32))) 0 4 (((ol_xs σ 1 ((σ.1 0 4).toNatClampNeg) (vp_nar .byte ((x1 >>> (v2 &&& 31)).toInt8.toInt32))).1 0 4) + 1)))))
def oX1_feedOne (σ : ol_Xm) (x1 : Int32) : Option ol_Xm :=
  oX1_feedOne_L3 x1 ol_fuel 24 σ
def oX1_feed (σ : ol_Xm) (x1 : Int32) (x2 : Int32) (x3 : Int32) (x4 : Int32) (x5 : Int32) : Option (Int32 × ol_Xm) :=
  (if ((σ.1 0 4) + 20) ≤ 700 then
    ((oX1_feedOne σ x1).bind fun y1 =>
      ((oX1_feedOne y1 x2).bind fun y3 =>
        ((oX1_feedOne y3 x3).bind fun y5 =>
          ((oX1_feedOne y5 x4).bind fun y7 =>
            ((oX1_feedOne y7 x5).bind fun y9 =>
              some ((y9.1 0 4), y9))))))
  else
    some ((-1), σ))
def oX1_unwhole_L4 (σ : ol_Xm)  : Nat → Int32 → Int32 → Option Int32
  | 0, _, _ => none
  | n + 1, v1, v2 =>
    (if 6 ≤ v2 then
      some v1
    else
      (ol_og (ol_in v2 6) (
        (if (σ.1 (10 + 5) v2.toNatClampNeg) = 0 then
          oX1_unwhole_L4 σ n v1 (v2 + 1)
        else
          oX1_unwhole_L4 σ n (v1 + 1) (v2 + 1)))))
def oX1_unwhole (σ : ol_Xm) : Option Int32 :=
  oX1_unwhole_L4 σ ol_fuel 0 0
