/-! as it computes (printed by gen/xmodel.py) -/
set_option maxRecDepth 100000
def oX1_log (σ : ol_Xm) (β : ol_Bd) (x1 : Int32) (x2 : Int32) : Option (Int32 × ol_Xm) :=
  ((oX1_isIn x1 0 ((σ.2.2 10 0) - 1)).bind fun y1 =>
    (if y1 = 0 then
      ((oX1_refused σ 1).bind fun y27 =>
        some (y27.1, (ol_relog σ y27.2)))
    else
      (ol_og (ol_il σ.2.2 10 (((σ.2.2 10 0) - 1) - x1)) (
        (if x2 = 0 then
          ((oX1_fine σ (σ.2.2 10 (1 + 6 * (((σ.2.2 10 0) - 1) - x1).toNatClampNeg + 0))).bind fun y7 =>
            some (y7.1, (ol_relog σ y7.2)))
        else
        (if x2 = 1 then
          ((oX1_fine σ (σ.2.2 10 (1 + 6 * (((σ.2.2 10 0) - 1) - x1).toNatClampNeg + 1))).bind fun y10 =>
            some (y10.1, (ol_relog σ y10.2)))
        else
        (if x2 = 2 then
          ((oX1_fine σ (σ.2.2 10 (1 + 6 * (((σ.2.2 10 0) - 1) - x1).toNatClampNeg + 2))).bind fun y13 =>
            some (y13.1, (ol_relog σ y13.2)))
        else
        (if x2 = 3 then
          ((oX1_fine σ (σ.2.2 10 (1 + 6 * (((σ.2.2 10 0) - 1) - x1).toNatClampNeg + 3))).bind fun y16 =>
            some (y16.1, (ol_relog σ y16.2)))
        else
        (if x2 = 4 then
          ((oX1_fine σ (σ.2.2 10 (1 + 6 * (((σ.2.2 10 0) - 1) - x1).toNatClampNeg + 4))).bind fun y19 =>
            some (y19.1, (ol_relog σ y19.2)))
        else
        (if x2 = 5 then
          ((oX1_fine σ (σ.2.2 10 (1 + 6 * (((σ.2.2 10 0) - 1) - x1).toNatClampNeg + 5))).bind fun y22 =>
            some (y22.1, (ol_relog σ y22.2)))
        else
        ((oX1_refused σ 1).bind fun y25 =>
          some (y25.1, (ol_relog σ y25.2)))))))))))))
def oX1_will (σ : ol_Xm) (β : ol_Bd) (bp : Nat) (x1 : Int32) (x2 : Int32) : Option (Int32 × ol_Xm) :=
  ((oX1_isWhat x2).bind fun y1 =>
    (if y1 = 0 then
      ((oX1_refused σ 1).bind fun y20 =>
        some (y20.1, (ol_relog σ y20.2)))
    else
      ((oX1_isIn x1 1 999).bind fun y3 =>
        (if y3 = 0 then
          ((oX1_refused σ 2).bind fun y17 =>
            some (y17.1, (ol_relog σ y17.2)))
        else
          ((oX3_be σ β bp 28 10).bind fun y5 =>
            ((oX3_goes y5 β bp 28 999 x1).bind fun y9 =>
              ((oX3_is y9 β bp 28 x2).bind fun y13 =>
                ((oX1_fine y9 y13).bind fun y15 =>
                  some (y15.1, (ol_relog y9 y15.2))))))))))
def oX1_till_L42 (β : ol_Bd) (bp : Nat) (x1 : Int32)  : Nat → Int32 → Int32 → ol_Xm → Option (Int32 × ol_Xm)
  | 0, _, _, _ => none
  | n + 1, v2, v3, σ =>
    (if 2000 < v3 then
      ((oX1_fine σ (-2)).bind fun y1 =>
        some (y1.1, (ol_relog σ y1.2)))
    else
      ((oX3_goes σ β bp 28 1 1).bind fun y3 =>
        (ol_og (ol_in ((6 * x1) + 0) 36) (
          (if (y3.1 (28 + 7) (((6 * x1) + 0).toNatClampNeg)) ≤ v2 then
            oX1_till_L42 β bp x1 n v2 (v3 + 1) y3
          else
            ((oX1_fine y3 v3).bind fun y8 =>
              some (y8.1, (ol_relog y3 y8.2))))))))
def oX1_till (σ : ol_Xm) (β : ol_Bd) (bp : Nat) (x1 : Int32) : Option (Int32 × ol_Xm) :=
  ((oX1_isBoard σ β bp x1).bind fun y1 =>
    (if y1 = 0 then
      ((oX1_refused σ 1).bind fun y10 =>
        some (y10.1, (ol_relog σ y10.2)))
    else
      ((oX3_be σ β bp 28 10).bind fun y3 =>
        (ol_og (ol_in ((6 * x1) + 0) 36) (
          (ol_lt (y3.1 (10 + 7) (((6 * x1) + 0).toNatClampNeg)) fun y8 =>
            oX1_till_L42 β bp x1 2001 y8 1 y3))))))
def oX1_ticks (σ : ol_Xm) (β : ol_Bd) (bp : Nat) (x1 : Int32) : Option (Int32 × ol_Xm) :=
  ((oX1_isIn x1 1 999).bind fun y1 =>
    (if y1 = 0 then
      ((oX1_refused σ 2).bind fun y11 =>
        some (y11.1, (ol_relog σ y11.2)))
    else
      ((oX1_forgets σ).bind fun y3 =>
        ((oX3_goes (ol_relog σ y3) β bp 10 999 x1).bind fun y5 =>
          ((oX1_fine y5 (y5.1 10 9)).bind fun y9 =>
            some (y9.1, (ol_relog y5 y9.2)))))))
def oX1_keep_L23 (β : ol_Bd) (bp : Nat)  (σ : ol_Xm) : Option (Int32 × ol_Xm) :=
  ((oX1_granted σ 1).bind fun y1 =>
    (ol_og (ol_zb y1.1) (some (y1.1, (ol_relog σ y1.2)))))
def oX1_keep (σ : ol_Xm) (β : ol_Bd) (bp : Nat) : Option (Int32 × ol_Xm) :=
  ((oX3_be σ β bp 19 10).bind fun y1 =>
    oX1_keep_L23 β bp (ol_xs y1 0 10 1))
def oX1_back_L18 (β : ol_Bd) (bp : Nat)  (σ : ol_Xm) : Option (Int32 × ol_Xm) :=
  ((oX1_forgets σ).bind fun y1 =>
    ((oX1_granted (ol_relog σ y1) ((ol_relog σ y1).1 0 10)).bind fun y3 =>
      (ol_og (ol_zb y3.1) (some (y3.1, (ol_relog (ol_relog σ y1) y3.2))))))
def oX1_back (σ : ol_Xm) (β : ol_Bd) (bp : Nat) : Option (Int32 × ol_Xm) :=
  (if (σ.1 0 10) = 0 then
    oX1_back_L18 β bp σ
  else
    ((oX3_be σ β bp 10 19).bind fun y1 =>
      oX1_back_L18 β bp y1))
