/-! the model's methods, as they compute (printed by gen/model.py) -/
set_option maxRecDepth 100000
def oX4_thrown (σ : ol_Mm) : Option Int32 :=
  some (σ.1 0 0)
def oX4_laysWord_L2 (x1 : Int32)  : Nat → Int32 → ol_Mm → Option ol_Mm
  | 0, _, _ => none
  | n + 1, v2, σ =>
    (if 4 ≤ v2 then
      some (ol_ms σ 0 5 ((σ.1 0 5) + 4))
    else
      (ol_og (ol_in ((σ.1 0 5) + v2) 700) (
        oX4_laysWord_L2 x1 n (v2 + 1) (ol_ms σ 1 (((σ.1 0 5) + v2).toNatClampNeg) ((x1 >>> ((24 - (8 * v2)) &&& 31)) &&& 255)))))
def oX4_laysWord (σ : ol_Mm) (x1 : Int32) : Option ol_Mm :=
  oX4_laysWord_L2 x1 ol_fuel 0 σ
def oX4_feed (σ : ol_Mm) (x1 : Int32) (x2 : Int32) (x3 : Int32) (x4 : Int32) (x5 : Int32) : Option (Int32 × ol_Mm) :=
  (if ((ol_ms σ 0 0 0).1 0 5) ≤ 680 then
    ((oX4_laysWord (ol_ms σ 0 0 0) x1).bind fun y1 =>
      ((oX4_laysWord y1 x2).bind fun y3 =>
        ((oX4_laysWord y3 x3).bind fun y5 =>
          ((oX4_laysWord y5 x4).bind fun y7 =>
            ((oX4_laysWord y7 x5).bind fun y9 =>
              some ((y9.1 0 5), y9))))))
  else
    some ((-1), (ol_ms σ 0 0 0)))
def oX4_in (x1 : Int32) (x2 : Int32) (x3 : Int32) : Option Int32 :=
  (if x1 < x2 then
    some 0
  else
    (if x3 < x1 then
      some 0
    else
      some 1))
def oX4_isRefused (σ : ol_Mm) (x1 : Int32) : Option (Int32 × ol_Mm) :=
  (if x1 = 0 then
    some (0, (ol_ms (ol_ms (ol_ms σ 0 0 0) 0 3 (-1)) 0 1 x1))
  else
    some (1, (ol_ms (ol_ms (ol_ms σ 0 0 0) 0 3 (-1)) 0 1 x1)))
def oX4_see (σ : ol_Mm) (x1 : Int32) : Option Int32 :=
  (if (σ.1 0 10) ≤ x1 then
    some (-1)
  else
    (ol_og (ol_in x1 700) (
      some (σ.1 1 x1.toNatClampNeg))))
def oX4_goesOn_L136   : Nat → ol_Mm → Option ol_Mm
  | 0, _ => none
  | n + 1, σ =>
    ((oX4_see σ (σ.1 0 12)).bind fun y1 =>
      ((oX4_in y1 48 57).bind fun y3 =>
        (if y3 = 0 then
          (if ((σ.1 0 12) - (σ.1 0 11)) ≤ 3 then
            some (ol_ms σ 0 13 3)
          else
            some (ol_ms σ 0 13 1))
        else
          (if 3 ≤ ((σ.1 0 12) - (σ.1 0 11)) then
            oX4_goesOn_L136 n (ol_ms (ol_ms σ 0 14 (σ.1 0 14)) 0 12 (((ol_ms σ 0 14 (σ.1 0 14)).1 0 12) + 1))
          else
            ((oX4_see σ (σ.1 0 12)).bind fun y6 =>
              oX4_goesOn_L136 n (ol_ms (ol_ms σ 0 14 (((10 * (σ.1 0 14)) + y6) - 48)) 0 12 (((ol_ms σ 0 14 (((10 * (σ.1 0 14)) + y6) - 48)).1 0 12) + 1)))))))
def oX4_goesOn_L65   : Nat → ol_Mm → Option ol_Mm
  | 0, _ => none
  | n + 1, σ =>
    ((oX4_see σ (σ.1 0 12)).bind fun y1 =>
      ((oX4_in y1 97 122).bind fun y3 =>
        (if y3 = 0 then
          (if ((σ.1 0 12) - (σ.1 0 11)) ≤ 6 then
            some (ol_ms σ 0 13 2)
          else
            some (ol_ms σ 0 13 1))
        else
          oX4_goesOn_L65 n (ol_ms σ 0 12 ((σ.1 0 12) + 1)))))
def oX4_goesOn_L0   : Nat → ol_Mm → Option ol_Mm
  | 0, _ => none
  | n + 1, σ =>
    ((oX4_see σ (σ.1 0 12)).bind fun y1 =>
      (if y1 = 32 then
        oX4_goesOn_L0 n (ol_ms σ 0 12 ((σ.1 0 12) + 1))
      else
        ((oX4_see (ol_ms σ 0 11 (σ.1 0 12)) ((ol_ms σ 0 11 (σ.1 0 12)).1 0 12)).bind fun y3 =>
          (if y3 = (-1) then
            some (ol_ms (ol_ms σ 0 11 (σ.1 0 12)) 0 13 0)
          else
            ((oX4_in y3 97 122).bind fun y5 =>
              (if y5 = 0 then
                ((oX4_in y3 48 57).bind fun y7 =>
                  (if y7 = 0 then
                    (if y3 = 59 then
                      some (ol_ms (ol_ms (ol_ms σ 0 11 (σ.1 0 12)) 0 12 (((ol_ms σ 0 11 (σ.1 0 12)).1 0 12) + 1)) 0 13 y3)
                    else
                      some (ol_ms (ol_ms (ol_ms σ 0 11 (σ.1 0 12)) 0 12 (((ol_ms σ 0 11 (σ.1 0 12)).1 0 12) + 1)) 0 13 1))
                  else
                    oX4_goesOn_L136 ol_fuel (ol_ms (ol_ms σ 0 11 (σ.1 0 12)) 0 14 0)))
              else
                oX4_goesOn_L65 ol_fuel (ol_ms σ 0 11 (σ.1 0 12))))))))
def oX4_goesOn (σ : ol_Mm) : Option ol_Mm :=
  oX4_goesOn_L0 ol_fuel σ
def oX4_isWord_L28 (σ : ol_Mm) (x1 : Nat)  : Nat → Int32 → Option Int32
  | 0, _ => none
  | n + 1, v2 =>
    (ol_og (decide (x1 < 9)) (
      (if (nI (ol_sl x1)) ≤ v2 then
        some 1
      else
        (ol_og (ol_in ((σ.1 0 11) + v2) 700) (
          (ol_og (decide (x1 < 9)) (
          (ol_og (ol_in v2 (ol_sl x1)) (
            (if (σ.1 1 (((σ.1 0 11) + v2).toNatClampNeg)) = (ol_sc x1 v2.toNatClampNeg) then
              oX4_isWord_L28 σ x1 n (v2 + 1)
            else
              some 0))))))))))
def oX4_isWord (σ : ol_Mm) (x1 : Nat) : Option Int32 :=
  (if (σ.1 0 13) = 2 then
    (ol_og (decide (x1 < 9)) (
      (if ((σ.1 0 12) - (σ.1 0 11)) = (nI (ol_sl x1)) then
        oX4_isWord_L28 σ x1 ol_fuel 0
      else
        some 0)))
  else
    some 0)
def oX4_errs (σ : ol_Mm) (x1 : Int32) : Option (Int32 × ol_Mm) :=
  some (0, (ol_ms (ol_ms σ 0 15 x1) 0 16 ((ol_ms σ 0 15 x1).1 0 11)))
def oX4_lays (σ : ol_Mm) (x1 : Int32) (x2 : Int32) (x3 : Int32) : Option (Int32 × ol_Mm) :=
  (if (σ.1 0 13) = 3 then
    ((oX4_in (σ.1 0 14) x2 x3).bind fun y1 =>
      (if y1 = 0 then
        ((oX4_errs σ 4).bind fun y6 =>
          (ol_og (ol_zb y6.1) (some (y6.1, y6.2))))
      else
        (ol_og (ol_in x1 59) (
          ((oX4_goesOn (ol_ms σ 3 x1.toNatClampNeg (σ.1 0 14))).bind fun y4 =>
            some (1, y4))))))
  else
    ((oX4_errs σ 1).bind fun y9 =>
      (ol_og (ol_zb y9.1) (some (y9.1, y9.2)))))
def oX4_after (σ : ol_Mm) (x1 : Nat) (x2 : Int32) (x3 : Int32) (x4 : Int32) : Option (Int32 × ol_Mm) :=
  ((oX4_isWord σ x1).bind fun y1 =>
    (if y1 = 0 then
      ((oX4_errs σ 1).bind fun y7 =>
        (ol_og (ol_zb y7.1) (some (y7.1, y7.2))))
    else
      ((oX4_goesOn σ).bind fun y3 =>
        ((oX4_lays y3 x2 x3 x4).bind fun y5 =>
          (ol_og (ol_zb y5.1) (some (y5.1, y5.2)))))))
def oX4_readBus (σ : ol_Mm) : Option (Int32 × ol_Mm) :=
  (if (σ.1 0 17) = 0 then
    ((oX4_goesOn σ).bind fun y1 =>
      ((oX4_after y1 1 0 1 3).bind fun y3 =>
        (if y3.1 = 0 then
          (ol_og (ol_zb ((ol_ms y3.2 0 17 0).1 0 17)) (some (((ol_ms y3.2 0 17 0).1 0 17), (ol_ms y3.2 0 17 0))))
        else
          ((oX4_after y3.2 2 1 0 20).bind fun y5 =>
            (if y5.1 = 0 then
              (ol_og (ol_zb ((ol_ms y5.2 0 17 0).1 0 17)) (some (((ol_ms y5.2 0 17 0).1 0 17), (ol_ms y5.2 0 17 0))))
            else
              ((oX4_after y5.2 3 2 1 200).bind fun y7 =>
                (if y7.1 = 0 then
                  (ol_og (ol_zb ((ol_ms y7.2 0 17 0).1 0 17)) (some (((ol_ms y7.2 0 17 0).1 0 17), (ol_ms y7.2 0 17 0))))
                else
                  (ol_og (ol_zb ((ol_ms y7.2 0 17 1).1 0 17)) (some (((ol_ms y7.2 0 17 1).1 0 17), (ol_ms y7.2 0 17 1)))))))))))
  else
    ((oX4_errs σ 3).bind fun y12 =>
      (ol_og (ol_zb y12.1) (some (y12.1, y12.2)))))
def oX4_begins (σ : ol_Mm) (x1 : Int32) : Option (Int32 × ol_Mm) :=
  (if x1 = 0 then
    ((oX4_errs σ 5).bind fun y6 =>
      (ol_og (ol_zb y6.1) (some (y6.1, y6.2))))
  else
    (if (σ.1 0 17) = 0 then
      ((oX4_errs σ 6).bind fun y3 =>
        (ol_og (ol_zb y3.1) (some (y3.1, y3.2))))
    else
      ((oX4_goesOn σ).bind fun y1 =>
        some (1, y1))))
def oX4_isName (σ : ol_Mm) : Option Int32 :=
  (if (σ.1 0 13) = 2 then
    ((oX4_isWord σ 0).bind fun y1 =>
      (if y1 = 0 then
        ((oX4_isWord σ 4).bind fun y3 =>
          (if y3 = 0 then
            ((oX4_isWord σ 5).bind fun y5 =>
              (if y5 = 0 then
                some 1
              else
                some 0))
          else
            some 0))
      else
        some 0))
  else
    some 0)
def oX4_spelt_L7 (σ : ol_Mm)  : Nat → Int64 → Int32 → Option Int64
  | 0, _, _ => none
  | n + 1, v1, v3 =>
    (if (σ.1 0 12) ≤ v3 then
      some v1
    else
      (ol_og (ol_in v3 700) (
        oX4_spelt_L7 σ n (((32 * v1) + ((σ.1 1 v3.toNatClampNeg).toInt64)) - 96) (v3 + 1))))
def oX4_spelt (σ : ol_Mm) : Option Int64 :=
  oX4_spelt_L7 σ ol_fuel 0 (σ.1 0 11)
def oX4_boardHere_L2 (σ : ol_Mm)  : Nat → Int32 → Option Int32
  | 0, _ => none
  | n + 1, v1 =>
    (if (σ.1 3 3) ≤ v1 then
      some (-1)
    else
      (ol_og (ol_in v1 6) (
        ((oX4_spelt σ).bind fun y2 =>
          (if (lg_cmp (σ.2 v1.toNatClampNeg) y2) = 0 then
            some v1
          else
            oX4_boardHere_L2 σ n (v1 + 1))))))
def oX4_boardHere (σ : ol_Mm) : Option Int32 :=
  oX4_boardHere_L2 σ ol_fuel 0
def oX4_laysOwn_L21 (x1 : Nat) (x2 : Int32) (x3 : Int32) (x4 : Int32)  : Nat → Int32 → ol_Mm → Option (Int32 × ol_Mm)
  | 0, _, _ => none
  | n + 1, v5, σ =>
    (if (σ.1 3 3) ≤ v5 then
      ((oX4_lays σ (x2 + (σ.1 3 3)) x3 x4).bind fun y1 =>
        (ol_og (ol_zb y1.1) (some (y1.1, y1.2))))
    else
      (if (σ.1 0 13) = 3 then
        (ol_og (ol_in (x2 + v5) 59) (
          (if (σ.1 3 ((x2 + v5).toNatClampNeg)) = (σ.1 0 14) then
            ((oX4_errs σ 3).bind fun y4 =>
              (ol_og (ol_zb y4.1) (some (y4.1, y4.2))))
          else
            oX4_laysOwn_L21 x1 x2 x3 x4 n (v5 + 1) σ)))
      else
        oX4_laysOwn_L21 x1 x2 x3 x4 n (v5 + 1) σ))
def oX4_laysOwn (σ : ol_Mm) (x1 : Nat) (x2 : Int32) (x3 : Int32) (x4 : Int32) : Option (Int32 × ol_Mm) :=
  ((oX4_isWord σ x1).bind fun y1 =>
    (if y1 = 0 then
      ((oX4_errs σ 1).bind fun y5 =>
        (ol_og (ol_zb y5.1) (some (y5.1, y5.2))))
    else
      ((oX4_goesOn σ).bind fun y3 =>
        oX4_laysOwn_L21 x1 x2 x3 x4 ol_fuel 0 y3)))
def oX4_readBoard_L19   (v1 : Int32) (s0 : Int32) (σ : ol_Mm) : Option (Int32 × ol_Mm) :=
  ((oX4_begins σ s0).bind fun y1 =>
    (if y1.1 = 0 then
      some (0, y1.2)
    else
      ((oX4_isName y1.2).bind fun y3 =>
        (if y3 = 0 then
          ((oX4_errs y1.2 1).bind fun y24 =>
            (ol_og (ol_zb y24.1) (some (y24.1, y24.2))))
        else
          ((oX4_boardHere y1.2).bind fun y5 =>
            (if y5 = (-1) then
              ((oX4_spelt y1.2).bind fun y7 =>
                (ol_og (ol_in v1 6) (
                  ((oX4_goesOn (ol_ml y1.2 v1.toNatClampNeg y7)).bind fun y10 =>
                    ((oX4_laysOwn y10 6 5 0 9).bind fun y12 =>
                      (if y12.1 = 0 then
                        some (0, y12.2)
                      else
                        ((oX4_laysOwn y12.2 7 11 1 31).bind fun y14 =>
                          (if y14.1 = 0 then
                            some (0, y14.2)
                          else
                            ((oX4_after y14.2 8 (17 + v1) 0 7).bind fun y16 =>
                              (if y16.1 = 0 then
                                some (0, y16.2)
                              else
                                some (1, (ol_ms y16.2 3 3 ((y16.2.1 3 3) + 1)))))))))))))
            else
              ((oX4_errs y1.2 3).bind fun y21 =>
                (ol_og (ol_zb y21.1) (some (y21.1, y21.2))))))))))
def oX4_readBoard (σ : ol_Mm) : Option (Int32 × ol_Mm) :=
  (if 6 ≤ (σ.1 3 3) then
    oX4_readBoard_L19 (σ.1 3 3) 0 σ
  else
    oX4_readBoard_L19 (σ.1 3 3) 1 σ)
def oX4_readAsk_L49   (v1 : Int32) (s0 : Int32) (s1 : Int32) (σ : ol_Mm) : Option (Int32 × ol_Mm) :=
  ((oX4_lays σ s1 s0 999).bind fun y1 =>
    (if y1.1 = 0 then
      some (0, y1.2)
    else
      ((oX4_isName y1.2).bind fun y3 =>
        (if y3 = 0 then
          ((oX4_errs y1.2 1).bind fun y17 =>
            (ol_og (ol_zb y17.1) (some (y17.1, y17.2))))
        else
          ((oX4_boardHere y1.2).bind fun y5 =>
            (ol_og (ol_in (35 + v1) 59) (
              (ol_og (ol_in (35 + v1) 59) (
                (if ((ol_ms y1.2 3 ((35 + v1).toNatClampNeg) y5).1 3 ((35 + v1).toNatClampNeg)) = (-1) then
                  ((oX4_errs (ol_ms y1.2 3 ((35 + v1).toNatClampNeg) y5) 2).bind fun y14 =>
                    (ol_og (ol_zb y14.1) (some (y14.1, y14.2))))
                else
                  ((oX4_goesOn (ol_ms y1.2 3 ((35 + v1).toNatClampNeg) y5)).bind fun y9 =>
                    ((oX4_lays y9 (47 + v1) 1 99).bind fun y11 =>
                      (if y11.1 = 0 then
                        some (0, y11.2)
                      else
                        some (1, (ol_ms y11.2 3 4 ((y11.2.1 3 4) + 1))))))))))))))))
def oX4_readAsk_L19   (v1 : Int32) (s0 : Int32) (σ : ol_Mm) : Option (Int32 × ol_Mm) :=
  ((oX4_begins σ s0).bind fun y1 =>
    (if y1.1 = 0 then
      some (0, y1.2)
    else
      (if v1 = 0 then
        oX4_readAsk_L49 v1 1 (23 + v1) y1.2
      else
        (ol_og (ol_in ((23 + v1) - 1) 59) (
          oX4_readAsk_L49 v1 (y1.2.1 3 (((23 + v1) - 1).toNatClampNeg)) (23 + v1) y1.2)))))
def oX4_readAsk (σ : ol_Mm) : Option (Int32 × ol_Mm) :=
  (if 12 ≤ (σ.1 3 4) then
    oX4_readAsk_L19 (σ.1 3 4) 0 σ
  else
    oX4_readAsk_L19 (σ.1 3 4) 1 σ)
def oX4_readLine (σ : ol_Mm) : Option (Int32 × ol_Mm) :=
  ((oX4_isWord σ 0).bind fun y1 =>
    (if y1 = 0 then
      ((oX4_isWord σ 4).bind fun y3 =>
        (if y3 = 0 then
          ((oX4_isWord σ 5).bind fun y5 =>
            (if y5 = 0 then
              ((oX4_errs σ 1).bind fun y7 =>
                (ol_og (ol_zb y7.1) (some (y7.1, y7.2))))
            else
              ((oX4_readAsk σ).bind fun y9 =>
                (ol_og (ol_zb y9.1) (some (y9.1, y9.2))))))
        else
          ((oX4_readBoard σ).bind fun y12 =>
            (ol_og (ol_zb y12.1) (some (y12.1, y12.2))))))
    else
      ((oX4_readBus σ).bind fun y15 =>
        (ol_og (ol_zb y15.1) (some (y15.1, y15.2))))))
def oX4_readAll_L42 (x1 : Int32)  : Nat → ol_Mm → Option (Int32 × ol_Mm)
  | 0, _ => none
  | n + 1, σ =>
    (if (σ.1 0 13) = 59 then
      ((oX4_goesOn σ).bind fun y8 =>
        ((oX4_readLine y8).bind fun y10 =>
          (if y10.1 = 0 then
            some (0, y10.2)
          else
            oX4_readAll_L42 x1 n y10.2)))
    else
      (if (σ.1 0 13) = 0 then
        (if 0 < (σ.1 3 3) then
          some (1, σ)
        else
          ((oX4_errs σ 6).bind fun y1 =>
            (if y1.1 = 0 then
              some (0, y1.2)
            else
              some (1, y1.2))))
      else
        ((oX4_errs σ 1).bind fun y5 =>
          (ol_og (ol_zb y5.1) (some (y5.1, y5.2))))))
def oX4_readAll (σ : ol_Mm) (x1 : Int32) : Option (Int32 × ol_Mm) :=
  ((oX4_goesOn (ol_ms (ol_ms (ol_ms (ol_ms (ol_ms σ 0 10 x1) 0 12 0) 0 17 0) 3 3 0) 3 4 0)).bind fun y1 =>
    ((oX4_readLine y1).bind fun y3 =>
      (if y3.1 = 0 then
        some (0, y3.2)
      else
        oX4_readAll_L42 x1 ol_fuel y3.2)))
def oX4_no (σ : ol_Mm) (x1 : Int32) : Option (Int32 × ol_Mm) :=
  some ((-1), (ol_ms σ 0 1 x1))
def oX4_at (x1 : Int32) (x2 : Int32) : Option Int32 :=
  some ((18 + (12 * x1)) + x2)
def oX4_beginsAnew_L56   : Nat → Int32 → ol_Mm → Option ol_Mm
  | 0, _, _ => none
  | n + 1, v1, σ =>
    (if 6 ≤ v1 then
      some σ
    else
      ((oX4_at v1 2).bind fun y1 =>
        (ol_og (ol_in y1 251) (
          ((oX4_at v1 3).bind fun y4 =>
            (ol_og (ol_in y4 251) (
              ((oX4_at v1 10).bind fun y7 =>
                (ol_og (ol_in y7 251) (
                  oX4_beginsAnew_L56 n (v1 + 1) (ol_ms (ol_ms (ol_ms σ 5 y1.toNatClampNeg 1) 5 y4.toNatClampNeg (-2)) 5 y7.toNatClampNeg (-2))))))))))))
def oX4_beginsAnew_L2   : Nat → Int32 → ol_Mm → Option ol_Mm
  | 0, _, _ => none
  | n + 1, v1, σ =>
    (if 251 ≤ v1 then
      oX4_beginsAnew_L56 ol_fuel 0 (ol_ms (ol_ms (ol_ms (ol_ms σ 5 1 (-2)) 5 2 (-2)) 5 3 (-2)) 5 4 (-2))
    else
      (ol_og (ol_in v1 251) (
        oX4_beginsAnew_L2 n (v1 + 1) (ol_ms σ 5 v1.toNatClampNeg 0))))
def oX4_beginsAnew (σ : ol_Mm) : Option ol_Mm :=
  oX4_beginsAnew_L2 ol_fuel 0 σ
def oX4_bus_L68 (x1 : Int32)  : Nat → Int32 → ol_Mm → Option (Int32 × ol_Mm)
  | 0, _, _ => none
  | n + 1, v2, σ =>
    (if 59 ≤ v2 then
      ((oX4_beginsAnew (ol_ms (ol_ms σ 0 9 1) 0 21 0)).bind fun y1 =>
        some ((y1.1 2 3), y1))
    else
      (ol_og (ol_in v2 59) (
        (ol_og (ol_in v2 59) (
          oX4_bus_L68 x1 n (v2 + 1) (ol_ms σ 2 v2.toNatClampNeg (σ.1 3 v2.toNatClampNeg)))))))
def oX4_bus_L18 (x1 : Int32)  (s0 : Int32) (σ : ol_Mm) : Option (Int32 × ol_Mm) :=
  ((oX4_isRefused σ s0).bind fun y1 =>
    (if y1.1 = 0 then
      ((oX4_readAll (ol_ms (ol_ms y1.2 0 5 0) 0 2 0) x1).bind fun y3 =>
        (if y3.1 = 0 then
          ((oX4_no (ol_ms (ol_ms y3.2 0 2 (y3.2.1 0 15)) 0 3 ((ol_ms y3.2 0 2 (y3.2.1 0 15)).1 0 16)) 4).bind fun y5 =>
            some (y5.1, y5.2))
        else
          oX4_bus_L68 x1 ol_fuel 0 y3.2))
    else
      some ((-1), y1.2)))
def oX4_bus (σ : ol_Mm) (x1 : Int32) : Option (Int32 × ol_Mm) :=
  ((oX4_in x1 0 (σ.1 0 5)).bind fun y1 =>
    (if y1 = 0 then
      oX4_bus_L18 x1 2 σ
    else
      oX4_bus_L18 x1 0 σ))
def oX4_fault (σ : ol_Mm) : Option (Int32 × ol_Mm) :=
  some (((ol_ms σ 0 0 0).1 0 2), (ol_ms σ 0 0 0))
def oX4_where (σ : ol_Mm) : Option (Int32 × ol_Mm) :=
  (if ((ol_ms σ 0 0 0).1 0 1) = 4 then
    some (((ol_ms σ 0 0 0).1 0 3), (ol_ms σ 0 0 0))
  else
    some ((-1), (ol_ms σ 0 0 0)))
def oX4_isBoard (σ : ol_Mm) (x1 : Int32) : Option Int32 :=
  (if (σ.1 0 9) = 0 then
    some 0
  else
    ((oX4_in x1 0 ((σ.1 2 3) - 1)).bind fun y1 =>
      (if y1 = 0 then
        some 0
      else
        some 1)))
def oX4_isSet (σ : ol_Mm) (x1 : Int32) : Option Int32 :=
  ((oX4_in x1 1 (((1 : Int32) <<< ((σ.1 2 3) &&& 31)) - 1)).bind fun y1 =>
    (ol_og (ol_zb y1) (some y1)))
def oX4_passWhy (σ : ol_Mm) (x1 : Int32) (x2 : Int32) (x3 : Int32) (x4 : Int32) : Option Int32 :=
  (if (σ.1 0 9) = 0 then
    some 1
  else
    (if x1 = 0 then
      some 1
    else
      ((oX4_in x2 1 2).bind fun y1 =>
        (if y1 = 0 then
          some 2
        else
          ((oX4_isSet σ x3).bind fun y3 =>
            (if y3 = 0 then
              some 2
            else
              ((oX4_in x4 0 400).bind fun y5 =>
                (if y5 = 0 then
                  some 2
                else
                  some 0))))))))
def oX4_doesWait_L2 (σ : ol_Mm) (x1 : Int32) (x2 : Int32)  : Nat → Int32 → Option Int32
  | 0, _ => none
  | n + 1, v3 =>
    (if v3 = (-2) then
      (if v3 = x2 then
        some 1
      else
        some 0)
    else
      (if v3 = x2 then
        (if v3 = x2 then
          some 1
        else
          some 0)
      else
        ((oX4_at v3 3).bind fun y3 =>
          (ol_og (ol_in y3 251) (
            oX4_doesWait_L2 σ x1 x2 n (σ.1 5 y3.toNatClampNeg))))))
def oX4_doesWait (σ : ol_Mm) (x1 : Int32) (x2 : Int32) : Option Int32 :=
  oX4_doesWait_L2 σ x1 x2 ol_fuel x1
def oX4_rankOf_L4 (σ : ol_Mm) (x1 : Int32)  : Nat → Int32 → Int32 → Option Int32
  | 0, _, _ => none
  | n + 1, v2, v3 =>
    (if (σ.1 2 3) ≤ v3 then
      some v2
    else
      ((oX4_doesWait σ v3 x1).bind fun y1 =>
        (if y1 = 0 then
          oX4_rankOf_L4 σ x1 n v2 (v3 + 1)
        else
          (ol_og (ol_in (17 + v3) 59) (
            (if (σ.1 2 ((17 + v3).toNatClampNeg)) ≤ v2 then
              oX4_rankOf_L4 σ x1 n v2 (v3 + 1)
            else
              (ol_og (ol_in (17 + v3) 59) (
                oX4_rankOf_L4 σ x1 n (σ.1 2 ((17 + v3).toNatClampNeg)) (v3 + 1)))))))))
def oX4_rankOf (σ : ol_Mm) (x1 : Int32) : Option Int32 :=
  oX4_rankOf_L4 σ x1 ol_fuel 0 0
def oX4_bitsOf_L4 (x1 : Int32)  : Nat → Int32 → Int32 → Option Int32
  | 0, _, _ => none
  | n + 1, v1, v2 =>
    (if v2 = 0 then
      some v1
    else
      oX4_bitsOf_L4 x1 n (v1 + 1) (v2 &&& (v2 - 1)))
def oX4_bitsOf (x1 : Int32) : Option Int32 :=
  oX4_bitsOf_L4 x1 ol_fuel 0 x1
def oX4_odd (x1 : Int32) : Option Int32 :=
  ((oX4_bitsOf x1).bind fun y1 =>
    (if (y1 - y1 / 2 * 2) = 1 then
      some x1
    else
      some (x1 + 1)))
def oX4_wordOf (σ : ol_Mm) (x1 : Int32) (x2 : Int32) : Option Int32 :=
  (if x2 = 1 then
    ((oX4_rankOf σ x1).bind fun y4 =>
      ((oX4_at x1 2).bind fun y6 =>
        (ol_og (ol_in y6 251) (
          ((oX4_odd ((8 * y4) + (4 * (σ.1 5 y6.toNatClampNeg)))).bind fun y9 =>
            some y9)))))
  else
    (ol_og (ol_in (11 + x1) 59) (
      ((oX4_odd (2 * (σ.1 2 ((11 + x1).toNatClampNeg)))).bind fun y2 =>
        some y2))))
def oX4_has (x1 : Int32) (x2 : Int32) : Option Int32 :=
  (if ((x1 >>> (x2 &&& 31)) &&& 1) = 1 then
    some 1
  else
    some 0)
def oX4_cell (x1 : Int32) (x2 : Int32) : Option Int32 :=
  some ((401 * x1) + x2)
def oX4_drivesAt_L54 (x1 : Int32) (x2 : Int32)  (v3 : Int32) (s0 : Int32) (σ : ol_Mm) : Option ol_Mm :=
  ((oX4_cell x1 x2).bind fun y1 =>
    (if s0 = (-2) then
      (ol_og (ol_in y1 2406) (
        some (ol_ms σ 9 y1.toNatClampNeg v3)))
    else
      (ol_og (ol_in y1 2406) (
        some (ol_ms σ 9 y1.toNatClampNeg ((v3 >>> ((s0 + 1) &&& 31)) <<< ((s0 + 1) &&& 31)))))))
def oX4_drivesAt_L21 (x1 : Int32) (x2 : Int32)  (s0 : Int32) (σ : ol_Mm) : Option ol_Mm :=
  (if (σ.1 2 0) ≤ x2 then
    ((oX4_cell x1 (x2 - (σ.1 2 0))).bind fun y1 =>
      (ol_og (ol_in y1 2406) (
        oX4_drivesAt_L54 x1 x2 s0 (σ.1 12 y1.toNatClampNeg) σ)))
  else
    oX4_drivesAt_L54 x1 x2 s0 (-2) σ)
def oX4_drivesAt (σ : ol_Mm) (x1 : Int32) (x2 : Int32) : Option ol_Mm :=
  ((oX4_has (σ.1 0 23) x1).bind fun y1 =>
    (if y1 = 0 then
      oX4_drivesAt_L21 x1 x2 0 σ
    else
      (ol_og (ol_in x1 6) (
        oX4_drivesAt_L21 x1 x2 (σ.1 8 x1.toNatClampNeg) σ))))
def oX4_slotsApart (σ : ol_Mm) (x1 : Int32) (x2 : Int32) : Option Int32 :=
  (ol_og (ol_in (5 + x1) 59) (
    (ol_og (ol_in (5 + x2) 59) (
      (if 0 ≤ ((σ.1 2 ((5 + x1).toNatClampNeg)) - (σ.1 2 ((5 + x2).toNatClampNeg))) then
        some ((σ.1 2 ((5 + x1).toNatClampNeg)) - (σ.1 2 ((5 + x2).toNatClampNeg)))
      else
        some (-((σ.1 2 ((5 + x1).toNatClampNeg)) - (σ.1 2 ((5 + x2).toNatClampNeg)))))))))
def oX4_nearest_L6 (σ : ol_Mm) (x1 : Int32) (x2 : Int32) (x3 : Int32)  : Nat → Int32 → Int32 → Option Int32
  | 0, _, _ => none
  | n + 1, v4, v5 =>
    (if (σ.1 2 3) ≤ v5 then
      some v4
    else
      ((oX4_slotsApart σ x1 v5).bind fun y1 =>
        (if v5 = x1 then
          oX4_nearest_L6 σ x1 x2 x3 n v4 (v5 + 1)
        else
          ((oX4_cell v5 x3).bind fun y3 =>
            (ol_og (ol_in y3 2406) (
              ((oX4_has (σ.1 9 y3.toNatClampNeg) x2).bind fun y6 =>
                (if y6 = 0 then
                  oX4_nearest_L6 σ x1 x2 x3 n v4 (v5 + 1)
                else
                  (if v4 = 0 then
                    oX4_nearest_L6 σ x1 x2 x3 n y1 (v5 + 1)
                  else
                    (if v4 ≤ y1 then
                      oX4_nearest_L6 σ x1 x2 x3 n v4 (v5 + 1)
                    else
                      oX4_nearest_L6 σ x1 x2 x3 n y1 (v5 + 1)))))))))))
def oX4_nearest (σ : ol_Mm) (x1 : Int32) (x2 : Int32) (x3 : Int32) : Option Int32 :=
  oX4_nearest_L6 σ x1 x2 x3 ol_fuel 0 0
def oX4_dipsAt_L114 (x1 : Int32) (x2 : Int32) (k37 : Int32 → Int32 → ol_Mm → Option ol_Mm) (k88 : Int32 → Int32 → Int32 → Int32 → ol_Mm → Option ol_Mm) : Nat → Int32 → Int32 → Int32 → Int32 → Int32 → Int32 → ol_Mm → Option ol_Mm
  | 0, _, _, _, _, _, _, _ => none
  | n + 1, v3, v4, v5, v6, v7, v8, σ =>
    (if (v7 + (2 * v5)) ≤ v8 then
      k88 v3 v4 v5 (v6 + 1) σ
    else
      (ol_og (ol_in ((461 * v6) + v8) 2766) (
        (ol_og (ol_in ((461 * v6) + v8) 2766) (
          oX4_dipsAt_L114 x1 x2 k37 k88 n v3 v4 v5 v6 v7 (v8 + 1) (ol_ms σ 13 (((461 * v6) + v8).toNatClampNeg) ((σ.1 13 (((461 * v6) + v8).toNatClampNeg)) ||| ((1 : Int32) <<< (v4 &&& 31)))))))))
def oX4_dipsAt_L88 (x1 : Int32) (x2 : Int32) (k37 : Int32 → Int32 → ol_Mm → Option ol_Mm) : Nat → Int32 → Int32 → Int32 → Int32 → ol_Mm → Option ol_Mm
  | 0, _, _, _, _, _ => none
  | n + 1, v3, v4, v5, v6, σ =>
    (if (σ.1 2 3) ≤ v6 then
      k37 v3 (v4 + 1) σ
    else
      ((oX4_slotsApart σ x1 v6).bind fun y1 =>
        oX4_dipsAt_L114 x1 x2 k37 (oX4_dipsAt_L88 x1 x2 k37 n) ol_fuel v3 v4 v5 v6 (x2 + y1) (x2 + y1) σ))
def oX4_dipsAt_L65 (x1 : Int32) (x2 : Int32) (k37 : Int32 → Int32 → ol_Mm → Option ol_Mm) (v3 : Int32) (v4 : Int32) (s0 : Int32) (σ : ol_Mm) : Option ol_Mm :=
  (if s0 = 0 then
    k37 v3 (v4 + 1) σ
  else
    oX4_dipsAt_L88 x1 x2 k37 ol_fuel v3 v4 s0 0 (ol_ms σ 0 29 ((σ.1 0 29) + 1)))
def oX4_dipsAt_L37 (x1 : Int32) (x2 : Int32)  : Nat → Int32 → Int32 → ol_Mm → Option ol_Mm
  | 0, _, _, _ => none
  | n + 1, v3, v4, σ =>
    (if 6 ≤ v4 then
      some σ
    else
      ((oX4_has v3 v4).bind fun y1 =>
        (if y1 = 0 then
          oX4_dipsAt_L65 x1 x2 (oX4_dipsAt_L37 x1 x2 n) v3 v4 0 σ
        else
          ((oX4_nearest σ x1 v4 x2).bind fun y3 =>
            oX4_dipsAt_L65 x1 x2 (oX4_dipsAt_L37 x1 x2 n) v3 v4 y3 σ))))
def oX4_dipsAt (σ : ol_Mm) (x1 : Int32) (x2 : Int32) : Option ol_Mm :=
  (if x2 = 0 then
    oX4_dipsAt_L37 x1 x2 ol_fuel 0 0 σ
  else
    ((oX4_cell x1 (x2 - 1)).bind fun y1 =>
      (ol_og (ol_in y1 2406) (
        ((oX4_cell x1 x2).bind fun y4 =>
          (ol_og (ol_in y4 2406) (
            oX4_dipsAt_L37 x1 x2 ol_fuel ((σ.1 9 y1.toNatClampNeg) &&& ((σ.1 9 y4.toNatClampNeg) ^^^ (-1))) 0 σ)))))))
def oX4_isSeen_L74 (σ : ol_Mm) (x1 : Int32) (x2 : Int32) (x3 : Int32)  : Nat → Int32 → Option Int32
  | 0, _ => none
  | n + 1, v4 =>
    (if (σ.1 2 3) ≤ v4 then
      some 0
    else
      ((oX4_slotsApart σ x1 v4).bind fun y1 =>
        (if v4 = x1 then
          oX4_isSeen_L74 σ x1 x2 x3 n (v4 + 1)
        else
          (if (x3 - y1) < 0 then
            oX4_isSeen_L74 σ x1 x2 x3 n (v4 + 1)
          else
            ((oX4_cell v4 (x3 - y1)).bind fun y3 =>
              (ol_og (ol_in y3 2406) (
                ((oX4_has (σ.1 9 y3.toNatClampNeg) x2).bind fun y6 =>
                  (if y6 = 0 then
                    oX4_isSeen_L74 σ x1 x2 x3 n (v4 + 1)
                  else
                    some 1)))))))))
def oX4_isSeen (σ : ol_Mm) (x1 : Int32) (x2 : Int32) (x3 : Int32) : Option Int32 :=
  ((oX4_cell x1 x3).bind fun y1 =>
    (ol_og (ol_in y1 2406) (
      ((oX4_has (σ.1 9 y1.toNatClampNeg) x2).bind fun y4 =>
        (if y4 = 0 then
          (ol_og (ol_in (12 + x2) 251) (
            (if (σ.1 5 ((12 + x2).toNatClampNeg)) = 0 then
              (ol_og (ol_in ((461 * x1) + x3) 2766) (
                ((oX4_has (σ.1 13 (((461 * x1) + x3).toNatClampNeg)) x2).bind fun y8 =>
                  (if y8 = 0 then
                    oX4_isSeen_L74 σ x1 x2 x3 ol_fuel 0
                  else
                    some 0))))
            else
              (ol_og (ol_in (12 + x2) 251) (
                (if (σ.1 5 ((12 + x2).toNatClampNeg)) = 1 then
                  some 1
                else
                  some 0))))))
        else
          some 1)))))
def oX4_looksAt_L116 (x1 : Int32) (x2 : Int32)  : Nat → Int32 → Int32 → Int32 → ol_Mm → Option ol_Mm
  | 0, _, _, _, _ => none
  | n + 1, v4, v5, v6, σ =>
    (if 6 ≤ v6 then
      ((oX4_cell x1 x2).bind fun y1 =>
        (ol_og (ol_in y1 2406) (
          some (ol_ms σ 12 y1.toNatClampNeg v5))))
    else
      ((oX4_has (σ.1 0 23) x1).bind fun y4 =>
        (if y4 = 0 then
          ((oX4_cell x1 x2).bind fun y6 =>
            (ol_og (ol_in y6 2406) (
              some (ol_ms σ 12 y6.toNatClampNeg v5))))
        else
          ((oX4_has v4 v6).bind fun y9 =>
            (if y9 = 0 then
              oX4_looksAt_L116 x1 x2 n v4 v5 (v6 + 1) σ
            else
              (ol_og (ol_in x1 6) (
                ((oX4_has (σ.1 8 x1.toNatClampNeg) v6).bind fun y12 =>
                  (if y12 = 0 then
                    oX4_looksAt_L116 x1 x2 n v4 v6 (v6 + 1) σ
                  else
                    oX4_looksAt_L116 x1 x2 n v4 v5 (v6 + 1) σ)))))))))
def oX4_looksAt_L97 (x1 : Int32) (x2 : Int32)  (v4 : Int32) (σ : ol_Mm) : Option ol_Mm :=
  ((oX4_cell x1 x2).bind fun y1 =>
    (ol_og (ol_in y1 2406) (
      oX4_looksAt_L116 x1 x2 ol_fuel v4 (-2) 0 (ol_ms σ 11 y1.toNatClampNeg v4))))
def oX4_looksAt_L57 (x1 : Int32) (x2 : Int32)  : Nat → Int32 → Int32 → ol_Mm → Option ol_Mm
  | 0, _, _, _ => none
  | n + 1, v4, v5, σ =>
    (if v5 < 0 then
      oX4_looksAt_L97 x1 x2 v4 σ
    else
      (if v5 < (x2 - (σ.1 2 1)) then
        oX4_looksAt_L97 x1 x2 v4 σ
      else
        ((oX4_cell x1 v5).bind fun y1 =>
          (ol_og (ol_in y1 2406) (
            oX4_looksAt_L57 x1 x2 n (v4 ||| (σ.1 10 y1.toNatClampNeg)) (v5 + (-1)) σ)))))
def oX4_looksAt_L5 (x1 : Int32) (x2 : Int32)  : Nat → Int32 → Int32 → ol_Mm → Option ol_Mm
  | 0, _, _, _ => none
  | n + 1, v3, v4, σ =>
    (if 6 ≤ v4 then
      ((oX4_cell x1 x2).bind fun y1 =>
        (ol_og (ol_in y1 2406) (
          oX4_looksAt_L57 x1 x2 ol_fuel 0 x2 (ol_ms σ 10 y1.toNatClampNeg v3))))
    else
      ((oX4_isSeen σ x1 v4 x2).bind fun y4 =>
        (if y4 = 0 then
          oX4_looksAt_L5 x1 x2 n (v3 ||| 0) (v4 + 1) σ
        else
          oX4_looksAt_L5 x1 x2 n (v3 ||| ((1 : Int32) <<< (v4 &&& 31))) (v4 + 1) σ)))
def oX4_looksAt (σ : ol_Mm) (x1 : Int32) (x2 : Int32) : Option ol_Mm :=
  oX4_looksAt_L5 x1 x2 ol_fuel 0 0 σ
def oX4_laysPass_L91 (x1 : Int32) (k34 : Int32 → ol_Mm → Option ol_Mm) : Nat → Int32 → Int32 → ol_Mm → Option ol_Mm
  | 0, _, _, _ => none
  | n + 1, v2, v3, σ =>
    (if (σ.1 2 3) ≤ v3 then
      k34 (v2 + 1) σ
    else
      ((oX4_looksAt σ v3 v2).bind fun y1 =>
        oX4_laysPass_L91 x1 k34 n v2 (v3 + 1) y1))
def oX4_laysPass_L67 (x1 : Int32) (k34 : Int32 → ol_Mm → Option ol_Mm) : Nat → Int32 → Int32 → ol_Mm → Option ol_Mm
  | 0, _, _, _ => none
  | n + 1, v2, v3, σ =>
    (if (σ.1 2 3) ≤ v3 then
      oX4_laysPass_L91 x1 k34 ol_fuel v2 0 σ
    else
      ((oX4_dipsAt σ v3 v2).bind fun y1 =>
        oX4_laysPass_L67 x1 k34 n v2 (v3 + 1) y1))
def oX4_laysPass_L43 (x1 : Int32) (k34 : Int32 → ol_Mm → Option ol_Mm) : Nat → Int32 → Int32 → ol_Mm → Option ol_Mm
  | 0, _, _, _ => none
  | n + 1, v2, v3, σ =>
    (if (σ.1 2 3) ≤ v3 then
      oX4_laysPass_L67 x1 k34 ol_fuel v2 0 σ
    else
      ((oX4_drivesAt σ v3 v2).bind fun y1 =>
        oX4_laysPass_L43 x1 k34 n v2 (v3 + 1) y1))
def oX4_laysPass_L34 (x1 : Int32)  : Nat → Int32 → ol_Mm → Option ol_Mm
  | 0, _, _ => none
  | n + 1, v2, σ =>
    (if 401 ≤ v2 then
      some σ
    else
      oX4_laysPass_L43 x1 (oX4_laysPass_L34 x1 n) ol_fuel v2 0 σ)
def oX4_laysPass_L12 (x1 : Int32)  : Nat → Int32 → ol_Mm → Option ol_Mm
  | 0, _, _ => none
  | n + 1, v2, σ =>
    (if 2766 ≤ v2 then
      oX4_laysPass_L34 x1 ol_fuel 0 σ
    else
      (ol_og (ol_in v2 2766) (
        oX4_laysPass_L12 x1 n (v2 + 1) (ol_ms σ 13 v2.toNatClampNeg 0))))
def oX4_laysPass (σ : ol_Mm) (x1 : Int32) : Option ol_Mm :=
  oX4_laysPass_L12 x1 ol_fuel 0 (ol_ms (ol_ms σ 0 23 x1) 0 29 0)
def oX4_passes_L2 (x1 : Int32) (x2 : Int32)  : Nat → Int32 → ol_Mm → Option ol_Mm
  | 0, _, _ => none
  | n + 1, v3, σ =>
    (if (σ.1 2 3) ≤ v3 then
      ((oX4_laysPass σ x2).bind fun y1 =>
        some y1)
    else
      ((oX4_wordOf σ v3 x1).bind fun y3 =>
        (ol_og (ol_in v3 6) (
          oX4_passes_L2 x1 x2 n (v3 + 1) (ol_ms σ 8 v3.toNatClampNeg y3)))))
def oX4_passes (σ : ol_Mm) (x1 : Int32) (x2 : Int32) : Option ol_Mm :=
  oX4_passes_L2 x1 x2 ol_fuel 0 σ
def oX4_drives (σ : ol_Mm) (x1 : Int32) (x2 : Int32) (x3 : Int32) (x4 : Int32) : Option (Int32 × ol_Mm) :=
  ((oX4_isBoard σ x3).bind fun y1 =>
    ((oX4_passWhy σ y1 x1 x2 x4).bind fun y3 =>
      ((oX4_isRefused σ y3).bind fun y5 =>
        (if y5.1 = 0 then
          ((oX4_passes y5.2 x1 x2).bind fun y7 =>
            ((oX4_cell x3 x4).bind fun y9 =>
              (ol_og (ol_in y9 2406) (
                some ((y7.1 9 y9.toNatClampNeg), y7)))))
        else
          some ((-1), y5.2)))))
def oX4_seen (σ : ol_Mm) (x1 : Int32) (x2 : Int32) (x3 : Int32) (x4 : Int32) : Option (Int32 × ol_Mm) :=
  ((oX4_isBoard σ x3).bind fun y1 =>
    ((oX4_passWhy σ y1 x1 x2 x4).bind fun y3 =>
      ((oX4_isRefused σ y3).bind fun y5 =>
        (if y5.1 = 0 then
          ((oX4_passes y5.2 x1 x2).bind fun y7 =>
            ((oX4_cell x3 x4).bind fun y9 =>
              (ol_og (ol_in y9 2406) (
                some ((y7.1 10 y9.toNatClampNeg), y7)))))
        else
          some ((-1), y5.2)))))
def oX4_taken (σ : ol_Mm) (x1 : Int32) (x2 : Int32) (x3 : Int32) (x4 : Int32) : Option (Int32 × ol_Mm) :=
  ((oX4_isBoard σ x3).bind fun y1 =>
    ((oX4_passWhy σ y1 x1 x2 x4).bind fun y3 =>
      ((oX4_isRefused σ y3).bind fun y5 =>
        (if y5.1 = 0 then
          ((oX4_passes y5.2 x1 x2).bind fun y7 =>
            ((oX4_cell x3 x4).bind fun y9 =>
              (ol_og (ol_in y9 2406) (
                some ((y7.1 11 y9.toNatClampNeg), y7)))))
        else
          some ((-1), y5.2)))))
def oX4_withdrawn (σ : ol_Mm) (x1 : Int32) (x2 : Int32) (x3 : Int32) (x4 : Int32) : Option (Int32 × ol_Mm) :=
  ((oX4_isBoard σ x3).bind fun y1 =>
    ((oX4_passWhy σ y1 x1 x2 x4).bind fun y3 =>
      ((oX4_isRefused σ y3).bind fun y5 =>
        (if y5.1 = 0 then
          ((oX4_passes y5.2 x1 x2).bind fun y7 =>
            ((oX4_cell x3 x4).bind fun y9 =>
              (ol_og (ol_in y9 2406) (
                some ((y7.1 12 y9.toNatClampNeg), y7)))))
        else
          some ((-1), y5.2)))))
def oX4_winnersAt_L4 (σ : ol_Mm) (x1 : Int32)  : Nat → Int32 → Int32 → Option Int32
  | 0, _, _ => none
  | n + 1, v2, v3 =>
    (if (σ.1 2 3) ≤ v3 then
      some v2
    else
      ((oX4_has (σ.1 0 23) v3).bind fun y1 =>
        (if y1 = 0 then
          oX4_winnersAt_L4 σ x1 n (v2 ||| 0) (v3 + 1)
        else
          ((oX4_cell v3 x1).bind fun y3 =>
            (ol_og (ol_in y3 2406) (
              (if (σ.1 12 y3.toNatClampNeg) = (-2) then
                oX4_winnersAt_L4 σ x1 n (v2 ||| ((1 : Int32) <<< (v3 &&& 31))) (v3 + 1)
              else
                oX4_winnersAt_L4 σ x1 n (v2 ||| 0) (v3 + 1))))))))
def oX4_winnersAt (σ : ol_Mm) (x1 : Int32) : Option Int32 :=
  oX4_winnersAt_L4 σ x1 ol_fuel 0 0
def oX4_winners (σ : ol_Mm) (x1 : Int32) (x2 : Int32) (x3 : Int32) : Option (Int32 × ol_Mm) :=
  ((oX4_passWhy σ 1 x1 x2 x3).bind fun y1 =>
    ((oX4_isRefused σ y1).bind fun y3 =>
      (if y3.1 = 0 then
        ((oX4_passes y3.2 x1 x2).bind fun y5 =>
          ((oX4_winnersAt y5 x3).bind fun y7 =>
            some (y7, y5)))
      else
        some ((-1), y3.2))))
def oX4_areSettled_L2 (σ : ol_Mm) (x1 : Int32)  : Nat → Int32 → Option Int32
  | 0, _ => none
  | n + 1, v2 =>
    (if (σ.1 2 3) ≤ v2 then
      some 1
    else
      ((oX4_cell v2 x1).bind fun y1 =>
        (ol_og (ol_in y1 2406) (
          ((oX4_cell v2 400).bind fun y4 =>
            (ol_og (ol_in y4 2406) (
              (if (σ.1 9 y1.toNatClampNeg) = (σ.1 9 y4.toNatClampNeg) then
                oX4_areSettled_L2 σ x1 n (v2 + 1)
              else
                some 0))))))))
def oX4_areSettled (σ : ol_Mm) (x1 : Int32) : Option Int32 :=
  oX4_areSettled_L2 σ x1 ol_fuel 0
def oX4_settledAt_L4 (σ : ol_Mm)  : Nat → Int32 → Option Int32
  | 0, _ => none
  | n + 1, v1 =>
    (if v1 ≤ 0 then
      some v1
    else
      ((oX4_areSettled σ (v1 - 1)).bind fun y1 =>
        (if y1 = 0 then
          some v1
        else
          oX4_settledAt_L4 σ n (v1 + (-1)))))
def oX4_settledAt (σ : ol_Mm) : Option Int32 :=
  oX4_settledAt_L4 σ ol_fuel 400
def oX4_settles (σ : ol_Mm) (x1 : Int32) (x2 : Int32) : Option (Int32 × ol_Mm) :=
  ((oX4_passWhy σ 1 x1 x2 0).bind fun y1 =>
    ((oX4_isRefused σ y1).bind fun y3 =>
      (if y3.1 = 0 then
        ((oX4_passes y3.2 x1 x2).bind fun y5 =>
          ((oX4_settledAt y5).bind fun y7 =>
            some (y7, y5)))
      else
        some ((-1), y3.2))))
def oX4_rightOnes_L6 (σ : ol_Mm)  : Nat → Int32 → Int32 → Int32 → Option Int32
  | 0, _, _, _ => none
  | n + 1, v1, v2, v3 =>
    (if (σ.1 2 3) ≤ v3 then
      some v2
    else
      ((oX4_has (σ.1 0 23) v3).bind fun y1 =>
        (if y1 = 0 then
          oX4_rightOnes_L6 σ n v1 v2 (v3 + 1)
        else
          (ol_og (ol_in v3 6) (
            (if (σ.1 8 v3.toNatClampNeg) < v1 then
              oX4_rightOnes_L6 σ n v1 v2 (v3 + 1)
            else
              (ol_og (ol_in v3 6) (
                (if (σ.1 8 v3.toNatClampNeg) ≤ v1 then
                  (ol_og (ol_in v3 6) (
                    oX4_rightOnes_L6 σ n (σ.1 8 v3.toNatClampNeg) (v2 ||| ((1 : Int32) <<< (v3 &&& 31))) (v3 + 1)))
                else
                  (ol_og (ol_in v3 6) (
                    oX4_rightOnes_L6 σ n (σ.1 8 v3.toNatClampNeg) ((1 : Int32) <<< (v3 &&& 31)) (v3 + 1))))))))))))
def oX4_rightOnes (σ : ol_Mm) : Option Int32 :=
  oX4_rightOnes_L6 σ ol_fuel (-1) 0 0
def oX4_sureAt_L9 (σ : ol_Mm)  : Nat → Int32 → Int32 → Option Int32
  | 0, _, _ => none
  | n + 1, v1, v2 =>
    (if v2 ≤ 0 then
      (if v2 = 401 then
        some (-2)
      else
        some v2)
    else
      ((oX4_winnersAt σ (v2 - 1)).bind fun y2 =>
        (if y2 = v1 then
          oX4_sureAt_L9 σ n v1 (v2 + (-1))
        else
          (if v2 = 401 then
            some (-2)
          else
            some v2))))
def oX4_sureAt (σ : ol_Mm) : Option Int32 :=
  ((oX4_rightOnes σ).bind fun y1 =>
    oX4_sureAt_L9 σ ol_fuel y1 401)
def oX4_sure (σ : ol_Mm) (x1 : Int32) (x2 : Int32) : Option (Int32 × ol_Mm) :=
  ((oX4_passWhy σ 1 x1 x2 0).bind fun y1 =>
    ((oX4_isRefused σ y1).bind fun y3 =>
      (if y3.1 = 0 then
        ((oX4_passes y3.2 x1 x2).bind fun y5 =>
          ((oX4_sureAt y5).bind fun y7 =>
            some (y7, y5)))
      else
        some ((-1), y3.2))))
def oX4_right (σ : ol_Mm) (x1 : Int32) (x2 : Int32) : Option (Int32 × ol_Mm) :=
  ((oX4_passWhy σ 1 x1 x2 0).bind fun y1 =>
    ((oX4_isRefused σ y1).bind fun y3 =>
      (if y3.1 = 0 then
        ((oX4_passes y3.2 x1 x2).bind fun y5 =>
          ((oX4_rightOnes y5).bind fun y7 =>
            some (y7, y5)))
      else
        some ((-1), y3.2))))
def oX4_dips (σ : ol_Mm) (x1 : Int32) (x2 : Int32) : Option (Int32 × ol_Mm) :=
  ((oX4_passWhy σ 1 x1 x2 0).bind fun y1 =>
    ((oX4_isRefused σ y1).bind fun y3 =>
      (if y3.1 = 0 then
        ((oX4_passes y3.2 x1 x2).bind fun y5 =>
          some ((y5.1 0 29), y5))
      else
        some ((-1), y3.2))))
def oX4_isFaultyAt_L2 (σ : ol_Mm) (x1 : Int32)  : Nat → Int32 → Option Int32
  | 0, _ => none
  | n + 1, v2 =>
    (if (σ.1 2 3) ≤ v2 then
      some 0
    else
      ((oX4_cell v2 x1).bind fun y1 =>
        (ol_og (ol_in y1 2406) (
          ((oX4_bitsOf (σ.1 11 y1.toNatClampNeg)).bind fun y4 =>
            (if (y4 - y4 / 2 * 2) = 0 then
              some 1
            else
              oX4_isFaultyAt_L2 σ x1 n (v2 + 1)))))))
def oX4_isFaultyAt (σ : ol_Mm) (x1 : Int32) : Option Int32 :=
  oX4_isFaultyAt_L2 σ x1 ol_fuel 0
def oX4_faulty (σ : ol_Mm) (x1 : Int32) (x2 : Int32) (x3 : Int32) : Option (Int32 × ol_Mm) :=
  ((oX4_passWhy σ 1 x1 x2 x3).bind fun y1 =>
    ((oX4_isRefused σ y1).bind fun y3 =>
      (if y3.1 = 0 then
        ((oX4_passes y3.2 x1 x2).bind fun y5 =>
          ((oX4_isFaultyAt y5 x3).bind fun y7 =>
            (if y7 = 0 then
              some (0, y5)
            else
              some (1, y5))))
      else
        some ((-1), y3.2))))
def oX4_edges_L51 (x1 : Int32) (x2 : Int32) (x3 : Int32) (x4 : Int32)  : Nat → Int32 → Int32 → ol_Mm → Option (Int32 × ol_Mm)
  | 0, _, _, _ => none
  | n + 1, v5, v6, σ =>
    (if 401 ≤ v6 then
      some (v5, σ)
    else
      ((oX4_cell x3 v6).bind fun y1 =>
        (ol_og (ol_in y1 2406) (
          ((oX4_cell x3 (v6 - 1)).bind fun y4 =>
            (ol_og (ol_in y4 2406) (
              ((oX4_has ((σ.1 10 y1.toNatClampNeg) ^^^ (σ.1 10 y4.toNatClampNeg)) x4).bind fun y7 =>
                (if y7 = 0 then
                  oX4_edges_L51 x1 x2 x3 x4 n (v5 + 0) (v6 + 1) σ
                else
                  oX4_edges_L51 x1 x2 x3 x4 n (v5 + 1) (v6 + 1) σ)))))))))
def oX4_edges_L25 (x1 : Int32) (x2 : Int32) (x3 : Int32) (x4 : Int32)  (s0 : Int32) (σ : ol_Mm) : Option (Int32 × ol_Mm) :=
  ((oX4_passWhy σ s0 x1 x2 0).bind fun y1 =>
    ((oX4_isRefused σ y1).bind fun y3 =>
      (if y3.1 = 0 then
        ((oX4_passes y3.2 x1 x2).bind fun y5 =>
          oX4_edges_L51 x1 x2 x3 x4 ol_fuel 0 1 y5)
      else
        some ((-1), y3.2))))
def oX4_edges (σ : ol_Mm) (x1 : Int32) (x2 : Int32) (x3 : Int32) (x4 : Int32) : Option (Int32 × ol_Mm) :=
  ((oX4_isBoard σ x3).bind fun y1 =>
    (if y1 = 0 then
      oX4_edges_L25 x1 x2 x3 x4 0 σ
    else
      ((oX4_in x4 0 5).bind fun y3 =>
        (if y3 = 0 then
          oX4_edges_L25 x1 x2 x3 x4 0 σ
        else
          oX4_edges_L25 x1 x2 x3 x4 1 σ))))
def oX4_filters_L32 (x1 : Int32) (x2 : Int32)  : Nat → Int32 → Int32 → Int32 → ol_Mm → Option (Int32 × ol_Mm)
  | 0, _, _, _, _ => none
  | n + 1, v3, v4, v5, σ =>
    (if v5 < 0 then
      some (v4, (ol_ms σ 2 1 v3))
    else
      ((oX4_passes (ol_ms σ 2 1 v5) x1 x2).bind fun y1 =>
        ((oX4_sureAt y1).bind fun y3 =>
          (if y3 = (-2) then
            oX4_filters_L32 x1 x2 n v3 v4 (v5 + (-1)) y1
          else
            (if (y1.1 2 2) < y3 then
              oX4_filters_L32 x1 x2 n v3 v4 (v5 + (-1)) y1
            else
              oX4_filters_L32 x1 x2 n v3 v5 (v5 + (-1)) y1)))))
def oX4_filters (σ : ol_Mm) (x1 : Int32) (x2 : Int32) : Option (Int32 × ol_Mm) :=
  ((oX4_passWhy σ 1 x1 x2 0).bind fun y1 =>
    ((oX4_isRefused σ y1).bind fun y3 =>
      (if y3.1 = 0 then
        oX4_filters_L32 x1 x2 ol_fuel (y3.2.1 2 1) (-2) 20 y3.2
      else
        some ((-1), y3.2))))
def oX4_settled_L22 (x1 : Int32) (x2 : Int32)  : Nat → Int32 → Int32 → ol_Mm → Option (Int32 × ol_Mm)
  | 0, _, _, _ => none
  | n + 1, v3, v4, σ =>
    (if ((1 : Int32) <<< ((σ.1 2 3) &&& 31)) ≤ v4 then
      some (v3, σ)
    else
      ((oX4_passes σ x1 v4).bind fun y1 =>
        ((oX4_settledAt y1).bind fun y3 =>
          (if x2 < y3 then
            oX4_settled_L22 x1 x2 n (v3 + 0) (v4 + 1) y1
          else
            oX4_settled_L22 x1 x2 n (v3 + 1) (v4 + 1) y1))))
def oX4_settled (σ : ol_Mm) (x1 : Int32) (x2 : Int32) : Option (Int32 × ol_Mm) :=
  ((oX4_passWhy σ 1 x1 1 x2).bind fun y1 =>
    ((oX4_isRefused σ y1).bind fun y3 =>
      (if y3.1 = 0 then
        oX4_settled_L22 x1 x2 ol_fuel 0 1 y3.2
      else
        some ((-1), y3.2))))
def oX4_slowest_L24 (x1 : Int32)  : Nat → Int32 → Int32 → Int32 → ol_Mm → Option (Int32 × ol_Mm)
  | 0, _, _, _, _ => none
  | n + 1, v2, v3, v4, σ =>
    (if ((1 : Int32) <<< ((σ.1 2 3) &&& 31)) ≤ v4 then
      some (v2, σ)
    else
      ((oX4_passes σ x1 v4).bind fun y1 =>
        ((oX4_settledAt y1).bind fun y3 =>
          (if y3 ≤ v3 then
            oX4_slowest_L24 x1 n v2 v3 (v4 + 1) y1
          else
            ((oX4_settledAt y1).bind fun y5 =>
              oX4_slowest_L24 x1 n v4 y5 (v4 + 1) y1)))))
def oX4_slowest (σ : ol_Mm) (x1 : Int32) : Option (Int32 × ol_Mm) :=
  ((oX4_passWhy σ 1 x1 1 0).bind fun y1 =>
    ((oX4_isRefused σ y1).bind fun y3 =>
      (if y3.1 = 0 then
        oX4_slowest_L24 x1 ol_fuel 0 (-1) 1 y3.2
      else
        some ((-1), y3.2))))
def oX4_enough_L21 (x1 : Int32)  : Nat → Int32 → Int32 → ol_Mm → Option (Int32 × ol_Mm)
  | 0, _, _, _ => none
  | n + 1, v2, v3, σ =>
    (if ((1 : Int32) <<< ((σ.1 2 3) &&& 31)) ≤ v3 then
      some (v2, σ)
    else
      ((oX4_passes σ x1 v3).bind fun y1 =>
        ((oX4_sureAt y1).bind fun y3 =>
          (if y3 = (-2) then
            some ((-2), y1)
          else
            (if y3 ≤ v2 then
              oX4_enough_L21 x1 n v2 (v3 + 1) y1
            else
              oX4_enough_L21 x1 n y3 (v3 + 1) y1)))))
def oX4_enough (σ : ol_Mm) (x1 : Int32) : Option (Int32 × ol_Mm) :=
  ((oX4_passWhy σ 1 x1 1 0).bind fun y1 =>
    ((oX4_isRefused σ y1).bind fun y3 =>
      (if y3.1 = 0 then
        oX4_enough_L21 x1 ol_fuel 0 1 y3.2
      else
        some ((-1), y3.2))))
def oX4_elects_L178 (x1 : Int32) (x2 : Int32)  : Nat → Int32 → Int32 → ol_Mm → Option (Int32 × ol_Mm)
  | 0, _, _, _ => none
  | n + 1, v3, v4, σ =>
    (if v3 = 0 then
      ((oX4_bitsOf v3).bind fun y1 =>
        (if y1 = 1 then
          some (v4, σ)
        else
          some ((-2), σ)))
    else
      ((oX4_has v3 v4).bind fun y4 =>
        (if y4 = 0 then
          oX4_elects_L178 x1 x2 n v3 (v4 + 1) σ
        else
          ((oX4_bitsOf v3).bind fun y6 =>
            (if y6 = 1 then
              some (v4, σ)
            else
              some ((-2), σ))))))
def oX4_elects_L151 (x1 : Int32) (x2 : Int32) (k20 : Int32 → Int32 → ol_Mm → Option (Int32 × ol_Mm)) (v3 : Int32) (v4 : Int32) (s0 : Int32) (σ : ol_Mm) : Option (Int32 × ol_Mm) :=
  (if v4 = 2 then
    k20 v3 (v4 + 1) (ol_ms (ol_ms σ 0 31 s0) 0 32 v3)
  else
    k20 v3 (v4 + 1) (ol_ms (ol_ms σ 0 31 s0) 0 32 0))
def oX4_elects_L121 (x1 : Int32) (x2 : Int32) (k20 : Int32 → Int32 → ol_Mm → Option (Int32 × ol_Mm)) (v4 : Int32) (s0 : Int32) (s1 : Int32) (σ : ol_Mm) : Option (Int32 × ol_Mm) :=
  ((oX4_winnersAt (ol_ms σ 0 30 (s1 + s0)) ((ol_ms σ 0 30 (s1 + s0)).1 2 2)).bind fun y1 =>
    (if v4 = 1 then
      oX4_elects_L151 x1 x2 k20 y1 v4 y1 (ol_ms σ 0 30 (s1 + s0))
    else
      oX4_elects_L151 x1 x2 k20 y1 v4 ((ol_ms σ 0 30 (s1 + s0)).1 0 31) (ol_ms σ 0 30 (s1 + s0))))
def oX4_elects_L33 (x1 : Int32) (x2 : Int32) (k20 : Int32 → Int32 → ol_Mm → Option (Int32 × ol_Mm)) : Nat → Int32 → Int32 → Int32 → ol_Mm → Option (Int32 × ol_Mm)
  | 0, _, _, _, _ => none
  | n + 1, v3, v4, v5, σ =>
    (if (σ.1 2 3) ≤ v5 then
      ((oX4_laysPass σ v3).bind fun y1 =>
        ((oX4_isFaultyAt y1 (y1.1 2 2)).bind fun y3 =>
          (if y3 = 0 then
            oX4_elects_L121 x1 x2 k20 v4 0 (y1.1 0 30) y1
          else
            oX4_elects_L121 x1 x2 k20 v4 1 (y1.1 0 30) y1)))
    else
      (if x2 = 0 then
        ((oX4_wordOf σ v5 v4).bind fun y6 =>
          (ol_og (ol_in v5 6) (
            oX4_elects_L33 x1 x2 k20 n v3 v4 (v5 + 1) (ol_ms σ 8 v5.toNatClampNeg y6))))
      else
        (if v4 = 1 then
          ((oX4_at v5 4).bind fun y13 =>
            (ol_og (ol_in y13 251) (
              (ol_og (ol_in v5 6) (
                oX4_elects_L33 x1 x2 k20 n v3 v4 (v5 + 1) (ol_ms σ 8 v5.toNatClampNeg (σ.1 5 y13.toNatClampNeg)))))))
        else
          ((oX4_at v5 5).bind fun y9 =>
            (ol_og (ol_in y9 251) (
              (ol_og (ol_in v5 6) (
                oX4_elects_L33 x1 x2 k20 n v3 v4 (v5 + 1) (ol_ms σ 8 v5.toNatClampNeg (σ.1 5 y9.toNatClampNeg))))))))))
def oX4_elects_L20 (x1 : Int32) (x2 : Int32)  : Nat → Int32 → Int32 → ol_Mm → Option (Int32 × ol_Mm)
  | 0, _, _, _ => none
  | n + 1, v3, v4, σ =>
    (if 3 ≤ v4 then
      oX4_elects_L178 x1 x2 ol_fuel v3 0 σ
    else
      (if v3 = 0 then
        oX4_elects_L178 x1 x2 ol_fuel v3 0 σ
      else
        oX4_elects_L33 x1 x2 (oX4_elects_L20 x1 x2 n) ol_fuel v3 v4 0 σ))
def oX4_elects (σ : ol_Mm) (x1 : Int32) (x2 : Int32) : Option (Int32 × ol_Mm) :=
  oX4_elects_L20 x1 x2 ol_fuel x1 1 (ol_ms (ol_ms (ol_ms σ 0 30 0) 0 31 0) 0 32 0)
def oX4_would_L25 (x1 : Int32)  (s0 : Int32) (σ : ol_Mm) : Option (Int32 × ol_Mm) :=
  ((oX4_isRefused σ s0).bind fun y1 =>
    (if y1.1 = 0 then
      ((oX4_elects y1.2 x1 0).bind fun y3 =>
        some (y3.1, y3.2))
    else
      some ((-1), y1.2)))
def oX4_would (σ : ol_Mm) (x1 : Int32) : Option (Int32 × ol_Mm) :=
  (if (σ.1 0 9) = 0 then
    oX4_would_L25 x1 1 σ
  else
    ((oX4_isSet σ x1).bind fun y1 =>
      (if y1 = 0 then
        oX4_would_L25 x1 2 σ
      else
        oX4_would_L25 x1 0 σ)))
def oX4_unless (x1 : Int32) : Option Int32 :=
  (if x1 = 0 then
    some 1
  else
    some 0)
def oX4_askingOnes_L4 (σ : ol_Mm)  : Nat → Int32 → Int32 → Option Int32
  | 0, _, _ => none
  | n + 1, v1, v2 =>
    (if (σ.1 2 3) ≤ v2 then
      some v1
    else
      ((oX4_at v2 0).bind fun y1 =>
        (ol_og (ol_in y1 251) (
          (if (σ.1 5 y1.toNatClampNeg) ≤ 0 then
            oX4_askingOnes_L4 σ n (v1 ||| 0) (v2 + 1)
          else
            oX4_askingOnes_L4 σ n (v1 ||| ((1 : Int32) <<< (v2 &&& 31))) (v2 + 1))))))
def oX4_askingOnes (σ : ol_Mm) : Option Int32 :=
  oX4_askingOnes_L4 σ ol_fuel 0 0
def oX4_told (σ : ol_Mm) (x1 : Int32) : Option Int32 :=
  (if x1 = 0 then
    some (σ.1 5 1)
  else
  (if x1 = 1 then
    some (σ.1 5 2)
  else
  (if x1 = 2 then
    some (σ.1 5 3)
  else
  (if x1 = 3 then
    some (σ.1 5 4)
  else
  (if x1 = 4 then
    some (σ.1 5 5)
  else
  (if x1 = 5 then
    ((oX4_askingOnes σ).bind fun y6 =>
      some y6)
  else
  (ol_og (ol_in ((6 + x1) - 6) 251) (
    some (σ.1 5 (((6 + x1) - 6).toNatClampNeg))))))))))
def oX4_now_L23 (x1 : Int32)  (s0 : Int32) (σ : ol_Mm) : Option (Int32 × ol_Mm) :=
  ((oX4_unless s0).bind fun y1 =>
    ((oX4_isRefused σ y1).bind fun y3 =>
      (if y3.1 = 0 then
        ((oX4_told y3.2 x1).bind fun y5 =>
          some (y5, y3.2))
      else
        some ((-1), y3.2))))
def oX4_now (σ : ol_Mm) (x1 : Int32) : Option (Int32 × ol_Mm) :=
  (if (σ.1 0 9) = 0 then
    oX4_now_L23 x1 0 σ
  else
    ((oX4_in x1 0 10).bind fun y1 =>
      (if y1 = 0 then
        oX4_now_L23 x1 0 σ
      else
        oX4_now_L23 x1 1 σ)))
def oX4_ledger_L23 (x1 : Int32) (x2 : Int32)  (s0 : Int32) (σ : ol_Mm) : Option (Int32 × ol_Mm) :=
  ((oX4_unless s0).bind fun y1 =>
    ((oX4_isRefused σ y1).bind fun y3 =>
      (if y3.1 = 0 then
        ((oX4_at x1 (6 + x2)).bind fun y5 =>
          (ol_og (ol_in y5 251) (
            some ((y3.2.1 5 y5.toNatClampNeg), y3.2))))
      else
        some ((-1), y3.2))))
def oX4_ledger (σ : ol_Mm) (x1 : Int32) (x2 : Int32) : Option (Int32 × ol_Mm) :=
  ((oX4_isBoard σ x1).bind fun y1 =>
    (if y1 = 0 then
      oX4_ledger_L23 x1 x2 0 σ
    else
      ((oX4_in x2 0 5).bind fun y3 =>
        (if y3 = 0 then
          oX4_ledger_L23 x1 x2 0 σ
        else
          oX4_ledger_L23 x1 x2 1 σ))))
def oX4_past_L27 (x1 : Int32)  (s0 : Int32) (σ : ol_Mm) : Option (Int32 × ol_Mm) :=
  ((oX4_isRefused σ s0).bind fun y1 =>
    (if y1.1 = 0 then
      (if (y1.2.1 5 0) ≤ x1 then
        some ((-2), y1.2)
      else
        (ol_og (ol_in (187 + (((y1.2.1 5 0) - x1) - ((y1.2.1 5 0) - x1) / 64 * 64)) 251) (
          some ((y1.2.1 5 ((187 + (((y1.2.1 5 0) - x1) - ((y1.2.1 5 0) - x1) / 64 * 64)).toNatClampNeg)), y1.2))))
    else
      some ((-1), y1.2)))
def oX4_past (σ : ol_Mm) (x1 : Int32) : Option (Int32 × ol_Mm) :=
  (if (σ.1 0 9) = 0 then
    oX4_past_L27 x1 1 σ
  else
    ((oX4_in x1 0 63).bind fun y1 =>
      (if y1 = 0 then
        oX4_past_L27 x1 2 σ
      else
        oX4_past_L27 x1 0 σ)))
def oX4_idle_L20   : Nat → Int32 → Int32 → ol_Mm → Option (Int32 × ol_Mm)
  | 0, _, _, _ => none
  | n + 1, v1, v2, σ =>
    (if 64 ≤ v2 then
      some (v1, σ)
    else
      (if (σ.1 5 0) ≤ v2 then
        some (v1, σ)
      else
        (ol_og (ol_in (187 + (((σ.1 5 0) - v2) - ((σ.1 5 0) - v2) / 64 * 64)) 251) (
          (if (σ.1 5 ((187 + (((σ.1 5 0) - v2) - ((σ.1 5 0) - v2) / 64 * 64)).toNatClampNeg)) = (-2) then
            oX4_idle_L20 n (v1 + 1) (v2 + 1) σ
          else
            oX4_idle_L20 n (v1 + 0) (v2 + 1) σ)))))
def oX4_idle (σ : ol_Mm) : Option (Int32 × ol_Mm) :=
  ((oX4_unless (σ.1 0 9)).bind fun y1 =>
    ((oX4_isRefused σ y1).bind fun y3 =>
      (if y3.1 = 0 then
        oX4_idle_L20 ol_fuel 0 0 y3.2
      else
        some ((-1), y3.2))))
def oX4_log_L39 (x1 : Int32) (x2 : Int32)  (s0 : Int32) (σ : ol_Mm) : Option (Int32 × ol_Mm) :=
  ((oX4_unless s0).bind fun y1 =>
    ((oX4_isRefused σ y1).bind fun y3 =>
      (if y3.1 = 0 then
        (ol_og (ol_in ((91 + (6 * x1)) + x2) 251) (
          some ((y3.2.1 5 (((91 + (6 * x1)) + x2).toNatClampNeg)), y3.2)))
      else
        some ((-1), y3.2))))
def oX4_log (σ : ol_Mm) (x1 : Int32) (x2 : Int32) : Option (Int32 × ol_Mm) :=
  (if (σ.1 0 9) = 0 then
    oX4_log_L39 x1 x2 0 σ
  else
    ((oX4_in x1 0 ((σ.1 5 90) - 1)).bind fun y1 =>
      (if y1 = 0 then
        oX4_log_L39 x1 x2 0 σ
      else
        ((oX4_in x2 0 5).bind fun y3 =>
          (if y3 = 0 then
            oX4_log_L39 x1 x2 0 σ
          else
            oX4_log_L39 x1 x2 1 σ)))))
def oX4_waiting_L21 (x1 : Int32)  : Nat → Int32 → Int32 → ol_Mm → Option (Int32 × ol_Mm)
  | 0, _, _, _ => none
  | n + 1, v2, v3, σ =>
    (if (σ.1 2 3) ≤ v3 then
      some (v2, σ)
    else
      (if v3 = x1 then
        oX4_waiting_L21 x1 n (v2 ||| 0) (v3 + 1) σ
      else
        ((oX4_doesWait σ v3 x1).bind fun y1 =>
          (if y1 = 0 then
            oX4_waiting_L21 x1 n (v2 ||| 0) (v3 + 1) σ
          else
            oX4_waiting_L21 x1 n (v2 ||| ((1 : Int32) <<< (v3 &&& 31))) (v3 + 1) σ))))
def oX4_waiting (σ : ol_Mm) (x1 : Int32) : Option (Int32 × ol_Mm) :=
  ((oX4_isBoard σ x1).bind fun y1 =>
    ((oX4_unless y1).bind fun y3 =>
      ((oX4_isRefused σ y3).bind fun y5 =>
        (if y5.1 = 0 then
          oX4_waiting_L21 x1 ol_fuel 0 0 y5.2
        else
          some ((-1), y5.2)))))
def oX4_longest_L78  (k21 : Int32 → Int32 → ol_Mm → Option (Int32 × ol_Mm)) (v1 : Int32) (v2 : Int32) (s0 : Int32) (σ : ol_Mm) : Option (Int32 × ol_Mm) :=
  (if 0 < s0 then
    k21 v2 (v2 + 1) σ
  else
    (if s0 = 0 then
      (ol_og (ol_in (5 + v2) 59) (
        (ol_og (ol_in (5 + v1) 59) (
          (if (σ.1 2 ((5 + v1).toNatClampNeg)) ≤ (σ.1 2 ((5 + v2).toNatClampNeg)) then
            k21 v1 (v2 + 1) σ
          else
            k21 v2 (v2 + 1) σ)))))
    else
      k21 v1 (v2 + 1) σ))
def oX4_longest_L21   : Nat → Int32 → Int32 → ol_Mm → Option (Int32 × ol_Mm)
  | 0, _, _, _ => none
  | n + 1, v1, v2, σ =>
    (if (σ.1 2 3) ≤ v2 then
      some (v1, σ)
    else
      ((oX4_at v2 0).bind fun y1 =>
        (ol_og (ol_in y1 251) (
          (if (σ.1 5 y1.toNatClampNeg) = 0 then
            oX4_longest_L21 n v1 (v2 + 1) σ
          else
            (if v1 = (-2) then
              oX4_longest_L78 (oX4_longest_L21 n) v1 v2 1 σ
            else
              ((oX4_at v1 1).bind fun y4 =>
                (ol_og (ol_in y4 251) (
                  ((oX4_at v2 1).bind fun y7 =>
                    (ol_og (ol_in y7 251) (
                      oX4_longest_L78 (oX4_longest_L21 n) v1 v2 ((σ.1 5 y4.toNatClampNeg) - (σ.1 5 y7.toNatClampNeg)) σ))))))))))))
def oX4_longest (σ : ol_Mm) : Option (Int32 × ol_Mm) :=
  ((oX4_unless (σ.1 0 9)).bind fun y1 =>
    ((oX4_isRefused σ y1).bind fun y3 =>
      (if y3.1 = 0 then
        oX4_longest_L21 ol_fuel (-2) 0 y3.2
      else
        some ((-1), y3.2))))
def oX4_laysAside_L2   : Nat → Int32 → ol_Mm → Option ol_Mm
  | 0, _, _ => none
  | n + 1, v1, σ =>
    (if 251 ≤ v1 then
      some σ
    else
      (ol_og (ol_in v1 251) (
        (ol_og (ol_in v1 251) (
          oX4_laysAside_L2 n (v1 + 1) (ol_ms σ 6 v1.toNatClampNeg (σ.1 5 v1.toNatClampNeg)))))))
def oX4_laysAside (σ : ol_Mm) : Option ol_Mm :=
  oX4_laysAside_L2 ol_fuel 0 σ
def oX4_asks_L23 (x1 : Int32) (x2 : Int32)  (σ : ol_Mm) : Option (Int32 × ol_Mm) :=
  ((oX4_at x1 8).bind fun y1 =>
    (ol_og (ol_in y1 251) (
      (ol_og (ol_in y1 251) (
        some (0, (ol_ms σ 5 y1.toNatClampNeg ((σ.1 5 y1.toNatClampNeg) + 1))))))))
def oX4_asks (σ : ol_Mm) (x1 : Int32) (x2 : Int32) : Option (Int32 × ol_Mm) :=
  ((oX4_at x1 0).bind fun y1 =>
    (ol_og (ol_in y1 251) (
      (if 0 < (σ.1 5 y1.toNatClampNeg) then
        oX4_asks_L23 x1 x2 σ
      else
        (if (σ.1 5 1) = x1 then
          oX4_asks_L23 x1 x2 σ
        else
          ((oX4_at x1 0).bind fun y4 =>
            (ol_og (ol_in y4 251) (
              ((oX4_at x1 1).bind fun y7 =>
                (ol_og (ol_in y7 251) (
                  some (1, (ol_ms (ol_ms σ 5 y4.toNatClampNeg x2) 5 y7.toNatClampNeg ((ol_ms σ 5 y4.toNatClampNeg x2).1 5 0))))))))))))))
def oX4_logs_L68 (x1 : Int32) (x2 : Int32)  (s0 : Int32) (s1 : Int32) (σ : ol_Mm) : Option ol_Mm :=
  (ol_og (ol_in s1 251) (
    some (ol_ms (ol_ms (ol_ms (ol_ms (ol_ms (ol_ms (ol_ms σ 5 s1.toNatClampNeg s0) 5 91 ((ol_ms σ 5 s1.toNatClampNeg s0).1 5 0)) 5 92 x1) 5 93 ((ol_ms (ol_ms (ol_ms σ 5 s1.toNatClampNeg s0) 5 91 ((ol_ms σ 5 s1.toNatClampNeg s0).1 5 0)) 5 92 x1).1 0 31)) 5 94 ((ol_ms (ol_ms (ol_ms (ol_ms σ 5 s1.toNatClampNeg s0) 5 91 ((ol_ms σ 5 s1.toNatClampNeg s0).1 5 0)) 5 92 x1) 5 93 ((ol_ms (ol_ms (ol_ms σ 5 s1.toNatClampNeg s0) 5 91 ((ol_ms σ 5 s1.toNatClampNeg s0).1 5 0)) 5 92 x1).1 0 31)).1 0 32)) 5 95 x2) 5 96 ((ol_ms (ol_ms (ol_ms (ol_ms (ol_ms (ol_ms σ 5 s1.toNatClampNeg s0) 5 91 ((ol_ms σ 5 s1.toNatClampNeg s0).1 5 0)) 5 92 x1) 5 93 ((ol_ms (ol_ms (ol_ms σ 5 s1.toNatClampNeg s0) 5 91 ((ol_ms σ 5 s1.toNatClampNeg s0).1 5 0)) 5 92 x1).1 0 31)) 5 94 ((ol_ms (ol_ms (ol_ms (ol_ms σ 5 s1.toNatClampNeg s0) 5 91 ((ol_ms σ 5 s1.toNatClampNeg s0).1 5 0)) 5 92 x1) 5 93 ((ol_ms (ol_ms (ol_ms σ 5 s1.toNatClampNeg s0) 5 91 ((ol_ms σ 5 s1.toNatClampNeg s0).1 5 0)) 5 92 x1).1 0 31)).1 0 32)) 5 95 x2).1 0 30))))
def oX4_logs_L3 (x1 : Int32) (x2 : Int32)  : Nat → Int32 → ol_Mm → Option ol_Mm
  | 0, _, _ => none
  | n + 1, v3, σ =>
    (if v3 < 6 then
      (if (σ.1 5 90) = 16 then
        oX4_logs_L68 x1 x2 16 90 σ
      else
        oX4_logs_L68 x1 x2 ((σ.1 5 90) + 1) 90 σ)
    else
      (ol_og (ol_in ((91 + v3) - 6) 251) (
        (ol_og (ol_in (91 + v3) 251) (
          oX4_logs_L3 x1 x2 n (v3 + (-1)) (ol_ms σ 5 ((91 + v3).toNatClampNeg) (σ.1 5 (((91 + v3) - 6).toNatClampNeg))))))))
def oX4_logs (σ : ol_Mm) (x1 : Int32) (x2 : Int32) : Option ol_Mm :=
  oX4_logs_L3 x1 x2 ol_fuel 95 σ
def oX4_isElected_L41 (x1 : Int32)  : Nat → Int32 → ol_Mm → Option ol_Mm
  | 0, _, _ => none
  | n + 1, v2, σ =>
    (if 6 ≤ v2 then
      ((oX4_at x1 2).bind fun y1 =>
        (ol_og (ol_in y1 251) (
          some (ol_ms σ 5 y1.toNatClampNeg 0))))
    else
      ((oX4_at v2 2).bind fun y4 =>
        (ol_og (ol_in y4 251) (
          oX4_isElected_L41 x1 n (v2 + 1) (ol_ms σ 5 y4.toNatClampNeg 1)))))
def oX4_isElected (σ : ol_Mm) (x1 : Int32) : Option ol_Mm :=
  ((oX4_at x1 11).bind fun y1 =>
    (ol_og (ol_in y1 251) (
      (ol_og (ol_in y1 251) (
        ((oX4_at x1 2).bind fun y5 =>
          (ol_og (ol_in y5 251) (
            (if ((ol_ms σ 5 y1.toNatClampNeg ((σ.1 5 y1.toNatClampNeg) + 1)).1 5 y5.toNatClampNeg) = 0 then
              oX4_isElected_L41 x1 ol_fuel 0 (ol_ms (ol_ms σ 5 y1.toNatClampNeg ((σ.1 5 y1.toNatClampNeg) + 1)) 5 6 (((ol_ms σ 5 y1.toNatClampNeg ((σ.1 5 y1.toNatClampNeg) + 1)).1 5 6) + 1))
            else
              ((oX4_at x1 2).bind fun y8 =>
                (ol_og (ol_in y8 251) (
                  some (ol_ms (ol_ms σ 5 y1.toNatClampNeg ((σ.1 5 y1.toNatClampNeg) + 1)) 5 y8.toNatClampNeg 0)))))))))))))
def oX4_endsArbitration (σ : ol_Mm) : Option ol_Mm :=
  ((oX4_elects σ (σ.1 5 5) 1).bind fun y1 =>
    ((oX4_logs y1.2 (y1.2.1 5 5) y1.1).bind fun y3 =>
      (if y1.1 = (-2) then
        some (ol_ms (ol_ms (ol_ms (ol_ms (ol_ms (ol_ms y3 5 9 ((y3.1 5 9) + (y3.1 0 30))) 5 7 (((ol_ms y3 5 9 ((y3.1 5 9) + (y3.1 0 30))).1 5 7) + 1)) 5 4 (-2)) 5 5 0) 5 3 y1.1) 5 8 (((ol_ms (ol_ms (ol_ms (ol_ms (ol_ms y3 5 9 ((y3.1 5 9) + (y3.1 0 30))) 5 7 (((ol_ms y3 5 9 ((y3.1 5 9) + (y3.1 0 30))).1 5 7) + 1)) 5 4 (-2)) 5 5 0) 5 3 y1.1).1 5 8) + 1))
      else
        (if (y1.2.1 5 3) = (-2) then
          ((oX4_isElected (ol_ms (ol_ms (ol_ms (ol_ms (ol_ms y3 5 9 ((y3.1 5 9) + (y3.1 0 30))) 5 7 (((ol_ms y3 5 9 ((y3.1 5 9) + (y3.1 0 30))).1 5 7) + 1)) 5 4 (-2)) 5 5 0) 5 3 y1.1) y1.1).bind fun y5 =>
            some y5)
        else
          (if (y1.2.1 5 3) = y1.1 then
            ((oX4_isElected (ol_ms (ol_ms (ol_ms (ol_ms (ol_ms y3 5 9 ((y3.1 5 9) + (y3.1 0 30))) 5 7 (((ol_ms y3 5 9 ((y3.1 5 9) + (y3.1 0 30))).1 5 7) + 1)) 5 4 (-2)) 5 5 0) 5 3 y1.1) y1.1).bind fun y7 =>
              some y7)
          else
            ((oX4_at (y1.2.1 5 3) 9).bind fun y9 =>
              (ol_og (ol_in y9 251) (
                (ol_og (ol_in y9 251) (
                  ((oX4_isElected (ol_ms (ol_ms (ol_ms (ol_ms (ol_ms (ol_ms (ol_ms y3 5 9 ((y3.1 5 9) + (y3.1 0 30))) 5 7 (((ol_ms y3 5 9 ((y3.1 5 9) + (y3.1 0 30))).1 5 7) + 1)) 5 4 (-2)) 5 5 0) 5 3 y1.1) 5 10 (((ol_ms (ol_ms (ol_ms (ol_ms (ol_ms y3 5 9 ((y3.1 5 9) + (y3.1 0 30))) 5 7 (((ol_ms y3 5 9 ((y3.1 5 9) + (y3.1 0 30))).1 5 7) + 1)) 5 4 (-2)) 5 5 0) 5 3 y1.1).1 5 10) + 1)) 5 y9.toNatClampNeg (((ol_ms (ol_ms (ol_ms (ol_ms (ol_ms (ol_ms y3 5 9 ((y3.1 5 9) + (y3.1 0 30))) 5 7 (((ol_ms y3 5 9 ((y3.1 5 9) + (y3.1 0 30))).1 5 7) + 1)) 5 4 (-2)) 5 5 0) 5 3 y1.1) 5 10 (((ol_ms (ol_ms (ol_ms (ol_ms (ol_ms y3 5 9 ((y3.1 5 9) + (y3.1 0 30))) 5 7 (((ol_ms y3 5 9 ((y3.1 5 9) + (y3.1 0 30))).1 5 7) + 1)) 5 4 (-2)) 5 5 0) 5 3 y1.1).1 5 10) + 1)).1 5 y9.toNatClampNeg) + 1)) y1.1).bind fun y13 =>
                    some y13)))))))))))
def oX4_becomesMaster (σ : ol_Mm) : Option ol_Mm :=
  ((oX4_at (σ.1 5 3) 1).bind fun y1 =>
    (ol_og (ol_in y1 251) (
      ((oX4_at (σ.1 5 3) 0).bind fun y4 =>
        (ol_og (ol_in y4 251) (
          ((oX4_at (σ.1 5 3) 0).bind fun y7 =>
            (ol_og (ol_in y7 251) (
              ((oX4_at (σ.1 5 3) 6).bind fun y10 =>
                (ol_og (ol_in y10 251) (
                  (ol_og (ol_in y10 251) (
                    ((oX4_at (σ.1 5 3) 10).bind fun y14 =>
                      ((oX4_at (σ.1 5 3) 10).bind fun y16 =>
                        (ol_og (ol_in y16 251) (
                          (if ((σ.1 5 0) - (σ.1 5 y1.toNatClampNeg)) ≤ ((ol_ms (ol_ms (ol_ms (ol_ms (ol_ms σ 5 1 (σ.1 5 3)) 5 2 (((ol_ms σ 5 1 (σ.1 5 3)).1 5 0) + ((ol_ms σ 5 1 (σ.1 5 3)).1 5 y4.toNatClampNeg))) 5 3 (-2)) 5 y7.toNatClampNeg 0) 5 y10.toNatClampNeg (((ol_ms (ol_ms (ol_ms (ol_ms σ 5 1 (σ.1 5 3)) 5 2 (((ol_ms σ 5 1 (σ.1 5 3)).1 5 0) + ((ol_ms σ 5 1 (σ.1 5 3)).1 5 y4.toNatClampNeg))) 5 3 (-2)) 5 y7.toNatClampNeg 0).1 5 y10.toNatClampNeg) + 1)).1 5 y16.toNatClampNeg) then
                            ((oX4_at (σ.1 5 3) 10).bind fun y19 =>
                              (ol_og (ol_in y19 251) (
                                (ol_og (ol_in y14 251) (
                                  some (ol_ms (ol_ms (ol_ms (ol_ms (ol_ms (ol_ms σ 5 1 (σ.1 5 3)) 5 2 (((ol_ms σ 5 1 (σ.1 5 3)).1 5 0) + ((ol_ms σ 5 1 (σ.1 5 3)).1 5 y4.toNatClampNeg))) 5 3 (-2)) 5 y7.toNatClampNeg 0) 5 y10.toNatClampNeg (((ol_ms (ol_ms (ol_ms (ol_ms σ 5 1 (σ.1 5 3)) 5 2 (((ol_ms σ 5 1 (σ.1 5 3)).1 5 0) + ((ol_ms σ 5 1 (σ.1 5 3)).1 5 y4.toNatClampNeg))) 5 3 (-2)) 5 y7.toNatClampNeg 0).1 5 y10.toNatClampNeg) + 1)) 5 y14.toNatClampNeg ((ol_ms (ol_ms (ol_ms (ol_ms (ol_ms σ 5 1 (σ.1 5 3)) 5 2 (((ol_ms σ 5 1 (σ.1 5 3)).1 5 0) + ((ol_ms σ 5 1 (σ.1 5 3)).1 5 y4.toNatClampNeg))) 5 3 (-2)) 5 y7.toNatClampNeg 0) 5 y10.toNatClampNeg (((ol_ms (ol_ms (ol_ms (ol_ms σ 5 1 (σ.1 5 3)) 5 2 (((ol_ms σ 5 1 (σ.1 5 3)).1 5 0) + ((ol_ms σ 5 1 (σ.1 5 3)).1 5 y4.toNatClampNeg))) 5 3 (-2)) 5 y7.toNatClampNeg 0).1 5 y10.toNatClampNeg) + 1)).1 5 y19.toNatClampNeg)))))))
                          else
                            (ol_og (ol_in y14 251) (
                              some (ol_ms (ol_ms (ol_ms (ol_ms (ol_ms (ol_ms σ 5 1 (σ.1 5 3)) 5 2 (((ol_ms σ 5 1 (σ.1 5 3)).1 5 0) + ((ol_ms σ 5 1 (σ.1 5 3)).1 5 y4.toNatClampNeg))) 5 3 (-2)) 5 y7.toNatClampNeg 0) 5 y10.toNatClampNeg (((ol_ms (ol_ms (ol_ms (ol_ms σ 5 1 (σ.1 5 3)) 5 2 (((ol_ms σ 5 1 (σ.1 5 3)).1 5 0) + ((ol_ms σ 5 1 (σ.1 5 3)).1 5 y4.toNatClampNeg))) 5 3 (-2)) 5 y7.toNatClampNeg 0).1 5 y10.toNatClampNeg) + 1)) 5 y14.toNatClampNeg ((σ.1 5 0) - (σ.1 5 y1.toNatClampNeg))))))))))))))))))))))))
def oX4_isCalledFor_L28 (σ : ol_Mm)  : Nat → Int32 → Int32 → Option Int32
  | 0, _, _ => none
  | n + 1, v1, v2 =>
    (if (σ.1 2 3) ≤ v2 then
      some 0
    else
      ((oX4_has v1 v2).bind fun y1 =>
        (if y1 = 0 then
          oX4_isCalledFor_L28 σ n v1 (v2 + 1)
        else
          ((oX4_rankOf σ v2).bind fun y3 =>
            ((oX4_rankOf σ (σ.1 5 3)).bind fun y5 =>
              (if y3 ≤ y5 then
                oX4_isCalledFor_L28 σ n v1 (v2 + 1)
              else
                some 1))))))
def oX4_isCalledFor (σ : ol_Mm) : Option Int32 :=
  ((oX4_askingOnes σ).bind fun y1 =>
    (if (σ.1 5 3) = (-2) then
      (if y1 = 0 then
        some 0
      else
        some 1)
    else
      oX4_isCalledFor_L28 σ ol_fuel y1 0))
def oX4_beginsArbitration_L33   : Nat → Int32 → ol_Mm → Option ol_Mm
  | 0, _, _ => none
  | n + 1, v1, σ =>
    (if (σ.1 2 3) ≤ v1 then
      some σ
    else
      ((oX4_at v1 4).bind fun y1 =>
        ((oX4_wordOf σ v1 1).bind fun y3 =>
          (ol_og (ol_in y1 251) (
            ((oX4_at v1 5).bind fun y6 =>
              ((oX4_wordOf (ol_ms σ 5 y1.toNatClampNeg y3) v1 2).bind fun y8 =>
                (ol_og (ol_in y6 251) (
                  oX4_beginsArbitration_L33 n (v1 + 1) (ol_ms (ol_ms σ 5 y1.toNatClampNeg y3) 5 y6.toNatClampNeg y8))))))))))
def oX4_beginsArbitration (σ : ol_Mm) : Option ol_Mm :=
  ((oX4_askingOnes (ol_ms σ 5 4 ((σ.1 5 0) + (2 * (σ.1 2 2))))).bind fun y1 =>
    oX4_beginsArbitration_L33 ol_fuel 0 (ol_ms (ol_ms σ 5 4 ((σ.1 5 0) + (2 * (σ.1 2 2)))) 5 5 y1))
def oX4_tick_L246   (σ : ol_Mm) : Option ol_Mm :=
  (ol_og (ol_in (187 + ((σ.1 5 0) - (σ.1 5 0) / 64 * 64)) 251) (
    some (ol_ms σ 5 ((187 + ((σ.1 5 0) - (σ.1 5 0) / 64 * 64)).toNatClampNeg) (σ.1 5 1))))
def oX4_tick_L215   (σ : ol_Mm) : Option ol_Mm :=
  (if (σ.1 5 1) = (-2) then
    oX4_tick_L246 σ
  else
    ((oX4_at (σ.1 5 1) 7).bind fun y1 =>
      (ol_og (ol_in y1 251) (
        (ol_og (ol_in y1 251) (
          oX4_tick_L246 (ol_ms σ 5 y1.toNatClampNeg ((σ.1 5 y1.toNatClampNeg) + 1))))))))
def oX4_tick_L193   (σ : ol_Mm) : Option ol_Mm :=
  (if (σ.1 5 4) = (-2) then
    ((oX4_isCalledFor σ).bind fun y1 =>
      (if y1 = 0 then
        oX4_tick_L215 σ
      else
        ((oX4_beginsArbitration σ).bind fun y3 =>
          oX4_tick_L215 y3)))
  else
    oX4_tick_L215 σ)
def oX4_tick_L156   (σ : ol_Mm) : Option ol_Mm :=
  (if (σ.1 5 1) = (-2) then
    (if (σ.1 5 3) = (-2) then
      oX4_tick_L193 σ
    else
      (if (σ.1 5 4) = (-2) then
        ((oX4_becomesMaster σ).bind fun y1 =>
          oX4_tick_L193 y1)
      else
        oX4_tick_L193 σ))
  else
    oX4_tick_L193 σ)
def oX4_tick_L137   (σ : ol_Mm) : Option ol_Mm :=
  (if (σ.1 5 4) = (σ.1 5 0) then
    ((oX4_endsArbitration σ).bind fun y1 =>
      oX4_tick_L156 y1)
  else
    oX4_tick_L156 σ)
def oX4_tick_L95   (σ : ol_Mm) : Option ol_Mm :=
  (if (σ.1 5 1) = (-2) then
    oX4_tick_L137 σ
  else
    (if (σ.1 5 2) = (σ.1 5 0) then
      oX4_tick_L137 (ol_ms (ol_ms σ 5 1 (-2)) 5 2 (-2))
    else
      oX4_tick_L137 σ))
def oX4_tick_L10   : Nat → ol_Mm → Option ol_Mm
  | 0, _ => none
  | n + 1, σ =>
    (if (σ.1 2 4) ≤ (σ.1 5 11) then
      oX4_tick_L95 σ
    else
      (ol_og (ol_in (23 + (σ.1 5 11)) 59) (
        (if (σ.1 2 ((23 + (σ.1 5 11)).toNatClampNeg)) = (σ.1 5 0) then
          (ol_og (ol_in (35 + (σ.1 5 11)) 59) (
            (ol_og (ol_in (47 + (σ.1 5 11)) 59) (
              ((oX4_asks (ol_ms σ 5 11 ((σ.1 5 11) + 1)) ((ol_ms σ 5 11 ((σ.1 5 11) + 1)).1 2 ((35 + (σ.1 5 11)).toNatClampNeg)) ((ol_ms σ 5 11 ((σ.1 5 11) + 1)).1 2 ((47 + (σ.1 5 11)).toNatClampNeg))).bind fun y4 =>
                oX4_tick_L10 n y4.2)))))
        else
          oX4_tick_L95 σ))))
def oX4_tick (σ : ol_Mm) : Option ol_Mm :=
  oX4_tick_L10 ol_fuel (ol_ms σ 5 0 ((σ.1 5 0) + 1))
def oX4_takesBack_L2   : Nat → Int32 → ol_Mm → Option ol_Mm
  | 0, _, _ => none
  | n + 1, v1, σ =>
    (if 251 ≤ v1 then
      some σ
    else
      (ol_og (ol_in v1 251) (
        (ol_og (ol_in v1 251) (
          oX4_takesBack_L2 n (v1 + 1) (ol_ms σ 5 v1.toNatClampNeg (σ.1 6 v1.toNatClampNeg)))))))
def oX4_takesBack (σ : ol_Mm) : Option ol_Mm :=
  oX4_takesBack_L2 ol_fuel 0 σ
def oX4_will_L52 (x1 : Int32) (x2 : Int32)  : Nat → Int32 → ol_Mm → Option (Int32 × ol_Mm)
  | 0, _, _ => none
  | n + 1, v3, σ =>
    (if x1 ≤ v3 then
      ((oX4_told σ x2).bind fun y1 =>
        ((oX4_takesBack σ).bind fun y3 =>
          some (y1, y3)))
    else
      ((oX4_tick σ).bind fun y5 =>
        oX4_will_L52 x1 x2 n (v3 + 1) y5))
def oX4_will_L38 (x1 : Int32) (x2 : Int32)  (s0 : Int32) (σ : ol_Mm) : Option (Int32 × ol_Mm) :=
  ((oX4_isRefused σ s0).bind fun y1 =>
    (if y1.1 = 0 then
      ((oX4_laysAside y1.2).bind fun y3 =>
        oX4_will_L52 x1 x2 ol_fuel 0 y3)
    else
      some ((-1), y1.2)))
def oX4_will (σ : ol_Mm) (x1 : Int32) (x2 : Int32) : Option (Int32 × ol_Mm) :=
  (if (σ.1 0 9) = 0 then
    oX4_will_L38 x1 x2 1 σ
  else
    ((oX4_in x2 0 10).bind fun y1 =>
      (if y1 = 0 then
        oX4_will_L38 x1 x2 1 σ
      else
        ((oX4_in x1 1 999).bind fun y3 =>
          (if y3 = 0 then
            oX4_will_L38 x1 x2 2 σ
          else
            oX4_will_L38 x1 x2 0 σ)))))
def oX4_till_L87 (x1 : Int32)  (v3 : Int32) (s0 : Int32) (σ : ol_Mm) : Option (Int32 × ol_Mm) :=
  ((oX4_takesBack σ).bind fun y1 =>
    (if s0 = 0 then
      some ((-2), y1)
    else
      some (v3, y1)))
def oX4_till_L67 (x1 : Int32)  (v2 : Int32) (v3 : Int32) (σ : ol_Mm) : Option (Int32 × ol_Mm) :=
  ((oX4_at x1 6).bind fun y1 =>
    (ol_og (ol_in y1 251) (
      (if (σ.1 5 y1.toNatClampNeg) ≤ v2 then
        oX4_till_L87 x1 v3 0 σ
      else
        oX4_till_L87 x1 v3 1 σ))))
def oX4_till_L35 (x1 : Int32)  : Nat → Int32 → Int32 → ol_Mm → Option (Int32 × ol_Mm)
  | 0, _, _, _ => none
  | n + 1, v2, v3, σ =>
    (if 2000 ≤ v3 then
      oX4_till_L67 x1 v2 v3 σ
    else
      ((oX4_at x1 6).bind fun y1 =>
        (ol_og (ol_in y1 251) (
          (if (σ.1 5 y1.toNatClampNeg) = v2 then
            ((oX4_tick σ).bind fun y4 =>
              oX4_till_L35 x1 n v2 (v3 + 1) y4)
          else
            oX4_till_L67 x1 v2 v3 σ)))))
def oX4_till (σ : ol_Mm) (x1 : Int32) : Option (Int32 × ol_Mm) :=
  ((oX4_isBoard σ x1).bind fun y1 =>
    ((oX4_unless y1).bind fun y3 =>
      ((oX4_isRefused σ y3).bind fun y5 =>
        (if y5.1 = 0 then
          ((oX4_laysAside y5.2).bind fun y7 =>
            ((oX4_at x1 6).bind fun y9 =>
              (ol_og (ol_in y9 251) (
                oX4_till_L35 x1 ol_fuel (y7.1 5 y9.toNatClampNeg) 0 y7))))
        else
          some ((-1), y5.2)))))
def oX4_about_L22 (x1 : Int32)  (s0 : Int32) (σ : ol_Mm) : Option (Int32 × ol_Mm) :=
  ((oX4_unless s0).bind fun y1 =>
    ((oX4_isRefused σ y1).bind fun y3 =>
      (if y3.1 = 0 then
        (if x1 = 5 then
          some ((y3.2.1 5 0), y3.2)
        else
          (ol_og (ol_in x1 59) (
            some ((y3.2.1 2 x1.toNatClampNeg), y3.2))))
      else
        some ((-1), y3.2))))
def oX4_about (σ : ol_Mm) (x1 : Int32) : Option (Int32 × ol_Mm) :=
  (if (σ.1 0 9) = 0 then
    oX4_about_L22 x1 0 σ
  else
    ((oX4_in x1 0 5).bind fun y1 =>
      (if y1 = 0 then
        oX4_about_L22 x1 0 σ
      else
        oX4_about_L22 x1 1 σ)))
def oX4_board_L24 (x1 : Int32) (x2 : Int32)  (s0 : Int32) (σ : ol_Mm) : Option (Int32 × ol_Mm) :=
  ((oX4_unless s0).bind fun y1 =>
    ((oX4_isRefused σ y1).bind fun y3 =>
      (if y3.1 = 0 then
        (if x2 = 0 then
          (ol_og (ol_in (5 + x1) 59) (
            some ((y3.2.1 2 ((5 + x1).toNatClampNeg)), y3.2)))
        else
        (if x2 = 1 then
          (ol_og (ol_in (11 + x1) 59) (
            some ((y3.2.1 2 ((11 + x1).toNatClampNeg)), y3.2)))
        else
        (if x2 = 2 then
          (ol_og (ol_in (17 + x1) 59) (
            some ((y3.2.1 2 ((17 + x1).toNatClampNeg)), y3.2)))
        else
        (if x2 = 3 then
          ((oX4_rankOf y3.2 x1).bind fun y11 =>
            some (y11, y3.2))
        else
        (if x2 = 4 then
          ((oX4_at x1 2).bind fun y14 =>
            (ol_og (ol_in y14 251) (
              some ((y3.2.1 5 y14.toNatClampNeg), y3.2))))
        else
        (if x2 = 5 then
          ((oX4_at x1 0).bind fun y18 =>
            (ol_og (ol_in y18 251) (
              some ((y3.2.1 5 y18.toNatClampNeg), y3.2))))
        else
        ((oX4_at x1 3).bind fun y22 =>
          (ol_og (ol_in y22 251) (
            some ((y3.2.1 5 y22.toNatClampNeg), y3.2))))))))))
      else
        some ((-1), y3.2))))
def oX4_board (σ : ol_Mm) (x1 : Int32) (x2 : Int32) : Option (Int32 × ol_Mm) :=
  ((oX4_isBoard σ x1).bind fun y1 =>
    (if y1 = 0 then
      oX4_board_L24 x1 x2 0 σ
    else
      ((oX4_in x2 0 6).bind fun y3 =>
        (if y3 = 0 then
          oX4_board_L24 x1 x2 0 σ
        else
          oX4_board_L24 x1 x2 1 σ))))
def oX4_named_L18 (x1 : Int32)  : Nat → Int32 → ol_Mm → Option (Int32 × ol_Mm)
  | 0, _, _ => none
  | n + 1, v2, σ =>
    (if (σ.1 2 3) ≤ v2 then
      ((oX4_no σ 1).bind fun y1 =>
        some (y1.1, y1.2))
    else
      (ol_og (ol_in (11 + v2) 59) (
        (if (σ.1 2 ((11 + v2).toNatClampNeg)) = x1 then
          some (v2, σ)
        else
          oX4_named_L18 x1 n (v2 + 1) σ))))
def oX4_named (σ : ol_Mm) (x1 : Int32) : Option (Int32 × ol_Mm) :=
  ((oX4_unless (σ.1 0 9)).bind fun y1 =>
    ((oX4_isRefused σ y1).bind fun y3 =>
      (if y3.1 = 0 then
        oX4_named_L18 x1 ol_fuel 0 y3.2
      else
        some ((-1), y3.2))))
def oX4_word_L27 (x1 : Int32) (x2 : Int32)  (s0 : Int32) (σ : ol_Mm) : Option (Int32 × ol_Mm) :=
  ((oX4_isRefused σ s0).bind fun y1 =>
    (if y1.1 = 0 then
      ((oX4_wordOf y1.2 x1 x2).bind fun y3 =>
        some (y3, y1.2))
    else
      some ((-1), y1.2)))
def oX4_word (σ : ol_Mm) (x1 : Int32) (x2 : Int32) : Option (Int32 × ol_Mm) :=
  ((oX4_isBoard σ x1).bind fun y1 =>
    (if y1 = 0 then
      oX4_word_L27 x1 x2 1 σ
    else
      ((oX4_in x2 1 2).bind fun y3 =>
        (if y3 = 0 then
          oX4_word_L27 x1 x2 2 σ
        else
          oX4_word_L27 x1 x2 0 σ))))
def oX4_ask_L28 (x1 : Int32) (x2 : Int32)  (s0 : Int32) (σ : ol_Mm) : Option (Int32 × ol_Mm) :=
  ((oX4_isRefused σ s0).bind fun y1 =>
    (if y1.1 = 0 then
      ((oX4_asks y1.2 x1 x2).bind fun y3 =>
        (if y3.1 = 0 then
          ((oX4_no y3.2 5).bind fun y5 =>
            some (y5.1, y5.2))
        else
          ((oX4_askingOnes y3.2).bind fun y7 =>
            ((oX4_bitsOf y7).bind fun y9 =>
              some (y9, y3.2)))))
    else
      some ((-1), y1.2)))
def oX4_ask (σ : ol_Mm) (x1 : Int32) (x2 : Int32) : Option (Int32 × ol_Mm) :=
  ((oX4_isBoard σ x1).bind fun y1 =>
    (if y1 = 0 then
      oX4_ask_L28 x1 x2 1 σ
    else
      ((oX4_in x2 1 99).bind fun y3 =>
        (if y3 = 0 then
          oX4_ask_L28 x1 x2 2 σ
        else
          oX4_ask_L28 x1 x2 0 σ))))
def oX4_waits_L54 (x1 : Int32) (x2 : Int32)  (s0 : Int32) (σ : ol_Mm) : Option (Int32 × ol_Mm) :=
  ((oX4_isRefused σ s0).bind fun y1 =>
    (if y1.1 = 0 then
      ((oX4_at x1 3).bind fun y3 =>
        (ol_og (ol_in y3 251) (
          ((oX4_at x1 3).bind fun y6 =>
            (if x2 = (-1) then
              (ol_og (ol_in y6 251) (
                some ((y1.2.1 5 y3.toNatClampNeg), (ol_ms y1.2 5 y6.toNatClampNeg (-2)))))
            else
              (ol_og (ol_in y6 251) (
                some ((y1.2.1 5 y3.toNatClampNeg), (ol_ms y1.2 5 y6.toNatClampNeg x2)))))))))
    else
      some ((-1), y1.2)))
def oX4_waits_L35 (x1 : Int32) (x2 : Int32)  (σ : ol_Mm) : Option (Int32 × ol_Mm) :=
  (if x2 = (-1) then
    oX4_waits_L54 x1 x2 0 σ
  else
    ((oX4_doesWait σ x2 x1).bind fun y1 =>
      (if y1 = 0 then
        oX4_waits_L54 x1 x2 0 σ
      else
        oX4_waits_L54 x1 x2 5 σ)))
def oX4_waits (σ : ol_Mm) (x1 : Int32) (x2 : Int32) : Option (Int32 × ol_Mm) :=
  ((oX4_isBoard σ x1).bind fun y1 =>
    (if y1 = 0 then
      oX4_waits_L54 x1 x2 1 σ
    else
      (if x2 = (-1) then
        oX4_waits_L35 x1 x2 σ
      else
        ((oX4_isBoard σ x2).bind fun y3 =>
          (if y3 = 0 then
            oX4_waits_L54 x1 x2 2 σ
          else
            (if x2 = x1 then
              oX4_waits_L54 x1 x2 2 σ
            else
              oX4_waits_L35 x1 x2 σ))))))
def oX4_stick_L35 (x1 : Int32) (x2 : Int32)  (s0 : Int32) (σ : ol_Mm) : Option (Int32 × ol_Mm) :=
  ((oX4_isRefused σ s0).bind fun y1 =>
    (if y1.1 = 0 then
      (ol_og (ol_in (12 + x1) 251) (
        (ol_og (ol_in (12 + x1) 251) (
          some ((y1.2.1 5 ((12 + x1).toNatClampNeg)), (ol_ms y1.2 5 ((12 + x1).toNatClampNeg) x2))))))
    else
      some ((-1), y1.2)))
def oX4_stick (σ : ol_Mm) (x1 : Int32) (x2 : Int32) : Option (Int32 × ol_Mm) :=
  (if (σ.1 0 9) = 0 then
    oX4_stick_L35 x1 x2 1 σ
  else
    ((oX4_in x1 0 5).bind fun y1 =>
      (if y1 = 0 then
        oX4_stick_L35 x1 x2 1 σ
      else
        ((oX4_in x2 0 2).bind fun y3 =>
          (if y3 = 0 then
            oX4_stick_L35 x1 x2 2 σ
          else
            oX4_stick_L35 x1 x2 0 σ)))))
def oX4_ticks_L38 (x1 : Int32)  : Nat → Int32 → ol_Mm → Option (Int32 × ol_Mm)
  | 0, _, _ => none
  | n + 1, v2, σ =>
    (if x1 ≤ v2 then
      some ((σ.1 5 1), σ)
    else
      ((oX4_tick σ).bind fun y1 =>
        oX4_ticks_L38 x1 n (v2 + 1) y1))
def oX4_ticks (σ : ol_Mm) (x1 : Int32) : Option (Int32 × ol_Mm) :=
  (if (σ.1 0 9) = 0 then
    ((oX4_isRefused σ 1).bind fun y10 =>
      (if y10.1 = 0 then
        oX4_ticks_L38 x1 ol_fuel 0 y10.2
      else
        some ((-1), y10.2)))
  else
    ((oX4_in x1 1 999).bind fun y1 =>
      (if y1 = 0 then
        ((oX4_isRefused σ 2).bind fun y3 =>
          (if y3.1 = 0 then
            oX4_ticks_L38 x1 ol_fuel 0 y3.2
          else
            some ((-1), y3.2)))
      else
        ((oX4_isRefused σ 0).bind fun y6 =>
          (if y6.1 = 0 then
            oX4_ticks_L38 x1 ol_fuel 0 y6.2
          else
            some ((-1), y6.2))))))
def oX4_keep_L18   : Nat → Int32 → ol_Mm → Option (Int32 × ol_Mm)
  | 0, _, _ => none
  | n + 1, v1, σ =>
    (if 251 ≤ v1 then
      some (1, (ol_ms σ 0 21 1))
    else
      (ol_og (ol_in v1 251) (
        (ol_og (ol_in v1 251) (
          oX4_keep_L18 n (v1 + 1) (ol_ms σ 7 v1.toNatClampNeg (σ.1 5 v1.toNatClampNeg)))))))
def oX4_keep (σ : ol_Mm) : Option (Int32 × ol_Mm) :=
  ((oX4_unless (σ.1 0 9)).bind fun y1 =>
    ((oX4_isRefused σ y1).bind fun y3 =>
      (if y3.1 = 0 then
        oX4_keep_L18 ol_fuel 0 y3.2
      else
        some (0, y3.2))))
def oX4_back_L18   : Nat → Int32 → ol_Mm → Option (Int32 × ol_Mm)
  | 0, _, _ => none
  | n + 1, v1, σ =>
    (if 251 ≤ v1 then
      some (1, σ)
    else
      (ol_og (ol_in v1 251) (
        (ol_og (ol_in v1 251) (
          oX4_back_L18 n (v1 + 1) (ol_ms σ 5 v1.toNatClampNeg (σ.1 7 v1.toNatClampNeg)))))))
def oX4_back (σ : ol_Mm) : Option (Int32 × ol_Mm) :=
  ((oX4_unless (σ.1 0 21)).bind fun y1 =>
    ((oX4_isRefused σ y1).bind fun y3 =>
      (if y3.1 = 0 then
        oX4_back_L18 ol_fuel 0 y3.2
      else
        some (0, y3.2))))
def oX4_bySlot_L17 (σ : ol_Mm) (x1 : Int32) (k2 : Int32 → Option Int32) : Nat → Int32 → Int32 → Int32 → Option Int32
  | 0, _, _, _ => none
  | n + 1, v2, v3, v4 =>
    (if (σ.1 2 3) ≤ v4 then
      (if v3 = x1 then
        some v2
      else
        k2 (v2 + 1))
    else
      (ol_og (ol_in (5 + v4) 59) (
        (ol_og (ol_in (5 + v2) 59) (
          (if (σ.1 2 ((5 + v2).toNatClampNeg)) ≤ (σ.1 2 ((5 + v4).toNatClampNeg)) then
            oX4_bySlot_L17 σ x1 k2 n v2 (v3 + 0) (v4 + 1)
          else
            oX4_bySlot_L17 σ x1 k2 n v2 (v3 + 1) (v4 + 1)))))))
def oX4_bySlot_L2 (σ : ol_Mm) (x1 : Int32)  : Nat → Int32 → Option Int32
  | 0, _ => none
  | n + 1, v2 =>
    (if (σ.1 2 3) ≤ v2 then
      some (-1)
    else
      oX4_bySlot_L17 σ x1 (oX4_bySlot_L2 σ x1 n) ol_fuel v2 0 0)
def oX4_bySlot (σ : ol_Mm) (x1 : Int32) : Option Int32 :=
  oX4_bySlot_L2 σ x1 ol_fuel 0
def oX4_never_L9 (x1 : Int32)  : Nat → Int32 → Int32 → ol_Mm → Option (Int32 × ol_Mm)
  | 0, _, _, _ => none
  | n + 1, v2, v3, σ =>
    (if (σ.1 0 9) = 0 then
      some (0, (ol_ms σ 0 0 1))
    else
      (if (σ.1 2 3) ≤ v3 then
        some (0, (ol_ms σ 0 0 1))
      else
        ((oX4_bySlot σ v3).bind fun y1 =>
          ((oX4_at y1 6).bind fun y3 =>
            (ol_og (ol_in y3 251) (
              (if (σ.1 5 y3.toNatClampNeg) = 0 then
                (if v2 = x1 then
                  some (y1, σ)
                else
                  oX4_never_L9 x1 n (v2 + 1) (v3 + 1) σ)
              else
                oX4_never_L9 x1 n v2 (v3 + 1) σ)))))))
def oX4_never (σ : ol_Mm) (x1 : Int32) : Option (Int32 × ol_Mm) :=
  oX4_never_L9 x1 ol_fuel 0 0 (ol_ms σ 0 0 0)
def oX4_size_L9 (x1 : Int32)  : Nat → Int32 → Int32 → ol_Mm → Option (Int32 × ol_Mm)
  | 0, _, _, _ => none
  | n + 1, v2, v3, σ =>
    (if 6 ≤ v3 then
      (if x1 = 0 then
        some ((σ.1 0 5), σ)
      else
      (if x1 = 1 then
        (if (σ.1 0 9) = 0 then
          some (0, σ)
        else
          some (((σ.1 2 4) - (σ.1 5 11)), σ))
      else
      (if x1 = 2 then
        (if (σ.1 0 21) = 0 then
          some (0, σ)
        else
          some (1, σ))
      else
      (if x1 = 3 then
        some (v2, σ)
      else
      some ((-1), σ)))))
    else
      (ol_og (ol_in (12 + v3) 251) (
        (if (σ.1 5 ((12 + v3).toNatClampNeg)) = 0 then
          oX4_size_L9 x1 n (v2 + 0) (v3 + 1) σ
        else
          oX4_size_L9 x1 n (v2 + 1) (v3 + 1) σ))))
def oX4_size (σ : ol_Mm) (x1 : Int32) : Option (Int32 × ol_Mm) :=
  oX4_size_L9 x1 ol_fuel 0 0 (ol_ms σ 0 0 0)
def oX4_trouble (σ : ol_Mm) : Option (Int32 × ol_Mm) :=
  some (((ol_ms σ 0 0 0).1 0 1), (ol_ms σ 0 0 0))
