/-! the run, I, as it computes (printed by gen/xmodel.py) -/
set_option maxRecDepth 100000
def oX3_waitsFor_L7 (σ : ol_Xm) (r : Nat) (x1 : Int32) (x2 : Int32)  : Nat → Int32 → Option Int32
  | 0, _ => none
  | n + 1, v3 =>
    (if v3 = (-2) then
      (if v3 = x2 then
        some 1
      else
        some 0)
    else
      (if v3 = x2 then
        (if v3 = x2 then
          some 1
        else
          some 0)
      else
        (ol_og (ol_in v3 6) (
          oX3_waitsFor_L7 σ r x1 x2 n (σ.1 (r + 4) v3.toNatClampNeg)))))
def oX3_waitsFor (σ : ol_Xm) (r : Nat) (x1 : Int32) (x2 : Int32) : Option Int32 :=
  (ol_og (ol_in x1 6) (
    oX3_waitsFor_L7 σ r x1 x2 ol_fuel (σ.1 (r + 4) x1.toNatClampNeg)))
def oX9_ofTheDay_L8 (σ : ol_Xm) (β : ol_Bd) (bp : Nat) (r1 : Nat) (x0 : Nat)  : Nat → Int32 → Int32 → Option Int32
  | 0, _, _ => none
  | n + 1, v2, v3 =>
    (ol_og (decide (σ.2.1 r1 = some bp)) (
      (if (β.1 0 3) ≤ v3 then
        some v2
      else
        (ol_og (ol_nb β x0) (
          ((oX3_waitsFor σ r1 v3 (nI x0)).bind fun y3 =>
            (if y3 = 0 then
              oX9_ofTheDay_L8 σ β bp r1 x0 n v2 (v3 + 1)
            else
              (ol_og (decide (σ.2.1 r1 = some bp)) (
                (ol_og (ol_ib β v3) (
                  (ol_lt (if v2 < (β.1 1 v3.toNatClampNeg) then (β.1 1 v3.toNatClampNeg) else v2) fun y7 =>
                    oX9_ofTheDay_L8 σ β bp r1 x0 n y7 (v3 + 1)))))))))))))
def oX9_ofTheDay (σ : ol_Xm) (β : ol_Bd) (bp : Nat) (r1 : Nat) (x0 : Nat) : Option Int32 :=
  (ol_og (ol_nb β x0) (
    oX9_ofTheDay_L8 σ β bp r1 x0 ol_fuel (β.1 1 x0) 0))
def oX1_firstWord (σ : ol_Xm) (β : ol_Bd) (bp : Nat) (r1 : Nat) (x2 : Nat) : Option Int32 :=
  (ol_og (ol_nb β x2) (
  ((oX9_ofTheDay σ β bp r1 x2).bind fun y1 =>
    (ol_og (ol_in (nI x2) 6) (
      (if (σ.1 (r1 + 1) ((nI x2).toNatClampNeg)) = 0 then
        ((oX1_withParity ((y1 <<< (3 &&& 31)) ||| 0)).bind fun y5 =>
          some y5)
      else
        ((oX1_withParity ((y1 <<< (3 &&& 31)) ||| 4)).bind fun y7 =>
          some y7)))))))
def oX3_asking_L4 (σ : ol_Xm) (β : ol_Bd) (bp : Nat) (r : Nat)  : Nat → Int32 → Int32 → Option Int32
  | 0, _, _ => none
  | n + 1, v1, v2 =>
    (ol_og (decide (σ.2.1 r = some bp)) (
      (if (β.1 0 3) ≤ v2 then
        some v1
      else
        (ol_og (ol_in v2 6) (
          (if (σ.1 (r + 2) v2.toNatClampNeg) ≤ 0 then
            oX3_asking_L4 σ β bp r n v1 (v2 + 1)
          else
            oX3_asking_L4 σ β bp r n (v1 ||| ((1 : Int32) <<< (v2 &&& 31))) (v2 + 1)))))))
def oX3_asking (σ : ol_Xm) (β : ol_Bd) (bp : Nat) (r : Nat) : Option Int32 :=
  oX3_asking_L4 σ β bp r ol_fuel 0 0
def oX3_counts (σ : ol_Xm) (r : Nat) (x1 : Int32) (x2 : Int32) : Option ol_Xm :=
  (ol_og (ol_in ((6 * x1) + x2) 36) (
    (ol_og (ol_in ((6 * x1) + x2) 36) (
      some (ol_xs σ (r + 7) (((6 * x1) + x2).toNatClampNeg) ((σ.1 (r + 7) (((6 * x1) + x2).toNatClampNeg)) + 1))))))
def oX3_hears (σ : ol_Xm) (r : Nat) (x1 : Int32) (x2 : Int32) : Option (Int32 × ol_Xm) :=
  (ol_og (ol_in x1 6) (
    (if 0 < (σ.1 (r + 2) x1.toNatClampNeg) then
      ((oX3_counts σ r x1 2).bind fun y2 =>
        some (0, y2))
    else
      (if (σ.1 r 9) = x1 then
        ((oX3_counts σ r x1 2).bind fun y6 =>
          some (0, y6))
      else
        (ol_og (ol_in x1 6) (
          (ol_og (ol_in x1 6) (
            some (1, (ol_xs (ol_xs σ (r + 2) x1.toNatClampNeg x2) (r + 3) x1.toNatClampNeg ((ol_xs σ (r + 2) x1.toNatClampNeg x2).1 r 8)))))))))))
def oX3_toCome_L4 (σ : ol_Xm) (β : ol_Bd) (bp : Nat) (r : Nat)  : Nat → Int32 → Int32 → Option Int32
  | 0, _, _ => none
  | n + 1, v1, v2 =>
    (ol_og (decide (σ.2.1 r = some bp)) (
      (if (β.1 0 4) ≤ v2 then
        some v1
      else
        (ol_og (decide (σ.2.1 r = some bp)) (
          (ol_og (ol_ia β v2) (
            (if (β.1 4 v2.toNatClampNeg) ≤ (σ.1 r 8) then
              oX3_toCome_L4 σ β bp r n v1 (v2 + 1)
            else
              oX3_toCome_L4 σ β bp r n (v1 + 1) (v2 + 1)))))))))
def oX3_toCome (σ : ol_Xm) (β : ol_Bd) (bp : Nat) (r : Nat) : Option Int32 :=
  oX3_toCome_L4 σ β bp r ol_fuel 0 0
def oX3_waiting_L4 (σ : ol_Xm) (β : ol_Bd) (bp : Nat) (r : Nat) (x1 : Int32)  : Nat → Int32 → Int32 → Option Int32
  | 0, _, _ => none
  | n + 1, v2, v3 =>
    (ol_og (decide (σ.2.1 r = some bp)) (
      (if (β.1 0 3) ≤ v3 then
        some v2
      else
        ((oX3_waitsFor σ r v3 x1).bind fun y2 =>
          (if y2 = 0 then
            oX3_waiting_L4 σ β bp r x1 n v2 (v3 + 1)
          else
            oX3_waiting_L4 σ β bp r x1 n (v2 ||| ((1 : Int32) <<< (v3 &&& 31))) (v3 + 1))))))
def oX3_waiting (σ : ol_Xm) (β : ol_Bd) (bp : Nat) (r : Nat) (x1 : Int32) : Option Int32 :=
  oX3_waiting_L4 σ β bp r x1 ol_fuel 0 0
def oX3_longest_L49 (σ : ol_Xm) (β : ol_Bd) (bp : Nat) (r : Nat) (k5 : Int32 → Int32 → Option Int32) (v1 : Int32) (v2 : Int32) : Option Int32 :=
  (if v1 = (-2) then
    k5 v2 (v2 + 1)
  else
    (ol_og (ol_in v2 6) (
      (ol_og (ol_in v1 6) (
        (if (σ.1 (r + 3) v2.toNatClampNeg) < (σ.1 (r + 3) v1.toNatClampNeg) then
          k5 v2 (v2 + 1)
        else
          (ol_og (decide (σ.2.1 r = some bp)) (
            (ol_og (ol_ib β v2) (
              (ol_og (decide (σ.2.1 r = some bp)) (
                (ol_og (ol_ib β v1) (
                  (if (β.1 2 v1.toNatClampNeg) ≤ (β.1 2 v2.toNatClampNeg) then
                    k5 v1 (v2 + 1)
                  else
                    k5 v2 (v2 + 1))))))))))))))))
def oX3_longest_L5 (σ : ol_Xm) (β : ol_Bd) (bp : Nat) (r : Nat)  : Nat → Int32 → Int32 → Option Int32
  | 0, _, _ => none
  | n + 1, v1, v2 =>
    (ol_og (decide (σ.2.1 r = some bp)) (
      (if (β.1 0 3) ≤ v2 then
        some v1
      else
        (ol_og (ol_in v2 6) (
          (if (σ.1 (r + 2) v2.toNatClampNeg) = 0 then
            oX3_longest_L5 σ β bp r n v1 (v2 + 1)
          else
            (if v1 = (-2) then
              oX3_longest_L49 σ β bp r (oX3_longest_L5 σ β bp r n) v1 v2
            else
              (ol_og (ol_in v2 6) (
                (ol_og (ol_in v1 6) (
                  (if (σ.1 (r + 3) v2.toNatClampNeg) ≤ (σ.1 (r + 3) v1.toNatClampNeg) then
                    oX3_longest_L49 σ β bp r (oX3_longest_L5 σ β bp r n) v1 v2
                  else
                    oX3_longest_L5 σ β bp r n v1 (v2 + 1)))))))))))))
def oX3_longest (σ : ol_Xm) (β : ol_Bd) (bp : Nat) (r : Nat) : Option Int32 :=
  oX3_longest_L5 σ β bp r ol_fuel (-2) 0
def oX3_isMaster (σ : ol_Xm) (r : Nat) : Option ol_Xm :=
  (ol_og (ol_in ((ol_xs σ r 9 (σ.1 r 11)).1 r 11) 6) (
    (ol_og (ol_in ((ol_xs (ol_xs σ r 9 (σ.1 r 11)) r 10 (((ol_xs σ r 9 (σ.1 r 11)).1 r 8) + ((ol_xs σ r 9 (σ.1 r 11)).1 (r + 2) (((ol_xs σ r 9 (σ.1 r 11)).1 r 11).toNatClampNeg)))).1 r 11) 6) (
      ((oX3_counts (ol_xs (ol_xs (ol_xs (ol_xs σ r 9 (σ.1 r 11)) r 10 (((ol_xs σ r 9 (σ.1 r 11)).1 r 8) + ((ol_xs σ r 9 (σ.1 r 11)).1 (r + 2) (((ol_xs σ r 9 (σ.1 r 11)).1 r 11).toNatClampNeg)))) (r + 2) (((ol_xs (ol_xs σ r 9 (σ.1 r 11)) r 10 (((ol_xs σ r 9 (σ.1 r 11)).1 r 8) + ((ol_xs σ r 9 (σ.1 r 11)).1 (r + 2) (((ol_xs σ r 9 (σ.1 r 11)).1 r 11).toNatClampNeg)))).1 r 11).toNatClampNeg) 0) r 11 (-2)) r ((ol_xs (ol_xs (ol_xs (ol_xs σ r 9 (σ.1 r 11)) r 10 (((ol_xs σ r 9 (σ.1 r 11)).1 r 8) + ((ol_xs σ r 9 (σ.1 r 11)).1 (r + 2) (((ol_xs σ r 9 (σ.1 r 11)).1 r 11).toNatClampNeg)))) (r + 2) (((ol_xs (ol_xs σ r 9 (σ.1 r 11)) r 10 (((ol_xs σ r 9 (σ.1 r 11)).1 r 8) + ((ol_xs σ r 9 (σ.1 r 11)).1 (r + 2) (((ol_xs σ r 9 (σ.1 r 11)).1 r 11).toNatClampNeg)))).1 r 11).toNatClampNeg) 0) r 11 (-2)).1 r 9) 0).bind fun y3 =>
        (ol_og (ol_in ((6 * (y3.1 r 9)) + 4) 36) (
          (ol_og (ol_in (y3.1 r 9) 6) (
            (ol_og (ol_in ((6 * (y3.1 r 9)) + 4) 36) (
              some (ol_xs y3 (r + 7) (((6 * (y3.1 r 9)) + 4).toNatClampNeg) (if (y3.1 (r + 7) (((6 * (y3.1 r 9)) + 4).toNatClampNeg)) < ((y3.1 r 8) - (y3.1 (r + 3) ((y3.1 r 9).toNatClampNeg))) then ((y3.1 r 8) - (y3.1 (r + 3) ((y3.1 r 9).toNatClampNeg))) else (y3.1 (r + 7) (((6 * (y3.1 r 9)) + 4).toNatClampNeg)))))))))))))))
def oX3_isPressed_L2 (σ : ol_Xm) (β : ol_Bd) (bp : Nat) (r : Nat)  : Nat → Int32 → Option Int32
  | 0, _ => none
  | n + 1, v1 =>
    (ol_og (decide (σ.2.1 r = some bp)) (
      (if (β.1 0 3) ≤ v1 then
        some 0
      else
        (ol_og (ol_in v1 6) (
          (if (σ.1 (r + 2) v1.toNatClampNeg) ≤ 0 then
            oX3_isPressed_L2 σ β bp r n (v1 + 1)
          else
            (if (σ.1 r 11) = (-2) then
              some 1
            else
              (ol_og (decide (σ.2.1 r = some bp)) (
                (ol_og (ol_ib β v1) (
                  ((oX9_ofTheDay σ β bp r v1.toNatClampNeg).bind fun y5 =>
                    (ol_og (decide (σ.2.1 r = some bp)) (
                      (ol_og (ol_ib β (σ.1 r 11)) (
                        ((oX9_ofTheDay σ β bp r ((σ.1 r 11).toNatClampNeg)).bind fun y9 =>
                          (if y5 ≤ y9 then
                            oX3_isPressed_L2 σ β bp r n (v1 + 1)
                          else
                            some 1))))))))))))))))))
def oX3_isPressed (σ : ol_Xm) (β : ol_Bd) (bp : Nat) (r : Nat) : Option Int32 :=
  oX3_isPressed_L2 σ β bp r ol_fuel 0
def oX3_past (σ : ol_Xm) (r : Nat) (x1 : Int32) : Option Int32 :=
  (if x1 < (σ.1 r 8) then
    (ol_og (ol_in (((σ.1 r 8) - x1) - ((σ.1 r 8) - x1) / 64 * 64) 64) (
      some (σ.1 (r + 8) ((((σ.1 r 8) - x1) - ((σ.1 r 8) - x1) / 64 * 64).toNatClampNeg))))
  else
    some (-2))
def oX3_idle_L4 (σ : ol_Xm) (r : Nat)  : Nat → Int32 → Int32 → Option Int32
  | 0, _, _ => none
  | n + 1, v1, v2 =>
    (if (if (σ.1 r 8) < 64 then (σ.1 r 8) else 64) ≤ v2 then
      some v1
    else
      ((oX3_past σ r v2).bind fun y1 =>
        (if y1 = (-2) then
          oX3_idle_L4 σ r n (v1 + 1) (v2 + 1)
        else
          oX3_idle_L4 σ r n v1 (v2 + 1))))
def oX3_idle (σ : ol_Xm) (r : Nat) : Option Int32 :=
  oX3_idle_L4 σ r ol_fuel 0 0
def oX3_is (σ : ol_Xm) (β : ol_Bd) (bp : Nat) (r : Nat) (x1 : Int32) : Option Int32 :=
  (if x1 = 0 then
    some (σ.1 r 9)
  else
  (if x1 = 1 then
    some (σ.1 r 10)
  else
  (if x1 = 2 then
    some (σ.1 r 11)
  else
  (if x1 = 3 then
    some (σ.1 r 12)
  else
  (if x1 = 4 then
    some (σ.1 r 13)
  else
  (if x1 = 5 then
    ((oX3_asking σ β bp r).bind fun y6 =>
      some y6)
  else
  (if x1 = 6 then
    some (σ.1 r 14)
  else
  (if x1 = 7 then
    some (σ.1 r 15)
  else
  (if x1 = 8 then
    some (σ.1 r 16)
  else
  (if x1 = 9 then
    some (σ.1 r 17)
  else
  some (σ.1 r 18)))))))))))
def oX1_forgets (σ : ol_Xm) : Option ol_Xm :=
  some (ol_xs σ 0 11 (-1))
