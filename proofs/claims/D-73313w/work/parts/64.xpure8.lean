/-! as it computes (printed by gen/xmodel.py) -/
set_option maxRecDepth 100000
def oX3_isThrough_L147 (β : ol_Bd) (bp : Nat) (r : Nat)  : Nat → Int32 → Int32 → ol_Xm → Option ol_Xm
  | 0, _, _, _ => none
  | n + 1, v1, v2, σ =>
    (if 6 ≤ v2 then
      (ol_og (ol_in v1 6) (
        some (ol_xs σ (r + 1) v1.toNatClampNeg 0)))
    else
      (ol_og (ol_in v2 6) (
        oX3_isThrough_L147 β bp r n v1 (v2 + 1) (ol_xs σ (r + 1) v2.toNatClampNeg 1))))
def oX3_isThrough_L115 (β : ol_Bd) (bp : Nat) (r : Nat)  (v1 : Int32) (σ : ol_Xm) : Option ol_Xm :=
  ((oX3_counts (ol_xs σ r 11 v1) r v1 5).bind fun y1 =>
    (ol_og (ol_in v1 6) (
      (if ((ol_relog (ol_xs σ r 11 v1) y1).1 (r + 1) v1.toNatClampNeg) = 0 then
        oX3_isThrough_L147 β bp r ol_fuel v1 0 (ol_xs (ol_relog (ol_xs σ r 11 v1) y1) r 14 (((ol_relog (ol_xs σ r 11 v1) y1).1 r 14) + 1))
      else
        (ol_og (ol_in v1 6) (
          some (ol_xs (ol_relog (ol_xs σ r 11 v1) y1) (r + 1) v1.toNatClampNeg 0)))))))
def oX3_isThrough (σ : ol_Xm) (β : ol_Bd) (bp : Nat) (r : Nat) : Option ol_Xm :=
  ((oX3_passes σ β bp r (fun σ i => oX13_of σ β r i) (σ.1 r 13)).bind fun y2 =>
    (ol_lt (ol_xs (ol_xs (ol_relog σ y2.2) r 15 (((ol_relog σ y2.2).1 r 15) + 1)) r 17 (((ol_xs (ol_relog σ y2.2) r 15 (((ol_relog σ y2.2).1 r 15) + 1)).1 r 17) + ((ol_xs (ol_relog σ y2.2) r 15 (((ol_relog σ y2.2).1 r 15) + 1)).1 r 21))) fun s4 =>
      ((oX3_notes s4 β r y2.1).bind fun y7 =>
        (if y2.1 = (-2) then
          some (ol_xs (ol_xs (ol_xs (ol_xs y7 r 12 (-2)) r 13 0) r 16 (((ol_xs (ol_xs y7 r 12 (-2)) r 13 0).1 r 16) + 1)) r 11 (-2))
        else
          (if ((ol_xs (ol_xs y7 r 12 (-2)) r 13 0).1 r 11) = (-2) then
            oX3_isThrough_L115 β bp r y2.1 (ol_xs (ol_xs y7 r 12 (-2)) r 13 0)
          else
            (if ((ol_xs (ol_xs y7 r 12 (-2)) r 13 0).1 r 11) = y2.1 then
              oX3_isThrough_L115 β bp r y2.1 (ol_xs (ol_xs y7 r 12 (-2)) r 13 0)
            else
              ((oX3_counts (ol_xs (ol_xs (ol_xs y7 r 12 (-2)) r 13 0) r 18 (((ol_xs (ol_xs y7 r 12 (-2)) r 13 0).1 r 18) + 1)) r ((ol_xs (ol_xs (ol_xs y7 r 12 (-2)) r 13 0) r 18 (((ol_xs (ol_xs y7 r 12 (-2)) r 13 0).1 r 18) + 1)).1 r 11) 3).bind fun y11 =>
                oX3_isThrough_L115 β bp r y2.1 (ol_relog (ol_xs (ol_xs (ol_xs y7 r 12 (-2)) r 13 0) r 18 (((ol_xs (ol_xs y7 r 12 (-2)) r 13 0).1 r 18) + 1)) y11))))))))
def oX3_tick_L197 (β : ol_Bd) (bp : Nat) (r : Nat)  (σ : ol_Xm) : Option ol_Xm :=
  (if (σ.1 r 9) = (-2) then
    (ol_og (ol_in ((σ.1 r 8) - (σ.1 r 8) / 64 * 64) 64) (
      some (ol_xs σ (r + 8) (((σ.1 r 8) - (σ.1 r 8) / 64 * 64).toNatClampNeg) (σ.1 r 9))))
  else
    ((oX3_counts σ r (σ.1 r 9) 1).bind fun y2 =>
      (ol_og (ol_in (((ol_relog σ y2).1 r 8) - ((ol_relog σ y2).1 r 8) / 64 * 64) 64) (
        some (ol_xs (ol_relog σ y2) (r + 8) ((((ol_relog σ y2).1 r 8) - ((ol_relog σ y2).1 r 8) / 64 * 64).toNatClampNeg) ((ol_relog σ y2).1 r 9))))))
def oX3_tick_L173 (β : ol_Bd) (bp : Nat) (r : Nat)  (σ : ol_Xm) : Option ol_Xm :=
  (if (σ.1 r 12) = (-2) then
    ((oX3_isPressed σ β bp r).bind fun y1 =>
      (if y1 = 0 then
        oX3_tick_L197 β bp r σ
      else
        ((oX3_asking σ β bp r).bind fun y3 =>
          ((oX3_begins_2 σ β bp r y3).bind fun y5 =>
            oX3_tick_L197 β bp r (ol_relog σ y5)))))
  else
    oX3_tick_L197 β bp r σ)
def oX3_tick_L142 (β : ol_Bd) (bp : Nat) (r : Nat)  (σ : ol_Xm) : Option ol_Xm :=
  (if (σ.1 r 9) = (-2) then
    (if (σ.1 r 11) = (-2) then
      oX3_tick_L173 β bp r σ
    else
      (if (σ.1 r 12) = (-2) then
        ((oX3_isMaster σ r).bind fun y1 =>
          oX3_tick_L173 β bp r (ol_relog σ y1))
      else
        oX3_tick_L173 β bp r σ))
  else
    oX3_tick_L173 β bp r σ)
def oX3_tick_L12 (β : ol_Bd) (bp : Nat) (r : Nat)  : Nat → Int32 → ol_Xm → Option ol_Xm
  | 0, _, _ => none
  | n + 1, v1, σ =>
    (ol_og (decide (σ.2.1 r = some bp)) (
      (if (β.1 0 4) ≤ v1 then
        (if (σ.1 r 9) = (-2) then
          (if (σ.1 r 12) = (σ.1 r 8) then
            ((oX3_isThrough σ β bp r).bind fun y2 =>
              oX3_tick_L142 β bp r y2)
          else
            oX3_tick_L142 β bp r σ)
        else
          (if (σ.1 r 10) = (σ.1 r 8) then
            (if ((ol_xs (ol_xs σ r 9 (-2)) r 10 (-2)).1 r 12) = ((ol_xs (ol_xs σ r 9 (-2)) r 10 (-2)).1 r 8) then
              ((oX3_isThrough (ol_xs (ol_xs σ r 9 (-2)) r 10 (-2)) β bp r).bind fun y12 =>
                oX3_tick_L142 β bp r y12)
            else
              oX3_tick_L142 β bp r (ol_xs (ol_xs σ r 9 (-2)) r 10 (-2)))
          else
            (if (σ.1 r 12) = (σ.1 r 8) then
              ((oX3_isThrough σ β bp r).bind fun y7 =>
                oX3_tick_L142 β bp r y7)
            else
              oX3_tick_L142 β bp r σ)))
      else
        (ol_og (decide (σ.2.1 r = some bp)) (
          (ol_og (ol_ia β v1) (
            (if (β.1 4 v1.toNatClampNeg) = (σ.1 r 8) then
              (ol_og (decide (σ.2.1 r = some bp)) (
                (ol_og (ol_ia β v1) (
                  (ol_og (decide (σ.2.1 r = some bp)) (
                    (ol_og (ol_ia β v1) (
                      ((oX3_hears σ r (β.1 5 v1.toNatClampNeg) (β.1 6 v1.toNatClampNeg)).bind fun y25 =>
                        oX3_tick_L12 β bp r n (v1 + 1) (ol_relog σ y25.2))))))))))
            else
              oX3_tick_L12 β bp r n (v1 + 1) σ))))))))
def oX3_tick (σ : ol_Xm) (β : ol_Bd) (bp : Nat) (r : Nat) : Option ol_Xm :=
  oX3_tick_L12 β bp r ol_fuel 0 (ol_xs σ r 8 ((σ.1 r 8) + 1))
def oX3_goes_L2 (β : ol_Bd) (bp : Nat) (r : Nat) (N : Nat) (x1 : Int32)  : Nat → Int32 → ol_Xm → Option ol_Xm
  | 0, _, _ => none
  | n + 1, v2, σ =>
    (if x1 ≤ v2 then
      some σ
    else
      ((oX3_tick σ β bp r).bind fun y1 =>
        oX3_goes_L2 β bp r N x1 n (v2 + 1) y1))
def oX3_goes (σ : ol_Xm) (β : ol_Bd) (bp : Nat) (r : Nat) (N : Nat) (x1 : Int32) : Option ol_Xm :=
  oX3_goes_L2 β bp r N x1 (N + 1) 0 σ
def oX3_be (σ : ol_Xm) (β : ol_Bd) (bp : Nat) (r : Nat) (r1 : Nat) : Option ol_Xm :=
  (ol_og (decide (σ.2.1 r1 = some bp)) (
    (ol_og (ol_zbs ((ol_xr σ r (some bp)).1 (r1 + 1)) 6) (
      (ol_lt (ol_xcpy (ol_xcpy (ol_xcpy (ol_xcpy (ol_xcpy (ol_xr σ r (some bp)) (r1 + 1) (r + 1) 6) (r1 + 2) (r + 2) 6) (r1 + 3) (r + 3) 6) (r1 + 4) (r + 4) 6) (r1 + 5) (r + 5) 6) fun s3 =>
        (ol_og (decide (¬ r = r1)) (
          (ol_lt (ol_xcpy (ol_lgU (ol_xcpy (ol_xcpy s3 (r1 + 6) (r + 6) 6) (r1 + 7) (r + 7) 36) r ((ol_xcpy (ol_xcpy s3 (r1 + 6) (r + 6) 6) (r1 + 7) (r + 7) 36).2.2 r1)) (r1 + 8) (r + 8) 64) fun s9 =>
            (ol_lt (ol_xs (ol_xs (ol_xs s9 r 8 (s9.1 r1 8)) r 9 ((ol_xs s9 r 8 (s9.1 r1 8)).1 r1 9)) r 10 ((ol_xs (ol_xs s9 r 8 (s9.1 r1 8)) r 9 ((ol_xs s9 r 8 (s9.1 r1 8)).1 r1 9)).1 r1 10)) fun s12 =>
              (ol_lt (ol_xs (ol_xs (ol_xs s12 r 11 (s12.1 r1 11)) r 12 ((ol_xs s12 r 11 (s12.1 r1 11)).1 r1 12)) r 13 ((ol_xs (ol_xs s12 r 11 (s12.1 r1 11)) r 12 ((ol_xs s12 r 11 (s12.1 r1 11)).1 r1 12)).1 r1 13)) fun s15 =>
                (ol_lt (ol_xs (ol_xs (ol_xs s15 r 14 (s15.1 r1 14)) r 15 ((ol_xs s15 r 14 (s15.1 r1 14)).1 r1 15)) r 16 ((ol_xs (ol_xs s15 r 14 (s15.1 r1 14)) r 15 ((ol_xs s15 r 14 (s15.1 r1 14)).1 r1 15)).1 r1 16)) fun s18 =>
                  some (ol_xs (ol_xs s18 r 17 (s18.1 r1 17)) r 18 ((ol_xs s18 r 17 (s18.1 r1 17)).1 r1 18)))))))))))))
def oX3_begins_L122 (β : ol_Bd) (bp : Nat) (r : Nat)  : Nat → Int32 → ol_Xm → Option ol_Xm
  | 0, _, _ => none
  | n + 1, v2, σ =>
    (if 6 ≤ v2 then
      (ol_lt (ol_xs (ol_xs (ol_xs (ol_xs (ol_xs (ol_xs (ol_xs (ol_xs (ol_xs (ol_xs σ r 8 0) r 9 (-2)) r 10 (-2)) r 11 (-2)) r 12 (-2)) r 13 0) r 14 0) r 15 0) r 16 0) r 17 0) fun s1 =>
        some (ol_xs s1 r 18 0))
    else
      (ol_og (ol_in v2 6) (
        oX3_begins_L122 β bp r n (v2 + 1) (ol_xs σ (r + 5) v2.toNatClampNeg 0))))
def oX3_begins_L80 (β : ol_Bd) (bp : Nat) (r : Nat) (k36 : Int32 → ol_Xm → Option ol_Xm) : Nat → Int32 → Int32 → ol_Xm → Option ol_Xm
  | 0, _, _, _ => none
  | n + 1, v2, v3, σ =>
    (if 6 ≤ v3 then
      k36 (v2 + 1) σ
    else
      (if v3 = 4 then
        (ol_og (ol_in ((6 * v2) + v3) 36) (
          oX3_begins_L80 β bp r k36 n v2 (v3 + 1) (ol_xs σ (r + 7) (((6 * v2) + v3).toNatClampNeg) (-2))))
      else
        (ol_og (ol_in ((6 * v2) + v3) 36) (
          oX3_begins_L80 β bp r k36 n v2 (v3 + 1) (ol_xs σ (r + 7) (((6 * v2) + v3).toNatClampNeg) 0)))))
def oX3_begins_L36 (β : ol_Bd) (bp : Nat) (r : Nat)  : Nat → Int32 → ol_Xm → Option ol_Xm
  | 0, _, _ => none
  | n + 1, v2, σ =>
    (if 6 ≤ v2 then
      oX3_begins_L122 β bp r ol_fuel 0 σ
    else
      (ol_og (ol_in v2 6) (
        (ol_og (ol_in v2 6) (
          (ol_og (ol_in v2 6) (
            (ol_og (ol_in v2 6) (
              (ol_og (ol_in v2 6) (
                (ol_lt (ol_xs (ol_xs (ol_xs (ol_xs (ol_xs σ (r + 1) v2.toNatClampNeg 1) (r + 2) v2.toNatClampNeg 0) (r + 3) v2.toNatClampNeg 0) (r + 4) v2.toNatClampNeg (-2)) (r + 6) v2.toNatClampNeg 0) fun s6 =>
                  oX3_begins_L80 β bp r (oX3_begins_L36 β bp r n) ol_fuel v2 0 s6))))))))))))
def oX3_begins_L14 (β : ol_Bd) (bp : Nat) (r : Nat)  : Nat → Int32 → ol_Xm → Option ol_Xm
  | 0, _, _ => none
  | n + 1, v2, σ =>
    (if 64 ≤ v2 then
      oX3_begins_L36 β bp r ol_fuel 0 σ
    else
      (ol_og (ol_in v2 64) (
        oX3_begins_L14 β bp r n (v2 + 1) (ol_xs σ (r + 8) v2.toNatClampNeg (-2)))))
def oX3_begins (σ : ol_Xm) (β : ol_Bd) (bp : Nat) (r : Nat) : Option ol_Xm :=
  oX3_begins_L14 β bp r ol_fuel 0 (ol_lgU (ol_xr σ r (some bp)) r (ol_lgClr ((ol_xr σ r (some bp)).2.2 r)))
