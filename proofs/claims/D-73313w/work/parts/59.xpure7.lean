/-! without a bus, as it computes (printed by gen/xmodel.py) -/
set_option maxRecDepth 100000
def onX1_isBoard (σ : ol_Xm) (x1 : Int32) : Option Int32 :=
  some 0
def onX1_refuses (σ : ol_Xm) (x1 : Int32) (x2 : Int32) (x3 : Int32) (x4 : Int32) : Option Int32 :=
  some 1
def onX1_about (σ : ol_Xm) (x1 : Int32) : Option (Int32 × ol_Xm) :=
  ((oX1_refused σ 1).bind fun y1 =>
    some (y1.1, y1.2))
def onX1_word (σ : ol_Xm) (x1 : Int32) (x2 : Int32) : Option (Int32 × ol_Xm) :=
  ((onX1_isBoard σ x1).bind fun y1 =>
    (if y1 = 0 then
      ((oX1_refused σ 1).bind fun y8 =>
        some (y8.1, y8.2))
    else
      ((oX1_isPass x2).bind fun y3 =>
        (if y3 = 0 then
          ((oX1_refused σ 2).bind fun y5 =>
            some (y5.1, y5.2))
        else
          none))))
def onX1_drives (σ : ol_Xm) (x1 : Int32) (x2 : Int32) (x3 : Int32) (x4 : Int32) : Option (Int32 × ol_Xm) :=
  ((onX1_isBoard σ x3).bind fun y1 =>
    ((onX1_refuses σ y1 x1 x2 x4).bind fun y3 =>
      (if y3 ≤ 0 then
        none
      else
        ((oX1_refused σ y3).bind fun y5 =>
          some (y5.1, y5.2)))))
def onX1_seen (σ : ol_Xm) (x1 : Int32) (x2 : Int32) (x3 : Int32) (x4 : Int32) : Option (Int32 × ol_Xm) :=
  ((onX1_isBoard σ x3).bind fun y1 =>
    ((onX1_refuses σ y1 x1 x2 x4).bind fun y3 =>
      (if y3 ≤ 0 then
        none
      else
        ((oX1_refused σ y3).bind fun y5 =>
          some (y5.1, y5.2)))))
def onX1_taken (σ : ol_Xm) (x1 : Int32) (x2 : Int32) (x3 : Int32) (x4 : Int32) : Option (Int32 × ol_Xm) :=
  ((onX1_isBoard σ x3).bind fun y1 =>
    ((onX1_refuses σ y1 x1 x2 x4).bind fun y3 =>
      (if y3 ≤ 0 then
        none
      else
        ((oX1_refused σ y3).bind fun y5 =>
          some (y5.1, y5.2)))))
def onX1_withdrawn (σ : ol_Xm) (x1 : Int32) (x2 : Int32) (x3 : Int32) (x4 : Int32) : Option (Int32 × ol_Xm) :=
  ((onX1_isBoard σ x3).bind fun y1 =>
    ((onX1_refuses σ y1 x1 x2 x4).bind fun y3 =>
      (if y3 ≤ 0 then
        none
      else
        ((oX1_refused σ y3).bind fun y5 =>
          some (y5.1, y5.2)))))
def onX1_winners (σ : ol_Xm) (x1 : Int32) (x2 : Int32) (x3 : Int32) : Option (Int32 × ol_Xm) :=
  ((onX1_refuses σ 1 x1 x2 x3).bind fun y1 =>
    (if y1 ≤ 0 then
      none
    else
      ((oX1_refused σ y1).bind fun y3 =>
        some (y3.1, y3.2))))
def onX1_settles (σ : ol_Xm) (x1 : Int32) (x2 : Int32) : Option (Int32 × ol_Xm) :=
  ((onX1_refuses σ 1 x1 x2 0).bind fun y1 =>
    (if y1 ≤ 0 then
      none
    else
      ((oX1_refused σ y1).bind fun y3 =>
        some (y3.1, y3.2))))
def onX1_sure (σ : ol_Xm) (x1 : Int32) (x2 : Int32) : Option (Int32 × ol_Xm) :=
  ((onX1_refuses σ 1 x1 x2 0).bind fun y1 =>
    (if y1 ≤ 0 then
      none
    else
      ((oX1_refused σ y1).bind fun y3 =>
        some (y3.1, y3.2))))
def onX1_right (σ : ol_Xm) (x1 : Int32) (x2 : Int32) : Option (Int32 × ol_Xm) :=
  ((onX1_refuses σ 1 x1 x2 0).bind fun y1 =>
    (if y1 ≤ 0 then
      none
    else
      ((oX1_refused σ y1).bind fun y3 =>
        some (y3.1, y3.2))))
def onX1_dips (σ : ol_Xm) (x1 : Int32) (x2 : Int32) : Option (Int32 × ol_Xm) :=
  ((onX1_refuses σ 1 x1 x2 0).bind fun y1 =>
    (if y1 ≤ 0 then
      none
    else
      ((oX1_refused σ y1).bind fun y3 =>
        some (y3.1, y3.2))))
def onX1_faulty (σ : ol_Xm) (x1 : Int32) (x2 : Int32) (x3 : Int32) : Option (Int32 × ol_Xm) :=
  ((onX1_refuses σ 1 x1 x2 x3).bind fun y1 =>
    (if y1 ≤ 0 then
      none
    else
      ((oX1_refused σ y1).bind fun y3 =>
        some (y3.1, y3.2))))
def onX1_edges_L24 (x1 : Int32) (x2 : Int32) (x3 : Int32) (x4 : Int32)  (s0 : Int32) (σ : ol_Xm) : Option (Int32 × ol_Xm) :=
  ((onX1_refuses σ s0 x1 x2 0).bind fun y1 =>
    (if y1 ≤ 0 then
      none
    else
      ((oX1_refused σ y1).bind fun y3 =>
        some (y3.1, y3.2))))
def onX1_edges (σ : ol_Xm) (x1 : Int32) (x2 : Int32) (x3 : Int32) (x4 : Int32) : Option (Int32 × ol_Xm) :=
  ((onX1_isBoard σ x3).bind fun y1 =>
    (if y1 = 0 then
      onX1_edges_L24 x1 x2 x3 x4 0 σ
    else
      ((oX1_isIn x4 0 5).bind fun y3 =>
        (if y3 = 0 then
          onX1_edges_L24 x1 x2 x3 x4 0 σ
        else
          onX1_edges_L24 x1 x2 x3 x4 1 σ))))
def onX1_filters_L26 (x1 : Int32) (x2 : Int32)  : Nat → Int32 → ol_Xm → Option (Int32 × ol_Xm)
  | 0, _, _ => none
  | n + 1, v4, σ =>
    (if 20 < v4 then
      ((oX1_fine σ (-2)).bind fun y1 =>
        some (y1.1, y1.2))
    else
      none)
def onX1_filters (σ : ol_Xm) (x1 : Int32) (x2 : Int32) : Option (Int32 × ol_Xm) :=
  ((onX1_refuses σ 1 x1 x2 0).bind fun y1 =>
    (if y1 ≤ 0 then
      ((oX1_forgets σ).bind fun y3 =>
        onX1_filters_L26 x1 x2 ol_fuel 0 y3)
    else
      ((oX1_refused σ y1).bind fun y5 =>
        some (y5.1, y5.2))))
def onX1_slowest_L27 (x1 : Int32)  : Nat → Int32 → Int32 → Int32 → ol_Xm → Option (Int32 × ol_Xm)
  | 0, _, _, _, _ => none
  | n + 1, v3, v4, v5, σ =>
    none
def onX1_slowest (σ : ol_Xm) (x1 : Int32) : Option (Int32 × ol_Xm) :=
  ((onX1_refuses σ 1 x1 1 0).bind fun y1 =>
    (if y1 ≤ 0 then
      onX1_slowest_L27 x1 ol_fuel 0 (-1) 1 σ
    else
      ((oX1_refused σ y1).bind fun y3 =>
        some (y3.1, y3.2))))
def onX1_settled_L25 (x1 : Int32) (x2 : Int32)  : Nat → Int32 → Int32 → ol_Xm → Option (Int32 × ol_Xm)
  | 0, _, _, _ => none
  | n + 1, v4, v5, σ =>
    none
def onX1_settled (σ : ol_Xm) (x1 : Int32) (x2 : Int32) : Option (Int32 × ol_Xm) :=
  ((onX1_refuses σ 1 x1 1 x2).bind fun y1 =>
    (if y1 ≤ 0 then
      onX1_settled_L25 x1 x2 ol_fuel 0 1 σ
    else
      ((oX1_refused σ y1).bind fun y3 =>
        some (y3.1, y3.2))))
def onX1_enough_L24 (x1 : Int32)  : Nat → Int32 → Int32 → ol_Xm → Option (Int32 × ol_Xm)
  | 0, _, _, _ => none
  | n + 1, v3, v4, σ =>
    none
def onX1_enough (σ : ol_Xm) (x1 : Int32) : Option (Int32 × ol_Xm) :=
  ((onX1_refuses σ 1 x1 1 0).bind fun y1 =>
    (if y1 ≤ 0 then
      onX1_enough_L24 x1 ol_fuel 0 1 σ
    else
      ((oX1_refused σ y1).bind fun y3 =>
        some (y3.1, y3.2))))
def onX1_would (σ : ol_Xm) (x1 : Int32) : Option (Int32 × ol_Xm) :=
  ((oX1_refused σ 1).bind fun y1 =>
    some (y1.1, y1.2))
def onX1_now (σ : ol_Xm) (x1 : Int32) : Option (Int32 × ol_Xm) :=
  ((oX1_refused σ 1).bind fun y1 =>
    some (y1.1, y1.2))
def onX1_ledger (σ : ol_Xm) (x1 : Int32) (x2 : Int32) : Option (Int32 × ol_Xm) :=
  ((onX1_isBoard σ x1).bind fun y1 =>
    (if y1 = 0 then
      ((oX1_refused σ 1).bind fun y3 =>
        some (y3.1, y3.2))
    else
      ((oX1_isIn x2 0 5).bind fun y5 =>
        (if y5 = 0 then
          ((oX1_refused σ 1).bind fun y7 =>
            some (y7.1, y7.2))
        else
          (ol_og (ol_in ((6 * x1) + x2) 36) (
            ((oX1_fine σ (σ.1 (10 + 7) (((6 * x1) + x2).toNatClampNeg))).bind fun y10 =>
              some (y10.1, y10.2))))))))
def onX1_past (σ : ol_Xm) (x1 : Int32) : Option (Int32 × ol_Xm) :=
  ((oX1_refused σ 1).bind fun y1 =>
    some (y1.1, y1.2))
def onX1_idle (σ : ol_Xm) : Option (Int32 × ol_Xm) :=
  ((oX1_refused σ 1).bind fun y1 =>
    some (y1.1, y1.2))
def onX1_waiting (σ : ol_Xm) (x1 : Int32) : Option (Int32 × ol_Xm) :=
  ((onX1_isBoard σ x1).bind fun y1 =>
    (if y1 = 0 then
      ((oX1_refused σ 1).bind fun y3 =>
        some (y3.1, y3.2))
    else
      none))
def onX1_longest (σ : ol_Xm) : Option (Int32 × ol_Xm) :=
  ((oX1_refused σ 1).bind fun y1 =>
    some (y1.1, y1.2))
def onX1_ask (σ : ol_Xm) (x1 : Int32) (x2 : Int32) : Option (Int32 × ol_Xm) :=
  ((onX1_isBoard σ x1).bind fun y1 =>
    (if y1 = 0 then
      ((oX1_refused σ 1).bind fun y13 =>
        some (y13.1, y13.2))
    else
      ((oX1_isIn x2 1 99).bind fun y3 =>
        (if y3 = 0 then
          ((oX1_refused σ 2).bind fun y10 =>
            some (y10.1, y10.2))
        else
          ((oX3_hears σ 10 x1 x2).bind fun y5 =>
            (if y5.1 = 0 then
              ((oX1_refused y5.2 5).bind fun y7 =>
                some (y7.1, y7.2))
            else
              none))))))
def onX1_waits_L61 (x1 : Int32) (x2 : Int32)  (σ : ol_Xm) : Option (Int32 × ol_Xm) :=
  (ol_og (ol_in x1 6) (
    ((oX1_forgets σ).bind fun y2 =>
      (if x2 = (-1) then
        (ol_og (ol_in x1 6) (
          ((oX1_fine (ol_xs y2 (10 + 4) x1.toNatClampNeg (-2)) (σ.1 (10 + 4) x1.toNatClampNeg)).bind fun y8 =>
            some (y8.1, y8.2))))
      else
        (ol_og (ol_in x1 6) (
          ((oX1_fine (ol_xs y2 (10 + 4) x1.toNatClampNeg x2) (σ.1 (10 + 4) x1.toNatClampNeg)).bind fun y5 =>
            some (y5.1, y5.2))))))))
def onX1_waits_L27 (x1 : Int32) (x2 : Int32)  (σ : ol_Xm) : Option (Int32 × ol_Xm) :=
  (if x2 = x1 then
    ((oX1_refused σ 2).bind fun y7 =>
      some (y7.1, y7.2))
  else
    (if x2 = (-1) then
      onX1_waits_L61 x1 x2 σ
    else
      ((oX3_waitsFor σ 10 x2 x1).bind fun y1 =>
        (if y1 = 0 then
          onX1_waits_L61 x1 x2 σ
        else
          ((oX1_refused σ 5).bind fun y3 =>
            some (y3.1, y3.2))))))
def onX1_waits (σ : ol_Xm) (x1 : Int32) (x2 : Int32) : Option (Int32 × ol_Xm) :=
  ((onX1_isBoard σ x1).bind fun y1 =>
    (if y1 = 0 then
      ((oX1_refused σ 1).bind fun y9 =>
        some (y9.1, y9.2))
    else
      (if x2 = (-1) then
        onX1_waits_L27 x1 x2 σ
      else
        ((onX1_isBoard σ x2).bind fun y3 =>
          (if y3 = 0 then
            ((oX1_refused σ 2).bind fun y5 =>
              some (y5.1, y5.2))
          else
            onX1_waits_L27 x1 x2 σ)))))
def onX1_stick (σ : ol_Xm) (x1 : Int32) (x2 : Int32) : Option (Int32 × ol_Xm) :=
  ((oX1_refused σ 1).bind fun y1 =>
    some (y1.1, y1.2))
def onX1_size (σ : ol_Xm) (x1 : Int32) : Option Int32 :=
  (if x1 = 0 then
    some (σ.1 0 4)
  else
  (if x1 = 1 then
    some 0
  else
  (if x1 = 2 then
    (if (σ.1 0 10) = 0 then
      some 0
    else
      some 1)
  else
  (if x1 = 3 then
    some 0
  else
  some (-1)))))
def onX1_board (σ : ol_Xm) (x1 : Int32) (x2 : Int32) : Option (Int32 × ol_Xm) :=
  ((onX1_isBoard σ x1).bind fun y1 =>
    (if y1 = 0 then
      ((oX1_refused σ 1).bind fun y3 =>
        some (y3.1, y3.2))
    else
      none))
