/-! without a bus, as it computes (printed by gen/xmodel.py) -/
set_option maxRecDepth 100000
def onX1_log (σ : ol_Xm) (x1 : Int32) (x2 : Int32) : Option (Int32 × ol_Xm) :=
  ((oX1_refused σ 1).bind fun y1 =>
    some (y1.1, y1.2))
def onX1_will (σ : ol_Xm) (x1 : Int32) (x2 : Int32) : Option (Int32 × ol_Xm) :=
  ((oX1_refused σ 1).bind fun y1 =>
    some (y1.1, y1.2))
def onX1_till (σ : ol_Xm) (x1 : Int32) : Option (Int32 × ol_Xm) :=
  ((onX1_isBoard σ x1).bind fun y1 =>
    (if y1 = 0 then
      ((oX1_refused σ 1).bind fun y3 =>
        some (y3.1, y3.2))
    else
      none))
def onX1_ticks (σ : ol_Xm) (x1 : Int32) : Option (Int32 × ol_Xm) :=
  ((oX1_refused σ 1).bind fun y1 =>
    some (y1.1, y1.2))
def onX1_keep_L23   (σ : ol_Xm) : Option (Int32 × ol_Xm) :=
  ((oX1_granted σ 0).bind fun y1 =>
    (ol_og (ol_zb y1.1) (some (y1.1, y1.2))))
def onX1_keep (σ : ol_Xm) : Option (Int32 × ol_Xm) :=
  onX1_keep_L23 σ
def onX1_back_L18   (σ : ol_Xm) : Option (Int32 × ol_Xm) :=
  ((oX1_forgets σ).bind fun y1 =>
    ((oX1_granted y1 (y1.1 0 10)).bind fun y3 =>
      (ol_og (ol_zb y3.1) (some (y3.1, y3.2)))))
def onX1_back (σ : ol_Xm) : Option (Int32 × ol_Xm) :=
  (if (σ.1 0 10) = 0 then
    onX1_back_L18 σ
  else
    none)
