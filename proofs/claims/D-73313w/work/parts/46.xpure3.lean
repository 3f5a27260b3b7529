/-! as it computes (printed by gen/xmodel.py) -/
set_option maxRecDepth 100000
def oX11_of (σ : ol_Xm) (β : ol_Bd) (bp : Nat) (x0 : Int32) (x1 : Nat) : Option Int32 :=
  (if x0 = 1 then
    ((oX1_firstWord σ β bp 10 x1).bind fun y3 =>
      some y3)
  else
    ((oX1_secondWord σ β x1).bind fun y1 =>
      some y1))
def oX12_of (σ : ol_Xm) (β : ol_Bd) (x1 : Nat) : Option Int32 :=
  ((oX1_secondWord σ β x1).bind fun y1 =>
    some y1)
def oX13_of (σ : ol_Xm) (β : ol_Bd) (r : Nat) (x1 : Nat) : Option Int32 :=
  (ol_og (ol_nb β x1) (
    (ol_og (ol_in (nI x1) 6) (
      some (σ.1 (r + 6) ((nI x1).toNatClampNeg))))))
