/-! as it computes (printed by gen/xmodel.py) -/
set_option maxRecDepth 100000
def oX3_passes_L195 (β : ol_Bd) (bp : Nat) (r : Nat) (wf : ol_Xm → Nat → Option Int32) (x1 : Int32)  (v4 : Int32) (σ : ol_Xm) : Option (Int32 × ol_Xm) :=
  ((oJ14_bitCount v4).bind fun y1 =>
    (if y1 = 1 then
      ((oJ14_numberOfTrailingZeros v4).bind fun y3 =>
        some (y3, σ))
    else
      some ((-2), σ)))
def oX3_passes_L98 (β : ol_Bd) (bp : Nat) (r : Nat) (wf : ol_Xm → Nat → Option Int32) (x1 : Int32)  (v3 : Int32) (σ : ol_Xm) : Option (Int32 × ol_Xm) :=
  (if v3 = 0 then
    some ((-2), σ)
  else
    (ol_og (decide (σ.2.1 r = some bp)) (
      (ol_og (decide (σ.2.1 r = some bp)) (
        ((oX2_goes σ β bp r (fun σ i => oX12_of σ β i) v3 (β.1 0 2)).bind fun y4 =>
          (ol_og (decide (y4.2.1 r = some bp)) (
            ((oX2_winners y4 β bp (β.1 0 2)).bind fun y7 =>
              (ol_og (decide ((ol_xs y4 r 23 y7).2.1 r = some bp)) (
                ((oX2_isFaulty (ol_xs y4 r 23 y7) β bp (β.1 0 2)).bind fun y10 =>
                  (if y10 = 0 then
                    oX3_passes_L195 β bp r wf x1 y7 (ol_xs y4 r 23 y7)
                  else
                    oX3_passes_L195 β bp r wf x1 y7 (ol_xs (ol_xs y4 r 23 y7) r 21 (((ol_xs y4 r 23 y7).1 r 21) + 1)))))))))))))))
def oX3_passes (σ : ol_Xm) (β : ol_Bd) (bp : Nat) (r : Nat) (wf : ol_Xm → Nat → Option Int32) (x1 : Int32) : Option (Int32 × ol_Xm) :=
  ((oX1_forgets σ).bind fun y1 =>
    (ol_og (decide ((ol_xs (ol_xs y1 r 21 0) r 23 0).2.1 r = some bp)) (
      (ol_og (decide ((ol_xs (ol_xs y1 r 21 0) r 23 0).2.1 r = some bp)) (
        ((oX2_goes (ol_xs (ol_xs y1 r 21 0) r 23 0) β bp r wf x1 (β.1 0 2)).bind fun y5 =>
          (ol_og (decide (y5.2.1 r = some bp)) (
            ((oX2_winners y5 β bp (β.1 0 2)).bind fun y8 =>
              (ol_og (decide ((ol_xs y5 r 22 y8).2.1 r = some bp)) (
                ((oX2_isFaulty (ol_xs y5 r 22 y8) β bp (β.1 0 2)).bind fun y11 =>
                  (if y11 = 0 then
                    oX3_passes_L98 β bp r wf x1 y8 (ol_xs y5 r 22 y8)
                  else
                    oX3_passes_L98 β bp r wf x1 y8 (ol_xs (ol_xs y5 r 22 y8) r 21 (((ol_xs y5 r 22 y8).1 r 21) + 1)))))))))))))))
