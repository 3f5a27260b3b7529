/-! a word, called from the pass: any object whose 'of' answers wf -/
set_option maxRecDepth 100000
theorem ol_rpos {V : ol_Gh} {a : Nat → Nat} {r0 : Option Nat} {σ : ol_Xm} {ext : va_W} {r : Nat} (hr : ol_isr r) : (ol_Xc V a r0 σ ++ ext)[r]? = some (a r, .inr (3, ol_Rf a σ r)) := by
  rcases hr with rfl | rfl | rfl <;> rfl
def ol_WordRow (V : ol_Gh) (a : Nat → Nat) (r0 : Option Nat) (g : Nat → Nat → Nat) (β : ol_Bd) (ext : va_W) (wf : ol_Xm → Nat → Option Int32) (wa : Nat) : Prop :=
  ∀ (X : ol_Cx) (A : Nat → Prop), ol_CX X V A cX2_goes_2 RX2 "goes" 9 (some (.object "OpenLines$Pass")) → ∀ (P : Option Value → va_W → Prop) (rm : Room) (cells slots : Nat) (σ : ol_Xm) (i : Nat) (v : Int32) (L : List (Option Value)) (st : List Value), wf σ i = some v → i < ol_many β → 12 ≤ rm.frames → 600 ≤ rm.locals → (cells ≤ rm.cells ∧ slots ≤ rm.slots) → (st.map fun v => v.category).sum ≤ 8 →
    ol_G X V A true P rm 9 cells slots (ol_Xc V a r0 σ ++ (ol_WB V g β ++ ext)) 136 L (.int v :: st) → ol_G X V A true P rm 9 cells slots (ol_Xc V a r0 σ ++ (ol_WB V g β ++ ext)) 131 L (.ref (g 1 i) :: .ref wa :: st)
