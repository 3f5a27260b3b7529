/-! ROWS over ol_G, III -/
set_option maxRecDepth 100000
section OLT
variable {X : ol_Cx} {V : ol_Gh} {A : Nat → Prop} {cc : ByteArray} {own nm : String} {nL : Nat} {ret : Option FieldType} {md : Bool} {P : Option Value → va_W → Prop} {rm : Room} {cells slots : Nat} {ws : va_W} {pc : Nat} {L : List (Option Value)} {st : List Value}
theorem ol_topE {x y : Int32} (e : y = x) (k : ol_G X V A md P rm nL cells slots ws pc L (.int y :: st)) : ol_G X V A md P rm nL cells slots ws pc L (.int x :: st) := by subst e; exact k
theorem ol_ldcw (hX : ol_CX X V A cc own nm nL ret) {index : Nat} (v : Int32) (hd : decode cc pc = .ok (.ldc_w index, 3)) (hc : Cond.constant own index v ∈ lw_all) (k : ol_G X V A md P rm nL cells slots ws (pc + 3) L (.int v :: st)) : ol_G X V A md P rm nL cells slots ws pc L st := fun H locs ls hH hL => by
  intro T hT X0
  obtain ⟨t, a1, b1⟩ := k H locs ls hH hL T hT X0
  exact ⟨t, va_ldcwI X0 hX.x hX.ow (hX.ts _ hc) (g := F0 X.2.2.2.1 pc ls st) rfl (by rw [hX.b]; exact hd) t a1, b1⟩
end OLT
def ol_lt {α β : Type} (x : α) (f : α → Option β) : Option β := f x
theorem ol_of_lt {α β : Type} {x : α} {f : α → Option β} {z : β} (h : ol_lt x f = some z) : ∃ y, y = x ∧ f y = some z := ⟨x, rfl, h⟩
