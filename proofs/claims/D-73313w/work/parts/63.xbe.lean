/-! rows for Run.be, Run.begins, OpenLines.log -/
set_option maxRecDepth 100000
/-- a writer that knows of no log leaves the logs' picture -/
def ol_relog (σ y : ol_Xm) : ol_Xm := (y.1, y.2.1, σ.2.2)
/-- n values of cell c0 copied into cell c1 -/
def ol_xcpy (σ : ol_Xm) (c0 c1 n : Nat) : ol_Xm := (fun c2 => if c2 = c1 then va_cpy (σ.1 c0) (σ.1 c1) 0 0 n else σ.1 c2, σ.2)
section OLBE
variable {X : ol_Cx} {V : ol_Gh} {A : Nat → Prop} {cc : ByteArray} {own nm : String} {nL : Nat} {ret : Option FieldType} {md : Bool} {P : Option Value → va_W → Prop} {rm : Room} {cells slots : Nat} {ws : va_W} {pc : Nat} {L : List (Option Value)} {st stk : List Value} {a : Nat → Nat} {r0 : Option Nat} {σ : ol_Xm} {ext : va_W} {r r1 index : Nat}
theorem ol_Grelog {σ0 : ol_Xm} (k : ol_G X V A md P rm nL cells slots (ol_Xc V a r0 (ol_relog σ0 σ) ++ ext) pc L st) : ol_G X V A md P rm nL cells slots (ol_Xc V a r0 σ ++ ext) pc L st := k
/-- ints copied from one int[] to another, whole -/
theorem ol_copyI (hX : ol_CX X V A cc own nm nL ret) (q0 q1 t : Nat) {a0 a1 n : Nat} {x : Int32} {f g : Nat → Int32} {ty : FieldType} (hl : Cond.methodLink own index arraycopyName ∈ lw_all) (ha : ws[q0]? = some (a0, .inl (V.2.2.2.2 t, n, .inl f))) (hb : ws[q1]? = some (a1, .inl (V.2.2.2.2 t, n, .inl g))) (ht : (ol_tys V)[t]? = some (V.2.2.2.2 t, ty)) (hp : refKind ty = false) (hx : x.toNatClampNeg = n) (hx0 : ¬ x < 0) (hfit : ∀ i, i < n → fits ty (.int (f i)) = true) (hf : 1 ≤ rm.frames) (hlo : (st.map fun v => v.category).sum + 30 ≤ rm.locals) (hd : decode cc pc = .ok (.invokestatic index, 3)) {ws' : va_W} (hws : ws.set q1 (a1, .inl (V.2.2.2.2 t, n, .inl (va_cpy f g 0 0 n))) = ws') (k : ol_G X V A true P rm nL cells slots ws' (pc + 3) L st) : ol_G X V A true P rm nL cells slots ws pc L (.int x :: .int 0 :: .ref a1 :: .int 0 :: .ref a0 :: st) := fun H locs ls hH hL => by
  have z0 : (0 : Int32).toNatClampNeg = 0 := by decide
  subst hx
  refine va_copyi hX.x hX.b (by rw [hX.ml]; exact hL.1.symm) hX.ow (hX.ts _ hl) (hX.ts _ q1200) (hX.ts _ q1199) (hX.ts _ q133) hX.K hH.1 (hH.2.2 rfl).1 (hH.2.2 rfl).2 q0 q1 t t ha hb ht ht hp (by decide) (by decide) hx0 (by rw [z0]; omega) (by rw [z0]; omega) (fun i hi => by rw [z0, Nat.zero_add]; exact hfit i hi) hf (Nat.le_trans (Nat.add_le_add_left (by decide +kernel) _) hlo) hd (fun H1 locs1 hP hD hS => ?_)
  rw [z0] at hP hD
  subst hws
  exact k H1 locs1 ls ⟨hP, (fun h => by cases h), fun _ => ⟨hD, hS⟩⟩ hL
end OLBE
/-- all of the first n are 0 or 1 -/
def ol_zbs (f : Nat → Int32) (n : Nat) : Bool := (List.range n).all fun i => ol_zb (f i)
theorem ol_zbs_fit {f : Nat → Int32} {n : Nat} (h : ol_zbs f n = true) : ∀ i, i < n → fits .boolean (.int (f i)) = true := fun i hi => ol_zb_fit (List.all_eq_true.mp h i (List.mem_range.mpr hi))
theorem ol_xcp_1 {X : ol_Cx} {V : ol_Gh} {A : Nat → Prop} {cc : ByteArray} {own nm : String} {nL : Nat} {ret : Option FieldType} {P : Option Value → va_W → Prop} {rm : Room} {cells slots : Nat} {pc : Nat} {L : List (Option Value)} {st : List Value} {a : Nat → Nat} {r0 : Option Nat} {σ : ol_Xm} {ext : va_W} {r r1 index : Nat} (hX : ol_CX X V A cc own nm nL ret) (hr : ol_isr r) (hr1 : ol_isr r1) (hz : ol_zbs (σ.1 (r1 + 1)) 6 = true) (hl : Cond.methodLink own index arraycopyName ∈ lw_all) (hf : 1 ≤ rm.frames) (hlo : (st.map fun v => v.category).sum + 30 ≤ rm.locals) (hd : decode cc pc = .ok (.invokestatic index, 3)) (k : ol_G X V A true P rm nL cells slots (ol_Xc V a r0 (ol_xcpy σ (r1 + 1) (r + 1) 6) ++ ext) (pc + 3) L st) : ol_G X V A true P rm nL cells slots (ol_Xc V a r0 σ ++ ext) pc L (.int 6 :: .int 0 :: .ref (a (r + 1)) :: .int 0 :: .ref (a (r1 + 1)) :: st) := by
  rcases hr with rfl | rfl | rfl <;> rcases hr1 with rfl | rfl | rfl
  · exact ol_copyI hX 11 11 3 hl rfl rfl rfl rfl (by decide) (by decide) (ol_zbs_fit hz) hf hlo hd rfl k
  · exact ol_copyI hX 20 11 3 hl rfl rfl rfl rfl (by decide) (by decide) (ol_zbs_fit hz) hf hlo hd rfl k
  · exact ol_copyI hX 29 11 3 hl rfl rfl rfl rfl (by decide) (by decide) (ol_zbs_fit hz) hf hlo hd rfl k
  · exact ol_copyI hX 11 20 3 hl rfl rfl rfl rfl (by decide) (by decide) (ol_zbs_fit hz) hf hlo hd rfl k
  · exact ol_copyI hX 20 20 3 hl rfl rfl rfl rfl (by decide) (by decide) (ol_zbs_fit hz) hf hlo hd rfl k
  · exact ol_copyI hX 29 20 3 hl rfl rfl rfl rfl (by decide) (by decide) (ol_zbs_fit hz) hf hlo hd rfl k
  · exact ol_copyI hX 11 29 3 hl rfl rfl rfl rfl (by decide) (by decide) (ol_zbs_fit hz) hf hlo hd rfl k
  · exact ol_copyI hX 20 29 3 hl rfl rfl rfl rfl (by decide) (by decide) (ol_zbs_fit hz) hf hlo hd rfl k
  · exact ol_copyI hX 29 29 3 hl rfl rfl rfl rfl (by decide) (by decide) (ol_zbs_fit hz) hf hlo hd rfl k
theorem ol_xcp_2 {X : ol_Cx} {V : ol_Gh} {A : Nat → Prop} {cc : ByteArray} {own nm : String} {nL : Nat} {ret : Option FieldType} {P : Option Value → va_W → Prop} {rm : Room} {cells slots : Nat} {pc : Nat} {L : List (Option Value)} {st : List Value} {a : Nat → Nat} {r0 : Option Nat} {σ : ol_Xm} {ext : va_W} {r r1 index : Nat} (hX : ol_CX X V A cc own nm nL ret) (hr : ol_isr r) (hr1 : ol_isr r1) (hl : Cond.methodLink own index arraycopyName ∈ lw_all) (hf : 1 ≤ rm.frames) (hlo : (st.map fun v => v.category).sum + 30 ≤ rm.locals) (hd : decode cc pc = .ok (.invokestatic index, 3)) (k : ol_G X V A true P rm nL cells slots (ol_Xc V a r0 (ol_xcpy σ (r1 + 2) (r + 2) 6) ++ ext) (pc + 3) L st) : ol_G X V A true P rm nL cells slots (ol_Xc V a r0 σ ++ ext) pc L (.int 6 :: .int 0 :: .ref (a (r + 2)) :: .int 0 :: .ref (a (r1 + 2)) :: st) := by
  rcases hr with rfl | rfl | rfl <;> rcases hr1 with rfl | rfl | rfl
  · exact ol_copyI hX 12 12 0 hl rfl rfl rfl rfl (by decide) (by decide) (fun _ _ => rfl) hf hlo hd rfl k
  · exact ol_copyI hX 21 12 0 hl rfl rfl rfl rfl (by decide) (by decide) (fun _ _ => rfl) hf hlo hd rfl k
  · exact ol_copyI hX 30 12 0 hl rfl rfl rfl rfl (by decide) (by decide) (fun _ _ => rfl) hf hlo hd rfl k
  · exact ol_copyI hX 12 21 0 hl rfl rfl rfl rfl (by decide) (by decide) (fun _ _ => rfl) hf hlo hd rfl k
  · exact ol_copyI hX 21 21 0 hl rfl rfl rfl rfl (by decide) (by decide) (fun _ _ => rfl) hf hlo hd rfl k
  · exact ol_copyI hX 30 21 0 hl rfl rfl rfl rfl (by decide) (by decide) (fun _ _ => rfl) hf hlo hd rfl k
  · exact ol_copyI hX 12 30 0 hl rfl rfl rfl rfl (by decide) (by decide) (fun _ _ => rfl) hf hlo hd rfl k
  · exact ol_copyI hX 21 30 0 hl rfl rfl rfl rfl (by decide) (by decide) (fun _ _ => rfl) hf hlo hd rfl k
  · exact ol_copyI hX 30 30 0 hl rfl rfl rfl rfl (by decide) (by decide) (fun _ _ => rfl) hf hlo hd rfl k
theorem ol_xcp_3 {X : ol_Cx} {V : ol_Gh} {A : Nat → Prop} {cc : ByteArray} {own nm : String} {nL : Nat} {ret : Option FieldType} {P : Option Value → va_W → Prop} {rm : Room} {cells slots : Nat} {pc : Nat} {L : List (Option Value)} {st : List Value} {a : Nat → Nat} {r0 : Option Nat} {σ : ol_Xm} {ext : va_W} {r r1 index : Nat} (hX : ol_CX X V A cc own nm nL ret) (hr : ol_isr r) (hr1 : ol_isr r1) (hl : Cond.methodLink own index arraycopyName ∈ lw_all) (hf : 1 ≤ rm.frames) (hlo : (st.map fun v => v.category).sum + 30 ≤ rm.locals) (hd : decode cc pc = .ok (.invokestatic index, 3)) (k : ol_G X V A true P rm nL cells slots (ol_Xc V a r0 (ol_xcpy σ (r1 + 3) (r + 3) 6) ++ ext) (pc + 3) L st) : ol_G X V A true P rm nL cells slots (ol_Xc V a r0 σ ++ ext) pc L (.int 6 :: .int 0 :: .ref (a (r + 3)) :: .int 0 :: .ref (a (r1 + 3)) :: st) := by
  rcases hr with rfl | rfl | rfl <;> rcases hr1 with rfl | rfl | rfl
  · exact ol_copyI hX 13 13 0 hl rfl rfl rfl rfl (by decide) (by decide) (fun _ _ => rfl) hf hlo hd rfl k
  · exact ol_copyI hX 22 13 0 hl rfl rfl rfl rfl (by decide) (by decide) (fun _ _ => rfl) hf hlo hd rfl k
  · exact ol_copyI hX 31 13 0 hl rfl rfl rfl rfl (by decide) (by decide) (fun _ _ => rfl) hf hlo hd rfl k
  · exact ol_copyI hX 13 22 0 hl rfl rfl rfl rfl (by decide) (by decide) (fun _ _ => rfl) hf hlo hd rfl k
  · exact ol_copyI hX 22 22 0 hl rfl rfl rfl rfl (by decide) (by decide) (fun _ _ => rfl) hf hlo hd rfl k
  · exact ol_copyI hX 31 22 0 hl rfl rfl rfl rfl (by decide) (by decide) (fun _ _ => rfl) hf hlo hd rfl k
  · exact ol_copyI hX 13 31 0 hl rfl rfl rfl rfl (by decide) (by decide) (fun _ _ => rfl) hf hlo hd rfl k
  · exact ol_copyI hX 22 31 0 hl rfl rfl rfl rfl (by decide) (by decide) (fun _ _ => rfl) hf hlo hd rfl k
  · exact ol_copyI hX 31 31 0 hl rfl rfl rfl rfl (by decide) (by decide) (fun _ _ => rfl) hf hlo hd rfl k
theorem ol_xcp_4 {X : ol_Cx} {V : ol_Gh} {A : Nat → Prop} {cc : ByteArray} {own nm : String} {nL : Nat} {ret : Option FieldType} {P : Option Value → va_W → Prop} {rm : Room} {cells slots : Nat} {pc : Nat} {L : List (Option Value)} {st : List Value} {a : Nat → Nat} {r0 : Option Nat} {σ : ol_Xm} {ext : va_W} {r r1 index : Nat} (hX : ol_CX X V A cc own nm nL ret) (hr : ol_isr r) (hr1 : ol_isr r1) (hl : Cond.methodLink own index arraycopyName ∈ lw_all) (hf : 1 ≤ rm.frames) (hlo : (st.map fun v => v.category).sum + 30 ≤ rm.locals) (hd : decode cc pc = .ok (.invokestatic index, 3)) (k : ol_G X V A true P rm nL cells slots (ol_Xc V a r0 (ol_xcpy σ (r1 + 4) (r + 4) 6) ++ ext) (pc + 3) L st) : ol_G X V A true P rm nL cells slots (ol_Xc V a r0 σ ++ ext) pc L (.int 6 :: .int 0 :: .ref (a (r + 4)) :: .int 0 :: .ref (a (r1 + 4)) :: st) := by
  rcases hr with rfl | rfl | rfl <;> rcases hr1 with rfl | rfl | rfl
  · exact ol_copyI hX 14 14 0 hl rfl rfl rfl rfl (by decide) (by decide) (fun _ _ => rfl) hf hlo hd rfl k
  · exact ol_copyI hX 23 14 0 hl rfl rfl rfl rfl (by decide) (by decide) (fun _ _ => rfl) hf hlo hd rfl k
  · exact ol_copyI hX 32 14 0 hl rfl rfl rfl rfl (by decide) (by decide) (fun _ _ => rfl) hf hlo hd rfl k
  · exact ol_copyI hX 14 23 0 hl rfl rfl rfl rfl (by decide) (by decide) (fun _ _ => rfl) hf hlo hd rfl k
  · exact ol_copyI hX 23 23 0 hl rfl rfl rfl rfl (by decide) (by decide) (fun _ _ => rfl) hf hlo hd rfl k
  · exact ol_copyI hX 32 23 0 hl rfl rfl rfl rfl (by decide) (by decide) (fun _ _ => rfl) hf hlo hd rfl k
  · exact ol_copyI hX 14 32 0 hl rfl rfl rfl rfl (by decide) (by decide) (fun _ _ => rfl) hf hlo hd rfl k
  · exact ol_copyI hX 23 32 0 hl rfl rfl rfl rfl (by decide) (by decide) (fun _ _ => rfl) hf hlo hd rfl k
  · exact ol_copyI hX 32 32 0 hl rfl rfl rfl rfl (by decide) (by decide) (fun _ _ => rfl) hf hlo hd rfl k
theorem ol_xcp_5 {X : ol_Cx} {V : ol_Gh} {A : Nat → Prop} {cc : ByteArray} {own nm : String} {nL : Nat} {ret : Option FieldType} {P : Option Value → va_W → Prop} {rm : Room} {cells slots : Nat} {pc : Nat} {L : List (Option Value)} {st : List Value} {a : Nat → Nat} {r0 : Option Nat} {σ : ol_Xm} {ext : va_W} {r r1 index : Nat} (hX : ol_CX X V A cc own nm nL ret) (hr : ol_isr r) (hr1 : ol_isr r1) (hl : Cond.methodLink own index arraycopyName ∈ lw_all) (hf : 1 ≤ rm.frames) (hlo : (st.map fun v => v.category).sum + 30 ≤ rm.locals) (hd : decode cc pc = .ok (.invokestatic index, 3)) (k : ol_G X V A true P rm nL cells slots (ol_Xc V a r0 (ol_xcpy σ (r1 + 5) (r + 5) 6) ++ ext) (pc + 3) L st) : ol_G X V A true P rm nL cells slots (ol_Xc V a r0 σ ++ ext) pc L (.int 6 :: .int 0 :: .ref (a (r + 5)) :: .int 0 :: .ref (a (r1 + 5)) :: st) := by
  rcases hr with rfl | rfl | rfl <;> rcases hr1 with rfl | rfl | rfl
  · exact ol_copyI hX 15 15 0 hl rfl rfl rfl rfl (by decide) (by decide) (fun _ _ => rfl) hf hlo hd rfl k
  · exact ol_copyI hX 24 15 0 hl rfl rfl rfl rfl (by decide) (by decide) (fun _ _ => rfl) hf hlo hd rfl k
  · exact ol_copyI hX 33 15 0 hl rfl rfl rfl rfl (by decide) (by decide) (fun _ _ => rfl) hf hlo hd rfl k
  · exact ol_copyI hX 15 24 0 hl rfl rfl rfl rfl (by decide) (by decide) (fun _ _ => rfl) hf hlo hd rfl k
  · exact ol_copyI hX 24 24 0 hl rfl rfl rfl rfl (by decide) (by decide) (fun _ _ => rfl) hf hlo hd rfl k
  · exact ol_copyI hX 33 24 0 hl rfl rfl rfl rfl (by decide) (by decide) (fun _ _ => rfl) hf hlo hd rfl k
  · exact ol_copyI hX 15 33 0 hl rfl rfl rfl rfl (by decide) (by decide) (fun _ _ => rfl) hf hlo hd rfl k
  · exact ol_copyI hX 24 33 0 hl rfl rfl rfl rfl (by decide) (by decide) (fun _ _ => rfl) hf hlo hd rfl k
  · exact ol_copyI hX 33 33 0 hl rfl rfl rfl rfl (by decide) (by decide) (fun _ _ => rfl) hf hlo hd rfl k
theorem ol_xcp_6 {X : ol_Cx} {V : ol_Gh} {A : Nat → Prop} {cc : ByteArray} {own nm : String} {nL : Nat} {ret : Option FieldType} {P : Option Value → va_W → Prop} {rm : Room} {cells slots : Nat} {pc : Nat} {L : List (Option Value)} {st : List Value} {a : Nat → Nat} {r0 : Option Nat} {σ : ol_Xm} {ext : va_W} {r r1 index : Nat} (hX : ol_CX X V A cc own nm nL ret) (hr : ol_isr r) (hr1 : ol_isr r1) (hl : Cond.methodLink own index arraycopyName ∈ lw_all) (hf : 1 ≤ rm.frames) (hlo : (st.map fun v => v.category).sum + 30 ≤ rm.locals) (hd : decode cc pc = .ok (.invokestatic index, 3)) (k : ol_G X V A true P rm nL cells slots (ol_Xc V a r0 (ol_xcpy σ (r1 + 6) (r + 6) 6) ++ ext) (pc + 3) L st) : ol_G X V A true P rm nL cells slots (ol_Xc V a r0 σ ++ ext) pc L (.int 6 :: .int 0 :: .ref (a (r + 6)) :: .int 0 :: .ref (a (r1 + 6)) :: st) := by
  rcases hr with rfl | rfl | rfl <;> rcases hr1 with rfl | rfl | rfl
  · exact ol_copyI hX 16 16 0 hl rfl rfl rfl rfl (by decide) (by decide) (fun _ _ => rfl) hf hlo hd rfl k
  · exact ol_copyI hX 25 16 0 hl rfl rfl rfl rfl (by decide) (by decide) (fun _ _ => rfl) hf hlo hd rfl k
  · exact ol_copyI hX 34 16 0 hl rfl rfl rfl rfl (by decide) (by decide) (fun _ _ => rfl) hf hlo hd rfl k
  · exact ol_copyI hX 16 25 0 hl rfl rfl rfl rfl (by decide) (by decide) (fun _ _ => rfl) hf hlo hd rfl k
  · exact ol_copyI hX 25 25 0 hl rfl rfl rfl rfl (by decide) (by decide) (fun _ _ => rfl) hf hlo hd rfl k
  · exact ol_copyI hX 34 25 0 hl rfl rfl rfl rfl (by decide) (by decide) (fun _ _ => rfl) hf hlo hd rfl k
  · exact ol_copyI hX 16 34 0 hl rfl rfl rfl rfl (by decide) (by decide) (fun _ _ => rfl) hf hlo hd rfl k
  · exact ol_copyI hX 25 34 0 hl rfl rfl rfl rfl (by decide) (by decide) (fun _ _ => rfl) hf hlo hd rfl k
  · exact ol_copyI hX 34 34 0 hl rfl rfl rfl rfl (by decide) (by decide) (fun _ _ => rfl) hf hlo hd rfl k
theorem ol_xcp_7 {X : ol_Cx} {V : ol_Gh} {A : Nat → Prop} {cc : ByteArray} {own nm : String} {nL : Nat} {ret : Option FieldType} {P : Option Value → va_W → Prop} {rm : Room} {cells slots : Nat} {pc : Nat} {L : List (Option Value)} {st : List Value} {a : Nat → Nat} {r0 : Option Nat} {σ : ol_Xm} {ext : va_W} {r r1 index : Nat} (hX : ol_CX X V A cc own nm nL ret) (hr : ol_isr r) (hr1 : ol_isr r1) (hl : Cond.methodLink own index arraycopyName ∈ lw_all) (hf : 1 ≤ rm.frames) (hlo : (st.map fun v => v.category).sum + 30 ≤ rm.locals) (hd : decode cc pc = .ok (.invokestatic index, 3)) (k : ol_G X V A true P rm nL cells slots (ol_Xc V a r0 (ol_xcpy σ (r1 + 7) (r + 7) 36) ++ ext) (pc + 3) L st) : ol_G X V A true P rm nL cells slots (ol_Xc V a r0 σ ++ ext) pc L (.int 36 :: .int 0 :: .ref (a (r + 7)) :: .int 0 :: .ref (a (r1 + 7)) :: st) := by
  rcases hr with rfl | rfl | rfl <;> rcases hr1 with rfl | rfl | rfl
  · exact ol_copyI hX 17 17 0 hl rfl rfl rfl rfl (by decide) (by decide) (fun _ _ => rfl) hf hlo hd rfl k
  · exact ol_copyI hX 26 17 0 hl rfl rfl rfl rfl (by decide) (by decide) (fun _ _ => rfl) hf hlo hd rfl k
  · exact ol_copyI hX 35 17 0 hl rfl rfl rfl rfl (by decide) (by decide) (fun _ _ => rfl) hf hlo hd rfl k
  · exact ol_copyI hX 17 26 0 hl rfl rfl rfl rfl (by decide) (by decide) (fun _ _ => rfl) hf hlo hd rfl k
  · exact ol_copyI hX 26 26 0 hl rfl rfl rfl rfl (by decide) (by decide) (fun _ _ => rfl) hf hlo hd rfl k
  · exact ol_copyI hX 35 26 0 hl rfl rfl rfl rfl (by decide) (by decide) (fun _ _ => rfl) hf hlo hd rfl k
  · exact ol_copyI hX 17 35 0 hl rfl rfl rfl rfl (by decide) (by decide) (fun _ _ => rfl) hf hlo hd rfl k
  · exact ol_copyI hX 26 35 0 hl rfl rfl rfl rfl (by decide) (by decide) (fun _ _ => rfl) hf hlo hd rfl k
  · exact ol_copyI hX 35 35 0 hl rfl rfl rfl rfl (by decide) (by decide) (fun _ _ => rfl) hf hlo hd rfl k
theorem ol_xcp_8 {X : ol_Cx} {V : ol_Gh} {A : Nat → Prop} {cc : ByteArray} {own nm : String} {nL : Nat} {ret : Option FieldType} {P : Option Value → va_W → Prop} {rm : Room} {cells slots : Nat} {pc : Nat} {L : List (Option Value)} {st : List Value} {a : Nat → Nat} {r0 : Option Nat} {σ : ol_Xm} {ext : va_W} {r r1 index : Nat} (hX : ol_CX X V A cc own nm nL ret) (hr : ol_isr r) (hr1 : ol_isr r1) (hl : Cond.methodLink own index arraycopyName ∈ lw_all) (hf : 1 ≤ rm.frames) (hlo : (st.map fun v => v.category).sum + 30 ≤ rm.locals) (hd : decode cc pc = .ok (.invokestatic index, 3)) (k : ol_G X V A true P rm nL cells slots (ol_Xc V a r0 (ol_xcpy σ (r1 + 8) (r + 8) 64) ++ ext) (pc + 3) L st) : ol_G X V A true P rm nL cells slots (ol_Xc V a r0 σ ++ ext) pc L (.int 64 :: .int 0 :: .ref (a (r + 8)) :: .int 0 :: .ref (a (r1 + 8)) :: st) := by
  rcases hr with rfl | rfl | rfl <;> rcases hr1 with rfl | rfl | rfl
  · exact ol_copyI hX 18 18 0 hl rfl rfl rfl rfl (by decide) (by decide) (fun _ _ => rfl) hf hlo hd rfl k
  · exact ol_copyI hX 27 18 0 hl rfl rfl rfl rfl (by decide) (by decide) (fun _ _ => rfl) hf hlo hd rfl k
  · exact ol_copyI hX 36 18 0 hl rfl rfl rfl rfl (by decide) (by decide) (fun _ _ => rfl) hf hlo hd rfl k
  · exact ol_copyI hX 18 27 0 hl rfl rfl rfl rfl (by decide) (by decide) (fun _ _ => rfl) hf hlo hd rfl k
  · exact ol_copyI hX 27 27 0 hl rfl rfl rfl rfl (by decide) (by decide) (fun _ _ => rfl) hf hlo hd rfl k
  · exact ol_copyI hX 36 27 0 hl rfl rfl rfl rfl (by decide) (by decide) (fun _ _ => rfl) hf hlo hd rfl k
  · exact ol_copyI hX 18 36 0 hl rfl rfl rfl rfl (by decide) (by decide) (fun _ _ => rfl) hf hlo hd rfl k
  · exact ol_copyI hX 27 36 0 hl rfl rfl rfl rfl (by decide) (by decide) (fun _ _ => rfl) hf hlo hd rfl k
  · exact ol_copyI hX 36 36 0 hl rfl rfl rfl rfl (by decide) (by decide) (fun _ _ => rfl) hf hlo hd rfl k
/-- the picture of a log that is empty -/
def ol_lgClr (F : Nat → Int32) : Nat → Int32 := fun k => if k = 0 then 0 else F k
theorem ol_RelClr {gh : ol_Lh} {σ : ol_Xm} {r : Nat} {m : Int32} {f : Nat → Option Nat} (h : ol_Rel gh σ.2.2) : ol_Rel (ol_ghU gh r m f gh.2.2) (ol_lgU σ r (ol_lgClr (σ.2.2 r))).2.2 := by
  have e0 : ol_lgClr (σ.2.2 r) 0 = 0 := rfl
  refine ol_RelU h (fun _ h => h) ⟨by rw [e0]; decide, fun i hi => ?_⟩
  rw [e0] at hi
  exact absurd hi (Nat.not_lt_zero i)
theorem ol_lgUU {σ : ol_Xm} {r : Nat} {F G : Nat → Int32} : ol_lgU (ol_lgU σ r F) r G = ol_lgU σ r G := by
  unfold ol_lgU
  simp only [Prod.mk.injEq, true_and]
  funext ρ
  by_cases e : ρ = r
  · rw [if_pos e, if_pos e]
  · rw [if_neg e, if_neg e, if_neg e]
/-- log.clear -/
theorem ol_logClear {X : ol_Cx} {V : ol_Gh} {A : Nat → Prop} {cc : ByteArray} {own nm : String} {nL : Nat} {ret : Option FieldType} {P : Option Value → va_W → Prop} {rm : Room} {cells slots : Nat} {pc : Nat} {L : List (Option Value)} {st : List Value} {a : Nat → Nat} {r0 : Option Nat} {σ : ol_Xm} {ext B : va_W} {r index : Nat} {gh : ol_Lh} (hX : ol_CX X V A cc own nm nL ret) (hr : ol_isr r) (hg : ol_Rel gh σ.2.2) (hl : Cond.methodLink own index yJ2_clear ∈ lw_all) (hf : 1 ≤ rm.frames) (hlo : 30 ≤ rm.locals) (hcs : cells ≤ rm.cells ∧ slots ≤ rm.slots) (hst : (st.map fun v => v.category).sum ≤ 8) (hd : decode cc pc = .ok (.invokevirtual index, 3)) (k : ∀ gh2 : ol_Lh, ol_Rel gh2 (ol_lgU σ r (ol_lgClr (σ.2.2 r))).2.2 → ol_G X V A true P rm nL cells slots (ol_Xc V a r0 (ol_lgU σ r (ol_lgClr (σ.2.2 r))) ++ (B ++ (ol_WL V a gh2 (ol_lgU σ r (ol_lgClr (σ.2.2 r))).2.2 ++ ext))) (pc + 3) L st) : ol_G X V A true P rm nL cells slots (ol_Xc V a r0 σ ++ (B ++ (ol_WL V a gh σ.2.2 ++ ext))) pc L (.ref (a (r + 30)) :: st) := by
  obtain ⟨⟨h1, h2⟩, h3⟩ := hg r hr
  have e : (σ.2.2 r 0).toNatClampNeg = (σ.2.2 r 0).toInt.toNat := rfl
  refine ol_Gperm (ol_Lperm0 hr _ _ _) ?_
  refine ol_cVf (As := []) hX (wJ2_clear V (a (r + 30)) (a (r + 31)) 16 (gh.1 r) (σ.2.2 r 0) (gh.2.1 r) _ h1 (by omega)) (lw_V hl q1428 q1429 q107 q1430) dcJ2_clear ⟨Nat.le_trans (Nat.le_of_ble_eq_true rfl) hf, Nat.le_trans (Nat.le_of_ble_eq_true rfl) hlo⟩ List.mem_cons_self rfl hcs hst hd rfl (fun v w hp => ?_)
  obtain ⟨f', rfl, rfl⟩ := hp
  refine ol_Gperm (ol_Lback (E := gh.2.2) (F := ol_lgClr (σ.2.2 r)) hr rfl _ _) ?_
  exact k _ (ol_RelClr hg)
/-- the size of a log -/
theorem ol_logSize {X : ol_Cx} {V : ol_Gh} {A : Nat → Prop} {cc : ByteArray} {own nm : String} {nL : Nat} {ret : Option FieldType} {P : Option Value → va_W → Prop} {md : Bool} {rm : Room} {cells slots : Nat} {pc : Nat} {L : List (Option Value)} {st : List Value} {a : Nat → Nat} {r0 : Option Nat} {σ : ol_Xm} {ext B : va_W} {r index : Nat} {gh : ol_Lh} {lg : Nat → Nat → Int32} (hX : ol_CX X V A cc own nm nL ret) (hr : ol_isr r) (hl : Cond.methodLink own index yJ2_size ∈ lw_all) (hf : 1 ≤ rm.frames) (hlo : 30 ≤ rm.locals) (hcs : cells ≤ rm.cells ∧ slots ≤ rm.slots) (hst : (st.map fun v => v.category).sum ≤ 8) (hd : decode cc pc = .ok (.invokevirtual index, 3)) (k : ol_G X V A md P rm nL cells slots (ol_Xc V a r0 σ ++ (B ++ (ol_WL V a gh lg ++ ext))) (pc + 3) L (.int (lg r 0) :: st)) : ol_G X V A md P rm nL cells slots (ol_Xc V a r0 σ ++ (B ++ (ol_WL V a gh lg ++ ext))) pc L (.ref (a (r + 30)) :: st) :=
  ol_cVrM (As := []) hX (wJ2_size V _ _ _ _ _ (ol_WLmem hr List.mem_cons_self)) (lw_V hl q717 q718 q107 q719) dcJ2_size ⟨rfl, rfl⟩ ⟨Nat.le_trans (Nat.le_of_ble_eq_true rfl) hf, Nat.le_trans (Nat.le_of_ble_eq_true rfl) hlo⟩ (ol_WLmem hr List.mem_cons_self) rfl (fun _ h => h) hcs hst hd rfl k
/-- a place in a log -/
def ol_il (lg : Nat → Nat → Int32) (r : Nat) (x : Int32) : Bool := decide (0 ≤ x.toInt) && decide (x.toInt < (lg r 0).toInt)
theorem ol_WLent {V : ol_Gh} {a : Nat → Nat} {gh : ol_Lh} {lg : Nat → Nat → Int32} {X B ext : va_W} {e : Nat × (Nat → Int32)} (he : e ∈ gh.2.2) : ol_ent e ∈ X ++ (B ++ (ol_WL V a gh lg ++ ext)) :=
  List.mem_append_right _ (List.mem_append_right _ (List.mem_append_left _ (List.mem_append_right _ (List.mem_append_right _ (List.mem_append_right _ (List.mem_map.mpr ⟨e, he, rfl⟩))))))
/-- log.get -/
theorem ol_logGet {X : ol_Cx} {V : ol_Gh} {A : Nat → Prop} {cc : ByteArray} {own nm : String} {nL : Nat} {ret : Option FieldType} {P : Option Value → va_W → Prop} {md : Bool} {rm : Room} {cells slots : Nat} {pc : Nat} {L : List (Option Value)} {st : List Value} {a : Nat → Nat} {r0 : Option Nat} {σ : ol_Xm} {ext B : va_W} {r index : Nat} {gh : ol_Lh} {lg : Nat → Nat → Int32} {x : Int32} (hX : ol_CX X V A cc own nm nL ret) (hr : ol_isr r) (hg : ol_Rel gh lg) (hx : ol_il lg r x = true) (hl : Cond.methodLink own index yJ2_get ∈ lw_all) (hf : 3 ≤ rm.frames) (hlo : 80 ≤ rm.locals) (hcs : cells ≤ rm.cells ∧ slots ≤ rm.slots) (hst : (st.map fun v => v.category).sum ≤ 8) (hd : decode cc pc = .ok (.invokevirtual index, 3)) (k : ∀ e : Nat × (Nat → Int32), e ∈ gh.2.2 → (∀ k, k < 6 → e.2 k = lg r (1 + 6 * x.toNatClampNeg + k)) → ol_G X V A md P rm nL cells slots (ol_Xc V a r0 σ ++ (B ++ (ol_WL V a gh lg ++ ext))) (pc + 3) L (.ref e.1 :: st)) : ol_G X V A md P rm nL cells slots (ol_Xc V a r0 σ ++ (B ++ (ol_WL V a gh lg ++ ext))) pc L (.int x :: .ref (a (r + 30)) :: st) := by
  obtain ⟨⟨h1, h2⟩, h3⟩ := hg r hr
  simp only [ol_il, Bool.and_eq_true, decide_eq_true_eq] at hx
  obtain ⟨x0, x1⟩ := hx
  have ex : x.toNatClampNeg = x.toInt.toNat := rfl
  have en : (lg r 0).toNatClampNeg = (lg r 0).toInt.toNat := rfl
  obtain ⟨e, g1, g2, g3⟩ := h3 x.toNatClampNeg (by omega)
  have hc := wJ2_get V (ol_Xc V a r0 σ ++ (B ++ (ol_WL V a gh lg ++ ext))) _ _ _ _ _ _ (ol_WLmem hr List.mem_cons_self) (ol_WLmem hr (List.mem_cons_of_mem _ List.mem_cons_self)) x (vp_in_iff.mpr ⟨x0, by omega⟩) (fun q => by
    have := Int32.lt_iff_toInt_lt.mp q
    have e0 : (0 : Int32).toInt = 0 := rfl
    omega) (Int32.lt_iff_toInt_lt.mpr x1)
  rw [g2] at hc
  exact ol_cVrM (As := [.int x]) hX hc (lw_V hl q739 q740 q107 q741) dcJ2_get ⟨rfl, rfl⟩ ⟨Nat.le_trans (Nat.le_of_ble_eq_true rfl) hf, Nat.le_trans (Nat.le_of_ble_eq_true rfl) hlo⟩ (ol_WLmem hr List.mem_cons_self) rfl (fun _ h => h) hcs hst hd rfl (k e g1 g3)
theorem ol_RelAdd {gh : ol_Lh} {σ : ol_Xm} {r : Nat} {m : Int32} {e : Nat × (Nat → Int32)} (hr : ol_isr r) (h : ol_Rel gh σ.2.2) (he : e ∈ gh.2.2) (h16 : (σ.2.2 r 0).toInt < 16) : ol_Rel (ol_ghU gh r m (va_up (gh.2.1 r) (σ.2.2 r 0).toNatClampNeg (some e.1)) gh.2.2) (ol_lgU σ r (ol_lgPut (σ.2.2 r) e.2)).2.2 := by
  obtain ⟨⟨h1, h2⟩, h3⟩ := h r hr
  obtain ⟨s1, s2⟩ := ol_i_succ h1 h16
  have e0 : ol_lgPut (σ.2.2 r) e.2 0 = σ.2.2 r 0 + 1 := rfl
  refine ol_RelU h (fun _ h => h) ⟨⟨by rw [e0, s1]; omega, by rw [e0, s1]; omega⟩, fun i hi => ?_⟩
  rw [e0, s2] at hi
  by_cases hi2 : i = (σ.2.2 r 0).toNatClampNeg
  · refine ⟨e, he, by rw [hi2]; simp [va_up], fun k hk => ?_⟩
    show e.2 k = ol_lgPut _ _ _
    unfold ol_lgPut
    rw [if_neg (by omega), if_pos (by omega)]
    exact congrArg e.2 (by omega)
  · obtain ⟨y, g1, g2, g3⟩ := h3 i (by omega)
    refine ⟨y, g1, by unfold va_up; rw [if_neg hi2]; exact g2, fun k hk => ?_⟩
    rw [g3 k hk]
    unfold ol_lgPut
    rw [if_neg (by omega), if_neg (by omega)]
/-- log.add of an entry that is there -/
theorem ol_logAdd {X : ol_Cx} {V : ol_Gh} {A : Nat → Prop} {cc : ByteArray} {own nm : String} {nL : Nat} {ret : Option FieldType} {P : Option Value → va_W → Prop} {rm : Room} {cells slots : Nat} {pc : Nat} {L : List (Option Value)} {st : List Value} {a : Nat → Nat} {r0 : Option Nat} {σ : ol_Xm} {ext B : va_W} {r index : Nat} {gh : ol_Lh} {e : Nat × (Nat → Int32)} (hX : ol_CX X V A cc own nm nL ret) (hr : ol_isr r) (hg : ol_Rel gh σ.2.2) (he : e ∈ gh.2.2) (h16 : (σ.2.2 r 0).toInt < 16) (hl : Cond.methodLink own index yJ2_add ∈ lw_all) (hf : 2 ≤ rm.frames) (hlo : 50 ≤ rm.locals) (hcs : cells ≤ rm.cells ∧ slots ≤ rm.slots) (hst : (st.map fun v => v.category).sum ≤ 8) (hd : decode cc pc = .ok (.invokevirtual index, 3)) (k : ∀ gh2 : ol_Lh, ol_Rel gh2 (ol_lgU σ r (ol_lgPut (σ.2.2 r) e.2)).2.2 → ol_G X V A true P rm nL cells slots (ol_Xc V a r0 (ol_lgU σ r (ol_lgPut (σ.2.2 r) e.2)) ++ (B ++ (ol_WL V a gh2 (ol_lgU σ r (ol_lgPut (σ.2.2 r) e.2)).2.2 ++ ext))) (pc + 3) L (.int 1 :: st)) : ol_G X V A true P rm nL cells slots (ol_Xc V a r0 σ ++ (B ++ (ol_WL V a gh σ.2.2 ++ ext))) pc L (.ref e.1 :: .ref (a (r + 30)) :: st) := by
  obtain ⟨⟨h1, h2⟩, h3⟩ := hg r hr
  have en : (σ.2.2 r 0).toNatClampNeg = (σ.2.2 r 0).toInt.toNat := rfl
  obtain ⟨l1, l2, hE⟩ := List.append_of_mem he
  have hp : (gh.2.2.map ol_ent).Perm (ol_ent e :: (l1 ++ l2).map ol_ent) := by
    rw [hE, ← List.map_cons]
    exact List.Perm.map _ List.perm_middle
  refine ol_Gperm (ol_Lperm0 hr _ _ _) ?_
  refine ol_Gperm (List.Perm.append_left _ ((hp.cons _).cons _)) ?_
  refine ol_cVf (As := [.ref e.1]) hX (wJ2_add V (a (r + 30)) (a (r + 31)) 16 e.1 12 6 RX14 TX14 (gh.1 r) (σ.2.2 r 0) (gh.2.1 r) _ _ rfl q2679 (vp_in_iff.mpr ⟨h1, h16⟩) (fun e => by rw [e] at h16; revert h16; decide)) (lw_V hl q1163 q1164 q107 q1165) dcJ2_add ⟨Nat.le_trans (Nat.le_of_ble_eq_true rfl) hf, Nat.le_trans (Nat.le_of_ble_eq_true rfl) hlo⟩ List.mem_cons_self rfl hcs hst hd rfl (fun v w hp => ?_)
  obtain ⟨rfl, rfl⟩ := hp
  refine ol_Gperm (List.Perm.append_left _ ((hp.symm.cons _).cons _)) ?_
  refine ol_Gperm (ol_Lback (E := gh.2.2) (F := ol_lgPut (σ.2.2 r) e.2) hr rfl _ _) ?_
  exact k _ (ol_RelAdd hr hg he h16)
/-- the part of Run.be that copies the log -/
theorem ol_beLog_end {X : ol_Cx} {V : ol_Gh} {A : Nat → Prop} {P : Option Value → va_W → Prop} {rm : Room} {cells slots : Nat} {a : Nat → Nat} {r0 : Option Nat} {σ : ol_Xm} {ext B : va_W} {r r1 : Nat} (hX : ol_CX X V A cX3_be RX3 "be" 3 none) (hr : ol_isr r) (hr1 : ol_isr r1) (hne : ¬ r = r1) (hf : 3 ≤ rm.frames) (hlo : 100 ≤ rm.locals) (hcs : cells ≤ rm.cells ∧ slots ≤ rm.slots) (k : ∀ gh2 : ol_Lh, ol_Rel gh2 (ol_lgU σ r (σ.2.2 r1)).2.2 → ol_G X V A true P rm 3 cells slots (ol_Xc V a r0 (ol_lgU σ r (σ.2.2 r1)) ++ (B ++ (ol_WL V a gh2 (ol_lgU σ r (σ.2.2 r1)).2.2 ++ ext))) 158 [some (.ref (a r)), some (.ref (a r1)), none] []) (F : Nat → Int32) (gh : ol_Lh) (hg : ol_Rel gh (ol_lgU σ r F).2.2) (e0 : F 0 = σ.2.2 r1 0) (hF : ∀ j k, j < (F 0).toNatClampNeg → k < 6 → F (1 + 6 * j + k) = σ.2.2 r1 (1 + 6 * j + k)) : ol_G X V A true P rm 3 cells slots (ol_Xc V a r0 (ol_lgU σ r F) ++ (B ++ (ol_WL V a gh (ol_lgU σ r F).2.2 ++ ext))) 122 [some (.ref (a r)), some (.ref (a r1)), some (.int (F 0))] [] := by
  have es : (ol_lgU σ r F).2.2 r1 = σ.2.2 r1 := if_neg (fun e => hne e.symm)
  have er : (ol_lgU σ r F).2.2 r = F := if_pos rfl
  refine ol_iload_n hX (pc := 122) dX3_be_122 rfl rfl ?_
  refine ol_aload_n hX (pc := 123) dX3_be_123 rfl rfl ?_
  refine ol_xg_R_19 hX (pc := 124) hr1 q282 dX3_be_124 ?_
  refine ol_logSize hX (pc := 127) hr1 q1834 (Nat.le_trans (Nat.le_of_ble_eq_true rfl) hf) (Nat.le_trans (Nat.le_of_ble_eq_true rfl) hlo) hcs (Nat.le_of_ble_eq_true rfl) dX3_be_127 ?_
  rw [es]
  refine ol_icmp_ge hX (pc := 130) 158 dX3_be_130 (by decide) (fun c => ?_) (fun c => absurd (Int32.le_iff_toInt_le.mpr (by rw [e0]; exact Int.le_refl _)) c)
  refine ol_Gdrop 2 ?_
  have hlg : ∀ ρ, (ol_lgU σ r F).2.2 ρ 0 = (ol_lgU σ r (σ.2.2 r1)).2.2 ρ 0 := by
    intro ρ
    show (if ρ = r then F else σ.2.2 ρ) 0 = (if ρ = r then σ.2.2 r1 else σ.2.2 ρ) 0
    by_cases e : ρ = r
    · rw [if_pos e, if_pos e]; exact e0
    · rw [if_neg e, if_neg e]
  have e1 : ol_WL V a gh (ol_lgU σ r F).2.2 = ol_WL V a gh (ol_lgU σ r (σ.2.2 r1)).2.2 := by
    unfold ol_WL ol_Lc
    rw [hlg 10, hlg 19, hlg 28]
  rw [e1]
  refine k gh ?_
  intro ρ hρ
  obtain ⟨g1, g2⟩ := hg ρ hρ
  rw [← hlg ρ]
  refine ⟨g1, fun i hi => ?_⟩
  obtain ⟨y, g3, g4, g5⟩ := g2 i hi
  refine ⟨y, g3, g4, fun k' hk' => ?_⟩
  rw [g5 k' hk']
  show (if ρ = r then F else σ.2.2 ρ) _ = (if ρ = r then σ.2.2 r1 else σ.2.2 ρ) _
  by_cases e : ρ = r
  · rw [if_pos e, if_pos e]
    subst e
    rw [er] at hi
    exact hF i k' hi hk'
  · rw [if_neg e, if_neg e]
theorem ol_beLog_L122 {X : ol_Cx} {V : ol_Gh} {A : Nat → Prop} {P : Option Value → va_W → Prop} {rm : Room} {cells slots : Nat} {a : Nat → Nat} {r0 : Option Nat} {σ : ol_Xm} {ext B : va_W} {r r1 : Nat} (hX : ol_CX X V A cX3_be RX3 "be" 3 none) (hr : ol_isr r) (hr1 : ol_isr r1) (hne : ¬ r = r1) (hf : 3 ≤ rm.frames) (hlo : 100 ≤ rm.locals) (hcs : cells ≤ rm.cells ∧ slots ≤ rm.slots) (k : ∀ gh2 : ol_Lh, ol_Rel gh2 (ol_lgU σ r (σ.2.2 r1)).2.2 → ol_G X V A true P rm 3 cells slots (ol_Xc V a r0 (ol_lgU σ r (σ.2.2 r1)) ++ (B ++ (ol_WL V a gh2 (ol_lgU σ r (σ.2.2 r1)).2.2 ++ ext))) 158 [some (.ref (a r)), some (.ref (a r1)), none] []) : ∀ (n : Nat) (F : Nat → Int32) (gh : ol_Lh), ol_Rel gh (ol_lgU σ r F).2.2 → (σ.2.2 r1 0).toInt - (F 0).toInt ≤ n → (F 0).toInt ≤ (σ.2.2 r1 0).toInt → (∀ j k, j < (F 0).toNatClampNeg → k < 6 → F (1 + 6 * j + k) = σ.2.2 r1 (1 + 6 * j + k)) → ol_G X V A true P rm 3 cells slots (ol_Xc V a r0 (ol_lgU σ r F) ++ (B ++ (ol_WL V a gh (ol_lgU σ r F).2.2 ++ ext))) 122 [some (.ref (a r)), some (.ref (a r1)), some (.int (F 0))] [] := by
  intro n
  induction n with
  | zero =>
    intro F gh hg hn hle hF
    exact ol_beLog_end hX hr hr1 hne hf hlo hcs k F gh hg (Int32.toInt_inj.mp (by omega)) hF
  | succ n ih =>
    intro F gh hg hn hle hF
    have es : (ol_lgU σ r F).2.2 r1 = σ.2.2 r1 := if_neg (fun e => hne e.symm)
    have er : (ol_lgU σ r F).2.2 r = F := if_pos rfl
    obtain ⟨⟨h1, h2⟩, -⟩ := hg r hr
    obtain ⟨⟨h3, h4⟩, -⟩ := hg r1 hr1
    rw [er] at h1 h2
    rw [es] at h3 h4
    by_cases hlt : (F 0).toInt = (σ.2.2 r1 0).toInt
    · exact ol_beLog_end hX hr hr1 hne hf hlo hcs k F gh hg (Int32.toInt_inj.mp hlt) hF
    · have h16 : (F 0).toInt < 16 := by omega
      obtain ⟨s1, s2⟩ := ol_i_succ h1 h16
      have en : (F 0).toNatClampNeg = (F 0).toInt.toNat := rfl
      refine ol_iload_n hX (pc := 122) dX3_be_122 rfl rfl ?_
      refine ol_aload_n hX (pc := 123) dX3_be_123 rfl rfl ?_
      refine ol_xg_R_19 hX (pc := 124) hr1 q282 dX3_be_124 ?_
      refine ol_logSize hX (pc := 127) hr1 q1834 (Nat.le_trans (Nat.le_of_ble_eq_true rfl) hf) (Nat.le_trans (Nat.le_of_ble_eq_true rfl) hlo) hcs (Nat.le_of_ble_eq_true rfl) dX3_be_127 ?_
      rw [es]
      refine ol_icmp_ge hX (pc := 130) 158 dX3_be_130 (by decide) (fun c => absurd (Int32.le_iff_toInt_le.mp c) (by omega)) (fun c => ?_)
      refine ol_aload_n hX (pc := 133) dX3_be_133 rfl rfl ?_
      refine ol_xg_R_19 hX (pc := 134) hr q282 dX3_be_134 ?_
      refine ol_aload_n hX (pc := 137) dX3_be_137 rfl rfl ?_
      refine ol_xg_R_19 hX (pc := 138) hr1 q282 dX3_be_138 ?_
      refine ol_iload_n hX (pc := 141) dX3_be_141 rfl rfl ?_
      refine ol_logGet hX (pc := 142) hr1 hg (by rw [ol_il, es]; simp only [Bool.and_eq_true, decide_eq_true_eq]; omega) q1835 hf (Nat.le_trans (Nat.le_of_ble_eq_true rfl) hlo) hcs (Nat.le_of_ble_eq_true rfl) dX3_be_142 (fun e he hk => ?_)
      rw [es] at hk
      refine ol_castS hX (pc := 145) q1836 (ol_WLent he) rfl dX3_be_145 ?_
      refine ol_logAdd hX (pc := 148) hr hg he (by rw [er]; exact h16) q1837 (Nat.le_trans (Nat.le_of_ble_eq_true rfl) hf) (Nat.le_trans (Nat.le_of_ble_eq_true rfl) hlo) hcs (Nat.le_of_ble_eq_true rfl) dX3_be_148 (fun gh2 hg2 => ?_)
      rw [er, ol_lgUU] at hg2
      rw [er, ol_lgUU]
      refine ol_pop hX (pc := 151) dX3_be_151 rfl ?_
      refine ol_iinc hX (pc := 152) (F 0 + 1) [some (.ref (a r)), some (.ref (a r1)), some (.int (F 0 + 1))] dX3_be_152 rfl rfl (by decide) rfl rfl ?_
      refine ol_goto hX (pc := 155) 122 dX3_be_155 (by decide) ?_
      have e0 : ol_lgPut F e.2 0 = F 0 + 1 := rfl
      refine ih (ol_lgPut F e.2) gh2 hg2 (by rw [e0, s1]; omega) (by rw [e0, s1]; omega) (fun j k' hj hk' => ?_)
      rw [e0, s2] at hj
      unfold ol_lgPut
      rw [if_neg (by omega)]
      by_cases hj2 : j = (F 0).toNatClampNeg
      · subst hj2
        rw [if_pos (by omega), ← hk k' hk']
        exact congrArg e.2 (by omega)
      · rw [if_neg (by omega)]
        exact hF j k' (by omega) hk'
theorem ol_beLog {X : ol_Cx} {V : ol_Gh} {A : Nat → Prop} {P : Option Value → va_W → Prop} {rm : Room} {cells slots : Nat} {a : Nat → Nat} {r0 : Option Nat} {σ : ol_Xm} {ext B : va_W} {r r1 : Nat} {gh : ol_Lh} (hX : ol_CX X V A cX3_be RX3 "be" 3 none) (hr : ol_isr r) (hr1 : ol_isr r1) (hne : ¬ r = r1) (hg : ol_Rel gh σ.2.2) (hf : 3 ≤ rm.frames) (hlo : 100 ≤ rm.locals) (hcs : cells ≤ rm.cells ∧ slots ≤ rm.slots) (k : ∀ gh2 : ol_Lh, ol_Rel gh2 (ol_lgU σ r (σ.2.2 r1)).2.2 → ol_G X V A true P rm 3 cells slots (ol_Xc V a r0 (ol_lgU σ r (σ.2.2 r1)) ++ (B ++ (ol_WL V a gh2 (ol_lgU σ r (σ.2.2 r1)).2.2 ++ ext))) 158 [some (.ref (a r)), some (.ref (a r1)), none] []) : ol_G X V A true P rm 3 cells slots (ol_Xc V a r0 σ ++ (B ++ (ol_WL V a gh σ.2.2 ++ ext))) 113 [some (.ref (a r)), some (.ref (a r1)), none] [] := by
  obtain ⟨⟨h3, h4⟩, -⟩ := hg r1 hr1
  refine ol_aload_n hX (pc := 113) dX3_be_113 rfl rfl ?_
  refine ol_xg_R_19 hX (pc := 114) hr q282 dX3_be_114 ?_
  refine ol_logClear hX (pc := 117) hr hg q1427 (Nat.le_trans (Nat.le_of_ble_eq_true rfl) hf) (Nat.le_trans (Nat.le_of_ble_eq_true rfl) hlo) hcs (Nat.le_of_ble_eq_true rfl) dX3_be_117 (fun gh2 hg2 => ?_)
  refine ol_iconst hX (pc := 120) 0 dX3_be_120 (by decide) ?_
  refine ol_istore_n hX (pc := 121) [some (.ref (a r)), some (.ref (a r1)), some (.int 0)] dX3_be_121 rfl (by decide) rfl rfl ?_
  have e0 : ol_lgClr (σ.2.2 r) 0 = 0 := rfl
  have z0 : (0 : Int32).toInt = 0 := rfl
  exact ol_beLog_L122 hX hr hr1 hne hf hlo hcs k 16 (ol_lgClr (σ.2.2 r)) gh2 hg2 (by rw [e0, z0]; omega) (by rw [e0, z0]; exact h3) (fun j k hj _ => by rw [e0] at hj; exact absurd hj (Nat.not_lt_zero j))
theorem ol_Gnm {X : ol_Cx} {V : ol_Gh} {A : Nat → Prop} {nL : Nat} {P : Option Value → va_W → Prop} {md : Bool} {rm : Room} {cells slots : Nat} {pc : Nat} {L : List (Option Value)} {st : List Value} {a : Nat → Nat} {r0 : Option Nat} {ext B : va_W} {gh : ol_Lh} {x y : ol_Xm} (e : y = x) (k : ol_G X V A md P rm nL cells slots (ol_Xc V a r0 y ++ (B ++ (ol_WL V a gh y.2.2 ++ ext))) pc L st) : ol_G X V A md P rm nL cells slots (ol_Xc V a r0 x ++ (B ++ (ol_WL V a gh x.2.2 ++ ext))) pc L st := by subst e; exact k
theorem ol_Rnm {gh : ol_Lh} {x y : ol_Xm} (e : y = x) (h : ol_Rel gh x.2.2) : ol_Rel gh y.2.2 := by subst e; exact h
