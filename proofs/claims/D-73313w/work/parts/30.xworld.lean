/-! the system's world: fixed cells (by place): 0 the object, 1 its tape, 2 the pass, 3..9 its rows, 10 19 28 the runs and 8 arrays each; then the bus, then what else there is -/
set_option maxRecDepth 100000
/-- ints by cell and place; references to a bus (3: the pass's, 10 19 28: the runs'); logs (by run: 0 how many, 1 + 6 i + k) -/
abbrev ol_Xm : Type := (Nat → Nat → Int32) × (Nat → Option Nat) × (Nat → Nat → Int32)
/-- a bus: ints (0: gate filter window many asks; 1 rank 2 slot 3 code by board; 4 time 5 board 6 ticks by ask; 7 modCounts), names, capacities -/
abbrev ol_Bd : Type := (Nat → Nat → Int32) × (Nat → Int64) × (Nat → Nat)
def ol_xs (σ : ol_Xm) (c k : Nat) (x : Int32) : ol_Xm := (fun c2 => if c2 = c then upd (σ.1 c) k x else σ.1 c2, σ.2)
def ol_xr (σ : ol_Xm) (k : Nat) (x : Option Nat) : ol_Xm := (σ.1, va_up σ.2.1 k x, σ.2.2)
def ol_isr (r : Nat) : Prop := r = 10 ∨ r = 19 ∨ r = 28
theorem ol_isr0 : ol_isr 10 := Or.inl rfl
theorem ol_isr1 : ol_isr 19 := Or.inr (Or.inl rfl)
theorem ol_isr2 : ol_isr 28 := Or.inr (Or.inr rfl)
def ol_Of (a : Nat → Nat) (r0 : Option Nat) (σ : ol_Xm) : List Value := [.ref (a 2), .int (σ.1 0 1), .int (σ.1 0 2), .ref (a 1), .int (σ.1 0 4), .int (σ.1 0 5), va_rf r0, .ref (a 10), .ref (a 19), .ref (a 28), .int (σ.1 0 10), .int (σ.1 0 11), .int (σ.1 0 12)]
def ol_Pf (a : Nat → Nat) (σ : ol_Xm) : List Value := [.ref (a 3), .ref (a 4), .ref (a 5), .ref (a 6), .ref (a 7), .ref (a 8), .ref (a 9), va_rf (σ.2.1 3), .int (σ.1 2 8), .int (σ.1 2 9), .int (σ.1 2 10), .int (σ.1 2 11), .int (σ.1 2 12), .int (σ.1 2 13), .ref (a 0)]
def ol_Rf (a : Nat → Nat) (σ : ol_Xm) (r : Nat) : List Value := [va_rf (σ.2.1 r), .ref (a (r + 1)), .ref (a (r + 2)), .ref (a (r + 3)), .ref (a (r + 4)), .ref (a (r + 5)), .ref (a (r + 6)), .ref (a (r + 7)), .int (σ.1 r 8), .int (σ.1 r 9), .int (σ.1 r 10), .int (σ.1 r 11), .int (σ.1 r 12), .int (σ.1 r 13), .int (σ.1 r 14), .int (σ.1 r 15), .int (σ.1 r 16), .int (σ.1 r 17), .int (σ.1 r 18), .ref (a (r + 30)), .ref (a (r + 8)), .int (σ.1 r 21), .int (σ.1 r 22), .int (σ.1 r 23), .ref (a 0)]
def ol_Xc (V : ol_Gh) (a : Nat → Nat) (r0 : Option Nat) (σ : ol_Xm) : va_W := [(a 0, .inr (1, ol_Of a r0 σ)), (a 1, .inl (V.2.2.2.2 2, 700, .inl (σ.1 1))), (a 2, .inr (2, ol_Pf a σ)), (a 3, .inl (V.2.2.2.2 0, 6, .inl (σ.1 3))), (a 4, .inl (V.2.2.2.2 0, 2406, .inl (σ.1 4))), (a 5, .inl (V.2.2.2.2 0, 2406, .inl (σ.1 5))), (a 6, .inl (V.2.2.2.2 0, 2406, .inl (σ.1 6))), (a 7, .inl (V.2.2.2.2 0, 2406, .inl (σ.1 7))), (a 8, .inl (V.2.2.2.2 0, 2406, .inl (σ.1 8))), (a 9, .inl (V.2.2.2.2 0, 36, .inl (σ.1 9))), (a 10, .inr (3, ol_Rf a σ 10)), (a 11, .inl (V.2.2.2.2 3, 6, .inl (σ.1 11))), (a 12, .inl (V.2.2.2.2 0, 6, .inl (σ.1 12))), (a 13, .inl (V.2.2.2.2 0, 6, .inl (σ.1 13))), (a 14, .inl (V.2.2.2.2 0, 6, .inl (σ.1 14))), (a 15, .inl (V.2.2.2.2 0, 6, .inl (σ.1 15))), (a 16, .inl (V.2.2.2.2 0, 6, .inl (σ.1 16))), (a 17, .inl (V.2.2.2.2 0, 36, .inl (σ.1 17))), (a 18, .inl (V.2.2.2.2 0, 64, .inl (σ.1 18))), (a 19, .inr (3, ol_Rf a σ 19)), (a 20, .inl (V.2.2.2.2 3, 6, .inl (σ.1 20))), (a 21, .inl (V.2.2.2.2 0, 6, .inl (σ.1 21))), (a 22, .inl (V.2.2.2.2 0, 6, .inl (σ.1 22))), (a 23, .inl (V.2.2.2.2 0, 6, .inl (σ.1 23))), (a 24, .inl (V.2.2.2.2 0, 6, .inl (σ.1 24))), (a 25, .inl (V.2.2.2.2 0, 6, .inl (σ.1 25))), (a 26, .inl (V.2.2.2.2 0, 36, .inl (σ.1 26))), (a 27, .inl (V.2.2.2.2 0, 64, .inl (σ.1 27))), (a 28, .inr (3, ol_Rf a σ 28)), (a 29, .inl (V.2.2.2.2 3, 6, .inl (σ.1 29))), (a 30, .inl (V.2.2.2.2 0, 6, .inl (σ.1 30))), (a 31, .inl (V.2.2.2.2 0, 6, .inl (σ.1 31))), (a 32, .inl (V.2.2.2.2 0, 6, .inl (σ.1 32))), (a 33, .inl (V.2.2.2.2 0, 6, .inl (σ.1 33))), (a 34, .inl (V.2.2.2.2 0, 6, .inl (σ.1 34))), (a 35, .inl (V.2.2.2.2 0, 36, .inl (σ.1 35))), (a 36, .inl (V.2.2.2.2 0, 64, .inl (σ.1 36)))]
section OLX
variable {X : ol_Cx} {V : ol_Gh} {A : Nat → Prop} {cc : ByteArray} {own nm : String} {nL : Nat} {ret : Option FieldType} {md : Bool} {P : Option Value → va_W → Prop} {rm : Room} {cells slots : Nat} {pc : Nat} {L : List (Option Value)} {st : List Value} {a : Nat → Nat} {r0 : Option Nat} {σ : ol_Xm} {ext : va_W} {index : Nat} {host : String} {r b : Nat}
theorem ol_xg_O_0 (hX : ol_CX X V A cc own nm nL ret) (hl : Cond.fieldLink own index "OpenLines" "pass" "LOpenLines$Pass;" ∈ lw_all) (hd : decode cc pc = .ok (.getfield index, 3)) (k : ol_G X V A md P rm nL cells slots (ol_Xc V a r0 σ ++ ext) (pc + 3) L (.ref (a 2) :: st)) : ol_G X V A md P rm nL cells slots (ol_Xc V a r0 σ ++ ext) pc L (.ref (a 0) :: st) := by
  exact ol_get (fs := ol_Of a r0 σ) (ci := 1) (v := .ref (a 2)) hX in_X1 0 rfl rfl 0 (by decide) hl rfl (by rfl) hd k
theorem ol_xgN_O_0 (hX : ol_CX X V A cc own nm nL ret) (hl : Cond.fieldLinkNest own index "OpenLines" "pass" "LOpenLines$Pass;" host ∈ lw_tbl) (hd : decode cc pc = .ok (.getfield index, 3)) (k : ol_G X V A md P rm nL cells slots (ol_Xc V a r0 σ ++ ext) (pc + 3) L (.ref (a 2) :: st)) : ol_G X V A md P rm nL cells slots (ol_Xc V a r0 σ ++ ext) pc L (.ref (a 0) :: st) := by
  exact ol_getN (fs := ol_Of a r0 σ) (ci := 1) (v := .ref (a 2)) hX in_X1 0 rfl rfl 0 (by decide) hl rfl (by rfl) hd k
theorem ol_xg_O_1 (hX : ol_CX X V A cc own nm nL ret) (hl : Cond.fieldLink own index "OpenLines" "trouble" "I" ∈ lw_all) (hd : decode cc pc = .ok (.getfield index, 3)) (k : ol_G X V A md P rm nL cells slots (ol_Xc V a r0 σ ++ ext) (pc + 3) L (.int (σ.1 0 1) :: st)) : ol_G X V A md P rm nL cells slots (ol_Xc V a r0 σ ++ ext) pc L (.ref (a 0) :: st) := by
  exact ol_get (fs := ol_Of a r0 σ) (ci := 1) (v := .int (σ.1 0 1)) hX in_X1 0 rfl rfl 1 (by decide) hl rfl (by rfl) hd k
theorem ol_xgN_O_1 (hX : ol_CX X V A cc own nm nL ret) (hl : Cond.fieldLinkNest own index "OpenLines" "trouble" "I" host ∈ lw_tbl) (hd : decode cc pc = .ok (.getfield index, 3)) (k : ol_G X V A md P rm nL cells slots (ol_Xc V a r0 σ ++ ext) (pc + 3) L (.int (σ.1 0 1) :: st)) : ol_G X V A md P rm nL cells slots (ol_Xc V a r0 σ ++ ext) pc L (.ref (a 0) :: st) := by
  exact ol_getN (fs := ol_Of a r0 σ) (ci := 1) (v := .int (σ.1 0 1)) hX in_X1 0 rfl rfl 1 (by decide) hl rfl (by rfl) hd k
theorem ol_xp_O_1 (hX : ol_CX X V A cc own nm nL ret) {x : Int32} (hl : Cond.fieldLink own index "OpenLines" "trouble" "I" ∈ lw_all) (hd : decode cc pc = .ok (.putfield index, 3)) (k : ol_G X V A true P rm nL cells slots (ol_Xc V a r0 (ol_xs σ 0 1 x) ++ ext) (pc + 3) L st) : ol_G X V A true P rm nL cells slots (ol_Xc V a r0 σ ++ ext) pc L (.int x :: .ref (a 0) :: st) := by
  have hws : (ol_Xc V a r0 σ ++ ext).set 0 (a 0, .inr (1, (ol_Of a r0 σ).set 1 (.int x))) = ol_Xc V a r0 (ol_xs σ 0 1 x) ++ ext := rfl
  exact ol_put (fs := ol_Of a r0 σ) (ci := 1) hX in_X1 tyX1 tyX1_ok nmX1 0 rfl rfl 1 (by decide) hl rfl rfl rfl rfl (Nat.le_of_ble_eq_true rfl) hd hws k
theorem ol_xpN_O_1 (hX : ol_CX X V A cc own nm nL ret) {x : Int32} (hl : Cond.fieldLinkNest own index "OpenLines" "trouble" "I" host ∈ lw_tbl) (hd : decode cc pc = .ok (.putfield index, 3)) (k : ol_G X V A true P rm nL cells slots (ol_Xc V a r0 (ol_xs σ 0 1 x) ++ ext) (pc + 3) L st) : ol_G X V A true P rm nL cells slots (ol_Xc V a r0 σ ++ ext) pc L (.int x :: .ref (a 0) :: st) := by
  have hws : (ol_Xc V a r0 σ ++ ext).set 0 (a 0, .inr (1, (ol_Of a r0 σ).set 1 (.int x))) = ol_Xc V a r0 (ol_xs σ 0 1 x) ++ ext := rfl
  exact ol_putN (fs := ol_Of a r0 σ) (ci := 1) hX in_X1 tyX1 tyX1_ok nmX1 0 rfl rfl 1 (by decide) hl rfl rfl rfl rfl (Nat.le_of_ble_eq_true rfl) hd hws k
theorem ol_xg_O_2 (hX : ol_CX X V A cc own nm nL ret) (hl : Cond.fieldLink own index "OpenLines" "where" "I" ∈ lw_all) (hd : decode cc pc = .ok (.getfield index, 3)) (k : ol_G X V A md P rm nL cells slots (ol_Xc V a r0 σ ++ ext) (pc + 3) L (.int (σ.1 0 2) :: st)) : ol_G X V A md P rm nL cells slots (ol_Xc V a r0 σ ++ ext) pc L (.ref (a 0) :: st) := by
  exact ol_get (fs := ol_Of a r0 σ) (ci := 1) (v := .int (σ.1 0 2)) hX in_X1 0 rfl rfl 2 (by decide) hl rfl (by rfl) hd k
theorem ol_xgN_O_2 (hX : ol_CX X V A cc own nm nL ret) (hl : Cond.fieldLinkNest own index "OpenLines" "where" "I" host ∈ lw_tbl) (hd : decode cc pc = .ok (.getfield index, 3)) (k : ol_G X V A md P rm nL cells slots (ol_Xc V a r0 σ ++ ext) (pc + 3) L (.int (σ.1 0 2) :: st)) : ol_G X V A md P rm nL cells slots (ol_Xc V a r0 σ ++ ext) pc L (.ref (a 0) :: st) := by
  exact ol_getN (fs := ol_Of a r0 σ) (ci := 1) (v := .int (σ.1 0 2)) hX in_X1 0 rfl rfl 2 (by decide) hl rfl (by rfl) hd k
theorem ol_xp_O_2 (hX : ol_CX X V A cc own nm nL ret) {x : Int32} (hl : Cond.fieldLink own index "OpenLines" "where" "I" ∈ lw_all) (hd : decode cc pc = .ok (.putfield index, 3)) (k : ol_G X V A true P rm nL cells slots (ol_Xc V a r0 (ol_xs σ 0 2 x) ++ ext) (pc + 3) L st) : ol_G X V A true P rm nL cells slots (ol_Xc V a r0 σ ++ ext) pc L (.int x :: .ref (a 0) :: st) := by
  have hws : (ol_Xc V a r0 σ ++ ext).set 0 (a 0, .inr (1, (ol_Of a r0 σ).set 2 (.int x))) = ol_Xc V a r0 (ol_xs σ 0 2 x) ++ ext := rfl
  exact ol_put (fs := ol_Of a r0 σ) (ci := 1) hX in_X1 tyX1 tyX1_ok nmX1 0 rfl rfl 2 (by decide) hl rfl rfl rfl rfl (Nat.le_of_ble_eq_true rfl) hd hws k
theorem ol_xpN_O_2 (hX : ol_CX X V A cc own nm nL ret) {x : Int32} (hl : Cond.fieldLinkNest own index "OpenLines" "where" "I" host ∈ lw_tbl) (hd : decode cc pc = .ok (.putfield index, 3)) (k : ol_G X V A true P rm nL cells slots (ol_Xc V a r0 (ol_xs σ 0 2 x) ++ ext) (pc + 3) L st) : ol_G X V A true P rm nL cells slots (ol_Xc V a r0 σ ++ ext) pc L (.int x :: .ref (a 0) :: st) := by
  have hws : (ol_Xc V a r0 σ ++ ext).set 0 (a 0, .inr (1, (ol_Of a r0 σ).set 2 (.int x))) = ol_Xc V a r0 (ol_xs σ 0 2 x) ++ ext := rfl
  exact ol_putN (fs := ol_Of a r0 σ) (ci := 1) hX in_X1 tyX1 tyX1_ok nmX1 0 rfl rfl 2 (by decide) hl rfl rfl rfl rfl (Nat.le_of_ble_eq_true rfl) hd hws k
theorem ol_xg_O_3 (hX : ol_CX X V A cc own nm nL ret) (hl : Cond.fieldLink own index "OpenLines" "tape" "[B" ∈ lw_all) (hd : decode cc pc = .ok (.getfield index, 3)) (k : ol_G X V A md P rm nL cells slots (ol_Xc V a r0 σ ++ ext) (pc + 3) L (.ref (a 1) :: st)) : ol_G X V A md P rm nL cells slots (ol_Xc V a r0 σ ++ ext) pc L (.ref (a 0) :: st) := by
  exact ol_get (fs := ol_Of a r0 σ) (ci := 1) (v := .ref (a 1)) hX in_X1 0 rfl rfl 3 (by decide) hl rfl (by rfl) hd k
theorem ol_xgN_O_3 (hX : ol_CX X V A cc own nm nL ret) (hl : Cond.fieldLinkNest own index "OpenLines" "tape" "[B" host ∈ lw_tbl) (hd : decode cc pc = .ok (.getfield index, 3)) (k : ol_G X V A md P rm nL cells slots (ol_Xc V a r0 σ ++ ext) (pc + 3) L (.ref (a 1) :: st)) : ol_G X V A md P rm nL cells slots (ol_Xc V a r0 σ ++ ext) pc L (.ref (a 0) :: st) := by
  exact ol_getN (fs := ol_Of a r0 σ) (ci := 1) (v := .ref (a 1)) hX in_X1 0 rfl rfl 3 (by decide) hl rfl (by rfl) hd k
theorem ol_xg_O_4 (hX : ol_CX X V A cc own nm nL ret) (hl : Cond.fieldLink own index "OpenLines" "taped" "I" ∈ lw_all) (hd : decode cc pc = .ok (.getfield index, 3)) (k : ol_G X V A md P rm nL cells slots (ol_Xc V a r0 σ ++ ext) (pc + 3) L (.int (σ.1 0 4) :: st)) : ol_G X V A md P rm nL cells slots (ol_Xc V a r0 σ ++ ext) pc L (.ref (a 0) :: st) := by
  exact ol_get (fs := ol_Of a r0 σ) (ci := 1) (v := .int (σ.1 0 4)) hX in_X1 0 rfl rfl 4 (by decide) hl rfl (by rfl) hd k
theorem ol_xgN_O_4 (hX : ol_CX X V A cc own nm nL ret) (hl : Cond.fieldLinkNest own index "OpenLines" "taped" "I" host ∈ lw_tbl) (hd : decode cc pc = .ok (.getfield index, 3)) (k : ol_G X V A md P rm nL cells slots (ol_Xc V a r0 σ ++ ext) (pc + 3) L (.int (σ.1 0 4) :: st)) : ol_G X V A md P rm nL cells slots (ol_Xc V a r0 σ ++ ext) pc L (.ref (a 0) :: st) := by
  exact ol_getN (fs := ol_Of a r0 σ) (ci := 1) (v := .int (σ.1 0 4)) hX in_X1 0 rfl rfl 4 (by decide) hl rfl (by rfl) hd k
theorem ol_xp_O_4 (hX : ol_CX X V A cc own nm nL ret) {x : Int32} (hl : Cond.fieldLink own index "OpenLines" "taped" "I" ∈ lw_all) (hd : decode cc pc = .ok (.putfield index, 3)) (k : ol_G X V A true P rm nL cells slots (ol_Xc V a r0 (ol_xs σ 0 4 x) ++ ext) (pc + 3) L st) : ol_G X V A true P rm nL cells slots (ol_Xc V a r0 σ ++ ext) pc L (.int x :: .ref (a 0) :: st) := by
  have hws : (ol_Xc V a r0 σ ++ ext).set 0 (a 0, .inr (1, (ol_Of a r0 σ).set 4 (.int x))) = ol_Xc V a r0 (ol_xs σ 0 4 x) ++ ext := rfl
  exact ol_put (fs := ol_Of a r0 σ) (ci := 1) hX in_X1 tyX1 tyX1_ok nmX1 0 rfl rfl 4 (by decide) hl rfl rfl rfl rfl (Nat.le_of_ble_eq_true rfl) hd hws k
theorem ol_xpN_O_4 (hX : ol_CX X V A cc own nm nL ret) {x : Int32} (hl : Cond.fieldLinkNest own index "OpenLines" "taped" "I" host ∈ lw_tbl) (hd : decode cc pc = .ok (.putfield index, 3)) (k : ol_G X V A true P rm nL cells slots (ol_Xc V a r0 (ol_xs σ 0 4 x) ++ ext) (pc + 3) L st) : ol_G X V A true P rm nL cells slots (ol_Xc V a r0 σ ++ ext) pc L (.int x :: .ref (a 0) :: st) := by
  have hws : (ol_Xc V a r0 σ ++ ext).set 0 (a 0, .inr (1, (ol_Of a r0 σ).set 4 (.int x))) = ol_Xc V a r0 (ol_xs σ 0 4 x) ++ ext := rfl
  exact ol_putN (fs := ol_Of a r0 σ) (ci := 1) hX in_X1 tyX1 tyX1_ok nmX1 0 rfl rfl 4 (by decide) hl rfl rfl rfl rfl (Nat.le_of_ble_eq_true rfl) hd hws k
theorem ol_xg_O_5 (hX : ol_CX X V A cc own nm nL ret) (hl : Cond.fieldLink own index "OpenLines" "fault" "I" ∈ lw_all) (hd : decode cc pc = .ok (.getfield index, 3)) (k : ol_G X V A md P rm nL cells slots (ol_Xc V a r0 σ ++ ext) (pc + 3) L (.int (σ.1 0 5) :: st)) : ol_G X V A md P rm nL cells slots (ol_Xc V a r0 σ ++ ext) pc L (.ref (a 0) :: st) := by
  exact ol_get (fs := ol_Of a r0 σ) (ci := 1) (v := .int (σ.1 0 5)) hX in_X1 0 rfl rfl 5 (by decide) hl rfl (by rfl) hd k
theorem ol_xgN_O_5 (hX : ol_CX X V A cc own nm nL ret) (hl : Cond.fieldLinkNest own index "OpenLines" "fault" "I" host ∈ lw_tbl) (hd : decode cc pc = .ok (.getfield index, 3)) (k : ol_G X V A md P rm nL cells slots (ol_Xc V a r0 σ ++ ext) (pc + 3) L (.int (σ.1 0 5) :: st)) : ol_G X V A md P rm nL cells slots (ol_Xc V a r0 σ ++ ext) pc L (.ref (a 0) :: st) := by
  exact ol_getN (fs := ol_Of a r0 σ) (ci := 1) (v := .int (σ.1 0 5)) hX in_X1 0 rfl rfl 5 (by decide) hl rfl (by rfl) hd k
theorem ol_xp_O_5 (hX : ol_CX X V A cc own nm nL ret) {x : Int32} (hl : Cond.fieldLink own index "OpenLines" "fault" "I" ∈ lw_all) (hd : decode cc pc = .ok (.putfield index, 3)) (k : ol_G X V A true P rm nL cells slots (ol_Xc V a r0 (ol_xs σ 0 5 x) ++ ext) (pc + 3) L st) : ol_G X V A true P rm nL cells slots (ol_Xc V a r0 σ ++ ext) pc L (.int x :: .ref (a 0) :: st) := by
  have hws : (ol_Xc V a r0 σ ++ ext).set 0 (a 0, .inr (1, (ol_Of a r0 σ).set 5 (.int x))) = ol_Xc V a r0 (ol_xs σ 0 5 x) ++ ext := rfl
  exact ol_put (fs := ol_Of a r0 σ) (ci := 1) hX in_X1 tyX1 tyX1_ok nmX1 0 rfl rfl 5 (by decide) hl rfl rfl rfl rfl (Nat.le_of_ble_eq_true rfl) hd hws k
theorem ol_xpN_O_5 (hX : ol_CX X V A cc own nm nL ret) {x : Int32} (hl : Cond.fieldLinkNest own index "OpenLines" "fault" "I" host ∈ lw_tbl) (hd : decode cc pc = .ok (.putfield index, 3)) (k : ol_G X V A true P rm nL cells slots (ol_Xc V a r0 (ol_xs σ 0 5 x) ++ ext) (pc + 3) L st) : ol_G X V A true P rm nL cells slots (ol_Xc V a r0 σ ++ ext) pc L (.int x :: .ref (a 0) :: st) := by
  have hws : (ol_Xc V a r0 σ ++ ext).set 0 (a 0, .inr (1, (ol_Of a r0 σ).set 5 (.int x))) = ol_Xc V a r0 (ol_xs σ 0 5 x) ++ ext := rfl
  exact ol_putN (fs := ol_Of a r0 σ) (ci := 1) hX in_X1 tyX1 tyX1_ok nmX1 0 rfl rfl 5 (by decide) hl rfl rfl rfl rfl (Nat.le_of_ble_eq_true rfl) hd hws k
theorem ol_xg_O_6 (hX : ol_CX X V A cc own nm nL ret) (hl : Cond.fieldLink own index "OpenLines" "bus" "LOpenLines$Bus;" ∈ lw_all) (hb : r0 = some b) (hd : decode cc pc = .ok (.getfield index, 3)) (k : ol_G X V A md P rm nL cells slots (ol_Xc V a r0 σ ++ ext) (pc + 3) L (.ref b :: st)) : ol_G X V A md P rm nL cells slots (ol_Xc V a r0 σ ++ ext) pc L (.ref (a 0) :: st) := by
  exact ol_get (fs := ol_Of a r0 σ) (ci := 1) (v := .ref b) hX in_X1 0 rfl rfl 6 (by decide) hl rfl (by show some (va_rf _) = _; rw [hb]; rfl) hd k
theorem ol_xgN_O_6 (hX : ol_CX X V A cc own nm nL ret) (hl : Cond.fieldLinkNest own index "OpenLines" "bus" "LOpenLines$Bus;" host ∈ lw_tbl) (hb : r0 = some b) (hd : decode cc pc = .ok (.getfield index, 3)) (k : ol_G X V A md P rm nL cells slots (ol_Xc V a r0 σ ++ ext) (pc + 3) L (.ref b :: st)) : ol_G X V A md P rm nL cells slots (ol_Xc V a r0 σ ++ ext) pc L (.ref (a 0) :: st) := by
  exact ol_getN (fs := ol_Of a r0 σ) (ci := 1) (v := .ref b) hX in_X1 0 rfl rfl 6 (by decide) hl rfl (by show some (va_rf _) = _; rw [hb]; rfl) hd k
theorem ol_xg_O_7 (hX : ol_CX X V A cc own nm nL ret) (hl : Cond.fieldLink own index "OpenLines" "now" "LOpenLines$Run;" ∈ lw_all) (hd : decode cc pc = .ok (.getfield index, 3)) (k : ol_G X V A md P rm nL cells slots (ol_Xc V a r0 σ ++ ext) (pc + 3) L (.ref (a 10) :: st)) : ol_G X V A md P rm nL cells slots (ol_Xc V a r0 σ ++ ext) pc L (.ref (a 0) :: st) := by
  exact ol_get (fs := ol_Of a r0 σ) (ci := 1) (v := .ref (a 10)) hX in_X1 0 rfl rfl 7 (by decide) hl rfl (by rfl) hd k
theorem ol_xgN_O_7 (hX : ol_CX X V A cc own nm nL ret) (hl : Cond.fieldLinkNest own index "OpenLines" "now" "LOpenLines$Run;" host ∈ lw_tbl) (hd : decode cc pc = .ok (.getfield index, 3)) (k : ol_G X V A md P rm nL cells slots (ol_Xc V a r0 σ ++ ext) (pc + 3) L (.ref (a 10) :: st)) : ol_G X V A md P rm nL cells slots (ol_Xc V a r0 σ ++ ext) pc L (.ref (a 0) :: st) := by
  exact ol_getN (fs := ol_Of a r0 σ) (ci := 1) (v := .ref (a 10)) hX in_X1 0 rfl rfl 7 (by decide) hl rfl (by rfl) hd k
theorem ol_xg_O_8 (hX : ol_CX X V A cc own nm nL ret) (hl : Cond.fieldLink own index "OpenLines" "kept" "LOpenLines$Run;" ∈ lw_all) (hd : decode cc pc = .ok (.getfield index, 3)) (k : ol_G X V A md P rm nL cells slots (ol_Xc V a r0 σ ++ ext) (pc + 3) L (.ref (a 19) :: st)) : ol_G X V A md P rm nL cells slots (ol_Xc V a r0 σ ++ ext) pc L (.ref (a 0) :: st) := by
  exact ol_get (fs := ol_Of a r0 σ) (ci := 1) (v := .ref (a 19)) hX in_X1 0 rfl rfl 8 (by decide) hl rfl (by rfl) hd k
theorem ol_xgN_O_8 (hX : ol_CX X V A cc own nm nL ret) (hl : Cond.fieldLinkNest own index "OpenLines" "kept" "LOpenLines$Run;" host ∈ lw_tbl) (hd : decode cc pc = .ok (.getfield index, 3)) (k : ol_G X V A md P rm nL cells slots (ol_Xc V a r0 σ ++ ext) (pc + 3) L (.ref (a 19) :: st)) : ol_G X V A md P rm nL cells slots (ol_Xc V a r0 σ ++ ext) pc L (.ref (a 0) :: st) := by
  exact ol_getN (fs := ol_Of a r0 σ) (ci := 1) (v := .ref (a 19)) hX in_X1 0 rfl rfl 8 (by decide) hl rfl (by rfl) hd k
theorem ol_xg_O_9 (hX : ol_CX X V A cc own nm nL ret) (hl : Cond.fieldLink own index "OpenLines" "trial" "LOpenLines$Run;" ∈ lw_all) (hd : decode cc pc = .ok (.getfield index, 3)) (k : ol_G X V A md P rm nL cells slots (ol_Xc V a r0 σ ++ ext) (pc + 3) L (.ref (a 28) :: st)) : ol_G X V A md P rm nL cells slots (ol_Xc V a r0 σ ++ ext) pc L (.ref (a 0) :: st) := by
  exact ol_get (fs := ol_Of a r0 σ) (ci := 1) (v := .ref (a 28)) hX in_X1 0 rfl rfl 9 (by decide) hl rfl (by rfl) hd k
theorem ol_xgN_O_9 (hX : ol_CX X V A cc own nm nL ret) (hl : Cond.fieldLinkNest own index "OpenLines" "trial" "LOpenLines$Run;" host ∈ lw_tbl) (hd : decode cc pc = .ok (.getfield index, 3)) (k : ol_G X V A md P rm nL cells slots (ol_Xc V a r0 σ ++ ext) (pc + 3) L (.ref (a 28) :: st)) : ol_G X V A md P rm nL cells slots (ol_Xc V a r0 σ ++ ext) pc L (.ref (a 0) :: st) := by
  exact ol_getN (fs := ol_Of a r0 σ) (ci := 1) (v := .ref (a 28)) hX in_X1 0 rfl rfl 9 (by decide) hl rfl (by rfl) hd k
theorem ol_xg_O_10 (hX : ol_CX X V A cc own nm nL ret) (hl : Cond.fieldLink own index "OpenLines" "isKept" "Z" ∈ lw_all) (hd : decode cc pc = .ok (.getfield index, 3)) (k : ol_G X V A md P rm nL cells slots (ol_Xc V a r0 σ ++ ext) (pc + 3) L (.int (σ.1 0 10) :: st)) : ol_G X V A md P rm nL cells slots (ol_Xc V a r0 σ ++ ext) pc L (.ref (a 0) :: st) := by
  exact ol_get (fs := ol_Of a r0 σ) (ci := 1) (v := .int (σ.1 0 10)) hX in_X1 0 rfl rfl 10 (by decide) hl rfl (by rfl) hd k
theorem ol_xgN_O_10 (hX : ol_CX X V A cc own nm nL ret) (hl : Cond.fieldLinkNest own index "OpenLines" "isKept" "Z" host ∈ lw_tbl) (hd : decode cc pc = .ok (.getfield index, 3)) (k : ol_G X V A md P rm nL cells slots (ol_Xc V a r0 σ ++ ext) (pc + 3) L (.int (σ.1 0 10) :: st)) : ol_G X V A md P rm nL cells slots (ol_Xc V a r0 σ ++ ext) pc L (.ref (a 0) :: st) := by
  exact ol_getN (fs := ol_Of a r0 σ) (ci := 1) (v := .int (σ.1 0 10)) hX in_X1 0 rfl rfl 10 (by decide) hl rfl (by rfl) hd k
theorem ol_xp_O_10 (hX : ol_CX X V A cc own nm nL ret) {x : Int32} (hl : Cond.fieldLink own index "OpenLines" "isKept" "Z" ∈ lw_all) (hz : ol_zb x = true) (hd : decode cc pc = .ok (.putfield index, 3)) (k : ol_G X V A true P rm nL cells slots (ol_Xc V a r0 (ol_xs σ 0 10 x) ++ ext) (pc + 3) L st) : ol_G X V A true P rm nL cells slots (ol_Xc V a r0 σ ++ ext) pc L (.int x :: .ref (a 0) :: st) := by
  have hws : (ol_Xc V a r0 σ ++ ext).set 0 (a 0, .inr (1, (ol_Of a r0 σ).set 10 (.int x))) = ol_Xc V a r0 (ol_xs σ 0 10 x) ++ ext := rfl
  exact ol_put (fs := ol_Of a r0 σ) (ci := 1) hX in_X1 tyX1 tyX1_ok nmX1 0 rfl rfl 10 (by decide) hl rfl rfl (ol_zb_nar hz) (ol_zb_fit hz) (Nat.le_of_ble_eq_true rfl) hd hws k
theorem ol_xpN_O_10 (hX : ol_CX X V A cc own nm nL ret) {x : Int32} (hl : Cond.fieldLinkNest own index "OpenLines" "isKept" "Z" host ∈ lw_tbl) (hz : ol_zb x = true) (hd : decode cc pc = .ok (.putfield index, 3)) (k : ol_G X V A true P rm nL cells slots (ol_Xc V a r0 (ol_xs σ 0 10 x) ++ ext) (pc + 3) L st) : ol_G X V A true P rm nL cells slots (ol_Xc V a r0 σ ++ ext) pc L (.int x :: .ref (a 0) :: st) := by
  have hws : (ol_Xc V a r0 σ ++ ext).set 0 (a 0, .inr (1, (ol_Of a r0 σ).set 10 (.int x))) = ol_Xc V a r0 (ol_xs σ 0 10 x) ++ ext := rfl
  exact ol_putN (fs := ol_Of a r0 σ) (ci := 1) hX in_X1 tyX1 tyX1_ok nmX1 0 rfl rfl 10 (by decide) hl rfl rfl (ol_zb_nar hz) (ol_zb_fit hz) (Nat.le_of_ble_eq_true rfl) hd hws k
theorem ol_xg_O_11 (hX : ol_CX X V A cc own nm nL ret) (hl : Cond.fieldLink own index "OpenLines" "laidWhich" "I" ∈ lw_all) (hd : decode cc pc = .ok (.getfield index, 3)) (k : ol_G X V A md P rm nL cells slots (ol_Xc V a r0 σ ++ ext) (pc + 3) L (.int (σ.1 0 11) :: st)) : ol_G X V A md P rm nL cells slots (ol_Xc V a r0 σ ++ ext) pc L (.ref (a 0) :: st) := by
  exact ol_get (fs := ol_Of a r0 σ) (ci := 1) (v := .int (σ.1 0 11)) hX in_X1 0 rfl rfl 11 (by decide) hl rfl (by rfl) hd k
theorem ol_xgN_O_11 (hX : ol_CX X V A cc own nm nL ret) (hl : Cond.fieldLinkNest own index "OpenLines" "laidWhich" "I" host ∈ lw_tbl) (hd : decode cc pc = .ok (.getfield index, 3)) (k : ol_G X V A md P rm nL cells slots (ol_Xc V a r0 σ ++ ext) (pc + 3) L (.int (σ.1 0 11) :: st)) : ol_G X V A md P rm nL cells slots (ol_Xc V a r0 σ ++ ext) pc L (.ref (a 0) :: st) := by
  exact ol_getN (fs := ol_Of a r0 σ) (ci := 1) (v := .int (σ.1 0 11)) hX in_X1 0 rfl rfl 11 (by decide) hl rfl (by rfl) hd k
theorem ol_xp_O_11 (hX : ol_CX X V A cc own nm nL ret) {x : Int32} (hl : Cond.fieldLink own index "OpenLines" "laidWhich" "I" ∈ lw_all) (hd : decode cc pc = .ok (.putfield index, 3)) (k : ol_G X V A true P rm nL cells slots (ol_Xc V a r0 (ol_xs σ 0 11 x) ++ ext) (pc + 3) L st) : ol_G X V A true P rm nL cells slots (ol_Xc V a r0 σ ++ ext) pc L (.int x :: .ref (a 0) :: st) := by
  have hws : (ol_Xc V a r0 σ ++ ext).set 0 (a 0, .inr (1, (ol_Of a r0 σ).set 11 (.int x))) = ol_Xc V a r0 (ol_xs σ 0 11 x) ++ ext := rfl
  exact ol_put (fs := ol_Of a r0 σ) (ci := 1) hX in_X1 tyX1 tyX1_ok nmX1 0 rfl rfl 11 (by decide) hl rfl rfl rfl rfl (Nat.le_of_ble_eq_true rfl) hd hws k
theorem ol_xpN_O_11 (hX : ol_CX X V A cc own nm nL ret) {x : Int32} (hl : Cond.fieldLinkNest own index "OpenLines" "laidWhich" "I" host ∈ lw_tbl) (hd : decode cc pc = .ok (.putfield index, 3)) (k : ol_G X V A true P rm nL cells slots (ol_Xc V a r0 (ol_xs σ 0 11 x) ++ ext) (pc + 3) L st) : ol_G X V A true P rm nL cells slots (ol_Xc V a r0 σ ++ ext) pc L (.int x :: .ref (a 0) :: st) := by
  have hws : (ol_Xc V a r0 σ ++ ext).set 0 (a 0, .inr (1, (ol_Of a r0 σ).set 11 (.int x))) = ol_Xc V a r0 (ol_xs σ 0 11 x) ++ ext := rfl
  exact ol_putN (fs := ol_Of a r0 σ) (ci := 1) hX in_X1 tyX1 tyX1_ok nmX1 0 rfl rfl 11 (by decide) hl rfl rfl rfl rfl (Nat.le_of_ble_eq_true rfl) hd hws k
theorem ol_xg_O_12 (hX : ol_CX X V A cc own nm nL ret) (hl : Cond.fieldLink own index "OpenLines" "laidSet" "I" ∈ lw_all) (hd : decode cc pc = .ok (.getfield index, 3)) (k : ol_G X V A md P rm nL cells slots (ol_Xc V a r0 σ ++ ext) (pc + 3) L (.int (σ.1 0 12) :: st)) : ol_G X V A md P rm nL cells slots (ol_Xc V a r0 σ ++ ext) pc L (.ref (a 0) :: st) := by
  exact ol_get (fs := ol_Of a r0 σ) (ci := 1) (v := .int (σ.1 0 12)) hX in_X1 0 rfl rfl 12 (by decide) hl rfl (by rfl) hd k
theorem ol_xgN_O_12 (hX : ol_CX X V A cc own nm nL ret) (hl : Cond.fieldLinkNest own index "OpenLines" "laidSet" "I" host ∈ lw_tbl) (hd : decode cc pc = .ok (.getfield index, 3)) (k : ol_G X V A md P rm nL cells slots (ol_Xc V a r0 σ ++ ext) (pc + 3) L (.int (σ.1 0 12) :: st)) : ol_G X V A md P rm nL cells slots (ol_Xc V a r0 σ ++ ext) pc L (.ref (a 0) :: st) := by
  exact ol_getN (fs := ol_Of a r0 σ) (ci := 1) (v := .int (σ.1 0 12)) hX in_X1 0 rfl rfl 12 (by decide) hl rfl (by rfl) hd k
theorem ol_xp_O_12 (hX : ol_CX X V A cc own nm nL ret) {x : Int32} (hl : Cond.fieldLink own index "OpenLines" "laidSet" "I" ∈ lw_all) (hd : decode cc pc = .ok (.putfield index, 3)) (k : ol_G X V A true P rm nL cells slots (ol_Xc V a r0 (ol_xs σ 0 12 x) ++ ext) (pc + 3) L st) : ol_G X V A true P rm nL cells slots (ol_Xc V a r0 σ ++ ext) pc L (.int x :: .ref (a 0) :: st) := by
  have hws : (ol_Xc V a r0 σ ++ ext).set 0 (a 0, .inr (1, (ol_Of a r0 σ).set 12 (.int x))) = ol_Xc V a r0 (ol_xs σ 0 12 x) ++ ext := rfl
  exact ol_put (fs := ol_Of a r0 σ) (ci := 1) hX in_X1 tyX1 tyX1_ok nmX1 0 rfl rfl 12 (by decide) hl rfl rfl rfl rfl (Nat.le_of_ble_eq_true rfl) hd hws k
theorem ol_xpN_O_12 (hX : ol_CX X V A cc own nm nL ret) {x : Int32} (hl : Cond.fieldLinkNest own index "OpenLines" "laidSet" "I" host ∈ lw_tbl) (hd : decode cc pc = .ok (.putfield index, 3)) (k : ol_G X V A true P rm nL cells slots (ol_Xc V a r0 (ol_xs σ 0 12 x) ++ ext) (pc + 3) L st) : ol_G X V A true P rm nL cells slots (ol_Xc V a r0 σ ++ ext) pc L (.int x :: .ref (a 0) :: st) := by
  have hws : (ol_Xc V a r0 σ ++ ext).set 0 (a 0, .inr (1, (ol_Of a r0 σ).set 12 (.int x))) = ol_Xc V a r0 (ol_xs σ 0 12 x) ++ ext := rfl
  exact ol_putN (fs := ol_Of a r0 σ) (ci := 1) hX in_X1 tyX1 tyX1_ok nmX1 0 rfl rfl 12 (by decide) hl rfl rfl rfl rfl (Nat.le_of_ble_eq_true rfl) hd hws k
theorem ol_xg_P_0 (hX : ol_CX X V A cc own nm nL ret) (hl : Cond.fieldLink own index "OpenLines$Pass" "words" "[I" ∈ lw_all) (hd : decode cc pc = .ok (.getfield index, 3)) (k : ol_G X V A md P rm nL cells slots (ol_Xc V a r0 σ ++ ext) (pc + 3) L (.ref (a 3) :: st)) : ol_G X V A md P rm nL cells slots (ol_Xc V a r0 σ ++ ext) pc L (.ref (a 2) :: st) := by
  exact ol_get (fs := ol_Pf a σ) (ci := 2) (v := .ref (a 3)) hX in_X2 2 rfl rfl 0 (by decide) hl rfl (by rfl) hd k
theorem ol_xgN_P_0 (hX : ol_CX X V A cc own nm nL ret) (hl : Cond.fieldLinkNest own index "OpenLines$Pass" "words" "[I" host ∈ lw_tbl) (hd : decode cc pc = .ok (.getfield index, 3)) (k : ol_G X V A md P rm nL cells slots (ol_Xc V a r0 σ ++ ext) (pc + 3) L (.ref (a 3) :: st)) : ol_G X V A md P rm nL cells slots (ol_Xc V a r0 σ ++ ext) pc L (.ref (a 2) :: st) := by
  exact ol_getN (fs := ol_Pf a σ) (ci := 2) (v := .ref (a 3)) hX in_X2 2 rfl rfl 0 (by decide) hl rfl (by rfl) hd k
theorem ol_xg_P_1 (hX : ol_CX X V A cc own nm nL ret) (hl : Cond.fieldLink own index "OpenLines$Pass" "drives" "[I" ∈ lw_all) (hd : decode cc pc = .ok (.getfield index, 3)) (k : ol_G X V A md P rm nL cells slots (ol_Xc V a r0 σ ++ ext) (pc + 3) L (.ref (a 4) :: st)) : ol_G X V A md P rm nL cells slots (ol_Xc V a r0 σ ++ ext) pc L (.ref (a 2) :: st) := by
  exact ol_get (fs := ol_Pf a σ) (ci := 2) (v := .ref (a 4)) hX in_X2 2 rfl rfl 1 (by decide) hl rfl (by rfl) hd k
theorem ol_xgN_P_1 (hX : ol_CX X V A cc own nm nL ret) (hl : Cond.fieldLinkNest own index "OpenLines$Pass" "drives" "[I" host ∈ lw_tbl) (hd : decode cc pc = .ok (.getfield index, 3)) (k : ol_G X V A md P rm nL cells slots (ol_Xc V a r0 σ ++ ext) (pc + 3) L (.ref (a 4) :: st)) : ol_G X V A md P rm nL cells slots (ol_Xc V a r0 σ ++ ext) pc L (.ref (a 2) :: st) := by
  exact ol_getN (fs := ol_Pf a σ) (ci := 2) (v := .ref (a 4)) hX in_X2 2 rfl rfl 1 (by decide) hl rfl (by rfl) hd k
theorem ol_xg_P_2 (hX : ol_CX X V A cc own nm nL ret) (hl : Cond.fieldLink own index "OpenLines$Pass" "seen" "[I" ∈ lw_all) (hd : decode cc pc = .ok (.getfield index, 3)) (k : ol_G X V A md P rm nL cells slots (ol_Xc V a r0 σ ++ ext) (pc + 3) L (.ref (a 5) :: st)) : ol_G X V A md P rm nL cells slots (ol_Xc V a r0 σ ++ ext) pc L (.ref (a 2) :: st) := by
  exact ol_get (fs := ol_Pf a σ) (ci := 2) (v := .ref (a 5)) hX in_X2 2 rfl rfl 2 (by decide) hl rfl (by rfl) hd k
theorem ol_xgN_P_2 (hX : ol_CX X V A cc own nm nL ret) (hl : Cond.fieldLinkNest own index "OpenLines$Pass" "seen" "[I" host ∈ lw_tbl) (hd : decode cc pc = .ok (.getfield index, 3)) (k : ol_G X V A md P rm nL cells slots (ol_Xc V a r0 σ ++ ext) (pc + 3) L (.ref (a 5) :: st)) : ol_G X V A md P rm nL cells slots (ol_Xc V a r0 σ ++ ext) pc L (.ref (a 2) :: st) := by
  exact ol_getN (fs := ol_Pf a σ) (ci := 2) (v := .ref (a 5)) hX in_X2 2 rfl rfl 2 (by decide) hl rfl (by rfl) hd k
theorem ol_xg_P_3 (hX : ol_CX X V A cc own nm nL ret) (hl : Cond.fieldLink own index "OpenLines$Pass" "taken" "[I" ∈ lw_all) (hd : decode cc pc = .ok (.getfield index, 3)) (k : ol_G X V A md P rm nL cells slots (ol_Xc V a r0 σ ++ ext) (pc + 3) L (.ref (a 6) :: st)) : ol_G X V A md P rm nL cells slots (ol_Xc V a r0 σ ++ ext) pc L (.ref (a 2) :: st) := by
  exact ol_get (fs := ol_Pf a σ) (ci := 2) (v := .ref (a 6)) hX in_X2 2 rfl rfl 3 (by decide) hl rfl (by rfl) hd k
theorem ol_xgN_P_3 (hX : ol_CX X V A cc own nm nL ret) (hl : Cond.fieldLinkNest own index "OpenLines$Pass" "taken" "[I" host ∈ lw_tbl) (hd : decode cc pc = .ok (.getfield index, 3)) (k : ol_G X V A md P rm nL cells slots (ol_Xc V a r0 σ ++ ext) (pc + 3) L (.ref (a 6) :: st)) : ol_G X V A md P rm nL cells slots (ol_Xc V a r0 σ ++ ext) pc L (.ref (a 2) :: st) := by
  exact ol_getN (fs := ol_Pf a σ) (ci := 2) (v := .ref (a 6)) hX in_X2 2 rfl rfl 3 (by decide) hl rfl (by rfl) hd k
theorem ol_xg_P_4 (hX : ol_CX X V A cc own nm nL ret) (hl : Cond.fieldLink own index "OpenLines$Pass" "withdrawn" "[I" ∈ lw_all) (hd : decode cc pc = .ok (.getfield index, 3)) (k : ol_G X V A md P rm nL cells slots (ol_Xc V a r0 σ ++ ext) (pc + 3) L (.ref (a 7) :: st)) : ol_G X V A md P rm nL cells slots (ol_Xc V a r0 σ ++ ext) pc L (.ref (a 2) :: st) := by
  exact ol_get (fs := ol_Pf a σ) (ci := 2) (v := .ref (a 7)) hX in_X2 2 rfl rfl 4 (by decide) hl rfl (by rfl) hd k
theorem ol_xgN_P_4 (hX : ol_CX X V A cc own nm nL ret) (hl : Cond.fieldLinkNest own index "OpenLines$Pass" "withdrawn" "[I" host ∈ lw_tbl) (hd : decode cc pc = .ok (.getfield index, 3)) (k : ol_G X V A md P rm nL cells slots (ol_Xc V a r0 σ ++ ext) (pc + 3) L (.ref (a 7) :: st)) : ol_G X V A md P rm nL cells slots (ol_Xc V a r0 σ ++ ext) pc L (.ref (a 2) :: st) := by
  exact ol_getN (fs := ol_Pf a σ) (ci := 2) (v := .ref (a 7)) hX in_X2 2 rfl rfl 4 (by decide) hl rfl (by rfl) hd k
theorem ol_xg_P_5 (hX : ol_CX X V A cc own nm nL ret) (hl : Cond.fieldLink own index "OpenLines$Pass" "dipped" "[I" ∈ lw_all) (hd : decode cc pc = .ok (.getfield index, 3)) (k : ol_G X V A md P rm nL cells slots (ol_Xc V a r0 σ ++ ext) (pc + 3) L (.ref (a 8) :: st)) : ol_G X V A md P rm nL cells slots (ol_Xc V a r0 σ ++ ext) pc L (.ref (a 2) :: st) := by
  exact ol_get (fs := ol_Pf a σ) (ci := 2) (v := .ref (a 8)) hX in_X2 2 rfl rfl 5 (by decide) hl rfl (by rfl) hd k
theorem ol_xgN_P_5 (hX : ol_CX X V A cc own nm nL ret) (hl : Cond.fieldLinkNest own index "OpenLines$Pass" "dipped" "[I" host ∈ lw_tbl) (hd : decode cc pc = .ok (.getfield index, 3)) (k : ol_G X V A md P rm nL cells slots (ol_Xc V a r0 σ ++ ext) (pc + 3) L (.ref (a 8) :: st)) : ol_G X V A md P rm nL cells slots (ol_Xc V a r0 σ ++ ext) pc L (.ref (a 2) :: st) := by
  exact ol_getN (fs := ol_Pf a σ) (ci := 2) (v := .ref (a 8)) hX in_X2 2 rfl rfl 5 (by decide) hl rfl (by rfl) hd k
theorem ol_xg_P_6 (hX : ol_CX X V A cc own nm nL ret) (hl : Cond.fieldLink own index "OpenLines$Pass" "latest" "[I" ∈ lw_all) (hd : decode cc pc = .ok (.getfield index, 3)) (k : ol_G X V A md P rm nL cells slots (ol_Xc V a r0 σ ++ ext) (pc + 3) L (.ref (a 9) :: st)) : ol_G X V A md P rm nL cells slots (ol_Xc V a r0 σ ++ ext) pc L (.ref (a 2) :: st) := by
  exact ol_get (fs := ol_Pf a σ) (ci := 2) (v := .ref (a 9)) hX in_X2 2 rfl rfl 6 (by decide) hl rfl (by rfl) hd k
theorem ol_xgN_P_6 (hX : ol_CX X V A cc own nm nL ret) (hl : Cond.fieldLinkNest own index "OpenLines$Pass" "latest" "[I" host ∈ lw_tbl) (hd : decode cc pc = .ok (.getfield index, 3)) (k : ol_G X V A md P rm nL cells slots (ol_Xc V a r0 σ ++ ext) (pc + 3) L (.ref (a 9) :: st)) : ol_G X V A md P rm nL cells slots (ol_Xc V a r0 σ ++ ext) pc L (.ref (a 2) :: st) := by
  exact ol_getN (fs := ol_Pf a σ) (ci := 2) (v := .ref (a 9)) hX in_X2 2 rfl rfl 6 (by decide) hl rfl (by rfl) hd k
theorem ol_xg_P_7 (hX : ol_CX X V A cc own nm nL ret) (hl : Cond.fieldLink own index "OpenLines$Pass" "bus" "LOpenLines$Bus;" ∈ lw_all) (hb : σ.2.1 3 = some b) (hd : decode cc pc = .ok (.getfield index, 3)) (k : ol_G X V A md P rm nL cells slots (ol_Xc V a r0 σ ++ ext) (pc + 3) L (.ref b :: st)) : ol_G X V A md P rm nL cells slots (ol_Xc V a r0 σ ++ ext) pc L (.ref (a 2) :: st) := by
  exact ol_get (fs := ol_Pf a σ) (ci := 2) (v := .ref b) hX in_X2 2 rfl rfl 7 (by decide) hl rfl (by show some (va_rf _) = _; rw [hb]; rfl) hd k
theorem ol_xgN_P_7 (hX : ol_CX X V A cc own nm nL ret) (hl : Cond.fieldLinkNest own index "OpenLines$Pass" "bus" "LOpenLines$Bus;" host ∈ lw_tbl) (hb : σ.2.1 3 = some b) (hd : decode cc pc = .ok (.getfield index, 3)) (k : ol_G X V A md P rm nL cells slots (ol_Xc V a r0 σ ++ ext) (pc + 3) L (.ref b :: st)) : ol_G X V A md P rm nL cells slots (ol_Xc V a r0 σ ++ ext) pc L (.ref (a 2) :: st) := by
  exact ol_getN (fs := ol_Pf a σ) (ci := 2) (v := .ref b) hX in_X2 2 rfl rfl 7 (by decide) hl rfl (by show some (va_rf _) = _; rw [hb]; rfl) hd k
theorem ol_xg_P_8 (hX : ol_CX X V A cc own nm nL ret) (hl : Cond.fieldLink own index "OpenLines$Pass" "set" "I" ∈ lw_all) (hd : decode cc pc = .ok (.getfield index, 3)) (k : ol_G X V A md P rm nL cells slots (ol_Xc V a r0 σ ++ ext) (pc + 3) L (.int (σ.1 2 8) :: st)) : ol_G X V A md P rm nL cells slots (ol_Xc V a r0 σ ++ ext) pc L (.ref (a 2) :: st) := by
  exact ol_get (fs := ol_Pf a σ) (ci := 2) (v := .int (σ.1 2 8)) hX in_X2 2 rfl rfl 8 (by decide) hl rfl (by rfl) hd k
theorem ol_xgN_P_8 (hX : ol_CX X V A cc own nm nL ret) (hl : Cond.fieldLinkNest own index "OpenLines$Pass" "set" "I" host ∈ lw_tbl) (hd : decode cc pc = .ok (.getfield index, 3)) (k : ol_G X V A md P rm nL cells slots (ol_Xc V a r0 σ ++ ext) (pc + 3) L (.int (σ.1 2 8) :: st)) : ol_G X V A md P rm nL cells slots (ol_Xc V a r0 σ ++ ext) pc L (.ref (a 2) :: st) := by
  exact ol_getN (fs := ol_Pf a σ) (ci := 2) (v := .int (σ.1 2 8)) hX in_X2 2 rfl rfl 8 (by decide) hl rfl (by rfl) hd k
theorem ol_xp_P_8 (hX : ol_CX X V A cc own nm nL ret) {x : Int32} (hl : Cond.fieldLink own index "OpenLines$Pass" "set" "I" ∈ lw_all) (hd : decode cc pc = .ok (.putfield index, 3)) (k : ol_G X V A true P rm nL cells slots (ol_Xc V a r0 (ol_xs σ 2 8 x) ++ ext) (pc + 3) L st) : ol_G X V A true P rm nL cells slots (ol_Xc V a r0 σ ++ ext) pc L (.int x :: .ref (a 2) :: st) := by
  have hws : (ol_Xc V a r0 σ ++ ext).set 2 (a 2, .inr (2, (ol_Pf a σ).set 8 (.int x))) = ol_Xc V a r0 (ol_xs σ 2 8 x) ++ ext := rfl
  exact ol_put (fs := ol_Pf a σ) (ci := 2) hX in_X2 tyX2 tyX2_ok nmX2 2 rfl rfl 8 (by decide) hl rfl rfl rfl rfl (Nat.le_of_ble_eq_true rfl) hd hws k
theorem ol_xpN_P_8 (hX : ol_CX X V A cc own nm nL ret) {x : Int32} (hl : Cond.fieldLinkNest own index "OpenLines$Pass" "set" "I" host ∈ lw_tbl) (hd : decode cc pc = .ok (.putfield index, 3)) (k : ol_G X V A true P rm nL cells slots (ol_Xc V a r0 (ol_xs σ 2 8 x) ++ ext) (pc + 3) L st) : ol_G X V A true P rm nL cells slots (ol_Xc V a r0 σ ++ ext) pc L (.int x :: .ref (a 2) :: st) := by
  have hws : (ol_Xc V a r0 σ ++ ext).set 2 (a 2, .inr (2, (ol_Pf a σ).set 8 (.int x))) = ol_Xc V a r0 (ol_xs σ 2 8 x) ++ ext := rfl
  exact ol_putN (fs := ol_Pf a σ) (ci := 2) hX in_X2 tyX2 tyX2_ok nmX2 2 rfl rfl 8 (by decide) hl rfl rfl rfl rfl (Nat.le_of_ble_eq_true rfl) hd hws k
theorem ol_xg_P_9 (hX : ol_CX X V A cc own nm nL ret) (hl : Cond.fieldLink own index "OpenLines$Pass" "stuck" "I" ∈ lw_all) (hd : decode cc pc = .ok (.getfield index, 3)) (k : ol_G X V A md P rm nL cells slots (ol_Xc V a r0 σ ++ ext) (pc + 3) L (.int (σ.1 2 9) :: st)) : ol_G X V A md P rm nL cells slots (ol_Xc V a r0 σ ++ ext) pc L (.ref (a 2) :: st) := by
  exact ol_get (fs := ol_Pf a σ) (ci := 2) (v := .int (σ.1 2 9)) hX in_X2 2 rfl rfl 9 (by decide) hl rfl (by rfl) hd k
theorem ol_xgN_P_9 (hX : ol_CX X V A cc own nm nL ret) (hl : Cond.fieldLinkNest own index "OpenLines$Pass" "stuck" "I" host ∈ lw_tbl) (hd : decode cc pc = .ok (.getfield index, 3)) (k : ol_G X V A md P rm nL cells slots (ol_Xc V a r0 σ ++ ext) (pc + 3) L (.int (σ.1 2 9) :: st)) : ol_G X V A md P rm nL cells slots (ol_Xc V a r0 σ ++ ext) pc L (.ref (a 2) :: st) := by
  exact ol_getN (fs := ol_Pf a σ) (ci := 2) (v := .int (σ.1 2 9)) hX in_X2 2 rfl rfl 9 (by decide) hl rfl (by rfl) hd k
theorem ol_xp_P_9 (hX : ol_CX X V A cc own nm nL ret) {x : Int32} (hl : Cond.fieldLink own index "OpenLines$Pass" "stuck" "I" ∈ lw_all) (hd : decode cc pc = .ok (.putfield index, 3)) (k : ol_G X V A true P rm nL cells slots (ol_Xc V a r0 (ol_xs σ 2 9 x) ++ ext) (pc + 3) L st) : ol_G X V A true P rm nL cells slots (ol_Xc V a r0 σ ++ ext) pc L (.int x :: .ref (a 2) :: st) := by
  have hws : (ol_Xc V a r0 σ ++ ext).set 2 (a 2, .inr (2, (ol_Pf a σ).set 9 (.int x))) = ol_Xc V a r0 (ol_xs σ 2 9 x) ++ ext := rfl
  exact ol_put (fs := ol_Pf a σ) (ci := 2) hX in_X2 tyX2 tyX2_ok nmX2 2 rfl rfl 9 (by decide) hl rfl rfl rfl rfl (Nat.le_of_ble_eq_true rfl) hd hws k
theorem ol_xpN_P_9 (hX : ol_CX X V A cc own nm nL ret) {x : Int32} (hl : Cond.fieldLinkNest own index "OpenLines$Pass" "stuck" "I" host ∈ lw_tbl) (hd : decode cc pc = .ok (.putfield index, 3)) (k : ol_G X V A true P rm nL cells slots (ol_Xc V a r0 (ol_xs σ 2 9 x) ++ ext) (pc + 3) L st) : ol_G X V A true P rm nL cells slots (ol_Xc V a r0 σ ++ ext) pc L (.int x :: .ref (a 2) :: st) := by
  have hws : (ol_Xc V a r0 σ ++ ext).set 2 (a 2, .inr (2, (ol_Pf a σ).set 9 (.int x))) = ol_Xc V a r0 (ol_xs σ 2 9 x) ++ ext := rfl
  exact ol_putN (fs := ol_Pf a σ) (ci := 2) hX in_X2 tyX2 tyX2_ok nmX2 2 rfl rfl 9 (by decide) hl rfl rfl rfl rfl (Nat.le_of_ble_eq_true rfl) hd hws k
theorem ol_xg_P_10 (hX : ol_CX X V A cc own nm nL ret) (hl : Cond.fieldLink own index "OpenLines$Pass" "broken" "I" ∈ lw_all) (hd : decode cc pc = .ok (.getfield index, 3)) (k : ol_G X V A md P rm nL cells slots (ol_Xc V a r0 σ ++ ext) (pc + 3) L (.int (σ.1 2 10) :: st)) : ol_G X V A md P rm nL cells slots (ol_Xc V a r0 σ ++ ext) pc L (.ref (a 2) :: st) := by
  exact ol_get (fs := ol_Pf a σ) (ci := 2) (v := .int (σ.1 2 10)) hX in_X2 2 rfl rfl 10 (by decide) hl rfl (by rfl) hd k
theorem ol_xgN_P_10 (hX : ol_CX X V A cc own nm nL ret) (hl : Cond.fieldLinkNest own index "OpenLines$Pass" "broken" "I" host ∈ lw_tbl) (hd : decode cc pc = .ok (.getfield index, 3)) (k : ol_G X V A md P rm nL cells slots (ol_Xc V a r0 σ ++ ext) (pc + 3) L (.int (σ.1 2 10) :: st)) : ol_G X V A md P rm nL cells slots (ol_Xc V a r0 σ ++ ext) pc L (.ref (a 2) :: st) := by
  exact ol_getN (fs := ol_Pf a σ) (ci := 2) (v := .int (σ.1 2 10)) hX in_X2 2 rfl rfl 10 (by decide) hl rfl (by rfl) hd k
theorem ol_xp_P_10 (hX : ol_CX X V A cc own nm nL ret) {x : Int32} (hl : Cond.fieldLink own index "OpenLines$Pass" "broken" "I" ∈ lw_all) (hd : decode cc pc = .ok (.putfield index, 3)) (k : ol_G X V A true P rm nL cells slots (ol_Xc V a r0 (ol_xs σ 2 10 x) ++ ext) (pc + 3) L st) : ol_G X V A true P rm nL cells slots (ol_Xc V a r0 σ ++ ext) pc L (.int x :: .ref (a 2) :: st) := by
  have hws : (ol_Xc V a r0 σ ++ ext).set 2 (a 2, .inr (2, (ol_Pf a σ).set 10 (.int x))) = ol_Xc V a r0 (ol_xs σ 2 10 x) ++ ext := rfl
  exact ol_put (fs := ol_Pf a σ) (ci := 2) hX in_X2 tyX2 tyX2_ok nmX2 2 rfl rfl 10 (by decide) hl rfl rfl rfl rfl (Nat.le_of_ble_eq_true rfl) hd hws k
theorem ol_xpN_P_10 (hX : ol_CX X V A cc own nm nL ret) {x : Int32} (hl : Cond.fieldLinkNest own index "OpenLines$Pass" "broken" "I" host ∈ lw_tbl) (hd : decode cc pc = .ok (.putfield index, 3)) (k : ol_G X V A true P rm nL cells slots (ol_Xc V a r0 (ol_xs σ 2 10 x) ++ ext) (pc + 3) L st) : ol_G X V A true P rm nL cells slots (ol_Xc V a r0 σ ++ ext) pc L (.int x :: .ref (a 2) :: st) := by
  have hws : (ol_Xc V a r0 σ ++ ext).set 2 (a 2, .inr (2, (ol_Pf a σ).set 10 (.int x))) = ol_Xc V a r0 (ol_xs σ 2 10 x) ++ ext := rfl
  exact ol_putN (fs := ol_Pf a σ) (ci := 2) hX in_X2 tyX2 tyX2_ok nmX2 2 rfl rfl 10 (by decide) hl rfl rfl rfl rfl (Nat.le_of_ble_eq_true rfl) hd hws k
theorem ol_xg_P_11 (hX : ol_CX X V A cc own nm nL ret) (hl : Cond.fieldLink own index "OpenLines$Pass" "dips" "I" ∈ lw_all) (hd : decode cc pc = .ok (.getfield index, 3)) (k : ol_G X V A md P rm nL cells slots (ol_Xc V a r0 σ ++ ext) (pc + 3) L (.int (σ.1 2 11) :: st)) : ol_G X V A md P rm nL cells slots (ol_Xc V a r0 σ ++ ext) pc L (.ref (a 2) :: st) := by
  exact ol_get (fs := ol_Pf a σ) (ci := 2) (v := .int (σ.1 2 11)) hX in_X2 2 rfl rfl 11 (by decide) hl rfl (by rfl) hd k
theorem ol_xgN_P_11 (hX : ol_CX X V A cc own nm nL ret) (hl : Cond.fieldLinkNest own index "OpenLines$Pass" "dips" "I" host ∈ lw_tbl) (hd : decode cc pc = .ok (.getfield index, 3)) (k : ol_G X V A md P rm nL cells slots (ol_Xc V a r0 σ ++ ext) (pc + 3) L (.int (σ.1 2 11) :: st)) : ol_G X V A md P rm nL cells slots (ol_Xc V a r0 σ ++ ext) pc L (.ref (a 2) :: st) := by
  exact ol_getN (fs := ol_Pf a σ) (ci := 2) (v := .int (σ.1 2 11)) hX in_X2 2 rfl rfl 11 (by decide) hl rfl (by rfl) hd k
theorem ol_xp_P_11 (hX : ol_CX X V A cc own nm nL ret) {x : Int32} (hl : Cond.fieldLink own index "OpenLines$Pass" "dips" "I" ∈ lw_all) (hd : decode cc pc = .ok (.putfield index, 3)) (k : ol_G X V A true P rm nL cells slots (ol_Xc V a r0 (ol_xs σ 2 11 x) ++ ext) (pc + 3) L st) : ol_G X V A true P rm nL cells slots (ol_Xc V a r0 σ ++ ext) pc L (.int x :: .ref (a 2) :: st) := by
  have hws : (ol_Xc V a r0 σ ++ ext).set 2 (a 2, .inr (2, (ol_Pf a σ).set 11 (.int x))) = ol_Xc V a r0 (ol_xs σ 2 11 x) ++ ext := rfl
  exact ol_put (fs := ol_Pf a σ) (ci := 2) hX in_X2 tyX2 tyX2_ok nmX2 2 rfl rfl 11 (by decide) hl rfl rfl rfl rfl (Nat.le_of_ble_eq_true rfl) hd hws k
theorem ol_xpN_P_11 (hX : ol_CX X V A cc own nm nL ret) {x : Int32} (hl : Cond.fieldLinkNest own index "OpenLines$Pass" "dips" "I" host ∈ lw_tbl) (hd : decode cc pc = .ok (.putfield index, 3)) (k : ol_G X V A true P rm nL cells slots (ol_Xc V a r0 (ol_xs σ 2 11 x) ++ ext) (pc + 3) L st) : ol_G X V A true P rm nL cells slots (ol_Xc V a r0 σ ++ ext) pc L (.int x :: .ref (a 2) :: st) := by
  have hws : (ol_Xc V a r0 σ ++ ext).set 2 (a 2, .inr (2, (ol_Pf a σ).set 11 (.int x))) = ol_Xc V a r0 (ol_xs σ 2 11 x) ++ ext := rfl
  exact ol_putN (fs := ol_Pf a σ) (ci := 2) hX in_X2 tyX2 tyX2_ok nmX2 2 rfl rfl 11 (by decide) hl rfl rfl rfl rfl (Nat.le_of_ble_eq_true rfl) hd hws k
theorem ol_xg_P_12 (hX : ol_CX X V A cc own nm nL ret) (hl : Cond.fieldLink own index "OpenLines$Pass" "till" "I" ∈ lw_all) (hd : decode cc pc = .ok (.getfield index, 3)) (k : ol_G X V A md P rm nL cells slots (ol_Xc V a r0 σ ++ ext) (pc + 3) L (.int (σ.1 2 12) :: st)) : ol_G X V A md P rm nL cells slots (ol_Xc V a r0 σ ++ ext) pc L (.ref (a 2) :: st) := by
  exact ol_get (fs := ol_Pf a σ) (ci := 2) (v := .int (σ.1 2 12)) hX in_X2 2 rfl rfl 12 (by decide) hl rfl (by rfl) hd k
theorem ol_xgN_P_12 (hX : ol_CX X V A cc own nm nL ret) (hl : Cond.fieldLinkNest own index "OpenLines$Pass" "till" "I" host ∈ lw_tbl) (hd : decode cc pc = .ok (.getfield index, 3)) (k : ol_G X V A md P rm nL cells slots (ol_Xc V a r0 σ ++ ext) (pc + 3) L (.int (σ.1 2 12) :: st)) : ol_G X V A md P rm nL cells slots (ol_Xc V a r0 σ ++ ext) pc L (.ref (a 2) :: st) := by
  exact ol_getN (fs := ol_Pf a σ) (ci := 2) (v := .int (σ.1 2 12)) hX in_X2 2 rfl rfl 12 (by decide) hl rfl (by rfl) hd k
theorem ol_xp_P_12 (hX : ol_CX X V A cc own nm nL ret) {x : Int32} (hl : Cond.fieldLink own index "OpenLines$Pass" "till" "I" ∈ lw_all) (hd : decode cc pc = .ok (.putfield index, 3)) (k : ol_G X V A true P rm nL cells slots (ol_Xc V a r0 (ol_xs σ 2 12 x) ++ ext) (pc + 3) L st) : ol_G X V A true P rm nL cells slots (ol_Xc V a r0 σ ++ ext) pc L (.int x :: .ref (a 2) :: st) := by
  have hws : (ol_Xc V a r0 σ ++ ext).set 2 (a 2, .inr (2, (ol_Pf a σ).set 12 (.int x))) = ol_Xc V a r0 (ol_xs σ 2 12 x) ++ ext := rfl
  exact ol_put (fs := ol_Pf a σ) (ci := 2) hX in_X2 tyX2 tyX2_ok nmX2 2 rfl rfl 12 (by decide) hl rfl rfl rfl rfl (Nat.le_of_ble_eq_true rfl) hd hws k
theorem ol_xpN_P_12 (hX : ol_CX X V A cc own nm nL ret) {x : Int32} (hl : Cond.fieldLinkNest own index "OpenLines$Pass" "till" "I" host ∈ lw_tbl) (hd : decode cc pc = .ok (.putfield index, 3)) (k : ol_G X V A true P rm nL cells slots (ol_Xc V a r0 (ol_xs σ 2 12 x) ++ ext) (pc + 3) L st) : ol_G X V A true P rm nL cells slots (ol_Xc V a r0 σ ++ ext) pc L (.int x :: .ref (a 2) :: st) := by
  have hws : (ol_Xc V a r0 σ ++ ext).set 2 (a 2, .inr (2, (ol_Pf a σ).set 12 (.int x))) = ol_Xc V a r0 (ol_xs σ 2 12 x) ++ ext := rfl
  exact ol_putN (fs := ol_Pf a σ) (ci := 2) hX in_X2 tyX2 tyX2_ok nmX2 2 rfl rfl 12 (by decide) hl rfl rfl rfl rfl (Nat.le_of_ble_eq_true rfl) hd hws k
theorem ol_xg_P_13 (hX : ol_CX X V A cc own nm nL ret) (hl : Cond.fieldLink own index "OpenLines$Pass" "filter" "I" ∈ lw_all) (hd : decode cc pc = .ok (.getfield index, 3)) (k : ol_G X V A md P rm nL cells slots (ol_Xc V a r0 σ ++ ext) (pc + 3) L (.int (σ.1 2 13) :: st)) : ol_G X V A md P rm nL cells slots (ol_Xc V a r0 σ ++ ext) pc L (.ref (a 2) :: st) := by
  exact ol_get (fs := ol_Pf a σ) (ci := 2) (v := .int (σ.1 2 13)) hX in_X2 2 rfl rfl 13 (by decide) hl rfl (by rfl) hd k
theorem ol_xgN_P_13 (hX : ol_CX X V A cc own nm nL ret) (hl : Cond.fieldLinkNest own index "OpenLines$Pass" "filter" "I" host ∈ lw_tbl) (hd : decode cc pc = .ok (.getfield index, 3)) (k : ol_G X V A md P rm nL cells slots (ol_Xc V a r0 σ ++ ext) (pc + 3) L (.int (σ.1 2 13) :: st)) : ol_G X V A md P rm nL cells slots (ol_Xc V a r0 σ ++ ext) pc L (.ref (a 2) :: st) := by
  exact ol_getN (fs := ol_Pf a σ) (ci := 2) (v := .int (σ.1 2 13)) hX in_X2 2 rfl rfl 13 (by decide) hl rfl (by rfl) hd k
theorem ol_xp_P_13 (hX : ol_CX X V A cc own nm nL ret) {x : Int32} (hl : Cond.fieldLink own index "OpenLines$Pass" "filter" "I" ∈ lw_all) (hd : decode cc pc = .ok (.putfield index, 3)) (k : ol_G X V A true P rm nL cells slots (ol_Xc V a r0 (ol_xs σ 2 13 x) ++ ext) (pc + 3) L st) : ol_G X V A true P rm nL cells slots (ol_Xc V a r0 σ ++ ext) pc L (.int x :: .ref (a 2) :: st) := by
  have hws : (ol_Xc V a r0 σ ++ ext).set 2 (a 2, .inr (2, (ol_Pf a σ).set 13 (.int x))) = ol_Xc V a r0 (ol_xs σ 2 13 x) ++ ext := rfl
  exact ol_put (fs := ol_Pf a σ) (ci := 2) hX in_X2 tyX2 tyX2_ok nmX2 2 rfl rfl 13 (by decide) hl rfl rfl rfl rfl (Nat.le_of_ble_eq_true rfl) hd hws k
theorem ol_xpN_P_13 (hX : ol_CX X V A cc own nm nL ret) {x : Int32} (hl : Cond.fieldLinkNest own index "OpenLines$Pass" "filter" "I" host ∈ lw_tbl) (hd : decode cc pc = .ok (.putfield index, 3)) (k : ol_G X V A true P rm nL cells slots (ol_Xc V a r0 (ol_xs σ 2 13 x) ++ ext) (pc + 3) L st) : ol_G X V A true P rm nL cells slots (ol_Xc V a r0 σ ++ ext) pc L (.int x :: .ref (a 2) :: st) := by
  have hws : (ol_Xc V a r0 σ ++ ext).set 2 (a 2, .inr (2, (ol_Pf a σ).set 13 (.int x))) = ol_Xc V a r0 (ol_xs σ 2 13 x) ++ ext := rfl
  exact ol_putN (fs := ol_Pf a σ) (ci := 2) hX in_X2 tyX2 tyX2_ok nmX2 2 rfl rfl 13 (by decide) hl rfl rfl rfl rfl (Nat.le_of_ble_eq_true rfl) hd hws k
theorem ol_xg_P_14 (hX : ol_CX X V A cc own nm nL ret) (hl : Cond.fieldLink own index "OpenLines$Pass" "this$0" "LOpenLines;" ∈ lw_all) (hd : decode cc pc = .ok (.getfield index, 3)) (k : ol_G X V A md P rm nL cells slots (ol_Xc V a r0 σ ++ ext) (pc + 3) L (.ref (a 0) :: st)) : ol_G X V A md P rm nL cells slots (ol_Xc V a r0 σ ++ ext) pc L (.ref (a 2) :: st) := by
  exact ol_get (fs := ol_Pf a σ) (ci := 2) (v := .ref (a 0)) hX in_X2 2 rfl rfl 14 (by decide) hl rfl (by rfl) hd k
theorem ol_xgN_P_14 (hX : ol_CX X V A cc own nm nL ret) (hl : Cond.fieldLinkNest own index "OpenLines$Pass" "this$0" "LOpenLines;" host ∈ lw_tbl) (hd : decode cc pc = .ok (.getfield index, 3)) (k : ol_G X V A md P rm nL cells slots (ol_Xc V a r0 σ ++ ext) (pc + 3) L (.ref (a 0) :: st)) : ol_G X V A md P rm nL cells slots (ol_Xc V a r0 σ ++ ext) pc L (.ref (a 2) :: st) := by
  exact ol_getN (fs := ol_Pf a σ) (ci := 2) (v := .ref (a 0)) hX in_X2 2 rfl rfl 14 (by decide) hl rfl (by rfl) hd k
theorem ol_xg_R_0 (hX : ol_CX X V A cc own nm nL ret) (hr : ol_isr r) (hl : Cond.fieldLink own index "OpenLines$Run" "bus" "LOpenLines$Bus;" ∈ lw_all) (hb : σ.2.1 r = some b) (hd : decode cc pc = .ok (.getfield index, 3)) (k : ol_G X V A md P rm nL cells slots (ol_Xc V a r0 σ ++ ext) (pc + 3) L (.ref b :: st)) : ol_G X V A md P rm nL cells slots (ol_Xc V a r0 σ ++ ext) pc L (.ref (a r) :: st) := by
  rcases hr with rfl | rfl | rfl
  · exact ol_get (fs := ol_Rf a σ 10) (ci := 3) (v := .ref b) hX in_X3 10 rfl rfl 0 (by decide) hl rfl (by show some (va_rf _) = _; rw [hb]; rfl) hd k
  · exact ol_get (fs := ol_Rf a σ 19) (ci := 3) (v := .ref b) hX in_X3 19 rfl rfl 0 (by decide) hl rfl (by show some (va_rf _) = _; rw [hb]; rfl) hd k
  · exact ol_get (fs := ol_Rf a σ 28) (ci := 3) (v := .ref b) hX in_X3 28 rfl rfl 0 (by decide) hl rfl (by show some (va_rf _) = _; rw [hb]; rfl) hd k
theorem ol_xgN_R_0 (hX : ol_CX X V A cc own nm nL ret) (hr : ol_isr r) (hl : Cond.fieldLinkNest own index "OpenLines$Run" "bus" "LOpenLines$Bus;" host ∈ lw_tbl) (hb : σ.2.1 r = some b) (hd : decode cc pc = .ok (.getfield index, 3)) (k : ol_G X V A md P rm nL cells slots (ol_Xc V a r0 σ ++ ext) (pc + 3) L (.ref b :: st)) : ol_G X V A md P rm nL cells slots (ol_Xc V a r0 σ ++ ext) pc L (.ref (a r) :: st) := by
  rcases hr with rfl | rfl | rfl
  · exact ol_getN (fs := ol_Rf a σ 10) (ci := 3) (v := .ref b) hX in_X3 10 rfl rfl 0 (by decide) hl rfl (by show some (va_rf _) = _; rw [hb]; rfl) hd k
  · exact ol_getN (fs := ol_Rf a σ 19) (ci := 3) (v := .ref b) hX in_X3 19 rfl rfl 0 (by decide) hl rfl (by show some (va_rf _) = _; rw [hb]; rfl) hd k
  · exact ol_getN (fs := ol_Rf a σ 28) (ci := 3) (v := .ref b) hX in_X3 28 rfl rfl 0 (by decide) hl rfl (by show some (va_rf _) = _; rw [hb]; rfl) hd k
theorem ol_xg_R_1 (hX : ol_CX X V A cc own nm nL ret) (hr : ol_isr r) (hl : Cond.fieldLink own index "OpenLines$Run" "isFresh" "[Z" ∈ lw_all) (hd : decode cc pc = .ok (.getfield index, 3)) (k : ol_G X V A md P rm nL cells slots (ol_Xc V a r0 σ ++ ext) (pc + 3) L (.ref (a (r + 1)) :: st)) : ol_G X V A md P rm nL cells slots (ol_Xc V a r0 σ ++ ext) pc L (.ref (a r) :: st) := by
  rcases hr with rfl | rfl | rfl
  · exact ol_get (fs := ol_Rf a σ 10) (ci := 3) (v := .ref (a (10 + 1))) hX in_X3 10 rfl rfl 1 (by decide) hl rfl (by rfl) hd k
  · exact ol_get (fs := ol_Rf a σ 19) (ci := 3) (v := .ref (a (19 + 1))) hX in_X3 19 rfl rfl 1 (by decide) hl rfl (by rfl) hd k
  · exact ol_get (fs := ol_Rf a σ 28) (ci := 3) (v := .ref (a (28 + 1))) hX in_X3 28 rfl rfl 1 (by decide) hl rfl (by rfl) hd k
theorem ol_xgN_R_1 (hX : ol_CX X V A cc own nm nL ret) (hr : ol_isr r) (hl : Cond.fieldLinkNest own index "OpenLines$Run" "isFresh" "[Z" host ∈ lw_tbl) (hd : decode cc pc = .ok (.getfield index, 3)) (k : ol_G X V A md P rm nL cells slots (ol_Xc V a r0 σ ++ ext) (pc + 3) L (.ref (a (r + 1)) :: st)) : ol_G X V A md P rm nL cells slots (ol_Xc V a r0 σ ++ ext) pc L (.ref (a r) :: st) := by
  rcases hr with rfl | rfl | rfl
  · exact ol_getN (fs := ol_Rf a σ 10) (ci := 3) (v := .ref (a (10 + 1))) hX in_X3 10 rfl rfl 1 (by decide) hl rfl (by rfl) hd k
  · exact ol_getN (fs := ol_Rf a σ 19) (ci := 3) (v := .ref (a (19 + 1))) hX in_X3 19 rfl rfl 1 (by decide) hl rfl (by rfl) hd k
  · exact ol_getN (fs := ol_Rf a σ 28) (ci := 3) (v := .ref (a (28 + 1))) hX in_X3 28 rfl rfl 1 (by decide) hl rfl (by rfl) hd k
theorem ol_xg_R_2 (hX : ol_CX X V A cc own nm nL ret) (hr : ol_isr r) (hl : Cond.fieldLink own index "OpenLines$Run" "asks" "[I" ∈ lw_all) (hd : decode cc pc = .ok (.getfield index, 3)) (k : ol_G X V A md P rm nL cells slots (ol_Xc V a r0 σ ++ ext) (pc + 3) L (.ref (a (r + 2)) :: st)) : ol_G X V A md P rm nL cells slots (ol_Xc V a r0 σ ++ ext) pc L (.ref (a r) :: st) := by
  rcases hr with rfl | rfl | rfl
  · exact ol_get (fs := ol_Rf a σ 10) (ci := 3) (v := .ref (a (10 + 2))) hX in_X3 10 rfl rfl 2 (by decide) hl rfl (by rfl) hd k
  · exact ol_get (fs := ol_Rf a σ 19) (ci := 3) (v := .ref (a (19 + 2))) hX in_X3 19 rfl rfl 2 (by decide) hl rfl (by rfl) hd k
  · exact ol_get (fs := ol_Rf a σ 28) (ci := 3) (v := .ref (a (28 + 2))) hX in_X3 28 rfl rfl 2 (by decide) hl rfl (by rfl) hd k
theorem ol_xgN_R_2 (hX : ol_CX X V A cc own nm nL ret) (hr : ol_isr r) (hl : Cond.fieldLinkNest own index "OpenLines$Run" "asks" "[I" host ∈ lw_tbl) (hd : decode cc pc = .ok (.getfield index, 3)) (k : ol_G X V A md P rm nL cells slots (ol_Xc V a r0 σ ++ ext) (pc + 3) L (.ref (a (r + 2)) :: st)) : ol_G X V A md P rm nL cells slots (ol_Xc V a r0 σ ++ ext) pc L (.ref (a r) :: st) := by
  rcases hr with rfl | rfl | rfl
  · exact ol_getN (fs := ol_Rf a σ 10) (ci := 3) (v := .ref (a (10 + 2))) hX in_X3 10 rfl rfl 2 (by decide) hl rfl (by rfl) hd k
  · exact ol_getN (fs := ol_Rf a σ 19) (ci := 3) (v := .ref (a (19 + 2))) hX in_X3 19 rfl rfl 2 (by decide) hl rfl (by rfl) hd k
  · exact ol_getN (fs := ol_Rf a σ 28) (ci := 3) (v := .ref (a (28 + 2))) hX in_X3 28 rfl rfl 2 (by decide) hl rfl (by rfl) hd k
theorem ol_xg_R_3 (hX : ol_CX X V A cc own nm nL ret) (hr : ol_isr r) (hl : Cond.fieldLink own index "OpenLines$Run" "since" "[I" ∈ lw_all) (hd : decode cc pc = .ok (.getfield index, 3)) (k : ol_G X V A md P rm nL cells slots (ol_Xc V a r0 σ ++ ext) (pc + 3) L (.ref (a (r + 3)) :: st)) : ol_G X V A md P rm nL cells slots (ol_Xc V a r0 σ ++ ext) pc L (.ref (a r) :: st) := by
  rcases hr with rfl | rfl | rfl
  · exact ol_get (fs := ol_Rf a σ 10) (ci := 3) (v := .ref (a (10 + 3))) hX in_X3 10 rfl rfl 3 (by decide) hl rfl (by rfl) hd k
  · exact ol_get (fs := ol_Rf a σ 19) (ci := 3) (v := .ref (a (19 + 3))) hX in_X3 19 rfl rfl 3 (by decide) hl rfl (by rfl) hd k
  · exact ol_get (fs := ol_Rf a σ 28) (ci := 3) (v := .ref (a (28 + 3))) hX in_X3 28 rfl rfl 3 (by decide) hl rfl (by rfl) hd k
theorem ol_xgN_R_3 (hX : ol_CX X V A cc own nm nL ret) (hr : ol_isr r) (hl : Cond.fieldLinkNest own index "OpenLines$Run" "since" "[I" host ∈ lw_tbl) (hd : decode cc pc = .ok (.getfield index, 3)) (k : ol_G X V A md P rm nL cells slots (ol_Xc V a r0 σ ++ ext) (pc + 3) L (.ref (a (r + 3)) :: st)) : ol_G X V A md P rm nL cells slots (ol_Xc V a r0 σ ++ ext) pc L (.ref (a r) :: st) := by
  rcases hr with rfl | rfl | rfl
  · exact ol_getN (fs := ol_Rf a σ 10) (ci := 3) (v := .ref (a (10 + 3))) hX in_X3 10 rfl rfl 3 (by decide) hl rfl (by rfl) hd k
  · exact ol_getN (fs := ol_Rf a σ 19) (ci := 3) (v := .ref (a (19 + 3))) hX in_X3 19 rfl rfl 3 (by decide) hl rfl (by rfl) hd k
  · exact ol_getN (fs := ol_Rf a σ 28) (ci := 3) (v := .ref (a (28 + 3))) hX in_X3 28 rfl rfl 3 (by decide) hl rfl (by rfl) hd k
theorem ol_xg_R_4 (hX : ol_CX X V A cc own nm nL ret) (hr : ol_isr r) (hl : Cond.fieldLink own index "OpenLines$Run" "waits" "[I" ∈ lw_all) (hd : decode cc pc = .ok (.getfield index, 3)) (k : ol_G X V A md P rm nL cells slots (ol_Xc V a r0 σ ++ ext) (pc + 3) L (.ref (a (r + 4)) :: st)) : ol_G X V A md P rm nL cells slots (ol_Xc V a r0 σ ++ ext) pc L (.ref (a r) :: st) := by
  rcases hr with rfl | rfl | rfl
  · exact ol_get (fs := ol_Rf a σ 10) (ci := 3) (v := .ref (a (10 + 4))) hX in_X3 10 rfl rfl 4 (by decide) hl rfl (by rfl) hd k
  · exact ol_get (fs := ol_Rf a σ 19) (ci := 3) (v := .ref (a (19 + 4))) hX in_X3 19 rfl rfl 4 (by decide) hl rfl (by rfl) hd k
  · exact ol_get (fs := ol_Rf a σ 28) (ci := 3) (v := .ref (a (28 + 4))) hX in_X3 28 rfl rfl 4 (by decide) hl rfl (by rfl) hd k
theorem ol_xgN_R_4 (hX : ol_CX X V A cc own nm nL ret) (hr : ol_isr r) (hl : Cond.fieldLinkNest own index "OpenLines$Run" "waits" "[I" host ∈ lw_tbl) (hd : decode cc pc = .ok (.getfield index, 3)) (k : ol_G X V A md P rm nL cells slots (ol_Xc V a r0 σ ++ ext) (pc + 3) L (.ref (a (r + 4)) :: st)) : ol_G X V A md P rm nL cells slots (ol_Xc V a r0 σ ++ ext) pc L (.ref (a r) :: st) := by
  rcases hr with rfl | rfl | rfl
  · exact ol_getN (fs := ol_Rf a σ 10) (ci := 3) (v := .ref (a (10 + 4))) hX in_X3 10 rfl rfl 4 (by decide) hl rfl (by rfl) hd k
  · exact ol_getN (fs := ol_Rf a σ 19) (ci := 3) (v := .ref (a (19 + 4))) hX in_X3 19 rfl rfl 4 (by decide) hl rfl (by rfl) hd k
  · exact ol_getN (fs := ol_Rf a σ 28) (ci := 3) (v := .ref (a (28 + 4))) hX in_X3 28 rfl rfl 4 (by decide) hl rfl (by rfl) hd k
theorem ol_xg_R_5 (hX : ol_CX X V A cc own nm nL ret) (hr : ol_isr r) (hl : Cond.fieldLink own index "OpenLines$Run" "lines" "[I" ∈ lw_all) (hd : decode cc pc = .ok (.getfield index, 3)) (k : ol_G X V A md P rm nL cells slots (ol_Xc V a r0 σ ++ ext) (pc + 3) L (.ref (a (r + 5)) :: st)) : ol_G X V A md P rm nL cells slots (ol_Xc V a r0 σ ++ ext) pc L (.ref (a r) :: st) := by
  rcases hr with rfl | rfl | rfl
  · exact ol_get (fs := ol_Rf a σ 10) (ci := 3) (v := .ref (a (10 + 5))) hX in_X3 10 rfl rfl 5 (by decide) hl rfl (by rfl) hd k
  · exact ol_get (fs := ol_Rf a σ 19) (ci := 3) (v := .ref (a (19 + 5))) hX in_X3 19 rfl rfl 5 (by decide) hl rfl (by rfl) hd k
  · exact ol_get (fs := ol_Rf a σ 28) (ci := 3) (v := .ref (a (28 + 5))) hX in_X3 28 rfl rfl 5 (by decide) hl rfl (by rfl) hd k
theorem ol_xgN_R_5 (hX : ol_CX X V A cc own nm nL ret) (hr : ol_isr r) (hl : Cond.fieldLinkNest own index "OpenLines$Run" "lines" "[I" host ∈ lw_tbl) (hd : decode cc pc = .ok (.getfield index, 3)) (k : ol_G X V A md P rm nL cells slots (ol_Xc V a r0 σ ++ ext) (pc + 3) L (.ref (a (r + 5)) :: st)) : ol_G X V A md P rm nL cells slots (ol_Xc V a r0 σ ++ ext) pc L (.ref (a r) :: st) := by
  rcases hr with rfl | rfl | rfl
  · exact ol_getN (fs := ol_Rf a σ 10) (ci := 3) (v := .ref (a (10 + 5))) hX in_X3 10 rfl rfl 5 (by decide) hl rfl (by rfl) hd k
  · exact ol_getN (fs := ol_Rf a σ 19) (ci := 3) (v := .ref (a (19 + 5))) hX in_X3 19 rfl rfl 5 (by decide) hl rfl (by rfl) hd k
  · exact ol_getN (fs := ol_Rf a σ 28) (ci := 3) (v := .ref (a (28 + 5))) hX in_X3 28 rfl rfl 5 (by decide) hl rfl (by rfl) hd k
theorem ol_xg_R_6 (hX : ol_CX X V A cc own nm nL ret) (hr : ol_isr r) (hl : Cond.fieldLink own index "OpenLines$Run" "words" "[I" ∈ lw_all) (hd : decode cc pc = .ok (.getfield index, 3)) (k : ol_G X V A md P rm nL cells slots (ol_Xc V a r0 σ ++ ext) (pc + 3) L (.ref (a (r + 6)) :: st)) : ol_G X V A md P rm nL cells slots (ol_Xc V a r0 σ ++ ext) pc L (.ref (a r) :: st) := by
  rcases hr with rfl | rfl | rfl
  · exact ol_get (fs := ol_Rf a σ 10) (ci := 3) (v := .ref (a (10 + 6))) hX in_X3 10 rfl rfl 6 (by decide) hl rfl (by rfl) hd k
  · exact ol_get (fs := ol_Rf a σ 19) (ci := 3) (v := .ref (a (19 + 6))) hX in_X3 19 rfl rfl 6 (by decide) hl rfl (by rfl) hd k
  · exact ol_get (fs := ol_Rf a σ 28) (ci := 3) (v := .ref (a (28 + 6))) hX in_X3 28 rfl rfl 6 (by decide) hl rfl (by rfl) hd k
theorem ol_xgN_R_6 (hX : ol_CX X V A cc own nm nL ret) (hr : ol_isr r) (hl : Cond.fieldLinkNest own index "OpenLines$Run" "words" "[I" host ∈ lw_tbl) (hd : decode cc pc = .ok (.getfield index, 3)) (k : ol_G X V A md P rm nL cells slots (ol_Xc V a r0 σ ++ ext) (pc + 3) L (.ref (a (r + 6)) :: st)) : ol_G X V A md P rm nL cells slots (ol_Xc V a r0 σ ++ ext) pc L (.ref (a r) :: st) := by
  rcases hr with rfl | rfl | rfl
  · exact ol_getN (fs := ol_Rf a σ 10) (ci := 3) (v := .ref (a (10 + 6))) hX in_X3 10 rfl rfl 6 (by decide) hl rfl (by rfl) hd k
  · exact ol_getN (fs := ol_Rf a σ 19) (ci := 3) (v := .ref (a (19 + 6))) hX in_X3 19 rfl rfl 6 (by decide) hl rfl (by rfl) hd k
  · exact ol_getN (fs := ol_Rf a σ 28) (ci := 3) (v := .ref (a (28 + 6))) hX in_X3 28 rfl rfl 6 (by decide) hl rfl (by rfl) hd k
theorem ol_xg_R_7 (hX : ol_CX X V A cc own nm nL ret) (hr : ol_isr r) (hl : Cond.fieldLink own index "OpenLines$Run" "ledger" "[I" ∈ lw_all) (hd : decode cc pc = .ok (.getfield index, 3)) (k : ol_G X V A md P rm nL cells slots (ol_Xc V a r0 σ ++ ext) (pc + 3) L (.ref (a (r + 7)) :: st)) : ol_G X V A md P rm nL cells slots (ol_Xc V a r0 σ ++ ext) pc L (.ref (a r) :: st) := by
  rcases hr with rfl | rfl | rfl
  · exact ol_get (fs := ol_Rf a σ 10) (ci := 3) (v := .ref (a (10 + 7))) hX in_X3 10 rfl rfl 7 (by decide) hl rfl (by rfl) hd k
  · exact ol_get (fs := ol_Rf a σ 19) (ci := 3) (v := .ref (a (19 + 7))) hX in_X3 19 rfl rfl 7 (by decide) hl rfl (by rfl) hd k
  · exact ol_get (fs := ol_Rf a σ 28) (ci := 3) (v := .ref (a (28 + 7))) hX in_X3 28 rfl rfl 7 (by decide) hl rfl (by rfl) hd k
theorem ol_xgN_R_7 (hX : ol_CX X V A cc own nm nL ret) (hr : ol_isr r) (hl : Cond.fieldLinkNest own index "OpenLines$Run" "ledger" "[I" host ∈ lw_tbl) (hd : decode cc pc = .ok (.getfield index, 3)) (k : ol_G X V A md P rm nL cells slots (ol_Xc V a r0 σ ++ ext) (pc + 3) L (.ref (a (r + 7)) :: st)) : ol_G X V A md P rm nL cells slots (ol_Xc V a r0 σ ++ ext) pc L (.ref (a r) :: st) := by
  rcases hr with rfl | rfl | rfl
  · exact ol_getN (fs := ol_Rf a σ 10) (ci := 3) (v := .ref (a (10 + 7))) hX in_X3 10 rfl rfl 7 (by decide) hl rfl (by rfl) hd k
  · exact ol_getN (fs := ol_Rf a σ 19) (ci := 3) (v := .ref (a (19 + 7))) hX in_X3 19 rfl rfl 7 (by decide) hl rfl (by rfl) hd k
  · exact ol_getN (fs := ol_Rf a σ 28) (ci := 3) (v := .ref (a (28 + 7))) hX in_X3 28 rfl rfl 7 (by decide) hl rfl (by rfl) hd k
theorem ol_xg_R_8 (hX : ol_CX X V A cc own nm nL ret) (hr : ol_isr r) (hl : Cond.fieldLink own index "OpenLines$Run" "time" "I" ∈ lw_all) (hd : decode cc pc = .ok (.getfield index, 3)) (k : ol_G X V A md P rm nL cells slots (ol_Xc V a r0 σ ++ ext) (pc + 3) L (.int (σ.1 r 8) :: st)) : ol_G X V A md P rm nL cells slots (ol_Xc V a r0 σ ++ ext) pc L (.ref (a r) :: st) := by
  rcases hr with rfl | rfl | rfl
  · exact ol_get (fs := ol_Rf a σ 10) (ci := 3) (v := .int (σ.1 10 8)) hX in_X3 10 rfl rfl 8 (by decide) hl rfl (by rfl) hd k
  · exact ol_get (fs := ol_Rf a σ 19) (ci := 3) (v := .int (σ.1 19 8)) hX in_X3 19 rfl rfl 8 (by decide) hl rfl (by rfl) hd k
  · exact ol_get (fs := ol_Rf a σ 28) (ci := 3) (v := .int (σ.1 28 8)) hX in_X3 28 rfl rfl 8 (by decide) hl rfl (by rfl) hd k
theorem ol_xgN_R_8 (hX : ol_CX X V A cc own nm nL ret) (hr : ol_isr r) (hl : Cond.fieldLinkNest own index "OpenLines$Run" "time" "I" host ∈ lw_tbl) (hd : decode cc pc = .ok (.getfield index, 3)) (k : ol_G X V A md P rm nL cells slots (ol_Xc V a r0 σ ++ ext) (pc + 3) L (.int (σ.1 r 8) :: st)) : ol_G X V A md P rm nL cells slots (ol_Xc V a r0 σ ++ ext) pc L (.ref (a r) :: st) := by
  rcases hr with rfl | rfl | rfl
  · exact ol_getN (fs := ol_Rf a σ 10) (ci := 3) (v := .int (σ.1 10 8)) hX in_X3 10 rfl rfl 8 (by decide) hl rfl (by rfl) hd k
  · exact ol_getN (fs := ol_Rf a σ 19) (ci := 3) (v := .int (σ.1 19 8)) hX in_X3 19 rfl rfl 8 (by decide) hl rfl (by rfl) hd k
  · exact ol_getN (fs := ol_Rf a σ 28) (ci := 3) (v := .int (σ.1 28 8)) hX in_X3 28 rfl rfl 8 (by decide) hl rfl (by rfl) hd k
theorem ol_xp_R_8 (hX : ol_CX X V A cc own nm nL ret) {x : Int32} (hr : ol_isr r) (hl : Cond.fieldLink own index "OpenLines$Run" "time" "I" ∈ lw_all) (hd : decode cc pc = .ok (.putfield index, 3)) (k : ol_G X V A true P rm nL cells slots (ol_Xc V a r0 (ol_xs σ r 8 x) ++ ext) (pc + 3) L st) : ol_G X V A true P rm nL cells slots (ol_Xc V a r0 σ ++ ext) pc L (.int x :: .ref (a r) :: st) := by
  rcases hr with rfl | rfl | rfl
  · have hws : (ol_Xc V a r0 σ ++ ext).set 10 (a 10, .inr (3, (ol_Rf a σ 10).set 8 (.int x))) = ol_Xc V a r0 (ol_xs σ 10 8 x) ++ ext := rfl
    exact ol_put (fs := ol_Rf a σ 10) (ci := 3) hX in_X3 tyX3 tyX3_ok nmX3 10 rfl rfl 8 (by decide) hl rfl rfl rfl rfl (Nat.le_of_ble_eq_true rfl) hd hws k
  · have hws : (ol_Xc V a r0 σ ++ ext).set 19 (a 19, .inr (3, (ol_Rf a σ 19).set 8 (.int x))) = ol_Xc V a r0 (ol_xs σ 19 8 x) ++ ext := rfl
    exact ol_put (fs := ol_Rf a σ 19) (ci := 3) hX in_X3 tyX3 tyX3_ok nmX3 19 rfl rfl 8 (by decide) hl rfl rfl rfl rfl (Nat.le_of_ble_eq_true rfl) hd hws k
  · have hws : (ol_Xc V a r0 σ ++ ext).set 28 (a 28, .inr (3, (ol_Rf a σ 28).set 8 (.int x))) = ol_Xc V a r0 (ol_xs σ 28 8 x) ++ ext := rfl
    exact ol_put (fs := ol_Rf a σ 28) (ci := 3) hX in_X3 tyX3 tyX3_ok nmX3 28 rfl rfl 8 (by decide) hl rfl rfl rfl rfl (Nat.le_of_ble_eq_true rfl) hd hws k
theorem ol_xpN_R_8 (hX : ol_CX X V A cc own nm nL ret) {x : Int32} (hr : ol_isr r) (hl : Cond.fieldLinkNest own index "OpenLines$Run" "time" "I" host ∈ lw_tbl) (hd : decode cc pc = .ok (.putfield index, 3)) (k : ol_G X V A true P rm nL cells slots (ol_Xc V a r0 (ol_xs σ r 8 x) ++ ext) (pc + 3) L st) : ol_G X V A true P rm nL cells slots (ol_Xc V a r0 σ ++ ext) pc L (.int x :: .ref (a r) :: st) := by
  rcases hr with rfl | rfl | rfl
  · have hws : (ol_Xc V a r0 σ ++ ext).set 10 (a 10, .inr (3, (ol_Rf a σ 10).set 8 (.int x))) = ol_Xc V a r0 (ol_xs σ 10 8 x) ++ ext := rfl
    exact ol_putN (fs := ol_Rf a σ 10) (ci := 3) hX in_X3 tyX3 tyX3_ok nmX3 10 rfl rfl 8 (by decide) hl rfl rfl rfl rfl (Nat.le_of_ble_eq_true rfl) hd hws k
  · have hws : (ol_Xc V a r0 σ ++ ext).set 19 (a 19, .inr (3, (ol_Rf a σ 19).set 8 (.int x))) = ol_Xc V a r0 (ol_xs σ 19 8 x) ++ ext := rfl
    exact ol_putN (fs := ol_Rf a σ 19) (ci := 3) hX in_X3 tyX3 tyX3_ok nmX3 19 rfl rfl 8 (by decide) hl rfl rfl rfl rfl (Nat.le_of_ble_eq_true rfl) hd hws k
  · have hws : (ol_Xc V a r0 σ ++ ext).set 28 (a 28, .inr (3, (ol_Rf a σ 28).set 8 (.int x))) = ol_Xc V a r0 (ol_xs σ 28 8 x) ++ ext := rfl
    exact ol_putN (fs := ol_Rf a σ 28) (ci := 3) hX in_X3 tyX3 tyX3_ok nmX3 28 rfl rfl 8 (by decide) hl rfl rfl rfl rfl (Nat.le_of_ble_eq_true rfl) hd hws k
theorem ol_xg_R_9 (hX : ol_CX X V A cc own nm nL ret) (hr : ol_isr r) (hl : Cond.fieldLink own index "OpenLines$Run" "master" "I" ∈ lw_all) (hd : decode cc pc = .ok (.getfield index, 3)) (k : ol_G X V A md P rm nL cells slots (ol_Xc V a r0 σ ++ ext) (pc + 3) L (.int (σ.1 r 9) :: st)) : ol_G X V A md P rm nL cells slots (ol_Xc V a r0 σ ++ ext) pc L (.ref (a r) :: st) := by
  rcases hr with rfl | rfl | rfl
  · exact ol_get (fs := ol_Rf a σ 10) (ci := 3) (v := .int (σ.1 10 9)) hX in_X3 10 rfl rfl 9 (by decide) hl rfl (by rfl) hd k
  · exact ol_get (fs := ol_Rf a σ 19) (ci := 3) (v := .int (σ.1 19 9)) hX in_X3 19 rfl rfl 9 (by decide) hl rfl (by rfl) hd k
  · exact ol_get (fs := ol_Rf a σ 28) (ci := 3) (v := .int (σ.1 28 9)) hX in_X3 28 rfl rfl 9 (by decide) hl rfl (by rfl) hd k
theorem ol_xgN_R_9 (hX : ol_CX X V A cc own nm nL ret) (hr : ol_isr r) (hl : Cond.fieldLinkNest own index "OpenLines$Run" "master" "I" host ∈ lw_tbl) (hd : decode cc pc = .ok (.getfield index, 3)) (k : ol_G X V A md P rm nL cells slots (ol_Xc V a r0 σ ++ ext) (pc + 3) L (.int (σ.1 r 9) :: st)) : ol_G X V A md P rm nL cells slots (ol_Xc V a r0 σ ++ ext) pc L (.ref (a r) :: st) := by
  rcases hr with rfl | rfl | rfl
  · exact ol_getN (fs := ol_Rf a σ 10) (ci := 3) (v := .int (σ.1 10 9)) hX in_X3 10 rfl rfl 9 (by decide) hl rfl (by rfl) hd k
  · exact ol_getN (fs := ol_Rf a σ 19) (ci := 3) (v := .int (σ.1 19 9)) hX in_X3 19 rfl rfl 9 (by decide) hl rfl (by rfl) hd k
  · exact ol_getN (fs := ol_Rf a σ 28) (ci := 3) (v := .int (σ.1 28 9)) hX in_X3 28 rfl rfl 9 (by decide) hl rfl (by rfl) hd k
theorem ol_xp_R_9 (hX : ol_CX X V A cc own nm nL ret) {x : Int32} (hr : ol_isr r) (hl : Cond.fieldLink own index "OpenLines$Run" "master" "I" ∈ lw_all) (hd : decode cc pc = .ok (.putfield index, 3)) (k : ol_G X V A true P rm nL cells slots (ol_Xc V a r0 (ol_xs σ r 9 x) ++ ext) (pc + 3) L st) : ol_G X V A true P rm nL cells slots (ol_Xc V a r0 σ ++ ext) pc L (.int x :: .ref (a r) :: st) := by
  rcases hr with rfl | rfl | rfl
  · have hws : (ol_Xc V a r0 σ ++ ext).set 10 (a 10, .inr (3, (ol_Rf a σ 10).set 9 (.int x))) = ol_Xc V a r0 (ol_xs σ 10 9 x) ++ ext := rfl
    exact ol_put (fs := ol_Rf a σ 10) (ci := 3) hX in_X3 tyX3 tyX3_ok nmX3 10 rfl rfl 9 (by decide) hl rfl rfl rfl rfl (Nat.le_of_ble_eq_true rfl) hd hws k
  · have hws : (ol_Xc V a r0 σ ++ ext).set 19 (a 19, .inr (3, (ol_Rf a σ 19).set 9 (.int x))) = ol_Xc V a r0 (ol_xs σ 19 9 x) ++ ext := rfl
    exact ol_put (fs := ol_Rf a σ 19) (ci := 3) hX in_X3 tyX3 tyX3_ok nmX3 19 rfl rfl 9 (by decide) hl rfl rfl rfl rfl (Nat.le_of_ble_eq_true rfl) hd hws k
  · have hws : (ol_Xc V a r0 σ ++ ext).set 28 (a 28, .inr (3, (ol_Rf a σ 28).set 9 (.int x))) = ol_Xc V a r0 (ol_xs σ 28 9 x) ++ ext := rfl
    exact ol_put (fs := ol_Rf a σ 28) (ci := 3) hX in_X3 tyX3 tyX3_ok nmX3 28 rfl rfl 9 (by decide) hl rfl rfl rfl rfl (Nat.le_of_ble_eq_true rfl) hd hws k
theorem ol_xpN_R_9 (hX : ol_CX X V A cc own nm nL ret) {x : Int32} (hr : ol_isr r) (hl : Cond.fieldLinkNest own index "OpenLines$Run" "master" "I" host ∈ lw_tbl) (hd : decode cc pc = .ok (.putfield index, 3)) (k : ol_G X V A true P rm nL cells slots (ol_Xc V a r0 (ol_xs σ r 9 x) ++ ext) (pc + 3) L st) : ol_G X V A true P rm nL cells slots (ol_Xc V a r0 σ ++ ext) pc L (.int x :: .ref (a r) :: st) := by
  rcases hr with rfl | rfl | rfl
  · have hws : (ol_Xc V a r0 σ ++ ext).set 10 (a 10, .inr (3, (ol_Rf a σ 10).set 9 (.int x))) = ol_Xc V a r0 (ol_xs σ 10 9 x) ++ ext := rfl
    exact ol_putN (fs := ol_Rf a σ 10) (ci := 3) hX in_X3 tyX3 tyX3_ok nmX3 10 rfl rfl 9 (by decide) hl rfl rfl rfl rfl (Nat.le_of_ble_eq_true rfl) hd hws k
  · have hws : (ol_Xc V a r0 σ ++ ext).set 19 (a 19, .inr (3, (ol_Rf a σ 19).set 9 (.int x))) = ol_Xc V a r0 (ol_xs σ 19 9 x) ++ ext := rfl
    exact ol_putN (fs := ol_Rf a σ 19) (ci := 3) hX in_X3 tyX3 tyX3_ok nmX3 19 rfl rfl 9 (by decide) hl rfl rfl rfl rfl (Nat.le_of_ble_eq_true rfl) hd hws k
  · have hws : (ol_Xc V a r0 σ ++ ext).set 28 (a 28, .inr (3, (ol_Rf a σ 28).set 9 (.int x))) = ol_Xc V a r0 (ol_xs σ 28 9 x) ++ ext := rfl
    exact ol_putN (fs := ol_Rf a σ 28) (ci := 3) hX in_X3 tyX3 tyX3_ok nmX3 28 rfl rfl 9 (by decide) hl rfl rfl rfl rfl (Nat.le_of_ble_eq_true rfl) hd hws k
theorem ol_xg_R_10 (hX : ol_CX X V A cc own nm nL ret) (hr : ol_isr r) (hl : Cond.fieldLink own index "OpenLines$Run" "masterTill" "I" ∈ lw_all) (hd : decode cc pc = .ok (.getfield index, 3)) (k : ol_G X V A md P rm nL cells slots (ol_Xc V a r0 σ ++ ext) (pc + 3) L (.int (σ.1 r 10) :: st)) : ol_G X V A md P rm nL cells slots (ol_Xc V a r0 σ ++ ext) pc L (.ref (a r) :: st) := by
  rcases hr with rfl | rfl | rfl
  · exact ol_get (fs := ol_Rf a σ 10) (ci := 3) (v := .int (σ.1 10 10)) hX in_X3 10 rfl rfl 10 (by decide) hl rfl (by rfl) hd k
  · exact ol_get (fs := ol_Rf a σ 19) (ci := 3) (v := .int (σ.1 19 10)) hX in_X3 19 rfl rfl 10 (by decide) hl rfl (by rfl) hd k
  · exact ol_get (fs := ol_Rf a σ 28) (ci := 3) (v := .int (σ.1 28 10)) hX in_X3 28 rfl rfl 10 (by decide) hl rfl (by rfl) hd k
theorem ol_xgN_R_10 (hX : ol_CX X V A cc own nm nL ret) (hr : ol_isr r) (hl : Cond.fieldLinkNest own index "OpenLines$Run" "masterTill" "I" host ∈ lw_tbl) (hd : decode cc pc = .ok (.getfield index, 3)) (k : ol_G X V A md P rm nL cells slots (ol_Xc V a r0 σ ++ ext) (pc + 3) L (.int (σ.1 r 10) :: st)) : ol_G X V A md P rm nL cells slots (ol_Xc V a r0 σ ++ ext) pc L (.ref (a r) :: st) := by
  rcases hr with rfl | rfl | rfl
  · exact ol_getN (fs := ol_Rf a σ 10) (ci := 3) (v := .int (σ.1 10 10)) hX in_X3 10 rfl rfl 10 (by decide) hl rfl (by rfl) hd k
  · exact ol_getN (fs := ol_Rf a σ 19) (ci := 3) (v := .int (σ.1 19 10)) hX in_X3 19 rfl rfl 10 (by decide) hl rfl (by rfl) hd k
  · exact ol_getN (fs := ol_Rf a σ 28) (ci := 3) (v := .int (σ.1 28 10)) hX in_X3 28 rfl rfl 10 (by decide) hl rfl (by rfl) hd k
theorem ol_xp_R_10 (hX : ol_CX X V A cc own nm nL ret) {x : Int32} (hr : ol_isr r) (hl : Cond.fieldLink own index "OpenLines$Run" "masterTill" "I" ∈ lw_all) (hd : decode cc pc = .ok (.putfield index, 3)) (k : ol_G X V A true P rm nL cells slots (ol_Xc V a r0 (ol_xs σ r 10 x) ++ ext) (pc + 3) L st) : ol_G X V A true P rm nL cells slots (ol_Xc V a r0 σ ++ ext) pc L (.int x :: .ref (a r) :: st) := by
  rcases hr with rfl | rfl | rfl
  · have hws : (ol_Xc V a r0 σ ++ ext).set 10 (a 10, .inr (3, (ol_Rf a σ 10).set 10 (.int x))) = ol_Xc V a r0 (ol_xs σ 10 10 x) ++ ext := rfl
    exact ol_put (fs := ol_Rf a σ 10) (ci := 3) hX in_X3 tyX3 tyX3_ok nmX3 10 rfl rfl 10 (by decide) hl rfl rfl rfl rfl (Nat.le_of_ble_eq_true rfl) hd hws k
  · have hws : (ol_Xc V a r0 σ ++ ext).set 19 (a 19, .inr (3, (ol_Rf a σ 19).set 10 (.int x))) = ol_Xc V a r0 (ol_xs σ 19 10 x) ++ ext := rfl
    exact ol_put (fs := ol_Rf a σ 19) (ci := 3) hX in_X3 tyX3 tyX3_ok nmX3 19 rfl rfl 10 (by decide) hl rfl rfl rfl rfl (Nat.le_of_ble_eq_true rfl) hd hws k
  · have hws : (ol_Xc V a r0 σ ++ ext).set 28 (a 28, .inr (3, (ol_Rf a σ 28).set 10 (.int x))) = ol_Xc V a r0 (ol_xs σ 28 10 x) ++ ext := rfl
    exact ol_put (fs := ol_Rf a σ 28) (ci := 3) hX in_X3 tyX3 tyX3_ok nmX3 28 rfl rfl 10 (by decide) hl rfl rfl rfl rfl (Nat.le_of_ble_eq_true rfl) hd hws k
theorem ol_xpN_R_10 (hX : ol_CX X V A cc own nm nL ret) {x : Int32} (hr : ol_isr r) (hl : Cond.fieldLinkNest own index "OpenLines$Run" "masterTill" "I" host ∈ lw_tbl) (hd : decode cc pc = .ok (.putfield index, 3)) (k : ol_G X V A true P rm nL cells slots (ol_Xc V a r0 (ol_xs σ r 10 x) ++ ext) (pc + 3) L st) : ol_G X V A true P rm nL cells slots (ol_Xc V a r0 σ ++ ext) pc L (.int x :: .ref (a r) :: st) := by
  rcases hr with rfl | rfl | rfl
  · have hws : (ol_Xc V a r0 σ ++ ext).set 10 (a 10, .inr (3, (ol_Rf a σ 10).set 10 (.int x))) = ol_Xc V a r0 (ol_xs σ 10 10 x) ++ ext := rfl
    exact ol_putN (fs := ol_Rf a σ 10) (ci := 3) hX in_X3 tyX3 tyX3_ok nmX3 10 rfl rfl 10 (by decide) hl rfl rfl rfl rfl (Nat.le_of_ble_eq_true rfl) hd hws k
  · have hws : (ol_Xc V a r0 σ ++ ext).set 19 (a 19, .inr (3, (ol_Rf a σ 19).set 10 (.int x))) = ol_Xc V a r0 (ol_xs σ 19 10 x) ++ ext := rfl
    exact ol_putN (fs := ol_Rf a σ 19) (ci := 3) hX in_X3 tyX3 tyX3_ok nmX3 19 rfl rfl 10 (by decide) hl rfl rfl rfl rfl (Nat.le_of_ble_eq_true rfl) hd hws k
  · have hws : (ol_Xc V a r0 σ ++ ext).set 28 (a 28, .inr (3, (ol_Rf a σ 28).set 10 (.int x))) = ol_Xc V a r0 (ol_xs σ 28 10 x) ++ ext := rfl
    exact ol_putN (fs := ol_Rf a σ 28) (ci := 3) hX in_X3 tyX3 tyX3_ok nmX3 28 rfl rfl 10 (by decide) hl rfl rfl rfl rfl (Nat.le_of_ble_eq_true rfl) hd hws k
theorem ol_xg_R_11 (hX : ol_CX X V A cc own nm nL ret) (hr : ol_isr r) (hl : Cond.fieldLink own index "OpenLines$Run" "elect" "I" ∈ lw_all) (hd : decode cc pc = .ok (.getfield index, 3)) (k : ol_G X V A md P rm nL cells slots (ol_Xc V a r0 σ ++ ext) (pc + 3) L (.int (σ.1 r 11) :: st)) : ol_G X V A md P rm nL cells slots (ol_Xc V a r0 σ ++ ext) pc L (.ref (a r) :: st) := by
  rcases hr with rfl | rfl | rfl
  · exact ol_get (fs := ol_Rf a σ 10) (ci := 3) (v := .int (σ.1 10 11)) hX in_X3 10 rfl rfl 11 (by decide) hl rfl (by rfl) hd k
  · exact ol_get (fs := ol_Rf a σ 19) (ci := 3) (v := .int (σ.1 19 11)) hX in_X3 19 rfl rfl 11 (by decide) hl rfl (by rfl) hd k
  · exact ol_get (fs := ol_Rf a σ 28) (ci := 3) (v := .int (σ.1 28 11)) hX in_X3 28 rfl rfl 11 (by decide) hl rfl (by rfl) hd k
theorem ol_xgN_R_11 (hX : ol_CX X V A cc own nm nL ret) (hr : ol_isr r) (hl : Cond.fieldLinkNest own index "OpenLines$Run" "elect" "I" host ∈ lw_tbl) (hd : decode cc pc = .ok (.getfield index, 3)) (k : ol_G X V A md P rm nL cells slots (ol_Xc V a r0 σ ++ ext) (pc + 3) L (.int (σ.1 r 11) :: st)) : ol_G X V A md P rm nL cells slots (ol_Xc V a r0 σ ++ ext) pc L (.ref (a r) :: st) := by
  rcases hr with rfl | rfl | rfl
  · exact ol_getN (fs := ol_Rf a σ 10) (ci := 3) (v := .int (σ.1 10 11)) hX in_X3 10 rfl rfl 11 (by decide) hl rfl (by rfl) hd k
  · exact ol_getN (fs := ol_Rf a σ 19) (ci := 3) (v := .int (σ.1 19 11)) hX in_X3 19 rfl rfl 11 (by decide) hl rfl (by rfl) hd k
  · exact ol_getN (fs := ol_Rf a σ 28) (ci := 3) (v := .int (σ.1 28 11)) hX in_X3 28 rfl rfl 11 (by decide) hl rfl (by rfl) hd k
theorem ol_xp_R_11 (hX : ol_CX X V A cc own nm nL ret) {x : Int32} (hr : ol_isr r) (hl : Cond.fieldLink own index "OpenLines$Run" "elect" "I" ∈ lw_all) (hd : decode cc pc = .ok (.putfield index, 3)) (k : ol_G X V A true P rm nL cells slots (ol_Xc V a r0 (ol_xs σ r 11 x) ++ ext) (pc + 3) L st) : ol_G X V A true P rm nL cells slots (ol_Xc V a r0 σ ++ ext) pc L (.int x :: .ref (a r) :: st) := by
  rcases hr with rfl | rfl | rfl
  · have hws : (ol_Xc V a r0 σ ++ ext).set 10 (a 10, .inr (3, (ol_Rf a σ 10).set 11 (.int x))) = ol_Xc V a r0 (ol_xs σ 10 11 x) ++ ext := rfl
    exact ol_put (fs := ol_Rf a σ 10) (ci := 3) hX in_X3 tyX3 tyX3_ok nmX3 10 rfl rfl 11 (by decide) hl rfl rfl rfl rfl (Nat.le_of_ble_eq_true rfl) hd hws k
  · have hws : (ol_Xc V a r0 σ ++ ext).set 19 (a 19, .inr (3, (ol_Rf a σ 19).set 11 (.int x))) = ol_Xc V a r0 (ol_xs σ 19 11 x) ++ ext := rfl
    exact ol_put (fs := ol_Rf a σ 19) (ci := 3) hX in_X3 tyX3 tyX3_ok nmX3 19 rfl rfl 11 (by decide) hl rfl rfl rfl rfl (Nat.le_of_ble_eq_true rfl) hd hws k
  · have hws : (ol_Xc V a r0 σ ++ ext).set 28 (a 28, .inr (3, (ol_Rf a σ 28).set 11 (.int x))) = ol_Xc V a r0 (ol_xs σ 28 11 x) ++ ext := rfl
    exact ol_put (fs := ol_Rf a σ 28) (ci := 3) hX in_X3 tyX3 tyX3_ok nmX3 28 rfl rfl 11 (by decide) hl rfl rfl rfl rfl (Nat.le_of_ble_eq_true rfl) hd hws k
theorem ol_xpN_R_11 (hX : ol_CX X V A cc own nm nL ret) {x : Int32} (hr : ol_isr r) (hl : Cond.fieldLinkNest own index "OpenLines$Run" "elect" "I" host ∈ lw_tbl) (hd : decode cc pc = .ok (.putfield index, 3)) (k : ol_G X V A true P rm nL cells slots (ol_Xc V a r0 (ol_xs σ r 11 x) ++ ext) (pc + 3) L st) : ol_G X V A true P rm nL cells slots (ol_Xc V a r0 σ ++ ext) pc L (.int x :: .ref (a r) :: st) := by
  rcases hr with rfl | rfl | rfl
  · have hws : (ol_Xc V a r0 σ ++ ext).set 10 (a 10, .inr (3, (ol_Rf a σ 10).set 11 (.int x))) = ol_Xc V a r0 (ol_xs σ 10 11 x) ++ ext := rfl
    exact ol_putN (fs := ol_Rf a σ 10) (ci := 3) hX in_X3 tyX3 tyX3_ok nmX3 10 rfl rfl 11 (by decide) hl rfl rfl rfl rfl (Nat.le_of_ble_eq_true rfl) hd hws k
  · have hws : (ol_Xc V a r0 σ ++ ext).set 19 (a 19, .inr (3, (ol_Rf a σ 19).set 11 (.int x))) = ol_Xc V a r0 (ol_xs σ 19 11 x) ++ ext := rfl
    exact ol_putN (fs := ol_Rf a σ 19) (ci := 3) hX in_X3 tyX3 tyX3_ok nmX3 19 rfl rfl 11 (by decide) hl rfl rfl rfl rfl (Nat.le_of_ble_eq_true rfl) hd hws k
  · have hws : (ol_Xc V a r0 σ ++ ext).set 28 (a 28, .inr (3, (ol_Rf a σ 28).set 11 (.int x))) = ol_Xc V a r0 (ol_xs σ 28 11 x) ++ ext := rfl
    exact ol_putN (fs := ol_Rf a σ 28) (ci := 3) hX in_X3 tyX3 tyX3_ok nmX3 28 rfl rfl 11 (by decide) hl rfl rfl rfl rfl (Nat.le_of_ble_eq_true rfl) hd hws k
theorem ol_xg_R_12 (hX : ol_CX X V A cc own nm nL ret) (hr : ol_isr r) (hl : Cond.fieldLink own index "OpenLines$Run" "through" "I" ∈ lw_all) (hd : decode cc pc = .ok (.getfield index, 3)) (k : ol_G X V A md P rm nL cells slots (ol_Xc V a r0 σ ++ ext) (pc + 3) L (.int (σ.1 r 12) :: st)) : ol_G X V A md P rm nL cells slots (ol_Xc V a r0 σ ++ ext) pc L (.ref (a r) :: st) := by
  rcases hr with rfl | rfl | rfl
  · exact ol_get (fs := ol_Rf a σ 10) (ci := 3) (v := .int (σ.1 10 12)) hX in_X3 10 rfl rfl 12 (by decide) hl rfl (by rfl) hd k
  · exact ol_get (fs := ol_Rf a σ 19) (ci := 3) (v := .int (σ.1 19 12)) hX in_X3 19 rfl rfl 12 (by decide) hl rfl (by rfl) hd k
  · exact ol_get (fs := ol_Rf a σ 28) (ci := 3) (v := .int (σ.1 28 12)) hX in_X3 28 rfl rfl 12 (by decide) hl rfl (by rfl) hd k
theorem ol_xgN_R_12 (hX : ol_CX X V A cc own nm nL ret) (hr : ol_isr r) (hl : Cond.fieldLinkNest own index "OpenLines$Run" "through" "I" host ∈ lw_tbl) (hd : decode cc pc = .ok (.getfield index, 3)) (k : ol_G X V A md P rm nL cells slots (ol_Xc V a r0 σ ++ ext) (pc + 3) L (.int (σ.1 r 12) :: st)) : ol_G X V A md P rm nL cells slots (ol_Xc V a r0 σ ++ ext) pc L (.ref (a r) :: st) := by
  rcases hr with rfl | rfl | rfl
  · exact ol_getN (fs := ol_Rf a σ 10) (ci := 3) (v := .int (σ.1 10 12)) hX in_X3 10 rfl rfl 12 (by decide) hl rfl (by rfl) hd k
  · exact ol_getN (fs := ol_Rf a σ 19) (ci := 3) (v := .int (σ.1 19 12)) hX in_X3 19 rfl rfl 12 (by decide) hl rfl (by rfl) hd k
  · exact ol_getN (fs := ol_Rf a σ 28) (ci := 3) (v := .int (σ.1 28 12)) hX in_X3 28 rfl rfl 12 (by decide) hl rfl (by rfl) hd k
theorem ol_xp_R_12 (hX : ol_CX X V A cc own nm nL ret) {x : Int32} (hr : ol_isr r) (hl : Cond.fieldLink own index "OpenLines$Run" "through" "I" ∈ lw_all) (hd : decode cc pc = .ok (.putfield index, 3)) (k : ol_G X V A true P rm nL cells slots (ol_Xc V a r0 (ol_xs σ r 12 x) ++ ext) (pc + 3) L st) : ol_G X V A true P rm nL cells slots (ol_Xc V a r0 σ ++ ext) pc L (.int x :: .ref (a r) :: st) := by
  rcases hr with rfl | rfl | rfl
  · have hws : (ol_Xc V a r0 σ ++ ext).set 10 (a 10, .inr (3, (ol_Rf a σ 10).set 12 (.int x))) = ol_Xc V a r0 (ol_xs σ 10 12 x) ++ ext := rfl
    exact ol_put (fs := ol_Rf a σ 10) (ci := 3) hX in_X3 tyX3 tyX3_ok nmX3 10 rfl rfl 12 (by decide) hl rfl rfl rfl rfl (Nat.le_of_ble_eq_true rfl) hd hws k
  · have hws : (ol_Xc V a r0 σ ++ ext).set 19 (a 19, .inr (3, (ol_Rf a σ 19).set 12 (.int x))) = ol_Xc V a r0 (ol_xs σ 19 12 x) ++ ext := rfl
    exact ol_put (fs := ol_Rf a σ 19) (ci := 3) hX in_X3 tyX3 tyX3_ok nmX3 19 rfl rfl 12 (by decide) hl rfl rfl rfl rfl (Nat.le_of_ble_eq_true rfl) hd hws k
  · have hws : (ol_Xc V a r0 σ ++ ext).set 28 (a 28, .inr (3, (ol_Rf a σ 28).set 12 (.int x))) = ol_Xc V a r0 (ol_xs σ 28 12 x) ++ ext := rfl
    exact ol_put (fs := ol_Rf a σ 28) (ci := 3) hX in_X3 tyX3 tyX3_ok nmX3 28 rfl rfl 12 (by decide) hl rfl rfl rfl rfl (Nat.le_of_ble_eq_true rfl) hd hws k
theorem ol_xpN_R_12 (hX : ol_CX X V A cc own nm nL ret) {x : Int32} (hr : ol_isr r) (hl : Cond.fieldLinkNest own index "OpenLines$Run" "through" "I" host ∈ lw_tbl) (hd : decode cc pc = .ok (.putfield index, 3)) (k : ol_G X V A true P rm nL cells slots (ol_Xc V a r0 (ol_xs σ r 12 x) ++ ext) (pc + 3) L st) : ol_G X V A true P rm nL cells slots (ol_Xc V a r0 σ ++ ext) pc L (.int x :: .ref (a r) :: st) := by
  rcases hr with rfl | rfl | rfl
  · have hws : (ol_Xc V a r0 σ ++ ext).set 10 (a 10, .inr (3, (ol_Rf a σ 10).set 12 (.int x))) = ol_Xc V a r0 (ol_xs σ 10 12 x) ++ ext := rfl
    exact ol_putN (fs := ol_Rf a σ 10) (ci := 3) hX in_X3 tyX3 tyX3_ok nmX3 10 rfl rfl 12 (by decide) hl rfl rfl rfl rfl (Nat.le_of_ble_eq_true rfl) hd hws k
  · have hws : (ol_Xc V a r0 σ ++ ext).set 19 (a 19, .inr (3, (ol_Rf a σ 19).set 12 (.int x))) = ol_Xc V a r0 (ol_xs σ 19 12 x) ++ ext := rfl
    exact ol_putN (fs := ol_Rf a σ 19) (ci := 3) hX in_X3 tyX3 tyX3_ok nmX3 19 rfl rfl 12 (by decide) hl rfl rfl rfl rfl (Nat.le_of_ble_eq_true rfl) hd hws k
  · have hws : (ol_Xc V a r0 σ ++ ext).set 28 (a 28, .inr (3, (ol_Rf a σ 28).set 12 (.int x))) = ol_Xc V a r0 (ol_xs σ 28 12 x) ++ ext := rfl
    exact ol_putN (fs := ol_Rf a σ 28) (ci := 3) hX in_X3 tyX3 tyX3_ok nmX3 28 rfl rfl 12 (by decide) hl rfl rfl rfl rfl (Nat.le_of_ble_eq_true rfl) hd hws k
theorem ol_xg_R_13 (hX : ol_CX X V A cc own nm nL ret) (hr : ol_isr r) (hl : Cond.fieldLink own index "OpenLines$Run" "contenders" "I" ∈ lw_all) (hd : decode cc pc = .ok (.getfield index, 3)) (k : ol_G X V A md P rm nL cells slots (ol_Xc V a r0 σ ++ ext) (pc + 3) L (.int (σ.1 r 13) :: st)) : ol_G X V A md P rm nL cells slots (ol_Xc V a r0 σ ++ ext) pc L (.ref (a r) :: st) := by
  rcases hr with rfl | rfl | rfl
  · exact ol_get (fs := ol_Rf a σ 10) (ci := 3) (v := .int (σ.1 10 13)) hX in_X3 10 rfl rfl 13 (by decide) hl rfl (by rfl) hd k
  · exact ol_get (fs := ol_Rf a σ 19) (ci := 3) (v := .int (σ.1 19 13)) hX in_X3 19 rfl rfl 13 (by decide) hl rfl (by rfl) hd k
  · exact ol_get (fs := ol_Rf a σ 28) (ci := 3) (v := .int (σ.1 28 13)) hX in_X3 28 rfl rfl 13 (by decide) hl rfl (by rfl) hd k
theorem ol_xgN_R_13 (hX : ol_CX X V A cc own nm nL ret) (hr : ol_isr r) (hl : Cond.fieldLinkNest own index "OpenLines$Run" "contenders" "I" host ∈ lw_tbl) (hd : decode cc pc = .ok (.getfield index, 3)) (k : ol_G X V A md P rm nL cells slots (ol_Xc V a r0 σ ++ ext) (pc + 3) L (.int (σ.1 r 13) :: st)) : ol_G X V A md P rm nL cells slots (ol_Xc V a r0 σ ++ ext) pc L (.ref (a r) :: st) := by
  rcases hr with rfl | rfl | rfl
  · exact ol_getN (fs := ol_Rf a σ 10) (ci := 3) (v := .int (σ.1 10 13)) hX in_X3 10 rfl rfl 13 (by decide) hl rfl (by rfl) hd k
  · exact ol_getN (fs := ol_Rf a σ 19) (ci := 3) (v := .int (σ.1 19 13)) hX in_X3 19 rfl rfl 13 (by decide) hl rfl (by rfl) hd k
  · exact ol_getN (fs := ol_Rf a σ 28) (ci := 3) (v := .int (σ.1 28 13)) hX in_X3 28 rfl rfl 13 (by decide) hl rfl (by rfl) hd k
theorem ol_xp_R_13 (hX : ol_CX X V A cc own nm nL ret) {x : Int32} (hr : ol_isr r) (hl : Cond.fieldLink own index "OpenLines$Run" "contenders" "I" ∈ lw_all) (hd : decode cc pc = .ok (.putfield index, 3)) (k : ol_G X V A true P rm nL cells slots (ol_Xc V a r0 (ol_xs σ r 13 x) ++ ext) (pc + 3) L st) : ol_G X V A true P rm nL cells slots (ol_Xc V a r0 σ ++ ext) pc L (.int x :: .ref (a r) :: st) := by
  rcases hr with rfl | rfl | rfl
  · have hws : (ol_Xc V a r0 σ ++ ext).set 10 (a 10, .inr (3, (ol_Rf a σ 10).set 13 (.int x))) = ol_Xc V a r0 (ol_xs σ 10 13 x) ++ ext := rfl
    exact ol_put (fs := ol_Rf a σ 10) (ci := 3) hX in_X3 tyX3 tyX3_ok nmX3 10 rfl rfl 13 (by decide) hl rfl rfl rfl rfl (Nat.le_of_ble_eq_true rfl) hd hws k
  · have hws : (ol_Xc V a r0 σ ++ ext).set 19 (a 19, .inr (3, (ol_Rf a σ 19).set 13 (.int x))) = ol_Xc V a r0 (ol_xs σ 19 13 x) ++ ext := rfl
    exact ol_put (fs := ol_Rf a σ 19) (ci := 3) hX in_X3 tyX3 tyX3_ok nmX3 19 rfl rfl 13 (by decide) hl rfl rfl rfl rfl (Nat.le_of_ble_eq_true rfl) hd hws k
  · have hws : (ol_Xc V a r0 σ ++ ext).set 28 (a 28, .inr (3, (ol_Rf a σ 28).set 13 (.int x))) = ol_Xc V a r0 (ol_xs σ 28 13 x) ++ ext := rfl
    exact ol_put (fs := ol_Rf a σ 28) (ci := 3) hX in_X3 tyX3 tyX3_ok nmX3 28 rfl rfl 13 (by decide) hl rfl rfl rfl rfl (Nat.le_of_ble_eq_true rfl) hd hws k
theorem ol_xpN_R_13 (hX : ol_CX X V A cc own nm nL ret) {x : Int32} (hr : ol_isr r) (hl : Cond.fieldLinkNest own index "OpenLines$Run" "contenders" "I" host ∈ lw_tbl) (hd : decode cc pc = .ok (.putfield index, 3)) (k : ol_G X V A true P rm nL cells slots (ol_Xc V a r0 (ol_xs σ r 13 x) ++ ext) (pc + 3) L st) : ol_G X V A true P rm nL cells slots (ol_Xc V a r0 σ ++ ext) pc L (.int x :: .ref (a r) :: st) := by
  rcases hr with rfl | rfl | rfl
  · have hws : (ol_Xc V a r0 σ ++ ext).set 10 (a 10, .inr (3, (ol_Rf a σ 10).set 13 (.int x))) = ol_Xc V a r0 (ol_xs σ 10 13 x) ++ ext := rfl
    exact ol_putN (fs := ol_Rf a σ 10) (ci := 3) hX in_X3 tyX3 tyX3_ok nmX3 10 rfl rfl 13 (by decide) hl rfl rfl rfl rfl (Nat.le_of_ble_eq_true rfl) hd hws k
  · have hws : (ol_Xc V a r0 σ ++ ext).set 19 (a 19, .inr (3, (ol_Rf a σ 19).set 13 (.int x))) = ol_Xc V a r0 (ol_xs σ 19 13 x) ++ ext := rfl
    exact ol_putN (fs := ol_Rf a σ 19) (ci := 3) hX in_X3 tyX3 tyX3_ok nmX3 19 rfl rfl 13 (by decide) hl rfl rfl rfl rfl (Nat.le_of_ble_eq_true rfl) hd hws k
  · have hws : (ol_Xc V a r0 σ ++ ext).set 28 (a 28, .inr (3, (ol_Rf a σ 28).set 13 (.int x))) = ol_Xc V a r0 (ol_xs σ 28 13 x) ++ ext := rfl
    exact ol_putN (fs := ol_Rf a σ 28) (ci := 3) hX in_X3 tyX3 tyX3_ok nmX3 28 rfl rfl 13 (by decide) hl rfl rfl rfl rfl (Nat.le_of_ble_eq_true rfl) hd hws k
theorem ol_xg_R_14 (hX : ol_CX X V A cc own nm nL ret) (hr : ol_isr r) (hl : Cond.fieldLink own index "OpenLines$Run" "rounds" "I" ∈ lw_all) (hd : decode cc pc = .ok (.getfield index, 3)) (k : ol_G X V A md P rm nL cells slots (ol_Xc V a r0 σ ++ ext) (pc + 3) L (.int (σ.1 r 14) :: st)) : ol_G X V A md P rm nL cells slots (ol_Xc V a r0 σ ++ ext) pc L (.ref (a r) :: st) := by
  rcases hr with rfl | rfl | rfl
  · exact ol_get (fs := ol_Rf a σ 10) (ci := 3) (v := .int (σ.1 10 14)) hX in_X3 10 rfl rfl 14 (by decide) hl rfl (by rfl) hd k
  · exact ol_get (fs := ol_Rf a σ 19) (ci := 3) (v := .int (σ.1 19 14)) hX in_X3 19 rfl rfl 14 (by decide) hl rfl (by rfl) hd k
  · exact ol_get (fs := ol_Rf a σ 28) (ci := 3) (v := .int (σ.1 28 14)) hX in_X3 28 rfl rfl 14 (by decide) hl rfl (by rfl) hd k
theorem ol_xgN_R_14 (hX : ol_CX X V A cc own nm nL ret) (hr : ol_isr r) (hl : Cond.fieldLinkNest own index "OpenLines$Run" "rounds" "I" host ∈ lw_tbl) (hd : decode cc pc = .ok (.getfield index, 3)) (k : ol_G X V A md P rm nL cells slots (ol_Xc V a r0 σ ++ ext) (pc + 3) L (.int (σ.1 r 14) :: st)) : ol_G X V A md P rm nL cells slots (ol_Xc V a r0 σ ++ ext) pc L (.ref (a r) :: st) := by
  rcases hr with rfl | rfl | rfl
  · exact ol_getN (fs := ol_Rf a σ 10) (ci := 3) (v := .int (σ.1 10 14)) hX in_X3 10 rfl rfl 14 (by decide) hl rfl (by rfl) hd k
  · exact ol_getN (fs := ol_Rf a σ 19) (ci := 3) (v := .int (σ.1 19 14)) hX in_X3 19 rfl rfl 14 (by decide) hl rfl (by rfl) hd k
  · exact ol_getN (fs := ol_Rf a σ 28) (ci := 3) (v := .int (σ.1 28 14)) hX in_X3 28 rfl rfl 14 (by decide) hl rfl (by rfl) hd k
theorem ol_xp_R_14 (hX : ol_CX X V A cc own nm nL ret) {x : Int32} (hr : ol_isr r) (hl : Cond.fieldLink own index "OpenLines$Run" "rounds" "I" ∈ lw_all) (hd : decode cc pc = .ok (.putfield index, 3)) (k : ol_G X V A true P rm nL cells slots (ol_Xc V a r0 (ol_xs σ r 14 x) ++ ext) (pc + 3) L st) : ol_G X V A true P rm nL cells slots (ol_Xc V a r0 σ ++ ext) pc L (.int x :: .ref (a r) :: st) := by
  rcases hr with rfl | rfl | rfl
  · have hws : (ol_Xc V a r0 σ ++ ext).set 10 (a 10, .inr (3, (ol_Rf a σ 10).set 14 (.int x))) = ol_Xc V a r0 (ol_xs σ 10 14 x) ++ ext := rfl
    exact ol_put (fs := ol_Rf a σ 10) (ci := 3) hX in_X3 tyX3 tyX3_ok nmX3 10 rfl rfl 14 (by decide) hl rfl rfl rfl rfl (Nat.le_of_ble_eq_true rfl) hd hws k
  · have hws : (ol_Xc V a r0 σ ++ ext).set 19 (a 19, .inr (3, (ol_Rf a σ 19).set 14 (.int x))) = ol_Xc V a r0 (ol_xs σ 19 14 x) ++ ext := rfl
    exact ol_put (fs := ol_Rf a σ 19) (ci := 3) hX in_X3 tyX3 tyX3_ok nmX3 19 rfl rfl 14 (by decide) hl rfl rfl rfl rfl (Nat.le_of_ble_eq_true rfl) hd hws k
  · have hws : (ol_Xc V a r0 σ ++ ext).set 28 (a 28, .inr (3, (ol_Rf a σ 28).set 14 (.int x))) = ol_Xc V a r0 (ol_xs σ 28 14 x) ++ ext := rfl
    exact ol_put (fs := ol_Rf a σ 28) (ci := 3) hX in_X3 tyX3 tyX3_ok nmX3 28 rfl rfl 14 (by decide) hl rfl rfl rfl rfl (Nat.le_of_ble_eq_true rfl) hd hws k
theorem ol_xpN_R_14 (hX : ol_CX X V A cc own nm nL ret) {x : Int32} (hr : ol_isr r) (hl : Cond.fieldLinkNest own index "OpenLines$Run" "rounds" "I" host ∈ lw_tbl) (hd : decode cc pc = .ok (.putfield index, 3)) (k : ol_G X V A true P rm nL cells slots (ol_Xc V a r0 (ol_xs σ r 14 x) ++ ext) (pc + 3) L st) : ol_G X V A true P rm nL cells slots (ol_Xc V a r0 σ ++ ext) pc L (.int x :: .ref (a r) :: st) := by
  rcases hr with rfl | rfl | rfl
  · have hws : (ol_Xc V a r0 σ ++ ext).set 10 (a 10, .inr (3, (ol_Rf a σ 10).set 14 (.int x))) = ol_Xc V a r0 (ol_xs σ 10 14 x) ++ ext := rfl
    exact ol_putN (fs := ol_Rf a σ 10) (ci := 3) hX in_X3 tyX3 tyX3_ok nmX3 10 rfl rfl 14 (by decide) hl rfl rfl rfl rfl (Nat.le_of_ble_eq_true rfl) hd hws k
  · have hws : (ol_Xc V a r0 σ ++ ext).set 19 (a 19, .inr (3, (ol_Rf a σ 19).set 14 (.int x))) = ol_Xc V a r0 (ol_xs σ 19 14 x) ++ ext := rfl
    exact ol_putN (fs := ol_Rf a σ 19) (ci := 3) hX in_X3 tyX3 tyX3_ok nmX3 19 rfl rfl 14 (by decide) hl rfl rfl rfl rfl (Nat.le_of_ble_eq_true rfl) hd hws k
  · have hws : (ol_Xc V a r0 σ ++ ext).set 28 (a 28, .inr (3, (ol_Rf a σ 28).set 14 (.int x))) = ol_Xc V a r0 (ol_xs σ 28 14 x) ++ ext := rfl
    exact ol_putN (fs := ol_Rf a σ 28) (ci := 3) hX in_X3 tyX3 tyX3_ok nmX3 28 rfl rfl 14 (by decide) hl rfl rfl rfl rfl (Nat.le_of_ble_eq_true rfl) hd hws k
theorem ol_xg_R_15 (hX : ol_CX X V A cc own nm nL ret) (hr : ol_isr r) (hl : Cond.fieldLink own index "OpenLines$Run" "arbitrations" "I" ∈ lw_all) (hd : decode cc pc = .ok (.getfield index, 3)) (k : ol_G X V A md P rm nL cells slots (ol_Xc V a r0 σ ++ ext) (pc + 3) L (.int (σ.1 r 15) :: st)) : ol_G X V A md P rm nL cells slots (ol_Xc V a r0 σ ++ ext) pc L (.ref (a r) :: st) := by
  rcases hr with rfl | rfl | rfl
  · exact ol_get (fs := ol_Rf a σ 10) (ci := 3) (v := .int (σ.1 10 15)) hX in_X3 10 rfl rfl 15 (by decide) hl rfl (by rfl) hd k
  · exact ol_get (fs := ol_Rf a σ 19) (ci := 3) (v := .int (σ.1 19 15)) hX in_X3 19 rfl rfl 15 (by decide) hl rfl (by rfl) hd k
  · exact ol_get (fs := ol_Rf a σ 28) (ci := 3) (v := .int (σ.1 28 15)) hX in_X3 28 rfl rfl 15 (by decide) hl rfl (by rfl) hd k
theorem ol_xgN_R_15 (hX : ol_CX X V A cc own nm nL ret) (hr : ol_isr r) (hl : Cond.fieldLinkNest own index "OpenLines$Run" "arbitrations" "I" host ∈ lw_tbl) (hd : decode cc pc = .ok (.getfield index, 3)) (k : ol_G X V A md P rm nL cells slots (ol_Xc V a r0 σ ++ ext) (pc + 3) L (.int (σ.1 r 15) :: st)) : ol_G X V A md P rm nL cells slots (ol_Xc V a r0 σ ++ ext) pc L (.ref (a r) :: st) := by
  rcases hr with rfl | rfl | rfl
  · exact ol_getN (fs := ol_Rf a σ 10) (ci := 3) (v := .int (σ.1 10 15)) hX in_X3 10 rfl rfl 15 (by decide) hl rfl (by rfl) hd k
  · exact ol_getN (fs := ol_Rf a σ 19) (ci := 3) (v := .int (σ.1 19 15)) hX in_X3 19 rfl rfl 15 (by decide) hl rfl (by rfl) hd k
  · exact ol_getN (fs := ol_Rf a σ 28) (ci := 3) (v := .int (σ.1 28 15)) hX in_X3 28 rfl rfl 15 (by decide) hl rfl (by rfl) hd k
theorem ol_xp_R_15 (hX : ol_CX X V A cc own nm nL ret) {x : Int32} (hr : ol_isr r) (hl : Cond.fieldLink own index "OpenLines$Run" "arbitrations" "I" ∈ lw_all) (hd : decode cc pc = .ok (.putfield index, 3)) (k : ol_G X V A true P rm nL cells slots (ol_Xc V a r0 (ol_xs σ r 15 x) ++ ext) (pc + 3) L st) : ol_G X V A true P rm nL cells slots (ol_Xc V a r0 σ ++ ext) pc L (.int x :: .ref (a r) :: st) := by
  rcases hr with rfl | rfl | rfl
  · have hws : (ol_Xc V a r0 σ ++ ext).set 10 (a 10, .inr (3, (ol_Rf a σ 10).set 15 (.int x))) = ol_Xc V a r0 (ol_xs σ 10 15 x) ++ ext := rfl
    exact ol_put (fs := ol_Rf a σ 10) (ci := 3) hX in_X3 tyX3 tyX3_ok nmX3 10 rfl rfl 15 (by decide) hl rfl rfl rfl rfl (Nat.le_of_ble_eq_true rfl) hd hws k
  · have hws : (ol_Xc V a r0 σ ++ ext).set 19 (a 19, .inr (3, (ol_Rf a σ 19).set 15 (.int x))) = ol_Xc V a r0 (ol_xs σ 19 15 x) ++ ext := rfl
    exact ol_put (fs := ol_Rf a σ 19) (ci := 3) hX in_X3 tyX3 tyX3_ok nmX3 19 rfl rfl 15 (by decide) hl rfl rfl rfl rfl (Nat.le_of_ble_eq_true rfl) hd hws k
  · have hws : (ol_Xc V a r0 σ ++ ext).set 28 (a 28, .inr (3, (ol_Rf a σ 28).set 15 (.int x))) = ol_Xc V a r0 (ol_xs σ 28 15 x) ++ ext := rfl
    exact ol_put (fs := ol_Rf a σ 28) (ci := 3) hX in_X3 tyX3 tyX3_ok nmX3 28 rfl rfl 15 (by decide) hl rfl rfl rfl rfl (Nat.le_of_ble_eq_true rfl) hd hws k
theorem ol_xpN_R_15 (hX : ol_CX X V A cc own nm nL ret) {x : Int32} (hr : ol_isr r) (hl : Cond.fieldLinkNest own index "OpenLines$Run" "arbitrations" "I" host ∈ lw_tbl) (hd : decode cc pc = .ok (.putfield index, 3)) (k : ol_G X V A true P rm nL cells slots (ol_Xc V a r0 (ol_xs σ r 15 x) ++ ext) (pc + 3) L st) : ol_G X V A true P rm nL cells slots (ol_Xc V a r0 σ ++ ext) pc L (.int x :: .ref (a r) :: st) := by
  rcases hr with rfl | rfl | rfl
  · have hws : (ol_Xc V a r0 σ ++ ext).set 10 (a 10, .inr (3, (ol_Rf a σ 10).set 15 (.int x))) = ol_Xc V a r0 (ol_xs σ 10 15 x) ++ ext := rfl
    exact ol_putN (fs := ol_Rf a σ 10) (ci := 3) hX in_X3 tyX3 tyX3_ok nmX3 10 rfl rfl 15 (by decide) hl rfl rfl rfl rfl (Nat.le_of_ble_eq_true rfl) hd hws k
  · have hws : (ol_Xc V a r0 σ ++ ext).set 19 (a 19, .inr (3, (ol_Rf a σ 19).set 15 (.int x))) = ol_Xc V a r0 (ol_xs σ 19 15 x) ++ ext := rfl
    exact ol_putN (fs := ol_Rf a σ 19) (ci := 3) hX in_X3 tyX3 tyX3_ok nmX3 19 rfl rfl 15 (by decide) hl rfl rfl rfl rfl (Nat.le_of_ble_eq_true rfl) hd hws k
  · have hws : (ol_Xc V a r0 σ ++ ext).set 28 (a 28, .inr (3, (ol_Rf a σ 28).set 15 (.int x))) = ol_Xc V a r0 (ol_xs σ 28 15 x) ++ ext := rfl
    exact ol_putN (fs := ol_Rf a σ 28) (ci := 3) hX in_X3 tyX3 tyX3_ok nmX3 28 rfl rfl 15 (by decide) hl rfl rfl rfl rfl (Nat.le_of_ble_eq_true rfl) hd hws k
theorem ol_xg_R_16 (hX : ol_CX X V A cc own nm nL ret) (hr : ol_isr r) (hl : Cond.fieldLink own index "OpenLines$Run" "failed" "I" ∈ lw_all) (hd : decode cc pc = .ok (.getfield index, 3)) (k : ol_G X V A md P rm nL cells slots (ol_Xc V a r0 σ ++ ext) (pc + 3) L (.int (σ.1 r 16) :: st)) : ol_G X V A md P rm nL cells slots (ol_Xc V a r0 σ ++ ext) pc L (.ref (a r) :: st) := by
  rcases hr with rfl | rfl | rfl
  · exact ol_get (fs := ol_Rf a σ 10) (ci := 3) (v := .int (σ.1 10 16)) hX in_X3 10 rfl rfl 16 (by decide) hl rfl (by rfl) hd k
  · exact ol_get (fs := ol_Rf a σ 19) (ci := 3) (v := .int (σ.1 19 16)) hX in_X3 19 rfl rfl 16 (by decide) hl rfl (by rfl) hd k
  · exact ol_get (fs := ol_Rf a σ 28) (ci := 3) (v := .int (σ.1 28 16)) hX in_X3 28 rfl rfl 16 (by decide) hl rfl (by rfl) hd k
theorem ol_xgN_R_16 (hX : ol_CX X V A cc own nm nL ret) (hr : ol_isr r) (hl : Cond.fieldLinkNest own index "OpenLines$Run" "failed" "I" host ∈ lw_tbl) (hd : decode cc pc = .ok (.getfield index, 3)) (k : ol_G X V A md P rm nL cells slots (ol_Xc V a r0 σ ++ ext) (pc + 3) L (.int (σ.1 r 16) :: st)) : ol_G X V A md P rm nL cells slots (ol_Xc V a r0 σ ++ ext) pc L (.ref (a r) :: st) := by
  rcases hr with rfl | rfl | rfl
  · exact ol_getN (fs := ol_Rf a σ 10) (ci := 3) (v := .int (σ.1 10 16)) hX in_X3 10 rfl rfl 16 (by decide) hl rfl (by rfl) hd k
  · exact ol_getN (fs := ol_Rf a σ 19) (ci := 3) (v := .int (σ.1 19 16)) hX in_X3 19 rfl rfl 16 (by decide) hl rfl (by rfl) hd k
  · exact ol_getN (fs := ol_Rf a σ 28) (ci := 3) (v := .int (σ.1 28 16)) hX in_X3 28 rfl rfl 16 (by decide) hl rfl (by rfl) hd k
theorem ol_xp_R_16 (hX : ol_CX X V A cc own nm nL ret) {x : Int32} (hr : ol_isr r) (hl : Cond.fieldLink own index "OpenLines$Run" "failed" "I" ∈ lw_all) (hd : decode cc pc = .ok (.putfield index, 3)) (k : ol_G X V A true P rm nL cells slots (ol_Xc V a r0 (ol_xs σ r 16 x) ++ ext) (pc + 3) L st) : ol_G X V A true P rm nL cells slots (ol_Xc V a r0 σ ++ ext) pc L (.int x :: .ref (a r) :: st) := by
  rcases hr with rfl | rfl | rfl
  · have hws : (ol_Xc V a r0 σ ++ ext).set 10 (a 10, .inr (3, (ol_Rf a σ 10).set 16 (.int x))) = ol_Xc V a r0 (ol_xs σ 10 16 x) ++ ext := rfl
    exact ol_put (fs := ol_Rf a σ 10) (ci := 3) hX in_X3 tyX3 tyX3_ok nmX3 10 rfl rfl 16 (by decide) hl rfl rfl rfl rfl (Nat.le_of_ble_eq_true rfl) hd hws k
  · have hws : (ol_Xc V a r0 σ ++ ext).set 19 (a 19, .inr (3, (ol_Rf a σ 19).set 16 (.int x))) = ol_Xc V a r0 (ol_xs σ 19 16 x) ++ ext := rfl
    exact ol_put (fs := ol_Rf a σ 19) (ci := 3) hX in_X3 tyX3 tyX3_ok nmX3 19 rfl rfl 16 (by decide) hl rfl rfl rfl rfl (Nat.le_of_ble_eq_true rfl) hd hws k
  · have hws : (ol_Xc V a r0 σ ++ ext).set 28 (a 28, .inr (3, (ol_Rf a σ 28).set 16 (.int x))) = ol_Xc V a r0 (ol_xs σ 28 16 x) ++ ext := rfl
    exact ol_put (fs := ol_Rf a σ 28) (ci := 3) hX in_X3 tyX3 tyX3_ok nmX3 28 rfl rfl 16 (by decide) hl rfl rfl rfl rfl (Nat.le_of_ble_eq_true rfl) hd hws k
theorem ol_xpN_R_16 (hX : ol_CX X V A cc own nm nL ret) {x : Int32} (hr : ol_isr r) (hl : Cond.fieldLinkNest own index "OpenLines$Run" "failed" "I" host ∈ lw_tbl) (hd : decode cc pc = .ok (.putfield index, 3)) (k : ol_G X V A true P rm nL cells slots (ol_Xc V a r0 (ol_xs σ r 16 x) ++ ext) (pc + 3) L st) : ol_G X V A true P rm nL cells slots (ol_Xc V a r0 σ ++ ext) pc L (.int x :: .ref (a r) :: st) := by
  rcases hr with rfl | rfl | rfl
  · have hws : (ol_Xc V a r0 σ ++ ext).set 10 (a 10, .inr (3, (ol_Rf a σ 10).set 16 (.int x))) = ol_Xc V a r0 (ol_xs σ 10 16 x) ++ ext := rfl
    exact ol_putN (fs := ol_Rf a σ 10) (ci := 3) hX in_X3 tyX3 tyX3_ok nmX3 10 rfl rfl 16 (by decide) hl rfl rfl rfl rfl (Nat.le_of_ble_eq_true rfl) hd hws k
  · have hws : (ol_Xc V a r0 σ ++ ext).set 19 (a 19, .inr (3, (ol_Rf a σ 19).set 16 (.int x))) = ol_Xc V a r0 (ol_xs σ 19 16 x) ++ ext := rfl
    exact ol_putN (fs := ol_Rf a σ 19) (ci := 3) hX in_X3 tyX3 tyX3_ok nmX3 19 rfl rfl 16 (by decide) hl rfl rfl rfl rfl (Nat.le_of_ble_eq_true rfl) hd hws k
  · have hws : (ol_Xc V a r0 σ ++ ext).set 28 (a 28, .inr (3, (ol_Rf a σ 28).set 16 (.int x))) = ol_Xc V a r0 (ol_xs σ 28 16 x) ++ ext := rfl
    exact ol_putN (fs := ol_Rf a σ 28) (ci := 3) hX in_X3 tyX3 tyX3_ok nmX3 28 rfl rfl 16 (by decide) hl rfl rfl rfl rfl (Nat.le_of_ble_eq_true rfl) hd hws k
theorem ol_xg_R_17 (hX : ol_CX X V A cc own nm nL ret) (hr : ol_isr r) (hl : Cond.fieldLink own index "OpenLines$Run" "faulty" "I" ∈ lw_all) (hd : decode cc pc = .ok (.getfield index, 3)) (k : ol_G X V A md P rm nL cells slots (ol_Xc V a r0 σ ++ ext) (pc + 3) L (.int (σ.1 r 17) :: st)) : ol_G X V A md P rm nL cells slots (ol_Xc V a r0 σ ++ ext) pc L (.ref (a r) :: st) := by
  rcases hr with rfl | rfl | rfl
  · exact ol_get (fs := ol_Rf a σ 10) (ci := 3) (v := .int (σ.1 10 17)) hX in_X3 10 rfl rfl 17 (by decide) hl rfl (by rfl) hd k
  · exact ol_get (fs := ol_Rf a σ 19) (ci := 3) (v := .int (σ.1 19 17)) hX in_X3 19 rfl rfl 17 (by decide) hl rfl (by rfl) hd k
  · exact ol_get (fs := ol_Rf a σ 28) (ci := 3) (v := .int (σ.1 28 17)) hX in_X3 28 rfl rfl 17 (by decide) hl rfl (by rfl) hd k
theorem ol_xgN_R_17 (hX : ol_CX X V A cc own nm nL ret) (hr : ol_isr r) (hl : Cond.fieldLinkNest own index "OpenLines$Run" "faulty" "I" host ∈ lw_tbl) (hd : decode cc pc = .ok (.getfield index, 3)) (k : ol_G X V A md P rm nL cells slots (ol_Xc V a r0 σ ++ ext) (pc + 3) L (.int (σ.1 r 17) :: st)) : ol_G X V A md P rm nL cells slots (ol_Xc V a r0 σ ++ ext) pc L (.ref (a r) :: st) := by
  rcases hr with rfl | rfl | rfl
  · exact ol_getN (fs := ol_Rf a σ 10) (ci := 3) (v := .int (σ.1 10 17)) hX in_X3 10 rfl rfl 17 (by decide) hl rfl (by rfl) hd k
  · exact ol_getN (fs := ol_Rf a σ 19) (ci := 3) (v := .int (σ.1 19 17)) hX in_X3 19 rfl rfl 17 (by decide) hl rfl (by rfl) hd k
  · exact ol_getN (fs := ol_Rf a σ 28) (ci := 3) (v := .int (σ.1 28 17)) hX in_X3 28 rfl rfl 17 (by decide) hl rfl (by rfl) hd k
theorem ol_xp_R_17 (hX : ol_CX X V A cc own nm nL ret) {x : Int32} (hr : ol_isr r) (hl : Cond.fieldLink own index "OpenLines$Run" "faulty" "I" ∈ lw_all) (hd : decode cc pc = .ok (.putfield index, 3)) (k : ol_G X V A true P rm nL cells slots (ol_Xc V a r0 (ol_xs σ r 17 x) ++ ext) (pc + 3) L st) : ol_G X V A true P rm nL cells slots (ol_Xc V a r0 σ ++ ext) pc L (.int x :: .ref (a r) :: st) := by
  rcases hr with rfl | rfl | rfl
  · have hws : (ol_Xc V a r0 σ ++ ext).set 10 (a 10, .inr (3, (ol_Rf a σ 10).set 17 (.int x))) = ol_Xc V a r0 (ol_xs σ 10 17 x) ++ ext := rfl
    exact ol_put (fs := ol_Rf a σ 10) (ci := 3) hX in_X3 tyX3 tyX3_ok nmX3 10 rfl rfl 17 (by decide) hl rfl rfl rfl rfl (Nat.le_of_ble_eq_true rfl) hd hws k
  · have hws : (ol_Xc V a r0 σ ++ ext).set 19 (a 19, .inr (3, (ol_Rf a σ 19).set 17 (.int x))) = ol_Xc V a r0 (ol_xs σ 19 17 x) ++ ext := rfl
    exact ol_put (fs := ol_Rf a σ 19) (ci := 3) hX in_X3 tyX3 tyX3_ok nmX3 19 rfl rfl 17 (by decide) hl rfl rfl rfl rfl (Nat.le_of_ble_eq_true rfl) hd hws k
  · have hws : (ol_Xc V a r0 σ ++ ext).set 28 (a 28, .inr (3, (ol_Rf a σ 28).set 17 (.int x))) = ol_Xc V a r0 (ol_xs σ 28 17 x) ++ ext := rfl
    exact ol_put (fs := ol_Rf a σ 28) (ci := 3) hX in_X3 tyX3 tyX3_ok nmX3 28 rfl rfl 17 (by decide) hl rfl rfl rfl rfl (Nat.le_of_ble_eq_true rfl) hd hws k
theorem ol_xpN_R_17 (hX : ol_CX X V A cc own nm nL ret) {x : Int32} (hr : ol_isr r) (hl : Cond.fieldLinkNest own index "OpenLines$Run" "faulty" "I" host ∈ lw_tbl) (hd : decode cc pc = .ok (.putfield index, 3)) (k : ol_G X V A true P rm nL cells slots (ol_Xc V a r0 (ol_xs σ r 17 x) ++ ext) (pc + 3) L st) : ol_G X V A true P rm nL cells slots (ol_Xc V a r0 σ ++ ext) pc L (.int x :: .ref (a r) :: st) := by
  rcases hr with rfl | rfl | rfl
  · have hws : (ol_Xc V a r0 σ ++ ext).set 10 (a 10, .inr (3, (ol_Rf a σ 10).set 17 (.int x))) = ol_Xc V a r0 (ol_xs σ 10 17 x) ++ ext := rfl
    exact ol_putN (fs := ol_Rf a σ 10) (ci := 3) hX in_X3 tyX3 tyX3_ok nmX3 10 rfl rfl 17 (by decide) hl rfl rfl rfl rfl (Nat.le_of_ble_eq_true rfl) hd hws k
  · have hws : (ol_Xc V a r0 σ ++ ext).set 19 (a 19, .inr (3, (ol_Rf a σ 19).set 17 (.int x))) = ol_Xc V a r0 (ol_xs σ 19 17 x) ++ ext := rfl
    exact ol_putN (fs := ol_Rf a σ 19) (ci := 3) hX in_X3 tyX3 tyX3_ok nmX3 19 rfl rfl 17 (by decide) hl rfl rfl rfl rfl (Nat.le_of_ble_eq_true rfl) hd hws k
  · have hws : (ol_Xc V a r0 σ ++ ext).set 28 (a 28, .inr (3, (ol_Rf a σ 28).set 17 (.int x))) = ol_Xc V a r0 (ol_xs σ 28 17 x) ++ ext := rfl
    exact ol_putN (fs := ol_Rf a σ 28) (ci := 3) hX in_X3 tyX3 tyX3_ok nmX3 28 rfl rfl 17 (by decide) hl rfl rfl rfl rfl (Nat.le_of_ble_eq_true rfl) hd hws k
theorem ol_xg_R_18 (hX : ol_CX X V A cc own nm nL ret) (hr : ol_isr r) (hl : Cond.fieldLink own index "OpenLines$Run" "putOff" "I" ∈ lw_all) (hd : decode cc pc = .ok (.getfield index, 3)) (k : ol_G X V A md P rm nL cells slots (ol_Xc V a r0 σ ++ ext) (pc + 3) L (.int (σ.1 r 18) :: st)) : ol_G X V A md P rm nL cells slots (ol_Xc V a r0 σ ++ ext) pc L (.ref (a r) :: st) := by
  rcases hr with rfl | rfl | rfl
  · exact ol_get (fs := ol_Rf a σ 10) (ci := 3) (v := .int (σ.1 10 18)) hX in_X3 10 rfl rfl 18 (by decide) hl rfl (by rfl) hd k
  · exact ol_get (fs := ol_Rf a σ 19) (ci := 3) (v := .int (σ.1 19 18)) hX in_X3 19 rfl rfl 18 (by decide) hl rfl (by rfl) hd k
  · exact ol_get (fs := ol_Rf a σ 28) (ci := 3) (v := .int (σ.1 28 18)) hX in_X3 28 rfl rfl 18 (by decide) hl rfl (by rfl) hd k
theorem ol_xgN_R_18 (hX : ol_CX X V A cc own nm nL ret) (hr : ol_isr r) (hl : Cond.fieldLinkNest own index "OpenLines$Run" "putOff" "I" host ∈ lw_tbl) (hd : decode cc pc = .ok (.getfield index, 3)) (k : ol_G X V A md P rm nL cells slots (ol_Xc V a r0 σ ++ ext) (pc + 3) L (.int (σ.1 r 18) :: st)) : ol_G X V A md P rm nL cells slots (ol_Xc V a r0 σ ++ ext) pc L (.ref (a r) :: st) := by
  rcases hr with rfl | rfl | rfl
  · exact ol_getN (fs := ol_Rf a σ 10) (ci := 3) (v := .int (σ.1 10 18)) hX in_X3 10 rfl rfl 18 (by decide) hl rfl (by rfl) hd k
  · exact ol_getN (fs := ol_Rf a σ 19) (ci := 3) (v := .int (σ.1 19 18)) hX in_X3 19 rfl rfl 18 (by decide) hl rfl (by rfl) hd k
  · exact ol_getN (fs := ol_Rf a σ 28) (ci := 3) (v := .int (σ.1 28 18)) hX in_X3 28 rfl rfl 18 (by decide) hl rfl (by rfl) hd k
theorem ol_xp_R_18 (hX : ol_CX X V A cc own nm nL ret) {x : Int32} (hr : ol_isr r) (hl : Cond.fieldLink own index "OpenLines$Run" "putOff" "I" ∈ lw_all) (hd : decode cc pc = .ok (.putfield index, 3)) (k : ol_G X V A true P rm nL cells slots (ol_Xc V a r0 (ol_xs σ r 18 x) ++ ext) (pc + 3) L st) : ol_G X V A true P rm nL cells slots (ol_Xc V a r0 σ ++ ext) pc L (.int x :: .ref (a r) :: st) := by
  rcases hr with rfl | rfl | rfl
  · have hws : (ol_Xc V a r0 σ ++ ext).set 10 (a 10, .inr (3, (ol_Rf a σ 10).set 18 (.int x))) = ol_Xc V a r0 (ol_xs σ 10 18 x) ++ ext := rfl
    exact ol_put (fs := ol_Rf a σ 10) (ci := 3) hX in_X3 tyX3 tyX3_ok nmX3 10 rfl rfl 18 (by decide) hl rfl rfl rfl rfl (Nat.le_of_ble_eq_true rfl) hd hws k
  · have hws : (ol_Xc V a r0 σ ++ ext).set 19 (a 19, .inr (3, (ol_Rf a σ 19).set 18 (.int x))) = ol_Xc V a r0 (ol_xs σ 19 18 x) ++ ext := rfl
    exact ol_put (fs := ol_Rf a σ 19) (ci := 3) hX in_X3 tyX3 tyX3_ok nmX3 19 rfl rfl 18 (by decide) hl rfl rfl rfl rfl (Nat.le_of_ble_eq_true rfl) hd hws k
  · have hws : (ol_Xc V a r0 σ ++ ext).set 28 (a 28, .inr (3, (ol_Rf a σ 28).set 18 (.int x))) = ol_Xc V a r0 (ol_xs σ 28 18 x) ++ ext := rfl
    exact ol_put (fs := ol_Rf a σ 28) (ci := 3) hX in_X3 tyX3 tyX3_ok nmX3 28 rfl rfl 18 (by decide) hl rfl rfl rfl rfl (Nat.le_of_ble_eq_true rfl) hd hws k
theorem ol_xpN_R_18 (hX : ol_CX X V A cc own nm nL ret) {x : Int32} (hr : ol_isr r) (hl : Cond.fieldLinkNest own index "OpenLines$Run" "putOff" "I" host ∈ lw_tbl) (hd : decode cc pc = .ok (.putfield index, 3)) (k : ol_G X V A true P rm nL cells slots (ol_Xc V a r0 (ol_xs σ r 18 x) ++ ext) (pc + 3) L st) : ol_G X V A true P rm nL cells slots (ol_Xc V a r0 σ ++ ext) pc L (.int x :: .ref (a r) :: st) := by
  rcases hr with rfl | rfl | rfl
  · have hws : (ol_Xc V a r0 σ ++ ext).set 10 (a 10, .inr (3, (ol_Rf a σ 10).set 18 (.int x))) = ol_Xc V a r0 (ol_xs σ 10 18 x) ++ ext := rfl
    exact ol_putN (fs := ol_Rf a σ 10) (ci := 3) hX in_X3 tyX3 tyX3_ok nmX3 10 rfl rfl 18 (by decide) hl rfl rfl rfl rfl (Nat.le_of_ble_eq_true rfl) hd hws k
  · have hws : (ol_Xc V a r0 σ ++ ext).set 19 (a 19, .inr (3, (ol_Rf a σ 19).set 18 (.int x))) = ol_Xc V a r0 (ol_xs σ 19 18 x) ++ ext := rfl
    exact ol_putN (fs := ol_Rf a σ 19) (ci := 3) hX in_X3 tyX3 tyX3_ok nmX3 19 rfl rfl 18 (by decide) hl rfl rfl rfl rfl (Nat.le_of_ble_eq_true rfl) hd hws k
  · have hws : (ol_Xc V a r0 σ ++ ext).set 28 (a 28, .inr (3, (ol_Rf a σ 28).set 18 (.int x))) = ol_Xc V a r0 (ol_xs σ 28 18 x) ++ ext := rfl
    exact ol_putN (fs := ol_Rf a σ 28) (ci := 3) hX in_X3 tyX3 tyX3_ok nmX3 28 rfl rfl 18 (by decide) hl rfl rfl rfl rfl (Nat.le_of_ble_eq_true rfl) hd hws k
theorem ol_xg_R_19 (hX : ol_CX X V A cc own nm nL ret) (hr : ol_isr r) (hl : Cond.fieldLink own index "OpenLines$Run" "log" "Ljava/util/ArrayList;" ∈ lw_all) (hd : decode cc pc = .ok (.getfield index, 3)) (k : ol_G X V A md P rm nL cells slots (ol_Xc V a r0 σ ++ ext) (pc + 3) L (.ref (a (r + 30)) :: st)) : ol_G X V A md P rm nL cells slots (ol_Xc V a r0 σ ++ ext) pc L (.ref (a r) :: st) := by
  rcases hr with rfl | rfl | rfl
  · exact ol_get (fs := ol_Rf a σ 10) (ci := 3) (v := .ref (a (10 + 30))) hX in_X3 10 rfl rfl 19 (by decide) hl rfl (by rfl) hd k
  · exact ol_get (fs := ol_Rf a σ 19) (ci := 3) (v := .ref (a (19 + 30))) hX in_X3 19 rfl rfl 19 (by decide) hl rfl (by rfl) hd k
  · exact ol_get (fs := ol_Rf a σ 28) (ci := 3) (v := .ref (a (28 + 30))) hX in_X3 28 rfl rfl 19 (by decide) hl rfl (by rfl) hd k
theorem ol_xgN_R_19 (hX : ol_CX X V A cc own nm nL ret) (hr : ol_isr r) (hl : Cond.fieldLinkNest own index "OpenLines$Run" "log" "Ljava/util/ArrayList;" host ∈ lw_tbl) (hd : decode cc pc = .ok (.getfield index, 3)) (k : ol_G X V A md P rm nL cells slots (ol_Xc V a r0 σ ++ ext) (pc + 3) L (.ref (a (r + 30)) :: st)) : ol_G X V A md P rm nL cells slots (ol_Xc V a r0 σ ++ ext) pc L (.ref (a r) :: st) := by
  rcases hr with rfl | rfl | rfl
  · exact ol_getN (fs := ol_Rf a σ 10) (ci := 3) (v := .ref (a (10 + 30))) hX in_X3 10 rfl rfl 19 (by decide) hl rfl (by rfl) hd k
  · exact ol_getN (fs := ol_Rf a σ 19) (ci := 3) (v := .ref (a (19 + 30))) hX in_X3 19 rfl rfl 19 (by decide) hl rfl (by rfl) hd k
  · exact ol_getN (fs := ol_Rf a σ 28) (ci := 3) (v := .ref (a (28 + 30))) hX in_X3 28 rfl rfl 19 (by decide) hl rfl (by rfl) hd k
theorem ol_xg_R_20 (hX : ol_CX X V A cc own nm nL ret) (hr : ol_isr r) (hl : Cond.fieldLink own index "OpenLines$Run" "masters" "[I" ∈ lw_all) (hd : decode cc pc = .ok (.getfield index, 3)) (k : ol_G X V A md P rm nL cells slots (ol_Xc V a r0 σ ++ ext) (pc + 3) L (.ref (a (r + 8)) :: st)) : ol_G X V A md P rm nL cells slots (ol_Xc V a r0 σ ++ ext) pc L (.ref (a r) :: st) := by
  rcases hr with rfl | rfl | rfl
  · exact ol_get (fs := ol_Rf a σ 10) (ci := 3) (v := .ref (a (10 + 8))) hX in_X3 10 rfl rfl 20 (by decide) hl rfl (by rfl) hd k
  · exact ol_get (fs := ol_Rf a σ 19) (ci := 3) (v := .ref (a (19 + 8))) hX in_X3 19 rfl rfl 20 (by decide) hl rfl (by rfl) hd k
  · exact ol_get (fs := ol_Rf a σ 28) (ci := 3) (v := .ref (a (28 + 8))) hX in_X3 28 rfl rfl 20 (by decide) hl rfl (by rfl) hd k
theorem ol_xgN_R_20 (hX : ol_CX X V A cc own nm nL ret) (hr : ol_isr r) (hl : Cond.fieldLinkNest own index "OpenLines$Run" "masters" "[I" host ∈ lw_tbl) (hd : decode cc pc = .ok (.getfield index, 3)) (k : ol_G X V A md P rm nL cells slots (ol_Xc V a r0 σ ++ ext) (pc + 3) L (.ref (a (r + 8)) :: st)) : ol_G X V A md P rm nL cells slots (ol_Xc V a r0 σ ++ ext) pc L (.ref (a r) :: st) := by
  rcases hr with rfl | rfl | rfl
  · exact ol_getN (fs := ol_Rf a σ 10) (ci := 3) (v := .ref (a (10 + 8))) hX in_X3 10 rfl rfl 20 (by decide) hl rfl (by rfl) hd k
  · exact ol_getN (fs := ol_Rf a σ 19) (ci := 3) (v := .ref (a (19 + 8))) hX in_X3 19 rfl rfl 20 (by decide) hl rfl (by rfl) hd k
  · exact ol_getN (fs := ol_Rf a σ 28) (ci := 3) (v := .ref (a (28 + 8))) hX in_X3 28 rfl rfl 20 (by decide) hl rfl (by rfl) hd k
theorem ol_xg_R_21 (hX : ol_CX X V A cc own nm nL ret) (hr : ol_isr r) (hl : Cond.fieldLink own index "OpenLines$Run" "found" "I" ∈ lw_all) (hd : decode cc pc = .ok (.getfield index, 3)) (k : ol_G X V A md P rm nL cells slots (ol_Xc V a r0 σ ++ ext) (pc + 3) L (.int (σ.1 r 21) :: st)) : ol_G X V A md P rm nL cells slots (ol_Xc V a r0 σ ++ ext) pc L (.ref (a r) :: st) := by
  rcases hr with rfl | rfl | rfl
  · exact ol_get (fs := ol_Rf a σ 10) (ci := 3) (v := .int (σ.1 10 21)) hX in_X3 10 rfl rfl 21 (by decide) hl rfl (by rfl) hd k
  · exact ol_get (fs := ol_Rf a σ 19) (ci := 3) (v := .int (σ.1 19 21)) hX in_X3 19 rfl rfl 21 (by decide) hl rfl (by rfl) hd k
  · exact ol_get (fs := ol_Rf a σ 28) (ci := 3) (v := .int (σ.1 28 21)) hX in_X3 28 rfl rfl 21 (by decide) hl rfl (by rfl) hd k
theorem ol_xgN_R_21 (hX : ol_CX X V A cc own nm nL ret) (hr : ol_isr r) (hl : Cond.fieldLinkNest own index "OpenLines$Run" "found" "I" host ∈ lw_tbl) (hd : decode cc pc = .ok (.getfield index, 3)) (k : ol_G X V A md P rm nL cells slots (ol_Xc V a r0 σ ++ ext) (pc + 3) L (.int (σ.1 r 21) :: st)) : ol_G X V A md P rm nL cells slots (ol_Xc V a r0 σ ++ ext) pc L (.ref (a r) :: st) := by
  rcases hr with rfl | rfl | rfl
  · exact ol_getN (fs := ol_Rf a σ 10) (ci := 3) (v := .int (σ.1 10 21)) hX in_X3 10 rfl rfl 21 (by decide) hl rfl (by rfl) hd k
  · exact ol_getN (fs := ol_Rf a σ 19) (ci := 3) (v := .int (σ.1 19 21)) hX in_X3 19 rfl rfl 21 (by decide) hl rfl (by rfl) hd k
  · exact ol_getN (fs := ol_Rf a σ 28) (ci := 3) (v := .int (σ.1 28 21)) hX in_X3 28 rfl rfl 21 (by decide) hl rfl (by rfl) hd k
theorem ol_xp_R_21 (hX : ol_CX X V A cc own nm nL ret) {x : Int32} (hr : ol_isr r) (hl : Cond.fieldLink own index "OpenLines$Run" "found" "I" ∈ lw_all) (hd : decode cc pc = .ok (.putfield index, 3)) (k : ol_G X V A true P rm nL cells slots (ol_Xc V a r0 (ol_xs σ r 21 x) ++ ext) (pc + 3) L st) : ol_G X V A true P rm nL cells slots (ol_Xc V a r0 σ ++ ext) pc L (.int x :: .ref (a r) :: st) := by
  rcases hr with rfl | rfl | rfl
  · have hws : (ol_Xc V a r0 σ ++ ext).set 10 (a 10, .inr (3, (ol_Rf a σ 10).set 21 (.int x))) = ol_Xc V a r0 (ol_xs σ 10 21 x) ++ ext := rfl
    exact ol_put (fs := ol_Rf a σ 10) (ci := 3) hX in_X3 tyX3 tyX3_ok nmX3 10 rfl rfl 21 (by decide) hl rfl rfl rfl rfl (Nat.le_of_ble_eq_true rfl) hd hws k
  · have hws : (ol_Xc V a r0 σ ++ ext).set 19 (a 19, .inr (3, (ol_Rf a σ 19).set 21 (.int x))) = ol_Xc V a r0 (ol_xs σ 19 21 x) ++ ext := rfl
    exact ol_put (fs := ol_Rf a σ 19) (ci := 3) hX in_X3 tyX3 tyX3_ok nmX3 19 rfl rfl 21 (by decide) hl rfl rfl rfl rfl (Nat.le_of_ble_eq_true rfl) hd hws k
  · have hws : (ol_Xc V a r0 σ ++ ext).set 28 (a 28, .inr (3, (ol_Rf a σ 28).set 21 (.int x))) = ol_Xc V a r0 (ol_xs σ 28 21 x) ++ ext := rfl
    exact ol_put (fs := ol_Rf a σ 28) (ci := 3) hX in_X3 tyX3 tyX3_ok nmX3 28 rfl rfl 21 (by decide) hl rfl rfl rfl rfl (Nat.le_of_ble_eq_true rfl) hd hws k
theorem ol_xpN_R_21 (hX : ol_CX X V A cc own nm nL ret) {x : Int32} (hr : ol_isr r) (hl : Cond.fieldLinkNest own index "OpenLines$Run" "found" "I" host ∈ lw_tbl) (hd : decode cc pc = .ok (.putfield index, 3)) (k : ol_G X V A true P rm nL cells slots (ol_Xc V a r0 (ol_xs σ r 21 x) ++ ext) (pc + 3) L st) : ol_G X V A true P rm nL cells slots (ol_Xc V a r0 σ ++ ext) pc L (.int x :: .ref (a r) :: st) := by
  rcases hr with rfl | rfl | rfl
  · have hws : (ol_Xc V a r0 σ ++ ext).set 10 (a 10, .inr (3, (ol_Rf a σ 10).set 21 (.int x))) = ol_Xc V a r0 (ol_xs σ 10 21 x) ++ ext := rfl
    exact ol_putN (fs := ol_Rf a σ 10) (ci := 3) hX in_X3 tyX3 tyX3_ok nmX3 10 rfl rfl 21 (by decide) hl rfl rfl rfl rfl (Nat.le_of_ble_eq_true rfl) hd hws k
  · have hws : (ol_Xc V a r0 σ ++ ext).set 19 (a 19, .inr (3, (ol_Rf a σ 19).set 21 (.int x))) = ol_Xc V a r0 (ol_xs σ 19 21 x) ++ ext := rfl
    exact ol_putN (fs := ol_Rf a σ 19) (ci := 3) hX in_X3 tyX3 tyX3_ok nmX3 19 rfl rfl 21 (by decide) hl rfl rfl rfl rfl (Nat.le_of_ble_eq_true rfl) hd hws k
  · have hws : (ol_Xc V a r0 σ ++ ext).set 28 (a 28, .inr (3, (ol_Rf a σ 28).set 21 (.int x))) = ol_Xc V a r0 (ol_xs σ 28 21 x) ++ ext := rfl
    exact ol_putN (fs := ol_Rf a σ 28) (ci := 3) hX in_X3 tyX3 tyX3_ok nmX3 28 rfl rfl 21 (by decide) hl rfl rfl rfl rfl (Nat.le_of_ble_eq_true rfl) hd hws k
theorem ol_xg_R_22 (hX : ol_CX X V A cc own nm nL ret) (hr : ol_isr r) (hl : Cond.fieldLink own index "OpenLines$Run" "firstWinners" "I" ∈ lw_all) (hd : decode cc pc = .ok (.getfield index, 3)) (k : ol_G X V A md P rm nL cells slots (ol_Xc V a r0 σ ++ ext) (pc + 3) L (.int (σ.1 r 22) :: st)) : ol_G X V A md P rm nL cells slots (ol_Xc V a r0 σ ++ ext) pc L (.ref (a r) :: st) := by
  rcases hr with rfl | rfl | rfl
  · exact ol_get (fs := ol_Rf a σ 10) (ci := 3) (v := .int (σ.1 10 22)) hX in_X3 10 rfl rfl 22 (by decide) hl rfl (by rfl) hd k
  · exact ol_get (fs := ol_Rf a σ 19) (ci := 3) (v := .int (σ.1 19 22)) hX in_X3 19 rfl rfl 22 (by decide) hl rfl (by rfl) hd k
  · exact ol_get (fs := ol_Rf a σ 28) (ci := 3) (v := .int (σ.1 28 22)) hX in_X3 28 rfl rfl 22 (by decide) hl rfl (by rfl) hd k
theorem ol_xgN_R_22 (hX : ol_CX X V A cc own nm nL ret) (hr : ol_isr r) (hl : Cond.fieldLinkNest own index "OpenLines$Run" "firstWinners" "I" host ∈ lw_tbl) (hd : decode cc pc = .ok (.getfield index, 3)) (k : ol_G X V A md P rm nL cells slots (ol_Xc V a r0 σ ++ ext) (pc + 3) L (.int (σ.1 r 22) :: st)) : ol_G X V A md P rm nL cells slots (ol_Xc V a r0 σ ++ ext) pc L (.ref (a r) :: st) := by
  rcases hr with rfl | rfl | rfl
  · exact ol_getN (fs := ol_Rf a σ 10) (ci := 3) (v := .int (σ.1 10 22)) hX in_X3 10 rfl rfl 22 (by decide) hl rfl (by rfl) hd k
  · exact ol_getN (fs := ol_Rf a σ 19) (ci := 3) (v := .int (σ.1 19 22)) hX in_X3 19 rfl rfl 22 (by decide) hl rfl (by rfl) hd k
  · exact ol_getN (fs := ol_Rf a σ 28) (ci := 3) (v := .int (σ.1 28 22)) hX in_X3 28 rfl rfl 22 (by decide) hl rfl (by rfl) hd k
theorem ol_xp_R_22 (hX : ol_CX X V A cc own nm nL ret) {x : Int32} (hr : ol_isr r) (hl : Cond.fieldLink own index "OpenLines$Run" "firstWinners" "I" ∈ lw_all) (hd : decode cc pc = .ok (.putfield index, 3)) (k : ol_G X V A true P rm nL cells slots (ol_Xc V a r0 (ol_xs σ r 22 x) ++ ext) (pc + 3) L st) : ol_G X V A true P rm nL cells slots (ol_Xc V a r0 σ ++ ext) pc L (.int x :: .ref (a r) :: st) := by
  rcases hr with rfl | rfl | rfl
  · have hws : (ol_Xc V a r0 σ ++ ext).set 10 (a 10, .inr (3, (ol_Rf a σ 10).set 22 (.int x))) = ol_Xc V a r0 (ol_xs σ 10 22 x) ++ ext := rfl
    exact ol_put (fs := ol_Rf a σ 10) (ci := 3) hX in_X3 tyX3 tyX3_ok nmX3 10 rfl rfl 22 (by decide) hl rfl rfl rfl rfl (Nat.le_of_ble_eq_true rfl) hd hws k
  · have hws : (ol_Xc V a r0 σ ++ ext).set 19 (a 19, .inr (3, (ol_Rf a σ 19).set 22 (.int x))) = ol_Xc V a r0 (ol_xs σ 19 22 x) ++ ext := rfl
    exact ol_put (fs := ol_Rf a σ 19) (ci := 3) hX in_X3 tyX3 tyX3_ok nmX3 19 rfl rfl 22 (by decide) hl rfl rfl rfl rfl (Nat.le_of_ble_eq_true rfl) hd hws k
  · have hws : (ol_Xc V a r0 σ ++ ext).set 28 (a 28, .inr (3, (ol_Rf a σ 28).set 22 (.int x))) = ol_Xc V a r0 (ol_xs σ 28 22 x) ++ ext := rfl
    exact ol_put (fs := ol_Rf a σ 28) (ci := 3) hX in_X3 tyX3 tyX3_ok nmX3 28 rfl rfl 22 (by decide) hl rfl rfl rfl rfl (Nat.le_of_ble_eq_true rfl) hd hws k
theorem ol_xpN_R_22 (hX : ol_CX X V A cc own nm nL ret) {x : Int32} (hr : ol_isr r) (hl : Cond.fieldLinkNest own index "OpenLines$Run" "firstWinners" "I" host ∈ lw_tbl) (hd : decode cc pc = .ok (.putfield index, 3)) (k : ol_G X V A true P rm nL cells slots (ol_Xc V a r0 (ol_xs σ r 22 x) ++ ext) (pc + 3) L st) : ol_G X V A true P rm nL cells slots (ol_Xc V a r0 σ ++ ext) pc L (.int x :: .ref (a r) :: st) := by
  rcases hr with rfl | rfl | rfl
  · have hws : (ol_Xc V a r0 σ ++ ext).set 10 (a 10, .inr (3, (ol_Rf a σ 10).set 22 (.int x))) = ol_Xc V a r0 (ol_xs σ 10 22 x) ++ ext := rfl
    exact ol_putN (fs := ol_Rf a σ 10) (ci := 3) hX in_X3 tyX3 tyX3_ok nmX3 10 rfl rfl 22 (by decide) hl rfl rfl rfl rfl (Nat.le_of_ble_eq_true rfl) hd hws k
  · have hws : (ol_Xc V a r0 σ ++ ext).set 19 (a 19, .inr (3, (ol_Rf a σ 19).set 22 (.int x))) = ol_Xc V a r0 (ol_xs σ 19 22 x) ++ ext := rfl
    exact ol_putN (fs := ol_Rf a σ 19) (ci := 3) hX in_X3 tyX3 tyX3_ok nmX3 19 rfl rfl 22 (by decide) hl rfl rfl rfl rfl (Nat.le_of_ble_eq_true rfl) hd hws k
  · have hws : (ol_Xc V a r0 σ ++ ext).set 28 (a 28, .inr (3, (ol_Rf a σ 28).set 22 (.int x))) = ol_Xc V a r0 (ol_xs σ 28 22 x) ++ ext := rfl
    exact ol_putN (fs := ol_Rf a σ 28) (ci := 3) hX in_X3 tyX3 tyX3_ok nmX3 28 rfl rfl 22 (by decide) hl rfl rfl rfl rfl (Nat.le_of_ble_eq_true rfl) hd hws k
theorem ol_xg_R_23 (hX : ol_CX X V A cc own nm nL ret) (hr : ol_isr r) (hl : Cond.fieldLink own index "OpenLines$Run" "lastWinners" "I" ∈ lw_all) (hd : decode cc pc = .ok (.getfield index, 3)) (k : ol_G X V A md P rm nL cells slots (ol_Xc V a r0 σ ++ ext) (pc + 3) L (.int (σ.1 r 23) :: st)) : ol_G X V A md P rm nL cells slots (ol_Xc V a r0 σ ++ ext) pc L (.ref (a r) :: st) := by
  rcases hr with rfl | rfl | rfl
  · exact ol_get (fs := ol_Rf a σ 10) (ci := 3) (v := .int (σ.1 10 23)) hX in_X3 10 rfl rfl 23 (by decide) hl rfl (by rfl) hd k
  · exact ol_get (fs := ol_Rf a σ 19) (ci := 3) (v := .int (σ.1 19 23)) hX in_X3 19 rfl rfl 23 (by decide) hl rfl (by rfl) hd k
  · exact ol_get (fs := ol_Rf a σ 28) (ci := 3) (v := .int (σ.1 28 23)) hX in_X3 28 rfl rfl 23 (by decide) hl rfl (by rfl) hd k
theorem ol_xgN_R_23 (hX : ol_CX X V A cc own nm nL ret) (hr : ol_isr r) (hl : Cond.fieldLinkNest own index "OpenLines$Run" "lastWinners" "I" host ∈ lw_tbl) (hd : decode cc pc = .ok (.getfield index, 3)) (k : ol_G X V A md P rm nL cells slots (ol_Xc V a r0 σ ++ ext) (pc + 3) L (.int (σ.1 r 23) :: st)) : ol_G X V A md P rm nL cells slots (ol_Xc V a r0 σ ++ ext) pc L (.ref (a r) :: st) := by
  rcases hr with rfl | rfl | rfl
  · exact ol_getN (fs := ol_Rf a σ 10) (ci := 3) (v := .int (σ.1 10 23)) hX in_X3 10 rfl rfl 23 (by decide) hl rfl (by rfl) hd k
  · exact ol_getN (fs := ol_Rf a σ 19) (ci := 3) (v := .int (σ.1 19 23)) hX in_X3 19 rfl rfl 23 (by decide) hl rfl (by rfl) hd k
  · exact ol_getN (fs := ol_Rf a σ 28) (ci := 3) (v := .int (σ.1 28 23)) hX in_X3 28 rfl rfl 23 (by decide) hl rfl (by rfl) hd k
theorem ol_xp_R_23 (hX : ol_CX X V A cc own nm nL ret) {x : Int32} (hr : ol_isr r) (hl : Cond.fieldLink own index "OpenLines$Run" "lastWinners" "I" ∈ lw_all) (hd : decode cc pc = .ok (.putfield index, 3)) (k : ol_G X V A true P rm nL cells slots (ol_Xc V a r0 (ol_xs σ r 23 x) ++ ext) (pc + 3) L st) : ol_G X V A true P rm nL cells slots (ol_Xc V a r0 σ ++ ext) pc L (.int x :: .ref (a r) :: st) := by
  rcases hr with rfl | rfl | rfl
  · have hws : (ol_Xc V a r0 σ ++ ext).set 10 (a 10, .inr (3, (ol_Rf a σ 10).set 23 (.int x))) = ol_Xc V a r0 (ol_xs σ 10 23 x) ++ ext := rfl
    exact ol_put (fs := ol_Rf a σ 10) (ci := 3) hX in_X3 tyX3 tyX3_ok nmX3 10 rfl rfl 23 (by decide) hl rfl rfl rfl rfl (Nat.le_of_ble_eq_true rfl) hd hws k
  · have hws : (ol_Xc V a r0 σ ++ ext).set 19 (a 19, .inr (3, (ol_Rf a σ 19).set 23 (.int x))) = ol_Xc V a r0 (ol_xs σ 19 23 x) ++ ext := rfl
    exact ol_put (fs := ol_Rf a σ 19) (ci := 3) hX in_X3 tyX3 tyX3_ok nmX3 19 rfl rfl 23 (by decide) hl rfl rfl rfl rfl (Nat.le_of_ble_eq_true rfl) hd hws k
  · have hws : (ol_Xc V a r0 σ ++ ext).set 28 (a 28, .inr (3, (ol_Rf a σ 28).set 23 (.int x))) = ol_Xc V a r0 (ol_xs σ 28 23 x) ++ ext := rfl
    exact ol_put (fs := ol_Rf a σ 28) (ci := 3) hX in_X3 tyX3 tyX3_ok nmX3 28 rfl rfl 23 (by decide) hl rfl rfl rfl rfl (Nat.le_of_ble_eq_true rfl) hd hws k
theorem ol_xpN_R_23 (hX : ol_CX X V A cc own nm nL ret) {x : Int32} (hr : ol_isr r) (hl : Cond.fieldLinkNest own index "OpenLines$Run" "lastWinners" "I" host ∈ lw_tbl) (hd : decode cc pc = .ok (.putfield index, 3)) (k : ol_G X V A true P rm nL cells slots (ol_Xc V a r0 (ol_xs σ r 23 x) ++ ext) (pc + 3) L st) : ol_G X V A true P rm nL cells slots (ol_Xc V a r0 σ ++ ext) pc L (.int x :: .ref (a r) :: st) := by
  rcases hr with rfl | rfl | rfl
  · have hws : (ol_Xc V a r0 σ ++ ext).set 10 (a 10, .inr (3, (ol_Rf a σ 10).set 23 (.int x))) = ol_Xc V a r0 (ol_xs σ 10 23 x) ++ ext := rfl
    exact ol_putN (fs := ol_Rf a σ 10) (ci := 3) hX in_X3 tyX3 tyX3_ok nmX3 10 rfl rfl 23 (by decide) hl rfl rfl rfl rfl (Nat.le_of_ble_eq_true rfl) hd hws k
  · have hws : (ol_Xc V a r0 σ ++ ext).set 19 (a 19, .inr (3, (ol_Rf a σ 19).set 23 (.int x))) = ol_Xc V a r0 (ol_xs σ 19 23 x) ++ ext := rfl
    exact ol_putN (fs := ol_Rf a σ 19) (ci := 3) hX in_X3 tyX3 tyX3_ok nmX3 19 rfl rfl 23 (by decide) hl rfl rfl rfl rfl (Nat.le_of_ble_eq_true rfl) hd hws k
  · have hws : (ol_Xc V a r0 σ ++ ext).set 28 (a 28, .inr (3, (ol_Rf a σ 28).set 23 (.int x))) = ol_Xc V a r0 (ol_xs σ 28 23 x) ++ ext := rfl
    exact ol_putN (fs := ol_Rf a σ 28) (ci := 3) hX in_X3 tyX3 tyX3_ok nmX3 28 rfl rfl 23 (by decide) hl rfl rfl rfl rfl (Nat.le_of_ble_eq_true rfl) hd hws k
theorem ol_xg_R_24 (hX : ol_CX X V A cc own nm nL ret) (hr : ol_isr r) (hl : Cond.fieldLink own index "OpenLines$Run" "this$0" "LOpenLines;" ∈ lw_all) (hd : decode cc pc = .ok (.getfield index, 3)) (k : ol_G X V A md P rm nL cells slots (ol_Xc V a r0 σ ++ ext) (pc + 3) L (.ref (a 0) :: st)) : ol_G X V A md P rm nL cells slots (ol_Xc V a r0 σ ++ ext) pc L (.ref (a r) :: st) := by
  rcases hr with rfl | rfl | rfl
  · exact ol_get (fs := ol_Rf a σ 10) (ci := 3) (v := .ref (a 0)) hX in_X3 10 rfl rfl 24 (by decide) hl rfl (by rfl) hd k
  · exact ol_get (fs := ol_Rf a σ 19) (ci := 3) (v := .ref (a 0)) hX in_X3 19 rfl rfl 24 (by decide) hl rfl (by rfl) hd k
  · exact ol_get (fs := ol_Rf a σ 28) (ci := 3) (v := .ref (a 0)) hX in_X3 28 rfl rfl 24 (by decide) hl rfl (by rfl) hd k
theorem ol_xgN_R_24 (hX : ol_CX X V A cc own nm nL ret) (hr : ol_isr r) (hl : Cond.fieldLinkNest own index "OpenLines$Run" "this$0" "LOpenLines;" host ∈ lw_tbl) (hd : decode cc pc = .ok (.getfield index, 3)) (k : ol_G X V A md P rm nL cells slots (ol_Xc V a r0 σ ++ ext) (pc + 3) L (.ref (a 0) :: st)) : ol_G X V A md P rm nL cells slots (ol_Xc V a r0 σ ++ ext) pc L (.ref (a r) :: st) := by
  rcases hr with rfl | rfl | rfl
  · exact ol_getN (fs := ol_Rf a σ 10) (ci := 3) (v := .ref (a 0)) hX in_X3 10 rfl rfl 24 (by decide) hl rfl (by rfl) hd k
  · exact ol_getN (fs := ol_Rf a σ 19) (ci := 3) (v := .ref (a 0)) hX in_X3 19 rfl rfl 24 (by decide) hl rfl (by rfl) hd k
  · exact ol_getN (fs := ol_Rf a σ 28) (ci := 3) (v := .ref (a 0)) hX in_X3 28 rfl rfl 24 (by decide) hl rfl (by rfl) hd k
theorem ol_xp_P_bus (hX : ol_CX X V A cc own nm nL ret) {x : Option Nat} (hl : Cond.fieldLink own index "OpenLines$Pass" "bus" "LOpenLines$Bus;" ∈ lw_all) (hd : decode cc pc = .ok (.putfield index, 3)) (k : ol_G X V A true P rm nL cells slots (ol_Xc V a r0 (ol_xr σ 3 x) ++ ext) (pc + 3) L st) : ol_G X V A true P rm nL cells slots (ol_Xc V a r0 σ ++ ext) pc L (va_rf x :: .ref (a 2) :: st) := by
  have hws : (ol_Xc V a r0 σ ++ ext).set 2 (a 2, .inr (2, (ol_Pf a σ).set 7 (va_rf x))) = ol_Xc V a r0 (ol_xr σ 3 x) ++ ext := rfl
  exact ol_put (v := va_rf x) (fs := ol_Pf a σ) (ci := 2) hX in_X2 tyX2 tyX2_ok nmX2 2 rfl rfl 7 (by decide) hl rfl rfl (by cases x <;> rfl) (by cases x <;> rfl) (Nat.le_of_ble_eq_true rfl) hd hws k
theorem ol_xp_R_bus (hX : ol_CX X V A cc own nm nL ret) {x : Option Nat} (hr : ol_isr r) (hl : Cond.fieldLink own index "OpenLines$Run" "bus" "LOpenLines$Bus;" ∈ lw_all) (hd : decode cc pc = .ok (.putfield index, 3)) (k : ol_G X V A true P rm nL cells slots (ol_Xc V a r0 (ol_xr σ r x) ++ ext) (pc + 3) L st) : ol_G X V A true P rm nL cells slots (ol_Xc V a r0 σ ++ ext) pc L (va_rf x :: .ref (a r) :: st) := by
  rcases hr with rfl | rfl | rfl
  · have hws : (ol_Xc V a r0 σ ++ ext).set 10 (a 10, .inr (3, (ol_Rf a σ 10).set 0 (va_rf x))) = ol_Xc V a r0 (ol_xr σ 10 x) ++ ext := rfl
    exact ol_put (v := va_rf x) (fs := ol_Rf a σ 10) (ci := 3) hX in_X3 tyX3 tyX3_ok nmX3 10 rfl rfl 0 (by decide) hl rfl rfl (by cases x <;> rfl) (by cases x <;> rfl) (Nat.le_of_ble_eq_true rfl) hd hws k
  · have hws : (ol_Xc V a r0 σ ++ ext).set 19 (a 19, .inr (3, (ol_Rf a σ 19).set 0 (va_rf x))) = ol_Xc V a r0 (ol_xr σ 19 x) ++ ext := rfl
    exact ol_put (v := va_rf x) (fs := ol_Rf a σ 19) (ci := 3) hX in_X3 tyX3 tyX3_ok nmX3 19 rfl rfl 0 (by decide) hl rfl rfl (by cases x <;> rfl) (by cases x <;> rfl) (Nat.le_of_ble_eq_true rfl) hd hws k
  · have hws : (ol_Xc V a r0 σ ++ ext).set 28 (a 28, .inr (3, (ol_Rf a σ 28).set 0 (va_rf x))) = ol_Xc V a r0 (ol_xr σ 28 x) ++ ext := rfl
    exact ol_put (v := va_rf x) (fs := ol_Rf a σ 28) (ci := 3) hX in_X3 tyX3 tyX3_ok nmX3 28 rfl rfl 0 (by decide) hl rfl rfl (by cases x <;> rfl) (by cases x <;> rfl) (Nat.le_of_ble_eq_true rfl) hd hws k
theorem ol_xgq_R_0 (hX : ol_CX X V A cc own nm nL ret) (hr : ol_isr r) (hl : Cond.fieldLink own index "OpenLines$Run" "bus" "LOpenLines$Bus;" ∈ lw_all) (hd : decode cc pc = .ok (.getfield index, 3)) (k : ol_G X V A md P rm nL cells slots (ol_Xc V a r0 σ ++ ext) (pc + 3) L (va_rf (σ.2.1 r) :: st)) : ol_G X V A md P rm nL cells slots (ol_Xc V a r0 σ ++ ext) pc L (.ref (a r) :: st) := by
  rcases hr with rfl | rfl | rfl
  · exact ol_get (fs := ol_Rf a σ 10) (ci := 3) hX in_X3 10 rfl rfl 0 (by decide) hl rfl rfl hd k
  · exact ol_get (fs := ol_Rf a σ 19) (ci := 3) hX in_X3 19 rfl rfl 0 (by decide) hl rfl rfl hd k
  · exact ol_get (fs := ol_Rf a σ 28) (ci := 3) hX in_X3 28 rfl rfl 0 (by decide) hl rfl rfl hd k
theorem ol_xl_1 (hX : ol_CX X V A cc own nm nL ret) {i : Int32} {j : Nat} (hd : decode cc pc = .ok (.baload, 1)) (hj : i.toNatClampNeg = j) (hin : vp_in i 700) (k : ol_G X V A md P rm nL cells slots (ol_Xc V a r0 σ ++ ext) (pc + 1) L (.int (σ.1 1 j) :: st)) : ol_G X V A md P rm nL cells slots (ol_Xc V a r0 σ ++ ext) pc L (.int i :: .ref (a 1) :: st) := by
  subst hj
  exact ol_bald hX 1 rfl hin hd k
theorem ol_xw_1 (hX : ol_CX X V A cc own nm nL ret) {i x : Int32} {j : Nat} (hd : decode cc pc = .ok (.bastore, 1)) (hj : i.toNatClampNeg = j) (hin : vp_in i 700) (k : ol_G X V A true P rm nL cells slots (ol_Xc V a r0 (ol_xs σ 1 j (vp_nar .byte x)) ++ ext) (pc + 1) L st) : ol_G X V A true P rm nL cells slots (ol_Xc V a r0 σ ++ ext) pc L (.int x :: .int i :: .ref (a 1) :: st) := by
  subst hj
  exact ol_bast hX 1 rfl hin hd rfl k
theorem ol_xl_3 (hX : ol_CX X V A cc own nm nL ret) {i : Int32} {j : Nat} (hd : decode cc pc = .ok (.iaload, 1)) (hj : i.toNatClampNeg = j) (hin : vp_in i 6) (k : ol_G X V A md P rm nL cells slots (ol_Xc V a r0 σ ++ ext) (pc + 1) L (.int (σ.1 3 j) :: st)) : ol_G X V A md P rm nL cells slots (ol_Xc V a r0 σ ++ ext) pc L (.int i :: .ref (a 3) :: st) := by
  subst hj
  exact ol_iald hX 3 rfl hin hd k
theorem ol_xw_3 (hX : ol_CX X V A cc own nm nL ret) {i x : Int32} {j : Nat} (hd : decode cc pc = .ok (.iastore, 1)) (hj : i.toNatClampNeg = j) (hin : vp_in i 6) (k : ol_G X V A true P rm nL cells slots (ol_Xc V a r0 (ol_xs σ 3 j x) ++ ext) (pc + 1) L st) : ol_G X V A true P rm nL cells slots (ol_Xc V a r0 σ ++ ext) pc L (.int x :: .int i :: .ref (a 3) :: st) := by
  subst hj
  exact ol_iast hX 3 rfl hin hd rfl k
theorem ol_xl_4 (hX : ol_CX X V A cc own nm nL ret) {i : Int32} {j : Nat} (hd : decode cc pc = .ok (.iaload, 1)) (hj : i.toNatClampNeg = j) (hin : vp_in i 2406) (k : ol_G X V A md P rm nL cells slots (ol_Xc V a r0 σ ++ ext) (pc + 1) L (.int (σ.1 4 j) :: st)) : ol_G X V A md P rm nL cells slots (ol_Xc V a r0 σ ++ ext) pc L (.int i :: .ref (a 4) :: st) := by
  subst hj
  exact ol_iald hX 4 rfl hin hd k
theorem ol_xw_4 (hX : ol_CX X V A cc own nm nL ret) {i x : Int32} {j : Nat} (hd : decode cc pc = .ok (.iastore, 1)) (hj : i.toNatClampNeg = j) (hin : vp_in i 2406) (k : ol_G X V A true P rm nL cells slots (ol_Xc V a r0 (ol_xs σ 4 j x) ++ ext) (pc + 1) L st) : ol_G X V A true P rm nL cells slots (ol_Xc V a r0 σ ++ ext) pc L (.int x :: .int i :: .ref (a 4) :: st) := by
  subst hj
  exact ol_iast hX 4 rfl hin hd rfl k
theorem ol_xl_5 (hX : ol_CX X V A cc own nm nL ret) {i : Int32} {j : Nat} (hd : decode cc pc = .ok (.iaload, 1)) (hj : i.toNatClampNeg = j) (hin : vp_in i 2406) (k : ol_G X V A md P rm nL cells slots (ol_Xc V a r0 σ ++ ext) (pc + 1) L (.int (σ.1 5 j) :: st)) : ol_G X V A md P rm nL cells slots (ol_Xc V a r0 σ ++ ext) pc L (.int i :: .ref (a 5) :: st) := by
  subst hj
  exact ol_iald hX 5 rfl hin hd k
theorem ol_xw_5 (hX : ol_CX X V A cc own nm nL ret) {i x : Int32} {j : Nat} (hd : decode cc pc = .ok (.iastore, 1)) (hj : i.toNatClampNeg = j) (hin : vp_in i 2406) (k : ol_G X V A true P rm nL cells slots (ol_Xc V a r0 (ol_xs σ 5 j x) ++ ext) (pc + 1) L st) : ol_G X V A true P rm nL cells slots (ol_Xc V a r0 σ ++ ext) pc L (.int x :: .int i :: .ref (a 5) :: st) := by
  subst hj
  exact ol_iast hX 5 rfl hin hd rfl k
theorem ol_xl_6 (hX : ol_CX X V A cc own nm nL ret) {i : Int32} {j : Nat} (hd : decode cc pc = .ok (.iaload, 1)) (hj : i.toNatClampNeg = j) (hin : vp_in i 2406) (k : ol_G X V A md P rm nL cells slots (ol_Xc V a r0 σ ++ ext) (pc + 1) L (.int (σ.1 6 j) :: st)) : ol_G X V A md P rm nL cells slots (ol_Xc V a r0 σ ++ ext) pc L (.int i :: .ref (a 6) :: st) := by
  subst hj
  exact ol_iald hX 6 rfl hin hd k
theorem ol_xw_6 (hX : ol_CX X V A cc own nm nL ret) {i x : Int32} {j : Nat} (hd : decode cc pc = .ok (.iastore, 1)) (hj : i.toNatClampNeg = j) (hin : vp_in i 2406) (k : ol_G X V A true P rm nL cells slots (ol_Xc V a r0 (ol_xs σ 6 j x) ++ ext) (pc + 1) L st) : ol_G X V A true P rm nL cells slots (ol_Xc V a r0 σ ++ ext) pc L (.int x :: .int i :: .ref (a 6) :: st) := by
  subst hj
  exact ol_iast hX 6 rfl hin hd rfl k
theorem ol_xl_7 (hX : ol_CX X V A cc own nm nL ret) {i : Int32} {j : Nat} (hd : decode cc pc = .ok (.iaload, 1)) (hj : i.toNatClampNeg = j) (hin : vp_in i 2406) (k : ol_G X V A md P rm nL cells slots (ol_Xc V a r0 σ ++ ext) (pc + 1) L (.int (σ.1 7 j) :: st)) : ol_G X V A md P rm nL cells slots (ol_Xc V a r0 σ ++ ext) pc L (.int i :: .ref (a 7) :: st) := by
  subst hj
  exact ol_iald hX 7 rfl hin hd k
theorem ol_xw_7 (hX : ol_CX X V A cc own nm nL ret) {i x : Int32} {j : Nat} (hd : decode cc pc = .ok (.iastore, 1)) (hj : i.toNatClampNeg = j) (hin : vp_in i 2406) (k : ol_G X V A true P rm nL cells slots (ol_Xc V a r0 (ol_xs σ 7 j x) ++ ext) (pc + 1) L st) : ol_G X V A true P rm nL cells slots (ol_Xc V a r0 σ ++ ext) pc L (.int x :: .int i :: .ref (a 7) :: st) := by
  subst hj
  exact ol_iast hX 7 rfl hin hd rfl k
theorem ol_xl_8 (hX : ol_CX X V A cc own nm nL ret) {i : Int32} {j : Nat} (hd : decode cc pc = .ok (.iaload, 1)) (hj : i.toNatClampNeg = j) (hin : vp_in i 2406) (k : ol_G X V A md P rm nL cells slots (ol_Xc V a r0 σ ++ ext) (pc + 1) L (.int (σ.1 8 j) :: st)) : ol_G X V A md P rm nL cells slots (ol_Xc V a r0 σ ++ ext) pc L (.int i :: .ref (a 8) :: st) := by
  subst hj
  exact ol_iald hX 8 rfl hin hd k
theorem ol_xw_8 (hX : ol_CX X V A cc own nm nL ret) {i x : Int32} {j : Nat} (hd : decode cc pc = .ok (.iastore, 1)) (hj : i.toNatClampNeg = j) (hin : vp_in i 2406) (k : ol_G X V A true P rm nL cells slots (ol_Xc V a r0 (ol_xs σ 8 j x) ++ ext) (pc + 1) L st) : ol_G X V A true P rm nL cells slots (ol_Xc V a r0 σ ++ ext) pc L (.int x :: .int i :: .ref (a 8) :: st) := by
  subst hj
  exact ol_iast hX 8 rfl hin hd rfl k
theorem ol_xl_9 (hX : ol_CX X V A cc own nm nL ret) {i : Int32} {j : Nat} (hd : decode cc pc = .ok (.iaload, 1)) (hj : i.toNatClampNeg = j) (hin : vp_in i 36) (k : ol_G X V A md P rm nL cells slots (ol_Xc V a r0 σ ++ ext) (pc + 1) L (.int (σ.1 9 j) :: st)) : ol_G X V A md P rm nL cells slots (ol_Xc V a r0 σ ++ ext) pc L (.int i :: .ref (a 9) :: st) := by
  subst hj
  exact ol_iald hX 9 rfl hin hd k
theorem ol_xw_9 (hX : ol_CX X V A cc own nm nL ret) {i x : Int32} {j : Nat} (hd : decode cc pc = .ok (.iastore, 1)) (hj : i.toNatClampNeg = j) (hin : vp_in i 36) (k : ol_G X V A true P rm nL cells slots (ol_Xc V a r0 (ol_xs σ 9 j x) ++ ext) (pc + 1) L st) : ol_G X V A true P rm nL cells slots (ol_Xc V a r0 σ ++ ext) pc L (.int x :: .int i :: .ref (a 9) :: st) := by
  subst hj
  exact ol_iast hX 9 rfl hin hd rfl k
theorem ol_xl_R1 (hX : ol_CX X V A cc own nm nL ret) (hr : ol_isr r) {i : Int32} {j : Nat} (hd : decode cc pc = .ok (.baload, 1)) (hj : i.toNatClampNeg = j) (hin : vp_in i 6) (k : ol_G X V A md P rm nL cells slots (ol_Xc V a r0 σ ++ ext) (pc + 1) L (.int (σ.1 (r + 1) j) :: st)) : ol_G X V A md P rm nL cells slots (ol_Xc V a r0 σ ++ ext) pc L (.int i :: .ref (a (r + 1)) :: st) := by
  subst hj
  rcases hr with rfl | rfl | rfl
  · exact ol_zald hX 11 rfl hin hd k
  · exact ol_zald hX 20 rfl hin hd k
  · exact ol_zald hX 29 rfl hin hd k
theorem ol_xw_R1 (hX : ol_CX X V A cc own nm nL ret) (hr : ol_isr r) {i x : Int32} {j : Nat} (hz : ol_zb x = true) (hd : decode cc pc = .ok (.bastore, 1)) (hj : i.toNatClampNeg = j) (hin : vp_in i 6) (k : ol_G X V A true P rm nL cells slots (ol_Xc V a r0 (ol_xs σ (r + 1) j x) ++ ext) (pc + 1) L st) : ol_G X V A true P rm nL cells slots (ol_Xc V a r0 σ ++ ext) pc L (.int x :: .int i :: .ref (a (r + 1)) :: st) := by
  subst hj
  rcases hr with rfl | rfl | rfl
  · have hws : (ol_Xc V a r0 σ ++ ext).set 11 (a 11, .inl (V.2.2.2.2 3, 6, .inl (upd (σ.1 11) i.toNatClampNeg (vp_nar .boolean x)))) = ol_Xc V a r0 (ol_xs σ 11 i.toNatClampNeg x) ++ ext := by rw [ol_zb_vp hz]; rfl
    exact ol_zast hX 11 rfl hin hd hws k
  · have hws : (ol_Xc V a r0 σ ++ ext).set 20 (a 20, .inl (V.2.2.2.2 3, 6, .inl (upd (σ.1 20) i.toNatClampNeg (vp_nar .boolean x)))) = ol_Xc V a r0 (ol_xs σ 20 i.toNatClampNeg x) ++ ext := by rw [ol_zb_vp hz]; rfl
    exact ol_zast hX 20 rfl hin hd hws k
  · have hws : (ol_Xc V a r0 σ ++ ext).set 29 (a 29, .inl (V.2.2.2.2 3, 6, .inl (upd (σ.1 29) i.toNatClampNeg (vp_nar .boolean x)))) = ol_Xc V a r0 (ol_xs σ 29 i.toNatClampNeg x) ++ ext := by rw [ol_zb_vp hz]; rfl
    exact ol_zast hX 29 rfl hin hd hws k
theorem ol_xl_R2 (hX : ol_CX X V A cc own nm nL ret) (hr : ol_isr r) {i : Int32} {j : Nat} (hd : decode cc pc = .ok (.iaload, 1)) (hj : i.toNatClampNeg = j) (hin : vp_in i 6) (k : ol_G X V A md P rm nL cells slots (ol_Xc V a r0 σ ++ ext) (pc + 1) L (.int (σ.1 (r + 2) j) :: st)) : ol_G X V A md P rm nL cells slots (ol_Xc V a r0 σ ++ ext) pc L (.int i :: .ref (a (r + 2)) :: st) := by
  subst hj
  rcases hr with rfl | rfl | rfl
  · exact ol_iald hX 12 rfl hin hd k
  · exact ol_iald hX 21 rfl hin hd k
  · exact ol_iald hX 30 rfl hin hd k
theorem ol_xw_R2 (hX : ol_CX X V A cc own nm nL ret) (hr : ol_isr r) {i x : Int32} {j : Nat} (hd : decode cc pc = .ok (.iastore, 1)) (hj : i.toNatClampNeg = j) (hin : vp_in i 6) (k : ol_G X V A true P rm nL cells slots (ol_Xc V a r0 (ol_xs σ (r + 2) j x) ++ ext) (pc + 1) L st) : ol_G X V A true P rm nL cells slots (ol_Xc V a r0 σ ++ ext) pc L (.int x :: .int i :: .ref (a (r + 2)) :: st) := by
  subst hj
  rcases hr with rfl | rfl | rfl
  · exact ol_iast hX 12 rfl hin hd rfl k
  · exact ol_iast hX 21 rfl hin hd rfl k
  · exact ol_iast hX 30 rfl hin hd rfl k
theorem ol_xl_R3 (hX : ol_CX X V A cc own nm nL ret) (hr : ol_isr r) {i : Int32} {j : Nat} (hd : decode cc pc = .ok (.iaload, 1)) (hj : i.toNatClampNeg = j) (hin : vp_in i 6) (k : ol_G X V A md P rm nL cells slots (ol_Xc V a r0 σ ++ ext) (pc + 1) L (.int (σ.1 (r + 3) j) :: st)) : ol_G X V A md P rm nL cells slots (ol_Xc V a r0 σ ++ ext) pc L (.int i :: .ref (a (r + 3)) :: st) := by
  subst hj
  rcases hr with rfl | rfl | rfl
  · exact ol_iald hX 13 rfl hin hd k
  · exact ol_iald hX 22 rfl hin hd k
  · exact ol_iald hX 31 rfl hin hd k
theorem ol_xw_R3 (hX : ol_CX X V A cc own nm nL ret) (hr : ol_isr r) {i x : Int32} {j : Nat} (hd : decode cc pc = .ok (.iastore, 1)) (hj : i.toNatClampNeg = j) (hin : vp_in i 6) (k : ol_G X V A true P rm nL cells slots (ol_Xc V a r0 (ol_xs σ (r + 3) j x) ++ ext) (pc + 1) L st) : ol_G X V A true P rm nL cells slots (ol_Xc V a r0 σ ++ ext) pc L (.int x :: .int i :: .ref (a (r + 3)) :: st) := by
  subst hj
  rcases hr with rfl | rfl | rfl
  · exact ol_iast hX 13 rfl hin hd rfl k
  · exact ol_iast hX 22 rfl hin hd rfl k
  · exact ol_iast hX 31 rfl hin hd rfl k
theorem ol_xl_R4 (hX : ol_CX X V A cc own nm nL ret) (hr : ol_isr r) {i : Int32} {j : Nat} (hd : decode cc pc = .ok (.iaload, 1)) (hj : i.toNatClampNeg = j) (hin : vp_in i 6) (k : ol_G X V A md P rm nL cells slots (ol_Xc V a r0 σ ++ ext) (pc + 1) L (.int (σ.1 (r + 4) j) :: st)) : ol_G X V A md P rm nL cells slots (ol_Xc V a r0 σ ++ ext) pc L (.int i :: .ref (a (r + 4)) :: st) := by
  subst hj
  rcases hr with rfl | rfl | rfl
  · exact ol_iald hX 14 rfl hin hd k
  · exact ol_iald hX 23 rfl hin hd k
  · exact ol_iald hX 32 rfl hin hd k
theorem ol_xw_R4 (hX : ol_CX X V A cc own nm nL ret) (hr : ol_isr r) {i x : Int32} {j : Nat} (hd : decode cc pc = .ok (.iastore, 1)) (hj : i.toNatClampNeg = j) (hin : vp_in i 6) (k : ol_G X V A true P rm nL cells slots (ol_Xc V a r0 (ol_xs σ (r + 4) j x) ++ ext) (pc + 1) L st) : ol_G X V A true P rm nL cells slots (ol_Xc V a r0 σ ++ ext) pc L (.int x :: .int i :: .ref (a (r + 4)) :: st) := by
  subst hj
  rcases hr with rfl | rfl | rfl
  · exact ol_iast hX 14 rfl hin hd rfl k
  · exact ol_iast hX 23 rfl hin hd rfl k
  · exact ol_iast hX 32 rfl hin hd rfl k
theorem ol_xl_R5 (hX : ol_CX X V A cc own nm nL ret) (hr : ol_isr r) {i : Int32} {j : Nat} (hd : decode cc pc = .ok (.iaload, 1)) (hj : i.toNatClampNeg = j) (hin : vp_in i 6) (k : ol_G X V A md P rm nL cells slots (ol_Xc V a r0 σ ++ ext) (pc + 1) L (.int (σ.1 (r + 5) j) :: st)) : ol_G X V A md P rm nL cells slots (ol_Xc V a r0 σ ++ ext) pc L (.int i :: .ref (a (r + 5)) :: st) := by
  subst hj
  rcases hr with rfl | rfl | rfl
  · exact ol_iald hX 15 rfl hin hd k
  · exact ol_iald hX 24 rfl hin hd k
  · exact ol_iald hX 33 rfl hin hd k
theorem ol_xw_R5 (hX : ol_CX X V A cc own nm nL ret) (hr : ol_isr r) {i x : Int32} {j : Nat} (hd : decode cc pc = .ok (.iastore, 1)) (hj : i.toNatClampNeg = j) (hin : vp_in i 6) (k : ol_G X V A true P rm nL cells slots (ol_Xc V a r0 (ol_xs σ (r + 5) j x) ++ ext) (pc + 1) L st) : ol_G X V A true P rm nL cells slots (ol_Xc V a r0 σ ++ ext) pc L (.int x :: .int i :: .ref (a (r + 5)) :: st) := by
  subst hj
  rcases hr with rfl | rfl | rfl
  · exact ol_iast hX 15 rfl hin hd rfl k
  · exact ol_iast hX 24 rfl hin hd rfl k
  · exact ol_iast hX 33 rfl hin hd rfl k
theorem ol_xl_R6 (hX : ol_CX X V A cc own nm nL ret) (hr : ol_isr r) {i : Int32} {j : Nat} (hd : decode cc pc = .ok (.iaload, 1)) (hj : i.toNatClampNeg = j) (hin : vp_in i 6) (k : ol_G X V A md P rm nL cells slots (ol_Xc V a r0 σ ++ ext) (pc + 1) L (.int (σ.1 (r + 6) j) :: st)) : ol_G X V A md P rm nL cells slots (ol_Xc V a r0 σ ++ ext) pc L (.int i :: .ref (a (r + 6)) :: st) := by
  subst hj
  rcases hr with rfl | rfl | rfl
  · exact ol_iald hX 16 rfl hin hd k
  · exact ol_iald hX 25 rfl hin hd k
  · exact ol_iald hX 34 rfl hin hd k
theorem ol_xw_R6 (hX : ol_CX X V A cc own nm nL ret) (hr : ol_isr r) {i x : Int32} {j : Nat} (hd : decode cc pc = .ok (.iastore, 1)) (hj : i.toNatClampNeg = j) (hin : vp_in i 6) (k : ol_G X V A true P rm nL cells slots (ol_Xc V a r0 (ol_xs σ (r + 6) j x) ++ ext) (pc + 1) L st) : ol_G X V A true P rm nL cells slots (ol_Xc V a r0 σ ++ ext) pc L (.int x :: .int i :: .ref (a (r + 6)) :: st) := by
  subst hj
  rcases hr with rfl | rfl | rfl
  · exact ol_iast hX 16 rfl hin hd rfl k
  · exact ol_iast hX 25 rfl hin hd rfl k
  · exact ol_iast hX 34 rfl hin hd rfl k
theorem ol_xl_R7 (hX : ol_CX X V A cc own nm nL ret) (hr : ol_isr r) {i : Int32} {j : Nat} (hd : decode cc pc = .ok (.iaload, 1)) (hj : i.toNatClampNeg = j) (hin : vp_in i 36) (k : ol_G X V A md P rm nL cells slots (ol_Xc V a r0 σ ++ ext) (pc + 1) L (.int (σ.1 (r + 7) j) :: st)) : ol_G X V A md P rm nL cells slots (ol_Xc V a r0 σ ++ ext) pc L (.int i :: .ref (a (r + 7)) :: st) := by
  subst hj
  rcases hr with rfl | rfl | rfl
  · exact ol_iald hX 17 rfl hin hd k
  · exact ol_iald hX 26 rfl hin hd k
  · exact ol_iald hX 35 rfl hin hd k
theorem ol_xw_R7 (hX : ol_CX X V A cc own nm nL ret) (hr : ol_isr r) {i x : Int32} {j : Nat} (hd : decode cc pc = .ok (.iastore, 1)) (hj : i.toNatClampNeg = j) (hin : vp_in i 36) (k : ol_G X V A true P rm nL cells slots (ol_Xc V a r0 (ol_xs σ (r + 7) j x) ++ ext) (pc + 1) L st) : ol_G X V A true P rm nL cells slots (ol_Xc V a r0 σ ++ ext) pc L (.int x :: .int i :: .ref (a (r + 7)) :: st) := by
  subst hj
  rcases hr with rfl | rfl | rfl
  · exact ol_iast hX 17 rfl hin hd rfl k
  · exact ol_iast hX 26 rfl hin hd rfl k
  · exact ol_iast hX 35 rfl hin hd rfl k
theorem ol_xl_R8 (hX : ol_CX X V A cc own nm nL ret) (hr : ol_isr r) {i : Int32} {j : Nat} (hd : decode cc pc = .ok (.iaload, 1)) (hj : i.toNatClampNeg = j) (hin : vp_in i 64) (k : ol_G X V A md P rm nL cells slots (ol_Xc V a r0 σ ++ ext) (pc + 1) L (.int (σ.1 (r + 8) j) :: st)) : ol_G X V A md P rm nL cells slots (ol_Xc V a r0 σ ++ ext) pc L (.int i :: .ref (a (r + 8)) :: st) := by
  subst hj
  rcases hr with rfl | rfl | rfl
  · exact ol_iald hX 18 rfl hin hd k
  · exact ol_iald hX 27 rfl hin hd k
  · exact ol_iald hX 36 rfl hin hd k
theorem ol_xw_R8 (hX : ol_CX X V A cc own nm nL ret) (hr : ol_isr r) {i x : Int32} {j : Nat} (hd : decode cc pc = .ok (.iastore, 1)) (hj : i.toNatClampNeg = j) (hin : vp_in i 64) (k : ol_G X V A true P rm nL cells slots (ol_Xc V a r0 (ol_xs σ (r + 8) j x) ++ ext) (pc + 1) L st) : ol_G X V A true P rm nL cells slots (ol_Xc V a r0 σ ++ ext) pc L (.int x :: .int i :: .ref (a (r + 8)) :: st) := by
  subst hj
  rcases hr with rfl | rfl | rfl
  · exact ol_iast hX 18 rfl hin hd rfl k
  · exact ol_iast hX 27 rfl hin hd rfl k
  · exact ol_iast hX 36 rfl hin hd rfl k
end OLX
