/-! the model's world -/
set_option maxRecDepth 100000
/-- the model's numbers: by cell (0: the object's own fields) and place; the names -/
abbrev ol_Mm : Type := (Nat → Nat → Int32) × (Nat → Int64)
def ol_ms (σ : ol_Mm) (c k : Nat) (x : Int32) : ol_Mm := (fun c2 => if c2 = c then upd (σ.1 c) k x else σ.1 c2, σ.2)
def ol_ml (σ : ol_Mm) (k : Nat) (x : Int64) : ol_Mm := (σ.1, vp_updL σ.2 k x)
def ol_fuel : Nat := 1099511627776
def ol_Mf (a : Nat → Nat) (σ : ol_Mm) : List Value := [.int (σ.1 0 0), .int (σ.1 0 1), .int (σ.1 0 2), .int (σ.1 0 3), .ref (a 1), .int (σ.1 0 5), .ref (a 2), .ref (a 3), .ref (a 4), .int (σ.1 0 9), .int (σ.1 0 10), .int (σ.1 0 11), .int (σ.1 0 12), .int (σ.1 0 13), .int (σ.1 0 14), .int (σ.1 0 15), .int (σ.1 0 16), .int (σ.1 0 17), .ref (a 5), .ref (a 6), .ref (a 7), .int (σ.1 0 21), .ref (a 8), .int (σ.1 0 23), .ref (a 9), .ref (a 10), .ref (a 11), .ref (a 12), .ref (a 13), .int (σ.1 0 29), .int (σ.1 0 30), .int (σ.1 0 31), .int (σ.1 0 32)]
def ol_WM (V : ol_Gh) (a : Nat → Nat) (σ : ol_Mm) : va_W := [(a 0, .inr (0, ol_Mf a σ)), (a 1, .inl (V.2.2.2.2 0, 700, .inl (σ.1 1))), (a 2, .inl (V.2.2.2.2 0, 59, .inl (σ.1 2))), (a 3, .inl (V.2.2.2.2 0, 59, .inl (σ.1 3))), (a 4, .inl (V.2.2.2.2 1, 6, .inr (.inl σ.2))), (a 5, .inl (V.2.2.2.2 0, 251, .inl (σ.1 5))), (a 6, .inl (V.2.2.2.2 0, 251, .inl (σ.1 6))), (a 7, .inl (V.2.2.2.2 0, 251, .inl (σ.1 7))), (a 8, .inl (V.2.2.2.2 0, 6, .inl (σ.1 8))), (a 9, .inl (V.2.2.2.2 0, 2406, .inl (σ.1 9))), (a 10, .inl (V.2.2.2.2 0, 2406, .inl (σ.1 10))), (a 11, .inl (V.2.2.2.2 0, 2406, .inl (σ.1 11))), (a 12, .inl (V.2.2.2.2 0, 2406, .inl (σ.1 12))), (a 13, .inl (V.2.2.2.2 0, 2766, .inl (σ.1 13)))]
section OLM
variable {X : ol_Cx} {V : ol_Gh} {A : Nat → Prop} {cc : ByteArray} {nm : String} {nL : Nat} {ret : Option FieldType} {md : Bool} {P : Option Value → va_W → Prop} {rm : Room} {cells slots : Nat} {pc : Nat} {L : List (Option Value)} {st : List Value} {a : Nat → Nat} {σ : ol_Mm}
theorem ol_mg0 (hX : ol_CX X V A cc RX4 nm nL ret) (hd : decode cc pc = .ok (.getfield 54, 3)) (k : ol_G X V A md P rm nL cells slots (ol_WM V a σ) (pc + 3) L (.int (σ.1 0 0) :: st)) : ol_G X V A md P rm nL cells slots (ol_WM V a σ) pc L (.ref (a 0) :: st) := ol_get hX in_X4 0 rfl rfl 0 (by decide) q2131 rfl rfl hd k
theorem ol_mp0 (hX : ol_CX X V A cc RX4 nm nL ret) {x : Int32} (hd : decode cc pc = .ok (.putfield 54, 3)) (k : ol_G X V A true P rm nL cells slots (ol_WM V a (ol_ms σ 0 0 x)) (pc + 3) L st) : ol_G X V A true P rm nL cells slots (ol_WM V a σ) pc L (.int x :: .ref (a 0) :: st) := by
  have hws : (ol_WM V a σ).set 0 (a 0, .inr (0, (ol_Mf a σ).set 0 (.int x))) = ol_WM V a (ol_ms σ 0 0 x) := rfl
  exact ol_put (fs := ol_Mf a σ) (ci := 0) hX in_X4 tyX4 tyX4_ok nmX4 0 rfl rfl 0 (by decide) q2131 rfl rfl rfl rfl (Nat.le_of_ble_eq_true rfl) hd hws k
theorem ol_mg1 (hX : ol_CX X V A cc RX4 nm nL ret) (hd : decode cc pc = .ok (.getfield 57, 3)) (k : ol_G X V A md P rm nL cells slots (ol_WM V a σ) (pc + 3) L (.int (σ.1 0 1) :: st)) : ol_G X V A md P rm nL cells slots (ol_WM V a σ) pc L (.ref (a 0) :: st) := ol_get hX in_X4 0 rfl rfl 1 (by decide) q2132 rfl rfl hd k
theorem ol_mp1 (hX : ol_CX X V A cc RX4 nm nL ret) {x : Int32} (hd : decode cc pc = .ok (.putfield 57, 3)) (k : ol_G X V A true P rm nL cells slots (ol_WM V a (ol_ms σ 0 1 x)) (pc + 3) L st) : ol_G X V A true P rm nL cells slots (ol_WM V a σ) pc L (.int x :: .ref (a 0) :: st) := by
  have hws : (ol_WM V a σ).set 0 (a 0, .inr (0, (ol_Mf a σ).set 1 (.int x))) = ol_WM V a (ol_ms σ 0 1 x) := rfl
  exact ol_put (fs := ol_Mf a σ) (ci := 0) hX in_X4 tyX4 tyX4_ok nmX4 0 rfl rfl 1 (by decide) q2132 rfl rfl rfl rfl (Nat.le_of_ble_eq_true rfl) hd hws k
theorem ol_mg2 (hX : ol_CX X V A cc RX4 nm nL ret) (hd : decode cc pc = .ok (.getfield 183, 3)) (k : ol_G X V A md P rm nL cells slots (ol_WM V a σ) (pc + 3) L (.int (σ.1 0 2) :: st)) : ol_G X V A md P rm nL cells slots (ol_WM V a σ) pc L (.ref (a 0) :: st) := ol_get hX in_X4 0 rfl rfl 2 (by decide) q2133 rfl rfl hd k
theorem ol_mp2 (hX : ol_CX X V A cc RX4 nm nL ret) {x : Int32} (hd : decode cc pc = .ok (.putfield 183, 3)) (k : ol_G X V A true P rm nL cells slots (ol_WM V a (ol_ms σ 0 2 x)) (pc + 3) L st) : ol_G X V A true P rm nL cells slots (ol_WM V a σ) pc L (.int x :: .ref (a 0) :: st) := by
  have hws : (ol_WM V a σ).set 0 (a 0, .inr (0, (ol_Mf a σ).set 2 (.int x))) = ol_WM V a (ol_ms σ 0 2 x) := rfl
  exact ol_put (fs := ol_Mf a σ) (ci := 0) hX in_X4 tyX4 tyX4_ok nmX4 0 rfl rfl 2 (by decide) q2133 rfl rfl rfl rfl (Nat.le_of_ble_eq_true rfl) hd hws k
theorem ol_mg3 (hX : ol_CX X V A cc RX4 nm nL ret) (hd : decode cc pc = .ok (.getfield 9, 3)) (k : ol_G X V A md P rm nL cells slots (ol_WM V a σ) (pc + 3) L (.int (σ.1 0 3) :: st)) : ol_G X V A md P rm nL cells slots (ol_WM V a σ) pc L (.ref (a 0) :: st) := ol_get hX in_X4 0 rfl rfl 3 (by decide) q2134 rfl rfl hd k
theorem ol_mp3 (hX : ol_CX X V A cc RX4 nm nL ret) {x : Int32} (hd : decode cc pc = .ok (.putfield 9, 3)) (k : ol_G X V A true P rm nL cells slots (ol_WM V a (ol_ms σ 0 3 x)) (pc + 3) L st) : ol_G X V A true P rm nL cells slots (ol_WM V a σ) pc L (.int x :: .ref (a 0) :: st) := by
  have hws : (ol_WM V a σ).set 0 (a 0, .inr (0, (ol_Mf a σ).set 3 (.int x))) = ol_WM V a (ol_ms σ 0 3 x) := rfl
  exact ol_put (fs := ol_Mf a σ) (ci := 0) hX in_X4 tyX4 tyX4_ok nmX4 0 rfl rfl 3 (by decide) q2134 rfl rfl rfl rfl (Nat.le_of_ble_eq_true rfl) hd hws k
theorem ol_mg4 (hX : ol_CX X V A cc RX4 nm nL ret) (hd : decode cc pc = .ok (.getfield 13, 3)) (k : ol_G X V A md P rm nL cells slots (ol_WM V a σ) (pc + 3) L (.ref (a 1) :: st)) : ol_G X V A md P rm nL cells slots (ol_WM V a σ) pc L (.ref (a 0) :: st) := ol_get hX in_X4 0 rfl rfl 4 (by decide) q2135 rfl rfl hd k
theorem ol_mg5 (hX : ol_CX X V A cc RX4 nm nL ret) (hd : decode cc pc = .ok (.getfield 60, 3)) (k : ol_G X V A md P rm nL cells slots (ol_WM V a σ) (pc + 3) L (.int (σ.1 0 5) :: st)) : ol_G X V A md P rm nL cells slots (ol_WM V a σ) pc L (.ref (a 0) :: st) := ol_get hX in_X4 0 rfl rfl 5 (by decide) q2136 rfl rfl hd k
theorem ol_mp5 (hX : ol_CX X V A cc RX4 nm nL ret) {x : Int32} (hd : decode cc pc = .ok (.putfield 60, 3)) (k : ol_G X V A true P rm nL cells slots (ol_WM V a (ol_ms σ 0 5 x)) (pc + 3) L st) : ol_G X V A true P rm nL cells slots (ol_WM V a σ) pc L (.int x :: .ref (a 0) :: st) := by
  have hws : (ol_WM V a σ).set 0 (a 0, .inr (0, (ol_Mf a σ).set 5 (.int x))) = ol_WM V a (ol_ms σ 0 5 x) := rfl
  exact ol_put (fs := ol_Mf a σ) (ci := 0) hX in_X4 tyX4 tyX4_ok nmX4 0 rfl rfl 5 (by decide) q2136 rfl rfl rfl rfl (Nat.le_of_ble_eq_true rfl) hd hws k
theorem ol_mg6 (hX : ol_CX X V A cc RX4 nm nL ret) (hd : decode cc pc = .ok (.getfield 17, 3)) (k : ol_G X V A md P rm nL cells slots (ol_WM V a σ) (pc + 3) L (.ref (a 2) :: st)) : ol_G X V A md P rm nL cells slots (ol_WM V a σ) pc L (.ref (a 0) :: st) := ol_get hX in_X4 0 rfl rfl 6 (by decide) q2137 rfl rfl hd k
theorem ol_mg7 (hX : ol_CX X V A cc RX4 nm nL ret) (hd : decode cc pc = .ok (.getfield 20, 3)) (k : ol_G X V A md P rm nL cells slots (ol_WM V a σ) (pc + 3) L (.ref (a 3) :: st)) : ol_G X V A md P rm nL cells slots (ol_WM V a σ) pc L (.ref (a 0) :: st) := ol_get hX in_X4 0 rfl rfl 7 (by decide) q2138 rfl rfl hd k
theorem ol_mg8 (hX : ol_CX X V A cc RX4 nm nL ret) (hd : decode cc pc = .ok (.getfield 23, 3)) (k : ol_G X V A md P rm nL cells slots (ol_WM V a σ) (pc + 3) L (.ref (a 4) :: st)) : ol_G X V A md P rm nL cells slots (ol_WM V a σ) pc L (.ref (a 0) :: st) := ol_get hX in_X4 0 rfl rfl 8 (by decide) q2139 rfl rfl hd k
theorem ol_mg9 (hX : ol_CX X V A cc RX4 nm nL ret) (hd : decode cc pc = .ok (.getfield 192, 3)) (k : ol_G X V A md P rm nL cells slots (ol_WM V a σ) (pc + 3) L (.int (σ.1 0 9) :: st)) : ol_G X V A md P rm nL cells slots (ol_WM V a σ) pc L (.ref (a 0) :: st) := ol_get hX in_X4 0 rfl rfl 9 (by decide) q2140 rfl rfl hd k
theorem ol_mp9 (hX : ol_CX X V A cc RX4 nm nL ret) {x : Int32} (hd : decode cc pc = .ok (.putfield 192, 3)) (hb : ol_zb x = true) (k : ol_G X V A true P rm nL cells slots (ol_WM V a (ol_ms σ 0 9 x)) (pc + 3) L st) : ol_G X V A true P rm nL cells slots (ol_WM V a σ) pc L (.int x :: .ref (a 0) :: st) := by
  have hws : (ol_WM V a σ).set 0 (a 0, .inr (0, (ol_Mf a σ).set 9 (.int x))) = ol_WM V a (ol_ms σ 0 9 x) := rfl
  exact ol_put (fs := ol_Mf a σ) (ci := 0) hX in_X4 tyX4 tyX4_ok nmX4 0 rfl rfl 9 (by decide) q2140 rfl rfl (ol_zb_nar hb) (ol_zb_fit hb) (Nat.le_of_ble_eq_true rfl) hd hws k
theorem ol_mg10 (hX : ol_CX X V A cc RX4 nm nL ret) (hd : decode cc pc = .ok (.getfield 67, 3)) (k : ol_G X V A md P rm nL cells slots (ol_WM V a σ) (pc + 3) L (.int (σ.1 0 10) :: st)) : ol_G X V A md P rm nL cells slots (ol_WM V a σ) pc L (.ref (a 0) :: st) := ol_get hX in_X4 0 rfl rfl 10 (by decide) q2141 rfl rfl hd k
theorem ol_mp10 (hX : ol_CX X V A cc RX4 nm nL ret) {x : Int32} (hd : decode cc pc = .ok (.putfield 67, 3)) (k : ol_G X V A true P rm nL cells slots (ol_WM V a (ol_ms σ 0 10 x)) (pc + 3) L st) : ol_G X V A true P rm nL cells slots (ol_WM V a σ) pc L (.int x :: .ref (a 0) :: st) := by
  have hws : (ol_WM V a σ).set 0 (a 0, .inr (0, (ol_Mf a σ).set 10 (.int x))) = ol_WM V a (ol_ms σ 0 10 x) := rfl
  exact ol_put (fs := ol_Mf a σ) (ci := 0) hX in_X4 tyX4 tyX4_ok nmX4 0 rfl rfl 10 (by decide) q2141 rfl rfl rfl rfl (Nat.le_of_ble_eq_true rfl) hd hws k
theorem ol_mg11 (hX : ol_CX X V A cc RX4 nm nL ret) (hd : decode cc pc = .ok (.getfield 77, 3)) (k : ol_G X V A md P rm nL cells slots (ol_WM V a σ) (pc + 3) L (.int (σ.1 0 11) :: st)) : ol_G X V A md P rm nL cells slots (ol_WM V a σ) pc L (.ref (a 0) :: st) := ol_get hX in_X4 0 rfl rfl 11 (by decide) q2142 rfl rfl hd k
theorem ol_mp11 (hX : ol_CX X V A cc RX4 nm nL ret) {x : Int32} (hd : decode cc pc = .ok (.putfield 77, 3)) (k : ol_G X V A true P rm nL cells slots (ol_WM V a (ol_ms σ 0 11 x)) (pc + 3) L st) : ol_G X V A true P rm nL cells slots (ol_WM V a σ) pc L (.int x :: .ref (a 0) :: st) := by
  have hws : (ol_WM V a σ).set 0 (a 0, .inr (0, (ol_Mf a σ).set 11 (.int x))) = ol_WM V a (ol_ms σ 0 11 x) := rfl
  exact ol_put (fs := ol_Mf a σ) (ci := 0) hX in_X4 tyX4 tyX4_ok nmX4 0 rfl rfl 11 (by decide) q2142 rfl rfl rfl rfl (Nat.le_of_ble_eq_true rfl) hd hws k
theorem ol_mg12 (hX : ol_CX X V A cc RX4 nm nL ret) (hd : decode cc pc = .ok (.getfield 70, 3)) (k : ol_G X V A md P rm nL cells slots (ol_WM V a σ) (pc + 3) L (.int (σ.1 0 12) :: st)) : ol_G X V A md P rm nL cells slots (ol_WM V a σ) pc L (.ref (a 0) :: st) := ol_get hX in_X4 0 rfl rfl 12 (by decide) q2143 rfl rfl hd k
theorem ol_mp12 (hX : ol_CX X V A cc RX4 nm nL ret) {x : Int32} (hd : decode cc pc = .ok (.putfield 70, 3)) (k : ol_G X V A true P rm nL cells slots (ol_WM V a (ol_ms σ 0 12 x)) (pc + 3) L st) : ol_G X V A true P rm nL cells slots (ol_WM V a σ) pc L (.int x :: .ref (a 0) :: st) := by
  have hws : (ol_WM V a σ).set 0 (a 0, .inr (0, (ol_Mf a σ).set 12 (.int x))) = ol_WM V a (ol_ms σ 0 12 x) := rfl
  exact ol_put (fs := ol_Mf a σ) (ci := 0) hX in_X4 tyX4 tyX4_ok nmX4 0 rfl rfl 12 (by decide) q2143 rfl rfl rfl rfl (Nat.le_of_ble_eq_true rfl) hd hws k
theorem ol_mg13 (hX : ol_CX X V A cc RX4 nm nL ret) (hd : decode cc pc = .ok (.getfield 80, 3)) (k : ol_G X V A md P rm nL cells slots (ol_WM V a σ) (pc + 3) L (.int (σ.1 0 13) :: st)) : ol_G X V A md P rm nL cells slots (ol_WM V a σ) pc L (.ref (a 0) :: st) := ol_get hX in_X4 0 rfl rfl 13 (by decide) q2144 rfl rfl hd k
theorem ol_mp13 (hX : ol_CX X V A cc RX4 nm nL ret) {x : Int32} (hd : decode cc pc = .ok (.putfield 80, 3)) (k : ol_G X V A true P rm nL cells slots (ol_WM V a (ol_ms σ 0 13 x)) (pc + 3) L st) : ol_G X V A true P rm nL cells slots (ol_WM V a σ) pc L (.int x :: .ref (a 0) :: st) := by
  have hws : (ol_WM V a σ).set 0 (a 0, .inr (0, (ol_Mf a σ).set 13 (.int x))) = ol_WM V a (ol_ms σ 0 13 x) := rfl
  exact ol_put (fs := ol_Mf a σ) (ci := 0) hX in_X4 tyX4 tyX4_ok nmX4 0 rfl rfl 13 (by decide) q2144 rfl rfl rfl rfl (Nat.le_of_ble_eq_true rfl) hd hws k
theorem ol_mg14 (hX : ol_CX X V A cc RX4 nm nL ret) (hd : decode cc pc = .ok (.getfield 87, 3)) (k : ol_G X V A md P rm nL cells slots (ol_WM V a σ) (pc + 3) L (.int (σ.1 0 14) :: st)) : ol_G X V A md P rm nL cells slots (ol_WM V a σ) pc L (.ref (a 0) :: st) := ol_get hX in_X4 0 rfl rfl 14 (by decide) q2145 rfl rfl hd k
theorem ol_mp14 (hX : ol_CX X V A cc RX4 nm nL ret) {x : Int32} (hd : decode cc pc = .ok (.putfield 87, 3)) (k : ol_G X V A true P rm nL cells slots (ol_WM V a (ol_ms σ 0 14 x)) (pc + 3) L st) : ol_G X V A true P rm nL cells slots (ol_WM V a σ) pc L (.int x :: .ref (a 0) :: st) := by
  have hws : (ol_WM V a σ).set 0 (a 0, .inr (0, (ol_Mf a σ).set 14 (.int x))) = ol_WM V a (ol_ms σ 0 14 x) := rfl
  exact ol_put (fs := ol_Mf a σ) (ci := 0) hX in_X4 tyX4 tyX4_ok nmX4 0 rfl rfl 14 (by decide) q2145 rfl rfl rfl rfl (Nat.le_of_ble_eq_true rfl) hd hws k
theorem ol_mg15 (hX : ol_CX X V A cc RX4 nm nL ret) (hd : decode cc pc = .ok (.getfield 100, 3)) (k : ol_G X V A md P rm nL cells slots (ol_WM V a σ) (pc + 3) L (.int (σ.1 0 15) :: st)) : ol_G X V A md P rm nL cells slots (ol_WM V a σ) pc L (.ref (a 0) :: st) := ol_get hX in_X4 0 rfl rfl 15 (by decide) q2146 rfl rfl hd k
theorem ol_mp15 (hX : ol_CX X V A cc RX4 nm nL ret) {x : Int32} (hd : decode cc pc = .ok (.putfield 100, 3)) (k : ol_G X V A true P rm nL cells slots (ol_WM V a (ol_ms σ 0 15 x)) (pc + 3) L st) : ol_G X V A true P rm nL cells slots (ol_WM V a σ) pc L (.int x :: .ref (a 0) :: st) := by
  have hws : (ol_WM V a σ).set 0 (a 0, .inr (0, (ol_Mf a σ).set 15 (.int x))) = ol_WM V a (ol_ms σ 0 15 x) := rfl
  exact ol_put (fs := ol_Mf a σ) (ci := 0) hX in_X4 tyX4 tyX4_ok nmX4 0 rfl rfl 15 (by decide) q2146 rfl rfl rfl rfl (Nat.le_of_ble_eq_true rfl) hd hws k
theorem ol_mg16 (hX : ol_CX X V A cc RX4 nm nL ret) (hd : decode cc pc = .ok (.getfield 103, 3)) (k : ol_G X V A md P rm nL cells slots (ol_WM V a σ) (pc + 3) L (.int (σ.1 0 16) :: st)) : ol_G X V A md P rm nL cells slots (ol_WM V a σ) pc L (.ref (a 0) :: st) := ol_get hX in_X4 0 rfl rfl 16 (by decide) q2147 rfl rfl hd k
theorem ol_mp16 (hX : ol_CX X V A cc RX4 nm nL ret) {x : Int32} (hd : decode cc pc = .ok (.putfield 103, 3)) (k : ol_G X V A true P rm nL cells slots (ol_WM V a (ol_ms σ 0 16 x)) (pc + 3) L st) : ol_G X V A true P rm nL cells slots (ol_WM V a σ) pc L (.int x :: .ref (a 0) :: st) := by
  have hws : (ol_WM V a σ).set 0 (a 0, .inr (0, (ol_Mf a σ).set 16 (.int x))) = ol_WM V a (ol_ms σ 0 16 x) := rfl
  exact ol_put (fs := ol_Mf a σ) (ci := 0) hX in_X4 tyX4 tyX4_ok nmX4 0 rfl rfl 16 (by decide) q2147 rfl rfl rfl rfl (Nat.le_of_ble_eq_true rfl) hd hws k
theorem ol_mg17 (hX : ol_CX X V A cc RX4 nm nL ret) (hd : decode cc pc = .ok (.getfield 134, 3)) (k : ol_G X V A md P rm nL cells slots (ol_WM V a σ) (pc + 3) L (.int (σ.1 0 17) :: st)) : ol_G X V A md P rm nL cells slots (ol_WM V a σ) pc L (.ref (a 0) :: st) := ol_get hX in_X4 0 rfl rfl 17 (by decide) q2148 rfl rfl hd k
theorem ol_mp17 (hX : ol_CX X V A cc RX4 nm nL ret) {x : Int32} (hd : decode cc pc = .ok (.putfield 134, 3)) (hb : ol_zb x = true) (k : ol_G X V A true P rm nL cells slots (ol_WM V a (ol_ms σ 0 17 x)) (pc + 3) L st) : ol_G X V A true P rm nL cells slots (ol_WM V a σ) pc L (.int x :: .ref (a 0) :: st) := by
  have hws : (ol_WM V a σ).set 0 (a 0, .inr (0, (ol_Mf a σ).set 17 (.int x))) = ol_WM V a (ol_ms σ 0 17 x) := rfl
  exact ol_put (fs := ol_Mf a σ) (ci := 0) hX in_X4 tyX4 tyX4_ok nmX4 0 rfl rfl 17 (by decide) q2148 rfl rfl (ol_zb_nar hb) (ol_zb_fit hb) (Nat.le_of_ble_eq_true rfl) hd hws k
theorem ol_mg18 (hX : ol_CX X V A cc RX4 nm nL ret) (hd : decode cc pc = .ok (.getfield 27, 3)) (k : ol_G X V A md P rm nL cells slots (ol_WM V a σ) (pc + 3) L (.ref (a 5) :: st)) : ol_G X V A md P rm nL cells slots (ol_WM V a σ) pc L (.ref (a 0) :: st) := ol_get hX in_X4 0 rfl rfl 18 (by decide) q2149 rfl rfl hd k
theorem ol_mg19 (hX : ol_CX X V A cc RX4 nm nL ret) (hd : decode cc pc = .ok (.getfield 30, 3)) (k : ol_G X V A md P rm nL cells slots (ol_WM V a σ) (pc + 3) L (.ref (a 6) :: st)) : ol_G X V A md P rm nL cells slots (ol_WM V a σ) pc L (.ref (a 0) :: st) := ol_get hX in_X4 0 rfl rfl 19 (by decide) q2150 rfl rfl hd k
theorem ol_mg20 (hX : ol_CX X V A cc RX4 nm nL ret) (hd : decode cc pc = .ok (.getfield 33, 3)) (k : ol_G X V A md P rm nL cells slots (ol_WM V a σ) (pc + 3) L (.ref (a 7) :: st)) : ol_G X V A md P rm nL cells slots (ol_WM V a σ) pc L (.ref (a 0) :: st) := ol_get hX in_X4 0 rfl rfl 20 (by decide) q2151 rfl rfl hd k
theorem ol_mg21 (hX : ol_CX X V A cc RX4 nm nL ret) (hd : decode cc pc = .ok (.getfield 195, 3)) (k : ol_G X V A md P rm nL cells slots (ol_WM V a σ) (pc + 3) L (.int (σ.1 0 21) :: st)) : ol_G X V A md P rm nL cells slots (ol_WM V a σ) pc L (.ref (a 0) :: st) := ol_get hX in_X4 0 rfl rfl 21 (by decide) q2152 rfl rfl hd k
theorem ol_mp21 (hX : ol_CX X V A cc RX4 nm nL ret) {x : Int32} (hd : decode cc pc = .ok (.putfield 195, 3)) (hb : ol_zb x = true) (k : ol_G X V A true P rm nL cells slots (ol_WM V a (ol_ms σ 0 21 x)) (pc + 3) L st) : ol_G X V A true P rm nL cells slots (ol_WM V a σ) pc L (.int x :: .ref (a 0) :: st) := by
  have hws : (ol_WM V a σ).set 0 (a 0, .inr (0, (ol_Mf a σ).set 21 (.int x))) = ol_WM V a (ol_ms σ 0 21 x) := rfl
  exact ol_put (fs := ol_Mf a σ) (ci := 0) hX in_X4 tyX4 tyX4_ok nmX4 0 rfl rfl 21 (by decide) q2152 rfl rfl (ol_zb_nar hb) (ol_zb_fit hb) (Nat.le_of_ble_eq_true rfl) hd hws k
theorem ol_mg22 (hX : ol_CX X V A cc RX4 nm nL ret) (hd : decode cc pc = .ok (.getfield 36, 3)) (k : ol_G X V A md P rm nL cells slots (ol_WM V a σ) (pc + 3) L (.ref (a 8) :: st)) : ol_G X V A md P rm nL cells slots (ol_WM V a σ) pc L (.ref (a 0) :: st) := ol_get hX in_X4 0 rfl rfl 22 (by decide) q2153 rfl rfl hd k
theorem ol_mg23 (hX : ol_CX X V A cc RX4 nm nL ret) (hd : decode cc pc = .ok (.getfield 218, 3)) (k : ol_G X V A md P rm nL cells slots (ol_WM V a σ) (pc + 3) L (.int (σ.1 0 23) :: st)) : ol_G X V A md P rm nL cells slots (ol_WM V a σ) pc L (.ref (a 0) :: st) := ol_get hX in_X4 0 rfl rfl 23 (by decide) q2154 rfl rfl hd k
theorem ol_mp23 (hX : ol_CX X V A cc RX4 nm nL ret) {x : Int32} (hd : decode cc pc = .ok (.putfield 218, 3)) (k : ol_G X V A true P rm nL cells slots (ol_WM V a (ol_ms σ 0 23 x)) (pc + 3) L st) : ol_G X V A true P rm nL cells slots (ol_WM V a σ) pc L (.int x :: .ref (a 0) :: st) := by
  have hws : (ol_WM V a σ).set 0 (a 0, .inr (0, (ol_Mf a σ).set 23 (.int x))) = ol_WM V a (ol_ms σ 0 23 x) := rfl
  exact ol_put (fs := ol_Mf a σ) (ci := 0) hX in_X4 tyX4 tyX4_ok nmX4 0 rfl rfl 23 (by decide) q2154 rfl rfl rfl rfl (Nat.le_of_ble_eq_true rfl) hd hws k
theorem ol_mg24 (hX : ol_CX X V A cc RX4 nm nL ret) (hd : decode cc pc = .ok (.getfield 39, 3)) (k : ol_G X V A md P rm nL cells slots (ol_WM V a σ) (pc + 3) L (.ref (a 9) :: st)) : ol_G X V A md P rm nL cells slots (ol_WM V a σ) pc L (.ref (a 0) :: st) := ol_get hX in_X4 0 rfl rfl 24 (by decide) q2155 rfl rfl hd k
theorem ol_mg25 (hX : ol_CX X V A cc RX4 nm nL ret) (hd : decode cc pc = .ok (.getfield 42, 3)) (k : ol_G X V A md P rm nL cells slots (ol_WM V a σ) (pc + 3) L (.ref (a 10) :: st)) : ol_G X V A md P rm nL cells slots (ol_WM V a σ) pc L (.ref (a 0) :: st) := ol_get hX in_X4 0 rfl rfl 25 (by decide) q2156 rfl rfl hd k
theorem ol_mg26 (hX : ol_CX X V A cc RX4 nm nL ret) (hd : decode cc pc = .ok (.getfield 45, 3)) (k : ol_G X V A md P rm nL cells slots (ol_WM V a σ) (pc + 3) L (.ref (a 11) :: st)) : ol_G X V A md P rm nL cells slots (ol_WM V a σ) pc L (.ref (a 0) :: st) := ol_get hX in_X4 0 rfl rfl 26 (by decide) q2157 rfl rfl hd k
theorem ol_mg27 (hX : ol_CX X V A cc RX4 nm nL ret) (hd : decode cc pc = .ok (.getfield 48, 3)) (k : ol_G X V A md P rm nL cells slots (ol_WM V a σ) (pc + 3) L (.ref (a 12) :: st)) : ol_G X V A md P rm nL cells slots (ol_WM V a σ) pc L (.ref (a 0) :: st) := ol_get hX in_X4 0 rfl rfl 27 (by decide) q2158 rfl rfl hd k
theorem ol_mg28 (hX : ol_CX X V A cc RX4 nm nL ret) (hd : decode cc pc = .ok (.getfield 51, 3)) (k : ol_G X V A md P rm nL cells slots (ol_WM V a σ) (pc + 3) L (.ref (a 13) :: st)) : ol_G X V A md P rm nL cells slots (ol_WM V a σ) pc L (.ref (a 0) :: st) := ol_get hX in_X4 0 rfl rfl 28 (by decide) q2159 rfl rfl hd k
theorem ol_mg29 (hX : ol_CX X V A cc RX4 nm nL ret) (hd : decode cc pc = .ok (.getfield 234, 3)) (k : ol_G X V A md P rm nL cells slots (ol_WM V a σ) (pc + 3) L (.int (σ.1 0 29) :: st)) : ol_G X V A md P rm nL cells slots (ol_WM V a σ) pc L (.ref (a 0) :: st) := ol_get hX in_X4 0 rfl rfl 29 (by decide) q2160 rfl rfl hd k
theorem ol_mp29 (hX : ol_CX X V A cc RX4 nm nL ret) {x : Int32} (hd : decode cc pc = .ok (.putfield 234, 3)) (k : ol_G X V A true P rm nL cells slots (ol_WM V a (ol_ms σ 0 29 x)) (pc + 3) L st) : ol_G X V A true P rm nL cells slots (ol_WM V a σ) pc L (.int x :: .ref (a 0) :: st) := by
  have hws : (ol_WM V a σ).set 0 (a 0, .inr (0, (ol_Mf a σ).set 29 (.int x))) = ol_WM V a (ol_ms σ 0 29 x) := rfl
  exact ol_put (fs := ol_Mf a σ) (ci := 0) hX in_X4 tyX4 tyX4_ok nmX4 0 rfl rfl 29 (by decide) q2160 rfl rfl rfl rfl (Nat.le_of_ble_eq_true rfl) hd hws k
theorem ol_mg30 (hX : ol_CX X V A cc RX4 nm nL ret) (hd : decode cc pc = .ok (.getfield 287, 3)) (k : ol_G X V A md P rm nL cells slots (ol_WM V a σ) (pc + 3) L (.int (σ.1 0 30) :: st)) : ol_G X V A md P rm nL cells slots (ol_WM V a σ) pc L (.ref (a 0) :: st) := ol_get hX in_X4 0 rfl rfl 30 (by decide) q2161 rfl rfl hd k
theorem ol_mp30 (hX : ol_CX X V A cc RX4 nm nL ret) {x : Int32} (hd : decode cc pc = .ok (.putfield 287, 3)) (k : ol_G X V A true P rm nL cells slots (ol_WM V a (ol_ms σ 0 30 x)) (pc + 3) L st) : ol_G X V A true P rm nL cells slots (ol_WM V a σ) pc L (.int x :: .ref (a 0) :: st) := by
  have hws : (ol_WM V a σ).set 0 (a 0, .inr (0, (ol_Mf a σ).set 30 (.int x))) = ol_WM V a (ol_ms σ 0 30 x) := rfl
  exact ol_put (fs := ol_Mf a σ) (ci := 0) hX in_X4 tyX4 tyX4_ok nmX4 0 rfl rfl 30 (by decide) q2161 rfl rfl rfl rfl (Nat.le_of_ble_eq_true rfl) hd hws k
theorem ol_mg31 (hX : ol_CX X V A cc RX4 nm nL ret) (hd : decode cc pc = .ok (.getfield 290, 3)) (k : ol_G X V A md P rm nL cells slots (ol_WM V a σ) (pc + 3) L (.int (σ.1 0 31) :: st)) : ol_G X V A md P rm nL cells slots (ol_WM V a σ) pc L (.ref (a 0) :: st) := ol_get hX in_X4 0 rfl rfl 31 (by decide) q2162 rfl rfl hd k
theorem ol_mp31 (hX : ol_CX X V A cc RX4 nm nL ret) {x : Int32} (hd : decode cc pc = .ok (.putfield 290, 3)) (k : ol_G X V A true P rm nL cells slots (ol_WM V a (ol_ms σ 0 31 x)) (pc + 3) L st) : ol_G X V A true P rm nL cells slots (ol_WM V a σ) pc L (.int x :: .ref (a 0) :: st) := by
  have hws : (ol_WM V a σ).set 0 (a 0, .inr (0, (ol_Mf a σ).set 31 (.int x))) = ol_WM V a (ol_ms σ 0 31 x) := rfl
  exact ol_put (fs := ol_Mf a σ) (ci := 0) hX in_X4 tyX4 tyX4_ok nmX4 0 rfl rfl 31 (by decide) q2162 rfl rfl rfl rfl (Nat.le_of_ble_eq_true rfl) hd hws k
theorem ol_mg32 (hX : ol_CX X V A cc RX4 nm nL ret) (hd : decode cc pc = .ok (.getfield 293, 3)) (k : ol_G X V A md P rm nL cells slots (ol_WM V a σ) (pc + 3) L (.int (σ.1 0 32) :: st)) : ol_G X V A md P rm nL cells slots (ol_WM V a σ) pc L (.ref (a 0) :: st) := ol_get hX in_X4 0 rfl rfl 32 (by decide) q2163 rfl rfl hd k
theorem ol_mp32 (hX : ol_CX X V A cc RX4 nm nL ret) {x : Int32} (hd : decode cc pc = .ok (.putfield 293, 3)) (k : ol_G X V A true P rm nL cells slots (ol_WM V a (ol_ms σ 0 32 x)) (pc + 3) L st) : ol_G X V A true P rm nL cells slots (ol_WM V a σ) pc L (.int x :: .ref (a 0) :: st) := by
  have hws : (ol_WM V a σ).set 0 (a 0, .inr (0, (ol_Mf a σ).set 32 (.int x))) = ol_WM V a (ol_ms σ 0 32 x) := rfl
  exact ol_put (fs := ol_Mf a σ) (ci := 0) hX in_X4 tyX4 tyX4_ok nmX4 0 rfl rfl 32 (by decide) q2163 rfl rfl rfl rfl (Nat.le_of_ble_eq_true rfl) hd hws k
theorem ol_ml1 (hX : ol_CX X V A cc RX4 nm nL ret) {i : Int32} {j : Nat} (hd : decode cc pc = .ok (.iaload, 1)) (hj : i.toNatClampNeg = j) (hin : vp_in i 700) (k : ol_G X V A md P rm nL cells slots (ol_WM V a σ) (pc + 1) L (.int (σ.1 1 j) :: st)) : ol_G X V A md P rm nL cells slots (ol_WM V a σ) pc L (.int i :: .ref (a 1) :: st) := by
  subst hj
  exact ol_iald hX 1 rfl hin hd k
theorem ol_ms1 (hX : ol_CX X V A cc RX4 nm nL ret) {i x : Int32} {j : Nat} (hd : decode cc pc = .ok (.iastore, 1)) (hj : i.toNatClampNeg = j) (hin : vp_in i 700) (k : ol_G X V A true P rm nL cells slots (ol_WM V a (ol_ms σ 1 j x)) (pc + 1) L st) : ol_G X V A true P rm nL cells slots (ol_WM V a σ) pc L (.int x :: .int i :: .ref (a 1) :: st) := by
  subst hj
  exact ol_iast hX 1 rfl hin hd rfl k
theorem ol_ml2 (hX : ol_CX X V A cc RX4 nm nL ret) {i : Int32} {j : Nat} (hd : decode cc pc = .ok (.iaload, 1)) (hj : i.toNatClampNeg = j) (hin : vp_in i 59) (k : ol_G X V A md P rm nL cells slots (ol_WM V a σ) (pc + 1) L (.int (σ.1 2 j) :: st)) : ol_G X V A md P rm nL cells slots (ol_WM V a σ) pc L (.int i :: .ref (a 2) :: st) := by
  subst hj
  exact ol_iald hX 2 rfl hin hd k
theorem ol_ms2 (hX : ol_CX X V A cc RX4 nm nL ret) {i x : Int32} {j : Nat} (hd : decode cc pc = .ok (.iastore, 1)) (hj : i.toNatClampNeg = j) (hin : vp_in i 59) (k : ol_G X V A true P rm nL cells slots (ol_WM V a (ol_ms σ 2 j x)) (pc + 1) L st) : ol_G X V A true P rm nL cells slots (ol_WM V a σ) pc L (.int x :: .int i :: .ref (a 2) :: st) := by
  subst hj
  exact ol_iast hX 2 rfl hin hd rfl k
theorem ol_ml3 (hX : ol_CX X V A cc RX4 nm nL ret) {i : Int32} {j : Nat} (hd : decode cc pc = .ok (.iaload, 1)) (hj : i.toNatClampNeg = j) (hin : vp_in i 59) (k : ol_G X V A md P rm nL cells slots (ol_WM V a σ) (pc + 1) L (.int (σ.1 3 j) :: st)) : ol_G X V A md P rm nL cells slots (ol_WM V a σ) pc L (.int i :: .ref (a 3) :: st) := by
  subst hj
  exact ol_iald hX 3 rfl hin hd k
theorem ol_ms3 (hX : ol_CX X V A cc RX4 nm nL ret) {i x : Int32} {j : Nat} (hd : decode cc pc = .ok (.iastore, 1)) (hj : i.toNatClampNeg = j) (hin : vp_in i 59) (k : ol_G X V A true P rm nL cells slots (ol_WM V a (ol_ms σ 3 j x)) (pc + 1) L st) : ol_G X V A true P rm nL cells slots (ol_WM V a σ) pc L (.int x :: .int i :: .ref (a 3) :: st) := by
  subst hj
  exact ol_iast hX 3 rfl hin hd rfl k
theorem ol_ml4 (hX : ol_CX X V A cc RX4 nm nL ret) {i : Int32} {j : Nat} (hd : decode cc pc = .ok (.laload, 1)) (hj : i.toNatClampNeg = j) (hin : vp_in i 6) (k : ol_G X V A md P rm nL cells slots (ol_WM V a σ) (pc + 1) L (.long (σ.2 j) :: st)) : ol_G X V A md P rm nL cells slots (ol_WM V a σ) pc L (.int i :: .ref (a 4) :: st) := by
  subst hj
  exact ol_lald hX 4 rfl hin hd k
theorem ol_ms4 (hX : ol_CX X V A cc RX4 nm nL ret) {i : Int32} {x : Int64} {j : Nat} (hd : decode cc pc = .ok (.lastore, 1)) (hj : i.toNatClampNeg = j) (hin : vp_in i 6) (k : ol_G X V A true P rm nL cells slots (ol_WM V a (ol_ml σ j x)) (pc + 1) L st) : ol_G X V A true P rm nL cells slots (ol_WM V a σ) pc L (.long x :: .int i :: .ref (a 4) :: st) := by
  subst hj
  exact ol_last hX 4 rfl hin hd rfl k
theorem ol_ml5 (hX : ol_CX X V A cc RX4 nm nL ret) {i : Int32} {j : Nat} (hd : decode cc pc = .ok (.iaload, 1)) (hj : i.toNatClampNeg = j) (hin : vp_in i 251) (k : ol_G X V A md P rm nL cells slots (ol_WM V a σ) (pc + 1) L (.int (σ.1 5 j) :: st)) : ol_G X V A md P rm nL cells slots (ol_WM V a σ) pc L (.int i :: .ref (a 5) :: st) := by
  subst hj
  exact ol_iald hX 5 rfl hin hd k
theorem ol_ms5 (hX : ol_CX X V A cc RX4 nm nL ret) {i x : Int32} {j : Nat} (hd : decode cc pc = .ok (.iastore, 1)) (hj : i.toNatClampNeg = j) (hin : vp_in i 251) (k : ol_G X V A true P rm nL cells slots (ol_WM V a (ol_ms σ 5 j x)) (pc + 1) L st) : ol_G X V A true P rm nL cells slots (ol_WM V a σ) pc L (.int x :: .int i :: .ref (a 5) :: st) := by
  subst hj
  exact ol_iast hX 5 rfl hin hd rfl k
theorem ol_ml6 (hX : ol_CX X V A cc RX4 nm nL ret) {i : Int32} {j : Nat} (hd : decode cc pc = .ok (.iaload, 1)) (hj : i.toNatClampNeg = j) (hin : vp_in i 251) (k : ol_G X V A md P rm nL cells slots (ol_WM V a σ) (pc + 1) L (.int (σ.1 6 j) :: st)) : ol_G X V A md P rm nL cells slots (ol_WM V a σ) pc L (.int i :: .ref (a 6) :: st) := by
  subst hj
  exact ol_iald hX 6 rfl hin hd k
theorem ol_ms6 (hX : ol_CX X V A cc RX4 nm nL ret) {i x : Int32} {j : Nat} (hd : decode cc pc = .ok (.iastore, 1)) (hj : i.toNatClampNeg = j) (hin : vp_in i 251) (k : ol_G X V A true P rm nL cells slots (ol_WM V a (ol_ms σ 6 j x)) (pc + 1) L st) : ol_G X V A true P rm nL cells slots (ol_WM V a σ) pc L (.int x :: .int i :: .ref (a 6) :: st) := by
  subst hj
  exact ol_iast hX 6 rfl hin hd rfl k
theorem ol_ml7 (hX : ol_CX X V A cc RX4 nm nL ret) {i : Int32} {j : Nat} (hd : decode cc pc = .ok (.iaload, 1)) (hj : i.toNatClampNeg = j) (hin : vp_in i 251) (k : ol_G X V A md P rm nL cells slots (ol_WM V a σ) (pc + 1) L (.int (σ.1 7 j) :: st)) : ol_G X V A md P rm nL cells slots (ol_WM V a σ) pc L (.int i :: .ref (a 7) :: st) := by
  subst hj
  exact ol_iald hX 7 rfl hin hd k
theorem ol_ms7 (hX : ol_CX X V A cc RX4 nm nL ret) {i x : Int32} {j : Nat} (hd : decode cc pc = .ok (.iastore, 1)) (hj : i.toNatClampNeg = j) (hin : vp_in i 251) (k : ol_G X V A true P rm nL cells slots (ol_WM V a (ol_ms σ 7 j x)) (pc + 1) L st) : ol_G X V A true P rm nL cells slots (ol_WM V a σ) pc L (.int x :: .int i :: .ref (a 7) :: st) := by
  subst hj
  exact ol_iast hX 7 rfl hin hd rfl k
theorem ol_ml8 (hX : ol_CX X V A cc RX4 nm nL ret) {i : Int32} {j : Nat} (hd : decode cc pc = .ok (.iaload, 1)) (hj : i.toNatClampNeg = j) (hin : vp_in i 6) (k : ol_G X V A md P rm nL cells slots (ol_WM V a σ) (pc + 1) L (.int (σ.1 8 j) :: st)) : ol_G X V A md P rm nL cells slots (ol_WM V a σ) pc L (.int i :: .ref (a 8) :: st) := by
  subst hj
  exact ol_iald hX 8 rfl hin hd k
theorem ol_ms8 (hX : ol_CX X V A cc RX4 nm nL ret) {i x : Int32} {j : Nat} (hd : decode cc pc = .ok (.iastore, 1)) (hj : i.toNatClampNeg = j) (hin : vp_in i 6) (k : ol_G X V A true P rm nL cells slots (ol_WM V a (ol_ms σ 8 j x)) (pc + 1) L st) : ol_G X V A true P rm nL cells slots (ol_WM V a σ) pc L (.int x :: .int i :: .ref (a 8) :: st) := by
  subst hj
  exact ol_iast hX 8 rfl hin hd rfl k
theorem ol_ml9 (hX : ol_CX X V A cc RX4 nm nL ret) {i : Int32} {j : Nat} (hd : decode cc pc = .ok (.iaload, 1)) (hj : i.toNatClampNeg = j) (hin : vp_in i 2406) (k : ol_G X V A md P rm nL cells slots (ol_WM V a σ) (pc + 1) L (.int (σ.1 9 j) :: st)) : ol_G X V A md P rm nL cells slots (ol_WM V a σ) pc L (.int i :: .ref (a 9) :: st) := by
  subst hj
  exact ol_iald hX 9 rfl hin hd k
theorem ol_ms9 (hX : ol_CX X V A cc RX4 nm nL ret) {i x : Int32} {j : Nat} (hd : decode cc pc = .ok (.iastore, 1)) (hj : i.toNatClampNeg = j) (hin : vp_in i 2406) (k : ol_G X V A true P rm nL cells slots (ol_WM V a (ol_ms σ 9 j x)) (pc + 1) L st) : ol_G X V A true P rm nL cells slots (ol_WM V a σ) pc L (.int x :: .int i :: .ref (a 9) :: st) := by
  subst hj
  exact ol_iast hX 9 rfl hin hd rfl k
theorem ol_ml10 (hX : ol_CX X V A cc RX4 nm nL ret) {i : Int32} {j : Nat} (hd : decode cc pc = .ok (.iaload, 1)) (hj : i.toNatClampNeg = j) (hin : vp_in i 2406) (k : ol_G X V A md P rm nL cells slots (ol_WM V a σ) (pc + 1) L (.int (σ.1 10 j) :: st)) : ol_G X V A md P rm nL cells slots (ol_WM V a σ) pc L (.int i :: .ref (a 10) :: st) := by
  subst hj
  exact ol_iald hX 10 rfl hin hd k
theorem ol_ms10 (hX : ol_CX X V A cc RX4 nm nL ret) {i x : Int32} {j : Nat} (hd : decode cc pc = .ok (.iastore, 1)) (hj : i.toNatClampNeg = j) (hin : vp_in i 2406) (k : ol_G X V A true P rm nL cells slots (ol_WM V a (ol_ms σ 10 j x)) (pc + 1) L st) : ol_G X V A true P rm nL cells slots (ol_WM V a σ) pc L (.int x :: .int i :: .ref (a 10) :: st) := by
  subst hj
  exact ol_iast hX 10 rfl hin hd rfl k
theorem ol_ml11 (hX : ol_CX X V A cc RX4 nm nL ret) {i : Int32} {j : Nat} (hd : decode cc pc = .ok (.iaload, 1)) (hj : i.toNatClampNeg = j) (hin : vp_in i 2406) (k : ol_G X V A md P rm nL cells slots (ol_WM V a σ) (pc + 1) L (.int (σ.1 11 j) :: st)) : ol_G X V A md P rm nL cells slots (ol_WM V a σ) pc L (.int i :: .ref (a 11) :: st) := by
  subst hj
  exact ol_iald hX 11 rfl hin hd k
theorem ol_ms11 (hX : ol_CX X V A cc RX4 nm nL ret) {i x : Int32} {j : Nat} (hd : decode cc pc = .ok (.iastore, 1)) (hj : i.toNatClampNeg = j) (hin : vp_in i 2406) (k : ol_G X V A true P rm nL cells slots (ol_WM V a (ol_ms σ 11 j x)) (pc + 1) L st) : ol_G X V A true P rm nL cells slots (ol_WM V a σ) pc L (.int x :: .int i :: .ref (a 11) :: st) := by
  subst hj
  exact ol_iast hX 11 rfl hin hd rfl k
theorem ol_ml12 (hX : ol_CX X V A cc RX4 nm nL ret) {i : Int32} {j : Nat} (hd : decode cc pc = .ok (.iaload, 1)) (hj : i.toNatClampNeg = j) (hin : vp_in i 2406) (k : ol_G X V A md P rm nL cells slots (ol_WM V a σ) (pc + 1) L (.int (σ.1 12 j) :: st)) : ol_G X V A md P rm nL cells slots (ol_WM V a σ) pc L (.int i :: .ref (a 12) :: st) := by
  subst hj
  exact ol_iald hX 12 rfl hin hd k
theorem ol_ms12 (hX : ol_CX X V A cc RX4 nm nL ret) {i x : Int32} {j : Nat} (hd : decode cc pc = .ok (.iastore, 1)) (hj : i.toNatClampNeg = j) (hin : vp_in i 2406) (k : ol_G X V A true P rm nL cells slots (ol_WM V a (ol_ms σ 12 j x)) (pc + 1) L st) : ol_G X V A true P rm nL cells slots (ol_WM V a σ) pc L (.int x :: .int i :: .ref (a 12) :: st) := by
  subst hj
  exact ol_iast hX 12 rfl hin hd rfl k
theorem ol_ml13 (hX : ol_CX X V A cc RX4 nm nL ret) {i : Int32} {j : Nat} (hd : decode cc pc = .ok (.iaload, 1)) (hj : i.toNatClampNeg = j) (hin : vp_in i 2766) (k : ol_G X V A md P rm nL cells slots (ol_WM V a σ) (pc + 1) L (.int (σ.1 13 j) :: st)) : ol_G X V A md P rm nL cells slots (ol_WM V a σ) pc L (.int i :: .ref (a 13) :: st) := by
  subst hj
  exact ol_iald hX 13 rfl hin hd k
theorem ol_ms13 (hX : ol_CX X V A cc RX4 nm nL ret) {i x : Int32} {j : Nat} (hd : decode cc pc = .ok (.iastore, 1)) (hj : i.toNatClampNeg = j) (hin : vp_in i 2766) (k : ol_G X V A true P rm nL cells slots (ol_WM V a (ol_ms σ 13 j x)) (pc + 1) L st) : ol_G X V A true P rm nL cells slots (ol_WM V a σ) pc L (.int x :: .int i :: .ref (a 13) :: st) := by
  subst hj
  exact ol_iast hX 13 rfl hin hd rfl k
end OLM
