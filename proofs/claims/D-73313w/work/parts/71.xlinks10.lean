/-! links (printed) -/
set_option maxRecDepth 100000
theorem ol_rr_nX1_back_X1_forgets : ol_rr ({ frames := 0, cells := 0, slots := 0, locals := 0 } : Room) ({ frames := 1, cells := 0, slots := 0, locals := 21 } : Room) 1 := ⟨Nat.le_of_ble_eq_true rfl, Nat.le_of_ble_eq_true rfl⟩
theorem ol_rr_nX1_back_X1_granted : ol_rr ({ frames := 0, cells := 0, slots := 0, locals := 0 } : Room) ({ frames := 1, cells := 0, slots := 0, locals := 21 } : Room) 2 := ⟨Nat.le_of_ble_eq_true rfl, Nat.le_of_ble_eq_true rfl⟩
theorem ol_rr_nX1_keep_X1_granted : ol_rr ({ frames := 0, cells := 0, slots := 0, locals := 0 } : Room) ({ frames := 1, cells := 0, slots := 0, locals := 21 } : Room) 2 := ⟨Nat.le_of_ble_eq_true rfl, Nat.le_of_ble_eq_true rfl⟩
theorem ol_rr_nX1_log_X1_refused : ol_rr ({ frames := 0, cells := 0, slots := 0, locals := 0 } : Room) ({ frames := 1, cells := 0, slots := 0, locals := 21 } : Room) 2 := ⟨Nat.le_of_ble_eq_true rfl, Nat.le_of_ble_eq_true rfl⟩
theorem ol_rr_nX1_ticks_X1_refused : ol_rr ({ frames := 0, cells := 0, slots := 0, locals := 0 } : Room) ({ frames := 1, cells := 0, slots := 0, locals := 21 } : Room) 2 := ⟨Nat.le_of_ble_eq_true rfl, Nat.le_of_ble_eq_true rfl⟩
theorem ol_rr_nX1_till_X1_refused : ol_rr ({ frames := 0, cells := 0, slots := 0, locals := 0 } : Room) ({ frames := 1, cells := 0, slots := 0, locals := 21 } : Room) 2 := ⟨Nat.le_of_ble_eq_true rfl, Nat.le_of_ble_eq_true rfl⟩
theorem ol_rr_nX1_till_nX1_isBoard : ol_rr ({ frames := 0, cells := 0, slots := 0, locals := 0 } : Room) ({ frames := 1, cells := 0, slots := 0, locals := 21 } : Room) 2 := ⟨Nat.le_of_ble_eq_true rfl, Nat.le_of_ble_eq_true rfl⟩
theorem ol_rr_nX1_will_X1_refused : ol_rr ({ frames := 0, cells := 0, slots := 0, locals := 0 } : Room) ({ frames := 1, cells := 0, slots := 0, locals := 21 } : Room) 2 := ⟨Nat.le_of_ble_eq_true rfl, Nat.le_of_ble_eq_true rfl⟩
