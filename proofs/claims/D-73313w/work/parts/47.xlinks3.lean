/-! links (printed) -/
set_option maxRecDepth 100000
theorem dcX11_of : yX11_of.cls = RX11 ∧ ol_dc yX11_of 1 := by decide +kernel
theorem dcX12_of : yX12_of.cls = RX12 ∧ ol_dc yX12_of 1 := by decide +kernel
theorem dcX13_of : yX13_of.cls = RX13 ∧ ol_dc yX13_of 1 := by decide +kernel
theorem ol_rr_X11_of_X1_firstWord : ol_rr ({ frames := 5, cells := 0, slots := 0, locals := 123 } : Room) ({ frames := 6, cells := 0, slots := 0, locals := 144 } : Room) 2 := ⟨Nat.le_of_ble_eq_true rfl, Nat.le_of_ble_eq_true rfl⟩
theorem ol_rr_X11_of_X1_secondWord : ol_rr ({ frames := 2, cells := 0, slots := 0, locals := 40 } : Room) ({ frames := 6, cells := 0, slots := 0, locals := 144 } : Room) 1 := ⟨Nat.le_of_ble_eq_true rfl, Nat.le_of_ble_eq_true rfl⟩
theorem ol_rr_X12_of_X1_secondWord : ol_rr ({ frames := 2, cells := 0, slots := 0, locals := 40 } : Room) ({ frames := 3, cells := 0, slots := 0, locals := 60 } : Room) 1 := ⟨Nat.le_of_ble_eq_true rfl, Nat.le_of_ble_eq_true rfl⟩
