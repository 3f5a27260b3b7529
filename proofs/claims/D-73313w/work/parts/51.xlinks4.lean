/-! links (printed) -/
set_option maxRecDepth 100000
theorem dcX3_passes : yX3_passes.cls = RX3 ∧ ol_dc yX3_passes 2 := by decide +kernel
theorem lkX3_193 : GoodIn lw_all (va_wsS RX3 193 yJ14_bitCount (ws_ yJ14_bitCount cJ14_bitCount 1 (some .int))) := lw_S q1737 q1549 q123 q1550
theorem lkX3_198 : GoodIn lw_all (va_wsS RX3 198 yJ14_numberOfTrailingZeros (ws_ yJ14_numberOfTrailingZeros cJ14_numberOfTrailingZeros 2 (some .int))) := lw_S q1738 q1079 q123 q1080
theorem lkX3_171 : GoodIn lw_all (wsV RX3 171 RX2 yX2_goes (ws_ yX2_goes cX2_goes 6 (some (.object "OpenLines$Pass")))) := lw_V q1724 q1587 q1588 q103 q1589
theorem lkX3_177 : GoodIn lw_all (wsV RX3 177 RX2 yX2_winners (ws_ yX2_winners cX2_winners 4 (some .int))) := lw_V q1725 q1647 q1648 q103 q1649
theorem lkX3_184 : GoodIn lw_all (wsV RX3 184 RX2 yX2_isFaulty (ws_ yX2_isFaulty cX2_isFaulty 3 (some .boolean))) := lw_V q1726 q1685 q1686 q103 q1687
theorem ol_rr_X3_passes_J14_bitCount : ol_rr ({ frames := 0, cells := 0, slots := 0, locals := 0 } : Room) ({ frames := 14, cells := 1, slots := 1, locals := 653 } : Room) 1 := ⟨Nat.le_of_ble_eq_true rfl, Nat.le_of_ble_eq_true rfl⟩
theorem ol_rr_X3_passes_J14_numberOfTrailingZeros : ol_rr ({ frames := 0, cells := 0, slots := 0, locals := 0 } : Room) ({ frames := 14, cells := 1, slots := 1, locals := 653 } : Room) 2 := ⟨Nat.le_of_ble_eq_true rfl, Nat.le_of_ble_eq_true rfl⟩
theorem ol_rr_X3_passes_X1_forgets : ol_rr ({ frames := 0, cells := 0, slots := 0, locals := 0 } : Room) ({ frames := 14, cells := 1, slots := 1, locals := 653 } : Room) 1 := ⟨Nat.le_of_ble_eq_true rfl, Nat.le_of_ble_eq_true rfl⟩
theorem ol_rr_X3_passes_X2_goes : ol_rr ({ frames := 13, cells := 0, slots := 0, locals := 628 } : Room) ({ frames := 14, cells := 1, slots := 1, locals := 653 } : Room) 6 := ⟨Nat.le_of_ble_eq_true rfl, Nat.le_of_ble_eq_true rfl⟩
theorem ol_rr_X3_passes_X2_isFaulty : ol_rr ({ frames := 2, cells := 0, slots := 0, locals := 40 } : Room) ({ frames := 14, cells := 1, slots := 1, locals := 653 } : Room) 3 := ⟨Nat.le_of_ble_eq_true rfl, Nat.le_of_ble_eq_true rfl⟩
theorem ol_rr_X3_passes_X2_winners : ol_rr ({ frames := 2, cells := 0, slots := 0, locals := 40 } : Room) ({ frames := 14, cells := 1, slots := 1, locals := 653 } : Room) 4 := ⟨Nat.le_of_ble_eq_true rfl, Nat.le_of_ble_eq_true rfl⟩
