/-! links (printed) -/
set_option maxRecDepth 100000
theorem ol_k_sipush_700 : (Int16.ofInt (700)).toInt32 = 700 := by decide
theorem dcX1_refused : yX1_refused.cls = RX1 ∧ ol_dc yX1_refused 1 := by decide +kernel
theorem dcX1_fine : yX1_fine.cls = RX1 ∧ ol_dc yX1_fine 1 := by decide +kernel
theorem dcX1_granted : yX1_granted.cls = RX1 ∧ ol_dc yX1_granted 1 := by decide +kernel
theorem dcX1_isPass : ol_dc yX1_isPass 1 := by decide +kernel
theorem dcX1_isWhat : ol_dc yX1_isWhat 1 := by decide +kernel
theorem dcX1_fault : yX1_fault.cls = RX1 ∧ ol_dc yX1_fault 0 := by decide +kernel
theorem dcX1_where : yX1_where.cls = RX1 ∧ ol_dc yX1_where 0 := by decide +kernel
theorem dcX1_trouble : yX1_trouble.cls = RX1 ∧ ol_dc yX1_trouble 0 := by decide +kernel
theorem dcX1_feedOne : yX1_feedOne.cls = RX1 ∧ ol_dc yX1_feedOne 1 := by decide +kernel
theorem dcX1_feed : yX1_feed.cls = RX1 ∧ ol_dc yX1_feed 5 := by decide +kernel
theorem dcX1_unwhole : yX1_unwhole.cls = RX1 ∧ ol_dc yX1_unwhole 0 := by decide +kernel
theorem lkX1_77 : GoodIn lw_all (va_wsS RX1 77 yX1_isIn (ws_ yX1_isIn cX1_isIn 3 (some .boolean))) := lw_S q396 q397 q102 q398
theorem lkX1_73 : GoodIn lw_all (wsV RX1 73 RX1 yX1_feedOne (ws_ yX1_feedOne cX1_feedOne 3 none)) := lw_V q387 q389 qs0 q102 q390
theorem ol_rr_X1_feed_X1_feedOne : ol_rr ({ frames := 0, cells := 0, slots := 0, locals := 0 } : Room) ({ frames := 1, cells := 0, slots := 0, locals := 22 } : Room) 3 := ⟨Nat.le_of_ble_eq_true rfl, Nat.le_of_ble_eq_true rfl⟩
theorem ol_rr_X1_isPass_X1_isIn : ol_rr ({ frames := 0, cells := 0, slots := 0, locals := 0 } : Room) ({ frames := 1, cells := 0, slots := 0, locals := 22 } : Room) 3 := ⟨Nat.le_of_ble_eq_true rfl, Nat.le_of_ble_eq_true rfl⟩
theorem ol_rr_X1_isWhat_X1_isIn : ol_rr ({ frames := 0, cells := 0, slots := 0, locals := 0 } : Room) ({ frames := 1, cells := 0, slots := 0, locals := 22 } : Room) 3 := ⟨Nat.le_of_ble_eq_true rfl, Nat.le_of_ble_eq_true rfl⟩
