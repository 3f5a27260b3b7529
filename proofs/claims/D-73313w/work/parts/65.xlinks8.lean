/-! links (printed) -/
set_option maxRecDepth 100000
theorem ol_k_bipush_36 : (Int8.ofInt (36)).toInt32 = 36 := by decide
theorem dcX3_isThrough : yX3_isThrough.cls = RX3 ∧ ol_dc yX3_isThrough 0 := by decide +kernel
theorem dcX3_tick : yX3_tick.cls = RX3 ∧ ol_dc yX3_tick 0 := by decide +kernel
theorem dcX3_goes : yX3_goes.cls = RX3 ∧ ol_dc yX3_goes 1 := by decide +kernel
theorem dcX3_be : yX3_be.cls = RX3 ∧ ol_dc yX3_be 1 := by decide +kernel
theorem dcX3_begins : yX3_begins.cls = RX3 ∧ ol_dc yX3_begins 1 := by decide +kernel
theorem lkX3_221 : GoodIn lw_all (wsV RX3 221 RX3 yX3_passes (ws_ yX3_passes cX3_passes 5 (some .int))) := lw_V q1878 q1720 q1721 q104 q1722
theorem lkX3_225 : GoodIn lw_all (wsV RX3 225 RX3 yX3_notes (ws_ yX3_notes cX3_notes 2 none)) := lw_V q1879 q1881 qs40 q104 q1882
theorem lkX3_252 : GoodIn lw_all (wsV RX3 252 RX3 yX3_isPressed (ws_ yX3_isPressed cX3_isPressed 2 (some .boolean))) := lw_V q1921 q1923 qs43 q104 q1924
theorem lkX3_258 : GoodIn lw_all (wsV RX3 258 RX3 yX3_begins_2 (ws_ yX3_begins_2 cX3_begins_2 4 none)) := lw_V q1926 q1928 qs44 q104 q1929
theorem lkX3_249 : GoodIn lw_all (wsV RX3 249 RX3 yX3_isMaster (ws_ yX3_isMaster cX3_isMaster 2 none)) := lw_V q1916 q1918 qs42 q104 q1919
theorem lkX3_246 : GoodIn lw_all (wsV RX3 246 RX3 yX3_isThrough (ws_ yX3_isThrough cX3_isThrough 3 none)) := lw_V q1864 q1866 qs39 q104 q1867
theorem lkX3_238 : GoodIn lw_all (wsV RX3 238 RX10 yX10_board (ws_ yX10_board cX10_board 1 (some .int))) := lw_V q1848 q1849 q1850 q138 q1851
theorem lkX3_240 : GoodIn lw_all (wsV RX3 240 RX10 yX10_ticks (ws_ yX10_ticks cX10_ticks 1 (some .int))) := lw_V q1852 q1853 q1854 q138 q1855
theorem lkX3_243 : GoodIn lw_all (wsV RX3 243 RX3 yX3_hears (ws_ yX3_hears cX3_hears 3 (some .boolean))) := lw_V q1856 q1857 q1858 q104 q1859
theorem lkX3_267 : GoodIn lw_all (wsV RX3 267 RX3 yX3_tick (ws_ yX3_tick cX3_tick 2 none)) := lw_V q1842 q1844 qs37 q104 q1845
theorem ol_rr_X3_goes_X3_tick {N : Nat} : ol_rr ({ frames := 16, cells := 5, slots := 12, locals := 699 } : Room) ({ frames := 17, cells := 0 + 5 * (N + 1), slots := 0 + 12 * (N + 1), locals := 720 } : Room) 2 := ⟨Nat.le_of_ble_eq_true rfl, Nat.le_of_ble_eq_true rfl⟩
theorem ol_rr_X3_isThrough_X3_counts : ol_rr ({ frames := 0, cells := 0, slots := 0, locals := 0 } : Room) ({ frames := 15, cells := 3, slots := 8, locals := 677 } : Room) 3 := ⟨Nat.le_of_ble_eq_true rfl, Nat.le_of_ble_eq_true rfl⟩
theorem ol_rr_X3_isThrough_X3_notes : ol_rr ({ frames := 3, cells := 1, slots := 6, locals := 100 } : Room) ({ frames := 15, cells := 3, slots := 8, locals := 677 } : Room) 2 := ⟨Nat.le_of_ble_eq_true rfl, Nat.le_of_ble_eq_true rfl⟩
theorem ol_rr_X3_isThrough_X3_passes : ol_rr ({ frames := 14, cells := 1, slots := 1, locals := 653 } : Room) ({ frames := 15, cells := 3, slots := 8, locals := 677 } : Room) 5 := ⟨Nat.le_of_ble_eq_true rfl, Nat.le_of_ble_eq_true rfl⟩
theorem ol_rr_X3_tick_X3_asking : ol_rr ({ frames := 2, cells := 0, slots := 0, locals := 40 } : Room) ({ frames := 16, cells := 5, slots := 12, locals := 699 } : Room) 3 := ⟨Nat.le_of_ble_eq_true rfl, Nat.le_of_ble_eq_true rfl⟩
theorem ol_rr_X3_tick_X3_begins_2 : ol_rr ({ frames := 6, cells := 2, slots := 4, locals := 150 } : Room) ({ frames := 16, cells := 5, slots := 12, locals := 699 } : Room) 4 := ⟨Nat.le_of_ble_eq_true rfl, Nat.le_of_ble_eq_true rfl⟩
theorem ol_rr_X3_tick_X3_counts : ol_rr ({ frames := 0, cells := 0, slots := 0, locals := 0 } : Room) ({ frames := 16, cells := 5, slots := 12, locals := 699 } : Room) 3 := ⟨Nat.le_of_ble_eq_true rfl, Nat.le_of_ble_eq_true rfl⟩
theorem ol_rr_X3_tick_X3_hears : ol_rr ({ frames := 1, cells := 0, slots := 0, locals := 22 } : Room) ({ frames := 16, cells := 5, slots := 12, locals := 699 } : Room) 3 := ⟨Nat.le_of_ble_eq_true rfl, Nat.le_of_ble_eq_true rfl⟩
theorem ol_rr_X3_tick_X3_isMaster : ol_rr ({ frames := 1, cells := 0, slots := 0, locals := 22 } : Room) ({ frames := 16, cells := 5, slots := 12, locals := 699 } : Room) 2 := ⟨Nat.le_of_ble_eq_true rfl, Nat.le_of_ble_eq_true rfl⟩
theorem ol_rr_X3_tick_X3_isPressed : ol_rr ({ frames := 5, cells := 0, slots := 0, locals := 123 } : Room) ({ frames := 16, cells := 5, slots := 12, locals := 699 } : Room) 2 := ⟨Nat.le_of_ble_eq_true rfl, Nat.le_of_ble_eq_true rfl⟩
theorem ol_rr_X3_tick_X3_isThrough : ol_rr ({ frames := 15, cells := 3, slots := 8, locals := 677 } : Room) ({ frames := 16, cells := 5, slots := 12, locals := 699 } : Room) 3 := ⟨Nat.le_of_ble_eq_true rfl, Nat.le_of_ble_eq_true rfl⟩
