/-! links (printed) -/
set_option maxRecDepth 100000
theorem dcX1_log : yX1_log.cls = RX1 ∧ ol_dc yX1_log 2 := by decide +kernel
theorem dcX1_will : yX1_will.cls = RX1 ∧ ol_dc yX1_will 2 := by decide +kernel
theorem dcX1_till : yX1_till.cls = RX1 ∧ ol_dc yX1_till 1 := by decide +kernel
theorem dcX1_ticks : yX1_ticks.cls = RX1 ∧ ol_dc yX1_ticks 1 := by decide +kernel
theorem dcX1_keep : yX1_keep.cls = RX1 ∧ ol_dc yX1_keep 0 := by decide +kernel
theorem dcX1_back : yX1_back.cls = RX1 ∧ ol_dc yX1_back 0 := by decide +kernel
theorem lkX1_290 : GoodIn lw_all (wsV RX1 290 RX14 yX14_time (ws_ yX14_time cX14_time 1 (some .int))) := lw_V q1765 q1766 q1767 q142 q1768
theorem lkX1_292 : GoodIn lw_all (wsV RX1 292 RX14 yX14_set (ws_ yX14_set cX14_set 1 (some .int))) := lw_V q1769 q1770 q1771 q142 q1772
theorem lkX1_295 : GoodIn lw_all (wsV RX1 295 RX14 yX14_first (ws_ yX14_first cX14_first 1 (some .int))) := lw_V q1773 q1774 q1775 q142 q1776
theorem lkX1_298 : GoodIn lw_all (wsV RX1 298 RX14 yX14_second (ws_ yX14_second cX14_second 1 (some .int))) := lw_V q1777 q1778 q1779 q142 q1780
theorem lkX1_301 : GoodIn lw_all (wsV RX1 301 RX14 yX14_elect (ws_ yX14_elect cX14_elect 1 (some .int))) := lw_V q1781 q1782 q1783 q142 q1784
theorem lkX1_304 : GoodIn lw_all (wsV RX1 304 RX14 yX14_faulty (ws_ yX14_faulty cX14_faulty 1 (some .int))) := lw_V q1785 q1786 q1787 q142 q1788
theorem lkX1_319 : GoodIn lw_all (wsV RX1 319 RX3 yX3_be (ws_ yX3_be cX3_be 3 none)) := lw_V q1829 q1830 q1831 q104 q1832
theorem lkX1_323 : GoodIn lw_all (wsV RX1 323 RX3 yX3_goes (ws_ yX3_goes cX3_goes 3 none)) := lw_V q1838 q1839 q1840 q104 q1841
theorem lkX1_338 : GoodIn lw_all (wsV RX1 338 RX1 yX1_granted (ws_ yX1_granted cX1_granted 2 (some .boolean))) := lw_V q2091 q2093 qs45 q102 q2094
theorem ol_rr_X1_back_X1_forgets : ol_rr ({ frames := 0, cells := 0, slots := 0, locals := 0 } : Room) ({ frames := 4, cells := 0, slots := 0, locals := 122 } : Room) 1 := ⟨Nat.le_of_ble_eq_true rfl, Nat.le_of_ble_eq_true rfl⟩
theorem ol_rr_X1_back_X1_granted : ol_rr ({ frames := 0, cells := 0, slots := 0, locals := 0 } : Room) ({ frames := 4, cells := 0, slots := 0, locals := 122 } : Room) 2 := ⟨Nat.le_of_ble_eq_true rfl, Nat.le_of_ble_eq_true rfl⟩
theorem ol_rr_X1_back_X3_be : ol_rr ({ frames := 3, cells := 0, slots := 0, locals := 100 } : Room) ({ frames := 4, cells := 0, slots := 0, locals := 122 } : Room) 3 := ⟨Nat.le_of_ble_eq_true rfl, Nat.le_of_ble_eq_true rfl⟩
theorem ol_rr_X1_keep_X1_granted : ol_rr ({ frames := 0, cells := 0, slots := 0, locals := 0 } : Room) ({ frames := 4, cells := 0, slots := 0, locals := 122 } : Room) 2 := ⟨Nat.le_of_ble_eq_true rfl, Nat.le_of_ble_eq_true rfl⟩
theorem ol_rr_X1_keep_X3_be : ol_rr ({ frames := 3, cells := 0, slots := 0, locals := 100 } : Room) ({ frames := 4, cells := 0, slots := 0, locals := 122 } : Room) 3 := ⟨Nat.le_of_ble_eq_true rfl, Nat.le_of_ble_eq_true rfl⟩
theorem ol_rr_X1_log_X1_fine : ol_rr ({ frames := 0, cells := 0, slots := 0, locals := 0 } : Room) ({ frames := 3, cells := 0, slots := 0, locals := 80 } : Room) 2 := ⟨Nat.le_of_ble_eq_true rfl, Nat.le_of_ble_eq_true rfl⟩
theorem ol_rr_X1_log_X1_isIn : ol_rr ({ frames := 0, cells := 0, slots := 0, locals := 0 } : Room) ({ frames := 3, cells := 0, slots := 0, locals := 80 } : Room) 3 := ⟨Nat.le_of_ble_eq_true rfl, Nat.le_of_ble_eq_true rfl⟩
theorem ol_rr_X1_log_X1_refused : ol_rr ({ frames := 0, cells := 0, slots := 0, locals := 0 } : Room) ({ frames := 3, cells := 0, slots := 0, locals := 80 } : Room) 2 := ⟨Nat.le_of_ble_eq_true rfl, Nat.le_of_ble_eq_true rfl⟩
theorem ol_rr_X1_ticks_X1_fine : ol_rr ({ frames := 0, cells := 0, slots := 0, locals := 0 } : Room) ({ frames := 18, cells := 5000, slots := 12000, locals := 742 } : Room) 2 := ⟨Nat.le_of_ble_eq_true rfl, Nat.le_of_ble_eq_true rfl⟩
theorem ol_rr_X1_ticks_X1_forgets : ol_rr ({ frames := 0, cells := 0, slots := 0, locals := 0 } : Room) ({ frames := 18, cells := 5000, slots := 12000, locals := 742 } : Room) 1 := ⟨Nat.le_of_ble_eq_true rfl, Nat.le_of_ble_eq_true rfl⟩
theorem ol_rr_X1_ticks_X1_isIn : ol_rr ({ frames := 0, cells := 0, slots := 0, locals := 0 } : Room) ({ frames := 18, cells := 5000, slots := 12000, locals := 742 } : Room) 3 := ⟨Nat.le_of_ble_eq_true rfl, Nat.le_of_ble_eq_true rfl⟩
theorem ol_rr_X1_ticks_X1_refused : ol_rr ({ frames := 0, cells := 0, slots := 0, locals := 0 } : Room) ({ frames := 18, cells := 5000, slots := 12000, locals := 742 } : Room) 2 := ⟨Nat.le_of_ble_eq_true rfl, Nat.le_of_ble_eq_true rfl⟩
theorem ol_rr_X1_ticks_X3_goes {N : Nat} : ol_rr ({ frames := 17, cells := 0 + 5 * (N + 1), slots := 0 + 12 * (N + 1), locals := 720 } : Room) ({ frames := 18, cells := 5000, slots := 12000, locals := 742 } : Room) 3 := ⟨Nat.le_of_ble_eq_true rfl, Nat.le_of_ble_eq_true rfl⟩
theorem ol_rr_X1_till_X1_fine : ol_rr ({ frames := 0, cells := 0, slots := 0, locals := 0 } : Room) ({ frames := 18, cells := 20010, slots := 48024, locals := 742 } : Room) 2 := ⟨Nat.le_of_ble_eq_true rfl, Nat.le_of_ble_eq_true rfl⟩
theorem ol_rr_X1_till_X1_isBoard : ol_rr ({ frames := 2, cells := 0, slots := 0, locals := 40 } : Room) ({ frames := 18, cells := 20010, slots := 48024, locals := 742 } : Room) 2 := ⟨Nat.le_of_ble_eq_true rfl, Nat.le_of_ble_eq_true rfl⟩
theorem ol_rr_X1_till_X1_refused : ol_rr ({ frames := 0, cells := 0, slots := 0, locals := 0 } : Room) ({ frames := 18, cells := 20010, slots := 48024, locals := 742 } : Room) 2 := ⟨Nat.le_of_ble_eq_true rfl, Nat.le_of_ble_eq_true rfl⟩
theorem ol_rr_X1_till_X3_be : ol_rr ({ frames := 3, cells := 0, slots := 0, locals := 100 } : Room) ({ frames := 18, cells := 20010, slots := 48024, locals := 742 } : Room) 3 := ⟨Nat.le_of_ble_eq_true rfl, Nat.le_of_ble_eq_true rfl⟩
theorem ol_rr_X1_till_X3_goes {N : Nat} : ol_rr ({ frames := 17, cells := 0 + 5 * (N + 1), slots := 0 + 12 * (N + 1), locals := 720 } : Room) ({ frames := 18, cells := 20010, slots := 48024, locals := 742 } : Room) 3 := ⟨Nat.le_of_ble_eq_true rfl, Nat.le_of_ble_eq_true rfl⟩
theorem ol_rr_X1_will_X1_fine : ol_rr ({ frames := 0, cells := 0, slots := 0, locals := 0 } : Room) ({ frames := 18, cells := 5000, slots := 12000, locals := 742 } : Room) 2 := ⟨Nat.le_of_ble_eq_true rfl, Nat.le_of_ble_eq_true rfl⟩
theorem ol_rr_X1_will_X1_isIn : ol_rr ({ frames := 0, cells := 0, slots := 0, locals := 0 } : Room) ({ frames := 18, cells := 5000, slots := 12000, locals := 742 } : Room) 3 := ⟨Nat.le_of_ble_eq_true rfl, Nat.le_of_ble_eq_true rfl⟩
theorem ol_rr_X1_will_X1_isWhat : ol_rr ({ frames := 1, cells := 0, slots := 0, locals := 22 } : Room) ({ frames := 18, cells := 5000, slots := 12000, locals := 742 } : Room) 1 := ⟨Nat.le_of_ble_eq_true rfl, Nat.le_of_ble_eq_true rfl⟩
theorem ol_rr_X1_will_X1_refused : ol_rr ({ frames := 0, cells := 0, slots := 0, locals := 0 } : Room) ({ frames := 18, cells := 5000, slots := 12000, locals := 742 } : Room) 2 := ⟨Nat.le_of_ble_eq_true rfl, Nat.le_of_ble_eq_true rfl⟩
theorem ol_rr_X1_will_X3_be : ol_rr ({ frames := 3, cells := 0, slots := 0, locals := 100 } : Room) ({ frames := 18, cells := 5000, slots := 12000, locals := 742 } : Room) 3 := ⟨Nat.le_of_ble_eq_true rfl, Nat.le_of_ble_eq_true rfl⟩
theorem ol_rr_X1_will_X3_goes {N : Nat} : ol_rr ({ frames := 17, cells := 0 + 5 * (N + 1), slots := 0 + 12 * (N + 1), locals := 720 } : Room) ({ frames := 18, cells := 5000, slots := 12000, locals := 742 } : Room) 3 := ⟨Nat.le_of_ble_eq_true rfl, Nat.le_of_ble_eq_true rfl⟩
theorem ol_rr_X1_will_X3_is : ol_rr ({ frames := 3, cells := 0, slots := 0, locals := 62 } : Room) ({ frames := 18, cells := 5000, slots := 12000, locals := 742 } : Room) 2 := ⟨Nat.le_of_ble_eq_true rfl, Nat.le_of_ble_eq_true rfl⟩
