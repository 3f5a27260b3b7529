/-! links (printed) -/
set_option maxRecDepth 100000
theorem ol_sw10 {x : Int32} (h0 : ¬ x = 0) (h1 : ¬ x = 1) (h2 : ¬ x = 2) (h3 : ¬ x = 3) (h4 : ¬ x = 4) (h5 : ¬ x = 5) (h6 : ¬ x = 6) (h7 : ¬ x = 7) (h8 : ¬ x = 8) (h9 : ¬ x = 9) : x.toInt < 0 ∨ 9 < x.toInt := by
  have key : ∀ (k : Int32), ¬ x = k → ¬ x.toInt = k.toInt := fun k h e => h (Int32.toInt_inj.mp e)
  have e0 : ¬ x.toInt = 0 := key 0 h0
  have e1 : ¬ x.toInt = 1 := key 1 h1
  have e2 : ¬ x.toInt = 2 := key 2 h2
  have e3 : ¬ x.toInt = 3 := key 3 h3
  have e4 : ¬ x.toInt = 4 := key 4 h4
  have e5 : ¬ x.toInt = 5 := key 5 h5
  have e6 : ¬ x.toInt = 6 := key 6 h6
  have e7 : ¬ x.toInt = 7 := key 7 h7
  have e8 : ¬ x.toInt = 8 := key 8 h8
  have e9 : ¬ x.toInt = 9 := key 9 h9
  omega
theorem dcX3_waitsFor : yX3_waitsFor.cls = RX3 ∧ ol_dc yX3_waitsFor 2 := by decide +kernel
theorem dcX9_ofTheDay : yX9_ofTheDay.cls = RX9 ∧ ol_dc yX9_ofTheDay 1 := by decide +kernel
theorem dcX1_firstWord : ol_dc yX1_firstWord 2 := by decide +kernel
theorem dcX3_asking : yX3_asking.cls = RX3 ∧ ol_dc yX3_asking 0 := by decide +kernel
theorem dcX3_counts : yX3_counts.cls = RX3 ∧ ol_dc yX3_counts 2 := by decide +kernel
theorem dcX3_hears : yX3_hears.cls = RX3 ∧ ol_dc yX3_hears 2 := by decide +kernel
theorem dcX3_toCome : yX3_toCome.cls = RX3 ∧ ol_dc yX3_toCome 0 := by decide +kernel
theorem dcX3_waiting : yX3_waiting.cls = RX3 ∧ ol_dc yX3_waiting 1 := by decide +kernel
theorem dcX3_longest : yX3_longest.cls = RX3 ∧ ol_dc yX3_longest 0 := by decide +kernel
theorem dcX3_isMaster : yX3_isMaster.cls = RX3 ∧ ol_dc yX3_isMaster 0 := by decide +kernel
theorem dcX3_isPressed : yX3_isPressed.cls = RX3 ∧ ol_dc yX3_isPressed 0 := by decide +kernel
theorem dcX3_past : yX3_past.cls = RX3 ∧ ol_dc yX3_past 1 := by decide +kernel
theorem dcX3_idle : yX3_idle.cls = RX3 ∧ ol_dc yX3_idle 0 := by decide +kernel
theorem dcX3_is : yX3_is.cls = RX3 ∧ ol_dc yX3_is 1 := by decide +kernel
theorem dcX1_forgets : yX1_forgets.cls = RX1 ∧ ol_dc yX1_forgets 0 := by decide +kernel
theorem lkX9_33 : GoodIn lw_all (wsV RX9 33 RX6 yX6_many (ws_ yX6_many cX6_many 1 (some .int))) := lw_V q1484 q713 q714 q110 q715
theorem lkX9_39 : GoodIn lw_all (wsV RX9 39 RX3 yX3_waitsFor (ws_ yX3_waitsFor cX3_waitsFor 4 (some .boolean))) := lw_V q1485 q1486 q1487 q104 q1488
theorem lkX9_43 : GoodIn lw_all (wsV RX9 43 RX6 yX6_board (ws_ yX6_board cX6_board 2 (some (.object "OpenLines$Board")))) := lw_V q1489 q735 q736 q110 q737
theorem lkX1_9 : GoodIn lw_all (wsV RX1 9 RX9 yX9_ofTheDay (ws_ yX9_ofTheDay cX9_ofTheDay 4 (some .int))) := lw_V q1468 q1469 q1470 q131 q1471
theorem lkX3_111 : GoodIn lw_all (wsV RX3 111 RX6 yX6_many (ws_ yX6_many cX6_many 1 (some .int))) := lw_V q1754 q713 q714 q110 q715
theorem lkX3_116 : GoodIn lw_all (wsV RX3 116 RX3 yX3_counts (ws_ yX3_counts cX3_counts 3 none)) := lw_V q1860 q1862 qs38 q104 q1863
theorem lkX3_97 : GoodIn lw_all (wsV RX3 97 RJ2 yJ2_size (ws_ yJ2_size cJ2_size 1 (some .int))) := lw_V q1834 q717 q718 q107 q719
theorem lkX3_101 : GoodIn lw_all (wsV RX3 101 RJ2 yJ2_get (ws_ yJ2_get cJ2_get 2 (some (.object "java/lang/Object")))) := lw_V q1835 q739 q740 q107 q741
theorem lkX3_124 : GoodIn lw_all (wsV RX3 124 RX10 yX10_time (ws_ yX10_time cX10_time 1 (some .int))) := lw_V q1847 q1402 q1403 q138 q1404
theorem lkX3_207 : GoodIn lw_all (wsV RX3 207 RX3 yX3_waitsFor (ws_ yX3_waitsFor cX3_waitsFor 4 (some .boolean))) := lw_V q1815 q1486 q1487 q104 q1488
theorem lkX3_211 : GoodIn lw_all (wsV RX3 211 RX6 yX6_board (ws_ yX6_board cX6_board 2 (some (.object "OpenLines$Board")))) := lw_V q1824 q735 q736 q110 q737
theorem lkX3_234 : GoodIn lw_all (wsV RX3 234 RX9 yX9_ofTheDay (ws_ yX9_ofTheDay cX9_ofTheDay 4 (some .int))) := lw_V q1925 q1469 q1470 q131 q1471
theorem lkX3_264 : GoodIn lw_all (wsV RX3 264 RX3 yX3_past (ws_ yX3_past cX3_past 2 (some .int))) := lw_V q1806 q1794 q1795 q104 q1796
theorem lkX3_255 : GoodIn lw_all (wsV RX3 255 RX3 yX3_asking (ws_ yX3_asking cX3_asking 3 (some .int))) := lw_V q1750 q1751 q1752 q104 q1753
theorem ol_rr_X1_firstWord_X1_withParity : ol_rr ({ frames := 1, cells := 0, slots := 0, locals := 20 } : Room) ({ frames := 5, cells := 0, slots := 0, locals := 123 } : Room) 1 := ⟨Nat.le_of_ble_eq_true rfl, Nat.le_of_ble_eq_true rfl⟩
theorem ol_rr_X1_firstWord_X9_ofTheDay : ol_rr ({ frames := 4, cells := 0, slots := 0, locals := 100 } : Room) ({ frames := 5, cells := 0, slots := 0, locals := 123 } : Room) 4 := ⟨Nat.le_of_ble_eq_true rfl, Nat.le_of_ble_eq_true rfl⟩
theorem ol_rr_X3_hears_X3_counts : ol_rr ({ frames := 0, cells := 0, slots := 0, locals := 0 } : Room) ({ frames := 1, cells := 0, slots := 0, locals := 22 } : Room) 3 := ⟨Nat.le_of_ble_eq_true rfl, Nat.le_of_ble_eq_true rfl⟩
theorem ol_rr_X3_idle_X3_past : ol_rr ({ frames := 0, cells := 0, slots := 0, locals := 0 } : Room) ({ frames := 1, cells := 0, slots := 0, locals := 21 } : Room) 2 := ⟨Nat.le_of_ble_eq_true rfl, Nat.le_of_ble_eq_true rfl⟩
theorem ol_rr_X3_is_X3_asking : ol_rr ({ frames := 2, cells := 0, slots := 0, locals := 40 } : Room) ({ frames := 3, cells := 0, slots := 0, locals := 62 } : Room) 3 := ⟨Nat.le_of_ble_eq_true rfl, Nat.le_of_ble_eq_true rfl⟩
theorem ol_rr_X3_isMaster_X3_counts : ol_rr ({ frames := 0, cells := 0, slots := 0, locals := 0 } : Room) ({ frames := 1, cells := 0, slots := 0, locals := 22 } : Room) 3 := ⟨Nat.le_of_ble_eq_true rfl, Nat.le_of_ble_eq_true rfl⟩
theorem ol_rr_X3_isPressed_X9_ofTheDay : ol_rr ({ frames := 4, cells := 0, slots := 0, locals := 100 } : Room) ({ frames := 5, cells := 0, slots := 0, locals := 123 } : Room) 4 := ⟨Nat.le_of_ble_eq_true rfl, Nat.le_of_ble_eq_true rfl⟩
theorem ol_rr_X3_waiting_X3_waitsFor : ol_rr ({ frames := 0, cells := 0, slots := 0, locals := 0 } : Room) ({ frames := 2, cells := 0, slots := 0, locals := 40 } : Room) 4 := ⟨Nat.le_of_ble_eq_true rfl, Nat.le_of_ble_eq_true rfl⟩
theorem ol_rr_X9_ofTheDay_X3_waitsFor : ol_rr ({ frames := 0, cells := 0, slots := 0, locals := 0 } : Room) ({ frames := 4, cells := 0, slots := 0, locals := 100 } : Room) 4 := ⟨Nat.le_of_ble_eq_true rfl, Nat.le_of_ble_eq_true rfl⟩
