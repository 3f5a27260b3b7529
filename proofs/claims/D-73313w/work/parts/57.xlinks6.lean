/-! links (printed) -/
set_option maxRecDepth 100000
theorem ol_sw7 {x : Int32} (h0 : ¬ x = 0) (h1 : ¬ x = 1) (h2 : ¬ x = 2) (h3 : ¬ x = 3) (h4 : ¬ x = 4) (h5 : ¬ x = 5) (h6 : ¬ x = 6) : x.toInt < 0 ∨ 6 < x.toInt := by
  have key : ∀ (k : Int32), ¬ x = k → ¬ x.toInt = k.toInt := fun k h e => h (Int32.toInt_inj.mp e)
  have e0 : ¬ x.toInt = 0 := key 0 h0
  have e1 : ¬ x.toInt = 1 := key 1 h1
  have e2 : ¬ x.toInt = 2 := key 2 h2
  have e3 : ¬ x.toInt = 3 := key 3 h3
  have e4 : ¬ x.toInt = 4 := key 4 h4
  have e5 : ¬ x.toInt = 5 := key 5 h5
  have e6 : ¬ x.toInt = 6 := key 6 h6
  omega
theorem dcX1_isBoard : yX1_isBoard.cls = RX1 ∧ ol_dc yX1_isBoard 1 := by decide +kernel
theorem dcX1_isSet : yX1_isSet.cls = RX1 ∧ ol_dc yX1_isSet 1 := by decide +kernel
theorem dcX1_refuses : yX1_refuses.cls = RX1 ∧ ol_dc yX1_refuses 4 := by decide +kernel
theorem dcX1_about : yX1_about.cls = RX1 ∧ ol_dc yX1_about 1 := by decide +kernel
theorem dcX1_board : yX1_board.cls = RX1 ∧ ol_dc yX1_board 2 := by decide +kernel
theorem dcX1_word : yX1_word.cls = RX1 ∧ ol_dc yX1_word 2 := by decide +kernel
theorem dcX1_passOf : yX1_passOf.cls = RX1 ∧ ol_dc yX1_passOf 3 := by decide +kernel
theorem dcX1_drives : yX1_drives.cls = RX1 ∧ ol_dc yX1_drives 4 := by decide +kernel
theorem dcX1_seen : yX1_seen.cls = RX1 ∧ ol_dc yX1_seen 4 := by decide +kernel
theorem dcX1_taken : yX1_taken.cls = RX1 ∧ ol_dc yX1_taken 4 := by decide +kernel
theorem dcX1_withdrawn : yX1_withdrawn.cls = RX1 ∧ ol_dc yX1_withdrawn 4 := by decide +kernel
theorem dcX1_winners : yX1_winners.cls = RX1 ∧ ol_dc yX1_winners 3 := by decide +kernel
theorem dcX1_settles : yX1_settles.cls = RX1 ∧ ol_dc yX1_settles 2 := by decide +kernel
theorem dcX1_sure : yX1_sure.cls = RX1 ∧ ol_dc yX1_sure 2 := by decide +kernel
theorem dcX1_right : yX1_right.cls = RX1 ∧ ol_dc yX1_right 2 := by decide +kernel
theorem dcX1_dips : yX1_dips.cls = RX1 ∧ ol_dc yX1_dips 2 := by decide +kernel
theorem dcX1_faulty : yX1_faulty.cls = RX1 ∧ ol_dc yX1_faulty 3 := by decide +kernel
theorem dcX1_edges : yX1_edges.cls = RX1 ∧ ol_dc yX1_edges 4 := by decide +kernel
theorem dcX1_filters : yX1_filters.cls = RX1 ∧ ol_dc yX1_filters 2 := by decide +kernel
theorem dcX1_slowest : yX1_slowest.cls = RX1 ∧ ol_dc yX1_slowest 1 := by decide +kernel
theorem dcX1_settled : yX1_settled.cls = RX1 ∧ ol_dc yX1_settled 2 := by decide +kernel
theorem dcX1_enough : yX1_enough.cls = RX1 ∧ ol_dc yX1_enough 1 := by decide +kernel
theorem dcX1_would : yX1_would.cls = RX1 ∧ ol_dc yX1_would 1 := by decide +kernel
theorem dcX1_now : yX1_now.cls = RX1 ∧ ol_dc yX1_now 1 := by decide +kernel
theorem dcX1_ledger : yX1_ledger.cls = RX1 ∧ ol_dc yX1_ledger 2 := by decide +kernel
theorem dcX1_past : yX1_past.cls = RX1 ∧ ol_dc yX1_past 1 := by decide +kernel
theorem dcX1_idle : yX1_idle.cls = RX1 ∧ ol_dc yX1_idle 0 := by decide +kernel
theorem dcX1_waiting : yX1_waiting.cls = RX1 ∧ ol_dc yX1_waiting 1 := by decide +kernel
theorem dcX1_longest : yX1_longest.cls = RX1 ∧ ol_dc yX1_longest 0 := by decide +kernel
theorem dcX1_ask : yX1_ask.cls = RX1 ∧ ol_dc yX1_ask 2 := by decide +kernel
theorem dcX1_waits : yX1_waits.cls = RX1 ∧ ol_dc yX1_waits 2 := by decide +kernel
theorem dcX1_stick : yX1_stick.cls = RX1 ∧ ol_dc yX1_stick 2 := by decide +kernel
theorem dcX1_size : yX1_size.cls = RX1 ∧ ol_dc yX1_size 1 := by decide +kernel
theorem lkX1_119 : GoodIn lw_all (wsV RX1 119 RX6 yX6_many (ws_ yX6_many cX6_many 1 (some .int))) := lw_V q1435 q713 q714 q110 q715
theorem lkX1_190 : GoodIn lw_all (va_wsS RX1 190 yX1_isPass (ws_ yX1_isPass cX1_isPass 1 (some .boolean))) := lw_S q1512 q1513 q102 q1514
theorem lkX1_203 : GoodIn lw_all (wsV RX1 203 RX1 yX1_isSet (ws_ yX1_isSet cX1_isSet 2 (some .boolean))) := lw_V q1578 q1580 qs31 q102 q1581
theorem lkX1_125 : GoodIn lw_all (wsV RX1 125 RX1 yX1_fine (ws_ yX1_fine cX1_fine 2 (some .int))) := lw_V q1436 q1438 qs27 q102 q1439
theorem lkX1_141 : GoodIn lw_all (wsV RX1 141 RJ2 yJ2_size (ws_ yJ2_size cJ2_size 1 (some .int))) := lw_V q1452 q717 q718 q107 q719
theorem lkX1_81 : GoodIn lw_all (wsV RX1 81 RX1 yX1_refused (ws_ yX1_refused cX1_refused 2 (some .int))) := lw_V q399 q401 qs1 q102 q402
theorem lkX1_149 : GoodIn lw_all (wsV RX1 149 RX1 yX1_isBoard (ws_ yX1_isBoard cX1_isBoard 2 (some .boolean))) := lw_V q1457 q1459 qs28 q102 q1460
theorem lkX1_153 : GoodIn lw_all (wsV RX1 153 RX6 yX6_board (ws_ yX6_board cX6_board 2 (some (.object "OpenLines$Board")))) := lw_V q1461 q735 q736 q110 q737
theorem lkX1_193 : GoodIn lw_all (wsV RX1 193 RX1 yX1_wordsOf (ws_ yX1_wordsOf cX1_wordsOf 2 (some (.object "OpenLines$Word")))) := lw_V q1515 q1517 qs29 q102 q1518
theorem lkX1_215 : GoodIn lw_all (wsV RX1 215 RX2 yX2_goes (ws_ yX2_goes cX2_goes 6 (some (.object "OpenLines$Pass")))) := lw_V q1586 q1587 q1588 q103 q1589
theorem lkX1_219 : GoodIn lw_all (wsV RX1 219 RX1 yX1_refuses (ws_ yX1_refuses cX1_refuses 5 (some .int))) := lw_V q1574 q1576 qs30 q102 q1577
theorem lkX1_223 : GoodIn lw_all (wsV RX1 223 RX1 yX1_passOf (ws_ yX1_passOf cX1_passOf 4 (some (.object "OpenLines$Pass")))) := lw_V q1582 q1584 qs32 q102 q1585
theorem lkX1_239 : GoodIn lw_all (wsV RX1 239 RX2 yX2_winners (ws_ yX2_winners cX2_winners 4 (some .int))) := lw_V q1646 q1647 q1648 q103 q1649
theorem lkX1_242 : GoodIn lw_all (wsV RX1 242 RX2 yX2_settles (ws_ yX2_settles cX2_settles 3 (some .int))) := lw_V q1654 q1655 q1656 q103 q1657
theorem lkX1_245 : GoodIn lw_all (wsV RX1 245 RX2 yX2_sure (ws_ yX2_sure cX2_sure 3 (some .int))) := lw_V q1662 q1663 q1664 q103 q1665
theorem lkX1_248 : GoodIn lw_all (wsV RX1 248 RX2 yX2_right (ws_ yX2_right cX2_right 4 (some .int))) := lw_V q1675 q1667 q1668 q103 q1669
theorem lkX1_254 : GoodIn lw_all (wsV RX1 254 RX2 yX2_isFaulty (ws_ yX2_isFaulty cX2_isFaulty 3 (some .boolean))) := lw_V q1684 q1685 q1686 q103 q1687
theorem lkX1_257 : GoodIn lw_all (wsV RX1 257 RX2 yX2_edges (ws_ yX2_edges cX2_edges 5 (some .int))) := lw_V q1693 q1694 q1695 q103 q1696
theorem lkX1_261 : GoodIn lw_all (wsV RX1 261 RX2 yX2_goes_2 (ws_ yX2_goes_2 cX2_goes_2 9 (some (.object "OpenLines$Pass")))) := lw_V q1701 q1591 q1592 q103 q1593
theorem lkX1_112 : GoodIn lw_all (wsV RX1 112 RX1 yX1_forgets (ws_ yX1_forgets cX1_forgets 1 none)) := lw_V q1431 q1433 qs26 q102 q1434
theorem lkX1_269 : GoodIn lw_all (wsV RX1 269 RX3 yX3_passes (ws_ yX3_passes cX3_passes 5 (some .int))) := lw_V q1719 q1720 q1721 q104 q1722
theorem lkX1_273 : GoodIn lw_all (va_wsS RX1 273 yX1_isWhat (ws_ yX1_isWhat cX1_isWhat 1 (some .boolean))) := lw_S q1743 q1744 q102 q1745
theorem lkX1_276 : GoodIn lw_all (wsV RX1 276 RX3 yX3_is (ws_ yX3_is cX3_is 2 (some .int))) := lw_V q1746 q1747 q1748 q104 q1749
theorem lkX1_307 : GoodIn lw_all (wsV RX1 307 RX3 yX3_past (ws_ yX3_past cX3_past 2 (some .int))) := lw_V q1793 q1794 q1795 q104 q1796
theorem lkX1_310 : GoodIn lw_all (wsV RX1 310 RX3 yX3_idle (ws_ yX3_idle cX3_idle 3 (some .int))) := lw_V q1801 q1802 q1803 q104 q1804
theorem lkX1_313 : GoodIn lw_all (wsV RX1 313 RX3 yX3_waiting (ws_ yX3_waiting cX3_waiting 4 (some .int))) := lw_V q1811 q1812 q1813 q104 q1814
theorem lkX1_316 : GoodIn lw_all (wsV RX1 316 RX3 yX3_longest (ws_ yX3_longest cX3_longest 3 (some .int))) := lw_V q1820 q1821 q1822 q104 q1823
theorem lkX1_325 : GoodIn lw_all (wsV RX1 325 RX3 yX3_hears (ws_ yX3_hears cX3_hears 3 (some .boolean))) := lw_V q2072 q1857 q1858 q104 q1859
theorem lkX1_329 : GoodIn lw_all (wsV RX1 329 RX3 yX3_asking (ws_ yX3_asking cX3_asking 3 (some .int))) := lw_V q2073 q1751 q1752 q104 q1753
theorem lkX1_332 : GoodIn lw_all (wsV RX1 332 RX3 yX3_waitsFor (ws_ yX3_waitsFor cX3_waitsFor 4 (some .boolean))) := lw_V q2078 q1486 q1487 q104 q1488
theorem lkX1_345 : GoodIn lw_all (wsV RX1 345 RX3 yX3_toCome (ws_ yX3_toCome cX3_toCome 3 (some .int))) := lw_V q2103 q2104 q2105 q104 q2106
theorem lkX1_348 : GoodIn lw_all (wsV RX1 348 RX1 yX1_unwhole (ws_ yX1_unwhole cX1_unwhole 3 (some .int))) := lw_V q2107 q2109 qs46 q102 q2110
theorem ol_rr_X1_about_X1_fine : ol_rr ({ frames := 0, cells := 0, slots := 0, locals := 0 } : Room) ({ frames := 2, cells := 0, slots := 0, locals := 40 } : Room) 2 := ⟨Nat.le_of_ble_eq_true rfl, Nat.le_of_ble_eq_true rfl⟩
theorem ol_rr_X1_about_X1_refused : ol_rr ({ frames := 0, cells := 0, slots := 0, locals := 0 } : Room) ({ frames := 2, cells := 0, slots := 0, locals := 40 } : Room) 2 := ⟨Nat.le_of_ble_eq_true rfl, Nat.le_of_ble_eq_true rfl⟩
theorem ol_rr_X1_ask_J14_bitCount : ol_rr ({ frames := 0, cells := 0, slots := 0, locals := 0 } : Room) ({ frames := 3, cells := 0, slots := 0, locals := 62 } : Room) 1 := ⟨Nat.le_of_ble_eq_true rfl, Nat.le_of_ble_eq_true rfl⟩
theorem ol_rr_X1_ask_X1_fine : ol_rr ({ frames := 0, cells := 0, slots := 0, locals := 0 } : Room) ({ frames := 3, cells := 0, slots := 0, locals := 62 } : Room) 2 := ⟨Nat.le_of_ble_eq_true rfl, Nat.le_of_ble_eq_true rfl⟩
theorem ol_rr_X1_ask_X1_isBoard : ol_rr ({ frames := 2, cells := 0, slots := 0, locals := 40 } : Room) ({ frames := 3, cells := 0, slots := 0, locals := 62 } : Room) 2 := ⟨Nat.le_of_ble_eq_true rfl, Nat.le_of_ble_eq_true rfl⟩
theorem ol_rr_X1_ask_X1_isIn : ol_rr ({ frames := 0, cells := 0, slots := 0, locals := 0 } : Room) ({ frames := 3, cells := 0, slots := 0, locals := 62 } : Room) 3 := ⟨Nat.le_of_ble_eq_true rfl, Nat.le_of_ble_eq_true rfl⟩
theorem ol_rr_X1_ask_X1_refused : ol_rr ({ frames := 0, cells := 0, slots := 0, locals := 0 } : Room) ({ frames := 3, cells := 0, slots := 0, locals := 62 } : Room) 2 := ⟨Nat.le_of_ble_eq_true rfl, Nat.le_of_ble_eq_true rfl⟩
theorem ol_rr_X1_ask_X3_asking : ol_rr ({ frames := 2, cells := 0, slots := 0, locals := 40 } : Room) ({ frames := 3, cells := 0, slots := 0, locals := 62 } : Room) 3 := ⟨Nat.le_of_ble_eq_true rfl, Nat.le_of_ble_eq_true rfl⟩
theorem ol_rr_X1_ask_X3_hears : ol_rr ({ frames := 1, cells := 0, slots := 0, locals := 22 } : Room) ({ frames := 3, cells := 0, slots := 0, locals := 62 } : Room) 3 := ⟨Nat.le_of_ble_eq_true rfl, Nat.le_of_ble_eq_true rfl⟩
theorem ol_rr_X1_board_X1_fine : ol_rr ({ frames := 0, cells := 0, slots := 0, locals := 0 } : Room) ({ frames := 5, cells := 0, slots := 0, locals := 123 } : Room) 2 := ⟨Nat.le_of_ble_eq_true rfl, Nat.le_of_ble_eq_true rfl⟩
theorem ol_rr_X1_board_X1_isBoard : ol_rr ({ frames := 2, cells := 0, slots := 0, locals := 40 } : Room) ({ frames := 5, cells := 0, slots := 0, locals := 123 } : Room) 2 := ⟨Nat.le_of_ble_eq_true rfl, Nat.le_of_ble_eq_true rfl⟩
theorem ol_rr_X1_board_X1_refused : ol_rr ({ frames := 0, cells := 0, slots := 0, locals := 0 } : Room) ({ frames := 5, cells := 0, slots := 0, locals := 123 } : Room) 2 := ⟨Nat.le_of_ble_eq_true rfl, Nat.le_of_ble_eq_true rfl⟩
theorem ol_rr_X1_board_X9_ofTheDay : ol_rr ({ frames := 4, cells := 0, slots := 0, locals := 100 } : Room) ({ frames := 5, cells := 0, slots := 0, locals := 123 } : Room) 4 := ⟨Nat.le_of_ble_eq_true rfl, Nat.le_of_ble_eq_true rfl⟩
theorem ol_rr_X1_dips_X1_fine : ol_rr ({ frames := 0, cells := 0, slots := 0, locals := 0 } : Room) ({ frames := 15, cells := 1, slots := 2, locals := 676 } : Room) 2 := ⟨Nat.le_of_ble_eq_true rfl, Nat.le_of_ble_eq_true rfl⟩
theorem ol_rr_X1_dips_X1_passOf : ol_rr ({ frames := 14, cells := 1, slots := 2, locals := 653 } : Room) ({ frames := 15, cells := 1, slots := 2, locals := 676 } : Room) 4 := ⟨Nat.le_of_ble_eq_true rfl, Nat.le_of_ble_eq_true rfl⟩
theorem ol_rr_X1_dips_X1_refused : ol_rr ({ frames := 0, cells := 0, slots := 0, locals := 0 } : Room) ({ frames := 15, cells := 1, slots := 2, locals := 676 } : Room) 2 := ⟨Nat.le_of_ble_eq_true rfl, Nat.le_of_ble_eq_true rfl⟩
theorem ol_rr_X1_dips_X1_refuses : ol_rr ({ frames := 3, cells := 0, slots := 0, locals := 61 } : Room) ({ frames := 15, cells := 1, slots := 2, locals := 676 } : Room) 5 := ⟨Nat.le_of_ble_eq_true rfl, Nat.le_of_ble_eq_true rfl⟩
theorem ol_rr_X1_drives_X1_fine : ol_rr ({ frames := 0, cells := 0, slots := 0, locals := 0 } : Room) ({ frames := 15, cells := 1, slots := 2, locals := 676 } : Room) 2 := ⟨Nat.le_of_ble_eq_true rfl, Nat.le_of_ble_eq_true rfl⟩
theorem ol_rr_X1_drives_X1_isBoard : ol_rr ({ frames := 2, cells := 0, slots := 0, locals := 40 } : Room) ({ frames := 15, cells := 1, slots := 2, locals := 676 } : Room) 2 := ⟨Nat.le_of_ble_eq_true rfl, Nat.le_of_ble_eq_true rfl⟩
theorem ol_rr_X1_drives_X1_passOf : ol_rr ({ frames := 14, cells := 1, slots := 2, locals := 653 } : Room) ({ frames := 15, cells := 1, slots := 2, locals := 676 } : Room) 4 := ⟨Nat.le_of_ble_eq_true rfl, Nat.le_of_ble_eq_true rfl⟩
theorem ol_rr_X1_drives_X1_refused : ol_rr ({ frames := 0, cells := 0, slots := 0, locals := 0 } : Room) ({ frames := 15, cells := 1, slots := 2, locals := 676 } : Room) 2 := ⟨Nat.le_of_ble_eq_true rfl, Nat.le_of_ble_eq_true rfl⟩
theorem ol_rr_X1_drives_X1_refuses : ol_rr ({ frames := 3, cells := 0, slots := 0, locals := 61 } : Room) ({ frames := 15, cells := 1, slots := 2, locals := 676 } : Room) 5 := ⟨Nat.le_of_ble_eq_true rfl, Nat.le_of_ble_eq_true rfl⟩
theorem ol_rr_X1_edges_X1_fine : ol_rr ({ frames := 0, cells := 0, slots := 0, locals := 0 } : Room) ({ frames := 15, cells := 1, slots := 2, locals := 676 } : Room) 2 := ⟨Nat.le_of_ble_eq_true rfl, Nat.le_of_ble_eq_true rfl⟩
theorem ol_rr_X1_edges_X1_isBoard : ol_rr ({ frames := 2, cells := 0, slots := 0, locals := 40 } : Room) ({ frames := 15, cells := 1, slots := 2, locals := 676 } : Room) 2 := ⟨Nat.le_of_ble_eq_true rfl, Nat.le_of_ble_eq_true rfl⟩
theorem ol_rr_X1_edges_X1_isIn : ol_rr ({ frames := 0, cells := 0, slots := 0, locals := 0 } : Room) ({ frames := 15, cells := 1, slots := 2, locals := 676 } : Room) 3 := ⟨Nat.le_of_ble_eq_true rfl, Nat.le_of_ble_eq_true rfl⟩
theorem ol_rr_X1_edges_X1_passOf : ol_rr ({ frames := 14, cells := 1, slots := 2, locals := 653 } : Room) ({ frames := 15, cells := 1, slots := 2, locals := 676 } : Room) 4 := ⟨Nat.le_of_ble_eq_true rfl, Nat.le_of_ble_eq_true rfl⟩
theorem ol_rr_X1_edges_X1_refused : ol_rr ({ frames := 0, cells := 0, slots := 0, locals := 0 } : Room) ({ frames := 15, cells := 1, slots := 2, locals := 676 } : Room) 2 := ⟨Nat.le_of_ble_eq_true rfl, Nat.le_of_ble_eq_true rfl⟩
theorem ol_rr_X1_edges_X1_refuses : ol_rr ({ frames := 3, cells := 0, slots := 0, locals := 61 } : Room) ({ frames := 15, cells := 1, slots := 2, locals := 676 } : Room) 5 := ⟨Nat.le_of_ble_eq_true rfl, Nat.le_of_ble_eq_true rfl⟩
theorem ol_rr_X1_edges_X2_edges : ol_rr ({ frames := 1, cells := 0, slots := 0, locals := 21 } : Room) ({ frames := 15, cells := 1, slots := 2, locals := 676 } : Room) 5 := ⟨Nat.le_of_ble_eq_true rfl, Nat.le_of_ble_eq_true rfl⟩
theorem ol_rr_X1_enough_X1_fine : ol_rr ({ frames := 0, cells := 0, slots := 0, locals := 0 } : Room) ({ frames := 15, cells := 65, slots := 130, locals := 676 } : Room) 2 := ⟨Nat.le_of_ble_eq_true rfl, Nat.le_of_ble_eq_true rfl⟩
theorem ol_rr_X1_enough_X1_passOf : ol_rr ({ frames := 14, cells := 1, slots := 2, locals := 653 } : Room) ({ frames := 15, cells := 65, slots := 130, locals := 676 } : Room) 4 := ⟨Nat.le_of_ble_eq_true rfl, Nat.le_of_ble_eq_true rfl⟩
theorem ol_rr_X1_enough_X1_refused : ol_rr ({ frames := 0, cells := 0, slots := 0, locals := 0 } : Room) ({ frames := 15, cells := 65, slots := 130, locals := 676 } : Room) 2 := ⟨Nat.le_of_ble_eq_true rfl, Nat.le_of_ble_eq_true rfl⟩
theorem ol_rr_X1_enough_X1_refuses : ol_rr ({ frames := 3, cells := 0, slots := 0, locals := 61 } : Room) ({ frames := 15, cells := 65, slots := 130, locals := 676 } : Room) 5 := ⟨Nat.le_of_ble_eq_true rfl, Nat.le_of_ble_eq_true rfl⟩
theorem ol_rr_X1_enough_X2_sure : ol_rr ({ frames := 3, cells := 0, slots := 0, locals := 63 } : Room) ({ frames := 15, cells := 65, slots := 130, locals := 676 } : Room) 3 := ⟨Nat.le_of_ble_eq_true rfl, Nat.le_of_ble_eq_true rfl⟩
theorem ol_rr_X1_faulty_X1_fine : ol_rr ({ frames := 0, cells := 0, slots := 0, locals := 0 } : Room) ({ frames := 15, cells := 1, slots := 2, locals := 676 } : Room) 2 := ⟨Nat.le_of_ble_eq_true rfl, Nat.le_of_ble_eq_true rfl⟩
theorem ol_rr_X1_faulty_X1_passOf : ol_rr ({ frames := 14, cells := 1, slots := 2, locals := 653 } : Room) ({ frames := 15, cells := 1, slots := 2, locals := 676 } : Room) 4 := ⟨Nat.le_of_ble_eq_true rfl, Nat.le_of_ble_eq_true rfl⟩
theorem ol_rr_X1_faulty_X1_refused : ol_rr ({ frames := 0, cells := 0, slots := 0, locals := 0 } : Room) ({ frames := 15, cells := 1, slots := 2, locals := 676 } : Room) 2 := ⟨Nat.le_of_ble_eq_true rfl, Nat.le_of_ble_eq_true rfl⟩
theorem ol_rr_X1_faulty_X1_refuses : ol_rr ({ frames := 3, cells := 0, slots := 0, locals := 61 } : Room) ({ frames := 15, cells := 1, slots := 2, locals := 676 } : Room) 5 := ⟨Nat.le_of_ble_eq_true rfl, Nat.le_of_ble_eq_true rfl⟩
theorem ol_rr_X1_faulty_X2_isFaulty : ol_rr ({ frames := 2, cells := 0, slots := 0, locals := 40 } : Room) ({ frames := 15, cells := 1, slots := 2, locals := 676 } : Room) 3 := ⟨Nat.le_of_ble_eq_true rfl, Nat.le_of_ble_eq_true rfl⟩
theorem ol_rr_X1_filters_X1_fine : ol_rr ({ frames := 0, cells := 0, slots := 0, locals := 0 } : Room) ({ frames := 13, cells := 22, slots := 44, locals := 628 } : Room) 2 := ⟨Nat.le_of_ble_eq_true rfl, Nat.le_of_ble_eq_true rfl⟩
theorem ol_rr_X1_filters_X1_forgets : ol_rr ({ frames := 0, cells := 0, slots := 0, locals := 0 } : Room) ({ frames := 13, cells := 22, slots := 44, locals := 628 } : Room) 1 := ⟨Nat.le_of_ble_eq_true rfl, Nat.le_of_ble_eq_true rfl⟩
theorem ol_rr_X1_filters_X1_refused : ol_rr ({ frames := 0, cells := 0, slots := 0, locals := 0 } : Room) ({ frames := 13, cells := 22, slots := 44, locals := 628 } : Room) 2 := ⟨Nat.le_of_ble_eq_true rfl, Nat.le_of_ble_eq_true rfl⟩
theorem ol_rr_X1_filters_X1_refuses : ol_rr ({ frames := 3, cells := 0, slots := 0, locals := 61 } : Room) ({ frames := 13, cells := 22, slots := 44, locals := 628 } : Room) 5 := ⟨Nat.le_of_ble_eq_true rfl, Nat.le_of_ble_eq_true rfl⟩
theorem ol_rr_X1_filters_X2_goes_2 : ol_rr ({ frames := 12, cells := 0, slots := 0, locals := 600 } : Room) ({ frames := 13, cells := 22, slots := 44, locals := 628 } : Room) 9 := ⟨Nat.le_of_ble_eq_true rfl, Nat.le_of_ble_eq_true rfl⟩
theorem ol_rr_X1_filters_X2_sure : ol_rr ({ frames := 3, cells := 0, slots := 0, locals := 63 } : Room) ({ frames := 13, cells := 22, slots := 44, locals := 628 } : Room) 3 := ⟨Nat.le_of_ble_eq_true rfl, Nat.le_of_ble_eq_true rfl⟩
theorem ol_rr_X1_idle_X1_fine : ol_rr ({ frames := 0, cells := 0, slots := 0, locals := 0 } : Room) ({ frames := 2, cells := 0, slots := 0, locals := 43 } : Room) 2 := ⟨Nat.le_of_ble_eq_true rfl, Nat.le_of_ble_eq_true rfl⟩
theorem ol_rr_X1_idle_X3_idle : ol_rr ({ frames := 1, cells := 0, slots := 0, locals := 21 } : Room) ({ frames := 2, cells := 0, slots := 0, locals := 43 } : Room) 3 := ⟨Nat.le_of_ble_eq_true rfl, Nat.le_of_ble_eq_true rfl⟩
theorem ol_rr_X1_isBoard_X1_isIn : ol_rr ({ frames := 0, cells := 0, slots := 0, locals := 0 } : Room) ({ frames := 2, cells := 0, slots := 0, locals := 40 } : Room) 3 := ⟨Nat.le_of_ble_eq_true rfl, Nat.le_of_ble_eq_true rfl⟩
theorem ol_rr_X1_isSet_X1_isIn : ol_rr ({ frames := 0, cells := 0, slots := 0, locals := 0 } : Room) ({ frames := 2, cells := 0, slots := 0, locals := 40 } : Room) 3 := ⟨Nat.le_of_ble_eq_true rfl, Nat.le_of_ble_eq_true rfl⟩
theorem ol_rr_X1_ledger_X1_fine : ol_rr ({ frames := 0, cells := 0, slots := 0, locals := 0 } : Room) ({ frames := 3, cells := 0, slots := 0, locals := 61 } : Room) 2 := ⟨Nat.le_of_ble_eq_true rfl, Nat.le_of_ble_eq_true rfl⟩
theorem ol_rr_X1_ledger_X1_isBoard : ol_rr ({ frames := 2, cells := 0, slots := 0, locals := 40 } : Room) ({ frames := 3, cells := 0, slots := 0, locals := 61 } : Room) 2 := ⟨Nat.le_of_ble_eq_true rfl, Nat.le_of_ble_eq_true rfl⟩
theorem ol_rr_X1_ledger_X1_isIn : ol_rr ({ frames := 0, cells := 0, slots := 0, locals := 0 } : Room) ({ frames := 3, cells := 0, slots := 0, locals := 61 } : Room) 3 := ⟨Nat.le_of_ble_eq_true rfl, Nat.le_of_ble_eq_true rfl⟩
theorem ol_rr_X1_ledger_X1_refused : ol_rr ({ frames := 0, cells := 0, slots := 0, locals := 0 } : Room) ({ frames := 3, cells := 0, slots := 0, locals := 61 } : Room) 2 := ⟨Nat.le_of_ble_eq_true rfl, Nat.le_of_ble_eq_true rfl⟩
theorem ol_rr_X1_longest_X1_fine : ol_rr ({ frames := 0, cells := 0, slots := 0, locals := 0 } : Room) ({ frames := 5, cells := 0, slots := 0, locals := 107 } : Room) 2 := ⟨Nat.le_of_ble_eq_true rfl, Nat.le_of_ble_eq_true rfl⟩
theorem ol_rr_X1_longest_X3_longest : ol_rr ({ frames := 4, cells := 0, slots := 0, locals := 85 } : Room) ({ frames := 5, cells := 0, slots := 0, locals := 107 } : Room) 3 := ⟨Nat.le_of_ble_eq_true rfl, Nat.le_of_ble_eq_true rfl⟩
theorem ol_rr_X1_now_X1_fine : ol_rr ({ frames := 0, cells := 0, slots := 0, locals := 0 } : Room) ({ frames := 4, cells := 0, slots := 0, locals := 83 } : Room) 2 := ⟨Nat.le_of_ble_eq_true rfl, Nat.le_of_ble_eq_true rfl⟩
theorem ol_rr_X1_now_X1_isWhat : ol_rr ({ frames := 1, cells := 0, slots := 0, locals := 22 } : Room) ({ frames := 4, cells := 0, slots := 0, locals := 83 } : Room) 1 := ⟨Nat.le_of_ble_eq_true rfl, Nat.le_of_ble_eq_true rfl⟩
theorem ol_rr_X1_now_X1_refused : ol_rr ({ frames := 0, cells := 0, slots := 0, locals := 0 } : Room) ({ frames := 4, cells := 0, slots := 0, locals := 83 } : Room) 2 := ⟨Nat.le_of_ble_eq_true rfl, Nat.le_of_ble_eq_true rfl⟩
theorem ol_rr_X1_now_X3_is : ol_rr ({ frames := 3, cells := 0, slots := 0, locals := 62 } : Room) ({ frames := 4, cells := 0, slots := 0, locals := 83 } : Room) 2 := ⟨Nat.le_of_ble_eq_true rfl, Nat.le_of_ble_eq_true rfl⟩
theorem ol_rr_X1_passOf_X2_goes : ol_rr ({ frames := 13, cells := 0, slots := 0, locals := 628 } : Room) ({ frames := 14, cells := 1, slots := 2, locals := 653 } : Room) 6 := ⟨Nat.le_of_ble_eq_true rfl, Nat.le_of_ble_eq_true rfl⟩
theorem ol_rr_X1_past_X1_fine : ol_rr ({ frames := 0, cells := 0, slots := 0, locals := 0 } : Room) ({ frames := 1, cells := 0, slots := 0, locals := 22 } : Room) 2 := ⟨Nat.le_of_ble_eq_true rfl, Nat.le_of_ble_eq_true rfl⟩
theorem ol_rr_X1_past_X1_isIn : ol_rr ({ frames := 0, cells := 0, slots := 0, locals := 0 } : Room) ({ frames := 1, cells := 0, slots := 0, locals := 22 } : Room) 3 := ⟨Nat.le_of_ble_eq_true rfl, Nat.le_of_ble_eq_true rfl⟩
theorem ol_rr_X1_past_X1_refused : ol_rr ({ frames := 0, cells := 0, slots := 0, locals := 0 } : Room) ({ frames := 1, cells := 0, slots := 0, locals := 22 } : Room) 2 := ⟨Nat.le_of_ble_eq_true rfl, Nat.le_of_ble_eq_true rfl⟩
theorem ol_rr_X1_past_X3_past : ol_rr ({ frames := 0, cells := 0, slots := 0, locals := 0 } : Room) ({ frames := 1, cells := 0, slots := 0, locals := 22 } : Room) 2 := ⟨Nat.le_of_ble_eq_true rfl, Nat.le_of_ble_eq_true rfl⟩
theorem ol_rr_X1_refuses_X1_isIn : ol_rr ({ frames := 0, cells := 0, slots := 0, locals := 0 } : Room) ({ frames := 3, cells := 0, slots := 0, locals := 61 } : Room) 3 := ⟨Nat.le_of_ble_eq_true rfl, Nat.le_of_ble_eq_true rfl⟩
theorem ol_rr_X1_refuses_X1_isPass : ol_rr ({ frames := 1, cells := 0, slots := 0, locals := 22 } : Room) ({ frames := 3, cells := 0, slots := 0, locals := 61 } : Room) 1 := ⟨Nat.le_of_ble_eq_true rfl, Nat.le_of_ble_eq_true rfl⟩
theorem ol_rr_X1_refuses_X1_isSet : ol_rr ({ frames := 2, cells := 0, slots := 0, locals := 40 } : Room) ({ frames := 3, cells := 0, slots := 0, locals := 61 } : Room) 2 := ⟨Nat.le_of_ble_eq_true rfl, Nat.le_of_ble_eq_true rfl⟩
theorem ol_rr_X1_right_X1_fine : ol_rr ({ frames := 0, cells := 0, slots := 0, locals := 0 } : Room) ({ frames := 15, cells := 1, slots := 2, locals := 676 } : Room) 2 := ⟨Nat.le_of_ble_eq_true rfl, Nat.le_of_ble_eq_true rfl⟩
theorem ol_rr_X1_right_X1_passOf : ol_rr ({ frames := 14, cells := 1, slots := 2, locals := 653 } : Room) ({ frames := 15, cells := 1, slots := 2, locals := 676 } : Room) 4 := ⟨Nat.le_of_ble_eq_true rfl, Nat.le_of_ble_eq_true rfl⟩
theorem ol_rr_X1_right_X1_refused : ol_rr ({ frames := 0, cells := 0, slots := 0, locals := 0 } : Room) ({ frames := 15, cells := 1, slots := 2, locals := 676 } : Room) 2 := ⟨Nat.le_of_ble_eq_true rfl, Nat.le_of_ble_eq_true rfl⟩
theorem ol_rr_X1_right_X1_refuses : ol_rr ({ frames := 3, cells := 0, slots := 0, locals := 61 } : Room) ({ frames := 15, cells := 1, slots := 2, locals := 676 } : Room) 5 := ⟨Nat.le_of_ble_eq_true rfl, Nat.le_of_ble_eq_true rfl⟩
theorem ol_rr_X1_right_X2_right : ol_rr ({ frames := 2, cells := 0, slots := 0, locals := 40 } : Room) ({ frames := 15, cells := 1, slots := 2, locals := 676 } : Room) 4 := ⟨Nat.le_of_ble_eq_true rfl, Nat.le_of_ble_eq_true rfl⟩
theorem ol_rr_X1_seen_X1_fine : ol_rr ({ frames := 0, cells := 0, slots := 0, locals := 0 } : Room) ({ frames := 15, cells := 1, slots := 2, locals := 676 } : Room) 2 := ⟨Nat.le_of_ble_eq_true rfl, Nat.le_of_ble_eq_true rfl⟩
theorem ol_rr_X1_seen_X1_isBoard : ol_rr ({ frames := 2, cells := 0, slots := 0, locals := 40 } : Room) ({ frames := 15, cells := 1, slots := 2, locals := 676 } : Room) 2 := ⟨Nat.le_of_ble_eq_true rfl, Nat.le_of_ble_eq_true rfl⟩
theorem ol_rr_X1_seen_X1_passOf : ol_rr ({ frames := 14, cells := 1, slots := 2, locals := 653 } : Room) ({ frames := 15, cells := 1, slots := 2, locals := 676 } : Room) 4 := ⟨Nat.le_of_ble_eq_true rfl, Nat.le_of_ble_eq_true rfl⟩
theorem ol_rr_X1_seen_X1_refused : ol_rr ({ frames := 0, cells := 0, slots := 0, locals := 0 } : Room) ({ frames := 15, cells := 1, slots := 2, locals := 676 } : Room) 2 := ⟨Nat.le_of_ble_eq_true rfl, Nat.le_of_ble_eq_true rfl⟩
theorem ol_rr_X1_seen_X1_refuses : ol_rr ({ frames := 3, cells := 0, slots := 0, locals := 61 } : Room) ({ frames := 15, cells := 1, slots := 2, locals := 676 } : Room) 5 := ⟨Nat.le_of_ble_eq_true rfl, Nat.le_of_ble_eq_true rfl⟩
theorem ol_rr_X1_settled_X1_fine : ol_rr ({ frames := 0, cells := 0, slots := 0, locals := 0 } : Room) ({ frames := 15, cells := 65, slots := 130, locals := 676 } : Room) 2 := ⟨Nat.le_of_ble_eq_true rfl, Nat.le_of_ble_eq_true rfl⟩
theorem ol_rr_X1_settled_X1_passOf : ol_rr ({ frames := 14, cells := 1, slots := 2, locals := 653 } : Room) ({ frames := 15, cells := 65, slots := 130, locals := 676 } : Room) 4 := ⟨Nat.le_of_ble_eq_true rfl, Nat.le_of_ble_eq_true rfl⟩
theorem ol_rr_X1_settled_X1_refused : ol_rr ({ frames := 0, cells := 0, slots := 0, locals := 0 } : Room) ({ frames := 15, cells := 65, slots := 130, locals := 676 } : Room) 2 := ⟨Nat.le_of_ble_eq_true rfl, Nat.le_of_ble_eq_true rfl⟩
theorem ol_rr_X1_settled_X1_refuses : ol_rr ({ frames := 3, cells := 0, slots := 0, locals := 61 } : Room) ({ frames := 15, cells := 65, slots := 130, locals := 676 } : Room) 5 := ⟨Nat.le_of_ble_eq_true rfl, Nat.le_of_ble_eq_true rfl⟩
theorem ol_rr_X1_settled_X2_settles : ol_rr ({ frames := 2, cells := 0, slots := 0, locals := 40 } : Room) ({ frames := 15, cells := 65, slots := 130, locals := 676 } : Room) 3 := ⟨Nat.le_of_ble_eq_true rfl, Nat.le_of_ble_eq_true rfl⟩
theorem ol_rr_X1_settles_X1_fine : ol_rr ({ frames := 0, cells := 0, slots := 0, locals := 0 } : Room) ({ frames := 15, cells := 1, slots := 2, locals := 676 } : Room) 2 := ⟨Nat.le_of_ble_eq_true rfl, Nat.le_of_ble_eq_true rfl⟩
theorem ol_rr_X1_settles_X1_passOf : ol_rr ({ frames := 14, cells := 1, slots := 2, locals := 653 } : Room) ({ frames := 15, cells := 1, slots := 2, locals := 676 } : Room) 4 := ⟨Nat.le_of_ble_eq_true rfl, Nat.le_of_ble_eq_true rfl⟩
theorem ol_rr_X1_settles_X1_refused : ol_rr ({ frames := 0, cells := 0, slots := 0, locals := 0 } : Room) ({ frames := 15, cells := 1, slots := 2, locals := 676 } : Room) 2 := ⟨Nat.le_of_ble_eq_true rfl, Nat.le_of_ble_eq_true rfl⟩
theorem ol_rr_X1_settles_X1_refuses : ol_rr ({ frames := 3, cells := 0, slots := 0, locals := 61 } : Room) ({ frames := 15, cells := 1, slots := 2, locals := 676 } : Room) 5 := ⟨Nat.le_of_ble_eq_true rfl, Nat.le_of_ble_eq_true rfl⟩
theorem ol_rr_X1_settles_X2_settles : ol_rr ({ frames := 2, cells := 0, slots := 0, locals := 40 } : Room) ({ frames := 15, cells := 1, slots := 2, locals := 676 } : Room) 3 := ⟨Nat.le_of_ble_eq_true rfl, Nat.le_of_ble_eq_true rfl⟩
theorem ol_rr_X1_size_X1_unwhole : ol_rr ({ frames := 0, cells := 0, slots := 0, locals := 0 } : Room) ({ frames := 4, cells := 0, slots := 0, locals := 86 } : Room) 3 := ⟨Nat.le_of_ble_eq_true rfl, Nat.le_of_ble_eq_true rfl⟩
theorem ol_rr_X1_size_X3_toCome : ol_rr ({ frames := 3, cells := 0, slots := 0, locals := 64 } : Room) ({ frames := 4, cells := 0, slots := 0, locals := 86 } : Room) 3 := ⟨Nat.le_of_ble_eq_true rfl, Nat.le_of_ble_eq_true rfl⟩
theorem ol_rr_X1_slowest_X1_fine : ol_rr ({ frames := 0, cells := 0, slots := 0, locals := 0 } : Room) ({ frames := 15, cells := 65, slots := 130, locals := 676 } : Room) 2 := ⟨Nat.le_of_ble_eq_true rfl, Nat.le_of_ble_eq_true rfl⟩
theorem ol_rr_X1_slowest_X1_passOf : ol_rr ({ frames := 14, cells := 1, slots := 2, locals := 653 } : Room) ({ frames := 15, cells := 65, slots := 130, locals := 676 } : Room) 4 := ⟨Nat.le_of_ble_eq_true rfl, Nat.le_of_ble_eq_true rfl⟩
theorem ol_rr_X1_slowest_X1_refused : ol_rr ({ frames := 0, cells := 0, slots := 0, locals := 0 } : Room) ({ frames := 15, cells := 65, slots := 130, locals := 676 } : Room) 2 := ⟨Nat.le_of_ble_eq_true rfl, Nat.le_of_ble_eq_true rfl⟩
theorem ol_rr_X1_slowest_X1_refuses : ol_rr ({ frames := 3, cells := 0, slots := 0, locals := 61 } : Room) ({ frames := 15, cells := 65, slots := 130, locals := 676 } : Room) 5 := ⟨Nat.le_of_ble_eq_true rfl, Nat.le_of_ble_eq_true rfl⟩
theorem ol_rr_X1_slowest_X2_settles : ol_rr ({ frames := 2, cells := 0, slots := 0, locals := 40 } : Room) ({ frames := 15, cells := 65, slots := 130, locals := 676 } : Room) 3 := ⟨Nat.le_of_ble_eq_true rfl, Nat.le_of_ble_eq_true rfl⟩
theorem ol_rr_X1_stick_X1_fine : ol_rr ({ frames := 0, cells := 0, slots := 0, locals := 0 } : Room) ({ frames := 1, cells := 0, slots := 0, locals := 22 } : Room) 2 := ⟨Nat.le_of_ble_eq_true rfl, Nat.le_of_ble_eq_true rfl⟩
theorem ol_rr_X1_stick_X1_forgets : ol_rr ({ frames := 0, cells := 0, slots := 0, locals := 0 } : Room) ({ frames := 1, cells := 0, slots := 0, locals := 22 } : Room) 1 := ⟨Nat.le_of_ble_eq_true rfl, Nat.le_of_ble_eq_true rfl⟩
theorem ol_rr_X1_stick_X1_isIn : ol_rr ({ frames := 0, cells := 0, slots := 0, locals := 0 } : Room) ({ frames := 1, cells := 0, slots := 0, locals := 22 } : Room) 3 := ⟨Nat.le_of_ble_eq_true rfl, Nat.le_of_ble_eq_true rfl⟩
theorem ol_rr_X1_stick_X1_refused : ol_rr ({ frames := 0, cells := 0, slots := 0, locals := 0 } : Room) ({ frames := 1, cells := 0, slots := 0, locals := 22 } : Room) 2 := ⟨Nat.le_of_ble_eq_true rfl, Nat.le_of_ble_eq_true rfl⟩
theorem ol_rr_X1_sure_X1_fine : ol_rr ({ frames := 0, cells := 0, slots := 0, locals := 0 } : Room) ({ frames := 15, cells := 1, slots := 2, locals := 676 } : Room) 2 := ⟨Nat.le_of_ble_eq_true rfl, Nat.le_of_ble_eq_true rfl⟩
theorem ol_rr_X1_sure_X1_passOf : ol_rr ({ frames := 14, cells := 1, slots := 2, locals := 653 } : Room) ({ frames := 15, cells := 1, slots := 2, locals := 676 } : Room) 4 := ⟨Nat.le_of_ble_eq_true rfl, Nat.le_of_ble_eq_true rfl⟩
theorem ol_rr_X1_sure_X1_refused : ol_rr ({ frames := 0, cells := 0, slots := 0, locals := 0 } : Room) ({ frames := 15, cells := 1, slots := 2, locals := 676 } : Room) 2 := ⟨Nat.le_of_ble_eq_true rfl, Nat.le_of_ble_eq_true rfl⟩
theorem ol_rr_X1_sure_X1_refuses : ol_rr ({ frames := 3, cells := 0, slots := 0, locals := 61 } : Room) ({ frames := 15, cells := 1, slots := 2, locals := 676 } : Room) 5 := ⟨Nat.le_of_ble_eq_true rfl, Nat.le_of_ble_eq_true rfl⟩
theorem ol_rr_X1_sure_X2_sure : ol_rr ({ frames := 3, cells := 0, slots := 0, locals := 63 } : Room) ({ frames := 15, cells := 1, slots := 2, locals := 676 } : Room) 3 := ⟨Nat.le_of_ble_eq_true rfl, Nat.le_of_ble_eq_true rfl⟩
theorem ol_rr_X1_taken_X1_fine : ol_rr ({ frames := 0, cells := 0, slots := 0, locals := 0 } : Room) ({ frames := 15, cells := 1, slots := 2, locals := 676 } : Room) 2 := ⟨Nat.le_of_ble_eq_true rfl, Nat.le_of_ble_eq_true rfl⟩
theorem ol_rr_X1_taken_X1_isBoard : ol_rr ({ frames := 2, cells := 0, slots := 0, locals := 40 } : Room) ({ frames := 15, cells := 1, slots := 2, locals := 676 } : Room) 2 := ⟨Nat.le_of_ble_eq_true rfl, Nat.le_of_ble_eq_true rfl⟩
theorem ol_rr_X1_taken_X1_passOf : ol_rr ({ frames := 14, cells := 1, slots := 2, locals := 653 } : Room) ({ frames := 15, cells := 1, slots := 2, locals := 676 } : Room) 4 := ⟨Nat.le_of_ble_eq_true rfl, Nat.le_of_ble_eq_true rfl⟩
theorem ol_rr_X1_taken_X1_refused : ol_rr ({ frames := 0, cells := 0, slots := 0, locals := 0 } : Room) ({ frames := 15, cells := 1, slots := 2, locals := 676 } : Room) 2 := ⟨Nat.le_of_ble_eq_true rfl, Nat.le_of_ble_eq_true rfl⟩
theorem ol_rr_X1_taken_X1_refuses : ol_rr ({ frames := 3, cells := 0, slots := 0, locals := 61 } : Room) ({ frames := 15, cells := 1, slots := 2, locals := 676 } : Room) 5 := ⟨Nat.le_of_ble_eq_true rfl, Nat.le_of_ble_eq_true rfl⟩
theorem ol_rr_X1_waiting_X1_fine : ol_rr ({ frames := 0, cells := 0, slots := 0, locals := 0 } : Room) ({ frames := 3, cells := 0, slots := 0, locals := 63 } : Room) 2 := ⟨Nat.le_of_ble_eq_true rfl, Nat.le_of_ble_eq_true rfl⟩
theorem ol_rr_X1_waiting_X1_isBoard : ol_rr ({ frames := 2, cells := 0, slots := 0, locals := 40 } : Room) ({ frames := 3, cells := 0, slots := 0, locals := 63 } : Room) 2 := ⟨Nat.le_of_ble_eq_true rfl, Nat.le_of_ble_eq_true rfl⟩
theorem ol_rr_X1_waiting_X1_refused : ol_rr ({ frames := 0, cells := 0, slots := 0, locals := 0 } : Room) ({ frames := 3, cells := 0, slots := 0, locals := 63 } : Room) 2 := ⟨Nat.le_of_ble_eq_true rfl, Nat.le_of_ble_eq_true rfl⟩
theorem ol_rr_X1_waiting_X3_waiting : ol_rr ({ frames := 2, cells := 0, slots := 0, locals := 40 } : Room) ({ frames := 3, cells := 0, slots := 0, locals := 63 } : Room) 4 := ⟨Nat.le_of_ble_eq_true rfl, Nat.le_of_ble_eq_true rfl⟩
theorem ol_rr_X1_waits_X1_fine : ol_rr ({ frames := 0, cells := 0, slots := 0, locals := 0 } : Room) ({ frames := 3, cells := 0, slots := 0, locals := 61 } : Room) 2 := ⟨Nat.le_of_ble_eq_true rfl, Nat.le_of_ble_eq_true rfl⟩
theorem ol_rr_X1_waits_X1_forgets : ol_rr ({ frames := 0, cells := 0, slots := 0, locals := 0 } : Room) ({ frames := 3, cells := 0, slots := 0, locals := 61 } : Room) 1 := ⟨Nat.le_of_ble_eq_true rfl, Nat.le_of_ble_eq_true rfl⟩
theorem ol_rr_X1_waits_X1_isBoard : ol_rr ({ frames := 2, cells := 0, slots := 0, locals := 40 } : Room) ({ frames := 3, cells := 0, slots := 0, locals := 61 } : Room) 2 := ⟨Nat.le_of_ble_eq_true rfl, Nat.le_of_ble_eq_true rfl⟩
theorem ol_rr_X1_waits_X1_refused : ol_rr ({ frames := 0, cells := 0, slots := 0, locals := 0 } : Room) ({ frames := 3, cells := 0, slots := 0, locals := 61 } : Room) 2 := ⟨Nat.le_of_ble_eq_true rfl, Nat.le_of_ble_eq_true rfl⟩
theorem ol_rr_X1_waits_X3_waitsFor : ol_rr ({ frames := 0, cells := 0, slots := 0, locals := 0 } : Room) ({ frames := 3, cells := 0, slots := 0, locals := 61 } : Room) 4 := ⟨Nat.le_of_ble_eq_true rfl, Nat.le_of_ble_eq_true rfl⟩
theorem ol_rr_X1_winners_X1_fine : ol_rr ({ frames := 0, cells := 0, slots := 0, locals := 0 } : Room) ({ frames := 15, cells := 1, slots := 2, locals := 676 } : Room) 2 := ⟨Nat.le_of_ble_eq_true rfl, Nat.le_of_ble_eq_true rfl⟩
theorem ol_rr_X1_winners_X1_passOf : ol_rr ({ frames := 14, cells := 1, slots := 2, locals := 653 } : Room) ({ frames := 15, cells := 1, slots := 2, locals := 676 } : Room) 4 := ⟨Nat.le_of_ble_eq_true rfl, Nat.le_of_ble_eq_true rfl⟩
theorem ol_rr_X1_winners_X1_refused : ol_rr ({ frames := 0, cells := 0, slots := 0, locals := 0 } : Room) ({ frames := 15, cells := 1, slots := 2, locals := 676 } : Room) 2 := ⟨Nat.le_of_ble_eq_true rfl, Nat.le_of_ble_eq_true rfl⟩
theorem ol_rr_X1_winners_X1_refuses : ol_rr ({ frames := 3, cells := 0, slots := 0, locals := 61 } : Room) ({ frames := 15, cells := 1, slots := 2, locals := 676 } : Room) 5 := ⟨Nat.le_of_ble_eq_true rfl, Nat.le_of_ble_eq_true rfl⟩
theorem ol_rr_X1_winners_X2_winners : ol_rr ({ frames := 2, cells := 0, slots := 0, locals := 40 } : Room) ({ frames := 15, cells := 1, slots := 2, locals := 676 } : Room) 4 := ⟨Nat.le_of_ble_eq_true rfl, Nat.le_of_ble_eq_true rfl⟩
theorem ol_rr_X1_withdrawn_X1_fine : ol_rr ({ frames := 0, cells := 0, slots := 0, locals := 0 } : Room) ({ frames := 15, cells := 1, slots := 2, locals := 676 } : Room) 2 := ⟨Nat.le_of_ble_eq_true rfl, Nat.le_of_ble_eq_true rfl⟩
theorem ol_rr_X1_withdrawn_X1_isBoard : ol_rr ({ frames := 2, cells := 0, slots := 0, locals := 40 } : Room) ({ frames := 15, cells := 1, slots := 2, locals := 676 } : Room) 2 := ⟨Nat.le_of_ble_eq_true rfl, Nat.le_of_ble_eq_true rfl⟩
theorem ol_rr_X1_withdrawn_X1_passOf : ol_rr ({ frames := 14, cells := 1, slots := 2, locals := 653 } : Room) ({ frames := 15, cells := 1, slots := 2, locals := 676 } : Room) 4 := ⟨Nat.le_of_ble_eq_true rfl, Nat.le_of_ble_eq_true rfl⟩
theorem ol_rr_X1_withdrawn_X1_refused : ol_rr ({ frames := 0, cells := 0, slots := 0, locals := 0 } : Room) ({ frames := 15, cells := 1, slots := 2, locals := 676 } : Room) 2 := ⟨Nat.le_of_ble_eq_true rfl, Nat.le_of_ble_eq_true rfl⟩
theorem ol_rr_X1_withdrawn_X1_refuses : ol_rr ({ frames := 3, cells := 0, slots := 0, locals := 61 } : Room) ({ frames := 15, cells := 1, slots := 2, locals := 676 } : Room) 5 := ⟨Nat.le_of_ble_eq_true rfl, Nat.le_of_ble_eq_true rfl⟩
theorem ol_rr_X1_word_X1_fine : ol_rr ({ frames := 0, cells := 0, slots := 0, locals := 0 } : Room) ({ frames := 7, cells := 1, slots := 2, locals := 165 } : Room) 2 := ⟨Nat.le_of_ble_eq_true rfl, Nat.le_of_ble_eq_true rfl⟩
theorem ol_rr_X1_word_X1_isBoard : ol_rr ({ frames := 2, cells := 0, slots := 0, locals := 40 } : Room) ({ frames := 7, cells := 1, slots := 2, locals := 165 } : Room) 2 := ⟨Nat.le_of_ble_eq_true rfl, Nat.le_of_ble_eq_true rfl⟩
theorem ol_rr_X1_word_X1_isPass : ol_rr ({ frames := 1, cells := 0, slots := 0, locals := 22 } : Room) ({ frames := 7, cells := 1, slots := 2, locals := 165 } : Room) 1 := ⟨Nat.le_of_ble_eq_true rfl, Nat.le_of_ble_eq_true rfl⟩
theorem ol_rr_X1_word_X1_refused : ol_rr ({ frames := 0, cells := 0, slots := 0, locals := 0 } : Room) ({ frames := 7, cells := 1, slots := 2, locals := 165 } : Room) 2 := ⟨Nat.le_of_ble_eq_true rfl, Nat.le_of_ble_eq_true rfl⟩
theorem ol_rr_X1_would_X1_fine : ol_rr ({ frames := 0, cells := 0, slots := 0, locals := 0 } : Room) ({ frames := 15, cells := 2, slots := 3, locals := 677 } : Room) 2 := ⟨Nat.le_of_ble_eq_true rfl, Nat.le_of_ble_eq_true rfl⟩
theorem ol_rr_X1_would_X1_isSet : ol_rr ({ frames := 2, cells := 0, slots := 0, locals := 40 } : Room) ({ frames := 15, cells := 2, slots := 3, locals := 677 } : Room) 2 := ⟨Nat.le_of_ble_eq_true rfl, Nat.le_of_ble_eq_true rfl⟩
theorem ol_rr_X1_would_X1_refused : ol_rr ({ frames := 0, cells := 0, slots := 0, locals := 0 } : Room) ({ frames := 15, cells := 2, slots := 3, locals := 677 } : Room) 2 := ⟨Nat.le_of_ble_eq_true rfl, Nat.le_of_ble_eq_true rfl⟩
theorem ol_rr_X1_would_X3_passes : ol_rr ({ frames := 14, cells := 1, slots := 1, locals := 653 } : Room) ({ frames := 15, cells := 2, slots := 3, locals := 677 } : Room) 5 := ⟨Nat.le_of_ble_eq_true rfl, Nat.le_of_ble_eq_true rfl⟩
