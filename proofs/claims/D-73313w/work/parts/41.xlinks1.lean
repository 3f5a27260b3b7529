/-! links (printed) -/
set_option maxRecDepth 100000
theorem ol_k_iinc_m16 (x : Int32) : x + Int32.ofInt (-16) = x + (-16) := rfl
theorem ol_k_iinc_m8 (x : Int32) : x + Int32.ofInt (-8) = x + (-8) := rfl
theorem ol_k_iinc_m4 (x : Int32) : x + Int32.ofInt (-4) = x + (-4) := rfl
theorem ol_k_iinc_m2 (x : Int32) : x + Int32.ofInt (-2) = x + (-2) := rfl
theorem ol_k_iinc_2 (x : Int32) : x + Int32.ofInt (2) = x + 2 := rfl
theorem ol_k_iinc_4 (x : Int32) : x + Int32.ofInt (4) = x + 4 := rfl
theorem ol_k_iinc_8 (x : Int32) : x + Int32.ofInt (8) = x + 8 := rfl
theorem ol_k_iinc_16 (x : Int32) : x + Int32.ofInt (16) = x + 16 := rfl
theorem ol_k_sipush_m401 : (Int16.ofInt (-401)).toInt32 = (-401) := by decide
theorem ol_k_sipush_256 : (Int16.ofInt (256)).toInt32 = 256 := by decide
theorem dcX1_isIn : ol_dc yX1_isIn 3 := by decide +kernel
theorem dcX1_has : ol_dc yX1_has 2 := by decide +kernel
theorem dcJ14_bitCount : ol_dc yJ14_bitCount 1 := by decide +kernel
theorem dcJ14_numberOfTrailingZeros : ol_dc yJ14_numberOfTrailingZeros 1 := by decide +kernel
theorem dcJ14_numberOfLeadingZeros : ol_dc yJ14_numberOfLeadingZeros 1 := by decide +kernel
theorem dcJ14_highestOneBit : ol_dc yJ14_highestOneBit 1 := by decide +kernel
theorem dcX1_withParity : ol_dc yX1_withParity 1 := by decide +kernel
theorem dcX1_secondWord : ol_dc yX1_secondWord 1 := by decide +kernel
theorem dcX2_drivenBy : yX2_drivenBy.cls = RX2 ∧ ol_dc yX2_drivenBy 2 := by decide +kernel
theorem dcX2_dips : yX2_dips.cls = RX2 ∧ ol_dc yX2_dips 3 := by decide +kernel
theorem dcX2_letsGo : yX2_letsGo.cls = RX2 ∧ ol_dc yX2_letsGo 2 := by decide +kernel
theorem dcX2_sees : yX2_sees.cls = RX2 ∧ ol_dc yX2_sees 2 := by decide +kernel
theorem dcX2_winners : yX2_winners.cls = RX2 ∧ ol_dc yX2_winners 1 := by decide +kernel
theorem dcX2_right : yX2_right.cls = RX2 ∧ ol_dc yX2_right 0 := by decide +kernel
theorem dcX2_settles : yX2_settles.cls = RX2 ∧ ol_dc yX2_settles 0 := by decide +kernel
theorem dcX2_sure : yX2_sure.cls = RX2 ∧ ol_dc yX2_sure 0 := by decide +kernel
theorem dcX2_edges : yX2_edges.cls = RX2 ∧ ol_dc yX2_edges 2 := by decide +kernel
theorem dcX2_isFaulty : yX2_isFaulty.cls = RX2 ∧ ol_dc yX2_isFaulty 1 := by decide +kernel
theorem dcX2_goes_2 : yX2_goes_2.cls = RX2 ∧ ol_dc yX2_goes_2 6 := by decide +kernel
theorem dcX2_goes : yX2_goes.cls = RX2 ∧ ol_dc yX2_goes 5 := by decide +kernel
theorem lkJ14_51 : GoodIn lw_all (va_wsS RJ14 51 yJ14_numberOfLeadingZeros (ws_ yJ14_numberOfLeadingZeros cJ14_numberOfLeadingZeros 2 (some .int))) := lw_S q1628 q1070 q123 q1071
theorem lkX1_3 : GoodIn lw_all (va_wsS RX1 3 yJ14_bitCount (ws_ yJ14_bitCount cJ14_bitCount 1 (some .int))) := lw_S q1548 q1549 q123 q1550
theorem lkX1_25 : GoodIn lw_all (va_wsS RX1 25 yX1_withParity (ws_ yX1_withParity cX1_withParity 1 (some .int))) := lw_S q1545 q1546 q102 q1547
theorem lkX2_67 : GoodIn lw_all (wsV RX2 67 RX6 yX6_many (ws_ yX6_many cX6_many 1 (some .int))) := lw_V q1594 q713 q714 q110 q715
theorem lkX2_102 : GoodIn lw_all (wsV RX2 102 RX6 yX6_apart (ws_ yX6_apart cX6_apart 3 (some .int))) := lw_V q1613 q1614 q1615 q110 q1616
theorem lkX2_99 : GoodIn lw_all (wsV RX2 99 RX2 yX2_dips (ws_ yX2_dips cX2_dips 8 none)) := lw_V q1609 q1611 qs35 q103 q1612
theorem lkX2_105 : GoodIn lw_all (va_wsS RX2 105 yJ14_highestOneBit (ws_ yJ14_highestOneBit cJ14_highestOneBit 1 (some .int))) := lw_S q1624 q1625 q123 q1626
theorem lkX2_111 : GoodIn lw_all (va_wsS RX2 111 yJ14_numberOfTrailingZeros (ws_ yJ14_numberOfTrailingZeros cJ14_numberOfTrailingZeros 2 (some .int))) := lw_S q1629 q1079 q123 q1080
theorem lkX2_117 : GoodIn lw_all (wsV RX2 117 RX2 yX2_winners (ws_ yX2_winners cX2_winners 4 (some .int))) := lw_V q1670 q1647 q1648 q103 q1649
theorem lkX2_114 : GoodIn lw_all (wsV RX2 114 RX2 yX2_right (ws_ yX2_right cX2_right 4 (some .int))) := lw_V q1666 q1667 q1668 q103 q1669
theorem lkX2_120 : GoodIn lw_all (va_wsS RX2 120 yJ14_bitCount (ws_ yJ14_bitCount cJ14_bitCount 1 (some .int))) := lw_S q1688 q1549 q123 q1550
theorem lkX2_93 : GoodIn lw_all (wsV RX2 93 RX2 yX2_sees (ws_ yX2_sees cX2_sees 7 none)) := lw_V q1620 q1622 qs36 q103 q1623
theorem lkX2_89 : GoodIn lw_all (wsV RX2 89 RX2 yX2_letsGo (ws_ yX2_letsGo cX2_letsGo 5 none)) := lw_V q1605 q1607 qs34 q103 q1608
theorem lkX2_85 : GoodIn lw_all (wsV RX2 85 RX2 yX2_drivenBy (ws_ yX2_drivenBy cX2_drivenBy 4 (some .int))) := lw_V q1601 q1603 qs33 q103 q1604
theorem lkX2_75 : GoodIn lw_all (wsV RX2 75 RX6 yX6_board (ws_ yX6_board cX6_board 2 (some (.object "OpenLines$Board")))) := lw_V q1598 q735 q736 q110 q737
theorem lkX2_43 : GoodIn lw_all (wsV RX2 43 RX2 yX2_goes_2 (ws_ yX2_goes_2 cX2_goes_2 9 (some (.object "OpenLines$Pass")))) := lw_V q1590 q1591 q1592 q103 q1593
theorem ol_rr_J14_highestOneBit_J14_numberOfLeadingZeros : ol_rr ({ frames := 0, cells := 0, slots := 0, locals := 0 } : Room) ({ frames := 1, cells := 0, slots := 0, locals := 21 } : Room) 2 := ⟨Nat.le_of_ble_eq_true rfl, Nat.le_of_ble_eq_true rfl⟩
theorem ol_rr_X1_secondWord_X1_withParity : ol_rr ({ frames := 1, cells := 0, slots := 0, locals := 20 } : Room) ({ frames := 2, cells := 0, slots := 0, locals := 40 } : Room) 1 := ⟨Nat.le_of_ble_eq_true rfl, Nat.le_of_ble_eq_true rfl⟩
theorem ol_rr_X1_withParity_J14_bitCount : ol_rr ({ frames := 0, cells := 0, slots := 0, locals := 0 } : Room) ({ frames := 1, cells := 0, slots := 0, locals := 20 } : Room) 1 := ⟨Nat.le_of_ble_eq_true rfl, Nat.le_of_ble_eq_true rfl⟩
theorem ol_rr_X2_dips_X1_has : ol_rr ({ frames := 0, cells := 0, slots := 0, locals := 0 } : Room) ({ frames := 5, cells := 0, slots := 0, locals := 107 } : Room) 2 := ⟨Nat.le_of_ble_eq_true rfl, Nat.le_of_ble_eq_true rfl⟩
theorem ol_rr_X2_drivenBy_X1_has : ol_rr ({ frames := 0, cells := 0, slots := 0, locals := 0 } : Room) ({ frames := 1, cells := 0, slots := 0, locals := 21 } : Room) 2 := ⟨Nat.le_of_ble_eq_true rfl, Nat.le_of_ble_eq_true rfl⟩
theorem ol_rr_X2_edges_X1_has : ol_rr ({ frames := 0, cells := 0, slots := 0, locals := 0 } : Room) ({ frames := 1, cells := 0, slots := 0, locals := 21 } : Room) 2 := ⟨Nat.le_of_ble_eq_true rfl, Nat.le_of_ble_eq_true rfl⟩
theorem ol_rr_X2_goes_X2_goes_2 : ol_rr ({ frames := 12, cells := 0, slots := 0, locals := 600 } : Room) ({ frames := 13, cells := 0, slots := 0, locals := 628 } : Room) 9 := ⟨Nat.le_of_ble_eq_true rfl, Nat.le_of_ble_eq_true rfl⟩
theorem ol_rr_X2_goes_2_X1_has : ol_rr ({ frames := 0, cells := 0, slots := 0, locals := 0 } : Room) ({ frames := 12, cells := 0, slots := 0, locals := 600 } : Room) 2 := ⟨Nat.le_of_ble_eq_true rfl, Nat.le_of_ble_eq_true rfl⟩
theorem ol_rr_X2_goes_2_X2_drivenBy : ol_rr ({ frames := 1, cells := 0, slots := 0, locals := 21 } : Room) ({ frames := 12, cells := 0, slots := 0, locals := 600 } : Room) 4 := ⟨Nat.le_of_ble_eq_true rfl, Nat.le_of_ble_eq_true rfl⟩
theorem ol_rr_X2_goes_2_X2_letsGo : ol_rr ({ frames := 6, cells := 0, slots := 0, locals := 134 } : Room) ({ frames := 12, cells := 0, slots := 0, locals := 600 } : Room) 5 := ⟨Nat.le_of_ble_eq_true rfl, Nat.le_of_ble_eq_true rfl⟩
theorem ol_rr_X2_goes_2_X2_sees : ol_rr ({ frames := 5, cells := 0, slots := 0, locals := 107 } : Room) ({ frames := 12, cells := 0, slots := 0, locals := 600 } : Room) 7 := ⟨Nat.le_of_ble_eq_true rfl, Nat.le_of_ble_eq_true rfl⟩
theorem ol_rr_X2_isFaulty_J14_bitCount : ol_rr ({ frames := 0, cells := 0, slots := 0, locals := 0 } : Room) ({ frames := 2, cells := 0, slots := 0, locals := 40 } : Room) 1 := ⟨Nat.le_of_ble_eq_true rfl, Nat.le_of_ble_eq_true rfl⟩
theorem ol_rr_X2_letsGo_X1_has : ol_rr ({ frames := 0, cells := 0, slots := 0, locals := 0 } : Room) ({ frames := 6, cells := 0, slots := 0, locals := 134 } : Room) 2 := ⟨Nat.le_of_ble_eq_true rfl, Nat.le_of_ble_eq_true rfl⟩
theorem ol_rr_X2_letsGo_X2_dips : ol_rr ({ frames := 5, cells := 0, slots := 0, locals := 107 } : Room) ({ frames := 6, cells := 0, slots := 0, locals := 134 } : Room) 8 := ⟨Nat.le_of_ble_eq_true rfl, Nat.le_of_ble_eq_true rfl⟩
theorem ol_rr_X2_right_X1_has : ol_rr ({ frames := 0, cells := 0, slots := 0, locals := 0 } : Room) ({ frames := 2, cells := 0, slots := 0, locals := 40 } : Room) 2 := ⟨Nat.le_of_ble_eq_true rfl, Nat.le_of_ble_eq_true rfl⟩
theorem ol_rr_X2_sees_J14_highestOneBit : ol_rr ({ frames := 1, cells := 0, slots := 0, locals := 21 } : Room) ({ frames := 5, cells := 0, slots := 0, locals := 107 } : Room) 1 := ⟨Nat.le_of_ble_eq_true rfl, Nat.le_of_ble_eq_true rfl⟩
theorem ol_rr_X2_sees_J14_numberOfTrailingZeros : ol_rr ({ frames := 0, cells := 0, slots := 0, locals := 0 } : Room) ({ frames := 5, cells := 0, slots := 0, locals := 107 } : Room) 2 := ⟨Nat.le_of_ble_eq_true rfl, Nat.le_of_ble_eq_true rfl⟩
theorem ol_rr_X2_sees_X1_has : ol_rr ({ frames := 0, cells := 0, slots := 0, locals := 0 } : Room) ({ frames := 5, cells := 0, slots := 0, locals := 107 } : Room) 2 := ⟨Nat.le_of_ble_eq_true rfl, Nat.le_of_ble_eq_true rfl⟩
theorem ol_rr_X2_sure_X2_right : ol_rr ({ frames := 2, cells := 0, slots := 0, locals := 40 } : Room) ({ frames := 3, cells := 0, slots := 0, locals := 63 } : Room) 4 := ⟨Nat.le_of_ble_eq_true rfl, Nat.le_of_ble_eq_true rfl⟩
theorem ol_rr_X2_sure_X2_winners : ol_rr ({ frames := 2, cells := 0, slots := 0, locals := 40 } : Room) ({ frames := 3, cells := 0, slots := 0, locals := 63 } : Room) 4 := ⟨Nat.le_of_ble_eq_true rfl, Nat.le_of_ble_eq_true rfl⟩
theorem ol_rr_X2_winners_X1_has : ol_rr ({ frames := 0, cells := 0, slots := 0, locals := 0 } : Room) ({ frames := 2, cells := 0, slots := 0, locals := 40 } : Room) 2 := ⟨Nat.le_of_ble_eq_true rfl, Nat.le_of_ble_eq_true rfl⟩
