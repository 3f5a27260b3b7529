/-! constants, links (printed) -/
set_option maxRecDepth 100000
theorem ol_k_bipush_m2 : (Int8.ofInt (-2)).toInt32 = (-2) := by decide
theorem ol_k_bipush_6 : (Int8.ofInt (6)).toInt32 = 6 := by decide
theorem ol_k_bipush_7 : (Int8.ofInt (7)).toInt32 = 7 := by decide
theorem ol_k_bipush_8 : (Int8.ofInt (8)).toInt32 = 8 := by decide
theorem ol_k_bipush_9 : (Int8.ofInt (9)).toInt32 = 9 := by decide
theorem ol_k_bipush_10 : (Int8.ofInt (10)).toInt32 = 10 := by decide
theorem ol_k_bipush_11 : (Int8.ofInt (11)).toInt32 = 11 := by decide
theorem ol_k_bipush_12 : (Int8.ofInt (12)).toInt32 = 12 := by decide
theorem ol_k_bipush_16 : (Int8.ofInt (16)).toInt32 = 16 := by decide
theorem ol_k_bipush_17 : (Int8.ofInt (17)).toInt32 = 17 := by decide
theorem ol_k_bipush_18 : (Int8.ofInt (18)).toInt32 = 18 := by decide
theorem ol_k_bipush_20 : (Int8.ofInt (20)).toInt32 = 20 := by decide
theorem ol_k_bipush_23 : (Int8.ofInt (23)).toInt32 = 23 := by decide
theorem ol_k_bipush_24 : (Int8.ofInt (24)).toInt32 = 24 := by decide
theorem ol_k_bipush_31 : (Int8.ofInt (31)).toInt32 = 31 := by decide
theorem ol_k_bipush_32 : (Int8.ofInt (32)).toInt32 = 32 := by decide
theorem ol_k_bipush_35 : (Int8.ofInt (35)).toInt32 = 35 := by decide
theorem ol_k_bipush_47 : (Int8.ofInt (47)).toInt32 = 47 := by decide
theorem ol_k_bipush_48 : (Int8.ofInt (48)).toInt32 = 48 := by decide
theorem ol_k_bipush_57 : (Int8.ofInt (57)).toInt32 = 57 := by decide
theorem ol_k_bipush_59 : (Int8.ofInt (59)).toInt32 = 59 := by decide
theorem ol_k_bipush_63 : (Int8.ofInt (63)).toInt32 = 63 := by decide
theorem ol_k_bipush_64 : (Int8.ofInt (64)).toInt32 = 64 := by decide
theorem ol_k_bipush_90 : (Int8.ofInt (90)).toInt32 = 90 := by decide
theorem ol_k_bipush_91 : (Int8.ofInt (91)).toInt32 = 91 := by decide
theorem ol_k_bipush_92 : (Int8.ofInt (92)).toInt32 = 92 := by decide
theorem ol_k_bipush_93 : (Int8.ofInt (93)).toInt32 = 93 := by decide
theorem ol_k_bipush_94 : (Int8.ofInt (94)).toInt32 = 94 := by decide
theorem ol_k_bipush_95 : (Int8.ofInt (95)).toInt32 = 95 := by decide
theorem ol_k_bipush_96 : (Int8.ofInt (96)).toInt32 = 96 := by decide
theorem ol_k_bipush_97 : (Int8.ofInt (97)).toInt32 = 97 := by decide
theorem ol_k_bipush_99 : (Int8.ofInt (99)).toInt32 = 99 := by decide
theorem ol_k_bipush_122 : (Int8.ofInt (122)).toInt32 = 122 := by decide
theorem ol_k_iconst_m1 : Int32.ofInt (-1) = (-1) := by decide
theorem ol_k_iconst_0 : Int32.ofInt (0) = 0 := by decide
theorem ol_k_iconst_1 : Int32.ofInt (1) = 1 := by decide
theorem ol_k_iconst_2 : Int32.ofInt (2) = 2 := by decide
theorem ol_k_iconst_3 : Int32.ofInt (3) = 3 := by decide
theorem ol_k_iconst_4 : Int32.ofInt (4) = 4 := by decide
theorem ol_k_iconst_5 : Int32.ofInt (5) = 5 := by decide
theorem ol_k_iinc_m1 (x : Int32) : x + Int32.ofInt (-1) = x + (-1) := rfl
theorem ol_k_iinc_1 (x : Int32) : x + Int32.ofInt (1) = x + 1 := rfl
theorem ol_k_sipush_187 : (Int16.ofInt (187)).toInt32 = 187 := by decide
theorem ol_k_sipush_200 : (Int16.ofInt (200)).toInt32 = 200 := by decide
theorem ol_k_sipush_251 : (Int16.ofInt (251)).toInt32 = 251 := by decide
theorem ol_k_sipush_255 : (Int16.ofInt (255)).toInt32 = 255 := by decide
theorem ol_k_sipush_400 : (Int16.ofInt (400)).toInt32 = 400 := by decide
theorem ol_k_sipush_401 : (Int16.ofInt (401)).toInt32 = 401 := by decide
theorem ol_k_sipush_461 : (Int16.ofInt (461)).toInt32 = 461 := by decide
theorem ol_k_sipush_680 : (Int16.ofInt (680)).toInt32 = 680 := by decide
theorem ol_k_sipush_999 : (Int16.ofInt (999)).toInt32 = 999 := by decide
theorem ol_k_sipush_2000 : (Int16.ofInt (2000)).toInt32 = 2000 := by decide
theorem ol_k_sipush_2766 : (Int16.ofInt (2766)).toInt32 = 2766 := by decide
theorem ol_tn_0 : (0 : Int32).toNatClampNeg = 0 := by decide
theorem ol_tn_1 : (1 : Int32).toNatClampNeg = 1 := by decide
theorem ol_tn_2 : (2 : Int32).toNatClampNeg = 2 := by decide
theorem ol_tn_3 : (3 : Int32).toNatClampNeg = 3 := by decide
theorem ol_tn_4 : (4 : Int32).toNatClampNeg = 4 := by decide
theorem ol_tn_5 : (5 : Int32).toNatClampNeg = 5 := by decide
theorem ol_tn_6 : (6 : Int32).toNatClampNeg = 6 := by decide
theorem ol_tn_7 : (7 : Int32).toNatClampNeg = 7 := by decide
theorem ol_tn_8 : (8 : Int32).toNatClampNeg = 8 := by decide
theorem ol_tn_9 : (9 : Int32).toNatClampNeg = 9 := by decide
theorem ol_tn_10 : (10 : Int32).toNatClampNeg = 10 := by decide
theorem ol_tn_11 : (11 : Int32).toNatClampNeg = 11 := by decide
theorem ol_tn_90 : (90 : Int32).toNatClampNeg = 90 := by decide
theorem ol_tn_91 : (91 : Int32).toNatClampNeg = 91 := by decide
theorem ol_tn_92 : (92 : Int32).toNatClampNeg = 92 := by decide
theorem ol_tn_93 : (93 : Int32).toNatClampNeg = 93 := by decide
theorem ol_tn_94 : (94 : Int32).toNatClampNeg = 94 := by decide
theorem ol_tn_95 : (95 : Int32).toNatClampNeg = 95 := by decide
theorem ol_tn_96 : (96 : Int32).toNatClampNeg = 96 := by decide
theorem ol_sw4 {x : Int32} (h0 : ¬ x = 0) (h1 : ¬ x = 1) (h2 : ¬ x = 2) (h3 : ¬ x = 3) : x.toInt < 0 ∨ 3 < x.toInt := by
  have key : ∀ (k : Int32), ¬ x = k → ¬ x.toInt = k.toInt := fun k h e => h (Int32.toInt_inj.mp e)
  have e0 : ¬ x.toInt = 0 := key 0 h0
  have e1 : ¬ x.toInt = 1 := key 1 h1
  have e2 : ¬ x.toInt = 2 := key 2 h2
  have e3 : ¬ x.toInt = 3 := key 3 h3
  omega
theorem ol_sw6 {x : Int32} (h0 : ¬ x = 0) (h1 : ¬ x = 1) (h2 : ¬ x = 2) (h3 : ¬ x = 3) (h4 : ¬ x = 4) (h5 : ¬ x = 5) : x.toInt < 0 ∨ 5 < x.toInt := by
  have key : ∀ (k : Int32), ¬ x = k → ¬ x.toInt = k.toInt := fun k h e => h (Int32.toInt_inj.mp e)
  have e0 : ¬ x.toInt = 0 := key 0 h0
  have e1 : ¬ x.toInt = 1 := key 1 h1
  have e2 : ¬ x.toInt = 2 := key 2 h2
  have e3 : ¬ x.toInt = 3 := key 3 h3
  have e4 : ¬ x.toInt = 4 := key 4 h4
  have e5 : ¬ x.toInt = 5 := key 5 h5
  omega
theorem dcX4_thrown : yX4_thrown.cls = RX4 ∧ ol_dc yX4_thrown 0 := by decide +kernel
theorem dcX4_laysWord : yX4_laysWord.cls = RX4 ∧ ol_dc yX4_laysWord 1 := by decide +kernel
theorem dcX4_feed : yX4_feed.cls = RX4 ∧ ol_dc yX4_feed 5 := by decide +kernel
theorem dcX4_in : ol_dc yX4_in 3 := by decide +kernel
theorem dcX4_isRefused : yX4_isRefused.cls = RX4 ∧ ol_dc yX4_isRefused 1 := by decide +kernel
theorem dcX4_see : yX4_see.cls = RX4 ∧ ol_dc yX4_see 1 := by decide +kernel
theorem dcX4_goesOn : yX4_goesOn.cls = RX4 ∧ ol_dc yX4_goesOn 0 := by decide +kernel
theorem dcX4_isWord : yX4_isWord.cls = RX4 ∧ ol_dc yX4_isWord 1 := by decide +kernel
theorem dcX4_errs : yX4_errs.cls = RX4 ∧ ol_dc yX4_errs 1 := by decide +kernel
theorem dcX4_lays : yX4_lays.cls = RX4 ∧ ol_dc yX4_lays 3 := by decide +kernel
theorem dcX4_after : yX4_after.cls = RX4 ∧ ol_dc yX4_after 4 := by decide +kernel
theorem dcX4_readBus : yX4_readBus.cls = RX4 ∧ ol_dc yX4_readBus 0 := by decide +kernel
theorem dcX4_begins : yX4_begins.cls = RX4 ∧ ol_dc yX4_begins 1 := by decide +kernel
theorem dcX4_isName : yX4_isName.cls = RX4 ∧ ol_dc yX4_isName 0 := by decide +kernel
theorem dcX4_spelt : yX4_spelt.cls = RX4 ∧ ol_dc yX4_spelt 0 := by decide +kernel
theorem dcX4_boardHere : yX4_boardHere.cls = RX4 ∧ ol_dc yX4_boardHere 0 := by decide +kernel
theorem dcX4_laysOwn : yX4_laysOwn.cls = RX4 ∧ ol_dc yX4_laysOwn 4 := by decide +kernel
theorem dcX4_readBoard : yX4_readBoard.cls = RX4 ∧ ol_dc yX4_readBoard 0 := by decide +kernel
theorem dcX4_readAsk : yX4_readAsk.cls = RX4 ∧ ol_dc yX4_readAsk 0 := by decide +kernel
theorem dcX4_readLine : yX4_readLine.cls = RX4 ∧ ol_dc yX4_readLine 0 := by decide +kernel
theorem dcX4_readAll : yX4_readAll.cls = RX4 ∧ ol_dc yX4_readAll 1 := by decide +kernel
theorem dcX4_no : yX4_no.cls = RX4 ∧ ol_dc yX4_no 1 := by decide +kernel
theorem dcX4_at : ol_dc yX4_at 2 := by decide +kernel
theorem dcX4_beginsAnew : yX4_beginsAnew.cls = RX4 ∧ ol_dc yX4_beginsAnew 0 := by decide +kernel
theorem dcX4_bus : yX4_bus.cls = RX4 ∧ ol_dc yX4_bus 1 := by decide +kernel
theorem dcX4_fault : yX4_fault.cls = RX4 ∧ ol_dc yX4_fault 0 := by decide +kernel
theorem dcX4_where : yX4_where.cls = RX4 ∧ ol_dc yX4_where 0 := by decide +kernel
theorem dcX4_isBoard : yX4_isBoard.cls = RX4 ∧ ol_dc yX4_isBoard 1 := by decide +kernel
theorem dcX4_isSet : yX4_isSet.cls = RX4 ∧ ol_dc yX4_isSet 1 := by decide +kernel
theorem dcX4_passWhy : yX4_passWhy.cls = RX4 ∧ ol_dc yX4_passWhy 4 := by decide +kernel
theorem dcX4_doesWait : yX4_doesWait.cls = RX4 ∧ ol_dc yX4_doesWait 2 := by decide +kernel
theorem dcX4_rankOf : yX4_rankOf.cls = RX4 ∧ ol_dc yX4_rankOf 1 := by decide +kernel
theorem dcX4_bitsOf : ol_dc yX4_bitsOf 1 := by decide +kernel
theorem dcX4_odd : ol_dc yX4_odd 1 := by decide +kernel
theorem dcX4_wordOf : yX4_wordOf.cls = RX4 ∧ ol_dc yX4_wordOf 2 := by decide +kernel
theorem dcX4_has : ol_dc yX4_has 2 := by decide +kernel
theorem dcX4_cell : ol_dc yX4_cell 2 := by decide +kernel
theorem dcX4_drivesAt : yX4_drivesAt.cls = RX4 ∧ ol_dc yX4_drivesAt 2 := by decide +kernel
theorem dcX4_slotsApart : yX4_slotsApart.cls = RX4 ∧ ol_dc yX4_slotsApart 2 := by decide +kernel
theorem dcX4_nearest : yX4_nearest.cls = RX4 ∧ ol_dc yX4_nearest 3 := by decide +kernel
theorem dcX4_dipsAt : yX4_dipsAt.cls = RX4 ∧ ol_dc yX4_dipsAt 2 := by decide +kernel
theorem dcX4_isSeen : yX4_isSeen.cls = RX4 ∧ ol_dc yX4_isSeen 3 := by decide +kernel
theorem dcX4_looksAt : yX4_looksAt.cls = RX4 ∧ ol_dc yX4_looksAt 2 := by decide +kernel
theorem dcX4_laysPass : yX4_laysPass.cls = RX4 ∧ ol_dc yX4_laysPass 1 := by decide +kernel
theorem dcX4_passes : yX4_passes.cls = RX4 ∧ ol_dc yX4_passes 2 := by decide +kernel
theorem dcX4_drives : yX4_drives.cls = RX4 ∧ ol_dc yX4_drives 4 := by decide +kernel
theorem dcX4_seen : yX4_seen.cls = RX4 ∧ ol_dc yX4_seen 4 := by decide +kernel
theorem dcX4_taken : yX4_taken.cls = RX4 ∧ ol_dc yX4_taken 4 := by decide +kernel
theorem dcX4_withdrawn : yX4_withdrawn.cls = RX4 ∧ ol_dc yX4_withdrawn 4 := by decide +kernel
theorem dcX4_winnersAt : yX4_winnersAt.cls = RX4 ∧ ol_dc yX4_winnersAt 1 := by decide +kernel
theorem dcX4_winners : yX4_winners.cls = RX4 ∧ ol_dc yX4_winners 3 := by decide +kernel
theorem dcX4_areSettled : yX4_areSettled.cls = RX4 ∧ ol_dc yX4_areSettled 1 := by decide +kernel
theorem dcX4_settledAt : yX4_settledAt.cls = RX4 ∧ ol_dc yX4_settledAt 0 := by decide +kernel
theorem dcX4_settles : yX4_settles.cls = RX4 ∧ ol_dc yX4_settles 2 := by decide +kernel
theorem dcX4_rightOnes : yX4_rightOnes.cls = RX4 ∧ ol_dc yX4_rightOnes 0 := by decide +kernel
theorem dcX4_sureAt : yX4_sureAt.cls = RX4 ∧ ol_dc yX4_sureAt 0 := by decide +kernel
theorem dcX4_sure : yX4_sure.cls = RX4 ∧ ol_dc yX4_sure 2 := by decide +kernel
theorem dcX4_right : yX4_right.cls = RX4 ∧ ol_dc yX4_right 2 := by decide +kernel
theorem dcX4_dips : yX4_dips.cls = RX4 ∧ ol_dc yX4_dips 2 := by decide +kernel
theorem dcX4_isFaultyAt : yX4_isFaultyAt.cls = RX4 ∧ ol_dc yX4_isFaultyAt 1 := by decide +kernel
theorem dcX4_faulty : yX4_faulty.cls = RX4 ∧ ol_dc yX4_faulty 3 := by decide +kernel
theorem dcX4_edges : yX4_edges.cls = RX4 ∧ ol_dc yX4_edges 4 := by decide +kernel
theorem dcX4_filters : yX4_filters.cls = RX4 ∧ ol_dc yX4_filters 2 := by decide +kernel
theorem dcX4_settled : yX4_settled.cls = RX4 ∧ ol_dc yX4_settled 2 := by decide +kernel
theorem dcX4_slowest : yX4_slowest.cls = RX4 ∧ ol_dc yX4_slowest 1 := by decide +kernel
theorem dcX4_enough : yX4_enough.cls = RX4 ∧ ol_dc yX4_enough 1 := by decide +kernel
theorem dcX4_elects : yX4_elects.cls = RX4 ∧ ol_dc yX4_elects 2 := by decide +kernel
theorem dcX4_would : yX4_would.cls = RX4 ∧ ol_dc yX4_would 1 := by decide +kernel
theorem dcX4_unless : ol_dc yX4_unless 1 := by decide +kernel
theorem dcX4_askingOnes : yX4_askingOnes.cls = RX4 ∧ ol_dc yX4_askingOnes 0 := by decide +kernel
theorem dcX4_told : yX4_told.cls = RX4 ∧ ol_dc yX4_told 1 := by decide +kernel
theorem dcX4_now : yX4_now.cls = RX4 ∧ ol_dc yX4_now 1 := by decide +kernel
theorem dcX4_ledger : yX4_ledger.cls = RX4 ∧ ol_dc yX4_ledger 2 := by decide +kernel
theorem dcX4_past : yX4_past.cls = RX4 ∧ ol_dc yX4_past 1 := by decide +kernel
theorem dcX4_idle : yX4_idle.cls = RX4 ∧ ol_dc yX4_idle 0 := by decide +kernel
theorem dcX4_log : yX4_log.cls = RX4 ∧ ol_dc yX4_log 2 := by decide +kernel
theorem dcX4_waiting : yX4_waiting.cls = RX4 ∧ ol_dc yX4_waiting 1 := by decide +kernel
theorem dcX4_longest : yX4_longest.cls = RX4 ∧ ol_dc yX4_longest 0 := by decide +kernel
theorem dcX4_laysAside : yX4_laysAside.cls = RX4 ∧ ol_dc yX4_laysAside 0 := by decide +kernel
theorem dcX4_asks : yX4_asks.cls = RX4 ∧ ol_dc yX4_asks 2 := by decide +kernel
theorem dcX4_logs : yX4_logs.cls = RX4 ∧ ol_dc yX4_logs 2 := by decide +kernel
theorem dcX4_isElected : yX4_isElected.cls = RX4 ∧ ol_dc yX4_isElected 1 := by decide +kernel
theorem dcX4_endsArbitration : yX4_endsArbitration.cls = RX4 ∧ ol_dc yX4_endsArbitration 0 := by decide +kernel
theorem dcX4_becomesMaster : yX4_becomesMaster.cls = RX4 ∧ ol_dc yX4_becomesMaster 0 := by decide +kernel
theorem dcX4_isCalledFor : yX4_isCalledFor.cls = RX4 ∧ ol_dc yX4_isCalledFor 0 := by decide +kernel
theorem dcX4_beginsArbitration : yX4_beginsArbitration.cls = RX4 ∧ ol_dc yX4_beginsArbitration 0 := by decide +kernel
theorem dcX4_tick : yX4_tick.cls = RX4 ∧ ol_dc yX4_tick 0 := by decide +kernel
theorem dcX4_takesBack : yX4_takesBack.cls = RX4 ∧ ol_dc yX4_takesBack 0 := by decide +kernel
theorem dcX4_will : yX4_will.cls = RX4 ∧ ol_dc yX4_will 2 := by decide +kernel
theorem dcX4_till : yX4_till.cls = RX4 ∧ ol_dc yX4_till 1 := by decide +kernel
theorem dcX4_about : yX4_about.cls = RX4 ∧ ol_dc yX4_about 1 := by decide +kernel
theorem dcX4_board : yX4_board.cls = RX4 ∧ ol_dc yX4_board 2 := by decide +kernel
theorem dcX4_named : yX4_named.cls = RX4 ∧ ol_dc yX4_named 1 := by decide +kernel
theorem dcX4_word : yX4_word.cls = RX4 ∧ ol_dc yX4_word 2 := by decide +kernel
theorem dcX4_ask : yX4_ask.cls = RX4 ∧ ol_dc yX4_ask 2 := by decide +kernel
theorem dcX4_waits : yX4_waits.cls = RX4 ∧ ol_dc yX4_waits 2 := by decide +kernel
theorem dcX4_stick : yX4_stick.cls = RX4 ∧ ol_dc yX4_stick 2 := by decide +kernel
theorem dcX4_ticks : yX4_ticks.cls = RX4 ∧ ol_dc yX4_ticks 1 := by decide +kernel
theorem dcX4_keep : yX4_keep.cls = RX4 ∧ ol_dc yX4_keep 0 := by decide +kernel
theorem dcX4_back : yX4_back.cls = RX4 ∧ ol_dc yX4_back 0 := by decide +kernel
theorem dcX4_bySlot : yX4_bySlot.cls = RX4 ∧ ol_dc yX4_bySlot 1 := by decide +kernel
theorem dcX4_never : yX4_never.cls = RX4 ∧ ol_dc yX4_never 1 := by decide +kernel
theorem dcX4_size : yX4_size.cls = RX4 ∧ ol_dc yX4_size 1 := by decide +kernel
theorem dcX4_trouble : yX4_trouble.cls = RX4 ∧ ol_dc yX4_trouble 0 := by decide +kernel
theorem lkX4_63 : GoodIn lw_all (wsV RX4 63 RX4 yX4_laysWord (ws_ yX4_laysWord cX4_laysWord 3 none)) := lw_V q2240 q2242 qs47 q108 q2243
theorem lkX4_73 : GoodIn lw_all (wsV RX4 73 RX4 yX4_see (ws_ yX4_see cX4_see 2 (some .int))) := lw_V q2263 q2265 qs51 q108 q2266
theorem lkX4_83 : GoodIn lw_all (va_wsS RX4 83 yX4_in (ws_ yX4_in cX4_in 3 (some .boolean))) := lw_S q2248 q2249 q108 q2250
theorem lkX4_90 : GoodIn lw_all (wsV RX4 90 RJ6 yJ6_length (ws_ yJ6_length cJ6_length 1 (some .int))) := lw_V q2276 q565 q566 q114 q567
theorem lkX4_96 : GoodIn lw_all (wsV RX4 96 RJ6 yJ6_charAt (ws_ yJ6_charAt cJ6_charAt 2 (some .char))) := lw_V q2277 q575 q576 q114 q577
theorem lkX4_110 : GoodIn lw_all (wsV RX4 110 RX4 yX4_goesOn (ws_ yX4_goesOn cX4_goesOn 2 none)) := lw_V q2259 q2261 qs50 q108 q2262
theorem lkX4_106 : GoodIn lw_all (wsV RX4 106 RX4 yX4_errs (ws_ yX4_errs cX4_errs 2 (some .boolean))) := lw_V q2282 q2284 qs55 q108 q2285
theorem lkX4_113 : GoodIn lw_all (wsV RX4 113 RX4 yX4_isWord (ws_ yX4_isWord cX4_isWord 3 (some .boolean))) := lw_V q2272 q2274 qs53 q108 q2275
theorem lkX4_117 : GoodIn lw_all (wsV RX4 117 RX4 yX4_lays (ws_ yX4_lays cX4_lays 4 (some .boolean))) := lw_V q2291 q2293 qs57 q108 q2294
theorem lkX4_140 : GoodIn lw_all (wsV RX4 140 RX4 yX4_after (ws_ yX4_after cX4_after 5 (some .boolean))) := lw_V q2287 q2289 qs56 q108 q2290
theorem lkX4_130 : GoodIn lw_all (wsV RX4 130 RX4 yX4_spelt (ws_ yX4_spelt cX4_spelt 4 (some .long))) := lw_V q2315 q2317 qs62 q108 q2318
theorem lkX4_148 : GoodIn lw_all (wsV RX4 148 RX4 yX4_begins (ws_ yX4_begins cX4_begins 2 (some .boolean))) := lw_V q2302 q2304 qs59 q108 q2305
theorem lkX4_152 : GoodIn lw_all (wsV RX4 152 RX4 yX4_isName (ws_ yX4_isName cX4_isName 1 (some .boolean))) := lw_V q2306 q2308 qs60 q108 q2309
theorem lkX4_156 : GoodIn lw_all (wsV RX4 156 RX4 yX4_boardHere (ws_ yX4_boardHere cX4_boardHere 2 (some .int))) := lw_V q2311 q2313 qs61 q108 q2314
theorem lkX4_161 : GoodIn lw_all (wsV RX4 161 RX4 yX4_laysOwn (ws_ yX4_laysOwn cX4_laysOwn 6 (some .boolean))) := lw_V q2322 q2324 qs63 q108 q2325
theorem lkX4_174 : GoodIn lw_all (wsV RX4 174 RX4 yX4_readAsk (ws_ yX4_readAsk cX4_readAsk 2 (some .boolean))) := lw_V q2328 q2330 qs64 q108 q2331
theorem lkX4_171 : GoodIn lw_all (wsV RX4 171 RX4 yX4_readBoard (ws_ yX4_readBoard cX4_readBoard 2 (some .boolean))) := lw_V q2298 q2300 qs58 q108 q2301
theorem lkX4_168 : GoodIn lw_all (wsV RX4 168 RX4 yX4_readBus (ws_ yX4_readBus cX4_readBus 1 (some .boolean))) := lw_V q2278 q2280 qs54 q108 q2281
theorem lkX4_177 : GoodIn lw_all (wsV RX4 177 RX4 yX4_readLine (ws_ yX4_readLine cX4_readLine 1 (some .boolean))) := lw_V q2267 q2269 qs52 q108 q2270
theorem lkX4_201 : GoodIn lw_all (va_wsS RX4 201 yX4_at (ws_ yX4_at cX4_at 2 (some .int))) := lw_S q2340 q2341 q108 q2342
theorem lkX4_198 : GoodIn lw_all (wsV RX4 198 RX4 yX4_beginsAnew (ws_ yX4_beginsAnew cX4_beginsAnew 2 none)) := lw_V q2336 q2338 qs66 q108 q2339
theorem lkX4_180 : GoodIn lw_all (wsV RX4 180 RX4 yX4_isRefused (ws_ yX4_isRefused cX4_isRefused 2 (some .boolean))) := lw_V q2251 q2253 qs48 q108 q2254
theorem lkX4_186 : GoodIn lw_all (wsV RX4 186 RX4 yX4_readAll (ws_ yX4_readAll cX4_readAll 2 (some .boolean))) := lw_V q2255 q2257 qs49 q108 q2258
theorem lkX4_189 : GoodIn lw_all (wsV RX4 189 RX4 yX4_no (ws_ yX4_no cX4_no 2 (some .int))) := lw_V q2332 q2334 qs65 q108 q2335
theorem lkX4_265 : GoodIn lw_all (wsV RX4 265 RX4 yX4_isSet (ws_ yX4_isSet cX4_isSet 2 (some .boolean))) := lw_V q2363 q2365 qs69 q108 q2366
theorem lkX4_205 : GoodIn lw_all (wsV RX4 205 RX4 yX4_doesWait (ws_ yX4_doesWait cX4_doesWait 4 (some .boolean))) := lw_V q2379 q2381 qs73 q108 q2382
theorem lkX4_209 : GoodIn lw_all (va_wsS RX4 209 yX4_bitsOf (ws_ yX4_bitsOf cX4_bitsOf 3 (some .int))) := lw_S q2386 q2387 q108 q2388
theorem lkX4_215 : GoodIn lw_all (va_wsS RX4 215 yX4_odd (ws_ yX4_odd cX4_odd 1 (some .int))) := lw_S q2383 q2384 q108 q2385
theorem lkX4_212 : GoodIn lw_all (wsV RX4 212 RX4 yX4_rankOf (ws_ yX4_rankOf cX4_rankOf 4 (some .int))) := lw_V q2375 q2377 qs72 q108 q2378
theorem lkX4_224 : GoodIn lw_all (va_wsS RX4 224 yX4_cell (ws_ yX4_cell cX4_cell 2 (some .int))) := lw_S q2400 q2401 q108 q2402
theorem lkX4_221 : GoodIn lw_all (va_wsS RX4 221 yX4_has (ws_ yX4_has cX4_has 2 (some .boolean))) := lw_S q2397 q2398 q108 q2399
theorem lkX4_227 : GoodIn lw_all (wsV RX4 227 RX4 yX4_slotsApart (ws_ yX4_slotsApart cX4_slotsApart 4 (some .int))) := lw_V q2411 q2413 qs78 q108 q2414
theorem lkX4_230 : GoodIn lw_all (wsV RX4 230 RX4 yX4_nearest (ws_ yX4_nearest cX4_nearest 7 (some .int))) := lw_V q2407 q2409 qs77 q108 q2410
theorem lkX4_237 : GoodIn lw_all (wsV RX4 237 RX4 yX4_isSeen (ws_ yX4_isSeen cX4_isSeen 6 (some .boolean))) := lw_V q2419 q2421 qs80 q108 q2422
theorem lkX4_247 : GoodIn lw_all (wsV RX4 247 RX4 yX4_looksAt (ws_ yX4_looksAt cX4_looksAt 7 none)) := lw_V q2415 q2417 qs79 q108 q2418
theorem lkX4_244 : GoodIn lw_all (wsV RX4 244 RX4 yX4_dipsAt (ws_ yX4_dipsAt cX4_dipsAt 9 none)) := lw_V q2403 q2405 qs76 q108 q2406
theorem lkX4_240 : GoodIn lw_all (wsV RX4 240 RX4 yX4_drivesAt (ws_ yX4_drivesAt cX4_drivesAt 6 none)) := lw_V q2393 q2395 qs75 q108 q2396
theorem lkX4_253 : GoodIn lw_all (wsV RX4 253 RX4 yX4_laysPass (ws_ yX4_laysPass cX4_laysPass 4 none)) := lw_V q2389 q2391 qs74 q108 q2392
theorem lkX4_250 : GoodIn lw_all (wsV RX4 250 RX4 yX4_wordOf (ws_ yX4_wordOf cX4_wordOf 3 (some .int))) := lw_V q2371 q2373 qs71 q108 q2374
theorem lkX4_268 : GoodIn lw_all (wsV RX4 268 RX4 yX4_isBoard (ws_ yX4_isBoard cX4_isBoard 2 (some .boolean))) := lw_V q2355 q2357 qs67 q108 q2358
theorem lkX4_271 : GoodIn lw_all (wsV RX4 271 RX4 yX4_passWhy (ws_ yX4_passWhy cX4_passWhy 5 (some .int))) := lw_V q2359 q2361 qs68 q108 q2362
theorem lkX4_275 : GoodIn lw_all (wsV RX4 275 RX4 yX4_passes (ws_ yX4_passes cX4_passes 4 none)) := lw_V q2367 q2369 qs70 q108 q2370
theorem lkX4_262 : GoodIn lw_all (wsV RX4 262 RX4 yX4_winnersAt (ws_ yX4_winnersAt cX4_winnersAt 4 (some .int))) := lw_V q2439 q2441 qs81 q108 q2442
theorem lkX4_256 : GoodIn lw_all (wsV RX4 256 RX4 yX4_areSettled (ws_ yX4_areSettled cX4_areSettled 3 (some .boolean))) := lw_V q2451 q2453 qs83 q108 q2454
theorem lkX4_278 : GoodIn lw_all (wsV RX4 278 RX4 yX4_settledAt (ws_ yX4_settledAt cX4_settledAt 2 (some .int))) := lw_V q2447 q2449 qs82 q108 q2450
theorem lkX4_259 : GoodIn lw_all (wsV RX4 259 RX4 yX4_rightOnes (ws_ yX4_rightOnes cX4_rightOnes 4 (some .int))) := lw_V q2463 q2465 qs85 q108 q2466
theorem lkX4_281 : GoodIn lw_all (wsV RX4 281 RX4 yX4_sureAt (ws_ yX4_sureAt cX4_sureAt 3 (some .int))) := lw_V q2459 q2461 qs84 q108 q2462
theorem lkX4_284 : GoodIn lw_all (wsV RX4 284 RX4 yX4_isFaultyAt (ws_ yX4_isFaultyAt cX4_isFaultyAt 3 (some .boolean))) := lw_V q2479 q2481 qs86 q108 q2482
theorem lkX4_296 : GoodIn lw_all (wsV RX4 296 RX4 yX4_elects (ws_ yX4_elects cX4_elects 6 (some .int))) := lw_V q2507 q2509 qs87 q108 q2510
theorem lkX4_300 : GoodIn lw_all (wsV RX4 300 RX4 yX4_askingOnes (ws_ yX4_askingOnes cX4_askingOnes 3 (some .int))) := lw_V q2522 q2524 qs89 q108 q2525
theorem lkX4_324 : GoodIn lw_all (va_wsS RX4 324 yX4_unless (ws_ yX4_unless cX4_unless 1 (some .int))) := lw_S q2515 q2516 q108 q2517
theorem lkX4_328 : GoodIn lw_all (wsV RX4 328 RX4 yX4_told (ws_ yX4_told cX4_told 2 (some .int))) := lw_V q2518 q2520 qs88 q108 q2521
theorem lkX4_303 : GoodIn lw_all (wsV RX4 303 RX4 yX4_logs (ws_ yX4_logs cX4_logs 4 none)) := lw_V q2570 q2572 qs94 q108 q2573
theorem lkX4_306 : GoodIn lw_all (wsV RX4 306 RX4 yX4_isElected (ws_ yX4_isElected cX4_isElected 3 none)) := lw_V q2574 q2576 qs95 q108 q2577
theorem lkX4_318 : GoodIn lw_all (wsV RX4 318 RX4 yX4_isCalledFor (ws_ yX4_isCalledFor cX4_isCalledFor 3 (some .boolean))) := lw_V q2582 q2584 qs97 q108 q2585
theorem lkX4_321 : GoodIn lw_all (wsV RX4 321 RX4 yX4_beginsArbitration (ws_ yX4_beginsArbitration cX4_beginsArbitration 2 none)) := lw_V q2586 q2588 qs98 q108 q2589
theorem lkX4_315 : GoodIn lw_all (wsV RX4 315 RX4 yX4_becomesMaster (ws_ yX4_becomesMaster cX4_becomesMaster 3 none)) := lw_V q2578 q2580 qs96 q108 q2581
theorem lkX4_312 : GoodIn lw_all (wsV RX4 312 RX4 yX4_endsArbitration (ws_ yX4_endsArbitration cX4_endsArbitration 3 none)) := lw_V q2566 q2568 qs93 q108 q2569
theorem lkX4_309 : GoodIn lw_all (wsV RX4 309 RX4 yX4_asks (ws_ yX4_asks cX4_asks 3 (some .boolean))) := lw_V q2562 q2564 qs92 q108 q2565
theorem lkX4_337 : GoodIn lw_all (wsV RX4 337 RX4 yX4_takesBack (ws_ yX4_takesBack cX4_takesBack 2 none)) := lw_V q2590 q2592 qs99 q108 q2593
theorem lkX4_334 : GoodIn lw_all (wsV RX4 334 RX4 yX4_tick (ws_ yX4_tick cX4_tick 3 none)) := lw_V q2558 q2560 qs91 q108 q2561
theorem lkX4_331 : GoodIn lw_all (wsV RX4 331 RX4 yX4_laysAside (ws_ yX4_laysAside cX4_laysAside 2 none)) := lw_V q2554 q2556 qs90 q108 q2557
theorem lkX4_340 : GoodIn lw_all (wsV RX4 340 RX4 yX4_bySlot (ws_ yX4_bySlot cX4_bySlot 5 (some .int))) := lw_V q2642 q2644 qs100 q108 q2645
theorem ol_rr_X4_about_X4_in : ol_rr ({ frames := 0, cells := 0, slots := 0, locals := 0 } : Room) ({ frames := 1, cells := 0, slots := 0, locals := 22 } : Room) 3 := ⟨Nat.le_of_ble_eq_true rfl, Nat.le_of_ble_eq_true rfl⟩
theorem ol_rr_X4_about_X4_isRefused : ol_rr ({ frames := 0, cells := 0, slots := 0, locals := 0 } : Room) ({ frames := 1, cells := 0, slots := 0, locals := 22 } : Room) 2 := ⟨Nat.le_of_ble_eq_true rfl, Nat.le_of_ble_eq_true rfl⟩
theorem ol_rr_X4_about_X4_unless : ol_rr ({ frames := 0, cells := 0, slots := 0, locals := 0 } : Room) ({ frames := 1, cells := 0, slots := 0, locals := 22 } : Room) 1 := ⟨Nat.le_of_ble_eq_true rfl, Nat.le_of_ble_eq_true rfl⟩
theorem ol_rr_X4_after_X4_errs : ol_rr ({ frames := 0, cells := 0, slots := 0, locals := 0 } : Room) ({ frames := 5, cells := 0, slots := 0, locals := 107 } : Room) 2 := ⟨Nat.le_of_ble_eq_true rfl, Nat.le_of_ble_eq_true rfl⟩
theorem ol_rr_X4_after_X4_goesOn : ol_rr ({ frames := 1, cells := 0, slots := 0, locals := 22 } : Room) ({ frames := 5, cells := 0, slots := 0, locals := 107 } : Room) 2 := ⟨Nat.le_of_ble_eq_true rfl, Nat.le_of_ble_eq_true rfl⟩
theorem ol_rr_X4_after_X4_isWord : ol_rr ({ frames := 4, cells := 0, slots := 0, locals := 85 } : Room) ({ frames := 5, cells := 0, slots := 0, locals := 107 } : Room) 3 := ⟨Nat.le_of_ble_eq_true rfl, Nat.le_of_ble_eq_true rfl⟩
theorem ol_rr_X4_after_X4_lays : ol_rr ({ frames := 2, cells := 0, slots := 0, locals := 43 } : Room) ({ frames := 5, cells := 0, slots := 0, locals := 107 } : Room) 4 := ⟨Nat.le_of_ble_eq_true rfl, Nat.le_of_ble_eq_true rfl⟩
theorem ol_rr_X4_areSettled_X4_cell : ol_rr ({ frames := 0, cells := 0, slots := 0, locals := 0 } : Room) ({ frames := 1, cells := 0, slots := 0, locals := 21 } : Room) 2 := ⟨Nat.le_of_ble_eq_true rfl, Nat.le_of_ble_eq_true rfl⟩
theorem ol_rr_X4_ask_X4_askingOnes : ol_rr ({ frames := 1, cells := 0, slots := 0, locals := 21 } : Room) ({ frames := 2, cells := 0, slots := 0, locals := 43 } : Room) 3 := ⟨Nat.le_of_ble_eq_true rfl, Nat.le_of_ble_eq_true rfl⟩
theorem ol_rr_X4_ask_X4_asks : ol_rr ({ frames := 1, cells := 0, slots := 0, locals := 21 } : Room) ({ frames := 2, cells := 0, slots := 0, locals := 43 } : Room) 3 := ⟨Nat.le_of_ble_eq_true rfl, Nat.le_of_ble_eq_true rfl⟩
theorem ol_rr_X4_ask_X4_bitsOf : ol_rr ({ frames := 0, cells := 0, slots := 0, locals := 0 } : Room) ({ frames := 2, cells := 0, slots := 0, locals := 43 } : Room) 3 := ⟨Nat.le_of_ble_eq_true rfl, Nat.le_of_ble_eq_true rfl⟩
theorem ol_rr_X4_ask_X4_in : ol_rr ({ frames := 0, cells := 0, slots := 0, locals := 0 } : Room) ({ frames := 2, cells := 0, slots := 0, locals := 43 } : Room) 3 := ⟨Nat.le_of_ble_eq_true rfl, Nat.le_of_ble_eq_true rfl⟩
theorem ol_rr_X4_ask_X4_isBoard : ol_rr ({ frames := 1, cells := 0, slots := 0, locals := 22 } : Room) ({ frames := 2, cells := 0, slots := 0, locals := 43 } : Room) 2 := ⟨Nat.le_of_ble_eq_true rfl, Nat.le_of_ble_eq_true rfl⟩
theorem ol_rr_X4_ask_X4_isRefused : ol_rr ({ frames := 0, cells := 0, slots := 0, locals := 0 } : Room) ({ frames := 2, cells := 0, slots := 0, locals := 43 } : Room) 2 := ⟨Nat.le_of_ble_eq_true rfl, Nat.le_of_ble_eq_true rfl⟩
theorem ol_rr_X4_ask_X4_no : ol_rr ({ frames := 0, cells := 0, slots := 0, locals := 0 } : Room) ({ frames := 2, cells := 0, slots := 0, locals := 43 } : Room) 2 := ⟨Nat.le_of_ble_eq_true rfl, Nat.le_of_ble_eq_true rfl⟩
theorem ol_rr_X4_askingOnes_X4_at : ol_rr ({ frames := 0, cells := 0, slots := 0, locals := 0 } : Room) ({ frames := 1, cells := 0, slots := 0, locals := 21 } : Room) 2 := ⟨Nat.le_of_ble_eq_true rfl, Nat.le_of_ble_eq_true rfl⟩
theorem ol_rr_X4_asks_X4_at : ol_rr ({ frames := 0, cells := 0, slots := 0, locals := 0 } : Room) ({ frames := 1, cells := 0, slots := 0, locals := 21 } : Room) 2 := ⟨Nat.le_of_ble_eq_true rfl, Nat.le_of_ble_eq_true rfl⟩
theorem ol_rr_X4_back_X4_isRefused : ol_rr ({ frames := 0, cells := 0, slots := 0, locals := 0 } : Room) ({ frames := 1, cells := 0, slots := 0, locals := 21 } : Room) 2 := ⟨Nat.le_of_ble_eq_true rfl, Nat.le_of_ble_eq_true rfl⟩
theorem ol_rr_X4_back_X4_unless : ol_rr ({ frames := 0, cells := 0, slots := 0, locals := 0 } : Room) ({ frames := 1, cells := 0, slots := 0, locals := 21 } : Room) 1 := ⟨Nat.le_of_ble_eq_true rfl, Nat.le_of_ble_eq_true rfl⟩
theorem ol_rr_X4_becomesMaster_X4_at : ol_rr ({ frames := 0, cells := 0, slots := 0, locals := 0 } : Room) ({ frames := 1, cells := 0, slots := 0, locals := 21 } : Room) 2 := ⟨Nat.le_of_ble_eq_true rfl, Nat.le_of_ble_eq_true rfl⟩
theorem ol_rr_X4_begins_X4_errs : ol_rr ({ frames := 0, cells := 0, slots := 0, locals := 0 } : Room) ({ frames := 2, cells := 0, slots := 0, locals := 43 } : Room) 2 := ⟨Nat.le_of_ble_eq_true rfl, Nat.le_of_ble_eq_true rfl⟩
theorem ol_rr_X4_begins_X4_goesOn : ol_rr ({ frames := 1, cells := 0, slots := 0, locals := 22 } : Room) ({ frames := 2, cells := 0, slots := 0, locals := 43 } : Room) 2 := ⟨Nat.le_of_ble_eq_true rfl, Nat.le_of_ble_eq_true rfl⟩
theorem ol_rr_X4_beginsAnew_X4_at : ol_rr ({ frames := 0, cells := 0, slots := 0, locals := 0 } : Room) ({ frames := 1, cells := 0, slots := 0, locals := 21 } : Room) 2 := ⟨Nat.le_of_ble_eq_true rfl, Nat.le_of_ble_eq_true rfl⟩
theorem ol_rr_X4_beginsArbitration_X4_askingOnes : ol_rr ({ frames := 1, cells := 0, slots := 0, locals := 21 } : Room) ({ frames := 4, cells := 0, slots := 0, locals := 89 } : Room) 3 := ⟨Nat.le_of_ble_eq_true rfl, Nat.le_of_ble_eq_true rfl⟩
theorem ol_rr_X4_beginsArbitration_X4_at : ol_rr ({ frames := 0, cells := 0, slots := 0, locals := 0 } : Room) ({ frames := 4, cells := 0, slots := 0, locals := 89 } : Room) 2 := ⟨Nat.le_of_ble_eq_true rfl, Nat.le_of_ble_eq_true rfl⟩
theorem ol_rr_X4_beginsArbitration_X4_wordOf : ol_rr ({ frames := 3, cells := 0, slots := 0, locals := 67 } : Room) ({ frames := 4, cells := 0, slots := 0, locals := 89 } : Room) 3 := ⟨Nat.le_of_ble_eq_true rfl, Nat.le_of_ble_eq_true rfl⟩
theorem ol_rr_X4_board_X4_at : ol_rr ({ frames := 0, cells := 0, slots := 0, locals := 0 } : Room) ({ frames := 3, cells := 0, slots := 0, locals := 67 } : Room) 2 := ⟨Nat.le_of_ble_eq_true rfl, Nat.le_of_ble_eq_true rfl⟩
theorem ol_rr_X4_board_X4_in : ol_rr ({ frames := 0, cells := 0, slots := 0, locals := 0 } : Room) ({ frames := 3, cells := 0, slots := 0, locals := 67 } : Room) 3 := ⟨Nat.le_of_ble_eq_true rfl, Nat.le_of_ble_eq_true rfl⟩
theorem ol_rr_X4_board_X4_isBoard : ol_rr ({ frames := 1, cells := 0, slots := 0, locals := 22 } : Room) ({ frames := 3, cells := 0, slots := 0, locals := 67 } : Room) 2 := ⟨Nat.le_of_ble_eq_true rfl, Nat.le_of_ble_eq_true rfl⟩
theorem ol_rr_X4_board_X4_isRefused : ol_rr ({ frames := 0, cells := 0, slots := 0, locals := 0 } : Room) ({ frames := 3, cells := 0, slots := 0, locals := 67 } : Room) 2 := ⟨Nat.le_of_ble_eq_true rfl, Nat.le_of_ble_eq_true rfl⟩
theorem ol_rr_X4_board_X4_rankOf : ol_rr ({ frames := 2, cells := 0, slots := 0, locals := 44 } : Room) ({ frames := 3, cells := 0, slots := 0, locals := 67 } : Room) 4 := ⟨Nat.le_of_ble_eq_true rfl, Nat.le_of_ble_eq_true rfl⟩
theorem ol_rr_X4_board_X4_unless : ol_rr ({ frames := 0, cells := 0, slots := 0, locals := 0 } : Room) ({ frames := 3, cells := 0, slots := 0, locals := 67 } : Room) 1 := ⟨Nat.le_of_ble_eq_true rfl, Nat.le_of_ble_eq_true rfl⟩
theorem ol_rr_X4_boardHere_X4_spelt : ol_rr ({ frames := 0, cells := 0, slots := 0, locals := 0 } : Room) ({ frames := 1, cells := 0, slots := 0, locals := 23 } : Room) 4 := ⟨Nat.le_of_ble_eq_true rfl, Nat.le_of_ble_eq_true rfl⟩
theorem ol_rr_X4_bus_X4_beginsAnew : ol_rr ({ frames := 1, cells := 0, slots := 0, locals := 21 } : Room) ({ frames := 9, cells := 0, slots := 0, locals := 194 } : Room) 2 := ⟨Nat.le_of_ble_eq_true rfl, Nat.le_of_ble_eq_true rfl⟩
theorem ol_rr_X4_bus_X4_in : ol_rr ({ frames := 0, cells := 0, slots := 0, locals := 0 } : Room) ({ frames := 9, cells := 0, slots := 0, locals := 194 } : Room) 3 := ⟨Nat.le_of_ble_eq_true rfl, Nat.le_of_ble_eq_true rfl⟩
theorem ol_rr_X4_bus_X4_isRefused : ol_rr ({ frames := 0, cells := 0, slots := 0, locals := 0 } : Room) ({ frames := 9, cells := 0, slots := 0, locals := 194 } : Room) 2 := ⟨Nat.le_of_ble_eq_true rfl, Nat.le_of_ble_eq_true rfl⟩
theorem ol_rr_X4_bus_X4_no : ol_rr ({ frames := 0, cells := 0, slots := 0, locals := 0 } : Room) ({ frames := 9, cells := 0, slots := 0, locals := 194 } : Room) 2 := ⟨Nat.le_of_ble_eq_true rfl, Nat.le_of_ble_eq_true rfl⟩
theorem ol_rr_X4_bus_X4_readAll : ol_rr ({ frames := 8, cells := 0, slots := 0, locals := 173 } : Room) ({ frames := 9, cells := 0, slots := 0, locals := 194 } : Room) 2 := ⟨Nat.le_of_ble_eq_true rfl, Nat.le_of_ble_eq_true rfl⟩
theorem ol_rr_X4_dips_X4_isRefused : ol_rr ({ frames := 0, cells := 0, slots := 0, locals := 0 } : Room) ({ frames := 5, cells := 0, slots := 0, locals := 123 } : Room) 2 := ⟨Nat.le_of_ble_eq_true rfl, Nat.le_of_ble_eq_true rfl⟩
theorem ol_rr_X4_dips_X4_passWhy : ol_rr ({ frames := 2, cells := 0, slots := 0, locals := 43 } : Room) ({ frames := 5, cells := 0, slots := 0, locals := 123 } : Room) 5 := ⟨Nat.le_of_ble_eq_true rfl, Nat.le_of_ble_eq_true rfl⟩
theorem ol_rr_X4_dips_X4_passes : ol_rr ({ frames := 4, cells := 0, slots := 0, locals := 100 } : Room) ({ frames := 5, cells := 0, slots := 0, locals := 123 } : Room) 4 := ⟨Nat.le_of_ble_eq_true rfl, Nat.le_of_ble_eq_true rfl⟩
theorem ol_rr_X4_dipsAt_X4_cell : ol_rr ({ frames := 0, cells := 0, slots := 0, locals := 0 } : Room) ({ frames := 2, cells := 0, slots := 0, locals := 49 } : Room) 2 := ⟨Nat.le_of_ble_eq_true rfl, Nat.le_of_ble_eq_true rfl⟩
theorem ol_rr_X4_dipsAt_X4_has : ol_rr ({ frames := 0, cells := 0, slots := 0, locals := 0 } : Room) ({ frames := 2, cells := 0, slots := 0, locals := 49 } : Room) 2 := ⟨Nat.le_of_ble_eq_true rfl, Nat.le_of_ble_eq_true rfl⟩
theorem ol_rr_X4_dipsAt_X4_nearest : ol_rr ({ frames := 1, cells := 0, slots := 0, locals := 23 } : Room) ({ frames := 2, cells := 0, slots := 0, locals := 49 } : Room) 7 := ⟨Nat.le_of_ble_eq_true rfl, Nat.le_of_ble_eq_true rfl⟩
theorem ol_rr_X4_dipsAt_X4_slotsApart : ol_rr ({ frames := 0, cells := 0, slots := 0, locals := 0 } : Room) ({ frames := 2, cells := 0, slots := 0, locals := 49 } : Room) 4 := ⟨Nat.le_of_ble_eq_true rfl, Nat.le_of_ble_eq_true rfl⟩
theorem ol_rr_X4_doesWait_X4_at : ol_rr ({ frames := 0, cells := 0, slots := 0, locals := 0 } : Room) ({ frames := 1, cells := 0, slots := 0, locals := 21 } : Room) 2 := ⟨Nat.le_of_ble_eq_true rfl, Nat.le_of_ble_eq_true rfl⟩
theorem ol_rr_X4_drives_X4_cell : ol_rr ({ frames := 0, cells := 0, slots := 0, locals := 0 } : Room) ({ frames := 5, cells := 0, slots := 0, locals := 123 } : Room) 2 := ⟨Nat.le_of_ble_eq_true rfl, Nat.le_of_ble_eq_true rfl⟩
theorem ol_rr_X4_drives_X4_isBoard : ol_rr ({ frames := 1, cells := 0, slots := 0, locals := 22 } : Room) ({ frames := 5, cells := 0, slots := 0, locals := 123 } : Room) 2 := ⟨Nat.le_of_ble_eq_true rfl, Nat.le_of_ble_eq_true rfl⟩
theorem ol_rr_X4_drives_X4_isRefused : ol_rr ({ frames := 0, cells := 0, slots := 0, locals := 0 } : Room) ({ frames := 5, cells := 0, slots := 0, locals := 123 } : Room) 2 := ⟨Nat.le_of_ble_eq_true rfl, Nat.le_of_ble_eq_true rfl⟩
theorem ol_rr_X4_drives_X4_passWhy : ol_rr ({ frames := 2, cells := 0, slots := 0, locals := 43 } : Room) ({ frames := 5, cells := 0, slots := 0, locals := 123 } : Room) 5 := ⟨Nat.le_of_ble_eq_true rfl, Nat.le_of_ble_eq_true rfl⟩
theorem ol_rr_X4_drives_X4_passes : ol_rr ({ frames := 4, cells := 0, slots := 0, locals := 100 } : Room) ({ frames := 5, cells := 0, slots := 0, locals := 123 } : Room) 4 := ⟨Nat.le_of_ble_eq_true rfl, Nat.le_of_ble_eq_true rfl⟩
theorem ol_rr_X4_drivesAt_X4_cell : ol_rr ({ frames := 0, cells := 0, slots := 0, locals := 0 } : Room) ({ frames := 1, cells := 0, slots := 0, locals := 21 } : Room) 2 := ⟨Nat.le_of_ble_eq_true rfl, Nat.le_of_ble_eq_true rfl⟩
theorem ol_rr_X4_drivesAt_X4_has : ol_rr ({ frames := 0, cells := 0, slots := 0, locals := 0 } : Room) ({ frames := 1, cells := 0, slots := 0, locals := 21 } : Room) 2 := ⟨Nat.le_of_ble_eq_true rfl, Nat.le_of_ble_eq_true rfl⟩
theorem ol_rr_X4_edges_X4_cell : ol_rr ({ frames := 0, cells := 0, slots := 0, locals := 0 } : Room) ({ frames := 5, cells := 0, slots := 0, locals := 123 } : Room) 2 := ⟨Nat.le_of_ble_eq_true rfl, Nat.le_of_ble_eq_true rfl⟩
theorem ol_rr_X4_edges_X4_has : ol_rr ({ frames := 0, cells := 0, slots := 0, locals := 0 } : Room) ({ frames := 5, cells := 0, slots := 0, locals := 123 } : Room) 2 := ⟨Nat.le_of_ble_eq_true rfl, Nat.le_of_ble_eq_true rfl⟩
theorem ol_rr_X4_edges_X4_in : ol_rr ({ frames := 0, cells := 0, slots := 0, locals := 0 } : Room) ({ frames := 5, cells := 0, slots := 0, locals := 123 } : Room) 3 := ⟨Nat.le_of_ble_eq_true rfl, Nat.le_of_ble_eq_true rfl⟩
theorem ol_rr_X4_edges_X4_isBoard : ol_rr ({ frames := 1, cells := 0, slots := 0, locals := 22 } : Room) ({ frames := 5, cells := 0, slots := 0, locals := 123 } : Room) 2 := ⟨Nat.le_of_ble_eq_true rfl, Nat.le_of_ble_eq_true rfl⟩
theorem ol_rr_X4_edges_X4_isRefused : ol_rr ({ frames := 0, cells := 0, slots := 0, locals := 0 } : Room) ({ frames := 5, cells := 0, slots := 0, locals := 123 } : Room) 2 := ⟨Nat.le_of_ble_eq_true rfl, Nat.le_of_ble_eq_true rfl⟩
theorem ol_rr_X4_edges_X4_passWhy : ol_rr ({ frames := 2, cells := 0, slots := 0, locals := 43 } : Room) ({ frames := 5, cells := 0, slots := 0, locals := 123 } : Room) 5 := ⟨Nat.le_of_ble_eq_true rfl, Nat.le_of_ble_eq_true rfl⟩
theorem ol_rr_X4_edges_X4_passes : ol_rr ({ frames := 4, cells := 0, slots := 0, locals := 100 } : Room) ({ frames := 5, cells := 0, slots := 0, locals := 123 } : Room) 4 := ⟨Nat.le_of_ble_eq_true rfl, Nat.le_of_ble_eq_true rfl⟩
theorem ol_rr_X4_elects_X4_at : ol_rr ({ frames := 0, cells := 0, slots := 0, locals := 0 } : Room) ({ frames := 4, cells := 0, slots := 0, locals := 100 } : Room) 2 := ⟨Nat.le_of_ble_eq_true rfl, Nat.le_of_ble_eq_true rfl⟩
theorem ol_rr_X4_elects_X4_bitsOf : ol_rr ({ frames := 0, cells := 0, slots := 0, locals := 0 } : Room) ({ frames := 4, cells := 0, slots := 0, locals := 100 } : Room) 3 := ⟨Nat.le_of_ble_eq_true rfl, Nat.le_of_ble_eq_true rfl⟩
theorem ol_rr_X4_elects_X4_has : ol_rr ({ frames := 0, cells := 0, slots := 0, locals := 0 } : Room) ({ frames := 4, cells := 0, slots := 0, locals := 100 } : Room) 2 := ⟨Nat.le_of_ble_eq_true rfl, Nat.le_of_ble_eq_true rfl⟩
theorem ol_rr_X4_elects_X4_isFaultyAt : ol_rr ({ frames := 1, cells := 0, slots := 0, locals := 22 } : Room) ({ frames := 4, cells := 0, slots := 0, locals := 100 } : Room) 3 := ⟨Nat.le_of_ble_eq_true rfl, Nat.le_of_ble_eq_true rfl⟩
theorem ol_rr_X4_elects_X4_laysPass : ol_rr ({ frames := 3, cells := 0, slots := 0, locals := 77 } : Room) ({ frames := 4, cells := 0, slots := 0, locals := 100 } : Room) 4 := ⟨Nat.le_of_ble_eq_true rfl, Nat.le_of_ble_eq_true rfl⟩
theorem ol_rr_X4_elects_X4_winnersAt : ol_rr ({ frames := 1, cells := 0, slots := 0, locals := 21 } : Room) ({ frames := 4, cells := 0, slots := 0, locals := 100 } : Room) 4 := ⟨Nat.le_of_ble_eq_true rfl, Nat.le_of_ble_eq_true rfl⟩
theorem ol_rr_X4_elects_X4_wordOf : ol_rr ({ frames := 3, cells := 0, slots := 0, locals := 67 } : Room) ({ frames := 4, cells := 0, slots := 0, locals := 100 } : Room) 3 := ⟨Nat.le_of_ble_eq_true rfl, Nat.le_of_ble_eq_true rfl⟩
theorem ol_rr_X4_endsArbitration_X4_at : ol_rr ({ frames := 0, cells := 0, slots := 0, locals := 0 } : Room) ({ frames := 5, cells := 0, slots := 0, locals := 125 } : Room) 2 := ⟨Nat.le_of_ble_eq_true rfl, Nat.le_of_ble_eq_true rfl⟩
theorem ol_rr_X4_endsArbitration_X4_elects : ol_rr ({ frames := 4, cells := 0, slots := 0, locals := 100 } : Room) ({ frames := 5, cells := 0, slots := 0, locals := 125 } : Room) 6 := ⟨Nat.le_of_ble_eq_true rfl, Nat.le_of_ble_eq_true rfl⟩
theorem ol_rr_X4_endsArbitration_X4_isElected : ol_rr ({ frames := 1, cells := 0, slots := 0, locals := 21 } : Room) ({ frames := 5, cells := 0, slots := 0, locals := 125 } : Room) 3 := ⟨Nat.le_of_ble_eq_true rfl, Nat.le_of_ble_eq_true rfl⟩
theorem ol_rr_X4_endsArbitration_X4_logs : ol_rr ({ frames := 0, cells := 0, slots := 0, locals := 0 } : Room) ({ frames := 5, cells := 0, slots := 0, locals := 125 } : Room) 4 := ⟨Nat.le_of_ble_eq_true rfl, Nat.le_of_ble_eq_true rfl⟩
theorem ol_rr_X4_enough_X4_isRefused : ol_rr ({ frames := 0, cells := 0, slots := 0, locals := 0 } : Room) ({ frames := 5, cells := 0, slots := 0, locals := 123 } : Room) 2 := ⟨Nat.le_of_ble_eq_true rfl, Nat.le_of_ble_eq_true rfl⟩
theorem ol_rr_X4_enough_X4_passWhy : ol_rr ({ frames := 2, cells := 0, slots := 0, locals := 43 } : Room) ({ frames := 5, cells := 0, slots := 0, locals := 123 } : Room) 5 := ⟨Nat.le_of_ble_eq_true rfl, Nat.le_of_ble_eq_true rfl⟩
theorem ol_rr_X4_enough_X4_passes : ol_rr ({ frames := 4, cells := 0, slots := 0, locals := 100 } : Room) ({ frames := 5, cells := 0, slots := 0, locals := 123 } : Room) 4 := ⟨Nat.le_of_ble_eq_true rfl, Nat.le_of_ble_eq_true rfl⟩
theorem ol_rr_X4_enough_X4_sureAt : ol_rr ({ frames := 2, cells := 0, slots := 0, locals := 44 } : Room) ({ frames := 5, cells := 0, slots := 0, locals := 123 } : Room) 3 := ⟨Nat.le_of_ble_eq_true rfl, Nat.le_of_ble_eq_true rfl⟩
theorem ol_rr_X4_faulty_X4_isFaultyAt : ol_rr ({ frames := 1, cells := 0, slots := 0, locals := 22 } : Room) ({ frames := 5, cells := 0, slots := 0, locals := 123 } : Room) 3 := ⟨Nat.le_of_ble_eq_true rfl, Nat.le_of_ble_eq_true rfl⟩
theorem ol_rr_X4_faulty_X4_isRefused : ol_rr ({ frames := 0, cells := 0, slots := 0, locals := 0 } : Room) ({ frames := 5, cells := 0, slots := 0, locals := 123 } : Room) 2 := ⟨Nat.le_of_ble_eq_true rfl, Nat.le_of_ble_eq_true rfl⟩
theorem ol_rr_X4_faulty_X4_passWhy : ol_rr ({ frames := 2, cells := 0, slots := 0, locals := 43 } : Room) ({ frames := 5, cells := 0, slots := 0, locals := 123 } : Room) 5 := ⟨Nat.le_of_ble_eq_true rfl, Nat.le_of_ble_eq_true rfl⟩
theorem ol_rr_X4_faulty_X4_passes : ol_rr ({ frames := 4, cells := 0, slots := 0, locals := 100 } : Room) ({ frames := 5, cells := 0, slots := 0, locals := 123 } : Room) 4 := ⟨Nat.le_of_ble_eq_true rfl, Nat.le_of_ble_eq_true rfl⟩
theorem ol_rr_X4_feed_X4_laysWord : ol_rr ({ frames := 0, cells := 0, slots := 0, locals := 0 } : Room) ({ frames := 1, cells := 0, slots := 0, locals := 22 } : Room) 3 := ⟨Nat.le_of_ble_eq_true rfl, Nat.le_of_ble_eq_true rfl⟩
theorem ol_rr_X4_filters_X4_isRefused : ol_rr ({ frames := 0, cells := 0, slots := 0, locals := 0 } : Room) ({ frames := 5, cells := 0, slots := 0, locals := 123 } : Room) 2 := ⟨Nat.le_of_ble_eq_true rfl, Nat.le_of_ble_eq_true rfl⟩
theorem ol_rr_X4_filters_X4_passWhy : ol_rr ({ frames := 2, cells := 0, slots := 0, locals := 43 } : Room) ({ frames := 5, cells := 0, slots := 0, locals := 123 } : Room) 5 := ⟨Nat.le_of_ble_eq_true rfl, Nat.le_of_ble_eq_true rfl⟩
theorem ol_rr_X4_filters_X4_passes : ol_rr ({ frames := 4, cells := 0, slots := 0, locals := 100 } : Room) ({ frames := 5, cells := 0, slots := 0, locals := 123 } : Room) 4 := ⟨Nat.le_of_ble_eq_true rfl, Nat.le_of_ble_eq_true rfl⟩
theorem ol_rr_X4_filters_X4_sureAt : ol_rr ({ frames := 2, cells := 0, slots := 0, locals := 44 } : Room) ({ frames := 5, cells := 0, slots := 0, locals := 123 } : Room) 3 := ⟨Nat.le_of_ble_eq_true rfl, Nat.le_of_ble_eq_true rfl⟩
theorem ol_rr_X4_goesOn_X4_in : ol_rr ({ frames := 0, cells := 0, slots := 0, locals := 0 } : Room) ({ frames := 1, cells := 0, slots := 0, locals := 22 } : Room) 3 := ⟨Nat.le_of_ble_eq_true rfl, Nat.le_of_ble_eq_true rfl⟩
theorem ol_rr_X4_goesOn_X4_see : ol_rr ({ frames := 0, cells := 0, slots := 0, locals := 0 } : Room) ({ frames := 1, cells := 0, slots := 0, locals := 22 } : Room) 2 := ⟨Nat.le_of_ble_eq_true rfl, Nat.le_of_ble_eq_true rfl⟩
theorem ol_rr_X4_idle_X4_isRefused : ol_rr ({ frames := 0, cells := 0, slots := 0, locals := 0 } : Room) ({ frames := 1, cells := 0, slots := 0, locals := 21 } : Room) 2 := ⟨Nat.le_of_ble_eq_true rfl, Nat.le_of_ble_eq_true rfl⟩
theorem ol_rr_X4_idle_X4_unless : ol_rr ({ frames := 0, cells := 0, slots := 0, locals := 0 } : Room) ({ frames := 1, cells := 0, slots := 0, locals := 21 } : Room) 1 := ⟨Nat.le_of_ble_eq_true rfl, Nat.le_of_ble_eq_true rfl⟩
theorem ol_rr_X4_isBoard_X4_in : ol_rr ({ frames := 0, cells := 0, slots := 0, locals := 0 } : Room) ({ frames := 1, cells := 0, slots := 0, locals := 22 } : Room) 3 := ⟨Nat.le_of_ble_eq_true rfl, Nat.le_of_ble_eq_true rfl⟩
theorem ol_rr_X4_isCalledFor_X4_askingOnes : ol_rr ({ frames := 1, cells := 0, slots := 0, locals := 21 } : Room) ({ frames := 3, cells := 0, slots := 0, locals := 67 } : Room) 3 := ⟨Nat.le_of_ble_eq_true rfl, Nat.le_of_ble_eq_true rfl⟩
theorem ol_rr_X4_isCalledFor_X4_has : ol_rr ({ frames := 0, cells := 0, slots := 0, locals := 0 } : Room) ({ frames := 3, cells := 0, slots := 0, locals := 67 } : Room) 2 := ⟨Nat.le_of_ble_eq_true rfl, Nat.le_of_ble_eq_true rfl⟩
theorem ol_rr_X4_isCalledFor_X4_rankOf : ol_rr ({ frames := 2, cells := 0, slots := 0, locals := 44 } : Room) ({ frames := 3, cells := 0, slots := 0, locals := 67 } : Room) 4 := ⟨Nat.le_of_ble_eq_true rfl, Nat.le_of_ble_eq_true rfl⟩
theorem ol_rr_X4_isElected_X4_at : ol_rr ({ frames := 0, cells := 0, slots := 0, locals := 0 } : Room) ({ frames := 1, cells := 0, slots := 0, locals := 21 } : Room) 2 := ⟨Nat.le_of_ble_eq_true rfl, Nat.le_of_ble_eq_true rfl⟩
theorem ol_rr_X4_isFaultyAt_X4_bitsOf : ol_rr ({ frames := 0, cells := 0, slots := 0, locals := 0 } : Room) ({ frames := 1, cells := 0, slots := 0, locals := 22 } : Room) 3 := ⟨Nat.le_of_ble_eq_true rfl, Nat.le_of_ble_eq_true rfl⟩
theorem ol_rr_X4_isFaultyAt_X4_cell : ol_rr ({ frames := 0, cells := 0, slots := 0, locals := 0 } : Room) ({ frames := 1, cells := 0, slots := 0, locals := 22 } : Room) 2 := ⟨Nat.le_of_ble_eq_true rfl, Nat.le_of_ble_eq_true rfl⟩
theorem ol_rr_X4_isName_X4_isWord : ol_rr ({ frames := 4, cells := 0, slots := 0, locals := 85 } : Room) ({ frames := 5, cells := 0, slots := 0, locals := 107 } : Room) 3 := ⟨Nat.le_of_ble_eq_true rfl, Nat.le_of_ble_eq_true rfl⟩
theorem ol_rr_X4_isSeen_X4_cell : ol_rr ({ frames := 0, cells := 0, slots := 0, locals := 0 } : Room) ({ frames := 1, cells := 0, slots := 0, locals := 23 } : Room) 2 := ⟨Nat.le_of_ble_eq_true rfl, Nat.le_of_ble_eq_true rfl⟩
theorem ol_rr_X4_isSeen_X4_has : ol_rr ({ frames := 0, cells := 0, slots := 0, locals := 0 } : Room) ({ frames := 1, cells := 0, slots := 0, locals := 23 } : Room) 2 := ⟨Nat.le_of_ble_eq_true rfl, Nat.le_of_ble_eq_true rfl⟩
theorem ol_rr_X4_isSeen_X4_slotsApart : ol_rr ({ frames := 0, cells := 0, slots := 0, locals := 0 } : Room) ({ frames := 1, cells := 0, slots := 0, locals := 23 } : Room) 4 := ⟨Nat.le_of_ble_eq_true rfl, Nat.le_of_ble_eq_true rfl⟩
theorem ol_rr_X4_isSet_X4_in : ol_rr ({ frames := 0, cells := 0, slots := 0, locals := 0 } : Room) ({ frames := 1, cells := 0, slots := 0, locals := 22 } : Room) 3 := ⟨Nat.le_of_ble_eq_true rfl, Nat.le_of_ble_eq_true rfl⟩
theorem ol_rr_X4_keep_X4_isRefused : ol_rr ({ frames := 0, cells := 0, slots := 0, locals := 0 } : Room) ({ frames := 1, cells := 0, slots := 0, locals := 21 } : Room) 2 := ⟨Nat.le_of_ble_eq_true rfl, Nat.le_of_ble_eq_true rfl⟩
theorem ol_rr_X4_keep_X4_unless : ol_rr ({ frames := 0, cells := 0, slots := 0, locals := 0 } : Room) ({ frames := 1, cells := 0, slots := 0, locals := 21 } : Room) 1 := ⟨Nat.le_of_ble_eq_true rfl, Nat.le_of_ble_eq_true rfl⟩
theorem ol_rr_X4_lays_X4_errs : ol_rr ({ frames := 0, cells := 0, slots := 0, locals := 0 } : Room) ({ frames := 2, cells := 0, slots := 0, locals := 43 } : Room) 2 := ⟨Nat.le_of_ble_eq_true rfl, Nat.le_of_ble_eq_true rfl⟩
theorem ol_rr_X4_lays_X4_goesOn : ol_rr ({ frames := 1, cells := 0, slots := 0, locals := 22 } : Room) ({ frames := 2, cells := 0, slots := 0, locals := 43 } : Room) 2 := ⟨Nat.le_of_ble_eq_true rfl, Nat.le_of_ble_eq_true rfl⟩
theorem ol_rr_X4_lays_X4_in : ol_rr ({ frames := 0, cells := 0, slots := 0, locals := 0 } : Room) ({ frames := 2, cells := 0, slots := 0, locals := 43 } : Room) 3 := ⟨Nat.le_of_ble_eq_true rfl, Nat.le_of_ble_eq_true rfl⟩
theorem ol_rr_X4_laysOwn_X4_errs : ol_rr ({ frames := 0, cells := 0, slots := 0, locals := 0 } : Room) ({ frames := 5, cells := 0, slots := 0, locals := 107 } : Room) 2 := ⟨Nat.le_of_ble_eq_true rfl, Nat.le_of_ble_eq_true rfl⟩
theorem ol_rr_X4_laysOwn_X4_goesOn : ol_rr ({ frames := 1, cells := 0, slots := 0, locals := 22 } : Room) ({ frames := 5, cells := 0, slots := 0, locals := 107 } : Room) 2 := ⟨Nat.le_of_ble_eq_true rfl, Nat.le_of_ble_eq_true rfl⟩
theorem ol_rr_X4_laysOwn_X4_isWord : ol_rr ({ frames := 4, cells := 0, slots := 0, locals := 85 } : Room) ({ frames := 5, cells := 0, slots := 0, locals := 107 } : Room) 3 := ⟨Nat.le_of_ble_eq_true rfl, Nat.le_of_ble_eq_true rfl⟩
theorem ol_rr_X4_laysOwn_X4_lays : ol_rr ({ frames := 2, cells := 0, slots := 0, locals := 43 } : Room) ({ frames := 5, cells := 0, slots := 0, locals := 107 } : Room) 4 := ⟨Nat.le_of_ble_eq_true rfl, Nat.le_of_ble_eq_true rfl⟩
theorem ol_rr_X4_laysPass_X4_dipsAt : ol_rr ({ frames := 2, cells := 0, slots := 0, locals := 49 } : Room) ({ frames := 3, cells := 0, slots := 0, locals := 77 } : Room) 9 := ⟨Nat.le_of_ble_eq_true rfl, Nat.le_of_ble_eq_true rfl⟩
theorem ol_rr_X4_laysPass_X4_drivesAt : ol_rr ({ frames := 1, cells := 0, slots := 0, locals := 21 } : Room) ({ frames := 3, cells := 0, slots := 0, locals := 77 } : Room) 6 := ⟨Nat.le_of_ble_eq_true rfl, Nat.le_of_ble_eq_true rfl⟩
theorem ol_rr_X4_laysPass_X4_looksAt : ol_rr ({ frames := 2, cells := 0, slots := 0, locals := 48 } : Room) ({ frames := 3, cells := 0, slots := 0, locals := 77 } : Room) 7 := ⟨Nat.le_of_ble_eq_true rfl, Nat.le_of_ble_eq_true rfl⟩
theorem ol_rr_X4_ledger_X4_at : ol_rr ({ frames := 0, cells := 0, slots := 0, locals := 0 } : Room) ({ frames := 2, cells := 0, slots := 0, locals := 43 } : Room) 2 := ⟨Nat.le_of_ble_eq_true rfl, Nat.le_of_ble_eq_true rfl⟩
theorem ol_rr_X4_ledger_X4_in : ol_rr ({ frames := 0, cells := 0, slots := 0, locals := 0 } : Room) ({ frames := 2, cells := 0, slots := 0, locals := 43 } : Room) 3 := ⟨Nat.le_of_ble_eq_true rfl, Nat.le_of_ble_eq_true rfl⟩
theorem ol_rr_X4_ledger_X4_isBoard : ol_rr ({ frames := 1, cells := 0, slots := 0, locals := 22 } : Room) ({ frames := 2, cells := 0, slots := 0, locals := 43 } : Room) 2 := ⟨Nat.le_of_ble_eq_true rfl, Nat.le_of_ble_eq_true rfl⟩
theorem ol_rr_X4_ledger_X4_isRefused : ol_rr ({ frames := 0, cells := 0, slots := 0, locals := 0 } : Room) ({ frames := 2, cells := 0, slots := 0, locals := 43 } : Room) 2 := ⟨Nat.le_of_ble_eq_true rfl, Nat.le_of_ble_eq_true rfl⟩
theorem ol_rr_X4_ledger_X4_unless : ol_rr ({ frames := 0, cells := 0, slots := 0, locals := 0 } : Room) ({ frames := 2, cells := 0, slots := 0, locals := 43 } : Room) 1 := ⟨Nat.le_of_ble_eq_true rfl, Nat.le_of_ble_eq_true rfl⟩
theorem ol_rr_X4_log_X4_in : ol_rr ({ frames := 0, cells := 0, slots := 0, locals := 0 } : Room) ({ frames := 1, cells := 0, slots := 0, locals := 22 } : Room) 3 := ⟨Nat.le_of_ble_eq_true rfl, Nat.le_of_ble_eq_true rfl⟩
theorem ol_rr_X4_log_X4_isRefused : ol_rr ({ frames := 0, cells := 0, slots := 0, locals := 0 } : Room) ({ frames := 1, cells := 0, slots := 0, locals := 22 } : Room) 2 := ⟨Nat.le_of_ble_eq_true rfl, Nat.le_of_ble_eq_true rfl⟩
theorem ol_rr_X4_log_X4_unless : ol_rr ({ frames := 0, cells := 0, slots := 0, locals := 0 } : Room) ({ frames := 1, cells := 0, slots := 0, locals := 22 } : Room) 1 := ⟨Nat.le_of_ble_eq_true rfl, Nat.le_of_ble_eq_true rfl⟩
theorem ol_rr_X4_longest_X4_at : ol_rr ({ frames := 0, cells := 0, slots := 0, locals := 0 } : Room) ({ frames := 1, cells := 0, slots := 0, locals := 21 } : Room) 2 := ⟨Nat.le_of_ble_eq_true rfl, Nat.le_of_ble_eq_true rfl⟩
theorem ol_rr_X4_longest_X4_isRefused : ol_rr ({ frames := 0, cells := 0, slots := 0, locals := 0 } : Room) ({ frames := 1, cells := 0, slots := 0, locals := 21 } : Room) 2 := ⟨Nat.le_of_ble_eq_true rfl, Nat.le_of_ble_eq_true rfl⟩
theorem ol_rr_X4_longest_X4_unless : ol_rr ({ frames := 0, cells := 0, slots := 0, locals := 0 } : Room) ({ frames := 1, cells := 0, slots := 0, locals := 21 } : Room) 1 := ⟨Nat.le_of_ble_eq_true rfl, Nat.le_of_ble_eq_true rfl⟩
theorem ol_rr_X4_looksAt_X4_cell : ol_rr ({ frames := 0, cells := 0, slots := 0, locals := 0 } : Room) ({ frames := 2, cells := 0, slots := 0, locals := 48 } : Room) 2 := ⟨Nat.le_of_ble_eq_true rfl, Nat.le_of_ble_eq_true rfl⟩
theorem ol_rr_X4_looksAt_X4_has : ol_rr ({ frames := 0, cells := 0, slots := 0, locals := 0 } : Room) ({ frames := 2, cells := 0, slots := 0, locals := 48 } : Room) 2 := ⟨Nat.le_of_ble_eq_true rfl, Nat.le_of_ble_eq_true rfl⟩
theorem ol_rr_X4_looksAt_X4_isSeen : ol_rr ({ frames := 1, cells := 0, slots := 0, locals := 23 } : Room) ({ frames := 2, cells := 0, slots := 0, locals := 48 } : Room) 6 := ⟨Nat.le_of_ble_eq_true rfl, Nat.le_of_ble_eq_true rfl⟩
theorem ol_rr_X4_named_X4_isRefused : ol_rr ({ frames := 0, cells := 0, slots := 0, locals := 0 } : Room) ({ frames := 1, cells := 0, slots := 0, locals := 21 } : Room) 2 := ⟨Nat.le_of_ble_eq_true rfl, Nat.le_of_ble_eq_true rfl⟩
theorem ol_rr_X4_named_X4_no : ol_rr ({ frames := 0, cells := 0, slots := 0, locals := 0 } : Room) ({ frames := 1, cells := 0, slots := 0, locals := 21 } : Room) 2 := ⟨Nat.le_of_ble_eq_true rfl, Nat.le_of_ble_eq_true rfl⟩
theorem ol_rr_X4_named_X4_unless : ol_rr ({ frames := 0, cells := 0, slots := 0, locals := 0 } : Room) ({ frames := 1, cells := 0, slots := 0, locals := 21 } : Room) 1 := ⟨Nat.le_of_ble_eq_true rfl, Nat.le_of_ble_eq_true rfl⟩
theorem ol_rr_X4_nearest_X4_cell : ol_rr ({ frames := 0, cells := 0, slots := 0, locals := 0 } : Room) ({ frames := 1, cells := 0, slots := 0, locals := 23 } : Room) 2 := ⟨Nat.le_of_ble_eq_true rfl, Nat.le_of_ble_eq_true rfl⟩
theorem ol_rr_X4_nearest_X4_has : ol_rr ({ frames := 0, cells := 0, slots := 0, locals := 0 } : Room) ({ frames := 1, cells := 0, slots := 0, locals := 23 } : Room) 2 := ⟨Nat.le_of_ble_eq_true rfl, Nat.le_of_ble_eq_true rfl⟩
theorem ol_rr_X4_nearest_X4_slotsApart : ol_rr ({ frames := 0, cells := 0, slots := 0, locals := 0 } : Room) ({ frames := 1, cells := 0, slots := 0, locals := 23 } : Room) 4 := ⟨Nat.le_of_ble_eq_true rfl, Nat.le_of_ble_eq_true rfl⟩
theorem ol_rr_X4_never_X4_at : ol_rr ({ frames := 0, cells := 0, slots := 0, locals := 0 } : Room) ({ frames := 1, cells := 0, slots := 0, locals := 24 } : Room) 2 := ⟨Nat.le_of_ble_eq_true rfl, Nat.le_of_ble_eq_true rfl⟩
theorem ol_rr_X4_never_X4_bySlot : ol_rr ({ frames := 0, cells := 0, slots := 0, locals := 0 } : Room) ({ frames := 1, cells := 0, slots := 0, locals := 24 } : Room) 5 := ⟨Nat.le_of_ble_eq_true rfl, Nat.le_of_ble_eq_true rfl⟩
theorem ol_rr_X4_now_X4_in : ol_rr ({ frames := 0, cells := 0, slots := 0, locals := 0 } : Room) ({ frames := 3, cells := 0, slots := 0, locals := 64 } : Room) 3 := ⟨Nat.le_of_ble_eq_true rfl, Nat.le_of_ble_eq_true rfl⟩
theorem ol_rr_X4_now_X4_isRefused : ol_rr ({ frames := 0, cells := 0, slots := 0, locals := 0 } : Room) ({ frames := 3, cells := 0, slots := 0, locals := 64 } : Room) 2 := ⟨Nat.le_of_ble_eq_true rfl, Nat.le_of_ble_eq_true rfl⟩
theorem ol_rr_X4_now_X4_told : ol_rr ({ frames := 2, cells := 0, slots := 0, locals := 43 } : Room) ({ frames := 3, cells := 0, slots := 0, locals := 64 } : Room) 2 := ⟨Nat.le_of_ble_eq_true rfl, Nat.le_of_ble_eq_true rfl⟩
theorem ol_rr_X4_now_X4_unless : ol_rr ({ frames := 0, cells := 0, slots := 0, locals := 0 } : Room) ({ frames := 3, cells := 0, slots := 0, locals := 64 } : Room) 1 := ⟨Nat.le_of_ble_eq_true rfl, Nat.le_of_ble_eq_true rfl⟩
theorem ol_rr_X4_odd_X4_bitsOf : ol_rr ({ frames := 0, cells := 0, slots := 0, locals := 0 } : Room) ({ frames := 1, cells := 0, slots := 0, locals := 22 } : Room) 3 := ⟨Nat.le_of_ble_eq_true rfl, Nat.le_of_ble_eq_true rfl⟩
theorem ol_rr_X4_passWhy_X4_in : ol_rr ({ frames := 0, cells := 0, slots := 0, locals := 0 } : Room) ({ frames := 2, cells := 0, slots := 0, locals := 43 } : Room) 3 := ⟨Nat.le_of_ble_eq_true rfl, Nat.le_of_ble_eq_true rfl⟩
theorem ol_rr_X4_passWhy_X4_isSet : ol_rr ({ frames := 1, cells := 0, slots := 0, locals := 22 } : Room) ({ frames := 2, cells := 0, slots := 0, locals := 43 } : Room) 2 := ⟨Nat.le_of_ble_eq_true rfl, Nat.le_of_ble_eq_true rfl⟩
theorem ol_rr_X4_passes_X4_laysPass : ol_rr ({ frames := 3, cells := 0, slots := 0, locals := 77 } : Room) ({ frames := 4, cells := 0, slots := 0, locals := 100 } : Room) 4 := ⟨Nat.le_of_ble_eq_true rfl, Nat.le_of_ble_eq_true rfl⟩
theorem ol_rr_X4_passes_X4_wordOf : ol_rr ({ frames := 3, cells := 0, slots := 0, locals := 67 } : Room) ({ frames := 4, cells := 0, slots := 0, locals := 100 } : Room) 3 := ⟨Nat.le_of_ble_eq_true rfl, Nat.le_of_ble_eq_true rfl⟩
theorem ol_rr_X4_past_X4_in : ol_rr ({ frames := 0, cells := 0, slots := 0, locals := 0 } : Room) ({ frames := 1, cells := 0, slots := 0, locals := 22 } : Room) 3 := ⟨Nat.le_of_ble_eq_true rfl, Nat.le_of_ble_eq_true rfl⟩
theorem ol_rr_X4_past_X4_isRefused : ol_rr ({ frames := 0, cells := 0, slots := 0, locals := 0 } : Room) ({ frames := 1, cells := 0, slots := 0, locals := 22 } : Room) 2 := ⟨Nat.le_of_ble_eq_true rfl, Nat.le_of_ble_eq_true rfl⟩
theorem ol_rr_X4_rankOf_X4_doesWait : ol_rr ({ frames := 1, cells := 0, slots := 0, locals := 21 } : Room) ({ frames := 2, cells := 0, slots := 0, locals := 44 } : Room) 4 := ⟨Nat.le_of_ble_eq_true rfl, Nat.le_of_ble_eq_true rfl⟩
theorem ol_rr_X4_readAll_X4_errs : ol_rr ({ frames := 0, cells := 0, slots := 0, locals := 0 } : Room) ({ frames := 8, cells := 0, slots := 0, locals := 173 } : Room) 2 := ⟨Nat.le_of_ble_eq_true rfl, Nat.le_of_ble_eq_true rfl⟩
theorem ol_rr_X4_readAll_X4_goesOn : ol_rr ({ frames := 1, cells := 0, slots := 0, locals := 22 } : Room) ({ frames := 8, cells := 0, slots := 0, locals := 173 } : Room) 2 := ⟨Nat.le_of_ble_eq_true rfl, Nat.le_of_ble_eq_true rfl⟩
theorem ol_rr_X4_readAll_X4_readLine : ol_rr ({ frames := 7, cells := 0, slots := 0, locals := 153 } : Room) ({ frames := 8, cells := 0, slots := 0, locals := 173 } : Room) 1 := ⟨Nat.le_of_ble_eq_true rfl, Nat.le_of_ble_eq_true rfl⟩
theorem ol_rr_X4_readAsk_X4_begins : ol_rr ({ frames := 2, cells := 0, slots := 0, locals := 43 } : Room) ({ frames := 6, cells := 0, slots := 0, locals := 127 } : Room) 2 := ⟨Nat.le_of_ble_eq_true rfl, Nat.le_of_ble_eq_true rfl⟩
theorem ol_rr_X4_readAsk_X4_boardHere : ol_rr ({ frames := 1, cells := 0, slots := 0, locals := 23 } : Room) ({ frames := 6, cells := 0, slots := 0, locals := 127 } : Room) 2 := ⟨Nat.le_of_ble_eq_true rfl, Nat.le_of_ble_eq_true rfl⟩
theorem ol_rr_X4_readAsk_X4_errs : ol_rr ({ frames := 0, cells := 0, slots := 0, locals := 0 } : Room) ({ frames := 6, cells := 0, slots := 0, locals := 127 } : Room) 2 := ⟨Nat.le_of_ble_eq_true rfl, Nat.le_of_ble_eq_true rfl⟩
theorem ol_rr_X4_readAsk_X4_goesOn : ol_rr ({ frames := 1, cells := 0, slots := 0, locals := 22 } : Room) ({ frames := 6, cells := 0, slots := 0, locals := 127 } : Room) 2 := ⟨Nat.le_of_ble_eq_true rfl, Nat.le_of_ble_eq_true rfl⟩
theorem ol_rr_X4_readAsk_X4_isName : ol_rr ({ frames := 5, cells := 0, slots := 0, locals := 107 } : Room) ({ frames := 6, cells := 0, slots := 0, locals := 127 } : Room) 1 := ⟨Nat.le_of_ble_eq_true rfl, Nat.le_of_ble_eq_true rfl⟩
theorem ol_rr_X4_readAsk_X4_lays : ol_rr ({ frames := 2, cells := 0, slots := 0, locals := 43 } : Room) ({ frames := 6, cells := 0, slots := 0, locals := 127 } : Room) 4 := ⟨Nat.le_of_ble_eq_true rfl, Nat.le_of_ble_eq_true rfl⟩
theorem ol_rr_X4_readBoard_X4_after : ol_rr ({ frames := 5, cells := 0, slots := 0, locals := 107 } : Room) ({ frames := 6, cells := 0, slots := 0, locals := 132 } : Room) 5 := ⟨Nat.le_of_ble_eq_true rfl, Nat.le_of_ble_eq_true rfl⟩
theorem ol_rr_X4_readBoard_X4_begins : ol_rr ({ frames := 2, cells := 0, slots := 0, locals := 43 } : Room) ({ frames := 6, cells := 0, slots := 0, locals := 132 } : Room) 2 := ⟨Nat.le_of_ble_eq_true rfl, Nat.le_of_ble_eq_true rfl⟩
theorem ol_rr_X4_readBoard_X4_boardHere : ol_rr ({ frames := 1, cells := 0, slots := 0, locals := 23 } : Room) ({ frames := 6, cells := 0, slots := 0, locals := 132 } : Room) 2 := ⟨Nat.le_of_ble_eq_true rfl, Nat.le_of_ble_eq_true rfl⟩
theorem ol_rr_X4_readBoard_X4_errs : ol_rr ({ frames := 0, cells := 0, slots := 0, locals := 0 } : Room) ({ frames := 6, cells := 0, slots := 0, locals := 132 } : Room) 2 := ⟨Nat.le_of_ble_eq_true rfl, Nat.le_of_ble_eq_true rfl⟩
theorem ol_rr_X4_readBoard_X4_goesOn : ol_rr ({ frames := 1, cells := 0, slots := 0, locals := 22 } : Room) ({ frames := 6, cells := 0, slots := 0, locals := 132 } : Room) 2 := ⟨Nat.le_of_ble_eq_true rfl, Nat.le_of_ble_eq_true rfl⟩
theorem ol_rr_X4_readBoard_X4_isName : ol_rr ({ frames := 5, cells := 0, slots := 0, locals := 107 } : Room) ({ frames := 6, cells := 0, slots := 0, locals := 132 } : Room) 1 := ⟨Nat.le_of_ble_eq_true rfl, Nat.le_of_ble_eq_true rfl⟩
theorem ol_rr_X4_readBoard_X4_laysOwn : ol_rr ({ frames := 5, cells := 0, slots := 0, locals := 107 } : Room) ({ frames := 6, cells := 0, slots := 0, locals := 132 } : Room) 6 := ⟨Nat.le_of_ble_eq_true rfl, Nat.le_of_ble_eq_true rfl⟩
theorem ol_rr_X4_readBoard_X4_spelt : ol_rr ({ frames := 0, cells := 0, slots := 0, locals := 0 } : Room) ({ frames := 6, cells := 0, slots := 0, locals := 132 } : Room) 4 := ⟨Nat.le_of_ble_eq_true rfl, Nat.le_of_ble_eq_true rfl⟩
theorem ol_rr_X4_readBus_X4_after : ol_rr ({ frames := 5, cells := 0, slots := 0, locals := 107 } : Room) ({ frames := 6, cells := 0, slots := 0, locals := 131 } : Room) 5 := ⟨Nat.le_of_ble_eq_true rfl, Nat.le_of_ble_eq_true rfl⟩
theorem ol_rr_X4_readBus_X4_errs : ol_rr ({ frames := 0, cells := 0, slots := 0, locals := 0 } : Room) ({ frames := 6, cells := 0, slots := 0, locals := 131 } : Room) 2 := ⟨Nat.le_of_ble_eq_true rfl, Nat.le_of_ble_eq_true rfl⟩
theorem ol_rr_X4_readBus_X4_goesOn : ol_rr ({ frames := 1, cells := 0, slots := 0, locals := 22 } : Room) ({ frames := 6, cells := 0, slots := 0, locals := 131 } : Room) 2 := ⟨Nat.le_of_ble_eq_true rfl, Nat.le_of_ble_eq_true rfl⟩
theorem ol_rr_X4_readLine_X4_errs : ol_rr ({ frames := 0, cells := 0, slots := 0, locals := 0 } : Room) ({ frames := 7, cells := 0, slots := 0, locals := 153 } : Room) 2 := ⟨Nat.le_of_ble_eq_true rfl, Nat.le_of_ble_eq_true rfl⟩
theorem ol_rr_X4_readLine_X4_isWord : ol_rr ({ frames := 4, cells := 0, slots := 0, locals := 85 } : Room) ({ frames := 7, cells := 0, slots := 0, locals := 153 } : Room) 3 := ⟨Nat.le_of_ble_eq_true rfl, Nat.le_of_ble_eq_true rfl⟩
theorem ol_rr_X4_readLine_X4_readAsk : ol_rr ({ frames := 6, cells := 0, slots := 0, locals := 127 } : Room) ({ frames := 7, cells := 0, slots := 0, locals := 153 } : Room) 2 := ⟨Nat.le_of_ble_eq_true rfl, Nat.le_of_ble_eq_true rfl⟩
theorem ol_rr_X4_readLine_X4_readBoard : ol_rr ({ frames := 6, cells := 0, slots := 0, locals := 132 } : Room) ({ frames := 7, cells := 0, slots := 0, locals := 153 } : Room) 2 := ⟨Nat.le_of_ble_eq_true rfl, Nat.le_of_ble_eq_true rfl⟩
theorem ol_rr_X4_readLine_X4_readBus : ol_rr ({ frames := 6, cells := 0, slots := 0, locals := 131 } : Room) ({ frames := 7, cells := 0, slots := 0, locals := 153 } : Room) 1 := ⟨Nat.le_of_ble_eq_true rfl, Nat.le_of_ble_eq_true rfl⟩
theorem ol_rr_X4_right_X4_isRefused : ol_rr ({ frames := 0, cells := 0, slots := 0, locals := 0 } : Room) ({ frames := 5, cells := 0, slots := 0, locals := 123 } : Room) 2 := ⟨Nat.le_of_ble_eq_true rfl, Nat.le_of_ble_eq_true rfl⟩
theorem ol_rr_X4_right_X4_passWhy : ol_rr ({ frames := 2, cells := 0, slots := 0, locals := 43 } : Room) ({ frames := 5, cells := 0, slots := 0, locals := 123 } : Room) 5 := ⟨Nat.le_of_ble_eq_true rfl, Nat.le_of_ble_eq_true rfl⟩
theorem ol_rr_X4_right_X4_passes : ol_rr ({ frames := 4, cells := 0, slots := 0, locals := 100 } : Room) ({ frames := 5, cells := 0, slots := 0, locals := 123 } : Room) 4 := ⟨Nat.le_of_ble_eq_true rfl, Nat.le_of_ble_eq_true rfl⟩
theorem ol_rr_X4_right_X4_rightOnes : ol_rr ({ frames := 1, cells := 0, slots := 0, locals := 21 } : Room) ({ frames := 5, cells := 0, slots := 0, locals := 123 } : Room) 4 := ⟨Nat.le_of_ble_eq_true rfl, Nat.le_of_ble_eq_true rfl⟩
theorem ol_rr_X4_rightOnes_X4_has : ol_rr ({ frames := 0, cells := 0, slots := 0, locals := 0 } : Room) ({ frames := 1, cells := 0, slots := 0, locals := 21 } : Room) 2 := ⟨Nat.le_of_ble_eq_true rfl, Nat.le_of_ble_eq_true rfl⟩
theorem ol_rr_X4_seen_X4_cell : ol_rr ({ frames := 0, cells := 0, slots := 0, locals := 0 } : Room) ({ frames := 5, cells := 0, slots := 0, locals := 123 } : Room) 2 := ⟨Nat.le_of_ble_eq_true rfl, Nat.le_of_ble_eq_true rfl⟩
theorem ol_rr_X4_seen_X4_isBoard : ol_rr ({ frames := 1, cells := 0, slots := 0, locals := 22 } : Room) ({ frames := 5, cells := 0, slots := 0, locals := 123 } : Room) 2 := ⟨Nat.le_of_ble_eq_true rfl, Nat.le_of_ble_eq_true rfl⟩
theorem ol_rr_X4_seen_X4_isRefused : ol_rr ({ frames := 0, cells := 0, slots := 0, locals := 0 } : Room) ({ frames := 5, cells := 0, slots := 0, locals := 123 } : Room) 2 := ⟨Nat.le_of_ble_eq_true rfl, Nat.le_of_ble_eq_true rfl⟩
theorem ol_rr_X4_seen_X4_passWhy : ol_rr ({ frames := 2, cells := 0, slots := 0, locals := 43 } : Room) ({ frames := 5, cells := 0, slots := 0, locals := 123 } : Room) 5 := ⟨Nat.le_of_ble_eq_true rfl, Nat.le_of_ble_eq_true rfl⟩
theorem ol_rr_X4_seen_X4_passes : ol_rr ({ frames := 4, cells := 0, slots := 0, locals := 100 } : Room) ({ frames := 5, cells := 0, slots := 0, locals := 123 } : Room) 4 := ⟨Nat.le_of_ble_eq_true rfl, Nat.le_of_ble_eq_true rfl⟩
theorem ol_rr_X4_settled_X4_isRefused : ol_rr ({ frames := 0, cells := 0, slots := 0, locals := 0 } : Room) ({ frames := 5, cells := 0, slots := 0, locals := 123 } : Room) 2 := ⟨Nat.le_of_ble_eq_true rfl, Nat.le_of_ble_eq_true rfl⟩
theorem ol_rr_X4_settled_X4_passWhy : ol_rr ({ frames := 2, cells := 0, slots := 0, locals := 43 } : Room) ({ frames := 5, cells := 0, slots := 0, locals := 123 } : Room) 5 := ⟨Nat.le_of_ble_eq_true rfl, Nat.le_of_ble_eq_true rfl⟩
theorem ol_rr_X4_settled_X4_passes : ol_rr ({ frames := 4, cells := 0, slots := 0, locals := 100 } : Room) ({ frames := 5, cells := 0, slots := 0, locals := 123 } : Room) 4 := ⟨Nat.le_of_ble_eq_true rfl, Nat.le_of_ble_eq_true rfl⟩
theorem ol_rr_X4_settled_X4_settledAt : ol_rr ({ frames := 2, cells := 0, slots := 0, locals := 43 } : Room) ({ frames := 5, cells := 0, slots := 0, locals := 123 } : Room) 2 := ⟨Nat.le_of_ble_eq_true rfl, Nat.le_of_ble_eq_true rfl⟩
theorem ol_rr_X4_settledAt_X4_areSettled : ol_rr ({ frames := 1, cells := 0, slots := 0, locals := 21 } : Room) ({ frames := 2, cells := 0, slots := 0, locals := 43 } : Room) 3 := ⟨Nat.le_of_ble_eq_true rfl, Nat.le_of_ble_eq_true rfl⟩
theorem ol_rr_X4_settles_X4_isRefused : ol_rr ({ frames := 0, cells := 0, slots := 0, locals := 0 } : Room) ({ frames := 5, cells := 0, slots := 0, locals := 123 } : Room) 2 := ⟨Nat.le_of_ble_eq_true rfl, Nat.le_of_ble_eq_true rfl⟩
theorem ol_rr_X4_settles_X4_passWhy : ol_rr ({ frames := 2, cells := 0, slots := 0, locals := 43 } : Room) ({ frames := 5, cells := 0, slots := 0, locals := 123 } : Room) 5 := ⟨Nat.le_of_ble_eq_true rfl, Nat.le_of_ble_eq_true rfl⟩
theorem ol_rr_X4_settles_X4_passes : ol_rr ({ frames := 4, cells := 0, slots := 0, locals := 100 } : Room) ({ frames := 5, cells := 0, slots := 0, locals := 123 } : Room) 4 := ⟨Nat.le_of_ble_eq_true rfl, Nat.le_of_ble_eq_true rfl⟩
theorem ol_rr_X4_settles_X4_settledAt : ol_rr ({ frames := 2, cells := 0, slots := 0, locals := 43 } : Room) ({ frames := 5, cells := 0, slots := 0, locals := 123 } : Room) 2 := ⟨Nat.le_of_ble_eq_true rfl, Nat.le_of_ble_eq_true rfl⟩
theorem ol_rr_X4_slowest_X4_isRefused : ol_rr ({ frames := 0, cells := 0, slots := 0, locals := 0 } : Room) ({ frames := 5, cells := 0, slots := 0, locals := 123 } : Room) 2 := ⟨Nat.le_of_ble_eq_true rfl, Nat.le_of_ble_eq_true rfl⟩
theorem ol_rr_X4_slowest_X4_passWhy : ol_rr ({ frames := 2, cells := 0, slots := 0, locals := 43 } : Room) ({ frames := 5, cells := 0, slots := 0, locals := 123 } : Room) 5 := ⟨Nat.le_of_ble_eq_true rfl, Nat.le_of_ble_eq_true rfl⟩
theorem ol_rr_X4_slowest_X4_passes : ol_rr ({ frames := 4, cells := 0, slots := 0, locals := 100 } : Room) ({ frames := 5, cells := 0, slots := 0, locals := 123 } : Room) 4 := ⟨Nat.le_of_ble_eq_true rfl, Nat.le_of_ble_eq_true rfl⟩
theorem ol_rr_X4_slowest_X4_settledAt : ol_rr ({ frames := 2, cells := 0, slots := 0, locals := 43 } : Room) ({ frames := 5, cells := 0, slots := 0, locals := 123 } : Room) 2 := ⟨Nat.le_of_ble_eq_true rfl, Nat.le_of_ble_eq_true rfl⟩
theorem ol_rr_X4_stick_X4_in : ol_rr ({ frames := 0, cells := 0, slots := 0, locals := 0 } : Room) ({ frames := 1, cells := 0, slots := 0, locals := 22 } : Room) 3 := ⟨Nat.le_of_ble_eq_true rfl, Nat.le_of_ble_eq_true rfl⟩
theorem ol_rr_X4_stick_X4_isRefused : ol_rr ({ frames := 0, cells := 0, slots := 0, locals := 0 } : Room) ({ frames := 1, cells := 0, slots := 0, locals := 22 } : Room) 2 := ⟨Nat.le_of_ble_eq_true rfl, Nat.le_of_ble_eq_true rfl⟩
theorem ol_rr_X4_sure_X4_isRefused : ol_rr ({ frames := 0, cells := 0, slots := 0, locals := 0 } : Room) ({ frames := 5, cells := 0, slots := 0, locals := 123 } : Room) 2 := ⟨Nat.le_of_ble_eq_true rfl, Nat.le_of_ble_eq_true rfl⟩
theorem ol_rr_X4_sure_X4_passWhy : ol_rr ({ frames := 2, cells := 0, slots := 0, locals := 43 } : Room) ({ frames := 5, cells := 0, slots := 0, locals := 123 } : Room) 5 := ⟨Nat.le_of_ble_eq_true rfl, Nat.le_of_ble_eq_true rfl⟩
theorem ol_rr_X4_sure_X4_passes : ol_rr ({ frames := 4, cells := 0, slots := 0, locals := 100 } : Room) ({ frames := 5, cells := 0, slots := 0, locals := 123 } : Room) 4 := ⟨Nat.le_of_ble_eq_true rfl, Nat.le_of_ble_eq_true rfl⟩
theorem ol_rr_X4_sure_X4_sureAt : ol_rr ({ frames := 2, cells := 0, slots := 0, locals := 44 } : Room) ({ frames := 5, cells := 0, slots := 0, locals := 123 } : Room) 3 := ⟨Nat.le_of_ble_eq_true rfl, Nat.le_of_ble_eq_true rfl⟩
theorem ol_rr_X4_sureAt_X4_rightOnes : ol_rr ({ frames := 1, cells := 0, slots := 0, locals := 21 } : Room) ({ frames := 2, cells := 0, slots := 0, locals := 44 } : Room) 4 := ⟨Nat.le_of_ble_eq_true rfl, Nat.le_of_ble_eq_true rfl⟩
theorem ol_rr_X4_sureAt_X4_winnersAt : ol_rr ({ frames := 1, cells := 0, slots := 0, locals := 21 } : Room) ({ frames := 2, cells := 0, slots := 0, locals := 44 } : Room) 4 := ⟨Nat.le_of_ble_eq_true rfl, Nat.le_of_ble_eq_true rfl⟩
theorem ol_rr_X4_taken_X4_cell : ol_rr ({ frames := 0, cells := 0, slots := 0, locals := 0 } : Room) ({ frames := 5, cells := 0, slots := 0, locals := 123 } : Room) 2 := ⟨Nat.le_of_ble_eq_true rfl, Nat.le_of_ble_eq_true rfl⟩
theorem ol_rr_X4_taken_X4_isBoard : ol_rr ({ frames := 1, cells := 0, slots := 0, locals := 22 } : Room) ({ frames := 5, cells := 0, slots := 0, locals := 123 } : Room) 2 := ⟨Nat.le_of_ble_eq_true rfl, Nat.le_of_ble_eq_true rfl⟩
theorem ol_rr_X4_taken_X4_isRefused : ol_rr ({ frames := 0, cells := 0, slots := 0, locals := 0 } : Room) ({ frames := 5, cells := 0, slots := 0, locals := 123 } : Room) 2 := ⟨Nat.le_of_ble_eq_true rfl, Nat.le_of_ble_eq_true rfl⟩
theorem ol_rr_X4_taken_X4_passWhy : ol_rr ({ frames := 2, cells := 0, slots := 0, locals := 43 } : Room) ({ frames := 5, cells := 0, slots := 0, locals := 123 } : Room) 5 := ⟨Nat.le_of_ble_eq_true rfl, Nat.le_of_ble_eq_true rfl⟩
theorem ol_rr_X4_taken_X4_passes : ol_rr ({ frames := 4, cells := 0, slots := 0, locals := 100 } : Room) ({ frames := 5, cells := 0, slots := 0, locals := 123 } : Room) 4 := ⟨Nat.le_of_ble_eq_true rfl, Nat.le_of_ble_eq_true rfl⟩
theorem ol_rr_X4_tick_X4_asks : ol_rr ({ frames := 1, cells := 0, slots := 0, locals := 21 } : Room) ({ frames := 6, cells := 0, slots := 0, locals := 147 } : Room) 3 := ⟨Nat.le_of_ble_eq_true rfl, Nat.le_of_ble_eq_true rfl⟩
theorem ol_rr_X4_tick_X4_at : ol_rr ({ frames := 0, cells := 0, slots := 0, locals := 0 } : Room) ({ frames := 6, cells := 0, slots := 0, locals := 147 } : Room) 2 := ⟨Nat.le_of_ble_eq_true rfl, Nat.le_of_ble_eq_true rfl⟩
theorem ol_rr_X4_tick_X4_becomesMaster : ol_rr ({ frames := 1, cells := 0, slots := 0, locals := 21 } : Room) ({ frames := 6, cells := 0, slots := 0, locals := 147 } : Room) 3 := ⟨Nat.le_of_ble_eq_true rfl, Nat.le_of_ble_eq_true rfl⟩
theorem ol_rr_X4_tick_X4_beginsArbitration : ol_rr ({ frames := 4, cells := 0, slots := 0, locals := 89 } : Room) ({ frames := 6, cells := 0, slots := 0, locals := 147 } : Room) 2 := ⟨Nat.le_of_ble_eq_true rfl, Nat.le_of_ble_eq_true rfl⟩
theorem ol_rr_X4_tick_X4_endsArbitration : ol_rr ({ frames := 5, cells := 0, slots := 0, locals := 125 } : Room) ({ frames := 6, cells := 0, slots := 0, locals := 147 } : Room) 3 := ⟨Nat.le_of_ble_eq_true rfl, Nat.le_of_ble_eq_true rfl⟩
theorem ol_rr_X4_tick_X4_isCalledFor : ol_rr ({ frames := 3, cells := 0, slots := 0, locals := 67 } : Room) ({ frames := 6, cells := 0, slots := 0, locals := 147 } : Room) 3 := ⟨Nat.le_of_ble_eq_true rfl, Nat.le_of_ble_eq_true rfl⟩
theorem ol_rr_X4_ticks_X4_in : ol_rr ({ frames := 0, cells := 0, slots := 0, locals := 0 } : Room) ({ frames := 7, cells := 0, slots := 0, locals := 169 } : Room) 3 := ⟨Nat.le_of_ble_eq_true rfl, Nat.le_of_ble_eq_true rfl⟩
theorem ol_rr_X4_ticks_X4_isRefused : ol_rr ({ frames := 0, cells := 0, slots := 0, locals := 0 } : Room) ({ frames := 7, cells := 0, slots := 0, locals := 169 } : Room) 2 := ⟨Nat.le_of_ble_eq_true rfl, Nat.le_of_ble_eq_true rfl⟩
theorem ol_rr_X4_ticks_X4_tick : ol_rr ({ frames := 6, cells := 0, slots := 0, locals := 147 } : Room) ({ frames := 7, cells := 0, slots := 0, locals := 169 } : Room) 3 := ⟨Nat.le_of_ble_eq_true rfl, Nat.le_of_ble_eq_true rfl⟩
theorem ol_rr_X4_till_X4_at : ol_rr ({ frames := 0, cells := 0, slots := 0, locals := 0 } : Room) ({ frames := 7, cells := 0, slots := 0, locals := 169 } : Room) 2 := ⟨Nat.le_of_ble_eq_true rfl, Nat.le_of_ble_eq_true rfl⟩
theorem ol_rr_X4_till_X4_isBoard : ol_rr ({ frames := 1, cells := 0, slots := 0, locals := 22 } : Room) ({ frames := 7, cells := 0, slots := 0, locals := 169 } : Room) 2 := ⟨Nat.le_of_ble_eq_true rfl, Nat.le_of_ble_eq_true rfl⟩
theorem ol_rr_X4_till_X4_isRefused : ol_rr ({ frames := 0, cells := 0, slots := 0, locals := 0 } : Room) ({ frames := 7, cells := 0, slots := 0, locals := 169 } : Room) 2 := ⟨Nat.le_of_ble_eq_true rfl, Nat.le_of_ble_eq_true rfl⟩
theorem ol_rr_X4_till_X4_laysAside : ol_rr ({ frames := 0, cells := 0, slots := 0, locals := 0 } : Room) ({ frames := 7, cells := 0, slots := 0, locals := 169 } : Room) 2 := ⟨Nat.le_of_ble_eq_true rfl, Nat.le_of_ble_eq_true rfl⟩
theorem ol_rr_X4_till_X4_takesBack : ol_rr ({ frames := 0, cells := 0, slots := 0, locals := 0 } : Room) ({ frames := 7, cells := 0, slots := 0, locals := 169 } : Room) 2 := ⟨Nat.le_of_ble_eq_true rfl, Nat.le_of_ble_eq_true rfl⟩
theorem ol_rr_X4_till_X4_tick : ol_rr ({ frames := 6, cells := 0, slots := 0, locals := 147 } : Room) ({ frames := 7, cells := 0, slots := 0, locals := 169 } : Room) 3 := ⟨Nat.le_of_ble_eq_true rfl, Nat.le_of_ble_eq_true rfl⟩
theorem ol_rr_X4_till_X4_unless : ol_rr ({ frames := 0, cells := 0, slots := 0, locals := 0 } : Room) ({ frames := 7, cells := 0, slots := 0, locals := 169 } : Room) 1 := ⟨Nat.le_of_ble_eq_true rfl, Nat.le_of_ble_eq_true rfl⟩
theorem ol_rr_X4_told_X4_askingOnes : ol_rr ({ frames := 1, cells := 0, slots := 0, locals := 21 } : Room) ({ frames := 2, cells := 0, slots := 0, locals := 43 } : Room) 3 := ⟨Nat.le_of_ble_eq_true rfl, Nat.le_of_ble_eq_true rfl⟩
theorem ol_rr_X4_waiting_X4_doesWait : ol_rr ({ frames := 1, cells := 0, slots := 0, locals := 21 } : Room) ({ frames := 2, cells := 0, slots := 0, locals := 44 } : Room) 4 := ⟨Nat.le_of_ble_eq_true rfl, Nat.le_of_ble_eq_true rfl⟩
theorem ol_rr_X4_waiting_X4_isBoard : ol_rr ({ frames := 1, cells := 0, slots := 0, locals := 22 } : Room) ({ frames := 2, cells := 0, slots := 0, locals := 44 } : Room) 2 := ⟨Nat.le_of_ble_eq_true rfl, Nat.le_of_ble_eq_true rfl⟩
theorem ol_rr_X4_waiting_X4_isRefused : ol_rr ({ frames := 0, cells := 0, slots := 0, locals := 0 } : Room) ({ frames := 2, cells := 0, slots := 0, locals := 44 } : Room) 2 := ⟨Nat.le_of_ble_eq_true rfl, Nat.le_of_ble_eq_true rfl⟩
theorem ol_rr_X4_waiting_X4_unless : ol_rr ({ frames := 0, cells := 0, slots := 0, locals := 0 } : Room) ({ frames := 2, cells := 0, slots := 0, locals := 44 } : Room) 1 := ⟨Nat.le_of_ble_eq_true rfl, Nat.le_of_ble_eq_true rfl⟩
theorem ol_rr_X4_waits_X4_at : ol_rr ({ frames := 0, cells := 0, slots := 0, locals := 0 } : Room) ({ frames := 2, cells := 0, slots := 0, locals := 44 } : Room) 2 := ⟨Nat.le_of_ble_eq_true rfl, Nat.le_of_ble_eq_true rfl⟩
theorem ol_rr_X4_waits_X4_doesWait : ol_rr ({ frames := 1, cells := 0, slots := 0, locals := 21 } : Room) ({ frames := 2, cells := 0, slots := 0, locals := 44 } : Room) 4 := ⟨Nat.le_of_ble_eq_true rfl, Nat.le_of_ble_eq_true rfl⟩
theorem ol_rr_X4_waits_X4_isBoard : ol_rr ({ frames := 1, cells := 0, slots := 0, locals := 22 } : Room) ({ frames := 2, cells := 0, slots := 0, locals := 44 } : Room) 2 := ⟨Nat.le_of_ble_eq_true rfl, Nat.le_of_ble_eq_true rfl⟩
theorem ol_rr_X4_waits_X4_isRefused : ol_rr ({ frames := 0, cells := 0, slots := 0, locals := 0 } : Room) ({ frames := 2, cells := 0, slots := 0, locals := 44 } : Room) 2 := ⟨Nat.le_of_ble_eq_true rfl, Nat.le_of_ble_eq_true rfl⟩
theorem ol_rr_X4_will_X4_in : ol_rr ({ frames := 0, cells := 0, slots := 0, locals := 0 } : Room) ({ frames := 7, cells := 0, slots := 0, locals := 169 } : Room) 3 := ⟨Nat.le_of_ble_eq_true rfl, Nat.le_of_ble_eq_true rfl⟩
theorem ol_rr_X4_will_X4_isRefused : ol_rr ({ frames := 0, cells := 0, slots := 0, locals := 0 } : Room) ({ frames := 7, cells := 0, slots := 0, locals := 169 } : Room) 2 := ⟨Nat.le_of_ble_eq_true rfl, Nat.le_of_ble_eq_true rfl⟩
theorem ol_rr_X4_will_X4_laysAside : ol_rr ({ frames := 0, cells := 0, slots := 0, locals := 0 } : Room) ({ frames := 7, cells := 0, slots := 0, locals := 169 } : Room) 2 := ⟨Nat.le_of_ble_eq_true rfl, Nat.le_of_ble_eq_true rfl⟩
theorem ol_rr_X4_will_X4_takesBack : ol_rr ({ frames := 0, cells := 0, slots := 0, locals := 0 } : Room) ({ frames := 7, cells := 0, slots := 0, locals := 169 } : Room) 2 := ⟨Nat.le_of_ble_eq_true rfl, Nat.le_of_ble_eq_true rfl⟩
theorem ol_rr_X4_will_X4_tick : ol_rr ({ frames := 6, cells := 0, slots := 0, locals := 147 } : Room) ({ frames := 7, cells := 0, slots := 0, locals := 169 } : Room) 3 := ⟨Nat.le_of_ble_eq_true rfl, Nat.le_of_ble_eq_true rfl⟩
theorem ol_rr_X4_will_X4_told : ol_rr ({ frames := 2, cells := 0, slots := 0, locals := 43 } : Room) ({ frames := 7, cells := 0, slots := 0, locals := 169 } : Room) 2 := ⟨Nat.le_of_ble_eq_true rfl, Nat.le_of_ble_eq_true rfl⟩
theorem ol_rr_X4_winners_X4_isRefused : ol_rr ({ frames := 0, cells := 0, slots := 0, locals := 0 } : Room) ({ frames := 5, cells := 0, slots := 0, locals := 123 } : Room) 2 := ⟨Nat.le_of_ble_eq_true rfl, Nat.le_of_ble_eq_true rfl⟩
theorem ol_rr_X4_winners_X4_passWhy : ol_rr ({ frames := 2, cells := 0, slots := 0, locals := 43 } : Room) ({ frames := 5, cells := 0, slots := 0, locals := 123 } : Room) 5 := ⟨Nat.le_of_ble_eq_true rfl, Nat.le_of_ble_eq_true rfl⟩
theorem ol_rr_X4_winners_X4_passes : ol_rr ({ frames := 4, cells := 0, slots := 0, locals := 100 } : Room) ({ frames := 5, cells := 0, slots := 0, locals := 123 } : Room) 4 := ⟨Nat.le_of_ble_eq_true rfl, Nat.le_of_ble_eq_true rfl⟩
theorem ol_rr_X4_winners_X4_winnersAt : ol_rr ({ frames := 1, cells := 0, slots := 0, locals := 21 } : Room) ({ frames := 5, cells := 0, slots := 0, locals := 123 } : Room) 4 := ⟨Nat.le_of_ble_eq_true rfl, Nat.le_of_ble_eq_true rfl⟩
theorem ol_rr_X4_winnersAt_X4_cell : ol_rr ({ frames := 0, cells := 0, slots := 0, locals := 0 } : Room) ({ frames := 1, cells := 0, slots := 0, locals := 21 } : Room) 2 := ⟨Nat.le_of_ble_eq_true rfl, Nat.le_of_ble_eq_true rfl⟩
theorem ol_rr_X4_winnersAt_X4_has : ol_rr ({ frames := 0, cells := 0, slots := 0, locals := 0 } : Room) ({ frames := 1, cells := 0, slots := 0, locals := 21 } : Room) 2 := ⟨Nat.le_of_ble_eq_true rfl, Nat.le_of_ble_eq_true rfl⟩
theorem ol_rr_X4_withdrawn_X4_cell : ol_rr ({ frames := 0, cells := 0, slots := 0, locals := 0 } : Room) ({ frames := 5, cells := 0, slots := 0, locals := 123 } : Room) 2 := ⟨Nat.le_of_ble_eq_true rfl, Nat.le_of_ble_eq_true rfl⟩
theorem ol_rr_X4_withdrawn_X4_isBoard : ol_rr ({ frames := 1, cells := 0, slots := 0, locals := 22 } : Room) ({ frames := 5, cells := 0, slots := 0, locals := 123 } : Room) 2 := ⟨Nat.le_of_ble_eq_true rfl, Nat.le_of_ble_eq_true rfl⟩
theorem ol_rr_X4_withdrawn_X4_isRefused : ol_rr ({ frames := 0, cells := 0, slots := 0, locals := 0 } : Room) ({ frames := 5, cells := 0, slots := 0, locals := 123 } : Room) 2 := ⟨Nat.le_of_ble_eq_true rfl, Nat.le_of_ble_eq_true rfl⟩
theorem ol_rr_X4_withdrawn_X4_passWhy : ol_rr ({ frames := 2, cells := 0, slots := 0, locals := 43 } : Room) ({ frames := 5, cells := 0, slots := 0, locals := 123 } : Room) 5 := ⟨Nat.le_of_ble_eq_true rfl, Nat.le_of_ble_eq_true rfl⟩
theorem ol_rr_X4_withdrawn_X4_passes : ol_rr ({ frames := 4, cells := 0, slots := 0, locals := 100 } : Room) ({ frames := 5, cells := 0, slots := 0, locals := 123 } : Room) 4 := ⟨Nat.le_of_ble_eq_true rfl, Nat.le_of_ble_eq_true rfl⟩
theorem ol_rr_X4_word_X4_in : ol_rr ({ frames := 0, cells := 0, slots := 0, locals := 0 } : Room) ({ frames := 4, cells := 0, slots := 0, locals := 89 } : Room) 3 := ⟨Nat.le_of_ble_eq_true rfl, Nat.le_of_ble_eq_true rfl⟩
theorem ol_rr_X4_word_X4_isBoard : ol_rr ({ frames := 1, cells := 0, slots := 0, locals := 22 } : Room) ({ frames := 4, cells := 0, slots := 0, locals := 89 } : Room) 2 := ⟨Nat.le_of_ble_eq_true rfl, Nat.le_of_ble_eq_true rfl⟩
theorem ol_rr_X4_word_X4_isRefused : ol_rr ({ frames := 0, cells := 0, slots := 0, locals := 0 } : Room) ({ frames := 4, cells := 0, slots := 0, locals := 89 } : Room) 2 := ⟨Nat.le_of_ble_eq_true rfl, Nat.le_of_ble_eq_true rfl⟩
theorem ol_rr_X4_word_X4_wordOf : ol_rr ({ frames := 3, cells := 0, slots := 0, locals := 67 } : Room) ({ frames := 4, cells := 0, slots := 0, locals := 89 } : Room) 3 := ⟨Nat.le_of_ble_eq_true rfl, Nat.le_of_ble_eq_true rfl⟩
theorem ol_rr_X4_wordOf_X4_at : ol_rr ({ frames := 0, cells := 0, slots := 0, locals := 0 } : Room) ({ frames := 3, cells := 0, slots := 0, locals := 67 } : Room) 2 := ⟨Nat.le_of_ble_eq_true rfl, Nat.le_of_ble_eq_true rfl⟩
theorem ol_rr_X4_wordOf_X4_odd : ol_rr ({ frames := 1, cells := 0, slots := 0, locals := 22 } : Room) ({ frames := 3, cells := 0, slots := 0, locals := 67 } : Room) 1 := ⟨Nat.le_of_ble_eq_true rfl, Nat.le_of_ble_eq_true rfl⟩
theorem ol_rr_X4_wordOf_X4_rankOf : ol_rr ({ frames := 2, cells := 0, slots := 0, locals := 44 } : Room) ({ frames := 3, cells := 0, slots := 0, locals := 67 } : Room) 4 := ⟨Nat.le_of_ble_eq_true rfl, Nat.le_of_ble_eq_true rfl⟩
theorem ol_rr_X4_would_X4_elects : ol_rr ({ frames := 4, cells := 0, slots := 0, locals := 100 } : Room) ({ frames := 5, cells := 0, slots := 0, locals := 125 } : Room) 6 := ⟨Nat.le_of_ble_eq_true rfl, Nat.le_of_ble_eq_true rfl⟩
theorem ol_rr_X4_would_X4_isRefused : ol_rr ({ frames := 0, cells := 0, slots := 0, locals := 0 } : Room) ({ frames := 5, cells := 0, slots := 0, locals := 125 } : Room) 2 := ⟨Nat.le_of_ble_eq_true rfl, Nat.le_of_ble_eq_true rfl⟩
theorem ol_rr_X4_would_X4_isSet : ol_rr ({ frames := 1, cells := 0, slots := 0, locals := 22 } : Room) ({ frames := 5, cells := 0, slots := 0, locals := 125 } : Room) 2 := ⟨Nat.le_of_ble_eq_true rfl, Nat.le_of_ble_eq_true rfl⟩
