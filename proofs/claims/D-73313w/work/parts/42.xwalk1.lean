/-! walks of the pass (printed) -/
set_option maxRecDepth 100000
set_option maxHeartbeats 4000000 in
theorem wX1_isIn (V : ol_Gh) (ws : va_W) (x1 : Int32) (x2 : Int32) (x3 : Int32)  (z : Int32) (h : oX1_isIn x1 x2 x3 = some z) : ol_Mt V yX1_isIn cX1_isIn 3 (some .boolean) ({ frames := 0, cells := 0, slots := 0, locals := 0 } : Room) false [.int x1, .int x2, .int x3] (ws) (ol_Pr (some (.int z))) := by
  refine ol_MtOf (L0 := [some (.int x1), some (.int x2), some (.int x3)]) (by decide) (Nat.le_of_ble_eq_true rfl) rfl (fun X A hX => ?_)
  unfold oX1_isIn at h
  refine ol_iload_n hX (pc := 0) dX1_isIn_0 rfl rfl ?_
  refine ol_iload_n hX (pc := 1) dX1_isIn_1 rfl rfl ?_
  refine ol_icmp_lt hX (pc := 2) 14 dX1_isIn_2 (by decide) (fun c2 => ?_) (fun c2 => ?_)
  · have h := ol_ifp c2 h
    refine ol_iconst hX (pc := 14) 0 dX1_isIn_14 ol_k_iconst_0 ?_
    have h := ol_of_some h
    subst h
    exact ol_zret hX (pc := 15) dX1_isIn_15 (by rfl) rfl ⟨Nat.le_refl _, Nat.le_refl _⟩
  · have h := ol_ifn c2 h
    refine ol_iload_n hX (pc := 5) dX1_isIn_5 rfl rfl ?_
    refine ol_iload_n hX (pc := 6) dX1_isIn_6 rfl rfl ?_
    refine ol_icmp_gt hX (pc := 7) 14 dX1_isIn_7 (by decide) (fun c1 => ?_) (fun c1 => ?_)
    · have h := ol_ifp c1 h
      refine ol_iconst hX (pc := 14) 0 dX1_isIn_14 ol_k_iconst_0 ?_
      have h := ol_of_some h
      subst h
      exact ol_zret hX (pc := 15) dX1_isIn_15 (by rfl) rfl ⟨Nat.le_refl _, Nat.le_refl _⟩
    · have h := ol_ifn c1 h
      refine ol_iconst hX (pc := 10) 1 dX1_isIn_10 ol_k_iconst_1 ?_
      refine ol_goto hX (pc := 11) 15 dX1_isIn_11 (by decide) ?_
      have h := ol_of_some h
      subst h
      exact ol_zret hX (pc := 15) dX1_isIn_15 (by rfl) rfl ⟨Nat.le_refl _, Nat.le_refl _⟩
set_option maxHeartbeats 4000000 in
theorem wX1_has (V : ol_Gh) (ws : va_W) (x1 : Int32) (x2 : Int32)  (z : Int32) (h : oX1_has x1 x2 = some z) : ol_Mt V yX1_has cX1_has 2 (some .boolean) ({ frames := 0, cells := 0, slots := 0, locals := 0 } : Room) false [.int x1, .int x2] (ws) (ol_Pr (some (.int z))) := by
  refine ol_MtOf (L0 := [some (.int x1), some (.int x2)]) (by decide) (Nat.le_of_ble_eq_true rfl) rfl (fun X A hX => ?_)
  unfold oX1_has at h
  refine ol_iload_n hX (pc := 0) dX1_has_0 rfl rfl ?_
  refine ol_iload_n hX (pc := 1) dX1_has_1 rfl rfl ?_
  refine ol_ishr hX (pc := 2) dX1_has_2 ?_
  refine ol_iconst hX (pc := 3) 1 dX1_has_3 ol_k_iconst_1 ?_
  refine ol_iand hX (pc := 4) dX1_has_4 ?_
  refine ol_iconst hX (pc := 5) 1 dX1_has_5 ol_k_iconst_1 ?_
  refine ol_icmp_ne hX (pc := 6) 13 dX1_has_6 (by decide) (fun c1 => ?_) (fun c1 => ?_)
  · have h := ol_ifn c1 h
    refine ol_iconst hX (pc := 13) 0 dX1_has_13 ol_k_iconst_0 ?_
    have h := ol_of_some h
    subst h
    exact ol_zret hX (pc := 14) dX1_has_14 (by rfl) rfl ⟨Nat.le_refl _, Nat.le_refl _⟩
  · have h := ol_ifp c1 h
    refine ol_iconst hX (pc := 9) 1 dX1_has_9 ol_k_iconst_1 ?_
    refine ol_goto hX (pc := 10) 14 dX1_has_10 (by decide) ?_
    have h := ol_of_some h
    subst h
    exact ol_zret hX (pc := 14) dX1_has_14 (by rfl) rfl ⟨Nat.le_refl _, Nat.le_refl _⟩
set_option maxHeartbeats 4000000 in
theorem wJ14_bitCount (V : ol_Gh) (ws : va_W) (x1 : Int32)  (z : Int32) (h : oJ14_bitCount x1 = some z) : ol_Mt V yJ14_bitCount cJ14_bitCount 1 (some .int) ({ frames := 0, cells := 0, slots := 0, locals := 0 } : Room) false [.int x1] (ws) (ol_Pr (some (.int z))) := by
  refine ol_MtOf (L0 := [some (.int x1)]) (by decide) (Nat.le_of_ble_eq_true rfl) rfl (fun X A hX => ?_)
  unfold oJ14_bitCount at h
  refine ol_iload_n hX (pc := 0) dJ14_bitCount_0 rfl rfl ?_
  refine ol_iload_n hX (pc := 1) dJ14_bitCount_1 rfl rfl ?_
  refine ol_iconst hX (pc := 2) 1 dJ14_bitCount_2 ol_k_iconst_1 ?_
  refine ol_iushr hX (pc := 3) dJ14_bitCount_3 ?_
  refine ol_ldcw hX (pc := 4) 1431655765 dJ14_bitCount_4 q1551 ?_
  refine ol_iand hX (pc := 7) dJ14_bitCount_7 ?_
  refine ol_isub hX (pc := 8) dJ14_bitCount_8 ?_
  obtain ⟨y1, e2, h⟩ := ol_of_lt h
  refine ol_topE e2 ?_
  refine ol_istore_n hX (pc := 9) [some (.int y1)] dJ14_bitCount_9 rfl (by decide) rfl rfl ?_
  refine ol_iload_n hX (pc := 10) dJ14_bitCount_10 rfl rfl ?_
  refine ol_ldcw hX (pc := 11) 858993459 dJ14_bitCount_11 q1552 ?_
  refine ol_iand hX (pc := 14) dJ14_bitCount_14 ?_
  refine ol_iload_n hX (pc := 15) dJ14_bitCount_15 rfl rfl ?_
  refine ol_iconst hX (pc := 16) 2 dJ14_bitCount_16 ol_k_iconst_2 ?_
  refine ol_iushr hX (pc := 17) dJ14_bitCount_17 ?_
  refine ol_ldcw hX (pc := 18) 858993459 dJ14_bitCount_18 q1552 ?_
  refine ol_iand hX (pc := 21) dJ14_bitCount_21 ?_
  refine ol_iadd hX (pc := 22) dJ14_bitCount_22 ?_
  obtain ⟨y3, e4, h⟩ := ol_of_lt h
  refine ol_topE e4 ?_
  refine ol_istore_n hX (pc := 23) [some (.int y3)] dJ14_bitCount_23 rfl (by decide) rfl rfl ?_
  refine ol_iload_n hX (pc := 24) dJ14_bitCount_24 rfl rfl ?_
  refine ol_iload_n hX (pc := 25) dJ14_bitCount_25 rfl rfl ?_
  refine ol_iconst hX (pc := 26) 4 dJ14_bitCount_26 ol_k_iconst_4 ?_
  refine ol_iushr hX (pc := 27) dJ14_bitCount_27 ?_
  refine ol_iadd hX (pc := 28) dJ14_bitCount_28 ?_
  refine ol_ldcw hX (pc := 29) 252645135 dJ14_bitCount_29 q1553 ?_
  refine ol_iand hX (pc := 32) dJ14_bitCount_32 ?_
  obtain ⟨y5, e6, h⟩ := ol_of_lt h
  refine ol_topE e6 ?_
  refine ol_istore_n hX (pc := 33) [some (.int y5)] dJ14_bitCount_33 rfl (by decide) rfl rfl ?_
  refine ol_iload_n hX (pc := 34) dJ14_bitCount_34 rfl rfl ?_
  refine ol_iload_n hX (pc := 35) dJ14_bitCount_35 rfl rfl ?_
  refine ol_bipush hX (pc := 36) 8 dJ14_bitCount_36 ol_k_bipush_8 ?_
  refine ol_iushr hX (pc := 38) dJ14_bitCount_38 ?_
  refine ol_iadd hX (pc := 39) dJ14_bitCount_39 ?_
  obtain ⟨y7, e8, h⟩ := ol_of_lt h
  refine ol_topE e8 ?_
  refine ol_istore_n hX (pc := 40) [some (.int y7)] dJ14_bitCount_40 rfl (by decide) rfl rfl ?_
  refine ol_iload_n hX (pc := 41) dJ14_bitCount_41 rfl rfl ?_
  refine ol_iload_n hX (pc := 42) dJ14_bitCount_42 rfl rfl ?_
  refine ol_bipush hX (pc := 43) 16 dJ14_bitCount_43 ol_k_bipush_16 ?_
  refine ol_iushr hX (pc := 45) dJ14_bitCount_45 ?_
  refine ol_iadd hX (pc := 46) dJ14_bitCount_46 ?_
  obtain ⟨y9, e10, h⟩ := ol_of_lt h
  refine ol_topE e10 ?_
  refine ol_istore_n hX (pc := 47) [some (.int y9)] dJ14_bitCount_47 rfl (by decide) rfl rfl ?_
  refine ol_iload_n hX (pc := 48) dJ14_bitCount_48 rfl rfl ?_
  refine ol_bipush hX (pc := 49) 63 dJ14_bitCount_49 ol_k_bipush_63 ?_
  refine ol_iand hX (pc := 51) dJ14_bitCount_51 ?_
  have h := ol_of_some h
  subst h
  exact ol_iret hX (pc := 52) dJ14_bitCount_52 rfl ⟨Nat.le_refl _, Nat.le_refl _⟩
set_option maxHeartbeats 4000000 in
theorem wJ14_numberOfTrailingZeros_L62 {X : ol_Cx} {V : ol_Gh} {A : Nat → Prop} {ws : va_W} {z : Int32} (hX : ol_CX X V A cJ14_numberOfTrailingZeros RJ14 "numberOfTrailingZeros" 2 (some .int))    (v0 : Int32) (v1 : Int32) (h : oJ14_numberOfTrailingZeros_L62 v0 v1 = some z) : ol_G X V A false (ol_Pr (some (.int z))) ({ frames := 0, cells := 0, slots := 0, locals := 0 } : Room) 2 0 0 (ws) 62 [some (.int v0), some (.int v1)] [] := by
  unfold oJ14_numberOfTrailingZeros_L62 at h
  refine ol_iload_n hX (pc := 62) dJ14_numberOfTrailingZeros_62 rfl rfl ?_
  refine ol_iconst hX (pc := 63) 4 dJ14_numberOfTrailingZeros_63 ol_k_iconst_4 ?_
  refine ol_icmp_le hX (pc := 64) 74 dJ14_numberOfTrailingZeros_64 (by decide) (fun c3 => ?_) (fun c3 => ?_)
  · have h := ol_ifp c3 h
    refine ol_iload_n hX (pc := 74) dJ14_numberOfTrailingZeros_74 rfl rfl ?_
    refine ol_iload_n hX (pc := 75) dJ14_numberOfTrailingZeros_75 rfl rfl ?_
    refine ol_iconst hX (pc := 76) 1 dJ14_numberOfTrailingZeros_76 ol_k_iconst_1 ?_
    refine ol_iushr hX (pc := 77) dJ14_numberOfTrailingZeros_77 ?_
    refine ol_iadd hX (pc := 78) dJ14_numberOfTrailingZeros_78 ?_
    have h := ol_of_some h
    subst h
    exact ol_iret hX (pc := 79) dJ14_numberOfTrailingZeros_79 rfl ⟨Nat.le_refl _, Nat.le_refl _⟩
  · have h := ol_ifn c3 h
    refine ol_iinc hX (pc := 67) (v1 + 2) [some (.int v0), some (.int (v1 + 2))] dJ14_numberOfTrailingZeros_67 rfl (ol_k_iinc_2 _) (by decide) rfl rfl ?_
    refine ol_iload_n hX (pc := 70) dJ14_numberOfTrailingZeros_70 rfl rfl ?_
    refine ol_iconst hX (pc := 71) 2 dJ14_numberOfTrailingZeros_71 ol_k_iconst_2 ?_
    refine ol_iushr hX (pc := 72) dJ14_numberOfTrailingZeros_72 ?_
    obtain ⟨y1, e2, h⟩ := ol_of_lt h
    refine ol_topE e2 ?_
    refine ol_istore_n hX (pc := 73) [some (.int y1), some (.int (v1 + 2))] dJ14_numberOfTrailingZeros_73 rfl (by decide) rfl rfl ?_
    refine ol_iload_n hX (pc := 74) dJ14_numberOfTrailingZeros_74 rfl rfl ?_
    refine ol_iload_n hX (pc := 75) dJ14_numberOfTrailingZeros_75 rfl rfl ?_
    refine ol_iconst hX (pc := 76) 1 dJ14_numberOfTrailingZeros_76 ol_k_iconst_1 ?_
    refine ol_iushr hX (pc := 77) dJ14_numberOfTrailingZeros_77 ?_
    refine ol_iadd hX (pc := 78) dJ14_numberOfTrailingZeros_78 ?_
    have h := ol_of_some h
    subst h
    exact ol_iret hX (pc := 79) dJ14_numberOfTrailingZeros_79 rfl ⟨Nat.le_refl _, Nat.le_refl _⟩
set_option maxHeartbeats 4000000 in
theorem wJ14_numberOfTrailingZeros_L34 {X : ol_Cx} {V : ol_Gh} {A : Nat → Prop} {ws : va_W} {z : Int32} (hX : ol_CX X V A cJ14_numberOfTrailingZeros RJ14 "numberOfTrailingZeros" 2 (some .int))    (v0 : Int32) (v1 : Int32) (h : oJ14_numberOfTrailingZeros_L34 v0 v1 = some z) : ol_G X V A false (ol_Pr (some (.int z))) ({ frames := 0, cells := 0, slots := 0, locals := 0 } : Room) 2 0 0 (ws) 34 [some (.int v0), some (.int v1)] [] := by
  unfold oJ14_numberOfTrailingZeros_L34 at h
  refine ol_iload_n hX (pc := 34) dJ14_numberOfTrailingZeros_34 rfl rfl ?_
  refine ol_sipush hX (pc := 35) 256 dJ14_numberOfTrailingZeros_35 ol_k_sipush_256 ?_
  refine ol_icmp_le hX (pc := 38) 49 dJ14_numberOfTrailingZeros_38 (by decide) (fun c9 => ?_) (fun c9 => ?_)
  · have h := ol_ifp c9 h
    refine ol_iload_n hX (pc := 49) dJ14_numberOfTrailingZeros_49 rfl rfl ?_
    refine ol_bipush hX (pc := 50) 16 dJ14_numberOfTrailingZeros_50 ol_k_bipush_16 ?_
    refine ol_icmp_le hX (pc := 52) 62 dJ14_numberOfTrailingZeros_52 (by decide) (fun c3 => ?_) (fun c3 => ?_)
    · have h := ol_ifp c3 h
      exact wJ14_numberOfTrailingZeros_L62 hX v0 v1 h
    · have h := ol_ifn c3 h
      refine ol_iinc hX (pc := 55) (v1 + 4) [some (.int v0), some (.int (v1 + 4))] dJ14_numberOfTrailingZeros_55 rfl (ol_k_iinc_4 _) (by decide) rfl rfl ?_
      refine ol_iload_n hX (pc := 58) dJ14_numberOfTrailingZeros_58 rfl rfl ?_
      refine ol_iconst hX (pc := 59) 4 dJ14_numberOfTrailingZeros_59 ol_k_iconst_4 ?_
      refine ol_iushr hX (pc := 60) dJ14_numberOfTrailingZeros_60 ?_
      obtain ⟨y1, e2, h⟩ := ol_of_lt h
      refine ol_topE e2 ?_
      refine ol_istore_n hX (pc := 61) [some (.int y1), some (.int (v1 + 4))] dJ14_numberOfTrailingZeros_61 rfl (by decide) rfl rfl ?_
      exact wJ14_numberOfTrailingZeros_L62 hX y1 (v1 + 4) h
  · have h := ol_ifn c9 h
    refine ol_iinc hX (pc := 41) (v1 + 8) [some (.int v0), some (.int (v1 + 8))] dJ14_numberOfTrailingZeros_41 rfl (ol_k_iinc_8 _) (by decide) rfl rfl ?_
    refine ol_iload_n hX (pc := 44) dJ14_numberOfTrailingZeros_44 rfl rfl ?_
    refine ol_bipush hX (pc := 45) 8 dJ14_numberOfTrailingZeros_45 ol_k_bipush_8 ?_
    refine ol_iushr hX (pc := 47) dJ14_numberOfTrailingZeros_47 ?_
    obtain ⟨y4, e5, h⟩ := ol_of_lt h
    refine ol_topE e5 ?_
    refine ol_istore_n hX (pc := 48) [some (.int y4), some (.int (v1 + 8))] dJ14_numberOfTrailingZeros_48 rfl (by decide) rfl rfl ?_
    refine ol_iload_n hX (pc := 49) dJ14_numberOfTrailingZeros_49 rfl rfl ?_
    refine ol_bipush hX (pc := 50) 16 dJ14_numberOfTrailingZeros_50 ol_k_bipush_16 ?_
    refine ol_icmp_le hX (pc := 52) 62 dJ14_numberOfTrailingZeros_52 (by decide) (fun c8 => ?_) (fun c8 => ?_)
    · have h := ol_ifp c8 h
      exact wJ14_numberOfTrailingZeros_L62 hX y4 (v1 + 8) h
    · have h := ol_ifn c8 h
      refine ol_iinc hX (pc := 55) ((v1 + 8) + 4) [some (.int y4), some (.int ((v1 + 8) + 4))] dJ14_numberOfTrailingZeros_55 rfl (ol_k_iinc_4 _) (by decide) rfl rfl ?_
      refine ol_iload_n hX (pc := 58) dJ14_numberOfTrailingZeros_58 rfl rfl ?_
      refine ol_iconst hX (pc := 59) 4 dJ14_numberOfTrailingZeros_59 ol_k_iconst_4 ?_
      refine ol_iushr hX (pc := 60) dJ14_numberOfTrailingZeros_60 ?_
      obtain ⟨y6, e7, h⟩ := ol_of_lt h
      refine ol_topE e7 ?_
      refine ol_istore_n hX (pc := 61) [some (.int y6), some (.int ((v1 + 8) + 4))] dJ14_numberOfTrailingZeros_61 rfl (by decide) rfl rfl ?_
      exact wJ14_numberOfTrailingZeros_L62 hX y6 ((v1 + 8) + 4) h
set_option maxHeartbeats 4000000 in
theorem wJ14_numberOfTrailingZeros (V : ol_Gh) (ws : va_W) (x1 : Int32)  (z : Int32) (h : oJ14_numberOfTrailingZeros x1 = some z) : ol_Mt V yJ14_numberOfTrailingZeros cJ14_numberOfTrailingZeros 2 (some .int) ({ frames := 0, cells := 0, slots := 0, locals := 0 } : Room) false [.int x1] (ws) (ol_Pr (some (.int z))) := by
  refine ol_MtOf (L0 := [some (.int x1), none]) (by decide) (Nat.le_of_ble_eq_true rfl) rfl (fun X A hX => ?_)
  unfold oJ14_numberOfTrailingZeros at h
  refine ol_iload_n hX (pc := 0) dJ14_numberOfTrailingZeros_0 rfl rfl ?_
  refine ol_iconst hX (pc := 1) (-1) dJ14_numberOfTrailingZeros_1 ol_k_iconst_m1 ?_
  refine ol_ixor hX (pc := 2) dJ14_numberOfTrailingZeros_2 ?_
  refine ol_iload_n hX (pc := 3) dJ14_numberOfTrailingZeros_3 rfl rfl ?_
  refine ol_iconst hX (pc := 4) 1 dJ14_numberOfTrailingZeros_4 ol_k_iconst_1 ?_
  refine ol_isub hX (pc := 5) dJ14_numberOfTrailingZeros_5 ?_
  refine ol_iand hX (pc := 6) dJ14_numberOfTrailingZeros_6 ?_
  refine ol_istore_n hX (pc := 7) [some (.int ((x1 ^^^ (-1)) &&& (x1 - 1))), none] dJ14_numberOfTrailingZeros_7 rfl (by decide) rfl rfl ?_
  refine ol_iload_n hX (pc := 8) dJ14_numberOfTrailingZeros_8 rfl rfl ?_
  refine ol_if_gt hX (pc := 9) 17 dJ14_numberOfTrailingZeros_9 (by decide) (fun c4 => ?_) (fun c4 => ?_)
  · have h := ol_ifp c4 h
    refine ol_iconst hX (pc := 17) 1 dJ14_numberOfTrailingZeros_17 ol_k_iconst_1 ?_
    refine ol_istore_n hX (pc := 18) [some (.int ((x1 ^^^ (-1)) &&& (x1 - 1))), some (.int 1)] dJ14_numberOfTrailingZeros_18 rfl (by decide) rfl rfl ?_
    refine ol_iload_n hX (pc := 19) dJ14_numberOfTrailingZeros_19 rfl rfl ?_
    refine ol_ldcw hX (pc := 20) 65536 dJ14_numberOfTrailingZeros_20 q1072 ?_
    refine ol_icmp_le hX (pc := 23) 34 dJ14_numberOfTrailingZeros_23 (by decide) (fun c3 => ?_) (fun c3 => ?_)
    · have h := ol_ifp c3 h
      exact wJ14_numberOfTrailingZeros_L34 hX ((x1 ^^^ (-1)) &&& (x1 - 1)) 1 h
    · have h := ol_ifn c3 h
      refine ol_iinc hX (pc := 26) (1 + 16) [some (.int ((x1 ^^^ (-1)) &&& (x1 - 1))), some (.int (1 + 16))] dJ14_numberOfTrailingZeros_26 rfl (ol_k_iinc_16 _) (by decide) rfl rfl ?_
      refine ol_iload_n hX (pc := 29) dJ14_numberOfTrailingZeros_29 rfl rfl ?_
      refine ol_bipush hX (pc := 30) 16 dJ14_numberOfTrailingZeros_30 ol_k_bipush_16 ?_
      refine ol_iushr hX (pc := 32) dJ14_numberOfTrailingZeros_32 ?_
      obtain ⟨y1, e2, h⟩ := ol_of_lt h
      refine ol_topE e2 ?_
      refine ol_istore_n hX (pc := 33) [some (.int y1), some (.int (1 + 16))] dJ14_numberOfTrailingZeros_33 rfl (by decide) rfl rfl ?_
      exact wJ14_numberOfTrailingZeros_L34 hX y1 (1 + 16) h
  · have h := ol_ifn c4 h
    refine ol_iload_n hX (pc := 12) dJ14_numberOfTrailingZeros_12 rfl rfl ?_
    refine ol_bipush hX (pc := 13) 32 dJ14_numberOfTrailingZeros_13 ol_k_bipush_32 ?_
    refine ol_iand hX (pc := 15) dJ14_numberOfTrailingZeros_15 ?_
    have h := ol_of_some h
    subst h
    exact ol_iret hX (pc := 16) dJ14_numberOfTrailingZeros_16 rfl ⟨Nat.le_refl _, Nat.le_refl _⟩
set_option maxHeartbeats 4000000 in
theorem wJ14_numberOfLeadingZeros_L61 {X : ol_Cx} {V : ol_Gh} {A : Nat → Prop} {ws : va_W} {z : Int32} (hX : ol_CX X V A cJ14_numberOfLeadingZeros RJ14 "numberOfLeadingZeros" 2 (some .int))    (v0 : Int32) (v1 : Int32) (h : oJ14_numberOfLeadingZeros_L61 v0 v1 = some z) : ol_G X V A false (ol_Pr (some (.int z))) ({ frames := 0, cells := 0, slots := 0, locals := 0 } : Room) 2 0 0 (ws) 61 [some (.int v0), some (.int v1)] [] := by
  unfold oJ14_numberOfLeadingZeros_L61 at h
  refine ol_iload_n hX (pc := 61) dJ14_numberOfLeadingZeros_61 rfl rfl ?_
  refine ol_iconst hX (pc := 62) 4 dJ14_numberOfLeadingZeros_62 ol_k_iconst_4 ?_
  refine ol_icmp_lt hX (pc := 63) 73 dJ14_numberOfLeadingZeros_63 (by decide) (fun c3 => ?_) (fun c3 => ?_)
  · have h := ol_ifp c3 h
    refine ol_iload_n hX (pc := 73) dJ14_numberOfLeadingZeros_73 rfl rfl ?_
    refine ol_iload_n hX (pc := 74) dJ14_numberOfLeadingZeros_74 rfl rfl ?_
    refine ol_iconst hX (pc := 75) 1 dJ14_numberOfLeadingZeros_75 ol_k_iconst_1 ?_
    refine ol_iushr hX (pc := 76) dJ14_numberOfLeadingZeros_76 ?_
    refine ol_isub hX (pc := 77) dJ14_numberOfLeadingZeros_77 ?_
    have h := ol_of_some h
    subst h
    exact ol_iret hX (pc := 78) dJ14_numberOfLeadingZeros_78 rfl ⟨Nat.le_refl _, Nat.le_refl _⟩
  · have h := ol_ifn c3 h
    refine ol_iinc hX (pc := 66) (v1 + (-2)) [some (.int v0), some (.int (v1 + (-2)))] dJ14_numberOfLeadingZeros_66 rfl (ol_k_iinc_m2 _) (by decide) rfl rfl ?_
    refine ol_iload_n hX (pc := 69) dJ14_numberOfLeadingZeros_69 rfl rfl ?_
    refine ol_iconst hX (pc := 70) 2 dJ14_numberOfLeadingZeros_70 ol_k_iconst_2 ?_
    refine ol_iushr hX (pc := 71) dJ14_numberOfLeadingZeros_71 ?_
    obtain ⟨y1, e2, h⟩ := ol_of_lt h
    refine ol_topE e2 ?_
    refine ol_istore_n hX (pc := 72) [some (.int y1), some (.int (v1 + (-2)))] dJ14_numberOfLeadingZeros_72 rfl (by decide) rfl rfl ?_
    refine ol_iload_n hX (pc := 73) dJ14_numberOfLeadingZeros_73 rfl rfl ?_
    refine ol_iload_n hX (pc := 74) dJ14_numberOfLeadingZeros_74 rfl rfl ?_
    refine ol_iconst hX (pc := 75) 1 dJ14_numberOfLeadingZeros_75 ol_k_iconst_1 ?_
    refine ol_iushr hX (pc := 76) dJ14_numberOfLeadingZeros_76 ?_
    refine ol_isub hX (pc := 77) dJ14_numberOfLeadingZeros_77 ?_
    have h := ol_of_some h
    subst h
    exact ol_iret hX (pc := 78) dJ14_numberOfLeadingZeros_78 rfl ⟨Nat.le_refl _, Nat.le_refl _⟩
set_option maxHeartbeats 4000000 in
theorem wJ14_numberOfLeadingZeros_L33 {X : ol_Cx} {V : ol_Gh} {A : Nat → Prop} {ws : va_W} {z : Int32} (hX : ol_CX X V A cJ14_numberOfLeadingZeros RJ14 "numberOfLeadingZeros" 2 (some .int))    (v0 : Int32) (v1 : Int32) (h : oJ14_numberOfLeadingZeros_L33 v0 v1 = some z) : ol_G X V A false (ol_Pr (some (.int z))) ({ frames := 0, cells := 0, slots := 0, locals := 0 } : Room) 2 0 0 (ws) 33 [some (.int v0), some (.int v1)] [] := by
  unfold oJ14_numberOfLeadingZeros_L33 at h
  refine ol_iload_n hX (pc := 33) dJ14_numberOfLeadingZeros_33 rfl rfl ?_
  refine ol_sipush hX (pc := 34) 256 dJ14_numberOfLeadingZeros_34 ol_k_sipush_256 ?_
  refine ol_icmp_lt hX (pc := 37) 48 dJ14_numberOfLeadingZeros_37 (by decide) (fun c9 => ?_) (fun c9 => ?_)
  · have h := ol_ifp c9 h
    refine ol_iload_n hX (pc := 48) dJ14_numberOfLeadingZeros_48 rfl rfl ?_
    refine ol_bipush hX (pc := 49) 16 dJ14_numberOfLeadingZeros_49 ol_k_bipush_16 ?_
    refine ol_icmp_lt hX (pc := 51) 61 dJ14_numberOfLeadingZeros_51 (by decide) (fun c3 => ?_) (fun c3 => ?_)
    · have h := ol_ifp c3 h
      exact wJ14_numberOfLeadingZeros_L61 hX v0 v1 h
    · have h := ol_ifn c3 h
      refine ol_iinc hX (pc := 54) (v1 + (-4)) [some (.int v0), some (.int (v1 + (-4)))] dJ14_numberOfLeadingZeros_54 rfl (ol_k_iinc_m4 _) (by decide) rfl rfl ?_
      refine ol_iload_n hX (pc := 57) dJ14_numberOfLeadingZeros_57 rfl rfl ?_
      refine ol_iconst hX (pc := 58) 4 dJ14_numberOfLeadingZeros_58 ol_k_iconst_4 ?_
      refine ol_iushr hX (pc := 59) dJ14_numberOfLeadingZeros_59 ?_
      obtain ⟨y1, e2, h⟩ := ol_of_lt h
      refine ol_topE e2 ?_
      refine ol_istore_n hX (pc := 60) [some (.int y1), some (.int (v1 + (-4)))] dJ14_numberOfLeadingZeros_60 rfl (by decide) rfl rfl ?_
      exact wJ14_numberOfLeadingZeros_L61 hX y1 (v1 + (-4)) h
  · have h := ol_ifn c9 h
    refine ol_iinc hX (pc := 40) (v1 + (-8)) [some (.int v0), some (.int (v1 + (-8)))] dJ14_numberOfLeadingZeros_40 rfl (ol_k_iinc_m8 _) (by decide) rfl rfl ?_
    refine ol_iload_n hX (pc := 43) dJ14_numberOfLeadingZeros_43 rfl rfl ?_
    refine ol_bipush hX (pc := 44) 8 dJ14_numberOfLeadingZeros_44 ol_k_bipush_8 ?_
    refine ol_iushr hX (pc := 46) dJ14_numberOfLeadingZeros_46 ?_
    obtain ⟨y4, e5, h⟩ := ol_of_lt h
    refine ol_topE e5 ?_
    refine ol_istore_n hX (pc := 47) [some (.int y4), some (.int (v1 + (-8)))] dJ14_numberOfLeadingZeros_47 rfl (by decide) rfl rfl ?_
    refine ol_iload_n hX (pc := 48) dJ14_numberOfLeadingZeros_48 rfl rfl ?_
    refine ol_bipush hX (pc := 49) 16 dJ14_numberOfLeadingZeros_49 ol_k_bipush_16 ?_
    refine ol_icmp_lt hX (pc := 51) 61 dJ14_numberOfLeadingZeros_51 (by decide) (fun c8 => ?_) (fun c8 => ?_)
    · have h := ol_ifp c8 h
      exact wJ14_numberOfLeadingZeros_L61 hX y4 (v1 + (-8)) h
    · have h := ol_ifn c8 h
      refine ol_iinc hX (pc := 54) ((v1 + (-8)) + (-4)) [some (.int y4), some (.int ((v1 + (-8)) + (-4)))] dJ14_numberOfLeadingZeros_54 rfl (ol_k_iinc_m4 _) (by decide) rfl rfl ?_
      refine ol_iload_n hX (pc := 57) dJ14_numberOfLeadingZeros_57 rfl rfl ?_
      refine ol_iconst hX (pc := 58) 4 dJ14_numberOfLeadingZeros_58 ol_k_iconst_4 ?_
      refine ol_iushr hX (pc := 59) dJ14_numberOfLeadingZeros_59 ?_
      obtain ⟨y6, e7, h⟩ := ol_of_lt h
      refine ol_topE e7 ?_
      refine ol_istore_n hX (pc := 60) [some (.int y6), some (.int ((v1 + (-8)) + (-4)))] dJ14_numberOfLeadingZeros_60 rfl (by decide) rfl rfl ?_
      exact wJ14_numberOfLeadingZeros_L61 hX y6 ((v1 + (-8)) + (-4)) h
set_option maxHeartbeats 4000000 in
theorem wJ14_numberOfLeadingZeros (V : ol_Gh) (ws : va_W) (x1 : Int32)  (z : Int32) (h : oJ14_numberOfLeadingZeros x1 = some z) : ol_Mt V yJ14_numberOfLeadingZeros cJ14_numberOfLeadingZeros 2 (some .int) ({ frames := 0, cells := 0, slots := 0, locals := 0 } : Room) false [.int x1] (ws) (ol_Pr (some (.int z))) := by
  refine ol_MtOf (L0 := [some (.int x1), none]) (by decide) (Nat.le_of_ble_eq_true rfl) rfl (fun X A hX => ?_)
  unfold oJ14_numberOfLeadingZeros at h
  refine ol_iload_n hX (pc := 0) dJ14_numberOfLeadingZeros_0 rfl rfl ?_
  refine ol_if_gt hX (pc := 1) 15 dJ14_numberOfLeadingZeros_1 (by decide) (fun c5 => ?_) (fun c5 => ?_)
  · have h := ol_ifp c5 h
    refine ol_bipush hX (pc := 15) 31 dJ14_numberOfLeadingZeros_15 ol_k_bipush_31 ?_
    refine ol_istore_n hX (pc := 17) [some (.int x1), some (.int 31)] dJ14_numberOfLeadingZeros_17 rfl (by decide) rfl rfl ?_
    refine ol_iload_n hX (pc := 18) dJ14_numberOfLeadingZeros_18 rfl rfl ?_
    refine ol_ldcw hX (pc := 19) 65536 dJ14_numberOfLeadingZeros_19 q1072 ?_
    refine ol_icmp_lt hX (pc := 22) 33 dJ14_numberOfLeadingZeros_22 (by decide) (fun c3 => ?_) (fun c3 => ?_)
    · have h := ol_ifp c3 h
      exact wJ14_numberOfLeadingZeros_L33 hX x1 31 h
    · have h := ol_ifn c3 h
      refine ol_iinc hX (pc := 25) (31 + (-16)) [some (.int x1), some (.int (31 + (-16)))] dJ14_numberOfLeadingZeros_25 rfl (ol_k_iinc_m16 _) (by decide) rfl rfl ?_
      refine ol_iload_n hX (pc := 28) dJ14_numberOfLeadingZeros_28 rfl rfl ?_
      refine ol_bipush hX (pc := 29) 16 dJ14_numberOfLeadingZeros_29 ol_k_bipush_16 ?_
      refine ol_iushr hX (pc := 31) dJ14_numberOfLeadingZeros_31 ?_
      obtain ⟨y1, e2, h⟩ := ol_of_lt h
      refine ol_topE e2 ?_
      refine ol_istore_n hX (pc := 32) [some (.int y1), some (.int (31 + (-16)))] dJ14_numberOfLeadingZeros_32 rfl (by decide) rfl rfl ?_
      exact wJ14_numberOfLeadingZeros_L33 hX y1 (31 + (-16)) h
  · have h := ol_ifn c5 h
    refine ol_iload_n hX (pc := 4) dJ14_numberOfLeadingZeros_4 rfl rfl ?_
    refine ol_if_ne hX (pc := 5) 13 dJ14_numberOfLeadingZeros_5 (by decide) (fun c4 => ?_) (fun c4 => ?_)
    · have h := ol_ifn c4 h
      refine ol_iconst hX (pc := 13) 0 dJ14_numberOfLeadingZeros_13 ol_k_iconst_0 ?_
      have h := ol_of_some h
      subst h
      exact ol_iret hX (pc := 14) dJ14_numberOfLeadingZeros_14 rfl ⟨Nat.le_refl _, Nat.le_refl _⟩
    · have h := ol_ifp c4 h
      refine ol_bipush hX (pc := 8) 32 dJ14_numberOfLeadingZeros_8 ol_k_bipush_32 ?_
      refine ol_goto hX (pc := 10) 14 dJ14_numberOfLeadingZeros_10 (by decide) ?_
      have h := ol_of_some h
      subst h
      exact ol_iret hX (pc := 14) dJ14_numberOfLeadingZeros_14 rfl ⟨Nat.le_refl _, Nat.le_refl _⟩
set_option maxHeartbeats 4000000 in
theorem wJ14_highestOneBit (V : ol_Gh) (ws : va_W) (x1 : Int32)  (z : Int32) (h : oJ14_highestOneBit x1 = some z) : ol_Mt V yJ14_highestOneBit cJ14_highestOneBit 1 (some .int) ({ frames := 1, cells := 0, slots := 0, locals := 21 } : Room) false [.int x1] (ws) (ol_Pr (some (.int z))) := by
  refine ol_MtOf (L0 := [some (.int x1)]) (by decide) (Nat.le_of_ble_eq_true rfl) rfl (fun X A hX => ?_)
  unfold oJ14_highestOneBit at h
  refine ol_iload_n hX (pc := 0) dJ14_highestOneBit_0 rfl rfl ?_
  refine ol_ldc hX (pc := 1) (-2147483648) dJ14_highestOneBit_1 q1627 ?_
  refine ol_iload_n hX (pc := 3) dJ14_highestOneBit_3 rfl rfl ?_
  obtain ⟨y1, e2, h⟩ := ol_of_bd h
  refine ol_cSr (As := [.int x1]) hX (pc := 4) (wJ14_numberOfLeadingZeros V ws x1 y1 e2) lkJ14_51 dcJ14_numberOfLeadingZeros ⟨rfl, rfl⟩ ol_rr_J14_highestOneBit_J14_numberOfLeadingZeros (fun _ h => h) ⟨Nat.le_refl _, Nat.le_refl _⟩ (Nat.le_of_ble_eq_true rfl) dJ14_highestOneBit_4 rfl ?_
  refine ol_iushr hX (pc := 7) dJ14_highestOneBit_7 ?_
  refine ol_iand hX (pc := 8) dJ14_highestOneBit_8 ?_
  have h := ol_of_some h
  subst h
  exact ol_iret hX (pc := 9) dJ14_highestOneBit_9 rfl ⟨Nat.le_refl _, Nat.le_refl _⟩
set_option maxHeartbeats 4000000 in
theorem wX1_withParity (V : ol_Gh) (ws : va_W) (x1 : Int32)  (z : Int32) (h : oX1_withParity x1 = some z) : ol_Mt V yX1_withParity cX1_withParity 1 (some .int) ({ frames := 1, cells := 0, slots := 0, locals := 20 } : Room) false [.int x1] (ws) (ol_Pr (some (.int z))) := by
  refine ol_MtOf (L0 := [some (.int x1)]) (by decide) (Nat.le_of_ble_eq_true rfl) rfl (fun X A hX => ?_)
  unfold oX1_withParity at h
  refine ol_iload_n hX (pc := 0) dX1_withParity_0 rfl rfl ?_
  obtain ⟨y1, e2, h⟩ := ol_of_bd h
  refine ol_cSr (As := [.int x1]) hX (pc := 1) (wJ14_bitCount V ws x1 y1 e2) lkX1_3 dcJ14_bitCount ⟨rfl, rfl⟩ ol_rr_X1_withParity_J14_bitCount (fun _ h => h) ⟨Nat.le_refl _, Nat.le_refl _⟩ (Nat.le_of_ble_eq_true rfl) dX1_withParity_1 rfl ?_
  refine ol_iconst hX (pc := 4) 2 dX1_withParity_4 ol_k_iconst_2 ?_
  refine ol_irem hX (pc := 5) dX1_withParity_5 (by decide) ?_
  refine ol_if_ne hX (pc := 6) 15 dX1_withParity_6 (by decide) (fun c3 => ?_) (fun c3 => ?_)
  · have h := ol_ifn c3 h
    refine ol_iload_n hX (pc := 15) dX1_withParity_15 rfl rfl ?_
    have h := ol_of_some h
    subst h
    exact ol_iret hX (pc := 16) dX1_withParity_16 rfl ⟨Nat.le_refl _, Nat.le_refl _⟩
  · have h := ol_ifp c3 h
    refine ol_iload_n hX (pc := 9) dX1_withParity_9 rfl rfl ?_
    refine ol_iconst hX (pc := 10) 1 dX1_withParity_10 ol_k_iconst_1 ?_
    refine ol_ior hX (pc := 11) dX1_withParity_11 ?_
    refine ol_goto hX (pc := 12) 16 dX1_withParity_12 (by decide) ?_
    have h := ol_of_some h
    subst h
    exact ol_iret hX (pc := 16) dX1_withParity_16 rfl ⟨Nat.le_refl _, Nat.le_refl _⟩
set_option maxHeartbeats 4000000 in
theorem wX1_secondWord (V : ol_Gh) (a : Nat → Nat) (r0 : Option Nat) (ext : va_W) (g : Nat → Nat → Nat) (σ : ol_Xm) (β : ol_Bd) (x1 : Nat)  (z : Int32) (h : oX1_secondWord σ β x1 = some z) : ol_Mt V yX1_secondWord cX1_secondWord 1 (some .int) ({ frames := 2, cells := 0, slots := 0, locals := 40 } : Room) false [.ref (g 1 x1)] (ol_Xc V a r0 σ ++ (ol_WB V g β ++ ext)) (ol_Pr (some (.int z))) := by
  refine ol_MtOf (L0 := [some (.ref (g 1 x1))]) (by decide) (Nat.le_of_ble_eq_true rfl) rfl (fun X A hX => ?_)
  unfold oX1_secondWord at h
  refine ol_aload_n hX (pc := 0) dX1_secondWord_0 rfl rfl ?_
  obtain ⟨g1, h⟩ := ol_of_og h
  refine ol_getNM hX in_X9 (pc := 1) (ol_hB_X.brd (ol_nb_lt g1)) rfl 4 (by decide) q1149 rfl rfl dX1_secondWord_1 ?_
  refine ol_iconst hX (pc := 4) 1 dX1_secondWord_4 ol_k_iconst_1 ?_
  refine ol_ishl hX (pc := 5) dX1_secondWord_5 ?_
  obtain ⟨y2, e3, h⟩ := ol_of_bd h
  refine ol_cSr (As := [.int ((β.1 3 x1) <<< (1 &&& 31))]) hX (pc := 6) (wX1_withParity V (ol_Xc V a r0 σ ++ (ol_WB V g β ++ ext)) ((β.1 3 x1) <<< (1 &&& 31)) y2 e3) lkX1_25 dcX1_withParity ⟨rfl, rfl⟩ ol_rr_X1_secondWord_X1_withParity (fun _ h => h) ⟨Nat.le_refl _, Nat.le_refl _⟩ (Nat.le_of_ble_eq_true rfl) dX1_secondWord_6 rfl ?_
  have h := ol_of_some h
  subst h
  exact ol_iret hX (pc := 9) dX1_secondWord_9 rfl ⟨Nat.le_refl _, Nat.le_refl _⟩
set_option maxHeartbeats 4000000 in
theorem wX2_drivenBy_L49 {X : ol_Cx} {V : ol_Gh} {A : Nat → Prop} {a : Nat → Nat} {r0 : Option Nat} {ext : va_W} {g : Nat → Nat → Nat} {z : Int32} (hX : ol_CX X V A cX2_drivenBy RX2 "drivenBy" 4 (some .int)) (σ : ol_Xm) (β : ol_Bd) (x1 : Int32) (x2 : Int32)   (s0 : Int32) (h : oX2_drivenBy_L49 σ β (g 0 0) x1 x2 s0 = some z) : ol_G X V A false (ol_Pr (some (.int z))) ({ frames := 1, cells := 0, slots := 0, locals := 21 } : Room) 4 0 0 (ol_Xc V a r0 σ ++ (ol_WB V g β ++ ext)) 49 [some (.ref (a 2)), some (.int x1), none, none] [.int s0] := by
  unfold oX2_drivenBy_L49 at h
  refine ol_istore_n hX (pc := 49) [some (.ref (a 2)), some (.int x1), none, some (.int s0)] dX2_drivenBy_49 rfl (by decide) rfl rfl ?_
  refine ol_iload_n hX (pc := 50) dX2_drivenBy_50 rfl rfl ?_
  refine ol_bipush hX (pc := 51) (-2) dX2_drivenBy_51 ol_k_bipush_m2 ?_
  refine ol_icmp_ne hX (pc := 53) 65 dX2_drivenBy_53 (by decide) (fun c3 => ?_) (fun c3 => ?_)
  · have h := ol_ifn c3 h
    refine ol_aload_n hX (pc := 65) dX2_drivenBy_65 rfl rfl ?_
    refine ol_xg_P_0 hX (pc := 66) q162 dX2_drivenBy_66 ?_
    refine ol_iload_n hX (pc := 69) dX2_drivenBy_69 rfl rfl ?_
    obtain ⟨g1, h⟩ := ol_of_og h
    refine ol_xl_3 hX (pc := 70) dX2_drivenBy_70 rfl (ol_in_vp g1) ?_
    refine ol_iconst hX (pc := 71) 2 dX2_drivenBy_71 ol_k_iconst_2 ?_
    refine ol_iload_n hX (pc := 72) dX2_drivenBy_72 rfl rfl ?_
    refine ol_ishl hX (pc := 73) dX2_drivenBy_73 ?_
    refine ol_iconst hX (pc := 74) 1 dX2_drivenBy_74 ol_k_iconst_1 ?_
    refine ol_isub hX (pc := 75) dX2_drivenBy_75 ?_
    refine ol_iconst hX (pc := 76) (-1) dX2_drivenBy_76 ol_k_iconst_m1 ?_
    refine ol_ixor hX (pc := 77) dX2_drivenBy_77 ?_
    refine ol_iand hX (pc := 78) dX2_drivenBy_78 ?_
    have h := ol_of_some h
    subst h
    exact ol_iret hX (pc := 79) dX2_drivenBy_79 rfl ⟨Nat.le_refl _, Nat.le_refl _⟩
  · have h := ol_ifp c3 h
    refine ol_aload_n hX (pc := 56) dX2_drivenBy_56 rfl rfl ?_
    refine ol_xg_P_0 hX (pc := 57) q162 dX2_drivenBy_57 ?_
    refine ol_iload_n hX (pc := 60) dX2_drivenBy_60 rfl rfl ?_
    obtain ⟨g2, h⟩ := ol_of_og h
    refine ol_xl_3 hX (pc := 61) dX2_drivenBy_61 rfl (ol_in_vp g2) ?_
    refine ol_goto hX (pc := 62) 79 dX2_drivenBy_62 (by decide) ?_
    have h := ol_of_some h
    subst h
    exact ol_iret hX (pc := 79) dX2_drivenBy_79 rfl ⟨Nat.le_refl _, Nat.le_refl _⟩
set_option maxHeartbeats 4000000 in
theorem wX2_drivenBy (V : ol_Gh) (a : Nat → Nat) (r0 : Option Nat) (ext : va_W) (g : Nat → Nat → Nat) (σ : ol_Xm) (β : ol_Bd) (x1 : Int32) (x2 : Int32)  (z : Int32) (h : oX2_drivenBy σ β (g 0 0) x1 x2 = some z) : ol_Mt V yX2_drivenBy cX2_drivenBy 4 (some .int) ({ frames := 1, cells := 0, slots := 0, locals := 21 } : Room) false [.ref (a 2), .int x1, .int x2] (ol_Xc V a r0 σ ++ (ol_WB V g β ++ ext)) (ol_Pr (some (.int z))) := by
  refine ol_MtOf (L0 := [some (.ref (a 2)), some (.int x1), some (.int x2), none]) (by decide) (Nat.le_of_ble_eq_true rfl) rfl (fun X A hX => ?_)
  unfold oX2_drivenBy at h
  refine ol_aload_n hX (pc := 0) dX2_drivenBy_0 rfl rfl ?_
  refine ol_xg_P_8 hX (pc := 1) q174 dX2_drivenBy_1 ?_
  refine ol_iload_n hX (pc := 4) dX2_drivenBy_4 rfl rfl ?_
  obtain ⟨y1, e2, h⟩ := ol_of_bd h
  refine ol_cSNr (As := [.int (σ.1 2 8), .int x1]) hX (pc := 5) (wX1_has V (ol_Xc V a r0 σ ++ (ol_WB V g β ++ ext)) (σ.1 2 8) x1 y1 e2) q1595 q1596 q102 q1597 dcX1_has ⟨rfl, rfl⟩ ol_rr_X2_drivenBy_X1_has (fun _ h => h) ⟨Nat.le_refl _, Nat.le_refl _⟩ (Nat.le_of_ble_eq_true rfl) dX2_drivenBy_5 rfl ?_
  refine ol_if_ne hX (pc := 8) 13 dX2_drivenBy_8 (by decide) (fun c7 => ?_) (fun c7 => ?_)
  · have h := ol_ifn c7 h
    refine ol_iload_n hX (pc := 13) dX2_drivenBy_13 rfl rfl ?_
    refine ol_aload_n hX (pc := 14) dX2_drivenBy_14 rfl rfl ?_
    obtain ⟨g3, h⟩ := ol_of_og h
    refine ol_xg_P_7 hX (pc := 15) q173 (of_decide_eq_true g3) dX2_drivenBy_15 ?_
    refine ol_getNM hX in_X6 (pc := 18) ol_hB_X.bus rfl 0 (by decide) q470 rfl rfl dX2_drivenBy_18 ?_
    refine ol_icmp_ge hX (pc := 21) 29 dX2_drivenBy_21 (by decide) (fun c6 => ?_) (fun c6 => ?_)
    · have h := ol_ifp c6 h
      refine ol_aload_n hX (pc := 29) dX2_drivenBy_29 rfl rfl ?_
      refine ol_xg_P_4 hX (pc := 30) q169 dX2_drivenBy_30 ?_
      refine ol_sipush hX (pc := 33) 401 dX2_drivenBy_33 ol_k_sipush_401 ?_
      refine ol_iload_n hX (pc := 36) dX2_drivenBy_36 rfl rfl ?_
      refine ol_imul hX (pc := 37) dX2_drivenBy_37 ?_
      refine ol_iload_n hX (pc := 38) dX2_drivenBy_38 rfl rfl ?_
      refine ol_iadd hX (pc := 39) dX2_drivenBy_39 ?_
      refine ol_aload_n hX (pc := 40) dX2_drivenBy_40 rfl rfl ?_
      obtain ⟨g4, h⟩ := ol_of_og h
      refine ol_xg_P_7 hX (pc := 41) q173 (of_decide_eq_true g4) dX2_drivenBy_41 ?_
      refine ol_getNM hX in_X6 (pc := 44) ol_hB_X.bus rfl 0 (by decide) q470 rfl rfl dX2_drivenBy_44 ?_
      refine ol_isub hX (pc := 47) dX2_drivenBy_47 ?_
      obtain ⟨g5, h⟩ := ol_of_og h
      refine ol_xl_7 hX (pc := 48) dX2_drivenBy_48 rfl (ol_in_vp g5) ?_
      refine ol_Gdrop 2 ?_
      exact wX2_drivenBy_L49 hX σ β x1 x2 (σ.1 7 ((((401 * x1) + x2) - (β.1 0 0)).toNatClampNeg)) h
    · have h := ol_ifn c6 h
      refine ol_bipush hX (pc := 24) (-2) dX2_drivenBy_24 ol_k_bipush_m2 ?_
      refine ol_goto hX (pc := 26) 49 dX2_drivenBy_26 (by decide) ?_
      refine ol_Gdrop 2 ?_
      exact wX2_drivenBy_L49 hX σ β x1 x2 (-2) h
  · have h := ol_ifp c7 h
    refine ol_iconst hX (pc := 11) 0 dX2_drivenBy_11 ol_k_iconst_0 ?_
    have h := ol_of_some h
    subst h
    exact ol_iret hX (pc := 12) dX2_drivenBy_12 rfl ⟨Nat.le_refl _, Nat.le_refl _⟩
set_option maxHeartbeats 4000000 in
theorem wX2_dips_L133 {X : ol_Cx} {V : ol_Gh} {A : Nat → Prop} {a : Nat → Nat} {r0 : Option Nat} {ext : va_W} {g : Nat → Nat → Nat} {z : ol_Xm} (hX : ol_CX X V A cX2_dips RX2 "dips" 8 none) (β : ol_Bd) (x1 : Int32) (x2 : Int32) (x3 : Int32)  (k103 : Int32 → Int32 → ol_Xm → Option ol_Xm) (hk103 : ∀ (v4 : Int32) (v5 : Int32) (σ : ol_Xm), k103 v4 v5 σ = some z → ol_G X V A true (ol_Pw none (ol_Xc V a r0 z ++ (ol_WB V g β ++ ext))) ({ frames := 5, cells := 0, slots := 0, locals := 107 } : Room) 8 0 0 (ol_Xc V a r0 σ ++ (ol_WB V g β ++ ext)) 103 [some (.ref (a 2)), some (.int x1), some (.int x2), some (.int x3), some (.int v4), some (.int v5), none, none] [])  : ∀ (n : Nat), ∀ (v4 : Int32) (v5 : Int32) (v6 : Int32) (v7 : Int32) (σ : ol_Xm), oX2_dips_L133 β (g 0 0) x1 x2 x3 k103 n v4 v5 v6 v7 σ = some z → ol_G X V A true (ol_Pw none (ol_Xc V a r0 z ++ (ol_WB V g β ++ ext))) ({ frames := 5, cells := 0, slots := 0, locals := 107 } : Room) 8 0 0 (ol_Xc V a r0 σ ++ (ol_WB V g β ++ ext)) 133 [some (.ref (a 2)), some (.int x1), some (.int x2), some (.int x3), some (.int v4), some (.int v5), some (.int v6), some (.int v7)] [] := by
  intro n
  induction n with
  | zero =>
    intro v4 v5 v6 v7 σ h
    exact ol_no h
  | succ n ih =>
    intro v4 v5 v6 v7 σ h
    rw [oX2_dips_L133] at h
    refine ol_iload hX (pc := 133) dX2_dips_133 rfl ?_
    refine ol_iload hX (pc := 135) dX2_dips_135 rfl ?_
    refine ol_iconst hX (pc := 137) 2 dX2_dips_137 ol_k_iconst_2 ?_
    refine ol_iload hX (pc := 138) dX2_dips_138 rfl ?_
    refine ol_imul hX (pc := 140) dX2_dips_140 ?_
    refine ol_iadd hX (pc := 141) dX2_dips_141 ?_
    refine ol_icmp_ge hX (pc := 142) 179 dX2_dips_142 (by decide) (fun c4 => ?_) (fun c4 => ?_)
    · have h := ol_ifp c4 h
      refine ol_iinc hX (pc := 179) (v5 + 1) [some (.ref (a 2)), some (.int x1), some (.int x2), some (.int x3), some (.int v4), some (.int (v5 + 1)), some (.int v6), some (.int v7)] dX2_dips_179 rfl (ol_k_iinc_1 _) (by decide) rfl rfl ?_
      refine ol_goto hX (pc := 182) 103 dX2_dips_182 (by decide) ?_
      refine ol_Gdrop 6 ?_
      refine ol_Gdrop 7 ?_
      exact hk103 v4 (v5 + 1) σ h
    · have h := ol_ifn c4 h
      refine ol_iload hX (pc := 145) dX2_dips_145 rfl ?_
      refine ol_sipush hX (pc := 147) 401 dX2_dips_147 ol_k_sipush_401 ?_
      refine ol_icmp_ge hX (pc := 150) 179 dX2_dips_150 (by decide) (fun c3 => ?_) (fun c3 => ?_)
      · have h := ol_ifp c3 h
        refine ol_iinc hX (pc := 179) (v5 + 1) [some (.ref (a 2)), some (.int x1), some (.int x2), some (.int x3), some (.int v4), some (.int (v5 + 1)), some (.int v6), some (.int v7)] dX2_dips_179 rfl (ol_k_iinc_1 _) (by decide) rfl rfl ?_
        refine ol_goto hX (pc := 182) 103 dX2_dips_182 (by decide) ?_
        refine ol_Gdrop 6 ?_
        refine ol_Gdrop 7 ?_
        exact hk103 v4 (v5 + 1) σ h
      · have h := ol_ifn c3 h
        refine ol_aload_n hX (pc := 153) dX2_dips_153 rfl rfl ?_
        refine ol_xg_P_5 hX (pc := 154) q171 dX2_dips_154 ?_
        refine ol_sipush hX (pc := 157) 401 dX2_dips_157 ol_k_sipush_401 ?_
        refine ol_iload hX (pc := 160) dX2_dips_160 rfl ?_
        refine ol_imul hX (pc := 162) dX2_dips_162 ?_
        refine ol_iload hX (pc := 163) dX2_dips_163 rfl ?_
        refine ol_iadd hX (pc := 165) dX2_dips_165 ?_
        refine ol_dup2_11 hX (pc := 166) dX2_dips_166 rfl rfl ?_
        obtain ⟨g1, h⟩ := ol_of_og h
        refine ol_xl_8 hX (pc := 167) dX2_dips_167 rfl (ol_in_vp g1) ?_
        refine ol_iconst hX (pc := 168) 1 dX2_dips_168 ol_k_iconst_1 ?_
        refine ol_iload_n hX (pc := 169) dX2_dips_169 rfl rfl ?_
        refine ol_ishl hX (pc := 170) dX2_dips_170 ?_
        refine ol_ior hX (pc := 171) dX2_dips_171 ?_
        obtain ⟨g2, h⟩ := ol_of_og h
        refine ol_xw_8 hX (pc := 172) dX2_dips_172 rfl (ol_in_vp g2) ?_
        refine ol_iinc hX (pc := 173) (v7 + 1) [some (.ref (a 2)), some (.int x1), some (.int x2), some (.int x3), some (.int v4), some (.int v5), some (.int v6), some (.int (v7 + 1))] dX2_dips_173 rfl (ol_k_iinc_1 _) (by decide) rfl rfl ?_
        refine ol_goto hX (pc := 176) 133 dX2_dips_176 (by decide) ?_
        exact ih v4 v5 v6 (v7 + 1) (ol_xs σ 8 (((401 * v5) + v7).toNatClampNeg) ((σ.1 8 (((401 * v5) + v7).toNatClampNeg)) ||| ((1 : Int32) <<< (x2 &&& 31)))) h
set_option maxHeartbeats 4000000 in
theorem wX2_dips_L103 {X : ol_Cx} {V : ol_Gh} {A : Nat → Prop} {a : Nat → Nat} {r0 : Option Nat} {ext : va_W} {g : Nat → Nat → Nat} {z : ol_Xm} (hX : ol_CX X V A cX2_dips RX2 "dips" 8 none) (β : ol_Bd) (x1 : Int32) (x2 : Int32) (x3 : Int32)    : ∀ (n : Nat), ∀ (v4 : Int32) (v5 : Int32) (σ : ol_Xm), oX2_dips_L103 β (g 0 0) x1 x2 x3 n v4 v5 σ = some z → ol_G X V A true (ol_Pw none (ol_Xc V a r0 z ++ (ol_WB V g β ++ ext))) ({ frames := 5, cells := 0, slots := 0, locals := 107 } : Room) 8 0 0 (ol_Xc V a r0 σ ++ (ol_WB V g β ++ ext)) 103 [some (.ref (a 2)), some (.int x1), some (.int x2), some (.int x3), some (.int v4), some (.int v5), none, none] [] := by
  intro n
  induction n with
  | zero =>
    intro v4 v5 σ h
    exact ol_no h
  | succ n ih =>
    intro v4 v5 σ h
    rw [oX2_dips_L103] at h
    refine ol_iload hX (pc := 103) dX2_dips_103 rfl ?_
    refine ol_aload_n hX (pc := 105) dX2_dips_105 rfl rfl ?_
    obtain ⟨g1, h⟩ := ol_of_og h
    refine ol_xg_P_7 hX (pc := 106) q173 (of_decide_eq_true g1) dX2_dips_106 ?_
    refine ol_cVr (As := []) hX (pc := 109) (wX6_many V g β _ ol_hB_X) lkX2_67 dcX6_many ⟨rfl, rfl⟩ ⟨(Nat.le_of_ble_eq_true rfl), (Nat.le_of_ble_eq_true rfl)⟩ 37 rfl rfl (fun _ h => h) ⟨Nat.le_refl _, Nat.le_refl _⟩ (Nat.le_of_ble_eq_true rfl) dX2_dips_109 rfl ?_
    refine ol_icmp_ge hX (pc := 112) 185 dX2_dips_112 (by decide) (fun c5 => ?_) (fun c5 => ?_)
    · have h := ol_ifp c5 h
      have h := ol_of_some h
      subst h
      exact ol_vret hX (pc := 185) dX2_dips_185 ⟨rfl, rfl⟩ ⟨Nat.le_refl _, Nat.le_refl _⟩
    · have h := ol_ifn c5 h
      refine ol_iload_n hX (pc := 115) dX2_dips_115 rfl rfl ?_
      refine ol_aload_n hX (pc := 116) dX2_dips_116 rfl rfl ?_
      obtain ⟨g2, h⟩ := ol_of_og h
      refine ol_xg_P_7 hX (pc := 117) q173 (of_decide_eq_true g2) dX2_dips_117 ?_
      refine ol_iload_n hX (pc := 120) dX2_dips_120 rfl rfl ?_
      refine ol_iload hX (pc := 121) dX2_dips_121 rfl ?_
      obtain ⟨g3, h⟩ := ol_of_og h
      obtain ⟨g4, h⟩ := ol_of_og h
      refine ol_cVr (As := [.int x1, .int v5]) hX (pc := 123) (wX6_apart V g β _ ol_hB_X x1 v5 g3 g4) lkX2_102 dcX6_apart ⟨rfl, rfl⟩ ⟨(Nat.le_of_ble_eq_true rfl), (Nat.le_of_ble_eq_true rfl)⟩ 37 rfl rfl (fun _ h => h) ⟨Nat.le_refl _, Nat.le_refl _⟩ (Nat.le_of_ble_eq_true rfl) dX2_dips_123 rfl ?_
      refine ol_iadd hX (pc := 126) dX2_dips_126 ?_
      refine ol_istore hX (pc := 127) [some (.ref (a 2)), some (.int x1), some (.int x2), some (.int x3), some (.int v4), some (.int v5), some (.int (x3 + (ol_far β x1 v5))), none] dX2_dips_127 (by decide) rfl rfl ?_
      refine ol_iload hX (pc := 129) dX2_dips_129 rfl ?_
      refine ol_istore hX (pc := 131) [some (.ref (a 2)), some (.int x1), some (.int x2), some (.int x3), some (.int v4), some (.int v5), some (.int (x3 + (ol_far β x1 v5))), some (.int (x3 + (ol_far β x1 v5)))] dX2_dips_131 (by decide) rfl rfl ?_
      exact wX2_dips_L133 hX β x1 x2 x3 (oX2_dips_L103 β (g 0 0) x1 x2 x3 n) ih ol_fuel v4 v5 (x3 + (ol_far β x1 v5)) (x3 + (ol_far β x1 v5)) σ h
set_option maxHeartbeats 4000000 in
theorem wX2_dips_L6 {X : ol_Cx} {V : ol_Gh} {A : Nat → Prop} {a : Nat → Nat} {r0 : Option Nat} {ext : va_W} {g : Nat → Nat → Nat} {z : ol_Xm} (hX : ol_CX X V A cX2_dips RX2 "dips" 8 none) (β : ol_Bd) (x1 : Int32) (x2 : Int32) (x3 : Int32)    : ∀ (n : Nat), ∀ (v4 : Int32) (v5 : Int32) (σ : ol_Xm), oX2_dips_L6 β (g 0 0) x1 x2 x3 n v4 v5 σ = some z → ol_G X V A true (ol_Pw none (ol_Xc V a r0 z ++ (ol_WB V g β ++ ext))) ({ frames := 5, cells := 0, slots := 0, locals := 107 } : Room) 8 0 0 (ol_Xc V a r0 σ ++ (ol_WB V g β ++ ext)) 6 [some (.ref (a 2)), some (.int x1), some (.int x2), some (.int x3), some (.int v4), some (.int v5), none, none] [] := by
  intro n
  induction n with
  | zero =>
    intro v4 v5 σ h
    exact ol_no h
  | succ n ih =>
    intro v4 v5 σ h
    rw [oX2_dips_L6] at h
    refine ol_iload hX (pc := 6) dX2_dips_6 rfl ?_
    refine ol_aload_n hX (pc := 8) dX2_dips_8 rfl rfl ?_
    obtain ⟨g1, h⟩ := ol_of_og h
    refine ol_xg_P_7 hX (pc := 9) q173 (of_decide_eq_true g1) dX2_dips_9 ?_
    refine ol_cVr (As := []) hX (pc := 12) (wX6_many V g β _ ol_hB_X) lkX2_67 dcX6_many ⟨rfl, rfl⟩ ⟨(Nat.le_of_ble_eq_true rfl), (Nat.le_of_ble_eq_true rfl)⟩ 37 rfl rfl (fun _ h => h) ⟨Nat.le_refl _, Nat.le_refl _⟩ (Nat.le_of_ble_eq_true rfl) dX2_dips_12 rfl ?_
    refine ol_icmp_ge hX (pc := 15) 83 dX2_dips_15 (by decide) (fun c19 => ?_) (fun c19 => ?_)
    · have h := ol_ifp c19 h
      refine ol_iload hX (pc := 83) dX2_dips_83 rfl ?_
      refine ol_iconst hX (pc := 85) (-1) dX2_dips_85 ol_k_iconst_m1 ?_
      refine ol_icmp_ne hX (pc := 86) 90 dX2_dips_86 (by decide) (fun c2 => ?_) (fun c2 => ?_)
      · have h := ol_ifn c2 h
        refine ol_aload_n hX (pc := 90) dX2_dips_90 rfl rfl ?_
        refine ol_dup hX (pc := 91) dX2_dips_91 rfl ?_
        refine ol_xg_P_11 hX (pc := 92) q177 dX2_dips_92 ?_
        refine ol_iconst hX (pc := 95) 1 dX2_dips_95 ol_k_iconst_1 ?_
        refine ol_iadd hX (pc := 96) dX2_dips_96 ?_
        refine ol_xp_P_11 hX (pc := 97) q177 dX2_dips_97 ?_
        refine ol_iconst hX (pc := 100) 0 dX2_dips_100 ol_k_iconst_0 ?_
        refine ol_istore hX (pc := 101) [some (.ref (a 2)), some (.int x1), some (.int x2), some (.int x3), some (.int v4), some (.int 0), none, none] dX2_dips_101 (by decide) rfl rfl ?_
        exact wX2_dips_L103 hX β x1 x2 x3 ol_fuel v4 0 (ol_xs σ 2 11 ((σ.1 2 11) + 1)) h
      · have h := ol_ifp c2 h
        have h := ol_of_some h
        subst h
        exact ol_vret hX (pc := 89) dX2_dips_89 ⟨rfl, rfl⟩ ⟨Nat.le_refl _, Nat.le_refl _⟩
    · have h := ol_ifn c19 h
      refine ol_iload hX (pc := 18) dX2_dips_18 rfl ?_
      refine ol_iload_n hX (pc := 20) dX2_dips_20 rfl rfl ?_
      refine ol_icmp_eq hX (pc := 21) 77 dX2_dips_21 (by decide) (fun c18 => ?_) (fun c18 => ?_)
      · have h := ol_ifp c18 h
        refine ol_iinc hX (pc := 77) (v5 + 1) [some (.ref (a 2)), some (.int x1), some (.int x2), some (.int x3), some (.int v4), some (.int (v5 + 1)), none, none] dX2_dips_77 rfl (ol_k_iinc_1 _) (by decide) rfl rfl ?_
        refine ol_goto hX (pc := 80) 6 dX2_dips_80 (by decide) ?_
        exact ih v4 (v5 + 1) σ h
      · have h := ol_ifn c18 h
        refine ol_aload_n hX (pc := 24) dX2_dips_24 rfl rfl ?_
        refine ol_xg_P_1 hX (pc := 25) q163 dX2_dips_25 ?_
        refine ol_sipush hX (pc := 28) 401 dX2_dips_28 ol_k_sipush_401 ?_
        refine ol_iload hX (pc := 31) dX2_dips_31 rfl ?_
        refine ol_imul hX (pc := 33) dX2_dips_33 ?_
        refine ol_iload_n hX (pc := 34) dX2_dips_34 rfl rfl ?_
        refine ol_iadd hX (pc := 35) dX2_dips_35 ?_
        obtain ⟨g3, h⟩ := ol_of_og h
        refine ol_xl_4 hX (pc := 36) dX2_dips_36 rfl (ol_in_vp g3) ?_
        refine ol_iload_n hX (pc := 37) dX2_dips_37 rfl rfl ?_
        obtain ⟨y4, e5, h⟩ := ol_of_bd h
        refine ol_cSNr (As := [.int (σ.1 4 (((401 * v5) + x3).toNatClampNeg)), .int x2]) hX (pc := 38) (wX1_has V (ol_Xc V a r0 σ ++ (ol_WB V g β ++ ext)) (σ.1 4 (((401 * v5) + x3).toNatClampNeg)) x2 y4 e5) q1595 q1596 q102 q1597 dcX1_has ⟨rfl, rfl⟩ ol_rr_X2_dips_X1_has (fun _ h => h) ⟨Nat.le_refl _, Nat.le_refl _⟩ (Nat.le_of_ble_eq_true rfl) dX2_dips_38 rfl ?_
        refine ol_if_eq hX (pc := 41) 77 dX2_dips_41 (by decide) (fun c17 => ?_) (fun c17 => ?_)
        · have h := ol_ifp c17 h
          refine ol_iinc hX (pc := 77) (v5 + 1) [some (.ref (a 2)), some (.int x1), some (.int x2), some (.int x3), some (.int v4), some (.int (v5 + 1)), none, none] dX2_dips_77 rfl (ol_k_iinc_1 _) (by decide) rfl rfl ?_
          refine ol_goto hX (pc := 80) 6 dX2_dips_80 (by decide) ?_
          exact ih v4 (v5 + 1) σ h
        · have h := ol_ifn c17 h
          refine ol_iload hX (pc := 44) dX2_dips_44 rfl ?_
          refine ol_iconst hX (pc := 46) (-1) dX2_dips_46 ol_k_iconst_m1 ?_
          refine ol_icmp_eq hX (pc := 47) 65 dX2_dips_47 (by decide) (fun c16 => ?_) (fun c16 => ?_)
          · have h := ol_ifp c16 h
            refine ol_aload_n hX (pc := 65) dX2_dips_65 rfl rfl ?_
            obtain ⟨g6, h⟩ := ol_of_og h
            refine ol_xg_P_7 hX (pc := 66) q173 (of_decide_eq_true g6) dX2_dips_66 ?_
            refine ol_iload_n hX (pc := 69) dX2_dips_69 rfl rfl ?_
            refine ol_iload hX (pc := 70) dX2_dips_70 rfl ?_
            obtain ⟨g7, h⟩ := ol_of_og h
            obtain ⟨g8, h⟩ := ol_of_og h
            refine ol_cVr (As := [.int x1, .int v5]) hX (pc := 72) (wX6_apart V g β _ ol_hB_X x1 v5 g7 g8) lkX2_102 dcX6_apart ⟨rfl, rfl⟩ ⟨(Nat.le_of_ble_eq_true rfl), (Nat.le_of_ble_eq_true rfl)⟩ 37 rfl rfl (fun _ h => h) ⟨Nat.le_refl _, Nat.le_refl _⟩ (Nat.le_of_ble_eq_true rfl) dX2_dips_72 rfl ?_
            refine ol_istore hX (pc := 75) [some (.ref (a 2)), some (.int x1), some (.int x2), some (.int x3), some (.int (ol_far β x1 v5)), some (.int v5), none, none] dX2_dips_75 (by decide) rfl rfl ?_
            refine ol_iinc hX (pc := 77) (v5 + 1) [some (.ref (a 2)), some (.int x1), some (.int x2), some (.int x3), some (.int (ol_far β x1 v5)), some (.int (v5 + 1)), none, none] dX2_dips_77 rfl (ol_k_iinc_1 _) (by decide) rfl rfl ?_
            refine ol_goto hX (pc := 80) 6 dX2_dips_80 (by decide) ?_
            exact ih (ol_far β x1 v5) (v5 + 1) σ h
          · have h := ol_ifn c16 h
            refine ol_aload_n hX (pc := 50) dX2_dips_50 rfl rfl ?_
            obtain ⟨g9, h⟩ := ol_of_og h
            refine ol_xg_P_7 hX (pc := 51) q173 (of_decide_eq_true g9) dX2_dips_51 ?_
            refine ol_iload_n hX (pc := 54) dX2_dips_54 rfl rfl ?_
            refine ol_iload hX (pc := 55) dX2_dips_55 rfl ?_
            obtain ⟨g10, h⟩ := ol_of_og h
            obtain ⟨g11, h⟩ := ol_of_og h
            refine ol_cVr (As := [.int x1, .int v5]) hX (pc := 57) (wX6_apart V g β _ ol_hB_X x1 v5 g10 g11) lkX2_102 dcX6_apart ⟨rfl, rfl⟩ ⟨(Nat.le_of_ble_eq_true rfl), (Nat.le_of_ble_eq_true rfl)⟩ 37 rfl rfl (fun _ h => h) ⟨Nat.le_refl _, Nat.le_refl _⟩ (Nat.le_of_ble_eq_true rfl) dX2_dips_57 rfl ?_
            refine ol_iload hX (pc := 60) dX2_dips_60 rfl ?_
            refine ol_icmp_ge hX (pc := 62) 77 dX2_dips_62 (by decide) (fun c15 => ?_) (fun c15 => ?_)
            · have h := ol_ifp c15 h
              refine ol_iinc hX (pc := 77) (v5 + 1) [some (.ref (a 2)), some (.int x1), some (.int x2), some (.int x3), some (.int v4), some (.int (v5 + 1)), none, none] dX2_dips_77 rfl (ol_k_iinc_1 _) (by decide) rfl rfl ?_
              refine ol_goto hX (pc := 80) 6 dX2_dips_80 (by decide) ?_
              exact ih v4 (v5 + 1) σ h
            · have h := ol_ifn c15 h
              refine ol_aload_n hX (pc := 65) dX2_dips_65 rfl rfl ?_
              obtain ⟨g12, h⟩ := ol_of_og h
              refine ol_xg_P_7 hX (pc := 66) q173 (of_decide_eq_true g12) dX2_dips_66 ?_
              refine ol_iload_n hX (pc := 69) dX2_dips_69 rfl rfl ?_
              refine ol_iload hX (pc := 70) dX2_dips_70 rfl ?_
              obtain ⟨g13, h⟩ := ol_of_og h
              obtain ⟨g14, h⟩ := ol_of_og h
              refine ol_cVr (As := [.int x1, .int v5]) hX (pc := 72) (wX6_apart V g β _ ol_hB_X x1 v5 g13 g14) lkX2_102 dcX6_apart ⟨rfl, rfl⟩ ⟨(Nat.le_of_ble_eq_true rfl), (Nat.le_of_ble_eq_true rfl)⟩ 37 rfl rfl (fun _ h => h) ⟨Nat.le_refl _, Nat.le_refl _⟩ (Nat.le_of_ble_eq_true rfl) dX2_dips_72 rfl ?_
              refine ol_istore hX (pc := 75) [some (.ref (a 2)), some (.int x1), some (.int x2), some (.int x3), some (.int (ol_far β x1 v5)), some (.int v5), none, none] dX2_dips_75 (by decide) rfl rfl ?_
              refine ol_iinc hX (pc := 77) (v5 + 1) [some (.ref (a 2)), some (.int x1), some (.int x2), some (.int x3), some (.int (ol_far β x1 v5)), some (.int (v5 + 1)), none, none] dX2_dips_77 rfl (ol_k_iinc_1 _) (by decide) rfl rfl ?_
              refine ol_goto hX (pc := 80) 6 dX2_dips_80 (by decide) ?_
              exact ih (ol_far β x1 v5) (v5 + 1) σ h
set_option maxHeartbeats 4000000 in
theorem wX2_dips (V : ol_Gh) (a : Nat → Nat) (r0 : Option Nat) (ext : va_W) (g : Nat → Nat → Nat) (σ : ol_Xm) (β : ol_Bd) (x1 : Int32) (x2 : Int32) (x3 : Int32)  (z : ol_Xm) (h : oX2_dips σ β (g 0 0) x1 x2 x3 = some z) : ol_Mt V yX2_dips cX2_dips 8 none ({ frames := 5, cells := 0, slots := 0, locals := 107 } : Room) true [.ref (a 2), .int x1, .int x2, .int x3] (ol_Xc V a r0 σ ++ (ol_WB V g β ++ ext)) (ol_Pw none (ol_Xc V a r0 z ++ (ol_WB V g β ++ ext))) := by
  refine ol_MtOf (L0 := [some (.ref (a 2)), some (.int x1), some (.int x2), some (.int x3), none, none, none, none]) (by decide) (Nat.le_of_ble_eq_true rfl) rfl (fun X A hX => ?_)
  unfold oX2_dips at h
  refine ol_iconst hX (pc := 0) (-1) dX2_dips_0 ol_k_iconst_m1 ?_
  refine ol_istore hX (pc := 1) [some (.ref (a 2)), some (.int x1), some (.int x2), some (.int x3), some (.int (-1)), none, none, none] dX2_dips_1 (by decide) rfl rfl ?_
  refine ol_iconst hX (pc := 3) 0 dX2_dips_3 ol_k_iconst_0 ?_
  refine ol_istore hX (pc := 4) [some (.ref (a 2)), some (.int x1), some (.int x2), some (.int x3), some (.int (-1)), some (.int 0), none, none] dX2_dips_4 (by decide) rfl rfl ?_
  exact wX2_dips_L6 hX β x1 x2 x3 ol_fuel (-1) 0 σ h
set_option maxHeartbeats 4000000 in
theorem wX2_letsGo_L33 {X : ol_Cx} {V : ol_Gh} {A : Nat → Prop} {a : Nat → Nat} {r0 : Option Nat} {ext : va_W} {g : Nat → Nat → Nat} {z : ol_Xm} (hX : ol_CX X V A cX2_letsGo RX2 "letsGo" 5 none) (β : ol_Bd) (x1 : Int32) (x2 : Int32)    : ∀ (n : Nat), ∀ (v3 : Int32) (v4 : Int32) (σ : ol_Xm), oX2_letsGo_L33 β (g 0 0) x1 x2 n v3 v4 σ = some z → ol_G X V A true (ol_Pw none (ol_Xc V a r0 z ++ (ol_WB V g β ++ ext))) ({ frames := 6, cells := 0, slots := 0, locals := 134 } : Room) 5 0 0 (ol_Xc V a r0 σ ++ (ol_WB V g β ++ ext)) 33 [some (.ref (a 2)), some (.int x1), some (.int x2), some (.int v3), some (.int v4)] [] := by
  intro n
  induction n with
  | zero =>
    intro v3 v4 σ h
    exact ol_no h
  | succ n ih =>
    intro v3 v4 σ h
    rw [oX2_letsGo_L33] at h
    refine ol_iload hX (pc := 33) dX2_letsGo_33 rfl ?_
    refine ol_bipush hX (pc := 35) 6 dX2_letsGo_35 ol_k_bipush_6 ?_
    refine ol_icmp_ge hX (pc := 37) 63 dX2_letsGo_37 (by decide) (fun c6 => ?_) (fun c6 => ?_)
    · have h := ol_ifp c6 h
      have h := ol_of_some h
      subst h
      exact ol_vret hX (pc := 63) dX2_letsGo_63 ⟨rfl, rfl⟩ ⟨Nat.le_refl _, Nat.le_refl _⟩
    · have h := ol_ifn c6 h
      refine ol_iload_n hX (pc := 40) dX2_letsGo_40 rfl rfl ?_
      refine ol_iload hX (pc := 41) dX2_letsGo_41 rfl ?_
      obtain ⟨y1, e2, h⟩ := ol_of_bd h
      refine ol_cSNr (As := [.int v3, .int v4]) hX (pc := 43) (wX1_has V (ol_Xc V a r0 σ ++ (ol_WB V g β ++ ext)) v3 v4 y1 e2) q1595 q1596 q102 q1597 dcX1_has ⟨rfl, rfl⟩ ol_rr_X2_letsGo_X1_has (fun _ h => h) ⟨Nat.le_refl _, Nat.le_refl _⟩ (Nat.le_of_ble_eq_true rfl) dX2_letsGo_43 rfl ?_
      refine ol_if_eq hX (pc := 46) 57 dX2_letsGo_46 (by decide) (fun c5 => ?_) (fun c5 => ?_)
      · have h := ol_ifp c5 h
        refine ol_iinc hX (pc := 57) (v4 + 1) [some (.ref (a 2)), some (.int x1), some (.int x2), some (.int v3), some (.int (v4 + 1))] dX2_letsGo_57 rfl (ol_k_iinc_1 _) (by decide) rfl rfl ?_
        refine ol_goto hX (pc := 60) 33 dX2_letsGo_60 (by decide) ?_
        exact ih v3 (v4 + 1) σ h
      · have h := ol_ifn c5 h
        refine ol_aload_n hX (pc := 49) dX2_letsGo_49 rfl rfl ?_
        refine ol_iload_n hX (pc := 50) dX2_letsGo_50 rfl rfl ?_
        refine ol_iload hX (pc := 51) dX2_letsGo_51 rfl ?_
        refine ol_iload_n hX (pc := 53) dX2_letsGo_53 rfl rfl ?_
        obtain ⟨y3, e4, h⟩ := ol_of_bd h
        refine ol_cVw (As := [.int x1, .int v4, .int x2]) hX (pc := 54) (wX2_dips V a r0 ext g σ β x1 v4 x2 y3 e4) lkX2_99 dcX2_dips ol_rr_X2_letsGo_X2_dips 2 rfl rfl ⟨Nat.le_refl _, Nat.le_refl _⟩ (Nat.le_of_ble_eq_true rfl) dX2_letsGo_54 rfl ?_
        refine ol_iinc hX (pc := 57) (v4 + 1) [some (.ref (a 2)), some (.int x1), some (.int x2), some (.int v3), some (.int (v4 + 1))] dX2_letsGo_57 rfl (ol_k_iinc_1 _) (by decide) rfl rfl ?_
        refine ol_goto hX (pc := 60) 33 dX2_letsGo_60 (by decide) ?_
        exact ih v3 (v4 + 1) y3 h
set_option maxHeartbeats 4000000 in
theorem wX2_letsGo (V : ol_Gh) (a : Nat → Nat) (r0 : Option Nat) (ext : va_W) (g : Nat → Nat → Nat) (σ : ol_Xm) (β : ol_Bd) (x1 : Int32) (x2 : Int32)  (z : ol_Xm) (h : oX2_letsGo σ β (g 0 0) x1 x2 = some z) : ol_Mt V yX2_letsGo cX2_letsGo 5 none ({ frames := 6, cells := 0, slots := 0, locals := 134 } : Room) true [.ref (a 2), .int x1, .int x2] (ol_Xc V a r0 σ ++ (ol_WB V g β ++ ext)) (ol_Pw none (ol_Xc V a r0 z ++ (ol_WB V g β ++ ext))) := by
  refine ol_MtOf (L0 := [some (.ref (a 2)), some (.int x1), some (.int x2), none, none]) (by decide) (Nat.le_of_ble_eq_true rfl) rfl (fun X A hX => ?_)
  unfold oX2_letsGo at h
  refine ol_aload_n hX (pc := 0) dX2_letsGo_0 rfl rfl ?_
  refine ol_xg_P_1 hX (pc := 1) q163 dX2_letsGo_1 ?_
  refine ol_sipush hX (pc := 4) 401 dX2_letsGo_4 ol_k_sipush_401 ?_
  refine ol_iload_n hX (pc := 7) dX2_letsGo_7 rfl rfl ?_
  refine ol_imul hX (pc := 8) dX2_letsGo_8 ?_
  refine ol_iload_n hX (pc := 9) dX2_letsGo_9 rfl rfl ?_
  refine ol_iadd hX (pc := 10) dX2_letsGo_10 ?_
  refine ol_iconst hX (pc := 11) 1 dX2_letsGo_11 ol_k_iconst_1 ?_
  refine ol_isub hX (pc := 12) dX2_letsGo_12 ?_
  obtain ⟨g1, h⟩ := ol_of_og h
  refine ol_xl_4 hX (pc := 13) dX2_letsGo_13 rfl (ol_in_vp g1) ?_
  refine ol_aload_n hX (pc := 14) dX2_letsGo_14 rfl rfl ?_
  refine ol_xg_P_1 hX (pc := 15) q163 dX2_letsGo_15 ?_
  refine ol_sipush hX (pc := 18) 401 dX2_letsGo_18 ol_k_sipush_401 ?_
  refine ol_iload_n hX (pc := 21) dX2_letsGo_21 rfl rfl ?_
  refine ol_imul hX (pc := 22) dX2_letsGo_22 ?_
  refine ol_iload_n hX (pc := 23) dX2_letsGo_23 rfl rfl ?_
  refine ol_iadd hX (pc := 24) dX2_letsGo_24 ?_
  obtain ⟨g2, h⟩ := ol_of_og h
  refine ol_xl_4 hX (pc := 25) dX2_letsGo_25 rfl (ol_in_vp g2) ?_
  refine ol_iconst hX (pc := 26) (-1) dX2_letsGo_26 ol_k_iconst_m1 ?_
  refine ol_ixor hX (pc := 27) dX2_letsGo_27 ?_
  refine ol_iand hX (pc := 28) dX2_letsGo_28 ?_
  obtain ⟨y3, e4, h⟩ := ol_of_lt h
  refine ol_topE e4 ?_
  refine ol_istore_n hX (pc := 29) [some (.ref (a 2)), some (.int x1), some (.int x2), some (.int y3), none] dX2_letsGo_29 rfl (by decide) rfl rfl ?_
  refine ol_iconst hX (pc := 30) 0 dX2_letsGo_30 ol_k_iconst_0 ?_
  refine ol_istore hX (pc := 31) [some (.ref (a 2)), some (.int x1), some (.int x2), some (.int y3), some (.int 0)] dX2_letsGo_31 (by decide) rfl rfl ?_
  exact wX2_letsGo_L33 hX β x1 x2 ol_fuel y3 0 σ h
set_option maxHeartbeats 4000000 in
theorem wX2_sees_L220 {X : ol_Cx} {V : ol_Gh} {A : Nat → Prop} {a : Nat → Nat} {r0 : Option Nat} {ext : va_W} {g : Nat → Nat → Nat} {z : ol_Xm} (hX : ol_CX X V A cX2_sees RX2 "sees" 7 none) (β : ol_Bd) (x1 : Int32) (x2 : Int32)   (v3 : Int32) (s0 : Int32) (σ : ol_Xm) (h : oX2_sees_L220 β (g 0 0) x1 x2 v3 s0 σ = some z) : ol_G X V A true (ol_Pw none (ol_Xc V a r0 z ++ (ol_WB V g β ++ ext))) ({ frames := 5, cells := 0, slots := 0, locals := 107 } : Room) 7 0 0 (ol_Xc V a r0 σ ++ (ol_WB V g β ++ ext)) 220 [some (.ref (a 2)), none, none, some (.int v3), none, none, none] [.int s0] := by
  unfold oX2_sees_L220 at h
  refine ol_istore hX (pc := 220) [some (.ref (a 2)), none, none, some (.int v3), none, some (.int s0), none] dX2_sees_220 (by decide) rfl rfl ?_
  refine ol_aload_n hX (pc := 222) dX2_sees_222 rfl rfl ?_
  refine ol_xg_P_4 hX (pc := 223) q169 dX2_sees_223 ?_
  refine ol_iload_n hX (pc := 226) dX2_sees_226 rfl rfl ?_
  refine ol_iload hX (pc := 227) dX2_sees_227 rfl ?_
  refine ol_if_ne hX (pc := 229) 237 dX2_sees_229 (by decide) (fun c7 => ?_) (fun c7 => ?_)
  · have h := ol_ifn c7 h
    refine ol_iload hX (pc := 237) dX2_sees_237 rfl ?_
    obtain ⟨y1, e2, h⟩ := ol_of_bd h
    refine ol_cSr (As := [.int s0]) hX (pc := 239) (wJ14_highestOneBit V (ol_Xc V a r0 σ ++ (ol_WB V g β ++ ext)) s0 y1 e2) lkX2_105 dcJ14_highestOneBit ⟨rfl, rfl⟩ ol_rr_X2_sees_J14_highestOneBit (fun _ h => h) ⟨Nat.le_refl _, Nat.le_refl _⟩ (Nat.le_of_ble_eq_true rfl) dX2_sees_239 rfl ?_
    obtain ⟨y3, e4, h⟩ := ol_of_bd h
    refine ol_cSr (As := [.int y1]) hX (pc := 242) (wJ14_numberOfTrailingZeros V (ol_Xc V a r0 σ ++ (ol_WB V g β ++ ext)) y1 y3 e4) lkX2_111 dcJ14_numberOfTrailingZeros ⟨rfl, rfl⟩ ol_rr_X2_sees_J14_numberOfTrailingZeros (fun _ h => h) ⟨Nat.le_refl _, Nat.le_refl _⟩ (Nat.le_of_ble_eq_true rfl) dX2_sees_242 rfl ?_
    obtain ⟨g5, h⟩ := ol_of_og h
    refine ol_xw_7 hX (pc := 245) dX2_sees_245 rfl (ol_in_vp g5) ?_
    have h := ol_of_some h
    subst h
    exact ol_vret hX (pc := 246) dX2_sees_246 ⟨rfl, rfl⟩ ⟨Nat.le_refl _, Nat.le_refl _⟩
  · have h := ol_ifp c7 h
    refine ol_bipush hX (pc := 232) (-2) dX2_sees_232 ol_k_bipush_m2 ?_
    refine ol_goto hX (pc := 234) 245 dX2_sees_234 (by decide) ?_
    obtain ⟨g6, h⟩ := ol_of_og h
    refine ol_xw_7 hX (pc := 245) dX2_sees_245 rfl (ol_in_vp g6) ?_
    have h := ol_of_some h
    subst h
    exact ol_vret hX (pc := 246) dX2_sees_246 ⟨rfl, rfl⟩ ⟨Nat.le_refl _, Nat.le_refl _⟩
set_option maxHeartbeats 4000000 in
theorem wX2_sees_L150 {X : ol_Cx} {V : ol_Gh} {A : Nat → Prop} {a : Nat → Nat} {r0 : Option Nat} {ext : va_W} {g : Nat → Nat → Nat} {z : ol_Xm} (hX : ol_CX X V A cX2_sees RX2 "sees" 7 none) (β : ol_Bd) (x1 : Int32) (x2 : Int32)  (k116 : Int32 → Int32 → ol_Xm → Option ol_Xm) (hk116 : ∀ (v3 : Int32) (v5 : Int32) (σ : ol_Xm), k116 v3 v5 σ = some z → ol_G X V A true (ol_Pw none (ol_Xc V a r0 z ++ (ol_WB V g β ++ ext))) ({ frames := 5, cells := 0, slots := 0, locals := 107 } : Room) 7 0 0 (ol_Xc V a r0 σ ++ (ol_WB V g β ++ ext)) 116 [some (.ref (a 2)), some (.int x1), some (.int x2), some (.int v3), none, some (.int v5), none] []) (v3 : Int32) (v5 : Int32) (σ : ol_Xm) (h : oX2_sees_L150 β (g 0 0) x1 x2 k116 v3 v5 σ = some z) : ol_G X V A true (ol_Pw none (ol_Xc V a r0 z ++ (ol_WB V g β ++ ext))) ({ frames := 5, cells := 0, slots := 0, locals := 107 } : Room) 7 0 0 (ol_Xc V a r0 σ ++ (ol_WB V g β ++ ext)) 150 [some (.ref (a 2)), some (.int x1), some (.int x2), some (.int v3), none, some (.int v5), none] [] := by
  unfold oX2_sees_L150 at h
  refine ol_iload_n hX (pc := 150) dX2_sees_150 rfl rfl ?_
  refine ol_aload_n hX (pc := 151) dX2_sees_151 rfl rfl ?_
  refine ol_xg_P_6 hX (pc := 152) q172 dX2_sees_152 ?_
  refine ol_bipush hX (pc := 155) 6 dX2_sees_155 ol_k_bipush_6 ?_
  refine ol_iload_n hX (pc := 157) dX2_sees_157 rfl rfl ?_
  refine ol_imul hX (pc := 158) dX2_sees_158 ?_
  refine ol_iload hX (pc := 159) dX2_sees_159 rfl ?_
  refine ol_iadd hX (pc := 161) dX2_sees_161 ?_
  obtain ⟨g1, h⟩ := ol_of_og h
  refine ol_xl_9 hX (pc := 162) dX2_sees_162 rfl (ol_in_vp g1) ?_
  refine ol_isub hX (pc := 163) dX2_sees_163 ?_
  refine ol_aload_n hX (pc := 164) dX2_sees_164 rfl rfl ?_
  refine ol_xg_P_13 hX (pc := 165) q181 dX2_sees_165 ?_
  refine ol_icmp_gt hX (pc := 168) 184 dX2_sees_168 (by decide) (fun c4 => ?_) (fun c4 => ?_)
  · have h := ol_ifp c4 h
    refine ol_iinc hX (pc := 184) (v5 + 1) [some (.ref (a 2)), some (.int x1), some (.int x2), some (.int v3), none, some (.int (v5 + 1)), none] dX2_sees_184 rfl (ol_k_iinc_1 _) (by decide) rfl rfl ?_
    refine ol_goto hX (pc := 187) 116 dX2_sees_187 (by decide) ?_
    exact hk116 v3 (v5 + 1) σ h
  · have h := ol_ifn c4 h
    refine ol_aload_n hX (pc := 171) dX2_sees_171 rfl rfl ?_
    refine ol_xg_P_3 hX (pc := 172) q167 dX2_sees_172 ?_
    refine ol_iload_n hX (pc := 175) dX2_sees_175 rfl rfl ?_
    refine ol_dup2_11 hX (pc := 176) dX2_sees_176 rfl rfl ?_
    obtain ⟨g2, h⟩ := ol_of_og h
    refine ol_xl_6 hX (pc := 177) dX2_sees_177 rfl (ol_in_vp g2) ?_
    refine ol_iconst hX (pc := 178) 1 dX2_sees_178 ol_k_iconst_1 ?_
    refine ol_iload hX (pc := 179) dX2_sees_179 rfl ?_
    refine ol_ishl hX (pc := 181) dX2_sees_181 ?_
    refine ol_ior hX (pc := 182) dX2_sees_182 ?_
    obtain ⟨g3, h⟩ := ol_of_og h
    refine ol_xw_6 hX (pc := 183) dX2_sees_183 rfl (ol_in_vp g3) ?_
    refine ol_iinc hX (pc := 184) (v5 + 1) [some (.ref (a 2)), some (.int x1), some (.int x2), some (.int v3), none, some (.int (v5 + 1)), none] dX2_sees_184 rfl (ol_k_iinc_1 _) (by decide) rfl rfl ?_
    refine ol_goto hX (pc := 187) 116 dX2_sees_187 (by decide) ?_
    exact hk116 v3 (v5 + 1) (ol_xs σ 6 v3.toNatClampNeg ((σ.1 6 v3.toNatClampNeg) ||| ((1 : Int32) <<< (v5 &&& 31)))) h
set_option maxHeartbeats 4000000 in
theorem wX2_sees_L116 {X : ol_Cx} {V : ol_Gh} {A : Nat → Prop} {a : Nat → Nat} {r0 : Option Nat} {ext : va_W} {g : Nat → Nat → Nat} {z : ol_Xm} (hX : ol_CX X V A cX2_sees RX2 "sees" 7 none) (β : ol_Bd) (x1 : Int32) (x2 : Int32)    : ∀ (n : Nat), ∀ (v3 : Int32) (v5 : Int32) (σ : ol_Xm), oX2_sees_L116 β (g 0 0) x1 x2 n v3 v5 σ = some z → ol_G X V A true (ol_Pw none (ol_Xc V a r0 z ++ (ol_WB V g β ++ ext))) ({ frames := 5, cells := 0, slots := 0, locals := 107 } : Room) 7 0 0 (ol_Xc V a r0 σ ++ (ol_WB V g β ++ ext)) 116 [some (.ref (a 2)), some (.int x1), some (.int x2), some (.int v3), none, some (.int v5), none] [] := by
  intro n
  induction n with
  | zero =>
    intro v3 v5 σ h
    exact ol_no h
  | succ n ih =>
    intro v3 v5 σ h
    rw [oX2_sees_L116] at h
    refine ol_iload hX (pc := 116) dX2_sees_116 rfl ?_
    refine ol_bipush hX (pc := 118) 6 dX2_sees_118 ol_k_bipush_6 ?_
    refine ol_icmp_ge hX (pc := 120) 190 dX2_sees_120 (by decide) (fun c11 => ?_) (fun c11 => ?_)
    · have h := ol_ifp c11 h
      refine ol_aload_n hX (pc := 190) dX2_sees_190 rfl rfl ?_
      refine ol_xg_P_8 hX (pc := 191) q174 dX2_sees_191 ?_
      refine ol_iload_n hX (pc := 194) dX2_sees_194 rfl rfl ?_
      obtain ⟨y1, e2, h⟩ := ol_of_bd h
      refine ol_cSNr (As := [.int (σ.1 2 8), .int x1]) hX (pc := 195) (wX1_has V (ol_Xc V a r0 σ ++ (ol_WB V g β ++ ext)) (σ.1 2 8) x1 y1 e2) q1595 q1596 q102 q1597 dcX1_has ⟨rfl, rfl⟩ ol_rr_X2_sees_X1_has (fun _ h => h) ⟨Nat.le_refl _, Nat.le_refl _⟩ (Nat.le_of_ble_eq_true rfl) dX2_sees_195 rfl ?_
      refine ol_if_eq hX (pc := 198) 219 dX2_sees_198 (by decide) (fun c5 => ?_) (fun c5 => ?_)
      · have h := ol_ifp c5 h
        refine ol_iconst hX (pc := 219) 0 dX2_sees_219 ol_k_iconst_0 ?_
        refine ol_Gdrop 1 ?_
        refine ol_Gdrop 2 ?_
        refine ol_Gdrop 5 ?_
        exact wX2_sees_L220 hX β x1 x2 v3 0 σ h
      · have h := ol_ifn c5 h
        refine ol_aload_n hX (pc := 201) dX2_sees_201 rfl rfl ?_
        refine ol_xg_P_3 hX (pc := 202) q167 dX2_sees_202 ?_
        refine ol_iload_n hX (pc := 205) dX2_sees_205 rfl rfl ?_
        obtain ⟨g3, h⟩ := ol_of_og h
        refine ol_xl_6 hX (pc := 206) dX2_sees_206 rfl (ol_in_vp g3) ?_
        refine ol_aload_n hX (pc := 207) dX2_sees_207 rfl rfl ?_
        refine ol_xg_P_0 hX (pc := 208) q162 dX2_sees_208 ?_
        refine ol_iload_n hX (pc := 211) dX2_sees_211 rfl rfl ?_
        obtain ⟨g4, h⟩ := ol_of_og h
        refine ol_xl_3 hX (pc := 212) dX2_sees_212 rfl (ol_in_vp g4) ?_
        refine ol_iconst hX (pc := 213) (-1) dX2_sees_213 ol_k_iconst_m1 ?_
        refine ol_ixor hX (pc := 214) dX2_sees_214 ?_
        refine ol_iand hX (pc := 215) dX2_sees_215 ?_
        refine ol_goto hX (pc := 216) 220 dX2_sees_216 (by decide) ?_
        refine ol_Gdrop 1 ?_
        refine ol_Gdrop 2 ?_
        refine ol_Gdrop 5 ?_
        exact wX2_sees_L220 hX β x1 x2 v3 ((σ.1 6 v3.toNatClampNeg) &&& ((σ.1 3 x1.toNatClampNeg) ^^^ (-1))) σ h
    · have h := ol_ifn c11 h
      refine ol_aload_n hX (pc := 123) dX2_sees_123 rfl rfl ?_
      refine ol_xg_P_2 hX (pc := 124) q165 dX2_sees_124 ?_
      refine ol_iload_n hX (pc := 127) dX2_sees_127 rfl rfl ?_
      obtain ⟨g6, h⟩ := ol_of_og h
      refine ol_xl_5 hX (pc := 128) dX2_sees_128 rfl (ol_in_vp g6) ?_
      refine ol_iload hX (pc := 129) dX2_sees_129 rfl ?_
      obtain ⟨y7, e8, h⟩ := ol_of_bd h
      refine ol_cSNr (As := [.int (σ.1 5 v3.toNatClampNeg), .int v5]) hX (pc := 131) (wX1_has V (ol_Xc V a r0 σ ++ (ol_WB V g β ++ ext)) (σ.1 5 v3.toNatClampNeg) v5 y7 e8) q1595 q1596 q102 q1597 dcX1_has ⟨rfl, rfl⟩ ol_rr_X2_sees_X1_has (fun _ h => h) ⟨Nat.le_refl _, Nat.le_refl _⟩ (Nat.le_of_ble_eq_true rfl) dX2_sees_131 rfl ?_
      refine ol_if_eq hX (pc := 134) 150 dX2_sees_134 (by decide) (fun c10 => ?_) (fun c10 => ?_)
      · have h := ol_ifp c10 h
        exact wX2_sees_L150 hX β x1 x2 (oX2_sees_L116 β (g 0 0) x1 x2 n) ih v3 v5 σ h
      · have h := ol_ifn c10 h
        refine ol_aload_n hX (pc := 137) dX2_sees_137 rfl rfl ?_
        refine ol_xg_P_6 hX (pc := 138) q172 dX2_sees_138 ?_
        refine ol_bipush hX (pc := 141) 6 dX2_sees_141 ol_k_bipush_6 ?_
        refine ol_iload_n hX (pc := 143) dX2_sees_143 rfl rfl ?_
        refine ol_imul hX (pc := 144) dX2_sees_144 ?_
        refine ol_iload hX (pc := 145) dX2_sees_145 rfl ?_
        refine ol_iadd hX (pc := 147) dX2_sees_147 ?_
        refine ol_iload_n hX (pc := 148) dX2_sees_148 rfl rfl ?_
        obtain ⟨g9, h⟩ := ol_of_og h
        refine ol_xw_9 hX (pc := 149) dX2_sees_149 rfl (ol_in_vp g9) ?_
        exact wX2_sees_L150 hX β x1 x2 (oX2_sees_L116 β (g 0 0) x1 x2 n) ih v3 v5 (ol_xs σ 9 (((6 * x1) + v5).toNatClampNeg) x2) h
set_option maxHeartbeats 4000000 in
theorem wX2_sees_L14 {X : ol_Cx} {V : ol_Gh} {A : Nat → Prop} {a : Nat → Nat} {r0 : Option Nat} {ext : va_W} {g : Nat → Nat → Nat} {z : ol_Xm} (hX : ol_CX X V A cX2_sees RX2 "sees" 7 none) (β : ol_Bd) (x1 : Int32) (x2 : Int32)    : ∀ (n : Nat), ∀ (v3 : Int32) (v4 : Int32) (v5 : Int32) (σ : ol_Xm), oX2_sees_L14 β (g 0 0) x1 x2 n v3 v4 v5 σ = some z → ol_G X V A true (ol_Pw none (ol_Xc V a r0 z ++ (ol_WB V g β ++ ext))) ({ frames := 5, cells := 0, slots := 0, locals := 107 } : Room) 7 0 0 (ol_Xc V a r0 σ ++ (ol_WB V g β ++ ext)) 14 [some (.ref (a 2)), some (.int x1), some (.int x2), some (.int v3), some (.int v4), some (.int v5), none] [] := by
  intro n
  induction n with
  | zero =>
    intro v3 v4 v5 σ h
    exact ol_no h
  | succ n ih =>
    intro v3 v4 v5 σ h
    rw [oX2_sees_L14] at h
    refine ol_iload hX (pc := 14) dX2_sees_14 rfl ?_
    refine ol_aload_n hX (pc := 16) dX2_sees_16 rfl rfl ?_
    obtain ⟨g1, h⟩ := ol_of_og h
    refine ol_xg_P_7 hX (pc := 17) q173 (of_decide_eq_true g1) dX2_sees_17 ?_
    refine ol_cVr (As := []) hX (pc := 20) (wX6_many V g β _ ol_hB_X) lkX2_67 dcX6_many ⟨rfl, rfl⟩ ⟨(Nat.le_of_ble_eq_true rfl), (Nat.le_of_ble_eq_true rfl)⟩ 37 rfl rfl (fun _ h => h) ⟨Nat.le_refl _, Nat.le_refl _⟩ (Nat.le_of_ble_eq_true rfl) dX2_sees_20 rfl ?_
    refine ol_icmp_ge hX (pc := 23) 70 dX2_sees_23 (by decide) (fun c13 => ?_) (fun c13 => ?_)
    · have h := ol_ifp c13 h
      refine ol_aload_n hX (pc := 70) dX2_sees_70 rfl rfl ?_
      refine ol_xg_P_2 hX (pc := 71) q165 dX2_sees_71 ?_
      refine ol_iload_n hX (pc := 74) dX2_sees_74 rfl rfl ?_
      refine ol_iload hX (pc := 75) dX2_sees_75 rfl ?_
      refine ol_aload_n hX (pc := 77) dX2_sees_77 rfl rfl ?_
      refine ol_xg_P_5 hX (pc := 78) q171 dX2_sees_78 ?_
      refine ol_iload_n hX (pc := 81) dX2_sees_81 rfl rfl ?_
      obtain ⟨g2, h⟩ := ol_of_og h
      refine ol_xl_8 hX (pc := 82) dX2_sees_82 rfl (ol_in_vp g2) ?_
      refine ol_iconst hX (pc := 83) (-1) dX2_sees_83 ol_k_iconst_m1 ?_
      refine ol_ixor hX (pc := 84) dX2_sees_84 ?_
      refine ol_iand hX (pc := 85) dX2_sees_85 ?_
      refine ol_aload_n hX (pc := 86) dX2_sees_86 rfl rfl ?_
      refine ol_xg_P_9 hX (pc := 87) q175 dX2_sees_87 ?_
      refine ol_ior hX (pc := 90) dX2_sees_90 ?_
      refine ol_aload_n hX (pc := 91) dX2_sees_91 rfl rfl ?_
      refine ol_xg_P_10 hX (pc := 92) q176 dX2_sees_92 ?_
      refine ol_iconst hX (pc := 95) (-1) dX2_sees_95 ol_k_iconst_m1 ?_
      refine ol_ixor hX (pc := 96) dX2_sees_96 ?_
      refine ol_iand hX (pc := 97) dX2_sees_97 ?_
      refine ol_aload_n hX (pc := 98) dX2_sees_98 rfl rfl ?_
      refine ol_xg_P_1 hX (pc := 99) q163 dX2_sees_99 ?_
      refine ol_iload_n hX (pc := 102) dX2_sees_102 rfl rfl ?_
      obtain ⟨g3, h⟩ := ol_of_og h
      refine ol_xl_4 hX (pc := 103) dX2_sees_103 rfl (ol_in_vp g3) ?_
      refine ol_ior hX (pc := 104) dX2_sees_104 ?_
      obtain ⟨g4, h⟩ := ol_of_og h
      refine ol_xw_5 hX (pc := 105) dX2_sees_105 rfl (ol_in_vp g4) ?_
      refine ol_aload_n hX (pc := 106) dX2_sees_106 rfl rfl ?_
      refine ol_xg_P_3 hX (pc := 107) q167 dX2_sees_107 ?_
      refine ol_iload_n hX (pc := 110) dX2_sees_110 rfl rfl ?_
      refine ol_iconst hX (pc := 111) 0 dX2_sees_111 ol_k_iconst_0 ?_
      obtain ⟨g5, h⟩ := ol_of_og h
      refine ol_xw_6 hX (pc := 112) dX2_sees_112 rfl (ol_in_vp g5) ?_
      refine ol_iconst hX (pc := 113) 0 dX2_sees_113 ol_k_iconst_0 ?_
      refine ol_istore hX (pc := 114) [some (.ref (a 2)), some (.int x1), some (.int x2), some (.int v3), some (.int v4), some (.int 0), none] dX2_sees_114 (by decide) rfl rfl ?_
      refine ol_Gdrop 4 ?_
      exact wX2_sees_L116 hX β x1 x2 ol_fuel v3 0 (ol_xs (ol_xs σ 5 v3.toNatClampNeg ((((v4 &&& ((σ.1 8 v3.toNatClampNeg) ^^^ (-1))) ||| (σ.1 2 9)) &&& ((σ.1 2 10) ^^^ (-1))) ||| (σ.1 4 v3.toNatClampNeg))) 6 v3.toNatClampNeg 0) h
    · have h := ol_ifn c13 h
      refine ol_iload_n hX (pc := 26) dX2_sees_26 rfl rfl ?_
      refine ol_aload_n hX (pc := 27) dX2_sees_27 rfl rfl ?_
      obtain ⟨g6, h⟩ := ol_of_og h
      refine ol_xg_P_7 hX (pc := 28) q173 (of_decide_eq_true g6) dX2_sees_28 ?_
      refine ol_iload_n hX (pc := 31) dX2_sees_31 rfl rfl ?_
      refine ol_iload hX (pc := 32) dX2_sees_32 rfl ?_
      obtain ⟨g7, h⟩ := ol_of_og h
      obtain ⟨g8, h⟩ := ol_of_og h
      refine ol_cVr (As := [.int x1, .int v5]) hX (pc := 34) (wX6_apart V g β _ ol_hB_X x1 v5 g7 g8) lkX2_102 dcX6_apart ⟨rfl, rfl⟩ ⟨(Nat.le_of_ble_eq_true rfl), (Nat.le_of_ble_eq_true rfl)⟩ 37 rfl rfl (fun _ h => h) ⟨Nat.le_refl _, Nat.le_refl _⟩ (Nat.le_of_ble_eq_true rfl) dX2_sees_34 rfl ?_
      refine ol_isub hX (pc := 37) dX2_sees_37 ?_
      refine ol_istore hX (pc := 38) [some (.ref (a 2)), some (.int x1), some (.int x2), some (.int v3), some (.int v4), some (.int v5), some (.int (x2 - (ol_far β x1 v5)))] dX2_sees_38 (by decide) rfl rfl ?_
      refine ol_iload hX (pc := 40) dX2_sees_40 rfl ?_
      refine ol_if_lt hX (pc := 42) 64 dX2_sees_42 (by decide) (fun c12 => ?_) (fun c12 => ?_)
      · have h := ol_ifp c12 h
        refine ol_iinc hX (pc := 64) (v5 + 1) [some (.ref (a 2)), some (.int x1), some (.int x2), some (.int v3), some (.int v4), some (.int (v5 + 1)), some (.int (x2 - (ol_far β x1 v5)))] dX2_sees_64 rfl (ol_k_iinc_1 _) (by decide) rfl rfl ?_
        refine ol_goto hX (pc := 67) 14 dX2_sees_67 (by decide) ?_
        refine ol_Gdrop 6 ?_
        exact ih v3 v4 (v5 + 1) σ h
      · have h := ol_ifn c12 h
        refine ol_iload hX (pc := 45) dX2_sees_45 rfl ?_
        refine ol_aload_n hX (pc := 47) dX2_sees_47 rfl rfl ?_
        refine ol_xg_P_1 hX (pc := 48) q163 dX2_sees_48 ?_
        refine ol_sipush hX (pc := 51) 401 dX2_sees_51 ol_k_sipush_401 ?_
        refine ol_iload hX (pc := 54) dX2_sees_54 rfl ?_
        refine ol_imul hX (pc := 56) dX2_sees_56 ?_
        refine ol_iload hX (pc := 57) dX2_sees_57 rfl ?_
        refine ol_iadd hX (pc := 59) dX2_sees_59 ?_
        obtain ⟨g9, h⟩ := ol_of_og h
        refine ol_xl_4 hX (pc := 60) dX2_sees_60 rfl (ol_in_vp g9) ?_
        refine ol_ior hX (pc := 61) dX2_sees_61 ?_
        obtain ⟨y10, e11, h⟩ := ol_of_lt h
        refine ol_topE e11 ?_
        refine ol_istore hX (pc := 62) [some (.ref (a 2)), some (.int x1), some (.int x2), some (.int v3), some (.int y10), some (.int v5), some (.int (x2 - (ol_far β x1 v5)))] dX2_sees_62 (by decide) rfl rfl ?_
        refine ol_iinc hX (pc := 64) (v5 + 1) [some (.ref (a 2)), some (.int x1), some (.int x2), some (.int v3), some (.int y10), some (.int (v5 + 1)), some (.int (x2 - (ol_far β x1 v5)))] dX2_sees_64 rfl (ol_k_iinc_1 _) (by decide) rfl rfl ?_
        refine ol_goto hX (pc := 67) 14 dX2_sees_67 (by decide) ?_
        refine ol_Gdrop 6 ?_
        exact ih v3 y10 (v5 + 1) σ h
set_option maxHeartbeats 4000000 in
theorem wX2_sees (V : ol_Gh) (a : Nat → Nat) (r0 : Option Nat) (ext : va_W) (g : Nat → Nat → Nat) (σ : ol_Xm) (β : ol_Bd) (x1 : Int32) (x2 : Int32)  (z : ol_Xm) (h : oX2_sees σ β (g 0 0) x1 x2 = some z) : ol_Mt V yX2_sees cX2_sees 7 none ({ frames := 5, cells := 0, slots := 0, locals := 107 } : Room) true [.ref (a 2), .int x1, .int x2] (ol_Xc V a r0 σ ++ (ol_WB V g β ++ ext)) (ol_Pw none (ol_Xc V a r0 z ++ (ol_WB V g β ++ ext))) := by
  refine ol_MtOf (L0 := [some (.ref (a 2)), some (.int x1), some (.int x2), none, none, none, none]) (by decide) (Nat.le_of_ble_eq_true rfl) rfl (fun X A hX => ?_)
  unfold oX2_sees at h
  refine ol_sipush hX (pc := 0) 401 dX2_sees_0 ol_k_sipush_401 ?_
  refine ol_iload_n hX (pc := 3) dX2_sees_3 rfl rfl ?_
  refine ol_imul hX (pc := 4) dX2_sees_4 ?_
  refine ol_iload_n hX (pc := 5) dX2_sees_5 rfl rfl ?_
  refine ol_iadd hX (pc := 6) dX2_sees_6 ?_
  refine ol_istore_n hX (pc := 7) [some (.ref (a 2)), some (.int x1), some (.int x2), some (.int ((401 * x1) + x2)), none, none, none] dX2_sees_7 rfl (by decide) rfl rfl ?_
  refine ol_iconst hX (pc := 8) 0 dX2_sees_8 ol_k_iconst_0 ?_
  refine ol_istore hX (pc := 9) [some (.ref (a 2)), some (.int x1), some (.int x2), some (.int ((401 * x1) + x2)), some (.int 0), none, none] dX2_sees_9 (by decide) rfl rfl ?_
  refine ol_iconst hX (pc := 11) 0 dX2_sees_11 ol_k_iconst_0 ?_
  refine ol_istore hX (pc := 12) [some (.ref (a 2)), some (.int x1), some (.int x2), some (.int ((401 * x1) + x2)), some (.int 0), some (.int 0), none] dX2_sees_12 (by decide) rfl rfl ?_
  exact wX2_sees_L14 hX β x1 x2 ol_fuel ((401 * x1) + x2) 0 0 σ h
set_option maxHeartbeats 4000000 in
theorem wX2_winners_L4 {X : ol_Cx} {V : ol_Gh} {A : Nat → Prop} {a : Nat → Nat} {r0 : Option Nat} {ext : va_W} {g : Nat → Nat → Nat} {z : Int32} (hX : ol_CX X V A cX2_winners RX2 "winners" 4 (some .int)) (σ : ol_Xm) (β : ol_Bd) (x1 : Int32)    : ∀ (n : Nat), ∀ (v2 : Int32) (v3 : Int32), oX2_winners_L4 σ β (g 0 0) x1 n v2 v3 = some z → ol_G X V A false (ol_Pr (some (.int z))) ({ frames := 2, cells := 0, slots := 0, locals := 40 } : Room) 4 0 0 (ol_Xc V a r0 σ ++ (ol_WB V g β ++ ext)) 4 [some (.ref (a 2)), some (.int x1), some (.int v2), some (.int v3)] [] := by
  intro n
  induction n with
  | zero =>
    intro v2 v3 h
    exact ol_no h
  | succ n ih =>
    intro v2 v3 h
    rw [oX2_winners_L4] at h
    refine ol_iload_n hX (pc := 4) dX2_winners_4 rfl rfl ?_
    refine ol_aload_n hX (pc := 5) dX2_winners_5 rfl rfl ?_
    obtain ⟨g1, h⟩ := ol_of_og h
    refine ol_xg_P_7 hX (pc := 6) q173 (of_decide_eq_true g1) dX2_winners_6 ?_
    refine ol_cVr (As := []) hX (pc := 9) (wX6_many V g β _ ol_hB_X) lkX2_67 dcX6_many ⟨rfl, rfl⟩ ⟨(Nat.le_of_ble_eq_true rfl), (Nat.le_of_ble_eq_true rfl)⟩ 37 rfl rfl (fun _ h => h) ⟨Nat.le_refl _, Nat.le_refl _⟩ (Nat.le_of_ble_eq_true rfl) dX2_winners_9 rfl ?_
    refine ol_icmp_ge hX (pc := 12) 55 dX2_winners_12 (by decide) (fun c7 => ?_) (fun c7 => ?_)
    · have h := ol_ifp c7 h
      refine ol_iload_n hX (pc := 55) dX2_winners_55 rfl rfl ?_
      have h := ol_of_some h
      subst h
      exact ol_iret hX (pc := 56) dX2_winners_56 rfl ⟨Nat.le_refl _, Nat.le_refl _⟩
    · have h := ol_ifn c7 h
      refine ol_aload_n hX (pc := 15) dX2_winners_15 rfl rfl ?_
      refine ol_xg_P_8 hX (pc := 16) q174 dX2_winners_16 ?_
      refine ol_iload_n hX (pc := 19) dX2_winners_19 rfl rfl ?_
      obtain ⟨y2, e3, h⟩ := ol_of_bd h
      refine ol_cSNr (As := [.int (σ.1 2 8), .int v3]) hX (pc := 20) (wX1_has V (ol_Xc V a r0 σ ++ (ol_WB V g β ++ ext)) (σ.1 2 8) v3 y2 e3) q1595 q1596 q102 q1597 dcX1_has ⟨rfl, rfl⟩ ol_rr_X2_winners_X1_has (fun _ h => h) ⟨Nat.le_refl _, Nat.le_refl _⟩ (Nat.le_of_ble_eq_true rfl) dX2_winners_20 rfl ?_
      refine ol_if_eq hX (pc := 23) 49 dX2_winners_23 (by decide) (fun c6 => ?_) (fun c6 => ?_)
      · have h := ol_ifp c6 h
        refine ol_iinc hX (pc := 49) (v3 + 1) [some (.ref (a 2)), some (.int x1), some (.int v2), some (.int (v3 + 1))] dX2_winners_49 rfl (ol_k_iinc_1 _) (by decide) rfl rfl ?_
        refine ol_goto hX (pc := 52) 4 dX2_winners_52 (by decide) ?_
        exact ih v2 (v3 + 1) h
      · have h := ol_ifn c6 h
        refine ol_aload_n hX (pc := 26) dX2_winners_26 rfl rfl ?_
        refine ol_xg_P_4 hX (pc := 27) q169 dX2_winners_27 ?_
        refine ol_sipush hX (pc := 30) 401 dX2_winners_30 ol_k_sipush_401 ?_
        refine ol_iload_n hX (pc := 33) dX2_winners_33 rfl rfl ?_
        refine ol_imul hX (pc := 34) dX2_winners_34 ?_
        refine ol_iload_n hX (pc := 35) dX2_winners_35 rfl rfl ?_
        refine ol_iadd hX (pc := 36) dX2_winners_36 ?_
        obtain ⟨g4, h⟩ := ol_of_og h
        refine ol_xl_7 hX (pc := 37) dX2_winners_37 rfl (ol_in_vp g4) ?_
        refine ol_bipush hX (pc := 38) (-2) dX2_winners_38 ol_k_bipush_m2 ?_
        refine ol_icmp_ne hX (pc := 40) 49 dX2_winners_40 (by decide) (fun c5 => ?_) (fun c5 => ?_)
        · have h := ol_ifn c5 h
          refine ol_iinc hX (pc := 49) (v3 + 1) [some (.ref (a 2)), some (.int x1), some (.int v2), some (.int (v3 + 1))] dX2_winners_49 rfl (ol_k_iinc_1 _) (by decide) rfl rfl ?_
          refine ol_goto hX (pc := 52) 4 dX2_winners_52 (by decide) ?_
          exact ih v2 (v3 + 1) h
        · have h := ol_ifp c5 h
          refine ol_iload_n hX (pc := 43) dX2_winners_43 rfl rfl ?_
          refine ol_iconst hX (pc := 44) 1 dX2_winners_44 ol_k_iconst_1 ?_
          refine ol_iload_n hX (pc := 45) dX2_winners_45 rfl rfl ?_
          refine ol_ishl hX (pc := 46) dX2_winners_46 ?_
          refine ol_ior hX (pc := 47) dX2_winners_47 ?_
          refine ol_istore_n hX (pc := 48) [some (.ref (a 2)), some (.int x1), some (.int (v2 ||| ((1 : Int32) <<< (v3 &&& 31)))), some (.int v3)] dX2_winners_48 rfl (by decide) rfl rfl ?_
          refine ol_iinc hX (pc := 49) (v3 + 1) [some (.ref (a 2)), some (.int x1), some (.int (v2 ||| ((1 : Int32) <<< (v3 &&& 31)))), some (.int (v3 + 1))] dX2_winners_49 rfl (ol_k_iinc_1 _) (by decide) rfl rfl ?_
          refine ol_goto hX (pc := 52) 4 dX2_winners_52 (by decide) ?_
          exact ih (v2 ||| ((1 : Int32) <<< (v3 &&& 31))) (v3 + 1) h
set_option maxHeartbeats 4000000 in
theorem wX2_winners (V : ol_Gh) (a : Nat → Nat) (r0 : Option Nat) (ext : va_W) (g : Nat → Nat → Nat) (σ : ol_Xm) (β : ol_Bd) (x1 : Int32)  (z : Int32) (h : oX2_winners σ β (g 0 0) x1 = some z) : ol_Mt V yX2_winners cX2_winners 4 (some .int) ({ frames := 2, cells := 0, slots := 0, locals := 40 } : Room) false [.ref (a 2), .int x1] (ol_Xc V a r0 σ ++ (ol_WB V g β ++ ext)) (ol_Pr (some (.int z))) := by
  refine ol_MtOf (L0 := [some (.ref (a 2)), some (.int x1), none, none]) (by decide) (Nat.le_of_ble_eq_true rfl) rfl (fun X A hX => ?_)
  unfold oX2_winners at h
  refine ol_iconst hX (pc := 0) 0 dX2_winners_0 ol_k_iconst_0 ?_
  refine ol_istore_n hX (pc := 1) [some (.ref (a 2)), some (.int x1), some (.int 0), none] dX2_winners_1 rfl (by decide) rfl rfl ?_
  refine ol_iconst hX (pc := 2) 0 dX2_winners_2 ol_k_iconst_0 ?_
  refine ol_istore_n hX (pc := 3) [some (.ref (a 2)), some (.int x1), some (.int 0), some (.int 0)] dX2_winners_3 rfl (by decide) rfl rfl ?_
  exact wX2_winners_L4 hX σ β x1 ol_fuel 0 0 h
set_option maxHeartbeats 4000000 in
theorem wX2_right_L6 {X : ol_Cx} {V : ol_Gh} {A : Nat → Prop} {a : Nat → Nat} {r0 : Option Nat} {ext : va_W} {g : Nat → Nat → Nat} {z : Int32} (hX : ol_CX X V A cX2_right RX2 "right" 4 (some .int)) (σ : ol_Xm) (β : ol_Bd)    : ∀ (n : Nat), ∀ (v1 : Int32) (v2 : Int32) (v3 : Int32), oX2_right_L6 σ β (g 0 0) n v1 v2 v3 = some z → ol_G X V A false (ol_Pr (some (.int z))) ({ frames := 2, cells := 0, slots := 0, locals := 40 } : Room) 4 0 0 (ol_Xc V a r0 σ ++ (ol_WB V g β ++ ext)) 6 [some (.ref (a 2)), some (.int v1), some (.int v2), some (.int v3)] [] := by
  intro n
  induction n with
  | zero =>
    intro v1 v2 v3 h
    exact ol_no h
  | succ n ih =>
    intro v1 v2 v3 h
    rw [oX2_right_L6] at h
    refine ol_iload_n hX (pc := 6) dX2_right_6 rfl rfl ?_
    refine ol_aload_n hX (pc := 7) dX2_right_7 rfl rfl ?_
    obtain ⟨g1, h⟩ := ol_of_og h
    refine ol_xg_P_7 hX (pc := 8) q173 (of_decide_eq_true g1) dX2_right_8 ?_
    refine ol_cVr (As := []) hX (pc := 11) (wX6_many V g β _ ol_hB_X) lkX2_67 dcX6_many ⟨rfl, rfl⟩ ⟨(Nat.le_of_ble_eq_true rfl), (Nat.le_of_ble_eq_true rfl)⟩ 37 rfl rfl (fun _ h => h) ⟨Nat.le_refl _, Nat.le_refl _⟩ (Nat.le_of_ble_eq_true rfl) dX2_right_11 rfl ?_
    refine ol_icmp_ge hX (pc := 14) 72 dX2_right_14 (by decide) (fun c11 => ?_) (fun c11 => ?_)
    · have h := ol_ifp c11 h
      refine ol_iload_n hX (pc := 72) dX2_right_72 rfl rfl ?_
      have h := ol_of_some h
      subst h
      exact ol_iret hX (pc := 73) dX2_right_73 rfl ⟨Nat.le_refl _, Nat.le_refl _⟩
    · have h := ol_ifn c11 h
      refine ol_aload_n hX (pc := 17) dX2_right_17 rfl rfl ?_
      refine ol_xg_P_8 hX (pc := 18) q174 dX2_right_18 ?_
      refine ol_iload_n hX (pc := 21) dX2_right_21 rfl rfl ?_
      obtain ⟨y2, e3, h⟩ := ol_of_bd h
      refine ol_cSNr (As := [.int (σ.1 2 8), .int v3]) hX (pc := 22) (wX1_has V (ol_Xc V a r0 σ ++ (ol_WB V g β ++ ext)) (σ.1 2 8) v3 y2 e3) q1595 q1596 q102 q1597 dcX1_has ⟨rfl, rfl⟩ ol_rr_X2_right_X1_has (fun _ h => h) ⟨Nat.le_refl _, Nat.le_refl _⟩ (Nat.le_of_ble_eq_true rfl) dX2_right_22 rfl ?_
      refine ol_if_eq hX (pc := 25) 66 dX2_right_25 (by decide) (fun c10 => ?_) (fun c10 => ?_)
      · have h := ol_ifp c10 h
        refine ol_iinc hX (pc := 66) (v3 + 1) [some (.ref (a 2)), some (.int v1), some (.int v2), some (.int (v3 + 1))] dX2_right_66 rfl (ol_k_iinc_1 _) (by decide) rfl rfl ?_
        refine ol_goto hX (pc := 69) 6 dX2_right_69 (by decide) ?_
        exact ih v1 v2 (v3 + 1) h
      · have h := ol_ifn c10 h
        refine ol_aload_n hX (pc := 28) dX2_right_28 rfl rfl ?_
        refine ol_xg_P_0 hX (pc := 29) q162 dX2_right_29 ?_
        refine ol_iload_n hX (pc := 32) dX2_right_32 rfl rfl ?_
        obtain ⟨g4, h⟩ := ol_of_og h
        refine ol_xl_3 hX (pc := 33) dX2_right_33 rfl (ol_in_vp g4) ?_
        refine ol_iload_n hX (pc := 34) dX2_right_34 rfl rfl ?_
        refine ol_icmp_ge hX (pc := 35) 41 dX2_right_35 (by decide) (fun c9 => ?_) (fun c9 => ?_)
        · have h := ol_ifp c9 h
          refine ol_aload_n hX (pc := 41) dX2_right_41 rfl rfl ?_
          refine ol_xg_P_0 hX (pc := 42) q162 dX2_right_42 ?_
          refine ol_iload_n hX (pc := 45) dX2_right_45 rfl rfl ?_
          obtain ⟨g5, h⟩ := ol_of_og h
          refine ol_xl_3 hX (pc := 46) dX2_right_46 rfl (ol_in_vp g5) ?_
          refine ol_iload_n hX (pc := 47) dX2_right_47 rfl rfl ?_
          refine ol_icmp_le hX (pc := 48) 53 dX2_right_48 (by decide) (fun c8 => ?_) (fun c8 => ?_)
          · have h := ol_ifp c8 h
            refine ol_iload_n hX (pc := 53) dX2_right_53 rfl rfl ?_
            refine ol_iconst hX (pc := 54) 1 dX2_right_54 ol_k_iconst_1 ?_
            refine ol_iload_n hX (pc := 55) dX2_right_55 rfl rfl ?_
            refine ol_ishl hX (pc := 56) dX2_right_56 ?_
            refine ol_ior hX (pc := 57) dX2_right_57 ?_
            refine ol_istore_n hX (pc := 58) [some (.ref (a 2)), some (.int v1), some (.int (v2 ||| ((1 : Int32) <<< (v3 &&& 31)))), some (.int v3)] dX2_right_58 rfl (by decide) rfl rfl ?_
            refine ol_aload_n hX (pc := 59) dX2_right_59 rfl rfl ?_
            refine ol_xg_P_0 hX (pc := 60) q162 dX2_right_60 ?_
            refine ol_iload_n hX (pc := 63) dX2_right_63 rfl rfl ?_
            obtain ⟨g6, h⟩ := ol_of_og h
            refine ol_xl_3 hX (pc := 64) dX2_right_64 rfl (ol_in_vp g6) ?_
            refine ol_istore_n hX (pc := 65) [some (.ref (a 2)), some (.int (σ.1 3 v3.toNatClampNeg)), some (.int (v2 ||| ((1 : Int32) <<< (v3 &&& 31)))), some (.int v3)] dX2_right_65 rfl (by decide) rfl rfl ?_
            refine ol_iinc hX (pc := 66) (v3 + 1) [some (.ref (a 2)), some (.int (σ.1 3 v3.toNatClampNeg)), some (.int (v2 ||| ((1 : Int32) <<< (v3 &&& 31)))), some (.int (v3 + 1))] dX2_right_66 rfl (ol_k_iinc_1 _) (by decide) rfl rfl ?_
            refine ol_goto hX (pc := 69) 6 dX2_right_69 (by decide) ?_
            exact ih (σ.1 3 v3.toNatClampNeg) (v2 ||| ((1 : Int32) <<< (v3 &&& 31))) (v3 + 1) h
          · have h := ol_ifn c8 h
            refine ol_iconst hX (pc := 51) 0 dX2_right_51 ol_k_iconst_0 ?_
            refine ol_istore_n hX (pc := 52) [some (.ref (a 2)), some (.int v1), some (.int 0), some (.int v3)] dX2_right_52 rfl (by decide) rfl rfl ?_
            refine ol_iload_n hX (pc := 53) dX2_right_53 rfl rfl ?_
            refine ol_iconst hX (pc := 54) 1 dX2_right_54 ol_k_iconst_1 ?_
            refine ol_iload_n hX (pc := 55) dX2_right_55 rfl rfl ?_
            refine ol_ishl hX (pc := 56) dX2_right_56 ?_
            refine ol_ior hX (pc := 57) dX2_right_57 ?_
            refine ol_istore_n hX (pc := 58) [some (.ref (a 2)), some (.int v1), some (.int (0 ||| ((1 : Int32) <<< (v3 &&& 31)))), some (.int v3)] dX2_right_58 rfl (by decide) rfl rfl ?_
            refine ol_aload_n hX (pc := 59) dX2_right_59 rfl rfl ?_
            refine ol_xg_P_0 hX (pc := 60) q162 dX2_right_60 ?_
            refine ol_iload_n hX (pc := 63) dX2_right_63 rfl rfl ?_
            obtain ⟨g7, h⟩ := ol_of_og h
            refine ol_xl_3 hX (pc := 64) dX2_right_64 rfl (ol_in_vp g7) ?_
            refine ol_istore_n hX (pc := 65) [some (.ref (a 2)), some (.int (σ.1 3 v3.toNatClampNeg)), some (.int (0 ||| ((1 : Int32) <<< (v3 &&& 31)))), some (.int v3)] dX2_right_65 rfl (by decide) rfl rfl ?_
            refine ol_iinc hX (pc := 66) (v3 + 1) [some (.ref (a 2)), some (.int (σ.1 3 v3.toNatClampNeg)), some (.int (0 ||| ((1 : Int32) <<< (v3 &&& 31)))), some (.int (v3 + 1))] dX2_right_66 rfl (ol_k_iinc_1 _) (by decide) rfl rfl ?_
            refine ol_goto hX (pc := 69) 6 dX2_right_69 (by decide) ?_
            exact ih (σ.1 3 v3.toNatClampNeg) (0 ||| ((1 : Int32) <<< (v3 &&& 31))) (v3 + 1) h
        · have h := ol_ifn c9 h
          refine ol_goto hX (pc := 38) 66 dX2_right_38 (by decide) ?_
          refine ol_iinc hX (pc := 66) (v3 + 1) [some (.ref (a 2)), some (.int v1), some (.int v2), some (.int (v3 + 1))] dX2_right_66 rfl (ol_k_iinc_1 _) (by decide) rfl rfl ?_
          refine ol_goto hX (pc := 69) 6 dX2_right_69 (by decide) ?_
          exact ih v1 v2 (v3 + 1) h
set_option maxHeartbeats 4000000 in
theorem wX2_right (V : ol_Gh) (a : Nat → Nat) (r0 : Option Nat) (ext : va_W) (g : Nat → Nat → Nat) (σ : ol_Xm) (β : ol_Bd)  (z : Int32) (h : oX2_right σ β (g 0 0) = some z) : ol_Mt V yX2_right cX2_right 4 (some .int) ({ frames := 2, cells := 0, slots := 0, locals := 40 } : Room) false [.ref (a 2)] (ol_Xc V a r0 σ ++ (ol_WB V g β ++ ext)) (ol_Pr (some (.int z))) := by
  refine ol_MtOf (L0 := [some (.ref (a 2)), none, none, none]) (by decide) (Nat.le_of_ble_eq_true rfl) rfl (fun X A hX => ?_)
  unfold oX2_right at h
  refine ol_iconst hX (pc := 0) 0 dX2_right_0 ol_k_iconst_0 ?_
  refine ol_istore_n hX (pc := 1) [some (.ref (a 2)), some (.int 0), none, none] dX2_right_1 rfl (by decide) rfl rfl ?_
  refine ol_iconst hX (pc := 2) 0 dX2_right_2 ol_k_iconst_0 ?_
  refine ol_istore_n hX (pc := 3) [some (.ref (a 2)), some (.int 0), some (.int 0), none] dX2_right_3 rfl (by decide) rfl rfl ?_
  refine ol_iconst hX (pc := 4) 0 dX2_right_4 ol_k_iconst_0 ?_
  refine ol_istore_n hX (pc := 5) [some (.ref (a 2)), some (.int 0), some (.int 0), some (.int 0)] dX2_right_5 rfl (by decide) rfl rfl ?_
  exact wX2_right_L6 hX σ β ol_fuel 0 0 0 h
set_option maxHeartbeats 4000000 in
theorem wX2_settles_L11 {X : ol_Cx} {V : ol_Gh} {A : Nat → Prop} {a : Nat → Nat} {r0 : Option Nat} {ext : va_W} {g : Nat → Nat → Nat} {z : Int32} (hX : ol_CX X V A cX2_settles RX2 "settles" 3 (some .int)) (σ : ol_Xm) (β : ol_Bd)  (k5 : Int32 → Option Int32) (hk5 : ∀ (v1 : Int32), k5 v1 = some z → ol_G X V A false (ol_Pr (some (.int z))) ({ frames := 2, cells := 0, slots := 0, locals := 40 } : Room) 3 0 0 (ol_Xc V a r0 σ ++ (ol_WB V g β ++ ext)) 5 [some (.ref (a 2)), some (.int v1), none] [])  : ∀ (n : Nat), ∀ (v1 : Int32) (v2 : Int32), oX2_settles_L11 σ β (g 0 0) k5 n v1 v2 = some z → ol_G X V A false (ol_Pr (some (.int z))) ({ frames := 2, cells := 0, slots := 0, locals := 40 } : Room) 3 0 0 (ol_Xc V a r0 σ ++ (ol_WB V g β ++ ext)) 11 [some (.ref (a 2)), some (.int v1), some (.int v2)] [] := by
  intro n
  induction n with
  | zero =>
    intro v1 v2 h
    exact ol_no h
  | succ n ih =>
    intro v1 v2 h
    rw [oX2_settles_L11] at h
    refine ol_iload_n hX (pc := 11) dX2_settles_11 rfl rfl ?_
    refine ol_aload_n hX (pc := 12) dX2_settles_12 rfl rfl ?_
    obtain ⟨g1, h⟩ := ol_of_og h
    refine ol_xg_P_7 hX (pc := 13) q173 (of_decide_eq_true g1) dX2_settles_13 ?_
    refine ol_cVr (As := []) hX (pc := 16) (wX6_many V g β _ ol_hB_X) lkX2_67 dcX6_many ⟨rfl, rfl⟩ ⟨(Nat.le_of_ble_eq_true rfl), (Nat.le_of_ble_eq_true rfl)⟩ 37 rfl rfl (fun _ h => h) ⟨Nat.le_refl _, Nat.le_refl _⟩ (Nat.le_of_ble_eq_true rfl) dX2_settles_16 rfl ?_
    refine ol_icmp_ge hX (pc := 19) 59 dX2_settles_19 (by decide) (fun c5 => ?_) (fun c5 => ?_)
    · have h := ol_ifp c5 h
      refine ol_iinc hX (pc := 59) (v1 + (-1)) [some (.ref (a 2)), some (.int (v1 + (-1))), some (.int v2)] dX2_settles_59 rfl (ol_k_iinc_m1 _) (by decide) rfl rfl ?_
      refine ol_goto hX (pc := 62) 5 dX2_settles_62 (by decide) ?_
      refine ol_Gdrop 2 ?_
      exact hk5 (v1 + (-1)) h
    · have h := ol_ifn c5 h
      refine ol_aload_n hX (pc := 22) dX2_settles_22 rfl rfl ?_
      refine ol_xg_P_1 hX (pc := 23) q163 dX2_settles_23 ?_
      refine ol_sipush hX (pc := 26) 401 dX2_settles_26 ol_k_sipush_401 ?_
      refine ol_iload_n hX (pc := 29) dX2_settles_29 rfl rfl ?_
      refine ol_imul hX (pc := 30) dX2_settles_30 ?_
      refine ol_iload_n hX (pc := 31) dX2_settles_31 rfl rfl ?_
      refine ol_iadd hX (pc := 32) dX2_settles_32 ?_
      obtain ⟨g2, h⟩ := ol_of_og h
      refine ol_xl_4 hX (pc := 33) dX2_settles_33 rfl (ol_in_vp g2) ?_
      refine ol_aload_n hX (pc := 34) dX2_settles_34 rfl rfl ?_
      refine ol_xg_P_1 hX (pc := 35) q163 dX2_settles_35 ?_
      refine ol_sipush hX (pc := 38) 401 dX2_settles_38 ol_k_sipush_401 ?_
      refine ol_iload_n hX (pc := 41) dX2_settles_41 rfl rfl ?_
      refine ol_imul hX (pc := 42) dX2_settles_42 ?_
      refine ol_iload_n hX (pc := 43) dX2_settles_43 rfl rfl ?_
      refine ol_iadd hX (pc := 44) dX2_settles_44 ?_
      refine ol_iconst hX (pc := 45) 1 dX2_settles_45 ol_k_iconst_1 ?_
      refine ol_isub hX (pc := 46) dX2_settles_46 ?_
      obtain ⟨g3, h⟩ := ol_of_og h
      refine ol_xl_4 hX (pc := 47) dX2_settles_47 rfl (ol_in_vp g3) ?_
      refine ol_icmp_eq hX (pc := 48) 53 dX2_settles_48 (by decide) (fun c4 => ?_) (fun c4 => ?_)
      · have h := ol_ifp c4 h
        refine ol_iinc hX (pc := 53) (v2 + 1) [some (.ref (a 2)), some (.int v1), some (.int (v2 + 1))] dX2_settles_53 rfl (ol_k_iinc_1 _) (by decide) rfl rfl ?_
        refine ol_goto hX (pc := 56) 11 dX2_settles_56 (by decide) ?_
        exact ih v1 (v2 + 1) h
      · have h := ol_ifn c4 h
        refine ol_iload_n hX (pc := 51) dX2_settles_51 rfl rfl ?_
        have h := ol_of_some h
        subst h
        exact ol_iret hX (pc := 52) dX2_settles_52 rfl ⟨Nat.le_refl _, Nat.le_refl _⟩
set_option maxHeartbeats 4000000 in
theorem wX2_settles_L5 {X : ol_Cx} {V : ol_Gh} {A : Nat → Prop} {a : Nat → Nat} {r0 : Option Nat} {ext : va_W} {g : Nat → Nat → Nat} {z : Int32} (hX : ol_CX X V A cX2_settles RX2 "settles" 3 (some .int)) (σ : ol_Xm) (β : ol_Bd)    : ∀ (n : Nat), ∀ (v1 : Int32), oX2_settles_L5 σ β (g 0 0) n v1 = some z → ol_G X V A false (ol_Pr (some (.int z))) ({ frames := 2, cells := 0, slots := 0, locals := 40 } : Room) 3 0 0 (ol_Xc V a r0 σ ++ (ol_WB V g β ++ ext)) 5 [some (.ref (a 2)), some (.int v1), none] [] := by
  intro n
  induction n with
  | zero =>
    intro v1 h
    exact ol_no h
  | succ n ih =>
    intro v1 h
    rw [oX2_settles_L5] at h
    refine ol_iload_n hX (pc := 5) dX2_settles_5 rfl rfl ?_
    refine ol_if_le hX (pc := 6) 65 dX2_settles_6 (by decide) (fun c1 => ?_) (fun c1 => ?_)
    · have h := ol_ifp c1 h
      refine ol_iconst hX (pc := 65) 0 dX2_settles_65 ol_k_iconst_0 ?_
      have h := ol_of_some h
      subst h
      exact ol_iret hX (pc := 66) dX2_settles_66 rfl ⟨Nat.le_refl _, Nat.le_refl _⟩
    · have h := ol_ifn c1 h
      refine ol_iconst hX (pc := 9) 0 dX2_settles_9 ol_k_iconst_0 ?_
      refine ol_istore_n hX (pc := 10) [some (.ref (a 2)), some (.int v1), some (.int 0)] dX2_settles_10 rfl (by decide) rfl rfl ?_
      exact wX2_settles_L11 hX σ β (oX2_settles_L5 σ β (g 0 0) n) ih ol_fuel v1 0 h
set_option maxHeartbeats 4000000 in
theorem wX2_settles (V : ol_Gh) (a : Nat → Nat) (r0 : Option Nat) (ext : va_W) (g : Nat → Nat → Nat) (σ : ol_Xm) (β : ol_Bd)  (z : Int32) (h : oX2_settles σ β (g 0 0) = some z) : ol_Mt V yX2_settles cX2_settles 3 (some .int) ({ frames := 2, cells := 0, slots := 0, locals := 40 } : Room) false [.ref (a 2)] (ol_Xc V a r0 σ ++ (ol_WB V g β ++ ext)) (ol_Pr (some (.int z))) := by
  refine ol_MtOf (L0 := [some (.ref (a 2)), none, none]) (by decide) (Nat.le_of_ble_eq_true rfl) rfl (fun X A hX => ?_)
  unfold oX2_settles at h
  refine ol_aload_n hX (pc := 0) dX2_settles_0 rfl rfl ?_
  refine ol_xg_P_12 hX (pc := 1) q179 dX2_settles_1 ?_
  refine ol_istore_n hX (pc := 4) [some (.ref (a 2)), some (.int (σ.1 2 12)), none] dX2_settles_4 rfl (by decide) rfl rfl ?_
  exact wX2_settles_L5 hX σ β ol_fuel (σ.1 2 12) h
set_option maxHeartbeats 4000000 in
theorem wX2_sure_L25 {X : ol_Cx} {V : ol_Gh} {A : Nat → Prop} {a : Nat → Nat} {r0 : Option Nat} {ext : va_W} {g : Nat → Nat → Nat} {z : Int32} (hX : ol_CX X V A cX2_sure RX2 "sure" 3 (some .int)) (σ : ol_Xm) (β : ol_Bd)    : ∀ (n : Nat), ∀ (v1 : Int32) (v2 : Int32), oX2_sure_L25 σ β (g 0 0) n v1 v2 = some z → ol_G X V A false (ol_Pr (some (.int z))) ({ frames := 3, cells := 0, slots := 0, locals := 63 } : Room) 3 0 0 (ol_Xc V a r0 σ ++ (ol_WB V g β ++ ext)) 25 [some (.ref (a 2)), some (.int v1), some (.int v2)] [] := by
  intro n
  induction n with
  | zero =>
    intro v1 v2 h
    exact ol_no h
  | succ n ih =>
    intro v1 v2 h
    rw [oX2_sure_L25] at h
    refine ol_iload_n hX (pc := 25) dX2_sure_25 rfl rfl ?_
    refine ol_if_le hX (pc := 26) 46 dX2_sure_26 (by decide) (fun c4 => ?_) (fun c4 => ?_)
    · have h := ol_ifp c4 h
      refine ol_iload_n hX (pc := 46) dX2_sure_46 rfl rfl ?_
      have h := ol_of_some h
      subst h
      exact ol_iret hX (pc := 47) dX2_sure_47 rfl ⟨Nat.le_refl _, Nat.le_refl _⟩
    · have h := ol_ifn c4 h
      refine ol_aload_n hX (pc := 29) dX2_sure_29 rfl rfl ?_
      refine ol_iload_n hX (pc := 30) dX2_sure_30 rfl rfl ?_
      refine ol_iconst hX (pc := 31) 1 dX2_sure_31 ol_k_iconst_1 ?_
      refine ol_isub hX (pc := 32) dX2_sure_32 ?_
      obtain ⟨y1, e2, h⟩ := ol_of_bd h
      refine ol_cVr (As := [.int (v2 - 1)]) hX (pc := 33) (wX2_winners V a r0 ext g σ β (v2 - 1) y1 e2) lkX2_117 dcX2_winners ⟨rfl, rfl⟩ ol_rr_X2_sure_X2_winners 2 rfl rfl (fun _ h => h) ⟨Nat.le_refl _, Nat.le_refl _⟩ (Nat.le_of_ble_eq_true rfl) dX2_sure_33 rfl ?_
      refine ol_iload_n hX (pc := 36) dX2_sure_36 rfl rfl ?_
      refine ol_icmp_ne hX (pc := 37) 46 dX2_sure_37 (by decide) (fun c3 => ?_) (fun c3 => ?_)
      · have h := ol_ifn c3 h
        refine ol_iload_n hX (pc := 46) dX2_sure_46 rfl rfl ?_
        have h := ol_of_some h
        subst h
        exact ol_iret hX (pc := 47) dX2_sure_47 rfl ⟨Nat.le_refl _, Nat.le_refl _⟩
      · have h := ol_ifp c3 h
        refine ol_iinc hX (pc := 40) (v2 + (-1)) [some (.ref (a 2)), some (.int v1), some (.int (v2 + (-1)))] dX2_sure_40 rfl (ol_k_iinc_m1 _) (by decide) rfl rfl ?_
        refine ol_goto hX (pc := 43) 25 dX2_sure_43 (by decide) ?_
        exact ih v1 (v2 + (-1)) h
set_option maxHeartbeats 4000000 in
theorem wX2_sure (V : ol_Gh) (a : Nat → Nat) (r0 : Option Nat) (ext : va_W) (g : Nat → Nat → Nat) (σ : ol_Xm) (β : ol_Bd)  (z : Int32) (h : oX2_sure σ β (g 0 0) = some z) : ol_Mt V yX2_sure cX2_sure 3 (some .int) ({ frames := 3, cells := 0, slots := 0, locals := 63 } : Room) false [.ref (a 2)] (ol_Xc V a r0 σ ++ (ol_WB V g β ++ ext)) (ol_Pr (some (.int z))) := by
  refine ol_MtOf (L0 := [some (.ref (a 2)), none, none]) (by decide) (Nat.le_of_ble_eq_true rfl) rfl (fun X A hX => ?_)
  unfold oX2_sure at h
  refine ol_aload_n hX (pc := 0) dX2_sure_0 rfl rfl ?_
  obtain ⟨y1, e2, h⟩ := ol_of_bd h
  refine ol_cVr (As := []) hX (pc := 1) (wX2_right V a r0 ext g σ β y1 e2) lkX2_114 dcX2_right ⟨rfl, rfl⟩ ol_rr_X2_sure_X2_right 2 rfl rfl (fun _ h => h) ⟨Nat.le_refl _, Nat.le_refl _⟩ (Nat.le_of_ble_eq_true rfl) dX2_sure_1 rfl ?_
  refine ol_istore_n hX (pc := 4) [some (.ref (a 2)), some (.int y1), none] dX2_sure_4 rfl (by decide) rfl rfl ?_
  refine ol_aload_n hX (pc := 5) dX2_sure_5 rfl rfl ?_
  refine ol_aload_n hX (pc := 6) dX2_sure_6 rfl rfl ?_
  refine ol_xg_P_12 hX (pc := 7) q179 dX2_sure_7 ?_
  obtain ⟨y3, e4, h⟩ := ol_of_bd h
  refine ol_cVr (As := [.int (σ.1 2 12)]) hX (pc := 10) (wX2_winners V a r0 ext g σ β (σ.1 2 12) y3 e4) lkX2_117 dcX2_winners ⟨rfl, rfl⟩ ol_rr_X2_sure_X2_winners 2 rfl rfl (fun _ h => h) ⟨Nat.le_refl _, Nat.le_refl _⟩ (Nat.le_of_ble_eq_true rfl) dX2_sure_10 rfl ?_
  refine ol_iload_n hX (pc := 13) dX2_sure_13 rfl rfl ?_
  refine ol_icmp_eq hX (pc := 14) 20 dX2_sure_14 (by decide) (fun c5 => ?_) (fun c5 => ?_)
  · have h := ol_ifp c5 h
    refine ol_aload_n hX (pc := 20) dX2_sure_20 rfl rfl ?_
    refine ol_xg_P_12 hX (pc := 21) q179 dX2_sure_21 ?_
    refine ol_istore_n hX (pc := 24) [some (.ref (a 2)), some (.int y1), some (.int (σ.1 2 12))] dX2_sure_24 rfl (by decide) rfl rfl ?_
    exact wX2_sure_L25 hX σ β ol_fuel y1 (σ.1 2 12) h
  · have h := ol_ifn c5 h
    refine ol_bipush hX (pc := 17) (-2) dX2_sure_17 ol_k_bipush_m2 ?_
    have h := ol_of_some h
    subst h
    exact ol_iret hX (pc := 19) dX2_sure_19 rfl ⟨Nat.le_refl _, Nat.le_refl _⟩
set_option maxHeartbeats 4000000 in
theorem wX2_edges_L5 {X : ol_Cx} {V : ol_Gh} {A : Nat → Prop} {a : Nat → Nat} {r0 : Option Nat} {ext : va_W} {z : Int32} (hX : ol_CX X V A cX2_edges RX2 "edges" 5 (some .int)) (σ : ol_Xm) (x1 : Int32) (x2 : Int32)    : ∀ (n : Nat), ∀ (v3 : Int32) (v4 : Int32), oX2_edges_L5 σ x1 x2 n v3 v4 = some z → ol_G X V A false (ol_Pr (some (.int z))) ({ frames := 1, cells := 0, slots := 0, locals := 21 } : Room) 5 0 0 (ol_Xc V a r0 σ ++ ext) 5 [some (.ref (a 2)), some (.int x1), some (.int x2), some (.int v3), some (.int v4)] [] := by
  intro n
  induction n with
  | zero =>
    intro v3 v4 h
    exact ol_no h
  | succ n ih =>
    intro v3 v4 h
    rw [oX2_edges_L5] at h
    refine ol_iload hX (pc := 5) dX2_edges_5 rfl ?_
    refine ol_aload_n hX (pc := 7) dX2_edges_7 rfl rfl ?_
    refine ol_xg_P_12 hX (pc := 8) q179 dX2_edges_8 ?_
    refine ol_icmp_gt hX (pc := 11) 62 dX2_edges_11 (by decide) (fun c8 => ?_) (fun c8 => ?_)
    · have h := ol_ifp c8 h
      refine ol_iload_n hX (pc := 62) dX2_edges_62 rfl rfl ?_
      have h := ol_of_some h
      subst h
      exact ol_iret hX (pc := 63) dX2_edges_63 rfl ⟨Nat.le_refl _, Nat.le_refl _⟩
    · have h := ol_ifn c8 h
      refine ol_aload_n hX (pc := 14) dX2_edges_14 rfl rfl ?_
      refine ol_xg_P_2 hX (pc := 15) q165 dX2_edges_15 ?_
      refine ol_sipush hX (pc := 18) 401 dX2_edges_18 ol_k_sipush_401 ?_
      refine ol_iload_n hX (pc := 21) dX2_edges_21 rfl rfl ?_
      refine ol_imul hX (pc := 22) dX2_edges_22 ?_
      refine ol_iload hX (pc := 23) dX2_edges_23 rfl ?_
      refine ol_iadd hX (pc := 25) dX2_edges_25 ?_
      obtain ⟨g1, h⟩ := ol_of_og h
      refine ol_xl_5 hX (pc := 26) dX2_edges_26 rfl (ol_in_vp g1) ?_
      refine ol_iload_n hX (pc := 27) dX2_edges_27 rfl rfl ?_
      obtain ⟨y2, e3, h⟩ := ol_of_bd h
      refine ol_cSNr (As := [.int (σ.1 5 (((401 * x1) + v4).toNatClampNeg)), .int x2]) hX (pc := 28) (wX1_has V (ol_Xc V a r0 σ ++ ext) (σ.1 5 (((401 * x1) + v4).toNatClampNeg)) x2 y2 e3) q1595 q1596 q102 q1597 dcX1_has ⟨rfl, rfl⟩ ol_rr_X2_edges_X1_has (fun _ h => h) ⟨Nat.le_refl _, Nat.le_refl _⟩ (Nat.le_of_ble_eq_true rfl) dX2_edges_28 rfl ?_
      refine ol_aload_n hX (pc := 31) dX2_edges_31 rfl rfl ?_
      refine ol_xg_P_2 hX (pc := 32) q165 dX2_edges_32 ?_
      refine ol_sipush hX (pc := 35) 401 dX2_edges_35 ol_k_sipush_401 ?_
      refine ol_iload_n hX (pc := 38) dX2_edges_38 rfl rfl ?_
      refine ol_imul hX (pc := 39) dX2_edges_39 ?_
      refine ol_iload hX (pc := 40) dX2_edges_40 rfl ?_
      refine ol_iadd hX (pc := 42) dX2_edges_42 ?_
      refine ol_iconst hX (pc := 43) 1 dX2_edges_43 ol_k_iconst_1 ?_
      refine ol_isub hX (pc := 44) dX2_edges_44 ?_
      obtain ⟨g4, h⟩ := ol_of_og h
      refine ol_xl_5 hX (pc := 45) dX2_edges_45 rfl (ol_in_vp g4) ?_
      refine ol_iload_n hX (pc := 46) dX2_edges_46 rfl rfl ?_
      obtain ⟨y5, e6, h⟩ := ol_of_bd h
      refine ol_cSNr (As := [.int (σ.1 5 ((((401 * x1) + v4) - 1).toNatClampNeg)), .int x2]) hX (pc := 47) (wX1_has V (ol_Xc V a r0 σ ++ ext) (σ.1 5 ((((401 * x1) + v4) - 1).toNatClampNeg)) x2 y5 e6) q1595 q1596 q102 q1597 dcX1_has ⟨rfl, rfl⟩ ol_rr_X2_edges_X1_has (fun _ h => h) ⟨Nat.le_refl _, Nat.le_refl _⟩ (Nat.le_of_ble_eq_true rfl) dX2_edges_47 rfl ?_
      refine ol_icmp_eq hX (pc := 50) 56 dX2_edges_50 (by decide) (fun c7 => ?_) (fun c7 => ?_)
      · have h := ol_ifp c7 h
        refine ol_iinc hX (pc := 56) (v4 + 1) [some (.ref (a 2)), some (.int x1), some (.int x2), some (.int v3), some (.int (v4 + 1))] dX2_edges_56 rfl (ol_k_iinc_1 _) (by decide) rfl rfl ?_
        refine ol_goto hX (pc := 59) 5 dX2_edges_59 (by decide) ?_
        exact ih v3 (v4 + 1) h
      · have h := ol_ifn c7 h
        refine ol_iinc hX (pc := 53) (v3 + 1) [some (.ref (a 2)), some (.int x1), some (.int x2), some (.int (v3 + 1)), some (.int v4)] dX2_edges_53 rfl (ol_k_iinc_1 _) (by decide) rfl rfl ?_
        refine ol_iinc hX (pc := 56) (v4 + 1) [some (.ref (a 2)), some (.int x1), some (.int x2), some (.int (v3 + 1)), some (.int (v4 + 1))] dX2_edges_56 rfl (ol_k_iinc_1 _) (by decide) rfl rfl ?_
        refine ol_goto hX (pc := 59) 5 dX2_edges_59 (by decide) ?_
        exact ih (v3 + 1) (v4 + 1) h
set_option maxHeartbeats 4000000 in
theorem wX2_edges (V : ol_Gh) (a : Nat → Nat) (r0 : Option Nat) (ext : va_W) (σ : ol_Xm) (x1 : Int32) (x2 : Int32)  (z : Int32) (h : oX2_edges σ x1 x2 = some z) : ol_Mt V yX2_edges cX2_edges 5 (some .int) ({ frames := 1, cells := 0, slots := 0, locals := 21 } : Room) false [.ref (a 2), .int x1, .int x2] (ol_Xc V a r0 σ ++ ext) (ol_Pr (some (.int z))) := by
  refine ol_MtOf (L0 := [some (.ref (a 2)), some (.int x1), some (.int x2), none, none]) (by decide) (Nat.le_of_ble_eq_true rfl) rfl (fun X A hX => ?_)
  unfold oX2_edges at h
  refine ol_iconst hX (pc := 0) 0 dX2_edges_0 ol_k_iconst_0 ?_
  refine ol_istore_n hX (pc := 1) [some (.ref (a 2)), some (.int x1), some (.int x2), some (.int 0), none] dX2_edges_1 rfl (by decide) rfl rfl ?_
  refine ol_iconst hX (pc := 2) 1 dX2_edges_2 ol_k_iconst_1 ?_
  refine ol_istore hX (pc := 3) [some (.ref (a 2)), some (.int x1), some (.int x2), some (.int 0), some (.int 1)] dX2_edges_3 (by decide) rfl rfl ?_
  exact wX2_edges_L5 hX σ x1 x2 ol_fuel 0 1 h
set_option maxHeartbeats 4000000 in
theorem wX2_isFaulty_L2 {X : ol_Cx} {V : ol_Gh} {A : Nat → Prop} {a : Nat → Nat} {r0 : Option Nat} {ext : va_W} {g : Nat → Nat → Nat} {z : Int32} (hX : ol_CX X V A cX2_isFaulty RX2 "isFaulty" 3 (some .boolean)) (σ : ol_Xm) (β : ol_Bd) (x1 : Int32)    : ∀ (n : Nat), ∀ (v2 : Int32), oX2_isFaulty_L2 σ β (g 0 0) x1 n v2 = some z → ol_G X V A false (ol_Pr (some (.int z))) ({ frames := 2, cells := 0, slots := 0, locals := 40 } : Room) 3 0 0 (ol_Xc V a r0 σ ++ (ol_WB V g β ++ ext)) 2 [some (.ref (a 2)), some (.int x1), some (.int v2)] [] := by
  intro n
  induction n with
  | zero =>
    intro v2 h
    exact ol_no h
  | succ n ih =>
    intro v2 h
    rw [oX2_isFaulty_L2] at h
    refine ol_iload_n hX (pc := 2) dX2_isFaulty_2 rfl rfl ?_
    refine ol_aload_n hX (pc := 3) dX2_isFaulty_3 rfl rfl ?_
    obtain ⟨g1, h⟩ := ol_of_og h
    refine ol_xg_P_7 hX (pc := 4) q173 (of_decide_eq_true g1) dX2_isFaulty_4 ?_
    refine ol_cVr (As := []) hX (pc := 7) (wX6_many V g β _ ol_hB_X) lkX2_67 dcX6_many ⟨rfl, rfl⟩ ⟨(Nat.le_of_ble_eq_true rfl), (Nat.le_of_ble_eq_true rfl)⟩ 37 rfl rfl (fun _ h => h) ⟨Nat.le_refl _, Nat.le_refl _⟩ (Nat.le_of_ble_eq_true rfl) dX2_isFaulty_7 rfl ?_
    refine ol_icmp_ge hX (pc := 10) 41 dX2_isFaulty_10 (by decide) (fun c6 => ?_) (fun c6 => ?_)
    · have h := ol_ifp c6 h
      refine ol_iconst hX (pc := 41) 0 dX2_isFaulty_41 ol_k_iconst_0 ?_
      have h := ol_of_some h
      subst h
      exact ol_zret hX (pc := 42) dX2_isFaulty_42 (by rfl) rfl ⟨Nat.le_refl _, Nat.le_refl _⟩
    · have h := ol_ifn c6 h
      refine ol_aload_n hX (pc := 13) dX2_isFaulty_13 rfl rfl ?_
      refine ol_xg_P_3 hX (pc := 14) q167 dX2_isFaulty_14 ?_
      refine ol_sipush hX (pc := 17) 401 dX2_isFaulty_17 ol_k_sipush_401 ?_
      refine ol_iload_n hX (pc := 20) dX2_isFaulty_20 rfl rfl ?_
      refine ol_imul hX (pc := 21) dX2_isFaulty_21 ?_
      refine ol_iload_n hX (pc := 22) dX2_isFaulty_22 rfl rfl ?_
      refine ol_iadd hX (pc := 23) dX2_isFaulty_23 ?_
      obtain ⟨g2, h⟩ := ol_of_og h
      refine ol_xl_6 hX (pc := 24) dX2_isFaulty_24 rfl (ol_in_vp g2) ?_
      obtain ⟨y3, e4, h⟩ := ol_of_bd h
      refine ol_cSr (As := [.int (σ.1 6 (((401 * v2) + x1).toNatClampNeg))]) hX (pc := 25) (wJ14_bitCount V (ol_Xc V a r0 σ ++ (ol_WB V g β ++ ext)) (σ.1 6 (((401 * v2) + x1).toNatClampNeg)) y3 e4) lkX2_120 dcJ14_bitCount ⟨rfl, rfl⟩ ol_rr_X2_isFaulty_J14_bitCount (fun _ h => h) ⟨Nat.le_refl _, Nat.le_refl _⟩ (Nat.le_of_ble_eq_true rfl) dX2_isFaulty_25 rfl ?_
      refine ol_iconst hX (pc := 28) 2 dX2_isFaulty_28 ol_k_iconst_2 ?_
      refine ol_irem hX (pc := 29) dX2_isFaulty_29 (by decide) ?_
      refine ol_if_ne hX (pc := 30) 35 dX2_isFaulty_30 (by decide) (fun c5 => ?_) (fun c5 => ?_)
      · have h := ol_ifn c5 h
        refine ol_iinc hX (pc := 35) (v2 + 1) [some (.ref (a 2)), some (.int x1), some (.int (v2 + 1))] dX2_isFaulty_35 rfl (ol_k_iinc_1 _) (by decide) rfl rfl ?_
        refine ol_goto hX (pc := 38) 2 dX2_isFaulty_38 (by decide) ?_
        exact ih (v2 + 1) h
      · have h := ol_ifp c5 h
        refine ol_iconst hX (pc := 33) 1 dX2_isFaulty_33 ol_k_iconst_1 ?_
        have h := ol_of_some h
        subst h
        exact ol_zret hX (pc := 34) dX2_isFaulty_34 (by rfl) rfl ⟨Nat.le_refl _, Nat.le_refl _⟩
set_option maxHeartbeats 4000000 in
theorem wX2_isFaulty (V : ol_Gh) (a : Nat → Nat) (r0 : Option Nat) (ext : va_W) (g : Nat → Nat → Nat) (σ : ol_Xm) (β : ol_Bd) (x1 : Int32)  (z : Int32) (h : oX2_isFaulty σ β (g 0 0) x1 = some z) : ol_Mt V yX2_isFaulty cX2_isFaulty 3 (some .boolean) ({ frames := 2, cells := 0, slots := 0, locals := 40 } : Room) false [.ref (a 2), .int x1] (ol_Xc V a r0 σ ++ (ol_WB V g β ++ ext)) (ol_Pr (some (.int z))) := by
  refine ol_MtOf (L0 := [some (.ref (a 2)), some (.int x1), none]) (by decide) (Nat.le_of_ble_eq_true rfl) rfl (fun X A hX => ?_)
  unfold oX2_isFaulty at h
  refine ol_iconst hX (pc := 0) 0 dX2_isFaulty_0 ol_k_iconst_0 ?_
  refine ol_istore_n hX (pc := 1) [some (.ref (a 2)), some (.int x1), some (.int 0)] dX2_isFaulty_1 rfl (by decide) rfl rfl ?_
  exact wX2_isFaulty_L2 hX σ β x1 ol_fuel 0 h
set_option maxHeartbeats 4000000 in
theorem wX2_goes_2_L295 {X : ol_Cx} {V : ol_Gh} {A : Nat → Prop} {a : Nat → Nat} {r0 : Option Nat} {ext : va_W} {g : Nat → Nat → Nat} {wa : Nat} {z : ol_Xm} (hX : ol_CX X V A cX2_goes_2 RX2 "goes" 9 (some (.object "OpenLines$Pass"))) (β : ol_Bd) (lr : Nat) (wf : ol_Xm → Nat → Option Int32) (x2 : Int32) (x5 : Int32) (x6 : Int32) (hlr : ol_isr lr) (hw : ol_WordRow V a r0 g β ext wf wa) (k214 : Int32 → ol_Xm → Option ol_Xm) (hk214 : ∀ (v7 : Int32) (σ : ol_Xm), k214 v7 σ = some z → ol_G X V A true (ol_Pw (some (.ref (a 2))) (ol_Xc V a r0 z ++ (ol_WB V g β ++ ext))) ({ frames := 12, cells := 0, slots := 0, locals := 600 } : Room) 9 0 0 (ol_Xc V a r0 σ ++ (ol_WB V g β ++ ext)) 214 [some (.ref (a 2)), some (.ref (g 0 0)), none, none, none, some (.int x5), none, some (.int v7), none] [])  : ∀ (n : Nat), ∀ (v7 : Int32) (v8 : Int32) (σ : ol_Xm), oX2_goes_2_L295 β (g 0 0) lr wf x2 x5 x6 k214 n v7 v8 σ = some z → ol_G X V A true (ol_Pw (some (.ref (a 2))) (ol_Xc V a r0 z ++ (ol_WB V g β ++ ext))) ({ frames := 12, cells := 0, slots := 0, locals := 600 } : Room) 9 0 0 (ol_Xc V a r0 σ ++ (ol_WB V g β ++ ext)) 295 [some (.ref (a 2)), some (.ref (g 0 0)), none, none, none, some (.int x5), none, some (.int v7), some (.int v8)] [] := by
  intro n
  induction n with
  | zero =>
    intro v7 v8 σ h
    exact ol_no h
  | succ n ih =>
    intro v7 v8 σ h
    rw [oX2_goes_2_L295] at h
    refine ol_iload hX (pc := 295) dX2_goes_2_295 rfl ?_
    refine ol_aload_n hX (pc := 297) dX2_goes_2_297 rfl rfl ?_
    refine ol_cVr (As := []) hX (pc := 298) (wX6_many V g β _ ol_hB_X) lkX2_67 dcX6_many ⟨rfl, rfl⟩ ⟨(Nat.le_of_ble_eq_true rfl), (Nat.le_of_ble_eq_true rfl)⟩ 37 rfl rfl (fun _ h => h) ⟨Nat.le_refl _, Nat.le_refl _⟩ (Nat.le_of_ble_eq_true rfl) dX2_goes_2_298 rfl ?_
    refine ol_icmp_ge hX (pc := 301) 318 dX2_goes_2_301 (by decide) (fun c3 => ?_) (fun c3 => ?_)
    · have h := ol_ifp c3 h
      refine ol_iinc hX (pc := 318) (v7 + 1) [some (.ref (a 2)), some (.ref (g 0 0)), none, none, none, some (.int x5), none, some (.int (v7 + 1)), some (.int v8)] dX2_goes_2_318 rfl (ol_k_iinc_1 _) (by decide) rfl rfl ?_
      refine ol_goto hX (pc := 321) 214 dX2_goes_2_321 (by decide) ?_
      refine ol_Gdrop 8 ?_
      exact hk214 (v7 + 1) σ h
    · have h := ol_ifn c3 h
      refine ol_aload_n hX (pc := 304) dX2_goes_2_304 rfl rfl ?_
      refine ol_iload hX (pc := 305) dX2_goes_2_305 rfl ?_
      refine ol_iload hX (pc := 307) dX2_goes_2_307 rfl ?_
      obtain ⟨y1, e2, h⟩ := ol_of_bd h
      refine ol_cVw (As := [.int v8, .int v7]) hX (pc := 309) (wX2_sees V a r0 ext g σ β v8 v7 y1 e2) lkX2_93 dcX2_sees ol_rr_X2_goes_2_X2_sees 2 rfl rfl ⟨Nat.le_refl _, Nat.le_refl _⟩ (Nat.le_of_ble_eq_true rfl) dX2_goes_2_309 rfl ?_
      refine ol_iinc hX (pc := 312) (v8 + 1) [some (.ref (a 2)), some (.ref (g 0 0)), none, none, none, some (.int x5), none, some (.int v7), some (.int (v8 + 1))] dX2_goes_2_312 rfl (ol_k_iinc_1 _) (by decide) rfl rfl ?_
      refine ol_goto hX (pc := 315) 295 dX2_goes_2_315 (by decide) ?_
      exact ih v7 (v8 + 1) y1 h
set_option maxHeartbeats 4000000 in
theorem wX2_goes_2_L264 {X : ol_Cx} {V : ol_Gh} {A : Nat → Prop} {a : Nat → Nat} {r0 : Option Nat} {ext : va_W} {g : Nat → Nat → Nat} {wa : Nat} {z : ol_Xm} (hX : ol_CX X V A cX2_goes_2 RX2 "goes" 9 (some (.object "OpenLines$Pass"))) (β : ol_Bd) (lr : Nat) (wf : ol_Xm → Nat → Option Int32) (x2 : Int32) (x5 : Int32) (x6 : Int32) (hlr : ol_isr lr) (hw : ol_WordRow V a r0 g β ext wf wa) (k214 : Int32 → ol_Xm → Option ol_Xm) (hk214 : ∀ (v7 : Int32) (σ : ol_Xm), k214 v7 σ = some z → ol_G X V A true (ol_Pw (some (.ref (a 2))) (ol_Xc V a r0 z ++ (ol_WB V g β ++ ext))) ({ frames := 12, cells := 0, slots := 0, locals := 600 } : Room) 9 0 0 (ol_Xc V a r0 σ ++ (ol_WB V g β ++ ext)) 214 [some (.ref (a 2)), some (.ref (g 0 0)), none, none, none, some (.int x5), none, some (.int v7), none] [])  : ∀ (n : Nat), ∀ (v7 : Int32) (v8 : Int32) (σ : ol_Xm), oX2_goes_2_L264 β (g 0 0) lr wf x2 x5 x6 k214 n v7 v8 σ = some z → ol_G X V A true (ol_Pw (some (.ref (a 2))) (ol_Xc V a r0 z ++ (ol_WB V g β ++ ext))) ({ frames := 12, cells := 0, slots := 0, locals := 600 } : Room) 9 0 0 (ol_Xc V a r0 σ ++ (ol_WB V g β ++ ext)) 264 [some (.ref (a 2)), some (.ref (g 0 0)), none, none, none, some (.int x5), none, some (.int v7), some (.int v8)] [] := by
  intro n
  induction n with
  | zero =>
    intro v7 v8 σ h
    exact ol_no h
  | succ n ih =>
    intro v7 v8 σ h
    rw [oX2_goes_2_L264] at h
    refine ol_iload hX (pc := 264) dX2_goes_2_264 rfl ?_
    refine ol_aload_n hX (pc := 266) dX2_goes_2_266 rfl rfl ?_
    refine ol_cVr (As := []) hX (pc := 267) (wX6_many V g β _ ol_hB_X) lkX2_67 dcX6_many ⟨rfl, rfl⟩ ⟨(Nat.le_of_ble_eq_true rfl), (Nat.le_of_ble_eq_true rfl)⟩ 37 rfl rfl (fun _ h => h) ⟨Nat.le_refl _, Nat.le_refl _⟩ (Nat.le_of_ble_eq_true rfl) dX2_goes_2_267 rfl ?_
    refine ol_icmp_ge hX (pc := 270) 292 dX2_goes_2_270 (by decide) (fun c4 => ?_) (fun c4 => ?_)
    · have h := ol_ifp c4 h
      refine ol_iconst hX (pc := 292) 0 dX2_goes_2_292 ol_k_iconst_0 ?_
      refine ol_istore hX (pc := 293) [some (.ref (a 2)), some (.ref (g 0 0)), none, none, none, some (.int x5), none, some (.int v7), some (.int 0)] dX2_goes_2_293 (by decide) rfl rfl ?_
      exact wX2_goes_2_L295 hX β lr wf x2 x5 x6 hlr hw k214 hk214 ol_fuel v7 0 σ h
    · have h := ol_ifn c4 h
      refine ol_iload hX (pc := 273) dX2_goes_2_273 rfl ?_
      refine ol_if_le hX (pc := 275) 292 dX2_goes_2_275 (by decide) (fun c3 => ?_) (fun c3 => ?_)
      · have h := ol_ifp c3 h
        refine ol_iconst hX (pc := 292) 0 dX2_goes_2_292 ol_k_iconst_0 ?_
        refine ol_istore hX (pc := 293) [some (.ref (a 2)), some (.ref (g 0 0)), none, none, none, some (.int x5), none, some (.int v7), some (.int 0)] dX2_goes_2_293 (by decide) rfl rfl ?_
        exact wX2_goes_2_L295 hX β lr wf x2 x5 x6 hlr hw k214 hk214 ol_fuel v7 0 σ h
      · have h := ol_ifn c3 h
        refine ol_aload_n hX (pc := 278) dX2_goes_2_278 rfl rfl ?_
        refine ol_iload hX (pc := 279) dX2_goes_2_279 rfl ?_
        refine ol_iload hX (pc := 281) dX2_goes_2_281 rfl ?_
        obtain ⟨y1, e2, h⟩ := ol_of_bd h
        refine ol_cVw (As := [.int v8, .int v7]) hX (pc := 283) (wX2_letsGo V a r0 ext g σ β v8 v7 y1 e2) lkX2_89 dcX2_letsGo ol_rr_X2_goes_2_X2_letsGo 2 rfl rfl ⟨Nat.le_refl _, Nat.le_refl _⟩ (Nat.le_of_ble_eq_true rfl) dX2_goes_2_283 rfl ?_
        refine ol_iinc hX (pc := 286) (v8 + 1) [some (.ref (a 2)), some (.ref (g 0 0)), none, none, none, some (.int x5), none, some (.int v7), some (.int (v8 + 1))] dX2_goes_2_286 rfl (ol_k_iinc_1 _) (by decide) rfl rfl ?_
        refine ol_goto hX (pc := 289) 264 dX2_goes_2_289 (by decide) ?_
        exact ih v7 (v8 + 1) y1 h
set_option maxHeartbeats 4000000 in
theorem wX2_goes_2_L224 {X : ol_Cx} {V : ol_Gh} {A : Nat → Prop} {a : Nat → Nat} {r0 : Option Nat} {ext : va_W} {g : Nat → Nat → Nat} {wa : Nat} {z : ol_Xm} (hX : ol_CX X V A cX2_goes_2 RX2 "goes" 9 (some (.object "OpenLines$Pass"))) (β : ol_Bd) (lr : Nat) (wf : ol_Xm → Nat → Option Int32) (x2 : Int32) (x5 : Int32) (x6 : Int32) (hlr : ol_isr lr) (hw : ol_WordRow V a r0 g β ext wf wa) (k214 : Int32 → ol_Xm → Option ol_Xm) (hk214 : ∀ (v7 : Int32) (σ : ol_Xm), k214 v7 σ = some z → ol_G X V A true (ol_Pw (some (.ref (a 2))) (ol_Xc V a r0 z ++ (ol_WB V g β ++ ext))) ({ frames := 12, cells := 0, slots := 0, locals := 600 } : Room) 9 0 0 (ol_Xc V a r0 σ ++ (ol_WB V g β ++ ext)) 214 [some (.ref (a 2)), some (.ref (g 0 0)), none, none, none, some (.int x5), none, some (.int v7), none] [])  : ∀ (n : Nat), ∀ (v7 : Int32) (v8 : Int32) (σ : ol_Xm), oX2_goes_2_L224 β (g 0 0) lr wf x2 x5 x6 k214 n v7 v8 σ = some z → ol_G X V A true (ol_Pw (some (.ref (a 2))) (ol_Xc V a r0 z ++ (ol_WB V g β ++ ext))) ({ frames := 12, cells := 0, slots := 0, locals := 600 } : Room) 9 0 0 (ol_Xc V a r0 σ ++ (ol_WB V g β ++ ext)) 224 [some (.ref (a 2)), some (.ref (g 0 0)), none, none, none, some (.int x5), none, some (.int v7), some (.int v8)] [] := by
  intro n
  induction n with
  | zero =>
    intro v7 v8 σ h
    exact ol_no h
  | succ n ih =>
    intro v7 v8 σ h
    rw [oX2_goes_2_L224] at h
    refine ol_iload hX (pc := 224) dX2_goes_2_224 rfl ?_
    refine ol_aload_n hX (pc := 226) dX2_goes_2_226 rfl rfl ?_
    refine ol_cVr (As := []) hX (pc := 227) (wX6_many V g β _ ol_hB_X) lkX2_67 dcX6_many ⟨rfl, rfl⟩ ⟨(Nat.le_of_ble_eq_true rfl), (Nat.le_of_ble_eq_true rfl)⟩ 37 rfl rfl (fun _ h => h) ⟨Nat.le_refl _, Nat.le_refl _⟩ (Nat.le_of_ble_eq_true rfl) dX2_goes_2_227 rfl ?_
    refine ol_icmp_ge hX (pc := 230) 261 dX2_goes_2_230 (by decide) (fun c4 => ?_) (fun c4 => ?_)
    · have h := ol_ifp c4 h
      refine ol_iconst hX (pc := 261) 0 dX2_goes_2_261 ol_k_iconst_0 ?_
      refine ol_istore hX (pc := 262) [some (.ref (a 2)), some (.ref (g 0 0)), none, none, none, some (.int x5), none, some (.int v7), some (.int 0)] dX2_goes_2_262 (by decide) rfl rfl ?_
      exact wX2_goes_2_L264 hX β lr wf x2 x5 x6 hlr hw k214 hk214 ol_fuel v7 0 σ h
    · have h := ol_ifn c4 h
      refine ol_aload_n hX (pc := 233) dX2_goes_2_233 rfl rfl ?_
      refine ol_xg_P_1 hX (pc := 234) q163 dX2_goes_2_234 ?_
      refine ol_sipush hX (pc := 237) 401 dX2_goes_2_237 ol_k_sipush_401 ?_
      refine ol_iload hX (pc := 240) dX2_goes_2_240 rfl ?_
      refine ol_imul hX (pc := 242) dX2_goes_2_242 ?_
      refine ol_iload hX (pc := 243) dX2_goes_2_243 rfl ?_
      refine ol_iadd hX (pc := 245) dX2_goes_2_245 ?_
      refine ol_aload_n hX (pc := 246) dX2_goes_2_246 rfl rfl ?_
      refine ol_iload hX (pc := 247) dX2_goes_2_247 rfl ?_
      refine ol_iload hX (pc := 249) dX2_goes_2_249 rfl ?_
      obtain ⟨y1, e2, h⟩ := ol_of_bd h
      refine ol_cVr (As := [.int v8, .int v7]) hX (pc := 251) (wX2_drivenBy V a r0 ext g σ β v8 v7 y1 e2) lkX2_85 dcX2_drivenBy ⟨rfl, rfl⟩ ol_rr_X2_goes_2_X2_drivenBy 2 rfl rfl (fun _ h => h) ⟨Nat.le_refl _, Nat.le_refl _⟩ (Nat.le_of_ble_eq_true rfl) dX2_goes_2_251 rfl ?_
      obtain ⟨g3, h⟩ := ol_of_og h
      refine ol_xw_4 hX (pc := 254) dX2_goes_2_254 rfl (ol_in_vp g3) ?_
      refine ol_iinc hX (pc := 255) (v8 + 1) [some (.ref (a 2)), some (.ref (g 0 0)), none, none, none, some (.int x5), none, some (.int v7), some (.int (v8 + 1))] dX2_goes_2_255 rfl (ol_k_iinc_1 _) (by decide) rfl rfl ?_
      refine ol_goto hX (pc := 258) 224 dX2_goes_2_258 (by decide) ?_
      exact ih v7 (v8 + 1) (ol_xs σ 4 (((401 * v8) + v7).toNatClampNeg) y1) h
set_option maxHeartbeats 4000000 in
theorem wX2_goes_2_L214 {X : ol_Cx} {V : ol_Gh} {A : Nat → Prop} {a : Nat → Nat} {r0 : Option Nat} {ext : va_W} {g : Nat → Nat → Nat} {wa : Nat} {z : ol_Xm} (hX : ol_CX X V A cX2_goes_2 RX2 "goes" 9 (some (.object "OpenLines$Pass"))) (β : ol_Bd) (lr : Nat) (wf : ol_Xm → Nat → Option Int32) (x2 : Int32) (x5 : Int32) (x6 : Int32) (hlr : ol_isr lr) (hw : ol_WordRow V a r0 g β ext wf wa)   : ∀ (n : Nat), ∀ (v7 : Int32) (σ : ol_Xm), oX2_goes_2_L214 β (g 0 0) lr wf x2 x5 x6 n v7 σ = some z → ol_G X V A true (ol_Pw (some (.ref (a 2))) (ol_Xc V a r0 z ++ (ol_WB V g β ++ ext))) ({ frames := 12, cells := 0, slots := 0, locals := 600 } : Room) 9 0 0 (ol_Xc V a r0 σ ++ (ol_WB V g β ++ ext)) 214 [some (.ref (a 2)), some (.ref (g 0 0)), none, none, none, some (.int x5), none, some (.int v7), none] [] := by
  intro n
  induction n with
  | zero =>
    intro v7 σ h
    exact ol_no h
  | succ n ih =>
    intro v7 σ h
    rw [oX2_goes_2_L214] at h
    refine ol_iload hX (pc := 214) dX2_goes_2_214 rfl ?_
    refine ol_iload hX (pc := 216) dX2_goes_2_216 rfl ?_
    refine ol_icmp_gt hX (pc := 218) 324 dX2_goes_2_218 (by decide) (fun c1 => ?_) (fun c1 => ?_)
    · have h := ol_ifp c1 h
      refine ol_aload_n hX (pc := 324) dX2_goes_2_324 rfl rfl ?_
      have h := ol_of_some h
      subst h
      exact ol_aret hX (pc := 325) (Or.inl ⟨_, rfl⟩) (Or.inr ⟨_, rfl⟩) dX2_goes_2_325 ⟨rfl, rfl⟩ ⟨Nat.le_refl _, Nat.le_refl _⟩
    · have h := ol_ifn c1 h
      refine ol_iconst hX (pc := 221) 0 dX2_goes_2_221 ol_k_iconst_0 ?_
      refine ol_istore hX (pc := 222) [some (.ref (a 2)), some (.ref (g 0 0)), none, none, none, some (.int x5), none, some (.int v7), some (.int 0)] dX2_goes_2_222 (by decide) rfl rfl ?_
      exact wX2_goes_2_L224 hX β lr wf x2 x5 x6 hlr hw (oX2_goes_2_L214 β (g 0 0) lr wf x2 x5 x6 n) ih ol_fuel v7 0 σ h
set_option maxHeartbeats 4000000 in
theorem wX2_goes_2_L176 {X : ol_Cx} {V : ol_Gh} {A : Nat → Prop} {a : Nat → Nat} {r0 : Option Nat} {ext : va_W} {g : Nat → Nat → Nat} {wa : Nat} {z : ol_Xm} (hX : ol_CX X V A cX2_goes_2 RX2 "goes" 9 (some (.object "OpenLines$Pass"))) (β : ol_Bd) (lr : Nat) (wf : ol_Xm → Nat → Option Int32) (x2 : Int32) (x5 : Int32) (x6 : Int32) (hlr : ol_isr lr) (hw : ol_WordRow V a r0 g β ext wf wa) (k100 : Int32 → ol_Xm → Option ol_Xm) (hk100 : ∀ (v7 : Int32) (σ : ol_Xm), k100 v7 σ = some z → ol_G X V A true (ol_Pw (some (.ref (a 2))) (ol_Xc V a r0 z ++ (ol_WB V g β ++ ext))) ({ frames := 12, cells := 0, slots := 0, locals := 600 } : Room) 9 0 0 (ol_Xc V a r0 σ ++ (ol_WB V g β ++ ext)) 100 [some (.ref (a 2)), some (.ref (g 0 0)), some (.int x2), some (.ref wa), none, some (.int x5), none, some (.int v7), none] [])  : ∀ (n : Nat), ∀ (v7 : Int32) (v8 : Int32) (σ : ol_Xm), oX2_goes_2_L176 β (g 0 0) lr wf x2 x5 x6 k100 n v7 v8 σ = some z → ol_G X V A true (ol_Pw (some (.ref (a 2))) (ol_Xc V a r0 z ++ (ol_WB V g β ++ ext))) ({ frames := 12, cells := 0, slots := 0, locals := 600 } : Room) 9 0 0 (ol_Xc V a r0 σ ++ (ol_WB V g β ++ ext)) 176 [some (.ref (a 2)), some (.ref (g 0 0)), some (.int x2), some (.ref wa), none, some (.int x5), none, some (.int v7), some (.int v8)] [] := by
  intro n
  induction n with
  | zero =>
    intro v7 v8 σ h
    exact ol_no h
  | succ n ih =>
    intro v7 v8 σ h
    rw [oX2_goes_2_L176] at h
    refine ol_iload hX (pc := 176) dX2_goes_2_176 rfl ?_
    refine ol_sipush hX (pc := 178) 401 dX2_goes_2_178 ol_k_sipush_401 ?_
    refine ol_icmp_ge hX (pc := 181) 205 dX2_goes_2_181 (by decide) (fun c2 => ?_) (fun c2 => ?_)
    · have h := ol_ifp c2 h
      refine ol_iinc hX (pc := 205) (v7 + 1) [some (.ref (a 2)), some (.ref (g 0 0)), some (.int x2), some (.ref wa), none, some (.int x5), none, some (.int (v7 + 1)), some (.int v8)] dX2_goes_2_205 rfl (ol_k_iinc_1 _) (by decide) rfl rfl ?_
      refine ol_goto hX (pc := 208) 100 dX2_goes_2_208 (by decide) ?_
      refine ol_Gdrop 8 ?_
      exact hk100 (v7 + 1) σ h
    · have h := ol_ifn c2 h
      refine ol_aload_n hX (pc := 184) dX2_goes_2_184 rfl rfl ?_
      refine ol_xg_P_5 hX (pc := 185) q171 dX2_goes_2_185 ?_
      refine ol_sipush hX (pc := 188) 401 dX2_goes_2_188 ol_k_sipush_401 ?_
      refine ol_iload hX (pc := 191) dX2_goes_2_191 rfl ?_
      refine ol_imul hX (pc := 193) dX2_goes_2_193 ?_
      refine ol_iload hX (pc := 194) dX2_goes_2_194 rfl ?_
      refine ol_iadd hX (pc := 196) dX2_goes_2_196 ?_
      refine ol_iconst hX (pc := 197) 0 dX2_goes_2_197 ol_k_iconst_0 ?_
      obtain ⟨g1, h⟩ := ol_of_og h
      refine ol_xw_8 hX (pc := 198) dX2_goes_2_198 rfl (ol_in_vp g1) ?_
      refine ol_iinc hX (pc := 199) (v8 + 1) [some (.ref (a 2)), some (.ref (g 0 0)), some (.int x2), some (.ref wa), none, some (.int x5), none, some (.int v7), some (.int (v8 + 1))] dX2_goes_2_199 rfl (ol_k_iinc_1 _) (by decide) rfl rfl ?_
      refine ol_goto hX (pc := 202) 176 dX2_goes_2_202 (by decide) ?_
      exact ih v7 (v8 + 1) (ol_xs σ 8 (((401 * v7) + v8).toNatClampNeg) 0) h
set_option maxHeartbeats 4000000 in
theorem wX2_goes_2_L144 {X : ol_Cx} {V : ol_Gh} {A : Nat → Prop} {a : Nat → Nat} {r0 : Option Nat} {ext : va_W} {g : Nat → Nat → Nat} {wa : Nat} {z : ol_Xm} (hX : ol_CX X V A cX2_goes_2 RX2 "goes" 9 (some (.object "OpenLines$Pass"))) (β : ol_Bd) (lr : Nat) (wf : ol_Xm → Nat → Option Int32) (x2 : Int32) (x5 : Int32) (x6 : Int32) (hlr : ol_isr lr) (hw : ol_WordRow V a r0 g β ext wf wa) (k100 : Int32 → ol_Xm → Option ol_Xm) (hk100 : ∀ (v7 : Int32) (σ : ol_Xm), k100 v7 σ = some z → ol_G X V A true (ol_Pw (some (.ref (a 2))) (ol_Xc V a r0 z ++ (ol_WB V g β ++ ext))) ({ frames := 12, cells := 0, slots := 0, locals := 600 } : Room) 9 0 0 (ol_Xc V a r0 σ ++ (ol_WB V g β ++ ext)) 100 [some (.ref (a 2)), some (.ref (g 0 0)), some (.int x2), some (.ref wa), none, some (.int x5), none, some (.int v7), none] [])  : ∀ (n : Nat), ∀ (v7 : Int32) (v8 : Int32) (σ : ol_Xm), oX2_goes_2_L144 β (g 0 0) lr wf x2 x5 x6 k100 n v7 v8 σ = some z → ol_G X V A true (ol_Pw (some (.ref (a 2))) (ol_Xc V a r0 z ++ (ol_WB V g β ++ ext))) ({ frames := 12, cells := 0, slots := 0, locals := 600 } : Room) 9 0 0 (ol_Xc V a r0 σ ++ (ol_WB V g β ++ ext)) 144 [some (.ref (a 2)), some (.ref (g 0 0)), some (.int x2), some (.ref wa), none, some (.int x5), none, some (.int v7), some (.int v8)] [] := by
  intro n
  induction n with
  | zero =>
    intro v7 v8 σ h
    exact ol_no h
  | succ n ih =>
    intro v7 v8 σ h
    rw [oX2_goes_2_L144] at h
    refine ol_iload hX (pc := 144) dX2_goes_2_144 rfl ?_
    refine ol_bipush hX (pc := 146) 6 dX2_goes_2_146 ol_k_bipush_6 ?_
    refine ol_icmp_ge hX (pc := 148) 173 dX2_goes_2_148 (by decide) (fun c2 => ?_) (fun c2 => ?_)
    · have h := ol_ifp c2 h
      refine ol_iconst hX (pc := 173) 0 dX2_goes_2_173 ol_k_iconst_0 ?_
      refine ol_istore hX (pc := 174) [some (.ref (a 2)), some (.ref (g 0 0)), some (.int x2), some (.ref wa), none, some (.int x5), none, some (.int v7), some (.int 0)] dX2_goes_2_174 (by decide) rfl rfl ?_
      exact wX2_goes_2_L176 hX β lr wf x2 x5 x6 hlr hw k100 hk100 ol_fuel v7 0 σ h
    · have h := ol_ifn c2 h
      refine ol_aload_n hX (pc := 151) dX2_goes_2_151 rfl rfl ?_
      refine ol_xg_P_6 hX (pc := 152) q172 dX2_goes_2_152 ?_
      refine ol_bipush hX (pc := 155) 6 dX2_goes_2_155 ol_k_bipush_6 ?_
      refine ol_iload hX (pc := 157) dX2_goes_2_157 rfl ?_
      refine ol_imul hX (pc := 159) dX2_goes_2_159 ?_
      refine ol_iload hX (pc := 160) dX2_goes_2_160 rfl ?_
      refine ol_iadd hX (pc := 162) dX2_goes_2_162 ?_
      refine ol_sipush hX (pc := 163) (-401) dX2_goes_2_163 ol_k_sipush_m401 ?_
      obtain ⟨g1, h⟩ := ol_of_og h
      refine ol_xw_9 hX (pc := 166) dX2_goes_2_166 rfl (ol_in_vp g1) ?_
      refine ol_iinc hX (pc := 167) (v8 + 1) [some (.ref (a 2)), some (.ref (g 0 0)), some (.int x2), some (.ref wa), none, some (.int x5), none, some (.int v7), some (.int (v8 + 1))] dX2_goes_2_167 rfl (ol_k_iinc_1 _) (by decide) rfl rfl ?_
      refine ol_goto hX (pc := 170) 144 dX2_goes_2_170 (by decide) ?_
      exact ih v7 (v8 + 1) (ol_xs σ 9 (((6 * v7) + v8).toNatClampNeg) (-401)) h
set_option maxHeartbeats 4000000 in
theorem wX2_goes_2_L100 {X : ol_Cx} {V : ol_Gh} {A : Nat → Prop} {a : Nat → Nat} {r0 : Option Nat} {ext : va_W} {g : Nat → Nat → Nat} {wa : Nat} {z : ol_Xm} (hX : ol_CX X V A cX2_goes_2 RX2 "goes" 9 (some (.object "OpenLines$Pass"))) (β : ol_Bd) (lr : Nat) (wf : ol_Xm → Nat → Option Int32) (x2 : Int32) (x5 : Int32) (x6 : Int32) (hlr : ol_isr lr) (hw : ol_WordRow V a r0 g β ext wf wa)   : ∀ (n : Nat), ∀ (v7 : Int32) (σ : ol_Xm), oX2_goes_2_L100 β (g 0 0) lr wf x2 x5 x6 n v7 σ = some z → ol_G X V A true (ol_Pw (some (.ref (a 2))) (ol_Xc V a r0 z ++ (ol_WB V g β ++ ext))) ({ frames := 12, cells := 0, slots := 0, locals := 600 } : Room) 9 0 0 (ol_Xc V a r0 σ ++ (ol_WB V g β ++ ext)) 100 [some (.ref (a 2)), some (.ref (g 0 0)), some (.int x2), some (.ref wa), none, some (.int x5), none, some (.int v7), none] [] := by
  intro n
  induction n with
  | zero =>
    intro v7 σ h
    exact ol_no h
  | succ n ih =>
    intro v7 σ h
    rw [oX2_goes_2_L100] at h
    refine ol_iload hX (pc := 100) dX2_goes_2_100 rfl ?_
    refine ol_aload_n hX (pc := 102) dX2_goes_2_102 rfl rfl ?_
    refine ol_cVr (As := []) hX (pc := 103) (wX6_many V g β _ ol_hB_X) lkX2_67 dcX6_many ⟨rfl, rfl⟩ ⟨(Nat.le_of_ble_eq_true rfl), (Nat.le_of_ble_eq_true rfl)⟩ 37 rfl rfl (fun _ h => h) ⟨Nat.le_refl _, Nat.le_refl _⟩ (Nat.le_of_ble_eq_true rfl) dX2_goes_2_103 rfl ?_
    refine ol_icmp_ge hX (pc := 106) 211 dX2_goes_2_106 (by decide) (fun c9 => ?_) (fun c9 => ?_)
    · have h := ol_ifp c9 h
      refine ol_iconst hX (pc := 211) 0 dX2_goes_2_211 ol_k_iconst_0 ?_
      refine ol_istore hX (pc := 212) [some (.ref (a 2)), some (.ref (g 0 0)), some (.int x2), some (.ref wa), none, some (.int x5), none, some (.int 0), none] dX2_goes_2_212 (by decide) rfl rfl ?_
      refine ol_Gdrop 2 ?_
      refine ol_Gdrop 3 ?_
      exact wX2_goes_2_L214 hX β lr wf x2 x5 x6 hlr hw ol_fuel 0 σ h
    · have h := ol_ifn c9 h
      refine ol_aload_n hX (pc := 109) dX2_goes_2_109 rfl rfl ?_
      refine ol_xg_P_0 hX (pc := 110) q162 dX2_goes_2_110 ?_
      refine ol_iload hX (pc := 113) dX2_goes_2_113 rfl ?_
      refine ol_iload_n hX (pc := 115) dX2_goes_2_115 rfl rfl ?_
      refine ol_iload hX (pc := 116) dX2_goes_2_116 rfl ?_
      obtain ⟨y1, e2, h⟩ := ol_of_bd h
      refine ol_cSNr (As := [.int x2, .int v7]) hX (pc := 118) (wX1_has V (ol_Xc V a r0 σ ++ (ol_WB V g β ++ ext)) x2 v7 y1 e2) q1595 q1596 q102 q1597 dcX1_has ⟨rfl, rfl⟩ ol_rr_X2_goes_2_X1_has (fun _ h => h) ⟨Nat.le_refl _, Nat.le_refl _⟩ (Nat.le_of_ble_eq_true rfl) dX2_goes_2_118 rfl ?_
      refine ol_if_eq hX (pc := 121) 139 dX2_goes_2_121 (by decide) (fun c8 => ?_) (fun c8 => ?_)
      · have h := ol_ifp c8 h
        refine ol_iconst hX (pc := 139) 0 dX2_goes_2_139 ol_k_iconst_0 ?_
        obtain ⟨g3, h⟩ := ol_of_og h
        refine ol_xw_3 hX (pc := 140) dX2_goes_2_140 rfl (ol_in_vp g3) ?_
        refine ol_iconst hX (pc := 141) 0 dX2_goes_2_141 ol_k_iconst_0 ?_
        refine ol_istore hX (pc := 142) [some (.ref (a 2)), some (.ref (g 0 0)), some (.int x2), some (.ref wa), none, some (.int x5), none, some (.int v7), some (.int 0)] dX2_goes_2_142 (by decide) rfl rfl ?_
        exact wX2_goes_2_L144 hX β lr wf x2 x5 x6 hlr hw (oX2_goes_2_L100 β (g 0 0) lr wf x2 x5 x6 n) ih ol_fuel v7 0 (ol_xs σ 3 v7.toNatClampNeg 0) h
      · have h := ol_ifn c8 h
        refine ol_aload_n hX (pc := 124) dX2_goes_2_124 rfl rfl ?_
        refine ol_aload_n hX (pc := 125) dX2_goes_2_125 rfl rfl ?_
        refine ol_iload hX (pc := 126) dX2_goes_2_126 rfl ?_
        obtain ⟨g4, h⟩ := ol_of_og h
        refine ol_cVr (As := [.int v7]) hX (pc := 128) (wX6_board V g β _ ol_hB_X v7 g4) lkX2_75 dcX6_board ⟨rfl, rfl⟩ ⟨(Nat.le_of_ble_eq_true rfl), (Nat.le_of_ble_eq_true rfl)⟩ 37 rfl rfl (fun _ h => h) ⟨Nat.le_refl _, Nat.le_refl _⟩ (Nat.le_of_ble_eq_true rfl) dX2_goes_2_128 rfl ?_
        obtain ⟨y5, e6, h⟩ := ol_of_bd h
        refine hw X A hX _ _ _ _ _ _ _ _ _ e6 (ol_ib_lt g4) (Nat.le_of_ble_eq_true rfl) (Nat.le_of_ble_eq_true rfl) ⟨Nat.le_refl _, Nat.le_refl _⟩ (Nat.le_of_ble_eq_true rfl) ?_
        refine ol_goto hX (pc := 136) 140 dX2_goes_2_136 (by decide) ?_
        obtain ⟨g7, h⟩ := ol_of_og h
        refine ol_xw_3 hX (pc := 140) dX2_goes_2_140 rfl (ol_in_vp g7) ?_
        refine ol_iconst hX (pc := 141) 0 dX2_goes_2_141 ol_k_iconst_0 ?_
        refine ol_istore hX (pc := 142) [some (.ref (a 2)), some (.ref (g 0 0)), some (.int x2), some (.ref wa), none, some (.int x5), none, some (.int v7), some (.int 0)] dX2_goes_2_142 (by decide) rfl rfl ?_
        exact wX2_goes_2_L144 hX β lr wf x2 x5 x6 hlr hw (oX2_goes_2_L100 β (g 0 0) lr wf x2 x5 x6 n) ih ol_fuel v7 0 (ol_xs σ 3 v7.toNatClampNeg y5) h
set_option maxHeartbeats 4000000 in
theorem wX2_goes_2_L69 {X : ol_Cx} {V : ol_Gh} {A : Nat → Prop} {a : Nat → Nat} {r0 : Option Nat} {ext : va_W} {g : Nat → Nat → Nat} {wa : Nat} {z : ol_Xm} (hX : ol_CX X V A cX2_goes_2 RX2 "goes" 9 (some (.object "OpenLines$Pass"))) (β : ol_Bd) (lr : Nat) (wf : ol_Xm → Nat → Option Int32) (x2 : Int32) (x5 : Int32) (x6 : Int32) (hlr : ol_isr lr) (hw : ol_WordRow V a r0 g β ext wf wa) (k40 : Int32 → ol_Xm → Option ol_Xm) (hk40 : ∀ (v7 : Int32) (σ : ol_Xm), k40 v7 σ = some z → ol_G X V A true (ol_Pw (some (.ref (a 2))) (ol_Xc V a r0 z ++ (ol_WB V g β ++ ext))) ({ frames := 12, cells := 0, slots := 0, locals := 600 } : Room) 9 0 0 (ol_Xc V a r0 σ ++ (ol_WB V g β ++ ext)) 40 [some (.ref (a 2)), some (.ref (g 0 0)), some (.int x2), some (.ref wa), some (.ref (a (lr + 5))), some (.int x5), none, some (.int v7), none] []) (v7 : Int32) (σ : ol_Xm) (h : oX2_goes_2_L69 β (g 0 0) lr wf x2 x5 x6 k40 v7 σ = some z) : ol_G X V A true (ol_Pw (some (.ref (a 2))) (ol_Xc V a r0 z ++ (ol_WB V g β ++ ext))) ({ frames := 12, cells := 0, slots := 0, locals := 600 } : Room) 9 0 0 (ol_Xc V a r0 σ ++ (ol_WB V g β ++ ext)) 69 [some (.ref (a 2)), some (.ref (g 0 0)), some (.int x2), some (.ref wa), some (.ref (a (lr + 5))), some (.int x5), none, some (.int v7), none] [] := by
  unfold oX2_goes_2_L69 at h
  refine ol_aload hX (pc := 69) dX2_goes_2_69 rfl ?_
  refine ol_iload hX (pc := 71) dX2_goes_2_71 rfl ?_
  obtain ⟨g1, h⟩ := ol_of_og h
  refine ol_xl_R5 hX (pc := 73) hlr dX2_goes_2_73 rfl (ol_in_vp g1) ?_
  refine ol_iconst hX (pc := 74) 2 dX2_goes_2_74 ol_k_iconst_2 ?_
  refine ol_icmp_ne hX (pc := 75) 91 dX2_goes_2_75 (by decide) (fun c2 => ?_) (fun c2 => ?_)
  · have h := ol_ifn c2 h
    refine ol_iinc hX (pc := 91) (v7 + 1) [some (.ref (a 2)), some (.ref (g 0 0)), some (.int x2), some (.ref wa), some (.ref (a (lr + 5))), some (.int x5), none, some (.int (v7 + 1)), none] dX2_goes_2_91 rfl (ol_k_iinc_1 _) (by decide) rfl rfl ?_
    refine ol_goto hX (pc := 94) 40 dX2_goes_2_94 (by decide) ?_
    exact hk40 (v7 + 1) σ h
  · have h := ol_ifp c2 h
    refine ol_aload_n hX (pc := 78) dX2_goes_2_78 rfl rfl ?_
    refine ol_dup hX (pc := 79) dX2_goes_2_79 rfl ?_
    refine ol_xg_P_10 hX (pc := 80) q176 dX2_goes_2_80 ?_
    refine ol_iconst hX (pc := 83) 1 dX2_goes_2_83 ol_k_iconst_1 ?_
    refine ol_iload hX (pc := 84) dX2_goes_2_84 rfl ?_
    refine ol_ishl hX (pc := 86) dX2_goes_2_86 ?_
    refine ol_ior hX (pc := 87) dX2_goes_2_87 ?_
    refine ol_xp_P_10 hX (pc := 88) q176 dX2_goes_2_88 ?_
    refine ol_iinc hX (pc := 91) (v7 + 1) [some (.ref (a 2)), some (.ref (g 0 0)), some (.int x2), some (.ref wa), some (.ref (a (lr + 5))), some (.int x5), none, some (.int (v7 + 1)), none] dX2_goes_2_91 rfl (ol_k_iinc_1 _) (by decide) rfl rfl ?_
    refine ol_goto hX (pc := 94) 40 dX2_goes_2_94 (by decide) ?_
    exact hk40 (v7 + 1) (ol_xs σ 2 10 ((σ.1 2 10) ||| ((1 : Int32) <<< (v7 &&& 31)))) h
set_option maxHeartbeats 4000000 in
theorem wX2_goes_2_L40 {X : ol_Cx} {V : ol_Gh} {A : Nat → Prop} {a : Nat → Nat} {r0 : Option Nat} {ext : va_W} {g : Nat → Nat → Nat} {wa : Nat} {z : ol_Xm} (hX : ol_CX X V A cX2_goes_2 RX2 "goes" 9 (some (.object "OpenLines$Pass"))) (β : ol_Bd) (lr : Nat) (wf : ol_Xm → Nat → Option Int32) (x2 : Int32) (x5 : Int32) (x6 : Int32) (hlr : ol_isr lr) (hw : ol_WordRow V a r0 g β ext wf wa)   : ∀ (n : Nat), ∀ (v7 : Int32) (σ : ol_Xm), oX2_goes_2_L40 β (g 0 0) lr wf x2 x5 x6 n v7 σ = some z → ol_G X V A true (ol_Pw (some (.ref (a 2))) (ol_Xc V a r0 z ++ (ol_WB V g β ++ ext))) ({ frames := 12, cells := 0, slots := 0, locals := 600 } : Room) 9 0 0 (ol_Xc V a r0 σ ++ (ol_WB V g β ++ ext)) 40 [some (.ref (a 2)), some (.ref (g 0 0)), some (.int x2), some (.ref wa), some (.ref (a (lr + 5))), some (.int x5), none, some (.int v7), none] [] := by
  intro n
  induction n with
  | zero =>
    intro v7 σ h
    exact ol_no h
  | succ n ih =>
    intro v7 σ h
    rw [oX2_goes_2_L40] at h
    refine ol_iload hX (pc := 40) dX2_goes_2_40 rfl ?_
    refine ol_bipush hX (pc := 42) 6 dX2_goes_2_42 ol_k_bipush_6 ?_
    refine ol_icmp_ge hX (pc := 44) 97 dX2_goes_2_44 (by decide) (fun c3 => ?_) (fun c3 => ?_)
    · have h := ol_ifp c3 h
      refine ol_iconst hX (pc := 97) 0 dX2_goes_2_97 ol_k_iconst_0 ?_
      refine ol_istore hX (pc := 98) [some (.ref (a 2)), some (.ref (g 0 0)), some (.int x2), some (.ref wa), some (.ref (a (lr + 5))), some (.int x5), none, some (.int 0), none] dX2_goes_2_98 (by decide) rfl rfl ?_
      refine ol_Gdrop 4 ?_
      exact wX2_goes_2_L100 hX β lr wf x2 x5 x6 hlr hw ol_fuel 0 σ h
    · have h := ol_ifn c3 h
      refine ol_aload hX (pc := 47) dX2_goes_2_47 rfl ?_
      refine ol_iload hX (pc := 49) dX2_goes_2_49 rfl ?_
      obtain ⟨g1, h⟩ := ol_of_og h
      refine ol_xl_R5 hX (pc := 51) hlr dX2_goes_2_51 rfl (ol_in_vp g1) ?_
      refine ol_iconst hX (pc := 52) 1 dX2_goes_2_52 ol_k_iconst_1 ?_
      refine ol_icmp_ne hX (pc := 53) 69 dX2_goes_2_53 (by decide) (fun c2 => ?_) (fun c2 => ?_)
      · have h := ol_ifn c2 h
        exact wX2_goes_2_L69 hX β lr wf x2 x5 x6 hlr hw (oX2_goes_2_L40 β (g 0 0) lr wf x2 x5 x6 n) ih v7 σ h
      · have h := ol_ifp c2 h
        refine ol_aload_n hX (pc := 56) dX2_goes_2_56 rfl rfl ?_
        refine ol_dup hX (pc := 57) dX2_goes_2_57 rfl ?_
        refine ol_xg_P_9 hX (pc := 58) q175 dX2_goes_2_58 ?_
        refine ol_iconst hX (pc := 61) 1 dX2_goes_2_61 ol_k_iconst_1 ?_
        refine ol_iload hX (pc := 62) dX2_goes_2_62 rfl ?_
        refine ol_ishl hX (pc := 64) dX2_goes_2_64 ?_
        refine ol_ior hX (pc := 65) dX2_goes_2_65 ?_
        refine ol_xp_P_9 hX (pc := 66) q175 dX2_goes_2_66 ?_
        exact wX2_goes_2_L69 hX β lr wf x2 x5 x6 hlr hw (oX2_goes_2_L40 β (g 0 0) lr wf x2 x5 x6 n) ih v7 (ol_xs σ 2 9 ((σ.1 2 9) ||| ((1 : Int32) <<< (v7 &&& 31)))) h
set_option maxHeartbeats 4000000 in
theorem wX2_goes_2 (V : ol_Gh) (a : Nat → Nat) (r0 : Option Nat) (ext : va_W) (g : Nat → Nat → Nat) (wa : Nat) (σ : ol_Xm) (β : ol_Bd) (lr : Nat) (wf : ol_Xm → Nat → Option Int32) (x2 : Int32) (x5 : Int32) (x6 : Int32) (hlr : ol_isr lr) (hw : ol_WordRow V a r0 g β ext wf wa) (z : ol_Xm) (h : oX2_goes_2 σ β (g 0 0) lr wf x2 x5 x6 = some z) : ol_Mt V yX2_goes_2 cX2_goes_2 9 (some (.object "OpenLines$Pass")) ({ frames := 12, cells := 0, slots := 0, locals := 600 } : Room) true [.ref (a 2), .ref (g 0 0), .int x2, .ref wa, .ref (a (lr + 5)), .int x5, .int x6] (ol_Xc V a r0 σ ++ (ol_WB V g β ++ ext)) (ol_Pw (some (.ref (a 2))) (ol_Xc V a r0 z ++ (ol_WB V g β ++ ext))) := by
  refine ol_MtOf (L0 := [some (.ref (a 2)), some (.ref (g 0 0)), some (.int x2), some (.ref wa), some (.ref (a (lr + 5))), some (.int x5), some (.int x6), none, none]) (by decide) (Nat.le_of_ble_eq_true rfl) rfl (fun X A hX => ?_)
  unfold oX2_goes_2 at h
  refine ol_aload_n hX (pc := 0) dX2_goes_2_0 rfl rfl ?_
  refine ol_aload_n hX (pc := 1) dX2_goes_2_1 rfl rfl ?_
  refine ol_xp_P_bus (x := some (g 0 0)) hX (pc := 2) q173 dX2_goes_2_2 ?_
  refine ol_aload_n hX (pc := 5) dX2_goes_2_5 rfl rfl ?_
  refine ol_iload_n hX (pc := 6) dX2_goes_2_6 rfl rfl ?_
  refine ol_xp_P_8 hX (pc := 7) q174 dX2_goes_2_7 ?_
  refine ol_aload_n hX (pc := 10) dX2_goes_2_10 rfl rfl ?_
  refine ol_iload hX (pc := 11) dX2_goes_2_11 rfl ?_
  refine ol_xp_P_12 hX (pc := 13) q179 dX2_goes_2_13 ?_
  refine ol_aload_n hX (pc := 16) dX2_goes_2_16 rfl rfl ?_
  refine ol_iload hX (pc := 17) dX2_goes_2_17 rfl ?_
  refine ol_xp_P_13 hX (pc := 19) q181 dX2_goes_2_19 ?_
  refine ol_aload_n hX (pc := 22) dX2_goes_2_22 rfl rfl ?_
  refine ol_iconst hX (pc := 23) 0 dX2_goes_2_23 ol_k_iconst_0 ?_
  refine ol_xp_P_11 hX (pc := 24) q177 dX2_goes_2_24 ?_
  refine ol_aload_n hX (pc := 27) dX2_goes_2_27 rfl rfl ?_
  refine ol_iconst hX (pc := 28) 0 dX2_goes_2_28 ol_k_iconst_0 ?_
  refine ol_xp_P_9 hX (pc := 29) q175 dX2_goes_2_29 ?_
  refine ol_aload_n hX (pc := 32) dX2_goes_2_32 rfl rfl ?_
  refine ol_iconst hX (pc := 33) 0 dX2_goes_2_33 ol_k_iconst_0 ?_
  refine ol_xp_P_10 hX (pc := 34) q176 dX2_goes_2_34 ?_
  refine ol_iconst hX (pc := 37) 0 dX2_goes_2_37 ol_k_iconst_0 ?_
  refine ol_istore hX (pc := 38) [some (.ref (a 2)), some (.ref (g 0 0)), some (.int x2), some (.ref wa), some (.ref (a (lr + 5))), some (.int x5), some (.int x6), some (.int 0), none] dX2_goes_2_38 (by decide) rfl rfl ?_
  refine ol_Gdrop 6 ?_
  exact wX2_goes_2_L40 hX β lr wf x2 x5 x6 hlr hw ol_fuel 0 (ol_xs (ol_xs (ol_xs (ol_xs (ol_xs (ol_xs (ol_xr σ 3 (some (g 0 0))) 2 8 x2) 2 12 x5) 2 13 x6) 2 11 0) 2 9 0) 2 10 0) h
set_option maxHeartbeats 4000000 in
theorem wX2_goes (V : ol_Gh) (a : Nat → Nat) (r0 : Option Nat) (ext : va_W) (g : Nat → Nat → Nat) (wa : Nat) (σ : ol_Xm) (β : ol_Bd) (lr : Nat) (wf : ol_Xm → Nat → Option Int32) (x2 : Int32) (x5 : Int32) (hlr : ol_isr lr) (hw : ol_WordRow V a r0 g β ext wf wa) (z : ol_Xm) (h : oX2_goes σ β (g 0 0) lr wf x2 x5 = some z) : ol_Mt V yX2_goes cX2_goes 6 (some (.object "OpenLines$Pass")) ({ frames := 13, cells := 0, slots := 0, locals := 628 } : Room) true [.ref (a 2), .ref (g 0 0), .int x2, .ref wa, .ref (a (lr + 5)), .int x5] (ol_Xc V a r0 σ ++ (ol_WB V g β ++ ext)) (ol_Pw (some (.ref (a 2))) (ol_Xc V a r0 z ++ (ol_WB V g β ++ ext))) := by
  refine ol_MtOf (L0 := [some (.ref (a 2)), some (.ref (g 0 0)), some (.int x2), some (.ref wa), some (.ref (a (lr + 5))), some (.int x5)]) (by decide) (Nat.le_of_ble_eq_true rfl) rfl (fun X A hX => ?_)
  unfold oX2_goes at h
  refine ol_aload_n hX (pc := 0) dX2_goes_0 rfl rfl ?_
  refine ol_aload_n hX (pc := 1) dX2_goes_1 rfl rfl ?_
  refine ol_iload_n hX (pc := 2) dX2_goes_2 rfl rfl ?_
  refine ol_aload_n hX (pc := 3) dX2_goes_3 rfl rfl ?_
  refine ol_aload hX (pc := 4) dX2_goes_4 rfl ?_
  refine ol_iload hX (pc := 6) dX2_goes_6 rfl ?_
  refine ol_aload_n hX (pc := 8) dX2_goes_8 rfl rfl ?_
  refine ol_getNM hX in_X6 (pc := 9) ol_hB_X.bus rfl 1 (by decide) q473 rfl rfl dX2_goes_9 ?_
  obtain ⟨y1, e2, h⟩ := ol_of_bd h
  refine ol_cVw (As := [.ref (g 0 0), .int x2, .ref wa, .ref (a (lr + 5)), .int x5, .int (β.1 0 1)]) hX (pc := 12) (wX2_goes_2 V a r0 ext g wa σ β lr wf x2 x5 (β.1 0 1) hlr hw y1 e2) lkX2_43 dcX2_goes_2 ol_rr_X2_goes_X2_goes_2 2 rfl rfl ⟨Nat.le_refl _, Nat.le_refl _⟩ (Nat.le_of_ble_eq_true rfl) dX2_goes_12 rfl ?_
  have h := ol_of_some h
  subst h
  exact ol_aret hX (pc := 15) (Or.inl ⟨_, rfl⟩) (Or.inr ⟨_, rfl⟩) dX2_goes_15 ⟨rfl, rfl⟩ ⟨Nat.le_refl _, Nat.le_refl _⟩
