/-! walks (printed) -/
set_option maxRecDepth 100000
set_option maxHeartbeats 4000000 in
theorem wX1_isBoard (V : ol_Gh) (a : Nat → Nat) (ext : va_W) (g : Nat → Nat → Nat) (σ : ol_Xm) (β : ol_Bd) (x1 : Int32)  (z : Int32) (h : oX1_isBoard σ β (g 0 0) x1 = some z) : ol_Mt V yX1_isBoard cX1_isBoard 2 (some .boolean) ({ frames := 2, cells := 0, slots := 0, locals := 40 } : Room) false [.ref (a 0), .int x1] (ol_Xc V a (some (g 0 0)) σ ++ (ol_WB V g β ++ ext)) (ol_Pr (some (.int z))) := by
  refine ol_MtOf (L0 := [some (.ref (a 0)), some (.int x1)]) (by decide) (Nat.le_of_ble_eq_true rfl) rfl (fun X A hX => ?_)
  unfold oX1_isBoard at h
  refine ol_aload_n hX (pc := 0) dX1_isBoard_0 rfl rfl ?_
  refine ol_xg_O_6 hX (pc := 1) q348 rfl dX1_isBoard_1 ?_
  refine ol_ifnull hX (pc := 4) dX1_isBoard_4 ?_
  refine ol_iload_n hX (pc := 7) dX1_isBoard_7 rfl rfl ?_
  refine ol_iconst hX (pc := 8) 0 dX1_isBoard_8 ol_k_iconst_0 ?_
  refine ol_aload_n hX (pc := 9) dX1_isBoard_9 rfl rfl ?_
  refine ol_xg_O_6 hX (pc := 10) q348 rfl dX1_isBoard_10 ?_
  refine ol_cVr (As := []) hX (pc := 13) (wX6_many V g β _ ol_hB_X) lkX1_119 dcX6_many ⟨rfl, rfl⟩ ⟨(Nat.le_of_ble_eq_true rfl), (Nat.le_of_ble_eq_true rfl)⟩ 37 rfl rfl (fun _ h => h) ⟨Nat.le_refl _, Nat.le_refl _⟩ (Nat.le_of_ble_eq_true rfl) dX1_isBoard_13 rfl ?_
  refine ol_iconst hX (pc := 16) 1 dX1_isBoard_16 ol_k_iconst_1 ?_
  refine ol_isub hX (pc := 17) dX1_isBoard_17 ?_
  obtain ⟨y1, e2, h⟩ := ol_of_bd h
  refine ol_cSr (As := [.int x1, .int 0, .int ((β.1 0 3) - 1)]) hX (pc := 18) (wX1_isIn V (ol_Xc V a (some (g 0 0)) σ ++ (ol_WB V g β ++ ext)) x1 0 ((β.1 0 3) - 1) y1 e2) lkX1_77 dcX1_isIn ⟨rfl, rfl⟩ ol_rr_X1_isBoard_X1_isIn (fun _ h => h) ⟨Nat.le_refl _, Nat.le_refl _⟩ (Nat.le_of_ble_eq_true rfl) dX1_isBoard_18 rfl ?_
  refine ol_if_eq hX (pc := 21) 28 dX1_isBoard_21 (by decide) (fun c3 => ?_) (fun c3 => ?_)
  · have h := ol_ifp c3 h
    refine ol_iconst hX (pc := 28) 0 dX1_isBoard_28 ol_k_iconst_0 ?_
    have h := ol_of_some h
    subst h
    exact ol_zret hX (pc := 29) dX1_isBoard_29 (by rfl) rfl ⟨Nat.le_refl _, Nat.le_refl _⟩
  · have h := ol_ifn c3 h
    refine ol_iconst hX (pc := 24) 1 dX1_isBoard_24 ol_k_iconst_1 ?_
    refine ol_goto hX (pc := 25) 29 dX1_isBoard_25 (by decide) ?_
    have h := ol_of_some h
    subst h
    exact ol_zret hX (pc := 29) dX1_isBoard_29 (by rfl) rfl ⟨Nat.le_refl _, Nat.le_refl _⟩
set_option maxHeartbeats 4000000 in
theorem wX1_isSet (V : ol_Gh) (a : Nat → Nat) (ext : va_W) (g : Nat → Nat → Nat) (σ : ol_Xm) (β : ol_Bd) (x1 : Int32)  (z : Int32) (h : oX1_isSet σ β (g 0 0) x1 = some z) : ol_Mt V yX1_isSet cX1_isSet 2 (some .boolean) ({ frames := 2, cells := 0, slots := 0, locals := 40 } : Room) false [.ref (a 0), .int x1] (ol_Xc V a (some (g 0 0)) σ ++ (ol_WB V g β ++ ext)) (ol_Pr (some (.int z))) := by
  refine ol_MtOf (L0 := [some (.ref (a 0)), some (.int x1)]) (by decide) (Nat.le_of_ble_eq_true rfl) rfl (fun X A hX => ?_)
  unfold oX1_isSet at h
  refine ol_iload_n hX (pc := 0) dX1_isSet_0 rfl rfl ?_
  refine ol_iconst hX (pc := 1) 1 dX1_isSet_1 ol_k_iconst_1 ?_
  refine ol_iconst hX (pc := 2) 1 dX1_isSet_2 ol_k_iconst_1 ?_
  refine ol_aload_n hX (pc := 3) dX1_isSet_3 rfl rfl ?_
  refine ol_xg_O_6 hX (pc := 4) q348 rfl dX1_isSet_4 ?_
  refine ol_cVr (As := []) hX (pc := 7) (wX6_many V g β _ ol_hB_X) lkX1_119 dcX6_many ⟨rfl, rfl⟩ ⟨(Nat.le_of_ble_eq_true rfl), (Nat.le_of_ble_eq_true rfl)⟩ 37 rfl rfl (fun _ h => h) ⟨Nat.le_refl _, Nat.le_refl _⟩ (Nat.le_of_ble_eq_true rfl) dX1_isSet_7 rfl ?_
  refine ol_ishl hX (pc := 10) dX1_isSet_10 ?_
  refine ol_iconst hX (pc := 11) 1 dX1_isSet_11 ol_k_iconst_1 ?_
  refine ol_isub hX (pc := 12) dX1_isSet_12 ?_
  obtain ⟨y1, e2, h⟩ := ol_of_bd h
  refine ol_cSr (As := [.int x1, .int 1, .int (((1 : Int32) <<< ((β.1 0 3) &&& 31)) - 1)]) hX (pc := 13) (wX1_isIn V (ol_Xc V a (some (g 0 0)) σ ++ (ol_WB V g β ++ ext)) x1 1 (((1 : Int32) <<< ((β.1 0 3) &&& 31)) - 1) y1 e2) lkX1_77 dcX1_isIn ⟨rfl, rfl⟩ ol_rr_X1_isSet_X1_isIn (fun _ h => h) ⟨Nat.le_refl _, Nat.le_refl _⟩ (Nat.le_of_ble_eq_true rfl) dX1_isSet_13 rfl ?_
  obtain ⟨gz, h⟩ := ol_of_og h
  have h := ol_of_some h
  subst h
  exact ol_zret hX (pc := 16) dX1_isSet_16 (ol_zb_nar gz) rfl ⟨Nat.le_refl _, Nat.le_refl _⟩
set_option maxHeartbeats 4000000 in
theorem wX1_refuses (V : ol_Gh) (a : Nat → Nat) (ext : va_W) (g : Nat → Nat → Nat) (σ : ol_Xm) (β : ol_Bd) (x1 : Int32) (x2 : Int32) (x3 : Int32) (x4 : Int32)  (z : Int32) (h : oX1_refuses σ β (g 0 0) x1 x2 x3 x4 = some z) : ol_Mt V yX1_refuses cX1_refuses 5 (some .int) ({ frames := 3, cells := 0, slots := 0, locals := 61 } : Room) false [.ref (a 0), .int x1, .int x2, .int x3, .int x4] (ol_Xc V a (some (g 0 0)) σ ++ (ol_WB V g β ++ ext)) (ol_Pr (some (.int z))) := by
  refine ol_MtOf (L0 := [some (.ref (a 0)), some (.int x1), some (.int x2), some (.int x3), some (.int x4)]) (by decide) (Nat.le_of_ble_eq_true rfl) rfl (fun X A hX => ?_)
  unfold oX1_refuses at h
  refine ol_aload_n hX (pc := 0) dX1_refuses_0 rfl rfl ?_
  refine ol_xg_O_6 hX (pc := 1) q348 rfl dX1_refuses_1 ?_
  refine ol_ifnull hX (pc := 4) dX1_refuses_4 ?_
  refine ol_iload_n hX (pc := 7) dX1_refuses_7 rfl rfl ?_
  refine ol_if_ne hX (pc := 8) 13 dX1_refuses_8 (by decide) (fun c10 => ?_) (fun c10 => ?_)
  · have h := ol_ifn c10 h
    refine ol_iload_n hX (pc := 13) dX1_refuses_13 rfl rfl ?_
    obtain ⟨y1, e2, h⟩ := ol_of_bd h
    refine ol_cSr (As := [.int x2]) hX (pc := 14) (wX1_isPass V (ol_Xc V a (some (g 0 0)) σ ++ (ol_WB V g β ++ ext)) x2 y1 e2) lkX1_190 dcX1_isPass ⟨rfl, rfl⟩ ol_rr_X1_refuses_X1_isPass (fun _ h => h) ⟨Nat.le_refl _, Nat.le_refl _⟩ (Nat.le_of_ble_eq_true rfl) dX1_refuses_14 rfl ?_
    refine ol_if_eq hX (pc := 17) 44 dX1_refuses_17 (by decide) (fun c9 => ?_) (fun c9 => ?_)
    · have h := ol_ifp c9 h
      refine ol_iconst hX (pc := 44) 2 dX1_refuses_44 ol_k_iconst_2 ?_
      have h := ol_of_some h
      subst h
      exact ol_iret hX (pc := 45) dX1_refuses_45 rfl ⟨Nat.le_refl _, Nat.le_refl _⟩
    · have h := ol_ifn c9 h
      refine ol_aload_n hX (pc := 20) dX1_refuses_20 rfl rfl ?_
      refine ol_iload_n hX (pc := 21) dX1_refuses_21 rfl rfl ?_
      obtain ⟨y3, e4, h⟩ := ol_of_bd h
      refine ol_cVr (As := [.int x3]) hX (pc := 22) (wX1_isSet V a ext g σ β x3 y3 e4) lkX1_203 dcX1_isSet ⟨rfl, rfl⟩ ol_rr_X1_refuses_X1_isSet 0 rfl rfl (fun _ h => h) ⟨Nat.le_refl _, Nat.le_refl _⟩ (Nat.le_of_ble_eq_true rfl) dX1_refuses_22 rfl ?_
      refine ol_if_eq hX (pc := 25) 44 dX1_refuses_25 (by decide) (fun c8 => ?_) (fun c8 => ?_)
      · have h := ol_ifp c8 h
        refine ol_iconst hX (pc := 44) 2 dX1_refuses_44 ol_k_iconst_2 ?_
        have h := ol_of_some h
        subst h
        exact ol_iret hX (pc := 45) dX1_refuses_45 rfl ⟨Nat.le_refl _, Nat.le_refl _⟩
      · have h := ol_ifn c8 h
        refine ol_iload hX (pc := 28) dX1_refuses_28 rfl ?_
        refine ol_iconst hX (pc := 30) 0 dX1_refuses_30 ol_k_iconst_0 ?_
        refine ol_sipush hX (pc := 31) 400 dX1_refuses_31 ol_k_sipush_400 ?_
        obtain ⟨y5, e6, h⟩ := ol_of_bd h
        refine ol_cSr (As := [.int x4, .int 0, .int 400]) hX (pc := 34) (wX1_isIn V (ol_Xc V a (some (g 0 0)) σ ++ (ol_WB V g β ++ ext)) x4 0 400 y5 e6) lkX1_77 dcX1_isIn ⟨rfl, rfl⟩ ol_rr_X1_refuses_X1_isIn (fun _ h => h) ⟨Nat.le_refl _, Nat.le_refl _⟩ (Nat.le_of_ble_eq_true rfl) dX1_refuses_34 rfl ?_
        refine ol_if_eq hX (pc := 37) 44 dX1_refuses_37 (by decide) (fun c7 => ?_) (fun c7 => ?_)
        · have h := ol_ifp c7 h
          refine ol_iconst hX (pc := 44) 2 dX1_refuses_44 ol_k_iconst_2 ?_
          have h := ol_of_some h
          subst h
          exact ol_iret hX (pc := 45) dX1_refuses_45 rfl ⟨Nat.le_refl _, Nat.le_refl _⟩
        · have h := ol_ifn c7 h
          refine ol_iconst hX (pc := 40) 0 dX1_refuses_40 ol_k_iconst_0 ?_
          refine ol_goto hX (pc := 41) 45 dX1_refuses_41 (by decide) ?_
          have h := ol_of_some h
          subst h
          exact ol_iret hX (pc := 45) dX1_refuses_45 rfl ⟨Nat.le_refl _, Nat.le_refl _⟩
  · have h := ol_ifp c10 h
    refine ol_iconst hX (pc := 11) 1 dX1_refuses_11 ol_k_iconst_1 ?_
    have h := ol_of_some h
    subst h
    exact ol_iret hX (pc := 12) dX1_refuses_12 rfl ⟨Nat.le_refl _, Nat.le_refl _⟩
set_option maxHeartbeats 4000000 in
theorem wX1_about (V : ol_Gh) (a : Nat → Nat) (ext : va_W) (g : Nat → Nat → Nat) (σ : ol_Xm) (β : ol_Bd) (x1 : Int32)  (z : Int32 × ol_Xm) (h : oX1_about σ β (g 0 0) x1 = some z) : ol_Mt V yX1_about cX1_about 2 (some .int) ({ frames := 2, cells := 0, slots := 0, locals := 40 } : Room) true [.ref (a 0), .int x1] (ol_Xc V a (some (g 0 0)) σ ++ (ol_WB V g β ++ ext)) (ol_Pw (some (.int z.1)) (ol_Xc V a (some (g 0 0)) z.2 ++ (ol_WB V g β ++ ext))) := by
  refine ol_MtOf (L0 := [some (.ref (a 0)), some (.int x1)]) (by decide) (Nat.le_of_ble_eq_true rfl) rfl (fun X A hX => ?_)
  unfold oX1_about at h
  refine ol_aload_n hX (pc := 0) dX1_about_0 rfl rfl ?_
  refine ol_xg_O_6 hX (pc := 1) q348 rfl dX1_about_1 ?_
  refine ol_ifnonnull hX (pc := 4) 13 dX1_about_4 (by decide) ?_
  refine ol_iload_n hX (pc := 13) dX1_about_13 rfl rfl ?_
  by_cases c3 : x1 = 0
  · have h := ol_ifp c3 h
    refine ol_tsw_in hX (pc := 14) 52 dX1_about_14 c3 (by decide) (by decide) rfl (by decide) ?_
    refine ol_aload_n hX (pc := 52) dX1_about_52 rfl rfl ?_
    refine ol_aload_n hX (pc := 53) dX1_about_53 rfl rfl ?_
    refine ol_xg_O_6 hX (pc := 54) q348 rfl dX1_about_54 ?_
    refine ol_getNM hX in_X6 (pc := 57) ol_hB_X.bus rfl 0 (by decide) q471 rfl rfl dX1_about_57 ?_
    obtain ⟨y1, e2, h⟩ := ol_of_bd h
    refine ol_cVw (As := [.int (β.1 0 0)]) hX (pc := 60) (wX1_fine V a (some (g 0 0)) (ol_WB V g β ++ ext) σ (β.1 0 0) y1 e2) lkX1_125 dcX1_fine ol_rr_X1_about_X1_fine 0 rfl rfl ⟨Nat.le_refl _, Nat.le_refl _⟩ (Nat.le_of_ble_eq_true rfl) dX1_about_60 rfl ?_
    have h := ol_of_some h
    subst h
    exact ol_iret hX (pc := 63) dX1_about_63 ⟨rfl, rfl⟩ ⟨Nat.le_refl _, Nat.le_refl _⟩
  · have h := ol_ifn c3 h
    by_cases c6 : x1 = 1
    · have h := ol_ifp c6 h
      refine ol_tsw_in hX (pc := 14) 64 dX1_about_14 c6 (by decide) (by decide) rfl (by decide) ?_
      refine ol_aload_n hX (pc := 64) dX1_about_64 rfl rfl ?_
      refine ol_aload_n hX (pc := 65) dX1_about_65 rfl rfl ?_
      refine ol_xg_O_6 hX (pc := 66) q348 rfl dX1_about_66 ?_
      refine ol_getNM hX in_X6 (pc := 69) ol_hB_X.bus rfl 1 (by decide) q474 rfl rfl dX1_about_69 ?_
      obtain ⟨y4, e5, h⟩ := ol_of_bd h
      refine ol_cVw (As := [.int (β.1 0 1)]) hX (pc := 72) (wX1_fine V a (some (g 0 0)) (ol_WB V g β ++ ext) σ (β.1 0 1) y4 e5) lkX1_125 dcX1_fine ol_rr_X1_about_X1_fine 0 rfl rfl ⟨Nat.le_refl _, Nat.le_refl _⟩ (Nat.le_of_ble_eq_true rfl) dX1_about_72 rfl ?_
      have h := ol_of_some h
      subst h
      exact ol_iret hX (pc := 75) dX1_about_75 ⟨rfl, rfl⟩ ⟨Nat.le_refl _, Nat.le_refl _⟩
    · have h := ol_ifn c6 h
      by_cases c9 : x1 = 2
      · have h := ol_ifp c9 h
        refine ol_tsw_in hX (pc := 14) 76 dX1_about_14 c9 (by decide) (by decide) rfl (by decide) ?_
        refine ol_aload_n hX (pc := 76) dX1_about_76 rfl rfl ?_
        refine ol_aload_n hX (pc := 77) dX1_about_77 rfl rfl ?_
        refine ol_xg_O_6 hX (pc := 78) q348 rfl dX1_about_78 ?_
        refine ol_getNM hX in_X6 (pc := 81) ol_hB_X.bus rfl 2 (by decide) q477 rfl rfl dX1_about_81 ?_
        obtain ⟨y7, e8, h⟩ := ol_of_bd h
        refine ol_cVw (As := [.int (β.1 0 2)]) hX (pc := 84) (wX1_fine V a (some (g 0 0)) (ol_WB V g β ++ ext) σ (β.1 0 2) y7 e8) lkX1_125 dcX1_fine ol_rr_X1_about_X1_fine 0 rfl rfl ⟨Nat.le_refl _, Nat.le_refl _⟩ (Nat.le_of_ble_eq_true rfl) dX1_about_84 rfl ?_
        have h := ol_of_some h
        subst h
        exact ol_iret hX (pc := 87) dX1_about_87 ⟨rfl, rfl⟩ ⟨Nat.le_refl _, Nat.le_refl _⟩
      · have h := ol_ifn c9 h
        by_cases c12 : x1 = 3
        · have h := ol_ifp c12 h
          refine ol_tsw_in hX (pc := 14) 88 dX1_about_14 c12 (by decide) (by decide) rfl (by decide) ?_
          refine ol_aload_n hX (pc := 88) dX1_about_88 rfl rfl ?_
          refine ol_aload_n hX (pc := 89) dX1_about_89 rfl rfl ?_
          refine ol_xg_O_6 hX (pc := 90) q348 rfl dX1_about_90 ?_
          refine ol_cVr (As := []) hX (pc := 93) (wX6_many V g β _ ol_hB_X) lkX1_119 dcX6_many ⟨rfl, rfl⟩ ⟨(Nat.le_of_ble_eq_true rfl), (Nat.le_of_ble_eq_true rfl)⟩ 37 rfl rfl (fun _ h => h) ⟨Nat.le_refl _, Nat.le_refl _⟩ (Nat.le_of_ble_eq_true rfl) dX1_about_93 rfl ?_
          obtain ⟨y10, e11, h⟩ := ol_of_bd h
          refine ol_cVw (As := [.int (β.1 0 3)]) hX (pc := 96) (wX1_fine V a (some (g 0 0)) (ol_WB V g β ++ ext) σ (β.1 0 3) y10 e11) lkX1_125 dcX1_fine ol_rr_X1_about_X1_fine 0 rfl rfl ⟨Nat.le_refl _, Nat.le_refl _⟩ (Nat.le_of_ble_eq_true rfl) dX1_about_96 rfl ?_
          have h := ol_of_some h
          subst h
          exact ol_iret hX (pc := 99) dX1_about_99 ⟨rfl, rfl⟩ ⟨Nat.le_refl _, Nat.le_refl _⟩
        · have h := ol_ifn c12 h
          by_cases c15 : x1 = 4
          · have h := ol_ifp c15 h
            refine ol_tsw_in hX (pc := 14) 100 dX1_about_14 c15 (by decide) (by decide) rfl (by decide) ?_
            refine ol_aload_n hX (pc := 100) dX1_about_100 rfl rfl ?_
            refine ol_aload_n hX (pc := 101) dX1_about_101 rfl rfl ?_
            refine ol_xg_O_6 hX (pc := 102) q348 rfl dX1_about_102 ?_
            refine ol_getNM hX in_X6 (pc := 105) ol_hB_X.bus rfl 4 (by decide) q483 rfl rfl dX1_about_105 ?_
            refine ol_cVrM (As := []) hX (pc := 108) (wJ2_size V _ _ _ _ _ ol_hB_X.al) lkX1_141 dcJ2_size ⟨rfl, rfl⟩ ⟨(Nat.le_of_ble_eq_true rfl), (Nat.le_of_ble_eq_true rfl)⟩ ol_hB_X.al rfl (fun _ h => h) ⟨Nat.le_refl _, Nat.le_refl _⟩ (Nat.le_of_ble_eq_true rfl) dX1_about_108 rfl ?_
            obtain ⟨y13, e14, h⟩ := ol_of_bd h
            refine ol_cVw (As := [.int (β.1 0 4)]) hX (pc := 111) (wX1_fine V a (some (g 0 0)) (ol_WB V g β ++ ext) σ (β.1 0 4) y13 e14) lkX1_125 dcX1_fine ol_rr_X1_about_X1_fine 0 rfl rfl ⟨Nat.le_refl _, Nat.le_refl _⟩ (Nat.le_of_ble_eq_true rfl) dX1_about_111 rfl ?_
            have h := ol_of_some h
            subst h
            exact ol_iret hX (pc := 114) dX1_about_114 ⟨rfl, rfl⟩ ⟨Nat.le_refl _, Nat.le_refl _⟩
          · have h := ol_ifn c15 h
            by_cases c18 : x1 = 5
            · have h := ol_ifp c18 h
              refine ol_tsw_in hX (pc := 14) 115 dX1_about_14 c18 (by decide) (by decide) rfl (by decide) ?_
              refine ol_aload_n hX (pc := 115) dX1_about_115 rfl rfl ?_
              refine ol_aload_n hX (pc := 116) dX1_about_116 rfl rfl ?_
              refine ol_xg_O_7 hX (pc := 117) q350 dX1_about_117 ?_
              refine ol_xgN_R_8 hX (pc := 120) ol_isr0 q270 dX1_about_120 ?_
              obtain ⟨y16, e17, h⟩ := ol_of_bd h
              refine ol_cVw (As := [.int (σ.1 10 8)]) hX (pc := 123) (wX1_fine V a (some (g 0 0)) (ol_WB V g β ++ ext) σ (σ.1 10 8) y16 e17) lkX1_125 dcX1_fine ol_rr_X1_about_X1_fine 0 rfl rfl ⟨Nat.le_refl _, Nat.le_refl _⟩ (Nat.le_of_ble_eq_true rfl) dX1_about_123 rfl ?_
              have h := ol_of_some h
              subst h
              exact ol_iret hX (pc := 126) dX1_about_126 ⟨rfl, rfl⟩ ⟨Nat.le_refl _, Nat.le_refl _⟩
            · have h := ol_ifn c18 h
              refine ol_tsw_out hX (pc := 14) 127 dX1_about_14 ?_ (by decide) ?_
              · exact ol_sw6 c3 c6 c9 c12 c15 c18
              · refine ol_aload_n hX (pc := 127) dX1_about_127 rfl rfl ?_
                refine ol_iconst hX (pc := 128) 1 dX1_about_128 ol_k_iconst_1 ?_
                obtain ⟨y19, e20, h⟩ := ol_of_bd h
                refine ol_cVw (As := [.int 1]) hX (pc := 129) (wX1_refused V a (some (g 0 0)) (ol_WB V g β ++ ext) σ 1 y19 e20) lkX1_81 dcX1_refused ol_rr_X1_about_X1_refused 0 rfl rfl ⟨Nat.le_refl _, Nat.le_refl _⟩ (Nat.le_of_ble_eq_true rfl) dX1_about_129 rfl ?_
                have h := ol_of_some h
                subst h
                exact ol_iret hX (pc := 132) dX1_about_132 ⟨rfl, rfl⟩ ⟨Nat.le_refl _, Nat.le_refl _⟩
set_option maxHeartbeats 4000000 in
theorem wX1_board (V : ol_Gh) (a : Nat → Nat) (ext : va_W) (g : Nat → Nat → Nat) (σ : ol_Xm) (β : ol_Bd) (x1 : Int32) (x2 : Int32)  (z : Int32 × ol_Xm) (h : oX1_board σ β (g 0 0) x1 x2 = some z) : ol_Mt V yX1_board cX1_board 4 (some .int) ({ frames := 5, cells := 0, slots := 0, locals := 123 } : Room) true [.ref (a 0), .int x1, .int x2] (ol_Xc V a (some (g 0 0)) σ ++ (ol_WB V g β ++ ext)) (ol_Pw (some (.int z.1)) (ol_Xc V a (some (g 0 0)) z.2 ++ (ol_WB V g β ++ ext))) := by
  refine ol_MtOf (L0 := [some (.ref (a 0)), some (.int x1), some (.int x2), none]) (by decide) (Nat.le_of_ble_eq_true rfl) rfl (fun X A hX => ?_)
  unfold oX1_board at h
  refine ol_aload_n hX (pc := 0) dX1_board_0 rfl rfl ?_
  refine ol_iload_n hX (pc := 1) dX1_board_1 rfl rfl ?_
  obtain ⟨y1, e2, h⟩ := ol_of_bd h
  refine ol_cVr (As := [.int x1]) hX (pc := 2) (wX1_isBoard V a ext g σ β x1 y1 e2) lkX1_149 dcX1_isBoard ⟨rfl, rfl⟩ ol_rr_X1_board_X1_isBoard 0 rfl rfl (fun _ h => h) ⟨Nat.le_refl _, Nat.le_refl _⟩ (Nat.le_of_ble_eq_true rfl) dX1_board_2 rfl ?_
  refine ol_if_ne hX (pc := 5) 14 dX1_board_5 (by decide) (fun c37 => ?_) (fun c37 => ?_)
  · have h := ol_ifn c37 h
    refine ol_aload_n hX (pc := 14) dX1_board_14 rfl rfl ?_
    refine ol_xg_O_6 hX (pc := 15) q348 rfl dX1_board_15 ?_
    refine ol_iload_n hX (pc := 18) dX1_board_18 rfl rfl ?_
    obtain ⟨g3, h⟩ := ol_of_og h
    refine ol_cVr (As := [.int x1]) hX (pc := 19) (wX6_board V g β _ ol_hB_X x1 g3) lkX1_153 dcX6_board ⟨rfl, rfl⟩ ⟨(Nat.le_of_ble_eq_true rfl), (Nat.le_of_ble_eq_true rfl)⟩ 37 rfl rfl (fun _ h => h) ⟨Nat.le_refl _, Nat.le_refl _⟩ (Nat.le_of_ble_eq_true rfl) dX1_board_19 rfl ?_
    refine ol_astore_n hX (pc := 22) [some (.ref (a 0)), some (.int x1), some (.int x2), some (.ref (g 1 x1.toNatClampNeg))] dX1_board_22 rfl (by decide) rfl rfl ?_
    refine ol_iload_n hX (pc := 23) dX1_board_23 rfl rfl ?_
    by_cases c6 : x2 = 0
    · have h := ol_ifp c6 h
      refine ol_tsw_in hX (pc := 24) 68 dX1_board_24 c6 (by decide) (by decide) rfl (by decide) ?_
      refine ol_aload_n hX (pc := 68) dX1_board_68 rfl rfl ?_
      refine ol_aload_n hX (pc := 69) dX1_board_69 rfl rfl ?_
      refine ol_getNM hX in_X9 (pc := 70) (ol_hB_X.brd (ol_ib_lt g3)) rfl 3 (by decide) q1147 rfl rfl dX1_board_70 ?_
      obtain ⟨y4, e5, h⟩ := ol_of_bd h
      refine ol_cVw (As := [.int (β.1 2 x1.toNatClampNeg)]) hX (pc := 73) (wX1_fine V a (some (g 0 0)) (ol_WB V g β ++ ext) σ (β.1 2 x1.toNatClampNeg) y4 e5) lkX1_125 dcX1_fine ol_rr_X1_board_X1_fine 0 rfl rfl ⟨Nat.le_refl _, Nat.le_refl _⟩ (Nat.le_of_ble_eq_true rfl) dX1_board_73 rfl ?_
      have h := ol_of_some h
      subst h
      exact ol_iret hX (pc := 76) dX1_board_76 ⟨rfl, rfl⟩ ⟨Nat.le_refl _, Nat.le_refl _⟩
    · have h := ol_ifn c6 h
      by_cases c9 : x2 = 1
      · have h := ol_ifp c9 h
        refine ol_tsw_in hX (pc := 24) 77 dX1_board_24 c9 (by decide) (by decide) rfl (by decide) ?_
        refine ol_aload_n hX (pc := 77) dX1_board_77 rfl rfl ?_
        refine ol_aload_n hX (pc := 78) dX1_board_78 rfl rfl ?_
        refine ol_getNM hX in_X9 (pc := 79) (ol_hB_X.brd (ol_ib_lt g3)) rfl 4 (by decide) q1149 rfl rfl dX1_board_79 ?_
        obtain ⟨y7, e8, h⟩ := ol_of_bd h
        refine ol_cVw (As := [.int (β.1 3 x1.toNatClampNeg)]) hX (pc := 82) (wX1_fine V a (some (g 0 0)) (ol_WB V g β ++ ext) σ (β.1 3 x1.toNatClampNeg) y7 e8) lkX1_125 dcX1_fine ol_rr_X1_board_X1_fine 0 rfl rfl ⟨Nat.le_refl _, Nat.le_refl _⟩ (Nat.le_of_ble_eq_true rfl) dX1_board_82 rfl ?_
        have h := ol_of_some h
        subst h
        exact ol_iret hX (pc := 85) dX1_board_85 ⟨rfl, rfl⟩ ⟨Nat.le_refl _, Nat.le_refl _⟩
      · have h := ol_ifn c9 h
        by_cases c12 : x2 = 2
        · have h := ol_ifp c12 h
          refine ol_tsw_in hX (pc := 24) 86 dX1_board_24 c12 (by decide) (by decide) rfl (by decide) ?_
          refine ol_aload_n hX (pc := 86) dX1_board_86 rfl rfl ?_
          refine ol_aload_n hX (pc := 87) dX1_board_87 rfl rfl ?_
          refine ol_cUr (As := []) hX (pc := 88) (wX8_own V _ _ _ _ _ _ _ (ol_hB_X.brd (ol_ib_lt g3))) (lw_U q1462 q1463 q1465 q1466 q130 q1467) rfl (by decide +kernel) ⟨rfl, rfl⟩ ⟨(Nat.le_of_ble_eq_true rfl), (Nat.le_of_ble_eq_true rfl)⟩ (ol_hB_X.brd (ol_ib_lt g3)) rfl (fun _ h => h) ⟨Nat.le_refl _, Nat.le_refl _⟩ (Nat.le_of_ble_eq_true rfl) dX1_board_88 rfl ?_
          obtain ⟨y10, e11, h⟩ := ol_of_bd h
          refine ol_cVw (As := [.int (β.1 1 x1.toNatClampNeg)]) hX (pc := 91) (wX1_fine V a (some (g 0 0)) (ol_WB V g β ++ ext) σ (β.1 1 x1.toNatClampNeg) y10 e11) lkX1_125 dcX1_fine ol_rr_X1_board_X1_fine 0 rfl rfl ⟨Nat.le_refl _, Nat.le_refl _⟩ (Nat.le_of_ble_eq_true rfl) dX1_board_91 rfl ?_
          have h := ol_of_some h
          subst h
          exact ol_iret hX (pc := 94) dX1_board_94 ⟨rfl, rfl⟩ ⟨Nat.le_refl _, Nat.le_refl _⟩
        · have h := ol_ifn c12 h
          by_cases c17 : x2 = 3
          · have h := ol_ifp c17 h
            refine ol_tsw_in hX (pc := 24) 95 dX1_board_24 c17 (by decide) (by decide) rfl (by decide) ?_
            refine ol_aload_n hX (pc := 95) dX1_board_95 rfl rfl ?_
            refine ol_aload_n hX (pc := 96) dX1_board_96 rfl rfl ?_
            refine ol_aload_n hX (pc := 97) dX1_board_97 rfl rfl ?_
            refine ol_xg_O_7 hX (pc := 98) q350 dX1_board_98 ?_
            obtain ⟨y13, e14, h⟩ := ol_of_bd h
            refine ol_cVrM (As := [.ref (a 10)]) hX (pc := 101) (wX9_ofTheDay V a (some (g 0 0)) ext g σ β 10 x1.toNatClampNeg ol_isr0 y13 e14) lkX1_9 dcX9_ofTheDay ⟨rfl, rfl⟩ ol_rr_X1_board_X9_ofTheDay (ol_hB_X.brd (ol_ib_lt g3)) rfl (fun _ h => h) ⟨Nat.le_refl _, Nat.le_refl _⟩ (Nat.le_of_ble_eq_true rfl) dX1_board_101 rfl ?_
            obtain ⟨y15, e16, h⟩ := ol_of_bd h
            refine ol_cVw (As := [.int y13]) hX (pc := 104) (wX1_fine V a (some (g 0 0)) (ol_WB V g β ++ ext) σ y13 y15 e16) lkX1_125 dcX1_fine ol_rr_X1_board_X1_fine 0 rfl rfl ⟨Nat.le_refl _, Nat.le_refl _⟩ (Nat.le_of_ble_eq_true rfl) dX1_board_104 rfl ?_
            have h := ol_of_some h
            subst h
            exact ol_iret hX (pc := 107) dX1_board_107 ⟨rfl, rfl⟩ ⟨Nat.le_refl _, Nat.le_refl _⟩
          · have h := ol_ifn c17 h
            by_cases c24 : x2 = 4
            · have h := ol_ifp c24 h
              refine ol_tsw_in hX (pc := 24) 108 dX1_board_24 c24 (by decide) (by decide) rfl (by decide) ?_
              refine ol_aload_n hX (pc := 108) dX1_board_108 rfl rfl ?_
              refine ol_aload_n hX (pc := 109) dX1_board_109 rfl rfl ?_
              refine ol_xg_O_7 hX (pc := 110) q350 dX1_board_110 ?_
              refine ol_xgN_R_1 hX (pc := 113) ol_isr0 q257 dX1_board_113 ?_
              refine ol_iload_n hX (pc := 116) dX1_board_116 rfl rfl ?_
              obtain ⟨g18, h⟩ := ol_of_og h
              refine ol_xl_R1 hX (pc := 117) ol_isr0 dX1_board_117 rfl (ol_in_vp g18) ?_
              refine ol_if_eq hX (pc := 118) 125 dX1_board_118 (by decide) (fun c23 => ?_) (fun c23 => ?_)
              · have h := ol_ifp c23 h
                refine ol_iconst hX (pc := 125) 0 dX1_board_125 ol_k_iconst_0 ?_
                obtain ⟨y19, e20, h⟩ := ol_of_bd h
                refine ol_cVw (As := [.int 0]) hX (pc := 126) (wX1_fine V a (some (g 0 0)) (ol_WB V g β ++ ext) σ 0 y19 e20) lkX1_125 dcX1_fine ol_rr_X1_board_X1_fine 0 rfl rfl ⟨Nat.le_refl _, Nat.le_refl _⟩ (Nat.le_of_ble_eq_true rfl) dX1_board_126 rfl ?_
                have h := ol_of_some h
                subst h
                exact ol_iret hX (pc := 129) dX1_board_129 ⟨rfl, rfl⟩ ⟨Nat.le_refl _, Nat.le_refl _⟩
              · have h := ol_ifn c23 h
                refine ol_iconst hX (pc := 121) 1 dX1_board_121 ol_k_iconst_1 ?_
                refine ol_goto hX (pc := 122) 126 dX1_board_122 (by decide) ?_
                obtain ⟨y21, e22, h⟩ := ol_of_bd h
                refine ol_cVw (As := [.int 1]) hX (pc := 126) (wX1_fine V a (some (g 0 0)) (ol_WB V g β ++ ext) σ 1 y21 e22) lkX1_125 dcX1_fine ol_rr_X1_board_X1_fine 0 rfl rfl ⟨Nat.le_refl _, Nat.le_refl _⟩ (Nat.le_of_ble_eq_true rfl) dX1_board_126 rfl ?_
                have h := ol_of_some h
                subst h
                exact ol_iret hX (pc := 129) dX1_board_129 ⟨rfl, rfl⟩ ⟨Nat.le_refl _, Nat.le_refl _⟩
            · have h := ol_ifn c24 h
              by_cases c28 : x2 = 5
              · have h := ol_ifp c28 h
                refine ol_tsw_in hX (pc := 24) 130 dX1_board_24 c28 (by decide) (by decide) rfl (by decide) ?_
                refine ol_aload_n hX (pc := 130) dX1_board_130 rfl rfl ?_
                refine ol_aload_n hX (pc := 131) dX1_board_131 rfl rfl ?_
                refine ol_xg_O_7 hX (pc := 132) q350 dX1_board_132 ?_
                refine ol_xgN_R_2 hX (pc := 135) ol_isr0 q259 dX1_board_135 ?_
                refine ol_iload_n hX (pc := 138) dX1_board_138 rfl rfl ?_
                obtain ⟨g25, h⟩ := ol_of_og h
                refine ol_xl_R2 hX (pc := 139) ol_isr0 dX1_board_139 rfl (ol_in_vp g25) ?_
                obtain ⟨y26, e27, h⟩ := ol_of_bd h
                refine ol_cVw (As := [.int (σ.1 (10 + 2) x1.toNatClampNeg)]) hX (pc := 140) (wX1_fine V a (some (g 0 0)) (ol_WB V g β ++ ext) σ (σ.1 (10 + 2) x1.toNatClampNeg) y26 e27) lkX1_125 dcX1_fine ol_rr_X1_board_X1_fine 0 rfl rfl ⟨Nat.le_refl _, Nat.le_refl _⟩ (Nat.le_of_ble_eq_true rfl) dX1_board_140 rfl ?_
                have h := ol_of_some h
                subst h
                exact ol_iret hX (pc := 143) dX1_board_143 ⟨rfl, rfl⟩ ⟨Nat.le_refl _, Nat.le_refl _⟩
              · have h := ol_ifn c28 h
                by_cases c32 : x2 = 6
                · have h := ol_ifp c32 h
                  refine ol_tsw_in hX (pc := 24) 144 dX1_board_24 c32 (by decide) (by decide) rfl (by decide) ?_
                  refine ol_aload_n hX (pc := 144) dX1_board_144 rfl rfl ?_
                  refine ol_aload_n hX (pc := 145) dX1_board_145 rfl rfl ?_
                  refine ol_xg_O_7 hX (pc := 146) q350 dX1_board_146 ?_
                  refine ol_xgN_R_4 hX (pc := 149) ol_isr0 q262 dX1_board_149 ?_
                  refine ol_iload_n hX (pc := 152) dX1_board_152 rfl rfl ?_
                  obtain ⟨g29, h⟩ := ol_of_og h
                  refine ol_xl_R4 hX (pc := 153) ol_isr0 dX1_board_153 rfl (ol_in_vp g29) ?_
                  obtain ⟨y30, e31, h⟩ := ol_of_bd h
                  refine ol_cVw (As := [.int (σ.1 (10 + 4) x1.toNatClampNeg)]) hX (pc := 154) (wX1_fine V a (some (g 0 0)) (ol_WB V g β ++ ext) σ (σ.1 (10 + 4) x1.toNatClampNeg) y30 e31) lkX1_125 dcX1_fine ol_rr_X1_board_X1_fine 0 rfl rfl ⟨Nat.le_refl _, Nat.le_refl _⟩ (Nat.le_of_ble_eq_true rfl) dX1_board_154 rfl ?_
                  have h := ol_of_some h
                  subst h
                  exact ol_iret hX (pc := 157) dX1_board_157 ⟨rfl, rfl⟩ ⟨Nat.le_refl _, Nat.le_refl _⟩
                · have h := ol_ifn c32 h
                  refine ol_tsw_out hX (pc := 24) 158 dX1_board_24 ?_ (by decide) ?_
                  · exact ol_sw7 c6 c9 c12 c17 c24 c28 c32
                  · refine ol_aload_n hX (pc := 158) dX1_board_158 rfl rfl ?_
                    refine ol_iconst hX (pc := 159) 1 dX1_board_159 ol_k_iconst_1 ?_
                    obtain ⟨y33, e34, h⟩ := ol_of_bd h
                    refine ol_cVw (As := [.int 1]) hX (pc := 160) (wX1_refused V a (some (g 0 0)) (ol_WB V g β ++ ext) σ 1 y33 e34) lkX1_81 dcX1_refused ol_rr_X1_board_X1_refused 0 rfl rfl ⟨Nat.le_refl _, Nat.le_refl _⟩ (Nat.le_of_ble_eq_true rfl) dX1_board_160 rfl ?_
                    have h := ol_of_some h
                    subst h
                    exact ol_iret hX (pc := 163) dX1_board_163 ⟨rfl, rfl⟩ ⟨Nat.le_refl _, Nat.le_refl _⟩
  · have h := ol_ifp c37 h
    refine ol_aload_n hX (pc := 8) dX1_board_8 rfl rfl ?_
    refine ol_iconst hX (pc := 9) 1 dX1_board_9 ol_k_iconst_1 ?_
    obtain ⟨y35, e36, h⟩ := ol_of_bd h
    refine ol_cVw (As := [.int 1]) hX (pc := 10) (wX1_refused V a (some (g 0 0)) (ol_WB V g β ++ ext) σ 1 y35 e36) lkX1_81 dcX1_refused ol_rr_X1_board_X1_refused 0 rfl rfl ⟨Nat.le_refl _, Nat.le_refl _⟩ (Nat.le_of_ble_eq_true rfl) dX1_board_10 rfl ?_
    have h := ol_of_some h
    subst h
    exact ol_iret hX (pc := 13) dX1_board_13 ⟨rfl, rfl⟩ ⟨Nat.le_refl _, Nat.le_refl _⟩
set_option maxHeartbeats 4000000 in
theorem wX1_word (V : ol_Gh) (a : Nat → Nat) (ext : va_W) (g : Nat → Nat → Nat) (σ : ol_Xm) (β : ol_Bd) (x1 : Int32) (x2 : Int32)  (z : Int32 × ol_Xm) (h : oX1_word σ β (g 0 0) x1 x2 = some z) : ol_Mt V yX1_word cX1_word 3 (some .int) ({ frames := 7, cells := 1, slots := 2, locals := 165 } : Room) true [.ref (a 0), .int x1, .int x2] (ol_Xc V a (some (g 0 0)) σ ++ (ol_WB V g β ++ ext)) (ol_Pw (some (.int z.1)) (ol_Xc V a (some (g 0 0)) z.2 ++ (ol_WB V g β ++ ext))) := by
  refine ol_MtOf (L0 := [some (.ref (a 0)), some (.int x1), some (.int x2)]) (by decide) (Nat.le_of_ble_eq_true rfl) rfl (fun X A hX => ?_)
  unfold oX1_word at h
  refine ol_aload_n hX (pc := 0) dX1_word_0 rfl rfl ?_
  refine ol_iload_n hX (pc := 1) dX1_word_1 rfl rfl ?_
  obtain ⟨y1, e2, h⟩ := ol_of_bd h
  refine ol_cVr (As := [.int x1]) hX (pc := 2) (wX1_isBoard V a ext g σ β x1 y1 e2) lkX1_149 dcX1_isBoard ⟨rfl, rfl⟩ ol_rr_X1_word_X1_isBoard 0 rfl rfl (fun _ h => h) ⟨(by first | omega | (dsimp only; omega)), (by first | omega | (dsimp only; omega))⟩ (Nat.le_of_ble_eq_true rfl) dX1_word_2 rfl ?_
  refine ol_if_ne hX (pc := 5) 14 dX1_word_5 (by decide) (fun c16 => ?_) (fun c16 => ?_)
  · have h := ol_ifn c16 h
    refine ol_iload_n hX (pc := 14) dX1_word_14 rfl rfl ?_
    obtain ⟨y3, e4, h⟩ := ol_of_bd h
    refine ol_cSr (As := [.int x2]) hX (pc := 15) (wX1_isPass V (ol_Xc V a (some (g 0 0)) σ ++ (ol_WB V g β ++ ext)) x2 y3 e4) lkX1_190 dcX1_isPass ⟨rfl, rfl⟩ ol_rr_X1_word_X1_isPass (fun _ h => h) ⟨(by first | omega | (dsimp only; omega)), (by first | omega | (dsimp only; omega))⟩ (Nat.le_of_ble_eq_true rfl) dX1_word_15 rfl ?_
    refine ol_if_eq hX (pc := 18) 46 dX1_word_18 (by decide) (fun c13 => ?_) (fun c13 => ?_)
    · have h := ol_ifp c13 h
      refine ol_aload_n hX (pc := 46) dX1_word_46 rfl rfl ?_
      refine ol_iconst hX (pc := 47) 2 dX1_word_47 ol_k_iconst_2 ?_
      obtain ⟨y5, e6, h⟩ := ol_of_bd h
      refine ol_cVw (As := [.int 2]) hX (pc := 48) (wX1_refused V a (some (g 0 0)) (ol_WB V g β ++ ext) σ 2 y5 e6) lkX1_81 dcX1_refused ol_rr_X1_word_X1_refused 0 rfl rfl ⟨(by first | omega | (dsimp only; omega)), (by first | omega | (dsimp only; omega))⟩ (Nat.le_of_ble_eq_true rfl) dX1_word_48 rfl ?_
      have h := ol_of_some h
      subst h
      exact ol_iret hX (pc := 51) dX1_word_51 ⟨rfl, rfl⟩ ⟨(by first | omega | (dsimp only; omega)), (by first | omega | (dsimp only; omega))⟩
    · have h := ol_ifn c13 h
      refine ol_aload_n hX (pc := 21) dX1_word_21 rfl rfl ?_
      refine ol_aload_n hX (pc := 22) dX1_word_22 rfl rfl ?_
      refine ol_iload_n hX (pc := 23) dX1_word_23 rfl rfl ?_
      refine ol_cVW (As := [.int x2]) hX (pc := 24) (wX1_wordsOf V _ (a 0) x2) lkX1_193 dcX1_wordsOf ⟨(Nat.le_of_ble_eq_true rfl), (Nat.le_of_ble_eq_true rfl)⟩ 0 rfl rfl ⟨(by first | omega | (dsimp only; omega)), (by first | omega | (dsimp only; omega))⟩ (Nat.le_of_ble_eq_true rfl) dX1_word_24 rfl (fun v w hp => ?_)
      obtain ⟨q7, rfl, rfl⟩ := hp
      refine ol_Geq (show _ = ol_Xc V a (some (g 0 0)) σ ++ (ol_WB V g β ++ (ext ++ [(q7, .inr (9, [.int x2, .ref (a 0)]))])) from by simp only [List.append_assoc]) ?_
      refine ol_Gwid (k := 1) (n := 2) (by first | omega | (dsimp only; omega)) (by first | omega | (dsimp only; omega)) ?_
      refine ol_aload_n hX (pc := 27) dX1_word_27 rfl rfl ?_
      refine ol_xg_O_6 hX (pc := 28) q348 rfl dX1_word_28 ?_
      refine ol_iload_n hX (pc := 31) dX1_word_31 rfl rfl ?_
      obtain ⟨g8, h⟩ := ol_of_og h
      refine ol_cVr (As := [.int x1]) hX (pc := 32) (wX6_board V g β _ ol_hB_X x1 g8) lkX1_153 dcX6_board ⟨rfl, rfl⟩ ⟨(Nat.le_of_ble_eq_true rfl), (Nat.le_of_ble_eq_true rfl)⟩ 37 rfl rfl (fun _ h => h) ⟨(by first | omega | (dsimp only; omega)), (by first | omega | (dsimp only; omega))⟩ (Nat.le_of_ble_eq_true rfl) dX1_word_32 rfl ?_
      obtain ⟨y9, e10, h⟩ := ol_of_bd h
      refine ol_cFr (As := [.ref (g 1 x1.toNatClampNeg)]) hX (pc := 35) (wX11_of V a (some (g 0 0)) _ q7 g σ β x2 x1.toNatClampNeg (List.mem_append_right _ List.mem_cons_self) y9 e10) (lw_F q1533 q1537 q1539 q139 q1541) (hX.fw (by decide +kernel) q1535 q1534 q1540 q1538 q1536) ol_dc_of ⟨rfl, rfl⟩ ⟨(Nat.le_of_ble_eq_true rfl), (Nat.le_of_ble_eq_true rfl)⟩ (List.mem_append_right _ (List.mem_append_right _ (List.mem_append_right _ List.mem_cons_self))) rfl (fun _ h => h) ⟨(by first | omega | (dsimp only; omega)), (by first | omega | (dsimp only; omega))⟩ (Nat.le_of_ble_eq_true rfl) dX1_word_35 rfl ?_
      refine ol_Geq (show _ = (ol_Xc V a (some (g 0 0)) σ ++ (ol_WB V g β ++ ext)) ++ [(q7, .inr (9, [.int x2, .ref (a 0)]))] from by simp only [List.append_assoc]) (ol_Gpre ?_)
      obtain ⟨y11, e12, h⟩ := ol_of_bd h
      refine ol_cVw (As := [.int y9]) hX (pc := 40) (wX1_fine V a (some (g 0 0)) (ol_WB V g β ++ ext) σ y9 y11 e12) lkX1_125 dcX1_fine ol_rr_X1_word_X1_fine 0 rfl rfl ⟨(by first | omega | (dsimp only; omega)), (by first | omega | (dsimp only; omega))⟩ (Nat.le_of_ble_eq_true rfl) dX1_word_40 rfl ?_
      refine ol_goto hX (pc := 43) 51 dX1_word_43 (by decide) ?_
      have h := ol_of_some h
      subst h
      exact ol_iret hX (pc := 51) dX1_word_51 ⟨rfl, rfl⟩ ⟨(by first | omega | (dsimp only; omega)), (by first | omega | (dsimp only; omega))⟩
  · have h := ol_ifp c16 h
    refine ol_aload_n hX (pc := 8) dX1_word_8 rfl rfl ?_
    refine ol_iconst hX (pc := 9) 1 dX1_word_9 ol_k_iconst_1 ?_
    obtain ⟨y14, e15, h⟩ := ol_of_bd h
    refine ol_cVw (As := [.int 1]) hX (pc := 10) (wX1_refused V a (some (g 0 0)) (ol_WB V g β ++ ext) σ 1 y14 e15) lkX1_81 dcX1_refused ol_rr_X1_word_X1_refused 0 rfl rfl ⟨(by first | omega | (dsimp only; omega)), (by first | omega | (dsimp only; omega))⟩ (Nat.le_of_ble_eq_true rfl) dX1_word_10 rfl ?_
    have h := ol_of_some h
    subst h
    exact ol_iret hX (pc := 13) dX1_word_13 ⟨rfl, rfl⟩ ⟨(by first | omega | (dsimp only; omega)), (by first | omega | (dsimp only; omega))⟩
set_option maxHeartbeats 4000000 in
theorem wX1_passOf_L32 {X : ol_Cx} {V : ol_Gh} {A : Nat → Prop} {a : Nat → Nat} {ext : va_W} {g : Nat → Nat → Nat} {z : ol_Xm} (hX : ol_CX X V A cX1_passOf RX1 "passOf" 4 (some (.object "OpenLines$Pass"))) (β : ol_Bd) (x1 : Int32) (x2 : Int32) (x3 : Int32)   (σ : ol_Xm) (h : oX1_passOf_L32 β (g 0 0) x1 x2 x3 σ = some z) : ol_G X V A true (ol_Pw (some (.ref (a 2))) (ol_Xc V a (some (g 0 0)) z ++ (ol_WB V g β ++ ext))) ({ frames := 14, cells := 1, slots := 2, locals := 653 } : Room) 4 0 0 (ol_Xc V a (some (g 0 0)) σ ++ (ol_WB V g β ++ ext)) 32 [some (.ref (a 0)), some (.int x1), some (.int x2), none] [] := by
  unfold oX1_passOf_L32 at h
  refine ol_aload_n hX (pc := 32) dX1_passOf_32 rfl rfl ?_
  refine ol_xg_O_0 hX (pc := 33) q340 dX1_passOf_33 ?_
  refine ol_aload_n hX (pc := 36) dX1_passOf_36 rfl rfl ?_
  refine ol_xg_O_6 hX (pc := 37) q348 rfl dX1_passOf_37 ?_
  refine ol_iload_n hX (pc := 40) dX1_passOf_40 rfl rfl ?_
  refine ol_aload_n hX (pc := 41) dX1_passOf_41 rfl rfl ?_
  refine ol_iload_n hX (pc := 42) dX1_passOf_42 rfl rfl ?_
  refine ol_cVW (As := [.int x1]) hX (pc := 43) (wX1_wordsOf V _ (a 0) x1) lkX1_193 dcX1_wordsOf ⟨(Nat.le_of_ble_eq_true rfl), (Nat.le_of_ble_eq_true rfl)⟩ 0 rfl rfl ⟨(by first | omega | (dsimp only; omega)), (by first | omega | (dsimp only; omega))⟩ (Nat.le_of_ble_eq_true rfl) dX1_passOf_43 rfl (fun v w hp => ?_)
  obtain ⟨q1, rfl, rfl⟩ := hp
  refine ol_Geq (show _ = ol_Xc V a (some (g 0 0)) σ ++ (ol_WB V g β ++ (ext ++ [(q1, .inr (9, [.int x1, .ref (a 0)]))])) from by simp only [List.append_assoc]) ?_
  refine ol_Gwid (k := 1) (n := 2) (by first | omega | (dsimp only; omega)) (by first | omega | (dsimp only; omega)) ?_
  refine ol_aload_n hX (pc := 46) dX1_passOf_46 rfl rfl ?_
  refine ol_xg_O_7 hX (pc := 47) q350 dX1_passOf_47 ?_
  refine ol_xgN_R_5 hX (pc := 50) ol_isr0 q264 dX1_passOf_50 ?_
  refine ol_sipush hX (pc := 53) 400 dX1_passOf_53 ol_k_sipush_400 ?_
  obtain ⟨y2, e3, h⟩ := ol_of_bd h
  refine ol_cVw (As := [.ref (g 0 0), .int x2, .ref q1, .ref (a (10 + 5)), .int 400]) hX (pc := 56) (wX2_goes V a (some (g 0 0)) (ext ++ [(q1, .inr (9, [.int x1, .ref (a 0)]))]) g q1 σ β 10 (fun σ i => oX11_of σ β (g 0 0) x1 i) x2 400 ol_isr0 (ol_word1 (List.mem_append_right _ List.mem_cons_self)) y2 e3) lkX1_215 dcX2_goes ol_rr_X1_passOf_X2_goes 2 rfl rfl ⟨(by first | omega | (dsimp only; omega)), (by first | omega | (dsimp only; omega))⟩ (Nat.le_of_ble_eq_true rfl) dX1_passOf_56 rfl ?_
  refine ol_Geq (show _ = (ol_Xc V a (some (g 0 0)) y2 ++ (ol_WB V g β ++ ext)) ++ [(q1, .inr (9, [.int x1, .ref (a 0)]))] from by simp only [List.append_assoc]) (ol_Gpre ?_)
  refine ol_pop hX (pc := 59) dX1_passOf_59 rfl ?_
  refine ol_aload_n hX (pc := 60) dX1_passOf_60 rfl rfl ?_
  refine ol_iload_n hX (pc := 61) dX1_passOf_61 rfl rfl ?_
  refine ol_xp_O_11 hX (pc := 62) q354 dX1_passOf_62 ?_
  refine ol_aload_n hX (pc := 65) dX1_passOf_65 rfl rfl ?_
  refine ol_iload_n hX (pc := 66) dX1_passOf_66 rfl rfl ?_
  refine ol_xp_O_12 hX (pc := 67) q355 dX1_passOf_67 ?_
  refine ol_aload_n hX (pc := 70) dX1_passOf_70 rfl rfl ?_
  refine ol_xg_O_0 hX (pc := 71) q340 dX1_passOf_71 ?_
  have h := ol_of_some h
  subst h
  exact ol_aret hX (pc := 74) (Or.inl ⟨_, rfl⟩) (Or.inr ⟨_, rfl⟩) dX1_passOf_74 ⟨rfl, rfl⟩ ⟨(by first | omega | (dsimp only; omega)), (by first | omega | (dsimp only; omega))⟩
set_option maxHeartbeats 4000000 in
theorem wX1_passOf (V : ol_Gh) (a : Nat → Nat) (ext : va_W) (g : Nat → Nat → Nat) (σ : ol_Xm) (β : ol_Bd) (x1 : Int32) (x2 : Int32) (x3 : Int32)  (z : ol_Xm) (h : oX1_passOf σ β (g 0 0) x1 x2 x3 = some z) : ol_Mt V yX1_passOf cX1_passOf 4 (some (.object "OpenLines$Pass")) ({ frames := 14, cells := 1, slots := 2, locals := 653 } : Room) true [.ref (a 0), .int x1, .int x2, .int x3] (ol_Xc V a (some (g 0 0)) σ ++ (ol_WB V g β ++ ext)) (ol_Pw (some (.ref (a 2))) (ol_Xc V a (some (g 0 0)) z ++ (ol_WB V g β ++ ext))) := by
  refine ol_MtOf (L0 := [some (.ref (a 0)), some (.int x1), some (.int x2), some (.int x3)]) (by decide) (Nat.le_of_ble_eq_true rfl) rfl (fun X A hX => ?_)
  unfold oX1_passOf at h
  refine ol_iload_n hX (pc := 0) dX1_passOf_0 rfl rfl ?_
  refine ol_aload_n hX (pc := 1) dX1_passOf_1 rfl rfl ?_
  refine ol_xg_O_11 hX (pc := 2) q354 dX1_passOf_2 ?_
  refine ol_icmp_ne hX (pc := 5) 32 dX1_passOf_5 (by decide) (fun c3 => ?_) (fun c3 => ?_)
  · have h := ol_ifn c3 h
    refine ol_Gdrop 3 ?_
    refine ol_Gwid (k := 0) (n := 0) (by first | omega | (dsimp only; omega)) (by first | omega | (dsimp only; omega)) ?_
    exact wX1_passOf_L32 hX β x1 x2 x3 σ h
  · have h := ol_ifp c3 h
    refine ol_iload_n hX (pc := 8) dX1_passOf_8 rfl rfl ?_
    refine ol_aload_n hX (pc := 9) dX1_passOf_9 rfl rfl ?_
    refine ol_xg_O_12 hX (pc := 10) q355 dX1_passOf_10 ?_
    refine ol_icmp_ne hX (pc := 13) 32 dX1_passOf_13 (by decide) (fun c2 => ?_) (fun c2 => ?_)
    · have h := ol_ifn c2 h
      refine ol_Gdrop 3 ?_
      refine ol_Gwid (k := 0) (n := 0) (by first | omega | (dsimp only; omega)) (by first | omega | (dsimp only; omega)) ?_
      exact wX1_passOf_L32 hX β x1 x2 x3 σ h
    · have h := ol_ifp c2 h
      refine ol_iload_n hX (pc := 16) dX1_passOf_16 rfl rfl ?_
      refine ol_aload_n hX (pc := 17) dX1_passOf_17 rfl rfl ?_
      refine ol_xg_O_0 hX (pc := 18) q340 dX1_passOf_18 ?_
      refine ol_xgN_P_12 hX (pc := 21) q180 dX1_passOf_21 ?_
      refine ol_icmp_gt hX (pc := 24) 32 dX1_passOf_24 (by decide) (fun c1 => ?_) (fun c1 => ?_)
      · have h := ol_ifp c1 h
        refine ol_Gdrop 3 ?_
        refine ol_Gwid (k := 0) (n := 0) (by first | omega | (dsimp only; omega)) (by first | omega | (dsimp only; omega)) ?_
        exact wX1_passOf_L32 hX β x1 x2 x3 σ h
      · have h := ol_ifn c1 h
        refine ol_aload_n hX (pc := 27) dX1_passOf_27 rfl rfl ?_
        refine ol_xg_O_0 hX (pc := 28) q340 dX1_passOf_28 ?_
        have h := ol_of_some h
        subst h
        exact ol_aret hX (pc := 31) (Or.inl ⟨_, rfl⟩) (Or.inr ⟨_, rfl⟩) dX1_passOf_31 ⟨rfl, rfl⟩ ⟨(by first | omega | (dsimp only; omega)), (by first | omega | (dsimp only; omega))⟩
set_option maxHeartbeats 4000000 in
theorem wX1_drives (V : ol_Gh) (a : Nat → Nat) (ext : va_W) (g : Nat → Nat → Nat) (σ : ol_Xm) (β : ol_Bd) (x1 : Int32) (x2 : Int32) (x3 : Int32) (x4 : Int32)  (z : Int32 × ol_Xm) (h : oX1_drives σ β (g 0 0) x1 x2 x3 x4 = some z) : ol_Mt V yX1_drives cX1_drives 6 (some .int) ({ frames := 15, cells := 1, slots := 2, locals := 676 } : Room) true [.ref (a 0), .int x1, .int x2, .int x3, .int x4] (ol_Xc V a (some (g 0 0)) σ ++ (ol_WB V g β ++ ext)) (ol_Pw (some (.int z.1)) (ol_Xc V a (some (g 0 0)) z.2 ++ (ol_WB V g β ++ ext))) := by
  refine ol_MtOf (L0 := [some (.ref (a 0)), some (.int x1), some (.int x2), some (.int x3), some (.int x4), none]) (by decide) (Nat.le_of_ble_eq_true rfl) rfl (fun X A hX => ?_)
  unfold oX1_drives at h
  refine ol_aload_n hX (pc := 0) dX1_drives_0 rfl rfl ?_
  refine ol_aload_n hX (pc := 1) dX1_drives_1 rfl rfl ?_
  refine ol_iload_n hX (pc := 2) dX1_drives_2 rfl rfl ?_
  obtain ⟨y1, e2, h⟩ := ol_of_bd h
  refine ol_cVr (As := [.int x3]) hX (pc := 3) (wX1_isBoard V a ext g σ β x3 y1 e2) lkX1_149 dcX1_isBoard ⟨rfl, rfl⟩ ol_rr_X1_drives_X1_isBoard 0 rfl rfl (fun _ h => h) ⟨(by first | omega | (dsimp only; omega)), (by first | omega | (dsimp only; omega))⟩ (Nat.le_of_ble_eq_true rfl) dX1_drives_3 rfl ?_
  refine ol_iload_n hX (pc := 6) dX1_drives_6 rfl rfl ?_
  refine ol_iload_n hX (pc := 7) dX1_drives_7 rfl rfl ?_
  refine ol_iload hX (pc := 8) dX1_drives_8 rfl ?_
  obtain ⟨y3, e4, h⟩ := ol_of_bd h
  refine ol_cVr (As := [.int y1, .int x1, .int x2, .int x4]) hX (pc := 10) (wX1_refuses V a ext g σ β y1 x1 x2 x4 y3 e4) lkX1_219 dcX1_refuses ⟨rfl, rfl⟩ ol_rr_X1_drives_X1_refuses 0 rfl rfl (fun _ h => h) ⟨(by first | omega | (dsimp only; omega)), (by first | omega | (dsimp only; omega))⟩ (Nat.le_of_ble_eq_true rfl) dX1_drives_10 rfl ?_
  refine ol_istore hX (pc := 13) [some (.ref (a 0)), some (.int x1), some (.int x2), some (.int x3), some (.int x4), some (.int y3)] dX1_drives_13 (by decide) rfl rfl ?_
  refine ol_iload hX (pc := 15) dX1_drives_15 rfl ?_
  refine ol_if_le hX (pc := 17) 29 dX1_drives_17 (by decide) (fun c12 => ?_) (fun c12 => ?_)
  · have h := ol_ifp c12 h
    refine ol_aload_n hX (pc := 29) dX1_drives_29 rfl rfl ?_
    refine ol_aload_n hX (pc := 30) dX1_drives_30 rfl rfl ?_
    refine ol_iload_n hX (pc := 31) dX1_drives_31 rfl rfl ?_
    refine ol_iload_n hX (pc := 32) dX1_drives_32 rfl rfl ?_
    refine ol_iload hX (pc := 33) dX1_drives_33 rfl ?_
    obtain ⟨y5, e6, h⟩ := ol_of_bd h
    refine ol_cVw (As := [.int x1, .int x2, .int x4]) hX (pc := 35) (wX1_passOf V a ext g σ β x1 x2 x4 y5 e6) lkX1_223 dcX1_passOf ol_rr_X1_drives_X1_passOf 0 rfl rfl ⟨(by first | omega | (dsimp only; omega)), (by first | omega | (dsimp only; omega))⟩ (Nat.le_of_ble_eq_true rfl) dX1_drives_35 rfl ?_
    refine ol_Gwid (k := 1) (n := 2) (by first | omega | (dsimp only; omega)) (by first | omega | (dsimp only; omega)) ?_
    refine ol_xgN_P_1 hX (pc := 38) q164 dX1_drives_38 ?_
    refine ol_sipush hX (pc := 41) 401 dX1_drives_41 ol_k_sipush_401 ?_
    refine ol_iload_n hX (pc := 44) dX1_drives_44 rfl rfl ?_
    refine ol_imul hX (pc := 45) dX1_drives_45 ?_
    refine ol_iload hX (pc := 46) dX1_drives_46 rfl ?_
    refine ol_iadd hX (pc := 48) dX1_drives_48 ?_
    obtain ⟨g7, h⟩ := ol_of_og h
    refine ol_xl_4 hX (pc := 49) dX1_drives_49 rfl (ol_in_vp g7) ?_
    obtain ⟨y8, e9, h⟩ := ol_of_bd h
    refine ol_cVw (As := [.int (y5.1 4 (((401 * x3) + x4).toNatClampNeg))]) hX (pc := 50) (wX1_fine V a (some (g 0 0)) (ol_WB V g β ++ ext) y5 (y5.1 4 (((401 * x3) + x4).toNatClampNeg)) y8 e9) lkX1_125 dcX1_fine ol_rr_X1_drives_X1_fine 0 rfl rfl ⟨(by first | omega | (dsimp only; omega)), (by first | omega | (dsimp only; omega))⟩ (Nat.le_of_ble_eq_true rfl) dX1_drives_50 rfl ?_
    have h := ol_of_some h
    subst h
    exact ol_iret hX (pc := 53) dX1_drives_53 ⟨rfl, rfl⟩ ⟨(by first | omega | (dsimp only; omega)), (by first | omega | (dsimp only; omega))⟩
  · have h := ol_ifn c12 h
    refine ol_aload_n hX (pc := 20) dX1_drives_20 rfl rfl ?_
    refine ol_iload hX (pc := 21) dX1_drives_21 rfl ?_
    obtain ⟨y10, e11, h⟩ := ol_of_bd h
    refine ol_cVw (As := [.int y3]) hX (pc := 23) (wX1_refused V a (some (g 0 0)) (ol_WB V g β ++ ext) σ y3 y10 e11) lkX1_81 dcX1_refused ol_rr_X1_drives_X1_refused 0 rfl rfl ⟨(by first | omega | (dsimp only; omega)), (by first | omega | (dsimp only; omega))⟩ (Nat.le_of_ble_eq_true rfl) dX1_drives_23 rfl ?_
    refine ol_goto hX (pc := 26) 53 dX1_drives_26 (by decide) ?_
    have h := ol_of_some h
    subst h
    exact ol_iret hX (pc := 53) dX1_drives_53 ⟨rfl, rfl⟩ ⟨(by first | omega | (dsimp only; omega)), (by first | omega | (dsimp only; omega))⟩
set_option maxHeartbeats 4000000 in
theorem wX1_seen (V : ol_Gh) (a : Nat → Nat) (ext : va_W) (g : Nat → Nat → Nat) (σ : ol_Xm) (β : ol_Bd) (x1 : Int32) (x2 : Int32) (x3 : Int32) (x4 : Int32)  (z : Int32 × ol_Xm) (h : oX1_seen σ β (g 0 0) x1 x2 x3 x4 = some z) : ol_Mt V yX1_seen cX1_seen 6 (some .int) ({ frames := 15, cells := 1, slots := 2, locals := 676 } : Room) true [.ref (a 0), .int x1, .int x2, .int x3, .int x4] (ol_Xc V a (some (g 0 0)) σ ++ (ol_WB V g β ++ ext)) (ol_Pw (some (.int z.1)) (ol_Xc V a (some (g 0 0)) z.2 ++ (ol_WB V g β ++ ext))) := by
  refine ol_MtOf (L0 := [some (.ref (a 0)), some (.int x1), some (.int x2), some (.int x3), some (.int x4), none]) (by decide) (Nat.le_of_ble_eq_true rfl) rfl (fun X A hX => ?_)
  unfold oX1_seen at h
  refine ol_aload_n hX (pc := 0) dX1_seen_0 rfl rfl ?_
  refine ol_aload_n hX (pc := 1) dX1_seen_1 rfl rfl ?_
  refine ol_iload_n hX (pc := 2) dX1_seen_2 rfl rfl ?_
  obtain ⟨y1, e2, h⟩ := ol_of_bd h
  refine ol_cVr (As := [.int x3]) hX (pc := 3) (wX1_isBoard V a ext g σ β x3 y1 e2) lkX1_149 dcX1_isBoard ⟨rfl, rfl⟩ ol_rr_X1_seen_X1_isBoard 0 rfl rfl (fun _ h => h) ⟨(by first | omega | (dsimp only; omega)), (by first | omega | (dsimp only; omega))⟩ (Nat.le_of_ble_eq_true rfl) dX1_seen_3 rfl ?_
  refine ol_iload_n hX (pc := 6) dX1_seen_6 rfl rfl ?_
  refine ol_iload_n hX (pc := 7) dX1_seen_7 rfl rfl ?_
  refine ol_iload hX (pc := 8) dX1_seen_8 rfl ?_
  obtain ⟨y3, e4, h⟩ := ol_of_bd h
  refine ol_cVr (As := [.int y1, .int x1, .int x2, .int x4]) hX (pc := 10) (wX1_refuses V a ext g σ β y1 x1 x2 x4 y3 e4) lkX1_219 dcX1_refuses ⟨rfl, rfl⟩ ol_rr_X1_seen_X1_refuses 0 rfl rfl (fun _ h => h) ⟨(by first | omega | (dsimp only; omega)), (by first | omega | (dsimp only; omega))⟩ (Nat.le_of_ble_eq_true rfl) dX1_seen_10 rfl ?_
  refine ol_istore hX (pc := 13) [some (.ref (a 0)), some (.int x1), some (.int x2), some (.int x3), some (.int x4), some (.int y3)] dX1_seen_13 (by decide) rfl rfl ?_
  refine ol_iload hX (pc := 15) dX1_seen_15 rfl ?_
  refine ol_if_le hX (pc := 17) 29 dX1_seen_17 (by decide) (fun c12 => ?_) (fun c12 => ?_)
  · have h := ol_ifp c12 h
    refine ol_aload_n hX (pc := 29) dX1_seen_29 rfl rfl ?_
    refine ol_aload_n hX (pc := 30) dX1_seen_30 rfl rfl ?_
    refine ol_iload_n hX (pc := 31) dX1_seen_31 rfl rfl ?_
    refine ol_iload_n hX (pc := 32) dX1_seen_32 rfl rfl ?_
    refine ol_iload hX (pc := 33) dX1_seen_33 rfl ?_
    obtain ⟨y5, e6, h⟩ := ol_of_bd h
    refine ol_cVw (As := [.int x1, .int x2, .int x4]) hX (pc := 35) (wX1_passOf V a ext g σ β x1 x2 x4 y5 e6) lkX1_223 dcX1_passOf ol_rr_X1_seen_X1_passOf 0 rfl rfl ⟨(by first | omega | (dsimp only; omega)), (by first | omega | (dsimp only; omega))⟩ (Nat.le_of_ble_eq_true rfl) dX1_seen_35 rfl ?_
    refine ol_Gwid (k := 1) (n := 2) (by first | omega | (dsimp only; omega)) (by first | omega | (dsimp only; omega)) ?_
    refine ol_xgN_P_2 hX (pc := 38) q166 dX1_seen_38 ?_
    refine ol_sipush hX (pc := 41) 401 dX1_seen_41 ol_k_sipush_401 ?_
    refine ol_iload_n hX (pc := 44) dX1_seen_44 rfl rfl ?_
    refine ol_imul hX (pc := 45) dX1_seen_45 ?_
    refine ol_iload hX (pc := 46) dX1_seen_46 rfl ?_
    refine ol_iadd hX (pc := 48) dX1_seen_48 ?_
    obtain ⟨g7, h⟩ := ol_of_og h
    refine ol_xl_5 hX (pc := 49) dX1_seen_49 rfl (ol_in_vp g7) ?_
    obtain ⟨y8, e9, h⟩ := ol_of_bd h
    refine ol_cVw (As := [.int (y5.1 5 (((401 * x3) + x4).toNatClampNeg))]) hX (pc := 50) (wX1_fine V a (some (g 0 0)) (ol_WB V g β ++ ext) y5 (y5.1 5 (((401 * x3) + x4).toNatClampNeg)) y8 e9) lkX1_125 dcX1_fine ol_rr_X1_seen_X1_fine 0 rfl rfl ⟨(by first | omega | (dsimp only; omega)), (by first | omega | (dsimp only; omega))⟩ (Nat.le_of_ble_eq_true rfl) dX1_seen_50 rfl ?_
    have h := ol_of_some h
    subst h
    exact ol_iret hX (pc := 53) dX1_seen_53 ⟨rfl, rfl⟩ ⟨(by first | omega | (dsimp only; omega)), (by first | omega | (dsimp only; omega))⟩
  · have h := ol_ifn c12 h
    refine ol_aload_n hX (pc := 20) dX1_seen_20 rfl rfl ?_
    refine ol_iload hX (pc := 21) dX1_seen_21 rfl ?_
    obtain ⟨y10, e11, h⟩ := ol_of_bd h
    refine ol_cVw (As := [.int y3]) hX (pc := 23) (wX1_refused V a (some (g 0 0)) (ol_WB V g β ++ ext) σ y3 y10 e11) lkX1_81 dcX1_refused ol_rr_X1_seen_X1_refused 0 rfl rfl ⟨(by first | omega | (dsimp only; omega)), (by first | omega | (dsimp only; omega))⟩ (Nat.le_of_ble_eq_true rfl) dX1_seen_23 rfl ?_
    refine ol_goto hX (pc := 26) 53 dX1_seen_26 (by decide) ?_
    have h := ol_of_some h
    subst h
    exact ol_iret hX (pc := 53) dX1_seen_53 ⟨rfl, rfl⟩ ⟨(by first | omega | (dsimp only; omega)), (by first | omega | (dsimp only; omega))⟩
set_option maxHeartbeats 4000000 in
theorem wX1_taken (V : ol_Gh) (a : Nat → Nat) (ext : va_W) (g : Nat → Nat → Nat) (σ : ol_Xm) (β : ol_Bd) (x1 : Int32) (x2 : Int32) (x3 : Int32) (x4 : Int32)  (z : Int32 × ol_Xm) (h : oX1_taken σ β (g 0 0) x1 x2 x3 x4 = some z) : ol_Mt V yX1_taken cX1_taken 6 (some .int) ({ frames := 15, cells := 1, slots := 2, locals := 676 } : Room) true [.ref (a 0), .int x1, .int x2, .int x3, .int x4] (ol_Xc V a (some (g 0 0)) σ ++ (ol_WB V g β ++ ext)) (ol_Pw (some (.int z.1)) (ol_Xc V a (some (g 0 0)) z.2 ++ (ol_WB V g β ++ ext))) := by
  refine ol_MtOf (L0 := [some (.ref (a 0)), some (.int x1), some (.int x2), some (.int x3), some (.int x4), none]) (by decide) (Nat.le_of_ble_eq_true rfl) rfl (fun X A hX => ?_)
  unfold oX1_taken at h
  refine ol_aload_n hX (pc := 0) dX1_taken_0 rfl rfl ?_
  refine ol_aload_n hX (pc := 1) dX1_taken_1 rfl rfl ?_
  refine ol_iload_n hX (pc := 2) dX1_taken_2 rfl rfl ?_
  obtain ⟨y1, e2, h⟩ := ol_of_bd h
  refine ol_cVr (As := [.int x3]) hX (pc := 3) (wX1_isBoard V a ext g σ β x3 y1 e2) lkX1_149 dcX1_isBoard ⟨rfl, rfl⟩ ol_rr_X1_taken_X1_isBoard 0 rfl rfl (fun _ h => h) ⟨(by first | omega | (dsimp only; omega)), (by first | omega | (dsimp only; omega))⟩ (Nat.le_of_ble_eq_true rfl) dX1_taken_3 rfl ?_
  refine ol_iload_n hX (pc := 6) dX1_taken_6 rfl rfl ?_
  refine ol_iload_n hX (pc := 7) dX1_taken_7 rfl rfl ?_
  refine ol_iload hX (pc := 8) dX1_taken_8 rfl ?_
  obtain ⟨y3, e4, h⟩ := ol_of_bd h
  refine ol_cVr (As := [.int y1, .int x1, .int x2, .int x4]) hX (pc := 10) (wX1_refuses V a ext g σ β y1 x1 x2 x4 y3 e4) lkX1_219 dcX1_refuses ⟨rfl, rfl⟩ ol_rr_X1_taken_X1_refuses 0 rfl rfl (fun _ h => h) ⟨(by first | omega | (dsimp only; omega)), (by first | omega | (dsimp only; omega))⟩ (Nat.le_of_ble_eq_true rfl) dX1_taken_10 rfl ?_
  refine ol_istore hX (pc := 13) [some (.ref (a 0)), some (.int x1), some (.int x2), some (.int x3), some (.int x4), some (.int y3)] dX1_taken_13 (by decide) rfl rfl ?_
  refine ol_iload hX (pc := 15) dX1_taken_15 rfl ?_
  refine ol_if_le hX (pc := 17) 29 dX1_taken_17 (by decide) (fun c12 => ?_) (fun c12 => ?_)
  · have h := ol_ifp c12 h
    refine ol_aload_n hX (pc := 29) dX1_taken_29 rfl rfl ?_
    refine ol_aload_n hX (pc := 30) dX1_taken_30 rfl rfl ?_
    refine ol_iload_n hX (pc := 31) dX1_taken_31 rfl rfl ?_
    refine ol_iload_n hX (pc := 32) dX1_taken_32 rfl rfl ?_
    refine ol_iload hX (pc := 33) dX1_taken_33 rfl ?_
    obtain ⟨y5, e6, h⟩ := ol_of_bd h
    refine ol_cVw (As := [.int x1, .int x2, .int x4]) hX (pc := 35) (wX1_passOf V a ext g σ β x1 x2 x4 y5 e6) lkX1_223 dcX1_passOf ol_rr_X1_taken_X1_passOf 0 rfl rfl ⟨(by first | omega | (dsimp only; omega)), (by first | omega | (dsimp only; omega))⟩ (Nat.le_of_ble_eq_true rfl) dX1_taken_35 rfl ?_
    refine ol_Gwid (k := 1) (n := 2) (by first | omega | (dsimp only; omega)) (by first | omega | (dsimp only; omega)) ?_
    refine ol_xgN_P_3 hX (pc := 38) q168 dX1_taken_38 ?_
    refine ol_sipush hX (pc := 41) 401 dX1_taken_41 ol_k_sipush_401 ?_
    refine ol_iload_n hX (pc := 44) dX1_taken_44 rfl rfl ?_
    refine ol_imul hX (pc := 45) dX1_taken_45 ?_
    refine ol_iload hX (pc := 46) dX1_taken_46 rfl ?_
    refine ol_iadd hX (pc := 48) dX1_taken_48 ?_
    obtain ⟨g7, h⟩ := ol_of_og h
    refine ol_xl_6 hX (pc := 49) dX1_taken_49 rfl (ol_in_vp g7) ?_
    obtain ⟨y8, e9, h⟩ := ol_of_bd h
    refine ol_cVw (As := [.int (y5.1 6 (((401 * x3) + x4).toNatClampNeg))]) hX (pc := 50) (wX1_fine V a (some (g 0 0)) (ol_WB V g β ++ ext) y5 (y5.1 6 (((401 * x3) + x4).toNatClampNeg)) y8 e9) lkX1_125 dcX1_fine ol_rr_X1_taken_X1_fine 0 rfl rfl ⟨(by first | omega | (dsimp only; omega)), (by first | omega | (dsimp only; omega))⟩ (Nat.le_of_ble_eq_true rfl) dX1_taken_50 rfl ?_
    have h := ol_of_some h
    subst h
    exact ol_iret hX (pc := 53) dX1_taken_53 ⟨rfl, rfl⟩ ⟨(by first | omega | (dsimp only; omega)), (by first | omega | (dsimp only; omega))⟩
  · have h := ol_ifn c12 h
    refine ol_aload_n hX (pc := 20) dX1_taken_20 rfl rfl ?_
    refine ol_iload hX (pc := 21) dX1_taken_21 rfl ?_
    obtain ⟨y10, e11, h⟩ := ol_of_bd h
    refine ol_cVw (As := [.int y3]) hX (pc := 23) (wX1_refused V a (some (g 0 0)) (ol_WB V g β ++ ext) σ y3 y10 e11) lkX1_81 dcX1_refused ol_rr_X1_taken_X1_refused 0 rfl rfl ⟨(by first | omega | (dsimp only; omega)), (by first | omega | (dsimp only; omega))⟩ (Nat.le_of_ble_eq_true rfl) dX1_taken_23 rfl ?_
    refine ol_goto hX (pc := 26) 53 dX1_taken_26 (by decide) ?_
    have h := ol_of_some h
    subst h
    exact ol_iret hX (pc := 53) dX1_taken_53 ⟨rfl, rfl⟩ ⟨(by first | omega | (dsimp only; omega)), (by first | omega | (dsimp only; omega))⟩
set_option maxHeartbeats 4000000 in
theorem wX1_withdrawn (V : ol_Gh) (a : Nat → Nat) (ext : va_W) (g : Nat → Nat → Nat) (σ : ol_Xm) (β : ol_Bd) (x1 : Int32) (x2 : Int32) (x3 : Int32) (x4 : Int32)  (z : Int32 × ol_Xm) (h : oX1_withdrawn σ β (g 0 0) x1 x2 x3 x4 = some z) : ol_Mt V yX1_withdrawn cX1_withdrawn 6 (some .int) ({ frames := 15, cells := 1, slots := 2, locals := 676 } : Room) true [.ref (a 0), .int x1, .int x2, .int x3, .int x4] (ol_Xc V a (some (g 0 0)) σ ++ (ol_WB V g β ++ ext)) (ol_Pw (some (.int z.1)) (ol_Xc V a (some (g 0 0)) z.2 ++ (ol_WB V g β ++ ext))) := by
  refine ol_MtOf (L0 := [some (.ref (a 0)), some (.int x1), some (.int x2), some (.int x3), some (.int x4), none]) (by decide) (Nat.le_of_ble_eq_true rfl) rfl (fun X A hX => ?_)
  unfold oX1_withdrawn at h
  refine ol_aload_n hX (pc := 0) dX1_withdrawn_0 rfl rfl ?_
  refine ol_aload_n hX (pc := 1) dX1_withdrawn_1 rfl rfl ?_
  refine ol_iload_n hX (pc := 2) dX1_withdrawn_2 rfl rfl ?_
  obtain ⟨y1, e2, h⟩ := ol_of_bd h
  refine ol_cVr (As := [.int x3]) hX (pc := 3) (wX1_isBoard V a ext g σ β x3 y1 e2) lkX1_149 dcX1_isBoard ⟨rfl, rfl⟩ ol_rr_X1_withdrawn_X1_isBoard 0 rfl rfl (fun _ h => h) ⟨(by first | omega | (dsimp only; omega)), (by first | omega | (dsimp only; omega))⟩ (Nat.le_of_ble_eq_true rfl) dX1_withdrawn_3 rfl ?_
  refine ol_iload_n hX (pc := 6) dX1_withdrawn_6 rfl rfl ?_
  refine ol_iload_n hX (pc := 7) dX1_withdrawn_7 rfl rfl ?_
  refine ol_iload hX (pc := 8) dX1_withdrawn_8 rfl ?_
  obtain ⟨y3, e4, h⟩ := ol_of_bd h
  refine ol_cVr (As := [.int y1, .int x1, .int x2, .int x4]) hX (pc := 10) (wX1_refuses V a ext g σ β y1 x1 x2 x4 y3 e4) lkX1_219 dcX1_refuses ⟨rfl, rfl⟩ ol_rr_X1_withdrawn_X1_refuses 0 rfl rfl (fun _ h => h) ⟨(by first | omega | (dsimp only; omega)), (by first | omega | (dsimp only; omega))⟩ (Nat.le_of_ble_eq_true rfl) dX1_withdrawn_10 rfl ?_
  refine ol_istore hX (pc := 13) [some (.ref (a 0)), some (.int x1), some (.int x2), some (.int x3), some (.int x4), some (.int y3)] dX1_withdrawn_13 (by decide) rfl rfl ?_
  refine ol_iload hX (pc := 15) dX1_withdrawn_15 rfl ?_
  refine ol_if_le hX (pc := 17) 29 dX1_withdrawn_17 (by decide) (fun c12 => ?_) (fun c12 => ?_)
  · have h := ol_ifp c12 h
    refine ol_aload_n hX (pc := 29) dX1_withdrawn_29 rfl rfl ?_
    refine ol_aload_n hX (pc := 30) dX1_withdrawn_30 rfl rfl ?_
    refine ol_iload_n hX (pc := 31) dX1_withdrawn_31 rfl rfl ?_
    refine ol_iload_n hX (pc := 32) dX1_withdrawn_32 rfl rfl ?_
    refine ol_iload hX (pc := 33) dX1_withdrawn_33 rfl ?_
    obtain ⟨y5, e6, h⟩ := ol_of_bd h
    refine ol_cVw (As := [.int x1, .int x2, .int x4]) hX (pc := 35) (wX1_passOf V a ext g σ β x1 x2 x4 y5 e6) lkX1_223 dcX1_passOf ol_rr_X1_withdrawn_X1_passOf 0 rfl rfl ⟨(by first | omega | (dsimp only; omega)), (by first | omega | (dsimp only; omega))⟩ (Nat.le_of_ble_eq_true rfl) dX1_withdrawn_35 rfl ?_
    refine ol_Gwid (k := 1) (n := 2) (by first | omega | (dsimp only; omega)) (by first | omega | (dsimp only; omega)) ?_
    refine ol_xgN_P_4 hX (pc := 38) q170 dX1_withdrawn_38 ?_
    refine ol_sipush hX (pc := 41) 401 dX1_withdrawn_41 ol_k_sipush_401 ?_
    refine ol_iload_n hX (pc := 44) dX1_withdrawn_44 rfl rfl ?_
    refine ol_imul hX (pc := 45) dX1_withdrawn_45 ?_
    refine ol_iload hX (pc := 46) dX1_withdrawn_46 rfl ?_
    refine ol_iadd hX (pc := 48) dX1_withdrawn_48 ?_
    obtain ⟨g7, h⟩ := ol_of_og h
    refine ol_xl_7 hX (pc := 49) dX1_withdrawn_49 rfl (ol_in_vp g7) ?_
    obtain ⟨y8, e9, h⟩ := ol_of_bd h
    refine ol_cVw (As := [.int (y5.1 7 (((401 * x3) + x4).toNatClampNeg))]) hX (pc := 50) (wX1_fine V a (some (g 0 0)) (ol_WB V g β ++ ext) y5 (y5.1 7 (((401 * x3) + x4).toNatClampNeg)) y8 e9) lkX1_125 dcX1_fine ol_rr_X1_withdrawn_X1_fine 0 rfl rfl ⟨(by first | omega | (dsimp only; omega)), (by first | omega | (dsimp only; omega))⟩ (Nat.le_of_ble_eq_true rfl) dX1_withdrawn_50 rfl ?_
    have h := ol_of_some h
    subst h
    exact ol_iret hX (pc := 53) dX1_withdrawn_53 ⟨rfl, rfl⟩ ⟨(by first | omega | (dsimp only; omega)), (by first | omega | (dsimp only; omega))⟩
  · have h := ol_ifn c12 h
    refine ol_aload_n hX (pc := 20) dX1_withdrawn_20 rfl rfl ?_
    refine ol_iload hX (pc := 21) dX1_withdrawn_21 rfl ?_
    obtain ⟨y10, e11, h⟩ := ol_of_bd h
    refine ol_cVw (As := [.int y3]) hX (pc := 23) (wX1_refused V a (some (g 0 0)) (ol_WB V g β ++ ext) σ y3 y10 e11) lkX1_81 dcX1_refused ol_rr_X1_withdrawn_X1_refused 0 rfl rfl ⟨(by first | omega | (dsimp only; omega)), (by first | omega | (dsimp only; omega))⟩ (Nat.le_of_ble_eq_true rfl) dX1_withdrawn_23 rfl ?_
    refine ol_goto hX (pc := 26) 53 dX1_withdrawn_26 (by decide) ?_
    have h := ol_of_some h
    subst h
    exact ol_iret hX (pc := 53) dX1_withdrawn_53 ⟨rfl, rfl⟩ ⟨(by first | omega | (dsimp only; omega)), (by first | omega | (dsimp only; omega))⟩
set_option maxHeartbeats 4000000 in
theorem wX1_winners (V : ol_Gh) (a : Nat → Nat) (ext : va_W) (g : Nat → Nat → Nat) (σ : ol_Xm) (β : ol_Bd) (x1 : Int32) (x2 : Int32) (x3 : Int32)  (z : Int32 × ol_Xm) (h : oX1_winners σ β (g 0 0) x1 x2 x3 = some z) : ol_Mt V yX1_winners cX1_winners 5 (some .int) ({ frames := 15, cells := 1, slots := 2, locals := 676 } : Room) true [.ref (a 0), .int x1, .int x2, .int x3] (ol_Xc V a (some (g 0 0)) σ ++ (ol_WB V g β ++ ext)) (ol_Pw (some (.int z.1)) (ol_Xc V a (some (g 0 0)) z.2 ++ (ol_WB V g β ++ ext))) := by
  refine ol_MtOf (L0 := [some (.ref (a 0)), some (.int x1), some (.int x2), some (.int x3), none]) (by decide) (Nat.le_of_ble_eq_true rfl) rfl (fun X A hX => ?_)
  unfold oX1_winners at h
  refine ol_aload_n hX (pc := 0) dX1_winners_0 rfl rfl ?_
  refine ol_iconst hX (pc := 1) 1 dX1_winners_1 ol_k_iconst_1 ?_
  refine ol_iload_n hX (pc := 2) dX1_winners_2 rfl rfl ?_
  refine ol_iload_n hX (pc := 3) dX1_winners_3 rfl rfl ?_
  refine ol_iload_n hX (pc := 4) dX1_winners_4 rfl rfl ?_
  obtain ⟨y1, e2, h⟩ := ol_of_bd h
  refine ol_cVr (As := [.int 1, .int x1, .int x2, .int x3]) hX (pc := 5) (wX1_refuses V a ext g σ β 1 x1 x2 x3 y1 e2) lkX1_219 dcX1_refuses ⟨rfl, rfl⟩ ol_rr_X1_winners_X1_refuses 0 rfl rfl (fun _ h => h) ⟨(by first | omega | (dsimp only; omega)), (by first | omega | (dsimp only; omega))⟩ (Nat.le_of_ble_eq_true rfl) dX1_winners_5 rfl ?_
  refine ol_istore hX (pc := 8) [some (.ref (a 0)), some (.int x1), some (.int x2), some (.int x3), some (.int y1)] dX1_winners_8 (by decide) rfl rfl ?_
  refine ol_iload hX (pc := 10) dX1_winners_10 rfl ?_
  refine ol_if_le hX (pc := 12) 24 dX1_winners_12 (by decide) (fun c11 => ?_) (fun c11 => ?_)
  · have h := ol_ifp c11 h
    refine ol_aload_n hX (pc := 24) dX1_winners_24 rfl rfl ?_
    refine ol_aload_n hX (pc := 25) dX1_winners_25 rfl rfl ?_
    refine ol_iload_n hX (pc := 26) dX1_winners_26 rfl rfl ?_
    refine ol_iload_n hX (pc := 27) dX1_winners_27 rfl rfl ?_
    refine ol_iload_n hX (pc := 28) dX1_winners_28 rfl rfl ?_
    obtain ⟨y3, e4, h⟩ := ol_of_bd h
    refine ol_cVw (As := [.int x1, .int x2, .int x3]) hX (pc := 29) (wX1_passOf V a ext g σ β x1 x2 x3 y3 e4) lkX1_223 dcX1_passOf ol_rr_X1_winners_X1_passOf 0 rfl rfl ⟨(by first | omega | (dsimp only; omega)), (by first | omega | (dsimp only; omega))⟩ (Nat.le_of_ble_eq_true rfl) dX1_winners_29 rfl ?_
    refine ol_Gwid (k := 1) (n := 2) (by first | omega | (dsimp only; omega)) (by first | omega | (dsimp only; omega)) ?_
    refine ol_iload_n hX (pc := 32) dX1_winners_32 rfl rfl ?_
    obtain ⟨y5, e6, h⟩ := ol_of_bd h
    refine ol_cVr (As := [.int x3]) hX (pc := 33) (wX2_winners V a (some (g 0 0)) ext g y3 β x3 y5 e6) lkX1_239 dcX2_winners ⟨rfl, rfl⟩ ol_rr_X1_winners_X2_winners 2 rfl rfl (fun _ h => h) ⟨(by first | omega | (dsimp only; omega)), (by first | omega | (dsimp only; omega))⟩ (Nat.le_of_ble_eq_true rfl) dX1_winners_33 rfl ?_
    obtain ⟨y7, e8, h⟩ := ol_of_bd h
    refine ol_cVw (As := [.int y5]) hX (pc := 36) (wX1_fine V a (some (g 0 0)) (ol_WB V g β ++ ext) y3 y5 y7 e8) lkX1_125 dcX1_fine ol_rr_X1_winners_X1_fine 0 rfl rfl ⟨(by first | omega | (dsimp only; omega)), (by first | omega | (dsimp only; omega))⟩ (Nat.le_of_ble_eq_true rfl) dX1_winners_36 rfl ?_
    have h := ol_of_some h
    subst h
    exact ol_iret hX (pc := 39) dX1_winners_39 ⟨rfl, rfl⟩ ⟨(by first | omega | (dsimp only; omega)), (by first | omega | (dsimp only; omega))⟩
  · have h := ol_ifn c11 h
    refine ol_aload_n hX (pc := 15) dX1_winners_15 rfl rfl ?_
    refine ol_iload hX (pc := 16) dX1_winners_16 rfl ?_
    obtain ⟨y9, e10, h⟩ := ol_of_bd h
    refine ol_cVw (As := [.int y1]) hX (pc := 18) (wX1_refused V a (some (g 0 0)) (ol_WB V g β ++ ext) σ y1 y9 e10) lkX1_81 dcX1_refused ol_rr_X1_winners_X1_refused 0 rfl rfl ⟨(by first | omega | (dsimp only; omega)), (by first | omega | (dsimp only; omega))⟩ (Nat.le_of_ble_eq_true rfl) dX1_winners_18 rfl ?_
    refine ol_goto hX (pc := 21) 39 dX1_winners_21 (by decide) ?_
    have h := ol_of_some h
    subst h
    exact ol_iret hX (pc := 39) dX1_winners_39 ⟨rfl, rfl⟩ ⟨(by first | omega | (dsimp only; omega)), (by first | omega | (dsimp only; omega))⟩
set_option maxHeartbeats 4000000 in
theorem wX1_settles (V : ol_Gh) (a : Nat → Nat) (ext : va_W) (g : Nat → Nat → Nat) (σ : ol_Xm) (β : ol_Bd) (x1 : Int32) (x2 : Int32)  (z : Int32 × ol_Xm) (h : oX1_settles σ β (g 0 0) x1 x2 = some z) : ol_Mt V yX1_settles cX1_settles 4 (some .int) ({ frames := 15, cells := 1, slots := 2, locals := 676 } : Room) true [.ref (a 0), .int x1, .int x2] (ol_Xc V a (some (g 0 0)) σ ++ (ol_WB V g β ++ ext)) (ol_Pw (some (.int z.1)) (ol_Xc V a (some (g 0 0)) z.2 ++ (ol_WB V g β ++ ext))) := by
  refine ol_MtOf (L0 := [some (.ref (a 0)), some (.int x1), some (.int x2), none]) (by decide) (Nat.le_of_ble_eq_true rfl) rfl (fun X A hX => ?_)
  unfold oX1_settles at h
  refine ol_aload_n hX (pc := 0) dX1_settles_0 rfl rfl ?_
  refine ol_iconst hX (pc := 1) 1 dX1_settles_1 ol_k_iconst_1 ?_
  refine ol_iload_n hX (pc := 2) dX1_settles_2 rfl rfl ?_
  refine ol_iload_n hX (pc := 3) dX1_settles_3 rfl rfl ?_
  refine ol_iconst hX (pc := 4) 0 dX1_settles_4 ol_k_iconst_0 ?_
  obtain ⟨y1, e2, h⟩ := ol_of_bd h
  refine ol_cVr (As := [.int 1, .int x1, .int x2, .int 0]) hX (pc := 5) (wX1_refuses V a ext g σ β 1 x1 x2 0 y1 e2) lkX1_219 dcX1_refuses ⟨rfl, rfl⟩ ol_rr_X1_settles_X1_refuses 0 rfl rfl (fun _ h => h) ⟨(by first | omega | (dsimp only; omega)), (by first | omega | (dsimp only; omega))⟩ (Nat.le_of_ble_eq_true rfl) dX1_settles_5 rfl ?_
  refine ol_istore_n hX (pc := 8) [some (.ref (a 0)), some (.int x1), some (.int x2), some (.int y1)] dX1_settles_8 rfl (by decide) rfl rfl ?_
  refine ol_iload_n hX (pc := 9) dX1_settles_9 rfl rfl ?_
  refine ol_if_le hX (pc := 10) 21 dX1_settles_10 (by decide) (fun c11 => ?_) (fun c11 => ?_)
  · have h := ol_ifp c11 h
    refine ol_aload_n hX (pc := 21) dX1_settles_21 rfl rfl ?_
    refine ol_aload_n hX (pc := 22) dX1_settles_22 rfl rfl ?_
    refine ol_iload_n hX (pc := 23) dX1_settles_23 rfl rfl ?_
    refine ol_iload_n hX (pc := 24) dX1_settles_24 rfl rfl ?_
    refine ol_sipush hX (pc := 25) 400 dX1_settles_25 ol_k_sipush_400 ?_
    obtain ⟨y3, e4, h⟩ := ol_of_bd h
    refine ol_cVw (As := [.int x1, .int x2, .int 400]) hX (pc := 28) (wX1_passOf V a ext g σ β x1 x2 400 y3 e4) lkX1_223 dcX1_passOf ol_rr_X1_settles_X1_passOf 0 rfl rfl ⟨(by first | omega | (dsimp only; omega)), (by first | omega | (dsimp only; omega))⟩ (Nat.le_of_ble_eq_true rfl) dX1_settles_28 rfl ?_
    refine ol_Gwid (k := 1) (n := 2) (by first | omega | (dsimp only; omega)) (by first | omega | (dsimp only; omega)) ?_
    obtain ⟨y5, e6, h⟩ := ol_of_bd h
    refine ol_cVr (As := []) hX (pc := 31) (wX2_settles V a (some (g 0 0)) ext g y3 β y5 e6) lkX1_242 dcX2_settles ⟨rfl, rfl⟩ ol_rr_X1_settles_X2_settles 2 rfl rfl (fun _ h => h) ⟨(by first | omega | (dsimp only; omega)), (by first | omega | (dsimp only; omega))⟩ (Nat.le_of_ble_eq_true rfl) dX1_settles_31 rfl ?_
    obtain ⟨y7, e8, h⟩ := ol_of_bd h
    refine ol_cVw (As := [.int y5]) hX (pc := 34) (wX1_fine V a (some (g 0 0)) (ol_WB V g β ++ ext) y3 y5 y7 e8) lkX1_125 dcX1_fine ol_rr_X1_settles_X1_fine 0 rfl rfl ⟨(by first | omega | (dsimp only; omega)), (by first | omega | (dsimp only; omega))⟩ (Nat.le_of_ble_eq_true rfl) dX1_settles_34 rfl ?_
    have h := ol_of_some h
    subst h
    exact ol_iret hX (pc := 37) dX1_settles_37 ⟨rfl, rfl⟩ ⟨(by first | omega | (dsimp only; omega)), (by first | omega | (dsimp only; omega))⟩
  · have h := ol_ifn c11 h
    refine ol_aload_n hX (pc := 13) dX1_settles_13 rfl rfl ?_
    refine ol_iload_n hX (pc := 14) dX1_settles_14 rfl rfl ?_
    obtain ⟨y9, e10, h⟩ := ol_of_bd h
    refine ol_cVw (As := [.int y1]) hX (pc := 15) (wX1_refused V a (some (g 0 0)) (ol_WB V g β ++ ext) σ y1 y9 e10) lkX1_81 dcX1_refused ol_rr_X1_settles_X1_refused 0 rfl rfl ⟨(by first | omega | (dsimp only; omega)), (by first | omega | (dsimp only; omega))⟩ (Nat.le_of_ble_eq_true rfl) dX1_settles_15 rfl ?_
    refine ol_goto hX (pc := 18) 37 dX1_settles_18 (by decide) ?_
    have h := ol_of_some h
    subst h
    exact ol_iret hX (pc := 37) dX1_settles_37 ⟨rfl, rfl⟩ ⟨(by first | omega | (dsimp only; omega)), (by first | omega | (dsimp only; omega))⟩
set_option maxHeartbeats 4000000 in
theorem wX1_sure (V : ol_Gh) (a : Nat → Nat) (ext : va_W) (g : Nat → Nat → Nat) (σ : ol_Xm) (β : ol_Bd) (x1 : Int32) (x2 : Int32)  (z : Int32 × ol_Xm) (h : oX1_sure σ β (g 0 0) x1 x2 = some z) : ol_Mt V yX1_sure cX1_sure 4 (some .int) ({ frames := 15, cells := 1, slots := 2, locals := 676 } : Room) true [.ref (a 0), .int x1, .int x2] (ol_Xc V a (some (g 0 0)) σ ++ (ol_WB V g β ++ ext)) (ol_Pw (some (.int z.1)) (ol_Xc V a (some (g 0 0)) z.2 ++ (ol_WB V g β ++ ext))) := by
  refine ol_MtOf (L0 := [some (.ref (a 0)), some (.int x1), some (.int x2), none]) (by decide) (Nat.le_of_ble_eq_true rfl) rfl (fun X A hX => ?_)
  unfold oX1_sure at h
  refine ol_aload_n hX (pc := 0) dX1_sure_0 rfl rfl ?_
  refine ol_iconst hX (pc := 1) 1 dX1_sure_1 ol_k_iconst_1 ?_
  refine ol_iload_n hX (pc := 2) dX1_sure_2 rfl rfl ?_
  refine ol_iload_n hX (pc := 3) dX1_sure_3 rfl rfl ?_
  refine ol_iconst hX (pc := 4) 0 dX1_sure_4 ol_k_iconst_0 ?_
  obtain ⟨y1, e2, h⟩ := ol_of_bd h
  refine ol_cVr (As := [.int 1, .int x1, .int x2, .int 0]) hX (pc := 5) (wX1_refuses V a ext g σ β 1 x1 x2 0 y1 e2) lkX1_219 dcX1_refuses ⟨rfl, rfl⟩ ol_rr_X1_sure_X1_refuses 0 rfl rfl (fun _ h => h) ⟨(by first | omega | (dsimp only; omega)), (by first | omega | (dsimp only; omega))⟩ (Nat.le_of_ble_eq_true rfl) dX1_sure_5 rfl ?_
  refine ol_istore_n hX (pc := 8) [some (.ref (a 0)), some (.int x1), some (.int x2), some (.int y1)] dX1_sure_8 rfl (by decide) rfl rfl ?_
  refine ol_iload_n hX (pc := 9) dX1_sure_9 rfl rfl ?_
  refine ol_if_le hX (pc := 10) 21 dX1_sure_10 (by decide) (fun c11 => ?_) (fun c11 => ?_)
  · have h := ol_ifp c11 h
    refine ol_aload_n hX (pc := 21) dX1_sure_21 rfl rfl ?_
    refine ol_aload_n hX (pc := 22) dX1_sure_22 rfl rfl ?_
    refine ol_iload_n hX (pc := 23) dX1_sure_23 rfl rfl ?_
    refine ol_iload_n hX (pc := 24) dX1_sure_24 rfl rfl ?_
    refine ol_sipush hX (pc := 25) 400 dX1_sure_25 ol_k_sipush_400 ?_
    obtain ⟨y3, e4, h⟩ := ol_of_bd h
    refine ol_cVw (As := [.int x1, .int x2, .int 400]) hX (pc := 28) (wX1_passOf V a ext g σ β x1 x2 400 y3 e4) lkX1_223 dcX1_passOf ol_rr_X1_sure_X1_passOf 0 rfl rfl ⟨(by first | omega | (dsimp only; omega)), (by first | omega | (dsimp only; omega))⟩ (Nat.le_of_ble_eq_true rfl) dX1_sure_28 rfl ?_
    refine ol_Gwid (k := 1) (n := 2) (by first | omega | (dsimp only; omega)) (by first | omega | (dsimp only; omega)) ?_
    obtain ⟨y5, e6, h⟩ := ol_of_bd h
    refine ol_cVr (As := []) hX (pc := 31) (wX2_sure V a (some (g 0 0)) ext g y3 β y5 e6) lkX1_245 dcX2_sure ⟨rfl, rfl⟩ ol_rr_X1_sure_X2_sure 2 rfl rfl (fun _ h => h) ⟨(by first | omega | (dsimp only; omega)), (by first | omega | (dsimp only; omega))⟩ (Nat.le_of_ble_eq_true rfl) dX1_sure_31 rfl ?_
    obtain ⟨y7, e8, h⟩ := ol_of_bd h
    refine ol_cVw (As := [.int y5]) hX (pc := 34) (wX1_fine V a (some (g 0 0)) (ol_WB V g β ++ ext) y3 y5 y7 e8) lkX1_125 dcX1_fine ol_rr_X1_sure_X1_fine 0 rfl rfl ⟨(by first | omega | (dsimp only; omega)), (by first | omega | (dsimp only; omega))⟩ (Nat.le_of_ble_eq_true rfl) dX1_sure_34 rfl ?_
    have h := ol_of_some h
    subst h
    exact ol_iret hX (pc := 37) dX1_sure_37 ⟨rfl, rfl⟩ ⟨(by first | omega | (dsimp only; omega)), (by first | omega | (dsimp only; omega))⟩
  · have h := ol_ifn c11 h
    refine ol_aload_n hX (pc := 13) dX1_sure_13 rfl rfl ?_
    refine ol_iload_n hX (pc := 14) dX1_sure_14 rfl rfl ?_
    obtain ⟨y9, e10, h⟩ := ol_of_bd h
    refine ol_cVw (As := [.int y1]) hX (pc := 15) (wX1_refused V a (some (g 0 0)) (ol_WB V g β ++ ext) σ y1 y9 e10) lkX1_81 dcX1_refused ol_rr_X1_sure_X1_refused 0 rfl rfl ⟨(by first | omega | (dsimp only; omega)), (by first | omega | (dsimp only; omega))⟩ (Nat.le_of_ble_eq_true rfl) dX1_sure_15 rfl ?_
    refine ol_goto hX (pc := 18) 37 dX1_sure_18 (by decide) ?_
    have h := ol_of_some h
    subst h
    exact ol_iret hX (pc := 37) dX1_sure_37 ⟨rfl, rfl⟩ ⟨(by first | omega | (dsimp only; omega)), (by first | omega | (dsimp only; omega))⟩
set_option maxHeartbeats 4000000 in
theorem wX1_right (V : ol_Gh) (a : Nat → Nat) (ext : va_W) (g : Nat → Nat → Nat) (σ : ol_Xm) (β : ol_Bd) (x1 : Int32) (x2 : Int32)  (z : Int32 × ol_Xm) (h : oX1_right σ β (g 0 0) x1 x2 = some z) : ol_Mt V yX1_right cX1_right 4 (some .int) ({ frames := 15, cells := 1, slots := 2, locals := 676 } : Room) true [.ref (a 0), .int x1, .int x2] (ol_Xc V a (some (g 0 0)) σ ++ (ol_WB V g β ++ ext)) (ol_Pw (some (.int z.1)) (ol_Xc V a (some (g 0 0)) z.2 ++ (ol_WB V g β ++ ext))) := by
  refine ol_MtOf (L0 := [some (.ref (a 0)), some (.int x1), some (.int x2), none]) (by decide) (Nat.le_of_ble_eq_true rfl) rfl (fun X A hX => ?_)
  unfold oX1_right at h
  refine ol_aload_n hX (pc := 0) dX1_right_0 rfl rfl ?_
  refine ol_iconst hX (pc := 1) 1 dX1_right_1 ol_k_iconst_1 ?_
  refine ol_iload_n hX (pc := 2) dX1_right_2 rfl rfl ?_
  refine ol_iload_n hX (pc := 3) dX1_right_3 rfl rfl ?_
  refine ol_iconst hX (pc := 4) 0 dX1_right_4 ol_k_iconst_0 ?_
  obtain ⟨y1, e2, h⟩ := ol_of_bd h
  refine ol_cVr (As := [.int 1, .int x1, .int x2, .int 0]) hX (pc := 5) (wX1_refuses V a ext g σ β 1 x1 x2 0 y1 e2) lkX1_219 dcX1_refuses ⟨rfl, rfl⟩ ol_rr_X1_right_X1_refuses 0 rfl rfl (fun _ h => h) ⟨(by first | omega | (dsimp only; omega)), (by first | omega | (dsimp only; omega))⟩ (Nat.le_of_ble_eq_true rfl) dX1_right_5 rfl ?_
  refine ol_istore_n hX (pc := 8) [some (.ref (a 0)), some (.int x1), some (.int x2), some (.int y1)] dX1_right_8 rfl (by decide) rfl rfl ?_
  refine ol_iload_n hX (pc := 9) dX1_right_9 rfl rfl ?_
  refine ol_if_le hX (pc := 10) 21 dX1_right_10 (by decide) (fun c11 => ?_) (fun c11 => ?_)
  · have h := ol_ifp c11 h
    refine ol_aload_n hX (pc := 21) dX1_right_21 rfl rfl ?_
    refine ol_aload_n hX (pc := 22) dX1_right_22 rfl rfl ?_
    refine ol_iload_n hX (pc := 23) dX1_right_23 rfl rfl ?_
    refine ol_iload_n hX (pc := 24) dX1_right_24 rfl rfl ?_
    refine ol_iconst hX (pc := 25) 0 dX1_right_25 ol_k_iconst_0 ?_
    obtain ⟨y3, e4, h⟩ := ol_of_bd h
    refine ol_cVw (As := [.int x1, .int x2, .int 0]) hX (pc := 26) (wX1_passOf V a ext g σ β x1 x2 0 y3 e4) lkX1_223 dcX1_passOf ol_rr_X1_right_X1_passOf 0 rfl rfl ⟨(by first | omega | (dsimp only; omega)), (by first | omega | (dsimp only; omega))⟩ (Nat.le_of_ble_eq_true rfl) dX1_right_26 rfl ?_
    refine ol_Gwid (k := 1) (n := 2) (by first | omega | (dsimp only; omega)) (by first | omega | (dsimp only; omega)) ?_
    obtain ⟨y5, e6, h⟩ := ol_of_bd h
    refine ol_cVr (As := []) hX (pc := 29) (wX2_right V a (some (g 0 0)) ext g y3 β y5 e6) lkX1_248 dcX2_right ⟨rfl, rfl⟩ ol_rr_X1_right_X2_right 2 rfl rfl (fun _ h => h) ⟨(by first | omega | (dsimp only; omega)), (by first | omega | (dsimp only; omega))⟩ (Nat.le_of_ble_eq_true rfl) dX1_right_29 rfl ?_
    obtain ⟨y7, e8, h⟩ := ol_of_bd h
    refine ol_cVw (As := [.int y5]) hX (pc := 32) (wX1_fine V a (some (g 0 0)) (ol_WB V g β ++ ext) y3 y5 y7 e8) lkX1_125 dcX1_fine ol_rr_X1_right_X1_fine 0 rfl rfl ⟨(by first | omega | (dsimp only; omega)), (by first | omega | (dsimp only; omega))⟩ (Nat.le_of_ble_eq_true rfl) dX1_right_32 rfl ?_
    have h := ol_of_some h
    subst h
    exact ol_iret hX (pc := 35) dX1_right_35 ⟨rfl, rfl⟩ ⟨(by first | omega | (dsimp only; omega)), (by first | omega | (dsimp only; omega))⟩
  · have h := ol_ifn c11 h
    refine ol_aload_n hX (pc := 13) dX1_right_13 rfl rfl ?_
    refine ol_iload_n hX (pc := 14) dX1_right_14 rfl rfl ?_
    obtain ⟨y9, e10, h⟩ := ol_of_bd h
    refine ol_cVw (As := [.int y1]) hX (pc := 15) (wX1_refused V a (some (g 0 0)) (ol_WB V g β ++ ext) σ y1 y9 e10) lkX1_81 dcX1_refused ol_rr_X1_right_X1_refused 0 rfl rfl ⟨(by first | omega | (dsimp only; omega)), (by first | omega | (dsimp only; omega))⟩ (Nat.le_of_ble_eq_true rfl) dX1_right_15 rfl ?_
    refine ol_goto hX (pc := 18) 35 dX1_right_18 (by decide) ?_
    have h := ol_of_some h
    subst h
    exact ol_iret hX (pc := 35) dX1_right_35 ⟨rfl, rfl⟩ ⟨(by first | omega | (dsimp only; omega)), (by first | omega | (dsimp only; omega))⟩
set_option maxHeartbeats 4000000 in
theorem wX1_dips (V : ol_Gh) (a : Nat → Nat) (ext : va_W) (g : Nat → Nat → Nat) (σ : ol_Xm) (β : ol_Bd) (x1 : Int32) (x2 : Int32)  (z : Int32 × ol_Xm) (h : oX1_dips σ β (g 0 0) x1 x2 = some z) : ol_Mt V yX1_dips cX1_dips 4 (some .int) ({ frames := 15, cells := 1, slots := 2, locals := 676 } : Room) true [.ref (a 0), .int x1, .int x2] (ol_Xc V a (some (g 0 0)) σ ++ (ol_WB V g β ++ ext)) (ol_Pw (some (.int z.1)) (ol_Xc V a (some (g 0 0)) z.2 ++ (ol_WB V g β ++ ext))) := by
  refine ol_MtOf (L0 := [some (.ref (a 0)), some (.int x1), some (.int x2), none]) (by decide) (Nat.le_of_ble_eq_true rfl) rfl (fun X A hX => ?_)
  unfold oX1_dips at h
  refine ol_aload_n hX (pc := 0) dX1_dips_0 rfl rfl ?_
  refine ol_iconst hX (pc := 1) 1 dX1_dips_1 ol_k_iconst_1 ?_
  refine ol_iload_n hX (pc := 2) dX1_dips_2 rfl rfl ?_
  refine ol_iload_n hX (pc := 3) dX1_dips_3 rfl rfl ?_
  refine ol_iconst hX (pc := 4) 0 dX1_dips_4 ol_k_iconst_0 ?_
  obtain ⟨y1, e2, h⟩ := ol_of_bd h
  refine ol_cVr (As := [.int 1, .int x1, .int x2, .int 0]) hX (pc := 5) (wX1_refuses V a ext g σ β 1 x1 x2 0 y1 e2) lkX1_219 dcX1_refuses ⟨rfl, rfl⟩ ol_rr_X1_dips_X1_refuses 0 rfl rfl (fun _ h => h) ⟨(by first | omega | (dsimp only; omega)), (by first | omega | (dsimp only; omega))⟩ (Nat.le_of_ble_eq_true rfl) dX1_dips_5 rfl ?_
  refine ol_istore_n hX (pc := 8) [some (.ref (a 0)), some (.int x1), some (.int x2), some (.int y1)] dX1_dips_8 rfl (by decide) rfl rfl ?_
  refine ol_iload_n hX (pc := 9) dX1_dips_9 rfl rfl ?_
  refine ol_if_le hX (pc := 10) 21 dX1_dips_10 (by decide) (fun c9 => ?_) (fun c9 => ?_)
  · have h := ol_ifp c9 h
    refine ol_aload_n hX (pc := 21) dX1_dips_21 rfl rfl ?_
    refine ol_aload_n hX (pc := 22) dX1_dips_22 rfl rfl ?_
    refine ol_iload_n hX (pc := 23) dX1_dips_23 rfl rfl ?_
    refine ol_iload_n hX (pc := 24) dX1_dips_24 rfl rfl ?_
    refine ol_sipush hX (pc := 25) 400 dX1_dips_25 ol_k_sipush_400 ?_
    obtain ⟨y3, e4, h⟩ := ol_of_bd h
    refine ol_cVw (As := [.int x1, .int x2, .int 400]) hX (pc := 28) (wX1_passOf V a ext g σ β x1 x2 400 y3 e4) lkX1_223 dcX1_passOf ol_rr_X1_dips_X1_passOf 0 rfl rfl ⟨(by first | omega | (dsimp only; omega)), (by first | omega | (dsimp only; omega))⟩ (Nat.le_of_ble_eq_true rfl) dX1_dips_28 rfl ?_
    refine ol_Gwid (k := 1) (n := 2) (by first | omega | (dsimp only; omega)) (by first | omega | (dsimp only; omega)) ?_
    refine ol_xgN_P_11 hX (pc := 31) q178 dX1_dips_31 ?_
    obtain ⟨y5, e6, h⟩ := ol_of_bd h
    refine ol_cVw (As := [.int (y3.1 2 11)]) hX (pc := 34) (wX1_fine V a (some (g 0 0)) (ol_WB V g β ++ ext) y3 (y3.1 2 11) y5 e6) lkX1_125 dcX1_fine ol_rr_X1_dips_X1_fine 0 rfl rfl ⟨(by first | omega | (dsimp only; omega)), (by first | omega | (dsimp only; omega))⟩ (Nat.le_of_ble_eq_true rfl) dX1_dips_34 rfl ?_
    have h := ol_of_some h
    subst h
    exact ol_iret hX (pc := 37) dX1_dips_37 ⟨rfl, rfl⟩ ⟨(by first | omega | (dsimp only; omega)), (by first | omega | (dsimp only; omega))⟩
  · have h := ol_ifn c9 h
    refine ol_aload_n hX (pc := 13) dX1_dips_13 rfl rfl ?_
    refine ol_iload_n hX (pc := 14) dX1_dips_14 rfl rfl ?_
    obtain ⟨y7, e8, h⟩ := ol_of_bd h
    refine ol_cVw (As := [.int y1]) hX (pc := 15) (wX1_refused V a (some (g 0 0)) (ol_WB V g β ++ ext) σ y1 y7 e8) lkX1_81 dcX1_refused ol_rr_X1_dips_X1_refused 0 rfl rfl ⟨(by first | omega | (dsimp only; omega)), (by first | omega | (dsimp only; omega))⟩ (Nat.le_of_ble_eq_true rfl) dX1_dips_15 rfl ?_
    refine ol_goto hX (pc := 18) 37 dX1_dips_18 (by decide) ?_
    have h := ol_of_some h
    subst h
    exact ol_iret hX (pc := 37) dX1_dips_37 ⟨rfl, rfl⟩ ⟨(by first | omega | (dsimp only; omega)), (by first | omega | (dsimp only; omega))⟩
set_option maxHeartbeats 4000000 in
theorem wX1_faulty (V : ol_Gh) (a : Nat → Nat) (ext : va_W) (g : Nat → Nat → Nat) (σ : ol_Xm) (β : ol_Bd) (x1 : Int32) (x2 : Int32) (x3 : Int32)  (z : Int32 × ol_Xm) (h : oX1_faulty σ β (g 0 0) x1 x2 x3 = some z) : ol_Mt V yX1_faulty cX1_faulty 5 (some .int) ({ frames := 15, cells := 1, slots := 2, locals := 676 } : Room) true [.ref (a 0), .int x1, .int x2, .int x3] (ol_Xc V a (some (g 0 0)) σ ++ (ol_WB V g β ++ ext)) (ol_Pw (some (.int z.1)) (ol_Xc V a (some (g 0 0)) z.2 ++ (ol_WB V g β ++ ext))) := by
  refine ol_MtOf (L0 := [some (.ref (a 0)), some (.int x1), some (.int x2), some (.int x3), none]) (by decide) (Nat.le_of_ble_eq_true rfl) rfl (fun X A hX => ?_)
  unfold oX1_faulty at h
  refine ol_aload_n hX (pc := 0) dX1_faulty_0 rfl rfl ?_
  refine ol_iconst hX (pc := 1) 1 dX1_faulty_1 ol_k_iconst_1 ?_
  refine ol_iload_n hX (pc := 2) dX1_faulty_2 rfl rfl ?_
  refine ol_iload_n hX (pc := 3) dX1_faulty_3 rfl rfl ?_
  refine ol_iload_n hX (pc := 4) dX1_faulty_4 rfl rfl ?_
  obtain ⟨y1, e2, h⟩ := ol_of_bd h
  refine ol_cVr (As := [.int 1, .int x1, .int x2, .int x3]) hX (pc := 5) (wX1_refuses V a ext g σ β 1 x1 x2 x3 y1 e2) lkX1_219 dcX1_refuses ⟨rfl, rfl⟩ ol_rr_X1_faulty_X1_refuses 0 rfl rfl (fun _ h => h) ⟨(by first | omega | (dsimp only; omega)), (by first | omega | (dsimp only; omega))⟩ (Nat.le_of_ble_eq_true rfl) dX1_faulty_5 rfl ?_
  refine ol_istore hX (pc := 8) [some (.ref (a 0)), some (.int x1), some (.int x2), some (.int x3), some (.int y1)] dX1_faulty_8 (by decide) rfl rfl ?_
  refine ol_iload hX (pc := 10) dX1_faulty_10 rfl ?_
  refine ol_if_le hX (pc := 12) 24 dX1_faulty_12 (by decide) (fun c14 => ?_) (fun c14 => ?_)
  · have h := ol_ifp c14 h
    refine ol_aload_n hX (pc := 24) dX1_faulty_24 rfl rfl ?_
    refine ol_aload_n hX (pc := 25) dX1_faulty_25 rfl rfl ?_
    refine ol_iload_n hX (pc := 26) dX1_faulty_26 rfl rfl ?_
    refine ol_iload_n hX (pc := 27) dX1_faulty_27 rfl rfl ?_
    refine ol_iload_n hX (pc := 28) dX1_faulty_28 rfl rfl ?_
    obtain ⟨y3, e4, h⟩ := ol_of_bd h
    refine ol_cVw (As := [.int x1, .int x2, .int x3]) hX (pc := 29) (wX1_passOf V a ext g σ β x1 x2 x3 y3 e4) lkX1_223 dcX1_passOf ol_rr_X1_faulty_X1_passOf 0 rfl rfl ⟨(by first | omega | (dsimp only; omega)), (by first | omega | (dsimp only; omega))⟩ (Nat.le_of_ble_eq_true rfl) dX1_faulty_29 rfl ?_
    refine ol_Gwid (k := 1) (n := 2) (by first | omega | (dsimp only; omega)) (by first | omega | (dsimp only; omega)) ?_
    refine ol_iload_n hX (pc := 32) dX1_faulty_32 rfl rfl ?_
    obtain ⟨y5, e6, h⟩ := ol_of_bd h
    refine ol_cVr (As := [.int x3]) hX (pc := 33) (wX2_isFaulty V a (some (g 0 0)) ext g y3 β x3 y5 e6) lkX1_254 dcX2_isFaulty ⟨rfl, rfl⟩ ol_rr_X1_faulty_X2_isFaulty 2 rfl rfl (fun _ h => h) ⟨(by first | omega | (dsimp only; omega)), (by first | omega | (dsimp only; omega))⟩ (Nat.le_of_ble_eq_true rfl) dX1_faulty_33 rfl ?_
    refine ol_if_eq hX (pc := 36) 43 dX1_faulty_36 (by decide) (fun c11 => ?_) (fun c11 => ?_)
    · have h := ol_ifp c11 h
      refine ol_iconst hX (pc := 43) 0 dX1_faulty_43 ol_k_iconst_0 ?_
      obtain ⟨y7, e8, h⟩ := ol_of_bd h
      refine ol_cVw (As := [.int 0]) hX (pc := 44) (wX1_fine V a (some (g 0 0)) (ol_WB V g β ++ ext) y3 0 y7 e8) lkX1_125 dcX1_fine ol_rr_X1_faulty_X1_fine 0 rfl rfl ⟨(by first | omega | (dsimp only; omega)), (by first | omega | (dsimp only; omega))⟩ (Nat.le_of_ble_eq_true rfl) dX1_faulty_44 rfl ?_
      have h := ol_of_some h
      subst h
      exact ol_iret hX (pc := 47) dX1_faulty_47 ⟨rfl, rfl⟩ ⟨(by first | omega | (dsimp only; omega)), (by first | omega | (dsimp only; omega))⟩
    · have h := ol_ifn c11 h
      refine ol_iconst hX (pc := 39) 1 dX1_faulty_39 ol_k_iconst_1 ?_
      refine ol_goto hX (pc := 40) 44 dX1_faulty_40 (by decide) ?_
      obtain ⟨y9, e10, h⟩ := ol_of_bd h
      refine ol_cVw (As := [.int 1]) hX (pc := 44) (wX1_fine V a (some (g 0 0)) (ol_WB V g β ++ ext) y3 1 y9 e10) lkX1_125 dcX1_fine ol_rr_X1_faulty_X1_fine 0 rfl rfl ⟨(by first | omega | (dsimp only; omega)), (by first | omega | (dsimp only; omega))⟩ (Nat.le_of_ble_eq_true rfl) dX1_faulty_44 rfl ?_
      have h := ol_of_some h
      subst h
      exact ol_iret hX (pc := 47) dX1_faulty_47 ⟨rfl, rfl⟩ ⟨(by first | omega | (dsimp only; omega)), (by first | omega | (dsimp only; omega))⟩
  · have h := ol_ifn c14 h
    refine ol_aload_n hX (pc := 15) dX1_faulty_15 rfl rfl ?_
    refine ol_iload hX (pc := 16) dX1_faulty_16 rfl ?_
    obtain ⟨y12, e13, h⟩ := ol_of_bd h
    refine ol_cVw (As := [.int y1]) hX (pc := 18) (wX1_refused V a (some (g 0 0)) (ol_WB V g β ++ ext) σ y1 y12 e13) lkX1_81 dcX1_refused ol_rr_X1_faulty_X1_refused 0 rfl rfl ⟨(by first | omega | (dsimp only; omega)), (by first | omega | (dsimp only; omega))⟩ (Nat.le_of_ble_eq_true rfl) dX1_faulty_18 rfl ?_
    refine ol_goto hX (pc := 21) 47 dX1_faulty_21 (by decide) ?_
    have h := ol_of_some h
    subst h
    exact ol_iret hX (pc := 47) dX1_faulty_47 ⟨rfl, rfl⟩ ⟨(by first | omega | (dsimp only; omega)), (by first | omega | (dsimp only; omega))⟩
set_option maxHeartbeats 4000000 in
theorem wX1_edges_L24 {X : ol_Cx} {V : ol_Gh} {A : Nat → Prop} {a : Nat → Nat} {ext : va_W} {g : Nat → Nat → Nat} {z : Int32 × ol_Xm} (hX : ol_CX X V A cX1_edges RX1 "edges" 6 (some .int)) (β : ol_Bd) (x1 : Int32) (x2 : Int32) (x3 : Int32) (x4 : Int32)   (s0 : Int32) (σ : ol_Xm) (h : oX1_edges_L24 β (g 0 0) x1 x2 x3 x4 s0 σ = some z) : ol_G X V A true (ol_Pw (some (.int z.1)) (ol_Xc V a (some (g 0 0)) z.2 ++ (ol_WB V g β ++ ext))) ({ frames := 15, cells := 1, slots := 2, locals := 676 } : Room) 6 0 0 (ol_Xc V a (some (g 0 0)) σ ++ (ol_WB V g β ++ ext)) 24 [some (.ref (a 0)), some (.int x1), some (.int x2), some (.int x3), some (.int x4), none] [.int s0, .ref (a 0)] := by
  unfold oX1_edges_L24 at h
  refine ol_iload_n hX (pc := 24) dX1_edges_24 rfl rfl ?_
  refine ol_iload_n hX (pc := 25) dX1_edges_25 rfl rfl ?_
  refine ol_iconst hX (pc := 26) 0 dX1_edges_26 ol_k_iconst_0 ?_
  obtain ⟨y1, e2, h⟩ := ol_of_bd h
  refine ol_cVr (As := [.int s0, .int x1, .int x2, .int 0]) hX (pc := 27) (wX1_refuses V a ext g σ β s0 x1 x2 0 y1 e2) lkX1_219 dcX1_refuses ⟨rfl, rfl⟩ ol_rr_X1_edges_X1_refuses 0 rfl rfl (fun _ h => h) ⟨(by first | omega | (dsimp only; omega)), (by first | omega | (dsimp only; omega))⟩ (Nat.le_of_ble_eq_true rfl) dX1_edges_27 rfl ?_
  refine ol_istore hX (pc := 30) [some (.ref (a 0)), some (.int x1), some (.int x2), some (.int x3), some (.int x4), some (.int y1)] dX1_edges_30 (by decide) rfl rfl ?_
  refine ol_iload hX (pc := 32) dX1_edges_32 rfl ?_
  refine ol_if_le hX (pc := 34) 46 dX1_edges_34 (by decide) (fun c11 => ?_) (fun c11 => ?_)
  · have h := ol_ifp c11 h
    refine ol_aload_n hX (pc := 46) dX1_edges_46 rfl rfl ?_
    refine ol_aload_n hX (pc := 47) dX1_edges_47 rfl rfl ?_
    refine ol_iload_n hX (pc := 48) dX1_edges_48 rfl rfl ?_
    refine ol_iload_n hX (pc := 49) dX1_edges_49 rfl rfl ?_
    refine ol_sipush hX (pc := 50) 400 dX1_edges_50 ol_k_sipush_400 ?_
    obtain ⟨y3, e4, h⟩ := ol_of_bd h
    refine ol_cVw (As := [.int x1, .int x2, .int 400]) hX (pc := 53) (wX1_passOf V a ext g σ β x1 x2 400 y3 e4) lkX1_223 dcX1_passOf ol_rr_X1_edges_X1_passOf 0 rfl rfl ⟨(by first | omega | (dsimp only; omega)), (by first | omega | (dsimp only; omega))⟩ (Nat.le_of_ble_eq_true rfl) dX1_edges_53 rfl ?_
    refine ol_Gwid (k := 1) (n := 2) (by first | omega | (dsimp only; omega)) (by first | omega | (dsimp only; omega)) ?_
    refine ol_iload_n hX (pc := 56) dX1_edges_56 rfl rfl ?_
    refine ol_iload hX (pc := 57) dX1_edges_57 rfl ?_
    obtain ⟨y5, e6, h⟩ := ol_of_bd h
    refine ol_cVr (As := [.int x3, .int x4]) hX (pc := 59) (wX2_edges V a (some (g 0 0)) (ol_WB V g β ++ ext) y3 x3 x4 y5 e6) lkX1_257 dcX2_edges ⟨rfl, rfl⟩ ol_rr_X1_edges_X2_edges 2 rfl rfl (fun _ h => h) ⟨(by first | omega | (dsimp only; omega)), (by first | omega | (dsimp only; omega))⟩ (Nat.le_of_ble_eq_true rfl) dX1_edges_59 rfl ?_
    obtain ⟨y7, e8, h⟩ := ol_of_bd h
    refine ol_cVw (As := [.int y5]) hX (pc := 62) (wX1_fine V a (some (g 0 0)) (ol_WB V g β ++ ext) y3 y5 y7 e8) lkX1_125 dcX1_fine ol_rr_X1_edges_X1_fine 0 rfl rfl ⟨(by first | omega | (dsimp only; omega)), (by first | omega | (dsimp only; omega))⟩ (Nat.le_of_ble_eq_true rfl) dX1_edges_62 rfl ?_
    have h := ol_of_some h
    subst h
    exact ol_iret hX (pc := 65) dX1_edges_65 ⟨rfl, rfl⟩ ⟨(by first | omega | (dsimp only; omega)), (by first | omega | (dsimp only; omega))⟩
  · have h := ol_ifn c11 h
    refine ol_aload_n hX (pc := 37) dX1_edges_37 rfl rfl ?_
    refine ol_iload hX (pc := 38) dX1_edges_38 rfl ?_
    obtain ⟨y9, e10, h⟩ := ol_of_bd h
    refine ol_cVw (As := [.int y1]) hX (pc := 40) (wX1_refused V a (some (g 0 0)) (ol_WB V g β ++ ext) σ y1 y9 e10) lkX1_81 dcX1_refused ol_rr_X1_edges_X1_refused 0 rfl rfl ⟨(by first | omega | (dsimp only; omega)), (by first | omega | (dsimp only; omega))⟩ (Nat.le_of_ble_eq_true rfl) dX1_edges_40 rfl ?_
    refine ol_goto hX (pc := 43) 65 dX1_edges_43 (by decide) ?_
    have h := ol_of_some h
    subst h
    exact ol_iret hX (pc := 65) dX1_edges_65 ⟨rfl, rfl⟩ ⟨(by first | omega | (dsimp only; omega)), (by first | omega | (dsimp only; omega))⟩
set_option maxHeartbeats 4000000 in
theorem wX1_edges (V : ol_Gh) (a : Nat → Nat) (ext : va_W) (g : Nat → Nat → Nat) (σ : ol_Xm) (β : ol_Bd) (x1 : Int32) (x2 : Int32) (x3 : Int32) (x4 : Int32)  (z : Int32 × ol_Xm) (h : oX1_edges σ β (g 0 0) x1 x2 x3 x4 = some z) : ol_Mt V yX1_edges cX1_edges 6 (some .int) ({ frames := 15, cells := 1, slots := 2, locals := 676 } : Room) true [.ref (a 0), .int x1, .int x2, .int x3, .int x4] (ol_Xc V a (some (g 0 0)) σ ++ (ol_WB V g β ++ ext)) (ol_Pw (some (.int z.1)) (ol_Xc V a (some (g 0 0)) z.2 ++ (ol_WB V g β ++ ext))) := by
  refine ol_MtOf (L0 := [some (.ref (a 0)), some (.int x1), some (.int x2), some (.int x3), some (.int x4), none]) (by decide) (Nat.le_of_ble_eq_true rfl) rfl (fun X A hX => ?_)
  unfold oX1_edges at h
  refine ol_aload_n hX (pc := 0) dX1_edges_0 rfl rfl ?_
  refine ol_aload_n hX (pc := 1) dX1_edges_1 rfl rfl ?_
  refine ol_iload_n hX (pc := 2) dX1_edges_2 rfl rfl ?_
  obtain ⟨y1, e2, h⟩ := ol_of_bd h
  refine ol_cVr (As := [.int x3]) hX (pc := 3) (wX1_isBoard V a ext g σ β x3 y1 e2) lkX1_149 dcX1_isBoard ⟨rfl, rfl⟩ ol_rr_X1_edges_X1_isBoard 0 rfl rfl (fun _ h => h) ⟨(by first | omega | (dsimp only; omega)), (by first | omega | (dsimp only; omega))⟩ (Nat.le_of_ble_eq_true rfl) dX1_edges_3 rfl ?_
  refine ol_if_eq hX (pc := 6) 23 dX1_edges_6 (by decide) (fun c6 => ?_) (fun c6 => ?_)
  · have h := ol_ifp c6 h
    refine ol_iconst hX (pc := 23) 0 dX1_edges_23 ol_k_iconst_0 ?_
    refine ol_Gwid (k := 0) (n := 0) (by first | omega | (dsimp only; omega)) (by first | omega | (dsimp only; omega)) ?_
    exact wX1_edges_L24 hX β x1 x2 x3 x4 0 σ h
  · have h := ol_ifn c6 h
    refine ol_iload hX (pc := 9) dX1_edges_9 rfl ?_
    refine ol_iconst hX (pc := 11) 0 dX1_edges_11 ol_k_iconst_0 ?_
    refine ol_iconst hX (pc := 12) 5 dX1_edges_12 ol_k_iconst_5 ?_
    obtain ⟨y3, e4, h⟩ := ol_of_bd h
    refine ol_cSr (As := [.int x4, .int 0, .int 5]) hX (pc := 13) (wX1_isIn V (ol_Xc V a (some (g 0 0)) σ ++ (ol_WB V g β ++ ext)) x4 0 5 y3 e4) lkX1_77 dcX1_isIn ⟨rfl, rfl⟩ ol_rr_X1_edges_X1_isIn (fun _ h => h) ⟨(by first | omega | (dsimp only; omega)), (by first | omega | (dsimp only; omega))⟩ (Nat.le_of_ble_eq_true rfl) dX1_edges_13 rfl ?_
    refine ol_if_eq hX (pc := 16) 23 dX1_edges_16 (by decide) (fun c5 => ?_) (fun c5 => ?_)
    · have h := ol_ifp c5 h
      refine ol_iconst hX (pc := 23) 0 dX1_edges_23 ol_k_iconst_0 ?_
      refine ol_Gwid (k := 0) (n := 0) (by first | omega | (dsimp only; omega)) (by first | omega | (dsimp only; omega)) ?_
      exact wX1_edges_L24 hX β x1 x2 x3 x4 0 σ h
    · have h := ol_ifn c5 h
      refine ol_iconst hX (pc := 19) 1 dX1_edges_19 ol_k_iconst_1 ?_
      refine ol_goto hX (pc := 20) 24 dX1_edges_20 (by decide) ?_
      refine ol_Gwid (k := 0) (n := 0) (by first | omega | (dsimp only; omega)) (by first | omega | (dsimp only; omega)) ?_
      exact wX1_edges_L24 hX β x1 x2 x3 x4 1 σ h
set_option maxHeartbeats 4000000 in
theorem wX1_filters_L26 {X : ol_Cx} {V : ol_Gh} {A : Nat → Prop} {a : Nat → Nat} {ext : va_W} {g : Nat → Nat → Nat} {z : Int32 × ol_Xm} (hX : ol_CX X V A cX1_filters RX1 "filters" 6 (some .int)) (β : ol_Bd) (x1 : Int32) (x2 : Int32)    : ∀ (n : Nat), ∀ (v4 : Int32) (σ : ol_Xm) (c : Nat) (m : Nat) (hc : c + 1 * n ≤ 22) (hm : m + 2 * n ≤ 44), oX1_filters_L26 β (g 0 0) x1 x2 n v4 σ = some z → ol_G X V A true (ol_Pw (some (.int z.1)) (ol_Xc V a (some (g 0 0)) z.2 ++ (ol_WB V g β ++ ext))) ({ frames := 13, cells := 22, slots := 44, locals := 628 } : Room) 6 c m (ol_Xc V a (some (g 0 0)) σ ++ (ol_WB V g β ++ ext)) 26 [some (.ref (a 0)), some (.int x1), some (.int x2), none, some (.int v4), none] [] := by
  intro n
  induction n with
  | zero =>
    intro v4 σ c m hc hm h
    exact ol_no h
  | succ n ih =>
    intro v4 σ c m hc hm h
    rw [oX1_filters_L26] at h
    refine ol_iload hX (pc := 26) dX1_filters_26 rfl ?_
    refine ol_bipush hX (pc := 28) 20 dX1_filters_28 ol_k_bipush_20 ?_
    refine ol_icmp_gt hX (pc := 30) 99 dX1_filters_30 (by decide) (fun c12 => ?_) (fun c12 => ?_)
    · have h := ol_ifp c12 h
      refine ol_aload_n hX (pc := 99) dX1_filters_99 rfl rfl ?_
      refine ol_bipush hX (pc := 100) (-2) dX1_filters_100 ol_k_bipush_m2 ?_
      obtain ⟨y1, e2, h⟩ := ol_of_bd h
      refine ol_cVw (As := [.int (-2)]) hX (pc := 102) (wX1_fine V a (some (g 0 0)) (ol_WB V g β ++ ext) σ (-2) y1 e2) lkX1_125 dcX1_fine ol_rr_X1_filters_X1_fine 0 rfl rfl ⟨(by first | omega | (dsimp only; omega)), (by first | omega | (dsimp only; omega))⟩ (Nat.le_of_ble_eq_true rfl) dX1_filters_102 rfl ?_
      have h := ol_of_some h
      subst h
      exact ol_iret hX (pc := 105) dX1_filters_105 ⟨rfl, rfl⟩ ⟨(by first | omega | (dsimp only; omega)), (by first | omega | (dsimp only; omega))⟩
    · have h := ol_ifn c12 h
      refine ol_aload_n hX (pc := 33) dX1_filters_33 rfl rfl ?_
      refine ol_xg_O_0 hX (pc := 34) q340 dX1_filters_34 ?_
      refine ol_aload_n hX (pc := 37) dX1_filters_37 rfl rfl ?_
      refine ol_xg_O_6 hX (pc := 38) q348 rfl dX1_filters_38 ?_
      refine ol_iload_n hX (pc := 41) dX1_filters_41 rfl rfl ?_
      refine ol_aload_n hX (pc := 42) dX1_filters_42 rfl rfl ?_
      refine ol_iload_n hX (pc := 43) dX1_filters_43 rfl rfl ?_
      refine ol_cVW (As := [.int x1]) hX (pc := 44) (wX1_wordsOf V _ (a 0) x1) lkX1_193 dcX1_wordsOf ⟨(Nat.le_of_ble_eq_true rfl), (Nat.le_of_ble_eq_true rfl)⟩ 0 rfl rfl ⟨(by first | omega | (dsimp only; omega)), (by first | omega | (dsimp only; omega))⟩ (Nat.le_of_ble_eq_true rfl) dX1_filters_44 rfl (fun v w hp => ?_)
      obtain ⟨q3, rfl, rfl⟩ := hp
      refine ol_Geq (show _ = ol_Xc V a (some (g 0 0)) σ ++ (ol_WB V g β ++ (ext ++ [(q3, .inr (9, [.int x1, .ref (a 0)]))])) from by simp only [List.append_assoc]) ?_
      refine ol_Gwid (k := (c + 1)) (n := (m + 2)) (by first | omega | (dsimp only; omega)) (by first | omega | (dsimp only; omega)) ?_
      refine ol_aload_n hX (pc := 47) dX1_filters_47 rfl rfl ?_
      refine ol_xg_O_7 hX (pc := 48) q350 dX1_filters_48 ?_
      refine ol_xgN_R_5 hX (pc := 51) ol_isr0 q264 dX1_filters_51 ?_
      refine ol_sipush hX (pc := 54) 400 dX1_filters_54 ol_k_sipush_400 ?_
      refine ol_iload hX (pc := 57) dX1_filters_57 rfl ?_
      obtain ⟨y4, e5, h⟩ := ol_of_bd h
      refine ol_cVw (As := [.ref (g 0 0), .int x2, .ref q3, .ref (a (10 + 5)), .int 400, .int v4]) hX (pc := 59) (wX2_goes_2 V a (some (g 0 0)) (ext ++ [(q3, .inr (9, [.int x1, .ref (a 0)]))]) g q3 σ β 10 (fun σ i => oX11_of σ β (g 0 0) x1 i) x2 400 v4 ol_isr0 (ol_word1 (List.mem_append_right _ List.mem_cons_self)) y4 e5) lkX1_261 dcX2_goes_2 ol_rr_X1_filters_X2_goes_2 2 rfl rfl ⟨(by first | omega | (dsimp only; omega)), (by first | omega | (dsimp only; omega))⟩ (Nat.le_of_ble_eq_true rfl) dX1_filters_59 rfl ?_
      refine ol_Geq (show _ = (ol_Xc V a (some (g 0 0)) y4 ++ (ol_WB V g β ++ ext)) ++ [(q3, .inr (9, [.int x1, .ref (a 0)]))] from by simp only [List.append_assoc]) (ol_Gpre ?_)
      obtain ⟨y6, e7, h⟩ := ol_of_bd h
      refine ol_cVr (As := []) hX (pc := 62) (wX2_sure V a (some (g 0 0)) ext g y4 β y6 e7) lkX1_245 dcX2_sure ⟨rfl, rfl⟩ ol_rr_X1_filters_X2_sure 2 rfl rfl (fun _ h => h) ⟨(by first | omega | (dsimp only; omega)), (by first | omega | (dsimp only; omega))⟩ (Nat.le_of_ble_eq_true rfl) dX1_filters_62 rfl ?_
      refine ol_istore hX (pc := 65) [some (.ref (a 0)), some (.int x1), some (.int x2), none, some (.int v4), some (.int y6)] dX1_filters_65 (by decide) rfl rfl ?_
      refine ol_iload hX (pc := 67) dX1_filters_67 rfl ?_
      refine ol_bipush hX (pc := 69) (-2) dX1_filters_69 ol_k_bipush_m2 ?_
      refine ol_icmp_eq hX (pc := 71) 93 dX1_filters_71 (by decide) (fun c11 => ?_) (fun c11 => ?_)
      · have h := ol_ifp c11 h
        refine ol_iinc hX (pc := 93) (v4 + 1) [some (.ref (a 0)), some (.int x1), some (.int x2), none, some (.int (v4 + 1)), some (.int y6)] dX1_filters_93 rfl (ol_k_iinc_1 _) (by decide) rfl rfl ?_
        refine ol_goto hX (pc := 96) 26 dX1_filters_96 (by decide) ?_
        refine ol_Gdrop 5 ?_
        refine ol_Gwid (k := (c + 1)) (n := (m + 2)) (by first | omega | (dsimp only; omega)) (by first | omega | (dsimp only; omega)) ?_
        exact ih (v4 + 1) y4 (c + 1) (m + 2) (by first | omega | (dsimp only; omega)) (by first | omega | (dsimp only; omega)) h
      · have h := ol_ifn c11 h
        refine ol_iload hX (pc := 74) dX1_filters_74 rfl ?_
        refine ol_aload_n hX (pc := 76) dX1_filters_76 rfl rfl ?_
        refine ol_xg_O_6 hX (pc := 77) q348 rfl dX1_filters_77 ?_
        refine ol_getNM hX in_X6 (pc := 80) ol_hB_X.bus rfl 2 (by decide) q477 rfl rfl dX1_filters_80 ?_
        refine ol_icmp_gt hX (pc := 83) 93 dX1_filters_83 (by decide) (fun c10 => ?_) (fun c10 => ?_)
        · have h := ol_ifp c10 h
          refine ol_iinc hX (pc := 93) (v4 + 1) [some (.ref (a 0)), some (.int x1), some (.int x2), none, some (.int (v4 + 1)), some (.int y6)] dX1_filters_93 rfl (ol_k_iinc_1 _) (by decide) rfl rfl ?_
          refine ol_goto hX (pc := 96) 26 dX1_filters_96 (by decide) ?_
          refine ol_Gdrop 5 ?_
          refine ol_Gwid (k := (c + 1)) (n := (m + 2)) (by first | omega | (dsimp only; omega)) (by first | omega | (dsimp only; omega)) ?_
          exact ih (v4 + 1) y4 (c + 1) (m + 2) (by first | omega | (dsimp only; omega)) (by first | omega | (dsimp only; omega)) h
        · have h := ol_ifn c10 h
          refine ol_aload_n hX (pc := 86) dX1_filters_86 rfl rfl ?_
          refine ol_iload hX (pc := 87) dX1_filters_87 rfl ?_
          obtain ⟨y8, e9, h⟩ := ol_of_bd h
          refine ol_cVw (As := [.int v4]) hX (pc := 89) (wX1_fine V a (some (g 0 0)) (ol_WB V g β ++ ext) y4 v4 y8 e9) lkX1_125 dcX1_fine ol_rr_X1_filters_X1_fine 0 rfl rfl ⟨(by first | omega | (dsimp only; omega)), (by first | omega | (dsimp only; omega))⟩ (Nat.le_of_ble_eq_true rfl) dX1_filters_89 rfl ?_
          have h := ol_of_some h
          subst h
          exact ol_iret hX (pc := 92) dX1_filters_92 ⟨rfl, rfl⟩ ⟨(by first | omega | (dsimp only; omega)), (by first | omega | (dsimp only; omega))⟩
set_option maxHeartbeats 4000000 in
theorem wX1_filters (V : ol_Gh) (a : Nat → Nat) (ext : va_W) (g : Nat → Nat → Nat) (σ : ol_Xm) (β : ol_Bd) (x1 : Int32) (x2 : Int32)  (z : Int32 × ol_Xm) (h : oX1_filters σ β (g 0 0) x1 x2 = some z) : ol_Mt V yX1_filters cX1_filters 6 (some .int) ({ frames := 13, cells := 22, slots := 44, locals := 628 } : Room) true [.ref (a 0), .int x1, .int x2] (ol_Xc V a (some (g 0 0)) σ ++ (ol_WB V g β ++ ext)) (ol_Pw (some (.int z.1)) (ol_Xc V a (some (g 0 0)) z.2 ++ (ol_WB V g β ++ ext))) := by
  refine ol_MtOf (L0 := [some (.ref (a 0)), some (.int x1), some (.int x2), none, none, none]) (by decide) (Nat.le_of_ble_eq_true rfl) rfl (fun X A hX => ?_)
  unfold oX1_filters at h
  refine ol_aload_n hX (pc := 0) dX1_filters_0 rfl rfl ?_
  refine ol_iconst hX (pc := 1) 1 dX1_filters_1 ol_k_iconst_1 ?_
  refine ol_iload_n hX (pc := 2) dX1_filters_2 rfl rfl ?_
  refine ol_iload_n hX (pc := 3) dX1_filters_3 rfl rfl ?_
  refine ol_iconst hX (pc := 4) 0 dX1_filters_4 ol_k_iconst_0 ?_
  obtain ⟨y1, e2, h⟩ := ol_of_bd h
  refine ol_cVr (As := [.int 1, .int x1, .int x2, .int 0]) hX (pc := 5) (wX1_refuses V a ext g σ β 1 x1 x2 0 y1 e2) lkX1_219 dcX1_refuses ⟨rfl, rfl⟩ ol_rr_X1_filters_X1_refuses 0 rfl rfl (fun _ h => h) ⟨(by first | omega | (dsimp only; omega)), (by first | omega | (dsimp only; omega))⟩ (Nat.le_of_ble_eq_true rfl) dX1_filters_5 rfl ?_
  refine ol_istore_n hX (pc := 8) [some (.ref (a 0)), some (.int x1), some (.int x2), some (.int y1), none, none] dX1_filters_8 rfl (by decide) rfl rfl ?_
  refine ol_iload_n hX (pc := 9) dX1_filters_9 rfl rfl ?_
  refine ol_if_le hX (pc := 10) 19 dX1_filters_10 (by decide) (fun c7 => ?_) (fun c7 => ?_)
  · have h := ol_ifp c7 h
    refine ol_aload_n hX (pc := 19) dX1_filters_19 rfl rfl ?_
    obtain ⟨y3, e4, h⟩ := ol_of_bd h
    refine ol_cVw (As := []) hX (pc := 20) (wX1_forgets V a (some (g 0 0)) (ol_WB V g β ++ ext) σ y3 e4) lkX1_112 dcX1_forgets ol_rr_X1_filters_X1_forgets 0 rfl rfl ⟨(by first | omega | (dsimp only; omega)), (by first | omega | (dsimp only; omega))⟩ (Nat.le_of_ble_eq_true rfl) dX1_filters_20 rfl ?_
    refine ol_iconst hX (pc := 23) 0 dX1_filters_23 ol_k_iconst_0 ?_
    refine ol_istore hX (pc := 24) [some (.ref (a 0)), some (.int x1), some (.int x2), some (.int y1), some (.int 0), none] dX1_filters_24 (by decide) rfl rfl ?_
    refine ol_Gdrop 3 ?_
    refine ol_Gwid (k := 0) (n := 0) (by first | omega | (dsimp only; omega)) (by first | omega | (dsimp only; omega)) ?_
    exact wX1_filters_L26 hX β x1 x2 22 0 y3 0 0 (by first | omega | (dsimp only; omega)) (by first | omega | (dsimp only; omega)) h
  · have h := ol_ifn c7 h
    refine ol_aload_n hX (pc := 13) dX1_filters_13 rfl rfl ?_
    refine ol_iload_n hX (pc := 14) dX1_filters_14 rfl rfl ?_
    obtain ⟨y5, e6, h⟩ := ol_of_bd h
    refine ol_cVw (As := [.int y1]) hX (pc := 15) (wX1_refused V a (some (g 0 0)) (ol_WB V g β ++ ext) σ y1 y5 e6) lkX1_81 dcX1_refused ol_rr_X1_filters_X1_refused 0 rfl rfl ⟨(by first | omega | (dsimp only; omega)), (by first | omega | (dsimp only; omega))⟩ (Nat.le_of_ble_eq_true rfl) dX1_filters_15 rfl ?_
    have h := ol_of_some h
    subst h
    exact ol_iret hX (pc := 18) dX1_filters_18 ⟨rfl, rfl⟩ ⟨(by first | omega | (dsimp only; omega)), (by first | omega | (dsimp only; omega))⟩
set_option maxHeartbeats 4000000 in
theorem wX1_slowest_L27 {X : ol_Cx} {V : ol_Gh} {A : Nat → Prop} {a : Nat → Nat} {ext : va_W} {g : Nat → Nat → Nat} {z : Int32 × ol_Xm} (hX : ol_CX X V A cX1_slowest RX1 "slowest" 7 (some .int)) (β : ol_Bd) (x1 : Int32)    : ∀ (n : Nat), ∀ (v3 : Int32) (v4 : Int32) (v5 : Int32) (σ : ol_Xm) (c : Nat) (m : Nat) (hc : c + 1 * n ≤ 65) (hm : m + 2 * n ≤ 130), oX1_slowest_L27 β (g 0 0) x1 n v3 v4 v5 σ = some z → ol_G X V A true (ol_Pw (some (.int z.1)) (ol_Xc V a (some (g 0 0)) z.2 ++ (ol_WB V g β ++ ext))) ({ frames := 15, cells := 65, slots := 130, locals := 676 } : Room) 7 c m (ol_Xc V a (some (g 0 0)) σ ++ (ol_WB V g β ++ ext)) 27 [some (.ref (a 0)), some (.int x1), none, some (.int v3), some (.int v4), some (.int v5), none] [] := by
  intro n
  induction n with
  | zero =>
    intro v3 v4 v5 σ c m hc hm h
    exact ol_no h
  | succ n ih =>
    intro v3 v4 v5 σ c m hc hm h
    rw [oX1_slowest_L27] at h
    refine ol_iload hX (pc := 27) dX1_slowest_27 rfl ?_
    refine ol_iconst hX (pc := 29) 1 dX1_slowest_29 ol_k_iconst_1 ?_
    refine ol_aload_n hX (pc := 30) dX1_slowest_30 rfl rfl ?_
    refine ol_xg_O_6 hX (pc := 31) q348 rfl dX1_slowest_31 ?_
    refine ol_cVr (As := []) hX (pc := 34) (wX6_many V g β _ ol_hB_X) lkX1_119 dcX6_many ⟨rfl, rfl⟩ ⟨(Nat.le_of_ble_eq_true rfl), (Nat.le_of_ble_eq_true rfl)⟩ 37 rfl rfl (fun _ h => h) ⟨(by first | omega | (dsimp only; omega)), (by first | omega | (dsimp only; omega))⟩ (Nat.le_of_ble_eq_true rfl) dX1_slowest_34 rfl ?_
    refine ol_ishl hX (pc := 37) dX1_slowest_37 ?_
    refine ol_icmp_ge hX (pc := 38) 79 dX1_slowest_38 (by decide) (fun c8 => ?_) (fun c8 => ?_)
    · have h := ol_ifp c8 h
      refine ol_aload_n hX (pc := 79) dX1_slowest_79 rfl rfl ?_
      refine ol_iload_n hX (pc := 80) dX1_slowest_80 rfl rfl ?_
      obtain ⟨y1, e2, h⟩ := ol_of_bd h
      refine ol_cVw (As := [.int v3]) hX (pc := 81) (wX1_fine V a (some (g 0 0)) (ol_WB V g β ++ ext) σ v3 y1 e2) lkX1_125 dcX1_fine ol_rr_X1_slowest_X1_fine 0 rfl rfl ⟨(by first | omega | (dsimp only; omega)), (by first | omega | (dsimp only; omega))⟩ (Nat.le_of_ble_eq_true rfl) dX1_slowest_81 rfl ?_
      have h := ol_of_some h
      subst h
      exact ol_iret hX (pc := 84) dX1_slowest_84 ⟨rfl, rfl⟩ ⟨(by first | omega | (dsimp only; omega)), (by first | omega | (dsimp only; omega))⟩
    · have h := ol_ifn c8 h
      refine ol_aload_n hX (pc := 41) dX1_slowest_41 rfl rfl ?_
      refine ol_iload_n hX (pc := 42) dX1_slowest_42 rfl rfl ?_
      refine ol_iload hX (pc := 43) dX1_slowest_43 rfl ?_
      refine ol_sipush hX (pc := 45) 400 dX1_slowest_45 ol_k_sipush_400 ?_
      obtain ⟨y3, e4, h⟩ := ol_of_bd h
      refine ol_cVw (As := [.int x1, .int v5, .int 400]) hX (pc := 48) (wX1_passOf V a ext g σ β x1 v5 400 y3 e4) lkX1_223 dcX1_passOf ol_rr_X1_slowest_X1_passOf 0 rfl rfl ⟨(by first | omega | (dsimp only; omega)), (by first | omega | (dsimp only; omega))⟩ (Nat.le_of_ble_eq_true rfl) dX1_slowest_48 rfl ?_
      refine ol_Gwid (k := (c + 1)) (n := (m + 2)) (by first | omega | (dsimp only; omega)) (by first | omega | (dsimp only; omega)) ?_
      obtain ⟨y5, e6, h⟩ := ol_of_bd h
      refine ol_cVr (As := []) hX (pc := 51) (wX2_settles V a (some (g 0 0)) ext g y3 β y5 e6) lkX1_242 dcX2_settles ⟨rfl, rfl⟩ ol_rr_X1_slowest_X2_settles 2 rfl rfl (fun _ h => h) ⟨(by first | omega | (dsimp only; omega)), (by first | omega | (dsimp only; omega))⟩ (Nat.le_of_ble_eq_true rfl) dX1_slowest_51 rfl ?_
      refine ol_istore hX (pc := 54) [some (.ref (a 0)), some (.int x1), none, some (.int v3), some (.int v4), some (.int v5), some (.int y5)] dX1_slowest_54 (by decide) rfl rfl ?_
      refine ol_iload hX (pc := 56) dX1_slowest_56 rfl ?_
      refine ol_iload hX (pc := 58) dX1_slowest_58 rfl ?_
      refine ol_icmp_gt hX (pc := 60) 66 dX1_slowest_60 (by decide) (fun c7 => ?_) (fun c7 => ?_)
      · have h := ol_ifp c7 h
        refine ol_iload hX (pc := 66) dX1_slowest_66 rfl ?_
        refine ol_istore hX (pc := 68) [some (.ref (a 0)), some (.int x1), none, some (.int v3), some (.int y5), some (.int v5), some (.int y5)] dX1_slowest_68 (by decide) rfl rfl ?_
        refine ol_iload hX (pc := 70) dX1_slowest_70 rfl ?_
        refine ol_istore_n hX (pc := 72) [some (.ref (a 0)), some (.int x1), none, some (.int v5), some (.int y5), some (.int v5), some (.int y5)] dX1_slowest_72 rfl (by decide) rfl rfl ?_
        refine ol_iinc hX (pc := 73) (v5 + 1) [some (.ref (a 0)), some (.int x1), none, some (.int v5), some (.int y5), some (.int (v5 + 1)), some (.int y5)] dX1_slowest_73 rfl (ol_k_iinc_1 _) (by decide) rfl rfl ?_
        refine ol_goto hX (pc := 76) 27 dX1_slowest_76 (by decide) ?_
        refine ol_Gdrop 6 ?_
        refine ol_Gwid (k := (c + 1)) (n := (m + 2)) (by first | omega | (dsimp only; omega)) (by first | omega | (dsimp only; omega)) ?_
        exact ih v5 y5 (v5 + 1) y3 (c + 1) (m + 2) (by first | omega | (dsimp only; omega)) (by first | omega | (dsimp only; omega)) h
      · have h := ol_ifn c7 h
        refine ol_goto hX (pc := 63) 73 dX1_slowest_63 (by decide) ?_
        refine ol_iinc hX (pc := 73) (v5 + 1) [some (.ref (a 0)), some (.int x1), none, some (.int v3), some (.int v4), some (.int (v5 + 1)), some (.int y5)] dX1_slowest_73 rfl (ol_k_iinc_1 _) (by decide) rfl rfl ?_
        refine ol_goto hX (pc := 76) 27 dX1_slowest_76 (by decide) ?_
        refine ol_Gdrop 6 ?_
        refine ol_Gwid (k := (c + 1)) (n := (m + 2)) (by first | omega | (dsimp only; omega)) (by first | omega | (dsimp only; omega)) ?_
        exact ih v3 v4 (v5 + 1) y3 (c + 1) (m + 2) (by first | omega | (dsimp only; omega)) (by first | omega | (dsimp only; omega)) h
set_option maxHeartbeats 4000000 in
theorem wX1_slowest (V : ol_Gh) (a : Nat → Nat) (ext : va_W) (g : Nat → Nat → Nat) (σ : ol_Xm) (β : ol_Bd) (x1 : Int32)  (z : Int32 × ol_Xm) (h : oX1_slowest σ β (g 0 0) x1 = some z) : ol_Mt V yX1_slowest cX1_slowest 7 (some .int) ({ frames := 15, cells := 65, slots := 130, locals := 676 } : Room) true [.ref (a 0), .int x1] (ol_Xc V a (some (g 0 0)) σ ++ (ol_WB V g β ++ ext)) (ol_Pw (some (.int z.1)) (ol_Xc V a (some (g 0 0)) z.2 ++ (ol_WB V g β ++ ext))) := by
  refine ol_MtOf (L0 := [some (.ref (a 0)), some (.int x1), none, none, none, none, none]) (by decide) (Nat.le_of_ble_eq_true rfl) rfl (fun X A hX => ?_)
  unfold oX1_slowest at h
  refine ol_aload_n hX (pc := 0) dX1_slowest_0 rfl rfl ?_
  refine ol_iconst hX (pc := 1) 1 dX1_slowest_1 ol_k_iconst_1 ?_
  refine ol_iload_n hX (pc := 2) dX1_slowest_2 rfl rfl ?_
  refine ol_iconst hX (pc := 3) 1 dX1_slowest_3 ol_k_iconst_1 ?_
  refine ol_iconst hX (pc := 4) 0 dX1_slowest_4 ol_k_iconst_0 ?_
  obtain ⟨y1, e2, h⟩ := ol_of_bd h
  refine ol_cVr (As := [.int 1, .int x1, .int 1, .int 0]) hX (pc := 5) (wX1_refuses V a ext g σ β 1 x1 1 0 y1 e2) lkX1_219 dcX1_refuses ⟨rfl, rfl⟩ ol_rr_X1_slowest_X1_refuses 0 rfl rfl (fun _ h => h) ⟨(by first | omega | (dsimp only; omega)), (by first | omega | (dsimp only; omega))⟩ (Nat.le_of_ble_eq_true rfl) dX1_slowest_5 rfl ?_
  refine ol_istore_n hX (pc := 8) [some (.ref (a 0)), some (.int x1), some (.int y1), none, none, none, none] dX1_slowest_8 rfl (by decide) rfl rfl ?_
  refine ol_iload_n hX (pc := 9) dX1_slowest_9 rfl rfl ?_
  refine ol_if_le hX (pc := 10) 19 dX1_slowest_10 (by decide) (fun c5 => ?_) (fun c5 => ?_)
  · have h := ol_ifp c5 h
    refine ol_iconst hX (pc := 19) 0 dX1_slowest_19 ol_k_iconst_0 ?_
    refine ol_istore_n hX (pc := 20) [some (.ref (a 0)), some (.int x1), some (.int y1), some (.int 0), none, none, none] dX1_slowest_20 rfl (by decide) rfl rfl ?_
    refine ol_iconst hX (pc := 21) (-1) dX1_slowest_21 ol_k_iconst_m1 ?_
    refine ol_istore hX (pc := 22) [some (.ref (a 0)), some (.int x1), some (.int y1), some (.int 0), some (.int (-1)), none, none] dX1_slowest_22 (by decide) rfl rfl ?_
    refine ol_iconst hX (pc := 24) 1 dX1_slowest_24 ol_k_iconst_1 ?_
    refine ol_istore hX (pc := 25) [some (.ref (a 0)), some (.int x1), some (.int y1), some (.int 0), some (.int (-1)), some (.int 1), none] dX1_slowest_25 (by decide) rfl rfl ?_
    refine ol_Gdrop 2 ?_
    refine ol_Gwid (k := 0) (n := 0) (by first | omega | (dsimp only; omega)) (by first | omega | (dsimp only; omega)) ?_
    exact wX1_slowest_L27 hX β x1 65 0 (-1) 1 σ 0 0 (by first | omega | (dsimp only; omega)) (by first | omega | (dsimp only; omega)) h
  · have h := ol_ifn c5 h
    refine ol_aload_n hX (pc := 13) dX1_slowest_13 rfl rfl ?_
    refine ol_iload_n hX (pc := 14) dX1_slowest_14 rfl rfl ?_
    obtain ⟨y3, e4, h⟩ := ol_of_bd h
    refine ol_cVw (As := [.int y1]) hX (pc := 15) (wX1_refused V a (some (g 0 0)) (ol_WB V g β ++ ext) σ y1 y3 e4) lkX1_81 dcX1_refused ol_rr_X1_slowest_X1_refused 0 rfl rfl ⟨(by first | omega | (dsimp only; omega)), (by first | omega | (dsimp only; omega))⟩ (Nat.le_of_ble_eq_true rfl) dX1_slowest_15 rfl ?_
    have h := ol_of_some h
    subst h
    exact ol_iret hX (pc := 18) dX1_slowest_18 ⟨rfl, rfl⟩ ⟨(by first | omega | (dsimp only; omega)), (by first | omega | (dsimp only; omega))⟩
set_option maxHeartbeats 4000000 in
theorem wX1_settled_L25 {X : ol_Cx} {V : ol_Gh} {A : Nat → Prop} {a : Nat → Nat} {ext : va_W} {g : Nat → Nat → Nat} {z : Int32 × ol_Xm} (hX : ol_CX X V A cX1_settled RX1 "settled" 6 (some .int)) (β : ol_Bd) (x1 : Int32) (x2 : Int32)    : ∀ (n : Nat), ∀ (v4 : Int32) (v5 : Int32) (σ : ol_Xm) (c : Nat) (m : Nat) (hc : c + 1 * n ≤ 65) (hm : m + 2 * n ≤ 130), oX1_settled_L25 β (g 0 0) x1 x2 n v4 v5 σ = some z → ol_G X V A true (ol_Pw (some (.int z.1)) (ol_Xc V a (some (g 0 0)) z.2 ++ (ol_WB V g β ++ ext))) ({ frames := 15, cells := 65, slots := 130, locals := 676 } : Room) 6 c m (ol_Xc V a (some (g 0 0)) σ ++ (ol_WB V g β ++ ext)) 25 [some (.ref (a 0)), some (.int x1), some (.int x2), none, some (.int v4), some (.int v5)] [] := by
  intro n
  induction n with
  | zero =>
    intro v4 v5 σ c m hc hm h
    exact ol_no h
  | succ n ih =>
    intro v4 v5 σ c m hc hm h
    rw [oX1_settled_L25] at h
    refine ol_iload hX (pc := 25) dX1_settled_25 rfl ?_
    refine ol_iconst hX (pc := 27) 1 dX1_settled_27 ol_k_iconst_1 ?_
    refine ol_aload_n hX (pc := 28) dX1_settled_28 rfl rfl ?_
    refine ol_xg_O_6 hX (pc := 29) q348 rfl dX1_settled_29 ?_
    refine ol_cVr (As := []) hX (pc := 32) (wX6_many V g β _ ol_hB_X) lkX1_119 dcX6_many ⟨rfl, rfl⟩ ⟨(Nat.le_of_ble_eq_true rfl), (Nat.le_of_ble_eq_true rfl)⟩ 37 rfl rfl (fun _ h => h) ⟨(by first | omega | (dsimp only; omega)), (by first | omega | (dsimp only; omega))⟩ (Nat.le_of_ble_eq_true rfl) dX1_settled_32 rfl ?_
    refine ol_ishl hX (pc := 35) dX1_settled_35 ?_
    refine ol_icmp_ge hX (pc := 36) 65 dX1_settled_36 (by decide) (fun c8 => ?_) (fun c8 => ?_)
    · have h := ol_ifp c8 h
      refine ol_aload_n hX (pc := 65) dX1_settled_65 rfl rfl ?_
      refine ol_iload hX (pc := 66) dX1_settled_66 rfl ?_
      obtain ⟨y1, e2, h⟩ := ol_of_bd h
      refine ol_cVw (As := [.int v4]) hX (pc := 68) (wX1_fine V a (some (g 0 0)) (ol_WB V g β ++ ext) σ v4 y1 e2) lkX1_125 dcX1_fine ol_rr_X1_settled_X1_fine 0 rfl rfl ⟨(by first | omega | (dsimp only; omega)), (by first | omega | (dsimp only; omega))⟩ (Nat.le_of_ble_eq_true rfl) dX1_settled_68 rfl ?_
      have h := ol_of_some h
      subst h
      exact ol_iret hX (pc := 71) dX1_settled_71 ⟨rfl, rfl⟩ ⟨(by first | omega | (dsimp only; omega)), (by first | omega | (dsimp only; omega))⟩
    · have h := ol_ifn c8 h
      refine ol_aload_n hX (pc := 39) dX1_settled_39 rfl rfl ?_
      refine ol_iload_n hX (pc := 40) dX1_settled_40 rfl rfl ?_
      refine ol_iload hX (pc := 41) dX1_settled_41 rfl ?_
      refine ol_sipush hX (pc := 43) 400 dX1_settled_43 ol_k_sipush_400 ?_
      obtain ⟨y3, e4, h⟩ := ol_of_bd h
      refine ol_cVw (As := [.int x1, .int v5, .int 400]) hX (pc := 46) (wX1_passOf V a ext g σ β x1 v5 400 y3 e4) lkX1_223 dcX1_passOf ol_rr_X1_settled_X1_passOf 0 rfl rfl ⟨(by first | omega | (dsimp only; omega)), (by first | omega | (dsimp only; omega))⟩ (Nat.le_of_ble_eq_true rfl) dX1_settled_46 rfl ?_
      refine ol_Gwid (k := (c + 1)) (n := (m + 2)) (by first | omega | (dsimp only; omega)) (by first | omega | (dsimp only; omega)) ?_
      obtain ⟨y5, e6, h⟩ := ol_of_bd h
      refine ol_cVr (As := []) hX (pc := 49) (wX2_settles V a (some (g 0 0)) ext g y3 β y5 e6) lkX1_242 dcX2_settles ⟨rfl, rfl⟩ ol_rr_X1_settled_X2_settles 2 rfl rfl (fun _ h => h) ⟨(by first | omega | (dsimp only; omega)), (by first | omega | (dsimp only; omega))⟩ (Nat.le_of_ble_eq_true rfl) dX1_settled_49 rfl ?_
      refine ol_iload_n hX (pc := 52) dX1_settled_52 rfl rfl ?_
      refine ol_icmp_gt hX (pc := 53) 59 dX1_settled_53 (by decide) (fun c7 => ?_) (fun c7 => ?_)
      · have h := ol_ifp c7 h
        refine ol_iinc hX (pc := 59) (v5 + 1) [some (.ref (a 0)), some (.int x1), some (.int x2), none, some (.int v4), some (.int (v5 + 1))] dX1_settled_59 rfl (ol_k_iinc_1 _) (by decide) rfl rfl ?_
        refine ol_goto hX (pc := 62) 25 dX1_settled_62 (by decide) ?_
        refine ol_Gwid (k := (c + 1)) (n := (m + 2)) (by first | omega | (dsimp only; omega)) (by first | omega | (dsimp only; omega)) ?_
        exact ih v4 (v5 + 1) y3 (c + 1) (m + 2) (by first | omega | (dsimp only; omega)) (by first | omega | (dsimp only; omega)) h
      · have h := ol_ifn c7 h
        refine ol_iinc hX (pc := 56) (v4 + 1) [some (.ref (a 0)), some (.int x1), some (.int x2), none, some (.int (v4 + 1)), some (.int v5)] dX1_settled_56 rfl (ol_k_iinc_1 _) (by decide) rfl rfl ?_
        refine ol_iinc hX (pc := 59) (v5 + 1) [some (.ref (a 0)), some (.int x1), some (.int x2), none, some (.int (v4 + 1)), some (.int (v5 + 1))] dX1_settled_59 rfl (ol_k_iinc_1 _) (by decide) rfl rfl ?_
        refine ol_goto hX (pc := 62) 25 dX1_settled_62 (by decide) ?_
        refine ol_Gwid (k := (c + 1)) (n := (m + 2)) (by first | omega | (dsimp only; omega)) (by first | omega | (dsimp only; omega)) ?_
        exact ih (v4 + 1) (v5 + 1) y3 (c + 1) (m + 2) (by first | omega | (dsimp only; omega)) (by first | omega | (dsimp only; omega)) h
set_option maxHeartbeats 4000000 in
theorem wX1_settled (V : ol_Gh) (a : Nat → Nat) (ext : va_W) (g : Nat → Nat → Nat) (σ : ol_Xm) (β : ol_Bd) (x1 : Int32) (x2 : Int32)  (z : Int32 × ol_Xm) (h : oX1_settled σ β (g 0 0) x1 x2 = some z) : ol_Mt V yX1_settled cX1_settled 6 (some .int) ({ frames := 15, cells := 65, slots := 130, locals := 676 } : Room) true [.ref (a 0), .int x1, .int x2] (ol_Xc V a (some (g 0 0)) σ ++ (ol_WB V g β ++ ext)) (ol_Pw (some (.int z.1)) (ol_Xc V a (some (g 0 0)) z.2 ++ (ol_WB V g β ++ ext))) := by
  refine ol_MtOf (L0 := [some (.ref (a 0)), some (.int x1), some (.int x2), none, none, none]) (by decide) (Nat.le_of_ble_eq_true rfl) rfl (fun X A hX => ?_)
  unfold oX1_settled at h
  refine ol_aload_n hX (pc := 0) dX1_settled_0 rfl rfl ?_
  refine ol_iconst hX (pc := 1) 1 dX1_settled_1 ol_k_iconst_1 ?_
  refine ol_iload_n hX (pc := 2) dX1_settled_2 rfl rfl ?_
  refine ol_iconst hX (pc := 3) 1 dX1_settled_3 ol_k_iconst_1 ?_
  refine ol_iload_n hX (pc := 4) dX1_settled_4 rfl rfl ?_
  obtain ⟨y1, e2, h⟩ := ol_of_bd h
  refine ol_cVr (As := [.int 1, .int x1, .int 1, .int x2]) hX (pc := 5) (wX1_refuses V a ext g σ β 1 x1 1 x2 y1 e2) lkX1_219 dcX1_refuses ⟨rfl, rfl⟩ ol_rr_X1_settled_X1_refuses 0 rfl rfl (fun _ h => h) ⟨(by first | omega | (dsimp only; omega)), (by first | omega | (dsimp only; omega))⟩ (Nat.le_of_ble_eq_true rfl) dX1_settled_5 rfl ?_
  refine ol_istore_n hX (pc := 8) [some (.ref (a 0)), some (.int x1), some (.int x2), some (.int y1), none, none] dX1_settled_8 rfl (by decide) rfl rfl ?_
  refine ol_iload_n hX (pc := 9) dX1_settled_9 rfl rfl ?_
  refine ol_if_le hX (pc := 10) 19 dX1_settled_10 (by decide) (fun c5 => ?_) (fun c5 => ?_)
  · have h := ol_ifp c5 h
    refine ol_iconst hX (pc := 19) 0 dX1_settled_19 ol_k_iconst_0 ?_
    refine ol_istore hX (pc := 20) [some (.ref (a 0)), some (.int x1), some (.int x2), some (.int y1), some (.int 0), none] dX1_settled_20 (by decide) rfl rfl ?_
    refine ol_iconst hX (pc := 22) 1 dX1_settled_22 ol_k_iconst_1 ?_
    refine ol_istore hX (pc := 23) [some (.ref (a 0)), some (.int x1), some (.int x2), some (.int y1), some (.int 0), some (.int 1)] dX1_settled_23 (by decide) rfl rfl ?_
    refine ol_Gdrop 3 ?_
    refine ol_Gwid (k := 0) (n := 0) (by first | omega | (dsimp only; omega)) (by first | omega | (dsimp only; omega)) ?_
    exact wX1_settled_L25 hX β x1 x2 65 0 1 σ 0 0 (by first | omega | (dsimp only; omega)) (by first | omega | (dsimp only; omega)) h
  · have h := ol_ifn c5 h
    refine ol_aload_n hX (pc := 13) dX1_settled_13 rfl rfl ?_
    refine ol_iload_n hX (pc := 14) dX1_settled_14 rfl rfl ?_
    obtain ⟨y3, e4, h⟩ := ol_of_bd h
    refine ol_cVw (As := [.int y1]) hX (pc := 15) (wX1_refused V a (some (g 0 0)) (ol_WB V g β ++ ext) σ y1 y3 e4) lkX1_81 dcX1_refused ol_rr_X1_settled_X1_refused 0 rfl rfl ⟨(by first | omega | (dsimp only; omega)), (by first | omega | (dsimp only; omega))⟩ (Nat.le_of_ble_eq_true rfl) dX1_settled_15 rfl ?_
    have h := ol_of_some h
    subst h
    exact ol_iret hX (pc := 18) dX1_settled_18 ⟨rfl, rfl⟩ ⟨(by first | omega | (dsimp only; omega)), (by first | omega | (dsimp only; omega))⟩
set_option maxHeartbeats 4000000 in
theorem wX1_enough_L24 {X : ol_Cx} {V : ol_Gh} {A : Nat → Prop} {a : Nat → Nat} {ext : va_W} {g : Nat → Nat → Nat} {z : Int32 × ol_Xm} (hX : ol_CX X V A cX1_enough RX1 "enough" 6 (some .int)) (β : ol_Bd) (x1 : Int32)    : ∀ (n : Nat), ∀ (v3 : Int32) (v4 : Int32) (σ : ol_Xm) (c : Nat) (m : Nat) (hc : c + 1 * n ≤ 65) (hm : m + 2 * n ≤ 130), oX1_enough_L24 β (g 0 0) x1 n v3 v4 σ = some z → ol_G X V A true (ol_Pw (some (.int z.1)) (ol_Xc V a (some (g 0 0)) z.2 ++ (ol_WB V g β ++ ext))) ({ frames := 15, cells := 65, slots := 130, locals := 676 } : Room) 6 c m (ol_Xc V a (some (g 0 0)) σ ++ (ol_WB V g β ++ ext)) 24 [some (.ref (a 0)), some (.int x1), none, some (.int v3), some (.int v4), none] [] := by
  intro n
  induction n with
  | zero =>
    intro v3 v4 σ c m hc hm h
    exact ol_no h
  | succ n ih =>
    intro v3 v4 σ c m hc hm h
    rw [oX1_enough_L24] at h
    refine ol_iload hX (pc := 24) dX1_enough_24 rfl ?_
    refine ol_iconst hX (pc := 26) 1 dX1_enough_26 ol_k_iconst_1 ?_
    refine ol_aload_n hX (pc := 27) dX1_enough_27 rfl rfl ?_
    refine ol_xg_O_6 hX (pc := 28) q348 rfl dX1_enough_28 ?_
    refine ol_cVr (As := []) hX (pc := 31) (wX6_many V g β _ ol_hB_X) lkX1_119 dcX6_many ⟨rfl, rfl⟩ ⟨(Nat.le_of_ble_eq_true rfl), (Nat.le_of_ble_eq_true rfl)⟩ 37 rfl rfl (fun _ h => h) ⟨(by first | omega | (dsimp only; omega)), (by first | omega | (dsimp only; omega))⟩ (Nat.le_of_ble_eq_true rfl) dX1_enough_31 rfl ?_
    refine ol_ishl hX (pc := 34) dX1_enough_34 ?_
    refine ol_icmp_ge hX (pc := 35) 80 dX1_enough_35 (by decide) (fun c10 => ?_) (fun c10 => ?_)
    · have h := ol_ifp c10 h
      refine ol_aload_n hX (pc := 80) dX1_enough_80 rfl rfl ?_
      refine ol_iload_n hX (pc := 81) dX1_enough_81 rfl rfl ?_
      obtain ⟨y1, e2, h⟩ := ol_of_bd h
      refine ol_cVw (As := [.int v3]) hX (pc := 82) (wX1_fine V a (some (g 0 0)) (ol_WB V g β ++ ext) σ v3 y1 e2) lkX1_125 dcX1_fine ol_rr_X1_enough_X1_fine 0 rfl rfl ⟨(by first | omega | (dsimp only; omega)), (by first | omega | (dsimp only; omega))⟩ (Nat.le_of_ble_eq_true rfl) dX1_enough_82 rfl ?_
      have h := ol_of_some h
      subst h
      exact ol_iret hX (pc := 85) dX1_enough_85 ⟨rfl, rfl⟩ ⟨(by first | omega | (dsimp only; omega)), (by first | omega | (dsimp only; omega))⟩
    · have h := ol_ifn c10 h
      refine ol_aload_n hX (pc := 38) dX1_enough_38 rfl rfl ?_
      refine ol_iload_n hX (pc := 39) dX1_enough_39 rfl rfl ?_
      refine ol_iload hX (pc := 40) dX1_enough_40 rfl ?_
      refine ol_sipush hX (pc := 42) 400 dX1_enough_42 ol_k_sipush_400 ?_
      obtain ⟨y3, e4, h⟩ := ol_of_bd h
      refine ol_cVw (As := [.int x1, .int v4, .int 400]) hX (pc := 45) (wX1_passOf V a ext g σ β x1 v4 400 y3 e4) lkX1_223 dcX1_passOf ol_rr_X1_enough_X1_passOf 0 rfl rfl ⟨(by first | omega | (dsimp only; omega)), (by first | omega | (dsimp only; omega))⟩ (Nat.le_of_ble_eq_true rfl) dX1_enough_45 rfl ?_
      refine ol_Gwid (k := (c + 1)) (n := (m + 2)) (by first | omega | (dsimp only; omega)) (by first | omega | (dsimp only; omega)) ?_
      obtain ⟨y5, e6, h⟩ := ol_of_bd h
      refine ol_cVr (As := []) hX (pc := 48) (wX2_sure V a (some (g 0 0)) ext g y3 β y5 e6) lkX1_245 dcX2_sure ⟨rfl, rfl⟩ ol_rr_X1_enough_X2_sure 2 rfl rfl (fun _ h => h) ⟨(by first | omega | (dsimp only; omega)), (by first | omega | (dsimp only; omega))⟩ (Nat.le_of_ble_eq_true rfl) dX1_enough_48 rfl ?_
      refine ol_istore hX (pc := 51) [some (.ref (a 0)), some (.int x1), none, some (.int v3), some (.int v4), some (.int y5)] dX1_enough_51 (by decide) rfl rfl ?_
      refine ol_iload hX (pc := 53) dX1_enough_53 rfl ?_
      refine ol_bipush hX (pc := 55) (-2) dX1_enough_55 ol_k_bipush_m2 ?_
      refine ol_icmp_ne hX (pc := 57) 67 dX1_enough_57 (by decide) (fun c9 => ?_) (fun c9 => ?_)
      · have h := ol_ifn c9 h
        refine ol_iload_n hX (pc := 67) dX1_enough_67 rfl rfl ?_
        refine ol_iload hX (pc := 68) dX1_enough_68 rfl ?_
        refine ol_max hX (pc := 70) q1714 q1182 q126 q1183 (Nat.le_of_ble_eq_true rfl) (Nat.le_of_ble_eq_true rfl) ⟨(by first | omega | (dsimp only; omega)), (by first | omega | (dsimp only; omega))⟩ dX1_enough_70 ?_
        refine ol_istore_n hX (pc := 73) [some (.ref (a 0)), some (.int x1), none, some (.int (if v3 < y5 then y5 else v3)), some (.int v4), some (.int y5)] dX1_enough_73 rfl (by decide) rfl rfl ?_
        refine ol_iinc hX (pc := 74) (v4 + 1) [some (.ref (a 0)), some (.int x1), none, some (.int (if v3 < y5 then y5 else v3)), some (.int (v4 + 1)), some (.int y5)] dX1_enough_74 rfl (ol_k_iinc_1 _) (by decide) rfl rfl ?_
        refine ol_goto hX (pc := 77) 24 dX1_enough_77 (by decide) ?_
        refine ol_Gdrop 5 ?_
        refine ol_Gwid (k := (c + 1)) (n := (m + 2)) (by first | omega | (dsimp only; omega)) (by first | omega | (dsimp only; omega)) ?_
        exact ih (if v3 < y5 then y5 else v3) (v4 + 1) y3 (c + 1) (m + 2) (by first | omega | (dsimp only; omega)) (by first | omega | (dsimp only; omega)) h
      · have h := ol_ifp c9 h
        refine ol_aload_n hX (pc := 60) dX1_enough_60 rfl rfl ?_
        refine ol_bipush hX (pc := 61) (-2) dX1_enough_61 ol_k_bipush_m2 ?_
        obtain ⟨y7, e8, h⟩ := ol_of_bd h
        refine ol_cVw (As := [.int (-2)]) hX (pc := 63) (wX1_fine V a (some (g 0 0)) (ol_WB V g β ++ ext) y3 (-2) y7 e8) lkX1_125 dcX1_fine ol_rr_X1_enough_X1_fine 0 rfl rfl ⟨(by first | omega | (dsimp only; omega)), (by first | omega | (dsimp only; omega))⟩ (Nat.le_of_ble_eq_true rfl) dX1_enough_63 rfl ?_
        have h := ol_of_some h
        subst h
        exact ol_iret hX (pc := 66) dX1_enough_66 ⟨rfl, rfl⟩ ⟨(by first | omega | (dsimp only; omega)), (by first | omega | (dsimp only; omega))⟩
set_option maxHeartbeats 4000000 in
theorem wX1_enough (V : ol_Gh) (a : Nat → Nat) (ext : va_W) (g : Nat → Nat → Nat) (σ : ol_Xm) (β : ol_Bd) (x1 : Int32)  (z : Int32 × ol_Xm) (h : oX1_enough σ β (g 0 0) x1 = some z) : ol_Mt V yX1_enough cX1_enough 6 (some .int) ({ frames := 15, cells := 65, slots := 130, locals := 676 } : Room) true [.ref (a 0), .int x1] (ol_Xc V a (some (g 0 0)) σ ++ (ol_WB V g β ++ ext)) (ol_Pw (some (.int z.1)) (ol_Xc V a (some (g 0 0)) z.2 ++ (ol_WB V g β ++ ext))) := by
  refine ol_MtOf (L0 := [some (.ref (a 0)), some (.int x1), none, none, none, none]) (by decide) (Nat.le_of_ble_eq_true rfl) rfl (fun X A hX => ?_)
  unfold oX1_enough at h
  refine ol_aload_n hX (pc := 0) dX1_enough_0 rfl rfl ?_
  refine ol_iconst hX (pc := 1) 1 dX1_enough_1 ol_k_iconst_1 ?_
  refine ol_iload_n hX (pc := 2) dX1_enough_2 rfl rfl ?_
  refine ol_iconst hX (pc := 3) 1 dX1_enough_3 ol_k_iconst_1 ?_
  refine ol_iconst hX (pc := 4) 0 dX1_enough_4 ol_k_iconst_0 ?_
  obtain ⟨y1, e2, h⟩ := ol_of_bd h
  refine ol_cVr (As := [.int 1, .int x1, .int 1, .int 0]) hX (pc := 5) (wX1_refuses V a ext g σ β 1 x1 1 0 y1 e2) lkX1_219 dcX1_refuses ⟨rfl, rfl⟩ ol_rr_X1_enough_X1_refuses 0 rfl rfl (fun _ h => h) ⟨(by first | omega | (dsimp only; omega)), (by first | omega | (dsimp only; omega))⟩ (Nat.le_of_ble_eq_true rfl) dX1_enough_5 rfl ?_
  refine ol_istore_n hX (pc := 8) [some (.ref (a 0)), some (.int x1), some (.int y1), none, none, none] dX1_enough_8 rfl (by decide) rfl rfl ?_
  refine ol_iload_n hX (pc := 9) dX1_enough_9 rfl rfl ?_
  refine ol_if_le hX (pc := 10) 19 dX1_enough_10 (by decide) (fun c5 => ?_) (fun c5 => ?_)
  · have h := ol_ifp c5 h
    refine ol_iconst hX (pc := 19) 0 dX1_enough_19 ol_k_iconst_0 ?_
    refine ol_istore_n hX (pc := 20) [some (.ref (a 0)), some (.int x1), some (.int y1), some (.int 0), none, none] dX1_enough_20 rfl (by decide) rfl rfl ?_
    refine ol_iconst hX (pc := 21) 1 dX1_enough_21 ol_k_iconst_1 ?_
    refine ol_istore hX (pc := 22) [some (.ref (a 0)), some (.int x1), some (.int y1), some (.int 0), some (.int 1), none] dX1_enough_22 (by decide) rfl rfl ?_
    refine ol_Gdrop 2 ?_
    refine ol_Gwid (k := 0) (n := 0) (by first | omega | (dsimp only; omega)) (by first | omega | (dsimp only; omega)) ?_
    exact wX1_enough_L24 hX β x1 65 0 1 σ 0 0 (by first | omega | (dsimp only; omega)) (by first | omega | (dsimp only; omega)) h
  · have h := ol_ifn c5 h
    refine ol_aload_n hX (pc := 13) dX1_enough_13 rfl rfl ?_
    refine ol_iload_n hX (pc := 14) dX1_enough_14 rfl rfl ?_
    obtain ⟨y3, e4, h⟩ := ol_of_bd h
    refine ol_cVw (As := [.int y1]) hX (pc := 15) (wX1_refused V a (some (g 0 0)) (ol_WB V g β ++ ext) σ y1 y3 e4) lkX1_81 dcX1_refused ol_rr_X1_enough_X1_refused 0 rfl rfl ⟨(by first | omega | (dsimp only; omega)), (by first | omega | (dsimp only; omega))⟩ (Nat.le_of_ble_eq_true rfl) dX1_enough_15 rfl ?_
    have h := ol_of_some h
    subst h
    exact ol_iret hX (pc := 18) dX1_enough_18 ⟨rfl, rfl⟩ ⟨(by first | omega | (dsimp only; omega)), (by first | omega | (dsimp only; omega))⟩
set_option maxHeartbeats 4000000 in
theorem wX1_would (V : ol_Gh) (a : Nat → Nat) (ext : va_W) (g : Nat → Nat → Nat) (σ : ol_Xm) (β : ol_Bd) (x1 : Int32)  (z : Int32 × ol_Xm) (h : oX1_would σ β (g 0 0) x1 = some z) : ol_Mt V yX1_would cX1_would 2 (some .int) ({ frames := 15, cells := 2, slots := 3, locals := 677 } : Room) true [.ref (a 0), .int x1] (ol_Xc V a (some (g 0 0)) σ ++ (ol_WB V g β ++ ext)) (ol_Pw (some (.int z.1)) (ol_Xc V a (some (g 0 0)) z.2 ++ (ol_WB V g β ++ ext))) := by
  refine ol_MtOf (L0 := [some (.ref (a 0)), some (.int x1)]) (by decide) (Nat.le_of_ble_eq_true rfl) rfl (fun X A hX => ?_)
  unfold oX1_would at h
  refine ol_aload_n hX (pc := 0) dX1_would_0 rfl rfl ?_
  refine ol_xg_O_6 hX (pc := 1) q348 rfl dX1_would_1 ?_
  refine ol_ifnonnull hX (pc := 4) 13 dX1_would_4 (by decide) ?_
  refine ol_aload_n hX (pc := 13) dX1_would_13 rfl rfl ?_
  refine ol_iload_n hX (pc := 14) dX1_would_14 rfl rfl ?_
  obtain ⟨y1, e2, h⟩ := ol_of_bd h
  refine ol_cVr (As := [.int x1]) hX (pc := 15) (wX1_isSet V a ext g σ β x1 y1 e2) lkX1_203 dcX1_isSet ⟨rfl, rfl⟩ ol_rr_X1_would_X1_isSet 0 rfl rfl (fun _ h => h) ⟨(by first | omega | (dsimp only; omega)), (by first | omega | (dsimp only; omega))⟩ (Nat.le_of_ble_eq_true rfl) dX1_would_15 rfl ?_
  refine ol_if_eq hX (pc := 18) 41 dX1_would_18 (by decide) (fun c10 => ?_) (fun c10 => ?_)
  · have h := ol_ifp c10 h
    refine ol_aload_n hX (pc := 41) dX1_would_41 rfl rfl ?_
    refine ol_iconst hX (pc := 42) 2 dX1_would_42 ol_k_iconst_2 ?_
    obtain ⟨y3, e4, h⟩ := ol_of_bd h
    refine ol_cVw (As := [.int 2]) hX (pc := 43) (wX1_refused V a (some (g 0 0)) (ol_WB V g β ++ ext) σ 2 y3 e4) lkX1_81 dcX1_refused ol_rr_X1_would_X1_refused 0 rfl rfl ⟨(by first | omega | (dsimp only; omega)), (by first | omega | (dsimp only; omega))⟩ (Nat.le_of_ble_eq_true rfl) dX1_would_43 rfl ?_
    have h := ol_of_some h
    subst h
    exact ol_iret hX (pc := 46) dX1_would_46 ⟨rfl, rfl⟩ ⟨(by first | omega | (dsimp only; omega)), (by first | omega | (dsimp only; omega))⟩
  · have h := ol_ifn c10 h
    refine ol_aload_n hX (pc := 21) dX1_would_21 rfl rfl ?_
    refine ol_aload_n hX (pc := 22) dX1_would_22 rfl rfl ?_
    refine ol_xg_O_7 hX (pc := 23) q350 dX1_would_23 ?_
    refine ol_iload_n hX (pc := 26) dX1_would_26 rfl rfl ?_
    refine ol_aload_n hX (pc := 27) dX1_would_27 rfl rfl ?_
    refine ol_iconst hX (pc := 28) 1 dX1_would_28 ol_k_iconst_1 ?_
    refine ol_cVW (As := [.int 1]) hX (pc := 29) (wX1_wordsOf V _ (a 0) 1) lkX1_193 dcX1_wordsOf ⟨(Nat.le_of_ble_eq_true rfl), (Nat.le_of_ble_eq_true rfl)⟩ 0 rfl rfl ⟨(by first | omega | (dsimp only; omega)), (by first | omega | (dsimp only; omega))⟩ (Nat.le_of_ble_eq_true rfl) dX1_would_29 rfl (fun v w hp => ?_)
    obtain ⟨q5, rfl, rfl⟩ := hp
    refine ol_Geq (show _ = ol_Xc V a (some (g 0 0)) σ ++ (ol_WB V g β ++ (ext ++ [(q5, .inr (9, [.int 1, .ref (a 0)]))])) from by simp only [List.append_assoc]) ?_
    refine ol_Gwid (k := 1) (n := 2) (by first | omega | (dsimp only; omega)) (by first | omega | (dsimp only; omega)) ?_
    obtain ⟨y6, e7, h⟩ := ol_of_bd h
    refine ol_cVw (As := [.int x1, .ref q5]) hX (pc := 32) (wX3_passes V a (some (g 0 0)) (ext ++ [(q5, .inr (9, [.int 1, .ref (a 0)]))]) g q5 σ β 10 (fun σ i => oX11_of σ β (g 0 0) 1 i) x1 ol_isr0 (ol_word1 (List.mem_append_right _ List.mem_cons_self)) y6 e7) lkX1_269 dcX3_passes ol_rr_X1_would_X3_passes 10 (ol_rpos ol_isr0) rfl ⟨(by first | omega | (dsimp only; omega)), (by first | omega | (dsimp only; omega))⟩ (Nat.le_of_ble_eq_true rfl) dX1_would_32 rfl ?_
    refine ol_Gwid (k := 2) (n := 3) (by first | omega | (dsimp only; omega)) (by first | omega | (dsimp only; omega)) ?_
    refine ol_Geq (show _ = (ol_Xc V a (some (g 0 0)) y6.2 ++ (ol_WB V g β ++ ext)) ++ [(q5, .inr (9, [.int 1, .ref (a 0)]))] from by simp only [List.append_assoc]) (ol_Gpre ?_)
    obtain ⟨y8, e9, h⟩ := ol_of_bd h
    refine ol_cVw (As := [.int y6.1]) hX (pc := 35) (wX1_fine V a (some (g 0 0)) (ol_WB V g β ++ ext) y6.2 y6.1 y8 e9) lkX1_125 dcX1_fine ol_rr_X1_would_X1_fine 0 rfl rfl ⟨(by first | omega | (dsimp only; omega)), (by first | omega | (dsimp only; omega))⟩ (Nat.le_of_ble_eq_true rfl) dX1_would_35 rfl ?_
    refine ol_goto hX (pc := 38) 46 dX1_would_38 (by decide) ?_
    have h := ol_of_some h
    subst h
    exact ol_iret hX (pc := 46) dX1_would_46 ⟨rfl, rfl⟩ ⟨(by first | omega | (dsimp only; omega)), (by first | omega | (dsimp only; omega))⟩
set_option maxHeartbeats 4000000 in
theorem wX1_now (V : ol_Gh) (a : Nat → Nat) (ext : va_W) (g : Nat → Nat → Nat) (σ : ol_Xm) (β : ol_Bd) (x1 : Int32)  (z : Int32 × ol_Xm) (h : oX1_now σ β (g 0 0) x1 = some z) : ol_Mt V yX1_now cX1_now 2 (some .int) ({ frames := 4, cells := 0, slots := 0, locals := 83 } : Room) true [.ref (a 0), .int x1] (ol_Xc V a (some (g 0 0)) σ ++ (ol_WB V g β ++ ext)) (ol_Pw (some (.int z.1)) (ol_Xc V a (some (g 0 0)) z.2 ++ (ol_WB V g β ++ ext))) := by
  refine ol_MtOf (L0 := [some (.ref (a 0)), some (.int x1)]) (by decide) (Nat.le_of_ble_eq_true rfl) rfl (fun X A hX => ?_)
  unfold oX1_now at h
  refine ol_aload_n hX (pc := 0) dX1_now_0 rfl rfl ?_
  refine ol_xg_O_6 hX (pc := 1) q348 rfl dX1_now_1 ?_
  refine ol_ifnull hX (pc := 4) dX1_now_4 ?_
  refine ol_iload_n hX (pc := 7) dX1_now_7 rfl rfl ?_
  obtain ⟨y1, e2, h⟩ := ol_of_bd h
  refine ol_cSr (As := [.int x1]) hX (pc := 8) (wX1_isWhat V (ol_Xc V a (some (g 0 0)) σ ++ (ol_WB V g β ++ ext)) x1 y1 e2) lkX1_273 dcX1_isWhat ⟨rfl, rfl⟩ ol_rr_X1_now_X1_isWhat (fun _ h => h) ⟨Nat.le_refl _, Nat.le_refl _⟩ (Nat.le_of_ble_eq_true rfl) dX1_now_8 rfl ?_
  refine ol_if_eq hX (pc := 11) 29 dX1_now_11 (by decide) (fun c9 => ?_) (fun c9 => ?_)
  · have h := ol_ifp c9 h
    refine ol_aload_n hX (pc := 29) dX1_now_29 rfl rfl ?_
    refine ol_iconst hX (pc := 30) 1 dX1_now_30 ol_k_iconst_1 ?_
    obtain ⟨y3, e4, h⟩ := ol_of_bd h
    refine ol_cVw (As := [.int 1]) hX (pc := 31) (wX1_refused V a (some (g 0 0)) (ol_WB V g β ++ ext) σ 1 y3 e4) lkX1_81 dcX1_refused ol_rr_X1_now_X1_refused 0 rfl rfl ⟨Nat.le_refl _, Nat.le_refl _⟩ (Nat.le_of_ble_eq_true rfl) dX1_now_31 rfl ?_
    have h := ol_of_some h
    subst h
    exact ol_iret hX (pc := 34) dX1_now_34 ⟨rfl, rfl⟩ ⟨Nat.le_refl _, Nat.le_refl _⟩
  · have h := ol_ifn c9 h
    refine ol_aload_n hX (pc := 14) dX1_now_14 rfl rfl ?_
    refine ol_aload_n hX (pc := 15) dX1_now_15 rfl rfl ?_
    refine ol_xg_O_7 hX (pc := 16) q350 dX1_now_16 ?_
    refine ol_iload_n hX (pc := 19) dX1_now_19 rfl rfl ?_
    obtain ⟨y5, e6, h⟩ := ol_of_bd h
    refine ol_cVr (As := [.int x1]) hX (pc := 20) (wX3_is V a (some (g 0 0)) ext g σ β 10 x1 ol_isr0 y5 e6) lkX1_276 dcX3_is ⟨rfl, rfl⟩ ol_rr_X1_now_X3_is 10 (ol_rpos ol_isr0) rfl (fun _ h => h) ⟨Nat.le_refl _, Nat.le_refl _⟩ (Nat.le_of_ble_eq_true rfl) dX1_now_20 rfl ?_
    obtain ⟨y7, e8, h⟩ := ol_of_bd h
    refine ol_cVw (As := [.int y5]) hX (pc := 23) (wX1_fine V a (some (g 0 0)) (ol_WB V g β ++ ext) σ y5 y7 e8) lkX1_125 dcX1_fine ol_rr_X1_now_X1_fine 0 rfl rfl ⟨Nat.le_refl _, Nat.le_refl _⟩ (Nat.le_of_ble_eq_true rfl) dX1_now_23 rfl ?_
    refine ol_goto hX (pc := 26) 34 dX1_now_26 (by decide) ?_
    have h := ol_of_some h
    subst h
    exact ol_iret hX (pc := 34) dX1_now_34 ⟨rfl, rfl⟩ ⟨Nat.le_refl _, Nat.le_refl _⟩
set_option maxHeartbeats 4000000 in
theorem wX1_ledger (V : ol_Gh) (a : Nat → Nat) (ext : va_W) (g : Nat → Nat → Nat) (σ : ol_Xm) (β : ol_Bd) (x1 : Int32) (x2 : Int32)  (z : Int32 × ol_Xm) (h : oX1_ledger σ β (g 0 0) x1 x2 = some z) : ol_Mt V yX1_ledger cX1_ledger 3 (some .int) ({ frames := 3, cells := 0, slots := 0, locals := 61 } : Room) true [.ref (a 0), .int x1, .int x2] (ol_Xc V a (some (g 0 0)) σ ++ (ol_WB V g β ++ ext)) (ol_Pw (some (.int z.1)) (ol_Xc V a (some (g 0 0)) z.2 ++ (ol_WB V g β ++ ext))) := by
  refine ol_MtOf (L0 := [some (.ref (a 0)), some (.int x1), some (.int x2)]) (by decide) (Nat.le_of_ble_eq_true rfl) rfl (fun X A hX => ?_)
  unfold oX1_ledger at h
  refine ol_aload_n hX (pc := 0) dX1_ledger_0 rfl rfl ?_
  refine ol_iload_n hX (pc := 1) dX1_ledger_1 rfl rfl ?_
  obtain ⟨y1, e2, h⟩ := ol_of_bd h
  refine ol_cVr (As := [.int x1]) hX (pc := 2) (wX1_isBoard V a ext g σ β x1 y1 e2) lkX1_149 dcX1_isBoard ⟨rfl, rfl⟩ ol_rr_X1_ledger_X1_isBoard 0 rfl rfl (fun _ h => h) ⟨Nat.le_refl _, Nat.le_refl _⟩ (Nat.le_of_ble_eq_true rfl) dX1_ledger_2 rfl ?_
  refine ol_if_eq hX (pc := 5) 38 dX1_ledger_5 (by decide) (fun c13 => ?_) (fun c13 => ?_)
  · have h := ol_ifp c13 h
    refine ol_aload_n hX (pc := 38) dX1_ledger_38 rfl rfl ?_
    refine ol_iconst hX (pc := 39) 1 dX1_ledger_39 ol_k_iconst_1 ?_
    obtain ⟨y3, e4, h⟩ := ol_of_bd h
    refine ol_cVw (As := [.int 1]) hX (pc := 40) (wX1_refused V a (some (g 0 0)) (ol_WB V g β ++ ext) σ 1 y3 e4) lkX1_81 dcX1_refused ol_rr_X1_ledger_X1_refused 0 rfl rfl ⟨Nat.le_refl _, Nat.le_refl _⟩ (Nat.le_of_ble_eq_true rfl) dX1_ledger_40 rfl ?_
    have h := ol_of_some h
    subst h
    exact ol_iret hX (pc := 43) dX1_ledger_43 ⟨rfl, rfl⟩ ⟨Nat.le_refl _, Nat.le_refl _⟩
  · have h := ol_ifn c13 h
    refine ol_iload_n hX (pc := 8) dX1_ledger_8 rfl rfl ?_
    refine ol_iconst hX (pc := 9) 0 dX1_ledger_9 ol_k_iconst_0 ?_
    refine ol_iconst hX (pc := 10) 5 dX1_ledger_10 ol_k_iconst_5 ?_
    obtain ⟨y5, e6, h⟩ := ol_of_bd h
    refine ol_cSr (As := [.int x2, .int 0, .int 5]) hX (pc := 11) (wX1_isIn V (ol_Xc V a (some (g 0 0)) σ ++ (ol_WB V g β ++ ext)) x2 0 5 y5 e6) lkX1_77 dcX1_isIn ⟨rfl, rfl⟩ ol_rr_X1_ledger_X1_isIn (fun _ h => h) ⟨Nat.le_refl _, Nat.le_refl _⟩ (Nat.le_of_ble_eq_true rfl) dX1_ledger_11 rfl ?_
    refine ol_if_eq hX (pc := 14) 38 dX1_ledger_14 (by decide) (fun c12 => ?_) (fun c12 => ?_)
    · have h := ol_ifp c12 h
      refine ol_aload_n hX (pc := 38) dX1_ledger_38 rfl rfl ?_
      refine ol_iconst hX (pc := 39) 1 dX1_ledger_39 ol_k_iconst_1 ?_
      obtain ⟨y7, e8, h⟩ := ol_of_bd h
      refine ol_cVw (As := [.int 1]) hX (pc := 40) (wX1_refused V a (some (g 0 0)) (ol_WB V g β ++ ext) σ 1 y7 e8) lkX1_81 dcX1_refused ol_rr_X1_ledger_X1_refused 0 rfl rfl ⟨Nat.le_refl _, Nat.le_refl _⟩ (Nat.le_of_ble_eq_true rfl) dX1_ledger_40 rfl ?_
      have h := ol_of_some h
      subst h
      exact ol_iret hX (pc := 43) dX1_ledger_43 ⟨rfl, rfl⟩ ⟨Nat.le_refl _, Nat.le_refl _⟩
    · have h := ol_ifn c12 h
      refine ol_aload_n hX (pc := 17) dX1_ledger_17 rfl rfl ?_
      refine ol_aload_n hX (pc := 18) dX1_ledger_18 rfl rfl ?_
      refine ol_xg_O_7 hX (pc := 19) q350 dX1_ledger_19 ?_
      refine ol_xgN_R_7 hX (pc := 22) ol_isr0 q268 dX1_ledger_22 ?_
      refine ol_bipush hX (pc := 25) 6 dX1_ledger_25 ol_k_bipush_6 ?_
      refine ol_iload_n hX (pc := 27) dX1_ledger_27 rfl rfl ?_
      refine ol_imul hX (pc := 28) dX1_ledger_28 ?_
      refine ol_iload_n hX (pc := 29) dX1_ledger_29 rfl rfl ?_
      refine ol_iadd hX (pc := 30) dX1_ledger_30 ?_
      obtain ⟨g9, h⟩ := ol_of_og h
      refine ol_xl_R7 hX (pc := 31) ol_isr0 dX1_ledger_31 rfl (ol_in_vp g9) ?_
      obtain ⟨y10, e11, h⟩ := ol_of_bd h
      refine ol_cVw (As := [.int (σ.1 (10 + 7) (((6 * x1) + x2).toNatClampNeg))]) hX (pc := 32) (wX1_fine V a (some (g 0 0)) (ol_WB V g β ++ ext) σ (σ.1 (10 + 7) (((6 * x1) + x2).toNatClampNeg)) y10 e11) lkX1_125 dcX1_fine ol_rr_X1_ledger_X1_fine 0 rfl rfl ⟨Nat.le_refl _, Nat.le_refl _⟩ (Nat.le_of_ble_eq_true rfl) dX1_ledger_32 rfl ?_
      refine ol_goto hX (pc := 35) 43 dX1_ledger_35 (by decide) ?_
      have h := ol_of_some h
      subst h
      exact ol_iret hX (pc := 43) dX1_ledger_43 ⟨rfl, rfl⟩ ⟨Nat.le_refl _, Nat.le_refl _⟩
set_option maxHeartbeats 4000000 in
theorem wX1_past (V : ol_Gh) (a : Nat → Nat) (ext : va_W) (g : Nat → Nat → Nat) (σ : ol_Xm) (β : ol_Bd) (x1 : Int32)  (z : Int32 × ol_Xm) (h : oX1_past σ β (g 0 0) x1 = some z) : ol_Mt V yX1_past cX1_past 2 (some .int) ({ frames := 1, cells := 0, slots := 0, locals := 22 } : Room) true [.ref (a 0), .int x1] (ol_Xc V a (some (g 0 0)) σ ++ (ol_WB V g β ++ ext)) (ol_Pw (some (.int z.1)) (ol_Xc V a (some (g 0 0)) z.2 ++ (ol_WB V g β ++ ext))) := by
  refine ol_MtOf (L0 := [some (.ref (a 0)), some (.int x1)]) (by decide) (Nat.le_of_ble_eq_true rfl) rfl (fun X A hX => ?_)
  unfold oX1_past at h
  refine ol_aload_n hX (pc := 0) dX1_past_0 rfl rfl ?_
  refine ol_xg_O_6 hX (pc := 1) q348 rfl dX1_past_1 ?_
  refine ol_ifnonnull hX (pc := 4) 13 dX1_past_4 (by decide) ?_
  refine ol_iload_n hX (pc := 13) dX1_past_13 rfl rfl ?_
  refine ol_iconst hX (pc := 14) 0 dX1_past_14 ol_k_iconst_0 ?_
  refine ol_bipush hX (pc := 15) 63 dX1_past_15 ol_k_bipush_63 ?_
  obtain ⟨y1, e2, h⟩ := ol_of_bd h
  refine ol_cSr (As := [.int x1, .int 0, .int 63]) hX (pc := 17) (wX1_isIn V (ol_Xc V a (some (g 0 0)) σ ++ (ol_WB V g β ++ ext)) x1 0 63 y1 e2) lkX1_77 dcX1_isIn ⟨rfl, rfl⟩ ol_rr_X1_past_X1_isIn (fun _ h => h) ⟨Nat.le_refl _, Nat.le_refl _⟩ (Nat.le_of_ble_eq_true rfl) dX1_past_17 rfl ?_
  refine ol_if_eq hX (pc := 20) 38 dX1_past_20 (by decide) (fun c9 => ?_) (fun c9 => ?_)
  · have h := ol_ifp c9 h
    refine ol_aload_n hX (pc := 38) dX1_past_38 rfl rfl ?_
    refine ol_iconst hX (pc := 39) 2 dX1_past_39 ol_k_iconst_2 ?_
    obtain ⟨y3, e4, h⟩ := ol_of_bd h
    refine ol_cVw (As := [.int 2]) hX (pc := 40) (wX1_refused V a (some (g 0 0)) (ol_WB V g β ++ ext) σ 2 y3 e4) lkX1_81 dcX1_refused ol_rr_X1_past_X1_refused 0 rfl rfl ⟨Nat.le_refl _, Nat.le_refl _⟩ (Nat.le_of_ble_eq_true rfl) dX1_past_40 rfl ?_
    have h := ol_of_some h
    subst h
    exact ol_iret hX (pc := 43) dX1_past_43 ⟨rfl, rfl⟩ ⟨Nat.le_refl _, Nat.le_refl _⟩
  · have h := ol_ifn c9 h
    refine ol_aload_n hX (pc := 23) dX1_past_23 rfl rfl ?_
    refine ol_aload_n hX (pc := 24) dX1_past_24 rfl rfl ?_
    refine ol_xg_O_7 hX (pc := 25) q350 dX1_past_25 ?_
    refine ol_iload_n hX (pc := 28) dX1_past_28 rfl rfl ?_
    obtain ⟨y5, e6, h⟩ := ol_of_bd h
    refine ol_cVr (As := [.int x1]) hX (pc := 29) (wX3_past V a (some (g 0 0)) (ol_WB V g β ++ ext) σ 10 x1 ol_isr0 y5 e6) lkX1_307 dcX3_past ⟨rfl, rfl⟩ ol_rr_X1_past_X3_past 10 (ol_rpos ol_isr0) rfl (fun _ h => h) ⟨Nat.le_refl _, Nat.le_refl _⟩ (Nat.le_of_ble_eq_true rfl) dX1_past_29 rfl ?_
    obtain ⟨y7, e8, h⟩ := ol_of_bd h
    refine ol_cVw (As := [.int y5]) hX (pc := 32) (wX1_fine V a (some (g 0 0)) (ol_WB V g β ++ ext) σ y5 y7 e8) lkX1_125 dcX1_fine ol_rr_X1_past_X1_fine 0 rfl rfl ⟨Nat.le_refl _, Nat.le_refl _⟩ (Nat.le_of_ble_eq_true rfl) dX1_past_32 rfl ?_
    refine ol_goto hX (pc := 35) 43 dX1_past_35 (by decide) ?_
    have h := ol_of_some h
    subst h
    exact ol_iret hX (pc := 43) dX1_past_43 ⟨rfl, rfl⟩ ⟨Nat.le_refl _, Nat.le_refl _⟩
set_option maxHeartbeats 4000000 in
theorem wX1_idle (V : ol_Gh) (a : Nat → Nat) (ext : va_W) (g : Nat → Nat → Nat) (σ : ol_Xm) (β : ol_Bd)  (z : Int32 × ol_Xm) (h : oX1_idle σ β (g 0 0) = some z) : ol_Mt V yX1_idle cX1_idle 1 (some .int) ({ frames := 2, cells := 0, slots := 0, locals := 43 } : Room) true [.ref (a 0)] (ol_Xc V a (some (g 0 0)) σ ++ (ol_WB V g β ++ ext)) (ol_Pw (some (.int z.1)) (ol_Xc V a (some (g 0 0)) z.2 ++ (ol_WB V g β ++ ext))) := by
  refine ol_MtOf (L0 := [some (.ref (a 0))]) (by decide) (Nat.le_of_ble_eq_true rfl) rfl (fun X A hX => ?_)
  unfold oX1_idle at h
  refine ol_aload_n hX (pc := 0) dX1_idle_0 rfl rfl ?_
  refine ol_xg_O_6 hX (pc := 1) q348 rfl dX1_idle_1 ?_
  refine ol_ifnonnull hX (pc := 4) 15 dX1_idle_4 (by decide) ?_
  refine ol_aload_n hX (pc := 15) dX1_idle_15 rfl rfl ?_
  refine ol_aload_n hX (pc := 16) dX1_idle_16 rfl rfl ?_
  refine ol_xg_O_7 hX (pc := 17) q350 dX1_idle_17 ?_
  obtain ⟨y1, e2, h⟩ := ol_of_bd h
  refine ol_cVr (As := []) hX (pc := 20) (wX3_idle V a (some (g 0 0)) (ol_WB V g β ++ ext) σ 10 ol_isr0 y1 e2) lkX1_310 dcX3_idle ⟨rfl, rfl⟩ ol_rr_X1_idle_X3_idle 10 (ol_rpos ol_isr0) rfl (fun _ h => h) ⟨Nat.le_refl _, Nat.le_refl _⟩ (Nat.le_of_ble_eq_true rfl) dX1_idle_20 rfl ?_
  obtain ⟨y3, e4, h⟩ := ol_of_bd h
  refine ol_cVw (As := [.int y1]) hX (pc := 23) (wX1_fine V a (some (g 0 0)) (ol_WB V g β ++ ext) σ y1 y3 e4) lkX1_125 dcX1_fine ol_rr_X1_idle_X1_fine 0 rfl rfl ⟨Nat.le_refl _, Nat.le_refl _⟩ (Nat.le_of_ble_eq_true rfl) dX1_idle_23 rfl ?_
  have h := ol_of_some h
  subst h
  exact ol_iret hX (pc := 26) dX1_idle_26 ⟨rfl, rfl⟩ ⟨Nat.le_refl _, Nat.le_refl _⟩
set_option maxHeartbeats 4000000 in
theorem wX1_waiting (V : ol_Gh) (a : Nat → Nat) (ext : va_W) (g : Nat → Nat → Nat) (σ : ol_Xm) (β : ol_Bd) (x1 : Int32)  (z : Int32 × ol_Xm) (h : oX1_waiting σ β (g 0 0) x1 = some z) : ol_Mt V yX1_waiting cX1_waiting 2 (some .int) ({ frames := 3, cells := 0, slots := 0, locals := 63 } : Room) true [.ref (a 0), .int x1] (ol_Xc V a (some (g 0 0)) σ ++ (ol_WB V g β ++ ext)) (ol_Pw (some (.int z.1)) (ol_Xc V a (some (g 0 0)) z.2 ++ (ol_WB V g β ++ ext))) := by
  refine ol_MtOf (L0 := [some (.ref (a 0)), some (.int x1)]) (by decide) (Nat.le_of_ble_eq_true rfl) rfl (fun X A hX => ?_)
  unfold oX1_waiting at h
  refine ol_aload_n hX (pc := 0) dX1_waiting_0 rfl rfl ?_
  refine ol_iload_n hX (pc := 1) dX1_waiting_1 rfl rfl ?_
  obtain ⟨y1, e2, h⟩ := ol_of_bd h
  refine ol_cVr (As := [.int x1]) hX (pc := 2) (wX1_isBoard V a ext g σ β x1 y1 e2) lkX1_149 dcX1_isBoard ⟨rfl, rfl⟩ ol_rr_X1_waiting_X1_isBoard 0 rfl rfl (fun _ h => h) ⟨Nat.le_refl _, Nat.le_refl _⟩ (Nat.le_of_ble_eq_true rfl) dX1_waiting_2 rfl ?_
  refine ol_if_eq hX (pc := 5) 23 dX1_waiting_5 (by decide) (fun c9 => ?_) (fun c9 => ?_)
  · have h := ol_ifp c9 h
    refine ol_aload_n hX (pc := 23) dX1_waiting_23 rfl rfl ?_
    refine ol_iconst hX (pc := 24) 1 dX1_waiting_24 ol_k_iconst_1 ?_
    obtain ⟨y3, e4, h⟩ := ol_of_bd h
    refine ol_cVw (As := [.int 1]) hX (pc := 25) (wX1_refused V a (some (g 0 0)) (ol_WB V g β ++ ext) σ 1 y3 e4) lkX1_81 dcX1_refused ol_rr_X1_waiting_X1_refused 0 rfl rfl ⟨Nat.le_refl _, Nat.le_refl _⟩ (Nat.le_of_ble_eq_true rfl) dX1_waiting_25 rfl ?_
    have h := ol_of_some h
    subst h
    exact ol_iret hX (pc := 28) dX1_waiting_28 ⟨rfl, rfl⟩ ⟨Nat.le_refl _, Nat.le_refl _⟩
  · have h := ol_ifn c9 h
    refine ol_aload_n hX (pc := 8) dX1_waiting_8 rfl rfl ?_
    refine ol_aload_n hX (pc := 9) dX1_waiting_9 rfl rfl ?_
    refine ol_xg_O_7 hX (pc := 10) q350 dX1_waiting_10 ?_
    refine ol_iload_n hX (pc := 13) dX1_waiting_13 rfl rfl ?_
    obtain ⟨y5, e6, h⟩ := ol_of_bd h
    refine ol_cVr (As := [.int x1]) hX (pc := 14) (wX3_waiting V a (some (g 0 0)) ext g σ β 10 x1 ol_isr0 y5 e6) lkX1_313 dcX3_waiting ⟨rfl, rfl⟩ ol_rr_X1_waiting_X3_waiting 10 (ol_rpos ol_isr0) rfl (fun _ h => h) ⟨Nat.le_refl _, Nat.le_refl _⟩ (Nat.le_of_ble_eq_true rfl) dX1_waiting_14 rfl ?_
    obtain ⟨y7, e8, h⟩ := ol_of_bd h
    refine ol_cVw (As := [.int y5]) hX (pc := 17) (wX1_fine V a (some (g 0 0)) (ol_WB V g β ++ ext) σ y5 y7 e8) lkX1_125 dcX1_fine ol_rr_X1_waiting_X1_fine 0 rfl rfl ⟨Nat.le_refl _, Nat.le_refl _⟩ (Nat.le_of_ble_eq_true rfl) dX1_waiting_17 rfl ?_
    refine ol_goto hX (pc := 20) 28 dX1_waiting_20 (by decide) ?_
    have h := ol_of_some h
    subst h
    exact ol_iret hX (pc := 28) dX1_waiting_28 ⟨rfl, rfl⟩ ⟨Nat.le_refl _, Nat.le_refl _⟩
set_option maxHeartbeats 4000000 in
theorem wX1_longest (V : ol_Gh) (a : Nat → Nat) (ext : va_W) (g : Nat → Nat → Nat) (σ : ol_Xm) (β : ol_Bd)  (z : Int32 × ol_Xm) (h : oX1_longest σ β (g 0 0) = some z) : ol_Mt V yX1_longest cX1_longest 1 (some .int) ({ frames := 5, cells := 0, slots := 0, locals := 107 } : Room) true [.ref (a 0)] (ol_Xc V a (some (g 0 0)) σ ++ (ol_WB V g β ++ ext)) (ol_Pw (some (.int z.1)) (ol_Xc V a (some (g 0 0)) z.2 ++ (ol_WB V g β ++ ext))) := by
  refine ol_MtOf (L0 := [some (.ref (a 0))]) (by decide) (Nat.le_of_ble_eq_true rfl) rfl (fun X A hX => ?_)
  unfold oX1_longest at h
  refine ol_aload_n hX (pc := 0) dX1_longest_0 rfl rfl ?_
  refine ol_xg_O_6 hX (pc := 1) q348 rfl dX1_longest_1 ?_
  refine ol_ifnonnull hX (pc := 4) 15 dX1_longest_4 (by decide) ?_
  refine ol_aload_n hX (pc := 15) dX1_longest_15 rfl rfl ?_
  refine ol_aload_n hX (pc := 16) dX1_longest_16 rfl rfl ?_
  refine ol_xg_O_7 hX (pc := 17) q350 dX1_longest_17 ?_
  obtain ⟨y1, e2, h⟩ := ol_of_bd h
  refine ol_cVr (As := []) hX (pc := 20) (wX3_longest V a (some (g 0 0)) ext g σ β 10 ol_isr0 y1 e2) lkX1_316 dcX3_longest ⟨rfl, rfl⟩ ol_rr_X1_longest_X3_longest 10 (ol_rpos ol_isr0) rfl (fun _ h => h) ⟨Nat.le_refl _, Nat.le_refl _⟩ (Nat.le_of_ble_eq_true rfl) dX1_longest_20 rfl ?_
  obtain ⟨y3, e4, h⟩ := ol_of_bd h
  refine ol_cVw (As := [.int y1]) hX (pc := 23) (wX1_fine V a (some (g 0 0)) (ol_WB V g β ++ ext) σ y1 y3 e4) lkX1_125 dcX1_fine ol_rr_X1_longest_X1_fine 0 rfl rfl ⟨Nat.le_refl _, Nat.le_refl _⟩ (Nat.le_of_ble_eq_true rfl) dX1_longest_23 rfl ?_
  have h := ol_of_some h
  subst h
  exact ol_iret hX (pc := 26) dX1_longest_26 ⟨rfl, rfl⟩ ⟨Nat.le_refl _, Nat.le_refl _⟩
set_option maxHeartbeats 4000000 in
theorem wX1_ask (V : ol_Gh) (a : Nat → Nat) (ext : va_W) (g : Nat → Nat → Nat) (σ : ol_Xm) (β : ol_Bd) (x1 : Int32) (x2 : Int32)  (z : Int32 × ol_Xm) (h : oX1_ask σ β (g 0 0) x1 x2 = some z) : ol_Mt V yX1_ask cX1_ask 3 (some .int) ({ frames := 3, cells := 0, slots := 0, locals := 62 } : Room) true [.ref (a 0), .int x1, .int x2] (ol_Xc V a (some (g 0 0)) σ ++ (ol_WB V g β ++ ext)) (ol_Pw (some (.int z.1)) (ol_Xc V a (some (g 0 0)) z.2 ++ (ol_WB V g β ++ ext))) := by
  refine ol_MtOf (L0 := [some (.ref (a 0)), some (.int x1), some (.int x2)]) (by decide) (Nat.le_of_ble_eq_true rfl) rfl (fun X A hX => ?_)
  unfold oX1_ask at h
  refine ol_aload_n hX (pc := 0) dX1_ask_0 rfl rfl ?_
  refine ol_iload_n hX (pc := 1) dX1_ask_1 rfl rfl ?_
  obtain ⟨y1, e2, h⟩ := ol_of_bd h
  refine ol_cVr (As := [.int x1]) hX (pc := 2) (wX1_isBoard V a ext g σ β x1 y1 e2) lkX1_149 dcX1_isBoard ⟨rfl, rfl⟩ ol_rr_X1_ask_X1_isBoard 0 rfl rfl (fun _ h => h) ⟨Nat.le_refl _, Nat.le_refl _⟩ (Nat.le_of_ble_eq_true rfl) dX1_ask_2 rfl ?_
  refine ol_if_ne hX (pc := 5) 14 dX1_ask_5 (by decide) (fun c21 => ?_) (fun c21 => ?_)
  · have h := ol_ifn c21 h
    refine ol_iload_n hX (pc := 14) dX1_ask_14 rfl rfl ?_
    refine ol_iconst hX (pc := 15) 1 dX1_ask_15 ol_k_iconst_1 ?_
    refine ol_bipush hX (pc := 16) 99 dX1_ask_16 ol_k_bipush_99 ?_
    obtain ⟨y3, e4, h⟩ := ol_of_bd h
    refine ol_cSr (As := [.int x2, .int 1, .int 99]) hX (pc := 18) (wX1_isIn V (ol_Xc V a (some (g 0 0)) σ ++ (ol_WB V g β ++ ext)) x2 1 99 y3 e4) lkX1_77 dcX1_isIn ⟨rfl, rfl⟩ ol_rr_X1_ask_X1_isIn (fun _ h => h) ⟨Nat.le_refl _, Nat.le_refl _⟩ (Nat.le_of_ble_eq_true rfl) dX1_ask_18 rfl ?_
    refine ol_if_ne hX (pc := 21) 30 dX1_ask_21 (by decide) (fun c18 => ?_) (fun c18 => ?_)
    · have h := ol_ifn c18 h
      refine ol_aload_n hX (pc := 30) dX1_ask_30 rfl rfl ?_
      refine ol_xg_O_7 hX (pc := 31) q350 dX1_ask_31 ?_
      refine ol_iload_n hX (pc := 34) dX1_ask_34 rfl rfl ?_
      refine ol_iload_n hX (pc := 35) dX1_ask_35 rfl rfl ?_
      obtain ⟨y5, e6, h⟩ := ol_of_bd h
      refine ol_cVw (As := [.int x1, .int x2]) hX (pc := 36) (wX3_hears V a (some (g 0 0)) (ol_WB V g β ++ ext) σ 10 x1 x2 ol_isr0 y5 e6) lkX1_325 dcX3_hears ol_rr_X1_ask_X3_hears 10 (ol_rpos ol_isr0) rfl ⟨Nat.le_refl _, Nat.le_refl _⟩ (Nat.le_of_ble_eq_true rfl) dX1_ask_36 rfl ?_
      refine ol_if_eq hX (pc := 39) 59 dX1_ask_39 (by decide) (fun c15 => ?_) (fun c15 => ?_)
      · have h := ol_ifp c15 h
        refine ol_aload_n hX (pc := 59) dX1_ask_59 rfl rfl ?_
        refine ol_iconst hX (pc := 60) 5 dX1_ask_60 ol_k_iconst_5 ?_
        obtain ⟨y7, e8, h⟩ := ol_of_bd h
        refine ol_cVw (As := [.int 5]) hX (pc := 61) (wX1_refused V a (some (g 0 0)) (ol_WB V g β ++ ext) y5.2 5 y7 e8) lkX1_81 dcX1_refused ol_rr_X1_ask_X1_refused 0 rfl rfl ⟨Nat.le_refl _, Nat.le_refl _⟩ (Nat.le_of_ble_eq_true rfl) dX1_ask_61 rfl ?_
        have h := ol_of_some h
        subst h
        exact ol_iret hX (pc := 64) dX1_ask_64 ⟨rfl, rfl⟩ ⟨Nat.le_refl _, Nat.le_refl _⟩
      · have h := ol_ifn c15 h
        refine ol_aload_n hX (pc := 42) dX1_ask_42 rfl rfl ?_
        refine ol_aload_n hX (pc := 43) dX1_ask_43 rfl rfl ?_
        refine ol_xg_O_7 hX (pc := 44) q350 dX1_ask_44 ?_
        obtain ⟨y9, e10, h⟩ := ol_of_bd h
        refine ol_cVr (As := []) hX (pc := 47) (wX3_asking V a (some (g 0 0)) ext g y5.2 β 10 ol_isr0 y9 e10) lkX1_329 dcX3_asking ⟨rfl, rfl⟩ ol_rr_X1_ask_X3_asking 10 (ol_rpos ol_isr0) rfl (fun _ h => h) ⟨Nat.le_refl _, Nat.le_refl _⟩ (Nat.le_of_ble_eq_true rfl) dX1_ask_47 rfl ?_
        obtain ⟨y11, e12, h⟩ := ol_of_bd h
        refine ol_cSr (As := [.int y9]) hX (pc := 50) (wJ14_bitCount V (ol_Xc V a (some (g 0 0)) y5.2 ++ (ol_WB V g β ++ ext)) y9 y11 e12) lkX1_3 dcJ14_bitCount ⟨rfl, rfl⟩ ol_rr_X1_ask_J14_bitCount (fun _ h => h) ⟨Nat.le_refl _, Nat.le_refl _⟩ (Nat.le_of_ble_eq_true rfl) dX1_ask_50 rfl ?_
        obtain ⟨y13, e14, h⟩ := ol_of_bd h
        refine ol_cVw (As := [.int y11]) hX (pc := 53) (wX1_fine V a (some (g 0 0)) (ol_WB V g β ++ ext) y5.2 y11 y13 e14) lkX1_125 dcX1_fine ol_rr_X1_ask_X1_fine 0 rfl rfl ⟨Nat.le_refl _, Nat.le_refl _⟩ (Nat.le_of_ble_eq_true rfl) dX1_ask_53 rfl ?_
        refine ol_goto hX (pc := 56) 64 dX1_ask_56 (by decide) ?_
        have h := ol_of_some h
        subst h
        exact ol_iret hX (pc := 64) dX1_ask_64 ⟨rfl, rfl⟩ ⟨Nat.le_refl _, Nat.le_refl _⟩
    · have h := ol_ifp c18 h
      refine ol_aload_n hX (pc := 24) dX1_ask_24 rfl rfl ?_
      refine ol_iconst hX (pc := 25) 2 dX1_ask_25 ol_k_iconst_2 ?_
      obtain ⟨y16, e17, h⟩ := ol_of_bd h
      refine ol_cVw (As := [.int 2]) hX (pc := 26) (wX1_refused V a (some (g 0 0)) (ol_WB V g β ++ ext) σ 2 y16 e17) lkX1_81 dcX1_refused ol_rr_X1_ask_X1_refused 0 rfl rfl ⟨Nat.le_refl _, Nat.le_refl _⟩ (Nat.le_of_ble_eq_true rfl) dX1_ask_26 rfl ?_
      have h := ol_of_some h
      subst h
      exact ol_iret hX (pc := 29) dX1_ask_29 ⟨rfl, rfl⟩ ⟨Nat.le_refl _, Nat.le_refl _⟩
  · have h := ol_ifp c21 h
    refine ol_aload_n hX (pc := 8) dX1_ask_8 rfl rfl ?_
    refine ol_iconst hX (pc := 9) 1 dX1_ask_9 ol_k_iconst_1 ?_
    obtain ⟨y19, e20, h⟩ := ol_of_bd h
    refine ol_cVw (As := [.int 1]) hX (pc := 10) (wX1_refused V a (some (g 0 0)) (ol_WB V g β ++ ext) σ 1 y19 e20) lkX1_81 dcX1_refused ol_rr_X1_ask_X1_refused 0 rfl rfl ⟨Nat.le_refl _, Nat.le_refl _⟩ (Nat.le_of_ble_eq_true rfl) dX1_ask_10 rfl ?_
    have h := ol_of_some h
    subst h
    exact ol_iret hX (pc := 13) dX1_ask_13 ⟨rfl, rfl⟩ ⟨Nat.le_refl _, Nat.le_refl _⟩
set_option maxHeartbeats 4000000 in
theorem wX1_waits_L61 {X : ol_Cx} {V : ol_Gh} {A : Nat → Prop} {a : Nat → Nat} {ext : va_W} {g : Nat → Nat → Nat} {z : Int32 × ol_Xm} (hX : ol_CX X V A cX1_waits RX1 "waits" 4 (some .int)) (β : ol_Bd) (x1 : Int32) (x2 : Int32)   (σ : ol_Xm) (h : oX1_waits_L61 β (g 0 0) x1 x2 σ = some z) : ol_G X V A true (ol_Pw (some (.int z.1)) (ol_Xc V a (some (g 0 0)) z.2 ++ (ol_WB V g β ++ ext))) ({ frames := 3, cells := 0, slots := 0, locals := 61 } : Room) 4 0 0 (ol_Xc V a (some (g 0 0)) σ ++ (ol_WB V g β ++ ext)) 61 [some (.ref (a 0)), some (.int x1), some (.int x2), none] [] := by
  unfold oX1_waits_L61 at h
  refine ol_aload_n hX (pc := 61) dX1_waits_61 rfl rfl ?_
  refine ol_xg_O_7 hX (pc := 62) q350 dX1_waits_62 ?_
  refine ol_xgN_R_4 hX (pc := 65) ol_isr0 q262 dX1_waits_65 ?_
  refine ol_iload_n hX (pc := 68) dX1_waits_68 rfl rfl ?_
  obtain ⟨g1, h⟩ := ol_of_og h
  refine ol_xl_R4 hX (pc := 69) ol_isr0 dX1_waits_69 rfl (ol_in_vp g1) ?_
  refine ol_istore_n hX (pc := 70) [some (.ref (a 0)), some (.int x1), some (.int x2), some (.int (σ.1 (10 + 4) x1.toNatClampNeg))] dX1_waits_70 rfl (by decide) rfl rfl ?_
  refine ol_aload_n hX (pc := 71) dX1_waits_71 rfl rfl ?_
  obtain ⟨y2, e3, h⟩ := ol_of_bd h
  refine ol_cVw (As := []) hX (pc := 72) (wX1_forgets V a (some (g 0 0)) (ol_WB V g β ++ ext) σ y2 e3) lkX1_112 dcX1_forgets ol_rr_X1_waits_X1_forgets 0 rfl rfl ⟨Nat.le_refl _, Nat.le_refl _⟩ (Nat.le_of_ble_eq_true rfl) dX1_waits_72 rfl ?_
  refine ol_aload_n hX (pc := 75) dX1_waits_75 rfl rfl ?_
  refine ol_xg_O_7 hX (pc := 76) q350 dX1_waits_76 ?_
  refine ol_xgN_R_4 hX (pc := 79) ol_isr0 q262 dX1_waits_79 ?_
  refine ol_iload_n hX (pc := 82) dX1_waits_82 rfl rfl ?_
  refine ol_iload_n hX (pc := 83) dX1_waits_83 rfl rfl ?_
  refine ol_iconst hX (pc := 84) (-1) dX1_waits_84 ol_k_iconst_m1 ?_
  refine ol_icmp_ne hX (pc := 85) 93 dX1_waits_85 (by decide) (fun c10 => ?_) (fun c10 => ?_)
  · have h := ol_ifn c10 h
    refine ol_iload_n hX (pc := 93) dX1_waits_93 rfl rfl ?_
    obtain ⟨g4, h⟩ := ol_of_og h
    refine ol_xw_R4 hX (pc := 94) ol_isr0 dX1_waits_94 rfl (ol_in_vp g4) ?_
    refine ol_aload_n hX (pc := 95) dX1_waits_95 rfl rfl ?_
    refine ol_iload_n hX (pc := 96) dX1_waits_96 rfl rfl ?_
    obtain ⟨y5, e6, h⟩ := ol_of_bd h
    refine ol_cVw (As := [.int (σ.1 (10 + 4) x1.toNatClampNeg)]) hX (pc := 97) (wX1_fine V a (some (g 0 0)) (ol_WB V g β ++ ext) (ol_xs y2 (10 + 4) x1.toNatClampNeg x2) (σ.1 (10 + 4) x1.toNatClampNeg) y5 e6) lkX1_125 dcX1_fine ol_rr_X1_waits_X1_fine 0 rfl rfl ⟨Nat.le_refl _, Nat.le_refl _⟩ (Nat.le_of_ble_eq_true rfl) dX1_waits_97 rfl ?_
    have h := ol_of_some h
    subst h
    exact ol_iret hX (pc := 100) dX1_waits_100 ⟨rfl, rfl⟩ ⟨Nat.le_refl _, Nat.le_refl _⟩
  · have h := ol_ifp c10 h
    refine ol_bipush hX (pc := 88) (-2) dX1_waits_88 ol_k_bipush_m2 ?_
    refine ol_goto hX (pc := 90) 94 dX1_waits_90 (by decide) ?_
    obtain ⟨g7, h⟩ := ol_of_og h
    refine ol_xw_R4 hX (pc := 94) ol_isr0 dX1_waits_94 rfl (ol_in_vp g7) ?_
    refine ol_aload_n hX (pc := 95) dX1_waits_95 rfl rfl ?_
    refine ol_iload_n hX (pc := 96) dX1_waits_96 rfl rfl ?_
    obtain ⟨y8, e9, h⟩ := ol_of_bd h
    refine ol_cVw (As := [.int (σ.1 (10 + 4) x1.toNatClampNeg)]) hX (pc := 97) (wX1_fine V a (some (g 0 0)) (ol_WB V g β ++ ext) (ol_xs y2 (10 + 4) x1.toNatClampNeg (-2)) (σ.1 (10 + 4) x1.toNatClampNeg) y8 e9) lkX1_125 dcX1_fine ol_rr_X1_waits_X1_fine 0 rfl rfl ⟨Nat.le_refl _, Nat.le_refl _⟩ (Nat.le_of_ble_eq_true rfl) dX1_waits_97 rfl ?_
    have h := ol_of_some h
    subst h
    exact ol_iret hX (pc := 100) dX1_waits_100 ⟨rfl, rfl⟩ ⟨Nat.le_refl _, Nat.le_refl _⟩
set_option maxHeartbeats 4000000 in
theorem wX1_waits_L27 {X : ol_Cx} {V : ol_Gh} {A : Nat → Prop} {a : Nat → Nat} {ext : va_W} {g : Nat → Nat → Nat} {z : Int32 × ol_Xm} (hX : ol_CX X V A cX1_waits RX1 "waits" 4 (some .int)) (β : ol_Bd) (x1 : Int32) (x2 : Int32)   (σ : ol_Xm) (h : oX1_waits_L27 β (g 0 0) x1 x2 σ = some z) : ol_G X V A true (ol_Pw (some (.int z.1)) (ol_Xc V a (some (g 0 0)) z.2 ++ (ol_WB V g β ++ ext))) ({ frames := 3, cells := 0, slots := 0, locals := 61 } : Room) 4 0 0 (ol_Xc V a (some (g 0 0)) σ ++ (ol_WB V g β ++ ext)) 27 [some (.ref (a 0)), some (.int x1), some (.int x2), none] [] := by
  unfold oX1_waits_L27 at h
  refine ol_iload_n hX (pc := 27) dX1_waits_27 rfl rfl ?_
  refine ol_iload_n hX (pc := 28) dX1_waits_28 rfl rfl ?_
  refine ol_icmp_ne hX (pc := 29) 38 dX1_waits_29 (by decide) (fun c9 => ?_) (fun c9 => ?_)
  · have h := ol_ifn c9 h
    refine ol_iload_n hX (pc := 38) dX1_waits_38 rfl rfl ?_
    refine ol_iconst hX (pc := 39) (-1) dX1_waits_39 ol_k_iconst_m1 ?_
    refine ol_icmp_eq hX (pc := 40) 61 dX1_waits_40 (by decide) (fun c6 => ?_) (fun c6 => ?_)
    · have h := ol_ifp c6 h
      exact wX1_waits_L61 hX β x1 x2 σ h
    · have h := ol_ifn c6 h
      refine ol_aload_n hX (pc := 43) dX1_waits_43 rfl rfl ?_
      refine ol_xg_O_7 hX (pc := 44) q350 dX1_waits_44 ?_
      refine ol_iload_n hX (pc := 47) dX1_waits_47 rfl rfl ?_
      refine ol_iload_n hX (pc := 48) dX1_waits_48 rfl rfl ?_
      obtain ⟨y1, e2, h⟩ := ol_of_bd h
      refine ol_cVr (As := [.int x2, .int x1]) hX (pc := 49) (wX3_waitsFor V a (some (g 0 0)) (ol_WB V g β ++ ext) σ 10 x2 x1 ol_isr0 y1 e2) lkX1_332 dcX3_waitsFor ⟨rfl, rfl⟩ ol_rr_X1_waits_X3_waitsFor 10 (ol_rpos ol_isr0) rfl (fun _ h => h) ⟨Nat.le_refl _, Nat.le_refl _⟩ (Nat.le_of_ble_eq_true rfl) dX1_waits_49 rfl ?_
      refine ol_if_eq hX (pc := 52) 61 dX1_waits_52 (by decide) (fun c5 => ?_) (fun c5 => ?_)
      · have h := ol_ifp c5 h
        exact wX1_waits_L61 hX β x1 x2 σ h
      · have h := ol_ifn c5 h
        refine ol_aload_n hX (pc := 55) dX1_waits_55 rfl rfl ?_
        refine ol_iconst hX (pc := 56) 5 dX1_waits_56 ol_k_iconst_5 ?_
        obtain ⟨y3, e4, h⟩ := ol_of_bd h
        refine ol_cVw (As := [.int 5]) hX (pc := 57) (wX1_refused V a (some (g 0 0)) (ol_WB V g β ++ ext) σ 5 y3 e4) lkX1_81 dcX1_refused ol_rr_X1_waits_X1_refused 0 rfl rfl ⟨Nat.le_refl _, Nat.le_refl _⟩ (Nat.le_of_ble_eq_true rfl) dX1_waits_57 rfl ?_
        have h := ol_of_some h
        subst h
        exact ol_iret hX (pc := 60) dX1_waits_60 ⟨rfl, rfl⟩ ⟨Nat.le_refl _, Nat.le_refl _⟩
  · have h := ol_ifp c9 h
    refine ol_aload_n hX (pc := 32) dX1_waits_32 rfl rfl ?_
    refine ol_iconst hX (pc := 33) 2 dX1_waits_33 ol_k_iconst_2 ?_
    obtain ⟨y7, e8, h⟩ := ol_of_bd h
    refine ol_cVw (As := [.int 2]) hX (pc := 34) (wX1_refused V a (some (g 0 0)) (ol_WB V g β ++ ext) σ 2 y7 e8) lkX1_81 dcX1_refused ol_rr_X1_waits_X1_refused 0 rfl rfl ⟨Nat.le_refl _, Nat.le_refl _⟩ (Nat.le_of_ble_eq_true rfl) dX1_waits_34 rfl ?_
    have h := ol_of_some h
    subst h
    exact ol_iret hX (pc := 37) dX1_waits_37 ⟨rfl, rfl⟩ ⟨Nat.le_refl _, Nat.le_refl _⟩
set_option maxHeartbeats 4000000 in
theorem wX1_waits (V : ol_Gh) (a : Nat → Nat) (ext : va_W) (g : Nat → Nat → Nat) (σ : ol_Xm) (β : ol_Bd) (x1 : Int32) (x2 : Int32)  (z : Int32 × ol_Xm) (h : oX1_waits σ β (g 0 0) x1 x2 = some z) : ol_Mt V yX1_waits cX1_waits 4 (some .int) ({ frames := 3, cells := 0, slots := 0, locals := 61 } : Room) true [.ref (a 0), .int x1, .int x2] (ol_Xc V a (some (g 0 0)) σ ++ (ol_WB V g β ++ ext)) (ol_Pw (some (.int z.1)) (ol_Xc V a (some (g 0 0)) z.2 ++ (ol_WB V g β ++ ext))) := by
  refine ol_MtOf (L0 := [some (.ref (a 0)), some (.int x1), some (.int x2), none]) (by decide) (Nat.le_of_ble_eq_true rfl) rfl (fun X A hX => ?_)
  unfold oX1_waits at h
  refine ol_aload_n hX (pc := 0) dX1_waits_0 rfl rfl ?_
  refine ol_iload_n hX (pc := 1) dX1_waits_1 rfl rfl ?_
  obtain ⟨y1, e2, h⟩ := ol_of_bd h
  refine ol_cVr (As := [.int x1]) hX (pc := 2) (wX1_isBoard V a ext g σ β x1 y1 e2) lkX1_149 dcX1_isBoard ⟨rfl, rfl⟩ ol_rr_X1_waits_X1_isBoard 0 rfl rfl (fun _ h => h) ⟨Nat.le_refl _, Nat.le_refl _⟩ (Nat.le_of_ble_eq_true rfl) dX1_waits_2 rfl ?_
  refine ol_if_ne hX (pc := 5) 14 dX1_waits_5 (by decide) (fun c11 => ?_) (fun c11 => ?_)
  · have h := ol_ifn c11 h
    refine ol_iload_n hX (pc := 14) dX1_waits_14 rfl rfl ?_
    refine ol_iconst hX (pc := 15) (-1) dX1_waits_15 ol_k_iconst_m1 ?_
    refine ol_icmp_eq hX (pc := 16) 27 dX1_waits_16 (by decide) (fun c8 => ?_) (fun c8 => ?_)
    · have h := ol_ifp c8 h
      exact wX1_waits_L27 hX β x1 x2 σ h
    · have h := ol_ifn c8 h
      refine ol_aload_n hX (pc := 19) dX1_waits_19 rfl rfl ?_
      refine ol_iload_n hX (pc := 20) dX1_waits_20 rfl rfl ?_
      obtain ⟨y3, e4, h⟩ := ol_of_bd h
      refine ol_cVr (As := [.int x2]) hX (pc := 21) (wX1_isBoard V a ext g σ β x2 y3 e4) lkX1_149 dcX1_isBoard ⟨rfl, rfl⟩ ol_rr_X1_waits_X1_isBoard 0 rfl rfl (fun _ h => h) ⟨Nat.le_refl _, Nat.le_refl _⟩ (Nat.le_of_ble_eq_true rfl) dX1_waits_21 rfl ?_
      refine ol_if_eq hX (pc := 24) 32 dX1_waits_24 (by decide) (fun c7 => ?_) (fun c7 => ?_)
      · have h := ol_ifp c7 h
        refine ol_aload_n hX (pc := 32) dX1_waits_32 rfl rfl ?_
        refine ol_iconst hX (pc := 33) 2 dX1_waits_33 ol_k_iconst_2 ?_
        obtain ⟨y5, e6, h⟩ := ol_of_bd h
        refine ol_cVw (As := [.int 2]) hX (pc := 34) (wX1_refused V a (some (g 0 0)) (ol_WB V g β ++ ext) σ 2 y5 e6) lkX1_81 dcX1_refused ol_rr_X1_waits_X1_refused 0 rfl rfl ⟨Nat.le_refl _, Nat.le_refl _⟩ (Nat.le_of_ble_eq_true rfl) dX1_waits_34 rfl ?_
        have h := ol_of_some h
        subst h
        exact ol_iret hX (pc := 37) dX1_waits_37 ⟨rfl, rfl⟩ ⟨Nat.le_refl _, Nat.le_refl _⟩
      · have h := ol_ifn c7 h
        exact wX1_waits_L27 hX β x1 x2 σ h
  · have h := ol_ifp c11 h
    refine ol_aload_n hX (pc := 8) dX1_waits_8 rfl rfl ?_
    refine ol_iconst hX (pc := 9) 1 dX1_waits_9 ol_k_iconst_1 ?_
    obtain ⟨y9, e10, h⟩ := ol_of_bd h
    refine ol_cVw (As := [.int 1]) hX (pc := 10) (wX1_refused V a (some (g 0 0)) (ol_WB V g β ++ ext) σ 1 y9 e10) lkX1_81 dcX1_refused ol_rr_X1_waits_X1_refused 0 rfl rfl ⟨Nat.le_refl _, Nat.le_refl _⟩ (Nat.le_of_ble_eq_true rfl) dX1_waits_10 rfl ?_
    have h := ol_of_some h
    subst h
    exact ol_iret hX (pc := 13) dX1_waits_13 ⟨rfl, rfl⟩ ⟨Nat.le_refl _, Nat.le_refl _⟩
set_option maxHeartbeats 4000000 in
theorem wX1_stick (V : ol_Gh) (a : Nat → Nat) (ext : va_W) (g : Nat → Nat → Nat) (σ : ol_Xm) (β : ol_Bd) (x1 : Int32) (x2 : Int32)  (z : Int32 × ol_Xm) (h : oX1_stick σ β (g 0 0) x1 x2 = some z) : ol_Mt V yX1_stick cX1_stick 4 (some .int) ({ frames := 1, cells := 0, slots := 0, locals := 22 } : Room) true [.ref (a 0), .int x1, .int x2] (ol_Xc V a (some (g 0 0)) σ ++ (ol_WB V g β ++ ext)) (ol_Pw (some (.int z.1)) (ol_Xc V a (some (g 0 0)) z.2 ++ (ol_WB V g β ++ ext))) := by
  refine ol_MtOf (L0 := [some (.ref (a 0)), some (.int x1), some (.int x2), none]) (by decide) (Nat.le_of_ble_eq_true rfl) rfl (fun X A hX => ?_)
  unfold oX1_stick at h
  refine ol_aload_n hX (pc := 0) dX1_stick_0 rfl rfl ?_
  refine ol_xg_O_6 hX (pc := 1) q348 rfl dX1_stick_1 ?_
  refine ol_ifnull hX (pc := 4) dX1_stick_4 ?_
  refine ol_iload_n hX (pc := 7) dX1_stick_7 rfl rfl ?_
  refine ol_iconst hX (pc := 8) 0 dX1_stick_8 ol_k_iconst_0 ?_
  refine ol_iconst hX (pc := 9) 5 dX1_stick_9 ol_k_iconst_5 ?_
  obtain ⟨y1, e2, h⟩ := ol_of_bd h
  refine ol_cSr (As := [.int x1, .int 0, .int 5]) hX (pc := 10) (wX1_isIn V (ol_Xc V a (some (g 0 0)) σ ++ (ol_WB V g β ++ ext)) x1 0 5 y1 e2) lkX1_77 dcX1_isIn ⟨rfl, rfl⟩ ol_rr_X1_stick_X1_isIn (fun _ h => h) ⟨Nat.le_refl _, Nat.le_refl _⟩ (Nat.le_of_ble_eq_true rfl) dX1_stick_10 rfl ?_
  refine ol_if_ne hX (pc := 13) 22 dX1_stick_13 (by decide) (fun c16 => ?_) (fun c16 => ?_)
  · have h := ol_ifn c16 h
    refine ol_iload_n hX (pc := 22) dX1_stick_22 rfl rfl ?_
    refine ol_iconst hX (pc := 23) 0 dX1_stick_23 ol_k_iconst_0 ?_
    refine ol_iconst hX (pc := 24) 2 dX1_stick_24 ol_k_iconst_2 ?_
    obtain ⟨y3, e4, h⟩ := ol_of_bd h
    refine ol_cSr (As := [.int x2, .int 0, .int 2]) hX (pc := 25) (wX1_isIn V (ol_Xc V a (some (g 0 0)) σ ++ (ol_WB V g β ++ ext)) x2 0 2 y3 e4) lkX1_77 dcX1_isIn ⟨rfl, rfl⟩ ol_rr_X1_stick_X1_isIn (fun _ h => h) ⟨Nat.le_refl _, Nat.le_refl _⟩ (Nat.le_of_ble_eq_true rfl) dX1_stick_25 rfl ?_
    refine ol_if_ne hX (pc := 28) 37 dX1_stick_28 (by decide) (fun c13 => ?_) (fun c13 => ?_)
    · have h := ol_ifn c13 h
      refine ol_aload_n hX (pc := 37) dX1_stick_37 rfl rfl ?_
      refine ol_xg_O_7 hX (pc := 38) q350 dX1_stick_38 ?_
      refine ol_xgN_R_5 hX (pc := 41) ol_isr0 q264 dX1_stick_41 ?_
      refine ol_iload_n hX (pc := 44) dX1_stick_44 rfl rfl ?_
      obtain ⟨g5, h⟩ := ol_of_og h
      refine ol_xl_R5 hX (pc := 45) ol_isr0 dX1_stick_45 rfl (ol_in_vp g5) ?_
      refine ol_istore_n hX (pc := 46) [some (.ref (a 0)), some (.int x1), some (.int x2), some (.int (σ.1 (10 + 5) x1.toNatClampNeg))] dX1_stick_46 rfl (by decide) rfl rfl ?_
      refine ol_aload_n hX (pc := 47) dX1_stick_47 rfl rfl ?_
      obtain ⟨y6, e7, h⟩ := ol_of_bd h
      refine ol_cVw (As := []) hX (pc := 48) (wX1_forgets V a (some (g 0 0)) (ol_WB V g β ++ ext) σ y6 e7) lkX1_112 dcX1_forgets ol_rr_X1_stick_X1_forgets 0 rfl rfl ⟨Nat.le_refl _, Nat.le_refl _⟩ (Nat.le_of_ble_eq_true rfl) dX1_stick_48 rfl ?_
      refine ol_aload_n hX (pc := 51) dX1_stick_51 rfl rfl ?_
      refine ol_xg_O_7 hX (pc := 52) q350 dX1_stick_52 ?_
      refine ol_xgN_R_5 hX (pc := 55) ol_isr0 q264 dX1_stick_55 ?_
      refine ol_iload_n hX (pc := 58) dX1_stick_58 rfl rfl ?_
      refine ol_iload_n hX (pc := 59) dX1_stick_59 rfl rfl ?_
      obtain ⟨g8, h⟩ := ol_of_og h
      refine ol_xw_R5 hX (pc := 60) ol_isr0 dX1_stick_60 rfl (ol_in_vp g8) ?_
      refine ol_aload_n hX (pc := 61) dX1_stick_61 rfl rfl ?_
      refine ol_iload_n hX (pc := 62) dX1_stick_62 rfl rfl ?_
      obtain ⟨y9, e10, h⟩ := ol_of_bd h
      refine ol_cVw (As := [.int (σ.1 (10 + 5) x1.toNatClampNeg)]) hX (pc := 63) (wX1_fine V a (some (g 0 0)) (ol_WB V g β ++ ext) (ol_xs y6 (10 + 5) x1.toNatClampNeg x2) (σ.1 (10 + 5) x1.toNatClampNeg) y9 e10) lkX1_125 dcX1_fine ol_rr_X1_stick_X1_fine 0 rfl rfl ⟨Nat.le_refl _, Nat.le_refl _⟩ (Nat.le_of_ble_eq_true rfl) dX1_stick_63 rfl ?_
      have h := ol_of_some h
      subst h
      exact ol_iret hX (pc := 66) dX1_stick_66 ⟨rfl, rfl⟩ ⟨Nat.le_refl _, Nat.le_refl _⟩
    · have h := ol_ifp c13 h
      refine ol_aload_n hX (pc := 31) dX1_stick_31 rfl rfl ?_
      refine ol_iconst hX (pc := 32) 2 dX1_stick_32 ol_k_iconst_2 ?_
      obtain ⟨y11, e12, h⟩ := ol_of_bd h
      refine ol_cVw (As := [.int 2]) hX (pc := 33) (wX1_refused V a (some (g 0 0)) (ol_WB V g β ++ ext) σ 2 y11 e12) lkX1_81 dcX1_refused ol_rr_X1_stick_X1_refused 0 rfl rfl ⟨Nat.le_refl _, Nat.le_refl _⟩ (Nat.le_of_ble_eq_true rfl) dX1_stick_33 rfl ?_
      have h := ol_of_some h
      subst h
      exact ol_iret hX (pc := 36) dX1_stick_36 ⟨rfl, rfl⟩ ⟨Nat.le_refl _, Nat.le_refl _⟩
  · have h := ol_ifp c16 h
    refine ol_aload_n hX (pc := 16) dX1_stick_16 rfl rfl ?_
    refine ol_iconst hX (pc := 17) 1 dX1_stick_17 ol_k_iconst_1 ?_
    obtain ⟨y14, e15, h⟩ := ol_of_bd h
    refine ol_cVw (As := [.int 1]) hX (pc := 18) (wX1_refused V a (some (g 0 0)) (ol_WB V g β ++ ext) σ 1 y14 e15) lkX1_81 dcX1_refused ol_rr_X1_stick_X1_refused 0 rfl rfl ⟨Nat.le_refl _, Nat.le_refl _⟩ (Nat.le_of_ble_eq_true rfl) dX1_stick_18 rfl ?_
    have h := ol_of_some h
    subst h
    exact ol_iret hX (pc := 21) dX1_stick_21 ⟨rfl, rfl⟩ ⟨Nat.le_refl _, Nat.le_refl _⟩
set_option maxHeartbeats 4000000 in
theorem wX1_size (V : ol_Gh) (a : Nat → Nat) (ext : va_W) (g : Nat → Nat → Nat) (σ : ol_Xm) (β : ol_Bd) (x1 : Int32)  (z : Int32) (h : oX1_size σ β (g 0 0) x1 = some z) : ol_Mt V yX1_size cX1_size 2 (some .int) ({ frames := 4, cells := 0, slots := 0, locals := 86 } : Room) false [.ref (a 0), .int x1] (ol_Xc V a (some (g 0 0)) σ ++ (ol_WB V g β ++ ext)) (ol_Pr (some (.int z))) := by
  refine ol_MtOf (L0 := [some (.ref (a 0)), some (.int x1)]) (by decide) (Nat.le_of_ble_eq_true rfl) rfl (fun X A hX => ?_)
  unfold oX1_size at h
  refine ol_iload_n hX (pc := 0) dX1_size_0 rfl rfl ?_
  by_cases c1 : x1 = 0
  · have h := ol_ifp c1 h
    refine ol_tsw_in hX (pc := 1) 32 dX1_size_1 c1 (by decide) (by decide) rfl (by decide) ?_
    refine ol_aload_n hX (pc := 32) dX1_size_32 rfl rfl ?_
    refine ol_xg_O_4 hX (pc := 33) q346 dX1_size_33 ?_
    have h := ol_of_some h
    subst h
    exact ol_iret hX (pc := 36) dX1_size_36 rfl ⟨Nat.le_refl _, Nat.le_refl _⟩
  · have h := ol_ifn c1 h
    by_cases c4 : x1 = 1
    · have h := ol_ifp c4 h
      refine ol_tsw_in hX (pc := 1) 37 dX1_size_1 c4 (by decide) (by decide) rfl (by decide) ?_
      refine ol_aload_n hX (pc := 37) dX1_size_37 rfl rfl ?_
      refine ol_xg_O_6 hX (pc := 38) q348 rfl dX1_size_38 ?_
      refine ol_ifnonnull hX (pc := 41) 48 dX1_size_41 (by decide) ?_
      refine ol_aload_n hX (pc := 48) dX1_size_48 rfl rfl ?_
      refine ol_xg_O_7 hX (pc := 49) q350 dX1_size_49 ?_
      obtain ⟨y2, e3, h⟩ := ol_of_bd h
      refine ol_cVr (As := []) hX (pc := 52) (wX3_toCome V a (some (g 0 0)) ext g σ β 10 ol_isr0 y2 e3) lkX1_345 dcX3_toCome ⟨rfl, rfl⟩ ol_rr_X1_size_X3_toCome 10 (ol_rpos ol_isr0) rfl (fun _ h => h) ⟨Nat.le_refl _, Nat.le_refl _⟩ (Nat.le_of_ble_eq_true rfl) dX1_size_52 rfl ?_
      have h := ol_of_some h
      subst h
      exact ol_iret hX (pc := 55) dX1_size_55 rfl ⟨Nat.le_refl _, Nat.le_refl _⟩
    · have h := ol_ifn c4 h
      by_cases c6 : x1 = 2
      · have h := ol_ifp c6 h
        refine ol_tsw_in hX (pc := 1) 56 dX1_size_1 c6 (by decide) (by decide) rfl (by decide) ?_
        refine ol_aload_n hX (pc := 56) dX1_size_56 rfl rfl ?_
        refine ol_xg_O_10 hX (pc := 57) q353 dX1_size_57 ?_
        refine ol_if_eq hX (pc := 60) 67 dX1_size_60 (by decide) (fun c5 => ?_) (fun c5 => ?_)
        · have h := ol_ifp c5 h
          refine ol_iconst hX (pc := 67) 0 dX1_size_67 ol_k_iconst_0 ?_
          have h := ol_of_some h
          subst h
          exact ol_iret hX (pc := 68) dX1_size_68 rfl ⟨Nat.le_refl _, Nat.le_refl _⟩
        · have h := ol_ifn c5 h
          refine ol_iconst hX (pc := 63) 1 dX1_size_63 ol_k_iconst_1 ?_
          refine ol_goto hX (pc := 64) 68 dX1_size_64 (by decide) ?_
          have h := ol_of_some h
          subst h
          exact ol_iret hX (pc := 68) dX1_size_68 rfl ⟨Nat.le_refl _, Nat.le_refl _⟩
      · have h := ol_ifn c6 h
        by_cases c9 : x1 = 3
        · have h := ol_ifp c9 h
          refine ol_tsw_in hX (pc := 1) 69 dX1_size_1 c9 (by decide) (by decide) rfl (by decide) ?_
          refine ol_aload_n hX (pc := 69) dX1_size_69 rfl rfl ?_
          refine ol_xg_O_6 hX (pc := 70) q348 rfl dX1_size_70 ?_
          refine ol_ifnonnull hX (pc := 73) 80 dX1_size_73 (by decide) ?_
          refine ol_aload_n hX (pc := 80) dX1_size_80 rfl rfl ?_
          obtain ⟨y7, e8, h⟩ := ol_of_bd h
          refine ol_cVr (As := []) hX (pc := 81) (wX1_unwhole V a (some (g 0 0)) (ol_WB V g β ++ ext) σ y7 e8) lkX1_348 dcX1_unwhole ⟨rfl, rfl⟩ ol_rr_X1_size_X1_unwhole 0 rfl rfl (fun _ h => h) ⟨Nat.le_refl _, Nat.le_refl _⟩ (Nat.le_of_ble_eq_true rfl) dX1_size_81 rfl ?_
          have h := ol_of_some h
          subst h
          exact ol_iret hX (pc := 84) dX1_size_84 rfl ⟨Nat.le_refl _, Nat.le_refl _⟩
        · have h := ol_ifn c9 h
          refine ol_tsw_out hX (pc := 1) 85 dX1_size_1 ?_ (by decide) ?_
          · exact ol_sw4 c1 c4 c6 c9
          · refine ol_iconst hX (pc := 85) (-1) dX1_size_85 ol_k_iconst_m1 ?_
            have h := ol_of_some h
            subst h
            exact ol_iret hX (pc := 86) dX1_size_86 rfl ⟨Nat.le_refl _, Nat.le_refl _⟩
