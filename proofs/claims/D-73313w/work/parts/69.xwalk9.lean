/-! walks (printed) -/
set_option maxRecDepth 100000
set_option maxHeartbeats 4000000 in
theorem wX1_log (V : ol_Gh) (a : Nat → Nat) (ext : va_W) (g : Nat → Nat → Nat) (σ : ol_Xm) (β : ol_Bd) (x1 : Int32) (x2 : Int32) (gh : ol_Lh) (hg : ol_Rel gh σ.2.2) (z : Int32 × ol_Xm) (h : oX1_log σ β x1 x2 = some z) : ol_Mt V yX1_log cX1_log 4 (some .int) ({ frames := 3, cells := 0, slots := 0, locals := 80 } : Room) true [.ref (a 0), .int x1, .int x2] (ol_Xc V a (some (g 0 0)) σ ++ (ol_WB V g β ++ (ol_WL V a gh σ.2.2 ++ ext))) (fun v w => ∃ gh2 : ol_Lh, ol_Rel gh2 z.2.2.2 ∧ v = some (.int z.1) ∧ w = ol_Xc V a (some (g 0 0)) z.2 ++ (ol_WB V g β ++ (ol_WL V a gh2 z.2.2.2 ++ ext))) := by
  refine ol_MtOf (L0 := [some (.ref (a 0)), some (.int x1), some (.int x2), none]) (by decide) (Nat.le_of_ble_eq_true rfl) rfl (fun X A hX => ?_)
  unfold oX1_log at h
  refine ol_aload_n hX (pc := 0) dX1_log_0 rfl rfl ?_
  refine ol_xg_O_6 hX (pc := 1) q348 rfl dX1_log_1 ?_
  refine ol_ifnull hX (pc := 4) dX1_log_4 ?_
  refine ol_iload_n hX (pc := 7) dX1_log_7 rfl rfl ?_
  refine ol_iconst hX (pc := 8) 0 dX1_log_8 ol_k_iconst_0 ?_
  refine ol_aload_n hX (pc := 9) dX1_log_9 rfl rfl ?_
  refine ol_xg_O_7 hX (pc := 10) q350 dX1_log_10 ?_
  refine ol_xgN_R_19 hX (pc := 13) ol_isr0 q283 dX1_log_13 ?_
  refine ol_logSize hX (pc := 16) ol_isr0 q1452 (Nat.le_of_ble_eq_true rfl) (Nat.le_of_ble_eq_true rfl) ⟨Nat.le_refl _, Nat.le_refl _⟩ (Nat.le_of_ble_eq_true rfl) dX1_log_16 ?_
  refine ol_iconst hX (pc := 19) 1 dX1_log_19 ol_k_iconst_1 ?_
  refine ol_isub hX (pc := 20) dX1_log_20 ?_
  obtain ⟨y1, e2, h⟩ := ol_of_bd h
  refine ol_cSr (As := [.int x1, .int 0, .int ((σ.2.2 10 0) - 1)]) hX (pc := 21) (wX1_isIn V (ol_Xc V a (some (g 0 0)) σ ++ (ol_WB V g β ++ (ol_WL V a gh σ.2.2 ++ ext))) x1 0 ((σ.2.2 10 0) - 1) y1 e2) lkX1_77 dcX1_isIn ⟨rfl, rfl⟩ ol_rr_X1_log_X1_isIn (fun _ h => h) ⟨Nat.le_refl _, Nat.le_refl _⟩ (Nat.le_of_ble_eq_true rfl) dX1_log_21 rfl ?_
  refine ol_if_ne hX (pc := 24) 33 dX1_log_24 (by decide) (fun c29 => ?_) (fun c29 => ?_)
  · have h := ol_ifn c29 h
    refine ol_aload_n hX (pc := 33) dX1_log_33 rfl rfl ?_
    refine ol_xg_O_7 hX (pc := 34) q350 dX1_log_34 ?_
    refine ol_xgN_R_19 hX (pc := 37) ol_isr0 q283 dX1_log_37 ?_
    refine ol_aload_n hX (pc := 40) dX1_log_40 rfl rfl ?_
    refine ol_xg_O_7 hX (pc := 41) q350 dX1_log_41 ?_
    refine ol_xgN_R_19 hX (pc := 44) ol_isr0 q283 dX1_log_44 ?_
    refine ol_logSize hX (pc := 47) ol_isr0 q1452 (Nat.le_of_ble_eq_true rfl) (Nat.le_of_ble_eq_true rfl) ⟨Nat.le_refl _, Nat.le_refl _⟩ (Nat.le_of_ble_eq_true rfl) dX1_log_47 ?_
    refine ol_iconst hX (pc := 50) 1 dX1_log_50 ol_k_iconst_1 ?_
    refine ol_isub hX (pc := 51) dX1_log_51 ?_
    refine ol_iload_n hX (pc := 52) dX1_log_52 rfl rfl ?_
    refine ol_isub hX (pc := 53) dX1_log_53 ?_
    obtain ⟨g3, h⟩ := ol_of_og h
    refine ol_logGet hX (pc := 54) ol_isr0 hg g3 q1763 (Nat.le_of_ble_eq_true rfl) (Nat.le_of_ble_eq_true rfl) ⟨Nat.le_refl _, Nat.le_refl _⟩ (Nat.le_of_ble_eq_true rfl) dX1_log_54 (fun e4 he5 hk6 => ?_)
    refine ol_castS hX (pc := 57) q1764 (ol_WLent he5) rfl dX1_log_57 ?_
    refine ol_astore_n hX (pc := 60) [some (.ref (a 0)), some (.int x1), some (.int x2), some (.ref e4.1)] dX1_log_60 rfl (by decide) rfl rfl ?_
    refine ol_iload_n hX (pc := 61) dX1_log_61 rfl rfl ?_
    by_cases c9 : x2 = 0
    · have h := ol_ifp c9 h
      refine ol_tsw_in hX (pc := 62) 100 dX1_log_62 c9 (by decide) (by decide) rfl (by decide) ?_
      refine ol_aload_n hX (pc := 100) dX1_log_100 rfl rfl ?_
      refine ol_aload_n hX (pc := 101) dX1_log_101 rfl rfl ?_
      refine ol_cVrM (As := []) hX (pc := 102) (wX14_time V _ _ _ _ _ _ _ _ (ol_WLent he5)) lkX1_290 dcX14_time ⟨rfl, rfl⟩ ⟨(Nat.le_of_ble_eq_true rfl), (Nat.le_of_ble_eq_true rfl)⟩ (ol_WLent he5) rfl (fun _ h => h) ⟨Nat.le_refl _, Nat.le_refl _⟩ (Nat.le_of_ble_eq_true rfl) dX1_log_102 rfl ?_
      refine ol_topE (hk6 0 (by decide)).symm ?_
      obtain ⟨y7, e8, h⟩ := ol_of_bd h
      refine ol_cVw (As := [.int (σ.2.2 10 (1 + 6 * (((σ.2.2 10 0) - 1) - x1).toNatClampNeg + 0))]) hX (pc := 105) (wX1_fine V a (some (g 0 0)) (ol_WB V g β ++ (ol_WL V a gh σ.2.2 ++ ext)) σ (σ.2.2 10 (1 + 6 * (((σ.2.2 10 0) - 1) - x1).toNatClampNeg + 0)) y7 e8) lkX1_125 dcX1_fine ol_rr_X1_log_X1_fine 0 rfl rfl ⟨Nat.le_refl _, Nat.le_refl _⟩ (Nat.le_of_ble_eq_true rfl) dX1_log_105 rfl ?_
      refine ol_Grelog (σ0 := σ) ?_
      have h := ol_of_some h
      subst h
      exact ol_iret hX (pc := 108) dX1_log_108 ⟨gh, hg, rfl, rfl⟩ ⟨Nat.le_refl _, Nat.le_refl _⟩
    · have h := ol_ifn c9 h
      by_cases c12 : x2 = 1
      · have h := ol_ifp c12 h
        refine ol_tsw_in hX (pc := 62) 109 dX1_log_62 c12 (by decide) (by decide) rfl (by decide) ?_
        refine ol_aload_n hX (pc := 109) dX1_log_109 rfl rfl ?_
        refine ol_aload_n hX (pc := 110) dX1_log_110 rfl rfl ?_
        refine ol_cVrM (As := []) hX (pc := 111) (wX14_set V _ _ _ _ _ _ _ _ (ol_WLent he5)) lkX1_292 dcX14_set ⟨rfl, rfl⟩ ⟨(Nat.le_of_ble_eq_true rfl), (Nat.le_of_ble_eq_true rfl)⟩ (ol_WLent he5) rfl (fun _ h => h) ⟨Nat.le_refl _, Nat.le_refl _⟩ (Nat.le_of_ble_eq_true rfl) dX1_log_111 rfl ?_
        refine ol_topE (hk6 1 (by decide)).symm ?_
        obtain ⟨y10, e11, h⟩ := ol_of_bd h
        refine ol_cVw (As := [.int (σ.2.2 10 (1 + 6 * (((σ.2.2 10 0) - 1) - x1).toNatClampNeg + 1))]) hX (pc := 114) (wX1_fine V a (some (g 0 0)) (ol_WB V g β ++ (ol_WL V a gh σ.2.2 ++ ext)) σ (σ.2.2 10 (1 + 6 * (((σ.2.2 10 0) - 1) - x1).toNatClampNeg + 1)) y10 e11) lkX1_125 dcX1_fine ol_rr_X1_log_X1_fine 0 rfl rfl ⟨Nat.le_refl _, Nat.le_refl _⟩ (Nat.le_of_ble_eq_true rfl) dX1_log_114 rfl ?_
        refine ol_Grelog (σ0 := σ) ?_
        have h := ol_of_some h
        subst h
        exact ol_iret hX (pc := 117) dX1_log_117 ⟨gh, hg, rfl, rfl⟩ ⟨Nat.le_refl _, Nat.le_refl _⟩
      · have h := ol_ifn c12 h
        by_cases c15 : x2 = 2
        · have h := ol_ifp c15 h
          refine ol_tsw_in hX (pc := 62) 118 dX1_log_62 c15 (by decide) (by decide) rfl (by decide) ?_
          refine ol_aload_n hX (pc := 118) dX1_log_118 rfl rfl ?_
          refine ol_aload_n hX (pc := 119) dX1_log_119 rfl rfl ?_
          refine ol_cVrM (As := []) hX (pc := 120) (wX14_first V _ _ _ _ _ _ _ _ (ol_WLent he5)) lkX1_295 dcX14_first ⟨rfl, rfl⟩ ⟨(Nat.le_of_ble_eq_true rfl), (Nat.le_of_ble_eq_true rfl)⟩ (ol_WLent he5) rfl (fun _ h => h) ⟨Nat.le_refl _, Nat.le_refl _⟩ (Nat.le_of_ble_eq_true rfl) dX1_log_120 rfl ?_
          refine ol_topE (hk6 2 (by decide)).symm ?_
          obtain ⟨y13, e14, h⟩ := ol_of_bd h
          refine ol_cVw (As := [.int (σ.2.2 10 (1 + 6 * (((σ.2.2 10 0) - 1) - x1).toNatClampNeg + 2))]) hX (pc := 123) (wX1_fine V a (some (g 0 0)) (ol_WB V g β ++ (ol_WL V a gh σ.2.2 ++ ext)) σ (σ.2.2 10 (1 + 6 * (((σ.2.2 10 0) - 1) - x1).toNatClampNeg + 2)) y13 e14) lkX1_125 dcX1_fine ol_rr_X1_log_X1_fine 0 rfl rfl ⟨Nat.le_refl _, Nat.le_refl _⟩ (Nat.le_of_ble_eq_true rfl) dX1_log_123 rfl ?_
          refine ol_Grelog (σ0 := σ) ?_
          have h := ol_of_some h
          subst h
          exact ol_iret hX (pc := 126) dX1_log_126 ⟨gh, hg, rfl, rfl⟩ ⟨Nat.le_refl _, Nat.le_refl _⟩
        · have h := ol_ifn c15 h
          by_cases c18 : x2 = 3
          · have h := ol_ifp c18 h
            refine ol_tsw_in hX (pc := 62) 127 dX1_log_62 c18 (by decide) (by decide) rfl (by decide) ?_
            refine ol_aload_n hX (pc := 127) dX1_log_127 rfl rfl ?_
            refine ol_aload_n hX (pc := 128) dX1_log_128 rfl rfl ?_
            refine ol_cVrM (As := []) hX (pc := 129) (wX14_second V _ _ _ _ _ _ _ _ (ol_WLent he5)) lkX1_298 dcX14_second ⟨rfl, rfl⟩ ⟨(Nat.le_of_ble_eq_true rfl), (Nat.le_of_ble_eq_true rfl)⟩ (ol_WLent he5) rfl (fun _ h => h) ⟨Nat.le_refl _, Nat.le_refl _⟩ (Nat.le_of_ble_eq_true rfl) dX1_log_129 rfl ?_
            refine ol_topE (hk6 3 (by decide)).symm ?_
            obtain ⟨y16, e17, h⟩ := ol_of_bd h
            refine ol_cVw (As := [.int (σ.2.2 10 (1 + 6 * (((σ.2.2 10 0) - 1) - x1).toNatClampNeg + 3))]) hX (pc := 132) (wX1_fine V a (some (g 0 0)) (ol_WB V g β ++ (ol_WL V a gh σ.2.2 ++ ext)) σ (σ.2.2 10 (1 + 6 * (((σ.2.2 10 0) - 1) - x1).toNatClampNeg + 3)) y16 e17) lkX1_125 dcX1_fine ol_rr_X1_log_X1_fine 0 rfl rfl ⟨Nat.le_refl _, Nat.le_refl _⟩ (Nat.le_of_ble_eq_true rfl) dX1_log_132 rfl ?_
            refine ol_Grelog (σ0 := σ) ?_
            have h := ol_of_some h
            subst h
            exact ol_iret hX (pc := 135) dX1_log_135 ⟨gh, hg, rfl, rfl⟩ ⟨Nat.le_refl _, Nat.le_refl _⟩
          · have h := ol_ifn c18 h
            by_cases c21 : x2 = 4
            · have h := ol_ifp c21 h
              refine ol_tsw_in hX (pc := 62) 136 dX1_log_62 c21 (by decide) (by decide) rfl (by decide) ?_
              refine ol_aload_n hX (pc := 136) dX1_log_136 rfl rfl ?_
              refine ol_aload_n hX (pc := 137) dX1_log_137 rfl rfl ?_
              refine ol_cVrM (As := []) hX (pc := 138) (wX14_elect V _ _ _ _ _ _ _ _ (ol_WLent he5)) lkX1_301 dcX14_elect ⟨rfl, rfl⟩ ⟨(Nat.le_of_ble_eq_true rfl), (Nat.le_of_ble_eq_true rfl)⟩ (ol_WLent he5) rfl (fun _ h => h) ⟨Nat.le_refl _, Nat.le_refl _⟩ (Nat.le_of_ble_eq_true rfl) dX1_log_138 rfl ?_
              refine ol_topE (hk6 4 (by decide)).symm ?_
              obtain ⟨y19, e20, h⟩ := ol_of_bd h
              refine ol_cVw (As := [.int (σ.2.2 10 (1 + 6 * (((σ.2.2 10 0) - 1) - x1).toNatClampNeg + 4))]) hX (pc := 141) (wX1_fine V a (some (g 0 0)) (ol_WB V g β ++ (ol_WL V a gh σ.2.2 ++ ext)) σ (σ.2.2 10 (1 + 6 * (((σ.2.2 10 0) - 1) - x1).toNatClampNeg + 4)) y19 e20) lkX1_125 dcX1_fine ol_rr_X1_log_X1_fine 0 rfl rfl ⟨Nat.le_refl _, Nat.le_refl _⟩ (Nat.le_of_ble_eq_true rfl) dX1_log_141 rfl ?_
              refine ol_Grelog (σ0 := σ) ?_
              have h := ol_of_some h
              subst h
              exact ol_iret hX (pc := 144) dX1_log_144 ⟨gh, hg, rfl, rfl⟩ ⟨Nat.le_refl _, Nat.le_refl _⟩
            · have h := ol_ifn c21 h
              by_cases c24 : x2 = 5
              · have h := ol_ifp c24 h
                refine ol_tsw_in hX (pc := 62) 145 dX1_log_62 c24 (by decide) (by decide) rfl (by decide) ?_
                refine ol_aload_n hX (pc := 145) dX1_log_145 rfl rfl ?_
                refine ol_aload_n hX (pc := 146) dX1_log_146 rfl rfl ?_
                refine ol_cVrM (As := []) hX (pc := 147) (wX14_faulty V _ _ _ _ _ _ _ _ (ol_WLent he5)) lkX1_304 dcX14_faulty ⟨rfl, rfl⟩ ⟨(Nat.le_of_ble_eq_true rfl), (Nat.le_of_ble_eq_true rfl)⟩ (ol_WLent he5) rfl (fun _ h => h) ⟨Nat.le_refl _, Nat.le_refl _⟩ (Nat.le_of_ble_eq_true rfl) dX1_log_147 rfl ?_
                refine ol_topE (hk6 5 (by decide)).symm ?_
                obtain ⟨y22, e23, h⟩ := ol_of_bd h
                refine ol_cVw (As := [.int (σ.2.2 10 (1 + 6 * (((σ.2.2 10 0) - 1) - x1).toNatClampNeg + 5))]) hX (pc := 150) (wX1_fine V a (some (g 0 0)) (ol_WB V g β ++ (ol_WL V a gh σ.2.2 ++ ext)) σ (σ.2.2 10 (1 + 6 * (((σ.2.2 10 0) - 1) - x1).toNatClampNeg + 5)) y22 e23) lkX1_125 dcX1_fine ol_rr_X1_log_X1_fine 0 rfl rfl ⟨Nat.le_refl _, Nat.le_refl _⟩ (Nat.le_of_ble_eq_true rfl) dX1_log_150 rfl ?_
                refine ol_Grelog (σ0 := σ) ?_
                have h := ol_of_some h
                subst h
                exact ol_iret hX (pc := 153) dX1_log_153 ⟨gh, hg, rfl, rfl⟩ ⟨Nat.le_refl _, Nat.le_refl _⟩
              · have h := ol_ifn c24 h
                refine ol_tsw_out hX (pc := 62) 154 dX1_log_62 ?_ (by decide) ?_
                · exact ol_sw6 c9 c12 c15 c18 c21 c24
                · refine ol_aload_n hX (pc := 154) dX1_log_154 rfl rfl ?_
                  refine ol_iconst hX (pc := 155) 1 dX1_log_155 ol_k_iconst_1 ?_
                  obtain ⟨y25, e26, h⟩ := ol_of_bd h
                  refine ol_cVw (As := [.int 1]) hX (pc := 156) (wX1_refused V a (some (g 0 0)) (ol_WB V g β ++ (ol_WL V a gh σ.2.2 ++ ext)) σ 1 y25 e26) lkX1_81 dcX1_refused ol_rr_X1_log_X1_refused 0 rfl rfl ⟨Nat.le_refl _, Nat.le_refl _⟩ (Nat.le_of_ble_eq_true rfl) dX1_log_156 rfl ?_
                  refine ol_Grelog (σ0 := σ) ?_
                  have h := ol_of_some h
                  subst h
                  exact ol_iret hX (pc := 159) dX1_log_159 ⟨gh, hg, rfl, rfl⟩ ⟨Nat.le_refl _, Nat.le_refl _⟩
  · have h := ol_ifp c29 h
    refine ol_aload_n hX (pc := 27) dX1_log_27 rfl rfl ?_
    refine ol_iconst hX (pc := 28) 1 dX1_log_28 ol_k_iconst_1 ?_
    obtain ⟨y27, e28, h⟩ := ol_of_bd h
    refine ol_cVw (As := [.int 1]) hX (pc := 29) (wX1_refused V a (some (g 0 0)) (ol_WB V g β ++ (ol_WL V a gh σ.2.2 ++ ext)) σ 1 y27 e28) lkX1_81 dcX1_refused ol_rr_X1_log_X1_refused 0 rfl rfl ⟨Nat.le_refl _, Nat.le_refl _⟩ (Nat.le_of_ble_eq_true rfl) dX1_log_29 rfl ?_
    refine ol_Grelog (σ0 := σ) ?_
    have h := ol_of_some h
    subst h
    exact ol_iret hX (pc := 32) dX1_log_32 ⟨gh, hg, rfl, rfl⟩ ⟨Nat.le_refl _, Nat.le_refl _⟩
set_option maxHeartbeats 4000000 in
theorem wX1_will (V : ol_Gh) (a : Nat → Nat) (ext : va_W) (g : Nat → Nat → Nat) (σ : ol_Xm) (β : ol_Bd) (x1 : Int32) (x2 : Int32) (gh : ol_Lh) (hg : ol_Rel gh σ.2.2) (z : Int32 × ol_Xm) (h : oX1_will σ β (g 0 0) x1 x2 = some z) : ol_Mt V yX1_will cX1_will 3 (some .int) ({ frames := 18, cells := 5000, slots := 12000, locals := 742 } : Room) true [.ref (a 0), .int x1, .int x2] (ol_Xc V a (some (g 0 0)) σ ++ (ol_WB V g β ++ (ol_WL V a gh σ.2.2 ++ ext))) (fun v w => ∃ gh2 : ol_Lh, ol_Rel gh2 z.2.2.2 ∧ v = some (.int z.1) ∧ w = ol_Xc V a (some (g 0 0)) z.2 ++ (ol_WB V g β ++ (ol_WL V a gh2 z.2.2.2 ++ ext))) := by
  refine ol_MtOf (L0 := [some (.ref (a 0)), some (.int x1), some (.int x2)]) (by decide) (Nat.le_of_ble_eq_true rfl) rfl (fun X A hX => ?_)
  unfold oX1_will at h
  refine ol_aload_n hX (pc := 0) dX1_will_0 rfl rfl ?_
  refine ol_xg_O_6 hX (pc := 1) q348 rfl dX1_will_1 ?_
  refine ol_ifnull hX (pc := 4) dX1_will_4 ?_
  refine ol_iload_n hX (pc := 7) dX1_will_7 rfl rfl ?_
  obtain ⟨y1, e2, h⟩ := ol_of_bd h
  refine ol_cSr (As := [.int x2]) hX (pc := 8) (wX1_isWhat V (ol_Xc V a (some (g 0 0)) σ ++ (ol_WB V g β ++ (ol_WL V a gh σ.2.2 ++ ext))) x2 y1 e2) lkX1_273 dcX1_isWhat ⟨rfl, rfl⟩ ol_rr_X1_will_X1_isWhat (fun _ h => h) ⟨(by first | omega | (dsimp only; omega)), (by first | omega | (dsimp only; omega))⟩ (Nat.le_of_ble_eq_true rfl) dX1_will_8 rfl ?_
  refine ol_if_ne hX (pc := 11) 20 dX1_will_11 (by decide) (fun c22 => ?_) (fun c22 => ?_)
  · have h := ol_ifn c22 h
    refine ol_iload_n hX (pc := 20) dX1_will_20 rfl rfl ?_
    refine ol_iconst hX (pc := 21) 1 dX1_will_21 ol_k_iconst_1 ?_
    refine ol_sipush hX (pc := 22) 999 dX1_will_22 ol_k_sipush_999 ?_
    obtain ⟨y3, e4, h⟩ := ol_of_bd h
    refine ol_cSr (As := [.int x1, .int 1, .int 999]) hX (pc := 25) (wX1_isIn V (ol_Xc V a (some (g 0 0)) σ ++ (ol_WB V g β ++ (ol_WL V a gh σ.2.2 ++ ext))) x1 1 999 y3 e4) lkX1_77 dcX1_isIn ⟨rfl, rfl⟩ ol_rr_X1_will_X1_isIn (fun _ h => h) ⟨(by first | omega | (dsimp only; omega)), (by first | omega | (dsimp only; omega))⟩ (Nat.le_of_ble_eq_true rfl) dX1_will_25 rfl ?_
    refine ol_if_ne hX (pc := 28) 37 dX1_will_28 (by decide) (fun c19 => ?_) (fun c19 => ?_)
    · have h := ol_ifn c19 h
      refine ol_aload_n hX (pc := 37) dX1_will_37 rfl rfl ?_
      refine ol_xg_O_9 hX (pc := 38) q352 dX1_will_38 ?_
      refine ol_aload_n hX (pc := 41) dX1_will_41 rfl rfl ?_
      refine ol_xg_O_7 hX (pc := 42) q350 dX1_will_42 ?_
      obtain ⟨y5, e6, h⟩ := ol_of_bd h
      refine ol_cVW (As := [.ref (a 10)]) hX (pc := 45) (wX3_be V a (some (g 0 0)) ext g σ β 28 10 ol_isr2 ol_isr0 gh hg y5 e6) lkX1_319 dcX3_be ol_rr_X1_will_X3_be 28 (ol_rpos ol_isr2) rfl ⟨(by first | omega | (dsimp only; omega)), (by first | omega | (dsimp only; omega))⟩ (Nat.le_of_ble_eq_true rfl) dX1_will_45 rfl (fun v w hp => ?_)
      obtain ⟨gh7, hg8, rfl, rfl⟩ := hp
      refine ol_aload_n hX (pc := 48) dX1_will_48 rfl rfl ?_
      refine ol_xg_O_9 hX (pc := 49) q352 dX1_will_49 ?_
      refine ol_iload_n hX (pc := 52) dX1_will_52 rfl rfl ?_
      obtain ⟨y9, e10, h⟩ := ol_of_bd h
      refine ol_cVW (As := [.int x1]) hX (pc := 53) (wX3_goes V a (some (g 0 0)) ext g y5 β 28 999 x1 ol_isr2 gh7 hg8 y9 e10) lkX1_323 dcX3_goes ol_rr_X1_will_X3_goes 28 (ol_rpos ol_isr2) rfl ⟨(by first | omega | (dsimp only; omega)), (by first | omega | (dsimp only; omega))⟩ (Nat.le_of_ble_eq_true rfl) dX1_will_53 rfl (fun v w hp => ?_)
      obtain ⟨gh11, hg12, rfl, rfl⟩ := hp
      refine ol_Gwid (k := 5000) (n := 12000) (by first | omega | (dsimp only; omega)) (by first | omega | (dsimp only; omega)) ?_
      refine ol_aload_n hX (pc := 56) dX1_will_56 rfl rfl ?_
      refine ol_aload_n hX (pc := 57) dX1_will_57 rfl rfl ?_
      refine ol_xg_O_9 hX (pc := 58) q352 dX1_will_58 ?_
      refine ol_iload_n hX (pc := 61) dX1_will_61 rfl rfl ?_
      obtain ⟨y13, e14, h⟩ := ol_of_bd h
      refine ol_cVr (As := [.int x2]) hX (pc := 62) (wX3_is V a (some (g 0 0)) (ol_WL V a gh11 y9.2.2 ++ ext) g y9 β 28 x2 ol_isr2 y13 e14) lkX1_276 dcX3_is ⟨rfl, rfl⟩ ol_rr_X1_will_X3_is 28 (ol_rpos ol_isr2) rfl (fun _ h => h) ⟨(by first | omega | (dsimp only; omega)), (by first | omega | (dsimp only; omega))⟩ (Nat.le_of_ble_eq_true rfl) dX1_will_62 rfl ?_
      obtain ⟨y15, e16, h⟩ := ol_of_bd h
      refine ol_cVw (As := [.int y13]) hX (pc := 65) (wX1_fine V a (some (g 0 0)) (ol_WB V g β ++ (ol_WL V a gh11 y9.2.2 ++ ext)) y9 y13 y15 e16) lkX1_125 dcX1_fine ol_rr_X1_will_X1_fine 0 rfl rfl ⟨(by first | omega | (dsimp only; omega)), (by first | omega | (dsimp only; omega))⟩ (Nat.le_of_ble_eq_true rfl) dX1_will_65 rfl ?_
      refine ol_Grelog (σ0 := y9) ?_
      have h := ol_of_some h
      subst h
      exact ol_iret hX (pc := 68) dX1_will_68 ⟨gh11, hg12, rfl, rfl⟩ ⟨(by first | omega | (dsimp only; omega)), (by first | omega | (dsimp only; omega))⟩
    · have h := ol_ifp c19 h
      refine ol_aload_n hX (pc := 31) dX1_will_31 rfl rfl ?_
      refine ol_iconst hX (pc := 32) 2 dX1_will_32 ol_k_iconst_2 ?_
      obtain ⟨y17, e18, h⟩ := ol_of_bd h
      refine ol_cVw (As := [.int 2]) hX (pc := 33) (wX1_refused V a (some (g 0 0)) (ol_WB V g β ++ (ol_WL V a gh σ.2.2 ++ ext)) σ 2 y17 e18) lkX1_81 dcX1_refused ol_rr_X1_will_X1_refused 0 rfl rfl ⟨(by first | omega | (dsimp only; omega)), (by first | omega | (dsimp only; omega))⟩ (Nat.le_of_ble_eq_true rfl) dX1_will_33 rfl ?_
      refine ol_Grelog (σ0 := σ) ?_
      have h := ol_of_some h
      subst h
      exact ol_iret hX (pc := 36) dX1_will_36 ⟨gh, hg, rfl, rfl⟩ ⟨(by first | omega | (dsimp only; omega)), (by first | omega | (dsimp only; omega))⟩
  · have h := ol_ifp c22 h
    refine ol_aload_n hX (pc := 14) dX1_will_14 rfl rfl ?_
    refine ol_iconst hX (pc := 15) 1 dX1_will_15 ol_k_iconst_1 ?_
    obtain ⟨y20, e21, h⟩ := ol_of_bd h
    refine ol_cVw (As := [.int 1]) hX (pc := 16) (wX1_refused V a (some (g 0 0)) (ol_WB V g β ++ (ol_WL V a gh σ.2.2 ++ ext)) σ 1 y20 e21) lkX1_81 dcX1_refused ol_rr_X1_will_X1_refused 0 rfl rfl ⟨(by first | omega | (dsimp only; omega)), (by first | omega | (dsimp only; omega))⟩ (Nat.le_of_ble_eq_true rfl) dX1_will_16 rfl ?_
    refine ol_Grelog (σ0 := σ) ?_
    have h := ol_of_some h
    subst h
    exact ol_iret hX (pc := 19) dX1_will_19 ⟨gh, hg, rfl, rfl⟩ ⟨(by first | omega | (dsimp only; omega)), (by first | omega | (dsimp only; omega))⟩
set_option maxHeartbeats 4000000 in
theorem wX1_till_L42 {X : ol_Cx} {V : ol_Gh} {A : Nat → Prop} {a : Nat → Nat} {ext : va_W} {g : Nat → Nat → Nat} {z : Int32 × ol_Xm} (hX : ol_CX X V A cX1_till RX1 "till" 4 (some .int)) (β : ol_Bd) (x1 : Int32)    : ∀ (n : Nat), ∀ (v2 : Int32) (v3 : Int32) (σ : ol_Xm) (gh : ol_Lh) (hg : ol_Rel gh σ.2.2) (c : Nat) (m : Nat) (hc : c + 10 * n ≤ 20010) (hm : m + 24 * n ≤ 48024), oX1_till_L42 β (g 0 0) x1 n v2 v3 σ = some z → ol_G X V A true (fun v w => ∃ gh2 : ol_Lh, ol_Rel gh2 z.2.2.2 ∧ v = some (.int z.1) ∧ w = ol_Xc V a (some (g 0 0)) z.2 ++ (ol_WB V g β ++ (ol_WL V a gh2 z.2.2.2 ++ ext))) ({ frames := 18, cells := 20010, slots := 48024, locals := 742 } : Room) 4 c m (ol_Xc V a (some (g 0 0)) σ ++ (ol_WB V g β ++ (ol_WL V a gh σ.2.2 ++ ext))) 42 [some (.ref (a 0)), some (.int x1), some (.int v2), some (.int v3)] [] := by
  intro n
  induction n with
  | zero =>
    intro v2 v3 σ gh hg c m hc hm h
    exact ol_no h
  | succ n ih =>
    intro v2 v3 σ gh hg c m hc hm h
    rw [oX1_till_L42] at h
    refine ol_iload_n hX (pc := 42) dX1_till_42 rfl rfl ?_
    refine ol_sipush hX (pc := 43) 2000 dX1_till_43 ol_k_sipush_2000 ?_
    refine ol_icmp_gt hX (pc := 46) 87 dX1_till_46 (by decide) (fun c11 => ?_) (fun c11 => ?_)
    · have h := ol_ifp c11 h
      refine ol_aload_n hX (pc := 87) dX1_till_87 rfl rfl ?_
      refine ol_bipush hX (pc := 88) (-2) dX1_till_88 ol_k_bipush_m2 ?_
      obtain ⟨y1, e2, h⟩ := ol_of_bd h
      refine ol_cVw (As := [.int (-2)]) hX (pc := 90) (wX1_fine V a (some (g 0 0)) (ol_WB V g β ++ (ol_WL V a gh σ.2.2 ++ ext)) σ (-2) y1 e2) lkX1_125 dcX1_fine ol_rr_X1_till_X1_fine 0 rfl rfl ⟨(by first | omega | (dsimp only; omega)), (by first | omega | (dsimp only; omega))⟩ (Nat.le_of_ble_eq_true rfl) dX1_till_90 rfl ?_
      refine ol_Grelog (σ0 := σ) ?_
      have h := ol_of_some h
      subst h
      exact ol_iret hX (pc := 93) dX1_till_93 ⟨gh, hg, rfl, rfl⟩ ⟨(by first | omega | (dsimp only; omega)), (by first | omega | (dsimp only; omega))⟩
    · have h := ol_ifn c11 h
      refine ol_aload_n hX (pc := 49) dX1_till_49 rfl rfl ?_
      refine ol_xg_O_9 hX (pc := 50) q352 dX1_till_50 ?_
      refine ol_iconst hX (pc := 53) 1 dX1_till_53 ol_k_iconst_1 ?_
      obtain ⟨y3, e4, h⟩ := ol_of_bd h
      refine ol_cVW (As := [.int 1]) hX (pc := 54) (wX3_goes V a (some (g 0 0)) ext g σ β 28 1 1 ol_isr2 gh hg y3 e4) lkX1_323 dcX3_goes ol_rr_X1_till_X3_goes 28 (ol_rpos ol_isr2) rfl ⟨(by first | omega | (dsimp only; omega)), (by first | omega | (dsimp only; omega))⟩ (Nat.le_of_ble_eq_true rfl) dX1_till_54 rfl (fun v w hp => ?_)
      obtain ⟨gh5, hg6, rfl, rfl⟩ := hp
      refine ol_Gwid (k := (c + 10)) (n := (m + 24)) (by first | omega | (dsimp only; omega)) (by first | omega | (dsimp only; omega)) ?_
      refine ol_aload_n hX (pc := 57) dX1_till_57 rfl rfl ?_
      refine ol_xg_O_9 hX (pc := 58) q352 dX1_till_58 ?_
      refine ol_xgN_R_7 hX (pc := 61) ol_isr2 q268 dX1_till_61 ?_
      refine ol_bipush hX (pc := 64) 6 dX1_till_64 ol_k_bipush_6 ?_
      refine ol_iload_n hX (pc := 66) dX1_till_66 rfl rfl ?_
      refine ol_imul hX (pc := 67) dX1_till_67 ?_
      refine ol_iconst hX (pc := 68) 0 dX1_till_68 ol_k_iconst_0 ?_
      refine ol_iadd hX (pc := 69) dX1_till_69 ?_
      obtain ⟨g7, h⟩ := ol_of_og h
      refine ol_xl_R7 hX (pc := 70) ol_isr2 dX1_till_70 rfl (ol_in_vp g7) ?_
      refine ol_iload_n hX (pc := 71) dX1_till_71 rfl rfl ?_
      refine ol_icmp_le hX (pc := 72) 81 dX1_till_72 (by decide) (fun c10 => ?_) (fun c10 => ?_)
      · have h := ol_ifp c10 h
        refine ol_iinc hX (pc := 81) (v3 + 1) [some (.ref (a 0)), some (.int x1), some (.int v2), some (.int (v3 + 1))] dX1_till_81 rfl (ol_k_iinc_1 _) (by decide) rfl rfl ?_
        refine ol_goto hX (pc := 84) 42 dX1_till_84 (by decide) ?_
        refine ol_Gwid (k := (c + 10)) (n := (m + 24)) (by first | omega | (dsimp only; omega)) (by first | omega | (dsimp only; omega)) ?_
        exact ih v2 (v3 + 1) y3 gh5 hg6 (c + 10) (m + 24) (by first | omega | (dsimp only; omega)) (by first | omega | (dsimp only; omega)) h
      · have h := ol_ifn c10 h
        refine ol_aload_n hX (pc := 75) dX1_till_75 rfl rfl ?_
        refine ol_iload_n hX (pc := 76) dX1_till_76 rfl rfl ?_
        obtain ⟨y8, e9, h⟩ := ol_of_bd h
        refine ol_cVw (As := [.int v3]) hX (pc := 77) (wX1_fine V a (some (g 0 0)) (ol_WB V g β ++ (ol_WL V a gh5 y3.2.2 ++ ext)) y3 v3 y8 e9) lkX1_125 dcX1_fine ol_rr_X1_till_X1_fine 0 rfl rfl ⟨(by first | omega | (dsimp only; omega)), (by first | omega | (dsimp only; omega))⟩ (Nat.le_of_ble_eq_true rfl) dX1_till_77 rfl ?_
        refine ol_Grelog (σ0 := y3) ?_
        have h := ol_of_some h
        subst h
        exact ol_iret hX (pc := 80) dX1_till_80 ⟨gh5, hg6, rfl, rfl⟩ ⟨(by first | omega | (dsimp only; omega)), (by first | omega | (dsimp only; omega))⟩
set_option maxHeartbeats 4000000 in
theorem wX1_till (V : ol_Gh) (a : Nat → Nat) (ext : va_W) (g : Nat → Nat → Nat) (σ : ol_Xm) (β : ol_Bd) (x1 : Int32) (gh : ol_Lh) (hg : ol_Rel gh σ.2.2) (z : Int32 × ol_Xm) (h : oX1_till σ β (g 0 0) x1 = some z) : ol_Mt V yX1_till cX1_till 4 (some .int) ({ frames := 18, cells := 20010, slots := 48024, locals := 742 } : Room) true [.ref (a 0), .int x1] (ol_Xc V a (some (g 0 0)) σ ++ (ol_WB V g β ++ (ol_WL V a gh σ.2.2 ++ ext))) (fun v w => ∃ gh2 : ol_Lh, ol_Rel gh2 z.2.2.2 ∧ v = some (.int z.1) ∧ w = ol_Xc V a (some (g 0 0)) z.2 ++ (ol_WB V g β ++ (ol_WL V a gh2 z.2.2.2 ++ ext))) := by
  refine ol_MtOf (L0 := [some (.ref (a 0)), some (.int x1), none, none]) (by decide) (Nat.le_of_ble_eq_true rfl) rfl (fun X A hX => ?_)
  unfold oX1_till at h
  refine ol_aload_n hX (pc := 0) dX1_till_0 rfl rfl ?_
  refine ol_iload_n hX (pc := 1) dX1_till_1 rfl rfl ?_
  obtain ⟨y1, e2, h⟩ := ol_of_bd h
  refine ol_cVr (As := [.int x1]) hX (pc := 2) (wX1_isBoard V a (ol_WL V a gh σ.2.2 ++ ext) g σ β x1 y1 e2) lkX1_149 dcX1_isBoard ⟨rfl, rfl⟩ ol_rr_X1_till_X1_isBoard 0 rfl rfl (fun _ h => h) ⟨(by first | omega | (dsimp only; omega)), (by first | omega | (dsimp only; omega))⟩ (Nat.le_of_ble_eq_true rfl) dX1_till_2 rfl ?_
  refine ol_if_ne hX (pc := 5) 14 dX1_till_5 (by decide) (fun c12 => ?_) (fun c12 => ?_)
  · have h := ol_ifn c12 h
    refine ol_aload_n hX (pc := 14) dX1_till_14 rfl rfl ?_
    refine ol_xg_O_9 hX (pc := 15) q352 dX1_till_15 ?_
    refine ol_aload_n hX (pc := 18) dX1_till_18 rfl rfl ?_
    refine ol_xg_O_7 hX (pc := 19) q350 dX1_till_19 ?_
    obtain ⟨y3, e4, h⟩ := ol_of_bd h
    refine ol_cVW (As := [.ref (a 10)]) hX (pc := 22) (wX3_be V a (some (g 0 0)) ext g σ β 28 10 ol_isr2 ol_isr0 gh hg y3 e4) lkX1_319 dcX3_be ol_rr_X1_till_X3_be 28 (ol_rpos ol_isr2) rfl ⟨(by first | omega | (dsimp only; omega)), (by first | omega | (dsimp only; omega))⟩ (Nat.le_of_ble_eq_true rfl) dX1_till_22 rfl (fun v w hp => ?_)
    obtain ⟨gh5, hg6, rfl, rfl⟩ := hp
    refine ol_aload_n hX (pc := 25) dX1_till_25 rfl rfl ?_
    refine ol_xg_O_7 hX (pc := 26) q350 dX1_till_26 ?_
    refine ol_xgN_R_7 hX (pc := 29) ol_isr0 q268 dX1_till_29 ?_
    refine ol_bipush hX (pc := 32) 6 dX1_till_32 ol_k_bipush_6 ?_
    refine ol_iload_n hX (pc := 34) dX1_till_34 rfl rfl ?_
    refine ol_imul hX (pc := 35) dX1_till_35 ?_
    refine ol_iconst hX (pc := 36) 0 dX1_till_36 ol_k_iconst_0 ?_
    refine ol_iadd hX (pc := 37) dX1_till_37 ?_
    obtain ⟨g7, h⟩ := ol_of_og h
    refine ol_xl_R7 hX (pc := 38) ol_isr0 dX1_till_38 rfl (ol_in_vp g7) ?_
    obtain ⟨y8, e9, h⟩ := ol_of_lt h
    refine ol_topE e9 ?_
    refine ol_istore_n hX (pc := 39) [some (.ref (a 0)), some (.int x1), some (.int y8), none] dX1_till_39 rfl (by decide) rfl rfl ?_
    refine ol_iconst hX (pc := 40) 1 dX1_till_40 ol_k_iconst_1 ?_
    refine ol_istore_n hX (pc := 41) [some (.ref (a 0)), some (.int x1), some (.int y8), some (.int 1)] dX1_till_41 rfl (by decide) rfl rfl ?_
    refine ol_Gwid (k := 0) (n := 0) (by first | omega | (dsimp only; omega)) (by first | omega | (dsimp only; omega)) ?_
    exact wX1_till_L42 hX β x1 2001 y8 1 y3 gh5 hg6 0 0 (by first | omega | (dsimp only; omega)) (by first | omega | (dsimp only; omega)) h
  · have h := ol_ifp c12 h
    refine ol_aload_n hX (pc := 8) dX1_till_8 rfl rfl ?_
    refine ol_iconst hX (pc := 9) 1 dX1_till_9 ol_k_iconst_1 ?_
    obtain ⟨y10, e11, h⟩ := ol_of_bd h
    refine ol_cVw (As := [.int 1]) hX (pc := 10) (wX1_refused V a (some (g 0 0)) (ol_WB V g β ++ (ol_WL V a gh σ.2.2 ++ ext)) σ 1 y10 e11) lkX1_81 dcX1_refused ol_rr_X1_till_X1_refused 0 rfl rfl ⟨(by first | omega | (dsimp only; omega)), (by first | omega | (dsimp only; omega))⟩ (Nat.le_of_ble_eq_true rfl) dX1_till_10 rfl ?_
    refine ol_Grelog (σ0 := σ) ?_
    have h := ol_of_some h
    subst h
    exact ol_iret hX (pc := 13) dX1_till_13 ⟨gh, hg, rfl, rfl⟩ ⟨(by first | omega | (dsimp only; omega)), (by first | omega | (dsimp only; omega))⟩
set_option maxHeartbeats 4000000 in
theorem wX1_ticks (V : ol_Gh) (a : Nat → Nat) (ext : va_W) (g : Nat → Nat → Nat) (σ : ol_Xm) (β : ol_Bd) (x1 : Int32) (gh : ol_Lh) (hg : ol_Rel gh σ.2.2) (z : Int32 × ol_Xm) (h : oX1_ticks σ β (g 0 0) x1 = some z) : ol_Mt V yX1_ticks cX1_ticks 2 (some .int) ({ frames := 18, cells := 5000, slots := 12000, locals := 742 } : Room) true [.ref (a 0), .int x1] (ol_Xc V a (some (g 0 0)) σ ++ (ol_WB V g β ++ (ol_WL V a gh σ.2.2 ++ ext))) (fun v w => ∃ gh2 : ol_Lh, ol_Rel gh2 z.2.2.2 ∧ v = some (.int z.1) ∧ w = ol_Xc V a (some (g 0 0)) z.2 ++ (ol_WB V g β ++ (ol_WL V a gh2 z.2.2.2 ++ ext))) := by
  refine ol_MtOf (L0 := [some (.ref (a 0)), some (.int x1)]) (by decide) (Nat.le_of_ble_eq_true rfl) rfl (fun X A hX => ?_)
  unfold oX1_ticks at h
  refine ol_aload_n hX (pc := 0) dX1_ticks_0 rfl rfl ?_
  refine ol_xg_O_6 hX (pc := 1) q348 rfl dX1_ticks_1 ?_
  refine ol_ifnonnull hX (pc := 4) 13 dX1_ticks_4 (by decide) ?_
  refine ol_iload_n hX (pc := 13) dX1_ticks_13 rfl rfl ?_
  refine ol_iconst hX (pc := 14) 1 dX1_ticks_14 ol_k_iconst_1 ?_
  refine ol_sipush hX (pc := 15) 999 dX1_ticks_15 ol_k_sipush_999 ?_
  obtain ⟨y1, e2, h⟩ := ol_of_bd h
  refine ol_cSr (As := [.int x1, .int 1, .int 999]) hX (pc := 18) (wX1_isIn V (ol_Xc V a (some (g 0 0)) σ ++ (ol_WB V g β ++ (ol_WL V a gh σ.2.2 ++ ext))) x1 1 999 y1 e2) lkX1_77 dcX1_isIn ⟨rfl, rfl⟩ ol_rr_X1_ticks_X1_isIn (fun _ h => h) ⟨(by first | omega | (dsimp only; omega)), (by first | omega | (dsimp only; omega))⟩ (Nat.le_of_ble_eq_true rfl) dX1_ticks_18 rfl ?_
  refine ol_if_ne hX (pc := 21) 30 dX1_ticks_21 (by decide) (fun c13 => ?_) (fun c13 => ?_)
  · have h := ol_ifn c13 h
    refine ol_aload_n hX (pc := 30) dX1_ticks_30 rfl rfl ?_
    obtain ⟨y3, e4, h⟩ := ol_of_bd h
    refine ol_cVw (As := []) hX (pc := 31) (wX1_forgets V a (some (g 0 0)) (ol_WB V g β ++ (ol_WL V a gh σ.2.2 ++ ext)) σ y3 e4) lkX1_112 dcX1_forgets ol_rr_X1_ticks_X1_forgets 0 rfl rfl ⟨(by first | omega | (dsimp only; omega)), (by first | omega | (dsimp only; omega))⟩ (Nat.le_of_ble_eq_true rfl) dX1_ticks_31 rfl ?_
    refine ol_Grelog (σ0 := σ) ?_
    refine ol_aload_n hX (pc := 34) dX1_ticks_34 rfl rfl ?_
    refine ol_xg_O_7 hX (pc := 35) q350 dX1_ticks_35 ?_
    refine ol_iload_n hX (pc := 38) dX1_ticks_38 rfl rfl ?_
    obtain ⟨y5, e6, h⟩ := ol_of_bd h
    refine ol_cVW (As := [.int x1]) hX (pc := 39) (wX3_goes V a (some (g 0 0)) ext g (ol_relog σ y3) β 10 999 x1 ol_isr0 gh hg y5 e6) lkX1_323 dcX3_goes ol_rr_X1_ticks_X3_goes 10 (ol_rpos ol_isr0) rfl ⟨(by first | omega | (dsimp only; omega)), (by first | omega | (dsimp only; omega))⟩ (Nat.le_of_ble_eq_true rfl) dX1_ticks_39 rfl (fun v w hp => ?_)
    obtain ⟨gh7, hg8, rfl, rfl⟩ := hp
    refine ol_Gwid (k := 5000) (n := 12000) (by first | omega | (dsimp only; omega)) (by first | omega | (dsimp only; omega)) ?_
    refine ol_aload_n hX (pc := 42) dX1_ticks_42 rfl rfl ?_
    refine ol_aload_n hX (pc := 43) dX1_ticks_43 rfl rfl ?_
    refine ol_xg_O_7 hX (pc := 44) q350 dX1_ticks_44 ?_
    refine ol_xgN_R_9 hX (pc := 47) ol_isr0 q272 dX1_ticks_47 ?_
    obtain ⟨y9, e10, h⟩ := ol_of_bd h
    refine ol_cVw (As := [.int (y5.1 10 9)]) hX (pc := 50) (wX1_fine V a (some (g 0 0)) (ol_WB V g β ++ (ol_WL V a gh7 y5.2.2 ++ ext)) y5 (y5.1 10 9) y9 e10) lkX1_125 dcX1_fine ol_rr_X1_ticks_X1_fine 0 rfl rfl ⟨(by first | omega | (dsimp only; omega)), (by first | omega | (dsimp only; omega))⟩ (Nat.le_of_ble_eq_true rfl) dX1_ticks_50 rfl ?_
    refine ol_Grelog (σ0 := y5) ?_
    have h := ol_of_some h
    subst h
    exact ol_iret hX (pc := 53) dX1_ticks_53 ⟨gh7, hg8, rfl, rfl⟩ ⟨(by first | omega | (dsimp only; omega)), (by first | omega | (dsimp only; omega))⟩
  · have h := ol_ifp c13 h
    refine ol_aload_n hX (pc := 24) dX1_ticks_24 rfl rfl ?_
    refine ol_iconst hX (pc := 25) 2 dX1_ticks_25 ol_k_iconst_2 ?_
    obtain ⟨y11, e12, h⟩ := ol_of_bd h
    refine ol_cVw (As := [.int 2]) hX (pc := 26) (wX1_refused V a (some (g 0 0)) (ol_WB V g β ++ (ol_WL V a gh σ.2.2 ++ ext)) σ 2 y11 e12) lkX1_81 dcX1_refused ol_rr_X1_ticks_X1_refused 0 rfl rfl ⟨(by first | omega | (dsimp only; omega)), (by first | omega | (dsimp only; omega))⟩ (Nat.le_of_ble_eq_true rfl) dX1_ticks_26 rfl ?_
    refine ol_Grelog (σ0 := σ) ?_
    have h := ol_of_some h
    subst h
    exact ol_iret hX (pc := 29) dX1_ticks_29 ⟨gh, hg, rfl, rfl⟩ ⟨(by first | omega | (dsimp only; omega)), (by first | omega | (dsimp only; omega))⟩
set_option maxHeartbeats 4000000 in
theorem wX1_keep_L23 {X : ol_Cx} {V : ol_Gh} {A : Nat → Prop} {a : Nat → Nat} {ext : va_W} {g : Nat → Nat → Nat} {z : Int32 × ol_Xm} (hX : ol_CX X V A cX1_keep RX1 "keep" 1 (some .boolean)) (β : ol_Bd)   (σ : ol_Xm) (gh : ol_Lh) (hg : ol_Rel gh σ.2.2) (h : oX1_keep_L23 β (g 0 0) σ = some z) : ol_G X V A true (fun v w => ∃ gh2 : ol_Lh, ol_Rel gh2 z.2.2.2 ∧ v = some (.int z.1) ∧ w = ol_Xc V a (some (g 0 0)) z.2 ++ (ol_WB V g β ++ (ol_WL V a gh2 z.2.2.2 ++ ext))) ({ frames := 4, cells := 0, slots := 0, locals := 122 } : Room) 1 0 0 (ol_Xc V a (some (g 0 0)) σ ++ (ol_WB V g β ++ (ol_WL V a gh σ.2.2 ++ ext))) 23 [some (.ref (a 0))] [] := by
  unfold oX1_keep_L23 at h
  refine ol_aload_n hX (pc := 23) dX1_keep_23 rfl rfl ?_
  refine ol_aload_n hX (pc := 24) dX1_keep_24 rfl rfl ?_
  refine ol_xg_O_6 hX (pc := 25) q348 rfl dX1_keep_25 ?_
  refine ol_ifnull hX (pc := 28) dX1_keep_28 ?_
  refine ol_iconst hX (pc := 31) 1 dX1_keep_31 ol_k_iconst_1 ?_
  refine ol_goto hX (pc := 32) 36 dX1_keep_32 (by decide) ?_
  obtain ⟨y1, e2, h⟩ := ol_of_bd h
  refine ol_cVw (As := [.int 1]) hX (pc := 36) (wX1_granted V a (some (g 0 0)) (ol_WB V g β ++ (ol_WL V a gh σ.2.2 ++ ext)) σ 1 y1 e2) lkX1_338 dcX1_granted ol_rr_X1_keep_X1_granted 0 rfl rfl ⟨Nat.le_refl _, Nat.le_refl _⟩ (Nat.le_of_ble_eq_true rfl) dX1_keep_36 rfl ?_
  refine ol_Grelog (σ0 := σ) ?_
  obtain ⟨gz, h⟩ := ol_of_og h
  have h := ol_of_some h
  subst h
  exact ol_zret hX (pc := 39) dX1_keep_39 (ol_zb_nar gz) ⟨gh, hg, rfl, rfl⟩ ⟨Nat.le_refl _, Nat.le_refl _⟩
set_option maxHeartbeats 4000000 in
theorem wX1_keep (V : ol_Gh) (a : Nat → Nat) (ext : va_W) (g : Nat → Nat → Nat) (σ : ol_Xm) (β : ol_Bd) (gh : ol_Lh) (hg : ol_Rel gh σ.2.2) (z : Int32 × ol_Xm) (h : oX1_keep σ β (g 0 0) = some z) : ol_Mt V yX1_keep cX1_keep 1 (some .boolean) ({ frames := 4, cells := 0, slots := 0, locals := 122 } : Room) true [.ref (a 0)] (ol_Xc V a (some (g 0 0)) σ ++ (ol_WB V g β ++ (ol_WL V a gh σ.2.2 ++ ext))) (fun v w => ∃ gh2 : ol_Lh, ol_Rel gh2 z.2.2.2 ∧ v = some (.int z.1) ∧ w = ol_Xc V a (some (g 0 0)) z.2 ++ (ol_WB V g β ++ (ol_WL V a gh2 z.2.2.2 ++ ext))) := by
  refine ol_MtOf (L0 := [some (.ref (a 0))]) (by decide) (Nat.le_of_ble_eq_true rfl) rfl (fun X A hX => ?_)
  unfold oX1_keep at h
  refine ol_aload_n hX (pc := 0) dX1_keep_0 rfl rfl ?_
  refine ol_xg_O_6 hX (pc := 1) q348 rfl dX1_keep_1 ?_
  refine ol_ifnull hX (pc := 4) dX1_keep_4 ?_
  refine ol_aload_n hX (pc := 7) dX1_keep_7 rfl rfl ?_
  refine ol_xg_O_8 hX (pc := 8) q351 dX1_keep_8 ?_
  refine ol_aload_n hX (pc := 11) dX1_keep_11 rfl rfl ?_
  refine ol_xg_O_7 hX (pc := 12) q350 dX1_keep_12 ?_
  obtain ⟨y1, e2, h⟩ := ol_of_bd h
  refine ol_cVW (As := [.ref (a 10)]) hX (pc := 15) (wX3_be V a (some (g 0 0)) ext g σ β 19 10 ol_isr1 ol_isr0 gh hg y1 e2) lkX1_319 dcX3_be ol_rr_X1_keep_X3_be 19 (ol_rpos ol_isr1) rfl ⟨Nat.le_refl _, Nat.le_refl _⟩ (Nat.le_of_ble_eq_true rfl) dX1_keep_15 rfl (fun v w hp => ?_)
  obtain ⟨gh3, hg4, rfl, rfl⟩ := hp
  refine ol_aload_n hX (pc := 18) dX1_keep_18 rfl rfl ?_
  refine ol_iconst hX (pc := 19) 1 dX1_keep_19 ol_k_iconst_1 ?_
  refine ol_xp_O_10 hX (pc := 20) q353 (by rfl) dX1_keep_20 ?_
  exact wX1_keep_L23 hX β (ol_xs y1 0 10 1) gh3 hg4 h
set_option maxHeartbeats 4000000 in
theorem wX1_back_L18 {X : ol_Cx} {V : ol_Gh} {A : Nat → Prop} {a : Nat → Nat} {ext : va_W} {g : Nat → Nat → Nat} {z : Int32 × ol_Xm} (hX : ol_CX X V A cX1_back RX1 "back" 1 (some .boolean)) (β : ol_Bd)   (σ : ol_Xm) (gh : ol_Lh) (hg : ol_Rel gh σ.2.2) (h : oX1_back_L18 β (g 0 0) σ = some z) : ol_G X V A true (fun v w => ∃ gh2 : ol_Lh, ol_Rel gh2 z.2.2.2 ∧ v = some (.int z.1) ∧ w = ol_Xc V a (some (g 0 0)) z.2 ++ (ol_WB V g β ++ (ol_WL V a gh2 z.2.2.2 ++ ext))) ({ frames := 4, cells := 0, slots := 0, locals := 122 } : Room) 1 0 0 (ol_Xc V a (some (g 0 0)) σ ++ (ol_WB V g β ++ (ol_WL V a gh σ.2.2 ++ ext))) 18 [some (.ref (a 0))] [] := by
  unfold oX1_back_L18 at h
  refine ol_aload_n hX (pc := 18) dX1_back_18 rfl rfl ?_
  obtain ⟨y1, e2, h⟩ := ol_of_bd h
  refine ol_cVw (As := []) hX (pc := 19) (wX1_forgets V a (some (g 0 0)) (ol_WB V g β ++ (ol_WL V a gh σ.2.2 ++ ext)) σ y1 e2) lkX1_112 dcX1_forgets ol_rr_X1_back_X1_forgets 0 rfl rfl ⟨Nat.le_refl _, Nat.le_refl _⟩ (Nat.le_of_ble_eq_true rfl) dX1_back_19 rfl ?_
  refine ol_Grelog (σ0 := σ) ?_
  refine ol_aload_n hX (pc := 22) dX1_back_22 rfl rfl ?_
  refine ol_aload_n hX (pc := 23) dX1_back_23 rfl rfl ?_
  refine ol_xg_O_10 hX (pc := 24) q353 dX1_back_24 ?_
  obtain ⟨y3, e4, h⟩ := ol_of_bd h
  refine ol_cVw (As := [.int ((ol_relog σ y1).1 0 10)]) hX (pc := 27) (wX1_granted V a (some (g 0 0)) (ol_WB V g β ++ (ol_WL V a gh σ.2.2 ++ ext)) (ol_relog σ y1) ((ol_relog σ y1).1 0 10) y3 e4) lkX1_338 dcX1_granted ol_rr_X1_back_X1_granted 0 rfl rfl ⟨Nat.le_refl _, Nat.le_refl _⟩ (Nat.le_of_ble_eq_true rfl) dX1_back_27 rfl ?_
  refine ol_Grelog (σ0 := (ol_relog σ y1)) ?_
  obtain ⟨gz, h⟩ := ol_of_og h
  have h := ol_of_some h
  subst h
  exact ol_zret hX (pc := 30) dX1_back_30 (ol_zb_nar gz) ⟨gh, hg, rfl, rfl⟩ ⟨Nat.le_refl _, Nat.le_refl _⟩
set_option maxHeartbeats 4000000 in
theorem wX1_back (V : ol_Gh) (a : Nat → Nat) (ext : va_W) (g : Nat → Nat → Nat) (σ : ol_Xm) (β : ol_Bd) (gh : ol_Lh) (hg : ol_Rel gh σ.2.2) (z : Int32 × ol_Xm) (h : oX1_back σ β (g 0 0) = some z) : ol_Mt V yX1_back cX1_back 1 (some .boolean) ({ frames := 4, cells := 0, slots := 0, locals := 122 } : Room) true [.ref (a 0)] (ol_Xc V a (some (g 0 0)) σ ++ (ol_WB V g β ++ (ol_WL V a gh σ.2.2 ++ ext))) (fun v w => ∃ gh2 : ol_Lh, ol_Rel gh2 z.2.2.2 ∧ v = some (.int z.1) ∧ w = ol_Xc V a (some (g 0 0)) z.2 ++ (ol_WB V g β ++ (ol_WL V a gh2 z.2.2.2 ++ ext))) := by
  refine ol_MtOf (L0 := [some (.ref (a 0))]) (by decide) (Nat.le_of_ble_eq_true rfl) rfl (fun X A hX => ?_)
  unfold oX1_back at h
  refine ol_aload_n hX (pc := 0) dX1_back_0 rfl rfl ?_
  refine ol_xg_O_10 hX (pc := 1) q353 dX1_back_1 ?_
  refine ol_if_eq hX (pc := 4) 18 dX1_back_4 (by decide) (fun c5 => ?_) (fun c5 => ?_)
  · have h := ol_ifp c5 h
    exact wX1_back_L18 hX β σ gh hg h
  · have h := ol_ifn c5 h
    refine ol_aload_n hX (pc := 7) dX1_back_7 rfl rfl ?_
    refine ol_xg_O_7 hX (pc := 8) q350 dX1_back_8 ?_
    refine ol_aload_n hX (pc := 11) dX1_back_11 rfl rfl ?_
    refine ol_xg_O_8 hX (pc := 12) q351 dX1_back_12 ?_
    obtain ⟨y1, e2, h⟩ := ol_of_bd h
    refine ol_cVW (As := [.ref (a 19)]) hX (pc := 15) (wX3_be V a (some (g 0 0)) ext g σ β 10 19 ol_isr0 ol_isr1 gh hg y1 e2) lkX1_319 dcX3_be ol_rr_X1_back_X3_be 10 (ol_rpos ol_isr0) rfl ⟨Nat.le_refl _, Nat.le_refl _⟩ (Nat.le_of_ble_eq_true rfl) dX1_back_15 rfl (fun v w hp => ?_)
    obtain ⟨gh3, hg4, rfl, rfl⟩ := hp
    exact wX1_back_L18 hX β y1 gh3 hg4 h
