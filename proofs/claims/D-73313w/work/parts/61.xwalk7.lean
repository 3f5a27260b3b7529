/-! walks (printed) -/
set_option maxRecDepth 100000
set_option maxHeartbeats 4000000 in
theorem wnX1_isBoard (V : ol_Gh) (a : Nat → Nat) (ext : va_W) (σ : ol_Xm) (x1 : Int32)  (z : Int32) (h : onX1_isBoard σ x1 = some z) : ol_Mt V yX1_isBoard cX1_isBoard 2 (some .boolean) ({ frames := 0, cells := 0, slots := 0, locals := 0 } : Room) false [.ref (a 0), .int x1] (ol_Xc V a none σ ++ ext) (ol_Pr (some (.int z))) := by
  refine ol_MtOf (L0 := [some (.ref (a 0)), some (.int x1)]) (by decide) (Nat.le_of_ble_eq_true rfl) rfl (fun X A hX => ?_)
  unfold onX1_isBoard at h
  refine ol_aload_n hX (pc := 0) dX1_isBoard_0 rfl rfl ?_
  refine ol_xgq_O_6 hX (pc := 1) q348 dX1_isBoard_1 ?_
  refine ol_ifnullN hX (pc := 4) 28 dX1_isBoard_4 (by decide) ?_
  refine ol_iconst hX (pc := 28) 0 dX1_isBoard_28 ol_k_iconst_0 ?_
  have h := ol_of_some h
  subst h
  exact ol_zret hX (pc := 29) dX1_isBoard_29 (by rfl) rfl ⟨Nat.le_refl _, Nat.le_refl _⟩
set_option maxHeartbeats 4000000 in
theorem wnX1_refuses (V : ol_Gh) (a : Nat → Nat) (ext : va_W) (σ : ol_Xm) (x1 : Int32) (x2 : Int32) (x3 : Int32) (x4 : Int32)  (z : Int32) (h : onX1_refuses σ x1 x2 x3 x4 = some z) : ol_Mt V yX1_refuses cX1_refuses 5 (some .int) ({ frames := 0, cells := 0, slots := 0, locals := 0 } : Room) false [.ref (a 0), .int x1, .int x2, .int x3, .int x4] (ol_Xc V a none σ ++ ext) (ol_Pr (some (.int z))) := by
  refine ol_MtOf (L0 := [some (.ref (a 0)), some (.int x1), some (.int x2), some (.int x3), some (.int x4)]) (by decide) (Nat.le_of_ble_eq_true rfl) rfl (fun X A hX => ?_)
  unfold onX1_refuses at h
  refine ol_aload_n hX (pc := 0) dX1_refuses_0 rfl rfl ?_
  refine ol_xgq_O_6 hX (pc := 1) q348 dX1_refuses_1 ?_
  refine ol_ifnullN hX (pc := 4) 11 dX1_refuses_4 (by decide) ?_
  refine ol_iconst hX (pc := 11) 1 dX1_refuses_11 ol_k_iconst_1 ?_
  have h := ol_of_some h
  subst h
  exact ol_iret hX (pc := 12) dX1_refuses_12 rfl ⟨Nat.le_refl _, Nat.le_refl _⟩
set_option maxHeartbeats 4000000 in
theorem wnX1_about (V : ol_Gh) (a : Nat → Nat) (ext : va_W) (σ : ol_Xm) (x1 : Int32)  (z : Int32 × ol_Xm) (h : onX1_about σ x1 = some z) : ol_Mt V yX1_about cX1_about 2 (some .int) ({ frames := 1, cells := 0, slots := 0, locals := 21 } : Room) true [.ref (a 0), .int x1] (ol_Xc V a none σ ++ ext) (ol_Pw (some (.int z.1)) (ol_Xc V a none z.2 ++ ext)) := by
  refine ol_MtOf (L0 := [some (.ref (a 0)), some (.int x1)]) (by decide) (Nat.le_of_ble_eq_true rfl) rfl (fun X A hX => ?_)
  unfold onX1_about at h
  refine ol_aload_n hX (pc := 0) dX1_about_0 rfl rfl ?_
  refine ol_xgq_O_6 hX (pc := 1) q348 dX1_about_1 ?_
  refine ol_ifnonnullN hX (pc := 4) dX1_about_4 ?_
  refine ol_aload_n hX (pc := 7) dX1_about_7 rfl rfl ?_
  refine ol_iconst hX (pc := 8) 1 dX1_about_8 ol_k_iconst_1 ?_
  obtain ⟨y1, e2, h⟩ := ol_of_bd h
  refine ol_cVw (As := [.int 1]) hX (pc := 9) (wX1_refused V a none ext σ 1 y1 e2) lkX1_81 dcX1_refused ol_rr_nX1_about_X1_refused 0 rfl rfl ⟨Nat.le_refl _, Nat.le_refl _⟩ (Nat.le_of_ble_eq_true rfl) dX1_about_9 rfl ?_
  have h := ol_of_some h
  subst h
  exact ol_iret hX (pc := 12) dX1_about_12 ⟨rfl, rfl⟩ ⟨Nat.le_refl _, Nat.le_refl _⟩
set_option maxHeartbeats 4000000 in
theorem wnX1_word (V : ol_Gh) (a : Nat → Nat) (ext : va_W) (σ : ol_Xm) (x1 : Int32) (x2 : Int32)  (z : Int32 × ol_Xm) (h : onX1_word σ x1 x2 = some z) : ol_Mt V yX1_word cX1_word 3 (some .int) ({ frames := 2, cells := 0, slots := 0, locals := 42 } : Room) true [.ref (a 0), .int x1, .int x2] (ol_Xc V a none σ ++ ext) (ol_Pw (some (.int z.1)) (ol_Xc V a none z.2 ++ ext)) := by
  refine ol_MtOf (L0 := [some (.ref (a 0)), some (.int x1), some (.int x2)]) (by decide) (Nat.le_of_ble_eq_true rfl) rfl (fun X A hX => ?_)
  unfold onX1_word at h
  refine ol_aload_n hX (pc := 0) dX1_word_0 rfl rfl ?_
  refine ol_iload_n hX (pc := 1) dX1_word_1 rfl rfl ?_
  obtain ⟨y1, e2, h⟩ := ol_of_bd h
  refine ol_cVr (As := [.int x1]) hX (pc := 2) (wnX1_isBoard V a ext σ x1 y1 e2) lkX1_149 dcX1_isBoard ⟨rfl, rfl⟩ ol_rr_nX1_word_nX1_isBoard 0 rfl rfl (fun _ h => h) ⟨Nat.le_refl _, Nat.le_refl _⟩ (Nat.le_of_ble_eq_true rfl) dX1_word_2 rfl ?_
  refine ol_if_ne hX (pc := 5) 14 dX1_word_5 (by decide) (fun c10 => ?_) (fun c10 => ?_)
  · have h := ol_ifn c10 h
    refine ol_iload_n hX (pc := 14) dX1_word_14 rfl rfl ?_
    obtain ⟨y3, e4, h⟩ := ol_of_bd h
    refine ol_cSr (As := [.int x2]) hX (pc := 15) (wX1_isPass V (ol_Xc V a none σ ++ ext) x2 y3 e4) lkX1_190 dcX1_isPass ⟨rfl, rfl⟩ ol_rr_nX1_word_X1_isPass (fun _ h => h) ⟨Nat.le_refl _, Nat.le_refl _⟩ (Nat.le_of_ble_eq_true rfl) dX1_word_15 rfl ?_
    refine ol_if_eq hX (pc := 18) 46 dX1_word_18 (by decide) (fun c7 => ?_) (fun c7 => ?_)
    · have h := ol_ifp c7 h
      refine ol_aload_n hX (pc := 46) dX1_word_46 rfl rfl ?_
      refine ol_iconst hX (pc := 47) 2 dX1_word_47 ol_k_iconst_2 ?_
      obtain ⟨y5, e6, h⟩ := ol_of_bd h
      refine ol_cVw (As := [.int 2]) hX (pc := 48) (wX1_refused V a none ext σ 2 y5 e6) lkX1_81 dcX1_refused ol_rr_nX1_word_X1_refused 0 rfl rfl ⟨Nat.le_refl _, Nat.le_refl _⟩ (Nat.le_of_ble_eq_true rfl) dX1_word_48 rfl ?_
      have h := ol_of_some h
      subst h
      exact ol_iret hX (pc := 51) dX1_word_51 ⟨rfl, rfl⟩ ⟨Nat.le_refl _, Nat.le_refl _⟩
    · have h := ol_ifn c7 h
      refine ol_aload_n hX (pc := 21) dX1_word_21 rfl rfl ?_
      refine ol_aload_n hX (pc := 22) dX1_word_22 rfl rfl ?_
      refine ol_iload_n hX (pc := 23) dX1_word_23 rfl rfl ?_
      exact ol_no h
  · have h := ol_ifp c10 h
    refine ol_aload_n hX (pc := 8) dX1_word_8 rfl rfl ?_
    refine ol_iconst hX (pc := 9) 1 dX1_word_9 ol_k_iconst_1 ?_
    obtain ⟨y8, e9, h⟩ := ol_of_bd h
    refine ol_cVw (As := [.int 1]) hX (pc := 10) (wX1_refused V a none ext σ 1 y8 e9) lkX1_81 dcX1_refused ol_rr_nX1_word_X1_refused 0 rfl rfl ⟨Nat.le_refl _, Nat.le_refl _⟩ (Nat.le_of_ble_eq_true rfl) dX1_word_10 rfl ?_
    have h := ol_of_some h
    subst h
    exact ol_iret hX (pc := 13) dX1_word_13 ⟨rfl, rfl⟩ ⟨Nat.le_refl _, Nat.le_refl _⟩
set_option maxHeartbeats 4000000 in
theorem wnX1_drives (V : ol_Gh) (a : Nat → Nat) (ext : va_W) (σ : ol_Xm) (x1 : Int32) (x2 : Int32) (x3 : Int32) (x4 : Int32)  (z : Int32 × ol_Xm) (h : onX1_drives σ x1 x2 x3 x4 = some z) : ol_Mt V yX1_drives cX1_drives 6 (some .int) ({ frames := 1, cells := 0, slots := 0, locals := 24 } : Room) true [.ref (a 0), .int x1, .int x2, .int x3, .int x4] (ol_Xc V a none σ ++ ext) (ol_Pw (some (.int z.1)) (ol_Xc V a none z.2 ++ ext)) := by
  refine ol_MtOf (L0 := [some (.ref (a 0)), some (.int x1), some (.int x2), some (.int x3), some (.int x4), none]) (by decide) (Nat.le_of_ble_eq_true rfl) rfl (fun X A hX => ?_)
  unfold onX1_drives at h
  refine ol_aload_n hX (pc := 0) dX1_drives_0 rfl rfl ?_
  refine ol_aload_n hX (pc := 1) dX1_drives_1 rfl rfl ?_
  refine ol_iload_n hX (pc := 2) dX1_drives_2 rfl rfl ?_
  obtain ⟨y1, e2, h⟩ := ol_of_bd h
  refine ol_cVr (As := [.int x3]) hX (pc := 3) (wnX1_isBoard V a ext σ x3 y1 e2) lkX1_149 dcX1_isBoard ⟨rfl, rfl⟩ ol_rr_nX1_drives_nX1_isBoard 0 rfl rfl (fun _ h => h) ⟨Nat.le_refl _, Nat.le_refl _⟩ (Nat.le_of_ble_eq_true rfl) dX1_drives_3 rfl ?_
  refine ol_iload_n hX (pc := 6) dX1_drives_6 rfl rfl ?_
  refine ol_iload_n hX (pc := 7) dX1_drives_7 rfl rfl ?_
  refine ol_iload hX (pc := 8) dX1_drives_8 rfl ?_
  obtain ⟨y3, e4, h⟩ := ol_of_bd h
  refine ol_cVr (As := [.int y1, .int x1, .int x2, .int x4]) hX (pc := 10) (wnX1_refuses V a ext σ y1 x1 x2 x4 y3 e4) lkX1_219 dcX1_refuses ⟨rfl, rfl⟩ ol_rr_nX1_drives_nX1_refuses 0 rfl rfl (fun _ h => h) ⟨Nat.le_refl _, Nat.le_refl _⟩ (Nat.le_of_ble_eq_true rfl) dX1_drives_10 rfl ?_
  refine ol_istore hX (pc := 13) [some (.ref (a 0)), some (.int x1), some (.int x2), some (.int x3), some (.int x4), some (.int y3)] dX1_drives_13 (by decide) rfl rfl ?_
  refine ol_iload hX (pc := 15) dX1_drives_15 rfl ?_
  refine ol_if_le hX (pc := 17) 29 dX1_drives_17 (by decide) (fun c7 => ?_) (fun c7 => ?_)
  · have h := ol_ifp c7 h
    refine ol_aload_n hX (pc := 29) dX1_drives_29 rfl rfl ?_
    refine ol_aload_n hX (pc := 30) dX1_drives_30 rfl rfl ?_
    refine ol_iload_n hX (pc := 31) dX1_drives_31 rfl rfl ?_
    refine ol_iload_n hX (pc := 32) dX1_drives_32 rfl rfl ?_
    refine ol_iload hX (pc := 33) dX1_drives_33 rfl ?_
    exact ol_no h
  · have h := ol_ifn c7 h
    refine ol_aload_n hX (pc := 20) dX1_drives_20 rfl rfl ?_
    refine ol_iload hX (pc := 21) dX1_drives_21 rfl ?_
    obtain ⟨y5, e6, h⟩ := ol_of_bd h
    refine ol_cVw (As := [.int y3]) hX (pc := 23) (wX1_refused V a none ext σ y3 y5 e6) lkX1_81 dcX1_refused ol_rr_nX1_drives_X1_refused 0 rfl rfl ⟨Nat.le_refl _, Nat.le_refl _⟩ (Nat.le_of_ble_eq_true rfl) dX1_drives_23 rfl ?_
    refine ol_goto hX (pc := 26) 53 dX1_drives_26 (by decide) ?_
    have h := ol_of_some h
    subst h
    exact ol_iret hX (pc := 53) dX1_drives_53 ⟨rfl, rfl⟩ ⟨Nat.le_refl _, Nat.le_refl _⟩
set_option maxHeartbeats 4000000 in
theorem wnX1_seen (V : ol_Gh) (a : Nat → Nat) (ext : va_W) (σ : ol_Xm) (x1 : Int32) (x2 : Int32) (x3 : Int32) (x4 : Int32)  (z : Int32 × ol_Xm) (h : onX1_seen σ x1 x2 x3 x4 = some z) : ol_Mt V yX1_seen cX1_seen 6 (some .int) ({ frames := 1, cells := 0, slots := 0, locals := 24 } : Room) true [.ref (a 0), .int x1, .int x2, .int x3, .int x4] (ol_Xc V a none σ ++ ext) (ol_Pw (some (.int z.1)) (ol_Xc V a none z.2 ++ ext)) := by
  refine ol_MtOf (L0 := [some (.ref (a 0)), some (.int x1), some (.int x2), some (.int x3), some (.int x4), none]) (by decide) (Nat.le_of_ble_eq_true rfl) rfl (fun X A hX => ?_)
  unfold onX1_seen at h
  refine ol_aload_n hX (pc := 0) dX1_seen_0 rfl rfl ?_
  refine ol_aload_n hX (pc := 1) dX1_seen_1 rfl rfl ?_
  refine ol_iload_n hX (pc := 2) dX1_seen_2 rfl rfl ?_
  obtain ⟨y1, e2, h⟩ := ol_of_bd h
  refine ol_cVr (As := [.int x3]) hX (pc := 3) (wnX1_isBoard V a ext σ x3 y1 e2) lkX1_149 dcX1_isBoard ⟨rfl, rfl⟩ ol_rr_nX1_seen_nX1_isBoard 0 rfl rfl (fun _ h => h) ⟨Nat.le_refl _, Nat.le_refl _⟩ (Nat.le_of_ble_eq_true rfl) dX1_seen_3 rfl ?_
  refine ol_iload_n hX (pc := 6) dX1_seen_6 rfl rfl ?_
  refine ol_iload_n hX (pc := 7) dX1_seen_7 rfl rfl ?_
  refine ol_iload hX (pc := 8) dX1_seen_8 rfl ?_
  obtain ⟨y3, e4, h⟩ := ol_of_bd h
  refine ol_cVr (As := [.int y1, .int x1, .int x2, .int x4]) hX (pc := 10) (wnX1_refuses V a ext σ y1 x1 x2 x4 y3 e4) lkX1_219 dcX1_refuses ⟨rfl, rfl⟩ ol_rr_nX1_seen_nX1_refuses 0 rfl rfl (fun _ h => h) ⟨Nat.le_refl _, Nat.le_refl _⟩ (Nat.le_of_ble_eq_true rfl) dX1_seen_10 rfl ?_
  refine ol_istore hX (pc := 13) [some (.ref (a 0)), some (.int x1), some (.int x2), some (.int x3), some (.int x4), some (.int y3)] dX1_seen_13 (by decide) rfl rfl ?_
  refine ol_iload hX (pc := 15) dX1_seen_15 rfl ?_
  refine ol_if_le hX (pc := 17) 29 dX1_seen_17 (by decide) (fun c7 => ?_) (fun c7 => ?_)
  · have h := ol_ifp c7 h
    refine ol_aload_n hX (pc := 29) dX1_seen_29 rfl rfl ?_
    refine ol_aload_n hX (pc := 30) dX1_seen_30 rfl rfl ?_
    refine ol_iload_n hX (pc := 31) dX1_seen_31 rfl rfl ?_
    refine ol_iload_n hX (pc := 32) dX1_seen_32 rfl rfl ?_
    refine ol_iload hX (pc := 33) dX1_seen_33 rfl ?_
    exact ol_no h
  · have h := ol_ifn c7 h
    refine ol_aload_n hX (pc := 20) dX1_seen_20 rfl rfl ?_
    refine ol_iload hX (pc := 21) dX1_seen_21 rfl ?_
    obtain ⟨y5, e6, h⟩ := ol_of_bd h
    refine ol_cVw (As := [.int y3]) hX (pc := 23) (wX1_refused V a none ext σ y3 y5 e6) lkX1_81 dcX1_refused ol_rr_nX1_seen_X1_refused 0 rfl rfl ⟨Nat.le_refl _, Nat.le_refl _⟩ (Nat.le_of_ble_eq_true rfl) dX1_seen_23 rfl ?_
    refine ol_goto hX (pc := 26) 53 dX1_seen_26 (by decide) ?_
    have h := ol_of_some h
    subst h
    exact ol_iret hX (pc := 53) dX1_seen_53 ⟨rfl, rfl⟩ ⟨Nat.le_refl _, Nat.le_refl _⟩
set_option maxHeartbeats 4000000 in
theorem wnX1_taken (V : ol_Gh) (a : Nat → Nat) (ext : va_W) (σ : ol_Xm) (x1 : Int32) (x2 : Int32) (x3 : Int32) (x4 : Int32)  (z : Int32 × ol_Xm) (h : onX1_taken σ x1 x2 x3 x4 = some z) : ol_Mt V yX1_taken cX1_taken 6 (some .int) ({ frames := 1, cells := 0, slots := 0, locals := 24 } : Room) true [.ref (a 0), .int x1, .int x2, .int x3, .int x4] (ol_Xc V a none σ ++ ext) (ol_Pw (some (.int z.1)) (ol_Xc V a none z.2 ++ ext)) := by
  refine ol_MtOf (L0 := [some (.ref (a 0)), some (.int x1), some (.int x2), some (.int x3), some (.int x4), none]) (by decide) (Nat.le_of_ble_eq_true rfl) rfl (fun X A hX => ?_)
  unfold onX1_taken at h
  refine ol_aload_n hX (pc := 0) dX1_taken_0 rfl rfl ?_
  refine ol_aload_n hX (pc := 1) dX1_taken_1 rfl rfl ?_
  refine ol_iload_n hX (pc := 2) dX1_taken_2 rfl rfl ?_
  obtain ⟨y1, e2, h⟩ := ol_of_bd h
  refine ol_cVr (As := [.int x3]) hX (pc := 3) (wnX1_isBoard V a ext σ x3 y1 e2) lkX1_149 dcX1_isBoard ⟨rfl, rfl⟩ ol_rr_nX1_taken_nX1_isBoard 0 rfl rfl (fun _ h => h) ⟨Nat.le_refl _, Nat.le_refl _⟩ (Nat.le_of_ble_eq_true rfl) dX1_taken_3 rfl ?_
  refine ol_iload_n hX (pc := 6) dX1_taken_6 rfl rfl ?_
  refine ol_iload_n hX (pc := 7) dX1_taken_7 rfl rfl ?_
  refine ol_iload hX (pc := 8) dX1_taken_8 rfl ?_
  obtain ⟨y3, e4, h⟩ := ol_of_bd h
  refine ol_cVr (As := [.int y1, .int x1, .int x2, .int x4]) hX (pc := 10) (wnX1_refuses V a ext σ y1 x1 x2 x4 y3 e4) lkX1_219 dcX1_refuses ⟨rfl, rfl⟩ ol_rr_nX1_taken_nX1_refuses 0 rfl rfl (fun _ h => h) ⟨Nat.le_refl _, Nat.le_refl _⟩ (Nat.le_of_ble_eq_true rfl) dX1_taken_10 rfl ?_
  refine ol_istore hX (pc := 13) [some (.ref (a 0)), some (.int x1), some (.int x2), some (.int x3), some (.int x4), some (.int y3)] dX1_taken_13 (by decide) rfl rfl ?_
  refine ol_iload hX (pc := 15) dX1_taken_15 rfl ?_
  refine ol_if_le hX (pc := 17) 29 dX1_taken_17 (by decide) (fun c7 => ?_) (fun c7 => ?_)
  · have h := ol_ifp c7 h
    refine ol_aload_n hX (pc := 29) dX1_taken_29 rfl rfl ?_
    refine ol_aload_n hX (pc := 30) dX1_taken_30 rfl rfl ?_
    refine ol_iload_n hX (pc := 31) dX1_taken_31 rfl rfl ?_
    refine ol_iload_n hX (pc := 32) dX1_taken_32 rfl rfl ?_
    refine ol_iload hX (pc := 33) dX1_taken_33 rfl ?_
    exact ol_no h
  · have h := ol_ifn c7 h
    refine ol_aload_n hX (pc := 20) dX1_taken_20 rfl rfl ?_
    refine ol_iload hX (pc := 21) dX1_taken_21 rfl ?_
    obtain ⟨y5, e6, h⟩ := ol_of_bd h
    refine ol_cVw (As := [.int y3]) hX (pc := 23) (wX1_refused V a none ext σ y3 y5 e6) lkX1_81 dcX1_refused ol_rr_nX1_taken_X1_refused 0 rfl rfl ⟨Nat.le_refl _, Nat.le_refl _⟩ (Nat.le_of_ble_eq_true rfl) dX1_taken_23 rfl ?_
    refine ol_goto hX (pc := 26) 53 dX1_taken_26 (by decide) ?_
    have h := ol_of_some h
    subst h
    exact ol_iret hX (pc := 53) dX1_taken_53 ⟨rfl, rfl⟩ ⟨Nat.le_refl _, Nat.le_refl _⟩
set_option maxHeartbeats 4000000 in
theorem wnX1_withdrawn (V : ol_Gh) (a : Nat → Nat) (ext : va_W) (σ : ol_Xm) (x1 : Int32) (x2 : Int32) (x3 : Int32) (x4 : Int32)  (z : Int32 × ol_Xm) (h : onX1_withdrawn σ x1 x2 x3 x4 = some z) : ol_Mt V yX1_withdrawn cX1_withdrawn 6 (some .int) ({ frames := 1, cells := 0, slots := 0, locals := 24 } : Room) true [.ref (a 0), .int x1, .int x2, .int x3, .int x4] (ol_Xc V a none σ ++ ext) (ol_Pw (some (.int z.1)) (ol_Xc V a none z.2 ++ ext)) := by
  refine ol_MtOf (L0 := [some (.ref (a 0)), some (.int x1), some (.int x2), some (.int x3), some (.int x4), none]) (by decide) (Nat.le_of_ble_eq_true rfl) rfl (fun X A hX => ?_)
  unfold onX1_withdrawn at h
  refine ol_aload_n hX (pc := 0) dX1_withdrawn_0 rfl rfl ?_
  refine ol_aload_n hX (pc := 1) dX1_withdrawn_1 rfl rfl ?_
  refine ol_iload_n hX (pc := 2) dX1_withdrawn_2 rfl rfl ?_
  obtain ⟨y1, e2, h⟩ := ol_of_bd h
  refine ol_cVr (As := [.int x3]) hX (pc := 3) (wnX1_isBoard V a ext σ x3 y1 e2) lkX1_149 dcX1_isBoard ⟨rfl, rfl⟩ ol_rr_nX1_withdrawn_nX1_isBoard 0 rfl rfl (fun _ h => h) ⟨Nat.le_refl _, Nat.le_refl _⟩ (Nat.le_of_ble_eq_true rfl) dX1_withdrawn_3 rfl ?_
  refine ol_iload_n hX (pc := 6) dX1_withdrawn_6 rfl rfl ?_
  refine ol_iload_n hX (pc := 7) dX1_withdrawn_7 rfl rfl ?_
  refine ol_iload hX (pc := 8) dX1_withdrawn_8 rfl ?_
  obtain ⟨y3, e4, h⟩ := ol_of_bd h
  refine ol_cVr (As := [.int y1, .int x1, .int x2, .int x4]) hX (pc := 10) (wnX1_refuses V a ext σ y1 x1 x2 x4 y3 e4) lkX1_219 dcX1_refuses ⟨rfl, rfl⟩ ol_rr_nX1_withdrawn_nX1_refuses 0 rfl rfl (fun _ h => h) ⟨Nat.le_refl _, Nat.le_refl _⟩ (Nat.le_of_ble_eq_true rfl) dX1_withdrawn_10 rfl ?_
  refine ol_istore hX (pc := 13) [some (.ref (a 0)), some (.int x1), some (.int x2), some (.int x3), some (.int x4), some (.int y3)] dX1_withdrawn_13 (by decide) rfl rfl ?_
  refine ol_iload hX (pc := 15) dX1_withdrawn_15 rfl ?_
  refine ol_if_le hX (pc := 17) 29 dX1_withdrawn_17 (by decide) (fun c7 => ?_) (fun c7 => ?_)
  · have h := ol_ifp c7 h
    refine ol_aload_n hX (pc := 29) dX1_withdrawn_29 rfl rfl ?_
    refine ol_aload_n hX (pc := 30) dX1_withdrawn_30 rfl rfl ?_
    refine ol_iload_n hX (pc := 31) dX1_withdrawn_31 rfl rfl ?_
    refine ol_iload_n hX (pc := 32) dX1_withdrawn_32 rfl rfl ?_
    refine ol_iload hX (pc := 33) dX1_withdrawn_33 rfl ?_
    exact ol_no h
  · have h := ol_ifn c7 h
    refine ol_aload_n hX (pc := 20) dX1_withdrawn_20 rfl rfl ?_
    refine ol_iload hX (pc := 21) dX1_withdrawn_21 rfl ?_
    obtain ⟨y5, e6, h⟩ := ol_of_bd h
    refine ol_cVw (As := [.int y3]) hX (pc := 23) (wX1_refused V a none ext σ y3 y5 e6) lkX1_81 dcX1_refused ol_rr_nX1_withdrawn_X1_refused 0 rfl rfl ⟨Nat.le_refl _, Nat.le_refl _⟩ (Nat.le_of_ble_eq_true rfl) dX1_withdrawn_23 rfl ?_
    refine ol_goto hX (pc := 26) 53 dX1_withdrawn_26 (by decide) ?_
    have h := ol_of_some h
    subst h
    exact ol_iret hX (pc := 53) dX1_withdrawn_53 ⟨rfl, rfl⟩ ⟨Nat.le_refl _, Nat.le_refl _⟩
set_option maxHeartbeats 4000000 in
theorem wnX1_winners (V : ol_Gh) (a : Nat → Nat) (ext : va_W) (σ : ol_Xm) (x1 : Int32) (x2 : Int32) (x3 : Int32)  (z : Int32 × ol_Xm) (h : onX1_winners σ x1 x2 x3 = some z) : ol_Mt V yX1_winners cX1_winners 5 (some .int) ({ frames := 1, cells := 0, slots := 0, locals := 24 } : Room) true [.ref (a 0), .int x1, .int x2, .int x3] (ol_Xc V a none σ ++ ext) (ol_Pw (some (.int z.1)) (ol_Xc V a none z.2 ++ ext)) := by
  refine ol_MtOf (L0 := [some (.ref (a 0)), some (.int x1), some (.int x2), some (.int x3), none]) (by decide) (Nat.le_of_ble_eq_true rfl) rfl (fun X A hX => ?_)
  unfold onX1_winners at h
  refine ol_aload_n hX (pc := 0) dX1_winners_0 rfl rfl ?_
  refine ol_iconst hX (pc := 1) 1 dX1_winners_1 ol_k_iconst_1 ?_
  refine ol_iload_n hX (pc := 2) dX1_winners_2 rfl rfl ?_
  refine ol_iload_n hX (pc := 3) dX1_winners_3 rfl rfl ?_
  refine ol_iload_n hX (pc := 4) dX1_winners_4 rfl rfl ?_
  obtain ⟨y1, e2, h⟩ := ol_of_bd h
  refine ol_cVr (As := [.int 1, .int x1, .int x2, .int x3]) hX (pc := 5) (wnX1_refuses V a ext σ 1 x1 x2 x3 y1 e2) lkX1_219 dcX1_refuses ⟨rfl, rfl⟩ ol_rr_nX1_winners_nX1_refuses 0 rfl rfl (fun _ h => h) ⟨Nat.le_refl _, Nat.le_refl _⟩ (Nat.le_of_ble_eq_true rfl) dX1_winners_5 rfl ?_
  refine ol_istore hX (pc := 8) [some (.ref (a 0)), some (.int x1), some (.int x2), some (.int x3), some (.int y1)] dX1_winners_8 (by decide) rfl rfl ?_
  refine ol_iload hX (pc := 10) dX1_winners_10 rfl ?_
  refine ol_if_le hX (pc := 12) 24 dX1_winners_12 (by decide) (fun c5 => ?_) (fun c5 => ?_)
  · have h := ol_ifp c5 h
    refine ol_aload_n hX (pc := 24) dX1_winners_24 rfl rfl ?_
    refine ol_aload_n hX (pc := 25) dX1_winners_25 rfl rfl ?_
    refine ol_iload_n hX (pc := 26) dX1_winners_26 rfl rfl ?_
    refine ol_iload_n hX (pc := 27) dX1_winners_27 rfl rfl ?_
    refine ol_iload_n hX (pc := 28) dX1_winners_28 rfl rfl ?_
    exact ol_no h
  · have h := ol_ifn c5 h
    refine ol_aload_n hX (pc := 15) dX1_winners_15 rfl rfl ?_
    refine ol_iload hX (pc := 16) dX1_winners_16 rfl ?_
    obtain ⟨y3, e4, h⟩ := ol_of_bd h
    refine ol_cVw (As := [.int y1]) hX (pc := 18) (wX1_refused V a none ext σ y1 y3 e4) lkX1_81 dcX1_refused ol_rr_nX1_winners_X1_refused 0 rfl rfl ⟨Nat.le_refl _, Nat.le_refl _⟩ (Nat.le_of_ble_eq_true rfl) dX1_winners_18 rfl ?_
    refine ol_goto hX (pc := 21) 39 dX1_winners_21 (by decide) ?_
    have h := ol_of_some h
    subst h
    exact ol_iret hX (pc := 39) dX1_winners_39 ⟨rfl, rfl⟩ ⟨Nat.le_refl _, Nat.le_refl _⟩
set_option maxHeartbeats 4000000 in
theorem wnX1_settles (V : ol_Gh) (a : Nat → Nat) (ext : va_W) (σ : ol_Xm) (x1 : Int32) (x2 : Int32)  (z : Int32 × ol_Xm) (h : onX1_settles σ x1 x2 = some z) : ol_Mt V yX1_settles cX1_settles 4 (some .int) ({ frames := 1, cells := 0, slots := 0, locals := 24 } : Room) true [.ref (a 0), .int x1, .int x2] (ol_Xc V a none σ ++ ext) (ol_Pw (some (.int z.1)) (ol_Xc V a none z.2 ++ ext)) := by
  refine ol_MtOf (L0 := [some (.ref (a 0)), some (.int x1), some (.int x2), none]) (by decide) (Nat.le_of_ble_eq_true rfl) rfl (fun X A hX => ?_)
  unfold onX1_settles at h
  refine ol_aload_n hX (pc := 0) dX1_settles_0 rfl rfl ?_
  refine ol_iconst hX (pc := 1) 1 dX1_settles_1 ol_k_iconst_1 ?_
  refine ol_iload_n hX (pc := 2) dX1_settles_2 rfl rfl ?_
  refine ol_iload_n hX (pc := 3) dX1_settles_3 rfl rfl ?_
  refine ol_iconst hX (pc := 4) 0 dX1_settles_4 ol_k_iconst_0 ?_
  obtain ⟨y1, e2, h⟩ := ol_of_bd h
  refine ol_cVr (As := [.int 1, .int x1, .int x2, .int 0]) hX (pc := 5) (wnX1_refuses V a ext σ 1 x1 x2 0 y1 e2) lkX1_219 dcX1_refuses ⟨rfl, rfl⟩ ol_rr_nX1_settles_nX1_refuses 0 rfl rfl (fun _ h => h) ⟨Nat.le_refl _, Nat.le_refl _⟩ (Nat.le_of_ble_eq_true rfl) dX1_settles_5 rfl ?_
  refine ol_istore_n hX (pc := 8) [some (.ref (a 0)), some (.int x1), some (.int x2), some (.int y1)] dX1_settles_8 rfl (by decide) rfl rfl ?_
  refine ol_iload_n hX (pc := 9) dX1_settles_9 rfl rfl ?_
  refine ol_if_le hX (pc := 10) 21 dX1_settles_10 (by decide) (fun c5 => ?_) (fun c5 => ?_)
  · have h := ol_ifp c5 h
    refine ol_aload_n hX (pc := 21) dX1_settles_21 rfl rfl ?_
    refine ol_aload_n hX (pc := 22) dX1_settles_22 rfl rfl ?_
    refine ol_iload_n hX (pc := 23) dX1_settles_23 rfl rfl ?_
    refine ol_iload_n hX (pc := 24) dX1_settles_24 rfl rfl ?_
    refine ol_sipush hX (pc := 25) 400 dX1_settles_25 ol_k_sipush_400 ?_
    exact ol_no h
  · have h := ol_ifn c5 h
    refine ol_aload_n hX (pc := 13) dX1_settles_13 rfl rfl ?_
    refine ol_iload_n hX (pc := 14) dX1_settles_14 rfl rfl ?_
    obtain ⟨y3, e4, h⟩ := ol_of_bd h
    refine ol_cVw (As := [.int y1]) hX (pc := 15) (wX1_refused V a none ext σ y1 y3 e4) lkX1_81 dcX1_refused ol_rr_nX1_settles_X1_refused 0 rfl rfl ⟨Nat.le_refl _, Nat.le_refl _⟩ (Nat.le_of_ble_eq_true rfl) dX1_settles_15 rfl ?_
    refine ol_goto hX (pc := 18) 37 dX1_settles_18 (by decide) ?_
    have h := ol_of_some h
    subst h
    exact ol_iret hX (pc := 37) dX1_settles_37 ⟨rfl, rfl⟩ ⟨Nat.le_refl _, Nat.le_refl _⟩
set_option maxHeartbeats 4000000 in
theorem wnX1_sure (V : ol_Gh) (a : Nat → Nat) (ext : va_W) (σ : ol_Xm) (x1 : Int32) (x2 : Int32)  (z : Int32 × ol_Xm) (h : onX1_sure σ x1 x2 = some z) : ol_Mt V yX1_sure cX1_sure 4 (some .int) ({ frames := 1, cells := 0, slots := 0, locals := 24 } : Room) true [.ref (a 0), .int x1, .int x2] (ol_Xc V a none σ ++ ext) (ol_Pw (some (.int z.1)) (ol_Xc V a none z.2 ++ ext)) := by
  refine ol_MtOf (L0 := [some (.ref (a 0)), some (.int x1), some (.int x2), none]) (by decide) (Nat.le_of_ble_eq_true rfl) rfl (fun X A hX => ?_)
  unfold onX1_sure at h
  refine ol_aload_n hX (pc := 0) dX1_sure_0 rfl rfl ?_
  refine ol_iconst hX (pc := 1) 1 dX1_sure_1 ol_k_iconst_1 ?_
  refine ol_iload_n hX (pc := 2) dX1_sure_2 rfl rfl ?_
  refine ol_iload_n hX (pc := 3) dX1_sure_3 rfl rfl ?_
  refine ol_iconst hX (pc := 4) 0 dX1_sure_4 ol_k_iconst_0 ?_
  obtain ⟨y1, e2, h⟩ := ol_of_bd h
  refine ol_cVr (As := [.int 1, .int x1, .int x2, .int 0]) hX (pc := 5) (wnX1_refuses V a ext σ 1 x1 x2 0 y1 e2) lkX1_219 dcX1_refuses ⟨rfl, rfl⟩ ol_rr_nX1_sure_nX1_refuses 0 rfl rfl (fun _ h => h) ⟨Nat.le_refl _, Nat.le_refl _⟩ (Nat.le_of_ble_eq_true rfl) dX1_sure_5 rfl ?_
  refine ol_istore_n hX (pc := 8) [some (.ref (a 0)), some (.int x1), some (.int x2), some (.int y1)] dX1_sure_8 rfl (by decide) rfl rfl ?_
  refine ol_iload_n hX (pc := 9) dX1_sure_9 rfl rfl ?_
  refine ol_if_le hX (pc := 10) 21 dX1_sure_10 (by decide) (fun c5 => ?_) (fun c5 => ?_)
  · have h := ol_ifp c5 h
    refine ol_aload_n hX (pc := 21) dX1_sure_21 rfl rfl ?_
    refine ol_aload_n hX (pc := 22) dX1_sure_22 rfl rfl ?_
    refine ol_iload_n hX (pc := 23) dX1_sure_23 rfl rfl ?_
    refine ol_iload_n hX (pc := 24) dX1_sure_24 rfl rfl ?_
    refine ol_sipush hX (pc := 25) 400 dX1_sure_25 ol_k_sipush_400 ?_
    exact ol_no h
  · have h := ol_ifn c5 h
    refine ol_aload_n hX (pc := 13) dX1_sure_13 rfl rfl ?_
    refine ol_iload_n hX (pc := 14) dX1_sure_14 rfl rfl ?_
    obtain ⟨y3, e4, h⟩ := ol_of_bd h
    refine ol_cVw (As := [.int y1]) hX (pc := 15) (wX1_refused V a none ext σ y1 y3 e4) lkX1_81 dcX1_refused ol_rr_nX1_sure_X1_refused 0 rfl rfl ⟨Nat.le_refl _, Nat.le_refl _⟩ (Nat.le_of_ble_eq_true rfl) dX1_sure_15 rfl ?_
    refine ol_goto hX (pc := 18) 37 dX1_sure_18 (by decide) ?_
    have h := ol_of_some h
    subst h
    exact ol_iret hX (pc := 37) dX1_sure_37 ⟨rfl, rfl⟩ ⟨Nat.le_refl _, Nat.le_refl _⟩
set_option maxHeartbeats 4000000 in
theorem wnX1_right (V : ol_Gh) (a : Nat → Nat) (ext : va_W) (σ : ol_Xm) (x1 : Int32) (x2 : Int32)  (z : Int32 × ol_Xm) (h : onX1_right σ x1 x2 = some z) : ol_Mt V yX1_right cX1_right 4 (some .int) ({ frames := 1, cells := 0, slots := 0, locals := 24 } : Room) true [.ref (a 0), .int x1, .int x2] (ol_Xc V a none σ ++ ext) (ol_Pw (some (.int z.1)) (ol_Xc V a none z.2 ++ ext)) := by
  refine ol_MtOf (L0 := [some (.ref (a 0)), some (.int x1), some (.int x2), none]) (by decide) (Nat.le_of_ble_eq_true rfl) rfl (fun X A hX => ?_)
  unfold onX1_right at h
  refine ol_aload_n hX (pc := 0) dX1_right_0 rfl rfl ?_
  refine ol_iconst hX (pc := 1) 1 dX1_right_1 ol_k_iconst_1 ?_
  refine ol_iload_n hX (pc := 2) dX1_right_2 rfl rfl ?_
  refine ol_iload_n hX (pc := 3) dX1_right_3 rfl rfl ?_
  refine ol_iconst hX (pc := 4) 0 dX1_right_4 ol_k_iconst_0 ?_
  obtain ⟨y1, e2, h⟩ := ol_of_bd h
  refine ol_cVr (As := [.int 1, .int x1, .int x2, .int 0]) hX (pc := 5) (wnX1_refuses V a ext σ 1 x1 x2 0 y1 e2) lkX1_219 dcX1_refuses ⟨rfl, rfl⟩ ol_rr_nX1_right_nX1_refuses 0 rfl rfl (fun _ h => h) ⟨Nat.le_refl _, Nat.le_refl _⟩ (Nat.le_of_ble_eq_true rfl) dX1_right_5 rfl ?_
  refine ol_istore_n hX (pc := 8) [some (.ref (a 0)), some (.int x1), some (.int x2), some (.int y1)] dX1_right_8 rfl (by decide) rfl rfl ?_
  refine ol_iload_n hX (pc := 9) dX1_right_9 rfl rfl ?_
  refine ol_if_le hX (pc := 10) 21 dX1_right_10 (by decide) (fun c5 => ?_) (fun c5 => ?_)
  · have h := ol_ifp c5 h
    refine ol_aload_n hX (pc := 21) dX1_right_21 rfl rfl ?_
    refine ol_aload_n hX (pc := 22) dX1_right_22 rfl rfl ?_
    refine ol_iload_n hX (pc := 23) dX1_right_23 rfl rfl ?_
    refine ol_iload_n hX (pc := 24) dX1_right_24 rfl rfl ?_
    refine ol_iconst hX (pc := 25) 0 dX1_right_25 ol_k_iconst_0 ?_
    exact ol_no h
  · have h := ol_ifn c5 h
    refine ol_aload_n hX (pc := 13) dX1_right_13 rfl rfl ?_
    refine ol_iload_n hX (pc := 14) dX1_right_14 rfl rfl ?_
    obtain ⟨y3, e4, h⟩ := ol_of_bd h
    refine ol_cVw (As := [.int y1]) hX (pc := 15) (wX1_refused V a none ext σ y1 y3 e4) lkX1_81 dcX1_refused ol_rr_nX1_right_X1_refused 0 rfl rfl ⟨Nat.le_refl _, Nat.le_refl _⟩ (Nat.le_of_ble_eq_true rfl) dX1_right_15 rfl ?_
    refine ol_goto hX (pc := 18) 35 dX1_right_18 (by decide) ?_
    have h := ol_of_some h
    subst h
    exact ol_iret hX (pc := 35) dX1_right_35 ⟨rfl, rfl⟩ ⟨Nat.le_refl _, Nat.le_refl _⟩
set_option maxHeartbeats 4000000 in
theorem wnX1_dips (V : ol_Gh) (a : Nat → Nat) (ext : va_W) (σ : ol_Xm) (x1 : Int32) (x2 : Int32)  (z : Int32 × ol_Xm) (h : onX1_dips σ x1 x2 = some z) : ol_Mt V yX1_dips cX1_dips 4 (some .int) ({ frames := 1, cells := 0, slots := 0, locals := 24 } : Room) true [.ref (a 0), .int x1, .int x2] (ol_Xc V a none σ ++ ext) (ol_Pw (some (.int z.1)) (ol_Xc V a none z.2 ++ ext)) := by
  refine ol_MtOf (L0 := [some (.ref (a 0)), some (.int x1), some (.int x2), none]) (by decide) (Nat.le_of_ble_eq_true rfl) rfl (fun X A hX => ?_)
  unfold onX1_dips at h
  refine ol_aload_n hX (pc := 0) dX1_dips_0 rfl rfl ?_
  refine ol_iconst hX (pc := 1) 1 dX1_dips_1 ol_k_iconst_1 ?_
  refine ol_iload_n hX (pc := 2) dX1_dips_2 rfl rfl ?_
  refine ol_iload_n hX (pc := 3) dX1_dips_3 rfl rfl ?_
  refine ol_iconst hX (pc := 4) 0 dX1_dips_4 ol_k_iconst_0 ?_
  obtain ⟨y1, e2, h⟩ := ol_of_bd h
  refine ol_cVr (As := [.int 1, .int x1, .int x2, .int 0]) hX (pc := 5) (wnX1_refuses V a ext σ 1 x1 x2 0 y1 e2) lkX1_219 dcX1_refuses ⟨rfl, rfl⟩ ol_rr_nX1_dips_nX1_refuses 0 rfl rfl (fun _ h => h) ⟨Nat.le_refl _, Nat.le_refl _⟩ (Nat.le_of_ble_eq_true rfl) dX1_dips_5 rfl ?_
  refine ol_istore_n hX (pc := 8) [some (.ref (a 0)), some (.int x1), some (.int x2), some (.int y1)] dX1_dips_8 rfl (by decide) rfl rfl ?_
  refine ol_iload_n hX (pc := 9) dX1_dips_9 rfl rfl ?_
  refine ol_if_le hX (pc := 10) 21 dX1_dips_10 (by decide) (fun c5 => ?_) (fun c5 => ?_)
  · have h := ol_ifp c5 h
    refine ol_aload_n hX (pc := 21) dX1_dips_21 rfl rfl ?_
    refine ol_aload_n hX (pc := 22) dX1_dips_22 rfl rfl ?_
    refine ol_iload_n hX (pc := 23) dX1_dips_23 rfl rfl ?_
    refine ol_iload_n hX (pc := 24) dX1_dips_24 rfl rfl ?_
    refine ol_sipush hX (pc := 25) 400 dX1_dips_25 ol_k_sipush_400 ?_
    exact ol_no h
  · have h := ol_ifn c5 h
    refine ol_aload_n hX (pc := 13) dX1_dips_13 rfl rfl ?_
    refine ol_iload_n hX (pc := 14) dX1_dips_14 rfl rfl ?_
    obtain ⟨y3, e4, h⟩ := ol_of_bd h
    refine ol_cVw (As := [.int y1]) hX (pc := 15) (wX1_refused V a none ext σ y1 y3 e4) lkX1_81 dcX1_refused ol_rr_nX1_dips_X1_refused 0 rfl rfl ⟨Nat.le_refl _, Nat.le_refl _⟩ (Nat.le_of_ble_eq_true rfl) dX1_dips_15 rfl ?_
    refine ol_goto hX (pc := 18) 37 dX1_dips_18 (by decide) ?_
    have h := ol_of_some h
    subst h
    exact ol_iret hX (pc := 37) dX1_dips_37 ⟨rfl, rfl⟩ ⟨Nat.le_refl _, Nat.le_refl _⟩
set_option maxHeartbeats 4000000 in
theorem wnX1_faulty (V : ol_Gh) (a : Nat → Nat) (ext : va_W) (σ : ol_Xm) (x1 : Int32) (x2 : Int32) (x3 : Int32)  (z : Int32 × ol_Xm) (h : onX1_faulty σ x1 x2 x3 = some z) : ol_Mt V yX1_faulty cX1_faulty 5 (some .int) ({ frames := 1, cells := 0, slots := 0, locals := 24 } : Room) true [.ref (a 0), .int x1, .int x2, .int x3] (ol_Xc V a none σ ++ ext) (ol_Pw (some (.int z.1)) (ol_Xc V a none z.2 ++ ext)) := by
  refine ol_MtOf (L0 := [some (.ref (a 0)), some (.int x1), some (.int x2), some (.int x3), none]) (by decide) (Nat.le_of_ble_eq_true rfl) rfl (fun X A hX => ?_)
  unfold onX1_faulty at h
  refine ol_aload_n hX (pc := 0) dX1_faulty_0 rfl rfl ?_
  refine ol_iconst hX (pc := 1) 1 dX1_faulty_1 ol_k_iconst_1 ?_
  refine ol_iload_n hX (pc := 2) dX1_faulty_2 rfl rfl ?_
  refine ol_iload_n hX (pc := 3) dX1_faulty_3 rfl rfl ?_
  refine ol_iload_n hX (pc := 4) dX1_faulty_4 rfl rfl ?_
  obtain ⟨y1, e2, h⟩ := ol_of_bd h
  refine ol_cVr (As := [.int 1, .int x1, .int x2, .int x3]) hX (pc := 5) (wnX1_refuses V a ext σ 1 x1 x2 x3 y1 e2) lkX1_219 dcX1_refuses ⟨rfl, rfl⟩ ol_rr_nX1_faulty_nX1_refuses 0 rfl rfl (fun _ h => h) ⟨Nat.le_refl _, Nat.le_refl _⟩ (Nat.le_of_ble_eq_true rfl) dX1_faulty_5 rfl ?_
  refine ol_istore hX (pc := 8) [some (.ref (a 0)), some (.int x1), some (.int x2), some (.int x3), some (.int y1)] dX1_faulty_8 (by decide) rfl rfl ?_
  refine ol_iload hX (pc := 10) dX1_faulty_10 rfl ?_
  refine ol_if_le hX (pc := 12) 24 dX1_faulty_12 (by decide) (fun c5 => ?_) (fun c5 => ?_)
  · have h := ol_ifp c5 h
    refine ol_aload_n hX (pc := 24) dX1_faulty_24 rfl rfl ?_
    refine ol_aload_n hX (pc := 25) dX1_faulty_25 rfl rfl ?_
    refine ol_iload_n hX (pc := 26) dX1_faulty_26 rfl rfl ?_
    refine ol_iload_n hX (pc := 27) dX1_faulty_27 rfl rfl ?_
    refine ol_iload_n hX (pc := 28) dX1_faulty_28 rfl rfl ?_
    exact ol_no h
  · have h := ol_ifn c5 h
    refine ol_aload_n hX (pc := 15) dX1_faulty_15 rfl rfl ?_
    refine ol_iload hX (pc := 16) dX1_faulty_16 rfl ?_
    obtain ⟨y3, e4, h⟩ := ol_of_bd h
    refine ol_cVw (As := [.int y1]) hX (pc := 18) (wX1_refused V a none ext σ y1 y3 e4) lkX1_81 dcX1_refused ol_rr_nX1_faulty_X1_refused 0 rfl rfl ⟨Nat.le_refl _, Nat.le_refl _⟩ (Nat.le_of_ble_eq_true rfl) dX1_faulty_18 rfl ?_
    refine ol_goto hX (pc := 21) 47 dX1_faulty_21 (by decide) ?_
    have h := ol_of_some h
    subst h
    exact ol_iret hX (pc := 47) dX1_faulty_47 ⟨rfl, rfl⟩ ⟨Nat.le_refl _, Nat.le_refl _⟩
set_option maxHeartbeats 4000000 in
theorem wnX1_edges_L24 {X : ol_Cx} {V : ol_Gh} {A : Nat → Prop} {a : Nat → Nat} {ext : va_W} {z : Int32 × ol_Xm} (hX : ol_CX X V A cX1_edges RX1 "edges" 6 (some .int)) (x1 : Int32) (x2 : Int32) (x3 : Int32) (x4 : Int32)   (s0 : Int32) (σ : ol_Xm) (h : onX1_edges_L24 x1 x2 x3 x4 s0 σ = some z) : ol_G X V A true (ol_Pw (some (.int z.1)) (ol_Xc V a none z.2 ++ ext)) ({ frames := 1, cells := 0, slots := 0, locals := 24 } : Room) 6 0 0 (ol_Xc V a none σ ++ ext) 24 [some (.ref (a 0)), some (.int x1), some (.int x2), some (.int x3), some (.int x4), none] [.int s0, .ref (a 0)] := by
  unfold onX1_edges_L24 at h
  refine ol_iload_n hX (pc := 24) dX1_edges_24 rfl rfl ?_
  refine ol_iload_n hX (pc := 25) dX1_edges_25 rfl rfl ?_
  refine ol_iconst hX (pc := 26) 0 dX1_edges_26 ol_k_iconst_0 ?_
  obtain ⟨y1, e2, h⟩ := ol_of_bd h
  refine ol_cVr (As := [.int s0, .int x1, .int x2, .int 0]) hX (pc := 27) (wnX1_refuses V a ext σ s0 x1 x2 0 y1 e2) lkX1_219 dcX1_refuses ⟨rfl, rfl⟩ ol_rr_nX1_edges_nX1_refuses 0 rfl rfl (fun _ h => h) ⟨Nat.le_refl _, Nat.le_refl _⟩ (Nat.le_of_ble_eq_true rfl) dX1_edges_27 rfl ?_
  refine ol_istore hX (pc := 30) [some (.ref (a 0)), some (.int x1), some (.int x2), some (.int x3), some (.int x4), some (.int y1)] dX1_edges_30 (by decide) rfl rfl ?_
  refine ol_iload hX (pc := 32) dX1_edges_32 rfl ?_
  refine ol_if_le hX (pc := 34) 46 dX1_edges_34 (by decide) (fun c5 => ?_) (fun c5 => ?_)
  · have h := ol_ifp c5 h
    refine ol_aload_n hX (pc := 46) dX1_edges_46 rfl rfl ?_
    refine ol_aload_n hX (pc := 47) dX1_edges_47 rfl rfl ?_
    refine ol_iload_n hX (pc := 48) dX1_edges_48 rfl rfl ?_
    refine ol_iload_n hX (pc := 49) dX1_edges_49 rfl rfl ?_
    refine ol_sipush hX (pc := 50) 400 dX1_edges_50 ol_k_sipush_400 ?_
    exact ol_no h
  · have h := ol_ifn c5 h
    refine ol_aload_n hX (pc := 37) dX1_edges_37 rfl rfl ?_
    refine ol_iload hX (pc := 38) dX1_edges_38 rfl ?_
    obtain ⟨y3, e4, h⟩ := ol_of_bd h
    refine ol_cVw (As := [.int y1]) hX (pc := 40) (wX1_refused V a none ext σ y1 y3 e4) lkX1_81 dcX1_refused ol_rr_nX1_edges_X1_refused 0 rfl rfl ⟨Nat.le_refl _, Nat.le_refl _⟩ (Nat.le_of_ble_eq_true rfl) dX1_edges_40 rfl ?_
    refine ol_goto hX (pc := 43) 65 dX1_edges_43 (by decide) ?_
    have h := ol_of_some h
    subst h
    exact ol_iret hX (pc := 65) dX1_edges_65 ⟨rfl, rfl⟩ ⟨Nat.le_refl _, Nat.le_refl _⟩
set_option maxHeartbeats 4000000 in
theorem wnX1_edges (V : ol_Gh) (a : Nat → Nat) (ext : va_W) (σ : ol_Xm) (x1 : Int32) (x2 : Int32) (x3 : Int32) (x4 : Int32)  (z : Int32 × ol_Xm) (h : onX1_edges σ x1 x2 x3 x4 = some z) : ol_Mt V yX1_edges cX1_edges 6 (some .int) ({ frames := 1, cells := 0, slots := 0, locals := 24 } : Room) true [.ref (a 0), .int x1, .int x2, .int x3, .int x4] (ol_Xc V a none σ ++ ext) (ol_Pw (some (.int z.1)) (ol_Xc V a none z.2 ++ ext)) := by
  refine ol_MtOf (L0 := [some (.ref (a 0)), some (.int x1), some (.int x2), some (.int x3), some (.int x4), none]) (by decide) (Nat.le_of_ble_eq_true rfl) rfl (fun X A hX => ?_)
  unfold onX1_edges at h
  refine ol_aload_n hX (pc := 0) dX1_edges_0 rfl rfl ?_
  refine ol_aload_n hX (pc := 1) dX1_edges_1 rfl rfl ?_
  refine ol_iload_n hX (pc := 2) dX1_edges_2 rfl rfl ?_
  obtain ⟨y1, e2, h⟩ := ol_of_bd h
  refine ol_cVr (As := [.int x3]) hX (pc := 3) (wnX1_isBoard V a ext σ x3 y1 e2) lkX1_149 dcX1_isBoard ⟨rfl, rfl⟩ ol_rr_nX1_edges_nX1_isBoard 0 rfl rfl (fun _ h => h) ⟨Nat.le_refl _, Nat.le_refl _⟩ (Nat.le_of_ble_eq_true rfl) dX1_edges_3 rfl ?_
  refine ol_if_eq hX (pc := 6) 23 dX1_edges_6 (by decide) (fun c6 => ?_) (fun c6 => ?_)
  · have h := ol_ifp c6 h
    refine ol_iconst hX (pc := 23) 0 dX1_edges_23 ol_k_iconst_0 ?_
    exact wnX1_edges_L24 hX x1 x2 x3 x4 0 σ h
  · have h := ol_ifn c6 h
    refine ol_iload hX (pc := 9) dX1_edges_9 rfl ?_
    refine ol_iconst hX (pc := 11) 0 dX1_edges_11 ol_k_iconst_0 ?_
    refine ol_iconst hX (pc := 12) 5 dX1_edges_12 ol_k_iconst_5 ?_
    obtain ⟨y3, e4, h⟩ := ol_of_bd h
    refine ol_cSr (As := [.int x4, .int 0, .int 5]) hX (pc := 13) (wX1_isIn V (ol_Xc V a none σ ++ ext) x4 0 5 y3 e4) lkX1_77 dcX1_isIn ⟨rfl, rfl⟩ ol_rr_nX1_edges_X1_isIn (fun _ h => h) ⟨Nat.le_refl _, Nat.le_refl _⟩ (Nat.le_of_ble_eq_true rfl) dX1_edges_13 rfl ?_
    refine ol_if_eq hX (pc := 16) 23 dX1_edges_16 (by decide) (fun c5 => ?_) (fun c5 => ?_)
    · have h := ol_ifp c5 h
      refine ol_iconst hX (pc := 23) 0 dX1_edges_23 ol_k_iconst_0 ?_
      exact wnX1_edges_L24 hX x1 x2 x3 x4 0 σ h
    · have h := ol_ifn c5 h
      refine ol_iconst hX (pc := 19) 1 dX1_edges_19 ol_k_iconst_1 ?_
      refine ol_goto hX (pc := 20) 24 dX1_edges_20 (by decide) ?_
      exact wnX1_edges_L24 hX x1 x2 x3 x4 1 σ h
set_option maxHeartbeats 4000000 in
theorem wnX1_filters_L26 {X : ol_Cx} {V : ol_Gh} {A : Nat → Prop} {a : Nat → Nat} {ext : va_W} {z : Int32 × ol_Xm} (hX : ol_CX X V A cX1_filters RX1 "filters" 6 (some .int)) (x1 : Int32) (x2 : Int32)    : ∀ (n : Nat), ∀ (v4 : Int32) (σ : ol_Xm), onX1_filters_L26 x1 x2 n v4 σ = some z → ol_G X V A true (ol_Pw (some (.int z.1)) (ol_Xc V a none z.2 ++ ext)) ({ frames := 1, cells := 0, slots := 0, locals := 24 } : Room) 6 0 0 (ol_Xc V a none σ ++ ext) 26 [some (.ref (a 0)), some (.int x1), some (.int x2), none, some (.int v4), none] [] := by
  intro n
  induction n with
  | zero =>
    intro v4 σ h
    exact ol_no h
  | succ n ih =>
    intro v4 σ h
    rw [onX1_filters_L26] at h
    refine ol_iload hX (pc := 26) dX1_filters_26 rfl ?_
    refine ol_bipush hX (pc := 28) 20 dX1_filters_28 ol_k_bipush_20 ?_
    refine ol_icmp_gt hX (pc := 30) 99 dX1_filters_30 (by decide) (fun c3 => ?_) (fun c3 => ?_)
    · have h := ol_ifp c3 h
      refine ol_aload_n hX (pc := 99) dX1_filters_99 rfl rfl ?_
      refine ol_bipush hX (pc := 100) (-2) dX1_filters_100 ol_k_bipush_m2 ?_
      obtain ⟨y1, e2, h⟩ := ol_of_bd h
      refine ol_cVw (As := [.int (-2)]) hX (pc := 102) (wX1_fine V a none ext σ (-2) y1 e2) lkX1_125 dcX1_fine ol_rr_nX1_filters_X1_fine 0 rfl rfl ⟨Nat.le_refl _, Nat.le_refl _⟩ (Nat.le_of_ble_eq_true rfl) dX1_filters_102 rfl ?_
      have h := ol_of_some h
      subst h
      exact ol_iret hX (pc := 105) dX1_filters_105 ⟨rfl, rfl⟩ ⟨Nat.le_refl _, Nat.le_refl _⟩
    · have h := ol_ifn c3 h
      refine ol_aload_n hX (pc := 33) dX1_filters_33 rfl rfl ?_
      refine ol_xg_O_0 hX (pc := 34) q340 dX1_filters_34 ?_
      refine ol_aload_n hX (pc := 37) dX1_filters_37 rfl rfl ?_
      refine ol_xgq_O_6 hX (pc := 38) q348 dX1_filters_38 ?_
      refine ol_iload_n hX (pc := 41) dX1_filters_41 rfl rfl ?_
      refine ol_aload_n hX (pc := 42) dX1_filters_42 rfl rfl ?_
      refine ol_iload_n hX (pc := 43) dX1_filters_43 rfl rfl ?_
      exact ol_no h
set_option maxHeartbeats 4000000 in
theorem wnX1_filters (V : ol_Gh) (a : Nat → Nat) (ext : va_W) (σ : ol_Xm) (x1 : Int32) (x2 : Int32)  (z : Int32 × ol_Xm) (h : onX1_filters σ x1 x2 = some z) : ol_Mt V yX1_filters cX1_filters 6 (some .int) ({ frames := 1, cells := 0, slots := 0, locals := 24 } : Room) true [.ref (a 0), .int x1, .int x2] (ol_Xc V a none σ ++ ext) (ol_Pw (some (.int z.1)) (ol_Xc V a none z.2 ++ ext)) := by
  refine ol_MtOf (L0 := [some (.ref (a 0)), some (.int x1), some (.int x2), none, none, none]) (by decide) (Nat.le_of_ble_eq_true rfl) rfl (fun X A hX => ?_)
  unfold onX1_filters at h
  refine ol_aload_n hX (pc := 0) dX1_filters_0 rfl rfl ?_
  refine ol_iconst hX (pc := 1) 1 dX1_filters_1 ol_k_iconst_1 ?_
  refine ol_iload_n hX (pc := 2) dX1_filters_2 rfl rfl ?_
  refine ol_iload_n hX (pc := 3) dX1_filters_3 rfl rfl ?_
  refine ol_iconst hX (pc := 4) 0 dX1_filters_4 ol_k_iconst_0 ?_
  obtain ⟨y1, e2, h⟩ := ol_of_bd h
  refine ol_cVr (As := [.int 1, .int x1, .int x2, .int 0]) hX (pc := 5) (wnX1_refuses V a ext σ 1 x1 x2 0 y1 e2) lkX1_219 dcX1_refuses ⟨rfl, rfl⟩ ol_rr_nX1_filters_nX1_refuses 0 rfl rfl (fun _ h => h) ⟨Nat.le_refl _, Nat.le_refl _⟩ (Nat.le_of_ble_eq_true rfl) dX1_filters_5 rfl ?_
  refine ol_istore_n hX (pc := 8) [some (.ref (a 0)), some (.int x1), some (.int x2), some (.int y1), none, none] dX1_filters_8 rfl (by decide) rfl rfl ?_
  refine ol_iload_n hX (pc := 9) dX1_filters_9 rfl rfl ?_
  refine ol_if_le hX (pc := 10) 19 dX1_filters_10 (by decide) (fun c7 => ?_) (fun c7 => ?_)
  · have h := ol_ifp c7 h
    refine ol_aload_n hX (pc := 19) dX1_filters_19 rfl rfl ?_
    obtain ⟨y3, e4, h⟩ := ol_of_bd h
    refine ol_cVw (As := []) hX (pc := 20) (wX1_forgets V a none ext σ y3 e4) lkX1_112 dcX1_forgets ol_rr_nX1_filters_X1_forgets 0 rfl rfl ⟨Nat.le_refl _, Nat.le_refl _⟩ (Nat.le_of_ble_eq_true rfl) dX1_filters_20 rfl ?_
    refine ol_iconst hX (pc := 23) 0 dX1_filters_23 ol_k_iconst_0 ?_
    refine ol_istore hX (pc := 24) [some (.ref (a 0)), some (.int x1), some (.int x2), some (.int y1), some (.int 0), none] dX1_filters_24 (by decide) rfl rfl ?_
    refine ol_Gdrop 3 ?_
    exact wnX1_filters_L26 hX x1 x2 ol_fuel 0 y3 h
  · have h := ol_ifn c7 h
    refine ol_aload_n hX (pc := 13) dX1_filters_13 rfl rfl ?_
    refine ol_iload_n hX (pc := 14) dX1_filters_14 rfl rfl ?_
    obtain ⟨y5, e6, h⟩ := ol_of_bd h
    refine ol_cVw (As := [.int y1]) hX (pc := 15) (wX1_refused V a none ext σ y1 y5 e6) lkX1_81 dcX1_refused ol_rr_nX1_filters_X1_refused 0 rfl rfl ⟨Nat.le_refl _, Nat.le_refl _⟩ (Nat.le_of_ble_eq_true rfl) dX1_filters_15 rfl ?_
    have h := ol_of_some h
    subst h
    exact ol_iret hX (pc := 18) dX1_filters_18 ⟨rfl, rfl⟩ ⟨Nat.le_refl _, Nat.le_refl _⟩
set_option maxHeartbeats 4000000 in
theorem wnX1_slowest_L27 {X : ol_Cx} {V : ol_Gh} {A : Nat → Prop} {a : Nat → Nat} {ext : va_W} {z : Int32 × ol_Xm} (hX : ol_CX X V A cX1_slowest RX1 "slowest" 7 (some .int)) (x1 : Int32)    : ∀ (n : Nat), ∀ (v3 : Int32) (v4 : Int32) (v5 : Int32) (σ : ol_Xm), onX1_slowest_L27 x1 n v3 v4 v5 σ = some z → ol_G X V A true (ol_Pw (some (.int z.1)) (ol_Xc V a none z.2 ++ ext)) ({ frames := 1, cells := 0, slots := 0, locals := 24 } : Room) 7 0 0 (ol_Xc V a none σ ++ ext) 27 [some (.ref (a 0)), some (.int x1), none, some (.int v3), some (.int v4), some (.int v5), none] [] := by
  intro n
  induction n with
  | zero =>
    intro v3 v4 v5 σ h
    exact ol_no h
  | succ n ih =>
    intro v3 v4 v5 σ h
    rw [onX1_slowest_L27] at h
    refine ol_iload hX (pc := 27) dX1_slowest_27 rfl ?_
    refine ol_iconst hX (pc := 29) 1 dX1_slowest_29 ol_k_iconst_1 ?_
    refine ol_aload_n hX (pc := 30) dX1_slowest_30 rfl rfl ?_
    refine ol_xgq_O_6 hX (pc := 31) q348 dX1_slowest_31 ?_
    exact ol_no h
set_option maxHeartbeats 4000000 in
theorem wnX1_slowest (V : ol_Gh) (a : Nat → Nat) (ext : va_W) (σ : ol_Xm) (x1 : Int32)  (z : Int32 × ol_Xm) (h : onX1_slowest σ x1 = some z) : ol_Mt V yX1_slowest cX1_slowest 7 (some .int) ({ frames := 1, cells := 0, slots := 0, locals := 24 } : Room) true [.ref (a 0), .int x1] (ol_Xc V a none σ ++ ext) (ol_Pw (some (.int z.1)) (ol_Xc V a none z.2 ++ ext)) := by
  refine ol_MtOf (L0 := [some (.ref (a 0)), some (.int x1), none, none, none, none, none]) (by decide) (Nat.le_of_ble_eq_true rfl) rfl (fun X A hX => ?_)
  unfold onX1_slowest at h
  refine ol_aload_n hX (pc := 0) dX1_slowest_0 rfl rfl ?_
  refine ol_iconst hX (pc := 1) 1 dX1_slowest_1 ol_k_iconst_1 ?_
  refine ol_iload_n hX (pc := 2) dX1_slowest_2 rfl rfl ?_
  refine ol_iconst hX (pc := 3) 1 dX1_slowest_3 ol_k_iconst_1 ?_
  refine ol_iconst hX (pc := 4) 0 dX1_slowest_4 ol_k_iconst_0 ?_
  obtain ⟨y1, e2, h⟩ := ol_of_bd h
  refine ol_cVr (As := [.int 1, .int x1, .int 1, .int 0]) hX (pc := 5) (wnX1_refuses V a ext σ 1 x1 1 0 y1 e2) lkX1_219 dcX1_refuses ⟨rfl, rfl⟩ ol_rr_nX1_slowest_nX1_refuses 0 rfl rfl (fun _ h => h) ⟨Nat.le_refl _, Nat.le_refl _⟩ (Nat.le_of_ble_eq_true rfl) dX1_slowest_5 rfl ?_
  refine ol_istore_n hX (pc := 8) [some (.ref (a 0)), some (.int x1), some (.int y1), none, none, none, none] dX1_slowest_8 rfl (by decide) rfl rfl ?_
  refine ol_iload_n hX (pc := 9) dX1_slowest_9 rfl rfl ?_
  refine ol_if_le hX (pc := 10) 19 dX1_slowest_10 (by decide) (fun c5 => ?_) (fun c5 => ?_)
  · have h := ol_ifp c5 h
    refine ol_iconst hX (pc := 19) 0 dX1_slowest_19 ol_k_iconst_0 ?_
    refine ol_istore_n hX (pc := 20) [some (.ref (a 0)), some (.int x1), some (.int y1), some (.int 0), none, none, none] dX1_slowest_20 rfl (by decide) rfl rfl ?_
    refine ol_iconst hX (pc := 21) (-1) dX1_slowest_21 ol_k_iconst_m1 ?_
    refine ol_istore hX (pc := 22) [some (.ref (a 0)), some (.int x1), some (.int y1), some (.int 0), some (.int (-1)), none, none] dX1_slowest_22 (by decide) rfl rfl ?_
    refine ol_iconst hX (pc := 24) 1 dX1_slowest_24 ol_k_iconst_1 ?_
    refine ol_istore hX (pc := 25) [some (.ref (a 0)), some (.int x1), some (.int y1), some (.int 0), some (.int (-1)), some (.int 1), none] dX1_slowest_25 (by decide) rfl rfl ?_
    refine ol_Gdrop 2 ?_
    exact wnX1_slowest_L27 hX x1 ol_fuel 0 (-1) 1 σ h
  · have h := ol_ifn c5 h
    refine ol_aload_n hX (pc := 13) dX1_slowest_13 rfl rfl ?_
    refine ol_iload_n hX (pc := 14) dX1_slowest_14 rfl rfl ?_
    obtain ⟨y3, e4, h⟩ := ol_of_bd h
    refine ol_cVw (As := [.int y1]) hX (pc := 15) (wX1_refused V a none ext σ y1 y3 e4) lkX1_81 dcX1_refused ol_rr_nX1_slowest_X1_refused 0 rfl rfl ⟨Nat.le_refl _, Nat.le_refl _⟩ (Nat.le_of_ble_eq_true rfl) dX1_slowest_15 rfl ?_
    have h := ol_of_some h
    subst h
    exact ol_iret hX (pc := 18) dX1_slowest_18 ⟨rfl, rfl⟩ ⟨Nat.le_refl _, Nat.le_refl _⟩
set_option maxHeartbeats 4000000 in
theorem wnX1_settled_L25 {X : ol_Cx} {V : ol_Gh} {A : Nat → Prop} {a : Nat → Nat} {ext : va_W} {z : Int32 × ol_Xm} (hX : ol_CX X V A cX1_settled RX1 "settled" 6 (some .int)) (x1 : Int32) (x2 : Int32)    : ∀ (n : Nat), ∀ (v4 : Int32) (v5 : Int32) (σ : ol_Xm), onX1_settled_L25 x1 x2 n v4 v5 σ = some z → ol_G X V A true (ol_Pw (some (.int z.1)) (ol_Xc V a none z.2 ++ ext)) ({ frames := 1, cells := 0, slots := 0, locals := 24 } : Room) 6 0 0 (ol_Xc V a none σ ++ ext) 25 [some (.ref (a 0)), some (.int x1), some (.int x2), none, some (.int v4), some (.int v5)] [] := by
  intro n
  induction n with
  | zero =>
    intro v4 v5 σ h
    exact ol_no h
  | succ n ih =>
    intro v4 v5 σ h
    rw [onX1_settled_L25] at h
    refine ol_iload hX (pc := 25) dX1_settled_25 rfl ?_
    refine ol_iconst hX (pc := 27) 1 dX1_settled_27 ol_k_iconst_1 ?_
    refine ol_aload_n hX (pc := 28) dX1_settled_28 rfl rfl ?_
    refine ol_xgq_O_6 hX (pc := 29) q348 dX1_settled_29 ?_
    exact ol_no h
set_option maxHeartbeats 4000000 in
theorem wnX1_settled (V : ol_Gh) (a : Nat → Nat) (ext : va_W) (σ : ol_Xm) (x1 : Int32) (x2 : Int32)  (z : Int32 × ol_Xm) (h : onX1_settled σ x1 x2 = some z) : ol_Mt V yX1_settled cX1_settled 6 (some .int) ({ frames := 1, cells := 0, slots := 0, locals := 24 } : Room) true [.ref (a 0), .int x1, .int x2] (ol_Xc V a none σ ++ ext) (ol_Pw (some (.int z.1)) (ol_Xc V a none z.2 ++ ext)) := by
  refine ol_MtOf (L0 := [some (.ref (a 0)), some (.int x1), some (.int x2), none, none, none]) (by decide) (Nat.le_of_ble_eq_true rfl) rfl (fun X A hX => ?_)
  unfold onX1_settled at h
  refine ol_aload_n hX (pc := 0) dX1_settled_0 rfl rfl ?_
  refine ol_iconst hX (pc := 1) 1 dX1_settled_1 ol_k_iconst_1 ?_
  refine ol_iload_n hX (pc := 2) dX1_settled_2 rfl rfl ?_
  refine ol_iconst hX (pc := 3) 1 dX1_settled_3 ol_k_iconst_1 ?_
  refine ol_iload_n hX (pc := 4) dX1_settled_4 rfl rfl ?_
  obtain ⟨y1, e2, h⟩ := ol_of_bd h
  refine ol_cVr (As := [.int 1, .int x1, .int 1, .int x2]) hX (pc := 5) (wnX1_refuses V a ext σ 1 x1 1 x2 y1 e2) lkX1_219 dcX1_refuses ⟨rfl, rfl⟩ ol_rr_nX1_settled_nX1_refuses 0 rfl rfl (fun _ h => h) ⟨Nat.le_refl _, Nat.le_refl _⟩ (Nat.le_of_ble_eq_true rfl) dX1_settled_5 rfl ?_
  refine ol_istore_n hX (pc := 8) [some (.ref (a 0)), some (.int x1), some (.int x2), some (.int y1), none, none] dX1_settled_8 rfl (by decide) rfl rfl ?_
  refine ol_iload_n hX (pc := 9) dX1_settled_9 rfl rfl ?_
  refine ol_if_le hX (pc := 10) 19 dX1_settled_10 (by decide) (fun c5 => ?_) (fun c5 => ?_)
  · have h := ol_ifp c5 h
    refine ol_iconst hX (pc := 19) 0 dX1_settled_19 ol_k_iconst_0 ?_
    refine ol_istore hX (pc := 20) [some (.ref (a 0)), some (.int x1), some (.int x2), some (.int y1), some (.int 0), none] dX1_settled_20 (by decide) rfl rfl ?_
    refine ol_iconst hX (pc := 22) 1 dX1_settled_22 ol_k_iconst_1 ?_
    refine ol_istore hX (pc := 23) [some (.ref (a 0)), some (.int x1), some (.int x2), some (.int y1), some (.int 0), some (.int 1)] dX1_settled_23 (by decide) rfl rfl ?_
    refine ol_Gdrop 3 ?_
    exact wnX1_settled_L25 hX x1 x2 ol_fuel 0 1 σ h
  · have h := ol_ifn c5 h
    refine ol_aload_n hX (pc := 13) dX1_settled_13 rfl rfl ?_
    refine ol_iload_n hX (pc := 14) dX1_settled_14 rfl rfl ?_
    obtain ⟨y3, e4, h⟩ := ol_of_bd h
    refine ol_cVw (As := [.int y1]) hX (pc := 15) (wX1_refused V a none ext σ y1 y3 e4) lkX1_81 dcX1_refused ol_rr_nX1_settled_X1_refused 0 rfl rfl ⟨Nat.le_refl _, Nat.le_refl _⟩ (Nat.le_of_ble_eq_true rfl) dX1_settled_15 rfl ?_
    have h := ol_of_some h
    subst h
    exact ol_iret hX (pc := 18) dX1_settled_18 ⟨rfl, rfl⟩ ⟨Nat.le_refl _, Nat.le_refl _⟩
set_option maxHeartbeats 4000000 in
theorem wnX1_enough_L24 {X : ol_Cx} {V : ol_Gh} {A : Nat → Prop} {a : Nat → Nat} {ext : va_W} {z : Int32 × ol_Xm} (hX : ol_CX X V A cX1_enough RX1 "enough" 6 (some .int)) (x1 : Int32)    : ∀ (n : Nat), ∀ (v3 : Int32) (v4 : Int32) (σ : ol_Xm), onX1_enough_L24 x1 n v3 v4 σ = some z → ol_G X V A true (ol_Pw (some (.int z.1)) (ol_Xc V a none z.2 ++ ext)) ({ frames := 1, cells := 0, slots := 0, locals := 24 } : Room) 6 0 0 (ol_Xc V a none σ ++ ext) 24 [some (.ref (a 0)), some (.int x1), none, some (.int v3), some (.int v4), none] [] := by
  intro n
  induction n with
  | zero =>
    intro v3 v4 σ h
    exact ol_no h
  | succ n ih =>
    intro v3 v4 σ h
    rw [onX1_enough_L24] at h
    refine ol_iload hX (pc := 24) dX1_enough_24 rfl ?_
    refine ol_iconst hX (pc := 26) 1 dX1_enough_26 ol_k_iconst_1 ?_
    refine ol_aload_n hX (pc := 27) dX1_enough_27 rfl rfl ?_
    refine ol_xgq_O_6 hX (pc := 28) q348 dX1_enough_28 ?_
    exact ol_no h
set_option maxHeartbeats 4000000 in
theorem wnX1_enough (V : ol_Gh) (a : Nat → Nat) (ext : va_W) (σ : ol_Xm) (x1 : Int32)  (z : Int32 × ol_Xm) (h : onX1_enough σ x1 = some z) : ol_Mt V yX1_enough cX1_enough 6 (some .int) ({ frames := 1, cells := 0, slots := 0, locals := 24 } : Room) true [.ref (a 0), .int x1] (ol_Xc V a none σ ++ ext) (ol_Pw (some (.int z.1)) (ol_Xc V a none z.2 ++ ext)) := by
  refine ol_MtOf (L0 := [some (.ref (a 0)), some (.int x1), none, none, none, none]) (by decide) (Nat.le_of_ble_eq_true rfl) rfl (fun X A hX => ?_)
  unfold onX1_enough at h
  refine ol_aload_n hX (pc := 0) dX1_enough_0 rfl rfl ?_
  refine ol_iconst hX (pc := 1) 1 dX1_enough_1 ol_k_iconst_1 ?_
  refine ol_iload_n hX (pc := 2) dX1_enough_2 rfl rfl ?_
  refine ol_iconst hX (pc := 3) 1 dX1_enough_3 ol_k_iconst_1 ?_
  refine ol_iconst hX (pc := 4) 0 dX1_enough_4 ol_k_iconst_0 ?_
  obtain ⟨y1, e2, h⟩ := ol_of_bd h
  refine ol_cVr (As := [.int 1, .int x1, .int 1, .int 0]) hX (pc := 5) (wnX1_refuses V a ext σ 1 x1 1 0 y1 e2) lkX1_219 dcX1_refuses ⟨rfl, rfl⟩ ol_rr_nX1_enough_nX1_refuses 0 rfl rfl (fun _ h => h) ⟨Nat.le_refl _, Nat.le_refl _⟩ (Nat.le_of_ble_eq_true rfl) dX1_enough_5 rfl ?_
  refine ol_istore_n hX (pc := 8) [some (.ref (a 0)), some (.int x1), some (.int y1), none, none, none] dX1_enough_8 rfl (by decide) rfl rfl ?_
  refine ol_iload_n hX (pc := 9) dX1_enough_9 rfl rfl ?_
  refine ol_if_le hX (pc := 10) 19 dX1_enough_10 (by decide) (fun c5 => ?_) (fun c5 => ?_)
  · have h := ol_ifp c5 h
    refine ol_iconst hX (pc := 19) 0 dX1_enough_19 ol_k_iconst_0 ?_
    refine ol_istore_n hX (pc := 20) [some (.ref (a 0)), some (.int x1), some (.int y1), some (.int 0), none, none] dX1_enough_20 rfl (by decide) rfl rfl ?_
    refine ol_iconst hX (pc := 21) 1 dX1_enough_21 ol_k_iconst_1 ?_
    refine ol_istore hX (pc := 22) [some (.ref (a 0)), some (.int x1), some (.int y1), some (.int 0), some (.int 1), none] dX1_enough_22 (by decide) rfl rfl ?_
    refine ol_Gdrop 2 ?_
    exact wnX1_enough_L24 hX x1 ol_fuel 0 1 σ h
  · have h := ol_ifn c5 h
    refine ol_aload_n hX (pc := 13) dX1_enough_13 rfl rfl ?_
    refine ol_iload_n hX (pc := 14) dX1_enough_14 rfl rfl ?_
    obtain ⟨y3, e4, h⟩ := ol_of_bd h
    refine ol_cVw (As := [.int y1]) hX (pc := 15) (wX1_refused V a none ext σ y1 y3 e4) lkX1_81 dcX1_refused ol_rr_nX1_enough_X1_refused 0 rfl rfl ⟨Nat.le_refl _, Nat.le_refl _⟩ (Nat.le_of_ble_eq_true rfl) dX1_enough_15 rfl ?_
    have h := ol_of_some h
    subst h
    exact ol_iret hX (pc := 18) dX1_enough_18 ⟨rfl, rfl⟩ ⟨Nat.le_refl _, Nat.le_refl _⟩
set_option maxHeartbeats 4000000 in
theorem wnX1_would (V : ol_Gh) (a : Nat → Nat) (ext : va_W) (σ : ol_Xm) (x1 : Int32)  (z : Int32 × ol_Xm) (h : onX1_would σ x1 = some z) : ol_Mt V yX1_would cX1_would 2 (some .int) ({ frames := 1, cells := 0, slots := 0, locals := 21 } : Room) true [.ref (a 0), .int x1] (ol_Xc V a none σ ++ ext) (ol_Pw (some (.int z.1)) (ol_Xc V a none z.2 ++ ext)) := by
  refine ol_MtOf (L0 := [some (.ref (a 0)), some (.int x1)]) (by decide) (Nat.le_of_ble_eq_true rfl) rfl (fun X A hX => ?_)
  unfold onX1_would at h
  refine ol_aload_n hX (pc := 0) dX1_would_0 rfl rfl ?_
  refine ol_xgq_O_6 hX (pc := 1) q348 dX1_would_1 ?_
  refine ol_ifnonnullN hX (pc := 4) dX1_would_4 ?_
  refine ol_aload_n hX (pc := 7) dX1_would_7 rfl rfl ?_
  refine ol_iconst hX (pc := 8) 1 dX1_would_8 ol_k_iconst_1 ?_
  obtain ⟨y1, e2, h⟩ := ol_of_bd h
  refine ol_cVw (As := [.int 1]) hX (pc := 9) (wX1_refused V a none ext σ 1 y1 e2) lkX1_81 dcX1_refused ol_rr_nX1_would_X1_refused 0 rfl rfl ⟨Nat.le_refl _, Nat.le_refl _⟩ (Nat.le_of_ble_eq_true rfl) dX1_would_9 rfl ?_
  have h := ol_of_some h
  subst h
  exact ol_iret hX (pc := 12) dX1_would_12 ⟨rfl, rfl⟩ ⟨Nat.le_refl _, Nat.le_refl _⟩
set_option maxHeartbeats 4000000 in
theorem wnX1_now (V : ol_Gh) (a : Nat → Nat) (ext : va_W) (σ : ol_Xm) (x1 : Int32)  (z : Int32 × ol_Xm) (h : onX1_now σ x1 = some z) : ol_Mt V yX1_now cX1_now 2 (some .int) ({ frames := 1, cells := 0, slots := 0, locals := 21 } : Room) true [.ref (a 0), .int x1] (ol_Xc V a none σ ++ ext) (ol_Pw (some (.int z.1)) (ol_Xc V a none z.2 ++ ext)) := by
  refine ol_MtOf (L0 := [some (.ref (a 0)), some (.int x1)]) (by decide) (Nat.le_of_ble_eq_true rfl) rfl (fun X A hX => ?_)
  unfold onX1_now at h
  refine ol_aload_n hX (pc := 0) dX1_now_0 rfl rfl ?_
  refine ol_xgq_O_6 hX (pc := 1) q348 dX1_now_1 ?_
  refine ol_ifnullN hX (pc := 4) 29 dX1_now_4 (by decide) ?_
  refine ol_aload_n hX (pc := 29) dX1_now_29 rfl rfl ?_
  refine ol_iconst hX (pc := 30) 1 dX1_now_30 ol_k_iconst_1 ?_
  obtain ⟨y1, e2, h⟩ := ol_of_bd h
  refine ol_cVw (As := [.int 1]) hX (pc := 31) (wX1_refused V a none ext σ 1 y1 e2) lkX1_81 dcX1_refused ol_rr_nX1_now_X1_refused 0 rfl rfl ⟨Nat.le_refl _, Nat.le_refl _⟩ (Nat.le_of_ble_eq_true rfl) dX1_now_31 rfl ?_
  have h := ol_of_some h
  subst h
  exact ol_iret hX (pc := 34) dX1_now_34 ⟨rfl, rfl⟩ ⟨Nat.le_refl _, Nat.le_refl _⟩
set_option maxHeartbeats 4000000 in
theorem wnX1_ledger (V : ol_Gh) (a : Nat → Nat) (ext : va_W) (σ : ol_Xm) (x1 : Int32) (x2 : Int32)  (z : Int32 × ol_Xm) (h : onX1_ledger σ x1 x2 = some z) : ol_Mt V yX1_ledger cX1_ledger 3 (some .int) ({ frames := 1, cells := 0, slots := 0, locals := 22 } : Room) true [.ref (a 0), .int x1, .int x2] (ol_Xc V a none σ ++ ext) (ol_Pw (some (.int z.1)) (ol_Xc V a none z.2 ++ ext)) := by
  refine ol_MtOf (L0 := [some (.ref (a 0)), some (.int x1), some (.int x2)]) (by decide) (Nat.le_of_ble_eq_true rfl) rfl (fun X A hX => ?_)
  unfold onX1_ledger at h
  refine ol_aload_n hX (pc := 0) dX1_ledger_0 rfl rfl ?_
  refine ol_iload_n hX (pc := 1) dX1_ledger_1 rfl rfl ?_
  obtain ⟨y1, e2, h⟩ := ol_of_bd h
  refine ol_cVr (As := [.int x1]) hX (pc := 2) (wnX1_isBoard V a ext σ x1 y1 e2) lkX1_149 dcX1_isBoard ⟨rfl, rfl⟩ ol_rr_nX1_ledger_nX1_isBoard 0 rfl rfl (fun _ h => h) ⟨Nat.le_refl _, Nat.le_refl _⟩ (Nat.le_of_ble_eq_true rfl) dX1_ledger_2 rfl ?_
  refine ol_if_eq hX (pc := 5) 38 dX1_ledger_5 (by decide) (fun c13 => ?_) (fun c13 => ?_)
  · have h := ol_ifp c13 h
    refine ol_aload_n hX (pc := 38) dX1_ledger_38 rfl rfl ?_
    refine ol_iconst hX (pc := 39) 1 dX1_ledger_39 ol_k_iconst_1 ?_
    obtain ⟨y3, e4, h⟩ := ol_of_bd h
    refine ol_cVw (As := [.int 1]) hX (pc := 40) (wX1_refused V a none ext σ 1 y3 e4) lkX1_81 dcX1_refused ol_rr_nX1_ledger_X1_refused 0 rfl rfl ⟨Nat.le_refl _, Nat.le_refl _⟩ (Nat.le_of_ble_eq_true rfl) dX1_ledger_40 rfl ?_
    have h := ol_of_some h
    subst h
    exact ol_iret hX (pc := 43) dX1_ledger_43 ⟨rfl, rfl⟩ ⟨Nat.le_refl _, Nat.le_refl _⟩
  · have h := ol_ifn c13 h
    refine ol_iload_n hX (pc := 8) dX1_ledger_8 rfl rfl ?_
    refine ol_iconst hX (pc := 9) 0 dX1_ledger_9 ol_k_iconst_0 ?_
    refine ol_iconst hX (pc := 10) 5 dX1_ledger_10 ol_k_iconst_5 ?_
    obtain ⟨y5, e6, h⟩ := ol_of_bd h
    refine ol_cSr (As := [.int x2, .int 0, .int 5]) hX (pc := 11) (wX1_isIn V (ol_Xc V a none σ ++ ext) x2 0 5 y5 e6) lkX1_77 dcX1_isIn ⟨rfl, rfl⟩ ol_rr_nX1_ledger_X1_isIn (fun _ h => h) ⟨Nat.le_refl _, Nat.le_refl _⟩ (Nat.le_of_ble_eq_true rfl) dX1_ledger_11 rfl ?_
    refine ol_if_eq hX (pc := 14) 38 dX1_ledger_14 (by decide) (fun c12 => ?_) (fun c12 => ?_)
    · have h := ol_ifp c12 h
      refine ol_aload_n hX (pc := 38) dX1_ledger_38 rfl rfl ?_
      refine ol_iconst hX (pc := 39) 1 dX1_ledger_39 ol_k_iconst_1 ?_
      obtain ⟨y7, e8, h⟩ := ol_of_bd h
      refine ol_cVw (As := [.int 1]) hX (pc := 40) (wX1_refused V a none ext σ 1 y7 e8) lkX1_81 dcX1_refused ol_rr_nX1_ledger_X1_refused 0 rfl rfl ⟨Nat.le_refl _, Nat.le_refl _⟩ (Nat.le_of_ble_eq_true rfl) dX1_ledger_40 rfl ?_
      have h := ol_of_some h
      subst h
      exact ol_iret hX (pc := 43) dX1_ledger_43 ⟨rfl, rfl⟩ ⟨Nat.le_refl _, Nat.le_refl _⟩
    · have h := ol_ifn c12 h
      refine ol_aload_n hX (pc := 17) dX1_ledger_17 rfl rfl ?_
      refine ol_aload_n hX (pc := 18) dX1_ledger_18 rfl rfl ?_
      refine ol_xg_O_7 hX (pc := 19) q350 dX1_ledger_19 ?_
      refine ol_xgN_R_7 hX (pc := 22) ol_isr0 q268 dX1_ledger_22 ?_
      refine ol_bipush hX (pc := 25) 6 dX1_ledger_25 ol_k_bipush_6 ?_
      refine ol_iload_n hX (pc := 27) dX1_ledger_27 rfl rfl ?_
      refine ol_imul hX (pc := 28) dX1_ledger_28 ?_
      refine ol_iload_n hX (pc := 29) dX1_ledger_29 rfl rfl ?_
      refine ol_iadd hX (pc := 30) dX1_ledger_30 ?_
      obtain ⟨g9, h⟩ := ol_of_og h
      refine ol_xl_R7 hX (pc := 31) ol_isr0 dX1_ledger_31 rfl (ol_in_vp g9) ?_
      obtain ⟨y10, e11, h⟩ := ol_of_bd h
      refine ol_cVw (As := [.int (σ.1 (10 + 7) (((6 * x1) + x2).toNatClampNeg))]) hX (pc := 32) (wX1_fine V a none ext σ (σ.1 (10 + 7) (((6 * x1) + x2).toNatClampNeg)) y10 e11) lkX1_125 dcX1_fine ol_rr_nX1_ledger_X1_fine 0 rfl rfl ⟨Nat.le_refl _, Nat.le_refl _⟩ (Nat.le_of_ble_eq_true rfl) dX1_ledger_32 rfl ?_
      refine ol_goto hX (pc := 35) 43 dX1_ledger_35 (by decide) ?_
      have h := ol_of_some h
      subst h
      exact ol_iret hX (pc := 43) dX1_ledger_43 ⟨rfl, rfl⟩ ⟨Nat.le_refl _, Nat.le_refl _⟩
set_option maxHeartbeats 4000000 in
theorem wnX1_past (V : ol_Gh) (a : Nat → Nat) (ext : va_W) (σ : ol_Xm) (x1 : Int32)  (z : Int32 × ol_Xm) (h : onX1_past σ x1 = some z) : ol_Mt V yX1_past cX1_past 2 (some .int) ({ frames := 1, cells := 0, slots := 0, locals := 21 } : Room) true [.ref (a 0), .int x1] (ol_Xc V a none σ ++ ext) (ol_Pw (some (.int z.1)) (ol_Xc V a none z.2 ++ ext)) := by
  refine ol_MtOf (L0 := [some (.ref (a 0)), some (.int x1)]) (by decide) (Nat.le_of_ble_eq_true rfl) rfl (fun X A hX => ?_)
  unfold onX1_past at h
  refine ol_aload_n hX (pc := 0) dX1_past_0 rfl rfl ?_
  refine ol_xgq_O_6 hX (pc := 1) q348 dX1_past_1 ?_
  refine ol_ifnonnullN hX (pc := 4) dX1_past_4 ?_
  refine ol_aload_n hX (pc := 7) dX1_past_7 rfl rfl ?_
  refine ol_iconst hX (pc := 8) 1 dX1_past_8 ol_k_iconst_1 ?_
  obtain ⟨y1, e2, h⟩ := ol_of_bd h
  refine ol_cVw (As := [.int 1]) hX (pc := 9) (wX1_refused V a none ext σ 1 y1 e2) lkX1_81 dcX1_refused ol_rr_nX1_past_X1_refused 0 rfl rfl ⟨Nat.le_refl _, Nat.le_refl _⟩ (Nat.le_of_ble_eq_true rfl) dX1_past_9 rfl ?_
  have h := ol_of_some h
  subst h
  exact ol_iret hX (pc := 12) dX1_past_12 ⟨rfl, rfl⟩ ⟨Nat.le_refl _, Nat.le_refl _⟩
set_option maxHeartbeats 4000000 in
theorem wnX1_idle (V : ol_Gh) (a : Nat → Nat) (ext : va_W) (σ : ol_Xm)  (z : Int32 × ol_Xm) (h : onX1_idle σ = some z) : ol_Mt V yX1_idle cX1_idle 1 (some .int) ({ frames := 1, cells := 0, slots := 0, locals := 21 } : Room) true [.ref (a 0)] (ol_Xc V a none σ ++ ext) (ol_Pw (some (.int z.1)) (ol_Xc V a none z.2 ++ ext)) := by
  refine ol_MtOf (L0 := [some (.ref (a 0))]) (by decide) (Nat.le_of_ble_eq_true rfl) rfl (fun X A hX => ?_)
  unfold onX1_idle at h
  refine ol_aload_n hX (pc := 0) dX1_idle_0 rfl rfl ?_
  refine ol_xgq_O_6 hX (pc := 1) q348 dX1_idle_1 ?_
  refine ol_ifnonnullN hX (pc := 4) dX1_idle_4 ?_
  refine ol_aload_n hX (pc := 7) dX1_idle_7 rfl rfl ?_
  refine ol_iconst hX (pc := 8) 1 dX1_idle_8 ol_k_iconst_1 ?_
  obtain ⟨y1, e2, h⟩ := ol_of_bd h
  refine ol_cVw (As := [.int 1]) hX (pc := 9) (wX1_refused V a none ext σ 1 y1 e2) lkX1_81 dcX1_refused ol_rr_nX1_idle_X1_refused 0 rfl rfl ⟨Nat.le_refl _, Nat.le_refl _⟩ (Nat.le_of_ble_eq_true rfl) dX1_idle_9 rfl ?_
  refine ol_goto hX (pc := 12) 26 dX1_idle_12 (by decide) ?_
  have h := ol_of_some h
  subst h
  exact ol_iret hX (pc := 26) dX1_idle_26 ⟨rfl, rfl⟩ ⟨Nat.le_refl _, Nat.le_refl _⟩
set_option maxHeartbeats 4000000 in
theorem wnX1_waiting (V : ol_Gh) (a : Nat → Nat) (ext : va_W) (σ : ol_Xm) (x1 : Int32)  (z : Int32 × ol_Xm) (h : onX1_waiting σ x1 = some z) : ol_Mt V yX1_waiting cX1_waiting 2 (some .int) ({ frames := 1, cells := 0, slots := 0, locals := 21 } : Room) true [.ref (a 0), .int x1] (ol_Xc V a none σ ++ ext) (ol_Pw (some (.int z.1)) (ol_Xc V a none z.2 ++ ext)) := by
  refine ol_MtOf (L0 := [some (.ref (a 0)), some (.int x1)]) (by decide) (Nat.le_of_ble_eq_true rfl) rfl (fun X A hX => ?_)
  unfold onX1_waiting at h
  refine ol_aload_n hX (pc := 0) dX1_waiting_0 rfl rfl ?_
  refine ol_iload_n hX (pc := 1) dX1_waiting_1 rfl rfl ?_
  obtain ⟨y1, e2, h⟩ := ol_of_bd h
  refine ol_cVr (As := [.int x1]) hX (pc := 2) (wnX1_isBoard V a ext σ x1 y1 e2) lkX1_149 dcX1_isBoard ⟨rfl, rfl⟩ ol_rr_nX1_waiting_nX1_isBoard 0 rfl rfl (fun _ h => h) ⟨Nat.le_refl _, Nat.le_refl _⟩ (Nat.le_of_ble_eq_true rfl) dX1_waiting_2 rfl ?_
  refine ol_if_eq hX (pc := 5) 23 dX1_waiting_5 (by decide) (fun c5 => ?_) (fun c5 => ?_)
  · have h := ol_ifp c5 h
    refine ol_aload_n hX (pc := 23) dX1_waiting_23 rfl rfl ?_
    refine ol_iconst hX (pc := 24) 1 dX1_waiting_24 ol_k_iconst_1 ?_
    obtain ⟨y3, e4, h⟩ := ol_of_bd h
    refine ol_cVw (As := [.int 1]) hX (pc := 25) (wX1_refused V a none ext σ 1 y3 e4) lkX1_81 dcX1_refused ol_rr_nX1_waiting_X1_refused 0 rfl rfl ⟨Nat.le_refl _, Nat.le_refl _⟩ (Nat.le_of_ble_eq_true rfl) dX1_waiting_25 rfl ?_
    have h := ol_of_some h
    subst h
    exact ol_iret hX (pc := 28) dX1_waiting_28 ⟨rfl, rfl⟩ ⟨Nat.le_refl _, Nat.le_refl _⟩
  · have h := ol_ifn c5 h
    refine ol_aload_n hX (pc := 8) dX1_waiting_8 rfl rfl ?_
    refine ol_aload_n hX (pc := 9) dX1_waiting_9 rfl rfl ?_
    refine ol_xg_O_7 hX (pc := 10) q350 dX1_waiting_10 ?_
    refine ol_iload_n hX (pc := 13) dX1_waiting_13 rfl rfl ?_
    exact ol_no h
set_option maxHeartbeats 4000000 in
theorem wnX1_longest (V : ol_Gh) (a : Nat → Nat) (ext : va_W) (σ : ol_Xm)  (z : Int32 × ol_Xm) (h : onX1_longest σ = some z) : ol_Mt V yX1_longest cX1_longest 1 (some .int) ({ frames := 1, cells := 0, slots := 0, locals := 21 } : Room) true [.ref (a 0)] (ol_Xc V a none σ ++ ext) (ol_Pw (some (.int z.1)) (ol_Xc V a none z.2 ++ ext)) := by
  refine ol_MtOf (L0 := [some (.ref (a 0))]) (by decide) (Nat.le_of_ble_eq_true rfl) rfl (fun X A hX => ?_)
  unfold onX1_longest at h
  refine ol_aload_n hX (pc := 0) dX1_longest_0 rfl rfl ?_
  refine ol_xgq_O_6 hX (pc := 1) q348 dX1_longest_1 ?_
  refine ol_ifnonnullN hX (pc := 4) dX1_longest_4 ?_
  refine ol_aload_n hX (pc := 7) dX1_longest_7 rfl rfl ?_
  refine ol_iconst hX (pc := 8) 1 dX1_longest_8 ol_k_iconst_1 ?_
  obtain ⟨y1, e2, h⟩ := ol_of_bd h
  refine ol_cVw (As := [.int 1]) hX (pc := 9) (wX1_refused V a none ext σ 1 y1 e2) lkX1_81 dcX1_refused ol_rr_nX1_longest_X1_refused 0 rfl rfl ⟨Nat.le_refl _, Nat.le_refl _⟩ (Nat.le_of_ble_eq_true rfl) dX1_longest_9 rfl ?_
  refine ol_goto hX (pc := 12) 26 dX1_longest_12 (by decide) ?_
  have h := ol_of_some h
  subst h
  exact ol_iret hX (pc := 26) dX1_longest_26 ⟨rfl, rfl⟩ ⟨Nat.le_refl _, Nat.le_refl _⟩
set_option maxHeartbeats 4000000 in
theorem wnX1_ask (V : ol_Gh) (a : Nat → Nat) (ext : va_W) (σ : ol_Xm) (x1 : Int32) (x2 : Int32)  (z : Int32 × ol_Xm) (h : onX1_ask σ x1 x2 = some z) : ol_Mt V yX1_ask cX1_ask 3 (some .int) ({ frames := 2, cells := 0, slots := 0, locals := 44 } : Room) true [.ref (a 0), .int x1, .int x2] (ol_Xc V a none σ ++ ext) (ol_Pw (some (.int z.1)) (ol_Xc V a none z.2 ++ ext)) := by
  refine ol_MtOf (L0 := [some (.ref (a 0)), some (.int x1), some (.int x2)]) (by decide) (Nat.le_of_ble_eq_true rfl) rfl (fun X A hX => ?_)
  unfold onX1_ask at h
  refine ol_aload_n hX (pc := 0) dX1_ask_0 rfl rfl ?_
  refine ol_iload_n hX (pc := 1) dX1_ask_1 rfl rfl ?_
  obtain ⟨y1, e2, h⟩ := ol_of_bd h
  refine ol_cVr (As := [.int x1]) hX (pc := 2) (wnX1_isBoard V a ext σ x1 y1 e2) lkX1_149 dcX1_isBoard ⟨rfl, rfl⟩ ol_rr_nX1_ask_nX1_isBoard 0 rfl rfl (fun _ h => h) ⟨Nat.le_refl _, Nat.le_refl _⟩ (Nat.le_of_ble_eq_true rfl) dX1_ask_2 rfl ?_
  refine ol_if_ne hX (pc := 5) 14 dX1_ask_5 (by decide) (fun c15 => ?_) (fun c15 => ?_)
  · have h := ol_ifn c15 h
    refine ol_iload_n hX (pc := 14) dX1_ask_14 rfl rfl ?_
    refine ol_iconst hX (pc := 15) 1 dX1_ask_15 ol_k_iconst_1 ?_
    refine ol_bipush hX (pc := 16) 99 dX1_ask_16 ol_k_bipush_99 ?_
    obtain ⟨y3, e4, h⟩ := ol_of_bd h
    refine ol_cSr (As := [.int x2, .int 1, .int 99]) hX (pc := 18) (wX1_isIn V (ol_Xc V a none σ ++ ext) x2 1 99 y3 e4) lkX1_77 dcX1_isIn ⟨rfl, rfl⟩ ol_rr_nX1_ask_X1_isIn (fun _ h => h) ⟨Nat.le_refl _, Nat.le_refl _⟩ (Nat.le_of_ble_eq_true rfl) dX1_ask_18 rfl ?_
    refine ol_if_ne hX (pc := 21) 30 dX1_ask_21 (by decide) (fun c12 => ?_) (fun c12 => ?_)
    · have h := ol_ifn c12 h
      refine ol_aload_n hX (pc := 30) dX1_ask_30 rfl rfl ?_
      refine ol_xg_O_7 hX (pc := 31) q350 dX1_ask_31 ?_
      refine ol_iload_n hX (pc := 34) dX1_ask_34 rfl rfl ?_
      refine ol_iload_n hX (pc := 35) dX1_ask_35 rfl rfl ?_
      obtain ⟨y5, e6, h⟩ := ol_of_bd h
      refine ol_cVw (As := [.int x1, .int x2]) hX (pc := 36) (wX3_hears V a none ext σ 10 x1 x2 ol_isr0 y5 e6) lkX1_325 dcX3_hears ol_rr_nX1_ask_X3_hears 10 (ol_rpos ol_isr0) rfl ⟨Nat.le_refl _, Nat.le_refl _⟩ (Nat.le_of_ble_eq_true rfl) dX1_ask_36 rfl ?_
      refine ol_if_eq hX (pc := 39) 59 dX1_ask_39 (by decide) (fun c9 => ?_) (fun c9 => ?_)
      · have h := ol_ifp c9 h
        refine ol_aload_n hX (pc := 59) dX1_ask_59 rfl rfl ?_
        refine ol_iconst hX (pc := 60) 5 dX1_ask_60 ol_k_iconst_5 ?_
        obtain ⟨y7, e8, h⟩ := ol_of_bd h
        refine ol_cVw (As := [.int 5]) hX (pc := 61) (wX1_refused V a none ext y5.2 5 y7 e8) lkX1_81 dcX1_refused ol_rr_nX1_ask_X1_refused 0 rfl rfl ⟨Nat.le_refl _, Nat.le_refl _⟩ (Nat.le_of_ble_eq_true rfl) dX1_ask_61 rfl ?_
        have h := ol_of_some h
        subst h
        exact ol_iret hX (pc := 64) dX1_ask_64 ⟨rfl, rfl⟩ ⟨Nat.le_refl _, Nat.le_refl _⟩
      · have h := ol_ifn c9 h
        refine ol_aload_n hX (pc := 42) dX1_ask_42 rfl rfl ?_
        refine ol_aload_n hX (pc := 43) dX1_ask_43 rfl rfl ?_
        refine ol_xg_O_7 hX (pc := 44) q350 dX1_ask_44 ?_
        exact ol_no h
    · have h := ol_ifp c12 h
      refine ol_aload_n hX (pc := 24) dX1_ask_24 rfl rfl ?_
      refine ol_iconst hX (pc := 25) 2 dX1_ask_25 ol_k_iconst_2 ?_
      obtain ⟨y10, e11, h⟩ := ol_of_bd h
      refine ol_cVw (As := [.int 2]) hX (pc := 26) (wX1_refused V a none ext σ 2 y10 e11) lkX1_81 dcX1_refused ol_rr_nX1_ask_X1_refused 0 rfl rfl ⟨Nat.le_refl _, Nat.le_refl _⟩ (Nat.le_of_ble_eq_true rfl) dX1_ask_26 rfl ?_
      have h := ol_of_some h
      subst h
      exact ol_iret hX (pc := 29) dX1_ask_29 ⟨rfl, rfl⟩ ⟨Nat.le_refl _, Nat.le_refl _⟩
  · have h := ol_ifp c15 h
    refine ol_aload_n hX (pc := 8) dX1_ask_8 rfl rfl ?_
    refine ol_iconst hX (pc := 9) 1 dX1_ask_9 ol_k_iconst_1 ?_
    obtain ⟨y13, e14, h⟩ := ol_of_bd h
    refine ol_cVw (As := [.int 1]) hX (pc := 10) (wX1_refused V a none ext σ 1 y13 e14) lkX1_81 dcX1_refused ol_rr_nX1_ask_X1_refused 0 rfl rfl ⟨Nat.le_refl _, Nat.le_refl _⟩ (Nat.le_of_ble_eq_true rfl) dX1_ask_10 rfl ?_
    have h := ol_of_some h
    subst h
    exact ol_iret hX (pc := 13) dX1_ask_13 ⟨rfl, rfl⟩ ⟨Nat.le_refl _, Nat.le_refl _⟩
set_option maxHeartbeats 4000000 in
theorem wnX1_waits_L61 {X : ol_Cx} {V : ol_Gh} {A : Nat → Prop} {a : Nat → Nat} {ext : va_W} {z : Int32 × ol_Xm} (hX : ol_CX X V A cX1_waits RX1 "waits" 4 (some .int)) (x1 : Int32) (x2 : Int32)   (σ : ol_Xm) (h : onX1_waits_L61 x1 x2 σ = some z) : ol_G X V A true (ol_Pw (some (.int z.1)) (ol_Xc V a none z.2 ++ ext)) ({ frames := 1, cells := 0, slots := 0, locals := 23 } : Room) 4 0 0 (ol_Xc V a none σ ++ ext) 61 [some (.ref (a 0)), some (.int x1), some (.int x2), none] [] := by
  unfold onX1_waits_L61 at h
  refine ol_aload_n hX (pc := 61) dX1_waits_61 rfl rfl ?_
  refine ol_xg_O_7 hX (pc := 62) q350 dX1_waits_62 ?_
  refine ol_xgN_R_4 hX (pc := 65) ol_isr0 q262 dX1_waits_65 ?_
  refine ol_iload_n hX (pc := 68) dX1_waits_68 rfl rfl ?_
  obtain ⟨g1, h⟩ := ol_of_og h
  refine ol_xl_R4 hX (pc := 69) ol_isr0 dX1_waits_69 rfl (ol_in_vp g1) ?_
  refine ol_istore_n hX (pc := 70) [some (.ref (a 0)), some (.int x1), some (.int x2), some (.int (σ.1 (10 + 4) x1.toNatClampNeg))] dX1_waits_70 rfl (by decide) rfl rfl ?_
  refine ol_aload_n hX (pc := 71) dX1_waits_71 rfl rfl ?_
  obtain ⟨y2, e3, h⟩ := ol_of_bd h
  refine ol_cVw (As := []) hX (pc := 72) (wX1_forgets V a none ext σ y2 e3) lkX1_112 dcX1_forgets ol_rr_nX1_waits_X1_forgets 0 rfl rfl ⟨Nat.le_refl _, Nat.le_refl _⟩ (Nat.le_of_ble_eq_true rfl) dX1_waits_72 rfl ?_
  refine ol_aload_n hX (pc := 75) dX1_waits_75 rfl rfl ?_
  refine ol_xg_O_7 hX (pc := 76) q350 dX1_waits_76 ?_
  refine ol_xgN_R_4 hX (pc := 79) ol_isr0 q262 dX1_waits_79 ?_
  refine ol_iload_n hX (pc := 82) dX1_waits_82 rfl rfl ?_
  refine ol_iload_n hX (pc := 83) dX1_waits_83 rfl rfl ?_
  refine ol_iconst hX (pc := 84) (-1) dX1_waits_84 ol_k_iconst_m1 ?_
  refine ol_icmp_ne hX (pc := 85) 93 dX1_waits_85 (by decide) (fun c10 => ?_) (fun c10 => ?_)
  · have h := ol_ifn c10 h
    refine ol_iload_n hX (pc := 93) dX1_waits_93 rfl rfl ?_
    obtain ⟨g4, h⟩ := ol_of_og h
    refine ol_xw_R4 hX (pc := 94) ol_isr0 dX1_waits_94 rfl (ol_in_vp g4) ?_
    refine ol_aload_n hX (pc := 95) dX1_waits_95 rfl rfl ?_
    refine ol_iload_n hX (pc := 96) dX1_waits_96 rfl rfl ?_
    obtain ⟨y5, e6, h⟩ := ol_of_bd h
    refine ol_cVw (As := [.int (σ.1 (10 + 4) x1.toNatClampNeg)]) hX (pc := 97) (wX1_fine V a none ext (ol_xs y2 (10 + 4) x1.toNatClampNeg x2) (σ.1 (10 + 4) x1.toNatClampNeg) y5 e6) lkX1_125 dcX1_fine ol_rr_nX1_waits_X1_fine 0 rfl rfl ⟨Nat.le_refl _, Nat.le_refl _⟩ (Nat.le_of_ble_eq_true rfl) dX1_waits_97 rfl ?_
    have h := ol_of_some h
    subst h
    exact ol_iret hX (pc := 100) dX1_waits_100 ⟨rfl, rfl⟩ ⟨Nat.le_refl _, Nat.le_refl _⟩
  · have h := ol_ifp c10 h
    refine ol_bipush hX (pc := 88) (-2) dX1_waits_88 ol_k_bipush_m2 ?_
    refine ol_goto hX (pc := 90) 94 dX1_waits_90 (by decide) ?_
    obtain ⟨g7, h⟩ := ol_of_og h
    refine ol_xw_R4 hX (pc := 94) ol_isr0 dX1_waits_94 rfl (ol_in_vp g7) ?_
    refine ol_aload_n hX (pc := 95) dX1_waits_95 rfl rfl ?_
    refine ol_iload_n hX (pc := 96) dX1_waits_96 rfl rfl ?_
    obtain ⟨y8, e9, h⟩ := ol_of_bd h
    refine ol_cVw (As := [.int (σ.1 (10 + 4) x1.toNatClampNeg)]) hX (pc := 97) (wX1_fine V a none ext (ol_xs y2 (10 + 4) x1.toNatClampNeg (-2)) (σ.1 (10 + 4) x1.toNatClampNeg) y8 e9) lkX1_125 dcX1_fine ol_rr_nX1_waits_X1_fine 0 rfl rfl ⟨Nat.le_refl _, Nat.le_refl _⟩ (Nat.le_of_ble_eq_true rfl) dX1_waits_97 rfl ?_
    have h := ol_of_some h
    subst h
    exact ol_iret hX (pc := 100) dX1_waits_100 ⟨rfl, rfl⟩ ⟨Nat.le_refl _, Nat.le_refl _⟩
set_option maxHeartbeats 4000000 in
theorem wnX1_waits_L27 {X : ol_Cx} {V : ol_Gh} {A : Nat → Prop} {a : Nat → Nat} {ext : va_W} {z : Int32 × ol_Xm} (hX : ol_CX X V A cX1_waits RX1 "waits" 4 (some .int)) (x1 : Int32) (x2 : Int32)   (σ : ol_Xm) (h : onX1_waits_L27 x1 x2 σ = some z) : ol_G X V A true (ol_Pw (some (.int z.1)) (ol_Xc V a none z.2 ++ ext)) ({ frames := 1, cells := 0, slots := 0, locals := 23 } : Room) 4 0 0 (ol_Xc V a none σ ++ ext) 27 [some (.ref (a 0)), some (.int x1), some (.int x2), none] [] := by
  unfold onX1_waits_L27 at h
  refine ol_iload_n hX (pc := 27) dX1_waits_27 rfl rfl ?_
  refine ol_iload_n hX (pc := 28) dX1_waits_28 rfl rfl ?_
  refine ol_icmp_ne hX (pc := 29) 38 dX1_waits_29 (by decide) (fun c9 => ?_) (fun c9 => ?_)
  · have h := ol_ifn c9 h
    refine ol_iload_n hX (pc := 38) dX1_waits_38 rfl rfl ?_
    refine ol_iconst hX (pc := 39) (-1) dX1_waits_39 ol_k_iconst_m1 ?_
    refine ol_icmp_eq hX (pc := 40) 61 dX1_waits_40 (by decide) (fun c6 => ?_) (fun c6 => ?_)
    · have h := ol_ifp c6 h
      exact wnX1_waits_L61 hX x1 x2 σ h
    · have h := ol_ifn c6 h
      refine ol_aload_n hX (pc := 43) dX1_waits_43 rfl rfl ?_
      refine ol_xg_O_7 hX (pc := 44) q350 dX1_waits_44 ?_
      refine ol_iload_n hX (pc := 47) dX1_waits_47 rfl rfl ?_
      refine ol_iload_n hX (pc := 48) dX1_waits_48 rfl rfl ?_
      obtain ⟨y1, e2, h⟩ := ol_of_bd h
      refine ol_cVr (As := [.int x2, .int x1]) hX (pc := 49) (wX3_waitsFor V a none ext σ 10 x2 x1 ol_isr0 y1 e2) lkX1_332 dcX3_waitsFor ⟨rfl, rfl⟩ ol_rr_nX1_waits_X3_waitsFor 10 (ol_rpos ol_isr0) rfl (fun _ h => h) ⟨Nat.le_refl _, Nat.le_refl _⟩ (Nat.le_of_ble_eq_true rfl) dX1_waits_49 rfl ?_
      refine ol_if_eq hX (pc := 52) 61 dX1_waits_52 (by decide) (fun c5 => ?_) (fun c5 => ?_)
      · have h := ol_ifp c5 h
        exact wnX1_waits_L61 hX x1 x2 σ h
      · have h := ol_ifn c5 h
        refine ol_aload_n hX (pc := 55) dX1_waits_55 rfl rfl ?_
        refine ol_iconst hX (pc := 56) 5 dX1_waits_56 ol_k_iconst_5 ?_
        obtain ⟨y3, e4, h⟩ := ol_of_bd h
        refine ol_cVw (As := [.int 5]) hX (pc := 57) (wX1_refused V a none ext σ 5 y3 e4) lkX1_81 dcX1_refused ol_rr_nX1_waits_X1_refused 0 rfl rfl ⟨Nat.le_refl _, Nat.le_refl _⟩ (Nat.le_of_ble_eq_true rfl) dX1_waits_57 rfl ?_
        have h := ol_of_some h
        subst h
        exact ol_iret hX (pc := 60) dX1_waits_60 ⟨rfl, rfl⟩ ⟨Nat.le_refl _, Nat.le_refl _⟩
  · have h := ol_ifp c9 h
    refine ol_aload_n hX (pc := 32) dX1_waits_32 rfl rfl ?_
    refine ol_iconst hX (pc := 33) 2 dX1_waits_33 ol_k_iconst_2 ?_
    obtain ⟨y7, e8, h⟩ := ol_of_bd h
    refine ol_cVw (As := [.int 2]) hX (pc := 34) (wX1_refused V a none ext σ 2 y7 e8) lkX1_81 dcX1_refused ol_rr_nX1_waits_X1_refused 0 rfl rfl ⟨Nat.le_refl _, Nat.le_refl _⟩ (Nat.le_of_ble_eq_true rfl) dX1_waits_34 rfl ?_
    have h := ol_of_some h
    subst h
    exact ol_iret hX (pc := 37) dX1_waits_37 ⟨rfl, rfl⟩ ⟨Nat.le_refl _, Nat.le_refl _⟩
set_option maxHeartbeats 4000000 in
theorem wnX1_waits (V : ol_Gh) (a : Nat → Nat) (ext : va_W) (σ : ol_Xm) (x1 : Int32) (x2 : Int32)  (z : Int32 × ol_Xm) (h : onX1_waits σ x1 x2 = some z) : ol_Mt V yX1_waits cX1_waits 4 (some .int) ({ frames := 1, cells := 0, slots := 0, locals := 23 } : Room) true [.ref (a 0), .int x1, .int x2] (ol_Xc V a none σ ++ ext) (ol_Pw (some (.int z.1)) (ol_Xc V a none z.2 ++ ext)) := by
  refine ol_MtOf (L0 := [some (.ref (a 0)), some (.int x1), some (.int x2), none]) (by decide) (Nat.le_of_ble_eq_true rfl) rfl (fun X A hX => ?_)
  unfold onX1_waits at h
  refine ol_aload_n hX (pc := 0) dX1_waits_0 rfl rfl ?_
  refine ol_iload_n hX (pc := 1) dX1_waits_1 rfl rfl ?_
  obtain ⟨y1, e2, h⟩ := ol_of_bd h
  refine ol_cVr (As := [.int x1]) hX (pc := 2) (wnX1_isBoard V a ext σ x1 y1 e2) lkX1_149 dcX1_isBoard ⟨rfl, rfl⟩ ol_rr_nX1_waits_nX1_isBoard 0 rfl rfl (fun _ h => h) ⟨Nat.le_refl _, Nat.le_refl _⟩ (Nat.le_of_ble_eq_true rfl) dX1_waits_2 rfl ?_
  refine ol_if_ne hX (pc := 5) 14 dX1_waits_5 (by decide) (fun c11 => ?_) (fun c11 => ?_)
  · have h := ol_ifn c11 h
    refine ol_iload_n hX (pc := 14) dX1_waits_14 rfl rfl ?_
    refine ol_iconst hX (pc := 15) (-1) dX1_waits_15 ol_k_iconst_m1 ?_
    refine ol_icmp_eq hX (pc := 16) 27 dX1_waits_16 (by decide) (fun c8 => ?_) (fun c8 => ?_)
    · have h := ol_ifp c8 h
      exact wnX1_waits_L27 hX x1 x2 σ h
    · have h := ol_ifn c8 h
      refine ol_aload_n hX (pc := 19) dX1_waits_19 rfl rfl ?_
      refine ol_iload_n hX (pc := 20) dX1_waits_20 rfl rfl ?_
      obtain ⟨y3, e4, h⟩ := ol_of_bd h
      refine ol_cVr (As := [.int x2]) hX (pc := 21) (wnX1_isBoard V a ext σ x2 y3 e4) lkX1_149 dcX1_isBoard ⟨rfl, rfl⟩ ol_rr_nX1_waits_nX1_isBoard 0 rfl rfl (fun _ h => h) ⟨Nat.le_refl _, Nat.le_refl _⟩ (Nat.le_of_ble_eq_true rfl) dX1_waits_21 rfl ?_
      refine ol_if_eq hX (pc := 24) 32 dX1_waits_24 (by decide) (fun c7 => ?_) (fun c7 => ?_)
      · have h := ol_ifp c7 h
        refine ol_aload_n hX (pc := 32) dX1_waits_32 rfl rfl ?_
        refine ol_iconst hX (pc := 33) 2 dX1_waits_33 ol_k_iconst_2 ?_
        obtain ⟨y5, e6, h⟩ := ol_of_bd h
        refine ol_cVw (As := [.int 2]) hX (pc := 34) (wX1_refused V a none ext σ 2 y5 e6) lkX1_81 dcX1_refused ol_rr_nX1_waits_X1_refused 0 rfl rfl ⟨Nat.le_refl _, Nat.le_refl _⟩ (Nat.le_of_ble_eq_true rfl) dX1_waits_34 rfl ?_
        have h := ol_of_some h
        subst h
        exact ol_iret hX (pc := 37) dX1_waits_37 ⟨rfl, rfl⟩ ⟨Nat.le_refl _, Nat.le_refl _⟩
      · have h := ol_ifn c7 h
        exact wnX1_waits_L27 hX x1 x2 σ h
  · have h := ol_ifp c11 h
    refine ol_aload_n hX (pc := 8) dX1_waits_8 rfl rfl ?_
    refine ol_iconst hX (pc := 9) 1 dX1_waits_9 ol_k_iconst_1 ?_
    obtain ⟨y9, e10, h⟩ := ol_of_bd h
    refine ol_cVw (As := [.int 1]) hX (pc := 10) (wX1_refused V a none ext σ 1 y9 e10) lkX1_81 dcX1_refused ol_rr_nX1_waits_X1_refused 0 rfl rfl ⟨Nat.le_refl _, Nat.le_refl _⟩ (Nat.le_of_ble_eq_true rfl) dX1_waits_10 rfl ?_
    have h := ol_of_some h
    subst h
    exact ol_iret hX (pc := 13) dX1_waits_13 ⟨rfl, rfl⟩ ⟨Nat.le_refl _, Nat.le_refl _⟩
set_option maxHeartbeats 4000000 in
theorem wnX1_stick (V : ol_Gh) (a : Nat → Nat) (ext : va_W) (σ : ol_Xm) (x1 : Int32) (x2 : Int32)  (z : Int32 × ol_Xm) (h : onX1_stick σ x1 x2 = some z) : ol_Mt V yX1_stick cX1_stick 4 (some .int) ({ frames := 1, cells := 0, slots := 0, locals := 21 } : Room) true [.ref (a 0), .int x1, .int x2] (ol_Xc V a none σ ++ ext) (ol_Pw (some (.int z.1)) (ol_Xc V a none z.2 ++ ext)) := by
  refine ol_MtOf (L0 := [some (.ref (a 0)), some (.int x1), some (.int x2), none]) (by decide) (Nat.le_of_ble_eq_true rfl) rfl (fun X A hX => ?_)
  unfold onX1_stick at h
  refine ol_aload_n hX (pc := 0) dX1_stick_0 rfl rfl ?_
  refine ol_xgq_O_6 hX (pc := 1) q348 dX1_stick_1 ?_
  refine ol_ifnullN hX (pc := 4) 16 dX1_stick_4 (by decide) ?_
  refine ol_aload_n hX (pc := 16) dX1_stick_16 rfl rfl ?_
  refine ol_iconst hX (pc := 17) 1 dX1_stick_17 ol_k_iconst_1 ?_
  obtain ⟨y1, e2, h⟩ := ol_of_bd h
  refine ol_cVw (As := [.int 1]) hX (pc := 18) (wX1_refused V a none ext σ 1 y1 e2) lkX1_81 dcX1_refused ol_rr_nX1_stick_X1_refused 0 rfl rfl ⟨Nat.le_refl _, Nat.le_refl _⟩ (Nat.le_of_ble_eq_true rfl) dX1_stick_18 rfl ?_
  have h := ol_of_some h
  subst h
  exact ol_iret hX (pc := 21) dX1_stick_21 ⟨rfl, rfl⟩ ⟨Nat.le_refl _, Nat.le_refl _⟩
set_option maxHeartbeats 4000000 in
theorem wnX1_size (V : ol_Gh) (a : Nat → Nat) (ext : va_W) (σ : ol_Xm) (x1 : Int32)  (z : Int32) (h : onX1_size σ x1 = some z) : ol_Mt V yX1_size cX1_size 2 (some .int) ({ frames := 0, cells := 0, slots := 0, locals := 0 } : Room) false [.ref (a 0), .int x1] (ol_Xc V a none σ ++ ext) (ol_Pr (some (.int z))) := by
  refine ol_MtOf (L0 := [some (.ref (a 0)), some (.int x1)]) (by decide) (Nat.le_of_ble_eq_true rfl) rfl (fun X A hX => ?_)
  unfold onX1_size at h
  refine ol_iload_n hX (pc := 0) dX1_size_0 rfl rfl ?_
  by_cases c1 : x1 = 0
  · have h := ol_ifp c1 h
    refine ol_tsw_in hX (pc := 1) 32 dX1_size_1 c1 (by decide) (by decide) rfl (by decide) ?_
    refine ol_aload_n hX (pc := 32) dX1_size_32 rfl rfl ?_
    refine ol_xg_O_4 hX (pc := 33) q346 dX1_size_33 ?_
    have h := ol_of_some h
    subst h
    exact ol_iret hX (pc := 36) dX1_size_36 rfl ⟨Nat.le_refl _, Nat.le_refl _⟩
  · have h := ol_ifn c1 h
    by_cases c2 : x1 = 1
    · have h := ol_ifp c2 h
      refine ol_tsw_in hX (pc := 1) 37 dX1_size_1 c2 (by decide) (by decide) rfl (by decide) ?_
      refine ol_aload_n hX (pc := 37) dX1_size_37 rfl rfl ?_
      refine ol_xgq_O_6 hX (pc := 38) q348 dX1_size_38 ?_
      refine ol_ifnonnullN hX (pc := 41) dX1_size_41 ?_
      refine ol_iconst hX (pc := 44) 0 dX1_size_44 ol_k_iconst_0 ?_
      refine ol_goto hX (pc := 45) 55 dX1_size_45 (by decide) ?_
      have h := ol_of_some h
      subst h
      exact ol_iret hX (pc := 55) dX1_size_55 rfl ⟨Nat.le_refl _, Nat.le_refl _⟩
    · have h := ol_ifn c2 h
      by_cases c4 : x1 = 2
      · have h := ol_ifp c4 h
        refine ol_tsw_in hX (pc := 1) 56 dX1_size_1 c4 (by decide) (by decide) rfl (by decide) ?_
        refine ol_aload_n hX (pc := 56) dX1_size_56 rfl rfl ?_
        refine ol_xg_O_10 hX (pc := 57) q353 dX1_size_57 ?_
        refine ol_if_eq hX (pc := 60) 67 dX1_size_60 (by decide) (fun c3 => ?_) (fun c3 => ?_)
        · have h := ol_ifp c3 h
          refine ol_iconst hX (pc := 67) 0 dX1_size_67 ol_k_iconst_0 ?_
          have h := ol_of_some h
          subst h
          exact ol_iret hX (pc := 68) dX1_size_68 rfl ⟨Nat.le_refl _, Nat.le_refl _⟩
        · have h := ol_ifn c3 h
          refine ol_iconst hX (pc := 63) 1 dX1_size_63 ol_k_iconst_1 ?_
          refine ol_goto hX (pc := 64) 68 dX1_size_64 (by decide) ?_
          have h := ol_of_some h
          subst h
          exact ol_iret hX (pc := 68) dX1_size_68 rfl ⟨Nat.le_refl _, Nat.le_refl _⟩
      · have h := ol_ifn c4 h
        by_cases c5 : x1 = 3
        · have h := ol_ifp c5 h
          refine ol_tsw_in hX (pc := 1) 69 dX1_size_1 c5 (by decide) (by decide) rfl (by decide) ?_
          refine ol_aload_n hX (pc := 69) dX1_size_69 rfl rfl ?_
          refine ol_xgq_O_6 hX (pc := 70) q348 dX1_size_70 ?_
          refine ol_ifnonnullN hX (pc := 73) dX1_size_73 ?_
          refine ol_iconst hX (pc := 76) 0 dX1_size_76 ol_k_iconst_0 ?_
          refine ol_goto hX (pc := 77) 84 dX1_size_77 (by decide) ?_
          have h := ol_of_some h
          subst h
          exact ol_iret hX (pc := 84) dX1_size_84 rfl ⟨Nat.le_refl _, Nat.le_refl _⟩
        · have h := ol_ifn c5 h
          refine ol_tsw_out hX (pc := 1) 85 dX1_size_1 ?_ (by decide) ?_
          · exact ol_sw4 c1 c2 c4 c5
          · refine ol_iconst hX (pc := 85) (-1) dX1_size_85 ol_k_iconst_m1 ?_
            have h := ol_of_some h
            subst h
            exact ol_iret hX (pc := 86) dX1_size_86 rfl ⟨Nat.le_refl _, Nat.le_refl _⟩
set_option maxHeartbeats 4000000 in
theorem wnX1_board (V : ol_Gh) (a : Nat → Nat) (ext : va_W) (σ : ol_Xm) (x1 : Int32) (x2 : Int32)  (z : Int32 × ol_Xm) (h : onX1_board σ x1 x2 = some z) : ol_Mt V yX1_board cX1_board 4 (some .int) ({ frames := 1, cells := 0, slots := 0, locals := 21 } : Room) true [.ref (a 0), .int x1, .int x2] (ol_Xc V a none σ ++ ext) (ol_Pw (some (.int z.1)) (ol_Xc V a none z.2 ++ ext)) := by
  refine ol_MtOf (L0 := [some (.ref (a 0)), some (.int x1), some (.int x2), none]) (by decide) (Nat.le_of_ble_eq_true rfl) rfl (fun X A hX => ?_)
  unfold onX1_board at h
  refine ol_aload_n hX (pc := 0) dX1_board_0 rfl rfl ?_
  refine ol_iload_n hX (pc := 1) dX1_board_1 rfl rfl ?_
  obtain ⟨y1, e2, h⟩ := ol_of_bd h
  refine ol_cVr (As := [.int x1]) hX (pc := 2) (wnX1_isBoard V a ext σ x1 y1 e2) lkX1_149 dcX1_isBoard ⟨rfl, rfl⟩ ol_rr_nX1_board_nX1_isBoard 0 rfl rfl (fun _ h => h) ⟨Nat.le_refl _, Nat.le_refl _⟩ (Nat.le_of_ble_eq_true rfl) dX1_board_2 rfl ?_
  refine ol_if_ne hX (pc := 5) 14 dX1_board_5 (by decide) (fun c5 => ?_) (fun c5 => ?_)
  · have h := ol_ifn c5 h
    refine ol_aload_n hX (pc := 14) dX1_board_14 rfl rfl ?_
    refine ol_xgq_O_6 hX (pc := 15) q348 dX1_board_15 ?_
    refine ol_iload_n hX (pc := 18) dX1_board_18 rfl rfl ?_
    exact ol_no h
  · have h := ol_ifp c5 h
    refine ol_aload_n hX (pc := 8) dX1_board_8 rfl rfl ?_
    refine ol_iconst hX (pc := 9) 1 dX1_board_9 ol_k_iconst_1 ?_
    obtain ⟨y3, e4, h⟩ := ol_of_bd h
    refine ol_cVw (As := [.int 1]) hX (pc := 10) (wX1_refused V a none ext σ 1 y3 e4) lkX1_81 dcX1_refused ol_rr_nX1_board_X1_refused 0 rfl rfl ⟨Nat.le_refl _, Nat.le_refl _⟩ (Nat.le_of_ble_eq_true rfl) dX1_board_10 rfl ?_
    have h := ol_of_some h
    subst h
    exact ol_iret hX (pc := 13) dX1_board_13 ⟨rfl, rfl⟩ ⟨Nat.le_refl _, Nat.le_refl _⟩
