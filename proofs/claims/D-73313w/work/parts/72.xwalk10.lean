/-! walks (printed) -/
set_option maxRecDepth 100000
set_option maxHeartbeats 4000000 in
theorem wnX1_log (V : ol_Gh) (a : Nat → Nat) (ext : va_W) (σ : ol_Xm) (x1 : Int32) (x2 : Int32)  (z : Int32 × ol_Xm) (h : onX1_log σ x1 x2 = some z) : ol_Mt V yX1_log cX1_log 4 (some .int) ({ frames := 1, cells := 0, slots := 0, locals := 21 } : Room) true [.ref (a 0), .int x1, .int x2] (ol_Xc V a none σ ++ ext) (ol_Pw (some (.int z.1)) (ol_Xc V a none z.2 ++ ext)) := by
  refine ol_MtOf (L0 := [some (.ref (a 0)), some (.int x1), some (.int x2), none]) (by decide) (Nat.le_of_ble_eq_true rfl) rfl (fun X A hX => ?_)
  unfold onX1_log at h
  refine ol_aload_n hX (pc := 0) dX1_log_0 rfl rfl ?_
  refine ol_xgq_O_6 hX (pc := 1) q348 dX1_log_1 ?_
  refine ol_ifnullN hX (pc := 4) 27 dX1_log_4 (by decide) ?_
  refine ol_aload_n hX (pc := 27) dX1_log_27 rfl rfl ?_
  refine ol_iconst hX (pc := 28) 1 dX1_log_28 ol_k_iconst_1 ?_
  obtain ⟨y1, e2, h⟩ := ol_of_bd h
  refine ol_cVw (As := [.int 1]) hX (pc := 29) (wX1_refused V a none ext σ 1 y1 e2) lkX1_81 dcX1_refused ol_rr_nX1_log_X1_refused 0 rfl rfl ⟨Nat.le_refl _, Nat.le_refl _⟩ (Nat.le_of_ble_eq_true rfl) dX1_log_29 rfl ?_
  have h := ol_of_some h
  subst h
  exact ol_iret hX (pc := 32) dX1_log_32 ⟨rfl, rfl⟩ ⟨Nat.le_refl _, Nat.le_refl _⟩
set_option maxHeartbeats 4000000 in
theorem wnX1_will (V : ol_Gh) (a : Nat → Nat) (ext : va_W) (σ : ol_Xm) (x1 : Int32) (x2 : Int32)  (z : Int32 × ol_Xm) (h : onX1_will σ x1 x2 = some z) : ol_Mt V yX1_will cX1_will 3 (some .int) ({ frames := 1, cells := 0, slots := 0, locals := 21 } : Room) true [.ref (a 0), .int x1, .int x2] (ol_Xc V a none σ ++ ext) (ol_Pw (some (.int z.1)) (ol_Xc V a none z.2 ++ ext)) := by
  refine ol_MtOf (L0 := [some (.ref (a 0)), some (.int x1), some (.int x2)]) (by decide) (Nat.le_of_ble_eq_true rfl) rfl (fun X A hX => ?_)
  unfold onX1_will at h
  refine ol_aload_n hX (pc := 0) dX1_will_0 rfl rfl ?_
  refine ol_xgq_O_6 hX (pc := 1) q348 dX1_will_1 ?_
  refine ol_ifnullN hX (pc := 4) 14 dX1_will_4 (by decide) ?_
  refine ol_aload_n hX (pc := 14) dX1_will_14 rfl rfl ?_
  refine ol_iconst hX (pc := 15) 1 dX1_will_15 ol_k_iconst_1 ?_
  obtain ⟨y1, e2, h⟩ := ol_of_bd h
  refine ol_cVw (As := [.int 1]) hX (pc := 16) (wX1_refused V a none ext σ 1 y1 e2) lkX1_81 dcX1_refused ol_rr_nX1_will_X1_refused 0 rfl rfl ⟨Nat.le_refl _, Nat.le_refl _⟩ (Nat.le_of_ble_eq_true rfl) dX1_will_16 rfl ?_
  have h := ol_of_some h
  subst h
  exact ol_iret hX (pc := 19) dX1_will_19 ⟨rfl, rfl⟩ ⟨Nat.le_refl _, Nat.le_refl _⟩
set_option maxHeartbeats 4000000 in
theorem wnX1_till (V : ol_Gh) (a : Nat → Nat) (ext : va_W) (σ : ol_Xm) (x1 : Int32)  (z : Int32 × ol_Xm) (h : onX1_till σ x1 = some z) : ol_Mt V yX1_till cX1_till 4 (some .int) ({ frames := 1, cells := 0, slots := 0, locals := 21 } : Room) true [.ref (a 0), .int x1] (ol_Xc V a none σ ++ ext) (ol_Pw (some (.int z.1)) (ol_Xc V a none z.2 ++ ext)) := by
  refine ol_MtOf (L0 := [some (.ref (a 0)), some (.int x1), none, none]) (by decide) (Nat.le_of_ble_eq_true rfl) rfl (fun X A hX => ?_)
  unfold onX1_till at h
  refine ol_aload_n hX (pc := 0) dX1_till_0 rfl rfl ?_
  refine ol_iload_n hX (pc := 1) dX1_till_1 rfl rfl ?_
  obtain ⟨y1, e2, h⟩ := ol_of_bd h
  refine ol_cVr (As := [.int x1]) hX (pc := 2) (wnX1_isBoard V a ext σ x1 y1 e2) lkX1_149 dcX1_isBoard ⟨rfl, rfl⟩ ol_rr_nX1_till_nX1_isBoard 0 rfl rfl (fun _ h => h) ⟨Nat.le_refl _, Nat.le_refl _⟩ (Nat.le_of_ble_eq_true rfl) dX1_till_2 rfl ?_
  refine ol_if_ne hX (pc := 5) 14 dX1_till_5 (by decide) (fun c5 => ?_) (fun c5 => ?_)
  · have h := ol_ifn c5 h
    refine ol_aload_n hX (pc := 14) dX1_till_14 rfl rfl ?_
    refine ol_xg_O_9 hX (pc := 15) q352 dX1_till_15 ?_
    refine ol_aload_n hX (pc := 18) dX1_till_18 rfl rfl ?_
    refine ol_xg_O_7 hX (pc := 19) q350 dX1_till_19 ?_
    exact ol_no h
  · have h := ol_ifp c5 h
    refine ol_aload_n hX (pc := 8) dX1_till_8 rfl rfl ?_
    refine ol_iconst hX (pc := 9) 1 dX1_till_9 ol_k_iconst_1 ?_
    obtain ⟨y3, e4, h⟩ := ol_of_bd h
    refine ol_cVw (As := [.int 1]) hX (pc := 10) (wX1_refused V a none ext σ 1 y3 e4) lkX1_81 dcX1_refused ol_rr_nX1_till_X1_refused 0 rfl rfl ⟨Nat.le_refl _, Nat.le_refl _⟩ (Nat.le_of_ble_eq_true rfl) dX1_till_10 rfl ?_
    have h := ol_of_some h
    subst h
    exact ol_iret hX (pc := 13) dX1_till_13 ⟨rfl, rfl⟩ ⟨Nat.le_refl _, Nat.le_refl _⟩
set_option maxHeartbeats 4000000 in
theorem wnX1_ticks (V : ol_Gh) (a : Nat → Nat) (ext : va_W) (σ : ol_Xm) (x1 : Int32)  (z : Int32 × ol_Xm) (h : onX1_ticks σ x1 = some z) : ol_Mt V yX1_ticks cX1_ticks 2 (some .int) ({ frames := 1, cells := 0, slots := 0, locals := 21 } : Room) true [.ref (a 0), .int x1] (ol_Xc V a none σ ++ ext) (ol_Pw (some (.int z.1)) (ol_Xc V a none z.2 ++ ext)) := by
  refine ol_MtOf (L0 := [some (.ref (a 0)), some (.int x1)]) (by decide) (Nat.le_of_ble_eq_true rfl) rfl (fun X A hX => ?_)
  unfold onX1_ticks at h
  refine ol_aload_n hX (pc := 0) dX1_ticks_0 rfl rfl ?_
  refine ol_xgq_O_6 hX (pc := 1) q348 dX1_ticks_1 ?_
  refine ol_ifnonnullN hX (pc := 4) dX1_ticks_4 ?_
  refine ol_aload_n hX (pc := 7) dX1_ticks_7 rfl rfl ?_
  refine ol_iconst hX (pc := 8) 1 dX1_ticks_8 ol_k_iconst_1 ?_
  obtain ⟨y1, e2, h⟩ := ol_of_bd h
  refine ol_cVw (As := [.int 1]) hX (pc := 9) (wX1_refused V a none ext σ 1 y1 e2) lkX1_81 dcX1_refused ol_rr_nX1_ticks_X1_refused 0 rfl rfl ⟨Nat.le_refl _, Nat.le_refl _⟩ (Nat.le_of_ble_eq_true rfl) dX1_ticks_9 rfl ?_
  have h := ol_of_some h
  subst h
  exact ol_iret hX (pc := 12) dX1_ticks_12 ⟨rfl, rfl⟩ ⟨Nat.le_refl _, Nat.le_refl _⟩
set_option maxHeartbeats 4000000 in
theorem wnX1_keep_L23 {X : ol_Cx} {V : ol_Gh} {A : Nat → Prop} {a : Nat → Nat} {ext : va_W} {z : Int32 × ol_Xm} (hX : ol_CX X V A cX1_keep RX1 "keep" 1 (some .boolean))    (σ : ol_Xm) (h : onX1_keep_L23 σ = some z) : ol_G X V A true (ol_Pw (some (.int z.1)) (ol_Xc V a none z.2 ++ ext)) ({ frames := 1, cells := 0, slots := 0, locals := 21 } : Room) 1 0 0 (ol_Xc V a none σ ++ ext) 23 [some (.ref (a 0))] [] := by
  unfold onX1_keep_L23 at h
  refine ol_aload_n hX (pc := 23) dX1_keep_23 rfl rfl ?_
  refine ol_aload_n hX (pc := 24) dX1_keep_24 rfl rfl ?_
  refine ol_xgq_O_6 hX (pc := 25) q348 dX1_keep_25 ?_
  refine ol_ifnullN hX (pc := 28) 35 dX1_keep_28 (by decide) ?_
  refine ol_iconst hX (pc := 35) 0 dX1_keep_35 ol_k_iconst_0 ?_
  obtain ⟨y1, e2, h⟩ := ol_of_bd h
  refine ol_cVw (As := [.int 0]) hX (pc := 36) (wX1_granted V a none ext σ 0 y1 e2) lkX1_338 dcX1_granted ol_rr_nX1_keep_X1_granted 0 rfl rfl ⟨Nat.le_refl _, Nat.le_refl _⟩ (Nat.le_of_ble_eq_true rfl) dX1_keep_36 rfl ?_
  obtain ⟨gz, h⟩ := ol_of_og h
  have h := ol_of_some h
  subst h
  exact ol_zret hX (pc := 39) dX1_keep_39 (ol_zb_nar gz) ⟨rfl, rfl⟩ ⟨Nat.le_refl _, Nat.le_refl _⟩
set_option maxHeartbeats 4000000 in
theorem wnX1_keep (V : ol_Gh) (a : Nat → Nat) (ext : va_W) (σ : ol_Xm)  (z : Int32 × ol_Xm) (h : onX1_keep σ = some z) : ol_Mt V yX1_keep cX1_keep 1 (some .boolean) ({ frames := 1, cells := 0, slots := 0, locals := 21 } : Room) true [.ref (a 0)] (ol_Xc V a none σ ++ ext) (ol_Pw (some (.int z.1)) (ol_Xc V a none z.2 ++ ext)) := by
  refine ol_MtOf (L0 := [some (.ref (a 0))]) (by decide) (Nat.le_of_ble_eq_true rfl) rfl (fun X A hX => ?_)
  unfold onX1_keep at h
  refine ol_aload_n hX (pc := 0) dX1_keep_0 rfl rfl ?_
  refine ol_xgq_O_6 hX (pc := 1) q348 dX1_keep_1 ?_
  refine ol_ifnullN hX (pc := 4) 23 dX1_keep_4 (by decide) ?_
  exact wnX1_keep_L23 hX σ h
set_option maxHeartbeats 4000000 in
theorem wnX1_back_L18 {X : ol_Cx} {V : ol_Gh} {A : Nat → Prop} {a : Nat → Nat} {ext : va_W} {z : Int32 × ol_Xm} (hX : ol_CX X V A cX1_back RX1 "back" 1 (some .boolean))    (σ : ol_Xm) (h : onX1_back_L18 σ = some z) : ol_G X V A true (ol_Pw (some (.int z.1)) (ol_Xc V a none z.2 ++ ext)) ({ frames := 1, cells := 0, slots := 0, locals := 21 } : Room) 1 0 0 (ol_Xc V a none σ ++ ext) 18 [some (.ref (a 0))] [] := by
  unfold onX1_back_L18 at h
  refine ol_aload_n hX (pc := 18) dX1_back_18 rfl rfl ?_
  obtain ⟨y1, e2, h⟩ := ol_of_bd h
  refine ol_cVw (As := []) hX (pc := 19) (wX1_forgets V a none ext σ y1 e2) lkX1_112 dcX1_forgets ol_rr_nX1_back_X1_forgets 0 rfl rfl ⟨Nat.le_refl _, Nat.le_refl _⟩ (Nat.le_of_ble_eq_true rfl) dX1_back_19 rfl ?_
  refine ol_aload_n hX (pc := 22) dX1_back_22 rfl rfl ?_
  refine ol_aload_n hX (pc := 23) dX1_back_23 rfl rfl ?_
  refine ol_xg_O_10 hX (pc := 24) q353 dX1_back_24 ?_
  obtain ⟨y3, e4, h⟩ := ol_of_bd h
  refine ol_cVw (As := [.int (y1.1 0 10)]) hX (pc := 27) (wX1_granted V a none ext y1 (y1.1 0 10) y3 e4) lkX1_338 dcX1_granted ol_rr_nX1_back_X1_granted 0 rfl rfl ⟨Nat.le_refl _, Nat.le_refl _⟩ (Nat.le_of_ble_eq_true rfl) dX1_back_27 rfl ?_
  obtain ⟨gz, h⟩ := ol_of_og h
  have h := ol_of_some h
  subst h
  exact ol_zret hX (pc := 30) dX1_back_30 (ol_zb_nar gz) ⟨rfl, rfl⟩ ⟨Nat.le_refl _, Nat.le_refl _⟩
set_option maxHeartbeats 4000000 in
theorem wnX1_back (V : ol_Gh) (a : Nat → Nat) (ext : va_W) (σ : ol_Xm)  (z : Int32 × ol_Xm) (h : onX1_back σ = some z) : ol_Mt V yX1_back cX1_back 1 (some .boolean) ({ frames := 1, cells := 0, slots := 0, locals := 21 } : Room) true [.ref (a 0)] (ol_Xc V a none σ ++ ext) (ol_Pw (some (.int z.1)) (ol_Xc V a none z.2 ++ ext)) := by
  refine ol_MtOf (L0 := [some (.ref (a 0))]) (by decide) (Nat.le_of_ble_eq_true rfl) rfl (fun X A hX => ?_)
  unfold onX1_back at h
  refine ol_aload_n hX (pc := 0) dX1_back_0 rfl rfl ?_
  refine ol_xg_O_10 hX (pc := 1) q353 dX1_back_1 ?_
  refine ol_if_eq hX (pc := 4) 18 dX1_back_4 (by decide) (fun c1 => ?_) (fun c1 => ?_)
  · have h := ol_ifp c1 h
    exact wnX1_back_L18 hX σ h
  · have h := ol_ifn c1 h
    refine ol_aload_n hX (pc := 7) dX1_back_7 rfl rfl ?_
    refine ol_xg_O_7 hX (pc := 8) q350 dX1_back_8 ?_
    refine ol_aload_n hX (pc := 11) dX1_back_11 rfl rfl ?_
    refine ol_xg_O_8 hX (pc := 12) q351 dX1_back_12 ?_
    exact ol_no h
