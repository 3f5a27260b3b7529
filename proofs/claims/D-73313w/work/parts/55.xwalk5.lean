/-! walks (printed) -/
set_option maxRecDepth 100000
set_option maxHeartbeats 4000000 in
theorem wX1_refused (V : ol_Gh) (a : Nat → Nat) (r0 : Option Nat) (ext : va_W) (σ : ol_Xm) (x1 : Int32)  (z : Int32 × ol_Xm) (h : oX1_refused σ x1 = some z) : ol_Mt V yX1_refused cX1_refused 2 (some .int) ({ frames := 0, cells := 0, slots := 0, locals := 0 } : Room) true [.ref (a 0), .int x1] (ol_Xc V a r0 σ ++ ext) (ol_Pw (some (.int z.1)) (ol_Xc V a r0 z.2 ++ ext)) := by
  refine ol_MtOf (L0 := [some (.ref (a 0)), some (.int x1)]) (by decide) (Nat.le_of_ble_eq_true rfl) rfl (fun X A hX => ?_)
  unfold oX1_refused at h
  refine ol_aload_n hX (pc := 0) dX1_refused_0 rfl rfl ?_
  refine ol_iload_n hX (pc := 1) dX1_refused_1 rfl rfl ?_
  refine ol_xp_O_1 hX (pc := 2) q342 dX1_refused_2 ?_
  refine ol_aload_n hX (pc := 5) dX1_refused_5 rfl rfl ?_
  refine ol_iconst hX (pc := 6) (-1) dX1_refused_6 ol_k_iconst_m1 ?_
  refine ol_xp_O_2 hX (pc := 7) q343 dX1_refused_7 ?_
  refine ol_iconst hX (pc := 10) (-1) dX1_refused_10 ol_k_iconst_m1 ?_
  have h := ol_of_some h
  subst h
  exact ol_iret hX (pc := 11) dX1_refused_11 ⟨rfl, rfl⟩ ⟨Nat.le_refl _, Nat.le_refl _⟩
set_option maxHeartbeats 4000000 in
theorem wX1_fine (V : ol_Gh) (a : Nat → Nat) (r0 : Option Nat) (ext : va_W) (σ : ol_Xm) (x1 : Int32)  (z : Int32 × ol_Xm) (h : oX1_fine σ x1 = some z) : ol_Mt V yX1_fine cX1_fine 2 (some .int) ({ frames := 0, cells := 0, slots := 0, locals := 0 } : Room) true [.ref (a 0), .int x1] (ol_Xc V a r0 σ ++ ext) (ol_Pw (some (.int z.1)) (ol_Xc V a r0 z.2 ++ ext)) := by
  refine ol_MtOf (L0 := [some (.ref (a 0)), some (.int x1)]) (by decide) (Nat.le_of_ble_eq_true rfl) rfl (fun X A hX => ?_)
  unfold oX1_fine at h
  refine ol_aload_n hX (pc := 0) dX1_fine_0 rfl rfl ?_
  refine ol_iconst hX (pc := 1) 0 dX1_fine_1 ol_k_iconst_0 ?_
  refine ol_xp_O_1 hX (pc := 2) q342 dX1_fine_2 ?_
  refine ol_aload_n hX (pc := 5) dX1_fine_5 rfl rfl ?_
  refine ol_iconst hX (pc := 6) (-1) dX1_fine_6 ol_k_iconst_m1 ?_
  refine ol_xp_O_2 hX (pc := 7) q343 dX1_fine_7 ?_
  refine ol_iload_n hX (pc := 10) dX1_fine_10 rfl rfl ?_
  have h := ol_of_some h
  subst h
  exact ol_iret hX (pc := 11) dX1_fine_11 ⟨rfl, rfl⟩ ⟨Nat.le_refl _, Nat.le_refl _⟩
set_option maxHeartbeats 4000000 in
theorem wX1_granted (V : ol_Gh) (a : Nat → Nat) (r0 : Option Nat) (ext : va_W) (σ : ol_Xm) (x1 : Int32)  (z : Int32 × ol_Xm) (h : oX1_granted σ x1 = some z) : ol_Mt V yX1_granted cX1_granted 2 (some .boolean) ({ frames := 0, cells := 0, slots := 0, locals := 0 } : Room) true [.ref (a 0), .int x1] (ol_Xc V a r0 σ ++ ext) (ol_Pw (some (.int z.1)) (ol_Xc V a r0 z.2 ++ ext)) := by
  refine ol_MtOf (L0 := [some (.ref (a 0)), some (.int x1)]) (by decide) (Nat.le_of_ble_eq_true rfl) rfl (fun X A hX => ?_)
  unfold oX1_granted at h
  refine ol_aload_n hX (pc := 0) dX1_granted_0 rfl rfl ?_
  refine ol_iload_n hX (pc := 1) dX1_granted_1 rfl rfl ?_
  refine ol_if_eq hX (pc := 2) 9 dX1_granted_2 (by decide) (fun c1 => ?_) (fun c1 => ?_)
  · have h := ol_ifp c1 h
    refine ol_iconst hX (pc := 9) 1 dX1_granted_9 ol_k_iconst_1 ?_
    refine ol_xp_O_1 hX (pc := 10) q342 dX1_granted_10 ?_
    refine ol_aload_n hX (pc := 13) dX1_granted_13 rfl rfl ?_
    refine ol_iconst hX (pc := 14) (-1) dX1_granted_14 ol_k_iconst_m1 ?_
    refine ol_xp_O_2 hX (pc := 15) q343 dX1_granted_15 ?_
    refine ol_iload_n hX (pc := 18) dX1_granted_18 rfl rfl ?_
    obtain ⟨gz, h⟩ := ol_of_og h
    have h := ol_of_some h
    subst h
    exact ol_zret hX (pc := 19) dX1_granted_19 (ol_zb_nar gz) ⟨rfl, rfl⟩ ⟨Nat.le_refl _, Nat.le_refl _⟩
  · have h := ol_ifn c1 h
    refine ol_iconst hX (pc := 5) 0 dX1_granted_5 ol_k_iconst_0 ?_
    refine ol_goto hX (pc := 6) 10 dX1_granted_6 (by decide) ?_
    refine ol_xp_O_1 hX (pc := 10) q342 dX1_granted_10 ?_
    refine ol_aload_n hX (pc := 13) dX1_granted_13 rfl rfl ?_
    refine ol_iconst hX (pc := 14) (-1) dX1_granted_14 ol_k_iconst_m1 ?_
    refine ol_xp_O_2 hX (pc := 15) q343 dX1_granted_15 ?_
    refine ol_iload_n hX (pc := 18) dX1_granted_18 rfl rfl ?_
    obtain ⟨gz, h⟩ := ol_of_og h
    have h := ol_of_some h
    subst h
    exact ol_zret hX (pc := 19) dX1_granted_19 (ol_zb_nar gz) ⟨rfl, rfl⟩ ⟨Nat.le_refl _, Nat.le_refl _⟩
set_option maxHeartbeats 4000000 in
theorem wX1_isPass (V : ol_Gh) (ws : va_W) (x1 : Int32)  (z : Int32) (h : oX1_isPass x1 = some z) : ol_Mt V yX1_isPass cX1_isPass 1 (some .boolean) ({ frames := 1, cells := 0, slots := 0, locals := 22 } : Room) false [.int x1] (ws) (ol_Pr (some (.int z))) := by
  refine ol_MtOf (L0 := [some (.int x1)]) (by decide) (Nat.le_of_ble_eq_true rfl) rfl (fun X A hX => ?_)
  unfold oX1_isPass at h
  refine ol_iload_n hX (pc := 0) dX1_isPass_0 rfl rfl ?_
  refine ol_iconst hX (pc := 1) 1 dX1_isPass_1 ol_k_iconst_1 ?_
  refine ol_iconst hX (pc := 2) 2 dX1_isPass_2 ol_k_iconst_2 ?_
  obtain ⟨y1, e2, h⟩ := ol_of_bd h
  refine ol_cSr (As := [.int x1, .int 1, .int 2]) hX (pc := 3) (wX1_isIn V ws x1 1 2 y1 e2) lkX1_77 dcX1_isIn ⟨rfl, rfl⟩ ol_rr_X1_isPass_X1_isIn (fun _ h => h) ⟨Nat.le_refl _, Nat.le_refl _⟩ (Nat.le_of_ble_eq_true rfl) dX1_isPass_3 rfl ?_
  obtain ⟨gz, h⟩ := ol_of_og h
  have h := ol_of_some h
  subst h
  exact ol_zret hX (pc := 6) dX1_isPass_6 (ol_zb_nar gz) rfl ⟨Nat.le_refl _, Nat.le_refl _⟩
set_option maxHeartbeats 4000000 in
theorem wX1_isWhat (V : ol_Gh) (ws : va_W) (x1 : Int32)  (z : Int32) (h : oX1_isWhat x1 = some z) : ol_Mt V yX1_isWhat cX1_isWhat 1 (some .boolean) ({ frames := 1, cells := 0, slots := 0, locals := 22 } : Room) false [.int x1] (ws) (ol_Pr (some (.int z))) := by
  refine ol_MtOf (L0 := [some (.int x1)]) (by decide) (Nat.le_of_ble_eq_true rfl) rfl (fun X A hX => ?_)
  unfold oX1_isWhat at h
  refine ol_iload_n hX (pc := 0) dX1_isWhat_0 rfl rfl ?_
  refine ol_iconst hX (pc := 1) 0 dX1_isWhat_1 ol_k_iconst_0 ?_
  refine ol_bipush hX (pc := 2) 10 dX1_isWhat_2 ol_k_bipush_10 ?_
  obtain ⟨y1, e2, h⟩ := ol_of_bd h
  refine ol_cSr (As := [.int x1, .int 0, .int 10]) hX (pc := 4) (wX1_isIn V ws x1 0 10 y1 e2) lkX1_77 dcX1_isIn ⟨rfl, rfl⟩ ol_rr_X1_isWhat_X1_isIn (fun _ h => h) ⟨Nat.le_refl _, Nat.le_refl _⟩ (Nat.le_of_ble_eq_true rfl) dX1_isWhat_4 rfl ?_
  obtain ⟨gz, h⟩ := ol_of_og h
  have h := ol_of_some h
  subst h
  exact ol_zret hX (pc := 7) dX1_isWhat_7 (ol_zb_nar gz) rfl ⟨Nat.le_refl _, Nat.le_refl _⟩
set_option maxHeartbeats 4000000 in
theorem wX1_fault (V : ol_Gh) (a : Nat → Nat) (r0 : Option Nat) (ext : va_W) (σ : ol_Xm)  (z : Int32) (h : oX1_fault σ = some z) : ol_Mt V yX1_fault cX1_fault 1 (some .int) ({ frames := 0, cells := 0, slots := 0, locals := 0 } : Room) false [.ref (a 0)] (ol_Xc V a r0 σ ++ ext) (ol_Pr (some (.int z))) := by
  refine ol_MtOf (L0 := [some (.ref (a 0))]) (by decide) (Nat.le_of_ble_eq_true rfl) rfl (fun X A hX => ?_)
  unfold oX1_fault at h
  refine ol_aload_n hX (pc := 0) dX1_fault_0 rfl rfl ?_
  refine ol_xg_O_5 hX (pc := 1) q347 dX1_fault_1 ?_
  have h := ol_of_some h
  subst h
  exact ol_iret hX (pc := 4) dX1_fault_4 rfl ⟨Nat.le_refl _, Nat.le_refl _⟩
set_option maxHeartbeats 4000000 in
theorem wX1_where (V : ol_Gh) (a : Nat → Nat) (r0 : Option Nat) (ext : va_W) (σ : ol_Xm)  (z : Int32) (h : oX1_where σ = some z) : ol_Mt V yX1_where cX1_where 1 (some .int) ({ frames := 0, cells := 0, slots := 0, locals := 0 } : Room) false [.ref (a 0)] (ol_Xc V a r0 σ ++ ext) (ol_Pr (some (.int z))) := by
  refine ol_MtOf (L0 := [some (.ref (a 0))]) (by decide) (Nat.le_of_ble_eq_true rfl) rfl (fun X A hX => ?_)
  unfold oX1_where at h
  refine ol_aload_n hX (pc := 0) dX1_where_0 rfl rfl ?_
  refine ol_xg_O_2 hX (pc := 1) q343 dX1_where_1 ?_
  have h := ol_of_some h
  subst h
  exact ol_iret hX (pc := 4) dX1_where_4 rfl ⟨Nat.le_refl _, Nat.le_refl _⟩
set_option maxHeartbeats 4000000 in
theorem wX1_trouble (V : ol_Gh) (a : Nat → Nat) (r0 : Option Nat) (ext : va_W) (σ : ol_Xm)  (z : Int32) (h : oX1_trouble σ = some z) : ol_Mt V yX1_trouble cX1_trouble 1 (some .int) ({ frames := 0, cells := 0, slots := 0, locals := 0 } : Room) false [.ref (a 0)] (ol_Xc V a r0 σ ++ ext) (ol_Pr (some (.int z))) := by
  refine ol_MtOf (L0 := [some (.ref (a 0))]) (by decide) (Nat.le_of_ble_eq_true rfl) rfl (fun X A hX => ?_)
  unfold oX1_trouble at h
  refine ol_aload_n hX (pc := 0) dX1_trouble_0 rfl rfl ?_
  refine ol_xg_O_1 hX (pc := 1) q342 dX1_trouble_1 ?_
  have h := ol_of_some h
  subst h
  exact ol_iret hX (pc := 4) dX1_trouble_4 rfl ⟨Nat.le_refl _, Nat.le_refl _⟩
set_option maxHeartbeats 4000000 in
theorem wX1_feedOne_L3 {X : ol_Cx} {V : ol_Gh} {A : Nat → Prop} {a : Nat → Nat} {r0 : Option Nat} {ext : va_W} {z : ol_Xm} (hX : ol_CX X V A cX1_feedOne RX1 "feedOne" 3 none) (x1 : Int32)    : ∀ (n : Nat), ∀ (v2 : Int32) (σ : ol_Xm), oX1_feedOne_L3 x1 n v2 σ = some z → ol_G X V A true (ol_Pw none (ol_Xc V a r0 z ++ ext)) ({ frames := 0, cells := 0, slots := 0, locals := 0 } : Room) 3 0 0 (ol_Xc V a r0 σ ++ ext) 3 [some (.ref (a 0)), some (.int x1), some (.int v2)] [] := by
  intro n
  induction n with
  | zero =>
    intro v2 σ h
    exact ol_no h
  | succ n ih =>
    intro v2 σ h
    rw [oX1_feedOne_L3] at h
    refine ol_iload_n hX (pc := 3) dX1_feedOne_3 rfl rfl ?_
    refine ol_if_lt hX (pc := 4) 36 dX1_feedOne_4 (by decide) (fun c2 => ?_) (fun c2 => ?_)
    · have h := ol_ifp c2 h
      have h := ol_of_some h
      subst h
      exact ol_vret hX (pc := 36) dX1_feedOne_36 ⟨rfl, rfl⟩ ⟨Nat.le_refl _, Nat.le_refl _⟩
    · have h := ol_ifn c2 h
      refine ol_aload_n hX (pc := 7) dX1_feedOne_7 rfl rfl ?_
      refine ol_xg_O_3 hX (pc := 8) q345 dX1_feedOne_8 ?_
      refine ol_aload_n hX (pc := 11) dX1_feedOne_11 rfl rfl ?_
      refine ol_xg_O_4 hX (pc := 12) q346 dX1_feedOne_12 ?_
      refine ol_iload_n hX (pc := 15) dX1_feedOne_15 rfl rfl ?_
      refine ol_iload_n hX (pc := 16) dX1_feedOne_16 rfl rfl ?_
      refine ol_ishr hX (pc := 17) dX1_feedOne_17 ?_
      refine ol_i2b hX (pc := 18) dX1_feedOne_18 ?_
      obtain ⟨g1, h⟩ := ol_of_og h
      refine ol_xw_1 hX (pc := 19) dX1_feedOne_19 rfl (ol_in_vp g1) ?_
      refine ol_aload_n hX (pc := 20) dX1_feedOne_20 rfl rfl ?_
      refine ol_dup hX (pc := 21) dX1_feedOne_21 rfl ?_
      refine ol_xg_O_4 hX (pc := 22) q346 dX1_feedOne_22 ?_
      refine ol_iconst hX (pc := 25) 1 dX1_feedOne_25 ol_k_iconst_1 ?_
      refine ol_iadd hX (pc := 26) dX1_feedOne_26 ?_
      refine ol_xp_O_4 hX (pc := 27) q346 dX1_feedOne_27 ?_
      refine ol_iinc hX (pc := 30) (v2 + (-8)) [some (.ref (a 0)), some (.int x1), some (.int (v2 + (-8)))] dX1_feedOne_30 rfl (ol_k_iinc_m8 _) (by decide) rfl rfl ?_
      refine ol_goto hX (pc := 33) 3 dX1_feedOne_33 (by decide) ?_
      exact ih (v2 + (-8)) (ol_xs (ol_xs σ 1 ((σ.1 0 4).toNatClampNeg) (vp_nar .byte ((x1 >>> (v2 &&& 31)).toInt8.toInt32))) 0 4 (((ol_xs σ 1 ((σ.1 0 4).toNatClampNeg) (vp_nar .byte ((x1 >>> (v2 &&& 31)).toInt8.toInt32))).1 0 4) + 1)) h
set_option maxHeartbeats 4000000 in
theorem wX1_feedOne (V : ol_Gh) (a : Nat → Nat) (r0 : Option Nat) (ext : va_W) (σ : ol_Xm) (x1 : Int32)  (z : ol_Xm) (h : oX1_feedOne σ x1 = some z) : ol_Mt V yX1_feedOne cX1_feedOne 3 none ({ frames := 0, cells := 0, slots := 0, locals := 0 } : Room) true [.ref (a 0), .int x1] (ol_Xc V a r0 σ ++ ext) (ol_Pw none (ol_Xc V a r0 z ++ ext)) := by
  refine ol_MtOf (L0 := [some (.ref (a 0)), some (.int x1), none]) (by decide) (Nat.le_of_ble_eq_true rfl) rfl (fun X A hX => ?_)
  unfold oX1_feedOne at h
  refine ol_bipush hX (pc := 0) 24 dX1_feedOne_0 ol_k_bipush_24 ?_
  refine ol_istore_n hX (pc := 2) [some (.ref (a 0)), some (.int x1), some (.int 24)] dX1_feedOne_2 rfl (by decide) rfl rfl ?_
  exact wX1_feedOne_L3 hX x1 ol_fuel 24 σ h
set_option maxHeartbeats 4000000 in
theorem wX1_feed (V : ol_Gh) (a : Nat → Nat) (r0 : Option Nat) (ext : va_W) (σ : ol_Xm) (x1 : Int32) (x2 : Int32) (x3 : Int32) (x4 : Int32) (x5 : Int32)  (z : Int32 × ol_Xm) (h : oX1_feed σ x1 x2 x3 x4 x5 = some z) : ol_Mt V yX1_feed cX1_feed 6 (some .int) ({ frames := 1, cells := 0, slots := 0, locals := 22 } : Room) true [.ref (a 0), .int x1, .int x2, .int x3, .int x4, .int x5] (ol_Xc V a r0 σ ++ ext) (ol_Pw (some (.int z.1)) (ol_Xc V a r0 z.2 ++ ext)) := by
  refine ol_MtOf (L0 := [some (.ref (a 0)), some (.int x1), some (.int x2), some (.int x3), some (.int x4), some (.int x5)]) (by decide) (Nat.le_of_ble_eq_true rfl) rfl (fun X A hX => ?_)
  unfold oX1_feed at h
  refine ol_aload_n hX (pc := 0) dX1_feed_0 rfl rfl ?_
  refine ol_xg_O_4 hX (pc := 1) q346 dX1_feed_1 ?_
  refine ol_bipush hX (pc := 4) 20 dX1_feed_4 ol_k_bipush_20 ?_
  refine ol_iadd hX (pc := 6) dX1_feed_6 ?_
  refine ol_sipush hX (pc := 7) 700 dX1_feed_7 ol_k_sipush_700 ?_
  refine ol_icmp_le hX (pc := 10) 15 dX1_feed_10 (by decide) (fun c11 => ?_) (fun c11 => ?_)
  · have h := ol_ifp c11 h
    refine ol_aload_n hX (pc := 15) dX1_feed_15 rfl rfl ?_
    refine ol_iload_n hX (pc := 16) dX1_feed_16 rfl rfl ?_
    obtain ⟨y1, e2, h⟩ := ol_of_bd h
    refine ol_cVw (As := [.int x1]) hX (pc := 17) (wX1_feedOne V a r0 ext σ x1 y1 e2) lkX1_73 dcX1_feedOne ol_rr_X1_feed_X1_feedOne 0 rfl rfl ⟨Nat.le_refl _, Nat.le_refl _⟩ (Nat.le_of_ble_eq_true rfl) dX1_feed_17 rfl ?_
    refine ol_aload_n hX (pc := 20) dX1_feed_20 rfl rfl ?_
    refine ol_iload_n hX (pc := 21) dX1_feed_21 rfl rfl ?_
    obtain ⟨y3, e4, h⟩ := ol_of_bd h
    refine ol_cVw (As := [.int x2]) hX (pc := 22) (wX1_feedOne V a r0 ext y1 x2 y3 e4) lkX1_73 dcX1_feedOne ol_rr_X1_feed_X1_feedOne 0 rfl rfl ⟨Nat.le_refl _, Nat.le_refl _⟩ (Nat.le_of_ble_eq_true rfl) dX1_feed_22 rfl ?_
    refine ol_aload_n hX (pc := 25) dX1_feed_25 rfl rfl ?_
    refine ol_iload_n hX (pc := 26) dX1_feed_26 rfl rfl ?_
    obtain ⟨y5, e6, h⟩ := ol_of_bd h
    refine ol_cVw (As := [.int x3]) hX (pc := 27) (wX1_feedOne V a r0 ext y3 x3 y5 e6) lkX1_73 dcX1_feedOne ol_rr_X1_feed_X1_feedOne 0 rfl rfl ⟨Nat.le_refl _, Nat.le_refl _⟩ (Nat.le_of_ble_eq_true rfl) dX1_feed_27 rfl ?_
    refine ol_aload_n hX (pc := 30) dX1_feed_30 rfl rfl ?_
    refine ol_iload hX (pc := 31) dX1_feed_31 rfl ?_
    obtain ⟨y7, e8, h⟩ := ol_of_bd h
    refine ol_cVw (As := [.int x4]) hX (pc := 33) (wX1_feedOne V a r0 ext y5 x4 y7 e8) lkX1_73 dcX1_feedOne ol_rr_X1_feed_X1_feedOne 0 rfl rfl ⟨Nat.le_refl _, Nat.le_refl _⟩ (Nat.le_of_ble_eq_true rfl) dX1_feed_33 rfl ?_
    refine ol_aload_n hX (pc := 36) dX1_feed_36 rfl rfl ?_
    refine ol_iload hX (pc := 37) dX1_feed_37 rfl ?_
    obtain ⟨y9, e10, h⟩ := ol_of_bd h
    refine ol_cVw (As := [.int x5]) hX (pc := 39) (wX1_feedOne V a r0 ext y7 x5 y9 e10) lkX1_73 dcX1_feedOne ol_rr_X1_feed_X1_feedOne 0 rfl rfl ⟨Nat.le_refl _, Nat.le_refl _⟩ (Nat.le_of_ble_eq_true rfl) dX1_feed_39 rfl ?_
    refine ol_aload_n hX (pc := 42) dX1_feed_42 rfl rfl ?_
    refine ol_xg_O_4 hX (pc := 43) q346 dX1_feed_43 ?_
    have h := ol_of_some h
    subst h
    exact ol_iret hX (pc := 46) dX1_feed_46 ⟨rfl, rfl⟩ ⟨Nat.le_refl _, Nat.le_refl _⟩
  · have h := ol_ifn c11 h
    refine ol_iconst hX (pc := 13) (-1) dX1_feed_13 ol_k_iconst_m1 ?_
    have h := ol_of_some h
    subst h
    exact ol_iret hX (pc := 14) dX1_feed_14 ⟨rfl, rfl⟩ ⟨Nat.le_refl _, Nat.le_refl _⟩
set_option maxHeartbeats 4000000 in
theorem wX1_unwhole_L4 {X : ol_Cx} {V : ol_Gh} {A : Nat → Prop} {a : Nat → Nat} {r0 : Option Nat} {ext : va_W} {z : Int32} (hX : ol_CX X V A cX1_unwhole RX1 "unwhole" 3 (some .int)) (σ : ol_Xm)    : ∀ (n : Nat), ∀ (v1 : Int32) (v2 : Int32), oX1_unwhole_L4 σ n v1 v2 = some z → ol_G X V A false (ol_Pr (some (.int z))) ({ frames := 0, cells := 0, slots := 0, locals := 0 } : Room) 3 0 0 (ol_Xc V a r0 σ ++ ext) 4 [some (.ref (a 0)), some (.int v1), some (.int v2)] [] := by
  intro n
  induction n with
  | zero =>
    intro v1 v2 h
    exact ol_no h
  | succ n ih =>
    intro v1 v2 h
    rw [oX1_unwhole_L4] at h
    refine ol_iload_n hX (pc := 4) dX1_unwhole_4 rfl rfl ?_
    refine ol_bipush hX (pc := 5) 6 dX1_unwhole_5 ol_k_bipush_6 ?_
    refine ol_icmp_ge hX (pc := 7) 31 dX1_unwhole_7 (by decide) (fun c3 => ?_) (fun c3 => ?_)
    · have h := ol_ifp c3 h
      refine ol_iload_n hX (pc := 31) dX1_unwhole_31 rfl rfl ?_
      have h := ol_of_some h
      subst h
      exact ol_iret hX (pc := 32) dX1_unwhole_32 rfl ⟨Nat.le_refl _, Nat.le_refl _⟩
    · have h := ol_ifn c3 h
      refine ol_aload_n hX (pc := 10) dX1_unwhole_10 rfl rfl ?_
      refine ol_xg_O_7 hX (pc := 11) q350 dX1_unwhole_11 ?_
      refine ol_xgN_R_5 hX (pc := 14) ol_isr0 q264 dX1_unwhole_14 ?_
      refine ol_iload_n hX (pc := 17) dX1_unwhole_17 rfl rfl ?_
      obtain ⟨g1, h⟩ := ol_of_og h
      refine ol_xl_R5 hX (pc := 18) ol_isr0 dX1_unwhole_18 rfl (ol_in_vp g1) ?_
      refine ol_if_eq hX (pc := 19) 25 dX1_unwhole_19 (by decide) (fun c2 => ?_) (fun c2 => ?_)
      · have h := ol_ifp c2 h
        refine ol_iinc hX (pc := 25) (v2 + 1) [some (.ref (a 0)), some (.int v1), some (.int (v2 + 1))] dX1_unwhole_25 rfl (ol_k_iinc_1 _) (by decide) rfl rfl ?_
        refine ol_goto hX (pc := 28) 4 dX1_unwhole_28 (by decide) ?_
        exact ih v1 (v2 + 1) h
      · have h := ol_ifn c2 h
        refine ol_iinc hX (pc := 22) (v1 + 1) [some (.ref (a 0)), some (.int (v1 + 1)), some (.int v2)] dX1_unwhole_22 rfl (ol_k_iinc_1 _) (by decide) rfl rfl ?_
        refine ol_iinc hX (pc := 25) (v2 + 1) [some (.ref (a 0)), some (.int (v1 + 1)), some (.int (v2 + 1))] dX1_unwhole_25 rfl (ol_k_iinc_1 _) (by decide) rfl rfl ?_
        refine ol_goto hX (pc := 28) 4 dX1_unwhole_28 (by decide) ?_
        exact ih (v1 + 1) (v2 + 1) h
set_option maxHeartbeats 4000000 in
theorem wX1_unwhole (V : ol_Gh) (a : Nat → Nat) (r0 : Option Nat) (ext : va_W) (σ : ol_Xm)  (z : Int32) (h : oX1_unwhole σ = some z) : ol_Mt V yX1_unwhole cX1_unwhole 3 (some .int) ({ frames := 0, cells := 0, slots := 0, locals := 0 } : Room) false [.ref (a 0)] (ol_Xc V a r0 σ ++ ext) (ol_Pr (some (.int z))) := by
  refine ol_MtOf (L0 := [some (.ref (a 0)), none, none]) (by decide) (Nat.le_of_ble_eq_true rfl) rfl (fun X A hX => ?_)
  unfold oX1_unwhole at h
  refine ol_iconst hX (pc := 0) 0 dX1_unwhole_0 ol_k_iconst_0 ?_
  refine ol_istore_n hX (pc := 1) [some (.ref (a 0)), some (.int 0), none] dX1_unwhole_1 rfl (by decide) rfl rfl ?_
  refine ol_iconst hX (pc := 2) 0 dX1_unwhole_2 ol_k_iconst_0 ?_
  refine ol_istore_n hX (pc := 3) [some (.ref (a 0)), some (.int 0), some (.int 0)] dX1_unwhole_3 rfl (by decide) rfl rfl ?_
  exact wX1_unwhole_L4 hX σ ol_fuel 0 0 h
