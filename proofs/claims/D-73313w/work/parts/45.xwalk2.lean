/-! walks of the run, I (printed) -/
set_option maxRecDepth 100000
set_option maxHeartbeats 4000000 in
theorem wX3_waitsFor_L7 {X : ol_Cx} {V : ol_Gh} {A : Nat → Prop} {a : Nat → Nat} {r0 : Option Nat} {ext : va_W} {z : Int32} (hX : ol_CX X V A cX3_waitsFor RX3 "waitsFor" 4 (some .boolean)) (σ : ol_Xm) (r : Nat) (x1 : Int32) (x2 : Int32) (hr : ol_isr r)   : ∀ (n : Nat), ∀ (v3 : Int32), oX3_waitsFor_L7 σ r x1 x2 n v3 = some z → ol_G X V A false (ol_Pr (some (.int z))) ({ frames := 0, cells := 0, slots := 0, locals := 0 } : Room) 4 0 0 (ol_Xc V a r0 σ ++ ext) 7 [some (.ref (a r)), none, some (.int x2), some (.int v3)] [] := by
  intro n
  induction n with
  | zero =>
    intro v3 h
    exact ol_no h
  | succ n ih =>
    intro v3 h
    rw [oX3_waitsFor_L7] at h
    refine ol_iload_n hX (pc := 7) dX3_waitsFor_7 rfl rfl ?_
    refine ol_bipush hX (pc := 8) (-2) dX3_waitsFor_8 ol_k_bipush_m2 ?_
    refine ol_icmp_eq hX (pc := 10) 28 dX3_waitsFor_10 (by decide) (fun c5 => ?_) (fun c5 => ?_)
    · have h := ol_ifp c5 h
      refine ol_iload_n hX (pc := 28) dX3_waitsFor_28 rfl rfl ?_
      refine ol_iload_n hX (pc := 29) dX3_waitsFor_29 rfl rfl ?_
      refine ol_icmp_ne hX (pc := 30) 37 dX3_waitsFor_30 (by decide) (fun c1 => ?_) (fun c1 => ?_)
      · have h := ol_ifn c1 h
        refine ol_iconst hX (pc := 37) 0 dX3_waitsFor_37 ol_k_iconst_0 ?_
        have h := ol_of_some h
        subst h
        exact ol_zret hX (pc := 38) dX3_waitsFor_38 (by rfl) rfl ⟨Nat.le_refl _, Nat.le_refl _⟩
      · have h := ol_ifp c1 h
        refine ol_iconst hX (pc := 33) 1 dX3_waitsFor_33 ol_k_iconst_1 ?_
        refine ol_goto hX (pc := 34) 38 dX3_waitsFor_34 (by decide) ?_
        have h := ol_of_some h
        subst h
        exact ol_zret hX (pc := 38) dX3_waitsFor_38 (by rfl) rfl ⟨Nat.le_refl _, Nat.le_refl _⟩
    · have h := ol_ifn c5 h
      refine ol_iload_n hX (pc := 13) dX3_waitsFor_13 rfl rfl ?_
      refine ol_iload_n hX (pc := 14) dX3_waitsFor_14 rfl rfl ?_
      refine ol_icmp_eq hX (pc := 15) 28 dX3_waitsFor_15 (by decide) (fun c4 => ?_) (fun c4 => ?_)
      · have h := ol_ifp c4 h
        refine ol_iload_n hX (pc := 28) dX3_waitsFor_28 rfl rfl ?_
        refine ol_iload_n hX (pc := 29) dX3_waitsFor_29 rfl rfl ?_
        refine ol_icmp_ne hX (pc := 30) 37 dX3_waitsFor_30 (by decide) (fun c2 => ?_) (fun c2 => ?_)
        · have h := ol_ifn c2 h
          refine ol_iconst hX (pc := 37) 0 dX3_waitsFor_37 ol_k_iconst_0 ?_
          have h := ol_of_some h
          subst h
          exact ol_zret hX (pc := 38) dX3_waitsFor_38 (by rfl) rfl ⟨Nat.le_refl _, Nat.le_refl _⟩
        · have h := ol_ifp c2 h
          refine ol_iconst hX (pc := 33) 1 dX3_waitsFor_33 ol_k_iconst_1 ?_
          refine ol_goto hX (pc := 34) 38 dX3_waitsFor_34 (by decide) ?_
          have h := ol_of_some h
          subst h
          exact ol_zret hX (pc := 38) dX3_waitsFor_38 (by rfl) rfl ⟨Nat.le_refl _, Nat.le_refl _⟩
      · have h := ol_ifn c4 h
        refine ol_aload_n hX (pc := 18) dX3_waitsFor_18 rfl rfl ?_
        refine ol_xg_R_4 hX (pc := 19) hr q261 dX3_waitsFor_19 ?_
        refine ol_iload_n hX (pc := 22) dX3_waitsFor_22 rfl rfl ?_
        obtain ⟨g3, h⟩ := ol_of_og h
        refine ol_xl_R4 hX (pc := 23) hr dX3_waitsFor_23 rfl (ol_in_vp g3) ?_
        refine ol_istore_n hX (pc := 24) [some (.ref (a r)), none, some (.int x2), some (.int (σ.1 (r + 4) v3.toNatClampNeg))] dX3_waitsFor_24 rfl (by decide) rfl rfl ?_
        refine ol_goto hX (pc := 25) 7 dX3_waitsFor_25 (by decide) ?_
        exact ih (σ.1 (r + 4) v3.toNatClampNeg) h
set_option maxHeartbeats 4000000 in
theorem wX3_waitsFor (V : ol_Gh) (a : Nat → Nat) (r0 : Option Nat) (ext : va_W) (σ : ol_Xm) (r : Nat) (x1 : Int32) (x2 : Int32) (hr : ol_isr r) (z : Int32) (h : oX3_waitsFor σ r x1 x2 = some z) : ol_Mt V yX3_waitsFor cX3_waitsFor 4 (some .boolean) ({ frames := 0, cells := 0, slots := 0, locals := 0 } : Room) false [.ref (a r), .int x1, .int x2] (ol_Xc V a r0 σ ++ ext) (ol_Pr (some (.int z))) := by
  refine ol_MtOf (L0 := [some (.ref (a r)), some (.int x1), some (.int x2), none]) (by decide) (Nat.le_of_ble_eq_true rfl) rfl (fun X A hX => ?_)
  unfold oX3_waitsFor at h
  refine ol_aload_n hX (pc := 0) dX3_waitsFor_0 rfl rfl ?_
  refine ol_xg_R_4 hX (pc := 1) hr q261 dX3_waitsFor_1 ?_
  refine ol_iload_n hX (pc := 4) dX3_waitsFor_4 rfl rfl ?_
  obtain ⟨g1, h⟩ := ol_of_og h
  refine ol_xl_R4 hX (pc := 5) hr dX3_waitsFor_5 rfl (ol_in_vp g1) ?_
  refine ol_istore_n hX (pc := 6) [some (.ref (a r)), some (.int x1), some (.int x2), some (.int (σ.1 (r + 4) x1.toNatClampNeg))] dX3_waitsFor_6 rfl (by decide) rfl rfl ?_
  refine ol_Gdrop 1 ?_
  exact wX3_waitsFor_L7 hX σ r x1 x2 hr ol_fuel (σ.1 (r + 4) x1.toNatClampNeg) h
set_option maxHeartbeats 4000000 in
theorem wX9_ofTheDay_L8 {X : ol_Cx} {V : ol_Gh} {A : Nat → Prop} {a : Nat → Nat} {r0 : Option Nat} {ext : va_W} {g : Nat → Nat → Nat} {z : Int32} (hX : ol_CX X V A cX9_ofTheDay RX9 "ofTheDay" 4 (some .int)) (σ : ol_Xm) (β : ol_Bd) (r1 : Nat) (x0 : Nat) (hr1 : ol_isr r1)   : ∀ (n : Nat), ∀ (v2 : Int32) (v3 : Int32), oX9_ofTheDay_L8 σ β (g 0 0) r1 x0 n v2 v3 = some z → ol_G X V A false (ol_Pr (some (.int z))) ({ frames := 4, cells := 0, slots := 0, locals := 100 } : Room) 4 0 0 (ol_Xc V a r0 σ ++ (ol_WB V g β ++ ext)) 8 [some (.ref (g 1 x0)), some (.ref (a r1)), some (.int v2), some (.int v3)] [] := by
  intro n
  induction n with
  | zero =>
    intro v2 v3 h
    exact ol_no h
  | succ n ih =>
    intro v2 v3 h
    rw [oX9_ofTheDay_L8] at h
    refine ol_iload_n hX (pc := 8) dX9_ofTheDay_8 rfl rfl ?_
    refine ol_aload_n hX (pc := 9) dX9_ofTheDay_9 rfl rfl ?_
    obtain ⟨g1, h⟩ := ol_of_og h
    refine ol_xgN_R_0 hX (pc := 10) hr1 q255 (of_decide_eq_true g1) dX9_ofTheDay_10 ?_
    refine ol_cVr (As := []) hX (pc := 13) (wX6_many V g β _ ol_hB_X) lkX9_33 dcX6_many ⟨rfl, rfl⟩ ⟨(Nat.le_of_ble_eq_true rfl), (Nat.le_of_ble_eq_true rfl)⟩ 37 rfl rfl (fun _ h => h) ⟨Nat.le_refl _, Nat.le_refl _⟩ (Nat.le_of_ble_eq_true rfl) dX9_ofTheDay_13 rfl ?_
    refine ol_icmp_ge hX (pc := 16) 53 dX9_ofTheDay_16 (by decide) (fun c10 => ?_) (fun c10 => ?_)
    · have h := ol_ifp c10 h
      refine ol_iload_n hX (pc := 53) dX9_ofTheDay_53 rfl rfl ?_
      have h := ol_of_some h
      subst h
      exact ol_iret hX (pc := 54) dX9_ofTheDay_54 rfl ⟨Nat.le_refl _, Nat.le_refl _⟩
    · have h := ol_ifn c10 h
      refine ol_aload_n hX (pc := 19) dX9_ofTheDay_19 rfl rfl ?_
      refine ol_iload_n hX (pc := 20) dX9_ofTheDay_20 rfl rfl ?_
      refine ol_aload_n hX (pc := 21) dX9_ofTheDay_21 rfl rfl ?_
      obtain ⟨g2, h⟩ := ol_of_og h
      refine ol_getM hX in_X9 (pc := 22) (ol_hB_X.brd (ol_nb_lt g2)) rfl 2 (by decide) q1139 rfl rfl dX9_ofTheDay_22 ?_
      obtain ⟨y3, e4, h⟩ := ol_of_bd h
      refine ol_cVr (As := [.int v3, .int (nI x0)]) hX (pc := 25) (wX3_waitsFor V a r0 (ol_WB V g β ++ ext) σ r1 v3 (nI x0) hr1 y3 e4) lkX9_39 dcX3_waitsFor ⟨rfl, rfl⟩ ol_rr_X9_ofTheDay_X3_waitsFor r1 (ol_rpos hr1) rfl (fun _ h => h) ⟨Nat.le_refl _, Nat.le_refl _⟩ (Nat.le_of_ble_eq_true rfl) dX9_ofTheDay_25 rfl ?_
      refine ol_if_eq hX (pc := 28) 47 dX9_ofTheDay_28 (by decide) (fun c9 => ?_) (fun c9 => ?_)
      · have h := ol_ifp c9 h
        refine ol_iinc hX (pc := 47) (v3 + 1) [some (.ref (g 1 x0)), some (.ref (a r1)), some (.int v2), some (.int (v3 + 1))] dX9_ofTheDay_47 rfl (ol_k_iinc_1 _) (by decide) rfl rfl ?_
        refine ol_goto hX (pc := 50) 8 dX9_ofTheDay_50 (by decide) ?_
        exact ih v2 (v3 + 1) h
      · have h := ol_ifn c9 h
        refine ol_iload_n hX (pc := 31) dX9_ofTheDay_31 rfl rfl ?_
        refine ol_aload_n hX (pc := 32) dX9_ofTheDay_32 rfl rfl ?_
        obtain ⟨g5, h⟩ := ol_of_og h
        refine ol_xgN_R_0 hX (pc := 33) hr1 q255 (of_decide_eq_true g5) dX9_ofTheDay_33 ?_
        refine ol_iload_n hX (pc := 36) dX9_ofTheDay_36 rfl rfl ?_
        obtain ⟨g6, h⟩ := ol_of_og h
        refine ol_cVr (As := [.int v3]) hX (pc := 37) (wX6_board V g β _ ol_hB_X v3 g6) lkX9_43 dcX6_board ⟨rfl, rfl⟩ ⟨(Nat.le_of_ble_eq_true rfl), (Nat.le_of_ble_eq_true rfl)⟩ 37 rfl rfl (fun _ h => h) ⟨Nat.le_refl _, Nat.le_refl _⟩ (Nat.le_of_ble_eq_true rfl) dX9_ofTheDay_37 rfl ?_
        refine ol_cUr (As := []) hX (pc := 40) (wX8_own V _ _ _ _ _ _ _ (ol_hB_X.brd (ol_ib_lt g6))) (lw_U q1490 q1463 q1465 q1466 q130 q1467) rfl (by decide +kernel) ⟨rfl, rfl⟩ ⟨(Nat.le_of_ble_eq_true rfl), (Nat.le_of_ble_eq_true rfl)⟩ (ol_hB_X.brd (ol_ib_lt g6)) rfl (fun _ h => h) ⟨Nat.le_refl _, Nat.le_refl _⟩ (Nat.le_of_ble_eq_true rfl) dX9_ofTheDay_40 rfl ?_
        refine ol_max hX (pc := 43) q1491 q1182 q126 q1183 (Nat.le_of_ble_eq_true rfl) (Nat.le_of_ble_eq_true rfl) ⟨Nat.le_refl _, Nat.le_refl _⟩ dX9_ofTheDay_43 ?_
        obtain ⟨y7, e8, h⟩ := ol_of_lt h
        refine ol_topE e8 ?_
        refine ol_istore_n hX (pc := 46) [some (.ref (g 1 x0)), some (.ref (a r1)), some (.int y7), some (.int v3)] dX9_ofTheDay_46 rfl (by decide) rfl rfl ?_
        refine ol_iinc hX (pc := 47) (v3 + 1) [some (.ref (g 1 x0)), some (.ref (a r1)), some (.int y7), some (.int (v3 + 1))] dX9_ofTheDay_47 rfl (ol_k_iinc_1 _) (by decide) rfl rfl ?_
        refine ol_goto hX (pc := 50) 8 dX9_ofTheDay_50 (by decide) ?_
        exact ih y7 (v3 + 1) h
set_option maxHeartbeats 4000000 in
theorem wX9_ofTheDay (V : ol_Gh) (a : Nat → Nat) (r0 : Option Nat) (ext : va_W) (g : Nat → Nat → Nat) (σ : ol_Xm) (β : ol_Bd) (r1 : Nat) (x0 : Nat) (hr1 : ol_isr r1) (z : Int32) (h : oX9_ofTheDay σ β (g 0 0) r1 x0 = some z) : ol_Mt V yX9_ofTheDay cX9_ofTheDay 4 (some .int) ({ frames := 4, cells := 0, slots := 0, locals := 100 } : Room) false [.ref (g 1 x0), .ref (a r1)] (ol_Xc V a r0 σ ++ (ol_WB V g β ++ ext)) (ol_Pr (some (.int z))) := by
  refine ol_MtOf (L0 := [some (.ref (g 1 x0)), some (.ref (a r1)), none, none]) (by decide) (Nat.le_of_ble_eq_true rfl) rfl (fun X A hX => ?_)
  unfold oX9_ofTheDay at h
  refine ol_aload_n hX (pc := 0) dX9_ofTheDay_0 rfl rfl ?_
  refine ol_aload_n hX (pc := 1) dX9_ofTheDay_1 rfl rfl ?_
  obtain ⟨g1, h⟩ := ol_of_og h
  refine ol_superOf hX (ol_hB_X.brd (ol_nb_lt g1)) (Nat.le_of_ble_eq_true rfl) (Nat.le_of_ble_eq_true rfl) ⟨Nat.le_refl _, Nat.le_refl _⟩ (Nat.le_of_ble_eq_true rfl) ?_
  refine ol_istore_n hX (pc := 5) [some (.ref (g 1 x0)), some (.ref (a r1)), some (.int (β.1 1 x0)), none] dX9_ofTheDay_5 rfl (by decide) rfl rfl ?_
  refine ol_iconst hX (pc := 6) 0 dX9_ofTheDay_6 ol_k_iconst_0 ?_
  refine ol_istore_n hX (pc := 7) [some (.ref (g 1 x0)), some (.ref (a r1)), some (.int (β.1 1 x0)), some (.int 0)] dX9_ofTheDay_7 rfl (by decide) rfl rfl ?_
  exact wX9_ofTheDay_L8 hX σ β r1 x0 hr1 ol_fuel (β.1 1 x0) 0 h
set_option maxHeartbeats 4000000 in
theorem wX1_firstWord (V : ol_Gh) (a : Nat → Nat) (r0 : Option Nat) (ext : va_W) (g : Nat → Nat → Nat) (σ : ol_Xm) (β : ol_Bd) (r1 : Nat) (x2 : Nat) (hr1 : ol_isr r1) (z : Int32) (h : oX1_firstWord σ β (g 0 0) r1 x2 = some z) : ol_Mt V yX1_firstWord cX1_firstWord 2 (some .int) ({ frames := 5, cells := 0, slots := 0, locals := 123 } : Room) false [.ref (a r1), .ref (g 1 x2)] (ol_Xc V a r0 σ ++ (ol_WB V g β ++ ext)) (ol_Pr (some (.int z))) := by
  refine ol_MtOf (L0 := [some (.ref (a r1)), some (.ref (g 1 x2))]) (by decide) (Nat.le_of_ble_eq_true rfl) rfl (fun X A hX => ?_)
  unfold oX1_firstWord at h
  refine ol_aload_n hX (pc := 0) dX1_firstWord_0 rfl rfl ?_
  refine ol_aload_n hX (pc := 1) dX1_firstWord_1 rfl rfl ?_
  obtain ⟨g3, h⟩ := ol_of_og h
  obtain ⟨y1, e2, h⟩ := ol_of_bd h
  refine ol_cVrM (As := [.ref (a r1)]) hX (pc := 2) (wX9_ofTheDay V a r0 ext g σ β r1 x2 hr1 y1 e2) lkX1_9 dcX9_ofTheDay ⟨rfl, rfl⟩ ol_rr_X1_firstWord_X9_ofTheDay (ol_hB_X.brd (ol_nb_lt g3)) rfl (fun _ h => h) ⟨Nat.le_refl _, Nat.le_refl _⟩ (Nat.le_of_ble_eq_true rfl) dX1_firstWord_2 rfl ?_
  refine ol_iconst hX (pc := 5) 3 dX1_firstWord_5 ol_k_iconst_3 ?_
  refine ol_ishl hX (pc := 6) dX1_firstWord_6 ?_
  refine ol_aload_n hX (pc := 7) dX1_firstWord_7 rfl rfl ?_
  refine ol_xgN_R_1 hX (pc := 8) hr1 q257 dX1_firstWord_8 ?_
  refine ol_aload_n hX (pc := 11) dX1_firstWord_11 rfl rfl ?_
  refine ol_getNM hX in_X9 (pc := 12) (ol_hB_X.brd (ol_nb_lt g3)) rfl 2 (by decide) q1141 rfl rfl dX1_firstWord_12 ?_
  obtain ⟨g4, h⟩ := ol_of_og h
  refine ol_xl_R1 hX (pc := 15) hr1 dX1_firstWord_15 rfl (ol_in_vp g4) ?_
  refine ol_if_eq hX (pc := 16) 23 dX1_firstWord_16 (by decide) (fun c9 => ?_) (fun c9 => ?_)
  · have h := ol_ifp c9 h
    refine ol_iconst hX (pc := 23) 0 dX1_firstWord_23 ol_k_iconst_0 ?_
    refine ol_ior hX (pc := 24) dX1_firstWord_24 ?_
    obtain ⟨y5, e6, h⟩ := ol_of_bd h
    refine ol_cSr (As := [.int ((y1 <<< (3 &&& 31)) ||| 0)]) hX (pc := 25) (wX1_withParity V (ol_Xc V a r0 σ ++ (ol_WB V g β ++ ext)) ((y1 <<< (3 &&& 31)) ||| 0) y5 e6) lkX1_25 dcX1_withParity ⟨rfl, rfl⟩ ol_rr_X1_firstWord_X1_withParity (fun _ h => h) ⟨Nat.le_refl _, Nat.le_refl _⟩ (Nat.le_of_ble_eq_true rfl) dX1_firstWord_25 rfl ?_
    have h := ol_of_some h
    subst h
    exact ol_iret hX (pc := 28) dX1_firstWord_28 rfl ⟨Nat.le_refl _, Nat.le_refl _⟩
  · have h := ol_ifn c9 h
    refine ol_iconst hX (pc := 19) 4 dX1_firstWord_19 ol_k_iconst_4 ?_
    refine ol_goto hX (pc := 20) 24 dX1_firstWord_20 (by decide) ?_
    refine ol_ior hX (pc := 24) dX1_firstWord_24 ?_
    obtain ⟨y7, e8, h⟩ := ol_of_bd h
    refine ol_cSr (As := [.int ((y1 <<< (3 &&& 31)) ||| 4)]) hX (pc := 25) (wX1_withParity V (ol_Xc V a r0 σ ++ (ol_WB V g β ++ ext)) ((y1 <<< (3 &&& 31)) ||| 4) y7 e8) lkX1_25 dcX1_withParity ⟨rfl, rfl⟩ ol_rr_X1_firstWord_X1_withParity (fun _ h => h) ⟨Nat.le_refl _, Nat.le_refl _⟩ (Nat.le_of_ble_eq_true rfl) dX1_firstWord_25 rfl ?_
    have h := ol_of_some h
    subst h
    exact ol_iret hX (pc := 28) dX1_firstWord_28 rfl ⟨Nat.le_refl _, Nat.le_refl _⟩
set_option maxHeartbeats 4000000 in
theorem wX3_asking_L4 {X : ol_Cx} {V : ol_Gh} {A : Nat → Prop} {a : Nat → Nat} {r0 : Option Nat} {ext : va_W} {g : Nat → Nat → Nat} {z : Int32} (hX : ol_CX X V A cX3_asking RX3 "asking" 3 (some .int)) (σ : ol_Xm) (β : ol_Bd) (r : Nat) (hr : ol_isr r)   : ∀ (n : Nat), ∀ (v1 : Int32) (v2 : Int32), oX3_asking_L4 σ β (g 0 0) r n v1 v2 = some z → ol_G X V A false (ol_Pr (some (.int z))) ({ frames := 2, cells := 0, slots := 0, locals := 40 } : Room) 3 0 0 (ol_Xc V a r0 σ ++ (ol_WB V g β ++ ext)) 4 [some (.ref (a r)), some (.int v1), some (.int v2)] [] := by
  intro n
  induction n with
  | zero =>
    intro v1 v2 h
    exact ol_no h
  | succ n ih =>
    intro v1 v2 h
    rw [oX3_asking_L4] at h
    refine ol_iload_n hX (pc := 4) dX3_asking_4 rfl rfl ?_
    refine ol_aload_n hX (pc := 5) dX3_asking_5 rfl rfl ?_
    obtain ⟨g1, h⟩ := ol_of_og h
    refine ol_xg_R_0 hX (pc := 6) hr q254 (of_decide_eq_true g1) dX3_asking_6 ?_
    refine ol_cVr (As := []) hX (pc := 9) (wX6_many V g β _ ol_hB_X) lkX3_111 dcX6_many ⟨rfl, rfl⟩ ⟨(Nat.le_of_ble_eq_true rfl), (Nat.le_of_ble_eq_true rfl)⟩ 37 rfl rfl (fun _ h => h) ⟨Nat.le_refl _, Nat.le_refl _⟩ (Nat.le_of_ble_eq_true rfl) dX3_asking_9 rfl ?_
    refine ol_icmp_ge hX (pc := 12) 36 dX3_asking_12 (by decide) (fun c4 => ?_) (fun c4 => ?_)
    · have h := ol_ifp c4 h
      refine ol_iload_n hX (pc := 36) dX3_asking_36 rfl rfl ?_
      have h := ol_of_some h
      subst h
      exact ol_iret hX (pc := 37) dX3_asking_37 rfl ⟨Nat.le_refl _, Nat.le_refl _⟩
    · have h := ol_ifn c4 h
      refine ol_aload_n hX (pc := 15) dX3_asking_15 rfl rfl ?_
      refine ol_xg_R_2 hX (pc := 16) hr q258 dX3_asking_16 ?_
      refine ol_iload_n hX (pc := 19) dX3_asking_19 rfl rfl ?_
      obtain ⟨g2, h⟩ := ol_of_og h
      refine ol_xl_R2 hX (pc := 20) hr dX3_asking_20 rfl (ol_in_vp g2) ?_
      refine ol_if_le hX (pc := 21) 30 dX3_asking_21 (by decide) (fun c3 => ?_) (fun c3 => ?_)
      · have h := ol_ifp c3 h
        refine ol_iinc hX (pc := 30) (v2 + 1) [some (.ref (a r)), some (.int v1), some (.int (v2 + 1))] dX3_asking_30 rfl (ol_k_iinc_1 _) (by decide) rfl rfl ?_
        refine ol_goto hX (pc := 33) 4 dX3_asking_33 (by decide) ?_
        exact ih v1 (v2 + 1) h
      · have h := ol_ifn c3 h
        refine ol_iload_n hX (pc := 24) dX3_asking_24 rfl rfl ?_
        refine ol_iconst hX (pc := 25) 1 dX3_asking_25 ol_k_iconst_1 ?_
        refine ol_iload_n hX (pc := 26) dX3_asking_26 rfl rfl ?_
        refine ol_ishl hX (pc := 27) dX3_asking_27 ?_
        refine ol_ior hX (pc := 28) dX3_asking_28 ?_
        refine ol_istore_n hX (pc := 29) [some (.ref (a r)), some (.int (v1 ||| ((1 : Int32) <<< (v2 &&& 31)))), some (.int v2)] dX3_asking_29 rfl (by decide) rfl rfl ?_
        refine ol_iinc hX (pc := 30) (v2 + 1) [some (.ref (a r)), some (.int (v1 ||| ((1 : Int32) <<< (v2 &&& 31)))), some (.int (v2 + 1))] dX3_asking_30 rfl (ol_k_iinc_1 _) (by decide) rfl rfl ?_
        refine ol_goto hX (pc := 33) 4 dX3_asking_33 (by decide) ?_
        exact ih (v1 ||| ((1 : Int32) <<< (v2 &&& 31))) (v2 + 1) h
set_option maxHeartbeats 4000000 in
theorem wX3_asking (V : ol_Gh) (a : Nat → Nat) (r0 : Option Nat) (ext : va_W) (g : Nat → Nat → Nat) (σ : ol_Xm) (β : ol_Bd) (r : Nat) (hr : ol_isr r) (z : Int32) (h : oX3_asking σ β (g 0 0) r = some z) : ol_Mt V yX3_asking cX3_asking 3 (some .int) ({ frames := 2, cells := 0, slots := 0, locals := 40 } : Room) false [.ref (a r)] (ol_Xc V a r0 σ ++ (ol_WB V g β ++ ext)) (ol_Pr (some (.int z))) := by
  refine ol_MtOf (L0 := [some (.ref (a r)), none, none]) (by decide) (Nat.le_of_ble_eq_true rfl) rfl (fun X A hX => ?_)
  unfold oX3_asking at h
  refine ol_iconst hX (pc := 0) 0 dX3_asking_0 ol_k_iconst_0 ?_
  refine ol_istore_n hX (pc := 1) [some (.ref (a r)), some (.int 0), none] dX3_asking_1 rfl (by decide) rfl rfl ?_
  refine ol_iconst hX (pc := 2) 0 dX3_asking_2 ol_k_iconst_0 ?_
  refine ol_istore_n hX (pc := 3) [some (.ref (a r)), some (.int 0), some (.int 0)] dX3_asking_3 rfl (by decide) rfl rfl ?_
  exact wX3_asking_L4 hX σ β r hr ol_fuel 0 0 h
set_option maxHeartbeats 4000000 in
theorem wX3_counts (V : ol_Gh) (a : Nat → Nat) (r0 : Option Nat) (ext : va_W) (σ : ol_Xm) (r : Nat) (x1 : Int32) (x2 : Int32) (hr : ol_isr r) (z : ol_Xm) (h : oX3_counts σ r x1 x2 = some z) : ol_Mt V yX3_counts cX3_counts 3 none ({ frames := 0, cells := 0, slots := 0, locals := 0 } : Room) true [.ref (a r), .int x1, .int x2] (ol_Xc V a r0 σ ++ ext) (ol_Pw none (ol_Xc V a r0 z ++ ext)) := by
  refine ol_MtOf (L0 := [some (.ref (a r)), some (.int x1), some (.int x2)]) (by decide) (Nat.le_of_ble_eq_true rfl) rfl (fun X A hX => ?_)
  unfold oX3_counts at h
  refine ol_aload_n hX (pc := 0) dX3_counts_0 rfl rfl ?_
  refine ol_xg_R_7 hX (pc := 1) hr q267 dX3_counts_1 ?_
  refine ol_bipush hX (pc := 4) 6 dX3_counts_4 ol_k_bipush_6 ?_
  refine ol_iload_n hX (pc := 6) dX3_counts_6 rfl rfl ?_
  refine ol_imul hX (pc := 7) dX3_counts_7 ?_
  refine ol_iload_n hX (pc := 8) dX3_counts_8 rfl rfl ?_
  refine ol_iadd hX (pc := 9) dX3_counts_9 ?_
  refine ol_dup2_11 hX (pc := 10) dX3_counts_10 rfl rfl ?_
  obtain ⟨g1, h⟩ := ol_of_og h
  refine ol_xl_R7 hX (pc := 11) hr dX3_counts_11 rfl (ol_in_vp g1) ?_
  refine ol_iconst hX (pc := 12) 1 dX3_counts_12 ol_k_iconst_1 ?_
  refine ol_iadd hX (pc := 13) dX3_counts_13 ?_
  obtain ⟨g2, h⟩ := ol_of_og h
  refine ol_xw_R7 hX (pc := 14) hr dX3_counts_14 rfl (ol_in_vp g2) ?_
  have h := ol_of_some h
  subst h
  exact ol_vret hX (pc := 15) dX3_counts_15 ⟨rfl, rfl⟩ ⟨Nat.le_refl _, Nat.le_refl _⟩
set_option maxHeartbeats 4000000 in
theorem wX3_hears (V : ol_Gh) (a : Nat → Nat) (r0 : Option Nat) (ext : va_W) (σ : ol_Xm) (r : Nat) (x1 : Int32) (x2 : Int32) (hr : ol_isr r) (z : Int32 × ol_Xm) (h : oX3_hears σ r x1 x2 = some z) : ol_Mt V yX3_hears cX3_hears 3 (some .boolean) ({ frames := 1, cells := 0, slots := 0, locals := 22 } : Room) true [.ref (a r), .int x1, .int x2] (ol_Xc V a r0 σ ++ ext) (ol_Pw (some (.int z.1)) (ol_Xc V a r0 z.2 ++ ext)) := by
  refine ol_MtOf (L0 := [some (.ref (a r)), some (.int x1), some (.int x2)]) (by decide) (Nat.le_of_ble_eq_true rfl) rfl (fun X A hX => ?_)
  unfold oX3_hears at h
  refine ol_aload_n hX (pc := 0) dX3_hears_0 rfl rfl ?_
  refine ol_xg_R_2 hX (pc := 1) hr q258 dX3_hears_1 ?_
  refine ol_iload_n hX (pc := 4) dX3_hears_4 rfl rfl ?_
  obtain ⟨g1, h⟩ := ol_of_og h
  refine ol_xl_R2 hX (pc := 5) hr dX3_hears_5 rfl (ol_in_vp g1) ?_
  refine ol_if_gt hX (pc := 6) 17 dX3_hears_6 (by decide) (fun c9 => ?_) (fun c9 => ?_)
  · have h := ol_ifp c9 h
    refine ol_aload_n hX (pc := 17) dX3_hears_17 rfl rfl ?_
    refine ol_iload_n hX (pc := 18) dX3_hears_18 rfl rfl ?_
    refine ol_iconst hX (pc := 19) 2 dX3_hears_19 ol_k_iconst_2 ?_
    obtain ⟨y2, e3, h⟩ := ol_of_bd h
    refine ol_cVw (As := [.int x1, .int 2]) hX (pc := 20) (wX3_counts V a r0 ext σ r x1 2 hr y2 e3) lkX3_116 dcX3_counts ol_rr_X3_hears_X3_counts r (ol_rpos hr) rfl ⟨Nat.le_refl _, Nat.le_refl _⟩ (Nat.le_of_ble_eq_true rfl) dX3_hears_20 rfl ?_
    refine ol_iconst hX (pc := 23) 0 dX3_hears_23 ol_k_iconst_0 ?_
    have h := ol_of_some h
    subst h
    exact ol_zret hX (pc := 24) dX3_hears_24 (by rfl) ⟨rfl, rfl⟩ ⟨Nat.le_refl _, Nat.le_refl _⟩
  · have h := ol_ifn c9 h
    refine ol_aload_n hX (pc := 9) dX3_hears_9 rfl rfl ?_
    refine ol_xg_R_9 hX (pc := 10) hr q271 dX3_hears_10 ?_
    refine ol_iload_n hX (pc := 13) dX3_hears_13 rfl rfl ?_
    refine ol_icmp_ne hX (pc := 14) 25 dX3_hears_14 (by decide) (fun c8 => ?_) (fun c8 => ?_)
    · have h := ol_ifn c8 h
      refine ol_aload_n hX (pc := 25) dX3_hears_25 rfl rfl ?_
      refine ol_xg_R_2 hX (pc := 26) hr q258 dX3_hears_26 ?_
      refine ol_iload_n hX (pc := 29) dX3_hears_29 rfl rfl ?_
      refine ol_iload_n hX (pc := 30) dX3_hears_30 rfl rfl ?_
      obtain ⟨g4, h⟩ := ol_of_og h
      refine ol_xw_R2 hX (pc := 31) hr dX3_hears_31 rfl (ol_in_vp g4) ?_
      refine ol_aload_n hX (pc := 32) dX3_hears_32 rfl rfl ?_
      refine ol_xg_R_3 hX (pc := 33) hr q260 dX3_hears_33 ?_
      refine ol_iload_n hX (pc := 36) dX3_hears_36 rfl rfl ?_
      refine ol_aload_n hX (pc := 37) dX3_hears_37 rfl rfl ?_
      refine ol_xg_R_8 hX (pc := 38) hr q269 dX3_hears_38 ?_
      obtain ⟨g5, h⟩ := ol_of_og h
      refine ol_xw_R3 hX (pc := 41) hr dX3_hears_41 rfl (ol_in_vp g5) ?_
      refine ol_iconst hX (pc := 42) 1 dX3_hears_42 ol_k_iconst_1 ?_
      have h := ol_of_some h
      subst h
      exact ol_zret hX (pc := 43) dX3_hears_43 (by rfl) ⟨rfl, rfl⟩ ⟨Nat.le_refl _, Nat.le_refl _⟩
    · have h := ol_ifp c8 h
      refine ol_aload_n hX (pc := 17) dX3_hears_17 rfl rfl ?_
      refine ol_iload_n hX (pc := 18) dX3_hears_18 rfl rfl ?_
      refine ol_iconst hX (pc := 19) 2 dX3_hears_19 ol_k_iconst_2 ?_
      obtain ⟨y6, e7, h⟩ := ol_of_bd h
      refine ol_cVw (As := [.int x1, .int 2]) hX (pc := 20) (wX3_counts V a r0 ext σ r x1 2 hr y6 e7) lkX3_116 dcX3_counts ol_rr_X3_hears_X3_counts r (ol_rpos hr) rfl ⟨Nat.le_refl _, Nat.le_refl _⟩ (Nat.le_of_ble_eq_true rfl) dX3_hears_20 rfl ?_
      refine ol_iconst hX (pc := 23) 0 dX3_hears_23 ol_k_iconst_0 ?_
      have h := ol_of_some h
      subst h
      exact ol_zret hX (pc := 24) dX3_hears_24 (by rfl) ⟨rfl, rfl⟩ ⟨Nat.le_refl _, Nat.le_refl _⟩
set_option maxHeartbeats 4000000 in
theorem wX3_toCome_L4 {X : ol_Cx} {V : ol_Gh} {A : Nat → Prop} {a : Nat → Nat} {r0 : Option Nat} {ext : va_W} {g : Nat → Nat → Nat} {z : Int32} (hX : ol_CX X V A cX3_toCome RX3 "toCome" 3 (some .int)) (σ : ol_Xm) (β : ol_Bd) (r : Nat) (hr : ol_isr r)   : ∀ (n : Nat), ∀ (v1 : Int32) (v2 : Int32), oX3_toCome_L4 σ β (g 0 0) r n v1 v2 = some z → ol_G X V A false (ol_Pr (some (.int z))) ({ frames := 3, cells := 0, slots := 0, locals := 64 } : Room) 3 0 0 (ol_Xc V a r0 σ ++ (ol_WB V g β ++ ext)) 4 [some (.ref (a r)), some (.int v1), some (.int v2)] [] := by
  intro n
  induction n with
  | zero =>
    intro v1 v2 h
    exact ol_no h
  | succ n ih =>
    intro v1 v2 h
    rw [oX3_toCome_L4] at h
    refine ol_iload_n hX (pc := 4) dX3_toCome_4 rfl rfl ?_
    refine ol_aload_n hX (pc := 5) dX3_toCome_5 rfl rfl ?_
    obtain ⟨g1, h⟩ := ol_of_og h
    refine ol_xg_R_0 hX (pc := 6) hr q254 (of_decide_eq_true g1) dX3_toCome_6 ?_
    refine ol_getNM hX in_X6 (pc := 9) ol_hB_X.bus rfl 4 (by decide) q482 rfl rfl dX3_toCome_9 ?_
    refine ol_cVrM (As := []) hX (pc := 12) (wJ2_size V _ _ _ _ _ ol_hB_X.al) lkX3_97 dcJ2_size ⟨rfl, rfl⟩ ⟨(Nat.le_of_ble_eq_true rfl), (Nat.le_of_ble_eq_true rfl)⟩ ol_hB_X.al rfl (fun _ h => h) ⟨Nat.le_refl _, Nat.le_refl _⟩ (Nat.le_of_ble_eq_true rfl) dX3_toCome_12 rfl ?_
    refine ol_icmp_ge hX (pc := 15) 51 dX3_toCome_15 (by decide) (fun c5 => ?_) (fun c5 => ?_)
    · have h := ol_ifp c5 h
      refine ol_iload_n hX (pc := 51) dX3_toCome_51 rfl rfl ?_
      have h := ol_of_some h
      subst h
      exact ol_iret hX (pc := 52) dX3_toCome_52 rfl ⟨Nat.le_refl _, Nat.le_refl _⟩
    · have h := ol_ifn c5 h
      refine ol_aload_n hX (pc := 18) dX3_toCome_18 rfl rfl ?_
      obtain ⟨g2, h⟩ := ol_of_og h
      refine ol_xg_R_0 hX (pc := 19) hr q254 (of_decide_eq_true g2) dX3_toCome_19 ?_
      refine ol_getNM hX in_X6 (pc := 22) ol_hB_X.bus rfl 4 (by decide) q482 rfl rfl dX3_toCome_22 ?_
      refine ol_iload_n hX (pc := 25) dX3_toCome_25 rfl rfl ?_
      obtain ⟨g3, h⟩ := ol_of_og h
      refine ol_cVrM (As := [.int v2]) hX (pc := 26) (wAl_get V g β _ ol_hB_X v2 g3) lkX3_101 dcJ2_get ⟨rfl, rfl⟩ ⟨(Nat.le_of_ble_eq_true rfl), (Nat.le_of_ble_eq_true rfl)⟩ ol_hB_X.al rfl (fun _ h => h) ⟨Nat.le_refl _, Nat.le_refl _⟩ (Nat.le_of_ble_eq_true rfl) dX3_toCome_26 rfl ?_
      refine ol_castS hX (pc := 29) q1846 (ol_hB_X.ask (ol_ia_lt g3)) rfl dX3_toCome_29 ?_
      refine ol_cVrM (As := []) hX (pc := 32) (wX10_time V _ _ _ _ _ (ol_hB_X.ask (ol_ia_lt g3))) lkX3_124 dcX10_time ⟨rfl, rfl⟩ ⟨(Nat.le_of_ble_eq_true rfl), (Nat.le_of_ble_eq_true rfl)⟩ (ol_hB_X.ask (ol_ia_lt g3)) rfl (fun _ h => h) ⟨Nat.le_refl _, Nat.le_refl _⟩ (Nat.le_of_ble_eq_true rfl) dX3_toCome_32 rfl ?_
      refine ol_aload_n hX (pc := 35) dX3_toCome_35 rfl rfl ?_
      refine ol_xg_R_8 hX (pc := 36) hr q269 dX3_toCome_36 ?_
      refine ol_icmp_le hX (pc := 39) 45 dX3_toCome_39 (by decide) (fun c4 => ?_) (fun c4 => ?_)
      · have h := ol_ifp c4 h
        refine ol_iinc hX (pc := 45) (v2 + 1) [some (.ref (a r)), some (.int v1), some (.int (v2 + 1))] dX3_toCome_45 rfl (ol_k_iinc_1 _) (by decide) rfl rfl ?_
        refine ol_goto hX (pc := 48) 4 dX3_toCome_48 (by decide) ?_
        exact ih v1 (v2 + 1) h
      · have h := ol_ifn c4 h
        refine ol_iinc hX (pc := 42) (v1 + 1) [some (.ref (a r)), some (.int (v1 + 1)), some (.int v2)] dX3_toCome_42 rfl (ol_k_iinc_1 _) (by decide) rfl rfl ?_
        refine ol_iinc hX (pc := 45) (v2 + 1) [some (.ref (a r)), some (.int (v1 + 1)), some (.int (v2 + 1))] dX3_toCome_45 rfl (ol_k_iinc_1 _) (by decide) rfl rfl ?_
        refine ol_goto hX (pc := 48) 4 dX3_toCome_48 (by decide) ?_
        exact ih (v1 + 1) (v2 + 1) h
set_option maxHeartbeats 4000000 in
theorem wX3_toCome (V : ol_Gh) (a : Nat → Nat) (r0 : Option Nat) (ext : va_W) (g : Nat → Nat → Nat) (σ : ol_Xm) (β : ol_Bd) (r : Nat) (hr : ol_isr r) (z : Int32) (h : oX3_toCome σ β (g 0 0) r = some z) : ol_Mt V yX3_toCome cX3_toCome 3 (some .int) ({ frames := 3, cells := 0, slots := 0, locals := 64 } : Room) false [.ref (a r)] (ol_Xc V a r0 σ ++ (ol_WB V g β ++ ext)) (ol_Pr (some (.int z))) := by
  refine ol_MtOf (L0 := [some (.ref (a r)), none, none]) (by decide) (Nat.le_of_ble_eq_true rfl) rfl (fun X A hX => ?_)
  unfold oX3_toCome at h
  refine ol_iconst hX (pc := 0) 0 dX3_toCome_0 ol_k_iconst_0 ?_
  refine ol_istore_n hX (pc := 1) [some (.ref (a r)), some (.int 0), none] dX3_toCome_1 rfl (by decide) rfl rfl ?_
  refine ol_iconst hX (pc := 2) 0 dX3_toCome_2 ol_k_iconst_0 ?_
  refine ol_istore_n hX (pc := 3) [some (.ref (a r)), some (.int 0), some (.int 0)] dX3_toCome_3 rfl (by decide) rfl rfl ?_
  exact wX3_toCome_L4 hX σ β r hr ol_fuel 0 0 h
set_option maxHeartbeats 4000000 in
theorem wX3_waiting_L4 {X : ol_Cx} {V : ol_Gh} {A : Nat → Prop} {a : Nat → Nat} {r0 : Option Nat} {ext : va_W} {g : Nat → Nat → Nat} {z : Int32} (hX : ol_CX X V A cX3_waiting RX3 "waiting" 4 (some .int)) (σ : ol_Xm) (β : ol_Bd) (r : Nat) (x1 : Int32) (hr : ol_isr r)   : ∀ (n : Nat), ∀ (v2 : Int32) (v3 : Int32), oX3_waiting_L4 σ β (g 0 0) r x1 n v2 v3 = some z → ol_G X V A false (ol_Pr (some (.int z))) ({ frames := 2, cells := 0, slots := 0, locals := 40 } : Room) 4 0 0 (ol_Xc V a r0 σ ++ (ol_WB V g β ++ ext)) 4 [some (.ref (a r)), some (.int x1), some (.int v2), some (.int v3)] [] := by
  intro n
  induction n with
  | zero =>
    intro v2 v3 h
    exact ol_no h
  | succ n ih =>
    intro v2 v3 h
    rw [oX3_waiting_L4] at h
    refine ol_iload_n hX (pc := 4) dX3_waiting_4 rfl rfl ?_
    refine ol_aload_n hX (pc := 5) dX3_waiting_5 rfl rfl ?_
    obtain ⟨g1, h⟩ := ol_of_og h
    refine ol_xg_R_0 hX (pc := 6) hr q254 (of_decide_eq_true g1) dX3_waiting_6 ?_
    refine ol_cVr (As := []) hX (pc := 9) (wX6_many V g β _ ol_hB_X) lkX3_111 dcX6_many ⟨rfl, rfl⟩ ⟨(Nat.le_of_ble_eq_true rfl), (Nat.le_of_ble_eq_true rfl)⟩ 37 rfl rfl (fun _ h => h) ⟨Nat.le_refl _, Nat.le_refl _⟩ (Nat.le_of_ble_eq_true rfl) dX3_waiting_9 rfl ?_
    refine ol_icmp_ge hX (pc := 12) 36 dX3_waiting_12 (by decide) (fun c5 => ?_) (fun c5 => ?_)
    · have h := ol_ifp c5 h
      refine ol_iload_n hX (pc := 36) dX3_waiting_36 rfl rfl ?_
      have h := ol_of_some h
      subst h
      exact ol_iret hX (pc := 37) dX3_waiting_37 rfl ⟨Nat.le_refl _, Nat.le_refl _⟩
    · have h := ol_ifn c5 h
      refine ol_aload_n hX (pc := 15) dX3_waiting_15 rfl rfl ?_
      refine ol_iload_n hX (pc := 16) dX3_waiting_16 rfl rfl ?_
      refine ol_iload_n hX (pc := 17) dX3_waiting_17 rfl rfl ?_
      obtain ⟨y2, e3, h⟩ := ol_of_bd h
      refine ol_cVr (As := [.int v3, .int x1]) hX (pc := 18) (wX3_waitsFor V a r0 (ol_WB V g β ++ ext) σ r v3 x1 hr y2 e3) lkX3_207 dcX3_waitsFor ⟨rfl, rfl⟩ ol_rr_X3_waiting_X3_waitsFor r (ol_rpos hr) rfl (fun _ h => h) ⟨Nat.le_refl _, Nat.le_refl _⟩ (Nat.le_of_ble_eq_true rfl) dX3_waiting_18 rfl ?_
      refine ol_if_eq hX (pc := 21) 30 dX3_waiting_21 (by decide) (fun c4 => ?_) (fun c4 => ?_)
      · have h := ol_ifp c4 h
        refine ol_iinc hX (pc := 30) (v3 + 1) [some (.ref (a r)), some (.int x1), some (.int v2), some (.int (v3 + 1))] dX3_waiting_30 rfl (ol_k_iinc_1 _) (by decide) rfl rfl ?_
        refine ol_goto hX (pc := 33) 4 dX3_waiting_33 (by decide) ?_
        exact ih v2 (v3 + 1) h
      · have h := ol_ifn c4 h
        refine ol_iload_n hX (pc := 24) dX3_waiting_24 rfl rfl ?_
        refine ol_iconst hX (pc := 25) 1 dX3_waiting_25 ol_k_iconst_1 ?_
        refine ol_iload_n hX (pc := 26) dX3_waiting_26 rfl rfl ?_
        refine ol_ishl hX (pc := 27) dX3_waiting_27 ?_
        refine ol_ior hX (pc := 28) dX3_waiting_28 ?_
        refine ol_istore_n hX (pc := 29) [some (.ref (a r)), some (.int x1), some (.int (v2 ||| ((1 : Int32) <<< (v3 &&& 31)))), some (.int v3)] dX3_waiting_29 rfl (by decide) rfl rfl ?_
        refine ol_iinc hX (pc := 30) (v3 + 1) [some (.ref (a r)), some (.int x1), some (.int (v2 ||| ((1 : Int32) <<< (v3 &&& 31)))), some (.int (v3 + 1))] dX3_waiting_30 rfl (ol_k_iinc_1 _) (by decide) rfl rfl ?_
        refine ol_goto hX (pc := 33) 4 dX3_waiting_33 (by decide) ?_
        exact ih (v2 ||| ((1 : Int32) <<< (v3 &&& 31))) (v3 + 1) h
set_option maxHeartbeats 4000000 in
theorem wX3_waiting (V : ol_Gh) (a : Nat → Nat) (r0 : Option Nat) (ext : va_W) (g : Nat → Nat → Nat) (σ : ol_Xm) (β : ol_Bd) (r : Nat) (x1 : Int32) (hr : ol_isr r) (z : Int32) (h : oX3_waiting σ β (g 0 0) r x1 = some z) : ol_Mt V yX3_waiting cX3_waiting 4 (some .int) ({ frames := 2, cells := 0, slots := 0, locals := 40 } : Room) false [.ref (a r), .int x1] (ol_Xc V a r0 σ ++ (ol_WB V g β ++ ext)) (ol_Pr (some (.int z))) := by
  refine ol_MtOf (L0 := [some (.ref (a r)), some (.int x1), none, none]) (by decide) (Nat.le_of_ble_eq_true rfl) rfl (fun X A hX => ?_)
  unfold oX3_waiting at h
  refine ol_iconst hX (pc := 0) 0 dX3_waiting_0 ol_k_iconst_0 ?_
  refine ol_istore_n hX (pc := 1) [some (.ref (a r)), some (.int x1), some (.int 0), none] dX3_waiting_1 rfl (by decide) rfl rfl ?_
  refine ol_iconst hX (pc := 2) 0 dX3_waiting_2 ol_k_iconst_0 ?_
  refine ol_istore_n hX (pc := 3) [some (.ref (a r)), some (.int x1), some (.int 0), some (.int 0)] dX3_waiting_3 rfl (by decide) rfl rfl ?_
  exact wX3_waiting_L4 hX σ β r x1 hr ol_fuel 0 0 h
set_option maxHeartbeats 4000000 in
theorem wX3_longest_L49 {X : ol_Cx} {V : ol_Gh} {A : Nat → Prop} {a : Nat → Nat} {r0 : Option Nat} {ext : va_W} {g : Nat → Nat → Nat} {z : Int32} (hX : ol_CX X V A cX3_longest RX3 "longest" 3 (some .int)) (σ : ol_Xm) (β : ol_Bd) (r : Nat) (hr : ol_isr r) (k5 : Int32 → Int32 → Option Int32) (hk5 : ∀ (v1 : Int32) (v2 : Int32), k5 v1 v2 = some z → ol_G X V A false (ol_Pr (some (.int z))) ({ frames := 4, cells := 0, slots := 0, locals := 85 } : Room) 3 0 0 (ol_Xc V a r0 σ ++ (ol_WB V g β ++ ext)) 5 [some (.ref (a r)), some (.int v1), some (.int v2)] []) (v1 : Int32) (v2 : Int32) (h : oX3_longest_L49 σ β (g 0 0) r k5 v1 v2 = some z) : ol_G X V A false (ol_Pr (some (.int z))) ({ frames := 4, cells := 0, slots := 0, locals := 85 } : Room) 3 0 0 (ol_Xc V a r0 σ ++ (ol_WB V g β ++ ext)) 49 [some (.ref (a r)), some (.int v1), some (.int v2)] [] := by
  unfold oX3_longest_L49 at h
  refine ol_iload_n hX (pc := 49) dX3_longest_49 rfl rfl ?_
  refine ol_bipush hX (pc := 50) (-2) dX3_longest_50 ol_k_bipush_m2 ?_
  refine ol_icmp_eq hX (pc := 52) 95 dX3_longest_52 (by decide) (fun c9 => ?_) (fun c9 => ?_)
  · have h := ol_ifp c9 h
    refine ol_iload_n hX (pc := 95) dX3_longest_95 rfl rfl ?_
    refine ol_istore_n hX (pc := 96) [some (.ref (a r)), some (.int v2), some (.int v2)] dX3_longest_96 rfl (by decide) rfl rfl ?_
    refine ol_iinc hX (pc := 97) (v2 + 1) [some (.ref (a r)), some (.int v2), some (.int (v2 + 1))] dX3_longest_97 rfl (ol_k_iinc_1 _) (by decide) rfl rfl ?_
    refine ol_goto hX (pc := 100) 5 dX3_longest_100 (by decide) ?_
    exact hk5 v2 (v2 + 1) h
  · have h := ol_ifn c9 h
    refine ol_aload_n hX (pc := 55) dX3_longest_55 rfl rfl ?_
    refine ol_xg_R_3 hX (pc := 56) hr q260 dX3_longest_56 ?_
    refine ol_iload_n hX (pc := 59) dX3_longest_59 rfl rfl ?_
    obtain ⟨g1, h⟩ := ol_of_og h
    refine ol_xl_R3 hX (pc := 60) hr dX3_longest_60 rfl (ol_in_vp g1) ?_
    refine ol_aload_n hX (pc := 61) dX3_longest_61 rfl rfl ?_
    refine ol_xg_R_3 hX (pc := 62) hr q260 dX3_longest_62 ?_
    refine ol_iload_n hX (pc := 65) dX3_longest_65 rfl rfl ?_
    obtain ⟨g2, h⟩ := ol_of_og h
    refine ol_xl_R3 hX (pc := 66) hr dX3_longest_66 rfl (ol_in_vp g2) ?_
    refine ol_icmp_lt hX (pc := 67) 95 dX3_longest_67 (by decide) (fun c8 => ?_) (fun c8 => ?_)
    · have h := ol_ifp c8 h
      refine ol_iload_n hX (pc := 95) dX3_longest_95 rfl rfl ?_
      refine ol_istore_n hX (pc := 96) [some (.ref (a r)), some (.int v2), some (.int v2)] dX3_longest_96 rfl (by decide) rfl rfl ?_
      refine ol_iinc hX (pc := 97) (v2 + 1) [some (.ref (a r)), some (.int v2), some (.int (v2 + 1))] dX3_longest_97 rfl (ol_k_iinc_1 _) (by decide) rfl rfl ?_
      refine ol_goto hX (pc := 100) 5 dX3_longest_100 (by decide) ?_
      exact hk5 v2 (v2 + 1) h
    · have h := ol_ifn c8 h
      refine ol_aload_n hX (pc := 70) dX3_longest_70 rfl rfl ?_
      obtain ⟨g3, h⟩ := ol_of_og h
      refine ol_xg_R_0 hX (pc := 71) hr q254 (of_decide_eq_true g3) dX3_longest_71 ?_
      refine ol_iload_n hX (pc := 74) dX3_longest_74 rfl rfl ?_
      obtain ⟨g4, h⟩ := ol_of_og h
      refine ol_cVr (As := [.int v2]) hX (pc := 75) (wX6_board V g β _ ol_hB_X v2 g4) lkX3_211 dcX6_board ⟨rfl, rfl⟩ ⟨(Nat.le_of_ble_eq_true rfl), (Nat.le_of_ble_eq_true rfl)⟩ 37 rfl rfl (fun _ h => h) ⟨Nat.le_refl _, Nat.le_refl _⟩ (Nat.le_of_ble_eq_true rfl) dX3_longest_75 rfl ?_
      refine ol_getNM hX in_X9 (pc := 78) (ol_hB_X.brd (ol_ib_lt g4)) rfl 3 (by decide) q1146 rfl rfl dX3_longest_78 ?_
      refine ol_aload_n hX (pc := 81) dX3_longest_81 rfl rfl ?_
      obtain ⟨g5, h⟩ := ol_of_og h
      refine ol_xg_R_0 hX (pc := 82) hr q254 (of_decide_eq_true g5) dX3_longest_82 ?_
      refine ol_iload_n hX (pc := 85) dX3_longest_85 rfl rfl ?_
      obtain ⟨g6, h⟩ := ol_of_og h
      refine ol_cVr (As := [.int v1]) hX (pc := 86) (wX6_board V g β _ ol_hB_X v1 g6) lkX3_211 dcX6_board ⟨rfl, rfl⟩ ⟨(Nat.le_of_ble_eq_true rfl), (Nat.le_of_ble_eq_true rfl)⟩ 37 rfl rfl (fun _ h => h) ⟨Nat.le_refl _, Nat.le_refl _⟩ (Nat.le_of_ble_eq_true rfl) dX3_longest_86 rfl ?_
      refine ol_getNM hX in_X9 (pc := 89) (ol_hB_X.brd (ol_ib_lt g6)) rfl 3 (by decide) q1146 rfl rfl dX3_longest_89 ?_
      refine ol_icmp_ge hX (pc := 92) 97 dX3_longest_92 (by decide) (fun c7 => ?_) (fun c7 => ?_)
      · have h := ol_ifp c7 h
        refine ol_iinc hX (pc := 97) (v2 + 1) [some (.ref (a r)), some (.int v1), some (.int (v2 + 1))] dX3_longest_97 rfl (ol_k_iinc_1 _) (by decide) rfl rfl ?_
        refine ol_goto hX (pc := 100) 5 dX3_longest_100 (by decide) ?_
        exact hk5 v1 (v2 + 1) h
      · have h := ol_ifn c7 h
        refine ol_iload_n hX (pc := 95) dX3_longest_95 rfl rfl ?_
        refine ol_istore_n hX (pc := 96) [some (.ref (a r)), some (.int v2), some (.int v2)] dX3_longest_96 rfl (by decide) rfl rfl ?_
        refine ol_iinc hX (pc := 97) (v2 + 1) [some (.ref (a r)), some (.int v2), some (.int (v2 + 1))] dX3_longest_97 rfl (ol_k_iinc_1 _) (by decide) rfl rfl ?_
        refine ol_goto hX (pc := 100) 5 dX3_longest_100 (by decide) ?_
        exact hk5 v2 (v2 + 1) h
set_option maxHeartbeats 4000000 in
theorem wX3_longest_L5 {X : ol_Cx} {V : ol_Gh} {A : Nat → Prop} {a : Nat → Nat} {r0 : Option Nat} {ext : va_W} {g : Nat → Nat → Nat} {z : Int32} (hX : ol_CX X V A cX3_longest RX3 "longest" 3 (some .int)) (σ : ol_Xm) (β : ol_Bd) (r : Nat) (hr : ol_isr r)   : ∀ (n : Nat), ∀ (v1 : Int32) (v2 : Int32), oX3_longest_L5 σ β (g 0 0) r n v1 v2 = some z → ol_G X V A false (ol_Pr (some (.int z))) ({ frames := 4, cells := 0, slots := 0, locals := 85 } : Room) 3 0 0 (ol_Xc V a r0 σ ++ (ol_WB V g β ++ ext)) 5 [some (.ref (a r)), some (.int v1), some (.int v2)] [] := by
  intro n
  induction n with
  | zero =>
    intro v1 v2 h
    exact ol_no h
  | succ n ih =>
    intro v1 v2 h
    rw [oX3_longest_L5] at h
    refine ol_iload_n hX (pc := 5) dX3_longest_5 rfl rfl ?_
    refine ol_aload_n hX (pc := 6) dX3_longest_6 rfl rfl ?_
    obtain ⟨g1, h⟩ := ol_of_og h
    refine ol_xg_R_0 hX (pc := 7) hr q254 (of_decide_eq_true g1) dX3_longest_7 ?_
    refine ol_cVr (As := []) hX (pc := 10) (wX6_many V g β _ ol_hB_X) lkX3_111 dcX6_many ⟨rfl, rfl⟩ ⟨(Nat.le_of_ble_eq_true rfl), (Nat.le_of_ble_eq_true rfl)⟩ 37 rfl rfl (fun _ h => h) ⟨Nat.le_refl _, Nat.le_refl _⟩ (Nat.le_of_ble_eq_true rfl) dX3_longest_10 rfl ?_
    refine ol_icmp_ge hX (pc := 13) 103 dX3_longest_13 (by decide) (fun c8 => ?_) (fun c8 => ?_)
    · have h := ol_ifp c8 h
      refine ol_iload_n hX (pc := 103) dX3_longest_103 rfl rfl ?_
      have h := ol_of_some h
      subst h
      exact ol_iret hX (pc := 104) dX3_longest_104 rfl ⟨Nat.le_refl _, Nat.le_refl _⟩
    · have h := ol_ifn c8 h
      refine ol_aload_n hX (pc := 16) dX3_longest_16 rfl rfl ?_
      refine ol_xg_R_2 hX (pc := 17) hr q258 dX3_longest_17 ?_
      refine ol_iload_n hX (pc := 20) dX3_longest_20 rfl rfl ?_
      obtain ⟨g2, h⟩ := ol_of_og h
      refine ol_xl_R2 hX (pc := 21) hr dX3_longest_21 rfl (ol_in_vp g2) ?_
      refine ol_if_eq hX (pc := 22) 97 dX3_longest_22 (by decide) (fun c7 => ?_) (fun c7 => ?_)
      · have h := ol_ifp c7 h
        refine ol_iinc hX (pc := 97) (v2 + 1) [some (.ref (a r)), some (.int v1), some (.int (v2 + 1))] dX3_longest_97 rfl (ol_k_iinc_1 _) (by decide) rfl rfl ?_
        refine ol_goto hX (pc := 100) 5 dX3_longest_100 (by decide) ?_
        exact ih v1 (v2 + 1) h
      · have h := ol_ifn c7 h
        refine ol_iload_n hX (pc := 25) dX3_longest_25 rfl rfl ?_
        refine ol_bipush hX (pc := 26) (-2) dX3_longest_26 ol_k_bipush_m2 ?_
        refine ol_icmp_eq hX (pc := 28) 49 dX3_longest_28 (by decide) (fun c6 => ?_) (fun c6 => ?_)
        · have h := ol_ifp c6 h
          exact wX3_longest_L49 hX σ β r hr (oX3_longest_L5 σ β (g 0 0) r n) ih v1 v2 h
        · have h := ol_ifn c6 h
          refine ol_aload_n hX (pc := 31) dX3_longest_31 rfl rfl ?_
          refine ol_xg_R_3 hX (pc := 32) hr q260 dX3_longest_32 ?_
          refine ol_iload_n hX (pc := 35) dX3_longest_35 rfl rfl ?_
          obtain ⟨g3, h⟩ := ol_of_og h
          refine ol_xl_R3 hX (pc := 36) hr dX3_longest_36 rfl (ol_in_vp g3) ?_
          refine ol_aload_n hX (pc := 37) dX3_longest_37 rfl rfl ?_
          refine ol_xg_R_3 hX (pc := 38) hr q260 dX3_longest_38 ?_
          refine ol_iload_n hX (pc := 41) dX3_longest_41 rfl rfl ?_
          obtain ⟨g4, h⟩ := ol_of_og h
          refine ol_xl_R3 hX (pc := 42) hr dX3_longest_42 rfl (ol_in_vp g4) ?_
          refine ol_icmp_le hX (pc := 43) 49 dX3_longest_43 (by decide) (fun c5 => ?_) (fun c5 => ?_)
          · have h := ol_ifp c5 h
            exact wX3_longest_L49 hX σ β r hr (oX3_longest_L5 σ β (g 0 0) r n) ih v1 v2 h
          · have h := ol_ifn c5 h
            refine ol_goto hX (pc := 46) 97 dX3_longest_46 (by decide) ?_
            refine ol_iinc hX (pc := 97) (v2 + 1) [some (.ref (a r)), some (.int v1), some (.int (v2 + 1))] dX3_longest_97 rfl (ol_k_iinc_1 _) (by decide) rfl rfl ?_
            refine ol_goto hX (pc := 100) 5 dX3_longest_100 (by decide) ?_
            exact ih v1 (v2 + 1) h
set_option maxHeartbeats 4000000 in
theorem wX3_longest (V : ol_Gh) (a : Nat → Nat) (r0 : Option Nat) (ext : va_W) (g : Nat → Nat → Nat) (σ : ol_Xm) (β : ol_Bd) (r : Nat) (hr : ol_isr r) (z : Int32) (h : oX3_longest σ β (g 0 0) r = some z) : ol_Mt V yX3_longest cX3_longest 3 (some .int) ({ frames := 4, cells := 0, slots := 0, locals := 85 } : Room) false [.ref (a r)] (ol_Xc V a r0 σ ++ (ol_WB V g β ++ ext)) (ol_Pr (some (.int z))) := by
  refine ol_MtOf (L0 := [some (.ref (a r)), none, none]) (by decide) (Nat.le_of_ble_eq_true rfl) rfl (fun X A hX => ?_)
  unfold oX3_longest at h
  refine ol_bipush hX (pc := 0) (-2) dX3_longest_0 ol_k_bipush_m2 ?_
  refine ol_istore_n hX (pc := 2) [some (.ref (a r)), some (.int (-2)), none] dX3_longest_2 rfl (by decide) rfl rfl ?_
  refine ol_iconst hX (pc := 3) 0 dX3_longest_3 ol_k_iconst_0 ?_
  refine ol_istore_n hX (pc := 4) [some (.ref (a r)), some (.int (-2)), some (.int 0)] dX3_longest_4 rfl (by decide) rfl rfl ?_
  exact wX3_longest_L5 hX σ β r hr ol_fuel (-2) 0 h
set_option maxHeartbeats 4000000 in
theorem wX3_isMaster (V : ol_Gh) (a : Nat → Nat) (r0 : Option Nat) (ext : va_W) (σ : ol_Xm) (r : Nat) (hr : ol_isr r) (z : ol_Xm) (h : oX3_isMaster σ r = some z) : ol_Mt V yX3_isMaster cX3_isMaster 2 none ({ frames := 1, cells := 0, slots := 0, locals := 22 } : Room) true [.ref (a r)] (ol_Xc V a r0 σ ++ ext) (ol_Pw none (ol_Xc V a r0 z ++ ext)) := by
  refine ol_MtOf (L0 := [some (.ref (a r)), none]) (by decide) (Nat.le_of_ble_eq_true rfl) rfl (fun X A hX => ?_)
  unfold oX3_isMaster at h
  refine ol_aload_n hX (pc := 0) dX3_isMaster_0 rfl rfl ?_
  refine ol_aload_n hX (pc := 1) dX3_isMaster_1 rfl rfl ?_
  refine ol_xg_R_11 hX (pc := 2) hr q274 dX3_isMaster_2 ?_
  refine ol_xp_R_9 hX (pc := 5) hr q271 dX3_isMaster_5 ?_
  refine ol_aload_n hX (pc := 8) dX3_isMaster_8 rfl rfl ?_
  refine ol_aload_n hX (pc := 9) dX3_isMaster_9 rfl rfl ?_
  refine ol_xg_R_8 hX (pc := 10) hr q269 dX3_isMaster_10 ?_
  refine ol_aload_n hX (pc := 13) dX3_isMaster_13 rfl rfl ?_
  refine ol_xg_R_2 hX (pc := 14) hr q258 dX3_isMaster_14 ?_
  refine ol_aload_n hX (pc := 17) dX3_isMaster_17 rfl rfl ?_
  refine ol_xg_R_11 hX (pc := 18) hr q274 dX3_isMaster_18 ?_
  obtain ⟨g1, h⟩ := ol_of_og h
  refine ol_xl_R2 hX (pc := 21) hr dX3_isMaster_21 rfl (ol_in_vp g1) ?_
  refine ol_iadd hX (pc := 22) dX3_isMaster_22 ?_
  refine ol_xp_R_10 hX (pc := 23) hr q273 dX3_isMaster_23 ?_
  refine ol_aload_n hX (pc := 26) dX3_isMaster_26 rfl rfl ?_
  refine ol_xg_R_2 hX (pc := 27) hr q258 dX3_isMaster_27 ?_
  refine ol_aload_n hX (pc := 30) dX3_isMaster_30 rfl rfl ?_
  refine ol_xg_R_11 hX (pc := 31) hr q274 dX3_isMaster_31 ?_
  refine ol_iconst hX (pc := 34) 0 dX3_isMaster_34 ol_k_iconst_0 ?_
  obtain ⟨g2, h⟩ := ol_of_og h
  refine ol_xw_R2 hX (pc := 35) hr dX3_isMaster_35 rfl (ol_in_vp g2) ?_
  refine ol_aload_n hX (pc := 36) dX3_isMaster_36 rfl rfl ?_
  refine ol_bipush hX (pc := 37) (-2) dX3_isMaster_37 ol_k_bipush_m2 ?_
  refine ol_xp_R_11 hX (pc := 39) hr q274 dX3_isMaster_39 ?_
  refine ol_aload_n hX (pc := 42) dX3_isMaster_42 rfl rfl ?_
  refine ol_aload_n hX (pc := 43) dX3_isMaster_43 rfl rfl ?_
  refine ol_xg_R_9 hX (pc := 44) hr q271 dX3_isMaster_44 ?_
  refine ol_iconst hX (pc := 47) 0 dX3_isMaster_47 ol_k_iconst_0 ?_
  obtain ⟨y3, e4, h⟩ := ol_of_bd h
  refine ol_cVw (As := [.int ((ol_xs (ol_xs (ol_xs (ol_xs σ r 9 (σ.1 r 11)) r 10 (((ol_xs σ r 9 (σ.1 r 11)).1 r 8) + ((ol_xs σ r 9 (σ.1 r 11)).1 (r + 2) (((ol_xs σ r 9 (σ.1 r 11)).1 r 11).toNatClampNeg)))) (r + 2) (((ol_xs (ol_xs σ r 9 (σ.1 r 11)) r 10 (((ol_xs σ r 9 (σ.1 r 11)).1 r 8) + ((ol_xs σ r 9 (σ.1 r 11)).1 (r + 2) (((ol_xs σ r 9 (σ.1 r 11)).1 r 11).toNatClampNeg)))).1 r 11).toNatClampNeg) 0) r 11 (-2)).1 r 9), .int 0]) hX (pc := 48) (wX3_counts V a r0 ext (ol_xs (ol_xs (ol_xs (ol_xs σ r 9 (σ.1 r 11)) r 10 (((ol_xs σ r 9 (σ.1 r 11)).1 r 8) + ((ol_xs σ r 9 (σ.1 r 11)).1 (r + 2) (((ol_xs σ r 9 (σ.1 r 11)).1 r 11).toNatClampNeg)))) (r + 2) (((ol_xs (ol_xs σ r 9 (σ.1 r 11)) r 10 (((ol_xs σ r 9 (σ.1 r 11)).1 r 8) + ((ol_xs σ r 9 (σ.1 r 11)).1 (r + 2) (((ol_xs σ r 9 (σ.1 r 11)).1 r 11).toNatClampNeg)))).1 r 11).toNatClampNeg) 0) r 11 (-2)) r ((ol_xs (ol_xs (ol_xs (ol_xs σ r 9 (σ.1 r 11)) r 10 (((ol_xs σ r 9 (σ.1 r 11)).1 r 8) + ((ol_xs σ r 9 (σ.1 r 11)).1 (r + 2) (((ol_xs σ r 9 (σ.1 r 11)).1 r 11).toNatClampNeg)))) (r + 2) (((ol_xs (ol_xs σ r 9 (σ.1 r 11)) r 10 (((ol_xs σ r 9 (σ.1 r 11)).1 r 8) + ((ol_xs σ r 9 (σ.1 r 11)).1 (r + 2) (((ol_xs σ r 9 (σ.1 r 11)).1 r 11).toNatClampNeg)))).1 r 11).toNatClampNeg) 0) r 11 (-2)).1 r 9) 0 hr y3 e4) lkX3_116 dcX3_counts ol_rr_X3_isMaster_X3_counts r (ol_rpos hr) rfl ⟨Nat.le_refl _, Nat.le_refl _⟩ (Nat.le_of_ble_eq_true rfl) dX3_isMaster_48 rfl ?_
  refine ol_bipush hX (pc := 51) 6 dX3_isMaster_51 ol_k_bipush_6 ?_
  refine ol_aload_n hX (pc := 53) dX3_isMaster_53 rfl rfl ?_
  refine ol_xg_R_9 hX (pc := 54) hr q271 dX3_isMaster_54 ?_
  refine ol_imul hX (pc := 57) dX3_isMaster_57 ?_
  refine ol_iconst hX (pc := 58) 4 dX3_isMaster_58 ol_k_iconst_4 ?_
  refine ol_iadd hX (pc := 59) dX3_isMaster_59 ?_
  refine ol_istore_n hX (pc := 60) [some (.ref (a r)), some (.int ((6 * (y3.1 r 9)) + 4))] dX3_isMaster_60 rfl (by decide) rfl rfl ?_
  refine ol_aload_n hX (pc := 61) dX3_isMaster_61 rfl rfl ?_
  refine ol_xg_R_7 hX (pc := 62) hr q267 dX3_isMaster_62 ?_
  refine ol_iload_n hX (pc := 65) dX3_isMaster_65 rfl rfl ?_
  refine ol_aload_n hX (pc := 66) dX3_isMaster_66 rfl rfl ?_
  refine ol_xg_R_7 hX (pc := 67) hr q267 dX3_isMaster_67 ?_
  refine ol_iload_n hX (pc := 70) dX3_isMaster_70 rfl rfl ?_
  obtain ⟨g5, h⟩ := ol_of_og h
  refine ol_xl_R7 hX (pc := 71) hr dX3_isMaster_71 rfl (ol_in_vp g5) ?_
  refine ol_aload_n hX (pc := 72) dX3_isMaster_72 rfl rfl ?_
  refine ol_xg_R_8 hX (pc := 73) hr q269 dX3_isMaster_73 ?_
  refine ol_aload_n hX (pc := 76) dX3_isMaster_76 rfl rfl ?_
  refine ol_xg_R_3 hX (pc := 77) hr q260 dX3_isMaster_77 ?_
  refine ol_aload_n hX (pc := 80) dX3_isMaster_80 rfl rfl ?_
  refine ol_xg_R_9 hX (pc := 81) hr q271 dX3_isMaster_81 ?_
  obtain ⟨g6, h⟩ := ol_of_og h
  refine ol_xl_R3 hX (pc := 84) hr dX3_isMaster_84 rfl (ol_in_vp g6) ?_
  refine ol_isub hX (pc := 85) dX3_isMaster_85 ?_
  refine ol_max hX (pc := 86) q1920 q1182 q126 q1183 (Nat.le_of_ble_eq_true rfl) (Nat.le_of_ble_eq_true rfl) ⟨Nat.le_refl _, Nat.le_refl _⟩ dX3_isMaster_86 ?_
  obtain ⟨g7, h⟩ := ol_of_og h
  refine ol_xw_R7 hX (pc := 89) hr dX3_isMaster_89 rfl (ol_in_vp g7) ?_
  have h := ol_of_some h
  subst h
  exact ol_vret hX (pc := 90) dX3_isMaster_90 ⟨rfl, rfl⟩ ⟨Nat.le_refl _, Nat.le_refl _⟩
set_option maxHeartbeats 4000000 in
theorem wX3_isPressed_L2 {X : ol_Cx} {V : ol_Gh} {A : Nat → Prop} {a : Nat → Nat} {r0 : Option Nat} {ext : va_W} {g : Nat → Nat → Nat} {z : Int32} (hX : ol_CX X V A cX3_isPressed RX3 "isPressed" 2 (some .boolean)) (σ : ol_Xm) (β : ol_Bd) (r : Nat) (hr : ol_isr r)   : ∀ (n : Nat), ∀ (v1 : Int32), oX3_isPressed_L2 σ β (g 0 0) r n v1 = some z → ol_G X V A false (ol_Pr (some (.int z))) ({ frames := 5, cells := 0, slots := 0, locals := 123 } : Room) 2 0 0 (ol_Xc V a r0 σ ++ (ol_WB V g β ++ ext)) 2 [some (.ref (a r)), some (.int v1)] [] := by
  intro n
  induction n with
  | zero =>
    intro v1 h
    exact ol_no h
  | succ n ih =>
    intro v1 h
    rw [oX3_isPressed_L2] at h
    refine ol_iload_n hX (pc := 2) dX3_isPressed_2 rfl rfl ?_
    refine ol_aload_n hX (pc := 3) dX3_isPressed_3 rfl rfl ?_
    obtain ⟨g1, h⟩ := ol_of_og h
    refine ol_xg_R_0 hX (pc := 4) hr q254 (of_decide_eq_true g1) dX3_isPressed_4 ?_
    refine ol_cVr (As := []) hX (pc := 7) (wX6_many V g β _ ol_hB_X) lkX3_111 dcX6_many ⟨rfl, rfl⟩ ⟨(Nat.le_of_ble_eq_true rfl), (Nat.le_of_ble_eq_true rfl)⟩ 37 rfl rfl (fun _ h => h) ⟨Nat.le_refl _, Nat.le_refl _⟩ (Nat.le_of_ble_eq_true rfl) dX3_isPressed_7 rfl ?_
    refine ol_icmp_ge hX (pc := 10) 69 dX3_isPressed_10 (by decide) (fun c14 => ?_) (fun c14 => ?_)
    · have h := ol_ifp c14 h
      refine ol_iconst hX (pc := 69) 0 dX3_isPressed_69 ol_k_iconst_0 ?_
      have h := ol_of_some h
      subst h
      exact ol_zret hX (pc := 70) dX3_isPressed_70 (by rfl) rfl ⟨Nat.le_refl _, Nat.le_refl _⟩
    · have h := ol_ifn c14 h
      refine ol_aload_n hX (pc := 13) dX3_isPressed_13 rfl rfl ?_
      refine ol_xg_R_2 hX (pc := 14) hr q258 dX3_isPressed_14 ?_
      refine ol_iload_n hX (pc := 17) dX3_isPressed_17 rfl rfl ?_
      obtain ⟨g2, h⟩ := ol_of_og h
      refine ol_xl_R2 hX (pc := 18) hr dX3_isPressed_18 rfl (ol_in_vp g2) ?_
      refine ol_if_le hX (pc := 19) 63 dX3_isPressed_19 (by decide) (fun c13 => ?_) (fun c13 => ?_)
      · have h := ol_ifp c13 h
        refine ol_iinc hX (pc := 63) (v1 + 1) [some (.ref (a r)), some (.int (v1 + 1))] dX3_isPressed_63 rfl (ol_k_iinc_1 _) (by decide) rfl rfl ?_
        refine ol_goto hX (pc := 66) 2 dX3_isPressed_66 (by decide) ?_
        exact ih (v1 + 1) h
      · have h := ol_ifn c13 h
        refine ol_aload_n hX (pc := 22) dX3_isPressed_22 rfl rfl ?_
        refine ol_xg_R_11 hX (pc := 23) hr q274 dX3_isPressed_23 ?_
        refine ol_bipush hX (pc := 26) (-2) dX3_isPressed_26 ol_k_bipush_m2 ?_
        refine ol_icmp_eq hX (pc := 28) 61 dX3_isPressed_28 (by decide) (fun c12 => ?_) (fun c12 => ?_)
        · have h := ol_ifp c12 h
          refine ol_iconst hX (pc := 61) 1 dX3_isPressed_61 ol_k_iconst_1 ?_
          have h := ol_of_some h
          subst h
          exact ol_zret hX (pc := 62) dX3_isPressed_62 (by rfl) rfl ⟨Nat.le_refl _, Nat.le_refl _⟩
        · have h := ol_ifn c12 h
          refine ol_aload_n hX (pc := 31) dX3_isPressed_31 rfl rfl ?_
          obtain ⟨g3, h⟩ := ol_of_og h
          refine ol_xg_R_0 hX (pc := 32) hr q254 (of_decide_eq_true g3) dX3_isPressed_32 ?_
          refine ol_iload_n hX (pc := 35) dX3_isPressed_35 rfl rfl ?_
          obtain ⟨g4, h⟩ := ol_of_og h
          refine ol_cVr (As := [.int v1]) hX (pc := 36) (wX6_board V g β _ ol_hB_X v1 g4) lkX3_211 dcX6_board ⟨rfl, rfl⟩ ⟨(Nat.le_of_ble_eq_true rfl), (Nat.le_of_ble_eq_true rfl)⟩ 37 rfl rfl (fun _ h => h) ⟨Nat.le_refl _, Nat.le_refl _⟩ (Nat.le_of_ble_eq_true rfl) dX3_isPressed_36 rfl ?_
          refine ol_aload_n hX (pc := 39) dX3_isPressed_39 rfl rfl ?_
          obtain ⟨y5, e6, h⟩ := ol_of_bd h
          refine ol_cVrM (As := [.ref (a r)]) hX (pc := 40) (wX9_ofTheDay V a r0 ext g σ β r v1.toNatClampNeg hr y5 e6) lkX3_234 dcX9_ofTheDay ⟨rfl, rfl⟩ ol_rr_X3_isPressed_X9_ofTheDay (ol_hB_X.brd (ol_ib_lt g4)) rfl (fun _ h => h) ⟨Nat.le_refl _, Nat.le_refl _⟩ (Nat.le_of_ble_eq_true rfl) dX3_isPressed_40 rfl ?_
          refine ol_aload_n hX (pc := 43) dX3_isPressed_43 rfl rfl ?_
          obtain ⟨g7, h⟩ := ol_of_og h
          refine ol_xg_R_0 hX (pc := 44) hr q254 (of_decide_eq_true g7) dX3_isPressed_44 ?_
          refine ol_aload_n hX (pc := 47) dX3_isPressed_47 rfl rfl ?_
          refine ol_xg_R_11 hX (pc := 48) hr q274 dX3_isPressed_48 ?_
          obtain ⟨g8, h⟩ := ol_of_og h
          refine ol_cVr (As := [.int (σ.1 r 11)]) hX (pc := 51) (wX6_board V g β _ ol_hB_X (σ.1 r 11) g8) lkX3_211 dcX6_board ⟨rfl, rfl⟩ ⟨(Nat.le_of_ble_eq_true rfl), (Nat.le_of_ble_eq_true rfl)⟩ 37 rfl rfl (fun _ h => h) ⟨Nat.le_refl _, Nat.le_refl _⟩ (Nat.le_of_ble_eq_true rfl) dX3_isPressed_51 rfl ?_
          refine ol_aload_n hX (pc := 54) dX3_isPressed_54 rfl rfl ?_
          obtain ⟨y9, e10, h⟩ := ol_of_bd h
          refine ol_cVrM (As := [.ref (a r)]) hX (pc := 55) (wX9_ofTheDay V a r0 ext g σ β r ((σ.1 r 11).toNatClampNeg) hr y9 e10) lkX3_234 dcX9_ofTheDay ⟨rfl, rfl⟩ ol_rr_X3_isPressed_X9_ofTheDay (ol_hB_X.brd (ol_ib_lt g8)) rfl (fun _ h => h) ⟨Nat.le_refl _, Nat.le_refl _⟩ (Nat.le_of_ble_eq_true rfl) dX3_isPressed_55 rfl ?_
          refine ol_icmp_le hX (pc := 58) 63 dX3_isPressed_58 (by decide) (fun c11 => ?_) (fun c11 => ?_)
          · have h := ol_ifp c11 h
            refine ol_iinc hX (pc := 63) (v1 + 1) [some (.ref (a r)), some (.int (v1 + 1))] dX3_isPressed_63 rfl (ol_k_iinc_1 _) (by decide) rfl rfl ?_
            refine ol_goto hX (pc := 66) 2 dX3_isPressed_66 (by decide) ?_
            exact ih (v1 + 1) h
          · have h := ol_ifn c11 h
            refine ol_iconst hX (pc := 61) 1 dX3_isPressed_61 ol_k_iconst_1 ?_
            have h := ol_of_some h
            subst h
            exact ol_zret hX (pc := 62) dX3_isPressed_62 (by rfl) rfl ⟨Nat.le_refl _, Nat.le_refl _⟩
set_option maxHeartbeats 4000000 in
theorem wX3_isPressed (V : ol_Gh) (a : Nat → Nat) (r0 : Option Nat) (ext : va_W) (g : Nat → Nat → Nat) (σ : ol_Xm) (β : ol_Bd) (r : Nat) (hr : ol_isr r) (z : Int32) (h : oX3_isPressed σ β (g 0 0) r = some z) : ol_Mt V yX3_isPressed cX3_isPressed 2 (some .boolean) ({ frames := 5, cells := 0, slots := 0, locals := 123 } : Room) false [.ref (a r)] (ol_Xc V a r0 σ ++ (ol_WB V g β ++ ext)) (ol_Pr (some (.int z))) := by
  refine ol_MtOf (L0 := [some (.ref (a r)), none]) (by decide) (Nat.le_of_ble_eq_true rfl) rfl (fun X A hX => ?_)
  unfold oX3_isPressed at h
  refine ol_iconst hX (pc := 0) 0 dX3_isPressed_0 ol_k_iconst_0 ?_
  refine ol_istore_n hX (pc := 1) [some (.ref (a r)), some (.int 0)] dX3_isPressed_1 rfl (by decide) rfl rfl ?_
  exact wX3_isPressed_L2 hX σ β r hr ol_fuel 0 h
set_option maxHeartbeats 4000000 in
theorem wX3_past (V : ol_Gh) (a : Nat → Nat) (r0 : Option Nat) (ext : va_W) (σ : ol_Xm) (r : Nat) (x1 : Int32) (hr : ol_isr r) (z : Int32) (h : oX3_past σ r x1 = some z) : ol_Mt V yX3_past cX3_past 2 (some .int) ({ frames := 0, cells := 0, slots := 0, locals := 0 } : Room) false [.ref (a r), .int x1] (ol_Xc V a r0 σ ++ ext) (ol_Pr (some (.int z))) := by
  refine ol_MtOf (L0 := [some (.ref (a r)), some (.int x1)]) (by decide) (Nat.le_of_ble_eq_true rfl) rfl (fun X A hX => ?_)
  unfold oX3_past at h
  refine ol_iload_n hX (pc := 0) dX3_past_0 rfl rfl ?_
  refine ol_aload_n hX (pc := 1) dX3_past_1 rfl rfl ?_
  refine ol_xg_R_8 hX (pc := 2) hr q269 dX3_past_2 ?_
  refine ol_icmp_lt hX (pc := 5) 13 dX3_past_5 (by decide) (fun c2 => ?_) (fun c2 => ?_)
  · have h := ol_ifp c2 h
    refine ol_aload_n hX (pc := 13) dX3_past_13 rfl rfl ?_
    refine ol_xg_R_20 hX (pc := 14) hr q284 dX3_past_14 ?_
    refine ol_aload_n hX (pc := 17) dX3_past_17 rfl rfl ?_
    refine ol_xg_R_8 hX (pc := 18) hr q269 dX3_past_18 ?_
    refine ol_iload_n hX (pc := 21) dX3_past_21 rfl rfl ?_
    refine ol_isub hX (pc := 22) dX3_past_22 ?_
    refine ol_bipush hX (pc := 23) 64 dX3_past_23 ol_k_bipush_64 ?_
    refine ol_irem hX (pc := 25) dX3_past_25 (by decide) ?_
    obtain ⟨g1, h⟩ := ol_of_og h
    refine ol_xl_R8 hX (pc := 26) hr dX3_past_26 rfl (ol_in_vp g1) ?_
    have h := ol_of_some h
    subst h
    exact ol_iret hX (pc := 27) dX3_past_27 rfl ⟨Nat.le_refl _, Nat.le_refl _⟩
  · have h := ol_ifn c2 h
    refine ol_bipush hX (pc := 8) (-2) dX3_past_8 ol_k_bipush_m2 ?_
    refine ol_goto hX (pc := 10) 27 dX3_past_10 (by decide) ?_
    have h := ol_of_some h
    subst h
    exact ol_iret hX (pc := 27) dX3_past_27 rfl ⟨Nat.le_refl _, Nat.le_refl _⟩
set_option maxHeartbeats 4000000 in
theorem wX3_idle_L4 {X : ol_Cx} {V : ol_Gh} {A : Nat → Prop} {a : Nat → Nat} {r0 : Option Nat} {ext : va_W} {z : Int32} (hX : ol_CX X V A cX3_idle RX3 "idle" 3 (some .int)) (σ : ol_Xm) (r : Nat) (hr : ol_isr r)   : ∀ (n : Nat), ∀ (v1 : Int32) (v2 : Int32), oX3_idle_L4 σ r n v1 v2 = some z → ol_G X V A false (ol_Pr (some (.int z))) ({ frames := 1, cells := 0, slots := 0, locals := 21 } : Room) 3 0 0 (ol_Xc V a r0 σ ++ ext) 4 [some (.ref (a r)), some (.int v1), some (.int v2)] [] := by
  intro n
  induction n with
  | zero =>
    intro v1 v2 h
    exact ol_no h
  | succ n ih =>
    intro v1 v2 h
    rw [oX3_idle_L4] at h
    refine ol_iload_n hX (pc := 4) dX3_idle_4 rfl rfl ?_
    refine ol_bipush hX (pc := 5) 64 dX3_idle_5 ol_k_bipush_64 ?_
    refine ol_aload_n hX (pc := 7) dX3_idle_7 rfl rfl ?_
    refine ol_xg_R_8 hX (pc := 8) hr q269 dX3_idle_8 ?_
    refine ol_min hX (pc := 11) q1805 q996 q126 q997 (Nat.le_of_ble_eq_true rfl) (Nat.le_of_ble_eq_true rfl) ⟨Nat.le_refl _, Nat.le_refl _⟩ dX3_idle_11 ?_
    refine ol_icmp_ge hX (pc := 14) 36 dX3_idle_14 (by decide) (fun c4 => ?_) (fun c4 => ?_)
    · have h := ol_ifp c4 h
      refine ol_iload_n hX (pc := 36) dX3_idle_36 rfl rfl ?_
      have h := ol_of_some h
      subst h
      exact ol_iret hX (pc := 37) dX3_idle_37 rfl ⟨Nat.le_refl _, Nat.le_refl _⟩
    · have h := ol_ifn c4 h
      refine ol_aload_n hX (pc := 17) dX3_idle_17 rfl rfl ?_
      refine ol_iload_n hX (pc := 18) dX3_idle_18 rfl rfl ?_
      obtain ⟨y1, e2, h⟩ := ol_of_bd h
      refine ol_cVr (As := [.int v2]) hX (pc := 19) (wX3_past V a r0 ext σ r v2 hr y1 e2) lkX3_264 dcX3_past ⟨rfl, rfl⟩ ol_rr_X3_idle_X3_past r (ol_rpos hr) rfl (fun _ h => h) ⟨Nat.le_refl _, Nat.le_refl _⟩ (Nat.le_of_ble_eq_true rfl) dX3_idle_19 rfl ?_
      refine ol_bipush hX (pc := 22) (-2) dX3_idle_22 ol_k_bipush_m2 ?_
      refine ol_icmp_ne hX (pc := 24) 30 dX3_idle_24 (by decide) (fun c3 => ?_) (fun c3 => ?_)
      · have h := ol_ifn c3 h
        refine ol_iinc hX (pc := 30) (v2 + 1) [some (.ref (a r)), some (.int v1), some (.int (v2 + 1))] dX3_idle_30 rfl (ol_k_iinc_1 _) (by decide) rfl rfl ?_
        refine ol_goto hX (pc := 33) 4 dX3_idle_33 (by decide) ?_
        exact ih v1 (v2 + 1) h
      · have h := ol_ifp c3 h
        refine ol_iinc hX (pc := 27) (v1 + 1) [some (.ref (a r)), some (.int (v1 + 1)), some (.int v2)] dX3_idle_27 rfl (ol_k_iinc_1 _) (by decide) rfl rfl ?_
        refine ol_iinc hX (pc := 30) (v2 + 1) [some (.ref (a r)), some (.int (v1 + 1)), some (.int (v2 + 1))] dX3_idle_30 rfl (ol_k_iinc_1 _) (by decide) rfl rfl ?_
        refine ol_goto hX (pc := 33) 4 dX3_idle_33 (by decide) ?_
        exact ih (v1 + 1) (v2 + 1) h
set_option maxHeartbeats 4000000 in
theorem wX3_idle (V : ol_Gh) (a : Nat → Nat) (r0 : Option Nat) (ext : va_W) (σ : ol_Xm) (r : Nat) (hr : ol_isr r) (z : Int32) (h : oX3_idle σ r = some z) : ol_Mt V yX3_idle cX3_idle 3 (some .int) ({ frames := 1, cells := 0, slots := 0, locals := 21 } : Room) false [.ref (a r)] (ol_Xc V a r0 σ ++ ext) (ol_Pr (some (.int z))) := by
  refine ol_MtOf (L0 := [some (.ref (a r)), none, none]) (by decide) (Nat.le_of_ble_eq_true rfl) rfl (fun X A hX => ?_)
  unfold oX3_idle at h
  refine ol_iconst hX (pc := 0) 0 dX3_idle_0 ol_k_iconst_0 ?_
  refine ol_istore_n hX (pc := 1) [some (.ref (a r)), some (.int 0), none] dX3_idle_1 rfl (by decide) rfl rfl ?_
  refine ol_iconst hX (pc := 2) 0 dX3_idle_2 ol_k_iconst_0 ?_
  refine ol_istore_n hX (pc := 3) [some (.ref (a r)), some (.int 0), some (.int 0)] dX3_idle_3 rfl (by decide) rfl rfl ?_
  exact wX3_idle_L4 hX σ r hr ol_fuel 0 0 h
set_option maxHeartbeats 4000000 in
theorem wX3_is (V : ol_Gh) (a : Nat → Nat) (r0 : Option Nat) (ext : va_W) (g : Nat → Nat → Nat) (σ : ol_Xm) (β : ol_Bd) (r : Nat) (x1 : Int32) (hr : ol_isr r) (z : Int32) (h : oX3_is σ β (g 0 0) r x1 = some z) : ol_Mt V yX3_is cX3_is 2 (some .int) ({ frames := 3, cells := 0, slots := 0, locals := 62 } : Room) false [.ref (a r), .int x1] (ol_Xc V a r0 σ ++ (ol_WB V g β ++ ext)) (ol_Pr (some (.int z))) := by
  refine ol_MtOf (L0 := [some (.ref (a r)), some (.int x1)]) (by decide) (Nat.le_of_ble_eq_true rfl) rfl (fun X A hX => ?_)
  unfold oX3_is at h
  refine ol_iload_n hX (pc := 0) dX3_is_0 rfl rfl ?_
  by_cases c1 : x1 = 0
  · have h := ol_ifp c1 h
    refine ol_tsw_in hX (pc := 1) 56 dX3_is_1 c1 (by decide) (by decide) rfl (by decide) ?_
    refine ol_aload_n hX (pc := 56) dX3_is_56 rfl rfl ?_
    refine ol_xg_R_9 hX (pc := 57) hr q271 dX3_is_57 ?_
    have h := ol_of_some h
    subst h
    exact ol_iret hX (pc := 60) dX3_is_60 rfl ⟨Nat.le_refl _, Nat.le_refl _⟩
  · have h := ol_ifn c1 h
    by_cases c2 : x1 = 1
    · have h := ol_ifp c2 h
      refine ol_tsw_in hX (pc := 1) 61 dX3_is_1 c2 (by decide) (by decide) rfl (by decide) ?_
      refine ol_aload_n hX (pc := 61) dX3_is_61 rfl rfl ?_
      refine ol_xg_R_10 hX (pc := 62) hr q273 dX3_is_62 ?_
      have h := ol_of_some h
      subst h
      exact ol_iret hX (pc := 65) dX3_is_65 rfl ⟨Nat.le_refl _, Nat.le_refl _⟩
    · have h := ol_ifn c2 h
      by_cases c3 : x1 = 2
      · have h := ol_ifp c3 h
        refine ol_tsw_in hX (pc := 1) 66 dX3_is_1 c3 (by decide) (by decide) rfl (by decide) ?_
        refine ol_aload_n hX (pc := 66) dX3_is_66 rfl rfl ?_
        refine ol_xg_R_11 hX (pc := 67) hr q274 dX3_is_67 ?_
        have h := ol_of_some h
        subst h
        exact ol_iret hX (pc := 70) dX3_is_70 rfl ⟨Nat.le_refl _, Nat.le_refl _⟩
      · have h := ol_ifn c3 h
        by_cases c4 : x1 = 3
        · have h := ol_ifp c4 h
          refine ol_tsw_in hX (pc := 1) 71 dX3_is_1 c4 (by decide) (by decide) rfl (by decide) ?_
          refine ol_aload_n hX (pc := 71) dX3_is_71 rfl rfl ?_
          refine ol_xg_R_12 hX (pc := 72) hr q275 dX3_is_72 ?_
          have h := ol_of_some h
          subst h
          exact ol_iret hX (pc := 75) dX3_is_75 rfl ⟨Nat.le_refl _, Nat.le_refl _⟩
        · have h := ol_ifn c4 h
          by_cases c5 : x1 = 4
          · have h := ol_ifp c5 h
            refine ol_tsw_in hX (pc := 1) 76 dX3_is_1 c5 (by decide) (by decide) rfl (by decide) ?_
            refine ol_aload_n hX (pc := 76) dX3_is_76 rfl rfl ?_
            refine ol_xg_R_13 hX (pc := 77) hr q276 dX3_is_77 ?_
            have h := ol_of_some h
            subst h
            exact ol_iret hX (pc := 80) dX3_is_80 rfl ⟨Nat.le_refl _, Nat.le_refl _⟩
          · have h := ol_ifn c5 h
            by_cases c8 : x1 = 5
            · have h := ol_ifp c8 h
              refine ol_tsw_in hX (pc := 1) 81 dX3_is_1 c8 (by decide) (by decide) rfl (by decide) ?_
              refine ol_aload_n hX (pc := 81) dX3_is_81 rfl rfl ?_
              obtain ⟨y6, e7, h⟩ := ol_of_bd h
              refine ol_cVr (As := []) hX (pc := 82) (wX3_asking V a r0 ext g σ β r hr y6 e7) lkX3_255 dcX3_asking ⟨rfl, rfl⟩ ol_rr_X3_is_X3_asking r (ol_rpos hr) rfl (fun _ h => h) ⟨Nat.le_refl _, Nat.le_refl _⟩ (Nat.le_of_ble_eq_true rfl) dX3_is_82 rfl ?_
              have h := ol_of_some h
              subst h
              exact ol_iret hX (pc := 85) dX3_is_85 rfl ⟨Nat.le_refl _, Nat.le_refl _⟩
            · have h := ol_ifn c8 h
              by_cases c9 : x1 = 6
              · have h := ol_ifp c9 h
                refine ol_tsw_in hX (pc := 1) 86 dX3_is_1 c9 (by decide) (by decide) rfl (by decide) ?_
                refine ol_aload_n hX (pc := 86) dX3_is_86 rfl rfl ?_
                refine ol_xg_R_14 hX (pc := 87) hr q277 dX3_is_87 ?_
                have h := ol_of_some h
                subst h
                exact ol_iret hX (pc := 90) dX3_is_90 rfl ⟨Nat.le_refl _, Nat.le_refl _⟩
              · have h := ol_ifn c9 h
                by_cases c10 : x1 = 7
                · have h := ol_ifp c10 h
                  refine ol_tsw_in hX (pc := 1) 91 dX3_is_1 c10 (by decide) (by decide) rfl (by decide) ?_
                  refine ol_aload_n hX (pc := 91) dX3_is_91 rfl rfl ?_
                  refine ol_xg_R_15 hX (pc := 92) hr q278 dX3_is_92 ?_
                  have h := ol_of_some h
                  subst h
                  exact ol_iret hX (pc := 95) dX3_is_95 rfl ⟨Nat.le_refl _, Nat.le_refl _⟩
                · have h := ol_ifn c10 h
                  by_cases c11 : x1 = 8
                  · have h := ol_ifp c11 h
                    refine ol_tsw_in hX (pc := 1) 96 dX3_is_1 c11 (by decide) (by decide) rfl (by decide) ?_
                    refine ol_aload_n hX (pc := 96) dX3_is_96 rfl rfl ?_
                    refine ol_xg_R_16 hX (pc := 97) hr q279 dX3_is_97 ?_
                    have h := ol_of_some h
                    subst h
                    exact ol_iret hX (pc := 100) dX3_is_100 rfl ⟨Nat.le_refl _, Nat.le_refl _⟩
                  · have h := ol_ifn c11 h
                    by_cases c12 : x1 = 9
                    · have h := ol_ifp c12 h
                      refine ol_tsw_in hX (pc := 1) 101 dX3_is_1 c12 (by decide) (by decide) rfl (by decide) ?_
                      refine ol_aload_n hX (pc := 101) dX3_is_101 rfl rfl ?_
                      refine ol_xg_R_17 hX (pc := 102) hr q280 dX3_is_102 ?_
                      have h := ol_of_some h
                      subst h
                      exact ol_iret hX (pc := 105) dX3_is_105 rfl ⟨Nat.le_refl _, Nat.le_refl _⟩
                    · have h := ol_ifn c12 h
                      refine ol_tsw_out hX (pc := 1) 106 dX3_is_1 ?_ (by decide) ?_
                      · exact ol_sw10 c1 c2 c3 c4 c5 c8 c9 c10 c11 c12
                      · refine ol_aload_n hX (pc := 106) dX3_is_106 rfl rfl ?_
                        refine ol_xg_R_18 hX (pc := 107) hr q281 dX3_is_107 ?_
                        have h := ol_of_some h
                        subst h
                        exact ol_iret hX (pc := 110) dX3_is_110 rfl ⟨Nat.le_refl _, Nat.le_refl _⟩
set_option maxHeartbeats 4000000 in
theorem wX1_forgets (V : ol_Gh) (a : Nat → Nat) (r0 : Option Nat) (ext : va_W) (σ : ol_Xm)  (z : ol_Xm) (h : oX1_forgets σ = some z) : ol_Mt V yX1_forgets cX1_forgets 1 none ({ frames := 0, cells := 0, slots := 0, locals := 0 } : Room) true [.ref (a 0)] (ol_Xc V a r0 σ ++ ext) (ol_Pw none (ol_Xc V a r0 z ++ ext)) := by
  refine ol_MtOf (L0 := [some (.ref (a 0))]) (by decide) (Nat.le_of_ble_eq_true rfl) rfl (fun X A hX => ?_)
  unfold oX1_forgets at h
  refine ol_aload_n hX (pc := 0) dX1_forgets_0 rfl rfl ?_
  refine ol_iconst hX (pc := 1) (-1) dX1_forgets_1 ol_k_iconst_m1 ?_
  refine ol_xp_O_11 hX (pc := 2) q354 dX1_forgets_2 ?_
  have h := ol_of_some h
  subst h
  exact ol_vret hX (pc := 5) dX1_forgets_5 ⟨rfl, rfl⟩ ⟨Nat.le_refl _, Nat.le_refl _⟩
