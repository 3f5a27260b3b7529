/-! walks of the model's methods (printed by gen/model.py) -/
set_option maxRecDepth 100000
set_option maxHeartbeats 4000000 in
theorem wX4_waiting_L21 {X : ol_Cx} {V : ol_Gh} {A : Nat → Prop} {a : Nat → Nat} {z : Int32 × ol_Mm} (hX : ol_CX X V A cX4_waiting RX4 "waiting" 4 (some .int)) (x1 : Int32)    : ∀ (n : Nat), ∀ (v2 : Int32) (v3 : Int32) (σ : ol_Mm), oX4_waiting_L21 x1 n v2 v3 σ = some z → ol_G X V A true (ol_Pw (some (.int z.1)) (ol_WM V a z.2)) ({ frames := 2, cells := 0, slots := 0, locals := 44 } : Room) 4 0 0 (ol_WM V a σ) 21 [some (.ref (a 0)), some (.int x1), some (.int v2), some (.int v3)] [] := by
  intro n
  induction n with
  | zero =>
    intro v2 v3 σ h
    exact ol_no h
  | succ n ih =>
    intro v2 v3 σ h
    rw [oX4_waiting_L21] at h
    refine ol_iload_n hX (pc := 21) dX4_waiting_21 rfl rfl ?_
    refine ol_aload_n hX (pc := 22) dX4_waiting_22 rfl rfl ?_
    refine ol_mg6 hX (pc := 23) dX4_waiting_23 ?_
    refine ol_iconst hX (pc := 26) 3 dX4_waiting_26 ol_k_iconst_3 ?_
    refine ol_ml2 hX (pc := 27) dX4_waiting_27 ol_tn_3 (ol_in_vp (by decide)) ?_
    refine ol_icmp_ge hX (pc := 28) 61 dX4_waiting_28 (by decide) (fun c5 => ?_) (fun c5 => ?_)
    · have h := ol_ifp c5 h
      refine ol_iload_n hX (pc := 61) dX4_waiting_61 rfl rfl ?_
      have h := ol_of_some h
      subst h
      exact ol_iret hX (pc := 62) dX4_waiting_62 ⟨rfl, rfl⟩ ⟨Nat.le_refl _, Nat.le_refl _⟩
    · have h := ol_ifn c5 h
      refine ol_iload_n hX (pc := 31) dX4_waiting_31 rfl rfl ?_
      refine ol_iload_n hX (pc := 32) dX4_waiting_32 rfl rfl ?_
      refine ol_iload_n hX (pc := 33) dX4_waiting_33 rfl rfl ?_
      refine ol_icmp_eq hX (pc := 34) 52 dX4_waiting_34 (by decide) (fun c4 => ?_) (fun c4 => ?_)
      · have h := ol_ifp c4 h
        refine ol_iconst hX (pc := 52) 0 dX4_waiting_52 ol_k_iconst_0 ?_
        refine ol_ior hX (pc := 53) dX4_waiting_53 ?_
        refine ol_istore_n hX (pc := 54) [some (.ref (a 0)), some (.int x1), some (.int (v2 ||| 0)), some (.int v3)] dX4_waiting_54 rfl (by decide) rfl rfl ?_
        refine ol_iinc hX (pc := 55) (v3 + 1) [some (.ref (a 0)), some (.int x1), some (.int (v2 ||| 0)), some (.int (v3 + 1))] dX4_waiting_55 rfl (ol_k_iinc_1 _) (by decide) rfl rfl ?_
        refine ol_goto hX (pc := 58) 21 dX4_waiting_58 (by decide) ?_
        exact ih (v2 ||| 0) (v3 + 1) σ h
      · have h := ol_ifn c4 h
        refine ol_aload_n hX (pc := 37) dX4_waiting_37 rfl rfl ?_
        refine ol_iload_n hX (pc := 38) dX4_waiting_38 rfl rfl ?_
        refine ol_iload_n hX (pc := 39) dX4_waiting_39 rfl rfl ?_
        obtain ⟨y1, e2, h⟩ := ol_of_bd h
        refine ol_cVr (As := [.int v3, .int x1]) hX (pc := 40) (wX4_doesWait V a σ v3 x1 y1 e2) lkX4_205 dcX4_doesWait ⟨rfl, rfl⟩ ol_rr_X4_waiting_X4_doesWait 0 rfl rfl (fun _ h => h) ⟨Nat.le_refl _, Nat.le_refl _⟩ (Nat.le_of_ble_eq_true rfl) dX4_waiting_40 rfl ?_
        refine ol_if_eq hX (pc := 43) 52 dX4_waiting_43 (by decide) (fun c3 => ?_) (fun c3 => ?_)
        · have h := ol_ifp c3 h
          refine ol_iconst hX (pc := 52) 0 dX4_waiting_52 ol_k_iconst_0 ?_
          refine ol_ior hX (pc := 53) dX4_waiting_53 ?_
          refine ol_istore_n hX (pc := 54) [some (.ref (a 0)), some (.int x1), some (.int (v2 ||| 0)), some (.int v3)] dX4_waiting_54 rfl (by decide) rfl rfl ?_
          refine ol_iinc hX (pc := 55) (v3 + 1) [some (.ref (a 0)), some (.int x1), some (.int (v2 ||| 0)), some (.int (v3 + 1))] dX4_waiting_55 rfl (ol_k_iinc_1 _) (by decide) rfl rfl ?_
          refine ol_goto hX (pc := 58) 21 dX4_waiting_58 (by decide) ?_
          exact ih (v2 ||| 0) (v3 + 1) σ h
        · have h := ol_ifn c3 h
          refine ol_iconst hX (pc := 46) 1 dX4_waiting_46 ol_k_iconst_1 ?_
          refine ol_iload_n hX (pc := 47) dX4_waiting_47 rfl rfl ?_
          refine ol_ishl hX (pc := 48) dX4_waiting_48 ?_
          refine ol_goto hX (pc := 49) 53 dX4_waiting_49 (by decide) ?_
          refine ol_ior hX (pc := 53) dX4_waiting_53 ?_
          refine ol_istore_n hX (pc := 54) [some (.ref (a 0)), some (.int x1), some (.int (v2 ||| ((1 : Int32) <<< (v3 &&& 31)))), some (.int v3)] dX4_waiting_54 rfl (by decide) rfl rfl ?_
          refine ol_iinc hX (pc := 55) (v3 + 1) [some (.ref (a 0)), some (.int x1), some (.int (v2 ||| ((1 : Int32) <<< (v3 &&& 31)))), some (.int (v3 + 1))] dX4_waiting_55 rfl (ol_k_iinc_1 _) (by decide) rfl rfl ?_
          refine ol_goto hX (pc := 58) 21 dX4_waiting_58 (by decide) ?_
          exact ih (v2 ||| ((1 : Int32) <<< (v3 &&& 31))) (v3 + 1) σ h
set_option maxHeartbeats 4000000 in
theorem wX4_waiting (V : ol_Gh) (a : Nat → Nat) (σ : ol_Mm) (x1 : Int32)  (z : Int32 × ol_Mm) (h : oX4_waiting σ x1 = some z) : ol_Mt V yX4_waiting cX4_waiting 4 (some .int) ({ frames := 2, cells := 0, slots := 0, locals := 44 } : Room) true [.ref (a 0), .int x1] (ol_WM V a σ) (ol_Pw (some (.int z.1)) (ol_WM V a z.2)) := by
  refine ol_MtOf (L0 := [some (.ref (a 0)), some (.int x1), none, none]) (by decide) (Nat.le_of_ble_eq_true rfl) rfl (fun X A hX => ?_)
  unfold oX4_waiting at h
  refine ol_aload_n hX (pc := 0) dX4_waiting_0 rfl rfl ?_
  refine ol_aload_n hX (pc := 1) dX4_waiting_1 rfl rfl ?_
  refine ol_iload_n hX (pc := 2) dX4_waiting_2 rfl rfl ?_
  obtain ⟨y1, e2, h⟩ := ol_of_bd h
  refine ol_cVr (As := [.int x1]) hX (pc := 3) (wX4_isBoard V a σ x1 y1 e2) lkX4_268 dcX4_isBoard ⟨rfl, rfl⟩ ol_rr_X4_waiting_X4_isBoard 0 rfl rfl (fun _ h => h) ⟨Nat.le_refl _, Nat.le_refl _⟩ (Nat.le_of_ble_eq_true rfl) dX4_waiting_3 rfl ?_
  obtain ⟨y3, e4, h⟩ := ol_of_bd h
  refine ol_cSr (As := [.int y1]) hX (pc := 6) (wX4_unless V (ol_WM V a σ) y1 y3 e4) lkX4_324 dcX4_unless ⟨rfl, rfl⟩ ol_rr_X4_waiting_X4_unless (fun _ h => h) ⟨Nat.le_refl _, Nat.le_refl _⟩ (Nat.le_of_ble_eq_true rfl) dX4_waiting_6 rfl ?_
  obtain ⟨y5, e6, h⟩ := ol_of_bd h
  refine ol_cVw (As := [.int y3]) hX (pc := 9) (wX4_isRefused V a σ y3 y5 e6) lkX4_180 dcX4_isRefused ol_rr_X4_waiting_X4_isRefused 0 rfl rfl ⟨Nat.le_refl _, Nat.le_refl _⟩ (Nat.le_of_ble_eq_true rfl) dX4_waiting_9 rfl ?_
  refine ol_if_eq hX (pc := 12) 17 dX4_waiting_12 (by decide) (fun c7 => ?_) (fun c7 => ?_)
  · have h := ol_ifp c7 h
    refine ol_iconst hX (pc := 17) 0 dX4_waiting_17 ol_k_iconst_0 ?_
    refine ol_istore_n hX (pc := 18) [some (.ref (a 0)), some (.int x1), some (.int 0), none] dX4_waiting_18 rfl (by decide) rfl rfl ?_
    refine ol_iconst hX (pc := 19) 0 dX4_waiting_19 ol_k_iconst_0 ?_
    refine ol_istore_n hX (pc := 20) [some (.ref (a 0)), some (.int x1), some (.int 0), some (.int 0)] dX4_waiting_20 rfl (by decide) rfl rfl ?_
    exact wX4_waiting_L21 hX x1 ol_fuel 0 0 y5.2 h
  · have h := ol_ifn c7 h
    refine ol_iconst hX (pc := 15) (-1) dX4_waiting_15 ol_k_iconst_m1 ?_
    have h := ol_of_some h
    subst h
    exact ol_iret hX (pc := 16) dX4_waiting_16 ⟨rfl, rfl⟩ ⟨Nat.le_refl _, Nat.le_refl _⟩
set_option maxHeartbeats 4000000 in
theorem wX4_longest_L78 {X : ol_Cx} {V : ol_Gh} {A : Nat → Prop} {a : Nat → Nat} {z : Int32 × ol_Mm} (hX : ol_CX X V A cX4_longest RX4 "longest" 4 (some .int))   (k21 : Int32 → Int32 → ol_Mm → Option (Int32 × ol_Mm)) (hk21 : ∀ (v1 : Int32) (v2 : Int32) (σ : ol_Mm), k21 v1 v2 σ = some z → ol_G X V A true (ol_Pw (some (.int z.1)) (ol_WM V a z.2)) ({ frames := 1, cells := 0, slots := 0, locals := 21 } : Room) 4 0 0 (ol_WM V a σ) 21 [some (.ref (a 0)), some (.int v1), some (.int v2), none] []) (v1 : Int32) (v2 : Int32) (s0 : Int32) (σ : ol_Mm) (h : oX4_longest_L78 k21 v1 v2 s0 σ = some z) : ol_G X V A true (ol_Pw (some (.int z.1)) (ol_WM V a z.2)) ({ frames := 1, cells := 0, slots := 0, locals := 21 } : Room) 4 0 0 (ol_WM V a σ) 78 [some (.ref (a 0)), some (.int v1), some (.int v2), none] [.int s0] := by
  unfold oX4_longest_L78 at h
  refine ol_istore_n hX (pc := 78) [some (.ref (a 0)), some (.int v1), some (.int v2), some (.int s0)] dX4_longest_78 rfl (by decide) rfl rfl ?_
  refine ol_iload_n hX (pc := 79) dX4_longest_79 rfl rfl ?_
  refine ol_if_gt hX (pc := 80) 106 dX4_longest_80 (by decide) (fun c5 => ?_) (fun c5 => ?_)
  · have h := ol_ifp c5 h
    refine ol_iload_n hX (pc := 106) dX4_longest_106 rfl rfl ?_
    refine ol_goto hX (pc := 107) 111 dX4_longest_107 (by decide) ?_
    refine ol_istore_n hX (pc := 111) [some (.ref (a 0)), some (.int v2), some (.int v2), some (.int s0)] dX4_longest_111 rfl (by decide) rfl rfl ?_
    refine ol_iinc hX (pc := 112) (v2 + 1) [some (.ref (a 0)), some (.int v2), some (.int (v2 + 1)), some (.int s0)] dX4_longest_112 rfl (ol_k_iinc_1 _) (by decide) rfl rfl ?_
    refine ol_goto hX (pc := 115) 21 dX4_longest_115 (by decide) ?_
    refine ol_Gdrop 3 ?_
    exact hk21 v2 (v2 + 1) σ h
  · have h := ol_ifn c5 h
    refine ol_iload_n hX (pc := 83) dX4_longest_83 rfl rfl ?_
    refine ol_if_ne hX (pc := 84) 110 dX4_longest_84 (by decide) (fun c4 => ?_) (fun c4 => ?_)
    · have h := ol_ifn c4 h
      refine ol_iload_n hX (pc := 110) dX4_longest_110 rfl rfl ?_
      refine ol_istore_n hX (pc := 111) [some (.ref (a 0)), some (.int v1), some (.int v2), some (.int s0)] dX4_longest_111 rfl (by decide) rfl rfl ?_
      refine ol_iinc hX (pc := 112) (v2 + 1) [some (.ref (a 0)), some (.int v1), some (.int (v2 + 1)), some (.int s0)] dX4_longest_112 rfl (ol_k_iinc_1 _) (by decide) rfl rfl ?_
      refine ol_goto hX (pc := 115) 21 dX4_longest_115 (by decide) ?_
      refine ol_Gdrop 3 ?_
      exact hk21 v1 (v2 + 1) σ h
    · have h := ol_ifp c4 h
      refine ol_aload_n hX (pc := 87) dX4_longest_87 rfl rfl ?_
      refine ol_mg6 hX (pc := 88) dX4_longest_88 ?_
      refine ol_iconst hX (pc := 91) 5 dX4_longest_91 ol_k_iconst_5 ?_
      refine ol_iload_n hX (pc := 92) dX4_longest_92 rfl rfl ?_
      refine ol_iadd hX (pc := 93) dX4_longest_93 ?_
      obtain ⟨g1, h⟩ := ol_of_og h
      refine ol_ml2 hX (pc := 94) dX4_longest_94 rfl (ol_in_vp g1) ?_
      refine ol_aload_n hX (pc := 95) dX4_longest_95 rfl rfl ?_
      refine ol_mg6 hX (pc := 96) dX4_longest_96 ?_
      refine ol_iconst hX (pc := 99) 5 dX4_longest_99 ol_k_iconst_5 ?_
      refine ol_iload_n hX (pc := 100) dX4_longest_100 rfl rfl ?_
      refine ol_iadd hX (pc := 101) dX4_longest_101 ?_
      obtain ⟨g2, h⟩ := ol_of_og h
      refine ol_ml2 hX (pc := 102) dX4_longest_102 rfl (ol_in_vp g2) ?_
      refine ol_icmp_ge hX (pc := 103) 110 dX4_longest_103 (by decide) (fun c3 => ?_) (fun c3 => ?_)
      · have h := ol_ifp c3 h
        refine ol_iload_n hX (pc := 110) dX4_longest_110 rfl rfl ?_
        refine ol_istore_n hX (pc := 111) [some (.ref (a 0)), some (.int v1), some (.int v2), some (.int s0)] dX4_longest_111 rfl (by decide) rfl rfl ?_
        refine ol_iinc hX (pc := 112) (v2 + 1) [some (.ref (a 0)), some (.int v1), some (.int (v2 + 1)), some (.int s0)] dX4_longest_112 rfl (ol_k_iinc_1 _) (by decide) rfl rfl ?_
        refine ol_goto hX (pc := 115) 21 dX4_longest_115 (by decide) ?_
        refine ol_Gdrop 3 ?_
        exact hk21 v1 (v2 + 1) σ h
      · have h := ol_ifn c3 h
        refine ol_iload_n hX (pc := 106) dX4_longest_106 rfl rfl ?_
        refine ol_goto hX (pc := 107) 111 dX4_longest_107 (by decide) ?_
        refine ol_istore_n hX (pc := 111) [some (.ref (a 0)), some (.int v2), some (.int v2), some (.int s0)] dX4_longest_111 rfl (by decide) rfl rfl ?_
        refine ol_iinc hX (pc := 112) (v2 + 1) [some (.ref (a 0)), some (.int v2), some (.int (v2 + 1)), some (.int s0)] dX4_longest_112 rfl (ol_k_iinc_1 _) (by decide) rfl rfl ?_
        refine ol_goto hX (pc := 115) 21 dX4_longest_115 (by decide) ?_
        refine ol_Gdrop 3 ?_
        exact hk21 v2 (v2 + 1) σ h
set_option maxHeartbeats 4000000 in
theorem wX4_longest_L21 {X : ol_Cx} {V : ol_Gh} {A : Nat → Prop} {a : Nat → Nat} {z : Int32 × ol_Mm} (hX : ol_CX X V A cX4_longest RX4 "longest" 4 (some .int))     : ∀ (n : Nat), ∀ (v1 : Int32) (v2 : Int32) (σ : ol_Mm), oX4_longest_L21 n v1 v2 σ = some z → ol_G X V A true (ol_Pw (some (.int z.1)) (ol_WM V a z.2)) ({ frames := 1, cells := 0, slots := 0, locals := 21 } : Room) 4 0 0 (ol_WM V a σ) 21 [some (.ref (a 0)), some (.int v1), some (.int v2), none] [] := by
  intro n
  induction n with
  | zero =>
    intro v1 v2 σ h
    exact ol_no h
  | succ n ih =>
    intro v1 v2 σ h
    rw [oX4_longest_L21] at h
    refine ol_iload_n hX (pc := 21) dX4_longest_21 rfl rfl ?_
    refine ol_aload_n hX (pc := 22) dX4_longest_22 rfl rfl ?_
    refine ol_mg6 hX (pc := 23) dX4_longest_23 ?_
    refine ol_iconst hX (pc := 26) 3 dX4_longest_26 ol_k_iconst_3 ?_
    refine ol_ml2 hX (pc := 27) dX4_longest_27 ol_tn_3 (ol_in_vp (by decide)) ?_
    refine ol_icmp_ge hX (pc := 28) 118 dX4_longest_28 (by decide) (fun c12 => ?_) (fun c12 => ?_)
    · have h := ol_ifp c12 h
      refine ol_iload_n hX (pc := 118) dX4_longest_118 rfl rfl ?_
      have h := ol_of_some h
      subst h
      exact ol_iret hX (pc := 119) dX4_longest_119 ⟨rfl, rfl⟩ ⟨Nat.le_refl _, Nat.le_refl _⟩
    · have h := ol_ifn c12 h
      refine ol_aload_n hX (pc := 31) dX4_longest_31 rfl rfl ?_
      refine ol_mg18 hX (pc := 32) dX4_longest_32 ?_
      refine ol_iload_n hX (pc := 35) dX4_longest_35 rfl rfl ?_
      refine ol_iconst hX (pc := 36) 0 dX4_longest_36 ol_k_iconst_0 ?_
      obtain ⟨y1, e2, h⟩ := ol_of_bd h
      refine ol_cSr (As := [.int v2, .int 0]) hX (pc := 37) (wX4_at V (ol_WM V a σ) v2 0 y1 e2) lkX4_201 dcX4_at ⟨rfl, rfl⟩ ol_rr_X4_longest_X4_at (fun _ h => h) ⟨Nat.le_refl _, Nat.le_refl _⟩ (Nat.le_of_ble_eq_true rfl) dX4_longest_37 rfl ?_
      obtain ⟨g3, h⟩ := ol_of_og h
      refine ol_ml5 hX (pc := 40) dX4_longest_40 rfl (ol_in_vp g3) ?_
      refine ol_if_ne hX (pc := 41) 47 dX4_longest_41 (by decide) (fun c11 => ?_) (fun c11 => ?_)
      · have h := ol_ifn c11 h
        refine ol_iload_n hX (pc := 47) dX4_longest_47 rfl rfl ?_
        refine ol_bipush hX (pc := 48) (-2) dX4_longest_48 ol_k_bipush_m2 ?_
        refine ol_icmp_ne hX (pc := 50) 57 dX4_longest_50 (by decide) (fun c10 => ?_) (fun c10 => ?_)
        · have h := ol_ifn c10 h
          refine ol_aload_n hX (pc := 57) dX4_longest_57 rfl rfl ?_
          refine ol_mg18 hX (pc := 58) dX4_longest_58 ?_
          refine ol_iload_n hX (pc := 61) dX4_longest_61 rfl rfl ?_
          refine ol_iconst hX (pc := 62) 1 dX4_longest_62 ol_k_iconst_1 ?_
          obtain ⟨y4, e5, h⟩ := ol_of_bd h
          refine ol_cSr (As := [.int v1, .int 1]) hX (pc := 63) (wX4_at V (ol_WM V a σ) v1 1 y4 e5) lkX4_201 dcX4_at ⟨rfl, rfl⟩ ol_rr_X4_longest_X4_at (fun _ h => h) ⟨Nat.le_refl _, Nat.le_refl _⟩ (Nat.le_of_ble_eq_true rfl) dX4_longest_63 rfl ?_
          obtain ⟨g6, h⟩ := ol_of_og h
          refine ol_ml5 hX (pc := 66) dX4_longest_66 rfl (ol_in_vp g6) ?_
          refine ol_aload_n hX (pc := 67) dX4_longest_67 rfl rfl ?_
          refine ol_mg18 hX (pc := 68) dX4_longest_68 ?_
          refine ol_iload_n hX (pc := 71) dX4_longest_71 rfl rfl ?_
          refine ol_iconst hX (pc := 72) 1 dX4_longest_72 ol_k_iconst_1 ?_
          obtain ⟨y7, e8, h⟩ := ol_of_bd h
          refine ol_cSr (As := [.int v2, .int 1]) hX (pc := 73) (wX4_at V (ol_WM V a σ) v2 1 y7 e8) lkX4_201 dcX4_at ⟨rfl, rfl⟩ ol_rr_X4_longest_X4_at (fun _ h => h) ⟨Nat.le_refl _, Nat.le_refl _⟩ (Nat.le_of_ble_eq_true rfl) dX4_longest_73 rfl ?_
          obtain ⟨g9, h⟩ := ol_of_og h
          refine ol_ml5 hX (pc := 76) dX4_longest_76 rfl (ol_in_vp g9) ?_
          refine ol_isub hX (pc := 77) dX4_longest_77 ?_
          exact wX4_longest_L78 hX (oX4_longest_L21 n) ih v1 v2 ((σ.1 5 y4.toNatClampNeg) - (σ.1 5 y7.toNatClampNeg)) σ h
        · have h := ol_ifp c10 h
          refine ol_iconst hX (pc := 53) 1 dX4_longest_53 ol_k_iconst_1 ?_
          refine ol_goto hX (pc := 54) 78 dX4_longest_54 (by decide) ?_
          exact wX4_longest_L78 hX (oX4_longest_L21 n) ih v1 v2 1 σ h
      · have h := ol_ifp c11 h
        refine ol_goto hX (pc := 44) 112 dX4_longest_44 (by decide) ?_
        refine ol_iinc hX (pc := 112) (v2 + 1) [some (.ref (a 0)), some (.int v1), some (.int (v2 + 1)), none] dX4_longest_112 rfl (ol_k_iinc_1 _) (by decide) rfl rfl ?_
        refine ol_goto hX (pc := 115) 21 dX4_longest_115 (by decide) ?_
        exact ih v1 (v2 + 1) σ h
set_option maxHeartbeats 4000000 in
theorem wX4_longest (V : ol_Gh) (a : Nat → Nat) (σ : ol_Mm)  (z : Int32 × ol_Mm) (h : oX4_longest σ = some z) : ol_Mt V yX4_longest cX4_longest 4 (some .int) ({ frames := 1, cells := 0, slots := 0, locals := 21 } : Room) true [.ref (a 0)] (ol_WM V a σ) (ol_Pw (some (.int z.1)) (ol_WM V a z.2)) := by
  refine ol_MtOf (L0 := [some (.ref (a 0)), none, none, none]) (by decide) (Nat.le_of_ble_eq_true rfl) rfl (fun X A hX => ?_)
  unfold oX4_longest at h
  refine ol_aload_n hX (pc := 0) dX4_longest_0 rfl rfl ?_
  refine ol_aload_n hX (pc := 1) dX4_longest_1 rfl rfl ?_
  refine ol_mg9 hX (pc := 2) dX4_longest_2 ?_
  obtain ⟨y1, e2, h⟩ := ol_of_bd h
  refine ol_cSr (As := [.int (σ.1 0 9)]) hX (pc := 5) (wX4_unless V (ol_WM V a σ) (σ.1 0 9) y1 e2) lkX4_324 dcX4_unless ⟨rfl, rfl⟩ ol_rr_X4_longest_X4_unless (fun _ h => h) ⟨Nat.le_refl _, Nat.le_refl _⟩ (Nat.le_of_ble_eq_true rfl) dX4_longest_5 rfl ?_
  obtain ⟨y3, e4, h⟩ := ol_of_bd h
  refine ol_cVw (As := [.int y1]) hX (pc := 8) (wX4_isRefused V a σ y1 y3 e4) lkX4_180 dcX4_isRefused ol_rr_X4_longest_X4_isRefused 0 rfl rfl ⟨Nat.le_refl _, Nat.le_refl _⟩ (Nat.le_of_ble_eq_true rfl) dX4_longest_8 rfl ?_
  refine ol_if_eq hX (pc := 11) 16 dX4_longest_11 (by decide) (fun c5 => ?_) (fun c5 => ?_)
  · have h := ol_ifp c5 h
    refine ol_bipush hX (pc := 16) (-2) dX4_longest_16 ol_k_bipush_m2 ?_
    refine ol_istore_n hX (pc := 18) [some (.ref (a 0)), some (.int (-2)), none, none] dX4_longest_18 rfl (by decide) rfl rfl ?_
    refine ol_iconst hX (pc := 19) 0 dX4_longest_19 ol_k_iconst_0 ?_
    refine ol_istore_n hX (pc := 20) [some (.ref (a 0)), some (.int (-2)), some (.int 0), none] dX4_longest_20 rfl (by decide) rfl rfl ?_
    exact wX4_longest_L21 hX ol_fuel (-2) 0 y3.2 h
  · have h := ol_ifn c5 h
    refine ol_iconst hX (pc := 14) (-1) dX4_longest_14 ol_k_iconst_m1 ?_
    have h := ol_of_some h
    subst h
    exact ol_iret hX (pc := 15) dX4_longest_15 ⟨rfl, rfl⟩ ⟨Nat.le_refl _, Nat.le_refl _⟩
set_option maxHeartbeats 4000000 in
theorem wX4_laysAside_L2 {X : ol_Cx} {V : ol_Gh} {A : Nat → Prop} {a : Nat → Nat} {z : ol_Mm} (hX : ol_CX X V A cX4_laysAside RX4 "laysAside" 2 none)     : ∀ (n : Nat), ∀ (v1 : Int32) (σ : ol_Mm), oX4_laysAside_L2 n v1 σ = some z → ol_G X V A true (ol_Pw none (ol_WM V a z)) ({ frames := 0, cells := 0, slots := 0, locals := 0 } : Room) 2 0 0 (ol_WM V a σ) 2 [some (.ref (a 0)), some (.int v1)] [] := by
  intro n
  induction n with
  | zero =>
    intro v1 σ h
    exact ol_no h
  | succ n ih =>
    intro v1 σ h
    rw [oX4_laysAside_L2] at h
    refine ol_iload_n hX (pc := 2) dX4_laysAside_2 rfl rfl ?_
    refine ol_sipush hX (pc := 3) 251 dX4_laysAside_3 ol_k_sipush_251 ?_
    refine ol_icmp_ge hX (pc := 6) 27 dX4_laysAside_6 (by decide) (fun c3 => ?_) (fun c3 => ?_)
    · have h := ol_ifp c3 h
      have h := ol_of_some h
      subst h
      exact ol_vret hX (pc := 27) dX4_laysAside_27 ⟨rfl, rfl⟩ ⟨Nat.le_refl _, Nat.le_refl _⟩
    · have h := ol_ifn c3 h
      refine ol_aload_n hX (pc := 9) dX4_laysAside_9 rfl rfl ?_
      refine ol_mg19 hX (pc := 10) dX4_laysAside_10 ?_
      refine ol_iload_n hX (pc := 13) dX4_laysAside_13 rfl rfl ?_
      refine ol_aload_n hX (pc := 14) dX4_laysAside_14 rfl rfl ?_
      refine ol_mg18 hX (pc := 15) dX4_laysAside_15 ?_
      refine ol_iload_n hX (pc := 18) dX4_laysAside_18 rfl rfl ?_
      obtain ⟨g1, h⟩ := ol_of_og h
      refine ol_ml5 hX (pc := 19) dX4_laysAside_19 rfl (ol_in_vp g1) ?_
      obtain ⟨g2, h⟩ := ol_of_og h
      refine ol_ms6 hX (pc := 20) dX4_laysAside_20 rfl (ol_in_vp g2) ?_
      refine ol_iinc hX (pc := 21) (v1 + 1) [some (.ref (a 0)), some (.int (v1 + 1))] dX4_laysAside_21 rfl (ol_k_iinc_1 _) (by decide) rfl rfl ?_
      refine ol_goto hX (pc := 24) 2 dX4_laysAside_24 (by decide) ?_
      exact ih (v1 + 1) (ol_ms σ 6 v1.toNatClampNeg (σ.1 5 v1.toNatClampNeg)) h
set_option maxHeartbeats 4000000 in
theorem wX4_laysAside (V : ol_Gh) (a : Nat → Nat) (σ : ol_Mm)  (z : ol_Mm) (h : oX4_laysAside σ = some z) : ol_Mt V yX4_laysAside cX4_laysAside 2 none ({ frames := 0, cells := 0, slots := 0, locals := 0 } : Room) true [.ref (a 0)] (ol_WM V a σ) (ol_Pw none (ol_WM V a z)) := by
  refine ol_MtOf (L0 := [some (.ref (a 0)), none]) (by decide) (Nat.le_of_ble_eq_true rfl) rfl (fun X A hX => ?_)
  unfold oX4_laysAside at h
  refine ol_iconst hX (pc := 0) 0 dX4_laysAside_0 ol_k_iconst_0 ?_
  refine ol_istore_n hX (pc := 1) [some (.ref (a 0)), some (.int 0)] dX4_laysAside_1 rfl (by decide) rfl rfl ?_
  exact wX4_laysAside_L2 hX ol_fuel 0 σ h
set_option maxHeartbeats 4000000 in
theorem wX4_asks_L23 {X : ol_Cx} {V : ol_Gh} {A : Nat → Prop} {a : Nat → Nat} {z : Int32 × ol_Mm} (hX : ol_CX X V A cX4_asks RX4 "asks" 3 (some .boolean)) (x1 : Int32) (x2 : Int32)   (σ : ol_Mm) (h : oX4_asks_L23 x1 x2 σ = some z) : ol_G X V A true (ol_Pw (some (.int z.1)) (ol_WM V a z.2)) ({ frames := 1, cells := 0, slots := 0, locals := 21 } : Room) 3 0 0 (ol_WM V a σ) 23 [some (.ref (a 0)), some (.int x1), none] [] := by
  unfold oX4_asks_L23 at h
  refine ol_aload_n hX (pc := 23) dX4_asks_23 rfl rfl ?_
  refine ol_mg18 hX (pc := 24) dX4_asks_24 ?_
  refine ol_iload_n hX (pc := 27) dX4_asks_27 rfl rfl ?_
  refine ol_bipush hX (pc := 28) 8 dX4_asks_28 ol_k_bipush_8 ?_
  obtain ⟨y1, e2, h⟩ := ol_of_bd h
  refine ol_cSr (As := [.int x1, .int 8]) hX (pc := 30) (wX4_at V (ol_WM V a σ) x1 8 y1 e2) lkX4_201 dcX4_at ⟨rfl, rfl⟩ ol_rr_X4_asks_X4_at (fun _ h => h) ⟨Nat.le_refl _, Nat.le_refl _⟩ (Nat.le_of_ble_eq_true rfl) dX4_asks_30 rfl ?_
  refine ol_dup2_11 hX (pc := 33) dX4_asks_33 rfl rfl ?_
  obtain ⟨g3, h⟩ := ol_of_og h
  refine ol_ml5 hX (pc := 34) dX4_asks_34 rfl (ol_in_vp g3) ?_
  refine ol_iconst hX (pc := 35) 1 dX4_asks_35 ol_k_iconst_1 ?_
  refine ol_iadd hX (pc := 36) dX4_asks_36 ?_
  obtain ⟨g4, h⟩ := ol_of_og h
  refine ol_ms5 hX (pc := 37) dX4_asks_37 rfl (ol_in_vp g4) ?_
  refine ol_iconst hX (pc := 38) 0 dX4_asks_38 ol_k_iconst_0 ?_
  have h := ol_of_some h
  subst h
  exact ol_zret hX (pc := 39) dX4_asks_39 (by rfl) ⟨rfl, rfl⟩ ⟨Nat.le_refl _, Nat.le_refl _⟩
set_option maxHeartbeats 4000000 in
theorem wX4_asks (V : ol_Gh) (a : Nat → Nat) (σ : ol_Mm) (x1 : Int32) (x2 : Int32)  (z : Int32 × ol_Mm) (h : oX4_asks σ x1 x2 = some z) : ol_Mt V yX4_asks cX4_asks 3 (some .boolean) ({ frames := 1, cells := 0, slots := 0, locals := 21 } : Room) true [.ref (a 0), .int x1, .int x2] (ol_WM V a σ) (ol_Pw (some (.int z.1)) (ol_WM V a z.2)) := by
  refine ol_MtOf (L0 := [some (.ref (a 0)), some (.int x1), some (.int x2)]) (by decide) (Nat.le_of_ble_eq_true rfl) rfl (fun X A hX => ?_)
  unfold oX4_asks at h
  refine ol_aload_n hX (pc := 0) dX4_asks_0 rfl rfl ?_
  refine ol_mg18 hX (pc := 1) dX4_asks_1 ?_
  refine ol_iload_n hX (pc := 4) dX4_asks_4 rfl rfl ?_
  refine ol_iconst hX (pc := 5) 0 dX4_asks_5 ol_k_iconst_0 ?_
  obtain ⟨y1, e2, h⟩ := ol_of_bd h
  refine ol_cSr (As := [.int x1, .int 0]) hX (pc := 6) (wX4_at V (ol_WM V a σ) x1 0 y1 e2) lkX4_201 dcX4_at ⟨rfl, rfl⟩ ol_rr_X4_asks_X4_at (fun _ h => h) ⟨Nat.le_refl _, Nat.le_refl _⟩ (Nat.le_of_ble_eq_true rfl) dX4_asks_6 rfl ?_
  obtain ⟨g3, h⟩ := ol_of_og h
  refine ol_ml5 hX (pc := 9) dX4_asks_9 rfl (ol_in_vp g3) ?_
  refine ol_if_gt hX (pc := 10) 23 dX4_asks_10 (by decide) (fun c11 => ?_) (fun c11 => ?_)
  · have h := ol_ifp c11 h
    refine ol_Gdrop 2 ?_
    exact wX4_asks_L23 hX x1 x2 σ h
  · have h := ol_ifn c11 h
    refine ol_aload_n hX (pc := 13) dX4_asks_13 rfl rfl ?_
    refine ol_mg18 hX (pc := 14) dX4_asks_14 ?_
    refine ol_iconst hX (pc := 17) 1 dX4_asks_17 ol_k_iconst_1 ?_
    refine ol_ml5 hX (pc := 18) dX4_asks_18 ol_tn_1 (ol_in_vp (by decide)) ?_
    refine ol_iload_n hX (pc := 19) dX4_asks_19 rfl rfl ?_
    refine ol_icmp_ne hX (pc := 20) 40 dX4_asks_20 (by decide) (fun c10 => ?_) (fun c10 => ?_)
    · have h := ol_ifn c10 h
      refine ol_aload_n hX (pc := 40) dX4_asks_40 rfl rfl ?_
      refine ol_mg18 hX (pc := 41) dX4_asks_41 ?_
      refine ol_iload_n hX (pc := 44) dX4_asks_44 rfl rfl ?_
      refine ol_iconst hX (pc := 45) 0 dX4_asks_45 ol_k_iconst_0 ?_
      obtain ⟨y4, e5, h⟩ := ol_of_bd h
      refine ol_cSr (As := [.int x1, .int 0]) hX (pc := 46) (wX4_at V (ol_WM V a σ) x1 0 y4 e5) lkX4_201 dcX4_at ⟨rfl, rfl⟩ ol_rr_X4_asks_X4_at (fun _ h => h) ⟨Nat.le_refl _, Nat.le_refl _⟩ (Nat.le_of_ble_eq_true rfl) dX4_asks_46 rfl ?_
      refine ol_iload_n hX (pc := 49) dX4_asks_49 rfl rfl ?_
      obtain ⟨g6, h⟩ := ol_of_og h
      refine ol_ms5 hX (pc := 50) dX4_asks_50 rfl (ol_in_vp g6) ?_
      refine ol_aload_n hX (pc := 51) dX4_asks_51 rfl rfl ?_
      refine ol_mg18 hX (pc := 52) dX4_asks_52 ?_
      refine ol_iload_n hX (pc := 55) dX4_asks_55 rfl rfl ?_
      refine ol_iconst hX (pc := 56) 1 dX4_asks_56 ol_k_iconst_1 ?_
      obtain ⟨y7, e8, h⟩ := ol_of_bd h
      refine ol_cSr (As := [.int x1, .int 1]) hX (pc := 57) (wX4_at V (ol_WM V a (ol_ms σ 5 y4.toNatClampNeg x2)) x1 1 y7 e8) lkX4_201 dcX4_at ⟨rfl, rfl⟩ ol_rr_X4_asks_X4_at (fun _ h => h) ⟨Nat.le_refl _, Nat.le_refl _⟩ (Nat.le_of_ble_eq_true rfl) dX4_asks_57 rfl ?_
      refine ol_aload_n hX (pc := 60) dX4_asks_60 rfl rfl ?_
      refine ol_mg18 hX (pc := 61) dX4_asks_61 ?_
      refine ol_iconst hX (pc := 64) 0 dX4_asks_64 ol_k_iconst_0 ?_
      refine ol_ml5 hX (pc := 65) dX4_asks_65 ol_tn_0 (ol_in_vp (by decide)) ?_
      obtain ⟨g9, h⟩ := ol_of_og h
      refine ol_ms5 hX (pc := 66) dX4_asks_66 rfl (ol_in_vp g9) ?_
      refine ol_iconst hX (pc := 67) 1 dX4_asks_67 ol_k_iconst_1 ?_
      have h := ol_of_some h
      subst h
      exact ol_zret hX (pc := 68) dX4_asks_68 (by rfl) ⟨rfl, rfl⟩ ⟨Nat.le_refl _, Nat.le_refl _⟩
    · have h := ol_ifp c10 h
      refine ol_Gdrop 2 ?_
      exact wX4_asks_L23 hX x1 x2 σ h
set_option maxHeartbeats 4000000 in
theorem wX4_logs_L68 {X : ol_Cx} {V : ol_Gh} {A : Nat → Prop} {a : Nat → Nat} {z : ol_Mm} (hX : ol_CX X V A cX4_logs RX4 "logs" 4 none) (x1 : Int32) (x2 : Int32)   (s0 : Int32) (s1 : Int32) (σ : ol_Mm) (h : oX4_logs_L68 x1 x2 s0 s1 σ = some z) : ol_G X V A true (ol_Pw none (ol_WM V a z)) ({ frames := 0, cells := 0, slots := 0, locals := 0 } : Room) 4 0 0 (ol_WM V a σ) 68 [some (.ref (a 0)), some (.int x1), some (.int x2), none] [.int s0, .int s1, .ref (a 5)] := by
  unfold oX4_logs_L68 at h
  obtain ⟨g1, h⟩ := ol_of_og h
  refine ol_ms5 hX (pc := 68) dX4_logs_68 rfl (ol_in_vp g1) ?_
  refine ol_aload_n hX (pc := 69) dX4_logs_69 rfl rfl ?_
  refine ol_mg18 hX (pc := 70) dX4_logs_70 ?_
  refine ol_bipush hX (pc := 73) 91 dX4_logs_73 ol_k_bipush_91 ?_
  refine ol_aload_n hX (pc := 75) dX4_logs_75 rfl rfl ?_
  refine ol_mg18 hX (pc := 76) dX4_logs_76 ?_
  refine ol_iconst hX (pc := 79) 0 dX4_logs_79 ol_k_iconst_0 ?_
  refine ol_ml5 hX (pc := 80) dX4_logs_80 ol_tn_0 (ol_in_vp (by decide)) ?_
  refine ol_ms5 hX (pc := 81) dX4_logs_81 ol_tn_91 (ol_in_vp (by decide)) ?_
  refine ol_aload_n hX (pc := 82) dX4_logs_82 rfl rfl ?_
  refine ol_mg18 hX (pc := 83) dX4_logs_83 ?_
  refine ol_bipush hX (pc := 86) 92 dX4_logs_86 ol_k_bipush_92 ?_
  refine ol_iload_n hX (pc := 88) dX4_logs_88 rfl rfl ?_
  refine ol_ms5 hX (pc := 89) dX4_logs_89 ol_tn_92 (ol_in_vp (by decide)) ?_
  refine ol_aload_n hX (pc := 90) dX4_logs_90 rfl rfl ?_
  refine ol_mg18 hX (pc := 91) dX4_logs_91 ?_
  refine ol_bipush hX (pc := 94) 93 dX4_logs_94 ol_k_bipush_93 ?_
  refine ol_aload_n hX (pc := 96) dX4_logs_96 rfl rfl ?_
  refine ol_mg31 hX (pc := 97) dX4_logs_97 ?_
  refine ol_ms5 hX (pc := 100) dX4_logs_100 ol_tn_93 (ol_in_vp (by decide)) ?_
  refine ol_aload_n hX (pc := 101) dX4_logs_101 rfl rfl ?_
  refine ol_mg18 hX (pc := 102) dX4_logs_102 ?_
  refine ol_bipush hX (pc := 105) 94 dX4_logs_105 ol_k_bipush_94 ?_
  refine ol_aload_n hX (pc := 107) dX4_logs_107 rfl rfl ?_
  refine ol_mg32 hX (pc := 108) dX4_logs_108 ?_
  refine ol_ms5 hX (pc := 111) dX4_logs_111 ol_tn_94 (ol_in_vp (by decide)) ?_
  refine ol_aload_n hX (pc := 112) dX4_logs_112 rfl rfl ?_
  refine ol_mg18 hX (pc := 113) dX4_logs_113 ?_
  refine ol_bipush hX (pc := 116) 95 dX4_logs_116 ol_k_bipush_95 ?_
  refine ol_iload_n hX (pc := 118) dX4_logs_118 rfl rfl ?_
  refine ol_ms5 hX (pc := 119) dX4_logs_119 ol_tn_95 (ol_in_vp (by decide)) ?_
  refine ol_aload_n hX (pc := 120) dX4_logs_120 rfl rfl ?_
  refine ol_mg18 hX (pc := 121) dX4_logs_121 ?_
  refine ol_bipush hX (pc := 124) 96 dX4_logs_124 ol_k_bipush_96 ?_
  refine ol_aload_n hX (pc := 126) dX4_logs_126 rfl rfl ?_
  refine ol_mg30 hX (pc := 127) dX4_logs_127 ?_
  refine ol_ms5 hX (pc := 130) dX4_logs_130 ol_tn_96 (ol_in_vp (by decide)) ?_
  have h := ol_of_some h
  subst h
  exact ol_vret hX (pc := 131) dX4_logs_131 ⟨rfl, rfl⟩ ⟨Nat.le_refl _, Nat.le_refl _⟩
set_option maxHeartbeats 4000000 in
theorem wX4_logs_L3 {X : ol_Cx} {V : ol_Gh} {A : Nat → Prop} {a : Nat → Nat} {z : ol_Mm} (hX : ol_CX X V A cX4_logs RX4 "logs" 4 none) (x1 : Int32) (x2 : Int32)    : ∀ (n : Nat), ∀ (v3 : Int32) (σ : ol_Mm), oX4_logs_L3 x1 x2 n v3 σ = some z → ol_G X V A true (ol_Pw none (ol_WM V a z)) ({ frames := 0, cells := 0, slots := 0, locals := 0 } : Room) 4 0 0 (ol_WM V a σ) 3 [some (.ref (a 0)), some (.int x1), some (.int x2), some (.int v3)] [] := by
  intro n
  induction n with
  | zero =>
    intro v3 σ h
    exact ol_no h
  | succ n ih =>
    intro v3 σ h
    rw [oX4_logs_L3] at h
    refine ol_iload_n hX (pc := 3) dX4_logs_3 rfl rfl ?_
    refine ol_bipush hX (pc := 4) 6 dX4_logs_4 ol_k_bipush_6 ?_
    refine ol_icmp_lt hX (pc := 6) 36 dX4_logs_6 (by decide) (fun c4 => ?_) (fun c4 => ?_)
    · have h := ol_ifp c4 h
      refine ol_aload_n hX (pc := 36) dX4_logs_36 rfl rfl ?_
      refine ol_mg18 hX (pc := 37) dX4_logs_37 ?_
      refine ol_bipush hX (pc := 40) 90 dX4_logs_40 ol_k_bipush_90 ?_
      refine ol_aload_n hX (pc := 42) dX4_logs_42 rfl rfl ?_
      refine ol_mg18 hX (pc := 43) dX4_logs_43 ?_
      refine ol_bipush hX (pc := 46) 90 dX4_logs_46 ol_k_bipush_90 ?_
      refine ol_ml5 hX (pc := 48) dX4_logs_48 ol_tn_90 (ol_in_vp (by decide)) ?_
      refine ol_bipush hX (pc := 49) 16 dX4_logs_49 ol_k_bipush_16 ?_
      refine ol_icmp_ne hX (pc := 51) 59 dX4_logs_51 (by decide) (fun c1 => ?_) (fun c1 => ?_)
      · have h := ol_ifn c1 h
        refine ol_aload_n hX (pc := 59) dX4_logs_59 rfl rfl ?_
        refine ol_mg18 hX (pc := 60) dX4_logs_60 ?_
        refine ol_bipush hX (pc := 63) 90 dX4_logs_63 ol_k_bipush_90 ?_
        refine ol_ml5 hX (pc := 65) dX4_logs_65 ol_tn_90 (ol_in_vp (by decide)) ?_
        refine ol_iconst hX (pc := 66) 1 dX4_logs_66 ol_k_iconst_1 ?_
        refine ol_iadd hX (pc := 67) dX4_logs_67 ?_
        refine ol_Gdrop 3 ?_
        exact wX4_logs_L68 hX x1 x2 ((σ.1 5 90) + 1) 90 σ h
      · have h := ol_ifp c1 h
        refine ol_bipush hX (pc := 54) 16 dX4_logs_54 ol_k_bipush_16 ?_
        refine ol_goto hX (pc := 56) 68 dX4_logs_56 (by decide) ?_
        refine ol_Gdrop 3 ?_
        exact wX4_logs_L68 hX x1 x2 16 90 σ h
    · have h := ol_ifn c4 h
      refine ol_aload_n hX (pc := 9) dX4_logs_9 rfl rfl ?_
      refine ol_mg18 hX (pc := 10) dX4_logs_10 ?_
      refine ol_bipush hX (pc := 13) 91 dX4_logs_13 ol_k_bipush_91 ?_
      refine ol_iload_n hX (pc := 15) dX4_logs_15 rfl rfl ?_
      refine ol_iadd hX (pc := 16) dX4_logs_16 ?_
      refine ol_aload_n hX (pc := 17) dX4_logs_17 rfl rfl ?_
      refine ol_mg18 hX (pc := 18) dX4_logs_18 ?_
      refine ol_bipush hX (pc := 21) 91 dX4_logs_21 ol_k_bipush_91 ?_
      refine ol_iload_n hX (pc := 23) dX4_logs_23 rfl rfl ?_
      refine ol_iadd hX (pc := 24) dX4_logs_24 ?_
      refine ol_bipush hX (pc := 25) 6 dX4_logs_25 ol_k_bipush_6 ?_
      refine ol_isub hX (pc := 27) dX4_logs_27 ?_
      obtain ⟨g2, h⟩ := ol_of_og h
      refine ol_ml5 hX (pc := 28) dX4_logs_28 rfl (ol_in_vp g2) ?_
      obtain ⟨g3, h⟩ := ol_of_og h
      refine ol_ms5 hX (pc := 29) dX4_logs_29 rfl (ol_in_vp g3) ?_
      refine ol_iinc hX (pc := 30) (v3 + (-1)) [some (.ref (a 0)), some (.int x1), some (.int x2), some (.int (v3 + (-1)))] dX4_logs_30 rfl (ol_k_iinc_m1 _) (by decide) rfl rfl ?_
      refine ol_goto hX (pc := 33) 3 dX4_logs_33 (by decide) ?_
      exact ih (v3 + (-1)) (ol_ms σ 5 ((91 + v3).toNatClampNeg) (σ.1 5 (((91 + v3) - 6).toNatClampNeg))) h
set_option maxHeartbeats 4000000 in
theorem wX4_logs (V : ol_Gh) (a : Nat → Nat) (σ : ol_Mm) (x1 : Int32) (x2 : Int32)  (z : ol_Mm) (h : oX4_logs σ x1 x2 = some z) : ol_Mt V yX4_logs cX4_logs 4 none ({ frames := 0, cells := 0, slots := 0, locals := 0 } : Room) true [.ref (a 0), .int x1, .int x2] (ol_WM V a σ) (ol_Pw none (ol_WM V a z)) := by
  refine ol_MtOf (L0 := [some (.ref (a 0)), some (.int x1), some (.int x2), none]) (by decide) (Nat.le_of_ble_eq_true rfl) rfl (fun X A hX => ?_)
  unfold oX4_logs at h
  refine ol_bipush hX (pc := 0) 95 dX4_logs_0 ol_k_bipush_95 ?_
  refine ol_istore_n hX (pc := 2) [some (.ref (a 0)), some (.int x1), some (.int x2), some (.int 95)] dX4_logs_2 rfl (by decide) rfl rfl ?_
  exact wX4_logs_L3 hX x1 x2 ol_fuel 95 σ h
set_option maxHeartbeats 4000000 in
theorem wX4_isElected_L41 {X : ol_Cx} {V : ol_Gh} {A : Nat → Prop} {a : Nat → Nat} {z : ol_Mm} (hX : ol_CX X V A cX4_isElected RX4 "isElected" 3 none) (x1 : Int32)    : ∀ (n : Nat), ∀ (v2 : Int32) (σ : ol_Mm), oX4_isElected_L41 x1 n v2 σ = some z → ol_G X V A true (ol_Pw none (ol_WM V a z)) ({ frames := 1, cells := 0, slots := 0, locals := 21 } : Room) 3 0 0 (ol_WM V a σ) 41 [some (.ref (a 0)), some (.int x1), some (.int v2)] [] := by
  intro n
  induction n with
  | zero =>
    intro v2 σ h
    exact ol_no h
  | succ n ih =>
    intro v2 σ h
    rw [oX4_isElected_L41] at h
    refine ol_iload_n hX (pc := 41) dX4_isElected_41 rfl rfl ?_
    refine ol_bipush hX (pc := 42) 6 dX4_isElected_42 ol_k_bipush_6 ?_
    refine ol_icmp_ge hX (pc := 44) 64 dX4_isElected_44 (by decide) (fun c7 => ?_) (fun c7 => ?_)
    · have h := ol_ifp c7 h
      refine ol_aload_n hX (pc := 64) dX4_isElected_64 rfl rfl ?_
      refine ol_mg18 hX (pc := 65) dX4_isElected_65 ?_
      refine ol_iload_n hX (pc := 68) dX4_isElected_68 rfl rfl ?_
      refine ol_iconst hX (pc := 69) 2 dX4_isElected_69 ol_k_iconst_2 ?_
      obtain ⟨y1, e2, h⟩ := ol_of_bd h
      refine ol_cSr (As := [.int x1, .int 2]) hX (pc := 70) (wX4_at V (ol_WM V a σ) x1 2 y1 e2) lkX4_201 dcX4_at ⟨rfl, rfl⟩ ol_rr_X4_isElected_X4_at (fun _ h => h) ⟨Nat.le_refl _, Nat.le_refl _⟩ (Nat.le_of_ble_eq_true rfl) dX4_isElected_70 rfl ?_
      refine ol_iconst hX (pc := 73) 0 dX4_isElected_73 ol_k_iconst_0 ?_
      obtain ⟨g3, h⟩ := ol_of_og h
      refine ol_ms5 hX (pc := 74) dX4_isElected_74 rfl (ol_in_vp g3) ?_
      have h := ol_of_some h
      subst h
      exact ol_vret hX (pc := 75) dX4_isElected_75 ⟨rfl, rfl⟩ ⟨Nat.le_refl _, Nat.le_refl _⟩
    · have h := ol_ifn c7 h
      refine ol_aload_n hX (pc := 47) dX4_isElected_47 rfl rfl ?_
      refine ol_mg18 hX (pc := 48) dX4_isElected_48 ?_
      refine ol_iload_n hX (pc := 51) dX4_isElected_51 rfl rfl ?_
      refine ol_iconst hX (pc := 52) 2 dX4_isElected_52 ol_k_iconst_2 ?_
      obtain ⟨y4, e5, h⟩ := ol_of_bd h
      refine ol_cSr (As := [.int v2, .int 2]) hX (pc := 53) (wX4_at V (ol_WM V a σ) v2 2 y4 e5) lkX4_201 dcX4_at ⟨rfl, rfl⟩ ol_rr_X4_isElected_X4_at (fun _ h => h) ⟨Nat.le_refl _, Nat.le_refl _⟩ (Nat.le_of_ble_eq_true rfl) dX4_isElected_53 rfl ?_
      refine ol_iconst hX (pc := 56) 1 dX4_isElected_56 ol_k_iconst_1 ?_
      obtain ⟨g6, h⟩ := ol_of_og h
      refine ol_ms5 hX (pc := 57) dX4_isElected_57 rfl (ol_in_vp g6) ?_
      refine ol_iinc hX (pc := 58) (v2 + 1) [some (.ref (a 0)), some (.int x1), some (.int (v2 + 1))] dX4_isElected_58 rfl (ol_k_iinc_1 _) (by decide) rfl rfl ?_
      refine ol_goto hX (pc := 61) 41 dX4_isElected_61 (by decide) ?_
      exact ih (v2 + 1) (ol_ms σ 5 y4.toNatClampNeg 1) h
set_option maxHeartbeats 4000000 in
theorem wX4_isElected (V : ol_Gh) (a : Nat → Nat) (σ : ol_Mm) (x1 : Int32)  (z : ol_Mm) (h : oX4_isElected σ x1 = some z) : ol_Mt V yX4_isElected cX4_isElected 3 none ({ frames := 1, cells := 0, slots := 0, locals := 21 } : Room) true [.ref (a 0), .int x1] (ol_WM V a σ) (ol_Pw none (ol_WM V a z)) := by
  refine ol_MtOf (L0 := [some (.ref (a 0)), some (.int x1), none]) (by decide) (Nat.le_of_ble_eq_true rfl) rfl (fun X A hX => ?_)
  unfold oX4_isElected at h
  refine ol_aload_n hX (pc := 0) dX4_isElected_0 rfl rfl ?_
  refine ol_mg18 hX (pc := 1) dX4_isElected_1 ?_
  refine ol_iload_n hX (pc := 4) dX4_isElected_4 rfl rfl ?_
  refine ol_bipush hX (pc := 5) 11 dX4_isElected_5 ol_k_bipush_11 ?_
  obtain ⟨y1, e2, h⟩ := ol_of_bd h
  refine ol_cSr (As := [.int x1, .int 11]) hX (pc := 7) (wX4_at V (ol_WM V a σ) x1 11 y1 e2) lkX4_201 dcX4_at ⟨rfl, rfl⟩ ol_rr_X4_isElected_X4_at (fun _ h => h) ⟨Nat.le_refl _, Nat.le_refl _⟩ (Nat.le_of_ble_eq_true rfl) dX4_isElected_7 rfl ?_
  refine ol_dup2_11 hX (pc := 10) dX4_isElected_10 rfl rfl ?_
  obtain ⟨g3, h⟩ := ol_of_og h
  refine ol_ml5 hX (pc := 11) dX4_isElected_11 rfl (ol_in_vp g3) ?_
  refine ol_iconst hX (pc := 12) 1 dX4_isElected_12 ol_k_iconst_1 ?_
  refine ol_iadd hX (pc := 13) dX4_isElected_13 ?_
  obtain ⟨g4, h⟩ := ol_of_og h
  refine ol_ms5 hX (pc := 14) dX4_isElected_14 rfl (ol_in_vp g4) ?_
  refine ol_aload_n hX (pc := 15) dX4_isElected_15 rfl rfl ?_
  refine ol_mg18 hX (pc := 16) dX4_isElected_16 ?_
  refine ol_iload_n hX (pc := 19) dX4_isElected_19 rfl rfl ?_
  refine ol_iconst hX (pc := 20) 2 dX4_isElected_20 ol_k_iconst_2 ?_
  obtain ⟨y5, e6, h⟩ := ol_of_bd h
  refine ol_cSr (As := [.int x1, .int 2]) hX (pc := 21) (wX4_at V (ol_WM V a (ol_ms σ 5 y1.toNatClampNeg ((σ.1 5 y1.toNatClampNeg) + 1))) x1 2 y5 e6) lkX4_201 dcX4_at ⟨rfl, rfl⟩ ol_rr_X4_isElected_X4_at (fun _ h => h) ⟨Nat.le_refl _, Nat.le_refl _⟩ (Nat.le_of_ble_eq_true rfl) dX4_isElected_21 rfl ?_
  obtain ⟨g7, h⟩ := ol_of_og h
  refine ol_ml5 hX (pc := 24) dX4_isElected_24 rfl (ol_in_vp g7) ?_
  refine ol_if_ne hX (pc := 25) 64 dX4_isElected_25 (by decide) (fun c11 => ?_) (fun c11 => ?_)
  · have h := ol_ifn c11 h
    refine ol_aload_n hX (pc := 64) dX4_isElected_64 rfl rfl ?_
    refine ol_mg18 hX (pc := 65) dX4_isElected_65 ?_
    refine ol_iload_n hX (pc := 68) dX4_isElected_68 rfl rfl ?_
    refine ol_iconst hX (pc := 69) 2 dX4_isElected_69 ol_k_iconst_2 ?_
    obtain ⟨y8, e9, h⟩ := ol_of_bd h
    refine ol_cSr (As := [.int x1, .int 2]) hX (pc := 70) (wX4_at V (ol_WM V a (ol_ms σ 5 y1.toNatClampNeg ((σ.1 5 y1.toNatClampNeg) + 1))) x1 2 y8 e9) lkX4_201 dcX4_at ⟨rfl, rfl⟩ ol_rr_X4_isElected_X4_at (fun _ h => h) ⟨Nat.le_refl _, Nat.le_refl _⟩ (Nat.le_of_ble_eq_true rfl) dX4_isElected_70 rfl ?_
    refine ol_iconst hX (pc := 73) 0 dX4_isElected_73 ol_k_iconst_0 ?_
    obtain ⟨g10, h⟩ := ol_of_og h
    refine ol_ms5 hX (pc := 74) dX4_isElected_74 rfl (ol_in_vp g10) ?_
    have h := ol_of_some h
    subst h
    exact ol_vret hX (pc := 75) dX4_isElected_75 ⟨rfl, rfl⟩ ⟨Nat.le_refl _, Nat.le_refl _⟩
  · have h := ol_ifp c11 h
    refine ol_aload_n hX (pc := 28) dX4_isElected_28 rfl rfl ?_
    refine ol_mg18 hX (pc := 29) dX4_isElected_29 ?_
    refine ol_bipush hX (pc := 32) 6 dX4_isElected_32 ol_k_bipush_6 ?_
    refine ol_dup2_11 hX (pc := 34) dX4_isElected_34 rfl rfl ?_
    refine ol_ml5 hX (pc := 35) dX4_isElected_35 ol_tn_6 (ol_in_vp (by decide)) ?_
    refine ol_iconst hX (pc := 36) 1 dX4_isElected_36 ol_k_iconst_1 ?_
    refine ol_iadd hX (pc := 37) dX4_isElected_37 ?_
    refine ol_ms5 hX (pc := 38) dX4_isElected_38 ol_tn_6 (ol_in_vp (by decide)) ?_
    refine ol_iconst hX (pc := 39) 0 dX4_isElected_39 ol_k_iconst_0 ?_
    refine ol_istore_n hX (pc := 40) [some (.ref (a 0)), some (.int x1), some (.int 0)] dX4_isElected_40 rfl (by decide) rfl rfl ?_
    exact wX4_isElected_L41 hX x1 ol_fuel 0 (ol_ms (ol_ms σ 5 y1.toNatClampNeg ((σ.1 5 y1.toNatClampNeg) + 1)) 5 6 (((ol_ms σ 5 y1.toNatClampNeg ((σ.1 5 y1.toNatClampNeg) + 1)).1 5 6) + 1)) h
set_option maxHeartbeats 4000000 in
theorem wX4_endsArbitration (V : ol_Gh) (a : Nat → Nat) (σ : ol_Mm)  (z : ol_Mm) (h : oX4_endsArbitration σ = some z) : ol_Mt V yX4_endsArbitration cX4_endsArbitration 3 none ({ frames := 5, cells := 0, slots := 0, locals := 125 } : Room) true [.ref (a 0)] (ol_WM V a σ) (ol_Pw none (ol_WM V a z)) := by
  refine ol_MtOf (L0 := [some (.ref (a 0)), none, none]) (by decide) (Nat.le_of_ble_eq_true rfl) rfl (fun X A hX => ?_)
  unfold oX4_endsArbitration at h
  refine ol_aload_n hX (pc := 0) dX4_endsArbitration_0 rfl rfl ?_
  refine ol_aload_n hX (pc := 1) dX4_endsArbitration_1 rfl rfl ?_
  refine ol_mg18 hX (pc := 2) dX4_endsArbitration_2 ?_
  refine ol_iconst hX (pc := 5) 5 dX4_endsArbitration_5 ol_k_iconst_5 ?_
  refine ol_ml5 hX (pc := 6) dX4_endsArbitration_6 ol_tn_5 (ol_in_vp (by decide)) ?_
  refine ol_iconst hX (pc := 7) 1 dX4_endsArbitration_7 ol_k_iconst_1 ?_
  obtain ⟨y1, e2, h⟩ := ol_of_bd h
  refine ol_cVw (As := [.int (σ.1 5 5), .int 1]) hX (pc := 8) (wX4_elects V a σ (σ.1 5 5) 1 y1 e2) lkX4_296 dcX4_elects ol_rr_X4_endsArbitration_X4_elects 0 rfl rfl ⟨Nat.le_refl _, Nat.le_refl _⟩ (Nat.le_of_ble_eq_true rfl) dX4_endsArbitration_8 rfl ?_
  refine ol_istore_n hX (pc := 11) [some (.ref (a 0)), some (.int y1.1), none] dX4_endsArbitration_11 rfl (by decide) rfl rfl ?_
  refine ol_aload_n hX (pc := 12) dX4_endsArbitration_12 rfl rfl ?_
  refine ol_mg18 hX (pc := 13) dX4_endsArbitration_13 ?_
  refine ol_iconst hX (pc := 16) 3 dX4_endsArbitration_16 ol_k_iconst_3 ?_
  refine ol_ml5 hX (pc := 17) dX4_endsArbitration_17 ol_tn_3 (ol_in_vp (by decide)) ?_
  refine ol_istore_n hX (pc := 18) [some (.ref (a 0)), some (.int y1.1), some (.int (y1.2.1 5 3))] dX4_endsArbitration_18 rfl (by decide) rfl rfl ?_
  refine ol_aload_n hX (pc := 19) dX4_endsArbitration_19 rfl rfl ?_
  refine ol_aload_n hX (pc := 20) dX4_endsArbitration_20 rfl rfl ?_
  refine ol_mg18 hX (pc := 21) dX4_endsArbitration_21 ?_
  refine ol_iconst hX (pc := 24) 5 dX4_endsArbitration_24 ol_k_iconst_5 ?_
  refine ol_ml5 hX (pc := 25) dX4_endsArbitration_25 ol_tn_5 (ol_in_vp (by decide)) ?_
  refine ol_iload_n hX (pc := 26) dX4_endsArbitration_26 rfl rfl ?_
  obtain ⟨y3, e4, h⟩ := ol_of_bd h
  refine ol_cVw (As := [.int (y1.2.1 5 5), .int y1.1]) hX (pc := 27) (wX4_logs V a y1.2 (y1.2.1 5 5) y1.1 y3 e4) lkX4_303 dcX4_logs ol_rr_X4_endsArbitration_X4_logs 0 rfl rfl ⟨Nat.le_refl _, Nat.le_refl _⟩ (Nat.le_of_ble_eq_true rfl) dX4_endsArbitration_27 rfl ?_
  refine ol_aload_n hX (pc := 30) dX4_endsArbitration_30 rfl rfl ?_
  refine ol_mg18 hX (pc := 31) dX4_endsArbitration_31 ?_
  refine ol_bipush hX (pc := 34) 9 dX4_endsArbitration_34 ol_k_bipush_9 ?_
  refine ol_dup2_11 hX (pc := 36) dX4_endsArbitration_36 rfl rfl ?_
  refine ol_ml5 hX (pc := 37) dX4_endsArbitration_37 ol_tn_9 (ol_in_vp (by decide)) ?_
  refine ol_aload_n hX (pc := 38) dX4_endsArbitration_38 rfl rfl ?_
  refine ol_mg30 hX (pc := 39) dX4_endsArbitration_39 ?_
  refine ol_iadd hX (pc := 42) dX4_endsArbitration_42 ?_
  refine ol_ms5 hX (pc := 43) dX4_endsArbitration_43 ol_tn_9 (ol_in_vp (by decide)) ?_
  refine ol_aload_n hX (pc := 44) dX4_endsArbitration_44 rfl rfl ?_
  refine ol_mg18 hX (pc := 45) dX4_endsArbitration_45 ?_
  refine ol_bipush hX (pc := 48) 7 dX4_endsArbitration_48 ol_k_bipush_7 ?_
  refine ol_dup2_11 hX (pc := 50) dX4_endsArbitration_50 rfl rfl ?_
  refine ol_ml5 hX (pc := 51) dX4_endsArbitration_51 ol_tn_7 (ol_in_vp (by decide)) ?_
  refine ol_iconst hX (pc := 52) 1 dX4_endsArbitration_52 ol_k_iconst_1 ?_
  refine ol_iadd hX (pc := 53) dX4_endsArbitration_53 ?_
  refine ol_ms5 hX (pc := 54) dX4_endsArbitration_54 ol_tn_7 (ol_in_vp (by decide)) ?_
  refine ol_aload_n hX (pc := 55) dX4_endsArbitration_55 rfl rfl ?_
  refine ol_mg18 hX (pc := 56) dX4_endsArbitration_56 ?_
  refine ol_iconst hX (pc := 59) 4 dX4_endsArbitration_59 ol_k_iconst_4 ?_
  refine ol_bipush hX (pc := 60) (-2) dX4_endsArbitration_60 ol_k_bipush_m2 ?_
  refine ol_ms5 hX (pc := 62) dX4_endsArbitration_62 ol_tn_4 (ol_in_vp (by decide)) ?_
  refine ol_aload_n hX (pc := 63) dX4_endsArbitration_63 rfl rfl ?_
  refine ol_mg18 hX (pc := 64) dX4_endsArbitration_64 ?_
  refine ol_iconst hX (pc := 67) 5 dX4_endsArbitration_67 ol_k_iconst_5 ?_
  refine ol_iconst hX (pc := 68) 0 dX4_endsArbitration_68 ol_k_iconst_0 ?_
  refine ol_ms5 hX (pc := 69) dX4_endsArbitration_69 ol_tn_5 (ol_in_vp (by decide)) ?_
  refine ol_aload_n hX (pc := 70) dX4_endsArbitration_70 rfl rfl ?_
  refine ol_mg18 hX (pc := 71) dX4_endsArbitration_71 ?_
  refine ol_iconst hX (pc := 74) 3 dX4_endsArbitration_74 ol_k_iconst_3 ?_
  refine ol_iload_n hX (pc := 75) dX4_endsArbitration_75 rfl rfl ?_
  refine ol_ms5 hX (pc := 76) dX4_endsArbitration_76 ol_tn_3 (ol_in_vp (by decide)) ?_
  refine ol_iload_n hX (pc := 77) dX4_endsArbitration_77 rfl rfl ?_
  refine ol_bipush hX (pc := 78) (-2) dX4_endsArbitration_78 ol_k_bipush_m2 ?_
  refine ol_icmp_ne hX (pc := 80) 95 dX4_endsArbitration_80 (by decide) (fun c17 => ?_) (fun c17 => ?_)
  · have h := ol_ifn c17 h
    refine ol_iload_n hX (pc := 95) dX4_endsArbitration_95 rfl rfl ?_
    refine ol_bipush hX (pc := 96) (-2) dX4_endsArbitration_96 ol_k_bipush_m2 ?_
    refine ol_icmp_eq hX (pc := 98) 132 dX4_endsArbitration_98 (by decide) (fun c16 => ?_) (fun c16 => ?_)
    · have h := ol_ifp c16 h
      refine ol_aload_n hX (pc := 132) dX4_endsArbitration_132 rfl rfl ?_
      refine ol_iload_n hX (pc := 133) dX4_endsArbitration_133 rfl rfl ?_
      obtain ⟨y5, e6, h⟩ := ol_of_bd h
      refine ol_cVw (As := [.int y1.1]) hX (pc := 134) (wX4_isElected V a (ol_ms (ol_ms (ol_ms (ol_ms (ol_ms y3 5 9 ((y3.1 5 9) + (y3.1 0 30))) 5 7 (((ol_ms y3 5 9 ((y3.1 5 9) + (y3.1 0 30))).1 5 7) + 1)) 5 4 (-2)) 5 5 0) 5 3 y1.1) y1.1 y5 e6) lkX4_306 dcX4_isElected ol_rr_X4_endsArbitration_X4_isElected 0 rfl rfl ⟨Nat.le_refl _, Nat.le_refl _⟩ (Nat.le_of_ble_eq_true rfl) dX4_endsArbitration_134 rfl ?_
      have h := ol_of_some h
      subst h
      exact ol_vret hX (pc := 137) dX4_endsArbitration_137 ⟨rfl, rfl⟩ ⟨Nat.le_refl _, Nat.le_refl _⟩
    · have h := ol_ifn c16 h
      refine ol_iload_n hX (pc := 101) dX4_endsArbitration_101 rfl rfl ?_
      refine ol_iload_n hX (pc := 102) dX4_endsArbitration_102 rfl rfl ?_
      refine ol_icmp_eq hX (pc := 103) 132 dX4_endsArbitration_103 (by decide) (fun c15 => ?_) (fun c15 => ?_)
      · have h := ol_ifp c15 h
        refine ol_aload_n hX (pc := 132) dX4_endsArbitration_132 rfl rfl ?_
        refine ol_iload_n hX (pc := 133) dX4_endsArbitration_133 rfl rfl ?_
        obtain ⟨y7, e8, h⟩ := ol_of_bd h
        refine ol_cVw (As := [.int y1.1]) hX (pc := 134) (wX4_isElected V a (ol_ms (ol_ms (ol_ms (ol_ms (ol_ms y3 5 9 ((y3.1 5 9) + (y3.1 0 30))) 5 7 (((ol_ms y3 5 9 ((y3.1 5 9) + (y3.1 0 30))).1 5 7) + 1)) 5 4 (-2)) 5 5 0) 5 3 y1.1) y1.1 y7 e8) lkX4_306 dcX4_isElected ol_rr_X4_endsArbitration_X4_isElected 0 rfl rfl ⟨Nat.le_refl _, Nat.le_refl _⟩ (Nat.le_of_ble_eq_true rfl) dX4_endsArbitration_134 rfl ?_
        have h := ol_of_some h
        subst h
        exact ol_vret hX (pc := 137) dX4_endsArbitration_137 ⟨rfl, rfl⟩ ⟨Nat.le_refl _, Nat.le_refl _⟩
      · have h := ol_ifn c15 h
        refine ol_aload_n hX (pc := 106) dX4_endsArbitration_106 rfl rfl ?_
        refine ol_mg18 hX (pc := 107) dX4_endsArbitration_107 ?_
        refine ol_bipush hX (pc := 110) 10 dX4_endsArbitration_110 ol_k_bipush_10 ?_
        refine ol_dup2_11 hX (pc := 112) dX4_endsArbitration_112 rfl rfl ?_
        refine ol_ml5 hX (pc := 113) dX4_endsArbitration_113 ol_tn_10 (ol_in_vp (by decide)) ?_
        refine ol_iconst hX (pc := 114) 1 dX4_endsArbitration_114 ol_k_iconst_1 ?_
        refine ol_iadd hX (pc := 115) dX4_endsArbitration_115 ?_
        refine ol_ms5 hX (pc := 116) dX4_endsArbitration_116 ol_tn_10 (ol_in_vp (by decide)) ?_
        refine ol_aload_n hX (pc := 117) dX4_endsArbitration_117 rfl rfl ?_
        refine ol_mg18 hX (pc := 118) dX4_endsArbitration_118 ?_
        refine ol_iload_n hX (pc := 121) dX4_endsArbitration_121 rfl rfl ?_
        refine ol_bipush hX (pc := 122) 9 dX4_endsArbitration_122 ol_k_bipush_9 ?_
        obtain ⟨y9, e10, h⟩ := ol_of_bd h
        refine ol_cSr (As := [.int (y1.2.1 5 3), .int 9]) hX (pc := 124) (wX4_at V (ol_WM V a (ol_ms (ol_ms (ol_ms (ol_ms (ol_ms (ol_ms y3 5 9 ((y3.1 5 9) + (y3.1 0 30))) 5 7 (((ol_ms y3 5 9 ((y3.1 5 9) + (y3.1 0 30))).1 5 7) + 1)) 5 4 (-2)) 5 5 0) 5 3 y1.1) 5 10 (((ol_ms (ol_ms (ol_ms (ol_ms (ol_ms y3 5 9 ((y3.1 5 9) + (y3.1 0 30))) 5 7 (((ol_ms y3 5 9 ((y3.1 5 9) + (y3.1 0 30))).1 5 7) + 1)) 5 4 (-2)) 5 5 0) 5 3 y1.1).1 5 10) + 1))) (y1.2.1 5 3) 9 y9 e10) lkX4_201 dcX4_at ⟨rfl, rfl⟩ ol_rr_X4_endsArbitration_X4_at (fun _ h => h) ⟨Nat.le_refl _, Nat.le_refl _⟩ (Nat.le_of_ble_eq_true rfl) dX4_endsArbitration_124 rfl ?_
        refine ol_dup2_11 hX (pc := 127) dX4_endsArbitration_127 rfl rfl ?_
        obtain ⟨g11, h⟩ := ol_of_og h
        refine ol_ml5 hX (pc := 128) dX4_endsArbitration_128 rfl (ol_in_vp g11) ?_
        refine ol_iconst hX (pc := 129) 1 dX4_endsArbitration_129 ol_k_iconst_1 ?_
        refine ol_iadd hX (pc := 130) dX4_endsArbitration_130 ?_
        obtain ⟨g12, h⟩ := ol_of_og h
        refine ol_ms5 hX (pc := 131) dX4_endsArbitration_131 rfl (ol_in_vp g12) ?_
        refine ol_aload_n hX (pc := 132) dX4_endsArbitration_132 rfl rfl ?_
        refine ol_iload_n hX (pc := 133) dX4_endsArbitration_133 rfl rfl ?_
        obtain ⟨y13, e14, h⟩ := ol_of_bd h
        refine ol_cVw (As := [.int y1.1]) hX (pc := 134) (wX4_isElected V a (ol_ms (ol_ms (ol_ms (ol_ms (ol_ms (ol_ms (ol_ms y3 5 9 ((y3.1 5 9) + (y3.1 0 30))) 5 7 (((ol_ms y3 5 9 ((y3.1 5 9) + (y3.1 0 30))).1 5 7) + 1)) 5 4 (-2)) 5 5 0) 5 3 y1.1) 5 10 (((ol_ms (ol_ms (ol_ms (ol_ms (ol_ms y3 5 9 ((y3.1 5 9) + (y3.1 0 30))) 5 7 (((ol_ms y3 5 9 ((y3.1 5 9) + (y3.1 0 30))).1 5 7) + 1)) 5 4 (-2)) 5 5 0) 5 3 y1.1).1 5 10) + 1)) 5 y9.toNatClampNeg (((ol_ms (ol_ms (ol_ms (ol_ms (ol_ms (ol_ms y3 5 9 ((y3.1 5 9) + (y3.1 0 30))) 5 7 (((ol_ms y3 5 9 ((y3.1 5 9) + (y3.1 0 30))).1 5 7) + 1)) 5 4 (-2)) 5 5 0) 5 3 y1.1) 5 10 (((ol_ms (ol_ms (ol_ms (ol_ms (ol_ms y3 5 9 ((y3.1 5 9) + (y3.1 0 30))) 5 7 (((ol_ms y3 5 9 ((y3.1 5 9) + (y3.1 0 30))).1 5 7) + 1)) 5 4 (-2)) 5 5 0) 5 3 y1.1).1 5 10) + 1)).1 5 y9.toNatClampNeg) + 1)) y1.1 y13 e14) lkX4_306 dcX4_isElected ol_rr_X4_endsArbitration_X4_isElected 0 rfl rfl ⟨Nat.le_refl _, Nat.le_refl _⟩ (Nat.le_of_ble_eq_true rfl) dX4_endsArbitration_134 rfl ?_
        have h := ol_of_some h
        subst h
        exact ol_vret hX (pc := 137) dX4_endsArbitration_137 ⟨rfl, rfl⟩ ⟨Nat.le_refl _, Nat.le_refl _⟩
  · have h := ol_ifp c17 h
    refine ol_aload_n hX (pc := 83) dX4_endsArbitration_83 rfl rfl ?_
    refine ol_mg18 hX (pc := 84) dX4_endsArbitration_84 ?_
    refine ol_bipush hX (pc := 87) 8 dX4_endsArbitration_87 ol_k_bipush_8 ?_
    refine ol_dup2_11 hX (pc := 89) dX4_endsArbitration_89 rfl rfl ?_
    refine ol_ml5 hX (pc := 90) dX4_endsArbitration_90 ol_tn_8 (ol_in_vp (by decide)) ?_
    refine ol_iconst hX (pc := 91) 1 dX4_endsArbitration_91 ol_k_iconst_1 ?_
    refine ol_iadd hX (pc := 92) dX4_endsArbitration_92 ?_
    refine ol_ms5 hX (pc := 93) dX4_endsArbitration_93 ol_tn_8 (ol_in_vp (by decide)) ?_
    have h := ol_of_some h
    subst h
    exact ol_vret hX (pc := 94) dX4_endsArbitration_94 ⟨rfl, rfl⟩ ⟨Nat.le_refl _, Nat.le_refl _⟩
set_option maxHeartbeats 4000000 in
theorem wX4_becomesMaster (V : ol_Gh) (a : Nat → Nat) (σ : ol_Mm)  (z : ol_Mm) (h : oX4_becomesMaster σ = some z) : ol_Mt V yX4_becomesMaster cX4_becomesMaster 3 none ({ frames := 1, cells := 0, slots := 0, locals := 21 } : Room) true [.ref (a 0)] (ol_WM V a σ) (ol_Pw none (ol_WM V a z)) := by
  refine ol_MtOf (L0 := [some (.ref (a 0)), none, none]) (by decide) (Nat.le_of_ble_eq_true rfl) rfl (fun X A hX => ?_)
  unfold oX4_becomesMaster at h
  refine ol_aload_n hX (pc := 0) dX4_becomesMaster_0 rfl rfl ?_
  refine ol_mg18 hX (pc := 1) dX4_becomesMaster_1 ?_
  refine ol_iconst hX (pc := 4) 3 dX4_becomesMaster_4 ol_k_iconst_3 ?_
  refine ol_ml5 hX (pc := 5) dX4_becomesMaster_5 ol_tn_3 (ol_in_vp (by decide)) ?_
  refine ol_istore_n hX (pc := 6) [some (.ref (a 0)), some (.int (σ.1 5 3)), none] dX4_becomesMaster_6 rfl (by decide) rfl rfl ?_
  refine ol_aload_n hX (pc := 7) dX4_becomesMaster_7 rfl rfl ?_
  refine ol_mg18 hX (pc := 8) dX4_becomesMaster_8 ?_
  refine ol_iconst hX (pc := 11) 0 dX4_becomesMaster_11 ol_k_iconst_0 ?_
  refine ol_ml5 hX (pc := 12) dX4_becomesMaster_12 ol_tn_0 (ol_in_vp (by decide)) ?_
  refine ol_aload_n hX (pc := 13) dX4_becomesMaster_13 rfl rfl ?_
  refine ol_mg18 hX (pc := 14) dX4_becomesMaster_14 ?_
  refine ol_iload_n hX (pc := 17) dX4_becomesMaster_17 rfl rfl ?_
  refine ol_iconst hX (pc := 18) 1 dX4_becomesMaster_18 ol_k_iconst_1 ?_
  obtain ⟨y1, e2, h⟩ := ol_of_bd h
  refine ol_cSr (As := [.int (σ.1 5 3), .int 1]) hX (pc := 19) (wX4_at V (ol_WM V a σ) (σ.1 5 3) 1 y1 e2) lkX4_201 dcX4_at ⟨rfl, rfl⟩ ol_rr_X4_becomesMaster_X4_at (fun _ h => h) ⟨Nat.le_refl _, Nat.le_refl _⟩ (Nat.le_of_ble_eq_true rfl) dX4_becomesMaster_19 rfl ?_
  obtain ⟨g3, h⟩ := ol_of_og h
  refine ol_ml5 hX (pc := 22) dX4_becomesMaster_22 rfl (ol_in_vp g3) ?_
  refine ol_isub hX (pc := 23) dX4_becomesMaster_23 ?_
  refine ol_istore_n hX (pc := 24) [some (.ref (a 0)), some (.int (σ.1 5 3)), some (.int ((σ.1 5 0) - (σ.1 5 y1.toNatClampNeg)))] dX4_becomesMaster_24 rfl (by decide) rfl rfl ?_
  refine ol_aload_n hX (pc := 25) dX4_becomesMaster_25 rfl rfl ?_
  refine ol_mg18 hX (pc := 26) dX4_becomesMaster_26 ?_
  refine ol_iconst hX (pc := 29) 1 dX4_becomesMaster_29 ol_k_iconst_1 ?_
  refine ol_iload_n hX (pc := 30) dX4_becomesMaster_30 rfl rfl ?_
  refine ol_ms5 hX (pc := 31) dX4_becomesMaster_31 ol_tn_1 (ol_in_vp (by decide)) ?_
  refine ol_aload_n hX (pc := 32) dX4_becomesMaster_32 rfl rfl ?_
  refine ol_mg18 hX (pc := 33) dX4_becomesMaster_33 ?_
  refine ol_iconst hX (pc := 36) 2 dX4_becomesMaster_36 ol_k_iconst_2 ?_
  refine ol_aload_n hX (pc := 37) dX4_becomesMaster_37 rfl rfl ?_
  refine ol_mg18 hX (pc := 38) dX4_becomesMaster_38 ?_
  refine ol_iconst hX (pc := 41) 0 dX4_becomesMaster_41 ol_k_iconst_0 ?_
  refine ol_ml5 hX (pc := 42) dX4_becomesMaster_42 ol_tn_0 (ol_in_vp (by decide)) ?_
  refine ol_aload_n hX (pc := 43) dX4_becomesMaster_43 rfl rfl ?_
  refine ol_mg18 hX (pc := 44) dX4_becomesMaster_44 ?_
  refine ol_iload_n hX (pc := 47) dX4_becomesMaster_47 rfl rfl ?_
  refine ol_iconst hX (pc := 48) 0 dX4_becomesMaster_48 ol_k_iconst_0 ?_
  obtain ⟨y4, e5, h⟩ := ol_of_bd h
  refine ol_cSr (As := [.int (σ.1 5 3), .int 0]) hX (pc := 49) (wX4_at V (ol_WM V a (ol_ms σ 5 1 (σ.1 5 3))) (σ.1 5 3) 0 y4 e5) lkX4_201 dcX4_at ⟨rfl, rfl⟩ ol_rr_X4_becomesMaster_X4_at (fun _ h => h) ⟨Nat.le_refl _, Nat.le_refl _⟩ (Nat.le_of_ble_eq_true rfl) dX4_becomesMaster_49 rfl ?_
  obtain ⟨g6, h⟩ := ol_of_og h
  refine ol_ml5 hX (pc := 52) dX4_becomesMaster_52 rfl (ol_in_vp g6) ?_
  refine ol_iadd hX (pc := 53) dX4_becomesMaster_53 ?_
  refine ol_ms5 hX (pc := 54) dX4_becomesMaster_54 ol_tn_2 (ol_in_vp (by decide)) ?_
  refine ol_aload_n hX (pc := 55) dX4_becomesMaster_55 rfl rfl ?_
  refine ol_mg18 hX (pc := 56) dX4_becomesMaster_56 ?_
  refine ol_iconst hX (pc := 59) 3 dX4_becomesMaster_59 ol_k_iconst_3 ?_
  refine ol_bipush hX (pc := 60) (-2) dX4_becomesMaster_60 ol_k_bipush_m2 ?_
  refine ol_ms5 hX (pc := 62) dX4_becomesMaster_62 ol_tn_3 (ol_in_vp (by decide)) ?_
  refine ol_aload_n hX (pc := 63) dX4_becomesMaster_63 rfl rfl ?_
  refine ol_mg18 hX (pc := 64) dX4_becomesMaster_64 ?_
  refine ol_iload_n hX (pc := 67) dX4_becomesMaster_67 rfl rfl ?_
  refine ol_iconst hX (pc := 68) 0 dX4_becomesMaster_68 ol_k_iconst_0 ?_
  obtain ⟨y7, e8, h⟩ := ol_of_bd h
  refine ol_cSr (As := [.int (σ.1 5 3), .int 0]) hX (pc := 69) (wX4_at V (ol_WM V a (ol_ms (ol_ms (ol_ms σ 5 1 (σ.1 5 3)) 5 2 (((ol_ms σ 5 1 (σ.1 5 3)).1 5 0) + ((ol_ms σ 5 1 (σ.1 5 3)).1 5 y4.toNatClampNeg))) 5 3 (-2))) (σ.1 5 3) 0 y7 e8) lkX4_201 dcX4_at ⟨rfl, rfl⟩ ol_rr_X4_becomesMaster_X4_at (fun _ h => h) ⟨Nat.le_refl _, Nat.le_refl _⟩ (Nat.le_of_ble_eq_true rfl) dX4_becomesMaster_69 rfl ?_
  refine ol_iconst hX (pc := 72) 0 dX4_becomesMaster_72 ol_k_iconst_0 ?_
  obtain ⟨g9, h⟩ := ol_of_og h
  refine ol_ms5 hX (pc := 73) dX4_becomesMaster_73 rfl (ol_in_vp g9) ?_
  refine ol_aload_n hX (pc := 74) dX4_becomesMaster_74 rfl rfl ?_
  refine ol_mg18 hX (pc := 75) dX4_becomesMaster_75 ?_
  refine ol_iload_n hX (pc := 78) dX4_becomesMaster_78 rfl rfl ?_
  refine ol_bipush hX (pc := 79) 6 dX4_becomesMaster_79 ol_k_bipush_6 ?_
  obtain ⟨y10, e11, h⟩ := ol_of_bd h
  refine ol_cSr (As := [.int (σ.1 5 3), .int 6]) hX (pc := 81) (wX4_at V (ol_WM V a (ol_ms (ol_ms (ol_ms (ol_ms σ 5 1 (σ.1 5 3)) 5 2 (((ol_ms σ 5 1 (σ.1 5 3)).1 5 0) + ((ol_ms σ 5 1 (σ.1 5 3)).1 5 y4.toNatClampNeg))) 5 3 (-2)) 5 y7.toNatClampNeg 0)) (σ.1 5 3) 6 y10 e11) lkX4_201 dcX4_at ⟨rfl, rfl⟩ ol_rr_X4_becomesMaster_X4_at (fun _ h => h) ⟨Nat.le_refl _, Nat.le_refl _⟩ (Nat.le_of_ble_eq_true rfl) dX4_becomesMaster_81 rfl ?_
  refine ol_dup2_11 hX (pc := 84) dX4_becomesMaster_84 rfl rfl ?_
  obtain ⟨g12, h⟩ := ol_of_og h
  refine ol_ml5 hX (pc := 85) dX4_becomesMaster_85 rfl (ol_in_vp g12) ?_
  refine ol_iconst hX (pc := 86) 1 dX4_becomesMaster_86 ol_k_iconst_1 ?_
  refine ol_iadd hX (pc := 87) dX4_becomesMaster_87 ?_
  obtain ⟨g13, h⟩ := ol_of_og h
  refine ol_ms5 hX (pc := 88) dX4_becomesMaster_88 rfl (ol_in_vp g13) ?_
  refine ol_aload_n hX (pc := 89) dX4_becomesMaster_89 rfl rfl ?_
  refine ol_mg18 hX (pc := 90) dX4_becomesMaster_90 ?_
  refine ol_iload_n hX (pc := 93) dX4_becomesMaster_93 rfl rfl ?_
  refine ol_bipush hX (pc := 94) 10 dX4_becomesMaster_94 ol_k_bipush_10 ?_
  obtain ⟨y14, e15, h⟩ := ol_of_bd h
  refine ol_cSr (As := [.int (σ.1 5 3), .int 10]) hX (pc := 96) (wX4_at V (ol_WM V a (ol_ms (ol_ms (ol_ms (ol_ms (ol_ms σ 5 1 (σ.1 5 3)) 5 2 (((ol_ms σ 5 1 (σ.1 5 3)).1 5 0) + ((ol_ms σ 5 1 (σ.1 5 3)).1 5 y4.toNatClampNeg))) 5 3 (-2)) 5 y7.toNatClampNeg 0) 5 y10.toNatClampNeg (((ol_ms (ol_ms (ol_ms (ol_ms σ 5 1 (σ.1 5 3)) 5 2 (((ol_ms σ 5 1 (σ.1 5 3)).1 5 0) + ((ol_ms σ 5 1 (σ.1 5 3)).1 5 y4.toNatClampNeg))) 5 3 (-2)) 5 y7.toNatClampNeg 0).1 5 y10.toNatClampNeg) + 1))) (σ.1 5 3) 10 y14 e15) lkX4_201 dcX4_at ⟨rfl, rfl⟩ ol_rr_X4_becomesMaster_X4_at (fun _ h => h) ⟨Nat.le_refl _, Nat.le_refl _⟩ (Nat.le_of_ble_eq_true rfl) dX4_becomesMaster_96 rfl ?_
  refine ol_iload_n hX (pc := 99) dX4_becomesMaster_99 rfl rfl ?_
  refine ol_aload_n hX (pc := 100) dX4_becomesMaster_100 rfl rfl ?_
  refine ol_mg18 hX (pc := 101) dX4_becomesMaster_101 ?_
  refine ol_iload_n hX (pc := 104) dX4_becomesMaster_104 rfl rfl ?_
  refine ol_bipush hX (pc := 105) 10 dX4_becomesMaster_105 ol_k_bipush_10 ?_
  obtain ⟨y16, e17, h⟩ := ol_of_bd h
  refine ol_cSr (As := [.int (σ.1 5 3), .int 10]) hX (pc := 107) (wX4_at V (ol_WM V a (ol_ms (ol_ms (ol_ms (ol_ms (ol_ms σ 5 1 (σ.1 5 3)) 5 2 (((ol_ms σ 5 1 (σ.1 5 3)).1 5 0) + ((ol_ms σ 5 1 (σ.1 5 3)).1 5 y4.toNatClampNeg))) 5 3 (-2)) 5 y7.toNatClampNeg 0) 5 y10.toNatClampNeg (((ol_ms (ol_ms (ol_ms (ol_ms σ 5 1 (σ.1 5 3)) 5 2 (((ol_ms σ 5 1 (σ.1 5 3)).1 5 0) + ((ol_ms σ 5 1 (σ.1 5 3)).1 5 y4.toNatClampNeg))) 5 3 (-2)) 5 y7.toNatClampNeg 0).1 5 y10.toNatClampNeg) + 1))) (σ.1 5 3) 10 y16 e17) lkX4_201 dcX4_at ⟨rfl, rfl⟩ ol_rr_X4_becomesMaster_X4_at (fun _ h => h) ⟨Nat.le_refl _, Nat.le_refl _⟩ (Nat.le_of_ble_eq_true rfl) dX4_becomesMaster_107 rfl ?_
  obtain ⟨g18, h⟩ := ol_of_og h
  refine ol_ml5 hX (pc := 110) dX4_becomesMaster_110 rfl (ol_in_vp g18) ?_
  refine ol_icmp_le hX (pc := 111) 118 dX4_becomesMaster_111 (by decide) (fun c24 => ?_) (fun c24 => ?_)
  · have h := ol_ifp c24 h
    refine ol_aload_n hX (pc := 118) dX4_becomesMaster_118 rfl rfl ?_
    refine ol_mg18 hX (pc := 119) dX4_becomesMaster_119 ?_
    refine ol_iload_n hX (pc := 122) dX4_becomesMaster_122 rfl rfl ?_
    refine ol_bipush hX (pc := 123) 10 dX4_becomesMaster_123 ol_k_bipush_10 ?_
    obtain ⟨y19, e20, h⟩ := ol_of_bd h
    refine ol_cSr (As := [.int (σ.1 5 3), .int 10]) hX (pc := 125) (wX4_at V (ol_WM V a (ol_ms (ol_ms (ol_ms (ol_ms (ol_ms σ 5 1 (σ.1 5 3)) 5 2 (((ol_ms σ 5 1 (σ.1 5 3)).1 5 0) + ((ol_ms σ 5 1 (σ.1 5 3)).1 5 y4.toNatClampNeg))) 5 3 (-2)) 5 y7.toNatClampNeg 0) 5 y10.toNatClampNeg (((ol_ms (ol_ms (ol_ms (ol_ms σ 5 1 (σ.1 5 3)) 5 2 (((ol_ms σ 5 1 (σ.1 5 3)).1 5 0) + ((ol_ms σ 5 1 (σ.1 5 3)).1 5 y4.toNatClampNeg))) 5 3 (-2)) 5 y7.toNatClampNeg 0).1 5 y10.toNatClampNeg) + 1))) (σ.1 5 3) 10 y19 e20) lkX4_201 dcX4_at ⟨rfl, rfl⟩ ol_rr_X4_becomesMaster_X4_at (fun _ h => h) ⟨Nat.le_refl _, Nat.le_refl _⟩ (Nat.le_of_ble_eq_true rfl) dX4_becomesMaster_125 rfl ?_
    obtain ⟨g21, h⟩ := ol_of_og h
    refine ol_ml5 hX (pc := 128) dX4_becomesMaster_128 rfl (ol_in_vp g21) ?_
    obtain ⟨g22, h⟩ := ol_of_og h
    refine ol_ms5 hX (pc := 129) dX4_becomesMaster_129 rfl (ol_in_vp g22) ?_
    have h := ol_of_some h
    subst h
    exact ol_vret hX (pc := 130) dX4_becomesMaster_130 ⟨rfl, rfl⟩ ⟨Nat.le_refl _, Nat.le_refl _⟩
  · have h := ol_ifn c24 h
    refine ol_iload_n hX (pc := 114) dX4_becomesMaster_114 rfl rfl ?_
    refine ol_goto hX (pc := 115) 129 dX4_becomesMaster_115 (by decide) ?_
    obtain ⟨g23, h⟩ := ol_of_og h
    refine ol_ms5 hX (pc := 129) dX4_becomesMaster_129 rfl (ol_in_vp g23) ?_
    have h := ol_of_some h
    subst h
    exact ol_vret hX (pc := 130) dX4_becomesMaster_130 ⟨rfl, rfl⟩ ⟨Nat.le_refl _, Nat.le_refl _⟩
set_option maxHeartbeats 4000000 in
theorem wX4_isCalledFor_L28 {X : ol_Cx} {V : ol_Gh} {A : Nat → Prop} {a : Nat → Nat} {z : Int32} (hX : ol_CX X V A cX4_isCalledFor RX4 "isCalledFor" 3 (some .boolean)) (σ : ol_Mm)    : ∀ (n : Nat), ∀ (v1 : Int32) (v2 : Int32), oX4_isCalledFor_L28 σ n v1 v2 = some z → ol_G X V A false (ol_Pr (some (.int z))) ({ frames := 3, cells := 0, slots := 0, locals := 67 } : Room) 3 0 0 (ol_WM V a σ) 28 [some (.ref (a 0)), some (.int v1), some (.int v2)] [] := by
  intro n
  induction n with
  | zero =>
    intro v1 v2 h
    exact ol_no h
  | succ n ih =>
    intro v1 v2 h
    rw [oX4_isCalledFor_L28] at h
    refine ol_iload_n hX (pc := 28) dX4_isCalledFor_28 rfl rfl ?_
    refine ol_aload_n hX (pc := 29) dX4_isCalledFor_29 rfl rfl ?_
    refine ol_mg6 hX (pc := 30) dX4_isCalledFor_30 ?_
    refine ol_iconst hX (pc := 33) 3 dX4_isCalledFor_33 ol_k_iconst_3 ?_
    refine ol_ml2 hX (pc := 34) dX4_isCalledFor_34 ol_tn_3 (ol_in_vp (by decide)) ?_
    refine ol_icmp_ge hX (pc := 35) 72 dX4_isCalledFor_35 (by decide) (fun c9 => ?_) (fun c9 => ?_)
    · have h := ol_ifp c9 h
      refine ol_iconst hX (pc := 72) 0 dX4_isCalledFor_72 ol_k_iconst_0 ?_
      have h := ol_of_some h
      subst h
      exact ol_zret hX (pc := 73) dX4_isCalledFor_73 (by rfl) rfl ⟨Nat.le_refl _, Nat.le_refl _⟩
    · have h := ol_ifn c9 h
      refine ol_iload_n hX (pc := 38) dX4_isCalledFor_38 rfl rfl ?_
      refine ol_iload_n hX (pc := 39) dX4_isCalledFor_39 rfl rfl ?_
      obtain ⟨y1, e2, h⟩ := ol_of_bd h
      refine ol_cSr (As := [.int v1, .int v2]) hX (pc := 40) (wX4_has V (ol_WM V a σ) v1 v2 y1 e2) lkX4_221 dcX4_has ⟨rfl, rfl⟩ ol_rr_X4_isCalledFor_X4_has (fun _ h => h) ⟨Nat.le_refl _, Nat.le_refl _⟩ (Nat.le_of_ble_eq_true rfl) dX4_isCalledFor_40 rfl ?_
      refine ol_if_eq hX (pc := 43) 66 dX4_isCalledFor_43 (by decide) (fun c8 => ?_) (fun c8 => ?_)
      · have h := ol_ifp c8 h
        refine ol_iinc hX (pc := 66) (v2 + 1) [some (.ref (a 0)), some (.int v1), some (.int (v2 + 1))] dX4_isCalledFor_66 rfl (ol_k_iinc_1 _) (by decide) rfl rfl ?_
        refine ol_goto hX (pc := 69) 28 dX4_isCalledFor_69 (by decide) ?_
        exact ih v1 (v2 + 1) h
      · have h := ol_ifn c8 h
        refine ol_aload_n hX (pc := 46) dX4_isCalledFor_46 rfl rfl ?_
        refine ol_iload_n hX (pc := 47) dX4_isCalledFor_47 rfl rfl ?_
        obtain ⟨y3, e4, h⟩ := ol_of_bd h
        refine ol_cVr (As := [.int v2]) hX (pc := 48) (wX4_rankOf V a σ v2 y3 e4) lkX4_212 dcX4_rankOf ⟨rfl, rfl⟩ ol_rr_X4_isCalledFor_X4_rankOf 0 rfl rfl (fun _ h => h) ⟨Nat.le_refl _, Nat.le_refl _⟩ (Nat.le_of_ble_eq_true rfl) dX4_isCalledFor_48 rfl ?_
        refine ol_aload_n hX (pc := 51) dX4_isCalledFor_51 rfl rfl ?_
        refine ol_aload_n hX (pc := 52) dX4_isCalledFor_52 rfl rfl ?_
        refine ol_mg18 hX (pc := 53) dX4_isCalledFor_53 ?_
        refine ol_iconst hX (pc := 56) 3 dX4_isCalledFor_56 ol_k_iconst_3 ?_
        refine ol_ml5 hX (pc := 57) dX4_isCalledFor_57 ol_tn_3 (ol_in_vp (by decide)) ?_
        obtain ⟨y5, e6, h⟩ := ol_of_bd h
        refine ol_cVr (As := [.int (σ.1 5 3)]) hX (pc := 58) (wX4_rankOf V a σ (σ.1 5 3) y5 e6) lkX4_212 dcX4_rankOf ⟨rfl, rfl⟩ ol_rr_X4_isCalledFor_X4_rankOf 0 rfl rfl (fun _ h => h) ⟨Nat.le_refl _, Nat.le_refl _⟩ (Nat.le_of_ble_eq_true rfl) dX4_isCalledFor_58 rfl ?_
        refine ol_icmp_le hX (pc := 61) 66 dX4_isCalledFor_61 (by decide) (fun c7 => ?_) (fun c7 => ?_)
        · have h := ol_ifp c7 h
          refine ol_iinc hX (pc := 66) (v2 + 1) [some (.ref (a 0)), some (.int v1), some (.int (v2 + 1))] dX4_isCalledFor_66 rfl (ol_k_iinc_1 _) (by decide) rfl rfl ?_
          refine ol_goto hX (pc := 69) 28 dX4_isCalledFor_69 (by decide) ?_
          exact ih v1 (v2 + 1) h
        · have h := ol_ifn c7 h
          refine ol_iconst hX (pc := 64) 1 dX4_isCalledFor_64 ol_k_iconst_1 ?_
          have h := ol_of_some h
          subst h
          exact ol_zret hX (pc := 65) dX4_isCalledFor_65 (by rfl) rfl ⟨Nat.le_refl _, Nat.le_refl _⟩
set_option maxHeartbeats 4000000 in
theorem wX4_isCalledFor (V : ol_Gh) (a : Nat → Nat) (σ : ol_Mm)  (z : Int32) (h : oX4_isCalledFor σ = some z) : ol_Mt V yX4_isCalledFor cX4_isCalledFor 3 (some .boolean) ({ frames := 3, cells := 0, slots := 0, locals := 67 } : Room) false [.ref (a 0)] (ol_WM V a σ) (ol_Pr (some (.int z))) := by
  refine ol_MtOf (L0 := [some (.ref (a 0)), none, none]) (by decide) (Nat.le_of_ble_eq_true rfl) rfl (fun X A hX => ?_)
  unfold oX4_isCalledFor at h
  refine ol_aload_n hX (pc := 0) dX4_isCalledFor_0 rfl rfl ?_
  obtain ⟨y1, e2, h⟩ := ol_of_bd h
  refine ol_cVr (As := []) hX (pc := 1) (wX4_askingOnes V a σ y1 e2) lkX4_300 dcX4_askingOnes ⟨rfl, rfl⟩ ol_rr_X4_isCalledFor_X4_askingOnes 0 rfl rfl (fun _ h => h) ⟨Nat.le_refl _, Nat.le_refl _⟩ (Nat.le_of_ble_eq_true rfl) dX4_isCalledFor_1 rfl ?_
  refine ol_istore_n hX (pc := 4) [some (.ref (a 0)), some (.int y1), none] dX4_isCalledFor_4 rfl (by decide) rfl rfl ?_
  refine ol_aload_n hX (pc := 5) dX4_isCalledFor_5 rfl rfl ?_
  refine ol_mg18 hX (pc := 6) dX4_isCalledFor_6 ?_
  refine ol_iconst hX (pc := 9) 3 dX4_isCalledFor_9 ol_k_iconst_3 ?_
  refine ol_ml5 hX (pc := 10) dX4_isCalledFor_10 ol_tn_3 (ol_in_vp (by decide)) ?_
  refine ol_bipush hX (pc := 11) (-2) dX4_isCalledFor_11 ol_k_bipush_m2 ?_
  refine ol_icmp_ne hX (pc := 13) 26 dX4_isCalledFor_13 (by decide) (fun c4 => ?_) (fun c4 => ?_)
  · have h := ol_ifn c4 h
    refine ol_iconst hX (pc := 26) 0 dX4_isCalledFor_26 ol_k_iconst_0 ?_
    refine ol_istore_n hX (pc := 27) [some (.ref (a 0)), some (.int y1), some (.int 0)] dX4_isCalledFor_27 rfl (by decide) rfl rfl ?_
    exact wX4_isCalledFor_L28 hX σ ol_fuel y1 0 h
  · have h := ol_ifp c4 h
    refine ol_iload_n hX (pc := 16) dX4_isCalledFor_16 rfl rfl ?_
    refine ol_if_eq hX (pc := 17) 24 dX4_isCalledFor_17 (by decide) (fun c3 => ?_) (fun c3 => ?_)
    · have h := ol_ifp c3 h
      refine ol_iconst hX (pc := 24) 0 dX4_isCalledFor_24 ol_k_iconst_0 ?_
      have h := ol_of_some h
      subst h
      exact ol_zret hX (pc := 25) dX4_isCalledFor_25 (by rfl) rfl ⟨Nat.le_refl _, Nat.le_refl _⟩
    · have h := ol_ifn c3 h
      refine ol_iconst hX (pc := 20) 1 dX4_isCalledFor_20 ol_k_iconst_1 ?_
      refine ol_goto hX (pc := 21) 25 dX4_isCalledFor_21 (by decide) ?_
      have h := ol_of_some h
      subst h
      exact ol_zret hX (pc := 25) dX4_isCalledFor_25 (by rfl) rfl ⟨Nat.le_refl _, Nat.le_refl _⟩
set_option maxHeartbeats 4000000 in
theorem wX4_beginsArbitration_L33 {X : ol_Cx} {V : ol_Gh} {A : Nat → Prop} {a : Nat → Nat} {z : ol_Mm} (hX : ol_CX X V A cX4_beginsArbitration RX4 "beginsArbitration" 2 none)     : ∀ (n : Nat), ∀ (v1 : Int32) (σ : ol_Mm), oX4_beginsArbitration_L33 n v1 σ = some z → ol_G X V A true (ol_Pw none (ol_WM V a z)) ({ frames := 4, cells := 0, slots := 0, locals := 89 } : Room) 2 0 0 (ol_WM V a σ) 33 [some (.ref (a 0)), some (.int v1)] [] := by
  intro n
  induction n with
  | zero =>
    intro v1 σ h
    exact ol_no h
  | succ n ih =>
    intro v1 σ h
    rw [oX4_beginsArbitration_L33] at h
    refine ol_iload_n hX (pc := 33) dX4_beginsArbitration_33 rfl rfl ?_
    refine ol_aload_n hX (pc := 34) dX4_beginsArbitration_34 rfl rfl ?_
    refine ol_mg6 hX (pc := 35) dX4_beginsArbitration_35 ?_
    refine ol_iconst hX (pc := 38) 3 dX4_beginsArbitration_38 ol_k_iconst_3 ?_
    refine ol_ml2 hX (pc := 39) dX4_beginsArbitration_39 ol_tn_3 (ol_in_vp (by decide)) ?_
    refine ol_icmp_ge hX (pc := 40) 81 dX4_beginsArbitration_40 (by decide) (fun c11 => ?_) (fun c11 => ?_)
    · have h := ol_ifp c11 h
      have h := ol_of_some h
      subst h
      exact ol_vret hX (pc := 81) dX4_beginsArbitration_81 ⟨rfl, rfl⟩ ⟨Nat.le_refl _, Nat.le_refl _⟩
    · have h := ol_ifn c11 h
      refine ol_aload_n hX (pc := 43) dX4_beginsArbitration_43 rfl rfl ?_
      refine ol_mg18 hX (pc := 44) dX4_beginsArbitration_44 ?_
      refine ol_iload_n hX (pc := 47) dX4_beginsArbitration_47 rfl rfl ?_
      refine ol_iconst hX (pc := 48) 4 dX4_beginsArbitration_48 ol_k_iconst_4 ?_
      obtain ⟨y1, e2, h⟩ := ol_of_bd h
      refine ol_cSr (As := [.int v1, .int 4]) hX (pc := 49) (wX4_at V (ol_WM V a σ) v1 4 y1 e2) lkX4_201 dcX4_at ⟨rfl, rfl⟩ ol_rr_X4_beginsArbitration_X4_at (fun _ h => h) ⟨Nat.le_refl _, Nat.le_refl _⟩ (Nat.le_of_ble_eq_true rfl) dX4_beginsArbitration_49 rfl ?_
      refine ol_aload_n hX (pc := 52) dX4_beginsArbitration_52 rfl rfl ?_
      refine ol_iload_n hX (pc := 53) dX4_beginsArbitration_53 rfl rfl ?_
      refine ol_iconst hX (pc := 54) 1 dX4_beginsArbitration_54 ol_k_iconst_1 ?_
      obtain ⟨y3, e4, h⟩ := ol_of_bd h
      refine ol_cVr (As := [.int v1, .int 1]) hX (pc := 55) (wX4_wordOf V a σ v1 1 y3 e4) lkX4_250 dcX4_wordOf ⟨rfl, rfl⟩ ol_rr_X4_beginsArbitration_X4_wordOf 0 rfl rfl (fun _ h => h) ⟨Nat.le_refl _, Nat.le_refl _⟩ (Nat.le_of_ble_eq_true rfl) dX4_beginsArbitration_55 rfl ?_
      obtain ⟨g5, h⟩ := ol_of_og h
      refine ol_ms5 hX (pc := 58) dX4_beginsArbitration_58 rfl (ol_in_vp g5) ?_
      refine ol_aload_n hX (pc := 59) dX4_beginsArbitration_59 rfl rfl ?_
      refine ol_mg18 hX (pc := 60) dX4_beginsArbitration_60 ?_
      refine ol_iload_n hX (pc := 63) dX4_beginsArbitration_63 rfl rfl ?_
      refine ol_iconst hX (pc := 64) 5 dX4_beginsArbitration_64 ol_k_iconst_5 ?_
      obtain ⟨y6, e7, h⟩ := ol_of_bd h
      refine ol_cSr (As := [.int v1, .int 5]) hX (pc := 65) (wX4_at V (ol_WM V a (ol_ms σ 5 y1.toNatClampNeg y3)) v1 5 y6 e7) lkX4_201 dcX4_at ⟨rfl, rfl⟩ ol_rr_X4_beginsArbitration_X4_at (fun _ h => h) ⟨Nat.le_refl _, Nat.le_refl _⟩ (Nat.le_of_ble_eq_true rfl) dX4_beginsArbitration_65 rfl ?_
      refine ol_aload_n hX (pc := 68) dX4_beginsArbitration_68 rfl rfl ?_
      refine ol_iload_n hX (pc := 69) dX4_beginsArbitration_69 rfl rfl ?_
      refine ol_iconst hX (pc := 70) 2 dX4_beginsArbitration_70 ol_k_iconst_2 ?_
      obtain ⟨y8, e9, h⟩ := ol_of_bd h
      refine ol_cVr (As := [.int v1, .int 2]) hX (pc := 71) (wX4_wordOf V a (ol_ms σ 5 y1.toNatClampNeg y3) v1 2 y8 e9) lkX4_250 dcX4_wordOf ⟨rfl, rfl⟩ ol_rr_X4_beginsArbitration_X4_wordOf 0 rfl rfl (fun _ h => h) ⟨Nat.le_refl _, Nat.le_refl _⟩ (Nat.le_of_ble_eq_true rfl) dX4_beginsArbitration_71 rfl ?_
      obtain ⟨g10, h⟩ := ol_of_og h
      refine ol_ms5 hX (pc := 74) dX4_beginsArbitration_74 rfl (ol_in_vp g10) ?_
      refine ol_iinc hX (pc := 75) (v1 + 1) [some (.ref (a 0)), some (.int (v1 + 1))] dX4_beginsArbitration_75 rfl (ol_k_iinc_1 _) (by decide) rfl rfl ?_
      refine ol_goto hX (pc := 78) 33 dX4_beginsArbitration_78 (by decide) ?_
      exact ih (v1 + 1) (ol_ms (ol_ms σ 5 y1.toNatClampNeg y3) 5 y6.toNatClampNeg y8) h
set_option maxHeartbeats 4000000 in
theorem wX4_beginsArbitration (V : ol_Gh) (a : Nat → Nat) (σ : ol_Mm)  (z : ol_Mm) (h : oX4_beginsArbitration σ = some z) : ol_Mt V yX4_beginsArbitration cX4_beginsArbitration 2 none ({ frames := 4, cells := 0, slots := 0, locals := 89 } : Room) true [.ref (a 0)] (ol_WM V a σ) (ol_Pw none (ol_WM V a z)) := by
  refine ol_MtOf (L0 := [some (.ref (a 0)), none]) (by decide) (Nat.le_of_ble_eq_true rfl) rfl (fun X A hX => ?_)
  unfold oX4_beginsArbitration at h
  refine ol_aload_n hX (pc := 0) dX4_beginsArbitration_0 rfl rfl ?_
  refine ol_mg18 hX (pc := 1) dX4_beginsArbitration_1 ?_
  refine ol_iconst hX (pc := 4) 4 dX4_beginsArbitration_4 ol_k_iconst_4 ?_
  refine ol_aload_n hX (pc := 5) dX4_beginsArbitration_5 rfl rfl ?_
  refine ol_mg18 hX (pc := 6) dX4_beginsArbitration_6 ?_
  refine ol_iconst hX (pc := 9) 0 dX4_beginsArbitration_9 ol_k_iconst_0 ?_
  refine ol_ml5 hX (pc := 10) dX4_beginsArbitration_10 ol_tn_0 (ol_in_vp (by decide)) ?_
  refine ol_iconst hX (pc := 11) 2 dX4_beginsArbitration_11 ol_k_iconst_2 ?_
  refine ol_aload_n hX (pc := 12) dX4_beginsArbitration_12 rfl rfl ?_
  refine ol_mg6 hX (pc := 13) dX4_beginsArbitration_13 ?_
  refine ol_iconst hX (pc := 16) 2 dX4_beginsArbitration_16 ol_k_iconst_2 ?_
  refine ol_ml2 hX (pc := 17) dX4_beginsArbitration_17 ol_tn_2 (ol_in_vp (by decide)) ?_
  refine ol_imul hX (pc := 18) dX4_beginsArbitration_18 ?_
  refine ol_iadd hX (pc := 19) dX4_beginsArbitration_19 ?_
  refine ol_ms5 hX (pc := 20) dX4_beginsArbitration_20 ol_tn_4 (ol_in_vp (by decide)) ?_
  refine ol_aload_n hX (pc := 21) dX4_beginsArbitration_21 rfl rfl ?_
  refine ol_mg18 hX (pc := 22) dX4_beginsArbitration_22 ?_
  refine ol_iconst hX (pc := 25) 5 dX4_beginsArbitration_25 ol_k_iconst_5 ?_
  refine ol_aload_n hX (pc := 26) dX4_beginsArbitration_26 rfl rfl ?_
  obtain ⟨y1, e2, h⟩ := ol_of_bd h
  refine ol_cVr (As := []) hX (pc := 27) (wX4_askingOnes V a (ol_ms σ 5 4 ((σ.1 5 0) + (2 * (σ.1 2 2)))) y1 e2) lkX4_300 dcX4_askingOnes ⟨rfl, rfl⟩ ol_rr_X4_beginsArbitration_X4_askingOnes 0 rfl rfl (fun _ h => h) ⟨Nat.le_refl _, Nat.le_refl _⟩ (Nat.le_of_ble_eq_true rfl) dX4_beginsArbitration_27 rfl ?_
  refine ol_ms5 hX (pc := 30) dX4_beginsArbitration_30 ol_tn_5 (ol_in_vp (by decide)) ?_
  refine ol_iconst hX (pc := 31) 0 dX4_beginsArbitration_31 ol_k_iconst_0 ?_
  refine ol_istore_n hX (pc := 32) [some (.ref (a 0)), some (.int 0)] dX4_beginsArbitration_32 rfl (by decide) rfl rfl ?_
  exact wX4_beginsArbitration_L33 hX ol_fuel 0 (ol_ms (ol_ms σ 5 4 ((σ.1 5 0) + (2 * (σ.1 2 2)))) 5 5 y1) h
set_option maxHeartbeats 4000000 in
theorem wX4_tick_L246 {X : ol_Cx} {V : ol_Gh} {A : Nat → Prop} {a : Nat → Nat} {z : ol_Mm} (hX : ol_CX X V A cX4_tick RX4 "tick" 3 none)    (σ : ol_Mm) (h : oX4_tick_L246 σ = some z) : ol_G X V A true (ol_Pw none (ol_WM V a z)) ({ frames := 6, cells := 0, slots := 0, locals := 147 } : Room) 3 0 0 (ol_WM V a σ) 246 [some (.ref (a 0)), none, none] [] := by
  unfold oX4_tick_L246 at h
  refine ol_aload_n hX (pc := 246) dX4_tick_246 rfl rfl ?_
  refine ol_mg18 hX (pc := 247) dX4_tick_247 ?_
  refine ol_sipush hX (pc := 250) 187 dX4_tick_250 ol_k_sipush_187 ?_
  refine ol_aload_n hX (pc := 253) dX4_tick_253 rfl rfl ?_
  refine ol_mg18 hX (pc := 254) dX4_tick_254 ?_
  refine ol_iconst hX (pc := 257) 0 dX4_tick_257 ol_k_iconst_0 ?_
  refine ol_ml5 hX (pc := 258) dX4_tick_258 ol_tn_0 (ol_in_vp (by decide)) ?_
  refine ol_bipush hX (pc := 259) 64 dX4_tick_259 ol_k_bipush_64 ?_
  refine ol_irem hX (pc := 261) dX4_tick_261 (by decide) ?_
  refine ol_iadd hX (pc := 262) dX4_tick_262 ?_
  refine ol_aload_n hX (pc := 263) dX4_tick_263 rfl rfl ?_
  refine ol_mg18 hX (pc := 264) dX4_tick_264 ?_
  refine ol_iconst hX (pc := 267) 1 dX4_tick_267 ol_k_iconst_1 ?_
  refine ol_ml5 hX (pc := 268) dX4_tick_268 ol_tn_1 (ol_in_vp (by decide)) ?_
  obtain ⟨g1, h⟩ := ol_of_og h
  refine ol_ms5 hX (pc := 269) dX4_tick_269 rfl (ol_in_vp g1) ?_
  have h := ol_of_some h
  subst h
  exact ol_vret hX (pc := 270) dX4_tick_270 ⟨rfl, rfl⟩ ⟨Nat.le_refl _, Nat.le_refl _⟩
set_option maxHeartbeats 4000000 in
theorem wX4_tick_L215 {X : ol_Cx} {V : ol_Gh} {A : Nat → Prop} {a : Nat → Nat} {z : ol_Mm} (hX : ol_CX X V A cX4_tick RX4 "tick" 3 none)    (σ : ol_Mm) (h : oX4_tick_L215 σ = some z) : ol_G X V A true (ol_Pw none (ol_WM V a z)) ({ frames := 6, cells := 0, slots := 0, locals := 147 } : Room) 3 0 0 (ol_WM V a σ) 215 [some (.ref (a 0)), none, none] [] := by
  unfold oX4_tick_L215 at h
  refine ol_aload_n hX (pc := 215) dX4_tick_215 rfl rfl ?_
  refine ol_mg18 hX (pc := 216) dX4_tick_216 ?_
  refine ol_iconst hX (pc := 219) 1 dX4_tick_219 ol_k_iconst_1 ?_
  refine ol_ml5 hX (pc := 220) dX4_tick_220 ol_tn_1 (ol_in_vp (by decide)) ?_
  refine ol_bipush hX (pc := 221) (-2) dX4_tick_221 ol_k_bipush_m2 ?_
  refine ol_icmp_eq hX (pc := 223) 246 dX4_tick_223 (by decide) (fun c5 => ?_) (fun c5 => ?_)
  · have h := ol_ifp c5 h
    exact wX4_tick_L246 hX σ h
  · have h := ol_ifn c5 h
    refine ol_aload_n hX (pc := 226) dX4_tick_226 rfl rfl ?_
    refine ol_mg18 hX (pc := 227) dX4_tick_227 ?_
    refine ol_aload_n hX (pc := 230) dX4_tick_230 rfl rfl ?_
    refine ol_mg18 hX (pc := 231) dX4_tick_231 ?_
    refine ol_iconst hX (pc := 234) 1 dX4_tick_234 ol_k_iconst_1 ?_
    refine ol_ml5 hX (pc := 235) dX4_tick_235 ol_tn_1 (ol_in_vp (by decide)) ?_
    refine ol_bipush hX (pc := 236) 7 dX4_tick_236 ol_k_bipush_7 ?_
    obtain ⟨y1, e2, h⟩ := ol_of_bd h
    refine ol_cSr (As := [.int (σ.1 5 1), .int 7]) hX (pc := 238) (wX4_at V (ol_WM V a σ) (σ.1 5 1) 7 y1 e2) lkX4_201 dcX4_at ⟨rfl, rfl⟩ ol_rr_X4_tick_X4_at (fun _ h => h) ⟨Nat.le_refl _, Nat.le_refl _⟩ (Nat.le_of_ble_eq_true rfl) dX4_tick_238 rfl ?_
    refine ol_dup2_11 hX (pc := 241) dX4_tick_241 rfl rfl ?_
    obtain ⟨g3, h⟩ := ol_of_og h
    refine ol_ml5 hX (pc := 242) dX4_tick_242 rfl (ol_in_vp g3) ?_
    refine ol_iconst hX (pc := 243) 1 dX4_tick_243 ol_k_iconst_1 ?_
    refine ol_iadd hX (pc := 244) dX4_tick_244 ?_
    obtain ⟨g4, h⟩ := ol_of_og h
    refine ol_ms5 hX (pc := 245) dX4_tick_245 rfl (ol_in_vp g4) ?_
    exact wX4_tick_L246 hX (ol_ms σ 5 y1.toNatClampNeg ((σ.1 5 y1.toNatClampNeg) + 1)) h
set_option maxHeartbeats 4000000 in
theorem wX4_tick_L193 {X : ol_Cx} {V : ol_Gh} {A : Nat → Prop} {a : Nat → Nat} {z : ol_Mm} (hX : ol_CX X V A cX4_tick RX4 "tick" 3 none)    (σ : ol_Mm) (h : oX4_tick_L193 σ = some z) : ol_G X V A true (ol_Pw none (ol_WM V a z)) ({ frames := 6, cells := 0, slots := 0, locals := 147 } : Room) 3 0 0 (ol_WM V a σ) 193 [some (.ref (a 0)), none, none] [] := by
  unfold oX4_tick_L193 at h
  refine ol_aload_n hX (pc := 193) dX4_tick_193 rfl rfl ?_
  refine ol_mg18 hX (pc := 194) dX4_tick_194 ?_
  refine ol_iconst hX (pc := 197) 4 dX4_tick_197 ol_k_iconst_4 ?_
  refine ol_ml5 hX (pc := 198) dX4_tick_198 ol_tn_4 (ol_in_vp (by decide)) ?_
  refine ol_bipush hX (pc := 199) (-2) dX4_tick_199 ol_k_bipush_m2 ?_
  refine ol_icmp_ne hX (pc := 201) 215 dX4_tick_201 (by decide) (fun c6 => ?_) (fun c6 => ?_)
  · have h := ol_ifn c6 h
    exact wX4_tick_L215 hX σ h
  · have h := ol_ifp c6 h
    refine ol_aload_n hX (pc := 204) dX4_tick_204 rfl rfl ?_
    obtain ⟨y1, e2, h⟩ := ol_of_bd h
    refine ol_cVr (As := []) hX (pc := 205) (wX4_isCalledFor V a σ y1 e2) lkX4_318 dcX4_isCalledFor ⟨rfl, rfl⟩ ol_rr_X4_tick_X4_isCalledFor 0 rfl rfl (fun _ h => h) ⟨Nat.le_refl _, Nat.le_refl _⟩ (Nat.le_of_ble_eq_true rfl) dX4_tick_205 rfl ?_
    refine ol_if_eq hX (pc := 208) 215 dX4_tick_208 (by decide) (fun c5 => ?_) (fun c5 => ?_)
    · have h := ol_ifp c5 h
      exact wX4_tick_L215 hX σ h
    · have h := ol_ifn c5 h
      refine ol_aload_n hX (pc := 211) dX4_tick_211 rfl rfl ?_
      obtain ⟨y3, e4, h⟩ := ol_of_bd h
      refine ol_cVw (As := []) hX (pc := 212) (wX4_beginsArbitration V a σ y3 e4) lkX4_321 dcX4_beginsArbitration ol_rr_X4_tick_X4_beginsArbitration 0 rfl rfl ⟨Nat.le_refl _, Nat.le_refl _⟩ (Nat.le_of_ble_eq_true rfl) dX4_tick_212 rfl ?_
      exact wX4_tick_L215 hX y3 h
set_option maxHeartbeats 4000000 in
theorem wX4_tick_L156 {X : ol_Cx} {V : ol_Gh} {A : Nat → Prop} {a : Nat → Nat} {z : ol_Mm} (hX : ol_CX X V A cX4_tick RX4 "tick" 3 none)    (σ : ol_Mm) (h : oX4_tick_L156 σ = some z) : ol_G X V A true (ol_Pw none (ol_WM V a z)) ({ frames := 6, cells := 0, slots := 0, locals := 147 } : Room) 3 0 0 (ol_WM V a σ) 156 [some (.ref (a 0)), none, none] [] := by
  unfold oX4_tick_L156 at h
  refine ol_aload_n hX (pc := 156) dX4_tick_156 rfl rfl ?_
  refine ol_mg18 hX (pc := 157) dX4_tick_157 ?_
  refine ol_iconst hX (pc := 160) 1 dX4_tick_160 ol_k_iconst_1 ?_
  refine ol_ml5 hX (pc := 161) dX4_tick_161 ol_tn_1 (ol_in_vp (by decide)) ?_
  refine ol_bipush hX (pc := 162) (-2) dX4_tick_162 ol_k_bipush_m2 ?_
  refine ol_icmp_ne hX (pc := 164) 193 dX4_tick_164 (by decide) (fun c5 => ?_) (fun c5 => ?_)
  · have h := ol_ifn c5 h
    exact wX4_tick_L193 hX σ h
  · have h := ol_ifp c5 h
    refine ol_aload_n hX (pc := 167) dX4_tick_167 rfl rfl ?_
    refine ol_mg18 hX (pc := 168) dX4_tick_168 ?_
    refine ol_iconst hX (pc := 171) 3 dX4_tick_171 ol_k_iconst_3 ?_
    refine ol_ml5 hX (pc := 172) dX4_tick_172 ol_tn_3 (ol_in_vp (by decide)) ?_
    refine ol_bipush hX (pc := 173) (-2) dX4_tick_173 ol_k_bipush_m2 ?_
    refine ol_icmp_eq hX (pc := 175) 193 dX4_tick_175 (by decide) (fun c4 => ?_) (fun c4 => ?_)
    · have h := ol_ifp c4 h
      exact wX4_tick_L193 hX σ h
    · have h := ol_ifn c4 h
      refine ol_aload_n hX (pc := 178) dX4_tick_178 rfl rfl ?_
      refine ol_mg18 hX (pc := 179) dX4_tick_179 ?_
      refine ol_iconst hX (pc := 182) 4 dX4_tick_182 ol_k_iconst_4 ?_
      refine ol_ml5 hX (pc := 183) dX4_tick_183 ol_tn_4 (ol_in_vp (by decide)) ?_
      refine ol_bipush hX (pc := 184) (-2) dX4_tick_184 ol_k_bipush_m2 ?_
      refine ol_icmp_ne hX (pc := 186) 193 dX4_tick_186 (by decide) (fun c3 => ?_) (fun c3 => ?_)
      · have h := ol_ifn c3 h
        exact wX4_tick_L193 hX σ h
      · have h := ol_ifp c3 h
        refine ol_aload_n hX (pc := 189) dX4_tick_189 rfl rfl ?_
        obtain ⟨y1, e2, h⟩ := ol_of_bd h
        refine ol_cVw (As := []) hX (pc := 190) (wX4_becomesMaster V a σ y1 e2) lkX4_315 dcX4_becomesMaster ol_rr_X4_tick_X4_becomesMaster 0 rfl rfl ⟨Nat.le_refl _, Nat.le_refl _⟩ (Nat.le_of_ble_eq_true rfl) dX4_tick_190 rfl ?_
        exact wX4_tick_L193 hX y1 h
set_option maxHeartbeats 4000000 in
theorem wX4_tick_L137 {X : ol_Cx} {V : ol_Gh} {A : Nat → Prop} {a : Nat → Nat} {z : ol_Mm} (hX : ol_CX X V A cX4_tick RX4 "tick" 3 none)    (σ : ol_Mm) (h : oX4_tick_L137 σ = some z) : ol_G X V A true (ol_Pw none (ol_WM V a z)) ({ frames := 6, cells := 0, slots := 0, locals := 147 } : Room) 3 0 0 (ol_WM V a σ) 137 [some (.ref (a 0)), none, none] [] := by
  unfold oX4_tick_L137 at h
  refine ol_aload_n hX (pc := 137) dX4_tick_137 rfl rfl ?_
  refine ol_mg18 hX (pc := 138) dX4_tick_138 ?_
  refine ol_iconst hX (pc := 141) 4 dX4_tick_141 ol_k_iconst_4 ?_
  refine ol_ml5 hX (pc := 142) dX4_tick_142 ol_tn_4 (ol_in_vp (by decide)) ?_
  refine ol_aload_n hX (pc := 143) dX4_tick_143 rfl rfl ?_
  refine ol_mg18 hX (pc := 144) dX4_tick_144 ?_
  refine ol_iconst hX (pc := 147) 0 dX4_tick_147 ol_k_iconst_0 ?_
  refine ol_ml5 hX (pc := 148) dX4_tick_148 ol_tn_0 (ol_in_vp (by decide)) ?_
  refine ol_icmp_ne hX (pc := 149) 156 dX4_tick_149 (by decide) (fun c3 => ?_) (fun c3 => ?_)
  · have h := ol_ifn c3 h
    exact wX4_tick_L156 hX σ h
  · have h := ol_ifp c3 h
    refine ol_aload_n hX (pc := 152) dX4_tick_152 rfl rfl ?_
    obtain ⟨y1, e2, h⟩ := ol_of_bd h
    refine ol_cVw (As := []) hX (pc := 153) (wX4_endsArbitration V a σ y1 e2) lkX4_312 dcX4_endsArbitration ol_rr_X4_tick_X4_endsArbitration 0 rfl rfl ⟨Nat.le_refl _, Nat.le_refl _⟩ (Nat.le_of_ble_eq_true rfl) dX4_tick_153 rfl ?_
    exact wX4_tick_L156 hX y1 h
set_option maxHeartbeats 4000000 in
theorem wX4_tick_L95 {X : ol_Cx} {V : ol_Gh} {A : Nat → Prop} {a : Nat → Nat} {z : ol_Mm} (hX : ol_CX X V A cX4_tick RX4 "tick" 3 none)    (σ : ol_Mm) (h : oX4_tick_L95 σ = some z) : ol_G X V A true (ol_Pw none (ol_WM V a z)) ({ frames := 6, cells := 0, slots := 0, locals := 147 } : Room) 3 0 0 (ol_WM V a σ) 95 [some (.ref (a 0)), none, none] [] := by
  unfold oX4_tick_L95 at h
  refine ol_aload_n hX (pc := 95) dX4_tick_95 rfl rfl ?_
  refine ol_mg18 hX (pc := 96) dX4_tick_96 ?_
  refine ol_iconst hX (pc := 99) 1 dX4_tick_99 ol_k_iconst_1 ?_
  refine ol_ml5 hX (pc := 100) dX4_tick_100 ol_tn_1 (ol_in_vp (by decide)) ?_
  refine ol_bipush hX (pc := 101) (-2) dX4_tick_101 ol_k_bipush_m2 ?_
  refine ol_icmp_eq hX (pc := 103) 137 dX4_tick_103 (by decide) (fun c2 => ?_) (fun c2 => ?_)
  · have h := ol_ifp c2 h
    exact wX4_tick_L137 hX σ h
  · have h := ol_ifn c2 h
    refine ol_aload_n hX (pc := 106) dX4_tick_106 rfl rfl ?_
    refine ol_mg18 hX (pc := 107) dX4_tick_107 ?_
    refine ol_iconst hX (pc := 110) 2 dX4_tick_110 ol_k_iconst_2 ?_
    refine ol_ml5 hX (pc := 111) dX4_tick_111 ol_tn_2 (ol_in_vp (by decide)) ?_
    refine ol_aload_n hX (pc := 112) dX4_tick_112 rfl rfl ?_
    refine ol_mg18 hX (pc := 113) dX4_tick_113 ?_
    refine ol_iconst hX (pc := 116) 0 dX4_tick_116 ol_k_iconst_0 ?_
    refine ol_ml5 hX (pc := 117) dX4_tick_117 ol_tn_0 (ol_in_vp (by decide)) ?_
    refine ol_icmp_ne hX (pc := 118) 137 dX4_tick_118 (by decide) (fun c1 => ?_) (fun c1 => ?_)
    · have h := ol_ifn c1 h
      exact wX4_tick_L137 hX σ h
    · have h := ol_ifp c1 h
      refine ol_aload_n hX (pc := 121) dX4_tick_121 rfl rfl ?_
      refine ol_mg18 hX (pc := 122) dX4_tick_122 ?_
      refine ol_iconst hX (pc := 125) 1 dX4_tick_125 ol_k_iconst_1 ?_
      refine ol_bipush hX (pc := 126) (-2) dX4_tick_126 ol_k_bipush_m2 ?_
      refine ol_ms5 hX (pc := 128) dX4_tick_128 ol_tn_1 (ol_in_vp (by decide)) ?_
      refine ol_aload_n hX (pc := 129) dX4_tick_129 rfl rfl ?_
      refine ol_mg18 hX (pc := 130) dX4_tick_130 ?_
      refine ol_iconst hX (pc := 133) 2 dX4_tick_133 ol_k_iconst_2 ?_
      refine ol_bipush hX (pc := 134) (-2) dX4_tick_134 ol_k_bipush_m2 ?_
      refine ol_ms5 hX (pc := 136) dX4_tick_136 ol_tn_2 (ol_in_vp (by decide)) ?_
      exact wX4_tick_L137 hX (ol_ms (ol_ms σ 5 1 (-2)) 5 2 (-2)) h
set_option maxHeartbeats 4000000 in
theorem wX4_tick_L10 {X : ol_Cx} {V : ol_Gh} {A : Nat → Prop} {a : Nat → Nat} {z : ol_Mm} (hX : ol_CX X V A cX4_tick RX4 "tick" 3 none)     : ∀ (n : Nat), ∀ (σ : ol_Mm), oX4_tick_L10 n σ = some z → ol_G X V A true (ol_Pw none (ol_WM V a z)) ({ frames := 6, cells := 0, slots := 0, locals := 147 } : Room) 3 0 0 (ol_WM V a σ) 10 [some (.ref (a 0)), none, none] [] := by
  intro n
  induction n with
  | zero =>
    intro σ h
    exact ol_no h
  | succ n ih =>
    intro σ h
    rw [oX4_tick_L10] at h
    refine ol_aload_n hX (pc := 10) dX4_tick_10 rfl rfl ?_
    refine ol_mg18 hX (pc := 11) dX4_tick_11 ?_
    refine ol_bipush hX (pc := 14) 11 dX4_tick_14 ol_k_bipush_11 ?_
    refine ol_ml5 hX (pc := 16) dX4_tick_16 ol_tn_11 (ol_in_vp (by decide)) ?_
    refine ol_aload_n hX (pc := 17) dX4_tick_17 rfl rfl ?_
    refine ol_mg6 hX (pc := 18) dX4_tick_18 ?_
    refine ol_iconst hX (pc := 21) 4 dX4_tick_21 ol_k_iconst_4 ?_
    refine ol_ml2 hX (pc := 22) dX4_tick_22 ol_tn_4 (ol_in_vp (by decide)) ?_
    refine ol_icmp_ge hX (pc := 23) 95 dX4_tick_23 (by decide) (fun c7 => ?_) (fun c7 => ?_)
    · have h := ol_ifp c7 h
      exact wX4_tick_L95 hX σ h
    · have h := ol_ifn c7 h
      refine ol_aload_n hX (pc := 26) dX4_tick_26 rfl rfl ?_
      refine ol_mg6 hX (pc := 27) dX4_tick_27 ?_
      refine ol_bipush hX (pc := 30) 23 dX4_tick_30 ol_k_bipush_23 ?_
      refine ol_aload_n hX (pc := 32) dX4_tick_32 rfl rfl ?_
      refine ol_mg18 hX (pc := 33) dX4_tick_33 ?_
      refine ol_bipush hX (pc := 36) 11 dX4_tick_36 ol_k_bipush_11 ?_
      refine ol_ml5 hX (pc := 38) dX4_tick_38 ol_tn_11 (ol_in_vp (by decide)) ?_
      refine ol_iadd hX (pc := 39) dX4_tick_39 ?_
      obtain ⟨g1, h⟩ := ol_of_og h
      refine ol_ml2 hX (pc := 40) dX4_tick_40 rfl (ol_in_vp g1) ?_
      refine ol_aload_n hX (pc := 41) dX4_tick_41 rfl rfl ?_
      refine ol_mg18 hX (pc := 42) dX4_tick_42 ?_
      refine ol_iconst hX (pc := 45) 0 dX4_tick_45 ol_k_iconst_0 ?_
      refine ol_ml5 hX (pc := 46) dX4_tick_46 ol_tn_0 (ol_in_vp (by decide)) ?_
      refine ol_icmp_ne hX (pc := 47) 95 dX4_tick_47 (by decide) (fun c6 => ?_) (fun c6 => ?_)
      · have h := ol_ifn c6 h
        exact wX4_tick_L95 hX σ h
      · have h := ol_ifp c6 h
        refine ol_aload_n hX (pc := 50) dX4_tick_50 rfl rfl ?_
        refine ol_mg18 hX (pc := 51) dX4_tick_51 ?_
        refine ol_bipush hX (pc := 54) 11 dX4_tick_54 ol_k_bipush_11 ?_
        refine ol_ml5 hX (pc := 56) dX4_tick_56 ol_tn_11 (ol_in_vp (by decide)) ?_
        refine ol_istore_n hX (pc := 57) [some (.ref (a 0)), some (.int (σ.1 5 11)), none] dX4_tick_57 rfl (by decide) rfl rfl ?_
        refine ol_aload_n hX (pc := 58) dX4_tick_58 rfl rfl ?_
        refine ol_mg18 hX (pc := 59) dX4_tick_59 ?_
        refine ol_bipush hX (pc := 62) 11 dX4_tick_62 ol_k_bipush_11 ?_
        refine ol_dup2_11 hX (pc := 64) dX4_tick_64 rfl rfl ?_
        refine ol_ml5 hX (pc := 65) dX4_tick_65 ol_tn_11 (ol_in_vp (by decide)) ?_
        refine ol_iconst hX (pc := 66) 1 dX4_tick_66 ol_k_iconst_1 ?_
        refine ol_iadd hX (pc := 67) dX4_tick_67 ?_
        refine ol_ms5 hX (pc := 68) dX4_tick_68 ol_tn_11 (ol_in_vp (by decide)) ?_
        refine ol_aload_n hX (pc := 69) dX4_tick_69 rfl rfl ?_
        refine ol_aload_n hX (pc := 70) dX4_tick_70 rfl rfl ?_
        refine ol_mg6 hX (pc := 71) dX4_tick_71 ?_
        refine ol_bipush hX (pc := 74) 35 dX4_tick_74 ol_k_bipush_35 ?_
        refine ol_iload_n hX (pc := 76) dX4_tick_76 rfl rfl ?_
        refine ol_iadd hX (pc := 77) dX4_tick_77 ?_
        obtain ⟨g2, h⟩ := ol_of_og h
        refine ol_ml2 hX (pc := 78) dX4_tick_78 rfl (ol_in_vp g2) ?_
        refine ol_aload_n hX (pc := 79) dX4_tick_79 rfl rfl ?_
        refine ol_mg6 hX (pc := 80) dX4_tick_80 ?_
        refine ol_bipush hX (pc := 83) 47 dX4_tick_83 ol_k_bipush_47 ?_
        refine ol_iload_n hX (pc := 85) dX4_tick_85 rfl rfl ?_
        refine ol_iadd hX (pc := 86) dX4_tick_86 ?_
        obtain ⟨g3, h⟩ := ol_of_og h
        refine ol_ml2 hX (pc := 87) dX4_tick_87 rfl (ol_in_vp g3) ?_
        obtain ⟨y4, e5, h⟩ := ol_of_bd h
        refine ol_cVw (As := [.int ((ol_ms σ 5 11 ((σ.1 5 11) + 1)).1 2 ((35 + (σ.1 5 11)).toNatClampNeg)), .int ((ol_ms σ 5 11 ((σ.1 5 11) + 1)).1 2 ((47 + (σ.1 5 11)).toNatClampNeg))]) hX (pc := 88) (wX4_asks V a (ol_ms σ 5 11 ((σ.1 5 11) + 1)) ((ol_ms σ 5 11 ((σ.1 5 11) + 1)).1 2 ((35 + (σ.1 5 11)).toNatClampNeg)) ((ol_ms σ 5 11 ((σ.1 5 11) + 1)).1 2 ((47 + (σ.1 5 11)).toNatClampNeg)) y4 e5) lkX4_309 dcX4_asks ol_rr_X4_tick_X4_asks 0 rfl rfl ⟨Nat.le_refl _, Nat.le_refl _⟩ (Nat.le_of_ble_eq_true rfl) dX4_tick_88 rfl ?_
        refine ol_istore_n hX (pc := 91) [some (.ref (a 0)), some (.int (σ.1 5 11)), some (.int y4.1)] dX4_tick_91 rfl (by decide) rfl rfl ?_
        refine ol_goto hX (pc := 92) 10 dX4_tick_92 (by decide) ?_
        refine ol_Gdrop 1 ?_
        refine ol_Gdrop 2 ?_
        exact ih y4.2 h
set_option maxHeartbeats 4000000 in
theorem wX4_tick (V : ol_Gh) (a : Nat → Nat) (σ : ol_Mm)  (z : ol_Mm) (h : oX4_tick σ = some z) : ol_Mt V yX4_tick cX4_tick 3 none ({ frames := 6, cells := 0, slots := 0, locals := 147 } : Room) true [.ref (a 0)] (ol_WM V a σ) (ol_Pw none (ol_WM V a z)) := by
  refine ol_MtOf (L0 := [some (.ref (a 0)), none, none]) (by decide) (Nat.le_of_ble_eq_true rfl) rfl (fun X A hX => ?_)
  unfold oX4_tick at h
  refine ol_aload_n hX (pc := 0) dX4_tick_0 rfl rfl ?_
  refine ol_mg18 hX (pc := 1) dX4_tick_1 ?_
  refine ol_iconst hX (pc := 4) 0 dX4_tick_4 ol_k_iconst_0 ?_
  refine ol_dup2_11 hX (pc := 5) dX4_tick_5 rfl rfl ?_
  refine ol_ml5 hX (pc := 6) dX4_tick_6 ol_tn_0 (ol_in_vp (by decide)) ?_
  refine ol_iconst hX (pc := 7) 1 dX4_tick_7 ol_k_iconst_1 ?_
  refine ol_iadd hX (pc := 8) dX4_tick_8 ?_
  refine ol_ms5 hX (pc := 9) dX4_tick_9 ol_tn_0 (ol_in_vp (by decide)) ?_
  exact wX4_tick_L10 hX ol_fuel (ol_ms σ 5 0 ((σ.1 5 0) + 1)) h
set_option maxHeartbeats 4000000 in
theorem wX4_takesBack_L2 {X : ol_Cx} {V : ol_Gh} {A : Nat → Prop} {a : Nat → Nat} {z : ol_Mm} (hX : ol_CX X V A cX4_takesBack RX4 "takesBack" 2 none)     : ∀ (n : Nat), ∀ (v1 : Int32) (σ : ol_Mm), oX4_takesBack_L2 n v1 σ = some z → ol_G X V A true (ol_Pw none (ol_WM V a z)) ({ frames := 0, cells := 0, slots := 0, locals := 0 } : Room) 2 0 0 (ol_WM V a σ) 2 [some (.ref (a 0)), some (.int v1)] [] := by
  intro n
  induction n with
  | zero =>
    intro v1 σ h
    exact ol_no h
  | succ n ih =>
    intro v1 σ h
    rw [oX4_takesBack_L2] at h
    refine ol_iload_n hX (pc := 2) dX4_takesBack_2 rfl rfl ?_
    refine ol_sipush hX (pc := 3) 251 dX4_takesBack_3 ol_k_sipush_251 ?_
    refine ol_icmp_ge hX (pc := 6) 27 dX4_takesBack_6 (by decide) (fun c3 => ?_) (fun c3 => ?_)
    · have h := ol_ifp c3 h
      have h := ol_of_some h
      subst h
      exact ol_vret hX (pc := 27) dX4_takesBack_27 ⟨rfl, rfl⟩ ⟨Nat.le_refl _, Nat.le_refl _⟩
    · have h := ol_ifn c3 h
      refine ol_aload_n hX (pc := 9) dX4_takesBack_9 rfl rfl ?_
      refine ol_mg18 hX (pc := 10) dX4_takesBack_10 ?_
      refine ol_iload_n hX (pc := 13) dX4_takesBack_13 rfl rfl ?_
      refine ol_aload_n hX (pc := 14) dX4_takesBack_14 rfl rfl ?_
      refine ol_mg19 hX (pc := 15) dX4_takesBack_15 ?_
      refine ol_iload_n hX (pc := 18) dX4_takesBack_18 rfl rfl ?_
      obtain ⟨g1, h⟩ := ol_of_og h
      refine ol_ml6 hX (pc := 19) dX4_takesBack_19 rfl (ol_in_vp g1) ?_
      obtain ⟨g2, h⟩ := ol_of_og h
      refine ol_ms5 hX (pc := 20) dX4_takesBack_20 rfl (ol_in_vp g2) ?_
      refine ol_iinc hX (pc := 21) (v1 + 1) [some (.ref (a 0)), some (.int (v1 + 1))] dX4_takesBack_21 rfl (ol_k_iinc_1 _) (by decide) rfl rfl ?_
      refine ol_goto hX (pc := 24) 2 dX4_takesBack_24 (by decide) ?_
      exact ih (v1 + 1) (ol_ms σ 5 v1.toNatClampNeg (σ.1 6 v1.toNatClampNeg)) h
set_option maxHeartbeats 4000000 in
theorem wX4_takesBack (V : ol_Gh) (a : Nat → Nat) (σ : ol_Mm)  (z : ol_Mm) (h : oX4_takesBack σ = some z) : ol_Mt V yX4_takesBack cX4_takesBack 2 none ({ frames := 0, cells := 0, slots := 0, locals := 0 } : Room) true [.ref (a 0)] (ol_WM V a σ) (ol_Pw none (ol_WM V a z)) := by
  refine ol_MtOf (L0 := [some (.ref (a 0)), none]) (by decide) (Nat.le_of_ble_eq_true rfl) rfl (fun X A hX => ?_)
  unfold oX4_takesBack at h
  refine ol_iconst hX (pc := 0) 0 dX4_takesBack_0 ol_k_iconst_0 ?_
  refine ol_istore_n hX (pc := 1) [some (.ref (a 0)), some (.int 0)] dX4_takesBack_1 rfl (by decide) rfl rfl ?_
  exact wX4_takesBack_L2 hX ol_fuel 0 σ h
set_option maxHeartbeats 4000000 in
theorem wX4_will_L52 {X : ol_Cx} {V : ol_Gh} {A : Nat → Prop} {a : Nat → Nat} {z : Int32 × ol_Mm} (hX : ol_CX X V A cX4_will RX4 "will" 4 (some .int)) (x1 : Int32) (x2 : Int32)    : ∀ (n : Nat), ∀ (v3 : Int32) (σ : ol_Mm), oX4_will_L52 x1 x2 n v3 σ = some z → ol_G X V A true (ol_Pw (some (.int z.1)) (ol_WM V a z.2)) ({ frames := 7, cells := 0, slots := 0, locals := 169 } : Room) 4 0 0 (ol_WM V a σ) 52 [some (.ref (a 0)), some (.int x1), some (.int x2), some (.int v3)] [] := by
  intro n
  induction n with
  | zero =>
    intro v3 σ h
    exact ol_no h
  | succ n ih =>
    intro v3 σ h
    rw [oX4_will_L52] at h
    refine ol_iload_n hX (pc := 52) dX4_will_52 rfl rfl ?_
    refine ol_iload_n hX (pc := 53) dX4_will_53 rfl rfl ?_
    refine ol_icmp_ge hX (pc := 54) 67 dX4_will_54 (by decide) (fun c7 => ?_) (fun c7 => ?_)
    · have h := ol_ifp c7 h
      refine ol_aload_n hX (pc := 67) dX4_will_67 rfl rfl ?_
      refine ol_iload_n hX (pc := 68) dX4_will_68 rfl rfl ?_
      obtain ⟨y1, e2, h⟩ := ol_of_bd h
      refine ol_cVr (As := [.int x2]) hX (pc := 69) (wX4_told V a σ x2 y1 e2) lkX4_328 dcX4_told ⟨rfl, rfl⟩ ol_rr_X4_will_X4_told 0 rfl rfl (fun _ h => h) ⟨Nat.le_refl _, Nat.le_refl _⟩ (Nat.le_of_ble_eq_true rfl) dX4_will_69 rfl ?_
      refine ol_istore_n hX (pc := 72) [some (.ref (a 0)), some (.int x1), some (.int x2), some (.int y1)] dX4_will_72 rfl (by decide) rfl rfl ?_
      refine ol_aload_n hX (pc := 73) dX4_will_73 rfl rfl ?_
      obtain ⟨y3, e4, h⟩ := ol_of_bd h
      refine ol_cVw (As := []) hX (pc := 74) (wX4_takesBack V a σ y3 e4) lkX4_337 dcX4_takesBack ol_rr_X4_will_X4_takesBack 0 rfl rfl ⟨Nat.le_refl _, Nat.le_refl _⟩ (Nat.le_of_ble_eq_true rfl) dX4_will_74 rfl ?_
      refine ol_iload_n hX (pc := 77) dX4_will_77 rfl rfl ?_
      have h := ol_of_some h
      subst h
      exact ol_iret hX (pc := 78) dX4_will_78 ⟨rfl, rfl⟩ ⟨Nat.le_refl _, Nat.le_refl _⟩
    · have h := ol_ifn c7 h
      refine ol_aload_n hX (pc := 57) dX4_will_57 rfl rfl ?_
      obtain ⟨y5, e6, h⟩ := ol_of_bd h
      refine ol_cVw (As := []) hX (pc := 58) (wX4_tick V a σ y5 e6) lkX4_334 dcX4_tick ol_rr_X4_will_X4_tick 0 rfl rfl ⟨Nat.le_refl _, Nat.le_refl _⟩ (Nat.le_of_ble_eq_true rfl) dX4_will_58 rfl ?_
      refine ol_iinc hX (pc := 61) (v3 + 1) [some (.ref (a 0)), some (.int x1), some (.int x2), some (.int (v3 + 1))] dX4_will_61 rfl (ol_k_iinc_1 _) (by decide) rfl rfl ?_
      refine ol_goto hX (pc := 64) 52 dX4_will_64 (by decide) ?_
      exact ih (v3 + 1) y5 h
set_option maxHeartbeats 4000000 in
theorem wX4_will_L38 {X : ol_Cx} {V : ol_Gh} {A : Nat → Prop} {a : Nat → Nat} {z : Int32 × ol_Mm} (hX : ol_CX X V A cX4_will RX4 "will" 4 (some .int)) (x1 : Int32) (x2 : Int32)   (s0 : Int32) (σ : ol_Mm) (h : oX4_will_L38 x1 x2 s0 σ = some z) : ol_G X V A true (ol_Pw (some (.int z.1)) (ol_WM V a z.2)) ({ frames := 7, cells := 0, slots := 0, locals := 169 } : Room) 4 0 0 (ol_WM V a σ) 38 [some (.ref (a 0)), some (.int x1), some (.int x2), none] [.int s0, .ref (a 0)] := by
  unfold oX4_will_L38 at h
  obtain ⟨y1, e2, h⟩ := ol_of_bd h
  refine ol_cVw (As := [.int s0]) hX (pc := 38) (wX4_isRefused V a σ s0 y1 e2) lkX4_180 dcX4_isRefused ol_rr_X4_will_X4_isRefused 0 rfl rfl ⟨Nat.le_refl _, Nat.le_refl _⟩ (Nat.le_of_ble_eq_true rfl) dX4_will_38 rfl ?_
  refine ol_if_eq hX (pc := 41) 46 dX4_will_41 (by decide) (fun c5 => ?_) (fun c5 => ?_)
  · have h := ol_ifp c5 h
    refine ol_aload_n hX (pc := 46) dX4_will_46 rfl rfl ?_
    obtain ⟨y3, e4, h⟩ := ol_of_bd h
    refine ol_cVw (As := []) hX (pc := 47) (wX4_laysAside V a y1.2 y3 e4) lkX4_331 dcX4_laysAside ol_rr_X4_will_X4_laysAside 0 rfl rfl ⟨Nat.le_refl _, Nat.le_refl _⟩ (Nat.le_of_ble_eq_true rfl) dX4_will_47 rfl ?_
    refine ol_iconst hX (pc := 50) 0 dX4_will_50 ol_k_iconst_0 ?_
    refine ol_istore_n hX (pc := 51) [some (.ref (a 0)), some (.int x1), some (.int x2), some (.int 0)] dX4_will_51 rfl (by decide) rfl rfl ?_
    exact wX4_will_L52 hX x1 x2 ol_fuel 0 y3 h
  · have h := ol_ifn c5 h
    refine ol_iconst hX (pc := 44) (-1) dX4_will_44 ol_k_iconst_m1 ?_
    have h := ol_of_some h
    subst h
    exact ol_iret hX (pc := 45) dX4_will_45 ⟨rfl, rfl⟩ ⟨Nat.le_refl _, Nat.le_refl _⟩
set_option maxHeartbeats 4000000 in
theorem wX4_will (V : ol_Gh) (a : Nat → Nat) (σ : ol_Mm) (x1 : Int32) (x2 : Int32)  (z : Int32 × ol_Mm) (h : oX4_will σ x1 x2 = some z) : ol_Mt V yX4_will cX4_will 4 (some .int) ({ frames := 7, cells := 0, slots := 0, locals := 169 } : Room) true [.ref (a 0), .int x1, .int x2] (ol_WM V a σ) (ol_Pw (some (.int z.1)) (ol_WM V a z.2)) := by
  refine ol_MtOf (L0 := [some (.ref (a 0)), some (.int x1), some (.int x2), none]) (by decide) (Nat.le_of_ble_eq_true rfl) rfl (fun X A hX => ?_)
  unfold oX4_will at h
  refine ol_aload_n hX (pc := 0) dX4_will_0 rfl rfl ?_
  refine ol_aload_n hX (pc := 1) dX4_will_1 rfl rfl ?_
  refine ol_mg9 hX (pc := 2) dX4_will_2 ?_
  refine ol_if_eq hX (pc := 5) 18 dX4_will_5 (by decide) (fun c7 => ?_) (fun c7 => ?_)
  · have h := ol_ifp c7 h
    refine ol_iconst hX (pc := 18) 1 dX4_will_18 ol_k_iconst_1 ?_
    refine ol_goto hX (pc := 19) 38 dX4_will_19 (by decide) ?_
    exact wX4_will_L38 hX x1 x2 1 σ h
  · have h := ol_ifn c7 h
    refine ol_iload_n hX (pc := 8) dX4_will_8 rfl rfl ?_
    refine ol_iconst hX (pc := 9) 0 dX4_will_9 ol_k_iconst_0 ?_
    refine ol_bipush hX (pc := 10) 10 dX4_will_10 ol_k_bipush_10 ?_
    obtain ⟨y1, e2, h⟩ := ol_of_bd h
    refine ol_cSr (As := [.int x2, .int 0, .int 10]) hX (pc := 12) (wX4_in V (ol_WM V a σ) x2 0 10 y1 e2) lkX4_83 dcX4_in ⟨rfl, rfl⟩ ol_rr_X4_will_X4_in (fun _ h => h) ⟨Nat.le_refl _, Nat.le_refl _⟩ (Nat.le_of_ble_eq_true rfl) dX4_will_12 rfl ?_
    refine ol_if_ne hX (pc := 15) 22 dX4_will_15 (by decide) (fun c6 => ?_) (fun c6 => ?_)
    · have h := ol_ifn c6 h
      refine ol_iload_n hX (pc := 22) dX4_will_22 rfl rfl ?_
      refine ol_iconst hX (pc := 23) 1 dX4_will_23 ol_k_iconst_1 ?_
      refine ol_sipush hX (pc := 24) 999 dX4_will_24 ol_k_sipush_999 ?_
      obtain ⟨y3, e4, h⟩ := ol_of_bd h
      refine ol_cSr (As := [.int x1, .int 1, .int 999]) hX (pc := 27) (wX4_in V (ol_WM V a σ) x1 1 999 y3 e4) lkX4_83 dcX4_in ⟨rfl, rfl⟩ ol_rr_X4_will_X4_in (fun _ h => h) ⟨Nat.le_refl _, Nat.le_refl _⟩ (Nat.le_of_ble_eq_true rfl) dX4_will_27 rfl ?_
      refine ol_if_eq hX (pc := 30) 37 dX4_will_30 (by decide) (fun c5 => ?_) (fun c5 => ?_)
      · have h := ol_ifp c5 h
        refine ol_iconst hX (pc := 37) 2 dX4_will_37 ol_k_iconst_2 ?_
        exact wX4_will_L38 hX x1 x2 2 σ h
      · have h := ol_ifn c5 h
        refine ol_iconst hX (pc := 33) 0 dX4_will_33 ol_k_iconst_0 ?_
        refine ol_goto hX (pc := 34) 38 dX4_will_34 (by decide) ?_
        exact wX4_will_L38 hX x1 x2 0 σ h
    · have h := ol_ifp c6 h
      refine ol_iconst hX (pc := 18) 1 dX4_will_18 ol_k_iconst_1 ?_
      refine ol_goto hX (pc := 19) 38 dX4_will_19 (by decide) ?_
      exact wX4_will_L38 hX x1 x2 1 σ h
set_option maxHeartbeats 4000000 in
theorem wX4_till_L87 {X : ol_Cx} {V : ol_Gh} {A : Nat → Prop} {a : Nat → Nat} {z : Int32 × ol_Mm} (hX : ol_CX X V A cX4_till RX4 "till" 5 (some .int)) (x1 : Int32)   (v3 : Int32) (s0 : Int32) (σ : ol_Mm) (h : oX4_till_L87 x1 v3 s0 σ = some z) : ol_G X V A true (ol_Pw (some (.int z.1)) (ol_WM V a z.2)) ({ frames := 7, cells := 0, slots := 0, locals := 169 } : Room) 5 0 0 (ol_WM V a σ) 87 [some (.ref (a 0)), none, none, some (.int v3), none] [.int s0] := by
  unfold oX4_till_L87 at h
  refine ol_istore hX (pc := 87) [some (.ref (a 0)), none, none, some (.int v3), some (.int s0)] dX4_till_87 (by decide) rfl rfl ?_
  refine ol_aload_n hX (pc := 89) dX4_till_89 rfl rfl ?_
  obtain ⟨y1, e2, h⟩ := ol_of_bd h
  refine ol_cVw (As := []) hX (pc := 90) (wX4_takesBack V a σ y1 e2) lkX4_337 dcX4_takesBack ol_rr_X4_till_X4_takesBack 0 rfl rfl ⟨Nat.le_refl _, Nat.le_refl _⟩ (Nat.le_of_ble_eq_true rfl) dX4_till_90 rfl ?_
  refine ol_iload hX (pc := 93) dX4_till_93 rfl ?_
  refine ol_if_eq hX (pc := 95) 102 dX4_till_95 (by decide) (fun c3 => ?_) (fun c3 => ?_)
  · have h := ol_ifp c3 h
    refine ol_bipush hX (pc := 102) (-2) dX4_till_102 ol_k_bipush_m2 ?_
    have h := ol_of_some h
    subst h
    exact ol_iret hX (pc := 104) dX4_till_104 ⟨rfl, rfl⟩ ⟨Nat.le_refl _, Nat.le_refl _⟩
  · have h := ol_ifn c3 h
    refine ol_iload_n hX (pc := 98) dX4_till_98 rfl rfl ?_
    refine ol_goto hX (pc := 99) 104 dX4_till_99 (by decide) ?_
    have h := ol_of_some h
    subst h
    exact ol_iret hX (pc := 104) dX4_till_104 ⟨rfl, rfl⟩ ⟨Nat.le_refl _, Nat.le_refl _⟩
set_option maxHeartbeats 4000000 in
theorem wX4_till_L67 {X : ol_Cx} {V : ol_Gh} {A : Nat → Prop} {a : Nat → Nat} {z : Int32 × ol_Mm} (hX : ol_CX X V A cX4_till RX4 "till" 5 (some .int)) (x1 : Int32)   (v2 : Int32) (v3 : Int32) (σ : ol_Mm) (h : oX4_till_L67 x1 v2 v3 σ = some z) : ol_G X V A true (ol_Pw (some (.int z.1)) (ol_WM V a z.2)) ({ frames := 7, cells := 0, slots := 0, locals := 169 } : Room) 5 0 0 (ol_WM V a σ) 67 [some (.ref (a 0)), some (.int x1), some (.int v2), some (.int v3), none] [] := by
  unfold oX4_till_L67 at h
  refine ol_aload_n hX (pc := 67) dX4_till_67 rfl rfl ?_
  refine ol_mg18 hX (pc := 68) dX4_till_68 ?_
  refine ol_iload_n hX (pc := 71) dX4_till_71 rfl rfl ?_
  refine ol_bipush hX (pc := 72) 6 dX4_till_72 ol_k_bipush_6 ?_
  obtain ⟨y1, e2, h⟩ := ol_of_bd h
  refine ol_cSr (As := [.int x1, .int 6]) hX (pc := 74) (wX4_at V (ol_WM V a σ) x1 6 y1 e2) lkX4_201 dcX4_at ⟨rfl, rfl⟩ ol_rr_X4_till_X4_at (fun _ h => h) ⟨Nat.le_refl _, Nat.le_refl _⟩ (Nat.le_of_ble_eq_true rfl) dX4_till_74 rfl ?_
  obtain ⟨g3, h⟩ := ol_of_og h
  refine ol_ml5 hX (pc := 77) dX4_till_77 rfl (ol_in_vp g3) ?_
  refine ol_iload_n hX (pc := 78) dX4_till_78 rfl rfl ?_
  refine ol_icmp_le hX (pc := 79) 86 dX4_till_79 (by decide) (fun c4 => ?_) (fun c4 => ?_)
  · have h := ol_ifp c4 h
    refine ol_iconst hX (pc := 86) 0 dX4_till_86 ol_k_iconst_0 ?_
    refine ol_Gdrop 1 ?_
    refine ol_Gdrop 2 ?_
    exact wX4_till_L87 hX x1 v3 0 σ h
  · have h := ol_ifn c4 h
    refine ol_iconst hX (pc := 82) 1 dX4_till_82 ol_k_iconst_1 ?_
    refine ol_goto hX (pc := 83) 87 dX4_till_83 (by decide) ?_
    refine ol_Gdrop 1 ?_
    refine ol_Gdrop 2 ?_
    exact wX4_till_L87 hX x1 v3 1 σ h
set_option maxHeartbeats 4000000 in
theorem wX4_till_L35 {X : ol_Cx} {V : ol_Gh} {A : Nat → Prop} {a : Nat → Nat} {z : Int32 × ol_Mm} (hX : ol_CX X V A cX4_till RX4 "till" 5 (some .int)) (x1 : Int32)    : ∀ (n : Nat), ∀ (v2 : Int32) (v3 : Int32) (σ : ol_Mm), oX4_till_L35 x1 n v2 v3 σ = some z → ol_G X V A true (ol_Pw (some (.int z.1)) (ol_WM V a z.2)) ({ frames := 7, cells := 0, slots := 0, locals := 169 } : Room) 5 0 0 (ol_WM V a σ) 35 [some (.ref (a 0)), some (.int x1), some (.int v2), some (.int v3), none] [] := by
  intro n
  induction n with
  | zero =>
    intro v2 v3 σ h
    exact ol_no h
  | succ n ih =>
    intro v2 v3 σ h
    rw [oX4_till_L35] at h
    refine ol_iload_n hX (pc := 35) dX4_till_35 rfl rfl ?_
    refine ol_sipush hX (pc := 36) 2000 dX4_till_36 ol_k_sipush_2000 ?_
    refine ol_icmp_ge hX (pc := 39) 67 dX4_till_39 (by decide) (fun c7 => ?_) (fun c7 => ?_)
    · have h := ol_ifp c7 h
      exact wX4_till_L67 hX x1 v2 v3 σ h
    · have h := ol_ifn c7 h
      refine ol_aload_n hX (pc := 42) dX4_till_42 rfl rfl ?_
      refine ol_mg18 hX (pc := 43) dX4_till_43 ?_
      refine ol_iload_n hX (pc := 46) dX4_till_46 rfl rfl ?_
      refine ol_bipush hX (pc := 47) 6 dX4_till_47 ol_k_bipush_6 ?_
      obtain ⟨y1, e2, h⟩ := ol_of_bd h
      refine ol_cSr (As := [.int x1, .int 6]) hX (pc := 49) (wX4_at V (ol_WM V a σ) x1 6 y1 e2) lkX4_201 dcX4_at ⟨rfl, rfl⟩ ol_rr_X4_till_X4_at (fun _ h => h) ⟨Nat.le_refl _, Nat.le_refl _⟩ (Nat.le_of_ble_eq_true rfl) dX4_till_49 rfl ?_
      obtain ⟨g3, h⟩ := ol_of_og h
      refine ol_ml5 hX (pc := 52) dX4_till_52 rfl (ol_in_vp g3) ?_
      refine ol_iload_n hX (pc := 53) dX4_till_53 rfl rfl ?_
      refine ol_icmp_ne hX (pc := 54) 67 dX4_till_54 (by decide) (fun c6 => ?_) (fun c6 => ?_)
      · have h := ol_ifn c6 h
        exact wX4_till_L67 hX x1 v2 v3 σ h
      · have h := ol_ifp c6 h
        refine ol_aload_n hX (pc := 57) dX4_till_57 rfl rfl ?_
        obtain ⟨y4, e5, h⟩ := ol_of_bd h
        refine ol_cVw (As := []) hX (pc := 58) (wX4_tick V a σ y4 e5) lkX4_334 dcX4_tick ol_rr_X4_till_X4_tick 0 rfl rfl ⟨Nat.le_refl _, Nat.le_refl _⟩ (Nat.le_of_ble_eq_true rfl) dX4_till_58 rfl ?_
        refine ol_iinc hX (pc := 61) (v3 + 1) [some (.ref (a 0)), some (.int x1), some (.int v2), some (.int (v3 + 1)), none] dX4_till_61 rfl (ol_k_iinc_1 _) (by decide) rfl rfl ?_
        refine ol_goto hX (pc := 64) 35 dX4_till_64 (by decide) ?_
        exact ih v2 (v3 + 1) y4 h
set_option maxHeartbeats 4000000 in
theorem wX4_till (V : ol_Gh) (a : Nat → Nat) (σ : ol_Mm) (x1 : Int32)  (z : Int32 × ol_Mm) (h : oX4_till σ x1 = some z) : ol_Mt V yX4_till cX4_till 5 (some .int) ({ frames := 7, cells := 0, slots := 0, locals := 169 } : Room) true [.ref (a 0), .int x1] (ol_WM V a σ) (ol_Pw (some (.int z.1)) (ol_WM V a z.2)) := by
  refine ol_MtOf (L0 := [some (.ref (a 0)), some (.int x1), none, none, none]) (by decide) (Nat.le_of_ble_eq_true rfl) rfl (fun X A hX => ?_)
  unfold oX4_till at h
  refine ol_aload_n hX (pc := 0) dX4_till_0 rfl rfl ?_
  refine ol_aload_n hX (pc := 1) dX4_till_1 rfl rfl ?_
  refine ol_iload_n hX (pc := 2) dX4_till_2 rfl rfl ?_
  obtain ⟨y1, e2, h⟩ := ol_of_bd h
  refine ol_cVr (As := [.int x1]) hX (pc := 3) (wX4_isBoard V a σ x1 y1 e2) lkX4_268 dcX4_isBoard ⟨rfl, rfl⟩ ol_rr_X4_till_X4_isBoard 0 rfl rfl (fun _ h => h) ⟨Nat.le_refl _, Nat.le_refl _⟩ (Nat.le_of_ble_eq_true rfl) dX4_till_3 rfl ?_
  obtain ⟨y3, e4, h⟩ := ol_of_bd h
  refine ol_cSr (As := [.int y1]) hX (pc := 6) (wX4_unless V (ol_WM V a σ) y1 y3 e4) lkX4_324 dcX4_unless ⟨rfl, rfl⟩ ol_rr_X4_till_X4_unless (fun _ h => h) ⟨Nat.le_refl _, Nat.le_refl _⟩ (Nat.le_of_ble_eq_true rfl) dX4_till_6 rfl ?_
  obtain ⟨y5, e6, h⟩ := ol_of_bd h
  refine ol_cVw (As := [.int y3]) hX (pc := 9) (wX4_isRefused V a σ y3 y5 e6) lkX4_180 dcX4_isRefused ol_rr_X4_till_X4_isRefused 0 rfl rfl ⟨Nat.le_refl _, Nat.le_refl _⟩ (Nat.le_of_ble_eq_true rfl) dX4_till_9 rfl ?_
  refine ol_if_eq hX (pc := 12) 17 dX4_till_12 (by decide) (fun c12 => ?_) (fun c12 => ?_)
  · have h := ol_ifp c12 h
    refine ol_aload_n hX (pc := 17) dX4_till_17 rfl rfl ?_
    obtain ⟨y7, e8, h⟩ := ol_of_bd h
    refine ol_cVw (As := []) hX (pc := 18) (wX4_laysAside V a y5.2 y7 e8) lkX4_331 dcX4_laysAside ol_rr_X4_till_X4_laysAside 0 rfl rfl ⟨Nat.le_refl _, Nat.le_refl _⟩ (Nat.le_of_ble_eq_true rfl) dX4_till_18 rfl ?_
    refine ol_aload_n hX (pc := 21) dX4_till_21 rfl rfl ?_
    refine ol_mg18 hX (pc := 22) dX4_till_22 ?_
    refine ol_iload_n hX (pc := 25) dX4_till_25 rfl rfl ?_
    refine ol_bipush hX (pc := 26) 6 dX4_till_26 ol_k_bipush_6 ?_
    obtain ⟨y9, e10, h⟩ := ol_of_bd h
    refine ol_cSr (As := [.int x1, .int 6]) hX (pc := 28) (wX4_at V (ol_WM V a y7) x1 6 y9 e10) lkX4_201 dcX4_at ⟨rfl, rfl⟩ ol_rr_X4_till_X4_at (fun _ h => h) ⟨Nat.le_refl _, Nat.le_refl _⟩ (Nat.le_of_ble_eq_true rfl) dX4_till_28 rfl ?_
    obtain ⟨g11, h⟩ := ol_of_og h
    refine ol_ml5 hX (pc := 31) dX4_till_31 rfl (ol_in_vp g11) ?_
    refine ol_istore_n hX (pc := 32) [some (.ref (a 0)), some (.int x1), some (.int (y7.1 5 y9.toNatClampNeg)), none, none] dX4_till_32 rfl (by decide) rfl rfl ?_
    refine ol_iconst hX (pc := 33) 0 dX4_till_33 ol_k_iconst_0 ?_
    refine ol_istore_n hX (pc := 34) [some (.ref (a 0)), some (.int x1), some (.int (y7.1 5 y9.toNatClampNeg)), some (.int 0), none] dX4_till_34 rfl (by decide) rfl rfl ?_
    exact wX4_till_L35 hX x1 ol_fuel (y7.1 5 y9.toNatClampNeg) 0 y7 h
  · have h := ol_ifn c12 h
    refine ol_iconst hX (pc := 15) (-1) dX4_till_15 ol_k_iconst_m1 ?_
    have h := ol_of_some h
    subst h
    exact ol_iret hX (pc := 16) dX4_till_16 ⟨rfl, rfl⟩ ⟨Nat.le_refl _, Nat.le_refl _⟩
set_option maxHeartbeats 4000000 in
theorem wX4_about_L22 {X : ol_Cx} {V : ol_Gh} {A : Nat → Prop} {a : Nat → Nat} {z : Int32 × ol_Mm} (hX : ol_CX X V A cX4_about RX4 "about" 2 (some .int)) (x1 : Int32)   (s0 : Int32) (σ : ol_Mm) (h : oX4_about_L22 x1 s0 σ = some z) : ol_G X V A true (ol_Pw (some (.int z.1)) (ol_WM V a z.2)) ({ frames := 1, cells := 0, slots := 0, locals := 22 } : Room) 2 0 0 (ol_WM V a σ) 22 [some (.ref (a 0)), some (.int x1)] [.int s0, .ref (a 0)] := by
  unfold oX4_about_L22 at h
  obtain ⟨y1, e2, h⟩ := ol_of_bd h
  refine ol_cSr (As := [.int s0]) hX (pc := 22) (wX4_unless V (ol_WM V a σ) s0 y1 e2) lkX4_324 dcX4_unless ⟨rfl, rfl⟩ ol_rr_X4_about_X4_unless (fun _ h => h) ⟨Nat.le_refl _, Nat.le_refl _⟩ (Nat.le_of_ble_eq_true rfl) dX4_about_22 rfl ?_
  obtain ⟨y3, e4, h⟩ := ol_of_bd h
  refine ol_cVw (As := [.int y1]) hX (pc := 25) (wX4_isRefused V a σ y1 y3 e4) lkX4_180 dcX4_isRefused ol_rr_X4_about_X4_isRefused 0 rfl rfl ⟨Nat.le_refl _, Nat.le_refl _⟩ (Nat.le_of_ble_eq_true rfl) dX4_about_25 rfl ?_
  refine ol_if_eq hX (pc := 28) 33 dX4_about_28 (by decide) (fun c7 => ?_) (fun c7 => ?_)
  · have h := ol_ifp c7 h
    refine ol_iload_n hX (pc := 33) dX4_about_33 rfl rfl ?_
    refine ol_iconst hX (pc := 34) 5 dX4_about_34 ol_k_iconst_5 ?_
    refine ol_icmp_ne hX (pc := 35) 47 dX4_about_35 (by decide) (fun c6 => ?_) (fun c6 => ?_)
    · have h := ol_ifn c6 h
      refine ol_aload_n hX (pc := 47) dX4_about_47 rfl rfl ?_
      refine ol_mg6 hX (pc := 48) dX4_about_48 ?_
      refine ol_iload_n hX (pc := 51) dX4_about_51 rfl rfl ?_
      obtain ⟨g5, h⟩ := ol_of_og h
      refine ol_ml2 hX (pc := 52) dX4_about_52 rfl (ol_in_vp g5) ?_
      have h := ol_of_some h
      subst h
      exact ol_iret hX (pc := 53) dX4_about_53 ⟨rfl, rfl⟩ ⟨Nat.le_refl _, Nat.le_refl _⟩
    · have h := ol_ifp c6 h
      refine ol_aload_n hX (pc := 38) dX4_about_38 rfl rfl ?_
      refine ol_mg18 hX (pc := 39) dX4_about_39 ?_
      refine ol_iconst hX (pc := 42) 0 dX4_about_42 ol_k_iconst_0 ?_
      refine ol_ml5 hX (pc := 43) dX4_about_43 ol_tn_0 (ol_in_vp (by decide)) ?_
      refine ol_goto hX (pc := 44) 53 dX4_about_44 (by decide) ?_
      have h := ol_of_some h
      subst h
      exact ol_iret hX (pc := 53) dX4_about_53 ⟨rfl, rfl⟩ ⟨Nat.le_refl _, Nat.le_refl _⟩
  · have h := ol_ifn c7 h
    refine ol_iconst hX (pc := 31) (-1) dX4_about_31 ol_k_iconst_m1 ?_
    have h := ol_of_some h
    subst h
    exact ol_iret hX (pc := 32) dX4_about_32 ⟨rfl, rfl⟩ ⟨Nat.le_refl _, Nat.le_refl _⟩
set_option maxHeartbeats 4000000 in
theorem wX4_about (V : ol_Gh) (a : Nat → Nat) (σ : ol_Mm) (x1 : Int32)  (z : Int32 × ol_Mm) (h : oX4_about σ x1 = some z) : ol_Mt V yX4_about cX4_about 2 (some .int) ({ frames := 1, cells := 0, slots := 0, locals := 22 } : Room) true [.ref (a 0), .int x1] (ol_WM V a σ) (ol_Pw (some (.int z.1)) (ol_WM V a z.2)) := by
  refine ol_MtOf (L0 := [some (.ref (a 0)), some (.int x1)]) (by decide) (Nat.le_of_ble_eq_true rfl) rfl (fun X A hX => ?_)
  unfold oX4_about at h
  refine ol_aload_n hX (pc := 0) dX4_about_0 rfl rfl ?_
  refine ol_aload_n hX (pc := 1) dX4_about_1 rfl rfl ?_
  refine ol_mg9 hX (pc := 2) dX4_about_2 ?_
  refine ol_if_eq hX (pc := 5) 21 dX4_about_5 (by decide) (fun c4 => ?_) (fun c4 => ?_)
  · have h := ol_ifp c4 h
    refine ol_iconst hX (pc := 21) 0 dX4_about_21 ol_k_iconst_0 ?_
    exact wX4_about_L22 hX x1 0 σ h
  · have h := ol_ifn c4 h
    refine ol_iload_n hX (pc := 8) dX4_about_8 rfl rfl ?_
    refine ol_iconst hX (pc := 9) 0 dX4_about_9 ol_k_iconst_0 ?_
    refine ol_iconst hX (pc := 10) 5 dX4_about_10 ol_k_iconst_5 ?_
    obtain ⟨y1, e2, h⟩ := ol_of_bd h
    refine ol_cSr (As := [.int x1, .int 0, .int 5]) hX (pc := 11) (wX4_in V (ol_WM V a σ) x1 0 5 y1 e2) lkX4_83 dcX4_in ⟨rfl, rfl⟩ ol_rr_X4_about_X4_in (fun _ h => h) ⟨Nat.le_refl _, Nat.le_refl _⟩ (Nat.le_of_ble_eq_true rfl) dX4_about_11 rfl ?_
    refine ol_if_eq hX (pc := 14) 21 dX4_about_14 (by decide) (fun c3 => ?_) (fun c3 => ?_)
    · have h := ol_ifp c3 h
      refine ol_iconst hX (pc := 21) 0 dX4_about_21 ol_k_iconst_0 ?_
      exact wX4_about_L22 hX x1 0 σ h
    · have h := ol_ifn c3 h
      refine ol_iconst hX (pc := 17) 1 dX4_about_17 ol_k_iconst_1 ?_
      refine ol_goto hX (pc := 18) 22 dX4_about_18 (by decide) ?_
      exact wX4_about_L22 hX x1 1 σ h
set_option maxHeartbeats 4000000 in
theorem wX4_board_L24 {X : ol_Cx} {V : ol_Gh} {A : Nat → Prop} {a : Nat → Nat} {z : Int32 × ol_Mm} (hX : ol_CX X V A cX4_board RX4 "board" 3 (some .int)) (x1 : Int32) (x2 : Int32)   (s0 : Int32) (σ : ol_Mm) (h : oX4_board_L24 x1 x2 s0 σ = some z) : ol_G X V A true (ol_Pw (some (.int z.1)) (ol_WM V a z.2)) ({ frames := 3, cells := 0, slots := 0, locals := 67 } : Room) 3 0 0 (ol_WM V a σ) 24 [some (.ref (a 0)), some (.int x1), some (.int x2)] [.int s0, .ref (a 0)] := by
  unfold oX4_board_L24 at h
  obtain ⟨y1, e2, h⟩ := ol_of_bd h
  refine ol_cSr (As := [.int s0]) hX (pc := 24) (wX4_unless V (ol_WM V a σ) s0 y1 e2) lkX4_324 dcX4_unless ⟨rfl, rfl⟩ ol_rr_X4_board_X4_unless (fun _ h => h) ⟨Nat.le_refl _, Nat.le_refl _⟩ (Nat.le_of_ble_eq_true rfl) dX4_board_24 rfl ?_
  obtain ⟨y3, e4, h⟩ := ol_of_bd h
  refine ol_cVw (As := [.int y1]) hX (pc := 27) (wX4_isRefused V a σ y1 y3 e4) lkX4_180 dcX4_isRefused ol_rr_X4_board_X4_isRefused 0 rfl rfl ⟨Nat.le_refl _, Nat.le_refl _⟩ (Nat.le_of_ble_eq_true rfl) dX4_board_27 rfl ?_
  refine ol_if_eq hX (pc := 30) 35 dX4_board_30 (by decide) (fun c25 => ?_) (fun c25 => ?_)
  · have h := ol_ifp c25 h
    refine ol_iload_n hX (pc := 35) dX4_board_35 rfl rfl ?_
    by_cases c6 : x2 = 0
    · have h := ol_ifp c6 h
      refine ol_tsw_in hX (pc := 36) 76 dX4_board_36 c6 (by decide) (by decide) rfl (by decide) ?_
      refine ol_aload_n hX (pc := 76) dX4_board_76 rfl rfl ?_
      refine ol_mg6 hX (pc := 77) dX4_board_77 ?_
      refine ol_iconst hX (pc := 80) 5 dX4_board_80 ol_k_iconst_5 ?_
      refine ol_iload_n hX (pc := 81) dX4_board_81 rfl rfl ?_
      refine ol_iadd hX (pc := 82) dX4_board_82 ?_
      obtain ⟨g5, h⟩ := ol_of_og h
      refine ol_ml2 hX (pc := 83) dX4_board_83 rfl (ol_in_vp g5) ?_
      have h := ol_of_some h
      subst h
      exact ol_iret hX (pc := 84) dX4_board_84 ⟨rfl, rfl⟩ ⟨Nat.le_refl _, Nat.le_refl _⟩
    · have h := ol_ifn c6 h
      by_cases c8 : x2 = 1
      · have h := ol_ifp c8 h
        refine ol_tsw_in hX (pc := 36) 85 dX4_board_36 c8 (by decide) (by decide) rfl (by decide) ?_
        refine ol_aload_n hX (pc := 85) dX4_board_85 rfl rfl ?_
        refine ol_mg6 hX (pc := 86) dX4_board_86 ?_
        refine ol_bipush hX (pc := 89) 11 dX4_board_89 ol_k_bipush_11 ?_
        refine ol_iload_n hX (pc := 91) dX4_board_91 rfl rfl ?_
        refine ol_iadd hX (pc := 92) dX4_board_92 ?_
        obtain ⟨g7, h⟩ := ol_of_og h
        refine ol_ml2 hX (pc := 93) dX4_board_93 rfl (ol_in_vp g7) ?_
        have h := ol_of_some h
        subst h
        exact ol_iret hX (pc := 94) dX4_board_94 ⟨rfl, rfl⟩ ⟨Nat.le_refl _, Nat.le_refl _⟩
      · have h := ol_ifn c8 h
        by_cases c10 : x2 = 2
        · have h := ol_ifp c10 h
          refine ol_tsw_in hX (pc := 36) 95 dX4_board_36 c10 (by decide) (by decide) rfl (by decide) ?_
          refine ol_aload_n hX (pc := 95) dX4_board_95 rfl rfl ?_
          refine ol_mg6 hX (pc := 96) dX4_board_96 ?_
          refine ol_bipush hX (pc := 99) 17 dX4_board_99 ol_k_bipush_17 ?_
          refine ol_iload_n hX (pc := 101) dX4_board_101 rfl rfl ?_
          refine ol_iadd hX (pc := 102) dX4_board_102 ?_
          obtain ⟨g9, h⟩ := ol_of_og h
          refine ol_ml2 hX (pc := 103) dX4_board_103 rfl (ol_in_vp g9) ?_
          have h := ol_of_some h
          subst h
          exact ol_iret hX (pc := 104) dX4_board_104 ⟨rfl, rfl⟩ ⟨Nat.le_refl _, Nat.le_refl _⟩
        · have h := ol_ifn c10 h
          by_cases c13 : x2 = 3
          · have h := ol_ifp c13 h
            refine ol_tsw_in hX (pc := 36) 105 dX4_board_36 c13 (by decide) (by decide) rfl (by decide) ?_
            refine ol_aload_n hX (pc := 105) dX4_board_105 rfl rfl ?_
            refine ol_iload_n hX (pc := 106) dX4_board_106 rfl rfl ?_
            obtain ⟨y11, e12, h⟩ := ol_of_bd h
            refine ol_cVr (As := [.int x1]) hX (pc := 107) (wX4_rankOf V a y3.2 x1 y11 e12) lkX4_212 dcX4_rankOf ⟨rfl, rfl⟩ ol_rr_X4_board_X4_rankOf 0 rfl rfl (fun _ h => h) ⟨Nat.le_refl _, Nat.le_refl _⟩ (Nat.le_of_ble_eq_true rfl) dX4_board_107 rfl ?_
            have h := ol_of_some h
            subst h
            exact ol_iret hX (pc := 110) dX4_board_110 ⟨rfl, rfl⟩ ⟨Nat.le_refl _, Nat.le_refl _⟩
          · have h := ol_ifn c13 h
            by_cases c17 : x2 = 4
            · have h := ol_ifp c17 h
              refine ol_tsw_in hX (pc := 36) 111 dX4_board_36 c17 (by decide) (by decide) rfl (by decide) ?_
              refine ol_aload_n hX (pc := 111) dX4_board_111 rfl rfl ?_
              refine ol_mg18 hX (pc := 112) dX4_board_112 ?_
              refine ol_iload_n hX (pc := 115) dX4_board_115 rfl rfl ?_
              refine ol_iconst hX (pc := 116) 2 dX4_board_116 ol_k_iconst_2 ?_
              obtain ⟨y14, e15, h⟩ := ol_of_bd h
              refine ol_cSr (As := [.int x1, .int 2]) hX (pc := 117) (wX4_at V (ol_WM V a y3.2) x1 2 y14 e15) lkX4_201 dcX4_at ⟨rfl, rfl⟩ ol_rr_X4_board_X4_at (fun _ h => h) ⟨Nat.le_refl _, Nat.le_refl _⟩ (Nat.le_of_ble_eq_true rfl) dX4_board_117 rfl ?_
              obtain ⟨g16, h⟩ := ol_of_og h
              refine ol_ml5 hX (pc := 120) dX4_board_120 rfl (ol_in_vp g16) ?_
              have h := ol_of_some h
              subst h
              exact ol_iret hX (pc := 121) dX4_board_121 ⟨rfl, rfl⟩ ⟨Nat.le_refl _, Nat.le_refl _⟩
            · have h := ol_ifn c17 h
              by_cases c21 : x2 = 5
              · have h := ol_ifp c21 h
                refine ol_tsw_in hX (pc := 36) 122 dX4_board_36 c21 (by decide) (by decide) rfl (by decide) ?_
                refine ol_aload_n hX (pc := 122) dX4_board_122 rfl rfl ?_
                refine ol_mg18 hX (pc := 123) dX4_board_123 ?_
                refine ol_iload_n hX (pc := 126) dX4_board_126 rfl rfl ?_
                refine ol_iconst hX (pc := 127) 0 dX4_board_127 ol_k_iconst_0 ?_
                obtain ⟨y18, e19, h⟩ := ol_of_bd h
                refine ol_cSr (As := [.int x1, .int 0]) hX (pc := 128) (wX4_at V (ol_WM V a y3.2) x1 0 y18 e19) lkX4_201 dcX4_at ⟨rfl, rfl⟩ ol_rr_X4_board_X4_at (fun _ h => h) ⟨Nat.le_refl _, Nat.le_refl _⟩ (Nat.le_of_ble_eq_true rfl) dX4_board_128 rfl ?_
                obtain ⟨g20, h⟩ := ol_of_og h
                refine ol_ml5 hX (pc := 131) dX4_board_131 rfl (ol_in_vp g20) ?_
                have h := ol_of_some h
                subst h
                exact ol_iret hX (pc := 132) dX4_board_132 ⟨rfl, rfl⟩ ⟨Nat.le_refl _, Nat.le_refl _⟩
              · have h := ol_ifn c21 h
                refine ol_tsw_out hX (pc := 36) 133 dX4_board_36 ?_ (by decide) ?_
                · exact ol_sw6 c6 c8 c10 c13 c17 c21
                · refine ol_aload_n hX (pc := 133) dX4_board_133 rfl rfl ?_
                  refine ol_mg18 hX (pc := 134) dX4_board_134 ?_
                  refine ol_iload_n hX (pc := 137) dX4_board_137 rfl rfl ?_
                  refine ol_iconst hX (pc := 138) 3 dX4_board_138 ol_k_iconst_3 ?_
                  obtain ⟨y22, e23, h⟩ := ol_of_bd h
                  refine ol_cSr (As := [.int x1, .int 3]) hX (pc := 139) (wX4_at V (ol_WM V a y3.2) x1 3 y22 e23) lkX4_201 dcX4_at ⟨rfl, rfl⟩ ol_rr_X4_board_X4_at (fun _ h => h) ⟨Nat.le_refl _, Nat.le_refl _⟩ (Nat.le_of_ble_eq_true rfl) dX4_board_139 rfl ?_
                  obtain ⟨g24, h⟩ := ol_of_og h
                  refine ol_ml5 hX (pc := 142) dX4_board_142 rfl (ol_in_vp g24) ?_
                  have h := ol_of_some h
                  subst h
                  exact ol_iret hX (pc := 143) dX4_board_143 ⟨rfl, rfl⟩ ⟨Nat.le_refl _, Nat.le_refl _⟩
  · have h := ol_ifn c25 h
    refine ol_iconst hX (pc := 33) (-1) dX4_board_33 ol_k_iconst_m1 ?_
    have h := ol_of_some h
    subst h
    exact ol_iret hX (pc := 34) dX4_board_34 ⟨rfl, rfl⟩ ⟨Nat.le_refl _, Nat.le_refl _⟩
set_option maxHeartbeats 4000000 in
theorem wX4_board (V : ol_Gh) (a : Nat → Nat) (σ : ol_Mm) (x1 : Int32) (x2 : Int32)  (z : Int32 × ol_Mm) (h : oX4_board σ x1 x2 = some z) : ol_Mt V yX4_board cX4_board 3 (some .int) ({ frames := 3, cells := 0, slots := 0, locals := 67 } : Room) true [.ref (a 0), .int x1, .int x2] (ol_WM V a σ) (ol_Pw (some (.int z.1)) (ol_WM V a z.2)) := by
  refine ol_MtOf (L0 := [some (.ref (a 0)), some (.int x1), some (.int x2)]) (by decide) (Nat.le_of_ble_eq_true rfl) rfl (fun X A hX => ?_)
  unfold oX4_board at h
  refine ol_aload_n hX (pc := 0) dX4_board_0 rfl rfl ?_
  refine ol_aload_n hX (pc := 1) dX4_board_1 rfl rfl ?_
  refine ol_iload_n hX (pc := 2) dX4_board_2 rfl rfl ?_
  obtain ⟨y1, e2, h⟩ := ol_of_bd h
  refine ol_cVr (As := [.int x1]) hX (pc := 3) (wX4_isBoard V a σ x1 y1 e2) lkX4_268 dcX4_isBoard ⟨rfl, rfl⟩ ol_rr_X4_board_X4_isBoard 0 rfl rfl (fun _ h => h) ⟨Nat.le_refl _, Nat.le_refl _⟩ (Nat.le_of_ble_eq_true rfl) dX4_board_3 rfl ?_
  refine ol_if_eq hX (pc := 6) 23 dX4_board_6 (by decide) (fun c6 => ?_) (fun c6 => ?_)
  · have h := ol_ifp c6 h
    refine ol_iconst hX (pc := 23) 0 dX4_board_23 ol_k_iconst_0 ?_
    exact wX4_board_L24 hX x1 x2 0 σ h
  · have h := ol_ifn c6 h
    refine ol_iload_n hX (pc := 9) dX4_board_9 rfl rfl ?_
    refine ol_iconst hX (pc := 10) 0 dX4_board_10 ol_k_iconst_0 ?_
    refine ol_bipush hX (pc := 11) 6 dX4_board_11 ol_k_bipush_6 ?_
    obtain ⟨y3, e4, h⟩ := ol_of_bd h
    refine ol_cSr (As := [.int x2, .int 0, .int 6]) hX (pc := 13) (wX4_in V (ol_WM V a σ) x2 0 6 y3 e4) lkX4_83 dcX4_in ⟨rfl, rfl⟩ ol_rr_X4_board_X4_in (fun _ h => h) ⟨Nat.le_refl _, Nat.le_refl _⟩ (Nat.le_of_ble_eq_true rfl) dX4_board_13 rfl ?_
    refine ol_if_eq hX (pc := 16) 23 dX4_board_16 (by decide) (fun c5 => ?_) (fun c5 => ?_)
    · have h := ol_ifp c5 h
      refine ol_iconst hX (pc := 23) 0 dX4_board_23 ol_k_iconst_0 ?_
      exact wX4_board_L24 hX x1 x2 0 σ h
    · have h := ol_ifn c5 h
      refine ol_iconst hX (pc := 19) 1 dX4_board_19 ol_k_iconst_1 ?_
      refine ol_goto hX (pc := 20) 24 dX4_board_20 (by decide) ?_
      exact wX4_board_L24 hX x1 x2 1 σ h
set_option maxHeartbeats 4000000 in
theorem wX4_named_L18 {X : ol_Cx} {V : ol_Gh} {A : Nat → Prop} {a : Nat → Nat} {z : Int32 × ol_Mm} (hX : ol_CX X V A cX4_named RX4 "named" 3 (some .int)) (x1 : Int32)    : ∀ (n : Nat), ∀ (v2 : Int32) (σ : ol_Mm), oX4_named_L18 x1 n v2 σ = some z → ol_G X V A true (ol_Pw (some (.int z.1)) (ol_WM V a z.2)) ({ frames := 1, cells := 0, slots := 0, locals := 21 } : Room) 3 0 0 (ol_WM V a σ) 18 [some (.ref (a 0)), some (.int x1), some (.int v2)] [] := by
  intro n
  induction n with
  | zero =>
    intro v2 σ h
    exact ol_no h
  | succ n ih =>
    intro v2 σ h
    rw [oX4_named_L18] at h
    refine ol_iload_n hX (pc := 18) dX4_named_18 rfl rfl ?_
    refine ol_aload_n hX (pc := 19) dX4_named_19 rfl rfl ?_
    refine ol_mg6 hX (pc := 20) dX4_named_20 ?_
    refine ol_iconst hX (pc := 23) 3 dX4_named_23 ol_k_iconst_3 ?_
    refine ol_ml2 hX (pc := 24) dX4_named_24 ol_tn_3 (ol_in_vp (by decide)) ?_
    refine ol_icmp_ge hX (pc := 25) 49 dX4_named_25 (by decide) (fun c5 => ?_) (fun c5 => ?_)
    · have h := ol_ifp c5 h
      refine ol_aload_n hX (pc := 49) dX4_named_49 rfl rfl ?_
      refine ol_iconst hX (pc := 50) 1 dX4_named_50 ol_k_iconst_1 ?_
      obtain ⟨y1, e2, h⟩ := ol_of_bd h
      refine ol_cVw (As := [.int 1]) hX (pc := 51) (wX4_no V a σ 1 y1 e2) lkX4_189 dcX4_no ol_rr_X4_named_X4_no 0 rfl rfl ⟨Nat.le_refl _, Nat.le_refl _⟩ (Nat.le_of_ble_eq_true rfl) dX4_named_51 rfl ?_
      have h := ol_of_some h
      subst h
      exact ol_iret hX (pc := 54) dX4_named_54 ⟨rfl, rfl⟩ ⟨Nat.le_refl _, Nat.le_refl _⟩
    · have h := ol_ifn c5 h
      refine ol_aload_n hX (pc := 28) dX4_named_28 rfl rfl ?_
      refine ol_mg6 hX (pc := 29) dX4_named_29 ?_
      refine ol_bipush hX (pc := 32) 11 dX4_named_32 ol_k_bipush_11 ?_
      refine ol_iload_n hX (pc := 34) dX4_named_34 rfl rfl ?_
      refine ol_iadd hX (pc := 35) dX4_named_35 ?_
      obtain ⟨g3, h⟩ := ol_of_og h
      refine ol_ml2 hX (pc := 36) dX4_named_36 rfl (ol_in_vp g3) ?_
      refine ol_iload_n hX (pc := 37) dX4_named_37 rfl rfl ?_
      refine ol_icmp_ne hX (pc := 38) 43 dX4_named_38 (by decide) (fun c4 => ?_) (fun c4 => ?_)
      · have h := ol_ifn c4 h
        refine ol_iinc hX (pc := 43) (v2 + 1) [some (.ref (a 0)), some (.int x1), some (.int (v2 + 1))] dX4_named_43 rfl (ol_k_iinc_1 _) (by decide) rfl rfl ?_
        refine ol_goto hX (pc := 46) 18 dX4_named_46 (by decide) ?_
        exact ih (v2 + 1) σ h
      · have h := ol_ifp c4 h
        refine ol_iload_n hX (pc := 41) dX4_named_41 rfl rfl ?_
        have h := ol_of_some h
        subst h
        exact ol_iret hX (pc := 42) dX4_named_42 ⟨rfl, rfl⟩ ⟨Nat.le_refl _, Nat.le_refl _⟩
set_option maxHeartbeats 4000000 in
theorem wX4_named (V : ol_Gh) (a : Nat → Nat) (σ : ol_Mm) (x1 : Int32)  (z : Int32 × ol_Mm) (h : oX4_named σ x1 = some z) : ol_Mt V yX4_named cX4_named 3 (some .int) ({ frames := 1, cells := 0, slots := 0, locals := 21 } : Room) true [.ref (a 0), .int x1] (ol_WM V a σ) (ol_Pw (some (.int z.1)) (ol_WM V a z.2)) := by
  refine ol_MtOf (L0 := [some (.ref (a 0)), some (.int x1), none]) (by decide) (Nat.le_of_ble_eq_true rfl) rfl (fun X A hX => ?_)
  unfold oX4_named at h
  refine ol_aload_n hX (pc := 0) dX4_named_0 rfl rfl ?_
  refine ol_aload_n hX (pc := 1) dX4_named_1 rfl rfl ?_
  refine ol_mg9 hX (pc := 2) dX4_named_2 ?_
  obtain ⟨y1, e2, h⟩ := ol_of_bd h
  refine ol_cSr (As := [.int (σ.1 0 9)]) hX (pc := 5) (wX4_unless V (ol_WM V a σ) (σ.1 0 9) y1 e2) lkX4_324 dcX4_unless ⟨rfl, rfl⟩ ol_rr_X4_named_X4_unless (fun _ h => h) ⟨Nat.le_refl _, Nat.le_refl _⟩ (Nat.le_of_ble_eq_true rfl) dX4_named_5 rfl ?_
  obtain ⟨y3, e4, h⟩ := ol_of_bd h
  refine ol_cVw (As := [.int y1]) hX (pc := 8) (wX4_isRefused V a σ y1 y3 e4) lkX4_180 dcX4_isRefused ol_rr_X4_named_X4_isRefused 0 rfl rfl ⟨Nat.le_refl _, Nat.le_refl _⟩ (Nat.le_of_ble_eq_true rfl) dX4_named_8 rfl ?_
  refine ol_if_eq hX (pc := 11) 16 dX4_named_11 (by decide) (fun c5 => ?_) (fun c5 => ?_)
  · have h := ol_ifp c5 h
    refine ol_iconst hX (pc := 16) 0 dX4_named_16 ol_k_iconst_0 ?_
    refine ol_istore_n hX (pc := 17) [some (.ref (a 0)), some (.int x1), some (.int 0)] dX4_named_17 rfl (by decide) rfl rfl ?_
    exact wX4_named_L18 hX x1 ol_fuel 0 y3.2 h
  · have h := ol_ifn c5 h
    refine ol_iconst hX (pc := 14) (-1) dX4_named_14 ol_k_iconst_m1 ?_
    have h := ol_of_some h
    subst h
    exact ol_iret hX (pc := 15) dX4_named_15 ⟨rfl, rfl⟩ ⟨Nat.le_refl _, Nat.le_refl _⟩
set_option maxHeartbeats 4000000 in
theorem wX4_word_L27 {X : ol_Cx} {V : ol_Gh} {A : Nat → Prop} {a : Nat → Nat} {z : Int32 × ol_Mm} (hX : ol_CX X V A cX4_word RX4 "word" 3 (some .int)) (x1 : Int32) (x2 : Int32)   (s0 : Int32) (σ : ol_Mm) (h : oX4_word_L27 x1 x2 s0 σ = some z) : ol_G X V A true (ol_Pw (some (.int z.1)) (ol_WM V a z.2)) ({ frames := 4, cells := 0, slots := 0, locals := 89 } : Room) 3 0 0 (ol_WM V a σ) 27 [some (.ref (a 0)), some (.int x1), some (.int x2)] [.int s0, .ref (a 0)] := by
  unfold oX4_word_L27 at h
  obtain ⟨y1, e2, h⟩ := ol_of_bd h
  refine ol_cVw (As := [.int s0]) hX (pc := 27) (wX4_isRefused V a σ s0 y1 e2) lkX4_180 dcX4_isRefused ol_rr_X4_word_X4_isRefused 0 rfl rfl ⟨Nat.le_refl _, Nat.le_refl _⟩ (Nat.le_of_ble_eq_true rfl) dX4_word_27 rfl ?_
  refine ol_if_eq hX (pc := 30) 37 dX4_word_30 (by decide) (fun c5 => ?_) (fun c5 => ?_)
  · have h := ol_ifp c5 h
    refine ol_aload_n hX (pc := 37) dX4_word_37 rfl rfl ?_
    refine ol_iload_n hX (pc := 38) dX4_word_38 rfl rfl ?_
    refine ol_iload_n hX (pc := 39) dX4_word_39 rfl rfl ?_
    obtain ⟨y3, e4, h⟩ := ol_of_bd h
    refine ol_cVr (As := [.int x1, .int x2]) hX (pc := 40) (wX4_wordOf V a y1.2 x1 x2 y3 e4) lkX4_250 dcX4_wordOf ⟨rfl, rfl⟩ ol_rr_X4_word_X4_wordOf 0 rfl rfl (fun _ h => h) ⟨Nat.le_refl _, Nat.le_refl _⟩ (Nat.le_of_ble_eq_true rfl) dX4_word_40 rfl ?_
    have h := ol_of_some h
    subst h
    exact ol_iret hX (pc := 43) dX4_word_43 ⟨rfl, rfl⟩ ⟨Nat.le_refl _, Nat.le_refl _⟩
  · have h := ol_ifn c5 h
    refine ol_iconst hX (pc := 33) (-1) dX4_word_33 ol_k_iconst_m1 ?_
    refine ol_goto hX (pc := 34) 43 dX4_word_34 (by decide) ?_
    have h := ol_of_some h
    subst h
    exact ol_iret hX (pc := 43) dX4_word_43 ⟨rfl, rfl⟩ ⟨Nat.le_refl _, Nat.le_refl _⟩
set_option maxHeartbeats 4000000 in
theorem wX4_word (V : ol_Gh) (a : Nat → Nat) (σ : ol_Mm) (x1 : Int32) (x2 : Int32)  (z : Int32 × ol_Mm) (h : oX4_word σ x1 x2 = some z) : ol_Mt V yX4_word cX4_word 3 (some .int) ({ frames := 4, cells := 0, slots := 0, locals := 89 } : Room) true [.ref (a 0), .int x1, .int x2] (ol_WM V a σ) (ol_Pw (some (.int z.1)) (ol_WM V a z.2)) := by
  refine ol_MtOf (L0 := [some (.ref (a 0)), some (.int x1), some (.int x2)]) (by decide) (Nat.le_of_ble_eq_true rfl) rfl (fun X A hX => ?_)
  unfold oX4_word at h
  refine ol_aload_n hX (pc := 0) dX4_word_0 rfl rfl ?_
  refine ol_aload_n hX (pc := 1) dX4_word_1 rfl rfl ?_
  refine ol_iload_n hX (pc := 2) dX4_word_2 rfl rfl ?_
  obtain ⟨y1, e2, h⟩ := ol_of_bd h
  refine ol_cVr (As := [.int x1]) hX (pc := 3) (wX4_isBoard V a σ x1 y1 e2) lkX4_268 dcX4_isBoard ⟨rfl, rfl⟩ ol_rr_X4_word_X4_isBoard 0 rfl rfl (fun _ h => h) ⟨Nat.le_refl _, Nat.le_refl _⟩ (Nat.le_of_ble_eq_true rfl) dX4_word_3 rfl ?_
  refine ol_if_ne hX (pc := 6) 13 dX4_word_6 (by decide) (fun c6 => ?_) (fun c6 => ?_)
  · have h := ol_ifn c6 h
    refine ol_iload_n hX (pc := 13) dX4_word_13 rfl rfl ?_
    refine ol_iconst hX (pc := 14) 1 dX4_word_14 ol_k_iconst_1 ?_
    refine ol_iconst hX (pc := 15) 2 dX4_word_15 ol_k_iconst_2 ?_
    obtain ⟨y3, e4, h⟩ := ol_of_bd h
    refine ol_cSr (As := [.int x2, .int 1, .int 2]) hX (pc := 16) (wX4_in V (ol_WM V a σ) x2 1 2 y3 e4) lkX4_83 dcX4_in ⟨rfl, rfl⟩ ol_rr_X4_word_X4_in (fun _ h => h) ⟨Nat.le_refl _, Nat.le_refl _⟩ (Nat.le_of_ble_eq_true rfl) dX4_word_16 rfl ?_
    refine ol_if_eq hX (pc := 19) 26 dX4_word_19 (by decide) (fun c5 => ?_) (fun c5 => ?_)
    · have h := ol_ifp c5 h
      refine ol_iconst hX (pc := 26) 2 dX4_word_26 ol_k_iconst_2 ?_
      exact wX4_word_L27 hX x1 x2 2 σ h
    · have h := ol_ifn c5 h
      refine ol_iconst hX (pc := 22) 0 dX4_word_22 ol_k_iconst_0 ?_
      refine ol_goto hX (pc := 23) 27 dX4_word_23 (by decide) ?_
      exact wX4_word_L27 hX x1 x2 0 σ h
  · have h := ol_ifp c6 h
    refine ol_iconst hX (pc := 9) 1 dX4_word_9 ol_k_iconst_1 ?_
    refine ol_goto hX (pc := 10) 27 dX4_word_10 (by decide) ?_
    exact wX4_word_L27 hX x1 x2 1 σ h
set_option maxHeartbeats 4000000 in
theorem wX4_ask_L28 {X : ol_Cx} {V : ol_Gh} {A : Nat → Prop} {a : Nat → Nat} {z : Int32 × ol_Mm} (hX : ol_CX X V A cX4_ask RX4 "ask" 3 (some .int)) (x1 : Int32) (x2 : Int32)   (s0 : Int32) (σ : ol_Mm) (h : oX4_ask_L28 x1 x2 s0 σ = some z) : ol_G X V A true (ol_Pw (some (.int z.1)) (ol_WM V a z.2)) ({ frames := 2, cells := 0, slots := 0, locals := 43 } : Room) 3 0 0 (ol_WM V a σ) 28 [some (.ref (a 0)), some (.int x1), some (.int x2)] [.int s0, .ref (a 0)] := by
  unfold oX4_ask_L28 at h
  obtain ⟨y1, e2, h⟩ := ol_of_bd h
  refine ol_cVw (As := [.int s0]) hX (pc := 28) (wX4_isRefused V a σ s0 y1 e2) lkX4_180 dcX4_isRefused ol_rr_X4_ask_X4_isRefused 0 rfl rfl ⟨Nat.le_refl _, Nat.le_refl _⟩ (Nat.le_of_ble_eq_true rfl) dX4_ask_28 rfl ?_
  refine ol_if_eq hX (pc := 31) 36 dX4_ask_31 (by decide) (fun c12 => ?_) (fun c12 => ?_)
  · have h := ol_ifp c12 h
    refine ol_aload_n hX (pc := 36) dX4_ask_36 rfl rfl ?_
    refine ol_iload_n hX (pc := 37) dX4_ask_37 rfl rfl ?_
    refine ol_iload_n hX (pc := 38) dX4_ask_38 rfl rfl ?_
    obtain ⟨y3, e4, h⟩ := ol_of_bd h
    refine ol_cVw (As := [.int x1, .int x2]) hX (pc := 39) (wX4_asks V a y1.2 x1 x2 y3 e4) lkX4_309 dcX4_asks ol_rr_X4_ask_X4_asks 0 rfl rfl ⟨Nat.le_refl _, Nat.le_refl _⟩ (Nat.le_of_ble_eq_true rfl) dX4_ask_39 rfl ?_
    refine ol_if_eq hX (pc := 42) 55 dX4_ask_42 (by decide) (fun c11 => ?_) (fun c11 => ?_)
    · have h := ol_ifp c11 h
      refine ol_aload_n hX (pc := 55) dX4_ask_55 rfl rfl ?_
      refine ol_iconst hX (pc := 56) 5 dX4_ask_56 ol_k_iconst_5 ?_
      obtain ⟨y5, e6, h⟩ := ol_of_bd h
      refine ol_cVw (As := [.int 5]) hX (pc := 57) (wX4_no V a y3.2 5 y5 e6) lkX4_189 dcX4_no ol_rr_X4_ask_X4_no 0 rfl rfl ⟨Nat.le_refl _, Nat.le_refl _⟩ (Nat.le_of_ble_eq_true rfl) dX4_ask_57 rfl ?_
      have h := ol_of_some h
      subst h
      exact ol_iret hX (pc := 60) dX4_ask_60 ⟨rfl, rfl⟩ ⟨Nat.le_refl _, Nat.le_refl _⟩
    · have h := ol_ifn c11 h
      refine ol_aload_n hX (pc := 45) dX4_ask_45 rfl rfl ?_
      obtain ⟨y7, e8, h⟩ := ol_of_bd h
      refine ol_cVr (As := []) hX (pc := 46) (wX4_askingOnes V a y3.2 y7 e8) lkX4_300 dcX4_askingOnes ⟨rfl, rfl⟩ ol_rr_X4_ask_X4_askingOnes 0 rfl rfl (fun _ h => h) ⟨Nat.le_refl _, Nat.le_refl _⟩ (Nat.le_of_ble_eq_true rfl) dX4_ask_46 rfl ?_
      obtain ⟨y9, e10, h⟩ := ol_of_bd h
      refine ol_cSr (As := [.int y7]) hX (pc := 49) (wX4_bitsOf V (ol_WM V a y3.2) y7 y9 e10) lkX4_209 dcX4_bitsOf ⟨rfl, rfl⟩ ol_rr_X4_ask_X4_bitsOf (fun _ h => h) ⟨Nat.le_refl _, Nat.le_refl _⟩ (Nat.le_of_ble_eq_true rfl) dX4_ask_49 rfl ?_
      refine ol_goto hX (pc := 52) 60 dX4_ask_52 (by decide) ?_
      have h := ol_of_some h
      subst h
      exact ol_iret hX (pc := 60) dX4_ask_60 ⟨rfl, rfl⟩ ⟨Nat.le_refl _, Nat.le_refl _⟩
  · have h := ol_ifn c12 h
    refine ol_iconst hX (pc := 34) (-1) dX4_ask_34 ol_k_iconst_m1 ?_
    have h := ol_of_some h
    subst h
    exact ol_iret hX (pc := 35) dX4_ask_35 ⟨rfl, rfl⟩ ⟨Nat.le_refl _, Nat.le_refl _⟩
set_option maxHeartbeats 4000000 in
theorem wX4_ask (V : ol_Gh) (a : Nat → Nat) (σ : ol_Mm) (x1 : Int32) (x2 : Int32)  (z : Int32 × ol_Mm) (h : oX4_ask σ x1 x2 = some z) : ol_Mt V yX4_ask cX4_ask 3 (some .int) ({ frames := 2, cells := 0, slots := 0, locals := 43 } : Room) true [.ref (a 0), .int x1, .int x2] (ol_WM V a σ) (ol_Pw (some (.int z.1)) (ol_WM V a z.2)) := by
  refine ol_MtOf (L0 := [some (.ref (a 0)), some (.int x1), some (.int x2)]) (by decide) (Nat.le_of_ble_eq_true rfl) rfl (fun X A hX => ?_)
  unfold oX4_ask at h
  refine ol_aload_n hX (pc := 0) dX4_ask_0 rfl rfl ?_
  refine ol_aload_n hX (pc := 1) dX4_ask_1 rfl rfl ?_
  refine ol_iload_n hX (pc := 2) dX4_ask_2 rfl rfl ?_
  obtain ⟨y1, e2, h⟩ := ol_of_bd h
  refine ol_cVr (As := [.int x1]) hX (pc := 3) (wX4_isBoard V a σ x1 y1 e2) lkX4_268 dcX4_isBoard ⟨rfl, rfl⟩ ol_rr_X4_ask_X4_isBoard 0 rfl rfl (fun _ h => h) ⟨Nat.le_refl _, Nat.le_refl _⟩ (Nat.le_of_ble_eq_true rfl) dX4_ask_3 rfl ?_
  refine ol_if_ne hX (pc := 6) 13 dX4_ask_6 (by decide) (fun c6 => ?_) (fun c6 => ?_)
  · have h := ol_ifn c6 h
    refine ol_iload_n hX (pc := 13) dX4_ask_13 rfl rfl ?_
    refine ol_iconst hX (pc := 14) 1 dX4_ask_14 ol_k_iconst_1 ?_
    refine ol_bipush hX (pc := 15) 99 dX4_ask_15 ol_k_bipush_99 ?_
    obtain ⟨y3, e4, h⟩ := ol_of_bd h
    refine ol_cSr (As := [.int x2, .int 1, .int 99]) hX (pc := 17) (wX4_in V (ol_WM V a σ) x2 1 99 y3 e4) lkX4_83 dcX4_in ⟨rfl, rfl⟩ ol_rr_X4_ask_X4_in (fun _ h => h) ⟨Nat.le_refl _, Nat.le_refl _⟩ (Nat.le_of_ble_eq_true rfl) dX4_ask_17 rfl ?_
    refine ol_if_eq hX (pc := 20) 27 dX4_ask_20 (by decide) (fun c5 => ?_) (fun c5 => ?_)
    · have h := ol_ifp c5 h
      refine ol_iconst hX (pc := 27) 2 dX4_ask_27 ol_k_iconst_2 ?_
      exact wX4_ask_L28 hX x1 x2 2 σ h
    · have h := ol_ifn c5 h
      refine ol_iconst hX (pc := 23) 0 dX4_ask_23 ol_k_iconst_0 ?_
      refine ol_goto hX (pc := 24) 28 dX4_ask_24 (by decide) ?_
      exact wX4_ask_L28 hX x1 x2 0 σ h
  · have h := ol_ifp c6 h
    refine ol_iconst hX (pc := 9) 1 dX4_ask_9 ol_k_iconst_1 ?_
    refine ol_goto hX (pc := 10) 28 dX4_ask_10 (by decide) ?_
    exact wX4_ask_L28 hX x1 x2 1 σ h
set_option maxHeartbeats 4000000 in
theorem wX4_waits_L54 {X : ol_Cx} {V : ol_Gh} {A : Nat → Prop} {a : Nat → Nat} {z : Int32 × ol_Mm} (hX : ol_CX X V A cX4_waits RX4 "waits" 4 (some .int)) (x1 : Int32) (x2 : Int32)   (s0 : Int32) (σ : ol_Mm) (h : oX4_waits_L54 x1 x2 s0 σ = some z) : ol_G X V A true (ol_Pw (some (.int z.1)) (ol_WM V a z.2)) ({ frames := 2, cells := 0, slots := 0, locals := 44 } : Room) 4 0 0 (ol_WM V a σ) 54 [some (.ref (a 0)), some (.int x1), some (.int x2), none] [.int s0, .ref (a 0)] := by
  unfold oX4_waits_L54 at h
  obtain ⟨y1, e2, h⟩ := ol_of_bd h
  refine ol_cVw (As := [.int s0]) hX (pc := 54) (wX4_isRefused V a σ s0 y1 e2) lkX4_180 dcX4_isRefused ol_rr_X4_waits_X4_isRefused 0 rfl rfl ⟨Nat.le_refl _, Nat.le_refl _⟩ (Nat.le_of_ble_eq_true rfl) dX4_waits_54 rfl ?_
  refine ol_if_eq hX (pc := 57) 62 dX4_waits_57 (by decide) (fun c11 => ?_) (fun c11 => ?_)
  · have h := ol_ifp c11 h
    refine ol_aload_n hX (pc := 62) dX4_waits_62 rfl rfl ?_
    refine ol_mg18 hX (pc := 63) dX4_waits_63 ?_
    refine ol_iload_n hX (pc := 66) dX4_waits_66 rfl rfl ?_
    refine ol_iconst hX (pc := 67) 3 dX4_waits_67 ol_k_iconst_3 ?_
    obtain ⟨y3, e4, h⟩ := ol_of_bd h
    refine ol_cSr (As := [.int x1, .int 3]) hX (pc := 68) (wX4_at V (ol_WM V a y1.2) x1 3 y3 e4) lkX4_201 dcX4_at ⟨rfl, rfl⟩ ol_rr_X4_waits_X4_at (fun _ h => h) ⟨Nat.le_refl _, Nat.le_refl _⟩ (Nat.le_of_ble_eq_true rfl) dX4_waits_68 rfl ?_
    obtain ⟨g5, h⟩ := ol_of_og h
    refine ol_ml5 hX (pc := 71) dX4_waits_71 rfl (ol_in_vp g5) ?_
    refine ol_istore_n hX (pc := 72) [some (.ref (a 0)), some (.int x1), some (.int x2), some (.int (y1.2.1 5 y3.toNatClampNeg))] dX4_waits_72 rfl (by decide) rfl rfl ?_
    refine ol_aload_n hX (pc := 73) dX4_waits_73 rfl rfl ?_
    refine ol_mg18 hX (pc := 74) dX4_waits_74 ?_
    refine ol_iload_n hX (pc := 77) dX4_waits_77 rfl rfl ?_
    refine ol_iconst hX (pc := 78) 3 dX4_waits_78 ol_k_iconst_3 ?_
    obtain ⟨y6, e7, h⟩ := ol_of_bd h
    refine ol_cSr (As := [.int x1, .int 3]) hX (pc := 79) (wX4_at V (ol_WM V a y1.2) x1 3 y6 e7) lkX4_201 dcX4_at ⟨rfl, rfl⟩ ol_rr_X4_waits_X4_at (fun _ h => h) ⟨Nat.le_refl _, Nat.le_refl _⟩ (Nat.le_of_ble_eq_true rfl) dX4_waits_79 rfl ?_
    refine ol_iload_n hX (pc := 82) dX4_waits_82 rfl rfl ?_
    refine ol_iconst hX (pc := 83) (-1) dX4_waits_83 ol_k_iconst_m1 ?_
    refine ol_icmp_ne hX (pc := 84) 92 dX4_waits_84 (by decide) (fun c10 => ?_) (fun c10 => ?_)
    · have h := ol_ifn c10 h
      refine ol_iload_n hX (pc := 92) dX4_waits_92 rfl rfl ?_
      obtain ⟨g8, h⟩ := ol_of_og h
      refine ol_ms5 hX (pc := 93) dX4_waits_93 rfl (ol_in_vp g8) ?_
      refine ol_iload_n hX (pc := 94) dX4_waits_94 rfl rfl ?_
      have h := ol_of_some h
      subst h
      exact ol_iret hX (pc := 95) dX4_waits_95 ⟨rfl, rfl⟩ ⟨Nat.le_refl _, Nat.le_refl _⟩
    · have h := ol_ifp c10 h
      refine ol_bipush hX (pc := 87) (-2) dX4_waits_87 ol_k_bipush_m2 ?_
      refine ol_goto hX (pc := 89) 93 dX4_waits_89 (by decide) ?_
      obtain ⟨g9, h⟩ := ol_of_og h
      refine ol_ms5 hX (pc := 93) dX4_waits_93 rfl (ol_in_vp g9) ?_
      refine ol_iload_n hX (pc := 94) dX4_waits_94 rfl rfl ?_
      have h := ol_of_some h
      subst h
      exact ol_iret hX (pc := 95) dX4_waits_95 ⟨rfl, rfl⟩ ⟨Nat.le_refl _, Nat.le_refl _⟩
  · have h := ol_ifn c11 h
    refine ol_iconst hX (pc := 60) (-1) dX4_waits_60 ol_k_iconst_m1 ?_
    have h := ol_of_some h
    subst h
    exact ol_iret hX (pc := 61) dX4_waits_61 ⟨rfl, rfl⟩ ⟨Nat.le_refl _, Nat.le_refl _⟩
set_option maxHeartbeats 4000000 in
theorem wX4_waits_L35 {X : ol_Cx} {V : ol_Gh} {A : Nat → Prop} {a : Nat → Nat} {z : Int32 × ol_Mm} (hX : ol_CX X V A cX4_waits RX4 "waits" 4 (some .int)) (x1 : Int32) (x2 : Int32)   (σ : ol_Mm) (h : oX4_waits_L35 x1 x2 σ = some z) : ol_G X V A true (ol_Pw (some (.int z.1)) (ol_WM V a z.2)) ({ frames := 2, cells := 0, slots := 0, locals := 44 } : Room) 4 0 0 (ol_WM V a σ) 35 [some (.ref (a 0)), some (.int x1), some (.int x2), none] [.ref (a 0)] := by
  unfold oX4_waits_L35 at h
  refine ol_iload_n hX (pc := 35) dX4_waits_35 rfl rfl ?_
  refine ol_iconst hX (pc := 36) (-1) dX4_waits_36 ol_k_iconst_m1 ?_
  refine ol_icmp_eq hX (pc := 37) 53 dX4_waits_37 (by decide) (fun c4 => ?_) (fun c4 => ?_)
  · have h := ol_ifp c4 h
    refine ol_iconst hX (pc := 53) 0 dX4_waits_53 ol_k_iconst_0 ?_
    exact wX4_waits_L54 hX x1 x2 0 σ h
  · have h := ol_ifn c4 h
    refine ol_aload_n hX (pc := 40) dX4_waits_40 rfl rfl ?_
    refine ol_iload_n hX (pc := 41) dX4_waits_41 rfl rfl ?_
    refine ol_iload_n hX (pc := 42) dX4_waits_42 rfl rfl ?_
    obtain ⟨y1, e2, h⟩ := ol_of_bd h
    refine ol_cVr (As := [.int x2, .int x1]) hX (pc := 43) (wX4_doesWait V a σ x2 x1 y1 e2) lkX4_205 dcX4_doesWait ⟨rfl, rfl⟩ ol_rr_X4_waits_X4_doesWait 0 rfl rfl (fun _ h => h) ⟨Nat.le_refl _, Nat.le_refl _⟩ (Nat.le_of_ble_eq_true rfl) dX4_waits_43 rfl ?_
    refine ol_if_eq hX (pc := 46) 53 dX4_waits_46 (by decide) (fun c3 => ?_) (fun c3 => ?_)
    · have h := ol_ifp c3 h
      refine ol_iconst hX (pc := 53) 0 dX4_waits_53 ol_k_iconst_0 ?_
      exact wX4_waits_L54 hX x1 x2 0 σ h
    · have h := ol_ifn c3 h
      refine ol_iconst hX (pc := 49) 5 dX4_waits_49 ol_k_iconst_5 ?_
      refine ol_goto hX (pc := 50) 54 dX4_waits_50 (by decide) ?_
      exact wX4_waits_L54 hX x1 x2 5 σ h
set_option maxHeartbeats 4000000 in
theorem wX4_waits (V : ol_Gh) (a : Nat → Nat) (σ : ol_Mm) (x1 : Int32) (x2 : Int32)  (z : Int32 × ol_Mm) (h : oX4_waits σ x1 x2 = some z) : ol_Mt V yX4_waits cX4_waits 4 (some .int) ({ frames := 2, cells := 0, slots := 0, locals := 44 } : Room) true [.ref (a 0), .int x1, .int x2] (ol_WM V a σ) (ol_Pw (some (.int z.1)) (ol_WM V a z.2)) := by
  refine ol_MtOf (L0 := [some (.ref (a 0)), some (.int x1), some (.int x2), none]) (by decide) (Nat.le_of_ble_eq_true rfl) rfl (fun X A hX => ?_)
  unfold oX4_waits at h
  refine ol_aload_n hX (pc := 0) dX4_waits_0 rfl rfl ?_
  refine ol_aload_n hX (pc := 1) dX4_waits_1 rfl rfl ?_
  refine ol_iload_n hX (pc := 2) dX4_waits_2 rfl rfl ?_
  obtain ⟨y1, e2, h⟩ := ol_of_bd h
  refine ol_cVr (As := [.int x1]) hX (pc := 3) (wX4_isBoard V a σ x1 y1 e2) lkX4_268 dcX4_isBoard ⟨rfl, rfl⟩ ol_rr_X4_waits_X4_isBoard 0 rfl rfl (fun _ h => h) ⟨Nat.le_refl _, Nat.le_refl _⟩ (Nat.le_of_ble_eq_true rfl) dX4_waits_3 rfl ?_
  refine ol_if_ne hX (pc := 6) 13 dX4_waits_6 (by decide) (fun c8 => ?_) (fun c8 => ?_)
  · have h := ol_ifn c8 h
    refine ol_iload_n hX (pc := 13) dX4_waits_13 rfl rfl ?_
    refine ol_iconst hX (pc := 14) (-1) dX4_waits_14 ol_k_iconst_m1 ?_
    refine ol_icmp_eq hX (pc := 15) 35 dX4_waits_15 (by decide) (fun c7 => ?_) (fun c7 => ?_)
    · have h := ol_ifp c7 h
      exact wX4_waits_L35 hX x1 x2 σ h
    · have h := ol_ifn c7 h
      refine ol_aload_n hX (pc := 18) dX4_waits_18 rfl rfl ?_
      refine ol_iload_n hX (pc := 19) dX4_waits_19 rfl rfl ?_
      obtain ⟨y3, e4, h⟩ := ol_of_bd h
      refine ol_cVr (As := [.int x2]) hX (pc := 20) (wX4_isBoard V a σ x2 y3 e4) lkX4_268 dcX4_isBoard ⟨rfl, rfl⟩ ol_rr_X4_waits_X4_isBoard 0 rfl rfl (fun _ h => h) ⟨Nat.le_refl _, Nat.le_refl _⟩ (Nat.le_of_ble_eq_true rfl) dX4_waits_20 rfl ?_
      refine ol_if_eq hX (pc := 23) 31 dX4_waits_23 (by decide) (fun c6 => ?_) (fun c6 => ?_)
      · have h := ol_ifp c6 h
        refine ol_iconst hX (pc := 31) 2 dX4_waits_31 ol_k_iconst_2 ?_
        refine ol_goto hX (pc := 32) 54 dX4_waits_32 (by decide) ?_
        exact wX4_waits_L54 hX x1 x2 2 σ h
      · have h := ol_ifn c6 h
        refine ol_iload_n hX (pc := 26) dX4_waits_26 rfl rfl ?_
        refine ol_iload_n hX (pc := 27) dX4_waits_27 rfl rfl ?_
        refine ol_icmp_ne hX (pc := 28) 35 dX4_waits_28 (by decide) (fun c5 => ?_) (fun c5 => ?_)
        · have h := ol_ifn c5 h
          exact wX4_waits_L35 hX x1 x2 σ h
        · have h := ol_ifp c5 h
          refine ol_iconst hX (pc := 31) 2 dX4_waits_31 ol_k_iconst_2 ?_
          refine ol_goto hX (pc := 32) 54 dX4_waits_32 (by decide) ?_
          exact wX4_waits_L54 hX x1 x2 2 σ h
  · have h := ol_ifp c8 h
    refine ol_iconst hX (pc := 9) 1 dX4_waits_9 ol_k_iconst_1 ?_
    refine ol_goto hX (pc := 10) 54 dX4_waits_10 (by decide) ?_
    exact wX4_waits_L54 hX x1 x2 1 σ h
set_option maxHeartbeats 4000000 in
theorem wX4_stick_L35 {X : ol_Cx} {V : ol_Gh} {A : Nat → Prop} {a : Nat → Nat} {z : Int32 × ol_Mm} (hX : ol_CX X V A cX4_stick RX4 "stick" 4 (some .int)) (x1 : Int32) (x2 : Int32)   (s0 : Int32) (σ : ol_Mm) (h : oX4_stick_L35 x1 x2 s0 σ = some z) : ol_G X V A true (ol_Pw (some (.int z.1)) (ol_WM V a z.2)) ({ frames := 1, cells := 0, slots := 0, locals := 22 } : Room) 4 0 0 (ol_WM V a σ) 35 [some (.ref (a 0)), some (.int x1), some (.int x2), none] [.int s0, .ref (a 0)] := by
  unfold oX4_stick_L35 at h
  obtain ⟨y1, e2, h⟩ := ol_of_bd h
  refine ol_cVw (As := [.int s0]) hX (pc := 35) (wX4_isRefused V a σ s0 y1 e2) lkX4_180 dcX4_isRefused ol_rr_X4_stick_X4_isRefused 0 rfl rfl ⟨Nat.le_refl _, Nat.le_refl _⟩ (Nat.le_of_ble_eq_true rfl) dX4_stick_35 rfl ?_
  refine ol_if_eq hX (pc := 38) 43 dX4_stick_38 (by decide) (fun c5 => ?_) (fun c5 => ?_)
  · have h := ol_ifp c5 h
    refine ol_aload_n hX (pc := 43) dX4_stick_43 rfl rfl ?_
    refine ol_mg18 hX (pc := 44) dX4_stick_44 ?_
    refine ol_bipush hX (pc := 47) 12 dX4_stick_47 ol_k_bipush_12 ?_
    refine ol_iload_n hX (pc := 49) dX4_stick_49 rfl rfl ?_
    refine ol_iadd hX (pc := 50) dX4_stick_50 ?_
    obtain ⟨g3, h⟩ := ol_of_og h
    refine ol_ml5 hX (pc := 51) dX4_stick_51 rfl (ol_in_vp g3) ?_
    refine ol_istore_n hX (pc := 52) [some (.ref (a 0)), some (.int x1), some (.int x2), some (.int (y1.2.1 5 ((12 + x1).toNatClampNeg)))] dX4_stick_52 rfl (by decide) rfl rfl ?_
    refine ol_aload_n hX (pc := 53) dX4_stick_53 rfl rfl ?_
    refine ol_mg18 hX (pc := 54) dX4_stick_54 ?_
    refine ol_bipush hX (pc := 57) 12 dX4_stick_57 ol_k_bipush_12 ?_
    refine ol_iload_n hX (pc := 59) dX4_stick_59 rfl rfl ?_
    refine ol_iadd hX (pc := 60) dX4_stick_60 ?_
    refine ol_iload_n hX (pc := 61) dX4_stick_61 rfl rfl ?_
    obtain ⟨g4, h⟩ := ol_of_og h
    refine ol_ms5 hX (pc := 62) dX4_stick_62 rfl (ol_in_vp g4) ?_
    refine ol_iload_n hX (pc := 63) dX4_stick_63 rfl rfl ?_
    have h := ol_of_some h
    subst h
    exact ol_iret hX (pc := 64) dX4_stick_64 ⟨rfl, rfl⟩ ⟨Nat.le_refl _, Nat.le_refl _⟩
  · have h := ol_ifn c5 h
    refine ol_iconst hX (pc := 41) (-1) dX4_stick_41 ol_k_iconst_m1 ?_
    have h := ol_of_some h
    subst h
    exact ol_iret hX (pc := 42) dX4_stick_42 ⟨rfl, rfl⟩ ⟨Nat.le_refl _, Nat.le_refl _⟩
set_option maxHeartbeats 4000000 in
theorem wX4_stick (V : ol_Gh) (a : Nat → Nat) (σ : ol_Mm) (x1 : Int32) (x2 : Int32)  (z : Int32 × ol_Mm) (h : oX4_stick σ x1 x2 = some z) : ol_Mt V yX4_stick cX4_stick 4 (some .int) ({ frames := 1, cells := 0, slots := 0, locals := 22 } : Room) true [.ref (a 0), .int x1, .int x2] (ol_WM V a σ) (ol_Pw (some (.int z.1)) (ol_WM V a z.2)) := by
  refine ol_MtOf (L0 := [some (.ref (a 0)), some (.int x1), some (.int x2), none]) (by decide) (Nat.le_of_ble_eq_true rfl) rfl (fun X A hX => ?_)
  unfold oX4_stick at h
  refine ol_aload_n hX (pc := 0) dX4_stick_0 rfl rfl ?_
  refine ol_aload_n hX (pc := 1) dX4_stick_1 rfl rfl ?_
  refine ol_mg9 hX (pc := 2) dX4_stick_2 ?_
  refine ol_if_eq hX (pc := 5) 17 dX4_stick_5 (by decide) (fun c7 => ?_) (fun c7 => ?_)
  · have h := ol_ifp c7 h
    refine ol_iconst hX (pc := 17) 1 dX4_stick_17 ol_k_iconst_1 ?_
    refine ol_goto hX (pc := 18) 35 dX4_stick_18 (by decide) ?_
    exact wX4_stick_L35 hX x1 x2 1 σ h
  · have h := ol_ifn c7 h
    refine ol_iload_n hX (pc := 8) dX4_stick_8 rfl rfl ?_
    refine ol_iconst hX (pc := 9) 0 dX4_stick_9 ol_k_iconst_0 ?_
    refine ol_iconst hX (pc := 10) 5 dX4_stick_10 ol_k_iconst_5 ?_
    obtain ⟨y1, e2, h⟩ := ol_of_bd h
    refine ol_cSr (As := [.int x1, .int 0, .int 5]) hX (pc := 11) (wX4_in V (ol_WM V a σ) x1 0 5 y1 e2) lkX4_83 dcX4_in ⟨rfl, rfl⟩ ol_rr_X4_stick_X4_in (fun _ h => h) ⟨Nat.le_refl _, Nat.le_refl _⟩ (Nat.le_of_ble_eq_true rfl) dX4_stick_11 rfl ?_
    refine ol_if_ne hX (pc := 14) 21 dX4_stick_14 (by decide) (fun c6 => ?_) (fun c6 => ?_)
    · have h := ol_ifn c6 h
      refine ol_iload_n hX (pc := 21) dX4_stick_21 rfl rfl ?_
      refine ol_iconst hX (pc := 22) 0 dX4_stick_22 ol_k_iconst_0 ?_
      refine ol_iconst hX (pc := 23) 2 dX4_stick_23 ol_k_iconst_2 ?_
      obtain ⟨y3, e4, h⟩ := ol_of_bd h
      refine ol_cSr (As := [.int x2, .int 0, .int 2]) hX (pc := 24) (wX4_in V (ol_WM V a σ) x2 0 2 y3 e4) lkX4_83 dcX4_in ⟨rfl, rfl⟩ ol_rr_X4_stick_X4_in (fun _ h => h) ⟨Nat.le_refl _, Nat.le_refl _⟩ (Nat.le_of_ble_eq_true rfl) dX4_stick_24 rfl ?_
      refine ol_if_eq hX (pc := 27) 34 dX4_stick_27 (by decide) (fun c5 => ?_) (fun c5 => ?_)
      · have h := ol_ifp c5 h
        refine ol_iconst hX (pc := 34) 2 dX4_stick_34 ol_k_iconst_2 ?_
        exact wX4_stick_L35 hX x1 x2 2 σ h
      · have h := ol_ifn c5 h
        refine ol_iconst hX (pc := 30) 0 dX4_stick_30 ol_k_iconst_0 ?_
        refine ol_goto hX (pc := 31) 35 dX4_stick_31 (by decide) ?_
        exact wX4_stick_L35 hX x1 x2 0 σ h
    · have h := ol_ifp c6 h
      refine ol_iconst hX (pc := 17) 1 dX4_stick_17 ol_k_iconst_1 ?_
      refine ol_goto hX (pc := 18) 35 dX4_stick_18 (by decide) ?_
      exact wX4_stick_L35 hX x1 x2 1 σ h
set_option maxHeartbeats 4000000 in
theorem wX4_ticks_L38 {X : ol_Cx} {V : ol_Gh} {A : Nat → Prop} {a : Nat → Nat} {z : Int32 × ol_Mm} (hX : ol_CX X V A cX4_ticks RX4 "ticks" 3 (some .int)) (x1 : Int32)    : ∀ (n : Nat), ∀ (v2 : Int32) (σ : ol_Mm), oX4_ticks_L38 x1 n v2 σ = some z → ol_G X V A true (ol_Pw (some (.int z.1)) (ol_WM V a z.2)) ({ frames := 7, cells := 0, slots := 0, locals := 169 } : Room) 3 0 0 (ol_WM V a σ) 38 [some (.ref (a 0)), some (.int x1), some (.int v2)] [] := by
  intro n
  induction n with
  | zero =>
    intro v2 σ h
    exact ol_no h
  | succ n ih =>
    intro v2 σ h
    rw [oX4_ticks_L38] at h
    refine ol_iload_n hX (pc := 38) dX4_ticks_38 rfl rfl ?_
    refine ol_iload_n hX (pc := 39) dX4_ticks_39 rfl rfl ?_
    refine ol_icmp_ge hX (pc := 40) 53 dX4_ticks_40 (by decide) (fun c3 => ?_) (fun c3 => ?_)
    · have h := ol_ifp c3 h
      refine ol_aload_n hX (pc := 53) dX4_ticks_53 rfl rfl ?_
      refine ol_mg18 hX (pc := 54) dX4_ticks_54 ?_
      refine ol_iconst hX (pc := 57) 1 dX4_ticks_57 ol_k_iconst_1 ?_
      refine ol_ml5 hX (pc := 58) dX4_ticks_58 ol_tn_1 (ol_in_vp (by decide)) ?_
      have h := ol_of_some h
      subst h
      exact ol_iret hX (pc := 59) dX4_ticks_59 ⟨rfl, rfl⟩ ⟨Nat.le_refl _, Nat.le_refl _⟩
    · have h := ol_ifn c3 h
      refine ol_aload_n hX (pc := 43) dX4_ticks_43 rfl rfl ?_
      obtain ⟨y1, e2, h⟩ := ol_of_bd h
      refine ol_cVw (As := []) hX (pc := 44) (wX4_tick V a σ y1 e2) lkX4_334 dcX4_tick ol_rr_X4_ticks_X4_tick 0 rfl rfl ⟨Nat.le_refl _, Nat.le_refl _⟩ (Nat.le_of_ble_eq_true rfl) dX4_ticks_44 rfl ?_
      refine ol_iinc hX (pc := 47) (v2 + 1) [some (.ref (a 0)), some (.int x1), some (.int (v2 + 1))] dX4_ticks_47 rfl (ol_k_iinc_1 _) (by decide) rfl rfl ?_
      refine ol_goto hX (pc := 50) 38 dX4_ticks_50 (by decide) ?_
      exact ih (v2 + 1) y1 h
set_option maxHeartbeats 4000000 in
theorem wX4_ticks (V : ol_Gh) (a : Nat → Nat) (σ : ol_Mm) (x1 : Int32)  (z : Int32 × ol_Mm) (h : oX4_ticks σ x1 = some z) : ol_Mt V yX4_ticks cX4_ticks 3 (some .int) ({ frames := 7, cells := 0, slots := 0, locals := 169 } : Room) true [.ref (a 0), .int x1] (ol_WM V a σ) (ol_Pw (some (.int z.1)) (ol_WM V a z.2)) := by
  refine ol_MtOf (L0 := [some (.ref (a 0)), some (.int x1), none]) (by decide) (Nat.le_of_ble_eq_true rfl) rfl (fun X A hX => ?_)
  unfold oX4_ticks at h
  refine ol_aload_n hX (pc := 0) dX4_ticks_0 rfl rfl ?_
  refine ol_aload_n hX (pc := 1) dX4_ticks_1 rfl rfl ?_
  refine ol_mg9 hX (pc := 2) dX4_ticks_2 ?_
  refine ol_if_ne hX (pc := 5) 12 dX4_ticks_5 (by decide) (fun c13 => ?_) (fun c13 => ?_)
  · have h := ol_ifn c13 h
    refine ol_iload_n hX (pc := 12) dX4_ticks_12 rfl rfl ?_
    refine ol_iconst hX (pc := 13) 1 dX4_ticks_13 ol_k_iconst_1 ?_
    refine ol_sipush hX (pc := 14) 999 dX4_ticks_14 ol_k_sipush_999 ?_
    obtain ⟨y1, e2, h⟩ := ol_of_bd h
    refine ol_cSr (As := [.int x1, .int 1, .int 999]) hX (pc := 17) (wX4_in V (ol_WM V a σ) x1 1 999 y1 e2) lkX4_83 dcX4_in ⟨rfl, rfl⟩ ol_rr_X4_ticks_X4_in (fun _ h => h) ⟨Nat.le_refl _, Nat.le_refl _⟩ (Nat.le_of_ble_eq_true rfl) dX4_ticks_17 rfl ?_
    refine ol_if_eq hX (pc := 20) 27 dX4_ticks_20 (by decide) (fun c9 => ?_) (fun c9 => ?_)
    · have h := ol_ifp c9 h
      refine ol_iconst hX (pc := 27) 2 dX4_ticks_27 ol_k_iconst_2 ?_
      obtain ⟨y3, e4, h⟩ := ol_of_bd h
      refine ol_cVw (As := [.int 2]) hX (pc := 28) (wX4_isRefused V a σ 2 y3 e4) lkX4_180 dcX4_isRefused ol_rr_X4_ticks_X4_isRefused 0 rfl rfl ⟨Nat.le_refl _, Nat.le_refl _⟩ (Nat.le_of_ble_eq_true rfl) dX4_ticks_28 rfl ?_
      refine ol_if_eq hX (pc := 31) 36 dX4_ticks_31 (by decide) (fun c5 => ?_) (fun c5 => ?_)
      · have h := ol_ifp c5 h
        refine ol_iconst hX (pc := 36) 0 dX4_ticks_36 ol_k_iconst_0 ?_
        refine ol_istore_n hX (pc := 37) [some (.ref (a 0)), some (.int x1), some (.int 0)] dX4_ticks_37 rfl (by decide) rfl rfl ?_
        exact wX4_ticks_L38 hX x1 ol_fuel 0 y3.2 h
      · have h := ol_ifn c5 h
        refine ol_iconst hX (pc := 34) (-1) dX4_ticks_34 ol_k_iconst_m1 ?_
        have h := ol_of_some h
        subst h
        exact ol_iret hX (pc := 35) dX4_ticks_35 ⟨rfl, rfl⟩ ⟨Nat.le_refl _, Nat.le_refl _⟩
    · have h := ol_ifn c9 h
      refine ol_iconst hX (pc := 23) 0 dX4_ticks_23 ol_k_iconst_0 ?_
      refine ol_goto hX (pc := 24) 28 dX4_ticks_24 (by decide) ?_
      obtain ⟨y6, e7, h⟩ := ol_of_bd h
      refine ol_cVw (As := [.int 0]) hX (pc := 28) (wX4_isRefused V a σ 0 y6 e7) lkX4_180 dcX4_isRefused ol_rr_X4_ticks_X4_isRefused 0 rfl rfl ⟨Nat.le_refl _, Nat.le_refl _⟩ (Nat.le_of_ble_eq_true rfl) dX4_ticks_28 rfl ?_
      refine ol_if_eq hX (pc := 31) 36 dX4_ticks_31 (by decide) (fun c8 => ?_) (fun c8 => ?_)
      · have h := ol_ifp c8 h
        refine ol_iconst hX (pc := 36) 0 dX4_ticks_36 ol_k_iconst_0 ?_
        refine ol_istore_n hX (pc := 37) [some (.ref (a 0)), some (.int x1), some (.int 0)] dX4_ticks_37 rfl (by decide) rfl rfl ?_
        exact wX4_ticks_L38 hX x1 ol_fuel 0 y6.2 h
      · have h := ol_ifn c8 h
        refine ol_iconst hX (pc := 34) (-1) dX4_ticks_34 ol_k_iconst_m1 ?_
        have h := ol_of_some h
        subst h
        exact ol_iret hX (pc := 35) dX4_ticks_35 ⟨rfl, rfl⟩ ⟨Nat.le_refl _, Nat.le_refl _⟩
  · have h := ol_ifp c13 h
    refine ol_iconst hX (pc := 8) 1 dX4_ticks_8 ol_k_iconst_1 ?_
    refine ol_goto hX (pc := 9) 28 dX4_ticks_9 (by decide) ?_
    obtain ⟨y10, e11, h⟩ := ol_of_bd h
    refine ol_cVw (As := [.int 1]) hX (pc := 28) (wX4_isRefused V a σ 1 y10 e11) lkX4_180 dcX4_isRefused ol_rr_X4_ticks_X4_isRefused 0 rfl rfl ⟨Nat.le_refl _, Nat.le_refl _⟩ (Nat.le_of_ble_eq_true rfl) dX4_ticks_28 rfl ?_
    refine ol_if_eq hX (pc := 31) 36 dX4_ticks_31 (by decide) (fun c12 => ?_) (fun c12 => ?_)
    · have h := ol_ifp c12 h
      refine ol_iconst hX (pc := 36) 0 dX4_ticks_36 ol_k_iconst_0 ?_
      refine ol_istore_n hX (pc := 37) [some (.ref (a 0)), some (.int x1), some (.int 0)] dX4_ticks_37 rfl (by decide) rfl rfl ?_
      exact wX4_ticks_L38 hX x1 ol_fuel 0 y10.2 h
    · have h := ol_ifn c12 h
      refine ol_iconst hX (pc := 34) (-1) dX4_ticks_34 ol_k_iconst_m1 ?_
      have h := ol_of_some h
      subst h
      exact ol_iret hX (pc := 35) dX4_ticks_35 ⟨rfl, rfl⟩ ⟨Nat.le_refl _, Nat.le_refl _⟩
set_option maxHeartbeats 4000000 in
theorem wX4_keep_L18 {X : ol_Cx} {V : ol_Gh} {A : Nat → Prop} {a : Nat → Nat} {z : Int32 × ol_Mm} (hX : ol_CX X V A cX4_keep RX4 "keep" 2 (some .boolean))     : ∀ (n : Nat), ∀ (v1 : Int32) (σ : ol_Mm), oX4_keep_L18 n v1 σ = some z → ol_G X V A true (ol_Pw (some (.int z.1)) (ol_WM V a z.2)) ({ frames := 1, cells := 0, slots := 0, locals := 21 } : Room) 2 0 0 (ol_WM V a σ) 18 [some (.ref (a 0)), some (.int v1)] [] := by
  intro n
  induction n with
  | zero =>
    intro v1 σ h
    exact ol_no h
  | succ n ih =>
    intro v1 σ h
    rw [oX4_keep_L18] at h
    refine ol_iload_n hX (pc := 18) dX4_keep_18 rfl rfl ?_
    refine ol_sipush hX (pc := 19) 251 dX4_keep_19 ol_k_sipush_251 ?_
    refine ol_icmp_ge hX (pc := 22) 43 dX4_keep_22 (by decide) (fun c3 => ?_) (fun c3 => ?_)
    · have h := ol_ifp c3 h
      refine ol_aload_n hX (pc := 43) dX4_keep_43 rfl rfl ?_
      refine ol_iconst hX (pc := 44) 1 dX4_keep_44 ol_k_iconst_1 ?_
      refine ol_mp21 hX (pc := 45) dX4_keep_45 (by rfl) ?_
      refine ol_iconst hX (pc := 48) 1 dX4_keep_48 ol_k_iconst_1 ?_
      have h := ol_of_some h
      subst h
      exact ol_zret hX (pc := 49) dX4_keep_49 (by rfl) ⟨rfl, rfl⟩ ⟨Nat.le_refl _, Nat.le_refl _⟩
    · have h := ol_ifn c3 h
      refine ol_aload_n hX (pc := 25) dX4_keep_25 rfl rfl ?_
      refine ol_mg20 hX (pc := 26) dX4_keep_26 ?_
      refine ol_iload_n hX (pc := 29) dX4_keep_29 rfl rfl ?_
      refine ol_aload_n hX (pc := 30) dX4_keep_30 rfl rfl ?_
      refine ol_mg18 hX (pc := 31) dX4_keep_31 ?_
      refine ol_iload_n hX (pc := 34) dX4_keep_34 rfl rfl ?_
      obtain ⟨g1, h⟩ := ol_of_og h
      refine ol_ml5 hX (pc := 35) dX4_keep_35 rfl (ol_in_vp g1) ?_
      obtain ⟨g2, h⟩ := ol_of_og h
      refine ol_ms7 hX (pc := 36) dX4_keep_36 rfl (ol_in_vp g2) ?_
      refine ol_iinc hX (pc := 37) (v1 + 1) [some (.ref (a 0)), some (.int (v1 + 1))] dX4_keep_37 rfl (ol_k_iinc_1 _) (by decide) rfl rfl ?_
      refine ol_goto hX (pc := 40) 18 dX4_keep_40 (by decide) ?_
      exact ih (v1 + 1) (ol_ms σ 7 v1.toNatClampNeg (σ.1 5 v1.toNatClampNeg)) h
set_option maxHeartbeats 4000000 in
theorem wX4_keep (V : ol_Gh) (a : Nat → Nat) (σ : ol_Mm)  (z : Int32 × ol_Mm) (h : oX4_keep σ = some z) : ol_Mt V yX4_keep cX4_keep 2 (some .boolean) ({ frames := 1, cells := 0, slots := 0, locals := 21 } : Room) true [.ref (a 0)] (ol_WM V a σ) (ol_Pw (some (.int z.1)) (ol_WM V a z.2)) := by
  refine ol_MtOf (L0 := [some (.ref (a 0)), none]) (by decide) (Nat.le_of_ble_eq_true rfl) rfl (fun X A hX => ?_)
  unfold oX4_keep at h
  refine ol_aload_n hX (pc := 0) dX4_keep_0 rfl rfl ?_
  refine ol_aload_n hX (pc := 1) dX4_keep_1 rfl rfl ?_
  refine ol_mg9 hX (pc := 2) dX4_keep_2 ?_
  obtain ⟨y1, e2, h⟩ := ol_of_bd h
  refine ol_cSr (As := [.int (σ.1 0 9)]) hX (pc := 5) (wX4_unless V (ol_WM V a σ) (σ.1 0 9) y1 e2) lkX4_324 dcX4_unless ⟨rfl, rfl⟩ ol_rr_X4_keep_X4_unless (fun _ h => h) ⟨Nat.le_refl _, Nat.le_refl _⟩ (Nat.le_of_ble_eq_true rfl) dX4_keep_5 rfl ?_
  obtain ⟨y3, e4, h⟩ := ol_of_bd h
  refine ol_cVw (As := [.int y1]) hX (pc := 8) (wX4_isRefused V a σ y1 y3 e4) lkX4_180 dcX4_isRefused ol_rr_X4_keep_X4_isRefused 0 rfl rfl ⟨Nat.le_refl _, Nat.le_refl _⟩ (Nat.le_of_ble_eq_true rfl) dX4_keep_8 rfl ?_
  refine ol_if_eq hX (pc := 11) 16 dX4_keep_11 (by decide) (fun c5 => ?_) (fun c5 => ?_)
  · have h := ol_ifp c5 h
    refine ol_iconst hX (pc := 16) 0 dX4_keep_16 ol_k_iconst_0 ?_
    refine ol_istore_n hX (pc := 17) [some (.ref (a 0)), some (.int 0)] dX4_keep_17 rfl (by decide) rfl rfl ?_
    exact wX4_keep_L18 hX ol_fuel 0 y3.2 h
  · have h := ol_ifn c5 h
    refine ol_iconst hX (pc := 14) 0 dX4_keep_14 ol_k_iconst_0 ?_
    have h := ol_of_some h
    subst h
    exact ol_zret hX (pc := 15) dX4_keep_15 (by rfl) ⟨rfl, rfl⟩ ⟨Nat.le_refl _, Nat.le_refl _⟩
set_option maxHeartbeats 4000000 in
theorem wX4_back_L18 {X : ol_Cx} {V : ol_Gh} {A : Nat → Prop} {a : Nat → Nat} {z : Int32 × ol_Mm} (hX : ol_CX X V A cX4_back RX4 "back" 2 (some .boolean))     : ∀ (n : Nat), ∀ (v1 : Int32) (σ : ol_Mm), oX4_back_L18 n v1 σ = some z → ol_G X V A true (ol_Pw (some (.int z.1)) (ol_WM V a z.2)) ({ frames := 1, cells := 0, slots := 0, locals := 21 } : Room) 2 0 0 (ol_WM V a σ) 18 [some (.ref (a 0)), some (.int v1)] [] := by
  intro n
  induction n with
  | zero =>
    intro v1 σ h
    exact ol_no h
  | succ n ih =>
    intro v1 σ h
    rw [oX4_back_L18] at h
    refine ol_iload_n hX (pc := 18) dX4_back_18 rfl rfl ?_
    refine ol_sipush hX (pc := 19) 251 dX4_back_19 ol_k_sipush_251 ?_
    refine ol_icmp_ge hX (pc := 22) 43 dX4_back_22 (by decide) (fun c3 => ?_) (fun c3 => ?_)
    · have h := ol_ifp c3 h
      refine ol_iconst hX (pc := 43) 1 dX4_back_43 ol_k_iconst_1 ?_
      have h := ol_of_some h
      subst h
      exact ol_zret hX (pc := 44) dX4_back_44 (by rfl) ⟨rfl, rfl⟩ ⟨Nat.le_refl _, Nat.le_refl _⟩
    · have h := ol_ifn c3 h
      refine ol_aload_n hX (pc := 25) dX4_back_25 rfl rfl ?_
      refine ol_mg18 hX (pc := 26) dX4_back_26 ?_
      refine ol_iload_n hX (pc := 29) dX4_back_29 rfl rfl ?_
      refine ol_aload_n hX (pc := 30) dX4_back_30 rfl rfl ?_
      refine ol_mg20 hX (pc := 31) dX4_back_31 ?_
      refine ol_iload_n hX (pc := 34) dX4_back_34 rfl rfl ?_
      obtain ⟨g1, h⟩ := ol_of_og h
      refine ol_ml7 hX (pc := 35) dX4_back_35 rfl (ol_in_vp g1) ?_
      obtain ⟨g2, h⟩ := ol_of_og h
      refine ol_ms5 hX (pc := 36) dX4_back_36 rfl (ol_in_vp g2) ?_
      refine ol_iinc hX (pc := 37) (v1 + 1) [some (.ref (a 0)), some (.int (v1 + 1))] dX4_back_37 rfl (ol_k_iinc_1 _) (by decide) rfl rfl ?_
      refine ol_goto hX (pc := 40) 18 dX4_back_40 (by decide) ?_
      exact ih (v1 + 1) (ol_ms σ 5 v1.toNatClampNeg (σ.1 7 v1.toNatClampNeg)) h
set_option maxHeartbeats 4000000 in
theorem wX4_back (V : ol_Gh) (a : Nat → Nat) (σ : ol_Mm)  (z : Int32 × ol_Mm) (h : oX4_back σ = some z) : ol_Mt V yX4_back cX4_back 2 (some .boolean) ({ frames := 1, cells := 0, slots := 0, locals := 21 } : Room) true [.ref (a 0)] (ol_WM V a σ) (ol_Pw (some (.int z.1)) (ol_WM V a z.2)) := by
  refine ol_MtOf (L0 := [some (.ref (a 0)), none]) (by decide) (Nat.le_of_ble_eq_true rfl) rfl (fun X A hX => ?_)
  unfold oX4_back at h
  refine ol_aload_n hX (pc := 0) dX4_back_0 rfl rfl ?_
  refine ol_aload_n hX (pc := 1) dX4_back_1 rfl rfl ?_
  refine ol_mg21 hX (pc := 2) dX4_back_2 ?_
  obtain ⟨y1, e2, h⟩ := ol_of_bd h
  refine ol_cSr (As := [.int (σ.1 0 21)]) hX (pc := 5) (wX4_unless V (ol_WM V a σ) (σ.1 0 21) y1 e2) lkX4_324 dcX4_unless ⟨rfl, rfl⟩ ol_rr_X4_back_X4_unless (fun _ h => h) ⟨Nat.le_refl _, Nat.le_refl _⟩ (Nat.le_of_ble_eq_true rfl) dX4_back_5 rfl ?_
  obtain ⟨y3, e4, h⟩ := ol_of_bd h
  refine ol_cVw (As := [.int y1]) hX (pc := 8) (wX4_isRefused V a σ y1 y3 e4) lkX4_180 dcX4_isRefused ol_rr_X4_back_X4_isRefused 0 rfl rfl ⟨Nat.le_refl _, Nat.le_refl _⟩ (Nat.le_of_ble_eq_true rfl) dX4_back_8 rfl ?_
  refine ol_if_eq hX (pc := 11) 16 dX4_back_11 (by decide) (fun c5 => ?_) (fun c5 => ?_)
  · have h := ol_ifp c5 h
    refine ol_iconst hX (pc := 16) 0 dX4_back_16 ol_k_iconst_0 ?_
    refine ol_istore_n hX (pc := 17) [some (.ref (a 0)), some (.int 0)] dX4_back_17 rfl (by decide) rfl rfl ?_
    exact wX4_back_L18 hX ol_fuel 0 y3.2 h
  · have h := ol_ifn c5 h
    refine ol_iconst hX (pc := 14) 0 dX4_back_14 ol_k_iconst_0 ?_
    have h := ol_of_some h
    subst h
    exact ol_zret hX (pc := 15) dX4_back_15 (by rfl) ⟨rfl, rfl⟩ ⟨Nat.le_refl _, Nat.le_refl _⟩
set_option maxHeartbeats 4000000 in
theorem wX4_bySlot_L17 {X : ol_Cx} {V : ol_Gh} {A : Nat → Prop} {a : Nat → Nat} {z : Int32} (hX : ol_CX X V A cX4_bySlot RX4 "bySlot" 5 (some .int)) (σ : ol_Mm) (x1 : Int32)  (k2 : Int32 → Option Int32) (hk2 : ∀ (v2 : Int32), k2 v2 = some z → ol_G X V A false (ol_Pr (some (.int z))) ({ frames := 0, cells := 0, slots := 0, locals := 0 } : Room) 5 0 0 (ol_WM V a σ) 2 [some (.ref (a 0)), some (.int x1), some (.int v2), none, none] [])  : ∀ (n : Nat), ∀ (v2 : Int32) (v3 : Int32) (v4 : Int32), oX4_bySlot_L17 σ x1 k2 n v2 v3 v4 = some z → ol_G X V A false (ol_Pr (some (.int z))) ({ frames := 0, cells := 0, slots := 0, locals := 0 } : Room) 5 0 0 (ol_WM V a σ) 17 [some (.ref (a 0)), some (.int x1), some (.int v2), some (.int v3), some (.int v4)] [] := by
  intro n
  induction n with
  | zero =>
    intro v2 v3 v4 h
    exact ol_no h
  | succ n ih =>
    intro v2 v3 v4 h
    rw [oX4_bySlot_L17] at h
    refine ol_iload hX (pc := 17) dX4_bySlot_17 rfl ?_
    refine ol_aload_n hX (pc := 19) dX4_bySlot_19 rfl rfl ?_
    refine ol_mg6 hX (pc := 20) dX4_bySlot_20 ?_
    refine ol_iconst hX (pc := 23) 3 dX4_bySlot_23 ol_k_iconst_3 ?_
    refine ol_ml2 hX (pc := 24) dX4_bySlot_24 ol_tn_3 (ol_in_vp (by decide)) ?_
    refine ol_icmp_ge hX (pc := 25) 62 dX4_bySlot_25 (by decide) (fun c5 => ?_) (fun c5 => ?_)
    · have h := ol_ifp c5 h
      refine ol_iload_n hX (pc := 62) dX4_bySlot_62 rfl rfl ?_
      refine ol_iload_n hX (pc := 63) dX4_bySlot_63 rfl rfl ?_
      refine ol_icmp_ne hX (pc := 64) 69 dX4_bySlot_64 (by decide) (fun c1 => ?_) (fun c1 => ?_)
      · have h := ol_ifn c1 h
        refine ol_iinc hX (pc := 69) (v2 + 1) [some (.ref (a 0)), some (.int x1), some (.int (v2 + 1)), some (.int v3), some (.int v4)] dX4_bySlot_69 rfl (ol_k_iinc_1 _) (by decide) rfl rfl ?_
        refine ol_goto hX (pc := 72) 2 dX4_bySlot_72 (by decide) ?_
        refine ol_Gdrop 3 ?_
        refine ol_Gdrop 4 ?_
        exact hk2 (v2 + 1) h
      · have h := ol_ifp c1 h
        refine ol_iload_n hX (pc := 67) dX4_bySlot_67 rfl rfl ?_
        have h := ol_of_some h
        subst h
        exact ol_iret hX (pc := 68) dX4_bySlot_68 rfl ⟨Nat.le_refl _, Nat.le_refl _⟩
    · have h := ol_ifn c5 h
      refine ol_iload_n hX (pc := 28) dX4_bySlot_28 rfl rfl ?_
      refine ol_aload_n hX (pc := 29) dX4_bySlot_29 rfl rfl ?_
      refine ol_mg6 hX (pc := 30) dX4_bySlot_30 ?_
      refine ol_iconst hX (pc := 33) 5 dX4_bySlot_33 ol_k_iconst_5 ?_
      refine ol_iload hX (pc := 34) dX4_bySlot_34 rfl ?_
      refine ol_iadd hX (pc := 36) dX4_bySlot_36 ?_
      obtain ⟨g2, h⟩ := ol_of_og h
      refine ol_ml2 hX (pc := 37) dX4_bySlot_37 rfl (ol_in_vp g2) ?_
      refine ol_aload_n hX (pc := 38) dX4_bySlot_38 rfl rfl ?_
      refine ol_mg6 hX (pc := 39) dX4_bySlot_39 ?_
      refine ol_iconst hX (pc := 42) 5 dX4_bySlot_42 ol_k_iconst_5 ?_
      refine ol_iload_n hX (pc := 43) dX4_bySlot_43 rfl rfl ?_
      refine ol_iadd hX (pc := 44) dX4_bySlot_44 ?_
      obtain ⟨g3, h⟩ := ol_of_og h
      refine ol_ml2 hX (pc := 45) dX4_bySlot_45 rfl (ol_in_vp g3) ?_
      refine ol_icmp_ge hX (pc := 46) 53 dX4_bySlot_46 (by decide) (fun c4 => ?_) (fun c4 => ?_)
      · have h := ol_ifp c4 h
        refine ol_iconst hX (pc := 53) 0 dX4_bySlot_53 ol_k_iconst_0 ?_
        refine ol_iadd hX (pc := 54) dX4_bySlot_54 ?_
        refine ol_istore_n hX (pc := 55) [some (.ref (a 0)), some (.int x1), some (.int v2), some (.int (v3 + 0)), some (.int v4)] dX4_bySlot_55 rfl (by decide) rfl rfl ?_
        refine ol_iinc hX (pc := 56) (v4 + 1) [some (.ref (a 0)), some (.int x1), some (.int v2), some (.int (v3 + 0)), some (.int (v4 + 1))] dX4_bySlot_56 rfl (ol_k_iinc_1 _) (by decide) rfl rfl ?_
        refine ol_goto hX (pc := 59) 17 dX4_bySlot_59 (by decide) ?_
        exact ih v2 (v3 + 0) (v4 + 1) h
      · have h := ol_ifn c4 h
        refine ol_iconst hX (pc := 49) 1 dX4_bySlot_49 ol_k_iconst_1 ?_
        refine ol_goto hX (pc := 50) 54 dX4_bySlot_50 (by decide) ?_
        refine ol_iadd hX (pc := 54) dX4_bySlot_54 ?_
        refine ol_istore_n hX (pc := 55) [some (.ref (a 0)), some (.int x1), some (.int v2), some (.int (v3 + 1)), some (.int v4)] dX4_bySlot_55 rfl (by decide) rfl rfl ?_
        refine ol_iinc hX (pc := 56) (v4 + 1) [some (.ref (a 0)), some (.int x1), some (.int v2), some (.int (v3 + 1)), some (.int (v4 + 1))] dX4_bySlot_56 rfl (ol_k_iinc_1 _) (by decide) rfl rfl ?_
        refine ol_goto hX (pc := 59) 17 dX4_bySlot_59 (by decide) ?_
        exact ih v2 (v3 + 1) (v4 + 1) h
set_option maxHeartbeats 4000000 in
theorem wX4_bySlot_L2 {X : ol_Cx} {V : ol_Gh} {A : Nat → Prop} {a : Nat → Nat} {z : Int32} (hX : ol_CX X V A cX4_bySlot RX4 "bySlot" 5 (some .int)) (σ : ol_Mm) (x1 : Int32)    : ∀ (n : Nat), ∀ (v2 : Int32), oX4_bySlot_L2 σ x1 n v2 = some z → ol_G X V A false (ol_Pr (some (.int z))) ({ frames := 0, cells := 0, slots := 0, locals := 0 } : Room) 5 0 0 (ol_WM V a σ) 2 [some (.ref (a 0)), some (.int x1), some (.int v2), none, none] [] := by
  intro n
  induction n with
  | zero =>
    intro v2 h
    exact ol_no h
  | succ n ih =>
    intro v2 h
    rw [oX4_bySlot_L2] at h
    refine ol_iload_n hX (pc := 2) dX4_bySlot_2 rfl rfl ?_
    refine ol_aload_n hX (pc := 3) dX4_bySlot_3 rfl rfl ?_
    refine ol_mg6 hX (pc := 4) dX4_bySlot_4 ?_
    refine ol_iconst hX (pc := 7) 3 dX4_bySlot_7 ol_k_iconst_3 ?_
    refine ol_ml2 hX (pc := 8) dX4_bySlot_8 ol_tn_3 (ol_in_vp (by decide)) ?_
    refine ol_icmp_ge hX (pc := 9) 75 dX4_bySlot_9 (by decide) (fun c1 => ?_) (fun c1 => ?_)
    · have h := ol_ifp c1 h
      refine ol_iconst hX (pc := 75) (-1) dX4_bySlot_75 ol_k_iconst_m1 ?_
      have h := ol_of_some h
      subst h
      exact ol_iret hX (pc := 76) dX4_bySlot_76 rfl ⟨Nat.le_refl _, Nat.le_refl _⟩
    · have h := ol_ifn c1 h
      refine ol_iconst hX (pc := 12) 0 dX4_bySlot_12 ol_k_iconst_0 ?_
      refine ol_istore_n hX (pc := 13) [some (.ref (a 0)), some (.int x1), some (.int v2), some (.int 0), none] dX4_bySlot_13 rfl (by decide) rfl rfl ?_
      refine ol_iconst hX (pc := 14) 0 dX4_bySlot_14 ol_k_iconst_0 ?_
      refine ol_istore hX (pc := 15) [some (.ref (a 0)), some (.int x1), some (.int v2), some (.int 0), some (.int 0)] dX4_bySlot_15 (by decide) rfl rfl ?_
      exact wX4_bySlot_L17 hX σ x1 (oX4_bySlot_L2 σ x1 n) ih ol_fuel v2 0 0 h
set_option maxHeartbeats 4000000 in
theorem wX4_bySlot (V : ol_Gh) (a : Nat → Nat) (σ : ol_Mm) (x1 : Int32)  (z : Int32) (h : oX4_bySlot σ x1 = some z) : ol_Mt V yX4_bySlot cX4_bySlot 5 (some .int) ({ frames := 0, cells := 0, slots := 0, locals := 0 } : Room) false [.ref (a 0), .int x1] (ol_WM V a σ) (ol_Pr (some (.int z))) := by
  refine ol_MtOf (L0 := [some (.ref (a 0)), some (.int x1), none, none, none]) (by decide) (Nat.le_of_ble_eq_true rfl) rfl (fun X A hX => ?_)
  unfold oX4_bySlot at h
  refine ol_iconst hX (pc := 0) 0 dX4_bySlot_0 ol_k_iconst_0 ?_
  refine ol_istore_n hX (pc := 1) [some (.ref (a 0)), some (.int x1), some (.int 0), none, none] dX4_bySlot_1 rfl (by decide) rfl rfl ?_
  exact wX4_bySlot_L2 hX σ x1 ol_fuel 0 h
set_option maxHeartbeats 4000000 in
theorem wX4_never_L9 {X : ol_Cx} {V : ol_Gh} {A : Nat → Prop} {a : Nat → Nat} {z : Int32 × ol_Mm} (hX : ol_CX X V A cX4_never RX4 "never" 5 (some .int)) (x1 : Int32)    : ∀ (n : Nat), ∀ (v2 : Int32) (v3 : Int32) (σ : ol_Mm), oX4_never_L9 x1 n v2 v3 σ = some z → ol_G X V A true (ol_Pw (some (.int z.1)) (ol_WM V a z.2)) ({ frames := 1, cells := 0, slots := 0, locals := 24 } : Room) 5 0 0 (ol_WM V a σ) 9 [some (.ref (a 0)), some (.int x1), some (.int v2), some (.int v3), none] [] := by
  intro n
  induction n with
  | zero =>
    intro v2 v3 σ h
    exact ol_no h
  | succ n ih =>
    intro v2 v3 σ h
    rw [oX4_never_L9] at h
    refine ol_aload_n hX (pc := 9) dX4_never_9 rfl rfl ?_
    refine ol_mg9 hX (pc := 10) dX4_never_10 ?_
    refine ol_if_eq hX (pc := 13) 65 dX4_never_13 (by decide) (fun c9 => ?_) (fun c9 => ?_)
    · have h := ol_ifp c9 h
      refine ol_aload_n hX (pc := 65) dX4_never_65 rfl rfl ?_
      refine ol_iconst hX (pc := 66) 1 dX4_never_66 ol_k_iconst_1 ?_
      refine ol_mp0 hX (pc := 67) dX4_never_67 ?_
      refine ol_iconst hX (pc := 70) 0 dX4_never_70 ol_k_iconst_0 ?_
      have h := ol_of_some h
      subst h
      exact ol_iret hX (pc := 71) dX4_never_71 ⟨rfl, rfl⟩ ⟨Nat.le_refl _, Nat.le_refl _⟩
    · have h := ol_ifn c9 h
      refine ol_iload_n hX (pc := 16) dX4_never_16 rfl rfl ?_
      refine ol_aload_n hX (pc := 17) dX4_never_17 rfl rfl ?_
      refine ol_mg6 hX (pc := 18) dX4_never_18 ?_
      refine ol_iconst hX (pc := 21) 3 dX4_never_21 ol_k_iconst_3 ?_
      refine ol_ml2 hX (pc := 22) dX4_never_22 ol_tn_3 (ol_in_vp (by decide)) ?_
      refine ol_icmp_ge hX (pc := 23) 65 dX4_never_23 (by decide) (fun c8 => ?_) (fun c8 => ?_)
      · have h := ol_ifp c8 h
        refine ol_aload_n hX (pc := 65) dX4_never_65 rfl rfl ?_
        refine ol_iconst hX (pc := 66) 1 dX4_never_66 ol_k_iconst_1 ?_
        refine ol_mp0 hX (pc := 67) dX4_never_67 ?_
        refine ol_iconst hX (pc := 70) 0 dX4_never_70 ol_k_iconst_0 ?_
        have h := ol_of_some h
        subst h
        exact ol_iret hX (pc := 71) dX4_never_71 ⟨rfl, rfl⟩ ⟨Nat.le_refl _, Nat.le_refl _⟩
      · have h := ol_ifn c8 h
        refine ol_aload_n hX (pc := 26) dX4_never_26 rfl rfl ?_
        refine ol_iload_n hX (pc := 27) dX4_never_27 rfl rfl ?_
        obtain ⟨y1, e2, h⟩ := ol_of_bd h
        refine ol_cVr (As := [.int v3]) hX (pc := 28) (wX4_bySlot V a σ v3 y1 e2) lkX4_340 dcX4_bySlot ⟨rfl, rfl⟩ ol_rr_X4_never_X4_bySlot 0 rfl rfl (fun _ h => h) ⟨Nat.le_refl _, Nat.le_refl _⟩ (Nat.le_of_ble_eq_true rfl) dX4_never_28 rfl ?_
        refine ol_istore hX (pc := 31) [some (.ref (a 0)), some (.int x1), some (.int v2), some (.int v3), some (.int y1)] dX4_never_31 (by decide) rfl rfl ?_
        refine ol_aload_n hX (pc := 33) dX4_never_33 rfl rfl ?_
        refine ol_mg18 hX (pc := 34) dX4_never_34 ?_
        refine ol_iload hX (pc := 37) dX4_never_37 rfl ?_
        refine ol_bipush hX (pc := 39) 6 dX4_never_39 ol_k_bipush_6 ?_
        obtain ⟨y3, e4, h⟩ := ol_of_bd h
        refine ol_cSr (As := [.int y1, .int 6]) hX (pc := 41) (wX4_at V (ol_WM V a σ) y1 6 y3 e4) lkX4_201 dcX4_at ⟨rfl, rfl⟩ ol_rr_X4_never_X4_at (fun _ h => h) ⟨Nat.le_refl _, Nat.le_refl _⟩ (Nat.le_of_ble_eq_true rfl) dX4_never_41 rfl ?_
        obtain ⟨g5, h⟩ := ol_of_og h
        refine ol_ml5 hX (pc := 44) dX4_never_44 rfl (ol_in_vp g5) ?_
        refine ol_if_ne hX (pc := 45) 59 dX4_never_45 (by decide) (fun c7 => ?_) (fun c7 => ?_)
        · have h := ol_ifn c7 h
          refine ol_iinc hX (pc := 59) (v3 + 1) [some (.ref (a 0)), some (.int x1), some (.int v2), some (.int (v3 + 1)), some (.int y1)] dX4_never_59 rfl (ol_k_iinc_1 _) (by decide) rfl rfl ?_
          refine ol_goto hX (pc := 62) 9 dX4_never_62 (by decide) ?_
          refine ol_Gdrop 4 ?_
          exact ih v2 (v3 + 1) σ h
        · have h := ol_ifp c7 h
          refine ol_iload_n hX (pc := 48) dX4_never_48 rfl rfl ?_
          refine ol_iload_n hX (pc := 49) dX4_never_49 rfl rfl ?_
          refine ol_icmp_ne hX (pc := 50) 56 dX4_never_50 (by decide) (fun c6 => ?_) (fun c6 => ?_)
          · have h := ol_ifn c6 h
            refine ol_iinc hX (pc := 56) (v2 + 1) [some (.ref (a 0)), some (.int x1), some (.int (v2 + 1)), some (.int v3), some (.int y1)] dX4_never_56 rfl (ol_k_iinc_1 _) (by decide) rfl rfl ?_
            refine ol_iinc hX (pc := 59) (v3 + 1) [some (.ref (a 0)), some (.int x1), some (.int (v2 + 1)), some (.int (v3 + 1)), some (.int y1)] dX4_never_59 rfl (ol_k_iinc_1 _) (by decide) rfl rfl ?_
            refine ol_goto hX (pc := 62) 9 dX4_never_62 (by decide) ?_
            refine ol_Gdrop 4 ?_
            exact ih (v2 + 1) (v3 + 1) σ h
          · have h := ol_ifp c6 h
            refine ol_iload hX (pc := 53) dX4_never_53 rfl ?_
            have h := ol_of_some h
            subst h
            exact ol_iret hX (pc := 55) dX4_never_55 ⟨rfl, rfl⟩ ⟨Nat.le_refl _, Nat.le_refl _⟩
set_option maxHeartbeats 4000000 in
theorem wX4_never (V : ol_Gh) (a : Nat → Nat) (σ : ol_Mm) (x1 : Int32)  (z : Int32 × ol_Mm) (h : oX4_never σ x1 = some z) : ol_Mt V yX4_never cX4_never 5 (some .int) ({ frames := 1, cells := 0, slots := 0, locals := 24 } : Room) true [.ref (a 0), .int x1] (ol_WM V a σ) (ol_Pw (some (.int z.1)) (ol_WM V a z.2)) := by
  refine ol_MtOf (L0 := [some (.ref (a 0)), some (.int x1), none, none, none]) (by decide) (Nat.le_of_ble_eq_true rfl) rfl (fun X A hX => ?_)
  unfold oX4_never at h
  refine ol_aload_n hX (pc := 0) dX4_never_0 rfl rfl ?_
  refine ol_iconst hX (pc := 1) 0 dX4_never_1 ol_k_iconst_0 ?_
  refine ol_mp0 hX (pc := 2) dX4_never_2 ?_
  refine ol_iconst hX (pc := 5) 0 dX4_never_5 ol_k_iconst_0 ?_
  refine ol_istore_n hX (pc := 6) [some (.ref (a 0)), some (.int x1), some (.int 0), none, none] dX4_never_6 rfl (by decide) rfl rfl ?_
  refine ol_iconst hX (pc := 7) 0 dX4_never_7 ol_k_iconst_0 ?_
  refine ol_istore_n hX (pc := 8) [some (.ref (a 0)), some (.int x1), some (.int 0), some (.int 0), none] dX4_never_8 rfl (by decide) rfl rfl ?_
  exact wX4_never_L9 hX x1 ol_fuel 0 0 (ol_ms σ 0 0 0) h
set_option maxHeartbeats 4000000 in
theorem wX4_size_L9 {X : ol_Cx} {V : ol_Gh} {A : Nat → Prop} {a : Nat → Nat} {z : Int32 × ol_Mm} (hX : ol_CX X V A cX4_size RX4 "size" 4 (some .int)) (x1 : Int32)    : ∀ (n : Nat), ∀ (v2 : Int32) (v3 : Int32) (σ : ol_Mm), oX4_size_L9 x1 n v2 v3 σ = some z → ol_G X V A true (ol_Pw (some (.int z.1)) (ol_WM V a z.2)) ({ frames := 0, cells := 0, slots := 0, locals := 0 } : Room) 4 0 0 (ol_WM V a σ) 9 [some (.ref (a 0)), some (.int x1), some (.int v2), some (.int v3)] [] := by
  intro n
  induction n with
  | zero =>
    intro v2 v3 σ h
    exact ol_no h
  | succ n ih =>
    intro v2 v3 σ h
    rw [oX4_size_L9] at h
    refine ol_iload_n hX (pc := 9) dX4_size_9 rfl rfl ?_
    refine ol_bipush hX (pc := 10) 6 dX4_size_10 ol_k_bipush_6 ?_
    refine ol_icmp_ge hX (pc := 12) 41 dX4_size_12 (by decide) (fun c9 => ?_) (fun c9 => ?_)
    · have h := ol_ifp c9 h
      refine ol_iload_n hX (pc := 41) dX4_size_41 rfl rfl ?_
      by_cases c1 : x1 = 0
      · have h := ol_ifp c1 h
        refine ol_tsw_in hX (pc := 42) 72 dX4_size_42 c1 (by decide) (by decide) rfl (by decide) ?_
        refine ol_aload_n hX (pc := 72) dX4_size_72 rfl rfl ?_
        refine ol_mg5 hX (pc := 73) dX4_size_73 ?_
        have h := ol_of_some h
        subst h
        exact ol_iret hX (pc := 76) dX4_size_76 ⟨rfl, rfl⟩ ⟨Nat.le_refl _, Nat.le_refl _⟩
      · have h := ol_ifn c1 h
        by_cases c3 : x1 = 1
        · have h := ol_ifp c3 h
          refine ol_tsw_in hX (pc := 42) 77 dX4_size_42 c3 (by decide) (by decide) rfl (by decide) ?_
          refine ol_aload_n hX (pc := 77) dX4_size_77 rfl rfl ?_
          refine ol_mg9 hX (pc := 78) dX4_size_78 ?_
          refine ol_if_eq hX (pc := 81) 101 dX4_size_81 (by decide) (fun c2 => ?_) (fun c2 => ?_)
          · have h := ol_ifp c2 h
            refine ol_iconst hX (pc := 101) 0 dX4_size_101 ol_k_iconst_0 ?_
            have h := ol_of_some h
            subst h
            exact ol_iret hX (pc := 102) dX4_size_102 ⟨rfl, rfl⟩ ⟨Nat.le_refl _, Nat.le_refl _⟩
          · have h := ol_ifn c2 h
            refine ol_aload_n hX (pc := 84) dX4_size_84 rfl rfl ?_
            refine ol_mg6 hX (pc := 85) dX4_size_85 ?_
            refine ol_iconst hX (pc := 88) 4 dX4_size_88 ol_k_iconst_4 ?_
            refine ol_ml2 hX (pc := 89) dX4_size_89 ol_tn_4 (ol_in_vp (by decide)) ?_
            refine ol_aload_n hX (pc := 90) dX4_size_90 rfl rfl ?_
            refine ol_mg18 hX (pc := 91) dX4_size_91 ?_
            refine ol_bipush hX (pc := 94) 11 dX4_size_94 ol_k_bipush_11 ?_
            refine ol_ml5 hX (pc := 96) dX4_size_96 ol_tn_11 (ol_in_vp (by decide)) ?_
            refine ol_isub hX (pc := 97) dX4_size_97 ?_
            refine ol_goto hX (pc := 98) 102 dX4_size_98 (by decide) ?_
            have h := ol_of_some h
            subst h
            exact ol_iret hX (pc := 102) dX4_size_102 ⟨rfl, rfl⟩ ⟨Nat.le_refl _, Nat.le_refl _⟩
        · have h := ol_ifn c3 h
          by_cases c5 : x1 = 2
          · have h := ol_ifp c5 h
            refine ol_tsw_in hX (pc := 42) 103 dX4_size_42 c5 (by decide) (by decide) rfl (by decide) ?_
            refine ol_aload_n hX (pc := 103) dX4_size_103 rfl rfl ?_
            refine ol_mg21 hX (pc := 104) dX4_size_104 ?_
            refine ol_if_eq hX (pc := 107) 114 dX4_size_107 (by decide) (fun c4 => ?_) (fun c4 => ?_)
            · have h := ol_ifp c4 h
              refine ol_iconst hX (pc := 114) 0 dX4_size_114 ol_k_iconst_0 ?_
              have h := ol_of_some h
              subst h
              exact ol_iret hX (pc := 115) dX4_size_115 ⟨rfl, rfl⟩ ⟨Nat.le_refl _, Nat.le_refl _⟩
            · have h := ol_ifn c4 h
              refine ol_iconst hX (pc := 110) 1 dX4_size_110 ol_k_iconst_1 ?_
              refine ol_goto hX (pc := 111) 115 dX4_size_111 (by decide) ?_
              have h := ol_of_some h
              subst h
              exact ol_iret hX (pc := 115) dX4_size_115 ⟨rfl, rfl⟩ ⟨Nat.le_refl _, Nat.le_refl _⟩
          · have h := ol_ifn c5 h
            by_cases c6 : x1 = 3
            · have h := ol_ifp c6 h
              refine ol_tsw_in hX (pc := 42) 116 dX4_size_42 c6 (by decide) (by decide) rfl (by decide) ?_
              refine ol_iload_n hX (pc := 116) dX4_size_116 rfl rfl ?_
              have h := ol_of_some h
              subst h
              exact ol_iret hX (pc := 117) dX4_size_117 ⟨rfl, rfl⟩ ⟨Nat.le_refl _, Nat.le_refl _⟩
            · have h := ol_ifn c6 h
              refine ol_tsw_out hX (pc := 42) 118 dX4_size_42 ?_ (by decide) ?_
              · exact ol_sw4 c1 c3 c5 c6
              · refine ol_iconst hX (pc := 118) (-1) dX4_size_118 ol_k_iconst_m1 ?_
                have h := ol_of_some h
                subst h
                exact ol_iret hX (pc := 119) dX4_size_119 ⟨rfl, rfl⟩ ⟨Nat.le_refl _, Nat.le_refl _⟩
    · have h := ol_ifn c9 h
      refine ol_iload_n hX (pc := 15) dX4_size_15 rfl rfl ?_
      refine ol_aload_n hX (pc := 16) dX4_size_16 rfl rfl ?_
      refine ol_mg18 hX (pc := 17) dX4_size_17 ?_
      refine ol_bipush hX (pc := 20) 12 dX4_size_20 ol_k_bipush_12 ?_
      refine ol_iload_n hX (pc := 22) dX4_size_22 rfl rfl ?_
      refine ol_iadd hX (pc := 23) dX4_size_23 ?_
      obtain ⟨g7, h⟩ := ol_of_og h
      refine ol_ml5 hX (pc := 24) dX4_size_24 rfl (ol_in_vp g7) ?_
      refine ol_if_ne hX (pc := 25) 32 dX4_size_25 (by decide) (fun c8 => ?_) (fun c8 => ?_)
      · have h := ol_ifn c8 h
        refine ol_iconst hX (pc := 32) 1 dX4_size_32 ol_k_iconst_1 ?_
        refine ol_iadd hX (pc := 33) dX4_size_33 ?_
        refine ol_istore_n hX (pc := 34) [some (.ref (a 0)), some (.int x1), some (.int (v2 + 1)), some (.int v3)] dX4_size_34 rfl (by decide) rfl rfl ?_
        refine ol_iinc hX (pc := 35) (v3 + 1) [some (.ref (a 0)), some (.int x1), some (.int (v2 + 1)), some (.int (v3 + 1))] dX4_size_35 rfl (ol_k_iinc_1 _) (by decide) rfl rfl ?_
        refine ol_goto hX (pc := 38) 9 dX4_size_38 (by decide) ?_
        exact ih (v2 + 1) (v3 + 1) σ h
      · have h := ol_ifp c8 h
        refine ol_iconst hX (pc := 28) 0 dX4_size_28 ol_k_iconst_0 ?_
        refine ol_goto hX (pc := 29) 33 dX4_size_29 (by decide) ?_
        refine ol_iadd hX (pc := 33) dX4_size_33 ?_
        refine ol_istore_n hX (pc := 34) [some (.ref (a 0)), some (.int x1), some (.int (v2 + 0)), some (.int v3)] dX4_size_34 rfl (by decide) rfl rfl ?_
        refine ol_iinc hX (pc := 35) (v3 + 1) [some (.ref (a 0)), some (.int x1), some (.int (v2 + 0)), some (.int (v3 + 1))] dX4_size_35 rfl (ol_k_iinc_1 _) (by decide) rfl rfl ?_
        refine ol_goto hX (pc := 38) 9 dX4_size_38 (by decide) ?_
        exact ih (v2 + 0) (v3 + 1) σ h
set_option maxHeartbeats 4000000 in
theorem wX4_size (V : ol_Gh) (a : Nat → Nat) (σ : ol_Mm) (x1 : Int32)  (z : Int32 × ol_Mm) (h : oX4_size σ x1 = some z) : ol_Mt V yX4_size cX4_size 4 (some .int) ({ frames := 0, cells := 0, slots := 0, locals := 0 } : Room) true [.ref (a 0), .int x1] (ol_WM V a σ) (ol_Pw (some (.int z.1)) (ol_WM V a z.2)) := by
  refine ol_MtOf (L0 := [some (.ref (a 0)), some (.int x1), none, none]) (by decide) (Nat.le_of_ble_eq_true rfl) rfl (fun X A hX => ?_)
  unfold oX4_size at h
  refine ol_aload_n hX (pc := 0) dX4_size_0 rfl rfl ?_
  refine ol_iconst hX (pc := 1) 0 dX4_size_1 ol_k_iconst_0 ?_
  refine ol_mp0 hX (pc := 2) dX4_size_2 ?_
  refine ol_iconst hX (pc := 5) 0 dX4_size_5 ol_k_iconst_0 ?_
  refine ol_istore_n hX (pc := 6) [some (.ref (a 0)), some (.int x1), some (.int 0), none] dX4_size_6 rfl (by decide) rfl rfl ?_
  refine ol_iconst hX (pc := 7) 0 dX4_size_7 ol_k_iconst_0 ?_
  refine ol_istore_n hX (pc := 8) [some (.ref (a 0)), some (.int x1), some (.int 0), some (.int 0)] dX4_size_8 rfl (by decide) rfl rfl ?_
  exact wX4_size_L9 hX x1 ol_fuel 0 0 (ol_ms σ 0 0 0) h
set_option maxHeartbeats 4000000 in
theorem wX4_trouble (V : ol_Gh) (a : Nat → Nat) (σ : ol_Mm)  (z : Int32 × ol_Mm) (h : oX4_trouble σ = some z) : ol_Mt V yX4_trouble cX4_trouble 1 (some .int) ({ frames := 0, cells := 0, slots := 0, locals := 0 } : Room) true [.ref (a 0)] (ol_WM V a σ) (ol_Pw (some (.int z.1)) (ol_WM V a z.2)) := by
  refine ol_MtOf (L0 := [some (.ref (a 0))]) (by decide) (Nat.le_of_ble_eq_true rfl) rfl (fun X A hX => ?_)
  unfold oX4_trouble at h
  refine ol_aload_n hX (pc := 0) dX4_trouble_0 rfl rfl ?_
  refine ol_iconst hX (pc := 1) 0 dX4_trouble_1 ol_k_iconst_0 ?_
  refine ol_mp0 hX (pc := 2) dX4_trouble_2 ?_
  refine ol_aload_n hX (pc := 5) dX4_trouble_5 rfl rfl ?_
  refine ol_mg1 hX (pc := 6) dX4_trouble_6 ?_
  have h := ol_of_some h
  subst h
  exact ol_iret hX (pc := 9) dX4_trouble_9 ⟨rfl, rfl⟩ ⟨Nat.le_refl _, Nat.le_refl _⟩
