/-! walks of the model's methods (printed by gen/model.py) -/
set_option maxRecDepth 100000
set_option maxHeartbeats 4000000 in
theorem wX4_thrown (V : ol_Gh) (a : Nat → Nat) (σ : ol_Mm)  (z : Int32) (h : oX4_thrown σ = some z) : ol_Mt V yX4_thrown cX4_thrown 1 (some .int) ({ frames := 0, cells := 0, slots := 0, locals := 0 } : Room) false [.ref (a 0)] (ol_WM V a σ) (ol_Pr (some (.int z))) := by
  refine ol_MtOf (L0 := [some (.ref (a 0))]) (by decide) (Nat.le_of_ble_eq_true rfl) rfl (fun X A hX => ?_)
  unfold oX4_thrown at h
  refine ol_aload_n hX (pc := 0) dX4_thrown_0 rfl rfl ?_
  refine ol_mg0 hX (pc := 1) dX4_thrown_1 ?_
  have h := ol_of_some h
  subst h
  exact ol_iret hX (pc := 4) dX4_thrown_4 rfl ⟨Nat.le_refl _, Nat.le_refl _⟩
set_option maxHeartbeats 4000000 in
theorem wX4_laysWord_L2 {X : ol_Cx} {V : ol_Gh} {A : Nat → Prop} {a : Nat → Nat} {z : ol_Mm} (hX : ol_CX X V A cX4_laysWord RX4 "laysWord" 3 none) (x1 : Int32)    : ∀ (n : Nat), ∀ (v2 : Int32) (σ : ol_Mm), oX4_laysWord_L2 x1 n v2 σ = some z → ol_G X V A true (ol_Pw none (ol_WM V a z)) ({ frames := 0, cells := 0, slots := 0, locals := 0 } : Room) 3 0 0 (ol_WM V a σ) 2 [some (.ref (a 0)), some (.int x1), some (.int v2)] [] := by
  intro n
  induction n with
  | zero =>
    intro v2 σ h
    exact ol_no h
  | succ n ih =>
    intro v2 σ h
    rw [oX4_laysWord_L2] at h
    refine ol_iload_n hX (pc := 2) dX4_laysWord_2 rfl rfl ?_
    refine ol_iconst hX (pc := 3) 4 dX4_laysWord_3 ol_k_iconst_4 ?_
    refine ol_icmp_ge hX (pc := 4) 37 dX4_laysWord_4 (by decide) (fun c2 => ?_) (fun c2 => ?_)
    · have h := ol_ifp c2 h
      refine ol_aload_n hX (pc := 37) dX4_laysWord_37 rfl rfl ?_
      refine ol_dup hX (pc := 38) dX4_laysWord_38 rfl ?_
      refine ol_mg5 hX (pc := 39) dX4_laysWord_39 ?_
      refine ol_iconst hX (pc := 42) 4 dX4_laysWord_42 ol_k_iconst_4 ?_
      refine ol_iadd hX (pc := 43) dX4_laysWord_43 ?_
      refine ol_mp5 hX (pc := 44) dX4_laysWord_44 ?_
      have h := ol_of_some h
      subst h
      exact ol_vret hX (pc := 47) dX4_laysWord_47 ⟨rfl, rfl⟩ ⟨Nat.le_refl _, Nat.le_refl _⟩
    · have h := ol_ifn c2 h
      refine ol_aload_n hX (pc := 7) dX4_laysWord_7 rfl rfl ?_
      refine ol_mg4 hX (pc := 8) dX4_laysWord_8 ?_
      refine ol_aload_n hX (pc := 11) dX4_laysWord_11 rfl rfl ?_
      refine ol_mg5 hX (pc := 12) dX4_laysWord_12 ?_
      refine ol_iload_n hX (pc := 15) dX4_laysWord_15 rfl rfl ?_
      refine ol_iadd hX (pc := 16) dX4_laysWord_16 ?_
      refine ol_iload_n hX (pc := 17) dX4_laysWord_17 rfl rfl ?_
      refine ol_bipush hX (pc := 18) 24 dX4_laysWord_18 ol_k_bipush_24 ?_
      refine ol_bipush hX (pc := 20) 8 dX4_laysWord_20 ol_k_bipush_8 ?_
      refine ol_iload_n hX (pc := 22) dX4_laysWord_22 rfl rfl ?_
      refine ol_imul hX (pc := 23) dX4_laysWord_23 ?_
      refine ol_isub hX (pc := 24) dX4_laysWord_24 ?_
      refine ol_ishr hX (pc := 25) dX4_laysWord_25 ?_
      refine ol_sipush hX (pc := 26) 255 dX4_laysWord_26 ol_k_sipush_255 ?_
      refine ol_iand hX (pc := 29) dX4_laysWord_29 ?_
      obtain ⟨g1, h⟩ := ol_of_og h
      refine ol_ms1 hX (pc := 30) dX4_laysWord_30 rfl (ol_in_vp g1) ?_
      refine ol_iinc hX (pc := 31) (v2 + 1) [some (.ref (a 0)), some (.int x1), some (.int (v2 + 1))] dX4_laysWord_31 rfl (ol_k_iinc_1 _) (by decide) rfl rfl ?_
      refine ol_goto hX (pc := 34) 2 dX4_laysWord_34 (by decide) ?_
      exact ih (v2 + 1) (ol_ms σ 1 (((σ.1 0 5) + v2).toNatClampNeg) ((x1 >>> ((24 - (8 * v2)) &&& 31)) &&& 255)) h
set_option maxHeartbeats 4000000 in
theorem wX4_laysWord (V : ol_Gh) (a : Nat → Nat) (σ : ol_Mm) (x1 : Int32)  (z : ol_Mm) (h : oX4_laysWord σ x1 = some z) : ol_Mt V yX4_laysWord cX4_laysWord 3 none ({ frames := 0, cells := 0, slots := 0, locals := 0 } : Room) true [.ref (a 0), .int x1] (ol_WM V a σ) (ol_Pw none (ol_WM V a z)) := by
  refine ol_MtOf (L0 := [some (.ref (a 0)), some (.int x1), none]) (by decide) (Nat.le_of_ble_eq_true rfl) rfl (fun X A hX => ?_)
  unfold oX4_laysWord at h
  refine ol_iconst hX (pc := 0) 0 dX4_laysWord_0 ol_k_iconst_0 ?_
  refine ol_istore_n hX (pc := 1) [some (.ref (a 0)), some (.int x1), some (.int 0)] dX4_laysWord_1 rfl (by decide) rfl rfl ?_
  exact wX4_laysWord_L2 hX x1 ol_fuel 0 σ h
set_option maxHeartbeats 4000000 in
theorem wX4_feed (V : ol_Gh) (a : Nat → Nat) (σ : ol_Mm) (x1 : Int32) (x2 : Int32) (x3 : Int32) (x4 : Int32) (x5 : Int32)  (z : Int32 × ol_Mm) (h : oX4_feed σ x1 x2 x3 x4 x5 = some z) : ol_Mt V yX4_feed cX4_feed 6 (some .int) ({ frames := 1, cells := 0, slots := 0, locals := 22 } : Room) true [.ref (a 0), .int x1, .int x2, .int x3, .int x4, .int x5] (ol_WM V a σ) (ol_Pw (some (.int z.1)) (ol_WM V a z.2)) := by
  refine ol_MtOf (L0 := [some (.ref (a 0)), some (.int x1), some (.int x2), some (.int x3), some (.int x4), some (.int x5)]) (by decide) (Nat.le_of_ble_eq_true rfl) rfl (fun X A hX => ?_)
  unfold oX4_feed at h
  refine ol_aload_n hX (pc := 0) dX4_feed_0 rfl rfl ?_
  refine ol_iconst hX (pc := 1) 0 dX4_feed_1 ol_k_iconst_0 ?_
  refine ol_mp0 hX (pc := 2) dX4_feed_2 ?_
  refine ol_aload_n hX (pc := 5) dX4_feed_5 rfl rfl ?_
  refine ol_mg5 hX (pc := 6) dX4_feed_6 ?_
  refine ol_sipush hX (pc := 9) 680 dX4_feed_9 ol_k_sipush_680 ?_
  refine ol_icmp_le hX (pc := 12) 17 dX4_feed_12 (by decide) (fun c11 => ?_) (fun c11 => ?_)
  · have h := ol_ifp c11 h
    refine ol_aload_n hX (pc := 17) dX4_feed_17 rfl rfl ?_
    refine ol_iload_n hX (pc := 18) dX4_feed_18 rfl rfl ?_
    obtain ⟨y1, e2, h⟩ := ol_of_bd h
    refine ol_cVw (As := [.int x1]) hX (pc := 19) (wX4_laysWord V a (ol_ms σ 0 0 0) x1 y1 e2) lkX4_63 dcX4_laysWord ol_rr_X4_feed_X4_laysWord 0 rfl rfl ⟨Nat.le_refl _, Nat.le_refl _⟩ (Nat.le_of_ble_eq_true rfl) dX4_feed_19 rfl ?_
    refine ol_aload_n hX (pc := 22) dX4_feed_22 rfl rfl ?_
    refine ol_iload_n hX (pc := 23) dX4_feed_23 rfl rfl ?_
    obtain ⟨y3, e4, h⟩ := ol_of_bd h
    refine ol_cVw (As := [.int x2]) hX (pc := 24) (wX4_laysWord V a y1 x2 y3 e4) lkX4_63 dcX4_laysWord ol_rr_X4_feed_X4_laysWord 0 rfl rfl ⟨Nat.le_refl _, Nat.le_refl _⟩ (Nat.le_of_ble_eq_true rfl) dX4_feed_24 rfl ?_
    refine ol_aload_n hX (pc := 27) dX4_feed_27 rfl rfl ?_
    refine ol_iload_n hX (pc := 28) dX4_feed_28 rfl rfl ?_
    obtain ⟨y5, e6, h⟩ := ol_of_bd h
    refine ol_cVw (As := [.int x3]) hX (pc := 29) (wX4_laysWord V a y3 x3 y5 e6) lkX4_63 dcX4_laysWord ol_rr_X4_feed_X4_laysWord 0 rfl rfl ⟨Nat.le_refl _, Nat.le_refl _⟩ (Nat.le_of_ble_eq_true rfl) dX4_feed_29 rfl ?_
    refine ol_aload_n hX (pc := 32) dX4_feed_32 rfl rfl ?_
    refine ol_iload hX (pc := 33) dX4_feed_33 rfl ?_
    obtain ⟨y7, e8, h⟩ := ol_of_bd h
    refine ol_cVw (As := [.int x4]) hX (pc := 35) (wX4_laysWord V a y5 x4 y7 e8) lkX4_63 dcX4_laysWord ol_rr_X4_feed_X4_laysWord 0 rfl rfl ⟨Nat.le_refl _, Nat.le_refl _⟩ (Nat.le_of_ble_eq_true rfl) dX4_feed_35 rfl ?_
    refine ol_aload_n hX (pc := 38) dX4_feed_38 rfl rfl ?_
    refine ol_iload hX (pc := 39) dX4_feed_39 rfl ?_
    obtain ⟨y9, e10, h⟩ := ol_of_bd h
    refine ol_cVw (As := [.int x5]) hX (pc := 41) (wX4_laysWord V a y7 x5 y9 e10) lkX4_63 dcX4_laysWord ol_rr_X4_feed_X4_laysWord 0 rfl rfl ⟨Nat.le_refl _, Nat.le_refl _⟩ (Nat.le_of_ble_eq_true rfl) dX4_feed_41 rfl ?_
    refine ol_aload_n hX (pc := 44) dX4_feed_44 rfl rfl ?_
    refine ol_mg5 hX (pc := 45) dX4_feed_45 ?_
    have h := ol_of_some h
    subst h
    exact ol_iret hX (pc := 48) dX4_feed_48 ⟨rfl, rfl⟩ ⟨Nat.le_refl _, Nat.le_refl _⟩
  · have h := ol_ifn c11 h
    refine ol_iconst hX (pc := 15) (-1) dX4_feed_15 ol_k_iconst_m1 ?_
    have h := ol_of_some h
    subst h
    exact ol_iret hX (pc := 16) dX4_feed_16 ⟨rfl, rfl⟩ ⟨Nat.le_refl _, Nat.le_refl _⟩
set_option maxHeartbeats 4000000 in
theorem wX4_in (V : ol_Gh) (ws : va_W) (x1 : Int32) (x2 : Int32) (x3 : Int32)  (z : Int32) (h : oX4_in x1 x2 x3 = some z) : ol_Mt V yX4_in cX4_in 3 (some .boolean) ({ frames := 0, cells := 0, slots := 0, locals := 0 } : Room) false [.int x1, .int x2, .int x3] (ws) (ol_Pr (some (.int z))) := by
  refine ol_MtOf (L0 := [some (.int x1), some (.int x2), some (.int x3)]) (by decide) (Nat.le_of_ble_eq_true rfl) rfl (fun X A hX => ?_)
  unfold oX4_in at h
  refine ol_iload_n hX (pc := 0) dX4_in_0 rfl rfl ?_
  refine ol_iload_n hX (pc := 1) dX4_in_1 rfl rfl ?_
  refine ol_icmp_lt hX (pc := 2) 14 dX4_in_2 (by decide) (fun c2 => ?_) (fun c2 => ?_)
  · have h := ol_ifp c2 h
    refine ol_iconst hX (pc := 14) 0 dX4_in_14 ol_k_iconst_0 ?_
    have h := ol_of_some h
    subst h
    exact ol_zret hX (pc := 15) dX4_in_15 (by rfl) rfl ⟨Nat.le_refl _, Nat.le_refl _⟩
  · have h := ol_ifn c2 h
    refine ol_iload_n hX (pc := 5) dX4_in_5 rfl rfl ?_
    refine ol_iload_n hX (pc := 6) dX4_in_6 rfl rfl ?_
    refine ol_icmp_gt hX (pc := 7) 14 dX4_in_7 (by decide) (fun c1 => ?_) (fun c1 => ?_)
    · have h := ol_ifp c1 h
      refine ol_iconst hX (pc := 14) 0 dX4_in_14 ol_k_iconst_0 ?_
      have h := ol_of_some h
      subst h
      exact ol_zret hX (pc := 15) dX4_in_15 (by rfl) rfl ⟨Nat.le_refl _, Nat.le_refl _⟩
    · have h := ol_ifn c1 h
      refine ol_iconst hX (pc := 10) 1 dX4_in_10 ol_k_iconst_1 ?_
      refine ol_goto hX (pc := 11) 15 dX4_in_11 (by decide) ?_
      have h := ol_of_some h
      subst h
      exact ol_zret hX (pc := 15) dX4_in_15 (by rfl) rfl ⟨Nat.le_refl _, Nat.le_refl _⟩
set_option maxHeartbeats 4000000 in
theorem wX4_isRefused (V : ol_Gh) (a : Nat → Nat) (σ : ol_Mm) (x1 : Int32)  (z : Int32 × ol_Mm) (h : oX4_isRefused σ x1 = some z) : ol_Mt V yX4_isRefused cX4_isRefused 2 (some .boolean) ({ frames := 0, cells := 0, slots := 0, locals := 0 } : Room) true [.ref (a 0), .int x1] (ol_WM V a σ) (ol_Pw (some (.int z.1)) (ol_WM V a z.2)) := by
  refine ol_MtOf (L0 := [some (.ref (a 0)), some (.int x1)]) (by decide) (Nat.le_of_ble_eq_true rfl) rfl (fun X A hX => ?_)
  unfold oX4_isRefused at h
  refine ol_aload_n hX (pc := 0) dX4_isRefused_0 rfl rfl ?_
  refine ol_iconst hX (pc := 1) 0 dX4_isRefused_1 ol_k_iconst_0 ?_
  refine ol_mp0 hX (pc := 2) dX4_isRefused_2 ?_
  refine ol_aload_n hX (pc := 5) dX4_isRefused_5 rfl rfl ?_
  refine ol_iconst hX (pc := 6) (-1) dX4_isRefused_6 ol_k_iconst_m1 ?_
  refine ol_mp3 hX (pc := 7) dX4_isRefused_7 ?_
  refine ol_aload_n hX (pc := 10) dX4_isRefused_10 rfl rfl ?_
  refine ol_iload_n hX (pc := 11) dX4_isRefused_11 rfl rfl ?_
  refine ol_mp1 hX (pc := 12) dX4_isRefused_12 ?_
  refine ol_iload_n hX (pc := 15) dX4_isRefused_15 rfl rfl ?_
  refine ol_if_eq hX (pc := 16) 23 dX4_isRefused_16 (by decide) (fun c1 => ?_) (fun c1 => ?_)
  · have h := ol_ifp c1 h
    refine ol_iconst hX (pc := 23) 0 dX4_isRefused_23 ol_k_iconst_0 ?_
    have h := ol_of_some h
    subst h
    exact ol_zret hX (pc := 24) dX4_isRefused_24 (by rfl) ⟨rfl, rfl⟩ ⟨Nat.le_refl _, Nat.le_refl _⟩
  · have h := ol_ifn c1 h
    refine ol_iconst hX (pc := 19) 1 dX4_isRefused_19 ol_k_iconst_1 ?_
    refine ol_goto hX (pc := 20) 24 dX4_isRefused_20 (by decide) ?_
    have h := ol_of_some h
    subst h
    exact ol_zret hX (pc := 24) dX4_isRefused_24 (by rfl) ⟨rfl, rfl⟩ ⟨Nat.le_refl _, Nat.le_refl _⟩
set_option maxHeartbeats 4000000 in
theorem wX4_see (V : ol_Gh) (a : Nat → Nat) (σ : ol_Mm) (x1 : Int32)  (z : Int32) (h : oX4_see σ x1 = some z) : ol_Mt V yX4_see cX4_see 2 (some .int) ({ frames := 0, cells := 0, slots := 0, locals := 0 } : Room) false [.ref (a 0), .int x1] (ol_WM V a σ) (ol_Pr (some (.int z))) := by
  refine ol_MtOf (L0 := [some (.ref (a 0)), some (.int x1)]) (by decide) (Nat.le_of_ble_eq_true rfl) rfl (fun X A hX => ?_)
  unfold oX4_see at h
  refine ol_iload_n hX (pc := 0) dX4_see_0 rfl rfl ?_
  refine ol_aload_n hX (pc := 1) dX4_see_1 rfl rfl ?_
  refine ol_mg10 hX (pc := 2) dX4_see_2 ?_
  refine ol_icmp_ge hX (pc := 5) 17 dX4_see_5 (by decide) (fun c2 => ?_) (fun c2 => ?_)
  · have h := ol_ifp c2 h
    refine ol_iconst hX (pc := 17) (-1) dX4_see_17 ol_k_iconst_m1 ?_
    have h := ol_of_some h
    subst h
    exact ol_iret hX (pc := 18) dX4_see_18 rfl ⟨Nat.le_refl _, Nat.le_refl _⟩
  · have h := ol_ifn c2 h
    refine ol_aload_n hX (pc := 8) dX4_see_8 rfl rfl ?_
    refine ol_mg4 hX (pc := 9) dX4_see_9 ?_
    refine ol_iload_n hX (pc := 12) dX4_see_12 rfl rfl ?_
    obtain ⟨g1, h⟩ := ol_of_og h
    refine ol_ml1 hX (pc := 13) dX4_see_13 rfl (ol_in_vp g1) ?_
    refine ol_goto hX (pc := 14) 18 dX4_see_14 (by decide) ?_
    have h := ol_of_some h
    subst h
    exact ol_iret hX (pc := 18) dX4_see_18 rfl ⟨Nat.le_refl _, Nat.le_refl _⟩
set_option maxHeartbeats 4000000 in
theorem wX4_goesOn_L136 {X : ol_Cx} {V : ol_Gh} {A : Nat → Prop} {a : Nat → Nat} {z : ol_Mm} (hX : ol_CX X V A cX4_goesOn RX4 "goesOn" 2 none)     : ∀ (n : Nat), ∀ (σ : ol_Mm), oX4_goesOn_L136 n σ = some z → ol_G X V A true (ol_Pw none (ol_WM V a z)) ({ frames := 1, cells := 0, slots := 0, locals := 22 } : Room) 2 0 0 (ol_WM V a σ) 136 [some (.ref (a 0)), none] [] := by
  intro n
  induction n with
  | zero =>
    intro σ h
    exact ol_no h
  | succ n ih =>
    intro σ h
    rw [oX4_goesOn_L136] at h
    refine ol_aload_n hX (pc := 136) dX4_goesOn_136 rfl rfl ?_
    refine ol_aload_n hX (pc := 137) dX4_goesOn_137 rfl rfl ?_
    refine ol_mg12 hX (pc := 138) dX4_goesOn_138 ?_
    obtain ⟨y1, e2, h⟩ := ol_of_bd h
    refine ol_cVr (As := [.int (σ.1 0 12)]) hX (pc := 141) (wX4_see V a σ (σ.1 0 12) y1 e2) lkX4_73 dcX4_see ⟨rfl, rfl⟩ ol_rr_X4_goesOn_X4_see 0 rfl rfl (fun _ h => h) ⟨Nat.le_refl _, Nat.le_refl _⟩ (Nat.le_of_ble_eq_true rfl) dX4_goesOn_141 rfl ?_
    refine ol_bipush hX (pc := 144) 48 dX4_goesOn_144 ol_k_bipush_48 ?_
    refine ol_bipush hX (pc := 146) 57 dX4_goesOn_146 ol_k_bipush_57 ?_
    obtain ⟨y3, e4, h⟩ := ol_of_bd h
    refine ol_cSr (As := [.int y1, .int 48, .int 57]) hX (pc := 148) (wX4_in V (ol_WM V a σ) y1 48 57 y3 e4) lkX4_83 dcX4_in ⟨rfl, rfl⟩ ol_rr_X4_goesOn_X4_in (fun _ h => h) ⟨Nat.le_refl _, Nat.le_refl _⟩ (Nat.le_of_ble_eq_true rfl) dX4_goesOn_148 rfl ?_
    refine ol_if_eq hX (pc := 151) 210 dX4_goesOn_151 (by decide) (fun c9 => ?_) (fun c9 => ?_)
    · have h := ol_ifp c9 h
      refine ol_aload_n hX (pc := 210) dX4_goesOn_210 rfl rfl ?_
      refine ol_aload_n hX (pc := 211) dX4_goesOn_211 rfl rfl ?_
      refine ol_mg12 hX (pc := 212) dX4_goesOn_212 ?_
      refine ol_aload_n hX (pc := 215) dX4_goesOn_215 rfl rfl ?_
      refine ol_mg11 hX (pc := 216) dX4_goesOn_216 ?_
      refine ol_isub hX (pc := 219) dX4_goesOn_219 ?_
      refine ol_iconst hX (pc := 220) 3 dX4_goesOn_220 ol_k_iconst_3 ?_
      refine ol_icmp_le hX (pc := 221) 228 dX4_goesOn_221 (by decide) (fun c5 => ?_) (fun c5 => ?_)
      · have h := ol_ifp c5 h
        refine ol_iconst hX (pc := 228) 3 dX4_goesOn_228 ol_k_iconst_3 ?_
        refine ol_mp13 hX (pc := 229) dX4_goesOn_229 ?_
        have h := ol_of_some h
        subst h
        exact ol_vret hX (pc := 232) dX4_goesOn_232 ⟨rfl, rfl⟩ ⟨Nat.le_refl _, Nat.le_refl _⟩
      · have h := ol_ifn c5 h
        refine ol_iconst hX (pc := 224) 1 dX4_goesOn_224 ol_k_iconst_1 ?_
        refine ol_goto hX (pc := 225) 229 dX4_goesOn_225 (by decide) ?_
        refine ol_mp13 hX (pc := 229) dX4_goesOn_229 ?_
        have h := ol_of_some h
        subst h
        exact ol_vret hX (pc := 232) dX4_goesOn_232 ⟨rfl, rfl⟩ ⟨Nat.le_refl _, Nat.le_refl _⟩
    · have h := ol_ifn c9 h
      refine ol_aload_n hX (pc := 154) dX4_goesOn_154 rfl rfl ?_
      refine ol_aload_n hX (pc := 155) dX4_goesOn_155 rfl rfl ?_
      refine ol_mg12 hX (pc := 156) dX4_goesOn_156 ?_
      refine ol_aload_n hX (pc := 159) dX4_goesOn_159 rfl rfl ?_
      refine ol_mg11 hX (pc := 160) dX4_goesOn_160 ?_
      refine ol_isub hX (pc := 163) dX4_goesOn_163 ?_
      refine ol_iconst hX (pc := 164) 3 dX4_goesOn_164 ol_k_iconst_3 ?_
      refine ol_icmp_ge hX (pc := 165) 190 dX4_goesOn_165 (by decide) (fun c8 => ?_) (fun c8 => ?_)
      · have h := ol_ifp c8 h
        refine ol_aload_n hX (pc := 190) dX4_goesOn_190 rfl rfl ?_
        refine ol_mg14 hX (pc := 191) dX4_goesOn_191 ?_
        refine ol_mp14 hX (pc := 194) dX4_goesOn_194 ?_
        refine ol_aload_n hX (pc := 197) dX4_goesOn_197 rfl rfl ?_
        refine ol_dup hX (pc := 198) dX4_goesOn_198 rfl ?_
        refine ol_mg12 hX (pc := 199) dX4_goesOn_199 ?_
        refine ol_iconst hX (pc := 202) 1 dX4_goesOn_202 ol_k_iconst_1 ?_
        refine ol_iadd hX (pc := 203) dX4_goesOn_203 ?_
        refine ol_mp12 hX (pc := 204) dX4_goesOn_204 ?_
        refine ol_goto hX (pc := 207) 136 dX4_goesOn_207 (by decide) ?_
        exact ih (ol_ms (ol_ms σ 0 14 (σ.1 0 14)) 0 12 (((ol_ms σ 0 14 (σ.1 0 14)).1 0 12) + 1)) h
      · have h := ol_ifn c8 h
        refine ol_bipush hX (pc := 168) 10 dX4_goesOn_168 ol_k_bipush_10 ?_
        refine ol_aload_n hX (pc := 170) dX4_goesOn_170 rfl rfl ?_
        refine ol_mg14 hX (pc := 171) dX4_goesOn_171 ?_
        refine ol_imul hX (pc := 174) dX4_goesOn_174 ?_
        refine ol_aload_n hX (pc := 175) dX4_goesOn_175 rfl rfl ?_
        refine ol_aload_n hX (pc := 176) dX4_goesOn_176 rfl rfl ?_
        refine ol_mg12 hX (pc := 177) dX4_goesOn_177 ?_
        obtain ⟨y6, e7, h⟩ := ol_of_bd h
        refine ol_cVr (As := [.int (σ.1 0 12)]) hX (pc := 180) (wX4_see V a σ (σ.1 0 12) y6 e7) lkX4_73 dcX4_see ⟨rfl, rfl⟩ ol_rr_X4_goesOn_X4_see 0 rfl rfl (fun _ h => h) ⟨Nat.le_refl _, Nat.le_refl _⟩ (Nat.le_of_ble_eq_true rfl) dX4_goesOn_180 rfl ?_
        refine ol_iadd hX (pc := 183) dX4_goesOn_183 ?_
        refine ol_bipush hX (pc := 184) 48 dX4_goesOn_184 ol_k_bipush_48 ?_
        refine ol_isub hX (pc := 186) dX4_goesOn_186 ?_
        refine ol_goto hX (pc := 187) 194 dX4_goesOn_187 (by decide) ?_
        refine ol_mp14 hX (pc := 194) dX4_goesOn_194 ?_
        refine ol_aload_n hX (pc := 197) dX4_goesOn_197 rfl rfl ?_
        refine ol_dup hX (pc := 198) dX4_goesOn_198 rfl ?_
        refine ol_mg12 hX (pc := 199) dX4_goesOn_199 ?_
        refine ol_iconst hX (pc := 202) 1 dX4_goesOn_202 ol_k_iconst_1 ?_
        refine ol_iadd hX (pc := 203) dX4_goesOn_203 ?_
        refine ol_mp12 hX (pc := 204) dX4_goesOn_204 ?_
        refine ol_goto hX (pc := 207) 136 dX4_goesOn_207 (by decide) ?_
        exact ih (ol_ms (ol_ms σ 0 14 (((10 * (σ.1 0 14)) + y6) - 48)) 0 12 (((ol_ms σ 0 14 (((10 * (σ.1 0 14)) + y6) - 48)).1 0 12) + 1)) h
set_option maxHeartbeats 4000000 in
theorem wX4_goesOn_L65 {X : ol_Cx} {V : ol_Gh} {A : Nat → Prop} {a : Nat → Nat} {z : ol_Mm} (hX : ol_CX X V A cX4_goesOn RX4 "goesOn" 2 none)     : ∀ (n : Nat), ∀ (σ : ol_Mm), oX4_goesOn_L65 n σ = some z → ol_G X V A true (ol_Pw none (ol_WM V a z)) ({ frames := 1, cells := 0, slots := 0, locals := 22 } : Room) 2 0 0 (ol_WM V a σ) 65 [some (.ref (a 0)), none] [] := by
  intro n
  induction n with
  | zero =>
    intro σ h
    exact ol_no h
  | succ n ih =>
    intro σ h
    rw [oX4_goesOn_L65] at h
    refine ol_aload_n hX (pc := 65) dX4_goesOn_65 rfl rfl ?_
    refine ol_aload_n hX (pc := 66) dX4_goesOn_66 rfl rfl ?_
    refine ol_mg12 hX (pc := 67) dX4_goesOn_67 ?_
    obtain ⟨y1, e2, h⟩ := ol_of_bd h
    refine ol_cVr (As := [.int (σ.1 0 12)]) hX (pc := 70) (wX4_see V a σ (σ.1 0 12) y1 e2) lkX4_73 dcX4_see ⟨rfl, rfl⟩ ol_rr_X4_goesOn_X4_see 0 rfl rfl (fun _ h => h) ⟨Nat.le_refl _, Nat.le_refl _⟩ (Nat.le_of_ble_eq_true rfl) dX4_goesOn_70 rfl ?_
    refine ol_bipush hX (pc := 73) 97 dX4_goesOn_73 ol_k_bipush_97 ?_
    refine ol_bipush hX (pc := 75) 122 dX4_goesOn_75 ol_k_bipush_122 ?_
    obtain ⟨y3, e4, h⟩ := ol_of_bd h
    refine ol_cSr (As := [.int y1, .int 97, .int 122]) hX (pc := 77) (wX4_in V (ol_WM V a σ) y1 97 122 y3 e4) lkX4_83 dcX4_in ⟨rfl, rfl⟩ ol_rr_X4_goesOn_X4_in (fun _ h => h) ⟨Nat.le_refl _, Nat.le_refl _⟩ (Nat.le_of_ble_eq_true rfl) dX4_goesOn_77 rfl ?_
    refine ol_if_eq hX (pc := 80) 96 dX4_goesOn_80 (by decide) (fun c6 => ?_) (fun c6 => ?_)
    · have h := ol_ifp c6 h
      refine ol_aload_n hX (pc := 96) dX4_goesOn_96 rfl rfl ?_
      refine ol_aload_n hX (pc := 97) dX4_goesOn_97 rfl rfl ?_
      refine ol_mg12 hX (pc := 98) dX4_goesOn_98 ?_
      refine ol_aload_n hX (pc := 101) dX4_goesOn_101 rfl rfl ?_
      refine ol_mg11 hX (pc := 102) dX4_goesOn_102 ?_
      refine ol_isub hX (pc := 105) dX4_goesOn_105 ?_
      refine ol_bipush hX (pc := 106) 6 dX4_goesOn_106 ol_k_bipush_6 ?_
      refine ol_icmp_le hX (pc := 108) 115 dX4_goesOn_108 (by decide) (fun c5 => ?_) (fun c5 => ?_)
      · have h := ol_ifp c5 h
        refine ol_iconst hX (pc := 115) 2 dX4_goesOn_115 ol_k_iconst_2 ?_
        refine ol_mp13 hX (pc := 116) dX4_goesOn_116 ?_
        have h := ol_of_some h
        subst h
        exact ol_vret hX (pc := 119) dX4_goesOn_119 ⟨rfl, rfl⟩ ⟨Nat.le_refl _, Nat.le_refl _⟩
      · have h := ol_ifn c5 h
        refine ol_iconst hX (pc := 111) 1 dX4_goesOn_111 ol_k_iconst_1 ?_
        refine ol_goto hX (pc := 112) 116 dX4_goesOn_112 (by decide) ?_
        refine ol_mp13 hX (pc := 116) dX4_goesOn_116 ?_
        have h := ol_of_some h
        subst h
        exact ol_vret hX (pc := 119) dX4_goesOn_119 ⟨rfl, rfl⟩ ⟨Nat.le_refl _, Nat.le_refl _⟩
    · have h := ol_ifn c6 h
      refine ol_aload_n hX (pc := 83) dX4_goesOn_83 rfl rfl ?_
      refine ol_dup hX (pc := 84) dX4_goesOn_84 rfl ?_
      refine ol_mg12 hX (pc := 85) dX4_goesOn_85 ?_
      refine ol_iconst hX (pc := 88) 1 dX4_goesOn_88 ol_k_iconst_1 ?_
      refine ol_iadd hX (pc := 89) dX4_goesOn_89 ?_
      refine ol_mp12 hX (pc := 90) dX4_goesOn_90 ?_
      refine ol_goto hX (pc := 93) 65 dX4_goesOn_93 (by decide) ?_
      exact ih (ol_ms σ 0 12 ((σ.1 0 12) + 1)) h
set_option maxHeartbeats 4000000 in
theorem wX4_goesOn_L0 {X : ol_Cx} {V : ol_Gh} {A : Nat → Prop} {a : Nat → Nat} {z : ol_Mm} (hX : ol_CX X V A cX4_goesOn RX4 "goesOn" 2 none)     : ∀ (n : Nat), ∀ (σ : ol_Mm), oX4_goesOn_L0 n σ = some z → ol_G X V A true (ol_Pw none (ol_WM V a z)) ({ frames := 1, cells := 0, slots := 0, locals := 22 } : Room) 2 0 0 (ol_WM V a σ) 0 [some (.ref (a 0)), none] [] := by
  intro n
  induction n with
  | zero =>
    intro σ h
    exact ol_no h
  | succ n ih =>
    intro σ h
    rw [oX4_goesOn_L0] at h
    refine ol_aload_n hX (pc := 0) dX4_goesOn_0 rfl rfl ?_
    refine ol_aload_n hX (pc := 1) dX4_goesOn_1 rfl rfl ?_
    refine ol_mg12 hX (pc := 2) dX4_goesOn_2 ?_
    obtain ⟨y1, e2, h⟩ := ol_of_bd h
    refine ol_cVr (As := [.int (σ.1 0 12)]) hX (pc := 5) (wX4_see V a σ (σ.1 0 12) y1 e2) lkX4_73 dcX4_see ⟨rfl, rfl⟩ ol_rr_X4_goesOn_X4_see 0 rfl rfl (fun _ h => h) ⟨Nat.le_refl _, Nat.le_refl _⟩ (Nat.le_of_ble_eq_true rfl) dX4_goesOn_5 rfl ?_
    refine ol_bipush hX (pc := 8) 32 dX4_goesOn_8 ol_k_bipush_32 ?_
    refine ol_icmp_ne hX (pc := 10) 26 dX4_goesOn_10 (by decide) (fun c13 => ?_) (fun c13 => ?_)
    · have h := ol_ifn c13 h
      refine ol_aload_n hX (pc := 26) dX4_goesOn_26 rfl rfl ?_
      refine ol_aload_n hX (pc := 27) dX4_goesOn_27 rfl rfl ?_
      refine ol_mg12 hX (pc := 28) dX4_goesOn_28 ?_
      refine ol_mp11 hX (pc := 31) dX4_goesOn_31 ?_
      refine ol_aload_n hX (pc := 34) dX4_goesOn_34 rfl rfl ?_
      refine ol_aload_n hX (pc := 35) dX4_goesOn_35 rfl rfl ?_
      refine ol_mg12 hX (pc := 36) dX4_goesOn_36 ?_
      obtain ⟨y3, e4, h⟩ := ol_of_bd h
      refine ol_cVr (As := [.int ((ol_ms σ 0 11 (σ.1 0 12)).1 0 12)]) hX (pc := 39) (wX4_see V a (ol_ms σ 0 11 (σ.1 0 12)) ((ol_ms σ 0 11 (σ.1 0 12)).1 0 12) y3 e4) lkX4_73 dcX4_see ⟨rfl, rfl⟩ ol_rr_X4_goesOn_X4_see 0 rfl rfl (fun _ h => h) ⟨Nat.le_refl _, Nat.le_refl _⟩ (Nat.le_of_ble_eq_true rfl) dX4_goesOn_39 rfl ?_
      refine ol_istore_n hX (pc := 42) [some (.ref (a 0)), some (.int y3)] dX4_goesOn_42 rfl (by decide) rfl rfl ?_
      refine ol_iload_n hX (pc := 43) dX4_goesOn_43 rfl rfl ?_
      refine ol_iconst hX (pc := 44) (-1) dX4_goesOn_44 ol_k_iconst_m1 ?_
      refine ol_icmp_ne hX (pc := 45) 54 dX4_goesOn_45 (by decide) (fun c12 => ?_) (fun c12 => ?_)
      · have h := ol_ifn c12 h
        refine ol_iload_n hX (pc := 54) dX4_goesOn_54 rfl rfl ?_
        refine ol_bipush hX (pc := 55) 97 dX4_goesOn_55 ol_k_bipush_97 ?_
        refine ol_bipush hX (pc := 57) 122 dX4_goesOn_57 ol_k_bipush_122 ?_
        obtain ⟨y5, e6, h⟩ := ol_of_bd h
        refine ol_cSr (As := [.int y3, .int 97, .int 122]) hX (pc := 59) (wX4_in V (ol_WM V a (ol_ms σ 0 11 (σ.1 0 12))) y3 97 122 y5 e6) lkX4_83 dcX4_in ⟨rfl, rfl⟩ ol_rr_X4_goesOn_X4_in (fun _ h => h) ⟨Nat.le_refl _, Nat.le_refl _⟩ (Nat.le_of_ble_eq_true rfl) dX4_goesOn_59 rfl ?_
        refine ol_if_eq hX (pc := 62) 120 dX4_goesOn_62 (by decide) (fun c11 => ?_) (fun c11 => ?_)
        · have h := ol_ifp c11 h
          refine ol_iload_n hX (pc := 120) dX4_goesOn_120 rfl rfl ?_
          refine ol_bipush hX (pc := 121) 48 dX4_goesOn_121 ol_k_bipush_48 ?_
          refine ol_bipush hX (pc := 123) 57 dX4_goesOn_123 ol_k_bipush_57 ?_
          obtain ⟨y7, e8, h⟩ := ol_of_bd h
          refine ol_cSr (As := [.int y3, .int 48, .int 57]) hX (pc := 125) (wX4_in V (ol_WM V a (ol_ms σ 0 11 (σ.1 0 12))) y3 48 57 y7 e8) lkX4_83 dcX4_in ⟨rfl, rfl⟩ ol_rr_X4_goesOn_X4_in (fun _ h => h) ⟨Nat.le_refl _, Nat.le_refl _⟩ (Nat.le_of_ble_eq_true rfl) dX4_goesOn_125 rfl ?_
          refine ol_if_eq hX (pc := 128) 233 dX4_goesOn_128 (by decide) (fun c10 => ?_) (fun c10 => ?_)
          · have h := ol_ifp c10 h
            refine ol_aload_n hX (pc := 233) dX4_goesOn_233 rfl rfl ?_
            refine ol_dup hX (pc := 234) dX4_goesOn_234 rfl ?_
            refine ol_mg12 hX (pc := 235) dX4_goesOn_235 ?_
            refine ol_iconst hX (pc := 238) 1 dX4_goesOn_238 ol_k_iconst_1 ?_
            refine ol_iadd hX (pc := 239) dX4_goesOn_239 ?_
            refine ol_mp12 hX (pc := 240) dX4_goesOn_240 ?_
            refine ol_aload_n hX (pc := 243) dX4_goesOn_243 rfl rfl ?_
            refine ol_iload_n hX (pc := 244) dX4_goesOn_244 rfl rfl ?_
            refine ol_bipush hX (pc := 245) 59 dX4_goesOn_245 ol_k_bipush_59 ?_
            refine ol_icmp_ne hX (pc := 247) 254 dX4_goesOn_247 (by decide) (fun c9 => ?_) (fun c9 => ?_)
            · have h := ol_ifn c9 h
              refine ol_iconst hX (pc := 254) 1 dX4_goesOn_254 ol_k_iconst_1 ?_
              refine ol_mp13 hX (pc := 255) dX4_goesOn_255 ?_
              have h := ol_of_some h
              subst h
              exact ol_vret hX (pc := 258) dX4_goesOn_258 ⟨rfl, rfl⟩ ⟨Nat.le_refl _, Nat.le_refl _⟩
            · have h := ol_ifp c9 h
              refine ol_iload_n hX (pc := 250) dX4_goesOn_250 rfl rfl ?_
              refine ol_goto hX (pc := 251) 255 dX4_goesOn_251 (by decide) ?_
              refine ol_mp13 hX (pc := 255) dX4_goesOn_255 ?_
              have h := ol_of_some h
              subst h
              exact ol_vret hX (pc := 258) dX4_goesOn_258 ⟨rfl, rfl⟩ ⟨Nat.le_refl _, Nat.le_refl _⟩
          · have h := ol_ifn c10 h
            refine ol_aload_n hX (pc := 131) dX4_goesOn_131 rfl rfl ?_
            refine ol_iconst hX (pc := 132) 0 dX4_goesOn_132 ol_k_iconst_0 ?_
            refine ol_mp14 hX (pc := 133) dX4_goesOn_133 ?_
            refine ol_Gdrop 1 ?_
            exact wX4_goesOn_L136 hX ol_fuel (ol_ms (ol_ms σ 0 11 (σ.1 0 12)) 0 14 0) h
        · have h := ol_ifn c11 h
          refine ol_Gdrop 1 ?_
          exact wX4_goesOn_L65 hX ol_fuel (ol_ms σ 0 11 (σ.1 0 12)) h
      · have h := ol_ifp c12 h
        refine ol_aload_n hX (pc := 48) dX4_goesOn_48 rfl rfl ?_
        refine ol_iconst hX (pc := 49) 0 dX4_goesOn_49 ol_k_iconst_0 ?_
        refine ol_mp13 hX (pc := 50) dX4_goesOn_50 ?_
        have h := ol_of_some h
        subst h
        exact ol_vret hX (pc := 53) dX4_goesOn_53 ⟨rfl, rfl⟩ ⟨Nat.le_refl _, Nat.le_refl _⟩
    · have h := ol_ifp c13 h
      refine ol_aload_n hX (pc := 13) dX4_goesOn_13 rfl rfl ?_
      refine ol_dup hX (pc := 14) dX4_goesOn_14 rfl ?_
      refine ol_mg12 hX (pc := 15) dX4_goesOn_15 ?_
      refine ol_iconst hX (pc := 18) 1 dX4_goesOn_18 ol_k_iconst_1 ?_
      refine ol_iadd hX (pc := 19) dX4_goesOn_19 ?_
      refine ol_mp12 hX (pc := 20) dX4_goesOn_20 ?_
      refine ol_goto hX (pc := 23) 0 dX4_goesOn_23 (by decide) ?_
      exact ih (ol_ms σ 0 12 ((σ.1 0 12) + 1)) h
set_option maxHeartbeats 4000000 in
theorem wX4_goesOn (V : ol_Gh) (a : Nat → Nat) (σ : ol_Mm)  (z : ol_Mm) (h : oX4_goesOn σ = some z) : ol_Mt V yX4_goesOn cX4_goesOn 2 none ({ frames := 1, cells := 0, slots := 0, locals := 22 } : Room) true [.ref (a 0)] (ol_WM V a σ) (ol_Pw none (ol_WM V a z)) := by
  refine ol_MtOf (L0 := [some (.ref (a 0)), none]) (by decide) (Nat.le_of_ble_eq_true rfl) rfl (fun X A hX => ?_)
  unfold oX4_goesOn at h
  exact wX4_goesOn_L0 hX ol_fuel σ h
set_option maxHeartbeats 4000000 in
theorem wX4_isWord_L28 {X : ol_Cx} {V : ol_Gh} {A : Nat → Prop} {a : Nat → Nat} {z : Int32} (hX : ol_CX X V A cX4_isWord RX4 "isWord" 3 (some .boolean)) (σ : ol_Mm) (x1 : Nat)    : ∀ (n : Nat), ∀ (v2 : Int32), oX4_isWord_L28 σ x1 n v2 = some z → ol_G X V A false (ol_Pr (some (.int z))) ({ frames := 4, cells := 0, slots := 0, locals := 85 } : Room) 3 0 0 (ol_WM V a σ) 28 [some (.ref (a 0)), some (.ref (ol_sa V 0 x1)), some (.int v2)] [] := by
  intro n
  induction n with
  | zero =>
    intro v2 h
    exact ol_no h
  | succ n ih =>
    intro v2 h
    rw [oX4_isWord_L28] at h
    refine ol_iload_n hX (pc := 28) dX4_isWord_28 rfl rfl ?_
    refine ol_aload_n hX (pc := 29) dX4_isWord_29 rfl rfl ?_
    obtain ⟨g1, h⟩ := ol_of_og h
    obtain ⟨adV, hS⟩ := hX.str (k := 0) (i := x1) (by decide) (of_decide_eq_true g1)
    refine ol_cVo (As := []) hX (pc := 30) (wJ6_length V (ol_WM V a σ) 0 x1 (by decide) (of_decide_eq_true g1)) lkX4_90 dcJ6_length ⟨rfl, rfl⟩ ⟨Nat.le_of_ble_eq_true rfl, Nat.le_of_ble_eq_true rfl⟩ (fun H locs h => vk_recv (i := 0) hS (by decide) h) (fun _ h => h) ⟨Nat.le_refl _, Nat.le_refl _⟩ (Nat.le_of_ble_eq_true rfl) dX4_isWord_30 rfl ?_
    refine ol_icmp_ge hX (pc := 33) 63 dX4_isWord_33 (by decide) (fun c6 => ?_) (fun c6 => ?_)
    · have h := ol_ifp c6 h
      refine ol_iconst hX (pc := 63) 1 dX4_isWord_63 ol_k_iconst_1 ?_
      have h := ol_of_some h
      subst h
      exact ol_zret hX (pc := 64) dX4_isWord_64 (by rfl) rfl ⟨Nat.le_refl _, Nat.le_refl _⟩
    · have h := ol_ifn c6 h
      refine ol_aload_n hX (pc := 36) dX4_isWord_36 rfl rfl ?_
      refine ol_mg4 hX (pc := 37) dX4_isWord_37 ?_
      refine ol_aload_n hX (pc := 40) dX4_isWord_40 rfl rfl ?_
      refine ol_mg11 hX (pc := 41) dX4_isWord_41 ?_
      refine ol_iload_n hX (pc := 44) dX4_isWord_44 rfl rfl ?_
      refine ol_iadd hX (pc := 45) dX4_isWord_45 ?_
      obtain ⟨g2, h⟩ := ol_of_og h
      refine ol_ml1 hX (pc := 46) dX4_isWord_46 rfl (ol_in_vp g2) ?_
      refine ol_aload_n hX (pc := 47) dX4_isWord_47 rfl rfl ?_
      refine ol_iload_n hX (pc := 48) dX4_isWord_48 rfl rfl ?_
      obtain ⟨g3, h⟩ := ol_of_og h
      obtain ⟨g4, h⟩ := ol_of_og h
      obtain ⟨adV, hS⟩ := hX.str (k := 0) (i := x1) (by decide) (of_decide_eq_true g3)
      refine ol_cVo (As := [.int v2]) hX (pc := 49) (wJ6_charAtI V (ol_WM V a σ) 0 x1 v2 (by decide) (of_decide_eq_true g3) g4) lkX4_96 dcJ6_charAt ⟨rfl, rfl⟩ ⟨Nat.le_of_ble_eq_true rfl, Nat.le_of_ble_eq_true rfl⟩ (fun H locs h => vk_recv (i := 0) hS (by decide) h) (fun _ h => h) ⟨Nat.le_refl _, Nat.le_refl _⟩ (Nat.le_of_ble_eq_true rfl) dX4_isWord_49 rfl ?_
      refine ol_icmp_eq hX (pc := 52) 57 dX4_isWord_52 (by decide) (fun c5 => ?_) (fun c5 => ?_)
      · have h := ol_ifp c5 h
        refine ol_iinc hX (pc := 57) (v2 + 1) [some (.ref (a 0)), some (.ref (ol_sa V 0 x1)), some (.int (v2 + 1))] dX4_isWord_57 rfl (ol_k_iinc_1 _) (by decide) rfl rfl ?_
        refine ol_goto hX (pc := 60) 28 dX4_isWord_60 (by decide) ?_
        exact ih (v2 + 1) h
      · have h := ol_ifn c5 h
        refine ol_iconst hX (pc := 55) 0 dX4_isWord_55 ol_k_iconst_0 ?_
        have h := ol_of_some h
        subst h
        exact ol_zret hX (pc := 56) dX4_isWord_56 (by rfl) rfl ⟨Nat.le_refl _, Nat.le_refl _⟩
set_option maxHeartbeats 4000000 in
theorem wX4_isWord (V : ol_Gh) (a : Nat → Nat) (σ : ol_Mm) (x1 : Nat)  (z : Int32) (h : oX4_isWord σ x1 = some z) : ol_Mt V yX4_isWord cX4_isWord 3 (some .boolean) ({ frames := 4, cells := 0, slots := 0, locals := 85 } : Room) false [.ref (a 0), .ref (ol_sa V 0 x1)] (ol_WM V a σ) (ol_Pr (some (.int z))) := by
  refine ol_MtOf (L0 := [some (.ref (a 0)), some (.ref (ol_sa V 0 x1)), none]) (by decide) (Nat.le_of_ble_eq_true rfl) rfl (fun X A hX => ?_)
  unfold oX4_isWord at h
  refine ol_aload_n hX (pc := 0) dX4_isWord_0 rfl rfl ?_
  refine ol_mg13 hX (pc := 1) dX4_isWord_1 ?_
  refine ol_iconst hX (pc := 4) 2 dX4_isWord_4 ol_k_iconst_2 ?_
  refine ol_icmp_ne hX (pc := 5) 24 dX4_isWord_5 (by decide) (fun c3 => ?_) (fun c3 => ?_)
  · have h := ol_ifn c3 h
    refine ol_iconst hX (pc := 24) 0 dX4_isWord_24 ol_k_iconst_0 ?_
    have h := ol_of_some h
    subst h
    exact ol_zret hX (pc := 25) dX4_isWord_25 (by rfl) rfl ⟨Nat.le_refl _, Nat.le_refl _⟩
  · have h := ol_ifp c3 h
    refine ol_aload_n hX (pc := 8) dX4_isWord_8 rfl rfl ?_
    refine ol_mg12 hX (pc := 9) dX4_isWord_9 ?_
    refine ol_aload_n hX (pc := 12) dX4_isWord_12 rfl rfl ?_
    refine ol_mg11 hX (pc := 13) dX4_isWord_13 ?_
    refine ol_isub hX (pc := 16) dX4_isWord_16 ?_
    refine ol_aload_n hX (pc := 17) dX4_isWord_17 rfl rfl ?_
    obtain ⟨g1, h⟩ := ol_of_og h
    obtain ⟨adV, hS⟩ := hX.str (k := 0) (i := x1) (by decide) (of_decide_eq_true g1)
    refine ol_cVo (As := []) hX (pc := 18) (wJ6_length V (ol_WM V a σ) 0 x1 (by decide) (of_decide_eq_true g1)) lkX4_90 dcJ6_length ⟨rfl, rfl⟩ ⟨Nat.le_of_ble_eq_true rfl, Nat.le_of_ble_eq_true rfl⟩ (fun H locs h => vk_recv (i := 0) hS (by decide) h) (fun _ h => h) ⟨Nat.le_refl _, Nat.le_refl _⟩ (Nat.le_of_ble_eq_true rfl) dX4_isWord_18 rfl ?_
    refine ol_icmp_eq hX (pc := 21) 26 dX4_isWord_21 (by decide) (fun c2 => ?_) (fun c2 => ?_)
    · have h := ol_ifp c2 h
      refine ol_iconst hX (pc := 26) 0 dX4_isWord_26 ol_k_iconst_0 ?_
      refine ol_istore_n hX (pc := 27) [some (.ref (a 0)), some (.ref (ol_sa V 0 x1)), some (.int 0)] dX4_isWord_27 rfl (by decide) rfl rfl ?_
      exact wX4_isWord_L28 hX σ x1 ol_fuel 0 h
    · have h := ol_ifn c2 h
      refine ol_iconst hX (pc := 24) 0 dX4_isWord_24 ol_k_iconst_0 ?_
      have h := ol_of_some h
      subst h
      exact ol_zret hX (pc := 25) dX4_isWord_25 (by rfl) rfl ⟨Nat.le_refl _, Nat.le_refl _⟩
set_option maxHeartbeats 4000000 in
theorem wX4_errs (V : ol_Gh) (a : Nat → Nat) (σ : ol_Mm) (x1 : Int32)  (z : Int32 × ol_Mm) (h : oX4_errs σ x1 = some z) : ol_Mt V yX4_errs cX4_errs 2 (some .boolean) ({ frames := 0, cells := 0, slots := 0, locals := 0 } : Room) true [.ref (a 0), .int x1] (ol_WM V a σ) (ol_Pw (some (.int z.1)) (ol_WM V a z.2)) := by
  refine ol_MtOf (L0 := [some (.ref (a 0)), some (.int x1)]) (by decide) (Nat.le_of_ble_eq_true rfl) rfl (fun X A hX => ?_)
  unfold oX4_errs at h
  refine ol_aload_n hX (pc := 0) dX4_errs_0 rfl rfl ?_
  refine ol_iload_n hX (pc := 1) dX4_errs_1 rfl rfl ?_
  refine ol_mp15 hX (pc := 2) dX4_errs_2 ?_
  refine ol_aload_n hX (pc := 5) dX4_errs_5 rfl rfl ?_
  refine ol_aload_n hX (pc := 6) dX4_errs_6 rfl rfl ?_
  refine ol_mg11 hX (pc := 7) dX4_errs_7 ?_
  refine ol_mp16 hX (pc := 10) dX4_errs_10 ?_
  refine ol_iconst hX (pc := 13) 0 dX4_errs_13 ol_k_iconst_0 ?_
  have h := ol_of_some h
  subst h
  exact ol_zret hX (pc := 14) dX4_errs_14 (by rfl) ⟨rfl, rfl⟩ ⟨Nat.le_refl _, Nat.le_refl _⟩
set_option maxHeartbeats 4000000 in
theorem wX4_lays (V : ol_Gh) (a : Nat → Nat) (σ : ol_Mm) (x1 : Int32) (x2 : Int32) (x3 : Int32)  (z : Int32 × ol_Mm) (h : oX4_lays σ x1 x2 x3 = some z) : ol_Mt V yX4_lays cX4_lays 4 (some .boolean) ({ frames := 2, cells := 0, slots := 0, locals := 43 } : Room) true [.ref (a 0), .int x1, .int x2, .int x3] (ol_WM V a σ) (ol_Pw (some (.int z.1)) (ol_WM V a z.2)) := by
  refine ol_MtOf (L0 := [some (.ref (a 0)), some (.int x1), some (.int x2), some (.int x3)]) (by decide) (Nat.le_of_ble_eq_true rfl) rfl (fun X A hX => ?_)
  unfold oX4_lays at h
  refine ol_aload_n hX (pc := 0) dX4_lays_0 rfl rfl ?_
  refine ol_mg13 hX (pc := 1) dX4_lays_1 ?_
  refine ol_iconst hX (pc := 4) 3 dX4_lays_4 ol_k_iconst_3 ?_
  refine ol_icmp_eq hX (pc := 5) 14 dX4_lays_5 (by decide) (fun c11 => ?_) (fun c11 => ?_)
  · have h := ol_ifp c11 h
    refine ol_aload_n hX (pc := 14) dX4_lays_14 rfl rfl ?_
    refine ol_mg14 hX (pc := 15) dX4_lays_15 ?_
    refine ol_iload_n hX (pc := 18) dX4_lays_18 rfl rfl ?_
    refine ol_iload_n hX (pc := 19) dX4_lays_19 rfl rfl ?_
    obtain ⟨y1, e2, h⟩ := ol_of_bd h
    refine ol_cSr (As := [.int (σ.1 0 14), .int x2, .int x3]) hX (pc := 20) (wX4_in V (ol_WM V a σ) (σ.1 0 14) x2 x3 y1 e2) lkX4_83 dcX4_in ⟨rfl, rfl⟩ ol_rr_X4_lays_X4_in (fun _ h => h) ⟨Nat.le_refl _, Nat.le_refl _⟩ (Nat.le_of_ble_eq_true rfl) dX4_lays_20 rfl ?_
    refine ol_if_ne hX (pc := 23) 32 dX4_lays_23 (by decide) (fun c8 => ?_) (fun c8 => ?_)
    · have h := ol_ifn c8 h
      refine ol_aload_n hX (pc := 32) dX4_lays_32 rfl rfl ?_
      refine ol_mg7 hX (pc := 33) dX4_lays_33 ?_
      refine ol_iload_n hX (pc := 36) dX4_lays_36 rfl rfl ?_
      refine ol_aload_n hX (pc := 37) dX4_lays_37 rfl rfl ?_
      refine ol_mg14 hX (pc := 38) dX4_lays_38 ?_
      obtain ⟨g3, h⟩ := ol_of_og h
      refine ol_ms3 hX (pc := 41) dX4_lays_41 rfl (ol_in_vp g3) ?_
      refine ol_aload_n hX (pc := 42) dX4_lays_42 rfl rfl ?_
      obtain ⟨y4, e5, h⟩ := ol_of_bd h
      refine ol_cVw (As := []) hX (pc := 43) (wX4_goesOn V a (ol_ms σ 3 x1.toNatClampNeg (σ.1 0 14)) y4 e5) lkX4_110 dcX4_goesOn ol_rr_X4_lays_X4_goesOn 0 rfl rfl ⟨Nat.le_refl _, Nat.le_refl _⟩ (Nat.le_of_ble_eq_true rfl) dX4_lays_43 rfl ?_
      refine ol_iconst hX (pc := 46) 1 dX4_lays_46 ol_k_iconst_1 ?_
      have h := ol_of_some h
      subst h
      exact ol_zret hX (pc := 47) dX4_lays_47 (by rfl) ⟨rfl, rfl⟩ ⟨Nat.le_refl _, Nat.le_refl _⟩
    · have h := ol_ifp c8 h
      refine ol_aload_n hX (pc := 26) dX4_lays_26 rfl rfl ?_
      refine ol_iconst hX (pc := 27) 4 dX4_lays_27 ol_k_iconst_4 ?_
      obtain ⟨y6, e7, h⟩ := ol_of_bd h
      refine ol_cVw (As := [.int 4]) hX (pc := 28) (wX4_errs V a σ 4 y6 e7) lkX4_106 dcX4_errs ol_rr_X4_lays_X4_errs 0 rfl rfl ⟨Nat.le_refl _, Nat.le_refl _⟩ (Nat.le_of_ble_eq_true rfl) dX4_lays_28 rfl ?_
      obtain ⟨gz, h⟩ := ol_of_og h
      have h := ol_of_some h
      subst h
      exact ol_zret hX (pc := 31) dX4_lays_31 (ol_zb_nar gz) ⟨rfl, rfl⟩ ⟨Nat.le_refl _, Nat.le_refl _⟩
  · have h := ol_ifn c11 h
    refine ol_aload_n hX (pc := 8) dX4_lays_8 rfl rfl ?_
    refine ol_iconst hX (pc := 9) 1 dX4_lays_9 ol_k_iconst_1 ?_
    obtain ⟨y9, e10, h⟩ := ol_of_bd h
    refine ol_cVw (As := [.int 1]) hX (pc := 10) (wX4_errs V a σ 1 y9 e10) lkX4_106 dcX4_errs ol_rr_X4_lays_X4_errs 0 rfl rfl ⟨Nat.le_refl _, Nat.le_refl _⟩ (Nat.le_of_ble_eq_true rfl) dX4_lays_10 rfl ?_
    obtain ⟨gz, h⟩ := ol_of_og h
    have h := ol_of_some h
    subst h
    exact ol_zret hX (pc := 13) dX4_lays_13 (ol_zb_nar gz) ⟨rfl, rfl⟩ ⟨Nat.le_refl _, Nat.le_refl _⟩
set_option maxHeartbeats 4000000 in
theorem wX4_after (V : ol_Gh) (a : Nat → Nat) (σ : ol_Mm) (x1 : Nat) (x2 : Int32) (x3 : Int32) (x4 : Int32)  (z : Int32 × ol_Mm) (h : oX4_after σ x1 x2 x3 x4 = some z) : ol_Mt V yX4_after cX4_after 5 (some .boolean) ({ frames := 5, cells := 0, slots := 0, locals := 107 } : Room) true [.ref (a 0), .ref (ol_sa V 0 x1), .int x2, .int x3, .int x4] (ol_WM V a σ) (ol_Pw (some (.int z.1)) (ol_WM V a z.2)) := by
  refine ol_MtOf (L0 := [some (.ref (a 0)), some (.ref (ol_sa V 0 x1)), some (.int x2), some (.int x3), some (.int x4)]) (by decide) (Nat.le_of_ble_eq_true rfl) rfl (fun X A hX => ?_)
  unfold oX4_after at h
  refine ol_aload_n hX (pc := 0) dX4_after_0 rfl rfl ?_
  refine ol_aload_n hX (pc := 1) dX4_after_1 rfl rfl ?_
  obtain ⟨y1, e2, h⟩ := ol_of_bd h
  refine ol_cVr (As := [.ref (ol_sa V 0 x1)]) hX (pc := 2) (wX4_isWord V a σ x1 y1 e2) lkX4_113 dcX4_isWord ⟨rfl, rfl⟩ ol_rr_X4_after_X4_isWord 0 rfl rfl (fun _ h => h) ⟨Nat.le_refl _, Nat.le_refl _⟩ (Nat.le_of_ble_eq_true rfl) dX4_after_2 rfl ?_
  refine ol_if_ne hX (pc := 5) 14 dX4_after_5 (by decide) (fun c9 => ?_) (fun c9 => ?_)
  · have h := ol_ifn c9 h
    refine ol_aload_n hX (pc := 14) dX4_after_14 rfl rfl ?_
    obtain ⟨y3, e4, h⟩ := ol_of_bd h
    refine ol_cVw (As := []) hX (pc := 15) (wX4_goesOn V a σ y3 e4) lkX4_110 dcX4_goesOn ol_rr_X4_after_X4_goesOn 0 rfl rfl ⟨Nat.le_refl _, Nat.le_refl _⟩ (Nat.le_of_ble_eq_true rfl) dX4_after_15 rfl ?_
    refine ol_aload_n hX (pc := 18) dX4_after_18 rfl rfl ?_
    refine ol_iload_n hX (pc := 19) dX4_after_19 rfl rfl ?_
    refine ol_iload_n hX (pc := 20) dX4_after_20 rfl rfl ?_
    refine ol_iload hX (pc := 21) dX4_after_21 rfl ?_
    obtain ⟨y5, e6, h⟩ := ol_of_bd h
    refine ol_cVw (As := [.int x2, .int x3, .int x4]) hX (pc := 23) (wX4_lays V a y3 x2 x3 x4 y5 e6) lkX4_117 dcX4_lays ol_rr_X4_after_X4_lays 0 rfl rfl ⟨Nat.le_refl _, Nat.le_refl _⟩ (Nat.le_of_ble_eq_true rfl) dX4_after_23 rfl ?_
    obtain ⟨gz, h⟩ := ol_of_og h
    have h := ol_of_some h
    subst h
    exact ol_zret hX (pc := 26) dX4_after_26 (ol_zb_nar gz) ⟨rfl, rfl⟩ ⟨Nat.le_refl _, Nat.le_refl _⟩
  · have h := ol_ifp c9 h
    refine ol_aload_n hX (pc := 8) dX4_after_8 rfl rfl ?_
    refine ol_iconst hX (pc := 9) 1 dX4_after_9 ol_k_iconst_1 ?_
    obtain ⟨y7, e8, h⟩ := ol_of_bd h
    refine ol_cVw (As := [.int 1]) hX (pc := 10) (wX4_errs V a σ 1 y7 e8) lkX4_106 dcX4_errs ol_rr_X4_after_X4_errs 0 rfl rfl ⟨Nat.le_refl _, Nat.le_refl _⟩ (Nat.le_of_ble_eq_true rfl) dX4_after_10 rfl ?_
    obtain ⟨gz, h⟩ := ol_of_og h
    have h := ol_of_some h
    subst h
    exact ol_zret hX (pc := 13) dX4_after_13 (ol_zb_nar gz) ⟨rfl, rfl⟩ ⟨Nat.le_refl _, Nat.le_refl _⟩
set_option maxHeartbeats 4000000 in
theorem wX4_readBus (V : ol_Gh) (a : Nat → Nat) (σ : ol_Mm)  (z : Int32 × ol_Mm) (h : oX4_readBus σ = some z) : ol_Mt V yX4_readBus cX4_readBus 1 (some .boolean) ({ frames := 6, cells := 0, slots := 0, locals := 131 } : Room) true [.ref (a 0)] (ol_WM V a σ) (ol_Pw (some (.int z.1)) (ol_WM V a z.2)) := by
  refine ol_MtOf (L0 := [some (.ref (a 0))]) (by decide) (Nat.le_of_ble_eq_true rfl) rfl (fun X A hX => ?_)
  unfold oX4_readBus at h
  refine ol_aload_n hX (pc := 0) dX4_readBus_0 rfl rfl ?_
  refine ol_mg17 hX (pc := 1) dX4_readBus_1 ?_
  refine ol_if_eq hX (pc := 4) 13 dX4_readBus_4 (by decide) (fun c14 => ?_) (fun c14 => ?_)
  · have h := ol_ifp c14 h
    refine ol_aload_n hX (pc := 13) dX4_readBus_13 rfl rfl ?_
    obtain ⟨y1, e2, h⟩ := ol_of_bd h
    refine ol_cVw (As := []) hX (pc := 14) (wX4_goesOn V a σ y1 e2) lkX4_110 dcX4_goesOn ol_rr_X4_readBus_X4_goesOn 0 rfl rfl ⟨Nat.le_refl _, Nat.le_refl _⟩ (Nat.le_of_ble_eq_true rfl) dX4_readBus_14 rfl ?_
    refine ol_aload_n hX (pc := 17) dX4_readBus_17 rfl rfl ?_
    refine ol_aload_n hX (pc := 18) dX4_readBus_18 rfl rfl ?_
    refine ol_ldcS hX (pc := 19) 0 1 (by decide) (by decide) q2286 rfl rfl dX4_readBus_19 ?_
    refine ol_iconst hX (pc := 21) 0 dX4_readBus_21 ol_k_iconst_0 ?_
    refine ol_iconst hX (pc := 22) 1 dX4_readBus_22 ol_k_iconst_1 ?_
    refine ol_iconst hX (pc := 23) 3 dX4_readBus_23 ol_k_iconst_3 ?_
    obtain ⟨y3, e4, h⟩ := ol_of_bd h
    refine ol_cVw (As := [.ref (ol_sa V 0 1), .int 0, .int 1, .int 3]) hX (pc := 24) (wX4_after V a y1 1 0 1 3 y3 e4) lkX4_140 dcX4_after ol_rr_X4_readBus_X4_after 0 rfl rfl ⟨Nat.le_refl _, Nat.le_refl _⟩ (Nat.le_of_ble_eq_true rfl) dX4_readBus_24 rfl ?_
    refine ol_if_eq hX (pc := 27) 61 dX4_readBus_27 (by decide) (fun c11 => ?_) (fun c11 => ?_)
    · have h := ol_ifp c11 h
      refine ol_iconst hX (pc := 61) 0 dX4_readBus_61 ol_k_iconst_0 ?_
      refine ol_mp17 hX (pc := 62) dX4_readBus_62 (by rfl) ?_
      refine ol_aload_n hX (pc := 65) dX4_readBus_65 rfl rfl ?_
      refine ol_mg17 hX (pc := 66) dX4_readBus_66 ?_
      obtain ⟨gz, h⟩ := ol_of_og h
      have h := ol_of_some h
      subst h
      exact ol_zret hX (pc := 69) dX4_readBus_69 (ol_zb_nar gz) ⟨rfl, rfl⟩ ⟨Nat.le_refl _, Nat.le_refl _⟩
    · have h := ol_ifn c11 h
      refine ol_aload_n hX (pc := 30) dX4_readBus_30 rfl rfl ?_
      refine ol_ldcS hX (pc := 31) 0 2 (by decide) (by decide) q2295 rfl rfl dX4_readBus_31 ?_
      refine ol_iconst hX (pc := 33) 1 dX4_readBus_33 ol_k_iconst_1 ?_
      refine ol_iconst hX (pc := 34) 0 dX4_readBus_34 ol_k_iconst_0 ?_
      refine ol_bipush hX (pc := 35) 20 dX4_readBus_35 ol_k_bipush_20 ?_
      obtain ⟨y5, e6, h⟩ := ol_of_bd h
      refine ol_cVw (As := [.ref (ol_sa V 0 2), .int 1, .int 0, .int 20]) hX (pc := 37) (wX4_after V a y3.2 2 1 0 20 y5 e6) lkX4_140 dcX4_after ol_rr_X4_readBus_X4_after 0 rfl rfl ⟨Nat.le_refl _, Nat.le_refl _⟩ (Nat.le_of_ble_eq_true rfl) dX4_readBus_37 rfl ?_
      refine ol_if_eq hX (pc := 40) 61 dX4_readBus_40 (by decide) (fun c10 => ?_) (fun c10 => ?_)
      · have h := ol_ifp c10 h
        refine ol_iconst hX (pc := 61) 0 dX4_readBus_61 ol_k_iconst_0 ?_
        refine ol_mp17 hX (pc := 62) dX4_readBus_62 (by rfl) ?_
        refine ol_aload_n hX (pc := 65) dX4_readBus_65 rfl rfl ?_
        refine ol_mg17 hX (pc := 66) dX4_readBus_66 ?_
        obtain ⟨gz, h⟩ := ol_of_og h
        have h := ol_of_some h
        subst h
        exact ol_zret hX (pc := 69) dX4_readBus_69 (ol_zb_nar gz) ⟨rfl, rfl⟩ ⟨Nat.le_refl _, Nat.le_refl _⟩
      · have h := ol_ifn c10 h
        refine ol_aload_n hX (pc := 43) dX4_readBus_43 rfl rfl ?_
        refine ol_ldcS hX (pc := 44) 0 3 (by decide) (by decide) q2296 rfl rfl dX4_readBus_44 ?_
        refine ol_iconst hX (pc := 46) 2 dX4_readBus_46 ol_k_iconst_2 ?_
        refine ol_iconst hX (pc := 47) 1 dX4_readBus_47 ol_k_iconst_1 ?_
        refine ol_sipush hX (pc := 48) 200 dX4_readBus_48 ol_k_sipush_200 ?_
        obtain ⟨y7, e8, h⟩ := ol_of_bd h
        refine ol_cVw (As := [.ref (ol_sa V 0 3), .int 2, .int 1, .int 200]) hX (pc := 51) (wX4_after V a y5.2 3 2 1 200 y7 e8) lkX4_140 dcX4_after ol_rr_X4_readBus_X4_after 0 rfl rfl ⟨Nat.le_refl _, Nat.le_refl _⟩ (Nat.le_of_ble_eq_true rfl) dX4_readBus_51 rfl ?_
        refine ol_if_eq hX (pc := 54) 61 dX4_readBus_54 (by decide) (fun c9 => ?_) (fun c9 => ?_)
        · have h := ol_ifp c9 h
          refine ol_iconst hX (pc := 61) 0 dX4_readBus_61 ol_k_iconst_0 ?_
          refine ol_mp17 hX (pc := 62) dX4_readBus_62 (by rfl) ?_
          refine ol_aload_n hX (pc := 65) dX4_readBus_65 rfl rfl ?_
          refine ol_mg17 hX (pc := 66) dX4_readBus_66 ?_
          obtain ⟨gz, h⟩ := ol_of_og h
          have h := ol_of_some h
          subst h
          exact ol_zret hX (pc := 69) dX4_readBus_69 (ol_zb_nar gz) ⟨rfl, rfl⟩ ⟨Nat.le_refl _, Nat.le_refl _⟩
        · have h := ol_ifn c9 h
          refine ol_iconst hX (pc := 57) 1 dX4_readBus_57 ol_k_iconst_1 ?_
          refine ol_goto hX (pc := 58) 62 dX4_readBus_58 (by decide) ?_
          refine ol_mp17 hX (pc := 62) dX4_readBus_62 (by rfl) ?_
          refine ol_aload_n hX (pc := 65) dX4_readBus_65 rfl rfl ?_
          refine ol_mg17 hX (pc := 66) dX4_readBus_66 ?_
          obtain ⟨gz, h⟩ := ol_of_og h
          have h := ol_of_some h
          subst h
          exact ol_zret hX (pc := 69) dX4_readBus_69 (ol_zb_nar gz) ⟨rfl, rfl⟩ ⟨Nat.le_refl _, Nat.le_refl _⟩
  · have h := ol_ifn c14 h
    refine ol_aload_n hX (pc := 7) dX4_readBus_7 rfl rfl ?_
    refine ol_iconst hX (pc := 8) 3 dX4_readBus_8 ol_k_iconst_3 ?_
    obtain ⟨y12, e13, h⟩ := ol_of_bd h
    refine ol_cVw (As := [.int 3]) hX (pc := 9) (wX4_errs V a σ 3 y12 e13) lkX4_106 dcX4_errs ol_rr_X4_readBus_X4_errs 0 rfl rfl ⟨Nat.le_refl _, Nat.le_refl _⟩ (Nat.le_of_ble_eq_true rfl) dX4_readBus_9 rfl ?_
    obtain ⟨gz, h⟩ := ol_of_og h
    have h := ol_of_some h
    subst h
    exact ol_zret hX (pc := 12) dX4_readBus_12 (ol_zb_nar gz) ⟨rfl, rfl⟩ ⟨Nat.le_refl _, Nat.le_refl _⟩
set_option maxHeartbeats 4000000 in
theorem wX4_begins (V : ol_Gh) (a : Nat → Nat) (σ : ol_Mm) (x1 : Int32)  (z : Int32 × ol_Mm) (h : oX4_begins σ x1 = some z) : ol_Mt V yX4_begins cX4_begins 2 (some .boolean) ({ frames := 2, cells := 0, slots := 0, locals := 43 } : Room) true [.ref (a 0), .int x1] (ol_WM V a σ) (ol_Pw (some (.int z.1)) (ol_WM V a z.2)) := by
  refine ol_MtOf (L0 := [some (.ref (a 0)), some (.int x1)]) (by decide) (Nat.le_of_ble_eq_true rfl) rfl (fun X A hX => ?_)
  unfold oX4_begins at h
  refine ol_iload_n hX (pc := 0) dX4_begins_0 rfl rfl ?_
  refine ol_if_ne hX (pc := 1) 10 dX4_begins_1 (by decide) (fun c8 => ?_) (fun c8 => ?_)
  · have h := ol_ifn c8 h
    refine ol_aload_n hX (pc := 10) dX4_begins_10 rfl rfl ?_
    refine ol_mg17 hX (pc := 11) dX4_begins_11 ?_
    refine ol_if_ne hX (pc := 14) 24 dX4_begins_14 (by decide) (fun c5 => ?_) (fun c5 => ?_)
    · have h := ol_ifn c5 h
      refine ol_aload_n hX (pc := 24) dX4_begins_24 rfl rfl ?_
      obtain ⟨y1, e2, h⟩ := ol_of_bd h
      refine ol_cVw (As := []) hX (pc := 25) (wX4_goesOn V a σ y1 e2) lkX4_110 dcX4_goesOn ol_rr_X4_begins_X4_goesOn 0 rfl rfl ⟨Nat.le_refl _, Nat.le_refl _⟩ (Nat.le_of_ble_eq_true rfl) dX4_begins_25 rfl ?_
      refine ol_iconst hX (pc := 28) 1 dX4_begins_28 ol_k_iconst_1 ?_
      have h := ol_of_some h
      subst h
      exact ol_zret hX (pc := 29) dX4_begins_29 (by rfl) ⟨rfl, rfl⟩ ⟨Nat.le_refl _, Nat.le_refl _⟩
    · have h := ol_ifp c5 h
      refine ol_aload_n hX (pc := 17) dX4_begins_17 rfl rfl ?_
      refine ol_bipush hX (pc := 18) 6 dX4_begins_18 ol_k_bipush_6 ?_
      obtain ⟨y3, e4, h⟩ := ol_of_bd h
      refine ol_cVw (As := [.int 6]) hX (pc := 20) (wX4_errs V a σ 6 y3 e4) lkX4_106 dcX4_errs ol_rr_X4_begins_X4_errs 0 rfl rfl ⟨Nat.le_refl _, Nat.le_refl _⟩ (Nat.le_of_ble_eq_true rfl) dX4_begins_20 rfl ?_
      obtain ⟨gz, h⟩ := ol_of_og h
      have h := ol_of_some h
      subst h
      exact ol_zret hX (pc := 23) dX4_begins_23 (ol_zb_nar gz) ⟨rfl, rfl⟩ ⟨Nat.le_refl _, Nat.le_refl _⟩
  · have h := ol_ifp c8 h
    refine ol_aload_n hX (pc := 4) dX4_begins_4 rfl rfl ?_
    refine ol_iconst hX (pc := 5) 5 dX4_begins_5 ol_k_iconst_5 ?_
    obtain ⟨y6, e7, h⟩ := ol_of_bd h
    refine ol_cVw (As := [.int 5]) hX (pc := 6) (wX4_errs V a σ 5 y6 e7) lkX4_106 dcX4_errs ol_rr_X4_begins_X4_errs 0 rfl rfl ⟨Nat.le_refl _, Nat.le_refl _⟩ (Nat.le_of_ble_eq_true rfl) dX4_begins_6 rfl ?_
    obtain ⟨gz, h⟩ := ol_of_og h
    have h := ol_of_some h
    subst h
    exact ol_zret hX (pc := 9) dX4_begins_9 (ol_zb_nar gz) ⟨rfl, rfl⟩ ⟨Nat.le_refl _, Nat.le_refl _⟩
set_option maxHeartbeats 4000000 in
theorem wX4_isName (V : ol_Gh) (a : Nat → Nat) (σ : ol_Mm)  (z : Int32) (h : oX4_isName σ = some z) : ol_Mt V yX4_isName cX4_isName 1 (some .boolean) ({ frames := 5, cells := 0, slots := 0, locals := 107 } : Room) false [.ref (a 0)] (ol_WM V a σ) (ol_Pr (some (.int z))) := by
  refine ol_MtOf (L0 := [some (.ref (a 0))]) (by decide) (Nat.le_of_ble_eq_true rfl) rfl (fun X A hX => ?_)
  unfold oX4_isName at h
  refine ol_aload_n hX (pc := 0) dX4_isName_0 rfl rfl ?_
  refine ol_mg13 hX (pc := 1) dX4_isName_1 ?_
  refine ol_iconst hX (pc := 4) 2 dX4_isName_4 ol_k_iconst_2 ?_
  refine ol_icmp_ne hX (pc := 5) 39 dX4_isName_5 (by decide) (fun c10 => ?_) (fun c10 => ?_)
  · have h := ol_ifn c10 h
    refine ol_iconst hX (pc := 39) 0 dX4_isName_39 ol_k_iconst_0 ?_
    have h := ol_of_some h
    subst h
    exact ol_zret hX (pc := 40) dX4_isName_40 (by rfl) rfl ⟨Nat.le_refl _, Nat.le_refl _⟩
  · have h := ol_ifp c10 h
    refine ol_aload_n hX (pc := 8) dX4_isName_8 rfl rfl ?_
    refine ol_ldcS hX (pc := 9) 0 0 (by decide) (by decide) q2271 rfl rfl dX4_isName_9 ?_
    obtain ⟨y1, e2, h⟩ := ol_of_bd h
    refine ol_cVr (As := [.ref (ol_sa V 0 0)]) hX (pc := 11) (wX4_isWord V a σ 0 y1 e2) lkX4_113 dcX4_isWord ⟨rfl, rfl⟩ ol_rr_X4_isName_X4_isWord 0 rfl rfl (fun _ h => h) ⟨Nat.le_refl _, Nat.le_refl _⟩ (Nat.le_of_ble_eq_true rfl) dX4_isName_11 rfl ?_
    refine ol_if_ne hX (pc := 14) 39 dX4_isName_14 (by decide) (fun c9 => ?_) (fun c9 => ?_)
    · have h := ol_ifn c9 h
      refine ol_iconst hX (pc := 39) 0 dX4_isName_39 ol_k_iconst_0 ?_
      have h := ol_of_some h
      subst h
      exact ol_zret hX (pc := 40) dX4_isName_40 (by rfl) rfl ⟨Nat.le_refl _, Nat.le_refl _⟩
    · have h := ol_ifp c9 h
      refine ol_aload_n hX (pc := 17) dX4_isName_17 rfl rfl ?_
      refine ol_ldcS hX (pc := 18) 0 4 (by decide) (by decide) q2297 rfl rfl dX4_isName_18 ?_
      obtain ⟨y3, e4, h⟩ := ol_of_bd h
      refine ol_cVr (As := [.ref (ol_sa V 0 4)]) hX (pc := 20) (wX4_isWord V a σ 4 y3 e4) lkX4_113 dcX4_isWord ⟨rfl, rfl⟩ ol_rr_X4_isName_X4_isWord 0 rfl rfl (fun _ h => h) ⟨Nat.le_refl _, Nat.le_refl _⟩ (Nat.le_of_ble_eq_true rfl) dX4_isName_20 rfl ?_
      refine ol_if_ne hX (pc := 23) 39 dX4_isName_23 (by decide) (fun c8 => ?_) (fun c8 => ?_)
      · have h := ol_ifn c8 h
        refine ol_iconst hX (pc := 39) 0 dX4_isName_39 ol_k_iconst_0 ?_
        have h := ol_of_some h
        subst h
        exact ol_zret hX (pc := 40) dX4_isName_40 (by rfl) rfl ⟨Nat.le_refl _, Nat.le_refl _⟩
      · have h := ol_ifp c8 h
        refine ol_aload_n hX (pc := 26) dX4_isName_26 rfl rfl ?_
        refine ol_ldcS hX (pc := 27) 0 5 (by decide) (by decide) q2310 rfl rfl dX4_isName_27 ?_
        obtain ⟨y5, e6, h⟩ := ol_of_bd h
        refine ol_cVr (As := [.ref (ol_sa V 0 5)]) hX (pc := 29) (wX4_isWord V a σ 5 y5 e6) lkX4_113 dcX4_isWord ⟨rfl, rfl⟩ ol_rr_X4_isName_X4_isWord 0 rfl rfl (fun _ h => h) ⟨Nat.le_refl _, Nat.le_refl _⟩ (Nat.le_of_ble_eq_true rfl) dX4_isName_29 rfl ?_
        refine ol_if_ne hX (pc := 32) 39 dX4_isName_32 (by decide) (fun c7 => ?_) (fun c7 => ?_)
        · have h := ol_ifn c7 h
          refine ol_iconst hX (pc := 39) 0 dX4_isName_39 ol_k_iconst_0 ?_
          have h := ol_of_some h
          subst h
          exact ol_zret hX (pc := 40) dX4_isName_40 (by rfl) rfl ⟨Nat.le_refl _, Nat.le_refl _⟩
        · have h := ol_ifp c7 h
          refine ol_iconst hX (pc := 35) 1 dX4_isName_35 ol_k_iconst_1 ?_
          refine ol_goto hX (pc := 36) 40 dX4_isName_36 (by decide) ?_
          have h := ol_of_some h
          subst h
          exact ol_zret hX (pc := 40) dX4_isName_40 (by rfl) rfl ⟨Nat.le_refl _, Nat.le_refl _⟩
set_option maxHeartbeats 4000000 in
theorem wX4_spelt_L7 {X : ol_Cx} {V : ol_Gh} {A : Nat → Prop} {a : Nat → Nat} {z : Int64} (hX : ol_CX X V A cX4_spelt RX4 "spelt" 4 (some .long)) (σ : ol_Mm)    : ∀ (n : Nat), ∀ (v1 : Int64) (v3 : Int32), oX4_spelt_L7 σ n v1 v3 = some z → ol_G X V A false (ol_Pr (some (.long z))) ({ frames := 0, cells := 0, slots := 0, locals := 0 } : Room) 4 0 0 (ol_WM V a σ) 7 [some (.ref (a 0)), some (.long v1), none, some (.int v3)] [] := by
  intro n
  induction n with
  | zero =>
    intro v1 v3 h
    exact ol_no h
  | succ n ih =>
    intro v1 v3 h
    rw [oX4_spelt_L7] at h
    refine ol_iload_n hX (pc := 7) dX4_spelt_7 rfl rfl ?_
    refine ol_aload_n hX (pc := 8) dX4_spelt_8 rfl rfl ?_
    refine ol_mg12 hX (pc := 9) dX4_spelt_9 ?_
    refine ol_icmp_ge hX (pc := 12) 39 dX4_spelt_12 (by decide) (fun c2 => ?_) (fun c2 => ?_)
    · have h := ol_ifp c2 h
      refine ol_lload_n hX (pc := 39) dX4_spelt_39 rfl rfl ?_
      have h := ol_of_some h
      subst h
      exact ol_lret hX (pc := 40) dX4_spelt_40 rfl ⟨Nat.le_refl _, Nat.le_refl _⟩
    · have h := ol_ifn c2 h
      refine ol_ldc2 hX (pc := 15) 32 dX4_spelt_15 q2319 ?_
      refine ol_lload_n hX (pc := 18) dX4_spelt_18 rfl rfl ?_
      refine ol_lmul hX (pc := 19) dX4_spelt_19 ?_
      refine ol_aload_n hX (pc := 20) dX4_spelt_20 rfl rfl ?_
      refine ol_mg4 hX (pc := 21) dX4_spelt_21 ?_
      refine ol_iload_n hX (pc := 24) dX4_spelt_24 rfl rfl ?_
      obtain ⟨g1, h⟩ := ol_of_og h
      refine ol_ml1 hX (pc := 25) dX4_spelt_25 rfl (ol_in_vp g1) ?_
      refine ol_i2l hX (pc := 26) dX4_spelt_26 ?_
      refine ol_ladd hX (pc := 27) dX4_spelt_27 ?_
      refine ol_ldc2 hX (pc := 28) 96 dX4_spelt_28 q2320 ?_
      refine ol_lsub hX (pc := 31) dX4_spelt_31 ?_
      refine ol_lstore_n hX (pc := 32) [some (.ref (a 0)), some (.long (((32 * v1) + ((σ.1 1 v3.toNatClampNeg).toInt64)) - 96)), none, some (.int v3)] dX4_spelt_32 rfl (by decide) rfl rfl ?_
      refine ol_iinc hX (pc := 33) (v3 + 1) [some (.ref (a 0)), some (.long (((32 * v1) + ((σ.1 1 v3.toNatClampNeg).toInt64)) - 96)), none, some (.int (v3 + 1))] dX4_spelt_33 rfl (ol_k_iinc_1 _) (by decide) rfl rfl ?_
      refine ol_goto hX (pc := 36) 7 dX4_spelt_36 (by decide) ?_
      exact ih (((32 * v1) + ((σ.1 1 v3.toNatClampNeg).toInt64)) - 96) (v3 + 1) h
set_option maxHeartbeats 4000000 in
theorem wX4_spelt (V : ol_Gh) (a : Nat → Nat) (σ : ol_Mm)  (z : Int64) (h : oX4_spelt σ = some z) : ol_Mt V yX4_spelt cX4_spelt 4 (some .long) ({ frames := 0, cells := 0, slots := 0, locals := 0 } : Room) false [.ref (a 0)] (ol_WM V a σ) (ol_Pr (some (.long z))) := by
  refine ol_MtOf (L0 := [some (.ref (a 0)), none, none, none]) (by decide) (Nat.le_of_ble_eq_true rfl) rfl (fun X A hX => ?_)
  unfold oX4_spelt at h
  refine ol_lconst hX (pc := 0) 0 dX4_spelt_0 (by decide) ?_
  refine ol_lstore_n hX (pc := 1) [some (.ref (a 0)), some (.long 0), none, none] dX4_spelt_1 rfl (by decide) rfl rfl ?_
  refine ol_aload_n hX (pc := 2) dX4_spelt_2 rfl rfl ?_
  refine ol_mg11 hX (pc := 3) dX4_spelt_3 ?_
  refine ol_istore_n hX (pc := 6) [some (.ref (a 0)), some (.long 0), none, some (.int (σ.1 0 11))] dX4_spelt_6 rfl (by decide) rfl rfl ?_
  exact wX4_spelt_L7 hX σ ol_fuel 0 (σ.1 0 11) h
set_option maxHeartbeats 4000000 in
theorem wX4_boardHere_L2 {X : ol_Cx} {V : ol_Gh} {A : Nat → Prop} {a : Nat → Nat} {z : Int32} (hX : ol_CX X V A cX4_boardHere RX4 "boardHere" 2 (some .int)) (σ : ol_Mm)    : ∀ (n : Nat), ∀ (v1 : Int32), oX4_boardHere_L2 σ n v1 = some z → ol_G X V A false (ol_Pr (some (.int z))) ({ frames := 1, cells := 0, slots := 0, locals := 23 } : Room) 2 0 0 (ol_WM V a σ) 2 [some (.ref (a 0)), some (.int v1)] [] := by
  intro n
  induction n with
  | zero =>
    intro v1 h
    exact ol_no h
  | succ n ih =>
    intro v1 h
    rw [oX4_boardHere_L2] at h
    refine ol_iload_n hX (pc := 2) dX4_boardHere_2 rfl rfl ?_
    refine ol_aload_n hX (pc := 3) dX4_boardHere_3 rfl rfl ?_
    refine ol_mg7 hX (pc := 4) dX4_boardHere_4 ?_
    refine ol_iconst hX (pc := 7) 3 dX4_boardHere_7 ol_k_iconst_3 ?_
    refine ol_ml3 hX (pc := 8) dX4_boardHere_8 ol_tn_3 (ol_in_vp (by decide)) ?_
    refine ol_icmp_ge hX (pc := 9) 34 dX4_boardHere_9 (by decide) (fun c5 => ?_) (fun c5 => ?_)
    · have h := ol_ifp c5 h
      refine ol_iconst hX (pc := 34) (-1) dX4_boardHere_34 ol_k_iconst_m1 ?_
      have h := ol_of_some h
      subst h
      exact ol_iret hX (pc := 35) dX4_boardHere_35 rfl ⟨Nat.le_refl _, Nat.le_refl _⟩
    · have h := ol_ifn c5 h
      refine ol_aload_n hX (pc := 12) dX4_boardHere_12 rfl rfl ?_
      refine ol_mg8 hX (pc := 13) dX4_boardHere_13 ?_
      refine ol_iload_n hX (pc := 16) dX4_boardHere_16 rfl rfl ?_
      obtain ⟨g1, h⟩ := ol_of_og h
      refine ol_ml4 hX (pc := 17) dX4_boardHere_17 rfl (ol_in_vp g1) ?_
      refine ol_aload_n hX (pc := 18) dX4_boardHere_18 rfl rfl ?_
      obtain ⟨y2, e3, h⟩ := ol_of_bd h
      refine ol_cVr (As := []) hX (pc := 19) (wX4_spelt V a σ y2 e3) lkX4_130 dcX4_spelt ⟨rfl, rfl⟩ ol_rr_X4_boardHere_X4_spelt 0 rfl rfl (fun _ h => h) ⟨Nat.le_refl _, Nat.le_refl _⟩ (Nat.le_of_ble_eq_true rfl) dX4_boardHere_19 rfl ?_
      refine ol_lcmp hX (pc := 22) dX4_boardHere_22 ?_
      refine ol_if_ne hX (pc := 23) 28 dX4_boardHere_23 (by decide) (fun c4 => ?_) (fun c4 => ?_)
      · have h := ol_ifn c4 h
        refine ol_iinc hX (pc := 28) (v1 + 1) [some (.ref (a 0)), some (.int (v1 + 1))] dX4_boardHere_28 rfl (ol_k_iinc_1 _) (by decide) rfl rfl ?_
        refine ol_goto hX (pc := 31) 2 dX4_boardHere_31 (by decide) ?_
        exact ih (v1 + 1) h
      · have h := ol_ifp c4 h
        refine ol_iload_n hX (pc := 26) dX4_boardHere_26 rfl rfl ?_
        have h := ol_of_some h
        subst h
        exact ol_iret hX (pc := 27) dX4_boardHere_27 rfl ⟨Nat.le_refl _, Nat.le_refl _⟩
set_option maxHeartbeats 4000000 in
theorem wX4_boardHere (V : ol_Gh) (a : Nat → Nat) (σ : ol_Mm)  (z : Int32) (h : oX4_boardHere σ = some z) : ol_Mt V yX4_boardHere cX4_boardHere 2 (some .int) ({ frames := 1, cells := 0, slots := 0, locals := 23 } : Room) false [.ref (a 0)] (ol_WM V a σ) (ol_Pr (some (.int z))) := by
  refine ol_MtOf (L0 := [some (.ref (a 0)), none]) (by decide) (Nat.le_of_ble_eq_true rfl) rfl (fun X A hX => ?_)
  unfold oX4_boardHere at h
  refine ol_iconst hX (pc := 0) 0 dX4_boardHere_0 ol_k_iconst_0 ?_
  refine ol_istore_n hX (pc := 1) [some (.ref (a 0)), some (.int 0)] dX4_boardHere_1 rfl (by decide) rfl rfl ?_
  exact wX4_boardHere_L2 hX σ ol_fuel 0 h
set_option maxHeartbeats 4000000 in
theorem wX4_laysOwn_L21 {X : ol_Cx} {V : ol_Gh} {A : Nat → Prop} {a : Nat → Nat} {z : Int32 × ol_Mm} (hX : ol_CX X V A cX4_laysOwn RX4 "laysOwn" 6 (some .boolean)) (x1 : Nat) (x2 : Int32) (x3 : Int32) (x4 : Int32)    : ∀ (n : Nat), ∀ (v5 : Int32) (σ : ol_Mm), oX4_laysOwn_L21 x1 x2 x3 x4 n v5 σ = some z → ol_G X V A true (ol_Pw (some (.int z.1)) (ol_WM V a z.2)) ({ frames := 5, cells := 0, slots := 0, locals := 107 } : Room) 6 0 0 (ol_WM V a σ) 21 [some (.ref (a 0)), none, some (.int x2), some (.int x3), some (.int x4), some (.int v5)] [] := by
  intro n
  induction n with
  | zero =>
    intro v5 σ h
    exact ol_no h
  | succ n ih =>
    intro v5 σ h
    rw [oX4_laysOwn_L21] at h
    refine ol_iload hX (pc := 21) dX4_laysOwn_21 rfl ?_
    refine ol_aload_n hX (pc := 23) dX4_laysOwn_23 rfl rfl ?_
    refine ol_mg7 hX (pc := 24) dX4_laysOwn_24 ?_
    refine ol_iconst hX (pc := 27) 3 dX4_laysOwn_27 ol_k_iconst_3 ?_
    refine ol_ml3 hX (pc := 28) dX4_laysOwn_28 ol_tn_3 (ol_in_vp (by decide)) ?_
    refine ol_icmp_ge hX (pc := 29) 68 dX4_laysOwn_29 (by decide) (fun c8 => ?_) (fun c8 => ?_)
    · have h := ol_ifp c8 h
      refine ol_aload_n hX (pc := 68) dX4_laysOwn_68 rfl rfl ?_
      refine ol_iload_n hX (pc := 69) dX4_laysOwn_69 rfl rfl ?_
      refine ol_aload_n hX (pc := 70) dX4_laysOwn_70 rfl rfl ?_
      refine ol_mg7 hX (pc := 71) dX4_laysOwn_71 ?_
      refine ol_iconst hX (pc := 74) 3 dX4_laysOwn_74 ol_k_iconst_3 ?_
      refine ol_ml3 hX (pc := 75) dX4_laysOwn_75 ol_tn_3 (ol_in_vp (by decide)) ?_
      refine ol_iadd hX (pc := 76) dX4_laysOwn_76 ?_
      refine ol_iload_n hX (pc := 77) dX4_laysOwn_77 rfl rfl ?_
      refine ol_iload hX (pc := 78) dX4_laysOwn_78 rfl ?_
      obtain ⟨y1, e2, h⟩ := ol_of_bd h
      refine ol_cVw (As := [.int (x2 + (σ.1 3 3)), .int x3, .int x4]) hX (pc := 80) (wX4_lays V a σ (x2 + (σ.1 3 3)) x3 x4 y1 e2) lkX4_117 dcX4_lays ol_rr_X4_laysOwn_X4_lays 0 rfl rfl ⟨Nat.le_refl _, Nat.le_refl _⟩ (Nat.le_of_ble_eq_true rfl) dX4_laysOwn_80 rfl ?_
      obtain ⟨gz, h⟩ := ol_of_og h
      have h := ol_of_some h
      subst h
      exact ol_zret hX (pc := 83) dX4_laysOwn_83 (ol_zb_nar gz) ⟨rfl, rfl⟩ ⟨Nat.le_refl _, Nat.le_refl _⟩
    · have h := ol_ifn c8 h
      refine ol_aload_n hX (pc := 32) dX4_laysOwn_32 rfl rfl ?_
      refine ol_mg13 hX (pc := 33) dX4_laysOwn_33 ?_
      refine ol_iconst hX (pc := 36) 3 dX4_laysOwn_36 ol_k_iconst_3 ?_
      refine ol_icmp_ne hX (pc := 37) 62 dX4_laysOwn_37 (by decide) (fun c7 => ?_) (fun c7 => ?_)
      · have h := ol_ifn c7 h
        refine ol_iinc hX (pc := 62) (v5 + 1) [some (.ref (a 0)), none, some (.int x2), some (.int x3), some (.int x4), some (.int (v5 + 1))] dX4_laysOwn_62 rfl (ol_k_iinc_1 _) (by decide) rfl rfl ?_
        refine ol_goto hX (pc := 65) 21 dX4_laysOwn_65 (by decide) ?_
        exact ih (v5 + 1) σ h
      · have h := ol_ifp c7 h
        refine ol_aload_n hX (pc := 40) dX4_laysOwn_40 rfl rfl ?_
        refine ol_mg7 hX (pc := 41) dX4_laysOwn_41 ?_
        refine ol_iload_n hX (pc := 44) dX4_laysOwn_44 rfl rfl ?_
        refine ol_iload hX (pc := 45) dX4_laysOwn_45 rfl ?_
        refine ol_iadd hX (pc := 47) dX4_laysOwn_47 ?_
        obtain ⟨g3, h⟩ := ol_of_og h
        refine ol_ml3 hX (pc := 48) dX4_laysOwn_48 rfl (ol_in_vp g3) ?_
        refine ol_aload_n hX (pc := 49) dX4_laysOwn_49 rfl rfl ?_
        refine ol_mg14 hX (pc := 50) dX4_laysOwn_50 ?_
        refine ol_icmp_ne hX (pc := 53) 62 dX4_laysOwn_53 (by decide) (fun c6 => ?_) (fun c6 => ?_)
        · have h := ol_ifn c6 h
          refine ol_iinc hX (pc := 62) (v5 + 1) [some (.ref (a 0)), none, some (.int x2), some (.int x3), some (.int x4), some (.int (v5 + 1))] dX4_laysOwn_62 rfl (ol_k_iinc_1 _) (by decide) rfl rfl ?_
          refine ol_goto hX (pc := 65) 21 dX4_laysOwn_65 (by decide) ?_
          exact ih (v5 + 1) σ h
        · have h := ol_ifp c6 h
          refine ol_aload_n hX (pc := 56) dX4_laysOwn_56 rfl rfl ?_
          refine ol_iconst hX (pc := 57) 3 dX4_laysOwn_57 ol_k_iconst_3 ?_
          obtain ⟨y4, e5, h⟩ := ol_of_bd h
          refine ol_cVw (As := [.int 3]) hX (pc := 58) (wX4_errs V a σ 3 y4 e5) lkX4_106 dcX4_errs ol_rr_X4_laysOwn_X4_errs 0 rfl rfl ⟨Nat.le_refl _, Nat.le_refl _⟩ (Nat.le_of_ble_eq_true rfl) dX4_laysOwn_58 rfl ?_
          obtain ⟨gz, h⟩ := ol_of_og h
          have h := ol_of_some h
          subst h
          exact ol_zret hX (pc := 61) dX4_laysOwn_61 (ol_zb_nar gz) ⟨rfl, rfl⟩ ⟨Nat.le_refl _, Nat.le_refl _⟩
set_option maxHeartbeats 4000000 in
theorem wX4_laysOwn (V : ol_Gh) (a : Nat → Nat) (σ : ol_Mm) (x1 : Nat) (x2 : Int32) (x3 : Int32) (x4 : Int32)  (z : Int32 × ol_Mm) (h : oX4_laysOwn σ x1 x2 x3 x4 = some z) : ol_Mt V yX4_laysOwn cX4_laysOwn 6 (some .boolean) ({ frames := 5, cells := 0, slots := 0, locals := 107 } : Room) true [.ref (a 0), .ref (ol_sa V 0 x1), .int x2, .int x3, .int x4] (ol_WM V a σ) (ol_Pw (some (.int z.1)) (ol_WM V a z.2)) := by
  refine ol_MtOf (L0 := [some (.ref (a 0)), some (.ref (ol_sa V 0 x1)), some (.int x2), some (.int x3), some (.int x4), none]) (by decide) (Nat.le_of_ble_eq_true rfl) rfl (fun X A hX => ?_)
  unfold oX4_laysOwn at h
  refine ol_aload_n hX (pc := 0) dX4_laysOwn_0 rfl rfl ?_
  refine ol_aload_n hX (pc := 1) dX4_laysOwn_1 rfl rfl ?_
  obtain ⟨y1, e2, h⟩ := ol_of_bd h
  refine ol_cVr (As := [.ref (ol_sa V 0 x1)]) hX (pc := 2) (wX4_isWord V a σ x1 y1 e2) lkX4_113 dcX4_isWord ⟨rfl, rfl⟩ ol_rr_X4_laysOwn_X4_isWord 0 rfl rfl (fun _ h => h) ⟨Nat.le_refl _, Nat.le_refl _⟩ (Nat.le_of_ble_eq_true rfl) dX4_laysOwn_2 rfl ?_
  refine ol_if_ne hX (pc := 5) 14 dX4_laysOwn_5 (by decide) (fun c7 => ?_) (fun c7 => ?_)
  · have h := ol_ifn c7 h
    refine ol_aload_n hX (pc := 14) dX4_laysOwn_14 rfl rfl ?_
    obtain ⟨y3, e4, h⟩ := ol_of_bd h
    refine ol_cVw (As := []) hX (pc := 15) (wX4_goesOn V a σ y3 e4) lkX4_110 dcX4_goesOn ol_rr_X4_laysOwn_X4_goesOn 0 rfl rfl ⟨Nat.le_refl _, Nat.le_refl _⟩ (Nat.le_of_ble_eq_true rfl) dX4_laysOwn_15 rfl ?_
    refine ol_iconst hX (pc := 18) 0 dX4_laysOwn_18 ol_k_iconst_0 ?_
    refine ol_istore hX (pc := 19) [some (.ref (a 0)), some (.ref (ol_sa V 0 x1)), some (.int x2), some (.int x3), some (.int x4), some (.int 0)] dX4_laysOwn_19 (by decide) rfl rfl ?_
    refine ol_Gdrop 1 ?_
    exact wX4_laysOwn_L21 hX x1 x2 x3 x4 ol_fuel 0 y3 h
  · have h := ol_ifp c7 h
    refine ol_aload_n hX (pc := 8) dX4_laysOwn_8 rfl rfl ?_
    refine ol_iconst hX (pc := 9) 1 dX4_laysOwn_9 ol_k_iconst_1 ?_
    obtain ⟨y5, e6, h⟩ := ol_of_bd h
    refine ol_cVw (As := [.int 1]) hX (pc := 10) (wX4_errs V a σ 1 y5 e6) lkX4_106 dcX4_errs ol_rr_X4_laysOwn_X4_errs 0 rfl rfl ⟨Nat.le_refl _, Nat.le_refl _⟩ (Nat.le_of_ble_eq_true rfl) dX4_laysOwn_10 rfl ?_
    obtain ⟨gz, h⟩ := ol_of_og h
    have h := ol_of_some h
    subst h
    exact ol_zret hX (pc := 13) dX4_laysOwn_13 (ol_zb_nar gz) ⟨rfl, rfl⟩ ⟨Nat.le_refl _, Nat.le_refl _⟩
set_option maxHeartbeats 4000000 in
theorem wX4_readBoard_L19 {X : ol_Cx} {V : ol_Gh} {A : Nat → Prop} {a : Nat → Nat} {z : Int32 × ol_Mm} (hX : ol_CX X V A cX4_readBoard RX4 "readBoard" 2 (some .boolean))    (v1 : Int32) (s0 : Int32) (σ : ol_Mm) (h : oX4_readBoard_L19 v1 s0 σ = some z) : ol_G X V A true (ol_Pw (some (.int z.1)) (ol_WM V a z.2)) ({ frames := 6, cells := 0, slots := 0, locals := 132 } : Room) 2 0 0 (ol_WM V a σ) 19 [some (.ref (a 0)), some (.int v1)] [.int s0, .ref (a 0)] := by
  unfold oX4_readBoard_L19 at h
  obtain ⟨y1, e2, h⟩ := ol_of_bd h
  refine ol_cVw (As := [.int s0]) hX (pc := 19) (wX4_begins V a σ s0 y1 e2) lkX4_148 dcX4_begins ol_rr_X4_readBoard_X4_begins 0 rfl rfl ⟨Nat.le_refl _, Nat.le_refl _⟩ (Nat.le_of_ble_eq_true rfl) dX4_readBoard_19 rfl ?_
  refine ol_if_ne hX (pc := 22) 27 dX4_readBoard_22 (by decide) (fun c27 => ?_) (fun c27 => ?_)
  · have h := ol_ifn c27 h
    refine ol_aload_n hX (pc := 27) dX4_readBoard_27 rfl rfl ?_
    obtain ⟨y3, e4, h⟩ := ol_of_bd h
    refine ol_cVr (As := []) hX (pc := 28) (wX4_isName V a y1.2 y3 e4) lkX4_152 dcX4_isName ⟨rfl, rfl⟩ ol_rr_X4_readBoard_X4_isName 0 rfl rfl (fun _ h => h) ⟨Nat.le_refl _, Nat.le_refl _⟩ (Nat.le_of_ble_eq_true rfl) dX4_readBoard_28 rfl ?_
    refine ol_if_ne hX (pc := 31) 40 dX4_readBoard_31 (by decide) (fun c26 => ?_) (fun c26 => ?_)
    · have h := ol_ifn c26 h
      refine ol_aload_n hX (pc := 40) dX4_readBoard_40 rfl rfl ?_
      obtain ⟨y5, e6, h⟩ := ol_of_bd h
      refine ol_cVr (As := []) hX (pc := 41) (wX4_boardHere V a y1.2 y5 e6) lkX4_156 dcX4_boardHere ⟨rfl, rfl⟩ ol_rr_X4_readBoard_X4_boardHere 0 rfl rfl (fun _ h => h) ⟨Nat.le_refl _, Nat.le_refl _⟩ (Nat.le_of_ble_eq_true rfl) dX4_readBoard_41 rfl ?_
      refine ol_iconst hX (pc := 44) (-1) dX4_readBoard_44 ol_k_iconst_m1 ?_
      refine ol_icmp_eq hX (pc := 45) 54 dX4_readBoard_45 (by decide) (fun c23 => ?_) (fun c23 => ?_)
      · have h := ol_ifp c23 h
        refine ol_aload_n hX (pc := 54) dX4_readBoard_54 rfl rfl ?_
        refine ol_mg8 hX (pc := 55) dX4_readBoard_55 ?_
        refine ol_iload_n hX (pc := 58) dX4_readBoard_58 rfl rfl ?_
        refine ol_aload_n hX (pc := 59) dX4_readBoard_59 rfl rfl ?_
        obtain ⟨y7, e8, h⟩ := ol_of_bd h
        refine ol_cVr (As := []) hX (pc := 60) (wX4_spelt V a y1.2 y7 e8) lkX4_130 dcX4_spelt ⟨rfl, rfl⟩ ol_rr_X4_readBoard_X4_spelt 0 rfl rfl (fun _ h => h) ⟨Nat.le_refl _, Nat.le_refl _⟩ (Nat.le_of_ble_eq_true rfl) dX4_readBoard_60 rfl ?_
        obtain ⟨g9, h⟩ := ol_of_og h
        refine ol_ms4 hX (pc := 63) dX4_readBoard_63 rfl (ol_in_vp g9) ?_
        refine ol_aload_n hX (pc := 64) dX4_readBoard_64 rfl rfl ?_
        obtain ⟨y10, e11, h⟩ := ol_of_bd h
        refine ol_cVw (As := []) hX (pc := 65) (wX4_goesOn V a (ol_ml y1.2 v1.toNatClampNeg y7) y10 e11) lkX4_110 dcX4_goesOn ol_rr_X4_readBoard_X4_goesOn 0 rfl rfl ⟨Nat.le_refl _, Nat.le_refl _⟩ (Nat.le_of_ble_eq_true rfl) dX4_readBoard_65 rfl ?_
        refine ol_aload_n hX (pc := 68) dX4_readBoard_68 rfl rfl ?_
        refine ol_ldcS hX (pc := 69) 0 6 (by decide) (by decide) q2321 rfl rfl dX4_readBoard_69 ?_
        refine ol_iconst hX (pc := 71) 5 dX4_readBoard_71 ol_k_iconst_5 ?_
        refine ol_iconst hX (pc := 72) 0 dX4_readBoard_72 ol_k_iconst_0 ?_
        refine ol_bipush hX (pc := 73) 9 dX4_readBoard_73 ol_k_bipush_9 ?_
        obtain ⟨y12, e13, h⟩ := ol_of_bd h
        refine ol_cVw (As := [.ref (ol_sa V 0 6), .int 5, .int 0, .int 9]) hX (pc := 75) (wX4_laysOwn V a y10 6 5 0 9 y12 e13) lkX4_161 dcX4_laysOwn ol_rr_X4_readBoard_X4_laysOwn 0 rfl rfl ⟨Nat.le_refl _, Nat.le_refl _⟩ (Nat.le_of_ble_eq_true rfl) dX4_readBoard_75 rfl ?_
        refine ol_if_eq hX (pc := 78) 111 dX4_readBoard_78 (by decide) (fun c20 => ?_) (fun c20 => ?_)
        · have h := ol_ifp c20 h
          refine ol_iconst hX (pc := 111) 0 dX4_readBoard_111 ol_k_iconst_0 ?_
          have h := ol_of_some h
          subst h
          exact ol_zret hX (pc := 112) dX4_readBoard_112 (by rfl) ⟨rfl, rfl⟩ ⟨Nat.le_refl _, Nat.le_refl _⟩
        · have h := ol_ifn c20 h
          refine ol_aload_n hX (pc := 81) dX4_readBoard_81 rfl rfl ?_
          refine ol_ldcS hX (pc := 82) 0 7 (by decide) (by decide) q2326 rfl rfl dX4_readBoard_82 ?_
          refine ol_bipush hX (pc := 84) 11 dX4_readBoard_84 ol_k_bipush_11 ?_
          refine ol_iconst hX (pc := 86) 1 dX4_readBoard_86 ol_k_iconst_1 ?_
          refine ol_bipush hX (pc := 87) 31 dX4_readBoard_87 ol_k_bipush_31 ?_
          obtain ⟨y14, e15, h⟩ := ol_of_bd h
          refine ol_cVw (As := [.ref (ol_sa V 0 7), .int 11, .int 1, .int 31]) hX (pc := 89) (wX4_laysOwn V a y12.2 7 11 1 31 y14 e15) lkX4_161 dcX4_laysOwn ol_rr_X4_readBoard_X4_laysOwn 0 rfl rfl ⟨Nat.le_refl _, Nat.le_refl _⟩ (Nat.le_of_ble_eq_true rfl) dX4_readBoard_89 rfl ?_
          refine ol_if_eq hX (pc := 92) 111 dX4_readBoard_92 (by decide) (fun c19 => ?_) (fun c19 => ?_)
          · have h := ol_ifp c19 h
            refine ol_iconst hX (pc := 111) 0 dX4_readBoard_111 ol_k_iconst_0 ?_
            have h := ol_of_some h
            subst h
            exact ol_zret hX (pc := 112) dX4_readBoard_112 (by rfl) ⟨rfl, rfl⟩ ⟨Nat.le_refl _, Nat.le_refl _⟩
          · have h := ol_ifn c19 h
            refine ol_aload_n hX (pc := 95) dX4_readBoard_95 rfl rfl ?_
            refine ol_ldcS hX (pc := 96) 0 8 (by decide) (by decide) q2327 rfl rfl dX4_readBoard_96 ?_
            refine ol_bipush hX (pc := 98) 17 dX4_readBoard_98 ol_k_bipush_17 ?_
            refine ol_iload_n hX (pc := 100) dX4_readBoard_100 rfl rfl ?_
            refine ol_iadd hX (pc := 101) dX4_readBoard_101 ?_
            refine ol_iconst hX (pc := 102) 0 dX4_readBoard_102 ol_k_iconst_0 ?_
            refine ol_bipush hX (pc := 103) 7 dX4_readBoard_103 ol_k_bipush_7 ?_
            obtain ⟨y16, e17, h⟩ := ol_of_bd h
            refine ol_cVw (As := [.ref (ol_sa V 0 8), .int (17 + v1), .int 0, .int 7]) hX (pc := 105) (wX4_after V a y14.2 8 (17 + v1) 0 7 y16 e17) lkX4_140 dcX4_after ol_rr_X4_readBoard_X4_after 0 rfl rfl ⟨Nat.le_refl _, Nat.le_refl _⟩ (Nat.le_of_ble_eq_true rfl) dX4_readBoard_105 rfl ?_
            refine ol_if_ne hX (pc := 108) 113 dX4_readBoard_108 (by decide) (fun c18 => ?_) (fun c18 => ?_)
            · have h := ol_ifn c18 h
              refine ol_aload_n hX (pc := 113) dX4_readBoard_113 rfl rfl ?_
              refine ol_mg7 hX (pc := 114) dX4_readBoard_114 ?_
              refine ol_iconst hX (pc := 117) 3 dX4_readBoard_117 ol_k_iconst_3 ?_
              refine ol_dup2_11 hX (pc := 118) dX4_readBoard_118 rfl rfl ?_
              refine ol_ml3 hX (pc := 119) dX4_readBoard_119 ol_tn_3 (ol_in_vp (by decide)) ?_
              refine ol_iconst hX (pc := 120) 1 dX4_readBoard_120 ol_k_iconst_1 ?_
              refine ol_iadd hX (pc := 121) dX4_readBoard_121 ?_
              refine ol_ms3 hX (pc := 122) dX4_readBoard_122 ol_tn_3 (ol_in_vp (by decide)) ?_
              refine ol_iconst hX (pc := 123) 1 dX4_readBoard_123 ol_k_iconst_1 ?_
              have h := ol_of_some h
              subst h
              exact ol_zret hX (pc := 124) dX4_readBoard_124 (by rfl) ⟨rfl, rfl⟩ ⟨Nat.le_refl _, Nat.le_refl _⟩
            · have h := ol_ifp c18 h
              refine ol_iconst hX (pc := 111) 0 dX4_readBoard_111 ol_k_iconst_0 ?_
              have h := ol_of_some h
              subst h
              exact ol_zret hX (pc := 112) dX4_readBoard_112 (by rfl) ⟨rfl, rfl⟩ ⟨Nat.le_refl _, Nat.le_refl _⟩
      · have h := ol_ifn c23 h
        refine ol_aload_n hX (pc := 48) dX4_readBoard_48 rfl rfl ?_
        refine ol_iconst hX (pc := 49) 3 dX4_readBoard_49 ol_k_iconst_3 ?_
        obtain ⟨y21, e22, h⟩ := ol_of_bd h
        refine ol_cVw (As := [.int 3]) hX (pc := 50) (wX4_errs V a y1.2 3 y21 e22) lkX4_106 dcX4_errs ol_rr_X4_readBoard_X4_errs 0 rfl rfl ⟨Nat.le_refl _, Nat.le_refl _⟩ (Nat.le_of_ble_eq_true rfl) dX4_readBoard_50 rfl ?_
        obtain ⟨gz, h⟩ := ol_of_og h
        have h := ol_of_some h
        subst h
        exact ol_zret hX (pc := 53) dX4_readBoard_53 (ol_zb_nar gz) ⟨rfl, rfl⟩ ⟨Nat.le_refl _, Nat.le_refl _⟩
    · have h := ol_ifp c26 h
      refine ol_aload_n hX (pc := 34) dX4_readBoard_34 rfl rfl ?_
      refine ol_iconst hX (pc := 35) 1 dX4_readBoard_35 ol_k_iconst_1 ?_
      obtain ⟨y24, e25, h⟩ := ol_of_bd h
      refine ol_cVw (As := [.int 1]) hX (pc := 36) (wX4_errs V a y1.2 1 y24 e25) lkX4_106 dcX4_errs ol_rr_X4_readBoard_X4_errs 0 rfl rfl ⟨Nat.le_refl _, Nat.le_refl _⟩ (Nat.le_of_ble_eq_true rfl) dX4_readBoard_36 rfl ?_
      obtain ⟨gz, h⟩ := ol_of_og h
      have h := ol_of_some h
      subst h
      exact ol_zret hX (pc := 39) dX4_readBoard_39 (ol_zb_nar gz) ⟨rfl, rfl⟩ ⟨Nat.le_refl _, Nat.le_refl _⟩
  · have h := ol_ifp c27 h
    refine ol_iconst hX (pc := 25) 0 dX4_readBoard_25 ol_k_iconst_0 ?_
    have h := ol_of_some h
    subst h
    exact ol_zret hX (pc := 26) dX4_readBoard_26 (by rfl) ⟨rfl, rfl⟩ ⟨Nat.le_refl _, Nat.le_refl _⟩
set_option maxHeartbeats 4000000 in
theorem wX4_readBoard (V : ol_Gh) (a : Nat → Nat) (σ : ol_Mm)  (z : Int32 × ol_Mm) (h : oX4_readBoard σ = some z) : ol_Mt V yX4_readBoard cX4_readBoard 2 (some .boolean) ({ frames := 6, cells := 0, slots := 0, locals := 132 } : Room) true [.ref (a 0)] (ol_WM V a σ) (ol_Pw (some (.int z.1)) (ol_WM V a z.2)) := by
  refine ol_MtOf (L0 := [some (.ref (a 0)), none]) (by decide) (Nat.le_of_ble_eq_true rfl) rfl (fun X A hX => ?_)
  unfold oX4_readBoard at h
  refine ol_aload_n hX (pc := 0) dX4_readBoard_0 rfl rfl ?_
  refine ol_mg7 hX (pc := 1) dX4_readBoard_1 ?_
  refine ol_iconst hX (pc := 4) 3 dX4_readBoard_4 ol_k_iconst_3 ?_
  refine ol_ml3 hX (pc := 5) dX4_readBoard_5 ol_tn_3 (ol_in_vp (by decide)) ?_
  refine ol_istore_n hX (pc := 6) [some (.ref (a 0)), some (.int (σ.1 3 3))] dX4_readBoard_6 rfl (by decide) rfl rfl ?_
  refine ol_aload_n hX (pc := 7) dX4_readBoard_7 rfl rfl ?_
  refine ol_iload_n hX (pc := 8) dX4_readBoard_8 rfl rfl ?_
  refine ol_bipush hX (pc := 9) 6 dX4_readBoard_9 ol_k_bipush_6 ?_
  refine ol_icmp_ge hX (pc := 11) 18 dX4_readBoard_11 (by decide) (fun c1 => ?_) (fun c1 => ?_)
  · have h := ol_ifp c1 h
    refine ol_iconst hX (pc := 18) 0 dX4_readBoard_18 ol_k_iconst_0 ?_
    exact wX4_readBoard_L19 hX (σ.1 3 3) 0 σ h
  · have h := ol_ifn c1 h
    refine ol_iconst hX (pc := 14) 1 dX4_readBoard_14 ol_k_iconst_1 ?_
    refine ol_goto hX (pc := 15) 19 dX4_readBoard_15 (by decide) ?_
    exact wX4_readBoard_L19 hX (σ.1 3 3) 1 σ h
set_option maxHeartbeats 4000000 in
theorem wX4_readAsk_L49 {X : ol_Cx} {V : ol_Gh} {A : Nat → Prop} {a : Nat → Nat} {z : Int32 × ol_Mm} (hX : ol_CX X V A cX4_readAsk RX4 "readAsk" 2 (some .boolean))    (v1 : Int32) (s0 : Int32) (s1 : Int32) (σ : ol_Mm) (h : oX4_readAsk_L49 v1 s0 s1 σ = some z) : ol_G X V A true (ol_Pw (some (.int z.1)) (ol_WM V a z.2)) ({ frames := 6, cells := 0, slots := 0, locals := 127 } : Room) 2 0 0 (ol_WM V a σ) 49 [some (.ref (a 0)), some (.int v1)] [.int s0, .int s1, .ref (a 0)] := by
  unfold oX4_readAsk_L49 at h
  refine ol_sipush hX (pc := 49) 999 dX4_readAsk_49 ol_k_sipush_999 ?_
  obtain ⟨y1, e2, h⟩ := ol_of_bd h
  refine ol_cVw (As := [.int s1, .int s0, .int 999]) hX (pc := 52) (wX4_lays V a σ s1 s0 999 y1 e2) lkX4_117 dcX4_lays ol_rr_X4_readAsk_X4_lays 0 rfl rfl ⟨Nat.le_refl _, Nat.le_refl _⟩ (Nat.le_of_ble_eq_true rfl) dX4_readAsk_52 rfl ?_
  refine ol_if_ne hX (pc := 55) 60 dX4_readAsk_55 (by decide) (fun c20 => ?_) (fun c20 => ?_)
  · have h := ol_ifn c20 h
    refine ol_aload_n hX (pc := 60) dX4_readAsk_60 rfl rfl ?_
    obtain ⟨y3, e4, h⟩ := ol_of_bd h
    refine ol_cVr (As := []) hX (pc := 61) (wX4_isName V a y1.2 y3 e4) lkX4_152 dcX4_isName ⟨rfl, rfl⟩ ol_rr_X4_readAsk_X4_isName 0 rfl rfl (fun _ h => h) ⟨Nat.le_refl _, Nat.le_refl _⟩ (Nat.le_of_ble_eq_true rfl) dX4_readAsk_61 rfl ?_
    refine ol_if_ne hX (pc := 64) 73 dX4_readAsk_64 (by decide) (fun c19 => ?_) (fun c19 => ?_)
    · have h := ol_ifn c19 h
      refine ol_aload_n hX (pc := 73) dX4_readAsk_73 rfl rfl ?_
      refine ol_mg7 hX (pc := 74) dX4_readAsk_74 ?_
      refine ol_bipush hX (pc := 77) 35 dX4_readAsk_77 ol_k_bipush_35 ?_
      refine ol_iload_n hX (pc := 79) dX4_readAsk_79 rfl rfl ?_
      refine ol_iadd hX (pc := 80) dX4_readAsk_80 ?_
      refine ol_aload_n hX (pc := 81) dX4_readAsk_81 rfl rfl ?_
      obtain ⟨y5, e6, h⟩ := ol_of_bd h
      refine ol_cVr (As := []) hX (pc := 82) (wX4_boardHere V a y1.2 y5 e6) lkX4_156 dcX4_boardHere ⟨rfl, rfl⟩ ol_rr_X4_readAsk_X4_boardHere 0 rfl rfl (fun _ h => h) ⟨Nat.le_refl _, Nat.le_refl _⟩ (Nat.le_of_ble_eq_true rfl) dX4_readAsk_82 rfl ?_
      obtain ⟨g7, h⟩ := ol_of_og h
      refine ol_ms3 hX (pc := 85) dX4_readAsk_85 rfl (ol_in_vp g7) ?_
      refine ol_aload_n hX (pc := 86) dX4_readAsk_86 rfl rfl ?_
      refine ol_mg7 hX (pc := 87) dX4_readAsk_87 ?_
      refine ol_bipush hX (pc := 90) 35 dX4_readAsk_90 ol_k_bipush_35 ?_
      refine ol_iload_n hX (pc := 92) dX4_readAsk_92 rfl rfl ?_
      refine ol_iadd hX (pc := 93) dX4_readAsk_93 ?_
      obtain ⟨g8, h⟩ := ol_of_og h
      refine ol_ml3 hX (pc := 94) dX4_readAsk_94 rfl (ol_in_vp g8) ?_
      refine ol_iconst hX (pc := 95) (-1) dX4_readAsk_95 ol_k_iconst_m1 ?_
      refine ol_icmp_ne hX (pc := 96) 105 dX4_readAsk_96 (by decide) (fun c16 => ?_) (fun c16 => ?_)
      · have h := ol_ifn c16 h
        refine ol_aload_n hX (pc := 105) dX4_readAsk_105 rfl rfl ?_
        obtain ⟨y9, e10, h⟩ := ol_of_bd h
        refine ol_cVw (As := []) hX (pc := 106) (wX4_goesOn V a (ol_ms y1.2 3 ((35 + v1).toNatClampNeg) y5) y9 e10) lkX4_110 dcX4_goesOn ol_rr_X4_readAsk_X4_goesOn 0 rfl rfl ⟨Nat.le_refl _, Nat.le_refl _⟩ (Nat.le_of_ble_eq_true rfl) dX4_readAsk_106 rfl ?_
        refine ol_aload_n hX (pc := 109) dX4_readAsk_109 rfl rfl ?_
        refine ol_bipush hX (pc := 110) 47 dX4_readAsk_110 ol_k_bipush_47 ?_
        refine ol_iload_n hX (pc := 112) dX4_readAsk_112 rfl rfl ?_
        refine ol_iadd hX (pc := 113) dX4_readAsk_113 ?_
        refine ol_iconst hX (pc := 114) 1 dX4_readAsk_114 ol_k_iconst_1 ?_
        refine ol_bipush hX (pc := 115) 99 dX4_readAsk_115 ol_k_bipush_99 ?_
        obtain ⟨y11, e12, h⟩ := ol_of_bd h
        refine ol_cVw (As := [.int (47 + v1), .int 1, .int 99]) hX (pc := 117) (wX4_lays V a y9 (47 + v1) 1 99 y11 e12) lkX4_117 dcX4_lays ol_rr_X4_readAsk_X4_lays 0 rfl rfl ⟨Nat.le_refl _, Nat.le_refl _⟩ (Nat.le_of_ble_eq_true rfl) dX4_readAsk_117 rfl ?_
        refine ol_if_ne hX (pc := 120) 125 dX4_readAsk_120 (by decide) (fun c13 => ?_) (fun c13 => ?_)
        · have h := ol_ifn c13 h
          refine ol_aload_n hX (pc := 125) dX4_readAsk_125 rfl rfl ?_
          refine ol_mg7 hX (pc := 126) dX4_readAsk_126 ?_
          refine ol_iconst hX (pc := 129) 4 dX4_readAsk_129 ol_k_iconst_4 ?_
          refine ol_dup2_11 hX (pc := 130) dX4_readAsk_130 rfl rfl ?_
          refine ol_ml3 hX (pc := 131) dX4_readAsk_131 ol_tn_4 (ol_in_vp (by decide)) ?_
          refine ol_iconst hX (pc := 132) 1 dX4_readAsk_132 ol_k_iconst_1 ?_
          refine ol_iadd hX (pc := 133) dX4_readAsk_133 ?_
          refine ol_ms3 hX (pc := 134) dX4_readAsk_134 ol_tn_4 (ol_in_vp (by decide)) ?_
          refine ol_iconst hX (pc := 135) 1 dX4_readAsk_135 ol_k_iconst_1 ?_
          have h := ol_of_some h
          subst h
          exact ol_zret hX (pc := 136) dX4_readAsk_136 (by rfl) ⟨rfl, rfl⟩ ⟨Nat.le_refl _, Nat.le_refl _⟩
        · have h := ol_ifp c13 h
          refine ol_iconst hX (pc := 123) 0 dX4_readAsk_123 ol_k_iconst_0 ?_
          have h := ol_of_some h
          subst h
          exact ol_zret hX (pc := 124) dX4_readAsk_124 (by rfl) ⟨rfl, rfl⟩ ⟨Nat.le_refl _, Nat.le_refl _⟩
      · have h := ol_ifp c16 h
        refine ol_aload_n hX (pc := 99) dX4_readAsk_99 rfl rfl ?_
        refine ol_iconst hX (pc := 100) 2 dX4_readAsk_100 ol_k_iconst_2 ?_
        obtain ⟨y14, e15, h⟩ := ol_of_bd h
        refine ol_cVw (As := [.int 2]) hX (pc := 101) (wX4_errs V a (ol_ms y1.2 3 ((35 + v1).toNatClampNeg) y5) 2 y14 e15) lkX4_106 dcX4_errs ol_rr_X4_readAsk_X4_errs 0 rfl rfl ⟨Nat.le_refl _, Nat.le_refl _⟩ (Nat.le_of_ble_eq_true rfl) dX4_readAsk_101 rfl ?_
        obtain ⟨gz, h⟩ := ol_of_og h
        have h := ol_of_some h
        subst h
        exact ol_zret hX (pc := 104) dX4_readAsk_104 (ol_zb_nar gz) ⟨rfl, rfl⟩ ⟨Nat.le_refl _, Nat.le_refl _⟩
    · have h := ol_ifp c19 h
      refine ol_aload_n hX (pc := 67) dX4_readAsk_67 rfl rfl ?_
      refine ol_iconst hX (pc := 68) 1 dX4_readAsk_68 ol_k_iconst_1 ?_
      obtain ⟨y17, e18, h⟩ := ol_of_bd h
      refine ol_cVw (As := [.int 1]) hX (pc := 69) (wX4_errs V a y1.2 1 y17 e18) lkX4_106 dcX4_errs ol_rr_X4_readAsk_X4_errs 0 rfl rfl ⟨Nat.le_refl _, Nat.le_refl _⟩ (Nat.le_of_ble_eq_true rfl) dX4_readAsk_69 rfl ?_
      obtain ⟨gz, h⟩ := ol_of_og h
      have h := ol_of_some h
      subst h
      exact ol_zret hX (pc := 72) dX4_readAsk_72 (ol_zb_nar gz) ⟨rfl, rfl⟩ ⟨Nat.le_refl _, Nat.le_refl _⟩
  · have h := ol_ifp c20 h
    refine ol_iconst hX (pc := 58) 0 dX4_readAsk_58 ol_k_iconst_0 ?_
    have h := ol_of_some h
    subst h
    exact ol_zret hX (pc := 59) dX4_readAsk_59 (by rfl) ⟨rfl, rfl⟩ ⟨Nat.le_refl _, Nat.le_refl _⟩
set_option maxHeartbeats 4000000 in
theorem wX4_readAsk_L19 {X : ol_Cx} {V : ol_Gh} {A : Nat → Prop} {a : Nat → Nat} {z : Int32 × ol_Mm} (hX : ol_CX X V A cX4_readAsk RX4 "readAsk" 2 (some .boolean))    (v1 : Int32) (s0 : Int32) (σ : ol_Mm) (h : oX4_readAsk_L19 v1 s0 σ = some z) : ol_G X V A true (ol_Pw (some (.int z.1)) (ol_WM V a z.2)) ({ frames := 6, cells := 0, slots := 0, locals := 127 } : Room) 2 0 0 (ol_WM V a σ) 19 [some (.ref (a 0)), some (.int v1)] [.int s0, .ref (a 0)] := by
  unfold oX4_readAsk_L19 at h
  obtain ⟨y1, e2, h⟩ := ol_of_bd h
  refine ol_cVw (As := [.int s0]) hX (pc := 19) (wX4_begins V a σ s0 y1 e2) lkX4_148 dcX4_begins ol_rr_X4_readAsk_X4_begins 0 rfl rfl ⟨Nat.le_refl _, Nat.le_refl _⟩ (Nat.le_of_ble_eq_true rfl) dX4_readAsk_19 rfl ?_
  refine ol_if_eq hX (pc := 22) 58 dX4_readAsk_22 (by decide) (fun c5 => ?_) (fun c5 => ?_)
  · have h := ol_ifp c5 h
    refine ol_iconst hX (pc := 58) 0 dX4_readAsk_58 ol_k_iconst_0 ?_
    have h := ol_of_some h
    subst h
    exact ol_zret hX (pc := 59) dX4_readAsk_59 (by rfl) ⟨rfl, rfl⟩ ⟨Nat.le_refl _, Nat.le_refl _⟩
  · have h := ol_ifn c5 h
    refine ol_aload_n hX (pc := 25) dX4_readAsk_25 rfl rfl ?_
    refine ol_bipush hX (pc := 26) 23 dX4_readAsk_26 ol_k_bipush_23 ?_
    refine ol_iload_n hX (pc := 28) dX4_readAsk_28 rfl rfl ?_
    refine ol_iadd hX (pc := 29) dX4_readAsk_29 ?_
    refine ol_iload_n hX (pc := 30) dX4_readAsk_30 rfl rfl ?_
    refine ol_if_ne hX (pc := 31) 38 dX4_readAsk_31 (by decide) (fun c4 => ?_) (fun c4 => ?_)
    · have h := ol_ifn c4 h
      refine ol_aload_n hX (pc := 38) dX4_readAsk_38 rfl rfl ?_
      refine ol_mg7 hX (pc := 39) dX4_readAsk_39 ?_
      refine ol_bipush hX (pc := 42) 23 dX4_readAsk_42 ol_k_bipush_23 ?_
      refine ol_iload_n hX (pc := 44) dX4_readAsk_44 rfl rfl ?_
      refine ol_iadd hX (pc := 45) dX4_readAsk_45 ?_
      refine ol_iconst hX (pc := 46) 1 dX4_readAsk_46 ol_k_iconst_1 ?_
      refine ol_isub hX (pc := 47) dX4_readAsk_47 ?_
      obtain ⟨g3, h⟩ := ol_of_og h
      refine ol_ml3 hX (pc := 48) dX4_readAsk_48 rfl (ol_in_vp g3) ?_
      exact wX4_readAsk_L49 hX v1 (y1.2.1 3 (((23 + v1) - 1).toNatClampNeg)) (23 + v1) y1.2 h
    · have h := ol_ifp c4 h
      refine ol_iconst hX (pc := 34) 1 dX4_readAsk_34 ol_k_iconst_1 ?_
      refine ol_goto hX (pc := 35) 49 dX4_readAsk_35 (by decide) ?_
      exact wX4_readAsk_L49 hX v1 1 (23 + v1) y1.2 h
set_option maxHeartbeats 4000000 in
theorem wX4_readAsk (V : ol_Gh) (a : Nat → Nat) (σ : ol_Mm)  (z : Int32 × ol_Mm) (h : oX4_readAsk σ = some z) : ol_Mt V yX4_readAsk cX4_readAsk 2 (some .boolean) ({ frames := 6, cells := 0, slots := 0, locals := 127 } : Room) true [.ref (a 0)] (ol_WM V a σ) (ol_Pw (some (.int z.1)) (ol_WM V a z.2)) := by
  refine ol_MtOf (L0 := [some (.ref (a 0)), none]) (by decide) (Nat.le_of_ble_eq_true rfl) rfl (fun X A hX => ?_)
  unfold oX4_readAsk at h
  refine ol_aload_n hX (pc := 0) dX4_readAsk_0 rfl rfl ?_
  refine ol_mg7 hX (pc := 1) dX4_readAsk_1 ?_
  refine ol_iconst hX (pc := 4) 4 dX4_readAsk_4 ol_k_iconst_4 ?_
  refine ol_ml3 hX (pc := 5) dX4_readAsk_5 ol_tn_4 (ol_in_vp (by decide)) ?_
  refine ol_istore_n hX (pc := 6) [some (.ref (a 0)), some (.int (σ.1 3 4))] dX4_readAsk_6 rfl (by decide) rfl rfl ?_
  refine ol_aload_n hX (pc := 7) dX4_readAsk_7 rfl rfl ?_
  refine ol_iload_n hX (pc := 8) dX4_readAsk_8 rfl rfl ?_
  refine ol_bipush hX (pc := 9) 12 dX4_readAsk_9 ol_k_bipush_12 ?_
  refine ol_icmp_ge hX (pc := 11) 18 dX4_readAsk_11 (by decide) (fun c1 => ?_) (fun c1 => ?_)
  · have h := ol_ifp c1 h
    refine ol_iconst hX (pc := 18) 0 dX4_readAsk_18 ol_k_iconst_0 ?_
    exact wX4_readAsk_L19 hX (σ.1 3 4) 0 σ h
  · have h := ol_ifn c1 h
    refine ol_iconst hX (pc := 14) 1 dX4_readAsk_14 ol_k_iconst_1 ?_
    refine ol_goto hX (pc := 15) 19 dX4_readAsk_15 (by decide) ?_
    exact wX4_readAsk_L19 hX (σ.1 3 4) 1 σ h
set_option maxHeartbeats 4000000 in
theorem wX4_readLine (V : ol_Gh) (a : Nat → Nat) (σ : ol_Mm)  (z : Int32 × ol_Mm) (h : oX4_readLine σ = some z) : ol_Mt V yX4_readLine cX4_readLine 1 (some .boolean) ({ frames := 7, cells := 0, slots := 0, locals := 153 } : Room) true [.ref (a 0)] (ol_WM V a σ) (ol_Pw (some (.int z.1)) (ol_WM V a z.2)) := by
  refine ol_MtOf (L0 := [some (.ref (a 0))]) (by decide) (Nat.le_of_ble_eq_true rfl) rfl (fun X A hX => ?_)
  unfold oX4_readLine at h
  refine ol_aload_n hX (pc := 0) dX4_readLine_0 rfl rfl ?_
  refine ol_ldcS hX (pc := 1) 0 0 (by decide) (by decide) q2271 rfl rfl dX4_readLine_1 ?_
  obtain ⟨y1, e2, h⟩ := ol_of_bd h
  refine ol_cVr (As := [.ref (ol_sa V 0 0)]) hX (pc := 3) (wX4_isWord V a σ 0 y1 e2) lkX4_113 dcX4_isWord ⟨rfl, rfl⟩ ol_rr_X4_readLine_X4_isWord 0 rfl rfl (fun _ h => h) ⟨Nat.le_refl _, Nat.le_refl _⟩ (Nat.le_of_ble_eq_true rfl) dX4_readLine_3 rfl ?_
  refine ol_if_eq hX (pc := 6) 14 dX4_readLine_6 (by decide) (fun c17 => ?_) (fun c17 => ?_)
  · have h := ol_ifp c17 h
    refine ol_aload_n hX (pc := 14) dX4_readLine_14 rfl rfl ?_
    refine ol_ldcS hX (pc := 15) 0 4 (by decide) (by decide) q2297 rfl rfl dX4_readLine_15 ?_
    obtain ⟨y3, e4, h⟩ := ol_of_bd h
    refine ol_cVr (As := [.ref (ol_sa V 0 4)]) hX (pc := 17) (wX4_isWord V a σ 4 y3 e4) lkX4_113 dcX4_isWord ⟨rfl, rfl⟩ ol_rr_X4_readLine_X4_isWord 0 rfl rfl (fun _ h => h) ⟨Nat.le_refl _, Nat.le_refl _⟩ (Nat.le_of_ble_eq_true rfl) dX4_readLine_17 rfl ?_
    refine ol_if_eq hX (pc := 20) 28 dX4_readLine_20 (by decide) (fun c14 => ?_) (fun c14 => ?_)
    · have h := ol_ifp c14 h
      refine ol_aload_n hX (pc := 28) dX4_readLine_28 rfl rfl ?_
      refine ol_ldcS hX (pc := 29) 0 5 (by decide) (by decide) q2310 rfl rfl dX4_readLine_29 ?_
      obtain ⟨y5, e6, h⟩ := ol_of_bd h
      refine ol_cVr (As := [.ref (ol_sa V 0 5)]) hX (pc := 31) (wX4_isWord V a σ 5 y5 e6) lkX4_113 dcX4_isWord ⟨rfl, rfl⟩ ol_rr_X4_readLine_X4_isWord 0 rfl rfl (fun _ h => h) ⟨Nat.le_refl _, Nat.le_refl _⟩ (Nat.le_of_ble_eq_true rfl) dX4_readLine_31 rfl ?_
      refine ol_if_eq hX (pc := 34) 44 dX4_readLine_34 (by decide) (fun c11 => ?_) (fun c11 => ?_)
      · have h := ol_ifp c11 h
        refine ol_aload_n hX (pc := 44) dX4_readLine_44 rfl rfl ?_
        refine ol_iconst hX (pc := 45) 1 dX4_readLine_45 ol_k_iconst_1 ?_
        obtain ⟨y7, e8, h⟩ := ol_of_bd h
        refine ol_cVw (As := [.int 1]) hX (pc := 46) (wX4_errs V a σ 1 y7 e8) lkX4_106 dcX4_errs ol_rr_X4_readLine_X4_errs 0 rfl rfl ⟨Nat.le_refl _, Nat.le_refl _⟩ (Nat.le_of_ble_eq_true rfl) dX4_readLine_46 rfl ?_
        obtain ⟨gz, h⟩ := ol_of_og h
        have h := ol_of_some h
        subst h
        exact ol_zret hX (pc := 49) dX4_readLine_49 (ol_zb_nar gz) ⟨rfl, rfl⟩ ⟨Nat.le_refl _, Nat.le_refl _⟩
      · have h := ol_ifn c11 h
        refine ol_aload_n hX (pc := 37) dX4_readLine_37 rfl rfl ?_
        obtain ⟨y9, e10, h⟩ := ol_of_bd h
        refine ol_cVw (As := []) hX (pc := 38) (wX4_readAsk V a σ y9 e10) lkX4_174 dcX4_readAsk ol_rr_X4_readLine_X4_readAsk 0 rfl rfl ⟨Nat.le_refl _, Nat.le_refl _⟩ (Nat.le_of_ble_eq_true rfl) dX4_readLine_38 rfl ?_
        refine ol_goto hX (pc := 41) 49 dX4_readLine_41 (by decide) ?_
        obtain ⟨gz, h⟩ := ol_of_og h
        have h := ol_of_some h
        subst h
        exact ol_zret hX (pc := 49) dX4_readLine_49 (ol_zb_nar gz) ⟨rfl, rfl⟩ ⟨Nat.le_refl _, Nat.le_refl _⟩
    · have h := ol_ifn c14 h
      refine ol_aload_n hX (pc := 23) dX4_readLine_23 rfl rfl ?_
      obtain ⟨y12, e13, h⟩ := ol_of_bd h
      refine ol_cVw (As := []) hX (pc := 24) (wX4_readBoard V a σ y12 e13) lkX4_171 dcX4_readBoard ol_rr_X4_readLine_X4_readBoard 0 rfl rfl ⟨Nat.le_refl _, Nat.le_refl _⟩ (Nat.le_of_ble_eq_true rfl) dX4_readLine_24 rfl ?_
      obtain ⟨gz, h⟩ := ol_of_og h
      have h := ol_of_some h
      subst h
      exact ol_zret hX (pc := 27) dX4_readLine_27 (ol_zb_nar gz) ⟨rfl, rfl⟩ ⟨Nat.le_refl _, Nat.le_refl _⟩
  · have h := ol_ifn c17 h
    refine ol_aload_n hX (pc := 9) dX4_readLine_9 rfl rfl ?_
    obtain ⟨y15, e16, h⟩ := ol_of_bd h
    refine ol_cVw (As := []) hX (pc := 10) (wX4_readBus V a σ y15 e16) lkX4_168 dcX4_readBus ol_rr_X4_readLine_X4_readBus 0 rfl rfl ⟨Nat.le_refl _, Nat.le_refl _⟩ (Nat.le_of_ble_eq_true rfl) dX4_readLine_10 rfl ?_
    obtain ⟨gz, h⟩ := ol_of_og h
    have h := ol_of_some h
    subst h
    exact ol_zret hX (pc := 13) dX4_readLine_13 (ol_zb_nar gz) ⟨rfl, rfl⟩ ⟨Nat.le_refl _, Nat.le_refl _⟩
set_option maxHeartbeats 4000000 in
theorem wX4_readAll_L42 {X : ol_Cx} {V : ol_Gh} {A : Nat → Prop} {a : Nat → Nat} {z : Int32 × ol_Mm} (hX : ol_CX X V A cX4_readAll RX4 "readAll" 2 (some .boolean)) (x1 : Int32)    : ∀ (n : Nat), ∀ (σ : ol_Mm), oX4_readAll_L42 x1 n σ = some z → ol_G X V A true (ol_Pw (some (.int z.1)) (ol_WM V a z.2)) ({ frames := 8, cells := 0, slots := 0, locals := 173 } : Room) 2 0 0 (ol_WM V a σ) 42 [some (.ref (a 0)), none] [] := by
  intro n
  induction n with
  | zero =>
    intro σ h
    exact ol_no h
  | succ n ih =>
    intro σ h
    rw [oX4_readAll_L42] at h
    refine ol_aload_n hX (pc := 42) dX4_readAll_42 rfl rfl ?_
    refine ol_mg13 hX (pc := 43) dX4_readAll_43 ?_
    refine ol_bipush hX (pc := 46) 59 dX4_readAll_46 ol_k_bipush_59 ?_
    refine ol_icmp_ne hX (pc := 48) 64 dX4_readAll_48 (by decide) (fun c13 => ?_) (fun c13 => ?_)
    · have h := ol_ifn c13 h
      refine ol_aload_n hX (pc := 64) dX4_readAll_64 rfl rfl ?_
      refine ol_mg13 hX (pc := 65) dX4_readAll_65 ?_
      refine ol_if_eq hX (pc := 68) 77 dX4_readAll_68 (by decide) (fun c7 => ?_) (fun c7 => ?_)
      · have h := ol_ifp c7 h
        refine ol_aload_n hX (pc := 77) dX4_readAll_77 rfl rfl ?_
        refine ol_mg7 hX (pc := 78) dX4_readAll_78 ?_
        refine ol_iconst hX (pc := 81) 3 dX4_readAll_81 ol_k_iconst_3 ?_
        refine ol_ml3 hX (pc := 82) dX4_readAll_82 ol_tn_3 (ol_in_vp (by decide)) ?_
        refine ol_if_gt hX (pc := 83) 95 dX4_readAll_83 (by decide) (fun c4 => ?_) (fun c4 => ?_)
        · have h := ol_ifp c4 h
          refine ol_iconst hX (pc := 95) 1 dX4_readAll_95 ol_k_iconst_1 ?_
          refine ol_goto hX (pc := 96) 100 dX4_readAll_96 (by decide) ?_
          have h := ol_of_some h
          subst h
          exact ol_zret hX (pc := 100) dX4_readAll_100 (by rfl) ⟨rfl, rfl⟩ ⟨Nat.le_refl _, Nat.le_refl _⟩
        · have h := ol_ifn c4 h
          refine ol_aload_n hX (pc := 86) dX4_readAll_86 rfl rfl ?_
          refine ol_bipush hX (pc := 87) 6 dX4_readAll_87 ol_k_bipush_6 ?_
          obtain ⟨y1, e2, h⟩ := ol_of_bd h
          refine ol_cVw (As := [.int 6]) hX (pc := 89) (wX4_errs V a σ 6 y1 e2) lkX4_106 dcX4_errs ol_rr_X4_readAll_X4_errs 0 rfl rfl ⟨Nat.le_refl _, Nat.le_refl _⟩ (Nat.le_of_ble_eq_true rfl) dX4_readAll_89 rfl ?_
          refine ol_if_eq hX (pc := 92) 99 dX4_readAll_92 (by decide) (fun c3 => ?_) (fun c3 => ?_)
          · have h := ol_ifp c3 h
            refine ol_iconst hX (pc := 99) 0 dX4_readAll_99 ol_k_iconst_0 ?_
            have h := ol_of_some h
            subst h
            exact ol_zret hX (pc := 100) dX4_readAll_100 (by rfl) ⟨rfl, rfl⟩ ⟨Nat.le_refl _, Nat.le_refl _⟩
          · have h := ol_ifn c3 h
            refine ol_iconst hX (pc := 95) 1 dX4_readAll_95 ol_k_iconst_1 ?_
            refine ol_goto hX (pc := 96) 100 dX4_readAll_96 (by decide) ?_
            have h := ol_of_some h
            subst h
            exact ol_zret hX (pc := 100) dX4_readAll_100 (by rfl) ⟨rfl, rfl⟩ ⟨Nat.le_refl _, Nat.le_refl _⟩
      · have h := ol_ifn c7 h
        refine ol_aload_n hX (pc := 71) dX4_readAll_71 rfl rfl ?_
        refine ol_iconst hX (pc := 72) 1 dX4_readAll_72 ol_k_iconst_1 ?_
        obtain ⟨y5, e6, h⟩ := ol_of_bd h
        refine ol_cVw (As := [.int 1]) hX (pc := 73) (wX4_errs V a σ 1 y5 e6) lkX4_106 dcX4_errs ol_rr_X4_readAll_X4_errs 0 rfl rfl ⟨Nat.le_refl _, Nat.le_refl _⟩ (Nat.le_of_ble_eq_true rfl) dX4_readAll_73 rfl ?_
        obtain ⟨gz, h⟩ := ol_of_og h
        have h := ol_of_some h
        subst h
        exact ol_zret hX (pc := 76) dX4_readAll_76 (ol_zb_nar gz) ⟨rfl, rfl⟩ ⟨Nat.le_refl _, Nat.le_refl _⟩
    · have h := ol_ifp c13 h
      refine ol_aload_n hX (pc := 51) dX4_readAll_51 rfl rfl ?_
      obtain ⟨y8, e9, h⟩ := ol_of_bd h
      refine ol_cVw (As := []) hX (pc := 52) (wX4_goesOn V a σ y8 e9) lkX4_110 dcX4_goesOn ol_rr_X4_readAll_X4_goesOn 0 rfl rfl ⟨Nat.le_refl _, Nat.le_refl _⟩ (Nat.le_of_ble_eq_true rfl) dX4_readAll_52 rfl ?_
      refine ol_aload_n hX (pc := 55) dX4_readAll_55 rfl rfl ?_
      obtain ⟨y10, e11, h⟩ := ol_of_bd h
      refine ol_cVw (As := []) hX (pc := 56) (wX4_readLine V a y8 y10 e11) lkX4_177 dcX4_readLine ol_rr_X4_readAll_X4_readLine 0 rfl rfl ⟨Nat.le_refl _, Nat.le_refl _⟩ (Nat.le_of_ble_eq_true rfl) dX4_readAll_56 rfl ?_
      refine ol_if_ne hX (pc := 59) 42 dX4_readAll_59 (by decide) (fun c12 => ?_) (fun c12 => ?_)
      · have h := ol_ifn c12 h
        exact ih y10.2 h
      · have h := ol_ifp c12 h
        refine ol_iconst hX (pc := 62) 0 dX4_readAll_62 ol_k_iconst_0 ?_
        have h := ol_of_some h
        subst h
        exact ol_zret hX (pc := 63) dX4_readAll_63 (by rfl) ⟨rfl, rfl⟩ ⟨Nat.le_refl _, Nat.le_refl _⟩
set_option maxHeartbeats 4000000 in
theorem wX4_readAll (V : ol_Gh) (a : Nat → Nat) (σ : ol_Mm) (x1 : Int32)  (z : Int32 × ol_Mm) (h : oX4_readAll σ x1 = some z) : ol_Mt V yX4_readAll cX4_readAll 2 (some .boolean) ({ frames := 8, cells := 0, slots := 0, locals := 173 } : Room) true [.ref (a 0), .int x1] (ol_WM V a σ) (ol_Pw (some (.int z.1)) (ol_WM V a z.2)) := by
  refine ol_MtOf (L0 := [some (.ref (a 0)), some (.int x1)]) (by decide) (Nat.le_of_ble_eq_true rfl) rfl (fun X A hX => ?_)
  unfold oX4_readAll at h
  refine ol_aload_n hX (pc := 0) dX4_readAll_0 rfl rfl ?_
  refine ol_iload_n hX (pc := 1) dX4_readAll_1 rfl rfl ?_
  refine ol_mp10 hX (pc := 2) dX4_readAll_2 ?_
  refine ol_aload_n hX (pc := 5) dX4_readAll_5 rfl rfl ?_
  refine ol_iconst hX (pc := 6) 0 dX4_readAll_6 ol_k_iconst_0 ?_
  refine ol_mp12 hX (pc := 7) dX4_readAll_7 ?_
  refine ol_aload_n hX (pc := 10) dX4_readAll_10 rfl rfl ?_
  refine ol_iconst hX (pc := 11) 0 dX4_readAll_11 ol_k_iconst_0 ?_
  refine ol_mp17 hX (pc := 12) dX4_readAll_12 (by rfl) ?_
  refine ol_aload_n hX (pc := 15) dX4_readAll_15 rfl rfl ?_
  refine ol_mg7 hX (pc := 16) dX4_readAll_16 ?_
  refine ol_iconst hX (pc := 19) 3 dX4_readAll_19 ol_k_iconst_3 ?_
  refine ol_iconst hX (pc := 20) 0 dX4_readAll_20 ol_k_iconst_0 ?_
  refine ol_ms3 hX (pc := 21) dX4_readAll_21 ol_tn_3 (ol_in_vp (by decide)) ?_
  refine ol_aload_n hX (pc := 22) dX4_readAll_22 rfl rfl ?_
  refine ol_mg7 hX (pc := 23) dX4_readAll_23 ?_
  refine ol_iconst hX (pc := 26) 4 dX4_readAll_26 ol_k_iconst_4 ?_
  refine ol_iconst hX (pc := 27) 0 dX4_readAll_27 ol_k_iconst_0 ?_
  refine ol_ms3 hX (pc := 28) dX4_readAll_28 ol_tn_4 (ol_in_vp (by decide)) ?_
  refine ol_aload_n hX (pc := 29) dX4_readAll_29 rfl rfl ?_
  obtain ⟨y1, e2, h⟩ := ol_of_bd h
  refine ol_cVw (As := []) hX (pc := 30) (wX4_goesOn V a (ol_ms (ol_ms (ol_ms (ol_ms (ol_ms σ 0 10 x1) 0 12 0) 0 17 0) 3 3 0) 3 4 0) y1 e2) lkX4_110 dcX4_goesOn ol_rr_X4_readAll_X4_goesOn 0 rfl rfl ⟨Nat.le_refl _, Nat.le_refl _⟩ (Nat.le_of_ble_eq_true rfl) dX4_readAll_30 rfl ?_
  refine ol_aload_n hX (pc := 33) dX4_readAll_33 rfl rfl ?_
  obtain ⟨y3, e4, h⟩ := ol_of_bd h
  refine ol_cVw (As := []) hX (pc := 34) (wX4_readLine V a y1 y3 e4) lkX4_177 dcX4_readLine ol_rr_X4_readAll_X4_readLine 0 rfl rfl ⟨Nat.le_refl _, Nat.le_refl _⟩ (Nat.le_of_ble_eq_true rfl) dX4_readAll_34 rfl ?_
  refine ol_if_ne hX (pc := 37) 42 dX4_readAll_37 (by decide) (fun c5 => ?_) (fun c5 => ?_)
  · have h := ol_ifn c5 h
    refine ol_Gdrop 1 ?_
    exact wX4_readAll_L42 hX x1 ol_fuel y3.2 h
  · have h := ol_ifp c5 h
    refine ol_iconst hX (pc := 40) 0 dX4_readAll_40 ol_k_iconst_0 ?_
    have h := ol_of_some h
    subst h
    exact ol_zret hX (pc := 41) dX4_readAll_41 (by rfl) ⟨rfl, rfl⟩ ⟨Nat.le_refl _, Nat.le_refl _⟩
set_option maxHeartbeats 4000000 in
theorem wX4_no (V : ol_Gh) (a : Nat → Nat) (σ : ol_Mm) (x1 : Int32)  (z : Int32 × ol_Mm) (h : oX4_no σ x1 = some z) : ol_Mt V yX4_no cX4_no 2 (some .int) ({ frames := 0, cells := 0, slots := 0, locals := 0 } : Room) true [.ref (a 0), .int x1] (ol_WM V a σ) (ol_Pw (some (.int z.1)) (ol_WM V a z.2)) := by
  refine ol_MtOf (L0 := [some (.ref (a 0)), some (.int x1)]) (by decide) (Nat.le_of_ble_eq_true rfl) rfl (fun X A hX => ?_)
  unfold oX4_no at h
  refine ol_aload_n hX (pc := 0) dX4_no_0 rfl rfl ?_
  refine ol_iload_n hX (pc := 1) dX4_no_1 rfl rfl ?_
  refine ol_mp1 hX (pc := 2) dX4_no_2 ?_
  refine ol_iconst hX (pc := 5) (-1) dX4_no_5 ol_k_iconst_m1 ?_
  have h := ol_of_some h
  subst h
  exact ol_iret hX (pc := 6) dX4_no_6 ⟨rfl, rfl⟩ ⟨Nat.le_refl _, Nat.le_refl _⟩
set_option maxHeartbeats 4000000 in
theorem wX4_at (V : ol_Gh) (ws : va_W) (x1 : Int32) (x2 : Int32)  (z : Int32) (h : oX4_at x1 x2 = some z) : ol_Mt V yX4_at cX4_at 2 (some .int) ({ frames := 0, cells := 0, slots := 0, locals := 0 } : Room) false [.int x1, .int x2] (ws) (ol_Pr (some (.int z))) := by
  refine ol_MtOf (L0 := [some (.int x1), some (.int x2)]) (by decide) (Nat.le_of_ble_eq_true rfl) rfl (fun X A hX => ?_)
  unfold oX4_at at h
  refine ol_bipush hX (pc := 0) 18 dX4_at_0 ol_k_bipush_18 ?_
  refine ol_bipush hX (pc := 2) 12 dX4_at_2 ol_k_bipush_12 ?_
  refine ol_iload_n hX (pc := 4) dX4_at_4 rfl rfl ?_
  refine ol_imul hX (pc := 5) dX4_at_5 ?_
  refine ol_iadd hX (pc := 6) dX4_at_6 ?_
  refine ol_iload_n hX (pc := 7) dX4_at_7 rfl rfl ?_
  refine ol_iadd hX (pc := 8) dX4_at_8 ?_
  have h := ol_of_some h
  subst h
  exact ol_iret hX (pc := 9) dX4_at_9 rfl ⟨Nat.le_refl _, Nat.le_refl _⟩
set_option maxHeartbeats 4000000 in
theorem wX4_beginsAnew_L56 {X : ol_Cx} {V : ol_Gh} {A : Nat → Prop} {a : Nat → Nat} {z : ol_Mm} (hX : ol_CX X V A cX4_beginsAnew RX4 "beginsAnew" 2 none)     : ∀ (n : Nat), ∀ (v1 : Int32) (σ : ol_Mm), oX4_beginsAnew_L56 n v1 σ = some z → ol_G X V A true (ol_Pw none (ol_WM V a z)) ({ frames := 1, cells := 0, slots := 0, locals := 21 } : Room) 2 0 0 (ol_WM V a σ) 56 [some (.ref (a 0)), some (.int v1)] [] := by
  intro n
  induction n with
  | zero =>
    intro v1 σ h
    exact ol_no h
  | succ n ih =>
    intro v1 σ h
    rw [oX4_beginsAnew_L56] at h
    refine ol_iload_n hX (pc := 56) dX4_beginsAnew_56 rfl rfl ?_
    refine ol_bipush hX (pc := 57) 6 dX4_beginsAnew_57 ol_k_bipush_6 ?_
    refine ol_icmp_ge hX (pc := 59) 104 dX4_beginsAnew_59 (by decide) (fun c10 => ?_) (fun c10 => ?_)
    · have h := ol_ifp c10 h
      have h := ol_of_some h
      subst h
      exact ol_vret hX (pc := 104) dX4_beginsAnew_104 ⟨rfl, rfl⟩ ⟨Nat.le_refl _, Nat.le_refl _⟩
    · have h := ol_ifn c10 h
      refine ol_aload_n hX (pc := 62) dX4_beginsAnew_62 rfl rfl ?_
      refine ol_mg18 hX (pc := 63) dX4_beginsAnew_63 ?_
      refine ol_iload_n hX (pc := 66) dX4_beginsAnew_66 rfl rfl ?_
      refine ol_iconst hX (pc := 67) 2 dX4_beginsAnew_67 ol_k_iconst_2 ?_
      obtain ⟨y1, e2, h⟩ := ol_of_bd h
      refine ol_cSr (As := [.int v1, .int 2]) hX (pc := 68) (wX4_at V (ol_WM V a σ) v1 2 y1 e2) lkX4_201 dcX4_at ⟨rfl, rfl⟩ ol_rr_X4_beginsAnew_X4_at (fun _ h => h) ⟨Nat.le_refl _, Nat.le_refl _⟩ (Nat.le_of_ble_eq_true rfl) dX4_beginsAnew_68 rfl ?_
      refine ol_iconst hX (pc := 71) 1 dX4_beginsAnew_71 ol_k_iconst_1 ?_
      obtain ⟨g3, h⟩ := ol_of_og h
      refine ol_ms5 hX (pc := 72) dX4_beginsAnew_72 rfl (ol_in_vp g3) ?_
      refine ol_aload_n hX (pc := 73) dX4_beginsAnew_73 rfl rfl ?_
      refine ol_mg18 hX (pc := 74) dX4_beginsAnew_74 ?_
      refine ol_iload_n hX (pc := 77) dX4_beginsAnew_77 rfl rfl ?_
      refine ol_iconst hX (pc := 78) 3 dX4_beginsAnew_78 ol_k_iconst_3 ?_
      obtain ⟨y4, e5, h⟩ := ol_of_bd h
      refine ol_cSr (As := [.int v1, .int 3]) hX (pc := 79) (wX4_at V (ol_WM V a (ol_ms σ 5 y1.toNatClampNeg 1)) v1 3 y4 e5) lkX4_201 dcX4_at ⟨rfl, rfl⟩ ol_rr_X4_beginsAnew_X4_at (fun _ h => h) ⟨Nat.le_refl _, Nat.le_refl _⟩ (Nat.le_of_ble_eq_true rfl) dX4_beginsAnew_79 rfl ?_
      refine ol_bipush hX (pc := 82) (-2) dX4_beginsAnew_82 ol_k_bipush_m2 ?_
      obtain ⟨g6, h⟩ := ol_of_og h
      refine ol_ms5 hX (pc := 84) dX4_beginsAnew_84 rfl (ol_in_vp g6) ?_
      refine ol_aload_n hX (pc := 85) dX4_beginsAnew_85 rfl rfl ?_
      refine ol_mg18 hX (pc := 86) dX4_beginsAnew_86 ?_
      refine ol_iload_n hX (pc := 89) dX4_beginsAnew_89 rfl rfl ?_
      refine ol_bipush hX (pc := 90) 10 dX4_beginsAnew_90 ol_k_bipush_10 ?_
      obtain ⟨y7, e8, h⟩ := ol_of_bd h
      refine ol_cSr (As := [.int v1, .int 10]) hX (pc := 92) (wX4_at V (ol_WM V a (ol_ms (ol_ms σ 5 y1.toNatClampNeg 1) 5 y4.toNatClampNeg (-2))) v1 10 y7 e8) lkX4_201 dcX4_at ⟨rfl, rfl⟩ ol_rr_X4_beginsAnew_X4_at (fun _ h => h) ⟨Nat.le_refl _, Nat.le_refl _⟩ (Nat.le_of_ble_eq_true rfl) dX4_beginsAnew_92 rfl ?_
      refine ol_bipush hX (pc := 95) (-2) dX4_beginsAnew_95 ol_k_bipush_m2 ?_
      obtain ⟨g9, h⟩ := ol_of_og h
      refine ol_ms5 hX (pc := 97) dX4_beginsAnew_97 rfl (ol_in_vp g9) ?_
      refine ol_iinc hX (pc := 98) (v1 + 1) [some (.ref (a 0)), some (.int (v1 + 1))] dX4_beginsAnew_98 rfl (ol_k_iinc_1 _) (by decide) rfl rfl ?_
      refine ol_goto hX (pc := 101) 56 dX4_beginsAnew_101 (by decide) ?_
      exact ih (v1 + 1) (ol_ms (ol_ms (ol_ms σ 5 y1.toNatClampNeg 1) 5 y4.toNatClampNeg (-2)) 5 y7.toNatClampNeg (-2)) h
set_option maxHeartbeats 4000000 in
theorem wX4_beginsAnew_L2 {X : ol_Cx} {V : ol_Gh} {A : Nat → Prop} {a : Nat → Nat} {z : ol_Mm} (hX : ol_CX X V A cX4_beginsAnew RX4 "beginsAnew" 2 none)     : ∀ (n : Nat), ∀ (v1 : Int32) (σ : ol_Mm), oX4_beginsAnew_L2 n v1 σ = some z → ol_G X V A true (ol_Pw none (ol_WM V a z)) ({ frames := 1, cells := 0, slots := 0, locals := 21 } : Room) 2 0 0 (ol_WM V a σ) 2 [some (.ref (a 0)), some (.int v1)] [] := by
  intro n
  induction n with
  | zero =>
    intro v1 σ h
    exact ol_no h
  | succ n ih =>
    intro v1 σ h
    rw [oX4_beginsAnew_L2] at h
    refine ol_iload_n hX (pc := 2) dX4_beginsAnew_2 rfl rfl ?_
    refine ol_sipush hX (pc := 3) 251 dX4_beginsAnew_3 ol_k_sipush_251 ?_
    refine ol_icmp_ge hX (pc := 6) 22 dX4_beginsAnew_6 (by decide) (fun c2 => ?_) (fun c2 => ?_)
    · have h := ol_ifp c2 h
      refine ol_aload_n hX (pc := 22) dX4_beginsAnew_22 rfl rfl ?_
      refine ol_mg18 hX (pc := 23) dX4_beginsAnew_23 ?_
      refine ol_iconst hX (pc := 26) 1 dX4_beginsAnew_26 ol_k_iconst_1 ?_
      refine ol_bipush hX (pc := 27) (-2) dX4_beginsAnew_27 ol_k_bipush_m2 ?_
      refine ol_ms5 hX (pc := 29) dX4_beginsAnew_29 ol_tn_1 (ol_in_vp (by decide)) ?_
      refine ol_aload_n hX (pc := 30) dX4_beginsAnew_30 rfl rfl ?_
      refine ol_mg18 hX (pc := 31) dX4_beginsAnew_31 ?_
      refine ol_iconst hX (pc := 34) 2 dX4_beginsAnew_34 ol_k_iconst_2 ?_
      refine ol_bipush hX (pc := 35) (-2) dX4_beginsAnew_35 ol_k_bipush_m2 ?_
      refine ol_ms5 hX (pc := 37) dX4_beginsAnew_37 ol_tn_2 (ol_in_vp (by decide)) ?_
      refine ol_aload_n hX (pc := 38) dX4_beginsAnew_38 rfl rfl ?_
      refine ol_mg18 hX (pc := 39) dX4_beginsAnew_39 ?_
      refine ol_iconst hX (pc := 42) 3 dX4_beginsAnew_42 ol_k_iconst_3 ?_
      refine ol_bipush hX (pc := 43) (-2) dX4_beginsAnew_43 ol_k_bipush_m2 ?_
      refine ol_ms5 hX (pc := 45) dX4_beginsAnew_45 ol_tn_3 (ol_in_vp (by decide)) ?_
      refine ol_aload_n hX (pc := 46) dX4_beginsAnew_46 rfl rfl ?_
      refine ol_mg18 hX (pc := 47) dX4_beginsAnew_47 ?_
      refine ol_iconst hX (pc := 50) 4 dX4_beginsAnew_50 ol_k_iconst_4 ?_
      refine ol_bipush hX (pc := 51) (-2) dX4_beginsAnew_51 ol_k_bipush_m2 ?_
      refine ol_ms5 hX (pc := 53) dX4_beginsAnew_53 ol_tn_4 (ol_in_vp (by decide)) ?_
      refine ol_iconst hX (pc := 54) 0 dX4_beginsAnew_54 ol_k_iconst_0 ?_
      refine ol_istore_n hX (pc := 55) [some (.ref (a 0)), some (.int 0)] dX4_beginsAnew_55 rfl (by decide) rfl rfl ?_
      exact wX4_beginsAnew_L56 hX ol_fuel 0 (ol_ms (ol_ms (ol_ms (ol_ms σ 5 1 (-2)) 5 2 (-2)) 5 3 (-2)) 5 4 (-2)) h
    · have h := ol_ifn c2 h
      refine ol_aload_n hX (pc := 9) dX4_beginsAnew_9 rfl rfl ?_
      refine ol_mg18 hX (pc := 10) dX4_beginsAnew_10 ?_
      refine ol_iload_n hX (pc := 13) dX4_beginsAnew_13 rfl rfl ?_
      refine ol_iconst hX (pc := 14) 0 dX4_beginsAnew_14 ol_k_iconst_0 ?_
      obtain ⟨g1, h⟩ := ol_of_og h
      refine ol_ms5 hX (pc := 15) dX4_beginsAnew_15 rfl (ol_in_vp g1) ?_
      refine ol_iinc hX (pc := 16) (v1 + 1) [some (.ref (a 0)), some (.int (v1 + 1))] dX4_beginsAnew_16 rfl (ol_k_iinc_1 _) (by decide) rfl rfl ?_
      refine ol_goto hX (pc := 19) 2 dX4_beginsAnew_19 (by decide) ?_
      exact ih (v1 + 1) (ol_ms σ 5 v1.toNatClampNeg 0) h
set_option maxHeartbeats 4000000 in
theorem wX4_beginsAnew (V : ol_Gh) (a : Nat → Nat) (σ : ol_Mm)  (z : ol_Mm) (h : oX4_beginsAnew σ = some z) : ol_Mt V yX4_beginsAnew cX4_beginsAnew 2 none ({ frames := 1, cells := 0, slots := 0, locals := 21 } : Room) true [.ref (a 0)] (ol_WM V a σ) (ol_Pw none (ol_WM V a z)) := by
  refine ol_MtOf (L0 := [some (.ref (a 0)), none]) (by decide) (Nat.le_of_ble_eq_true rfl) rfl (fun X A hX => ?_)
  unfold oX4_beginsAnew at h
  refine ol_iconst hX (pc := 0) 0 dX4_beginsAnew_0 ol_k_iconst_0 ?_
  refine ol_istore_n hX (pc := 1) [some (.ref (a 0)), some (.int 0)] dX4_beginsAnew_1 rfl (by decide) rfl rfl ?_
  exact wX4_beginsAnew_L2 hX ol_fuel 0 σ h
set_option maxHeartbeats 4000000 in
theorem wX4_bus_L68 {X : ol_Cx} {V : ol_Gh} {A : Nat → Prop} {a : Nat → Nat} {z : Int32 × ol_Mm} (hX : ol_CX X V A cX4_bus RX4 "bus" 3 (some .int)) (x1 : Int32)    : ∀ (n : Nat), ∀ (v2 : Int32) (σ : ol_Mm), oX4_bus_L68 x1 n v2 σ = some z → ol_G X V A true (ol_Pw (some (.int z.1)) (ol_WM V a z.2)) ({ frames := 9, cells := 0, slots := 0, locals := 194 } : Room) 3 0 0 (ol_WM V a σ) 68 [some (.ref (a 0)), none, some (.int v2)] [] := by
  intro n
  induction n with
  | zero =>
    intro v2 σ h
    exact ol_no h
  | succ n ih =>
    intro v2 σ h
    rw [oX4_bus_L68] at h
    refine ol_iload_n hX (pc := 68) dX4_bus_68 rfl rfl ?_
    refine ol_bipush hX (pc := 69) 59 dX4_bus_69 ol_k_bipush_59 ?_
    refine ol_icmp_ge hX (pc := 71) 92 dX4_bus_71 (by decide) (fun c5 => ?_) (fun c5 => ?_)
    · have h := ol_ifp c5 h
      refine ol_aload_n hX (pc := 92) dX4_bus_92 rfl rfl ?_
      refine ol_iconst hX (pc := 93) 1 dX4_bus_93 ol_k_iconst_1 ?_
      refine ol_mp9 hX (pc := 94) dX4_bus_94 (by rfl) ?_
      refine ol_aload_n hX (pc := 97) dX4_bus_97 rfl rfl ?_
      refine ol_iconst hX (pc := 98) 0 dX4_bus_98 ol_k_iconst_0 ?_
      refine ol_mp21 hX (pc := 99) dX4_bus_99 (by rfl) ?_
      refine ol_aload_n hX (pc := 102) dX4_bus_102 rfl rfl ?_
      obtain ⟨y1, e2, h⟩ := ol_of_bd h
      refine ol_cVw (As := []) hX (pc := 103) (wX4_beginsAnew V a (ol_ms (ol_ms σ 0 9 1) 0 21 0) y1 e2) lkX4_198 dcX4_beginsAnew ol_rr_X4_bus_X4_beginsAnew 0 rfl rfl ⟨Nat.le_refl _, Nat.le_refl _⟩ (Nat.le_of_ble_eq_true rfl) dX4_bus_103 rfl ?_
      refine ol_aload_n hX (pc := 106) dX4_bus_106 rfl rfl ?_
      refine ol_mg6 hX (pc := 107) dX4_bus_107 ?_
      refine ol_iconst hX (pc := 110) 3 dX4_bus_110 ol_k_iconst_3 ?_
      refine ol_ml2 hX (pc := 111) dX4_bus_111 ol_tn_3 (ol_in_vp (by decide)) ?_
      have h := ol_of_some h
      subst h
      exact ol_iret hX (pc := 112) dX4_bus_112 ⟨rfl, rfl⟩ ⟨Nat.le_refl _, Nat.le_refl _⟩
    · have h := ol_ifn c5 h
      refine ol_aload_n hX (pc := 74) dX4_bus_74 rfl rfl ?_
      refine ol_mg6 hX (pc := 75) dX4_bus_75 ?_
      refine ol_iload_n hX (pc := 78) dX4_bus_78 rfl rfl ?_
      refine ol_aload_n hX (pc := 79) dX4_bus_79 rfl rfl ?_
      refine ol_mg7 hX (pc := 80) dX4_bus_80 ?_
      refine ol_iload_n hX (pc := 83) dX4_bus_83 rfl rfl ?_
      obtain ⟨g3, h⟩ := ol_of_og h
      refine ol_ml3 hX (pc := 84) dX4_bus_84 rfl (ol_in_vp g3) ?_
      obtain ⟨g4, h⟩ := ol_of_og h
      refine ol_ms2 hX (pc := 85) dX4_bus_85 rfl (ol_in_vp g4) ?_
      refine ol_iinc hX (pc := 86) (v2 + 1) [some (.ref (a 0)), none, some (.int (v2 + 1))] dX4_bus_86 rfl (ol_k_iinc_1 _) (by decide) rfl rfl ?_
      refine ol_goto hX (pc := 89) 68 dX4_bus_89 (by decide) ?_
      exact ih (v2 + 1) (ol_ms σ 2 v2.toNatClampNeg (σ.1 3 v2.toNatClampNeg)) h
set_option maxHeartbeats 4000000 in
theorem wX4_bus_L18 {X : ol_Cx} {V : ol_Gh} {A : Nat → Prop} {a : Nat → Nat} {z : Int32 × ol_Mm} (hX : ol_CX X V A cX4_bus RX4 "bus" 3 (some .int)) (x1 : Int32)   (s0 : Int32) (σ : ol_Mm) (h : oX4_bus_L18 x1 s0 σ = some z) : ol_G X V A true (ol_Pw (some (.int z.1)) (ol_WM V a z.2)) ({ frames := 9, cells := 0, slots := 0, locals := 194 } : Room) 3 0 0 (ol_WM V a σ) 18 [some (.ref (a 0)), some (.int x1), none] [.int s0, .ref (a 0)] := by
  unfold oX4_bus_L18 at h
  obtain ⟨y1, e2, h⟩ := ol_of_bd h
  refine ol_cVw (As := [.int s0]) hX (pc := 18) (wX4_isRefused V a σ s0 y1 e2) lkX4_180 dcX4_isRefused ol_rr_X4_bus_X4_isRefused 0 rfl rfl ⟨Nat.le_refl _, Nat.le_refl _⟩ (Nat.le_of_ble_eq_true rfl) dX4_bus_18 rfl ?_
  refine ol_if_eq hX (pc := 21) 26 dX4_bus_21 (by decide) (fun c8 => ?_) (fun c8 => ?_)
  · have h := ol_ifp c8 h
    refine ol_aload_n hX (pc := 26) dX4_bus_26 rfl rfl ?_
    refine ol_iconst hX (pc := 27) 0 dX4_bus_27 ol_k_iconst_0 ?_
    refine ol_mp5 hX (pc := 28) dX4_bus_28 ?_
    refine ol_aload_n hX (pc := 31) dX4_bus_31 rfl rfl ?_
    refine ol_iconst hX (pc := 32) 0 dX4_bus_32 ol_k_iconst_0 ?_
    refine ol_mp2 hX (pc := 33) dX4_bus_33 ?_
    refine ol_aload_n hX (pc := 36) dX4_bus_36 rfl rfl ?_
    refine ol_iload_n hX (pc := 37) dX4_bus_37 rfl rfl ?_
    obtain ⟨y3, e4, h⟩ := ol_of_bd h
    refine ol_cVw (As := [.int x1]) hX (pc := 38) (wX4_readAll V a (ol_ms (ol_ms y1.2 0 5 0) 0 2 0) x1 y3 e4) lkX4_186 dcX4_readAll ol_rr_X4_bus_X4_readAll 0 rfl rfl ⟨Nat.le_refl _, Nat.le_refl _⟩ (Nat.le_of_ble_eq_true rfl) dX4_bus_38 rfl ?_
    refine ol_if_ne hX (pc := 41) 66 dX4_bus_41 (by decide) (fun c7 => ?_) (fun c7 => ?_)
    · have h := ol_ifn c7 h
      refine ol_iconst hX (pc := 66) 0 dX4_bus_66 ol_k_iconst_0 ?_
      refine ol_istore_n hX (pc := 67) [some (.ref (a 0)), some (.int x1), some (.int 0)] dX4_bus_67 rfl (by decide) rfl rfl ?_
      refine ol_Gdrop 1 ?_
      exact wX4_bus_L68 hX x1 ol_fuel 0 y3.2 h
    · have h := ol_ifp c7 h
      refine ol_aload_n hX (pc := 44) dX4_bus_44 rfl rfl ?_
      refine ol_aload_n hX (pc := 45) dX4_bus_45 rfl rfl ?_
      refine ol_mg15 hX (pc := 46) dX4_bus_46 ?_
      refine ol_mp2 hX (pc := 49) dX4_bus_49 ?_
      refine ol_aload_n hX (pc := 52) dX4_bus_52 rfl rfl ?_
      refine ol_aload_n hX (pc := 53) dX4_bus_53 rfl rfl ?_
      refine ol_mg16 hX (pc := 54) dX4_bus_54 ?_
      refine ol_mp3 hX (pc := 57) dX4_bus_57 ?_
      refine ol_aload_n hX (pc := 60) dX4_bus_60 rfl rfl ?_
      refine ol_iconst hX (pc := 61) 4 dX4_bus_61 ol_k_iconst_4 ?_
      obtain ⟨y5, e6, h⟩ := ol_of_bd h
      refine ol_cVw (As := [.int 4]) hX (pc := 62) (wX4_no V a (ol_ms (ol_ms y3.2 0 2 (y3.2.1 0 15)) 0 3 ((ol_ms y3.2 0 2 (y3.2.1 0 15)).1 0 16)) 4 y5 e6) lkX4_189 dcX4_no ol_rr_X4_bus_X4_no 0 rfl rfl ⟨Nat.le_refl _, Nat.le_refl _⟩ (Nat.le_of_ble_eq_true rfl) dX4_bus_62 rfl ?_
      have h := ol_of_some h
      subst h
      exact ol_iret hX (pc := 65) dX4_bus_65 ⟨rfl, rfl⟩ ⟨Nat.le_refl _, Nat.le_refl _⟩
  · have h := ol_ifn c8 h
    refine ol_iconst hX (pc := 24) (-1) dX4_bus_24 ol_k_iconst_m1 ?_
    have h := ol_of_some h
    subst h
    exact ol_iret hX (pc := 25) dX4_bus_25 ⟨rfl, rfl⟩ ⟨Nat.le_refl _, Nat.le_refl _⟩
set_option maxHeartbeats 4000000 in
theorem wX4_bus (V : ol_Gh) (a : Nat → Nat) (σ : ol_Mm) (x1 : Int32)  (z : Int32 × ol_Mm) (h : oX4_bus σ x1 = some z) : ol_Mt V yX4_bus cX4_bus 3 (some .int) ({ frames := 9, cells := 0, slots := 0, locals := 194 } : Room) true [.ref (a 0), .int x1] (ol_WM V a σ) (ol_Pw (some (.int z.1)) (ol_WM V a z.2)) := by
  refine ol_MtOf (L0 := [some (.ref (a 0)), some (.int x1), none]) (by decide) (Nat.le_of_ble_eq_true rfl) rfl (fun X A hX => ?_)
  unfold oX4_bus at h
  refine ol_aload_n hX (pc := 0) dX4_bus_0 rfl rfl ?_
  refine ol_iload_n hX (pc := 1) dX4_bus_1 rfl rfl ?_
  refine ol_iconst hX (pc := 2) 0 dX4_bus_2 ol_k_iconst_0 ?_
  refine ol_aload_n hX (pc := 3) dX4_bus_3 rfl rfl ?_
  refine ol_mg5 hX (pc := 4) dX4_bus_4 ?_
  obtain ⟨y1, e2, h⟩ := ol_of_bd h
  refine ol_cSr (As := [.int x1, .int 0, .int (σ.1 0 5)]) hX (pc := 7) (wX4_in V (ol_WM V a σ) x1 0 (σ.1 0 5) y1 e2) lkX4_83 dcX4_in ⟨rfl, rfl⟩ ol_rr_X4_bus_X4_in (fun _ h => h) ⟨Nat.le_refl _, Nat.le_refl _⟩ (Nat.le_of_ble_eq_true rfl) dX4_bus_7 rfl ?_
  refine ol_if_eq hX (pc := 10) 17 dX4_bus_10 (by decide) (fun c3 => ?_) (fun c3 => ?_)
  · have h := ol_ifp c3 h
    refine ol_iconst hX (pc := 17) 2 dX4_bus_17 ol_k_iconst_2 ?_
    exact wX4_bus_L18 hX x1 2 σ h
  · have h := ol_ifn c3 h
    refine ol_iconst hX (pc := 13) 0 dX4_bus_13 ol_k_iconst_0 ?_
    refine ol_goto hX (pc := 14) 18 dX4_bus_14 (by decide) ?_
    exact wX4_bus_L18 hX x1 0 σ h
set_option maxHeartbeats 4000000 in
theorem wX4_fault (V : ol_Gh) (a : Nat → Nat) (σ : ol_Mm)  (z : Int32 × ol_Mm) (h : oX4_fault σ = some z) : ol_Mt V yX4_fault cX4_fault 1 (some .int) ({ frames := 0, cells := 0, slots := 0, locals := 0 } : Room) true [.ref (a 0)] (ol_WM V a σ) (ol_Pw (some (.int z.1)) (ol_WM V a z.2)) := by
  refine ol_MtOf (L0 := [some (.ref (a 0))]) (by decide) (Nat.le_of_ble_eq_true rfl) rfl (fun X A hX => ?_)
  unfold oX4_fault at h
  refine ol_aload_n hX (pc := 0) dX4_fault_0 rfl rfl ?_
  refine ol_iconst hX (pc := 1) 0 dX4_fault_1 ol_k_iconst_0 ?_
  refine ol_mp0 hX (pc := 2) dX4_fault_2 ?_
  refine ol_aload_n hX (pc := 5) dX4_fault_5 rfl rfl ?_
  refine ol_mg2 hX (pc := 6) dX4_fault_6 ?_
  have h := ol_of_some h
  subst h
  exact ol_iret hX (pc := 9) dX4_fault_9 ⟨rfl, rfl⟩ ⟨Nat.le_refl _, Nat.le_refl _⟩
set_option maxHeartbeats 4000000 in
theorem wX4_where (V : ol_Gh) (a : Nat → Nat) (σ : ol_Mm)  (z : Int32 × ol_Mm) (h : oX4_where σ = some z) : ol_Mt V yX4_where cX4_where 1 (some .int) ({ frames := 0, cells := 0, slots := 0, locals := 0 } : Room) true [.ref (a 0)] (ol_WM V a σ) (ol_Pw (some (.int z.1)) (ol_WM V a z.2)) := by
  refine ol_MtOf (L0 := [some (.ref (a 0))]) (by decide) (Nat.le_of_ble_eq_true rfl) rfl (fun X A hX => ?_)
  unfold oX4_where at h
  refine ol_aload_n hX (pc := 0) dX4_where_0 rfl rfl ?_
  refine ol_iconst hX (pc := 1) 0 dX4_where_1 ol_k_iconst_0 ?_
  refine ol_mp0 hX (pc := 2) dX4_where_2 ?_
  refine ol_aload_n hX (pc := 5) dX4_where_5 rfl rfl ?_
  refine ol_mg1 hX (pc := 6) dX4_where_6 ?_
  refine ol_iconst hX (pc := 9) 4 dX4_where_9 ol_k_iconst_4 ?_
  refine ol_icmp_ne hX (pc := 10) 20 dX4_where_10 (by decide) (fun c1 => ?_) (fun c1 => ?_)
  · have h := ol_ifn c1 h
    refine ol_iconst hX (pc := 20) (-1) dX4_where_20 ol_k_iconst_m1 ?_
    have h := ol_of_some h
    subst h
    exact ol_iret hX (pc := 21) dX4_where_21 ⟨rfl, rfl⟩ ⟨Nat.le_refl _, Nat.le_refl _⟩
  · have h := ol_ifp c1 h
    refine ol_aload_n hX (pc := 13) dX4_where_13 rfl rfl ?_
    refine ol_mg3 hX (pc := 14) dX4_where_14 ?_
    refine ol_goto hX (pc := 17) 21 dX4_where_17 (by decide) ?_
    have h := ol_of_some h
    subst h
    exact ol_iret hX (pc := 21) dX4_where_21 ⟨rfl, rfl⟩ ⟨Nat.le_refl _, Nat.le_refl _⟩
set_option maxHeartbeats 4000000 in
theorem wX4_isBoard (V : ol_Gh) (a : Nat → Nat) (σ : ol_Mm) (x1 : Int32)  (z : Int32) (h : oX4_isBoard σ x1 = some z) : ol_Mt V yX4_isBoard cX4_isBoard 2 (some .boolean) ({ frames := 1, cells := 0, slots := 0, locals := 22 } : Room) false [.ref (a 0), .int x1] (ol_WM V a σ) (ol_Pr (some (.int z))) := by
  refine ol_MtOf (L0 := [some (.ref (a 0)), some (.int x1)]) (by decide) (Nat.le_of_ble_eq_true rfl) rfl (fun X A hX => ?_)
  unfold oX4_isBoard at h
  refine ol_aload_n hX (pc := 0) dX4_isBoard_0 rfl rfl ?_
  refine ol_mg9 hX (pc := 1) dX4_isBoard_1 ?_
  refine ol_if_eq hX (pc := 4) 27 dX4_isBoard_4 (by decide) (fun c4 => ?_) (fun c4 => ?_)
  · have h := ol_ifp c4 h
    refine ol_iconst hX (pc := 27) 0 dX4_isBoard_27 ol_k_iconst_0 ?_
    have h := ol_of_some h
    subst h
    exact ol_zret hX (pc := 28) dX4_isBoard_28 (by rfl) rfl ⟨Nat.le_refl _, Nat.le_refl _⟩
  · have h := ol_ifn c4 h
    refine ol_iload_n hX (pc := 7) dX4_isBoard_7 rfl rfl ?_
    refine ol_iconst hX (pc := 8) 0 dX4_isBoard_8 ol_k_iconst_0 ?_
    refine ol_aload_n hX (pc := 9) dX4_isBoard_9 rfl rfl ?_
    refine ol_mg6 hX (pc := 10) dX4_isBoard_10 ?_
    refine ol_iconst hX (pc := 13) 3 dX4_isBoard_13 ol_k_iconst_3 ?_
    refine ol_ml2 hX (pc := 14) dX4_isBoard_14 ol_tn_3 (ol_in_vp (by decide)) ?_
    refine ol_iconst hX (pc := 15) 1 dX4_isBoard_15 ol_k_iconst_1 ?_
    refine ol_isub hX (pc := 16) dX4_isBoard_16 ?_
    obtain ⟨y1, e2, h⟩ := ol_of_bd h
    refine ol_cSr (As := [.int x1, .int 0, .int ((σ.1 2 3) - 1)]) hX (pc := 17) (wX4_in V (ol_WM V a σ) x1 0 ((σ.1 2 3) - 1) y1 e2) lkX4_83 dcX4_in ⟨rfl, rfl⟩ ol_rr_X4_isBoard_X4_in (fun _ h => h) ⟨Nat.le_refl _, Nat.le_refl _⟩ (Nat.le_of_ble_eq_true rfl) dX4_isBoard_17 rfl ?_
    refine ol_if_eq hX (pc := 20) 27 dX4_isBoard_20 (by decide) (fun c3 => ?_) (fun c3 => ?_)
    · have h := ol_ifp c3 h
      refine ol_iconst hX (pc := 27) 0 dX4_isBoard_27 ol_k_iconst_0 ?_
      have h := ol_of_some h
      subst h
      exact ol_zret hX (pc := 28) dX4_isBoard_28 (by rfl) rfl ⟨Nat.le_refl _, Nat.le_refl _⟩
    · have h := ol_ifn c3 h
      refine ol_iconst hX (pc := 23) 1 dX4_isBoard_23 ol_k_iconst_1 ?_
      refine ol_goto hX (pc := 24) 28 dX4_isBoard_24 (by decide) ?_
      have h := ol_of_some h
      subst h
      exact ol_zret hX (pc := 28) dX4_isBoard_28 (by rfl) rfl ⟨Nat.le_refl _, Nat.le_refl _⟩
set_option maxHeartbeats 4000000 in
theorem wX4_isSet (V : ol_Gh) (a : Nat → Nat) (σ : ol_Mm) (x1 : Int32)  (z : Int32) (h : oX4_isSet σ x1 = some z) : ol_Mt V yX4_isSet cX4_isSet 2 (some .boolean) ({ frames := 1, cells := 0, slots := 0, locals := 22 } : Room) false [.ref (a 0), .int x1] (ol_WM V a σ) (ol_Pr (some (.int z))) := by
  refine ol_MtOf (L0 := [some (.ref (a 0)), some (.int x1)]) (by decide) (Nat.le_of_ble_eq_true rfl) rfl (fun X A hX => ?_)
  unfold oX4_isSet at h
  refine ol_iload_n hX (pc := 0) dX4_isSet_0 rfl rfl ?_
  refine ol_iconst hX (pc := 1) 1 dX4_isSet_1 ol_k_iconst_1 ?_
  refine ol_iconst hX (pc := 2) 1 dX4_isSet_2 ol_k_iconst_1 ?_
  refine ol_aload_n hX (pc := 3) dX4_isSet_3 rfl rfl ?_
  refine ol_mg6 hX (pc := 4) dX4_isSet_4 ?_
  refine ol_iconst hX (pc := 7) 3 dX4_isSet_7 ol_k_iconst_3 ?_
  refine ol_ml2 hX (pc := 8) dX4_isSet_8 ol_tn_3 (ol_in_vp (by decide)) ?_
  refine ol_ishl hX (pc := 9) dX4_isSet_9 ?_
  refine ol_iconst hX (pc := 10) 1 dX4_isSet_10 ol_k_iconst_1 ?_
  refine ol_isub hX (pc := 11) dX4_isSet_11 ?_
  obtain ⟨y1, e2, h⟩ := ol_of_bd h
  refine ol_cSr (As := [.int x1, .int 1, .int (((1 : Int32) <<< ((σ.1 2 3) &&& 31)) - 1)]) hX (pc := 12) (wX4_in V (ol_WM V a σ) x1 1 (((1 : Int32) <<< ((σ.1 2 3) &&& 31)) - 1) y1 e2) lkX4_83 dcX4_in ⟨rfl, rfl⟩ ol_rr_X4_isSet_X4_in (fun _ h => h) ⟨Nat.le_refl _, Nat.le_refl _⟩ (Nat.le_of_ble_eq_true rfl) dX4_isSet_12 rfl ?_
  obtain ⟨gz, h⟩ := ol_of_og h
  have h := ol_of_some h
  subst h
  exact ol_zret hX (pc := 15) dX4_isSet_15 (ol_zb_nar gz) rfl ⟨Nat.le_refl _, Nat.le_refl _⟩
set_option maxHeartbeats 4000000 in
theorem wX4_passWhy (V : ol_Gh) (a : Nat → Nat) (σ : ol_Mm) (x1 : Int32) (x2 : Int32) (x3 : Int32) (x4 : Int32)  (z : Int32) (h : oX4_passWhy σ x1 x2 x3 x4 = some z) : ol_Mt V yX4_passWhy cX4_passWhy 5 (some .int) ({ frames := 2, cells := 0, slots := 0, locals := 43 } : Room) false [.ref (a 0), .int x1, .int x2, .int x3, .int x4] (ol_WM V a σ) (ol_Pr (some (.int z))) := by
  refine ol_MtOf (L0 := [some (.ref (a 0)), some (.int x1), some (.int x2), some (.int x3), some (.int x4)]) (by decide) (Nat.le_of_ble_eq_true rfl) rfl (fun X A hX => ?_)
  unfold oX4_passWhy at h
  refine ol_aload_n hX (pc := 0) dX4_passWhy_0 rfl rfl ?_
  refine ol_mg9 hX (pc := 1) dX4_passWhy_1 ?_
  refine ol_if_eq hX (pc := 4) 11 dX4_passWhy_4 (by decide) (fun c11 => ?_) (fun c11 => ?_)
  · have h := ol_ifp c11 h
    refine ol_iconst hX (pc := 11) 1 dX4_passWhy_11 ol_k_iconst_1 ?_
    refine ol_goto hX (pc := 12) 49 dX4_passWhy_12 (by decide) ?_
    have h := ol_of_some h
    subst h
    exact ol_iret hX (pc := 49) dX4_passWhy_49 rfl ⟨Nat.le_refl _, Nat.le_refl _⟩
  · have h := ol_ifn c11 h
    refine ol_iload_n hX (pc := 7) dX4_passWhy_7 rfl rfl ?_
    refine ol_if_ne hX (pc := 8) 15 dX4_passWhy_8 (by decide) (fun c10 => ?_) (fun c10 => ?_)
    · have h := ol_ifn c10 h
      refine ol_iload_n hX (pc := 15) dX4_passWhy_15 rfl rfl ?_
      refine ol_iconst hX (pc := 16) 1 dX4_passWhy_16 ol_k_iconst_1 ?_
      refine ol_iconst hX (pc := 17) 2 dX4_passWhy_17 ol_k_iconst_2 ?_
      obtain ⟨y1, e2, h⟩ := ol_of_bd h
      refine ol_cSr (As := [.int x2, .int 1, .int 2]) hX (pc := 18) (wX4_in V (ol_WM V a σ) x2 1 2 y1 e2) lkX4_83 dcX4_in ⟨rfl, rfl⟩ ol_rr_X4_passWhy_X4_in (fun _ h => h) ⟨Nat.le_refl _, Nat.le_refl _⟩ (Nat.le_of_ble_eq_true rfl) dX4_passWhy_18 rfl ?_
      refine ol_if_eq hX (pc := 21) 48 dX4_passWhy_21 (by decide) (fun c9 => ?_) (fun c9 => ?_)
      · have h := ol_ifp c9 h
        refine ol_iconst hX (pc := 48) 2 dX4_passWhy_48 ol_k_iconst_2 ?_
        have h := ol_of_some h
        subst h
        exact ol_iret hX (pc := 49) dX4_passWhy_49 rfl ⟨Nat.le_refl _, Nat.le_refl _⟩
      · have h := ol_ifn c9 h
        refine ol_aload_n hX (pc := 24) dX4_passWhy_24 rfl rfl ?_
        refine ol_iload_n hX (pc := 25) dX4_passWhy_25 rfl rfl ?_
        obtain ⟨y3, e4, h⟩ := ol_of_bd h
        refine ol_cVr (As := [.int x3]) hX (pc := 26) (wX4_isSet V a σ x3 y3 e4) lkX4_265 dcX4_isSet ⟨rfl, rfl⟩ ol_rr_X4_passWhy_X4_isSet 0 rfl rfl (fun _ h => h) ⟨Nat.le_refl _, Nat.le_refl _⟩ (Nat.le_of_ble_eq_true rfl) dX4_passWhy_26 rfl ?_
        refine ol_if_eq hX (pc := 29) 48 dX4_passWhy_29 (by decide) (fun c8 => ?_) (fun c8 => ?_)
        · have h := ol_ifp c8 h
          refine ol_iconst hX (pc := 48) 2 dX4_passWhy_48 ol_k_iconst_2 ?_
          have h := ol_of_some h
          subst h
          exact ol_iret hX (pc := 49) dX4_passWhy_49 rfl ⟨Nat.le_refl _, Nat.le_refl _⟩
        · have h := ol_ifn c8 h
          refine ol_iload hX (pc := 32) dX4_passWhy_32 rfl ?_
          refine ol_iconst hX (pc := 34) 0 dX4_passWhy_34 ol_k_iconst_0 ?_
          refine ol_sipush hX (pc := 35) 400 dX4_passWhy_35 ol_k_sipush_400 ?_
          obtain ⟨y5, e6, h⟩ := ol_of_bd h
          refine ol_cSr (As := [.int x4, .int 0, .int 400]) hX (pc := 38) (wX4_in V (ol_WM V a σ) x4 0 400 y5 e6) lkX4_83 dcX4_in ⟨rfl, rfl⟩ ol_rr_X4_passWhy_X4_in (fun _ h => h) ⟨Nat.le_refl _, Nat.le_refl _⟩ (Nat.le_of_ble_eq_true rfl) dX4_passWhy_38 rfl ?_
          refine ol_if_eq hX (pc := 41) 48 dX4_passWhy_41 (by decide) (fun c7 => ?_) (fun c7 => ?_)
          · have h := ol_ifp c7 h
            refine ol_iconst hX (pc := 48) 2 dX4_passWhy_48 ol_k_iconst_2 ?_
            have h := ol_of_some h
            subst h
            exact ol_iret hX (pc := 49) dX4_passWhy_49 rfl ⟨Nat.le_refl _, Nat.le_refl _⟩
          · have h := ol_ifn c7 h
            refine ol_iconst hX (pc := 44) 0 dX4_passWhy_44 ol_k_iconst_0 ?_
            refine ol_goto hX (pc := 45) 49 dX4_passWhy_45 (by decide) ?_
            have h := ol_of_some h
            subst h
            exact ol_iret hX (pc := 49) dX4_passWhy_49 rfl ⟨Nat.le_refl _, Nat.le_refl _⟩
    · have h := ol_ifp c10 h
      refine ol_iconst hX (pc := 11) 1 dX4_passWhy_11 ol_k_iconst_1 ?_
      refine ol_goto hX (pc := 12) 49 dX4_passWhy_12 (by decide) ?_
      have h := ol_of_some h
      subst h
      exact ol_iret hX (pc := 49) dX4_passWhy_49 rfl ⟨Nat.le_refl _, Nat.le_refl _⟩
set_option maxHeartbeats 4000000 in
theorem wX4_doesWait_L2 {X : ol_Cx} {V : ol_Gh} {A : Nat → Prop} {a : Nat → Nat} {z : Int32} (hX : ol_CX X V A cX4_doesWait RX4 "doesWait" 4 (some .boolean)) (σ : ol_Mm) (x1 : Int32) (x2 : Int32)    : ∀ (n : Nat), ∀ (v3 : Int32), oX4_doesWait_L2 σ x1 x2 n v3 = some z → ol_G X V A false (ol_Pr (some (.int z))) ({ frames := 1, cells := 0, slots := 0, locals := 21 } : Room) 4 0 0 (ol_WM V a σ) 2 [some (.ref (a 0)), none, some (.int x2), some (.int v3)] [] := by
  intro n
  induction n with
  | zero =>
    intro v3 h
    exact ol_no h
  | succ n ih =>
    intro v3 h
    rw [oX4_doesWait_L2] at h
    refine ol_iload_n hX (pc := 2) dX4_doesWait_2 rfl rfl ?_
    refine ol_bipush hX (pc := 3) (-2) dX4_doesWait_3 ol_k_bipush_m2 ?_
    refine ol_icmp_eq hX (pc := 5) 27 dX4_doesWait_5 (by decide) (fun c7 => ?_) (fun c7 => ?_)
    · have h := ol_ifp c7 h
      refine ol_iload_n hX (pc := 27) dX4_doesWait_27 rfl rfl ?_
      refine ol_iload_n hX (pc := 28) dX4_doesWait_28 rfl rfl ?_
      refine ol_icmp_ne hX (pc := 29) 36 dX4_doesWait_29 (by decide) (fun c1 => ?_) (fun c1 => ?_)
      · have h := ol_ifn c1 h
        refine ol_iconst hX (pc := 36) 0 dX4_doesWait_36 ol_k_iconst_0 ?_
        have h := ol_of_some h
        subst h
        exact ol_zret hX (pc := 37) dX4_doesWait_37 (by rfl) rfl ⟨Nat.le_refl _, Nat.le_refl _⟩
      · have h := ol_ifp c1 h
        refine ol_iconst hX (pc := 32) 1 dX4_doesWait_32 ol_k_iconst_1 ?_
        refine ol_goto hX (pc := 33) 37 dX4_doesWait_33 (by decide) ?_
        have h := ol_of_some h
        subst h
        exact ol_zret hX (pc := 37) dX4_doesWait_37 (by rfl) rfl ⟨Nat.le_refl _, Nat.le_refl _⟩
    · have h := ol_ifn c7 h
      refine ol_iload_n hX (pc := 8) dX4_doesWait_8 rfl rfl ?_
      refine ol_iload_n hX (pc := 9) dX4_doesWait_9 rfl rfl ?_
      refine ol_icmp_eq hX (pc := 10) 27 dX4_doesWait_10 (by decide) (fun c6 => ?_) (fun c6 => ?_)
      · have h := ol_ifp c6 h
        refine ol_iload_n hX (pc := 27) dX4_doesWait_27 rfl rfl ?_
        refine ol_iload_n hX (pc := 28) dX4_doesWait_28 rfl rfl ?_
        refine ol_icmp_ne hX (pc := 29) 36 dX4_doesWait_29 (by decide) (fun c2 => ?_) (fun c2 => ?_)
        · have h := ol_ifn c2 h
          refine ol_iconst hX (pc := 36) 0 dX4_doesWait_36 ol_k_iconst_0 ?_
          have h := ol_of_some h
          subst h
          exact ol_zret hX (pc := 37) dX4_doesWait_37 (by rfl) rfl ⟨Nat.le_refl _, Nat.le_refl _⟩
        · have h := ol_ifp c2 h
          refine ol_iconst hX (pc := 32) 1 dX4_doesWait_32 ol_k_iconst_1 ?_
          refine ol_goto hX (pc := 33) 37 dX4_doesWait_33 (by decide) ?_
          have h := ol_of_some h
          subst h
          exact ol_zret hX (pc := 37) dX4_doesWait_37 (by rfl) rfl ⟨Nat.le_refl _, Nat.le_refl _⟩
      · have h := ol_ifn c6 h
        refine ol_aload_n hX (pc := 13) dX4_doesWait_13 rfl rfl ?_
        refine ol_mg18 hX (pc := 14) dX4_doesWait_14 ?_
        refine ol_iload_n hX (pc := 17) dX4_doesWait_17 rfl rfl ?_
        refine ol_iconst hX (pc := 18) 3 dX4_doesWait_18 ol_k_iconst_3 ?_
        obtain ⟨y3, e4, h⟩ := ol_of_bd h
        refine ol_cSr (As := [.int v3, .int 3]) hX (pc := 19) (wX4_at V (ol_WM V a σ) v3 3 y3 e4) lkX4_201 dcX4_at ⟨rfl, rfl⟩ ol_rr_X4_doesWait_X4_at (fun _ h => h) ⟨Nat.le_refl _, Nat.le_refl _⟩ (Nat.le_of_ble_eq_true rfl) dX4_doesWait_19 rfl ?_
        obtain ⟨g5, h⟩ := ol_of_og h
        refine ol_ml5 hX (pc := 22) dX4_doesWait_22 rfl (ol_in_vp g5) ?_
        refine ol_istore_n hX (pc := 23) [some (.ref (a 0)), none, some (.int x2), some (.int (σ.1 5 y3.toNatClampNeg))] dX4_doesWait_23 rfl (by decide) rfl rfl ?_
        refine ol_goto hX (pc := 24) 2 dX4_doesWait_24 (by decide) ?_
        exact ih (σ.1 5 y3.toNatClampNeg) h
set_option maxHeartbeats 4000000 in
theorem wX4_doesWait (V : ol_Gh) (a : Nat → Nat) (σ : ol_Mm) (x1 : Int32) (x2 : Int32)  (z : Int32) (h : oX4_doesWait σ x1 x2 = some z) : ol_Mt V yX4_doesWait cX4_doesWait 4 (some .boolean) ({ frames := 1, cells := 0, slots := 0, locals := 21 } : Room) false [.ref (a 0), .int x1, .int x2] (ol_WM V a σ) (ol_Pr (some (.int z))) := by
  refine ol_MtOf (L0 := [some (.ref (a 0)), some (.int x1), some (.int x2), none]) (by decide) (Nat.le_of_ble_eq_true rfl) rfl (fun X A hX => ?_)
  unfold oX4_doesWait at h
  refine ol_iload_n hX (pc := 0) dX4_doesWait_0 rfl rfl ?_
  refine ol_istore_n hX (pc := 1) [some (.ref (a 0)), some (.int x1), some (.int x2), some (.int x1)] dX4_doesWait_1 rfl (by decide) rfl rfl ?_
  refine ol_Gdrop 1 ?_
  exact wX4_doesWait_L2 hX σ x1 x2 ol_fuel x1 h
set_option maxHeartbeats 4000000 in
theorem wX4_rankOf_L4 {X : ol_Cx} {V : ol_Gh} {A : Nat → Prop} {a : Nat → Nat} {z : Int32} (hX : ol_CX X V A cX4_rankOf RX4 "rankOf" 4 (some .int)) (σ : ol_Mm) (x1 : Int32)    : ∀ (n : Nat), ∀ (v2 : Int32) (v3 : Int32), oX4_rankOf_L4 σ x1 n v2 v3 = some z → ol_G X V A false (ol_Pr (some (.int z))) ({ frames := 2, cells := 0, slots := 0, locals := 44 } : Room) 4 0 0 (ol_WM V a σ) 4 [some (.ref (a 0)), some (.int x1), some (.int v2), some (.int v3)] [] := by
  intro n
  induction n with
  | zero =>
    intro v2 v3 h
    exact ol_no h
  | succ n ih =>
    intro v2 v3 h
    rw [oX4_rankOf_L4] at h
    refine ol_iload_n hX (pc := 4) dX4_rankOf_4 rfl rfl ?_
    refine ol_aload_n hX (pc := 5) dX4_rankOf_5 rfl rfl ?_
    refine ol_mg6 hX (pc := 6) dX4_rankOf_6 ?_
    refine ol_iconst hX (pc := 9) 3 dX4_rankOf_9 ol_k_iconst_3 ?_
    refine ol_ml2 hX (pc := 10) dX4_rankOf_10 ol_tn_3 (ol_in_vp (by decide)) ?_
    refine ol_icmp_ge hX (pc := 11) 56 dX4_rankOf_11 (by decide) (fun c7 => ?_) (fun c7 => ?_)
    · have h := ol_ifp c7 h
      refine ol_iload_n hX (pc := 56) dX4_rankOf_56 rfl rfl ?_
      have h := ol_of_some h
      subst h
      exact ol_iret hX (pc := 57) dX4_rankOf_57 rfl ⟨Nat.le_refl _, Nat.le_refl _⟩
    · have h := ol_ifn c7 h
      refine ol_aload_n hX (pc := 14) dX4_rankOf_14 rfl rfl ?_
      refine ol_iload_n hX (pc := 15) dX4_rankOf_15 rfl rfl ?_
      refine ol_iload_n hX (pc := 16) dX4_rankOf_16 rfl rfl ?_
      obtain ⟨y1, e2, h⟩ := ol_of_bd h
      refine ol_cVr (As := [.int v3, .int x1]) hX (pc := 17) (wX4_doesWait V a σ v3 x1 y1 e2) lkX4_205 dcX4_doesWait ⟨rfl, rfl⟩ ol_rr_X4_rankOf_X4_doesWait 0 rfl rfl (fun _ h => h) ⟨Nat.le_refl _, Nat.le_refl _⟩ (Nat.le_of_ble_eq_true rfl) dX4_rankOf_17 rfl ?_
      refine ol_if_eq hX (pc := 20) 48 dX4_rankOf_20 (by decide) (fun c6 => ?_) (fun c6 => ?_)
      · have h := ol_ifp c6 h
        refine ol_iload_n hX (pc := 48) dX4_rankOf_48 rfl rfl ?_
        refine ol_istore_n hX (pc := 49) [some (.ref (a 0)), some (.int x1), some (.int v2), some (.int v3)] dX4_rankOf_49 rfl (by decide) rfl rfl ?_
        refine ol_iinc hX (pc := 50) (v3 + 1) [some (.ref (a 0)), some (.int x1), some (.int v2), some (.int (v3 + 1))] dX4_rankOf_50 rfl (ol_k_iinc_1 _) (by decide) rfl rfl ?_
        refine ol_goto hX (pc := 53) 4 dX4_rankOf_53 (by decide) ?_
        exact ih v2 (v3 + 1) h
      · have h := ol_ifn c6 h
        refine ol_aload_n hX (pc := 23) dX4_rankOf_23 rfl rfl ?_
        refine ol_mg6 hX (pc := 24) dX4_rankOf_24 ?_
        refine ol_bipush hX (pc := 27) 17 dX4_rankOf_27 ol_k_bipush_17 ?_
        refine ol_iload_n hX (pc := 29) dX4_rankOf_29 rfl rfl ?_
        refine ol_iadd hX (pc := 30) dX4_rankOf_30 ?_
        obtain ⟨g3, h⟩ := ol_of_og h
        refine ol_ml2 hX (pc := 31) dX4_rankOf_31 rfl (ol_in_vp g3) ?_
        refine ol_iload_n hX (pc := 32) dX4_rankOf_32 rfl rfl ?_
        refine ol_icmp_le hX (pc := 33) 48 dX4_rankOf_33 (by decide) (fun c5 => ?_) (fun c5 => ?_)
        · have h := ol_ifp c5 h
          refine ol_iload_n hX (pc := 48) dX4_rankOf_48 rfl rfl ?_
          refine ol_istore_n hX (pc := 49) [some (.ref (a 0)), some (.int x1), some (.int v2), some (.int v3)] dX4_rankOf_49 rfl (by decide) rfl rfl ?_
          refine ol_iinc hX (pc := 50) (v3 + 1) [some (.ref (a 0)), some (.int x1), some (.int v2), some (.int (v3 + 1))] dX4_rankOf_50 rfl (ol_k_iinc_1 _) (by decide) rfl rfl ?_
          refine ol_goto hX (pc := 53) 4 dX4_rankOf_53 (by decide) ?_
          exact ih v2 (v3 + 1) h
        · have h := ol_ifn c5 h
          refine ol_aload_n hX (pc := 36) dX4_rankOf_36 rfl rfl ?_
          refine ol_mg6 hX (pc := 37) dX4_rankOf_37 ?_
          refine ol_bipush hX (pc := 40) 17 dX4_rankOf_40 ol_k_bipush_17 ?_
          refine ol_iload_n hX (pc := 42) dX4_rankOf_42 rfl rfl ?_
          refine ol_iadd hX (pc := 43) dX4_rankOf_43 ?_
          obtain ⟨g4, h⟩ := ol_of_og h
          refine ol_ml2 hX (pc := 44) dX4_rankOf_44 rfl (ol_in_vp g4) ?_
          refine ol_goto hX (pc := 45) 49 dX4_rankOf_45 (by decide) ?_
          refine ol_istore_n hX (pc := 49) [some (.ref (a 0)), some (.int x1), some (.int (σ.1 2 ((17 + v3).toNatClampNeg))), some (.int v3)] dX4_rankOf_49 rfl (by decide) rfl rfl ?_
          refine ol_iinc hX (pc := 50) (v3 + 1) [some (.ref (a 0)), some (.int x1), some (.int (σ.1 2 ((17 + v3).toNatClampNeg))), some (.int (v3 + 1))] dX4_rankOf_50 rfl (ol_k_iinc_1 _) (by decide) rfl rfl ?_
          refine ol_goto hX (pc := 53) 4 dX4_rankOf_53 (by decide) ?_
          exact ih (σ.1 2 ((17 + v3).toNatClampNeg)) (v3 + 1) h
set_option maxHeartbeats 4000000 in
theorem wX4_rankOf (V : ol_Gh) (a : Nat → Nat) (σ : ol_Mm) (x1 : Int32)  (z : Int32) (h : oX4_rankOf σ x1 = some z) : ol_Mt V yX4_rankOf cX4_rankOf 4 (some .int) ({ frames := 2, cells := 0, slots := 0, locals := 44 } : Room) false [.ref (a 0), .int x1] (ol_WM V a σ) (ol_Pr (some (.int z))) := by
  refine ol_MtOf (L0 := [some (.ref (a 0)), some (.int x1), none, none]) (by decide) (Nat.le_of_ble_eq_true rfl) rfl (fun X A hX => ?_)
  unfold oX4_rankOf at h
  refine ol_iconst hX (pc := 0) 0 dX4_rankOf_0 ol_k_iconst_0 ?_
  refine ol_istore_n hX (pc := 1) [some (.ref (a 0)), some (.int x1), some (.int 0), none] dX4_rankOf_1 rfl (by decide) rfl rfl ?_
  refine ol_iconst hX (pc := 2) 0 dX4_rankOf_2 ol_k_iconst_0 ?_
  refine ol_istore_n hX (pc := 3) [some (.ref (a 0)), some (.int x1), some (.int 0), some (.int 0)] dX4_rankOf_3 rfl (by decide) rfl rfl ?_
  exact wX4_rankOf_L4 hX σ x1 ol_fuel 0 0 h
set_option maxHeartbeats 4000000 in
theorem wX4_bitsOf_L4 {X : ol_Cx} {V : ol_Gh} {A : Nat → Prop} {ws : va_W} {z : Int32} (hX : ol_CX X V A cX4_bitsOf RX4 "bitsOf" 3 (some .int)) (x1 : Int32)    : ∀ (n : Nat), ∀ (v1 : Int32) (v2 : Int32), oX4_bitsOf_L4 x1 n v1 v2 = some z → ol_G X V A false (ol_Pr (some (.int z))) ({ frames := 0, cells := 0, slots := 0, locals := 0 } : Room) 3 0 0 (ws) 4 [none, some (.int v1), some (.int v2)] [] := by
  intro n
  induction n with
  | zero =>
    intro v1 v2 h
    exact ol_no h
  | succ n ih =>
    intro v1 v2 h
    rw [oX4_bitsOf_L4] at h
    refine ol_iload_n hX (pc := 4) dX4_bitsOf_4 rfl rfl ?_
    refine ol_if_eq hX (pc := 5) 20 dX4_bitsOf_5 (by decide) (fun c1 => ?_) (fun c1 => ?_)
    · have h := ol_ifp c1 h
      refine ol_iload_n hX (pc := 20) dX4_bitsOf_20 rfl rfl ?_
      have h := ol_of_some h
      subst h
      exact ol_iret hX (pc := 21) dX4_bitsOf_21 rfl ⟨Nat.le_refl _, Nat.le_refl _⟩
    · have h := ol_ifn c1 h
      refine ol_iinc hX (pc := 8) (v1 + 1) [none, some (.int (v1 + 1)), some (.int v2)] dX4_bitsOf_8 rfl (ol_k_iinc_1 _) (by decide) rfl rfl ?_
      refine ol_iload_n hX (pc := 11) dX4_bitsOf_11 rfl rfl ?_
      refine ol_iload_n hX (pc := 12) dX4_bitsOf_12 rfl rfl ?_
      refine ol_iconst hX (pc := 13) 1 dX4_bitsOf_13 ol_k_iconst_1 ?_
      refine ol_isub hX (pc := 14) dX4_bitsOf_14 ?_
      refine ol_iand hX (pc := 15) dX4_bitsOf_15 ?_
      refine ol_istore_n hX (pc := 16) [none, some (.int (v1 + 1)), some (.int (v2 &&& (v2 - 1)))] dX4_bitsOf_16 rfl (by decide) rfl rfl ?_
      refine ol_goto hX (pc := 17) 4 dX4_bitsOf_17 (by decide) ?_
      exact ih (v1 + 1) (v2 &&& (v2 - 1)) h
set_option maxHeartbeats 4000000 in
theorem wX4_bitsOf (V : ol_Gh) (ws : va_W) (x1 : Int32)  (z : Int32) (h : oX4_bitsOf x1 = some z) : ol_Mt V yX4_bitsOf cX4_bitsOf 3 (some .int) ({ frames := 0, cells := 0, slots := 0, locals := 0 } : Room) false [.int x1] (ws) (ol_Pr (some (.int z))) := by
  refine ol_MtOf (L0 := [some (.int x1), none, none]) (by decide) (Nat.le_of_ble_eq_true rfl) rfl (fun X A hX => ?_)
  unfold oX4_bitsOf at h
  refine ol_iconst hX (pc := 0) 0 dX4_bitsOf_0 ol_k_iconst_0 ?_
  refine ol_istore_n hX (pc := 1) [some (.int x1), some (.int 0), none] dX4_bitsOf_1 rfl (by decide) rfl rfl ?_
  refine ol_iload_n hX (pc := 2) dX4_bitsOf_2 rfl rfl ?_
  refine ol_istore_n hX (pc := 3) [some (.int x1), some (.int 0), some (.int x1)] dX4_bitsOf_3 rfl (by decide) rfl rfl ?_
  refine ol_Gdrop 0 ?_
  exact wX4_bitsOf_L4 hX x1 ol_fuel 0 x1 h
set_option maxHeartbeats 4000000 in
theorem wX4_odd (V : ol_Gh) (ws : va_W) (x1 : Int32)  (z : Int32) (h : oX4_odd x1 = some z) : ol_Mt V yX4_odd cX4_odd 1 (some .int) ({ frames := 1, cells := 0, slots := 0, locals := 22 } : Room) false [.int x1] (ws) (ol_Pr (some (.int z))) := by
  refine ol_MtOf (L0 := [some (.int x1)]) (by decide) (Nat.le_of_ble_eq_true rfl) rfl (fun X A hX => ?_)
  unfold oX4_odd at h
  refine ol_iload_n hX (pc := 0) dX4_odd_0 rfl rfl ?_
  obtain ⟨y1, e2, h⟩ := ol_of_bd h
  refine ol_cSr (As := [.int x1]) hX (pc := 1) (wX4_bitsOf V ws x1 y1 e2) lkX4_209 dcX4_bitsOf ⟨rfl, rfl⟩ ol_rr_X4_odd_X4_bitsOf (fun _ h => h) ⟨Nat.le_refl _, Nat.le_refl _⟩ (Nat.le_of_ble_eq_true rfl) dX4_odd_1 rfl ?_
  refine ol_iconst hX (pc := 4) 2 dX4_odd_4 ol_k_iconst_2 ?_
  refine ol_irem hX (pc := 5) dX4_odd_5 (by decide) ?_
  refine ol_iconst hX (pc := 6) 1 dX4_odd_6 ol_k_iconst_1 ?_
  refine ol_icmp_ne hX (pc := 7) 14 dX4_odd_7 (by decide) (fun c3 => ?_) (fun c3 => ?_)
  · have h := ol_ifn c3 h
    refine ol_iload_n hX (pc := 14) dX4_odd_14 rfl rfl ?_
    refine ol_iconst hX (pc := 15) 1 dX4_odd_15 ol_k_iconst_1 ?_
    refine ol_iadd hX (pc := 16) dX4_odd_16 ?_
    have h := ol_of_some h
    subst h
    exact ol_iret hX (pc := 17) dX4_odd_17 rfl ⟨Nat.le_refl _, Nat.le_refl _⟩
  · have h := ol_ifp c3 h
    refine ol_iload_n hX (pc := 10) dX4_odd_10 rfl rfl ?_
    refine ol_goto hX (pc := 11) 17 dX4_odd_11 (by decide) ?_
    have h := ol_of_some h
    subst h
    exact ol_iret hX (pc := 17) dX4_odd_17 rfl ⟨Nat.le_refl _, Nat.le_refl _⟩
set_option maxHeartbeats 4000000 in
theorem wX4_wordOf (V : ol_Gh) (a : Nat → Nat) (σ : ol_Mm) (x1 : Int32) (x2 : Int32)  (z : Int32) (h : oX4_wordOf σ x1 x2 = some z) : ol_Mt V yX4_wordOf cX4_wordOf 3 (some .int) ({ frames := 3, cells := 0, slots := 0, locals := 67 } : Room) false [.ref (a 0), .int x1, .int x2] (ol_WM V a σ) (ol_Pr (some (.int z))) := by
  refine ol_MtOf (L0 := [some (.ref (a 0)), some (.int x1), some (.int x2)]) (by decide) (Nat.le_of_ble_eq_true rfl) rfl (fun X A hX => ?_)
  unfold oX4_wordOf at h
  refine ol_iload_n hX (pc := 0) dX4_wordOf_0 rfl rfl ?_
  refine ol_iconst hX (pc := 1) 1 dX4_wordOf_1 ol_k_iconst_1 ?_
  refine ol_icmp_ne hX (pc := 2) 32 dX4_wordOf_2 (by decide) (fun c11 => ?_) (fun c11 => ?_)
  · have h := ol_ifn c11 h
    refine ol_iconst hX (pc := 32) 2 dX4_wordOf_32 ol_k_iconst_2 ?_
    refine ol_aload_n hX (pc := 33) dX4_wordOf_33 rfl rfl ?_
    refine ol_mg6 hX (pc := 34) dX4_wordOf_34 ?_
    refine ol_bipush hX (pc := 37) 11 dX4_wordOf_37 ol_k_bipush_11 ?_
    refine ol_iload_n hX (pc := 39) dX4_wordOf_39 rfl rfl ?_
    refine ol_iadd hX (pc := 40) dX4_wordOf_40 ?_
    obtain ⟨g1, h⟩ := ol_of_og h
    refine ol_ml2 hX (pc := 41) dX4_wordOf_41 rfl (ol_in_vp g1) ?_
    refine ol_imul hX (pc := 42) dX4_wordOf_42 ?_
    obtain ⟨y2, e3, h⟩ := ol_of_bd h
    refine ol_cSr (As := [.int (2 * (σ.1 2 ((11 + x1).toNatClampNeg)))]) hX (pc := 43) (wX4_odd V (ol_WM V a σ) (2 * (σ.1 2 ((11 + x1).toNatClampNeg))) y2 e3) lkX4_215 dcX4_odd ⟨rfl, rfl⟩ ol_rr_X4_wordOf_X4_odd (fun _ h => h) ⟨Nat.le_refl _, Nat.le_refl _⟩ (Nat.le_of_ble_eq_true rfl) dX4_wordOf_43 rfl ?_
    have h := ol_of_some h
    subst h
    exact ol_iret hX (pc := 46) dX4_wordOf_46 rfl ⟨Nat.le_refl _, Nat.le_refl _⟩
  · have h := ol_ifp c11 h
    refine ol_bipush hX (pc := 5) 8 dX4_wordOf_5 ol_k_bipush_8 ?_
    refine ol_aload_n hX (pc := 7) dX4_wordOf_7 rfl rfl ?_
    refine ol_iload_n hX (pc := 8) dX4_wordOf_8 rfl rfl ?_
    obtain ⟨y4, e5, h⟩ := ol_of_bd h
    refine ol_cVr (As := [.int x1]) hX (pc := 9) (wX4_rankOf V a σ x1 y4 e5) lkX4_212 dcX4_rankOf ⟨rfl, rfl⟩ ol_rr_X4_wordOf_X4_rankOf 0 rfl rfl (fun _ h => h) ⟨Nat.le_refl _, Nat.le_refl _⟩ (Nat.le_of_ble_eq_true rfl) dX4_wordOf_9 rfl ?_
    refine ol_imul hX (pc := 12) dX4_wordOf_12 ?_
    refine ol_iconst hX (pc := 13) 4 dX4_wordOf_13 ol_k_iconst_4 ?_
    refine ol_aload_n hX (pc := 14) dX4_wordOf_14 rfl rfl ?_
    refine ol_mg18 hX (pc := 15) dX4_wordOf_15 ?_
    refine ol_iload_n hX (pc := 18) dX4_wordOf_18 rfl rfl ?_
    refine ol_iconst hX (pc := 19) 2 dX4_wordOf_19 ol_k_iconst_2 ?_
    obtain ⟨y6, e7, h⟩ := ol_of_bd h
    refine ol_cSr (As := [.int x1, .int 2]) hX (pc := 20) (wX4_at V (ol_WM V a σ) x1 2 y6 e7) lkX4_201 dcX4_at ⟨rfl, rfl⟩ ol_rr_X4_wordOf_X4_at (fun _ h => h) ⟨Nat.le_refl _, Nat.le_refl _⟩ (Nat.le_of_ble_eq_true rfl) dX4_wordOf_20 rfl ?_
    obtain ⟨g8, h⟩ := ol_of_og h
    refine ol_ml5 hX (pc := 23) dX4_wordOf_23 rfl (ol_in_vp g8) ?_
    refine ol_imul hX (pc := 24) dX4_wordOf_24 ?_
    refine ol_iadd hX (pc := 25) dX4_wordOf_25 ?_
    obtain ⟨y9, e10, h⟩ := ol_of_bd h
    refine ol_cSr (As := [.int ((8 * y4) + (4 * (σ.1 5 y6.toNatClampNeg)))]) hX (pc := 26) (wX4_odd V (ol_WM V a σ) ((8 * y4) + (4 * (σ.1 5 y6.toNatClampNeg))) y9 e10) lkX4_215 dcX4_odd ⟨rfl, rfl⟩ ol_rr_X4_wordOf_X4_odd (fun _ h => h) ⟨Nat.le_refl _, Nat.le_refl _⟩ (Nat.le_of_ble_eq_true rfl) dX4_wordOf_26 rfl ?_
    refine ol_goto hX (pc := 29) 46 dX4_wordOf_29 (by decide) ?_
    have h := ol_of_some h
    subst h
    exact ol_iret hX (pc := 46) dX4_wordOf_46 rfl ⟨Nat.le_refl _, Nat.le_refl _⟩
set_option maxHeartbeats 4000000 in
theorem wX4_has (V : ol_Gh) (ws : va_W) (x1 : Int32) (x2 : Int32)  (z : Int32) (h : oX4_has x1 x2 = some z) : ol_Mt V yX4_has cX4_has 2 (some .boolean) ({ frames := 0, cells := 0, slots := 0, locals := 0 } : Room) false [.int x1, .int x2] (ws) (ol_Pr (some (.int z))) := by
  refine ol_MtOf (L0 := [some (.int x1), some (.int x2)]) (by decide) (Nat.le_of_ble_eq_true rfl) rfl (fun X A hX => ?_)
  unfold oX4_has at h
  refine ol_iload_n hX (pc := 0) dX4_has_0 rfl rfl ?_
  refine ol_iload_n hX (pc := 1) dX4_has_1 rfl rfl ?_
  refine ol_ishr hX (pc := 2) dX4_has_2 ?_
  refine ol_iconst hX (pc := 3) 1 dX4_has_3 ol_k_iconst_1 ?_
  refine ol_iand hX (pc := 4) dX4_has_4 ?_
  refine ol_iconst hX (pc := 5) 1 dX4_has_5 ol_k_iconst_1 ?_
  refine ol_icmp_ne hX (pc := 6) 13 dX4_has_6 (by decide) (fun c1 => ?_) (fun c1 => ?_)
  · have h := ol_ifn c1 h
    refine ol_iconst hX (pc := 13) 0 dX4_has_13 ol_k_iconst_0 ?_
    have h := ol_of_some h
    subst h
    exact ol_zret hX (pc := 14) dX4_has_14 (by rfl) rfl ⟨Nat.le_refl _, Nat.le_refl _⟩
  · have h := ol_ifp c1 h
    refine ol_iconst hX (pc := 9) 1 dX4_has_9 ol_k_iconst_1 ?_
    refine ol_goto hX (pc := 10) 14 dX4_has_10 (by decide) ?_
    have h := ol_of_some h
    subst h
    exact ol_zret hX (pc := 14) dX4_has_14 (by rfl) rfl ⟨Nat.le_refl _, Nat.le_refl _⟩
set_option maxHeartbeats 4000000 in
theorem wX4_cell (V : ol_Gh) (ws : va_W) (x1 : Int32) (x2 : Int32)  (z : Int32) (h : oX4_cell x1 x2 = some z) : ol_Mt V yX4_cell cX4_cell 2 (some .int) ({ frames := 0, cells := 0, slots := 0, locals := 0 } : Room) false [.int x1, .int x2] (ws) (ol_Pr (some (.int z))) := by
  refine ol_MtOf (L0 := [some (.int x1), some (.int x2)]) (by decide) (Nat.le_of_ble_eq_true rfl) rfl (fun X A hX => ?_)
  unfold oX4_cell at h
  refine ol_sipush hX (pc := 0) 401 dX4_cell_0 ol_k_sipush_401 ?_
  refine ol_iload_n hX (pc := 3) dX4_cell_3 rfl rfl ?_
  refine ol_imul hX (pc := 4) dX4_cell_4 ?_
  refine ol_iload_n hX (pc := 5) dX4_cell_5 rfl rfl ?_
  refine ol_iadd hX (pc := 6) dX4_cell_6 ?_
  have h := ol_of_some h
  subst h
  exact ol_iret hX (pc := 7) dX4_cell_7 rfl ⟨Nat.le_refl _, Nat.le_refl _⟩
set_option maxHeartbeats 4000000 in
theorem wX4_drivesAt_L54 {X : ol_Cx} {V : ol_Gh} {A : Nat → Prop} {a : Nat → Nat} {z : ol_Mm} (hX : ol_CX X V A cX4_drivesAt RX4 "drivesAt" 6 none) (x1 : Int32) (x2 : Int32)   (v3 : Int32) (s0 : Int32) (σ : ol_Mm) (h : oX4_drivesAt_L54 x1 x2 v3 s0 σ = some z) : ol_G X V A true (ol_Pw none (ol_WM V a z)) ({ frames := 1, cells := 0, slots := 0, locals := 21 } : Room) 6 0 0 (ol_WM V a σ) 54 [some (.ref (a 0)), some (.int x1), some (.int x2), some (.int v3), none, none] [.int s0] := by
  unfold oX4_drivesAt_L54 at h
  refine ol_istore hX (pc := 54) [some (.ref (a 0)), some (.int x1), some (.int x2), some (.int v3), none, some (.int s0)] dX4_drivesAt_54 (by decide) rfl rfl ?_
  refine ol_aload_n hX (pc := 56) dX4_drivesAt_56 rfl rfl ?_
  refine ol_mg24 hX (pc := 57) dX4_drivesAt_57 ?_
  refine ol_iload_n hX (pc := 60) dX4_drivesAt_60 rfl rfl ?_
  refine ol_iload_n hX (pc := 61) dX4_drivesAt_61 rfl rfl ?_
  obtain ⟨y1, e2, h⟩ := ol_of_bd h
  refine ol_cSr (As := [.int x1, .int x2]) hX (pc := 62) (wX4_cell V (ol_WM V a σ) x1 x2 y1 e2) lkX4_224 dcX4_cell ⟨rfl, rfl⟩ ol_rr_X4_drivesAt_X4_cell (fun _ h => h) ⟨Nat.le_refl _, Nat.le_refl _⟩ (Nat.le_of_ble_eq_true rfl) dX4_drivesAt_62 rfl ?_
  refine ol_iload hX (pc := 65) dX4_drivesAt_65 rfl ?_
  refine ol_bipush hX (pc := 67) (-2) dX4_drivesAt_67 ol_k_bipush_m2 ?_
  refine ol_icmp_ne hX (pc := 69) 76 dX4_drivesAt_69 (by decide) (fun c5 => ?_) (fun c5 => ?_)
  · have h := ol_ifn c5 h
    refine ol_iload_n hX (pc := 76) dX4_drivesAt_76 rfl rfl ?_
    refine ol_iload hX (pc := 77) dX4_drivesAt_77 rfl ?_
    refine ol_iconst hX (pc := 79) 1 dX4_drivesAt_79 ol_k_iconst_1 ?_
    refine ol_iadd hX (pc := 80) dX4_drivesAt_80 ?_
    refine ol_ishr hX (pc := 81) dX4_drivesAt_81 ?_
    refine ol_iload hX (pc := 82) dX4_drivesAt_82 rfl ?_
    refine ol_iconst hX (pc := 84) 1 dX4_drivesAt_84 ol_k_iconst_1 ?_
    refine ol_iadd hX (pc := 85) dX4_drivesAt_85 ?_
    refine ol_ishl hX (pc := 86) dX4_drivesAt_86 ?_
    obtain ⟨g3, h⟩ := ol_of_og h
    refine ol_ms9 hX (pc := 87) dX4_drivesAt_87 rfl (ol_in_vp g3) ?_
    have h := ol_of_some h
    subst h
    exact ol_vret hX (pc := 88) dX4_drivesAt_88 ⟨rfl, rfl⟩ ⟨Nat.le_refl _, Nat.le_refl _⟩
  · have h := ol_ifp c5 h
    refine ol_iload_n hX (pc := 72) dX4_drivesAt_72 rfl rfl ?_
    refine ol_goto hX (pc := 73) 87 dX4_drivesAt_73 (by decide) ?_
    obtain ⟨g4, h⟩ := ol_of_og h
    refine ol_ms9 hX (pc := 87) dX4_drivesAt_87 rfl (ol_in_vp g4) ?_
    have h := ol_of_some h
    subst h
    exact ol_vret hX (pc := 88) dX4_drivesAt_88 ⟨rfl, rfl⟩ ⟨Nat.le_refl _, Nat.le_refl _⟩
set_option maxHeartbeats 4000000 in
theorem wX4_drivesAt_L21 {X : ol_Cx} {V : ol_Gh} {A : Nat → Prop} {a : Nat → Nat} {z : ol_Mm} (hX : ol_CX X V A cX4_drivesAt RX4 "drivesAt" 6 none) (x1 : Int32) (x2 : Int32)   (s0 : Int32) (σ : ol_Mm) (h : oX4_drivesAt_L21 x1 x2 s0 σ = some z) : ol_G X V A true (ol_Pw none (ol_WM V a z)) ({ frames := 1, cells := 0, slots := 0, locals := 21 } : Room) 6 0 0 (ol_WM V a σ) 21 [some (.ref (a 0)), some (.int x1), some (.int x2), none, none, none] [.int s0] := by
  unfold oX4_drivesAt_L21 at h
  refine ol_istore_n hX (pc := 21) [some (.ref (a 0)), some (.int x1), some (.int x2), some (.int s0), none, none] dX4_drivesAt_21 rfl (by decide) rfl rfl ?_
  refine ol_aload_n hX (pc := 22) dX4_drivesAt_22 rfl rfl ?_
  refine ol_mg6 hX (pc := 23) dX4_drivesAt_23 ?_
  refine ol_iconst hX (pc := 26) 0 dX4_drivesAt_26 ol_k_iconst_0 ?_
  refine ol_ml2 hX (pc := 27) dX4_drivesAt_27 ol_tn_0 (ol_in_vp (by decide)) ?_
  refine ol_istore hX (pc := 28) [some (.ref (a 0)), some (.int x1), some (.int x2), some (.int s0), some (.int (σ.1 2 0)), none] dX4_drivesAt_28 (by decide) rfl rfl ?_
  refine ol_iload_n hX (pc := 30) dX4_drivesAt_30 rfl rfl ?_
  refine ol_iload hX (pc := 31) dX4_drivesAt_31 rfl ?_
  refine ol_icmp_ge hX (pc := 33) 41 dX4_drivesAt_33 (by decide) (fun c4 => ?_) (fun c4 => ?_)
  · have h := ol_ifp c4 h
    refine ol_aload_n hX (pc := 41) dX4_drivesAt_41 rfl rfl ?_
    refine ol_mg27 hX (pc := 42) dX4_drivesAt_42 ?_
    refine ol_iload_n hX (pc := 45) dX4_drivesAt_45 rfl rfl ?_
    refine ol_iload_n hX (pc := 46) dX4_drivesAt_46 rfl rfl ?_
    refine ol_iload hX (pc := 47) dX4_drivesAt_47 rfl ?_
    refine ol_isub hX (pc := 49) dX4_drivesAt_49 ?_
    obtain ⟨y1, e2, h⟩ := ol_of_bd h
    refine ol_cSr (As := [.int x1, .int (x2 - (σ.1 2 0))]) hX (pc := 50) (wX4_cell V (ol_WM V a σ) x1 (x2 - (σ.1 2 0)) y1 e2) lkX4_224 dcX4_cell ⟨rfl, rfl⟩ ol_rr_X4_drivesAt_X4_cell (fun _ h => h) ⟨Nat.le_refl _, Nat.le_refl _⟩ (Nat.le_of_ble_eq_true rfl) dX4_drivesAt_50 rfl ?_
    obtain ⟨g3, h⟩ := ol_of_og h
    refine ol_ml12 hX (pc := 53) dX4_drivesAt_53 rfl (ol_in_vp g3) ?_
    refine ol_Gdrop 4 ?_
    exact wX4_drivesAt_L54 hX x1 x2 s0 (σ.1 12 y1.toNatClampNeg) σ h
  · have h := ol_ifn c4 h
    refine ol_bipush hX (pc := 36) (-2) dX4_drivesAt_36 ol_k_bipush_m2 ?_
    refine ol_goto hX (pc := 38) 54 dX4_drivesAt_38 (by decide) ?_
    refine ol_Gdrop 4 ?_
    exact wX4_drivesAt_L54 hX x1 x2 s0 (-2) σ h
set_option maxHeartbeats 4000000 in
theorem wX4_drivesAt (V : ol_Gh) (a : Nat → Nat) (σ : ol_Mm) (x1 : Int32) (x2 : Int32)  (z : ol_Mm) (h : oX4_drivesAt σ x1 x2 = some z) : ol_Mt V yX4_drivesAt cX4_drivesAt 6 none ({ frames := 1, cells := 0, slots := 0, locals := 21 } : Room) true [.ref (a 0), .int x1, .int x2] (ol_WM V a σ) (ol_Pw none (ol_WM V a z)) := by
  refine ol_MtOf (L0 := [some (.ref (a 0)), some (.int x1), some (.int x2), none, none, none]) (by decide) (Nat.le_of_ble_eq_true rfl) rfl (fun X A hX => ?_)
  unfold oX4_drivesAt at h
  refine ol_aload_n hX (pc := 0) dX4_drivesAt_0 rfl rfl ?_
  refine ol_mg23 hX (pc := 1) dX4_drivesAt_1 ?_
  refine ol_iload_n hX (pc := 4) dX4_drivesAt_4 rfl rfl ?_
  obtain ⟨y1, e2, h⟩ := ol_of_bd h
  refine ol_cSr (As := [.int (σ.1 0 23), .int x1]) hX (pc := 5) (wX4_has V (ol_WM V a σ) (σ.1 0 23) x1 y1 e2) lkX4_221 dcX4_has ⟨rfl, rfl⟩ ol_rr_X4_drivesAt_X4_has (fun _ h => h) ⟨Nat.le_refl _, Nat.le_refl _⟩ (Nat.le_of_ble_eq_true rfl) dX4_drivesAt_5 rfl ?_
  refine ol_if_eq hX (pc := 8) 20 dX4_drivesAt_8 (by decide) (fun c4 => ?_) (fun c4 => ?_)
  · have h := ol_ifp c4 h
    refine ol_iconst hX (pc := 20) 0 dX4_drivesAt_20 ol_k_iconst_0 ?_
    exact wX4_drivesAt_L21 hX x1 x2 0 σ h
  · have h := ol_ifn c4 h
    refine ol_aload_n hX (pc := 11) dX4_drivesAt_11 rfl rfl ?_
    refine ol_mg22 hX (pc := 12) dX4_drivesAt_12 ?_
    refine ol_iload_n hX (pc := 15) dX4_drivesAt_15 rfl rfl ?_
    obtain ⟨g3, h⟩ := ol_of_og h
    refine ol_ml8 hX (pc := 16) dX4_drivesAt_16 rfl (ol_in_vp g3) ?_
    refine ol_goto hX (pc := 17) 21 dX4_drivesAt_17 (by decide) ?_
    exact wX4_drivesAt_L21 hX x1 x2 (σ.1 8 x1.toNatClampNeg) σ h
set_option maxHeartbeats 4000000 in
theorem wX4_slotsApart (V : ol_Gh) (a : Nat → Nat) (σ : ol_Mm) (x1 : Int32) (x2 : Int32)  (z : Int32) (h : oX4_slotsApart σ x1 x2 = some z) : ol_Mt V yX4_slotsApart cX4_slotsApart 4 (some .int) ({ frames := 0, cells := 0, slots := 0, locals := 0 } : Room) false [.ref (a 0), .int x1, .int x2] (ol_WM V a σ) (ol_Pr (some (.int z))) := by
  refine ol_MtOf (L0 := [some (.ref (a 0)), some (.int x1), some (.int x2), none]) (by decide) (Nat.le_of_ble_eq_true rfl) rfl (fun X A hX => ?_)
  unfold oX4_slotsApart at h
  refine ol_aload_n hX (pc := 0) dX4_slotsApart_0 rfl rfl ?_
  refine ol_mg6 hX (pc := 1) dX4_slotsApart_1 ?_
  refine ol_iconst hX (pc := 4) 5 dX4_slotsApart_4 ol_k_iconst_5 ?_
  refine ol_iload_n hX (pc := 5) dX4_slotsApart_5 rfl rfl ?_
  refine ol_iadd hX (pc := 6) dX4_slotsApart_6 ?_
  obtain ⟨g1, h⟩ := ol_of_og h
  refine ol_ml2 hX (pc := 7) dX4_slotsApart_7 rfl (ol_in_vp g1) ?_
  refine ol_aload_n hX (pc := 8) dX4_slotsApart_8 rfl rfl ?_
  refine ol_mg6 hX (pc := 9) dX4_slotsApart_9 ?_
  refine ol_iconst hX (pc := 12) 5 dX4_slotsApart_12 ol_k_iconst_5 ?_
  refine ol_iload_n hX (pc := 13) dX4_slotsApart_13 rfl rfl ?_
  refine ol_iadd hX (pc := 14) dX4_slotsApart_14 ?_
  obtain ⟨g2, h⟩ := ol_of_og h
  refine ol_ml2 hX (pc := 15) dX4_slotsApart_15 rfl (ol_in_vp g2) ?_
  refine ol_isub hX (pc := 16) dX4_slotsApart_16 ?_
  refine ol_istore_n hX (pc := 17) [some (.ref (a 0)), some (.int x1), some (.int x2), some (.int ((σ.1 2 ((5 + x1).toNatClampNeg)) - (σ.1 2 ((5 + x2).toNatClampNeg))))] dX4_slotsApart_17 rfl (by decide) rfl rfl ?_
  refine ol_iload_n hX (pc := 18) dX4_slotsApart_18 rfl rfl ?_
  refine ol_if_ge hX (pc := 19) 27 dX4_slotsApart_19 (by decide) (fun c3 => ?_) (fun c3 => ?_)
  · have h := ol_ifp c3 h
    refine ol_iload_n hX (pc := 27) dX4_slotsApart_27 rfl rfl ?_
    have h := ol_of_some h
    subst h
    exact ol_iret hX (pc := 28) dX4_slotsApart_28 rfl ⟨Nat.le_refl _, Nat.le_refl _⟩
  · have h := ol_ifn c3 h
    refine ol_iload_n hX (pc := 22) dX4_slotsApart_22 rfl rfl ?_
    refine ol_ineg hX (pc := 23) dX4_slotsApart_23 ?_
    refine ol_goto hX (pc := 24) 28 dX4_slotsApart_24 (by decide) ?_
    have h := ol_of_some h
    subst h
    exact ol_iret hX (pc := 28) dX4_slotsApart_28 rfl ⟨Nat.le_refl _, Nat.le_refl _⟩
set_option maxHeartbeats 4000000 in
theorem wX4_nearest_L6 {X : ol_Cx} {V : ol_Gh} {A : Nat → Prop} {a : Nat → Nat} {z : Int32} (hX : ol_CX X V A cX4_nearest RX4 "nearest" 7 (some .int)) (σ : ol_Mm) (x1 : Int32) (x2 : Int32) (x3 : Int32)    : ∀ (n : Nat), ∀ (v4 : Int32) (v5 : Int32), oX4_nearest_L6 σ x1 x2 x3 n v4 v5 = some z → ol_G X V A false (ol_Pr (some (.int z))) ({ frames := 1, cells := 0, slots := 0, locals := 23 } : Room) 7 0 0 (ol_WM V a σ) 6 [some (.ref (a 0)), some (.int x1), some (.int x2), some (.int x3), some (.int v4), some (.int v5), none] [] := by
  intro n
  induction n with
  | zero =>
    intro v4 v5 h
    exact ol_no h
  | succ n ih =>
    intro v4 v5 h
    rw [oX4_nearest_L6] at h
    refine ol_iload hX (pc := 6) dX4_nearest_6 rfl ?_
    refine ol_aload_n hX (pc := 8) dX4_nearest_8 rfl rfl ?_
    refine ol_mg6 hX (pc := 9) dX4_nearest_9 ?_
    refine ol_iconst hX (pc := 12) 3 dX4_nearest_12 ol_k_iconst_3 ?_
    refine ol_ml2 hX (pc := 13) dX4_nearest_13 ol_tn_3 (ol_in_vp (by decide)) ?_
    refine ol_icmp_ge hX (pc := 14) 77 dX4_nearest_14 (by decide) (fun c12 => ?_) (fun c12 => ?_)
    · have h := ol_ifp c12 h
      refine ol_iload hX (pc := 77) dX4_nearest_77 rfl ?_
      have h := ol_of_some h
      subst h
      exact ol_iret hX (pc := 79) dX4_nearest_79 rfl ⟨Nat.le_refl _, Nat.le_refl _⟩
    · have h := ol_ifn c12 h
      refine ol_aload_n hX (pc := 17) dX4_nearest_17 rfl rfl ?_
      refine ol_iload_n hX (pc := 18) dX4_nearest_18 rfl rfl ?_
      refine ol_iload hX (pc := 19) dX4_nearest_19 rfl ?_
      obtain ⟨y1, e2, h⟩ := ol_of_bd h
      refine ol_cVr (As := [.int x1, .int v5]) hX (pc := 21) (wX4_slotsApart V a σ x1 v5 y1 e2) lkX4_227 dcX4_slotsApart ⟨rfl, rfl⟩ ol_rr_X4_nearest_X4_slotsApart 0 rfl rfl (fun _ h => h) ⟨Nat.le_refl _, Nat.le_refl _⟩ (Nat.le_of_ble_eq_true rfl) dX4_nearest_21 rfl ?_
      refine ol_istore hX (pc := 24) [some (.ref (a 0)), some (.int x1), some (.int x2), some (.int x3), some (.int v4), some (.int v5), some (.int y1)] dX4_nearest_24 (by decide) rfl rfl ?_
      refine ol_iload hX (pc := 26) dX4_nearest_26 rfl ?_
      refine ol_iload_n hX (pc := 28) dX4_nearest_28 rfl rfl ?_
      refine ol_icmp_eq hX (pc := 29) 67 dX4_nearest_29 (by decide) (fun c11 => ?_) (fun c11 => ?_)
      · have h := ol_ifp c11 h
        refine ol_iload hX (pc := 67) dX4_nearest_67 rfl ?_
        refine ol_istore hX (pc := 69) [some (.ref (a 0)), some (.int x1), some (.int x2), some (.int x3), some (.int v4), some (.int v5), some (.int y1)] dX4_nearest_69 (by decide) rfl rfl ?_
        refine ol_iinc hX (pc := 71) (v5 + 1) [some (.ref (a 0)), some (.int x1), some (.int x2), some (.int x3), some (.int v4), some (.int (v5 + 1)), some (.int y1)] dX4_nearest_71 rfl (ol_k_iinc_1 _) (by decide) rfl rfl ?_
        refine ol_goto hX (pc := 74) 6 dX4_nearest_74 (by decide) ?_
        refine ol_Gdrop 6 ?_
        exact ih v4 (v5 + 1) h
      · have h := ol_ifn c11 h
        refine ol_aload_n hX (pc := 32) dX4_nearest_32 rfl rfl ?_
        refine ol_mg24 hX (pc := 33) dX4_nearest_33 ?_
        refine ol_iload hX (pc := 36) dX4_nearest_36 rfl ?_
        refine ol_iload_n hX (pc := 38) dX4_nearest_38 rfl rfl ?_
        obtain ⟨y3, e4, h⟩ := ol_of_bd h
        refine ol_cSr (As := [.int v5, .int x3]) hX (pc := 39) (wX4_cell V (ol_WM V a σ) v5 x3 y3 e4) lkX4_224 dcX4_cell ⟨rfl, rfl⟩ ol_rr_X4_nearest_X4_cell (fun _ h => h) ⟨Nat.le_refl _, Nat.le_refl _⟩ (Nat.le_of_ble_eq_true rfl) dX4_nearest_39 rfl ?_
        obtain ⟨g5, h⟩ := ol_of_og h
        refine ol_ml9 hX (pc := 42) dX4_nearest_42 rfl (ol_in_vp g5) ?_
        refine ol_iload_n hX (pc := 43) dX4_nearest_43 rfl rfl ?_
        obtain ⟨y6, e7, h⟩ := ol_of_bd h
        refine ol_cSr (As := [.int (σ.1 9 y3.toNatClampNeg), .int x2]) hX (pc := 44) (wX4_has V (ol_WM V a σ) (σ.1 9 y3.toNatClampNeg) x2 y6 e7) lkX4_221 dcX4_has ⟨rfl, rfl⟩ ol_rr_X4_nearest_X4_has (fun _ h => h) ⟨Nat.le_refl _, Nat.le_refl _⟩ (Nat.le_of_ble_eq_true rfl) dX4_nearest_44 rfl ?_
        refine ol_if_eq hX (pc := 47) 67 dX4_nearest_47 (by decide) (fun c10 => ?_) (fun c10 => ?_)
        · have h := ol_ifp c10 h
          refine ol_iload hX (pc := 67) dX4_nearest_67 rfl ?_
          refine ol_istore hX (pc := 69) [some (.ref (a 0)), some (.int x1), some (.int x2), some (.int x3), some (.int v4), some (.int v5), some (.int y1)] dX4_nearest_69 (by decide) rfl rfl ?_
          refine ol_iinc hX (pc := 71) (v5 + 1) [some (.ref (a 0)), some (.int x1), some (.int x2), some (.int x3), some (.int v4), some (.int (v5 + 1)), some (.int y1)] dX4_nearest_71 rfl (ol_k_iinc_1 _) (by decide) rfl rfl ?_
          refine ol_goto hX (pc := 74) 6 dX4_nearest_74 (by decide) ?_
          refine ol_Gdrop 6 ?_
          exact ih v4 (v5 + 1) h
        · have h := ol_ifn c10 h
          refine ol_iload hX (pc := 50) dX4_nearest_50 rfl ?_
          refine ol_if_eq hX (pc := 52) 62 dX4_nearest_52 (by decide) (fun c9 => ?_) (fun c9 => ?_)
          · have h := ol_ifp c9 h
            refine ol_iload hX (pc := 62) dX4_nearest_62 rfl ?_
            refine ol_goto hX (pc := 64) 69 dX4_nearest_64 (by decide) ?_
            refine ol_istore hX (pc := 69) [some (.ref (a 0)), some (.int x1), some (.int x2), some (.int x3), some (.int y1), some (.int v5), some (.int y1)] dX4_nearest_69 (by decide) rfl rfl ?_
            refine ol_iinc hX (pc := 71) (v5 + 1) [some (.ref (a 0)), some (.int x1), some (.int x2), some (.int x3), some (.int y1), some (.int (v5 + 1)), some (.int y1)] dX4_nearest_71 rfl (ol_k_iinc_1 _) (by decide) rfl rfl ?_
            refine ol_goto hX (pc := 74) 6 dX4_nearest_74 (by decide) ?_
            refine ol_Gdrop 6 ?_
            exact ih y1 (v5 + 1) h
          · have h := ol_ifn c9 h
            refine ol_iload hX (pc := 55) dX4_nearest_55 rfl ?_
            refine ol_iload hX (pc := 57) dX4_nearest_57 rfl ?_
            refine ol_icmp_ge hX (pc := 59) 67 dX4_nearest_59 (by decide) (fun c8 => ?_) (fun c8 => ?_)
            · have h := ol_ifp c8 h
              refine ol_iload hX (pc := 67) dX4_nearest_67 rfl ?_
              refine ol_istore hX (pc := 69) [some (.ref (a 0)), some (.int x1), some (.int x2), some (.int x3), some (.int v4), some (.int v5), some (.int y1)] dX4_nearest_69 (by decide) rfl rfl ?_
              refine ol_iinc hX (pc := 71) (v5 + 1) [some (.ref (a 0)), some (.int x1), some (.int x2), some (.int x3), some (.int v4), some (.int (v5 + 1)), some (.int y1)] dX4_nearest_71 rfl (ol_k_iinc_1 _) (by decide) rfl rfl ?_
              refine ol_goto hX (pc := 74) 6 dX4_nearest_74 (by decide) ?_
              refine ol_Gdrop 6 ?_
              exact ih v4 (v5 + 1) h
            · have h := ol_ifn c8 h
              refine ol_iload hX (pc := 62) dX4_nearest_62 rfl ?_
              refine ol_goto hX (pc := 64) 69 dX4_nearest_64 (by decide) ?_
              refine ol_istore hX (pc := 69) [some (.ref (a 0)), some (.int x1), some (.int x2), some (.int x3), some (.int y1), some (.int v5), some (.int y1)] dX4_nearest_69 (by decide) rfl rfl ?_
              refine ol_iinc hX (pc := 71) (v5 + 1) [some (.ref (a 0)), some (.int x1), some (.int x2), some (.int x3), some (.int y1), some (.int (v5 + 1)), some (.int y1)] dX4_nearest_71 rfl (ol_k_iinc_1 _) (by decide) rfl rfl ?_
              refine ol_goto hX (pc := 74) 6 dX4_nearest_74 (by decide) ?_
              refine ol_Gdrop 6 ?_
              exact ih y1 (v5 + 1) h
set_option maxHeartbeats 4000000 in
theorem wX4_nearest (V : ol_Gh) (a : Nat → Nat) (σ : ol_Mm) (x1 : Int32) (x2 : Int32) (x3 : Int32)  (z : Int32) (h : oX4_nearest σ x1 x2 x3 = some z) : ol_Mt V yX4_nearest cX4_nearest 7 (some .int) ({ frames := 1, cells := 0, slots := 0, locals := 23 } : Room) false [.ref (a 0), .int x1, .int x2, .int x3] (ol_WM V a σ) (ol_Pr (some (.int z))) := by
  refine ol_MtOf (L0 := [some (.ref (a 0)), some (.int x1), some (.int x2), some (.int x3), none, none, none]) (by decide) (Nat.le_of_ble_eq_true rfl) rfl (fun X A hX => ?_)
  unfold oX4_nearest at h
  refine ol_iconst hX (pc := 0) 0 dX4_nearest_0 ol_k_iconst_0 ?_
  refine ol_istore hX (pc := 1) [some (.ref (a 0)), some (.int x1), some (.int x2), some (.int x3), some (.int 0), none, none] dX4_nearest_1 (by decide) rfl rfl ?_
  refine ol_iconst hX (pc := 3) 0 dX4_nearest_3 ol_k_iconst_0 ?_
  refine ol_istore hX (pc := 4) [some (.ref (a 0)), some (.int x1), some (.int x2), some (.int x3), some (.int 0), some (.int 0), none] dX4_nearest_4 (by decide) rfl rfl ?_
  exact wX4_nearest_L6 hX σ x1 x2 x3 ol_fuel 0 0 h
set_option maxHeartbeats 4000000 in
theorem wX4_dipsAt_L114 {X : ol_Cx} {V : ol_Gh} {A : Nat → Prop} {a : Nat → Nat} {z : ol_Mm} (hX : ol_CX X V A cX4_dipsAt RX4 "dipsAt" 9 none) (x1 : Int32) (x2 : Int32)  (k37 : Int32 → Int32 → ol_Mm → Option ol_Mm) (hk37 : ∀ (v3 : Int32) (v4 : Int32) (σ : ol_Mm), k37 v3 v4 σ = some z → ol_G X V A true (ol_Pw none (ol_WM V a z)) ({ frames := 2, cells := 0, slots := 0, locals := 49 } : Room) 9 0 0 (ol_WM V a σ) 37 [some (.ref (a 0)), some (.int x1), some (.int x2), some (.int v3), some (.int v4), none, none, none, none] []) (k88 : Int32 → Int32 → Int32 → Int32 → ol_Mm → Option ol_Mm) (hk88 : ∀ (v3 : Int32) (v4 : Int32) (v5 : Int32) (v6 : Int32) (σ : ol_Mm), k88 v3 v4 v5 v6 σ = some z → ol_G X V A true (ol_Pw none (ol_WM V a z)) ({ frames := 2, cells := 0, slots := 0, locals := 49 } : Room) 9 0 0 (ol_WM V a σ) 88 [some (.ref (a 0)), some (.int x1), some (.int x2), some (.int v3), some (.int v4), some (.int v5), some (.int v6), none, none] [])  : ∀ (n : Nat), ∀ (v3 : Int32) (v4 : Int32) (v5 : Int32) (v6 : Int32) (v7 : Int32) (v8 : Int32) (σ : ol_Mm), oX4_dipsAt_L114 x1 x2 k37 k88 n v3 v4 v5 v6 v7 v8 σ = some z → ol_G X V A true (ol_Pw none (ol_WM V a z)) ({ frames := 2, cells := 0, slots := 0, locals := 49 } : Room) 9 0 0 (ol_WM V a σ) 114 [some (.ref (a 0)), some (.int x1), some (.int x2), some (.int v3), some (.int v4), some (.int v5), some (.int v6), some (.int v7), some (.int v8)] [] := by
  intro n
  induction n with
  | zero =>
    intro v3 v4 v5 v6 v7 v8 σ h
    exact ol_no h
  | succ n ih =>
    intro v3 v4 v5 v6 v7 v8 σ h
    rw [oX4_dipsAt_L114] at h
    refine ol_iload hX (pc := 114) dX4_dipsAt_114 rfl ?_
    refine ol_iload hX (pc := 116) dX4_dipsAt_116 rfl ?_
    refine ol_iconst hX (pc := 118) 2 dX4_dipsAt_118 ol_k_iconst_2 ?_
    refine ol_iload hX (pc := 119) dX4_dipsAt_119 rfl ?_
    refine ol_imul hX (pc := 121) dX4_dipsAt_121 ?_
    refine ol_iadd hX (pc := 122) dX4_dipsAt_122 ?_
    refine ol_icmp_ge hX (pc := 123) 153 dX4_dipsAt_123 (by decide) (fun c3 => ?_) (fun c3 => ?_)
    · have h := ol_ifp c3 h
      refine ol_iinc hX (pc := 153) (v6 + 1) [some (.ref (a 0)), some (.int x1), some (.int x2), some (.int v3), some (.int v4), some (.int v5), some (.int (v6 + 1)), some (.int v7), some (.int v8)] dX4_dipsAt_153 rfl (ol_k_iinc_1 _) (by decide) rfl rfl ?_
      refine ol_goto hX (pc := 156) 88 dX4_dipsAt_156 (by decide) ?_
      refine ol_Gdrop 7 ?_
      refine ol_Gdrop 8 ?_
      exact hk88 v3 v4 v5 (v6 + 1) σ h
    · have h := ol_ifn c3 h
      refine ol_aload_n hX (pc := 126) dX4_dipsAt_126 rfl rfl ?_
      refine ol_mg28 hX (pc := 127) dX4_dipsAt_127 ?_
      refine ol_sipush hX (pc := 130) 461 dX4_dipsAt_130 ol_k_sipush_461 ?_
      refine ol_iload hX (pc := 133) dX4_dipsAt_133 rfl ?_
      refine ol_imul hX (pc := 135) dX4_dipsAt_135 ?_
      refine ol_iload hX (pc := 136) dX4_dipsAt_136 rfl ?_
      refine ol_iadd hX (pc := 138) dX4_dipsAt_138 ?_
      refine ol_dup2_11 hX (pc := 139) dX4_dipsAt_139 rfl rfl ?_
      obtain ⟨g1, h⟩ := ol_of_og h
      refine ol_ml13 hX (pc := 140) dX4_dipsAt_140 rfl (ol_in_vp g1) ?_
      refine ol_iconst hX (pc := 141) 1 dX4_dipsAt_141 ol_k_iconst_1 ?_
      refine ol_iload hX (pc := 142) dX4_dipsAt_142 rfl ?_
      refine ol_ishl hX (pc := 144) dX4_dipsAt_144 ?_
      refine ol_ior hX (pc := 145) dX4_dipsAt_145 ?_
      obtain ⟨g2, h⟩ := ol_of_og h
      refine ol_ms13 hX (pc := 146) dX4_dipsAt_146 rfl (ol_in_vp g2) ?_
      refine ol_iinc hX (pc := 147) (v8 + 1) [some (.ref (a 0)), some (.int x1), some (.int x2), some (.int v3), some (.int v4), some (.int v5), some (.int v6), some (.int v7), some (.int (v8 + 1))] dX4_dipsAt_147 rfl (ol_k_iinc_1 _) (by decide) rfl rfl ?_
      refine ol_goto hX (pc := 150) 114 dX4_dipsAt_150 (by decide) ?_
      exact ih v3 v4 v5 v6 v7 (v8 + 1) (ol_ms σ 13 (((461 * v6) + v8).toNatClampNeg) ((σ.1 13 (((461 * v6) + v8).toNatClampNeg)) ||| ((1 : Int32) <<< (v4 &&& 31)))) h
set_option maxHeartbeats 4000000 in
theorem wX4_dipsAt_L88 {X : ol_Cx} {V : ol_Gh} {A : Nat → Prop} {a : Nat → Nat} {z : ol_Mm} (hX : ol_CX X V A cX4_dipsAt RX4 "dipsAt" 9 none) (x1 : Int32) (x2 : Int32)  (k37 : Int32 → Int32 → ol_Mm → Option ol_Mm) (hk37 : ∀ (v3 : Int32) (v4 : Int32) (σ : ol_Mm), k37 v3 v4 σ = some z → ol_G X V A true (ol_Pw none (ol_WM V a z)) ({ frames := 2, cells := 0, slots := 0, locals := 49 } : Room) 9 0 0 (ol_WM V a σ) 37 [some (.ref (a 0)), some (.int x1), some (.int x2), some (.int v3), some (.int v4), none, none, none, none] [])  : ∀ (n : Nat), ∀ (v3 : Int32) (v4 : Int32) (v5 : Int32) (v6 : Int32) (σ : ol_Mm), oX4_dipsAt_L88 x1 x2 k37 n v3 v4 v5 v6 σ = some z → ol_G X V A true (ol_Pw none (ol_WM V a z)) ({ frames := 2, cells := 0, slots := 0, locals := 49 } : Room) 9 0 0 (ol_WM V a σ) 88 [some (.ref (a 0)), some (.int x1), some (.int x2), some (.int v3), some (.int v4), some (.int v5), some (.int v6), none, none] [] := by
  intro n
  induction n with
  | zero =>
    intro v3 v4 v5 v6 σ h
    exact ol_no h
  | succ n ih =>
    intro v3 v4 v5 v6 σ h
    rw [oX4_dipsAt_L88] at h
    refine ol_iload hX (pc := 88) dX4_dipsAt_88 rfl ?_
    refine ol_aload_n hX (pc := 90) dX4_dipsAt_90 rfl rfl ?_
    refine ol_mg6 hX (pc := 91) dX4_dipsAt_91 ?_
    refine ol_iconst hX (pc := 94) 3 dX4_dipsAt_94 ol_k_iconst_3 ?_
    refine ol_ml2 hX (pc := 95) dX4_dipsAt_95 ol_tn_3 (ol_in_vp (by decide)) ?_
    refine ol_icmp_ge hX (pc := 96) 159 dX4_dipsAt_96 (by decide) (fun c3 => ?_) (fun c3 => ?_)
    · have h := ol_ifp c3 h
      refine ol_iinc hX (pc := 159) (v4 + 1) [some (.ref (a 0)), some (.int x1), some (.int x2), some (.int v3), some (.int (v4 + 1)), some (.int v5), some (.int v6), none, none] dX4_dipsAt_159 rfl (ol_k_iinc_1 _) (by decide) rfl rfl ?_
      refine ol_goto hX (pc := 162) 37 dX4_dipsAt_162 (by decide) ?_
      refine ol_Gdrop 5 ?_
      refine ol_Gdrop 6 ?_
      exact hk37 v3 (v4 + 1) σ h
    · have h := ol_ifn c3 h
      refine ol_iload_n hX (pc := 99) dX4_dipsAt_99 rfl rfl ?_
      refine ol_aload_n hX (pc := 100) dX4_dipsAt_100 rfl rfl ?_
      refine ol_iload_n hX (pc := 101) dX4_dipsAt_101 rfl rfl ?_
      refine ol_iload hX (pc := 102) dX4_dipsAt_102 rfl ?_
      obtain ⟨y1, e2, h⟩ := ol_of_bd h
      refine ol_cVr (As := [.int x1, .int v6]) hX (pc := 104) (wX4_slotsApart V a σ x1 v6 y1 e2) lkX4_227 dcX4_slotsApart ⟨rfl, rfl⟩ ol_rr_X4_dipsAt_X4_slotsApart 0 rfl rfl (fun _ h => h) ⟨Nat.le_refl _, Nat.le_refl _⟩ (Nat.le_of_ble_eq_true rfl) dX4_dipsAt_104 rfl ?_
      refine ol_iadd hX (pc := 107) dX4_dipsAt_107 ?_
      refine ol_istore hX (pc := 108) [some (.ref (a 0)), some (.int x1), some (.int x2), some (.int v3), some (.int v4), some (.int v5), some (.int v6), some (.int (x2 + y1)), none] dX4_dipsAt_108 (by decide) rfl rfl ?_
      refine ol_iload hX (pc := 110) dX4_dipsAt_110 rfl ?_
      refine ol_istore hX (pc := 112) [some (.ref (a 0)), some (.int x1), some (.int x2), some (.int v3), some (.int v4), some (.int v5), some (.int v6), some (.int (x2 + y1)), some (.int (x2 + y1))] dX4_dipsAt_112 (by decide) rfl rfl ?_
      exact wX4_dipsAt_L114 hX x1 x2 k37 hk37 (oX4_dipsAt_L88 x1 x2 k37 n) ih ol_fuel v3 v4 v5 v6 (x2 + y1) (x2 + y1) σ h
set_option maxHeartbeats 4000000 in
theorem wX4_dipsAt_L65 {X : ol_Cx} {V : ol_Gh} {A : Nat → Prop} {a : Nat → Nat} {z : ol_Mm} (hX : ol_CX X V A cX4_dipsAt RX4 "dipsAt" 9 none) (x1 : Int32) (x2 : Int32)  (k37 : Int32 → Int32 → ol_Mm → Option ol_Mm) (hk37 : ∀ (v3 : Int32) (v4 : Int32) (σ : ol_Mm), k37 v3 v4 σ = some z → ol_G X V A true (ol_Pw none (ol_WM V a z)) ({ frames := 2, cells := 0, slots := 0, locals := 49 } : Room) 9 0 0 (ol_WM V a σ) 37 [some (.ref (a 0)), some (.int x1), some (.int x2), some (.int v3), some (.int v4), none, none, none, none] []) (v3 : Int32) (v4 : Int32) (s0 : Int32) (σ : ol_Mm) (h : oX4_dipsAt_L65 x1 x2 k37 v3 v4 s0 σ = some z) : ol_G X V A true (ol_Pw none (ol_WM V a z)) ({ frames := 2, cells := 0, slots := 0, locals := 49 } : Room) 9 0 0 (ol_WM V a σ) 65 [some (.ref (a 0)), some (.int x1), some (.int x2), some (.int v3), some (.int v4), none, none, none, none] [.int s0] := by
  unfold oX4_dipsAt_L65 at h
  refine ol_istore hX (pc := 65) [some (.ref (a 0)), some (.int x1), some (.int x2), some (.int v3), some (.int v4), some (.int s0), none, none, none] dX4_dipsAt_65 (by decide) rfl rfl ?_
  refine ol_iload hX (pc := 67) dX4_dipsAt_67 rfl ?_
  refine ol_if_ne hX (pc := 69) 75 dX4_dipsAt_69 (by decide) (fun c1 => ?_) (fun c1 => ?_)
  · have h := ol_ifn c1 h
    refine ol_aload_n hX (pc := 75) dX4_dipsAt_75 rfl rfl ?_
    refine ol_dup hX (pc := 76) dX4_dipsAt_76 rfl ?_
    refine ol_mg29 hX (pc := 77) dX4_dipsAt_77 ?_
    refine ol_iconst hX (pc := 80) 1 dX4_dipsAt_80 ol_k_iconst_1 ?_
    refine ol_iadd hX (pc := 81) dX4_dipsAt_81 ?_
    refine ol_mp29 hX (pc := 82) dX4_dipsAt_82 ?_
    refine ol_iconst hX (pc := 85) 0 dX4_dipsAt_85 ol_k_iconst_0 ?_
    refine ol_istore hX (pc := 86) [some (.ref (a 0)), some (.int x1), some (.int x2), some (.int v3), some (.int v4), some (.int s0), some (.int 0), none, none] dX4_dipsAt_86 (by decide) rfl rfl ?_
    exact wX4_dipsAt_L88 hX x1 x2 k37 hk37 ol_fuel v3 v4 s0 0 (ol_ms σ 0 29 ((σ.1 0 29) + 1)) h
  · have h := ol_ifp c1 h
    refine ol_goto hX (pc := 72) 159 dX4_dipsAt_72 (by decide) ?_
    refine ol_iinc hX (pc := 159) (v4 + 1) [some (.ref (a 0)), some (.int x1), some (.int x2), some (.int v3), some (.int (v4 + 1)), some (.int s0), none, none, none] dX4_dipsAt_159 rfl (ol_k_iinc_1 _) (by decide) rfl rfl ?_
    refine ol_goto hX (pc := 162) 37 dX4_dipsAt_162 (by decide) ?_
    refine ol_Gdrop 5 ?_
    exact hk37 v3 (v4 + 1) σ h
set_option maxHeartbeats 4000000 in
theorem wX4_dipsAt_L37 {X : ol_Cx} {V : ol_Gh} {A : Nat → Prop} {a : Nat → Nat} {z : ol_Mm} (hX : ol_CX X V A cX4_dipsAt RX4 "dipsAt" 9 none) (x1 : Int32) (x2 : Int32)    : ∀ (n : Nat), ∀ (v3 : Int32) (v4 : Int32) (σ : ol_Mm), oX4_dipsAt_L37 x1 x2 n v3 v4 σ = some z → ol_G X V A true (ol_Pw none (ol_WM V a z)) ({ frames := 2, cells := 0, slots := 0, locals := 49 } : Room) 9 0 0 (ol_WM V a σ) 37 [some (.ref (a 0)), some (.int x1), some (.int x2), some (.int v3), some (.int v4), none, none, none, none] [] := by
  intro n
  induction n with
  | zero =>
    intro v3 v4 σ h
    exact ol_no h
  | succ n ih =>
    intro v3 v4 σ h
    rw [oX4_dipsAt_L37] at h
    refine ol_iload hX (pc := 37) dX4_dipsAt_37 rfl ?_
    refine ol_bipush hX (pc := 39) 6 dX4_dipsAt_39 ol_k_bipush_6 ?_
    refine ol_icmp_ge hX (pc := 41) 165 dX4_dipsAt_41 (by decide) (fun c6 => ?_) (fun c6 => ?_)
    · have h := ol_ifp c6 h
      have h := ol_of_some h
      subst h
      exact ol_vret hX (pc := 165) dX4_dipsAt_165 ⟨rfl, rfl⟩ ⟨Nat.le_refl _, Nat.le_refl _⟩
    · have h := ol_ifn c6 h
      refine ol_iload_n hX (pc := 44) dX4_dipsAt_44 rfl rfl ?_
      refine ol_iload hX (pc := 45) dX4_dipsAt_45 rfl ?_
      obtain ⟨y1, e2, h⟩ := ol_of_bd h
      refine ol_cSr (As := [.int v3, .int v4]) hX (pc := 47) (wX4_has V (ol_WM V a σ) v3 v4 y1 e2) lkX4_221 dcX4_has ⟨rfl, rfl⟩ ol_rr_X4_dipsAt_X4_has (fun _ h => h) ⟨Nat.le_refl _, Nat.le_refl _⟩ (Nat.le_of_ble_eq_true rfl) dX4_dipsAt_47 rfl ?_
      refine ol_if_eq hX (pc := 50) 64 dX4_dipsAt_50 (by decide) (fun c5 => ?_) (fun c5 => ?_)
      · have h := ol_ifp c5 h
        refine ol_iconst hX (pc := 64) 0 dX4_dipsAt_64 ol_k_iconst_0 ?_
        exact wX4_dipsAt_L65 hX x1 x2 (oX4_dipsAt_L37 x1 x2 n) ih v3 v4 0 σ h
      · have h := ol_ifn c5 h
        refine ol_aload_n hX (pc := 53) dX4_dipsAt_53 rfl rfl ?_
        refine ol_iload_n hX (pc := 54) dX4_dipsAt_54 rfl rfl ?_
        refine ol_iload hX (pc := 55) dX4_dipsAt_55 rfl ?_
        refine ol_iload_n hX (pc := 57) dX4_dipsAt_57 rfl rfl ?_
        obtain ⟨y3, e4, h⟩ := ol_of_bd h
        refine ol_cVr (As := [.int x1, .int v4, .int x2]) hX (pc := 58) (wX4_nearest V a σ x1 v4 x2 y3 e4) lkX4_230 dcX4_nearest ⟨rfl, rfl⟩ ol_rr_X4_dipsAt_X4_nearest 0 rfl rfl (fun _ h => h) ⟨Nat.le_refl _, Nat.le_refl _⟩ (Nat.le_of_ble_eq_true rfl) dX4_dipsAt_58 rfl ?_
        refine ol_goto hX (pc := 61) 65 dX4_dipsAt_61 (by decide) ?_
        exact wX4_dipsAt_L65 hX x1 x2 (oX4_dipsAt_L37 x1 x2 n) ih v3 v4 y3 σ h
set_option maxHeartbeats 4000000 in
theorem wX4_dipsAt (V : ol_Gh) (a : Nat → Nat) (σ : ol_Mm) (x1 : Int32) (x2 : Int32)  (z : ol_Mm) (h : oX4_dipsAt σ x1 x2 = some z) : ol_Mt V yX4_dipsAt cX4_dipsAt 9 none ({ frames := 2, cells := 0, slots := 0, locals := 49 } : Room) true [.ref (a 0), .int x1, .int x2] (ol_WM V a σ) (ol_Pw none (ol_WM V a z)) := by
  refine ol_MtOf (L0 := [some (.ref (a 0)), some (.int x1), some (.int x2), none, none, none, none, none, none]) (by decide) (Nat.le_of_ble_eq_true rfl) rfl (fun X A hX => ?_)
  unfold oX4_dipsAt at h
  refine ol_iload_n hX (pc := 0) dX4_dipsAt_0 rfl rfl ?_
  refine ol_if_ne hX (pc := 1) 8 dX4_dipsAt_1 (by decide) (fun c7 => ?_) (fun c7 => ?_)
  · have h := ol_ifn c7 h
    refine ol_aload_n hX (pc := 8) dX4_dipsAt_8 rfl rfl ?_
    refine ol_mg24 hX (pc := 9) dX4_dipsAt_9 ?_
    refine ol_iload_n hX (pc := 12) dX4_dipsAt_12 rfl rfl ?_
    refine ol_iload_n hX (pc := 13) dX4_dipsAt_13 rfl rfl ?_
    refine ol_iconst hX (pc := 14) 1 dX4_dipsAt_14 ol_k_iconst_1 ?_
    refine ol_isub hX (pc := 15) dX4_dipsAt_15 ?_
    obtain ⟨y1, e2, h⟩ := ol_of_bd h
    refine ol_cSr (As := [.int x1, .int (x2 - 1)]) hX (pc := 16) (wX4_cell V (ol_WM V a σ) x1 (x2 - 1) y1 e2) lkX4_224 dcX4_cell ⟨rfl, rfl⟩ ol_rr_X4_dipsAt_X4_cell (fun _ h => h) ⟨Nat.le_refl _, Nat.le_refl _⟩ (Nat.le_of_ble_eq_true rfl) dX4_dipsAt_16 rfl ?_
    obtain ⟨g3, h⟩ := ol_of_og h
    refine ol_ml9 hX (pc := 19) dX4_dipsAt_19 rfl (ol_in_vp g3) ?_
    refine ol_aload_n hX (pc := 20) dX4_dipsAt_20 rfl rfl ?_
    refine ol_mg24 hX (pc := 21) dX4_dipsAt_21 ?_
    refine ol_iload_n hX (pc := 24) dX4_dipsAt_24 rfl rfl ?_
    refine ol_iload_n hX (pc := 25) dX4_dipsAt_25 rfl rfl ?_
    obtain ⟨y4, e5, h⟩ := ol_of_bd h
    refine ol_cSr (As := [.int x1, .int x2]) hX (pc := 26) (wX4_cell V (ol_WM V a σ) x1 x2 y4 e5) lkX4_224 dcX4_cell ⟨rfl, rfl⟩ ol_rr_X4_dipsAt_X4_cell (fun _ h => h) ⟨Nat.le_refl _, Nat.le_refl _⟩ (Nat.le_of_ble_eq_true rfl) dX4_dipsAt_26 rfl ?_
    obtain ⟨g6, h⟩ := ol_of_og h
    refine ol_ml9 hX (pc := 29) dX4_dipsAt_29 rfl (ol_in_vp g6) ?_
    refine ol_iconst hX (pc := 30) (-1) dX4_dipsAt_30 ol_k_iconst_m1 ?_
    refine ol_ixor hX (pc := 31) dX4_dipsAt_31 ?_
    refine ol_iand hX (pc := 32) dX4_dipsAt_32 ?_
    refine ol_istore_n hX (pc := 33) [some (.ref (a 0)), some (.int x1), some (.int x2), some (.int ((σ.1 9 y1.toNatClampNeg) &&& ((σ.1 9 y4.toNatClampNeg) ^^^ (-1)))), none, none, none, none, none] dX4_dipsAt_33 rfl (by decide) rfl rfl ?_
    refine ol_iconst hX (pc := 34) 0 dX4_dipsAt_34 ol_k_iconst_0 ?_
    refine ol_istore hX (pc := 35) [some (.ref (a 0)), some (.int x1), some (.int x2), some (.int ((σ.1 9 y1.toNatClampNeg) &&& ((σ.1 9 y4.toNatClampNeg) ^^^ (-1)))), some (.int 0), none, none, none, none] dX4_dipsAt_35 (by decide) rfl rfl ?_
    exact wX4_dipsAt_L37 hX x1 x2 ol_fuel ((σ.1 9 y1.toNatClampNeg) &&& ((σ.1 9 y4.toNatClampNeg) ^^^ (-1))) 0 σ h
  · have h := ol_ifp c7 h
    refine ol_iconst hX (pc := 4) 0 dX4_dipsAt_4 ol_k_iconst_0 ?_
    refine ol_goto hX (pc := 5) 33 dX4_dipsAt_5 (by decide) ?_
    refine ol_istore_n hX (pc := 33) [some (.ref (a 0)), some (.int x1), some (.int x2), some (.int 0), none, none, none, none, none] dX4_dipsAt_33 rfl (by decide) rfl rfl ?_
    refine ol_iconst hX (pc := 34) 0 dX4_dipsAt_34 ol_k_iconst_0 ?_
    refine ol_istore hX (pc := 35) [some (.ref (a 0)), some (.int x1), some (.int x2), some (.int 0), some (.int 0), none, none, none, none] dX4_dipsAt_35 (by decide) rfl rfl ?_
    exact wX4_dipsAt_L37 hX x1 x2 ol_fuel 0 0 σ h
set_option maxHeartbeats 4000000 in
theorem wX4_isSeen_L74 {X : ol_Cx} {V : ol_Gh} {A : Nat → Prop} {a : Nat → Nat} {z : Int32} (hX : ol_CX X V A cX4_isSeen RX4 "isSeen" 6 (some .boolean)) (σ : ol_Mm) (x1 : Int32) (x2 : Int32) (x3 : Int32)    : ∀ (n : Nat), ∀ (v4 : Int32), oX4_isSeen_L74 σ x1 x2 x3 n v4 = some z → ol_G X V A false (ol_Pr (some (.int z))) ({ frames := 1, cells := 0, slots := 0, locals := 23 } : Room) 6 0 0 (ol_WM V a σ) 74 [some (.ref (a 0)), some (.int x1), some (.int x2), some (.int x3), some (.int v4), none] [] := by
  intro n
  induction n with
  | zero =>
    intro v4 h
    exact ol_no h
  | succ n ih =>
    intro v4 h
    rw [oX4_isSeen_L74] at h
    refine ol_iload hX (pc := 74) dX4_isSeen_74 rfl ?_
    refine ol_aload_n hX (pc := 76) dX4_isSeen_76 rfl rfl ?_
    refine ol_mg6 hX (pc := 77) dX4_isSeen_77 ?_
    refine ol_iconst hX (pc := 80) 3 dX4_isSeen_80 ol_k_iconst_3 ?_
    refine ol_ml2 hX (pc := 81) dX4_isSeen_81 ol_tn_3 (ol_in_vp (by decide)) ?_
    refine ol_icmp_ge hX (pc := 82) 134 dX4_isSeen_82 (by decide) (fun c11 => ?_) (fun c11 => ?_)
    · have h := ol_ifp c11 h
      refine ol_iconst hX (pc := 134) 0 dX4_isSeen_134 ol_k_iconst_0 ?_
      have h := ol_of_some h
      subst h
      exact ol_zret hX (pc := 135) dX4_isSeen_135 (by rfl) rfl ⟨Nat.le_refl _, Nat.le_refl _⟩
    · have h := ol_ifn c11 h
      refine ol_iload_n hX (pc := 85) dX4_isSeen_85 rfl rfl ?_
      refine ol_aload_n hX (pc := 86) dX4_isSeen_86 rfl rfl ?_
      refine ol_iload_n hX (pc := 87) dX4_isSeen_87 rfl rfl ?_
      refine ol_iload hX (pc := 88) dX4_isSeen_88 rfl ?_
      obtain ⟨y1, e2, h⟩ := ol_of_bd h
      refine ol_cVr (As := [.int x1, .int v4]) hX (pc := 90) (wX4_slotsApart V a σ x1 v4 y1 e2) lkX4_227 dcX4_slotsApart ⟨rfl, rfl⟩ ol_rr_X4_isSeen_X4_slotsApart 0 rfl rfl (fun _ h => h) ⟨Nat.le_refl _, Nat.le_refl _⟩ (Nat.le_of_ble_eq_true rfl) dX4_isSeen_90 rfl ?_
      refine ol_isub hX (pc := 93) dX4_isSeen_93 ?_
      refine ol_istore hX (pc := 94) [some (.ref (a 0)), some (.int x1), some (.int x2), some (.int x3), some (.int v4), some (.int (x3 - y1))] dX4_isSeen_94 (by decide) rfl rfl ?_
      refine ol_iload hX (pc := 96) dX4_isSeen_96 rfl ?_
      refine ol_iload_n hX (pc := 98) dX4_isSeen_98 rfl rfl ?_
      refine ol_icmp_eq hX (pc := 99) 128 dX4_isSeen_99 (by decide) (fun c10 => ?_) (fun c10 => ?_)
      · have h := ol_ifp c10 h
        refine ol_iinc hX (pc := 128) (v4 + 1) [some (.ref (a 0)), some (.int x1), some (.int x2), some (.int x3), some (.int (v4 + 1)), some (.int (x3 - y1))] dX4_isSeen_128 rfl (ol_k_iinc_1 _) (by decide) rfl rfl ?_
        refine ol_goto hX (pc := 131) 74 dX4_isSeen_131 (by decide) ?_
        refine ol_Gdrop 5 ?_
        exact ih (v4 + 1) h
      · have h := ol_ifn c10 h
        refine ol_iload hX (pc := 102) dX4_isSeen_102 rfl ?_
        refine ol_if_lt hX (pc := 104) 128 dX4_isSeen_104 (by decide) (fun c9 => ?_) (fun c9 => ?_)
        · have h := ol_ifp c9 h
          refine ol_iinc hX (pc := 128) (v4 + 1) [some (.ref (a 0)), some (.int x1), some (.int x2), some (.int x3), some (.int (v4 + 1)), some (.int (x3 - y1))] dX4_isSeen_128 rfl (ol_k_iinc_1 _) (by decide) rfl rfl ?_
          refine ol_goto hX (pc := 131) 74 dX4_isSeen_131 (by decide) ?_
          refine ol_Gdrop 5 ?_
          exact ih (v4 + 1) h
        · have h := ol_ifn c9 h
          refine ol_aload_n hX (pc := 107) dX4_isSeen_107 rfl rfl ?_
          refine ol_mg24 hX (pc := 108) dX4_isSeen_108 ?_
          refine ol_iload hX (pc := 111) dX4_isSeen_111 rfl ?_
          refine ol_iload hX (pc := 113) dX4_isSeen_113 rfl ?_
          obtain ⟨y3, e4, h⟩ := ol_of_bd h
          refine ol_cSr (As := [.int v4, .int (x3 - y1)]) hX (pc := 115) (wX4_cell V (ol_WM V a σ) v4 (x3 - y1) y3 e4) lkX4_224 dcX4_cell ⟨rfl, rfl⟩ ol_rr_X4_isSeen_X4_cell (fun _ h => h) ⟨Nat.le_refl _, Nat.le_refl _⟩ (Nat.le_of_ble_eq_true rfl) dX4_isSeen_115 rfl ?_
          obtain ⟨g5, h⟩ := ol_of_og h
          refine ol_ml9 hX (pc := 118) dX4_isSeen_118 rfl (ol_in_vp g5) ?_
          refine ol_iload_n hX (pc := 119) dX4_isSeen_119 rfl rfl ?_
          obtain ⟨y6, e7, h⟩ := ol_of_bd h
          refine ol_cSr (As := [.int (σ.1 9 y3.toNatClampNeg), .int x2]) hX (pc := 120) (wX4_has V (ol_WM V a σ) (σ.1 9 y3.toNatClampNeg) x2 y6 e7) lkX4_221 dcX4_has ⟨rfl, rfl⟩ ol_rr_X4_isSeen_X4_has (fun _ h => h) ⟨Nat.le_refl _, Nat.le_refl _⟩ (Nat.le_of_ble_eq_true rfl) dX4_isSeen_120 rfl ?_
          refine ol_if_eq hX (pc := 123) 128 dX4_isSeen_123 (by decide) (fun c8 => ?_) (fun c8 => ?_)
          · have h := ol_ifp c8 h
            refine ol_iinc hX (pc := 128) (v4 + 1) [some (.ref (a 0)), some (.int x1), some (.int x2), some (.int x3), some (.int (v4 + 1)), some (.int (x3 - y1))] dX4_isSeen_128 rfl (ol_k_iinc_1 _) (by decide) rfl rfl ?_
            refine ol_goto hX (pc := 131) 74 dX4_isSeen_131 (by decide) ?_
            refine ol_Gdrop 5 ?_
            exact ih (v4 + 1) h
          · have h := ol_ifn c8 h
            refine ol_iconst hX (pc := 126) 1 dX4_isSeen_126 ol_k_iconst_1 ?_
            have h := ol_of_some h
            subst h
            exact ol_zret hX (pc := 127) dX4_isSeen_127 (by rfl) rfl ⟨Nat.le_refl _, Nat.le_refl _⟩
set_option maxHeartbeats 4000000 in
theorem wX4_isSeen (V : ol_Gh) (a : Nat → Nat) (σ : ol_Mm) (x1 : Int32) (x2 : Int32) (x3 : Int32)  (z : Int32) (h : oX4_isSeen σ x1 x2 x3 = some z) : ol_Mt V yX4_isSeen cX4_isSeen 6 (some .boolean) ({ frames := 1, cells := 0, slots := 0, locals := 23 } : Room) false [.ref (a 0), .int x1, .int x2, .int x3] (ol_WM V a σ) (ol_Pr (some (.int z))) := by
  refine ol_MtOf (L0 := [some (.ref (a 0)), some (.int x1), some (.int x2), some (.int x3), none, none]) (by decide) (Nat.le_of_ble_eq_true rfl) rfl (fun X A hX => ?_)
  unfold oX4_isSeen at h
  refine ol_aload_n hX (pc := 0) dX4_isSeen_0 rfl rfl ?_
  refine ol_mg24 hX (pc := 1) dX4_isSeen_1 ?_
  refine ol_iload_n hX (pc := 4) dX4_isSeen_4 rfl rfl ?_
  refine ol_iload_n hX (pc := 5) dX4_isSeen_5 rfl rfl ?_
  obtain ⟨y1, e2, h⟩ := ol_of_bd h
  refine ol_cSr (As := [.int x1, .int x3]) hX (pc := 6) (wX4_cell V (ol_WM V a σ) x1 x3 y1 e2) lkX4_224 dcX4_cell ⟨rfl, rfl⟩ ol_rr_X4_isSeen_X4_cell (fun _ h => h) ⟨Nat.le_refl _, Nat.le_refl _⟩ (Nat.le_of_ble_eq_true rfl) dX4_isSeen_6 rfl ?_
  obtain ⟨g3, h⟩ := ol_of_og h
  refine ol_ml9 hX (pc := 9) dX4_isSeen_9 rfl (ol_in_vp g3) ?_
  refine ol_iload_n hX (pc := 10) dX4_isSeen_10 rfl rfl ?_
  obtain ⟨y4, e5, h⟩ := ol_of_bd h
  refine ol_cSr (As := [.int (σ.1 9 y1.toNatClampNeg), .int x2]) hX (pc := 11) (wX4_has V (ol_WM V a σ) (σ.1 9 y1.toNatClampNeg) x2 y4 e5) lkX4_221 dcX4_has ⟨rfl, rfl⟩ ol_rr_X4_isSeen_X4_has (fun _ h => h) ⟨Nat.le_refl _, Nat.le_refl _⟩ (Nat.le_of_ble_eq_true rfl) dX4_isSeen_11 rfl ?_
  refine ol_if_eq hX (pc := 14) 19 dX4_isSeen_14 (by decide) (fun c14 => ?_) (fun c14 => ?_)
  · have h := ol_ifp c14 h
    refine ol_aload_n hX (pc := 19) dX4_isSeen_19 rfl rfl ?_
    refine ol_mg18 hX (pc := 20) dX4_isSeen_20 ?_
    refine ol_bipush hX (pc := 23) 12 dX4_isSeen_23 ol_k_bipush_12 ?_
    refine ol_iload_n hX (pc := 25) dX4_isSeen_25 rfl rfl ?_
    refine ol_iadd hX (pc := 26) dX4_isSeen_26 ?_
    obtain ⟨g6, h⟩ := ol_of_og h
    refine ol_ml5 hX (pc := 27) dX4_isSeen_27 rfl (ol_in_vp g6) ?_
    refine ol_if_eq hX (pc := 28) 50 dX4_isSeen_28 (by decide) (fun c13 => ?_) (fun c13 => ?_)
    · have h := ol_ifp c13 h
      refine ol_aload_n hX (pc := 50) dX4_isSeen_50 rfl rfl ?_
      refine ol_mg28 hX (pc := 51) dX4_isSeen_51 ?_
      refine ol_sipush hX (pc := 54) 461 dX4_isSeen_54 ol_k_sipush_461 ?_
      refine ol_iload_n hX (pc := 57) dX4_isSeen_57 rfl rfl ?_
      refine ol_imul hX (pc := 58) dX4_isSeen_58 ?_
      refine ol_iload_n hX (pc := 59) dX4_isSeen_59 rfl rfl ?_
      refine ol_iadd hX (pc := 60) dX4_isSeen_60 ?_
      obtain ⟨g7, h⟩ := ol_of_og h
      refine ol_ml13 hX (pc := 61) dX4_isSeen_61 rfl (ol_in_vp g7) ?_
      refine ol_iload_n hX (pc := 62) dX4_isSeen_62 rfl rfl ?_
      obtain ⟨y8, e9, h⟩ := ol_of_bd h
      refine ol_cSr (As := [.int (σ.1 13 (((461 * x1) + x3).toNatClampNeg)), .int x2]) hX (pc := 63) (wX4_has V (ol_WM V a σ) (σ.1 13 (((461 * x1) + x3).toNatClampNeg)) x2 y8 e9) lkX4_221 dcX4_has ⟨rfl, rfl⟩ ol_rr_X4_isSeen_X4_has (fun _ h => h) ⟨Nat.le_refl _, Nat.le_refl _⟩ (Nat.le_of_ble_eq_true rfl) dX4_isSeen_63 rfl ?_
      refine ol_if_eq hX (pc := 66) 71 dX4_isSeen_66 (by decide) (fun c10 => ?_) (fun c10 => ?_)
      · have h := ol_ifp c10 h
        refine ol_iconst hX (pc := 71) 0 dX4_isSeen_71 ol_k_iconst_0 ?_
        refine ol_istore hX (pc := 72) [some (.ref (a 0)), some (.int x1), some (.int x2), some (.int x3), some (.int 0), none] dX4_isSeen_72 (by decide) rfl rfl ?_
        exact wX4_isSeen_L74 hX σ x1 x2 x3 ol_fuel 0 h
      · have h := ol_ifn c10 h
        refine ol_iconst hX (pc := 69) 0 dX4_isSeen_69 ol_k_iconst_0 ?_
        have h := ol_of_some h
        subst h
        exact ol_zret hX (pc := 70) dX4_isSeen_70 (by rfl) rfl ⟨Nat.le_refl _, Nat.le_refl _⟩
    · have h := ol_ifn c13 h
      refine ol_aload_n hX (pc := 31) dX4_isSeen_31 rfl rfl ?_
      refine ol_mg18 hX (pc := 32) dX4_isSeen_32 ?_
      refine ol_bipush hX (pc := 35) 12 dX4_isSeen_35 ol_k_bipush_12 ?_
      refine ol_iload_n hX (pc := 37) dX4_isSeen_37 rfl rfl ?_
      refine ol_iadd hX (pc := 38) dX4_isSeen_38 ?_
      obtain ⟨g11, h⟩ := ol_of_og h
      refine ol_ml5 hX (pc := 39) dX4_isSeen_39 rfl (ol_in_vp g11) ?_
      refine ol_iconst hX (pc := 40) 1 dX4_isSeen_40 ol_k_iconst_1 ?_
      refine ol_icmp_ne hX (pc := 41) 48 dX4_isSeen_41 (by decide) (fun c12 => ?_) (fun c12 => ?_)
      · have h := ol_ifn c12 h
        refine ol_iconst hX (pc := 48) 0 dX4_isSeen_48 ol_k_iconst_0 ?_
        have h := ol_of_some h
        subst h
        exact ol_zret hX (pc := 49) dX4_isSeen_49 (by rfl) rfl ⟨Nat.le_refl _, Nat.le_refl _⟩
      · have h := ol_ifp c12 h
        refine ol_iconst hX (pc := 44) 1 dX4_isSeen_44 ol_k_iconst_1 ?_
        refine ol_goto hX (pc := 45) 49 dX4_isSeen_45 (by decide) ?_
        have h := ol_of_some h
        subst h
        exact ol_zret hX (pc := 49) dX4_isSeen_49 (by rfl) rfl ⟨Nat.le_refl _, Nat.le_refl _⟩
  · have h := ol_ifn c14 h
    refine ol_iconst hX (pc := 17) 1 dX4_isSeen_17 ol_k_iconst_1 ?_
    have h := ol_of_some h
    subst h
    exact ol_zret hX (pc := 18) dX4_isSeen_18 (by rfl) rfl ⟨Nat.le_refl _, Nat.le_refl _⟩
