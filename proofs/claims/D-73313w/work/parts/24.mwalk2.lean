/-! walks of the model's methods (printed by gen/model.py) -/
set_option maxRecDepth 100000
set_option maxHeartbeats 4000000 in
theorem wX4_looksAt_L116 {X : ol_Cx} {V : ol_Gh} {A : Nat → Prop} {a : Nat → Nat} {z : ol_Mm} (hX : ol_CX X V A cX4_looksAt RX4 "looksAt" 7 none) (x1 : Int32) (x2 : Int32)    : ∀ (n : Nat), ∀ (v4 : Int32) (v5 : Int32) (v6 : Int32) (σ : ol_Mm), oX4_looksAt_L116 x1 x2 n v4 v5 v6 σ = some z → ol_G X V A true (ol_Pw none (ol_WM V a z)) ({ frames := 2, cells := 0, slots := 0, locals := 48 } : Room) 7 0 0 (ol_WM V a σ) 116 [some (.ref (a 0)), some (.int x1), some (.int x2), none, some (.int v4), some (.int v5), some (.int v6)] [] := by
  intro n
  induction n with
  | zero =>
    intro v4 v5 v6 σ h
    exact ol_no h
  | succ n ih =>
    intro v4 v5 v6 σ h
    rw [oX4_looksAt_L116] at h
    refine ol_iload hX (pc := 116) dX4_looksAt_116 rfl ?_
    refine ol_bipush hX (pc := 118) 6 dX4_looksAt_118 ol_k_bipush_6 ?_
    refine ol_icmp_ge hX (pc := 120) 173 dX4_looksAt_120 (by decide) (fun c17 => ?_) (fun c17 => ?_)
    · have h := ol_ifp c17 h
      refine ol_aload_n hX (pc := 173) dX4_looksAt_173 rfl rfl ?_
      refine ol_mg27 hX (pc := 174) dX4_looksAt_174 ?_
      refine ol_iload_n hX (pc := 177) dX4_looksAt_177 rfl rfl ?_
      refine ol_iload_n hX (pc := 178) dX4_looksAt_178 rfl rfl ?_
      obtain ⟨y1, e2, h⟩ := ol_of_bd h
      refine ol_cSr (As := [.int x1, .int x2]) hX (pc := 179) (wX4_cell V (ol_WM V a σ) x1 x2 y1 e2) lkX4_224 dcX4_cell ⟨rfl, rfl⟩ ol_rr_X4_looksAt_X4_cell (fun _ h => h) ⟨Nat.le_refl _, Nat.le_refl _⟩ (Nat.le_of_ble_eq_true rfl) dX4_looksAt_179 rfl ?_
      refine ol_iload hX (pc := 182) dX4_looksAt_182 rfl ?_
      obtain ⟨g3, h⟩ := ol_of_og h
      refine ol_ms12 hX (pc := 184) dX4_looksAt_184 rfl (ol_in_vp g3) ?_
      have h := ol_of_some h
      subst h
      exact ol_vret hX (pc := 185) dX4_looksAt_185 ⟨rfl, rfl⟩ ⟨Nat.le_refl _, Nat.le_refl _⟩
    · have h := ol_ifn c17 h
      refine ol_aload_n hX (pc := 123) dX4_looksAt_123 rfl rfl ?_
      refine ol_mg23 hX (pc := 124) dX4_looksAt_124 ?_
      refine ol_iload_n hX (pc := 127) dX4_looksAt_127 rfl rfl ?_
      obtain ⟨y4, e5, h⟩ := ol_of_bd h
      refine ol_cSr (As := [.int (σ.1 0 23), .int x1]) hX (pc := 128) (wX4_has V (ol_WM V a σ) (σ.1 0 23) x1 y4 e5) lkX4_221 dcX4_has ⟨rfl, rfl⟩ ol_rr_X4_looksAt_X4_has (fun _ h => h) ⟨Nat.le_refl _, Nat.le_refl _⟩ (Nat.le_of_ble_eq_true rfl) dX4_looksAt_128 rfl ?_
      refine ol_if_eq hX (pc := 131) 173 dX4_looksAt_131 (by decide) (fun c16 => ?_) (fun c16 => ?_)
      · have h := ol_ifp c16 h
        refine ol_aload_n hX (pc := 173) dX4_looksAt_173 rfl rfl ?_
        refine ol_mg27 hX (pc := 174) dX4_looksAt_174 ?_
        refine ol_iload_n hX (pc := 177) dX4_looksAt_177 rfl rfl ?_
        refine ol_iload_n hX (pc := 178) dX4_looksAt_178 rfl rfl ?_
        obtain ⟨y6, e7, h⟩ := ol_of_bd h
        refine ol_cSr (As := [.int x1, .int x2]) hX (pc := 179) (wX4_cell V (ol_WM V a σ) x1 x2 y6 e7) lkX4_224 dcX4_cell ⟨rfl, rfl⟩ ol_rr_X4_looksAt_X4_cell (fun _ h => h) ⟨Nat.le_refl _, Nat.le_refl _⟩ (Nat.le_of_ble_eq_true rfl) dX4_looksAt_179 rfl ?_
        refine ol_iload hX (pc := 182) dX4_looksAt_182 rfl ?_
        obtain ⟨g8, h⟩ := ol_of_og h
        refine ol_ms12 hX (pc := 184) dX4_looksAt_184 rfl (ol_in_vp g8) ?_
        have h := ol_of_some h
        subst h
        exact ol_vret hX (pc := 185) dX4_looksAt_185 ⟨rfl, rfl⟩ ⟨Nat.le_refl _, Nat.le_refl _⟩
      · have h := ol_ifn c16 h
        refine ol_iload hX (pc := 134) dX4_looksAt_134 rfl ?_
        refine ol_iload hX (pc := 136) dX4_looksAt_136 rfl ?_
        obtain ⟨y9, e10, h⟩ := ol_of_bd h
        refine ol_cSr (As := [.int v4, .int v6]) hX (pc := 138) (wX4_has V (ol_WM V a σ) v4 v6 y9 e10) lkX4_221 dcX4_has ⟨rfl, rfl⟩ ol_rr_X4_looksAt_X4_has (fun _ h => h) ⟨Nat.le_refl _, Nat.le_refl _⟩ (Nat.le_of_ble_eq_true rfl) dX4_looksAt_138 rfl ?_
        refine ol_if_eq hX (pc := 141) 163 dX4_looksAt_141 (by decide) (fun c15 => ?_) (fun c15 => ?_)
        · have h := ol_ifp c15 h
          refine ol_iload hX (pc := 163) dX4_looksAt_163 rfl ?_
          refine ol_istore hX (pc := 165) [some (.ref (a 0)), some (.int x1), some (.int x2), none, some (.int v4), some (.int v5), some (.int v6)] dX4_looksAt_165 (by decide) rfl rfl ?_
          refine ol_iinc hX (pc := 167) (v6 + 1) [some (.ref (a 0)), some (.int x1), some (.int x2), none, some (.int v4), some (.int v5), some (.int (v6 + 1))] dX4_looksAt_167 rfl (ol_k_iinc_1 _) (by decide) rfl rfl ?_
          refine ol_goto hX (pc := 170) 116 dX4_looksAt_170 (by decide) ?_
          exact ih v4 v5 (v6 + 1) σ h
        · have h := ol_ifn c15 h
          refine ol_aload_n hX (pc := 144) dX4_looksAt_144 rfl rfl ?_
          refine ol_mg22 hX (pc := 145) dX4_looksAt_145 ?_
          refine ol_iload_n hX (pc := 148) dX4_looksAt_148 rfl rfl ?_
          obtain ⟨g11, h⟩ := ol_of_og h
          refine ol_ml8 hX (pc := 149) dX4_looksAt_149 rfl (ol_in_vp g11) ?_
          refine ol_iload hX (pc := 150) dX4_looksAt_150 rfl ?_
          obtain ⟨y12, e13, h⟩ := ol_of_bd h
          refine ol_cSr (As := [.int (σ.1 8 x1.toNatClampNeg), .int v6]) hX (pc := 152) (wX4_has V (ol_WM V a σ) (σ.1 8 x1.toNatClampNeg) v6 y12 e13) lkX4_221 dcX4_has ⟨rfl, rfl⟩ ol_rr_X4_looksAt_X4_has (fun _ h => h) ⟨Nat.le_refl _, Nat.le_refl _⟩ (Nat.le_of_ble_eq_true rfl) dX4_looksAt_152 rfl ?_
          refine ol_if_ne hX (pc := 155) 163 dX4_looksAt_155 (by decide) (fun c14 => ?_) (fun c14 => ?_)
          · have h := ol_ifn c14 h
            refine ol_iload hX (pc := 163) dX4_looksAt_163 rfl ?_
            refine ol_istore hX (pc := 165) [some (.ref (a 0)), some (.int x1), some (.int x2), none, some (.int v4), some (.int v5), some (.int v6)] dX4_looksAt_165 (by decide) rfl rfl ?_
            refine ol_iinc hX (pc := 167) (v6 + 1) [some (.ref (a 0)), some (.int x1), some (.int x2), none, some (.int v4), some (.int v5), some (.int (v6 + 1))] dX4_looksAt_167 rfl (ol_k_iinc_1 _) (by decide) rfl rfl ?_
            refine ol_goto hX (pc := 170) 116 dX4_looksAt_170 (by decide) ?_
            exact ih v4 v5 (v6 + 1) σ h
          · have h := ol_ifp c14 h
            refine ol_iload hX (pc := 158) dX4_looksAt_158 rfl ?_
            refine ol_goto hX (pc := 160) 165 dX4_looksAt_160 (by decide) ?_
            refine ol_istore hX (pc := 165) [some (.ref (a 0)), some (.int x1), some (.int x2), none, some (.int v4), some (.int v6), some (.int v6)] dX4_looksAt_165 (by decide) rfl rfl ?_
            refine ol_iinc hX (pc := 167) (v6 + 1) [some (.ref (a 0)), some (.int x1), some (.int x2), none, some (.int v4), some (.int v6), some (.int (v6 + 1))] dX4_looksAt_167 rfl (ol_k_iinc_1 _) (by decide) rfl rfl ?_
            refine ol_goto hX (pc := 170) 116 dX4_looksAt_170 (by decide) ?_
            exact ih v4 v6 (v6 + 1) σ h
set_option maxHeartbeats 4000000 in
theorem wX4_looksAt_L97 {X : ol_Cx} {V : ol_Gh} {A : Nat → Prop} {a : Nat → Nat} {z : ol_Mm} (hX : ol_CX X V A cX4_looksAt RX4 "looksAt" 7 none) (x1 : Int32) (x2 : Int32)   (v4 : Int32) (σ : ol_Mm) (h : oX4_looksAt_L97 x1 x2 v4 σ = some z) : ol_G X V A true (ol_Pw none (ol_WM V a z)) ({ frames := 2, cells := 0, slots := 0, locals := 48 } : Room) 7 0 0 (ol_WM V a σ) 97 [some (.ref (a 0)), some (.int x1), some (.int x2), none, some (.int v4), none, none] [] := by
  unfold oX4_looksAt_L97 at h
  refine ol_aload_n hX (pc := 97) dX4_looksAt_97 rfl rfl ?_
  refine ol_mg26 hX (pc := 98) dX4_looksAt_98 ?_
  refine ol_iload_n hX (pc := 101) dX4_looksAt_101 rfl rfl ?_
  refine ol_iload_n hX (pc := 102) dX4_looksAt_102 rfl rfl ?_
  obtain ⟨y1, e2, h⟩ := ol_of_bd h
  refine ol_cSr (As := [.int x1, .int x2]) hX (pc := 103) (wX4_cell V (ol_WM V a σ) x1 x2 y1 e2) lkX4_224 dcX4_cell ⟨rfl, rfl⟩ ol_rr_X4_looksAt_X4_cell (fun _ h => h) ⟨Nat.le_refl _, Nat.le_refl _⟩ (Nat.le_of_ble_eq_true rfl) dX4_looksAt_103 rfl ?_
  refine ol_iload hX (pc := 106) dX4_looksAt_106 rfl ?_
  obtain ⟨g3, h⟩ := ol_of_og h
  refine ol_ms11 hX (pc := 108) dX4_looksAt_108 rfl (ol_in_vp g3) ?_
  refine ol_bipush hX (pc := 109) (-2) dX4_looksAt_109 ol_k_bipush_m2 ?_
  refine ol_istore hX (pc := 111) [some (.ref (a 0)), some (.int x1), some (.int x2), none, some (.int v4), some (.int (-2)), none] dX4_looksAt_111 (by decide) rfl rfl ?_
  refine ol_iconst hX (pc := 113) 0 dX4_looksAt_113 ol_k_iconst_0 ?_
  refine ol_istore hX (pc := 114) [some (.ref (a 0)), some (.int x1), some (.int x2), none, some (.int v4), some (.int (-2)), some (.int 0)] dX4_looksAt_114 (by decide) rfl rfl ?_
  exact wX4_looksAt_L116 hX x1 x2 ol_fuel v4 (-2) 0 (ol_ms σ 11 y1.toNatClampNeg v4) h
set_option maxHeartbeats 4000000 in
theorem wX4_looksAt_L57 {X : ol_Cx} {V : ol_Gh} {A : Nat → Prop} {a : Nat → Nat} {z : ol_Mm} (hX : ol_CX X V A cX4_looksAt RX4 "looksAt" 7 none) (x1 : Int32) (x2 : Int32)    : ∀ (n : Nat), ∀ (v4 : Int32) (v5 : Int32) (σ : ol_Mm), oX4_looksAt_L57 x1 x2 n v4 v5 σ = some z → ol_G X V A true (ol_Pw none (ol_WM V a z)) ({ frames := 2, cells := 0, slots := 0, locals := 48 } : Room) 7 0 0 (ol_WM V a σ) 57 [some (.ref (a 0)), some (.int x1), some (.int x2), none, some (.int v4), some (.int v5), none] [] := by
  intro n
  induction n with
  | zero =>
    intro v4 v5 σ h
    exact ol_no h
  | succ n ih =>
    intro v4 v5 σ h
    rw [oX4_looksAt_L57] at h
    refine ol_iload hX (pc := 57) dX4_looksAt_57 rfl ?_
    refine ol_if_lt hX (pc := 59) 97 dX4_looksAt_59 (by decide) (fun c5 => ?_) (fun c5 => ?_)
    · have h := ol_ifp c5 h
      refine ol_Gdrop 5 ?_
      exact wX4_looksAt_L97 hX x1 x2 v4 σ h
    · have h := ol_ifn c5 h
      refine ol_iload hX (pc := 62) dX4_looksAt_62 rfl ?_
      refine ol_iload_n hX (pc := 64) dX4_looksAt_64 rfl rfl ?_
      refine ol_aload_n hX (pc := 65) dX4_looksAt_65 rfl rfl ?_
      refine ol_mg6 hX (pc := 66) dX4_looksAt_66 ?_
      refine ol_iconst hX (pc := 69) 1 dX4_looksAt_69 ol_k_iconst_1 ?_
      refine ol_ml2 hX (pc := 70) dX4_looksAt_70 ol_tn_1 (ol_in_vp (by decide)) ?_
      refine ol_isub hX (pc := 71) dX4_looksAt_71 ?_
      refine ol_icmp_lt hX (pc := 72) 97 dX4_looksAt_72 (by decide) (fun c4 => ?_) (fun c4 => ?_)
      · have h := ol_ifp c4 h
        refine ol_Gdrop 5 ?_
        exact wX4_looksAt_L97 hX x1 x2 v4 σ h
      · have h := ol_ifn c4 h
        refine ol_iload hX (pc := 75) dX4_looksAt_75 rfl ?_
        refine ol_aload_n hX (pc := 77) dX4_looksAt_77 rfl rfl ?_
        refine ol_mg25 hX (pc := 78) dX4_looksAt_78 ?_
        refine ol_iload_n hX (pc := 81) dX4_looksAt_81 rfl rfl ?_
        refine ol_iload hX (pc := 82) dX4_looksAt_82 rfl ?_
        obtain ⟨y1, e2, h⟩ := ol_of_bd h
        refine ol_cSr (As := [.int x1, .int v5]) hX (pc := 84) (wX4_cell V (ol_WM V a σ) x1 v5 y1 e2) lkX4_224 dcX4_cell ⟨rfl, rfl⟩ ol_rr_X4_looksAt_X4_cell (fun _ h => h) ⟨Nat.le_refl _, Nat.le_refl _⟩ (Nat.le_of_ble_eq_true rfl) dX4_looksAt_84 rfl ?_
        obtain ⟨g3, h⟩ := ol_of_og h
        refine ol_ml10 hX (pc := 87) dX4_looksAt_87 rfl (ol_in_vp g3) ?_
        refine ol_ior hX (pc := 88) dX4_looksAt_88 ?_
        refine ol_istore hX (pc := 89) [some (.ref (a 0)), some (.int x1), some (.int x2), none, some (.int (v4 ||| (σ.1 10 y1.toNatClampNeg))), some (.int v5), none] dX4_looksAt_89 (by decide) rfl rfl ?_
        refine ol_iinc hX (pc := 91) (v5 + (-1)) [some (.ref (a 0)), some (.int x1), some (.int x2), none, some (.int (v4 ||| (σ.1 10 y1.toNatClampNeg))), some (.int (v5 + (-1))), none] dX4_looksAt_91 rfl (ol_k_iinc_m1 _) (by decide) rfl rfl ?_
        refine ol_goto hX (pc := 94) 57 dX4_looksAt_94 (by decide) ?_
        exact ih (v4 ||| (σ.1 10 y1.toNatClampNeg)) (v5 + (-1)) σ h
set_option maxHeartbeats 4000000 in
theorem wX4_looksAt_L5 {X : ol_Cx} {V : ol_Gh} {A : Nat → Prop} {a : Nat → Nat} {z : ol_Mm} (hX : ol_CX X V A cX4_looksAt RX4 "looksAt" 7 none) (x1 : Int32) (x2 : Int32)    : ∀ (n : Nat), ∀ (v3 : Int32) (v4 : Int32) (σ : ol_Mm), oX4_looksAt_L5 x1 x2 n v3 v4 σ = some z → ol_G X V A true (ol_Pw none (ol_WM V a z)) ({ frames := 2, cells := 0, slots := 0, locals := 48 } : Room) 7 0 0 (ol_WM V a σ) 5 [some (.ref (a 0)), some (.int x1), some (.int x2), some (.int v3), some (.int v4), none, none] [] := by
  intro n
  induction n with
  | zero =>
    intro v3 v4 σ h
    exact ol_no h
  | succ n ih =>
    intro v3 v4 σ h
    rw [oX4_looksAt_L5] at h
    refine ol_iload hX (pc := 5) dX4_looksAt_5 rfl ?_
    refine ol_bipush hX (pc := 7) 6 dX4_looksAt_7 ol_k_bipush_6 ?_
    refine ol_icmp_ge hX (pc := 9) 40 dX4_looksAt_9 (by decide) (fun c7 => ?_) (fun c7 => ?_)
    · have h := ol_ifp c7 h
      refine ol_aload_n hX (pc := 40) dX4_looksAt_40 rfl rfl ?_
      refine ol_mg25 hX (pc := 41) dX4_looksAt_41 ?_
      refine ol_iload_n hX (pc := 44) dX4_looksAt_44 rfl rfl ?_
      refine ol_iload_n hX (pc := 45) dX4_looksAt_45 rfl rfl ?_
      obtain ⟨y1, e2, h⟩ := ol_of_bd h
      refine ol_cSr (As := [.int x1, .int x2]) hX (pc := 46) (wX4_cell V (ol_WM V a σ) x1 x2 y1 e2) lkX4_224 dcX4_cell ⟨rfl, rfl⟩ ol_rr_X4_looksAt_X4_cell (fun _ h => h) ⟨Nat.le_refl _, Nat.le_refl _⟩ (Nat.le_of_ble_eq_true rfl) dX4_looksAt_46 rfl ?_
      refine ol_iload_n hX (pc := 49) dX4_looksAt_49 rfl rfl ?_
      obtain ⟨g3, h⟩ := ol_of_og h
      refine ol_ms10 hX (pc := 50) dX4_looksAt_50 rfl (ol_in_vp g3) ?_
      refine ol_iconst hX (pc := 51) 0 dX4_looksAt_51 ol_k_iconst_0 ?_
      refine ol_istore hX (pc := 52) [some (.ref (a 0)), some (.int x1), some (.int x2), some (.int v3), some (.int 0), none, none] dX4_looksAt_52 (by decide) rfl rfl ?_
      refine ol_iload_n hX (pc := 54) dX4_looksAt_54 rfl rfl ?_
      refine ol_istore hX (pc := 55) [some (.ref (a 0)), some (.int x1), some (.int x2), some (.int v3), some (.int 0), some (.int x2), none] dX4_looksAt_55 (by decide) rfl rfl ?_
      refine ol_Gdrop 3 ?_
      exact wX4_looksAt_L57 hX x1 x2 ol_fuel 0 x2 (ol_ms σ 10 y1.toNatClampNeg v3) h
    · have h := ol_ifn c7 h
      refine ol_iload_n hX (pc := 12) dX4_looksAt_12 rfl rfl ?_
      refine ol_aload_n hX (pc := 13) dX4_looksAt_13 rfl rfl ?_
      refine ol_iload_n hX (pc := 14) dX4_looksAt_14 rfl rfl ?_
      refine ol_iload hX (pc := 15) dX4_looksAt_15 rfl ?_
      refine ol_iload_n hX (pc := 17) dX4_looksAt_17 rfl rfl ?_
      obtain ⟨y4, e5, h⟩ := ol_of_bd h
      refine ol_cVr (As := [.int x1, .int v4, .int x2]) hX (pc := 18) (wX4_isSeen V a σ x1 v4 x2 y4 e5) lkX4_237 dcX4_isSeen ⟨rfl, rfl⟩ ol_rr_X4_looksAt_X4_isSeen 0 rfl rfl (fun _ h => h) ⟨Nat.le_refl _, Nat.le_refl _⟩ (Nat.le_of_ble_eq_true rfl) dX4_looksAt_18 rfl ?_
      refine ol_if_eq hX (pc := 21) 31 dX4_looksAt_21 (by decide) (fun c6 => ?_) (fun c6 => ?_)
      · have h := ol_ifp c6 h
        refine ol_iconst hX (pc := 31) 0 dX4_looksAt_31 ol_k_iconst_0 ?_
        refine ol_ior hX (pc := 32) dX4_looksAt_32 ?_
        refine ol_istore_n hX (pc := 33) [some (.ref (a 0)), some (.int x1), some (.int x2), some (.int (v3 ||| 0)), some (.int v4), none, none] dX4_looksAt_33 rfl (by decide) rfl rfl ?_
        refine ol_iinc hX (pc := 34) (v4 + 1) [some (.ref (a 0)), some (.int x1), some (.int x2), some (.int (v3 ||| 0)), some (.int (v4 + 1)), none, none] dX4_looksAt_34 rfl (ol_k_iinc_1 _) (by decide) rfl rfl ?_
        refine ol_goto hX (pc := 37) 5 dX4_looksAt_37 (by decide) ?_
        exact ih (v3 ||| 0) (v4 + 1) σ h
      · have h := ol_ifn c6 h
        refine ol_iconst hX (pc := 24) 1 dX4_looksAt_24 ol_k_iconst_1 ?_
        refine ol_iload hX (pc := 25) dX4_looksAt_25 rfl ?_
        refine ol_ishl hX (pc := 27) dX4_looksAt_27 ?_
        refine ol_goto hX (pc := 28) 32 dX4_looksAt_28 (by decide) ?_
        refine ol_ior hX (pc := 32) dX4_looksAt_32 ?_
        refine ol_istore_n hX (pc := 33) [some (.ref (a 0)), some (.int x1), some (.int x2), some (.int (v3 ||| ((1 : Int32) <<< (v4 &&& 31)))), some (.int v4), none, none] dX4_looksAt_33 rfl (by decide) rfl rfl ?_
        refine ol_iinc hX (pc := 34) (v4 + 1) [some (.ref (a 0)), some (.int x1), some (.int x2), some (.int (v3 ||| ((1 : Int32) <<< (v4 &&& 31)))), some (.int (v4 + 1)), none, none] dX4_looksAt_34 rfl (ol_k_iinc_1 _) (by decide) rfl rfl ?_
        refine ol_goto hX (pc := 37) 5 dX4_looksAt_37 (by decide) ?_
        exact ih (v3 ||| ((1 : Int32) <<< (v4 &&& 31))) (v4 + 1) σ h
set_option maxHeartbeats 4000000 in
theorem wX4_looksAt (V : ol_Gh) (a : Nat → Nat) (σ : ol_Mm) (x1 : Int32) (x2 : Int32)  (z : ol_Mm) (h : oX4_looksAt σ x1 x2 = some z) : ol_Mt V yX4_looksAt cX4_looksAt 7 none ({ frames := 2, cells := 0, slots := 0, locals := 48 } : Room) true [.ref (a 0), .int x1, .int x2] (ol_WM V a σ) (ol_Pw none (ol_WM V a z)) := by
  refine ol_MtOf (L0 := [some (.ref (a 0)), some (.int x1), some (.int x2), none, none, none, none]) (by decide) (Nat.le_of_ble_eq_true rfl) rfl (fun X A hX => ?_)
  unfold oX4_looksAt at h
  refine ol_iconst hX (pc := 0) 0 dX4_looksAt_0 ol_k_iconst_0 ?_
  refine ol_istore_n hX (pc := 1) [some (.ref (a 0)), some (.int x1), some (.int x2), some (.int 0), none, none, none] dX4_looksAt_1 rfl (by decide) rfl rfl ?_
  refine ol_iconst hX (pc := 2) 0 dX4_looksAt_2 ol_k_iconst_0 ?_
  refine ol_istore hX (pc := 3) [some (.ref (a 0)), some (.int x1), some (.int x2), some (.int 0), some (.int 0), none, none] dX4_looksAt_3 (by decide) rfl rfl ?_
  exact wX4_looksAt_L5 hX x1 x2 ol_fuel 0 0 σ h
set_option maxHeartbeats 4000000 in
theorem wX4_laysPass_L91 {X : ol_Cx} {V : ol_Gh} {A : Nat → Prop} {a : Nat → Nat} {z : ol_Mm} (hX : ol_CX X V A cX4_laysPass RX4 "laysPass" 4 none) (x1 : Int32)  (k34 : Int32 → ol_Mm → Option ol_Mm) (hk34 : ∀ (v2 : Int32) (σ : ol_Mm), k34 v2 σ = some z → ol_G X V A true (ol_Pw none (ol_WM V a z)) ({ frames := 3, cells := 0, slots := 0, locals := 77 } : Room) 4 0 0 (ol_WM V a σ) 34 [some (.ref (a 0)), none, some (.int v2), none] [])  : ∀ (n : Nat), ∀ (v2 : Int32) (v3 : Int32) (σ : ol_Mm), oX4_laysPass_L91 x1 k34 n v2 v3 σ = some z → ol_G X V A true (ol_Pw none (ol_WM V a z)) ({ frames := 3, cells := 0, slots := 0, locals := 77 } : Room) 4 0 0 (ol_WM V a σ) 91 [some (.ref (a 0)), none, some (.int v2), some (.int v3)] [] := by
  intro n
  induction n with
  | zero =>
    intro v2 v3 σ h
    exact ol_no h
  | succ n ih =>
    intro v2 v3 σ h
    rw [oX4_laysPass_L91] at h
    refine ol_iload_n hX (pc := 91) dX4_laysPass_91 rfl rfl ?_
    refine ol_aload_n hX (pc := 92) dX4_laysPass_92 rfl rfl ?_
    refine ol_mg6 hX (pc := 93) dX4_laysPass_93 ?_
    refine ol_iconst hX (pc := 96) 3 dX4_laysPass_96 ol_k_iconst_3 ?_
    refine ol_ml2 hX (pc := 97) dX4_laysPass_97 ol_tn_3 (ol_in_vp (by decide)) ?_
    refine ol_icmp_ge hX (pc := 98) 113 dX4_laysPass_98 (by decide) (fun c3 => ?_) (fun c3 => ?_)
    · have h := ol_ifp c3 h
      refine ol_iinc hX (pc := 113) (v2 + 1) [some (.ref (a 0)), none, some (.int (v2 + 1)), some (.int v3)] dX4_laysPass_113 rfl (ol_k_iinc_1 _) (by decide) rfl rfl ?_
      refine ol_goto hX (pc := 116) 34 dX4_laysPass_116 (by decide) ?_
      refine ol_Gdrop 3 ?_
      exact hk34 (v2 + 1) σ h
    · have h := ol_ifn c3 h
      refine ol_aload_n hX (pc := 101) dX4_laysPass_101 rfl rfl ?_
      refine ol_iload_n hX (pc := 102) dX4_laysPass_102 rfl rfl ?_
      refine ol_iload_n hX (pc := 103) dX4_laysPass_103 rfl rfl ?_
      obtain ⟨y1, e2, h⟩ := ol_of_bd h
      refine ol_cVw (As := [.int v3, .int v2]) hX (pc := 104) (wX4_looksAt V a σ v3 v2 y1 e2) lkX4_247 dcX4_looksAt ol_rr_X4_laysPass_X4_looksAt 0 rfl rfl ⟨Nat.le_refl _, Nat.le_refl _⟩ (Nat.le_of_ble_eq_true rfl) dX4_laysPass_104 rfl ?_
      refine ol_iinc hX (pc := 107) (v3 + 1) [some (.ref (a 0)), none, some (.int v2), some (.int (v3 + 1))] dX4_laysPass_107 rfl (ol_k_iinc_1 _) (by decide) rfl rfl ?_
      refine ol_goto hX (pc := 110) 91 dX4_laysPass_110 (by decide) ?_
      exact ih v2 (v3 + 1) y1 h
set_option maxHeartbeats 4000000 in
theorem wX4_laysPass_L67 {X : ol_Cx} {V : ol_Gh} {A : Nat → Prop} {a : Nat → Nat} {z : ol_Mm} (hX : ol_CX X V A cX4_laysPass RX4 "laysPass" 4 none) (x1 : Int32)  (k34 : Int32 → ol_Mm → Option ol_Mm) (hk34 : ∀ (v2 : Int32) (σ : ol_Mm), k34 v2 σ = some z → ol_G X V A true (ol_Pw none (ol_WM V a z)) ({ frames := 3, cells := 0, slots := 0, locals := 77 } : Room) 4 0 0 (ol_WM V a σ) 34 [some (.ref (a 0)), none, some (.int v2), none] [])  : ∀ (n : Nat), ∀ (v2 : Int32) (v3 : Int32) (σ : ol_Mm), oX4_laysPass_L67 x1 k34 n v2 v3 σ = some z → ol_G X V A true (ol_Pw none (ol_WM V a z)) ({ frames := 3, cells := 0, slots := 0, locals := 77 } : Room) 4 0 0 (ol_WM V a σ) 67 [some (.ref (a 0)), none, some (.int v2), some (.int v3)] [] := by
  intro n
  induction n with
  | zero =>
    intro v2 v3 σ h
    exact ol_no h
  | succ n ih =>
    intro v2 v3 σ h
    rw [oX4_laysPass_L67] at h
    refine ol_iload_n hX (pc := 67) dX4_laysPass_67 rfl rfl ?_
    refine ol_aload_n hX (pc := 68) dX4_laysPass_68 rfl rfl ?_
    refine ol_mg6 hX (pc := 69) dX4_laysPass_69 ?_
    refine ol_iconst hX (pc := 72) 3 dX4_laysPass_72 ol_k_iconst_3 ?_
    refine ol_ml2 hX (pc := 73) dX4_laysPass_73 ol_tn_3 (ol_in_vp (by decide)) ?_
    refine ol_icmp_ge hX (pc := 74) 89 dX4_laysPass_74 (by decide) (fun c3 => ?_) (fun c3 => ?_)
    · have h := ol_ifp c3 h
      refine ol_iconst hX (pc := 89) 0 dX4_laysPass_89 ol_k_iconst_0 ?_
      refine ol_istore_n hX (pc := 90) [some (.ref (a 0)), none, some (.int v2), some (.int 0)] dX4_laysPass_90 rfl (by decide) rfl rfl ?_
      exact wX4_laysPass_L91 hX x1 k34 hk34 ol_fuel v2 0 σ h
    · have h := ol_ifn c3 h
      refine ol_aload_n hX (pc := 77) dX4_laysPass_77 rfl rfl ?_
      refine ol_iload_n hX (pc := 78) dX4_laysPass_78 rfl rfl ?_
      refine ol_iload_n hX (pc := 79) dX4_laysPass_79 rfl rfl ?_
      obtain ⟨y1, e2, h⟩ := ol_of_bd h
      refine ol_cVw (As := [.int v3, .int v2]) hX (pc := 80) (wX4_dipsAt V a σ v3 v2 y1 e2) lkX4_244 dcX4_dipsAt ol_rr_X4_laysPass_X4_dipsAt 0 rfl rfl ⟨Nat.le_refl _, Nat.le_refl _⟩ (Nat.le_of_ble_eq_true rfl) dX4_laysPass_80 rfl ?_
      refine ol_iinc hX (pc := 83) (v3 + 1) [some (.ref (a 0)), none, some (.int v2), some (.int (v3 + 1))] dX4_laysPass_83 rfl (ol_k_iinc_1 _) (by decide) rfl rfl ?_
      refine ol_goto hX (pc := 86) 67 dX4_laysPass_86 (by decide) ?_
      exact ih v2 (v3 + 1) y1 h
set_option maxHeartbeats 4000000 in
theorem wX4_laysPass_L43 {X : ol_Cx} {V : ol_Gh} {A : Nat → Prop} {a : Nat → Nat} {z : ol_Mm} (hX : ol_CX X V A cX4_laysPass RX4 "laysPass" 4 none) (x1 : Int32)  (k34 : Int32 → ol_Mm → Option ol_Mm) (hk34 : ∀ (v2 : Int32) (σ : ol_Mm), k34 v2 σ = some z → ol_G X V A true (ol_Pw none (ol_WM V a z)) ({ frames := 3, cells := 0, slots := 0, locals := 77 } : Room) 4 0 0 (ol_WM V a σ) 34 [some (.ref (a 0)), none, some (.int v2), none] [])  : ∀ (n : Nat), ∀ (v2 : Int32) (v3 : Int32) (σ : ol_Mm), oX4_laysPass_L43 x1 k34 n v2 v3 σ = some z → ol_G X V A true (ol_Pw none (ol_WM V a z)) ({ frames := 3, cells := 0, slots := 0, locals := 77 } : Room) 4 0 0 (ol_WM V a σ) 43 [some (.ref (a 0)), none, some (.int v2), some (.int v3)] [] := by
  intro n
  induction n with
  | zero =>
    intro v2 v3 σ h
    exact ol_no h
  | succ n ih =>
    intro v2 v3 σ h
    rw [oX4_laysPass_L43] at h
    refine ol_iload_n hX (pc := 43) dX4_laysPass_43 rfl rfl ?_
    refine ol_aload_n hX (pc := 44) dX4_laysPass_44 rfl rfl ?_
    refine ol_mg6 hX (pc := 45) dX4_laysPass_45 ?_
    refine ol_iconst hX (pc := 48) 3 dX4_laysPass_48 ol_k_iconst_3 ?_
    refine ol_ml2 hX (pc := 49) dX4_laysPass_49 ol_tn_3 (ol_in_vp (by decide)) ?_
    refine ol_icmp_ge hX (pc := 50) 65 dX4_laysPass_50 (by decide) (fun c3 => ?_) (fun c3 => ?_)
    · have h := ol_ifp c3 h
      refine ol_iconst hX (pc := 65) 0 dX4_laysPass_65 ol_k_iconst_0 ?_
      refine ol_istore_n hX (pc := 66) [some (.ref (a 0)), none, some (.int v2), some (.int 0)] dX4_laysPass_66 rfl (by decide) rfl rfl ?_
      exact wX4_laysPass_L67 hX x1 k34 hk34 ol_fuel v2 0 σ h
    · have h := ol_ifn c3 h
      refine ol_aload_n hX (pc := 53) dX4_laysPass_53 rfl rfl ?_
      refine ol_iload_n hX (pc := 54) dX4_laysPass_54 rfl rfl ?_
      refine ol_iload_n hX (pc := 55) dX4_laysPass_55 rfl rfl ?_
      obtain ⟨y1, e2, h⟩ := ol_of_bd h
      refine ol_cVw (As := [.int v3, .int v2]) hX (pc := 56) (wX4_drivesAt V a σ v3 v2 y1 e2) lkX4_240 dcX4_drivesAt ol_rr_X4_laysPass_X4_drivesAt 0 rfl rfl ⟨Nat.le_refl _, Nat.le_refl _⟩ (Nat.le_of_ble_eq_true rfl) dX4_laysPass_56 rfl ?_
      refine ol_iinc hX (pc := 59) (v3 + 1) [some (.ref (a 0)), none, some (.int v2), some (.int (v3 + 1))] dX4_laysPass_59 rfl (ol_k_iinc_1 _) (by decide) rfl rfl ?_
      refine ol_goto hX (pc := 62) 43 dX4_laysPass_62 (by decide) ?_
      exact ih v2 (v3 + 1) y1 h
set_option maxHeartbeats 4000000 in
theorem wX4_laysPass_L34 {X : ol_Cx} {V : ol_Gh} {A : Nat → Prop} {a : Nat → Nat} {z : ol_Mm} (hX : ol_CX X V A cX4_laysPass RX4 "laysPass" 4 none) (x1 : Int32)    : ∀ (n : Nat), ∀ (v2 : Int32) (σ : ol_Mm), oX4_laysPass_L34 x1 n v2 σ = some z → ol_G X V A true (ol_Pw none (ol_WM V a z)) ({ frames := 3, cells := 0, slots := 0, locals := 77 } : Room) 4 0 0 (ol_WM V a σ) 34 [some (.ref (a 0)), none, some (.int v2), none] [] := by
  intro n
  induction n with
  | zero =>
    intro v2 σ h
    exact ol_no h
  | succ n ih =>
    intro v2 σ h
    rw [oX4_laysPass_L34] at h
    refine ol_iload_n hX (pc := 34) dX4_laysPass_34 rfl rfl ?_
    refine ol_sipush hX (pc := 35) 401 dX4_laysPass_35 ol_k_sipush_401 ?_
    refine ol_icmp_ge hX (pc := 38) 119 dX4_laysPass_38 (by decide) (fun c1 => ?_) (fun c1 => ?_)
    · have h := ol_ifp c1 h
      have h := ol_of_some h
      subst h
      exact ol_vret hX (pc := 119) dX4_laysPass_119 ⟨rfl, rfl⟩ ⟨Nat.le_refl _, Nat.le_refl _⟩
    · have h := ol_ifn c1 h
      refine ol_iconst hX (pc := 41) 0 dX4_laysPass_41 ol_k_iconst_0 ?_
      refine ol_istore_n hX (pc := 42) [some (.ref (a 0)), none, some (.int v2), some (.int 0)] dX4_laysPass_42 rfl (by decide) rfl rfl ?_
      exact wX4_laysPass_L43 hX x1 (oX4_laysPass_L34 x1 n) ih ol_fuel v2 0 σ h
set_option maxHeartbeats 4000000 in
theorem wX4_laysPass_L12 {X : ol_Cx} {V : ol_Gh} {A : Nat → Prop} {a : Nat → Nat} {z : ol_Mm} (hX : ol_CX X V A cX4_laysPass RX4 "laysPass" 4 none) (x1 : Int32)    : ∀ (n : Nat), ∀ (v2 : Int32) (σ : ol_Mm), oX4_laysPass_L12 x1 n v2 σ = some z → ol_G X V A true (ol_Pw none (ol_WM V a z)) ({ frames := 3, cells := 0, slots := 0, locals := 77 } : Room) 4 0 0 (ol_WM V a σ) 12 [some (.ref (a 0)), none, some (.int v2), none] [] := by
  intro n
  induction n with
  | zero =>
    intro v2 σ h
    exact ol_no h
  | succ n ih =>
    intro v2 σ h
    rw [oX4_laysPass_L12] at h
    refine ol_iload_n hX (pc := 12) dX4_laysPass_12 rfl rfl ?_
    refine ol_sipush hX (pc := 13) 2766 dX4_laysPass_13 ol_k_sipush_2766 ?_
    refine ol_icmp_ge hX (pc := 16) 32 dX4_laysPass_16 (by decide) (fun c2 => ?_) (fun c2 => ?_)
    · have h := ol_ifp c2 h
      refine ol_iconst hX (pc := 32) 0 dX4_laysPass_32 ol_k_iconst_0 ?_
      refine ol_istore_n hX (pc := 33) [some (.ref (a 0)), none, some (.int 0), none] dX4_laysPass_33 rfl (by decide) rfl rfl ?_
      exact wX4_laysPass_L34 hX x1 ol_fuel 0 σ h
    · have h := ol_ifn c2 h
      refine ol_aload_n hX (pc := 19) dX4_laysPass_19 rfl rfl ?_
      refine ol_mg28 hX (pc := 20) dX4_laysPass_20 ?_
      refine ol_iload_n hX (pc := 23) dX4_laysPass_23 rfl rfl ?_
      refine ol_iconst hX (pc := 24) 0 dX4_laysPass_24 ol_k_iconst_0 ?_
      obtain ⟨g1, h⟩ := ol_of_og h
      refine ol_ms13 hX (pc := 25) dX4_laysPass_25 rfl (ol_in_vp g1) ?_
      refine ol_iinc hX (pc := 26) (v2 + 1) [some (.ref (a 0)), none, some (.int (v2 + 1)), none] dX4_laysPass_26 rfl (ol_k_iinc_1 _) (by decide) rfl rfl ?_
      refine ol_goto hX (pc := 29) 12 dX4_laysPass_29 (by decide) ?_
      exact ih (v2 + 1) (ol_ms σ 13 v2.toNatClampNeg 0) h
set_option maxHeartbeats 4000000 in
theorem wX4_laysPass (V : ol_Gh) (a : Nat → Nat) (σ : ol_Mm) (x1 : Int32)  (z : ol_Mm) (h : oX4_laysPass σ x1 = some z) : ol_Mt V yX4_laysPass cX4_laysPass 4 none ({ frames := 3, cells := 0, slots := 0, locals := 77 } : Room) true [.ref (a 0), .int x1] (ol_WM V a σ) (ol_Pw none (ol_WM V a z)) := by
  refine ol_MtOf (L0 := [some (.ref (a 0)), some (.int x1), none, none]) (by decide) (Nat.le_of_ble_eq_true rfl) rfl (fun X A hX => ?_)
  unfold oX4_laysPass at h
  refine ol_aload_n hX (pc := 0) dX4_laysPass_0 rfl rfl ?_
  refine ol_iload_n hX (pc := 1) dX4_laysPass_1 rfl rfl ?_
  refine ol_mp23 hX (pc := 2) dX4_laysPass_2 ?_
  refine ol_aload_n hX (pc := 5) dX4_laysPass_5 rfl rfl ?_
  refine ol_iconst hX (pc := 6) 0 dX4_laysPass_6 ol_k_iconst_0 ?_
  refine ol_mp29 hX (pc := 7) dX4_laysPass_7 ?_
  refine ol_iconst hX (pc := 10) 0 dX4_laysPass_10 ol_k_iconst_0 ?_
  refine ol_istore_n hX (pc := 11) [some (.ref (a 0)), some (.int x1), some (.int 0), none] dX4_laysPass_11 rfl (by decide) rfl rfl ?_
  refine ol_Gdrop 1 ?_
  exact wX4_laysPass_L12 hX x1 ol_fuel 0 (ol_ms (ol_ms σ 0 23 x1) 0 29 0) h
set_option maxHeartbeats 4000000 in
theorem wX4_passes_L2 {X : ol_Cx} {V : ol_Gh} {A : Nat → Prop} {a : Nat → Nat} {z : ol_Mm} (hX : ol_CX X V A cX4_passes RX4 "passes" 4 none) (x1 : Int32) (x2 : Int32)    : ∀ (n : Nat), ∀ (v3 : Int32) (σ : ol_Mm), oX4_passes_L2 x1 x2 n v3 σ = some z → ol_G X V A true (ol_Pw none (ol_WM V a z)) ({ frames := 4, cells := 0, slots := 0, locals := 100 } : Room) 4 0 0 (ol_WM V a σ) 2 [some (.ref (a 0)), some (.int x1), some (.int x2), some (.int v3)] [] := by
  intro n
  induction n with
  | zero =>
    intro v3 σ h
    exact ol_no h
  | succ n ih =>
    intro v3 σ h
    rw [oX4_passes_L2] at h
    refine ol_iload_n hX (pc := 2) dX4_passes_2 rfl rfl ?_
    refine ol_aload_n hX (pc := 3) dX4_passes_3 rfl rfl ?_
    refine ol_mg6 hX (pc := 4) dX4_passes_4 ?_
    refine ol_iconst hX (pc := 7) 3 dX4_passes_7 ol_k_iconst_3 ?_
    refine ol_ml2 hX (pc := 8) dX4_passes_8 ol_tn_3 (ol_in_vp (by decide)) ?_
    refine ol_icmp_ge hX (pc := 9) 30 dX4_passes_9 (by decide) (fun c6 => ?_) (fun c6 => ?_)
    · have h := ol_ifp c6 h
      refine ol_aload_n hX (pc := 30) dX4_passes_30 rfl rfl ?_
      refine ol_iload_n hX (pc := 31) dX4_passes_31 rfl rfl ?_
      obtain ⟨y1, e2, h⟩ := ol_of_bd h
      refine ol_cVw (As := [.int x2]) hX (pc := 32) (wX4_laysPass V a σ x2 y1 e2) lkX4_253 dcX4_laysPass ol_rr_X4_passes_X4_laysPass 0 rfl rfl ⟨Nat.le_refl _, Nat.le_refl _⟩ (Nat.le_of_ble_eq_true rfl) dX4_passes_32 rfl ?_
      have h := ol_of_some h
      subst h
      exact ol_vret hX (pc := 35) dX4_passes_35 ⟨rfl, rfl⟩ ⟨Nat.le_refl _, Nat.le_refl _⟩
    · have h := ol_ifn c6 h
      refine ol_aload_n hX (pc := 12) dX4_passes_12 rfl rfl ?_
      refine ol_mg22 hX (pc := 13) dX4_passes_13 ?_
      refine ol_iload_n hX (pc := 16) dX4_passes_16 rfl rfl ?_
      refine ol_aload_n hX (pc := 17) dX4_passes_17 rfl rfl ?_
      refine ol_iload_n hX (pc := 18) dX4_passes_18 rfl rfl ?_
      refine ol_iload_n hX (pc := 19) dX4_passes_19 rfl rfl ?_
      obtain ⟨y3, e4, h⟩ := ol_of_bd h
      refine ol_cVr (As := [.int v3, .int x1]) hX (pc := 20) (wX4_wordOf V a σ v3 x1 y3 e4) lkX4_250 dcX4_wordOf ⟨rfl, rfl⟩ ol_rr_X4_passes_X4_wordOf 0 rfl rfl (fun _ h => h) ⟨Nat.le_refl _, Nat.le_refl _⟩ (Nat.le_of_ble_eq_true rfl) dX4_passes_20 rfl ?_
      obtain ⟨g5, h⟩ := ol_of_og h
      refine ol_ms8 hX (pc := 23) dX4_passes_23 rfl (ol_in_vp g5) ?_
      refine ol_iinc hX (pc := 24) (v3 + 1) [some (.ref (a 0)), some (.int x1), some (.int x2), some (.int (v3 + 1))] dX4_passes_24 rfl (ol_k_iinc_1 _) (by decide) rfl rfl ?_
      refine ol_goto hX (pc := 27) 2 dX4_passes_27 (by decide) ?_
      exact ih (v3 + 1) (ol_ms σ 8 v3.toNatClampNeg y3) h
set_option maxHeartbeats 4000000 in
theorem wX4_passes (V : ol_Gh) (a : Nat → Nat) (σ : ol_Mm) (x1 : Int32) (x2 : Int32)  (z : ol_Mm) (h : oX4_passes σ x1 x2 = some z) : ol_Mt V yX4_passes cX4_passes 4 none ({ frames := 4, cells := 0, slots := 0, locals := 100 } : Room) true [.ref (a 0), .int x1, .int x2] (ol_WM V a σ) (ol_Pw none (ol_WM V a z)) := by
  refine ol_MtOf (L0 := [some (.ref (a 0)), some (.int x1), some (.int x2), none]) (by decide) (Nat.le_of_ble_eq_true rfl) rfl (fun X A hX => ?_)
  unfold oX4_passes at h
  refine ol_iconst hX (pc := 0) 0 dX4_passes_0 ol_k_iconst_0 ?_
  refine ol_istore_n hX (pc := 1) [some (.ref (a 0)), some (.int x1), some (.int x2), some (.int 0)] dX4_passes_1 rfl (by decide) rfl rfl ?_
  exact wX4_passes_L2 hX x1 x2 ol_fuel 0 σ h
set_option maxHeartbeats 4000000 in
theorem wX4_drives (V : ol_Gh) (a : Nat → Nat) (σ : ol_Mm) (x1 : Int32) (x2 : Int32) (x3 : Int32) (x4 : Int32)  (z : Int32 × ol_Mm) (h : oX4_drives σ x1 x2 x3 x4 = some z) : ol_Mt V yX4_drives cX4_drives 5 (some .int) ({ frames := 5, cells := 0, slots := 0, locals := 123 } : Room) true [.ref (a 0), .int x1, .int x2, .int x3, .int x4] (ol_WM V a σ) (ol_Pw (some (.int z.1)) (ol_WM V a z.2)) := by
  refine ol_MtOf (L0 := [some (.ref (a 0)), some (.int x1), some (.int x2), some (.int x3), some (.int x4)]) (by decide) (Nat.le_of_ble_eq_true rfl) rfl (fun X A hX => ?_)
  unfold oX4_drives at h
  refine ol_aload_n hX (pc := 0) dX4_drives_0 rfl rfl ?_
  refine ol_aload_n hX (pc := 1) dX4_drives_1 rfl rfl ?_
  refine ol_aload_n hX (pc := 2) dX4_drives_2 rfl rfl ?_
  refine ol_iload_n hX (pc := 3) dX4_drives_3 rfl rfl ?_
  obtain ⟨y1, e2, h⟩ := ol_of_bd h
  refine ol_cVr (As := [.int x3]) hX (pc := 4) (wX4_isBoard V a σ x3 y1 e2) lkX4_268 dcX4_isBoard ⟨rfl, rfl⟩ ol_rr_X4_drives_X4_isBoard 0 rfl rfl (fun _ h => h) ⟨Nat.le_refl _, Nat.le_refl _⟩ (Nat.le_of_ble_eq_true rfl) dX4_drives_4 rfl ?_
  refine ol_iload_n hX (pc := 7) dX4_drives_7 rfl rfl ?_
  refine ol_iload_n hX (pc := 8) dX4_drives_8 rfl rfl ?_
  refine ol_iload hX (pc := 9) dX4_drives_9 rfl ?_
  obtain ⟨y3, e4, h⟩ := ol_of_bd h
  refine ol_cVr (As := [.int y1, .int x1, .int x2, .int x4]) hX (pc := 11) (wX4_passWhy V a σ y1 x1 x2 x4 y3 e4) lkX4_271 dcX4_passWhy ⟨rfl, rfl⟩ ol_rr_X4_drives_X4_passWhy 0 rfl rfl (fun _ h => h) ⟨Nat.le_refl _, Nat.le_refl _⟩ (Nat.le_of_ble_eq_true rfl) dX4_drives_11 rfl ?_
  obtain ⟨y5, e6, h⟩ := ol_of_bd h
  refine ol_cVw (As := [.int y3]) hX (pc := 14) (wX4_isRefused V a σ y3 y5 e6) lkX4_180 dcX4_isRefused ol_rr_X4_drives_X4_isRefused 0 rfl rfl ⟨Nat.le_refl _, Nat.le_refl _⟩ (Nat.le_of_ble_eq_true rfl) dX4_drives_14 rfl ?_
  refine ol_if_eq hX (pc := 17) 22 dX4_drives_17 (by decide) (fun c12 => ?_) (fun c12 => ?_)
  · have h := ol_ifp c12 h
    refine ol_aload_n hX (pc := 22) dX4_drives_22 rfl rfl ?_
    refine ol_iload_n hX (pc := 23) dX4_drives_23 rfl rfl ?_
    refine ol_iload_n hX (pc := 24) dX4_drives_24 rfl rfl ?_
    obtain ⟨y7, e8, h⟩ := ol_of_bd h
    refine ol_cVw (As := [.int x1, .int x2]) hX (pc := 25) (wX4_passes V a y5.2 x1 x2 y7 e8) lkX4_275 dcX4_passes ol_rr_X4_drives_X4_passes 0 rfl rfl ⟨Nat.le_refl _, Nat.le_refl _⟩ (Nat.le_of_ble_eq_true rfl) dX4_drives_25 rfl ?_
    refine ol_aload_n hX (pc := 28) dX4_drives_28 rfl rfl ?_
    refine ol_mg24 hX (pc := 29) dX4_drives_29 ?_
    refine ol_iload_n hX (pc := 32) dX4_drives_32 rfl rfl ?_
    refine ol_iload hX (pc := 33) dX4_drives_33 rfl ?_
    obtain ⟨y9, e10, h⟩ := ol_of_bd h
    refine ol_cSr (As := [.int x3, .int x4]) hX (pc := 35) (wX4_cell V (ol_WM V a y7) x3 x4 y9 e10) lkX4_224 dcX4_cell ⟨rfl, rfl⟩ ol_rr_X4_drives_X4_cell (fun _ h => h) ⟨Nat.le_refl _, Nat.le_refl _⟩ (Nat.le_of_ble_eq_true rfl) dX4_drives_35 rfl ?_
    obtain ⟨g11, h⟩ := ol_of_og h
    refine ol_ml9 hX (pc := 38) dX4_drives_38 rfl (ol_in_vp g11) ?_
    have h := ol_of_some h
    subst h
    exact ol_iret hX (pc := 39) dX4_drives_39 ⟨rfl, rfl⟩ ⟨Nat.le_refl _, Nat.le_refl _⟩
  · have h := ol_ifn c12 h
    refine ol_iconst hX (pc := 20) (-1) dX4_drives_20 ol_k_iconst_m1 ?_
    have h := ol_of_some h
    subst h
    exact ol_iret hX (pc := 21) dX4_drives_21 ⟨rfl, rfl⟩ ⟨Nat.le_refl _, Nat.le_refl _⟩
set_option maxHeartbeats 4000000 in
theorem wX4_seen (V : ol_Gh) (a : Nat → Nat) (σ : ol_Mm) (x1 : Int32) (x2 : Int32) (x3 : Int32) (x4 : Int32)  (z : Int32 × ol_Mm) (h : oX4_seen σ x1 x2 x3 x4 = some z) : ol_Mt V yX4_seen cX4_seen 5 (some .int) ({ frames := 5, cells := 0, slots := 0, locals := 123 } : Room) true [.ref (a 0), .int x1, .int x2, .int x3, .int x4] (ol_WM V a σ) (ol_Pw (some (.int z.1)) (ol_WM V a z.2)) := by
  refine ol_MtOf (L0 := [some (.ref (a 0)), some (.int x1), some (.int x2), some (.int x3), some (.int x4)]) (by decide) (Nat.le_of_ble_eq_true rfl) rfl (fun X A hX => ?_)
  unfold oX4_seen at h
  refine ol_aload_n hX (pc := 0) dX4_seen_0 rfl rfl ?_
  refine ol_aload_n hX (pc := 1) dX4_seen_1 rfl rfl ?_
  refine ol_aload_n hX (pc := 2) dX4_seen_2 rfl rfl ?_
  refine ol_iload_n hX (pc := 3) dX4_seen_3 rfl rfl ?_
  obtain ⟨y1, e2, h⟩ := ol_of_bd h
  refine ol_cVr (As := [.int x3]) hX (pc := 4) (wX4_isBoard V a σ x3 y1 e2) lkX4_268 dcX4_isBoard ⟨rfl, rfl⟩ ol_rr_X4_seen_X4_isBoard 0 rfl rfl (fun _ h => h) ⟨Nat.le_refl _, Nat.le_refl _⟩ (Nat.le_of_ble_eq_true rfl) dX4_seen_4 rfl ?_
  refine ol_iload_n hX (pc := 7) dX4_seen_7 rfl rfl ?_
  refine ol_iload_n hX (pc := 8) dX4_seen_8 rfl rfl ?_
  refine ol_iload hX (pc := 9) dX4_seen_9 rfl ?_
  obtain ⟨y3, e4, h⟩ := ol_of_bd h
  refine ol_cVr (As := [.int y1, .int x1, .int x2, .int x4]) hX (pc := 11) (wX4_passWhy V a σ y1 x1 x2 x4 y3 e4) lkX4_271 dcX4_passWhy ⟨rfl, rfl⟩ ol_rr_X4_seen_X4_passWhy 0 rfl rfl (fun _ h => h) ⟨Nat.le_refl _, Nat.le_refl _⟩ (Nat.le_of_ble_eq_true rfl) dX4_seen_11 rfl ?_
  obtain ⟨y5, e6, h⟩ := ol_of_bd h
  refine ol_cVw (As := [.int y3]) hX (pc := 14) (wX4_isRefused V a σ y3 y5 e6) lkX4_180 dcX4_isRefused ol_rr_X4_seen_X4_isRefused 0 rfl rfl ⟨Nat.le_refl _, Nat.le_refl _⟩ (Nat.le_of_ble_eq_true rfl) dX4_seen_14 rfl ?_
  refine ol_if_eq hX (pc := 17) 22 dX4_seen_17 (by decide) (fun c12 => ?_) (fun c12 => ?_)
  · have h := ol_ifp c12 h
    refine ol_aload_n hX (pc := 22) dX4_seen_22 rfl rfl ?_
    refine ol_iload_n hX (pc := 23) dX4_seen_23 rfl rfl ?_
    refine ol_iload_n hX (pc := 24) dX4_seen_24 rfl rfl ?_
    obtain ⟨y7, e8, h⟩ := ol_of_bd h
    refine ol_cVw (As := [.int x1, .int x2]) hX (pc := 25) (wX4_passes V a y5.2 x1 x2 y7 e8) lkX4_275 dcX4_passes ol_rr_X4_seen_X4_passes 0 rfl rfl ⟨Nat.le_refl _, Nat.le_refl _⟩ (Nat.le_of_ble_eq_true rfl) dX4_seen_25 rfl ?_
    refine ol_aload_n hX (pc := 28) dX4_seen_28 rfl rfl ?_
    refine ol_mg25 hX (pc := 29) dX4_seen_29 ?_
    refine ol_iload_n hX (pc := 32) dX4_seen_32 rfl rfl ?_
    refine ol_iload hX (pc := 33) dX4_seen_33 rfl ?_
    obtain ⟨y9, e10, h⟩ := ol_of_bd h
    refine ol_cSr (As := [.int x3, .int x4]) hX (pc := 35) (wX4_cell V (ol_WM V a y7) x3 x4 y9 e10) lkX4_224 dcX4_cell ⟨rfl, rfl⟩ ol_rr_X4_seen_X4_cell (fun _ h => h) ⟨Nat.le_refl _, Nat.le_refl _⟩ (Nat.le_of_ble_eq_true rfl) dX4_seen_35 rfl ?_
    obtain ⟨g11, h⟩ := ol_of_og h
    refine ol_ml10 hX (pc := 38) dX4_seen_38 rfl (ol_in_vp g11) ?_
    have h := ol_of_some h
    subst h
    exact ol_iret hX (pc := 39) dX4_seen_39 ⟨rfl, rfl⟩ ⟨Nat.le_refl _, Nat.le_refl _⟩
  · have h := ol_ifn c12 h
    refine ol_iconst hX (pc := 20) (-1) dX4_seen_20 ol_k_iconst_m1 ?_
    have h := ol_of_some h
    subst h
    exact ol_iret hX (pc := 21) dX4_seen_21 ⟨rfl, rfl⟩ ⟨Nat.le_refl _, Nat.le_refl _⟩
set_option maxHeartbeats 4000000 in
theorem wX4_taken (V : ol_Gh) (a : Nat → Nat) (σ : ol_Mm) (x1 : Int32) (x2 : Int32) (x3 : Int32) (x4 : Int32)  (z : Int32 × ol_Mm) (h : oX4_taken σ x1 x2 x3 x4 = some z) : ol_Mt V yX4_taken cX4_taken 5 (some .int) ({ frames := 5, cells := 0, slots := 0, locals := 123 } : Room) true [.ref (a 0), .int x1, .int x2, .int x3, .int x4] (ol_WM V a σ) (ol_Pw (some (.int z.1)) (ol_WM V a z.2)) := by
  refine ol_MtOf (L0 := [some (.ref (a 0)), some (.int x1), some (.int x2), some (.int x3), some (.int x4)]) (by decide) (Nat.le_of_ble_eq_true rfl) rfl (fun X A hX => ?_)
  unfold oX4_taken at h
  refine ol_aload_n hX (pc := 0) dX4_taken_0 rfl rfl ?_
  refine ol_aload_n hX (pc := 1) dX4_taken_1 rfl rfl ?_
  refine ol_aload_n hX (pc := 2) dX4_taken_2 rfl rfl ?_
  refine ol_iload_n hX (pc := 3) dX4_taken_3 rfl rfl ?_
  obtain ⟨y1, e2, h⟩ := ol_of_bd h
  refine ol_cVr (As := [.int x3]) hX (pc := 4) (wX4_isBoard V a σ x3 y1 e2) lkX4_268 dcX4_isBoard ⟨rfl, rfl⟩ ol_rr_X4_taken_X4_isBoard 0 rfl rfl (fun _ h => h) ⟨Nat.le_refl _, Nat.le_refl _⟩ (Nat.le_of_ble_eq_true rfl) dX4_taken_4 rfl ?_
  refine ol_iload_n hX (pc := 7) dX4_taken_7 rfl rfl ?_
  refine ol_iload_n hX (pc := 8) dX4_taken_8 rfl rfl ?_
  refine ol_iload hX (pc := 9) dX4_taken_9 rfl ?_
  obtain ⟨y3, e4, h⟩ := ol_of_bd h
  refine ol_cVr (As := [.int y1, .int x1, .int x2, .int x4]) hX (pc := 11) (wX4_passWhy V a σ y1 x1 x2 x4 y3 e4) lkX4_271 dcX4_passWhy ⟨rfl, rfl⟩ ol_rr_X4_taken_X4_passWhy 0 rfl rfl (fun _ h => h) ⟨Nat.le_refl _, Nat.le_refl _⟩ (Nat.le_of_ble_eq_true rfl) dX4_taken_11 rfl ?_
  obtain ⟨y5, e6, h⟩ := ol_of_bd h
  refine ol_cVw (As := [.int y3]) hX (pc := 14) (wX4_isRefused V a σ y3 y5 e6) lkX4_180 dcX4_isRefused ol_rr_X4_taken_X4_isRefused 0 rfl rfl ⟨Nat.le_refl _, Nat.le_refl _⟩ (Nat.le_of_ble_eq_true rfl) dX4_taken_14 rfl ?_
  refine ol_if_eq hX (pc := 17) 22 dX4_taken_17 (by decide) (fun c12 => ?_) (fun c12 => ?_)
  · have h := ol_ifp c12 h
    refine ol_aload_n hX (pc := 22) dX4_taken_22 rfl rfl ?_
    refine ol_iload_n hX (pc := 23) dX4_taken_23 rfl rfl ?_
    refine ol_iload_n hX (pc := 24) dX4_taken_24 rfl rfl ?_
    obtain ⟨y7, e8, h⟩ := ol_of_bd h
    refine ol_cVw (As := [.int x1, .int x2]) hX (pc := 25) (wX4_passes V a y5.2 x1 x2 y7 e8) lkX4_275 dcX4_passes ol_rr_X4_taken_X4_passes 0 rfl rfl ⟨Nat.le_refl _, Nat.le_refl _⟩ (Nat.le_of_ble_eq_true rfl) dX4_taken_25 rfl ?_
    refine ol_aload_n hX (pc := 28) dX4_taken_28 rfl rfl ?_
    refine ol_mg26 hX (pc := 29) dX4_taken_29 ?_
    refine ol_iload_n hX (pc := 32) dX4_taken_32 rfl rfl ?_
    refine ol_iload hX (pc := 33) dX4_taken_33 rfl ?_
    obtain ⟨y9, e10, h⟩ := ol_of_bd h
    refine ol_cSr (As := [.int x3, .int x4]) hX (pc := 35) (wX4_cell V (ol_WM V a y7) x3 x4 y9 e10) lkX4_224 dcX4_cell ⟨rfl, rfl⟩ ol_rr_X4_taken_X4_cell (fun _ h => h) ⟨Nat.le_refl _, Nat.le_refl _⟩ (Nat.le_of_ble_eq_true rfl) dX4_taken_35 rfl ?_
    obtain ⟨g11, h⟩ := ol_of_og h
    refine ol_ml11 hX (pc := 38) dX4_taken_38 rfl (ol_in_vp g11) ?_
    have h := ol_of_some h
    subst h
    exact ol_iret hX (pc := 39) dX4_taken_39 ⟨rfl, rfl⟩ ⟨Nat.le_refl _, Nat.le_refl _⟩
  · have h := ol_ifn c12 h
    refine ol_iconst hX (pc := 20) (-1) dX4_taken_20 ol_k_iconst_m1 ?_
    have h := ol_of_some h
    subst h
    exact ol_iret hX (pc := 21) dX4_taken_21 ⟨rfl, rfl⟩ ⟨Nat.le_refl _, Nat.le_refl _⟩
set_option maxHeartbeats 4000000 in
theorem wX4_withdrawn (V : ol_Gh) (a : Nat → Nat) (σ : ol_Mm) (x1 : Int32) (x2 : Int32) (x3 : Int32) (x4 : Int32)  (z : Int32 × ol_Mm) (h : oX4_withdrawn σ x1 x2 x3 x4 = some z) : ol_Mt V yX4_withdrawn cX4_withdrawn 5 (some .int) ({ frames := 5, cells := 0, slots := 0, locals := 123 } : Room) true [.ref (a 0), .int x1, .int x2, .int x3, .int x4] (ol_WM V a σ) (ol_Pw (some (.int z.1)) (ol_WM V a z.2)) := by
  refine ol_MtOf (L0 := [some (.ref (a 0)), some (.int x1), some (.int x2), some (.int x3), some (.int x4)]) (by decide) (Nat.le_of_ble_eq_true rfl) rfl (fun X A hX => ?_)
  unfold oX4_withdrawn at h
  refine ol_aload_n hX (pc := 0) dX4_withdrawn_0 rfl rfl ?_
  refine ol_aload_n hX (pc := 1) dX4_withdrawn_1 rfl rfl ?_
  refine ol_aload_n hX (pc := 2) dX4_withdrawn_2 rfl rfl ?_
  refine ol_iload_n hX (pc := 3) dX4_withdrawn_3 rfl rfl ?_
  obtain ⟨y1, e2, h⟩ := ol_of_bd h
  refine ol_cVr (As := [.int x3]) hX (pc := 4) (wX4_isBoard V a σ x3 y1 e2) lkX4_268 dcX4_isBoard ⟨rfl, rfl⟩ ol_rr_X4_withdrawn_X4_isBoard 0 rfl rfl (fun _ h => h) ⟨Nat.le_refl _, Nat.le_refl _⟩ (Nat.le_of_ble_eq_true rfl) dX4_withdrawn_4 rfl ?_
  refine ol_iload_n hX (pc := 7) dX4_withdrawn_7 rfl rfl ?_
  refine ol_iload_n hX (pc := 8) dX4_withdrawn_8 rfl rfl ?_
  refine ol_iload hX (pc := 9) dX4_withdrawn_9 rfl ?_
  obtain ⟨y3, e4, h⟩ := ol_of_bd h
  refine ol_cVr (As := [.int y1, .int x1, .int x2, .int x4]) hX (pc := 11) (wX4_passWhy V a σ y1 x1 x2 x4 y3 e4) lkX4_271 dcX4_passWhy ⟨rfl, rfl⟩ ol_rr_X4_withdrawn_X4_passWhy 0 rfl rfl (fun _ h => h) ⟨Nat.le_refl _, Nat.le_refl _⟩ (Nat.le_of_ble_eq_true rfl) dX4_withdrawn_11 rfl ?_
  obtain ⟨y5, e6, h⟩ := ol_of_bd h
  refine ol_cVw (As := [.int y3]) hX (pc := 14) (wX4_isRefused V a σ y3 y5 e6) lkX4_180 dcX4_isRefused ol_rr_X4_withdrawn_X4_isRefused 0 rfl rfl ⟨Nat.le_refl _, Nat.le_refl _⟩ (Nat.le_of_ble_eq_true rfl) dX4_withdrawn_14 rfl ?_
  refine ol_if_eq hX (pc := 17) 22 dX4_withdrawn_17 (by decide) (fun c12 => ?_) (fun c12 => ?_)
  · have h := ol_ifp c12 h
    refine ol_aload_n hX (pc := 22) dX4_withdrawn_22 rfl rfl ?_
    refine ol_iload_n hX (pc := 23) dX4_withdrawn_23 rfl rfl ?_
    refine ol_iload_n hX (pc := 24) dX4_withdrawn_24 rfl rfl ?_
    obtain ⟨y7, e8, h⟩ := ol_of_bd h
    refine ol_cVw (As := [.int x1, .int x2]) hX (pc := 25) (wX4_passes V a y5.2 x1 x2 y7 e8) lkX4_275 dcX4_passes ol_rr_X4_withdrawn_X4_passes 0 rfl rfl ⟨Nat.le_refl _, Nat.le_refl _⟩ (Nat.le_of_ble_eq_true rfl) dX4_withdrawn_25 rfl ?_
    refine ol_aload_n hX (pc := 28) dX4_withdrawn_28 rfl rfl ?_
    refine ol_mg27 hX (pc := 29) dX4_withdrawn_29 ?_
    refine ol_iload_n hX (pc := 32) dX4_withdrawn_32 rfl rfl ?_
    refine ol_iload hX (pc := 33) dX4_withdrawn_33 rfl ?_
    obtain ⟨y9, e10, h⟩ := ol_of_bd h
    refine ol_cSr (As := [.int x3, .int x4]) hX (pc := 35) (wX4_cell V (ol_WM V a y7) x3 x4 y9 e10) lkX4_224 dcX4_cell ⟨rfl, rfl⟩ ol_rr_X4_withdrawn_X4_cell (fun _ h => h) ⟨Nat.le_refl _, Nat.le_refl _⟩ (Nat.le_of_ble_eq_true rfl) dX4_withdrawn_35 rfl ?_
    obtain ⟨g11, h⟩ := ol_of_og h
    refine ol_ml12 hX (pc := 38) dX4_withdrawn_38 rfl (ol_in_vp g11) ?_
    have h := ol_of_some h
    subst h
    exact ol_iret hX (pc := 39) dX4_withdrawn_39 ⟨rfl, rfl⟩ ⟨Nat.le_refl _, Nat.le_refl _⟩
  · have h := ol_ifn c12 h
    refine ol_iconst hX (pc := 20) (-1) dX4_withdrawn_20 ol_k_iconst_m1 ?_
    have h := ol_of_some h
    subst h
    exact ol_iret hX (pc := 21) dX4_withdrawn_21 ⟨rfl, rfl⟩ ⟨Nat.le_refl _, Nat.le_refl _⟩
set_option maxHeartbeats 4000000 in
theorem wX4_winnersAt_L4 {X : ol_Cx} {V : ol_Gh} {A : Nat → Prop} {a : Nat → Nat} {z : Int32} (hX : ol_CX X V A cX4_winnersAt RX4 "winnersAt" 4 (some .int)) (σ : ol_Mm) (x1 : Int32)    : ∀ (n : Nat), ∀ (v2 : Int32) (v3 : Int32), oX4_winnersAt_L4 σ x1 n v2 v3 = some z → ol_G X V A false (ol_Pr (some (.int z))) ({ frames := 1, cells := 0, slots := 0, locals := 21 } : Room) 4 0 0 (ol_WM V a σ) 4 [some (.ref (a 0)), some (.int x1), some (.int v2), some (.int v3)] [] := by
  intro n
  induction n with
  | zero =>
    intro v2 v3 h
    exact ol_no h
  | succ n ih =>
    intro v2 v3 h
    rw [oX4_winnersAt_L4] at h
    refine ol_iload_n hX (pc := 4) dX4_winnersAt_4 rfl rfl ?_
    refine ol_aload_n hX (pc := 5) dX4_winnersAt_5 rfl rfl ?_
    refine ol_mg6 hX (pc := 6) dX4_winnersAt_6 ?_
    refine ol_iconst hX (pc := 9) 3 dX4_winnersAt_9 ol_k_iconst_3 ?_
    refine ol_ml2 hX (pc := 10) dX4_winnersAt_10 ol_tn_3 (ol_in_vp (by decide)) ?_
    refine ol_icmp_ge hX (pc := 11) 56 dX4_winnersAt_11 (by decide) (fun c8 => ?_) (fun c8 => ?_)
    · have h := ol_ifp c8 h
      refine ol_iload_n hX (pc := 56) dX4_winnersAt_56 rfl rfl ?_
      have h := ol_of_some h
      subst h
      exact ol_iret hX (pc := 57) dX4_winnersAt_57 rfl ⟨Nat.le_refl _, Nat.le_refl _⟩
    · have h := ol_ifn c8 h
      refine ol_iload_n hX (pc := 14) dX4_winnersAt_14 rfl rfl ?_
      refine ol_aload_n hX (pc := 15) dX4_winnersAt_15 rfl rfl ?_
      refine ol_mg23 hX (pc := 16) dX4_winnersAt_16 ?_
      refine ol_iload_n hX (pc := 19) dX4_winnersAt_19 rfl rfl ?_
      obtain ⟨y1, e2, h⟩ := ol_of_bd h
      refine ol_cSr (As := [.int (σ.1 0 23), .int v3]) hX (pc := 20) (wX4_has V (ol_WM V a σ) (σ.1 0 23) v3 y1 e2) lkX4_221 dcX4_has ⟨rfl, rfl⟩ ol_rr_X4_winnersAt_X4_has (fun _ h => h) ⟨Nat.le_refl _, Nat.le_refl _⟩ (Nat.le_of_ble_eq_true rfl) dX4_winnersAt_20 rfl ?_
      refine ol_if_eq hX (pc := 23) 47 dX4_winnersAt_23 (by decide) (fun c7 => ?_) (fun c7 => ?_)
      · have h := ol_ifp c7 h
        refine ol_iconst hX (pc := 47) 0 dX4_winnersAt_47 ol_k_iconst_0 ?_
        refine ol_ior hX (pc := 48) dX4_winnersAt_48 ?_
        refine ol_istore_n hX (pc := 49) [some (.ref (a 0)), some (.int x1), some (.int (v2 ||| 0)), some (.int v3)] dX4_winnersAt_49 rfl (by decide) rfl rfl ?_
        refine ol_iinc hX (pc := 50) (v3 + 1) [some (.ref (a 0)), some (.int x1), some (.int (v2 ||| 0)), some (.int (v3 + 1))] dX4_winnersAt_50 rfl (ol_k_iinc_1 _) (by decide) rfl rfl ?_
        refine ol_goto hX (pc := 53) 4 dX4_winnersAt_53 (by decide) ?_
        exact ih (v2 ||| 0) (v3 + 1) h
      · have h := ol_ifn c7 h
        refine ol_aload_n hX (pc := 26) dX4_winnersAt_26 rfl rfl ?_
        refine ol_mg27 hX (pc := 27) dX4_winnersAt_27 ?_
        refine ol_iload_n hX (pc := 30) dX4_winnersAt_30 rfl rfl ?_
        refine ol_iload_n hX (pc := 31) dX4_winnersAt_31 rfl rfl ?_
        obtain ⟨y3, e4, h⟩ := ol_of_bd h
        refine ol_cSr (As := [.int v3, .int x1]) hX (pc := 32) (wX4_cell V (ol_WM V a σ) v3 x1 y3 e4) lkX4_224 dcX4_cell ⟨rfl, rfl⟩ ol_rr_X4_winnersAt_X4_cell (fun _ h => h) ⟨Nat.le_refl _, Nat.le_refl _⟩ (Nat.le_of_ble_eq_true rfl) dX4_winnersAt_32 rfl ?_
        obtain ⟨g5, h⟩ := ol_of_og h
        refine ol_ml12 hX (pc := 35) dX4_winnersAt_35 rfl (ol_in_vp g5) ?_
        refine ol_bipush hX (pc := 36) (-2) dX4_winnersAt_36 ol_k_bipush_m2 ?_
        refine ol_icmp_ne hX (pc := 38) 47 dX4_winnersAt_38 (by decide) (fun c6 => ?_) (fun c6 => ?_)
        · have h := ol_ifn c6 h
          refine ol_iconst hX (pc := 47) 0 dX4_winnersAt_47 ol_k_iconst_0 ?_
          refine ol_ior hX (pc := 48) dX4_winnersAt_48 ?_
          refine ol_istore_n hX (pc := 49) [some (.ref (a 0)), some (.int x1), some (.int (v2 ||| 0)), some (.int v3)] dX4_winnersAt_49 rfl (by decide) rfl rfl ?_
          refine ol_iinc hX (pc := 50) (v3 + 1) [some (.ref (a 0)), some (.int x1), some (.int (v2 ||| 0)), some (.int (v3 + 1))] dX4_winnersAt_50 rfl (ol_k_iinc_1 _) (by decide) rfl rfl ?_
          refine ol_goto hX (pc := 53) 4 dX4_winnersAt_53 (by decide) ?_
          exact ih (v2 ||| 0) (v3 + 1) h
        · have h := ol_ifp c6 h
          refine ol_iconst hX (pc := 41) 1 dX4_winnersAt_41 ol_k_iconst_1 ?_
          refine ol_iload_n hX (pc := 42) dX4_winnersAt_42 rfl rfl ?_
          refine ol_ishl hX (pc := 43) dX4_winnersAt_43 ?_
          refine ol_goto hX (pc := 44) 48 dX4_winnersAt_44 (by decide) ?_
          refine ol_ior hX (pc := 48) dX4_winnersAt_48 ?_
          refine ol_istore_n hX (pc := 49) [some (.ref (a 0)), some (.int x1), some (.int (v2 ||| ((1 : Int32) <<< (v3 &&& 31)))), some (.int v3)] dX4_winnersAt_49 rfl (by decide) rfl rfl ?_
          refine ol_iinc hX (pc := 50) (v3 + 1) [some (.ref (a 0)), some (.int x1), some (.int (v2 ||| ((1 : Int32) <<< (v3 &&& 31)))), some (.int (v3 + 1))] dX4_winnersAt_50 rfl (ol_k_iinc_1 _) (by decide) rfl rfl ?_
          refine ol_goto hX (pc := 53) 4 dX4_winnersAt_53 (by decide) ?_
          exact ih (v2 ||| ((1 : Int32) <<< (v3 &&& 31))) (v3 + 1) h
set_option maxHeartbeats 4000000 in
theorem wX4_winnersAt (V : ol_Gh) (a : Nat → Nat) (σ : ol_Mm) (x1 : Int32)  (z : Int32) (h : oX4_winnersAt σ x1 = some z) : ol_Mt V yX4_winnersAt cX4_winnersAt 4 (some .int) ({ frames := 1, cells := 0, slots := 0, locals := 21 } : Room) false [.ref (a 0), .int x1] (ol_WM V a σ) (ol_Pr (some (.int z))) := by
  refine ol_MtOf (L0 := [some (.ref (a 0)), some (.int x1), none, none]) (by decide) (Nat.le_of_ble_eq_true rfl) rfl (fun X A hX => ?_)
  unfold oX4_winnersAt at h
  refine ol_iconst hX (pc := 0) 0 dX4_winnersAt_0 ol_k_iconst_0 ?_
  refine ol_istore_n hX (pc := 1) [some (.ref (a 0)), some (.int x1), some (.int 0), none] dX4_winnersAt_1 rfl (by decide) rfl rfl ?_
  refine ol_iconst hX (pc := 2) 0 dX4_winnersAt_2 ol_k_iconst_0 ?_
  refine ol_istore_n hX (pc := 3) [some (.ref (a 0)), some (.int x1), some (.int 0), some (.int 0)] dX4_winnersAt_3 rfl (by decide) rfl rfl ?_
  exact wX4_winnersAt_L4 hX σ x1 ol_fuel 0 0 h
set_option maxHeartbeats 4000000 in
theorem wX4_winners (V : ol_Gh) (a : Nat → Nat) (σ : ol_Mm) (x1 : Int32) (x2 : Int32) (x3 : Int32)  (z : Int32 × ol_Mm) (h : oX4_winners σ x1 x2 x3 = some z) : ol_Mt V yX4_winners cX4_winners 4 (some .int) ({ frames := 5, cells := 0, slots := 0, locals := 123 } : Room) true [.ref (a 0), .int x1, .int x2, .int x3] (ol_WM V a σ) (ol_Pw (some (.int z.1)) (ol_WM V a z.2)) := by
  refine ol_MtOf (L0 := [some (.ref (a 0)), some (.int x1), some (.int x2), some (.int x3)]) (by decide) (Nat.le_of_ble_eq_true rfl) rfl (fun X A hX => ?_)
  unfold oX4_winners at h
  refine ol_aload_n hX (pc := 0) dX4_winners_0 rfl rfl ?_
  refine ol_aload_n hX (pc := 1) dX4_winners_1 rfl rfl ?_
  refine ol_iconst hX (pc := 2) 1 dX4_winners_2 ol_k_iconst_1 ?_
  refine ol_iload_n hX (pc := 3) dX4_winners_3 rfl rfl ?_
  refine ol_iload_n hX (pc := 4) dX4_winners_4 rfl rfl ?_
  refine ol_iload_n hX (pc := 5) dX4_winners_5 rfl rfl ?_
  obtain ⟨y1, e2, h⟩ := ol_of_bd h
  refine ol_cVr (As := [.int 1, .int x1, .int x2, .int x3]) hX (pc := 6) (wX4_passWhy V a σ 1 x1 x2 x3 y1 e2) lkX4_271 dcX4_passWhy ⟨rfl, rfl⟩ ol_rr_X4_winners_X4_passWhy 0 rfl rfl (fun _ h => h) ⟨Nat.le_refl _, Nat.le_refl _⟩ (Nat.le_of_ble_eq_true rfl) dX4_winners_6 rfl ?_
  obtain ⟨y3, e4, h⟩ := ol_of_bd h
  refine ol_cVw (As := [.int y1]) hX (pc := 9) (wX4_isRefused V a σ y1 y3 e4) lkX4_180 dcX4_isRefused ol_rr_X4_winners_X4_isRefused 0 rfl rfl ⟨Nat.le_refl _, Nat.le_refl _⟩ (Nat.le_of_ble_eq_true rfl) dX4_winners_9 rfl ?_
  refine ol_if_eq hX (pc := 12) 17 dX4_winners_12 (by decide) (fun c9 => ?_) (fun c9 => ?_)
  · have h := ol_ifp c9 h
    refine ol_aload_n hX (pc := 17) dX4_winners_17 rfl rfl ?_
    refine ol_iload_n hX (pc := 18) dX4_winners_18 rfl rfl ?_
    refine ol_iload_n hX (pc := 19) dX4_winners_19 rfl rfl ?_
    obtain ⟨y5, e6, h⟩ := ol_of_bd h
    refine ol_cVw (As := [.int x1, .int x2]) hX (pc := 20) (wX4_passes V a y3.2 x1 x2 y5 e6) lkX4_275 dcX4_passes ol_rr_X4_winners_X4_passes 0 rfl rfl ⟨Nat.le_refl _, Nat.le_refl _⟩ (Nat.le_of_ble_eq_true rfl) dX4_winners_20 rfl ?_
    refine ol_aload_n hX (pc := 23) dX4_winners_23 rfl rfl ?_
    refine ol_iload_n hX (pc := 24) dX4_winners_24 rfl rfl ?_
    obtain ⟨y7, e8, h⟩ := ol_of_bd h
    refine ol_cVr (As := [.int x3]) hX (pc := 25) (wX4_winnersAt V a y5 x3 y7 e8) lkX4_262 dcX4_winnersAt ⟨rfl, rfl⟩ ol_rr_X4_winners_X4_winnersAt 0 rfl rfl (fun _ h => h) ⟨Nat.le_refl _, Nat.le_refl _⟩ (Nat.le_of_ble_eq_true rfl) dX4_winners_25 rfl ?_
    have h := ol_of_some h
    subst h
    exact ol_iret hX (pc := 28) dX4_winners_28 ⟨rfl, rfl⟩ ⟨Nat.le_refl _, Nat.le_refl _⟩
  · have h := ol_ifn c9 h
    refine ol_iconst hX (pc := 15) (-1) dX4_winners_15 ol_k_iconst_m1 ?_
    have h := ol_of_some h
    subst h
    exact ol_iret hX (pc := 16) dX4_winners_16 ⟨rfl, rfl⟩ ⟨Nat.le_refl _, Nat.le_refl _⟩
set_option maxHeartbeats 4000000 in
theorem wX4_areSettled_L2 {X : ol_Cx} {V : ol_Gh} {A : Nat → Prop} {a : Nat → Nat} {z : Int32} (hX : ol_CX X V A cX4_areSettled RX4 "areSettled" 3 (some .boolean)) (σ : ol_Mm) (x1 : Int32)    : ∀ (n : Nat), ∀ (v2 : Int32), oX4_areSettled_L2 σ x1 n v2 = some z → ol_G X V A false (ol_Pr (some (.int z))) ({ frames := 1, cells := 0, slots := 0, locals := 21 } : Room) 3 0 0 (ol_WM V a σ) 2 [some (.ref (a 0)), some (.int x1), some (.int v2)] [] := by
  intro n
  induction n with
  | zero =>
    intro v2 h
    exact ol_no h
  | succ n ih =>
    intro v2 h
    rw [oX4_areSettled_L2] at h
    refine ol_iload_n hX (pc := 2) dX4_areSettled_2 rfl rfl ?_
    refine ol_aload_n hX (pc := 3) dX4_areSettled_3 rfl rfl ?_
    refine ol_mg6 hX (pc := 4) dX4_areSettled_4 ?_
    refine ol_iconst hX (pc := 7) 3 dX4_areSettled_7 ol_k_iconst_3 ?_
    refine ol_ml2 hX (pc := 8) dX4_areSettled_8 ol_tn_3 (ol_in_vp (by decide)) ?_
    refine ol_icmp_ge hX (pc := 9) 45 dX4_areSettled_9 (by decide) (fun c8 => ?_) (fun c8 => ?_)
    · have h := ol_ifp c8 h
      refine ol_iconst hX (pc := 45) 1 dX4_areSettled_45 ol_k_iconst_1 ?_
      have h := ol_of_some h
      subst h
      exact ol_zret hX (pc := 46) dX4_areSettled_46 (by rfl) rfl ⟨Nat.le_refl _, Nat.le_refl _⟩
    · have h := ol_ifn c8 h
      refine ol_aload_n hX (pc := 12) dX4_areSettled_12 rfl rfl ?_
      refine ol_mg24 hX (pc := 13) dX4_areSettled_13 ?_
      refine ol_iload_n hX (pc := 16) dX4_areSettled_16 rfl rfl ?_
      refine ol_iload_n hX (pc := 17) dX4_areSettled_17 rfl rfl ?_
      obtain ⟨y1, e2, h⟩ := ol_of_bd h
      refine ol_cSr (As := [.int v2, .int x1]) hX (pc := 18) (wX4_cell V (ol_WM V a σ) v2 x1 y1 e2) lkX4_224 dcX4_cell ⟨rfl, rfl⟩ ol_rr_X4_areSettled_X4_cell (fun _ h => h) ⟨Nat.le_refl _, Nat.le_refl _⟩ (Nat.le_of_ble_eq_true rfl) dX4_areSettled_18 rfl ?_
      obtain ⟨g3, h⟩ := ol_of_og h
      refine ol_ml9 hX (pc := 21) dX4_areSettled_21 rfl (ol_in_vp g3) ?_
      refine ol_aload_n hX (pc := 22) dX4_areSettled_22 rfl rfl ?_
      refine ol_mg24 hX (pc := 23) dX4_areSettled_23 ?_
      refine ol_iload_n hX (pc := 26) dX4_areSettled_26 rfl rfl ?_
      refine ol_sipush hX (pc := 27) 400 dX4_areSettled_27 ol_k_sipush_400 ?_
      obtain ⟨y4, e5, h⟩ := ol_of_bd h
      refine ol_cSr (As := [.int v2, .int 400]) hX (pc := 30) (wX4_cell V (ol_WM V a σ) v2 400 y4 e5) lkX4_224 dcX4_cell ⟨rfl, rfl⟩ ol_rr_X4_areSettled_X4_cell (fun _ h => h) ⟨Nat.le_refl _, Nat.le_refl _⟩ (Nat.le_of_ble_eq_true rfl) dX4_areSettled_30 rfl ?_
      obtain ⟨g6, h⟩ := ol_of_og h
      refine ol_ml9 hX (pc := 33) dX4_areSettled_33 rfl (ol_in_vp g6) ?_
      refine ol_icmp_eq hX (pc := 34) 39 dX4_areSettled_34 (by decide) (fun c7 => ?_) (fun c7 => ?_)
      · have h := ol_ifp c7 h
        refine ol_iinc hX (pc := 39) (v2 + 1) [some (.ref (a 0)), some (.int x1), some (.int (v2 + 1))] dX4_areSettled_39 rfl (ol_k_iinc_1 _) (by decide) rfl rfl ?_
        refine ol_goto hX (pc := 42) 2 dX4_areSettled_42 (by decide) ?_
        exact ih (v2 + 1) h
      · have h := ol_ifn c7 h
        refine ol_iconst hX (pc := 37) 0 dX4_areSettled_37 ol_k_iconst_0 ?_
        have h := ol_of_some h
        subst h
        exact ol_zret hX (pc := 38) dX4_areSettled_38 (by rfl) rfl ⟨Nat.le_refl _, Nat.le_refl _⟩
set_option maxHeartbeats 4000000 in
theorem wX4_areSettled (V : ol_Gh) (a : Nat → Nat) (σ : ol_Mm) (x1 : Int32)  (z : Int32) (h : oX4_areSettled σ x1 = some z) : ol_Mt V yX4_areSettled cX4_areSettled 3 (some .boolean) ({ frames := 1, cells := 0, slots := 0, locals := 21 } : Room) false [.ref (a 0), .int x1] (ol_WM V a σ) (ol_Pr (some (.int z))) := by
  refine ol_MtOf (L0 := [some (.ref (a 0)), some (.int x1), none]) (by decide) (Nat.le_of_ble_eq_true rfl) rfl (fun X A hX => ?_)
  unfold oX4_areSettled at h
  refine ol_iconst hX (pc := 0) 0 dX4_areSettled_0 ol_k_iconst_0 ?_
  refine ol_istore_n hX (pc := 1) [some (.ref (a 0)), some (.int x1), some (.int 0)] dX4_areSettled_1 rfl (by decide) rfl rfl ?_
  exact wX4_areSettled_L2 hX σ x1 ol_fuel 0 h
set_option maxHeartbeats 4000000 in
theorem wX4_settledAt_L4 {X : ol_Cx} {V : ol_Gh} {A : Nat → Prop} {a : Nat → Nat} {z : Int32} (hX : ol_CX X V A cX4_settledAt RX4 "settledAt" 2 (some .int)) (σ : ol_Mm)    : ∀ (n : Nat), ∀ (v1 : Int32), oX4_settledAt_L4 σ n v1 = some z → ol_G X V A false (ol_Pr (some (.int z))) ({ frames := 2, cells := 0, slots := 0, locals := 43 } : Room) 2 0 0 (ol_WM V a σ) 4 [some (.ref (a 0)), some (.int v1)] [] := by
  intro n
  induction n with
  | zero =>
    intro v1 h
    exact ol_no h
  | succ n ih =>
    intro v1 h
    rw [oX4_settledAt_L4] at h
    refine ol_iload_n hX (pc := 4) dX4_settledAt_4 rfl rfl ?_
    refine ol_if_le hX (pc := 5) 24 dX4_settledAt_5 (by decide) (fun c4 => ?_) (fun c4 => ?_)
    · have h := ol_ifp c4 h
      refine ol_iload_n hX (pc := 24) dX4_settledAt_24 rfl rfl ?_
      have h := ol_of_some h
      subst h
      exact ol_iret hX (pc := 25) dX4_settledAt_25 rfl ⟨Nat.le_refl _, Nat.le_refl _⟩
    · have h := ol_ifn c4 h
      refine ol_aload_n hX (pc := 8) dX4_settledAt_8 rfl rfl ?_
      refine ol_iload_n hX (pc := 9) dX4_settledAt_9 rfl rfl ?_
      refine ol_iconst hX (pc := 10) 1 dX4_settledAt_10 ol_k_iconst_1 ?_
      refine ol_isub hX (pc := 11) dX4_settledAt_11 ?_
      obtain ⟨y1, e2, h⟩ := ol_of_bd h
      refine ol_cVr (As := [.int (v1 - 1)]) hX (pc := 12) (wX4_areSettled V a σ (v1 - 1) y1 e2) lkX4_256 dcX4_areSettled ⟨rfl, rfl⟩ ol_rr_X4_settledAt_X4_areSettled 0 rfl rfl (fun _ h => h) ⟨Nat.le_refl _, Nat.le_refl _⟩ (Nat.le_of_ble_eq_true rfl) dX4_settledAt_12 rfl ?_
      refine ol_if_eq hX (pc := 15) 24 dX4_settledAt_15 (by decide) (fun c3 => ?_) (fun c3 => ?_)
      · have h := ol_ifp c3 h
        refine ol_iload_n hX (pc := 24) dX4_settledAt_24 rfl rfl ?_
        have h := ol_of_some h
        subst h
        exact ol_iret hX (pc := 25) dX4_settledAt_25 rfl ⟨Nat.le_refl _, Nat.le_refl _⟩
      · have h := ol_ifn c3 h
        refine ol_iinc hX (pc := 18) (v1 + (-1)) [some (.ref (a 0)), some (.int (v1 + (-1)))] dX4_settledAt_18 rfl (ol_k_iinc_m1 _) (by decide) rfl rfl ?_
        refine ol_goto hX (pc := 21) 4 dX4_settledAt_21 (by decide) ?_
        exact ih (v1 + (-1)) h
set_option maxHeartbeats 4000000 in
theorem wX4_settledAt (V : ol_Gh) (a : Nat → Nat) (σ : ol_Mm)  (z : Int32) (h : oX4_settledAt σ = some z) : ol_Mt V yX4_settledAt cX4_settledAt 2 (some .int) ({ frames := 2, cells := 0, slots := 0, locals := 43 } : Room) false [.ref (a 0)] (ol_WM V a σ) (ol_Pr (some (.int z))) := by
  refine ol_MtOf (L0 := [some (.ref (a 0)), none]) (by decide) (Nat.le_of_ble_eq_true rfl) rfl (fun X A hX => ?_)
  unfold oX4_settledAt at h
  refine ol_sipush hX (pc := 0) 400 dX4_settledAt_0 ol_k_sipush_400 ?_
  refine ol_istore_n hX (pc := 3) [some (.ref (a 0)), some (.int 400)] dX4_settledAt_3 rfl (by decide) rfl rfl ?_
  exact wX4_settledAt_L4 hX σ ol_fuel 400 h
set_option maxHeartbeats 4000000 in
theorem wX4_settles (V : ol_Gh) (a : Nat → Nat) (σ : ol_Mm) (x1 : Int32) (x2 : Int32)  (z : Int32 × ol_Mm) (h : oX4_settles σ x1 x2 = some z) : ol_Mt V yX4_settles cX4_settles 3 (some .int) ({ frames := 5, cells := 0, slots := 0, locals := 123 } : Room) true [.ref (a 0), .int x1, .int x2] (ol_WM V a σ) (ol_Pw (some (.int z.1)) (ol_WM V a z.2)) := by
  refine ol_MtOf (L0 := [some (.ref (a 0)), some (.int x1), some (.int x2)]) (by decide) (Nat.le_of_ble_eq_true rfl) rfl (fun X A hX => ?_)
  unfold oX4_settles at h
  refine ol_aload_n hX (pc := 0) dX4_settles_0 rfl rfl ?_
  refine ol_aload_n hX (pc := 1) dX4_settles_1 rfl rfl ?_
  refine ol_iconst hX (pc := 2) 1 dX4_settles_2 ol_k_iconst_1 ?_
  refine ol_iload_n hX (pc := 3) dX4_settles_3 rfl rfl ?_
  refine ol_iload_n hX (pc := 4) dX4_settles_4 rfl rfl ?_
  refine ol_iconst hX (pc := 5) 0 dX4_settles_5 ol_k_iconst_0 ?_
  obtain ⟨y1, e2, h⟩ := ol_of_bd h
  refine ol_cVr (As := [.int 1, .int x1, .int x2, .int 0]) hX (pc := 6) (wX4_passWhy V a σ 1 x1 x2 0 y1 e2) lkX4_271 dcX4_passWhy ⟨rfl, rfl⟩ ol_rr_X4_settles_X4_passWhy 0 rfl rfl (fun _ h => h) ⟨Nat.le_refl _, Nat.le_refl _⟩ (Nat.le_of_ble_eq_true rfl) dX4_settles_6 rfl ?_
  obtain ⟨y3, e4, h⟩ := ol_of_bd h
  refine ol_cVw (As := [.int y1]) hX (pc := 9) (wX4_isRefused V a σ y1 y3 e4) lkX4_180 dcX4_isRefused ol_rr_X4_settles_X4_isRefused 0 rfl rfl ⟨Nat.le_refl _, Nat.le_refl _⟩ (Nat.le_of_ble_eq_true rfl) dX4_settles_9 rfl ?_
  refine ol_if_eq hX (pc := 12) 17 dX4_settles_12 (by decide) (fun c9 => ?_) (fun c9 => ?_)
  · have h := ol_ifp c9 h
    refine ol_aload_n hX (pc := 17) dX4_settles_17 rfl rfl ?_
    refine ol_iload_n hX (pc := 18) dX4_settles_18 rfl rfl ?_
    refine ol_iload_n hX (pc := 19) dX4_settles_19 rfl rfl ?_
    obtain ⟨y5, e6, h⟩ := ol_of_bd h
    refine ol_cVw (As := [.int x1, .int x2]) hX (pc := 20) (wX4_passes V a y3.2 x1 x2 y5 e6) lkX4_275 dcX4_passes ol_rr_X4_settles_X4_passes 0 rfl rfl ⟨Nat.le_refl _, Nat.le_refl _⟩ (Nat.le_of_ble_eq_true rfl) dX4_settles_20 rfl ?_
    refine ol_aload_n hX (pc := 23) dX4_settles_23 rfl rfl ?_
    obtain ⟨y7, e8, h⟩ := ol_of_bd h
    refine ol_cVr (As := []) hX (pc := 24) (wX4_settledAt V a y5 y7 e8) lkX4_278 dcX4_settledAt ⟨rfl, rfl⟩ ol_rr_X4_settles_X4_settledAt 0 rfl rfl (fun _ h => h) ⟨Nat.le_refl _, Nat.le_refl _⟩ (Nat.le_of_ble_eq_true rfl) dX4_settles_24 rfl ?_
    have h := ol_of_some h
    subst h
    exact ol_iret hX (pc := 27) dX4_settles_27 ⟨rfl, rfl⟩ ⟨Nat.le_refl _, Nat.le_refl _⟩
  · have h := ol_ifn c9 h
    refine ol_iconst hX (pc := 15) (-1) dX4_settles_15 ol_k_iconst_m1 ?_
    have h := ol_of_some h
    subst h
    exact ol_iret hX (pc := 16) dX4_settles_16 ⟨rfl, rfl⟩ ⟨Nat.le_refl _, Nat.le_refl _⟩
set_option maxHeartbeats 4000000 in
theorem wX4_rightOnes_L6 {X : ol_Cx} {V : ol_Gh} {A : Nat → Prop} {a : Nat → Nat} {z : Int32} (hX : ol_CX X V A cX4_rightOnes RX4 "rightOnes" 4 (some .int)) (σ : ol_Mm)    : ∀ (n : Nat), ∀ (v1 : Int32) (v2 : Int32) (v3 : Int32), oX4_rightOnes_L6 σ n v1 v2 v3 = some z → ol_G X V A false (ol_Pr (some (.int z))) ({ frames := 1, cells := 0, slots := 0, locals := 21 } : Room) 4 0 0 (ol_WM V a σ) 6 [some (.ref (a 0)), some (.int v1), some (.int v2), some (.int v3)] [] := by
  intro n
  induction n with
  | zero =>
    intro v1 v2 v3 h
    exact ol_no h
  | succ n ih =>
    intro v1 v2 v3 h
    rw [oX4_rightOnes_L6] at h
    refine ol_iload_n hX (pc := 6) dX4_rightOnes_6 rfl rfl ?_
    refine ol_aload_n hX (pc := 7) dX4_rightOnes_7 rfl rfl ?_
    refine ol_mg6 hX (pc := 8) dX4_rightOnes_8 ?_
    refine ol_iconst hX (pc := 11) 3 dX4_rightOnes_11 ol_k_iconst_3 ?_
    refine ol_ml2 hX (pc := 12) dX4_rightOnes_12 ol_tn_3 (ol_in_vp (by decide)) ?_
    refine ol_icmp_ge hX (pc := 13) 72 dX4_rightOnes_13 (by decide) (fun c10 => ?_) (fun c10 => ?_)
    · have h := ol_ifp c10 h
      refine ol_iload_n hX (pc := 72) dX4_rightOnes_72 rfl rfl ?_
      have h := ol_of_some h
      subst h
      exact ol_iret hX (pc := 73) dX4_rightOnes_73 rfl ⟨Nat.le_refl _, Nat.le_refl _⟩
    · have h := ol_ifn c10 h
      refine ol_aload_n hX (pc := 16) dX4_rightOnes_16 rfl rfl ?_
      refine ol_mg23 hX (pc := 17) dX4_rightOnes_17 ?_
      refine ol_iload_n hX (pc := 20) dX4_rightOnes_20 rfl rfl ?_
      obtain ⟨y1, e2, h⟩ := ol_of_bd h
      refine ol_cSr (As := [.int (σ.1 0 23), .int v3]) hX (pc := 21) (wX4_has V (ol_WM V a σ) (σ.1 0 23) v3 y1 e2) lkX4_221 dcX4_has ⟨rfl, rfl⟩ ol_rr_X4_rightOnes_X4_has (fun _ h => h) ⟨Nat.le_refl _, Nat.le_refl _⟩ (Nat.le_of_ble_eq_true rfl) dX4_rightOnes_21 rfl ?_
      refine ol_if_eq hX (pc := 24) 66 dX4_rightOnes_24 (by decide) (fun c9 => ?_) (fun c9 => ?_)
      · have h := ol_ifp c9 h
        refine ol_iinc hX (pc := 66) (v3 + 1) [some (.ref (a 0)), some (.int v1), some (.int v2), some (.int (v3 + 1))] dX4_rightOnes_66 rfl (ol_k_iinc_1 _) (by decide) rfl rfl ?_
        refine ol_goto hX (pc := 69) 6 dX4_rightOnes_69 (by decide) ?_
        exact ih v1 v2 (v3 + 1) h
      · have h := ol_ifn c9 h
        refine ol_aload_n hX (pc := 27) dX4_rightOnes_27 rfl rfl ?_
        refine ol_mg22 hX (pc := 28) dX4_rightOnes_28 ?_
        refine ol_iload_n hX (pc := 31) dX4_rightOnes_31 rfl rfl ?_
        obtain ⟨g3, h⟩ := ol_of_og h
        refine ol_ml8 hX (pc := 32) dX4_rightOnes_32 rfl (ol_in_vp g3) ?_
        refine ol_iload_n hX (pc := 33) dX4_rightOnes_33 rfl rfl ?_
        refine ol_icmp_lt hX (pc := 34) 66 dX4_rightOnes_34 (by decide) (fun c8 => ?_) (fun c8 => ?_)
        · have h := ol_ifp c8 h
          refine ol_iinc hX (pc := 66) (v3 + 1) [some (.ref (a 0)), some (.int v1), some (.int v2), some (.int (v3 + 1))] dX4_rightOnes_66 rfl (ol_k_iinc_1 _) (by decide) rfl rfl ?_
          refine ol_goto hX (pc := 69) 6 dX4_rightOnes_69 (by decide) ?_
          exact ih v1 v2 (v3 + 1) h
        · have h := ol_ifn c8 h
          refine ol_aload_n hX (pc := 37) dX4_rightOnes_37 rfl rfl ?_
          refine ol_mg22 hX (pc := 38) dX4_rightOnes_38 ?_
          refine ol_iload_n hX (pc := 41) dX4_rightOnes_41 rfl rfl ?_
          obtain ⟨g4, h⟩ := ol_of_og h
          refine ol_ml8 hX (pc := 42) dX4_rightOnes_42 rfl (ol_in_vp g4) ?_
          refine ol_iload_n hX (pc := 43) dX4_rightOnes_43 rfl rfl ?_
          refine ol_icmp_le hX (pc := 44) 53 dX4_rightOnes_44 (by decide) (fun c7 => ?_) (fun c7 => ?_)
          · have h := ol_ifp c7 h
            refine ol_iload_n hX (pc := 53) dX4_rightOnes_53 rfl rfl ?_
            refine ol_iconst hX (pc := 54) 1 dX4_rightOnes_54 ol_k_iconst_1 ?_
            refine ol_iload_n hX (pc := 55) dX4_rightOnes_55 rfl rfl ?_
            refine ol_ishl hX (pc := 56) dX4_rightOnes_56 ?_
            refine ol_ior hX (pc := 57) dX4_rightOnes_57 ?_
            refine ol_istore_n hX (pc := 58) [some (.ref (a 0)), some (.int v1), some (.int (v2 ||| ((1 : Int32) <<< (v3 &&& 31)))), some (.int v3)] dX4_rightOnes_58 rfl (by decide) rfl rfl ?_
            refine ol_aload_n hX (pc := 59) dX4_rightOnes_59 rfl rfl ?_
            refine ol_mg22 hX (pc := 60) dX4_rightOnes_60 ?_
            refine ol_iload_n hX (pc := 63) dX4_rightOnes_63 rfl rfl ?_
            obtain ⟨g5, h⟩ := ol_of_og h
            refine ol_ml8 hX (pc := 64) dX4_rightOnes_64 rfl (ol_in_vp g5) ?_
            refine ol_istore_n hX (pc := 65) [some (.ref (a 0)), some (.int (σ.1 8 v3.toNatClampNeg)), some (.int (v2 ||| ((1 : Int32) <<< (v3 &&& 31)))), some (.int v3)] dX4_rightOnes_65 rfl (by decide) rfl rfl ?_
            refine ol_iinc hX (pc := 66) (v3 + 1) [some (.ref (a 0)), some (.int (σ.1 8 v3.toNatClampNeg)), some (.int (v2 ||| ((1 : Int32) <<< (v3 &&& 31)))), some (.int (v3 + 1))] dX4_rightOnes_66 rfl (ol_k_iinc_1 _) (by decide) rfl rfl ?_
            refine ol_goto hX (pc := 69) 6 dX4_rightOnes_69 (by decide) ?_
            exact ih (σ.1 8 v3.toNatClampNeg) (v2 ||| ((1 : Int32) <<< (v3 &&& 31))) (v3 + 1) h
          · have h := ol_ifn c7 h
            refine ol_iconst hX (pc := 47) 1 dX4_rightOnes_47 ol_k_iconst_1 ?_
            refine ol_iload_n hX (pc := 48) dX4_rightOnes_48 rfl rfl ?_
            refine ol_ishl hX (pc := 49) dX4_rightOnes_49 ?_
            refine ol_goto hX (pc := 50) 58 dX4_rightOnes_50 (by decide) ?_
            refine ol_istore_n hX (pc := 58) [some (.ref (a 0)), some (.int v1), some (.int ((1 : Int32) <<< (v3 &&& 31))), some (.int v3)] dX4_rightOnes_58 rfl (by decide) rfl rfl ?_
            refine ol_aload_n hX (pc := 59) dX4_rightOnes_59 rfl rfl ?_
            refine ol_mg22 hX (pc := 60) dX4_rightOnes_60 ?_
            refine ol_iload_n hX (pc := 63) dX4_rightOnes_63 rfl rfl ?_
            obtain ⟨g6, h⟩ := ol_of_og h
            refine ol_ml8 hX (pc := 64) dX4_rightOnes_64 rfl (ol_in_vp g6) ?_
            refine ol_istore_n hX (pc := 65) [some (.ref (a 0)), some (.int (σ.1 8 v3.toNatClampNeg)), some (.int ((1 : Int32) <<< (v3 &&& 31))), some (.int v3)] dX4_rightOnes_65 rfl (by decide) rfl rfl ?_
            refine ol_iinc hX (pc := 66) (v3 + 1) [some (.ref (a 0)), some (.int (σ.1 8 v3.toNatClampNeg)), some (.int ((1 : Int32) <<< (v3 &&& 31))), some (.int (v3 + 1))] dX4_rightOnes_66 rfl (ol_k_iinc_1 _) (by decide) rfl rfl ?_
            refine ol_goto hX (pc := 69) 6 dX4_rightOnes_69 (by decide) ?_
            exact ih (σ.1 8 v3.toNatClampNeg) ((1 : Int32) <<< (v3 &&& 31)) (v3 + 1) h
set_option maxHeartbeats 4000000 in
theorem wX4_rightOnes (V : ol_Gh) (a : Nat → Nat) (σ : ol_Mm)  (z : Int32) (h : oX4_rightOnes σ = some z) : ol_Mt V yX4_rightOnes cX4_rightOnes 4 (some .int) ({ frames := 1, cells := 0, slots := 0, locals := 21 } : Room) false [.ref (a 0)] (ol_WM V a σ) (ol_Pr (some (.int z))) := by
  refine ol_MtOf (L0 := [some (.ref (a 0)), none, none, none]) (by decide) (Nat.le_of_ble_eq_true rfl) rfl (fun X A hX => ?_)
  unfold oX4_rightOnes at h
  refine ol_iconst hX (pc := 0) (-1) dX4_rightOnes_0 ol_k_iconst_m1 ?_
  refine ol_istore_n hX (pc := 1) [some (.ref (a 0)), some (.int (-1)), none, none] dX4_rightOnes_1 rfl (by decide) rfl rfl ?_
  refine ol_iconst hX (pc := 2) 0 dX4_rightOnes_2 ol_k_iconst_0 ?_
  refine ol_istore_n hX (pc := 3) [some (.ref (a 0)), some (.int (-1)), some (.int 0), none] dX4_rightOnes_3 rfl (by decide) rfl rfl ?_
  refine ol_iconst hX (pc := 4) 0 dX4_rightOnes_4 ol_k_iconst_0 ?_
  refine ol_istore_n hX (pc := 5) [some (.ref (a 0)), some (.int (-1)), some (.int 0), some (.int 0)] dX4_rightOnes_5 rfl (by decide) rfl rfl ?_
  exact wX4_rightOnes_L6 hX σ ol_fuel (-1) 0 0 h
set_option maxHeartbeats 4000000 in
theorem wX4_sureAt_L9 {X : ol_Cx} {V : ol_Gh} {A : Nat → Prop} {a : Nat → Nat} {z : Int32} (hX : ol_CX X V A cX4_sureAt RX4 "sureAt" 3 (some .int)) (σ : ol_Mm)    : ∀ (n : Nat), ∀ (v1 : Int32) (v2 : Int32), oX4_sureAt_L9 σ n v1 v2 = some z → ol_G X V A false (ol_Pr (some (.int z))) ({ frames := 2, cells := 0, slots := 0, locals := 44 } : Room) 3 0 0 (ol_WM V a σ) 9 [some (.ref (a 0)), some (.int v1), some (.int v2)] [] := by
  intro n
  induction n with
  | zero =>
    intro v1 v2 h
    exact ol_no h
  | succ n ih =>
    intro v1 v2 h
    rw [oX4_sureAt_L9] at h
    refine ol_iload_n hX (pc := 9) dX4_sureAt_9 rfl rfl ?_
    refine ol_if_le hX (pc := 10) 30 dX4_sureAt_10 (by decide) (fun c6 => ?_) (fun c6 => ?_)
    · have h := ol_ifp c6 h
      refine ol_iload_n hX (pc := 30) dX4_sureAt_30 rfl rfl ?_
      refine ol_sipush hX (pc := 31) 401 dX4_sureAt_31 ol_k_sipush_401 ?_
      refine ol_icmp_ne hX (pc := 34) 42 dX4_sureAt_34 (by decide) (fun c1 => ?_) (fun c1 => ?_)
      · have h := ol_ifn c1 h
        refine ol_iload_n hX (pc := 42) dX4_sureAt_42 rfl rfl ?_
        have h := ol_of_some h
        subst h
        exact ol_iret hX (pc := 43) dX4_sureAt_43 rfl ⟨Nat.le_refl _, Nat.le_refl _⟩
      · have h := ol_ifp c1 h
        refine ol_bipush hX (pc := 37) (-2) dX4_sureAt_37 ol_k_bipush_m2 ?_
        refine ol_goto hX (pc := 39) 43 dX4_sureAt_39 (by decide) ?_
        have h := ol_of_some h
        subst h
        exact ol_iret hX (pc := 43) dX4_sureAt_43 rfl ⟨Nat.le_refl _, Nat.le_refl _⟩
    · have h := ol_ifn c6 h
      refine ol_aload_n hX (pc := 13) dX4_sureAt_13 rfl rfl ?_
      refine ol_iload_n hX (pc := 14) dX4_sureAt_14 rfl rfl ?_
      refine ol_iconst hX (pc := 15) 1 dX4_sureAt_15 ol_k_iconst_1 ?_
      refine ol_isub hX (pc := 16) dX4_sureAt_16 ?_
      obtain ⟨y2, e3, h⟩ := ol_of_bd h
      refine ol_cVr (As := [.int (v2 - 1)]) hX (pc := 17) (wX4_winnersAt V a σ (v2 - 1) y2 e3) lkX4_262 dcX4_winnersAt ⟨rfl, rfl⟩ ol_rr_X4_sureAt_X4_winnersAt 0 rfl rfl (fun _ h => h) ⟨Nat.le_refl _, Nat.le_refl _⟩ (Nat.le_of_ble_eq_true rfl) dX4_sureAt_17 rfl ?_
      refine ol_iload_n hX (pc := 20) dX4_sureAt_20 rfl rfl ?_
      refine ol_icmp_ne hX (pc := 21) 30 dX4_sureAt_21 (by decide) (fun c5 => ?_) (fun c5 => ?_)
      · have h := ol_ifn c5 h
        refine ol_iload_n hX (pc := 30) dX4_sureAt_30 rfl rfl ?_
        refine ol_sipush hX (pc := 31) 401 dX4_sureAt_31 ol_k_sipush_401 ?_
        refine ol_icmp_ne hX (pc := 34) 42 dX4_sureAt_34 (by decide) (fun c4 => ?_) (fun c4 => ?_)
        · have h := ol_ifn c4 h
          refine ol_iload_n hX (pc := 42) dX4_sureAt_42 rfl rfl ?_
          have h := ol_of_some h
          subst h
          exact ol_iret hX (pc := 43) dX4_sureAt_43 rfl ⟨Nat.le_refl _, Nat.le_refl _⟩
        · have h := ol_ifp c4 h
          refine ol_bipush hX (pc := 37) (-2) dX4_sureAt_37 ol_k_bipush_m2 ?_
          refine ol_goto hX (pc := 39) 43 dX4_sureAt_39 (by decide) ?_
          have h := ol_of_some h
          subst h
          exact ol_iret hX (pc := 43) dX4_sureAt_43 rfl ⟨Nat.le_refl _, Nat.le_refl _⟩
      · have h := ol_ifp c5 h
        refine ol_iinc hX (pc := 24) (v2 + (-1)) [some (.ref (a 0)), some (.int v1), some (.int (v2 + (-1)))] dX4_sureAt_24 rfl (ol_k_iinc_m1 _) (by decide) rfl rfl ?_
        refine ol_goto hX (pc := 27) 9 dX4_sureAt_27 (by decide) ?_
        exact ih v1 (v2 + (-1)) h
set_option maxHeartbeats 4000000 in
theorem wX4_sureAt (V : ol_Gh) (a : Nat → Nat) (σ : ol_Mm)  (z : Int32) (h : oX4_sureAt σ = some z) : ol_Mt V yX4_sureAt cX4_sureAt 3 (some .int) ({ frames := 2, cells := 0, slots := 0, locals := 44 } : Room) false [.ref (a 0)] (ol_WM V a σ) (ol_Pr (some (.int z))) := by
  refine ol_MtOf (L0 := [some (.ref (a 0)), none, none]) (by decide) (Nat.le_of_ble_eq_true rfl) rfl (fun X A hX => ?_)
  unfold oX4_sureAt at h
  refine ol_aload_n hX (pc := 0) dX4_sureAt_0 rfl rfl ?_
  obtain ⟨y1, e2, h⟩ := ol_of_bd h
  refine ol_cVr (As := []) hX (pc := 1) (wX4_rightOnes V a σ y1 e2) lkX4_259 dcX4_rightOnes ⟨rfl, rfl⟩ ol_rr_X4_sureAt_X4_rightOnes 0 rfl rfl (fun _ h => h) ⟨Nat.le_refl _, Nat.le_refl _⟩ (Nat.le_of_ble_eq_true rfl) dX4_sureAt_1 rfl ?_
  refine ol_istore_n hX (pc := 4) [some (.ref (a 0)), some (.int y1), none] dX4_sureAt_4 rfl (by decide) rfl rfl ?_
  refine ol_sipush hX (pc := 5) 401 dX4_sureAt_5 ol_k_sipush_401 ?_
  refine ol_istore_n hX (pc := 8) [some (.ref (a 0)), some (.int y1), some (.int 401)] dX4_sureAt_8 rfl (by decide) rfl rfl ?_
  exact wX4_sureAt_L9 hX σ ol_fuel y1 401 h
set_option maxHeartbeats 4000000 in
theorem wX4_sure (V : ol_Gh) (a : Nat → Nat) (σ : ol_Mm) (x1 : Int32) (x2 : Int32)  (z : Int32 × ol_Mm) (h : oX4_sure σ x1 x2 = some z) : ol_Mt V yX4_sure cX4_sure 3 (some .int) ({ frames := 5, cells := 0, slots := 0, locals := 123 } : Room) true [.ref (a 0), .int x1, .int x2] (ol_WM V a σ) (ol_Pw (some (.int z.1)) (ol_WM V a z.2)) := by
  refine ol_MtOf (L0 := [some (.ref (a 0)), some (.int x1), some (.int x2)]) (by decide) (Nat.le_of_ble_eq_true rfl) rfl (fun X A hX => ?_)
  unfold oX4_sure at h
  refine ol_aload_n hX (pc := 0) dX4_sure_0 rfl rfl ?_
  refine ol_aload_n hX (pc := 1) dX4_sure_1 rfl rfl ?_
  refine ol_iconst hX (pc := 2) 1 dX4_sure_2 ol_k_iconst_1 ?_
  refine ol_iload_n hX (pc := 3) dX4_sure_3 rfl rfl ?_
  refine ol_iload_n hX (pc := 4) dX4_sure_4 rfl rfl ?_
  refine ol_iconst hX (pc := 5) 0 dX4_sure_5 ol_k_iconst_0 ?_
  obtain ⟨y1, e2, h⟩ := ol_of_bd h
  refine ol_cVr (As := [.int 1, .int x1, .int x2, .int 0]) hX (pc := 6) (wX4_passWhy V a σ 1 x1 x2 0 y1 e2) lkX4_271 dcX4_passWhy ⟨rfl, rfl⟩ ol_rr_X4_sure_X4_passWhy 0 rfl rfl (fun _ h => h) ⟨Nat.le_refl _, Nat.le_refl _⟩ (Nat.le_of_ble_eq_true rfl) dX4_sure_6 rfl ?_
  obtain ⟨y3, e4, h⟩ := ol_of_bd h
  refine ol_cVw (As := [.int y1]) hX (pc := 9) (wX4_isRefused V a σ y1 y3 e4) lkX4_180 dcX4_isRefused ol_rr_X4_sure_X4_isRefused 0 rfl rfl ⟨Nat.le_refl _, Nat.le_refl _⟩ (Nat.le_of_ble_eq_true rfl) dX4_sure_9 rfl ?_
  refine ol_if_eq hX (pc := 12) 17 dX4_sure_12 (by decide) (fun c9 => ?_) (fun c9 => ?_)
  · have h := ol_ifp c9 h
    refine ol_aload_n hX (pc := 17) dX4_sure_17 rfl rfl ?_
    refine ol_iload_n hX (pc := 18) dX4_sure_18 rfl rfl ?_
    refine ol_iload_n hX (pc := 19) dX4_sure_19 rfl rfl ?_
    obtain ⟨y5, e6, h⟩ := ol_of_bd h
    refine ol_cVw (As := [.int x1, .int x2]) hX (pc := 20) (wX4_passes V a y3.2 x1 x2 y5 e6) lkX4_275 dcX4_passes ol_rr_X4_sure_X4_passes 0 rfl rfl ⟨Nat.le_refl _, Nat.le_refl _⟩ (Nat.le_of_ble_eq_true rfl) dX4_sure_20 rfl ?_
    refine ol_aload_n hX (pc := 23) dX4_sure_23 rfl rfl ?_
    obtain ⟨y7, e8, h⟩ := ol_of_bd h
    refine ol_cVr (As := []) hX (pc := 24) (wX4_sureAt V a y5 y7 e8) lkX4_281 dcX4_sureAt ⟨rfl, rfl⟩ ol_rr_X4_sure_X4_sureAt 0 rfl rfl (fun _ h => h) ⟨Nat.le_refl _, Nat.le_refl _⟩ (Nat.le_of_ble_eq_true rfl) dX4_sure_24 rfl ?_
    have h := ol_of_some h
    subst h
    exact ol_iret hX (pc := 27) dX4_sure_27 ⟨rfl, rfl⟩ ⟨Nat.le_refl _, Nat.le_refl _⟩
  · have h := ol_ifn c9 h
    refine ol_iconst hX (pc := 15) (-1) dX4_sure_15 ol_k_iconst_m1 ?_
    have h := ol_of_some h
    subst h
    exact ol_iret hX (pc := 16) dX4_sure_16 ⟨rfl, rfl⟩ ⟨Nat.le_refl _, Nat.le_refl _⟩
set_option maxHeartbeats 4000000 in
theorem wX4_right (V : ol_Gh) (a : Nat → Nat) (σ : ol_Mm) (x1 : Int32) (x2 : Int32)  (z : Int32 × ol_Mm) (h : oX4_right σ x1 x2 = some z) : ol_Mt V yX4_right cX4_right 3 (some .int) ({ frames := 5, cells := 0, slots := 0, locals := 123 } : Room) true [.ref (a 0), .int x1, .int x2] (ol_WM V a σ) (ol_Pw (some (.int z.1)) (ol_WM V a z.2)) := by
  refine ol_MtOf (L0 := [some (.ref (a 0)), some (.int x1), some (.int x2)]) (by decide) (Nat.le_of_ble_eq_true rfl) rfl (fun X A hX => ?_)
  unfold oX4_right at h
  refine ol_aload_n hX (pc := 0) dX4_right_0 rfl rfl ?_
  refine ol_aload_n hX (pc := 1) dX4_right_1 rfl rfl ?_
  refine ol_iconst hX (pc := 2) 1 dX4_right_2 ol_k_iconst_1 ?_
  refine ol_iload_n hX (pc := 3) dX4_right_3 rfl rfl ?_
  refine ol_iload_n hX (pc := 4) dX4_right_4 rfl rfl ?_
  refine ol_iconst hX (pc := 5) 0 dX4_right_5 ol_k_iconst_0 ?_
  obtain ⟨y1, e2, h⟩ := ol_of_bd h
  refine ol_cVr (As := [.int 1, .int x1, .int x2, .int 0]) hX (pc := 6) (wX4_passWhy V a σ 1 x1 x2 0 y1 e2) lkX4_271 dcX4_passWhy ⟨rfl, rfl⟩ ol_rr_X4_right_X4_passWhy 0 rfl rfl (fun _ h => h) ⟨Nat.le_refl _, Nat.le_refl _⟩ (Nat.le_of_ble_eq_true rfl) dX4_right_6 rfl ?_
  obtain ⟨y3, e4, h⟩ := ol_of_bd h
  refine ol_cVw (As := [.int y1]) hX (pc := 9) (wX4_isRefused V a σ y1 y3 e4) lkX4_180 dcX4_isRefused ol_rr_X4_right_X4_isRefused 0 rfl rfl ⟨Nat.le_refl _, Nat.le_refl _⟩ (Nat.le_of_ble_eq_true rfl) dX4_right_9 rfl ?_
  refine ol_if_eq hX (pc := 12) 17 dX4_right_12 (by decide) (fun c9 => ?_) (fun c9 => ?_)
  · have h := ol_ifp c9 h
    refine ol_aload_n hX (pc := 17) dX4_right_17 rfl rfl ?_
    refine ol_iload_n hX (pc := 18) dX4_right_18 rfl rfl ?_
    refine ol_iload_n hX (pc := 19) dX4_right_19 rfl rfl ?_
    obtain ⟨y5, e6, h⟩ := ol_of_bd h
    refine ol_cVw (As := [.int x1, .int x2]) hX (pc := 20) (wX4_passes V a y3.2 x1 x2 y5 e6) lkX4_275 dcX4_passes ol_rr_X4_right_X4_passes 0 rfl rfl ⟨Nat.le_refl _, Nat.le_refl _⟩ (Nat.le_of_ble_eq_true rfl) dX4_right_20 rfl ?_
    refine ol_aload_n hX (pc := 23) dX4_right_23 rfl rfl ?_
    obtain ⟨y7, e8, h⟩ := ol_of_bd h
    refine ol_cVr (As := []) hX (pc := 24) (wX4_rightOnes V a y5 y7 e8) lkX4_259 dcX4_rightOnes ⟨rfl, rfl⟩ ol_rr_X4_right_X4_rightOnes 0 rfl rfl (fun _ h => h) ⟨Nat.le_refl _, Nat.le_refl _⟩ (Nat.le_of_ble_eq_true rfl) dX4_right_24 rfl ?_
    have h := ol_of_some h
    subst h
    exact ol_iret hX (pc := 27) dX4_right_27 ⟨rfl, rfl⟩ ⟨Nat.le_refl _, Nat.le_refl _⟩
  · have h := ol_ifn c9 h
    refine ol_iconst hX (pc := 15) (-1) dX4_right_15 ol_k_iconst_m1 ?_
    have h := ol_of_some h
    subst h
    exact ol_iret hX (pc := 16) dX4_right_16 ⟨rfl, rfl⟩ ⟨Nat.le_refl _, Nat.le_refl _⟩
set_option maxHeartbeats 4000000 in
theorem wX4_dips (V : ol_Gh) (a : Nat → Nat) (σ : ol_Mm) (x1 : Int32) (x2 : Int32)  (z : Int32 × ol_Mm) (h : oX4_dips σ x1 x2 = some z) : ol_Mt V yX4_dips cX4_dips 3 (some .int) ({ frames := 5, cells := 0, slots := 0, locals := 123 } : Room) true [.ref (a 0), .int x1, .int x2] (ol_WM V a σ) (ol_Pw (some (.int z.1)) (ol_WM V a z.2)) := by
  refine ol_MtOf (L0 := [some (.ref (a 0)), some (.int x1), some (.int x2)]) (by decide) (Nat.le_of_ble_eq_true rfl) rfl (fun X A hX => ?_)
  unfold oX4_dips at h
  refine ol_aload_n hX (pc := 0) dX4_dips_0 rfl rfl ?_
  refine ol_aload_n hX (pc := 1) dX4_dips_1 rfl rfl ?_
  refine ol_iconst hX (pc := 2) 1 dX4_dips_2 ol_k_iconst_1 ?_
  refine ol_iload_n hX (pc := 3) dX4_dips_3 rfl rfl ?_
  refine ol_iload_n hX (pc := 4) dX4_dips_4 rfl rfl ?_
  refine ol_iconst hX (pc := 5) 0 dX4_dips_5 ol_k_iconst_0 ?_
  obtain ⟨y1, e2, h⟩ := ol_of_bd h
  refine ol_cVr (As := [.int 1, .int x1, .int x2, .int 0]) hX (pc := 6) (wX4_passWhy V a σ 1 x1 x2 0 y1 e2) lkX4_271 dcX4_passWhy ⟨rfl, rfl⟩ ol_rr_X4_dips_X4_passWhy 0 rfl rfl (fun _ h => h) ⟨Nat.le_refl _, Nat.le_refl _⟩ (Nat.le_of_ble_eq_true rfl) dX4_dips_6 rfl ?_
  obtain ⟨y3, e4, h⟩ := ol_of_bd h
  refine ol_cVw (As := [.int y1]) hX (pc := 9) (wX4_isRefused V a σ y1 y3 e4) lkX4_180 dcX4_isRefused ol_rr_X4_dips_X4_isRefused 0 rfl rfl ⟨Nat.le_refl _, Nat.le_refl _⟩ (Nat.le_of_ble_eq_true rfl) dX4_dips_9 rfl ?_
  refine ol_if_eq hX (pc := 12) 17 dX4_dips_12 (by decide) (fun c7 => ?_) (fun c7 => ?_)
  · have h := ol_ifp c7 h
    refine ol_aload_n hX (pc := 17) dX4_dips_17 rfl rfl ?_
    refine ol_iload_n hX (pc := 18) dX4_dips_18 rfl rfl ?_
    refine ol_iload_n hX (pc := 19) dX4_dips_19 rfl rfl ?_
    obtain ⟨y5, e6, h⟩ := ol_of_bd h
    refine ol_cVw (As := [.int x1, .int x2]) hX (pc := 20) (wX4_passes V a y3.2 x1 x2 y5 e6) lkX4_275 dcX4_passes ol_rr_X4_dips_X4_passes 0 rfl rfl ⟨Nat.le_refl _, Nat.le_refl _⟩ (Nat.le_of_ble_eq_true rfl) dX4_dips_20 rfl ?_
    refine ol_aload_n hX (pc := 23) dX4_dips_23 rfl rfl ?_
    refine ol_mg29 hX (pc := 24) dX4_dips_24 ?_
    have h := ol_of_some h
    subst h
    exact ol_iret hX (pc := 27) dX4_dips_27 ⟨rfl, rfl⟩ ⟨Nat.le_refl _, Nat.le_refl _⟩
  · have h := ol_ifn c7 h
    refine ol_iconst hX (pc := 15) (-1) dX4_dips_15 ol_k_iconst_m1 ?_
    have h := ol_of_some h
    subst h
    exact ol_iret hX (pc := 16) dX4_dips_16 ⟨rfl, rfl⟩ ⟨Nat.le_refl _, Nat.le_refl _⟩
set_option maxHeartbeats 4000000 in
theorem wX4_isFaultyAt_L2 {X : ol_Cx} {V : ol_Gh} {A : Nat → Prop} {a : Nat → Nat} {z : Int32} (hX : ol_CX X V A cX4_isFaultyAt RX4 "isFaultyAt" 3 (some .boolean)) (σ : ol_Mm) (x1 : Int32)    : ∀ (n : Nat), ∀ (v2 : Int32), oX4_isFaultyAt_L2 σ x1 n v2 = some z → ol_G X V A false (ol_Pr (some (.int z))) ({ frames := 1, cells := 0, slots := 0, locals := 22 } : Room) 3 0 0 (ol_WM V a σ) 2 [some (.ref (a 0)), some (.int x1), some (.int v2)] [] := by
  intro n
  induction n with
  | zero =>
    intro v2 h
    exact ol_no h
  | succ n ih =>
    intro v2 h
    rw [oX4_isFaultyAt_L2] at h
    refine ol_iload_n hX (pc := 2) dX4_isFaultyAt_2 rfl rfl ?_
    refine ol_aload_n hX (pc := 3) dX4_isFaultyAt_3 rfl rfl ?_
    refine ol_mg6 hX (pc := 4) dX4_isFaultyAt_4 ?_
    refine ol_iconst hX (pc := 7) 3 dX4_isFaultyAt_7 ol_k_iconst_3 ?_
    refine ol_ml2 hX (pc := 8) dX4_isFaultyAt_8 ol_tn_3 (ol_in_vp (by decide)) ?_
    refine ol_icmp_ge hX (pc := 9) 38 dX4_isFaultyAt_9 (by decide) (fun c7 => ?_) (fun c7 => ?_)
    · have h := ol_ifp c7 h
      refine ol_iconst hX (pc := 38) 0 dX4_isFaultyAt_38 ol_k_iconst_0 ?_
      have h := ol_of_some h
      subst h
      exact ol_zret hX (pc := 39) dX4_isFaultyAt_39 (by rfl) rfl ⟨Nat.le_refl _, Nat.le_refl _⟩
    · have h := ol_ifn c7 h
      refine ol_aload_n hX (pc := 12) dX4_isFaultyAt_12 rfl rfl ?_
      refine ol_mg26 hX (pc := 13) dX4_isFaultyAt_13 ?_
      refine ol_iload_n hX (pc := 16) dX4_isFaultyAt_16 rfl rfl ?_
      refine ol_iload_n hX (pc := 17) dX4_isFaultyAt_17 rfl rfl ?_
      obtain ⟨y1, e2, h⟩ := ol_of_bd h
      refine ol_cSr (As := [.int v2, .int x1]) hX (pc := 18) (wX4_cell V (ol_WM V a σ) v2 x1 y1 e2) lkX4_224 dcX4_cell ⟨rfl, rfl⟩ ol_rr_X4_isFaultyAt_X4_cell (fun _ h => h) ⟨Nat.le_refl _, Nat.le_refl _⟩ (Nat.le_of_ble_eq_true rfl) dX4_isFaultyAt_18 rfl ?_
      obtain ⟨g3, h⟩ := ol_of_og h
      refine ol_ml11 hX (pc := 21) dX4_isFaultyAt_21 rfl (ol_in_vp g3) ?_
      obtain ⟨y4, e5, h⟩ := ol_of_bd h
      refine ol_cSr (As := [.int (σ.1 11 y1.toNatClampNeg)]) hX (pc := 22) (wX4_bitsOf V (ol_WM V a σ) (σ.1 11 y1.toNatClampNeg) y4 e5) lkX4_209 dcX4_bitsOf ⟨rfl, rfl⟩ ol_rr_X4_isFaultyAt_X4_bitsOf (fun _ h => h) ⟨Nat.le_refl _, Nat.le_refl _⟩ (Nat.le_of_ble_eq_true rfl) dX4_isFaultyAt_22 rfl ?_
      refine ol_iconst hX (pc := 25) 2 dX4_isFaultyAt_25 ol_k_iconst_2 ?_
      refine ol_irem hX (pc := 26) dX4_isFaultyAt_26 (by decide) ?_
      refine ol_if_ne hX (pc := 27) 32 dX4_isFaultyAt_27 (by decide) (fun c6 => ?_) (fun c6 => ?_)
      · have h := ol_ifn c6 h
        refine ol_iinc hX (pc := 32) (v2 + 1) [some (.ref (a 0)), some (.int x1), some (.int (v2 + 1))] dX4_isFaultyAt_32 rfl (ol_k_iinc_1 _) (by decide) rfl rfl ?_
        refine ol_goto hX (pc := 35) 2 dX4_isFaultyAt_35 (by decide) ?_
        exact ih (v2 + 1) h
      · have h := ol_ifp c6 h
        refine ol_iconst hX (pc := 30) 1 dX4_isFaultyAt_30 ol_k_iconst_1 ?_
        have h := ol_of_some h
        subst h
        exact ol_zret hX (pc := 31) dX4_isFaultyAt_31 (by rfl) rfl ⟨Nat.le_refl _, Nat.le_refl _⟩
set_option maxHeartbeats 4000000 in
theorem wX4_isFaultyAt (V : ol_Gh) (a : Nat → Nat) (σ : ol_Mm) (x1 : Int32)  (z : Int32) (h : oX4_isFaultyAt σ x1 = some z) : ol_Mt V yX4_isFaultyAt cX4_isFaultyAt 3 (some .boolean) ({ frames := 1, cells := 0, slots := 0, locals := 22 } : Room) false [.ref (a 0), .int x1] (ol_WM V a σ) (ol_Pr (some (.int z))) := by
  refine ol_MtOf (L0 := [some (.ref (a 0)), some (.int x1), none]) (by decide) (Nat.le_of_ble_eq_true rfl) rfl (fun X A hX => ?_)
  unfold oX4_isFaultyAt at h
  refine ol_iconst hX (pc := 0) 0 dX4_isFaultyAt_0 ol_k_iconst_0 ?_
  refine ol_istore_n hX (pc := 1) [some (.ref (a 0)), some (.int x1), some (.int 0)] dX4_isFaultyAt_1 rfl (by decide) rfl rfl ?_
  exact wX4_isFaultyAt_L2 hX σ x1 ol_fuel 0 h
set_option maxHeartbeats 4000000 in
theorem wX4_faulty (V : ol_Gh) (a : Nat → Nat) (σ : ol_Mm) (x1 : Int32) (x2 : Int32) (x3 : Int32)  (z : Int32 × ol_Mm) (h : oX4_faulty σ x1 x2 x3 = some z) : ol_Mt V yX4_faulty cX4_faulty 4 (some .int) ({ frames := 5, cells := 0, slots := 0, locals := 123 } : Room) true [.ref (a 0), .int x1, .int x2, .int x3] (ol_WM V a σ) (ol_Pw (some (.int z.1)) (ol_WM V a z.2)) := by
  refine ol_MtOf (L0 := [some (.ref (a 0)), some (.int x1), some (.int x2), some (.int x3)]) (by decide) (Nat.le_of_ble_eq_true rfl) rfl (fun X A hX => ?_)
  unfold oX4_faulty at h
  refine ol_aload_n hX (pc := 0) dX4_faulty_0 rfl rfl ?_
  refine ol_aload_n hX (pc := 1) dX4_faulty_1 rfl rfl ?_
  refine ol_iconst hX (pc := 2) 1 dX4_faulty_2 ol_k_iconst_1 ?_
  refine ol_iload_n hX (pc := 3) dX4_faulty_3 rfl rfl ?_
  refine ol_iload_n hX (pc := 4) dX4_faulty_4 rfl rfl ?_
  refine ol_iload_n hX (pc := 5) dX4_faulty_5 rfl rfl ?_
  obtain ⟨y1, e2, h⟩ := ol_of_bd h
  refine ol_cVr (As := [.int 1, .int x1, .int x2, .int x3]) hX (pc := 6) (wX4_passWhy V a σ 1 x1 x2 x3 y1 e2) lkX4_271 dcX4_passWhy ⟨rfl, rfl⟩ ol_rr_X4_faulty_X4_passWhy 0 rfl rfl (fun _ h => h) ⟨Nat.le_refl _, Nat.le_refl _⟩ (Nat.le_of_ble_eq_true rfl) dX4_faulty_6 rfl ?_
  obtain ⟨y3, e4, h⟩ := ol_of_bd h
  refine ol_cVw (As := [.int y1]) hX (pc := 9) (wX4_isRefused V a σ y1 y3 e4) lkX4_180 dcX4_isRefused ol_rr_X4_faulty_X4_isRefused 0 rfl rfl ⟨Nat.le_refl _, Nat.le_refl _⟩ (Nat.le_of_ble_eq_true rfl) dX4_faulty_9 rfl ?_
  refine ol_if_eq hX (pc := 12) 17 dX4_faulty_12 (by decide) (fun c10 => ?_) (fun c10 => ?_)
  · have h := ol_ifp c10 h
    refine ol_aload_n hX (pc := 17) dX4_faulty_17 rfl rfl ?_
    refine ol_iload_n hX (pc := 18) dX4_faulty_18 rfl rfl ?_
    refine ol_iload_n hX (pc := 19) dX4_faulty_19 rfl rfl ?_
    obtain ⟨y5, e6, h⟩ := ol_of_bd h
    refine ol_cVw (As := [.int x1, .int x2]) hX (pc := 20) (wX4_passes V a y3.2 x1 x2 y5 e6) lkX4_275 dcX4_passes ol_rr_X4_faulty_X4_passes 0 rfl rfl ⟨Nat.le_refl _, Nat.le_refl _⟩ (Nat.le_of_ble_eq_true rfl) dX4_faulty_20 rfl ?_
    refine ol_aload_n hX (pc := 23) dX4_faulty_23 rfl rfl ?_
    refine ol_iload_n hX (pc := 24) dX4_faulty_24 rfl rfl ?_
    obtain ⟨y7, e8, h⟩ := ol_of_bd h
    refine ol_cVr (As := [.int x3]) hX (pc := 25) (wX4_isFaultyAt V a y5 x3 y7 e8) lkX4_284 dcX4_isFaultyAt ⟨rfl, rfl⟩ ol_rr_X4_faulty_X4_isFaultyAt 0 rfl rfl (fun _ h => h) ⟨Nat.le_refl _, Nat.le_refl _⟩ (Nat.le_of_ble_eq_true rfl) dX4_faulty_25 rfl ?_
    refine ol_if_eq hX (pc := 28) 35 dX4_faulty_28 (by decide) (fun c9 => ?_) (fun c9 => ?_)
    · have h := ol_ifp c9 h
      refine ol_iconst hX (pc := 35) 0 dX4_faulty_35 ol_k_iconst_0 ?_
      have h := ol_of_some h
      subst h
      exact ol_iret hX (pc := 36) dX4_faulty_36 ⟨rfl, rfl⟩ ⟨Nat.le_refl _, Nat.le_refl _⟩
    · have h := ol_ifn c9 h
      refine ol_iconst hX (pc := 31) 1 dX4_faulty_31 ol_k_iconst_1 ?_
      refine ol_goto hX (pc := 32) 36 dX4_faulty_32 (by decide) ?_
      have h := ol_of_some h
      subst h
      exact ol_iret hX (pc := 36) dX4_faulty_36 ⟨rfl, rfl⟩ ⟨Nat.le_refl _, Nat.le_refl _⟩
  · have h := ol_ifn c10 h
    refine ol_iconst hX (pc := 15) (-1) dX4_faulty_15 ol_k_iconst_m1 ?_
    have h := ol_of_some h
    subst h
    exact ol_iret hX (pc := 16) dX4_faulty_16 ⟨rfl, rfl⟩ ⟨Nat.le_refl _, Nat.le_refl _⟩
set_option maxHeartbeats 4000000 in
theorem wX4_edges_L51 {X : ol_Cx} {V : ol_Gh} {A : Nat → Prop} {a : Nat → Nat} {z : Int32 × ol_Mm} (hX : ol_CX X V A cX4_edges RX4 "edges" 7 (some .int)) (x1 : Int32) (x2 : Int32) (x3 : Int32) (x4 : Int32)    : ∀ (n : Nat), ∀ (v5 : Int32) (v6 : Int32) (σ : ol_Mm), oX4_edges_L51 x1 x2 x3 x4 n v5 v6 σ = some z → ol_G X V A true (ol_Pw (some (.int z.1)) (ol_WM V a z.2)) ({ frames := 5, cells := 0, slots := 0, locals := 123 } : Room) 7 0 0 (ol_WM V a σ) 51 [some (.ref (a 0)), none, none, some (.int x3), some (.int x4), some (.int v5), some (.int v6)] [] := by
  intro n
  induction n with
  | zero =>
    intro v5 v6 σ h
    exact ol_no h
  | succ n ih =>
    intro v5 v6 σ h
    rw [oX4_edges_L51] at h
    refine ol_iload hX (pc := 51) dX4_edges_51 rfl ?_
    refine ol_sipush hX (pc := 53) 401 dX4_edges_53 ol_k_sipush_401 ?_
    refine ol_icmp_ge hX (pc := 56) 108 dX4_edges_56 (by decide) (fun c10 => ?_) (fun c10 => ?_)
    · have h := ol_ifp c10 h
      refine ol_iload hX (pc := 108) dX4_edges_108 rfl ?_
      have h := ol_of_some h
      subst h
      exact ol_iret hX (pc := 110) dX4_edges_110 ⟨rfl, rfl⟩ ⟨Nat.le_refl _, Nat.le_refl _⟩
    · have h := ol_ifn c10 h
      refine ol_iload hX (pc := 59) dX4_edges_59 rfl ?_
      refine ol_aload_n hX (pc := 61) dX4_edges_61 rfl rfl ?_
      refine ol_mg25 hX (pc := 62) dX4_edges_62 ?_
      refine ol_iload_n hX (pc := 65) dX4_edges_65 rfl rfl ?_
      refine ol_iload hX (pc := 66) dX4_edges_66 rfl ?_
      obtain ⟨y1, e2, h⟩ := ol_of_bd h
      refine ol_cSr (As := [.int x3, .int v6]) hX (pc := 68) (wX4_cell V (ol_WM V a σ) x3 v6 y1 e2) lkX4_224 dcX4_cell ⟨rfl, rfl⟩ ol_rr_X4_edges_X4_cell (fun _ h => h) ⟨Nat.le_refl _, Nat.le_refl _⟩ (Nat.le_of_ble_eq_true rfl) dX4_edges_68 rfl ?_
      obtain ⟨g3, h⟩ := ol_of_og h
      refine ol_ml10 hX (pc := 71) dX4_edges_71 rfl (ol_in_vp g3) ?_
      refine ol_aload_n hX (pc := 72) dX4_edges_72 rfl rfl ?_
      refine ol_mg25 hX (pc := 73) dX4_edges_73 ?_
      refine ol_iload_n hX (pc := 76) dX4_edges_76 rfl rfl ?_
      refine ol_iload hX (pc := 77) dX4_edges_77 rfl ?_
      refine ol_iconst hX (pc := 79) 1 dX4_edges_79 ol_k_iconst_1 ?_
      refine ol_isub hX (pc := 80) dX4_edges_80 ?_
      obtain ⟨y4, e5, h⟩ := ol_of_bd h
      refine ol_cSr (As := [.int x3, .int (v6 - 1)]) hX (pc := 81) (wX4_cell V (ol_WM V a σ) x3 (v6 - 1) y4 e5) lkX4_224 dcX4_cell ⟨rfl, rfl⟩ ol_rr_X4_edges_X4_cell (fun _ h => h) ⟨Nat.le_refl _, Nat.le_refl _⟩ (Nat.le_of_ble_eq_true rfl) dX4_edges_81 rfl ?_
      obtain ⟨g6, h⟩ := ol_of_og h
      refine ol_ml10 hX (pc := 84) dX4_edges_84 rfl (ol_in_vp g6) ?_
      refine ol_ixor hX (pc := 85) dX4_edges_85 ?_
      refine ol_iload hX (pc := 86) dX4_edges_86 rfl ?_
      obtain ⟨y7, e8, h⟩ := ol_of_bd h
      refine ol_cSr (As := [.int ((σ.1 10 y1.toNatClampNeg) ^^^ (σ.1 10 y4.toNatClampNeg)), .int x4]) hX (pc := 88) (wX4_has V (ol_WM V a σ) ((σ.1 10 y1.toNatClampNeg) ^^^ (σ.1 10 y4.toNatClampNeg)) x4 y7 e8) lkX4_221 dcX4_has ⟨rfl, rfl⟩ ol_rr_X4_edges_X4_has (fun _ h => h) ⟨Nat.le_refl _, Nat.le_refl _⟩ (Nat.le_of_ble_eq_true rfl) dX4_edges_88 rfl ?_
      refine ol_if_eq hX (pc := 91) 98 dX4_edges_91 (by decide) (fun c9 => ?_) (fun c9 => ?_)
      · have h := ol_ifp c9 h
        refine ol_iconst hX (pc := 98) 0 dX4_edges_98 ol_k_iconst_0 ?_
        refine ol_iadd hX (pc := 99) dX4_edges_99 ?_
        refine ol_istore hX (pc := 100) [some (.ref (a 0)), none, none, some (.int x3), some (.int x4), some (.int (v5 + 0)), some (.int v6)] dX4_edges_100 (by decide) rfl rfl ?_
        refine ol_iinc hX (pc := 102) (v6 + 1) [some (.ref (a 0)), none, none, some (.int x3), some (.int x4), some (.int (v5 + 0)), some (.int (v6 + 1))] dX4_edges_102 rfl (ol_k_iinc_1 _) (by decide) rfl rfl ?_
        refine ol_goto hX (pc := 105) 51 dX4_edges_105 (by decide) ?_
        exact ih (v5 + 0) (v6 + 1) σ h
      · have h := ol_ifn c9 h
        refine ol_iconst hX (pc := 94) 1 dX4_edges_94 ol_k_iconst_1 ?_
        refine ol_goto hX (pc := 95) 99 dX4_edges_95 (by decide) ?_
        refine ol_iadd hX (pc := 99) dX4_edges_99 ?_
        refine ol_istore hX (pc := 100) [some (.ref (a 0)), none, none, some (.int x3), some (.int x4), some (.int (v5 + 1)), some (.int v6)] dX4_edges_100 (by decide) rfl rfl ?_
        refine ol_iinc hX (pc := 102) (v6 + 1) [some (.ref (a 0)), none, none, some (.int x3), some (.int x4), some (.int (v5 + 1)), some (.int (v6 + 1))] dX4_edges_102 rfl (ol_k_iinc_1 _) (by decide) rfl rfl ?_
        refine ol_goto hX (pc := 105) 51 dX4_edges_105 (by decide) ?_
        exact ih (v5 + 1) (v6 + 1) σ h
set_option maxHeartbeats 4000000 in
theorem wX4_edges_L25 {X : ol_Cx} {V : ol_Gh} {A : Nat → Prop} {a : Nat → Nat} {z : Int32 × ol_Mm} (hX : ol_CX X V A cX4_edges RX4 "edges" 7 (some .int)) (x1 : Int32) (x2 : Int32) (x3 : Int32) (x4 : Int32)   (s0 : Int32) (σ : ol_Mm) (h : oX4_edges_L25 x1 x2 x3 x4 s0 σ = some z) : ol_G X V A true (ol_Pw (some (.int z.1)) (ol_WM V a z.2)) ({ frames := 5, cells := 0, slots := 0, locals := 123 } : Room) 7 0 0 (ol_WM V a σ) 25 [some (.ref (a 0)), some (.int x1), some (.int x2), some (.int x3), some (.int x4), none, none] [.int s0, .ref (a 0), .ref (a 0)] := by
  unfold oX4_edges_L25 at h
  refine ol_iload_n hX (pc := 25) dX4_edges_25 rfl rfl ?_
  refine ol_iload_n hX (pc := 26) dX4_edges_26 rfl rfl ?_
  refine ol_iconst hX (pc := 27) 0 dX4_edges_27 ol_k_iconst_0 ?_
  obtain ⟨y1, e2, h⟩ := ol_of_bd h
  refine ol_cVr (As := [.int s0, .int x1, .int x2, .int 0]) hX (pc := 28) (wX4_passWhy V a σ s0 x1 x2 0 y1 e2) lkX4_271 dcX4_passWhy ⟨rfl, rfl⟩ ol_rr_X4_edges_X4_passWhy 0 rfl rfl (fun _ h => h) ⟨Nat.le_refl _, Nat.le_refl _⟩ (Nat.le_of_ble_eq_true rfl) dX4_edges_28 rfl ?_
  obtain ⟨y3, e4, h⟩ := ol_of_bd h
  refine ol_cVw (As := [.int y1]) hX (pc := 31) (wX4_isRefused V a σ y1 y3 e4) lkX4_180 dcX4_isRefused ol_rr_X4_edges_X4_isRefused 0 rfl rfl ⟨Nat.le_refl _, Nat.le_refl _⟩ (Nat.le_of_ble_eq_true rfl) dX4_edges_31 rfl ?_
  refine ol_if_eq hX (pc := 34) 39 dX4_edges_34 (by decide) (fun c7 => ?_) (fun c7 => ?_)
  · have h := ol_ifp c7 h
    refine ol_aload_n hX (pc := 39) dX4_edges_39 rfl rfl ?_
    refine ol_iload_n hX (pc := 40) dX4_edges_40 rfl rfl ?_
    refine ol_iload_n hX (pc := 41) dX4_edges_41 rfl rfl ?_
    obtain ⟨y5, e6, h⟩ := ol_of_bd h
    refine ol_cVw (As := [.int x1, .int x2]) hX (pc := 42) (wX4_passes V a y3.2 x1 x2 y5 e6) lkX4_275 dcX4_passes ol_rr_X4_edges_X4_passes 0 rfl rfl ⟨Nat.le_refl _, Nat.le_refl _⟩ (Nat.le_of_ble_eq_true rfl) dX4_edges_42 rfl ?_
    refine ol_iconst hX (pc := 45) 0 dX4_edges_45 ol_k_iconst_0 ?_
    refine ol_istore hX (pc := 46) [some (.ref (a 0)), some (.int x1), some (.int x2), some (.int x3), some (.int x4), some (.int 0), none] dX4_edges_46 (by decide) rfl rfl ?_
    refine ol_iconst hX (pc := 48) 1 dX4_edges_48 ol_k_iconst_1 ?_
    refine ol_istore hX (pc := 49) [some (.ref (a 0)), some (.int x1), some (.int x2), some (.int x3), some (.int x4), some (.int 0), some (.int 1)] dX4_edges_49 (by decide) rfl rfl ?_
    refine ol_Gdrop 1 ?_
    refine ol_Gdrop 2 ?_
    exact wX4_edges_L51 hX x1 x2 x3 x4 ol_fuel 0 1 y5 h
  · have h := ol_ifn c7 h
    refine ol_iconst hX (pc := 37) (-1) dX4_edges_37 ol_k_iconst_m1 ?_
    have h := ol_of_some h
    subst h
    exact ol_iret hX (pc := 38) dX4_edges_38 ⟨rfl, rfl⟩ ⟨Nat.le_refl _, Nat.le_refl _⟩
set_option maxHeartbeats 4000000 in
theorem wX4_edges (V : ol_Gh) (a : Nat → Nat) (σ : ol_Mm) (x1 : Int32) (x2 : Int32) (x3 : Int32) (x4 : Int32)  (z : Int32 × ol_Mm) (h : oX4_edges σ x1 x2 x3 x4 = some z) : ol_Mt V yX4_edges cX4_edges 7 (some .int) ({ frames := 5, cells := 0, slots := 0, locals := 123 } : Room) true [.ref (a 0), .int x1, .int x2, .int x3, .int x4] (ol_WM V a σ) (ol_Pw (some (.int z.1)) (ol_WM V a z.2)) := by
  refine ol_MtOf (L0 := [some (.ref (a 0)), some (.int x1), some (.int x2), some (.int x3), some (.int x4), none, none]) (by decide) (Nat.le_of_ble_eq_true rfl) rfl (fun X A hX => ?_)
  unfold oX4_edges at h
  refine ol_aload_n hX (pc := 0) dX4_edges_0 rfl rfl ?_
  refine ol_aload_n hX (pc := 1) dX4_edges_1 rfl rfl ?_
  refine ol_aload_n hX (pc := 2) dX4_edges_2 rfl rfl ?_
  refine ol_iload_n hX (pc := 3) dX4_edges_3 rfl rfl ?_
  obtain ⟨y1, e2, h⟩ := ol_of_bd h
  refine ol_cVr (As := [.int x3]) hX (pc := 4) (wX4_isBoard V a σ x3 y1 e2) lkX4_268 dcX4_isBoard ⟨rfl, rfl⟩ ol_rr_X4_edges_X4_isBoard 0 rfl rfl (fun _ h => h) ⟨Nat.le_refl _, Nat.le_refl _⟩ (Nat.le_of_ble_eq_true rfl) dX4_edges_4 rfl ?_
  refine ol_if_eq hX (pc := 7) 24 dX4_edges_7 (by decide) (fun c6 => ?_) (fun c6 => ?_)
  · have h := ol_ifp c6 h
    refine ol_iconst hX (pc := 24) 0 dX4_edges_24 ol_k_iconst_0 ?_
    exact wX4_edges_L25 hX x1 x2 x3 x4 0 σ h
  · have h := ol_ifn c6 h
    refine ol_iload hX (pc := 10) dX4_edges_10 rfl ?_
    refine ol_iconst hX (pc := 12) 0 dX4_edges_12 ol_k_iconst_0 ?_
    refine ol_iconst hX (pc := 13) 5 dX4_edges_13 ol_k_iconst_5 ?_
    obtain ⟨y3, e4, h⟩ := ol_of_bd h
    refine ol_cSr (As := [.int x4, .int 0, .int 5]) hX (pc := 14) (wX4_in V (ol_WM V a σ) x4 0 5 y3 e4) lkX4_83 dcX4_in ⟨rfl, rfl⟩ ol_rr_X4_edges_X4_in (fun _ h => h) ⟨Nat.le_refl _, Nat.le_refl _⟩ (Nat.le_of_ble_eq_true rfl) dX4_edges_14 rfl ?_
    refine ol_if_eq hX (pc := 17) 24 dX4_edges_17 (by decide) (fun c5 => ?_) (fun c5 => ?_)
    · have h := ol_ifp c5 h
      refine ol_iconst hX (pc := 24) 0 dX4_edges_24 ol_k_iconst_0 ?_
      exact wX4_edges_L25 hX x1 x2 x3 x4 0 σ h
    · have h := ol_ifn c5 h
      refine ol_iconst hX (pc := 20) 1 dX4_edges_20 ol_k_iconst_1 ?_
      refine ol_goto hX (pc := 21) 25 dX4_edges_21 (by decide) ?_
      exact wX4_edges_L25 hX x1 x2 x3 x4 1 σ h
set_option maxHeartbeats 4000000 in
theorem wX4_filters_L32 {X : ol_Cx} {V : ol_Gh} {A : Nat → Prop} {a : Nat → Nat} {z : Int32 × ol_Mm} (hX : ol_CX X V A cX4_filters RX4 "filters" 7 (some .int)) (x1 : Int32) (x2 : Int32)    : ∀ (n : Nat), ∀ (v3 : Int32) (v4 : Int32) (v5 : Int32) (σ : ol_Mm), oX4_filters_L32 x1 x2 n v3 v4 v5 σ = some z → ol_G X V A true (ol_Pw (some (.int z.1)) (ol_WM V a z.2)) ({ frames := 5, cells := 0, slots := 0, locals := 123 } : Room) 7 0 0 (ol_WM V a σ) 32 [some (.ref (a 0)), some (.int x1), some (.int x2), some (.int v3), some (.int v4), some (.int v5), none] [] := by
  intro n
  induction n with
  | zero =>
    intro v3 v4 v5 σ h
    exact ol_no h
  | succ n ih =>
    intro v3 v4 v5 σ h
    rw [oX4_filters_L32] at h
    refine ol_iload hX (pc := 32) dX4_filters_32 rfl ?_
    refine ol_if_lt hX (pc := 34) 90 dX4_filters_34 (by decide) (fun c7 => ?_) (fun c7 => ?_)
    · have h := ol_ifp c7 h
      refine ol_aload_n hX (pc := 90) dX4_filters_90 rfl rfl ?_
      refine ol_mg6 hX (pc := 91) dX4_filters_91 ?_
      refine ol_iconst hX (pc := 94) 1 dX4_filters_94 ol_k_iconst_1 ?_
      refine ol_iload_n hX (pc := 95) dX4_filters_95 rfl rfl ?_
      refine ol_ms2 hX (pc := 96) dX4_filters_96 ol_tn_1 (ol_in_vp (by decide)) ?_
      refine ol_iload hX (pc := 97) dX4_filters_97 rfl ?_
      have h := ol_of_some h
      subst h
      exact ol_iret hX (pc := 99) dX4_filters_99 ⟨rfl, rfl⟩ ⟨Nat.le_refl _, Nat.le_refl _⟩
    · have h := ol_ifn c7 h
      refine ol_aload_n hX (pc := 37) dX4_filters_37 rfl rfl ?_
      refine ol_mg6 hX (pc := 38) dX4_filters_38 ?_
      refine ol_iconst hX (pc := 41) 1 dX4_filters_41 ol_k_iconst_1 ?_
      refine ol_iload hX (pc := 42) dX4_filters_42 rfl ?_
      refine ol_ms2 hX (pc := 44) dX4_filters_44 ol_tn_1 (ol_in_vp (by decide)) ?_
      refine ol_aload_n hX (pc := 45) dX4_filters_45 rfl rfl ?_
      refine ol_iload_n hX (pc := 46) dX4_filters_46 rfl rfl ?_
      refine ol_iload_n hX (pc := 47) dX4_filters_47 rfl rfl ?_
      obtain ⟨y1, e2, h⟩ := ol_of_bd h
      refine ol_cVw (As := [.int x1, .int x2]) hX (pc := 48) (wX4_passes V a (ol_ms σ 2 1 v5) x1 x2 y1 e2) lkX4_275 dcX4_passes ol_rr_X4_filters_X4_passes 0 rfl rfl ⟨Nat.le_refl _, Nat.le_refl _⟩ (Nat.le_of_ble_eq_true rfl) dX4_filters_48 rfl ?_
      refine ol_aload_n hX (pc := 51) dX4_filters_51 rfl rfl ?_
      obtain ⟨y3, e4, h⟩ := ol_of_bd h
      refine ol_cVr (As := []) hX (pc := 52) (wX4_sureAt V a y1 y3 e4) lkX4_281 dcX4_sureAt ⟨rfl, rfl⟩ ol_rr_X4_filters_X4_sureAt 0 rfl rfl (fun _ h => h) ⟨Nat.le_refl _, Nat.le_refl _⟩ (Nat.le_of_ble_eq_true rfl) dX4_filters_52 rfl ?_
      refine ol_istore hX (pc := 55) [some (.ref (a 0)), some (.int x1), some (.int x2), some (.int v3), some (.int v4), some (.int v5), some (.int y3)] dX4_filters_55 (by decide) rfl rfl ?_
      refine ol_iload hX (pc := 57) dX4_filters_57 rfl ?_
      refine ol_bipush hX (pc := 59) (-2) dX4_filters_59 ol_k_bipush_m2 ?_
      refine ol_icmp_eq hX (pc := 61) 80 dX4_filters_61 (by decide) (fun c6 => ?_) (fun c6 => ?_)
      · have h := ol_ifp c6 h
        refine ol_iload hX (pc := 80) dX4_filters_80 rfl ?_
        refine ol_istore hX (pc := 82) [some (.ref (a 0)), some (.int x1), some (.int x2), some (.int v3), some (.int v4), some (.int v5), some (.int y3)] dX4_filters_82 (by decide) rfl rfl ?_
        refine ol_iinc hX (pc := 84) (v5 + (-1)) [some (.ref (a 0)), some (.int x1), some (.int x2), some (.int v3), some (.int v4), some (.int (v5 + (-1))), some (.int y3)] dX4_filters_84 rfl (ol_k_iinc_m1 _) (by decide) rfl rfl ?_
        refine ol_goto hX (pc := 87) 32 dX4_filters_87 (by decide) ?_
        refine ol_Gdrop 6 ?_
        exact ih v3 v4 (v5 + (-1)) y1 h
      · have h := ol_ifn c6 h
        refine ol_iload hX (pc := 64) dX4_filters_64 rfl ?_
        refine ol_aload_n hX (pc := 66) dX4_filters_66 rfl rfl ?_
        refine ol_mg6 hX (pc := 67) dX4_filters_67 ?_
        refine ol_iconst hX (pc := 70) 2 dX4_filters_70 ol_k_iconst_2 ?_
        refine ol_ml2 hX (pc := 71) dX4_filters_71 ol_tn_2 (ol_in_vp (by decide)) ?_
        refine ol_icmp_gt hX (pc := 72) 80 dX4_filters_72 (by decide) (fun c5 => ?_) (fun c5 => ?_)
        · have h := ol_ifp c5 h
          refine ol_iload hX (pc := 80) dX4_filters_80 rfl ?_
          refine ol_istore hX (pc := 82) [some (.ref (a 0)), some (.int x1), some (.int x2), some (.int v3), some (.int v4), some (.int v5), some (.int y3)] dX4_filters_82 (by decide) rfl rfl ?_
          refine ol_iinc hX (pc := 84) (v5 + (-1)) [some (.ref (a 0)), some (.int x1), some (.int x2), some (.int v3), some (.int v4), some (.int (v5 + (-1))), some (.int y3)] dX4_filters_84 rfl (ol_k_iinc_m1 _) (by decide) rfl rfl ?_
          refine ol_goto hX (pc := 87) 32 dX4_filters_87 (by decide) ?_
          refine ol_Gdrop 6 ?_
          exact ih v3 v4 (v5 + (-1)) y1 h
        · have h := ol_ifn c5 h
          refine ol_iload hX (pc := 75) dX4_filters_75 rfl ?_
          refine ol_goto hX (pc := 77) 82 dX4_filters_77 (by decide) ?_
          refine ol_istore hX (pc := 82) [some (.ref (a 0)), some (.int x1), some (.int x2), some (.int v3), some (.int v5), some (.int v5), some (.int y3)] dX4_filters_82 (by decide) rfl rfl ?_
          refine ol_iinc hX (pc := 84) (v5 + (-1)) [some (.ref (a 0)), some (.int x1), some (.int x2), some (.int v3), some (.int v5), some (.int (v5 + (-1))), some (.int y3)] dX4_filters_84 rfl (ol_k_iinc_m1 _) (by decide) rfl rfl ?_
          refine ol_goto hX (pc := 87) 32 dX4_filters_87 (by decide) ?_
          refine ol_Gdrop 6 ?_
          exact ih v3 v5 (v5 + (-1)) y1 h
set_option maxHeartbeats 4000000 in
theorem wX4_filters (V : ol_Gh) (a : Nat → Nat) (σ : ol_Mm) (x1 : Int32) (x2 : Int32)  (z : Int32 × ol_Mm) (h : oX4_filters σ x1 x2 = some z) : ol_Mt V yX4_filters cX4_filters 7 (some .int) ({ frames := 5, cells := 0, slots := 0, locals := 123 } : Room) true [.ref (a 0), .int x1, .int x2] (ol_WM V a σ) (ol_Pw (some (.int z.1)) (ol_WM V a z.2)) := by
  refine ol_MtOf (L0 := [some (.ref (a 0)), some (.int x1), some (.int x2), none, none, none, none]) (by decide) (Nat.le_of_ble_eq_true rfl) rfl (fun X A hX => ?_)
  unfold oX4_filters at h
  refine ol_aload_n hX (pc := 0) dX4_filters_0 rfl rfl ?_
  refine ol_aload_n hX (pc := 1) dX4_filters_1 rfl rfl ?_
  refine ol_iconst hX (pc := 2) 1 dX4_filters_2 ol_k_iconst_1 ?_
  refine ol_iload_n hX (pc := 3) dX4_filters_3 rfl rfl ?_
  refine ol_iload_n hX (pc := 4) dX4_filters_4 rfl rfl ?_
  refine ol_iconst hX (pc := 5) 0 dX4_filters_5 ol_k_iconst_0 ?_
  obtain ⟨y1, e2, h⟩ := ol_of_bd h
  refine ol_cVr (As := [.int 1, .int x1, .int x2, .int 0]) hX (pc := 6) (wX4_passWhy V a σ 1 x1 x2 0 y1 e2) lkX4_271 dcX4_passWhy ⟨rfl, rfl⟩ ol_rr_X4_filters_X4_passWhy 0 rfl rfl (fun _ h => h) ⟨Nat.le_refl _, Nat.le_refl _⟩ (Nat.le_of_ble_eq_true rfl) dX4_filters_6 rfl ?_
  obtain ⟨y3, e4, h⟩ := ol_of_bd h
  refine ol_cVw (As := [.int y1]) hX (pc := 9) (wX4_isRefused V a σ y1 y3 e4) lkX4_180 dcX4_isRefused ol_rr_X4_filters_X4_isRefused 0 rfl rfl ⟨Nat.le_refl _, Nat.le_refl _⟩ (Nat.le_of_ble_eq_true rfl) dX4_filters_9 rfl ?_
  refine ol_if_eq hX (pc := 12) 17 dX4_filters_12 (by decide) (fun c5 => ?_) (fun c5 => ?_)
  · have h := ol_ifp c5 h
    refine ol_aload_n hX (pc := 17) dX4_filters_17 rfl rfl ?_
    refine ol_mg6 hX (pc := 18) dX4_filters_18 ?_
    refine ol_iconst hX (pc := 21) 1 dX4_filters_21 ol_k_iconst_1 ?_
    refine ol_ml2 hX (pc := 22) dX4_filters_22 ol_tn_1 (ol_in_vp (by decide)) ?_
    refine ol_istore_n hX (pc := 23) [some (.ref (a 0)), some (.int x1), some (.int x2), some (.int (y3.2.1 2 1)), none, none, none] dX4_filters_23 rfl (by decide) rfl rfl ?_
    refine ol_bipush hX (pc := 24) (-2) dX4_filters_24 ol_k_bipush_m2 ?_
    refine ol_istore hX (pc := 26) [some (.ref (a 0)), some (.int x1), some (.int x2), some (.int (y3.2.1 2 1)), some (.int (-2)), none, none] dX4_filters_26 (by decide) rfl rfl ?_
    refine ol_bipush hX (pc := 28) 20 dX4_filters_28 ol_k_bipush_20 ?_
    refine ol_istore hX (pc := 30) [some (.ref (a 0)), some (.int x1), some (.int x2), some (.int (y3.2.1 2 1)), some (.int (-2)), some (.int 20), none] dX4_filters_30 (by decide) rfl rfl ?_
    exact wX4_filters_L32 hX x1 x2 ol_fuel (y3.2.1 2 1) (-2) 20 y3.2 h
  · have h := ol_ifn c5 h
    refine ol_iconst hX (pc := 15) (-1) dX4_filters_15 ol_k_iconst_m1 ?_
    have h := ol_of_some h
    subst h
    exact ol_iret hX (pc := 16) dX4_filters_16 ⟨rfl, rfl⟩ ⟨Nat.le_refl _, Nat.le_refl _⟩
set_option maxHeartbeats 4000000 in
theorem wX4_settled_L22 {X : ol_Cx} {V : ol_Gh} {A : Nat → Prop} {a : Nat → Nat} {z : Int32 × ol_Mm} (hX : ol_CX X V A cX4_settled RX4 "settled" 5 (some .int)) (x1 : Int32) (x2 : Int32)    : ∀ (n : Nat), ∀ (v3 : Int32) (v4 : Int32) (σ : ol_Mm), oX4_settled_L22 x1 x2 n v3 v4 σ = some z → ol_G X V A true (ol_Pw (some (.int z.1)) (ol_WM V a z.2)) ({ frames := 5, cells := 0, slots := 0, locals := 123 } : Room) 5 0 0 (ol_WM V a σ) 22 [some (.ref (a 0)), some (.int x1), some (.int x2), some (.int v3), some (.int v4)] [] := by
  intro n
  induction n with
  | zero =>
    intro v3 v4 σ h
    exact ol_no h
  | succ n ih =>
    intro v3 v4 σ h
    rw [oX4_settled_L22] at h
    refine ol_iload hX (pc := 22) dX4_settled_22 rfl ?_
    refine ol_iconst hX (pc := 24) 1 dX4_settled_24 ol_k_iconst_1 ?_
    refine ol_aload_n hX (pc := 25) dX4_settled_25 rfl rfl ?_
    refine ol_mg6 hX (pc := 26) dX4_settled_26 ?_
    refine ol_iconst hX (pc := 29) 3 dX4_settled_29 ol_k_iconst_3 ?_
    refine ol_ml2 hX (pc := 30) dX4_settled_30 ol_tn_3 (ol_in_vp (by decide)) ?_
    refine ol_ishl hX (pc := 31) dX4_settled_31 ?_
    refine ol_icmp_ge hX (pc := 32) 64 dX4_settled_32 (by decide) (fun c6 => ?_) (fun c6 => ?_)
    · have h := ol_ifp c6 h
      refine ol_iload_n hX (pc := 64) dX4_settled_64 rfl rfl ?_
      have h := ol_of_some h
      subst h
      exact ol_iret hX (pc := 65) dX4_settled_65 ⟨rfl, rfl⟩ ⟨Nat.le_refl _, Nat.le_refl _⟩
    · have h := ol_ifn c6 h
      refine ol_aload_n hX (pc := 35) dX4_settled_35 rfl rfl ?_
      refine ol_iload_n hX (pc := 36) dX4_settled_36 rfl rfl ?_
      refine ol_iload hX (pc := 37) dX4_settled_37 rfl ?_
      obtain ⟨y1, e2, h⟩ := ol_of_bd h
      refine ol_cVw (As := [.int x1, .int v4]) hX (pc := 39) (wX4_passes V a σ x1 v4 y1 e2) lkX4_275 dcX4_passes ol_rr_X4_settled_X4_passes 0 rfl rfl ⟨Nat.le_refl _, Nat.le_refl _⟩ (Nat.le_of_ble_eq_true rfl) dX4_settled_39 rfl ?_
      refine ol_iload_n hX (pc := 42) dX4_settled_42 rfl rfl ?_
      refine ol_aload_n hX (pc := 43) dX4_settled_43 rfl rfl ?_
      obtain ⟨y3, e4, h⟩ := ol_of_bd h
      refine ol_cVr (As := []) hX (pc := 44) (wX4_settledAt V a y1 y3 e4) lkX4_278 dcX4_settledAt ⟨rfl, rfl⟩ ol_rr_X4_settled_X4_settledAt 0 rfl rfl (fun _ h => h) ⟨Nat.le_refl _, Nat.le_refl _⟩ (Nat.le_of_ble_eq_true rfl) dX4_settled_44 rfl ?_
      refine ol_iload_n hX (pc := 47) dX4_settled_47 rfl rfl ?_
      refine ol_icmp_gt hX (pc := 48) 55 dX4_settled_48 (by decide) (fun c5 => ?_) (fun c5 => ?_)
      · have h := ol_ifp c5 h
        refine ol_iconst hX (pc := 55) 0 dX4_settled_55 ol_k_iconst_0 ?_
        refine ol_iadd hX (pc := 56) dX4_settled_56 ?_
        refine ol_istore_n hX (pc := 57) [some (.ref (a 0)), some (.int x1), some (.int x2), some (.int (v3 + 0)), some (.int v4)] dX4_settled_57 rfl (by decide) rfl rfl ?_
        refine ol_iinc hX (pc := 58) (v4 + 1) [some (.ref (a 0)), some (.int x1), some (.int x2), some (.int (v3 + 0)), some (.int (v4 + 1))] dX4_settled_58 rfl (ol_k_iinc_1 _) (by decide) rfl rfl ?_
        refine ol_goto hX (pc := 61) 22 dX4_settled_61 (by decide) ?_
        exact ih (v3 + 0) (v4 + 1) y1 h
      · have h := ol_ifn c5 h
        refine ol_iconst hX (pc := 51) 1 dX4_settled_51 ol_k_iconst_1 ?_
        refine ol_goto hX (pc := 52) 56 dX4_settled_52 (by decide) ?_
        refine ol_iadd hX (pc := 56) dX4_settled_56 ?_
        refine ol_istore_n hX (pc := 57) [some (.ref (a 0)), some (.int x1), some (.int x2), some (.int (v3 + 1)), some (.int v4)] dX4_settled_57 rfl (by decide) rfl rfl ?_
        refine ol_iinc hX (pc := 58) (v4 + 1) [some (.ref (a 0)), some (.int x1), some (.int x2), some (.int (v3 + 1)), some (.int (v4 + 1))] dX4_settled_58 rfl (ol_k_iinc_1 _) (by decide) rfl rfl ?_
        refine ol_goto hX (pc := 61) 22 dX4_settled_61 (by decide) ?_
        exact ih (v3 + 1) (v4 + 1) y1 h
set_option maxHeartbeats 4000000 in
theorem wX4_settled (V : ol_Gh) (a : Nat → Nat) (σ : ol_Mm) (x1 : Int32) (x2 : Int32)  (z : Int32 × ol_Mm) (h : oX4_settled σ x1 x2 = some z) : ol_Mt V yX4_settled cX4_settled 5 (some .int) ({ frames := 5, cells := 0, slots := 0, locals := 123 } : Room) true [.ref (a 0), .int x1, .int x2] (ol_WM V a σ) (ol_Pw (some (.int z.1)) (ol_WM V a z.2)) := by
  refine ol_MtOf (L0 := [some (.ref (a 0)), some (.int x1), some (.int x2), none, none]) (by decide) (Nat.le_of_ble_eq_true rfl) rfl (fun X A hX => ?_)
  unfold oX4_settled at h
  refine ol_aload_n hX (pc := 0) dX4_settled_0 rfl rfl ?_
  refine ol_aload_n hX (pc := 1) dX4_settled_1 rfl rfl ?_
  refine ol_iconst hX (pc := 2) 1 dX4_settled_2 ol_k_iconst_1 ?_
  refine ol_iload_n hX (pc := 3) dX4_settled_3 rfl rfl ?_
  refine ol_iconst hX (pc := 4) 1 dX4_settled_4 ol_k_iconst_1 ?_
  refine ol_iload_n hX (pc := 5) dX4_settled_5 rfl rfl ?_
  obtain ⟨y1, e2, h⟩ := ol_of_bd h
  refine ol_cVr (As := [.int 1, .int x1, .int 1, .int x2]) hX (pc := 6) (wX4_passWhy V a σ 1 x1 1 x2 y1 e2) lkX4_271 dcX4_passWhy ⟨rfl, rfl⟩ ol_rr_X4_settled_X4_passWhy 0 rfl rfl (fun _ h => h) ⟨Nat.le_refl _, Nat.le_refl _⟩ (Nat.le_of_ble_eq_true rfl) dX4_settled_6 rfl ?_
  obtain ⟨y3, e4, h⟩ := ol_of_bd h
  refine ol_cVw (As := [.int y1]) hX (pc := 9) (wX4_isRefused V a σ y1 y3 e4) lkX4_180 dcX4_isRefused ol_rr_X4_settled_X4_isRefused 0 rfl rfl ⟨Nat.le_refl _, Nat.le_refl _⟩ (Nat.le_of_ble_eq_true rfl) dX4_settled_9 rfl ?_
  refine ol_if_eq hX (pc := 12) 17 dX4_settled_12 (by decide) (fun c5 => ?_) (fun c5 => ?_)
  · have h := ol_ifp c5 h
    refine ol_iconst hX (pc := 17) 0 dX4_settled_17 ol_k_iconst_0 ?_
    refine ol_istore_n hX (pc := 18) [some (.ref (a 0)), some (.int x1), some (.int x2), some (.int 0), none] dX4_settled_18 rfl (by decide) rfl rfl ?_
    refine ol_iconst hX (pc := 19) 1 dX4_settled_19 ol_k_iconst_1 ?_
    refine ol_istore hX (pc := 20) [some (.ref (a 0)), some (.int x1), some (.int x2), some (.int 0), some (.int 1)] dX4_settled_20 (by decide) rfl rfl ?_
    exact wX4_settled_L22 hX x1 x2 ol_fuel 0 1 y3.2 h
  · have h := ol_ifn c5 h
    refine ol_iconst hX (pc := 15) (-1) dX4_settled_15 ol_k_iconst_m1 ?_
    have h := ol_of_some h
    subst h
    exact ol_iret hX (pc := 16) dX4_settled_16 ⟨rfl, rfl⟩ ⟨Nat.le_refl _, Nat.le_refl _⟩
set_option maxHeartbeats 4000000 in
theorem wX4_slowest_L24 {X : ol_Cx} {V : ol_Gh} {A : Nat → Prop} {a : Nat → Nat} {z : Int32 × ol_Mm} (hX : ol_CX X V A cX4_slowest RX4 "slowest" 5 (some .int)) (x1 : Int32)    : ∀ (n : Nat), ∀ (v2 : Int32) (v3 : Int32) (v4 : Int32) (σ : ol_Mm), oX4_slowest_L24 x1 n v2 v3 v4 σ = some z → ol_G X V A true (ol_Pw (some (.int z.1)) (ol_WM V a z.2)) ({ frames := 5, cells := 0, slots := 0, locals := 123 } : Room) 5 0 0 (ol_WM V a σ) 24 [some (.ref (a 0)), some (.int x1), some (.int v2), some (.int v3), some (.int v4)] [] := by
  intro n
  induction n with
  | zero =>
    intro v2 v3 v4 σ h
    exact ol_no h
  | succ n ih =>
    intro v2 v3 v4 σ h
    rw [oX4_slowest_L24] at h
    refine ol_iload hX (pc := 24) dX4_slowest_24 rfl ?_
    refine ol_iconst hX (pc := 26) 1 dX4_slowest_26 ol_k_iconst_1 ?_
    refine ol_aload_n hX (pc := 27) dX4_slowest_27 rfl rfl ?_
    refine ol_mg6 hX (pc := 28) dX4_slowest_28 ?_
    refine ol_iconst hX (pc := 31) 3 dX4_slowest_31 ol_k_iconst_3 ?_
    refine ol_ml2 hX (pc := 32) dX4_slowest_32 ol_tn_3 (ol_in_vp (by decide)) ?_
    refine ol_ishl hX (pc := 33) dX4_slowest_33 ?_
    refine ol_icmp_ge hX (pc := 34) 66 dX4_slowest_34 (by decide) (fun c8 => ?_) (fun c8 => ?_)
    · have h := ol_ifp c8 h
      refine ol_iload_n hX (pc := 66) dX4_slowest_66 rfl rfl ?_
      have h := ol_of_some h
      subst h
      exact ol_iret hX (pc := 67) dX4_slowest_67 ⟨rfl, rfl⟩ ⟨Nat.le_refl _, Nat.le_refl _⟩
    · have h := ol_ifn c8 h
      refine ol_aload_n hX (pc := 37) dX4_slowest_37 rfl rfl ?_
      refine ol_iload_n hX (pc := 38) dX4_slowest_38 rfl rfl ?_
      refine ol_iload hX (pc := 39) dX4_slowest_39 rfl ?_
      obtain ⟨y1, e2, h⟩ := ol_of_bd h
      refine ol_cVw (As := [.int x1, .int v4]) hX (pc := 41) (wX4_passes V a σ x1 v4 y1 e2) lkX4_275 dcX4_passes ol_rr_X4_slowest_X4_passes 0 rfl rfl ⟨Nat.le_refl _, Nat.le_refl _⟩ (Nat.le_of_ble_eq_true rfl) dX4_slowest_41 rfl ?_
      refine ol_aload_n hX (pc := 44) dX4_slowest_44 rfl rfl ?_
      obtain ⟨y3, e4, h⟩ := ol_of_bd h
      refine ol_cVr (As := []) hX (pc := 45) (wX4_settledAt V a y1 y3 e4) lkX4_278 dcX4_settledAt ⟨rfl, rfl⟩ ol_rr_X4_slowest_X4_settledAt 0 rfl rfl (fun _ h => h) ⟨Nat.le_refl _, Nat.le_refl _⟩ (Nat.le_of_ble_eq_true rfl) dX4_slowest_45 rfl ?_
      refine ol_iload_n hX (pc := 48) dX4_slowest_48 rfl rfl ?_
      refine ol_icmp_le hX (pc := 49) 60 dX4_slowest_49 (by decide) (fun c7 => ?_) (fun c7 => ?_)
      · have h := ol_ifp c7 h
        refine ol_iinc hX (pc := 60) (v4 + 1) [some (.ref (a 0)), some (.int x1), some (.int v2), some (.int v3), some (.int (v4 + 1))] dX4_slowest_60 rfl (ol_k_iinc_1 _) (by decide) rfl rfl ?_
        refine ol_goto hX (pc := 63) 24 dX4_slowest_63 (by decide) ?_
        exact ih v2 v3 (v4 + 1) y1 h
      · have h := ol_ifn c7 h
        refine ol_aload_n hX (pc := 52) dX4_slowest_52 rfl rfl ?_
        obtain ⟨y5, e6, h⟩ := ol_of_bd h
        refine ol_cVr (As := []) hX (pc := 53) (wX4_settledAt V a y1 y5 e6) lkX4_278 dcX4_settledAt ⟨rfl, rfl⟩ ol_rr_X4_slowest_X4_settledAt 0 rfl rfl (fun _ h => h) ⟨Nat.le_refl _, Nat.le_refl _⟩ (Nat.le_of_ble_eq_true rfl) dX4_slowest_53 rfl ?_
        refine ol_istore_n hX (pc := 56) [some (.ref (a 0)), some (.int x1), some (.int v2), some (.int y5), some (.int v4)] dX4_slowest_56 rfl (by decide) rfl rfl ?_
        refine ol_iload hX (pc := 57) dX4_slowest_57 rfl ?_
        refine ol_istore_n hX (pc := 59) [some (.ref (a 0)), some (.int x1), some (.int v4), some (.int y5), some (.int v4)] dX4_slowest_59 rfl (by decide) rfl rfl ?_
        refine ol_iinc hX (pc := 60) (v4 + 1) [some (.ref (a 0)), some (.int x1), some (.int v4), some (.int y5), some (.int (v4 + 1))] dX4_slowest_60 rfl (ol_k_iinc_1 _) (by decide) rfl rfl ?_
        refine ol_goto hX (pc := 63) 24 dX4_slowest_63 (by decide) ?_
        exact ih v4 y5 (v4 + 1) y1 h
set_option maxHeartbeats 4000000 in
theorem wX4_slowest (V : ol_Gh) (a : Nat → Nat) (σ : ol_Mm) (x1 : Int32)  (z : Int32 × ol_Mm) (h : oX4_slowest σ x1 = some z) : ol_Mt V yX4_slowest cX4_slowest 5 (some .int) ({ frames := 5, cells := 0, slots := 0, locals := 123 } : Room) true [.ref (a 0), .int x1] (ol_WM V a σ) (ol_Pw (some (.int z.1)) (ol_WM V a z.2)) := by
  refine ol_MtOf (L0 := [some (.ref (a 0)), some (.int x1), none, none, none]) (by decide) (Nat.le_of_ble_eq_true rfl) rfl (fun X A hX => ?_)
  unfold oX4_slowest at h
  refine ol_aload_n hX (pc := 0) dX4_slowest_0 rfl rfl ?_
  refine ol_aload_n hX (pc := 1) dX4_slowest_1 rfl rfl ?_
  refine ol_iconst hX (pc := 2) 1 dX4_slowest_2 ol_k_iconst_1 ?_
  refine ol_iload_n hX (pc := 3) dX4_slowest_3 rfl rfl ?_
  refine ol_iconst hX (pc := 4) 1 dX4_slowest_4 ol_k_iconst_1 ?_
  refine ol_iconst hX (pc := 5) 0 dX4_slowest_5 ol_k_iconst_0 ?_
  obtain ⟨y1, e2, h⟩ := ol_of_bd h
  refine ol_cVr (As := [.int 1, .int x1, .int 1, .int 0]) hX (pc := 6) (wX4_passWhy V a σ 1 x1 1 0 y1 e2) lkX4_271 dcX4_passWhy ⟨rfl, rfl⟩ ol_rr_X4_slowest_X4_passWhy 0 rfl rfl (fun _ h => h) ⟨Nat.le_refl _, Nat.le_refl _⟩ (Nat.le_of_ble_eq_true rfl) dX4_slowest_6 rfl ?_
  obtain ⟨y3, e4, h⟩ := ol_of_bd h
  refine ol_cVw (As := [.int y1]) hX (pc := 9) (wX4_isRefused V a σ y1 y3 e4) lkX4_180 dcX4_isRefused ol_rr_X4_slowest_X4_isRefused 0 rfl rfl ⟨Nat.le_refl _, Nat.le_refl _⟩ (Nat.le_of_ble_eq_true rfl) dX4_slowest_9 rfl ?_
  refine ol_if_eq hX (pc := 12) 17 dX4_slowest_12 (by decide) (fun c5 => ?_) (fun c5 => ?_)
  · have h := ol_ifp c5 h
    refine ol_iconst hX (pc := 17) 0 dX4_slowest_17 ol_k_iconst_0 ?_
    refine ol_istore_n hX (pc := 18) [some (.ref (a 0)), some (.int x1), some (.int 0), none, none] dX4_slowest_18 rfl (by decide) rfl rfl ?_
    refine ol_iconst hX (pc := 19) (-1) dX4_slowest_19 ol_k_iconst_m1 ?_
    refine ol_istore_n hX (pc := 20) [some (.ref (a 0)), some (.int x1), some (.int 0), some (.int (-1)), none] dX4_slowest_20 rfl (by decide) rfl rfl ?_
    refine ol_iconst hX (pc := 21) 1 dX4_slowest_21 ol_k_iconst_1 ?_
    refine ol_istore hX (pc := 22) [some (.ref (a 0)), some (.int x1), some (.int 0), some (.int (-1)), some (.int 1)] dX4_slowest_22 (by decide) rfl rfl ?_
    exact wX4_slowest_L24 hX x1 ol_fuel 0 (-1) 1 y3.2 h
  · have h := ol_ifn c5 h
    refine ol_iconst hX (pc := 15) (-1) dX4_slowest_15 ol_k_iconst_m1 ?_
    have h := ol_of_some h
    subst h
    exact ol_iret hX (pc := 16) dX4_slowest_16 ⟨rfl, rfl⟩ ⟨Nat.le_refl _, Nat.le_refl _⟩
set_option maxHeartbeats 4000000 in
theorem wX4_enough_L21 {X : ol_Cx} {V : ol_Gh} {A : Nat → Prop} {a : Nat → Nat} {z : Int32 × ol_Mm} (hX : ol_CX X V A cX4_enough RX4 "enough" 5 (some .int)) (x1 : Int32)    : ∀ (n : Nat), ∀ (v2 : Int32) (v3 : Int32) (σ : ol_Mm), oX4_enough_L21 x1 n v2 v3 σ = some z → ol_G X V A true (ol_Pw (some (.int z.1)) (ol_WM V a z.2)) ({ frames := 5, cells := 0, slots := 0, locals := 123 } : Room) 5 0 0 (ol_WM V a σ) 21 [some (.ref (a 0)), some (.int x1), some (.int v2), some (.int v3), none] [] := by
  intro n
  induction n with
  | zero =>
    intro v2 v3 σ h
    exact ol_no h
  | succ n ih =>
    intro v2 v3 σ h
    rw [oX4_enough_L21] at h
    refine ol_iload_n hX (pc := 21) dX4_enough_21 rfl rfl ?_
    refine ol_iconst hX (pc := 22) 1 dX4_enough_22 ol_k_iconst_1 ?_
    refine ol_aload_n hX (pc := 23) dX4_enough_23 rfl rfl ?_
    refine ol_mg6 hX (pc := 24) dX4_enough_24 ?_
    refine ol_iconst hX (pc := 27) 3 dX4_enough_27 ol_k_iconst_3 ?_
    refine ol_ml2 hX (pc := 28) dX4_enough_28 ol_tn_3 (ol_in_vp (by decide)) ?_
    refine ol_ishl hX (pc := 29) dX4_enough_29 ?_
    refine ol_icmp_ge hX (pc := 30) 74 dX4_enough_30 (by decide) (fun c7 => ?_) (fun c7 => ?_)
    · have h := ol_ifp c7 h
      refine ol_iload_n hX (pc := 74) dX4_enough_74 rfl rfl ?_
      have h := ol_of_some h
      subst h
      exact ol_iret hX (pc := 75) dX4_enough_75 ⟨rfl, rfl⟩ ⟨Nat.le_refl _, Nat.le_refl _⟩
    · have h := ol_ifn c7 h
      refine ol_aload_n hX (pc := 33) dX4_enough_33 rfl rfl ?_
      refine ol_iload_n hX (pc := 34) dX4_enough_34 rfl rfl ?_
      refine ol_iload_n hX (pc := 35) dX4_enough_35 rfl rfl ?_
      obtain ⟨y1, e2, h⟩ := ol_of_bd h
      refine ol_cVw (As := [.int x1, .int v3]) hX (pc := 36) (wX4_passes V a σ x1 v3 y1 e2) lkX4_275 dcX4_passes ol_rr_X4_enough_X4_passes 0 rfl rfl ⟨Nat.le_refl _, Nat.le_refl _⟩ (Nat.le_of_ble_eq_true rfl) dX4_enough_36 rfl ?_
      refine ol_aload_n hX (pc := 39) dX4_enough_39 rfl rfl ?_
      obtain ⟨y3, e4, h⟩ := ol_of_bd h
      refine ol_cVr (As := []) hX (pc := 40) (wX4_sureAt V a y1 y3 e4) lkX4_281 dcX4_sureAt ⟨rfl, rfl⟩ ol_rr_X4_enough_X4_sureAt 0 rfl rfl (fun _ h => h) ⟨Nat.le_refl _, Nat.le_refl _⟩ (Nat.le_of_ble_eq_true rfl) dX4_enough_40 rfl ?_
      refine ol_istore hX (pc := 43) [some (.ref (a 0)), some (.int x1), some (.int v2), some (.int v3), some (.int y3)] dX4_enough_43 (by decide) rfl rfl ?_
      refine ol_iload hX (pc := 45) dX4_enough_45 rfl ?_
      refine ol_bipush hX (pc := 47) (-2) dX4_enough_47 ol_k_bipush_m2 ?_
      refine ol_icmp_ne hX (pc := 49) 55 dX4_enough_49 (by decide) (fun c6 => ?_) (fun c6 => ?_)
      · have h := ol_ifn c6 h
        refine ol_iload hX (pc := 55) dX4_enough_55 rfl ?_
        refine ol_iload_n hX (pc := 57) dX4_enough_57 rfl rfl ?_
        refine ol_icmp_le hX (pc := 58) 66 dX4_enough_58 (by decide) (fun c5 => ?_) (fun c5 => ?_)
        · have h := ol_ifp c5 h
          refine ol_iload_n hX (pc := 66) dX4_enough_66 rfl rfl ?_
          refine ol_istore_n hX (pc := 67) [some (.ref (a 0)), some (.int x1), some (.int v2), some (.int v3), some (.int y3)] dX4_enough_67 rfl (by decide) rfl rfl ?_
          refine ol_iinc hX (pc := 68) (v3 + 1) [some (.ref (a 0)), some (.int x1), some (.int v2), some (.int (v3 + 1)), some (.int y3)] dX4_enough_68 rfl (ol_k_iinc_1 _) (by decide) rfl rfl ?_
          refine ol_goto hX (pc := 71) 21 dX4_enough_71 (by decide) ?_
          refine ol_Gdrop 4 ?_
          exact ih v2 (v3 + 1) y1 h
        · have h := ol_ifn c5 h
          refine ol_iload hX (pc := 61) dX4_enough_61 rfl ?_
          refine ol_goto hX (pc := 63) 67 dX4_enough_63 (by decide) ?_
          refine ol_istore_n hX (pc := 67) [some (.ref (a 0)), some (.int x1), some (.int y3), some (.int v3), some (.int y3)] dX4_enough_67 rfl (by decide) rfl rfl ?_
          refine ol_iinc hX (pc := 68) (v3 + 1) [some (.ref (a 0)), some (.int x1), some (.int y3), some (.int (v3 + 1)), some (.int y3)] dX4_enough_68 rfl (ol_k_iinc_1 _) (by decide) rfl rfl ?_
          refine ol_goto hX (pc := 71) 21 dX4_enough_71 (by decide) ?_
          refine ol_Gdrop 4 ?_
          exact ih y3 (v3 + 1) y1 h
      · have h := ol_ifp c6 h
        refine ol_bipush hX (pc := 52) (-2) dX4_enough_52 ol_k_bipush_m2 ?_
        have h := ol_of_some h
        subst h
        exact ol_iret hX (pc := 54) dX4_enough_54 ⟨rfl, rfl⟩ ⟨Nat.le_refl _, Nat.le_refl _⟩
set_option maxHeartbeats 4000000 in
theorem wX4_enough (V : ol_Gh) (a : Nat → Nat) (σ : ol_Mm) (x1 : Int32)  (z : Int32 × ol_Mm) (h : oX4_enough σ x1 = some z) : ol_Mt V yX4_enough cX4_enough 5 (some .int) ({ frames := 5, cells := 0, slots := 0, locals := 123 } : Room) true [.ref (a 0), .int x1] (ol_WM V a σ) (ol_Pw (some (.int z.1)) (ol_WM V a z.2)) := by
  refine ol_MtOf (L0 := [some (.ref (a 0)), some (.int x1), none, none, none]) (by decide) (Nat.le_of_ble_eq_true rfl) rfl (fun X A hX => ?_)
  unfold oX4_enough at h
  refine ol_aload_n hX (pc := 0) dX4_enough_0 rfl rfl ?_
  refine ol_aload_n hX (pc := 1) dX4_enough_1 rfl rfl ?_
  refine ol_iconst hX (pc := 2) 1 dX4_enough_2 ol_k_iconst_1 ?_
  refine ol_iload_n hX (pc := 3) dX4_enough_3 rfl rfl ?_
  refine ol_iconst hX (pc := 4) 1 dX4_enough_4 ol_k_iconst_1 ?_
  refine ol_iconst hX (pc := 5) 0 dX4_enough_5 ol_k_iconst_0 ?_
  obtain ⟨y1, e2, h⟩ := ol_of_bd h
  refine ol_cVr (As := [.int 1, .int x1, .int 1, .int 0]) hX (pc := 6) (wX4_passWhy V a σ 1 x1 1 0 y1 e2) lkX4_271 dcX4_passWhy ⟨rfl, rfl⟩ ol_rr_X4_enough_X4_passWhy 0 rfl rfl (fun _ h => h) ⟨Nat.le_refl _, Nat.le_refl _⟩ (Nat.le_of_ble_eq_true rfl) dX4_enough_6 rfl ?_
  obtain ⟨y3, e4, h⟩ := ol_of_bd h
  refine ol_cVw (As := [.int y1]) hX (pc := 9) (wX4_isRefused V a σ y1 y3 e4) lkX4_180 dcX4_isRefused ol_rr_X4_enough_X4_isRefused 0 rfl rfl ⟨Nat.le_refl _, Nat.le_refl _⟩ (Nat.le_of_ble_eq_true rfl) dX4_enough_9 rfl ?_
  refine ol_if_eq hX (pc := 12) 17 dX4_enough_12 (by decide) (fun c5 => ?_) (fun c5 => ?_)
  · have h := ol_ifp c5 h
    refine ol_iconst hX (pc := 17) 0 dX4_enough_17 ol_k_iconst_0 ?_
    refine ol_istore_n hX (pc := 18) [some (.ref (a 0)), some (.int x1), some (.int 0), none, none] dX4_enough_18 rfl (by decide) rfl rfl ?_
    refine ol_iconst hX (pc := 19) 1 dX4_enough_19 ol_k_iconst_1 ?_
    refine ol_istore_n hX (pc := 20) [some (.ref (a 0)), some (.int x1), some (.int 0), some (.int 1), none] dX4_enough_20 rfl (by decide) rfl rfl ?_
    exact wX4_enough_L21 hX x1 ol_fuel 0 1 y3.2 h
  · have h := ol_ifn c5 h
    refine ol_iconst hX (pc := 15) (-1) dX4_enough_15 ol_k_iconst_m1 ?_
    have h := ol_of_some h
    subst h
    exact ol_iret hX (pc := 16) dX4_enough_16 ⟨rfl, rfl⟩ ⟨Nat.le_refl _, Nat.le_refl _⟩
set_option maxHeartbeats 4000000 in
theorem wX4_elects_L178 {X : ol_Cx} {V : ol_Gh} {A : Nat → Prop} {a : Nat → Nat} {z : Int32 × ol_Mm} (hX : ol_CX X V A cX4_elects RX4 "elects" 6 (some .int)) (x1 : Int32) (x2 : Int32)    : ∀ (n : Nat), ∀ (v3 : Int32) (v4 : Int32) (σ : ol_Mm), oX4_elects_L178 x1 x2 n v3 v4 σ = some z → ol_G X V A true (ol_Pw (some (.int z.1)) (ol_WM V a z.2)) ({ frames := 4, cells := 0, slots := 0, locals := 100 } : Room) 6 0 0 (ol_WM V a σ) 178 [none, none, none, some (.int v3), some (.int v4), none] [] := by
  intro n
  induction n with
  | zero =>
    intro v3 v4 σ h
    exact ol_no h
  | succ n ih =>
    intro v3 v4 σ h
    rw [oX4_elects_L178] at h
    refine ol_iload_n hX (pc := 178) dX4_elects_178 rfl rfl ?_
    refine ol_if_eq hX (pc := 179) 197 dX4_elects_179 (by decide) (fun c10 => ?_) (fun c10 => ?_)
    · have h := ol_ifp c10 h
      refine ol_iload_n hX (pc := 197) dX4_elects_197 rfl rfl ?_
      obtain ⟨y1, e2, h⟩ := ol_of_bd h
      refine ol_cSr (As := [.int v3]) hX (pc := 198) (wX4_bitsOf V (ol_WM V a σ) v3 y1 e2) lkX4_209 dcX4_bitsOf ⟨rfl, rfl⟩ ol_rr_X4_elects_X4_bitsOf (fun _ h => h) ⟨Nat.le_refl _, Nat.le_refl _⟩ (Nat.le_of_ble_eq_true rfl) dX4_elects_198 rfl ?_
      refine ol_iconst hX (pc := 201) 1 dX4_elects_201 ol_k_iconst_1 ?_
      refine ol_icmp_ne hX (pc := 202) 210 dX4_elects_202 (by decide) (fun c3 => ?_) (fun c3 => ?_)
      · have h := ol_ifn c3 h
        refine ol_bipush hX (pc := 210) (-2) dX4_elects_210 ol_k_bipush_m2 ?_
        have h := ol_of_some h
        subst h
        exact ol_iret hX (pc := 212) dX4_elects_212 ⟨rfl, rfl⟩ ⟨Nat.le_refl _, Nat.le_refl _⟩
      · have h := ol_ifp c3 h
        refine ol_iload hX (pc := 205) dX4_elects_205 rfl ?_
        refine ol_goto hX (pc := 207) 212 dX4_elects_207 (by decide) ?_
        have h := ol_of_some h
        subst h
        exact ol_iret hX (pc := 212) dX4_elects_212 ⟨rfl, rfl⟩ ⟨Nat.le_refl _, Nat.le_refl _⟩
    · have h := ol_ifn c10 h
      refine ol_iload_n hX (pc := 182) dX4_elects_182 rfl rfl ?_
      refine ol_iload hX (pc := 183) dX4_elects_183 rfl ?_
      obtain ⟨y4, e5, h⟩ := ol_of_bd h
      refine ol_cSr (As := [.int v3, .int v4]) hX (pc := 185) (wX4_has V (ol_WM V a σ) v3 v4 y4 e5) lkX4_221 dcX4_has ⟨rfl, rfl⟩ ol_rr_X4_elects_X4_has (fun _ h => h) ⟨Nat.le_refl _, Nat.le_refl _⟩ (Nat.le_of_ble_eq_true rfl) dX4_elects_185 rfl ?_
      refine ol_if_ne hX (pc := 188) 197 dX4_elects_188 (by decide) (fun c9 => ?_) (fun c9 => ?_)
      · have h := ol_ifn c9 h
        refine ol_iload_n hX (pc := 197) dX4_elects_197 rfl rfl ?_
        obtain ⟨y6, e7, h⟩ := ol_of_bd h
        refine ol_cSr (As := [.int v3]) hX (pc := 198) (wX4_bitsOf V (ol_WM V a σ) v3 y6 e7) lkX4_209 dcX4_bitsOf ⟨rfl, rfl⟩ ol_rr_X4_elects_X4_bitsOf (fun _ h => h) ⟨Nat.le_refl _, Nat.le_refl _⟩ (Nat.le_of_ble_eq_true rfl) dX4_elects_198 rfl ?_
        refine ol_iconst hX (pc := 201) 1 dX4_elects_201 ol_k_iconst_1 ?_
        refine ol_icmp_ne hX (pc := 202) 210 dX4_elects_202 (by decide) (fun c8 => ?_) (fun c8 => ?_)
        · have h := ol_ifn c8 h
          refine ol_bipush hX (pc := 210) (-2) dX4_elects_210 ol_k_bipush_m2 ?_
          have h := ol_of_some h
          subst h
          exact ol_iret hX (pc := 212) dX4_elects_212 ⟨rfl, rfl⟩ ⟨Nat.le_refl _, Nat.le_refl _⟩
        · have h := ol_ifp c8 h
          refine ol_iload hX (pc := 205) dX4_elects_205 rfl ?_
          refine ol_goto hX (pc := 207) 212 dX4_elects_207 (by decide) ?_
          have h := ol_of_some h
          subst h
          exact ol_iret hX (pc := 212) dX4_elects_212 ⟨rfl, rfl⟩ ⟨Nat.le_refl _, Nat.le_refl _⟩
      · have h := ol_ifp c9 h
        refine ol_iinc hX (pc := 191) (v4 + 1) [none, none, none, some (.int v3), some (.int (v4 + 1)), none] dX4_elects_191 rfl (ol_k_iinc_1 _) (by decide) rfl rfl ?_
        refine ol_goto hX (pc := 194) 178 dX4_elects_194 (by decide) ?_
        exact ih v3 (v4 + 1) σ h
set_option maxHeartbeats 4000000 in
theorem wX4_elects_L151 {X : ol_Cx} {V : ol_Gh} {A : Nat → Prop} {a : Nat → Nat} {z : Int32 × ol_Mm} (hX : ol_CX X V A cX4_elects RX4 "elects" 6 (some .int)) (x1 : Int32) (x2 : Int32)  (k20 : Int32 → Int32 → ol_Mm → Option (Int32 × ol_Mm)) (hk20 : ∀ (v3 : Int32) (v4 : Int32) (σ : ol_Mm), k20 v3 v4 σ = some z → ol_G X V A true (ol_Pw (some (.int z.1)) (ol_WM V a z.2)) ({ frames := 4, cells := 0, slots := 0, locals := 100 } : Room) 6 0 0 (ol_WM V a σ) 20 [some (.ref (a 0)), none, some (.int x2), some (.int v3), some (.int v4), none] []) (v3 : Int32) (v4 : Int32) (s0 : Int32) (σ : ol_Mm) (h : oX4_elects_L151 x1 x2 k20 v3 v4 s0 σ = some z) : ol_G X V A true (ol_Pw (some (.int z.1)) (ol_WM V a z.2)) ({ frames := 4, cells := 0, slots := 0, locals := 100 } : Room) 6 0 0 (ol_WM V a σ) 151 [some (.ref (a 0)), none, some (.int x2), some (.int v3), some (.int v4), none] [.int s0, .ref (a 0)] := by
  unfold oX4_elects_L151 at h
  refine ol_mp31 hX (pc := 151) dX4_elects_151 ?_
  refine ol_aload_n hX (pc := 154) dX4_elects_154 rfl rfl ?_
  refine ol_iload hX (pc := 155) dX4_elects_155 rfl ?_
  refine ol_iconst hX (pc := 157) 2 dX4_elects_157 ol_k_iconst_2 ?_
  refine ol_icmp_ne hX (pc := 158) 165 dX4_elects_158 (by decide) (fun c1 => ?_) (fun c1 => ?_)
  · have h := ol_ifn c1 h
    refine ol_iconst hX (pc := 165) 0 dX4_elects_165 ol_k_iconst_0 ?_
    refine ol_mp32 hX (pc := 166) dX4_elects_166 ?_
    refine ol_iinc hX (pc := 169) (v4 + 1) [some (.ref (a 0)), none, some (.int x2), some (.int v3), some (.int (v4 + 1)), none] dX4_elects_169 rfl (ol_k_iinc_1 _) (by decide) rfl rfl ?_
    refine ol_goto hX (pc := 172) 20 dX4_elects_172 (by decide) ?_
    exact hk20 v3 (v4 + 1) (ol_ms (ol_ms σ 0 31 s0) 0 32 0) h
  · have h := ol_ifp c1 h
    refine ol_iload_n hX (pc := 161) dX4_elects_161 rfl rfl ?_
    refine ol_goto hX (pc := 162) 166 dX4_elects_162 (by decide) ?_
    refine ol_mp32 hX (pc := 166) dX4_elects_166 ?_
    refine ol_iinc hX (pc := 169) (v4 + 1) [some (.ref (a 0)), none, some (.int x2), some (.int v3), some (.int (v4 + 1)), none] dX4_elects_169 rfl (ol_k_iinc_1 _) (by decide) rfl rfl ?_
    refine ol_goto hX (pc := 172) 20 dX4_elects_172 (by decide) ?_
    exact hk20 v3 (v4 + 1) (ol_ms (ol_ms σ 0 31 s0) 0 32 v3) h
set_option maxHeartbeats 4000000 in
theorem wX4_elects_L121 {X : ol_Cx} {V : ol_Gh} {A : Nat → Prop} {a : Nat → Nat} {z : Int32 × ol_Mm} (hX : ol_CX X V A cX4_elects RX4 "elects" 6 (some .int)) (x1 : Int32) (x2 : Int32)  (k20 : Int32 → Int32 → ol_Mm → Option (Int32 × ol_Mm)) (hk20 : ∀ (v3 : Int32) (v4 : Int32) (σ : ol_Mm), k20 v3 v4 σ = some z → ol_G X V A true (ol_Pw (some (.int z.1)) (ol_WM V a z.2)) ({ frames := 4, cells := 0, slots := 0, locals := 100 } : Room) 6 0 0 (ol_WM V a σ) 20 [some (.ref (a 0)), none, some (.int x2), some (.int v3), some (.int v4), none] []) (v4 : Int32) (s0 : Int32) (s1 : Int32) (σ : ol_Mm) (h : oX4_elects_L121 x1 x2 k20 v4 s0 s1 σ = some z) : ol_G X V A true (ol_Pw (some (.int z.1)) (ol_WM V a z.2)) ({ frames := 4, cells := 0, slots := 0, locals := 100 } : Room) 6 0 0 (ol_WM V a σ) 121 [some (.ref (a 0)), none, some (.int x2), none, some (.int v4), none] [.int s0, .int s1, .ref (a 0)] := by
  unfold oX4_elects_L121 at h
  refine ol_iadd hX (pc := 121) dX4_elects_121 ?_
  refine ol_mp30 hX (pc := 122) dX4_elects_122 ?_
  refine ol_aload_n hX (pc := 125) dX4_elects_125 rfl rfl ?_
  refine ol_aload_n hX (pc := 126) dX4_elects_126 rfl rfl ?_
  refine ol_mg6 hX (pc := 127) dX4_elects_127 ?_
  refine ol_iconst hX (pc := 130) 2 dX4_elects_130 ol_k_iconst_2 ?_
  refine ol_ml2 hX (pc := 131) dX4_elects_131 ol_tn_2 (ol_in_vp (by decide)) ?_
  obtain ⟨y1, e2, h⟩ := ol_of_bd h
  refine ol_cVr (As := [.int ((ol_ms σ 0 30 (s1 + s0)).1 2 2)]) hX (pc := 132) (wX4_winnersAt V a (ol_ms σ 0 30 (s1 + s0)) ((ol_ms σ 0 30 (s1 + s0)).1 2 2) y1 e2) lkX4_262 dcX4_winnersAt ⟨rfl, rfl⟩ ol_rr_X4_elects_X4_winnersAt 0 rfl rfl (fun _ h => h) ⟨Nat.le_refl _, Nat.le_refl _⟩ (Nat.le_of_ble_eq_true rfl) dX4_elects_132 rfl ?_
  refine ol_istore_n hX (pc := 135) [some (.ref (a 0)), none, some (.int x2), some (.int y1), some (.int v4), none] dX4_elects_135 rfl (by decide) rfl rfl ?_
  refine ol_aload_n hX (pc := 136) dX4_elects_136 rfl rfl ?_
  refine ol_iload hX (pc := 137) dX4_elects_137 rfl ?_
  refine ol_iconst hX (pc := 139) 1 dX4_elects_139 ol_k_iconst_1 ?_
  refine ol_icmp_ne hX (pc := 140) 147 dX4_elects_140 (by decide) (fun c3 => ?_) (fun c3 => ?_)
  · have h := ol_ifn c3 h
    refine ol_aload_n hX (pc := 147) dX4_elects_147 rfl rfl ?_
    refine ol_mg31 hX (pc := 148) dX4_elects_148 ?_
    exact wX4_elects_L151 hX x1 x2 k20 hk20 y1 v4 ((ol_ms σ 0 30 (s1 + s0)).1 0 31) (ol_ms σ 0 30 (s1 + s0)) h
  · have h := ol_ifp c3 h
    refine ol_iload_n hX (pc := 143) dX4_elects_143 rfl rfl ?_
    refine ol_goto hX (pc := 144) 151 dX4_elects_144 (by decide) ?_
    exact wX4_elects_L151 hX x1 x2 k20 hk20 y1 v4 y1 (ol_ms σ 0 30 (s1 + s0)) h
set_option maxHeartbeats 4000000 in
theorem wX4_elects_L33 {X : ol_Cx} {V : ol_Gh} {A : Nat → Prop} {a : Nat → Nat} {z : Int32 × ol_Mm} (hX : ol_CX X V A cX4_elects RX4 "elects" 6 (some .int)) (x1 : Int32) (x2 : Int32)  (k20 : Int32 → Int32 → ol_Mm → Option (Int32 × ol_Mm)) (hk20 : ∀ (v3 : Int32) (v4 : Int32) (σ : ol_Mm), k20 v3 v4 σ = some z → ol_G X V A true (ol_Pw (some (.int z.1)) (ol_WM V a z.2)) ({ frames := 4, cells := 0, slots := 0, locals := 100 } : Room) 6 0 0 (ol_WM V a σ) 20 [some (.ref (a 0)), none, some (.int x2), some (.int v3), some (.int v4), none] [])  : ∀ (n : Nat), ∀ (v3 : Int32) (v4 : Int32) (v5 : Int32) (σ : ol_Mm), oX4_elects_L33 x1 x2 k20 n v3 v4 v5 σ = some z → ol_G X V A true (ol_Pw (some (.int z.1)) (ol_WM V a z.2)) ({ frames := 4, cells := 0, slots := 0, locals := 100 } : Room) 6 0 0 (ol_WM V a σ) 33 [some (.ref (a 0)), none, some (.int x2), some (.int v3), some (.int v4), some (.int v5)] [] := by
  intro n
  induction n with
  | zero =>
    intro v3 v4 v5 σ h
    exact ol_no h
  | succ n ih =>
    intro v3 v4 v5 σ h
    rw [oX4_elects_L33] at h
    refine ol_iload hX (pc := 33) dX4_elects_33 rfl ?_
    refine ol_aload_n hX (pc := 35) dX4_elects_35 rfl rfl ?_
    refine ol_mg6 hX (pc := 36) dX4_elects_36 ?_
    refine ol_iconst hX (pc := 39) 3 dX4_elects_39 ol_k_iconst_3 ?_
    refine ol_ml2 hX (pc := 40) dX4_elects_40 ol_tn_3 (ol_in_vp (by decide)) ?_
    refine ol_icmp_ge hX (pc := 41) 93 dX4_elects_41 (by decide) (fun c19 => ?_) (fun c19 => ?_)
    · have h := ol_ifp c19 h
      refine ol_aload_n hX (pc := 93) dX4_elects_93 rfl rfl ?_
      refine ol_iload_n hX (pc := 94) dX4_elects_94 rfl rfl ?_
      obtain ⟨y1, e2, h⟩ := ol_of_bd h
      refine ol_cVw (As := [.int v3]) hX (pc := 95) (wX4_laysPass V a σ v3 y1 e2) lkX4_253 dcX4_laysPass ol_rr_X4_elects_X4_laysPass 0 rfl rfl ⟨Nat.le_refl _, Nat.le_refl _⟩ (Nat.le_of_ble_eq_true rfl) dX4_elects_95 rfl ?_
      refine ol_aload_n hX (pc := 98) dX4_elects_98 rfl rfl ?_
      refine ol_dup hX (pc := 99) dX4_elects_99 rfl ?_
      refine ol_mg30 hX (pc := 100) dX4_elects_100 ?_
      refine ol_aload_n hX (pc := 103) dX4_elects_103 rfl rfl ?_
      refine ol_aload_n hX (pc := 104) dX4_elects_104 rfl rfl ?_
      refine ol_mg6 hX (pc := 105) dX4_elects_105 ?_
      refine ol_iconst hX (pc := 108) 2 dX4_elects_108 ol_k_iconst_2 ?_
      refine ol_ml2 hX (pc := 109) dX4_elects_109 ol_tn_2 (ol_in_vp (by decide)) ?_
      obtain ⟨y3, e4, h⟩ := ol_of_bd h
      refine ol_cVr (As := [.int (y1.1 2 2)]) hX (pc := 110) (wX4_isFaultyAt V a y1 (y1.1 2 2) y3 e4) lkX4_284 dcX4_isFaultyAt ⟨rfl, rfl⟩ ol_rr_X4_elects_X4_isFaultyAt 0 rfl rfl (fun _ h => h) ⟨Nat.le_refl _, Nat.le_refl _⟩ (Nat.le_of_ble_eq_true rfl) dX4_elects_110 rfl ?_
      refine ol_if_eq hX (pc := 113) 120 dX4_elects_113 (by decide) (fun c5 => ?_) (fun c5 => ?_)
      · have h := ol_ifp c5 h
        refine ol_iconst hX (pc := 120) 0 dX4_elects_120 ol_k_iconst_0 ?_
        refine ol_Gdrop 3 ?_
        refine ol_Gdrop 5 ?_
        exact wX4_elects_L121 hX x1 x2 k20 hk20 v4 0 (y1.1 0 30) y1 h
      · have h := ol_ifn c5 h
        refine ol_iconst hX (pc := 116) 1 dX4_elects_116 ol_k_iconst_1 ?_
        refine ol_goto hX (pc := 117) 121 dX4_elects_117 (by decide) ?_
        refine ol_Gdrop 3 ?_
        refine ol_Gdrop 5 ?_
        exact wX4_elects_L121 hX x1 x2 k20 hk20 v4 1 (y1.1 0 30) y1 h
    · have h := ol_ifn c19 h
      refine ol_aload_n hX (pc := 44) dX4_elects_44 rfl rfl ?_
      refine ol_mg22 hX (pc := 45) dX4_elects_45 ?_
      refine ol_iload hX (pc := 48) dX4_elects_48 rfl ?_
      refine ol_iload_n hX (pc := 50) dX4_elects_50 rfl rfl ?_
      refine ol_if_eq hX (pc := 51) 78 dX4_elects_51 (by decide) (fun c18 => ?_) (fun c18 => ?_)
      · have h := ol_ifp c18 h
        refine ol_aload_n hX (pc := 78) dX4_elects_78 rfl rfl ?_
        refine ol_iload hX (pc := 79) dX4_elects_79 rfl ?_
        refine ol_iload hX (pc := 81) dX4_elects_81 rfl ?_
        obtain ⟨y6, e7, h⟩ := ol_of_bd h
        refine ol_cVr (As := [.int v5, .int v4]) hX (pc := 83) (wX4_wordOf V a σ v5 v4 y6 e7) lkX4_250 dcX4_wordOf ⟨rfl, rfl⟩ ol_rr_X4_elects_X4_wordOf 0 rfl rfl (fun _ h => h) ⟨Nat.le_refl _, Nat.le_refl _⟩ (Nat.le_of_ble_eq_true rfl) dX4_elects_83 rfl ?_
        obtain ⟨g8, h⟩ := ol_of_og h
        refine ol_ms8 hX (pc := 86) dX4_elects_86 rfl (ol_in_vp g8) ?_
        refine ol_iinc hX (pc := 87) (v5 + 1) [some (.ref (a 0)), none, some (.int x2), some (.int v3), some (.int v4), some (.int (v5 + 1))] dX4_elects_87 rfl (ol_k_iinc_1 _) (by decide) rfl rfl ?_
        refine ol_goto hX (pc := 90) 33 dX4_elects_90 (by decide) ?_
        exact ih v3 v4 (v5 + 1) (ol_ms σ 8 v5.toNatClampNeg y6) h
      · have h := ol_ifn c18 h
        refine ol_aload_n hX (pc := 54) dX4_elects_54 rfl rfl ?_
        refine ol_mg18 hX (pc := 55) dX4_elects_55 ?_
        refine ol_iload hX (pc := 58) dX4_elects_58 rfl ?_
        refine ol_iload hX (pc := 60) dX4_elects_60 rfl ?_
        refine ol_iconst hX (pc := 62) 1 dX4_elects_62 ol_k_iconst_1 ?_
        refine ol_icmp_ne hX (pc := 63) 70 dX4_elects_63 (by decide) (fun c17 => ?_) (fun c17 => ?_)
        · have h := ol_ifn c17 h
          refine ol_iconst hX (pc := 70) 5 dX4_elects_70 ol_k_iconst_5 ?_
          obtain ⟨y9, e10, h⟩ := ol_of_bd h
          refine ol_cSr (As := [.int v5, .int 5]) hX (pc := 71) (wX4_at V (ol_WM V a σ) v5 5 y9 e10) lkX4_201 dcX4_at ⟨rfl, rfl⟩ ol_rr_X4_elects_X4_at (fun _ h => h) ⟨Nat.le_refl _, Nat.le_refl _⟩ (Nat.le_of_ble_eq_true rfl) dX4_elects_71 rfl ?_
          obtain ⟨g11, h⟩ := ol_of_og h
          refine ol_ml5 hX (pc := 74) dX4_elects_74 rfl (ol_in_vp g11) ?_
          refine ol_goto hX (pc := 75) 86 dX4_elects_75 (by decide) ?_
          obtain ⟨g12, h⟩ := ol_of_og h
          refine ol_ms8 hX (pc := 86) dX4_elects_86 rfl (ol_in_vp g12) ?_
          refine ol_iinc hX (pc := 87) (v5 + 1) [some (.ref (a 0)), none, some (.int x2), some (.int v3), some (.int v4), some (.int (v5 + 1))] dX4_elects_87 rfl (ol_k_iinc_1 _) (by decide) rfl rfl ?_
          refine ol_goto hX (pc := 90) 33 dX4_elects_90 (by decide) ?_
          exact ih v3 v4 (v5 + 1) (ol_ms σ 8 v5.toNatClampNeg (σ.1 5 y9.toNatClampNeg)) h
        · have h := ol_ifp c17 h
          refine ol_iconst hX (pc := 66) 4 dX4_elects_66 ol_k_iconst_4 ?_
          refine ol_goto hX (pc := 67) 71 dX4_elects_67 (by decide) ?_
          obtain ⟨y13, e14, h⟩ := ol_of_bd h
          refine ol_cSr (As := [.int v5, .int 4]) hX (pc := 71) (wX4_at V (ol_WM V a σ) v5 4 y13 e14) lkX4_201 dcX4_at ⟨rfl, rfl⟩ ol_rr_X4_elects_X4_at (fun _ h => h) ⟨Nat.le_refl _, Nat.le_refl _⟩ (Nat.le_of_ble_eq_true rfl) dX4_elects_71 rfl ?_
          obtain ⟨g15, h⟩ := ol_of_og h
          refine ol_ml5 hX (pc := 74) dX4_elects_74 rfl (ol_in_vp g15) ?_
          refine ol_goto hX (pc := 75) 86 dX4_elects_75 (by decide) ?_
          obtain ⟨g16, h⟩ := ol_of_og h
          refine ol_ms8 hX (pc := 86) dX4_elects_86 rfl (ol_in_vp g16) ?_
          refine ol_iinc hX (pc := 87) (v5 + 1) [some (.ref (a 0)), none, some (.int x2), some (.int v3), some (.int v4), some (.int (v5 + 1))] dX4_elects_87 rfl (ol_k_iinc_1 _) (by decide) rfl rfl ?_
          refine ol_goto hX (pc := 90) 33 dX4_elects_90 (by decide) ?_
          exact ih v3 v4 (v5 + 1) (ol_ms σ 8 v5.toNatClampNeg (σ.1 5 y13.toNatClampNeg)) h
set_option maxHeartbeats 4000000 in
theorem wX4_elects_L20 {X : ol_Cx} {V : ol_Gh} {A : Nat → Prop} {a : Nat → Nat} {z : Int32 × ol_Mm} (hX : ol_CX X V A cX4_elects RX4 "elects" 6 (some .int)) (x1 : Int32) (x2 : Int32)    : ∀ (n : Nat), ∀ (v3 : Int32) (v4 : Int32) (σ : ol_Mm), oX4_elects_L20 x1 x2 n v3 v4 σ = some z → ol_G X V A true (ol_Pw (some (.int z.1)) (ol_WM V a z.2)) ({ frames := 4, cells := 0, slots := 0, locals := 100 } : Room) 6 0 0 (ol_WM V a σ) 20 [some (.ref (a 0)), none, some (.int x2), some (.int v3), some (.int v4), none] [] := by
  intro n
  induction n with
  | zero =>
    intro v3 v4 σ h
    exact ol_no h
  | succ n ih =>
    intro v3 v4 σ h
    rw [oX4_elects_L20] at h
    refine ol_iload hX (pc := 20) dX4_elects_20 rfl ?_
    refine ol_iconst hX (pc := 22) 3 dX4_elects_22 ol_k_iconst_3 ?_
    refine ol_icmp_ge hX (pc := 23) 175 dX4_elects_23 (by decide) (fun c2 => ?_) (fun c2 => ?_)
    · have h := ol_ifp c2 h
      refine ol_iconst hX (pc := 175) 0 dX4_elects_175 ol_k_iconst_0 ?_
      refine ol_istore hX (pc := 176) [some (.ref (a 0)), none, some (.int x2), some (.int v3), some (.int 0), none] dX4_elects_176 (by decide) rfl rfl ?_
      refine ol_Gdrop 0 ?_
      refine ol_Gdrop 2 ?_
      exact wX4_elects_L178 hX x1 x2 ol_fuel v3 0 σ h
    · have h := ol_ifn c2 h
      refine ol_iload_n hX (pc := 26) dX4_elects_26 rfl rfl ?_
      refine ol_if_eq hX (pc := 27) 175 dX4_elects_27 (by decide) (fun c1 => ?_) (fun c1 => ?_)
      · have h := ol_ifp c1 h
        refine ol_iconst hX (pc := 175) 0 dX4_elects_175 ol_k_iconst_0 ?_
        refine ol_istore hX (pc := 176) [some (.ref (a 0)), none, some (.int x2), some (.int v3), some (.int 0), none] dX4_elects_176 (by decide) rfl rfl ?_
        refine ol_Gdrop 0 ?_
        refine ol_Gdrop 2 ?_
        exact wX4_elects_L178 hX x1 x2 ol_fuel v3 0 σ h
      · have h := ol_ifn c1 h
        refine ol_iconst hX (pc := 30) 0 dX4_elects_30 ol_k_iconst_0 ?_
        refine ol_istore hX (pc := 31) [some (.ref (a 0)), none, some (.int x2), some (.int v3), some (.int v4), some (.int 0)] dX4_elects_31 (by decide) rfl rfl ?_
        exact wX4_elects_L33 hX x1 x2 (oX4_elects_L20 x1 x2 n) ih ol_fuel v3 v4 0 σ h
set_option maxHeartbeats 4000000 in
theorem wX4_elects (V : ol_Gh) (a : Nat → Nat) (σ : ol_Mm) (x1 : Int32) (x2 : Int32)  (z : Int32 × ol_Mm) (h : oX4_elects σ x1 x2 = some z) : ol_Mt V yX4_elects cX4_elects 6 (some .int) ({ frames := 4, cells := 0, slots := 0, locals := 100 } : Room) true [.ref (a 0), .int x1, .int x2] (ol_WM V a σ) (ol_Pw (some (.int z.1)) (ol_WM V a z.2)) := by
  refine ol_MtOf (L0 := [some (.ref (a 0)), some (.int x1), some (.int x2), none, none, none]) (by decide) (Nat.le_of_ble_eq_true rfl) rfl (fun X A hX => ?_)
  unfold oX4_elects at h
  refine ol_aload_n hX (pc := 0) dX4_elects_0 rfl rfl ?_
  refine ol_iconst hX (pc := 1) 0 dX4_elects_1 ol_k_iconst_0 ?_
  refine ol_mp30 hX (pc := 2) dX4_elects_2 ?_
  refine ol_aload_n hX (pc := 5) dX4_elects_5 rfl rfl ?_
  refine ol_iconst hX (pc := 6) 0 dX4_elects_6 ol_k_iconst_0 ?_
  refine ol_mp31 hX (pc := 7) dX4_elects_7 ?_
  refine ol_aload_n hX (pc := 10) dX4_elects_10 rfl rfl ?_
  refine ol_iconst hX (pc := 11) 0 dX4_elects_11 ol_k_iconst_0 ?_
  refine ol_mp32 hX (pc := 12) dX4_elects_12 ?_
  refine ol_iload_n hX (pc := 15) dX4_elects_15 rfl rfl ?_
  refine ol_istore_n hX (pc := 16) [some (.ref (a 0)), some (.int x1), some (.int x2), some (.int x1), none, none] dX4_elects_16 rfl (by decide) rfl rfl ?_
  refine ol_iconst hX (pc := 17) 1 dX4_elects_17 ol_k_iconst_1 ?_
  refine ol_istore hX (pc := 18) [some (.ref (a 0)), some (.int x1), some (.int x2), some (.int x1), some (.int 1), none] dX4_elects_18 (by decide) rfl rfl ?_
  refine ol_Gdrop 1 ?_
  exact wX4_elects_L20 hX x1 x2 ol_fuel x1 1 (ol_ms (ol_ms (ol_ms σ 0 30 0) 0 31 0) 0 32 0) h
set_option maxHeartbeats 4000000 in
theorem wX4_would_L25 {X : ol_Cx} {V : ol_Gh} {A : Nat → Prop} {a : Nat → Nat} {z : Int32 × ol_Mm} (hX : ol_CX X V A cX4_would RX4 "would" 2 (some .int)) (x1 : Int32)   (s0 : Int32) (σ : ol_Mm) (h : oX4_would_L25 x1 s0 σ = some z) : ol_G X V A true (ol_Pw (some (.int z.1)) (ol_WM V a z.2)) ({ frames := 5, cells := 0, slots := 0, locals := 125 } : Room) 2 0 0 (ol_WM V a σ) 25 [some (.ref (a 0)), some (.int x1)] [.int s0, .ref (a 0)] := by
  unfold oX4_would_L25 at h
  obtain ⟨y1, e2, h⟩ := ol_of_bd h
  refine ol_cVw (As := [.int s0]) hX (pc := 25) (wX4_isRefused V a σ s0 y1 e2) lkX4_180 dcX4_isRefused ol_rr_X4_would_X4_isRefused 0 rfl rfl ⟨Nat.le_refl _, Nat.le_refl _⟩ (Nat.le_of_ble_eq_true rfl) dX4_would_25 rfl ?_
  refine ol_if_eq hX (pc := 28) 33 dX4_would_28 (by decide) (fun c5 => ?_) (fun c5 => ?_)
  · have h := ol_ifp c5 h
    refine ol_aload_n hX (pc := 33) dX4_would_33 rfl rfl ?_
    refine ol_iload_n hX (pc := 34) dX4_would_34 rfl rfl ?_
    refine ol_iconst hX (pc := 35) 0 dX4_would_35 ol_k_iconst_0 ?_
    obtain ⟨y3, e4, h⟩ := ol_of_bd h
    refine ol_cVw (As := [.int x1, .int 0]) hX (pc := 36) (wX4_elects V a y1.2 x1 0 y3 e4) lkX4_296 dcX4_elects ol_rr_X4_would_X4_elects 0 rfl rfl ⟨Nat.le_refl _, Nat.le_refl _⟩ (Nat.le_of_ble_eq_true rfl) dX4_would_36 rfl ?_
    have h := ol_of_some h
    subst h
    exact ol_iret hX (pc := 39) dX4_would_39 ⟨rfl, rfl⟩ ⟨Nat.le_refl _, Nat.le_refl _⟩
  · have h := ol_ifn c5 h
    refine ol_iconst hX (pc := 31) (-1) dX4_would_31 ol_k_iconst_m1 ?_
    have h := ol_of_some h
    subst h
    exact ol_iret hX (pc := 32) dX4_would_32 ⟨rfl, rfl⟩ ⟨Nat.le_refl _, Nat.le_refl _⟩
set_option maxHeartbeats 4000000 in
theorem wX4_would (V : ol_Gh) (a : Nat → Nat) (σ : ol_Mm) (x1 : Int32)  (z : Int32 × ol_Mm) (h : oX4_would σ x1 = some z) : ol_Mt V yX4_would cX4_would 2 (some .int) ({ frames := 5, cells := 0, slots := 0, locals := 125 } : Room) true [.ref (a 0), .int x1] (ol_WM V a σ) (ol_Pw (some (.int z.1)) (ol_WM V a z.2)) := by
  refine ol_MtOf (L0 := [some (.ref (a 0)), some (.int x1)]) (by decide) (Nat.le_of_ble_eq_true rfl) rfl (fun X A hX => ?_)
  unfold oX4_would at h
  refine ol_aload_n hX (pc := 0) dX4_would_0 rfl rfl ?_
  refine ol_aload_n hX (pc := 1) dX4_would_1 rfl rfl ?_
  refine ol_mg9 hX (pc := 2) dX4_would_2 ?_
  refine ol_if_ne hX (pc := 5) 12 dX4_would_5 (by decide) (fun c4 => ?_) (fun c4 => ?_)
  · have h := ol_ifn c4 h
    refine ol_aload_n hX (pc := 12) dX4_would_12 rfl rfl ?_
    refine ol_iload_n hX (pc := 13) dX4_would_13 rfl rfl ?_
    obtain ⟨y1, e2, h⟩ := ol_of_bd h
    refine ol_cVr (As := [.int x1]) hX (pc := 14) (wX4_isSet V a σ x1 y1 e2) lkX4_265 dcX4_isSet ⟨rfl, rfl⟩ ol_rr_X4_would_X4_isSet 0 rfl rfl (fun _ h => h) ⟨Nat.le_refl _, Nat.le_refl _⟩ (Nat.le_of_ble_eq_true rfl) dX4_would_14 rfl ?_
    refine ol_if_eq hX (pc := 17) 24 dX4_would_17 (by decide) (fun c3 => ?_) (fun c3 => ?_)
    · have h := ol_ifp c3 h
      refine ol_iconst hX (pc := 24) 2 dX4_would_24 ol_k_iconst_2 ?_
      exact wX4_would_L25 hX x1 2 σ h
    · have h := ol_ifn c3 h
      refine ol_iconst hX (pc := 20) 0 dX4_would_20 ol_k_iconst_0 ?_
      refine ol_goto hX (pc := 21) 25 dX4_would_21 (by decide) ?_
      exact wX4_would_L25 hX x1 0 σ h
  · have h := ol_ifp c4 h
    refine ol_iconst hX (pc := 8) 1 dX4_would_8 ol_k_iconst_1 ?_
    refine ol_goto hX (pc := 9) 25 dX4_would_9 (by decide) ?_
    exact wX4_would_L25 hX x1 1 σ h
set_option maxHeartbeats 4000000 in
theorem wX4_unless (V : ol_Gh) (ws : va_W) (x1 : Int32)  (z : Int32) (h : oX4_unless x1 = some z) : ol_Mt V yX4_unless cX4_unless 1 (some .int) ({ frames := 0, cells := 0, slots := 0, locals := 0 } : Room) false [.int x1] (ws) (ol_Pr (some (.int z))) := by
  refine ol_MtOf (L0 := [some (.int x1)]) (by decide) (Nat.le_of_ble_eq_true rfl) rfl (fun X A hX => ?_)
  unfold oX4_unless at h
  refine ol_iload_n hX (pc := 0) dX4_unless_0 rfl rfl ?_
  refine ol_if_eq hX (pc := 1) 8 dX4_unless_1 (by decide) (fun c1 => ?_) (fun c1 => ?_)
  · have h := ol_ifp c1 h
    refine ol_iconst hX (pc := 8) 1 dX4_unless_8 ol_k_iconst_1 ?_
    have h := ol_of_some h
    subst h
    exact ol_iret hX (pc := 9) dX4_unless_9 rfl ⟨Nat.le_refl _, Nat.le_refl _⟩
  · have h := ol_ifn c1 h
    refine ol_iconst hX (pc := 4) 0 dX4_unless_4 ol_k_iconst_0 ?_
    refine ol_goto hX (pc := 5) 9 dX4_unless_5 (by decide) ?_
    have h := ol_of_some h
    subst h
    exact ol_iret hX (pc := 9) dX4_unless_9 rfl ⟨Nat.le_refl _, Nat.le_refl _⟩
set_option maxHeartbeats 4000000 in
theorem wX4_askingOnes_L4 {X : ol_Cx} {V : ol_Gh} {A : Nat → Prop} {a : Nat → Nat} {z : Int32} (hX : ol_CX X V A cX4_askingOnes RX4 "askingOnes" 3 (some .int)) (σ : ol_Mm)    : ∀ (n : Nat), ∀ (v1 : Int32) (v2 : Int32), oX4_askingOnes_L4 σ n v1 v2 = some z → ol_G X V A false (ol_Pr (some (.int z))) ({ frames := 1, cells := 0, slots := 0, locals := 21 } : Room) 3 0 0 (ol_WM V a σ) 4 [some (.ref (a 0)), some (.int v1), some (.int v2)] [] := by
  intro n
  induction n with
  | zero =>
    intro v1 v2 h
    exact ol_no h
  | succ n ih =>
    intro v1 v2 h
    rw [oX4_askingOnes_L4] at h
    refine ol_iload_n hX (pc := 4) dX4_askingOnes_4 rfl rfl ?_
    refine ol_aload_n hX (pc := 5) dX4_askingOnes_5 rfl rfl ?_
    refine ol_mg6 hX (pc := 6) dX4_askingOnes_6 ?_
    refine ol_iconst hX (pc := 9) 3 dX4_askingOnes_9 ol_k_iconst_3 ?_
    refine ol_ml2 hX (pc := 10) dX4_askingOnes_10 ol_tn_3 (ol_in_vp (by decide)) ?_
    refine ol_icmp_ge hX (pc := 11) 43 dX4_askingOnes_11 (by decide) (fun c5 => ?_) (fun c5 => ?_)
    · have h := ol_ifp c5 h
      refine ol_iload_n hX (pc := 43) dX4_askingOnes_43 rfl rfl ?_
      have h := ol_of_some h
      subst h
      exact ol_iret hX (pc := 44) dX4_askingOnes_44 rfl ⟨Nat.le_refl _, Nat.le_refl _⟩
    · have h := ol_ifn c5 h
      refine ol_iload_n hX (pc := 14) dX4_askingOnes_14 rfl rfl ?_
      refine ol_aload_n hX (pc := 15) dX4_askingOnes_15 rfl rfl ?_
      refine ol_mg18 hX (pc := 16) dX4_askingOnes_16 ?_
      refine ol_iload_n hX (pc := 19) dX4_askingOnes_19 rfl rfl ?_
      refine ol_iconst hX (pc := 20) 0 dX4_askingOnes_20 ol_k_iconst_0 ?_
      obtain ⟨y1, e2, h⟩ := ol_of_bd h
      refine ol_cSr (As := [.int v2, .int 0]) hX (pc := 21) (wX4_at V (ol_WM V a σ) v2 0 y1 e2) lkX4_201 dcX4_at ⟨rfl, rfl⟩ ol_rr_X4_askingOnes_X4_at (fun _ h => h) ⟨Nat.le_refl _, Nat.le_refl _⟩ (Nat.le_of_ble_eq_true rfl) dX4_askingOnes_21 rfl ?_
      obtain ⟨g3, h⟩ := ol_of_og h
      refine ol_ml5 hX (pc := 24) dX4_askingOnes_24 rfl (ol_in_vp g3) ?_
      refine ol_if_le hX (pc := 25) 34 dX4_askingOnes_25 (by decide) (fun c4 => ?_) (fun c4 => ?_)
      · have h := ol_ifp c4 h
        refine ol_iconst hX (pc := 34) 0 dX4_askingOnes_34 ol_k_iconst_0 ?_
        refine ol_ior hX (pc := 35) dX4_askingOnes_35 ?_
        refine ol_istore_n hX (pc := 36) [some (.ref (a 0)), some (.int (v1 ||| 0)), some (.int v2)] dX4_askingOnes_36 rfl (by decide) rfl rfl ?_
        refine ol_iinc hX (pc := 37) (v2 + 1) [some (.ref (a 0)), some (.int (v1 ||| 0)), some (.int (v2 + 1))] dX4_askingOnes_37 rfl (ol_k_iinc_1 _) (by decide) rfl rfl ?_
        refine ol_goto hX (pc := 40) 4 dX4_askingOnes_40 (by decide) ?_
        exact ih (v1 ||| 0) (v2 + 1) h
      · have h := ol_ifn c4 h
        refine ol_iconst hX (pc := 28) 1 dX4_askingOnes_28 ol_k_iconst_1 ?_
        refine ol_iload_n hX (pc := 29) dX4_askingOnes_29 rfl rfl ?_
        refine ol_ishl hX (pc := 30) dX4_askingOnes_30 ?_
        refine ol_goto hX (pc := 31) 35 dX4_askingOnes_31 (by decide) ?_
        refine ol_ior hX (pc := 35) dX4_askingOnes_35 ?_
        refine ol_istore_n hX (pc := 36) [some (.ref (a 0)), some (.int (v1 ||| ((1 : Int32) <<< (v2 &&& 31)))), some (.int v2)] dX4_askingOnes_36 rfl (by decide) rfl rfl ?_
        refine ol_iinc hX (pc := 37) (v2 + 1) [some (.ref (a 0)), some (.int (v1 ||| ((1 : Int32) <<< (v2 &&& 31)))), some (.int (v2 + 1))] dX4_askingOnes_37 rfl (ol_k_iinc_1 _) (by decide) rfl rfl ?_
        refine ol_goto hX (pc := 40) 4 dX4_askingOnes_40 (by decide) ?_
        exact ih (v1 ||| ((1 : Int32) <<< (v2 &&& 31))) (v2 + 1) h
set_option maxHeartbeats 4000000 in
theorem wX4_askingOnes (V : ol_Gh) (a : Nat → Nat) (σ : ol_Mm)  (z : Int32) (h : oX4_askingOnes σ = some z) : ol_Mt V yX4_askingOnes cX4_askingOnes 3 (some .int) ({ frames := 1, cells := 0, slots := 0, locals := 21 } : Room) false [.ref (a 0)] (ol_WM V a σ) (ol_Pr (some (.int z))) := by
  refine ol_MtOf (L0 := [some (.ref (a 0)), none, none]) (by decide) (Nat.le_of_ble_eq_true rfl) rfl (fun X A hX => ?_)
  unfold oX4_askingOnes at h
  refine ol_iconst hX (pc := 0) 0 dX4_askingOnes_0 ol_k_iconst_0 ?_
  refine ol_istore_n hX (pc := 1) [some (.ref (a 0)), some (.int 0), none] dX4_askingOnes_1 rfl (by decide) rfl rfl ?_
  refine ol_iconst hX (pc := 2) 0 dX4_askingOnes_2 ol_k_iconst_0 ?_
  refine ol_istore_n hX (pc := 3) [some (.ref (a 0)), some (.int 0), some (.int 0)] dX4_askingOnes_3 rfl (by decide) rfl rfl ?_
  exact wX4_askingOnes_L4 hX σ ol_fuel 0 0 h
set_option maxHeartbeats 4000000 in
theorem wX4_told (V : ol_Gh) (a : Nat → Nat) (σ : ol_Mm) (x1 : Int32)  (z : Int32) (h : oX4_told σ x1 = some z) : ol_Mt V yX4_told cX4_told 2 (some .int) ({ frames := 2, cells := 0, slots := 0, locals := 43 } : Room) false [.ref (a 0), .int x1] (ol_WM V a σ) (ol_Pr (some (.int z))) := by
  refine ol_MtOf (L0 := [some (.ref (a 0)), some (.int x1)]) (by decide) (Nat.le_of_ble_eq_true rfl) rfl (fun X A hX => ?_)
  unfold oX4_told at h
  refine ol_iload_n hX (pc := 0) dX4_told_0 rfl rfl ?_
  by_cases c1 : x1 = 0
  · have h := ol_ifp c1 h
    refine ol_tsw_in hX (pc := 1) 40 dX4_told_1 c1 (by decide) (by decide) rfl (by decide) ?_
    refine ol_aload_n hX (pc := 40) dX4_told_40 rfl rfl ?_
    refine ol_mg18 hX (pc := 41) dX4_told_41 ?_
    refine ol_iconst hX (pc := 44) 1 dX4_told_44 ol_k_iconst_1 ?_
    refine ol_ml5 hX (pc := 45) dX4_told_45 ol_tn_1 (ol_in_vp (by decide)) ?_
    have h := ol_of_some h
    subst h
    exact ol_iret hX (pc := 46) dX4_told_46 rfl ⟨Nat.le_refl _, Nat.le_refl _⟩
  · have h := ol_ifn c1 h
    by_cases c2 : x1 = 1
    · have h := ol_ifp c2 h
      refine ol_tsw_in hX (pc := 1) 47 dX4_told_1 c2 (by decide) (by decide) rfl (by decide) ?_
      refine ol_aload_n hX (pc := 47) dX4_told_47 rfl rfl ?_
      refine ol_mg18 hX (pc := 48) dX4_told_48 ?_
      refine ol_iconst hX (pc := 51) 2 dX4_told_51 ol_k_iconst_2 ?_
      refine ol_ml5 hX (pc := 52) dX4_told_52 ol_tn_2 (ol_in_vp (by decide)) ?_
      have h := ol_of_some h
      subst h
      exact ol_iret hX (pc := 53) dX4_told_53 rfl ⟨Nat.le_refl _, Nat.le_refl _⟩
    · have h := ol_ifn c2 h
      by_cases c3 : x1 = 2
      · have h := ol_ifp c3 h
        refine ol_tsw_in hX (pc := 1) 54 dX4_told_1 c3 (by decide) (by decide) rfl (by decide) ?_
        refine ol_aload_n hX (pc := 54) dX4_told_54 rfl rfl ?_
        refine ol_mg18 hX (pc := 55) dX4_told_55 ?_
        refine ol_iconst hX (pc := 58) 3 dX4_told_58 ol_k_iconst_3 ?_
        refine ol_ml5 hX (pc := 59) dX4_told_59 ol_tn_3 (ol_in_vp (by decide)) ?_
        have h := ol_of_some h
        subst h
        exact ol_iret hX (pc := 60) dX4_told_60 rfl ⟨Nat.le_refl _, Nat.le_refl _⟩
      · have h := ol_ifn c3 h
        by_cases c4 : x1 = 3
        · have h := ol_ifp c4 h
          refine ol_tsw_in hX (pc := 1) 61 dX4_told_1 c4 (by decide) (by decide) rfl (by decide) ?_
          refine ol_aload_n hX (pc := 61) dX4_told_61 rfl rfl ?_
          refine ol_mg18 hX (pc := 62) dX4_told_62 ?_
          refine ol_iconst hX (pc := 65) 4 dX4_told_65 ol_k_iconst_4 ?_
          refine ol_ml5 hX (pc := 66) dX4_told_66 ol_tn_4 (ol_in_vp (by decide)) ?_
          have h := ol_of_some h
          subst h
          exact ol_iret hX (pc := 67) dX4_told_67 rfl ⟨Nat.le_refl _, Nat.le_refl _⟩
        · have h := ol_ifn c4 h
          by_cases c5 : x1 = 4
          · have h := ol_ifp c5 h
            refine ol_tsw_in hX (pc := 1) 68 dX4_told_1 c5 (by decide) (by decide) rfl (by decide) ?_
            refine ol_aload_n hX (pc := 68) dX4_told_68 rfl rfl ?_
            refine ol_mg18 hX (pc := 69) dX4_told_69 ?_
            refine ol_iconst hX (pc := 72) 5 dX4_told_72 ol_k_iconst_5 ?_
            refine ol_ml5 hX (pc := 73) dX4_told_73 ol_tn_5 (ol_in_vp (by decide)) ?_
            have h := ol_of_some h
            subst h
            exact ol_iret hX (pc := 74) dX4_told_74 rfl ⟨Nat.le_refl _, Nat.le_refl _⟩
          · have h := ol_ifn c5 h
            by_cases c8 : x1 = 5
            · have h := ol_ifp c8 h
              refine ol_tsw_in hX (pc := 1) 75 dX4_told_1 c8 (by decide) (by decide) rfl (by decide) ?_
              refine ol_aload_n hX (pc := 75) dX4_told_75 rfl rfl ?_
              obtain ⟨y6, e7, h⟩ := ol_of_bd h
              refine ol_cVr (As := []) hX (pc := 76) (wX4_askingOnes V a σ y6 e7) lkX4_300 dcX4_askingOnes ⟨rfl, rfl⟩ ol_rr_X4_told_X4_askingOnes 0 rfl rfl (fun _ h => h) ⟨Nat.le_refl _, Nat.le_refl _⟩ (Nat.le_of_ble_eq_true rfl) dX4_told_76 rfl ?_
              have h := ol_of_some h
              subst h
              exact ol_iret hX (pc := 79) dX4_told_79 rfl ⟨Nat.le_refl _, Nat.le_refl _⟩
            · have h := ol_ifn c8 h
              refine ol_tsw_out hX (pc := 1) 80 dX4_told_1 ?_ (by decide) ?_
              · exact ol_sw6 c1 c2 c3 c4 c5 c8
              · refine ol_aload_n hX (pc := 80) dX4_told_80 rfl rfl ?_
                refine ol_mg18 hX (pc := 81) dX4_told_81 ?_
                refine ol_bipush hX (pc := 84) 6 dX4_told_84 ol_k_bipush_6 ?_
                refine ol_iload_n hX (pc := 86) dX4_told_86 rfl rfl ?_
                refine ol_iadd hX (pc := 87) dX4_told_87 ?_
                refine ol_bipush hX (pc := 88) 6 dX4_told_88 ol_k_bipush_6 ?_
                refine ol_isub hX (pc := 90) dX4_told_90 ?_
                obtain ⟨g9, h⟩ := ol_of_og h
                refine ol_ml5 hX (pc := 91) dX4_told_91 rfl (ol_in_vp g9) ?_
                have h := ol_of_some h
                subst h
                exact ol_iret hX (pc := 92) dX4_told_92 rfl ⟨Nat.le_refl _, Nat.le_refl _⟩
set_option maxHeartbeats 4000000 in
theorem wX4_now_L23 {X : ol_Cx} {V : ol_Gh} {A : Nat → Prop} {a : Nat → Nat} {z : Int32 × ol_Mm} (hX : ol_CX X V A cX4_now RX4 "now" 2 (some .int)) (x1 : Int32)   (s0 : Int32) (σ : ol_Mm) (h : oX4_now_L23 x1 s0 σ = some z) : ol_G X V A true (ol_Pw (some (.int z.1)) (ol_WM V a z.2)) ({ frames := 3, cells := 0, slots := 0, locals := 64 } : Room) 2 0 0 (ol_WM V a σ) 23 [some (.ref (a 0)), some (.int x1)] [.int s0, .ref (a 0)] := by
  unfold oX4_now_L23 at h
  obtain ⟨y1, e2, h⟩ := ol_of_bd h
  refine ol_cSr (As := [.int s0]) hX (pc := 23) (wX4_unless V (ol_WM V a σ) s0 y1 e2) lkX4_324 dcX4_unless ⟨rfl, rfl⟩ ol_rr_X4_now_X4_unless (fun _ h => h) ⟨Nat.le_refl _, Nat.le_refl _⟩ (Nat.le_of_ble_eq_true rfl) dX4_now_23 rfl ?_
  obtain ⟨y3, e4, h⟩ := ol_of_bd h
  refine ol_cVw (As := [.int y1]) hX (pc := 26) (wX4_isRefused V a σ y1 y3 e4) lkX4_180 dcX4_isRefused ol_rr_X4_now_X4_isRefused 0 rfl rfl ⟨Nat.le_refl _, Nat.le_refl _⟩ (Nat.le_of_ble_eq_true rfl) dX4_now_26 rfl ?_
  refine ol_if_eq hX (pc := 29) 36 dX4_now_29 (by decide) (fun c7 => ?_) (fun c7 => ?_)
  · have h := ol_ifp c7 h
    refine ol_aload_n hX (pc := 36) dX4_now_36 rfl rfl ?_
    refine ol_iload_n hX (pc := 37) dX4_now_37 rfl rfl ?_
    obtain ⟨y5, e6, h⟩ := ol_of_bd h
    refine ol_cVr (As := [.int x1]) hX (pc := 38) (wX4_told V a y3.2 x1 y5 e6) lkX4_328 dcX4_told ⟨rfl, rfl⟩ ol_rr_X4_now_X4_told 0 rfl rfl (fun _ h => h) ⟨Nat.le_refl _, Nat.le_refl _⟩ (Nat.le_of_ble_eq_true rfl) dX4_now_38 rfl ?_
    have h := ol_of_some h
    subst h
    exact ol_iret hX (pc := 41) dX4_now_41 ⟨rfl, rfl⟩ ⟨Nat.le_refl _, Nat.le_refl _⟩
  · have h := ol_ifn c7 h
    refine ol_iconst hX (pc := 32) (-1) dX4_now_32 ol_k_iconst_m1 ?_
    refine ol_goto hX (pc := 33) 41 dX4_now_33 (by decide) ?_
    have h := ol_of_some h
    subst h
    exact ol_iret hX (pc := 41) dX4_now_41 ⟨rfl, rfl⟩ ⟨Nat.le_refl _, Nat.le_refl _⟩
set_option maxHeartbeats 4000000 in
theorem wX4_now (V : ol_Gh) (a : Nat → Nat) (σ : ol_Mm) (x1 : Int32)  (z : Int32 × ol_Mm) (h : oX4_now σ x1 = some z) : ol_Mt V yX4_now cX4_now 2 (some .int) ({ frames := 3, cells := 0, slots := 0, locals := 64 } : Room) true [.ref (a 0), .int x1] (ol_WM V a σ) (ol_Pw (some (.int z.1)) (ol_WM V a z.2)) := by
  refine ol_MtOf (L0 := [some (.ref (a 0)), some (.int x1)]) (by decide) (Nat.le_of_ble_eq_true rfl) rfl (fun X A hX => ?_)
  unfold oX4_now at h
  refine ol_aload_n hX (pc := 0) dX4_now_0 rfl rfl ?_
  refine ol_aload_n hX (pc := 1) dX4_now_1 rfl rfl ?_
  refine ol_mg9 hX (pc := 2) dX4_now_2 ?_
  refine ol_if_eq hX (pc := 5) 22 dX4_now_5 (by decide) (fun c4 => ?_) (fun c4 => ?_)
  · have h := ol_ifp c4 h
    refine ol_iconst hX (pc := 22) 0 dX4_now_22 ol_k_iconst_0 ?_
    exact wX4_now_L23 hX x1 0 σ h
  · have h := ol_ifn c4 h
    refine ol_iload_n hX (pc := 8) dX4_now_8 rfl rfl ?_
    refine ol_iconst hX (pc := 9) 0 dX4_now_9 ol_k_iconst_0 ?_
    refine ol_bipush hX (pc := 10) 10 dX4_now_10 ol_k_bipush_10 ?_
    obtain ⟨y1, e2, h⟩ := ol_of_bd h
    refine ol_cSr (As := [.int x1, .int 0, .int 10]) hX (pc := 12) (wX4_in V (ol_WM V a σ) x1 0 10 y1 e2) lkX4_83 dcX4_in ⟨rfl, rfl⟩ ol_rr_X4_now_X4_in (fun _ h => h) ⟨Nat.le_refl _, Nat.le_refl _⟩ (Nat.le_of_ble_eq_true rfl) dX4_now_12 rfl ?_
    refine ol_if_eq hX (pc := 15) 22 dX4_now_15 (by decide) (fun c3 => ?_) (fun c3 => ?_)
    · have h := ol_ifp c3 h
      refine ol_iconst hX (pc := 22) 0 dX4_now_22 ol_k_iconst_0 ?_
      exact wX4_now_L23 hX x1 0 σ h
    · have h := ol_ifn c3 h
      refine ol_iconst hX (pc := 18) 1 dX4_now_18 ol_k_iconst_1 ?_
      refine ol_goto hX (pc := 19) 23 dX4_now_19 (by decide) ?_
      exact wX4_now_L23 hX x1 1 σ h
set_option maxHeartbeats 4000000 in
theorem wX4_ledger_L23 {X : ol_Cx} {V : ol_Gh} {A : Nat → Prop} {a : Nat → Nat} {z : Int32 × ol_Mm} (hX : ol_CX X V A cX4_ledger RX4 "ledger" 3 (some .int)) (x1 : Int32) (x2 : Int32)   (s0 : Int32) (σ : ol_Mm) (h : oX4_ledger_L23 x1 x2 s0 σ = some z) : ol_G X V A true (ol_Pw (some (.int z.1)) (ol_WM V a z.2)) ({ frames := 2, cells := 0, slots := 0, locals := 43 } : Room) 3 0 0 (ol_WM V a σ) 23 [some (.ref (a 0)), some (.int x1), some (.int x2)] [.int s0, .ref (a 0)] := by
  unfold oX4_ledger_L23 at h
  obtain ⟨y1, e2, h⟩ := ol_of_bd h
  refine ol_cSr (As := [.int s0]) hX (pc := 23) (wX4_unless V (ol_WM V a σ) s0 y1 e2) lkX4_324 dcX4_unless ⟨rfl, rfl⟩ ol_rr_X4_ledger_X4_unless (fun _ h => h) ⟨Nat.le_refl _, Nat.le_refl _⟩ (Nat.le_of_ble_eq_true rfl) dX4_ledger_23 rfl ?_
  obtain ⟨y3, e4, h⟩ := ol_of_bd h
  refine ol_cVw (As := [.int y1]) hX (pc := 26) (wX4_isRefused V a σ y1 y3 e4) lkX4_180 dcX4_isRefused ol_rr_X4_ledger_X4_isRefused 0 rfl rfl ⟨Nat.le_refl _, Nat.le_refl _⟩ (Nat.le_of_ble_eq_true rfl) dX4_ledger_26 rfl ?_
  refine ol_if_eq hX (pc := 29) 36 dX4_ledger_29 (by decide) (fun c8 => ?_) (fun c8 => ?_)
  · have h := ol_ifp c8 h
    refine ol_aload_n hX (pc := 36) dX4_ledger_36 rfl rfl ?_
    refine ol_mg18 hX (pc := 37) dX4_ledger_37 ?_
    refine ol_iload_n hX (pc := 40) dX4_ledger_40 rfl rfl ?_
    refine ol_bipush hX (pc := 41) 6 dX4_ledger_41 ol_k_bipush_6 ?_
    refine ol_iload_n hX (pc := 43) dX4_ledger_43 rfl rfl ?_
    refine ol_iadd hX (pc := 44) dX4_ledger_44 ?_
    obtain ⟨y5, e6, h⟩ := ol_of_bd h
    refine ol_cSr (As := [.int x1, .int (6 + x2)]) hX (pc := 45) (wX4_at V (ol_WM V a y3.2) x1 (6 + x2) y5 e6) lkX4_201 dcX4_at ⟨rfl, rfl⟩ ol_rr_X4_ledger_X4_at (fun _ h => h) ⟨Nat.le_refl _, Nat.le_refl _⟩ (Nat.le_of_ble_eq_true rfl) dX4_ledger_45 rfl ?_
    obtain ⟨g7, h⟩ := ol_of_og h
    refine ol_ml5 hX (pc := 48) dX4_ledger_48 rfl (ol_in_vp g7) ?_
    have h := ol_of_some h
    subst h
    exact ol_iret hX (pc := 49) dX4_ledger_49 ⟨rfl, rfl⟩ ⟨Nat.le_refl _, Nat.le_refl _⟩
  · have h := ol_ifn c8 h
    refine ol_iconst hX (pc := 32) (-1) dX4_ledger_32 ol_k_iconst_m1 ?_
    refine ol_goto hX (pc := 33) 49 dX4_ledger_33 (by decide) ?_
    have h := ol_of_some h
    subst h
    exact ol_iret hX (pc := 49) dX4_ledger_49 ⟨rfl, rfl⟩ ⟨Nat.le_refl _, Nat.le_refl _⟩
set_option maxHeartbeats 4000000 in
theorem wX4_ledger (V : ol_Gh) (a : Nat → Nat) (σ : ol_Mm) (x1 : Int32) (x2 : Int32)  (z : Int32 × ol_Mm) (h : oX4_ledger σ x1 x2 = some z) : ol_Mt V yX4_ledger cX4_ledger 3 (some .int) ({ frames := 2, cells := 0, slots := 0, locals := 43 } : Room) true [.ref (a 0), .int x1, .int x2] (ol_WM V a σ) (ol_Pw (some (.int z.1)) (ol_WM V a z.2)) := by
  refine ol_MtOf (L0 := [some (.ref (a 0)), some (.int x1), some (.int x2)]) (by decide) (Nat.le_of_ble_eq_true rfl) rfl (fun X A hX => ?_)
  unfold oX4_ledger at h
  refine ol_aload_n hX (pc := 0) dX4_ledger_0 rfl rfl ?_
  refine ol_aload_n hX (pc := 1) dX4_ledger_1 rfl rfl ?_
  refine ol_iload_n hX (pc := 2) dX4_ledger_2 rfl rfl ?_
  obtain ⟨y1, e2, h⟩ := ol_of_bd h
  refine ol_cVr (As := [.int x1]) hX (pc := 3) (wX4_isBoard V a σ x1 y1 e2) lkX4_268 dcX4_isBoard ⟨rfl, rfl⟩ ol_rr_X4_ledger_X4_isBoard 0 rfl rfl (fun _ h => h) ⟨Nat.le_refl _, Nat.le_refl _⟩ (Nat.le_of_ble_eq_true rfl) dX4_ledger_3 rfl ?_
  refine ol_if_eq hX (pc := 6) 22 dX4_ledger_6 (by decide) (fun c6 => ?_) (fun c6 => ?_)
  · have h := ol_ifp c6 h
    refine ol_iconst hX (pc := 22) 0 dX4_ledger_22 ol_k_iconst_0 ?_
    exact wX4_ledger_L23 hX x1 x2 0 σ h
  · have h := ol_ifn c6 h
    refine ol_iload_n hX (pc := 9) dX4_ledger_9 rfl rfl ?_
    refine ol_iconst hX (pc := 10) 0 dX4_ledger_10 ol_k_iconst_0 ?_
    refine ol_iconst hX (pc := 11) 5 dX4_ledger_11 ol_k_iconst_5 ?_
    obtain ⟨y3, e4, h⟩ := ol_of_bd h
    refine ol_cSr (As := [.int x2, .int 0, .int 5]) hX (pc := 12) (wX4_in V (ol_WM V a σ) x2 0 5 y3 e4) lkX4_83 dcX4_in ⟨rfl, rfl⟩ ol_rr_X4_ledger_X4_in (fun _ h => h) ⟨Nat.le_refl _, Nat.le_refl _⟩ (Nat.le_of_ble_eq_true rfl) dX4_ledger_12 rfl ?_
    refine ol_if_eq hX (pc := 15) 22 dX4_ledger_15 (by decide) (fun c5 => ?_) (fun c5 => ?_)
    · have h := ol_ifp c5 h
      refine ol_iconst hX (pc := 22) 0 dX4_ledger_22 ol_k_iconst_0 ?_
      exact wX4_ledger_L23 hX x1 x2 0 σ h
    · have h := ol_ifn c5 h
      refine ol_iconst hX (pc := 18) 1 dX4_ledger_18 ol_k_iconst_1 ?_
      refine ol_goto hX (pc := 19) 23 dX4_ledger_19 (by decide) ?_
      exact wX4_ledger_L23 hX x1 x2 1 σ h
set_option maxHeartbeats 4000000 in
theorem wX4_past_L27 {X : ol_Cx} {V : ol_Gh} {A : Nat → Prop} {a : Nat → Nat} {z : Int32 × ol_Mm} (hX : ol_CX X V A cX4_past RX4 "past" 2 (some .int)) (x1 : Int32)   (s0 : Int32) (σ : ol_Mm) (h : oX4_past_L27 x1 s0 σ = some z) : ol_G X V A true (ol_Pw (some (.int z.1)) (ol_WM V a z.2)) ({ frames := 1, cells := 0, slots := 0, locals := 22 } : Room) 2 0 0 (ol_WM V a σ) 27 [some (.ref (a 0)), some (.int x1)] [.int s0, .ref (a 0)] := by
  unfold oX4_past_L27 at h
  obtain ⟨y1, e2, h⟩ := ol_of_bd h
  refine ol_cVw (As := [.int s0]) hX (pc := 27) (wX4_isRefused V a σ s0 y1 e2) lkX4_180 dcX4_isRefused ol_rr_X4_past_X4_isRefused 0 rfl rfl ⟨Nat.le_refl _, Nat.le_refl _⟩ (Nat.le_of_ble_eq_true rfl) dX4_past_27 rfl ?_
  refine ol_if_eq hX (pc := 30) 35 dX4_past_30 (by decide) (fun c5 => ?_) (fun c5 => ?_)
  · have h := ol_ifp c5 h
    refine ol_iload_n hX (pc := 35) dX4_past_35 rfl rfl ?_
    refine ol_aload_n hX (pc := 36) dX4_past_36 rfl rfl ?_
    refine ol_mg18 hX (pc := 37) dX4_past_37 ?_
    refine ol_iconst hX (pc := 40) 0 dX4_past_40 ol_k_iconst_0 ?_
    refine ol_ml5 hX (pc := 41) dX4_past_41 ol_tn_0 (ol_in_vp (by decide)) ?_
    refine ol_icmp_ge hX (pc := 42) 68 dX4_past_42 (by decide) (fun c4 => ?_) (fun c4 => ?_)
    · have h := ol_ifp c4 h
      refine ol_bipush hX (pc := 68) (-2) dX4_past_68 ol_k_bipush_m2 ?_
      have h := ol_of_some h
      subst h
      exact ol_iret hX (pc := 70) dX4_past_70 ⟨rfl, rfl⟩ ⟨Nat.le_refl _, Nat.le_refl _⟩
    · have h := ol_ifn c4 h
      refine ol_aload_n hX (pc := 45) dX4_past_45 rfl rfl ?_
      refine ol_mg18 hX (pc := 46) dX4_past_46 ?_
      refine ol_sipush hX (pc := 49) 187 dX4_past_49 ol_k_sipush_187 ?_
      refine ol_aload_n hX (pc := 52) dX4_past_52 rfl rfl ?_
      refine ol_mg18 hX (pc := 53) dX4_past_53 ?_
      refine ol_iconst hX (pc := 56) 0 dX4_past_56 ol_k_iconst_0 ?_
      refine ol_ml5 hX (pc := 57) dX4_past_57 ol_tn_0 (ol_in_vp (by decide)) ?_
      refine ol_iload_n hX (pc := 58) dX4_past_58 rfl rfl ?_
      refine ol_isub hX (pc := 59) dX4_past_59 ?_
      refine ol_bipush hX (pc := 60) 64 dX4_past_60 ol_k_bipush_64 ?_
      refine ol_irem hX (pc := 62) dX4_past_62 (by decide) ?_
      refine ol_iadd hX (pc := 63) dX4_past_63 ?_
      obtain ⟨g3, h⟩ := ol_of_og h
      refine ol_ml5 hX (pc := 64) dX4_past_64 rfl (ol_in_vp g3) ?_
      refine ol_goto hX (pc := 65) 70 dX4_past_65 (by decide) ?_
      have h := ol_of_some h
      subst h
      exact ol_iret hX (pc := 70) dX4_past_70 ⟨rfl, rfl⟩ ⟨Nat.le_refl _, Nat.le_refl _⟩
  · have h := ol_ifn c5 h
    refine ol_iconst hX (pc := 33) (-1) dX4_past_33 ol_k_iconst_m1 ?_
    have h := ol_of_some h
    subst h
    exact ol_iret hX (pc := 34) dX4_past_34 ⟨rfl, rfl⟩ ⟨Nat.le_refl _, Nat.le_refl _⟩
set_option maxHeartbeats 4000000 in
theorem wX4_past (V : ol_Gh) (a : Nat → Nat) (σ : ol_Mm) (x1 : Int32)  (z : Int32 × ol_Mm) (h : oX4_past σ x1 = some z) : ol_Mt V yX4_past cX4_past 2 (some .int) ({ frames := 1, cells := 0, slots := 0, locals := 22 } : Room) true [.ref (a 0), .int x1] (ol_WM V a σ) (ol_Pw (some (.int z.1)) (ol_WM V a z.2)) := by
  refine ol_MtOf (L0 := [some (.ref (a 0)), some (.int x1)]) (by decide) (Nat.le_of_ble_eq_true rfl) rfl (fun X A hX => ?_)
  unfold oX4_past at h
  refine ol_aload_n hX (pc := 0) dX4_past_0 rfl rfl ?_
  refine ol_aload_n hX (pc := 1) dX4_past_1 rfl rfl ?_
  refine ol_mg9 hX (pc := 2) dX4_past_2 ?_
  refine ol_if_ne hX (pc := 5) 12 dX4_past_5 (by decide) (fun c4 => ?_) (fun c4 => ?_)
  · have h := ol_ifn c4 h
    refine ol_iload_n hX (pc := 12) dX4_past_12 rfl rfl ?_
    refine ol_iconst hX (pc := 13) 0 dX4_past_13 ol_k_iconst_0 ?_
    refine ol_bipush hX (pc := 14) 63 dX4_past_14 ol_k_bipush_63 ?_
    obtain ⟨y1, e2, h⟩ := ol_of_bd h
    refine ol_cSr (As := [.int x1, .int 0, .int 63]) hX (pc := 16) (wX4_in V (ol_WM V a σ) x1 0 63 y1 e2) lkX4_83 dcX4_in ⟨rfl, rfl⟩ ol_rr_X4_past_X4_in (fun _ h => h) ⟨Nat.le_refl _, Nat.le_refl _⟩ (Nat.le_of_ble_eq_true rfl) dX4_past_16 rfl ?_
    refine ol_if_eq hX (pc := 19) 26 dX4_past_19 (by decide) (fun c3 => ?_) (fun c3 => ?_)
    · have h := ol_ifp c3 h
      refine ol_iconst hX (pc := 26) 2 dX4_past_26 ol_k_iconst_2 ?_
      exact wX4_past_L27 hX x1 2 σ h
    · have h := ol_ifn c3 h
      refine ol_iconst hX (pc := 22) 0 dX4_past_22 ol_k_iconst_0 ?_
      refine ol_goto hX (pc := 23) 27 dX4_past_23 (by decide) ?_
      exact wX4_past_L27 hX x1 0 σ h
  · have h := ol_ifp c4 h
    refine ol_iconst hX (pc := 8) 1 dX4_past_8 ol_k_iconst_1 ?_
    refine ol_goto hX (pc := 9) 27 dX4_past_9 (by decide) ?_
    exact wX4_past_L27 hX x1 1 σ h
set_option maxHeartbeats 4000000 in
theorem wX4_idle_L20 {X : ol_Cx} {V : ol_Gh} {A : Nat → Prop} {a : Nat → Nat} {z : Int32 × ol_Mm} (hX : ol_CX X V A cX4_idle RX4 "idle" 3 (some .int))     : ∀ (n : Nat), ∀ (v1 : Int32) (v2 : Int32) (σ : ol_Mm), oX4_idle_L20 n v1 v2 σ = some z → ol_G X V A true (ol_Pw (some (.int z.1)) (ol_WM V a z.2)) ({ frames := 1, cells := 0, slots := 0, locals := 21 } : Room) 3 0 0 (ol_WM V a σ) 20 [some (.ref (a 0)), some (.int v1), some (.int v2)] [] := by
  intro n
  induction n with
  | zero =>
    intro v1 v2 σ h
    exact ol_no h
  | succ n ih =>
    intro v1 v2 σ h
    rw [oX4_idle_L20] at h
    refine ol_iload_n hX (pc := 20) dX4_idle_20 rfl rfl ?_
    refine ol_bipush hX (pc := 21) 64 dX4_idle_21 ol_k_bipush_64 ?_
    refine ol_icmp_ge hX (pc := 23) 75 dX4_idle_23 (by decide) (fun c4 => ?_) (fun c4 => ?_)
    · have h := ol_ifp c4 h
      refine ol_iload_n hX (pc := 75) dX4_idle_75 rfl rfl ?_
      have h := ol_of_some h
      subst h
      exact ol_iret hX (pc := 76) dX4_idle_76 ⟨rfl, rfl⟩ ⟨Nat.le_refl _, Nat.le_refl _⟩
    · have h := ol_ifn c4 h
      refine ol_iload_n hX (pc := 26) dX4_idle_26 rfl rfl ?_
      refine ol_aload_n hX (pc := 27) dX4_idle_27 rfl rfl ?_
      refine ol_mg18 hX (pc := 28) dX4_idle_28 ?_
      refine ol_iconst hX (pc := 31) 0 dX4_idle_31 ol_k_iconst_0 ?_
      refine ol_ml5 hX (pc := 32) dX4_idle_32 ol_tn_0 (ol_in_vp (by decide)) ?_
      refine ol_icmp_ge hX (pc := 33) 75 dX4_idle_33 (by decide) (fun c3 => ?_) (fun c3 => ?_)
      · have h := ol_ifp c3 h
        refine ol_iload_n hX (pc := 75) dX4_idle_75 rfl rfl ?_
        have h := ol_of_some h
        subst h
        exact ol_iret hX (pc := 76) dX4_idle_76 ⟨rfl, rfl⟩ ⟨Nat.le_refl _, Nat.le_refl _⟩
      · have h := ol_ifn c3 h
        refine ol_iload_n hX (pc := 36) dX4_idle_36 rfl rfl ?_
        refine ol_aload_n hX (pc := 37) dX4_idle_37 rfl rfl ?_
        refine ol_mg18 hX (pc := 38) dX4_idle_38 ?_
        refine ol_sipush hX (pc := 41) 187 dX4_idle_41 ol_k_sipush_187 ?_
        refine ol_aload_n hX (pc := 44) dX4_idle_44 rfl rfl ?_
        refine ol_mg18 hX (pc := 45) dX4_idle_45 ?_
        refine ol_iconst hX (pc := 48) 0 dX4_idle_48 ol_k_iconst_0 ?_
        refine ol_ml5 hX (pc := 49) dX4_idle_49 ol_tn_0 (ol_in_vp (by decide)) ?_
        refine ol_iload_n hX (pc := 50) dX4_idle_50 rfl rfl ?_
        refine ol_isub hX (pc := 51) dX4_idle_51 ?_
        refine ol_bipush hX (pc := 52) 64 dX4_idle_52 ol_k_bipush_64 ?_
        refine ol_irem hX (pc := 54) dX4_idle_54 (by decide) ?_
        refine ol_iadd hX (pc := 55) dX4_idle_55 ?_
        obtain ⟨g1, h⟩ := ol_of_og h
        refine ol_ml5 hX (pc := 56) dX4_idle_56 rfl (ol_in_vp g1) ?_
        refine ol_bipush hX (pc := 57) (-2) dX4_idle_57 ol_k_bipush_m2 ?_
        refine ol_icmp_ne hX (pc := 59) 66 dX4_idle_59 (by decide) (fun c2 => ?_) (fun c2 => ?_)
        · have h := ol_ifn c2 h
          refine ol_iconst hX (pc := 66) 0 dX4_idle_66 ol_k_iconst_0 ?_
          refine ol_iadd hX (pc := 67) dX4_idle_67 ?_
          refine ol_istore_n hX (pc := 68) [some (.ref (a 0)), some (.int (v1 + 0)), some (.int v2)] dX4_idle_68 rfl (by decide) rfl rfl ?_
          refine ol_iinc hX (pc := 69) (v2 + 1) [some (.ref (a 0)), some (.int (v1 + 0)), some (.int (v2 + 1))] dX4_idle_69 rfl (ol_k_iinc_1 _) (by decide) rfl rfl ?_
          refine ol_goto hX (pc := 72) 20 dX4_idle_72 (by decide) ?_
          exact ih (v1 + 0) (v2 + 1) σ h
        · have h := ol_ifp c2 h
          refine ol_iconst hX (pc := 62) 1 dX4_idle_62 ol_k_iconst_1 ?_
          refine ol_goto hX (pc := 63) 67 dX4_idle_63 (by decide) ?_
          refine ol_iadd hX (pc := 67) dX4_idle_67 ?_
          refine ol_istore_n hX (pc := 68) [some (.ref (a 0)), some (.int (v1 + 1)), some (.int v2)] dX4_idle_68 rfl (by decide) rfl rfl ?_
          refine ol_iinc hX (pc := 69) (v2 + 1) [some (.ref (a 0)), some (.int (v1 + 1)), some (.int (v2 + 1))] dX4_idle_69 rfl (ol_k_iinc_1 _) (by decide) rfl rfl ?_
          refine ol_goto hX (pc := 72) 20 dX4_idle_72 (by decide) ?_
          exact ih (v1 + 1) (v2 + 1) σ h
set_option maxHeartbeats 4000000 in
theorem wX4_idle (V : ol_Gh) (a : Nat → Nat) (σ : ol_Mm)  (z : Int32 × ol_Mm) (h : oX4_idle σ = some z) : ol_Mt V yX4_idle cX4_idle 3 (some .int) ({ frames := 1, cells := 0, slots := 0, locals := 21 } : Room) true [.ref (a 0)] (ol_WM V a σ) (ol_Pw (some (.int z.1)) (ol_WM V a z.2)) := by
  refine ol_MtOf (L0 := [some (.ref (a 0)), none, none]) (by decide) (Nat.le_of_ble_eq_true rfl) rfl (fun X A hX => ?_)
  unfold oX4_idle at h
  refine ol_aload_n hX (pc := 0) dX4_idle_0 rfl rfl ?_
  refine ol_aload_n hX (pc := 1) dX4_idle_1 rfl rfl ?_
  refine ol_mg9 hX (pc := 2) dX4_idle_2 ?_
  obtain ⟨y1, e2, h⟩ := ol_of_bd h
  refine ol_cSr (As := [.int (σ.1 0 9)]) hX (pc := 5) (wX4_unless V (ol_WM V a σ) (σ.1 0 9) y1 e2) lkX4_324 dcX4_unless ⟨rfl, rfl⟩ ol_rr_X4_idle_X4_unless (fun _ h => h) ⟨Nat.le_refl _, Nat.le_refl _⟩ (Nat.le_of_ble_eq_true rfl) dX4_idle_5 rfl ?_
  obtain ⟨y3, e4, h⟩ := ol_of_bd h
  refine ol_cVw (As := [.int y1]) hX (pc := 8) (wX4_isRefused V a σ y1 y3 e4) lkX4_180 dcX4_isRefused ol_rr_X4_idle_X4_isRefused 0 rfl rfl ⟨Nat.le_refl _, Nat.le_refl _⟩ (Nat.le_of_ble_eq_true rfl) dX4_idle_8 rfl ?_
  refine ol_if_eq hX (pc := 11) 16 dX4_idle_11 (by decide) (fun c5 => ?_) (fun c5 => ?_)
  · have h := ol_ifp c5 h
    refine ol_iconst hX (pc := 16) 0 dX4_idle_16 ol_k_iconst_0 ?_
    refine ol_istore_n hX (pc := 17) [some (.ref (a 0)), some (.int 0), none] dX4_idle_17 rfl (by decide) rfl rfl ?_
    refine ol_iconst hX (pc := 18) 0 dX4_idle_18 ol_k_iconst_0 ?_
    refine ol_istore_n hX (pc := 19) [some (.ref (a 0)), some (.int 0), some (.int 0)] dX4_idle_19 rfl (by decide) rfl rfl ?_
    exact wX4_idle_L20 hX ol_fuel 0 0 y3.2 h
  · have h := ol_ifn c5 h
    refine ol_iconst hX (pc := 14) (-1) dX4_idle_14 ol_k_iconst_m1 ?_
    have h := ol_of_some h
    subst h
    exact ol_iret hX (pc := 15) dX4_idle_15 ⟨rfl, rfl⟩ ⟨Nat.le_refl _, Nat.le_refl _⟩
set_option maxHeartbeats 4000000 in
theorem wX4_log_L39 {X : ol_Cx} {V : ol_Gh} {A : Nat → Prop} {a : Nat → Nat} {z : Int32 × ol_Mm} (hX : ol_CX X V A cX4_log RX4 "log" 3 (some .int)) (x1 : Int32) (x2 : Int32)   (s0 : Int32) (σ : ol_Mm) (h : oX4_log_L39 x1 x2 s0 σ = some z) : ol_G X V A true (ol_Pw (some (.int z.1)) (ol_WM V a z.2)) ({ frames := 1, cells := 0, slots := 0, locals := 22 } : Room) 3 0 0 (ol_WM V a σ) 39 [some (.ref (a 0)), some (.int x1), some (.int x2)] [.int s0, .ref (a 0)] := by
  unfold oX4_log_L39 at h
  obtain ⟨y1, e2, h⟩ := ol_of_bd h
  refine ol_cSr (As := [.int s0]) hX (pc := 39) (wX4_unless V (ol_WM V a σ) s0 y1 e2) lkX4_324 dcX4_unless ⟨rfl, rfl⟩ ol_rr_X4_log_X4_unless (fun _ h => h) ⟨Nat.le_refl _, Nat.le_refl _⟩ (Nat.le_of_ble_eq_true rfl) dX4_log_39 rfl ?_
  obtain ⟨y3, e4, h⟩ := ol_of_bd h
  refine ol_cVw (As := [.int y1]) hX (pc := 42) (wX4_isRefused V a σ y1 y3 e4) lkX4_180 dcX4_isRefused ol_rr_X4_log_X4_isRefused 0 rfl rfl ⟨Nat.le_refl _, Nat.le_refl _⟩ (Nat.le_of_ble_eq_true rfl) dX4_log_42 rfl ?_
  refine ol_if_eq hX (pc := 45) 52 dX4_log_45 (by decide) (fun c6 => ?_) (fun c6 => ?_)
  · have h := ol_ifp c6 h
    refine ol_aload_n hX (pc := 52) dX4_log_52 rfl rfl ?_
    refine ol_mg18 hX (pc := 53) dX4_log_53 ?_
    refine ol_bipush hX (pc := 56) 91 dX4_log_56 ol_k_bipush_91 ?_
    refine ol_bipush hX (pc := 58) 6 dX4_log_58 ol_k_bipush_6 ?_
    refine ol_iload_n hX (pc := 60) dX4_log_60 rfl rfl ?_
    refine ol_imul hX (pc := 61) dX4_log_61 ?_
    refine ol_iadd hX (pc := 62) dX4_log_62 ?_
    refine ol_iload_n hX (pc := 63) dX4_log_63 rfl rfl ?_
    refine ol_iadd hX (pc := 64) dX4_log_64 ?_
    obtain ⟨g5, h⟩ := ol_of_og h
    refine ol_ml5 hX (pc := 65) dX4_log_65 rfl (ol_in_vp g5) ?_
    have h := ol_of_some h
    subst h
    exact ol_iret hX (pc := 66) dX4_log_66 ⟨rfl, rfl⟩ ⟨Nat.le_refl _, Nat.le_refl _⟩
  · have h := ol_ifn c6 h
    refine ol_iconst hX (pc := 48) (-1) dX4_log_48 ol_k_iconst_m1 ?_
    refine ol_goto hX (pc := 49) 66 dX4_log_49 (by decide) ?_
    have h := ol_of_some h
    subst h
    exact ol_iret hX (pc := 66) dX4_log_66 ⟨rfl, rfl⟩ ⟨Nat.le_refl _, Nat.le_refl _⟩
set_option maxHeartbeats 4000000 in
theorem wX4_log (V : ol_Gh) (a : Nat → Nat) (σ : ol_Mm) (x1 : Int32) (x2 : Int32)  (z : Int32 × ol_Mm) (h : oX4_log σ x1 x2 = some z) : ol_Mt V yX4_log cX4_log 3 (some .int) ({ frames := 1, cells := 0, slots := 0, locals := 22 } : Room) true [.ref (a 0), .int x1, .int x2] (ol_WM V a σ) (ol_Pw (some (.int z.1)) (ol_WM V a z.2)) := by
  refine ol_MtOf (L0 := [some (.ref (a 0)), some (.int x1), some (.int x2)]) (by decide) (Nat.le_of_ble_eq_true rfl) rfl (fun X A hX => ?_)
  unfold oX4_log at h
  refine ol_aload_n hX (pc := 0) dX4_log_0 rfl rfl ?_
  refine ol_aload_n hX (pc := 1) dX4_log_1 rfl rfl ?_
  refine ol_mg9 hX (pc := 2) dX4_log_2 ?_
  refine ol_if_eq hX (pc := 5) 38 dX4_log_5 (by decide) (fun c7 => ?_) (fun c7 => ?_)
  · have h := ol_ifp c7 h
    refine ol_iconst hX (pc := 38) 0 dX4_log_38 ol_k_iconst_0 ?_
    exact wX4_log_L39 hX x1 x2 0 σ h
  · have h := ol_ifn c7 h
    refine ol_iload_n hX (pc := 8) dX4_log_8 rfl rfl ?_
    refine ol_iconst hX (pc := 9) 0 dX4_log_9 ol_k_iconst_0 ?_
    refine ol_aload_n hX (pc := 10) dX4_log_10 rfl rfl ?_
    refine ol_mg18 hX (pc := 11) dX4_log_11 ?_
    refine ol_bipush hX (pc := 14) 90 dX4_log_14 ol_k_bipush_90 ?_
    refine ol_ml5 hX (pc := 16) dX4_log_16 ol_tn_90 (ol_in_vp (by decide)) ?_
    refine ol_iconst hX (pc := 17) 1 dX4_log_17 ol_k_iconst_1 ?_
    refine ol_isub hX (pc := 18) dX4_log_18 ?_
    obtain ⟨y1, e2, h⟩ := ol_of_bd h
    refine ol_cSr (As := [.int x1, .int 0, .int ((σ.1 5 90) - 1)]) hX (pc := 19) (wX4_in V (ol_WM V a σ) x1 0 ((σ.1 5 90) - 1) y1 e2) lkX4_83 dcX4_in ⟨rfl, rfl⟩ ol_rr_X4_log_X4_in (fun _ h => h) ⟨Nat.le_refl _, Nat.le_refl _⟩ (Nat.le_of_ble_eq_true rfl) dX4_log_19 rfl ?_
    refine ol_if_eq hX (pc := 22) 38 dX4_log_22 (by decide) (fun c6 => ?_) (fun c6 => ?_)
    · have h := ol_ifp c6 h
      refine ol_iconst hX (pc := 38) 0 dX4_log_38 ol_k_iconst_0 ?_
      exact wX4_log_L39 hX x1 x2 0 σ h
    · have h := ol_ifn c6 h
      refine ol_iload_n hX (pc := 25) dX4_log_25 rfl rfl ?_
      refine ol_iconst hX (pc := 26) 0 dX4_log_26 ol_k_iconst_0 ?_
      refine ol_iconst hX (pc := 27) 5 dX4_log_27 ol_k_iconst_5 ?_
      obtain ⟨y3, e4, h⟩ := ol_of_bd h
      refine ol_cSr (As := [.int x2, .int 0, .int 5]) hX (pc := 28) (wX4_in V (ol_WM V a σ) x2 0 5 y3 e4) lkX4_83 dcX4_in ⟨rfl, rfl⟩ ol_rr_X4_log_X4_in (fun _ h => h) ⟨Nat.le_refl _, Nat.le_refl _⟩ (Nat.le_of_ble_eq_true rfl) dX4_log_28 rfl ?_
      refine ol_if_eq hX (pc := 31) 38 dX4_log_31 (by decide) (fun c5 => ?_) (fun c5 => ?_)
      · have h := ol_ifp c5 h
        refine ol_iconst hX (pc := 38) 0 dX4_log_38 ol_k_iconst_0 ?_
        exact wX4_log_L39 hX x1 x2 0 σ h
      · have h := ol_ifn c5 h
        refine ol_iconst hX (pc := 34) 1 dX4_log_34 ol_k_iconst_1 ?_
        refine ol_goto hX (pc := 35) 39 dX4_log_35 (by decide) ?_
        exact wX4_log_L39 hX x1 x2 1 σ h
