/-! walks (printed) -/
set_option maxRecDepth 100000
set_option maxHeartbeats 4000000 in
theorem wX3_isThrough_L147 {X : ol_Cx} {V : ol_Gh} {A : Nat → Prop} {a : Nat → Nat} {r0 : Option Nat} {ext : va_W} {g : Nat → Nat → Nat} {z : ol_Xm} (hX : ol_CX X V A cX3_isThrough RX3 "isThrough" 3 none) (β : ol_Bd) (r : Nat) (hr : ol_isr r)   : ∀ (n : Nat), ∀ (v1 : Int32) (v2 : Int32) (σ : ol_Xm) (gh : ol_Lh) (hg : ol_Rel gh σ.2.2), oX3_isThrough_L147 β (g 0 0) r n v1 v2 σ = some z → ol_G X V A true (fun v w => ∃ gh2 : ol_Lh, ol_Rel gh2 z.2.2 ∧ v = none ∧ w = ol_Xc V a r0 z ++ (ol_WB V g β ++ (ol_WL V a gh2 z.2.2 ++ ext))) ({ frames := 15, cells := 3, slots := 8, locals := 677 } : Room) 3 3 8 (ol_Xc V a r0 σ ++ (ol_WB V g β ++ (ol_WL V a gh σ.2.2 ++ ext))) 147 [some (.ref (a r)), some (.int v1), some (.int v2)] [] := by
  intro n
  induction n with
  | zero =>
    intro v1 v2 σ gh hg h
    exact ol_no h
  | succ n ih =>
    intro v1 v2 σ gh hg h
    rw [oX3_isThrough_L147] at h
    refine ol_iload_n hX (pc := 147) dX3_isThrough_147 rfl rfl ?_
    refine ol_bipush hX (pc := 148) 6 dX3_isThrough_148 ol_k_bipush_6 ?_
    refine ol_icmp_ge hX (pc := 150) 166 dX3_isThrough_150 (by decide) (fun c3 => ?_) (fun c3 => ?_)
    · have h := ol_ifp c3 h
      refine ol_aload_n hX (pc := 166) dX3_isThrough_166 rfl rfl ?_
      refine ol_xg_R_1 hX (pc := 167) hr q256 dX3_isThrough_167 ?_
      refine ol_iload_n hX (pc := 170) dX3_isThrough_170 rfl rfl ?_
      refine ol_iconst hX (pc := 171) 0 dX3_isThrough_171 ol_k_iconst_0 ?_
      obtain ⟨g1, h⟩ := ol_of_og h
      refine ol_xw_R1 hX (pc := 172) hr (by rfl) dX3_isThrough_172 rfl (ol_in_vp g1) ?_
      have h := ol_of_some h
      subst h
      exact ol_vret hX (pc := 173) dX3_isThrough_173 ⟨gh, hg, rfl, rfl⟩ ⟨(by first | omega | (dsimp only; omega)), (by first | omega | (dsimp only; omega))⟩
    · have h := ol_ifn c3 h
      refine ol_aload_n hX (pc := 153) dX3_isThrough_153 rfl rfl ?_
      refine ol_xg_R_1 hX (pc := 154) hr q256 dX3_isThrough_154 ?_
      refine ol_iload_n hX (pc := 157) dX3_isThrough_157 rfl rfl ?_
      refine ol_iconst hX (pc := 158) 1 dX3_isThrough_158 ol_k_iconst_1 ?_
      obtain ⟨g2, h⟩ := ol_of_og h
      refine ol_xw_R1 hX (pc := 159) hr (by rfl) dX3_isThrough_159 rfl (ol_in_vp g2) ?_
      refine ol_iinc hX (pc := 160) (v2 + 1) [some (.ref (a r)), some (.int v1), some (.int (v2 + 1))] dX3_isThrough_160 rfl (ol_k_iinc_1 _) (by decide) rfl rfl ?_
      refine ol_goto hX (pc := 163) 147 dX3_isThrough_163 (by decide) ?_
      refine ol_Gwid (k := 3) (n := 8) (by first | omega | (dsimp only; omega)) (by first | omega | (dsimp only; omega)) ?_
      exact ih v1 (v2 + 1) (ol_xs σ (r + 1) v2.toNatClampNeg 1) gh hg h
set_option maxHeartbeats 4000000 in
theorem wX3_isThrough_L115 {X : ol_Cx} {V : ol_Gh} {A : Nat → Prop} {a : Nat → Nat} {r0 : Option Nat} {ext : va_W} {g : Nat → Nat → Nat} {z : ol_Xm} (hX : ol_CX X V A cX3_isThrough RX3 "isThrough" 3 none) (β : ol_Bd) (r : Nat) (hr : ol_isr r)  (v1 : Int32) (σ : ol_Xm) (gh : ol_Lh) (hg : ol_Rel gh σ.2.2) (h : oX3_isThrough_L115 β (g 0 0) r v1 σ = some z) : ol_G X V A true (fun v w => ∃ gh2 : ol_Lh, ol_Rel gh2 z.2.2 ∧ v = none ∧ w = ol_Xc V a r0 z ++ (ol_WB V g β ++ (ol_WL V a gh2 z.2.2 ++ ext))) ({ frames := 15, cells := 3, slots := 8, locals := 677 } : Room) 3 3 8 (ol_Xc V a r0 σ ++ (ol_WB V g β ++ (ol_WL V a gh σ.2.2 ++ ext))) 115 [some (.ref (a r)), some (.int v1), none] [] := by
  unfold oX3_isThrough_L115 at h
  refine ol_aload_n hX (pc := 115) dX3_isThrough_115 rfl rfl ?_
  refine ol_iload_n hX (pc := 116) dX3_isThrough_116 rfl rfl ?_
  refine ol_xp_R_11 hX (pc := 117) hr q274 dX3_isThrough_117 ?_
  refine ol_aload_n hX (pc := 120) dX3_isThrough_120 rfl rfl ?_
  refine ol_iload_n hX (pc := 121) dX3_isThrough_121 rfl rfl ?_
  refine ol_iconst hX (pc := 122) 5 dX3_isThrough_122 ol_k_iconst_5 ?_
  obtain ⟨y1, e2, h⟩ := ol_of_bd h
  refine ol_cVw (As := [.int v1, .int 5]) hX (pc := 123) (wX3_counts V a r0 (ol_WB V g β ++ (ol_WL V a gh σ.2.2 ++ ext)) (ol_xs σ r 11 v1) r v1 5 hr y1 e2) lkX3_116 dcX3_counts ol_rr_X3_isThrough_X3_counts r (ol_rpos hr) rfl ⟨(by first | omega | (dsimp only; omega)), (by first | omega | (dsimp only; omega))⟩ (Nat.le_of_ble_eq_true rfl) dX3_isThrough_123 rfl ?_
  refine ol_Grelog (σ0 := (ol_xs σ r 11 v1)) ?_
  refine ol_aload_n hX (pc := 126) dX3_isThrough_126 rfl rfl ?_
  refine ol_xg_R_1 hX (pc := 127) hr q256 dX3_isThrough_127 ?_
  refine ol_iload_n hX (pc := 130) dX3_isThrough_130 rfl rfl ?_
  obtain ⟨g3, h⟩ := ol_of_og h
  refine ol_xl_R1 hX (pc := 131) hr dX3_isThrough_131 rfl (ol_in_vp g3) ?_
  refine ol_if_ne hX (pc := 132) 166 dX3_isThrough_132 (by decide) (fun c5 => ?_) (fun c5 => ?_)
  · have h := ol_ifn c5 h
    refine ol_aload_n hX (pc := 166) dX3_isThrough_166 rfl rfl ?_
    refine ol_xg_R_1 hX (pc := 167) hr q256 dX3_isThrough_167 ?_
    refine ol_iload_n hX (pc := 170) dX3_isThrough_170 rfl rfl ?_
    refine ol_iconst hX (pc := 171) 0 dX3_isThrough_171 ol_k_iconst_0 ?_
    obtain ⟨g4, h⟩ := ol_of_og h
    refine ol_xw_R1 hX (pc := 172) hr (by rfl) dX3_isThrough_172 rfl (ol_in_vp g4) ?_
    have h := ol_of_some h
    subst h
    exact ol_vret hX (pc := 173) dX3_isThrough_173 ⟨gh, hg, rfl, rfl⟩ ⟨(by first | omega | (dsimp only; omega)), (by first | omega | (dsimp only; omega))⟩
  · have h := ol_ifp c5 h
    refine ol_aload_n hX (pc := 135) dX3_isThrough_135 rfl rfl ?_
    refine ol_dup hX (pc := 136) dX3_isThrough_136 rfl ?_
    refine ol_xg_R_14 hX (pc := 137) hr q277 dX3_isThrough_137 ?_
    refine ol_iconst hX (pc := 140) 1 dX3_isThrough_140 ol_k_iconst_1 ?_
    refine ol_iadd hX (pc := 141) dX3_isThrough_141 ?_
    refine ol_xp_R_14 hX (pc := 142) hr q277 dX3_isThrough_142 ?_
    refine ol_iconst hX (pc := 145) 0 dX3_isThrough_145 ol_k_iconst_0 ?_
    refine ol_istore_n hX (pc := 146) [some (.ref (a r)), some (.int v1), some (.int 0)] dX3_isThrough_146 rfl (by decide) rfl rfl ?_
    refine ol_Gwid (k := 3) (n := 8) (by first | omega | (dsimp only; omega)) (by first | omega | (dsimp only; omega)) ?_
    exact wX3_isThrough_L147 hX β r hr ol_fuel v1 0 (ol_xs (ol_relog (ol_xs σ r 11 v1) y1) r 14 (((ol_relog (ol_xs σ r 11 v1) y1).1 r 14) + 1)) gh hg h
set_option maxHeartbeats 4000000 in
theorem wX3_isThrough (V : ol_Gh) (a : Nat → Nat) (r0 : Option Nat) (ext : va_W) (g : Nat → Nat → Nat) (σ : ol_Xm) (β : ol_Bd) (r : Nat) (hr : ol_isr r) (gh : ol_Lh) (hg : ol_Rel gh σ.2.2) (z : ol_Xm) (h : oX3_isThrough σ β (g 0 0) r = some z) : ol_Mt V yX3_isThrough cX3_isThrough 3 none ({ frames := 15, cells := 3, slots := 8, locals := 677 } : Room) true [.ref (a r)] (ol_Xc V a r0 σ ++ (ol_WB V g β ++ (ol_WL V a gh σ.2.2 ++ ext))) (fun v w => ∃ gh2 : ol_Lh, ol_Rel gh2 z.2.2 ∧ v = none ∧ w = ol_Xc V a r0 z ++ (ol_WB V g β ++ (ol_WL V a gh2 z.2.2 ++ ext))) := by
  refine ol_MtOf (L0 := [some (.ref (a r)), none, none]) (by decide) (Nat.le_of_ble_eq_true rfl) rfl (fun X A hX => ?_)
  unfold oX3_isThrough at h
  refine ol_aload_n hX (pc := 0) dX3_isThrough_0 rfl rfl ?_
  refine ol_aload_n hX (pc := 1) dX3_isThrough_1 rfl rfl ?_
  refine ol_xg_R_13 hX (pc := 2) hr q276 dX3_isThrough_2 ?_
  refine ol_new (ci := 11) hX (pc := 5) in_X13 tyX13 tyX13_ok q1868 q1869 q141 rfl [.null] (fun j hj => by rcases (show j = 0 by omega) with rfl <;> rfl) ⟨(by first | omega | (dsimp only; omega)), (by first | omega | (dsimp only; omega))⟩ dX3_isThrough_5 (fun q1 => ?_)
  refine ol_Geq (show _ = ol_Xc V a r0 σ ++ (ol_WB V g β ++ (ol_WL V a gh σ.2.2 ++ (ext ++ [(q1, .inr (11, [.null]))]))) from by simp only [List.append_assoc]) ?_
  refine ol_Gwid (k := 1) (n := 1) (by first | omega | (dsimp only; omega)) (by first | omega | (dsimp only; omega)) ?_
  refine ol_dup hX (pc := 8) dX3_isThrough_8 rfl ?_
  refine ol_aload_n hX (pc := 9) dX3_isThrough_9 rfl rfl ?_
  refine ol_Geq (show _ = (ol_Xc V a r0 σ ++ (ol_WB V g β ++ (ol_WL V a gh σ.2.2 ++ ext))) ++ [(q1, .inr (11, [.null]))] from by simp only [List.append_assoc]) ?_
  refine ol_cIW (As := [.ref (a r)]) hX (pc := 10) (wX13_init V _ q1 (a r)) q1870 q1871 q141 q1872 rfl dcX13_init ⟨(Nat.le_of_ble_eq_true rfl), (Nat.le_of_ble_eq_true rfl)⟩ ⟨(by first | omega | (dsimp only; omega)), (by first | omega | (dsimp only; omega))⟩ (Nat.le_of_ble_eq_true rfl) dX3_isThrough_10 rfl (fun v w hp => ?_)
  obtain ⟨rfl, rfl⟩ := hp
  refine ol_Geq (show _ = ol_Xc V a r0 σ ++ (ol_WB V g β ++ (ol_WL V a gh σ.2.2 ++ (ext ++ [(q1, .inr (11, [.ref (a r)]))]))) from by simp only [List.append_assoc]) ?_
  refine ol_Gwid (k := 1) (n := 1) (by first | omega | (dsimp only; omega)) (by first | omega | (dsimp only; omega)) ?_
  obtain ⟨y2, e3, h⟩ := ol_of_bd h
  refine ol_cVw (As := [.int (σ.1 r 13), .ref q1]) hX (pc := 13) (wX3_passes V a r0 (ol_WL V a gh σ.2.2 ++ (ext ++ [(q1, .inr (11, [.ref (a r)]))])) g q1 σ β r (fun σ i => oX13_of σ β r i) (σ.1 r 13) hr ((ol_word3 hr) (List.mem_append_right _ (List.mem_append_right _ List.mem_cons_self))) y2 e3) lkX3_221 dcX3_passes ol_rr_X3_isThrough_X3_passes r (ol_rpos hr) rfl ⟨(by first | omega | (dsimp only; omega)), (by first | omega | (dsimp only; omega))⟩ (Nat.le_of_ble_eq_true rfl) dX3_isThrough_13 rfl ?_
  refine ol_Grelog (σ0 := σ) ?_
  refine ol_Gwid (k := 2) (n := 2) (by first | omega | (dsimp only; omega)) (by first | omega | (dsimp only; omega)) ?_
  refine ol_Geq (show _ = (ol_Xc V a r0 (ol_relog σ y2.2) ++ (ol_WB V g β ++ (ol_WL V a gh σ.2.2 ++ ext))) ++ [(q1, .inr (11, [.ref (a r)]))] from by simp only [List.append_assoc]) (ol_Gpre ?_)
  refine ol_istore_n hX (pc := 16) [some (.ref (a r)), some (.int y2.1), none] dX3_isThrough_16 rfl (by decide) rfl rfl ?_
  refine ol_aload_n hX (pc := 17) dX3_isThrough_17 rfl rfl ?_
  refine ol_dup hX (pc := 18) dX3_isThrough_18 rfl ?_
  refine ol_xg_R_15 hX (pc := 19) hr q278 dX3_isThrough_19 ?_
  refine ol_iconst hX (pc := 22) 1 dX3_isThrough_22 ol_k_iconst_1 ?_
  refine ol_iadd hX (pc := 23) dX3_isThrough_23 ?_
  refine ol_xp_R_15 hX (pc := 24) hr q278 dX3_isThrough_24 ?_
  refine ol_aload_n hX (pc := 27) dX3_isThrough_27 rfl rfl ?_
  refine ol_dup hX (pc := 28) dX3_isThrough_28 rfl ?_
  refine ol_xg_R_17 hX (pc := 29) hr q280 dX3_isThrough_29 ?_
  refine ol_aload_n hX (pc := 32) dX3_isThrough_32 rfl rfl ?_
  refine ol_xg_R_21 hX (pc := 33) hr q285 dX3_isThrough_33 ?_
  refine ol_iadd hX (pc := 36) dX3_isThrough_36 ?_
  refine ol_xp_R_17 hX (pc := 37) hr q280 dX3_isThrough_37 ?_
  obtain ⟨s4, e5, h⟩ := ol_of_lt h
  refine ol_Gnm e5 ?_
  have hg6 := ol_Rnm e5 hg
  refine ol_aload_n hX (pc := 40) dX3_isThrough_40 rfl rfl ?_
  refine ol_iload_n hX (pc := 41) dX3_isThrough_41 rfl rfl ?_
  obtain ⟨y7, e8, h⟩ := ol_of_bd h
  refine ol_cVW (As := [.int y2.1]) hX (pc := 42) (wX3_notes V a r0 ext g s4 β r y2.1 hr gh hg6 y7 e8) lkX3_225 dcX3_notes ol_rr_X3_isThrough_X3_notes r (ol_rpos hr) rfl ⟨(by first | omega | (dsimp only; omega)), (by first | omega | (dsimp only; omega))⟩ (Nat.le_of_ble_eq_true rfl) dX3_isThrough_42 rfl (fun v w hp => ?_)
  obtain ⟨gh9, hg10, rfl, rfl⟩ := hp
  refine ol_Gwid (k := 3) (n := 8) (by first | omega | (dsimp only; omega)) (by first | omega | (dsimp only; omega)) ?_
  refine ol_aload_n hX (pc := 45) dX3_isThrough_45 rfl rfl ?_
  refine ol_bipush hX (pc := 46) (-2) dX3_isThrough_46 ol_k_bipush_m2 ?_
  refine ol_xp_R_12 hX (pc := 48) hr q275 dX3_isThrough_48 ?_
  refine ol_aload_n hX (pc := 51) dX3_isThrough_51 rfl rfl ?_
  refine ol_iconst hX (pc := 52) 0 dX3_isThrough_52 ol_k_iconst_0 ?_
  refine ol_xp_R_13 hX (pc := 53) hr q276 dX3_isThrough_53 ?_
  refine ol_iload_n hX (pc := 56) dX3_isThrough_56 rfl rfl ?_
  refine ol_bipush hX (pc := 57) (-2) dX3_isThrough_57 ol_k_bipush_m2 ?_
  refine ol_icmp_ne hX (pc := 59) 79 dX3_isThrough_59 (by decide) (fun c15 => ?_) (fun c15 => ?_)
  · have h := ol_ifn c15 h
    refine ol_aload_n hX (pc := 79) dX3_isThrough_79 rfl rfl ?_
    refine ol_xg_R_11 hX (pc := 80) hr q274 dX3_isThrough_80 ?_
    refine ol_bipush hX (pc := 83) (-2) dX3_isThrough_83 ol_k_bipush_m2 ?_
    refine ol_icmp_eq hX (pc := 85) 115 dX3_isThrough_85 (by decide) (fun c14 => ?_) (fun c14 => ?_)
    · have h := ol_ifp c14 h
      refine ol_Gwid (k := 3) (n := 8) (by first | omega | (dsimp only; omega)) (by first | omega | (dsimp only; omega)) ?_
      exact wX3_isThrough_L115 hX β r hr y2.1 (ol_xs (ol_xs y7 r 12 (-2)) r 13 0) gh9 hg10 h
    · have h := ol_ifn c14 h
      refine ol_aload_n hX (pc := 88) dX3_isThrough_88 rfl rfl ?_
      refine ol_xg_R_11 hX (pc := 89) hr q274 dX3_isThrough_89 ?_
      refine ol_iload_n hX (pc := 92) dX3_isThrough_92 rfl rfl ?_
      refine ol_icmp_eq hX (pc := 93) 115 dX3_isThrough_93 (by decide) (fun c13 => ?_) (fun c13 => ?_)
      · have h := ol_ifp c13 h
        refine ol_Gwid (k := 3) (n := 8) (by first | omega | (dsimp only; omega)) (by first | omega | (dsimp only; omega)) ?_
        exact wX3_isThrough_L115 hX β r hr y2.1 (ol_xs (ol_xs y7 r 12 (-2)) r 13 0) gh9 hg10 h
      · have h := ol_ifn c13 h
        refine ol_aload_n hX (pc := 96) dX3_isThrough_96 rfl rfl ?_
        refine ol_dup hX (pc := 97) dX3_isThrough_97 rfl ?_
        refine ol_xg_R_18 hX (pc := 98) hr q281 dX3_isThrough_98 ?_
        refine ol_iconst hX (pc := 101) 1 dX3_isThrough_101 ol_k_iconst_1 ?_
        refine ol_iadd hX (pc := 102) dX3_isThrough_102 ?_
        refine ol_xp_R_18 hX (pc := 103) hr q281 dX3_isThrough_103 ?_
        refine ol_aload_n hX (pc := 106) dX3_isThrough_106 rfl rfl ?_
        refine ol_aload_n hX (pc := 107) dX3_isThrough_107 rfl rfl ?_
        refine ol_xg_R_11 hX (pc := 108) hr q274 dX3_isThrough_108 ?_
        refine ol_iconst hX (pc := 111) 3 dX3_isThrough_111 ol_k_iconst_3 ?_
        obtain ⟨y11, e12, h⟩ := ol_of_bd h
        refine ol_cVw (As := [.int ((ol_xs (ol_xs (ol_xs y7 r 12 (-2)) r 13 0) r 18 (((ol_xs (ol_xs y7 r 12 (-2)) r 13 0).1 r 18) + 1)).1 r 11), .int 3]) hX (pc := 112) (wX3_counts V a r0 (ol_WB V g β ++ (ol_WL V a gh9 y7.2.2 ++ ext)) (ol_xs (ol_xs (ol_xs y7 r 12 (-2)) r 13 0) r 18 (((ol_xs (ol_xs y7 r 12 (-2)) r 13 0).1 r 18) + 1)) r ((ol_xs (ol_xs (ol_xs y7 r 12 (-2)) r 13 0) r 18 (((ol_xs (ol_xs y7 r 12 (-2)) r 13 0).1 r 18) + 1)).1 r 11) 3 hr y11 e12) lkX3_116 dcX3_counts ol_rr_X3_isThrough_X3_counts r (ol_rpos hr) rfl ⟨(by first | omega | (dsimp only; omega)), (by first | omega | (dsimp only; omega))⟩ (Nat.le_of_ble_eq_true rfl) dX3_isThrough_112 rfl ?_
        refine ol_Grelog (σ0 := (ol_xs (ol_xs (ol_xs y7 r 12 (-2)) r 13 0) r 18 (((ol_xs (ol_xs y7 r 12 (-2)) r 13 0).1 r 18) + 1))) ?_
        refine ol_Gwid (k := 3) (n := 8) (by first | omega | (dsimp only; omega)) (by first | omega | (dsimp only; omega)) ?_
        exact wX3_isThrough_L115 hX β r hr y2.1 (ol_relog (ol_xs (ol_xs (ol_xs y7 r 12 (-2)) r 13 0) r 18 (((ol_xs (ol_xs y7 r 12 (-2)) r 13 0).1 r 18) + 1)) y11) gh9 hg10 h
  · have h := ol_ifp c15 h
    refine ol_aload_n hX (pc := 62) dX3_isThrough_62 rfl rfl ?_
    refine ol_dup hX (pc := 63) dX3_isThrough_63 rfl ?_
    refine ol_xg_R_16 hX (pc := 64) hr q279 dX3_isThrough_64 ?_
    refine ol_iconst hX (pc := 67) 1 dX3_isThrough_67 ol_k_iconst_1 ?_
    refine ol_iadd hX (pc := 68) dX3_isThrough_68 ?_
    refine ol_xp_R_16 hX (pc := 69) hr q279 dX3_isThrough_69 ?_
    refine ol_aload_n hX (pc := 72) dX3_isThrough_72 rfl rfl ?_
    refine ol_bipush hX (pc := 73) (-2) dX3_isThrough_73 ol_k_bipush_m2 ?_
    refine ol_xp_R_11 hX (pc := 75) hr q274 dX3_isThrough_75 ?_
    have h := ol_of_some h
    subst h
    exact ol_vret hX (pc := 78) dX3_isThrough_78 ⟨gh9, hg10, rfl, rfl⟩ ⟨(by first | omega | (dsimp only; omega)), (by first | omega | (dsimp only; omega))⟩
set_option maxHeartbeats 4000000 in
theorem wX3_tick_L197 {X : ol_Cx} {V : ol_Gh} {A : Nat → Prop} {a : Nat → Nat} {r0 : Option Nat} {ext : va_W} {g : Nat → Nat → Nat} {z : ol_Xm} (hX : ol_CX X V A cX3_tick RX3 "tick" 2 none) (β : ol_Bd) (r : Nat) (hr : ol_isr r)  (σ : ol_Xm) (gh : ol_Lh) (hg : ol_Rel gh σ.2.2) (h : oX3_tick_L197 β (g 0 0) r σ = some z) : ol_G X V A true (fun v w => ∃ gh2 : ol_Lh, ol_Rel gh2 z.2.2 ∧ v = none ∧ w = ol_Xc V a r0 z ++ (ol_WB V g β ++ (ol_WL V a gh2 z.2.2 ++ ext))) ({ frames := 16, cells := 5, slots := 12, locals := 699 } : Room) 2 5 12 (ol_Xc V a r0 σ ++ (ol_WB V g β ++ (ol_WL V a gh σ.2.2 ++ ext))) 197 [some (.ref (a r)), none] [] := by
  unfold oX3_tick_L197 at h
  refine ol_aload_n hX (pc := 197) dX3_tick_197 rfl rfl ?_
  refine ol_xg_R_9 hX (pc := 198) hr q271 dX3_tick_198 ?_
  refine ol_bipush hX (pc := 201) (-2) dX3_tick_201 ol_k_bipush_m2 ?_
  refine ol_icmp_eq hX (pc := 203) 215 dX3_tick_203 (by decide) (fun c5 => ?_) (fun c5 => ?_)
  · have h := ol_ifp c5 h
    refine ol_aload_n hX (pc := 215) dX3_tick_215 rfl rfl ?_
    refine ol_xg_R_20 hX (pc := 216) hr q284 dX3_tick_216 ?_
    refine ol_aload_n hX (pc := 219) dX3_tick_219 rfl rfl ?_
    refine ol_xg_R_8 hX (pc := 220) hr q269 dX3_tick_220 ?_
    refine ol_bipush hX (pc := 223) 64 dX3_tick_223 ol_k_bipush_64 ?_
    refine ol_irem hX (pc := 225) dX3_tick_225 (by decide) ?_
    refine ol_aload_n hX (pc := 226) dX3_tick_226 rfl rfl ?_
    refine ol_xg_R_9 hX (pc := 227) hr q271 dX3_tick_227 ?_
    obtain ⟨g1, h⟩ := ol_of_og h
    refine ol_xw_R8 hX (pc := 230) hr dX3_tick_230 rfl (ol_in_vp g1) ?_
    have h := ol_of_some h
    subst h
    exact ol_vret hX (pc := 231) dX3_tick_231 ⟨gh, hg, rfl, rfl⟩ ⟨(by first | omega | (dsimp only; omega)), (by first | omega | (dsimp only; omega))⟩
  · have h := ol_ifn c5 h
    refine ol_aload_n hX (pc := 206) dX3_tick_206 rfl rfl ?_
    refine ol_aload_n hX (pc := 207) dX3_tick_207 rfl rfl ?_
    refine ol_xg_R_9 hX (pc := 208) hr q271 dX3_tick_208 ?_
    refine ol_iconst hX (pc := 211) 1 dX3_tick_211 ol_k_iconst_1 ?_
    obtain ⟨y2, e3, h⟩ := ol_of_bd h
    refine ol_cVw (As := [.int (σ.1 r 9), .int 1]) hX (pc := 212) (wX3_counts V a r0 (ol_WB V g β ++ (ol_WL V a gh σ.2.2 ++ ext)) σ r (σ.1 r 9) 1 hr y2 e3) lkX3_116 dcX3_counts ol_rr_X3_tick_X3_counts r (ol_rpos hr) rfl ⟨(by first | omega | (dsimp only; omega)), (by first | omega | (dsimp only; omega))⟩ (Nat.le_of_ble_eq_true rfl) dX3_tick_212 rfl ?_
    refine ol_Grelog (σ0 := σ) ?_
    refine ol_aload_n hX (pc := 215) dX3_tick_215 rfl rfl ?_
    refine ol_xg_R_20 hX (pc := 216) hr q284 dX3_tick_216 ?_
    refine ol_aload_n hX (pc := 219) dX3_tick_219 rfl rfl ?_
    refine ol_xg_R_8 hX (pc := 220) hr q269 dX3_tick_220 ?_
    refine ol_bipush hX (pc := 223) 64 dX3_tick_223 ol_k_bipush_64 ?_
    refine ol_irem hX (pc := 225) dX3_tick_225 (by decide) ?_
    refine ol_aload_n hX (pc := 226) dX3_tick_226 rfl rfl ?_
    refine ol_xg_R_9 hX (pc := 227) hr q271 dX3_tick_227 ?_
    obtain ⟨g4, h⟩ := ol_of_og h
    refine ol_xw_R8 hX (pc := 230) hr dX3_tick_230 rfl (ol_in_vp g4) ?_
    have h := ol_of_some h
    subst h
    exact ol_vret hX (pc := 231) dX3_tick_231 ⟨gh, hg, rfl, rfl⟩ ⟨(by first | omega | (dsimp only; omega)), (by first | omega | (dsimp only; omega))⟩
set_option maxHeartbeats 4000000 in
theorem wX3_tick_L173 {X : ol_Cx} {V : ol_Gh} {A : Nat → Prop} {a : Nat → Nat} {r0 : Option Nat} {ext : va_W} {g : Nat → Nat → Nat} {z : ol_Xm} (hX : ol_CX X V A cX3_tick RX3 "tick" 2 none) (β : ol_Bd) (r : Nat) (hr : ol_isr r)  (σ : ol_Xm) (gh : ol_Lh) (hg : ol_Rel gh σ.2.2) (h : oX3_tick_L173 β (g 0 0) r σ = some z) : ol_G X V A true (fun v w => ∃ gh2 : ol_Lh, ol_Rel gh2 z.2.2 ∧ v = none ∧ w = ol_Xc V a r0 z ++ (ol_WB V g β ++ (ol_WL V a gh2 z.2.2 ++ ext))) ({ frames := 16, cells := 5, slots := 12, locals := 699 } : Room) 2 3 8 (ol_Xc V a r0 σ ++ (ol_WB V g β ++ (ol_WL V a gh σ.2.2 ++ ext))) 173 [some (.ref (a r)), none] [] := by
  unfold oX3_tick_L173 at h
  refine ol_aload_n hX (pc := 173) dX3_tick_173 rfl rfl ?_
  refine ol_xg_R_12 hX (pc := 174) hr q275 dX3_tick_174 ?_
  refine ol_bipush hX (pc := 177) (-2) dX3_tick_177 ol_k_bipush_m2 ?_
  refine ol_icmp_ne hX (pc := 179) 197 dX3_tick_179 (by decide) (fun c8 => ?_) (fun c8 => ?_)
  · have h := ol_ifn c8 h
    refine ol_Gwid (k := 5) (n := 12) (by first | omega | (dsimp only; omega)) (by first | omega | (dsimp only; omega)) ?_
    exact wX3_tick_L197 hX β r hr σ gh hg h
  · have h := ol_ifp c8 h
    refine ol_aload_n hX (pc := 182) dX3_tick_182 rfl rfl ?_
    obtain ⟨y1, e2, h⟩ := ol_of_bd h
    refine ol_cVr (As := []) hX (pc := 183) (wX3_isPressed V a r0 (ol_WL V a gh σ.2.2 ++ ext) g σ β r hr y1 e2) lkX3_252 dcX3_isPressed ⟨rfl, rfl⟩ ol_rr_X3_tick_X3_isPressed r (ol_rpos hr) rfl (fun _ h => h) ⟨(by first | omega | (dsimp only; omega)), (by first | omega | (dsimp only; omega))⟩ (Nat.le_of_ble_eq_true rfl) dX3_tick_183 rfl ?_
    refine ol_if_eq hX (pc := 186) 197 dX3_tick_186 (by decide) (fun c7 => ?_) (fun c7 => ?_)
    · have h := ol_ifp c7 h
      refine ol_Gwid (k := 5) (n := 12) (by first | omega | (dsimp only; omega)) (by first | omega | (dsimp only; omega)) ?_
      exact wX3_tick_L197 hX β r hr σ gh hg h
    · have h := ol_ifn c7 h
      refine ol_aload_n hX (pc := 189) dX3_tick_189 rfl rfl ?_
      refine ol_aload_n hX (pc := 190) dX3_tick_190 rfl rfl ?_
      obtain ⟨y3, e4, h⟩ := ol_of_bd h
      refine ol_cVr (As := []) hX (pc := 191) (wX3_asking V a r0 (ol_WL V a gh σ.2.2 ++ ext) g σ β r hr y3 e4) lkX3_255 dcX3_asking ⟨rfl, rfl⟩ ol_rr_X3_tick_X3_asking r (ol_rpos hr) rfl (fun _ h => h) ⟨(by first | omega | (dsimp only; omega)), (by first | omega | (dsimp only; omega))⟩ (Nat.le_of_ble_eq_true rfl) dX3_tick_191 rfl ?_
      obtain ⟨y5, e6, h⟩ := ol_of_bd h
      refine ol_cVw (As := [.int y3]) hX (pc := 194) (wX3_begins_2 V a r0 (ol_WL V a gh σ.2.2 ++ ext) g σ β r y3 hr y5 e6) lkX3_258 dcX3_begins_2 ol_rr_X3_tick_X3_begins_2 r (ol_rpos hr) rfl ⟨(by first | omega | (dsimp only; omega)), (by first | omega | (dsimp only; omega))⟩ (Nat.le_of_ble_eq_true rfl) dX3_tick_194 rfl ?_
      refine ol_Grelog (σ0 := σ) ?_
      refine ol_Gwid (k := 5) (n := 12) (by first | omega | (dsimp only; omega)) (by first | omega | (dsimp only; omega)) ?_
      refine ol_Gwid (k := 5) (n := 12) (by first | omega | (dsimp only; omega)) (by first | omega | (dsimp only; omega)) ?_
      exact wX3_tick_L197 hX β r hr (ol_relog σ y5) gh hg h
set_option maxHeartbeats 4000000 in
theorem wX3_tick_L142 {X : ol_Cx} {V : ol_Gh} {A : Nat → Prop} {a : Nat → Nat} {r0 : Option Nat} {ext : va_W} {g : Nat → Nat → Nat} {z : ol_Xm} (hX : ol_CX X V A cX3_tick RX3 "tick" 2 none) (β : ol_Bd) (r : Nat) (hr : ol_isr r)  (σ : ol_Xm) (gh : ol_Lh) (hg : ol_Rel gh σ.2.2) (h : oX3_tick_L142 β (g 0 0) r σ = some z) : ol_G X V A true (fun v w => ∃ gh2 : ol_Lh, ol_Rel gh2 z.2.2 ∧ v = none ∧ w = ol_Xc V a r0 z ++ (ol_WB V g β ++ (ol_WL V a gh2 z.2.2 ++ ext))) ({ frames := 16, cells := 5, slots := 12, locals := 699 } : Room) 2 3 8 (ol_Xc V a r0 σ ++ (ol_WB V g β ++ (ol_WL V a gh σ.2.2 ++ ext))) 142 [some (.ref (a r)), none] [] := by
  unfold oX3_tick_L142 at h
  refine ol_aload_n hX (pc := 142) dX3_tick_142 rfl rfl ?_
  refine ol_xg_R_9 hX (pc := 143) hr q271 dX3_tick_143 ?_
  refine ol_bipush hX (pc := 146) (-2) dX3_tick_146 ol_k_bipush_m2 ?_
  refine ol_icmp_ne hX (pc := 148) 173 dX3_tick_148 (by decide) (fun c5 => ?_) (fun c5 => ?_)
  · have h := ol_ifn c5 h
    refine ol_Gwid (k := 3) (n := 8) (by first | omega | (dsimp only; omega)) (by first | omega | (dsimp only; omega)) ?_
    exact wX3_tick_L173 hX β r hr σ gh hg h
  · have h := ol_ifp c5 h
    refine ol_aload_n hX (pc := 151) dX3_tick_151 rfl rfl ?_
    refine ol_xg_R_11 hX (pc := 152) hr q274 dX3_tick_152 ?_
    refine ol_bipush hX (pc := 155) (-2) dX3_tick_155 ol_k_bipush_m2 ?_
    refine ol_icmp_eq hX (pc := 157) 173 dX3_tick_157 (by decide) (fun c4 => ?_) (fun c4 => ?_)
    · have h := ol_ifp c4 h
      refine ol_Gwid (k := 3) (n := 8) (by first | omega | (dsimp only; omega)) (by first | omega | (dsimp only; omega)) ?_
      exact wX3_tick_L173 hX β r hr σ gh hg h
    · have h := ol_ifn c4 h
      refine ol_aload_n hX (pc := 160) dX3_tick_160 rfl rfl ?_
      refine ol_xg_R_12 hX (pc := 161) hr q275 dX3_tick_161 ?_
      refine ol_bipush hX (pc := 164) (-2) dX3_tick_164 ol_k_bipush_m2 ?_
      refine ol_icmp_ne hX (pc := 166) 173 dX3_tick_166 (by decide) (fun c3 => ?_) (fun c3 => ?_)
      · have h := ol_ifn c3 h
        refine ol_Gwid (k := 3) (n := 8) (by first | omega | (dsimp only; omega)) (by first | omega | (dsimp only; omega)) ?_
        exact wX3_tick_L173 hX β r hr σ gh hg h
      · have h := ol_ifp c3 h
        refine ol_aload_n hX (pc := 169) dX3_tick_169 rfl rfl ?_
        obtain ⟨y1, e2, h⟩ := ol_of_bd h
        refine ol_cVw (As := []) hX (pc := 170) (wX3_isMaster V a r0 (ol_WB V g β ++ (ol_WL V a gh σ.2.2 ++ ext)) σ r hr y1 e2) lkX3_249 dcX3_isMaster ol_rr_X3_tick_X3_isMaster r (ol_rpos hr) rfl ⟨(by first | omega | (dsimp only; omega)), (by first | omega | (dsimp only; omega))⟩ (Nat.le_of_ble_eq_true rfl) dX3_tick_170 rfl ?_
        refine ol_Grelog (σ0 := σ) ?_
        refine ol_Gwid (k := 3) (n := 8) (by first | omega | (dsimp only; omega)) (by first | omega | (dsimp only; omega)) ?_
        exact wX3_tick_L173 hX β r hr (ol_relog σ y1) gh hg h
set_option maxHeartbeats 4000000 in
theorem wX3_tick_L12 {X : ol_Cx} {V : ol_Gh} {A : Nat → Prop} {a : Nat → Nat} {r0 : Option Nat} {ext : va_W} {g : Nat → Nat → Nat} {z : ol_Xm} (hX : ol_CX X V A cX3_tick RX3 "tick" 2 none) (β : ol_Bd) (r : Nat) (hr : ol_isr r)   : ∀ (n : Nat), ∀ (v1 : Int32) (σ : ol_Xm) (gh : ol_Lh) (hg : ol_Rel gh σ.2.2), oX3_tick_L12 β (g 0 0) r n v1 σ = some z → ol_G X V A true (fun v w => ∃ gh2 : ol_Lh, ol_Rel gh2 z.2.2 ∧ v = none ∧ w = ol_Xc V a r0 z ++ (ol_WB V g β ++ (ol_WL V a gh2 z.2.2 ++ ext))) ({ frames := 16, cells := 5, slots := 12, locals := 699 } : Room) 2 0 0 (ol_Xc V a r0 σ ++ (ol_WB V g β ++ (ol_WL V a gh σ.2.2 ++ ext))) 12 [some (.ref (a r)), some (.int v1)] [] := by
  intro n
  induction n with
  | zero =>
    intro v1 σ gh hg h
    exact ol_no h
  | succ n ih =>
    intro v1 σ gh hg h
    rw [oX3_tick_L12] at h
    refine ol_iload_n hX (pc := 12) dX3_tick_12 rfl rfl ?_
    refine ol_aload_n hX (pc := 13) dX3_tick_13 rfl rfl ?_
    obtain ⟨g1, h⟩ := ol_of_og h
    refine ol_xg_R_0 hX (pc := 14) hr q254 (of_decide_eq_true g1) dX3_tick_14 ?_
    refine ol_getNM hX in_X6 (pc := 17) ol_hB_X.bus rfl 4 (by decide) q482 rfl rfl dX3_tick_17 ?_
    refine ol_cVrM (As := []) hX (pc := 20) (wJ2_size V _ _ _ _ _ ol_hB_X.al) lkX3_97 dcJ2_size ⟨rfl, rfl⟩ ⟨(Nat.le_of_ble_eq_true rfl), (Nat.le_of_ble_eq_true rfl)⟩ ol_hB_X.al rfl (fun _ h => h) ⟨(by first | omega | (dsimp only; omega)), (by first | omega | (dsimp only; omega))⟩ (Nat.le_of_ble_eq_true rfl) dX3_tick_20 rfl ?_
    refine ol_icmp_ge hX (pc := 23) 95 dX3_tick_23 (by decide) (fun c28 => ?_) (fun c28 => ?_)
    · have h := ol_ifp c28 h
      refine ol_aload_n hX (pc := 95) dX3_tick_95 rfl rfl ?_
      refine ol_xg_R_9 hX (pc := 96) hr q271 dX3_tick_96 ?_
      refine ol_bipush hX (pc := 99) (-2) dX3_tick_99 ol_k_bipush_m2 ?_
      refine ol_icmp_eq hX (pc := 101) 127 dX3_tick_101 (by decide) (fun c18 => ?_) (fun c18 => ?_)
      · have h := ol_ifp c18 h
        refine ol_aload_n hX (pc := 127) dX3_tick_127 rfl rfl ?_
        refine ol_xg_R_12 hX (pc := 128) hr q275 dX3_tick_128 ?_
        refine ol_aload_n hX (pc := 131) dX3_tick_131 rfl rfl ?_
        refine ol_xg_R_8 hX (pc := 132) hr q269 dX3_tick_132 ?_
        refine ol_icmp_ne hX (pc := 135) 142 dX3_tick_135 (by decide) (fun c6 => ?_) (fun c6 => ?_)
        · have h := ol_ifn c6 h
          refine ol_Gdrop 1 ?_
          refine ol_Gwid (k := 3) (n := 8) (by first | omega | (dsimp only; omega)) (by first | omega | (dsimp only; omega)) ?_
          exact wX3_tick_L142 hX β r hr σ gh hg h
        · have h := ol_ifp c6 h
          refine ol_aload_n hX (pc := 138) dX3_tick_138 rfl rfl ?_
          obtain ⟨y2, e3, h⟩ := ol_of_bd h
          refine ol_cVW (As := []) hX (pc := 139) (wX3_isThrough V a r0 ext g σ β r hr gh hg y2 e3) lkX3_246 dcX3_isThrough ol_rr_X3_tick_X3_isThrough r (ol_rpos hr) rfl ⟨(by first | omega | (dsimp only; omega)), (by first | omega | (dsimp only; omega))⟩ (Nat.le_of_ble_eq_true rfl) dX3_tick_139 rfl (fun v w hp => ?_)
          obtain ⟨gh4, hg5, rfl, rfl⟩ := hp
          refine ol_Gwid (k := 3) (n := 8) (by first | omega | (dsimp only; omega)) (by first | omega | (dsimp only; omega)) ?_
          refine ol_Gdrop 1 ?_
          refine ol_Gwid (k := 3) (n := 8) (by first | omega | (dsimp only; omega)) (by first | omega | (dsimp only; omega)) ?_
          exact wX3_tick_L142 hX β r hr y2 gh4 hg5 h
      · have h := ol_ifn c18 h
        refine ol_aload_n hX (pc := 104) dX3_tick_104 rfl rfl ?_
        refine ol_xg_R_10 hX (pc := 105) hr q273 dX3_tick_105 ?_
        refine ol_aload_n hX (pc := 108) dX3_tick_108 rfl rfl ?_
        refine ol_xg_R_8 hX (pc := 109) hr q269 dX3_tick_109 ?_
        refine ol_icmp_ne hX (pc := 112) 127 dX3_tick_112 (by decide) (fun c17 => ?_) (fun c17 => ?_)
        · have h := ol_ifn c17 h
          refine ol_aload_n hX (pc := 127) dX3_tick_127 rfl rfl ?_
          refine ol_xg_R_12 hX (pc := 128) hr q275 dX3_tick_128 ?_
          refine ol_aload_n hX (pc := 131) dX3_tick_131 rfl rfl ?_
          refine ol_xg_R_8 hX (pc := 132) hr q269 dX3_tick_132 ?_
          refine ol_icmp_ne hX (pc := 135) 142 dX3_tick_135 (by decide) (fun c11 => ?_) (fun c11 => ?_)
          · have h := ol_ifn c11 h
            refine ol_Gdrop 1 ?_
            refine ol_Gwid (k := 3) (n := 8) (by first | omega | (dsimp only; omega)) (by first | omega | (dsimp only; omega)) ?_
            exact wX3_tick_L142 hX β r hr σ gh hg h
          · have h := ol_ifp c11 h
            refine ol_aload_n hX (pc := 138) dX3_tick_138 rfl rfl ?_
            obtain ⟨y7, e8, h⟩ := ol_of_bd h
            refine ol_cVW (As := []) hX (pc := 139) (wX3_isThrough V a r0 ext g σ β r hr gh hg y7 e8) lkX3_246 dcX3_isThrough ol_rr_X3_tick_X3_isThrough r (ol_rpos hr) rfl ⟨(by first | omega | (dsimp only; omega)), (by first | omega | (dsimp only; omega))⟩ (Nat.le_of_ble_eq_true rfl) dX3_tick_139 rfl (fun v w hp => ?_)
            obtain ⟨gh9, hg10, rfl, rfl⟩ := hp
            refine ol_Gwid (k := 3) (n := 8) (by first | omega | (dsimp only; omega)) (by first | omega | (dsimp only; omega)) ?_
            refine ol_Gdrop 1 ?_
            refine ol_Gwid (k := 3) (n := 8) (by first | omega | (dsimp only; omega)) (by first | omega | (dsimp only; omega)) ?_
            exact wX3_tick_L142 hX β r hr y7 gh9 hg10 h
        · have h := ol_ifp c17 h
          refine ol_aload_n hX (pc := 115) dX3_tick_115 rfl rfl ?_
          refine ol_bipush hX (pc := 116) (-2) dX3_tick_116 ol_k_bipush_m2 ?_
          refine ol_xp_R_9 hX (pc := 118) hr q271 dX3_tick_118 ?_
          refine ol_aload_n hX (pc := 121) dX3_tick_121 rfl rfl ?_
          refine ol_bipush hX (pc := 122) (-2) dX3_tick_122 ol_k_bipush_m2 ?_
          refine ol_xp_R_10 hX (pc := 124) hr q273 dX3_tick_124 ?_
          refine ol_aload_n hX (pc := 127) dX3_tick_127 rfl rfl ?_
          refine ol_xg_R_12 hX (pc := 128) hr q275 dX3_tick_128 ?_
          refine ol_aload_n hX (pc := 131) dX3_tick_131 rfl rfl ?_
          refine ol_xg_R_8 hX (pc := 132) hr q269 dX3_tick_132 ?_
          refine ol_icmp_ne hX (pc := 135) 142 dX3_tick_135 (by decide) (fun c16 => ?_) (fun c16 => ?_)
          · have h := ol_ifn c16 h
            refine ol_Gdrop 1 ?_
            refine ol_Gwid (k := 3) (n := 8) (by first | omega | (dsimp only; omega)) (by first | omega | (dsimp only; omega)) ?_
            exact wX3_tick_L142 hX β r hr (ol_xs (ol_xs σ r 9 (-2)) r 10 (-2)) gh hg h
          · have h := ol_ifp c16 h
            refine ol_aload_n hX (pc := 138) dX3_tick_138 rfl rfl ?_
            obtain ⟨y12, e13, h⟩ := ol_of_bd h
            refine ol_cVW (As := []) hX (pc := 139) (wX3_isThrough V a r0 ext g (ol_xs (ol_xs σ r 9 (-2)) r 10 (-2)) β r hr gh hg y12 e13) lkX3_246 dcX3_isThrough ol_rr_X3_tick_X3_isThrough r (ol_rpos hr) rfl ⟨(by first | omega | (dsimp only; omega)), (by first | omega | (dsimp only; omega))⟩ (Nat.le_of_ble_eq_true rfl) dX3_tick_139 rfl (fun v w hp => ?_)
            obtain ⟨gh14, hg15, rfl, rfl⟩ := hp
            refine ol_Gwid (k := 3) (n := 8) (by first | omega | (dsimp only; omega)) (by first | omega | (dsimp only; omega)) ?_
            refine ol_Gdrop 1 ?_
            refine ol_Gwid (k := 3) (n := 8) (by first | omega | (dsimp only; omega)) (by first | omega | (dsimp only; omega)) ?_
            exact wX3_tick_L142 hX β r hr y12 gh14 hg15 h
    · have h := ol_ifn c28 h
      refine ol_aload_n hX (pc := 26) dX3_tick_26 rfl rfl ?_
      obtain ⟨g19, h⟩ := ol_of_og h
      refine ol_xg_R_0 hX (pc := 27) hr q254 (of_decide_eq_true g19) dX3_tick_27 ?_
      refine ol_getNM hX in_X6 (pc := 30) ol_hB_X.bus rfl 4 (by decide) q482 rfl rfl dX3_tick_30 ?_
      refine ol_iload_n hX (pc := 33) dX3_tick_33 rfl rfl ?_
      obtain ⟨g20, h⟩ := ol_of_og h
      refine ol_cVrM (As := [.int v1]) hX (pc := 34) (wAl_get V g β _ ol_hB_X v1 g20) lkX3_101 dcJ2_get ⟨rfl, rfl⟩ ⟨(Nat.le_of_ble_eq_true rfl), (Nat.le_of_ble_eq_true rfl)⟩ ol_hB_X.al rfl (fun _ h => h) ⟨(by first | omega | (dsimp only; omega)), (by first | omega | (dsimp only; omega))⟩ (Nat.le_of_ble_eq_true rfl) dX3_tick_34 rfl ?_
      refine ol_castS hX (pc := 37) q1846 (ol_hB_X.ask (ol_ia_lt g20)) rfl dX3_tick_37 ?_
      refine ol_cVrM (As := []) hX (pc := 40) (wX10_time V _ _ _ _ _ (ol_hB_X.ask (ol_ia_lt g20))) lkX3_124 dcX10_time ⟨rfl, rfl⟩ ⟨(Nat.le_of_ble_eq_true rfl), (Nat.le_of_ble_eq_true rfl)⟩ (ol_hB_X.ask (ol_ia_lt g20)) rfl (fun _ h => h) ⟨(by first | omega | (dsimp only; omega)), (by first | omega | (dsimp only; omega))⟩ (Nat.le_of_ble_eq_true rfl) dX3_tick_40 rfl ?_
      refine ol_aload_n hX (pc := 43) dX3_tick_43 rfl rfl ?_
      refine ol_xg_R_8 hX (pc := 44) hr q269 dX3_tick_44 ?_
      refine ol_icmp_ne hX (pc := 47) 89 dX3_tick_47 (by decide) (fun c27 => ?_) (fun c27 => ?_)
      · have h := ol_ifn c27 h
        refine ol_iinc hX (pc := 89) (v1 + 1) [some (.ref (a r)), some (.int (v1 + 1))] dX3_tick_89 rfl (ol_k_iinc_1 _) (by decide) rfl rfl ?_
        refine ol_goto hX (pc := 92) 12 dX3_tick_92 (by decide) ?_
        refine ol_Gwid (k := 0) (n := 0) (by first | omega | (dsimp only; omega)) (by first | omega | (dsimp only; omega)) ?_
        exact ih (v1 + 1) σ gh hg h
      · have h := ol_ifp c27 h
        refine ol_aload_n hX (pc := 50) dX3_tick_50 rfl rfl ?_
        refine ol_aload_n hX (pc := 51) dX3_tick_51 rfl rfl ?_
        obtain ⟨g21, h⟩ := ol_of_og h
        refine ol_xg_R_0 hX (pc := 52) hr q254 (of_decide_eq_true g21) dX3_tick_52 ?_
        refine ol_getNM hX in_X6 (pc := 55) ol_hB_X.bus rfl 4 (by decide) q482 rfl rfl dX3_tick_55 ?_
        refine ol_iload_n hX (pc := 58) dX3_tick_58 rfl rfl ?_
        obtain ⟨g22, h⟩ := ol_of_og h
        refine ol_cVrM (As := [.int v1]) hX (pc := 59) (wAl_get V g β _ ol_hB_X v1 g22) lkX3_101 dcJ2_get ⟨rfl, rfl⟩ ⟨(Nat.le_of_ble_eq_true rfl), (Nat.le_of_ble_eq_true rfl)⟩ ol_hB_X.al rfl (fun _ h => h) ⟨(by first | omega | (dsimp only; omega)), (by first | omega | (dsimp only; omega))⟩ (Nat.le_of_ble_eq_true rfl) dX3_tick_59 rfl ?_
        refine ol_castS hX (pc := 62) q1846 (ol_hB_X.ask (ol_ia_lt g22)) rfl dX3_tick_62 ?_
        refine ol_cVrM (As := []) hX (pc := 65) (wX10_board V _ _ _ _ _ (ol_hB_X.ask (ol_ia_lt g22))) lkX3_238 dcX10_board ⟨rfl, rfl⟩ ⟨(Nat.le_of_ble_eq_true rfl), (Nat.le_of_ble_eq_true rfl)⟩ (ol_hB_X.ask (ol_ia_lt g22)) rfl (fun _ h => h) ⟨(by first | omega | (dsimp only; omega)), (by first | omega | (dsimp only; omega))⟩ (Nat.le_of_ble_eq_true rfl) dX3_tick_65 rfl ?_
        refine ol_aload_n hX (pc := 68) dX3_tick_68 rfl rfl ?_
        obtain ⟨g23, h⟩ := ol_of_og h
        refine ol_xg_R_0 hX (pc := 69) hr q254 (of_decide_eq_true g23) dX3_tick_69 ?_
        refine ol_getNM hX in_X6 (pc := 72) ol_hB_X.bus rfl 4 (by decide) q482 rfl rfl dX3_tick_72 ?_
        refine ol_iload_n hX (pc := 75) dX3_tick_75 rfl rfl ?_
        obtain ⟨g24, h⟩ := ol_of_og h
        refine ol_cVrM (As := [.int v1]) hX (pc := 76) (wAl_get V g β _ ol_hB_X v1 g24) lkX3_101 dcJ2_get ⟨rfl, rfl⟩ ⟨(Nat.le_of_ble_eq_true rfl), (Nat.le_of_ble_eq_true rfl)⟩ ol_hB_X.al rfl (fun _ h => h) ⟨(by first | omega | (dsimp only; omega)), (by first | omega | (dsimp only; omega))⟩ (Nat.le_of_ble_eq_true rfl) dX3_tick_76 rfl ?_
        refine ol_castS hX (pc := 79) q1846 (ol_hB_X.ask (ol_ia_lt g24)) rfl dX3_tick_79 ?_
        refine ol_cVrM (As := []) hX (pc := 82) (wX10_ticks V _ _ _ _ _ (ol_hB_X.ask (ol_ia_lt g24))) lkX3_240 dcX10_ticks ⟨rfl, rfl⟩ ⟨(Nat.le_of_ble_eq_true rfl), (Nat.le_of_ble_eq_true rfl)⟩ (ol_hB_X.ask (ol_ia_lt g24)) rfl (fun _ h => h) ⟨(by first | omega | (dsimp only; omega)), (by first | omega | (dsimp only; omega))⟩ (Nat.le_of_ble_eq_true rfl) dX3_tick_82 rfl ?_
        obtain ⟨y25, e26, h⟩ := ol_of_bd h
        refine ol_cVw (As := [.int (β.1 5 v1.toNatClampNeg), .int (β.1 6 v1.toNatClampNeg)]) hX (pc := 85) (wX3_hears V a r0 (ol_WB V g β ++ (ol_WL V a gh σ.2.2 ++ ext)) σ r (β.1 5 v1.toNatClampNeg) (β.1 6 v1.toNatClampNeg) hr y25 e26) lkX3_243 dcX3_hears ol_rr_X3_tick_X3_hears r (ol_rpos hr) rfl ⟨(by first | omega | (dsimp only; omega)), (by first | omega | (dsimp only; omega))⟩ (Nat.le_of_ble_eq_true rfl) dX3_tick_85 rfl ?_
        refine ol_Grelog (σ0 := σ) ?_
        refine ol_pop hX (pc := 88) dX3_tick_88 rfl ?_
        refine ol_iinc hX (pc := 89) (v1 + 1) [some (.ref (a r)), some (.int (v1 + 1))] dX3_tick_89 rfl (ol_k_iinc_1 _) (by decide) rfl rfl ?_
        refine ol_goto hX (pc := 92) 12 dX3_tick_92 (by decide) ?_
        refine ol_Gwid (k := 0) (n := 0) (by first | omega | (dsimp only; omega)) (by first | omega | (dsimp only; omega)) ?_
        exact ih (v1 + 1) (ol_relog σ y25.2) gh hg h
set_option maxHeartbeats 4000000 in
theorem wX3_tick (V : ol_Gh) (a : Nat → Nat) (r0 : Option Nat) (ext : va_W) (g : Nat → Nat → Nat) (σ : ol_Xm) (β : ol_Bd) (r : Nat) (hr : ol_isr r) (gh : ol_Lh) (hg : ol_Rel gh σ.2.2) (z : ol_Xm) (h : oX3_tick σ β (g 0 0) r = some z) : ol_Mt V yX3_tick cX3_tick 2 none ({ frames := 16, cells := 5, slots := 12, locals := 699 } : Room) true [.ref (a r)] (ol_Xc V a r0 σ ++ (ol_WB V g β ++ (ol_WL V a gh σ.2.2 ++ ext))) (fun v w => ∃ gh2 : ol_Lh, ol_Rel gh2 z.2.2 ∧ v = none ∧ w = ol_Xc V a r0 z ++ (ol_WB V g β ++ (ol_WL V a gh2 z.2.2 ++ ext))) := by
  refine ol_MtOf (L0 := [some (.ref (a r)), none]) (by decide) (Nat.le_of_ble_eq_true rfl) rfl (fun X A hX => ?_)
  unfold oX3_tick at h
  refine ol_aload_n hX (pc := 0) dX3_tick_0 rfl rfl ?_
  refine ol_dup hX (pc := 1) dX3_tick_1 rfl ?_
  refine ol_xg_R_8 hX (pc := 2) hr q269 dX3_tick_2 ?_
  refine ol_iconst hX (pc := 5) 1 dX3_tick_5 ol_k_iconst_1 ?_
  refine ol_iadd hX (pc := 6) dX3_tick_6 ?_
  refine ol_xp_R_8 hX (pc := 7) hr q269 dX3_tick_7 ?_
  refine ol_iconst hX (pc := 10) 0 dX3_tick_10 ol_k_iconst_0 ?_
  refine ol_istore_n hX (pc := 11) [some (.ref (a r)), some (.int 0)] dX3_tick_11 rfl (by decide) rfl rfl ?_
  refine ol_Gwid (k := 0) (n := 0) (by first | omega | (dsimp only; omega)) (by first | omega | (dsimp only; omega)) ?_
  exact wX3_tick_L12 hX β r hr ol_fuel 0 (ol_xs σ r 8 ((σ.1 r 8) + 1)) gh hg h
set_option maxHeartbeats 4000000 in
theorem wX3_goes_L2 {X : ol_Cx} {V : ol_Gh} {A : Nat → Prop} {a : Nat → Nat} {r0 : Option Nat} {ext : va_W} {g : Nat → Nat → Nat} {z : ol_Xm} (hX : ol_CX X V A cX3_goes RX3 "goes" 3 none) (β : ol_Bd) (r : Nat) (N : Nat) (x1 : Int32) (hr : ol_isr r)   : ∀ (n : Nat), ∀ (v2 : Int32) (σ : ol_Xm) (gh : ol_Lh) (hg : ol_Rel gh σ.2.2) (c : Nat) (m : Nat) (hc : c + 5 * n ≤ 0 + 5 * (N + 1)) (hm : m + 12 * n ≤ 0 + 12 * (N + 1)), oX3_goes_L2 β (g 0 0) r N x1 n v2 σ = some z → ol_G X V A true (fun v w => ∃ gh2 : ol_Lh, ol_Rel gh2 z.2.2 ∧ v = none ∧ w = ol_Xc V a r0 z ++ (ol_WB V g β ++ (ol_WL V a gh2 z.2.2 ++ ext))) ({ frames := 17, cells := 0 + 5 * (N + 1), slots := 0 + 12 * (N + 1), locals := 720 } : Room) 3 c m (ol_Xc V a r0 σ ++ (ol_WB V g β ++ (ol_WL V a gh σ.2.2 ++ ext))) 2 [some (.ref (a r)), some (.int x1), some (.int v2)] [] := by
  intro n
  induction n with
  | zero =>
    intro v2 σ gh hg c m hc hm h
    exact ol_no h
  | succ n ih =>
    intro v2 σ gh hg c m hc hm h
    rw [oX3_goes_L2] at h
    refine ol_iload_n hX (pc := 2) dX3_goes_2 rfl rfl ?_
    refine ol_iload_n hX (pc := 3) dX3_goes_3 rfl rfl ?_
    refine ol_icmp_ge hX (pc := 4) 17 dX3_goes_4 (by decide) (fun c5 => ?_) (fun c5 => ?_)
    · have h := ol_ifp c5 h
      have h := ol_of_some h
      subst h
      exact ol_vret hX (pc := 17) dX3_goes_17 ⟨gh, hg, rfl, rfl⟩ ⟨(by first | omega | (dsimp only; omega)), (by first | omega | (dsimp only; omega))⟩
    · have h := ol_ifn c5 h
      refine ol_aload_n hX (pc := 7) dX3_goes_7 rfl rfl ?_
      obtain ⟨y1, e2, h⟩ := ol_of_bd h
      refine ol_cVW (As := []) hX (pc := 8) (wX3_tick V a r0 ext g σ β r hr gh hg y1 e2) lkX3_267 dcX3_tick ol_rr_X3_goes_X3_tick r (ol_rpos hr) rfl ⟨(by first | omega | (dsimp only; omega)), (by first | omega | (dsimp only; omega))⟩ (Nat.le_of_ble_eq_true rfl) dX3_goes_8 rfl (fun v w hp => ?_)
      obtain ⟨gh3, hg4, rfl, rfl⟩ := hp
      refine ol_Gwid (k := (c + 5)) (n := (m + 12)) (by first | omega | (dsimp only; omega)) (by first | omega | (dsimp only; omega)) ?_
      refine ol_iinc hX (pc := 11) (v2 + 1) [some (.ref (a r)), some (.int x1), some (.int (v2 + 1))] dX3_goes_11 rfl (ol_k_iinc_1 _) (by decide) rfl rfl ?_
      refine ol_goto hX (pc := 14) 2 dX3_goes_14 (by decide) ?_
      refine ol_Gwid (k := (c + 5)) (n := (m + 12)) (by first | omega | (dsimp only; omega)) (by first | omega | (dsimp only; omega)) ?_
      exact ih (v2 + 1) y1 gh3 hg4 (c + 5) (m + 12) (by first | omega | (dsimp only; omega)) (by first | omega | (dsimp only; omega)) h
set_option maxHeartbeats 4000000 in
theorem wX3_goes (V : ol_Gh) (a : Nat → Nat) (r0 : Option Nat) (ext : va_W) (g : Nat → Nat → Nat) (σ : ol_Xm) (β : ol_Bd) (r : Nat) (N : Nat) (x1 : Int32) (hr : ol_isr r) (gh : ol_Lh) (hg : ol_Rel gh σ.2.2) (z : ol_Xm) (h : oX3_goes σ β (g 0 0) r N x1 = some z) : ol_Mt V yX3_goes cX3_goes 3 none ({ frames := 17, cells := 0 + 5 * (N + 1), slots := 0 + 12 * (N + 1), locals := 720 } : Room) true [.ref (a r), .int x1] (ol_Xc V a r0 σ ++ (ol_WB V g β ++ (ol_WL V a gh σ.2.2 ++ ext))) (fun v w => ∃ gh2 : ol_Lh, ol_Rel gh2 z.2.2 ∧ v = none ∧ w = ol_Xc V a r0 z ++ (ol_WB V g β ++ (ol_WL V a gh2 z.2.2 ++ ext))) := by
  refine ol_MtOf (L0 := [some (.ref (a r)), some (.int x1), none]) (by decide) (Nat.le_of_ble_eq_true rfl) rfl (fun X A hX => ?_)
  unfold oX3_goes at h
  refine ol_iconst hX (pc := 0) 0 dX3_goes_0 ol_k_iconst_0 ?_
  refine ol_istore_n hX (pc := 1) [some (.ref (a r)), some (.int x1), some (.int 0)] dX3_goes_1 rfl (by decide) rfl rfl ?_
  refine ol_Gwid (k := 0) (n := 0) (by first | omega | (dsimp only; omega)) (by first | omega | (dsimp only; omega)) ?_
  exact wX3_goes_L2 hX β r N x1 hr (N + 1) 0 σ gh hg 0 0 (by first | omega | (dsimp only; omega)) (by first | omega | (dsimp only; omega)) h
set_option maxHeartbeats 4000000 in
theorem wX3_be (V : ol_Gh) (a : Nat → Nat) (r0 : Option Nat) (ext : va_W) (g : Nat → Nat → Nat) (σ : ol_Xm) (β : ol_Bd) (r : Nat) (r1 : Nat) (hr : ol_isr r) (hr1 : ol_isr r1) (gh : ol_Lh) (hg : ol_Rel gh σ.2.2) (z : ol_Xm) (h : oX3_be σ β (g 0 0) r r1 = some z) : ol_Mt V yX3_be cX3_be 3 none ({ frames := 3, cells := 0, slots := 0, locals := 100 } : Room) true [.ref (a r), .ref (a r1)] (ol_Xc V a r0 σ ++ (ol_WB V g β ++ (ol_WL V a gh σ.2.2 ++ ext))) (fun v w => ∃ gh2 : ol_Lh, ol_Rel gh2 z.2.2 ∧ v = none ∧ w = ol_Xc V a r0 z ++ (ol_WB V g β ++ (ol_WL V a gh2 z.2.2 ++ ext))) := by
  refine ol_MtOf (L0 := [some (.ref (a r)), some (.ref (a r1)), none]) (by decide) (Nat.le_of_ble_eq_true rfl) rfl (fun X A hX => ?_)
  unfold oX3_be at h
  refine ol_aload_n hX (pc := 0) dX3_be_0 rfl rfl ?_
  refine ol_aload_n hX (pc := 1) dX3_be_1 rfl rfl ?_
  obtain ⟨g1, h⟩ := ol_of_og h
  refine ol_xg_R_0 hX (pc := 2) hr1 q254 (of_decide_eq_true g1) dX3_be_2 ?_
  refine ol_xp_R_bus (x := some (g 0 0)) hX (pc := 5) hr q254 dX3_be_5 ?_
  refine ol_aload_n hX (pc := 8) dX3_be_8 rfl rfl ?_
  refine ol_xg_R_1 hX (pc := 9) hr1 q256 dX3_be_9 ?_
  refine ol_iconst hX (pc := 12) 0 dX3_be_12 ol_k_iconst_0 ?_
  refine ol_aload_n hX (pc := 13) dX3_be_13 rfl rfl ?_
  refine ol_xg_R_1 hX (pc := 14) hr q256 dX3_be_14 ?_
  refine ol_iconst hX (pc := 17) 0 dX3_be_17 ol_k_iconst_0 ?_
  refine ol_bipush hX (pc := 18) 6 dX3_be_18 ol_k_bipush_6 ?_
  obtain ⟨g2, h⟩ := ol_of_og h
  refine ol_xcp_1 hX (pc := 20) hr hr1 g2 q1833 (Nat.le_of_ble_eq_true rfl) (Nat.le_of_ble_eq_true rfl) dX3_be_20 ?_
  refine ol_aload_n hX (pc := 23) dX3_be_23 rfl rfl ?_
  refine ol_xg_R_2 hX (pc := 24) hr1 q258 dX3_be_24 ?_
  refine ol_iconst hX (pc := 27) 0 dX3_be_27 ol_k_iconst_0 ?_
  refine ol_aload_n hX (pc := 28) dX3_be_28 rfl rfl ?_
  refine ol_xg_R_2 hX (pc := 29) hr q258 dX3_be_29 ?_
  refine ol_iconst hX (pc := 32) 0 dX3_be_32 ol_k_iconst_0 ?_
  refine ol_bipush hX (pc := 33) 6 dX3_be_33 ol_k_bipush_6 ?_
  refine ol_xcp_2 hX (pc := 35) hr hr1 q1833 (Nat.le_of_ble_eq_true rfl) (Nat.le_of_ble_eq_true rfl) dX3_be_35 ?_
  refine ol_aload_n hX (pc := 38) dX3_be_38 rfl rfl ?_
  refine ol_xg_R_3 hX (pc := 39) hr1 q260 dX3_be_39 ?_
  refine ol_iconst hX (pc := 42) 0 dX3_be_42 ol_k_iconst_0 ?_
  refine ol_aload_n hX (pc := 43) dX3_be_43 rfl rfl ?_
  refine ol_xg_R_3 hX (pc := 44) hr q260 dX3_be_44 ?_
  refine ol_iconst hX (pc := 47) 0 dX3_be_47 ol_k_iconst_0 ?_
  refine ol_bipush hX (pc := 48) 6 dX3_be_48 ol_k_bipush_6 ?_
  refine ol_xcp_3 hX (pc := 50) hr hr1 q1833 (Nat.le_of_ble_eq_true rfl) (Nat.le_of_ble_eq_true rfl) dX3_be_50 ?_
  refine ol_aload_n hX (pc := 53) dX3_be_53 rfl rfl ?_
  refine ol_xg_R_4 hX (pc := 54) hr1 q261 dX3_be_54 ?_
  refine ol_iconst hX (pc := 57) 0 dX3_be_57 ol_k_iconst_0 ?_
  refine ol_aload_n hX (pc := 58) dX3_be_58 rfl rfl ?_
  refine ol_xg_R_4 hX (pc := 59) hr q261 dX3_be_59 ?_
  refine ol_iconst hX (pc := 62) 0 dX3_be_62 ol_k_iconst_0 ?_
  refine ol_bipush hX (pc := 63) 6 dX3_be_63 ol_k_bipush_6 ?_
  refine ol_xcp_4 hX (pc := 65) hr hr1 q1833 (Nat.le_of_ble_eq_true rfl) (Nat.le_of_ble_eq_true rfl) dX3_be_65 ?_
  refine ol_aload_n hX (pc := 68) dX3_be_68 rfl rfl ?_
  refine ol_xg_R_5 hX (pc := 69) hr1 q263 dX3_be_69 ?_
  refine ol_iconst hX (pc := 72) 0 dX3_be_72 ol_k_iconst_0 ?_
  refine ol_aload_n hX (pc := 73) dX3_be_73 rfl rfl ?_
  refine ol_xg_R_5 hX (pc := 74) hr q263 dX3_be_74 ?_
  refine ol_iconst hX (pc := 77) 0 dX3_be_77 ol_k_iconst_0 ?_
  refine ol_bipush hX (pc := 78) 6 dX3_be_78 ol_k_bipush_6 ?_
  refine ol_xcp_5 hX (pc := 80) hr hr1 q1833 (Nat.le_of_ble_eq_true rfl) (Nat.le_of_ble_eq_true rfl) dX3_be_80 ?_
  obtain ⟨s3, e4, h⟩ := ol_of_lt h
  refine ol_Gnm e4 ?_
  have hg5 := ol_Rnm e4 hg
  refine ol_aload_n hX (pc := 83) dX3_be_83 rfl rfl ?_
  refine ol_xg_R_6 hX (pc := 84) hr1 q265 dX3_be_84 ?_
  refine ol_iconst hX (pc := 87) 0 dX3_be_87 ol_k_iconst_0 ?_
  refine ol_aload_n hX (pc := 88) dX3_be_88 rfl rfl ?_
  refine ol_xg_R_6 hX (pc := 89) hr q265 dX3_be_89 ?_
  refine ol_iconst hX (pc := 92) 0 dX3_be_92 ol_k_iconst_0 ?_
  refine ol_bipush hX (pc := 93) 6 dX3_be_93 ol_k_bipush_6 ?_
  refine ol_xcp_6 hX (pc := 95) hr hr1 q1833 (Nat.le_of_ble_eq_true rfl) (Nat.le_of_ble_eq_true rfl) dX3_be_95 ?_
  refine ol_aload_n hX (pc := 98) dX3_be_98 rfl rfl ?_
  refine ol_xg_R_7 hX (pc := 99) hr1 q267 dX3_be_99 ?_
  refine ol_iconst hX (pc := 102) 0 dX3_be_102 ol_k_iconst_0 ?_
  refine ol_aload_n hX (pc := 103) dX3_be_103 rfl rfl ?_
  refine ol_xg_R_7 hX (pc := 104) hr q267 dX3_be_104 ?_
  refine ol_iconst hX (pc := 107) 0 dX3_be_107 ol_k_iconst_0 ?_
  refine ol_bipush hX (pc := 108) 36 dX3_be_108 ol_k_bipush_36 ?_
  refine ol_xcp_7 hX (pc := 110) hr hr1 q1833 (Nat.le_of_ble_eq_true rfl) (Nat.le_of_ble_eq_true rfl) dX3_be_110 ?_
  obtain ⟨g8, h⟩ := ol_of_og h
  refine ol_beLog hX hr hr1 (of_decide_eq_true g8) hg5 (Nat.le_of_ble_eq_true rfl) (Nat.le_of_ble_eq_true rfl) ⟨Nat.le_refl _, Nat.le_refl _⟩ (fun gh6 hg7 => ?_)
  refine ol_aload_n hX (pc := 158) dX3_be_158 rfl rfl ?_
  refine ol_xg_R_20 hX (pc := 159) hr1 q284 dX3_be_159 ?_
  refine ol_iconst hX (pc := 162) 0 dX3_be_162 ol_k_iconst_0 ?_
  refine ol_aload_n hX (pc := 163) dX3_be_163 rfl rfl ?_
  refine ol_xg_R_20 hX (pc := 164) hr q284 dX3_be_164 ?_
  refine ol_iconst hX (pc := 167) 0 dX3_be_167 ol_k_iconst_0 ?_
  refine ol_bipush hX (pc := 168) 64 dX3_be_168 ol_k_bipush_64 ?_
  refine ol_xcp_8 hX (pc := 170) hr hr1 q1833 (Nat.le_of_ble_eq_true rfl) (Nat.le_of_ble_eq_true rfl) dX3_be_170 ?_
  obtain ⟨s9, e10, h⟩ := ol_of_lt h
  refine ol_Gnm e10 ?_
  have hg11 := ol_Rnm e10 hg7
  refine ol_aload_n hX (pc := 173) dX3_be_173 rfl rfl ?_
  refine ol_aload_n hX (pc := 174) dX3_be_174 rfl rfl ?_
  refine ol_xg_R_8 hX (pc := 175) hr1 q269 dX3_be_175 ?_
  refine ol_xp_R_8 hX (pc := 178) hr q269 dX3_be_178 ?_
  refine ol_aload_n hX (pc := 181) dX3_be_181 rfl rfl ?_
  refine ol_aload_n hX (pc := 182) dX3_be_182 rfl rfl ?_
  refine ol_xg_R_9 hX (pc := 183) hr1 q271 dX3_be_183 ?_
  refine ol_xp_R_9 hX (pc := 186) hr q271 dX3_be_186 ?_
  refine ol_aload_n hX (pc := 189) dX3_be_189 rfl rfl ?_
  refine ol_aload_n hX (pc := 190) dX3_be_190 rfl rfl ?_
  refine ol_xg_R_10 hX (pc := 191) hr1 q273 dX3_be_191 ?_
  refine ol_xp_R_10 hX (pc := 194) hr q273 dX3_be_194 ?_
  obtain ⟨s12, e13, h⟩ := ol_of_lt h
  refine ol_Gnm e13 ?_
  have hg14 := ol_Rnm e13 hg11
  refine ol_aload_n hX (pc := 197) dX3_be_197 rfl rfl ?_
  refine ol_aload_n hX (pc := 198) dX3_be_198 rfl rfl ?_
  refine ol_xg_R_11 hX (pc := 199) hr1 q274 dX3_be_199 ?_
  refine ol_xp_R_11 hX (pc := 202) hr q274 dX3_be_202 ?_
  refine ol_aload_n hX (pc := 205) dX3_be_205 rfl rfl ?_
  refine ol_aload_n hX (pc := 206) dX3_be_206 rfl rfl ?_
  refine ol_xg_R_12 hX (pc := 207) hr1 q275 dX3_be_207 ?_
  refine ol_xp_R_12 hX (pc := 210) hr q275 dX3_be_210 ?_
  refine ol_aload_n hX (pc := 213) dX3_be_213 rfl rfl ?_
  refine ol_aload_n hX (pc := 214) dX3_be_214 rfl rfl ?_
  refine ol_xg_R_13 hX (pc := 215) hr1 q276 dX3_be_215 ?_
  refine ol_xp_R_13 hX (pc := 218) hr q276 dX3_be_218 ?_
  obtain ⟨s15, e16, h⟩ := ol_of_lt h
  refine ol_Gnm e16 ?_
  have hg17 := ol_Rnm e16 hg14
  refine ol_aload_n hX (pc := 221) dX3_be_221 rfl rfl ?_
  refine ol_aload_n hX (pc := 222) dX3_be_222 rfl rfl ?_
  refine ol_xg_R_14 hX (pc := 223) hr1 q277 dX3_be_223 ?_
  refine ol_xp_R_14 hX (pc := 226) hr q277 dX3_be_226 ?_
  refine ol_aload_n hX (pc := 229) dX3_be_229 rfl rfl ?_
  refine ol_aload_n hX (pc := 230) dX3_be_230 rfl rfl ?_
  refine ol_xg_R_15 hX (pc := 231) hr1 q278 dX3_be_231 ?_
  refine ol_xp_R_15 hX (pc := 234) hr q278 dX3_be_234 ?_
  refine ol_aload_n hX (pc := 237) dX3_be_237 rfl rfl ?_
  refine ol_aload_n hX (pc := 238) dX3_be_238 rfl rfl ?_
  refine ol_xg_R_16 hX (pc := 239) hr1 q279 dX3_be_239 ?_
  refine ol_xp_R_16 hX (pc := 242) hr q279 dX3_be_242 ?_
  obtain ⟨s18, e19, h⟩ := ol_of_lt h
  refine ol_Gnm e19 ?_
  have hg20 := ol_Rnm e19 hg17
  refine ol_aload_n hX (pc := 245) dX3_be_245 rfl rfl ?_
  refine ol_aload_n hX (pc := 246) dX3_be_246 rfl rfl ?_
  refine ol_xg_R_17 hX (pc := 247) hr1 q280 dX3_be_247 ?_
  refine ol_xp_R_17 hX (pc := 250) hr q280 dX3_be_250 ?_
  refine ol_aload_n hX (pc := 253) dX3_be_253 rfl rfl ?_
  refine ol_aload_n hX (pc := 254) dX3_be_254 rfl rfl ?_
  refine ol_xg_R_18 hX (pc := 255) hr1 q281 dX3_be_255 ?_
  refine ol_xp_R_18 hX (pc := 258) hr q281 dX3_be_258 ?_
  have h := ol_of_some h
  subst h
  exact ol_vret hX (pc := 261) dX3_be_261 ⟨gh6, hg20, rfl, rfl⟩ ⟨Nat.le_refl _, Nat.le_refl _⟩
set_option maxHeartbeats 4000000 in
theorem wX3_begins_L122 {X : ol_Cx} {V : ol_Gh} {A : Nat → Prop} {a : Nat → Nat} {r0 : Option Nat} {ext : va_W} {g : Nat → Nat → Nat} {z : ol_Xm} (hX : ol_CX X V A cX3_begins RX3 "begins" 4 none) (β : ol_Bd) (r : Nat) (hr : ol_isr r)   : ∀ (n : Nat), ∀ (v2 : Int32) (σ : ol_Xm) (gh : ol_Lh) (hg : ol_Rel gh σ.2.2), oX3_begins_L122 β (g 0 0) r n v2 σ = some z → ol_G X V A true (fun v w => ∃ gh2 : ol_Lh, ol_Rel gh2 z.2.2 ∧ v = none ∧ w = ol_Xc V a r0 z ++ (ol_WB V g β ++ (ol_WL V a gh2 z.2.2 ++ ext))) ({ frames := 3, cells := 0, slots := 0, locals := 100 } : Room) 4 0 0 (ol_Xc V a r0 σ ++ (ol_WB V g β ++ (ol_WL V a gh σ.2.2 ++ ext))) 122 [some (.ref (a r)), none, some (.int v2), none] [] := by
  intro n
  induction n with
  | zero =>
    intro v2 σ gh hg h
    exact ol_no h
  | succ n ih =>
    intro v2 σ gh hg h
    rw [oX3_begins_L122] at h
    refine ol_iload_n hX (pc := 122) dX3_begins_122 rfl rfl ?_
    refine ol_bipush hX (pc := 123) 6 dX3_begins_123 ol_k_bipush_6 ?_
    refine ol_icmp_ge hX (pc := 125) 141 dX3_begins_125 (by decide) (fun c5 => ?_) (fun c5 => ?_)
    · have h := ol_ifp c5 h
      refine ol_aload_n hX (pc := 141) dX3_begins_141 rfl rfl ?_
      refine ol_iconst hX (pc := 142) 0 dX3_begins_142 ol_k_iconst_0 ?_
      refine ol_xp_R_8 hX (pc := 143) hr q269 dX3_begins_143 ?_
      refine ol_aload_n hX (pc := 146) dX3_begins_146 rfl rfl ?_
      refine ol_bipush hX (pc := 147) (-2) dX3_begins_147 ol_k_bipush_m2 ?_
      refine ol_xp_R_9 hX (pc := 149) hr q271 dX3_begins_149 ?_
      refine ol_aload_n hX (pc := 152) dX3_begins_152 rfl rfl ?_
      refine ol_bipush hX (pc := 153) (-2) dX3_begins_153 ol_k_bipush_m2 ?_
      refine ol_xp_R_10 hX (pc := 155) hr q273 dX3_begins_155 ?_
      refine ol_aload_n hX (pc := 158) dX3_begins_158 rfl rfl ?_
      refine ol_bipush hX (pc := 159) (-2) dX3_begins_159 ol_k_bipush_m2 ?_
      refine ol_xp_R_11 hX (pc := 161) hr q274 dX3_begins_161 ?_
      refine ol_aload_n hX (pc := 164) dX3_begins_164 rfl rfl ?_
      refine ol_bipush hX (pc := 165) (-2) dX3_begins_165 ol_k_bipush_m2 ?_
      refine ol_xp_R_12 hX (pc := 167) hr q275 dX3_begins_167 ?_
      refine ol_aload_n hX (pc := 170) dX3_begins_170 rfl rfl ?_
      refine ol_iconst hX (pc := 171) 0 dX3_begins_171 ol_k_iconst_0 ?_
      refine ol_xp_R_13 hX (pc := 172) hr q276 dX3_begins_172 ?_
      refine ol_aload_n hX (pc := 175) dX3_begins_175 rfl rfl ?_
      refine ol_iconst hX (pc := 176) 0 dX3_begins_176 ol_k_iconst_0 ?_
      refine ol_xp_R_14 hX (pc := 177) hr q277 dX3_begins_177 ?_
      refine ol_aload_n hX (pc := 180) dX3_begins_180 rfl rfl ?_
      refine ol_iconst hX (pc := 181) 0 dX3_begins_181 ol_k_iconst_0 ?_
      refine ol_xp_R_15 hX (pc := 182) hr q278 dX3_begins_182 ?_
      refine ol_aload_n hX (pc := 185) dX3_begins_185 rfl rfl ?_
      refine ol_iconst hX (pc := 186) 0 dX3_begins_186 ol_k_iconst_0 ?_
      refine ol_xp_R_16 hX (pc := 187) hr q279 dX3_begins_187 ?_
      refine ol_aload_n hX (pc := 190) dX3_begins_190 rfl rfl ?_
      refine ol_iconst hX (pc := 191) 0 dX3_begins_191 ol_k_iconst_0 ?_
      refine ol_xp_R_17 hX (pc := 192) hr q280 dX3_begins_192 ?_
      obtain ⟨s1, e2, h⟩ := ol_of_lt h
      refine ol_Gnm e2 ?_
      have hg3 := ol_Rnm e2 hg
      refine ol_aload_n hX (pc := 195) dX3_begins_195 rfl rfl ?_
      refine ol_iconst hX (pc := 196) 0 dX3_begins_196 ol_k_iconst_0 ?_
      refine ol_xp_R_18 hX (pc := 197) hr q281 dX3_begins_197 ?_
      have h := ol_of_some h
      subst h
      exact ol_vret hX (pc := 200) dX3_begins_200 ⟨gh, hg3, rfl, rfl⟩ ⟨Nat.le_refl _, Nat.le_refl _⟩
    · have h := ol_ifn c5 h
      refine ol_aload_n hX (pc := 128) dX3_begins_128 rfl rfl ?_
      refine ol_xg_R_5 hX (pc := 129) hr q263 dX3_begins_129 ?_
      refine ol_iload_n hX (pc := 132) dX3_begins_132 rfl rfl ?_
      refine ol_iconst hX (pc := 133) 0 dX3_begins_133 ol_k_iconst_0 ?_
      obtain ⟨g4, h⟩ := ol_of_og h
      refine ol_xw_R5 hX (pc := 134) hr dX3_begins_134 rfl (ol_in_vp g4) ?_
      refine ol_iinc hX (pc := 135) (v2 + 1) [some (.ref (a r)), none, some (.int (v2 + 1)), none] dX3_begins_135 rfl (ol_k_iinc_1 _) (by decide) rfl rfl ?_
      refine ol_goto hX (pc := 138) 122 dX3_begins_138 (by decide) ?_
      exact ih (v2 + 1) (ol_xs σ (r + 5) v2.toNatClampNeg 0) gh hg h
set_option maxHeartbeats 4000000 in
theorem wX3_begins_L80 {X : ol_Cx} {V : ol_Gh} {A : Nat → Prop} {a : Nat → Nat} {r0 : Option Nat} {ext : va_W} {g : Nat → Nat → Nat} {z : ol_Xm} (hX : ol_CX X V A cX3_begins RX3 "begins" 4 none) (β : ol_Bd) (r : Nat) (hr : ol_isr r) (k36 : Int32 → ol_Xm → Option ol_Xm) (hk36 : ∀ (v2 : Int32) (σ : ol_Xm) (gh : ol_Lh) (hg : ol_Rel gh σ.2.2), k36 v2 σ = some z → ol_G X V A true (fun v w => ∃ gh2 : ol_Lh, ol_Rel gh2 z.2.2 ∧ v = none ∧ w = ol_Xc V a r0 z ++ (ol_WB V g β ++ (ol_WL V a gh2 z.2.2 ++ ext))) ({ frames := 3, cells := 0, slots := 0, locals := 100 } : Room) 4 0 0 (ol_Xc V a r0 σ ++ (ol_WB V g β ++ (ol_WL V a gh σ.2.2 ++ ext))) 36 [some (.ref (a r)), none, some (.int v2), none] [])  : ∀ (n : Nat), ∀ (v2 : Int32) (v3 : Int32) (σ : ol_Xm) (gh : ol_Lh) (hg : ol_Rel gh σ.2.2), oX3_begins_L80 β (g 0 0) r k36 n v2 v3 σ = some z → ol_G X V A true (fun v w => ∃ gh2 : ol_Lh, ol_Rel gh2 z.2.2 ∧ v = none ∧ w = ol_Xc V a r0 z ++ (ol_WB V g β ++ (ol_WL V a gh2 z.2.2 ++ ext))) ({ frames := 3, cells := 0, slots := 0, locals := 100 } : Room) 4 0 0 (ol_Xc V a r0 σ ++ (ol_WB V g β ++ (ol_WL V a gh σ.2.2 ++ ext))) 80 [some (.ref (a r)), none, some (.int v2), some (.int v3)] [] := by
  intro n
  induction n with
  | zero =>
    intro v2 v3 σ gh hg h
    exact ol_no h
  | succ n ih =>
    intro v2 v3 σ gh hg h
    rw [oX3_begins_L80] at h
    refine ol_iload_n hX (pc := 80) dX3_begins_80 rfl rfl ?_
    refine ol_bipush hX (pc := 81) 6 dX3_begins_81 ol_k_bipush_6 ?_
    refine ol_icmp_ge hX (pc := 83) 114 dX3_begins_83 (by decide) (fun c4 => ?_) (fun c4 => ?_)
    · have h := ol_ifp c4 h
      refine ol_iinc hX (pc := 114) (v2 + 1) [some (.ref (a r)), none, some (.int (v2 + 1)), some (.int v3)] dX3_begins_114 rfl (ol_k_iinc_1 _) (by decide) rfl rfl ?_
      refine ol_goto hX (pc := 117) 36 dX3_begins_117 (by decide) ?_
      refine ol_Gdrop 3 ?_
      exact hk36 (v2 + 1) σ gh hg h
    · have h := ol_ifn c4 h
      refine ol_aload_n hX (pc := 86) dX3_begins_86 rfl rfl ?_
      refine ol_xg_R_7 hX (pc := 87) hr q267 dX3_begins_87 ?_
      refine ol_bipush hX (pc := 90) 6 dX3_begins_90 ol_k_bipush_6 ?_
      refine ol_iload_n hX (pc := 92) dX3_begins_92 rfl rfl ?_
      refine ol_imul hX (pc := 93) dX3_begins_93 ?_
      refine ol_iload_n hX (pc := 94) dX3_begins_94 rfl rfl ?_
      refine ol_iadd hX (pc := 95) dX3_begins_95 ?_
      refine ol_iload_n hX (pc := 96) dX3_begins_96 rfl rfl ?_
      refine ol_iconst hX (pc := 97) 4 dX3_begins_97 ol_k_iconst_4 ?_
      refine ol_icmp_ne hX (pc := 98) 106 dX3_begins_98 (by decide) (fun c3 => ?_) (fun c3 => ?_)
      · have h := ol_ifn c3 h
        refine ol_iconst hX (pc := 106) 0 dX3_begins_106 ol_k_iconst_0 ?_
        obtain ⟨g1, h⟩ := ol_of_og h
        refine ol_xw_R7 hX (pc := 107) hr dX3_begins_107 rfl (ol_in_vp g1) ?_
        refine ol_iinc hX (pc := 108) (v3 + 1) [some (.ref (a r)), none, some (.int v2), some (.int (v3 + 1))] dX3_begins_108 rfl (ol_k_iinc_1 _) (by decide) rfl rfl ?_
        refine ol_goto hX (pc := 111) 80 dX3_begins_111 (by decide) ?_
        exact ih v2 (v3 + 1) (ol_xs σ (r + 7) (((6 * v2) + v3).toNatClampNeg) 0) gh hg h
      · have h := ol_ifp c3 h
        refine ol_bipush hX (pc := 101) (-2) dX3_begins_101 ol_k_bipush_m2 ?_
        refine ol_goto hX (pc := 103) 107 dX3_begins_103 (by decide) ?_
        obtain ⟨g2, h⟩ := ol_of_og h
        refine ol_xw_R7 hX (pc := 107) hr dX3_begins_107 rfl (ol_in_vp g2) ?_
        refine ol_iinc hX (pc := 108) (v3 + 1) [some (.ref (a r)), none, some (.int v2), some (.int (v3 + 1))] dX3_begins_108 rfl (ol_k_iinc_1 _) (by decide) rfl rfl ?_
        refine ol_goto hX (pc := 111) 80 dX3_begins_111 (by decide) ?_
        exact ih v2 (v3 + 1) (ol_xs σ (r + 7) (((6 * v2) + v3).toNatClampNeg) (-2)) gh hg h
set_option maxHeartbeats 4000000 in
theorem wX3_begins_L36 {X : ol_Cx} {V : ol_Gh} {A : Nat → Prop} {a : Nat → Nat} {r0 : Option Nat} {ext : va_W} {g : Nat → Nat → Nat} {z : ol_Xm} (hX : ol_CX X V A cX3_begins RX3 "begins" 4 none) (β : ol_Bd) (r : Nat) (hr : ol_isr r)   : ∀ (n : Nat), ∀ (v2 : Int32) (σ : ol_Xm) (gh : ol_Lh) (hg : ol_Rel gh σ.2.2), oX3_begins_L36 β (g 0 0) r n v2 σ = some z → ol_G X V A true (fun v w => ∃ gh2 : ol_Lh, ol_Rel gh2 z.2.2 ∧ v = none ∧ w = ol_Xc V a r0 z ++ (ol_WB V g β ++ (ol_WL V a gh2 z.2.2 ++ ext))) ({ frames := 3, cells := 0, slots := 0, locals := 100 } : Room) 4 0 0 (ol_Xc V a r0 σ ++ (ol_WB V g β ++ (ol_WL V a gh σ.2.2 ++ ext))) 36 [some (.ref (a r)), none, some (.int v2), none] [] := by
  intro n
  induction n with
  | zero =>
    intro v2 σ gh hg h
    exact ol_no h
  | succ n ih =>
    intro v2 σ gh hg h
    rw [oX3_begins_L36] at h
    refine ol_iload_n hX (pc := 36) dX3_begins_36 rfl rfl ?_
    refine ol_bipush hX (pc := 37) 6 dX3_begins_37 ol_k_bipush_6 ?_
    refine ol_icmp_ge hX (pc := 39) 120 dX3_begins_39 (by decide) (fun c9 => ?_) (fun c9 => ?_)
    · have h := ol_ifp c9 h
      refine ol_iconst hX (pc := 120) 0 dX3_begins_120 ol_k_iconst_0 ?_
      refine ol_istore_n hX (pc := 121) [some (.ref (a r)), none, some (.int 0), none] dX3_begins_121 rfl (by decide) rfl rfl ?_
      exact wX3_begins_L122 hX β r hr ol_fuel 0 σ gh hg h
    · have h := ol_ifn c9 h
      refine ol_aload_n hX (pc := 42) dX3_begins_42 rfl rfl ?_
      refine ol_xg_R_1 hX (pc := 43) hr q256 dX3_begins_43 ?_
      refine ol_iload_n hX (pc := 46) dX3_begins_46 rfl rfl ?_
      refine ol_iconst hX (pc := 47) 1 dX3_begins_47 ol_k_iconst_1 ?_
      obtain ⟨g1, h⟩ := ol_of_og h
      refine ol_xw_R1 hX (pc := 48) hr (by rfl) dX3_begins_48 rfl (ol_in_vp g1) ?_
      refine ol_aload_n hX (pc := 49) dX3_begins_49 rfl rfl ?_
      refine ol_xg_R_2 hX (pc := 50) hr q258 dX3_begins_50 ?_
      refine ol_iload_n hX (pc := 53) dX3_begins_53 rfl rfl ?_
      refine ol_iconst hX (pc := 54) 0 dX3_begins_54 ol_k_iconst_0 ?_
      obtain ⟨g2, h⟩ := ol_of_og h
      refine ol_xw_R2 hX (pc := 55) hr dX3_begins_55 rfl (ol_in_vp g2) ?_
      refine ol_aload_n hX (pc := 56) dX3_begins_56 rfl rfl ?_
      refine ol_xg_R_3 hX (pc := 57) hr q260 dX3_begins_57 ?_
      refine ol_iload_n hX (pc := 60) dX3_begins_60 rfl rfl ?_
      refine ol_iconst hX (pc := 61) 0 dX3_begins_61 ol_k_iconst_0 ?_
      obtain ⟨g3, h⟩ := ol_of_og h
      refine ol_xw_R3 hX (pc := 62) hr dX3_begins_62 rfl (ol_in_vp g3) ?_
      refine ol_aload_n hX (pc := 63) dX3_begins_63 rfl rfl ?_
      refine ol_xg_R_4 hX (pc := 64) hr q261 dX3_begins_64 ?_
      refine ol_iload_n hX (pc := 67) dX3_begins_67 rfl rfl ?_
      refine ol_bipush hX (pc := 68) (-2) dX3_begins_68 ol_k_bipush_m2 ?_
      obtain ⟨g4, h⟩ := ol_of_og h
      refine ol_xw_R4 hX (pc := 70) hr dX3_begins_70 rfl (ol_in_vp g4) ?_
      refine ol_aload_n hX (pc := 71) dX3_begins_71 rfl rfl ?_
      refine ol_xg_R_6 hX (pc := 72) hr q265 dX3_begins_72 ?_
      refine ol_iload_n hX (pc := 75) dX3_begins_75 rfl rfl ?_
      refine ol_iconst hX (pc := 76) 0 dX3_begins_76 ol_k_iconst_0 ?_
      obtain ⟨g5, h⟩ := ol_of_og h
      refine ol_xw_R6 hX (pc := 77) hr dX3_begins_77 rfl (ol_in_vp g5) ?_
      obtain ⟨s6, e7, h⟩ := ol_of_lt h
      refine ol_Gnm e7 ?_
      have hg8 := ol_Rnm e7 hg
      refine ol_iconst hX (pc := 78) 0 dX3_begins_78 ol_k_iconst_0 ?_
      refine ol_istore_n hX (pc := 79) [some (.ref (a r)), none, some (.int v2), some (.int 0)] dX3_begins_79 rfl (by decide) rfl rfl ?_
      exact wX3_begins_L80 hX β r hr (oX3_begins_L36 β (g 0 0) r n) ih ol_fuel v2 0 s6 gh hg8 h
set_option maxHeartbeats 4000000 in
theorem wX3_begins_L14 {X : ol_Cx} {V : ol_Gh} {A : Nat → Prop} {a : Nat → Nat} {r0 : Option Nat} {ext : va_W} {g : Nat → Nat → Nat} {z : ol_Xm} (hX : ol_CX X V A cX3_begins RX3 "begins" 4 none) (β : ol_Bd) (r : Nat) (hr : ol_isr r)   : ∀ (n : Nat), ∀ (v2 : Int32) (σ : ol_Xm) (gh : ol_Lh) (hg : ol_Rel gh σ.2.2), oX3_begins_L14 β (g 0 0) r n v2 σ = some z → ol_G X V A true (fun v w => ∃ gh2 : ol_Lh, ol_Rel gh2 z.2.2 ∧ v = none ∧ w = ol_Xc V a r0 z ++ (ol_WB V g β ++ (ol_WL V a gh2 z.2.2 ++ ext))) ({ frames := 3, cells := 0, slots := 0, locals := 100 } : Room) 4 0 0 (ol_Xc V a r0 σ ++ (ol_WB V g β ++ (ol_WL V a gh σ.2.2 ++ ext))) 14 [some (.ref (a r)), none, some (.int v2), none] [] := by
  intro n
  induction n with
  | zero =>
    intro v2 σ gh hg h
    exact ol_no h
  | succ n ih =>
    intro v2 σ gh hg h
    rw [oX3_begins_L14] at h
    refine ol_iload_n hX (pc := 14) dX3_begins_14 rfl rfl ?_
    refine ol_bipush hX (pc := 15) 64 dX3_begins_15 ol_k_bipush_64 ?_
    refine ol_icmp_ge hX (pc := 17) 34 dX3_begins_17 (by decide) (fun c2 => ?_) (fun c2 => ?_)
    · have h := ol_ifp c2 h
      refine ol_iconst hX (pc := 34) 0 dX3_begins_34 ol_k_iconst_0 ?_
      refine ol_istore_n hX (pc := 35) [some (.ref (a r)), none, some (.int 0), none] dX3_begins_35 rfl (by decide) rfl rfl ?_
      exact wX3_begins_L36 hX β r hr ol_fuel 0 σ gh hg h
    · have h := ol_ifn c2 h
      refine ol_aload_n hX (pc := 20) dX3_begins_20 rfl rfl ?_
      refine ol_xg_R_20 hX (pc := 21) hr q284 dX3_begins_21 ?_
      refine ol_iload_n hX (pc := 24) dX3_begins_24 rfl rfl ?_
      refine ol_bipush hX (pc := 25) (-2) dX3_begins_25 ol_k_bipush_m2 ?_
      obtain ⟨g1, h⟩ := ol_of_og h
      refine ol_xw_R8 hX (pc := 27) hr dX3_begins_27 rfl (ol_in_vp g1) ?_
      refine ol_iinc hX (pc := 28) (v2 + 1) [some (.ref (a r)), none, some (.int (v2 + 1)), none] dX3_begins_28 rfl (ol_k_iinc_1 _) (by decide) rfl rfl ?_
      refine ol_goto hX (pc := 31) 14 dX3_begins_31 (by decide) ?_
      exact ih (v2 + 1) (ol_xs σ (r + 8) v2.toNatClampNeg (-2)) gh hg h
set_option maxHeartbeats 4000000 in
theorem wX3_begins (V : ol_Gh) (a : Nat → Nat) (r0 : Option Nat) (ext : va_W) (g : Nat → Nat → Nat) (σ : ol_Xm) (β : ol_Bd) (r : Nat) (hr : ol_isr r) (gh : ol_Lh) (hg : ol_Rel gh σ.2.2) (z : ol_Xm) (h : oX3_begins σ β (g 0 0) r = some z) : ol_Mt V yX3_begins cX3_begins 4 none ({ frames := 3, cells := 0, slots := 0, locals := 100 } : Room) true [.ref (a r), .ref (g 0 0)] (ol_Xc V a r0 σ ++ (ol_WB V g β ++ (ol_WL V a gh σ.2.2 ++ ext))) (fun v w => ∃ gh2 : ol_Lh, ol_Rel gh2 z.2.2 ∧ v = none ∧ w = ol_Xc V a r0 z ++ (ol_WB V g β ++ (ol_WL V a gh2 z.2.2 ++ ext))) := by
  refine ol_MtOf (L0 := [some (.ref (a r)), some (.ref (g 0 0)), none, none]) (by decide) (Nat.le_of_ble_eq_true rfl) rfl (fun X A hX => ?_)
  unfold oX3_begins at h
  refine ol_aload_n hX (pc := 0) dX3_begins_0 rfl rfl ?_
  refine ol_aload_n hX (pc := 1) dX3_begins_1 rfl rfl ?_
  refine ol_xp_R_bus (x := some (g 0 0)) hX (pc := 2) hr q254 dX3_begins_2 ?_
  refine ol_aload_n hX (pc := 5) dX3_begins_5 rfl rfl ?_
  refine ol_xg_R_19 hX (pc := 6) hr q282 dX3_begins_6 ?_
  refine ol_logClear hX (pc := 9) hr hg q1427 (Nat.le_of_ble_eq_true rfl) (Nat.le_of_ble_eq_true rfl) ⟨Nat.le_refl _, Nat.le_refl _⟩ (Nat.le_of_ble_eq_true rfl) dX3_begins_9 (fun gh1 hg2 => ?_)
  refine ol_iconst hX (pc := 12) 0 dX3_begins_12 ol_k_iconst_0 ?_
  refine ol_istore_n hX (pc := 13) [some (.ref (a r)), some (.ref (g 0 0)), some (.int 0), none] dX3_begins_13 rfl (by decide) rfl rfl ?_
  refine ol_Gdrop 1 ?_
  exact wX3_begins_L14 hX β r hr ol_fuel 0 (ol_lgU (ol_xr σ r (some (g 0 0))) r (ol_lgClr ((ol_xr σ r (some (g 0 0))).2.2 r))) gh1 hg2 h
