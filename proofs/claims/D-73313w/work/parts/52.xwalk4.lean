/-! walks (printed) -/
set_option maxRecDepth 100000
set_option maxHeartbeats 4000000 in
theorem wX3_passes_L195 {X : ol_Cx} {V : ol_Gh} {A : Nat → Prop} {a : Nat → Nat} {r0 : Option Nat} {ext : va_W} {g : Nat → Nat → Nat} {wa : Nat} {z : Int32 × ol_Xm} (hX : ol_CX X V A cX3_passes RX3 "passes" 5 (some .int)) (β : ol_Bd) (r : Nat) (wf : ol_Xm → Nat → Option Int32) (x1 : Int32) (hr : ol_isr r) (hw : ol_WordRow V a r0 g β ext wf wa)  (v4 : Int32) (σ : ol_Xm) (h : oX3_passes_L195 β (g 0 0) r wf x1 v4 σ = some z) : ol_G X V A true (ol_Pw (some (.int z.1)) (ol_Xc V a r0 z.2 ++ (ol_WB V g β ++ ext))) ({ frames := 14, cells := 1, slots := 1, locals := 653 } : Room) 5 1 1 (ol_Xc V a r0 σ ++ (ol_WB V g β ++ ext)) 195 [none, none, none, none, some (.int v4)] [] := by
  unfold oX3_passes_L195 at h
  refine ol_iload hX (pc := 195) dX3_passes_195 rfl ?_
  obtain ⟨y1, e2, h⟩ := ol_of_bd h
  refine ol_cSr (As := [.int v4]) hX (pc := 197) (wJ14_bitCount V (ol_Xc V a r0 σ ++ (ol_WB V g β ++ ext)) v4 y1 e2) lkX3_193 dcJ14_bitCount ⟨rfl, rfl⟩ ol_rr_X3_passes_J14_bitCount (fun _ h => h) ⟨(by first | omega | (dsimp only; omega)), (by first | omega | (dsimp only; omega))⟩ (Nat.le_of_ble_eq_true rfl) dX3_passes_197 rfl ?_
  refine ol_iconst hX (pc := 200) 1 dX3_passes_200 ol_k_iconst_1 ?_
  refine ol_icmp_ne hX (pc := 201) 212 dX3_passes_201 (by decide) (fun c5 => ?_) (fun c5 => ?_)
  · have h := ol_ifn c5 h
    refine ol_bipush hX (pc := 212) (-2) dX3_passes_212 ol_k_bipush_m2 ?_
    have h := ol_of_some h
    subst h
    exact ol_iret hX (pc := 214) dX3_passes_214 ⟨rfl, rfl⟩ ⟨(by first | omega | (dsimp only; omega)), (by first | omega | (dsimp only; omega))⟩
  · have h := ol_ifp c5 h
    refine ol_iload hX (pc := 204) dX3_passes_204 rfl ?_
    obtain ⟨y3, e4, h⟩ := ol_of_bd h
    refine ol_cSr (As := [.int v4]) hX (pc := 206) (wJ14_numberOfTrailingZeros V (ol_Xc V a r0 σ ++ (ol_WB V g β ++ ext)) v4 y3 e4) lkX3_198 dcJ14_numberOfTrailingZeros ⟨rfl, rfl⟩ ol_rr_X3_passes_J14_numberOfTrailingZeros (fun _ h => h) ⟨(by first | omega | (dsimp only; omega)), (by first | omega | (dsimp only; omega))⟩ (Nat.le_of_ble_eq_true rfl) dX3_passes_206 rfl ?_
    refine ol_goto hX (pc := 209) 214 dX3_passes_209 (by decide) ?_
    have h := ol_of_some h
    subst h
    exact ol_iret hX (pc := 214) dX3_passes_214 ⟨rfl, rfl⟩ ⟨(by first | omega | (dsimp only; omega)), (by first | omega | (dsimp only; omega))⟩
set_option maxHeartbeats 4000000 in
theorem wX3_passes_L98 {X : ol_Cx} {V : ol_Gh} {A : Nat → Prop} {a : Nat → Nat} {r0 : Option Nat} {ext : va_W} {g : Nat → Nat → Nat} {wa : Nat} {z : Int32 × ol_Xm} (hX : ol_CX X V A cX3_passes RX3 "passes" 5 (some .int)) (β : ol_Bd) (r : Nat) (wf : ol_Xm → Nat → Option Int32) (x1 : Int32) (hr : ol_isr r) (hw : ol_WordRow V a r0 g β ext wf wa)  (v3 : Int32) (σ : ol_Xm) (h : oX3_passes_L98 β (g 0 0) r wf x1 v3 σ = some z) : ol_G X V A true (ol_Pw (some (.int z.1)) (ol_Xc V a r0 z.2 ++ (ol_WB V g β ++ ext))) ({ frames := 14, cells := 1, slots := 1, locals := 653 } : Room) 5 0 0 (ol_Xc V a r0 σ ++ (ol_WB V g β ++ ext)) 98 [some (.ref (a r)), none, none, some (.int v3), none] [] := by
  unfold oX3_passes_L98 at h
  refine ol_iload_n hX (pc := 98) dX3_passes_98 rfl rfl ?_
  refine ol_if_ne hX (pc := 99) 105 dX3_passes_99 (by decide) (fun c13 => ?_) (fun c13 => ?_)
  · have h := ol_ifn c13 h
    refine ol_aload_n hX (pc := 105) dX3_passes_105 rfl rfl ?_
    refine ol_xg_R_24 hX (pc := 106) hr q288 dX3_passes_106 ?_
    refine ol_xgN_O_0 hX (pc := 109) q341 dX3_passes_109 ?_
    refine ol_aload_n hX (pc := 112) dX3_passes_112 rfl rfl ?_
    obtain ⟨g1, h⟩ := ol_of_og h
    refine ol_xg_R_0 hX (pc := 113) hr q254 (of_decide_eq_true g1) dX3_passes_113 ?_
    refine ol_iload_n hX (pc := 116) dX3_passes_116 rfl rfl ?_
    refine ol_new (ci := 10) hX (pc := 117) in_X12 tyX12 tyX12_ok q1727 q1728 q140 rfl [.null] (fun j hj => by rcases (show j = 0 by omega) with rfl <;> rfl) ⟨(by first | omega | (dsimp only; omega)), (by first | omega | (dsimp only; omega))⟩ dX3_passes_117 (fun q2 => ?_)
    refine ol_Geq (show _ = ol_Xc V a r0 σ ++ (ol_WB V g β ++ (ext ++ [(q2, .inr (10, [.null]))])) from by simp only [List.append_assoc]) ?_
    refine ol_Gwid (k := 1) (n := 1) (by first | omega | (dsimp only; omega)) (by first | omega | (dsimp only; omega)) ?_
    refine ol_dup hX (pc := 120) dX3_passes_120 rfl ?_
    refine ol_aload_n hX (pc := 121) dX3_passes_121 rfl rfl ?_
    refine ol_Geq (show _ = (ol_Xc V a r0 σ ++ (ol_WB V g β ++ ext)) ++ [(q2, .inr (10, [.null]))] from by simp only [List.append_assoc]) ?_
    refine ol_cIW (As := [.ref (a r)]) hX (pc := 122) (wX12_init V _ q2 (a r)) q1729 q1730 q140 q1731 rfl dcX12_init ⟨(Nat.le_of_ble_eq_true rfl), (Nat.le_of_ble_eq_true rfl)⟩ ⟨(by first | omega | (dsimp only; omega)), (by first | omega | (dsimp only; omega))⟩ (Nat.le_of_ble_eq_true rfl) dX3_passes_122 rfl (fun v w hp => ?_)
    obtain ⟨rfl, rfl⟩ := hp
    refine ol_Geq (show _ = ol_Xc V a r0 σ ++ (ol_WB V g β ++ (ext ++ [(q2, .inr (10, [.ref (a r)]))])) from by simp only [List.append_assoc]) ?_
    refine ol_Gwid (k := 1) (n := 1) (by first | omega | (dsimp only; omega)) (by first | omega | (dsimp only; omega)) ?_
    refine ol_aload_n hX (pc := 125) dX3_passes_125 rfl rfl ?_
    refine ol_xg_R_5 hX (pc := 126) hr q263 dX3_passes_126 ?_
    refine ol_aload_n hX (pc := 129) dX3_passes_129 rfl rfl ?_
    obtain ⟨g3, h⟩ := ol_of_og h
    refine ol_xg_R_0 hX (pc := 130) hr q254 (of_decide_eq_true g3) dX3_passes_130 ?_
    refine ol_getNM hX in_X6 (pc := 133) ol_hB_X.bus rfl 2 (by decide) q476 rfl rfl dX3_passes_133 ?_
    obtain ⟨y4, e5, h⟩ := ol_of_bd h
    refine ol_cVw (As := [.ref (g 0 0), .int v3, .ref q2, .ref (a (r + 5)), .int (β.1 0 2)]) hX (pc := 136) (wX2_goes V a r0 (ext ++ [(q2, .inr (10, [.ref (a r)]))]) g q2 σ β r (fun σ i => oX12_of σ β i) v3 (β.1 0 2) hr (ol_word2 ⟨_, (List.mem_append_right _ List.mem_cons_self)⟩) y4 e5) lkX3_171 dcX2_goes ol_rr_X3_passes_X2_goes 2 rfl rfl ⟨(by first | omega | (dsimp only; omega)), (by first | omega | (dsimp only; omega))⟩ (Nat.le_of_ble_eq_true rfl) dX3_passes_136 rfl ?_
    refine ol_Geq (show _ = (ol_Xc V a r0 y4 ++ (ol_WB V g β ++ ext)) ++ [(q2, .inr (10, [.ref (a r)]))] from by simp only [List.append_assoc]) (ol_Gpre ?_)
    refine ol_pop hX (pc := 139) dX3_passes_139 rfl ?_
    refine ol_aload_n hX (pc := 140) dX3_passes_140 rfl rfl ?_
    refine ol_xg_R_24 hX (pc := 141) hr q288 dX3_passes_141 ?_
    refine ol_xgN_O_0 hX (pc := 144) q341 dX3_passes_144 ?_
    refine ol_aload_n hX (pc := 147) dX3_passes_147 rfl rfl ?_
    obtain ⟨g6, h⟩ := ol_of_og h
    refine ol_xg_R_0 hX (pc := 148) hr q254 (of_decide_eq_true g6) dX3_passes_148 ?_
    refine ol_getNM hX in_X6 (pc := 151) ol_hB_X.bus rfl 2 (by decide) q476 rfl rfl dX3_passes_151 ?_
    obtain ⟨y7, e8, h⟩ := ol_of_bd h
    refine ol_cVr (As := [.int (β.1 0 2)]) hX (pc := 154) (wX2_winners V a r0 ext g y4 β (β.1 0 2) y7 e8) lkX3_177 dcX2_winners ⟨rfl, rfl⟩ ol_rr_X3_passes_X2_winners 2 rfl rfl (fun _ h => h) ⟨(by first | omega | (dsimp only; omega)), (by first | omega | (dsimp only; omega))⟩ (Nat.le_of_ble_eq_true rfl) dX3_passes_154 rfl ?_
    refine ol_istore hX (pc := 157) [some (.ref (a r)), none, none, some (.int v3), some (.int y7)] dX3_passes_157 (by decide) rfl rfl ?_
    refine ol_aload_n hX (pc := 159) dX3_passes_159 rfl rfl ?_
    refine ol_iload hX (pc := 160) dX3_passes_160 rfl ?_
    refine ol_xp_R_23 hX (pc := 162) hr q287 dX3_passes_162 ?_
    refine ol_aload_n hX (pc := 165) dX3_passes_165 rfl rfl ?_
    refine ol_xg_R_24 hX (pc := 166) hr q288 dX3_passes_166 ?_
    refine ol_xgN_O_0 hX (pc := 169) q341 dX3_passes_169 ?_
    refine ol_aload_n hX (pc := 172) dX3_passes_172 rfl rfl ?_
    obtain ⟨g9, h⟩ := ol_of_og h
    refine ol_xg_R_0 hX (pc := 173) hr q254 (of_decide_eq_true g9) dX3_passes_173 ?_
    refine ol_getNM hX in_X6 (pc := 176) ol_hB_X.bus rfl 2 (by decide) q476 rfl rfl dX3_passes_176 ?_
    obtain ⟨y10, e11, h⟩ := ol_of_bd h
    refine ol_cVr (As := [.int (β.1 0 2)]) hX (pc := 179) (wX2_isFaulty V a r0 ext g (ol_xs y4 r 23 y7) β (β.1 0 2) y10 e11) lkX3_184 dcX2_isFaulty ⟨rfl, rfl⟩ ol_rr_X3_passes_X2_isFaulty 2 rfl rfl (fun _ h => h) ⟨(by first | omega | (dsimp only; omega)), (by first | omega | (dsimp only; omega))⟩ (Nat.le_of_ble_eq_true rfl) dX3_passes_179 rfl ?_
    refine ol_if_eq hX (pc := 182) 195 dX3_passes_182 (by decide) (fun c12 => ?_) (fun c12 => ?_)
    · have h := ol_ifp c12 h
      refine ol_Gdrop 0 ?_
      refine ol_Gdrop 3 ?_
      refine ol_Gwid (k := 1) (n := 1) (by first | omega | (dsimp only; omega)) (by first | omega | (dsimp only; omega)) ?_
      exact wX3_passes_L195 hX β r wf x1 hr hw y7 (ol_xs y4 r 23 y7) h
    · have h := ol_ifn c12 h
      refine ol_aload_n hX (pc := 185) dX3_passes_185 rfl rfl ?_
      refine ol_dup hX (pc := 186) dX3_passes_186 rfl ?_
      refine ol_xg_R_21 hX (pc := 187) hr q285 dX3_passes_187 ?_
      refine ol_iconst hX (pc := 190) 1 dX3_passes_190 ol_k_iconst_1 ?_
      refine ol_iadd hX (pc := 191) dX3_passes_191 ?_
      refine ol_xp_R_21 hX (pc := 192) hr q285 dX3_passes_192 ?_
      refine ol_Gdrop 0 ?_
      refine ol_Gdrop 3 ?_
      refine ol_Gwid (k := 1) (n := 1) (by first | omega | (dsimp only; omega)) (by first | omega | (dsimp only; omega)) ?_
      exact wX3_passes_L195 hX β r wf x1 hr hw y7 (ol_xs (ol_xs y4 r 23 y7) r 21 (((ol_xs y4 r 23 y7).1 r 21) + 1)) h
  · have h := ol_ifp c13 h
    refine ol_bipush hX (pc := 102) (-2) dX3_passes_102 ol_k_bipush_m2 ?_
    have h := ol_of_some h
    subst h
    exact ol_iret hX (pc := 104) dX3_passes_104 ⟨rfl, rfl⟩ ⟨(by first | omega | (dsimp only; omega)), (by first | omega | (dsimp only; omega))⟩
set_option maxHeartbeats 4000000 in
theorem wX3_passes (V : ol_Gh) (a : Nat → Nat) (r0 : Option Nat) (ext : va_W) (g : Nat → Nat → Nat) (wa : Nat) (σ : ol_Xm) (β : ol_Bd) (r : Nat) (wf : ol_Xm → Nat → Option Int32) (x1 : Int32) (hr : ol_isr r) (hw : ol_WordRow V a r0 g β ext wf wa) (z : Int32 × ol_Xm) (h : oX3_passes σ β (g 0 0) r wf x1 = some z) : ol_Mt V yX3_passes cX3_passes 5 (some .int) ({ frames := 14, cells := 1, slots := 1, locals := 653 } : Room) true [.ref (a r), .int x1, .ref wa] (ol_Xc V a r0 σ ++ (ol_WB V g β ++ ext)) (ol_Pw (some (.int z.1)) (ol_Xc V a r0 z.2 ++ (ol_WB V g β ++ ext))) := by
  refine ol_MtOf (L0 := [some (.ref (a r)), some (.int x1), some (.ref wa), none, none]) (by decide) (Nat.le_of_ble_eq_true rfl) rfl (fun X A hX => ?_)
  unfold oX3_passes at h
  refine ol_aload_n hX (pc := 0) dX3_passes_0 rfl rfl ?_
  refine ol_xg_R_24 hX (pc := 1) hr q288 dX3_passes_1 ?_
  obtain ⟨y1, e2, h⟩ := ol_of_bd h
  refine ol_cVNw (As := []) hX (pc := 4) (wX1_forgets V a r0 (ol_WB V g β ++ ext) σ y1 e2) q1723 q1433 qs26 q102 q1434 dcX1_forgets ol_rr_X3_passes_X1_forgets (List.mem_of_getElem? (i := 0) rfl) rfl ⟨(by first | omega | (dsimp only; omega)), (by first | omega | (dsimp only; omega))⟩ (Nat.le_of_ble_eq_true rfl) dX3_passes_4 rfl ?_
  refine ol_aload_n hX (pc := 7) dX3_passes_7 rfl rfl ?_
  refine ol_iconst hX (pc := 8) 0 dX3_passes_8 ol_k_iconst_0 ?_
  refine ol_xp_R_21 hX (pc := 9) hr q285 dX3_passes_9 ?_
  refine ol_aload_n hX (pc := 12) dX3_passes_12 rfl rfl ?_
  refine ol_iconst hX (pc := 13) 0 dX3_passes_13 ol_k_iconst_0 ?_
  refine ol_xp_R_23 hX (pc := 14) hr q287 dX3_passes_14 ?_
  refine ol_aload_n hX (pc := 17) dX3_passes_17 rfl rfl ?_
  refine ol_xg_R_24 hX (pc := 18) hr q288 dX3_passes_18 ?_
  refine ol_xgN_O_0 hX (pc := 21) q341 dX3_passes_21 ?_
  refine ol_aload_n hX (pc := 24) dX3_passes_24 rfl rfl ?_
  obtain ⟨g3, h⟩ := ol_of_og h
  refine ol_xg_R_0 hX (pc := 25) hr q254 (of_decide_eq_true g3) dX3_passes_25 ?_
  refine ol_iload_n hX (pc := 28) dX3_passes_28 rfl rfl ?_
  refine ol_aload_n hX (pc := 29) dX3_passes_29 rfl rfl ?_
  refine ol_aload_n hX (pc := 30) dX3_passes_30 rfl rfl ?_
  refine ol_xg_R_5 hX (pc := 31) hr q263 dX3_passes_31 ?_
  refine ol_aload_n hX (pc := 34) dX3_passes_34 rfl rfl ?_
  obtain ⟨g4, h⟩ := ol_of_og h
  refine ol_xg_R_0 hX (pc := 35) hr q254 (of_decide_eq_true g4) dX3_passes_35 ?_
  refine ol_getNM hX in_X6 (pc := 38) ol_hB_X.bus rfl 2 (by decide) q476 rfl rfl dX3_passes_38 ?_
  obtain ⟨y5, e6, h⟩ := ol_of_bd h
  refine ol_cVw (As := [.ref (g 0 0), .int x1, .ref wa, .ref (a (r + 5)), .int (β.1 0 2)]) hX (pc := 41) (wX2_goes V a r0 ext g wa (ol_xs (ol_xs y1 r 21 0) r 23 0) β r wf x1 (β.1 0 2) hr hw y5 e6) lkX3_171 dcX2_goes ol_rr_X3_passes_X2_goes 2 rfl rfl ⟨(by first | omega | (dsimp only; omega)), (by first | omega | (dsimp only; omega))⟩ (Nat.le_of_ble_eq_true rfl) dX3_passes_41 rfl ?_
  refine ol_pop hX (pc := 44) dX3_passes_44 rfl ?_
  refine ol_aload_n hX (pc := 45) dX3_passes_45 rfl rfl ?_
  refine ol_xg_R_24 hX (pc := 46) hr q288 dX3_passes_46 ?_
  refine ol_xgN_O_0 hX (pc := 49) q341 dX3_passes_49 ?_
  refine ol_aload_n hX (pc := 52) dX3_passes_52 rfl rfl ?_
  obtain ⟨g7, h⟩ := ol_of_og h
  refine ol_xg_R_0 hX (pc := 53) hr q254 (of_decide_eq_true g7) dX3_passes_53 ?_
  refine ol_getNM hX in_X6 (pc := 56) ol_hB_X.bus rfl 2 (by decide) q476 rfl rfl dX3_passes_56 ?_
  obtain ⟨y8, e9, h⟩ := ol_of_bd h
  refine ol_cVr (As := [.int (β.1 0 2)]) hX (pc := 59) (wX2_winners V a r0 ext g y5 β (β.1 0 2) y8 e9) lkX3_177 dcX2_winners ⟨rfl, rfl⟩ ol_rr_X3_passes_X2_winners 2 rfl rfl (fun _ h => h) ⟨(by first | omega | (dsimp only; omega)), (by first | omega | (dsimp only; omega))⟩ (Nat.le_of_ble_eq_true rfl) dX3_passes_59 rfl ?_
  refine ol_istore_n hX (pc := 62) [some (.ref (a r)), some (.int x1), some (.ref wa), some (.int y8), none] dX3_passes_62 rfl (by decide) rfl rfl ?_
  refine ol_aload_n hX (pc := 63) dX3_passes_63 rfl rfl ?_
  refine ol_iload_n hX (pc := 64) dX3_passes_64 rfl rfl ?_
  refine ol_xp_R_22 hX (pc := 65) hr q286 dX3_passes_65 ?_
  refine ol_aload_n hX (pc := 68) dX3_passes_68 rfl rfl ?_
  refine ol_xg_R_24 hX (pc := 69) hr q288 dX3_passes_69 ?_
  refine ol_xgN_O_0 hX (pc := 72) q341 dX3_passes_72 ?_
  refine ol_aload_n hX (pc := 75) dX3_passes_75 rfl rfl ?_
  obtain ⟨g10, h⟩ := ol_of_og h
  refine ol_xg_R_0 hX (pc := 76) hr q254 (of_decide_eq_true g10) dX3_passes_76 ?_
  refine ol_getNM hX in_X6 (pc := 79) ol_hB_X.bus rfl 2 (by decide) q476 rfl rfl dX3_passes_79 ?_
  obtain ⟨y11, e12, h⟩ := ol_of_bd h
  refine ol_cVr (As := [.int (β.1 0 2)]) hX (pc := 82) (wX2_isFaulty V a r0 ext g (ol_xs y5 r 22 y8) β (β.1 0 2) y11 e12) lkX3_184 dcX2_isFaulty ⟨rfl, rfl⟩ ol_rr_X3_passes_X2_isFaulty 2 rfl rfl (fun _ h => h) ⟨(by first | omega | (dsimp only; omega)), (by first | omega | (dsimp only; omega))⟩ (Nat.le_of_ble_eq_true rfl) dX3_passes_82 rfl ?_
  refine ol_if_eq hX (pc := 85) 98 dX3_passes_85 (by decide) (fun c13 => ?_) (fun c13 => ?_)
  · have h := ol_ifp c13 h
    refine ol_Gdrop 1 ?_
    refine ol_Gdrop 2 ?_
    refine ol_Gwid (k := 0) (n := 0) (by first | omega | (dsimp only; omega)) (by first | omega | (dsimp only; omega)) ?_
    exact wX3_passes_L98 hX β r wf x1 hr hw y8 (ol_xs y5 r 22 y8) h
  · have h := ol_ifn c13 h
    refine ol_aload_n hX (pc := 88) dX3_passes_88 rfl rfl ?_
    refine ol_dup hX (pc := 89) dX3_passes_89 rfl ?_
    refine ol_xg_R_21 hX (pc := 90) hr q285 dX3_passes_90 ?_
    refine ol_iconst hX (pc := 93) 1 dX3_passes_93 ol_k_iconst_1 ?_
    refine ol_iadd hX (pc := 94) dX3_passes_94 ?_
    refine ol_xp_R_21 hX (pc := 95) hr q285 dX3_passes_95 ?_
    refine ol_Gdrop 1 ?_
    refine ol_Gdrop 2 ?_
    refine ol_Gwid (k := 0) (n := 0) (by first | omega | (dsimp only; omega)) (by first | omega | (dsimp only; omega)) ?_
    exact wX3_passes_L98 hX β r wf x1 hr hw y8 (ol_xs (ol_xs y5 r 22 y8) r 21 (((ol_xs y5 r 22 y8).1 r 21) + 1)) h
