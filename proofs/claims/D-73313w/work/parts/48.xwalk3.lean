/-! walks (printed) -/
set_option maxRecDepth 100000
set_option maxHeartbeats 4000000 in
theorem wX11_of (V : ol_Gh) (a : Nat → Nat) (r0 : Option Nat) (ext : va_W) (q : Nat) (g : Nat → Nat → Nat) (σ : ol_Xm) (β : ol_Bd) (x0 : Int32) (x1 : Nat) (hq : (q, Sum.inr (9, [Value.int x0, Value.ref (a 0)])) ∈ ext) (z : Int32) (h : oX11_of σ β (g 0 0) x0 x1 = some z) : ol_Mt V yX11_of cX11_of 2 (some .int) ({ frames := 6, cells := 0, slots := 0, locals := 144 } : Room) false [.ref q, .ref (g 1 x1)] (ol_Xc V a r0 σ ++ (ol_WB V g β ++ ext)) (ol_Pr (some (.int z))) := by
  refine ol_MtOf (L0 := [some (.ref q), some (.ref (g 1 x1))]) (by decide) (Nat.le_of_ble_eq_true rfl) rfl (fun X A hX => ?_)
  unfold oX11_of at h
  refine ol_aload_n hX (pc := 0) dX11_of_0 rfl rfl ?_
  refine ol_getM hX in_X11 (pc := 1) (List.mem_append_right _ (List.mem_append_right _ hq)) rfl 0 (by decide) q1525 rfl rfl dX11_of_1 ?_
  refine ol_iconst hX (pc := 4) 1 dX11_of_4 ol_k_iconst_1 ?_
  refine ol_icmp_ne hX (pc := 5) 22 dX11_of_5 (by decide) (fun c5 => ?_) (fun c5 => ?_)
  · have h := ol_ifn c5 h
    refine ol_aload_n hX (pc := 22) dX11_of_22 rfl rfl ?_
    obtain ⟨y1, e2, h⟩ := ol_of_bd h
    refine ol_cSNr (As := [.ref (g 1 x1)]) hX (pc := 23) (wX1_secondWord V a r0 ext g σ β x1 y1 e2) q1554 q1555 q102 q1556 dcX1_secondWord ⟨rfl, rfl⟩ ol_rr_X11_of_X1_secondWord (fun _ h => h) ⟨Nat.le_refl _, Nat.le_refl _⟩ (Nat.le_of_ble_eq_true rfl) dX11_of_23 rfl ?_
    have h := ol_of_some h
    subst h
    exact ol_iret hX (pc := 26) dX11_of_26 rfl ⟨Nat.le_refl _, Nat.le_refl _⟩
  · have h := ol_ifp c5 h
    refine ol_aload_n hX (pc := 8) dX11_of_8 rfl rfl ?_
    refine ol_getM hX in_X11 (pc := 9) (List.mem_append_right _ (List.mem_append_right _ hq)) rfl 1 (by decide) q1526 rfl rfl dX11_of_9 ?_
    refine ol_xgN_O_7 hX (pc := 12) q349 dX11_of_12 ?_
    refine ol_aload_n hX (pc := 15) dX11_of_15 rfl rfl ?_
    obtain ⟨y3, e4, h⟩ := ol_of_bd h
    refine ol_cSNr (As := [.ref (a 10), .ref (g 1 x1)]) hX (pc := 16) (wX1_firstWord V a r0 ext g σ β 10 x1 ol_isr0 y3 e4) q1542 q1543 q102 q1544 dcX1_firstWord ⟨rfl, rfl⟩ ol_rr_X11_of_X1_firstWord (fun _ h => h) ⟨Nat.le_refl _, Nat.le_refl _⟩ (Nat.le_of_ble_eq_true rfl) dX11_of_16 rfl ?_
    refine ol_goto hX (pc := 19) 26 dX11_of_19 (by decide) ?_
    have h := ol_of_some h
    subst h
    exact ol_iret hX (pc := 26) dX11_of_26 rfl ⟨Nat.le_refl _, Nat.le_refl _⟩
set_option maxHeartbeats 4000000 in
theorem wX12_of (V : ol_Gh) (a : Nat → Nat) (r0 : Option Nat) (ext : va_W) (q : Nat) (g : Nat → Nat → Nat) (σ : ol_Xm) (β : ol_Bd) (x1 : Nat) (hq : ∃ b : Nat, (q, Sum.inr (10, [Value.ref b])) ∈ ext) (z : Int32) (h : oX12_of σ β x1 = some z) : ol_Mt V yX12_of cX12_of 2 (some .int) ({ frames := 3, cells := 0, slots := 0, locals := 60 } : Room) false [.ref q, .ref (g 1 x1)] (ol_Xc V a r0 σ ++ (ol_WB V g β ++ ext)) (ol_Pr (some (.int z))) := by
  refine ol_MtOf (L0 := [some (.ref q), some (.ref (g 1 x1))]) (by decide) (Nat.le_of_ble_eq_true rfl) rfl (fun X A hX => ?_)
  unfold oX12_of at h
  refine ol_aload_n hX (pc := 0) dX12_of_0 rfl rfl ?_
  obtain ⟨y1, e2, h⟩ := ol_of_bd h
  refine ol_cSNr (As := [.ref (g 1 x1)]) hX (pc := 1) (wX1_secondWord V a r0 ext g σ β x1 y1 e2) q1563 q1555 q102 q1556 dcX1_secondWord ⟨rfl, rfl⟩ ol_rr_X12_of_X1_secondWord (fun _ h => h) ⟨Nat.le_refl _, Nat.le_refl _⟩ (Nat.le_of_ble_eq_true rfl) dX12_of_1 rfl ?_
  have h := ol_of_some h
  subst h
  exact ol_iret hX (pc := 4) dX12_of_4 rfl ⟨Nat.le_refl _, Nat.le_refl _⟩
set_option maxHeartbeats 4000000 in
theorem wX13_of (V : ol_Gh) (a : Nat → Nat) (r0 : Option Nat) (ext : va_W) (q : Nat) (g : Nat → Nat → Nat) (σ : ol_Xm) (β : ol_Bd) (r : Nat) (x1 : Nat) (hr : ol_isr r) (hq : (q, Sum.inr (11, [Value.ref (a r)])) ∈ ext) (z : Int32) (h : oX13_of σ β r x1 = some z) : ol_Mt V yX13_of cX13_of 2 (some .int) ({ frames := 0, cells := 0, slots := 0, locals := 0 } : Room) false [.ref q, .ref (g 1 x1)] (ol_Xc V a r0 σ ++ (ol_WB V g β ++ ext)) (ol_Pr (some (.int z))) := by
  refine ol_MtOf (L0 := [some (.ref q), some (.ref (g 1 x1))]) (by decide) (Nat.le_of_ble_eq_true rfl) rfl (fun X A hX => ?_)
  unfold oX13_of at h
  refine ol_aload_n hX (pc := 0) dX13_of_0 rfl rfl ?_
  refine ol_getM hX in_X13 (pc := 1) (List.mem_append_right _ (List.mem_append_right _ hq)) rfl 0 (by decide) q1874 rfl rfl dX13_of_1 ?_
  refine ol_xgN_R_6 hX (pc := 4) hr q266 dX13_of_4 ?_
  refine ol_aload_n hX (pc := 7) dX13_of_7 rfl rfl ?_
  obtain ⟨g1, h⟩ := ol_of_og h
  refine ol_getNM hX in_X9 (pc := 8) (ol_hB_X.brd (ol_nb_lt g1)) rfl 2 (by decide) q1140 rfl rfl dX13_of_8 ?_
  obtain ⟨g2, h⟩ := ol_of_og h
  refine ol_xl_R6 hX (pc := 11) hr dX13_of_11 rfl (ol_in_vp g2) ?_
  have h := ol_of_some h
  subst h
  exact ol_iret hX (pc := 12) dX13_of_12 rfl ⟨Nat.le_refl _, Nat.le_refl _⟩
