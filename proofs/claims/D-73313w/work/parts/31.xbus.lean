/-! the bus: its world, its readers (ArrayList.size, get ..; Bus.many, board, apart) -/
set_option maxRecDepth 100000
section OLcast
variable {X : ol_Cx} {V : ol_Gh} {A : Nat → Prop} {cc : ByteArray} {own nm : String} {nL : Nat} {ret : Option FieldType} {md : Bool} {P : Option Value → va_W → Prop} {rm : Room} {cells slots : Nat} {ws : va_W} {pc : Nat} {L : List (Option Value)} {st : List Value}
theorem ol_castS (hX : ol_CX X V A cc own nm nL ret) {C : String} {T : u_T} {N index a ci : Nat} {fs : List Value} (hl : Cond.classLink own index C ∈ lw_all) (he : (a, .inr (ci, fs)) ∈ ws) (hci : ol_cl[ci]? = some (C, T, N)) (hd : decode cc pc = .ok (.checkcast index, 3)) (k : ol_G X V A md P rm nL cells slots ws (pc + 3) L (.ref a :: st)) : ol_G X V A md P rm nL cells slots ws pc L (.ref a :: st) := fun H locs ls hH hL => by
  obtain ⟨q0, he⟩ := List.getElem?_of_mem he
  exact va_castS hX.x hX.b hX.ow (hX.ts _ hl) (hX.K.1 ci _ hci).2 (va_recv hX.K hH.1 hci he) hd (k H locs ls hH hL)
end OLcast
abbrev ol_refs (f : Nat → Option Nat) : (Nat → Int32) ⊕ (Nat → Int64) ⊕ (Nat → UInt32) ⊕ (Nat → UInt64) ⊕ (Nat → Option Nat) := .inr (.inr (.inr (.inr f)))
def ol_many (β : ol_Bd) : Nat := (β.1 0 3).toNatClampNeg
def ol_amany (β : ol_Bd) : Nat := (β.1 0 4).toNatClampNeg
def ol_brd (β : ol_Bd) (b : Nat) : List Value := [.int (β.1 1 b), .long (β.2.1 b), .int (nI b), .int (β.1 2 b), .int (β.1 3 b)]
def ol_ask (β : ol_Bd) (k : Nat) : List Value := [.int (β.1 4 k), .int (β.1 5 k), .int (β.1 6 k)]
def ol_WB (V : ol_Gh) (g : Nat → Nat → Nat) (β : ol_Bd) : va_W := [(g 0 0, .inr (5, [.int (β.1 0 0), .int (β.1 0 1), .int (β.1 0 2), .ref (g 0 1), .ref (g 0 3), .ref (g 0 5)])), (g 0 1, .inr (15, [.int (β.1 7 0), .ref (g 0 2), .int (β.1 0 3)])), (g 0 2, .inl (V.2.2.2.2 4, β.2.2 0, ol_refs fun i => if i < ol_many β then some (g 1 i) else none)), (g 0 3, .inr (15, [.int (β.1 7 1), .ref (g 0 4), .int (β.1 0 4)]))] ++ ((if 0 < ol_amany β then [(g 0 4, .inl (V.2.2.2.2 4, β.2.2 1, ol_refs fun i => if i < ol_amany β then some (g 2 i) else none))] else []) ++ ((List.range (ol_many β)).map (fun b => (g 1 b, .inr (7, ol_brd β b))) ++ (List.range (ol_amany β)).map (fun k => (g 2 k, .inr (8, ol_ask β k)))))
/-- the world has the bus -/
def ol_hB (V : ol_Gh) (g : Nat → Nat → Nat) (β : ol_Bd) (ws : va_W) : Prop := ∀ q ∈ ol_WB V g β, q ∈ ws
theorem ol_hB_X {V : ol_Gh} {g : Nat → Nat → Nat} {β : ol_Bd} {w1 ext : va_W} : ol_hB V g β (w1 ++ (ol_WB V g β ++ ext)) := fun _ h => List.mem_append_right _ (List.mem_append_left _ h)
section OLB
variable {V : ol_Gh} {g : Nat → Nat → Nat} {β : ol_Bd} {ws : va_W}
theorem ol_hB.bus (h : ol_hB V g β ws) : (g 0 0, .inr (5, [.int (β.1 0 0), .int (β.1 0 1), .int (β.1 0 2), .ref (g 0 1), .ref (g 0 3), .ref (g 0 5)])) ∈ ws := h _ (List.mem_append_left _ (List.mem_of_getElem? (i := 0) rfl))
theorem ol_hB.bl (h : ol_hB V g β ws) : (g 0 1, .inr (15, [.int (β.1 7 0), .ref (g 0 2), .int (β.1 0 3)])) ∈ ws := h _ (List.mem_append_left _ (List.mem_of_getElem? (i := 1) rfl))
theorem ol_hB.bd (h : ol_hB V g β ws) : (g 0 2, .inl (V.2.2.2.2 4, β.2.2 0, ol_refs fun i => if i < ol_many β then some (g 1 i) else none)) ∈ ws := h _ (List.mem_append_left _ (List.mem_of_getElem? (i := 2) rfl))
theorem ol_hB.al (h : ol_hB V g β ws) : (g 0 3, .inr (15, [.int (β.1 7 1), .ref (g 0 4), .int (β.1 0 4)])) ∈ ws := h _ (List.mem_append_left _ (List.mem_of_getElem? (i := 3) rfl))
theorem ol_hB.ad (h : ol_hB V g β ws) (h0 : 0 < ol_amany β) : (g 0 4, .inl (V.2.2.2.2 4, β.2.2 1, ol_refs fun i => if i < ol_amany β then some (g 2 i) else none)) ∈ ws := h _ (List.mem_append_right _ (List.mem_append_left _ (by rw [if_pos h0]; exact List.mem_cons_self)))
theorem ol_hB.brd (h : ol_hB V g β ws) {b : Nat} (hb : b < ol_many β) : (g 1 b, .inr (7, ol_brd β b)) ∈ ws := h _ (List.mem_append_right _ (List.mem_append_right _ (List.mem_append_left _ (List.mem_map.mpr ⟨b, List.mem_range.mpr hb, rfl⟩))))
theorem ol_hB.ask (h : ol_hB V g β ws) {b : Nat} (hb : b < ol_amany β) : (g 2 b, .inr (8, ol_ask β b)) ∈ ws := h _ (List.mem_append_right _ (List.mem_append_right _ (List.mem_append_right _ (List.mem_map.mpr ⟨b, List.mem_range.mpr hb, rfl⟩))))
end OLB
/-- a board's, an ask's number in range -/
def ol_ib (β : ol_Bd) (x : Int32) : Bool := decide (0 ≤ x.toInt) && (decide (x.toNatClampNeg < ol_many β) && decide (x.toNatClampNeg < β.2.2 0))
def ol_ia (β : ol_Bd) (x : Int32) : Bool := decide (0 ≤ x.toInt) && (decide (x.toNatClampNeg < ol_amany β) && decide (x.toNatClampNeg < β.2.2 1))
def ol_nb (β : ol_Bd) (b : Nat) : Bool := decide (b < ol_many β)
theorem ol_nb_lt {β : ol_Bd} {b : Nat} (h : ol_nb β b = true) : b < ol_many β := of_decide_eq_true h
theorem ol_ib_lt {β : ol_Bd} {x : Int32} (h : ol_ib β x = true) : x.toNatClampNeg < ol_many β := by
  simp only [ol_ib, Bool.and_eq_true, decide_eq_true_eq] at h
  exact h.2.1
theorem ol_ia_lt {β : ol_Bd} {x : Int32} (h : ol_ia β x = true) : x.toNatClampNeg < ol_amany β := by
  simp only [ol_ia, Bool.and_eq_true, decide_eq_true_eq] at h
  exact h.2.1
theorem ol_nn_lt {x : Int32} {n : Nat} (h0 : 0 ≤ x.toInt) (h : x.toNatClampNeg < n) : vp_in x n := vp_in_iff.mpr ⟨h0, by
  have : x.toNatClampNeg = x.toInt.toNat := rfl
  omega⟩
theorem ol_lt_of {x y : Int32} (h0 : 0 ≤ x.toInt) (h : x.toNatClampNeg < y.toNatClampNeg) : ¬ x < 0 ∧ x < y := by
  have e1 : x.toNatClampNeg = x.toInt.toNat := rfl
  have e2 : y.toNatClampNeg = y.toInt.toNat := rfl
  refine ⟨fun q => ?_, Int32.lt_iff_toInt_lt.mpr (by omega)⟩
  have := Int32.lt_iff_toInt_lt.mp q
  have e0 : (0 : Int32).toInt = 0 := rfl
  omega
theorem ol_ib_of {β : ol_Bd} {x : Int32} (h : ol_ib β x = true) : 0 ≤ x.toInt ∧ vp_in x (β.2.2 0) ∧ ¬ x < 0 ∧ x < β.1 0 3 := by
  simp only [ol_ib, Bool.and_eq_true, decide_eq_true_eq] at h
  exact ⟨h.1, ol_nn_lt h.1 h.2.2, (ol_lt_of h.1 h.2.1).1, (ol_lt_of h.1 h.2.1).2⟩
theorem ol_ia_of {β : ol_Bd} {x : Int32} (h : ol_ia β x = true) : 0 ≤ x.toInt ∧ vp_in x (β.2.2 1) ∧ ¬ x < 0 ∧ x < β.1 0 4 := by
  simp only [ol_ia, Bool.and_eq_true, decide_eq_true_eq] at h
  exact ⟨h.1, ol_nn_lt h.1 h.2.2, (ol_lt_of h.1 h.2.1).1, (ol_lt_of h.1 h.2.1).2⟩
theorem dcJ2_size : yJ2_size.cls = RJ2 ∧ ol_dc yJ2_size 0 := by decide +kernel
theorem dcJ2_get : yJ2_get.cls = RJ2 ∧ ol_dc yJ2_get 1 := by decide +kernel
theorem dcJ2_elementData : yJ2_elementData.cls = RJ2 ∧ ol_dc yJ2_elementData 1 := by decide +kernel
theorem dcJ2_isEmpty : yJ2_isEmpty.cls = RJ2 ∧ ol_dc yJ2_isEmpty 0 := by decide +kernel
theorem dcJ12_checkIndex : ol_dc yJ12_checkIndex 2 := by decide +kernel
theorem dcX6_many : yX6_many.cls = RX6 ∧ ol_dc yX6_many 0 := by decide +kernel
theorem dcX6_board : yX6_board.cls = RX6 ∧ ol_dc yX6_board 1 := by decide +kernel
theorem dcX6_apart : yX6_apart.cls = RX6 ∧ ol_dc yX6_apart 2 := by decide +kernel
set_option maxHeartbeats 4000000 in
theorem wJ2_size (V : ol_Gh) (ws : va_W) (l d : Nat) (m n : Int32) (h : (l, .inr (15, [.int m, .ref d, .int n])) ∈ ws) : ol_Mt V yJ2_size cJ2_size 1 (some .int) ({ frames := 0, cells := 0, slots := 0, locals := 0 }) false [.ref l] ws (ol_Pr (some (.int n))) := by
  refine ol_MtOf (L0 := [some (.ref l)]) (by decide) (Nat.le_of_ble_eq_true rfl) rfl (fun X A hX => ?_)
  refine ol_aload_n hX (pc := 0) dJ2_size_0 rfl rfl ?_
  refine ol_getM hX in_J2 (pc := 1) h rfl 2 (by decide) q240 rfl rfl dJ2_size_1 ?_
  exact ol_iret hX (pc := 4) dJ2_size_4 rfl ⟨Nat.le_refl _, Nat.le_refl _⟩
set_option maxHeartbeats 4000000 in
theorem wJ2_isEmpty (V : ol_Gh) (ws : va_W) (l d : Nat) (m n : Int32) (h : (l, .inr (15, [.int m, .ref d, .int n])) ∈ ws) : ol_Mt V yJ2_isEmpty cJ2_isEmpty 1 (some .boolean) ({ frames := 0, cells := 0, slots := 0, locals := 0 }) false [.ref l] ws (ol_Pr (some (.int (if n = 0 then 1 else 0)))) := by
  refine ol_MtOf (L0 := [some (.ref l)]) (by decide) (Nat.le_of_ble_eq_true rfl) rfl (fun X A hX => ?_)
  refine ol_aload_n hX (pc := 0) dJ2_isEmpty_0 rfl rfl ?_
  refine ol_getM hX in_J2 (pc := 1) h rfl 2 (by decide) q240 rfl rfl dJ2_isEmpty_1 ?_
  refine ol_if_ne hX (pc := 4) 11 dJ2_isEmpty_4 (by decide) (fun c => ?_) (fun c => ?_)
  · refine ol_iconst hX (pc := 11) 0 dJ2_isEmpty_11 (by decide) ?_
    exact ol_zret hX (pc := 12) dJ2_isEmpty_12 rfl (by rw [if_neg c]; rfl) ⟨Nat.le_refl _, Nat.le_refl _⟩
  · refine ol_iconst hX (pc := 7) 1 dJ2_isEmpty_7 (by decide) ?_
    refine ol_goto hX (pc := 8) 12 dJ2_isEmpty_8 (by decide) ?_
    exact ol_zret hX (pc := 12) dJ2_isEmpty_12 rfl (by rw [if_pos c]; rfl) ⟨Nat.le_refl _, Nat.le_refl _⟩
set_option maxHeartbeats 4000000 in
theorem wJ12_checkIndex (V : ol_Gh) (ws : va_W) (i n : Int32) (h1 : ¬ i < 0) (h2 : i < n) : ol_Mt V yJ12_checkIndex cJ12_checkIndex 2 (some .int) ({ frames := 1, cells := 0, slots := 0, locals := 22 }) false [.int i, .int n] ws (ol_Pr (some (.int i))) := by
  refine ol_MtOf (L0 := [some (.int i), some (.int n)]) (by decide) (Nat.le_of_ble_eq_true rfl) rfl (fun X A hX => ?_)
  refine ol_iload_n hX (pc := 0) dJ12_checkIndex_0 rfl rfl ?_
  refine ol_iload_n hX (pc := 1) dJ12_checkIndex_1 rfl rfl ?_
  refine ol_null hX (pc := 2) dJ12_checkIndex_2 ?_
  refine ol_cSr (As := [.int i, .int n, .null]) hX (pc := 3) (wJ8_checkIndex V ws i n none h1 h2) (lw_S q745 q591 q116 q592) dcJ8_checkIndex ⟨rfl, rfl⟩ ⟨Nat.le_of_ble_eq_true rfl, Nat.le_of_ble_eq_true rfl⟩ (fun _ h => h) ⟨Nat.le_refl _, Nat.le_refl _⟩ (Nat.le_of_ble_eq_true rfl) dJ12_checkIndex_3 rfl ?_
  exact ol_iret hX (pc := 6) dJ12_checkIndex_6 rfl ⟨Nat.le_refl _, Nat.le_refl _⟩
theorem ol_rf_or (r : Option Nat) : va_rf r = .null ∨ ∃ a, va_rf r = .ref a := by
  cases r with
  | none => exact Or.inl rfl
  | some a => exact Or.inr ⟨a, rfl⟩
set_option maxHeartbeats 4000000 in
theorem wJ2_elementData (V : ol_Gh) (ws : va_W) (l d cap : Nat) (m n : Int32) (f : Nat → Option Nat) (h : (l, .inr (15, [.int m, .ref d, .int n])) ∈ ws) (hd : (d, .inl (V.2.2.2.2 4, cap, ol_refs f)) ∈ ws) (i : Int32) (hi : vp_in i cap) : ol_Mt V yJ2_elementData cJ2_elementData 2 (some (.object "java/lang/Object")) ({ frames := 0, cells := 0, slots := 0, locals := 0 }) false [.ref l, .int i] ws (ol_Pr (some (va_rf (f i.toNatClampNeg)))) := by
  obtain ⟨q0, hd⟩ := List.getElem?_of_mem hd
  refine ol_MtOf (L0 := [some (.ref l), some (.int i)]) (by decide) (Nat.le_of_ble_eq_true rfl) rfl (fun X A hX => ?_)
  refine ol_aload_n hX (pc := 0) dJ2_elementData_0 rfl rfl ?_
  refine ol_getM hX in_J2 (pc := 1) h rfl 1 (by decide) q237 rfl rfl dJ2_elementData_1 ?_
  refine ol_iload_n hX (pc := 4) dJ2_elementData_4 rfl rfl ?_
  refine ol_aald hX (pc := 5) q0 hd hi dJ2_elementData_5 ?_
  exact ol_aret hX (pc := 6) (Or.inl ⟨_, rfl⟩) (ol_rf_or _) dJ2_elementData_6 rfl ⟨Nat.le_refl _, Nat.le_refl _⟩
set_option maxHeartbeats 4000000 in
theorem wJ2_get (V : ol_Gh) (ws : va_W) (l d cap : Nat) (m n : Int32) (f : Nat → Option Nat) (h : (l, .inr (15, [.int m, .ref d, .int n])) ∈ ws) (hd : (d, .inl (V.2.2.2.2 4, cap, ol_refs f)) ∈ ws) (i : Int32) (hi : vp_in i cap) (h1 : ¬ i < 0) (h2 : i < n) : ol_Mt V yJ2_get cJ2_get 2 (some (.object "java/lang/Object")) ({ frames := 2, cells := 0, slots := 0, locals := 43 }) false [.ref l, .int i] ws (ol_Pr (some (va_rf (f i.toNatClampNeg)))) := by
  refine ol_MtOf (L0 := [some (.ref l), some (.int i)]) (by decide) (Nat.le_of_ble_eq_true rfl) rfl (fun X A hX => ?_)
  obtain ⟨q0, hq0⟩ := List.getElem?_of_mem h
  refine ol_iload_n hX (pc := 0) dJ2_get_0 rfl rfl ?_
  refine ol_aload_n hX (pc := 1) dJ2_get_1 rfl rfl ?_
  refine ol_getM hX in_J2 (pc := 2) h rfl 2 (by decide) q240 rfl rfl dJ2_get_2 ?_
  refine ol_cSr (As := [.int i, .int n]) hX (pc := 5) (wJ12_checkIndex V ws i n h1 h2) (lw_S q742 q743 q121 q744) dcJ12_checkIndex ⟨rfl, rfl⟩ ⟨Nat.le_of_ble_eq_true rfl, Nat.le_of_ble_eq_true rfl⟩ (fun _ h => h) ⟨Nat.le_refl _, Nat.le_refl _⟩ (Nat.le_of_ble_eq_true rfl) dJ2_get_5 rfl ?_
  refine ol_pop hX (pc := 8) dJ2_get_8 rfl ?_
  refine ol_aload_n hX (pc := 9) dJ2_get_9 rfl rfl ?_
  refine ol_iload_n hX (pc := 10) dJ2_get_10 rfl rfl ?_
  refine ol_cVr (As := [.int i]) hX (pc := 11) (wJ2_elementData V ws l d cap m n f h hd i hi) (lw_V q746 q747 q748 q107 q749) dcJ2_elementData ⟨rfl, rfl⟩ ⟨Nat.le_of_ble_eq_true rfl, Nat.le_of_ble_eq_true rfl⟩ q0 hq0 rfl (fun _ h => h) ⟨Nat.le_refl _, Nat.le_refl _⟩ (Nat.le_of_ble_eq_true rfl) dJ2_get_11 rfl ?_
  exact ol_aret hX (pc := 14) (Or.inl ⟨_, rfl⟩) (ol_rf_or _) dJ2_get_14 rfl ⟨Nat.le_refl _, Nat.le_refl _⟩
set_option maxHeartbeats 4000000 in
theorem wX6_many (V : ol_Gh) (g : Nat → Nat → Nat) (β : ol_Bd) (ws : va_W) (h : ol_hB V g β ws) : ol_Mt V yX6_many cX6_many 1 (some .int) ({ frames := 1, cells := 0, slots := 0, locals := 20 }) false [.ref (g 0 0)] ws (ol_Pr (some (.int (β.1 0 3)))) := by
  refine ol_MtOf (L0 := [some (.ref (g 0 0))]) (by decide) (Nat.le_of_ble_eq_true rfl) rfl (fun X A hX => ?_)
  obtain ⟨q0, hq0⟩ := List.getElem?_of_mem h.bl
  refine ol_aload_n hX (pc := 0) dX6_many_0 rfl rfl ?_
  refine ol_getM hX in_X6 (pc := 1) h.bus rfl 3 (by decide) q479 rfl rfl dX6_many_1 ?_
  refine ol_cVr (As := []) hX (pc := 4) (wJ2_size V ws _ _ _ _ h.bl) (lw_V q716 q717 q718 q107 q719) dcJ2_size ⟨rfl, rfl⟩ ⟨Nat.le_of_ble_eq_true rfl, Nat.le_of_ble_eq_true rfl⟩ q0 hq0 rfl (fun _ h => h) ⟨Nat.le_refl _, Nat.le_refl _⟩ (Nat.le_of_ble_eq_true rfl) dX6_many_4 rfl ?_
  exact ol_iret hX (pc := 7) dX6_many_7 rfl ⟨Nat.le_refl _, Nat.le_refl _⟩
set_option maxHeartbeats 4000000 in
theorem wX6_board (V : ol_Gh) (g : Nat → Nat → Nat) (β : ol_Bd) (ws : va_W) (h : ol_hB V g β ws) (i : Int32) (hi : ol_ib β i = true) : ol_Mt V yX6_board cX6_board 2 (some (.object "OpenLines$Board")) ({ frames := 3, cells := 0, slots := 0, locals := 64 }) false [.ref (g 0 0), .int i] ws (ol_Pr (some (.ref (g 1 i.toNatClampNeg)))) := by
  refine ol_MtOf (L0 := [some (.ref (g 0 0)), some (.int i)]) (by decide) (Nat.le_of_ble_eq_true rfl) rfl (fun X A hX => ?_)
  obtain ⟨q0, hq0⟩ := List.getElem?_of_mem h.bl
  obtain ⟨-, g1, g2, g3⟩ := ol_ib_of hi
  have hlt := ol_ib_lt hi
  have hc := wJ2_get V ws _ _ _ _ _ _ h.bl h.bd i g1 g2 g3
  rw [if_pos hlt] at hc
  refine ol_aload_n hX (pc := 0) dX6_board_0 rfl rfl ?_
  refine ol_getM hX in_X6 (pc := 1) h.bus rfl 3 (by decide) q479 rfl rfl dX6_board_1 ?_
  refine ol_iload_n hX (pc := 4) dX6_board_4 rfl rfl ?_
  refine ol_cVr (As := [.int i]) hX (pc := 5) hc (lw_V q738 q739 q740 q107 q741) dcJ2_get ⟨rfl, rfl⟩ ⟨Nat.le_of_ble_eq_true rfl, Nat.le_of_ble_eq_true rfl⟩ q0 hq0 rfl (fun _ h => h) ⟨Nat.le_refl _, Nat.le_refl _⟩ (Nat.le_of_ble_eq_true rfl) dX6_board_5 rfl ?_
  refine ol_castS hX (pc := 8) q750 (h.brd hlt) rfl dX6_board_8 ?_
  exact ol_aret hX (pc := 11) (Or.inl ⟨_, rfl⟩) (Or.inr ⟨_, rfl⟩) dX6_board_11 rfl ⟨Nat.le_refl _, Nat.le_refl _⟩
/-- how far two boards are apart -/
def ol_far (β : ol_Bd) (i j : Int32) : Int32 := if 0 ≤ β.1 2 i.toNatClampNeg - β.1 2 j.toNatClampNeg then β.1 2 i.toNatClampNeg - β.1 2 j.toNatClampNeg else 0 - (β.1 2 i.toNatClampNeg - β.1 2 j.toNatClampNeg)
set_option maxHeartbeats 4000000 in
theorem wX6_apart (V : ol_Gh) (g : Nat → Nat → Nat) (β : ol_Bd) (ws : va_W) (h : ol_hB V g β ws) (i j : Int32) (hi : ol_ib β i = true) (hj : ol_ib β j = true) : ol_Mt V yX6_apart cX6_apart 3 (some .int) ({ frames := 4, cells := 0, slots := 0, locals := 85 }) false [.ref (g 0 0), .int i, .int j] ws (ol_Pr (some (.int (ol_far β i j)))) := by
  refine ol_MtOf (L0 := [some (.ref (g 0 0)), some (.int i), some (.int j)]) (by decide) (Nat.le_of_ble_eq_true rfl) rfl (fun X A hX => ?_)
  obtain ⟨q0, hq0⟩ := List.getElem?_of_mem h.bus
  refine ol_aload_n hX (pc := 0) dX6_apart_0 rfl rfl ?_
  refine ol_iload_n hX (pc := 1) dX6_apart_1 rfl rfl ?_
  refine ol_cVr (As := [.int i]) hX (pc := 2) (wX6_board V g β ws h i hi) (lw_V q734 q735 q736 q110 q737) dcX6_board ⟨rfl, rfl⟩ ⟨Nat.le_of_ble_eq_true rfl, Nat.le_of_ble_eq_true rfl⟩ q0 hq0 rfl (fun _ h => h) ⟨Nat.le_refl _, Nat.le_refl _⟩ (Nat.le_of_ble_eq_true rfl) dX6_apart_2 rfl ?_
  refine ol_getNM hX in_X9 (pc := 5) (h.brd (ol_ib_lt hi)) rfl 3 (by decide) q1145 rfl rfl dX6_apart_5 ?_
  refine ol_aload_n hX (pc := 8) dX6_apart_8 rfl rfl ?_
  refine ol_iload_n hX (pc := 9) dX6_apart_9 rfl rfl ?_
  refine ol_cVr (As := [.int j]) hX (pc := 10) (wX6_board V g β ws h j hj) (lw_V q734 q735 q736 q110 q737) dcX6_board ⟨rfl, rfl⟩ ⟨Nat.le_of_ble_eq_true rfl, Nat.le_of_ble_eq_true rfl⟩ q0 hq0 rfl (fun _ h => h) ⟨Nat.le_refl _, Nat.le_refl _⟩ (Nat.le_of_ble_eq_true rfl) dX6_apart_10 rfl ?_
  refine ol_getNM hX in_X9 (pc := 13) (h.brd (ol_ib_lt hj)) rfl 3 (by decide) q1145 rfl rfl dX6_apart_13 ?_
  refine ol_isub hX (pc := 16) dX6_apart_16 ?_
  refine ol_abs hX (pc := 17) q1617 q1618 q126 q1619 (Nat.le_of_ble_eq_true rfl) (Nat.le_of_ble_eq_true rfl) ⟨Nat.le_refl _, Nat.le_refl _⟩ dX6_apart_17 ?_
  exact ol_iret hX (pc := 20) dX6_apart_20 rfl ⟨Nat.le_refl _, Nat.le_refl _⟩
