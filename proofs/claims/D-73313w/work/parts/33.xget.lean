/-! getters of small objects (printed by gen/xget.py) -/
set_option maxRecDepth 100000
theorem dcX10_time : yX10_time.cls = RX10 ∧ ol_dc yX10_time 0 := by decide +kernel
set_option maxHeartbeats 4000000 in
theorem wX10_time (V : ol_Gh) (ws : va_W) (q : Nat) (x0 x1 x2 : Int32) (h : (q, .inr (8, [.int x0, .int x1, .int x2])) ∈ ws) : ol_Mt V yX10_time cX10_time 1 (some .int) ({ frames := 0, cells := 0, slots := 0, locals := 0 } : Room) false [.ref q] ws (ol_Pr (some (.int x0))) := by
  refine ol_MtOf (L0 := [some (.ref q)]) (by decide) (Nat.le_of_ble_eq_true rfl) rfl (fun X A hX => ?_)
  refine ol_aload_n hX (pc := 0) dX10_time_0 rfl rfl ?_
  refine ol_getM hX in_X10 (pc := 1) h rfl 0 (by decide) q1413 rfl rfl dX10_time_1 ?_
  exact ol_iret hX (pc := 4) dX10_time_4 rfl ⟨Nat.le_refl _, Nat.le_refl _⟩
theorem dcX10_board : yX10_board.cls = RX10 ∧ ol_dc yX10_board 0 := by decide +kernel
set_option maxHeartbeats 4000000 in
theorem wX10_board (V : ol_Gh) (ws : va_W) (q : Nat) (x0 x1 x2 : Int32) (h : (q, .inr (8, [.int x0, .int x1, .int x2])) ∈ ws) : ol_Mt V yX10_board cX10_board 1 (some .int) ({ frames := 0, cells := 0, slots := 0, locals := 0 } : Room) false [.ref q] ws (ol_Pr (some (.int x1))) := by
  refine ol_MtOf (L0 := [some (.ref q)]) (by decide) (Nat.le_of_ble_eq_true rfl) rfl (fun X A hX => ?_)
  refine ol_aload_n hX (pc := 0) dX10_board_0 rfl rfl ?_
  refine ol_getM hX in_X10 (pc := 1) h rfl 1 (by decide) q1414 rfl rfl dX10_board_1 ?_
  exact ol_iret hX (pc := 4) dX10_board_4 rfl ⟨Nat.le_refl _, Nat.le_refl _⟩
theorem dcX10_ticks : yX10_ticks.cls = RX10 ∧ ol_dc yX10_ticks 0 := by decide +kernel
set_option maxHeartbeats 4000000 in
theorem wX10_ticks (V : ol_Gh) (ws : va_W) (q : Nat) (x0 x1 x2 : Int32) (h : (q, .inr (8, [.int x0, .int x1, .int x2])) ∈ ws) : ol_Mt V yX10_ticks cX10_ticks 1 (some .int) ({ frames := 0, cells := 0, slots := 0, locals := 0 } : Room) false [.ref q] ws (ol_Pr (some (.int x2))) := by
  refine ol_MtOf (L0 := [some (.ref q)]) (by decide) (Nat.le_of_ble_eq_true rfl) rfl (fun X A hX => ?_)
  refine ol_aload_n hX (pc := 0) dX10_ticks_0 rfl rfl ?_
  refine ol_getM hX in_X10 (pc := 1) h rfl 2 (by decide) q1415 rfl rfl dX10_ticks_1 ?_
  exact ol_iret hX (pc := 4) dX10_ticks_4 rfl ⟨Nat.le_refl _, Nat.le_refl _⟩
theorem dcX14_time : yX14_time.cls = RX14 ∧ ol_dc yX14_time 0 := by decide +kernel
set_option maxHeartbeats 4000000 in
theorem wX14_time (V : ol_Gh) (ws : va_W) (q : Nat) (x0 x1 x2 x3 x4 x5 : Int32) (h : (q, .inr (12, [.int x0, .int x1, .int x2, .int x3, .int x4, .int x5])) ∈ ws) : ol_Mt V yX14_time cX14_time 1 (some .int) ({ frames := 0, cells := 0, slots := 0, locals := 0 } : Room) false [.ref q] ws (ol_Pr (some (.int x0))) := by
  refine ol_MtOf (L0 := [some (.ref q)]) (by decide) (Nat.le_of_ble_eq_true rfl) rfl (fun X A hX => ?_)
  refine ol_aload_n hX (pc := 0) dX14_time_0 rfl rfl ?_
  refine ol_getM hX in_X14 (pc := 1) h rfl 0 (by decide) q1897 rfl rfl dX14_time_1 ?_
  exact ol_iret hX (pc := 4) dX14_time_4 rfl ⟨Nat.le_refl _, Nat.le_refl _⟩
theorem dcX14_set : yX14_set.cls = RX14 ∧ ol_dc yX14_set 0 := by decide +kernel
set_option maxHeartbeats 4000000 in
theorem wX14_set (V : ol_Gh) (ws : va_W) (q : Nat) (x0 x1 x2 x3 x4 x5 : Int32) (h : (q, .inr (12, [.int x0, .int x1, .int x2, .int x3, .int x4, .int x5])) ∈ ws) : ol_Mt V yX14_set cX14_set 1 (some .int) ({ frames := 0, cells := 0, slots := 0, locals := 0 } : Room) false [.ref q] ws (ol_Pr (some (.int x1))) := by
  refine ol_MtOf (L0 := [some (.ref q)]) (by decide) (Nat.le_of_ble_eq_true rfl) rfl (fun X A hX => ?_)
  refine ol_aload_n hX (pc := 0) dX14_set_0 rfl rfl ?_
  refine ol_getM hX in_X14 (pc := 1) h rfl 1 (by decide) q1898 rfl rfl dX14_set_1 ?_
  exact ol_iret hX (pc := 4) dX14_set_4 rfl ⟨Nat.le_refl _, Nat.le_refl _⟩
theorem dcX14_first : yX14_first.cls = RX14 ∧ ol_dc yX14_first 0 := by decide +kernel
set_option maxHeartbeats 4000000 in
theorem wX14_first (V : ol_Gh) (ws : va_W) (q : Nat) (x0 x1 x2 x3 x4 x5 : Int32) (h : (q, .inr (12, [.int x0, .int x1, .int x2, .int x3, .int x4, .int x5])) ∈ ws) : ol_Mt V yX14_first cX14_first 1 (some .int) ({ frames := 0, cells := 0, slots := 0, locals := 0 } : Room) false [.ref q] ws (ol_Pr (some (.int x2))) := by
  refine ol_MtOf (L0 := [some (.ref q)]) (by decide) (Nat.le_of_ble_eq_true rfl) rfl (fun X A hX => ?_)
  refine ol_aload_n hX (pc := 0) dX14_first_0 rfl rfl ?_
  refine ol_getM hX in_X14 (pc := 1) h rfl 2 (by decide) q1899 rfl rfl dX14_first_1 ?_
  exact ol_iret hX (pc := 4) dX14_first_4 rfl ⟨Nat.le_refl _, Nat.le_refl _⟩
theorem dcX14_second : yX14_second.cls = RX14 ∧ ol_dc yX14_second 0 := by decide +kernel
set_option maxHeartbeats 4000000 in
theorem wX14_second (V : ol_Gh) (ws : va_W) (q : Nat) (x0 x1 x2 x3 x4 x5 : Int32) (h : (q, .inr (12, [.int x0, .int x1, .int x2, .int x3, .int x4, .int x5])) ∈ ws) : ol_Mt V yX14_second cX14_second 1 (some .int) ({ frames := 0, cells := 0, slots := 0, locals := 0 } : Room) false [.ref q] ws (ol_Pr (some (.int x3))) := by
  refine ol_MtOf (L0 := [some (.ref q)]) (by decide) (Nat.le_of_ble_eq_true rfl) rfl (fun X A hX => ?_)
  refine ol_aload_n hX (pc := 0) dX14_second_0 rfl rfl ?_
  refine ol_getM hX in_X14 (pc := 1) h rfl 3 (by decide) q1900 rfl rfl dX14_second_1 ?_
  exact ol_iret hX (pc := 4) dX14_second_4 rfl ⟨Nat.le_refl _, Nat.le_refl _⟩
theorem dcX14_elect : yX14_elect.cls = RX14 ∧ ol_dc yX14_elect 0 := by decide +kernel
set_option maxHeartbeats 4000000 in
theorem wX14_elect (V : ol_Gh) (ws : va_W) (q : Nat) (x0 x1 x2 x3 x4 x5 : Int32) (h : (q, .inr (12, [.int x0, .int x1, .int x2, .int x3, .int x4, .int x5])) ∈ ws) : ol_Mt V yX14_elect cX14_elect 1 (some .int) ({ frames := 0, cells := 0, slots := 0, locals := 0 } : Room) false [.ref q] ws (ol_Pr (some (.int x4))) := by
  refine ol_MtOf (L0 := [some (.ref q)]) (by decide) (Nat.le_of_ble_eq_true rfl) rfl (fun X A hX => ?_)
  refine ol_aload_n hX (pc := 0) dX14_elect_0 rfl rfl ?_
  refine ol_getM hX in_X14 (pc := 1) h rfl 4 (by decide) q1901 rfl rfl dX14_elect_1 ?_
  exact ol_iret hX (pc := 4) dX14_elect_4 rfl ⟨Nat.le_refl _, Nat.le_refl _⟩
theorem dcX14_faulty : yX14_faulty.cls = RX14 ∧ ol_dc yX14_faulty 0 := by decide +kernel
set_option maxHeartbeats 4000000 in
theorem wX14_faulty (V : ol_Gh) (ws : va_W) (q : Nat) (x0 x1 x2 x3 x4 x5 : Int32) (h : (q, .inr (12, [.int x0, .int x1, .int x2, .int x3, .int x4, .int x5])) ∈ ws) : ol_Mt V yX14_faulty cX14_faulty 1 (some .int) ({ frames := 0, cells := 0, slots := 0, locals := 0 } : Room) false [.ref q] ws (ol_Pr (some (.int x5))) := by
  refine ol_MtOf (L0 := [some (.ref q)]) (by decide) (Nat.le_of_ble_eq_true rfl) rfl (fun X A hX => ?_)
  refine ol_aload_n hX (pc := 0) dX14_faulty_0 rfl rfl ?_
  refine ol_getM hX in_X14 (pc := 1) h rfl 5 (by decide) q1902 rfl rfl dX14_faulty_1 ?_
  exact ol_iret hX (pc := 4) dX14_faulty_4 rfl ⟨Nat.le_refl _, Nat.le_refl _⟩
theorem ol_dc_own : ol_dc yX8_own 0 := by decide +kernel
set_option maxHeartbeats 4000000 in
theorem wX8_own (V : ol_Gh) (ws : va_W) (q : Nat) (x0 x2 x3 x4 : Int32) (x1 : Int64) (h : (q, .inr (7, [.int x0, .long x1, .int x2, .int x3, .int x4])) ∈ ws) : ol_Mt V yX8_own cX8_own 1 (some .int) ({ frames := 0, cells := 0, slots := 0, locals := 0 } : Room) false [.ref q] ws (ol_Pr (some (.int x0))) := by
  refine ol_MtOf (L0 := [some (.ref q)]) (by decide) (Nat.le_of_ble_eq_true rfl) rfl (fun X A hX => ?_)
  refine ol_aload_n hX (pc := 0) dX8_own_0 rfl rfl ?_
  refine ol_getM hX in_X9 (pc := 1) h rfl 0 (by decide) q1150 rfl rfl dX8_own_1 ?_
  exact ol_iret hX (pc := 4) dX8_own_4 rfl ⟨Nat.le_refl _, Nat.le_refl _⟩
section OLU
variable {X : ol_Cx} {V : ol_Gh} {A : Nat → Prop} {cc : ByteArray} {own nm : String} {nL : Nat} {ret : Option FieldType} {md : Bool} {P : Option Value → va_W → Prop} {rm : Room} {cells slots : Nat} {ws : va_W} {pc : Nat} {L : List (Option Value)} {st stk : List Value}
variable {x y : MethodName} {bytes : ByteArray} {mL : Nat} {rt : Option FieldType} {r' : Room} {b : Nat} {As : List Value} {w0 : va_W} {v0 : Option Value} {C owner : String} {index ci : Nat} {fs : List Value} {T : u_T} {N : Nat}
/-- a reader that the receiver's class inherits -/
theorem ol_cUr (hX : ol_CX X V A cc own nm nL ret) (hM : ol_Mt V y bytes mL rt r' false (.ref b :: As) w0 (ol_Pr v0)) (hw : GoodIn lw_all (va_wsU own index C owner x y (ws_ y bytes mL rt))) (hyx : y = ⟨owner, x.name, x.desc⟩) (hd1 : owner ≠ "java/lang/invoke/MethodHandle" ∧ owner ≠ "java/lang/invoke/VarHandle" ∧ (parseMethodDescriptor x.desc).map (fun d => d.parameters.length) = some As.length) (h0 : r'.cells = 0 ∧ r'.slots = 0) (hrm : ol_rr r' rm mL) (hrv : (b, .inr (ci, fs)) ∈ ws) (hci : ol_cl[ci]? = some (C, T, N)) (hsub : ∀ H, va_P V.2.2.2.1 ol_cl ws H → va_P V.2.2.2.1 ol_cl w0 H) (hcs : cells ≤ rm.cells ∧ slots ≤ rm.slots) (hst : (st.map fun v => v.category).sum ≤ 8) (hd : decode cc pc = .ok (.invokevirtual index, 3)) (hstk : stk = As.reverse ++ .ref b :: st) (k : ol_G X V A md P rm nL cells slots ws (pc + 3) L (v0.toList ++ st)) : ol_G X V A md P rm nL cells slots ws pc L stk := fun H locs ls hH hL => by
  subst hstk
  obtain ⟨q0, hrv⟩ := List.getElem?_of_mem hrv
  refine ol_Wr (va_runU (As := As) (rest := st) ⟨hX.x, hX.b, hX.ml, hX.ow, hX.ts⟩ (hM H.size) (va_cwU (rm := r') As.length hX.ts hw rfl rfl rfl hyx hd1 hrm) ⟨ol_PC_blind, va_recv hX.K hH.1 hci hrv, fun U hU hW => ⟨rfl, ol_PCat hX hH (hsub H hH.1) (fun h => by cases h) U hU hW⟩⟩ rfl rfl hL.1 rfl (lv_room hst) hd ⟨by rw [h0.1]; exact hcs.1, by rw [h0.2]; exact hcs.2⟩) h0.1 h0.2 (k H locs ls hH hL)
theorem lw_U {own : String} {idx : Nat} {C owner : String} {x y : MethodName} {b : ByteArray} {L : Nat} {r : Option FieldType} (h1 : Cond.methodLink own idx x ∈ lw_all) (h2 : Cond.sameMethod x.cls owner x.name x.desc ∈ lw_all) (h3 : Cond.selects C x y ∈ lw_all) (h4 : Cond.instanceMethod y ∈ lw_all) (h5 : Cond.initialized y.cls ∈ lw_all) (h6 : Cond.code y b L r ∈ lw_all) : GoodIn lw_all (va_wsU own idx C owner x y (ws_ y b L r)) := by
  refine lw_app ?_ (lw_meth h6)
  intro w hw
  simp only [List.mem_cons, List.not_mem_nil, or_false] at hw
  rcases hw with e | e | e | e | e
  · rw [e]; exact h1
  · rw [e]; exact h2
  · rw [e]; exact h3
  · rw [e]; exact h4
  · rw [e]; exact h5
end OLU
