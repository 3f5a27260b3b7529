/-! constructors of small objects (printed by gen/xctor.py): the new object is the world's last cell -/
set_option maxRecDepth 100000
section OLL
variable {X : ol_Cx} {V : ol_Gh} {A : Nat → Prop} {cc : ByteArray} {own nm : String} {nL : Nat} {ret : Option FieldType} {P : Option Value → va_W → Prop} {rm : Room} {cells slots : Nat} {wr : va_W} {pc : Nat} {L : List (Option Value)} {st stk : List Value}
theorem ol_lastc {wr : va_W} {t : Nat × va_E} : (wr ++ [t])[wr.length]? = some t := by simp
theorem ol_lset {wr : va_W} {t t' : Nat × va_E} : (wr ++ [t]).set wr.length t' = wr ++ [t'] := by simp
theorem ol_putFL (hX : ol_CX X V A cc own nm nL ret) {ref C : String} {T : u_T} {N ci index a : Nat} (hin : ∀ w ∈ u_ws C T N, w ∈ lw_all) (ty0 : Nat → FieldType) (hty : ∀ k, k < N → parseFieldDescriptor (T k).2.2.1 = some (ty0 k)) (hnm : ∀ a, a < N → ∀ b, b < N → a ≠ b → (T a).2.1 ≠ (T b).2.1) {fs : List Value} (hc : ol_cl[ci]? = some (C, T, N)) (j : Nat) (hj : j < N) (hlink : Cond.fieldLink own index ref (T j).2.1 (T j).2.2.1 ∈ lw_all) (hsame : (T j).1 = ref) (hfin : (T j).2.2.2 = true) (hi : nm = "<init>") (hdecl : (T j).1 = own) {v : Value} (hn : narrow (ty0 j) v = v) (hfit : fits (ty0 j) v = true) (hl : j < fs.length) (hd : decode cc pc = .ok (.putfield index, 3)) {fs' : List Value} (hfs : fs.set j v = fs') (k : ol_G X V A true P rm nL cells slots (wr ++ [(a, .inr (ci, fs'))]) (pc + 3) L st) : ol_G X V A true P rm nL cells slots (wr ++ [(a, .inr (ci, fs))]) pc L (v :: .ref a :: st) :=
  ol_putF hX hin ty0 hty hnm wr.length ol_lastc hc j hj hlink hsame hfin hi hdecl hn hfit hl hd (by rw [hfs]; exact ol_lset) k
theorem ol_putL (hX : ol_CX X V A cc own nm nL ret) {ref C : String} {T : u_T} {N ci index a : Nat} (hin : ∀ w ∈ u_ws C T N, w ∈ lw_all) (ty0 : Nat → FieldType) (hty : ∀ k, k < N → parseFieldDescriptor (T k).2.2.1 = some (ty0 k)) (hnm : ∀ a, a < N → ∀ b, b < N → a ≠ b → (T a).2.1 ≠ (T b).2.1) {fs : List Value} (hc : ol_cl[ci]? = some (C, T, N)) (j : Nat) (hj : j < N) (hlink : Cond.fieldLink own index ref (T j).2.1 (T j).2.2.1 ∈ lw_all) (hsame : (T j).1 = ref) (hfin : (T j).2.2.2 = false) {v : Value} (hn : narrow (ty0 j) v = v) (hfit : fits (ty0 j) v = true) (hl : j < fs.length) (hd : decode cc pc = .ok (.putfield index, 3)) {fs' : List Value} (hfs : fs.set j v = fs') (k : ol_G X V A true P rm nL cells slots (wr ++ [(a, .inr (ci, fs'))]) (pc + 3) L st) : ol_G X V A true P rm nL cells slots (wr ++ [(a, .inr (ci, fs))]) pc L (v :: .ref a :: st) :=
  ol_put hX hin ty0 hty hnm wr.length ol_lastc hc j hj hlink hsame hfin hn hfit hl hd (by rw [hfs]; exact ol_lset) k
end OLL
theorem dcJ23_init : ol_dc yJ23_init 0 := by decide +kernel
set_option maxHeartbeats 4000000 in
theorem wJ23_init (V : ol_Gh) (ws : va_W) (q : Nat) : ol_Mt V yJ23_init cJ23_init 1 none ({ frames := 1, cells := 0, slots := 0, locals := 12 } : Room) true [.ref q] ws (ol_Pw none ws) := by
  refine ol_MtOf (L0 := [some (.ref q)]) (by decide) (Nat.le_of_ble_eq_true rfl) rfl (fun X A hX => ?_)
  refine ol_aload_n hX (pc := 0) dJ23_init_0 rfl rfl ?_
  refine ol_objInit hX (pc := 1) q1412 q154 q155 dJ23_init_1 (Nat.le_of_ble_eq_true rfl) (Nat.le_of_ble_eq_true rfl) ?_
  exact ol_vret hX (pc := 4) dJ23_init_4 ⟨rfl, rfl⟩ ⟨Nat.le_refl _, Nat.le_refl _⟩
theorem dcX11_init : ol_dc yX11_init 2 := by decide +kernel
set_option maxHeartbeats 4000000 in
theorem wX11_init (V : ol_Gh) (wr : va_W) (q : Nat) (b : Nat) (x1 : Int32) : ol_Mt V yX11_init cX11_init 3 none ({ frames := 1, cells := 0, slots := 0, locals := 12 } : Room) true [.ref q, .ref b, .int x1] (wr ++ [(q, .inr (9, [.int 0, .null]))]) (ol_Pw none (wr ++ [(q, .inr (9, [.int x1, .ref b]))])) := by
  refine ol_MtOf (L0 := [some (.ref q), some (.ref b), some (.int x1)]) (by decide) (Nat.le_of_ble_eq_true rfl) rfl (fun X A hX => ?_)
  refine ol_aload_n hX (pc := 0) dX11_init_0 rfl rfl ?_
  refine ol_aload_n hX (pc := 1) dX11_init_1 rfl rfl ?_
  refine ol_putFL (pc := 2) (fs' := [.int 0, .ref b]) hX in_X11 tyX11 tyX11_ok nmX11 rfl 1 (by decide) q1526 rfl rfl rfl rfl rfl rfl (Nat.le_of_ble_eq_true rfl) dX11_init_2 rfl ?_
  refine ol_aload_n hX (pc := 5) dX11_init_5 rfl rfl ?_
  refine ol_iload_n hX (pc := 6) dX11_init_6 rfl rfl ?_
  refine ol_putFL (pc := 7) (fs' := [.int x1, .ref b]) hX in_X11 tyX11 tyX11_ok nmX11 rfl 0 (by decide) q1525 rfl rfl rfl rfl rfl rfl (Nat.le_of_ble_eq_true rfl) dX11_init_7 rfl ?_
  refine ol_aload_n hX (pc := 10) dX11_init_10 rfl rfl ?_
  refine ol_objInit hX (pc := 11) q1524 q154 q155 dX11_init_11 (Nat.le_of_ble_eq_true rfl) (Nat.le_of_ble_eq_true rfl) ?_
  exact ol_vret hX (pc := 14) dX11_init_14 ⟨rfl, rfl⟩ ⟨Nat.le_of_ble_eq_true rfl, Nat.le_of_ble_eq_true rfl⟩
theorem dcX12_init : ol_dc yX12_init 1 := by decide +kernel
set_option maxHeartbeats 4000000 in
theorem wX12_init (V : ol_Gh) (wr : va_W) (q : Nat) (b : Nat) : ol_Mt V yX12_init cX12_init 2 none ({ frames := 1, cells := 0, slots := 0, locals := 12 } : Room) true [.ref q, .ref b] (wr ++ [(q, .inr (10, [.null]))]) (ol_Pw none (wr ++ [(q, .inr (10, [.ref b]))])) := by
  refine ol_MtOf (L0 := [some (.ref q), some (.ref b)]) (by decide) (Nat.le_of_ble_eq_true rfl) rfl (fun X A hX => ?_)
  refine ol_aload_n hX (pc := 0) dX12_init_0 rfl rfl ?_
  refine ol_aload_n hX (pc := 1) dX12_init_1 rfl rfl ?_
  refine ol_putFL (pc := 2) (fs' := [.ref b]) hX in_X12 tyX12 tyX12_ok nmX12 rfl 0 (by decide) q1733 rfl rfl rfl rfl rfl rfl (Nat.le_of_ble_eq_true rfl) dX12_init_2 rfl ?_
  refine ol_aload_n hX (pc := 5) dX12_init_5 rfl rfl ?_
  refine ol_objInit hX (pc := 6) q1732 q154 q155 dX12_init_6 (Nat.le_of_ble_eq_true rfl) (Nat.le_of_ble_eq_true rfl) ?_
  exact ol_vret hX (pc := 9) dX12_init_9 ⟨rfl, rfl⟩ ⟨Nat.le_of_ble_eq_true rfl, Nat.le_of_ble_eq_true rfl⟩
theorem dcX13_init : ol_dc yX13_init 1 := by decide +kernel
set_option maxHeartbeats 4000000 in
theorem wX13_init (V : ol_Gh) (wr : va_W) (q : Nat) (b : Nat) : ol_Mt V yX13_init cX13_init 2 none ({ frames := 1, cells := 0, slots := 0, locals := 12 } : Room) true [.ref q, .ref b] (wr ++ [(q, .inr (11, [.null]))]) (ol_Pw none (wr ++ [(q, .inr (11, [.ref b]))])) := by
  refine ol_MtOf (L0 := [some (.ref q), some (.ref b)]) (by decide) (Nat.le_of_ble_eq_true rfl) rfl (fun X A hX => ?_)
  refine ol_aload_n hX (pc := 0) dX13_init_0 rfl rfl ?_
  refine ol_aload_n hX (pc := 1) dX13_init_1 rfl rfl ?_
  refine ol_putFL (pc := 2) (fs' := [.ref b]) hX in_X13 tyX13 tyX13_ok nmX13 rfl 0 (by decide) q1874 rfl rfl rfl rfl rfl rfl (Nat.le_of_ble_eq_true rfl) dX13_init_2 rfl ?_
  refine ol_aload_n hX (pc := 5) dX13_init_5 rfl rfl ?_
  refine ol_objInit hX (pc := 6) q1873 q154 q155 dX13_init_6 (Nat.le_of_ble_eq_true rfl) (Nat.le_of_ble_eq_true rfl) ?_
  exact ol_vret hX (pc := 9) dX13_init_9 ⟨rfl, rfl⟩ ⟨Nat.le_of_ble_eq_true rfl, Nat.le_of_ble_eq_true rfl⟩
theorem dcX14_init : ol_dc yX14_init 6 := by decide +kernel
set_option maxHeartbeats 4000000 in
theorem wX14_init (V : ol_Gh) (wr : va_W) (q : Nat) (x1 : Int32) (x2 : Int32) (x3 : Int32) (x4 : Int32) (x5 : Int32) (x6 : Int32) : ol_Mt V yX14_init cX14_init 7 none ({ frames := 2, cells := 0, slots := 0, locals := 32 } : Room) true [.ref q, .int x1, .int x2, .int x3, .int x4, .int x5, .int x6] (wr ++ [(q, .inr (12, [.int 0, .int 0, .int 0, .int 0, .int 0, .int 0]))]) (ol_Pw none (wr ++ [(q, .inr (12, [.int x1, .int x2, .int x3, .int x4, .int x5, .int x6]))])) := by
  refine ol_MtOf (L0 := [some (.ref q), some (.int x1), some (.int x2), some (.int x3), some (.int x4), some (.int x5), some (.int x6)]) (by decide) (Nat.le_of_ble_eq_true rfl) rfl (fun X A hX => ?_)
  refine ol_aload_n hX (pc := 0) dX14_init_0 rfl rfl ?_
  refine ol_cIf (As := []) (wr := []) hX (pc := 1) (wJ23_init V _ q) q1896 q1410 q137 q1411 rfl dcJ23_init ⟨Nat.le_of_ble_eq_true rfl, Nat.le_of_ble_eq_true rfl⟩ ⟨Nat.le_of_ble_eq_true rfl, Nat.le_of_ble_eq_true rfl⟩ (Nat.le_of_ble_eq_true rfl) dX14_init_1 rfl (fun v w hp => ?_)
  obtain ⟨rfl, rfl⟩ := hp
  refine ol_aload_n hX (pc := 4) dX14_init_4 rfl rfl ?_
  refine ol_iload_n hX (pc := 5) dX14_init_5 rfl rfl ?_
  refine ol_putFL (pc := 6) (fs' := [.int x1, .int 0, .int 0, .int 0, .int 0, .int 0]) hX in_X14 tyX14 tyX14_ok nmX14 rfl 0 (by decide) q1897 rfl rfl rfl rfl rfl rfl (Nat.le_of_ble_eq_true rfl) dX14_init_6 rfl ?_
  refine ol_aload_n hX (pc := 9) dX14_init_9 rfl rfl ?_
  refine ol_iload_n hX (pc := 10) dX14_init_10 rfl rfl ?_
  refine ol_putFL (pc := 11) (fs' := [.int x1, .int x2, .int 0, .int 0, .int 0, .int 0]) hX in_X14 tyX14 tyX14_ok nmX14 rfl 1 (by decide) q1898 rfl rfl rfl rfl rfl rfl (Nat.le_of_ble_eq_true rfl) dX14_init_11 rfl ?_
  refine ol_aload_n hX (pc := 14) dX14_init_14 rfl rfl ?_
  refine ol_iload_n hX (pc := 15) dX14_init_15 rfl rfl ?_
  refine ol_putFL (pc := 16) (fs' := [.int x1, .int x2, .int x3, .int 0, .int 0, .int 0]) hX in_X14 tyX14 tyX14_ok nmX14 rfl 2 (by decide) q1899 rfl rfl rfl rfl rfl rfl (Nat.le_of_ble_eq_true rfl) dX14_init_16 rfl ?_
  refine ol_aload_n hX (pc := 19) dX14_init_19 rfl rfl ?_
  refine ol_iload hX (pc := 20) dX14_init_20 rfl ?_
  refine ol_putFL (pc := 22) (fs' := [.int x1, .int x2, .int x3, .int x4, .int 0, .int 0]) hX in_X14 tyX14 tyX14_ok nmX14 rfl 3 (by decide) q1900 rfl rfl rfl rfl rfl rfl (Nat.le_of_ble_eq_true rfl) dX14_init_22 rfl ?_
  refine ol_aload_n hX (pc := 25) dX14_init_25 rfl rfl ?_
  refine ol_iload hX (pc := 26) dX14_init_26 rfl ?_
  refine ol_putFL (pc := 28) (fs' := [.int x1, .int x2, .int x3, .int x4, .int x5, .int 0]) hX in_X14 tyX14 tyX14_ok nmX14 rfl 4 (by decide) q1901 rfl rfl rfl rfl rfl rfl (Nat.le_of_ble_eq_true rfl) dX14_init_28 rfl ?_
  refine ol_aload_n hX (pc := 31) dX14_init_31 rfl rfl ?_
  refine ol_iload hX (pc := 32) dX14_init_32 rfl ?_
  refine ol_putFL (pc := 34) (fs' := [.int x1, .int x2, .int x3, .int x4, .int x5, .int x6]) hX in_X14 tyX14 tyX14_ok nmX14 rfl 5 (by decide) q1902 rfl rfl rfl rfl rfl rfl (Nat.le_of_ble_eq_true rfl) dX14_init_34 rfl ?_
  exact ol_vret hX (pc := 37) dX14_init_37 ⟨rfl, rfl⟩ ⟨Nat.le_of_ble_eq_true rfl, Nat.le_of_ble_eq_true rfl⟩
theorem dcX10_init : ol_dc yX10_init 3 := by decide +kernel
set_option maxHeartbeats 4000000 in
theorem wX10_init (V : ol_Gh) (wr : va_W) (q : Nat) (x1 : Int32) (x2 : Int32) (x3 : Int32) : ol_Mt V yX10_init cX10_init 4 none ({ frames := 2, cells := 0, slots := 0, locals := 32 } : Room) true [.ref q, .int x1, .int x2, .int x3] (wr ++ [(q, .inr (8, [.int 0, .int 0, .int 0]))]) (ol_Pw none (wr ++ [(q, .inr (8, [.int x1, .int x2, .int x3]))])) := by
  refine ol_MtOf (L0 := [some (.ref q), some (.int x1), some (.int x2), some (.int x3)]) (by decide) (Nat.le_of_ble_eq_true rfl) rfl (fun X A hX => ?_)
  refine ol_aload_n hX (pc := 0) dX10_init_0 rfl rfl ?_
  refine ol_cIf (As := []) (wr := []) hX (pc := 1) (wJ23_init V _ q) q1409 q1410 q137 q1411 rfl dcJ23_init ⟨Nat.le_of_ble_eq_true rfl, Nat.le_of_ble_eq_true rfl⟩ ⟨Nat.le_of_ble_eq_true rfl, Nat.le_of_ble_eq_true rfl⟩ (Nat.le_of_ble_eq_true rfl) dX10_init_1 rfl (fun v w hp => ?_)
  obtain ⟨rfl, rfl⟩ := hp
  refine ol_aload_n hX (pc := 4) dX10_init_4 rfl rfl ?_
  refine ol_iload_n hX (pc := 5) dX10_init_5 rfl rfl ?_
  refine ol_putFL (pc := 6) (fs' := [.int x1, .int 0, .int 0]) hX in_X10 tyX10 tyX10_ok nmX10 rfl 0 (by decide) q1413 rfl rfl rfl rfl rfl rfl (Nat.le_of_ble_eq_true rfl) dX10_init_6 rfl ?_
  refine ol_aload_n hX (pc := 9) dX10_init_9 rfl rfl ?_
  refine ol_iload_n hX (pc := 10) dX10_init_10 rfl rfl ?_
  refine ol_putFL (pc := 11) (fs' := [.int x1, .int x2, .int 0]) hX in_X10 tyX10 tyX10_ok nmX10 rfl 1 (by decide) q1414 rfl rfl rfl rfl rfl rfl (Nat.le_of_ble_eq_true rfl) dX10_init_11 rfl ?_
  refine ol_aload_n hX (pc := 14) dX10_init_14 rfl rfl ?_
  refine ol_iload_n hX (pc := 15) dX10_init_15 rfl rfl ?_
  refine ol_putFL (pc := 16) (fs' := [.int x1, .int x2, .int x3]) hX in_X10 tyX10 tyX10_ok nmX10 rfl 2 (by decide) q1415 rfl rfl rfl rfl rfl rfl (Nat.le_of_ble_eq_true rfl) dX10_init_16 rfl ?_
  exact ol_vret hX (pc := 19) dX10_init_19 ⟨rfl, rfl⟩ ⟨Nat.le_of_ble_eq_true rfl, Nat.le_of_ble_eq_true rfl⟩
theorem dcX15_init : ol_dc yX15_init 2 := by decide +kernel
set_option maxHeartbeats 4000000 in
theorem wX15_init (V : ol_Gh) (wr : va_W) (q : Nat) (b : Nat) (x1 : Int32) : ol_Mt V yX15_init cX15_init 3 none ({ frames := 1, cells := 0, slots := 0, locals := 12 } : Room) true [.ref q, .ref b, .int x1] (wr ++ [(q, .inr (13, [.int 0, .null]))]) (ol_Pw none (wr ++ [(q, .inr (13, [.int x1, .ref b]))])) := by
  refine ol_MtOf (L0 := [some (.ref q), some (.ref b), some (.int x1)]) (by decide) (Nat.le_of_ble_eq_true rfl) rfl (fun X A hX => ?_)
  refine ol_aload_n hX (pc := 0) dX15_init_0 rfl rfl ?_
  refine ol_aload_n hX (pc := 1) dX15_init_1 rfl rfl ?_
  refine ol_putFL (pc := 2) (fs' := [.int 0, .ref b]) hX in_X15 tyX15 tyX15_ok nmX15 rfl 1 (by decide) q1942 rfl rfl rfl rfl rfl rfl (Nat.le_of_ble_eq_true rfl) dX15_init_2 rfl ?_
  refine ol_aload_n hX (pc := 5) dX15_init_5 rfl rfl ?_
  refine ol_iload_n hX (pc := 6) dX15_init_6 rfl rfl ?_
  refine ol_putFL (pc := 7) (fs' := [.int x1, .ref b]) hX in_X15 tyX15 tyX15_ok nmX15 rfl 0 (by decide) q1940 rfl rfl rfl rfl rfl rfl (Nat.le_of_ble_eq_true rfl) dX15_init_7 rfl ?_
  refine ol_aload_n hX (pc := 10) dX15_init_10 rfl rfl ?_
  refine ol_objInit hX (pc := 11) q1939 q154 q155 dX15_init_11 (Nat.le_of_ble_eq_true rfl) (Nat.le_of_ble_eq_true rfl) ?_
  exact ol_vret hX (pc := 14) dX15_init_14 ⟨rfl, rfl⟩ ⟨Nat.le_of_ble_eq_true rfl, Nat.le_of_ble_eq_true rfl⟩
theorem dcX16_init : ol_dc yX16_init 1 := by decide +kernel
set_option maxHeartbeats 4000000 in
theorem wX16_init (V : ol_Gh) (wr : va_W) (q : Nat) (b : Nat) (x1 : Int32) (b2 : Nat) (hb : (b, .inr (13, [.int x1, .ref b2])) ∈ wr) : ol_Mt V yX16_init cX16_init 2 none ({ frames := 1, cells := 0, slots := 0, locals := 12 } : Room) true [.ref q, .ref b] (wr ++ [(q, .inr (14, [.int 0, .null]))]) (ol_Pw none (wr ++ [(q, .inr (14, [.int x1, .ref b]))])) := by
  refine ol_MtOf (L0 := [some (.ref q), some (.ref b)]) (by decide) (Nat.le_of_ble_eq_true rfl) rfl (fun X A hX => ?_)
  refine ol_aload_n hX (pc := 0) dX16_init_0 rfl rfl ?_
  refine ol_aload_n hX (pc := 1) dX16_init_1 rfl rfl ?_
  refine ol_putFL (pc := 2) (fs' := [.int 0, .ref b]) hX in_X16 tyX16 tyX16_ok nmX16 rfl 1 (by decide) q1966 rfl rfl rfl rfl rfl rfl (Nat.le_of_ble_eq_true rfl) dX16_init_2 rfl ?_
  refine ol_aload_n hX (pc := 5) dX16_init_5 rfl rfl ?_
  refine ol_objInit hX (pc := 6) q1964 q154 q155 dX16_init_6 (Nat.le_of_ble_eq_true rfl) (Nat.le_of_ble_eq_true rfl) ?_
  refine ol_aload_n hX (pc := 9) dX16_init_9 rfl rfl ?_
  refine ol_aload_n hX (pc := 10) dX16_init_10 rfl rfl ?_
  refine ol_getM hX in_X16 (pc := 11) (List.mem_append_right _ List.mem_cons_self) rfl 1 (by decide) q1966 rfl rfl dX16_init_11 ?_
  refine ol_getM hX in_X15 (pc := 14) (List.mem_append_left _ hb) rfl 0 (by decide) q1941 rfl rfl dX16_init_14 ?_
  refine ol_putL (pc := 17) (fs' := [.int x1, .ref b]) hX in_X16 tyX16 tyX16_ok nmX16 rfl 0 (by decide) q1965 rfl rfl rfl rfl (Nat.le_of_ble_eq_true rfl) dX16_init_17 rfl ?_
  exact ol_vret hX (pc := 20) dX16_init_20 ⟨rfl, rfl⟩ ⟨Nat.le_of_ble_eq_true rfl, Nat.le_of_ble_eq_true rfl⟩
theorem dcX8_init : ol_dc yX8_init 1 := by decide +kernel
set_option maxHeartbeats 4000000 in
theorem wX8_init (V : ol_Gh) (wr : va_W) (q : Nat) (x1 : Int32) (fs : List Value) (hl : fs.length = 5) : ol_Mt V yX8_init cX8_init 2 none ({ frames := 1, cells := 0, slots := 0, locals := 12 } : Room) true [.ref q, .int x1] (wr ++ [(q, .inr (7, fs))]) (ol_Pw none (wr ++ [(q, .inr (7, fs.set 0 (.int x1)))])) := by
  refine ol_MtOf (L0 := [some (.ref q), some (.int x1)]) (by decide) (Nat.le_of_ble_eq_true rfl) rfl (fun X A hX => ?_)
  refine ol_aload_n hX (pc := 0) dX8_init_0 rfl rfl ?_
  refine ol_objInit hX (pc := 1) q1136 q154 q155 dX8_init_1 (Nat.le_of_ble_eq_true rfl) (Nat.le_of_ble_eq_true rfl) ?_
  refine ol_aload_n hX (pc := 4) dX8_init_4 rfl rfl ?_
  refine ol_iload_n hX (pc := 5) dX8_init_5 rfl rfl ?_
  refine ol_putFL (pc := 6) (fs' := fs.set 0 (.int x1)) hX in_X9 tyX9 tyX9_ok nmX9 rfl 0 (by decide) q1150 rfl rfl rfl rfl rfl rfl (by omega) dX8_init_6 rfl ?_
  exact ol_vret hX (pc := 9) dX8_init_9 ⟨rfl, rfl⟩ ⟨Nat.le_of_ble_eq_true rfl, Nat.le_of_ble_eq_true rfl⟩
theorem dcX9_init : ol_dc yX9_init 5 := by decide +kernel
set_option maxHeartbeats 4000000 in
theorem wX9_init (V : ol_Gh) (wr : va_W) (q : Nat) (n1 : Int64) (x2 : Int32) (x3 : Int32) (x4 : Int32) (x5 : Int32) : ol_Mt V yX9_init cX9_init 7 none ({ frames := 2, cells := 0, slots := 0, locals := 33 } : Room) true [.ref q, .long n1, .int x2, .int x3, .int x4, .int x5] (wr ++ [(q, .inr (7, [.int 0, .long 0, .int 0, .int 0, .int 0]))]) (ol_Pw none (wr ++ [(q, .inr (7, [.int x5, .long n1, .int x2, .int x3, .int x4]))])) := by
  refine ol_MtOf (L0 := [some (.ref q), some (.long n1), none, some (.int x2), some (.int x3), some (.int x4), some (.int x5)]) (by decide) (Nat.le_of_ble_eq_true rfl) rfl (fun X A hX => ?_)
  refine ol_aload_n hX (pc := 0) dX9_init_0 rfl rfl ?_
  refine ol_iload hX (pc := 1) dX9_init_1 rfl ?_
  refine ol_cIf (As := [.int x5]) (wr := []) hX (pc := 3) (wX8_init V wr q x5 [.int 0, .long 0, .int 0, .int 0, .int 0] rfl) q1133 q1134 q130 q1135 rfl dcX8_init ⟨Nat.le_of_ble_eq_true rfl, Nat.le_of_ble_eq_true rfl⟩ ⟨Nat.le_of_ble_eq_true rfl, Nat.le_of_ble_eq_true rfl⟩ (Nat.le_of_ble_eq_true rfl) dX9_init_3 rfl (fun v w hp => ?_)
  obtain ⟨rfl, rfl⟩ := hp
  refine ol_Geq (show _ = wr ++ [(q, .inr (7, [.int x5, .long 0, .int 0, .int 0, .int 0]))] from rfl) ?_
  refine ol_aload_n hX (pc := 6) dX9_init_6 rfl rfl ?_
  refine ol_lload_n hX (pc := 7) dX9_init_7 rfl rfl ?_
  refine ol_putFL (pc := 8) (fs' := [.int x5, .long n1, .int 0, .int 0, .int 0]) hX in_X9 tyX9 tyX9_ok nmX9 rfl 1 (by decide) q1137 rfl rfl rfl rfl rfl rfl (Nat.le_of_ble_eq_true rfl) dX9_init_8 rfl ?_
  refine ol_aload_n hX (pc := 11) dX9_init_11 rfl rfl ?_
  refine ol_iload_n hX (pc := 12) dX9_init_12 rfl rfl ?_
  refine ol_putFL (pc := 13) (fs' := [.int x5, .long n1, .int x2, .int 0, .int 0]) hX in_X9 tyX9 tyX9_ok nmX9 rfl 2 (by decide) q1139 rfl rfl rfl rfl rfl rfl (Nat.le_of_ble_eq_true rfl) dX9_init_13 rfl ?_
  refine ol_aload_n hX (pc := 16) dX9_init_16 rfl rfl ?_
  refine ol_iload hX (pc := 17) dX9_init_17 rfl ?_
  refine ol_putFL (pc := 19) (fs' := [.int x5, .long n1, .int x2, .int x3, .int 0]) hX in_X9 tyX9 tyX9_ok nmX9 rfl 3 (by decide) q1144 rfl rfl rfl rfl rfl rfl (Nat.le_of_ble_eq_true rfl) dX9_init_19 rfl ?_
  refine ol_aload_n hX (pc := 22) dX9_init_22 rfl rfl ?_
  refine ol_iload hX (pc := 23) dX9_init_23 rfl ?_
  refine ol_putFL (pc := 25) (fs' := [.int x5, .long n1, .int x2, .int x3, .int x4]) hX in_X9 tyX9 tyX9_ok nmX9 rfl 4 (by decide) q1148 rfl rfl rfl rfl rfl rfl (Nat.le_of_ble_eq_true rfl) dX9_init_25 rfl ?_
  exact ol_vret hX (pc := 28) dX9_init_28 ⟨rfl, rfl⟩ ⟨Nat.le_of_ble_eq_true rfl, Nat.le_of_ble_eq_true rfl⟩
