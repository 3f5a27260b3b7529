/-! WHAT THE START GIVES: statics, String constants; String.length, charAt over them -/
set_option maxRecDepth 100000
abbrev ol_flat : List Cond := flatC (Jvm.Cond.and given_1 narrow_1)
theorem ol_Start.fl {V : ol_Gh} (h : ol_Start V) : ∀ c ∈ ol_flat, c.before #[Value.ref V.2.2.1] V.2.1 = true := flat_of_before _ h.2.1
theorem ol_gA_no {V : ol_Gh} : ∀ q : Nat, q < V.2.1.heap.size → ¬ V.2.1.heap.size ≤ q := fun q h => Nat.not_le.mpr h
theorem ol_ZZ.keep {V : ol_Gh} {U : State} (h : ol_ZZ V U) : ∀ q : Nat, q < V.2.1.heap.size → ¬ V.2.1.heap.size ≤ q → U.heap[q]? = V.2.1.heap[q]? := fun q hq _ => h.2.2.2 q hq
section OLS
variable {X : ol_Cx} {V : ol_Gh} {A : Nat → Prop} {cc : ByteArray} {own nm : String} {nL : Nat} {ret : Option FieldType} {md : Bool} {P : Option Value → va_W → Prop} {rm : Room} {cells slots : Nat} {ws : va_W} {pc : Nat} {L : List (Option Value)} {st : List Value}
theorem ol_CX.z (hX : ol_CX X V A cc own nm nL ret) {C n d : String} {v : Value} (h : va_Z C n d v (fun q => V.2.1.heap.size ≤ q) V.2.1 V.2.1.heap) : va_Z C n d v A X.2.2.1 X.2.2.1.heap :=
  (((h.moved hX.Z.2.1.alike).kept hX.Z.keep).narrow hX.A0)
theorem ol_CX.zi (hX : ol_CX X V A cc own nm nL ret) {C n d : String} {v : Int32} (hl : Cond.laysStatic C n d ∈ lw_tbl) (hi : Cond.initialized C ∈ lw_all) (hv : Cond.eq (.static C n d) (.int v) ∈ ol_flat) : va_Z C n d (.int v) A X.2.2.1 X.2.2.1.heap :=
  hX.z (va_Zof (hX.Z.1.1 _ hl) (hX.Z.1.1 _ (lw_all_tbl hi)) (va_eqi (hX.Z.1.fl _ hv)) ol_gA_no)
theorem ol_CX.zq (hX : ol_CX X V A cc own nm nL ret) {C n d : String} (hl : Cond.laysStatic C n d ∈ lw_tbl) (hi : Cond.initialized C ∈ lw_all) (hv : Cond.isRef (.static C n d) ∈ ol_flat) : ∃ r : Option Nat, va_Z C n d (va_rf r) A X.2.2.1 X.2.2.1.heap := by
  rcases va_Zqof (A := fun q => V.2.1.heap.size ≤ q) (hX.Z.1.1 _ hl) (hX.Z.1.1 _ (lw_all_tbl hi)) (hX.Z.1.fl _ hv) ol_gA_no with h | ⟨t, h⟩
  · exact ⟨none, hX.z h⟩
  · exact ⟨some t, hX.z h⟩
theorem ol_gets (hX : ol_CX X V A cc own nm nL ret) {C n d ref : String} {v : Value} {index : Nat} (hZ : va_Z C n d v A X.2.2.1 X.2.2.1.heap) (hlink : Cond.fieldLink own index ref n d ∈ lw_all) (hsame : C = ref) (hd : decode cc pc = .ok (.getstatic index, 3)) (k : ol_G X V A md P rm nL cells slots ws (pc + 3) L (v :: st)) : ol_G X V A md P rm nL cells slots ws pc L st := fun H locs ls hH hL =>
  va_gets hX.x hX.b hZ hH.S hX.ow (hX.ts _ hlink) (fun x hx => by rw [← hsame]; exact hx) hd (k H locs ls hH hL)
theorem ol_nret {rt : FieldType} (hX : ol_CX X V A cc own nm nL (some rt)) {x : Int32} (hd : decode cc pc = .ok (.ireturn, 1)) (hn : narrow rt (.int x) = .int x) (hP : P (some (.int x)) ws) (hc : cells ≤ rm.cells ∧ slots ≤ rm.slots) : ol_G X V A md P rm nL cells slots ws pc L [.int x] := fun H locs ls hH hL => by
  refine W.widen hc.1 hc.2 ?_
  exact ol_MQof (W.zret hX.x hX.b hX.r hn (fun t ht hW => ⟨⟨_, ws, rfl, hP, by rw [ht]; exact hH.1, fun h => (hH.2.2 h).1⟩, fun h => by rw [ht]; exact (hH.2.1 h).1, fun h => (hH.2.2 h).2.F ht⟩) hH.free hd (hlocks := hX.lk))
end OLS
/-! the Strings: k = 0 the model's, 1 the reader's; bus gate filter window board ask slot code rank -/
def ol_sown (k : Nat) : String := if k = 0 then "OpenLinesModel" else "OpenLines$Reader"
def ol_sidx (k : Nat) : List Nat := if k = 0 then [120, 138, 144, 146, 122, 124, 159, 164, 166] else [104, 124, 129, 133, 105, 107, 147, 152, 172]
def ol_stx : List String := ["bus", "gate", "filter", "window", "board", "ask", "slot", "code", "rank"]
def ol_stm (k i : Nat) : Term := .string (ol_sown k) ((ol_sidx k).getD i 0)
def ol_slen : List Nat := [3, 4, 6, 6, 5, 3, 4, 4, 4]
def ol_sbyt : List (List Int32) := [[98, 117, 115], [103, 97, 116, 101], [102, 105, 108, 116, 101, 114], [119, 105, 110, 100, 111, 119], [98, 111, 97, 114, 100], [97, 115, 107], [115, 108, 111, 116], [99, 111, 100, 101], [114, 97, 110, 107]]
/-- a String's length, its bytes -/
def ol_sl (i : Nat) : Nat := ol_slen.getD i 0
def ol_sc (i j : Nat) : Int32 := (ol_sbyt.getD i []).getD j 0
theorem ol_sf1 : ∀ k, k < 2 → ∀ i, i < 9 → Cond.exactly (ol_stm k i) "java/lang/String" ∈ ol_flat := by decide +kernel
theorem ol_sf2 : ∀ k, k < 2 → ∀ i, i < 9 → Cond.eq (.field (ol_stm k i) "java/lang/String" "coder" "B") (.int 0) ∈ ol_flat := by decide +kernel
theorem ol_sf3 : ∀ k, k < 2 → ∀ i, i < 9 → Cond.arrayOf (.field (ol_stm k i) "java/lang/String" "value" "[B") .byte ∈ ol_flat := by decide +kernel
theorem ol_sf4 : ∀ k, k < 2 → ∀ i, i < 9 → Cond.eq (.length (.field (ol_stm k i) "java/lang/String" "value" "[B")) (.int (Int32.ofNat (ol_slen.getD i 0))) ∈ ol_flat := by decide +kernel
theorem ol_sf5 : ∀ k, k < 2 → ∀ i, i < 9 → ∀ j, j < ol_slen.getD i 0 → Cond.eq (.elem (.field (ol_stm k i) "java/lang/String" "value" "[B") (.int (Int32.ofNat j))) (.int ((ol_sbyt.getD i []).getD j 0)) ∈ ol_flat := by decide +kernel
theorem ol_sf7 : ∀ i, i < 9 → ol_slen.getD i 0 < 2 ^ 31 := by decide
/-- where a String constant lies -/
noncomputable def ol_sa (V : ol_Gh) (k i : Nat) : Nat := match (ol_stm k i).eval #[Value.ref V.2.2.1] V.2.1 none [] V.2.1 with
  | some (.ref a) => a
  | _ => 0
theorem ol_strS {V : ol_Gh} (h : ol_Start V) {k i : Nat} (hk : k < 2) (hi : i < 9) : (∃ adV : Nat → Nat, vk_S 1 [ol_sl i] [ol_sbyt.getD i []] (fun _ => ol_sa V k i) adV (fun q => V.2.1.heap.size ≤ q) V.2.1 V.2.1.heap) ∧ (ol_stm k i).eval #[Value.ref V.2.2.1] V.2.1 none [] V.2.1 = some (.ref (ol_sa V k i)) := by
  have h1 : ∀ {q : Nat} {Q : Nat → Prop}, q < 1 → Q 0 → Q q := fun {q} {Q} hq h => by
    have : q = 0 := by omega
    rw [this]; exact h
  obtain ⟨adK, adV, hS, hE⟩ := vk_Sof (N := 1) (tm := fun _ => ol_stm k i) (len := [ol_sl i]) (byt := [ol_sbyt.getD i []]) (A := fun q => V.2.1.heap.size ≤ q) (fun j hj => h1 (Q := fun j => [ol_sl i].getD j 0 < 2 ^ 31) hj (ol_sf7 i hi)) (fun _ _ => h.fl _ (ol_sf1 k hk i hi)) (fun _ _ => h.fl _ (ol_sf2 k hk i hi)) (fun _ _ => h.fl _ (ol_sf3 k hk i hi)) (fun j hj => h1 (Q := fun j => (Cond.eq (.length (.field (ol_stm k i) "java/lang/String" "value" "[B")) (.int (Int32.ofNat ([ol_sl i].getD j 0)))).before _ _ = true) hj (h.fl _ (ol_sf4 k hk i hi))) (fun j hj => h1 (Q := fun j => ∀ j2 : Nat, j2 < [ol_sl i].getD j 0 → (Cond.eq (.elem (.field (ol_stm k i) "java/lang/String" "value" "[B") (.int (Int32.ofNat j2))) (.int (([ol_sbyt.getD i []].getD j []).getD j2 0))).before _ _ = true) hj (fun j2 hj2 => h.fl _ (ol_sf5 k hk i hi j2 hj2)))
    (fun i j hi hj hij => absurd (by omega) hij) ol_gA_no
  have he : ol_sa V k i = adK 0 := by
    unfold ol_sa
    rw [hE 0 (by decide)]
  refine ⟨⟨adV, fun j hj => ?_, fun i j hi hj _ => by omega⟩, by rw [he]; exact hE 0 (by decide)⟩
  have hj0 : j = 0 := by omega
  subst hj0
  have hS1 := hS.1 0 (by decide)
  rw [← he] at hS1
  exact hS1
section OLS2
variable {X : ol_Cx} {V : ol_Gh} {A : Nat → Prop} {cc : ByteArray} {own nm : String} {nL : Nat} {ret : Option FieldType} {md : Bool} {P : Option Value → va_W → Prop} {rm : Room} {cells slots : Nat} {ws : va_W} {pc : Nat} {L : List (Option Value)} {st : List Value}
theorem ol_CX.str (hX : ol_CX X V A cc own nm nL ret) {k i : Nat} (hk : k < 2) (hi : i < 9) : ∃ adV : Nat → Nat, vk_S 1 [ol_sl i] [ol_sbyt.getD i []] (fun _ => ol_sa V k i) adV A X.2.2.1 X.2.2.1.heap := by
  obtain ⟨⟨adV, h⟩, -⟩ := ol_strS hX.Z.1 hk hi
  exact ⟨adV, ((h.moved hX.Z.2.1.alike).kept hX.Z.keep).narrow hX.A0⟩
theorem ol_ldcS (hX : ol_CX X V A cc own nm nL ret) (k i : Nat) (hk : k < 2) (hi : i < 9) {tx : String} {index : Nat} (hq : Cond.stringRef own index tx ∈ lw_tbl) (h1 : own = ol_sown k) (h2 : index = (ol_sidx k).getD i 0) (hd : decode cc pc = .ok (.ldc index, 2)) (kk : ol_G X V A md P rm nL cells slots ws (pc + 2) L (.ref (ol_sa V k i) :: st)) : ol_G X V A md P rm nL cells slots ws pc L st := fun H locs ls hH hL => by
  have he := (ol_strS hX.Z.1 hk hi).2
  refine va_ldcS hX.x hX.b hX.ow (tx := tx) (vk_R.warm hX.Z.2.1 (vk_R.of (hX.Z.1.1 _ hq) ?_)) hd (kk H locs ls hH hL)
  unfold ol_stm at he
  rw [← h1, ← h2] at he
  exact he
variable {y : MethodName} {bytes : ByteArray} {mL : Nat} {rt : Option FieldType} {r' : Room} {b : Nat} {As : List Value} {w0 : va_W} {v0 : Option Value} {C : String} {index : Nat} {stk : List Value}
/-- a reader, called through any object that is known -/
theorem ol_cVo (hX : ol_CX X V A cc own nm nL ret) (hM : ol_Mt V y bytes mL rt r' false (.ref b :: As) w0 (ol_Pr v0)) (hw : GoodIn lw_all (wsV own index C y (ws_ y bytes mL rt))) (hd1 : y.cls = C ∧ ol_dc y As.length) (h0 : r'.cells = 0 ∧ r'.slots = 0) (hrm : ol_rr r' rm mL) (hrv : ∀ (H : Heap) (locs : List Loc), va_S A X.2.2.1.heap H locs → ∃ cell : Cell, H[b]? = some cell ∧ cell.vm.isStatics = false ∧ X.2.2.1.vm.findClass C = some cell.cls)
    (hsub : ∀ H, va_P V.2.2.2.1 ol_cl ws H → va_P V.2.2.2.1 ol_cl w0 H) (hcs : cells ≤ rm.cells ∧ slots ≤ rm.slots) (hst : (st.map fun v => v.category).sum ≤ 8) (hd : decode cc pc = .ok (.invokevirtual index, 3)) (hstk : stk = As.reverse ++ .ref b :: st) (k : ol_G X V A md P rm nL cells slots ws (pc + 3) L (v0.toList ++ st)) : ol_G X V A md P rm nL cells slots ws pc L stk := fun H locs ls hH hL => by
  subst hstk
  refine ol_Wr (va_runV (As := As) (rest := st) ⟨hX.x, hX.b, hX.ml, hX.ow, hX.ts⟩ (hM H.size) (cwV (rm := r') As.length hX.ts hw rfl rfl rfl hd1 hrm) ⟨ol_PC_blind, hrv H locs hH.S, fun U hU hW => ⟨rfl, ol_PCat hX hH (hsub H hH.1) (fun h => by cases h) U hU hW⟩⟩ rfl rfl hL.1 rfl (lv_room hst) hd ⟨by rw [h0.1]; exact hcs.1, by rw [h0.2]; exact hcs.2⟩) h0.1 h0.2 (k H locs ls hH hL)
end OLS2
theorem dcJ6_length : yJ6_length.cls = RJ6 ∧ ol_dc yJ6_length 0 := by decide +kernel
theorem dcJ6_coder : yJ6_coder.cls = RJ6 ∧ ol_dc yJ6_coder 0 := by decide +kernel
theorem dcJ6_charAt : yJ6_charAt.cls = RJ6 ∧ ol_dc yJ6_charAt 1 := by decide +kernel
theorem dcJ6_isLatin1 : yJ6_isLatin1.cls = RJ6 ∧ ol_dc yJ6_isLatin1 0 := by decide +kernel
theorem dcJ7_charAt : ol_dc yJ7_charAt 2 := by decide +kernel
theorem dcJ6_checkIndex : ol_dc yJ6_checkIndex 2 := by decide +kernel
theorem dcJ8_checkIndex : ol_dc yJ8_checkIndex 3 := by decide +kernel
theorem ol_compact : Cond.eq (.static "java/lang/String" "COMPACT_STRINGS" "Z") (.int 1) ∈ ol_flat := by decide +kernel
theorem ol_sioobe : Cond.isRef (.static "jdk/internal/util/Preconditions" "SIOOBE_FORMATTER" "Ljava/util/function/BiFunction;") ∈ ol_flat := by decide +kernel
set_option maxHeartbeats 4000000 in
theorem wJ8_checkIndex (V : ol_Gh) (ws : va_W) (i n : Int32) (q : Option Nat) (h1 : ¬ i < 0) (h2 : i < n) : ol_Mt V yJ8_checkIndex cJ8_checkIndex 3 (some .int) ({ frames := 0, cells := 0, slots := 0, locals := 0 }) false [.int i, .int n, va_rf q] ws (ol_Pr (some (.int i))) := by
  cases q with
  | none =>
    refine ol_MtOf (L0 := [some (.int i), some (.int n), some .null]) (by decide) (Nat.le_of_ble_eq_true rfl) rfl (fun X A hX => ?_)
    refine ol_iload_n hX (pc := 0) dJ8_checkIndex_0 rfl rfl ?_
    refine ol_if_lt hX (pc := 1) 9 dJ8_checkIndex_1 (by decide) (fun c => absurd c h1) (fun _ => ?_)
    refine ol_iload_n hX (pc := 4) dJ8_checkIndex_4 rfl rfl ?_
    refine ol_iload_n hX (pc := 5) dJ8_checkIndex_5 rfl rfl ?_
    refine ol_icmp_lt hX (pc := 6) 16 dJ8_checkIndex_6 (by decide) (fun _ => ?_) (fun c => absurd h2 c)
    refine ol_iload_n hX (pc := 16) dJ8_checkIndex_16 rfl rfl ?_
    exact ol_iret hX (pc := 17) dJ8_checkIndex_17 rfl ⟨Nat.le_refl _, Nat.le_refl _⟩
  | some q =>
    refine ol_MtOf (L0 := [some (.int i), some (.int n), some (.ref q)]) (by decide) (Nat.le_of_ble_eq_true rfl) rfl (fun X A hX => ?_)
    refine ol_iload_n hX (pc := 0) dJ8_checkIndex_0 rfl rfl ?_
    refine ol_if_lt hX (pc := 1) 9 dJ8_checkIndex_1 (by decide) (fun c => absurd c h1) (fun _ => ?_)
    refine ol_iload_n hX (pc := 4) dJ8_checkIndex_4 rfl rfl ?_
    refine ol_iload_n hX (pc := 5) dJ8_checkIndex_5 rfl rfl ?_
    refine ol_icmp_lt hX (pc := 6) 16 dJ8_checkIndex_6 (by decide) (fun _ => ?_) (fun c => absurd h2 c)
    refine ol_iload_n hX (pc := 16) dJ8_checkIndex_16 rfl rfl ?_
    exact ol_iret hX (pc := 17) dJ8_checkIndex_17 rfl ⟨Nat.le_refl _, Nat.le_refl _⟩
set_option maxHeartbeats 4000000 in
theorem wJ6_checkIndex (V : ol_Gh) (ws : va_W) (i n : Int32) (h1 : ¬ i < 0) (h2 : i < n) : ol_Mt V yJ6_checkIndex cJ6_checkIndex 2 none ({ frames := 1, cells := 0, slots := 0, locals := 22 }) false [.int i, .int n] ws (ol_Pr none) := by
  refine ol_MtOf (L0 := [some (.int i), some (.int n)]) (by decide) (Nat.le_of_ble_eq_true rfl) rfl (fun X A hX => ?_)
  obtain ⟨q, hq⟩ := hX.zq q589 q116 ol_sioobe
  refine ol_iload_n hX (pc := 0) dJ6_checkIndex_0 rfl rfl ?_
  refine ol_iload_n hX (pc := 1) dJ6_checkIndex_1 rfl rfl ?_
  refine ol_gets hX (pc := 2) hq q588 rfl dJ6_checkIndex_2 ?_
  refine ol_cSr (As := [.int i, .int n, va_rf q]) hX (pc := 5) (wJ8_checkIndex V ws i n q h1 h2) (lw_S q590 q591 q116 q592) dcJ8_checkIndex ⟨rfl, rfl⟩ ⟨Nat.le_of_ble_eq_true rfl, Nat.le_of_ble_eq_true rfl⟩ (fun _ h => h) ⟨Nat.le_refl _, Nat.le_refl _⟩ (Nat.le_of_ble_eq_true rfl) dJ6_checkIndex_5 rfl ?_
  refine ol_pop hX (pc := 8) dJ6_checkIndex_8 rfl ?_
  exact ol_vret hX (pc := 9) dJ6_checkIndex_9 rfl ⟨Nat.le_refl _, Nat.le_refl _⟩
set_option maxHeartbeats 4000000 in
theorem wJ6_coder (V : ol_Gh) (ws : va_W) (k i : Nat) (hk : k < 2) (hi : i < 9) : ol_Mt V yJ6_coder cJ6_coder 1 (some .byte) ({ frames := 0, cells := 0, slots := 0, locals := 0 }) false [.ref (ol_sa V k i)] ws (ol_Pr (some (.int 0))) := by
  refine ol_MtOf (L0 := [some (.ref (ol_sa V k i))]) (by decide) (Nat.le_of_ble_eq_true rfl) rfl (fun X A hX => ?_)
  obtain ⟨adV, hS⟩ := hX.str hk hi
  refine ol_gets hX (pc := 0) (hX.zi q573 q114 ol_compact) q572 rfl dJ6_coder_0 ?_
  refine ol_if_eq hX (pc := 3) 13 dJ6_coder_3 (by decide) (fun c => absurd c (by decide)) (fun _ => ?_)
  refine ol_aload_n hX (pc := 6) dJ6_coder_6 rfl rfl ?_
  refine (fun H locs ls hH hL => vk_getf hX.x hX.b (hS.1 0 (by decide)).2.1 hH.S hX.ow (hX.ts _ q2700) (fun x hx => hx) dJ6_coder_7 ((?_ : ol_G X V A false _ _ _ _ _ ws 10 _ _) H locs ls hH hL))
  refine ol_goto hX (pc := 10) 14 dJ6_coder_10 (by decide) ?_
  exact ol_nret hX (pc := 14) dJ6_coder_14 rfl rfl ⟨Nat.le_refl _, Nat.le_refl _⟩
set_option maxHeartbeats 4000000 in
theorem wJ6_isLatin1 (V : ol_Gh) (ws : va_W) (k i : Nat) (hk : k < 2) (hi : i < 9) : ol_Mt V yJ6_isLatin1 cJ6_isLatin1 1 (some .boolean) ({ frames := 0, cells := 0, slots := 0, locals := 0 }) false [.ref (ol_sa V k i)] ws (ol_Pr (some (.int 1))) := by
  refine ol_MtOf (L0 := [some (.ref (ol_sa V k i))]) (by decide) (Nat.le_of_ble_eq_true rfl) rfl (fun X A hX => ?_)
  obtain ⟨adV, hS⟩ := hX.str hk hi
  refine ol_gets hX (pc := 0) (hX.zi q573 q114 ol_compact) q572 rfl dJ6_isLatin1_0 ?_
  refine ol_if_eq hX (pc := 3) 17 dJ6_isLatin1_3 (by decide) (fun c => absurd c (by decide)) (fun _ => ?_)
  refine ol_aload_n hX (pc := 6) dJ6_isLatin1_6 rfl rfl ?_
  refine (fun H locs ls hH hL => vk_getf hX.x hX.b (hS.1 0 (by decide)).2.1 hH.S hX.ow (hX.ts _ q2700) (fun x hx => hx) dJ6_isLatin1_7 ((?_ : ol_G X V A false _ _ _ _ _ ws 10 _ _) H locs ls hH hL))
  refine ol_if_ne hX (pc := 10) 17 dJ6_isLatin1_10 (by decide) (fun c => absurd rfl c) (fun _ => ?_)
  refine ol_iconst hX (pc := 13) 1 dJ6_isLatin1_13 (by decide) ?_
  refine ol_goto hX (pc := 14) 18 dJ6_isLatin1_14 (by decide) ?_
  exact ol_nret hX (pc := 18) dJ6_isLatin1_18 rfl rfl ⟨Nat.le_refl _, Nat.le_refl _⟩
theorem ol_sl_small : ∀ i, i < 9 → (Int32.ofNat (ol_sl i)) >>> ((0 : Int32) &&& 31) = Int32.ofNat (ol_sl i) := by decide
set_option maxHeartbeats 4000000 in
theorem wJ6_length (V : ol_Gh) (ws : va_W) (k i : Nat) (hk : k < 2) (hi : i < 9) : ol_Mt V yJ6_length cJ6_length 1 (some .int) ({ frames := 1, cells := 0, slots := 0, locals := 20 }) false [.ref (ol_sa V k i)] ws (ol_Pr (some (.int (Int32.ofNat (ol_sl i))))) := by
  refine ol_MtOf (L0 := [some (.ref (ol_sa V k i))]) (by decide) (Nat.le_of_ble_eq_true rfl) rfl (fun X A hX => ?_)
  obtain ⟨adV, hS⟩ := hX.str hk hi
  refine ol_aload_n hX (pc := 0) dJ6_length_0 rfl rfl ?_
  refine (fun H locs ls hH hL => vk_getf hX.x hX.b (hS.1 0 (by decide)).2.2.1 hH.S hX.ow (hX.ts _ q2699) (fun x hx => hx) dJ6_length_1 ((?_ : ol_G X V A false _ _ _ _ _ ws 4 _ _) H locs ls hH hL))
  refine (fun H locs ls hH hL => va_tlen hX.x hX.b (hS.1 0 (by decide)).2.2.2 hH.S rfl dJ6_length_4 ((?_ : ol_G X V A false _ _ _ _ _ ws 5 _ _) H locs ls hH hL))
  refine ol_aload_n hX (pc := 5) dJ6_length_5 rfl rfl ?_
  refine ol_cVo (As := []) hX (pc := 6) (wJ6_coder V ws k i hk hi) (lw_V q568 q569 q570 q114 q571) dcJ6_coder ⟨rfl, rfl⟩ ⟨Nat.le_of_ble_eq_true rfl, Nat.le_of_ble_eq_true rfl⟩ (fun H locs h => vk_recv (i := 0) hS (by decide) h) (fun _ h => h) ⟨Nat.le_refl _, Nat.le_refl _⟩ (Nat.le_of_ble_eq_true rfl) dJ6_length_6 rfl ?_
  refine ol_ishr hX (pc := 9) dJ6_length_9 ?_
  exact ol_iret hX (pc := 10) dJ6_length_10 (congrArg (fun z => some (Value.int z)) (ol_sl_small i hi)) ⟨Nat.le_refl _, Nat.le_refl _⟩
theorem ol_sc_char : ∀ i, i < 9 → ∀ j, j < 6 → ((ol_sc i j &&& 255).toUInt32 % 65536).toInt32 = ol_sc i j := by decide +kernel
theorem ol_sc_nar : ∀ i, i < 9 → ∀ j, j < 6 → narrow .char (.int (ol_sc i j)) = .int (ol_sc i j) := by decide +kernel
theorem ol_sl_le : ∀ i, i < 9 → ol_sl i ≤ 6 := by decide
set_option maxHeartbeats 4000000 in
theorem wJ7_charAt (V : ol_Gh) (ws : va_W) (k i j b : Nat) (hk : k < 2) (hi : i < 9) (hj : j < ol_sl i) (hb : ∀ (X : ol_Cx) (A : Nat → Prop), ol_CX X V A cJ7_charAt RJ7 "charAt" 2 (some .char) → va_T .byte b (ol_sl i) (fun j => .int (ol_sc i j)) A X.2.2.1 X.2.2.1.heap) : ol_Mt V yJ7_charAt cJ7_charAt 2 (some .char) ({ frames := 2, cells := 0, slots := 0, locals := 43 }) false [.ref b, .int (nI j)] ws (ol_Pr (some (.int (ol_sc i j)))) := by
  have hl6 := ol_sl_le i hi
  refine ol_MtOf (L0 := [some (.ref b), some (.int (nI j))]) (by decide) (Nat.le_of_ble_eq_true rfl) rfl (fun X A hX => ?_)
  have hT := hb X A hX
  refine ol_iload_n hX (pc := 0) dJ7_charAt_0 rfl rfl ?_
  refine ol_aload_n hX (pc := 1) dJ7_charAt_1 rfl rfl ?_
  refine (fun H locs ls hH hL => va_tlen hX.x hX.b hT hH.S rfl dJ7_charAt_2 ((?_ : ol_G X V A false _ _ _ _ _ ws 3 _ _) H locs ls hH hL))
  refine ol_cSr (As := [.int (nI j), .int (Int32.ofNat (ol_sl i))]) hX (pc := 3) (wJ6_checkIndex V ws (nI j) (nI (ol_sl i)) (nI_pos (by omega)) (nI_lt hj (by omega))) (lw_S q585 q586 q114 q587) dcJ6_checkIndex ⟨rfl, rfl⟩ ⟨Nat.le_of_ble_eq_true rfl, Nat.le_of_ble_eq_true rfl⟩ (fun _ h => h) ⟨Nat.le_refl _, Nat.le_refl _⟩ (Nat.le_of_ble_eq_true rfl) dJ7_charAt_3 rfl ?_
  refine ol_aload_n hX (pc := 6) dJ7_charAt_6 rfl rfl ?_
  refine ol_iload_n hX (pc := 7) dJ7_charAt_7 rfl rfl ?_
  refine (fun H locs ls hH hL => va_tb hX.x hX.b hT hH.S (vp_in_nI hj (by omega)) (v := .int (ol_sc i j)) (by rw [nI_clamp (by omega)]) dJ7_charAt_8 ((?_ : ol_G X V A false _ _ _ _ _ ws 9 _ _) H locs ls hH hL))
  refine ol_sipush hX (pc := 9) 255 dJ7_charAt_9 (by decide) ?_
  refine ol_iand hX (pc := 12) dJ7_charAt_12 ?_
  refine ol_i2c hX (pc := 13) dJ7_charAt_13 ?_
  rw [ol_sc_char i hi j (by omega)]
  exact ol_nret hX (pc := 14) dJ7_charAt_14 (ol_sc_nar i hi j (by omega)) rfl ⟨Nat.le_refl _, Nat.le_refl _⟩
set_option maxHeartbeats 4000000 in
theorem wJ6_charAt (V : ol_Gh) (ws : va_W) (k i j : Nat) (hk : k < 2) (hi : i < 9) (hj : j < ol_sl i) : ol_Mt V yJ6_charAt cJ6_charAt 2 (some .char) ({ frames := 3, cells := 0, slots := 0, locals := 64 }) false [.ref (ol_sa V k i), .int (nI j)] ws (ol_Pr (some (.int (ol_sc i j)))) := by
  have hl6 := ol_sl_le i hi
  refine ol_MtOf (L0 := [some (.ref (ol_sa V k i)), some (.int (nI j))]) (by decide) (Nat.le_of_ble_eq_true rfl) rfl (fun X A hX => ?_)
  obtain ⟨⟨adV, hS0⟩, -⟩ := ol_strS hX.Z.1 hk hi
  have hS := ((hS0.moved hX.Z.2.1.alike).kept hX.Z.keep).narrow hX.A0
  refine ol_aload_n hX (pc := 0) dJ6_charAt_0 rfl rfl ?_
  refine ol_cVo (As := []) hX (pc := 1) (wJ6_isLatin1 V ws k i hk hi) (lw_V q578 q579 q580 q114 q581) dcJ6_isLatin1 ⟨rfl, rfl⟩ ⟨Nat.le_of_ble_eq_true rfl, Nat.le_of_ble_eq_true rfl⟩ (fun H locs h => vk_recv (i := 0) hS (by decide) h) (fun _ h => h) ⟨Nat.le_refl _, Nat.le_refl _⟩ (Nat.le_of_ble_eq_true rfl) dJ6_charAt_1 rfl ?_
  refine ol_if_eq hX (pc := 4) 16 dJ6_charAt_4 (by decide) (fun c => absurd c (by decide)) (fun _ => ?_)
  refine ol_aload_n hX (pc := 7) dJ6_charAt_7 rfl rfl ?_
  refine (fun H locs ls hH hL => vk_getf hX.x hX.b (hS.1 0 (by decide)).2.2.1 hH.S hX.ow (hX.ts _ q2699) (fun x hx => hx) dJ6_charAt_8 ((?_ : ol_G X V A false _ _ _ _ _ ws 11 _ _) H locs ls hH hL))
  refine ol_iload_n hX (pc := 11) dJ6_charAt_11 rfl rfl ?_
  refine ol_cSr (As := [.ref (adV 0), .int (nI j)]) hX (pc := 12) (wJ7_charAt V ws k i j (adV 0) hk hi hj (fun X2 A2 hX2 => (((hS0.moved hX2.Z.2.1.alike).kept hX2.Z.keep).narrow hX2.A0).1 0 (by decide) |>.2.2.2)) (lw_S q582 q583 q115 q584) dcJ7_charAt ⟨rfl, rfl⟩ ⟨Nat.le_of_ble_eq_true rfl, Nat.le_of_ble_eq_true rfl⟩ (fun _ h => h) ⟨Nat.le_refl _, Nat.le_refl _⟩ (Nat.le_of_ble_eq_true rfl) dJ6_charAt_12 rfl ?_
  exact ol_nret hX (pc := 15) dJ6_charAt_15 (ol_sc_nar i hi j (by omega)) rfl ⟨Nat.le_refl _, Nat.le_refl _⟩
theorem wJ6_charAtI (V : ol_Gh) (ws : va_W) (k i : Nat) (x : Int32) (hk : k < 2) (hi : i < 9) (hx : ol_in x (ol_sl i) = true) : ol_Mt V yJ6_charAt cJ6_charAt 2 (some .char) ({ frames := 3, cells := 0, slots := 0, locals := 64 }) false [.ref (ol_sa V k i), .int x] ws (ol_Pr (some (.int (ol_sc i x.toNatClampNeg)))) := by
  have hl6 := ol_sl_le i hi
  obtain ⟨j, hj, rfl⟩ := vp_in_of (ol_in_vp hx) (by omega)
  rw [nI_clamp (by omega)]
  exact wJ6_charAt V ws k i j hk hi hj
