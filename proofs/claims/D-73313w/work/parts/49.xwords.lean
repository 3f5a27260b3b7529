/-! the three kinds of words, from the pass; wordsOf -/
set_option maxRecDepth 100000
theorem lw_F {own : String} {idx : Nat} {C : String} {x y : MethodName} {b : ByteArray} {L : Nat} {r : Option FieldType} (h1 : Cond.methodLink own idx x ∈ lw_all) (h2 : Cond.selects C x y ∈ lw_all) (h3 : Cond.instanceMethod y ∈ lw_all) (h4 : Cond.initialized y.cls ∈ lw_all) (h5 : Cond.code y b L r ∈ lw_all) : GoodIn lw_all (va_wsF own idx C x y (ws_ y b L r)) := by
  refine lw_app ?_ (lw_meth h5)
  intro w hw
  simp only [List.mem_cons, List.not_mem_nil, or_false] at hw
  rcases hw with e | e | e | e
  · rw [e]; exact h1
  · rw [e]; exact h2
  · rw [e]; exact h3
  · rw [e]; exact h4
def yWord_of : MethodName := ⟨"OpenLines$Word", "of", "(LOpenLines$Board;)I"⟩
theorem ol_dc_of : ol_dc ⟨"OpenLines$Word", "of", "(LOpenLines$Board;)I"⟩ 1 := by decide +kernel
set_option maxHeartbeats 4000000 in
theorem ol_word1 {V : ol_Gh} {a : Nat → Nat} {r0 : Option Nat} {g : Nat → Nat → Nat} {β : ol_Bd} {ext : va_W} {w : Int32} {q : Nat} (hq : (q, .inr (9, [.int w, .ref (a 0)])) ∈ ext) : ol_WordRow V a r0 g β ext (fun σ i => oX11_of σ β (g 0 0) w i) q := by
  intro X A hX P rm cells slots σ i v L st hv hi hf hlo hcs hst k
  exact ol_cFr (As := [.ref (g 1 i)]) hX (wX11_of V a r0 ext q g σ β w i hq v hv) (lw_F q1600 q1537 q1539 q139 q1541) (hX.fw (by decide +kernel) q1535 q1534 q1540 q1538 q1536) ol_dc_of ⟨rfl, rfl⟩ ⟨Nat.le_trans (Nat.le_of_ble_eq_true rfl) hf, Nat.le_trans (Nat.le_of_ble_eq_true rfl) hlo⟩ (List.mem_append_right _ (List.mem_append_right _ hq)) rfl (fun _ h => h) hcs hst dX2_goes_2_131 rfl k
set_option maxHeartbeats 4000000 in
theorem ol_word2 {V : ol_Gh} {a : Nat → Nat} {r0 : Option Nat} {g : Nat → Nat → Nat} {β : ol_Bd} {ext : va_W} {q : Nat} (hq : ∃ b : Nat, (q, .inr (10, [.ref b])) ∈ ext) : ol_WordRow V a r0 g β ext (fun σ i => oX12_of σ β i) q := by
  intro X A hX P rm cells slots σ i v L st hv hi hf hlo hcs hst k
  obtain ⟨b, hb⟩ := hq
  exact ol_cFr (As := [.ref (g 1 i)]) hX (wX12_of V a r0 ext q g σ β i ⟨b, hb⟩ v hv) (lw_F q1600 q1558 q1560 q140 q1562) (hX.fw (by decide +kernel) q1535 q1534 q1561 q1559 q1557) ol_dc_of ⟨rfl, rfl⟩ ⟨Nat.le_trans (Nat.le_of_ble_eq_true rfl) hf, Nat.le_trans (Nat.le_of_ble_eq_true rfl) hlo⟩ (List.mem_append_right _ (List.mem_append_right _ hb)) rfl (fun _ h => h) hcs hst dX2_goes_2_131 rfl k
set_option maxHeartbeats 4000000 in
theorem ol_word3 {V : ol_Gh} {a : Nat → Nat} {r0 : Option Nat} {g : Nat → Nat → Nat} {β : ol_Bd} {ext : va_W} {r q : Nat} (hr : ol_isr r) (hq : (q, .inr (11, [.ref (a r)])) ∈ ext) : ol_WordRow V a r0 g β ext (fun σ i => oX13_of σ β r i) q := by
  intro X A hX P rm cells slots σ i v L st hv hi hf hlo hcs hst k
  exact ol_cFr (As := [.ref (g 1 i)]) hX (wX13_of V a r0 ext q g σ β r i hr hq v hv) (lw_F q1600 q1565 q1567 q141 q1569) (hX.fw (by decide +kernel) q1535 q1534 q1568 q1566 q1564) ol_dc_of ⟨rfl, rfl⟩ ⟨Nat.le_trans (Nat.le_of_ble_eq_true rfl) hf, Nat.le_trans (Nat.le_of_ble_eq_true rfl) hlo⟩ (List.mem_append_right _ (List.mem_append_right _ hq)) rfl (fun _ h => h) hcs hst dX2_goes_2_131 rfl k
theorem dcX1_wordsOf : yX1_wordsOf.cls = RX1 ∧ ol_dc yX1_wordsOf 1 := by decide +kernel
set_option maxHeartbeats 4000000 in
theorem wX1_wordsOf (V : ol_Gh) (ws : va_W) (o : Nat) (x1 : Int32) : ol_Mt V yX1_wordsOf cX1_wordsOf 2 (some (.object "OpenLines$Word")) ({ frames := 2, cells := 1, slots := 2, locals := 34 }) true [.ref o, .int x1] ws (fun v w => ∃ q : Nat, v = some (.ref q) ∧ w = ws ++ [(q, .inr (9, [.int x1, .ref o]))]) := by
  refine ol_MtOf (L0 := [some (.ref o), some (.int x1)]) (by decide) (Nat.le_of_ble_eq_true rfl) rfl (fun X A hX => ?_)
  refine ol_new (ci := 9) hX (pc := 0) in_X11 tyX11 tyX11_ok q1519 q1520 q139 rfl [.int 0, .null] (fun j hj => by rcases (show j = 0 ∨ j = 1 by omega) with rfl | rfl <;> rfl) ⟨Nat.le_of_ble_eq_true rfl, Nat.le_of_ble_eq_true rfl⟩ dX1_wordsOf_0 (fun q => ?_)
  refine ol_dup hX (pc := 3) dX1_wordsOf_3 rfl ?_
  refine ol_aload_n hX (pc := 4) dX1_wordsOf_4 rfl rfl ?_
  refine ol_iload_n hX (pc := 5) dX1_wordsOf_5 rfl rfl ?_
  refine ol_cIW (As := [.ref o, .int x1]) hX (pc := 6) (wX11_init V ws q o x1) q1521 q1522 q139 q1523 rfl dcX11_init ⟨Nat.le_of_ble_eq_true rfl, Nat.le_of_ble_eq_true rfl⟩ ⟨Nat.le_of_ble_eq_true rfl, Nat.le_of_ble_eq_true rfl⟩ (Nat.le_of_ble_eq_true rfl) dX1_wordsOf_6 rfl (fun v w hp => ?_)
  obtain ⟨rfl, rfl⟩ := hp
  exact ol_aret hX (pc := 9) (Or.inl ⟨_, rfl⟩) (Or.inr ⟨_, rfl⟩) dX1_wordsOf_9 ⟨q, rfl, rfl⟩ ⟨Nat.le_of_ble_eq_true rfl, Nat.le_of_ble_eq_true rfl⟩
