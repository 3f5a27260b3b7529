/-! Bus.those and its iterator; Run.begins(int) -/
set_option maxRecDepth 100000
section OLF
variable {X : ol_Cx} {V : ol_Gh} {A : Nat → Prop} {cc : ByteArray} {own nm : String} {nL : Nat} {ret : Option FieldType} {md : Bool} {P : Option Value → va_W → Prop} {rm : Room} {cells slots : Nat} {ws : va_W} {pc : Nat} {L : List (Option Value)} {st stk : List Value}
variable {y : MethodName} {bytes : ByteArray} {mL : Nat} {rt : Option FieldType} {r' : Room} {b : Nat} {As : List Value} {C : String} {index ci : Nat} {fs : List Value} {T : u_T} {N : Nat} {P' : Option Value → va_W → Prop}
/-- a writer of the whole world, called through an interface -/
theorem ol_cFW {x : MethodName} {count : Nat} (hX : ol_CX X V A cc own nm nL ret) (hM : ol_Mt V y bytes mL rt r' true (.ref b :: As) ws P') (hw : GoodIn lw_all (va_wsF own index C x y (ws_ y bytes mL rt))) (hF : va_Fw C x y X.2.2.1) (hd1 : ol_dc x As.length) (hrm : ol_rr r' rm mL) (hrv : (b, .inr (ci, fs)) ∈ ws) (hci : ol_cl[ci]? = some (C, T, N)) (hcs : cells + r'.cells ≤ rm.cells ∧ slots + r'.slots ≤ rm.slots) (hst : (st.map fun v => v.category).sum ≤ 8) (hd : decode cc pc = .ok (.invokeinterface index count, 5)) (hstk : stk = As.reverse ++ .ref b :: st) (k : ∀ (v : Option Value) (w : va_W), P' v w → ol_G X V A true P rm nL (cells + r'.cells) (slots + r'.slots) w (pc + 5) L (v.toList ++ st)) : ol_G X V A true P rm nL cells slots ws pc L stk := fun H locs ls hH hL => by
  subst hstk
  obtain ⟨q0, hrv⟩ := List.getElem?_of_mem hrv
  have hFr := ol_freeW hX hH
  have hr := va_runF (p := X.1) (e := X.2.1) (below := X.2.2.2.2.2.1) (meth := X.2.2.2.2.2.2.1) (As := As) (rest := st) (hX.K.1 ci _ hci).2 ⟨hX.x, hX.b, hX.ml, hX.ow, hX.ts⟩ (hM H.size) (va_cwF (rm := r') As.length hX.ts hw rfl rfl rfl hF hd1 hrm) ⟨ol_PC_blind, va_recv hX.K hH.1 hci hrv, fun U hU hW => ⟨rfl, ol_PCat hX hH hH.1 (fun _ => (hH.2.2 rfl).1) U hU hW⟩⟩ (g := F0 X.2.2.2.1 pc ls (As.reverse ++ .ref b :: st)) rfl rfl hL.1 rfl (lv_room hst) hd (locs := locs) (cells := cells) (slots := slots) hcs
  intro T0 hT X0
  obtain ⟨v, st₀, t, T', L', h00, X', hL', e1, e2, ⟨⟨v', w, hv, hp, hP, hD⟩, -, hFF⟩, st1⟩ := hr T0 hT X0
  cases hv
  obtain ⟨hz, hk⟩ := hFF rfl
  rw [h00] at hz hk
  have hS := (hH.2.2 rfl).2
  obtain ⟨t2, a1, b1⟩ := k v w hp T'.heap (locs ++ L') ls ⟨by rw [e1]; exact hP, (fun h => by cases h), fun _ => ⟨(hD rfl).weaken (fun _ _ _ z => hFr _ z), Nat.le_trans hS.1 (by rw [e1]; exact hz), fun q h1 h2 => by rw [e1, hk q (Nat.lt_of_lt_of_le h1 hS.1) (fun z => h2 (hFr q z))]; exact hS.2.1 q h1 h2, fun q hq => by
      rcases List.mem_append.mp hq with h | h
      · exact hS.2.2 q h
      · exact hFr _ (hL' q h).2⟩⟩ hL T' rfl X'
  exact ⟨t2, st1 t2 a1, b1⟩
end OLF
theorem dcX6_those : yX6_those.cls = RX6 ∧ ol_dc yX6_those 1 := by decide +kernel
theorem dcX16_next_2 : yX16_next_2.cls = RX16 ∧ ol_dc yX16_next_2 0 := by decide +kernel
abbrev ol_xit : MethodName := ⟨"java/lang/Iterable", "iterator", "()Ljava/util/Iterator;"⟩
abbrev ol_xhas : MethodName := ⟨"java/util/Iterator", "hasNext", "()Z"⟩
abbrev ol_xnext : MethodName := ⟨"java/util/Iterator", "next", "()Ljava/lang/Object;"⟩
theorem dc_xit : ol_dc ol_xit 0 := by decide +kernel
theorem dc_xhas : ol_dc ol_xhas 0 := by decide +kernel
theorem dc_xnext : ol_dc ol_xnext 0 := by decide +kernel
set_option maxHeartbeats 4000000 in
theorem wX6_those (V : ol_Gh) (ws : va_W) (b : Nat) (x1 : Int32) : ol_Mt V yX6_those cX6_those 2 (some (.object "java/lang/Iterable")) ({ frames := 2, cells := 1, slots := 2, locals := 34 } : Room) true [.ref b, .int x1] ws (fun v w => ∃ q : Nat, v = some (.ref q) ∧ w = ws ++ [(q, .inr (13, [.int x1, .ref b]))]) := by
  refine ol_MtOf (L0 := [some (.ref b), some (.int x1)]) (by decide) (Nat.le_of_ble_eq_true rfl) rfl (fun X A hX => ?_)
  refine ol_new (ci := 13) hX (pc := 0) in_X15 tyX15 tyX15_ok q1934 q1935 q143 rfl [.int 0, .null] (fun j hj => by rcases (show j = 0 ∨ j = 1 by omega) with rfl | rfl <;> rfl) ⟨Nat.le_of_ble_eq_true rfl, Nat.le_of_ble_eq_true rfl⟩ dX6_those_0 (fun q => ?_)
  refine ol_dup hX (pc := 3) dX6_those_3 rfl ?_
  refine ol_aload_n hX (pc := 4) dX6_those_4 rfl rfl ?_
  refine ol_iload_n hX (pc := 5) dX6_those_5 rfl rfl ?_
  refine ol_cIW (As := [.ref b, .int x1]) hX (pc := 6) (wX15_init V ws q b x1) q1936 q1937 q143 q1938 rfl dcX15_init ⟨Nat.le_of_ble_eq_true rfl, Nat.le_of_ble_eq_true rfl⟩ ⟨Nat.le_of_ble_eq_true rfl, Nat.le_of_ble_eq_true rfl⟩ (Nat.le_of_ble_eq_true rfl) dX6_those_6 rfl (fun v w hp => ?_)
  obtain ⟨rfl, rfl⟩ := hp
  exact ol_aret hX (pc := 9) (Or.inl ⟨_, rfl⟩) (Or.inr ⟨_, rfl⟩) dX6_those_9 ⟨q, rfl, rfl⟩ ⟨Nat.le_of_ble_eq_true rfl, Nat.le_of_ble_eq_true rfl⟩
set_option maxHeartbeats 4000000 in
theorem wX15_iterator (V : ol_Gh) (ws : va_W) (t : Nat) (x1 : Int32) (b : Nat) (ht : (t, .inr (13, [.int x1, .ref b])) ∈ ws) : ol_Mt V yX15_iterator cX15_iterator 1 (some (.object "java/util/Iterator")) ({ frames := 2, cells := 1, slots := 2, locals := 34 } : Room) true [.ref t] ws (fun v w => ∃ q : Nat, v = some (.ref q) ∧ w = ws ++ [(q, .inr (14, [.int x1, .ref t]))]) := by
  refine ol_MtOf (L0 := [some (.ref t)]) (by decide) (Nat.le_of_ble_eq_true rfl) rfl (fun X A hX => ?_)
  refine ol_new (ci := 14) hX (pc := 0) in_X16 tyX16 tyX16_ok q1959 q1960 q144 rfl [.int 0, .null] (fun j hj => by rcases (show j = 0 ∨ j = 1 by omega) with rfl | rfl <;> rfl) ⟨Nat.le_of_ble_eq_true rfl, Nat.le_of_ble_eq_true rfl⟩ dX15_iterator_0 (fun q => ?_)
  refine ol_dup hX (pc := 3) dX15_iterator_3 rfl ?_
  refine ol_aload_n hX (pc := 4) dX15_iterator_4 rfl rfl ?_
  refine ol_cIW (As := [.ref t]) hX (pc := 5) (wX16_init V ws q t x1 b ht) q1961 q1962 q144 q1963 rfl dcX16_init ⟨Nat.le_of_ble_eq_true rfl, Nat.le_of_ble_eq_true rfl⟩ ⟨Nat.le_of_ble_eq_true rfl, Nat.le_of_ble_eq_true rfl⟩ (Nat.le_of_ble_eq_true rfl) dX15_iterator_5 rfl (fun v w hp => ?_)
  obtain ⟨rfl, rfl⟩ := hp
  exact ol_aret hX (pc := 8) (Or.inl ⟨_, rfl⟩) (Or.inr ⟨_, rfl⟩) dX15_iterator_8 ⟨q, rfl, rfl⟩ ⟨Nat.le_of_ble_eq_true rfl, Nat.le_of_ble_eq_true rfl⟩
set_option maxHeartbeats 4000000 in
theorem wX16_hasNext (V : ol_Gh) (ws : va_W) (q t : Nat) (left : Int32) (hq : (q, .inr (14, [.int left, .ref t])) ∈ ws) : ol_Mt V yX16_hasNext cX16_hasNext 1 (some .boolean) ({ frames := 0, cells := 0, slots := 0, locals := 0 } : Room) false [.ref q] ws (ol_Pr (some (.int (if left = 0 then 0 else 1)))) := by
  refine ol_MtOf (L0 := [some (.ref q)]) (by decide) (Nat.le_of_ble_eq_true rfl) rfl (fun X A hX => ?_)
  refine ol_aload_n hX (pc := 0) dX16_hasNext_0 rfl rfl ?_
  refine ol_getM hX in_X16 (pc := 1) hq rfl 0 (by decide) q1965 rfl rfl dX16_hasNext_1 ?_
  refine ol_if_eq hX (pc := 4) 11 dX16_hasNext_4 (by decide) (fun c => ?_) (fun c => ?_)
  · refine ol_iconst hX (pc := 11) 0 dX16_hasNext_11 (by decide) ?_
    exact ol_zret hX (pc := 12) dX16_hasNext_12 rfl (by rw [if_pos c]; rfl) ⟨Nat.le_refl _, Nat.le_refl _⟩
  · refine ol_iconst hX (pc := 7) 1 dX16_hasNext_7 (by decide) ?_
    refine ol_goto hX (pc := 8) 12 dX16_hasNext_8 (by decide) ?_
    exact ol_zret hX (pc := 12) dX16_hasNext_12 rfl (by rw [if_neg c]; rfl) ⟨Nat.le_refl _, Nat.le_refl _⟩
theorem ol_hB_l {V : ol_Gh} {g : Nat → Nat → Nat} {β : ol_Bd} {w1 w2 : va_W} (h : ol_hB V g β w1) : ol_hB V g β (w1 ++ w2) := fun q hq => List.mem_append_left _ (h q hq)
set_option maxHeartbeats 4000000 in
theorem wX16_next_2 (V : ol_Gh) (g : Nat → Nat → Nat) (β : ol_Bd) (wr : va_W) (q t : Nat) (left x k : Int32) (hB : ol_hB V g β wr) (ht : (t, .inr (13, [.int x, .ref (g 0 0)])) ∈ wr) (hl : ¬ left = 0) (hk : oJ14_numberOfTrailingZeros left = some k) (hi : ol_ib β k = true) : ol_Mt V yX16_next_2 cX16_next_2 2 (some (.object "OpenLines$Board")) ({ frames := 4, cells := 0, slots := 0, locals := 85 } : Room) true [.ref q] (wr ++ [(q, .inr (14, [.int left, .ref t]))]) (ol_Pw (some (.ref (g 1 k.toNatClampNeg))) (wr ++ [(q, .inr (14, [.int (left &&& (left - 1)), .ref t]))])) := by
  refine ol_MtOf (L0 := [some (.ref q), none]) (by decide) (Nat.le_of_ble_eq_true rfl) rfl (fun X A hX => ?_)
  have hm : ∀ l : Int32, (q, Sum.inr (14, [Value.int l, Value.ref t])) ∈ wr ++ [(q, Sum.inr (14, [Value.int l, Value.ref t]))] := fun l => List.mem_append_right _ List.mem_cons_self
  refine ol_aload_n hX (pc := 0) dX16_next_2_0 rfl rfl ?_
  refine ol_getM hX in_X16 (pc := 1) (hm left) rfl 0 (by decide) q1965 rfl rfl dX16_next_2_1 ?_
  refine ol_if_ne hX (pc := 4) 15 dX16_next_2_4 (by decide) (fun c => ?_) (fun c => absurd c hl)
  refine ol_aload_n hX (pc := 15) dX16_next_2_15 rfl rfl ?_
  refine ol_getM hX in_X16 (pc := 16) (hm left) rfl 0 (by decide) q1965 rfl rfl dX16_next_2_16 ?_
  refine ol_cSr (As := [.int left]) hX (pc := 19) (wJ14_numberOfTrailingZeros V _ left k hk) (lw_S q2049 q1079 q123 q1080) dcJ14_numberOfTrailingZeros ⟨rfl, rfl⟩ ⟨Nat.le_of_ble_eq_true rfl, Nat.le_of_ble_eq_true rfl⟩ (fun _ h => h) ⟨Nat.le_refl _, Nat.le_refl _⟩ (Nat.le_of_ble_eq_true rfl) dX16_next_2_19 rfl ?_
  refine ol_istore_n hX (pc := 22) [some (.ref q), some (.int k)] dX16_next_2_22 rfl (by decide) rfl rfl ?_
  refine ol_aload_n hX (pc := 23) dX16_next_2_23 rfl rfl ?_
  refine ol_dup hX (pc := 24) dX16_next_2_24 rfl ?_
  refine ol_getM hX in_X16 (pc := 25) (hm left) rfl 0 (by decide) q1965 rfl rfl dX16_next_2_25 ?_
  refine ol_aload_n hX (pc := 28) dX16_next_2_28 rfl rfl ?_
  refine ol_getM hX in_X16 (pc := 29) (hm left) rfl 0 (by decide) q1965 rfl rfl dX16_next_2_29 ?_
  refine ol_iconst hX (pc := 32) 1 dX16_next_2_32 (by decide) ?_
  refine ol_isub hX (pc := 33) dX16_next_2_33 ?_
  refine ol_iand hX (pc := 34) dX16_next_2_34 ?_
  refine ol_putL (pc := 35) (fs' := [.int (left &&& (left - 1)), .ref t]) hX in_X16 tyX16 tyX16_ok nmX16 rfl 0 (by decide) q1965 rfl rfl rfl rfl (Nat.le_of_ble_eq_true rfl) dX16_next_2_35 rfl ?_
  refine ol_aload_n hX (pc := 38) dX16_next_2_38 rfl rfl ?_
  refine ol_getM hX in_X16 (pc := 39) (hm _) rfl 1 (by decide) q1966 rfl rfl dX16_next_2_39 ?_
  refine ol_getM hX in_X15 (pc := 42) (List.mem_append_left _ ht) rfl 1 (by decide) q1943 rfl rfl dX16_next_2_42 ?_
  refine ol_iload_n hX (pc := 45) dX16_next_2_45 rfl rfl ?_
  refine ol_cVrM (As := [.int k]) hX (pc := 46) (wX6_board V g β _ (ol_hB_l hB) k hi) (lw_V q2050 q735 q736 q110 q737) dcX6_board ⟨rfl, rfl⟩ ⟨Nat.le_of_ble_eq_true rfl, Nat.le_of_ble_eq_true rfl⟩ (ol_hB_l hB).bus rfl (fun _ h => h) ⟨Nat.le_refl _, Nat.le_refl _⟩ (Nat.le_of_ble_eq_true rfl) dX16_next_2_46 rfl ?_
  exact ol_aret hX (pc := 49) (Or.inl ⟨_, rfl⟩) (Or.inr ⟨_, rfl⟩) dX16_next_2_49 ⟨rfl, rfl⟩ ⟨Nat.le_refl _, Nat.le_refl _⟩
set_option maxHeartbeats 4000000 in
theorem wX16_next (V : ol_Gh) (g : Nat → Nat → Nat) (β : ol_Bd) (wr : va_W) (q t : Nat) (left x k : Int32) (hB : ol_hB V g β wr) (ht : (t, .inr (13, [.int x, .ref (g 0 0)])) ∈ wr) (hl : ¬ left = 0) (hk : oJ14_numberOfTrailingZeros left = some k) (hi : ol_ib β k = true) : ol_Mt V yX16_next cX16_next 1 (some (.object "java/lang/Object")) ({ frames := 5, cells := 0, slots := 0, locals := 106 } : Room) true [.ref q] (wr ++ [(q, .inr (14, [.int left, .ref t]))]) (ol_Pw (some (.ref (g 1 k.toNatClampNeg))) (wr ++ [(q, .inr (14, [.int (left &&& (left - 1)), .ref t]))])) := by
  refine ol_MtOf (L0 := [some (.ref q)]) (by decide) (Nat.le_of_ble_eq_true rfl) rfl (fun X A hX => ?_)
  refine ol_aload_n hX (pc := 0) dX16_next_0 rfl rfl ?_
  refine ol_cVw (As := []) hX (pc := 1) (wX16_next_2 V g β wr q t left x k hB ht hl hk hi) (lw_V q2022 q2023 q2024 q144 q2025) dcX16_next_2 ⟨Nat.le_of_ble_eq_true rfl, Nat.le_of_ble_eq_true rfl⟩ wr.length ol_lastc rfl ⟨Nat.le_refl _, Nat.le_refl _⟩ (Nat.le_of_ble_eq_true rfl) dX16_next_1 rfl ?_
  exact ol_aret hX (pc := 4) (Or.inl ⟨_, rfl⟩) (Or.inr ⟨_, rfl⟩) dX16_next_4 ⟨rfl, rfl⟩ ⟨Nat.le_refl _, Nat.le_refl _⟩
def oX3_begins_2_L37 (β : ol_Bd) (bp : Nat) (r : Nat) : Nat → Int32 → ol_Xm → Option ol_Xm
  | 0, _, _ => none
  | n + 1, left, σ =>
    (if left = 0 then some σ
    else
      ((oJ14_numberOfTrailingZeros left).bind fun k =>
        (ol_og (ol_ib β k) (
          ((oX1_firstWord σ β bp r k.toNatClampNeg).bind fun y =>
            (ol_og (ol_in (nI k.toNatClampNeg) 6) (
              oX3_begins_2_L37 β bp r n (left &&& (left - 1)) (ol_xs σ (r + 6) (nI k.toNatClampNeg).toNatClampNeg y)))))))
    )
def oX3_begins_2 (σ : ol_Xm) (β : ol_Bd) (bp : Nat) (r : Nat) (x1 : Int32) : Option ol_Xm :=
  (ol_og (decide ((ol_xs σ r 13 x1).2.1 r = some bp)) (
    oX3_begins_2_L37 β bp r ol_fuel x1 (ol_xs (ol_xs σ r 13 x1) r 12 ((ol_xs σ r 13 x1).1 r 8 + 2 * β.1 0 2))))
theorem dcX3_begins_2 : yX3_begins_2.cls = RX3 ∧ ol_dc yX3_begins_2 1 := by decide +kernel
theorem wX3_begins_2_L37 {X : ol_Cx} {V : ol_Gh} {A : Nat → Prop} {a : Nat → Nat} {r0 : Option Nat} {ext : va_W} {g : Nat → Nat → Nat} {z : ol_Xm} (hX : ol_CX X V A cX3_begins_2 RX3 "begins" 4 none) (β : ol_Bd) (r : Nat) (hr : ol_isr r) (x1 : Int32) (t q : Nat) : ∀ (n : Nat) (left : Int32) (σ : ol_Xm), oX3_begins_2_L37 β (g 0 0) r n left σ = some z → ol_G X V A true (ol_Pw none (ol_Xc V a r0 z ++ (ol_WB V g β ++ ext))) ({ frames := 6, cells := 2, slots := 4, locals := 150 } : Room) 4 2 4 ((ol_Xc V a r0 σ ++ (ol_WB V g β ++ (ext ++ [(t, .inr (13, [.int x1, .ref (g 0 0)]))]))) ++ [(q, .inr (14, [.int left, .ref t]))]) 37 [some (.ref (a r)), some (.int x1), some (.ref q), none] [] := by
  intro n
  induction n with
  | zero =>
    intro left σ h
    exact ol_no h
  | succ n ih =>
    intro left σ h
    rw [oX3_begins_2_L37] at h
    have ht : ∀ σ : ol_Xm, (t, Sum.inr (13, [Value.int x1, Value.ref (g 0 0)])) ∈ ol_Xc V a r0 σ ++ (ol_WB V g β ++ (ext ++ [(t, Sum.inr (13, [Value.int x1, Value.ref (g 0 0)]))])) := fun σ => List.mem_append_right _ (List.mem_append_right _ (List.mem_append_right _ List.mem_cons_self))
    have hm : (q, Sum.inr (14, [Value.int left, Value.ref t])) ∈ (ol_Xc V a r0 σ ++ (ol_WB V g β ++ (ext ++ [(t, Sum.inr (13, [Value.int x1, Value.ref (g 0 0)]))]))) ++ [(q, Sum.inr (14, [Value.int left, Value.ref t]))] := List.mem_append_right _ List.mem_cons_self
    refine ol_aload_n hX (pc := 37) dX3_begins_2_37 rfl rfl ?_
    refine ol_cFr (As := []) hX (pc := 38) (wX16_hasNext V _ q t left hm) (lw_F q1998 q2002 q2004 q144 q2006) (hX.fw (by decide +kernel) q2000 q1999 q2005 q2003 q2001) dc_xhas ⟨rfl, rfl⟩ ⟨Nat.le_of_ble_eq_true rfl, Nat.le_of_ble_eq_true rfl⟩ hm rfl (fun _ h => h) ⟨Nat.le_refl _, Nat.le_refl _⟩ (Nat.le_of_ble_eq_true rfl) dX3_begins_2_38 rfl ?_
    by_cases c : left = 0
    · have h := ol_ifp c h
      have h := ol_of_some h
      subst h
      rw [if_pos c]
      refine ol_if_eq hX (pc := 43) 73 dX3_begins_2_43 (by decide) (fun _ => ?_) (fun c2 => absurd rfl c2)
      refine ol_Gpre ?_
      refine ol_Geq (show _ = (ol_Xc V a r0 σ ++ (ol_WB V g β ++ ext)) ++ [(t, Sum.inr (13, [Value.int x1, Value.ref (g 0 0)]))] from by simp only [List.append_assoc]) (ol_Gpre ?_)
      exact ol_vret hX (pc := 73) dX3_begins_2_73 ⟨rfl, rfl⟩ ⟨Nat.le_refl _, Nat.le_refl _⟩
    · have h := ol_ifn c h
      rw [if_neg c]
      obtain ⟨k, e1, h⟩ := ol_of_bd h
      obtain ⟨g1, h⟩ := ol_of_og h
      obtain ⟨y, e2, h⟩ := ol_of_bd h
      obtain ⟨g2, h⟩ := ol_of_og h
      refine ol_if_eq hX (pc := 43) 73 dX3_begins_2_43 (by decide) (fun c2 => absurd c2 (by decide)) (fun _ => ?_)
      refine ol_aload_n hX (pc := 46) dX3_begins_2_46 rfl rfl ?_
      refine ol_cFW (As := []) hX (pc := 47) (wX16_next V g β _ q t left x1 k ol_hB_X (ht σ) c e1 g1) (lw_F q2014 q2017 q2019 q144 q2021) (hX.fw (by decide +kernel) q2016 q2015 q2020 q2018 q2001) dc_xnext ⟨Nat.le_of_ble_eq_true rfl, Nat.le_of_ble_eq_true rfl⟩ hm rfl ⟨Nat.le_refl _, Nat.le_refl _⟩ (Nat.le_of_ble_eq_true rfl) dX3_begins_2_47 rfl (fun v w hp => ?_)
      obtain ⟨rfl, rfl⟩ := hp
      refine ol_Geq (show _ = ol_Xc V a r0 σ ++ (ol_WB V g β ++ (ext ++ [(t, Sum.inr (13, [Value.int x1, Value.ref (g 0 0)]))] ++ [(q, Sum.inr (14, [Value.int (left &&& (left - 1)), Value.ref t]))])) from by simp only [List.append_assoc]) ?_
      refine ol_castS hX (pc := 52) q2062 (ol_hB_X.brd (ol_ib_lt g1)) rfl dX3_begins_2_52 ?_
      refine ol_astore_n hX (pc := 55) [some (.ref (a r)), some (.int x1), some (.ref q), some (.ref (g 1 k.toNatClampNeg))] dX3_begins_2_55 rfl (by decide) rfl rfl ?_
      refine ol_aload_n hX (pc := 56) dX3_begins_2_56 rfl rfl ?_
      refine ol_xg_R_6 hX (pc := 57) hr q265 dX3_begins_2_57 ?_
      refine ol_aload_n hX (pc := 60) dX3_begins_2_60 rfl rfl ?_
      refine ol_getNM hX in_X9 (pc := 61) (ol_hB_X.brd (ol_ib_lt g1)) rfl 2 (by decide) q1142 rfl rfl dX3_begins_2_61 ?_
      refine ol_aload_n hX (pc := 64) dX3_begins_2_64 rfl rfl ?_
      refine ol_aload_n hX (pc := 65) dX3_begins_2_65 rfl rfl ?_
      refine ol_cSNr (As := [.ref (a r), .ref (g 1 k.toNatClampNeg)]) hX (pc := 66) (wX1_firstWord V a r0 _ g σ β r k.toNatClampNeg hr y e2) q2063 q1543 q102 q1544 dcX1_firstWord ⟨rfl, rfl⟩ ⟨Nat.le_of_ble_eq_true rfl, Nat.le_of_ble_eq_true rfl⟩ (fun _ h => h) ⟨Nat.le_refl _, Nat.le_refl _⟩ (Nat.le_of_ble_eq_true rfl) dX3_begins_2_66 rfl ?_
      refine ol_xw_R6 hX (pc := 69) hr dX3_begins_2_69 rfl (ol_in_vp g2) ?_
      refine ol_goto hX (pc := 70) 37 dX3_begins_2_70 (by decide) ?_
      refine ol_Gdrop 3 ?_
      refine ol_Geq (show _ = (ol_Xc V a r0 (ol_xs σ (r + 6) (nI k.toNatClampNeg).toNatClampNeg y) ++ (ol_WB V g β ++ (ext ++ [(t, Sum.inr (13, [Value.int x1, Value.ref (g 0 0)]))]))) ++ [(q, Sum.inr (14, [Value.int (left &&& (left - 1)), Value.ref t]))] from by simp only [List.append_assoc]) ?_
      exact ih _ _ h
set_option maxHeartbeats 4000000 in
theorem wX3_begins_2 (V : ol_Gh) (a : Nat → Nat) (r0 : Option Nat) (ext : va_W) (g : Nat → Nat → Nat) (σ : ol_Xm) (β : ol_Bd) (r : Nat) (x1 : Int32) (hr : ol_isr r) (z : ol_Xm) (h : oX3_begins_2 σ β (g 0 0) r x1 = some z) : ol_Mt V yX3_begins_2 cX3_begins_2 4 none ({ frames := 6, cells := 2, slots := 4, locals := 150 } : Room) true [.ref (a r), .int x1] (ol_Xc V a r0 σ ++ (ol_WB V g β ++ ext)) (ol_Pw none (ol_Xc V a r0 z ++ (ol_WB V g β ++ ext))) := by
  unfold oX3_begins_2 at h
  obtain ⟨g1, h⟩ := ol_of_og h
  refine ol_MtOf (L0 := [some (.ref (a r)), some (.int x1), none, none]) (by decide) (Nat.le_of_ble_eq_true rfl) rfl (fun X A hX => ?_)
  refine ol_aload_n hX (pc := 0) dX3_begins_2_0 rfl rfl ?_
  refine ol_iload_n hX (pc := 1) dX3_begins_2_1 rfl rfl ?_
  refine ol_xp_R_13 hX (pc := 2) hr q276 dX3_begins_2_2 ?_
  refine ol_aload_n hX (pc := 5) dX3_begins_2_5 rfl rfl ?_
  refine ol_aload_n hX (pc := 6) dX3_begins_2_6 rfl rfl ?_
  refine ol_xg_R_8 hX (pc := 7) hr q269 dX3_begins_2_7 ?_
  refine ol_iconst hX (pc := 10) 2 dX3_begins_2_10 (by decide) ?_
  refine ol_aload_n hX (pc := 11) dX3_begins_2_11 rfl rfl ?_
  refine ol_xg_R_0 hX (pc := 12) hr q254 (of_decide_eq_true g1) dX3_begins_2_12 ?_
  refine ol_getNM hX in_X6 (pc := 15) ol_hB_X.bus rfl 2 (by decide) q476 rfl rfl dX3_begins_2_15 ?_
  refine ol_imul hX (pc := 18) dX3_begins_2_18 ?_
  refine ol_iadd hX (pc := 19) dX3_begins_2_19 ?_
  refine ol_xp_R_12 hX (pc := 20) hr q275 dX3_begins_2_20 ?_
  refine ol_aload_n hX (pc := 23) dX3_begins_2_23 rfl rfl ?_
  refine ol_xg_R_0 hX (pc := 24) hr q254 (of_decide_eq_true g1) dX3_begins_2_24 ?_
  refine ol_iload_n hX (pc := 27) dX3_begins_2_27 rfl rfl ?_
  refine ol_cVW (As := [.int x1]) hX (pc := 28) (wX6_those V _ (g 0 0) x1) (lw_V q1930 q1931 q1932 q110 q1933) dcX6_those ⟨Nat.le_of_ble_eq_true rfl, Nat.le_of_ble_eq_true rfl⟩ 37 rfl rfl ⟨Nat.le_of_ble_eq_true rfl, Nat.le_of_ble_eq_true rfl⟩ (Nat.le_of_ble_eq_true rfl) dX3_begins_2_28 rfl (fun v w hp => ?_)
  obtain ⟨t, rfl, rfl⟩ := hp
  refine ol_cFW (As := []) hX (pc := 31) (wX15_iterator V _ t x1 (g 0 0) (List.mem_append_right _ List.mem_cons_self)) (lw_F q1950 q1954 q1956 q143 q1958) (hX.fw (by decide +kernel) q1952 q1951 q1957 q1955 q1953) dc_xit ⟨Nat.le_of_ble_eq_true rfl, Nat.le_of_ble_eq_true rfl⟩ (List.mem_append_right _ List.mem_cons_self) rfl ⟨Nat.le_of_ble_eq_true rfl, Nat.le_of_ble_eq_true rfl⟩ (Nat.le_of_ble_eq_true rfl) dX3_begins_2_31 rfl (fun v w hp => ?_)
  obtain ⟨q, rfl, rfl⟩ := hp
  refine ol_astore_n hX (pc := 36) [some (.ref (a r)), some (.int x1), some (.ref q), none] dX3_begins_2_36 rfl (by decide) rfl rfl ?_
  refine ol_Geq (show _ = (ol_Xc V a r0 (ol_xs (ol_xs σ r 13 x1) r 12 ((ol_xs σ r 13 x1).1 r 8 + 2 * β.1 0 2)) ++ (ol_WB V g β ++ (ext ++ [(t, Sum.inr (13, [Value.int x1, Value.ref (g 0 0)]))]))) ++ [(q, Sum.inr (14, [Value.int x1, Value.ref t]))] from by simp only [List.append_assoc]) ?_
  exact wX3_begins_2_L37 hX β r hr x1 t q ol_fuel x1 _ h
