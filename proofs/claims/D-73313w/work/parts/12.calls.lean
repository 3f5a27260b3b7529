/-! CALLS over ol_G -/
set_option maxRecDepth 100000
/-- the post of a reader: what it answers -/
def ol_Pr (v0 : Option Value) : Option Value → va_W → Prop := fun v _ => v = v0
/-- the post of a writer: what it answers, and the world behind it -/
def ol_Pw (v0 : Option Value) (w0 : va_W) : Option Value → va_W → Prop := fun v w => v = v0 ∧ w = w0
section OLC0
variable {p : Program} {l : Launch} {e : Env} {R : Room} {s : State} {m : MethodId} {args : Array Value} {below : List Frame} {meth : Method} {c : Code} {H : Heap} {locs : List Loc} {cells slots : Nat} {Q : State → Prop}
variable {pc : Nat} {ls : Array Slot} {rest st0 : List Value} {a : Array Value} {A A1 : Nat → Prop} {mc ms : Nat} {V : ol_Gh}
theorem ol_Wr {v0 : Option Value} (hr : va_Run p l e R s m args below meth c H locs cells slots mc ms (F0 m pc ls st0) rest (ol_GQ V false A1 (ol_Pr v0) a) (ol_Fr false A1)) (hmc : mc = 0) (hms : ms = 0)
    (kk : W p l e R s m args below meth c H locs cells slots Q (F0 m (pc + 3) ls (v0.toList ++ rest))) : W p l e R s m args below meth c H locs cells slots Q (F0 m pc ls st0) := by
  subst hmc; subst hms
  intro T hT X
  obtain ⟨v, st₀, t, T', L, h0, X', hL, e1, e2, ⟨⟨v', w, hv, hp, -, -⟩, hz, -⟩, st⟩ := hr T hT X
  cases hv
  have hp : v = v0 := hp
  subst hp
  have hL0 : L = [] := by
    cases L with
    | nil => rfl
    | cons x t => exact absurd (hL x List.mem_cons_self).1 (by decide)
  subst hL0
  rw [List.append_nil] at X'
  have hz := hz rfl
  obtain ⟨t2, a1, b1⟩ := kk T' (by rw [e1, hz, h0]) X'
  exact ⟨t2, st t2 a1, b1⟩
theorem ol_Ww {P' : Option Value → va_W → Prop} (hr : va_Run p l e R s m args below meth c H locs cells slots mc ms (F0 m pc ls st0) rest (ol_GQ V true A1 P' a) (ol_Fr true A1)) (hS : va_S A s.heap H locs) (hA : ∀ q, A1 q → A q)
    (kk : ∀ (v : Option Value) (w : va_W) (H1 : Heap) (locs1 : List Loc), P' v w → va_P V.2.2.2.1 ol_cl w H1 → va_D A1 w → H.size ≤ H1.size → (∀ q : Nat, q < H.size → ¬ A1 q → H1[q]? = H[q]?) → va_S A s.heap H1 locs1 → W p l e R s m args below meth c H1 locs1 (cells + mc) (slots + ms) Q (F0 m (pc + 3) ls (v.toList ++ rest))) : W p l e R s m args below meth c H locs cells slots Q (F0 m pc ls st0) := by
  intro T hT X
  obtain ⟨v, st₀, t, T', L, h0, X', hL, e1, e2, ⟨⟨v', w, hv, hp, hP, hD⟩, -, hF⟩, st⟩ := hr T hT X
  cases hv
  obtain ⟨hz, hk⟩ := hF rfl
  rw [h0] at hz hk
  obtain ⟨t2, a1, b1⟩ := kk v w T'.heap (locs ++ L) hp (by rw [e1]; exact hP) (hD rfl) (by rw [e1]; exact hz) (fun q h1 h2 => by rw [e1]; exact hk q h1 h2)
    ⟨Nat.le_trans hS.1 (by rw [e1]; exact hz), fun q h1 h2 => by rw [e1, hk q (Nat.lt_of_lt_of_le h1 hS.1) (fun z => h2 (hA q z))]; exact hS.2.1 q h1 h2, fun q hq => by
      rcases List.mem_append.mp hq with h | h
      · exact hS.2.2 q h
      · exact hA _ (hL q h).2⟩ T' rfl X'
  exact ⟨t2, st t2 a1, b1⟩
end OLC0
section OLC
variable {X : ol_Cx} {V : ol_Gh} {A : Nat → Prop} {cc : ByteArray} {own nm : String} {nL : Nat} {ret : Option FieldType} {md : Bool} {P : Option Value → va_W → Prop} {rm : Room} {cells slots : Nat} {ws : va_W} {pc : Nat} {L : List (Option Value)} {st stk : List Value}
variable {y : MethodName} {bytes : ByteArray} {mL : Nat} {rt : Option FieldType} {r' : Room} {b : Nat} {As : List Value} {w0 : va_W} {v0 : Option Value} {C : String} {index q0 ci : Nat} {fs : List Value} {T : u_T} {N : Nat} {P' : Option Value → va_W → Prop}
/-- what a callee's name says: its class, how many arguments -/
abbrev ol_dc (y : MethodName) (n : Nat) : Prop := y.cls ≠ "java/lang/invoke/MethodHandle" ∧ y.cls ≠ "java/lang/invoke/VarHandle" ∧ (parseMethodDescriptor y.desc).map (fun d => d.parameters.length) = some n
/-- the callee's room in the caller's -/
def ol_rr (r' rm : Room) (mL : Nat) : Prop := r'.frames + 1 ≤ rm.frames ∧ 8 + (mL + 11) + r'.locals ≤ rm.locals
theorem ol_PCat {H : Heap} {locs : List Loc} (hX : ol_CX X V A cc own nm nL ret) (hH : ol_HC V md A X.2.2.1 ws H locs) {md' : Bool} (hP : va_P V.2.2.2.1 ol_cl w0 H) (hD : md' = true → va_D A w0) (U : State) (hU : U.heap = H) (hW : X.2.2.1.WarmedH U.vm) : ol_PC V md' H.size w0 U :=
  ⟨by rw [hU], by rw [hU]; exact hP, fun h => (hD h).weaken (fun _ _ _ z => hX.A0 _ z), hX.Z.at hH.S hX.A0 hU hW⟩
/-- a reader, called through an object of the world -/
theorem ol_cVr (hX : ol_CX X V A cc own nm nL ret) (hM : ol_Mt V y bytes mL rt r' false (.ref b :: As) w0 (ol_Pr v0)) (hw : GoodIn lw_all (wsV own index C y (ws_ y bytes mL rt))) (hd1 : y.cls = C ∧ ol_dc y As.length) (h0 : r'.cells = 0 ∧ r'.slots = 0) (hrm : ol_rr r' rm mL) (q0 : Nat) (hrv : ws[q0]? = some (b, .inr (ci, fs))) (hci : ol_cl[ci]? = some (C, T, N))
    (hsub : ∀ H, va_P V.2.2.2.1 ol_cl ws H → va_P V.2.2.2.1 ol_cl w0 H) (hcs : cells ≤ rm.cells ∧ slots ≤ rm.slots) (hst : (st.map fun v => v.category).sum ≤ 8) (hd : decode cc pc = .ok (.invokevirtual index, 3)) (hstk : stk = As.reverse ++ .ref b :: st) (k : ol_G X V A md P rm nL cells slots ws (pc + 3) L (v0.toList ++ st)) : ol_G X V A md P rm nL cells slots ws pc L stk := fun H locs ls hH hL => by
  subst hstk
  refine ol_Wr (va_runV (As := As) (rest := st) ⟨hX.x, hX.b, hX.ml, hX.ow, hX.ts⟩ (hM H.size) (cwV (rm := r') As.length hX.ts hw rfl rfl rfl hd1 hrm) ⟨ol_PC_blind, va_recv hX.K hH.1 hci hrv, fun U hU hW => ⟨rfl, ol_PCat hX hH (hsub H hH.1) (fun h => by cases h) U hU hW⟩⟩ rfl rfl hL.1 rfl (lv_room hst) hd ⟨by rw [h0.1]; exact hcs.1, by rw [h0.2]; exact hcs.2⟩) h0.1 h0.2 (k H locs ls hH hL)
/-- a static reader -/
theorem ol_cSr (hX : ol_CX X V A cc own nm nL ret) (hM : ol_Mt V y bytes mL rt r' false As w0 (ol_Pr v0)) (hw : GoodIn lw_all (va_wsS own index y (ws_ y bytes mL rt))) (hd1 : ol_dc y As.length) (h0 : r'.cells = 0 ∧ r'.slots = 0) (hrm : ol_rr r' rm mL)
    (hsub : ∀ H, va_P V.2.2.2.1 ol_cl ws H → va_P V.2.2.2.1 ol_cl w0 H) (hcs : cells ≤ rm.cells ∧ slots ≤ rm.slots) (hst : (st.map fun v => v.category).sum ≤ 8) (hd : decode cc pc = .ok (.invokestatic index, 3)) (hstk : stk = As.reverse ++ st) (k : ol_G X V A md P rm nL cells slots ws (pc + 3) L (v0.toList ++ st)) : ol_G X V A md P rm nL cells slots ws pc L stk := fun H locs ls hH hL => by
  subst hstk
  refine ol_Wr (va_runS (As := As) (rest := st) ⟨hX.x, hX.b, hX.ml, hX.ow, hX.ts⟩ (hM H.size) (va_cwS (rm := r') As.length hX.ts hw rfl rfl rfl hd1 hrm) ⟨ol_PC_blind, fun U hU hW => ⟨rfl, ol_PCat hX hH (hsub H hH.1) (fun h => by cases h) U hU hW⟩⟩ rfl rfl hL.1 rfl (lv_room hst) hd ⟨by rw [h0.1]; exact hcs.1, by rw [h0.2]; exact hcs.2⟩) h0.1 h0.2 (k H locs ls hH hL)
theorem ol_freeW {H : Heap} {locs : List Loc} (hX : ol_CX X V A cc own nm nL ret) (hH : ol_HC V true A X.2.2.1 ws H locs) : ∀ q, va_A ws H.size q → A q := by
  intro q h
  rcases h with ⟨k, e, h⟩ | h
  · exact (hH.2.2 rfl).1.2 k (q, e) h
  · exact hX.Aa q (Nat.le_trans (hH.2.2 rfl).2.1 h)
/-- a writer of the whole world, called through an object of the world -/
theorem ol_cVW (hX : ol_CX X V A cc own nm nL ret) (hM : ol_Mt V y bytes mL rt r' true (.ref b :: As) ws P') (hw : GoodIn lw_all (wsV own index C y (ws_ y bytes mL rt))) (hd1 : y.cls = C ∧ ol_dc y As.length) (hrm : ol_rr r' rm mL) (q0 : Nat) (hrv : ws[q0]? = some (b, .inr (ci, fs))) (hci : ol_cl[ci]? = some (C, T, N))
    (hcs : cells + r'.cells ≤ rm.cells ∧ slots + r'.slots ≤ rm.slots) (hst : (st.map fun v => v.category).sum ≤ 8) (hd : decode cc pc = .ok (.invokevirtual index, 3)) (hstk : stk = As.reverse ++ .ref b :: st) (k : ∀ (v : Option Value) (w : va_W), P' v w → ol_G X V A true P rm nL (cells + r'.cells) (slots + r'.slots) w (pc + 3) L (v.toList ++ st)) : ol_G X V A true P rm nL cells slots ws pc L stk := fun H locs ls hH hL => by
  subst hstk
  have hF := ol_freeW hX hH
  refine ol_Ww (va_runV (As := As) (rest := st) ⟨hX.x, hX.b, hX.ml, hX.ow, hX.ts⟩ (hM H.size) (cwV (rm := r') As.length hX.ts hw rfl rfl rfl hd1 hrm) ⟨ol_PC_blind, va_recv hX.K hH.1 hci hrv, fun U hU hW => ⟨rfl, ol_PCat hX hH hH.1 (fun _ => (hH.2.2 rfl).1) U hU hW⟩⟩ rfl rfl hL.1 rfl (lv_room hst) hd hcs) (hH.2.2 rfl).2 hF (fun v w H1 locs1 hp hP hD hz hk hS => k v w hp H1 locs1 ls ⟨hP, (fun h => by cases h), fun _ => ⟨hD.weaken (fun _ _ _ z => hF _ z), hS⟩⟩ hL)
theorem ol_cVw {w1 : va_W} (hX : ol_CX X V A cc own nm nL ret) (hM : ol_Mt V y bytes mL rt r' true (.ref b :: As) ws (ol_Pw v0 w1)) (hw : GoodIn lw_all (wsV own index C y (ws_ y bytes mL rt))) (hd1 : y.cls = C ∧ ol_dc y As.length) (hrm : ol_rr r' rm mL) (q0 : Nat) (hrv : ws[q0]? = some (b, .inr (ci, fs))) (hci : ol_cl[ci]? = some (C, T, N))
    (hcs : cells + r'.cells ≤ rm.cells ∧ slots + r'.slots ≤ rm.slots) (hst : (st.map fun v => v.category).sum ≤ 8) (hd : decode cc pc = .ok (.invokevirtual index, 3)) (hstk : stk = As.reverse ++ .ref b :: st) (k : ol_G X V A true P rm nL (cells + r'.cells) (slots + r'.slots) w1 (pc + 3) L (v0.toList ++ st)) : ol_G X V A true P rm nL cells slots ws pc L stk :=
  ol_cVW hX hM hw hd1 hrm q0 hrv hci hcs hst hd hstk (fun v w h => by obtain ⟨h1, h2⟩ := h; subst h1; subst h2; exact k)
end OLC
/-! what a pure picture of a method is made of -/
def ol_og {α : Type} (c : Bool) (x : Option α) : Option α := match c with
  | true => x
  | false => none
/-- in range -/
def ol_in (i : Int32) (n : Nat) : Bool := decide (0 ≤ i.toInt) && decide (i.toInt < n)
/-- 0 or 1 -/
def ol_zb (x : Int32) : Bool := x == 0 || x == 1
theorem ol_of_og {α : Type} {c : Bool} {x : Option α} {z : α} (h : ol_og c x = some z) : c = true ∧ x = some z := by
  cases c with
  | true => exact ⟨rfl, h⟩
  | false => cases h
theorem ol_of_bd {α β : Type} {x : Option α} {f : α → Option β} {z : β} (h : x.bind f = some z) : ∃ y, x = some y ∧ f y = some z := by
  cases x with
  | none => cases h
  | some y => exact ⟨y, rfl, h⟩
theorem ol_of_some {α : Type} {x z : α} (h : some x = some z) : x = z := Option.some.inj h
theorem ol_no {α : Type} {z : α} {C : Prop} (h : (none : Option α) = some z) : C := by cases h
theorem ol_ifp {α : Type} {c : Prop} {inst : Decidable c} {a b z : α} (hc : c) (h : @ite α c inst a b = z) : a = z := by rw [if_pos hc] at h; exact h
theorem ol_ifn {α : Type} {c : Prop} {inst : Decidable c} {a b z : α} (hc : ¬ c) (h : @ite α c inst a b = z) : b = z := by rw [if_neg hc] at h; exact h
theorem ol_in_vp {i : Int32} {n : Nat} (h : ol_in i n = true) : vp_in i n := by
  simp only [ol_in, Bool.and_eq_true, decide_eq_true_eq] at h
  exact vp_in_iff.mpr h
theorem ol_zb_or {x : Int32} (h : ol_zb x = true) : x = 0 ∨ x = 1 := by
  simpa [ol_zb] using h
theorem ol_zb_nar {x : Int32} (h : ol_zb x = true) : narrow .boolean (.int x) = .int x := by
  rcases ol_zb_or h with rfl | rfl <;> rfl
theorem ol_zb_fit {x : Int32} (h : ol_zb x = true) : fits .boolean (.int x) = true := by
  rcases ol_zb_or h with rfl | rfl <;> rfl
theorem ol_zb_vp {x : Int32} (h : ol_zb x = true) : vp_nar .boolean x = x := by
  rcases ol_zb_or h with rfl | rfl <;> rfl
