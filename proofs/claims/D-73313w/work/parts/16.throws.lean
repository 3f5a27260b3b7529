/-! THROWS over ol_G: athrow, calls of methods that may throw -/
set_option maxRecDepth 100000
theorem ol_recvN {V : ol_Gh} {U : State} {H : Heap} {ws : va_W} {a ci : Nat} {fs : List Value} {C : String} {T : u_T} {N : Nat} (hK : ol_Kv V U) (hP : va_P V.2.2.2.1 ol_cl ws H) (hc : ol_cl[ci]? = some (C, T, N)) (he : (a, .inr (ci, fs)) ∈ ws) : ∃ cell : Cell, H[a]? = some cell ∧ cell.vm = .none ∧ U.vm.findClass C = some cell.cls := by
  obtain ⟨q0, he⟩ := List.getElem?_of_mem he
  obtain ⟨q', h1, cell, g1, g2, g3, -⟩ := hP q0 _ he
  exact ⟨cell, g1, g3, by rw [g2]; exact (hK.1 ci _ hc).2.1⟩
section OLX0
variable {p : Program} {l : Launch} {e : Env} {R : Room} {s : State} {m : MethodId} {args : Array Value} {below : List Frame} {meth : Method} {c : Code} {H : Heap} {locs : List Loc} {cells slots : Nat} {Q : State → Prop}
variable {pc : Nat} {ls : Array Slot} {rest st0 : List Value} {a : Array Value} {A A1 : Nat → Prop} {mc ms : Nat} {V : ol_Gh}
theorem ol_Xw {P' : Option Value → va_W → Prop} {PX' : String → Nat → va_W → Prop} (hr : vq_Run p l e R s m args below meth c H locs cells slots mc ms (F0 m pc ls st0) rest (ol_GQ V true A1 P' a) (ol_XC V A1 PX') (ol_Fr true A1)) (hS : va_S A s.heap H locs) (hA : ∀ q, A1 q → A q)
    (kx : ∀ (E : String) (ce : Cell) (q9 : Nat) (w : va_W) (H1 : Heap) (locs1 : List Loc), PX' E q9 w → va_P V.2.2.2.1 ol_cl w H1 → va_D A1 w → H.size ≤ H1.size → (∀ q : Nat, q < H.size → ¬ A1 q → H1[q]? = H[q]?) → va_S A s.heap H1 locs1 → H1[q9]? = some ce → ce.vm = .none → s.vm.findClass E = some ce.cls → vx_W p l e R s m args below meth c H1 locs1 (cells + mc) (slots + ms) Q (F0 m pc ls rest) q9)
    (kk : ∀ (v : Option Value) (w : va_W) (H1 : Heap) (locs1 : List Loc), P' v w → va_P V.2.2.2.1 ol_cl w H1 → va_D A1 w → H.size ≤ H1.size → (∀ q : Nat, q < H.size → ¬ A1 q → H1[q]? = H[q]?) → va_S A s.heap H1 locs1 → W p l e R s m args below meth c H1 locs1 (cells + mc) (slots + ms) Q (F0 m (pc + 3) ls (v.toList ++ rest))) : W p l e R s m args below meth c H locs cells slots Q (F0 m pc ls st0) := by
  intro T hT X
  rcases hr T hT X with ⟨v, st₀, t, T', L, h0, X', hL, e1, e2, ⟨⟨v', w, hv, hp, hP, hD⟩, -, hF⟩, st⟩ | ⟨q9, st₀, t, T', L, E, ce, h0, X', hL, e1, e2, ⟨w, hp, hP, hD, hF⟩, hce, hcv, hcl, st⟩
  · cases hv
    obtain ⟨hz, hk⟩ := hF rfl
    rw [h0] at hz hk
    obtain ⟨t2, a1, b1⟩ := kk v w T'.heap (locs ++ L) hp (by rw [e1]; exact hP) (hD rfl) (by rw [e1]; exact hz) (fun q h1 h2 => by rw [e1]; exact hk q h1 h2)
      ⟨Nat.le_trans hS.1 (by rw [e1]; exact hz), fun q h1 h2 => by rw [e1, hk q (Nat.lt_of_lt_of_le h1 hS.1) (fun z => h2 (hA q z))]; exact hS.2.1 q h1 h2, fun q hq => by
        rcases List.mem_append.mp hq with h | h
        · exact hS.2.2 q h
        · exact hA _ (hL q h).2⟩ T' rfl X'
    exact ⟨t2, st t2 a1, b1⟩
  · obtain ⟨hz, hk⟩ := hF
    rw [h0] at hz hk
    obtain ⟨t2, a1, b1⟩ := kx E ce q9 w T'.heap (locs ++ L) hp (by rw [e1]; exact hP) hD (by rw [e1]; exact hz) (fun q h1 h2 => by rw [e1]; exact hk q h1 h2)
      ⟨Nat.le_trans hS.1 (by rw [e1]; exact hz), fun q h1 h2 => by rw [e1, hk q (Nat.lt_of_lt_of_le h1 hS.1) (fun z => h2 (hA q z))]; exact hS.2.1 q h1 h2, fun q hq => by
        rcases List.mem_append.mp hq with h | h
        · exact hS.2.2 q h
        · exact hA _ (hL q h).2⟩ (by rw [e1]; exact hce) hcv hcl T' rfl X'
    exact ⟨t2, st.trans a1, b1⟩
end OLX0
section OLX
variable {X : ol_Cx} {V : ol_Gh} {A : Nat → Prop} {cc : ByteArray} {own nm : String} {nL : Nat} {ret : Option FieldType} {P : Option Value → va_W → Prop} {PX : String → Nat → va_W → Prop} {rm : Room} {cells slots : Nat} {ws : va_W} {pc : Nat} {L : List (Option Value)} {st stk : List Value}
variable {y : MethodName} {bytes : ByteArray} {mL : Nat} {rt : Option FieldType} {r' : Room} {b : Nat} {As : List Value} {C : String} {index ci : Nat} {fs : List Value} {T : u_T} {N : Nat} {P' : Option Value → va_W → Prop} {PX' : String → Nat → va_W → Prop}
theorem ol_athrow (hX : ol_CX X V A cc own nm nL ret) (hpx : X.2.2.2.2.2.2.2.2 = some PX) {q : Nat} (he : (q, .inr (ci, fs)) ∈ ws) (hci : ol_cl[ci]? = some (C, T, N)) (hp : PX C q ws) (hcs : cells ≤ rm.cells ∧ slots ≤ rm.slots) (hd : decode cc pc = .ok (.athrow, 1)) : ol_G X V A true P rm nL cells slots ws pc L (.ref q :: st) := fun H locs ls hH hL => by
  obtain ⟨cell, h1, h2, h3⟩ := ol_recvN hX.K hH.1 hci he
  have hS := (hH.2.2 rfl).2
  rw [ol_MQx hpx]
  exact vx_athrow hX.x hX.b hd (vq_out (fun x hx => (hX.nt hpx x hx).elim) hX.lk h1 h2 h3 (fun t ht hW => ⟨ws, hp, by rw [ht]; exact hH.1, (hH.2.2 rfl).1, hS.F ht⟩) (fun z hz => ⟨rfl, hS.2.2 z hz⟩) hcs.1 hcs.2)
/-- a method that may throw, over the whole world, called through an object of it; what it throws goes on to the caller -/
theorem ol_cVX (hX : ol_CX X V A cc own nm nL ret) (hpx : X.2.2.2.2.2.2.2.2 = some PX) (hM : ol_Mx V y bytes mL rt r' (.ref b :: As) ws P' PX') (hw : GoodIn lw_all (wsV own index C y (ws_ y bytes mL rt))) (hd1 : y.cls = C ∧ ol_dc y As.length) (hrm : ol_rr r' rm mL) (hrv : (b, .inr (ci, fs)) ∈ ws) (hci : ol_cl[ci]? = some (C, T, N))
    (hcs : cells + r'.cells ≤ rm.cells ∧ slots + r'.slots ≤ rm.slots) (hst : (st.map fun v => v.category).sum ≤ 8) (hd : decode cc pc = .ok (.invokevirtual index, 3)) (hstk : stk = As.reverse ++ .ref b :: st) (kx : ∀ (E : String) (q : Nat) (w : va_W), PX' E q w → PX E q w) (k : ∀ (v : Option Value) (w : va_W), P' v w → ol_G X V A true P rm nL (cells + r'.cells) (slots + r'.slots) w (pc + 3) L (v.toList ++ st)) : ol_G X V A true P rm nL cells slots ws pc L stk := fun H locs ls hH hL => by
  subst hstk
  have hF := ol_freeW hX hH
  obtain ⟨q0, hrv⟩ := List.getElem?_of_mem hrv
  refine ol_Xw (vq_runV (As := As) (rest := st) ⟨hX.x, hX.b, hX.ml, hX.ow, hX.ts⟩ (hM H.size) (cwV (rm := r') As.length hX.ts hw rfl rfl rfl hd1 hrm) ⟨ol_PC_blind, va_recv hX.K hH.1 hci hrv, fun U hU hW => ⟨rfl, ol_PCat hX hH hH.1 (fun _ => (hH.2.2 rfl).1) U hU hW⟩⟩ rfl rfl hL.1 rfl (lv_room hst) hd hcs) (hH.2.2 rfl).2 hF (fun E ce q9 w H1 locs1 hp hP hD hz hk hS hce hcv hcl => ?_) (fun v w H1 locs1 hp hP hD hz hk hS => k v w hp H1 locs1 ls ⟨hP, (fun h => by cases h), fun _ => ⟨hD.weaken (fun _ _ _ z => hF _ z), hS⟩⟩ hL)
  rw [ol_MQx hpx]
  exact vq_out (fun x hx => (hX.nt hpx x hx).elim) hX.lk hce hcv hcl (fun t ht hW => ⟨w, kx E q9 w hp, by rw [ht]; exact hP, hD.weaken (fun _ _ _ z => hF _ z), hS.F ht⟩) (fun z hz => ⟨rfl, hS.2.2 z hz⟩) hcs.1 hcs.2
end OLX
