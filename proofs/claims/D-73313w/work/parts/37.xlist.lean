/-! rows for arrays of references; java.util.ArrayList: add with room, remove, clear -/
set_option maxRecDepth 100000
section OLQ
variable {X : ol_Cx} {V : ol_Gh} {A : Nat → Prop} {cc : ByteArray} {own nm : String} {nL : Nat} {ret : Option FieldType} {md : Bool} {P : Option Value → va_W → Prop} {rm : Room} {cells slots : Nat} {ws : va_W} {pc : Nat} {L : List (Option Value)} {st stk : List Value}
/-- a field inherited, under the name by which javac spells it -/
theorem ol_getS (hX : ol_CX X V A cc own nm nL ret) {ref C : String} {T : u_T} {N ci index a : Nat} (hin : ∀ w ∈ u_ws C T N, w ∈ lw_all) (q0 : Nat) {fs : List Value} (he : ws[q0]? = some (a, .inr (ci, fs))) (hc : ol_cl[ci]? = some (C, T, N)) (j : Nat) (hj : j < N) (hlink : Cond.fieldLink own index ref (T j).2.1 (T j).2.2.1 ∈ lw_all) (hsame : Cond.sameField ref (T j).1 (T j).2.1 (T j).2.2.1 ∈ lw_all) {v : Value} (hv : fs[j]? = some v) (hd : decode cc pc = .ok (.getfield index, 3)) (k : ol_G X V A md P rm nL cells slots ws (pc + 3) L (v :: st)) : ol_G X V A md P rm nL cells slots ws pc L (.ref a :: st) := fun H locs ls hH hL =>
  va_get hX.x hX.b hX.ts hin hX.ow hX.K hH.1 q0 he hc j hj (hX.ts _ hlink) (fun x hx => u_same (hX.ts _ hsame) x hx) hv hd (k H locs ls hH hL)
theorem ol_putS (hX : ol_CX X V A cc own nm nL ret) {ref C : String} {T : u_T} {N ci index a : Nat} (hin : ∀ w ∈ u_ws C T N, w ∈ lw_all) (ty0 : Nat → FieldType) (hty : ∀ k, k < N → parseFieldDescriptor (T k).2.2.1 = some (ty0 k)) (hnm : ∀ a, a < N → ∀ b, b < N → a ≠ b → (T a).2.1 ≠ (T b).2.1) (q0 : Nat) {fs : List Value} (he : ws[q0]? = some (a, .inr (ci, fs))) (hc : ol_cl[ci]? = some (C, T, N)) (j : Nat) (hj : j < N) (hlink : Cond.fieldLink own index ref (T j).2.1 (T j).2.2.1 ∈ lw_all) (hsame : Cond.sameField ref (T j).1 (T j).2.1 (T j).2.2.1 ∈ lw_all) (hfin : (T j).2.2.2 = false) {v : Value} (hn : narrow (ty0 j) v = v) (hfit : fits (ty0 j) v = true) (hl : j < fs.length) (hd : decode cc pc = .ok (.putfield index, 3)) {ws' : va_W} (hws : ws.set q0 (a, .inr (ci, fs.set j v)) = ws') (k : ol_G X V A true P rm nL cells slots ws' (pc + 3) L st) : ol_G X V A true P rm nL cells slots ws pc L (v :: .ref a :: st) := fun H locs ls hH hL =>
  va_put hX.x hX.b hX.ts hin ty0 hty hnm hX.ow hX.K hH.1 (hH.2.2 rfl).1 (hH.2.2 rfl).2 q0 he hc j hj (hX.ts _ hlink) (fun x hx => u_same (hX.ts _ hsame) x hx) hfin (hty j hj) hn hfit hl hd (fun H1 locs1 hP hD hS => by subst hws; exact k H1 locs1 ls ⟨hP, (fun h => by cases h), fun _ => ⟨hD, hS⟩⟩ hL)
theorem ol_alenO (hX : ol_CX X V A cc own nm nL ret) (q0 : Nat) {a : Nat} {x : vp_A} (ha : ws[q0]? = some (a, .inl (V.2.2.2.2 4, x))) {v : Int32} (hv : Int32.ofNat x.1 = v) (hd : decode cc pc = .ok (.arraylength, 1)) (k : ol_G X V A md P rm nL cells slots ws (pc + 1) L (.int v :: st)) : ol_G X V A md P rm nL cells slots ws pc L (.ref a :: st) := fun H locs ls hH hL => va_alen hX.x hX.b hX.K hH.1 q0 4 ha rfl hv hd (k H locs ls hH hL)
theorem ol_aast (hX : ol_CX X V A cc own nm nL ret) (q0 qk : Nat) {ci a n v N : Nat} {C : String} {T : u_T} {vs : List Value} {f : Nat → Option Nat} (ha : ws[q0]? = some (a, .inl (V.2.2.2.2 4, n, ol_refs f))) (hv : ws[qk]? = some (v, .inr (ci, vs))) (hc : ol_cl[ci]? = some (C, T, N)) (hca : Cond.castable C "java/lang/Object" ∈ lw_tbl) {i : Int32} (hin : vp_in i n) (hd : decode cc pc = .ok (.aastore, 1)) {ws' : va_W} (hws : ws.set q0 (a, .inl (V.2.2.2.2 4, n, ol_refs (va_up f i.toNatClampNeg (some v)))) = ws') (k : ol_G X V A true P rm nL cells slots ws' (pc + 1) L st) : ol_G X V A true P rm nL cells slots ws pc L (.ref v :: .int i :: .ref a :: st) := fun H locs ls hH hL =>
  va_astqO hX.x hX.b hX.K hH.1 (hH.2.2 rfl).1 (hH.2.2 rfl).2 q0 4 qk ci (r := (C, T, N)) ha rfl (hX.nwC hca) hv hc hin hd (fun H1 locs1 hP hD hS => by subst hws; exact k H1 locs1 ls ⟨hP, (fun h => by cases h), fun _ => ⟨hD, hS⟩⟩ hL)
theorem ol_aastN (hX : ol_CX X V A cc own nm nL ret) (q0 : Nat) {a n : Nat} {f : Nat → Option Nat} (ha : ws[q0]? = some (a, .inl (V.2.2.2.2 4, n, ol_refs f))) {i : Int32} (hin : vp_in i n) (hd : decode cc pc = .ok (.aastore, 1)) {ws' : va_W} (hws : ws.set q0 (a, .inl (V.2.2.2.2 4, n, ol_refs (va_up f i.toNatClampNeg none))) = ws') (k : ol_G X V A true P rm nL cells slots ws' (pc + 1) L st) : ol_G X V A true P rm nL cells slots ws pc L (.null :: .int i :: .ref a :: st) := fun H locs ls hH hL =>
  va_astqN hX.x hX.b hX.K hH.1 (hH.2.2 rfl).1 (hH.2.2 rfl).2 q0 4 ha rfl hin hd (fun H1 locs1 hP hD hS => by subst hws; exact k H1 locs1 ls ⟨hP, (fun h => by cases h), fun _ => ⟨hD, hS⟩⟩ hL)
/-- references copied within one Object[], all of one class -/
theorem ol_copyQ (hX : ol_CX X V A cc own nm nL ret) (q0 : Nat) {index ci a n N : Nat} {C : String} {T : u_T} {f : Nat → Option Nat} (hl : Cond.methodLink own index arraycopyName ∈ lw_all) (ha : ws[q0]? = some (a, .inl (V.2.2.2.2 4, n, ol_refs f))) (hc : ol_cl[ci]? = some (C, T, N)) (hca : Cond.castable C "java/lang/Object" ∈ lw_tbl) {sp dp m : Int32} (h1 : ¬ sp < 0) (h2 : ¬ dp < 0) (h3 : ¬ m < 0) (h4 : sp.toNatClampNeg + m.toNatClampNeg ≤ n) (h5 : dp.toNatClampNeg + m.toNatClampNeg ≤ n) (hel : ∀ i : Nat, i < m.toNatClampNeg → ∀ y : Nat, f (sp.toNatClampNeg + i) = some y → ∃ vs : List Value, (y, .inr (ci, vs)) ∈ ws) (hf : 1 ≤ rm.frames) (hlo : (st.map fun v => v.category).sum + 30 ≤ rm.locals) (hd : decode cc pc = .ok (.invokestatic index, 3)) {ws' : va_W} (hws : ws.set q0 (a, .inl (V.2.2.2.2 4, n, ol_refs (va_cpy f f sp.toNatClampNeg dp.toNatClampNeg m.toNatClampNeg))) = ws') (k : ol_G X V A true P rm nL cells slots ws' (pc + 3) L st) : ol_G X V A true P rm nL cells slots ws pc L (.int m :: .int dp :: .ref a :: .int sp :: .ref a :: st) := fun H locs ls hH hL =>
  va_copyq hX.x hX.b (by rw [hX.ml]; exact hL.1.symm) hX.ow (hX.ts _ hl) (hX.ts _ q1200) (hX.ts _ q1199) (hX.ts _ q133) hX.K hH.1 (hH.2.2 rfl).1 (hH.2.2 rfl).2 q0 q0 4 4 (C := C) ha ha rfl rfl h1 h2 h3 h4 h5 (fun i hi y hy => by
    obtain ⟨vs, hv⟩ := hel i hi y hy
    obtain ⟨qk, hv⟩ := List.getElem?_of_mem hv
    exact va_recv hX.K hH.1 hc hv) (vb_asgC (hX.nwC hca)) hf (Nat.le_trans (Nat.add_le_add_left (by decide +kernel) _) hlo) hd (fun H1 locs1 hP hD hS => by subst hws; exact k H1 locs1 ls ⟨hP, (fun h => by cases h), fun _ => ⟨hD, hS⟩⟩ hL)
end OLQ
theorem dcJ2_add : yJ2_add.cls = RJ2 ∧ ol_dc yJ2_add 1 := by decide +kernel
theorem dcJ2_add_2 : yJ2_add_2.cls = RJ2 ∧ ol_dc yJ2_add_2 3 := by decide +kernel
theorem dcJ2_remove : yJ2_remove.cls = RJ2 ∧ ol_dc yJ2_remove 1 := by decide +kernel
theorem dcJ2_fastRemove : yJ2_fastRemove.cls = RJ2 ∧ ol_dc yJ2_fastRemove 2 := by decide +kernel
theorem dcJ2_clear : yJ2_clear.cls = RJ2 ∧ ol_dc yJ2_clear 0 := by decide +kernel
/-- a list, its array, one object more -/
def ol_Ls (V : ol_Gh) (l d cap : Nat) (m n : Int32) (f : Nat → Option Nat) (es : va_W) : va_W := (l, .inr (15, [.int m, .ref d, .int n])) :: (d, .inl (V.2.2.2.2 4, cap, ol_refs f)) :: es
set_option maxHeartbeats 4000000 in
theorem wJ2_add_2 (V : ol_Gh) (l d cap y ci N : Nat) (C : String) (T : u_T) (m n : Int32) (f : Nat → Option Nat) (fs : List Value) (es : va_W) (hc : ol_cl[ci]? = some (C, T, N)) (hca : Cond.castable C "java/lang/Object" ∈ lw_tbl) (hn : vp_in n cap) (hcap : ¬ n = Int32.ofNat cap) : ol_Mt V yJ2_add_2 cJ2_add_2 4 none ({ frames := 0, cells := 0, slots := 0, locals := 0 } : Room) true [.ref l, .ref y, .ref d, .int n] (ol_Ls V l d cap m n f ((y, .inr (ci, fs)) :: es)) (ol_Pw none (ol_Ls V l d cap m (n + 1) (va_up f n.toNatClampNeg (some y)) ((y, .inr (ci, fs)) :: es))) := by
  refine ol_MtOf (L0 := [some (.ref l), some (.ref y), some (.ref d), some (.int n)]) (by decide) (Nat.le_of_ble_eq_true rfl) rfl (fun X A hX => ?_)
  unfold ol_Ls
  refine ol_iload_n hX (pc := 0) dJ2_add_2_0 rfl rfl ?_
  refine ol_aload_n hX (pc := 1) dJ2_add_2_1 rfl rfl ?_
  refine ol_alenO hX (pc := 2) 1 rfl rfl dJ2_add_2_2 ?_
  refine ol_icmp_ne hX (pc := 3) 11 dJ2_add_2_3 (by decide) (fun c => ?_) (fun c => absurd c (by simpa using hcap))
  refine ol_aload_n hX (pc := 11) dJ2_add_2_11 rfl rfl ?_
  refine ol_iload_n hX (pc := 12) dJ2_add_2_12 rfl rfl ?_
  refine ol_aload_n hX (pc := 13) dJ2_add_2_13 rfl rfl ?_
  refine ol_aast hX (pc := 14) 1 2 rfl rfl hc hca hn dJ2_add_2_14 rfl ?_
  refine ol_aload_n hX (pc := 15) dJ2_add_2_15 rfl rfl ?_
  refine ol_iload_n hX (pc := 16) dJ2_add_2_16 rfl rfl ?_
  refine ol_iconst hX (pc := 17) 1 dJ2_add_2_17 (by decide) ?_
  refine ol_iadd hX (pc := 18) dJ2_add_2_18 ?_
  refine ol_put hX in_J2 tyJ2 tyJ2_ok nmJ2 (pc := 19) 0 rfl rfl 2 (by decide) q240 rfl rfl rfl rfl (Nat.le_of_ble_eq_true rfl) dJ2_add_2_19 rfl ?_
  exact ol_vret hX (pc := 22) dJ2_add_2_22 ⟨rfl, rfl⟩ ⟨Nat.le_refl _, Nat.le_refl _⟩
set_option maxHeartbeats 4000000 in
theorem wJ2_add (V : ol_Gh) (l d cap y ci N : Nat) (C : String) (T : u_T) (m n : Int32) (f : Nat → Option Nat) (fs : List Value) (es : va_W) (hc : ol_cl[ci]? = some (C, T, N)) (hca : Cond.castable C "java/lang/Object" ∈ lw_tbl) (hn : vp_in n cap) (hcap : ¬ n = Int32.ofNat cap) : ol_Mt V yJ2_add cJ2_add 2 (some .boolean) ({ frames := 1, cells := 0, slots := 0, locals := 23 } : Room) true [.ref l, .ref y] (ol_Ls V l d cap m n f ((y, .inr (ci, fs)) :: es)) (ol_Pw (some (.int 1)) (ol_Ls V l d cap (m + 1) (n + 1) (va_up f n.toNatClampNeg (some y)) ((y, .inr (ci, fs)) :: es))) := by
  refine ol_MtOf (L0 := [some (.ref l), some (.ref y)]) (by decide) (Nat.le_of_ble_eq_true rfl) rfl (fun X A hX => ?_)
  unfold ol_Ls
  refine ol_aload_n hX (pc := 0) dJ2_add_0 rfl rfl ?_
  refine ol_dup hX (pc := 1) dJ2_add_1 rfl ?_
  refine ol_getS hX in_J2 (pc := 2) 0 rfl rfl 0 (by decide) q244 q243 rfl dJ2_add_2 ?_
  refine ol_iconst hX (pc := 5) 1 dJ2_add_5 (by decide) ?_
  refine ol_iadd hX (pc := 6) dJ2_add_6 ?_
  refine ol_putS hX in_J2 tyJ2 tyJ2_ok nmJ2 (pc := 7) 0 rfl rfl 0 (by decide) q244 q243 rfl rfl rfl (Nat.le_of_ble_eq_true rfl) dJ2_add_7 rfl ?_
  refine ol_aload_n hX (pc := 10) dJ2_add_10 rfl rfl ?_
  refine ol_aload_n hX (pc := 11) dJ2_add_11 rfl rfl ?_
  refine ol_aload_n hX (pc := 12) dJ2_add_12 rfl rfl ?_
  refine ol_get hX in_J2 (pc := 13) 0 rfl rfl 1 (by decide) q237 rfl rfl dJ2_add_13 ?_
  refine ol_aload_n hX (pc := 16) dJ2_add_16 rfl rfl ?_
  refine ol_get hX in_J2 (pc := 17) 0 rfl rfl 2 (by decide) q240 rfl rfl dJ2_add_17 ?_
  refine ol_cVw (As := [.ref y, .ref d, .int n]) hX (pc := 20) (wJ2_add_2 V l d cap y ci N C T (m + 1) n f fs es hc hca hn hcap) (lw_V q1166 q1168 qs20 q107 q1169) dcJ2_add_2 ⟨Nat.le_of_ble_eq_true rfl, Nat.le_of_ble_eq_true rfl⟩ 0 rfl rfl ⟨Nat.le_refl _, Nat.le_refl _⟩ (Nat.le_of_ble_eq_true rfl) dJ2_add_20 rfl ?_
  refine ol_iconst hX (pc := 23) 1 dJ2_add_23 (by decide) ?_
  exact ol_zret hX (pc := 24) dJ2_add_24 rfl ⟨rfl, rfl⟩ ⟨Nat.le_refl _, Nat.le_refl _⟩
theorem ol_i_pred {n : Int32} (h : 0 < n) : (n - 1).toInt = n.toInt - 1 ∧ 1 ≤ n.toInt := by
  have h1 : (0 : Int) < n.toInt := Int32.lt_iff_toInt_lt.mp h
  have hm := n.toInt_lt
  refine ⟨?_, by omega⟩
  rw [Int32.toInt_sub]
  have : (1 : Int32).toInt = 1 := rfl
  rw [this, Int.bmod_eq_of_le (by omega) (by omega)]
theorem ol_n_pred {n : Int32} (h : 0 < n) : (n - 1).toNatClampNeg = n.toNatClampNeg - 1 ∧ 1 ≤ n.toNatClampNeg := by
  obtain ⟨h1, h2⟩ := ol_i_pred h
  have e1 : (n - 1).toNatClampNeg = (n - 1).toInt.toNat := rfl
  have e2 : n.toNatClampNeg = n.toInt.toNat := rfl
  omega
set_option maxHeartbeats 4000000 in
theorem wJ2_fastRemove (V : ol_Gh) (l d cap ci N : Nat) (C : String) (T : u_T) (m n : Int32) (f : Nat → Option Nat) (es : va_W) (hc : ol_cl[ci]? = some (C, T, N)) (hca : Cond.castable C "java/lang/Object" ∈ lw_tbl) (h0 : 0 < n) (hcap : n.toNatClampNeg ≤ cap) (hel : ∀ i : Nat, i < n.toNatClampNeg → ∀ y : Nat, f i = some y → ∃ vs : List Value, (y, .inr (ci, vs)) ∈ es) : ol_Mt V yJ2_fastRemove cJ2_fastRemove 4 none ({ frames := 1, cells := 0, slots := 0, locals := 30 } : Room) true [.ref l, .ref d, .int 0] (ol_Ls V l d cap m n f es) (fun v w => ∃ f' : Nat → Option Nat, (∀ j : Nat, j + 1 < n.toNatClampNeg → f' j = f (j + 1)) ∧ v = none ∧ w = ol_Ls V l d cap (m + 1) (n - 1) f' es) := by
  obtain ⟨p1, p2⟩ := ol_i_pred h0
  obtain ⟨p3, p4⟩ := ol_n_pred h0
  refine ol_MtOf (L0 := [some (.ref l), some (.ref d), some (.int 0), none]) (by decide) (Nat.le_of_ble_eq_true rfl) rfl (fun X A hX => ?_)
  unfold ol_Ls
  refine ol_aload_n hX (pc := 0) dJ2_fastRemove_0 rfl rfl ?_
  refine ol_dup hX (pc := 1) dJ2_fastRemove_1 rfl ?_
  refine ol_getS hX in_J2 (pc := 2) 0 rfl rfl 0 (by decide) q244 q243 rfl dJ2_fastRemove_2 ?_
  refine ol_iconst hX (pc := 5) 1 dJ2_fastRemove_5 (by decide) ?_
  refine ol_iadd hX (pc := 6) dJ2_fastRemove_6 ?_
  refine ol_putS hX in_J2 tyJ2 tyJ2_ok nmJ2 (pc := 7) 0 rfl rfl 0 (by decide) q244 q243 rfl rfl rfl (Nat.le_of_ble_eq_true rfl) dJ2_fastRemove_7 rfl ?_
  refine ol_aload_n hX (pc := 10) dJ2_fastRemove_10 rfl rfl ?_
  refine ol_get hX in_J2 (pc := 11) 0 rfl rfl 2 (by decide) q240 rfl rfl dJ2_fastRemove_11 ?_
  refine ol_iconst hX (pc := 14) 1 dJ2_fastRemove_14 (by decide) ?_
  refine ol_isub hX (pc := 15) dJ2_fastRemove_15 ?_
  refine ol_dup hX (pc := 16) dJ2_fastRemove_16 rfl ?_
  refine ol_istore_n hX (pc := 17) [some (.ref l), some (.ref d), some (.int 0), some (.int (n - 1))] dJ2_fastRemove_17 rfl (by decide) rfl rfl ?_
  refine ol_iload_n hX (pc := 18) dJ2_fastRemove_18 rfl rfl ?_
  have tail : ∀ f' : Nat → Option Nat, (∀ j : Nat, j + 1 < n.toNatClampNeg → f' j = f (j + 1)) → ol_G X V A true (fun v w => ∃ f' : Nat → Option Nat, (∀ j : Nat, j + 1 < n.toNatClampNeg → f' j = f (j + 1)) ∧ v = none ∧ w = ol_Ls V l d cap (m + 1) (n - 1) f' es) ({ frames := 1, cells := 0, slots := 0, locals := 30 } : Room) 4 0 0 ((l, .inr (15, [.int (m + 1), .ref d, .int n])) :: (d, .inl (V.2.2.2.2 4, cap, ol_refs f')) :: es) 34 [some (.ref l), some (.ref d), some (.int 0), some (.int (n - 1))] [] := by
    intro f' hf'
    refine ol_aload_n hX (pc := 34) dJ2_fastRemove_34 rfl rfl ?_
    refine ol_aload_n hX (pc := 35) dJ2_fastRemove_35 rfl rfl ?_
    refine ol_iload_n hX (pc := 36) dJ2_fastRemove_36 rfl rfl ?_
    refine ol_dup_x1 hX (pc := 37) dJ2_fastRemove_37 rfl rfl ?_
    refine ol_put hX in_J2 tyJ2 tyJ2_ok nmJ2 (pc := 38) 0 rfl rfl 2 (by decide) q240 rfl rfl rfl rfl (Nat.le_of_ble_eq_true rfl) dJ2_fastRemove_38 rfl ?_
    refine ol_null hX (pc := 41) dJ2_fastRemove_41 ?_
    refine ol_aastN hX (pc := 42) 1 rfl (vp_in_iff.mpr ⟨by omega, by have e : n.toNatClampNeg = n.toInt.toNat := rfl; omega⟩) dJ2_fastRemove_42 rfl ?_
    refine ol_vret hX (pc := 43) dJ2_fastRemove_43 ⟨va_up f' (n - 1).toNatClampNeg none, fun j hj => ?_, rfl, rfl⟩ ⟨Nat.le_refl _, Nat.le_refl _⟩
    rw [← hf' j hj]
    unfold va_up
    rw [if_neg (by omega)]
  refine ol_icmp_le hX (pc := 19) 34 dJ2_fastRemove_19 (by decide) (fun c => ?_) (fun c => ?_)
  · refine tail f (fun j hj => ?_)
    have := Int32.le_iff_toInt_le.mp c
    have e : n.toNatClampNeg = n.toInt.toNat := rfl
    have e0 : (0 : Int32).toInt = 0 := rfl
    omega
  · refine ol_aload_n hX (pc := 22) dJ2_fastRemove_22 rfl rfl ?_
    refine ol_iload_n hX (pc := 23) dJ2_fastRemove_23 rfl rfl ?_
    refine ol_iconst hX (pc := 24) 1 dJ2_fastRemove_24 (by decide) ?_
    refine ol_iadd hX (pc := 25) dJ2_fastRemove_25 ?_
    refine ol_aload_n hX (pc := 26) dJ2_fastRemove_26 rfl rfl ?_
    refine ol_iload_n hX (pc := 27) dJ2_fastRemove_27 rfl rfl ?_
    refine ol_iload_n hX (pc := 28) dJ2_fastRemove_28 rfl rfl ?_
    refine ol_iload_n hX (pc := 29) dJ2_fastRemove_29 rfl rfl ?_
    refine ol_isub hX (pc := 30) dJ2_fastRemove_30 ?_
    have em : n - 1 - 0 = n - 1 := by simp
    refine ol_topE em.symm ?_
    have e1 : ((0 : Int32) + 1).toNatClampNeg = 1 := by decide
    have e0 : (0 : Int32).toNatClampNeg = 0 := by decide
    refine ol_copyQ hX (pc := 31) 1 q1891 rfl hc hca (by decide) (by decide) (fun q => ?_) (by rw [e1]; omega) (by rw [e0]; omega) (fun i hi y hy => ?_) (Nat.le_refl _) (Nat.le_of_ble_eq_true rfl) dJ2_fastRemove_31 rfl ?_
    · have := Int32.lt_iff_toInt_lt.mp q
      have e0 : (0 : Int32).toInt = 0 := rfl
      omega
    · rw [e1] at hy
      obtain ⟨vs, hv⟩ := hel (1 + i) (by omega) y hy
      exact ⟨vs, List.mem_cons_of_mem _ (List.mem_cons_of_mem _ hv)⟩
    · refine tail _ (fun j hj => ?_)
      unfold va_cpy
      rw [if_pos (by rw [e0]; omega), e1, e0]
      congr 1
      omega
set_option maxHeartbeats 4000000 in
theorem wJ2_remove (V : ol_Gh) (l d cap ci N : Nat) (C : String) (T : u_T) (m n : Int32) (f : Nat → Option Nat) (es : va_W) (hc : ol_cl[ci]? = some (C, T, N)) (hca : Cond.castable C "java/lang/Object" ∈ lw_tbl) (h0 : 0 < n) (hcap : n.toNatClampNeg ≤ cap) (hel : ∀ i : Nat, i < n.toNatClampNeg → ∀ y : Nat, f i = some y → ∃ vs : List Value, (y, .inr (ci, vs)) ∈ es) : ol_Mt V yJ2_remove cJ2_remove 4 (some (.object "java/lang/Object")) ({ frames := 2, cells := 0, slots := 0, locals := 60 } : Room) true [.ref l, .int 0] (ol_Ls V l d cap m n f es) (fun v w => ∃ f' : Nat → Option Nat, (∀ j : Nat, j + 1 < n.toNatClampNeg → f' j = f (j + 1)) ∧ v = some (va_rf (f 0)) ∧ w = ol_Ls V l d cap (m + 1) (n - 1) f' es) := by
  obtain ⟨p1, p2⟩ := ol_i_pred h0
  obtain ⟨p3, p4⟩ := ol_n_pred h0
  have e0 : (0 : Int32).toNatClampNeg = 0 := by decide
  refine ol_MtOf (L0 := [some (.ref l), some (.int 0), none, none]) (by decide) (Nat.le_of_ble_eq_true rfl) rfl (fun X A hX => ?_)
  refine ol_iload_n hX (pc := 0) dJ2_remove_0 rfl rfl ?_
  refine ol_aload_n hX (pc := 1) dJ2_remove_1 rfl rfl ?_
  refine ol_get hX in_J2 (pc := 2) 0 rfl rfl 2 (by decide) q240 rfl rfl dJ2_remove_2 ?_
  refine ol_cSr (As := [.int 0, .int n]) hX (pc := 5) (wJ12_checkIndex V _ 0 n (by decide) h0) (lw_S q742 q743 q121 q744) dcJ12_checkIndex ⟨rfl, rfl⟩ ⟨Nat.le_of_ble_eq_true rfl, Nat.le_of_ble_eq_true rfl⟩ (fun _ h => h) ⟨Nat.le_refl _, Nat.le_refl _⟩ (Nat.le_of_ble_eq_true rfl) dJ2_remove_5 rfl ?_
  refine ol_pop hX (pc := 8) dJ2_remove_8 rfl ?_
  refine ol_aload_n hX (pc := 9) dJ2_remove_9 rfl rfl ?_
  refine ol_get hX in_J2 (pc := 10) 0 rfl rfl 1 (by decide) q237 rfl rfl dJ2_remove_10 ?_
  refine ol_astore_n hX (pc := 13) [some (.ref l), some (.int 0), some (.ref d), none] dJ2_remove_13 rfl (by decide) rfl rfl ?_
  refine ol_aload_n hX (pc := 14) dJ2_remove_14 rfl rfl ?_
  refine ol_iload_n hX (pc := 15) dJ2_remove_15 rfl rfl ?_
  refine ol_aald hX (pc := 16) 1 rfl (vp_in_iff.mpr ⟨by decide, by show (0 : Int) < _; omega⟩) dJ2_remove_16 ?_
  rw [e0]
  refine ol_astore_nq hX (pc := 17) [some (.ref l), some (.int 0), some (.ref d), some (va_rf (f 0))] dJ2_remove_17 rfl (by decide) rfl rfl ?_
  refine ol_aload_n hX (pc := 18) dJ2_remove_18 rfl rfl ?_
  refine ol_aload_n hX (pc := 19) dJ2_remove_19 rfl rfl ?_
  refine ol_iload_n hX (pc := 20) dJ2_remove_20 rfl rfl ?_
  refine ol_cVW (As := [.ref d, .int 0]) hX (pc := 21) (wJ2_fastRemove V l d cap ci N C T m n f es hc hca h0 hcap hel) (lw_V q1887 q1889 qs41 q107 q1890) dcJ2_fastRemove ⟨Nat.le_of_ble_eq_true rfl, Nat.le_of_ble_eq_true rfl⟩ 0 rfl rfl ⟨Nat.le_refl _, Nat.le_refl _⟩ (Nat.le_of_ble_eq_true rfl) dJ2_remove_21 rfl (fun v w hp => ?_)
  obtain ⟨f', hf', rfl, rfl⟩ := hp
  refine ol_aload_nq hX (pc := 24) dJ2_remove_24 rfl rfl ?_
  exact ol_aret hX (pc := 25) (Or.inl ⟨_, rfl⟩) (ol_rf_or _) dJ2_remove_25 ⟨f', hf', rfl, rfl⟩ ⟨Nat.le_refl _, Nat.le_refl _⟩
/-- the loop of clear -/
theorem wJ2_clear_L27 {X : ol_Cx} {V : ol_Gh} {A : Nat → Prop} {P : Option Value → va_W → Prop} {rm : Room} (hX : ol_CX X V A cJ2_clear RJ2 "clear" 4 none) (l d cap : Nat) (m n : Int32) (es : va_W) (hcap : n.toNatClampNeg ≤ cap) (hP : ∀ f', P none (ol_Ls V l d cap m 0 f' es)) (hcs : 0 ≤ rm.cells ∧ 0 ≤ rm.slots) : ∀ (k : Nat) (j : Int32) (f : Nat → Option Nat), 0 ≤ j.toInt → n.toInt - j.toInt ≤ k → ol_G X V A true P rm 4 0 0 (ol_Ls V l d cap m 0 f es) 27 [some (.ref l), some (.ref d), some (.int n), some (.int j)] [] := by
  intro k
  induction k with
  | zero =>
    intro j f h0 hk
    unfold ol_Ls
    refine ol_iload_n hX (pc := 27) dJ2_clear_27 rfl rfl ?_
    refine ol_iload_n hX (pc := 28) dJ2_clear_28 rfl rfl ?_
    refine ol_icmp_ge hX (pc := 29) 42 dJ2_clear_29 (by decide) (fun c => ?_) (fun c => ?_)
    · exact ol_vret hX (pc := 42) dJ2_clear_42 (hP f) hcs
    · exact absurd (Int32.le_iff_toInt_le.mpr (by omega)) c
  | succ k ih =>
    intro j f h0 hk
    unfold ol_Ls
    refine ol_iload_n hX (pc := 27) dJ2_clear_27 rfl rfl ?_
    refine ol_iload_n hX (pc := 28) dJ2_clear_28 rfl rfl ?_
    refine ol_icmp_ge hX (pc := 29) 42 dJ2_clear_29 (by decide) (fun c => ?_) (fun c => ?_)
    · exact ol_vret hX (pc := 42) dJ2_clear_42 (hP f) hcs
    · have c' : j.toInt < n.toInt := Int.not_le.mp (fun q => c (Int32.le_iff_toInt_le.mpr q))
      have hn := n.toInt_lt
      have e : n.toNatClampNeg = n.toInt.toNat := rfl
      refine ol_aload_n hX (pc := 32) dJ2_clear_32 rfl rfl ?_
      refine ol_iload_n hX (pc := 33) dJ2_clear_33 rfl rfl ?_
      refine ol_null hX (pc := 34) dJ2_clear_34 ?_
      refine ol_aastN hX (pc := 35) 1 rfl (vp_in_iff.mpr ⟨h0, by omega⟩) dJ2_clear_35 rfl ?_
      refine ol_iinc hX (pc := 36) (j + 1) [some (.ref l), some (.ref d), some (.int n), some (.int (j + 1))] dJ2_clear_36 rfl rfl (by decide) rfl rfl ?_
      refine ol_goto hX (pc := 39) 27 dJ2_clear_39 (by decide) ?_
      have e1 : (j + 1).toInt = j.toInt + 1 := by
        rw [Int32.toInt_add]
        have : (1 : Int32).toInt = 1 := rfl
        rw [this, Int.bmod_eq_of_le (by omega) (by omega)]
      exact ih (j + 1) _ (by omega) (by omega)
set_option maxHeartbeats 4000000 in
theorem wJ2_clear (V : ol_Gh) (l d cap : Nat) (m n : Int32) (f : Nat → Option Nat) (es : va_W) (h0 : 0 ≤ n.toInt) (hcap : n.toNatClampNeg ≤ cap) : ol_Mt V yJ2_clear cJ2_clear 4 none ({ frames := 0, cells := 0, slots := 0, locals := 0 } : Room) true [.ref l] (ol_Ls V l d cap m n f es) (fun v w => ∃ f' : Nat → Option Nat, v = none ∧ w = ol_Ls V l d cap (m + 1) 0 f' es) := by
  refine ol_MtOf (L0 := [some (.ref l), none, none, none]) (by decide) (Nat.le_of_ble_eq_true rfl) rfl (fun X A hX => ?_)
  unfold ol_Ls
  refine ol_aload_n hX (pc := 0) dJ2_clear_0 rfl rfl ?_
  refine ol_dup hX (pc := 1) dJ2_clear_1 rfl ?_
  refine ol_getS hX in_J2 (pc := 2) 0 rfl rfl 0 (by decide) q244 q243 rfl dJ2_clear_2 ?_
  refine ol_iconst hX (pc := 5) 1 dJ2_clear_5 (by decide) ?_
  refine ol_iadd hX (pc := 6) dJ2_clear_6 ?_
  refine ol_putS hX in_J2 tyJ2 tyJ2_ok nmJ2 (pc := 7) 0 rfl rfl 0 (by decide) q244 q243 rfl rfl rfl (Nat.le_of_ble_eq_true rfl) dJ2_clear_7 rfl ?_
  refine ol_aload_n hX (pc := 10) dJ2_clear_10 rfl rfl ?_
  refine ol_get hX in_J2 (pc := 11) 0 rfl rfl 1 (by decide) q237 rfl rfl dJ2_clear_11 ?_
  refine ol_astore_n hX (pc := 14) [some (.ref l), some (.ref d), none, none] dJ2_clear_14 rfl (by decide) rfl rfl ?_
  refine ol_aload_n hX (pc := 15) dJ2_clear_15 rfl rfl ?_
  refine ol_get hX in_J2 (pc := 16) 0 rfl rfl 2 (by decide) q240 rfl rfl dJ2_clear_16 ?_
  refine ol_istore_n hX (pc := 19) [some (.ref l), some (.ref d), some (.int n), none] dJ2_clear_19 rfl (by decide) rfl rfl ?_
  refine ol_aload_n hX (pc := 20) dJ2_clear_20 rfl rfl ?_
  refine ol_iconst hX (pc := 21) 0 dJ2_clear_21 (by decide) ?_
  refine ol_dup_x1 hX (pc := 22) dJ2_clear_22 rfl rfl ?_
  refine ol_put hX in_J2 tyJ2 tyJ2_ok nmJ2 (pc := 23) 0 rfl rfl 2 (by decide) q240 rfl rfl rfl rfl (Nat.le_of_ble_eq_true rfl) dJ2_clear_23 rfl ?_
  refine ol_istore_n hX (pc := 26) [some (.ref l), some (.ref d), some (.int n), some (.int 0)] dJ2_clear_26 rfl (by decide) rfl rfl ?_
  exact wJ2_clear_L27 hX l d cap (m + 1) n es hcap (fun f' => ⟨f', rfl, rfl⟩) ⟨Nat.le_refl _, Nat.le_refl _⟩ n.toNatClampNeg 0 f (by decide) (by have e : n.toNatClampNeg = n.toInt.toNat := rfl; have e0 : (0 : Int32).toInt = 0 := rfl; omega)
