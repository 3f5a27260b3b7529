/-! ROWS over ol_G, II: nest mates, new cells, frames, interfaces, casts, Math -/
set_option maxRecDepth 100000
theorem ol_joinA {A : Nat → Prop} {D : va_G} {cl : List vw_C} {wr wc w1 : va_W} {H H1 : Heap} (hP : va_P D cl (wr ++ wc) H) (hD : va_D A (wr ++ wc)) (hk : ∀ q : Nat, q < H.size → ¬ va_A wc H.size q → H1[q]? = H[q]?) (hF : ∀ q, va_A wc H.size q → A q) (hP1 : va_P D cl w1 H1) (hD1 : va_D (va_A wc H.size) w1) : va_P D cl (wr ++ w1) H1 ∧ va_D A (wr ++ w1) := by
  have hl : ∀ (k : Nat) (q : Nat × va_E), wr[k]? = some q → (wr ++ wc)[k]? = some q := fun k q h => by
    rw [List.getElem?_append_left (List.getElem?_eq_some_iff.mp h).1]; exact h
  have hr : ∀ (k : Nat) (q : Nat × va_E), wc[k]? = some q → (wr ++ wc)[wr.length + k]? = some q := fun k q h => by
    rw [List.getElem?_append_right (by omega)]; rw [show wr.length + k - wr.length = k by omega]; exact h
  have apart : ∀ (k : Nat) (q : Nat × va_E), wr[k]? = some q → q.1 < H.size ∧ ¬ va_A wc H.size q.1 := by
    intro k q hq
    have hlt := (hP k q (hl k q hq)).lt
    refine ⟨hlt, ?_⟩
    rintro (⟨j, e, hj⟩ | h)
    · have h1 := hD.1 k (wr.length + j) q (q.1, e) (hl k q hq) (hr j _ hj) rfl
      have h2 := (List.getElem?_eq_some_iff.mp hq).1
      omega
    · omega
  refine ⟨va_P.app (fun k q hq => ?_) hP1, va_D.app ⟨fun i j p q hi hj e => hD.1 i j p q (hl i p hi) (hl j q hj) e, fun k q hq => hD.2 k q (hl k q hq)⟩ (hD1.weaken (fun _ _ _ z => hF _ z)) (fun i j p q hi hj e => ?_)⟩
  · obtain ⟨g1, g2⟩ := apart k q hq
    exact (hP k q (hl k q hq)).kept (hk q.1 g1 g2)
  · exact (apart i p hi).2 (by rw [e]; exact hD1.2 j q hj)
theorem va_P_mem {D : va_G} {cl : List vw_C} {ws : va_W} {H : Heap} : va_P D cl ws H ↔ ∀ q ∈ ws, va_at D cl q H := by
  constructor
  · intro h q hq
    obtain ⟨k, hk⟩ := List.getElem?_of_mem hq
    exact h k q hk
  · intro h k q hk
    exact h q (List.mem_of_getElem? hk)
theorem va_D_nd {A : Nat → Prop} {ws : va_W} : va_D A ws ↔ (ws.map (·.1)).Nodup ∧ ∀ q ∈ ws, A q.1 := by
  constructor
  · intro h
    refine ⟨List.pairwise_iff_getElem.mpr ?_, fun q hq => ?_⟩
    · intro i j hi hj hij e
      have hjl : j < ws.length := by simpa using hj
      have hil : i < ws.length := by omega
      have e2 : (ws[i]).1 = (ws[j]).1 := by simpa using e
      have := h.1 i j _ _ (List.getElem?_eq_getElem hil) (List.getElem?_eq_getElem hjl) e2
      omega
    · obtain ⟨k, hk⟩ := List.getElem?_of_mem hq
      exact h.2 k q hk
  · rintro ⟨h1, h2⟩
    refine ⟨fun i j p q hi hj e => ?_, fun k q hk => h2 q (List.mem_of_getElem? hk)⟩
    by_cases hij : i = j
    · exact hij
    · exfalso
      obtain ⟨hil, ei⟩ := List.getElem?_eq_some_iff.mp hi
      obtain ⟨hjl, ej⟩ := List.getElem?_eq_some_iff.mp hj
      have key := List.pairwise_iff_getElem.mp h1
      rcases Nat.lt_or_gt_of_ne hij with h | h
      · exact key i j (by simpa using hil) (by simpa using hjl) h (by simp [ei, ej, e])
      · exact key j i (by simpa using hjl) (by simpa using hil) h (by simp [ei, ej, e])
theorem va_P_perm {D : va_G} {cl : List vw_C} {ws ws' : va_W} {H : Heap} (h : ws.Perm ws') (hP : va_P D cl ws H) : va_P D cl ws' H := va_P_mem.mpr fun q hq => va_P_mem.mp hP q (h.mem_iff.mpr hq)
theorem va_D_perm {A : Nat → Prop} {ws ws' : va_W} (h : ws.Perm ws') (hD : va_D A ws) : va_D A ws' := by
  obtain ⟨h1, h2⟩ := va_D_nd.mp hD
  exact va_D_nd.mpr ⟨(h.map (·.1)).nodup_iff.mp h1, fun q hq => h2 q (h.mem_iff.mpr hq)⟩
theorem va_D_pre {A : Nat → Prop} {w1 w2 : va_W} (hD : va_D A (w1 ++ w2)) : va_D A w1 ∧ va_D A w2 := by
  obtain ⟨h1, h2⟩ := va_D_nd.mp hD
  rw [List.map_append, List.nodup_append] at h1
  exact ⟨va_D_nd.mpr ⟨h1.1, fun q hq => h2 q (List.mem_append_left _ hq)⟩, va_D_nd.mpr ⟨h1.2.1, fun q hq => h2 q (List.mem_append_right _ hq)⟩⟩
theorem va_P_pre {D : va_G} {cl : List vw_C} {w1 w2 : va_W} {H : Heap} (hP : va_P D cl (w1 ++ w2) H) : va_P D cl w1 H ∧ va_P D cl w2 H :=
  ⟨va_P_mem.mpr fun q hq => va_P_mem.mp hP q (List.mem_append_left _ hq), va_P_mem.mpr fun q hq => va_P_mem.mp hP q (List.mem_append_right _ hq)⟩
section OLF
variable {X : ol_Cx} {V : ol_Gh} {A : Nat → Prop} {cc : ByteArray} {own nm : String} {nL : Nat} {ret : Option FieldType} {md : Bool} {P : Option Value → va_W → Prop} {rm : Room} {cells slots : Nat} {ws : va_W} {pc : Nat} {L : List (Option Value)} {st stk : List Value}
theorem ol_Gperm {ws' : va_W} (h : ws.Perm ws') (k : ol_G X V A true P rm nL cells slots ws' pc L st) : ol_G X V A true P rm nL cells slots ws pc L st := fun H locs ls hH hL => k H locs ls ⟨va_P_perm h hH.1, (fun h => by cases h), fun _ => ⟨va_D_perm h (hH.2.2 rfl).1, (hH.2.2 rfl).2⟩⟩ hL
/-- cells that are not looked at any more -/
theorem ol_Gpre {w1 w2 : va_W} (k : ol_G X V A md P rm nL cells slots w1 pc L st) : ol_G X V A md P rm nL cells slots (w1 ++ w2) pc L st := fun H locs ls hH hL => k H locs ls ⟨(va_P_pre hH.1).1, hH.2.1, fun h => ⟨(va_D_pre (hH.2.2 h).1).1, (hH.2.2 h).2⟩⟩ hL
theorem ol_Gwid {k n : Nat} (h1 : cells ≤ k) (h2 : slots ≤ n) (kk : ol_G X V A md P rm nL k n ws pc L st) : ol_G X V A md P rm nL cells slots ws pc L st := fun H locs ls hH hL => W.widen h1 h2 (kk H locs ls hH hL)
/-- a word of the tables that doesn't ride in the lists -/
theorem ol_CX.nwF (hX : ol_CX X V A cc own nm nL ret) {a b n d h : String} {i : Nat} (hq : Cond.fieldLinkNest a i b n d h ∈ lw_tbl) : va_Nw (.fieldLinkNest a i b n d h) X.2.2.1 := va_Nw.warmF hX.Z.2.1 (va_Nw.of rfl (hX.Z.1.1 _ hq))
theorem ol_CX.nwM (hX : ol_CX X V A cc own nm nL ret) {a h : String} {i : Nat} {x : MethodName} (hq : Cond.methodLinkNest a i x h ∈ lw_tbl) : va_Nw (.methodLinkNest a i x h) X.2.2.1 := va_Nw.warmM hX.Z.2.1 (va_Nw.of rfl (hX.Z.1.1 _ hq))
theorem ol_CX.nwC (hX : ol_CX X V A cc own nm nL ret) {C T : String} (hq : Cond.castable C T ∈ lw_tbl) : va_Nw (.castable C T) X.2.2.1 := va_Nw.warmC hX.Z.2.1 (va_Nw.of rfl (hX.Z.1.1 _ hq))
theorem ol_CX.nwD (hX : ol_CX X V A cc own nm nL ret) {x : MethodName} (hq : Cond.declares x ∈ lw_tbl) : va_Nw (.declares x) X.2.2.1 := va_Nw.warmD hX.Z.2.1 (va_Nw.of rfl (hX.Z.1.1 _ hq))
theorem ol_CX.fw (hX : ol_CX X V A cc own nm nL ret) {C : String} {x y : MethodName} (hx : x.cls ≠ "java/lang/invoke/MethodHandle" ∧ x.cls ≠ "java/lang/invoke/VarHandle") (h1 : Cond.declares x ∈ lw_tbl) (h2 : Cond.interfaceMethod x.cls x.cls x.name x.desc ∈ lw_tbl) (h3 : Cond.publicMethod y ∈ lw_tbl) (h4 : Cond.unhidden C x.name x.desc ∈ lw_tbl) (h5 : Cond.castable C x.cls ∈ lw_tbl) : va_Fw C x y X.2.2.1 :=
  va_Fw.moved hx hX.Z.2.1.alike (va_Fw.of (hX.Z.1.1 _ h1) (hX.Z.1.1 _ h2) (hX.Z.1.1 _ h3) (hX.Z.1.1 _ h4) (hX.Z.1.1 _ h5))
/-- a field of a cell that is somewhere in the world -/
theorem ol_getM (hX : ol_CX X V A cc own nm nL ret) {ref C : String} {T : u_T} {N ci index a : Nat} (hin : ∀ w ∈ u_ws C T N, w ∈ lw_all) {fs : List Value} (he : (a, .inr (ci, fs)) ∈ ws) (hc : ol_cl[ci]? = some (C, T, N)) (j : Nat) (hj : j < N) (hlink : Cond.fieldLink own index ref (T j).2.1 (T j).2.2.1 ∈ lw_all) (hsame : (T j).1 = ref) {v : Value} (hv : fs[j]? = some v) (hd : decode cc pc = .ok (.getfield index, 3)) (k : ol_G X V A md P rm nL cells slots ws (pc + 3) L (v :: st)) : ol_G X V A md P rm nL cells slots ws pc L (.ref a :: st) := by
  obtain ⟨q0, he⟩ := List.getElem?_of_mem he
  exact ol_get hX hin q0 he hc j hj hlink hsame hv hd k
theorem ol_getN (hX : ol_CX X V A cc own nm nL ret) {ref C host : String} {T : u_T} {N ci index a : Nat} (hin : ∀ w ∈ u_ws C T N, w ∈ lw_all) (q0 : Nat) {fs : List Value} (he : ws[q0]? = some (a, .inr (ci, fs))) (hc : ol_cl[ci]? = some (C, T, N)) (j : Nat) (hj : j < N) (hlink : Cond.fieldLinkNest own index ref (T j).2.1 (T j).2.2.1 host ∈ lw_tbl) (hsame : (T j).1 = ref) {v : Value} (hv : fs[j]? = some v) (hd : decode cc pc = .ok (.getfield index, 3)) (k : ol_G X V A md P rm nL cells slots ws (pc + 3) L (v :: st)) : ol_G X V A md P rm nL cells slots ws pc L (.ref a :: st) := fun H locs ls hH hL =>
  va_getN hX.x hX.b hX.ts hin hX.ow hX.K hH.1 q0 he hc j hj (va_Nw.use rfl (hX.nwF hlink)) (fun x hx => by rw [← hsame]; exact hx) hv hd (k H locs ls hH hL)
theorem ol_getNM (hX : ol_CX X V A cc own nm nL ret) {ref C host : String} {T : u_T} {N ci index a : Nat} (hin : ∀ w ∈ u_ws C T N, w ∈ lw_all) {fs : List Value} (he : (a, .inr (ci, fs)) ∈ ws) (hc : ol_cl[ci]? = some (C, T, N)) (j : Nat) (hj : j < N) (hlink : Cond.fieldLinkNest own index ref (T j).2.1 (T j).2.2.1 host ∈ lw_tbl) (hsame : (T j).1 = ref) {v : Value} (hv : fs[j]? = some v) (hd : decode cc pc = .ok (.getfield index, 3)) (k : ol_G X V A md P rm nL cells slots ws (pc + 3) L (v :: st)) : ol_G X V A md P rm nL cells slots ws pc L (.ref a :: st) := by
  obtain ⟨q0, he⟩ := List.getElem?_of_mem he
  exact ol_getN hX hin q0 he hc j hj hlink hsame hv hd k
theorem ol_putN (hX : ol_CX X V A cc own nm nL ret) {ref C host : String} {T : u_T} {N ci index a : Nat} (hin : ∀ w ∈ u_ws C T N, w ∈ lw_all) (ty0 : Nat → FieldType) (hty : ∀ k, k < N → parseFieldDescriptor (T k).2.2.1 = some (ty0 k)) (hnm : ∀ a, a < N → ∀ b, b < N → a ≠ b → (T a).2.1 ≠ (T b).2.1) (q0 : Nat) {fs : List Value} (he : ws[q0]? = some (a, .inr (ci, fs))) (hc : ol_cl[ci]? = some (C, T, N)) (j : Nat) (hj : j < N) (hlink : Cond.fieldLinkNest own index ref (T j).2.1 (T j).2.2.1 host ∈ lw_tbl) (hsame : (T j).1 = ref) (hfin : (T j).2.2.2 = false) {v : Value} (hn : narrow (ty0 j) v = v) (hfit : fits (ty0 j) v = true) (hl : j < fs.length) (hd : decode cc pc = .ok (.putfield index, 3)) {ws' : va_W} (hws : ws.set q0 (a, .inr (ci, fs.set j v)) = ws') (k : ol_G X V A true P rm nL cells slots ws' (pc + 3) L st) : ol_G X V A true P rm nL cells slots ws pc L (v :: .ref a :: st) := fun H locs ls hH hL =>
  va_putN hX.x hX.b hX.ts hin ty0 hty hnm hX.ow hX.K hH.1 (hH.2.2 rfl).1 (hH.2.2 rfl).2 q0 he hc j hj (va_Nw.use rfl (hX.nwF hlink)) (fun x hx => by rw [← hsame]; exact hx) hfin (hty j hj) hn hfit hl hd (fun H1 locs1 hP hD hS => by subst hws; exact k H1 locs1 ls ⟨hP, (fun h => by cases h), fun _ => ⟨hD, hS⟩⟩ hL)
/-- a new object, at the world's end -/
theorem ol_new (hX : ol_CX X V A cc own nm nL ret) {C : String} {T : u_T} {N ci index : Nat} (hin : ∀ w ∈ u_ws C T N, w ∈ lw_all) (ty : Nat → FieldType) (hty : ∀ k, k < N → parseFieldDescriptor (T k).2.2.1 = some (ty k)) (hcl : Cond.classLink own index C ∈ lw_all) (hinst : Cond.instantiable C N ∈ lw_all) (hini : Cond.initialized C ∈ lw_all) (hc : ol_cl[ci]? = some (C, T, N)) (fs : List Value) (hfs : ∀ j, j < N → defaultValue (ty j) = vp_V fs j) (hcs : cells + 1 ≤ rm.cells ∧ slots + N ≤ rm.slots) (hd : decode cc pc = .ok (.new index, 3)) (k : ∀ q : Nat, ol_G X V A true P rm nL (cells + 1) (slots + N) (ws ++ [(q, .inr (ci, fs))]) (pc + 3) L (.ref q :: st)) : ol_G X V A true P rm nL cells slots ws pc L st := fun H locs ls hH hL =>
  va_new hX.x hX.b hX.ts hin ty hty hX.ow (hX.ts _ hcl) (hX.ts _ hinst) (hX.ts _ hini) hX.K hH.1 (hH.2.2 rfl).1 (hH.2.2 rfl).2 hX.Aa hc hfs hcs.1 hcs.2 hd (fun q H1 hP hD hS => k q H1 locs ls ⟨hP, (fun h => by cases h), fun _ => ⟨hD, hS⟩⟩ hL)
theorem ol_objInit (hX : ol_CX X V A cc own nm nL ret) {index a : Nat} (hl : Cond.methodLink own index objectInit ∈ lw_all) (hi : Cond.instanceMethod objectInit ∈ lw_all) (hc : Cond.code objectInit ⟨#[0xb1]⟩ 1 none ∈ lw_all) (hd : decode cc pc = .ok (.invokespecial index, 3)) (hf : 1 ≤ rm.frames) (hlo : (st.map fun v => v.category).sum + 12 ≤ rm.locals) (k : ol_G X V A md P rm nL cells slots ws (pc + 3) L st) : ol_G X V A md P rm nL cells slots ws pc L (.ref a :: st) := fun H locs ls hH hL =>
  W.objInit hX.x hX.b hX.ow (hX.ts _ hl) (hX.ts _ hi) (hX.ts _ hc) rfl (by rw [hX.ml]; exact hL.1) rfl hd hf (by show 2 * 0 + _ + 12 ≤ _; omega) (k H locs ls hH hL)
theorem ol_newaI (hX : ol_CX X V A cc own nm nL ret) {n : Int32} {N' : Nat} (hd : decode cc pc = .ok (.newarray .int, 2)) (hn : ¬ n < 0) (hN : n.toNatClampNeg = N') (hb : N' * 4 ≤ 536870912) (hcs : cells + 1 ≤ rm.cells ∧ slots + N' ≤ rm.slots) (k : ∀ q : Nat, ol_G X V A true P rm nL (cells + 1) (slots + N') (ws ++ [(q, .inl (V.2.2.2.2 0, N', .inl fun _ => 0))]) (pc + 2) L (.ref q :: st)) : ol_G X V A true P rm nL cells slots ws pc L (.int n :: st) := fun H locs ls hH hL =>
  va_newa (atype := .int) (ty := .int) (a0 := (N', .inl fun _ => 0)) hX.x hX.b (hX.ts _ q214) rfl hX.K hH.1 (hH.2.2 rfl).1 (hH.2.2 rfl).2 hX.Aa (fun cA => rfl) hn hN hb hcs.1 hcs.2 hd (fun q cA H1 hK hP hD hS => by
    have h1 : X.2.2.1.vm.findClass _ = some cA := (hK.2 6 (cA, .int) rfl).2
    have h2 : X.2.2.1.vm.findClass _ = some (V.2.2.2.2 0) := (hX.K.2 0 (V.2.2.2.2 0, .int) rfl).2
    have e : cA = V.2.2.2.2 0 := Option.some.inj (h1.symm.trans h2)
    subst e
    exact k q H1 locs ls ⟨hP, (fun h => by cases h), fun _ => ⟨hD, hS⟩⟩ hL)
theorem ol_newaJ (hX : ol_CX X V A cc own nm nL ret) {n : Int32} {N' : Nat} (hd : decode cc pc = .ok (.newarray .long, 2)) (hn : ¬ n < 0) (hN : n.toNatClampNeg = N') (hb : N' * 8 ≤ 536870912) (hcs : cells + 1 ≤ rm.cells ∧ slots + N' ≤ rm.slots) (k : ∀ q : Nat, ol_G X V A true P rm nL (cells + 1) (slots + N') (ws ++ [(q, .inl (V.2.2.2.2 1, N', .inr (.inl fun _ => 0)))]) (pc + 2) L (.ref q :: st)) : ol_G X V A true P rm nL cells slots ws pc L (.int n :: st) := fun H locs ls hH hL =>
  va_newa (atype := .long) (ty := .long) (a0 := (N', .inr (.inl fun _ => 0))) hX.x hX.b (hX.ts _ q2231) rfl hX.K hH.1 (hH.2.2 rfl).1 (hH.2.2 rfl).2 hX.Aa (fun cA => rfl) hn hN hb hcs.1 hcs.2 hd (fun q cA H1 hK hP hD hS => by
    have h1 : X.2.2.1.vm.findClass _ = some cA := (hK.2 6 (cA, .long) rfl).2
    have h2 : X.2.2.1.vm.findClass _ = some (V.2.2.2.2 1) := (hX.K.2 1 (V.2.2.2.2 1, .long) rfl).2
    have e : cA = V.2.2.2.2 1 := Option.some.inj (h1.symm.trans h2)
    subst e
    exact k q H1 locs ls ⟨hP, (fun h => by cases h), fun _ => ⟨hD, hS⟩⟩ hL)
theorem ol_newaB (hX : ol_CX X V A cc own nm nL ret) {n : Int32} {N' : Nat} (hd : decode cc pc = .ok (.newarray .byte, 2)) (hn : ¬ n < 0) (hN : n.toNatClampNeg = N') (hb : N' * 1 ≤ 536870912) (hcs : cells + 1 ≤ rm.cells ∧ slots + N' ≤ rm.slots) (k : ∀ q : Nat, ol_G X V A true P rm nL (cells + 1) (slots + N') (ws ++ [(q, .inl (V.2.2.2.2 2, N', .inl fun _ => 0))]) (pc + 2) L (.ref q :: st)) : ol_G X V A true P rm nL cells slots ws pc L (.int n :: st) := fun H locs ls hH hL =>
  va_newa (atype := .byte) (ty := .byte) (a0 := (N', .inl fun _ => 0)) hX.x hX.b (hX.ts _ q252) rfl hX.K hH.1 (hH.2.2 rfl).1 (hH.2.2 rfl).2 hX.Aa (fun cA => rfl) hn hN hb hcs.1 hcs.2 hd (fun q cA H1 hK hP hD hS => by
    have h1 : X.2.2.1.vm.findClass _ = some cA := (hK.2 6 (cA, .byte) rfl).2
    have h2 : X.2.2.1.vm.findClass _ = some (V.2.2.2.2 2) := (hX.K.2 2 (V.2.2.2.2 2, .byte) rfl).2
    have e : cA = V.2.2.2.2 2 := Option.some.inj (h1.symm.trans h2)
    subst e
    exact k q H1 locs ls ⟨hP, (fun h => by cases h), fun _ => ⟨hD, hS⟩⟩ hL)
theorem ol_newaZ (hX : ol_CX X V A cc own nm nL ret) {n : Int32} {N' : Nat} (hd : decode cc pc = .ok (.newarray .boolean, 2)) (hn : ¬ n < 0) (hN : n.toNatClampNeg = N') (hb : N' * 1 ≤ 536870912) (hcs : cells + 1 ≤ rm.cells ∧ slots + N' ≤ rm.slots) (k : ∀ q : Nat, ol_G X V A true P rm nL (cells + 1) (slots + N') (ws ++ [(q, .inl (V.2.2.2.2 3, N', .inl fun _ => 0))]) (pc + 2) L (.ref q :: st)) : ol_G X V A true P rm nL cells slots ws pc L (.int n :: st) := fun H locs ls hH hL =>
  va_newa (atype := .boolean) (ty := .boolean) (a0 := (N', .inl fun _ => 0)) hX.x hX.b (hX.ts _ q253) rfl hX.K hH.1 (hH.2.2 rfl).1 (hH.2.2 rfl).2 hX.Aa (fun cA => rfl) hn hN hb hcs.1 hcs.2 hd (fun q cA H1 hK hP hD hS => by
    have h1 : X.2.2.1.vm.findClass _ = some cA := (hK.2 6 (cA, .boolean) rfl).2
    have h2 : X.2.2.1.vm.findClass _ = some (V.2.2.2.2 3) := (hX.K.2 3 (V.2.2.2.2 3, .boolean) rfl).2
    have e : cA = V.2.2.2.2 3 := Option.some.inj (h1.symm.trans h2)
    subst e
    exact k q H1 locs ls ⟨hP, (fun h => by cases h), fun _ => ⟨hD, hS⟩⟩ hL)
variable {y : MethodName} {bytes : ByteArray} {mL : Nat} {rt : Option FieldType} {r' : Room} {b : Nat} {As : List Value} {w0 : va_W} {v0 : Option Value} {C : String} {index q0 ci : Nat} {fs : List Value} {T : u_T} {N : Nat} {P' : Option Value → va_W → Prop} {host : String}
/-- readers, by a nest mate's link -/
theorem ol_cVNr (hX : ol_CX X V A cc own nm nL ret) (hM : ol_Mt V y bytes mL rt r' false (.ref b :: As) w0 (ol_Pr v0)) (hl : Cond.methodLinkNest own index y host ∈ lw_tbl) (hi : Cond.instanceMethod y ∈ lw_all) (hs : Cond.selects C y y ∈ lw_all) (hini : Cond.initialized y.cls ∈ lw_all) (hcd : Cond.code y bytes mL rt ∈ lw_all) (hd1 : y.cls = C ∧ ol_dc y As.length) (h0 : r'.cells = 0 ∧ r'.slots = 0) (hrm : ol_rr r' rm mL) (q0 : Nat) (hrv : ws[q0]? = some (b, .inr (ci, fs))) (hci : ol_cl[ci]? = some (C, T, N)) (hsub : ∀ H, va_P V.2.2.2.1 ol_cl ws H → va_P V.2.2.2.1 ol_cl w0 H) (hcs : cells ≤ rm.cells ∧ slots ≤ rm.slots) (hst : (st.map fun v => v.category).sum ≤ 8) (hd : decode cc pc = .ok (.invokevirtual index, 3)) (hstk : stk = As.reverse ++ .ref b :: st) (k : ol_G X V A md P rm nL cells slots ws (pc + 3) L (v0.toList ++ st)) : ol_G X V A md P rm nL cells slots ws pc L stk := fun H locs ls hH hL => by
  subst hstk
  refine ol_Wr (va_runVN (As := As) (rest := st) ⟨hX.x, hX.b, hX.ml, hX.ow, hX.ts⟩ (hM H.size) ⟨va_cnB (rm := r') As.length hX.ts (lw_meth hcd) rfl rfl rfl (hX.nwM hl) (hX.ts _ hini) hd1.2 hrm, hX.ts _ hi, hX.ts _ hs⟩ ⟨ol_PC_blind, va_recv hX.K hH.1 hci hrv, fun U hU hW => ⟨rfl, ol_PCat hX hH (hsub H hH.1) (fun h => by cases h) U hU hW⟩⟩ rfl rfl hL.1 rfl (lv_room hst) hd ⟨by rw [h0.1]; exact hcs.1, by rw [h0.2]; exact hcs.2⟩) h0.1 h0.2 (k H locs ls hH hL)
theorem ol_cSNr (hX : ol_CX X V A cc own nm nL ret) (hM : ol_Mt V y bytes mL rt r' false As w0 (ol_Pr v0)) (hl : Cond.methodLinkNest own index y host ∈ lw_tbl) (hi : Cond.static y ∈ lw_all) (hini : Cond.initialized y.cls ∈ lw_all) (hcd : Cond.code y bytes mL rt ∈ lw_all) (hd1 : ol_dc y As.length) (h0 : r'.cells = 0 ∧ r'.slots = 0) (hrm : ol_rr r' rm mL) (hsub : ∀ H, va_P V.2.2.2.1 ol_cl ws H → va_P V.2.2.2.1 ol_cl w0 H) (hcs : cells ≤ rm.cells ∧ slots ≤ rm.slots) (hst : (st.map fun v => v.category).sum ≤ 8) (hd : decode cc pc = .ok (.invokestatic index, 3)) (hstk : stk = As.reverse ++ st) (k : ol_G X V A md P rm nL cells slots ws (pc + 3) L (v0.toList ++ st)) : ol_G X V A md P rm nL cells slots ws pc L stk := fun H locs ls hH hL => by
  subst hstk
  refine ol_Wr (va_runSN (As := As) (rest := st) ⟨hX.x, hX.b, hX.ml, hX.ow, hX.ts⟩ (hM H.size) ⟨va_cnB (rm := r') As.length hX.ts (lw_meth hcd) rfl rfl rfl (hX.nwM hl) (hX.ts _ hini) hd1 hrm, hX.ts _ hi, trivial⟩ ⟨ol_PC_blind, fun U hU hW => ⟨rfl, ol_PCat hX hH (hsub H hH.1) (fun h => by cases h) U hU hW⟩⟩ rfl rfl hL.1 rfl (lv_room hst) hd ⟨by rw [h0.1]; exact hcs.1, by rw [h0.2]; exact hcs.2⟩) h0.1 h0.2 (k H locs ls hH hL)
/-- a reader, called through an interface -/
theorem ol_cFr {x : MethodName} {count : Nat} (hX : ol_CX X V A cc own nm nL ret) (hM : ol_Mt V y bytes mL rt r' false (.ref b :: As) w0 (ol_Pr v0)) (hw : GoodIn lw_all (va_wsF own index C x y (ws_ y bytes mL rt))) (hF : va_Fw C x y X.2.2.1) (hd1 : ol_dc x As.length) (h0 : r'.cells = 0 ∧ r'.slots = 0) (hrm : ol_rr r' rm mL) (hrv : (b, .inr (ci, fs)) ∈ ws) (hci : ol_cl[ci]? = some (C, T, N)) (hsub : ∀ H, va_P V.2.2.2.1 ol_cl ws H → va_P V.2.2.2.1 ol_cl w0 H) (hcs : cells ≤ rm.cells ∧ slots ≤ rm.slots) (hst : (st.map fun v => v.category).sum ≤ 8) (hd : decode cc pc = .ok (.invokeinterface index count, 5)) (hstk : stk = As.reverse ++ .ref b :: st) (k : ol_G X V A md P rm nL cells slots ws (pc + 5) L (v0.toList ++ st)) : ol_G X V A md P rm nL cells slots ws pc L stk := fun H locs ls hH hL => by
  subst hstk
  obtain ⟨q0, hrv⟩ := List.getElem?_of_mem hrv
  have hr := va_runF (p := X.1) (e := X.2.1) (below := X.2.2.2.2.2.1) (meth := X.2.2.2.2.2.2.1) (As := As) (rest := st) (hX.K.1 ci _ hci).2 ⟨hX.x, hX.b, hX.ml, hX.ow, hX.ts⟩ (hM H.size) (va_cwF (rm := r') As.length hX.ts hw rfl rfl rfl hF hd1 hrm) ⟨ol_PC_blind, va_recv hX.K hH.1 hci hrv, fun U hU hW => ⟨rfl, ol_PCat hX hH (hsub H hH.1) (fun h => by cases h) U hU hW⟩⟩ (g := F0 X.2.2.2.1 pc ls (As.reverse ++ .ref b :: st)) rfl rfl hL.1 rfl (lv_room hst) hd (locs := locs) (cells := cells) (slots := slots) ⟨by rw [h0.1]; exact hcs.1, by rw [h0.2]; exact hcs.2⟩
  intro T0 hT X0
  obtain ⟨v, st₀, t, T', L', h00, X', hL', e1, e2, ⟨⟨v', w, hv, hp, -, -⟩, hz, -⟩, st1⟩ := hr T0 hT X0
  cases hv
  have hp : v = v0 := hp
  subst hp
  have hL0 : L' = [] := by
    cases L' with
    | nil => rfl
    | cons x t => exact absurd (hL' x List.mem_cons_self).1 (by decide)
  subst hL0
  rw [List.append_nil, h0.1, h0.2] at X'
  obtain ⟨t2, a1, b1⟩ := k H locs ls hH hL T' (by rw [e1, hz rfl, h00]) X'
  exact ⟨t2, st1 t2 a1, b1⟩
/-- writers, framed: the callee has the world's tail -/
theorem ol_cVf {wr wc : va_W} (hX : ol_CX X V A cc own nm nL ret) (hM : ol_Mt V y bytes mL rt r' true (.ref b :: As) wc P') (hw : GoodIn lw_all (wsV own index C y (ws_ y bytes mL rt))) (hd1 : y.cls = C ∧ ol_dc y As.length) (hrm : ol_rr r' rm mL) (hrv : (b, .inr (ci, fs)) ∈ wc) (hci : ol_cl[ci]? = some (C, T, N)) (hcs : cells + r'.cells ≤ rm.cells ∧ slots + r'.slots ≤ rm.slots) (hst : (st.map fun v => v.category).sum ≤ 8) (hd : decode cc pc = .ok (.invokevirtual index, 3)) (hstk : stk = As.reverse ++ .ref b :: st) (k : ∀ (v : Option Value) (w : va_W), P' v w → ol_G X V A true P rm nL (cells + r'.cells) (slots + r'.slots) (wr ++ w) (pc + 3) L (v.toList ++ st)) : ol_G X V A true P rm nL cells slots (wr ++ wc) pc L stk := fun H locs ls hH hL => by
  subst hstk
  obtain ⟨q0, hrv⟩ := List.getElem?_of_mem hrv
  have hF : ∀ q, va_A wc H.size q → A q := by
    intro q h
    rcases h with ⟨k, e, h⟩ | h
    · exact (va_D_pre (hH.2.2 rfl).1).2.2 k (q, e) h
    · exact hX.Aa q (Nat.le_trans (hH.2.2 rfl).2.1 h)
  refine ol_Ww (va_runV (As := As) (rest := st) ⟨hX.x, hX.b, hX.ml, hX.ow, hX.ts⟩ (hM H.size) (cwV (rm := r') As.length hX.ts hw rfl rfl rfl hd1 hrm) ⟨ol_PC_blind, va_recv hX.K (va_P_pre hH.1).2 hci hrv, fun U hU hW => ⟨rfl, ol_PCat hX hH (va_P_pre hH.1).2 (fun _ => (va_D_pre (hH.2.2 rfl).1).2) U hU hW⟩⟩ rfl rfl hL.1 rfl (lv_room hst) hd hcs) (hH.2.2 rfl).2 hF (fun v w H1 locs1 hp hP hD hz hk hS => by
    obtain ⟨h1, h2⟩ := ol_joinA hH.1 (hH.2.2 rfl).1 hk hF hP hD
    exact k v w hp H1 locs1 ls ⟨h1, (fun h => by cases h), fun _ => ⟨h2, hS⟩⟩ hL)
theorem ol_cIf {wr wc : va_W} (hX : ol_CX X V A cc own nm nL ret) (hM : ol_Mt V y bytes mL none r' true (.ref b :: As) wc P') (hl : Cond.methodLink own index y ∈ lw_all) (hi : Cond.instanceMethod y ∈ lw_all) (hini : Cond.initialized y.cls ∈ lw_all) (hcd : Cond.code y bytes mL none ∈ lw_all) (hy : y.name = "<init>") (hd1 : ol_dc y As.length) (hrm : ol_rr r' rm mL) (hcs : cells + r'.cells ≤ rm.cells ∧ slots + r'.slots ≤ rm.slots) (hst : (st.map fun v => v.category).sum ≤ 8) (hd : decode cc pc = .ok (.invokespecial index, 3)) (hstk : stk = As.reverse ++ .ref b :: st) (k : ∀ (v : Option Value) (w : va_W), P' v w → ol_G X V A true P rm nL (cells + r'.cells) (slots + r'.slots) (wr ++ w) (pc + 3) L (v.toList ++ st)) : ol_G X V A true P rm nL cells slots (wr ++ wc) pc L stk := fun H locs ls hH hL => by
  subst hstk
  have hF : ∀ q, va_A wc H.size q → A q := by
    intro q h
    rcases h with ⟨k, e, h⟩ | h
    · exact (va_D_pre (hH.2.2 rfl).1).2.2 k (q, e) h
    · exact hX.Aa q (Nat.le_trans (hH.2.2 rfl).2.1 h)
  refine ol_Ww (va_runI (As := As) (rest := st) ⟨hX.x, hX.b, hX.ml, hX.ow, hX.ts⟩ (hM H.size) (cwI (rm := r') As.length hX.ts (lw_meth hcd) rfl rfl rfl (hX.ts _ hini) (hX.ts _ hl) (hX.ts _ hi) hy hd1 hrm) ⟨ol_PC_blind, fun U hU hW => ⟨rfl, ol_PCat hX hH (va_P_pre hH.1).2 (fun _ => (va_D_pre (hH.2.2 rfl).1).2) U hU hW⟩⟩ rfl rfl hL.1 rfl (lv_room hst) hd hcs) (hH.2.2 rfl).2 hF (fun v w H1 locs1 hp hP hD hz hk hS => by
    obtain ⟨h1, h2⟩ := ol_joinA hH.1 (hH.2.2 rfl).1 hk hF hP hD
    exact k v w hp H1 locs1 ls ⟨h1, (fun h => by cases h), fun _ => ⟨h2, hS⟩⟩ hL)
theorem ol_cINf {wr wc : va_W} (hX : ol_CX X V A cc own nm nL ret) (hM : ol_Mt V y bytes mL none r' true (.ref b :: As) wc P') (hl : Cond.methodLinkNest own index y host ∈ lw_tbl) (hi : Cond.instanceMethod y ∈ lw_all) (hini : Cond.initialized y.cls ∈ lw_all) (hcd : Cond.code y bytes mL none ∈ lw_all) (hy : y.name = "<init>") (hd1 : ol_dc y As.length) (hrm : ol_rr r' rm mL) (hcs : cells + r'.cells ≤ rm.cells ∧ slots + r'.slots ≤ rm.slots) (hst : (st.map fun v => v.category).sum ≤ 8) (hd : decode cc pc = .ok (.invokespecial index, 3)) (hstk : stk = As.reverse ++ .ref b :: st) (k : ∀ (v : Option Value) (w : va_W), P' v w → ol_G X V A true P rm nL (cells + r'.cells) (slots + r'.slots) (wr ++ w) (pc + 3) L (v.toList ++ st)) : ol_G X V A true P rm nL cells slots (wr ++ wc) pc L stk := fun H locs ls hH hL => by
  subst hstk
  have hF : ∀ q, va_A wc H.size q → A q := by
    intro q h
    rcases h with ⟨k, e, h⟩ | h
    · exact (va_D_pre (hH.2.2 rfl).1).2.2 k (q, e) h
    · exact hX.Aa q (Nat.le_trans (hH.2.2 rfl).2.1 h)
  refine ol_Ww (va_runIN (As := As) (rest := st) ⟨hX.x, hX.b, hX.ml, hX.ow, hX.ts⟩ (hM H.size) ⟨va_cnB (rm := r') As.length hX.ts (lw_meth hcd) rfl rfl rfl (hX.nwM hl) (hX.ts _ hini) hd1 hrm, hy, hX.ts _ hi⟩ ⟨ol_PC_blind, fun U hU hW => ⟨rfl, ol_PCat hX hH (va_P_pre hH.1).2 (fun _ => (va_D_pre (hH.2.2 rfl).1).2) U hU hW⟩⟩ rfl rfl hL.1 rfl (lv_room hst) hd hcs) (hH.2.2 rfl).2 hF (fun v w H1 locs1 hp hP hD hz hk hS => by
    obtain ⟨h1, h2⟩ := ol_joinA hH.1 (hH.2.2 rfl).1 hk hF hP hD
    exact k v w hp H1 locs1 ls ⟨h1, (fun h => by cases h), fun _ => ⟨h2, hS⟩⟩ hL)
theorem ol_cVNf {wr wc : va_W} (hX : ol_CX X V A cc own nm nL ret) (hM : ol_Mt V y bytes mL rt r' true (.ref b :: As) wc P') (hl : Cond.methodLinkNest own index y host ∈ lw_tbl) (hi : Cond.instanceMethod y ∈ lw_all) (hs : Cond.selects C y y ∈ lw_all) (hini : Cond.initialized y.cls ∈ lw_all) (hcd : Cond.code y bytes mL rt ∈ lw_all) (hd1 : y.cls = C ∧ ol_dc y As.length) (hrm : ol_rr r' rm mL) (hrv : (b, .inr (ci, fs)) ∈ wc) (hci : ol_cl[ci]? = some (C, T, N)) (hcs : cells + r'.cells ≤ rm.cells ∧ slots + r'.slots ≤ rm.slots) (hst : (st.map fun v => v.category).sum ≤ 8) (hd : decode cc pc = .ok (.invokevirtual index, 3)) (hstk : stk = As.reverse ++ .ref b :: st) (k : ∀ (v : Option Value) (w : va_W), P' v w → ol_G X V A true P rm nL (cells + r'.cells) (slots + r'.slots) (wr ++ w) (pc + 3) L (v.toList ++ st)) : ol_G X V A true P rm nL cells slots (wr ++ wc) pc L stk := fun H locs ls hH hL => by
  subst hstk
  obtain ⟨q0, hrv⟩ := List.getElem?_of_mem hrv
  have hF : ∀ q, va_A wc H.size q → A q := by
    intro q h
    rcases h with ⟨k, e, h⟩ | h
    · exact (va_D_pre (hH.2.2 rfl).1).2.2 k (q, e) h
    · exact hX.Aa q (Nat.le_trans (hH.2.2 rfl).2.1 h)
  refine ol_Ww (va_runVN (As := As) (rest := st) ⟨hX.x, hX.b, hX.ml, hX.ow, hX.ts⟩ (hM H.size) ⟨va_cnB (rm := r') As.length hX.ts (lw_meth hcd) rfl rfl rfl (hX.nwM hl) (hX.ts _ hini) hd1.2 hrm, hX.ts _ hi, hX.ts _ hs⟩ ⟨ol_PC_blind, va_recv hX.K (va_P_pre hH.1).2 hci hrv, fun U hU hW => ⟨rfl, ol_PCat hX hH (va_P_pre hH.1).2 (fun _ => (va_D_pre (hH.2.2 rfl).1).2) U hU hW⟩⟩ rfl rfl hL.1 rfl (lv_room hst) hd hcs) (hH.2.2 rfl).2 hF (fun v w H1 locs1 hp hP hD hz hk hS => by
    obtain ⟨h1, h2⟩ := ol_joinA hH.1 (hH.2.2 rfl).1 hk hF hP hD
    exact k v w hp H1 locs1 ls ⟨h1, (fun h => by cases h), fun _ => ⟨h2, hS⟩⟩ hL)
theorem ol_castM (hX : ol_CX X V A cc own nm nL ret) {nm2 : String} {a : Nat} (hl : Cond.classLink own index nm2 ∈ lw_all) (hc : Cond.castable C nm2 ∈ lw_tbl) (he : (a, .inr (ci, fs)) ∈ ws) (hci : ol_cl[ci]? = some (C, T, N)) (hd : decode cc pc = .ok (.checkcast index, 3)) (k : ol_G X V A md P rm nL cells slots ws (pc + 3) L (.ref a :: st)) : ol_G X V A md P rm nL cells slots ws pc L (.ref a :: st) := fun H locs ls hH hL => by
  obtain ⟨q0, he⟩ := List.getElem?_of_mem he
  exact va_castY hX.x hX.b hX.ow (hX.ts _ hl) (hX.nwC hc) (va_recv hX.K hH.1 hci he) hd (k H locs ls hH hL)
theorem ol_abs (hX : ol_CX X V A cc own nm nL ret) {x : Int32} (hl : Cond.methodLink own index Lib.Math.abs.name ∈ lw_all) (hst : Cond.static Lib.Math.abs.name ∈ lw_all) (hi : Cond.initialized "java/lang/Math" ∈ lw_all) (hc : Cond.code Lib.Math.abs.name Lib.Math.abs.code 1 (some .int) ∈ lw_all) (hf : 1 ≤ rm.frames) (hlo : (st.map fun v => v.category).sum + 13 ≤ rm.locals) (hcs : cells ≤ rm.cells ∧ slots ≤ rm.slots) (hd : decode cc pc = .ok (.invokestatic index, 3)) (k : ol_G X V A md P rm nL cells slots ws (pc + 3) L (.int (if 0 ≤ x then x else 0 - x) :: st)) : ol_G X V A md P rm nL cells slots ws pc L (.int x :: st) := fun H locs ls hH hL =>
  va_mabs hX.x hX.b (by rw [hX.ml]; exact hL.1.symm) hX.ow (hX.ts _ hl) (hX.ts _ hst) (hX.ts _ hi) (hX.ts _ hc) hf hlo hcs.1 hcs.2 hd (k H locs ls hH hL)
theorem ol_max (hX : ol_CX X V A cc own nm nL ret) {x y : Int32} (hl : Cond.methodLink own index Lib.Math.max.name ∈ lw_all) (hst : Cond.static Lib.Math.max.name ∈ lw_all) (hi : Cond.initialized "java/lang/Math" ∈ lw_all) (hc : Cond.code Lib.Math.max.name Lib.Math.max.code 2 (some .int) ∈ lw_all) (hf : 1 ≤ rm.frames) (hlo : (st.map fun v => v.category).sum + 13 ≤ rm.locals) (hcs : cells ≤ rm.cells ∧ slots ≤ rm.slots) (hd : decode cc pc = .ok (.invokestatic index, 3)) (k : ol_G X V A md P rm nL cells slots ws (pc + 3) L (.int (if x < y then y else x) :: st)) : ol_G X V A md P rm nL cells slots ws pc L (.int y :: .int x :: st) := fun H locs ls hH hL =>
  va_mmax hX.x hX.b (by rw [hX.ml]; exact hL.1.symm) hX.ow (hX.ts _ hl) (hX.ts _ hst) (hX.ts _ hi) (hX.ts _ hc) hf hlo hcs.1 hcs.2 hd (k H locs ls hH hL)
theorem ol_min (hX : ol_CX X V A cc own nm nL ret) {x y : Int32} (hl : Cond.methodLink own index Lib.Math.min.name ∈ lw_all) (hst : Cond.static Lib.Math.min.name ∈ lw_all) (hi : Cond.initialized "java/lang/Math" ∈ lw_all) (hc : Cond.code Lib.Math.min.name Lib.Math.min.code 2 (some .int) ∈ lw_all) (hf : 1 ≤ rm.frames) (hlo : (st.map fun v => v.category).sum + 13 ≤ rm.locals) (hcs : cells ≤ rm.cells ∧ slots ≤ rm.slots) (hd : decode cc pc = .ok (.invokestatic index, 3)) (k : ol_G X V A md P rm nL cells slots ws (pc + 3) L (.int (if y < x then y else x) :: st)) : ol_G X V A md P rm nL cells slots ws pc L (.int y :: .int x :: st) := fun H locs ls hH hL =>
  va_mmin hX.x hX.b (by rw [hX.ml]; exact hL.1.symm) hX.ow (hX.ts _ hl) (hX.ts _ hst) (hX.ts _ hi) (hX.ts _ hc) hf hlo hcs.1 hcs.2 hd (k H locs ls hH hL)
/-- aaload -/
theorem ol_aald (hX : ol_CX X V A cc own nm nL ret) (q0 : Nat) {a n : Nat} {f : Nat → Option Nat} (ha : ws[q0]? = some (a, .inl (V.2.2.2.2 4, n, .inr (.inr (.inr (.inr f)))))) {i : Int32} (hin : vp_in i n) (hd : decode cc pc = .ok (.aaload, 1)) (k : ol_G X V A md P rm nL cells slots ws (pc + 1) L (va_rf (f i.toNatClampNeg) :: st)) : ol_G X V A md P rm nL cells slots ws pc L (.int i :: .ref a :: st) := fun H locs ls hH hL => va_aldq hX.x hX.b hX.K hH.1 q0 4 ha rfl hin hd (k H locs ls hH hL)
theorem ol_ifnull (hX : ol_CX X V A cc own nm nL ret) {x : Nat} {off : Int} (hd : decode cc pc = .ok (.ifnull off, 3)) (k : ol_G X V A md P rm nL cells slots ws (pc + 3) L st) : ol_G X V A md P rm nL cells slots ws pc L (.ref x :: st) := fun H locs ls hH hL => lv_ifnull hX.x hX.b hd (k H locs ls hH hL)
theorem ol_ifnullN (hX : ol_CX X V A cc own nm nL ret) {off : Int} (tgt : Nat) (hd : decode cc pc = .ok (.ifnull off, 3)) (ht : (pc : Int) + off = (tgt : Int)) (k : ol_G X V A md P rm nL cells slots ws tgt L st) : ol_G X V A md P rm nL cells slots ws pc L (.null :: st) := fun H locs ls hH hL => lv_ifnullN hX.x hX.b hd ht (k H locs ls hH hL)
theorem ol_ifnonnull (hX : ol_CX X V A cc own nm nL ret) {x : Nat} {off : Int} (tgt : Nat) (hd : decode cc pc = .ok (.ifnonnull off, 3)) (ht : (pc : Int) + off = (tgt : Int)) (k : ol_G X V A md P rm nL cells slots ws tgt L st) : ol_G X V A md P rm nL cells slots ws pc L (.ref x :: st) := fun H locs ls hH hL => lv_ifnonnull hX.x hX.b hd ht (k H locs ls hH hL)
theorem ol_ifnonnullN (hX : ol_CX X V A cc own nm nL ret) {off : Int} (hd : decode cc pc = .ok (.ifnonnull off, 3)) (k : ol_G X V A md P rm nL cells slots ws (pc + 3) L st) : ol_G X V A md P rm nL cells slots ws pc L (.null :: st) := fun H locs ls hH hL => lv_ifnonnullN hX.x hX.b hd (k H locs ls hH hL)
end OLF
