/-! BASE: one state of a walk (ol_G): a world of cells, a pc, the locals, the stack; one form of contract (ol_Mt) -/
set_option maxRecDepth 100000
/-- what a run knows of its start: the launch, the law's first state, the script's cell, the classes' numbers, the array classes -/
abbrev ol_Gh : Type := Launch × State × Nat × va_G × (Nat → ClassId)
/-- a body: program, env, start, method, arguments, frames below, method, code; where it may throw: of what class, from where, over what world -/
abbrev ol_Cx : Type := Program × Env × State × MethodId × Array Value × List Frame × Method × Code × Option (String → Nat → va_W → Prop)
def ol_cl : List vw_C := [(RX4, TX4, 33), (RX1, TX1, 13), (RX2, TX2, 15), (RX3, TX3, 25), (RX5, TX5, 8), (RX6, TX6, 6), (RX7, TX7, 8), (RX9, TX9, 5), (RX10, TX10, 3), (RX11, TX11, 2), (RX12, TX12, 1), (RX13, TX13, 1), (RX14, TX14, 6), (RX15, TX15, 2), (RX16, TX16, 2), (RJ2, TJ2, 3), (RJ5, TJ5, 12), (RJ21, TJ21, 6), (RJ14, TJ14, 1), (RJ26, TJ26, 6)]
def ol_tys (V : ol_Gh) : List (ClassId × FieldType) := [(V.2.2.2.2 0, .int), (V.2.2.2.2 1, .long), (V.2.2.2.2 2, .byte), (V.2.2.2.2 3, .boolean), (V.2.2.2.2 4, .object "java/lang/Object"), (V.2.2.2.2 5, .object "java/util/HashMap$Node")]
def ol_Kv (V : ol_Gh) (U : State) : Prop := va_K V.2.2.2.1 ol_cl (ol_tys V) U
def ol_Start (V : ol_Gh) : Prop := (∀ w ∈ lw_tbl, w.before #[Value.ref V.2.2.1] V.2.1 = true) ∧ (Jvm.Cond.and given_1 narrow_1).before #[Value.ref V.2.2.1] V.2.1 = true ∧ ol_Kv V V.2.1
/-- a state that came of the law's first one: its tables warmer, its old cells as they were -/
def ol_ZZ (V : ol_Gh) (U : State) : Prop := ol_Start V ∧ V.2.1.WarmedH U.vm ∧ V.2.1.heap.size ≤ U.heap.size ∧ ∀ q : Nat, q < V.2.1.heap.size → U.heap[q]? = V.2.1.heap[q]?
theorem ol_ZZ.K {V : ol_Gh} {U : State} (h : ol_ZZ V U) : ol_Kv V U := va_K.moved h.2.1.alike h.1.2.2
theorem ol_ZZ.at {V : ol_Gh} {s U : State} {A : Nat → Prop} {H : Heap} {locs : List Loc} (h : ol_ZZ V s) (hS : va_S A s.heap H locs) (hA : ∀ q : Nat, A q → V.2.1.heap.size ≤ q) (hU : U.heap = H) (hW : s.WarmedH U.vm) : ol_ZZ V U := by
  refine ⟨h.1, State.WarmedH.trans h.2.1 hW, ?_, fun q hq => ?_⟩
  · rw [hU]; exact Nat.le_trans h.2.2.1 hS.1
  · rw [hU, hS.2.1 q (Nat.lt_of_lt_of_le hq h.2.2.1) (fun z => absurd (hA q z) (Nat.not_le.mpr hq))]
    exact h.2.2.2 q hq
/-! the locals -/
def ol_las : Nat → List (Option Value) → List (Nat × Value)
  | _, [] => []
  | k, none :: t => ol_las (k + 1) t
  | k, some v :: t => (k, v) :: ol_las (k + 1) t
theorem ol_las_mem : ∀ (L : List (Option Value)) (k : Nat) (q : Nat × Value), q ∈ ol_las k L ↔ ∃ j : Nat, L[j]? = some (some q.2) ∧ q.1 = k + j := by
  intro L
  induction L with
  | nil => intro k q; simp [ol_las]
  | cons x t ih =>
    intro k q
    cases x with
    | none =>
      simp only [ol_las, ih]
      constructor
      · rintro ⟨j, h1, h2⟩
        exact ⟨j + 1, by simpa using h1, by omega⟩
      · rintro ⟨j, h1, h2⟩
        cases j with
        | zero => simp at h1
        | succ j => exact ⟨j, by simpa using h1, by omega⟩
    | some v =>
      simp only [ol_las, List.mem_cons, ih]
      constructor
      · rintro (rfl | ⟨j, h1, h2⟩)
        · exact ⟨0, by simp, by simp⟩
        · exact ⟨j + 1, by simpa using h1, by omega⟩
      · rintro ⟨j, h1, h2⟩
        cases j with
        | zero =>
          left
          have h3 : v = q.2 := by simpa using h1
          obtain ⟨q1, q2⟩ := q
          simp only at h2 h3
          rw [h2, h3]
          rfl
        | succ j => exact Or.inr ⟨j, by simpa using h1, by omega⟩
def ol_LH (ls : Array Slot) (nL : Nat) (L : List (Option Value)) : Prop := lv_has ls nL (ol_las 0 L)
theorem ol_LH.get {ls : Array Slot} {nL : Nat} {L : List (Option Value)} (h : ol_LH ls nL L) {i : Nat} {v : Value} (hi : L[i]? = some (some v)) : ls[i]? = some (.val v) := h.2.2 (i, v) ((ol_las_mem L 0 (i, v)).mpr ⟨i, hi, by simp⟩)
theorem ol_LH.of {ls : Array Slot} {nL : Nat} {l : List (Nat × Value)} {L : List (Option Value)} (h : lv_has ls nL l) (hl : ∀ (i : Nat) (v : Value), L[i]? = some (some v) → (i, v) ∈ l) : ol_LH ls nL L := by
  refine ⟨h.1, h.2.1, fun q hq => ?_⟩
  obtain ⟨j, hj, e⟩ := (ol_las_mem L 0 q).mp hq
  have e2 : q.1 = j := by omega
  have h3 := h.2.2 (j, q.2) (hl j q.2 hj)
  rw [e2]
  exact h3
theorem ol_LH.sub {ls : Array Slot} {nL : Nat} {L L' : List (Option Value)} (h : ol_LH ls nL L) (hl : ∀ (i : Nat) (v : Value), L'[i]? = some (some v) → L[i]? = some (some v)) : ol_LH ls nL L' :=
  ol_LH.of h fun i v hi => (ol_las_mem L 0 (i, v)).mpr ⟨i, hl i v hi, by simp⟩
/-- no long begins just ahead of that place -/
def ol_lok (L : List (Option Value)) : Nat → Bool
  | 0 => true
  | k + 1 => match L[k]? with
    | some (some v) => v.category == 1
    | _ => true
theorem ol_lok_no {L : List (Option Value)} {i j : Nat} {w : Value} (h : ol_lok L i = true) (hj : L[j]? = some (some w)) (e : j + 1 = i) : ¬ w.category = 2 := by
  subst e
  simp only [ol_lok, hj, beq_iff_eq] at h
  omega
theorem ol_LH.set1 {ls' : Array Slot} {nL i : Nat} {v : Value} {L : List (Option Value)} (hk : ol_lok L i = true) (h : lv_has ls' nL ((i, v) :: (ol_las 0 L).filter (fun q => !(q.1 == i) && !(q.1 + 1 == i && q.2.category == 2)))) : ol_LH ls' nL (L.set i (some v)) := by
  refine ol_LH.of h fun j w hj => ?_
  by_cases hij : i = j
  · subst hij
    rw [List.getElem?_set] at hj
    simp only [if_true] at hj
    split at hj
    · cases hj
      exact List.mem_cons_self
    · cases hj
  · rw [List.getElem?_set_ne hij] at hj
    refine List.mem_cons_of_mem _ (List.mem_filter.mpr ⟨(ol_las_mem L 0 (j, w)).mpr ⟨j, hj, by simp⟩, ?_⟩)
    simp only [Bool.and_eq_true, Bool.not_eq_true', beq_eq_false_iff_ne, ne_eq, Bool.and_eq_false_iff]
    refine ⟨fun e => hij e.symm, ?_⟩
    by_cases e : j + 1 = i
    · exact Or.inr (ol_lok_no hk hj e)
    · exact Or.inl e
theorem ol_LH.set2 {ls' : Array Slot} {nL i : Nat} {v : Value} {L : List (Option Value)} (hk : ol_lok L i = true) (h : lv_has ls' nL ((i, v) :: (ol_las 0 L).filter (fun q => !(q.1 == i) && (!(q.1 == i + 1) && !(q.1 + 1 == i && q.2.category == 2))))) : ol_LH ls' nL ((L.set i (some v)).set (i + 1) none) := by
  refine ol_LH.of h fun j w hj => ?_
  by_cases hij1 : i + 1 = j
  · subst hij1
    rw [List.getElem?_set] at hj
    simp only [if_true] at hj
    split at hj <;> cases hj
  · rw [List.getElem?_set_ne hij1] at hj
    by_cases hij : i = j
    · subst hij
      rw [List.getElem?_set] at hj
      simp only [if_true] at hj
      split at hj
      · cases hj
        exact List.mem_cons_self
      · cases hj
    · rw [List.getElem?_set_ne hij] at hj
      refine List.mem_cons_of_mem _ (List.mem_filter.mpr ⟨(ol_las_mem L 0 (j, w)).mpr ⟨j, hj, by simp⟩, ?_⟩)
      simp only [Bool.and_eq_true, Bool.not_eq_true', beq_eq_false_iff_ne, ne_eq, Bool.and_eq_false_iff]
      refine ⟨fun e => hij e.symm, fun e => hij1 e.symm, ?_⟩
      by_cases e : j + 1 = i
      · exact Or.inr (ol_lok_no hk hj e)
      · exact Or.inl e
/-! the state of a walk, the contract -/
/-- the heap holds the world; a reader (md = false) has moved nothing; a writer (md = true) nothing outside A -/
def ol_HC (V : ol_Gh) (md : Bool) (A : Nat → Prop) (s : State) (ws : va_W) (H : Heap) (locs : List Loc) : Prop :=
  va_P V.2.2.2.1 ol_cl ws H ∧ (md = false → H = s.heap ∧ locs = []) ∧ (md = true → va_D A ws ∧ va_S A s.heap H locs)
theorem ol_HC.S {V : ol_Gh} {md : Bool} {A : Nat → Prop} {s : State} {ws : va_W} {H : Heap} {locs : List Loc} (h : ol_HC V md A s ws H locs) : va_S A s.heap H locs := by
  cases md with
  | false =>
    obtain ⟨h1, h2⟩ := h.2.1 rfl
    subst h1; subst h2
    exact va_S.rf
  | true => exact (h.2.2 rfl).2
theorem ol_HC.free {V : ol_Gh} {md : Bool} {A : Nat → Prop} {s : State} {ws : va_W} {H : Heap} {locs : List Loc} (h : ol_HC V md A s ws H locs) : ∀ q ∈ locs, md = true ∧ A q.base := by
  cases md with
  | false =>
    obtain ⟨h1, h2⟩ := h.2.1 rfl
    subst h2
    intro q hq
    cases hq
  | true => exact fun q hq => ⟨rfl, (h.2.2 rfl).2.2.2 q hq⟩
def ol_Fr (md : Bool) (A : Nat → Prop) : Addr → Prop := fun q => md = true ∧ A q
/-- how a method ends: it returns v, the world is w -/
def ol_GQ (V : ol_Gh) (md : Bool) (A : Nat → Prop) (P : Option Value → va_W → Prop) : Array Value → State → Outcome → State → Prop := fun _ st oc t =>
  (∃ (v : Option Value) (w : va_W), oc = .returned v ∧ P v w ∧ va_P V.2.2.2.1 ol_cl w t.heap ∧ (md = true → va_D A w)) ∧ (md = false → t.heap = st.heap) ∧ (md = true → va_F A st t)
/-- how a method begins -/
def ol_PC (V : ol_Gh) (md : Bool) (sz : Nat) (w0 : va_W) (U : State) : Prop := U.heap.size = sz ∧ va_P V.2.2.2.1 ol_cl w0 U.heap ∧ (md = true → va_D (fun q => V.2.1.heap.size ≤ q) w0) ∧ ol_ZZ V U
/-- a contract -/
def ol_Mt (V : ol_Gh) (y : MethodName) (cc : ByteArray) (nL : Nat) (ret : Option FieldType) (rm : Room) (md : Bool) (av : List Value) (w0 : va_W) (P : Option Value → va_W → Prop) : Prop :=
  ∀ sz : Nat, Met V.1 y (ws_ y cc nL ret) rm (va_Pc av (ol_PC V md sz w0)) (ol_GQ V md (va_A (bif md then w0 else []) sz) P) rm.cells rm.slots (ol_Fr md (va_A (bif md then w0 else []) sz))
theorem ol_PC_blind {V : ol_Gh} {md : Bool} {sz : Nat} {w0 : va_W} {av : List Value} : FrameBlind (va_Pc av (ol_PC V md sz w0)) := fun a U g mk h => by
  obtain ⟨h0, h1, h2, h3, h4, h5, h6, h7⟩ := h
  exact ⟨h0, h1, h2, h3, h4, h5, h6, h7⟩
/-- what holds all through a body -/
def ol_CX (X : ol_Cx) (V : ol_Gh) (A : Nat → Prop) (cc : ByteArray) (own nm : String) (nL : Nat) (ret : Option FieldType) : Prop :=
  X.1.tables.exec = Jvm.exec ∧ X.2.2.2.2.2.2.2.1.code = cc ∧ X.2.2.2.2.2.2.2.1.maxLocals = nL ∧ X.2.2.1.vm.findClass own = some X.2.2.2.1.cls ∧ (∀ w ∈ lw_all, w.before X.2.2.2.2.1 X.2.2.1 = true) ∧ X.2.2.2.2.2.2.1.sig.returnType = ret ∧ X.2.2.2.2.2.2.1.locks = false ∧ X.2.2.2.2.2.2.1.name = nm ∧ ol_ZZ V X.2.2.1 ∧ (∀ q : Nat, X.2.2.1.heap.size ≤ q → A q) ∧ (∀ q : Nat, A q → V.2.1.heap.size ≤ q) ∧ (X.2.2.2.2.2.2.2.2 = none ∨ ∀ x ∈ X.2.2.2.2.2.2.2.1.exceptionTable.toList, False)
section OLR
variable {X : ol_Cx} {V : ol_Gh} {A : Nat → Prop} {cc : ByteArray} {own nm : String} {nL : Nat} {ret : Option FieldType}
theorem ol_CX.x (h : ol_CX X V A cc own nm nL ret) : X.1.tables.exec = Jvm.exec := h.1
theorem ol_CX.b (h : ol_CX X V A cc own nm nL ret) : X.2.2.2.2.2.2.2.1.code = cc := h.2.1
theorem ol_CX.ml (h : ol_CX X V A cc own nm nL ret) : X.2.2.2.2.2.2.2.1.maxLocals = nL := h.2.2.1
theorem ol_CX.ow (h : ol_CX X V A cc own nm nL ret) : X.2.2.1.vm.findClass own = some X.2.2.2.1.cls := h.2.2.2.1
theorem ol_CX.ts (h : ol_CX X V A cc own nm nL ret) : ∀ w ∈ lw_all, w.before X.2.2.2.2.1 X.2.2.1 = true := h.2.2.2.2.1
theorem ol_CX.r (h : ol_CX X V A cc own nm nL ret) : X.2.2.2.2.2.2.1.sig.returnType = ret := h.2.2.2.2.2.1
theorem ol_CX.lk (h : ol_CX X V A cc own nm nL ret) : X.2.2.2.2.2.2.1.locks = false := h.2.2.2.2.2.2.1
theorem ol_CX.nme (h : ol_CX X V A cc own nm nL ret) : X.2.2.2.2.2.2.1.name = nm := h.2.2.2.2.2.2.2.1
theorem ol_CX.Z (h : ol_CX X V A cc own nm nL ret) : ol_ZZ V X.2.2.1 := h.2.2.2.2.2.2.2.2.1
theorem ol_CX.K (h : ol_CX X V A cc own nm nL ret) : ol_Kv V X.2.2.1 := h.Z.K
theorem ol_CX.Aa (h : ol_CX X V A cc own nm nL ret) : ∀ q : Nat, X.2.2.1.heap.size ≤ q → A q := h.2.2.2.2.2.2.2.2.2.1
theorem ol_CX.A0 (h : ol_CX X V A cc own nm nL ret) : ∀ q : Nat, A q → V.2.1.heap.size ≤ q := h.2.2.2.2.2.2.2.2.2.2.1
theorem ol_CX.nt (h : ol_CX X V A cc own nm nL ret) {PX : String → Nat → va_W → Prop} (e : X.2.2.2.2.2.2.2.2 = some PX) : ∀ x ∈ X.2.2.2.2.2.2.2.1.exceptionTable.toList, False := h.2.2.2.2.2.2.2.2.2.2.2.resolve_left (by rw [e]; exact fun h => by cases h)
end OLR
/-- how a body throws: an object of the class E at q, over the world w -/
def ol_XC (V : ol_Gh) (A : Nat → Prop) (PX : String → Nat → va_W → Prop) : Nat → String → State → State → Prop := fun q E st t => ∃ w : va_W, PX E q w ∧ va_P V.2.2.2.1 ol_cl w t.heap ∧ va_D A w ∧ va_F A st t
/-- how a body ends -/
def ol_MQ (X : ol_Cx) (V : ol_Gh) (A : Nat → Prop) (md : Bool) (P : Option Value → va_W → Prop) (rm : Room) : State → Prop := match X.2.2.2.2.2.2.2.2 with
  | none => MQ X.2.2.2.2.2.1 (ol_GQ V md A P) X.2.2.2.2.1 X.2.2.1 rm.cells rm.slots (ol_Fr md A)
  | some PX => vq_MQ X.2.2.2.2.2.1 (ol_GQ V md A P) (ol_XC V A PX) X.2.2.2.2.1 X.2.2.1 rm.cells rm.slots (ol_Fr md A)
theorem ol_MQx {X : ol_Cx} {V : ol_Gh} {A : Nat → Prop} {md : Bool} {P : Option Value → va_W → Prop} {rm : Room} {PX : String → Nat → va_W → Prop} (h : X.2.2.2.2.2.2.2.2 = some PX) : ol_MQ X V A md P rm = vq_MQ X.2.2.2.2.2.1 (ol_GQ V md A P) (ol_XC V A PX) X.2.2.2.2.1 X.2.2.1 rm.cells rm.slots (ol_Fr md A) := by
  simp only [ol_MQ, h]
theorem ol_MQof {X : ol_Cx} {V : ol_Gh} {A : Nat → Prop} {md : Bool} {P : Option Value → va_W → Prop} {rm R : Room} {p : Program} {l : Launch} {e : Env} {s : State} {m : MethodId} {args : Array Value} {below : List Frame} {meth : Method} {c : Code} {H : Heap} {locs : List Loc} {cells slots : Nat} {g : JFrame}
    (k : W p l e R s m args below meth c H locs cells slots (MQ X.2.2.2.2.2.1 (ol_GQ V md A P) X.2.2.2.2.1 X.2.2.1 rm.cells rm.slots (ol_Fr md A)) g) : W p l e R s m args below meth c H locs cells slots (ol_MQ X V A md P rm) g := by
  cases h : X.2.2.2.2.2.2.2.2 with
  | none =>
    have e : ol_MQ X V A md P rm = MQ X.2.2.2.2.2.1 (ol_GQ V md A P) X.2.2.2.2.1 X.2.2.1 rm.cells rm.slots (ol_Fr md A) := by
      simp only [ol_MQ, h]
    rw [e]
    exact k
  | some PX =>
    rw [ol_MQx h]
    intro T hT S
    obtain ⟨t, a1, o, b1, b2, b3, b4⟩ := k T hT S
    exact ⟨t, a1, o, b1, b2, Or.inl ⟨b3, b4⟩⟩
/-- the machine stands at pc, with the locals L and the stack st, over the world ws, and comes to an end as P says -/
def ol_G (X : ol_Cx) (V : ol_Gh) (A : Nat → Prop) (md : Bool) (P : Option Value → va_W → Prop) (rm : Room) (nL cells slots : Nat) (ws : va_W) (pc : Nat) (L : List (Option Value)) (st : List Value) : Prop :=
  ∀ (H : Heap) (locs : List Loc) (ls : Array Slot), ol_HC V md A X.2.2.1 ws H locs → ol_LH ls nL L → W X.1 V.1 X.2.1 rm X.2.2.1 X.2.2.2.1 X.2.2.2.2.1 X.2.2.2.2.2.1 X.2.2.2.2.2.2.1 X.2.2.2.2.2.2.2.1 H locs cells slots (ol_MQ X V A md P rm) (F0 X.2.2.2.1 pc ls st)
theorem ol_MtOf {V : ol_Gh} {y : MethodName} {cc : ByteArray} {nL : Nat} {ret : Option FieldType} {rm : Room} {md : Bool} {av : List Value} {w0 : va_W} {P : Option Value → va_W → Prop} {L0 : List (Option Value)} (hy : plainName y.cls = true) (hn : (lg_sl av).length ≤ nL) (hL : ol_las 0 L0 = lv_args 0 av)
    (body : ∀ (X : ol_Cx) (A : Nat → Prop), ol_CX X V A cc y.cls y.name nL ret → ol_G X V A md P rm nL 0 0 w0 0 L0 []) : ol_Mt V y cc nL ret rm md av w0 P := by
  intro sz
  refine Met.ofW (cc := cc) (maxL := nL) (ret := ret) hy rfl ?_
  intro p e s m args below meth c s₁ B hml hv
  obtain ⟨rfl, rfl, hP, hD, hZ⟩ := hv
  have hts := atoms_spec (ws := ws_ y cc nL ret) B.pre
  have hts : ∀ w ∈ lw_all, w.before _ s = true := fun w h => hts w (List.mem_cons_of_mem _ h)
  have hown : s.vm.findClass y.cls = some m.cls := findClass_of_methodNamed B.named
  have hl := lv_entry av (n := nL) hn
  rw [lg_entry_eq]
  refine body (p, e, s, m, av.toArray, below, meth, c, none) (va_A (bif md then w0 else []) s.heap.size) ⟨B.exec, B.bytes, hml, hown, hts, B.returns, B.notSynchronized, (name_of_methodNamed B.named B.method).1, hZ, fun q h => Or.inr h, fun q h => ?_, Or.inl rfl⟩ s.heap [] _ ⟨hP, fun _ => ⟨rfl, rfl⟩, fun h => ⟨?_, va_S.rf⟩⟩ (by unfold ol_LH; rw [hL]; exact hl)
  · rcases h with ⟨k, e', h⟩ | h
    · cases md with
      | false => simp at h
      | true => exact (hD rfl).2 k (q, e') h
    · exact Nat.le_trans hZ.2.2.1 h
  · subst h
    exact (hD rfl).self
/-- a contract of a method that may throw -/
def ol_Mx (V : ol_Gh) (y : MethodName) (cc : ByteArray) (nL : Nat) (ret : Option FieldType) (rm : Room) (av : List Value) (w0 : va_W) (P : Option Value → va_W → Prop) (PX : String → Nat → va_W → Prop) : Prop :=
  ∀ sz : Nat, vq_Met V.1 y (ws_ y cc nL ret) rm (va_Pc av (ol_PC V true sz w0)) (ol_GQ V true (va_A w0 sz) P) (ol_XC V (va_A w0 sz) PX) rm.cells rm.slots (ol_Fr true (va_A w0 sz))
theorem ol_MxOf {V : ol_Gh} {y : MethodName} {cc : ByteArray} {nL : Nat} {ret : Option FieldType} {rm : Room} {av : List Value} {w0 : va_W} {P : Option Value → va_W → Prop} {PX : String → Nat → va_W → Prop} {L0 : List (Option Value)} (hy : plainName y.cls = true) (hn : (lg_sl av).length ≤ nL) (hL : ol_las 0 L0 = lv_args 0 av)
    (body : ∀ (X : ol_Cx) (A : Nat → Prop), ol_CX X V A cc y.cls y.name nL ret → X.2.2.2.2.2.2.2.2 = some PX → ol_G X V A true P rm nL 0 0 w0 0 L0 []) : ol_Mx V y cc nL ret rm av w0 P PX := by
  intro sz
  refine vq_ofW (cc := cc) (maxL := nL) (ret := ret) hy rfl ?_
  intro p e s m args below meth c s₁ B hml hno hv
  obtain ⟨rfl, rfl, hP, hD, hZ⟩ := hv
  have hts := atoms_spec (ws := ws_ y cc nL ret) B.pre
  have hts : ∀ w ∈ lw_all, w.before _ s = true := fun w h => hts w (List.mem_cons_of_mem _ h)
  have hown : s.vm.findClass y.cls = some m.cls := findClass_of_methodNamed B.named
  have hl := lv_entry av (n := nL) hn
  rw [lg_entry_eq]
  refine body (p, e, s, m, av.toArray, below, meth, c, some PX) (va_A w0 s.heap.size) ⟨B.exec, B.bytes, hml, hown, hts, B.returns, B.notSynchronized, (name_of_methodNamed B.named B.method).1, hZ, fun q h => Or.inr h, fun q h => ?_, Or.inr hno⟩ rfl s.heap [] _ ⟨hP, fun _ => ⟨rfl, rfl⟩, fun h => ⟨?_, va_S.rf⟩⟩ (by unfold ol_LH; rw [hL]; exact hl)
  · rcases h with ⟨k, e', h⟩ | h
    · exact (hD rfl).2 k (q, e') h
    · exact Nat.le_trans hZ.2.2.1 h
  · exact (hD rfl).self
