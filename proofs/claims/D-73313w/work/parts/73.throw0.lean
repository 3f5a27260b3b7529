/-! THROWS of the JDK's exceptions: new E(); athrow -/
set_option maxRecDepth 100000
/-- what Throwable's constructor looks at -/
def ol_Th (V : ol_Gh) : Prop := V.1.stackTraces = false ∧ (Cond.isRef (.static Bundle.tN "UNASSIGNED_STACK" Bundle.steD)).before #[Value.ref V.2.2.1] V.2.1 = true ∧ (Cond.isRef (.static Bundle.tN "SUPPRESSED_SENTINEL" Bundle.listD)).before #[Value.ref V.2.2.1] V.2.1 = true
theorem vq_ofx {p : Program} {l : Launch} {e : Env} {R : Room} {s : State} {m : MethodId} {args : Array Value} {below : List Frame} {meth : Method} {c : Code} {H : Heap} {locs : List Loc} {cells slots mc ms : Nat} {free : Addr → Prop} {Qc : Array Value → State → Outcome → State → Prop} {XC' : String → State → State → Prop} {XC : Nat → String → State → State → Prop} {g : JFrame} (h : ∀ E st t q, XC' E st t → XC q E st t) (k : W p l e R s m args below meth c H locs cells slots (vx_MQ below Qc XC' args s mc ms free) g) : W p l e R s m args below meth c H locs cells slots (vq_MQ below Qc XC args s mc ms free) g := by
  intro T hT X
  obtain ⟨t, a1, o, b1, b2, b3⟩ := k T hT X
  refine ⟨t, a1, o, b1, b2, ?_⟩
  rcases b3 with b3 | ⟨q, c1, E, ce, L, c2, c3⟩
  · exact Or.inl b3
  · exact Or.inr ⟨q, c1, E, ce, L, h _ _ _ _ c2, c3⟩
section OLT0
variable {X : ol_Cx} {V : ol_Gh} {A : Nat → Prop} {cc : ByteArray} {own nm : String} {nL : Nat} {ret : Option FieldType} {P : Option Value → va_W → Prop} {PX : String → Nat → va_W → Prop} {rm : Room} {cells slots : Nat} {ws : va_W} {pc : Nat} {L : List (Option Value)} {st : List Value}
theorem ol_Zq (hX : ol_CX X V A cc own nm nL ret) {C n d : String} (hl : Cond.laysStatic C n d ∈ lw_tbl) (hini : Cond.initialized C ∈ lw_tbl) (h : (Cond.isRef (.static C n d)).before #[Value.ref V.2.2.1] V.2.1 = true) : vx_Zq C n d A X.2.2.1 X.2.2.1.heap := by
  obtain ⟨hS, hW, hz, hk⟩ := hX.Z
  have h0 : vx_Zq C n d A V.2.1 V.2.1.heap := vx_Zqof (hS.1 _ hl) (hS.1 _ hini) h fun a ha q => Nat.not_le.mpr ha (hX.2.2.2.2.2.2.2.2.2.2.1 a q)
  exact vx_Zq.moved hW.alike (h0.kept fun a ha _ => hk a ha)
/-- throw new E(): the world stays, E comes out -/
theorem ol_throw0 (hX : ol_CX X V A cc own nm nL ret) (hpx : X.2.2.2.2.2.2.2.2 = some PX) (hth : ol_Th V) {cls : String} {names : List String} {ik ic : Nat} (hcls : Bundle.fit cls = true) (hnames : ∀ n ∈ names, Bundle.fit n = true) (hk : Cond.classLink own ik cls ∈ lw_all) (hini : Cond.initialized cls ∈ lw_all) (hat : ∀ w ∈ vx_at0 own ic cls names, w.before X.2.2.2.2.1 X.2.2.1 = true) (hgood : ∀ w ∈ Cond.classLink own ik cls :: Cond.initialized cls :: vx_at0 own ic cls names, vx_ot w = true)
    (d0 : decode cc pc = .ok (.new ik, 3)) (d3 : decode cc (pc + 3) = .ok (.dup, 1)) (d4 : decode cc (pc + 4) = .ok (.invokespecial ic, 3)) (d7 : decode cc (pc + 7) = .ok (.athrow, 1))
    (hRframes : names.length + 3 < rm.frames) (hRlocals : (st.map fun v => v.category).sum + (13 * (names.length + 1) + 42) ≤ rm.locals) (hcs : cells + 1 ≤ rm.cells ∧ slots + 6 ≤ rm.slots) (hp : ∀ q, PX cls q ws) : ol_G X V A true P rm nL cells slots ws pc L st := fun H locs ls hH hL => by
  have hD := (hH.2.2 rfl).1
  have hS := (hH.2.2 rfl).2
  have ti : Cond.initialized "java/lang/Throwable" ∈ lw_tbl := lw_all_tbl q118
  rw [ol_MQx hpx]
  refine vq_ofx (XC' := fun E st t => E = cls ∧ va_P V.2.2.2.1 ol_cl ws t.heap ∧ va_F A st t) (fun E st t q h => ⟨ws, by rw [h.1]; exact hp q, h.2.1, hD, h.2.2⟩) ?_
  refine vx_throw0 (A := A) hX.x hX.b hth.1 hX.ow hcls hnames (hX.ts _ hk) (hX.ts _ hini) hat hgood (ol_Zq hX q645 ti hth.2.1) (ol_Zq hX q647 ti hth.2.2) hS (by rw [hX.ml]; exact hL.1) d0 d3 d4 d7 (fun x hx => (hX.nt hpx x hx).elim) hRframes hRlocals hcs.1 hcs.2 hX.lk (fun t ht h1 h2 => ⟨rfl, ?_, ?_⟩) (fun z hz => ⟨rfl, hS.2.2 z hz⟩) hcs.1 hcs.2
  · exact hH.1.kept fun k q hq => h2 q.1 (hH.1 k q hq).lt
  · exact ⟨Nat.le_trans hS.1 h1, fun q h3 h4 => (h2 q (Nat.lt_of_lt_of_le h3 hS.1)).trans (hS.2.1 q h3 h4)⟩
end OLT0
