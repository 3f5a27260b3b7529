/-! a log's world; Run.notes -/
set_option maxRecDepth 100000
def ol_Lo (V : ol_Gh) (a : Nat → Nat) (gh : ol_Lh) (lg : Nat → Nat → Int32) (r : Nat) : va_W := if r = 10 then ol_Lc V a gh lg 19 ++ ol_Lc V a gh lg 28 else if r = 19 then ol_Lc V a gh lg 10 ++ ol_Lc V a gh lg 28 else ol_Lc V a gh lg 10 ++ ol_Lc V a gh lg 19
theorem ol_LcLs {V : ol_Gh} {a : Nat → Nat} {gh : ol_Lh} {lg : Nat → Nat → Int32} {r : Nat} {E : va_W} : ol_Lc V a gh lg r ++ E = ol_Ls V (a (r + 30)) (a (r + 31)) 16 (gh.1 r) (lg r 0) (gh.2.1 r) E := rfl
theorem ol_perm5 {α : Type} (X B L1 L2 L3 E ext t : List α) : (X ++ (B ++ ((L1 ++ (L2 ++ (L3 ++ E))) ++ ext)) ++ t).Perm ((X ++ (B ++ ((L2 ++ L3) ++ ext))) ++ (L1 ++ (t ++ E))) := by
  classical
  rw [List.perm_iff_count]
  intro x
  simp only [List.count_append]
  omega
theorem ol_perm6 {α : Type} (X B L1 L2 L3 E ext t : List α) : (X ++ (B ++ ((L1 ++ (L2 ++ (L3 ++ E))) ++ ext)) ++ t).Perm ((X ++ (B ++ ((L1 ++ L3) ++ ext))) ++ (L2 ++ (t ++ E))) := by
  classical
  rw [List.perm_iff_count]
  intro x
  simp only [List.count_append]
  omega
theorem ol_perm7 {α : Type} (X B L1 L2 L3 E ext t : List α) : (X ++ (B ++ ((L1 ++ (L2 ++ (L3 ++ E))) ++ ext)) ++ t).Perm ((X ++ (B ++ ((L1 ++ L2) ++ ext))) ++ (L3 ++ (t ++ E))) := by
  classical
  rw [List.perm_iff_count]
  intro x
  simp only [List.count_append]
  omega
/-- a log brought to the end of the world -/
theorem ol_Lperm {V : ol_Gh} {a : Nat → Nat} {gh : ol_Lh} {lg : Nat → Nat → Int32} {r : Nat} (hr : ol_isr r) (X B ext t : va_W) : (X ++ (B ++ (ol_WL V a gh lg ++ ext)) ++ t).Perm ((X ++ (B ++ (ol_Lo V a gh lg r ++ ext))) ++ ol_Ls V (a (r + 30)) (a (r + 31)) 16 (gh.1 r) (lg r 0) (gh.2.1 r) (t ++ gh.2.2.map ol_ent)) := by
  rw [← ol_LcLs]
  rcases hr with rfl | rfl | rfl
  · exact ol_perm5 _ _ _ _ _ _ _ _
  · exact ol_perm6 _ _ _ _ _ _ _ _
  · exact ol_perm7 _ _ _ _ _ _ _ _
theorem ol_Lperm0 {V : ol_Gh} {a : Nat → Nat} {gh : ol_Lh} {lg : Nat → Nat → Int32} {r : Nat} (hr : ol_isr r) (X B ext : va_W) : (X ++ (B ++ (ol_WL V a gh lg ++ ext))).Perm ((X ++ (B ++ (ol_Lo V a gh lg r ++ ext))) ++ ol_Ls V (a (r + 30)) (a (r + 31)) 16 (gh.1 r) (lg r 0) (gh.2.1 r) (gh.2.2.map ol_ent)) := by
  have hp := ol_Lperm (V := V) (a := a) (gh := gh) (lg := lg) hr X B ext []
  rw [List.append_nil] at hp
  exact hp
def ol_ghU (gh : ol_Lh) (r : Nat) (m : Int32) (f : Nat → Option Nat) (E : List (Nat × (Nat → Int32))) : ol_Lh := (fun ρ => if ρ = r then m else gh.1 ρ, fun ρ => if ρ = r then f else gh.2.1 ρ, E)
def ol_lgU (σ : ol_Xm) (r : Nat) (F : Nat → Int32) : ol_Xm := (σ.1, σ.2.1, fun ρ => if ρ = r then F else σ.2.2 ρ)
theorem ol_LcU {V : ol_Gh} {a : Nat → Nat} {gh : ol_Lh} {σ : ol_Xm} {r ρ : Nat} {m : Int32} {f : Nat → Option Nat} {E : List (Nat × (Nat → Int32))} {F : Nat → Int32} (h : ρ ≠ r) : ol_Lc V a (ol_ghU gh r m f E) (ol_lgU σ r F).2.2 ρ = ol_Lc V a gh σ.2.2 ρ := by
  simp only [ol_Lc, ol_ghU, ol_lgU, if_neg h]
theorem ol_LoU {V : ol_Gh} {a : Nat → Nat} {gh : ol_Lh} {σ : ol_Xm} {r : Nat} {m : Int32} {f : Nat → Option Nat} {E : List (Nat × (Nat → Int32))} {F : Nat → Int32} (hr : ol_isr r) : ol_Lo V a (ol_ghU gh r m f E) (ol_lgU σ r F).2.2 r = ol_Lo V a gh σ.2.2 r := by
  rcases hr with rfl | rfl | rfl
  · simp only [ol_Lo, if_true, ol_LcU (show (19 : Nat) ≠ 10 by decide), ol_LcU (show (28 : Nat) ≠ 10 by decide)]
  · simp only [ol_Lo, if_neg (show ¬ (19 : Nat) = 10 by decide), if_true, ol_LcU (show (10 : Nat) ≠ 19 by decide), ol_LcU (show (28 : Nat) ≠ 19 by decide)]
  · simp only [ol_Lo, if_neg (show ¬ (28 : Nat) = 10 by decide), if_neg (show ¬ (28 : Nat) = 19 by decide), ol_LcU (show (10 : Nat) ≠ 28 by decide), ol_LcU (show (19 : Nat) ≠ 28 by decide)]
/-- and back, changed -/
theorem ol_Lback {V : ol_Gh} {a : Nat → Nat} {r0 : Option Nat} {gh : ol_Lh} {σ : ol_Xm} {r : Nat} {m n : Int32} {f : Nat → Option Nat} {E : List (Nat × (Nat → Int32))} {F : Nat → Int32} (hr : ol_isr r) (hF : F 0 = n) (B ext : va_W) : ((ol_Xc V a r0 σ ++ (B ++ (ol_Lo V a gh σ.2.2 r ++ ext))) ++ ol_Ls V (a (r + 30)) (a (r + 31)) 16 m n f (E.map ol_ent)).Perm (ol_Xc V a r0 (ol_lgU σ r F) ++ (B ++ (ol_WL V a (ol_ghU gh r m f E) (ol_lgU σ r F).2.2 ++ ext))) := by
  have h := (ol_Lperm (V := V) (a := a) (gh := ol_ghU gh r m f E) (lg := (ol_lgU σ r F).2.2) hr (ol_Xc V a r0 σ) B ext []).symm
  rw [ol_LoU hr, List.append_nil, List.nil_append] at h
  have e1 : (ol_ghU gh r m f E).1 r = m := if_pos rfl
  have e2 : (ol_ghU gh r m f E).2.1 r = f := if_pos rfl
  have e3 : (ol_lgU σ r F).2.2 r 0 = n := by show (if r = r then F else _) 0 = n; rw [if_pos rfl]; exact hF
  rw [e1, e2, e3] at h
  exact h
theorem ol_WLmem {V : ol_Gh} {a : Nat → Nat} {gh : ol_Lh} {lg : Nat → Nat → Int32} {r : Nat} (hr : ol_isr r) {X B ext : va_W} {q : Nat × va_E} (hq : q ∈ ol_Lc V a gh lg r) : q ∈ X ++ (B ++ (ol_WL V a gh lg ++ ext)) := by
  refine List.mem_append_right _ (List.mem_append_right _ (List.mem_append_left _ ?_))
  unfold ol_WL
  rcases hr with rfl | rfl | rfl
  · exact List.mem_append_left _ hq
  · exact List.mem_append_right _ (List.mem_append_left _ hq)
  · exact List.mem_append_right _ (List.mem_append_right _ (List.mem_append_left _ hq))
/-- the picture of a log without its first entry -/
def ol_lgDrop (F : Nat → Int32) : Nat → Int32 := fun k => if k = 0 then F 0 - 1 else F (k + 6)
/-- .. and with one more -/
def ol_lgPut (F e : Nat → Int32) : Nat → Int32 := fun k => if k = 0 then F 0 + 1 else if 1 + 6 * (F 0).toNatClampNeg ≤ k ∧ k < 1 + 6 * (F 0).toNatClampNeg + 6 then e (k - (1 + 6 * (F 0).toNatClampNeg)) else F k
/-- a run's new entry -/
def ol_lgE (σ : ol_Xm) (r : Nat) (x1 : Int32) : Nat → Int32 := fun k => match k with
  | 0 => σ.1 r 8
  | 1 => σ.1 r 13
  | 2 => σ.1 r 22
  | 3 => σ.1 r 23
  | 4 => x1
  | _ => σ.1 r 21
def oX3_notes (σ : ol_Xm) (_β : ol_Bd) (r : Nat) (x1 : Int32) : Option ol_Xm :=
  some (ol_lgU σ r (ol_lgPut (if σ.2.2 r 0 = 16 then ol_lgDrop (σ.2.2 r) else σ.2.2 r) (ol_lgE σ r x1)))
theorem ol_i_succ {n : Int32} (h0 : 0 ≤ n.toInt) (h : n.toInt < 16) : (n + 1).toInt = n.toInt + 1 ∧ (n + 1).toNatClampNeg = n.toNatClampNeg + 1 := by
  have e1 : (n + 1).toInt = n.toInt + 1 := by
    rw [Int32.toInt_add]
    have : (1 : Int32).toInt = 1 := rfl
    rw [this, Int.bmod_eq_of_le (by omega) (by omega)]
  have e2 : (n + 1).toNatClampNeg = (n + 1).toInt.toNat := rfl
  have e3 : n.toNatClampNeg = n.toInt.toNat := rfl
  exact ⟨e1, by omega⟩
theorem ol_RelU {gh : ol_Lh} {σ : ol_Xm} {r : Nat} {m : Int32} {f : Nat → Option Nat} {E : List (Nat × (Nat → Int32))} {F : Nat → Int32} (h : ol_Rel gh σ.2.2) (hE : ∀ e ∈ gh.2.2, e ∈ E) (hF : (0 ≤ (F 0).toInt ∧ (F 0).toInt ≤ 16) ∧ ∀ i : Nat, i < (F 0).toNatClampNeg → ∃ e ∈ E, f i = some e.1 ∧ ∀ k, k < 6 → e.2 k = F (1 + 6 * i + k)) : ol_Rel (ol_ghU gh r m f E) (ol_lgU σ r F).2.2 := by
  intro ρ hρ
  by_cases e : ρ = r
  · subst e
    have e2 : (ol_ghU gh ρ m f E).2.1 ρ = f := if_pos rfl
    have e3 : (ol_lgU σ ρ F).2.2 ρ = F := if_pos rfl
    rw [e2, e3]
    exact hF
  · have e2 : (ol_ghU gh r m f E).2.1 ρ = gh.2.1 ρ := if_neg e
    have e3 : (ol_lgU σ r F).2.2 ρ = σ.2.2 ρ := if_neg e
    rw [e2, e3]
    refine ⟨(h ρ hρ).1, fun i hi => ?_⟩
    obtain ⟨y, h1, h2, h3⟩ := (h ρ hρ).2 i hi
    exact ⟨y, hE y h1, h2, h3⟩
theorem ol_RelPut {gh : ol_Lh} {σ : ol_Xm} {r q : Nat} {m : Int32} {e : Nat → Int32} (hr : ol_isr r) (h : ol_Rel gh σ.2.2) (h16 : (σ.2.2 r 0).toInt < 16) : ol_Rel (ol_ghU gh r m (va_up (gh.2.1 r) (σ.2.2 r 0).toNatClampNeg (some q)) ((q, e) :: gh.2.2)) (ol_lgU σ r (ol_lgPut (σ.2.2 r) e)).2.2 := by
  obtain ⟨⟨h1, h2⟩, h3⟩ := h r hr
  obtain ⟨s1, s2⟩ := ol_i_succ h1 h16
  have e0 : ol_lgPut (σ.2.2 r) e 0 = σ.2.2 r 0 + 1 := rfl
  refine ol_RelU h (fun _ h => List.mem_cons_of_mem _ h) ⟨⟨by rw [e0, s1]; omega, by rw [e0, s1]; omega⟩, fun i hi => ?_⟩
  rw [e0, s2] at hi
  by_cases hi2 : i = (σ.2.2 r 0).toNatClampNeg
  · refine ⟨(q, e), List.mem_cons_self, by rw [hi2]; simp [va_up], fun k hk => ?_⟩
    show e k = ol_lgPut _ _ _
    unfold ol_lgPut
    rw [if_neg (by omega), if_pos (by omega)]
    congr 1
    omega
  · obtain ⟨y, g1, g2, g3⟩ := h3 i (by omega)
    refine ⟨y, List.mem_cons_of_mem _ g1, by unfold va_up; rw [if_neg hi2]; exact g2, fun k hk => ?_⟩
    rw [g3 k hk]
    unfold ol_lgPut
    rw [if_neg (by omega), if_neg (by omega)]
theorem ol_RelDrop {gh : ol_Lh} {σ : ol_Xm} {r : Nat} {m : Int32} {f' : Nat → Option Nat} (hr : ol_isr r) (h : ol_Rel gh σ.2.2) (h0 : 0 < σ.2.2 r 0) (hf : ∀ j : Nat, j + 1 < (σ.2.2 r 0).toNatClampNeg → f' j = gh.2.1 r (j + 1)) : ol_Rel (ol_ghU gh r m f' gh.2.2) (ol_lgU σ r (ol_lgDrop (σ.2.2 r))).2.2 := by
  obtain ⟨⟨h1, h2⟩, h3⟩ := h r hr
  obtain ⟨s1, s2⟩ := ol_i_pred h0
  obtain ⟨s3, s4⟩ := ol_n_pred h0
  have e0 : ol_lgDrop (σ.2.2 r) 0 = σ.2.2 r 0 - 1 := rfl
  refine ol_RelU h (fun _ h => h) ⟨⟨by rw [e0, s1]; omega, by rw [e0, s1]; omega⟩, fun i hi => ?_⟩
  rw [e0, s3] at hi
  obtain ⟨y, g1, g2, g3⟩ := h3 (i + 1) (by omega)
  refine ⟨y, g1, by rw [hf i (by omega)]; exact g2, fun k hk => ?_⟩
  rw [g3 k hk]
  show σ.2.2 r (1 + 6 * (i + 1) + k) = if 1 + 6 * i + k = 0 then _ else σ.2.2 r (1 + 6 * i + k + 6)
  rw [if_neg (by omega)]
  exact congrArg (σ.2.2 r) (by omega)
theorem dcX3_notes : yX3_notes.cls = RX3 ∧ ol_dc yX3_notes 1 := by decide +kernel
set_option maxHeartbeats 4000000 in
theorem wX3_notes_L21 {X : ol_Cx} {V : ol_Gh} {A : Nat → Prop} {a : Nat → Nat} {r0 : Option Nat} {ext B : va_W} {P : Option Value → va_W → Prop} (hX : ol_CX X V A cX3_notes RX3 "notes" 2 none) (σ : ol_Xm) (r : Nat) (x1 : Int32) (hr : ol_isr r) (gh : ol_Lh) (hg : ol_Rel gh σ.2.2) (h16 : (σ.2.2 r 0).toInt < 16) (hP : ∀ gh2 : ol_Lh, ol_Rel gh2 (ol_lgU σ r (ol_lgPut (σ.2.2 r) (ol_lgE σ r x1))).2.2 → P none (ol_Xc V a r0 (ol_lgU σ r (ol_lgPut (σ.2.2 r) (ol_lgE σ r x1))) ++ (B ++ (ol_WL V a gh2 (ol_lgU σ r (ol_lgPut (σ.2.2 r) (ol_lgE σ r x1))).2.2 ++ ext)))) : ol_G X V A true P ({ frames := 3, cells := 1, slots := 6, locals := 100 } : Room) 2 0 0 (ol_Xc V a r0 σ ++ (B ++ (ol_WL V a gh σ.2.2 ++ ext))) 21 [some (.ref (a r)), some (.int x1)] [] := by
  obtain ⟨⟨h1, h2⟩, h3⟩ := hg r hr
  refine ol_aload_n hX (pc := 21) dX3_notes_21 rfl rfl ?_
  refine ol_xg_R_19 hX (pc := 22) hr q282 dX3_notes_22 ?_
  refine ol_new (ci := 12) hX (pc := 25) in_X14 tyX14 tyX14_ok q1836 q1892 q142 rfl [.int 0, .int 0, .int 0, .int 0, .int 0, .int 0] (fun j hj => by rcases (show j = 0 ∨ j = 1 ∨ j = 2 ∨ j = 3 ∨ j = 4 ∨ j = 5 by omega) with rfl | rfl | rfl | rfl | rfl | rfl <;> rfl) ⟨Nat.le_of_ble_eq_true rfl, Nat.le_of_ble_eq_true rfl⟩ dX3_notes_25 (fun q => ?_)
  refine ol_dup hX (pc := 28) dX3_notes_28 rfl ?_
  refine ol_Geq (List.append_assoc _ _ _) ?_
  refine ol_aload_n hX (pc := 29) dX3_notes_29 rfl rfl ?_
  refine ol_xg_R_8 hX (pc := 30) hr q269 dX3_notes_30 ?_
  refine ol_aload_n hX (pc := 33) dX3_notes_33 rfl rfl ?_
  refine ol_xg_R_13 hX (pc := 34) hr q276 dX3_notes_34 ?_
  refine ol_aload_n hX (pc := 37) dX3_notes_37 rfl rfl ?_
  refine ol_xg_R_22 hX (pc := 38) hr q286 dX3_notes_38 ?_
  refine ol_aload_n hX (pc := 41) dX3_notes_41 rfl rfl ?_
  refine ol_xg_R_23 hX (pc := 42) hr q287 dX3_notes_42 ?_
  refine ol_iload_n hX (pc := 45) dX3_notes_45 rfl rfl ?_
  refine ol_aload_n hX (pc := 46) dX3_notes_46 rfl rfl ?_
  refine ol_xg_R_21 hX (pc := 47) hr q285 dX3_notes_47 ?_
  refine ol_Geq (List.append_assoc _ _ _).symm ?_
  refine ol_cINW (As := [.int (σ.1 r 8), .int (σ.1 r 13), .int (σ.1 r 22), .int (σ.1 r 23), .int x1, .int (σ.1 r 21)]) hX (pc := 50) (wX14_init V _ q (σ.1 r 8) (σ.1 r 13) (σ.1 r 22) (σ.1 r 23) x1 (σ.1 r 21)) q1893 q1894 q142 q1895 rfl dcX14_init ⟨Nat.le_of_ble_eq_true rfl, Nat.le_of_ble_eq_true rfl⟩ ⟨Nat.le_of_ble_eq_true rfl, Nat.le_of_ble_eq_true rfl⟩ (Nat.le_of_ble_eq_true rfl) dX3_notes_50 rfl (fun v w hp => ?_)
  obtain ⟨rfl, rfl⟩ := hp
  refine ol_Gperm (ol_Lperm hr _ _ _ _) ?_
  have e3 : (σ.2.2 r 0).toNatClampNeg = (σ.2.2 r 0).toInt.toNat := rfl
  refine ol_cVf (As := [.ref q]) hX (pc := 53) (wJ2_add V (a (r + 30)) (a (r + 31)) 16 q 12 6 RX14 TX14 (gh.1 r) (σ.2.2 r 0) (gh.2.1 r) _ _ rfl q2679 (vp_in_iff.mpr ⟨h1, h16⟩) (fun e => by rw [e] at h16; revert h16; decide)) (lw_V q1837 q1163 q1164 q107 q1165) dcJ2_add ⟨Nat.le_of_ble_eq_true rfl, Nat.le_of_ble_eq_true rfl⟩ List.mem_cons_self rfl ⟨Nat.le_of_ble_eq_true rfl, Nat.le_of_ble_eq_true rfl⟩ (Nat.le_of_ble_eq_true rfl) dX3_notes_53 rfl (fun v w hp => ?_)
  obtain ⟨rfl, rfl⟩ := hp
  refine ol_pop hX (pc := 56) dX3_notes_56 rfl ?_
  refine ol_Gperm (ol_Lback (E := (q, ol_lgE σ r x1) :: gh.2.2) (F := ol_lgPut (σ.2.2 r) (ol_lgE σ r x1)) hr rfl _ _) ?_
  exact ol_vret hX (pc := 57) dX3_notes_57 (hP _ (ol_RelPut hr hg h16)) ⟨Nat.le_of_ble_eq_true rfl, Nat.le_of_ble_eq_true rfl⟩
set_option maxHeartbeats 4000000 in
theorem wX3_notes (V : ol_Gh) (a : Nat → Nat) (r0 : Option Nat) (ext : va_W) (g : Nat → Nat → Nat) (σ : ol_Xm) (β : ol_Bd) (r : Nat) (x1 : Int32) (hr : ol_isr r) (gh : ol_Lh) (hg : ol_Rel gh σ.2.2) (z : ol_Xm) (h : oX3_notes σ β r x1 = some z) : ol_Mt V yX3_notes cX3_notes 2 none ({ frames := 3, cells := 1, slots := 6, locals := 100 } : Room) true [.ref (a r), .int x1] (ol_Xc V a r0 σ ++ (ol_WB V g β ++ (ol_WL V a gh σ.2.2 ++ ext))) (fun v w => ∃ gh2 : ol_Lh, ol_Rel gh2 z.2.2 ∧ v = none ∧ w = ol_Xc V a r0 z ++ (ol_WB V g β ++ (ol_WL V a gh2 z.2.2 ++ ext))) := by
  have h := ol_of_some h
  obtain ⟨⟨h1, h2⟩, h3⟩ := hg r hr
  refine ol_MtOf (L0 := [some (.ref (a r)), some (.int x1)]) (by decide) (Nat.le_of_ble_eq_true rfl) rfl (fun X A hX => ?_)
  refine ol_aload_n hX (pc := 0) dX3_notes_0 rfl rfl ?_
  refine ol_xg_R_19 hX (pc := 1) hr q282 dX3_notes_1 ?_
  refine ol_cVrM (As := []) hX (pc := 4) (wJ2_size V _ _ _ _ _ (ol_WLmem hr List.mem_cons_self)) (lw_V q1834 q717 q718 q107 q719) dcJ2_size ⟨rfl, rfl⟩ ⟨Nat.le_of_ble_eq_true rfl, Nat.le_of_ble_eq_true rfl⟩ (ol_WLmem hr List.mem_cons_self) rfl (fun _ h => h) ⟨Nat.le_of_ble_eq_true rfl, Nat.le_of_ble_eq_true rfl⟩ (Nat.le_of_ble_eq_true rfl) dX3_notes_4 rfl ?_
  refine ol_bipush hX (pc := 7) 16 dX3_notes_7 (by decide) ?_
  refine ol_icmp_ne hX (pc := 9) 21 dX3_notes_9 (by decide) (fun c => ?_) (fun c => ?_)
  · rw [if_neg c] at h
    subst h
    refine wX3_notes_L21 hX σ r x1 hr gh hg ?_ (fun gh2 hg2 => ⟨gh2, hg2, rfl, rfl⟩)
    have : ¬ (σ.2.2 r 0).toInt = 16 := fun e => c (Int32.toInt_inj.mp e)
    omega
  · have c : σ.2.2 r 0 = 16 := c
    rw [if_pos c] at h
    refine ol_aload_n hX (pc := 12) dX3_notes_12 rfl rfl ?_
    refine ol_xg_R_19 hX (pc := 13) hr q282 dX3_notes_13 ?_
    refine ol_iconst hX (pc := 16) 0 dX3_notes_16 (by decide) ?_
    refine ol_Gperm (ol_Lperm0 hr _ _ _) ?_
    have c0 : 0 < σ.2.2 r 0 := by rw [c]; decide
    refine ol_cVf (As := [.int 0]) hX (pc := 17) (wJ2_remove V (a (r + 30)) (a (r + 31)) 16 12 6 RX14 TX14 (gh.1 r) (σ.2.2 r 0) (gh.2.1 r) (gh.2.2.map ol_ent) rfl q2679 c0 (by rw [c]; decide) (fun i hi y hy => by
      obtain ⟨e, g1, g2, -⟩ := h3 i hi
      rw [g2] at hy
      cases hy
      exact ⟨_, List.mem_map.mpr ⟨e, g1, rfl⟩⟩)) (lw_V q1883 q1884 q1885 q107 q1886) dcJ2_remove ⟨Nat.le_of_ble_eq_true rfl, Nat.le_of_ble_eq_true rfl⟩ List.mem_cons_self rfl ⟨Nat.le_of_ble_eq_true rfl, Nat.le_of_ble_eq_true rfl⟩ (Nat.le_of_ble_eq_true rfl) dX3_notes_17 rfl (fun v w hp => ?_)
    obtain ⟨f', hf', rfl, rfl⟩ := hp
    refine ol_pop hX (pc := 20) dX3_notes_20 (by cases gh.2.1 r 0 <;> rfl) ?_
    refine ol_Gperm (ol_Lback (E := gh.2.2) (F := ol_lgDrop (σ.2.2 r)) hr rfl _ _) ?_
    have hU : ol_lgU (ol_lgU σ r (ol_lgDrop (σ.2.2 r))) r (ol_lgPut ((ol_lgU σ r (ol_lgDrop (σ.2.2 r))).2.2 r) (ol_lgE (ol_lgU σ r (ol_lgDrop (σ.2.2 r))) r x1)) = z := by
      subst h
      have e1 : (ol_lgU σ r (ol_lgDrop (σ.2.2 r))).2.2 r = ol_lgDrop (σ.2.2 r) := if_pos rfl
      rw [e1]
      unfold ol_lgU
      simp only [Prod.mk.injEq, true_and]
      funext ρ
      by_cases e : ρ = r
      · rw [if_pos e, if_pos e]
        rfl
      · rw [if_neg e, if_neg e, if_neg e]
    refine wX3_notes_L21 hX (ol_lgU σ r (ol_lgDrop (σ.2.2 r))) r x1 hr _ (ol_RelDrop hr hg c0 hf') ?_ (fun gh2 hg2 => by rw [hU] at hg2 ⊢; exact ⟨gh2, hg2, rfl, rfl⟩)
    have e1 : (ol_lgU σ r (ol_lgDrop (σ.2.2 r))).2.2 r = ol_lgDrop (σ.2.2 r) := if_pos rfl
    rw [e1]
    show (σ.2.2 r 0 - 1).toInt < 16
    rw [(ol_i_pred c0).1]
    omega
