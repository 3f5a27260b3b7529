/-! CALLS, XV: never. What the system computes (some none: it throws), written as its code goes; and the law -/
set_option maxRecDepth 100000
def oX1_never_L20 (σ : ol_Xm) (β : ol_Bd) (x1 : Int32) (k4 : Int32 → Int32 → Option (Option Int32)) : Nat → Int32 → Int32 → Int32 → Option (Option Int32)
  | 0, _, _, _ => none
  | n + 1, v2, v3, v4 =>
    (if (β.1 0 3) ≤ v4 then
      k4 v2 (v3 + 1)
    else
      (ol_og (ol_ib β v4) (
        (if (β.1 2 v4.toNatClampNeg) = v3 then
          (ol_og (ol_in ((6 * v4) + 0) 36) (
            (if (σ.1 (10 + 7) (((6 * v4) + 0).toNatClampNeg)) ≤ 0 then
              (if v2 = x1 then
                some (some v4)
              else
                oX1_never_L20 σ β x1 k4 n (v2 + 1) v3 (v4 + 1))
            else
              oX1_never_L20 σ β x1 k4 n v2 v3 (v4 + 1))))
        else
          oX1_never_L20 σ β x1 k4 n v2 v3 (v4 + 1)))))
def oX1_never_L4 (σ : ol_Xm) (β : ol_Bd) (x1 : Int32) : Nat → Int32 → Int32 → Option (Option Int32)
  | 0, _, _ => none
  | n + 1, v2, v3 =>
    (if 10 ≤ v3 then
      some none
    else
      oX1_never_L20 σ β x1 (oX1_never_L4 σ β x1 n) ol_fuel v2 v3 0)
def oX1_never (σ : ol_Xm) (β : ol_Bd) (x1 : Int32) : Option (Option Int32) := oX1_never_L4 σ β x1 ol_fuel 0 0
/-- how many of the first n -/
def sp_ct (f : Nat → Prop) [DecidablePred f] : Nat → Nat
  | 0 => 0
  | k + 1 => if f k then sp_ct f k + 1 else sp_ct f k
theorem sp_ct_le {f g : Nat → Prop} [DecidablePred f] [DecidablePred g] : ∀ n, (∀ o, o < n → f o → g o) → sp_ct f n ≤ sp_ct g n := by
  intro n
  induction n with
  | zero => intro _; exact Nat.le_refl _
  | succ n ih =>
    intro h
    have := ih fun o ho => h o (by omega)
    show (if f n then sp_ct f n + 1 else sp_ct f n) ≤ (if g n then sp_ct g n + 1 else sp_ct g n)
    by_cases c : f n
    · rw [if_pos c, if_pos (h n (by omega) c)]
      omega
    · rw [if_neg c]
      by_cases d : g n
      · rw [if_pos d]
        omega
      · rw [if_neg d]
        exact this
theorem sp_ct_lt {f g : Nat → Prop} [DecidablePred f] [DecidablePred g] : ∀ n, (∀ o, o < n → f o → g o) → ∀ b, b < n → g b → ¬ f b → sp_ct f n < sp_ct g n := by
  intro n
  induction n with
  | zero => intro _ b hb; omega
  | succ n ih =>
    intro h b hb hg hf
    have h1 := sp_ct_le (f := f) (g := g) n fun o ho => h o (by omega)
    show (if f n then sp_ct f n + 1 else sp_ct f n) < (if g n then sp_ct g n + 1 else sp_ct g n)
    by_cases e : b = n
    · subst e
      rw [if_neg hf, if_pos hg]
      omega
    · have h2 := ih (fun o ho => h o (by omega)) b (by omega) hg hf
      by_cases c : f n
      · rw [if_pos c, if_pos (h n (by omega) c)]
        omega
      · rw [if_neg c]
        by_cases d : g n
        · rw [if_pos d]
          omega
        · rw [if_neg d]
          exact h2
/-- one more, if there is just one more -/
theorem sp_ct_one {f g : Nat → Prop} [DecidablePred f] [DecidablePred g] : ∀ n b, b < n → (∀ o, o < n → (g o ↔ f o ∨ o = b)) → ¬ f b → sp_ct g n = sp_ct f n + 1 := by
  intro n
  induction n with
  | zero => intro b hb; omega
  | succ n ih =>
    intro b hb h hf
    show (if g n then sp_ct g n + 1 else sp_ct g n) = (if f n then sp_ct f n + 1 else sp_ct f n) + 1
    by_cases e : b = n
    · subst e
      have h1 : sp_ct g b = sp_ct f b := Nat.le_antisymm (sp_ct_le b fun o ho hg => ((h o (by omega)).mp hg).resolve_right (by omega)) (sp_ct_le b fun o ho hf => (h o (by omega)).mpr (Or.inl hf))
      rw [if_neg hf, if_pos ((h b (by omega)).mpr (Or.inr rfl)), h1]
    · have h1 := ih b (by omega) (fun o ho => h o (by omega)) hf
      by_cases c : f n
      · rw [if_pos c, if_pos ((h n (by omega)).mpr (Or.inl c)), h1]
      · rw [if_neg c, if_neg (fun q => ((h n (by omega)).mp q).elim c fun q => e q.symm), h1]
theorem sp_ct_all {f : Nat → Prop} [DecidablePred f] : ∀ n, (∀ o, o < n → f o) → sp_ct f n = n := by
  intro n
  induction n with
  | zero => intro _; rfl
  | succ n ih =>
    intro h
    show (if f n then sp_ct f n + 1 else sp_ct f n) = n + 1
    rw [if_pos (h n (by omega)), ih fun o ho => h o (by omega)]
theorem sp_ct_n {f : Nat → Prop} [DecidablePred f] (n : Nat) : sp_ct f n ≤ n := by
  have := sp_ct_le (f := f) (g := fun _ => True) n fun _ _ _ => trivial
  rw [sp_ct_all (f := fun _ => True) n fun _ _ => trivial] at this
  exact this
section PNV
variable {K : Nat} {B : ol_Bp} {β : ol_Bd} {bp T U H : Nat} {wt : Nat → Option Nat} {σ σ' : ol_Xm} {τ τ' : ol_Mm}
/-- the board of the x-th slot -/
theorem pv_by (hB : pb_ok B) (hM : pb_M B (τ.1 2)) {b0 : Nat} (hb0 : b0 < pb_n B) : oX4_bySlot τ (nI (sp_ct (fun o => pb_sl B o < pb_sl B b0) (pb_n B))) = some (nI b0) := by
  have h6 := hB.1.1.2
  generalize hx : sp_ct (fun o => pb_sl B o < pb_sl B b0) (pb_n B) = x
  have hx6 : x ≤ 6 := by
    rw [← hx]
    exact Nat.le_trans (sp_ct_n _) h6
  have inner : ∀ (k2 : Int32 → Option Int32) b, b < pb_n B → oX4_bySlot_L17 τ (nI x) k2 ol_fuel (nI b) 0 0 = if sp_ct (fun o => pb_sl B o < pb_sl B b) (pb_n B) = x then some (nI b) else k2 (nI b + 1) := fun k2 b hb => by
    refine pl_for (fun n v (s : Int32) => oX4_bySlot_L17 τ (nI x) k2 n (nI b) s v) (pb_n B) (fun k s => s = nI (sp_ct (fun o => pb_sl B o < pb_sl B b) k)) (fun z => z = if sp_ct (fun o => pb_sl B o < pb_sl B b) (pb_n B) = x then some (nI b) else k2 (nI b + 1)) (fun n k s hk hs ih => ?_) ol_fuel 0 0 (by omega) (by unfold ol_fuel; omega) rfl
    show oX4_bySlot_L17 τ (nI x) k2 (n + 1) (nI b) s (nI k) = _
    have hc6 : sp_ct (fun o => pb_sl B o < pb_sl B b) k ≤ k := sp_ct_n k
    rw [oX4_bySlot_L17, hM.1.2.2.2.1, pl_s k, Int32.add_zero]
    by_cases hkn : k < pb_n B
    · rw [if_neg (fun q => by have := (pl_le (by omega) (by omega)).mp q; omega), show (5 : Int32) = nI 5 from rfl, pl_add, pl_add, pl_in (i := 5 + k) (n := 59) (by omega) (by omega), pl_ogt, pl_in (i := 5 + b) (n := 59) (by omega) (by omega), pl_ogt, pl_nn (n := 5 + b) (by omega), pl_nn (n := 5 + k) (by omega), (hM.2.1 b hb).2.1, (hM.2.1 k hkn).2.1]
      have s1 := (hB.2.1 b hb).1
      have s2 := (hB.2.1 k hkn).1
      have ec : sp_ct (fun o => pb_sl B o < pb_sl B b) (k + 1) = if pb_sl B k < pb_sl B b then sp_ct (fun o => pb_sl B o < pb_sl B b) k + 1 else sp_ct (fun o => pb_sl B o < pb_sl B b) k := rfl
      by_cases c : pb_sl B k < pb_sl B b
      · rw [if_neg (fun q => by have := (pl_le (by omega) (by omega)).mp q; omega)]
        refine ih hkn _ ?_
        rw [ec, if_pos c, hs, pl_s]
      · rw [if_pos ((pl_le (by omega) (by omega)).mpr (by omega))]
        refine ih hkn _ ?_
        rw [ec, if_neg c, hs]
    · have e : k = pb_n B := by omega
      subst e
      rw [if_pos (Int32.le_refl _), hs]
      by_cases c : sp_ct (fun o => pb_sl B o < pb_sl B b) (pb_n B) = x
      · rw [if_pos c, if_pos (congrArg nI c)]
      · rw [if_neg c, if_neg (fun q => c ((pl_eq (by omega) (by omega)).mp q))]
  unfold oX4_bySlot
  refine pl_for (fun n v (_ : Unit) => oX4_bySlot_L2 τ (nI x) n v) b0 (fun _ _ => True) (fun z => z = some (nI b0)) (fun n k s hk _ ih => ?_) ol_fuel 0 () (by omega) (by unfold ol_fuel; omega) trivial
  show oX4_bySlot_L2 τ (nI x) (n + 1) (nI k) = _
  rw [oX4_bySlot_L2, hM.1.2.2.2.1, if_neg (fun q => by have := (pl_le (by omega) (by omega)).mp q; omega), inner _ k (by omega), pl_s]
  by_cases e : k = b0
  · rw [e, if_pos hx]
  · have hne := (hB.2.2.1 k b0 (by omega) hb0 e).1
    have hc : ¬ sp_ct (fun o => pb_sl B o < pb_sl B k) (pb_n B) = x := fun q => by
      rw [← hx] at q
      by_cases l : pb_sl B k < pb_sl B b0
      · have := sp_ct_lt (f := fun o => pb_sl B o < pb_sl B k) (g := fun o => pb_sl B o < pb_sl B b0) (pb_n B) (fun o _ ho => Nat.lt_trans ho l) k (by omega) l (Nat.lt_irrefl _)
        omega
      · have l2 : pb_sl B b0 < pb_sl B k := by omega
        have := sp_ct_lt (f := fun o => pb_sl B o < pb_sl B b0) (g := fun o => pb_sl B o < pb_sl B k) (pb_n B) (fun o _ ho => Nat.lt_trans ho l2) b0 hb0 l2 (Nat.lt_irrefl _)
        omega
    rw [if_neg hc]
    exact ih (by omega) () trivial
def pz_V (τ : ol_Mm) (z : Option Int32) : Option (Int32 × ol_Mm) := match z with
  | some b => some (b, ol_ms τ 0 0 0)
  | none => some (0, ol_ms (ol_ms τ 0 0 0) 0 0 1)
theorem pz_never0 (h : pz_1 K B β bp T U H wt σ τ) (hK : K ≤ 24) (x1 : Int32) : ∃ z, oX1_never σ β x1 = some z ∧ oX4_never τ x1 = pz_V τ z := by
  have hU := (pz_Tb h hK).2
  obtain ⟨hB, hX, hM⟩ := h.2.1
  have h6 := hB.1.1.2
  obtain ⟨w1, w2, w3⟩ := pz_XM h
  obtain ⟨hE, hI, -⟩ := h.2.2.2.1
  have hM0 : pb_M B ((ol_ms τ 0 0 0).1 2) := hM
  -- times
  have tmX : ∀ b, b < pb_n B → ∃ t : Nat, t ≤ 24001 ∧ σ.1 17 (6 * b + 0) = nI t ∧ τ.1 5 (18 + 12 * b + 6) = nI t := fun b hb => by
    obtain ⟨-, -, -, t, t1, -, t2⟩ := hI.2.2.2.2.2.1 b (by omega)
    exact ⟨t, by omega, ((hE.2.2 b (by omega)).2.2.2.2 0 (by omega)).trans t2, t2⟩
  have step : ∀ (k4 : Int32 → Int32 → Option (Option Int32)) n c s k, k < pb_n B → s < 10 → oX1_never_L20 σ β x1 k4 (n + 1) c (nI s) (nI k) = if pb_sl B k = s then (if τ.1 5 (18 + 12 * k + 6) = 0 then (if c = x1 then some (some (nI k)) else oX1_never_L20 σ β x1 k4 n (c + 1) (nI s) (nI (k + 1))) else oX1_never_L20 σ β x1 k4 n c (nI s) (nI (k + 1))) else oX1_never_L20 σ β x1 k4 n c (nI s) (nI (k + 1)) := fun k4 n c s k hk hs => by
    obtain ⟨t, t1, t2, t3⟩ := tmX k hk
    have s1 := (hB.2.1 k hk).1
    rw [oX1_never_L20, hX.1.2.2.2.1, if_neg (fun q => by have := (pl_le (by omega) (by omega)).mp q; omega), pw_ib w1 hk, pl_ogt, pl_nn (n := k) (by omega), (hX.2.1 k hk).2.1, pl_l6, pl_mul, show (0 : Int32) = nI 0 from rfl, pl_add, pl_in (i := 6 * k + 0) (n := 36) (by omega) (by omega), pl_ogt, pl_nn (n := 6 * k + 0) (by omega), show (10 : Nat) + 7 = 17 from rfl, t2, t3, pl_s]
    by_cases c1 : pb_sl B k = s
    · rw [if_pos c1, if_pos (congrArg nI c1)]
      by_cases c2 : t = 0
      · rw [c2, if_pos (Int32.le_refl _), if_pos rfl]
      · rw [if_neg (fun q => by have := (pl_le (by omega) (by omega)).mp q; omega), if_neg (fun q => c2 ((pl_eq (by omega) (by omega)).mp q))]
    · rw [if_neg c1, if_neg (fun q => c1 ((pl_eq (by omega) (by omega)).mp q))]
  have last : ∀ (k4 : Int32 → Int32 → Option (Option Int32)) n c s, oX1_never_L20 σ β x1 k4 (n + 1) c (nI s) (nI (pb_n B)) = k4 c (nI (s + 1)) := fun k4 n c s => by
    rw [oX1_never_L20, hX.1.2.2.2.1, if_pos (Int32.le_refl _), pl_s]
  have noB : ∀ (k4 : Int32 → Int32 → Option (Option Int32)) s, s < 10 → ∀ d k n c, d + k = pb_n B → d < n → (∀ b, k ≤ b → b < pb_n B → ¬ pb_sl B b = s) → oX1_never_L20 σ β x1 k4 n c (nI s) (nI k) = k4 c (nI (s + 1)) := by
    intro k4 s hs d
    induction d with
    | zero =>
      intro k n c hk hn _
      obtain ⟨n, rfl⟩ : ∃ i, n = i + 1 := ⟨n - 1, by omega⟩
      rw [show k = pb_n B by omega]
      exact last k4 n c s
    | succ d ih =>
      intro k n c hk hn hno
      obtain ⟨n, rfl⟩ : ∃ i, n = i + 1 := ⟨n - 1, by omega⟩
      rw [step k4 n c s k (by omega) hs, if_neg (hno k (Nat.le_refl _) (by omega))]
      exact ih (k + 1) n c (by omega) (by omega) fun b hb => hno b (by omega)
  have hasB : ∀ (k4 : Int32 → Int32 → Option (Option Int32)) b0, b0 < pb_n B → ∀ d k n c, d + k = pb_n B → d < n → k ≤ b0 → oX1_never_L20 σ β x1 k4 n c (nI (pb_sl B b0)) (nI k) = if τ.1 5 (18 + 12 * b0 + 6) = 0 then (if c = x1 then some (some (nI b0)) else k4 (c + 1) (nI (pb_sl B b0 + 1))) else k4 c (nI (pb_sl B b0 + 1)) := by
    intro k4 b0 hb0 d
    have hs := (hB.2.1 b0 hb0).1
    induction d with
    | zero =>
      intro k n c hk hn hkb
      omega
    | succ d ih =>
      intro k n c hk hn hkb
      obtain ⟨n, rfl⟩ : ∃ i, n = i + 1 := ⟨n - 1, by omega⟩
      rw [step k4 n c _ k (by omega) hs]
      by_cases e : k = b0
      · subst e
        have rest : ∀ c, oX1_never_L20 σ β x1 k4 n c (nI (pb_sl B k)) (nI (k + 1)) = k4 c (nI (pb_sl B k + 1)) := fun c => noB k4 _ hs d (k + 1) n c (by omega) (by omega) fun b h1 h2 q => (hB.2.2.1 b k h2 hb0 (by omega)).1 q
        rw [if_pos rfl, rest, rest]
      · rw [if_neg (hB.2.2.1 k b0 (by omega) hb0 e).1]
        exact ih (k + 1) n c (by omega) (by omega) (by omega)
  have main : ∀ d s n m c, d + s = 10 → d < n → pb_n B < m + sp_ct (fun o => pb_sl B o < s) (pb_n B) → ∃ z, oX1_never_L4 σ β x1 n c (nI s) = some z ∧ oX4_never_L9 x1 m c (nI (sp_ct (fun o => pb_sl B o < s) (pb_n B))) (ol_ms τ 0 0 0) = pz_V τ z := by
    intro d
    induction d with
    | zero =>
      intro s n m c hs hn hm
      have e : s = 10 := by omega
      subst e
      obtain ⟨n, rfl⟩ : ∃ i, n = i + 1 := ⟨n - 1, by omega⟩
      have ec : sp_ct (fun o => pb_sl B o < 10) (pb_n B) = pb_n B := sp_ct_all _ fun o ho => (hB.2.1 o ho).1
      rw [ec] at hm ⊢
      obtain ⟨m, rfl⟩ : ∃ i, m = i + 1 := ⟨m - 1, by omega⟩
      refine ⟨none, ?_, ?_⟩
      · rw [oX1_never_L4, if_pos (show (10 : Int32) ≤ nI 10 from Int32.le_refl _)]
      · rw [oX4_never_L9, mx_nk (by omega), h.1.2.1, if_neg pz_10, mx_ne (by omega), hM.1.2.2.2.1, if_pos (Int32.le_refl _)]
        rfl
    | succ d ih =>
      intro s n m c hs hn hm
      obtain ⟨n, rfl⟩ : ∃ i, n = i + 1 := ⟨n - 1, by omega⟩
      rw [oX1_never_L4, if_neg (show ¬ (10 : Int32) ≤ nI s from fun q => by have := (pl_le (a := 10) (by omega) (by omega)).mp q; omega)]
      by_cases hb : ∃ b0, b0 < pb_n B ∧ pb_sl B b0 = s
      · obtain ⟨b0, hb0, e⟩ := hb
        subst e
        have e1 : sp_ct (fun o => pb_sl B o < pb_sl B b0 + 1) (pb_n B) = sp_ct (fun o => pb_sl B o < pb_sl B b0) (pb_n B) + 1 := sp_ct_one _ b0 hb0 (fun o ho => by
          by_cases q : o = b0
          · subst q
            exact ⟨fun _ => Or.inr rfl, fun _ => Nat.lt_succ_self _⟩
          · have := (hB.2.2.1 o b0 ho hb0 q).1
            omega) (Nat.lt_irrefl _)
        have hle : sp_ct (fun o => pb_sl B o < pb_sl B b0 + 1) (pb_n B) ≤ pb_n B := sp_ct_n _
        obtain ⟨m, rfl⟩ : ∃ i, m = i + 1 := ⟨m - 1, by omega⟩
        obtain ⟨g1, g2, g3⟩ := pz_b b0 6 (by omega) (by omega)
        have ihc : ∀ c, ∃ z, oX1_never_L4 σ β x1 n c (nI (pb_sl B b0 + 1)) = some z ∧ oX4_never_L9 x1 m c (nI (sp_ct (fun o => pb_sl B o < pb_sl B b0) (pb_n B) + 1)) (ol_ms τ 0 0 0) = pz_V τ z := fun c => by
          have := ih (pb_sl B b0 + 1) n m c (by omega) (by omega) (by omega)
          rw [e1] at this
          exact this
        have hX0 : oX1_never_L20 σ β x1 (oX1_never_L4 σ β x1 n) ol_fuel c (nI (pb_sl B b0)) 0 = _ := hasB (oX1_never_L4 σ β x1 n) b0 hb0 (pb_n B) 0 ol_fuel c (by omega) (by unfold ol_fuel; omega) (Nat.zero_le _)
        have hcn : ¬ nI (pb_n B) ≤ nI (sp_ct (fun o => pb_sl B o < pb_sl B b0) (pb_n B)) := fun q => by
          have := (pl_le (by omega) (by omega)).mp q
          omega
        rw [hX0, oX4_never_L9, mx_nk (by omega), h.1.2.1, if_neg pz_10, mx_ne (by omega), hM.1.2.2.2.1, if_neg hcn, pv_by hB hM0 hb0, Option.bind_some, show oX4_at (nI b0) 6 = _ from g1, Option.bind_some, g2, pl_ogt, g3, mx_ne (by omega), pl_s]
        by_cases c1 : τ.1 5 (18 + 12 * b0 + 6) = 0
        · rw [if_pos c1, if_pos c1]
          by_cases c2 : c = x1
          · rw [if_pos c2, if_pos c2]
            exact ⟨some (nI b0), rfl, rfl⟩
          · rw [if_neg c2, if_neg c2]
            exact ihc (c + 1)
        · rw [if_neg c1, if_neg c1]
          exact ihc c
      · have hno : ∀ b, b < pb_n B → ¬ pb_sl B b = s := fun b hb' q => hb ⟨b, hb', q⟩
        have e1 : sp_ct (fun o => pb_sl B o < s + 1) (pb_n B) = sp_ct (fun o => pb_sl B o < s) (pb_n B) := Nat.le_antisymm (sp_ct_le _ fun o ho hq => by have := hno o ho; omega) (sp_ct_le _ fun o ho hq => Nat.lt_succ_of_lt hq)
        have hX0 : oX1_never_L20 σ β x1 (oX1_never_L4 σ β x1 n) ol_fuel c (nI s) 0 = _ := noB (oX1_never_L4 σ β x1 n) s (by omega) (pb_n B) 0 ol_fuel c (by omega) (by unfold ol_fuel; omega) fun b _ hb' => hno b hb'
        rw [hX0]
        have := ih (s + 1) n m c (by omega) (by omega) (by rw [e1]; exact hm)
        rw [e1] at this
        exact this
  have e0 : sp_ct (fun o => pb_sl B o < 0) (pb_n B) = 0 := Nat.le_zero.mp (by
    have := sp_ct_le (f := fun o => pb_sl B o < 0) (g := fun _ => False) (pb_n B) fun o _ q => by omega
    have z : ∀ n, sp_ct (fun _ => False) n = 0 := fun n => by
      induction n with
      | zero => rfl
      | succ n ih => exact (if_neg (fun q : False => q)).trans ih
    rw [z] at this
    exact this)
  have := main 10 0 ol_fuel ol_fuel 0 rfl (by unfold ol_fuel; omega) (by rw [e0]; unfold ol_fuel; omega)
  rw [e0] at this
  exact this
end PNV
