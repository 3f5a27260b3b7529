/-! WHO WAITS, RANKS, WORDS: both sides answer the same -/
set_option maxRecDepth 100000
/-- whether b is come upon within k steps from cur on -/
def sp_w (wt : Nat → Option Nat) : Nat → Option Nat → Nat → Bool
  | 0, _, _ => false
  | _ + 1, none, _ => false
  | k + 1, some j, b => decide (j = b) || sp_w wt k (wt j) b
/-- nobody waits in a ring: a height falls along; all are below H -/
def pw_H (n : Nat) (wt : Nat → Option Nat) (h : Nat → Nat) (H : Nat) : Prop := ∀ o, o < n → h o < H ∧ ∀ j, wt o = some j → j < n ∧ h j < h o
/-- what the runs and the rows say: who waits for whom, ranks, who is fresh, codes -/
def pw_X (σ : ol_Xm) (β : ol_Bd) (bp r n : Nat) (wt : Nat → Option Nat) (rk fr cd : Nat → Nat) : Prop :=
  (σ.2.1 r = some bp ∧ β.1 0 3 = nI n ∧ n ≤ 6 ∧ n ≤ β.2.2 0) ∧ ∀ b, b < n → σ.1 (r + 4) b = pl_en (wt b) ∧ β.1 1 b = nI (rk b) ∧ σ.1 (r + 1) b = nI (fr b) ∧ β.1 3 b = nI (cd b)
def pw_M (τ : ol_Mm) (n : Nat) (wt : Nat → Option Nat) (rk fr cd : Nat → Nat) : Prop :=
  (τ.1 2 3 = nI n ∧ n ≤ 6) ∧ ∀ b, b < n → τ.1 5 (18 + 12 * b + 3) = pl_en (wt b) ∧ τ.1 2 (17 + b) = nI (rk b) ∧ τ.1 5 (18 + 12 * b + 2) = nI (fr b) ∧ τ.1 2 (11 + b) = nI (cd b)
def pw_b (n : Nat) (rk fr cd : Nat → Nat) : Prop := ∀ b, b < n → rk b < 8 ∧ fr b < 2 ∧ cd b < 32
section PW
variable {σ : ol_Xm} {β : ol_Bd} {bp r n : Nat} {wt : Nat → Option Nat} {rk fr cd h : Nat → Nat} {H : Nat} {τ : ol_Mm}
theorem pw_n2 {b : Nat} (hb : b < 6) : ¬ (-2 : Int32) = nI b := fun q => pl_n2 b hb q.symm
theorem pw_loopX (hX : pw_X σ β bp r n wt rk fr cd) (hH : pw_H n wt h H) {b : Nat} (hb : b < 6) (x1 : Int32) : ∀ K cur, (∀ j, cur = some j → j < n ∧ h j < K) → ∀ m, K < m → oX3_waitsFor_L7 σ r x1 (nI b) m (pl_en cur) = some (bif sp_w wt K cur b then 1 else 0) := by
  have h6 := hX.1.2.2.1
  intro K
  induction K with
  | zero =>
    intro cur hc m hm
    obtain ⟨m, rfl⟩ : ∃ k, m = k + 1 := ⟨m - 1, by omega⟩
    cases cur with
    | none =>
      rw [oX3_waitsFor_L7, if_pos (show pl_en none = -2 from rfl), if_neg (show ¬ pl_en none = nI b from pw_n2 hb)]
      rfl
    | some j => exact absurd (hc j rfl).2 (by omega)
  | succ K ih =>
    intro cur hc m hm
    obtain ⟨m, rfl⟩ : ∃ k, m = k + 1 := ⟨m - 1, by omega⟩
    cases cur with
    | none =>
      rw [oX3_waitsFor_L7, if_pos (show pl_en none = -2 from rfl), if_neg (show ¬ pl_en none = nI b from pw_n2 hb)]
      rfl
    | some j =>
      obtain ⟨hj, hk⟩ := hc j rfl
      rw [oX3_waitsFor_L7, show pl_en (some j) = nI j from rfl, if_neg (pl_n2 j (by omega))]
      by_cases e : j = b
      · subst e
        rw [if_pos rfl, if_pos rfl]
        simp [sp_w]
      · rw [if_neg (fun q => e ((pl_eq (by omega) (by omega)).mp q)), pl_in (i := j) (n := 6) (by omega) (by omega), pl_ogt, pl_nn (n := j) (by omega), (hX.2 j hj).1, ih (wt j) (fun j' hj' => by
          obtain ⟨g1, g2⟩ := (hH j hj).2 j' hj'
          exact ⟨g1, by omega⟩) m (by omega)]
        simp [sp_w, e]
theorem pw_at {j k : Nat} (hj : j < 6) (hk : k < 12) : oX4_at (nI j) (nI k) = some (nI (18 + 12 * j + k)) := by
  unfold oX4_at
  rw [show (18 : Int32) = nI 18 from rfl, show (12 : Int32) = nI 12 from rfl, pl_mul, pl_add, pl_add]
theorem pw_loopM (hM : pw_M τ n wt rk fr cd) (hH : pw_H n wt h H) {b : Nat} (hb : b < 6) (x1 : Int32) : ∀ K cur, (∀ j, cur = some j → j < n ∧ h j < K) → ∀ m, K < m → oX4_doesWait_L2 τ x1 (nI b) m (pl_en cur) = some (bif sp_w wt K cur b then 1 else 0) := by
  have h6 := hM.1.2
  intro K
  induction K with
  | zero =>
    intro cur hc m hm
    obtain ⟨m, rfl⟩ : ∃ k, m = k + 1 := ⟨m - 1, by omega⟩
    cases cur with
    | none =>
      rw [oX4_doesWait_L2, if_pos (show pl_en none = -2 from rfl), if_neg (show ¬ pl_en none = nI b from pw_n2 hb)]
      rfl
    | some j => exact absurd (hc j rfl).2 (by omega)
  | succ K ih =>
    intro cur hc m hm
    obtain ⟨m, rfl⟩ : ∃ k, m = k + 1 := ⟨m - 1, by omega⟩
    cases cur with
    | none =>
      rw [oX4_doesWait_L2, if_pos (show pl_en none = -2 from rfl), if_neg (show ¬ pl_en none = nI b from pw_n2 hb)]
      rfl
    | some j =>
      obtain ⟨hj, hk⟩ := hc j rfl
      rw [oX4_doesWait_L2, show pl_en (some j) = nI j from rfl, if_neg (pl_n2 j (by omega))]
      by_cases e : j = b
      · subst e
        rw [if_pos rfl, if_pos rfl]
        simp [sp_w]
      · rw [if_neg (fun q => e ((pl_eq (by omega) (by omega)).mp q)), show (3 : Int32) = nI 3 from rfl, pw_at (by omega) (by omega), Option.bind_some, pl_in (n := 251) (by omega) (by omega), pl_ogt, pl_nn (by omega), (hM.2 j hj).1, ih (wt j) (fun j' hj' => by
          obtain ⟨g1, g2⟩ := (hH j hj).2 j' hj'
          exact ⟨g1, by omega⟩) m (by omega)]
        simp [sp_w, e]
/-- steps to spare change nothing -/
theorem pw_more (hH : pw_H n wt h H) (b : Nat) : ∀ K cur, (∀ j, cur = some j → j < n ∧ h j < K) → sp_w wt (K + 1) cur b = sp_w wt K cur b := by
  intro K
  induction K with
  | zero =>
    intro cur hc
    cases cur with
    | none => rfl
    | some j => exact absurd (hc j rfl).2 (by omega)
  | succ K ih =>
    intro cur hc
    cases cur with
    | none => rfl
    | some j =>
      obtain ⟨hj, hk⟩ := hc j rfl
      show (decide (j = b) || sp_w wt (K + 1) (wt j) b) = (decide (j = b) || sp_w wt K (wt j) b)
      rw [ih (wt j) fun j' hj' => by
        obtain ⟨g1, g2⟩ := (hH j hj).2 j' hj'
        exact ⟨g1, by omega⟩]
/-- whether o waits for b -/
def sp_wf (wt : Nat → Option Nat) (H o b : Nat) : Bool := sp_w wt H (wt o) b
theorem pw_waitsX (hX : pw_X σ β bp r n wt rk fr cd) (hH : pw_H n wt h H) (hF : H < ol_fuel) {o b : Nat} (ho : o < n) (hb : b < 6) : oX3_waitsFor σ r (nI o) (nI b) = some (bif sp_wf wt H o b then 1 else 0) := by
  have h6 := hX.1.2.2.1
  unfold oX3_waitsFor
  rw [pl_in (i := o) (n := 6) (by omega) (by omega), pl_ogt, pl_nn (n := o) (by omega), (hX.2 o ho).1]
  exact pw_loopX hX hH hb (nI o) H (wt o) (fun j hj => by
    obtain ⟨g1, g2⟩ := (hH o ho).2 j hj
    have := (hH o ho).1
    exact ⟨g1, by omega⟩) ol_fuel hF
theorem pw_waitsM (hM : pw_M τ n wt rk fr cd) (hH : pw_H n wt h H) (hF : H < ol_fuel) {o b : Nat} (ho : o < n) (hb : b < 6) : oX4_doesWait τ (nI o) (nI b) = some (bif (decide (o = b) || sp_wf wt H o b) then 1 else 0) := by
  unfold oX4_doesWait
  have h1 := (hH o ho).1
  obtain ⟨H', rfl⟩ : ∃ k, H = k + 1 := ⟨H - 1, by omega⟩
  have h2 := pw_loopM hM hH hb (nI o) (H' + 1) (some o) (fun j hj => by
    cases hj
    exact ⟨ho, h1⟩) ol_fuel hF
  rw [show pl_en (some o) = nI o from rfl] at h2
  rw [h2]
  have h3 : sp_w wt (H' + 1) (some o) b = (decide (o = b) || sp_w wt H' (wt o) b) := rfl
  rw [h3, ← pw_more hH b H' (wt o) fun j hj => by
    obtain ⟨g1, g2⟩ := (hH o ho).2 j hj
    exact ⟨g1, by omega⟩]
  rfl
theorem pw_low (hH : pw_H n wt h H) (b : Nat) : ∀ K cur, (∀ j, cur = some j → j < n) → sp_w wt K cur b = true → ∃ j, cur = some j ∧ h b ≤ h j := by
  intro K
  induction K with
  | zero => intro cur _ q; cases q
  | succ K ih =>
    intro cur hc q
    cases cur with
    | none => cases q
    | some j =>
      have hj := hc j rfl
      have q : (decide (j = b) || sp_w wt K (wt j) b) = true := q
      rw [Bool.or_eq_true, decide_eq_true_eq] at q
      refine ⟨j, rfl, ?_⟩
      rcases q with rfl | q
      · exact Nat.le_refl _
      · obtain ⟨j', e, g⟩ := ih (wt j) (fun j' hj' => ((hH j hj).2 j' hj').1) q
        have := ((hH j hj).2 j' e).2
        omega
theorem pw_self (hH : pw_H n wt h H) {o : Nat} (ho : o < n) : sp_wf wt H o o = false := by
  cases e : sp_wf wt H o o with
  | false => rfl
  | true =>
    obtain ⟨j, e1, g⟩ := pw_low hH o H (wt o) (fun j hj => ((hH o ho).2 j hj).1) e
    have := ((hH o ho).2 j e1).2
    omega
/-! ranks of the day -/
def sp_mx (rk : Nat → Nat) (P : Nat → Bool) : Nat → Nat
  | 0 => 0
  | k + 1 => bif P k then max (sp_mx rk P k) (rk k) else sp_mx rk P k
theorem sp_mx_lt (rk : Nat → Nat) (P : Nat → Bool) : ∀ k, (∀ b, b < k → rk b < 8) → sp_mx rk P k < 8 := by
  intro k
  induction k with
  | zero => intro _; exact Nat.zero_lt_succ 7
  | succ k ih =>
    intro hk
    have h1 := ih fun b hb => hk b (by omega)
    have h2 := hk k (by omega)
    unfold sp_mx
    cases P k with
    | true =>
      rw [cond_true]
      omega
    | false => exact h1
theorem sp_mx_or (rk : Nat → Nat) (P : Nat → Bool) (b : Nat) : ∀ k, sp_mx rk (fun o => decide (o = b) || P o) k = if b < k then max (rk b) (sp_mx rk P k) else sp_mx rk P k := by
  intro k
  induction k with
  | zero => rfl
  | succ k ih =>
    show (bif (decide (k = b) || P k) then max (sp_mx rk (fun o => decide (o = b) || P o) k) (rk k) else sp_mx rk (fun o => decide (o = b) || P o) k) = if b < k + 1 then max (rk b) (bif P k then max (sp_mx rk P k) (rk k) else sp_mx rk P k) else (bif P k then max (sp_mx rk P k) (rk k) else sp_mx rk P k)
    rw [ih]
    by_cases e : k = b
    · subst e
      rw [if_neg (by omega), if_pos (by omega), decide_eq_true rfl, Bool.true_or, cond_true]
      cases P k with
      | true =>
        rw [cond_true]
        omega
      | false =>
        rw [cond_false]
        omega
    · rw [decide_eq_false e, Bool.false_or]
      by_cases hb : b < k
      · rw [if_pos hb, if_pos (by omega)]
        cases P k with
        | true =>
          rw [cond_true, cond_true]
          omega
        | false => rfl
      · rw [if_neg hb, if_neg (by omega)]
/-- a board's rank: its own, or a greater one of those that wait for it -/
def sp_rd (n : Nat) (wt : Nat → Option Nat) (rk : Nat → Nat) (H b : Nat) : Nat := max (rk b) (sp_mx rk (fun o => sp_wf wt H o b) n)
theorem sp_rd_lt (hb : pw_b n rk fr cd) {b : Nat} (h : b < n) : sp_rd n wt rk H b < 8 := by
  have h1 := sp_mx_lt rk (fun o => sp_wf wt H o b) n fun o ho => (hb o ho).1
  have h2 := (hb b h).1
  unfold sp_rd
  omega
theorem pw_nb (hX : pw_X σ β bp r n wt rk fr cd) {b : Nat} (hb : b < n) : ol_nb β b = true := by
  have h6 := hX.1.2.2.1
  unfold ol_nb ol_many
  rw [hX.1.2.1, pl_nn (n := n) (by omega)]
  exact decide_eq_true hb
theorem pw_ib (hX : pw_X σ β bp r n wt rk fr cd) {b : Nat} (hb : b < n) : ol_ib β (nI b) = true := by
  have h6 := hX.1.2.2.1
  have h7 := hX.1.2.2.2
  unfold ol_ib ol_many
  rw [hX.1.2.1, pl_nn (n := b) (by omega), pl_nn (n := n) (by omega), pl_int (n := b) (by omega)]
  simp only [Bool.and_eq_true, decide_eq_true_eq]
  omega
theorem pw_dayX (hX : pw_X σ β bp r n wt rk fr cd) (hB : pw_b n rk fr cd) (hH : pw_H n wt h H) (hF : H < ol_fuel) {b : Nat} (hb : b < n) : oX9_ofTheDay σ β bp r b = some (nI (sp_rd n wt rk H b)) := by
  have h6 := hX.1.2.2.1
  have hrb := (hB b hb).1
  unfold oX9_ofTheDay
  rw [pw_nb hX hb, pl_ogt, (hX.2 b hb).2.1]
  refine pl_for (fun m v s => oX9_ofTheDay_L8 σ β bp r b m s v) n (fun k s => s = nI (max (rk b) (sp_mx rk (fun o => sp_wf wt H o b) k))) (fun z => z = some (nI (sp_rd n wt rk H b))) (fun m k s hk hs ih => ?_) ol_fuel 0 _ (by omega) (by unfold ol_fuel; omega) (congrArg nI (show rk b = max (rk b) 0 by omega))
  show oX9_ofTheDay_L8 σ β bp r b (m + 1) s (nI k) = _
  rw [oX9_ofTheDay_L8, hX.1.1, pl_dd, pl_ogt, hX.1.2.1, pl_s]
  by_cases hkn : k < n
  · have hrk := (hB k hkn).1
    have hmx := sp_mx_lt rk (fun o => sp_wf wt H o b) k fun o ho => (hB o (by omega)).1
    rw [if_neg (fun q => by have := (pl_le (by omega) (by omega)).mp q; omega), pw_nb hX hb, pl_ogt, pw_waitsX hX hH hF hkn (by omega), Option.bind_some]
    cases e : sp_wf wt H k b with
    | false =>
      rw [cond_false, pl_i00]
      refine ih hkn s ?_
      rw [hs]
      show _ = nI (max (rk b) (bif sp_wf wt H k b then _ else _))
      rw [e, cond_false]
    | true =>
      rw [cond_true, pl_i10, pl_ogt, pw_ib hX hkn, pl_ogt, pl_olt, pl_nn (n := k) (by omega), (hX.2 k hkn).2.1]
      refine ih hkn _ ?_
      show _ = nI (max (rk b) (bif sp_wf wt H k b then max _ (rk k) else _))
      rw [e, cond_true, hs]
      by_cases g : max (rk b) (sp_mx rk (fun o => sp_wf wt H o b) k) < rk k
      · rw [if_pos ((pl_lt (by omega) (by omega)).mpr g)]
        exact congrArg nI (by omega)
      · rw [if_neg (fun q => g ((pl_lt (by omega) (by omega)).mp q))]
        exact congrArg nI (by omega)
  · have e : k = n := by omega
    subst e
    rw [if_pos (Int32.le_refl _), hs]
    rfl
theorem pw_dayM (hM : pw_M τ n wt rk fr cd) (hB : pw_b n rk fr cd) (hH : pw_H n wt h H) (hF : H < ol_fuel) {b : Nat} (hb : b < n) : oX4_rankOf τ (nI b) = some (nI (sp_rd n wt rk H b)) := by
  have h6 := hM.1.2
  unfold oX4_rankOf
  refine pl_for (fun m v s => oX4_rankOf_L4 τ (nI b) m s v) n (fun k s => s = nI (sp_mx rk (fun o => decide (o = b) || sp_wf wt H o b) k)) (fun z => z = some (nI (sp_rd n wt rk H b))) (fun m k s hk hs ih => ?_) ol_fuel 0 0 (by omega) (by unfold ol_fuel; omega) rfl
  show oX4_rankOf_L4 τ (nI b) (m + 1) s (nI k) = _
  rw [oX4_rankOf_L4, hM.1.1, pl_s]
  by_cases hkn : k < n
  · have hrk := (hB k hkn).1
    have hmx := sp_mx_lt rk (fun o => decide (o = b) || sp_wf wt H o b) k fun o ho => (hB o (by omega)).1
    rw [if_neg (fun q => by have := (pl_le (by omega) (by omega)).mp q; omega), pw_waitsM hM hH hF hkn (by omega), Option.bind_some]
    cases e : (decide (k = b) || sp_wf wt H k b) with
    | false =>
      rw [cond_false, pl_i00]
      refine ih hkn s ?_
      rw [hs]
      show _ = nI (bif (decide (k = b) || sp_wf wt H k b) then _ else _)
      rw [e, cond_false]
    | true =>
      rw [cond_true, pl_i10, show (17 : Int32) = nI 17 from rfl, pl_add, pl_in (n := 59) (by omega) (by omega), pl_ogt, pl_ogt, pl_nn (n := 17 + k) (by omega), (hM.2 k hkn).2.1]
      have hnx : sp_mx rk (fun o => decide (o = b) || sp_wf wt H o b) (k + 1) = max (sp_mx rk (fun o => decide (o = b) || sp_wf wt H o b) k) (rk k) := by
        show (bif (decide (k = b) || sp_wf wt H k b) then _ else _) = _
        rw [e, cond_true]
      rw [hs]
      by_cases g : rk k ≤ sp_mx rk (fun o => decide (o = b) || sp_wf wt H o b) k
      · rw [if_pos ((pl_le (by omega) (by omega)).mpr g)]
        exact ih hkn _ (congrArg nI (by rw [hnx]; omega))
      · rw [if_neg (fun q => g ((pl_le (by omega) (by omega)).mp q))]
        exact ih hkn _ (congrArg nI (by rw [hnx]; omega))
  · have e : k = n := by omega
    subst e
    rw [if_pos (Int32.le_refl _), hs, sp_mx_or, if_pos hb]
    rfl
/-! words -/
def pl_par (e : Nat) : Nat := if pl_pc (2 * e) % 2 = 0 then 2 * e + 1 else 2 * e
theorem pl_par1 : ∀ e, e < 32 → oX1_withParity (nI (2 * e)) = some (nI (pl_par e)) := by decide +kernel
theorem pl_par2 : ∀ e, e < 32 → (if nI (pl_pc (2 * e)) - nI (pl_pc (2 * e)) / 2 * 2 = 1 then some (nI (2 * e)) else some (nI (2 * e) + 1)) = some (nI (pl_par e)) := by decide +kernel
theorem pl_par3 : ∀ e, e < 32 → pl_par e < 64 ∧ 0 < pl_par e := by decide
theorem pl_odd {e : Nat} (h : e < 32) : oX4_odd (nI (2 * e)) = some (nI (pl_par e)) := by
  unfold oX4_odd
  rw [pl_bo (by omega), Option.bind_some]
  exact pl_par2 e h
theorem pl_sh3 : ∀ q, q < 8 → (nI q <<< (3 &&& 31)) ||| 0 = nI (2 * (4 * q)) ∧ (nI q <<< (3 &&& 31)) ||| 4 = nI (2 * (4 * q + 2)) := by decide +kernel
theorem pl_sh1 : ∀ q, q < 32 → nI q <<< (1 &&& 31) = nI (2 * q) := by decide +kernel
def sp_w1 (n : Nat) (wt : Nat → Option Nat) (rk fr : Nat → Nat) (H b : Nat) : Int32 := nI (pl_par (4 * sp_rd n wt rk H b + 2 * fr b))
def sp_w2 (cd : Nat → Nat) (b : Nat) : Int32 := nI (pl_par (cd b))
theorem pw_firstX (hX : pw_X σ β bp r n wt rk fr cd) (hB : pw_b n rk fr cd) (hH : pw_H n wt h H) (hF : H < ol_fuel) {b : Nat} (hb : b < n) : oX1_firstWord σ β bp r b = some (sp_w1 n wt rk fr H b) := by
  have h6 := hX.1.2.2.1
  have hr := sp_rd_lt (wt := wt) (H := H) hB hb
  have hf := (hB b hb).2.1
  unfold oX1_firstWord
  rw [pw_nb hX hb, pl_ogt, pw_dayX hX hB hH hF hb, Option.bind_some, pl_in (i := b) (n := 6) (by omega) (by omega), pl_ogt, pl_nn (n := b) (by omega), (hX.2 b hb).2.2.1, (pl_sh3 _ hr).1, (pl_sh3 _ hr).2]
  unfold sp_w1
  by_cases e : fr b = 0
  · rw [e, if_pos (show nI 0 = 0 from rfl), pl_par1 _ (by omega), Option.bind_some]
    rfl
  · have e1 : fr b = 1 := by omega
    rw [e1, if_neg (by decide), pl_par1 _ (by omega), Option.bind_some]
theorem pw_secondX (hX : pw_X σ β bp r n wt rk fr cd) (hB : pw_b n rk fr cd) {b : Nat} (hb : b < n) : oX1_secondWord σ β b = some (sp_w2 cd b) := by
  have hc := (hB b hb).2.2
  unfold oX1_secondWord
  rw [pw_nb hX hb, pl_ogt, (hX.2 b hb).2.2.2, pl_sh1 _ hc, pl_par1 _ hc, Option.bind_some]
  rfl
theorem pw_wordM1 (hM : pw_M τ n wt rk fr cd) (hB : pw_b n rk fr cd) (hH : pw_H n wt h H) (hF : H < ol_fuel) {b : Nat} (hb : b < n) : oX4_wordOf τ (nI b) 1 = some (sp_w1 n wt rk fr H b) := by
  have h6 := hM.1.2
  have hr := sp_rd_lt (wt := wt) (H := H) hB hb
  have hf := (hB b hb).2.1
  unfold oX4_wordOf
  rw [if_pos rfl, pw_dayM hM hB hH hF hb, Option.bind_some, pl_l2, pw_at (by omega) (by omega), Option.bind_some, pl_in (n := 251) (by omega) (by omega), pl_ogt, pl_nn (by omega), (hM.2 b hb).2.2.1, show (8 : Int32) = nI 8 from rfl, show (4 : Int32) = nI 4 from rfl, pl_mul, pl_mul, pl_add, show 8 * sp_rd n wt rk H b + 4 * fr b = 2 * (4 * sp_rd n wt rk H b + 2 * fr b) by omega, pl_odd (by omega), Option.bind_some]
  rfl
theorem pw_wordM2 (hM : pw_M τ n wt rk fr cd) (hB : pw_b n rk fr cd) {b : Nat} (hb : b < n) {x : Int32} (hx : ¬ x = 1) : oX4_wordOf τ (nI b) x = some (sp_w2 cd b) := by
  have h6 := hM.1.2
  have hc := (hB b hb).2.2
  unfold oX4_wordOf
  rw [if_neg hx, show (11 : Int32) = nI 11 from rfl, pl_add, pl_in (n := 59) (by omega) (by omega), pl_ogt, pl_nn (by omega), (hM.2 b hb).2.2.2, pl_l2, pl_mul, pl_odd hc, Option.bind_some]
  rfl
theorem pl_parsm {e : Nat} (h : e < 32) : pl_sm6 (nI (pl_par e)) ∧ ¬ nI (pl_par e) = 0 := by
  obtain ⟨h1, h2⟩ := pl_par3 e h
  refine ⟨pl_lt_sm h1, fun q => ?_⟩
  have := (pl_eq0 (by omega)).mp q
  omega
end PW
