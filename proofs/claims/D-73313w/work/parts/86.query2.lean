/-! WHAT IS ASKED OF A PASS, II: settles, edges, faulty -/
set_option maxRecDepth 100000
section PQ2
variable {σ0 σ : ol_Xm} {τ0 τ : ol_Mm} {β : ol_Bd} {bp : Nat} {p : ol_Pp} {set : Int32} {E cnt cnt' : Nat} {Mk Mk' : Nat → Nat → Nat → Prop}
/-- nothing that is driven changes at t -/
def sp_q (p : ol_Pp) (t : Nat) : Prop := ∀ b, b < pq_n p → pl_m (sp_D p b t) = pl_m (sp_D p b (t - 1))
noncomputable def sp_stl (p : ol_Pp) : Nat → Nat
  | 0 => 0
  | t + 1 => bif pl_c (sp_q p (t + 1)) then sp_stl p t else t + 1
theorem sp_stl_le (p : ol_Pp) : ∀ t, sp_stl p t ≤ t := by
  intro t
  induction t with
  | zero => exact Nat.le_refl _
  | succ t ih =>
    unfold sp_stl
    cases pl_c (sp_q p (t + 1)) with
    | true => exact Nat.le_succ_of_le ih
    | false => exact Nat.le_refl _
theorem pq_L11 (hp : pq_ok p) (hB : px_B β p) (h : px_I σ0 bp p set (nI E) (E + 1) 0 0 Mk cnt σ) {t : Nat} (ht : t + 1 ≤ E) (hE : E < 401) (k5 : Int32 → Option Int32) : oX2_settles_L11 σ β bp k5 ol_fuel (nI (t + 1)) 0 = bif pl_c (sp_q p (t + 1)) then k5 (nI t) else some (nI (t + 1)) := by
  have h6 := hp.1.2
  have hP := h.2.2.2.2
  refine pl_for (fun n v (_ : Unit) => oX2_settles_L11 σ β bp k5 n (nI (t + 1)) v) (pq_n p) (fun k _ => ∀ b, b < k → pl_m (sp_D p b (t + 1)) = pl_m (sp_D p b t)) (fun r => r = bif pl_c (sp_q p (t + 1)) then k5 (nI t) else some (nI (t + 1))) (fun n k s hk hs ih => ?_) ol_fuel 0 () (by omega) (by unfold ol_fuel; omega) (fun b q => by omega)
  show oX2_settles_L11 σ β bp k5 (n + 1) (nI (t + 1)) (nI k) = _
  rw [oX2_settles_L11, hP.1.1, pl_dd, pl_ogt, hB.1, pl_p, pl_s]
  by_cases hkn : k < pq_n p
  · have e1 : (401 : Int32) * nI k + nI (t + 1) - 1 = nI (401 * k + t) := by
      rw [show (401 : Int32) = nI 401 from rfl, pl_mul, pl_add, pl_d1 (by omega)]
      exact congrArg nI (by omega)
    rw [if_neg (fun q => by have := (pl_le (by omega) (by omega)).mp q; omega), pl_ixin (by omega) (by omega), pl_ogt, e1, pl_in (i := 401 * k + t) (by omega) (by omega), pl_ogt, pl_ix (by omega) (by omega), pl_nn (n := 401 * k + t) (by omega), h.1.1 k (t + 1) hkn (Or.inl (by omega)), h.1.1 k t hkn (Or.inl (by omega))]
    by_cases e : pl_m (sp_D p k (t + 1)) = pl_m (sp_D p k t)
    · rw [if_pos e]
      exact ih hkn () fun b hb => by
        by_cases eb : b = k
        · rw [eb]; exact e
        · exact hs b (by omega)
    · rw [if_neg e, pl_c_f (fun q => e (q k hkn)), cond_false]
  · have e : k = pq_n p := by omega
    subst e
    rw [if_pos ((pl_le (by omega) (by omega)).mpr (Nat.le_refl _)), pl_c_t (P := sp_q p (t + 1)) hs, cond_true]
theorem pq_settX (hp : pq_ok p) (hB : px_B β p) (h : px_I σ0 bp p set (nI E) (E + 1) 0 0 Mk cnt σ) (hE : E < 401) : ∀ t n, t ≤ E → t < n → oX2_settles_L5 σ β bp n (nI t) = some (nI (sp_stl p t)) := by
  intro t
  induction t with
  | zero =>
    intro n _ hn
    obtain ⟨n, rfl⟩ : ∃ m, n = m + 1 := ⟨n - 1, by omega⟩
    rw [oX2_settles_L5, if_pos (show nI 0 ≤ 0 by decide)]
    rfl
  | succ t ih =>
    intro n ht hn
    obtain ⟨n, rfl⟩ : ∃ m, n = m + 1 := ⟨n - 1, by omega⟩
    rw [oX2_settles_L5, if_neg (fun q => by have := (pl_le (b := 0) (by omega) (by omega)).mp q; omega), pq_L11 hp hB h ht hE]
    show _ = some (nI (bif pl_c (sp_q p (t + 1)) then sp_stl p t else t + 1))
    cases pl_c (sp_q p (t + 1)) with
    | true => exact ih n (by omega) (by omega)
    | false => rfl
theorem pq_areM (hp : pq_ok p) (hS : pm_S τ0 p) (h : pm_I τ0 p set 401 0 0 Mk cnt τ) {t : Nat} (ht : t + 1 ≤ 400) (hq : ∀ b, b < pq_n p → pl_m (sp_D p b (t + 1)) = pl_m (sp_D p b 400)) : oX4_areSettled τ (nI t) = some (bif pl_c (sp_q p (t + 1)) then 1 else 0) := by
  have h6 := hp.1.2
  have hP := h.2.2.2
  unfold oX4_areSettled
  refine pl_for (fun n v (_ : Unit) => oX4_areSettled_L2 τ (nI t) n v) (pq_n p) (fun k _ => ∀ b, b < k → pl_m (sp_D p b (t + 1)) = pl_m (sp_D p b t)) (fun r => r = some (bif pl_c (sp_q p (t + 1)) then 1 else 0)) (fun n k s hk hs ih => ?_) ol_fuel 0 () (by omega) (by unfold ol_fuel; omega) (fun b q => by omega)
  show oX4_areSettled_L2 τ (nI t) (n + 1) (nI k) = _
  rw [oX4_areSettled_L2, hP.is, hS.1, pl_s]
  by_cases hkn : k < pq_n p
  · rw [if_neg (fun q => by have := (pl_le (by omega) (by omega)).mp q; omega), pm_cell, Option.bind_some, pm_ixin (by omega) (by omega), pl_ogt, show (400 : Int32) = nI 400 from rfl, pm_cell, Option.bind_some, pm_ixin (by omega) (by omega), pl_ogt, pl_nn (by omega), pl_nn (by omega), h.1.1 k t hkn (Or.inl (by omega)), h.1.1 k 400 hkn (Or.inl (by omega)), ← hq k hkn]
    by_cases e : pl_m (sp_D p k t) = pl_m (sp_D p k (t + 1))
    · rw [if_pos e]
      exact ih hkn () fun b hb => by
        by_cases eb : b = k
        · rw [eb]; exact e.symm
        · exact hs b (by omega)
    · rw [if_neg e, pl_c_f (fun q => e (q k hkn).symm), cond_false]
  · have e : k = pq_n p := by omega
    subst e
    rw [if_pos ((pl_le (by omega) (by omega)).mpr (Nat.le_refl _)), pl_c_t (P := sp_q p (t + 1)) hs, cond_true]
theorem pq_settM (hp : pq_ok p) (hS : pm_S τ0 p) (h : pm_I τ0 p set 401 0 0 Mk cnt τ) : ∀ t n, t ≤ 400 → t < n → (∀ b, b < pq_n p → pl_m (sp_D p b t) = pl_m (sp_D p b 400)) → oX4_settledAt_L4 τ n (nI t) = some (nI (sp_stl p t)) := by
  intro t
  induction t with
  | zero =>
    intro n _ hn _
    obtain ⟨n, rfl⟩ : ∃ m, n = m + 1 := ⟨n - 1, by omega⟩
    rw [oX4_settledAt_L4, if_pos (show nI 0 ≤ 0 by decide)]
    rfl
  | succ t ih =>
    intro n ht hn hq
    obtain ⟨n, rfl⟩ : ∃ m, n = m + 1 := ⟨n - 1, by omega⟩
    rw [oX4_settledAt_L4, if_neg (fun q => by have := (pl_le (b := 0) (by omega) (by omega)).mp q; omega), pl_dn, pl_p, pq_areM hp hS h ht hq, Option.bind_some]
    show _ = some (nI (bif pl_c (sp_q p (t + 1)) then sp_stl p t else t + 1))
    cases e : pl_c (sp_q p (t + 1)) with
    | true =>
      rw [cond_true, cond_true, pl_i10]
      exact ih n (by omega) (by omega) fun b hb => ((pl_c_iff.mp e) b hb).symm.trans (hq b hb)
    | false => rw [cond_false, cond_false, pl_i00]
theorem pq_settles (hp : pq_ok p) (hB : px_B β p) (hS : pm_S τ0 p) (h : px_I σ0 bp p set (nI 400) (400 + 1) 0 0 Mk cnt σ) (h' : pm_I τ0 p set 401 0 0 Mk' cnt' τ) : oX2_settles σ β bp = some (nI (sp_stl p 400)) ∧ oX4_settledAt τ = some (nI (sp_stl p 400)) := by
  unfold oX2_settles oX4_settledAt
  rw [h.2.2.2.2.1.2.2.2.2.2]
  exact ⟨pq_settX hp hB h (by omega) 400 _ (Nat.le_refl _) (by unfold ol_fuel; omega), pq_settM hp hS h' 400 _ (Nat.le_refl _) (by unfold ol_fuel; omega) fun _ _ => rfl⟩
/-! edges of a line as it is seen -/
theorem pl_ifb (a b : Bool) : ((if a = true then (1 : Int32) else 0) = (if b = true then (1 : Int32) else 0)) ↔ a = b := by
  cases a <;> cases b <;> decide
theorem pq_edges (hp : pq_ok p) (h : px_I σ0 bp p set (nI 400) (400 + 1) 0 0 Mk cnt σ) (h' : pm_I τ0 p set 401 0 0 Mk' cnt' τ) {b i : Nat} (hb : b < pq_n p) (hi : i < 6) (x1 x2 : Int32) : ∃ z, oX2_edges σ (nI b) (nI i) = some z ∧ oX4_edges_L51 x1 x2 (nI b) (nI i) ol_fuel 0 1 τ = some (z, τ) := by
  have h6 := hp.1.2
  unfold oX2_edges
  refine pl_for (fun n v (s : Int32) => (oX2_edges_L5 σ (nI b) (nI i) n s v, oX4_edges_L51 x1 x2 (nI b) (nI i) n s v τ)) 401 (fun t _ => 1 ≤ t) (fun r => ∃ z, r.1 = some z ∧ r.2 = some (z, τ)) (fun n t s ht hs ih => ?_) ol_fuel 1 0 (by omega) (by unfold ol_fuel; omega) (Nat.le_refl _)
  show ∃ z, oX2_edges_L5 σ (nI b) (nI i) (n + 1) s (nI t) = some z ∧ oX4_edges_L51 x1 x2 (nI b) (nI i) (n + 1) s (nI t) τ = some (z, τ)
  have hs : 1 ≤ t := hs
  rw [oX2_edges_L5, oX4_edges_L51, h.2.2.2.2.1.2.2.2.2.2, pl_s, Int32.add_zero]
  by_cases ht4 : t < 401
  · have e1 : (401 : Int32) * nI b + nI t - 1 = nI (401 * b + (t - 1)) := by
      rw [show (401 : Int32) = nI 401 from rfl, pl_mul, pl_add, pl_d1 (by omega)]
      exact congrArg nI (by omega)
    have hc1 : ¬ nI 400 < nI t := fun q => by have := (pl_lt (by omega) (by omega)).mp q; omega
    have hc2 : ¬ (401 : Int32) ≤ nI t := fun q => by have := (pl_le (a := 401) (by omega) (by omega)).mp q; omega
    have r1 := (h.1.2 b t hb (Or.inl (by omega))).1
    have r2 := (h.1.2 b (t - 1) hb (Or.inl (by omega))).1
    have m1 := (h'.1.2 b t hb (Or.inl (by omega))).1
    have m2 := (h'.1.2 b (t - 1) hb (Or.inl (by omega))).1
    rw [if_neg hc1, if_neg hc2, pl_ixin (by omega) ht4, pl_ogt, pl_ix (by omega) (by omega), pl_has _ (i := i) (by omega), Option.bind_some, e1, pl_in (i := 401 * b + (t - 1)) (by omega) (by omega), pl_ogt, pl_nn (n := 401 * b + (t - 1)) (by omega), pl_has _ (i := i) (by omega), Option.bind_some, pm_cell, Option.bind_some, pm_ixin (by omega) ht4, pl_ogt, pl_d1 hs, pm_cell, Option.bind_some, pm_ixin (by omega) (by omega), pl_ogt, pl_nn (n := 401 * b + t) (by omega), pl_nn (n := 401 * b + (t - 1)) (by omega), r1, r2, m1, m2, pl_hasifM (i := i) (by omega), pl_b_xor]
    generalize pl_b (pl_m (sp_se p (sp_D p) b t)) i = x
    generalize pl_b (pl_m (sp_se p (sp_D p) b (t - 1))) i = y
    cases x <;> cases y
    · exact ih ht4 s (by omega)
    · exact ih ht4 (s + 1) (by omega)
    · exact ih ht4 (s + 1) (by omega)
    · exact ih ht4 s (by omega)
  · have e : t = 401 := by omega
    subst e
    rw [if_pos (show nI 400 < nI 401 by decide), if_pos (show (401 : Int32) ≤ nI 401 by decide)]
    exact ⟨s, rfl, rfl⟩
/-! faulty: whether some takes an even number of lines -/
def sp_odd (p : ol_Pp) (b t : Nat) : Prop := ∀ k, k < 64 → pl_m (sp_ta p (sp_D p) b t) = nI k → pl_pc k % 2 = 1
noncomputable def sp_fty (p : ol_Pp) (t : Nat) : Int32 := bif pl_c (∀ b, b < pq_n p → sp_odd p b t) then 0 else 1
theorem pl_par0 : ∀ c, c < 7 → ((nI c - nI c / 2 * 2 = 0) ↔ c % 2 = 0) := by decide +kernel
theorem pl_inj64 : ∀ k, k < 64 → ∀ l, l < 64 → nI k = nI l → k = l := by decide +kernel
theorem pq_ftyX (hp : pq_ok p) (hB : px_B β p) (h : px_I σ0 bp p set (nI E) (E + 1) 0 0 Mk cnt σ) {t : Nat} (ht : t ≤ E) (hE : E < 401) : oX2_isFaulty σ β bp (nI t) = some (sp_fty p t) := by
  have h6 := hp.1.2
  have hP := h.2.2.2.2
  unfold oX2_isFaulty
  refine pl_for (fun n v (_ : Unit) => oX2_isFaulty_L2 σ β bp (nI t) n v) (pq_n p) (fun k _ => ∀ b, b < k → sp_odd p b t) (fun r => r = some (sp_fty p t)) (fun n k s hk hs ih => ?_) ol_fuel 0 () (by omega) (by unfold ol_fuel; omega) (fun b q => by omega)
  show oX2_isFaulty_L2 σ β bp (nI t) (n + 1) (nI k) = _
  rw [oX2_isFaulty_L2, hP.1.1, pl_dd, pl_ogt, hB.1, pl_s]
  by_cases hkn : k < pq_n p
  · obtain ⟨c, e1, hc⟩ := pl_sm_lt (pl_m_sm (sp_ta p (sp_D p) k t))
    rw [if_neg (fun q => by have := (pl_le (by omega) (by omega)).mp q; omega), pl_ixin (by omega) (by omega), pl_ogt, pl_ix (by omega) (by omega), (h.1.2 k t hkn (Or.inl (by omega))).2.1, e1, pl_bc hc, Option.bind_some]
    by_cases e2 : pl_pc c % 2 = 0
    · rw [if_pos ((pl_par0 _ (pl_pc6 c hc)).mpr e2)]
      unfold sp_fty
      rw [pl_c_f (fun q => by have := q k hkn c hc e1; omega), cond_false]
    · rw [if_neg (fun q => e2 ((pl_par0 _ (pl_pc6 c hc)).mp q))]
      refine ih hkn () fun b hb => ?_
      by_cases eb : b = k
      · intro l hl el
        rw [eb, e1] at el
        have := pl_inj64 c hc l hl el
        subst this
        omega
      · exact hs b (by omega)
  · have e : k = pq_n p := by omega
    subst e
    rw [if_pos ((pl_le (by omega) (by omega)).mpr (Nat.le_refl _))]
    unfold sp_fty
    rw [pl_c_t hs, cond_true]
theorem pq_ftyM (hp : pq_ok p) (hS : pm_S τ0 p) (h : pm_I τ0 p set 401 0 0 Mk cnt τ) {t : Nat} (ht : t < 401) : oX4_isFaultyAt τ (nI t) = some (sp_fty p t) := by
  have h6 := hp.1.2
  have hP := h.2.2.2
  unfold oX4_isFaultyAt
  refine pl_for (fun n v (_ : Unit) => oX4_isFaultyAt_L2 τ (nI t) n v) (pq_n p) (fun k _ => ∀ b, b < k → sp_odd p b t) (fun r => r = some (sp_fty p t)) (fun n k s hk hs ih => ?_) ol_fuel 0 () (by omega) (by unfold ol_fuel; omega) (fun b q => by omega)
  show oX4_isFaultyAt_L2 τ (nI t) (n + 1) (nI k) = _
  rw [oX4_isFaultyAt_L2, hP.is, hS.1, pl_s]
  by_cases hkn : k < pq_n p
  · obtain ⟨c, e1, hc⟩ := pl_sm_lt (pl_m_sm (sp_ta p (sp_D p) k t))
    rw [if_neg (fun q => by have := (pl_le (by omega) (by omega)).mp q; omega), pm_cell, Option.bind_some, pm_ixin (by omega) ht, pl_ogt, pl_nn (by omega), (h.1.2 k t hkn (Or.inl (by omega))).2.1, e1, pl_bo hc, Option.bind_some]
    by_cases e2 : pl_pc c % 2 = 0
    · rw [if_pos ((pl_par0 _ (pl_pc6 c hc)).mpr e2)]
      unfold sp_fty
      rw [pl_c_f (fun q => by have := q k hkn c hc e1; omega), cond_false]
    · rw [if_neg (fun q => e2 ((pl_par0 _ (pl_pc6 c hc)).mp q))]
      refine ih hkn () fun b hb => ?_
      by_cases eb : b = k
      · intro l hl el
        rw [eb, e1] at el
        have := pl_inj64 c hc l hl el
        subst this
        omega
      · exact hs b (by omega)
  · have e : k = pq_n p := by omega
    subst e
    rw [if_pos ((pl_le (by omega) (by omega)).mpr (Nat.le_refl _))]
    unfold sp_fty
    rw [pl_c_t hs, cond_true]
end PQ2
