/-! WHAT IS ASKED OF A PASS: both sides answer the same -/
set_option maxRecDepth 100000
/-! bits counted -/
theorem pl_bo1 (x1 : Int32) : ∀ n v x, oX4_bitsOf_L4 x1 n v x = oX4_bitsOf_L4 0 n v x := by
  intro n
  induction n with
  | zero => intro v x; rfl
  | succ n ih =>
    intro v x
    rw [oX4_bitsOf_L4, oX4_bitsOf_L4, ih]
theorem pl_bo2 : ∀ n m v x z, oX4_bitsOf_L4 0 n v x = some z → oX4_bitsOf_L4 0 (n + m) v x = some z := by
  intro n
  induction n with
  | zero => intro m v x z h; cases h
  | succ n ih =>
    intro m v x z h
    rw [show n + 1 + m = n + m + 1 by omega, oX4_bitsOf_L4]
    rw [oX4_bitsOf_L4] at h
    by_cases h0 : x = 0
    · rw [if_pos h0] at h ⊢
      exact h
    · rw [if_neg h0] at h ⊢
      exact ih m _ _ _ h
def pl_pc (k : Nat) : Nat := k % 2 + k / 2 % 2 + k / 4 % 2 + k / 8 % 2 + k / 16 % 2 + k / 32 % 2
theorem pl_bc0 : ∀ k, k < 64 → oJ14_bitCount (nI k) = some (nI (pl_pc k)) ∧ oX4_bitsOf_L4 0 7 0 (nI k) = some (nI (pl_pc k)) := by decide +kernel
theorem pl_bc {k : Nat} (h : k < 64) : oJ14_bitCount (nI k) = some (nI (pl_pc k)) := (pl_bc0 k h).1
theorem pl_bo {k : Nat} (h : k < 64) : oX4_bitsOf (nI k) = some (nI (pl_pc k)) := by
  unfold oX4_bitsOf
  rw [pl_bo1]
  obtain ⟨m, e⟩ : ∃ m, ol_fuel = 7 + m := ⟨ol_fuel - 7, by unfold ol_fuel; omega⟩
  rw [e]
  exact pl_bo2 7 m _ _ _ (pl_bc0 k h).2
theorem pl_pc6 : ∀ k, k < 64 → pl_pc k < 7 := by decide
section PQ
variable {σ0 σ : ol_Xm} {τ0 τ : ol_Mm} {β : ol_Bd} {bp : Nat} {p : ol_Pp} {set : Int32} {E cnt cnt' : Nat} {Mk Mk' : Nat → Nat → Nat → Prop}
/-- whom nothing drives off at t -/
noncomputable def sp_win (p : ol_Pp) (t : Nat) : Int32 := pl_m (fun b => b < pq_n p ∧ pq_hs p b ∧ sp_O p b t = none)
theorem pl_en2 {o : Option Nat} (h : ∀ l, o = some l → l < 6) : pl_en o = -2 ↔ o = none := by
  cases o with
  | none => exact ⟨fun _ => rfl, fun _ => rfl⟩
  | some l => exact ⟨fun q => absurd q (pl_n2 l (h l rfl)), fun q => by cases q⟩
theorem pq_winX (hp : pq_ok p) (hB : px_B β p) (h : px_I σ0 bp p set (nI E) (E + 1) 0 0 Mk cnt σ) {t : Nat} (ht : t ≤ E) (hE : E < 401) : oX2_winners σ β bp (nI t) = some (sp_win p t) := by
  have h6 := hp.1.2
  have hP := h.2.2.2.2
  unfold oX2_winners
  refine pl_for (fun n v s => oX2_winners_L4 σ β bp (nI t) n s v) (pq_n p) (fun k s => s = pl_m (fun b => b < k ∧ pq_hs p b ∧ sp_O p b t = none)) (fun r => r = some (sp_win p t)) (fun n k s hk hs ih => ?_) ol_fuel 0 0 (by omega) (by unfold ol_fuel; omega) (pl_m_0 fun b _ q => by omega).symm
  show oX2_winners_L4 σ β bp (nI t) (n + 1) s (nI k) = _
  rw [oX2_winners_L4, hP.1.1, pl_dd, pl_ogt, hB.1, hP.1.2.1, pl_s]
  by_cases hkn : k < pq_n p
  · rw [if_neg (fun q => by have := (pl_le (by omega) (by omega)).mp q; omega), pl_hasif (i := k) (by omega)]
    have skip : ¬ (pq_hs p k ∧ sp_O p k t = none) → oX2_winners_L4 σ β bp (nI t) n s (nI (k + 1)) = some (sp_win p t) := fun hno => ih hkn s (hs.trans (pl_m_ext fun b _ => ⟨fun q => ⟨by omega, q.2⟩, fun q => ⟨by
      by_cases e : b = k
      · rw [e] at q
        exact absurd q.2 hno
      · omega, q.2⟩⟩))
    by_cases hh : pq_hs p k
    · rw [if_pos ((hP.2.2.1 k hkn).mpr hh), pl_ixin (by omega) (by omega), pl_ogt, pl_ix (by omega) (by omega), (h.1.2 k t hkn (Or.inl (by omega))).2.2]
      by_cases hO : sp_O p k t = none
      · rw [if_pos ((pl_en2 fun l hl => sp_O_lt hp.2.1.1 hl).mpr hO)]
        refine ih hkn _ ?_
        rw [hs, pl_m_or1 (by omega)]
        refine pl_m_ext fun b _ => ⟨fun q => ?_, fun q => ?_⟩
        · rcases q with q | rfl
          · exact ⟨by omega, q.2⟩
          · exact ⟨by omega, hh, hO⟩
        · by_cases e : b = k
          · exact Or.inr e
          · exact Or.inl ⟨by omega, q.2⟩
      · rw [if_neg (fun q => hO ((pl_en2 fun l hl => sp_O_lt hp.2.1.1 hl).mp q))]
        exact skip fun q => hO q.2
    · rw [if_neg (fun q => hh ((hP.2.2.1 k hkn).mp q))]
      exact skip fun q => hh q.1
  · have e : k = pq_n p := by omega
    subst e
    rw [if_pos ((pl_le (by omega) (by omega)).mpr (Nat.le_refl _)), hs]
    rfl
theorem pq_winM (hp : pq_ok p) (hS : pm_S τ0 p) (h : pm_I τ0 p set 401 0 0 Mk cnt τ) {t : Nat} (ht : t < 401) : oX4_winnersAt τ (nI t) = some (sp_win p t) := by
  have h6 := hp.1.2
  have hP := h.2.2.2
  unfold oX4_winnersAt
  refine pl_for (fun n v s => oX4_winnersAt_L4 τ (nI t) n s v) (pq_n p) (fun k s => s = pl_m (fun b => b < k ∧ pq_hs p b ∧ sp_O p b t = none)) (fun r => r = some (sp_win p t)) (fun n k s hk hs ih => ?_) ol_fuel 0 0 (by omega) (by unfold ol_fuel; omega) (pl_m_0 fun b _ q => by omega).symm
  show oX4_winnersAt_L4 τ (nI t) (n + 1) s (nI k) = _
  rw [oX4_winnersAt_L4, hP.is, hS.1, hP.1, pl_s, Int32.or_zero]
  by_cases hkn : k < pq_n p
  · rw [if_neg (fun q => by have := (pl_le (by omega) (by omega)).mp q; omega), pl_hasifM (i := k) (by omega)]
    have skip : ¬ (pq_hs p k ∧ sp_O p k t = none) → oX4_winnersAt_L4 τ (nI t) n s (nI (k + 1)) = some (sp_win p t) := fun hno => ih hkn s (hs.trans (pl_m_ext fun b _ => ⟨fun q => ⟨by omega, q.2⟩, fun q => ⟨by
      by_cases e : b = k
      · rw [e] at q
        exact absurd q.2 hno
      · omega, q.2⟩⟩))
    by_cases hh : pq_hs p k
    · rw [if_pos ((hP.2.2.1 k hkn).mpr hh), pm_cell, Option.bind_some, pm_ixin (by omega) (by omega), pl_ogt, pl_nn (by omega), (h.1.2 k t hkn (Or.inl (by omega))).2.2]
      by_cases hO : sp_O p k t = none
      · rw [if_pos ((pl_en2 fun l hl => sp_O_lt hp.2.1.1 hl).mpr hO)]
        refine ih hkn _ ?_
        rw [hs, pl_m_or1 (by omega)]
        refine pl_m_ext fun b _ => ⟨fun q => ?_, fun q => ?_⟩
        · rcases q with q | rfl
          · exact ⟨by omega, q.2⟩
          · exact ⟨by omega, hh, hO⟩
        · by_cases e : b = k
          · exact Or.inr e
          · exact Or.inl ⟨by omega, q.2⟩
      · rw [if_neg (fun q => hO ((pl_en2 fun l hl => sp_O_lt hp.2.1.1 hl).mp q))]
        exact skip fun q => hO q.2
    · rw [if_neg (fun q => hh ((hP.2.2.1 k hkn).mp q))]
      exact skip fun q => hh q.1
  · have e : k = pq_n p := by omega
    subst e
    rw [if_pos ((pl_le (by omega) (by omega)).mpr (Nat.le_refl _)), hs]
    rfl
/-- the right ones -/
theorem pl_smpos {x : Int32} (h : pl_sm6 x) (h0 : ¬ x = 0) : 0 < x := by
  obtain ⟨k, rfl, hk⟩ := pl_sm_lt h
  have : ∀ k, k < 64 → ¬ nI k = 0 → (0 : Int32) < nI k := by decide +kernel
  exact this k hk h0
theorem pl_ltm1 {x : Int32} (h : 0 < x) : ¬ x < -1 ∧ ¬ x ≤ -1 ∧ (0 : Int32) ≤ x ∧ ¬ x ≤ 0 := by
  have h1 := Int32.lt_iff_toInt_lt.mp h
  have e0 : (0 : Int32).toInt = 0 := rfl
  have e1 : (-1 : Int32).toInt = -1 := rfl
  refine ⟨fun q => ?_, fun q => ?_, ?_, fun q => ?_⟩
  · have := Int32.lt_iff_toInt_lt.mp q
    omega
  · have := Int32.le_iff_toInt_le.mp q
    omega
  · exact Int32.le_iff_toInt_le.mpr (by omega)
  · have := Int32.le_iff_toInt_le.mp q
    omega
theorem pq_right (hp : pq_ok p) (hB : px_B β p) (hS : pm_S τ0 p) (h : px_I σ0 bp p set (nI E) (E + 1) 0 0 Mk cnt σ) (h' : pm_I τ0 p set 401 0 0 Mk' cnt' τ) : ∃ z, oX2_right σ β bp = some z ∧ oX4_rightOnes τ = some z := by
  have h6 := hp.1.2
  have hP := h.2.2.2.2
  have hM := h'.2.2.2
  unfold oX2_right oX4_rightOnes
  refine pl_for (fun n v (s : (Int32 × Int32) × Int32) => (oX2_right_L6 σ β bp n s.1.1 s.2 v, oX4_rightOnes_L6 τ n s.1.2 s.2 v)) (pq_n p) (fun k s => s.1.1 = s.1.2 ∨ (s.1.1 = 0 ∧ s.1.2 = -1 ∧ s.2 = 0)) (fun r => ∃ z, r.1 = some z ∧ r.2 = some z) (fun n k s hk hs ih => ?_) ol_fuel 0 ((0, -1), 0) (by omega) (by unfold ol_fuel; omega) (Or.inr ⟨rfl, rfl, rfl⟩)
  obtain ⟨⟨a, b⟩, w⟩ := s
  show ∃ z, oX2_right_L6 σ β bp (n + 1) a w (nI k) = some z ∧ oX4_rightOnes_L6 τ (n + 1) b w (nI k) = some z
  have hs : a = b ∨ (a = 0 ∧ b = -1 ∧ w = 0) := hs
  rw [oX2_right_L6, oX4_rightOnes_L6, hP.1.1, pl_dd, pl_ogt, hB.1, hP.1.2.1, pl_s, hM.is, hS.1, hM.1]
  by_cases hkn : k < pq_n p
  · have hc : ¬ nI (pq_n p) ≤ nI k := fun q => by have := (pl_le (by omega) (by omega)).mp q; omega
    rw [if_neg hc, if_neg hc, pl_hasif (i := k) (by omega), pl_hasifM (i := k) (by omega)]
    by_cases hh : pq_hs p k
    · have hw := hp.2.2.2.2.1 k hkn hh
      obtain ⟨q1, q2, q3, q4⟩ := pl_ltm1 (pl_smpos hw.1 hw.2)
      rw [if_pos ((hP.2.2.1 k hkn).mpr hh), if_pos ((hP.2.2.1 k hkn).mpr hh), pl_in (i := k) (n := 6) (by omega) (by omega), pl_ogt, pl_ogt, pl_nn (n := k) (by omega), (hP.2.1 k hkn).1 hh, hM.2.1 k hkn hh]
      rcases hs with rfl | ⟨rfl, rfl, rfl⟩
      · by_cases g1 : a ≤ pq_w p k
        · rw [if_pos g1, if_neg (Int32.not_lt.mpr g1), pl_ogt, pl_ogt]
          by_cases g2 : pq_w p k ≤ a
          · rw [if_pos g2, if_pos g2, pl_ogt, pl_ogt]
            exact ih hkn ((pq_w p k, pq_w p k), _) (Or.inl rfl)
          · rw [if_neg g2, if_neg g2, pl_ogt, pl_ogt, Int32.zero_or]
            exact ih hkn ((pq_w p k, pq_w p k), _) (Or.inl rfl)
        · rw [if_neg g1, if_pos (Int32.not_le.mp g1)]
          exact ih hkn ((a, a), w) (Or.inl rfl)
      · rw [if_pos q3, if_neg q1, pl_ogt, pl_ogt, if_neg q4, if_neg q2, pl_ogt, pl_ogt, Int32.zero_or]
        exact ih hkn ((pq_w p k, pq_w p k), _) (Or.inl rfl)
    · rw [if_neg (fun q => hh ((hP.2.2.1 k hkn).mp q)), if_neg (fun q => hh ((hP.2.2.1 k hkn).mp q))]
      exact ih hkn ((a, b), w) hs
  · have e : k = pq_n p := by omega
    subst e
    have hc : nI (pq_n p) ≤ nI (pq_n p) := Int32.le_refl _
    rw [if_pos hc, if_pos hc]
    exact ⟨w, rfl, rfl⟩
/-- from when on the right ones win -/
noncomputable def sp_since (p : ol_Pp) (z : Int32) : Nat → Nat
  | 0 => 0
  | t + 1 => bif pl_c (sp_win p t = z) then sp_since p z t else t + 1
theorem sp_since_le (p : ol_Pp) (z : Int32) : ∀ t, sp_since p z t ≤ t := by
  intro t
  induction t with
  | zero => exact Nat.le_refl _
  | succ t ih =>
    unfold sp_since
    cases pl_c (sp_win p t = z) with
    | true => exact Nat.le_succ_of_le ih
    | false => exact Nat.le_refl _
theorem pl_dn {t : Nat} : nI (t + 1) - 1 = nI t := pl_d1 (by omega)
theorem pq_L25 (hp : pq_ok p) (hB : px_B β p) (h : px_I σ0 bp p set (nI E) (E + 1) 0 0 Mk cnt σ) (hE : E < 401) (z : Int32) : ∀ t n, t ≤ E → t < n → oX2_sure_L25 σ β bp n z (nI t) = some (nI (sp_since p z t)) := by
  intro t
  induction t with
  | zero =>
    intro n _ hn
    obtain ⟨n, rfl⟩ : ∃ m, n = m + 1 := ⟨n - 1, by omega⟩
    rw [oX2_sure_L25, if_pos (show nI 0 ≤ 0 by decide)]
    rfl
  | succ t ih =>
    intro n ht hn
    obtain ⟨n, rfl⟩ : ∃ m, n = m + 1 := ⟨n - 1, by omega⟩
    rw [oX2_sure_L25, if_neg (fun q => by have := (pl_le (b := 0) (by omega) (by omega)).mp q; omega), pl_dn, pl_p, pq_winX hp hB h (by omega) hE, Option.bind_some]
    show _ = some (nI (bif pl_c (sp_win p t = z) then sp_since p z t else t + 1))
    by_cases e : sp_win p t = z
    · rw [if_pos e, pl_c_t e, cond_true]
      exact ih n (by omega) (by omega)
    · rw [if_neg e, pl_c_f e, cond_false]
theorem pq_L9 (hp : pq_ok p) (hS : pm_S τ0 p) (h : pm_I τ0 p set 401 0 0 Mk cnt τ) (z : Int32) : ∀ t n, t ≤ 400 → t < n → oX4_sureAt_L9 τ n z (nI t) = some (nI (sp_since p z t)) := by
  intro t
  induction t with
  | zero =>
    intro n _ hn
    obtain ⟨n, rfl⟩ : ∃ m, n = m + 1 := ⟨n - 1, by omega⟩
    rw [oX4_sureAt_L9, if_pos (show nI 0 ≤ 0 by decide), if_neg (by decide)]
    rfl
  | succ t ih =>
    intro n ht hn
    obtain ⟨n, rfl⟩ : ∃ m, n = m + 1 := ⟨n - 1, by omega⟩
    rw [oX4_sureAt_L9, if_neg (fun q => by have := (pl_le (b := 0) (by omega) (by omega)).mp q; omega), pl_dn, pl_p, pq_winM hp hS h (by omega), Option.bind_some]
    show _ = some (nI (bif pl_c (sp_win p t = z) then sp_since p z t else t + 1))
    by_cases e : sp_win p t = z
    · rw [if_pos e, pl_c_t e, cond_true]
      exact ih n (by omega) (by omega)
    · rw [if_neg e, pl_c_f e, cond_false, if_neg (fun q => by rw [pl_l401] at q; have := (pl_eq (by omega) (by omega)).mp q; omega)]
/-- sure: none, or a tick -/
theorem pq_sure (hp : pq_ok p) (hB : px_B β p) (hS : pm_S τ0 p) (h : px_I σ0 bp p set (nI 400) (400 + 1) 0 0 Mk cnt σ) (h' : pm_I τ0 p set 401 0 0 Mk' cnt' τ) : ∃ z, oX2_sure σ β bp = some z ∧ oX4_sureAt τ = some z ∧ (z = -2 ∨ ∃ t, t ≤ 400 ∧ z = nI t) := by
  obtain ⟨z, e1, e2⟩ := pq_right hp hB hS h h'
  unfold oX2_sure oX4_sureAt
  rw [e1, Option.bind_some, e2, Option.bind_some, h.2.2.2.2.1.2.2.2.2.2, pq_winX hp hB h (Nat.le_refl _) (by omega), Option.bind_some]
  obtain ⟨n, e3⟩ : ∃ m, ol_fuel = m + 1 := ⟨ol_fuel - 1, by unfold ol_fuel; omega⟩
  have e4 : (401 : Int32) - 1 = nI 400 := by decide
  have e5 : (401 : Int32) + (-1) = nI 400 := by decide
  by_cases e : sp_win p 400 = z
  · refine ⟨nI (sp_since p z 400), ?_, ?_, Or.inr ⟨_, sp_since_le p z 400, rfl⟩⟩
    · rw [if_pos e]
      exact pq_L25 hp hB h (by omega) z 400 ol_fuel (Nat.le_refl _) (by unfold ol_fuel; omega)
    · rw [e3, oX4_sureAt_L9, if_neg (by decide), e4, e5, pq_winM hp hS h' (by omega), Option.bind_some, if_pos e]
      refine pq_L9 hp hS h' z 400 n (Nat.le_refl _) ?_
      unfold ol_fuel at e3
      omega
  · refine ⟨-2, ?_, ?_, Or.inl rfl⟩
    · rw [if_neg e]
    · rw [e3, oX4_sureAt_L9, if_neg (by decide), e4, e5, pq_winM hp hS h' (by omega), Option.bind_some, if_neg e, if_pos rfl]
end PQ
