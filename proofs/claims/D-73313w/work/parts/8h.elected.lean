/-! STEPS of a run, VI: one is elected -/
set_option maxRecDepth 100000
section PEL
variable {B : ol_Bp} {β : ol_Bd} {bp r T U : Nat} {wt : Nat → Option Nat} {σ σ' σ'' : ol_Xm} {ρ : Nat → Int32} {τ : ol_Mm}
theorem pr_relog {y : ol_Xm} (h : y.2.2 = σ.2.2) : ol_relog σ y = y := by
  show (y.1, y.2.1, σ.2.2) = y
  rw [← h]
/-- a step that writes freshness, the ledger, the run's numbers alone -/
def pr_F (r : Nat) (σ σ' : ol_Xm) : Prop := (∀ c j, ¬ c = r → ¬ c = r + 1 → ¬ c = r + 7 → σ'.1 c j = σ.1 c j) ∧ (∀ j, 19 ≤ j → σ'.1 r j = σ.1 r j) ∧ σ'.2 = σ.2
theorem pr_F.rf : pr_F r σ σ := ⟨fun _ _ _ _ _ => rfl, fun _ _ => rfl, rfl⟩
theorem pr_F.tr (h1 : pr_F r σ σ') (h2 : pr_F r σ' σ'') : pr_F r σ σ'' := ⟨fun c j a b d => (h2.1 c j a b d).trans (h1.1 c j a b d), fun j hj => (h2.2.1 j hj).trans (h1.2.1 j hj), h2.2.2.trans h1.2.2⟩
theorem pr_F.w (h : pr_F r σ σ') (c j : Nat) (x : Int32) (hc : (c = r ∧ j < 19) ∨ c = r + 1 ∨ c = r + 7) : pr_F r σ (ol_xs σ' c j x) := h.tr ⟨fun c' j' h1 h2 h3 => px_ne (by omega), fun j' hj => by
  rw [pl_xs, if_neg (fun q => by omega)], rfl⟩
/-- all are fresh again, then one isn't -/
theorem pr_fresh (h : pr_R B bp r T U wt σ (τ.1 5)) (h6 : pb_n B ≤ 6) {b : Nat} (hb : b < 6) : ∃ σ' τ', oX3_isThrough_L147 β bp r ol_fuel (nI b) 0 σ = some σ' ∧ oX4_isElected_L41 (nI b) ol_fuel 0 τ = some τ' ∧ pr_R B bp r T U wt σ' (τ'.1 5) ∧ pr_F r σ σ' ∧ pm_K τ τ' := by
  refine pl_for (fun n v (s : ol_Xm × ol_Mm) => (oX3_isThrough_L147 β bp r n (nI b) v s.1, oX4_isElected_L41 (nI b) n v s.2)) 6 (fun k s => pr_R B bp r T U wt s.1 (s.2.1 5) ∧ pr_F r σ s.1 ∧ pm_K τ s.2) (fun z => ∃ σ' τ', z.1 = some σ' ∧ z.2 = some τ' ∧ pr_R B bp r T U wt σ' (τ'.1 5) ∧ pr_F r σ σ' ∧ pm_K τ τ') (fun n k s hk hs ih => ?_) ol_fuel 0 (σ, τ) (by omega) (by unfold ol_fuel; omega) ⟨h, pr_F.rf, pm_K.rf⟩
  obtain ⟨s, t⟩ := s
  show ∃ σ' τ', oX3_isThrough_L147 β bp r (n + 1) (nI b) (nI k) s = some σ' ∧ oX4_isElected_L41 (nI b) (n + 1) (nI k) t = some τ' ∧ _
  obtain ⟨s1, s2, s3⟩ := hs
  have step : ∀ (j x : Nat), j < 6 → x < 2 → pr_R B bp r T U wt (ol_xs s (r + 1) j (nI x)) ((ol_ms t 5 (18 + 12 * j + 2) (nI x)).1 5) := fun j x hj hx => by
    refine pr_R.step (s1 : pr_R B bp r T U wt s (t.1 5)) h6 (s1.1.bd hj 2 (c := 1) (by omega) (nI x)) (s1.2.1.bd h6 hj 2 (by omega)) ((pr_K.x _ _ _ (by omega)).tr (pr_K.m _ _ ⟨by omega, by omega, by omega, fun b' hb' => by omega⟩))
  rw [oX3_isThrough_L147, oX4_isElected_L41, pl_l6, pl_s]
  by_cases hk6 : k < 6
  · have hc : ¬ nI 6 ≤ nI k := fun q => by have := (pl_le (by omega) (by omega)).mp q; omega
    rw [if_neg hc, if_neg hc, pl_in (i := k) (n := 6) hk6 (by omega), pl_ogt, pl_nn (n := k) (by omega), show oX4_at (nI k) 2 = some (nI (18 + 12 * k + 2)) from pw_at (k := 2) hk6 (by omega), Option.bind_some, pl_in (n := 251) (by omega) (by omega), pl_ogt, pl_nn (by omega)]
    exact ih hk6 (_, _) ⟨step k 1 hk6 (by omega), s2.w _ _ _ (by omega), s3.w _ _⟩
  · have e : k = 6 := by omega
    subst e
    have hc : nI 6 ≤ nI 6 := Int32.le_refl _
    rw [if_pos hc, if_pos hc, pl_in (i := b) (n := 6) hb (by omega), pl_ogt, pl_nn (n := b) (by omega), show oX4_at (nI b) 2 = some (nI (18 + 12 * b + 2)) from pw_at (k := 2) hb (by omega), Option.bind_some, pl_in (n := 251) (by omega) (by omega), pl_ogt, pl_nn (by omega)]
    exact ⟨_, _, rfl, rfl, step b 0 hb (by omega), s2.w _ _ _ (by omega), s3.w _ _⟩
theorem pr_elected (h6 : pb_n B ≤ 6) {b : Nat} (hb : b < 6) (h : pr_R B bp r T U wt (ol_xs σ r 11 (nI b)) (τ.1 5)) : ∃ σ' τ', oX3_isThrough_L115 β bp r (nI b) σ = some σ' ∧ oX4_isElected τ (nI b) = some τ' ∧ pr_R B bp r T U wt σ' (τ'.1 5) ∧ pr_F r σ σ' ∧ pm_K τ τ' := by
  obtain ⟨c1, c2, c3⟩ := pr_count h.1 h.2.1 h6 hb (k := 5) (by omega)
  have h1 := h.step h6 c1 c2 c3
  have hF1 : pr_F r σ (ol_xs (ol_xs σ r 11 (nI b)) (r + 7) (6 * b + 5) ((ol_xs σ r 11 (nI b)).1 (r + 7) (6 * b + 5) + 1)) := (pr_F.rf.w _ _ _ (by omega)).w _ _ _ (by omega)
  unfold oX3_isThrough_L115 oX4_isElected
  rw [show (5 : Int32) = nI 5 from rfl, pr_countX hb (by omega), Option.bind_some, pr_relog (σ := ol_xs σ r 11 (nI b)) (y := ol_xs (ol_xs σ r 11 (nI b)) (r + 7) (6 * b + 5) ((ol_xs σ r 11 (nI b)).1 (r + 7) (6 * b + 5) + 1)) rfl, pl_in (i := b) (n := 6) hb (by omega), pl_ogt, pl_nn (n := b) (by omega), show oX4_at (nI b) 11 = some (nI (18 + 12 * b + (6 + 5))) from pw_at (k := 11) hb (by omega), Option.bind_some, pl_in (n := 251) (by omega) (by omega), pl_ogt, pl_ogt, show oX4_at (nI b) 2 = some (nI (18 + 12 * b + 2)) from pw_at (k := 2) hb (by omega), Option.bind_some, pl_in (i := 18 + 12 * b + 2) (n := 251) (by omega) (by omega), pl_ogt, pl_nn (n := 18 + 12 * b + (6 + 5)) (by omega), pl_nn (n := 18 + 12 * b + 2) (by omega)]
  have hf := (h1.1.2.2 b hb).2.2.1
  have hf2 : (ol_ms τ 5 (18 + 12 * b + (6 + 5)) (τ.1 5 (18 + 12 * b + (6 + 5)) + 1)).1 5 (18 + 12 * b + 2) = (ol_xs (ol_xs σ r 11 (nI b)) (r + 7) (6 * b + 5) ((ol_xs σ r 11 (nI b)).1 (r + 7) (6 * b + 5) + 1)).1 (r + 1) b := hf.symm
  rw [hf2]
  by_cases h0 : (ol_xs (ol_xs σ r 11 (nI b)) (r + 7) (6 * b + 5) ((ol_xs σ r 11 (nI b)).1 (r + 7) (6 * b + 5) + 1)).1 (r + 1) b = 0
  · rw [if_pos h0, if_pos h0]
    -- a round is over
    have e14 : (ol_xs (ol_xs σ r 11 (nI b)) (r + 7) (6 * b + 5) ((ol_xs σ r 11 (nI b)).1 (r + 7) (6 * b + 5) + 1)).1 r 14 = (ol_ms τ 5 (18 + 12 * b + (6 + 5)) (τ.1 5 (18 + 12 * b + (6 + 5)) + 1)).1 5 6 := h1.1.1 6 (by omega)
    have h2 : pr_R B bp r T U wt (ol_xs (ol_xs (ol_xs σ r 11 (nI b)) (r + 7) (6 * b + 5) ((ol_xs σ r 11 (nI b)).1 (r + 7) (6 * b + 5) + 1)) r 14 ((ol_xs (ol_xs σ r 11 (nI b)) (r + 7) (6 * b + 5) ((ol_xs σ r 11 (nI b)).1 (r + 7) (6 * b + 5) + 1)).1 r 14 + 1)) ((ol_ms (ol_ms τ 5 (18 + 12 * b + (6 + 5)) (τ.1 5 (18 + 12 * b + (6 + 5)) + 1)) 5 6 ((ol_ms τ 5 (18 + 12 * b + (6 + 5)) (τ.1 5 (18 + 12 * b + (6 + 5)) + 1)).1 5 6 + 1)).1 5) := by
      rw [e14]
      exact h1.step h6 (h1.1.sc (k := 6) (by omega) _) (h1.2.1.free h6 6 _ (Or.inr (Or.inl (by omega)))) ((pr_K.x _ _ _ (by omega)).tr (pr_K.m _ _ ⟨by omega, by omega, by omega, fun b' hb' => by omega⟩))
    obtain ⟨σ', τ', a1, a2, a3, a4, a5⟩ := pr_fresh (β := β) h2 h6 hb
    exact ⟨σ', τ', a1, a2, a3, (hF1.w _ _ _ (by omega)).tr a4, ((pm_K.rf.w _ _).w _ _).tr a5⟩
  · rw [if_neg h0, if_neg h0, pl_ogt, Option.bind_some, pl_in (i := 18 + 12 * b + 2) (n := 251) (by omega) (by omega), pl_ogt, pl_nn (n := 18 + 12 * b + 2) (by omega)]
    refine ⟨_, _, rfl, rfl, ?_, hF1.w _ _ _ (by omega), (pm_K.rf.w _ _).w _ _⟩
    exact h1.step h6 (h1.1.bd hb 2 (c := 1) (by omega) (nI 0)) (h1.2.1.bd h6 hb 2 (by omega)) ((pr_K.x _ _ _ (by omega)).tr (pr_K.m _ _ ⟨by omega, by omega, by omega, fun b' hb' => by omega⟩))
end PEL
