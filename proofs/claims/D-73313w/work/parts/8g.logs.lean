/-! STEPS of a run, V: what is noted -/
set_option maxRecDepth 100000
section PLG
variable {B : ol_Bp} {bp r T U : Nat} {wt : Nat → Option Nat} {σ : ol_Xm} {τ : ol_Mm}
/-- the row behind its shift: LOG_MANY, the newest entry -/
theorem pg_L68 {s : ol_Mm} (x1 x2 s0 : Int32) : ∃ τ', oX4_logs_L68 x1 x2 s0 90 s = some τ' ∧ τ'.1 5 90 = s0 ∧ τ'.1 5 91 = s.1 5 0 ∧ τ'.1 5 92 = x1 ∧ τ'.1 5 93 = s.1 0 31 ∧ τ'.1 5 94 = s.1 0 32 ∧ τ'.1 5 95 = x2 ∧ τ'.1 5 96 = s.1 0 30 ∧ (∀ j, j < 90 ∨ 97 ≤ j → τ'.1 5 j = s.1 5 j) ∧ pm_K s τ' := by
  unfold oX4_logs_L68
  rw [show (90 : Int32) = nI 90 from rfl, pl_in (i := 90) (n := 251) (by omega) (by omega), pl_ogt, pl_nn (n := 90) (by omega)]
  refine ⟨_, rfl, ?_, ?_, ?_, ?_, ?_, ?_, ?_, fun j hj => ?_, ((((((pm_K.rf.w _ _).w _ _).w _ _).w _ _).w _ _).w _ _).w _ _⟩
  all_goals simp (disch := omega) only [mx_eq, mx_nk, mx_ne]
/-- the shift -/
theorem pg_L3 (x1 x2 : Int32) : ∀ v, 5 ≤ v → v ≤ 95 → ∀ n, v < n → ∀ s : ol_Mm, (∀ j, v < j → j ≤ 95 → s.1 5 (91 + j) = τ.1 5 (91 + j - 6)) → (∀ j, (j ≤ 91 + v ∨ 187 ≤ j) → s.1 5 j = τ.1 5 j) → pm_K τ s → ∃ s', oX4_logs_L3 x1 x2 n (nI v) s = (if s'.1 5 90 = 16 then oX4_logs_L68 x1 x2 16 90 s' else oX4_logs_L68 x1 x2 (s'.1 5 90 + 1) 90 s') ∧ (∀ j, 6 ≤ j → j ≤ 95 → s'.1 5 (91 + j) = τ.1 5 (91 + j - 6)) ∧ (∀ j, (j < 97 ∨ 187 ≤ j) → s'.1 5 j = τ.1 5 j) ∧ pm_K τ s' := by
  intro v
  induction v with
  | zero => intro h; omega
  | succ v ih =>
    intro h5 h95 n hn s s1 s2 s3
    obtain ⟨n, rfl⟩ : ∃ m, n = m + 1 := ⟨n - 1, by omega⟩
    rw [oX4_logs_L3, pl_l6]
    by_cases hv : v + 1 < 6
    · have e : v = 4 := by omega
      subst e
      rw [if_pos ((pl_lt (by omega) (by omega)).mpr hv)]
      exact ⟨s, rfl, fun j h1 h2 => s1 j (by omega) h2, fun j hj => s2 j (by omega), s3⟩
    · have e1 : (91 : Int32) + nI (v + 1) = nI (91 + (v + 1)) := by rw [show (91 : Int32) = nI 91 from rfl, pl_add]
      rw [if_neg (fun q => hv ((pl_lt (by omega) (by omega)).mp q)), e1, pl_sub (by omega), pl_in (i := 91 + (v + 1) - 6) (n := 251) (by omega) (by omega), pl_ogt, pl_in (i := 91 + (v + 1)) (n := 251) (by omega) (by omega), pl_ogt, pl_nn (n := 91 + (v + 1) - 6) (by omega), pl_nn (n := 91 + (v + 1)) (by omega), pl_p]
      refine ih (by omega) (by omega) n (by omega) _ (fun j h1 h2 => ?_) (fun j hj => ?_) (s3.w _ _)
      · by_cases e : j = v + 1
        · subst e
          rw [mx_eq]
          exact s2 _ (by omega)
        · rw [mx_nk (by omega)]
          exact s1 j (by omega) h2
      · rw [mx_nk (by omega)]
        exact s2 j (by omega)
/-- a run's new log, and the row's -/
theorem pr_logs (hL : pr_L (σ.2.2 r) (τ.1 5)) (b : Int32) (g8 : σ.1 r 8 = τ.1 5 0) (g21 : σ.1 r 21 = τ.1 0 30) (g22 : σ.1 r 22 = τ.1 0 31) (g23 : σ.1 r 23 = τ.1 0 32) : ∃ τ', oX4_logs τ (σ.1 r 13) b = some τ' ∧ pr_L (ol_lgPut (if σ.2.2 r 0 = 16 then ol_lgDrop (σ.2.2 r) else σ.2.2 r) (ol_lgE σ r b)) (τ'.1 5) ∧ (∀ j, (j < 90 ∨ 187 ≤ j) → τ'.1 5 j = τ.1 5 j) ∧ pm_K τ τ' := by
  obtain ⟨L, l1, l2, l3, l4⟩ := hL
  obtain ⟨s', a1, a2, a3, a4⟩ := pg_L3 (τ := τ) (σ.1 r 13) b 95 (by omega) (by omega) ol_fuel (by unfold ol_fuel; omega) τ (fun j h1 h2 => by omega) (fun _ _ => rfl) pm_K.rf
  have r90 : s'.1 5 90 = nI L := (a3 90 (by omega)).trans l3
  have main : ∀ (s0 : Int32) (L' : Nat) (F : Nat → Int32), s0 = nI L' → L' ≤ 16 → 1 ≤ L' → F 0 = nI (L' - 1) → (∀ i k, 1 ≤ i → i < L' → k < 6 → F (1 + 6 * (L' - 1 - i) + k) = τ.1 5 (91 + 6 * (i - 1) + k)) → ∃ τ', oX4_logs_L68 (σ.1 r 13) b s0 90 s' = some τ' ∧ pr_L (ol_lgPut F (ol_lgE σ r b)) (τ'.1 5) ∧ (∀ j, (j < 90 ∨ 187 ≤ j) → τ'.1 5 j = τ.1 5 j) ∧ pm_K τ τ' := fun s0 L' F hs0 h16 h1 hF0 hF => by
    obtain ⟨τ', b1, b90, b91, b92, b93, b94, b95, b96, b97, bK⟩ := pg_L68 (s := s') (σ.1 r 13) b s0
    refine ⟨τ', b1, ⟨L', h16, ?_, b90.trans hs0, fun i k hi hk => ?_⟩, fun j hj => (b97 j (by omega)).trans (a3 j (by omega)), a4.tr bK⟩
    · show F 0 + 1 = nI L'
      rw [hF0, pl_s]
      exact congrArg nI (by omega)
    · have e0 : (F 0).toNatClampNeg = L' - 1 := by rw [hF0, pl_nn (n := L' - 1) (by omega)]
      show (if 1 + 6 * (L' - 1 - i) + k = 0 then _ else if 1 + 6 * (F 0).toNatClampNeg ≤ 1 + 6 * (L' - 1 - i) + k ∧ 1 + 6 * (L' - 1 - i) + k < 1 + 6 * (F 0).toNatClampNeg + 6 then ol_lgE σ r b (1 + 6 * (L' - 1 - i) + k - (1 + 6 * (F 0).toNatClampNeg)) else F (1 + 6 * (L' - 1 - i) + k)) = _
      rw [if_neg (by omega), e0]
      by_cases hi0 : i = 0
      · subst hi0
        rw [if_pos (by omega), show 1 + 6 * (L' - 1 - 0) + k - (1 + 6 * (L' - 1)) = k by omega, show 91 + 6 * 0 + k = 91 + k by omega]
        match k, hk with
        | 0, _ => exact g8.trans ((a3 0 (by omega)).symm.trans b91.symm)
        | 1, _ => exact b92.symm
        | 2, _ => exact g22.trans ((a4.1 0 31 (by omega)).symm.trans b93.symm)
        | 3, _ => exact g23.trans ((a4.1 0 32 (by omega)).symm.trans b94.symm)
        | 4, _ => exact b95.symm
        | 5, _ => exact g21.trans ((a4.1 0 30 (by omega)).symm.trans b96.symm)
      · rw [if_neg (by omega), hF i k (by omega) hi hk, b97 _ (by omega), show 91 + 6 * i + k = 91 + (6 * i + k) by omega, a2 (6 * i + k) (by omega) (by omega)]
        exact congrArg (τ.1 5) (by omega)
  unfold oX4_logs
  rw [show (95 : Int32) = nI 95 from rfl, a1, r90, l2]
  by_cases h : L = 16
  · subst h
    rw [if_pos (show nI 16 = 16 from rfl), if_pos (show nI 16 = 16 from rfl)]
    refine main 16 16 _ rfl (by omega) (by omega) ?_ fun i k h1 hi hk => ?_
    · show σ.2.2 r 0 - 1 = _
      rw [l2]
      exact pl_d1 (by omega)
    · show (if 1 + 6 * (16 - 1 - i) + k = 0 then _ else σ.2.2 r (1 + 6 * (16 - 1 - i) + k + 6)) = _
      rw [if_neg (by omega), show 1 + 6 * (16 - 1 - i) + k + 6 = 1 + 6 * (16 - 1 - (i - 1)) + k by omega]
      exact l4 (i - 1) k (by omega) hk
  · have hn : ¬ nI L = 16 := fun q => h ((pl_eq (b := 16) (by omega) (by omega)).mp q)
    rw [if_neg hn, if_neg hn, pl_s]
    refine main (nI (L + 1)) (L + 1) _ rfl (by omega) (by omega) l2 fun i k h1 hi hk => ?_
    rw [show 1 + 6 * (L + 1 - 1 - i) + k = 1 + 6 * (L - 1 - (i - 1)) + k by omega]
    exact l4 (i - 1) k (by omega) hk
end PLG
