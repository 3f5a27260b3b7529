/-! CALLS, II: how the run stands -/
set_option maxRecDepth 100000
section PC2
variable {K : Nat} {B : ol_Bp} {β : ol_Bd} {bp r T U H : Nat} {wt : Nat → Option Nat} {σ σ' σ'' : ol_Xm} {τ τ' τ'' : ol_Mm} {ρ : Nat → Int32}
theorem pz_told (hB : pb_ok B) (hX : pb_X B β) (hM : pb_M B (τ.1 2)) (hR : pr_R B bp r T U wt σ (τ.1 5)) {k : Nat} (hk : k ≤ 10) : ∃ z, oX3_is σ β bp r (nI k) = some z ∧ oX4_told τ (nI k) = some z := by
  have e := hR.1.1
  have c : k = 0 ∨ k = 1 ∨ k = 2 ∨ k = 3 ∨ k = 4 ∨ k = 5 ∨ k = 6 ∨ k = 7 ∨ k = 8 ∨ k = 9 ∨ k = 10 := by omega
  rcases c with q | q | q | q | q | q | q | q | q | q | q <;> subst q
  · exact ⟨σ.1 r 9, rfl, congrArg some (e 1 (by omega)).symm⟩
  · exact ⟨σ.1 r 10, rfl, congrArg some (e 2 (by omega)).symm⟩
  · exact ⟨σ.1 r 11, rfl, congrArg some (e 3 (by omega)).symm⟩
  · exact ⟨σ.1 r 12, rfl, congrArg some (e 4 (by omega)).symm⟩
  · exact ⟨σ.1 r 13, rfl, congrArg some (e 5 (by omega)).symm⟩
  · refine ⟨pr_ask (pb_n B) (τ.1 5), ?_, ?_⟩
    · show (oX3_asking σ β bp r).bind _ = _
      rw [pr_askX hB hX hR]
      rfl
    · show (oX4_askingOnes τ).bind _ = _
      rw [pr_askM hB hM]
      rfl
  · exact ⟨σ.1 r 14, rfl, congrArg some (e 6 (by omega)).symm⟩
  · exact ⟨σ.1 r 15, rfl, congrArg some (e 7 (by omega)).symm⟩
  · exact ⟨σ.1 r 16, rfl, congrArg some (e 8 (by omega)).symm⟩
  · exact ⟨σ.1 r 17, rfl, congrArg some (e 9 (by omega)).symm⟩
  · exact ⟨σ.1 r 18, rfl, congrArg some (e 10 (by omega)).symm⟩
theorem pz_isWhat (x : Int32) : (∃ k, k ≤ 10 ∧ x = nI k ∧ oX1_isWhat x = some 1 ∧ oX4_in x 0 10 = some 1) ∨ (oX1_isWhat x = some 0 ∧ oX4_in x 0 10 = some 0) := by
  unfold oX1_isWhat
  rcases pz_rng0 x 10 (by omega) with ⟨k, k1, k2, k3, k4⟩ | ⟨-, k3, k4⟩
  · rw [show oX1_isIn x 0 10 = some 1 from k3]
    exact Or.inl ⟨k, k1, k2, rfl, k4⟩
  · rw [show oX1_isIn x 0 10 = some 0 from k3]
    exact Or.inr ⟨rfl, k4⟩
theorem pz_mR (w : Int32) : (pz_m τ w).1 5 = τ.1 5 := funext fun k => pz_m5 w 5 k (by decide)
theorem pz_mB (w : Int32) : (pz_m τ w).1 2 = τ.1 2 := funext fun k => pz_m5 w 2 k (by decide)
theorem pz_now (h : pz_1 K B β bp T U H wt σ τ) (x1 : Int32) : pz_E (K + 1) B β bp (oX1_now σ β bp x1) (oX4_now τ x1) := by
  obtain ⟨hB, hX, hM⟩ := h.2.1
  rcases pz_isWhat x1 with ⟨k, k1, k2, x, m⟩ | ⟨x, m⟩
  · obtain ⟨z, z1, z2⟩ := pz_told (τ := pz_m τ 0) hB hX (by rw [pz_mB]; exact hM) (by rw [pz_mR]; exact h.2.2.2.1) k1
    have em : oX4_now τ x1 = some (z, pz_m τ 0) := by
      unfold oX4_now oX4_now_L23
      rw [h.1.2.1, m, if_neg (by decide), Option.bind_some, if_neg (by decide), pz_unl1, Option.bind_some, pz_ref0, Option.bind_some, if_pos rfl, k2, z2, Option.bind_some]
    have ex : oX1_now σ β bp x1 = some (z, pz_x σ 0) := by
      unfold oX1_now
      rw [x, Option.bind_some, if_neg (by decide), k2, z1]
      rfl
    rw [em, ex]
    exact pz_yes0 h z
  · have em : oX4_now τ x1 = some (-1, pz_m τ 1) := by
      unfold oX4_now oX4_now_L23
      rw [h.1.2.1, m, if_neg (by decide), Option.bind_some, if_pos rfl, pz_unl0, Option.bind_some, pz_ref1 (by decide), Option.bind_some, if_neg pz_10]
    have ex : oX1_now σ β bp x1 = some (-1, pz_x σ 1) := by
      unfold oX1_now
      rw [x]
      rfl
    rw [em, ex]
    exact pz_no h (by decide)
theorem pz_ledger (h : pz_1 K B β bp T U H wt σ τ) (x1 x2 : Int32) : pz_E (K + 1) B β bp (oX1_ledger σ β bp x1 x2) (oX4_ledger τ x1 x2) := by
  rcases pz_brd h x1 with ⟨b, bn, b6, e, x, m⟩ | ⟨-, x, m⟩
  · rcases pz_rng0 x2 5 (by omega) with ⟨k, k1, k2, k5, k4⟩ | ⟨k1, k5, k3⟩
    · have k4 : oX4_in x2 0 5 = some 1 := k4
      have k5 : oX1_isIn x2 0 5 = some 1 := k5
      have eM : oX4_at x1 (6 + x2) = some (nI (18 + 12 * b + (6 + k))) := by
        rw [e, k2, pl_l6, pl_add]
        exact pw_at b6 (by omega)
      have em : oX4_ledger τ x1 x2 = some (τ.1 5 (18 + 12 * b + (6 + k)), pz_m τ 0) := by
        unfold oX4_ledger oX4_ledger_L23
        rw [m, k4, Option.bind_some, if_neg (by decide), Option.bind_some, if_neg (by decide), pz_unl1, Option.bind_some, pz_ref0, Option.bind_some, if_pos rfl, eM, Option.bind_some, pl_in (n := 251) (by omega) (by omega), pl_ogt, pl_nn (by omega), pz_m5 0 5 _ (by decide)]
      have ex : oX1_ledger σ β bp x1 x2 = some (σ.1 17 (6 * b + k), pz_x σ 0) := by
        unfold oX1_ledger
        rw [x, Option.bind_some, if_neg (by decide), k5, Option.bind_some, if_neg (by decide), e, k2, pl_l6, pl_mul, pl_add, pl_in (n := 36) (by omega) (by omega), pl_ogt, pl_nn (by omega)]
        rfl
      have e5 : σ.1 17 (6 * b + k) = τ.1 5 (18 + 12 * b + (6 + k)) := by
        rw [show 18 + 12 * b + (6 + k) = 18 + 12 * b + 6 + k by omega]
        exact (h.2.2.2.1.1.2.2 b b6).2.2.2.2 k (by omega)
      rw [em, ex, e5]
      exact pz_yes0 h _
    · have k3 : oX4_in x2 0 5 = some 0 := k3
      have k5 : oX1_isIn x2 0 5 = some 0 := k5
      have em : oX4_ledger τ x1 x2 = some (-1, pz_m τ 1) := by
        unfold oX4_ledger oX4_ledger_L23
        rw [m, k3, Option.bind_some, if_neg (by decide), Option.bind_some, if_pos rfl, pz_unl0, Option.bind_some, pz_ref1 (by decide), Option.bind_some, if_neg pz_10]
      have ex : oX1_ledger σ β bp x1 x2 = some (-1, pz_x σ 1) := by
        unfold oX1_ledger
        rw [x, Option.bind_some, if_neg (by decide), k5]
        rfl
      rw [em, ex]
      exact pz_no h (by decide)
  · have em : oX4_ledger τ x1 x2 = some (-1, pz_m τ 1) := by
      unfold oX4_ledger oX4_ledger_L23
      rw [m, Option.bind_some, if_pos rfl, pz_unl0, Option.bind_some, pz_ref1 (by decide), Option.bind_some, if_neg pz_10]
    have ex : oX1_ledger σ β bp x1 x2 = some (-1, pz_x σ 1) := by
      unfold oX1_ledger
      rw [x]
      rfl
    rw [em, ex]
    exact pz_no h (by decide)
/-- who was master v ticks ago -/
theorem pz_ago (hP : pr_P r T σ ρ) (hN : pr_N r T σ ρ) {v : Nat} (hv : v < T) (h64 : v < 64) : σ.1 (r + 8) ((T - v) % 64) = ρ (187 + (T - v) % 64) := by
  by_cases h0 : v = 0
  · subst h0
    exact hN (by omega)
  · exact hP _ (by omega) (by omega)
theorem pz_past (h : pz_1 K B β bp T U H wt σ τ) (hK : K ≤ 24) (x1 : Int32) : pz_E (K + 1) B β bp (oX1_past σ β bp x1) (oX4_past τ x1) := by
  have hT := (pz_Tb h hK).1
  obtain ⟨hE, hI, hL, hP, hW, -⟩ := h.2.2.2.1
  have hN := h.2.2.2.2.1
  have s8 : σ.1 10 8 = nI T := (hE.1 0 (by omega)).trans hI.1
  rcases pz_rng0 x1 63 (by omega) with ⟨k, k1, k2, k5, k4⟩ | ⟨k1, k5, k3⟩
  · have k4 : oX4_in x1 0 63 = some 1 := k4
    have k5 : oX1_isIn x1 0 63 = some 1 := k5
    by_cases hk : k < T
    · have em : oX4_past τ x1 = some (τ.1 5 (187 + (T - k) % 64), pz_m τ 0) := by
        unfold oX4_past oX4_past_L27
        rw [h.1.2.1, k4, if_neg (by decide), Option.bind_some, if_neg (by decide), pz_ref0, Option.bind_some, if_pos rfl, pz_m5 0 5 0 (by decide), hI.1, k2, if_neg (fun q => by have := (pl_le (by omega) (by omega)).mp q; omega), pl_sub (by omega), pl_mod64 (by omega), show (187 : Int32) = nI 187 from rfl, pl_add, pl_in (n := 251) (by omega) (by omega), pl_ogt, pl_nn (by omega), pz_m5 0 5 _ (by decide)]
      have ex : oX1_past σ β bp x1 = some (σ.1 18 ((T - k) % 64), pz_x σ 0) := by
        unfold oX1_past oX3_past
        rw [k5, Option.bind_some, if_neg (by decide), s8, k2, if_pos ((pl_lt (by omega) (by omega)).mpr hk), pl_sub (by omega), pl_mod64 (by omega), pl_in (n := 64) (by omega) (by omega), pl_ogt, pl_nn (by omega)]
        rfl
      rw [em, ex, show σ.1 18 ((T - k) % 64) = _ from pz_ago hP hN hk (by omega)]
      exact pz_yes0 h _
    · have em : oX4_past τ x1 = some (-2, pz_m τ 0) := by
        unfold oX4_past oX4_past_L27
        rw [h.1.2.1, k4, if_neg (by decide), Option.bind_some, if_neg (by decide), pz_ref0, Option.bind_some, if_pos rfl, pz_m5 0 5 0 (by decide), hI.1, k2, if_pos ((pl_le (by omega) (by omega)).mpr (by omega))]
      have ex : oX1_past σ β bp x1 = some (-2, pz_x σ 0) := by
        unfold oX1_past oX3_past
        rw [k5, Option.bind_some, if_neg (by decide), s8, k2, if_neg (fun q => hk ((pl_lt (by omega) (by omega)).mp q))]
        rfl
      rw [em, ex]
      exact pz_yes0 h _
  · have k3 : oX4_in x1 0 63 = some 0 := k3
    have k5 : oX1_isIn x1 0 63 = some 0 := k5
    have em : oX4_past τ x1 = some (-1, pz_m τ 2) := by
      unfold oX4_past oX4_past_L27
      rw [h.1.2.1, k3, if_neg (by decide), Option.bind_some, if_pos rfl, pz_ref1 (by decide), Option.bind_some, if_neg pz_10]
    have ex : oX1_past σ β bp x1 = some (-1, pz_x σ 2) := by
      unfold oX1_past
      rw [k5]
      rfl
    rw [em, ex]
    exact pz_no h (by decide)
theorem pz_idle (h : pz_1 K B β bp T U H wt σ τ) (hK : K ≤ 24) : pz_E (K + 1) B β bp (oX1_idle σ β bp) (oX4_idle τ) := by
  have hT := (pz_Tb h hK).1
  obtain ⟨hE, hI, hL, hP, hW, -⟩ := h.2.2.2.1
  have hN := h.2.2.2.2.1
  have s8 : σ.1 10 8 = nI T := (hE.1 0 (by omega)).trans hI.1
  have hN64 : (if T < 64 then T else 64) ≤ 64 := by split <;> omega
  have loop : ∃ z, oX3_idle_L4 σ 10 ol_fuel 0 0 = some z ∧ oX4_idle_L20 ol_fuel 0 0 (pz_m τ 0) = some (z, pz_m τ 0) := by
    refine pl_for (fun n v (c : Int32) => (oX3_idle_L4 σ 10 n c v, oX4_idle_L20 n c v (pz_m τ 0))) (if T < 64 then T else 64) (fun _ _ => True) (fun p => ∃ z, p.1 = some z ∧ p.2 = some (z, pz_m τ 0)) (fun n k c hk _ ih => ?_) ol_fuel 0 0 (Nat.zero_le _) (by have := hN64; unfold ol_fuel; omega) trivial
    show ∃ z, oX3_idle_L4 σ 10 (n + 1) c (nI k) = some z ∧ oX4_idle_L20 (n + 1) c (nI k) (pz_m τ 0) = some (z, pz_m τ 0)
    have h64 : (if nI T < 64 then nI T else 64) = nI (if T < 64 then T else 64) := by
      by_cases q : T < 64
      · rw [if_pos q, if_pos (show nI T < 64 from (pl_lt (b := 64) (by omega) (by omega)).mpr q)]
      · rw [if_neg q, if_neg (show ¬ nI T < 64 from fun q' => q ((pl_lt (b := 64) (by omega) (by omega)).mp q'))]
        rfl
    rw [oX3_idle_L4, oX4_idle_L20, s8, h64, pz_m5 0 5 0 (by decide), hI.1]
    generalize hN0 : (if T < 64 then T else 64) = N at hk ih
    by_cases hkN : k < N
    · have c1 : k < T ∧ k < 64 := by
        rw [← hN0] at hkN
        by_cases q : T < 64
        · rw [if_pos q] at hkN
          omega
        · rw [if_neg q] at hkN
          omega
      have cN : N ≤ 64 := by
        rw [← hN0]
        by_cases q : T < 64
        · rw [if_pos q]
          omega
        · rw [if_neg q]
          omega
      rw [if_neg (fun q => by have := (pl_le (by omega) (by omega)).mp q; omega), if_neg (show ¬ (64 : Int32) ≤ nI k from fun q => by have := (pl_le (a := 64) (by omega) (by omega)).mp q; omega), if_neg (fun q => by have := (pl_le (by omega) (by omega)).mp q; omega)]
      unfold oX3_past
      rw [s8, if_pos ((pl_lt (by omega) (by omega)).mpr c1.1), pl_sub (by omega), show (nI (T - k) - nI (T - k) / 64 * 64) = nI ((T - k) % 64) from pl_mod64 (by omega), pl_in (i := (T - k) % 64) (n := 64) (by omega) (by omega), pl_ogt, pl_nn (n := (T - k) % 64) (by omega), Option.bind_some, show (187 : Int32) = nI 187 from rfl, pl_add, pl_in (i := 187 + (T - k) % 64) (n := 251) (by omega) (by omega), pl_ogt, pl_nn (n := 187 + (T - k) % 64) (by omega), pz_m5 0 5 _ (by decide), pz_ago hP hN c1.1 c1.2, pl_s, Int32.add_zero]
      by_cases e : τ.1 5 (187 + (T - k) % 64) = -2
      · rw [if_pos e, if_pos e]
        exact ih hkN _ trivial
      · rw [if_neg e, if_neg e]
        exact ih hkN _ trivial
    · have e : k = N := by omega
      rw [if_pos (by rw [e]; exact Int32.le_refl _)]
      refine ⟨c, rfl, ?_⟩
      by_cases q : (64 : Int32) ≤ nI k
      · rw [if_pos q]
      · rw [if_neg q]
        refine if_pos ((pl_le (by omega) ?_).mpr ?_)
        · rw [e, ← hN0]
          by_cases q : T < 64
          · rw [if_pos q]
            omega
          · rw [if_neg q]
            omega
        · rw [e, ← hN0]
          by_cases q2 : T < 64
          · rw [if_pos q2]
            omega
          · rw [e, ← hN0, if_neg q2] at q
            exact absurd (Int32.le_refl _) q
  obtain ⟨z, z1, z2⟩ := loop
  have em : oX4_idle τ = some (z, pz_m τ 0) := by
    unfold oX4_idle
    rw [h.1.2.1, pz_unl1, Option.bind_some, pz_ref0, Option.bind_some, if_pos rfl, z2]
  have ex : oX1_idle σ β bp = some (z, pz_x σ 0) := by
    unfold oX1_idle oX3_idle
    rw [z1]
    rfl
  rw [em, ex]
  exact pz_yes0 h _
end PC2
