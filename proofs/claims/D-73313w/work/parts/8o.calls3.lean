/-! CALLS, III: the log, who waits, who asks the longest -/
set_option maxRecDepth 100000
section PC3
variable {K : Nat} {B : ol_Bp} {β : ol_Bd} {bp r T U H : Nat} {wt : Nat → Option Nat} {σ σ' σ'' : ol_Xm} {τ τ' τ'' : ol_Mm} {ρ : Nat → Int32}
theorem pz_relog {s y : ol_Xm} (h : y.2.2 = s.2.2) : ol_relog s y = y := pr_relog h
theorem pz_log (h : pz_1 K B β bp T U H wt σ τ) (x1 x2 : Int32) : pz_E (K + 1) B β bp (oX1_log σ β x1 x2) (oX4_log τ x1 x2) := by
  obtain ⟨L, l1, l2, l3, l4⟩ := h.2.2.2.1.2.2.1
  have out : oX1_isIn x1 0 (nI L - 1) = some 0 → oX4_in x1 0 (nI L - 1) = some 0 → pz_E (K + 1) B β bp (oX1_log σ β x1 x2) (oX4_log τ x1 x2) := fun x m => by
    have em : oX4_log τ x1 x2 = some (-1, pz_m τ 1) := by
      unfold oX4_log oX4_log_L39
      rw [h.1.2.1, l3, m, if_neg (by decide), Option.bind_some, if_pos rfl, pz_unl0, Option.bind_some, pz_ref1 (by decide), Option.bind_some, if_neg pz_10]
    have ex : oX1_log σ β x1 x2 = some (-1, pz_x σ 1) := by
      unfold oX1_log
      rw [l2, x]
      rfl
    rw [em, ex]
    exact pz_no h (by decide)
  by_cases hL : L = 0
  · subst hL
    obtain ⟨e1, e2⟩ := pz_isIn x1 0 (nI 0 - 1)
    have ez : (if x1 < 0 then (0 : Int32) else if nI 0 - 1 < x1 then 0 else 1) = 0 := by
      by_cases q : x1 < 0
      · rw [if_pos q]
      · have g : nI 0 - 1 < x1 := by
          have := Int32.le_iff_toInt_le.mp (Int32.not_lt.mp q)
          apply Int32.lt_iff_toInt_lt.mpr
          have e1 : (nI 0 - 1).toInt = -1 := by decide
          have e2 : (0 : Int32).toInt = 0 := by decide
          omega
        rw [if_neg q, if_pos g]
    rw [ez] at e1 e2
    exact out e1 e2
  · have eL : nI L - 1 = nI (L - 1) := pl_d1 (by omega)
    rw [eL] at out
    rcases pz_rng0 x1 (L - 1) (by omega) with ⟨i, i1, i2, i5, i4⟩ | ⟨-, k5, k3⟩
    · have eI : nI (L - 1) - nI i = nI (L - 1 - i) := pl_sub i1
      have il : ol_il σ.2.2 10 (nI (L - 1 - i)) = true := by
        unfold ol_il
        rw [l2, pl_int (by omega), pl_int (by omega), decide_eq_true (by omega), decide_eq_true (by omega)]
        rfl
      rcases pz_rng0 x2 5 (by omega) with ⟨k, k1, k2, -, k4⟩ | ⟨k1, -, k3⟩
      · have k4 : oX4_in x2 0 5 = some 1 := k4
        have em : oX4_log τ x1 x2 = some (τ.1 5 (91 + 6 * i + k), pz_m τ 0) := by
          unfold oX4_log oX4_log_L39
          rw [h.1.2.1, l3, eL, i4, k4, if_neg (by decide), Option.bind_some, if_neg (by decide), Option.bind_some, if_neg (by decide), pz_unl1, Option.bind_some, pz_ref0, Option.bind_some, if_pos rfl, i2, k2, pl_l6, show (91 : Int32) = nI 91 from rfl, pl_mul, pl_add, pl_add, pl_in (n := 251) (by omega) (by omega), pl_ogt, pl_nn (by omega), pz_m5 0 5 _ (by decide)]
        have ex : oX1_log σ β x1 x2 = some (σ.2.2 10 (1 + 6 * (L - 1 - i) + k), pz_x σ 0) := by
          unfold oX1_log
          rw [l2, eL, i5, Option.bind_some, if_neg (by decide), i2, eI, il, pl_ogt, pl_nn (n := L - 1 - i) (by omega)]
          have c : k = 0 ∨ k = 1 ∨ k = 2 ∨ k = 3 ∨ k = 4 ∨ k = 5 := by omega
          rcases c with q | q | q | q | q | q <;> subst q <;> subst k2 <;> rfl
        rw [em, ex, l4 i k (by omega) (by omega)]
        exact pz_yes0 h _
      · have k3 : oX4_in x2 0 5 = some 0 := k3
        have em : oX4_log τ x1 x2 = some (-1, pz_m τ 1) := by
          unfold oX4_log oX4_log_L39
          rw [h.1.2.1, l3, eL, i4, k3, if_neg (by decide), Option.bind_some, if_neg (by decide), Option.bind_some, if_pos rfl, pz_unl0, Option.bind_some, pz_ref1 (by decide), Option.bind_some, if_neg pz_10]
        have ex : oX1_log σ β x1 x2 = some (-1, pz_x σ 1) := by
          unfold oX1_log
          rw [l2, eL, i5, Option.bind_some, if_neg (by decide), i2, eI, il, pl_ogt, if_neg (show ¬ x2 = 0 from k1 0 (by omega)), if_neg (show ¬ x2 = 1 from k1 1 (by omega)), if_neg (show ¬ x2 = 2 from k1 2 (by omega)), if_neg (show ¬ x2 = 3 from k1 3 (by omega)), if_neg (show ¬ x2 = 4 from k1 4 (by omega)), if_neg (show ¬ x2 = 5 from k1 5 (by omega))]
          rfl
        rw [em, ex]
        exact pz_no h (by decide)
    · exact out k5 k3
theorem pz_waiting (h : pz_1 K B β bp T U H wt σ τ) (hK : K ≤ 24) (x1 : Int32) : pz_E (K + 1) B β bp (oX1_waiting σ β bp x1) (oX4_waiting τ x1) := by
  obtain ⟨hh, hH⟩ := h.2.2.1
  have hF := pz_H h hK
  obtain ⟨w1, w2, w3⟩ := pz_XM h
  have h6 := h.2.1.1.1.1.2
  rcases pz_brd h x1 with ⟨b, bn, b6, e, x, m⟩ | ⟨-, x, m⟩
  · have loop : ∃ z, oX3_waiting_L4 σ β bp 10 (nI b) ol_fuel 0 0 = some z ∧ oX4_waiting_L21 (nI b) ol_fuel 0 0 (pz_m τ 0) = some (z, pz_m τ 0) := by
      refine pl_for (fun n v (c : Int32) => (oX3_waiting_L4 σ β bp 10 (nI b) n c v, oX4_waiting_L21 (nI b) n c v (pz_m τ 0))) (pb_n B) (fun _ _ => True) (fun p => ∃ z, p.1 = some z ∧ p.2 = some (z, pz_m τ 0)) (fun n k c hk _ ih => ?_) ol_fuel 0 0 (by omega) (by unfold ol_fuel; omega) trivial
      show ∃ z, oX3_waiting_L4 σ β bp 10 (nI b) (n + 1) c (nI k) = some z ∧ oX4_waiting_L21 (nI b) (n + 1) c (nI k) (pz_m τ 0) = some (z, pz_m τ 0)
      rw [oX3_waiting_L4, oX4_waiting_L21, w1.1.1, pl_dd, pl_ogt, w1.1.2.1, (pz_mM 0 w2).1.1, pl_s, Int32.or_zero]
      by_cases hkn : k < pb_n B
      · have hc : ¬ nI (pb_n B) ≤ nI k := fun q => by
          have := (pl_le (by omega) (by omega)).mp q
          omega
        rw [if_neg hc, if_neg hc, pw_waitsX w1 hH hF hkn b6, Option.bind_some]
        by_cases ekb : k = b
        · subst ekb
          rw [pw_self hH hkn, cond_false, if_pos rfl, if_pos rfl]
          exact ih hkn _ trivial
        · rw [if_neg (fun q => ekb ((pl_eq (by omega) (by omega)).mp q)), pw_waitsM (pz_mM 0 w2) hH hF hkn b6, Option.bind_some, decide_eq_false ekb, Bool.false_or]
          cases sp_wf wt H k b with
          | true =>
            rw [cond_true, if_neg (by decide), if_neg (by decide)]
            exact ih hkn _ trivial
          | false =>
            rw [cond_false, if_pos rfl, if_pos rfl]
            exact ih hkn _ trivial
      · have e : k = pb_n B := by omega
        subst e
        rw [if_pos (Int32.le_refl _), if_pos (Int32.le_refl _)]
        exact ⟨c, rfl, rfl⟩
    obtain ⟨z, z1, z2⟩ := loop
    have em : oX4_waiting τ x1 = some (z, pz_m τ 0) := by
      unfold oX4_waiting
      rw [m, Option.bind_some, pz_unl1, Option.bind_some, pz_ref0, Option.bind_some, if_pos rfl, e, z2]
    have ex : oX1_waiting σ β bp x1 = some (z, pz_x σ 0) := by
      unfold oX1_waiting oX3_waiting
      rw [x, Option.bind_some, if_neg (by decide), e, z1]
      rfl
    rw [em, ex]
    exact pz_yes0 h _
  · have em : oX4_waiting τ x1 = some (-1, pz_m τ 1) := by
      unfold oX4_waiting
      rw [m, Option.bind_some, pz_unl0, Option.bind_some, pz_ref1 (by decide), Option.bind_some, if_neg pz_10]
    have ex : oX1_waiting σ β bp x1 = some (-1, pz_x σ 1) := by
      unfold oX1_waiting
      rw [x]
      rfl
    rw [em, ex]
    exact pz_no h (by decide)
theorem pz_longest (h : pz_1 K B β bp T U H wt σ τ) (hK : K ≤ 24) : pz_E (K + 1) B β bp (oX1_longest σ β bp) (oX4_longest τ) := by
  have hT := (pz_Tb h hK).1
  obtain ⟨w1, w2, w3⟩ := pz_XM h
  obtain ⟨hB, hX, hM⟩ := h.2.1
  have h6 := hB.1.1.2
  obtain ⟨hE, hI, -⟩ := h.2.2.2.1
  have loop : ∃ z, oX3_longest_L5 σ β bp 10 ol_fuel (-2) 0 = some z ∧ oX4_longest_L21 ol_fuel (-2) 0 (pz_m τ 0) = some (z, pz_m τ 0) := by
    refine pl_for (fun n v (c : Int32) => (oX3_longest_L5 σ β bp 10 n c v, oX4_longest_L21 n c v (pz_m τ 0))) (pb_n B) (fun k c => ∃ o : Option Nat, c = pl_en o ∧ ∀ j, o = some j → j < k) (fun p => ∃ z, p.1 = some z ∧ p.2 = some (z, pz_m τ 0)) (fun n k c hk hs ih => ?_) ol_fuel 0 (-2) (by omega) (by unfold ol_fuel; omega) ⟨none, rfl, fun j q => by cases q⟩
    show ∃ z, oX3_longest_L5 σ β bp 10 (n + 1) c (nI k) = some z ∧ oX4_longest_L21 (n + 1) c (nI k) (pz_m τ 0) = some (z, pz_m τ 0)
    obtain ⟨o, o1, o2⟩ := hs
    rw [oX3_longest_L5, oX4_longest_L21, w1.1.1, pl_dd, pl_ogt, w1.1.2.1, (pz_mM 0 w2).1.1, pl_s]
    by_cases hkn : k < pb_n B
    · have hc : ¬ nI (pb_n B) ≤ nI k := fun q => by
        have := (pl_le (by omega) (by omega)).mp q
        omega
      have k6 : k < 6 := by omega
      obtain ⟨e1, e2, -⟩ := hE.2.2 k k6
      obtain ⟨g1, g2, g3⟩ := pz_b k 0 k6 (by omega)
      rw [if_neg hc, if_neg hc, pl_in (i := k) (n := 6) k6 (by omega), pl_ogt, pl_nn (n := k) (by omega), show oX4_at (nI k) 0 = _ from g1, Option.bind_some, g2, pl_ogt, g3, pz_m5 0 5 _ (by decide), e1]
      show ∃ z, (if τ.1 5 (18 + 12 * k) = 0 then _ else _) = _ ∧ (if τ.1 5 (18 + 12 * k) = 0 then _ else _) = _
      have ihk : ∃ z, oX3_longest_L5 σ β bp 10 n (nI k) (nI (k + 1)) = some z ∧ oX4_longest_L21 n (nI k) (nI (k + 1)) (pz_m τ 0) = some (z, pz_m τ 0) := ih hkn (nI k) ⟨some k, rfl, fun j q => by cases q; omega⟩
      have ihc : ∃ z, oX3_longest_L5 σ β bp 10 n c (nI (k + 1)) = some z ∧ oX4_longest_L21 n c (nI (k + 1)) (pz_m τ 0) = some (z, pz_m τ 0) := ih hkn c ⟨o, o1, fun j q => Nat.lt_succ_of_lt (o2 j q)⟩
      by_cases h0 : τ.1 5 (18 + 12 * k) = 0
      · rw [if_pos h0, if_pos h0]
        exact ihc
      · rw [if_neg h0, if_neg h0]
        unfold oX3_longest_L49 oX4_longest_L78
        cases o with
        | none =>
          rw [o1, show pl_en none = -2 from rfl, if_pos rfl, if_pos rfl, if_pos rfl, if_pos (by decide), pl_s]
          exact ihk
        | some j =>
          have jk := o2 j rfl
          have j6 : j < 6 := by omega
          rw [o1, show pl_en (some j) = nI j from rfl] at ihc ⊢
          obtain ⟨-, f2, -⟩ := hE.2.2 j j6
          obtain ⟨⟨s1, s1T, s1e⟩, -⟩ := hI.2.2.2.2.2.1 j j6
          obtain ⟨⟨s2, s2T, s2e⟩, -⟩ := hI.2.2.2.2.2.1 k k6
          obtain ⟨p1, p2, p3⟩ := pz_b j 1 j6 (by omega)
          obtain ⟨q1, q2, q3⟩ := pz_b k 1 k6 (by omega)
          rw [if_neg (pl_n2 j j6), if_neg (pl_n2 j j6), if_neg (pl_n2 j j6), pl_in (i := k) (n := 6) k6 (by omega), pl_in (i := j) (n := 6) j6 (by omega), pl_nn (n := j) (by omega), pl_nn (n := k) (by omega), show oX4_at (nI j) 1 = _ from p1, show oX4_at (nI k) 1 = _ from q1]
          simp only [pl_ogt, Option.bind_some]
          rw [p2, q2]
          simp only [pl_ogt]
          rw [p3, q3, pz_m5 0 5 _ (by decide), pz_m5 0 5 _ (by decide), e2, f2, s1e, s2e, w1.1.1, pl_dd, pw_ib w1 hkn, pw_ib w1 (show j < pb_n B by omega)]
          simp only [pl_ogt]
          rw [(hX.2.1 j (by omega)).2.1, (hX.2.1 k hkn).2.1, show (5 : Int32) = nI 5 from rfl, pl_add, pl_add, pl_in (i := 5 + k) (n := 59) (by omega) (by omega), pl_in (i := 5 + j) (n := 59) (by omega) (by omega)]
          simp only [pl_ogt]
          rw [pl_nn (n := 5 + j) (by omega), pl_nn (n := 5 + k) (by omega), pz_m5 0 2 _ (by decide), pz_m5 0 2 _ (by decide), (hM.2.1 j (by omega)).2.1, (hM.2.1 k hkn).2.1, pl_s]
          rcases Nat.lt_trichotomy s2 s1 with c1 | c1 | c1
          · rw [if_pos ((pl_le (by omega) (by omega)).mpr (by omega)), if_pos ((pl_lt (by omega) (by omega)).mpr c1), pl_sub (by omega), if_pos (show 0 < nI (s1 - s2) from (pl_lt (a := 0) (by omega) (by omega)).mpr (by omega))]
            exact ihk
          · subst c1
            rw [if_pos (Int32.le_refl _), if_neg (fun q : nI s2 < nI s2 => Int32.lt_irrefl q), pl_sub (by omega), Nat.sub_self, if_neg (show ¬ (0 : Int32) < nI 0 by decide), if_pos (show nI 0 = 0 from rfl)]
            by_cases q : nI (pb_sl B j) ≤ nI (pb_sl B k)
            · rw [if_pos q, if_pos q]
              exact ihc
            · rw [if_neg q, if_neg q]
              exact ihk
          · have neg : (nI s1 - nI s2).toInt < 0 := by
              rw [Int32.toInt_sub, pl_int (by omega), pl_int (by omega), Int.bmod_eq_of_le (by omega) (by omega)]
              omega
            have z0 : (0 : Int32).toInt = 0 := by decide
            rw [if_neg (fun q => by have := (pl_le (by omega) (by omega)).mp q; omega), if_neg (fun q => by have := Int32.lt_iff_toInt_lt.mp q; omega), if_neg (fun q => by rw [q, z0] at neg; omega)]
            exact ihc
    · have e : k = pb_n B := by omega
      subst e
      rw [if_pos (Int32.le_refl _), if_pos (Int32.le_refl _)]
      exact ⟨c, rfl, rfl⟩
  obtain ⟨z, z1, z2⟩ := loop
  have em : oX4_longest τ = some (z, pz_m τ 0) := by
    unfold oX4_longest
    rw [h.1.2.1, pz_unl1, Option.bind_some, pz_ref0, Option.bind_some, if_pos rfl, z2]
  have ex : oX1_longest σ β bp = some (z, pz_x σ 0) := by
    unfold oX1_longest oX3_longest
    rw [z1]
    rfl
  rw [em, ex]
  exact pz_yes0 h _
end PC3
