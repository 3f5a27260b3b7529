/-! CALLS, IV: what changes the run -/
set_option maxRecDepth 100000
section PC4
variable {K : Nat} {B : ol_Bp} {β : ol_Bd} {bp r T U H T' U' H' : Nat} {wt wt' : Nat → Option Nat} {σ σ' σ'' : ol_Xm} {τ τ' τ'' : ol_Mm} {ρ ρ' : Nat → Int32}
theorem pz_C.row (h : pz_C B bp wt H σ ρ) (e1 : ∀ i, i < 6 → ρ' (12 + i) = ρ (12 + i)) (e2 : ∀ b, b < 6 → ρ' (18 + 12 * b + 2) = ρ (18 + 12 * b + 2)) : pz_C B bp wt H σ ρ' := by
  have g1 : pz_ln ρ' = pz_ln ρ := funext fun i => by
    unfold pz_ln
    by_cases q : i < 6
    · rw [if_pos q, if_pos q, e1 i q]
    · rw [if_neg q, if_neg q]
  have g2 : pz_fr ρ' = pz_fr ρ := funext fun b => by
    unfold pz_fr
    by_cases q : b < 6
    · rw [if_pos q, if_pos q, e2 b q]
    · rw [if_neg q, if_neg q]
  unfold pz_C pz_L pz_p pz_w at h ⊢
  rw [g1, g2]
  exact h
/-- the run has changed -/
theorem pz_1.to (h : pz_1 K B β bp T U H wt σ τ) (x1 : ∀ c k, (c = 0 ∧ (k = 4 ∨ k = 5 ∨ k = 10)) ∨ c = 1 ∨ (19 ≤ c ∧ c ≤ 27) → σ'.1 c k = σ.1 c k) (x2 : σ'.2.1 19 = σ.2.1 19) (x3 : σ'.2.2 19 = σ.2.2 19) (m1 : ∀ k, (k = 2 ∨ k = 5 ∨ k = 9 ∨ k = 21) → τ'.1 0 k = τ.1 0 k) (m2 : ∀ c, c = 1 ∨ c = 2 ∨ c = 7 → τ'.1 c = τ.1 c) (bT : T' ≤ 1000 * (K + 1)) (bU : U' ≤ 1000 * (K + 1) + 1) (bH : H' ≤ 2 ^ (K + 1)) (hw : ∃ h, pw_H (pb_n B) wt' h H') (hR : pr_R B bp 10 T' U' wt' σ' (τ'.1 5)) (hN : pr_N 10 T' σ' (τ'.1 5)) (hC : pz_C B bp wt' H' σ' (τ'.1 5)) : pz_1 (K + 1) B β bp T' U' H' wt' σ' τ' := by
  obtain ⟨⟨⟨a1, a2, a3, a4, a5⟩, h9, -⟩, ⟨b1, b2, b3⟩, -, -, -, -, hK⟩ := h
  have p2 : (2 : Nat) ^ (K + 1) = 2 * 2 ^ K := by rw [Nat.pow_succ]; omega
  refine ⟨⟨⟨?_, fun j hj => ?_, ?_, ?_, ?_⟩, (m1 9 (by omega)).trans h9, bT, bU, bH⟩, ⟨b1, b2, by rw [m2 2 (by omega)]; exact b3⟩, hw, hR, hN, hC, fun q => ?_⟩
  · rw [x1 0 4 (by omega), m1 5 (by omega)]
    exact a1
  · rw [x1 1 j (by omega), m2 1 (by omega)]
    exact a2 j hj
  · rw [x1 0 5 (by omega), m1 2 (by omega)]
    exact a3
  · rw [x1 0 10 (by omega), m1 21 (by omega)]
    exact a4
  · rw [m1 21 (by omega)]
    exact a5
  · rw [m1 21 (by omega)] at q
    obtain ⟨T1, U1, H1, wt1, g1, g2, g3, g4⟩ := hK q
    rw [m2 7 (by omega)]
    exact ⟨T1, U1, H1, wt1, by omega, g2, g3.ofX (fun c k g1 g2 _ => x1 c k (by omega)) x2 x3, g4.ofX fun k => x1 _ k (by omega)⟩
theorem pz_xc (w : Int32) (c k : Nat) (h : ¬ (c = 0 ∧ (k = 1 ∨ k = 2))) : (pz_x σ w).1 c k = σ.1 c k := by
  unfold pz_x
  rw [pl_xs, if_neg (fun q => h (by omega)), pl_xs, if_neg (fun q => h (by omega))]
theorem pz_x2 (w : Int32) : (pz_x σ w).2 = σ.2 := rfl
theorem pz_ask (h : pz_1 K B β bp T U H wt σ τ) (x1 x2 : Int32) : pz_E (K + 1) B β bp (oX1_ask σ β bp x1 x2) (oX4_ask τ x1 x2) := by
  obtain ⟨hB, hX, hM⟩ := h.2.1
  have h6 := hB.1.1.2
  rcases pz_brd h x1 with ⟨b, bn, b6, e, x, m⟩ | ⟨-, x, m⟩
  · rcases pz_rng x2 1 99 (by omega) (by omega) with ⟨k, -, -, -, k5, k4⟩ | ⟨-, k5, k3⟩
    · have k4 : oX4_in x2 1 99 = some 1 := k4
      have k5 : oX1_isIn x2 1 99 = some 1 := k5
      obtain ⟨z, s1, t1, a1, a2, a3, a4, a5, a6, a7, a8⟩ := pr_hears (τ := pz_m τ 0) (by rw [pz_mR]; exact h.2.2.2.1) h6 bn x2
      rw [pz_mR] at a8
      have fr : ∀ c, c < 6 → t1.1 5 (18 + 12 * c + 2) = τ.1 5 (18 + 12 * c + 2) := fun c hc => by
        obtain ⟨-, -, f1, -⟩ := a4.1.2.2 c hc
        obtain ⟨-, -, f2, -⟩ := h.2.2.2.1.1.2.2 c hc
        rw [← f1, ← f2]
        exact a5 11 c (by omega) (by omega) (by omega)
      have fin : ∀ (w : Int32) (t2 : ol_Mm), pz_FM t1 t2 → pz_1 (K + 1) B β bp T U H wt (pz_x s1 w) t2 := fun w t2 ht => by
        obtain ⟨c1, c2, c3, c4, c5⟩ := ht
        have k1 := h.1.2.2.1
        have k2 := h.1.2.2.2.1
        have k3 := h.1.2.2.2.2
        have p2 : (2 : Nat) ^ (K + 1) = 2 * 2 ^ K := by rw [Nat.pow_succ]; omega
        refine h.to (fun c k hc => ?_) ?_ ?_ (fun k hk => ?_) (fun c hc => ?_) (by omega) (by omega) (by omega) h.2.2.1 ?_ ?_ ?_
        · rw [pz_xc w c k (by omega)]
          exact a5 c k (by omega) (by omega) (by omega)
        · rw [pz_x2, a6]
        · rw [pz_x2, a6]
        · rw [c1 k hk, a7.1 0 k (by omega)]
          exact pz_mi 0 k (by omega)
        · have e1 : t2.1 c = t1.1 c := by
            rcases hc with q | q | q <;> subst q
            · exact c2
            · exact c3
            · exact c5
          rw [e1]
          exact funext fun k => (a7.1 c k (by omega)).trans (pz_m5 0 c k (by omega))
        · rw [c4]
          exact a4.ofX (fun c k _ _ _ => pz_xc w c k (by omega)) rfl rfl
        · rw [c4]
          intro q
          rw [pz_xc w _ _ (by omega), a5 _ _ (by omega) (by omega) (by omega)]
          rw [a8 _ (by omega)]
          exact h.2.2.2.2.1 q
        · rw [c4]
          refine (h.2.2.2.2.2.1.row (fun i hi => a8 _ (by omega)) fr).ofX (fun c k _ _ => ?_) ?_ ?_ ?_
          · rw [pz_xc w c k (by omega)]
            exact a5 c k (by omega) (by omega) (by omega)
          · rw [pz_xc w 0 11 (by omega)]
            exact a5 0 11 (by omega) (by omega) (by omega)
          · rw [pz_xc w 0 12 (by omega)]
            exact a5 0 12 (by omega) (by omega) (by omega)
          · rw [pz_x2, a6]
      have ezc : z = 0 ∨ z = 1 := a3
      rcases ezc with q | q <;> subst q
      · have em : oX4_ask τ x1 x2 = some (-1, ol_ms t1 0 1 5) := by
          unfold oX4_ask oX4_ask_L28
          rw [m, k4, Option.bind_some, if_neg (by decide), Option.bind_some, if_neg (by decide), pz_ref0, Option.bind_some, if_pos rfl, e, a2, Option.bind_some, if_pos rfl]
          rfl
        have ex : oX1_ask σ β bp x1 x2 = some (-1, pz_x s1 5) := by
          unfold oX1_ask
          rw [x, Option.bind_some, if_neg (by decide), k5, Option.bind_some, if_neg (by decide), e, a1]
          rfl
        rw [em, ex]
        exact ⟨_, _, _, rfl, rfl, pz_xT 5 (by decide) mx_eq, T, U, H, wt, fin 5 _ (pz_FM.rf.w 0 1 5 (by omega))⟩
      · have sX := pr_askX hB hX a4
        have sM := pr_askM (τ := t1) hB (by rw [show t1.1 2 = τ.1 2 from funext fun k => (a7.1 2 k (by omega)).trans (pz_m5 0 2 k (by omega))]; exact hM)
        obtain ⟨k, ek, hk⟩ := pl_sm_lt (pl_m_sm (fun b => b < pb_n B ∧ 0 < t1.1 5 (18 + 12 * b)))
        have ek : pr_ask (pb_n B) (t1.1 5) = nI k := ek
        have em : oX4_ask τ x1 x2 = some (nI (pl_pc k), t1) := by
          unfold oX4_ask oX4_ask_L28
          rw [m, k4, Option.bind_some, if_neg (by decide), Option.bind_some, if_neg (by decide), pz_ref0, Option.bind_some, if_pos rfl, e, a2, Option.bind_some, if_neg pz_10, sM, Option.bind_some, ek, pl_bo hk, Option.bind_some]
        have ex : oX1_ask σ β bp x1 x2 = some (nI (pl_pc k), pz_x s1 0) := by
          unfold oX1_ask
          rw [x, Option.bind_some, if_neg (by decide), k5, Option.bind_some, if_neg (by decide), e, a1, Option.bind_some, if_neg pz_10, sX, Option.bind_some, ek, pl_bc hk]
          rfl
        rw [em, ex]
        exact ⟨_, _, _, rfl, rfl, pz_xT 0 (by decide) ((a7.1 0 1 (by omega)).trans mx_eq), T, U, H, wt, fin 0 _ pz_FM.rf⟩
    · have k3 : oX4_in x2 1 99 = some 0 := k3
      have k5 : oX1_isIn x2 1 99 = some 0 := k5
      have em : oX4_ask τ x1 x2 = some (-1, pz_m τ 2) := by
        unfold oX4_ask oX4_ask_L28
        rw [m, k3, Option.bind_some, if_neg (by decide), Option.bind_some, if_pos rfl, pz_ref1 (by decide), Option.bind_some, if_neg pz_10]
      have ex : oX1_ask σ β bp x1 x2 = some (-1, pz_x σ 2) := by
        unfold oX1_ask
        rw [x, Option.bind_some, if_neg (by decide), k5]
        rfl
      rw [em, ex]
      exact pz_no h (by decide)
  · have em : oX4_ask τ x1 x2 = some (-1, pz_m τ 1) := by
      unfold oX4_ask oX4_ask_L28
      rw [m, Option.bind_some, if_pos rfl, pz_ref1 (by decide), Option.bind_some, if_neg pz_10]
    have ex : oX1_ask σ β bp x1 x2 = some (-1, pz_x σ 1) := by
      unfold oX1_ask
      rw [x]
      rfl
    rw [em, ex]
    exact pz_no h (by decide)
end PC4
