/-! CALLS, VI: ticks, keep, back, will -/
set_option maxRecDepth 100000
section PC6
variable {K : Nat} {B : ol_Bp} {β : ol_Bd} {bp T U H T' U' H' : Nat} {wt wt' : Nat → Option Nat} {σ σ' σ'' : ol_Xm} {τ τ' τ'' : ol_Mm} {ρ ρ' : Nat → Int32}
theorem pz_ticks (h : pz_1 K B β bp T U H wt σ τ) (hK : K ≤ 24) (x1 : Int32) : pz_E (K + 1) B β bp (oX1_ticks σ β bp x1) (oX4_ticks τ x1) := by
  have hF := pz_H h hK
  have hT := (pz_Tb h hK).1
  obtain ⟨hh, hH⟩ := h.2.2.1
  have k1 := h.1.2.2.1
  have k2 := h.1.2.2.2.1
  have k3 := h.1.2.2.2.2
  have hp := pz_pow K
  rcases pz_rng x1 1 999 (by omega) (by omega) with ⟨k, _, g2, g3, k5, k4⟩ | ⟨-, k5, k3⟩
  · have k4 : oX4_in x1 1 999 = some 1 := k4
    have k5 : oX1_isIn x1 1 999 = some 1 := k5
    have hR : pr_R B bp 10 T U wt (ol_xs σ 0 11 (-1)) ((pz_m τ 0).1 5) := by
      rw [pz_mR]
      exact h.2.2.2.1.ofX (fun c k _ _ _ => px_ne (by omega)) rfl rfl
    have hN : pr_N 10 T (ol_xs σ 0 11 (-1)) ((pz_m τ 0).1 5) := by
      rw [pz_mR]
      exact h.2.2.2.2.1.ofX fun k => px_ne (by omega)
    obtain ⟨σ', τ', a1, a2, a3, a4, ⟨b1, b2, b3, b4⟩, c1, c2⟩ := pt_n h.2.1.1 h.2.1.2.1 hH hF ol_isr0 k T U _ _ (by omega) (by rw [pz_mB]; exact h.2.1.2.2) hR hN
    have em : oX4_ticks τ x1 = some (τ'.1 5 1, τ') := by
      unfold oX4_ticks
      rw [h.1.2.1, k4, if_neg (by decide), Option.bind_some, if_neg (by decide), pz_ref0, Option.bind_some, if_pos rfl, g3, pt_ticksM (by omega), a2, Option.bind_some]
    have ex : oX1_ticks σ β bp x1 = some (σ'.1 10 9, pz_x σ' 0) := by
      unfold oX1_ticks
      rw [k5, Option.bind_some, if_neg (by decide)]
      show ((oX3_goes (ol_xs σ 0 11 (-1)) β bp 10 999 x1).bind fun y5 => ((oX1_fine y5 (y5.1 10 9)).bind fun y9 => some (y9.1, (ol_relog y5 y9.2)))) = _
      rw [g3, pt_goes g2 (by omega), a1]
      rfl
    have e9 : σ'.1 10 9 = τ'.1 5 1 := a3.1.1 1 (by omega)
    rw [em, ex, e9]
    refine ⟨_, _, _, rfl, rfl, pz_xT 0 (by decide) ((c1 0 1 (by omega) (by omega) (by omega)).trans mx_eq), T + k, U + k, H, wt, ?_⟩
    refine h.to (fun c k hc => ?_) ?_ ?_ (fun k hk => ?_) (fun c hc => ?_) (by omega) (by omega) (by omega) h.2.2.1 ?_ ?_ ?_
    · rw [pz_xc 0 c k (by omega), b1 c k (by omega) (by omega) (by omega), pl_xs, if_neg (by omega)]
    · exact b2 19 (by omega)
    · exact b3 19 (by omega)
    · exact (c1 0 k (by omega) (by omega) (by omega)).trans (pz_mi 0 k (by omega))
    · exact funext fun k => (c1 c k (by omega) (by omega) (by omega)).trans (pz_m5 0 c k (by omega))
    · exact a3.ofX (fun c k _ _ _ => pz_xc 0 c k (by omega)) rfl rfl
    · exact a4.ofX fun k => pz_xc 0 _ k (by omega)
    · refine Or.inl ((pz_xc 0 0 11 (by omega)).trans ?_)
      rcases b4 with q | q
      · exact q
      · exact q.2.1.trans px_eq
  · have k3 : oX4_in x1 1 999 = some 0 := k3
    have k5 : oX1_isIn x1 1 999 = some 0 := k5
    have em : oX4_ticks τ x1 = some (-1, pz_m τ 2) := by
      unfold oX4_ticks
      rw [h.1.2.1, k3, if_neg (by decide), Option.bind_some, if_pos rfl, pz_ref1 (by decide), Option.bind_some, if_neg pz_10]
    have ex : oX1_ticks σ β bp x1 = some (-1, pz_x σ 2) := by
      unfold oX1_ticks
      rw [k5]
      rfl
    rw [em, ex]
    exact pz_no h (by decide)
theorem pz_keep (h : pz_1 K B β bp T U H wt σ τ) : pz_E (K + 1) B β bp (oX1_keep σ β bp) (oX4_keep τ) := by
  have h6 := h.2.1.1.1.1.2
  have k1 := h.1.2.2.1
  have k2 := h.1.2.2.2.1
  have k3 := h.1.2.2.2.2
  have hp := pz_pow K
  obtain ⟨σ1, a1, a2, a3, a4, a5, a6⟩ := pr_be (r := 19) (r1 := 10) h6 ol_isr1 ol_isr0 (by decide) h.2.2.2.1 h.2.2.2.2.1
  obtain ⟨τ1, b1, b2, b3, b4⟩ := pc_keep (τ := pz_m τ 0)
  have em : oX4_keep τ = some (1, ol_ms τ1 0 21 1) := by
    unfold oX4_keep
    rw [h.1.2.1, pz_unl1, Option.bind_some, pz_ref0, Option.bind_some, if_pos rfl, b1]
  have ex : oX1_keep σ β bp = some (1, pz_x (ol_xs σ1 0 10 1) 0) := by
    unfold oX1_keep oX1_keep_L23
    rw [a1]
    rfl
  have r5 : (ol_ms τ1 0 21 1).1 5 = τ.1 5 := funext fun k => (mx_ne (by omega)).trans ((b3 5 k (by omega)).trans (pz_m5 0 5 k (by omega)))
  have r7 : ∀ j, j < 251 → (ol_ms τ1 0 21 1).1 7 j = τ.1 5 j := fun j hj => (mx_ne (by omega)).trans ((b2 j hj).trans (pz_m5 0 5 j (by omega)))
  have xe : ∀ c k, ¬ (c = 0 ∧ (k = 1 ∨ k = 2 ∨ k = 10)) → (pz_x (ol_xs σ1 0 10 1) 0).1 c k = σ1.1 c k := fun c k hc => by
    rw [pz_xc 0 c k (by omega), pl_xs, if_neg (by omega)]
  have me : ∀ c k, ¬ c = 7 → ¬ (c = 0 ∧ (k = 0 ∨ k = 1 ∨ k = 3 ∨ k = 21)) → (ol_ms τ1 0 21 1).1 c k = τ.1 c k := fun c k h7 hc => by
    rw [pl_ms, if_neg (by omega), b3 c k h7]
    by_cases q : c = 0
    · subst q
      exact pz_mi 0 k (by omega)
    · exact pz_m5 0 c k q
  rw [em, ex]
  obtain ⟨⟨z1, z2, z3, z4, z5⟩, h9, -⟩ := h.1
  have e21 : (ol_ms τ1 0 21 1).1 0 21 = 1 := mx_eq
  refine ⟨_, _, _, rfl, rfl, pz_xT 0 (by decide) ((mx_nk (by omega)).trans ((b3 0 1 (by omega)).trans mx_eq)), T, U, H, wt, ⟨⟨?_, fun j hj => ?_, ?_, ?_, Or.inr e21⟩, (me 0 9 (by omega) (by omega)).trans h9, by omega, by omega, by omega⟩, ⟨h.2.1.1, h.2.1.2.1, ?_⟩, h.2.2.1, ?_, ?_, ?_, fun _ => ⟨T, U, H, wt, ⟨by omega, by omega, by omega⟩, h.2.2.1, ?_, ?_⟩⟩
  · rw [xe 0 4 (by omega), a4 0 4 (by omega), me 0 5 (by omega) (by omega)]
    exact z1
  · rw [xe 1 j (by omega), a4 1 j (by omega), me 1 j (by omega) (by omega)]
    exact z2 j hj
  · rw [xe 0 5 (by omega), a4 0 5 (by omega), me 0 2 (by omega) (by omega)]
    exact z3
  · rw [e21, pz_xc 0 0 10 (by omega), px_eq]
  · rw [show (ol_ms τ1 0 21 1).1 2 = τ.1 2 from funext fun k => me 2 k (by omega) (by omega)]
    exact h.2.1.2.2
  · rw [r5]
    exact h.2.2.2.1.ofX (fun c k _ _ _ => (xe c k (by omega)).trans (a4 c k (by omega))) (a5 10 (by omega)) (a6 10 (by omega))
  · rw [r5]
    exact h.2.2.2.2.1.ofX fun k => (xe _ k (by omega)).trans (a4 _ k (by omega))
  · rw [r5]
    exact h.2.2.2.2.2.1.ofX (fun c k _ _ => (xe c k (by omega)).trans (a4 c k (by omega))) ((xe 0 11 (by omega)).trans (a4 0 11 (by omega))) ((xe 0 12 (by omega)).trans (a4 0 12 (by omega))) (a5 3 (by omega))
  · exact (a2.row h6 r7).ofX (fun c k _ _ _ => xe c k (by omega)) rfl rfl
  · exact (a3.row r7).ofX fun k => xe _ k (by omega)
theorem pz_back (h : pz_1 K B β bp T U H wt σ τ) : pz_E (K + 1) B β bp (oX1_back σ β bp) (oX4_back τ) := by
  have h6 := h.2.1.1.1.1.2
  have k1 := h.1.2.2.1
  have k2 := h.1.2.2.2.1
  have k3 := h.1.2.2.2.2
  have hp := pz_pow K
  obtain ⟨z1, z2, z3, z4, z5⟩ := h.1.1
  rcases z5 with q | q
  · have em : oX4_back τ = some (0, pz_m τ 1) := by
      unfold oX4_back
      rw [q, pz_unl0, Option.bind_some, pz_ref1 (by decide), Option.bind_some, if_neg pz_10]
    have q2 : σ.1 0 10 = 0 := z4.trans q
    have ex : oX1_back σ β bp = some (0, pz_x (ol_xs σ 0 11 (-1)) 1) := by
      unfold oX1_back oX1_back_L18
      rw [if_pos q2]
      show ((oX1_granted (ol_xs σ 0 11 (-1)) ((ol_xs σ 0 11 (-1)).1 0 10)).bind fun y3 => (ol_og (ol_zb y3.1) (some (y3.1, (ol_relog (ol_xs σ 0 11 (-1)) y3.2))))) = _
      rw [px_nk (by decide), q2]
      rfl
    rw [em, ex]
    refine ⟨_, _, _, rfl, rfl, pz_xT 1 (by decide) mx_eq, T, U, H, wt, ?_⟩
    have xe : ∀ c k, ¬ (c = 0 ∧ (k = 1 ∨ k = 2 ∨ k = 11)) → (pz_x (ol_xs σ 0 11 (-1)) 1).1 c k = σ.1 c k := fun c k hc => by
      rw [pz_xc 1 c k (by omega), pl_xs, if_neg (by omega)]
    refine h.to (fun c k hc => xe c k (by omega)) rfl rfl (fun k hk => pz_mi 1 k (by omega)) (fun c hc => funext fun k => pz_m5 1 c k (by omega)) (by omega) (by omega) (by omega) h.2.2.1 ?_ ?_ ?_
    · rw [pz_mR]
      exact h.2.2.2.1.ofX (fun c k _ _ _ => xe c k (by omega)) rfl rfl
    · rw [pz_mR]
      exact h.2.2.2.2.1.ofX fun k => xe _ k (by omega)
    · exact Or.inl ((pz_xc 1 0 11 (by omega)).trans px_eq)
  · obtain ⟨T', U', H', wt', ⟨g1, g2, g3⟩, g4, g5, g6⟩ := h.2.2.2.2.2.2 q
    obtain ⟨σ1, a1, a2, a3, a4, a5, a6⟩ := pr_be (r := 10) (r1 := 19) h6 ol_isr0 ol_isr1 (by decide) g5 g6
    obtain ⟨τ1, b1, b2, b3, b4⟩ := pc_back2 (τ := pz_m τ 0)
    have em : oX4_back τ = some (1, τ1) := by
      unfold oX4_back
      rw [q, pz_unl1, Option.bind_some, pz_ref0, Option.bind_some, if_pos rfl, b1]
    have q2 : σ.1 0 10 = 1 := z4.trans q
    have ex : oX1_back σ β bp = some (1, pz_x (ol_xs σ1 0 11 (-1)) 0) := by
      unfold oX1_back oX1_back_L18
      rw [q2, if_neg pz_10, a1]
      show ((oX1_granted (ol_xs σ1 0 11 (-1)) ((ol_xs σ1 0 11 (-1)).1 0 10)).bind fun y3 => (ol_og (ol_zb y3.1) (some (y3.1, (ol_relog (ol_xs σ1 0 11 (-1)) y3.2))))) = _
      rw [px_nk (by decide), a4 0 10 (by omega), q2]
      rfl
    rw [em, ex]
    refine ⟨_, _, _, rfl, rfl, pz_xT 0 (by decide) ((b3 0 1 (by omega)).trans mx_eq), T', U', H', wt', ?_⟩
    have xe : ∀ c k, ¬ (c = 0 ∧ (k = 1 ∨ k = 2 ∨ k = 11)) → (pz_x (ol_xs σ1 0 11 (-1)) 0).1 c k = σ1.1 c k := fun c k hc => by
      rw [pz_xc 0 c k (by omega), pl_xs, if_neg (by omega)]
    have r5 : ∀ j, j < 251 → τ1.1 5 j = τ.1 7 j := fun j hj => (b2 j hj).trans (pz_m5 0 7 j (by omega))
    refine h.to (fun c k hc => (xe c k (by omega)).trans (a4 c k (by omega))) (a5 19 (by omega)) (a6 19 (by omega)) (fun k hk => (b3 0 k (by omega)).trans (pz_mi 0 k (by omega))) (fun c hc => funext fun k => (b3 c k (by omega)).trans (pz_m5 0 c k (by omega))) (by omega) (by omega) (by omega) g4 ?_ ?_ ?_
    · exact (a2.row h6 r5).ofX (fun c k _ _ _ => xe c k (by omega)) rfl rfl
    · exact (a3.row r5).ofX fun k => xe _ k (by omega)
    · exact Or.inl ((pz_xc 0 0 11 (by omega)).trans px_eq)
/-- run 28 was tried out, the row was laid aside and taken back -/
theorem pz_tried (h : pz_1 K B β bp T U H wt σ τ) {σ1 σ2 : ol_Xm} {τ1 τ2 τ3 : ol_Mm} (h1 : pc_C 28 σ σ1) (h2 : pt_F 28 σ1 σ2) (m1 : pc_M 5 6 (pz_m τ 0) τ1) (m2 : pt_G τ1 τ2) (m3 : pc_M 6 5 τ2 τ3) : pz_T (pz_x σ2 0) τ3 ∧ pz_B (K + 1) B β bp (pz_x σ2 0) τ3 := by
  have h6 := h.2.1.1.1.1.2
  have k1 := h.1.2.2.1
  have k2 := h.1.2.2.2.1
  have k3 := h.1.2.2.2.2
  have hp := pz_pow K
  obtain ⟨a1, a2, a3⟩ := h1
  obtain ⟨b1, b2, b3, b4⟩ := h2
  have xe : ∀ c k, ¬ (2 ≤ c ∧ c ≤ 9) → ¬ (c = 0 ∧ (k = 1 ∨ k = 2 ∨ k = 11)) → ¬ (28 ≤ c ∧ c ≤ 36) → (pz_x σ2 0).1 c k = σ.1 c k := fun c k h1 h2 h3 => by
    rw [pz_xc 0 c k (by omega), b1 c k h1 (by omega) h3, a1 c k h3]
  have me : ∀ c k, ¬ (c = 0 ∧ (k = 0 ∨ k = 1 ∨ k = 3 ∨ (23 ≤ k ∧ k ≤ 32))) → ¬ c = 5 → ¬ c = 6 → ¬ (8 ≤ c ∧ c ≤ 13) → τ3.1 c k = τ.1 c k := fun c k h1 h5 h6 h8 => by
    rw [m3.2.1 c k h5, m2.1 c k h5 h8 (by omega), m1.2.1 c k h6]
    by_cases q : c = 0
    · subst q
      exact pz_mi 0 k (by omega)
    · exact pz_m5 0 c k q
  have r5 : ∀ j, j < 251 → τ3.1 5 j = τ.1 5 j := fun j hj => by
    rw [m3.1 j hj, m2.1 6 j (by omega) (by omega) (by omega), m1.1 j hj]
    exact pz_m5 0 5 j (by omega)
  have e01 : τ3.1 0 1 = 0 := by
    rw [m3.2.1 0 1 (by omega), m2.1 0 1 (by omega) (by omega) (by omega), m1.2.1 0 1 (by omega)]
    exact mx_eq
  refine ⟨pz_xT 0 (by decide) e01, T, U, H, wt, ?_⟩
  refine h.to (fun c k hc => xe c k (by omega) (by omega) (by omega)) ?_ ?_ (fun k hk => me 0 k (by omega) (by omega) (by omega) (by omega)) (fun c hc => funext fun k => me c k (by omega) (by omega) (by omega) (by omega)) (by omega) (by omega) (by omega) h.2.2.1 ?_ ?_ ?_
  · exact (b2 19 (by omega)).trans (a2 19 (by omega))
  · exact (b3 19 (by omega)).trans (a3 19 (by omega))
  · exact (h.2.2.2.1.row h6 r5).ofX (fun c k _ _ _ => xe c k (by omega) (by omega) (by omega)) ((b2 10 (by omega)).trans (a2 10 (by omega))) ((b3 10 (by omega)).trans (a3 10 (by omega)))
  · exact (h.2.2.2.2.1.row r5).ofX fun k => xe _ k (by omega) (by omega) (by omega)
  · rcases b4 with q | ⟨q1, q2, q3⟩
    · exact Or.inl ((pz_xc 0 0 11 (by omega)).trans q)
    · refine (h.2.2.2.2.2.1.row (fun i hi => r5 _ (by omega)) fun b hb => r5 _ (by omega)).ofX (fun c k c1 c2 => ?_) ?_ ?_ ?_
      · rw [pz_xc 0 c k (by omega), q1 c k c1 c2, a1 c k (by omega)]
      · rw [pz_xc 0 0 11 (by omega), q2, a1 0 11 (by omega)]
      · exact xe 0 12 (by omega) (by omega) (by omega)
      · exact q3.trans (a2 3 (by omega))
theorem pz_will (h : pz_1 K B β bp T U H wt σ τ) (hK : K ≤ 24) (x1 x2 : Int32) : pz_E (K + 1) B β bp (oX1_will σ β bp x1 x2) (oX4_will τ x1 x2) := by
  have h6 := h.2.1.1.1.1.2
  have hF := pz_H h hK
  have hT := (pz_Tb h hK).1
  obtain ⟨hh, hH⟩ := h.2.2.1
  rcases pz_isWhat x2 with ⟨w, w1, w2, wx, wm⟩ | ⟨wx, wm⟩
  · rcases pz_rng x1 1 999 (by omega) (by omega) with ⟨k, _, g2, g3, k5, k4⟩ | ⟨-, k5, k3⟩
    · have k4 : oX4_in x1 1 999 = some 1 := k4
      have k5 : oX1_isIn x1 1 999 = some 1 := k5
      obtain ⟨σ1, a1, a2, a3, a4⟩ := pr_be (r := 28) (r1 := 10) h6 ol_isr2 ol_isr0 (by decide) h.2.2.2.1 h.2.2.2.2.1
      obtain ⟨τ1, b1, b2⟩ := pc_aside (τ := pz_m τ 0)
      have e5 : τ1.1 5 = τ.1 5 := funext fun k => (b2.2.1 5 k (by omega)).trans (pz_m5 0 5 k (by omega))
      have e2 : τ1.1 2 = τ.1 2 := funext fun k => (b2.2.1 2 k (by omega)).trans (pz_m5 0 2 k (by omega))
      obtain ⟨σ2, τ2, c1, c2, c3, c4, c5, c6⟩ := pt_n h.2.1.1 h.2.1.2.1 hH hF ol_isr2 k T U σ1 τ1 (by omega) (by rw [e2]; exact h.2.1.2.2) (by rw [e5]; exact a2) (by rw [e5]; exact a3)
      obtain ⟨z, d1, d2⟩ := pz_told h.2.1.1 h.2.1.2.1 (by rw [c6.m2, e2]; exact h.2.1.2.2) c3 w1
      obtain ⟨τ3, f1, f2⟩ := pc_back (τ := τ2)
      have em : oX4_will τ x1 x2 = some (z, τ3) := by
        unfold oX4_will oX4_will_L38
        rw [h.1.2.1, wm, k4, if_neg (by decide), Option.bind_some, if_neg (by decide), Option.bind_some, if_neg (by decide), pz_ref0, Option.bind_some, if_pos rfl, b1, Option.bind_some, g3, pt_willM x2 (by omega), c2, Option.bind_some, w2, d2, Option.bind_some, f1, Option.bind_some]
      have ex : oX1_will σ β bp x1 x2 = some (z, pz_x σ2 0) := by
        unfold oX1_will
        rw [wx, Option.bind_some, if_neg (by decide), k5, Option.bind_some, if_neg (by decide), a1, Option.bind_some, g3, pt_goes g2 (by omega), c1, Option.bind_some, w2, d1]
        rfl
      rw [em, ex]
      obtain ⟨t1, t2⟩ := pz_tried h a4 c5 b2 c6 f2
      exact ⟨_, _, _, rfl, rfl, t1, t2⟩
    · have k3 : oX4_in x1 1 999 = some 0 := k3
      have k5 : oX1_isIn x1 1 999 = some 0 := k5
      have em : oX4_will τ x1 x2 = some (-1, pz_m τ 2) := by
        unfold oX4_will oX4_will_L38
        rw [h.1.2.1, wm, k3, if_neg (by decide), Option.bind_some, if_neg (by decide), Option.bind_some, if_pos rfl, pz_ref1 (by decide), Option.bind_some, if_neg pz_10]
      have ex : oX1_will σ β bp x1 x2 = some (-1, pz_x σ 2) := by
        unfold oX1_will
        rw [wx, Option.bind_some, if_neg (by decide), k5]
        rfl
      rw [em, ex]
      exact pz_no h (by decide)
  · have em : oX4_will τ x1 x2 = some (-1, pz_m τ 1) := by
      unfold oX4_will oX4_will_L38
      rw [h.1.2.1, wm, if_neg (by decide), Option.bind_some, if_pos rfl, pz_ref1 (by decide), Option.bind_some, if_neg pz_10]
    have ex : oX1_will σ β bp x1 x2 = some (-1, pz_x σ 1) := by
      unfold oX1_will
      rw [wx]
      rfl
    rw [em, ex]
    exact pz_no h (by decide)
end PC6
