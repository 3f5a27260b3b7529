/-! CALLS, I: what one is told -/
set_option maxRecDepth 100000
section PC1
variable {K : Nat} {B : ol_Bp} {β : ol_Bd} {bp T U H : Nat} {wt : Nat → Option Nat} {σ σ' σ'' : ol_Xm} {τ τ' τ'' : ol_Mm} {ρ : Nat → Int32}
theorem pz_r1 (w : Int32) : oX1_refused σ w = some (-1, pz_x σ w) := rfl
theorem pz_f1 (z : Int32) : oX1_fine σ z = some (z, pz_x σ 0) := rfl
theorem pz_rng (x : Int32) (lo hi : Nat) (hlo : lo < 2147483648) (hhi : hi < 2147483648) : (∃ k, lo ≤ k ∧ k ≤ hi ∧ x = nI k ∧ oX1_isIn x (nI lo) (nI hi) = some 1 ∧ oX4_in x (nI lo) (nI hi) = some 1) ∨ ((∀ k, lo ≤ k → k ≤ hi → ¬ x = nI k) ∧ oX1_isIn x (nI lo) (nI hi) = some 0 ∧ oX4_in x (nI lo) (nI hi) = some 0) := by
  obtain ⟨e1, e2⟩ := pz_isIn x (nI lo) (nI hi)
  by_cases h1 : x < nI lo
  · rw [if_pos h1] at e1 e2
    refine Or.inr ⟨fun k k1 k2 q => ?_, e1, e2⟩
    rw [q] at h1
    have := (pl_lt (by omega) (by omega)).mp h1
    omega
  · rw [if_neg h1] at e1 e2
    by_cases h2 : nI hi < x
    · rw [if_pos h2] at e1 e2
      refine Or.inr ⟨fun k k1 k2 q => ?_, e1, e2⟩
      rw [q] at h2
      have := (pl_lt (by omega) (by omega)).mp h2
      omega
    · rw [if_neg h2] at e1 e2
      have a1 := Int32.le_iff_toInt_le.mp (Int32.not_lt.mp h1)
      have a2 := Int32.le_iff_toInt_le.mp (Int32.not_lt.mp h2)
      rw [pl_int hlo] at a1
      rw [pl_int hhi] at a2
      have e : x = nI x.toInt.toNat := by
        apply Int32.toInt_inj.mp
        rw [pl_int (by omega)]
        omega
      exact Or.inl ⟨x.toInt.toNat, by omega, by omega, e, e1, e2⟩
theorem pz_rng0 (x : Int32) (hi : Nat) (hhi : hi < 2147483648) : (∃ k, k ≤ hi ∧ x = nI k ∧ oX1_isIn x 0 (nI hi) = some 1 ∧ oX4_in x 0 (nI hi) = some 1) ∨ ((∀ k, k ≤ hi → ¬ x = nI k) ∧ oX1_isIn x 0 (nI hi) = some 0 ∧ oX4_in x 0 (nI hi) = some 0) := by
  rcases pz_rng x 0 hi (by omega) hhi with ⟨k, -, k2, k3, k4, k5⟩ | ⟨k1, k2, k3⟩
  · exact Or.inl ⟨k, k2, k3, k4, k5⟩
  · exact Or.inr ⟨fun k hk => k1 k (by omega) hk, k2, k3⟩
theorem pz_brd (h : pz_1 K B β bp T U H wt σ τ) (x : Int32) : (∃ b, b < pb_n B ∧ b < 6 ∧ x = nI b ∧ oX1_isBoard σ β bp x = some 1 ∧ oX4_isBoard τ x = some 1) ∨ ((∀ b, b < pb_n B → ¬ x = nI b) ∧ oX1_isBoard σ β bp x = some 0 ∧ oX4_isBoard τ x = some 0) := by
  have h6 := h.2.1.1.1.1
  unfold oX1_isBoard oX4_isBoard
  rw [h.1.2.1, if_neg (by decide), h.2.1.2.1.1.2.2.2.1, h.2.1.2.2.1.2.2.2.1, pl_d1 (by omega)]
  rcases pz_rng0 x (pb_n B - 1) (by omega) with ⟨k, k2, k3, k4, k5⟩ | ⟨k1, k2, k3⟩
  · rw [k4, k5]
    exact Or.inl ⟨k, by omega, by omega, k3, rfl, rfl⟩
  · rw [k2, k3]
    exact Or.inr ⟨fun b hb => k1 b (by omega), rfl, rfl⟩
theorem pz_unl0 : oX4_unless 0 = some 1 := rfl
theorem pz_unl1 : oX4_unless 1 = some 0 := rfl
theorem pz_n0 (x : Int32) : (some x).bind (fun y => (some y : Option Int32)) = some x := rfl
theorem pz_10 : ¬ (1 : Int32) = 0 := by decide
theorem pl_zb1 : ol_zb 1 = true := rfl
theorem pl_zb0 : ol_zb 0 = true := rfl
theorem pz_about (h : pz_1 K B β bp T U H wt σ τ) (x1 : Int32) : pz_E (K + 1) B β bp (oX1_about σ β bp x1) (oX4_about τ x1) := by
  obtain ⟨x0, x1', x2, x3, x4, -⟩ := h.2.1.2.1.1
  obtain ⟨m0, m1, m2, m3, m4⟩ := h.2.1.2.2.1
  have et : σ.1 10 8 = τ.1 5 0 := h.2.2.2.1.1.1 0 (by omega)
  rcases pz_rng0 x1 5 (by omega) with ⟨k, k1, k2, -, k4⟩ | ⟨k1, -, k3⟩
  · have k4 : oX4_in x1 0 5 = some 1 := k4
    have em : oX4_about τ x1 = if x1 = 5 then some (τ.1 5 0, pz_m τ 0) else ol_og (ol_in x1 59) (some (τ.1 2 x1.toNatClampNeg, pz_m τ 0)) := by
      unfold oX4_about oX4_about_L22
      rw [h.1.2.1, k4, if_neg (by decide), Option.bind_some, if_neg (by decide), pz_unl1, Option.bind_some, pz_ref0, Option.bind_some, if_pos rfl, pz_m5 0 5 0 (by decide), pz_m5 0 2 _ (by decide)]
    rw [em]
    have c : k = 0 ∨ k = 1 ∨ k = 2 ∨ k = 3 ∨ k = 4 ∨ k = 5 := by omega
    unfold oX1_about
    simp only [pz_f1, Option.bind_some, x0, x1', x2, x3, x4, et]
    rcases c with e | e | e | e | e | e <;> subst e <;> subst k2
    · rw [show τ.1 2 (nI 0).toNatClampNeg = _ from m0]
      exact pz_yes0 h _
    · rw [show τ.1 2 (nI 1).toNatClampNeg = _ from m1]
      exact pz_yes0 h _
    · rw [show τ.1 2 (nI 2).toNatClampNeg = _ from m2]
      exact pz_yes0 h _
    · rw [show τ.1 2 (nI 3).toNatClampNeg = _ from m3]
      exact pz_yes0 h _
    · rw [show τ.1 2 (nI 4).toNatClampNeg = _ from m4]
      exact pz_yes0 h _
    · exact pz_yes0 h _
  · have k3 : oX4_in x1 0 5 = some 0 := k3
    have em : oX4_about τ x1 = some (-1, pz_m τ 1) := by
      unfold oX4_about oX4_about_L22
      rw [h.1.2.1, k3, if_neg (by decide), Option.bind_some, if_pos rfl, pz_unl0, Option.bind_some, pz_ref1 (by decide), Option.bind_some, if_neg pz_10]
    have ex : oX1_about σ β bp x1 = some (-1, pz_x σ 1) := by
      unfold oX1_about
      rw [if_neg (show ¬ x1 = 0 from k1 0 (by omega)), if_neg (show ¬ x1 = 1 from k1 1 (by omega)), if_neg (show ¬ x1 = 2 from k1 2 (by omega)), if_neg (show ¬ x1 = 3 from k1 3 (by omega)), if_neg (show ¬ x1 = 4 from k1 4 (by omega)), if_neg (show ¬ x1 = 5 from k1 5 (by omega))]
      rfl
    rw [ex, em]
    exact pz_no h (by decide)
/-- words, ranks of the day: both sides -/
theorem pz_XM (h : pz_1 K B β bp T U H wt σ τ) : pw_X σ β bp 10 (pb_n B) wt (pb_rk B) (pz_fr (τ.1 5)) (pb_cd B) ∧ pw_M τ (pb_n B) wt (pb_rk B) (pz_fr (τ.1 5)) (pb_cd B) ∧ pw_b (pb_n B) (pb_rk B) (pz_fr (τ.1 5)) (pb_cd B) := by
  obtain ⟨-, ⟨hB, hX, hM⟩, -, hR, -⟩ := h
  have h6 := hB.1.1.2
  obtain ⟨fr, x1, x2, x3⟩ := pr_X hB hX hR
  have y1 := pr_M hB hM hR.2.1 x3
  have e : ∀ b, b < pb_n B → fr b = pz_fr (τ.1 5) b := fun b hb => by
    have := (x2 b hb).2.1
    unfold pz_fr
    rw [if_pos (by omega), x3 b (by omega), pl_nn (n := fr b) (by omega)]
  refine ⟨⟨x1.1, fun b hb => ?_⟩, ⟨y1.1, fun b hb => ?_⟩, fun b hb => ?_⟩
  · rw [← e b hb]
    exact x1.2 b hb
  · rw [← e b hb]
    exact y1.2 b hb
  · rw [← e b hb]
    exact x2 b hb
theorem pz_H (h : pz_1 K B β bp T U H wt σ τ) (hK : K ≤ 24) : H < ol_fuel := by
  have h1 := h.1.2.2.2.2
  have : (2 : Nat) ^ K ≤ 2 ^ 24 := Nat.pow_le_pow_right (by omega) hK
  unfold ol_fuel
  omega
theorem pz_Tb (h : pz_1 K B β bp T U H wt σ τ) (hK : K ≤ 24) : T ≤ 24000 ∧ U ≤ 24001 := by
  have h1 := h.1.2.2.1
  have h2 := h.1.2.2.2.1
  omega
theorem pz_mM (w : Int32) {n : Nat} {rk fr cd : Nat → Nat} (hM : pw_M τ n wt rk fr cd) : pw_M (pz_m τ w) n wt rk fr cd := by
  refine ⟨⟨(pz_m5 w 2 3 (by decide)).trans hM.1.1, hM.1.2⟩, fun b hb => ?_⟩
  rw [pz_m5 w 5 _ (by decide), pz_m5 w 2 _ (by decide), pz_m5 w 5 _ (by decide), pz_m5 w 2 _ (by decide)]
  exact hM.2 b hb
theorem pz_b (b k : Nat) (hb : b < 6) (hk : k < 12) : oX4_at (nI b) (nI k) = some (nI (18 + 12 * b + k)) ∧ ol_in (nI (18 + 12 * b + k)) 251 = true ∧ (nI (18 + 12 * b + k)).toNatClampNeg = 18 + 12 * b + k := ⟨pw_at hb hk, pl_in (by omega) (by omega), pl_nn (by omega)⟩
theorem pz_board (h : pz_1 K B β bp T U H wt σ τ) (hK : K ≤ 24) (x1 x2 : Int32) : pz_E (K + 1) B β bp (oX1_board σ β bp x1 x2) (oX4_board τ x1 x2) := by
  obtain ⟨hB, hX, hM⟩ := h.2.1
  obtain ⟨hh, hH⟩ := h.2.2.1
  obtain ⟨hE, hI, -⟩ := h.2.2.2.1
  rcases pz_brd h x1 with ⟨b, bn, b6, e, x, m⟩ | ⟨-, x, m⟩
  · rcases pz_rng0 x2 6 (by omega) with ⟨k, k1, k2, -, k4⟩ | ⟨k1, -, k3⟩
    · have k4 : oX4_in x2 0 6 = some 1 := k4
      obtain ⟨w1, w2, w3⟩ := pz_XM h
      obtain ⟨a1, a2, a3⟩ := hX.2.1 b bn
      obtain ⟨c1, c2, c3⟩ := hM.2.1 b bn
      obtain ⟨e1, e2, e3, e4, -⟩ := hE.2.2 b b6
      have ib := pw_ib w1 bn
      have nb : (nI b).toNatClampNeg = b := pl_nn (by omega)
      have d1 := pw_dayX w1 w3 hH (pz_H h hK) bn
      have d2 := pw_dayM (pz_mM 0 w2) w3 hH (pz_H h hK) bn
      obtain ⟨zm, em1, em⟩ : ∃ z, oX4_board τ x1 x2 = z ∧ z = oX4_board τ x1 x2 := ⟨_, rfl, rfl⟩
      obtain ⟨zx, ex1, ex⟩ : ∃ z, oX1_board σ β bp x1 x2 = z ∧ z = oX1_board σ β bp x1 x2 := ⟨_, rfl, rfl⟩
      unfold oX4_board oX4_board_L24 at em
      rw [m, k4, Option.bind_some, if_neg (by decide), Option.bind_some, if_neg (by decide), pz_unl1, Option.bind_some, pz_ref0, Option.bind_some, if_pos rfl] at em
      unfold oX1_board at ex
      rw [x, Option.bind_some, if_neg (by decide), e, ib, pl_ogt, nb] at ex
      rw [em1, ex1, em, ex]
      clear em1 ex1 em ex
      have c : k = 0 ∨ k = 1 ∨ k = 2 ∨ k = 3 ∨ k = 4 ∨ k = 5 ∨ k = 6 := by omega
      have i6 : ol_in (nI b) 6 = true := pl_in b6 (by omega)
      rcases c with q | q | q | q | q | q | q <;> subst q <;> subst k2 <;> subst e
      · show pz_E (K + 1) B β bp (some (β.1 2 b, pz_x σ 0)) (ol_og (ol_in (nI 5 + nI b) 59) (some ((pz_m τ 0).1 2 (nI 5 + nI b).toNatClampNeg, pz_m τ 0)))
        rw [pl_add, pl_in (by omega) (by omega), pl_ogt, pl_nn (by omega), pz_m5 0 2 _ (by decide), a2, c2]
        exact pz_yes0 h _
      · show pz_E (K + 1) B β bp (some (β.1 3 b, pz_x σ 0)) (ol_og (ol_in (nI 11 + nI b) 59) (some ((pz_m τ 0).1 2 (nI 11 + nI b).toNatClampNeg, pz_m τ 0)))
        rw [pl_add, pl_in (by omega) (by omega), pl_ogt, pl_nn (by omega), pz_m5 0 2 _ (by decide), a3, c3]
        exact pz_yes0 h _
      · show pz_E (K + 1) B β bp (some (β.1 1 b, pz_x σ 0)) (ol_og (ol_in (nI 17 + nI b) 59) (some ((pz_m τ 0).1 2 (nI 17 + nI b).toNatClampNeg, pz_m τ 0)))
        rw [pl_add, pl_in (by omega) (by omega), pl_ogt, pl_nn (by omega), pz_m5 0 2 _ (by decide), a1, c1]
        exact pz_yes0 h _
      · show pz_E (K + 1) B β bp ((oX9_ofTheDay σ β bp 10 b).bind fun y13 => ((oX1_fine σ y13).bind fun y15 => some (y15.1, y15.2))) ((oX4_rankOf (pz_m τ 0) (nI b)).bind fun y11 => some (y11, pz_m τ 0))
        rw [d1, d2]
        exact pz_yes0 h _
      · show pz_E (K + 1) B β bp (ol_og (ol_in (nI b) 6) (if σ.1 11 b = 0 then some (0, pz_x σ 0) else some (1, pz_x σ 0))) ((oX4_at (nI b) (nI 2)).bind fun y14 => (ol_og (ol_in y14 251) (some ((pz_m τ 0).1 5 y14.toNatClampNeg, pz_m τ 0))))
        obtain ⟨g1, g2, g3⟩ := pz_b b 2 b6 (by omega)
        have e3' : σ.1 11 b = τ.1 5 (18 + 12 * b + 2) := e3
        obtain ⟨f, f1, f2⟩ := (hI.2.2.2.2.2.1 b b6).2.1
        rw [i6, pl_ogt, g1, Option.bind_some, g2, pl_ogt, g3, pz_m5 0 5 _ (by decide), e3', f2]
        match f, f1 with
        | 0, _ => exact pz_yes0 h _
        | 1, _ => exact pz_yes0 h _
      · show pz_E (K + 1) B β bp (ol_og (ol_in (nI b) 6) (some (σ.1 12 b, pz_x σ 0))) ((oX4_at (nI b) (nI 0)).bind fun y14 => (ol_og (ol_in y14 251) (some ((pz_m τ 0).1 5 y14.toNatClampNeg, pz_m τ 0))))
        obtain ⟨g1, g2, g3⟩ := pz_b b 0 b6 (by omega)
        have e1' : σ.1 12 b = τ.1 5 (18 + 12 * b + 0) := e1
        rw [i6, pl_ogt, g1, Option.bind_some, g2, pl_ogt, g3, pz_m5 0 5 _ (by decide), e1']
        exact pz_yes0 h _
      · show pz_E (K + 1) B β bp (ol_og (ol_in (nI b) 6) (some (σ.1 14 b, pz_x σ 0))) ((oX4_at (nI b) (nI 3)).bind fun y14 => (ol_og (ol_in y14 251) (some ((pz_m τ 0).1 5 y14.toNatClampNeg, pz_m τ 0))))
        obtain ⟨g1, g2, g3⟩ := pz_b b 3 b6 (by omega)
        have e4' : σ.1 14 b = τ.1 5 (18 + 12 * b + 3) := e4
        rw [i6, pl_ogt, g1, Option.bind_some, g2, pl_ogt, g3, pz_m5 0 5 _ (by decide), e4']
        exact pz_yes0 h _
    · have k3 : oX4_in x2 0 6 = some 0 := k3
      have em : oX4_board τ x1 x2 = some (-1, pz_m τ 1) := by
        unfold oX4_board oX4_board_L24
        rw [m, k3, Option.bind_some, if_neg (by decide), Option.bind_some, if_pos rfl, pz_unl0, Option.bind_some, pz_ref1 (by decide), Option.bind_some, if_neg pz_10]
      have ex : oX1_board σ β bp x1 x2 = some (-1, pz_x σ 1) := by
        unfold oX1_board
        rw [x, Option.bind_some, if_neg (by decide), e, pw_ib (pz_XM h).1 bn, pl_ogt, if_neg (show ¬ x2 = 0 from k1 0 (by omega)), if_neg (show ¬ x2 = 1 from k1 1 (by omega)), if_neg (show ¬ x2 = 2 from k1 2 (by omega)), if_neg (show ¬ x2 = 3 from k1 3 (by omega)), if_neg (show ¬ x2 = 4 from k1 4 (by omega)), if_neg (show ¬ x2 = 5 from k1 5 (by omega)), if_neg (show ¬ x2 = 6 from k1 6 (by omega))]
        rfl
      rw [ex, em]
      exact pz_no h (by decide)
  · have em : oX4_board τ x1 x2 = some (-1, pz_m τ 1) := by
      unfold oX4_board oX4_board_L24
      rw [m, Option.bind_some, if_pos rfl, pz_unl0, Option.bind_some, pz_ref1 (by decide), Option.bind_some, if_neg pz_10]
    have ex : oX1_board σ β bp x1 x2 = some (-1, pz_x σ 1) := by
      unfold oX1_board
      rw [x, Option.bind_some, if_pos rfl]
      rfl
    rw [ex, em]
    exact pz_no h (by decide)
theorem pz_word (h : pz_1 K B β bp T U H wt σ τ) (hK : K ≤ 24) (x1 x2 : Int32) : pz_E (K + 1) B β bp (oX1_word σ β bp x1 x2) (oX4_word τ x1 x2) := by
  obtain ⟨hh, hH⟩ := h.2.2.1
  obtain ⟨w1, w2, w3⟩ := pz_XM h
  rcases pz_brd h x1 with ⟨b, bn, b6, e, x, m⟩ | ⟨-, x, m⟩
  · rcases pz_rng x2 1 2 (by omega) (by omega) with ⟨k, k0, k1, k2, k5, k4⟩ | ⟨k1, k5, k3⟩
    · have k4 : oX4_in x2 1 2 = some 1 := k4
      have k5 : oX1_isIn x2 1 2 = some 1 := k5
      have nb : (nI b).toNatClampNeg = b := pl_nn (by omega)
      have em : oX4_word τ x1 x2 = (oX4_wordOf (pz_m τ 0) x1 x2).bind fun y3 => some (y3, pz_m τ 0) := by
        unfold oX4_word oX4_word_L27
        rw [m, Option.bind_some, if_neg (by decide), k4, Option.bind_some, if_neg (by decide), pz_ref0, Option.bind_some, if_pos rfl]
      have ex : oX1_word σ β bp x1 x2 = (oX11_of σ β bp x2 b).bind fun y9 => ((oX1_fine σ y9).bind fun y11 => some (y11.1, y11.2)) := by
        unfold oX1_word oX1_isPass
        rw [x, Option.bind_some, if_neg (by decide), k5, Option.bind_some, pl_zb1, pl_ogt, Option.bind_some, if_neg (by decide), e, pw_ib w1 bn, pl_ogt, nb]
      rw [ex, em, e]
      unfold oX11_of
      have c : k = 1 ∨ k = 2 := by omega
      rcases c with q | q <;> subst q <;> subst k2
      · rw [if_pos (show nI 1 = 1 from rfl), pw_firstX w1 w3 hH (pz_H h hK) bn, show oX4_wordOf (pz_m τ 0) (nI b) (nI 1) = _ from pw_wordM1 (pz_mM 0 w2) w3 hH (pz_H h hK) bn]
        exact pz_yes0 h _
      · rw [if_neg (show ¬ nI 2 = 1 by decide), pw_secondX w1 w3 bn, show oX4_wordOf (pz_m τ 0) (nI b) (nI 2) = _ from pw_wordM2 (pz_mM 0 w2) w3 bn (by decide)]
        exact pz_yes0 h _
    · have k3 : oX4_in x2 1 2 = some 0 := k3
      have k5 : oX1_isIn x2 1 2 = some 0 := k5
      have em : oX4_word τ x1 x2 = some (-1, pz_m τ 2) := by
        unfold oX4_word oX4_word_L27
        rw [m, Option.bind_some, if_neg (by decide), k3, Option.bind_some, if_pos rfl, pz_ref1 (by decide), Option.bind_some, if_neg pz_10]
      have ex : oX1_word σ β bp x1 x2 = some (-1, pz_x σ 2) := by
        unfold oX1_word oX1_isPass
        rw [x, Option.bind_some, if_neg (by decide), k5]
        rfl
      rw [ex, em]
      exact pz_no h (by decide)
  · have em : oX4_word τ x1 x2 = some (-1, pz_m τ 1) := by
      unfold oX4_word oX4_word_L27
      rw [m, Option.bind_some, if_pos rfl, pz_ref1 (by decide), Option.bind_some, if_neg pz_10]
    have ex : oX1_word σ β bp x1 x2 = some (-1, pz_x σ 1) := by
      unfold oX1_word
      rw [x, Option.bind_some, if_pos rfl]
      rfl
    rw [ex, em]
    exact pz_no h (by decide)
end PC1
