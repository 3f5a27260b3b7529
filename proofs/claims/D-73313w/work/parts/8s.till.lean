/-! CALLS, VII: till one is master again -/
set_option maxRecDepth 100000
def pz_lo (wt : Nat → Option Nat) (ρ : Nat → Int32) (x : Nat) : Option Nat := if x < 6 then wt x else some (ρ (18 + 12 * (x - 6) + 6)).toNatClampNeg
section PC7
variable {K : Nat} {B : ol_Bp} {β : ol_Bd} {bp r T U H T' U' H' : Nat} {wt wt' : Nat → Option Nat} {σ σ' σ'' : ol_Xm} {τ τ' τ'' : ol_Mm} {ρ ρ' : Nat → Int32}
theorem pz_loH {n : Nat} {h : Nat → Nat} (hH : pw_H n wt h H) (h6 : n ≤ 6) : pw_H n (pz_lo wt ρ) h H := by
  intro x hx
  refine ⟨(hH x hx).1, fun j hj => ?_⟩
  unfold pz_lo at hj
  rw [if_pos (by omega)] at hj
  exact (hH x hx).2 j hj
theorem pz_loR (h : pr_R B bp r T U wt σ ρ) (hU : U < 2147483648) : pr_R B bp r T U (pz_lo wt ρ) σ ρ := by
  obtain ⟨hE, ⟨h0, h1, h2, h3, h4, h5, h7⟩, hR⟩ := h
  refine ⟨hE, ⟨h0, h1, h2, h3, h4, fun b hb => ?_, h7⟩, hR⟩
  obtain ⟨g1, g2, g3, t, t1, -, t2⟩ := h5 b hb
  refine ⟨g1, g2, ?_, t, t1, fun l hl => ?_, t2⟩
  · rw [g3]
    unfold pz_lo
    rw [if_pos hb]
  · unfold pz_lo at hl
    rw [if_neg (by omega), show 6 + b - 6 = b by omega, t2, pl_nn (n := t) (by omega)] at hl
    cases hl
    exact Nat.le_refl _
theorem pt_one : oX3_goes σ β bp r 1 1 = oX3_tick σ β bp r := by
  have := pt_goes (σ := σ) (β := β) (bp := bp) (r := r) (k := 1) (N := 1) (by omega) (by omega)
  show oX3_goes σ β bp r 1 (nI 1) = _
  rw [this]
  show (oX3_tick σ β bp r).bind (fun y => some y) = _
  cases oX3_tick σ β bp r <;> rfl
theorem pz_tillL (hB : pb_ok B) (hX : pb_X B β) {h : Nat → Nat} (hH : pw_H (pb_n B) wt h H) (hF : H < ol_fuel) {b t0 : Nat} (b6 : b < 6) (hlo : wt (6 + b) = some t0) {T0 U0 : Nat} (hT : T0 + 2001 < 1000000) (hU : U0 < 1000000) : ∀ d k, d + k = 2000 → ∀ n m σ τ, d < n → d < m → pb_M B (τ.1 2) → pr_R B bp 28 (T0 + k) (U0 + k) wt σ (τ.1 5) → pr_N 28 (T0 + k) σ (τ.1 5) → τ.1 5 (18 + 12 * b + 6) = nI t0 → ∃ z σ2 τ2 τ3, oX1_till_L42 β bp (nI b) n (nI t0) (nI (k + 1)) σ = some (z, pz_x σ2 0) ∧ oX4_till_L35 (nI b) m (nI t0) (nI k) τ = some (z, τ3) ∧ pt_F 28 σ σ2 ∧ pt_G τ τ2 ∧ pc_M 6 5 τ2 τ3 := by
  obtain ⟨g1, g2, g3⟩ := pz_b b 6 b6 (by omega)
  intro d
  induction d with
  | zero =>
    intro k hk n m σ τ hn hm hM hR hN ht
    obtain ⟨n, rfl⟩ : ∃ i, n = i + 1 := ⟨n - 1, by omega⟩
    obtain ⟨m, rfl⟩ : ∃ i, m = i + 1 := ⟨m - 1, by omega⟩
    have e : k = 2000 := by omega
    subst e
    obtain ⟨τ3, f1, f2⟩ := pc_back (τ := τ)
    refine ⟨-2, σ, τ, τ3, ?_, ?_, pt_F.rf, pt_G.rf, f2⟩
    · rw [oX1_till_L42, if_pos (show (2000 : Int32) < nI 2001 by decide)]
      rfl
    · rw [oX4_till_L35, if_pos (show (2000 : Int32) ≤ nI 2000 from Int32.le_refl _)]
      unfold oX4_till_L67 oX4_till_L87
      rw [show oX4_at (nI b) 6 = _ from g1, Option.bind_some, g2, pl_ogt, g3, ht, if_pos (Int32.le_refl _), f1, Option.bind_some, if_pos rfl]
  | succ d ih =>
    intro k hk n m σ τ hn hm hM hR hN ht
    obtain ⟨n, rfl⟩ : ∃ i, n = i + 1 := ⟨n - 1, by omega⟩
    obtain ⟨m, rfl⟩ : ∃ i, m = i + 1 + 1 := ⟨m - 2, by omega⟩
    obtain ⟨σ1, τ1, a1, a2, a3, a4, a5, a6⟩ := pr_tick hB hX hM hH hF ol_isr2 (by omega) hR hN
    have ht0 : t0 ≤ U0 + k := by
      obtain ⟨-, -, -, t, t1, t3, -⟩ := hR.2.1.2.2.2.2.2.1 b b6
      have := t3 _ hlo
      omega
    obtain ⟨-, -, -, t, t1, t3, t2⟩ := a3.2.1.2.2.2.2.2.1 b b6
    have hle := t3 _ hlo
    have e35 : σ1.1 35 (6 * b + 0) = nI t := by
      have := (a3.1.2.2 b b6).2.2.2.2 0 (by omega)
      exact this.trans t2
    have ex : oX1_till_L42 β bp (nI b) (n + 1) (nI t0) (nI (k + 1)) σ = if nI t ≤ nI t0 then oX1_till_L42 β bp (nI b) n (nI t0) (nI (k + 1 + 1)) σ1 else some (nI (k + 1), pz_x σ1 0) := by
      rw [oX1_till_L42, if_neg (show ¬ (2000 : Int32) < nI (k + 1) from fun q => by have := (pl_lt (a := 2000) (by omega) (by omega)).mp q; omega), pt_one, a1, Option.bind_some, pl_l6, pl_mul, show (0 : Int32) = nI 0 from rfl, pl_add, pl_in (n := 36) (by omega) (by omega), pl_ogt, pl_nn (n := 6 * b + 0) (by omega), show (28 : Nat) + 7 = 35 from rfl, e35, pl_s]
      rfl
    have em : oX4_till_L35 (nI b) (m + 1 + 1) (nI t0) (nI k) τ = oX4_till_L35 (nI b) (m + 1) (nI t0) (nI (k + 1)) τ1 := by
      rw [oX4_till_L35, if_neg (show ¬ (2000 : Int32) ≤ nI k from fun q => by have := (pl_le (a := 2000) (by omega) (by omega)).mp q; omega), show oX4_at (nI b) 6 = _ from g1, Option.bind_some, g2, pl_ogt, g3, ht, if_pos rfl, a2, Option.bind_some, pl_s]
    rw [ex, em]
    by_cases e : t = t0
    · subst e
      rw [if_pos (Int32.le_refl _)]
      obtain ⟨z, σ2, τ2, τ3, c1, c2, c3, c4, c5⟩ := ih (k + 1) (by omega) n (m + 1) σ1 τ1 (by omega) (by omega) (by rw [a6.m2]; exact hM) a3 a4 t2
      exact ⟨z, σ2, τ2, τ3, c1, c2, a5.tr c3, a6.tr c4, c5⟩
    · rw [if_neg (fun q => by have := (pl_le (by omega) (by omega)).mp q; omega)]
      obtain ⟨τ3, f1, f2⟩ := pc_back (τ := τ1)
      refine ⟨_, σ1, τ1, τ3, rfl, ?_, a5, a6, f2⟩
      have e67 : oX4_till_L67 (nI b) (nI t0) (nI (k + 1)) τ1 = some (nI (k + 1), τ3) := by
        unfold oX4_till_L67 oX4_till_L87
        rw [show oX4_at (nI b) 6 = _ from g1, Option.bind_some, g2, pl_ogt, g3, t2, if_neg (fun q => by have := (pl_le (by omega) (by omega)).mp q; omega), f1, Option.bind_some, if_neg pz_10]
      rw [oX4_till_L35, e67]
      by_cases q : (2000 : Int32) ≤ nI (k + 1)
      · rw [if_pos q]
      · rw [if_neg q, show oX4_at (nI b) 6 = _ from g1, Option.bind_some, g2, pl_ogt, g3, t2, if_neg (fun q => e ((pl_eq (by omega) (by omega)).mp q))]
theorem pz_till (h : pz_1 K B β bp T U H wt σ τ) (hK : K ≤ 24) (x1 : Int32) : pz_E (K + 1) B β bp (oX1_till σ β bp x1) (oX4_till τ x1) := by
  have h6 := h.2.1.1.1.1.2
  have hF := pz_H h hK
  have hT := pz_Tb h hK
  obtain ⟨hh, hH⟩ := h.2.2.1
  rcases pz_brd h x1 with ⟨b, bn, b6, e, x, m⟩ | ⟨-, x, m⟩
  · obtain ⟨σ1, a1, a2, a3, a4⟩ := pr_be (r := 28) (r1 := 10) h6 ol_isr2 ol_isr0 (by decide) h.2.2.2.1 h.2.2.2.2.1
    obtain ⟨τ1, b1, b2⟩ := pc_aside (τ := pz_m τ 0)
    have e5 : τ1.1 5 = τ.1 5 := funext fun k => (b2.2.1 5 k (by omega)).trans (pz_m5 0 5 k (by omega))
    have e2 : τ1.1 2 = τ.1 2 := funext fun k => (b2.2.1 2 k (by omega)).trans (pz_m5 0 2 k (by omega))
    obtain ⟨-, -, -, t, t1, -, t2⟩ := h.2.2.2.1.2.1.2.2.2.2.2.1 b b6
    obtain ⟨g1, g2, g3⟩ := pz_b b 6 b6 (by omega)
    have e17 : σ1.1 17 (6 * b + 0) = nI t := by
      rw [a4.1 17 _ (by omega)]
      exact ((h.2.2.2.1.1.2.2 b b6).2.2.2.2 0 (by omega)).trans t2
    obtain ⟨z, σ2, τ2, τ3, c1, c2, c3, c4, c5⟩ := pz_tillL (t0 := t) (T0 := T) (U0 := U) h.2.1.1 h.2.1.2.1 (pz_loH (ρ := τ.1 5) hH h6) hF b6 (by
      unfold pz_lo
      rw [if_neg (by omega), show 6 + b - 6 = b by omega, t2, pl_nn (n := t) (by omega)]) (by omega) (by omega) 2000 0 (by omega) 2001 ol_fuel σ1 τ1 (by omega) (by unfold ol_fuel; omega) (by rw [e2]; exact h.2.1.2.2) (by rw [e5]; exact pz_loR a2 (by omega)) (by rw [e5]; exact a3) (by rw [e5]; exact t2)
    have em : oX4_till τ x1 = some (z, τ3) := by
      unfold oX4_till
      rw [m, Option.bind_some, pz_unl1, Option.bind_some, pz_ref0, Option.bind_some, if_pos rfl, b1, Option.bind_some, e, show oX4_at (nI b) 6 = _ from g1, Option.bind_some, g2, pl_ogt, g3, e5, t2]
      exact c2
    have ex : oX1_till σ β bp x1 = some (z, pz_x σ2 0) := by
      unfold oX1_till
      rw [x, Option.bind_some, if_neg (by decide), a1, Option.bind_some, e, pl_l6, pl_mul, show (0 : Int32) = nI 0 from rfl, pl_add, pl_in (n := 36) (by omega) (by omega), pl_ogt, pl_nn (n := 6 * b + 0) (by omega), show (10 : Nat) + 7 = 17 from rfl, e17]
      exact c1
    rw [em, ex]
    obtain ⟨q1, q2⟩ := pz_tried h a4 c3 b2 c4 c5
    exact ⟨_, _, _, rfl, rfl, q1, q2⟩
  · have em : oX4_till τ x1 = some (-1, pz_m τ 1) := by
      unfold oX4_till
      rw [m, Option.bind_some, pz_unl0, Option.bind_some, pz_ref1 (by decide), Option.bind_some, if_neg pz_10]
    have ex : oX1_till σ β bp x1 = some (-1, pz_x σ 1) := by
      unfold oX1_till
      rw [x]
      rfl
    rw [em, ex]
    exact pz_no h (by decide)
end PC7
