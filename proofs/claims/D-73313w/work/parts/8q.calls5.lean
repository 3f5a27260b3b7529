/-! CALLS, V: lines that stick, boards that wait -/
set_option maxRecDepth 100000
section PC5
variable {K : Nat} {B : ol_Bp} {β : ol_Bd} {bp T U H T' U' H' : Nat} {wt wt' : Nat → Option Nat} {σ σ' σ'' : ol_Xm} {τ τ' τ'' : ol_Mm} {ρ ρ' : Nat → Int32}
theorem pz_pow (K : Nat) : (2 : Nat) ^ (K + 1) = 2 * 2 ^ K := by rw [Nat.pow_succ]; omega
/-- one number of run 10, of the row, is another; the pass is forgotten -/
theorem pz_one (h : pz_1 K B β bp T U H wt σ τ) {c k j : Nat} {x : Int32} (hH : ∃ h, pw_H (pb_n B) wt' h H') (hb : H' ≤ 2 ^ (K + 1)) (hc : 10 < c ∧ c < 18) (hj : j < 90 ∧ ¬ j = 4 ∧ ¬ j = 5 ∧ ∀ b, b < 6 → ¬ j = 18 + 12 * b + 4) (h6 : ¬ c = 16) (hE : pr_E 10 (ol_xs σ c k x) (upd (τ.1 5) j x)) (hI : pv_I B T U wt' (upd (τ.1 5) j x)) : pz_1 (K + 1) B β bp T U H' wt' (pz_x (ol_xs (ol_xs σ 0 11 (-1)) c k x) 0) (ol_ms (pz_m τ 0) 5 j x) := by
  have k1 := h.1.2.2.1
  have k2 := h.1.2.2.2.1
  have h66 := h.2.1.1.1.1.2
  have er : (ol_ms (pz_m τ 0) 5 j x).1 5 = upd (τ.1 5) j x := by rw [pr_msup, pz_mR]
  have e0 : ∀ c' k', ¬ c' = 0 → (pz_x (ol_xs (ol_xs σ 0 11 (-1)) c k x) 0).1 c' k' = (ol_xs σ c k x).1 c' k' := fun c' k' h0 => by
    rw [pz_xc 0 c' k' (by omega), pl_xs, px_ne h0, pl_xs]
  have hR : pr_R B bp 10 T U wt' (ol_xs σ c k x) (upd (τ.1 5) j x) := h.2.2.2.1.step h66 hE hI ((pr_K.x _ _ _ ⟨by omega, by omega⟩).tr (pr_K.m _ _ hj))
  refine h.to (fun c' k' hc' => ?_) rfl rfl (fun k' hk => ?_) (fun c' hc' => ?_) (by omega) (by omega) hb hH ?_ ?_ ?_
  · rw [pz_xc 0 c' k' (by omega), px_ne (by omega), pl_xs, if_neg (by omega)]
  · rw [mx_ne (by omega)]
    exact pz_mi 0 k' (by omega)
  · exact funext fun k' => (mx_ne (by omega)).trans (pz_m5 0 c' k' (by omega))
  · rw [er]
    exact hR.ofX (fun c' k' _ _ _ => e0 c' k' (by omega)) rfl rfl
  · rw [er]
    intro q
    rw [e0 _ _ (by omega), px_ne (by omega), pr_ne (by omega)]
    exact h.2.2.2.2.1 q
  · exact Or.inl ((pz_xc 0 0 11 (by omega)).trans ((px_ne (by omega)).trans px_eq))
theorem pz_stick (h : pz_1 K B β bp T U H wt σ τ) (x1 x2 : Int32) : pz_E (K + 1) B β bp (oX1_stick σ β bp x1 x2) (oX4_stick τ x1 x2) := by
  have h6 := h.2.1.1.1.1.2
  rcases pz_rng0 x1 5 (by omega) with ⟨i, i1, i2, i5, i4⟩ | ⟨-, k5, k3⟩
  · have i5 : oX1_isIn x1 0 5 = some 1 := i5
    have i4 : oX4_in x1 0 5 = some 1 := i4
    rcases pz_rng0 x2 2 (by omega) with ⟨k, k1, k2, k5, k4⟩ | ⟨-, k5, k3⟩
    · have k5 : oX1_isIn x2 0 2 = some 1 := k5
      have k4 : oX4_in x2 0 2 = some 1 := k4
      have em : oX4_stick τ x1 x2 = some (τ.1 5 (12 + i), ol_ms (pz_m τ 0) 5 (12 + i) x2) := by
        unfold oX4_stick oX4_stick_L35
        rw [h.1.2.1, i4, k4, if_neg (by decide), Option.bind_some, if_neg (by decide), Option.bind_some, if_neg (by decide), pz_ref0, Option.bind_some, if_pos rfl, i2, show (12 : Int32) = nI 12 from rfl, pl_add, pl_in (n := 251) (by omega) (by omega), pl_ogt, pl_ogt, pl_nn (n := 12 + i) (by omega), pz_m5 0 5 _ (by decide)]
      have ex : oX1_stick σ β bp x1 x2 = some (σ.1 15 i, pz_x (ol_xs (ol_xs σ 0 11 (-1)) 15 i x2) 0) := by
        unfold oX1_stick
        rw [i5, Option.bind_some, if_neg (by decide), k5, Option.bind_some, if_neg (by decide), i2, pl_in (i := i) (n := 6) (by omega) (by omega), pl_ogt, pl_nn (n := i) (by omega)]
        rfl
      have e15 : σ.1 15 i = τ.1 5 (12 + i) := h.2.2.2.1.1.2.1 i (by omega)
      rw [em, ex, e15]
      refine ⟨_, _, _, rfl, rfl, pz_xT 0 (by decide) ((mx_ne (by omega)).trans mx_eq), T, U, H, wt, pz_one h h.2.2.1 (by have := h.1.2.2.2.2; have := pz_pow K; omega) (by omega) ⟨by omega, by omega, by omega, fun b hb => by omega⟩ (by omega) (h.2.2.2.1.1.ln (k := i) (by omega) x2) ?_⟩
      have hI := h.2.2.2.1.2.1
      refine hI.up h6 (pr_ne (by omega)) (Or.inl (pr_ne (by omega))) (Or.inl (pr_ne (by omega))) (pr_ne (by omega)) (pr_ne (by omega)) (pr_ne (by omega)) (fun b hb => ⟨pr_ne (by omega), pr_ne (by omega), Or.inl (pr_ne (by omega)), Or.inl (pr_ne (by omega)), Or.inl ⟨pr_ne (by omega), rfl⟩, Or.inl (pr_ne (by omega))⟩) fun l hl => ?_
      by_cases e : l = i
      · subst e
        rw [pr_eq, k2]
        have c : k = 0 ∨ k = 1 ∨ k = 2 := by omega
        rcases c with q | q | q <;> subst q
        · exact Or.inr (Or.inl rfl)
        · exact Or.inr (Or.inr (Or.inl rfl))
        · exact Or.inr (Or.inr (Or.inr rfl))
      · exact Or.inl (pr_ne (by omega))
    · have k5 : oX1_isIn x2 0 2 = some 0 := k5
      have k3 : oX4_in x2 0 2 = some 0 := k3
      have em : oX4_stick τ x1 x2 = some (-1, pz_m τ 2) := by
        unfold oX4_stick oX4_stick_L35
        rw [h.1.2.1, i4, k3, if_neg (by decide), Option.bind_some, if_neg (by decide), Option.bind_some, if_pos rfl, pz_ref1 (by decide), Option.bind_some, if_neg pz_10]
      have ex : oX1_stick σ β bp x1 x2 = some (-1, pz_x σ 2) := by
        unfold oX1_stick
        rw [i5, Option.bind_some, if_neg (by decide), k5]
        rfl
      rw [em, ex]
      exact pz_no h (by decide)
  · have k5 : oX1_isIn x1 0 5 = some 0 := k5
    have k3 : oX4_in x1 0 5 = some 0 := k3
    have em : oX4_stick τ x1 x2 = some (-1, pz_m τ 1) := by
      unfold oX4_stick oX4_stick_L35
      rw [h.1.2.1, k3, if_neg (by decide), Option.bind_some, if_pos rfl, pz_ref1 (by decide), Option.bind_some, if_neg pz_10]
    have ex : oX1_stick σ β bp x1 x2 = some (-1, pz_x σ 1) := by
      unfold oX1_stick
      rw [k5]
      rfl
    rw [em, ex]
    exact pz_no h (by decide)
/-- one waits for another; heights anew -/
theorem pw_add {n : Nat} {h : Nat → Nat} (hH : pw_H n wt h H) {b o : Nat} (hb : b < n) (ho : o < n) (hob : ¬ o = b) (hno : sp_wf wt H o b = false) : pw_H n (fun x => if x = b then some o else wt x) (fun x => if x = b ∨ sp_wf wt H x b = true then h x + H else h x) (2 * H) := by
  intro x hx
  have h1 := (hH x hx).1
  refine ⟨?_, fun j hj => ?_⟩
  · show (if x = b ∨ sp_wf wt H x b = true then h x + H else h x) < 2 * H
    by_cases q : x = b ∨ sp_wf wt H x b = true
    · rw [if_pos q]
      omega
    · rw [if_neg q]
      omega
  · show j < n ∧ (if j = b ∨ sp_wf wt H j b = true then h j + H else h j) < (if x = b ∨ sp_wf wt H x b = true then h x + H else h x)
    have hj : (if x = b then some o else wt x) = some j := hj
    by_cases e : x = b
    · rw [if_pos e] at hj
      cases hj
      rw [if_pos (Or.inl e), if_neg (fun q => q.elim hob fun q => by rw [hno] at q; cases q)]
      have := (hH o ho).1
      exact ⟨ho, by omega⟩
    · rw [if_neg e] at hj
      obtain ⟨g1, g2⟩ := (hH x hx).2 j hj
      refine ⟨g1, ?_⟩
      obtain ⟨H0, rfl⟩ : ∃ k, H = k + 1 := ⟨H - 1, by omega⟩
      have ew : sp_wf wt (H0 + 1) x b = (decide (j = b) || sp_wf wt (H0 + 1) j b) := by
        unfold sp_wf
        rw [hj]
        show (decide (j = b) || sp_w wt H0 (wt j) b) = _
        rw [pw_more hH b H0 (wt j) fun j' hj' => by
          obtain ⟨p1, p2⟩ := (hH j g1).2 j' hj'
          exact ⟨p1, by omega⟩]
      by_cases q : j = b ∨ sp_wf wt (H0 + 1) j b = true
      · rw [if_pos q, if_pos (Or.inr (by rw [ew]; rcases q with q | q <;> simp [q]))]
        omega
      · rw [if_neg q]
        by_cases q2 : x = b ∨ sp_wf wt (H0 + 1) x b = true
        · rw [if_pos q2]
          omega
        · rw [if_neg q2]
          omega
theorem pw_drop {n : Nat} {h : Nat → Nat} (hH : pw_H n wt h H) (b : Nat) : pw_H n (fun x => if x = b then none else wt x) h H := by
  intro x hx
  refine ⟨(hH x hx).1, fun j hj => ?_⟩
  have hj : (if x = b then none else wt x) = some j := hj
  by_cases e : x = b
  · rw [if_pos e] at hj
    cases hj
  · rw [if_neg e] at hj
    exact (hH x hx).2 j hj
theorem pz_waits (h : pz_1 K B β bp T U H wt σ τ) (hK : K ≤ 24) (x1 x2 : Int32) : pz_E (K + 1) B β bp (oX1_waits σ β bp x1 x2) (oX4_waits τ x1 x2) := by
  have h6 := h.2.1.1.1.1.2
  obtain ⟨hh, hH⟩ := h.2.2.1
  have hF := pz_H h hK
  obtain ⟨w1, w2, w3⟩ := pz_XM h
  have hHb := h.1.2.2.2.2
  have hp := pz_pow K
  have hI := h.2.2.2.1.2.1
  rcases pz_brd h x1 with ⟨b, bn, b6, e, x, m⟩ | ⟨-, x, m⟩
  · obtain ⟨g1, g2, g3⟩ := pz_b b 3 b6 (by omega)
    have e14 : σ.1 14 b = τ.1 5 (18 + 12 * b + 3) := (h.2.2.2.1.1.2.2 b b6).2.2.2.1
    have hup : ∀ (wt' : Nat → Option Nat) (y : Int32), y = pl_en (wt' b) → (∀ x, ¬ x = b → wt' x = wt x) → pv_I B T U wt' (upd (τ.1 5) (18 + 12 * b + 3) y) := fun wt' y hy hw => by
      refine hI.up h6 (pr_ne (by omega)) (Or.inl (pr_ne (by omega))) (Or.inl (pr_ne (by omega))) (pr_ne (by omega)) (pr_ne (by omega)) (pr_ne (by omega)) (fun c hc => ⟨pr_ne (by omega), pr_ne (by omega), Or.inl (pr_ne (by omega)), Or.inl (pr_ne (by omega)), ?_, Or.inl (pr_ne (by omega))⟩) (fun l hl => Or.inl (pr_ne (by omega))) (fun c hc => hw _ (by omega))
      by_cases q : c = b
      · subst q
        exact Or.inr (pr_eq.trans hy)
      · exact Or.inl ⟨pr_ne (by omega), hw c q⟩
    have x61 : ∀ y, (if x2 = -1 then (-2 : Int32) else x2) = y → oX1_waits_L61 β bp x1 x2 σ = some (σ.1 14 b, pz_x (ol_xs (ol_xs σ 0 11 (-1)) 14 b y) 0) := fun y hy => by
      unfold oX1_waits_L61
      rw [e, pl_in (i := b) (n := 6) b6 (by omega), pl_nn (n := b) (by omega), ← hy]
      by_cases q : x2 = -1
      · simp only [if_pos q]
        rfl
      · simp only [if_neg q]
        rfl
    have m54 : ∀ y, (if x2 = -1 then (-2 : Int32) else x2) = y → oX4_waits_L54 x1 x2 0 τ = some (τ.1 5 (18 + 12 * b + 3), ol_ms (pz_m τ 0) 5 (18 + 12 * b + 3) y) := fun y hy => by
      unfold oX4_waits_L54
      rw [pz_ref0, Option.bind_some, if_pos rfl, e, show oX4_at (nI b) 3 = _ from g1, Option.bind_some, Option.bind_some, g2, pl_ogt, pl_ogt, pl_ogt, g3, pz_m5 0 5 _ (by decide), ← hy]
      by_cases q : x2 = -1
      · rw [if_pos q, if_pos q]
      · rw [if_neg q, if_neg q]
    have ref : ∀ w : Int32, ¬ w = 0 → oX4_waits_L54 x1 x2 w τ = some (-1, pz_m τ w) := fun w hw => by
      unfold oX4_waits_L54
      rw [pz_ref1 hw, Option.bind_some, if_neg pz_10]
    have done : ∀ (wt' : Nat → Option Nat) (H' : Nat) (y : Int32), (if x2 = -1 then (-2 : Int32) else x2) = y → y = pl_en (wt' b) → (∀ x, ¬ x = b → wt' x = wt x) → (∃ h, pw_H (pb_n B) wt' h H') → H' ≤ 2 ^ (K + 1) → pz_E (K + 1) B β bp (oX1_waits_L61 β bp x1 x2 σ) (oX4_waits_L54 x1 x2 0 τ) := fun wt' H' y hy hy2 hw hh hb => by
      rw [x61 y hy, m54 y hy, e14]
      exact ⟨_, _, _, rfl, rfl, pz_xT 0 (by decide) ((mx_ne (by omega)).trans mx_eq), T, U, H', wt', pz_one h hh hb (by omega) ⟨by omega, by omega, by omega, fun b' hb' => by omega⟩ (by omega) (h.2.2.2.1.1.bd b6 3 (c := 4) (by omega) y) (hup wt' y hy2 hw)⟩
    have hneg : ¬ (-1 : Int32) = x1 := fun q => by
      rw [e] at q
      have := congrArg Int32.toInt q
      rw [pl_int (by omega)] at this
      have e1 : ((-1 : Int32)).toInt = -1 := by decide
      omega
    by_cases q : x2 = -1
    · have em : oX4_waits τ x1 x2 = oX4_waits_L54 x1 x2 0 τ := by
        unfold oX4_waits oX4_waits_L35
        rw [m, Option.bind_some, if_neg (by decide), if_pos q, if_pos q]
      have ex : oX1_waits σ β bp x1 x2 = oX1_waits_L61 β bp x1 x2 σ := by
        unfold oX1_waits oX1_waits_L27
        rw [x, Option.bind_some, if_neg (by decide), if_pos q, if_neg (by rw [q]; exact hneg), if_pos q]
      rw [em, ex]
      exact done (fun x => if x = b then none else wt x) H (-2) (if_pos q) (by
        show (-2 : Int32) = pl_en (if b = b then none else wt b)
        rw [if_pos rfl]
        rfl) (fun x hx => if_neg hx) ⟨_, pw_drop hH b⟩ (by omega)
    · rcases pz_brd h x2 with ⟨o, on, o6, e2, x', m'⟩ | ⟨-, x', m'⟩
      · by_cases eq : x2 = x1
        · have em : oX4_waits τ x1 x2 = oX4_waits_L54 x1 x2 2 τ := by
            unfold oX4_waits oX4_waits_L35
            rw [m, Option.bind_some, if_neg (by decide), if_neg q, m', Option.bind_some, if_neg (by decide), if_pos eq]
          have ex : oX1_waits σ β bp x1 x2 = some (-1, pz_x σ 2) := by
            unfold oX1_waits oX1_waits_L27
            rw [x, Option.bind_some, if_neg (by decide), if_neg q, x', Option.bind_some, if_neg (by decide), if_pos eq]
            rfl
          rw [em, ex, ref 2 (by decide)]
          exact pz_no h (by decide)
        · have eob : ¬ o = b := fun q' => eq (by rw [e2, e, q'])
          have em : oX4_waits τ x1 x2 = if (bif sp_wf wt H o b then (1 : Int32) else 0) = 0 then oX4_waits_L54 x1 x2 0 τ else oX4_waits_L54 x1 x2 5 τ := by
            unfold oX4_waits oX4_waits_L35
            rw [m, Option.bind_some, if_neg (by decide), if_neg q, m', Option.bind_some, if_neg (by decide), if_neg eq, if_neg q, e2, e, pw_waitsM w2 hH hF on b6, Option.bind_some, decide_eq_false eob, Bool.false_or]
          have ex : oX1_waits σ β bp x1 x2 = if (bif sp_wf wt H o b then (1 : Int32) else 0) = 0 then oX1_waits_L61 β bp x1 x2 σ else some (-1, pz_x σ 5) := by
            unfold oX1_waits oX1_waits_L27
            rw [x, Option.bind_some, if_neg (by decide), if_neg q, x', Option.bind_some, if_neg (by decide), if_neg eq, if_neg q, show oX3_waitsFor σ 10 x2 x1 = some (bif sp_wf wt H o b then (1 : Int32) else 0) by rw [e2, e]; exact pw_waitsX w1 hH hF on b6]
            rfl
          rw [em, ex]
          cases hw : sp_wf wt H o b with
          | true =>
            rw [cond_true, if_neg pz_10, if_neg pz_10, ref 5 (by decide)]
            exact pz_no h (by decide)
          | false =>
            rw [cond_false, if_pos rfl, if_pos rfl]
            exact done (fun x => if x = b then some o else wt x) (2 * H) x2 (if_neg q) (by
              show x2 = pl_en (if b = b then some o else wt b)
              rw [if_pos rfl, e2]
              rfl) (fun x hx => if_neg hx) ⟨_, pw_add hH bn on eob hw⟩ (by omega)
      · have em : oX4_waits τ x1 x2 = oX4_waits_L54 x1 x2 2 τ := by
          unfold oX4_waits oX4_waits_L35
          rw [m, Option.bind_some, if_neg (by decide), if_neg q, m', Option.bind_some, if_pos rfl]
        have ex : oX1_waits σ β bp x1 x2 = some (-1, pz_x σ 2) := by
          unfold oX1_waits
          rw [x, Option.bind_some, if_neg (by decide), if_neg q, x', Option.bind_some, if_pos rfl]
          rfl
        rw [em, ex, ref 2 (by decide)]
        exact pz_no h (by decide)
  · have em : oX4_waits τ x1 x2 = some (-1, pz_m τ 1) := by
      unfold oX4_waits oX4_waits_L54
      rw [m, Option.bind_some, if_pos rfl, pz_ref1 (by decide), Option.bind_some, if_neg pz_10]
    have ex : oX1_waits σ β bp x1 x2 = some (-1, pz_x σ 1) := by
      unfold oX1_waits
      rw [x]
      rfl
    rw [em, ex]
    exact pz_no h (by decide)
end PC5
