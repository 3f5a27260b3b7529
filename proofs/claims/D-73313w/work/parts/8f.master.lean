/-! STEPS of a run, IV: the elected one becomes master -/
set_option maxRecDepth 100000
section PMA
variable {B : ol_Bp} {bp r T U : Nat} {wt : Nat → Option Nat} {σ : ol_Xm} {ρ : Nat → Int32} {τ : ol_Mm}
theorem pr_comm {i j : Nat} (h : ¬ i = j) (x y : Int32) : upd (upd ρ i x) j y = upd (upd ρ j y) i x := by
  funext k
  unfold upd
  by_cases h1 : k = i
  · by_cases h2 : k = j
    · exact absurd (h1.symm.trans h2) h
    · simp [h1, h]
  · simp [h1]
theorem pv_I.mono (h : pv_I B T U wt ρ) {U' : Nat} (hU : U ≤ U') : pv_I B T U' wt ρ := by
  obtain ⟨h0, h1, h2, h3, h4, h5, h7⟩ := h
  refine ⟨h0, h1, h2, h3, h4, fun b hb => ?_, h7⟩
  obtain ⟨g1, g2, g3, t, t1, t2⟩ := h5 b hb
  exact ⟨g1, g2, g3, t, by omega, t2⟩
theorem pr_R.mono (h : pr_R B bp r T U wt σ ρ) {U' : Nat} (hU : U ≤ U') : pr_R B bp r T U' wt σ ρ := ⟨h.1, h.2.1.mono hU, h.2.2⟩
theorem pr_count0 {b : Nat} (hb : b < 6) : oX3_counts σ r (nI b) 0 = some (ol_xs σ (r + 7) (6 * b + 0) (σ.1 (r + 7) (6 * b + 0) + 1)) := pr_countX (k := 0) hb (by omega)
theorem pr_64 {b : Nat} : (6 : Int32) * nI b + 4 = nI (6 * b + 4) := by
  rw [pl_l6, pl_mul, show (4 : Int32) = nI 4 from rfl, pl_add]
theorem pr_at6 {j : Nat} (hj : j < 6) : oX4_at (nI j) 6 = some (nI (18 + 12 * j + 6)) := pw_at (k := 6) hj (by omega)
theorem pr_at10 {j : Nat} (hj : j < 6) : oX4_at (nI j) 10 = some (nI (18 + 12 * j + 10)) := pw_at (k := 10) hj (by omega)
theorem pr_master (h : pr_R B bp r T U wt σ (τ.1 5)) (h6 : pb_n B ≤ 6) {b : Nat} (hb : b < pb_n B) (hel : τ.1 5 3 = nI b) : ∃ σ' τ', oX3_isMaster σ r = some σ' ∧ oX4_becomesMaster τ = some τ' ∧ pr_R B bp r T (U + 1) wt σ' (τ'.1 5) ∧ (∀ c j, ¬ c = r → ¬ c = r + 2 → ¬ c = r + 7 → σ'.1 c j = σ.1 c j) ∧ (∀ j, ¬ j = 9 → ¬ j = 10 → ¬ j = 11 → σ'.1 r j = σ.1 r j) ∧ σ'.2 = σ.2 ∧ pm_K τ τ' := by
  have hb6 : b < 6 := by omega
  obtain ⟨hE, hI, -⟩ := id h
  obtain ⟨f1, -, -, tm, t1, tl, t2⟩ := hI.2.2.2.2.2.1 b hb6
  obtain ⟨e1, e2, -, -, e5⟩ := hE.2.2 b hb6
  have x8 : σ.1 r 8 = nI T := (hE.1 0 (by omega)).trans hI.1
  have x11 : σ.1 r 11 = nI b := (hE.1 3 (by omega)).trans hel
  have m0 : τ.1 5 0 = nI T := hI.1
  have l0 : σ.1 (r + 7) (6 * b + 0) = nI tm := (e5 0 (by omega)).trans t2
  have l4 : σ.1 (r + 7) (6 * b + 4) = τ.1 5 (18 + 12 * b + 10) := e5 4 (by omega)
  -- the number at the end
  obtain ⟨led, hled⟩ : ∃ led : Int32, led = if τ.1 5 (18 + 12 * b + 10) < nI T - τ.1 5 (18 + 12 * b + 1) then nI T - τ.1 5 (18 + 12 * b + 1) else τ.1 5 (18 + 12 * b + 10) := ⟨_, rfl⟩
  have ex : oX3_isMaster σ r = some (ol_xs (ol_xs (ol_xs (ol_xs (ol_xs (ol_xs σ r 9 (nI b)) r 10 (nI T + τ.1 5 (18 + 12 * b))) (r + 2) b 0) r 11 (-2)) (r + 7) (6 * b + 0) (nI (tm + 1))) (r + 7) (6 * b + 4) led) := by
    unfold oX3_isMaster
    simp (disch := omega) only [px_eq, px_nk, px_ne, x11, x8, pl_nn, pl_in, pl_ogt, e1, pr_count0, Option.bind_some, pr_64, l0, l4, e2, pl_s]
    rw [hled]
  have em : oX4_becomesMaster τ = some (ol_ms (ol_ms (ol_ms (ol_ms (ol_ms (ol_ms τ 5 1 (nI b)) 5 2 (nI T + τ.1 5 (18 + 12 * b))) 5 3 (-2)) 5 (18 + 12 * b + 0) 0) 5 (18 + 12 * b + 6) (nI (tm + 1))) 5 (18 + 12 * b + 10) led) := by
    unfold oX4_becomesMaster
    simp (disch := omega) only [hel, pr_at0, pr_at1, pr_at6, pr_at10, Option.bind_some, mx_eq, mx_nk, m0, pl_nn, pl_in, pl_ogt, t2, pl_s]
    rw [hled]
    by_cases g : τ.1 5 (18 + 12 * b + 10) < nI T - τ.1 5 (18 + 12 * b + 1)
    · rw [if_pos g, if_neg (Int32.not_le.mpr g)]
      rfl
    · rw [if_neg g, if_pos (Int32.not_lt.mp g)]
      rfl
  refine ⟨_, _, ex, em, ?_, fun c j h1 h2 h3 => ?_, fun j h1 h2 h3 => ?_, rfl, (((((pm_K.rf.w _ _).w _ _).w _ _).w _ _).w _ _).w _ _⟩
  · have g1 : pr_E r (ol_xs (ol_xs (ol_xs (ol_xs (ol_xs (ol_xs σ r 9 (nI b)) r 10 (nI T + τ.1 5 (18 + 12 * b))) (r + 2) b 0) r 11 (-2)) (r + 7) (6 * b + 0) (nI (tm + 1))) (r + 7) (6 * b + 4) led) (upd (upd (upd (upd (upd (upd (τ.1 5) 1 (nI b)) 2 (nI T + τ.1 5 (18 + 12 * b))) (18 + 12 * b + 0) 0) 3 (-2)) (18 + 12 * b + 6 + 0) (nI (tm + 1))) (18 + 12 * b + 6 + 4) led) :=
      (((((hE.sc (k := 1) (by omega) _).sc (k := 2) (by omega) _).bd hb6 0 (c := 2) (by omega) _).sc (k := 3) (by omega) _).ld hb6 (k := 0) (by omega) _).ld hb6 (k := 4) (by omega) _
    rw [pr_comm (ρ := upd (upd (τ.1 5) 1 (nI b)) 2 (nI T + τ.1 5 (18 + 12 * b))) (show ¬ 18 + 12 * b + 0 = 3 by omega)] at g1
    have g2 : pv_I B T (U + 1) wt (upd (upd (upd (upd (upd (upd (τ.1 5) 1 (nI b)) 2 (nI T + τ.1 5 (18 + 12 * b))) 3 (-2)) (18 + 12 * b + 0) 0) (18 + 12 * b + 6) (nI (tm + 1))) (18 + 12 * b + 10) led) := by
      refine pv_I.free ?_ h6 (18 + 12 * b + 10) led (Or.inr (Or.inr (Or.inr ⟨b, 10, hb6, by omega, rfl⟩)))
      refine pv_I.bd ?_ h6 hb6 6 (Or.inr (Or.inr ⟨rfl, by omega, fun l hl => Nat.le_succ_of_le (tl l hl)⟩))
      refine pv_I.free ?_ h6 (18 + 12 * b + 0) 0 (Or.inr (Or.inr (Or.inr ⟨b, 0, hb6, by omega, rfl⟩)))
      refine pv_I.who ?_ h6 3 (by omega) (o := none) (fun _ q => by cases q)
      refine pv_I.free ?_ h6 2 _ (Or.inl rfl)
      exact (hI.mono (Nat.le_succ U)).who h6 1 (by omega) (o := some b) (fun c q => by cases q; exact hb)
    refine (h.mono (Nat.le_succ U)).step h6 g1 g2 ?_
    exact ((((((pr_K.x _ _ _ (by omega)).tr (pr_K.x _ _ _ (by omega))).tr (pr_K.x _ _ _ (by omega))).tr (pr_K.x _ _ _ (by omega))).tr (pr_K.x _ _ _ (by omega))).tr (pr_K.x _ _ _ (by omega))).tr ((((((pr_K.m _ _ ⟨by omega, by omega, by omega, fun b' hb' => by omega⟩).tr (pr_K.m _ _ ⟨by omega, by omega, by omega, fun b' hb' => by omega⟩)).tr (pr_K.m _ _ ⟨by omega, by omega, by omega, fun b' hb' => by omega⟩)).tr (pr_K.m _ _ ⟨by omega, by omega, by omega, fun b' hb' => by omega⟩)).tr (pr_K.m _ _ ⟨by omega, by omega, by omega, fun b' hb' => by omega⟩)).tr (pr_K.m _ _ ⟨by omega, by omega, by omega, fun b' hb' => by omega⟩))
  · rw [px_ne h3, px_ne h3, px_ne h1, px_ne h2, px_ne h1, px_ne h1]
  · rw [px_ne (by omega), px_ne (by omega), px_nk h3, px_ne (by omega), px_nk h2, px_nk h1]
end PMA
