/-! STEPS of a run: who asks, who becomes master -/
set_option maxRecDepth 100000
section PS
variable {B : ol_Bp} {bp r T U : Nat} {wt : Nat → Option Nat} {σ σ' : ol_Xm} {ρ ρ' : Nat → Int32} {τ : ol_Mm}
/-- a row's claims, place by place -/
theorem pv_I.up (h : pv_I B T U wt ρ) (h6 : pb_n B ≤ 6) {ρ' : Nat → Int32} {wt' : Nat → Option Nat}
    (e0 : ρ' 0 = ρ 0) (e1 : ρ' 1 = ρ 1 ∨ ∃ ma : Option Nat, ρ' 1 = pl_en ma ∧ ∀ b, ma = some b → b < pb_n B) (e3 : ρ' 3 = ρ 3 ∨ ∃ el : Option Nat, ρ' 3 = pl_en el ∧ ∀ b, el = some b → b < pb_n B) (e4 : ρ' 4 = ρ 4) (e5 : ρ' 5 = ρ 5) (e11 : ρ' 11 = ρ 11)
    (eb : ∀ b, b < 6 → ρ' (18 + 12 * b + 4) = ρ (18 + 12 * b + 4) ∧ ρ' (18 + 12 * b + 5) = ρ (18 + 12 * b + 5) ∧ (ρ' (18 + 12 * b + 1) = ρ (18 + 12 * b + 1) ∨ ∃ s : Nat, s ≤ T ∧ ρ' (18 + 12 * b + 1) = nI s) ∧ (ρ' (18 + 12 * b + 2) = ρ (18 + 12 * b + 2) ∨ ∃ f : Nat, f < 2 ∧ ρ' (18 + 12 * b + 2) = nI f) ∧ ((ρ' (18 + 12 * b + 3) = ρ (18 + 12 * b + 3) ∧ wt' b = wt b) ∨ ρ' (18 + 12 * b + 3) = pl_en (wt' b)) ∧ (ρ' (18 + 12 * b + 6) = ρ (18 + 12 * b + 6) ∨ ∃ t : Nat, t ≤ U ∧ (∀ l, wt' (6 + b) = some l → l ≤ t) ∧ ρ' (18 + 12 * b + 6) = nI t)) (el : ∀ i, i < 6 → ρ' (12 + i) = ρ (12 + i) ∨ ρ' (12 + i) = 0 ∨ ρ' (12 + i) = 1 ∨ ρ' (12 + i) = 2) (ew : ∀ b, b < 6 → wt' (6 + b) = wt (6 + b) := by intros; rfl) : pv_I B T U wt' ρ' := by
  obtain ⟨h0, h1, h2, h3, h4, h5, h7⟩ := h
  refine ⟨e0.trans h0, ?_, ?_, ⟨by rw [e5]; exact h3.1, by rw [e5]; exact h3.2.1, fun q => ?_⟩, by rw [e11]; exact h4, fun b hb => ?_, fun i hi => ?_⟩
  · rcases e1 with e | e
    · rw [e]; exact h1
    · exact e
  · rcases e3 with e | e
    · rw [e]; exact h2
    · exact e
  · rw [e4] at q
    obtain ⟨g1, g2⟩ := h3.2.2 q
    refine ⟨by rw [e5]; exact g1, fun b hb => ?_⟩
    obtain ⟨k1, k2, -⟩ := eb b (by omega)
    rw [e5, k1, k2]
    exact g2 b hb
  · obtain ⟨-, -, k1, k2, k3, k4⟩ := eb b hb
    obtain ⟨g1, g2, g3, g4⟩ := h5 b hb
    refine ⟨?_, ?_, ?_, ?_⟩
    · rcases k1 with k | k
      · rw [k]; exact g1
      · exact k
    · rcases k2 with k | k
      · rw [k]; exact g2
      · exact k
    · rcases k3 with ⟨k, kk⟩ | k
      · rw [k, kk]; exact g3
      · exact k
    · rcases k4 with k | k
      · rw [k, ew b hb]; exact g4
      · exact k
  · rcases el i hi with k | k
    · rw [k]; exact h7 i hi
    · exact k
/-- places that nothing is claimed of -/
theorem pv_I.free (h : pv_I B T U wt ρ) (h6 : pb_n B ≤ 6) (j : Nat) (x : Int32) (hj : j = 2 ∨ (6 ≤ j ∧ j ≤ 10) ∨ 90 ≤ j ∨ ∃ b q, b < 6 ∧ (q = 0 ∨ (7 ≤ q ∧ q < 12)) ∧ j = 18 + 12 * b + q) : pv_I B T U wt (upd ρ j x) := by
  have e : ∀ i, (i < 6 ∧ ¬ i = 2) ∨ (11 ≤ i ∧ i < 18) → upd ρ j x i = ρ i := fun i hi => pr_ne (by
    rcases hj with rfl | hj | hj | ⟨b, q, hb, hq, rfl⟩ <;> omega)
  have eb : ∀ b q, b < 6 → 1 ≤ q → q < 7 → upd ρ j x (18 + 12 * b + q) = ρ (18 + 12 * b + q) := fun b q hb h1 h2 => pr_ne (by
    rcases hj with rfl | hj | hj | ⟨b', q', hb', hq', rfl⟩ <;> omega)
  exact h.up h6 (e 0 (by omega)) (Or.inl (e 1 (by omega))) (Or.inl (e 3 (by omega))) (e 4 (by omega)) (e 5 (by omega)) (e 11 (by omega)) (fun b hb => ⟨eb b 4 hb (by omega) (by omega), eb b 5 hb (by omega) (by omega), Or.inl (eb b 1 hb (by omega) (by omega)), Or.inl (eb b 2 hb (by omega) (by omega)), Or.inl ⟨eb b 3 hb (by omega) (by omega), rfl⟩, Or.inl (eb b 6 hb (by omega) (by omega))⟩) (fun i hi => Or.inl (e (12 + i) (by omega)))
/-- a board's since, freshness, times -/
theorem pv_I.bd (h : pv_I B T U wt ρ) (h6 : pb_n B ≤ 6) {b : Nat} (hb : b < 6) (q : Nat) {s : Nat} (hq : (q = 1 ∧ s ≤ T) ∨ (q = 2 ∧ s < 2) ∨ (q = 6 ∧ s ≤ U ∧ ∀ l, wt (6 + b) = some l → l ≤ s)) : pv_I B T U wt (upd ρ (18 + 12 * b + q) (nI s)) := by
  have e : ∀ i, i < 18 → upd ρ (18 + 12 * b + q) (nI s) i = ρ i := fun i hi => pr_ne (by omega)
  have eb : ∀ b' q', q' < 7 → ¬ (b' = b ∧ q' = q) → upd ρ (18 + 12 * b + q) (nI s) (18 + 12 * b' + q') = ρ (18 + 12 * b' + q') := fun b' q' h1 h2 => pr_ne (by omega)
  refine h.up h6 (e 0 (by omega)) (Or.inl (e 1 (by omega))) (Or.inl (e 3 (by omega))) (e 4 (by omega)) (e 5 (by omega)) (e 11 (by omega)) (fun b' hb' => ⟨eb b' 4 (by omega) (by omega), eb b' 5 (by omega) (by omega), ?_, ?_, Or.inl ⟨eb b' 3 (by omega) (by omega), rfl⟩, ?_⟩) (fun i hi => Or.inl (e (12 + i) (by omega)))
  · by_cases g : b' = b ∧ 1 = q
    · obtain ⟨rfl, rfl⟩ := g
      exact Or.inr ⟨s, by omega, pr_eq⟩
    · exact Or.inl (eb b' 1 (by omega) g)
  · by_cases g : b' = b ∧ 2 = q
    · obtain ⟨rfl, rfl⟩ := g
      exact Or.inr ⟨s, by omega, pr_eq⟩
    · exact Or.inl (eb b' 2 (by omega) g)
  · by_cases g : b' = b ∧ 6 = q
    · obtain ⟨rfl, rfl⟩ := g
      exact Or.inr ⟨s, by omega, (hq.elim (fun q => absurd q.1 (by omega)) fun q => q.elim (fun q => absurd q.1 (by omega)) fun q => q.2.2), pr_eq⟩
    · exact Or.inl (eb b' 6 (by omega) g)
/-- master, elect -/
theorem pv_I.who (h : pv_I B T U wt ρ) (h6 : pb_n B ≤ 6) (q : Nat) (hq : q = 1 ∨ q = 3) {o : Option Nat} (ho : ∀ b, o = some b → b < pb_n B) : pv_I B T U wt (upd ρ q (pl_en o)) := by
  have e : ∀ i, ¬ i = q → upd ρ q (pl_en o) i = ρ i := fun i hi => pr_ne hi
  refine h.up h6 (e 0 (by omega)) ?_ ?_ (e 4 (by omega)) (e 5 (by omega)) (e 11 (by omega)) (fun b hb => ⟨e _ (by omega), e _ (by omega), Or.inl (e _ (by omega)), Or.inl (e _ (by omega)), Or.inl ⟨e _ (by omega), rfl⟩, Or.inl (e _ (by omega))⟩) (fun i hi => Or.inl (e (12 + i) (by omega)))
  · by_cases g : 1 = q
    · subst g
      exact Or.inr ⟨o, pr_eq, ho⟩
    · exact Or.inl (e 1 g)
  · by_cases g : 3 = q
    · subst g
      exact Or.inr ⟨o, pr_eq, ho⟩
    · exact Or.inl (e 3 g)
/-- what a step leaves of a run: log, latest masters, words -/
def pr_K (r : Nat) (σ σ' : ol_Xm) (ρ ρ' : Nat → Int32) : Prop := (∀ k, σ'.1 (r + 8) k = σ.1 (r + 8) k) ∧ (∀ k, σ'.1 (r + 6) k = σ.1 (r + 6) k) ∧ σ'.2 = σ.2 ∧ ρ' 4 = ρ 4 ∧ ρ' 5 = ρ 5 ∧ (∀ b, b < 6 → ρ' (18 + 12 * b + 4) = ρ (18 + 12 * b + 4)) ∧ ∀ j, 90 ≤ j → ρ' j = ρ j
theorem pr_K.rf : pr_K r σ σ ρ ρ := ⟨fun _ => rfl, fun _ => rfl, rfl, rfl, rfl, fun _ _ => rfl, fun _ _ => rfl⟩
theorem pr_K.tr {σ'' : ol_Xm} {ρ'' : Nat → Int32} (h1 : pr_K r σ σ' ρ ρ') (h2 : pr_K r σ' σ'' ρ' ρ'') : pr_K r σ σ'' ρ ρ'' :=
  ⟨fun k => (h2.1 k).trans (h1.1 k), fun k => (h2.2.1 k).trans (h1.2.1 k), h2.2.2.1.trans h1.2.2.1, h2.2.2.2.1.trans h1.2.2.2.1, h2.2.2.2.2.1.trans h1.2.2.2.2.1, fun b hb => (h2.2.2.2.2.2.1 b hb).trans (h1.2.2.2.2.2.1 b hb), fun j hj => (h2.2.2.2.2.2.2 j hj).trans (h1.2.2.2.2.2.2 j hj)⟩
theorem pr_K.x (c k : Nat) (x : Int32) (hc : ¬ c = r + 8 ∧ ¬ c = r + 6) : pr_K r σ (ol_xs σ c k x) ρ ρ := ⟨fun _ => px_ne fun q => hc.1 q.symm, fun _ => px_ne fun q => hc.2 q.symm, rfl, rfl, rfl, fun _ _ => rfl, fun _ _ => rfl⟩
theorem pr_K.m (j : Nat) (x : Int32) (hj : j < 90 ∧ ¬ j = 4 ∧ ¬ j = 5 ∧ ∀ b, b < 6 → ¬ j = 18 + 12 * b + 4) : pr_K r σ σ ρ (upd ρ j x) := ⟨fun _ => rfl, fun _ => rfl, rfl, pr_ne fun q => hj.2.1 q.symm, pr_ne fun q => hj.2.2.1 q.symm, fun b hb => pr_ne fun q => hj.2.2.2 b hb q.symm, fun i hi => pr_ne (by omega)⟩
theorem pr_R.step (h : pr_R B bp r T U wt σ ρ) (h6 : pb_n B ≤ 6) (hE : pr_E r σ' ρ') {wt' : Nat → Option Nat} (hI : pv_I B T U wt' ρ') (hK : pr_K r σ σ' ρ ρ') : pr_R B bp r T U wt' σ' ρ' := by
  obtain ⟨-, -, hL, hP, hW, hb⟩ := h
  obtain ⟨k1, k2, k3, k4, k5, k6, k7⟩ := hK
  refine ⟨hE, hI, ?_, fun j hj hT => ?_, fun q b hb hs => ?_, by rw [k3]; exact hb⟩
  · obtain ⟨L, l1, l2, l3, l4⟩ := hL
    refine ⟨L, l1, by rw [k3]; exact l2, by rw [k7 90 (by omega)]; exact l3, fun i k hi hk => ?_⟩
    rw [k3, k7 _ (by omega)]
    exact l4 i k hi hk
  · rw [k1, k7 _ (by omega)]
    exact hP j hj hT
  · rw [k4] at q
    rw [k5] at hs
    rw [k2, k6 b (by omega)]
    exact hW q b hb hs
/-! counting -/
theorem pr_countX {b k : Nat} (hb : b < 6) (hk : k < 6) : oX3_counts σ r (nI b) (nI k) = some (ol_xs σ (r + 7) (6 * b + k) (σ.1 (r + 7) (6 * b + k) + 1)) := by
  unfold oX3_counts
  rw [pl_l6, pl_mul, pl_add, pl_in (by omega) (by omega), pl_ogt, pl_ogt, pl_nn (by omega)]
theorem pr_msup (τ : ol_Mm) (j : Nat) (x : Int32) : (ol_ms τ 5 j x).1 5 = upd (τ.1 5) j x := rfl
/-- a count on both sides -/
theorem pr_count (h : pr_E r σ ρ) (hI : pv_I B T U wt ρ) (h6 : pb_n B ≤ 6) {b k : Nat} (hb : b < 6) (hk : 1 ≤ k ∧ k < 6) : pr_E r (ol_xs σ (r + 7) (6 * b + k) (σ.1 (r + 7) (6 * b + k) + 1)) (upd ρ (18 + 12 * b + (6 + k)) (ρ (18 + 12 * b + (6 + k)) + 1)) ∧ pv_I B T U wt (upd ρ (18 + 12 * b + (6 + k)) (ρ (18 + 12 * b + (6 + k)) + 1)) ∧ pr_K r σ (ol_xs σ (r + 7) (6 * b + k) (σ.1 (r + 7) (6 * b + k) + 1)) ρ (upd ρ (18 + 12 * b + (6 + k)) (ρ (18 + 12 * b + (6 + k)) + 1)) := by
  obtain ⟨-, -, -, -, h5⟩ := h.2.2 b hb
  rw [h5 k hk.2, show 18 + 12 * b + 6 + k = 18 + 12 * b + (6 + k) by omega]
  refine ⟨?_, hI.free h6 _ _ (Or.inr (Or.inr (Or.inr ⟨b, 6 + k, hb, by omega, rfl⟩))), (pr_K.x _ _ _ (by omega)).tr (pr_K.m _ _ ⟨by omega, by omega, by omega, fun b' hb' => by omega⟩)⟩
  have := h.ld hb hk.2 (ρ (18 + 12 * b + (6 + k)) + 1)
  rw [show 18 + 12 * b + 6 + k = 18 + 12 * b + (6 + k) by omega] at this
  exact this
/-- a state of the model but for its row -/
def pm_K (τ τ' : ol_Mm) : Prop := (∀ c k, ¬ c = 5 → τ'.1 c k = τ.1 c k) ∧ τ'.2 = τ.2
theorem pm_K.rf : pm_K τ τ := ⟨fun _ _ _ => rfl, rfl⟩
theorem pm_K.w {τ' : ol_Mm} (h : pm_K τ τ') (j : Nat) (x : Int32) : pm_K τ (ol_ms τ' 5 j x) := ⟨fun c k hc => (mx_ne hc).trans (h.1 c k hc), h.2⟩
theorem pm_K.tr {a b c : ol_Mm} (h1 : pm_K a b) (h2 : pm_K b c) : pm_K a c := ⟨fun i k hi => (h2.1 i k hi).trans (h1.1 i k hi), h2.2.trans h1.2⟩
theorem pr_at0 {j : Nat} (hj : j < 6) : oX4_at (nI j) 0 = some (nI (18 + 12 * j + 0)) := pw_at (k := 0) hj (by omega)
theorem pr_at1 {j : Nat} (hj : j < 6) : oX4_at (nI j) 1 = some (nI (18 + 12 * j + 1)) := pw_at (k := 1) hj (by omega)
/-- a board asks -/
theorem pr_hears (h : pr_R B bp r T U wt σ (τ.1 5)) (h6 : pb_n B ≤ 6) {b : Nat} (hb : b < pb_n B) (x2 : Int32) : ∃ z σ' τ', oX3_hears σ r (nI b) x2 = some (z, σ') ∧ oX4_asks τ (nI b) x2 = some (z, τ') ∧ (z = 0 ∨ z = 1) ∧ pr_R B bp r T U wt σ' (τ'.1 5) ∧ (∀ c k, ¬ c = r + 2 → ¬ c = r + 3 → ¬ c = r + 7 → σ'.1 c k = σ.1 c k) ∧ σ'.2 = σ.2 ∧ pm_K τ τ' ∧ ∀ j, (j < 18 ∨ 90 ≤ j) → τ'.1 5 j = τ.1 5 j := by
  have hb6 : b < 6 := by omega
  obtain ⟨hE, hI, -⟩ := id h
  obtain ⟨e1, e2, e3, e4, e5⟩ := hE.2.2 b hb6
  have hma : σ.1 r 9 = τ.1 5 1 := hE.1 1 (by omega)
  have refuse : ∃ z σ' τ', ((oX3_counts σ r (nI b) 2).bind fun y2 => some ((0 : Int32), y2)) = some (z, σ') ∧ oX4_asks_L23 (nI b) x2 τ = some (z, τ') ∧ (z = 0 ∨ z = 1) ∧ pr_R B bp r T U wt σ' (τ'.1 5) ∧ (∀ c k, ¬ c = r + 2 → ¬ c = r + 3 → ¬ c = r + 7 → σ'.1 c k = σ.1 c k) ∧ σ'.2 = σ.2 ∧ pm_K τ τ' ∧ ∀ j, (j < 18 ∨ 90 ≤ j) → τ'.1 5 j = τ.1 5 j := by
    obtain ⟨c1, c2, c3⟩ := pr_count hE hI h6 hb6 (k := 2) (by omega)
    refine ⟨0, _, _, ?_, ?_, Or.inl rfl, h.step h6 c1 c2 c3, fun c k _ _ hc => px_ne hc, rfl, pm_K.rf.w _ _, fun j hj => pr_ne (by omega)⟩
    · rw [pl_l2, pr_countX hb6 (by omega), Option.bind_some]
    · unfold oX4_asks_L23
      rw [show (8 : Int32) = nI 8 from rfl, pw_at hb6 (by omega), Option.bind_some, pl_in (n := 251) (by omega) (by omega), pl_ogt, pl_ogt, pl_nn (by omega)]
  unfold oX3_hears oX4_asks
  rw [pl_in (i := b) (n := 6) hb6 (by omega), pl_ogt, pl_nn (n := b) (by omega), pr_at0 hb6, Option.bind_some, pl_in (n := 251) (by omega) (by omega), pl_ogt, pl_nn (by omega), e1, hma]
  show ∃ z σ' τ', _ ∧ (if 0 < τ.1 5 (18 + 12 * b) then _ else _) = _ ∧ _
  by_cases h0 : 0 < τ.1 5 (18 + 12 * b)
  · rw [if_pos h0, if_pos h0]
    exact refuse
  · rw [if_neg h0, if_neg h0]
    by_cases h1 : τ.1 5 1 = nI b
    · rw [if_pos h1, if_pos h1]
      exact refuse
    · rw [if_neg h1, if_neg h1, pl_ogt, Option.bind_some, pl_in (n := 251) (by omega) (by omega), pl_ogt, pr_at1 hb6, Option.bind_some, pl_in (n := 251) (by omega) (by omega), pl_ogt, pl_nn (n := 18 + 12 * b + 0) (by omega), pl_nn (n := 18 + 12 * b + 1) (by omega)]
      have t0 : σ.1 r 8 = nI T := (hE.1 0 (by omega)).trans hI.1
      have g1 : pr_E r (ol_xs (ol_xs σ (r + 2) b x2) (r + 3) b (nI T)) (upd (upd (τ.1 5) (18 + 12 * b + 0) x2) (18 + 12 * b + 1) (nI T)) := (hE.bd hb6 0 (c := 2) (by omega) x2).bd hb6 1 (c := 3) (by omega) (nI T)
      have g2 : pv_I B T U wt (upd (upd (τ.1 5) (18 + 12 * b + 0) x2) (18 + 12 * b + 1) (nI T)) := (hI.free h6 (18 + 12 * b + 0) x2 (Or.inr (Or.inr (Or.inr ⟨b, 0, hb6, by omega, rfl⟩)))).bd h6 hb6 1 (by omega)
      refine ⟨1, _, _, rfl, rfl, Or.inr rfl, ?_, fun c k q1 q2 _ => (px_ne q2).trans (px_ne q1), rfl, (pm_K.rf.w _ _).w _ _, fun j hj => (pr_ne (by omega)).trans (pr_ne (by omega))⟩
      have t1 : (ol_xs σ (r + 2) b x2).1 r 8 = nI T := (px_ne (by omega)).trans t0
      have t2 : (ol_ms τ 5 (18 + 12 * b + 0) x2).1 5 0 = nI T := (pr_ne (by omega)).trans hI.1
      rw [t1, t2]
      exact h.step h6 g1 g2 (((pr_K.x _ _ _ (by omega)).tr (pr_K.x _ _ _ (by omega))).tr ((pr_K.m _ _ ⟨by omega, by omega, by omega, fun b' hb' => by omega⟩).tr (pr_K.m _ _ ⟨by omega, by omega, by omega, fun b' hb' => by omega⟩)))
end PS
