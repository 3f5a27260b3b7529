/-! THE PASS of the system, whole -/
set_option maxRecDepth 100000
section PXG
variable {σ0 σ : ol_Xm} {β : ol_Bd} {bp : Nat} {p : ol_Pp} {set : Int32}
/-- what stands while the rows are made ready: cells but the pass's are as they were -/
def pg_F (σ0 : ol_Xm) (bp : Nat) (p : ol_Pp) (set tl : Int32) (σ : ol_Xm) : Prop :=
  (σ.2.1 3 = some bp ∧ σ.1 2 8 = set ∧ σ.1 2 13 = nI (pq_f p) ∧ σ.1 2 12 = tl ∧ σ.1 2 11 = 0) ∧ (∀ c k, ¬ (2 ≤ c ∧ c ≤ 9) → σ.1 c k = σ0.1 c k) ∧ (∀ r, ¬ r = 3 → σ.2.1 r = σ0.2.1 r) ∧ σ.2.2 = σ0.2.2
theorem pg_F.w {tl : Int32} (h : pg_F σ0 bp p set tl σ) (c k : Nat) (x : Int32) (hc : (2 ≤ c ∧ c ≤ 9) ∧ (c = 2 → k = 9 ∨ k = 10)) : pg_F σ0 bp p set tl (ol_xs σ c k x) := by
  obtain ⟨⟨h1, h2, h3, h4, h5⟩, h6, h7, h8⟩ := h
  have g : ∀ k', (k' = 8 ∨ k' = 11 ∨ k' = 12 ∨ k' = 13) → (ol_xs σ c k x).1 2 k' = σ.1 2 k' := fun k' hk => by
    rw [pl_xs, if_neg]
    rintro ⟨q1, q2⟩
    have := hc.2 q1.symm
    omega
  exact ⟨⟨h1, (g 8 (by omega)).trans h2, (g 13 (by omega)).trans h3, (g 12 (by omega)).trans h4, (g 11 (by omega)).trans h5⟩, fun c' k' hc' => (px_ne (by omega)).trans (h6 c' k' hc'), h7, h8⟩
/-- rows of the boards ahead of b are ready -/
def pg_R (p : ol_Pp) (b : Nat) (σ : ol_Xm) : Prop := σ.1 2 9 = pl_m (fun i => pq_ln p i = 1) ∧ σ.1 2 10 = pl_m (fun i => pq_ln p i = 2) ∧ ∀ b', b' < b → ((pq_hs p b' → σ.1 3 b' = pq_w p b') ∧ (¬ pq_hs p b' → σ.1 3 b' = 0)) ∧ (∀ i, i < 6 → σ.1 9 (6 * b' + i) = -401) ∧ ∀ t, t < 401 → σ.1 8 (401 * b' + t) = 0
theorem pg_L176 (hp : pq_ok p) {tl x2 x5 x6 : Int32} {lr : Nat} {wf : ol_Xm → Nat → Option Int32} {b : Nat} (hb : b < pq_n p) (k100 : Int32 → ol_Xm → Option ol_Xm) (hF : pg_F σ0 bp p set tl σ) (hR : pg_R p b σ) (hw : (pq_hs p b → σ.1 3 b = pq_w p b) ∧ (¬ pq_hs p b → σ.1 3 b = 0)) (hl : ∀ i, i < 6 → σ.1 9 (6 * b + i) = -401) : ∃ σ', oX2_goes_2_L176 β bp lr wf x2 x5 x6 k100 ol_fuel (nI b) 0 σ = k100 (nI (b + 1)) σ' ∧ pg_F σ0 bp p set tl σ' ∧ pg_R p (b + 1) σ' := by
  have h6 := hp.1.2
  refine pl_for (fun n v s => oX2_goes_2_L176 β bp lr wf x2 x5 x6 k100 n (nI b) v s) 401 (fun t s => pg_F σ0 bp p set tl s ∧ pg_R p b s ∧ ((pq_hs p b → s.1 3 b = pq_w p b) ∧ (¬ pq_hs p b → s.1 3 b = 0)) ∧ (∀ i, i < 6 → s.1 9 (6 * b + i) = -401) ∧ ∀ t', t' < t → s.1 8 (401 * b + t') = 0) (fun r => ∃ σ', r = k100 (nI (b + 1)) σ' ∧ pg_F σ0 bp p set tl σ' ∧ pg_R p (b + 1) σ') (fun n t s ht hs ih => ?_) ol_fuel 0 σ (by omega) (by unfold ol_fuel; omega) ⟨hF, hR, hw, hl, fun t' q => by omega⟩
  show ∃ σ', oX2_goes_2_L176 β bp lr wf x2 x5 x6 k100 (n + 1) (nI b) (nI t) s = _ ∧ _
  obtain ⟨s1, s2, s3, s4, s5⟩ := hs
  rw [oX2_goes_2_L176, pl_s, pl_s]
  by_cases h4 : t < 401
  · rw [if_neg (fun q => by rw [pl_l401] at q; have := (pl_le (by omega) (by omega)).mp q; omega), pl_ixin (by omega) h4, pl_ogt, pl_ix (by omega) (by omega)]
    refine ih h4 _ ⟨s1.w 8 _ _ (by omega), ⟨(px_ne (by omega)).trans s2.1, (px_ne (by omega)).trans s2.2.1, fun b' hb' => ?_⟩, ?_, fun i hi => (px_ne (by omega)).trans (s4 i hi), fun t' ht' => ?_⟩
    · obtain ⟨g1, g2, g3⟩ := s2.2.2 b' hb'
      refine ⟨by rw [px_ne (c' := 3) (by omega)]; exact g1, fun i hi => (px_ne (by omega)).trans (g2 i hi), fun t' ht' => ?_⟩
      rw [px_nk (by omega)]
      exact g3 t' ht'
    · rw [px_ne (c' := 3) (by omega)]
      exact s3
    · by_cases e : t' = t
      · subst e
        exact px_eq
      · rw [px_nk (by omega)]
        exact s5 t' (by omega)
  · have e : t = 401 := by omega
    subst e
    rw [if_pos (show (401 : Int32) ≤ nI 401 by decide)]
    refine ⟨s, rfl, s1, s2.1, s2.2.1, fun b' hb' => ?_⟩
    by_cases e : b' = b
    · subst e
      exact ⟨s3, s4, s5⟩
    · exact s2.2.2 b' (by omega)
theorem pg_L144 (hp : pq_ok p) {tl x2 x5 x6 : Int32} {lr : Nat} {wf : ol_Xm → Nat → Option Int32} {b : Nat} (hb : b < pq_n p) (k100 : Int32 → ol_Xm → Option ol_Xm) (hF : pg_F σ0 bp p set tl σ) (hR : pg_R p b σ) (hw : (pq_hs p b → σ.1 3 b = pq_w p b) ∧ (¬ pq_hs p b → σ.1 3 b = 0)) : ∃ σ', oX2_goes_2_L144 β bp lr wf x2 x5 x6 k100 ol_fuel (nI b) 0 σ = k100 (nI (b + 1)) σ' ∧ pg_F σ0 bp p set tl σ' ∧ pg_R p (b + 1) σ' := by
  have h6 := hp.1.2
  refine pl_for (fun n v s => oX2_goes_2_L144 β bp lr wf x2 x5 x6 k100 n (nI b) v s) 6 (fun i s => pg_F σ0 bp p set tl s ∧ pg_R p b s ∧ ((pq_hs p b → s.1 3 b = pq_w p b) ∧ (¬ pq_hs p b → s.1 3 b = 0)) ∧ ∀ j, j < i → s.1 9 (6 * b + j) = -401) (fun r => ∃ σ', r = k100 (nI (b + 1)) σ' ∧ pg_F σ0 bp p set tl σ' ∧ pg_R p (b + 1) σ') (fun n i s hi hs ih => ?_) ol_fuel 0 σ (by omega) (by unfold ol_fuel; omega) ⟨hF, hR, hw, fun j q => by omega⟩
  show ∃ σ', oX2_goes_2_L144 β bp lr wf x2 x5 x6 k100 (n + 1) (nI b) (nI i) s = _ ∧ _
  obtain ⟨s1, s2, s3, s4⟩ := hs
  rw [oX2_goes_2_L144, pl_s, pl_l6]
  by_cases h4 : i < 6
  · rw [if_neg (fun q => by have := (pl_le (by omega) (by omega)).mp q; omega), pl_mul, pl_add, pl_in (by omega) (by omega), pl_ogt, pl_nn (by omega)]
    refine ih h4 _ ⟨s1.w 9 _ _ (by omega), ⟨(px_ne (by omega)).trans s2.1, (px_ne (by omega)).trans s2.2.1, fun b' hb' => ?_⟩, ?_, fun j hj => ?_⟩
    · obtain ⟨g1, g2, g3⟩ := s2.2.2 b' hb'
      refine ⟨by rw [px_ne (c' := 3) (by omega)]; exact g1, fun i' hi' => ?_, fun t' ht' => (px_ne (by omega)).trans (g3 t' ht')⟩
      rw [px_nk (by omega)]
      exact g2 i' hi'
    · rw [px_ne (c' := 3) (by omega)]
      exact s3
    · by_cases e : j = i
      · subst e
        exact px_eq
      · rw [px_nk (by omega)]
        exact s4 j (by omega)
  · have e : i = 6 := by omega
    subst e
    rw [if_pos ((pl_le (by omega) (by omega)).mpr (Nat.le_refl _))]
    exact pg_L176 hp hb k100 s1 s2 s3 s4
theorem pg_L100 (hp : pq_ok p) (hB : px_B β p) {E lr : Nat} (hE : E < 401) {x6 : Int32} {wf : ol_Xm → Nat → Option Int32} (hset : ∀ b, b < pq_n p → (pl_b set b = true ↔ pq_hs p b)) (hwf : ∀ (τ : ol_Xm) b, b < pq_n p → pq_hs p b → (∀ c k, ¬ (2 ≤ c ∧ c ≤ 9) → τ.1 c k = σ0.1 c k) → (∀ r, ¬ r = 3 → τ.2.1 r = σ0.2.1 r) → wf τ b = some (pq_w p b)) (hF : pg_F σ0 bp p set (nI E) σ) (hR : pg_R p 0 σ) : ∃ σ', oX2_goes_2_L100 β bp lr wf set (nI E) x6 ol_fuel 0 σ = some σ' ∧ px_I σ0 bp p set (nI E) (E + 1) 0 0 (fun b k j => sp_dp p (sp_D p) (E + 1) b k j) (sp_c4 p (sp_D p) (E + 1)) σ' := by
  have h6 := hp.1.2
  refine pl_for (fun n v s => oX2_goes_2_L100 β bp lr wf set (nI E) x6 n v s) (pq_n p) (fun b s => pg_F σ0 bp p set (nI E) s ∧ pg_R p b s) (fun r => ∃ σ', r = some σ' ∧ px_I σ0 bp p set (nI E) (E + 1) 0 0 (fun b k j => sp_dp p (sp_D p) (E + 1) b k j) (sp_c4 p (sp_D p) (E + 1)) σ') (fun n b s hb hs ih => ?_) ol_fuel 0 σ (by omega) (by unfold ol_fuel; omega) ⟨hF, hR⟩
  show ∃ σ', oX2_goes_2_L100 β bp lr wf set (nI E) x6 (n + 1) (nI b) s = _ ∧ _
  obtain ⟨s1, s2⟩ := hs
  rw [oX2_goes_2_L100, hB.1]
  by_cases hbn : b < pq_n p
  · rw [if_neg (fun q => by have := (pl_le (by omega) (by omega)).mp q; omega), pl_hasif (i := b) (by omega), pl_in (i := b) (n := 6) (by omega) (by omega), pl_nn (n := b) (by omega)]
    have g : ∀ x, pg_R p b (ol_xs s 3 b x) := fun x => ⟨(px_ne (by omega)).trans s2.1, (px_ne (by omega)).trans s2.2.1, fun b' hb' => by
      obtain ⟨g1, g2, g3⟩ := s2.2.2 b' hb'
      refine ⟨?_, fun i hi => (px_ne (by omega)).trans (g2 i hi), fun t ht => (px_ne (by omega)).trans (g3 t ht)⟩
      rw [px_nk (by omega)]
      exact g1⟩
    by_cases hh : pq_hs p b
    · rw [if_pos ((hset b hbn).mpr hh), px_ib hp hB hbn, pl_ogt, hwf s b hbn hh s1.2.1 s1.2.2.1, Option.bind_some, pl_ogt]
      obtain ⟨σ', e1, h1, h2⟩ := pg_L144 (β := β) hp hbn (lr := lr) (wf := wf) (x2 := set) (x5 := nI E) (x6 := x6) (oX2_goes_2_L100 β bp lr wf set (nI E) x6 n) (s1.w 3 b (pq_w p b) (by omega)) (g _) ⟨fun _ => px_eq, fun q => absurd hh q⟩
      rw [e1]
      exact ih hbn σ' ⟨h1, h2⟩
    · rw [if_neg (fun q => hh ((hset b hbn).mp q)), pl_ogt]
      obtain ⟨σ', e1, h1, h2⟩ := pg_L144 (β := β) hp hbn (lr := lr) (wf := wf) (x2 := set) (x5 := nI E) (x6 := x6) (oX2_goes_2_L100 β bp lr wf set (nI E) x6 n) (s1.w 3 b 0 (by omega)) (g _) ⟨fun q => absurd q hh, fun _ => px_eq⟩
      rw [e1]
      exact ih hbn σ' ⟨h1, h2⟩
  · have e : b = pq_n p := by omega
    subst e
    rw [if_pos ((pl_le (by omega) (by omega)).mpr (Nat.le_refl _))]
    refine px_c214 hp hB lr wf set x6 hE ⟨⟨fun b t _ q => by omega, fun b t _ q => by omega⟩, fun b k hb hk => ?_, fun b i hb hi => ?_, ?_, ⟨s1.1.1, s1.1.2.1, s1.1.2.2.1, s2.1, s2.2.1, s1.1.2.2.2.1⟩, fun b hb => (s2.2.2 b hb).1, hset, s1.2⟩
    · rw [(s2.2.2 b hb).2.2 k hk]
      refine (pl_m_0 fun j _ q => ?_).symm
      obtain ⟨t, c, q1, -⟩ := q
      omega
    · rw [if_neg (by omega)]
      exact Or.inr ⟨(s2.2.2 b hb).2.1 i hi, fun t q => by omega⟩
    · exact s1.1.2.2.2.2
/-- the whole of it, up to tick E -/
theorem pg_goes (hp : pq_ok p) (hB : px_B β p) {E lr : Nat} (hE : E < 401) (hlr : ol_isr lr) {wf : ol_Xm → Nat → Option Int32} (hln : ∀ i, i < 6 → σ.1 (lr + 5) i = pq_ln p i) (hset : ∀ b, b < pq_n p → (pl_b set b = true ↔ pq_hs p b)) (hwf : ∀ (τ : ol_Xm) b, b < pq_n p → pq_hs p b → (∀ c k, ¬ (2 ≤ c ∧ c ≤ 9) → τ.1 c k = σ.1 c k) → (∀ r, ¬ r = 3 → τ.2.1 r = σ.2.1 r) → wf τ b = some (pq_w p b)) : ∃ σ', oX2_goes_2 σ β bp lr wf set (nI E) (nI (pq_f p)) = some σ' ∧ px_I σ bp p set (nI E) (E + 1) 0 0 (fun b k j => sp_dp p (sp_D p) (E + 1) b k j) (sp_c4 p (sp_D p) (E + 1)) σ' := by
  have hl5 : ¬ (2 ≤ lr + 5 ∧ lr + 5 ≤ 9) := by
    rcases hlr with h | h | h <;> omega
  unfold oX2_goes_2
  refine pl_for (fun n v s => oX2_goes_2_L40 β bp lr wf set (nI E) (nI (pq_f p)) n v s) 6 (fun i s => pg_F σ bp p set (nI E) s ∧ s.1 2 9 = pl_m (fun j => j < i ∧ pq_ln p j = 1) ∧ s.1 2 10 = pl_m (fun j => j < i ∧ pq_ln p j = 2)) (fun r => ∃ σ', r = some σ' ∧ px_I σ bp p set (nI E) (E + 1) 0 0 (fun b k j => sp_dp p (sp_D p) (E + 1) b k j) (sp_c4 p (sp_D p) (E + 1)) σ') (fun n i s hi hs ih => ?_) ol_fuel 0 _ (by omega) (by unfold ol_fuel; omega) ⟨⟨⟨rfl, rfl, rfl, rfl, rfl⟩, fun c k hc => ?_, fun r hr => ?_, rfl⟩, ?_, ?_⟩
  · show ∃ σ', oX2_goes_2_L40 β bp lr wf set (nI E) (nI (pq_f p)) (n + 1) (nI i) s = _ ∧ _
    obtain ⟨s1, s2, s3⟩ := hs
    rw [oX2_goes_2_L40, pl_l6]
    by_cases hi6 : i < 6
    · have hin : ol_in (nI i) 6 = true := pl_in hi6 (by omega)
      have e1 : s.1 (lr + 5) i = pq_ln p i := (s1.2.1 (lr + 5) i hl5).trans (hln i hi6)
      rw [if_neg (fun q => by have := (pl_le (by omega) (by omega)).mp q; omega), hin, pl_ogt, pl_nn (n := i) (by omega), e1]
      unfold oX2_goes_2_L69
      simp only [hin, pl_ogt, pl_nn (n := i) (show i < 2147483648 by omega), pl_s]
      have stay : ∀ (x : Int32) (q : Nat), ¬ pq_ln p i = x → pl_m (fun j => j < i ∧ pq_ln p j = x) = pl_m (fun j => j < i + 1 ∧ pq_ln p j = x) := fun x _ hx => pl_m_ext fun j _ => ⟨fun q => ⟨by omega, q.2⟩, fun q => ⟨by
        rcases Nat.lt_or_ge j i with h | h
        · exact h
        · have : j = i := by omega
          rw [this] at q
          exact absurd q.2 hx, q.2⟩⟩
      have add : ∀ (x : Int32), pq_ln p i = x → pl_m (fun j => j < i ∧ pq_ln p j = x) ||| ((1 : Int32) <<< (nI i &&& 31)) = pl_m (fun j => j < i + 1 ∧ pq_ln p j = x) := fun x hx => by
        rw [pl_m_or1 hi6]
        refine pl_m_ext fun j _ => ⟨fun q => ?_, fun q => ?_⟩
        · rcases q with q | rfl
          · exact ⟨by omega, q.2⟩
          · exact ⟨by omega, hx⟩
        · by_cases e : j = i
          · exact Or.inr e
          · exact Or.inl ⟨by omega, q.2⟩
      by_cases h1 : pq_ln p i = 1
      · have h2 : ¬ pq_ln p i = 2 := fun q => by
          rw [h1] at q
          exact absurd q (by decide)
        have e2 : (ol_xs s 2 9 (s.1 2 9 ||| ((1 : Int32) <<< (nI i &&& 31)))).1 (lr + 5) i = pq_ln p i := (px_ne (by omega)).trans e1
        rw [if_pos h1, e2, if_neg h2]
        refine ih hi6 _ ⟨s1.w 2 9 _ (by omega), ?_, ?_⟩
        · rw [px_eq, s2]
          exact add 1 h1
        · rw [px_nk (by omega), s3]
          exact stay 2 0 h2
      · rw [if_neg h1, e1]
        by_cases h2 : pq_ln p i = 2
        · rw [if_pos h2]
          refine ih hi6 _ ⟨s1.w 2 10 _ (by omega), ?_, ?_⟩
          · rw [px_nk (by omega), s2]
            exact stay 1 0 h1
          · rw [px_eq, s3]
            exact add 2 h2
        · rw [if_neg h2]
          refine ih hi6 _ ⟨s1, ?_, ?_⟩
          · rw [s2]
            exact stay 1 0 h1
          · rw [s3]
            exact stay 2 0 h2
    · have e : i = 6 := by omega
      subst e
      rw [if_pos ((pl_le (by omega) (by omega)).mpr (Nat.le_refl _))]
      exact pg_L100 hp hB hE hset hwf s1 ⟨s2.trans (pl_m_ext fun j hj => ⟨fun q => q.2, fun q => ⟨hj, q⟩⟩), s3.trans (pl_m_ext fun j hj => ⟨fun q => q.2, fun q => ⟨hj, q⟩⟩), fun b' q => by omega⟩
  · rw [px_ne (by omega), px_ne (by omega), px_ne (by omega), px_ne (by omega), px_ne (by omega), px_ne (by omega)]
    rfl
  · show (va_up σ.2.1 3 (some bp)) r = σ.2.1 r
    unfold va_up
    rw [if_neg hr]
  · exact (pl_m_0 fun j _ q => by omega).symm
  · exact (pl_m_0 fun j _ q => by omega).symm
end PXG
