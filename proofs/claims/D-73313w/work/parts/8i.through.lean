/-! STEPS of a run, VII: an arbitration is through -/
set_option maxRecDepth 100000
section PTH
variable {B : ol_Bp} {β : ol_Bd} {bp r T U : Nat} {wt : Nat → Option Nat} {σ σ' σ'' : ol_Xm} {ρ ρ' : Nat → Int32} {τ τ' τ'' : ol_Mm}
theorem pl_xsc {i j : Nat} (h : ¬ i = j) (x y : Int32) : ol_xs (ol_xs σ r i x) r j y = ol_xs (ol_xs σ r j y) r i x := by
  refine Prod.ext (funext fun c => funext fun k => ?_) rfl
  rw [pl_xs, pl_xs, pl_xs, pl_xs]
  by_cases h1 : c = r ∧ k = j
  · rw [if_pos h1, if_neg (fun q => h (by omega)), if_pos h1]
  · rw [if_neg h1]
    by_cases h2 : c = r ∧ k = i
    · rw [if_pos h2, if_pos h2]
    · rw [if_neg h2, if_neg h2, if_neg h1]
theorem pl_xsd {c d i j : Nat} (h : ¬ c = d) (x y : Int32) : ol_xs (ol_xs σ c i x) d j y = ol_xs (ol_xs σ d j y) c i x := by
  refine Prod.ext (funext fun e => funext fun k => ?_) rfl
  rw [pl_xs, pl_xs, pl_xs, pl_xs]
  by_cases h1 : e = d ∧ k = j
  · rw [if_pos h1, if_neg (fun q => h (by omega)), if_pos h1]
  · rw [if_neg h1]
    by_cases h2 : e = c ∧ k = i
    · rw [if_pos h2, if_pos h2]
    · rw [if_neg h2, if_neg h2, if_neg h1]
/-- who may be elected -/
theorem pe_elc {ln w1 : Nat → Int32} {set : Int32} : pe_el B ln set w1 = -2 ∨ ∃ b, b < 6 ∧ b < pb_n B ∧ pe_el B ln set w1 = nI b := by
  obtain ⟨k, ek, hk⟩ := pl_sm_lt (pe_z2s (B := B) (ln := ln) (set := set) (w1 := w1))
  have hb := pe_z2n (B := B) (ln := ln) (set := set) (w1 := w1)
  rw [ek] at hb
  unfold pe_el pe_one
  rw [ek, pl_nn (n := k) (by omega)]
  by_cases h1 : pl_pc k = 1
  · by_cases h0 : k = 0
    · subst h0
      exact absurd h1 (by decide)
    · obtain ⟨-, l1, l2⟩ := pl_lo1 k hk h0
      rw [if_pos h1]
      exact Or.inr ⟨_, l2, (hb _ (by omega) l1).1, rfl⟩
  · rw [if_neg h1]
    exact Or.inl rfl
theorem pv_I.of (h : pv_I B T U wt ρ) (h6 : pb_n B ≤ 6) (e : ∀ j, j < 90 → ρ' j = ρ j) : pv_I B T U wt ρ' :=
  h.up h6 (e 0 (by omega)) (Or.inl (e 1 (by omega))) (Or.inl (e 3 (by omega))) (e 4 (by omega)) (e 5 (by omega)) (e 11 (by omega)) (fun b hb => ⟨e _ (by omega), e _ (by omega), Or.inl (e _ (by omega)), Or.inl (e _ (by omega)), Or.inl ⟨e _ (by omega), rfl⟩, Or.inl (e _ (by omega))⟩) fun i hi => Or.inl (e _ (by omega))
/-- no arbitration goes on any more -/
theorem pv_I.done (h : pv_I B T U wt ρ) : pv_I B T U wt (upd (upd ρ 4 (-2)) 5 0) := by
  obtain ⟨h0, h1, h2, h3, h4, h5, h7⟩ := h
  have e : ∀ j, ¬ j = 4 → ¬ j = 5 → upd (upd ρ 4 (-2)) 5 0 j = ρ j := fun j a b => (pr_ne b).trans (pr_ne a)
  refine ⟨(e 0 (by omega) (by omega)).trans h0, by rw [e 1 (by omega) (by omega)]; exact h1, by rw [e 3 (by omega) (by omega)]; exact h2, ⟨?_, fun b hb q => ?_, fun q => absurd ((pr_ne (by omega)).trans pr_eq) q⟩, by rw [e 11 (by omega) (by omega)]; exact h4, fun b hb => ?_, fun i hi => by rw [e _ (by omega) (by omega)]; exact h7 i hi⟩
  · rw [pr_eq]
    exact fun i _ hi => pl_b_0 i hi
  · rw [pr_eq, pl_b_0 b hb] at q
    cases q
  · rw [e _ (by omega) (by omega), e _ (by omega) (by omega), e _ (by omega) (by omega), e _ (by omega) (by omega)]
    exact h5 b hb
theorem pr_L.of {lg : Nat → Int32} (h : pr_L lg ρ) (e : ∀ j, 90 ≤ j → j < 187 → ρ' j = ρ j) : pr_L lg ρ' := by
  obtain ⟨L, l1, l2, l3, l4⟩ := h
  refine ⟨L, l1, l2, (e 90 (by omega) (by omega)).trans l3, fun i k hi hk => ?_⟩
  rw [e _ (by omega) (by omega)]
  exact l4 i k hi hk
/-- what a tick leaves of the system's state, of the model's -/
def pt_F (r : Nat) (σ σ' : ol_Xm) : Prop := (∀ c k, ¬ (2 ≤ c ∧ c ≤ 9) → ¬ (c = 0 ∧ k = 11) → ¬ (r ≤ c ∧ c ≤ r + 8) → σ'.1 c k = σ.1 c k) ∧ (∀ q, ¬ q = 3 → σ'.2.1 q = σ.2.1 q) ∧ (∀ q, ¬ q = r → σ'.2.2 q = σ.2.2 q) ∧ (σ'.1 0 11 = -1 ∨ ((∀ c k, 2 ≤ c → c ≤ 9 → σ'.1 c k = σ.1 c k) ∧ σ'.1 0 11 = σ.1 0 11 ∧ σ'.2.1 3 = σ.2.1 3))
def pt_G (τ τ' : ol_Mm) : Prop := (∀ c k, ¬ c = 5 → ¬ (8 ≤ c ∧ c ≤ 13) → ¬ (c = 0 ∧ 23 ≤ k ∧ k ≤ 32) → τ'.1 c k = τ.1 c k) ∧ τ'.2 = τ.2
theorem pt_F.rf : pt_F r σ σ := ⟨fun _ _ _ _ _ => rfl, fun _ _ => rfl, fun _ _ => rfl, Or.inr ⟨fun _ _ _ _ => rfl, rfl, rfl⟩⟩
theorem pt_F.tr (h1 : pt_F r σ σ') (h2 : pt_F r σ' σ'') : pt_F r σ σ'' := by
  refine ⟨fun c k a b d => (h2.1 c k a b d).trans (h1.1 c k a b d), fun q hq => (h2.2.1 q hq).trans (h1.2.1 q hq), fun q hq => (h2.2.2.1 q hq).trans (h1.2.2.1 q hq), ?_⟩
  rcases h2.2.2.2 with q | ⟨q1, q2, q3⟩
  · exact Or.inl q
  · rcases h1.2.2.2 with p | ⟨p1, p2, p3⟩
    · exact Or.inl (q2.trans p)
    · exact Or.inr ⟨fun c k a b => (q1 c k a b).trans (p1 c k a b), q2.trans p2, q3.trans p3⟩
theorem pt_F.c (hr : ol_isr r) (h1 : ∀ c k, ¬ (r ≤ c ∧ c ≤ r + 8) → σ'.1 c k = σ.1 c k) (h2 : σ'.2.1 = σ.2.1) (h3 : ∀ q, ¬ q = r → σ'.2.2 q = σ.2.2 q) : pt_F r σ σ' := by
  have hr0 : 9 < r := by rcases hr with h | h | h <;> omega
  exact ⟨fun c k _ _ h => h1 c k h, fun q _ => by rw [h2], h3, Or.inr ⟨fun c k _ _ => h1 c k (by omega), h1 0 11 (by omega), by rw [h2]⟩⟩
theorem pt_F.w (hr : ol_isr r) (h : pt_F r σ σ') (c k : Nat) (x : Int32) (hc : r ≤ c ∧ c ≤ r + 8) : pt_F r σ (ol_xs σ' c k x) := h.tr (pt_F.c hr (fun c' k' q => px_ne (by omega)) rfl fun _ _ => rfl)
theorem pt_G.rf : pt_G τ τ := ⟨fun _ _ _ _ _ => rfl, rfl⟩
theorem pt_G.tr (h1 : pt_G τ τ') (h2 : pt_G τ' τ'') : pt_G τ τ'' := ⟨fun c k a b d => (h2.1 c k a b d).trans (h1.1 c k a b d), h2.2.trans h1.2⟩
theorem pm_K.g (h : pm_K τ τ') : pt_G τ τ' := ⟨fun c k a _ _ => h.1 c k a, h.2⟩
theorem pe_G.g (h : pe_G τ τ') : pt_G τ τ' := ⟨fun c k _ b d => h.1 c k b d, h.2⟩
theorem pr_F.g (hr : ol_isr r) (h : pr_F r σ σ') : pt_F r σ σ' := pt_F.c hr (fun c k q => h.1 c k (by omega) (by omega) (by omega)) (by rw [h.2.2]) (fun _ _ => by rw [h.2.2])
/-- the two tails: someone is elected, put off or not -/
theorem pt_tail (hr : ol_isr r) (h6 : pb_n B ≤ 6) {z el : Int32} (hz : z = -2 ∨ ∃ b, b < 6 ∧ b < pb_n B ∧ z = nI b) (hel : el = -2 ∨ ∃ b, b < 6 ∧ b < pb_n B ∧ el = nI b) (hs : σ.1 r 11 = el) (hR : pr_R B bp r T U wt (ol_xs σ r 11 z) ((ol_ms τ 5 3 z).1 5)) : ∃ σ' τ', (if z = (-2) then some (ol_xs (ol_xs σ r 16 ((σ.1 r 16) + 1)) r 11 (-2)) else if σ.1 r 11 = (-2) then oX3_isThrough_L115 β bp r z σ else if σ.1 r 11 = z then oX3_isThrough_L115 β bp r z σ else ((oX3_counts (ol_xs σ r 18 ((σ.1 r 18) + 1)) r ((ol_xs σ r 18 ((σ.1 r 18) + 1)).1 r 11) 3).bind fun y11 => oX3_isThrough_L115 β bp r z (ol_relog (ol_xs σ r 18 ((σ.1 r 18) + 1)) y11))) = some σ' ∧ (if z = (-2) then some (ol_ms (ol_ms τ 5 3 z) 5 8 (((ol_ms τ 5 3 z).1 5 8) + 1)) else if el = (-2) then ((oX4_isElected (ol_ms τ 5 3 z) z).bind fun y5 => some y5) else if el = z then ((oX4_isElected (ol_ms τ 5 3 z) z).bind fun y7 => some y7) else ((oX4_at el 9).bind fun y9 => (ol_og (ol_in y9 251) ((ol_og (ol_in y9 251) (((oX4_isElected (ol_ms (ol_ms (ol_ms τ 5 3 z) 5 10 (((ol_ms τ 5 3 z).1 5 10) + 1)) 5 y9.toNatClampNeg (((ol_ms (ol_ms τ 5 3 z) 5 10 (((ol_ms τ 5 3 z).1 5 10) + 1)).1 5 y9.toNatClampNeg) + 1)) z).bind fun y13 => some y13))))))) = some τ' ∧ pr_R B bp r T U wt σ' (τ'.1 5) ∧ pt_F r σ σ' ∧ pt_G τ τ' := by
  have e8 : ∀ i, ¬ i = 11 → (ol_xs σ r 11 z).1 r i = σ.1 r i := fun i hi => px_nk hi
  by_cases h2 : z = -2
  · subst h2
    rw [if_pos rfl, if_pos rfl]
    refine ⟨_, _, rfl, rfl, ?_, (pt_F.rf.w hr _ _ _ (by omega)).w hr _ _ _ (by omega), ((pm_K.rf.w _ _).w _ _).g⟩
    rw [pl_xsc (by omega)]
    have ex : σ.1 r 16 = (ol_ms τ 5 3 (-2)).1 5 8 := (e8 16 (by omega)).symm.trans (hR.1.1 8 (by omega))
    rw [ex]
    exact hR.step h6 (hR.1.sc (k := 8) (by omega) _) (hR.2.1.free h6 8 _ (by omega)) ((pr_K.x _ _ _ (by omega)).tr (pr_K.m _ _ ⟨by omega, by omega, by omega, fun b' hb' => by omega⟩))
  · obtain ⟨b, hb6, hb, ez⟩ := hz.resolve_left h2
    rw [if_neg h2, if_neg h2]
    have plain : ∃ σ' τ', oX3_isThrough_L115 β bp r z σ = some σ' ∧ ((oX4_isElected (ol_ms τ 5 3 z) z).bind fun y5 => some y5) = some τ' ∧ pr_R B bp r T U wt σ' (τ'.1 5) ∧ pt_F r σ σ' ∧ pt_G τ τ' := by
      rw [ez] at hR ⊢
      obtain ⟨σ', τ', a1, a2, a3, a4, a5⟩ := pr_elected (β := β) h6 hb6 hR
      refine ⟨σ', τ', a1, ?_, a3, a4.g hr, ((pm_K.rf.w _ _).tr a5).g⟩
      rw [a2, Option.bind_some]
    rw [hs]
    by_cases h3 : el = -2
    · rw [if_pos h3, if_pos h3]
      exact plain
    · rw [if_neg h3, if_neg h3]
      by_cases h4 : el = z
      · rw [if_pos h4, if_pos h4]
        exact plain
      · obtain ⟨e, he6, he, ee⟩ := hel.resolve_left h3
        rw [if_neg h4, if_neg h4]
        have s11 : (ol_xs σ r 18 (σ.1 r 18 + 1)).1 r 11 = nI e := (px_nk (by omega)).trans (hs.trans ee)
        rw [s11, ee, show (3 : Int32) = nI 3 from rfl, pr_countX (k := 3) he6 (by omega), Option.bind_some, show oX4_at (nI e) 9 = some (nI (18 + 12 * e + (6 + 3))) from pw_at (k := 9) he6 (by omega), Option.bind_some, pl_in (n := 251) (by omega) (by omega), pl_ogt, pl_ogt, pl_nn (n := 18 + 12 * e + (6 + 3)) (by omega)]
        rw [pr_relog (σ := ol_xs σ r 18 (σ.1 r 18 + 1)) (y := ol_xs (ol_xs σ r 18 (σ.1 r 18 + 1)) (r + 7) (6 * e + 3) ((ol_xs σ r 18 (σ.1 r 18 + 1)).1 (r + 7) (6 * e + 3) + 1)) rfl]
        have ex : (ol_xs σ r 11 z).1 r 18 = (ol_ms τ 5 3 z).1 5 10 := hR.1.1 10 (by omega)
        have g1 : pr_R B bp r T U wt (ol_xs (ol_xs σ r 11 z) r 18 ((ol_xs σ r 11 z).1 r 18 + 1)) ((ol_ms (ol_ms τ 5 3 z) 5 10 ((ol_ms τ 5 3 z).1 5 10 + 1)).1 5) := by
          rw [ex]
          exact hR.step h6 (hR.1.sc (k := 10) (by omega) _) (hR.2.1.free h6 10 _ (by omega)) ((pr_K.x _ _ _ (by omega)).tr (pr_K.m _ _ ⟨by omega, by omega, by omega, fun b' hb' => by omega⟩))
        obtain ⟨c1, c2, c3⟩ := pr_count g1.1 g1.2.1 h6 he6 (k := 3) (by omega)
        have g2 := g1.step h6 c1 c2 c3
        have eX : ol_xs (ol_xs (ol_xs σ r 18 (σ.1 r 18 + 1)) (r + 7) (6 * e + 3) ((ol_xs σ r 18 (σ.1 r 18 + 1)).1 (r + 7) (6 * e + 3) + 1)) r 11 z = ol_xs (ol_xs (ol_xs σ r 11 z) r 18 ((ol_xs σ r 11 z).1 r 18 + 1)) (r + 7) (6 * e + 3) ((ol_xs (ol_xs σ r 11 z) r 18 ((ol_xs σ r 11 z).1 r 18 + 1)).1 (r + 7) (6 * e + 3) + 1) := by
          rw [pl_xsd (by omega), pl_xsc (by omega), px_ne (c := r) (c' := r + 7) (by omega), px_ne (c := r) (c' := r + 7) (by omega), px_ne (c := r) (c' := r + 7) (by omega), e8 18 (by omega)]
        rw [← eX, ez] at g2
        rw [ez]
        obtain ⟨σ', τ', a1, a2, a3, a4, a5⟩ := pr_elected (β := β) (τ := ol_ms (ol_ms (ol_ms τ 5 3 (nI b)) 5 10 ((ol_ms τ 5 3 (nI b)).1 5 10 + 1)) 5 (18 + 12 * e + (6 + 3)) ((ol_ms (ol_ms τ 5 3 (nI b)) 5 10 ((ol_ms τ 5 3 (nI b)).1 5 10 + 1)).1 5 (18 + 12 * e + (6 + 3)) + 1)) h6 hb6 g2
        refine ⟨σ', τ', a1, ?_, a3, ((pt_F.rf.w hr _ _ _ (by omega)).w hr _ _ _ (by omega)).tr (a4.g hr), ((((pm_K.rf.w _ _).w _ _).w _ _).tr a5).g⟩
        rw [a2, Option.bind_some]
/-- an arbitration is through -/
theorem pr_through (hB : pb_ok B) (hX : pb_X B β) (hM : pb_M B (τ.1 2)) (hr : ol_isr r) (hR : pr_R B bp r T U wt σ (τ.1 5)) (h4 : ¬ τ.1 5 4 = -2) : ∃ σ' τ', oX3_isThrough σ β bp r = some σ' ∧ oX4_endsArbitration τ = some τ' ∧ pr_R B bp r T U wt σ' (τ'.1 5) ∧ pt_F r σ σ' ∧ pt_G τ τ' := by
  have h6 := hB.1.1.2
  have hr0 : 9 < r := by rcases hr with h | h | h <;> omega
  obtain ⟨hE, hI, hL, hP, hW, hbus⟩ := id hR
  obtain ⟨q1, q2⟩ := hI.2.2.2.1.2.2 h4
  have hln : ∀ i, i < 6 → τ.1 5 (12 + i) = 0 ∨ τ.1 5 (12 + i) = 1 ∨ τ.1 5 (12 + i) = 2 := hI.2.2.2.2.2.2
  have hw : ∀ b, b < pb_n B → pl_b (τ.1 5 5) b = true → pl_sm6 (τ.1 5 (18 + 12 * b + 4)) ∧ ¬ τ.1 5 (18 + 12 * b + 4) = 0 := fun b hb hs => (q2 b hb).1 hs
  have e13 : σ.1 r 13 = τ.1 5 5 := hE.1 5 (by omega)
  obtain ⟨σ1, a1, ⟨⟨a2, a3⟩, a4⟩, a5, a6, a7, a8⟩ := pe_passX (B := B) (β := β) (σ := σ) (bp := bp) (r := r) (set := τ.1 5 5) (ln := fun i => τ.1 5 (12 + i)) (w1 := fun b => τ.1 5 (18 + 12 * b + 4)) hB hX hln hr hbus (fun i hi => hE.2.1 i hi) (wf := fun σ i => oX13_of σ β r i) hw (fun υ b hb hs hF => by
    unfold oX13_of
    have e : ol_nb β b = true := by
      unfold ol_nb ol_many
      rw [hX.1.2.2.2.1, pl_nn (n := pb_n B) (by omega)]
      exact decide_eq_true hb
    rw [e, pl_ogt, pl_in (i := b) (n := 6) (by omega) (by omega), pl_ogt, pl_nn (n := b) (by omega), hF.1 (r + 6) b (by omega) (by omega) (by omega)]
    exact congrArg some (hW h4 b hb hs))
  obtain ⟨τ1, b1, b2, b3, b4, b5⟩ := pe_electM (B := B) (τ := τ) (set := τ.1 5 5) (x2 := 1) (ln := fun i => τ.1 5 (12 + i)) (w1 := fun b => τ.1 5 (18 + 12 * b + 4)) (wr := fun b => τ.1 5 (18 + 12 * b + 4)) hB hM hln (fun _ _ => rfl) q1 hw (fun _ _ _ => rfl) (fun b hb => ⟨fun q => absurd q (by decide), fun _ => ⟨rfl, (q2 b hb).2⟩⟩)
  have hz := pe_elc (B := B) (ln := fun i => τ.1 5 (12 + i)) (w1 := fun b => τ.1 5 (18 + 12 * b + 4)) (set := τ.1 5 5)
  obtain ⟨z, ez⟩ : ∃ z, z = pe_el B (fun i => τ.1 5 (12 + i)) (τ.1 5 5) (fun b => τ.1 5 (18 + 12 * b + 4)) := ⟨_, rfl⟩
  obtain ⟨fd, ef⟩ : ∃ z, z = pe_fd B (fun i => τ.1 5 (12 + i)) (τ.1 5 5) (fun b => τ.1 5 (18 + 12 * b + 4)) := ⟨_, rfl⟩
  obtain ⟨z1, ez1⟩ : ∃ z, z = pe_z1 B (fun i => τ.1 5 (12 + i)) (τ.1 5 5) (fun b => τ.1 5 (18 + 12 * b + 4)) := ⟨_, rfl⟩
  obtain ⟨z2, ez2⟩ : ∃ z, z = pe_z2 B (fun i => τ.1 5 (12 + i)) (τ.1 5 5) (fun b => τ.1 5 (18 + 12 * b + 4)) := ⟨_, rfl⟩
  rw [← ez] at a1 b1 hz
  rw [← ef] at a6 b3
  rw [← ez1] at a7 b4
  rw [← ez2] at a8 b5
  have hm5 : ∀ j, τ1.1 5 j = τ.1 5 j := fun j => b2.1 5 j (by omega) (by omega)
  have ha : ∀ j, j < 21 → σ1.1 r j = σ.1 r j := fun j hj => a2 r j (by omega) (by omega) (by omega)
  -- the system's state when it is noted
  obtain ⟨s4, es4⟩ : ∃ s, s = ol_xs (ol_xs σ1 r 15 (σ1.1 r 15 + 1)) r 17 ((ol_xs σ1 r 15 (σ1.1 r 15 + 1)).1 r 17 + (ol_xs σ1 r 15 (σ1.1 r 15 + 1)).1 r 21) := ⟨_, rfl⟩
  have s13 : s4.1 r 13 = τ1.1 5 5 := by
    rw [es4, px_nk (by omega), px_nk (by omega), ha 13 (by omega), e13, hm5]
  have s8 : s4.1 r 8 = τ1.1 5 0 := by
    rw [es4, px_nk (by omega), px_nk (by omega), ha 8 (by omega), hm5]
    exact hE.1 0 (by omega)
  have s21 : s4.1 r 21 = τ1.1 0 30 := by rw [es4, px_nk (by omega), px_nk (by omega), a6, b3]
  have s22 : s4.1 r 22 = τ1.1 0 31 := by rw [es4, px_nk (by omega), px_nk (by omega), a7, b4]
  have s23 : s4.1 r 23 = τ1.1 0 32 := by rw [es4, px_nk (by omega), px_nk (by omega), a8, b5]
  have s2 : s4.2.2 = σ.2.2 := by rw [es4]; exact a4
  have hL1 : pr_L (s4.2.2 r) (τ1.1 5) := by
    rw [s2]
    exact hL.of fun j _ _ => hm5 j
  obtain ⟨τ3, c1, c2, c3, c4⟩ := pr_logs (σ := s4) (r := r) (τ := τ1) hL1 z s8 s21 s22 s23
  rw [s13] at c1
  have hm3 : ∀ j, j < 90 ∨ 187 ≤ j → τ3.1 5 j = τ.1 5 j := fun j hj => (c3 j hj).trans (hm5 j)
  have h030 : τ3.1 0 30 = fd := (c4.1 0 30 (by omega)).trans b3
  -- the tail
  obtain ⟨F, eF⟩ : ∃ F, F = ol_lgPut (if s4.2.2 r 0 = 16 then ol_lgDrop (s4.2.2 r) else s4.2.2 r) (ol_lgE s4 r z) := ⟨_, rfl⟩
  rw [← eF] at c2
  obtain ⟨σa, eσ⟩ : ∃ s, s = ol_xs (ol_xs (ol_lgU s4 r F) r 12 (-2)) r 13 0 := ⟨_, rfl⟩
  obtain ⟨τa, eτ⟩ : ∃ s, s = ol_ms (ol_ms (ol_ms (ol_ms τ3 5 9 ((τ3.1 5 9) + (τ3.1 0 30))) 5 7 (((ol_ms τ3 5 9 ((τ3.1 5 9) + (τ3.1 0 30))).1 5 7) + 1)) 5 4 (-2)) 5 5 0 := ⟨_, rfl⟩
  obtain ⟨el, e3, el6⟩ := hI.2.2.1
  have hel : τ.1 5 3 = -2 ∨ ∃ b, b < 6 ∧ b < pb_n B ∧ τ.1 5 3 = nI b := by
    rw [e3]
    cases el with
    | none => exact Or.inl rfl
    | some b => exact Or.inr ⟨b, Nat.lt_of_lt_of_le (el6 b rfl) h6, el6 b rfl, rfl⟩
  have sa11 : σa.1 r 11 = τ.1 5 3 := by
    rw [eσ, px_nk (by omega), px_nk (by omega)]
    show s4.1 r 11 = _
    rw [es4, px_nk (by omega), px_nk (by omega), ha 11 (by omega)]
    exact hE.1 3 (by omega)
  have hzb : ∀ ρ : Nat → Int32, pv_I B T U wt ρ → pv_I B T U wt (upd ρ 3 z) := fun ρ h => by
    rcases hz with q | ⟨b, b6, bn, q⟩
    · rw [q]
      exact h.who h6 3 (by omega) (o := none) (fun _ q => by cases q)
    · rw [q]
      exact h.who h6 3 (by omega) (o := some b) (fun c q => by cases q; exact bn)
  have hRa : pr_R B bp r T U wt (ol_xs σa r 11 z) ((ol_ms τa 5 3 z).1 5) := by
    have g0 : pr_E r σ1 (τ3.1 5) := (hE.ofX (σ' := σ1) fun c k h1 h2 h3 h4 => a2 c k (by omega) (by omega) (by omega)).of fun j hj _ _ => hm3 j (by omega)
    have x15 : σ1.1 r 15 + 1 = τ3.1 5 7 + 1 := by rw [g0.1 7 (by omega)]
    have x17 : (ol_xs σ1 r 15 (σ1.1 r 15 + 1)).1 r 17 + (ol_xs σ1 r 15 (σ1.1 r 15 + 1)).1 r 21 = τ3.1 5 9 + τ3.1 0 30 := by
      rw [px_nk (by omega), px_nk (by omega), a6, h030, g0.1 9 (by omega)]
    have m7 : (ol_ms τ3 5 9 ((τ3.1 5 9) + (τ3.1 0 30))).1 5 7 = τ3.1 5 7 := mx_nk (by omega)
    rw [eτ, m7]
    refine ⟨?_, ?_, ?_, fun j hj hT => ?_, fun q => absurd (by rw [mx_nk (by omega), mx_nk (by omega), mx_eq]) q, ?_⟩
    · have g1 := (((((g0.sc (k := 7) (by omega) (τ3.1 5 7 + 1)).sc (k := 9) (by omega) (τ3.1 5 9 + τ3.1 0 30)).sc (k := 4) (by omega) (-2)).sc (k := 5) (by omega) 0).sc (k := 3) (by omega) z)
      rw [pr_comm (i := 7) (j := 9) (by omega)] at g1
      rw [eσ, es4, x17, x15]
      exact g1
    · have i1 : pv_I B T U wt (τ3.1 5) := hI.of h6 fun j hj => hm3 j (by omega)
      exact hzb _ (((i1.free h6 9 _ (by omega)).free h6 7 _ (by omega)).done)
    · have g1 : pr_L F (upd (upd (upd (upd (upd (τ3.1 5) 9 (τ3.1 5 9 + τ3.1 0 30)) 7 (τ3.1 5 7 + 1)) 4 (-2)) 5 0) 3 z) := c2.of fun j h1 h2 => by
        rw [pr_ne (by omega), pr_ne (by omega), pr_ne (by omega), pr_ne (by omega), pr_ne (by omega)]
      have e2 : (ol_xs σa r 11 z).2.2 r = F := by
        rw [eσ]
        exact if_pos rfl
      rw [e2]
      exact g1
    · rw [px_ne (by omega), eσ, px_ne (by omega), px_ne (by omega)]
      show s4.1 (r + 8) j = upd (upd (upd (upd (upd (τ3.1 5) 9 (τ3.1 5 9 + τ3.1 0 30)) 7 (τ3.1 5 7 + 1)) 4 (-2)) 5 0) 3 z (187 + j)
      rw [es4, px_ne (by omega), px_ne (by omega), a2 (r + 8) j (by omega) (by omega) (by omega), pr_ne (by omega), pr_ne (by omega), pr_ne (by omega), pr_ne (by omega), pr_ne (by omega), hm3 (187 + j) (by omega)]
      exact hP j hj hT
    · rw [eσ]
      show s4.2.1 r = _
      rw [es4]
      exact (a3 r (by omega)).trans hbus
  obtain ⟨σ', τ', t1, t2, t3, t4, t5⟩ := pt_tail (β := β) hr h6 hz hel sa11 hRa
  refine ⟨σ', τ', ?_, ?_, t3, ?_, ((b2.g.tr c4.g).tr ?_).tr t5⟩
  · unfold oX3_isThrough ol_lt oX3_notes
    rw [e13, a1, Option.bind_some, pr_relog (σ := σ) (y := σ1) a4, ← es4]
    dsimp only
    rw [← eF, Option.bind_some, ← eσ]
    exact t1
  · unfold oX4_endsArbitration
    rw [b1, Option.bind_some, c1, Option.bind_some, ← eτ, hm5 3]
    exact t2
  · have f1 : pt_F r σ σa := by
      rw [eσ]
      refine ⟨fun c k k1 k2 k3 => ?_, fun q hq => ?_, fun q hq => ?_, Or.inl ?_⟩
      · rw [px_ne (by omega), px_ne (by omega)]
        show s4.1 c k = _
        rw [es4, px_ne (by omega), px_ne (by omega)]
        exact a2 c k k1 k2 (by omega)
      · show s4.2.1 q = _
        rw [es4]
        exact a3 q hq
      · show (if q = r then F else s4.2.2 q) = _
        rw [if_neg hq, s2]
      · rw [px_ne (by omega), px_ne (by omega)]
        show s4.1 0 11 = _
        rw [es4, px_ne (by omega), px_ne (by omega)]
        exact a5
    exact f1.tr t4
  · rw [eτ]
    exact ((((pm_K.rf.w _ _).w _ _).w _ _).w _ _).g
end PTH
