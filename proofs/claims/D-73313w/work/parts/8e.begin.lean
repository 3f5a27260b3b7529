/-! STEPS of a run, III: an arbitration begins -/
set_option maxRecDepth 100000
theorem pl_dr1 : ∀ k, k < 64 → ¬ k = 0 → nI k &&& (nI k - 1) = nI (k - 2 ^ pl_lo k) ∧ k - 2 ^ pl_lo k < k := by decide +kernel
theorem pl_dr2 : ∀ k, k < 64 → ¬ k = 0 → ∀ j, j < 32 → pl_b (nI (k - 2 ^ pl_lo k)) j = (pl_b (nI k) j && !decide (j = pl_lo k)) := by decide +kernel
section PBG
variable {B : ol_Bp} {β : ol_Bd} {bp r T U H : Nat} {wt : Nat → Option Nat} {h : Nat → Nat} {σ : ol_Xm} {τ : ol_Mm} {fr : Nat → Nat}
theorem pr_w1 (x2 : pw_b (pb_n B) (pb_rk B) fr (pb_cd B)) {b : Nat} (hb : b < pb_n B) : pl_sm6 (sp_w1 (pb_n B) wt (pb_rk B) fr H b) ∧ ¬ sp_w1 (pb_n B) wt (pb_rk B) fr H b = 0 := by
  have h1 := sp_rd_lt (wt := wt) (H := H) x2 hb
  have h2 := (x2 b hb).2.1
  exact pl_parsm (by omega)
/-- words of those that ask, in the run -/
theorem pr_L37 (hB : pb_ok B) (x1 : pw_X σ β bp r (pb_n B) wt (pb_rk B) fr (pb_cd B)) (x2 : pw_b (pb_n B) (pb_rk B) fr (pb_cd B)) (hH : pw_H (pb_n B) wt h H) (hF : H < ol_fuel) : ∀ k, k < 64 → (∀ b, b < 32 → pl_b (nI k) b = true → b < pb_n B) → ∀ m, k < m → ∀ s : ol_Xm, (∀ c j, ¬ c = r + 6 → s.1 c j = σ.1 c j) → s.2 = σ.2 → ∃ σ', oX3_begins_2_L37 β bp r m (nI k) s = some σ' ∧ (∀ b, b < 32 → pl_b (nI k) b = true → σ'.1 (r + 6) b = sp_w1 (pb_n B) wt (pb_rk B) fr H b) ∧ (∀ b, b < 32 → ¬ pl_b (nI k) b = true → σ'.1 (r + 6) b = s.1 (r + 6) b) ∧ (∀ c j, ¬ c = r + 6 → σ'.1 c j = σ.1 c j) ∧ σ'.2 = σ.2 := by
  have h6 := hB.1.1.2
  intro k
  induction k using Nat.strongRecOn with
  | _ k ih =>
    intro hk hn m hm s hs hs2
    obtain ⟨m, rfl⟩ : ∃ i, m = i + 1 := ⟨m - 1, by omega⟩
    by_cases h0 : k = 0
    · subst h0
      refine ⟨s, ?_, fun b hb q => ?_, fun _ _ _ => rfl, hs, hs2⟩
      · rw [oX3_begins_2_L37, if_pos (show nI 0 = 0 from rfl)]
      · rw [show nI 0 = (0 : Int32) from rfl, pl_b_0 b hb] at q
        cases q
    · obtain ⟨l0, l1, l2⟩ := pl_lo1 k hk h0
      obtain ⟨d1, d2⟩ := pl_dr1 k hk h0
      have hln : pl_lo k < pb_n B := hn _ (by omega) l1
      have x1' : pw_X s β bp r (pb_n B) wt (pb_rk B) fr (pb_cd B) := ⟨⟨by rw [hs2]; exact x1.1.1, x1.1.2⟩, fun b hb => by
        obtain ⟨g1, g2, g3, g4⟩ := x1.2 b hb
        exact ⟨(hs _ _ (by omega)).trans g1, g2, (hs _ _ (by omega)).trans g3, g4⟩⟩
      rw [oX3_begins_2_L37, if_neg (fun q => h0 ((pl_eq0 (by omega)).mp q)), l0, Option.bind_some, pw_ib x1 hln, pl_ogt, pl_nn (n := pl_lo k) (by omega), pw_firstX x1' x2 hH hF hln, Option.bind_some, pl_in (i := pl_lo k) (n := 6) (by omega) (by omega), pl_ogt, pl_nn (n := pl_lo k) (by omega), d1]
      have hbit := pl_dr2 k hk h0
      obtain ⟨σ', e1, e2, e3, e4, e5⟩ := ih _ d2 (by omega) (fun b hb q => by
        rw [hbit b hb, Bool.and_eq_true] at q
        exact hn b hb q.1) m (by omega) (ol_xs s (r + 6) (pl_lo k) (sp_w1 (pb_n B) wt (pb_rk B) fr H (pl_lo k))) (fun c j hc => (px_ne hc).trans (hs c j hc)) hs2
      refine ⟨σ', e1, fun b hb q => ?_, fun b hb q => ?_, e4, e5⟩
      · by_cases e : b = pl_lo k
        · rw [e3 b hb (by rw [hbit b hb, e]; simp), e, px_eq]
        · exact e2 b hb (by rw [hbit b hb, q]; simp [e])
      · have e : ¬ b = pl_lo k := fun e => q (by rw [e]; exact l1)
        rw [e3 b hb (by rw [hbit b hb]; simp [q]), px_nk e]
/-- words of all boards, in the row -/
theorem pr_L33 (hB : pb_ok B) (hM : pb_M B (τ.1 2)) (x1 : pw_M τ (pb_n B) wt (pb_rk B) fr (pb_cd B)) (x2 : pw_b (pb_n B) (pb_rk B) fr (pb_cd B)) (hH : pw_H (pb_n B) wt h H) (hF : H < ol_fuel) : ∃ τ', oX4_beginsArbitration_L33 ol_fuel 0 τ = some τ' ∧ (∀ b, b < pb_n B → τ'.1 5 (18 + 12 * b + 4) = sp_w1 (pb_n B) wt (pb_rk B) fr H b ∧ τ'.1 5 (18 + 12 * b + 5) = sp_w2 (pb_cd B) b) ∧ (∀ j, (∀ b, b < 6 → ¬ j = 18 + 12 * b + 4 ∧ ¬ j = 18 + 12 * b + 5) → τ'.1 5 j = τ.1 5 j) ∧ pm_K τ τ' := by
  have h6 := hB.1.1.2
  refine pl_for (fun n v s => oX4_beginsArbitration_L33 n v s) (pb_n B) (fun k s => (∀ b, b < k → s.1 5 (18 + 12 * b + 4) = sp_w1 (pb_n B) wt (pb_rk B) fr H b ∧ s.1 5 (18 + 12 * b + 5) = sp_w2 (pb_cd B) b) ∧ (∀ j, (∀ b, b < 6 → ¬ j = 18 + 12 * b + 4 ∧ ¬ j = 18 + 12 * b + 5) → s.1 5 j = τ.1 5 j) ∧ pm_K τ s) (fun z => ∃ τ', z = some τ' ∧ (∀ b, b < pb_n B → τ'.1 5 (18 + 12 * b + 4) = sp_w1 (pb_n B) wt (pb_rk B) fr H b ∧ τ'.1 5 (18 + 12 * b + 5) = sp_w2 (pb_cd B) b) ∧ (∀ j, (∀ b, b < 6 → ¬ j = 18 + 12 * b + 4 ∧ ¬ j = 18 + 12 * b + 5) → τ'.1 5 j = τ.1 5 j) ∧ pm_K τ τ') (fun n k s hk hs ih => ?_) ol_fuel 0 τ (by omega) (by unfold ol_fuel; omega) ⟨fun b q => by omega, fun _ _ => rfl, pm_K.rf⟩
  obtain ⟨s1, s2, s3⟩ := hs
  show ∃ τ', oX4_beginsArbitration_L33 (n + 1) (nI k) s = _ ∧ _
  have h23 : s.1 2 3 = nI (pb_n B) := (s3.1 2 3 (by omega)).trans hM.1.2.2.2.1
  rw [oX4_beginsArbitration_L33, h23, pl_s]
  by_cases hkn : k < pb_n B
  · have xs : ∀ (u : ol_Mm), (∀ j, (∀ b, b < 6 → ¬ j = 18 + 12 * b + 4 ∧ ¬ j = 18 + 12 * b + 5) → u.1 5 j = τ.1 5 j) → pm_K τ u → pw_M u (pb_n B) wt (pb_rk B) fr (pb_cd B) := fun u u1 u2 => ⟨⟨(u2.1 2 3 (by omega)).trans hM.1.2.2.2.1, h6⟩, fun b hb => by
      obtain ⟨g1, g2, g3, g4⟩ := x1.2 b hb
      exact ⟨(u1 _ fun b' hb' => by omega).trans g1, (u2.1 2 _ (by omega)).trans g2, (u1 _ fun b' hb' => by omega).trans g3, (u2.1 2 _ (by omega)).trans g4⟩⟩
    rw [if_neg (fun q => by have := (pl_le (by omega) (by omega)).mp q; omega), show oX4_at (nI k) 4 = some (nI (18 + 12 * k + 4)) from pw_at (k := 4) (by omega) (by omega), Option.bind_some, pw_wordM1 (xs s s2 s3) x2 hH hF hkn, Option.bind_some, pl_in (n := 251) (by omega) (by omega), pl_ogt, show oX4_at (nI k) 5 = some (nI (18 + 12 * k + 5)) from pw_at (k := 5) (by omega) (by omega), Option.bind_some, pl_nn (n := 18 + 12 * k + 4) (by omega), pw_wordM2 (xs (ol_ms s 5 (18 + 12 * k + 4) (sp_w1 (pb_n B) wt (pb_rk B) fr H k)) (fun j hj => (mx_nk (by have := hj k (by omega); omega)).trans (s2 j hj)) (s3.w _ _)) x2 hkn (by decide), Option.bind_some, pl_in (n := 251) (by omega) (by omega), pl_ogt, pl_nn (n := 18 + 12 * k + 5) (by omega)]
    refine ih hkn _ ⟨fun b hb => ?_, fun j hj => ?_, (s3.w _ _).w _ _⟩
    · by_cases e : b = k
      · subst e
        exact ⟨(mx_nk (by omega)).trans mx_eq, mx_eq⟩
      · rw [mx_nk (by omega), mx_nk (by omega), mx_nk (by omega), mx_nk (by omega)]
        exact s1 b (by omega)
    · have := hj k (by omega)
      rw [mx_nk (by omega), mx_nk (by omega)]
      exact s2 j hj
  · have e : k = pb_n B := by omega
    subst e
    rw [if_pos (Int32.le_refl _)]
    exact ⟨s, rfl, s1, s2, s3⟩
/-- an arbitration begins, on both sides -/
theorem pr_begins (hB : pb_ok B) (hX : pb_X B β) (hM : pb_M B (τ.1 2)) (hH : pw_H (pb_n B) wt h H) (hF : H < ol_fuel) (hR : pr_R B bp r T U wt σ (τ.1 5)) (h0 : ¬ pr_ask (pb_n B) (τ.1 5) = 0) (hT : T < 1000000) : ∃ σ' τ', oX3_begins_2 σ β bp r (pr_ask (pb_n B) (τ.1 5)) = some σ' ∧ oX4_beginsArbitration τ = some τ' ∧ pr_R B bp r T U wt σ' (τ'.1 5) ∧ (∀ c j, ¬ c = r → ¬ c = r + 6 → σ'.1 c j = σ.1 c j) ∧ (∀ j, ¬ j = 12 → ¬ j = 13 → σ'.1 r j = σ.1 r j) ∧ σ'.2 = σ.2 ∧ pm_K τ τ' := by
  have h6 := hB.1.1.2
  have hw := hB.1.2.2.2.1
  obtain ⟨fr, x1, x2, x3⟩ := pr_X hB hX hR
  have y1 := pr_M hB hM hR.2.1 x3
  obtain ⟨hE, hI, hL, hP, hW, hbus⟩ := hR
  have t1 : σ.1 r 8 = nI T := (hE.1 0 (by omega)).trans hI.1
  have et : nI T + 2 * nI (pb_w B) = nI (T + 2 * pb_w B) := by rw [pl_l2, pl_mul, pl_add]
  -- the system
  have xa : pw_X (ol_xs (ol_xs σ r 13 (pr_ask (pb_n B) (τ.1 5))) r 12 (nI (T + 2 * pb_w B))) β bp r (pb_n B) wt (pb_rk B) fr (pb_cd B) := ⟨x1.1, fun b hb => by
    rw [px_ne (by omega), px_ne (by omega), px_ne (by omega), px_ne (by omega)]
    exact x1.2 b hb⟩
  obtain ⟨k, ek, hk⟩ := pl_sm_lt (pl_m_sm (fun b => b < pb_n B ∧ 0 < τ.1 5 (18 + 12 * b)))
  have ek : pr_ask (pb_n B) (τ.1 5) = nI k := ek
  obtain ⟨σ', a1, a2, a3, a4, a5⟩ := pr_L37 hB xa x2 hH hF k hk (fun b hb q => by
    rw [← ek] at q
    exact ((pr_ask_b hb).mp q).2.1) ol_fuel (by unfold ol_fuel; omega) (ol_xs (ol_xs σ r 13 (pr_ask (pb_n B) (τ.1 5))) r 12 (nI (T + 2 * pb_w B))) (fun _ _ _ => rfl) rfl
  rw [← ek] at a1 a2 a3
  -- the model
  obtain ⟨τ', b1, b2, b3, b4⟩ := pr_L33 (τ := ol_ms (ol_ms τ 5 4 (nI (T + 2 * pb_w B))) 5 5 (pr_ask (pb_n B) (τ.1 5))) (fr := fr) (wt := wt) hB (by
    have e : (ol_ms (ol_ms τ 5 4 (nI (T + 2 * pb_w B))) 5 5 (pr_ask (pb_n B) (τ.1 5))).1 2 = τ.1 2 := rfl
    rw [e]
    exact hM) ⟨⟨(mx_ne (by omega)).trans ((mx_ne (by omega)).trans hM.1.2.2.2.1), h6⟩, fun b hb => by
    obtain ⟨g1, g2, g3, g4⟩ := y1.2 b hb
    exact ⟨(mx_nk (by omega)).trans ((mx_nk (by omega)).trans g1), (mx_ne (by omega)).trans ((mx_ne (by omega)).trans g2), (mx_nk (by omega)).trans ((mx_nk (by omega)).trans g3), (mx_ne (by omega)).trans ((mx_ne (by omega)).trans g4)⟩⟩ x2 hH hF
  have r4 : τ'.1 5 4 = nI (T + 2 * pb_w B) := (b3 4 fun b hb => by omega).trans ((mx_nk (by omega)).trans mx_eq)
  have r5 : τ'.1 5 5 = pr_ask (pb_n B) (τ.1 5) := (b3 5 fun b hb => by omega).trans mx_eq
  have rr : ∀ j, ¬ j = 4 → ¬ j = 5 → (∀ b, b < 6 → ¬ j = 18 + 12 * b + 4 ∧ ¬ j = 18 + 12 * b + 5) → τ'.1 5 j = τ.1 5 j := fun j h4 h5 hj => (b3 j hj).trans ((mx_nk h5).trans (mx_nk h4))
  have hn4 : ¬ τ'.1 5 4 = -2 := by
    rw [r4]
    intro q
    have h1 := congrArg Int32.toInt q
    rw [pl_int (by omega)] at h1
    have e2 : (-2 : Int32).toInt = -2 := rfl
    omega
  refine ⟨σ', τ', ?_, ?_, ⟨?_, ?_, ?_, ?_, ?_, ?_⟩, fun c j h1 h2 => (a4 c j h2).trans ((px_ne h1).trans (px_ne h1)), fun j h1 h2 => (a4 r j (by omega)).trans ((px_nk h1).trans (px_nk h2)), a5, ?_⟩
  · unfold oX3_begins_2
    rw [show decide ((ol_xs σ r 13 (pr_ask (pb_n B) (τ.1 5))).2.1 r = some bp) = true from decide_eq_true hbus, pl_ogt, px_nk (by omega), t1, hX.1.2.2.1, et]
    exact a1
  · unfold oX4_beginsArbitration
    rw [hI.1, hM.1.2.2.1, et]
    have e5 : pr_ask (pb_n B) ((ol_ms τ 5 4 (nI (T + 2 * pb_w B))).1 5) = pr_ask (pb_n B) (τ.1 5) := pl_m_ext fun b _ => by
      show (b < pb_n B ∧ 0 < (ol_ms τ 5 4 (nI (T + 2 * pb_w B))).1 5 (18 + 12 * b)) ↔ _
      rw [mx_nk (by omega)]
    rw [pr_askM (τ := ol_ms τ 5 4 (nI (T + 2 * pb_w B))) hB hM, e5, Option.bind_some]
    exact b1
  · have g1 : pr_E r (ol_xs (ol_xs σ r 13 (pr_ask (pb_n B) (τ.1 5))) r 12 (nI (T + 2 * pb_w B))) (upd (upd (τ.1 5) 5 (pr_ask (pb_n B) (τ.1 5))) 4 (nI (T + 2 * pb_w B))) := (hE.sc (k := 5) (by omega) _).sc (k := 4) (by omega) _
    refine (g1.of (ρ' := τ'.1 5) fun j hj h11 hb => ?_).ofX fun c j h1 h2 h3 _ => a4 c j h3
    by_cases j4 : j = 4
    · rw [j4, r4, pr_eq]
    · by_cases j5 : j = 5
      · rw [j5, r5, pr_ne (by omega), pr_eq]
      · rw [rr j j4 j5 hb, pr_ne j4, pr_ne j5]
  · obtain ⟨i0, i1, i2, i3, i4, i5, i6⟩ := hI
    have e : ∀ j, ¬ j = 4 → ¬ j = 5 → j < 18 → τ'.1 5 j = τ.1 5 j := fun j h4 h5 h18 => rr j h4 h5 fun b hb => by omega
    refine ⟨(e 0 (by omega) (by omega) (by omega)).trans i0, by rw [e 1 (by omega) (by omega) (by omega)]; exact i1, by rw [e 3 (by omega) (by omega) (by omega)]; exact i2, ⟨by rw [r5]; exact pl_m_sm _, fun b hb q => ?_, fun _ => ⟨by rw [r5]; exact h0, fun b hb => ?_⟩⟩, by rw [e 11 (by omega) (by omega) (by omega)]; exact i4, fun b hb => ?_, fun i hi => ?_⟩
    · rw [r5] at q
      exact ((pr_ask_b hb).mp q).2.1
    · rw [(b2 b hb).1, (b2 b hb).2]
      exact ⟨fun _ => pr_w1 x2 hb, rfl⟩
    · rw [rr (18 + 12 * b + 1) (by omega) (by omega) (fun b' hb' => by omega), rr (18 + 12 * b + 2) (by omega) (by omega) (fun b' hb' => by omega), rr (18 + 12 * b + 3) (by omega) (by omega) (fun b' hb' => by omega), rr (18 + 12 * b + 6) (by omega) (by omega) (fun b' hb' => by omega)]
      exact i5 b hb
    · rw [e (12 + i) (by omega) (by omega) (by omega)]
      exact i6 i hi
  · obtain ⟨L, l1, l2, l3, l4⟩ := hL
    have hg : ∀ j, 90 ≤ j → τ'.1 5 j = τ.1 5 j := fun j hj => rr j (by omega) (by omega) fun b hb => by omega
    refine ⟨L, l1, ?_, (hg 90 (by omega)).trans l3, fun i k hi hk => ?_⟩
    · rw [a5]
      exact l2
    · rw [a5, hg _ (by omega)]
      exact l4 i k hi hk
  · intro j hj hT2
    rw [a4 (r + 8) j (by omega), px_ne (by omega), px_ne (by omega), rr (187 + j) (by omega) (by omega) (fun b hb => by omega)]
    exact hP j hj hT2
  · intro _ b hb q
    rw [r5] at q
    rw [a2 b (by omega) q, (b2 b hb).1]
  · rw [a5]
    exact hbus
  · exact ((pm_K.rf.w 4 _).w 5 _).tr b4
end PBG
