/-! STEPS of a run, VIII: a tick -/
set_option maxRecDepth 100000
theorem pl_div64 {t : Nat} (h : t < 2147483648) : nI t / 64 = nI (t / 64) := by
  apply Int32.toInt_inj.mp
  rw [Int32.toInt_div, pl_int h, pl_int (by omega), show (64 : Int32).toInt = 64 from rfl, Int.tdiv_eq_ediv_of_nonneg (by omega), Int.bmod_eq_of_le (by omega) (by omega)]
  omega
theorem pl_mod64 {t : Nat} (h : t < 2147483648) : nI t - nI t / 64 * 64 = nI (t % 64) := by
  rw [pl_div64 h, show (64 : Int32) = nI 64 from rfl, pl_mul, pl_sub (by omega)]
  exact congrArg nI (by omega)
theorem pl_t2 {t : Nat} (h : t < 2147483648) : ¬ nI t = -2 := fun q => by
  have := congrArg Int32.toInt q
  rw [pl_int h] at this
  have : ((-2 : Int32)).toInt = -2 := rfl
  omega
/-- the bus, told of which asks are over -/
def pt_B (B : ol_Bp) (c T : Nat) : ol_Bp := (B.1, B.2.1, B.2.2.1, B.2.2.2.1, (fun k => if k < c then 0 else T + 1), B.2.2.2.2.2)
/-- the present master is noted -/
def pr_N (r T : Nat) (σ : ol_Xm) (ρ : Nat → Int32) : Prop := 1 ≤ T → σ.1 (r + 8) (T % 64) = ρ (187 + T % 64)
section PTK
variable {B B' : ol_Bp} {β : ol_Bd} {bp r T U H : Nat} {wt : Nat → Option Nat} {h : Nat → Nat} {σ σ' σ'' : ol_Xm} {ρ ρ' : Nat → Int32} {τ τ' τ'' : ol_Mm}
/-- the number of asks that are over, told anew -/
theorem pv_I.na (hI : pv_I B T U wt ρ) {c T' : Nat} (hn : pb_n B' = pb_n B) (hc : pb_cd B' = pb_cd B) (hT : T ≤ T') (h1 : c ≤ pb_m B') (h2 : ∀ k, k < pb_m B' → (k < c ↔ pb_at B' k ≤ T')) {ρ' : Nat → Int32} (r0 : ρ' 0 = nI T') (r11 : ρ' 11 = nI c) (e : ∀ j, ¬ j = 0 → ¬ j = 11 → ρ' j = ρ j) : pv_I B' T' U wt ρ' := by
  obtain ⟨h0, h1', h2', h3, h4, h5, h7⟩ := hI
  refine ⟨r0, by rw [e 1 (by omega) (by omega), hn]; exact h1', by rw [e 3 (by omega) (by omega), hn]; exact h2', ?_, ⟨c, r11, h1, h2⟩, fun b hb => ?_, fun i hi => by rw [e _ (by omega) (by omega)]; exact h7 i hi⟩
  · rw [e 4 (by omega) (by omega), e 5 (by omega) (by omega), hn, hc]
    refine ⟨h3.1, h3.2.1, fun q => ⟨(h3.2.2 q).1, fun b hb => ?_⟩⟩
    rw [e _ (by omega) (by omega), e _ (by omega) (by omega)]
    exact (h3.2.2 q).2 b hb
  · rw [e _ (by omega) (by omega), e _ (by omega) (by omega), e _ (by omega) (by omega), e _ (by omega) (by omega)]
    obtain ⟨⟨s, s1, s2⟩, g⟩ := h5 b hb
    exact ⟨⟨s, by omega, s2⟩, g⟩
/-- who asks at this tick -/
theorem pt_asks (hB : pb_ok B) (hX : pb_X B β) (hM : pb_M B (τ.1 2)) {T1 : Nat} (hT1 : T1 < 1000000) (hr : ol_isr r) (K : ol_Xm → Option ol_Xm) (hK : ∀ n s, s.2.1 r = some bp → oX3_tick_L12 β bp r (n + 1) (nI (pb_m B)) s = K s) : ∀ d k, d + k = pb_m B → ∀ n n' s t c, d < n → d < n' → pr_R (pt_B B c T1) bp r T1 U wt s (t.1 5) → t.1 5 11 = nI c → c ≤ pb_m B → (∀ j, j < pb_m B → (j < c ↔ pb_at B j < T1 ∨ (pb_at B j = T1 ∧ j < k))) → pt_F r σ s → pt_G τ t → ∃ σ' τ', oX3_tick_L12 β bp r n (nI k) s = K σ' ∧ oX4_tick_L10 n' t = oX4_tick_L95 τ' ∧ pr_R B bp r T1 U wt σ' (τ'.1 5) ∧ pt_F r σ σ' ∧ pt_G τ τ' := by
  have h6 := hB.1.1.2
  have hm := hB.1.2.2.2.2
  intro d
  induction d with
  | zero =>
    intro k hk n n' s t c hn hn' hR h11 hc hj hF hG
    obtain ⟨n, rfl⟩ : ∃ m, n = m + 1 := ⟨n - 1, by omega⟩
    obtain ⟨n', rfl⟩ : ∃ m, n' = m + 1 := ⟨n' - 1, by omega⟩
    have e : k = pb_m B := by omega
    subst e
    refine ⟨s, t, hK n s hR.2.2.2.2.2, ?_, ?_, hF, hG⟩
    · rw [oX4_tick_L10, h11, hG.1 2 4 (by omega) (by omega) (by omega), hM.1.2.2.2.2]
      by_cases hcm : pb_m B ≤ c
      · rw [if_pos ((pl_le (by omega) (by omega)).mpr hcm)]
      · have hq : ¬ pb_at B c = T1 := fun q => by
          have := (hj c (by omega)).mpr (Or.inr ⟨q, by omega⟩)
          omega
        have hat := (hB.2.2.2.1 c (by omega)).2.1
        rw [if_neg (fun q => hcm ((pl_le (by omega) (by omega)).mp q)), show (23 : Int32) = nI 23 from rfl, pl_add, pl_in (i := 23 + c) (n := 59) (by omega) (by omega), pl_ogt, pl_nn (n := 23 + c) (by omega), hG.1 2 _ (by omega) (by omega) (by omega), (hM.2.2 c (by omega)).1, hR.2.1.1, if_neg (fun q => hq ((pl_eq (by omega) (by omega)).mp q))]
    · refine ⟨hR.1, hR.2.1.na (B := pt_B B c T1) (B' := B) rfl rfl (Nat.le_refl _) hc (fun j hjm => ?_) hR.2.1.1 h11 fun _ _ _ => rfl, hR.2.2⟩
      have := hj j hjm
      omega
  | succ d ih =>
    intro k hk n n' s t c hn hn' hR h11 hc hj hF hG
    obtain ⟨n, rfl⟩ : ∃ m, n = m + 1 := ⟨n - 1, by omega⟩
    have hkm : k < pb_m B := by omega
    obtain ⟨x4, x5, x6⟩ := hX.2.2 k hkm
    obtain ⟨t1, t2, ab, al1, al2⟩ := hB.2.2.2.1 k hkm
    have hia : ol_ia β (nI k) = true := by
      unfold ol_ia ol_amany
      rw [hX.1.2.2.2.2.1, pl_nn (n := pb_m B) (by omega), pl_nn (n := k) (by omega), pl_int (by omega), decide_eq_true (show (0 : Int) ≤ (k : Int) by omega), decide_eq_true hkm, decide_eq_true (Nat.lt_of_lt_of_le hkm hX.1.2.2.2.2.2.2)]
      rfl
    have hd : decide (s.2.1 r = some bp) = true := decide_eq_true hR.2.2.2.2.2
    have s8 : s.1 r 8 = nI T1 := (hR.1.1 0 (by omega)).trans hR.2.1.1
    have step : oX3_tick_L12 β bp r (n + 1) (nI k) s = (if nI (pb_at B k) = nI T1 then ((oX3_hears s r (nI (pb_ab B k)) (nI (pb_al B k))).bind fun y25 => oX3_tick_L12 β bp r n (nI (k + 1)) (ol_relog s y25.2)) else oX3_tick_L12 β bp r n (nI (k + 1)) s) := by
      rw [oX3_tick_L12, hX.1.2.2.2.2.1, hd, pl_ogt, if_neg (fun q => by have := (pl_le (by omega) (by omega)).mp q; omega), pl_ogt, hia, pl_ogt, pl_nn (n := k) (by omega), x4, x5, x6, s8, pl_s]
      rfl
    rw [step]
    by_cases hat : pb_at B k = T1
    · have hck : c = k := by
        have a1 : ∀ j, j < k → j < c := fun j hjk => (hj j (by omega)).mpr (by have := hB.2.2.2.2 j k (by omega) hkm; omega)
        have a2 : ¬ k < c := fun q => by have := (hj k hkm).mp q; omega
        by_cases e0 : k = 0
        · omega
        · have := a1 (k - 1) (by omega)
          omega
      subst hck
      obtain ⟨n', rfl⟩ : ∃ m, n' = m + 1 := ⟨n' - 1, by omega⟩
      rw [if_pos (congrArg nI hat)]
      obtain ⟨g1, g2, g3⟩ := hM.2.2 c hkm
      have hR2 : pr_R (pt_B B (c + 1) T1) bp r T1 U wt s ((ol_ms t 5 11 (nI (c + 1))).1 5) := by
        refine ⟨hR.1.of fun j h1 h2 _ => mx_nk h2, hR.2.1.na (B := pt_B B c T1) (B' := pt_B B (c + 1) T1) (c := c + 1) rfl rfl (Nat.le_refl _) (show c + 1 ≤ pb_m B by omega) (fun j hjm => ?_) ((mx_nk (by omega)).trans hR.2.1.1) mx_eq fun j _ h2 => mx_nk h2, hR.2.2.1.of fun j h1 _ => mx_nk (by omega), fun j h1 h2 => ?_, fun q b hb hs => ?_, hR.2.2.2.2.2⟩
        · show j < c + 1 ↔ (if j < c + 1 then 0 else T1 + 1) ≤ T1
          by_cases q : j < c + 1
          · rw [if_pos q]
            exact ⟨fun _ => by omega, fun _ => q⟩
          · rw [if_neg q]
            exact ⟨fun q' => absurd q' q, fun q' => by omega⟩
        · rw [show (ol_ms t 5 11 (nI (c + 1))).1 5 (187 + j) = t.1 5 (187 + j) from mx_nk (by omega)]
          exact hR.2.2.2.1 j h1 h2
        · rw [show (ol_ms t 5 11 (nI (c + 1))).1 5 4 = t.1 5 4 from mx_nk (by omega)] at q
          rw [show (ol_ms t 5 11 (nI (c + 1))).1 5 5 = t.1 5 5 from mx_nk (by omega)] at hs
          rw [show (ol_ms t 5 11 (nI (c + 1))).1 5 (18 + 12 * b + 4) = t.1 5 (18 + 12 * b + 4) from mx_nk (by omega)]
          exact hR.2.2.2.2.1 q b hb hs
      obtain ⟨z, s', t', b1, b2, -, b4, b5, b6, b7, b8⟩ := pr_hears (τ := ol_ms t 5 11 (nI (c + 1))) hR2 h6 (b := pb_ab B c) ab (nI (pb_al B c))
      have hF' : pt_F r σ s' := hF.tr (pt_F.c hr (fun c' k' q => b5 c' k' (by omega) (by omega) (by omega)) (by rw [b6]) fun _ _ => by rw [b6])
      have hG' : pt_G τ t' := hG.tr ((pm_K.rf.w _ _).tr b7).g
      obtain ⟨σ', τ', i1, i2, i3, i4, i5⟩ := ih (c + 1) (by omega) n n' s' t' (c + 1) (by omega) (by omega) b4 ((b8 11 (by omega)).trans mx_eq) (by omega) (fun j hjm => by
        have q1 := hj j hjm
        by_cases e : j = c
        · subst e
          omega
        · by_cases e2 : c < j
          · have q2 := hB.2.2.2.2 c j (by omega) hjm
            omega
          · omega) hF' hG'
      refine ⟨σ', τ', ?_, ?_, i3, i4, i5⟩
      · rw [b1, Option.bind_some, pr_relog (by rw [b6])]
        exact i1
      · rw [oX4_tick_L10, h11, hG.1 2 4 (by omega) (by omega) (by omega), hM.1.2.2.2.2, if_neg (fun q => by have := (pl_le (by omega) (by omega)).mp q; omega), show (23 : Int32) = nI 23 from rfl, show (35 : Int32) = nI 35 from rfl, show (47 : Int32) = nI 47 from rfl, pl_add, pl_add, pl_add, pl_in (i := 23 + c) (n := 59) (by omega) (by omega), pl_ogt, pl_nn (n := 23 + c) (by omega), hG.1 2 _ (by omega) (by omega) (by omega), g1, hR.2.1.1, if_pos (congrArg nI hat), pl_in (i := 35 + c) (n := 59) (by omega) (by omega), pl_ogt, pl_in (i := 47 + c) (n := 59) (by omega) (by omega), pl_ogt, pl_nn (n := 35 + c) (by omega), pl_nn (n := 47 + c) (by omega), pl_s, mx_ne (by omega), mx_ne (by omega), hG.1 2 _ (by omega) (by omega) (by omega), hG.1 2 _ (by omega) (by omega) (by omega), g2, g3, b2, Option.bind_some]
        exact i2
    · rw [if_neg (fun q => hat ((pl_eq (by omega) (by omega)).mp q))]
      exact ih (k + 1) (by omega) n n' s t c (by omega) (by omega) hR h11 hc (fun j hjm => by
        have := hj j hjm
        by_cases e : j = k
        · subst e
          omega
        · omega) hF hG
/-- the present master is noted -/
theorem pt_246 (hr : ol_isr r) (h6 : pb_n B ≤ 6) (hT : T < 1000000) (hR : pr_R B bp r T U wt σ (τ.1 5)) : ∃ σ' τ', (ol_og (ol_in ((σ.1 r 8) - (σ.1 r 8) / 64 * 64) 64) (some (ol_xs σ (r + 8) (((σ.1 r 8) - (σ.1 r 8) / 64 * 64).toNatClampNeg) (σ.1 r 9)))) = some σ' ∧ oX4_tick_L246 τ = some τ' ∧ pr_R B bp r T U wt σ' (τ'.1 5) ∧ pr_N r T σ' (τ'.1 5) ∧ pt_F r σ σ' ∧ pt_G τ τ' := by
  obtain ⟨hE, hI, hL, hP, hW, hbus⟩ := id hR
  have s8 : σ.1 r 8 = nI T := (hE.1 0 (by omega)).trans hI.1
  have s9 : σ.1 r 9 = τ.1 5 1 := hE.1 1 (by omega)
  have hlt := Nat.mod_lt T (show 0 < 64 by omega)
  unfold oX4_tick_L246
  rw [s8, hI.1, pl_mod64 (by omega), pl_in (i := T % 64) (n := 64) hlt (by omega), pl_ogt, pl_nn (n := T % 64) (by omega), show (187 : Int32) = nI 187 from rfl, pl_add, pl_in (i := 187 + T % 64) (n := 251) (by omega) (by omega), pl_ogt, pl_nn (n := 187 + T % 64) (by omega), s9]
  refine ⟨_, _, rfl, rfl, ⟨?_, ?_, ?_, fun j hj hc => ?_, fun q b hb hs => ?_, hbus⟩, fun _ => ?_, pt_F.rf.w hr _ _ _ (by omega), (pm_K.rf.w _ _).g⟩
  · exact (hE.ofX fun c k h1 h2 _ _ => px_ne (by omega)).of fun j h1 _ _ => mx_nk (by omega)
  · exact hI.of h6 fun j hj => mx_nk (by omega)
  · exact hL.of fun j h1 h2 => mx_nk (by omega)
  · rw [px_nk hc.2, mx_nk (by omega)]
    exact hP j hj hc
  · rw [mx_nk (by omega)] at q hs
    rw [mx_nk (by omega), px_ne (by omega)]
    exact hW q b hb hs
  · rw [px_eq, mx_eq]
theorem pt_197 (hr : ol_isr r) (h6 : pb_n B ≤ 6) (hT : T < 1000000) (hR : pr_R B bp r T U wt σ (τ.1 5)) : ∃ σ' τ', oX3_tick_L197 β bp r σ = some σ' ∧ oX4_tick_L215 τ = some τ' ∧ pr_R B bp r T U wt σ' (τ'.1 5) ∧ pr_N r T σ' (τ'.1 5) ∧ pt_F r σ σ' ∧ pt_G τ τ' := by
  have s9 : σ.1 r 9 = τ.1 5 1 := hR.1.1 1 (by omega)
  obtain ⟨ma, e1, hma⟩ := hR.2.1.2.1
  unfold oX3_tick_L197 oX4_tick_L215
  rw [s9, e1]
  cases ma with
  | none =>
    rw [show pl_en none = -2 from rfl, if_pos rfl, if_pos rfl]
    have := pt_246 hr h6 hT hR
    rw [s9, e1] at this
    exact this
  | some b =>
    have hb := hma b rfl
    have hb6 : b < 6 := by omega
    rw [show pl_en (some b) = nI b from rfl, if_neg (pl_n2 b hb6), if_neg (pl_n2 b hb6), show (1 : Int32) = nI 1 from rfl, pr_countX (k := 1) hb6 (by omega), Option.bind_some, show oX4_at (nI b) 7 = some (nI (18 + 12 * b + (6 + 1))) from pw_at (k := 7) hb6 (by omega), Option.bind_some, pl_in (n := 251) (by omega) (by omega), pl_ogt, pl_ogt, pl_nn (n := 18 + 12 * b + (6 + 1)) (by omega), pr_relog (σ := σ) (y := ol_xs σ (r + 7) (6 * b + 1) (σ.1 (r + 7) (6 * b + 1) + 1)) rfl]
    obtain ⟨c1, c2, c3⟩ := pr_count hR.1 hR.2.1 h6 hb6 (k := 1) (by omega)
    obtain ⟨σ', τ', a1, a2, a3, a4, a5, a6⟩ := pt_246 (τ := ol_ms τ 5 (18 + 12 * b + (6 + 1)) (τ.1 5 (18 + 12 * b + (6 + 1)) + 1)) hr h6 hT (hR.step h6 c1 c2 c3)
    exact ⟨σ', τ', a1, a2, a3, a4, (pt_F.rf.w hr _ _ _ (by omega)).tr a5, (pm_K.rf.w _ _).g.tr a6⟩
theorem pt_173 (hB : pb_ok B) (hX : pb_X B β) (hM : pb_M B (τ.1 2)) (hH : pw_H (pb_n B) wt h H) (hF : H < ol_fuel) (hr : ol_isr r) (hT : T < 1000000) (hR : pr_R B bp r T U wt σ (τ.1 5)) : ∃ σ' τ', oX3_tick_L173 β bp r σ = some σ' ∧ oX4_tick_L193 τ = some τ' ∧ pr_R B bp r T U wt σ' (τ'.1 5) ∧ pr_N r T σ' (τ'.1 5) ∧ pt_F r σ σ' ∧ pt_G τ τ' := by
  have h6 := hB.1.1.2
  have s12 : σ.1 r 12 = τ.1 5 4 := hR.1.1 4 (by omega)
  have plain := pt_197 (β := β) hr h6 hT hR
  unfold oX3_tick_L173 oX4_tick_L193
  rw [s12]
  by_cases h4 : τ.1 5 4 = -2
  · obtain ⟨fr, x1, x2, x3⟩ := pr_X hB hX hR
    rw [if_pos h4, if_pos h4, pr_pressX hB hX hH hF hR, Option.bind_some, pr_pressM hB hM hH hF hR.2.1 (pr_M hB hM hR.2.1 x3) x2, Option.bind_some]
    by_cases hp : pr_press B wt H (τ.1 5)
    · rw [pl_c_t hp, cond_true, if_neg (by decide), if_neg (by decide), pr_askX hB hX hR, Option.bind_some]
      obtain ⟨σ1, τ1, a1, a2, a3, a4, a5, a6, a7⟩ := pr_begins hB hX hM hH hF hR (pr_press_ask hB hp) hT
      rw [a1, Option.bind_some, a2, Option.bind_some, pr_relog (by rw [a6])]
      obtain ⟨σ', τ', b1, b2, b3, b4, b5, b6⟩ := pt_197 (β := β) hr h6 hT a3
      exact ⟨σ', τ', b1, b2, b3, b4, (pt_F.c hr (fun c k q => a4 c k (by omega) (by omega)) (by rw [a6]) fun _ _ => by rw [a6]).tr b5, a7.g.tr b6⟩
    · rw [pl_c_f hp, cond_false, if_pos rfl, if_pos rfl]
      exact plain
  · rw [if_neg h4, if_neg h4]
    exact plain
theorem pt_142 (hB : pb_ok B) (hX : pb_X B β) (hM : pb_M B (τ.1 2)) (hH : pw_H (pb_n B) wt h H) (hF : H < ol_fuel) (hr : ol_isr r) (hT : T < 1000000) (hR : pr_R B bp r T U wt σ (τ.1 5)) : ∃ σ' τ', oX3_tick_L142 β bp r σ = some σ' ∧ oX4_tick_L156 τ = some τ' ∧ pr_R B bp r T (U + 1) wt σ' (τ'.1 5) ∧ pr_N r T σ' (τ'.1 5) ∧ pt_F r σ σ' ∧ pt_G τ τ' := by
  have h6 := hB.1.1.2
  have s9 : σ.1 r 9 = τ.1 5 1 := hR.1.1 1 (by omega)
  have s11 : σ.1 r 11 = τ.1 5 3 := hR.1.1 3 (by omega)
  have s12 : σ.1 r 12 = τ.1 5 4 := hR.1.1 4 (by omega)
  have plain := pt_173 hB hX hM hH hF hr hT (hR.mono (Nat.le_succ U))
  unfold oX3_tick_L142 oX4_tick_L156
  rw [s9, s11, s12]
  by_cases h1 : τ.1 5 1 = -2
  · rw [if_pos h1, if_pos h1]
    by_cases h3 : τ.1 5 3 = -2
    · rw [if_pos h3, if_pos h3]
      exact plain
    · rw [if_neg h3, if_neg h3]
      by_cases h4 : τ.1 5 4 = -2
      · rw [if_pos h4, if_pos h4]
        obtain ⟨el, e3, el6⟩ := hR.2.1.2.2.1
        cases el with
        | none => exact absurd e3 h3
        | some b =>
          obtain ⟨σ1, τ1, a1, a2, a3, a4, a5, a6, a7⟩ := pr_master hR h6 (el6 b rfl) e3
          rw [a1, Option.bind_some, a2, Option.bind_some, pr_relog (by rw [a6])]
          obtain ⟨σ', τ', b1, b2, b3, b4, b5, b6⟩ := pt_173 (τ := τ1) hB hX (by rw [show τ1.1 2 = τ.1 2 from funext fun k => a7.1 2 k (by omega)]; exact hM) hH hF hr hT a3
          exact ⟨σ', τ', b1, b2, b3, b4, (pt_F.c hr (fun c k q => a4 c k (by omega) (by omega) (by omega)) (by rw [a6]) fun _ _ => by rw [a6]).tr b5, a7.g.tr b6⟩
      · rw [if_neg h4, if_neg h4]
        exact plain
  · rw [if_neg h1, if_neg h1]
    exact plain
def pt_E (β : ol_Bd) (bp r : Nat) (σ : ol_Xm) : Option ol_Xm :=
  if (σ.1 r 12) = (σ.1 r 8) then ((oX3_isThrough σ β bp r).bind fun y2 => oX3_tick_L142 β bp r y2) else oX3_tick_L142 β bp r σ
theorem pt_137 (hB : pb_ok B) (hX : pb_X B β) (hM : pb_M B (τ.1 2)) (hH : pw_H (pb_n B) wt h H) (hF : H < ol_fuel) (hr : ol_isr r) (hT : T < 1000000) (hR : pr_R B bp r T U wt σ (τ.1 5)) : ∃ σ' τ', pt_E β bp r σ = some σ' ∧ oX4_tick_L137 τ = some τ' ∧ pr_R B bp r T (U + 1) wt σ' (τ'.1 5) ∧ pr_N r T σ' (τ'.1 5) ∧ pt_F r σ σ' ∧ pt_G τ τ' := by
  have s8 : σ.1 r 8 = nI T := (hR.1.1 0 (by omega)).trans hR.2.1.1
  have s12 : σ.1 r 12 = τ.1 5 4 := hR.1.1 4 (by omega)
  unfold pt_E oX4_tick_L137
  rw [s8, s12, hR.2.1.1]
  by_cases h4 : τ.1 5 4 = nI T
  · rw [if_pos h4, if_pos h4]
    obtain ⟨σ1, τ1, a1, a2, a3, a4, a5⟩ := pr_through hB hX hM hr hR (fun q => pl_t2 (by omega) (h4.symm.trans q))
    rw [a1, Option.bind_some, a2, Option.bind_some]
    obtain ⟨σ', τ', b1, b2, b3, b4, b5, b6⟩ := pt_142 (τ := τ1) hB hX (by rw [show τ1.1 2 = τ.1 2 from funext fun k => a5.1 2 k (by omega) (by omega) (by omega)]; exact hM) hH hF hr hT a3
    exact ⟨σ', τ', b1, b2, b3, b4, a4.tr b5, a5.tr b6⟩
  · rw [if_neg h4, if_neg h4]
    exact pt_142 hB hX hM hH hF hr hT hR
def pt_S (β : ol_Bd) (bp r : Nat) (σ : ol_Xm) : Option ol_Xm :=
  if (σ.1 r 9) = (-2) then pt_E β bp r σ else if (σ.1 r 10) = (σ.1 r 8) then pt_E β bp r (ol_xs (ol_xs σ r 9 (-2)) r 10 (-2)) else pt_E β bp r σ
theorem pt_95 (hB : pb_ok B) (hX : pb_X B β) (hM : pb_M B (τ.1 2)) (hH : pw_H (pb_n B) wt h H) (hF : H < ol_fuel) (hr : ol_isr r) (hT : T < 1000000) (hR : pr_R B bp r T U wt σ (τ.1 5)) : ∃ σ' τ', pt_S β bp r σ = some σ' ∧ oX4_tick_L95 τ = some τ' ∧ pr_R B bp r T (U + 1) wt σ' (τ'.1 5) ∧ pr_N r T σ' (τ'.1 5) ∧ pt_F r σ σ' ∧ pt_G τ τ' := by
  have h6 := hB.1.1.2
  have s8 : σ.1 r 8 = nI T := (hR.1.1 0 (by omega)).trans hR.2.1.1
  have s9 : σ.1 r 9 = τ.1 5 1 := hR.1.1 1 (by omega)
  have s10 : σ.1 r 10 = τ.1 5 2 := hR.1.1 2 (by omega)
  unfold pt_S oX4_tick_L95
  rw [s8, s9, s10, hR.2.1.1]
  by_cases h1 : τ.1 5 1 = -2
  · rw [if_pos h1, if_pos h1]
    exact pt_137 hB hX hM hH hF hr hT hR
  · rw [if_neg h1, if_neg h1]
    by_cases h2 : τ.1 5 2 = nI T
    · rw [if_pos h2, if_pos h2]
      have g1 : pr_E r (ol_xs (ol_xs σ r 9 (-2)) r 10 (-2)) (upd (upd (τ.1 5) 1 (-2)) 2 (-2)) := (hR.1.sc (k := 1) (by omega) _).sc (k := 2) (by omega) _
      have g2 : pv_I B T U wt (upd (upd (τ.1 5) 1 (-2)) 2 (-2)) := (hR.2.1.who h6 1 (by omega) (o := none) (fun _ q => by cases q)).free h6 2 _ (by omega)
      obtain ⟨σ', τ', b1, b2, b3, b4, b5, b6⟩ := pt_137 (τ := ol_ms (ol_ms τ 5 1 (-2)) 5 2 (-2)) hB hX hM hH hF hr hT (hR.step h6 g1 g2 (((pr_K.x _ _ _ (by omega)).tr (pr_K.x _ _ _ (by omega))).tr ((pr_K.m _ _ ⟨by omega, by omega, by omega, fun b' hb' => by omega⟩).tr (pr_K.m _ _ ⟨by omega, by omega, by omega, fun b' hb' => by omega⟩))))
      exact ⟨σ', τ', b1, b2, b3, b4, ((pt_F.rf.w hr _ _ _ (by omega)).w hr _ _ _ (by omega)).tr b5, ((pm_K.rf.w _ _).w _ _).g.tr b6⟩
    · rw [if_neg h2, if_neg h2]
      exact pt_137 hB hX hM hH hF hr hT hR
/-- a tick -/
theorem pr_tick (hB : pb_ok B) (hX : pb_X B β) (hM : pb_M B (τ.1 2)) (hH : pw_H (pb_n B) wt h H) (hF : H < ol_fuel) (hr : ol_isr r) (hT : T + 1 < 1000000) (hR : pr_R B bp r T U wt σ (τ.1 5)) (hN : pr_N r T σ (τ.1 5)) : ∃ σ' τ', oX3_tick σ β bp r = some σ' ∧ oX4_tick τ = some τ' ∧ pr_R B bp r (T + 1) (U + 1) wt σ' (τ'.1 5) ∧ pr_N r (T + 1) σ' (τ'.1 5) ∧ pt_F r σ σ' ∧ pt_G τ τ' := by
  have h6 := hB.1.1.2
  have hm := hB.1.2.2.2.2
  obtain ⟨hE, hI, hL, hP, hW, hbus⟩ := id hR
  have s8 : σ.1 r 8 = nI T := (hE.1 0 (by omega)).trans hI.1
  obtain ⟨na, n1, n2, n3⟩ := hI.2.2.2.2.1
  have hR1 : pr_R (pt_B B na (T + 1)) bp r (T + 1) U wt (ol_xs σ r 8 (nI (T + 1))) ((ol_ms τ 5 0 (nI (T + 1))).1 5) := by
    refine ⟨hE.sc (k := 0) (by omega) _, hI.na (B := B) (B' := pt_B B na (T + 1)) (c := na) rfl rfl (by omega) n2 (fun j hjm => ?_) mx_eq ((mx_nk (by omega)).trans n1) fun j h1 _ => mx_nk h1, hL.of fun j h1 _ => mx_nk (by omega), fun j h1 h2 => ?_, fun q b hb hs => ?_, hbus⟩
    · show j < na ↔ (if j < na then 0 else T + 1 + 1) ≤ T + 1
      by_cases q : j < na
      · rw [if_pos q]
        exact ⟨fun _ => by omega, fun _ => q⟩
      · rw [if_neg q]
        exact ⟨fun q' => absurd q' q, fun q' => by omega⟩
    · rw [px_ne (by omega), mx_nk (by omega)]
      by_cases e : j = T % 64
      · rw [e]
        exact hN (by omega)
      · exact hP j h1 (by omega)
    · rw [mx_nk (by omega)] at q hs
      rw [mx_nk (by omega), px_ne (by omega)]
      exact hW q b hb hs
  obtain ⟨σ1, τ1, a1, a2, a3, a4, a5⟩ := pt_asks (β := β) (τ := ol_ms τ 5 0 (nI (T + 1))) (σ := ol_xs σ r 8 (nI (T + 1))) hB hX hM (T1 := T + 1) hT hr (pt_S β bp r) (fun n s hs => by
    rw [oX3_tick_L12, hX.1.2.2.2.2.1, hs, pl_dd, pl_ogt, if_pos (Int32.le_refl _)]
    rfl) (pb_m B) 0 (by omega) ol_fuel ol_fuel (ol_xs σ r 8 (nI (T + 1))) (ol_ms τ 5 0 (nI (T + 1))) na (by unfold ol_fuel; omega) (by unfold ol_fuel; omega) hR1 ((mx_nk (by omega)).trans n1) n2 (fun j hjm => by have := n3 j hjm; omega) pt_F.rf pt_G.rf
  obtain ⟨σ', τ', b1, b2, b3, b4, b5, b6⟩ := pt_95 (τ := τ1) hB hX (by rw [show τ1.1 2 = τ.1 2 from funext fun k => a5.1 2 k (by omega) (by omega) (by omega)]; exact hM) hH hF hr hT a3
  refine ⟨σ', τ', ?_, ?_, b3, b4, ((pt_F.rf.w hr _ _ _ (by omega)).tr a4).tr b5, ((pm_K.rf.w _ _).g.tr a5).tr b6⟩
  · unfold oX3_tick
    rw [s8, pl_s]
    exact a1.trans b1
  · unfold oX4_tick
    rw [hI.1, pl_s]
    exact a2.trans b2
end PTK
