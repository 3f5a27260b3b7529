/-! STEPS of a run, II: who asks, whether one is pressed, an arbitration begins -/
set_option maxRecDepth 100000
section PA
variable {B : ol_Bp} {β : ol_Bd} {bp r T U H : Nat} {wt : Nat → Option Nat} {h : Nat → Nat} {σ : ol_Xm} {τ : ol_Mm}
noncomputable def pr_ask (n : Nat) (ρ : Nat → Int32) : Int32 := pl_m (fun b => b < n ∧ 0 < ρ (18 + 12 * b))
theorem pr_ask_b {n : Nat} {ρ : Nat → Int32} {b : Nat} (hb : b < 32) : pl_b (pr_ask n ρ) b = true ↔ b < 6 ∧ b < n ∧ 0 < ρ (18 + 12 * b) := pl_m_b _ hb
theorem pl_n0 {x : Int32} : x ≤ 0 ↔ ¬ 0 < x := by
  rw [Int32.not_lt]
theorem pr_askX (hB : pb_ok B) (hX : pb_X B β) (hR : pr_R B bp r T U wt σ (τ.1 5)) : oX3_asking σ β bp r = some (pr_ask (pb_n B) (τ.1 5)) := by
  have h6 := hB.1.1.2
  unfold oX3_asking
  refine pl_for (fun n v s => oX3_asking_L4 σ β bp r n s v) (pb_n B) (fun k s => s = pl_m (fun b => b < k ∧ 0 < τ.1 5 (18 + 12 * b))) (fun z => z = some (pr_ask (pb_n B) (τ.1 5))) (fun n k s hk hs ih => ?_) ol_fuel 0 0 (by omega) (by unfold ol_fuel; omega) (pl_m_0 fun i _ q => by omega).symm
  show oX3_asking_L4 σ β bp r (n + 1) s (nI k) = _
  rw [oX3_asking_L4, hR.2.2.2.2.2, pl_dd, pl_ogt, hX.1.2.2.2.1, pl_s]
  by_cases hkn : k < pb_n B
  · rw [if_neg (fun q => by have := (pl_le (by omega) (by omega)).mp q; omega), pl_in (i := k) (n := 6) (by omega) (by omega), pl_ogt, pl_nn (n := k) (by omega), (hR.1.2.2 k (by omega)).1]
    by_cases e : 0 < τ.1 5 (18 + 12 * k)
    · rw [if_neg (fun q => pl_n0.mp q e)]
      refine ih hkn _ ?_
      rw [hs, pl_m_or1 (by omega)]
      refine pl_m_ext fun b _ => ⟨fun q => ?_, fun q => ?_⟩
      · rcases q with q | rfl
        · exact ⟨by omega, q.2⟩
        · exact ⟨by omega, e⟩
      · by_cases eb : b = k
        · exact Or.inr eb
        · exact Or.inl ⟨by omega, q.2⟩
    · rw [if_pos (pl_n0.mpr e)]
      refine ih hkn _ (hs.trans (pl_m_ext fun b _ => ⟨fun q => ⟨by omega, q.2⟩, fun q => ⟨?_, q.2⟩⟩))
      by_cases eb : b = k
      · rw [eb] at q
        exact absurd q.2 e
      · omega
  · have e : k = pb_n B := by omega
    subst e
    rw [if_pos (Int32.le_refl _), hs]
    rfl
theorem pr_askM (hB : pb_ok B) (hM : pb_M B (τ.1 2)) : oX4_askingOnes τ = some (pr_ask (pb_n B) (τ.1 5)) := by
  have h6 := hB.1.1.2
  unfold oX4_askingOnes
  refine pl_for (fun n v s => oX4_askingOnes_L4 τ n s v) (pb_n B) (fun k s => s = pl_m (fun b => b < k ∧ 0 < τ.1 5 (18 + 12 * b))) (fun z => z = some (pr_ask (pb_n B) (τ.1 5))) (fun n k s hk hs ih => ?_) ol_fuel 0 0 (by omega) (by unfold ol_fuel; omega) (pl_m_0 fun i _ q => by omega).symm
  show oX4_askingOnes_L4 τ (n + 1) s (nI k) = _
  rw [oX4_askingOnes_L4, hM.1.2.2.2.1, pl_s, Int32.or_zero]
  by_cases hkn : k < pb_n B
  · rw [if_neg (fun q => by have := (pl_le (by omega) (by omega)).mp q; omega), pr_at0 (by omega), Option.bind_some, pl_in (n := 251) (by omega) (by omega), pl_ogt, pl_nn (by omega)]
    show (if τ.1 5 (18 + 12 * k) ≤ 0 then _ else _) = _
    by_cases e : 0 < τ.1 5 (18 + 12 * k)
    · rw [if_neg (fun q => pl_n0.mp q e)]
      refine ih hkn _ ?_
      rw [hs, pl_m_or1 (by omega)]
      refine pl_m_ext fun b _ => ⟨fun q => ?_, fun q => ?_⟩
      · rcases q with q | rfl
        · exact ⟨by omega, q.2⟩
        · exact ⟨by omega, e⟩
      · by_cases eb : b = k
        · exact Or.inr eb
        · exact Or.inl ⟨by omega, q.2⟩
    · rw [if_pos (pl_n0.mpr e)]
      refine ih hkn _ (hs.trans (pl_m_ext fun b _ => ⟨fun q => ⟨by omega, q.2⟩, fun q => ⟨?_, q.2⟩⟩))
      by_cases eb : b = k
      · rw [eb] at q
        exact absurd q.2 e
      · omega
  · have e : k = pb_n B := by omega
    subst e
    rw [if_pos (Int32.le_refl _), hs]
    rfl
/-- whether someone goes ahead of who is elected -/
def pr_press (B : ol_Bp) (wt : Nat → Option Nat) (H : Nat) (ρ : Nat → Int32) : Prop := ∃ b, b < pb_n B ∧ 0 < ρ (18 + 12 * b) ∧ ∀ e, e < 6 → ρ 3 = nI e → sp_rd (pb_n B) wt (pb_rk B) H e < sp_rd (pb_n B) wt (pb_rk B) H b
theorem pr_pressX (hB : pb_ok B) (hX : pb_X B β) (hH : pw_H (pb_n B) wt h H) (hF : H < ol_fuel) (hR : pr_R B bp r T U wt σ (τ.1 5)) : oX3_isPressed σ β bp r = some (bif pl_c (pr_press B wt H (τ.1 5)) then 1 else 0) := by
  have h6 := hB.1.1.2
  obtain ⟨fr, x1, x2, -⟩ := pr_X hB hX hR
  obtain ⟨el, e3, el6⟩ := hR.2.1.2.2.1
  have he : σ.1 r 11 = pl_en el := (hR.1.1 3 (by omega)).trans e3
  unfold oX3_isPressed
  refine pl_for (fun n v (_ : Unit) => oX3_isPressed_L2 σ β bp r n v) (pb_n B) (fun k _ => ∀ b, b < k → ¬ (0 < τ.1 5 (18 + 12 * b) ∧ ∀ e, e < 6 → τ.1 5 3 = nI e → sp_rd (pb_n B) wt (pb_rk B) H e < sp_rd (pb_n B) wt (pb_rk B) H b)) (fun z => z = some (bif pl_c (pr_press B wt H (τ.1 5)) then 1 else 0)) (fun n k s hk hs ih => ?_) ol_fuel 0 () (by omega) (by unfold ol_fuel; omega) (fun b q => by omega)
  show oX3_isPressed_L2 σ β bp r (n + 1) (nI k) = _
  rw [oX3_isPressed_L2, hR.2.2.2.2.2, pl_dd, pl_ogt, hX.1.2.2.2.1, pl_s]
  by_cases hkn : k < pb_n B
  · have next : ¬ (0 < τ.1 5 (18 + 12 * k) ∧ ∀ e, e < 6 → τ.1 5 3 = nI e → sp_rd (pb_n B) wt (pb_rk B) H e < sp_rd (pb_n B) wt (pb_rk B) H k) → oX3_isPressed_L2 σ β bp r n (nI (k + 1)) = some (bif pl_c (pr_press B wt H (τ.1 5)) then 1 else 0) := fun hno => ih hkn () fun b hb => by
      by_cases e : b = k
      · rw [e]; exact hno
      · exact hs b (by omega)
    have found : (0 < τ.1 5 (18 + 12 * k) ∧ ∀ e, e < 6 → τ.1 5 3 = nI e → sp_rd (pb_n B) wt (pb_rk B) H e < sp_rd (pb_n B) wt (pb_rk B) H k) → some (1 : Int32) = some (bif pl_c (pr_press B wt H (τ.1 5)) then 1 else 0) := fun q => by
      rw [pl_c_t (P := pr_press B wt H (τ.1 5)) ⟨k, hkn, q⟩, cond_true]
    rw [if_neg (fun q => by have := (pl_le (by omega) (by omega)).mp q; omega), pl_in (i := k) (n := 6) (by omega) (by omega), pl_ogt, pl_nn (n := k) (by omega), (hR.1.2.2 k (by omega)).1]
    by_cases e : 0 < τ.1 5 (18 + 12 * k)
    · rw [if_neg (fun q => pl_n0.mp q e), he]
      cases el with
      | none =>
        rw [if_pos (show pl_en none = -2 from rfl)]
        exact found ⟨e, fun e' h1 h2 => by
          rw [e3] at h2
          exact absurd h2.symm (pl_n2 e' h1)⟩
      | some c =>
        have hc := el6 c rfl
        rw [show pl_en (some c) = nI c from rfl, if_neg (pl_n2 c (by omega)), pl_ogt, pw_ib x1 hkn, pl_ogt, pw_dayX x1 x2 hH hF hkn, Option.bind_some, pl_ogt, pw_ib x1 hc, pl_ogt, pl_nn (n := c) (by omega), pw_dayX x1 x2 hH hF hc, Option.bind_some]
        have r1 := sp_rd_lt (wt := wt) (H := H) x2 hkn
        have r2 := sp_rd_lt (wt := wt) (H := H) x2 hc
        by_cases g : sp_rd (pb_n B) wt (pb_rk B) H k ≤ sp_rd (pb_n B) wt (pb_rk B) H c
        · rw [if_pos ((pl_le (by omega) (by omega)).mpr g)]
          exact next fun q => by
            have := q.2 c (by omega) e3
            omega
        · rw [if_neg (fun q => g ((pl_le (by omega) (by omega)).mp q))]
          refine found ⟨e, fun e' h1 h2 => ?_⟩
          rw [e3] at h2
          have h3 : c = e' := (pl_eq (by omega) (by omega)).mp h2
          subst h3
          omega
    · rw [if_pos (pl_n0.mpr e)]
      exact next fun q => e q.1
  · have e : k = pb_n B := by omega
    subst e
    rw [if_pos (Int32.le_refl _), pl_c_f (P := pr_press B wt H (τ.1 5)) (fun q => by
      obtain ⟨b, q1, q2⟩ := q
      exact hs b q1 q2), cond_false]
theorem pr_pressM (hB : pb_ok B) (hM : pb_M B (τ.1 2)) (hH : pw_H (pb_n B) wt h H) (hF : H < ol_fuel) (hI : pv_I B T U wt (τ.1 5)) {fr : Nat → Nat} (x1 : pw_M τ (pb_n B) wt (pb_rk B) fr (pb_cd B)) (x2 : pw_b (pb_n B) (pb_rk B) fr (pb_cd B)) : oX4_isCalledFor τ = some (bif pl_c (pr_press B wt H (τ.1 5)) then 1 else 0) := by
  have h6 := hB.1.1.2
  obtain ⟨el, e3, el6⟩ := hI.2.2.1
  unfold oX4_isCalledFor
  rw [pr_askM hB hM, Option.bind_some, e3]
  cases el with
  | none =>
    rw [if_pos (show pl_en none = -2 from rfl)]
    by_cases h0 : pr_ask (pb_n B) (τ.1 5) = 0
    · rw [if_pos h0, pl_c_f (P := pr_press B wt H (τ.1 5)) (fun q => by
        obtain ⟨b, q1, q2, -⟩ := q
        have h1 := (pl_m_b (fun b => b < pb_n B ∧ 0 < τ.1 5 (18 + 12 * b)) (i := b) (by omega)).mpr ⟨by omega, q1, q2⟩
        unfold pr_ask at h0
        rw [h0, pl_b_0 b (by omega)] at h1
        cases h1), cond_false]
    · rw [if_neg h0, pl_c_t (P := pr_press B wt H (τ.1 5)) (by
        by_cases g : ∃ b, b < pb_n B ∧ 0 < τ.1 5 (18 + 12 * b)
        · obtain ⟨b, g1, g2⟩ := g
          exact ⟨b, g1, g2, fun e' h1 h2 => by
            rw [e3] at h2
            exact absurd h2.symm (pl_n2 e' h1)⟩
        · exfalso
          apply h0
          exact pl_m_0 fun b _ q => g ⟨b, q⟩), cond_true]
  | some c =>
    have hc := el6 c rfl
    rw [show pl_en (some c) = nI c from rfl, if_neg (pl_n2 c (by omega))]
    refine pl_for (fun n v (_ : Unit) => oX4_isCalledFor_L28 τ n (pr_ask (pb_n B) (τ.1 5)) v) (pb_n B) (fun k _ => ∀ b, b < k → ¬ (0 < τ.1 5 (18 + 12 * b) ∧ ∀ e, e < 6 → τ.1 5 3 = nI e → sp_rd (pb_n B) wt (pb_rk B) H e < sp_rd (pb_n B) wt (pb_rk B) H b)) (fun z => z = some (bif pl_c (pr_press B wt H (τ.1 5)) then 1 else 0)) (fun n k s hk hs ih => ?_) ol_fuel 0 () (by omega) (by unfold ol_fuel; omega) (fun b q => by omega)
    show oX4_isCalledFor_L28 τ (n + 1) (pr_ask (pb_n B) (τ.1 5)) (nI k) = _
    rw [oX4_isCalledFor_L28, hM.1.2.2.2.1, pl_s]
    by_cases hkn : k < pb_n B
    · have next : ¬ (0 < τ.1 5 (18 + 12 * k) ∧ ∀ e, e < 6 → τ.1 5 3 = nI e → sp_rd (pb_n B) wt (pb_rk B) H e < sp_rd (pb_n B) wt (pb_rk B) H k) → oX4_isCalledFor_L28 τ n (pr_ask (pb_n B) (τ.1 5)) (nI (k + 1)) = some (bif pl_c (pr_press B wt H (τ.1 5)) then 1 else 0) := fun hno => ih hkn () fun b hb => by
        by_cases e : b = k
        · rw [e]; exact hno
        · exact hs b (by omega)
      rw [if_neg (fun q => by have := (pl_le (by omega) (by omega)).mp q; omega), pl_hasifM (i := k) (by omega)]
      by_cases e : 0 < τ.1 5 (18 + 12 * k)
      · rw [if_pos ((pr_ask_b (b := k) (by omega)).mpr ⟨by omega, hkn, e⟩), pw_dayM x1 x2 hH hF hkn, Option.bind_some, e3, show pl_en (some c) = nI c from rfl, pw_dayM x1 x2 hH hF hc, Option.bind_some]
        have r1 := sp_rd_lt (wt := wt) (H := H) x2 hkn
        have r2 := sp_rd_lt (wt := wt) (H := H) x2 hc
        by_cases g : sp_rd (pb_n B) wt (pb_rk B) H k ≤ sp_rd (pb_n B) wt (pb_rk B) H c
        · rw [if_pos ((pl_le (by omega) (by omega)).mpr g)]
          exact next fun q => by
            have := q.2 c (by omega) e3
            omega
        · rw [if_neg (fun q => g ((pl_le (by omega) (by omega)).mp q)), pl_c_t (P := pr_press B wt H (τ.1 5)) ⟨k, hkn, e, fun e' h1 h2 => by
            rw [e3] at h2
            have h3 : c = e' := (pl_eq (by omega) (by omega)).mp h2
            subst h3
            omega⟩, cond_true]
      · rw [if_neg (fun q => e ((pr_ask_b (b := k) (by omega)).mp q).2.2)]
        exact next fun q => e q.1
    · have e : k = pb_n B := by omega
      subst e
      rw [if_pos (Int32.le_refl _), pl_c_f (P := pr_press B wt H (τ.1 5)) (fun q => by
        obtain ⟨b, q1, q2⟩ := q
        exact hs b q1 q2), cond_false]
theorem pr_press_ask (hB : pb_ok B) {ρ : Nat → Int32} (q : pr_press B wt H ρ) : ¬ pr_ask (pb_n B) ρ = 0 := fun h0 => by
  have h6 := hB.1.1.2
  obtain ⟨b, q1, q2, -⟩ := q
  have h1 := (pl_m_b (fun b => b < pb_n B ∧ 0 < ρ (18 + 12 * b)) (i := b) (by omega)).mpr ⟨by omega, q1, q2⟩
  unfold pr_ask at h0
  rw [h0, pl_b_0 b (by omega)] at h1
  cases h1
end PA
