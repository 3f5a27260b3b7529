/-! CALLS, XIII: feed, and what needs no bus -/
set_option maxRecDepth 100000
theorem pl_byte (y : Int32) : vp_nar .byte y.toInt8.toInt32 &&& 255 = y &&& 255 := by
  have e : vp_nar .byte y.toInt8.toInt32 = y.toInt8.toInt32.toInt8.toInt32 := rfl
  rw [e]
  apply Int32.toBitVec_inj.mp
  rw [Int32.toBitVec_and, Int32.toBitVec_and]
  apply BitVec.eq_of_getLsbD_eq
  intro i hi
  rw [BitVec.getLsbD_and, BitVec.getLsbD_and]
  by_cases h : i < 8
  · congr 1
    simp [BitVec.getLsbD_signExtend, BitVec.getElem_signExtend, BitVec.getLsbD_setWidth, h, hi]
  · have e2 : ((255 : Int32).toBitVec).getLsbD i = false := by
      have : ∀ i, i < 32 → ¬ i < 8 → ((255 : Int32).toBitVec).getLsbD i = false := by decide
      exact this i hi h
    rw [e2, Bool.and_false, Bool.and_false]
section PCY
variable {K : Nat} {B : ol_Bp} {β : ol_Bd} {bp T U H : Nat} {wt : Nat → Option Nat} {σ σ' σ'' : ol_Xm} {τ τ' τ'' : ol_Mm}
def pf_X (σ σ' : ol_Xm) : Prop := (∀ c k, ¬ c = 1 → ¬ (c = 0 ∧ k = 4) → σ'.1 c k = σ.1 c k) ∧ σ'.2 = σ.2
def pf_M (τ τ' : ol_Mm) : Prop := (∀ c k, ¬ c = 1 → ¬ (c = 0 ∧ k = 5) → τ'.1 c k = τ.1 c k) ∧ τ'.2 = τ.2
def pf_T (σ : ol_Xm) (τ : ol_Mm) : Prop := ∀ j, j < 700 → σ.1 1 j &&& 255 = τ.1 1 j
theorem pf_X.tr (h1 : pf_X σ σ') (h2 : pf_X σ' σ'') : pf_X σ σ'' := ⟨fun c k a b => (h2.1 c k a b).trans (h1.1 c k a b), h2.2.trans h1.2⟩
theorem pf_M.tr (h1 : pf_M τ τ') (h2 : pf_M τ' τ'') : pf_M τ τ'' := ⟨fun c k a b => (h2.1 c k a b).trans (h1.1 c k a b), h2.2.trans h1.2⟩
/-- the bytes of a word, from k on -/
theorem pf_L (x : Int32) {tp : Nat} (ht : tp + 4 ≤ 700) : ∀ d k n m σ τ, d + k = 4 → d < n → d < m → σ.1 0 4 = nI (tp + k) → τ.1 0 5 = nI tp → pf_T σ τ → ∃ σ' τ', oX1_feedOne_L3 x n (nI (8 * d) + (-8)) σ = some σ' ∧ oX4_laysWord_L2 x m (nI k) τ = some τ' ∧ σ'.1 0 4 = nI (tp + 4) ∧ τ'.1 0 5 = nI (tp + 4) ∧ pf_T σ' τ' ∧ pf_X σ σ' ∧ pf_M τ τ' := by
  intro d
  induction d with
  | zero =>
    intro k n m σ τ hk hn hm h4 h5 hT
    obtain ⟨n, rfl⟩ : ∃ i, n = i + 1 := ⟨n - 1, by omega⟩
    obtain ⟨m, rfl⟩ : ∃ i, m = i + 1 := ⟨m - 1, by omega⟩
    have e : k = 4 := by omega
    subst e
    refine ⟨σ, ol_ms τ 0 5 (nI (tp + 4)), ?_, ?_, h4, mx_eq, fun j hj => (hT j hj).trans (mx_ne (by omega)).symm, ⟨fun _ _ _ _ => rfl, rfl⟩, fun c k c1 c2 => ?_, rfl⟩
    · rw [oX1_feedOne_L3, if_pos (by decide)]
    · rw [oX4_laysWord_L2, if_pos (by decide), h5, show (4 : Int32) = nI 4 from rfl, pl_add]
    · rw [pl_ms, if_neg c2]
  | succ d ih =>
    intro k n m σ τ hk hn hm h4 h5 hT
    obtain ⟨n, rfl⟩ : ∃ i, n = i + 1 := ⟨n - 1, by omega⟩
    obtain ⟨m, rfl⟩ : ∃ i, m = i + 1 := ⟨m - 1, by omega⟩
    have e8 : nI (8 * (d + 1)) + (-8) = nI (8 * d) := by
      have : ∀ d, d < 4 → nI (8 * (d + 1)) + (-8) = nI (8 * d) := by decide
      exact this d (by omega)
    have es : 24 - 8 * nI k = nI (8 * d) := by
      have : ∀ d, d < 4 → 24 - 8 * nI (3 - d) = nI (8 * d) := by decide
      rw [show k = 3 - d by omega]
      exact this d (by omega)
    rw [e8, oX1_feedOne_L3, oX4_laysWord_L2, if_neg (show ¬ nI (8 * d) < 0 from fun q => by have := (pl_lt (b := 0) (by omega) (by omega)).mp q; omega), if_neg (show ¬ 4 ≤ nI k from fun q => by have := (pl_le (a := 4) (by omega) (by omega)).mp q; omega), h4, h5, es, pl_add, pl_in (i := tp + k) (n := 700) (by omega) (by omega), pl_ogt, pl_ogt, pl_nn (n := tp + k) (by omega), px_ne (by omega), h4, pl_s, pl_s]
    obtain ⟨σ', τ', a1, a2, a3, a4, a5, a6, a7⟩ := ih (k + 1) n m (ol_xs (ol_xs σ 1 (tp + k) (vp_nar .byte ((x >>> (nI (8 * d) &&& 31)).toInt8.toInt32))) 0 4 (nI (tp + k + 1))) (ol_ms τ 1 (tp + k) ((x >>> (nI (8 * d) &&& 31)) &&& 255)) (by omega) (by omega) (by omega) px_eq ((mx_ne (by omega)).trans h5) (fun j hj => by
      rw [px_ne (by omega), pl_xs, pl_ms]
      by_cases q : 1 = 1 ∧ j = tp + k
      · rw [if_pos q, if_pos q, pl_byte]
      · rw [if_neg q, if_neg q]
        exact hT j hj)
    refine ⟨σ', τ', a1, a2, a3, a4, a5, pf_X.tr (σ' := ol_xs (ol_xs σ 1 (tp + k) (vp_nar .byte ((x >>> (nI (8 * d) &&& 31)).toInt8.toInt32))) 0 4 (nI (tp + k + 1))) ?_ a6, pf_M.tr (τ' := ol_ms τ 1 (tp + k) ((x >>> (nI (8 * d) &&& 31)) &&& 255)) ⟨fun c k c1 c2 => mx_ne c1, rfl⟩ a7⟩
    refine ⟨fun c k c1 c2 => ?_, rfl⟩
    rw [pl_xs, if_neg c2, px_ne c1]
theorem pf_one (x : Int32) {tp : Nat} (ht : tp + 4 ≤ 700) (h4 : σ.1 0 4 = nI tp) (h5 : τ.1 0 5 = nI tp) (hT : pf_T σ τ) : ∃ σ' τ', oX1_feedOne σ x = some σ' ∧ oX4_laysWord τ x = some τ' ∧ σ'.1 0 4 = nI (tp + 4) ∧ τ'.1 0 5 = nI (tp + 4) ∧ pf_T σ' τ' ∧ pf_X σ σ' ∧ pf_M τ τ' := by
  have := pf_L x ht 4 0 ol_fuel ol_fuel σ τ rfl (by unfold ol_fuel; omega) (by unfold ol_fuel; omega) h4 h5 hT
  rw [show nI (8 * 4) + (-8) = 24 by decide] at this
  exact this
/-- feed: the tape grows alike -/
theorem pf_feed (h : pz_0 σ τ) (x1 x2 x3 x4 x5 : Int32) : ∃ z σ' τ', oX1_feed σ x1 x2 x3 x4 x5 = some (z, σ') ∧ oX4_feed τ x1 x2 x3 x4 x5 = some (z, τ') ∧ (∃ tp : Nat, tp ≤ 700 ∧ σ'.1 0 4 = nI tp ∧ τ'.1 0 5 = nI tp) ∧ pf_T σ' τ' ∧ pf_X σ σ' ∧ pf_M (ol_ms τ 0 0 0) τ' := by
  obtain ⟨⟨tp, t1, t2, t3⟩, hT, -⟩ := h
  unfold oX1_feed oX4_feed
  have e5 : (ol_ms τ 0 0 0).1 0 5 = nI tp := (mx_nk (by omega)).trans t3
  have hT0 : pf_T σ (ol_ms τ 0 0 0) := fun j hj => (hT j hj).trans (mx_ne (by omega)).symm
  rw [t2, e5, show (20 : Int32) = nI 20 from rfl, pl_add]
  by_cases c : tp + 20 ≤ 700
  · rw [if_pos (show nI (tp + 20) ≤ 700 from (pl_le (b := 700) (by omega) (by omega)).mpr c), if_pos (show nI tp ≤ 680 from (pl_le (b := 680) (by omega) (by omega)).mpr (by omega))]
    obtain ⟨s1, u1, a1, a2, a3, a4, a5, a6, a7⟩ := pf_one x1 (by omega) t2 e5 hT0
    obtain ⟨s2, u2, b1, b2, b3, b4, b5, b6, b7⟩ := pf_one x2 (by omega) a3 a4 a5
    obtain ⟨s3, u3, c1, c2, c3, c4, c5, c6, c7⟩ := pf_one x3 (by omega) b3 b4 b5
    obtain ⟨s4, u4, d1, d2, d3, d4, d5, d6, d7⟩ := pf_one x4 (by omega) c3 c4 c5
    obtain ⟨s5, u5, f1, f2, f3, f4, f5, f6, f7⟩ := pf_one x5 (by omega) d3 d4 d5
    rw [a1, Option.bind_some, b1, Option.bind_some, c1, Option.bind_some, d1, Option.bind_some, f1, Option.bind_some, a2, Option.bind_some, b2, Option.bind_some, c2, Option.bind_some, d2, Option.bind_some, f2, Option.bind_some, f3, f4]
    exact ⟨_, s5, u5, rfl, rfl, ⟨_, by omega, f3, f4⟩, f5, (((a6.tr b6).tr c6).tr d6).tr f6, (((a7.tr b7).tr c7).tr d7).tr f7⟩
  · rw [if_neg (show ¬ nI (tp + 20) ≤ 700 from fun q => c ((pl_le (b := 700) (by omega) (by omega)).mp q)), if_neg (show ¬ nI tp ≤ 680 from fun q => c (by have := (pl_le (b := 680) (by omega) (by omega)).mp q; omega))]
    exact ⟨_, σ, _, rfl, rfl, ⟨tp, t1, t2, e5⟩, hT0, ⟨fun _ _ _ _ => rfl, rfl⟩, fun _ _ _ _ => rfl, rfl⟩
theorem pf_T2 (hT : pz_T σ τ) (hx : pf_X σ σ') (hm : pf_M (ol_ms τ 0 0 0) τ') : pz_T σ' τ' := by
  have e1 : τ'.1 0 1 = τ.1 0 1 := (hm.1 0 1 (by omega) (by omega)).trans (mx_nk (by omega))
  have e3 : τ'.1 0 3 = τ.1 0 3 := (hm.1 0 3 (by omega) (by omega)).trans (mx_nk (by omega))
  refine ⟨?_, ?_⟩
  · rw [hx.1 0 1 (by omega) (by omega), e1]
    exact hT.1
  · rw [hx.1 0 2 (by omega) (by omega), e1, e3]
    exact hT.2
theorem pf_0 (h : pz_0 σ τ) (htp : ∃ tp : Nat, tp ≤ 700 ∧ σ'.1 0 4 = nI tp ∧ τ'.1 0 5 = nI tp) (hT : pf_T σ' τ') (hx : pf_X σ σ') (hm : pf_M (ol_ms τ 0 0 0) τ') : pz_0 σ' τ' := by
  obtain ⟨-, -, h3, h4, h5⟩ := h
  have g : ∀ k, ¬ k = 0 → ¬ k = 5 → τ'.1 0 k = τ.1 0 k := fun k k0 k5 => (hm.1 0 k (by omega) (by omega)).trans (mx_nk k0)
  refine ⟨htp, hT, ?_, ?_, ?_⟩
  · rw [hx.1 0 5 (by omega) (by omega), g 2 (by omega) (by omega)]
    exact h3
  · rw [hx.1 0 10 (by omega) (by omega), g 21 (by omega) (by omega)]
    exact h4
  · rw [g 21 (by omega) (by omega)]
    exact h5
theorem pz_feed (hT : pz_T σ τ) (h : pz_1 K B β bp T U H wt σ τ) (x1 x2 x3 x4 x5 : Int32) : pz_E (K + 1) B β bp (oX1_feed σ x1 x2 x3 x4 x5) (oX4_feed τ x1 x2 x3 x4 x5) := by
  obtain ⟨z, σ', τ', a1, a2, a3, a4, a5, a6⟩ := pf_feed h.1.1 x1 x2 x3 x4 x5
  have hp := pz_pow K
  have z0 := pf_0 h.1.1 a3 a4 a5 a6
  refine ⟨z, σ', τ', a1, a2, pf_T2 hT a5 a6, T, U, H, wt, ?_⟩
  obtain ⟨⟨-, h9, k1, k2, k3⟩, ⟨b1, b2, b3⟩, hw, hR, hN, hC, hK⟩ := h
  have g : ∀ c, c = 2 ∨ c = 5 ∨ c = 7 → τ'.1 c = τ.1 c := fun c hc => funext fun k => (a6.1 c k (by omega) (by omega)).trans (mx_ne (by omega))
  have g0 : ∀ k, ¬ k = 0 → ¬ k = 5 → τ'.1 0 k = τ.1 0 k := fun k k0 k5 => (a6.1 0 k (by omega) (by omega)).trans (mx_nk k0)
  refine ⟨⟨z0, (g0 9 (by omega) (by omega)).trans h9, by omega, by omega, by omega⟩, ⟨b1, b2, by rw [g 2 (by omega)]; exact b3⟩, hw, ?_, ?_, ?_, fun q => ?_⟩
  · rw [g 5 (by omega)]
    exact hR.ofX (fun c k _ _ _ => a5.1 c k (by omega) (by omega)) (by rw [a5.2]) (by rw [a5.2])
  · rw [g 5 (by omega)]
    exact hN.ofX fun k => a5.1 _ k (by omega) (by omega)
  · rw [g 5 (by omega)]
    exact hC.ofX (fun c k _ _ => a5.1 c k (by omega) (by omega)) (a5.1 0 11 (by omega) (by omega)) (a5.1 0 12 (by omega) (by omega)) (by rw [a5.2])
  · rw [g0 21 (by omega) (by omega)] at q
    obtain ⟨T', U', H', wt', g1, g2, g3, g4⟩ := hK q
    rw [g 7 (by omega)]
    exact ⟨T', U', H', wt', by omega, g2, g3.ofX (fun c k _ _ _ => a5.1 c k (by omega) (by omega)) (by rw [a5.2]) (by rw [a5.2]), g4.ofX fun k => a5.1 _ k (by omega) (by omega)⟩
theorem pn_feed (hT : pz_T σ τ) (h : pz_N σ τ) (x1 x2 x3 x4 x5 : Int32) : pz_G (oX1_feed σ x1 x2 x3 x4 x5) (oX4_feed τ x1 x2 x3 x4 x5) := by
  obtain ⟨z, σ', τ', a1, a2, a3, a4, a5, a6⟩ := pf_feed h.1 x1 x2 x3 x4 x5
  have z0 := pf_0 h.1 a3 a4 a5 a6
  have g0 : ∀ k, ¬ k = 0 → ¬ k = 5 → τ'.1 0 k = τ.1 0 k := fun k k0 k5 => (a6.1 0 k (by omega) (by omega)).trans (mx_nk k0)
  refine ⟨z, σ', τ', a1, a2, pf_T2 hT a5 a6, z0, (g0 9 (by omega) (by omega)).trans h.2.1, (g0 21 (by omega) (by omega)).trans h.2.2.1, (a5.1 0 11 (by omega) (by omega)).trans h.2.2.2.1, fun i hi => ⟨(a5.1 15 i (by omega) (by omega)).trans (h.2.2.2.2 i hi).1, (a6.1 5 _ (by omega) (by omega)).trans ((mx_ne (by omega)).trans (h.2.2.2.2 i hi).2)⟩⟩
end PCY
