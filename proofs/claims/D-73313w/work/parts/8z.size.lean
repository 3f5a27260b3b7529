/-! CALLS, XIV: size, trouble, where, fault -/
set_option maxRecDepth 100000
section PCZ
variable {K : Nat} {B : ol_Bp} {β : ol_Bd} {bp T U H : Nat} {wt : Nat → Option Nat} {σ σ' σ'' : ol_Xm} {τ τ' τ'' : ol_Mm}
/-- calls that change nothing -/
def pz_E0 (K : Nat) (B : ol_Bp) (β : ol_Bd) (bp : Nat) (σ : ol_Xm) (x : Option Int32) (m : Option (Int32 × ol_Mm)) : Prop := ∃ z τ', x = some z ∧ m = some (z, τ') ∧ pz_T σ τ' ∧ pz_B K B β bp σ τ'
def pz_G0 (σ : ol_Xm) (x : Option Int32) (m : Option (Int32 × ol_Mm)) : Prop := ∃ z τ', x = some z ∧ m = some (z, τ') ∧ pz_T σ τ' ∧ pz_N σ τ'
theorem pz_t0 (hT : pz_T σ τ) : pz_T σ (ol_ms τ 0 0 0) := ⟨hT.1, hT.2⟩
theorem pz_00 (h : pz_1 K B β bp T U H wt σ τ) : pz_B (K + 1) B β bp σ (ol_ms τ 0 0 0) := ⟨T, U, H, wt, h.of pz_FX.rf (pz_FM.rf.w 0 0 0 (by omega))⟩
theorem pn_00 (h : pz_N σ τ) : pz_N σ (ol_ms τ 0 0 0) := h.of pz_FX.rf (pz_FM.rf.w 0 0 0 (by omega))
theorem pf_trouble (hT : pz_T σ τ) : ∃ z, oX1_trouble σ = some z ∧ oX4_trouble τ = some (z, ol_ms τ 0 0 0) := ⟨σ.1 0 1, rfl, by
  unfold oX4_trouble
  rw [mx_nk (by omega), hT.1]⟩
theorem pf_where (hT : pz_T σ τ) : ∃ z, oX1_where σ = some z ∧ oX4_where τ = some (z, ol_ms τ 0 0 0) := ⟨σ.1 0 2, rfl, by
  unfold oX4_where
  rw [mx_nk (by omega), mx_nk (by omega), hT.2]
  by_cases q : τ.1 0 1 = 4
  · rw [if_pos q, if_pos q]
  · rw [if_neg q, if_neg q]⟩
theorem pf_fault (h : pz_0 σ τ) : ∃ z, oX1_fault σ = some z ∧ oX4_fault τ = some (z, ol_ms τ 0 0 0) := ⟨σ.1 0 5, rfl, by
  unfold oX4_fault
  rw [mx_nk (by omega), h.2.2.1]⟩
theorem pz_trouble (hT : pz_T σ τ) (h : pz_1 K B β bp T U H wt σ τ) : pz_E0 (K + 1) B β bp σ (oX1_trouble σ) (oX4_trouble τ) := by
  obtain ⟨z, a, b⟩ := pf_trouble hT
  exact ⟨z, _, a, b, pz_t0 hT, pz_00 h⟩
theorem pn_trouble (hT : pz_T σ τ) (h : pz_N σ τ) : pz_G0 σ (oX1_trouble σ) (oX4_trouble τ) := by
  obtain ⟨z, a, b⟩ := pf_trouble hT
  exact ⟨z, _, a, b, pz_t0 hT, pn_00 h⟩
theorem pz_where (hT : pz_T σ τ) (h : pz_1 K B β bp T U H wt σ τ) : pz_E0 (K + 1) B β bp σ (oX1_where σ) (oX4_where τ) := by
  obtain ⟨z, a, b⟩ := pf_where hT
  exact ⟨z, _, a, b, pz_t0 hT, pz_00 h⟩
theorem pn_where (hT : pz_T σ τ) (h : pz_N σ τ) : pz_G0 σ (oX1_where σ) (oX4_where τ) := by
  obtain ⟨z, a, b⟩ := pf_where hT
  exact ⟨z, _, a, b, pz_t0 hT, pn_00 h⟩
theorem pz_fault (hT : pz_T σ τ) (h : pz_1 K B β bp T U H wt σ τ) : pz_E0 (K + 1) B β bp σ (oX1_fault σ) (oX4_fault τ) := by
  obtain ⟨z, a, b⟩ := pf_fault h.1.1
  exact ⟨z, _, a, b, pz_t0 hT, pz_00 h⟩
theorem pn_fault (hT : pz_T σ τ) (h : pz_N σ τ) : pz_G0 σ (oX1_fault σ) (oX4_fault τ) := by
  obtain ⟨z, a, b⟩ := pf_fault h.1
  exact ⟨z, _, a, b, pz_t0 hT, pn_00 h⟩
/-- lines that are not whole -/
def ps_n (ln : Nat → Int32) : Nat → Int32
  | 0 => 0
  | k + 1 => if ln k = 0 then ps_n ln k else ps_n ln k + 1
theorem ps_ext {f g : Nat → Int32} (e : ∀ i, i < 6 → f i = g i) : ∀ k, k ≤ 6 → ps_n f k = ps_n g k := by
  intro k
  induction k with
  | zero => intro _; rfl
  | succ k ih =>
    intro hk
    show (if f k = 0 then ps_n f k else ps_n f k + 1) = (if g k = 0 then ps_n g k else ps_n g k + 1)
    rw [e k (by omega), ih (by omega)]
theorem ps_X : oX1_unwhole σ = some (ps_n (fun i => σ.1 15 i) 6) := by
  unfold oX1_unwhole
  refine pl_for (fun n v (s : Int32) => oX1_unwhole_L4 σ n s v) 6 (fun k s => s = ps_n (fun i => σ.1 15 i) k) (fun z => z = some (ps_n (fun i => σ.1 15 i) 6)) (fun n k s hk hs ih => ?_) ol_fuel 0 0 (by omega) (by unfold ol_fuel; omega) rfl
  show oX1_unwhole_L4 σ (n + 1) s (nI k) = _
  rw [oX1_unwhole_L4, pl_s]
  by_cases hk6 : k < 6
  · rw [if_neg (show ¬ 6 ≤ nI k from fun q => by have := (pl_le (a := 6) (by omega) (by omega)).mp q; omega), pl_in (i := k) (n := 6) hk6 (by omega), pl_ogt, pl_nn (n := k) (by omega)]
    have ef : ps_n (fun i => σ.1 15 i) (k + 1) = if σ.1 15 k = 0 then ps_n (fun i => σ.1 15 i) k else ps_n (fun i => σ.1 15 i) k + 1 := rfl
    by_cases q : σ.1 (10 + 5) k = 0
    · rw [if_pos q]
      exact ih hk6 _ (by rw [ef, if_pos q, hs])
    · rw [if_neg q]
      exact ih hk6 _ (by rw [ef, if_neg q, hs])
  · have e : k = 6 := by omega
    subst e
    rw [if_pos (by decide), hs]
/-- the model's size: lines are counted first -/
theorem ps_M (x1 : Int32) : oX4_size τ x1 = (if x1 = 0 then some (τ.1 0 5, ol_ms τ 0 0 0) else if x1 = 1 then (if τ.1 0 9 = 0 then some (0, ol_ms τ 0 0 0) else some (τ.1 2 4 - τ.1 5 11, ol_ms τ 0 0 0)) else if x1 = 2 then (if τ.1 0 21 = 0 then some (0, ol_ms τ 0 0 0) else some (1, ol_ms τ 0 0 0)) else if x1 = 3 then some (ps_n (fun i => τ.1 5 (12 + i)) 6, ol_ms τ 0 0 0) else some (-1, ol_ms τ 0 0 0)) := by
  unfold oX4_size
  refine pl_for (fun n v (s : Int32) => oX4_size_L9 x1 n s v (ol_ms τ 0 0 0)) 6 (fun k s => s = ps_n (fun i => τ.1 5 (12 + i)) k) (fun z => z = _) (fun n k s hk hs ih => ?_) ol_fuel 0 0 (by omega) (by unfold ol_fuel; omega) rfl
  show oX4_size_L9 x1 (n + 1) s (nI k) (ol_ms τ 0 0 0) = _
  rw [oX4_size_L9, pl_s, Int32.add_zero]
  by_cases hk6 : k < 6
  · rw [if_neg (show ¬ 6 ≤ nI k from fun q => by have := (pl_le (a := 6) (by omega) (by omega)).mp q; omega), show (12 : Int32) = nI 12 from rfl, pl_add, pl_in (i := 12 + k) (n := 251) (by omega) (by omega), pl_ogt, pl_nn (n := 12 + k) (by omega), mx_ne (c' := 5) (by omega)]
    have ef : ps_n (fun i => τ.1 5 (12 + i)) (k + 1) = if τ.1 5 (12 + k) = 0 then ps_n (fun i => τ.1 5 (12 + i)) k else ps_n (fun i => τ.1 5 (12 + i)) k + 1 := rfl
    by_cases q : τ.1 5 (12 + k) = 0
    · rw [if_pos q]
      exact ih hk6 _ (by rw [ef, if_pos q, hs])
    · rw [if_neg q]
      exact ih hk6 _ (by rw [ef, if_neg q, hs])
  · have e : k = 6 := by omega
    subst e
    rw [if_pos (by decide), hs]
    rfl
/-- asks still to come -/
theorem ps_come (h : pz_1 K B β bp T U H wt σ τ) (hK : K ≤ 24) : oX3_toCome σ β bp 10 = some (τ.1 2 4 - τ.1 5 11) := by
  have hT := (pz_Tb h hK).1
  obtain ⟨hB, hX, hM⟩ := h.2.1
  have hm := hB.1.2.2.2.2
  obtain ⟨hE, hI, -⟩ := h.2.2.2.1
  obtain ⟨na, n1, n2, n3⟩ := hI.2.2.2.2.1
  have hb := h.2.2.2.1.2.2.2.2.2
  have s8 : σ.1 10 8 = nI T := (hE.1 0 (by omega)).trans hI.1
  unfold oX3_toCome
  rw [hM.1.2.2.2.2, n1, pl_sub n2]
  refine pl_for (fun n v (s : Int32) => oX3_toCome_L4 σ β bp 10 n s v) (pb_m B) (fun k s => s = nI (k - na)) (fun z => z = some (nI (pb_m B - na))) (fun n k s hk hs ih => ?_) ol_fuel 0 0 (by omega) (by unfold ol_fuel; omega) (by rw [Nat.zero_sub]; rfl)
  show oX3_toCome_L4 σ β bp 10 (n + 1) s (nI k) = _
  rw [oX3_toCome_L4, hb, pl_dd, pl_ogt, hX.1.2.2.2.2.1, pl_s]
  by_cases hkm : k < pb_m B
  · have hia : ol_ia β (nI k) = true := by
      unfold ol_ia ol_amany
      rw [hX.1.2.2.2.2.1, pl_nn (n := pb_m B) (by omega), pl_nn (n := k) (by omega), pl_int (by omega), decide_eq_true (show (0 : Int) ≤ (k : Int) by omega), decide_eq_true hkm, decide_eq_true (Nat.lt_of_lt_of_le hkm hX.1.2.2.2.2.2.2)]
      rfl
    have hat := (hB.2.2.2.1 k hkm).2.1
    have hn := n3 k hkm
    rw [if_neg (fun q => by have := (pl_le (by omega) (by omega)).mp q; omega), pl_ogt, hia, pl_ogt, pl_nn (n := k) (by omega), (hX.2.2 k hkm).1, s8]
    by_cases q : pb_at B k ≤ T
    · rw [if_pos ((pl_le (by omega) (by omega)).mpr q)]
      exact ih hkm _ (by rw [hs]; exact congrArg nI (by omega))
    · rw [if_neg (fun q' => q ((pl_le (by omega) (by omega)).mp q'))]
      exact ih hkm _ (by rw [hs, pl_s]; exact congrArg nI (by omega))
  · have e : k = pb_m B := by omega
    subst e
    rw [if_pos (Int32.le_refl _), hs]
theorem ps_kept (h : pz_0 σ τ) : (if σ.1 0 10 = 0 then some (0 : Int32) else some 1) = if τ.1 0 21 = 0 then some 0 else some 1 := by rw [h.2.2.2.1]
theorem pz_size (hT : pz_T σ τ) (h : pz_1 K B β bp T U H wt σ τ) (hK : K ≤ 24) (x1 : Int32) : pz_E0 (K + 1) B β bp σ (oX1_size σ β bp x1) (oX4_size τ x1) := by
  have e5 : ∀ i, i < 6 → σ.1 15 i = τ.1 5 (12 + i) := fun i hi => h.2.2.2.1.1.2.1 i hi
  have fin : ∀ z, oX1_size σ β bp x1 = some z → oX4_size τ x1 = some (z, ol_ms τ 0 0 0) → pz_E0 (K + 1) B β bp σ (oX1_size σ β bp x1) (oX4_size τ x1) := fun z a b => ⟨z, _, a, b, pz_t0 hT, pz_00 h⟩
  have em := ps_M (τ := τ) x1
  obtain ⟨⟨tp, -, t2, t3⟩, -, -, z4, z5⟩ := h.1.1
  unfold oX1_size at fin ⊢
  by_cases c0 : x1 = 0
  · rw [if_pos c0] at em fin ⊢
    exact fin _ rfl (em.trans (by rw [t3, t2]))
  · rw [if_neg c0] at em fin ⊢
    by_cases c1 : x1 = 1
    · rw [if_pos c1] at em fin ⊢
      rw [h.1.2.1, if_neg pz_10] at em
      rw [ps_come h hK] at fin ⊢
      exact fin _ rfl em
    · rw [if_neg c1] at em fin ⊢
      by_cases c2 : x1 = 2
      · rw [if_pos c2] at em fin ⊢
        rcases z5 with q | q
        · rw [if_pos q] at em
          rw [if_pos (z4.trans q)] at fin ⊢
          exact fin _ rfl em
        · rw [q, if_neg pz_10] at em
          rw [z4.trans q, if_neg pz_10] at fin ⊢
          exact fin _ rfl em
      · rw [if_neg c2] at em fin ⊢
        by_cases c3 : x1 = 3
        · rw [if_pos c3] at em fin ⊢
          rw [ps_X, ps_ext e5 6 (Nat.le_refl _)] at fin ⊢
          exact fin _ rfl em
        · rw [if_neg c3] at em fin ⊢
          exact fin _ rfl em
theorem pn_size (hT : pz_T σ τ) (h : pz_N σ τ) (x1 : Int32) : pz_G0 σ (onX1_size σ x1) (oX4_size τ x1) := by
  have fin : ∀ z, onX1_size σ x1 = some z → oX4_size τ x1 = some (z, ol_ms τ 0 0 0) → pz_G0 σ (onX1_size σ x1) (oX4_size τ x1) := fun z a b => ⟨z, _, a, b, pz_t0 hT, pn_00 h⟩
  have em := ps_M (τ := τ) x1
  obtain ⟨⟨tp, -, t2, t3⟩, -, -, z4, z5⟩ := h.1
  have e21 := h.2.2.1
  unfold onX1_size at fin ⊢
  by_cases c0 : x1 = 0
  · rw [if_pos c0] at em fin ⊢
    exact fin _ rfl (em.trans (by rw [t3, t2]))
  · rw [if_neg c0] at em fin ⊢
    by_cases c1 : x1 = 1
    · rw [if_pos c1] at em fin ⊢
      rw [if_pos h.2.1] at em
      exact fin _ rfl em
    · rw [if_neg c1] at em fin ⊢
      by_cases c2 : x1 = 2
      · rw [if_pos c2] at em fin ⊢
        rw [if_pos e21] at em
        rw [if_pos (z4.trans e21)] at fin ⊢
        exact fin _ rfl em
      · rw [if_neg c2] at em fin ⊢
        by_cases c3 : x1 = 3
        · rw [if_pos c3] at em fin ⊢
          have ez : ps_n (fun i => τ.1 5 (12 + i)) 6 = 0 := by
            rw [ps_ext (g := fun _ => 0) (fun i hi => (h.2.2.2.2 i hi).2) 6 (Nat.le_refl _)]
            decide
          exact fin _ rfl (em.trans (by rw [ez]))
        · rw [if_neg c3] at em fin ⊢
          exact fin _ rfl em
end PCZ
