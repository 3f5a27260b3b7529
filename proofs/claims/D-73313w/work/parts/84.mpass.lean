/-! THE PASS of the model does what is said plainly -/
set_option maxRecDepth 100000
theorem pl_shl (x : Int32) {k i : Nat} (hk : k < 32) (hi : i < 32) : pl_b (x <<< (nI k &&& 31)) i = (decide (k ≤ i) && pl_b x (i - k)) := by
  unfold pl_b
  rw [Int32.toBitVec_shiftLeft, BitVec.getLsbD_shiftLeft', pl_sm k hk]
  have h1 : decide (i < 32) = true := decide_eq_true hi
  rw [h1, Bool.true_and]
  by_cases h : i < k
  · have h2 : ¬ k ≤ i := by omega
    simp [h, h2]
  · have h2 : k ≤ i := by omega
    simp [h, h2]
theorem pl_cut (x : Int32) {k i : Nat} (hk : k < 32) (hi : i < 32) : pl_b ((x >>> (nI k &&& 31)) <<< (nI k &&& 31)) i = (decide (k ≤ i) && pl_b x i) := by
  rw [pl_shl _ hk hi]
  by_cases h : k ≤ i
  · rw [pl_shr x (by omega), show k + (i - k) = i by omega]
  · simp [h]
theorem pl_p (k : Nat) : nI (k + 1) + (-1) = nI k := by
  rw [← pl_s, Int32.add_assoc, show (1 : Int32) + (-1) = 0 by decide, Int32.add_zero]
theorem pl_eq0 {a : Nat} (ha : a < 2147483648) : nI a = 0 ↔ a = 0 := pl_eq (b := 0) ha (by omega)
theorem pl_d1 {t : Nat} (h : 1 ≤ t) : nI t - 1 = nI (t - 1) := pl_sub (b := 1) h
theorem mx_ne {σ : ol_Mm} {c k : Nat} {x : Int32} {c' k' : Nat} (h : ¬ c' = c) : (ol_ms σ c k x).1 c' k' = σ.1 c' k' := by rw [pl_ms, if_neg (fun q => h q.1)]
theorem mx_nk {σ : ol_Mm} {c k : Nat} {x : Int32} {c' k' : Nat} (h : ¬ k' = k) : (ol_ms σ c k x).1 c' k' = σ.1 c' k' := by rw [pl_ms, if_neg (fun q => h q.2)]
theorem mx_eq {σ : ol_Mm} {c k : Nat} {x : Int32} : (ol_ms σ c k x).1 c k = x := by rw [pl_ms, if_pos ⟨rfl, rfl⟩]
/-- what the model's rows say of the bus and the lines -/
def pm_S (σ0 : ol_Mm) (p : ol_Pp) : Prop := σ0.1 2 3 = nI (pq_n p) ∧ σ0.1 2 0 = nI (pq_g p) ∧ σ0.1 2 1 = nI (pq_f p) ∧ (∀ b o, b < pq_n p → o < pq_n p → oX4_slotsApart σ0 (nI b) (nI o) = some (nI (pq_ap p b o))) ∧ ∀ i, i < 6 → σ0.1 5 (12 + i) = pq_ln p i
def pm_P (σ0 : ol_Mm) (p : ol_Pp) (set : Int32) (σ : ol_Mm) : Prop :=
  σ.1 0 23 = set ∧ (∀ b, b < pq_n p → pq_hs p b → σ.1 8 b = pq_w p b) ∧ (∀ b, b < pq_n p → (pl_b set b = true ↔ pq_hs p b)) ∧ (∀ c k, ¬ (8 ≤ c ∧ c ≤ 13) → ¬ (c = 0 ∧ (k = 23 ∨ k = 29)) → σ.1 c k = σ0.1 c k) ∧ σ.2 = σ0.2
def pm_I (σ0 : ol_Mm) (p : ol_Pp) (set : Int32) (T bd bs : Nat) (Mk : Nat → Nat → Nat → Prop) (cnt : Nat) (σ : ol_Mm) : Prop :=
  pa_R p T bd bs (σ.1 9) (σ.1 10) (σ.1 11) (σ.1 12) ∧ pa_M p 461 Mk (σ.1 13) ∧ σ.1 0 29 = nI cnt ∧ pm_P σ0 p set σ
section PM
variable {σ0 σ : ol_Mm} {p : ol_Pp} {set : Int32} {T bd bs cnt : Nat} {Mk : Nat → Nat → Nat → Prop}
theorem pm_P.of {τ : ol_Mm} (h : pm_P σ0 p set σ) (e : ∀ c k, ¬ (9 ≤ c ∧ c ≤ 13) → ¬ (c = 0 ∧ k = 29) → τ.1 c k = σ.1 c k) (e2 : τ.2 = σ.2) : pm_P σ0 p set τ := by
  obtain ⟨h1, h2, h3, h4, h5⟩ := h
  exact ⟨(e 0 23 (by omega) (by omega)).trans h1, fun b hb hh => (e 8 b (by omega) (by omega)).trans (h2 b hb hh), h3, fun c k hc hk => (e c k (by omega) (by omega)).trans (h4 c k hc hk), e2.trans h5⟩
theorem pm_P.w (h : pm_P σ0 p set σ) (c k : Nat) (x : Int32) (hc : 9 ≤ c ∧ c ≤ 13) : pm_P σ0 p set (ol_ms σ c k x) := h.of (fun c' k' hc' _ => mx_ne (by omega)) rfl
theorem pm_P.d (h : pm_P σ0 p set σ) (x : Int32) : pm_P σ0 p set (ol_ms σ 0 29 x) := h.of (fun c' k' _ hk => by
  rw [pl_ms, if_neg (fun q => hk q)]) rfl
theorem pm_I.mark (h : pm_I σ0 p set T bd bs Mk cnt σ) {b k i : Nat} (hb : b < pq_n p) (hk : k < 461) (hi : i < 6) : pm_I σ0 p set T bd bs (fun b' k' i' => Mk b' k' i' ∨ (i' = i ∧ b' = b ∧ k' = k)) cnt (ol_ms σ 13 (461 * b + k) (σ.1 13 (461 * b + k) ||| ((1 : Int32) <<< (nI i &&& 31)))) :=
  ⟨h.1, h.2.1.mark hb hk hi, h.2.2.1, h.2.2.2.w 13 _ _ (by omega)⟩
theorem pm_I.ext (h : pm_I σ0 p set T bd bs Mk cnt σ) {Mk' : Nat → Nat → Nat → Prop} (e : ∀ b k i, b < pq_n p → k < 461 → i < 6 → (Mk b k i ↔ Mk' b k i)) : pm_I σ0 p set T bd bs Mk' cnt σ :=
  ⟨h.1, h.2.1.ext e, h.2.2⟩
theorem pm_P.is (h : pm_P σ0 p set σ) (k : Nat) : σ.1 2 k = σ0.1 2 k := h.2.2.2.1 2 k (by omega) (by omega)
theorem pm_P.row (h : pm_P σ0 p set σ) (k : Nat) : σ.1 5 k = σ0.1 5 k := h.2.2.2.1 5 k (by omega) (by omega)
theorem pm_P.far (h : pm_P σ0 p set σ) (hS : pm_S σ0 p) {b o : Nat} (hb : b < pq_n p) (ho : o < pq_n p) : oX4_slotsApart σ (nI b) (nI o) = some (nI (pq_ap p b o)) := by
  rw [← hS.2.2.2.1 b o hb ho]
  unfold oX4_slotsApart
  rw [h.is, h.is]
theorem pm_ixin {b t : Nat} (hb : b < 6) (ht : t < 401) : ol_in (nI (401 * b + t)) 2406 = true := pl_in (by omega) (by omega)
theorem pm_cell {b t : Nat} : oX4_cell (nI b) (nI t) = some (nI (401 * b + t)) := by
  unfold oX4_cell
  rw [pl_l401, pl_mul, pl_add]
theorem sp_O_no (hg : 1 ≤ pq_g p) {b t : Nat} (hh : ¬ pq_hs p b) : sp_O p b t = none := by
  rw [sp_fix hg]
  unfold sp_wd
  rw [pl_c_f hh, cond_false]
theorem pm_drives (hp : pq_ok p) (hS : pm_S σ0 p) (h : pm_I σ0 p set T bd bs Mk cnt σ) {b : Nat} (hb : b < pq_n p) (hT : T < 401) : oX4_drivesAt σ (nI b) (nI T) = some (ol_ms σ 9 (401 * b + T) (pl_m (sp_D p b T))) := by
  obtain ⟨hR, -, -, hP⟩ := h
  have h6 := hp.1.2
  have hg := hp.2.1
  have hs := hP.2.2.1 b hb
  have e54 : ∀ (v3 s0 : Int32), oX4_drivesAt_L54 (nI b) (nI T) v3 s0 σ = some (ol_ms σ 9 (401 * b + T) (if s0 = -2 then v3 else (v3 >>> ((s0 + 1) &&& 31)) <<< ((s0 + 1) &&& 31))) := fun v3 s0 => by
    unfold oX4_drivesAt_L54
    rw [pm_cell, Option.bind_some, pm_ixin (by omega) hT, pl_ogt, pl_ogt, pl_nn (by omega)]
    by_cases e : s0 = -2
    · rw [if_pos e, if_pos e]
    · rw [if_neg e, if_neg e]
  have e21 : ∀ v3 : Int32, oX4_drivesAt_L21 (nI b) (nI T) v3 σ = some (ol_ms σ 9 (401 * b + T) (if pq_g p ≤ T then (if pl_en (sp_O p b (T - pq_g p)) = -2 then v3 else (v3 >>> ((pl_en (sp_O p b (T - pq_g p)) + 1) &&& 31)) <<< ((pl_en (sp_O p b (T - pq_g p)) + 1) &&& 31)) else v3)) := fun v3 => by
    unfold oX4_drivesAt_L21
    rw [hP.is, hS.2.1]
    by_cases hgT : pq_g p ≤ T
    · rw [if_pos ((pl_le (by omega) (by omega)).mpr hgT), if_pos hgT, pl_sub hgT, pm_cell, Option.bind_some, pm_ixin (by omega) (by omega), pl_ogt, pl_nn (by omega), (hR.2 b (T - pq_g p) hb (Or.inl (by omega))).2.2, e54]
    · rw [if_neg (fun q => hgT ((pl_le (by omega) (by omega)).mp q)), if_neg hgT, e54, if_pos rfl]
  unfold oX4_drivesAt
  rw [hP.1, pl_hasifM (i := b) (by omega)]
  by_cases hh : pq_hs p b
  · have hsm := (hp.2.2.2.2.1 b hb hh).1
    rw [if_pos (hs.mpr hh), pl_in (i := b) (n := 6) (by omega) (by omega), pl_ogt, pl_nn (n := b) (by omega), hP.2.1 b hb hh, e21]
    refine congrArg (fun z => some (ol_ms σ 9 (401 * b + T) z)) ?_
    by_cases hgT : pq_g p ≤ T
    · rw [if_pos hgT]
      cases hO : sp_O p b (T - pq_g p) with
      | none =>
        show (if (-2 : Int32) = -2 then pq_w p b else _) = _
        rw [if_pos rfl, pl_sm_m hsm]
        refine pl_m_ext fun i hi => ?_
        unfold sp_D sp_dr
        rw [hO]
        constructor
        · intro q
          exact ⟨hh, q, Or.inr fun l hl => by cases hl⟩
        · exact fun q => q.2.1
      | some l =>
        have hl6 := sp_O_lt hg.1 hO
        show (if nI l = -2 then _ else ((pq_w p b) >>> ((nI l + 1) &&& 31)) <<< ((nI l + 1) &&& 31)) = _
        rw [if_neg (pl_n2 l hl6), pl_s]
        refine pl_m_of fun i hi => ?_
        rw [pl_cut _ (by omega) hi, Bool.and_eq_true, decide_eq_true_eq]
        unfold sp_D sp_dr
        rw [hO]
        constructor
        · rintro ⟨q2, q1⟩
          refine ⟨?_, hh, q1, Or.inr fun l' hl' => ?_⟩
          · rcases Nat.lt_or_ge i 6 with h1 | h1
            · exact h1
            · rw [hsm i h1 hi] at q1
              cases q1
          · cases hl'
            omega
        · rintro ⟨-, -, q1, q2⟩
          refine ⟨?_, q1⟩
          rcases q2 with q2 | q2
          · omega
          · have := q2 l rfl
            omega
    · rw [if_neg hgT, pl_sm_m hsm]
      refine pl_m_ext fun i hi => ?_
      unfold sp_D sp_dr
      constructor
      · intro q
        exact ⟨hh, q, Or.inl (by omega)⟩
      · exact fun q => q.2.1
  · rw [if_neg (fun q => hh (hs.mp q)), e21, sp_O_no hg.1 hh]
    refine congrArg (fun z => some (ol_ms σ 9 (401 * b + T) z)) ?_
    rw [pl_m_0 (fun i hi q => hh q.1)]
    show (if pq_g p ≤ T then (if (-2 : Int32) = -2 then (0 : Int32) else _) else 0) = 0
    rw [if_pos rfl]
    by_cases hgT : pq_g p ≤ T
    · rw [if_pos hgT]
    · rw [if_neg hgT]
/-! dips -/
theorem pm_near (hp : pq_ok p) (hS : pm_S σ0 p) (h : pm_I σ0 p set T (pq_n p) bs Mk cnt σ) {c i : Nat} (hc : c < pq_n p) (hi : i < 6) (hT : T < 401) : oX4_nearest σ (nI c) (nI i) (nI T) = some (nI (sp_ne p (sp_D p) c T i)) := by
  obtain ⟨hR, -, -, hP⟩ := h
  have h6 := hp.1.2
  unfold oX4_nearest
  refine pl_for (fun n v s => oX4_nearest_L6 σ (nI c) (nI i) (nI T) n s v) (pq_n p) (fun k s => s = nI (sp_nr p (fun o => sp_D p o T i) c k)) (fun r => r = some (nI (sp_ne p (sp_D p) c T i))) (fun n k s hk hs ih => ?_) ol_fuel 0 0 (by omega) (by unfold ol_fuel; omega) rfl
  subst hs
  have hle := sp_nr_le hp (fun o => sp_D p o T i) hc k hk
  show oX4_nearest_L6 σ (nI c) (nI i) (nI T) (n + 1) _ (nI k) = _
  rw [oX4_nearest_L6, hP.is, hS.1]
  by_cases hkn : k < pq_n p
  · have ih := ih hkn
    have hap := hp.2.2.2.2.2 c k hc hkn
    have hnr : sp_nr p (fun o => sp_D p o T i) c (k + 1) = bif pl_c (¬ k = c ∧ sp_D p k T i ∧ (sp_nr p (fun o => sp_D p o T i) c k = 0 ∨ pq_ap p c k < sp_nr p (fun o => sp_D p o T i) c k)) then pq_ap p c k else sp_nr p (fun o => sp_D p o T i) c k := rfl
    rw [if_neg (fun q => by have := (pl_le (by omega) (by omega)).mp q; omega), hP.far hS hc hkn, Option.bind_some, pl_s]
    by_cases hkc : k = c
    · rw [if_pos (by rw [hkc])]
      refine ih _ ?_
      rw [hnr, pl_c_f (fun q => q.1 hkc), cond_false]
    · rw [if_neg (fun q => hkc ((pl_eq (by omega) (by omega)).mp q)), pm_cell, Option.bind_some, pm_ixin (by omega) hT, pl_ogt, pl_nn (by omega), pl_hasifM (i := i) (by omega), hR.1 k T hkn (Or.inr ⟨rfl, hkn⟩)]
      by_cases hD : sp_D p k T i
      · rw [if_pos ((pl_m_b _ (by omega)).mpr ⟨hi, hD⟩)]
        by_cases h0 : sp_nr p (fun o => sp_D p o T i) c k = 0
        · rw [if_pos (by rw [h0]; rfl)]
          refine ih _ ?_
          rw [hnr, pl_c_t ⟨hkc, hD, Or.inl h0⟩, cond_true]
        · rw [if_neg (fun q => h0 ((pl_eq0 (by omega)).mp q))]
          by_cases hlt : pq_ap p c k < sp_nr p (fun o => sp_D p o T i) c k
          · rw [if_neg (fun q => by have := (pl_le (by omega) (by omega)).mp q; omega)]
            refine ih _ ?_
            rw [hnr, pl_c_t ⟨hkc, hD, Or.inr hlt⟩, cond_true]
          · rw [if_pos ((pl_le (by omega) (by omega)).mpr (by omega))]
            refine ih _ ?_
            rw [hnr, pl_c_f (fun q => by rcases q.2.2 with q1 | q1; exact h0 q1; exact hlt q1), cond_false]
      · rw [if_neg (fun q => hD ((pl_m_b _ (by omega)).mp q).2)]
        refine ih _ ?_
        rw [hnr, pl_c_f (fun q => hD q.2.1), cond_false]
  · have e : k = pq_n p := by omega
    subst e
    rw [if_pos ((pl_le (by omega) (by omega)).mpr (Nat.le_refl _))]
    rfl
theorem pm_L114 (hp : pq_ok p) (h : pm_I σ0 p set T (pq_n p) bs Mk cnt σ) {c i o m : Nat} (ho : o < pq_n p) (hi : i < 6) (hT : T < 401) (hm : m ≤ 9) (hco : pq_ap p c o ≤ 9) (v3 : Int32) (k37 : Int32 → Int32 → ol_Mm → Option ol_Mm) (k88 : Int32 → Int32 → Int32 → Int32 → ol_Mm → Option ol_Mm) : ∃ σ', oX4_dipsAt_L114 (nI c) (nI T) k37 k88 ol_fuel v3 (nI i) (nI m) (nI o) (nI (T + pq_ap p c o)) (nI (T + pq_ap p c o)) σ = k88 v3 (nI i) (nI m) (nI (o + 1)) σ' ∧ pm_I σ0 p set T (pq_n p) bs (fun b k j => Mk b k j ∨ (j = i ∧ b = o ∧ T + pq_ap p c o ≤ k ∧ k < T + pq_ap p c o + 2 * m)) cnt σ' := by
  have h6 := hp.1.2
  refine pl_for (fun n v s => oX4_dipsAt_L114 (nI c) (nI T) k37 k88 n v3 (nI i) (nI m) (nI o) (nI (T + pq_ap p c o)) v s) 500 (fun kk s => T + pq_ap p c o ≤ kk ∧ pm_I σ0 p set T (pq_n p) bs (fun b k j => Mk b k j ∨ (j = i ∧ b = o ∧ T + pq_ap p c o ≤ k ∧ k < T + pq_ap p c o + 2 * m ∧ k < kk)) cnt s) (fun r => ∃ σ', r = k88 v3 (nI i) (nI m) (nI (o + 1)) σ' ∧ pm_I σ0 p set T (pq_n p) bs (fun b k j => Mk b k j ∨ (j = i ∧ b = o ∧ T + pq_ap p c o ≤ k ∧ k < T + pq_ap p c o + 2 * m)) cnt σ') (fun n kk s hk hs ih => ?_) ol_fuel (T + pq_ap p c o) σ (by omega) (by unfold ol_fuel; omega) ⟨Nat.le_refl _, h.ext fun b k j _ _ _ => ⟨Or.inl, fun q => by
    rcases q with q | ⟨-, -, q1, -, q2⟩
    · exact q
    · omega⟩⟩
  obtain ⟨h3, hs⟩ := hs
  show ∃ σ', oX4_dipsAt_L114 (nI c) (nI T) k37 k88 (n + 1) v3 (nI i) (nI m) (nI o) (nI (T + pq_ap p c o)) (nI kk) s = _ ∧ _
  rw [oX4_dipsAt_L114, pl_l2, pl_mul, pl_add, pl_s, pl_s]
  by_cases h1 : T + pq_ap p c o + 2 * m ≤ kk
  · rw [if_pos ((pl_le (by omega) (by omega)).mpr h1)]
    exact ⟨s, rfl, hs.ext fun b k j _ _ _ => ⟨fun q => by
      rcases q with q | ⟨q1, q2, q3, q4, q5⟩
      · exact Or.inl q
      · exact Or.inr ⟨q1, q2, q3, q4⟩, fun q => by
      rcases q with q | ⟨q1, q2, q3, q4⟩
      · exact Or.inl q
      · exact Or.inr ⟨q1, q2, q3, q4, by omega⟩⟩⟩
  · rw [if_neg (fun q => h1 ((pl_le (by omega) (by omega)).mp q)), pl_l461, pl_mul, pl_add, pl_in (by omega) (by omega), pl_ogt, pl_ogt, pl_nn (by omega)]
    exact ih (by omega) _ ⟨by omega, (hs.mark ho (by omega) hi).ext fun b k j _ _ _ => ⟨fun q => by
      rcases q with (q | ⟨q1, q2, q3, q4, q5⟩) | ⟨q1, q2, q3⟩
      · exact Or.inl q
      · exact Or.inr ⟨q1, q2, q3, q4, by omega⟩
      · exact Or.inr ⟨q1, q2, by omega, by omega, by omega⟩, fun q => by
      rcases q with q | ⟨q1, q2, q3, q4, q5⟩
      · exact Or.inl (Or.inl q)
      · by_cases e : k = kk
        · exact Or.inr ⟨q1, q2, e⟩
        · exact Or.inl (Or.inr ⟨q1, q2, q3, q4, by omega⟩)⟩⟩
theorem pm_L88 (hp : pq_ok p) (hS : pm_S σ0 p) (h : pm_I σ0 p set T (pq_n p) bs Mk cnt σ) {c i m : Nat} (hc : c < pq_n p) (hi : i < 6) (hT : T < 401) (hm : m ≤ 9) (v3 : Int32) (k37 : Int32 → Int32 → ol_Mm → Option ol_Mm) : ∃ σ', oX4_dipsAt_L88 (nI c) (nI T) k37 ol_fuel v3 (nI i) (nI m) 0 σ = k37 v3 (nI (i + 1)) σ' ∧ pm_I σ0 p set T (pq_n p) bs (fun b k j => Mk b k j ∨ (j = i ∧ T + pq_ap p c b ≤ k ∧ k < T + pq_ap p c b + 2 * m)) cnt σ' := by
  have h6 := hp.1.2
  refine pl_for (fun n v s => oX4_dipsAt_L88 (nI c) (nI T) k37 n v3 (nI i) (nI m) v s) (pq_n p) (fun o s => pm_I σ0 p set T (pq_n p) bs (fun b k j => Mk b k j ∨ (j = i ∧ b < o ∧ T + pq_ap p c b ≤ k ∧ k < T + pq_ap p c b + 2 * m)) cnt s) (fun r => ∃ σ', r = k37 v3 (nI (i + 1)) σ' ∧ pm_I σ0 p set T (pq_n p) bs (fun b k j => Mk b k j ∨ (j = i ∧ T + pq_ap p c b ≤ k ∧ k < T + pq_ap p c b + 2 * m)) cnt σ') (fun n o s ho hs ih => ?_) ol_fuel 0 σ (by omega) (by unfold ol_fuel; omega) (h.ext fun b k j _ _ _ => ⟨Or.inl, fun q => by
    rcases q with q | ⟨-, q1, -⟩
    · exact q
    · omega⟩)
  show ∃ σ', oX4_dipsAt_L88 (nI c) (nI T) k37 (n + 1) v3 (nI i) (nI m) (nI o) s = _ ∧ _
  rw [oX4_dipsAt_L88, hs.2.2.2.is, hS.1, pl_s]
  by_cases hon : o < pq_n p
  · have hco := (hp.2.2.2.2.2 c o hc hon).1
    rw [if_neg (fun q => by have := (pl_le (by omega) (by omega)).mp q; omega), hs.2.2.2.far hS hc hon, Option.bind_some, pl_add]
    obtain ⟨σ1, e1, h1⟩ := pm_L114 hp hs (c := c) (i := i) hon hi hT hm hco v3 k37 (oX4_dipsAt_L88 (nI c) (nI T) k37 n)
    rw [e1]
    exact ih hon σ1 (h1.ext fun b k j _ _ _ => ⟨fun q => by
      rcases q with (q | ⟨q1, q2, q3⟩) | ⟨q1, q2, q3, q4⟩
      · exact Or.inl q
      · exact Or.inr ⟨q1, by omega, q3⟩
      · subst q2
        exact Or.inr ⟨q1, by omega, q3, q4⟩, fun q => by
      rcases q with q | ⟨q1, q2, q3⟩
      · exact Or.inl (Or.inl q)
      · by_cases e : b = o
        · subst e
          exact Or.inr ⟨q1, rfl, q3⟩
        · exact Or.inl (Or.inr ⟨q1, by omega, q3⟩)⟩)
  · rw [if_pos ((pl_le (by omega) (by omega)).mpr (by omega))]
    exact ⟨s, rfl, hs.ext fun b k j hb _ _ => ⟨fun q => by
      rcases q with q | ⟨q1, -, q3⟩
      · exact Or.inl q
      · exact Or.inr ⟨q1, q3⟩, fun q => by
      rcases q with q | ⟨q1, q3⟩
      · exact Or.inl q
      · exact Or.inr ⟨q1, by omega, q3⟩⟩⟩
theorem pm_dipsL (hp : pq_ok p) (hS : pm_S σ0 p) {c : Nat} (hc : c < pq_n p) (hT : T < 401) {v3 : Int32} (hv : v3 = pl_m (sp_go (sp_D p) c T)) (h : pm_I σ0 p set T (pq_n p) bs (fun b k j => sp_mp p (sp_D p) T c 0 b k j) cnt σ) : ∃ σ', oX4_dipsAt_L37 (nI c) (nI T) ol_fuel v3 0 σ = some σ' ∧ pm_I σ0 p set T (pq_n p) bs (fun b k j => sp_mp p (sp_D p) T (c + 1) 0 b k j) (cnt + sp_c2 p (sp_D p) T c) σ' := by
  have h6 := hp.1.2
  subst hv
  refine pl_for (fun n v s => oX4_dipsAt_L37 (nI c) (nI T) n (pl_m (sp_go (sp_D p) c T)) v s) 6 (fun i s => pm_I σ0 p set T (pq_n p) bs (fun b k j => sp_mp p (sp_D p) T c i b k j) (cnt + pl_sum (sp_c1 p (sp_D p) T c) i) s) (fun r => ∃ σ', r = some σ' ∧ pm_I σ0 p set T (pq_n p) bs (fun b k j => sp_mp p (sp_D p) T (c + 1) 0 b k j) (cnt + sp_c2 p (sp_D p) T c) σ') (fun n i s hi hs ih => ?_) ol_fuel 0 σ (by omega) (by unfold ol_fuel; omega) h
  show ∃ σ', oX4_dipsAt_L37 (nI c) (nI T) (n + 1) (pl_m (sp_go (sp_D p) c T)) (nI i) s = _ ∧ _
  rw [oX4_dipsAt_L37, pl_l6]
  by_cases hi6 : i < 6
  · have hskip : sp_c1 p (sp_D p) T c i = 0 → ¬ (sp_go (sp_D p) c T i ∧ ¬ sp_ne p (sp_D p) c T i = 0) → ∃ σ', oX4_dipsAt_L37 (nI c) (nI T) n (pl_m (sp_go (sp_D p) c T)) (nI (i + 1)) s = some σ' ∧ pm_I σ0 p set T (pq_n p) bs (fun b k j => sp_mp p (sp_D p) T (c + 1) 0 b k j) (cnt + sp_c2 p (sp_D p) T c) σ' := fun e0 hno => by
      refine ih hi6 s ?_
      show pm_I σ0 p set T (pq_n p) bs _ (cnt + (pl_sum (sp_c1 p (sp_D p) T c) i + sp_c1 p (sp_D p) T c i)) s
      rw [e0, Nat.add_zero]
      exact hs.ext fun b k j _ _ _ => ⟨fun q => (sp_mpi hc).mpr (Or.inl q), fun q => by
        rcases (sp_mpi hc).mp q with q | ⟨rfl, q⟩
        · exact q
        · exact absurd ⟨q.1, q.2.1⟩ hno⟩
    have hno1 : ¬ (sp_go (sp_D p) c T i ∧ ¬ sp_ne p (sp_D p) c T i = 0) → sp_c1 p (sp_D p) T c i = 0 := fun q => by
      unfold sp_c1
      rw [pl_c_f q, cond_false]
    unfold oX4_dipsAt_L65
    rw [if_neg (fun q => by have := (pl_le (by omega) (by omega)).mp q; omega), pl_hasifM (i := i) (by omega), pl_i00, pl_s]
    by_cases hgo : sp_go (sp_D p) c T i
    · rw [if_pos ((pl_m_b _ (by omega)).mpr ⟨hi6, hgo⟩), pm_near hp hS hs hc hi6 hT, Option.bind_some]
      have hne : sp_ne p (sp_D p) c T i ≤ 9 := sp_nr_le hp _ hc _ (Nat.le_refl _)
      by_cases h0 : sp_ne p (sp_D p) c T i = 0
      · rw [if_pos (by rw [h0]; rfl)]
        exact hskip (hno1 fun q => q.2 h0) fun q => q.2 h0
      · rw [if_neg (fun q => h0 ((pl_eq0 (by omega)).mp q))]
        have e : sp_c1 p (sp_D p) T c i = 1 := by
          unfold sp_c1
          rw [pl_c_t ⟨hgo, h0⟩, cond_true]
        have h1 : pm_I σ0 p set T (pq_n p) bs (fun b k j => sp_mp p (sp_D p) T c i b k j) (cnt + pl_sum (sp_c1 p (sp_D p) T c) i + 1) (ol_ms s 0 29 (s.1 0 29 + 1)) :=
          ⟨hs.1, hs.2.1, by rw [mx_eq, hs.2.2.1, pl_s], hs.2.2.2.d _⟩
        obtain ⟨σ', e1, h2⟩ := pm_L88 hp hS h1 hc hi6 hT hne (pl_m (sp_go (sp_D p) c T)) (oX4_dipsAt_L37 (nI c) (nI T) n)
        rw [e1]
        refine ih hi6 σ' ?_
        show pm_I σ0 p set T (pq_n p) bs _ (cnt + (pl_sum (sp_c1 p (sp_D p) T c) i + sp_c1 p (sp_D p) T c i)) σ'
        rw [e, ← Nat.add_assoc]
        exact h2.ext fun b k j _ _ _ => ⟨fun q => (sp_mpi hc).mpr (by
          rcases q with q | ⟨rfl, q2, q3⟩
          · exact Or.inl q
          · exact Or.inr ⟨rfl, hgo, h0, q2, q3⟩), fun q => by
          rcases (sp_mpi hc).mp q with q | ⟨rfl, q⟩
          · exact Or.inl q
          · exact Or.inr ⟨rfl, q.2.2.1, q.2.2.2⟩⟩
    · rw [if_neg (fun q => hgo ((pl_m_b _ (by omega)).mp q).2)]
      exact hskip (hno1 fun q => hgo q.1) fun q => hgo q.1
  · have e6 : i = 6 := by omega
    subst e6
    rw [if_pos ((pl_le (by omega) (by omega)).mpr (Nat.le_refl _))]
    exact ⟨s, rfl, hs.ext fun b k j _ _ hj => sp_mpc hj⟩
theorem pm_dips (hp : pq_ok p) (hS : pm_S σ0 p) {c : Nat} (hc : c < pq_n p) (hT : T < 401) (h : pm_I σ0 p set T (pq_n p) bs (fun b k j => sp_mp p (sp_D p) T c 0 b k j) cnt σ) : ∃ σ', oX4_dipsAt σ (nI c) (nI T) = some σ' ∧ pm_I σ0 p set T (pq_n p) bs (fun b k j => sp_mp p (sp_D p) T (c + 1) 0 b k j) (cnt + sp_c2 p (sp_D p) T c) σ' := by
  have h6 := hp.1.2
  unfold oX4_dipsAt
  by_cases hT0 : T = 0
  · subst hT0
    rw [if_pos (show nI 0 = 0 from rfl)]
    exact pm_dipsL hp hS hc hT (pl_m_0 fun i _ q => by
      have := q.1
      omega).symm h
  · rw [if_neg (fun q => hT0 ((pl_eq0 (by omega)).mp q)), pl_d1 (by omega), pm_cell, Option.bind_some, pm_ixin (by omega) (by omega), pl_ogt, pm_cell, Option.bind_some, pm_ixin (by omega) hT, pl_ogt, pl_nn (by omega), pl_nn (by omega)]
    refine pm_dipsL hp hS hc hT ?_ h
    rw [h.1.1 c (T - 1) hc (Or.inl (by omega)), h.1.1 c T hc (Or.inr ⟨rfl, hc⟩)]
    refine pl_m_of fun i hi => ?_
    rw [pl_b_and, pl_b_not _ hi, Bool.and_eq_true, pl_m_b _ hi, Bool.not_eq_true', ← Bool.not_eq_true, pl_m_b _ hi]
    unfold sp_go
    constructor
    · rintro ⟨⟨q1, q2⟩, q3⟩
      exact ⟨q1, by omega, q2, fun q => q3 ⟨q1, q⟩⟩
    · rintro ⟨q1, q2, q3, q4⟩
      exact ⟨⟨q1, q3⟩, fun q => q4 q.2⟩
/-! what a board sees, takes -/
theorem pm_isSeen (hp : pq_ok p) (hS : pm_S σ0 p) {b i : Nat} (hb : b < pq_n p) (hi : i < 6) (hT : T < 401) (h : pm_I σ0 p set T (pq_n p) bs (fun b k j => sp_dp p (sp_D p) (T + 1) b k j) cnt σ) : oX4_isSeen σ (nI b) (nI i) (nI T) = some (bif pl_c (sp_se p (sp_D p) b T i) then 1 else 0) := by
  obtain ⟨hR, hM, -, hP⟩ := h
  have h6 := hp.1.2
  have hln := hp.2.2.2.1 i hi
  unfold oX4_isSeen
  rw [pm_cell, Option.bind_some, pm_ixin (by omega) hT, pl_ogt, pl_nn (by omega), pl_hasifM (i := i) (by omega), hR.1 b T hb (Or.inr ⟨rfl, hb⟩)]
  by_cases hD : sp_D p b T i
  · rw [if_pos ((pl_m_b _ (by omega)).mpr ⟨hi, hD⟩), pl_c_t (P := sp_se p (sp_D p) b T i) (Or.inl hD), cond_true]
  · rw [if_neg (fun q => hD ((pl_m_b _ (by omega)).mp q).2), show (12 : Int32) = nI 12 from rfl, pl_add, pl_in (by omega) (by omega), pl_ogt, pl_nn (by omega), hP.row, hS.2.2.2.2 i hi]
    by_cases h0 : pq_ln p i = 0
    · have n1 : ¬ pq_ln p i = 1 := fun q => by rw [h0] at q; exact absurd q (by decide)
      have n2 : ¬ pq_ln p i = 2 := fun q => by rw [h0] at q; exact absurd q (by decide)
      rw [if_pos h0, pl_l461, pl_mul, pl_add, pl_in (by omega) (by omega), pl_ogt, pl_nn (by omega), pl_hasifM (i := i) (by omega), hM b T hb (by omega)]
      by_cases hdp : sp_dp p (sp_D p) (T + 1) b T i
      · rw [if_pos ((pl_m_b _ (by omega)).mpr ⟨hi, hdp⟩), pl_c_f (P := sp_se p (sp_D p) b T i) (fun q => by
          rcases q with q | ⟨-, q | ⟨q, -⟩⟩
          · exact hD q
          · exact n1 q
          · exact q hdp), cond_false]
      · rw [if_neg (fun q => hdp ((pl_m_b _ (by omega)).mp q).2)]
        refine pl_for (fun n v (_ : Unit) => oX4_isSeen_L74 σ (nI b) (nI i) (nI T) n v) (pq_n p) (fun k _ => ∀ o, o < k → ¬ (pq_ap p b o ≤ T ∧ sp_D p o (T - pq_ap p b o) i)) (fun r => r = some (bif pl_c (sp_se p (sp_D p) b T i) then 1 else 0)) (fun n k s hk hs ih => ?_) ol_fuel 0 () (by omega) (by unfold ol_fuel; omega) (fun o q => by omega)
        show oX4_isSeen_L74 σ (nI b) (nI i) (nI T) (n + 1) (nI k) = _
        rw [oX4_isSeen_L74, hP.is, hS.1]
        by_cases hkn : k < pq_n p
        · have hap := hp.2.2.2.2.2 b k hb hkn
          have next : ¬ (pq_ap p b k ≤ T ∧ sp_D p k (T - pq_ap p b k) i) → oX4_isSeen_L74 σ (nI b) (nI i) (nI T) n (nI (k + 1)) = some (bif pl_c (sp_se p (sp_D p) b T i) then 1 else 0) := fun hno => ih hkn () fun o ho => by
            by_cases e : o = k
            · rw [e]; exact hno
            · exact hs o (by omega)
          rw [if_neg (fun q => by have := (pl_le (by omega) (by omega)).mp q; omega), hP.far hS hb hkn, Option.bind_some, pl_s]
          by_cases hkb : k = b
          · rw [if_pos (by rw [hkb])]
            refine next fun q => ?_
            have e0 := hap.2.2 hkb
            rw [e0, hkb, Nat.sub_zero] at q
            exact hD q.2
          · rw [if_neg (fun q => hkb ((pl_eq (by omega) (by omega)).mp q))]
            by_cases hle : pq_ap p b k ≤ T
            · rw [pl_sub hle, if_neg (fun q => by
                have e : (0 : Int32) = nI 0 := rfl
                rw [e] at q
                have := (pl_lt (by omega) (by omega)).mp q
                omega), pm_cell, Option.bind_some, pm_ixin (by omega) (by omega), pl_ogt, pl_nn (by omega), pl_hasifM (i := i) (by omega), hR.1 k (T - pq_ap p b k) hkn (by
                rcases Nat.lt_or_ge (T - pq_ap p b k) T with q | q
                · exact Or.inl q
                · exact Or.inr ⟨by omega, hkn⟩)]
              by_cases hDk : sp_D p k (T - pq_ap p b k) i
              · rw [if_pos ((pl_m_b _ (by omega)).mpr ⟨hi, hDk⟩), pl_c_t (P := sp_se p (sp_D p) b T i) (Or.inr ⟨n2, Or.inr ⟨hdp, k, hkn, hle, hDk⟩⟩), cond_true]
              · rw [if_neg (fun q => hDk ((pl_m_b _ (by omega)).mp q).2)]
                exact next fun q => hDk q.2
            · have hneg : nI T - nI (pq_ap p b k) < 0 := by
                have : ∀ t, t < 10 → ∀ a, a < 10 → t < a → nI t - nI a < 0 := by decide +kernel
                exact this T (by omega) _ (by omega) (by omega)
              rw [if_pos hneg]
              exact next fun q => hle q.1
        · have e : k = pq_n p := by omega
          subst e
          rw [if_pos ((pl_le (by omega) (by omega)).mpr (Nat.le_refl _)), pl_c_f (P := sp_se p (sp_D p) b T i) (fun q => by
            rcases q with q | ⟨-, q | ⟨-, o, q1, q2, q3⟩⟩
            · exact hD q
            · exact n1 q
            · exact hs o q1 ⟨q2, q3⟩), cond_false]
    · rw [if_neg h0]
      by_cases h1 : pq_ln p i = 1
      · have n2 : ¬ pq_ln p i = 2 := fun q => by rw [h1] at q; exact absurd q (by decide)
        rw [if_pos h1, pl_c_t (P := sp_se p (sp_D p) b T i) (Or.inr ⟨n2, Or.inl h1⟩), cond_true, pl_ogt]
      · have h2 : pq_ln p i = 2 := by
          rcases hln with q | q | q
          · exact absurd q h0
          · exact absurd q h1
          · exact q
        rw [if_neg h1, pl_c_f (P := sp_se p (sp_D p) b T i) (fun q => by
          rcases q with q | ⟨q, -⟩
          · exact hD q
          · exact q h2), cond_false, pl_ogt]
theorem pl_below {k T f : Nat} (hk : k ≤ 401) (hT : T ≤ 401) (hf : f ≤ 20) : nI k < nI T - nI f ↔ k + f < T := by
  by_cases h : f ≤ T
  · rw [pl_sub h, pl_lt (by omega) (by omega)]
    omega
  · have hneg : nI T - nI f < 0 := by
      have : ∀ t, t < 21 → ∀ a, a < 21 → t < a → nI t - nI a < 0 := by decide +kernel
      exact this T (by omega) f (by omega) (by omega)
    constructor
    · intro q
      have h1 := Int32.lt_iff_toInt_lt.mp q
      have h2 := Int32.lt_iff_toInt_lt.mp hneg
      rw [pl_int (by omega)] at h1
      have e0 : (0 : Int32).toInt = 0 := rfl
      omega
    · intro q
      omega
/-- the row of what is seen, gone over backwards -/
theorem pm_L57 (hp : pq_ok p) (hS : pm_S σ0 p) (hP : pm_P σ0 p set σ) {b : Nat} (hb : b < pq_n p) (hT : T < 401) (hse : ∀ t, t ≤ T → σ.1 10 (401 * b + t) = pl_m (sp_se p (sp_D p) b t)) : ∀ (k n : Nat) (acc : Int32), k ≤ T → k + 1 < n → acc = pl_m (fun i => ∃ t', k < t' ∧ t' ≤ T ∧ T ≤ t' + pq_f p ∧ sp_se p (sp_D p) b t' i) → oX4_looksAt_L57 (nI b) (nI T) n acc (nI k) σ = oX4_looksAt_L97 (nI b) (nI T) (pl_m (sp_ta p (sp_D p) b T)) σ := by
  have h6 := hp.1.2
  have hf := hp.2.2.1
  intro k
  induction k with
  | zero =>
    intro n acc hk hn hacc
    obtain ⟨n, rfl⟩ : ∃ m, n = m + 1 + 1 := ⟨n - 2, by omega⟩
    rw [oX4_looksAt_L57, hP.is, hS.2.2.1, if_neg (by decide)]
    by_cases h1 : 0 + pq_f p < T
    · rw [if_pos ((pl_below (by omega) (by omega) hf).mpr h1), hacc]
      refine congrArg (fun z => oX4_looksAt_L97 (nI b) (nI T) z σ) (pl_m_ext fun i _ => ⟨?_, ?_⟩)
      · rintro ⟨t', -, q2, q3, q4⟩
        exact ⟨t', q2, q3, q4⟩
      · rintro ⟨t', q2, q3, q4⟩
        exact ⟨t', by omega, q2, q3, q4⟩
    · rw [if_neg (fun q => h1 ((pl_below (by omega) (by omega) hf).mp q)), pm_cell, Option.bind_some, pm_ixin (by omega) (by omega), pl_ogt, pl_nn (by omega), hse 0 (by omega), oX4_looksAt_L57, if_pos (by decide), hacc]
      refine congrArg (fun z => oX4_looksAt_L97 (nI b) (nI T) z σ) (pl_m_of fun i hi => ?_)
      rw [pl_b_or, Bool.or_eq_true, pl_m_b _ hi, pl_m_b _ hi]
      constructor
      · rintro (⟨q0, t', -, q2, q3, q4⟩ | ⟨q0, q1⟩)
        · exact ⟨q0, t', q2, q3, q4⟩
        · exact ⟨q0, 0, by omega, by omega, q1⟩
      · rintro ⟨q0, t', q2, q3, q4⟩
        by_cases e : t' = 0
        · subst e
          exact Or.inr ⟨q0, q4⟩
        · exact Or.inl ⟨q0, t', by omega, q2, q3, q4⟩
  | succ k ih =>
    intro n acc hk hn hacc
    obtain ⟨n, rfl⟩ : ∃ m, n = m + 1 := ⟨n - 1, by omega⟩
    rw [oX4_looksAt_L57, hP.is, hS.2.2.1, if_neg (fun q => by
      have e : (0 : Int32) = nI 0 := rfl
      rw [e] at q
      have := (pl_lt (by omega) (by omega)).mp q
      omega)]
    by_cases h1 : k + 1 + pq_f p < T
    · rw [if_pos ((pl_below (by omega) (by omega) hf).mpr h1), hacc]
      refine congrArg (fun z => oX4_looksAt_L97 (nI b) (nI T) z σ) (pl_m_ext fun i _ => ⟨?_, ?_⟩)
      · rintro ⟨t', -, q2, q3, q4⟩
        exact ⟨t', q2, q3, q4⟩
      · rintro ⟨t', q2, q3, q4⟩
        exact ⟨t', by omega, q2, q3, q4⟩
    · rw [if_neg (fun q => h1 ((pl_below (by omega) (by omega) hf).mp q)), pm_cell, Option.bind_some, pm_ixin (by omega) (by omega), pl_ogt, pl_nn (by omega), hse (k + 1) hk, pl_p]
      refine ih n _ (by omega) (by omega) ?_
      rw [hacc]
      refine pl_m_of fun i hi => ?_
      rw [pl_b_or, Bool.or_eq_true, pl_m_b _ hi, pl_m_b _ hi]
      constructor
      · rintro (⟨q0, t', q1, q2, q3, q4⟩ | ⟨q0, q1⟩)
        · exact ⟨q0, t', by omega, q2, q3, q4⟩
        · exact ⟨q0, k + 1, by omega, hk, by omega, q1⟩
      · rintro ⟨q0, t', q1, q2, q3, q4⟩
        by_cases e : t' = k + 1
        · subst e
          exact Or.inr ⟨q0, q4⟩
        · exact Or.inl ⟨q0, t', by omega, q2, q3, q4⟩
/-- the line that one is withdrawn to -/
theorem pm_L116 (hp : pq_ok p) (hP : pm_P σ0 p set σ) {b : Nat} (hb : b < pq_n p) (hT : T < 401) : oX4_looksAt_L116 (nI b) (nI T) ol_fuel (pl_m (sp_ta p (sp_D p) b T)) (-2) 0 σ = some (ol_ms σ 12 (401 * b + T) (pl_en (sp_O p b T))) := by
  have h6 := hp.1.2
  have hO := sp_fix hp.2.1.1 b T
  refine pl_for (fun n v s => oX4_looksAt_L116 (nI b) (nI T) n (pl_m (sp_ta p (sp_D p) b T)) s v σ) 6 (fun k s => s = pl_en (bif pl_c (pq_hs p b) then pl_top (fun k => sp_ta p (sp_D p) b T k ∧ pl_b (pq_w p b) k = false) k else none)) (fun r => r = some (ol_ms σ 12 (401 * b + T) (pl_en (sp_O p b T)))) (fun n k s hk hs ih => ?_) ol_fuel 0 (-2) (by omega) (by unfold ol_fuel; omega) (by cases pl_c (pq_hs p b) <;> rfl)
  show oX4_looksAt_L116 (nI b) (nI T) (n + 1) (pl_m (sp_ta p (sp_D p) b T)) s (nI k) σ = _
  have hend : ∀ x : Int32, x = pl_en (sp_O p b T) → ((oX4_cell (nI b) (nI T)).bind fun y6 => ol_og (ol_in y6 2406) (some (ol_ms σ 12 y6.toNatClampNeg x))) = some (ol_ms σ 12 (401 * b + T) (pl_en (sp_O p b T))) := fun x hx => by
    rw [pm_cell, Option.bind_some, pm_ixin (by omega) hT, pl_ogt, pl_nn (by omega), hx]
  rw [oX4_looksAt_L116, pl_l6]
  by_cases hk6 : k < 6
  · rw [if_neg (fun q => by have := (pl_le (by omega) (by omega)).mp q; omega), hP.1, pl_hasifM (i := b) (by omega)]
    by_cases hh : pq_hs p b
    · rw [pl_c_t hh, cond_true] at hs
      rw [if_pos ((hP.2.2.1 b hb).mpr hh), pl_hasifM (i := k) (by omega), pl_s]
      have hnx : pl_top (fun k => sp_ta p (sp_D p) b T k ∧ pl_b (pq_w p b) k = false) (k + 1) = bif pl_c (sp_ta p (sp_D p) b T k ∧ pl_b (pq_w p b) k = false) then some k else pl_top (fun k => sp_ta p (sp_D p) b T k ∧ pl_b (pq_w p b) k = false) k := rfl
      by_cases hta : sp_ta p (sp_D p) b T k
      · rw [if_pos ((pl_m_b _ (by omega)).mpr ⟨hk6, hta⟩), pl_in (i := b) (n := 6) (by omega) (by omega), pl_ogt, pl_nn (n := b) (by omega), hP.2.1 b hb hh, pl_hasifM (i := k) (by omega)]
        cases hw : pl_b (pq_w p b) k with
        | true =>
          rw [if_pos rfl]
          refine ih hk6 _ ?_
          rw [pl_c_t hh, cond_true, hnx, pl_c_f (fun q => by rw [hw] at q; cases q.2), cond_false]
          exact hs
        | false =>
          rw [if_neg (by decide)]
          refine ih hk6 _ ?_
          rw [pl_c_t hh, cond_true, hnx, pl_c_t ⟨hta, hw⟩, cond_true]
          rfl
      · rw [if_neg (fun q => hta ((pl_m_b _ (by omega)).mp q).2)]
        refine ih hk6 _ ?_
        rw [pl_c_t hh, cond_true, hnx, pl_c_f (fun q => hta q.1), cond_false]
        exact hs
    · rw [if_neg (fun q => hh ((hP.2.2.1 b hb).mp q))]
      refine hend s ?_
      rw [hs, hO]
      unfold sp_wd
      rw [pl_c_f hh, cond_false, cond_false]
  · have e : k = 6 := by omega
    subst e
    rw [if_pos ((pl_le (by omega) (by omega)).mpr (Nat.le_refl _))]
    refine hend s ?_
    rw [hs, hO]
    rfl
theorem pm_looks (hp : pq_ok p) (hS : pm_S σ0 p) {b : Nat} (hb : b < pq_n p) (hT : T < 401) (h : pm_I σ0 p set T (pq_n p) b (fun b k j => sp_dp p (sp_D p) (T + 1) b k j) cnt σ) : ∃ σ', oX4_looksAt σ (nI b) (nI T) = some σ' ∧ pm_I σ0 p set T (pq_n p) (b + 1) (fun b k j => sp_dp p (sp_D p) (T + 1) b k j) cnt σ' := by
  have h6 := hp.1.2
  unfold oX4_looksAt
  refine pl_for (fun n v s => oX4_looksAt_L5 (nI b) (nI T) n s v σ) 6 (fun i s => s = pl_m (fun j => j < i ∧ sp_se p (sp_D p) b T j)) (fun r => ∃ σ', r = some σ' ∧ pm_I σ0 p set T (pq_n p) (b + 1) (fun b k j => sp_dp p (sp_D p) (T + 1) b k j) cnt σ') (fun n i s hi hs ih => ?_) ol_fuel 0 0 (by omega) (by unfold ol_fuel; omega) (pl_m_0 fun j _ q => by omega).symm
  show ∃ σ', oX4_looksAt_L5 (nI b) (nI T) (n + 1) s (nI i) σ = _ ∧ _
  rw [oX4_looksAt_L5, pl_l6]
  by_cases hi6 : i < 6
  · rw [if_neg (fun q => by have := (pl_le (by omega) (by omega)).mp q; omega), pm_isSeen hp hS hb hi6 hT h, Option.bind_some, pl_s]
    by_cases hse : sp_se p (sp_D p) b T i
    · rw [pl_c_t hse, cond_true, pl_i10]
      refine ih hi6 _ ?_
      rw [hs, pl_m_or1 hi6]
      refine pl_m_ext fun j _ => ⟨fun q => ?_, fun q => ?_⟩
      · rcases q with q | rfl
        · exact ⟨by omega, q.2⟩
        · exact ⟨by omega, hse⟩
      · by_cases e : j = i
        · exact Or.inr e
        · exact Or.inl ⟨by omega, q.2⟩
    · rw [pl_c_f hse, cond_false, pl_i00, Int32.or_zero]
      refine ih hi6 _ ?_
      rw [hs]
      refine pl_m_ext fun j _ => ⟨fun q => ⟨by omega, q.2⟩, fun q => ?_⟩
      by_cases e : j = i
      · subst e
        exact absurd q.2 hse
      · exact ⟨by omega, q.2⟩
  · have e : i = 6 := by omega
    subst e
    have hs' : s = pl_m (sp_se p (sp_D p) b T) := hs.trans (pl_m_ext fun j hj => ⟨fun q => q.2, fun q => ⟨hj, q⟩⟩)
    rw [if_pos ((pl_le (by omega) (by omega)).mpr (Nat.le_refl _)), pm_cell, Option.bind_some, pm_ixin (by omega) hT, pl_ogt, pl_nn (by omega)]
    have hP1 : pm_P σ0 p set (ol_ms σ 10 (401 * b + T) s) := h.2.2.2.w 10 _ _ (by omega)
    rw [pm_L57 hp hS hP1 hb hT (fun t ht => by
      by_cases e : t = T
      · rw [e, mx_eq]
        exact hs'
      · rw [mx_nk (by omega)]
        exact (h.1.2 b t hb (Or.inl (by omega))).1) T ol_fuel 0 (Nat.le_refl _) (by unfold ol_fuel; omega) (pl_m_0 fun i _ q => by
      obtain ⟨t', q1, q2, -⟩ := q
      omega).symm]
    unfold oX4_looksAt_L97
    rw [pm_cell, Option.bind_some, pm_ixin (by omega) hT, pl_ogt, pl_nn (by omega), pm_L116 hp (hP1.w 11 _ _ (by omega)) hb hT]
    refine ⟨_, rfl, h.1.se' hT (fun k => ?_) (fun k hk => ⟨?_, ?_, ?_⟩) ?_ ?_ ?_, fun b' k hb' hk => ?_, ?_, (hP1.w 11 _ _ (by omega)).w 12 _ _ (by omega)⟩
    · rw [mx_ne (by omega), mx_ne (by omega), mx_ne (by omega)]
    · rw [mx_ne (by omega), mx_ne (by omega), mx_nk hk]
    · rw [mx_ne (by omega), mx_nk hk, mx_ne (by omega)]
    · rw [mx_nk hk, mx_ne (by omega), mx_ne (by omega)]
    · rw [mx_ne (by omega), mx_ne (by omega), mx_eq]
      exact hs'
    · rw [mx_ne (by omega), mx_eq]
    · rw [mx_eq]
    · rw [mx_ne (by omega), mx_ne (by omega), mx_ne (by omega)]
      exact h.2.1 b' k hb' hk
    · rw [mx_ne (by omega), mx_ne (by omega), mx_ne (by omega)]
      exact h.2.2.1
/-! ticks -/
theorem pm_c91 (hp : pq_ok p) (hS : pm_S σ0 p) (hT : T < 401) (x1 : Int32) (k34 : Int32 → ol_Mm → Option ol_Mm) (h : pm_I σ0 p set T (pq_n p) 0 (fun b k j => sp_dp p (sp_D p) (T + 1) b k j) cnt σ) : ∃ σ', oX4_laysPass_L91 x1 k34 ol_fuel (nI T) 0 σ = k34 (nI (T + 1)) σ' ∧ pm_I σ0 p set (T + 1) 0 0 (fun b k j => sp_dp p (sp_D p) (T + 1) b k j) cnt σ' := by
  have h6 := hp.1.2
  refine pl_for (fun n v s => oX4_laysPass_L91 x1 k34 n (nI T) v s) (pq_n p) (fun b s => pm_I σ0 p set T (pq_n p) b (fun b k j => sp_dp p (sp_D p) (T + 1) b k j) cnt s) (fun r => ∃ σ', r = k34 (nI (T + 1)) σ' ∧ pm_I σ0 p set (T + 1) 0 0 (fun b k j => sp_dp p (sp_D p) (T + 1) b k j) cnt σ') (fun n b s hb hs ih => ?_) ol_fuel 0 σ (by omega) (by unfold ol_fuel; omega) h
  show ∃ σ', oX4_laysPass_L91 x1 k34 (n + 1) (nI T) (nI b) s = _ ∧ _
  rw [oX4_laysPass_L91, hs.2.2.2.is, hS.1, pl_s, pl_s]
  by_cases hbn : b < pq_n p
  · rw [if_neg (fun q => by have := (pl_le (by omega) (by omega)).mp q; omega)]
    obtain ⟨σ1, e1, h1⟩ := pm_looks hp hS hbn hT hs
    rw [e1, Option.bind_some]
    exact ih hbn σ1 h1
  · have e : b = pq_n p := by omega
    subst e
    rw [if_pos ((pl_le (by omega) (by omega)).mpr (Nat.le_refl _))]
    exact ⟨s, rfl, hs.1.next, hs.2⟩
theorem pm_c67 (hp : pq_ok p) (hS : pm_S σ0 p) (hT : T < 401) (x1 : Int32) (k34 : Int32 → ol_Mm → Option ol_Mm) (h : pm_I σ0 p set T (pq_n p) 0 (fun b k j => sp_dp p (sp_D p) T b k j) (sp_c4 p (sp_D p) T) σ) : ∃ σ', oX4_laysPass_L67 x1 k34 ol_fuel (nI T) 0 σ = k34 (nI (T + 1)) σ' ∧ pm_I σ0 p set (T + 1) 0 0 (fun b k j => sp_dp p (sp_D p) (T + 1) b k j) (sp_c4 p (sp_D p) (T + 1)) σ' := by
  have h6 := hp.1.2
  refine pl_for (fun n v s => oX4_laysPass_L67 x1 k34 n (nI T) v s) (pq_n p) (fun c s => pm_I σ0 p set T (pq_n p) 0 (fun b k j => sp_mp p (sp_D p) T c 0 b k j) (sp_c4 p (sp_D p) T + pl_sum (sp_c2 p (sp_D p) T) c) s) (fun r => ∃ σ', r = k34 (nI (T + 1)) σ' ∧ pm_I σ0 p set (T + 1) 0 0 (fun b k j => sp_dp p (sp_D p) (T + 1) b k j) (sp_c4 p (sp_D p) (T + 1)) σ') (fun n c s hc hs ih => ?_) ol_fuel 0 σ (by omega) (by unfold ol_fuel; omega) (h.ext fun _ _ _ _ _ _ => sp_mp0.symm)
  show ∃ σ', oX4_laysPass_L67 x1 k34 (n + 1) (nI T) (nI c) s = _ ∧ _
  have hz : sp_c4 p (sp_D p) T + pl_sum (sp_c2 p (sp_D p) T) (pq_n p) = sp_c4 p (sp_D p) (T + 1) := rfl
  rw [oX4_laysPass_L67, hs.2.2.2.is, hS.1, pl_s]
  by_cases hcn : c < pq_n p
  · rw [if_neg (fun q => by have := (pl_le (by omega) (by omega)).mp q; omega)]
    obtain ⟨σ1, e1, h1⟩ := pm_dips hp hS hcn hT hs
    rw [e1, Option.bind_some]
    rw [Nat.add_assoc] at h1
    exact ih hcn σ1 h1
  · have e : c = pq_n p := by omega
    subst e
    rw [if_pos ((pl_le (by omega) (by omega)).mpr (Nat.le_refl _))]
    rw [hz] at hs
    exact pm_c91 hp hS hT x1 k34 (hs.ext fun _ _ _ _ _ _ => sp_mpn)
theorem pm_c43 (hp : pq_ok p) (hS : pm_S σ0 p) (hT : T < 401) (x1 : Int32) (k34 : Int32 → ol_Mm → Option ol_Mm) (h : pm_I σ0 p set T 0 0 (fun b k j => sp_dp p (sp_D p) T b k j) (sp_c4 p (sp_D p) T) σ) : ∃ σ', oX4_laysPass_L43 x1 k34 ol_fuel (nI T) 0 σ = k34 (nI (T + 1)) σ' ∧ pm_I σ0 p set (T + 1) 0 0 (fun b k j => sp_dp p (sp_D p) (T + 1) b k j) (sp_c4 p (sp_D p) (T + 1)) σ' := by
  have h6 := hp.1.2
  refine pl_for (fun n v s => oX4_laysPass_L43 x1 k34 n (nI T) v s) (pq_n p) (fun b s => pm_I σ0 p set T b 0 (fun b k j => sp_dp p (sp_D p) T b k j) (sp_c4 p (sp_D p) T) s) (fun r => ∃ σ', r = k34 (nI (T + 1)) σ' ∧ pm_I σ0 p set (T + 1) 0 0 (fun b k j => sp_dp p (sp_D p) (T + 1) b k j) (sp_c4 p (sp_D p) (T + 1)) σ') (fun n b s hb hs ih => ?_) ol_fuel 0 σ (by omega) (by unfold ol_fuel; omega) h
  show ∃ σ', oX4_laysPass_L43 x1 k34 (n + 1) (nI T) (nI b) s = _ ∧ _
  rw [oX4_laysPass_L43, hs.2.2.2.is, hS.1, pl_s]
  by_cases hbn : b < pq_n p
  · rw [if_neg (fun q => by have := (pl_le (by omega) (by omega)).mp q; omega), pm_drives hp hS hs hbn hT, Option.bind_some]
    exact ih hbn _ ⟨hs.1.dr hT rfl, hs.2.1, hs.2.2.1, hs.2.2.2.w 9 _ _ (by omega)⟩
  · have e : b = pq_n p := by omega
    subst e
    rw [if_pos ((pl_le (by omega) (by omega)).mpr (Nat.le_refl _))]
    exact pm_c67 hp hS hT x1 k34 hs
/-- the whole of it -/
theorem pm_lays (hp : pq_ok p) (hS : pm_S σ p) (hw : ∀ b, b < pq_n p → pq_hs p b → σ.1 8 b = pq_w p b) (hset : ∀ b, b < pq_n p → (pl_b set b = true ↔ pq_hs p b)) : ∃ σ', oX4_laysPass σ set = some σ' ∧ pm_I σ p set 401 0 0 (fun b k j => sp_dp p (sp_D p) 401 b k j) (sp_c4 p (sp_D p) 401) σ' := by
  have h6 := hp.1.2
  unfold oX4_laysPass
  refine pl_for (fun n v s => oX4_laysPass_L12 set n v s) 2766 (fun k s => pm_P σ p set s ∧ s.1 0 29 = 0 ∧ ∀ j, j < k → s.1 13 j = 0) (fun r => ∃ σ', r = some σ' ∧ pm_I σ p set 401 0 0 (fun b k j => sp_dp p (sp_D p) 401 b k j) (sp_c4 p (sp_D p) 401) σ') (fun n k s hk hs ih => ?_) ol_fuel 0 _ (by omega) (by unfold ol_fuel; omega) ⟨⟨?_, fun b hb hh => ?_, hset, fun c k hc hk => ?_, rfl⟩, mx_eq, fun j q => by omega⟩
  · show ∃ σ', oX4_laysPass_L12 set (n + 1) (nI k) s = _ ∧ _
    obtain ⟨s1, s2, s3⟩ := hs
    rw [oX4_laysPass_L12, show (2766 : Int32) = nI 2766 from rfl, pl_s]
    by_cases hk4 : k < 2766
    · rw [if_neg (fun q => by have := (pl_le (by omega) (by omega)).mp q; omega), pl_in hk4 (by omega), pl_ogt, pl_nn (by omega)]
      refine ih hk4 _ ⟨s1.w 13 _ _ (by omega), (mx_ne (by omega)).trans s2, fun j hj => ?_⟩
      by_cases e : j = k
      · subst e
        exact mx_eq
      · rw [mx_nk e]
        exact s3 j (by omega)
    · have e : k = 2766 := by omega
      subst e
      rw [if_pos ((pl_le (by omega) (by omega)).mpr (Nat.le_refl _))]
      refine pl_for (fun n v s => oX4_laysPass_L34 set n v s) 401 (fun T s => pm_I σ p set T 0 0 (fun b k j => sp_dp p (sp_D p) T b k j) (sp_c4 p (sp_D p) T) s) (fun r => ∃ σ', r = some σ' ∧ pm_I σ p set 401 0 0 (fun b k j => sp_dp p (sp_D p) 401 b k j) (sp_c4 p (sp_D p) 401) σ') (fun n T s hT hs ih => ?_) ol_fuel 0 s (by omega) (by unfold ol_fuel; omega) ⟨⟨fun b t _ q => by omega, fun b t _ q => by omega⟩, fun b k hb hk => ?_, s2, s1⟩
      · show ∃ σ', oX4_laysPass_L34 set (n + 1) (nI T) s = _ ∧ _
        rw [oX4_laysPass_L34, pl_l401]
        by_cases hT4 : T < 401
        · rw [if_neg (fun q => by have := (pl_le (by omega) (by omega)).mp q; omega)]
          obtain ⟨σ1, e1, h1⟩ := pm_c43 hp hS hT4 set (oX4_laysPass_L34 set n) hs
          rw [e1]
          exact ih hT4 σ1 h1
        · have e : T = 401 := by omega
          subst e
          rw [if_pos ((pl_le (by omega) (by omega)).mpr (Nat.le_refl _))]
          exact ⟨s, rfl, hs⟩
      · rw [s3 (461 * b + k) (by omega)]
        refine (pl_m_0 fun j _ q => ?_).symm
        obtain ⟨t, c, q1, -⟩ := q
        omega
  · rw [mx_nk (by omega), mx_eq]
  · rw [mx_ne (by omega), mx_ne (by omega)]
    exact hw b hb hh
  · rw [pl_ms, if_neg (fun q => by omega), pl_ms, if_neg (fun q => by omega)]
end PM
