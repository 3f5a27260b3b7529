/-! THE PASS of the system does what is said plainly -/
set_option maxRecDepth 100000
theorem pl_dd (a : Nat) : decide (some a = some a) = true := decide_eq_true rfl
theorem pl_ogt {α : Type} (x : Option α) : ol_og true x = x := rfl
theorem pl_olt {α β : Type} (x : α) (f : α → Option β) : ol_lt x f = f x := rfl
theorem pl_i10 {α : Type} (a b : α) : (if (1 : Int32) = 0 then a else b) = b := if_neg (by decide)
theorem pl_i00 {α : Type} (a b : α) : (if (0 : Int32) = 0 then a else b) = a := if_pos rfl
theorem pl_hasif {x : Int32} {i : Nat} (hi : i < 32) {α : Type} (a b : Option α) : ((oX1_has x (nI i)).bind fun y => if y = 0 then a else b) = if pl_b x i = true then b else a := by
  rw [pl_has x hi, Option.bind_some]
  by_cases h : pl_b x i = true
  · rw [if_pos h, if_pos h, pl_i10]
  · rw [if_neg h, if_neg h, pl_i00]
theorem pl_hasifM {x : Int32} {i : Nat} (hi : i < 32) {α : Type} (a b : Option α) : ((oX4_has x (nI i)).bind fun y => if y = 0 then a else b) = if pl_b x i = true then b else a := by
  rw [pl_hasM x hi, Option.bind_some]
  by_cases h : pl_b x i = true
  · rw [if_pos h, if_pos h, pl_i10]
  · rw [if_neg h, if_neg h, pl_i00]
theorem pl_l1 : (1 : Int32) = nI 1 := rfl
theorem pl_l2 : (2 : Int32) = nI 2 := rfl
theorem pl_l6 : (6 : Int32) = nI 6 := rfl
theorem pl_l401 : (401 : Int32) = nI 401 := rfl
theorem pl_l461 : (461 : Int32) = nI 461 := rfl
theorem pl_ix {b t : Nat} (hb : b < 1000) (ht : t < 1000) : ((401 : Int32) * nI b + nI t).toNatClampNeg = 401 * b + t := by
  rw [pl_l401, pl_mul, pl_add, pl_nn (n := 401 * b + t) (by omega)]
theorem pl_ixin {b t : Nat} (hb : b < 6) (ht : t < 401) : ol_in ((401 : Int32) * nI b + nI t) 2406 = true := by
  rw [pl_l401, pl_mul, pl_add]
  exact pl_in (by omega) (by omega)
theorem pl_m_0 {f : Nat → Prop} (h : ∀ i, i < 6 → ¬ f i) : pl_m f = 0 := (pl_m_of fun i hi => by
  rw [pl_b_0 i hi]
  constructor
  · intro q
    cases q
  · intro q
    exact absurd q.2 (h i q.1)).symm
theorem pl_top_lt {f : Nat → Prop} : ∀ k l, pl_top f k = some l → l < k ∧ f l := by
  intro k
  induction k with
  | zero => intro l h; cases h
  | succ k ih =>
    intro l h
    unfold pl_top at h
    cases e : pl_c (f k) with
    | true =>
      rw [e, cond_true] at h
      have h2 : k = l := Option.some.inj h
      subst h2
      exact ⟨by omega, pl_c_iff.mp e⟩
    | false =>
      rw [e, cond_false] at h
      obtain ⟨h1, h2⟩ := ih l h
      exact ⟨by omega, h2⟩
/-! what the bus says; what a pass keeps -/
def px_B (β : ol_Bd) (p : ol_Pp) : Prop := β.1 0 3 = nI (pq_n p) ∧ β.1 0 0 = nI (pq_g p) ∧ pq_n p ≤ β.2.2 0 ∧ ∀ b o, b < pq_n p → o < pq_n p → ol_far β (nI b) (nI o) = nI (pq_ap p b o)
theorem px_ib {β : ol_Bd} {p : ol_Pp} (hp : pq_ok p) (hB : px_B β p) {b : Nat} (hb : b < pq_n p) : ol_ib β (nI b) = true := by
  have h6 := hp.1.2
  have h7 := hB.2.2.1
  unfold ol_ib ol_many
  rw [hB.1, pl_nn (n := b) (by omega), pl_nn (n := pq_n p) (by omega), pl_int (n := b) (by omega)]
  simp only [Bool.and_eq_true, decide_eq_true_eq]
  omega
def px_P (σ0 : ol_Xm) (bp : Nat) (p : ol_Pp) (set tl : Int32) (σ : ol_Xm) : Prop :=
  (σ.2.1 3 = some bp ∧ σ.1 2 8 = set ∧ σ.1 2 13 = nI (pq_f p) ∧ σ.1 2 9 = pl_m (fun i => pq_ln p i = 1) ∧ σ.1 2 10 = pl_m (fun i => pq_ln p i = 2) ∧ σ.1 2 12 = tl) ∧ (∀ b, b < pq_n p → (pq_hs p b → σ.1 3 b = pq_w p b) ∧ (¬ pq_hs p b → σ.1 3 b = 0)) ∧ (∀ b, b < pq_n p → (pl_b set b = true ↔ pq_hs p b)) ∧ (∀ c k, ¬ (2 ≤ c ∧ c ≤ 9) → σ.1 c k = σ0.1 c k) ∧ (∀ r, ¬ r = 3 → σ.2.1 r = σ0.2.1 r) ∧ σ.2.2 = σ0.2.2
theorem px_ne {σ : ol_Xm} {c k : Nat} {x : Int32} {c' k' : Nat} (h : ¬ c' = c) : (ol_xs σ c k x).1 c' k' = σ.1 c' k' := by rw [pl_xs, if_neg (fun q => h q.1)]
theorem px_nk {σ : ol_Xm} {c k : Nat} {x : Int32} {c' k' : Nat} (h : ¬ k' = k) : (ol_xs σ c k x).1 c' k' = σ.1 c' k' := by rw [pl_xs, if_neg (fun q => h q.2)]
theorem px_eq {σ : ol_Xm} {c k : Nat} {x : Int32} : (ol_xs σ c k x).1 c k = x := by rw [pl_xs, if_pos ⟨rfl, rfl⟩]
theorem px_P.w {σ0 : ol_Xm} {bp : Nat} {p : ol_Pp} {set tl : Int32} {σ : ol_Xm} (h : px_P σ0 bp p set tl σ) (c k : Nat) (x : Int32) (hc : 4 ≤ c ∧ c ≤ 9) : px_P σ0 bp p set tl (ol_xs σ c k x) := by
  obtain ⟨⟨h1, h2, h3, h4, h5, h6⟩, h7, h8, h9, h10, h11⟩ := h
  refine ⟨⟨h1, (px_ne (by omega)).trans h2, (px_ne (by omega)).trans h3, (px_ne (by omega)).trans h4, (px_ne (by omega)).trans h5, (px_ne (by omega)).trans h6⟩, fun b hb => ?_, h8, fun c' k' hc' => (px_ne (by omega)).trans (h9 c' k' hc'), h10, h11⟩
  rw [px_ne (c' := 3) (by omega)]
  exact h7 b hb
theorem px_P.d {σ0 : ol_Xm} {bp : Nat} {p : ol_Pp} {set tl : Int32} {σ : ol_Xm} (h : px_P σ0 bp p set tl σ) (x : Int32) : px_P σ0 bp p set tl (ol_xs σ 2 11 x) := by
  obtain ⟨⟨h1, h2, h3, h4, h5, h6⟩, h7, h8, h9, h10, h11⟩ := h
  refine ⟨⟨h1, (px_nk (by omega)).trans h2, (px_nk (by omega)).trans h3, (px_nk (by omega)).trans h4, (px_nk (by omega)).trans h5, (px_nk (by omega)).trans h6⟩, fun b hb => ?_, h8, fun c' k' hc' => (px_ne (by omega)).trans (h9 c' k' hc'), h10, h11⟩
  rw [px_ne (c' := 3) (by omega)]
  exact h7 b hb
theorem px_P.of {σ0 : ol_Xm} {bp : Nat} {p : ol_Pp} {set tl : Int32} {σ τ : ol_Xm} (h : px_P σ0 bp p set tl σ) (e : ∀ c k, ¬ (4 ≤ c ∧ c ≤ 9) → τ.1 c k = σ.1 c k) (e2 : τ.2 = σ.2) : px_P σ0 bp p set tl τ := by
  obtain ⟨⟨h1, h2, h3, h4, h5, h6⟩, h7, h8, h9, h10, h11⟩ := h
  refine ⟨⟨by rw [e2]; exact h1, (e 2 8 (by omega)).trans h2, (e 2 13 (by omega)).trans h3, (e 2 9 (by omega)).trans h4, (e 2 10 (by omega)).trans h5, (e 2 12 (by omega)).trans h6⟩, fun b hb => ?_, h8, fun c' k' hc' => (e c' k' (by omega)).trans (h9 c' k' hc'), fun r hr => by rw [e2]; exact h10 r hr, by rw [e2]; exact h11⟩
  rw [e 3 b (by omega)]
  exact h7 b hb
/-- the latest tick at which a line was seen, of the ticks below T' -/
def px_l (p : ol_Pp) (b i T' : Nat) (v : Int32) : Prop := (∃ t, t < T' ∧ v = nI t ∧ sp_se p (sp_D p) b t i ∧ ∀ t', t < t' → t' < T' → ¬ sp_se p (sp_D p) b t' i) ∨ (v = -401 ∧ ∀ t, t < T' → ¬ sp_se p (sp_D p) b t i)
def px_L (p : ol_Pp) (T bs : Nat) (lat : Nat → Int32) : Prop := ∀ b i, b < pq_n p → i < 6 → px_l p b i (if b < bs then T + 1 else T) (lat (6 * b + i))
def px_I (σ0 : ol_Xm) (bp : Nat) (p : ol_Pp) (set tl : Int32) (T bd bs : Nat) (Mk : Nat → Nat → Nat → Prop) (cnt : Nat) (σ : ol_Xm) : Prop :=
  pa_R p T bd bs (σ.1 4) (σ.1 5) (σ.1 6) (σ.1 7) ∧ pa_M p 401 Mk (σ.1 8) ∧ px_L p T bs (σ.1 9) ∧ σ.1 2 11 = nI cnt ∧ px_P σ0 bp p set tl σ
section PX
variable {σ0 σ : ol_Xm} {β : ol_Bd} {bp : Nat} {p : ol_Pp} {set tl : Int32} {T bd bs cnt : Nat} {Mk : Nat → Nat → Nat → Prop}
theorem px_I.mark (h : px_I σ0 bp p set tl T bd bs Mk cnt σ) {b k i : Nat} (hb : b < pq_n p) (hk : k < 401) (hi : i < 6) : px_I σ0 bp p set tl T bd bs (fun b' k' i' => Mk b' k' i' ∨ (i' = i ∧ b' = b ∧ k' = k)) cnt (ol_xs σ 8 (401 * b + k) (σ.1 8 (401 * b + k) ||| ((1 : Int32) <<< (nI i &&& 31)))) :=
  ⟨h.1, h.2.1.mark hb hk hi, h.2.2.1, h.2.2.2.1, h.2.2.2.2.w 8 _ _ (by omega)⟩
theorem px_I.ext (h : px_I σ0 bp p set tl T bd bs Mk cnt σ) {Mk' : Nat → Nat → Nat → Prop} (e : ∀ b k i, b < pq_n p → k < 401 → i < 6 → (Mk b k i ↔ Mk' b k i)) : px_I σ0 bp p set tl T bd bs Mk' cnt σ :=
  ⟨h.1, h.2.1.ext e, h.2.2⟩
/-! what a board drives -/
theorem pl_low : ∀ l, l < 6 → ∀ i, i < 32 → pl_b ((((2 : Int32) <<< (nI l &&& 31)) - 1) ^^^ (-1)) i = decide (l < i) := by decide +kernel
theorem pl_n2 : ∀ l, l < 6 → ¬ nI l = -2 := by decide +kernel
theorem sp_O_lt (hg : 1 ≤ pq_g p) {b t l : Nat} (h : sp_O p b t = some l) : l < 6 := by
  rw [sp_fix hg] at h
  unfold sp_wd at h
  cases e : pl_c (pq_hs p b) with
  | true =>
    rw [e, cond_true] at h
    exact (pl_top_lt 6 l h).1
  | false =>
    rw [e, cond_false] at h
    cases h
theorem px_driven (hp : pq_ok p) (hB : px_B β p) (h : px_I σ0 bp p set tl T bd bs Mk cnt σ) {b : Nat} (hb : b < pq_n p) (hT : T < 401) : oX2_drivenBy σ β bp (nI b) (nI T) = some (pl_m (sp_D p b T)) := by
  obtain ⟨hR, -, -, -, hP⟩ := h
  have h6 := hp.1.2
  have hg := hp.2.1
  have hs := hP.2.2.1 b hb
  have hw := hP.2.1 b hb
  unfold oX2_drivenBy
  rw [hP.1.2.1, pl_hasif (i := b) (by omega)]
  by_cases hh : pq_hs p b
  · rw [if_pos (hs.mpr hh), hP.1.1, pl_dd, pl_ogt, hB.2.1]
    have hsm := (hp.2.2.2.2.1 b hb hh).1
    have e49 : ∀ s0 : Int32, oX2_drivenBy_L49 σ β bp (nI b) (nI T) s0 = if s0 = -2 then some (pq_w p b) else some (pq_w p b &&& ((((2 : Int32) <<< (s0 &&& 31)) - 1) ^^^ (-1))) := fun s0 => by
      unfold oX2_drivenBy_L49
      rw [pl_in (i := b) (n := 6) (by omega) (by omega), pl_nn (n := b) (by omega), hw.1 hh]
      rfl
    by_cases hgT : pq_g p ≤ T
    · rw [if_pos ((pl_le (by omega) (by omega)).mpr hgT), pl_ogt, pl_l401, pl_mul, pl_add, pl_sub (by omega), pl_in (by omega) (by omega), pl_ogt, pl_nn (by omega), e49]
      have e1 : 401 * b + T - pq_g p = 401 * b + (T - pq_g p) := by omega
      rw [e1, (hR.2 b (T - pq_g p) hb (Or.inl (by omega))).2.2]
      cases hO : sp_O p b (T - pq_g p) with
      | none =>
        show (if (-2 : Int32) = -2 then _ else _) = _
        rw [if_pos rfl, pl_sm_m hsm]
        refine congrArg some (pl_m_ext fun i hi => ?_)
        unfold sp_D sp_dr
        rw [hO]
        constructor
        · intro q
          exact ⟨hh, q, Or.inr fun l hl => by cases hl⟩
        · exact fun q => q.2.1
      | some l =>
        have hl6 := sp_O_lt hg.1 hO
        rw [show pl_en (some l) = nI l from rfl]
        rw [if_neg (pl_n2 l hl6)]
        refine congrArg some (pl_m_of fun i hi => ?_)
        rw [pl_b_and, pl_low l hl6 i hi, Bool.and_eq_true, decide_eq_true_eq]
        unfold sp_D sp_dr
        rw [hO]
        constructor
        · rintro ⟨q1, q2⟩
          refine ⟨?_, hh, q1, Or.inr fun l' hl' => ?_⟩
          · rcases Nat.lt_or_ge i 6 with h1 | h1
            · exact h1
            · rw [hsm i h1 hi] at q1
              cases q1
          · cases hl'
            exact q2
        · rintro ⟨-, -, q1, q2⟩
          refine ⟨q1, ?_⟩
          rcases q2 with q2 | q2
          · omega
          · exact q2 l rfl
    · rw [if_neg (fun q => hgT ((pl_le (by omega) (by omega)).mp q)), e49, if_pos rfl, pl_sm_m hsm]
      refine congrArg some (pl_m_ext fun i hi => ?_)
      unfold sp_D sp_dr
      constructor
      · intro q
        exact ⟨hh, q, Or.inl (by omega)⟩
      · exact fun q => q.2.1
  · rw [if_neg (fun q => hh (hs.mp q)), pl_m_0 (fun i hi q => hh q.1)]
/-! dips -/
theorem sp_nr_le (hp : pq_ok p) (E : Nat → Prop) {b : Nat} (hb : b < pq_n p) : ∀ k, k ≤ pq_n p → sp_nr p E b k ≤ 9 := by
  intro k
  induction k with
  | zero => intro _; exact Nat.zero_le _
  | succ k ih =>
    intro hk
    unfold sp_nr
    cases pl_c (¬ k = b ∧ E k ∧ (sp_nr p E b k = 0 ∨ pq_ap p b k < sp_nr p E b k)) with
    | true => exact (hp.2.2.2.2.2 b k hb (by omega)).1
    | false => exact ih (by omega)
def px_v4 (m : Nat) : Int32 := if m = 0 then -1 else nI m
theorem px_v4m {m : Nat} (h : m ≤ 9) : px_v4 m = -1 ↔ m = 0 := by
  have : ∀ m, m ≤ 9 → (px_v4 m = -1 ↔ m = 0) := by decide +kernel
  exact this m h
/-- the loop that seeks the nearest other one, then what goes on behind it -/
theorem px_L6 (hp : pq_ok p) (hB : px_B β p) (h : px_I σ0 bp p set tl T (pq_n p) bs Mk cnt σ) {c i : Nat} (hc : c < pq_n p) (hi : i < 6) (hT : T < 401) : oX2_dips_L6 β bp (nI c) (nI i) (nI T) ol_fuel (-1) 0 σ = (if sp_ne p (sp_D p) c T i = 0 then some σ else oX2_dips_L103 β bp (nI c) (nI i) (nI T) ol_fuel (nI (sp_ne p (sp_D p) c T i)) 0 (ol_xs σ 2 11 (σ.1 2 11 + 1))) := by
  obtain ⟨hR, -, -, -, hP⟩ := h
  have h6 := hp.1.2
  refine pl_for (fun n v s => oX2_dips_L6 β bp (nI c) (nI i) (nI T) n s v σ) (pq_n p) (fun k s => s = px_v4 (sp_nr p (fun o => sp_D p o T i) c k)) (fun r => r = (if sp_ne p (sp_D p) c T i = 0 then some σ else oX2_dips_L103 β bp (nI c) (nI i) (nI T) ol_fuel (nI (sp_ne p (sp_D p) c T i)) 0 (ol_xs σ 2 11 (σ.1 2 11 + 1)))) (fun n k s hk hs ih => ?_) ol_fuel 0 (-1) (by omega) (by unfold ol_fuel; omega) rfl
  subst hs
  have hle := sp_nr_le hp (fun o => sp_D p o T i) hc k hk
  show oX2_dips_L6 β bp (nI c) (nI i) (nI T) (n + 1) _ (nI k) σ = _
  rw [oX2_dips_L6, hP.1.1, pl_dd, pl_ogt, hB.1]
  by_cases hkn : k < pq_n p
  · have ih := ih hkn
    have hfar := hB.2.2.2 c k hc hkn
    have hap := hp.2.2.2.2.2 c k hc hkn
    rw [if_neg (fun q => by have := (pl_le (by omega) (by omega)).mp q; omega), pl_s]
    have hnr : sp_nr p (fun o => sp_D p o T i) c (k + 1) = bif pl_c (¬ k = c ∧ sp_D p k T i ∧ (sp_nr p (fun o => sp_D p o T i) c k = 0 ∨ pq_ap p c k < sp_nr p (fun o => sp_D p o T i) c k)) then pq_ap p c k else sp_nr p (fun o => sp_D p o T i) c k := rfl
    by_cases hkc : k = c
    · rw [if_pos (by rw [hkc])]
      refine ih _ ?_
      rw [hnr, pl_c_f (fun q => q.1 hkc)]
      rfl
    · rw [if_neg (fun q => hkc ((pl_eq (by omega) (by omega)).mp q)), pl_ixin (by omega) hT, pl_ogt, pl_ix (by omega) (by omega), pl_hasif (i := i) (by omega), hR.1 k T hkn (Or.inr ⟨rfl, hkn⟩)]
      by_cases hD : sp_D p k T i
      · rw [if_pos ((pl_m_b _ (by omega)).mpr ⟨hi, hD⟩)]
        by_cases h0 : sp_nr p (fun o => sp_D p o T i) c k = 0
        · rw [if_pos ((px_v4m hle).mpr h0), px_ib hp hB hc, px_ib hp hB hkn, pl_ogt, pl_ogt, pl_ogt, hfar]
          refine ih _ ?_
          rw [hnr, pl_c_t ⟨hkc, hD, Or.inl h0⟩]
          show nI (pq_ap p c k) = px_v4 (pq_ap p c k)
          unfold px_v4
          rw [if_neg (by omega)]
        · have e4 : px_v4 (sp_nr p (fun o => sp_D p o T i) c k) = nI (sp_nr p (fun o => sp_D p o T i) c k) := by
            unfold px_v4
            rw [if_neg h0]
          rw [if_neg (fun q => h0 ((px_v4m hle).mp q)), px_ib hp hB hc, px_ib hp hB hkn, pl_ogt, pl_ogt, pl_ogt, hfar]
          by_cases hlt : pq_ap p c k < sp_nr p (fun o => sp_D p o T i) c k
          · rw [if_neg (fun q => by rw [e4] at q; have := (pl_le (by omega) (by omega)).mp q; omega), pl_ogt, pl_ogt, pl_ogt]
            refine ih _ ?_
            rw [hnr, pl_c_t ⟨hkc, hD, Or.inr hlt⟩]
            show nI (pq_ap p c k) = px_v4 (pq_ap p c k)
            unfold px_v4
            rw [if_neg (by omega)]
          · rw [if_pos (by rw [e4]; exact (pl_le (by omega) (by omega)).mpr (by omega))]
            refine ih _ ?_
            rw [hnr, pl_c_f (fun q => by rcases q.2.2 with q1 | q1; exact h0 q1; exact hlt q1)]
            rfl
      · rw [if_neg (fun q => hD ((pl_m_b _ (by omega)).mp q).2)]
        refine ih _ ?_
        rw [hnr, pl_c_f (fun q => hD q.2.1)]
        rfl
  · have e : k = pq_n p := by omega
    subst e
    rw [if_pos ((pl_le (by omega) (by omega)).mpr (Nat.le_refl _))]
    show _ = (if sp_nr p (fun o => sp_D p o T i) c (pq_n p) = 0 then _ else _)
    by_cases h0 : sp_nr p (fun o => sp_D p o T i) c (pq_n p) = 0
    · rw [if_pos ((px_v4m hle).mpr h0), if_pos h0]
    · rw [if_neg (fun q => h0 ((px_v4m hle).mp q)), if_neg h0]
      unfold px_v4
      rw [if_neg h0]
      rfl
/-- marks on one board -/
theorem px_L133 (hp : pq_ok p) (h : px_I σ0 bp p set tl T (pq_n p) bs Mk cnt σ) {c i o m : Nat} (ho : o < pq_n p) (hi : i < 6) (hT : T < 401) (hm : m ≤ 9) (hco : pq_ap p c o ≤ 9) (k103 : Int32 → Int32 → ol_Xm → Option ol_Xm) : ∃ σ', oX2_dips_L133 β bp (nI c) (nI i) (nI T) k103 ol_fuel (nI m) (nI o) (nI (T + pq_ap p c o)) (nI (T + pq_ap p c o)) σ = k103 (nI m) (nI (o + 1)) σ' ∧ px_I σ0 bp p set tl T (pq_n p) bs (fun b k j => Mk b k j ∨ (j = i ∧ b = o ∧ T + pq_ap p c o ≤ k ∧ k < T + pq_ap p c o + 2 * m)) cnt σ' := by
  have h6 := hp.1.2
  refine pl_for (fun n v s => oX2_dips_L133 β bp (nI c) (nI i) (nI T) k103 n (nI m) (nI o) (nI (T + pq_ap p c o)) v s) 500 (fun kk s => T + pq_ap p c o ≤ kk ∧ px_I σ0 bp p set tl T (pq_n p) bs (fun b k j => Mk b k j ∨ (j = i ∧ b = o ∧ T + pq_ap p c o ≤ k ∧ k < T + pq_ap p c o + 2 * m ∧ k < kk)) cnt s) (fun r => ∃ σ', r = k103 (nI m) (nI (o + 1)) σ' ∧ px_I σ0 bp p set tl T (pq_n p) bs (fun b k j => Mk b k j ∨ (j = i ∧ b = o ∧ T + pq_ap p c o ≤ k ∧ k < T + pq_ap p c o + 2 * m)) cnt σ') (fun n kk s hk hs ih => ?_) ol_fuel (T + pq_ap p c o) σ (by omega) (by unfold ol_fuel; omega) ⟨Nat.le_refl _, h.ext fun b k j _ _ _ => ⟨Or.inl, fun q => by
    rcases q with q | ⟨-, -, q1, -, q2⟩
    · exact q
    · omega⟩⟩
  obtain ⟨h3, hs⟩ := hs
  show ∃ σ', oX2_dips_L133 β bp (nI c) (nI i) (nI T) k103 (n + 1) (nI m) (nI o) (nI (T + pq_ap p c o)) (nI kk) s = _ ∧ _
  rw [oX2_dips_L133, pl_l2, pl_mul, pl_add, pl_s]
  by_cases h1 : T + pq_ap p c o + 2 * m ≤ kk
  · rw [if_pos ((pl_le (by omega) (by omega)).mpr h1)]
    exact ⟨s, rfl, hs.ext fun b k j _ _ _ => ⟨fun q => by
      rcases q with q | ⟨q1, q2, q3, q4, q5⟩
      · exact Or.inl q
      · exact Or.inr ⟨q1, q2, q3, q4⟩, fun q => by
      rcases q with q | ⟨q1, q2, q3, q4⟩
      · exact Or.inl q
      · exact Or.inr ⟨q1, q2, q3, q4, by omega⟩⟩⟩
  · rw [if_neg (fun q => h1 ((pl_le (by omega) (by omega)).mp q)), pl_l401]
    by_cases h2 : 401 ≤ kk
    · rw [if_pos ((pl_le (by omega) (by omega)).mpr h2)]
      exact ⟨s, rfl, hs.ext fun b k j _ hk4 _ => ⟨fun q => by
        rcases q with q | ⟨q1, q2, q3, q4, q5⟩
        · exact Or.inl q
        · exact Or.inr ⟨q1, q2, q3, q4⟩, fun q => by
        rcases q with q | ⟨q1, q2, q3, q4⟩
        · exact Or.inl q
        · exact Or.inr ⟨q1, q2, q3, q4, by omega⟩⟩⟩
    · rw [if_neg (fun q => h2 ((pl_le (by omega) (by omega)).mp q)), ← pl_l401, pl_ixin (by omega) (by omega), pl_ogt, pl_ogt, pl_ix (by omega) (by omega), pl_s]
      exact ih (by omega) _ ⟨by omega, (hs.mark ho (by omega) hi).ext fun b k j _ _ _ => ⟨fun q => by
        rcases q with (q | ⟨q1, q2, q3, q4, q5⟩) | ⟨q1, q2, q3⟩
        · exact Or.inl q
        · exact Or.inr ⟨q1, q2, q3, q4, by omega⟩
        · exact Or.inr ⟨q1, q2, by omega, by omega, by omega⟩, fun q => by
        rcases q with q | ⟨q1, q2, q3, q4, q5⟩
        · exact Or.inl (Or.inl q)
        · by_cases e : k = kk
          · exact Or.inr ⟨q1, q2, e⟩
          · exact Or.inl (Or.inr ⟨q1, q2, q3, q4, by omega⟩)⟩⟩
/-- marks on all boards -/
theorem px_L103 (hp : pq_ok p) (hB : px_B β p) (h : px_I σ0 bp p set tl T (pq_n p) bs Mk cnt σ) {c i m : Nat} (hc : c < pq_n p) (hi : i < 6) (hT : T < 401) (hm : m ≤ 9) : ∃ σ', oX2_dips_L103 β bp (nI c) (nI i) (nI T) ol_fuel (nI m) 0 σ = some σ' ∧ px_I σ0 bp p set tl T (pq_n p) bs (fun b k j => Mk b k j ∨ (j = i ∧ T + pq_ap p c b ≤ k ∧ k < T + pq_ap p c b + 2 * m)) cnt σ' := by
  have h6 := hp.1.2
  refine pl_for (fun n v s => oX2_dips_L103 β bp (nI c) (nI i) (nI T) n (nI m) v s) (pq_n p) (fun o s => px_I σ0 bp p set tl T (pq_n p) bs (fun b k j => Mk b k j ∨ (j = i ∧ b < o ∧ T + pq_ap p c b ≤ k ∧ k < T + pq_ap p c b + 2 * m)) cnt s) (fun r => ∃ σ', r = some σ' ∧ px_I σ0 bp p set tl T (pq_n p) bs (fun b k j => Mk b k j ∨ (j = i ∧ T + pq_ap p c b ≤ k ∧ k < T + pq_ap p c b + 2 * m)) cnt σ') (fun n o s ho hs ih => ?_) ol_fuel 0 σ (by omega) (by unfold ol_fuel; omega) (h.ext fun b k j _ _ _ => ⟨Or.inl, fun q => by
    rcases q with q | ⟨-, q1, -⟩
    · exact q
    · omega⟩)
  show ∃ σ', oX2_dips_L103 β bp (nI c) (nI i) (nI T) (n + 1) (nI m) (nI o) s = _ ∧ _
  rw [oX2_dips_L103, hs.2.2.2.2.1.1, pl_dd, pl_ogt, hB.1]
  by_cases hon : o < pq_n p
  · have hco := (hp.2.2.2.2.2 c o hc hon).1
    rw [if_neg (fun q => by have := (pl_le (by omega) (by omega)).mp q; omega), pl_ogt, px_ib hp hB hc, px_ib hp hB hon, pl_ogt, pl_ogt, hB.2.2.2 c o hc hon, pl_add]
    obtain ⟨σ1, e1, h1⟩ := px_L133 (β := β) hp hs (i := i) hon hi hT hm hco (oX2_dips_L103 β bp (nI c) (nI i) (nI T) n)
    rw [e1]
    exact ih hon σ1 (h1.ext fun b k j _ _ _ => ⟨fun q => by
      rcases q with (q | ⟨q1, q2, q3⟩) | ⟨q1, q2, q3, q4⟩
      · exact Or.inl q
      · exact Or.inr ⟨q1, by omega, q3⟩
      · subst q2
        exact Or.inr ⟨q1, by omega, q3, q4⟩, fun q => by
      rcases q with q | ⟨q1, q2, q3⟩
      · exact Or.inl (Or.inl q)
      · by_cases e : b = o
        · subst e
          exact Or.inr ⟨q1, rfl, q3⟩
        · exact Or.inl (Or.inr ⟨q1, by omega, q3⟩)⟩)
  · rw [if_pos ((pl_le (by omega) (by omega)).mpr (by omega))]
    exact ⟨s, rfl, hs.ext fun b k j hb _ _ => ⟨fun q => by
      rcases q with q | ⟨q1, -, q3⟩
      · exact Or.inl q
      · exact Or.inr ⟨q1, q3⟩, fun q => by
      rcases q with q | ⟨q1, q3⟩
      · exact Or.inl q
      · exact Or.inr ⟨q1, by omega, q3⟩⟩⟩
theorem px_dips (hp : pq_ok p) (hB : px_B β p) (h : px_I σ0 bp p set tl T (pq_n p) bs Mk cnt σ) {c i : Nat} (hc : c < pq_n p) (hi : i < 6) (hT : T < 401) (hgo : sp_go (sp_D p) c T i) : ∃ σ', oX2_dips σ β bp (nI c) (nI i) (nI T) = some σ' ∧ px_I σ0 bp p set tl T (pq_n p) bs (fun b k j => Mk b k j ∨ (j = i ∧ sp_mk p (sp_D p) c T i b k)) (cnt + sp_c1 p (sp_D p) T c i) σ' := by
  have hne : sp_ne p (sp_D p) c T i ≤ 9 := sp_nr_le hp _ hc _ (Nat.le_refl _)
  unfold oX2_dips
  rw [px_L6 hp hB h hc hi hT]
  by_cases h0 : sp_ne p (sp_D p) c T i = 0
  · rw [if_pos h0]
    refine ⟨σ, rfl, ?_⟩
    have e : sp_c1 p (sp_D p) T c i = 0 := by
      unfold sp_c1
      rw [pl_c_f (fun q => q.2 h0)]
      rfl
    rw [e]
    exact h.ext fun b k j _ _ _ => ⟨Or.inl, fun q => by
      rcases q with q | ⟨-, q⟩
      · exact q
      · exact absurd h0 q.2.1⟩
  · rw [if_neg h0]
    have e : sp_c1 p (sp_D p) T c i = 1 := by
      unfold sp_c1
      rw [pl_c_t ⟨hgo, h0⟩]
      rfl
    have h1 : px_I σ0 bp p set tl T (pq_n p) bs Mk (cnt + 1) (ol_xs σ 2 11 (σ.1 2 11 + 1)) :=
      ⟨h.1, h.2.1, h.2.2.1, by rw [px_eq, h.2.2.2.1, pl_s], h.2.2.2.2.d _⟩
    obtain ⟨σ', e1, h2⟩ := px_L103 hp hB h1 hc hi hT hne
    refine ⟨σ', e1, ?_⟩
    rw [e]
    exact h2.ext fun b k j _ _ _ => ⟨fun q => by
      rcases q with q | ⟨q1, q2, q3⟩
      · exact Or.inl q
      · exact Or.inr ⟨q1, hgo, h0, q2, q3⟩, fun q => by
      rcases q with q | ⟨q1, q2, q3, q4, q5⟩
      · exact Or.inl q
      · exact Or.inr ⟨q1, q4, q5⟩⟩
/-- what one board lets go -/
theorem px_letsGo (hp : pq_ok p) (hB : px_B β p) {c : Nat} (hc : c < pq_n p) (hT : T < 401) (hT0 : 1 ≤ T) (h : px_I σ0 bp p set tl T (pq_n p) bs (fun b k j => sp_mp p (sp_D p) T c 0 b k j) cnt σ) : ∃ σ', oX2_letsGo σ β bp (nI c) (nI T) = some σ' ∧ px_I σ0 bp p set tl T (pq_n p) bs (fun b k j => sp_mp p (sp_D p) T (c + 1) 0 b k j) (cnt + sp_c2 p (sp_D p) T c) σ' := by
  have h6 := hp.1.2
  have e1 : (401 : Int32) * nI c + nI T - 1 = nI (401 * c + (T - 1)) := by
    rw [pl_l401, pl_mul, pl_add, pl_l1, pl_sub (by omega)]
    exact congrArg nI (by omega)
  have eg : σ.1 4 (401 * c + (T - 1)) &&& (σ.1 4 (401 * c + T) ^^^ (-1)) = pl_m (sp_go (sp_D p) c T) := by
    rw [h.1.1 c (T - 1) hc (Or.inl (by omega)), h.1.1 c T hc (Or.inr ⟨rfl, hc⟩)]
    refine pl_m_of fun i hi => ?_
    rw [pl_b_and, pl_b_not _ hi, Bool.and_eq_true, pl_m_b _ hi, Bool.not_eq_true', ← Bool.not_eq_true, pl_m_b _ hi]
    unfold sp_go
    constructor
    · rintro ⟨⟨q1, q2⟩, q3⟩
      exact ⟨q1, hT0, q2, fun q => q3 ⟨q1, q⟩⟩
    · rintro ⟨q1, q2, q3, q4⟩
      exact ⟨⟨q1, q3⟩, fun q => q4 q.2⟩
  unfold oX2_letsGo
  rw [e1, pl_in (by omega) (by omega), pl_ogt, pl_ixin (by omega) hT, pl_ogt, pl_olt, pl_nn (by omega), pl_ix (by omega) (by omega), eg]
  refine pl_for (fun n v s => oX2_letsGo_L33 β bp (nI c) (nI T) n (pl_m (sp_go (sp_D p) c T)) v s) 6 (fun i s => px_I σ0 bp p set tl T (pq_n p) bs (fun b k j => sp_mp p (sp_D p) T c i b k j) (cnt + pl_sum (sp_c1 p (sp_D p) T c) i) s) (fun r => ∃ σ', r = some σ' ∧ px_I σ0 bp p set tl T (pq_n p) bs (fun b k j => sp_mp p (sp_D p) T (c + 1) 0 b k j) (cnt + sp_c2 p (sp_D p) T c) σ') (fun n i s hi hs ih => ?_) ol_fuel 0 σ (by omega) (by unfold ol_fuel; omega) h
  show ∃ σ', oX2_letsGo_L33 β bp (nI c) (nI T) (n + 1) (pl_m (sp_go (sp_D p) c T)) (nI i) s = _ ∧ _
  rw [oX2_letsGo_L33, pl_l6]
  by_cases hi6 : i < 6
  · rw [if_neg (fun q => by have := (pl_le (by omega) (by omega)).mp q; omega), pl_hasif (i := i) (by omega), pl_s]
    by_cases hgo : sp_go (sp_D p) c T i
    · rw [if_pos ((pl_m_b _ (by omega)).mpr ⟨hi6, hgo⟩)]
      obtain ⟨σ1, e2, h2⟩ := px_dips hp hB hs hc hi6 hT hgo
      rw [e2, Option.bind_some]
      rw [Nat.add_assoc] at h2
      exact ih hi6 σ1 (h2.ext fun b k j _ _ _ => ⟨fun q => (sp_mpi hc).mpr (by
        rcases q with q | ⟨rfl, q⟩
        · exact Or.inl q
        · exact Or.inr ⟨rfl, q⟩), fun q => by
        rcases (sp_mpi hc).mp q with q | ⟨rfl, q⟩
        · exact Or.inl q
        · exact Or.inr ⟨rfl, q⟩⟩)
    · rw [if_neg (fun q => hgo ((pl_m_b _ (by omega)).mp q).2)]
      refine ih hi6 s ?_
      have e : sp_c1 p (sp_D p) T c i = 0 := by
        unfold sp_c1
        rw [pl_c_f (fun q => hgo q.1)]
        rfl
      show px_I σ0 bp p set tl T (pq_n p) bs _ (cnt + (pl_sum (sp_c1 p (sp_D p) T c) i + sp_c1 p (sp_D p) T c i)) s
      rw [e, Nat.add_zero]
      exact hs.ext fun b k j _ _ _ => ⟨fun q => (sp_mpi hc).mpr (Or.inl q), fun q => by
        rcases (sp_mpi hc).mp q with q | ⟨rfl, q⟩
        · exact q
        · exact absurd q.1 hgo⟩
  · have e6 : i = 6 := by omega
    subst e6
    rw [if_pos ((pl_le (by omega) (by omega)).mpr (Nat.le_refl _))]
    exact ⟨s, rfl, hs.ext fun b k j _ _ hj => sp_mpc hj⟩
/-! what a board sees, takes, is withdrawn to -/
def pl_t64 (a b c d e f : Bool) : Int32 := bif f then 5 else bif e then 4 else bif d then 3 else bif c then 2 else bif b then 1 else bif a then 0 else -2
theorem pl_over : ∀ a b c d e f : Bool, (if pl_6 a b c d e f = 0 then some (-2) else (oJ14_highestOneBit (pl_6 a b c d e f)).bind fun y => (oJ14_numberOfTrailingZeros y).bind fun z => some z) = some (pl_t64 a b c d e f) := by decide +kernel
theorem pl_enb (b : Bool) (k : Nat) (o : Option Nat) : pl_en (bif b then some k else o) = bif b then nI k else pl_en o := by
  cases b <;> rfl
theorem pl_top64 (f : Nat → Prop) : pl_en (pl_top f 6) = pl_t64 (pl_c (f 0)) (pl_c (f 1)) (pl_c (f 2)) (pl_c (f 3)) (pl_c (f 4)) (pl_c (f 5)) := by
  simp only [pl_top, pl_enb]
  rfl
theorem px_seen (hp : pq_ok p) {b : Nat} (hb : b < pq_n p) (hT : T < 401) {v4 dd : Int32} (h4 : v4 = pl_m (fun i => ∃ o, o < pq_n p ∧ pq_ap p b o ≤ T ∧ sp_D p o (T - pq_ap p b o) i)) (hd : dd = pl_m (fun i => sp_dp p (sp_D p) (T + 1) b T i)) : (((v4 &&& (dd ^^^ (-1))) ||| pl_m (fun i => pq_ln p i = 1)) &&& (pl_m (fun i => pq_ln p i = 2) ^^^ (-1))) ||| pl_m (sp_D p b T) = pl_m (sp_se p (sp_D p) b T) := by
  subst h4; subst hd
  refine pl_m_of fun i hi => ?_
  rw [pl_b_or, pl_b_and, pl_b_or, pl_b_and, pl_b_not _ hi, pl_b_not _ hi]
  simp only [Bool.or_eq_true, Bool.and_eq_true, Bool.not_eq_true', ← Bool.not_eq_true, pl_m_b _ hi]
  unfold sp_se
  constructor
  · rintro (⟨⟨⟨q1, q2⟩, q3⟩ | q1, q4⟩ | q1)
    · exact ⟨q1, Or.inr ⟨fun q => q4 ⟨q1, q⟩, Or.inr ⟨fun q => q3 ⟨q1, q⟩, q2⟩⟩⟩
    · exact ⟨q1.1, Or.inr ⟨fun q => q4 ⟨q1.1, q⟩, Or.inl q1.2⟩⟩
    · exact ⟨q1.1, Or.inl q1.2⟩
  · rintro ⟨q0, q1 | ⟨q1, q2 | ⟨q2, q3⟩⟩⟩
    · exact Or.inr ⟨q0, q1⟩
    · exact Or.inl ⟨Or.inr ⟨q0, q2⟩, fun q => q1 q.2⟩
    · exact Or.inl ⟨Or.inl ⟨⟨q0, q3⟩, fun q => q2 q.2⟩, fun q => q1 q.2⟩
theorem px_lT (hT : T < 401) (hf : pq_f p ≤ 20) {b i : Nat} {v : Int32} (h : px_l p b i (T + 1) v) : (nI (pq_f p) < nI T - v) ↔ ¬ sp_ta p (sp_D p) b T i := by
  rcases h with ⟨t, h1, h2, h3, h4⟩ | ⟨h1, h2⟩
  · rw [h2, pl_sub (by omega), pl_lt (by omega) (by omega)]
    constructor
    · rintro q ⟨t', q1, q2, q3⟩
      rcases Nat.lt_or_ge t t' with h5 | h5
      · exact h4 t' h5 (by omega) q3
      · omega
    · intro q
      rcases Nat.lt_or_ge (pq_f p) (T - t) with h5 | h5
      · exact h5
      · exact absurd ⟨t, by omega, by omega, h3⟩ q
  · rw [h1, Int32.sub_neg, pl_l401, pl_add, pl_lt (by omega) (by omega)]
    constructor
    · rintro - ⟨t', q1, -, q3⟩
      exact h2 t' (by omega) q3
    · intro _
      omega
/-- where the rows stand within one board's seeing -/
def px_J (p : ol_Pp) (b T i i2 : Nat) (σ1 τ : ol_Xm) : Prop :=
  (∀ c k, ¬ c = 6 → ¬ c = 9 → τ.1 c k = σ1.1 c k) ∧ (∀ k, ¬ k = 401 * b + T → τ.1 6 k = σ1.1 6 k) ∧ τ.1 6 (401 * b + T) = pl_m (fun j => j < i ∧ sp_ta p (sp_D p) b T j) ∧ (∀ k, (∀ j, j < i2 → ¬ k = 6 * b + j) → τ.1 9 k = σ1.1 9 k) ∧ (∀ j, j < i → px_l p b j (T + 1) (τ.1 9 (6 * b + j))) ∧ τ.2 = σ1.2
theorem px_L150 (hp : pq_ok p) {b : Nat} (hb : b < pq_n p) (hT : T < 401) {i : Nat} (hi : i < 6) {σ1 τ : ol_Xm} (hf : τ.1 2 13 = nI (pq_f p)) (h : px_J p b T i (i + 1) σ1 τ) (hl : px_l p b i (T + 1) (τ.1 9 (6 * b + i))) (k116 : Int32 → Int32 → ol_Xm → Option ol_Xm) : ∃ τ', oX2_sees_L150 β bp (nI b) (nI T) k116 (nI (401 * b + T)) (nI i) τ = k116 (nI (401 * b + T)) (nI (i + 1)) τ' ∧ px_J p b T (i + 1) (i + 1) σ1 τ' := by
  have h6 := hp.1.2
  obtain ⟨j1, j2, j3, j4, j5, j6⟩ := h
  unfold oX2_sees_L150
  rw [pl_l6, pl_mul, pl_add, pl_in (by omega) (by omega), pl_ogt, pl_nn (by omega), hf, pl_s]
  have hta := px_lT hT hp.2.2.1 hl
  have h5' : ∀ j, j < i + 1 → px_l p b j (T + 1) (τ.1 9 (6 * b + j)) := fun j hj => by
    by_cases e : j = i
    · subst e
      exact hl
    · exact j5 j (by omega)
  by_cases ht : sp_ta p (sp_D p) b T i
  · rw [if_neg (fun q => hta.mp q ht), pl_in (by omega) (by omega), pl_ogt, pl_ogt, pl_nn (by omega)]
    refine ⟨_, rfl, fun c k h7 h8 => (px_ne h7).trans (j1 c k h7 h8), fun k hk => (px_nk hk).trans (j2 k hk), ?_, fun k hk => (px_ne (by omega)).trans (j4 k hk), fun j hj => ?_, j6⟩
    · rw [px_eq, j3, pl_m_or1 hi]
      refine pl_m_ext fun j hj => ⟨fun q => ?_, fun q => ?_⟩
      · rcases q with ⟨q1, q2⟩ | rfl
        · exact ⟨by omega, q2⟩
        · exact ⟨by omega, ht⟩
      · by_cases e : j = i
        · exact Or.inr e
        · exact Or.inl ⟨by omega, q.2⟩
    · rw [px_ne (by omega)]
      exact h5' j hj
  · rw [if_pos (hta.mpr ht)]
    refine ⟨τ, rfl, j1, j2, ?_, j4, h5', j6⟩
    rw [j3]
    refine pl_m_ext fun j hj => ⟨fun q => ⟨by omega, q.2⟩, fun q => ?_⟩
    by_cases e : j = i
    · subst e
      exact absurd q.2 ht
    · exact ⟨by omega, q.2⟩
theorem px_L220 (hp : pq_ok p) {b : Nat} (hb : b < pq_n p) (hT : T < 401) {s0 : Int32} {f : Nat → Prop} (hs : s0 = pl_m f) (τ : ol_Xm) : oX2_sees_L220 β bp (nI b) (nI T) (nI (401 * b + T)) s0 τ = some (ol_xs τ 7 (401 * b + T) (pl_en (pl_top f 6))) := by
  have h6 := hp.1.2
  have ho := pl_over (pl_c (f 0)) (pl_c (f 1)) (pl_c (f 2)) (pl_c (f 3)) (pl_c (f 4)) (pl_c (f 5))
  rw [← pl_top64, show pl_6 (pl_c (f 0)) (pl_c (f 1)) (pl_c (f 2)) (pl_c (f 3)) (pl_c (f 4)) (pl_c (f 5)) = s0 from hs.symm] at ho
  unfold oX2_sees_L220
  by_cases h0 : s0 = 0
  · rw [if_pos h0] at ho
    rw [if_pos h0, pl_in (by omega) (by omega), pl_ogt, pl_nn (by omega), Option.some.inj ho]
  · rw [if_neg h0] at ho
    rw [if_neg h0]
    obtain ⟨y, e1, ho⟩ := ol_of_bd ho
    obtain ⟨z, e2, ho⟩ := ol_of_bd ho
    rw [e1, Option.bind_some, e2, Option.bind_some, pl_in (by omega) (by omega), pl_ogt, pl_nn (by omega), Option.some.inj ho]
theorem px_sees (hp : pq_ok p) (hB : px_B β p) {b : Nat} (hb : b < pq_n p) (hT : T < 401) (h : px_I σ0 bp p set tl T (pq_n p) b (fun b k j => sp_dp p (sp_D p) (T + 1) b k j) cnt σ) : ∃ σ', oX2_sees σ β bp (nI b) (nI T) = some σ' ∧ px_I σ0 bp p set tl T (pq_n p) (b + 1) (fun b k j => sp_dp p (sp_D p) (T + 1) b k j) cnt σ' := by
  have h6 := hp.1.2
  have hP := h.2.2.2.2
  have e401 : (401 : Int32) * nI b + nI T = nI (401 * b + T) := by rw [pl_l401, pl_mul, pl_add]
  unfold oX2_sees
  rw [e401]
  refine pl_for (fun n v s => oX2_sees_L14 β bp (nI b) (nI T) n (nI (401 * b + T)) s v σ) (pq_n p) (fun o s => s = pl_m (fun i => ∃ o', o' < o ∧ pq_ap p b o' ≤ T ∧ sp_D p o' (T - pq_ap p b o') i)) (fun r => ∃ σ', r = some σ' ∧ px_I σ0 bp p set tl T (pq_n p) (b + 1) (fun b k j => sp_dp p (sp_D p) (T + 1) b k j) cnt σ') (fun n o s ho hs ih => ?_) ol_fuel 0 0 (by omega) (by unfold ol_fuel; omega) (pl_m_0 fun i hi q => by
    obtain ⟨o', q1, -⟩ := q
    omega).symm
  show ∃ σ', oX2_sees_L14 β bp (nI b) (nI T) (n + 1) (nI (401 * b + T)) s (nI o) σ = _ ∧ _
  rw [oX2_sees_L14, hP.1.1, pl_dd, pl_ogt, hB.1]
  by_cases hon : o < pq_n p
  · have hap := hp.2.2.2.2.2 b o hb hon
    rw [if_neg (fun q => by have := (pl_le (by omega) (by omega)).mp q; omega), pl_ogt, px_ib hp hB hb, px_ib hp hB hon, pl_ogt, pl_ogt, hB.2.2.2 b o hb hon, pl_s]
    by_cases hle : pq_ap p b o ≤ T
    · rw [pl_sub hle, if_neg (fun q => by
        have e : (0 : Int32) = nI 0 := rfl
        rw [e] at q
        have := (pl_lt (by omega) (by omega)).mp q
        omega), pl_ixin (b := o) (by omega) (by omega), pl_ogt, pl_olt, pl_ix (by omega) (by omega)]
      have hD : σ.1 4 (401 * o + (T - pq_ap p b o)) = pl_m (sp_D p o (T - pq_ap p b o)) := h.1.1 o _ hon (by
        rcases Nat.lt_or_ge (T - pq_ap p b o) T with q | q
        · exact Or.inl q
        · exact Or.inr ⟨by omega, hon⟩)
      refine ih hon _ ?_
      rw [hs, hD]
      refine pl_m_of fun i hi => ?_
      rw [pl_b_or, Bool.or_eq_true, pl_m_b _ hi, pl_m_b _ hi]
      constructor
      · rintro (⟨q0, o', q1, q2, q3⟩ | ⟨q0, q1⟩)
        · exact ⟨q0, o', by omega, q2, q3⟩
        · exact ⟨q0, o, by omega, hle, q1⟩
      · rintro ⟨q0, o', q1, q2, q3⟩
        by_cases e : o' = o
        · subst e
          exact Or.inr ⟨q0, q3⟩
        · exact Or.inl ⟨q0, o', by omega, q2, q3⟩
    · have hneg : nI T - nI (pq_ap p b o) < 0 := by
        have : ∀ t, t < 10 → ∀ a, a < 10 → t < a → nI t - nI a < 0 := by decide +kernel
        exact this T (by omega) _ (by omega) (by omega)
      rw [if_pos hneg]
      refine ih hon _ ?_
      rw [hs]
      refine pl_m_ext fun i hi => ⟨?_, ?_⟩
      · rintro ⟨o', q1, q2, q3⟩
        exact ⟨o', by omega, q2, q3⟩
      · rintro ⟨o', q1, q2, q3⟩
        by_cases e : o' = o
        · subst e
          exact absurd q2 hle
        · exact ⟨o', by omega, q2, q3⟩
  · have e : o = pq_n p := by omega
    subst e
    have hin : ol_in (nI (401 * b + T)) 2406 = true := pl_in (by omega) (by omega)
    rw [if_pos ((pl_le (by omega) (by omega)).mpr (Nat.le_refl _)), hin, pl_ogt, pl_ogt, pl_ogt, pl_ogt, pl_nn (n := 401 * b + T) (by omega), hP.1.2.2.2.1, hP.1.2.2.2.2.1, h.1.1 b T hb (Or.inr ⟨rfl, hb⟩), px_seen hp hb hT hs (h.2.1 b T hb hT)]
    -- the row of what is taken, bit by bit
    refine pl_for (fun n v s => oX2_sees_L116 β bp (nI b) (nI T) n (nI (401 * b + T)) v s) 6 (fun i τ => px_J p b T i i (ol_xs (ol_xs σ 5 (401 * b + T) (pl_m (sp_se p (sp_D p) b T))) 6 (401 * b + T) 0) τ) (fun r => ∃ σ', r = some σ' ∧ px_I σ0 bp p set tl T (pq_n p) (b + 1) (fun b k j => sp_dp p (sp_D p) (T + 1) b k j) cnt σ') (fun n i τ hi hJ ih => ?_) ol_fuel 0 _ (by omega) (by unfold ol_fuel; omega) ⟨fun _ _ _ _ => rfl, fun _ _ => rfl, (px_eq).trans (pl_m_0 fun j _ q => by omega).symm, fun _ _ => rfl, fun j hj => by omega, rfl⟩
    show ∃ σ', oX2_sees_L116 β bp (nI b) (nI T) (n + 1) (nI (401 * b + T)) (nI i) τ = _ ∧ _
    obtain ⟨j1, j2, j3, j4, j5, j6⟩ := id hJ
    have hset : τ.1 2 8 = set := (j1 2 8 (by omega) (by omega)).trans ((px_ne (by omega)).trans ((px_ne (by omega)).trans hP.1.2.1))
    have hfl : τ.1 2 13 = nI (pq_f p) := (j1 2 13 (by omega) (by omega)).trans ((px_ne (by omega)).trans ((px_ne (by omega)).trans hP.1.2.2.1))
    have hse : τ.1 5 (401 * b + T) = pl_m (sp_se p (sp_D p) b T) := (j1 5 _ (by omega) (by omega)).trans ((px_ne (by omega)).trans px_eq)
    rw [oX2_sees_L116, pl_l6]
    by_cases hi6 : i < 6
    · rw [if_neg (fun q => by have := (pl_le (by omega) (by omega)).mp q; omega), hin, pl_ogt, pl_nn (n := 401 * b + T) (by omega), pl_hasif (i := i) (by omega), hse]
      have hold : τ.1 9 (6 * b + i) = σ.1 9 (6 * b + i) := (j4 _ fun j hj => by omega).trans ((px_ne (by omega)).trans (px_ne (by omega)))
      have hlat := h.2.2.1 b i hb hi6
      rw [if_neg (Nat.lt_irrefl b), ← hold] at hlat
      by_cases hs5 : sp_se p (sp_D p) b T i
      · rw [if_pos ((pl_m_b _ (by omega)).mpr ⟨hi6, hs5⟩), pl_mul, pl_add, pl_in (by omega) (by omega), pl_ogt, pl_nn (n := 6 * b + i) (by omega)]
        obtain ⟨τ', e1, hJ'⟩ := px_L150 (β := β) (bp := bp) hp hb hT hi6 (τ := ol_xs τ 9 (6 * b + i) (nI T)) (σ1 := ol_xs (ol_xs σ 5 (401 * b + T) (pl_m (sp_se p (sp_D p) b T))) 6 (401 * b + T) 0) ((px_ne (by omega)).trans hfl) ⟨fun c k h7 h8 => (px_ne h8).trans (j1 c k h7 h8), fun k hk => (px_ne (by omega)).trans (j2 k hk), (px_ne (by omega)).trans j3, fun k hk => (px_nk (hk i (by omega))).trans (j4 k fun j hj => hk j (by omega)), fun j hj => by
          rw [px_nk (by omega)]
          exact j5 j hj, j6⟩ (by
            rw [px_eq]
            exact Or.inl ⟨T, by omega, rfl, hs5, fun t' q1 q2 => by omega⟩) (oX2_sees_L116 β bp (nI b) (nI T) n)
        rw [e1]
        exact ih hi6 τ' hJ'
      · rw [if_neg (fun q => hs5 ((pl_m_b _ (by omega)).mp q).2)]
        obtain ⟨τ', e1, hJ'⟩ := px_L150 (β := β) (bp := bp) hp hb hT hi6 hfl ⟨j1, j2, j3, fun k hk => j4 k fun j hj => hk j (by omega), j5, j6⟩ (by
          rcases hlat with ⟨t, q1, q2, q3, q4⟩ | ⟨q1, q2⟩
          · exact Or.inl ⟨t, by omega, q2, q3, fun t' q5 q6 => by
              by_cases e : t' = T
              · rw [e]; exact hs5
              · exact q4 t' q5 (by omega)⟩
          · exact Or.inr ⟨q1, fun t q5 => by
              by_cases e : t = T
              · rw [e]; exact hs5
              · exact q2 t (by omega)⟩) (oX2_sees_L116 β bp (nI b) (nI T) n)
        rw [e1]
        exact ih hi6 τ' hJ'
    · have e6 : i = 6 := by omega
      subst e6
      have hta6 : τ.1 6 (401 * b + T) = pl_m (sp_ta p (sp_D p) b T) := j3.trans (pl_m_ext fun j hj => ⟨fun q => q.2, fun q => ⟨hj, q⟩⟩)
      have hfin : ∀ x : Int32, x = pl_en (sp_O p b T) → px_I σ0 bp p set tl T (pq_n p) (b + 1) (fun b k j => sp_dp p (sp_D p) (T + 1) b k j) cnt (ol_xs τ 7 (401 * b + T) x) := fun x hx => by
        have g1 : ∀ c k, ¬ c = 5 → ¬ c = 6 → ¬ c = 7 → ¬ c = 9 → (ol_xs τ 7 (401 * b + T) x).1 c k = σ.1 c k := fun c k h5 h6 h7 h9 => (px_ne h7).trans ((j1 c k h6 h9).trans ((px_ne h6).trans (px_ne h5)))
        refine ⟨h.1.se' hT (fun k => g1 4 k (by omega) (by omega) (by omega) (by omega)) (fun k hk => ⟨?_, ?_, ?_⟩) ((px_ne (by omega)).trans hse) ((px_ne (by omega)).trans hta6) (px_eq.trans hx), fun b' k hb' hk => (g1 8 _ (by omega) (by omega) (by omega) (by omega)).trans (h.2.1 b' k hb' hk), fun b' i' hb' hi' => ?_, (g1 2 11 (by omega) (by omega) (by omega) (by omega)).trans h.2.2.2.1, hP.of (fun c k hc => g1 c k (by omega) (by omega) (by omega) (by omega)) j6⟩
        · exact (px_ne (by omega)).trans ((j1 5 k (by omega) (by omega)).trans ((px_ne (by omega)).trans (px_nk hk)))
        · exact (px_ne (by omega)).trans ((j2 k hk).trans ((px_nk hk).trans (px_ne (by omega))))
        · exact (px_nk hk).trans ((j1 7 k (by omega) (by omega)).trans ((px_ne (by omega)).trans (px_ne (by omega))))
        · rw [px_ne (c' := 9) (by omega)]
          by_cases eb : b' = b
          · subst eb
            rw [if_pos (by omega)]
            exact j5 i' hi'
          · rw [j4 _ (fun j hj => by omega), px_ne (c' := 9) (by omega), px_ne (c' := 9) (by omega)]
            have h9 := h.2.2.1 b' i' hb' hi'
            by_cases h10 : b' < b
            · rw [if_pos h10] at h9
              rw [if_pos (by omega)]
              exact h9
            · rw [if_neg h10] at h9
              rw [if_neg (by omega)]
              exact h9
      rw [if_pos ((pl_le (by omega) (by omega)).mpr (Nat.le_refl _)), hset, pl_hasif (i := b) (by omega)]
      have hO := sp_fix hp.2.1.1 b T
      by_cases hh : pq_hs p b
      · have hw : τ.1 3 b = pq_w p b := (j1 3 b (by omega) (by omega)).trans ((px_ne (by omega)).trans ((px_ne (by omega)).trans ((hP.2.1 b hb).1 hh)))
        rw [if_pos ((hP.2.2.1 b hb).mpr hh), hin, pl_ogt, pl_in (i := b) (by omega) (by omega), pl_ogt, pl_nn (n := 401 * b + T) (by omega), pl_nn (n := b) (by omega), hw, hta6, px_L220 hp hb hT (f := fun k => sp_ta p (sp_D p) b T k ∧ pl_b (pq_w p b) k = false) (pl_m_of fun i hi => by
          rw [pl_b_and, pl_b_not _ hi, Bool.and_eq_true, pl_m_b _ hi, Bool.not_eq_true']
          exact and_assoc)]
        refine ⟨_, rfl, hfin _ ?_⟩
        rw [hO]
        unfold sp_wd
        rw [pl_c_t hh, cond_true]
      · rw [if_neg (fun q => hh ((hP.2.2.1 b hb).mp q)), px_L220 hp hb hT (f := fun _ => False) (pl_m_0 fun _ _ q => q).symm]
        refine ⟨_, rfl, hfin _ ?_⟩
        rw [hO]
        unfold sp_wd
        rw [pl_c_f hh, cond_false]
        simp only [pl_top, pl_c_f (fun q : False => q), cond_false]
/-! one tick -/
theorem px_c295 (hp : pq_ok p) (hB : px_B β p) (hT : T < 401) (lr : Nat) (wf : ol_Xm → Nat → Option Int32) (x2 x5 x6 : Int32) (k214 : Int32 → ol_Xm → Option ol_Xm) (h : px_I σ0 bp p set tl T (pq_n p) 0 (fun b k j => sp_dp p (sp_D p) (T + 1) b k j) cnt σ) : ∃ σ', oX2_goes_2_L295 β bp lr wf x2 x5 x6 k214 ol_fuel (nI T) 0 σ = k214 (nI (T + 1)) σ' ∧ px_I σ0 bp p set tl (T + 1) 0 0 (fun b k j => sp_dp p (sp_D p) (T + 1) b k j) cnt σ' := by
  have h6 := hp.1.2
  refine pl_for (fun n v s => oX2_goes_2_L295 β bp lr wf x2 x5 x6 k214 n (nI T) v s) (pq_n p) (fun b s => px_I σ0 bp p set tl T (pq_n p) b (fun b k j => sp_dp p (sp_D p) (T + 1) b k j) cnt s) (fun r => ∃ σ', r = k214 (nI (T + 1)) σ' ∧ px_I σ0 bp p set tl (T + 1) 0 0 (fun b k j => sp_dp p (sp_D p) (T + 1) b k j) cnt σ') (fun n b s hb hs ih => ?_) ol_fuel 0 σ (by omega) (by unfold ol_fuel; omega) h
  show ∃ σ', oX2_goes_2_L295 β bp lr wf x2 x5 x6 k214 (n + 1) (nI T) (nI b) s = _ ∧ _
  rw [oX2_goes_2_L295, hB.1, pl_s, pl_s]
  by_cases hbn : b < pq_n p
  · rw [if_neg (fun q => by have := (pl_le (by omega) (by omega)).mp q; omega)]
    obtain ⟨σ1, e1, h1⟩ := px_sees hp hB hbn hT hs
    rw [e1, Option.bind_some]
    exact ih hbn σ1 h1
  · have e : b = pq_n p := by omega
    subst e
    rw [if_pos ((pl_le (by omega) (by omega)).mpr (Nat.le_refl _))]
    refine ⟨s, rfl, hs.1.next, hs.2.1, fun b i hb hi => ?_, hs.2.2.2⟩
    have h9 := hs.2.2.1 b i hb hi
    rw [if_pos hb] at h9
    rw [if_neg (by omega)]
    exact h9
theorem px_c264 (hp : pq_ok p) (hB : px_B β p) (hT : T < 401) (lr : Nat) (wf : ol_Xm → Nat → Option Int32) (x2 x5 x6 : Int32) (k214 : Int32 → ol_Xm → Option ol_Xm) (h : px_I σ0 bp p set tl T (pq_n p) 0 (fun b k j => sp_dp p (sp_D p) T b k j) (sp_c4 p (sp_D p) T) σ) : ∃ σ', oX2_goes_2_L264 β bp lr wf x2 x5 x6 k214 ol_fuel (nI T) 0 σ = k214 (nI (T + 1)) σ' ∧ px_I σ0 bp p set tl (T + 1) 0 0 (fun b k j => sp_dp p (sp_D p) (T + 1) b k j) (sp_c4 p (sp_D p) (T + 1)) σ' := by
  have h6 := hp.1.2
  refine pl_for (fun n v s => oX2_goes_2_L264 β bp lr wf x2 x5 x6 k214 n (nI T) v s) (pq_n p) (fun c s => px_I σ0 bp p set tl T (pq_n p) 0 (fun b k j => sp_mp p (sp_D p) T c 0 b k j) (sp_c4 p (sp_D p) T + pl_sum (sp_c2 p (sp_D p) T) c) s) (fun r => ∃ σ', r = k214 (nI (T + 1)) σ' ∧ px_I σ0 bp p set tl (T + 1) 0 0 (fun b k j => sp_dp p (sp_D p) (T + 1) b k j) (sp_c4 p (sp_D p) (T + 1)) σ') (fun n c s hc hs ih => ?_) ol_fuel 0 σ (by omega) (by unfold ol_fuel; omega) (h.ext fun _ _ _ _ _ _ => sp_mp0.symm)
  show ∃ σ', oX2_goes_2_L264 β bp lr wf x2 x5 x6 k214 (n + 1) (nI T) (nI c) s = _ ∧ _
  have hz : sp_c4 p (sp_D p) T + pl_sum (sp_c2 p (sp_D p) T) (pq_n p) = sp_c4 p (sp_D p) (T + 1) := rfl
  rw [oX2_goes_2_L264, hB.1, pl_s]
  by_cases hcn : c < pq_n p
  · rw [if_neg (fun q => by have := (pl_le (by omega) (by omega)).mp q; omega)]
    by_cases hT0 : T = 0
    · subst hT0
      rw [if_pos (by decide +kernel)]
      have hno : ∀ c' i, ¬ sp_go (sp_D p) c' 0 i := fun c' i q => by
        have := q.1
        omega
      have h1 : sp_c3 p (sp_D p) 0 = 0 := by
        have h2 : ∀ c' i, sp_c1 p (sp_D p) 0 c' i = 0 := fun c' i => by
          unfold sp_c1
          rw [pl_c_f (fun q => hno c' i q.1)]
          rfl
        have h3 : ∀ (f : Nat → Nat), (∀ i, f i = 0) → ∀ k, pl_sum f k = 0 := fun f hf k => by
          induction k with
          | zero => rfl
          | succ k ih2 =>
            show pl_sum f k + f k = 0
            rw [ih2, hf]
        exact h3 _ (fun c' => h3 _ (h2 c') 6) _
      have h4 : pl_sum (sp_c2 p (sp_D p) 0) c = 0 := by
        have h2 : ∀ c' i, sp_c1 p (sp_D p) 0 c' i = 0 := fun c' i => by
          unfold sp_c1
          rw [pl_c_f (fun q => hno c' i q.1)]
          rfl
        have h3 : ∀ (f : Nat → Nat), (∀ i, f i = 0) → ∀ k, pl_sum f k = 0 := fun f hf k => by
          induction k with
          | zero => rfl
          | succ k ih2 =>
            show pl_sum f k + f k = 0
            rw [ih2, hf]
        exact h3 _ (fun c' => h3 _ (h2 c') 6) _
      rw [h4] at hs
      have h5 : sp_c4 p (sp_D p) (0 + 1) = sp_c4 p (sp_D p) 0 := by
        show sp_c4 p (sp_D p) 0 + sp_c3 p (sp_D p) 0 = _
        rw [h1, Nat.add_zero]
      rw [h5]
      refine px_c295 hp hB hT lr wf x2 x5 x6 k214 (hs.ext fun b k j _ _ _ => ⟨fun q => ?_, fun q => ?_⟩)
      · rcases q with ⟨t, c', q1, q2, q3⟩ | ⟨c', q1, q2, q3⟩
        · exact ⟨t, c', by omega, q2, q3⟩
        · exact absurd q3.1 (hno _ _)
      · obtain ⟨t, c', q1, q2, q3⟩ := q
        have e : t = 0 := by omega
        subst e
        exact absurd q3.1 (hno _ _)
    · rw [if_neg (fun q => hT0 (by
        have e : (0 : Int32) = nI 0 := rfl
        rw [e] at q
        have := (pl_le (by omega) (by omega)).mp q
        omega))]
      obtain ⟨σ1, e1, h1⟩ := px_letsGo hp hB hcn hT (by omega) hs
      rw [e1, Option.bind_some]
      rw [Nat.add_assoc] at h1
      exact ih hcn σ1 h1
  · have e : c = pq_n p := by omega
    subst e
    rw [if_pos ((pl_le (by omega) (by omega)).mpr (Nat.le_refl _))]
    rw [hz] at hs
    exact px_c295 hp hB hT lr wf x2 x5 x6 k214 (hs.ext fun _ _ _ _ _ _ => sp_mpn)
theorem px_c224 (hp : pq_ok p) (hB : px_B β p) (hT : T < 401) (lr : Nat) (wf : ol_Xm → Nat → Option Int32) (x2 x5 x6 : Int32) (k214 : Int32 → ol_Xm → Option ol_Xm) (h : px_I σ0 bp p set tl T 0 0 (fun b k j => sp_dp p (sp_D p) T b k j) (sp_c4 p (sp_D p) T) σ) : ∃ σ', oX2_goes_2_L224 β bp lr wf x2 x5 x6 k214 ol_fuel (nI T) 0 σ = k214 (nI (T + 1)) σ' ∧ px_I σ0 bp p set tl (T + 1) 0 0 (fun b k j => sp_dp p (sp_D p) (T + 1) b k j) (sp_c4 p (sp_D p) (T + 1)) σ' := by
  have h6 := hp.1.2
  refine pl_for (fun n v s => oX2_goes_2_L224 β bp lr wf x2 x5 x6 k214 n (nI T) v s) (pq_n p) (fun b s => px_I σ0 bp p set tl T b 0 (fun b k j => sp_dp p (sp_D p) T b k j) (sp_c4 p (sp_D p) T) s) (fun r => ∃ σ', r = k214 (nI (T + 1)) σ' ∧ px_I σ0 bp p set tl (T + 1) 0 0 (fun b k j => sp_dp p (sp_D p) (T + 1) b k j) (sp_c4 p (sp_D p) (T + 1)) σ') (fun n b s hb hs ih => ?_) ol_fuel 0 σ (by omega) (by unfold ol_fuel; omega) h
  show ∃ σ', oX2_goes_2_L224 β bp lr wf x2 x5 x6 k214 (n + 1) (nI T) (nI b) s = _ ∧ _
  rw [oX2_goes_2_L224, hB.1, pl_s]
  by_cases hbn : b < pq_n p
  · rw [if_neg (fun q => by have := (pl_le (by omega) (by omega)).mp q; omega), px_driven hp hB hs hbn hT, Option.bind_some, pl_ixin (by omega) hT, pl_ogt, pl_ix (by omega) (by omega)]
    exact ih hbn _ ⟨hs.1.dr hT rfl, hs.2.1, hs.2.2.1, hs.2.2.2.1, hs.2.2.2.2.w 4 _ _ (by omega)⟩
  · have e : b = pq_n p := by omega
    subst e
    rw [if_pos ((pl_le (by omega) (by omega)).mpr (Nat.le_refl _))]
    exact px_c264 hp hB hT lr wf x2 x5 x6 k214 hs
/-- ticks, one behind another -/
theorem px_c214 (hp : pq_ok p) (hB : px_B β p) (lr : Nat) (wf : ol_Xm → Nat → Option Int32) (x2 x6 : Int32) {E : Nat} (hE : E < 401) (h : px_I σ0 bp p set tl 0 0 0 (fun b k j => sp_dp p (sp_D p) 0 b k j) (sp_c4 p (sp_D p) 0) σ) : ∃ σ', oX2_goes_2_L214 β bp lr wf x2 (nI E) x6 ol_fuel 0 σ = some σ' ∧ px_I σ0 bp p set tl (E + 1) 0 0 (fun b k j => sp_dp p (sp_D p) (E + 1) b k j) (sp_c4 p (sp_D p) (E + 1)) σ' := by
  refine pl_for (fun n v s => oX2_goes_2_L214 β bp lr wf x2 (nI E) x6 n v s) (E + 1) (fun T s => px_I σ0 bp p set tl T 0 0 (fun b k j => sp_dp p (sp_D p) T b k j) (sp_c4 p (sp_D p) T) s) (fun r => ∃ σ', r = some σ' ∧ px_I σ0 bp p set tl (E + 1) 0 0 (fun b k j => sp_dp p (sp_D p) (E + 1) b k j) (sp_c4 p (sp_D p) (E + 1)) σ') (fun n T s hT hs ih => ?_) ol_fuel 0 σ (by omega) (by unfold ol_fuel; omega) h
  show ∃ σ', oX2_goes_2_L214 β bp lr wf x2 (nI E) x6 (n + 1) (nI T) s = _ ∧ _
  rw [oX2_goes_2_L214]
  by_cases hTE : T < E + 1
  · rw [if_neg (fun q => by have := (pl_lt (by omega) (by omega)).mp q; omega)]
    obtain ⟨σ1, e1, h1⟩ := px_c224 hp hB (by omega) lr wf x2 (nI E) x6 (oX2_goes_2_L214 β bp lr wf x2 (nI E) x6 n) hs
    rw [e1]
    exact ih hTE σ1 h1
  · have e : T = E + 1 := by omega
    subst e
    rw [if_pos ((pl_lt (by omega) (by omega)).mpr (by omega))]
    exact ⟨s, rfl, hs⟩
end PX
