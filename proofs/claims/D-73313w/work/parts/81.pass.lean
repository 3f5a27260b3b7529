/-! THE PASS, said plainly: p = boards, apart, gate, filter, lines, who is in, words -/
set_option maxRecDepth 100000
abbrev ol_Pp : Type := Nat × (Nat → Nat → Nat) × Nat × Nat × (Nat → Int32) × (Nat → Prop) × (Nat → Int32)
abbrev pq_n (p : ol_Pp) : Nat := p.1
abbrev pq_ap (p : ol_Pp) : Nat → Nat → Nat := p.2.1
abbrev pq_g (p : ol_Pp) : Nat := p.2.2.1
abbrev pq_f (p : ol_Pp) : Nat := p.2.2.2.1
abbrev pq_ln (p : ol_Pp) : Nat → Int32 := p.2.2.2.2.1
abbrev pq_hs (p : ol_Pp) : Nat → Prop := p.2.2.2.2.2.1
abbrev pq_w (p : ol_Pp) : Nat → Int32 := p.2.2.2.2.2.2
/-- what both sides bear -/
def pq_ok (p : ol_Pp) : Prop := (1 ≤ pq_n p ∧ pq_n p ≤ 6) ∧ (1 ≤ pq_g p ∧ pq_g p ≤ 3) ∧ pq_f p ≤ 20 ∧ (∀ i, i < 6 → pq_ln p i = 0 ∨ pq_ln p i = 1 ∨ pq_ln p i = 2) ∧ (∀ b, b < pq_n p → pq_hs p b → pl_sm6 (pq_w p b) ∧ ¬ pq_w p b = 0) ∧ ∀ b o, b < pq_n p → o < pq_n p → pq_ap p b o ≤ 9 ∧ (¬ o = b → 1 ≤ pq_ap p b o) ∧ (o = b → pq_ap p b o = 0)
/-- what a board drives, out of the lines it was withdrawn to -/
def sp_dr (p : ol_Pp) (O : Nat → Nat → Option Nat) (b t i : Nat) : Prop := pq_hs p b ∧ pl_b (pq_w p b) i = true ∧ (t < pq_g p ∨ ∀ l, O b (t - pq_g p) = some l → l < i)
def sp_go (D : Nat → Nat → Nat → Prop) (b t i : Nat) : Prop := 1 ≤ t ∧ D b (t - 1) i ∧ ¬ D b t i
/-- how far the nearest other one is of those in E, among the first k -/
noncomputable def sp_nr (p : ol_Pp) (E : Nat → Prop) (b : Nat) : Nat → Nat
  | 0 => 0
  | k + 1 => bif pl_c (¬ k = b ∧ E k ∧ (sp_nr p E b k = 0 ∨ pq_ap p b k < sp_nr p E b k)) then pq_ap p b k else sp_nr p E b k
noncomputable def sp_ne (p : ol_Pp) (D : Nat → Nat → Nat → Prop) (b t i : Nat) : Nat := sp_nr p (fun o => D o t i) b (pq_n p)
/-- board c, letting line i go at t, marks board b at k -/
def sp_mk (p : ol_Pp) (D : Nat → Nat → Nat → Prop) (c t i b k : Nat) : Prop := sp_go D c t i ∧ ¬ sp_ne p D c t i = 0 ∧ t + pq_ap p c b ≤ k ∧ k < t + pq_ap p c b + 2 * sp_ne p D c t i
/-- marked by what went on ahead of tick T -/
def sp_dp (p : ol_Pp) (D : Nat → Nat → Nat → Prop) (T b k i : Nat) : Prop := ∃ t c, t < T ∧ c < pq_n p ∧ sp_mk p D c t i b k
def sp_se (p : ol_Pp) (D : Nat → Nat → Nat → Prop) (b t i : Nat) : Prop := D b t i ∨ (¬ pq_ln p i = 2 ∧ (pq_ln p i = 1 ∨ (¬ sp_dp p D (t + 1) b t i ∧ ∃ o, o < pq_n p ∧ pq_ap p b o ≤ t ∧ D o (t - pq_ap p b o) i)))
def sp_ta (p : ol_Pp) (D : Nat → Nat → Nat → Prop) (b t i : Nat) : Prop := ∃ t', t' ≤ t ∧ t ≤ t' + pq_f p ∧ sp_se p D b t' i
/-- the greatest place below k of those in f -/
noncomputable def pl_top (f : Nat → Prop) : Nat → Option Nat
  | 0 => none
  | k + 1 => bif pl_c (f k) then some k else pl_top f k
noncomputable def sp_wd (p : ol_Pp) (D : Nat → Nat → Nat → Prop) (b t : Nat) : Option Nat := bif pl_c (pq_hs p b) then pl_top (fun k => sp_ta p D b t k ∧ pl_b (pq_w p b) k = false) 6 else none
noncomputable def sp_H (p : ol_Pp) : Nat → Nat → Nat → Option Nat
  | 0, _, _ => none
  | T + 1, b, t => if t < T then sp_H p T b t else sp_wd p (sp_dr p (sp_H p T)) b t
noncomputable def sp_O (p : ol_Pp) (b t : Nat) : Option Nat := sp_H p (t + 1) b t
def sp_D (p : ol_Pp) (b t i : Nat) : Prop := sp_dr p (sp_O p) b t i
theorem sp_cg {p : ol_Pp} {D D' : Nat → Nat → Nat → Prop} {T : Nat} (h : ∀ b t i, t ≤ T → (D b t i ↔ D' b t i)) (b : Nat) : sp_wd p D b T = sp_wd p D' b T := by
  have hgo : ∀ b t i, t ≤ T → (sp_go D b t i ↔ sp_go D' b t i) := fun b t i ht => by
    unfold sp_go
    rw [h b (t - 1) i (by omega), h b t i ht]
  have hne : ∀ b t i, t ≤ T → sp_ne p D b t i = sp_ne p D' b t i := fun b t i ht => by
    unfold sp_ne
    rw [show (fun o => D o t i) = (fun o => D' o t i) from funext fun o => propext (h o t i ht)]
  have hmk : ∀ c t i b k, t ≤ T → (sp_mk p D c t i b k ↔ sp_mk p D' c t i b k) := fun c t i b k ht => by
    unfold sp_mk
    rw [hgo c t i ht, hne c t i ht]
  have hdp : ∀ b k i T', T' ≤ T + 1 → (sp_dp p D T' b k i ↔ sp_dp p D' T' b k i) := fun b k i T' hT => by
    constructor
    · rintro ⟨t, c, h1, h2, h3⟩
      exact ⟨t, c, h1, h2, (hmk c t i b k (by omega)).mp h3⟩
    · rintro ⟨t, c, h1, h2, h3⟩
      exact ⟨t, c, h1, h2, (hmk c t i b k (by omega)).mpr h3⟩
  have hse : ∀ b t i, t ≤ T → (sp_se p D b t i ↔ sp_se p D' b t i) := fun b t i ht => by
    have e : (∃ o, o < pq_n p ∧ pq_ap p b o ≤ t ∧ D o (t - pq_ap p b o) i) ↔ (∃ o, o < pq_n p ∧ pq_ap p b o ≤ t ∧ D' o (t - pq_ap p b o) i) := by
      constructor
      · rintro ⟨o, h1, h2, h3⟩
        exact ⟨o, h1, h2, (h _ _ _ (by omega)).mp h3⟩
      · rintro ⟨o, h1, h2, h3⟩
        exact ⟨o, h1, h2, (h _ _ _ (by omega)).mpr h3⟩
    unfold sp_se
    rw [h b t i ht, hdp b t i (t + 1) (by omega), e]
  have hta : ∀ k, sp_ta p D b T k ↔ sp_ta p D' b T k := fun k => by
    constructor
    · rintro ⟨t', h1, h2, h3⟩
      exact ⟨t', h1, h2, (hse b t' k h1).mp h3⟩
    · rintro ⟨t', h1, h2, h3⟩
      exact ⟨t', h1, h2, (hse b t' k h1).mpr h3⟩
  unfold sp_wd
  rw [show (fun k => sp_ta p D b T k ∧ pl_b (pq_w p b) k = false) = (fun k => sp_ta p D' b T k ∧ pl_b (pq_w p b) k = false) from funext fun k => by rw [propext (hta k)]]
theorem sp_st (p : ol_Pp) : ∀ T b t, t < T → sp_H p T b t = sp_O p b t := by
  intro T
  induction T with
  | zero => intro b t h; omega
  | succ T ih =>
    intro b t h
    by_cases h2 : t < T
    · show (if t < T then sp_H p T b t else sp_wd p (sp_dr p (sp_H p T)) b t) = _
      rw [if_pos h2]
      exact ih b t h2
    · have e : t = T := by omega
      subst e
      rfl
theorem sp_fix {p : ol_Pp} (hg : 1 ≤ pq_g p) (b t : Nat) : sp_O p b t = sp_wd p (sp_D p) b t := by
  have e : sp_O p b t = sp_wd p (sp_dr p (sp_H p t)) b t := by
    show (if t < t then sp_H p t b t else sp_wd p (sp_dr p (sp_H p t)) b t) = _
    rw [if_neg (Nat.lt_irrefl t)]
  rw [e]
  refine sp_cg (fun b' t' i h => ?_) b
  unfold sp_D sp_dr
  by_cases h2 : t' < pq_g p
  · simp [h2]
  · rw [sp_st p t b' (t' - pq_g p) (by omega)]
/-! how many dips -/
def pl_sum (f : Nat → Nat) : Nat → Nat
  | 0 => 0
  | k + 1 => pl_sum f k + f k
noncomputable def sp_c1 (p : ol_Pp) (D : Nat → Nat → Nat → Prop) (t c i : Nat) : Nat := bif pl_c (sp_go D c t i ∧ ¬ sp_ne p D c t i = 0) then 1 else 0
noncomputable def sp_c2 (p : ol_Pp) (D : Nat → Nat → Nat → Prop) (t c : Nat) : Nat := pl_sum (sp_c1 p D t c) 6
noncomputable def sp_c3 (p : ol_Pp) (D : Nat → Nat → Nat → Prop) (t : Nat) : Nat := pl_sum (sp_c2 p D t) (pq_n p)
noncomputable def sp_c4 (p : ol_Pp) (D : Nat → Nat → Nat → Prop) (T : Nat) : Nat := pl_sum (sp_c3 p D) T
/-! rows of a pass: what stands in them when tick T is under way, bd boards' driving and bs boards' seeing of it being done -/
def pl_en (o : Option Nat) : Int32 := match o with
  | none => -2
  | some l => nI l
def pa_R (p : ol_Pp) (T bd bs : Nat) (dr se ta wd : Nat → Int32) : Prop :=
  (∀ b t, b < pq_n p → (t < T ∨ t = T ∧ b < bd) → dr (401 * b + t) = pl_m (sp_D p b t)) ∧
  ∀ b t, b < pq_n p → (t < T ∨ t = T ∧ b < bs) → se (401 * b + t) = pl_m (sp_se p (sp_D p) b t) ∧ ta (401 * b + t) = pl_m (sp_ta p (sp_D p) b t) ∧ wd (401 * b + t) = pl_en (sp_O p b t)
def pa_M (p : ol_Pp) (W : Nat) (Mk : Nat → Nat → Nat → Prop) (dip : Nat → Int32) : Prop := ∀ b k, b < pq_n p → k < W → dip (W * b + k) = pl_m (Mk b k)
theorem pa_up {f : Nat → Int32} {k : Nat} {x : Int32} (j : Nat) : upd f k x j = if j = k then x else f j := rfl
theorem pa_R.dr {p : ol_Pp} {T b bs : Nat} {dr se ta wd : Nat → Int32} (h : pa_R p T b bs dr se ta wd) (hT : T < 401) {x : Int32} (hx : x = pl_m (sp_D p b T)) : pa_R p T (b + 1) bs (upd dr (401 * b + T) x) se ta wd := by
  refine ⟨fun b' t' hb ht => ?_, h.2⟩
  rw [pa_up]
  by_cases e : 401 * b' + t' = 401 * b + T
  · rw [if_pos e]
    have e1 : b' = b := by omega
    have e2 : t' = T := by omega
    rw [e1, e2]
    exact hx
  · rw [if_neg e]
    refine h.1 b' t' hb ?_
    rcases ht with ht | ⟨h1, h2⟩
    · exact Or.inl ht
    · refine Or.inr ⟨h1, ?_⟩
      rcases Nat.lt_or_ge b' b with h3 | h3
      · exact h3
      · exfalso
        apply e
        have : b' = b := by omega
        rw [this, h1]
theorem pa_R.se {p : ol_Pp} {T b bd : Nat} {dr se ta wd : Nat → Int32} (h : pa_R p T bd b dr se ta wd) (hT : T < 401) {x y z : Int32} (hx : x = pl_m (sp_se p (sp_D p) b T)) (hy : y = pl_m (sp_ta p (sp_D p) b T)) (hz : z = pl_en (sp_O p b T)) : pa_R p T bd (b + 1) dr (upd se (401 * b + T) x) (upd ta (401 * b + T) y) (upd wd (401 * b + T) z) := by
  refine ⟨h.1, fun b' t' hb ht => ?_⟩
  rw [pa_up, pa_up, pa_up]
  by_cases e : 401 * b' + t' = 401 * b + T
  · rw [if_pos e, if_pos e, if_pos e]
    have e1 : b' = b := by omega
    have e2 : t' = T := by omega
    rw [e1, e2]
    exact ⟨hx, hy, hz⟩
  · rw [if_neg e, if_neg e, if_neg e]
    refine h.2 b' t' hb ?_
    rcases ht with ht | ⟨h1, h2⟩
    · exact Or.inl ht
    · refine Or.inr ⟨h1, ?_⟩
      rcases Nat.lt_or_ge b' b with h3 | h3
      · exact h3
      · exfalso
        apply e
        have : b' = b := by omega
        rw [this, h1]
theorem pa_R.se' {p : ol_Pp} {T b bd : Nat} {dr se ta wd dr' se' ta' wd' : Nat → Int32} (h : pa_R p T bd b dr se ta wd) (hT : T < 401) (h0 : ∀ k, dr' k = dr k) (h1 : ∀ k, ¬ k = 401 * b + T → se' k = se k ∧ ta' k = ta k ∧ wd' k = wd k) (hx : se' (401 * b + T) = pl_m (sp_se p (sp_D p) b T)) (hy : ta' (401 * b + T) = pl_m (sp_ta p (sp_D p) b T)) (hz : wd' (401 * b + T) = pl_en (sp_O p b T)) : pa_R p T bd (b + 1) dr' se' ta' wd' := by
  refine ⟨fun b' t' hb ht => (h0 _).trans (h.1 b' t' hb ht), fun b' t' hb ht => ?_⟩
  by_cases e : 401 * b' + t' = 401 * b + T
  · have e1 : b' = b := by omega
    have e2 : t' = T := by omega
    subst e1; subst e2
    exact ⟨hx, hy, hz⟩
  · obtain ⟨g1, g2, g3⟩ := h1 _ e
    rw [g1, g2, g3]
    refine h.2 b' t' hb ?_
    rcases ht with ht | ⟨h1, h2⟩
    · exact Or.inl ht
    · refine Or.inr ⟨h1, ?_⟩
      rcases Nat.lt_or_ge b' b with h3 | h3
      · exact h3
      · exfalso
        apply e
        have : b' = b := by omega
        rw [this, h1]
theorem pa_R.next {p : ol_Pp} {T : Nat} {dr se ta wd : Nat → Int32} (h : pa_R p T (pq_n p) (pq_n p) dr se ta wd) : pa_R p (T + 1) 0 0 dr se ta wd := by
  refine ⟨fun b t hb ht => h.1 b t hb ?_, fun b t hb ht => h.2 b t hb ?_⟩
  · rcases ht with ht | ⟨h1, h2⟩
    · rcases Nat.lt_or_ge t T with h3 | h3
      · exact Or.inl h3
      · exact Or.inr ⟨by omega, hb⟩
    · omega
  · rcases ht with ht | ⟨h1, h2⟩
    · rcases Nat.lt_or_ge t T with h3 | h3
      · exact Or.inl h3
      · exact Or.inr ⟨by omega, hb⟩
    · omega
theorem pa_M.ext {p : ol_Pp} {W : Nat} {Mk Mk' : Nat → Nat → Nat → Prop} {dip : Nat → Int32} (h : pa_M p W Mk dip) (e : ∀ b k i, b < pq_n p → k < W → i < 6 → (Mk b k i ↔ Mk' b k i)) : pa_M p W Mk' dip :=
  fun b k hb hk => (h b k hb hk).trans (pl_m_ext fun i hi => e b k i hb hk hi)
theorem pl_m_or1 {f : Nat → Prop} {i : Nat} (hi : i < 6) : pl_m f ||| ((1 : Int32) <<< (nI i &&& 31)) = pl_m (fun j => f j ∨ j = i) := pl_m_of fun j hj => by
  rw [pl_b_or, Bool.or_eq_true, pl_m_b f hj, pl_b_one i (by omega) j hj, decide_eq_true_eq]
  constructor
  · rintro (⟨h1, h2⟩ | h)
    · exact ⟨h1, Or.inl h2⟩
    · exact ⟨by omega, Or.inr h⟩
  · rintro ⟨h1, h2 | h2⟩
    · exact Or.inl ⟨h1, h2⟩
    · exact Or.inr h2
/-- a mark laid -/
theorem pa_M.mark {p : ol_Pp} {W : Nat} {Mk : Nat → Nat → Nat → Prop} {dip : Nat → Int32} (h : pa_M p W Mk dip) {b k i : Nat} (hb : b < pq_n p) (hk : k < W) (hi : i < 6) : pa_M p W (fun b' k' i' => Mk b' k' i' ∨ (i' = i ∧ b' = b ∧ k' = k)) (upd dip (W * b + k) (dip (W * b + k) ||| ((1 : Int32) <<< (nI i &&& 31)))) := by
  intro b' k' hb' hk'
  rw [pa_up]
  by_cases e : W * b' + k' = W * b + k
  · have e1 : b' = b := by
      rcases Nat.lt_trichotomy b' b with h1 | h1 | h1
      · exfalso
        have h2 : W * (b' + 1) ≤ W * b := Nat.mul_le_mul_left W h1
        rw [Nat.mul_add, Nat.mul_one] at h2
        omega
      · exact h1
      · exfalso
        have h2 : W * (b + 1) ≤ W * b' := Nat.mul_le_mul_left W h1
        rw [Nat.mul_add, Nat.mul_one] at h2
        omega
    subst e1
    have e2 : k' = k := by omega
    subst e2
    rw [if_pos rfl, h b' k' hb hk, pl_m_or1 hi]
    exact pl_m_ext fun j hj => by simp
  · rw [if_neg e, h b' k' hb' hk']
    refine pl_m_ext fun j hj => ⟨Or.inl, ?_⟩
    rintro (h1 | ⟨-, h1, h2⟩)
    · exact h1
    · exact absurd (by rw [h1, h2]) e
/-- marks so far in tick T: all of the ticks ahead, all of the boards ahead of c, the lines ahead of i of c -/
def sp_mp (p : ol_Pp) (D : Nat → Nat → Nat → Prop) (T c i b k j : Nat) : Prop := sp_dp p D T b k j ∨ ∃ c', c' < pq_n p ∧ (c' < c ∨ c' = c ∧ j < i) ∧ sp_mk p D c' T j b k
theorem sp_mp0 {p : ol_Pp} {D : Nat → Nat → Nat → Prop} {T b k j : Nat} : sp_mp p D T 0 0 b k j ↔ sp_dp p D T b k j := by
  constructor
  · rintro (h | ⟨c', -, h | ⟨-, h⟩, -⟩)
    · exact h
    · omega
    · omega
  · exact Or.inl
theorem sp_mpc {p : ol_Pp} {D : Nat → Nat → Nat → Prop} {T c b k j : Nat} (hj : j < 6) : sp_mp p D T c 6 b k j ↔ sp_mp p D T (c + 1) 0 b k j := by
  constructor
  · rintro (h | ⟨c', h1, h2, h3⟩)
    · exact Or.inl h
    · exact Or.inr ⟨c', h1, Or.inl (by omega), h3⟩
  · rintro (h | ⟨c', h1, h2, h3⟩)
    · exact Or.inl h
    · refine Or.inr ⟨c', h1, ?_, h3⟩
      rcases h2 with h2 | ⟨h2, h4⟩
      · rcases Nat.lt_or_ge c' c with h5 | h5
        · exact Or.inl h5
        · exact Or.inr ⟨by omega, hj⟩
      · omega
theorem sp_mpn {p : ol_Pp} {D : Nat → Nat → Nat → Prop} {T b k j : Nat} : sp_mp p D T (pq_n p) 0 b k j ↔ sp_dp p D (T + 1) b k j := by
  constructor
  · rintro (⟨t, c, h1, h2, h3⟩ | ⟨c', h1, h2, h3⟩)
    · exact ⟨t, c, by omega, h2, h3⟩
    · exact ⟨T, c', by omega, h1, h3⟩
  · rintro ⟨t, c, h1, h2, h3⟩
    rcases Nat.lt_or_ge t T with h4 | h4
    · exact Or.inl ⟨t, c, h4, h2, h3⟩
    · have e : t = T := by omega
      subst e
      exact Or.inr ⟨c, h2, Or.inl h2, h3⟩
theorem sp_mpi {p : ol_Pp} {D : Nat → Nat → Nat → Prop} {T c i b k j : Nat} (hc : c < pq_n p) : sp_mp p D T c (i + 1) b k j ↔ (sp_mp p D T c i b k j ∨ (j = i ∧ sp_mk p D c T i b k)) := by
  constructor
  · rintro (h | ⟨c', h1, h2, h3⟩)
    · exact Or.inl (Or.inl h)
    · by_cases e : c' = c ∧ j = i
      · obtain ⟨rfl, rfl⟩ := e
        exact Or.inr ⟨rfl, h3⟩
      · refine Or.inl (Or.inr ⟨c', h1, ?_, h3⟩)
        rcases h2 with h2 | ⟨h2, h4⟩
        · exact Or.inl h2
        · exact Or.inr ⟨h2, by
            by_cases e3 : j = i
            · exact absurd ⟨h2, e3⟩ e
            · omega⟩
  · rintro ((h | ⟨c', h1, h2, h3⟩) | ⟨rfl, h⟩)
    · exact Or.inl h
    · exact Or.inr ⟨c', h1, by omega, h3⟩
    · exact Or.inr ⟨c, hc, Or.inr ⟨rfl, by omega⟩, h⟩
