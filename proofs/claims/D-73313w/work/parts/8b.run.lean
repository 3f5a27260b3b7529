/-! A RUN of the system against a row of the model -/
set_option maxRecDepth 100000
/-- the numbers that both keep -/
def pr_E (r : Nat) (σ : ol_Xm) (ρ : Nat → Int32) : Prop := (∀ k, k < 11 → σ.1 r (8 + k) = ρ k) ∧ (∀ i, i < 6 → σ.1 (r + 5) i = ρ (12 + i)) ∧ ∀ b, b < 6 → σ.1 (r + 2) b = ρ (18 + 12 * b) ∧ σ.1 (r + 3) b = ρ (18 + 12 * b + 1) ∧ σ.1 (r + 1) b = ρ (18 + 12 * b + 2) ∧ σ.1 (r + 4) b = ρ (18 + 12 * b + 3) ∧ ∀ k, k < 6 → σ.1 (r + 7) (6 * b + k) = ρ (18 + 12 * b + 6 + k)
/-- what the row bears; T: the time; U: a bound of how often one was master -/
def pv_I (B : ol_Bp) (T U : Nat) (wt : Nat → Option Nat) (ρ : Nat → Int32) : Prop :=
  ρ 0 = nI T ∧ (∃ ma : Option Nat, ρ 1 = pl_en ma ∧ ∀ b, ma = some b → b < pb_n B) ∧ (∃ el : Option Nat, ρ 3 = pl_en el ∧ ∀ b, el = some b → b < pb_n B) ∧
  (pl_sm6 (ρ 5) ∧ (∀ b, b < 32 → pl_b (ρ 5) b = true → b < pb_n B) ∧ (¬ ρ 4 = -2 → ¬ ρ 5 = 0 ∧ ∀ b, b < pb_n B → (pl_b (ρ 5) b = true → pl_sm6 (ρ (18 + 12 * b + 4)) ∧ ¬ ρ (18 + 12 * b + 4) = 0) ∧ ρ (18 + 12 * b + 5) = sp_w2 (pb_cd B) b)) ∧
  (∃ na : Nat, ρ 11 = nI na ∧ na ≤ pb_m B ∧ ∀ k, k < pb_m B → (k < na ↔ pb_at B k ≤ T)) ∧
  (∀ b, b < 6 → (∃ s : Nat, s ≤ T ∧ ρ (18 + 12 * b + 1) = nI s) ∧ (∃ f : Nat, f < 2 ∧ ρ (18 + 12 * b + 2) = nI f) ∧ ρ (18 + 12 * b + 3) = pl_en (wt b) ∧ ∃ t : Nat, t ≤ U ∧ (∀ l, wt (6 + b) = some l → l ≤ t) ∧ ρ (18 + 12 * b + 6) = nI t) ∧
  ∀ i, i < 6 → ρ (12 + i) = 0 ∨ ρ (12 + i) = 1 ∨ ρ (12 + i) = 2
/-- the log, the newest first in the row -/
def pr_L (lg ρ : Nat → Int32) : Prop := ∃ L : Nat, L ≤ 16 ∧ lg 0 = nI L ∧ ρ 90 = nI L ∧ ∀ i k, i < L → k < 6 → lg (1 + 6 * (L - 1 - i) + k) = ρ (91 + 6 * i + k)
/-- masters of the latest ticks, but for the present one -/
def pr_P (r T : Nat) (σ : ol_Xm) (ρ : Nat → Int32) : Prop := ∀ j, j < 64 → (((1 ≤ j ∧ j ≤ T) ∨ 64 ≤ T) ∧ ¬ j = T % 64) → σ.1 (r + 8) j = ρ (187 + j)
def pr_W (B : ol_Bp) (r : Nat) (σ : ol_Xm) (ρ : Nat → Int32) : Prop := ¬ ρ 4 = -2 → ∀ b, b < pb_n B → pl_b (ρ 5) b = true → σ.1 (r + 6) b = ρ (18 + 12 * b + 4)
def pr_R (B : ol_Bp) (bp r T U : Nat) (wt : Nat → Option Nat) (σ : ol_Xm) (ρ : Nat → Int32) : Prop := pr_E r σ ρ ∧ pv_I B T U wt ρ ∧ pr_L (σ.2.2 r) ρ ∧ pr_P r T σ ρ ∧ pr_W B r σ ρ ∧ σ.2.1 r = some bp
section PR
variable {B : ol_Bp} {bp r T U : Nat} {wt : Nat → Option Nat} {σ : ol_Xm} {ρ : Nat → Int32}
theorem pr_ne {j k : Nat} {x : Int32} (h : ¬ j = k) : upd ρ k x j = ρ j := if_neg h
theorem pr_eq {k : Nat} {x : Int32} : upd ρ k x k = x := if_pos rfl
theorem pr_E.sc (h : pr_E r σ ρ) {k : Nat} (hk : k < 11) (x : Int32) : pr_E r (ol_xs σ r (8 + k) x) (upd ρ k x) := by
  refine ⟨fun j hj => ?_, fun i hi => ?_, fun b hb => ?_⟩
  · by_cases e : j = k
    · subst e
      rw [px_eq, pr_eq]
    · rw [px_nk (by omega), pr_ne e]
      exact h.1 j hj
  · rw [px_ne (by omega), pr_ne (by omega)]
    exact h.2.1 i hi
  · obtain ⟨h1, h2, h3, h4, h5⟩ := h.2.2 b hb
    rw [px_ne (by omega), px_ne (by omega), px_ne (by omega), px_ne (by omega), pr_ne (by omega), pr_ne (by omega), pr_ne (by omega), pr_ne (by omega)]
    refine ⟨h1, h2, h3, h4, fun j hj => ?_⟩
    rw [px_ne (by omega), pr_ne (by omega)]
    exact h5 j hj
theorem pr_E.ln (h : pr_E r σ ρ) {k : Nat} (hk : k < 6) (x : Int32) : pr_E r (ol_xs σ (r + 5) k x) (upd ρ (12 + k) x) := by
  refine ⟨fun j hj => ?_, fun i hi => ?_, fun b hb => ?_⟩
  · rw [px_ne (by omega), pr_ne (by omega)]
    exact h.1 j hj
  · by_cases e : i = k
    · subst e
      rw [px_eq, pr_eq]
    · rw [px_nk e, pr_ne (by omega)]
      exact h.2.1 i hi
  · obtain ⟨h1, h2, h3, h4, h5⟩ := h.2.2 b hb
    rw [px_ne (by omega), px_ne (by omega), px_ne (by omega), px_ne (by omega), pr_ne (by omega), pr_ne (by omega), pr_ne (by omega), pr_ne (by omega)]
    refine ⟨h1, h2, h3, h4, fun j hj => ?_⟩
    rw [px_ne (by omega), pr_ne (by omega)]
    exact h5 j hj
/-- a board's number, in one of four places -/
theorem pr_E.bd (h : pr_E r σ ρ) {c b : Nat} (hb : b < 6) (q : Nat) (hq : (q = 0 ∧ c = 2) ∨ (q = 1 ∧ c = 3) ∨ (q = 2 ∧ c = 1) ∨ (q = 3 ∧ c = 4)) (x : Int32) : pr_E r (ol_xs σ (r + c) b x) (upd ρ (18 + 12 * b + q) x) := by
  refine ⟨fun j hj => ?_, fun i hi => ?_, fun b' hb' => ?_⟩
  · rw [px_ne (by omega), pr_ne (by omega)]
    exact h.1 j hj
  · rw [px_ne (by omega), pr_ne (by omega)]
    exact h.2.1 i hi
  · obtain ⟨h1, h2, h3, h4, h5⟩ := h.2.2 b' hb'
    have g : ∀ (q' c' : Nat), (q' = 0 ∧ c' = 2) ∨ (q' = 1 ∧ c' = 3) ∨ (q' = 2 ∧ c' = 1) ∨ (q' = 3 ∧ c' = 4) → σ.1 (r + c') b' = ρ (18 + 12 * b' + q') → (ol_xs σ (r + c) b x).1 (r + c') b' = upd ρ (18 + 12 * b + q) x (18 + 12 * b' + q') := fun q' c' hq' e => by
      rw [pl_xs]
      by_cases g1 : r + c' = r + c ∧ b' = b
      · rw [if_pos g1, show 18 + 12 * b' + q' = 18 + 12 * b + q by omega, pr_eq]
      · rw [if_neg g1, pr_ne (by omega)]
        exact e
    refine ⟨g 0 2 (by omega) h1, g 1 3 (by omega) h2, g 2 1 (by omega) h3, g 3 4 (by omega) h4, fun j hj => ?_⟩
    rw [px_ne (by omega), pr_ne (by omega)]
    exact h5 j hj
theorem pr_E.ld (h : pr_E r σ ρ) {b k : Nat} (hb : b < 6) (hk : k < 6) (x : Int32) : pr_E r (ol_xs σ (r + 7) (6 * b + k) x) (upd ρ (18 + 12 * b + 6 + k) x) := by
  refine ⟨fun j hj => ?_, fun i hi => ?_, fun b' hb' => ?_⟩
  · rw [px_ne (by omega), pr_ne (by omega)]
    exact h.1 j hj
  · rw [px_ne (by omega), pr_ne (by omega)]
    exact h.2.1 i hi
  · obtain ⟨h1, h2, h3, h4, h5⟩ := h.2.2 b' hb'
    rw [px_ne (by omega), px_ne (by omega), px_ne (by omega), px_ne (by omega), pr_ne (by omega), pr_ne (by omega), pr_ne (by omega), pr_ne (by omega)]
    refine ⟨h1, h2, h3, h4, fun j hj => ?_⟩
    by_cases e : 6 * b' + j = 6 * b + k
    · have e1 : b' = b := by omega
      have e2 : j = k := by omega
      subst e1; subst e2
      rw [px_eq, pr_eq]
    · rw [px_nk e, pr_ne (by omega)]
      exact h5 j hj
/-- places of the row that the run keeps elsewhere -/
theorem pr_E.of (h : pr_E r σ ρ) {ρ' : Nat → Int32} (e : ∀ j, j < 90 → ¬ j = 11 → (∀ b, b < 6 → ¬ j = 18 + 12 * b + 4 ∧ ¬ j = 18 + 12 * b + 5) → ρ' j = ρ j) : pr_E r σ ρ' := by
  refine ⟨fun j hj => (h.1 j hj).trans (e j (by omega) (by omega) fun b hb => by omega).symm, fun i hi => (h.2.1 i hi).trans (e _ (by omega) (by omega) fun b hb => by omega).symm, fun b hb => ?_⟩
  obtain ⟨h1, h2, h3, h4, h5⟩ := h.2.2 b hb
  exact ⟨h1.trans (e _ (by omega) (by omega) fun b hb => by omega).symm, h2.trans (e _ (by omega) (by omega) fun b hb => by omega).symm, h3.trans (e _ (by omega) (by omega) fun b hb => by omega).symm, h4.trans (e _ (by omega) (by omega) fun b hb => by omega).symm, fun k hk => (h5 k hk).trans (e _ (by omega) (by omega) fun b hb => by omega).symm⟩
/-- another state of the system that has the same run -/
theorem pr_E.ofX {σ' : ol_Xm} (h : pr_E r σ ρ) (e : ∀ c k, r ≤ c → c ≤ r + 7 → ¬ c = r + 6 → (c = r → 8 ≤ k ∧ k < 19) → σ'.1 c k = σ.1 c k) : pr_E r σ' ρ := by
  refine ⟨fun j hj => (e r (8 + j) (by omega) (by omega) (by omega) fun _ => by omega).trans (h.1 j hj), fun i hi => (e _ _ (by omega) (by omega) (by omega) fun _ => by omega).trans (h.2.1 i hi), fun b hb => ?_⟩
  obtain ⟨h1, h2, h3, h4, h5⟩ := h.2.2 b hb
  exact ⟨(e _ _ (by omega) (by omega) (by omega) fun _ => by omega).trans h1, (e _ _ (by omega) (by omega) (by omega) fun _ => by omega).trans h2, (e _ _ (by omega) (by omega) (by omega) fun _ => by omega).trans h3, (e _ _ (by omega) (by omega) (by omega) fun _ => by omega).trans h4, fun k hk => (e _ _ (by omega) (by omega) (by omega) fun _ => by omega).trans (h5 k hk)⟩
theorem pr_en2 {o : Option Nat} {n : Nat} (h : ∀ b, o = some b → b < n) (hn : n ≤ 6) : pl_en o = -2 ↔ o = none := pl_en2 fun l hl => Nat.lt_of_lt_of_le (h l hl) hn
/-- what the words and ranks need -/
theorem pr_X {β : ol_Bd} (hB : pb_ok B) (hX : pb_X B β) (h : pr_R B bp r T U wt σ ρ) : ∃ fr : Nat → Nat, pw_X σ β bp r (pb_n B) wt (pb_rk B) fr (pb_cd B) ∧ pw_b (pb_n B) (pb_rk B) fr (pb_cd B) ∧ ∀ b, b < 6 → ρ (18 + 12 * b + 2) = nI (fr b) := by
  obtain ⟨hE, hI, -, -, -, hbus⟩ := h
  have h6 := hB.1.1.2
  have hf := hI.2.2.2.2.2.1
  refine ⟨fun b => (ρ (18 + 12 * b + 2)).toNatClampNeg, ⟨⟨hbus, hX.1.2.2.2.1, h6, hX.1.2.2.2.2.2.1⟩, fun b hb => ?_⟩, fun b hb => ?_, fun b hb => ?_⟩
  · obtain ⟨-, -, e3, e4, -⟩ := hE.2.2 b (by omega)
    obtain ⟨-, ⟨f, f1, f2⟩, f3, -⟩ := hf b (by omega)
    exact ⟨e4.trans f3, (hX.2.1 b hb).1, e3.trans (by
      show ρ (18 + 12 * b + 2) = nI (ρ (18 + 12 * b + 2)).toNatClampNeg
      rw [f2, pl_nn (n := f) (by omega)]), (hX.2.1 b hb).2.2⟩
  · obtain ⟨-, ⟨f, f1, f2⟩, -, -⟩ := hf b (by omega)
    refine ⟨(hB.2.1 b hb).2.1, ?_, (hB.2.1 b hb).2.2.2⟩
    show (ρ (18 + 12 * b + 2)).toNatClampNeg < 2
    rw [f2, pl_nn (n := f) (by omega)]
    exact f1
  · obtain ⟨-, ⟨f, f1, f2⟩, -, -⟩ := hf b hb
    show ρ (18 + 12 * b + 2) = nI (ρ (18 + 12 * b + 2)).toNatClampNeg
    rw [f2, pl_nn (n := f) (by omega)]
theorem pr_M {τ : ol_Mm} (hB : pb_ok B) (hM : pb_M B (τ.1 2)) (hI : pv_I B T U wt (τ.1 5)) {fr : Nat → Nat} (hf : ∀ b, b < 6 → τ.1 5 (18 + 12 * b + 2) = nI (fr b)) : pw_M τ (pb_n B) wt (pb_rk B) fr (pb_cd B) := by
  have h6 := hB.1.1.2
  refine ⟨⟨hM.1.2.2.2.1, h6⟩, fun b hb => ?_⟩
  obtain ⟨-, -, f3, -⟩ := hI.2.2.2.2.2.1 b (by omega)
  exact ⟨f3, (hM.2.1 b hb).1, hf b (by omega), (hM.2.1 b hb).2.2⟩
end PR
