/-! AN ELECTION: two passes on both sides -/
set_option maxRecDepth 100000
/-! the bus, said plainly: boards, gate, filter, window, asks; slots, ranks, codes; times, boards, ticks of the asks -/
abbrev ol_Bp : Type := (Nat × Nat × Nat × Nat × Nat) × (Nat → Nat) × (Nat → Nat) × (Nat → Nat) × (Nat → Nat) × (Nat → Nat) × (Nat → Nat)
def pb_n (B : ol_Bp) : Nat := B.1.1
def pb_g (B : ol_Bp) : Nat := B.1.2.1
def pb_f (B : ol_Bp) : Nat := B.1.2.2.1
def pb_w (B : ol_Bp) : Nat := B.1.2.2.2.1
def pb_m (B : ol_Bp) : Nat := B.1.2.2.2.2
def pb_sl (B : ol_Bp) : Nat → Nat := B.2.1
def pb_rk (B : ol_Bp) : Nat → Nat := B.2.2.1
def pb_cd (B : ol_Bp) : Nat → Nat := B.2.2.2.1
def pb_at (B : ol_Bp) : Nat → Nat := B.2.2.2.2.1
def pb_ab (B : ol_Bp) : Nat → Nat := B.2.2.2.2.2.1
def pb_al (B : ol_Bp) : Nat → Nat := B.2.2.2.2.2.2
def pb_ap (B : ol_Bp) (b o : Nat) : Nat := (pb_sl B b - pb_sl B o) + (pb_sl B o - pb_sl B b)
def pb_ok (B : ol_Bp) : Prop := ((1 ≤ pb_n B ∧ pb_n B ≤ 6) ∧ (1 ≤ pb_g B ∧ pb_g B ≤ 3) ∧ pb_f B ≤ 20 ∧ (1 ≤ pb_w B ∧ pb_w B ≤ 200) ∧ pb_m B ≤ 12) ∧ (∀ b, b < pb_n B → pb_sl B b < 10 ∧ pb_rk B b < 8 ∧ 1 ≤ pb_cd B b ∧ pb_cd B b < 32) ∧ (∀ b o, b < pb_n B → o < pb_n B → ¬ b = o → ¬ pb_sl B b = pb_sl B o ∧ ¬ pb_cd B b = pb_cd B o) ∧ (∀ k, k < pb_m B → 1 ≤ pb_at B k ∧ pb_at B k ≤ 999 ∧ pb_ab B k < pb_n B ∧ 1 ≤ pb_al B k ∧ pb_al B k ≤ 99) ∧ ∀ k l, k ≤ l → l < pb_m B → pb_at B k ≤ pb_at B l
def pb_X (B : ol_Bp) (β : ol_Bd) : Prop := (β.1 0 0 = nI (pb_g B) ∧ β.1 0 1 = nI (pb_f B) ∧ β.1 0 2 = nI (pb_w B) ∧ β.1 0 3 = nI (pb_n B) ∧ β.1 0 4 = nI (pb_m B) ∧ pb_n B ≤ β.2.2 0 ∧ pb_m B ≤ β.2.2 1) ∧ (∀ b, b < pb_n B → β.1 1 b = nI (pb_rk B b) ∧ β.1 2 b = nI (pb_sl B b) ∧ β.1 3 b = nI (pb_cd B b)) ∧ ∀ k, k < pb_m B → β.1 4 k = nI (pb_at B k) ∧ β.1 5 k = nI (pb_ab B k) ∧ β.1 6 k = nI (pb_al B k)
def pb_M (B : ol_Bp) (is : Nat → Int32) : Prop := (is 0 = nI (pb_g B) ∧ is 1 = nI (pb_f B) ∧ is 2 = nI (pb_w B) ∧ is 3 = nI (pb_n B) ∧ is 4 = nI (pb_m B)) ∧ (∀ b, b < pb_n B → is (17 + b) = nI (pb_rk B b) ∧ is (5 + b) = nI (pb_sl B b) ∧ is (11 + b) = nI (pb_cd B b)) ∧ ∀ k, k < pb_m B → is (23 + k) = nI (pb_at B k) ∧ is (35 + k) = nI (pb_ab B k) ∧ is (47 + k) = nI (pb_al B k)
theorem pb_far0 : ∀ x, x < 10 → ∀ y, y < 10 → (if 0 ≤ nI x - nI y then nI x - nI y else 0 - (nI x - nI y)) = nI (x - y + (y - x)) ∧ (if 0 ≤ nI x - nI y then some (nI x - nI y) else some (-(nI x - nI y))) = some (nI (x - y + (y - x))) := by decide +kernel
/-- a pass of those in hs by words w, filter f -/
def pe_p (B : ol_Bp) (f : Nat) (ln : Nat → Int32) (hs : Nat → Prop) (w : Nat → Int32) : ol_Pp := (pb_n B, pb_ap B, pb_g B, f, ln, hs, w)
section PE
variable {B : ol_Bp} {β : ol_Bd} {f : Nat} {ln : Nat → Int32} {hs : Nat → Prop} {w : Nat → Int32} {σ : ol_Xm} {τ : ol_Mm} {bp r : Nat}
theorem pe_ok (hB : pb_ok B) (hf : f ≤ 20) (hln : ∀ i, i < 6 → ln i = 0 ∨ ln i = 1 ∨ ln i = 2) (hw : ∀ b, b < pb_n B → hs b → pl_sm6 (w b) ∧ ¬ w b = 0) : pq_ok (pe_p B f ln hs w) := by
  refine ⟨hB.1.1, hB.1.2.1, hf, hln, hw, fun b o hb ho => ?_⟩
  have h1 := (hB.2.1 b hb).1
  have h2 := (hB.2.1 o ho).1
  show pb_ap B b o ≤ 9 ∧ (¬ o = b → 1 ≤ pb_ap B b o) ∧ (o = b → pb_ap B b o = 0)
  unfold pb_ap
  refine ⟨by omega, fun q => ?_, fun q => by rw [q]; omega⟩
  have h3 := (hB.2.2.1 b o hb ho (fun e => q e.symm)).1
  omega
theorem pe_B (hB : pb_ok B) (hX : pb_X B β) : px_B β (pe_p B f ln hs w) := by
  refine ⟨hX.1.2.2.2.1, hX.1.1, hX.1.2.2.2.2.2.1, fun b o hb ho => ?_⟩
  have hb : b < pb_n B := hb
  have ho : o < pb_n B := ho
  have h6 := hB.1.1.2
  unfold ol_far
  rw [pl_nn (n := b) (by omega), pl_nn (n := o) (by omega), (hX.2.1 b hb).2.1, (hX.2.1 o ho).2.1]
  exact (pb_far0 _ (hB.2.1 b hb).1 _ (hB.2.1 o ho).1).1
theorem pe_S (hB : pb_ok B) (hM : pb_M B (τ.1 2)) (hf : τ.1 2 1 = nI f) (hln : ∀ i, i < 6 → τ.1 5 (12 + i) = ln i) : pm_S τ (pe_p B f ln hs w) := by
  refine ⟨hM.1.2.2.2.1, hM.1.1, hf, fun b o hb ho => ?_, hln⟩
  have hb : b < pb_n B := hb
  have ho : o < pb_n B := ho
  have h6 := hB.1.1.2
  unfold oX4_slotsApart
  rw [show (5 : Int32) = nI 5 from rfl, pl_add, pl_add, pl_in (i := 5 + b) (by omega) (by omega), pl_ogt, pl_in (i := 5 + o) (by omega) (by omega), pl_ogt, pl_nn (n := 5 + b) (by omega), pl_nn (n := 5 + o) (by omega), (hM.2.1 b hb).2.1, (hM.2.1 o ho).2.1]
  exact (pb_far0 _ (hB.2.1 b hb).1 _ (hB.2.1 o ho).1).2
/-! the one that is elected -/
def pl_lo (k : Nat) : Nat := if k % 2 = 1 then 0 else if k / 2 % 2 = 1 then 1 else if k / 4 % 2 = 1 then 2 else if k / 8 % 2 = 1 then 3 else if k / 16 % 2 = 1 then 4 else 5
theorem pl_lo1 : ∀ k, k < 64 → ¬ k = 0 → oJ14_numberOfTrailingZeros (nI k) = some (nI (pl_lo k)) ∧ pl_b (nI k) (pl_lo k) = true ∧ pl_lo k < 6 := by decide +kernel
theorem pl_lo2 : ∀ k, k < 64 → ¬ k = 0 → ∀ j, j < 6 → j < pl_lo k → pl_b (nI k) j = false := by decide +kernel
def pe_one (k : Nat) : Int32 := if pl_pc k = 1 then nI (pl_lo k) else -2
theorem pl_eq1 {a : Nat} (h : a < 2147483648) : nI a = 1 ↔ a = 1 := pl_eq (b := 1) h (by omega)
theorem pe_195 {k : Nat} (hk : k < 64) (h0 : ¬ k = 0) (wf : ol_Xm → Nat → Option Int32) (x1 : Int32) : oX3_passes_L195 β bp r wf x1 (nI k) σ = some (pe_one k, σ) := by
  have h7 := pl_pc6 k hk
  unfold oX3_passes_L195 pe_one
  rw [pl_bc hk, Option.bind_some]
  by_cases e : pl_pc k = 1
  · rw [if_pos ((pl_eq1 (by omega)).mpr e), (pl_lo1 k hk h0).1, Option.bind_some, if_pos e]
  · rw [if_neg (fun q => e ((pl_eq1 (by omega)).mp q)), if_neg e]
theorem pe_178z (x1 x2 : Int32) : oX4_elects_L178 x1 x2 ol_fuel 0 0 τ = some (-2, τ) := by
  obtain ⟨n, e⟩ : ∃ m, ol_fuel = m + 1 := ⟨ol_fuel - 1, by unfold ol_fuel; omega⟩
  rw [e, oX4_elects_L178, if_pos rfl, show oX4_bitsOf 0 = some (nI (pl_pc 0)) from pl_bo (by decide), Option.bind_some, if_neg (by decide)]
theorem pe_178 {k : Nat} (hk : k < 64) (h0 : ¬ k = 0) (x1 x2 : Int32) : oX4_elects_L178 x1 x2 ol_fuel (nI k) 0 τ = some (pe_one k, τ) := by
  have h7 := pl_pc6 k hk
  obtain ⟨-, l1, l2⟩ := pl_lo1 k hk h0
  refine pl_for (fun n v (_ : Unit) => oX4_elects_L178 x1 x2 n (nI k) v τ) 6 (fun i _ => i ≤ pl_lo k) (fun z => z = some (pe_one k, τ)) (fun n i s hi hs ih => ?_) ol_fuel 0 () (by omega) (by unfold ol_fuel; omega) (Nat.zero_le _)
  show oX4_elects_L178 x1 x2 (n + 1) (nI k) (nI i) τ = _
  have hs : i ≤ pl_lo k := hs
  rw [oX4_elects_L178, if_neg (fun q => h0 ((pl_eq0 (by omega)).mp q)), pl_hasifM (i := i) (by omega), pl_s]
  by_cases e : i = pl_lo k
  · subst e
    rw [if_pos l1, pl_bo hk, Option.bind_some]
    unfold pe_one
    by_cases e2 : pl_pc k = 1
    · rw [if_pos ((pl_eq1 (by omega)).mpr e2), if_pos e2]
    · rw [if_neg (fun q => e2 ((pl_eq1 (by omega)).mp q)), if_neg e2]
  · rw [pl_lo2 k hk h0 i (by omega) (by omega), if_neg (by decide)]
    exact ih (by omega) () (by omega)
/-- one pass of the system: what it leaves, who wins -/
theorem pe_goX (hB : pb_ok B) (hX : pb_X B β) (hln : ∀ i, i < 6 → ln i = 0 ∨ ln i = 1 ∨ ln i = 2) (hr : ol_isr r) (hl : ∀ i, i < 6 → σ.1 (r + 5) i = ln i) {set : Int32} {wf : ol_Xm → Nat → Option Int32} (hw : ∀ b, b < pb_n B → pl_b set b = true → pl_sm6 (w b) ∧ ¬ w b = 0) (hwf : ∀ (υ : ol_Xm) b, b < pb_n B → pl_b set b = true → (∀ c k, ¬ (2 ≤ c ∧ c ≤ 9) → υ.1 c k = σ.1 c k) → (∀ q, ¬ q = 3 → υ.2.1 q = σ.2.1 q) → wf υ b = some (w b)) : ∃ σ', oX2_goes σ β bp r wf set (β.1 0 2) = some σ' ∧ oX2_winners σ' β bp (β.1 0 2) = some (sp_win (pe_p B (pb_f B) ln (fun b => pl_b set b = true) w) (pb_w B)) ∧ (∀ (υ : ol_Xm), (∀ c k, ¬ c = r → υ.1 c k = σ'.1 c k) → υ.2 = σ'.2 → oX2_isFaulty υ β bp (β.1 0 2) = some (sp_fty (pe_p B (pb_f B) ln (fun b => pl_b set b = true) w) (pb_w B))) ∧ (∀ c k, ¬ (2 ≤ c ∧ c ≤ 9) → σ'.1 c k = σ.1 c k) ∧ (∀ q, ¬ q = 3 → σ'.2.1 q = σ.2.1 q) ∧ σ'.2.2 = σ.2.2 := by
  have hW := hB.1.2.2.2.1
  have hp : pq_ok (pe_p B (pb_f B) ln (fun b => pl_b set b = true) w) := pe_ok hB hB.1.2.2.1 hln hw
  have hb : px_B β (pe_p B (pb_f B) ln (fun b => pl_b set b = true) w) := pe_B hB hX
  obtain ⟨σ', e1, h1⟩ := pg_goes (σ := σ) (bp := bp) (set := set) hp hb (E := pb_w B) (by omega) hr hl (fun b _ => Iff.rfl) hwf
  have hP := h1.2.2.2.2
  refine ⟨σ', ?_, ?_, fun υ g1 g2 => ?_, hP.2.2.2.1, hP.2.2.2.2.1, hP.2.2.2.2.2⟩
  · unfold oX2_goes
    rw [hX.1.2.2.1, hX.1.2.1]
    show (oX2_goes_2 σ β bp r wf set (nI (pb_w B)) (nI (pb_f B))).bind _ = _
    rw [show oX2_goes_2 σ β bp r wf set (nI (pb_w B)) (nI (pb_f B)) = some σ' from e1, Option.bind_some]
  · rw [hX.1.2.2.1]
    exact pq_winX hp hb h1 (Nat.le_refl _) (by omega)
  · have hr9 : ∀ c, (2 ≤ c ∧ c ≤ 9) → ¬ c = r := fun c hc q => by
      rcases hr with h | h | h <;> omega
    have h2 : px_I σ' bp (pe_p B (pb_f B) ln (fun b => pl_b set b = true) w) set (nI (pb_w B)) (pb_w B + 1) 0 0 (fun b k j => sp_dp (pe_p B (pb_f B) ln (fun b => pl_b set b = true) w) (sp_D (pe_p B (pb_f B) ln (fun b => pl_b set b = true) w)) (pb_w B + 1) b k j) (sp_c4 (pe_p B (pb_f B) ln (fun b => pl_b set b = true) w) (sp_D (pe_p B (pb_f B) ln (fun b => pl_b set b = true) w)) (pb_w B + 1)) σ' :=
      ⟨h1.1, h1.2.1, h1.2.2.1, h1.2.2.2.1, hP.1, hP.2.1, hP.2.2.1, fun _ _ _ => rfl, fun _ _ => rfl, rfl⟩
    rw [hX.1.2.2.1]
    refine pq_ftyX (σ0 := υ) (set := set) (cnt := sp_c4 (pe_p B (pb_f B) ln (fun b => pl_b set b = true) w) (sp_D (pe_p B (pb_f B) ln (fun b => pl_b set b = true) w)) (pb_w B + 1)) (Mk := fun b k j => sp_dp (pe_p B (pb_f B) ln (fun b => pl_b set b = true) w) (sp_D (pe_p B (pb_f B) ln (fun b => pl_b set b = true) w)) (pb_w B + 1) b k j) (E := pb_w B) hp hb ?_ (Nat.le_refl _) (by omega)
    have f : ∀ c, (2 ≤ c ∧ c ≤ 9) → υ.1 c = σ'.1 c := fun c hc => funext fun k => g1 c k (hr9 c hc)
    refine ⟨?_, ?_, ?_, ?_, ?_, ?_, hP.2.2.1, fun _ _ _ => rfl, fun _ _ => rfl, rfl⟩
    · rw [f 4 (by omega), f 5 (by omega), f 6 (by omega), f 7 (by omega)]
      exact h1.1
    · rw [f 8 (by omega)]
      exact h1.2.1
    · rw [f 9 (by omega)]
      exact h1.2.2.1
    · rw [f 2 (by omega)]
      exact h1.2.2.2.1
    · rw [f 2 (by omega), g2]
      exact hP.1
    · rw [f 3 (by omega)]
      exact hP.2.1
end PE
