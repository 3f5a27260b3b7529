/-! CALLS, XVI: named, plainly; never, ends -/
set_option maxRecDepth 100000
/-- the first of d from k on whose code it is -/
def ol_fnd (f : Nat → Int32) (x : Int32) : Nat → Nat → Option Nat
  | 0, _ => none
  | d + 1, k => if f k = x then some k else ol_fnd f x d (k + 1)
/-- what the system's named is to compute (its walk: the bus's map holds board b at code b) -/
def oX1_named (σ : ol_Xm) (β : ol_Bd) (x1 : Int32) : Option (Int32 × ol_Xm) := match ol_fnd (β.1 3) x1 (ol_many β) 0 with
  | some b => oX1_fine σ (nI b)
  | none => oX1_refused σ 1
section PNM
variable {K : Nat} {B : ol_Bp} {β : ol_Bd} {bp T U H : Nat} {wt : Nat → Option Nat} {σ σ' : ol_Xm} {τ τ' : ol_Mm}
theorem pn_loop (h : pz_1 K B β bp T U H wt σ τ) (x1 : Int32) : ∀ d k n, d + k = pb_n B → d < n → oX4_named_L18 x1 n (nI k) (pz_m τ 0) = match ol_fnd (β.1 3) x1 d k with | some b => some (nI b, pz_m τ 0) | none => some (-1, ol_ms (pz_m τ 0) 0 1 1) := by
  have h6 := h.2.1.1.1.1.2
  obtain ⟨hB, hX, hM⟩ := h.2.1
  intro d
  induction d with
  | zero =>
    intro k n hk hn
    obtain ⟨n, rfl⟩ : ∃ i, n = i + 1 := ⟨n - 1, by omega⟩
    have e : k = pb_n B := by omega
    rw [oX4_named_L18, pz_m5 0 2 3 (by omega), hM.1.2.2.2.1, e, if_pos (Int32.le_refl _)]
    rfl
  | succ d ih =>
    intro k n hk hn
    obtain ⟨n, rfl⟩ : ∃ i, n = i + 1 := ⟨n - 1, by omega⟩
    have hkn : k < pb_n B := by omega
    have ef : ol_fnd (β.1 3) x1 (d + 1) k = if β.1 3 k = x1 then some k else ol_fnd (β.1 3) x1 d (k + 1) := rfl
    rw [oX4_named_L18, pz_m5 0 2 3 (by omega), hM.1.2.2.2.1, if_neg (fun q => by have := (pl_le (by omega) (by omega)).mp q; omega), show (11 : Int32) = nI 11 from rfl, pl_add, pl_in (i := 11 + k) (n := 59) (by omega) (by omega), pl_ogt, pl_nn (n := 11 + k) (by omega), pz_m5 0 2 _ (by omega), (hM.2.1 k hkn).2.2, ef, (hX.2.1 k hkn).2.2, pl_s k]
    by_cases c : nI (pb_cd B k) = x1
    · rw [if_pos c, if_pos c]
    · rw [if_neg c, if_neg c]
      exact ih (k + 1) n (by omega) (by omega)
theorem pz_named (h : pz_1 K B β bp T U H wt σ τ) (x1 : Int32) : pz_E (K + 1) B β bp (oX1_named σ β x1) (oX4_named τ x1) := by
  have h6 := h.2.1.1.1.1.2
  have hl := pn_loop h x1 (pb_n B) 0 ol_fuel (by omega) (by unfold ol_fuel; omega)
  have em : oX4_named τ x1 = oX4_named_L18 x1 ol_fuel (nI 0) (pz_m τ 0) := by
    unfold oX4_named
    rw [h.1.2.1, pz_unl1, Option.bind_some, pz_ref0, Option.bind_some, if_pos rfl]
    rfl
  have en : ol_many β = pb_n B := by
    unfold ol_many
    rw [h.2.1.2.1.1.2.2.2.1, pl_nn (n := pb_n B) (by omega)]
  rw [em, hl]
  unfold oX1_named
  rw [en]
  cases ol_fnd (β.1 3) x1 (pb_n B) 0 with
  | some b => exact pz_yes0 h (nI b)
  | none =>
    show pz_E (K + 1) B β bp (some (-1, pz_x σ 1)) (some (-1, ol_ms (pz_m τ 0) 0 1 1))
    exact ⟨_, _, _, rfl, rfl, pz_xT 1 (by decide) mx_eq, T, U, H, wt, h.of (pz_FX.rf.end _ _) ((pz_mF 0).w 0 1 1 (by omega))⟩
def onX1_named (σ : ol_Xm) (_x1 : Int32) : Option (Int32 × ol_Xm) := oX1_refused σ 1
theorem pn_named (h : pz_N σ τ) (x1 : Int32) : pz_G (onX1_named σ x1) (oX4_named τ x1) := by
  have em : oX4_named τ x1 = some (-1, pz_m τ 1) := by
    unfold oX4_named
    rw [h.2.1]
    rfl
  rw [show onX1_named σ x1 = some (-1, pz_x σ 1) from rfl, em]
  exact pn_no h (by decide)
/-- never: how it ends; tt: the model's mark that it throws -/
theorem pz_never (hT : pz_T σ τ) (h : pz_1 K B β bp T U H wt σ τ) (hK : K ≤ 24) (x1 : Int32) : ∃ z τ', oX1_never σ β x1 = some z ∧ (match z with | some b => oX4_never τ x1 = some (b, τ') ∧ τ'.1 0 0 = 0 | none => oX4_never τ x1 = some (0, τ') ∧ τ'.1 0 0 = 1) ∧ pz_T σ τ' ∧ pz_B (K + 1) B β bp σ τ' := by
  obtain ⟨z, z1, z2⟩ := pz_never0 h hK x1
  cases z with
  | some b => exact ⟨some b, ol_ms τ 0 0 0, z1, ⟨z2, mx_eq⟩, pz_t0 hT, pz_00 h⟩
  | none => exact ⟨none, ol_ms (ol_ms τ 0 0 0) 0 0 1, z1, ⟨z2, mx_eq⟩, ⟨hT.1, hT.2⟩, T, U, H, wt, h.of pz_FX.rf ((pz_FM.rf.w 0 0 0 (by omega)).w 0 0 1 (by omega))⟩
theorem pn_never (hT : pz_T σ τ) (h : pz_N σ τ) (x1 : Int32) : ∃ τ', oX4_never τ x1 = some (0, τ') ∧ τ'.1 0 0 = 1 ∧ pz_T σ τ' ∧ pz_N σ τ' := by
  obtain ⟨n, en⟩ : ∃ m, ol_fuel = m + 1 := ⟨ol_fuel - 1, by unfold ol_fuel; omega⟩
  refine ⟨ol_ms (ol_ms τ 0 0 0) 0 0 1, ?_, mx_eq, ⟨hT.1, hT.2⟩, h.of pz_FX.rf ((pz_FM.rf.w 0 0 0 (by omega)).w 0 0 1 (by omega))⟩
  unfold oX4_never
  rw [en, oX4_never_L9, mx_nk (by omega), h.2.1, if_pos rfl]
end PNM
