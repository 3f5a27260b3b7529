/-! THE TWO STATES, as one finds them between two calls -/
set_option maxRecDepth 100000
def pz_fr (ρ : Nat → Int32) (b : Nat) : Nat := if b < 6 then (ρ (18 + 12 * b + 2)).toNatClampNeg else 0
def pz_ln (ρ : Nat → Int32) (i : Nat) : Int32 := if i < 6 then ρ (12 + i) else 0
noncomputable def pz_w (B : ol_Bp) (wt : Nat → Option Nat) (H : Nat) (ρ : Nat → Int32) (ps : Int32) (b : Nat) : Int32 := if ps = 1 then sp_w1 (pb_n B) wt (pb_rk B) (pz_fr ρ) H b else sp_w2 (pb_cd B) b
noncomputable def pz_p (B : ol_Bp) (wt : Nat → Option Nat) (H : Nat) (ρ : Nat → Int32) (f : Nat) (ps set : Int32) : ol_Pp := pe_p B f (pz_ln ρ) (fun b => pl_b set b = true) (pz_w B wt H ρ ps)
/-- a pass of run 10 that goes to the end -/
def pz_L (B : ol_Bp) (bp : Nat) (wt : Nat → Option Nat) (H : Nat) (ρ : Nat → Int32) (f : Nat) (ps set : Int32) (σ : ol_Xm) : Prop :=
  px_I σ bp (pz_p B wt H ρ f ps set) set (nI 400) 401 0 0 (fun b k j => sp_dp (pz_p B wt H ρ f ps set) (sp_D (pz_p B wt H ρ f ps set)) 401 b k j) (sp_c4 (pz_p B wt H ρ f ps set) (sp_D (pz_p B wt H ρ f ps set)) 401) σ
/-- the pass that is laid -/
def pz_C (B : ol_Bp) (bp : Nat) (wt : Nat → Option Nat) (H : Nat) (σ : ol_Xm) (ρ : Nat → Int32) : Prop :=
  σ.1 0 11 = -1 ∨ ((σ.1 0 11 = 1 ∨ σ.1 0 11 = 2) ∧ pz_L B bp wt H ρ (pb_f B) (σ.1 0 11) (σ.1 0 12) σ)
/-- what does not know of a bus -/
def pz_0 (σ : ol_Xm) (τ : ol_Mm) : Prop := (∃ tp : Nat, tp ≤ 700 ∧ σ.1 0 4 = nI tp ∧ τ.1 0 5 = nI tp) ∧ (∀ j, j < 700 → σ.1 1 j &&& 255 = τ.1 1 j) ∧ σ.1 0 5 = τ.1 0 2 ∧ σ.1 0 10 = τ.1 0 21 ∧ (τ.1 0 21 = 0 ∨ τ.1 0 21 = 1)
/-- a bus is told, K calls were made -/
def pz_1 (K : Nat) (B : ol_Bp) (β : ol_Bd) (bp T U H : Nat) (wt : Nat → Option Nat) (σ : ol_Xm) (τ : ol_Mm) : Prop :=
  (pz_0 σ τ ∧ τ.1 0 9 = 1 ∧ T ≤ 1000 * K ∧ U ≤ 1000 * K + 1 ∧ H ≤ 2 ^ K) ∧ (pb_ok B ∧ pb_X B β ∧ pb_M B (τ.1 2)) ∧ (∃ h, pw_H (pb_n B) wt h H) ∧ pr_R B bp 10 T U wt σ (τ.1 5) ∧ pr_N 10 T σ (τ.1 5) ∧ pz_C B bp wt H σ (τ.1 5) ∧
  (τ.1 0 21 = 1 → ∃ (T' U' H' : Nat) (wt' : Nat → Option Nat), (T' ≤ 1000 * K ∧ U' ≤ 1000 * K + 1 ∧ H' ≤ 2 ^ K) ∧ (∃ h, pw_H (pb_n B) wt' h H') ∧ pr_R B bp 19 T' U' wt' σ (τ.1 7) ∧ pr_N 19 T' σ (τ.1 7))
def pz_B (K : Nat) (B : ol_Bp) (β : ol_Bd) (bp : Nat) (σ : ol_Xm) (τ : ol_Mm) : Prop := ∃ T U H wt, pz_1 K B β bp T U H wt σ τ
/-- no bus is told -/
def pz_N (σ : ol_Xm) (τ : ol_Mm) : Prop := pz_0 σ τ ∧ τ.1 0 9 = 0 ∧ τ.1 0 21 = 0 ∧ σ.1 0 11 = -1 ∧ ∀ i, i < 6 → σ.1 15 i = 0 ∧ τ.1 5 (12 + i) = 0
def pz_T (σ : ol_Xm) (τ : ol_Mm) : Prop := σ.1 0 1 = τ.1 0 1 ∧ σ.1 0 2 = if τ.1 0 1 = 4 then τ.1 0 3 else -1
def pz_FX (σ σ' : ol_Xm) : Prop := (∀ c k, ¬ (c = 0 ∧ (k = 1 ∨ k = 2)) → ¬ (28 ≤ c ∧ c ≤ 36) → σ'.1 c k = σ.1 c k) ∧ (∀ q, ¬ q = 28 → σ'.2.1 q = σ.2.1 q) ∧ ∀ q, ¬ q = 28 → σ'.2.2 q = σ.2.2 q
def pz_FM (τ τ' : ol_Mm) : Prop := (∀ k, (k = 2 ∨ k = 5 ∨ k = 9 ∨ k = 21) → τ'.1 0 k = τ.1 0 k) ∧ τ'.1 1 = τ.1 1 ∧ τ'.1 2 = τ.1 2 ∧ τ'.1 5 = τ.1 5 ∧ τ'.1 7 = τ.1 7
section PZ
variable {K : Nat} {B : ol_Bp} {β : ol_Bd} {bp T U H : Nat} {wt : Nat → Option Nat} {σ σ' σ'' : ol_Xm} {τ τ' τ'' : ol_Mm} {ρ : Nat → Int32} {f : Nat} {ps set : Int32}
theorem pz_FX.rf : pz_FX σ σ := ⟨fun _ _ _ _ => rfl, fun _ _ => rfl, fun _ _ => rfl⟩
theorem pz_FX.tr (h1 : pz_FX σ σ') (h2 : pz_FX σ' σ'') : pz_FX σ σ'' := ⟨fun c k a b => (h2.1 c k a b).trans (h1.1 c k a b), fun q hq => (h2.2.1 q hq).trans (h1.2.1 q hq), fun q hq => (h2.2.2 q hq).trans (h1.2.2 q hq)⟩
theorem pz_FX.end (h : pz_FX σ σ') (x y : Int32) : pz_FX σ (ol_xs (ol_xs σ' 0 1 x) 0 2 y) := ⟨fun c k a b => by
  rw [pl_xs, if_neg (fun q => a (by omega)), pl_xs, if_neg (fun q => a (by omega))]
  exact h.1 c k a b, h.2⟩
theorem pz_FM.rf : pz_FM τ τ := ⟨fun _ _ => rfl, rfl, rfl, rfl, rfl⟩
theorem pz_FM.tr (h1 : pz_FM τ τ') (h2 : pz_FM τ' τ'') : pz_FM τ τ'' := ⟨fun k hk => (h2.1 k hk).trans (h1.1 k hk), h2.2.1.trans h1.2.1, h2.2.2.1.trans h1.2.2.1, h2.2.2.2.1.trans h1.2.2.2.1, h2.2.2.2.2.trans h1.2.2.2.2⟩
theorem pz_FM.w (h : pz_FM τ τ') (c k : Nat) (x : Int32) (hc : (c = 0 ∧ ¬ k = 2 ∧ ¬ k = 5 ∧ ¬ k = 9 ∧ ¬ k = 21) ∨ c = 3 ∨ c = 4 ∨ c = 6 ∨ 8 ≤ c) : pz_FM τ (ol_ms τ' c k x) := by
  refine h.tr ⟨fun i hi => ?_, ?_, ?_, ?_, ?_⟩
  · rw [pl_ms, if_neg (fun q => by omega)]
  all_goals exact funext fun i => mx_ne (by omega)
theorem pe_G.z (h : pe_G τ τ') : pz_FM τ τ' := ⟨fun k hk => h.1 0 k (by omega) (by omega), funext fun k => h.1 1 k (by omega) (by omega), funext fun k => h.1 2 k (by omega) (by omega), funext fun k => h.1 5 k (by omega) (by omega), funext fun k => h.1 7 k (by omega) (by omega)⟩
theorem pz_L.ofX (h : pz_L B bp wt H ρ f ps set σ) (e : ∀ c k, 2 ≤ c → c ≤ 9 → σ'.1 c k = σ.1 c k) (e3 : σ'.2.1 3 = σ.2.1 3) : pz_L B bp wt H ρ f ps set σ' := by
  obtain ⟨h1, h2, h3, h4, h5, h6, h7, -⟩ := h
  have g : ∀ c, (2 ≤ c ∧ c ≤ 9) → σ'.1 c = σ.1 c := fun c hc => funext fun k => e c k hc.1 hc.2
  refine ⟨?_, ?_, ?_, ?_, ?_, ?_, h7, fun _ _ _ => rfl, fun _ _ => rfl, rfl⟩
  · rw [g 4 (by omega), g 5 (by omega), g 6 (by omega), g 7 (by omega)]
    exact h1
  · rw [g 8 (by omega)]
    exact h2
  · rw [g 9 (by omega)]
    exact h3
  · rw [g 2 (by omega)]
    exact h4
  · rw [g 2 (by omega), e3]
    exact h5
  · rw [g 3 (by omega)]
    exact h6
theorem pz_C.ofX (h : pz_C B bp wt H σ ρ) (e : ∀ c k, 2 ≤ c → c ≤ 9 → σ'.1 c k = σ.1 c k) (e1 : σ'.1 0 11 = σ.1 0 11) (e2 : σ'.1 0 12 = σ.1 0 12) (e3 : σ'.2.1 3 = σ.2.1 3) : pz_C B bp wt H σ' ρ := by
  rcases h with h | ⟨h1, h2⟩
  · exact Or.inl (e1.trans h)
  · refine Or.inr ⟨by rw [e1]; exact h1, ?_⟩
    rw [e1, e2]
    exact h2.ofX e e3
theorem pz_0.of (h : pz_0 σ τ) (hx : ∀ c k, (c = 0 ∧ (k = 4 ∨ k = 5 ∨ k = 10)) ∨ c = 1 → σ'.1 c k = σ.1 c k) (hm : pz_FM τ τ') : pz_0 σ' τ' := by
  obtain ⟨h1, h2, h3, h4, h5⟩ := h
  obtain ⟨m1, m2, -⟩ := hm
  refine ⟨?_, fun j hj => ?_, ?_, ?_, ?_⟩
  · rw [hx 0 4 (by omega), m1 5 (by omega)]
    exact h1
  · rw [hx 1 j (by omega), m2]
    exact h2 j hj
  · rw [hx 0 5 (by omega), m1 2 (by omega)]
    exact h3
  · rw [hx 0 10 (by omega), m1 21 (by omega)]
    exact h4
  · rw [m1 21 (by omega)]
    exact h5
theorem pz_1.of (h : pz_1 K B β bp T U H wt σ τ) (hx : pz_FX σ σ') (hm : pz_FM τ τ') : pz_1 (K + 1) B β bp T U H wt σ' τ' := by
  obtain ⟨⟨h0, h9, k1, k2, k3⟩, ⟨b1, b2, b3⟩, hw, hR, hN, hC, hK⟩ := h
  have p2 : (2 : Nat) ^ (K + 1) = 2 * 2 ^ K := by rw [Nat.pow_succ]; omega
  obtain ⟨m1, m2, m3, m4, m5⟩ := hm
  obtain ⟨x1, x2, x3⟩ := hx
  refine ⟨⟨h0.of (fun c k hc => x1 c k (by omega) (by omega)) ⟨m1, m2, m3, m4, m5⟩, (m1 9 (by omega)).trans h9, by omega, by omega, by omega⟩, ⟨b1, b2, by rw [m3]; exact b3⟩, hw, ?_, ?_, ?_, fun q => ?_⟩
  · rw [m4]
    exact hR.ofX (fun c k g1 g2 _ => x1 c k (by omega) (by omega)) (x2 10 (by omega)) (x3 10 (by omega))
  · rw [m4]
    exact hN.ofX fun k => x1 _ k (by omega) (by omega)
  · rw [m4]
    exact hC.ofX (fun c k g1 g2 => x1 c k (by omega) (by omega)) (x1 0 11 (by omega) (by omega)) (x1 0 12 (by omega) (by omega)) (x2 3 (by omega))
  · rw [m1 21 (by omega)] at q
    obtain ⟨T', U', H', wt', g1, g2, g3, g4⟩ := hK q
    rw [m5]
    exact ⟨T', U', H', wt', by omega, g2, g3.ofX (fun c k g1 g2 _ => x1 c k (by omega) (by omega)) (x2 19 (by omega)) (x3 19 (by omega)), g4.ofX fun k => x1 _ k (by omega) (by omega)⟩
/-- the model's answer that it is refused, or that it isn't -/
def pz_m (τ : ol_Mm) (w : Int32) : ol_Mm := ol_ms (ol_ms (ol_ms τ 0 0 0) 0 3 (-1)) 0 1 w
def pz_x (σ : ol_Xm) (w : Int32) : ol_Xm := ol_xs (ol_xs σ 0 1 w) 0 2 (-1)
theorem pz_mF (w : Int32) : pz_FM τ (pz_m τ w) := ((pz_FM.rf.w 0 0 0 (by omega)).w 0 3 (-1) (by omega)).w 0 1 w (by omega)
theorem pz_m5 (w : Int32) (c k : Nat) (hc : ¬ c = 0) : (pz_m τ w).1 c k = τ.1 c k := by
  unfold pz_m
  rw [mx_ne hc, mx_ne hc, mx_ne hc]
theorem pz_mi (w : Int32) (k : Nat) (hk : ¬ k = 0 ∧ ¬ k = 1 ∧ ¬ k = 3) : (pz_m τ w).1 0 k = τ.1 0 k := by
  unfold pz_m
  rw [mx_nk hk.2.1, mx_nk hk.2.2, mx_nk hk.1]
theorem pz_end {w : Int32} (hw : ¬ w = 4) (hx : σ'.1 0 1 = w) (hx2 : σ'.1 0 2 = -1) (hm : τ'.1 0 1 = w) : pz_T σ' τ' := by
  refine ⟨hx.trans hm.symm, ?_⟩
  rw [hm, if_neg hw]
  exact hx2
theorem pz_xT (w : Int32) (hw : ¬ w = 4) (hm : τ'.1 0 1 = w) : pz_T (pz_x σ w) τ' := pz_end hw ((px_nk (by decide)).trans px_eq) px_eq hm
/-- how a call may end -/
def pz_E (K : Nat) (B : ol_Bp) (β : ol_Bd) (bp : Nat) (x : Option (Int32 × ol_Xm)) (m : Option (Int32 × ol_Mm)) : Prop := ∃ z σ' τ', x = some (z, σ') ∧ m = some (z, τ') ∧ pz_T σ' τ' ∧ pz_B K B β bp σ' τ'
theorem pz_ref0 : oX4_isRefused τ 0 = some (0, pz_m τ 0) := by
  unfold oX4_isRefused
  rw [if_pos rfl]
  rfl
theorem pz_ref1 {w : Int32} (hw : ¬ w = 0) : oX4_isRefused τ w = some (1, pz_m τ w) := by
  unfold oX4_isRefused
  rw [if_neg hw]
  rfl
/-- refused -/
theorem pz_no (h : pz_1 K B β bp T U H wt σ τ) {w : Int32} (hw : ¬ w = 4) : pz_E (K + 1) B β bp (some (-1, pz_x σ w)) (some (-1, pz_m τ w)) :=
  ⟨-1, _, _, rfl, rfl, pz_xT w hw mx_eq, T, U, H, wt, h.of (pz_FX.rf.end _ _) (pz_mF w)⟩
/-- answered -/
theorem pz_yes (h : pz_1 K B β bp T U H wt σ τ) (hx : pz_FX σ σ') (hm : pz_FM (pz_m τ 0) τ') (h1 : τ'.1 0 1 = 0) (z : Int32) : pz_E (K + 1) B β bp (some (z, pz_x σ' 0)) (some (z, τ')) :=
  ⟨z, _, _, rfl, rfl, pz_xT 0 (by decide) h1, T, U, H, wt, h.of (hx.end _ _) ((pz_mF 0).tr hm)⟩
theorem pz_yes0 (h : pz_1 K B β bp T U H wt σ τ) (z : Int32) : pz_E (K + 1) B β bp (some (z, pz_x σ 0)) (some (z, pz_m τ 0)) := pz_yes h pz_FX.rf pz_FM.rf mx_eq z
theorem pz_isIn (x y z : Int32) : oX1_isIn x y z = some (if x < y then 0 else if z < x then 0 else 1) ∧ oX4_in x y z = some (if x < y then 0 else if z < x then 0 else 1) := by
  unfold oX1_isIn oX4_in
  by_cases h1 : x < y
  · have h2 : ¬ y ≤ x := Int32.not_le.mpr h1
    simp [h1, h2, ol_og, ol_zb]
  · have h2 : y ≤ x := Int32.not_lt.mp h1
    by_cases h3 : z < x
    · have h4 : ¬ x ≤ z := Int32.not_le.mpr h3
      simp [h1, h2, h3, h4, ol_og, ol_zb]
    · have h4 : x ≤ z := Int32.not_lt.mp h3
      simp [h1, h2, h3, h4, ol_og, ol_zb]
end PZ
