/-! STEPS of a run, IX: many ticks; a run, a row laid aside -/
set_option maxRecDepth 100000
def pt_nX (β : ol_Bd) (bp r : Nat) : Nat → ol_Xm → Option ol_Xm
  | 0, σ => some σ
  | k + 1, σ => (oX3_tick σ β bp r).bind fun y => pt_nX β bp r k y
def pt_nM : Nat → ol_Mm → Option ol_Mm
  | 0, σ => some σ
  | k + 1, σ => (oX4_tick σ).bind fun y => pt_nM k y
section PCP
variable {B : ol_Bp} {β : ol_Bd} {bp r r1 T U H : Nat} {wt : Nat → Option Nat} {h : Nat → Nat} {σ σ' σ'' : ol_Xm} {ρ ρ' : Nat → Int32} {τ τ' τ'' : ol_Mm}
theorem pt_G.m2 (hG : pt_G τ τ') : τ'.1 2 = τ.1 2 := funext fun k => hG.1 2 k (by omega) (by omega) (by omega)
theorem pt_n (hB : pb_ok B) (hX : pb_X B β) (hH : pw_H (pb_n B) wt h H) (hF : H < ol_fuel) (hr : ol_isr r) : ∀ k T U σ τ, T + k < 1000000 → pb_M B (τ.1 2) → pr_R B bp r T U wt σ (τ.1 5) → pr_N r T σ (τ.1 5) → ∃ σ' τ', pt_nX β bp r k σ = some σ' ∧ pt_nM k τ = some τ' ∧ pr_R B bp r (T + k) (U + k) wt σ' (τ'.1 5) ∧ pr_N r (T + k) σ' (τ'.1 5) ∧ pt_F r σ σ' ∧ pt_G τ τ' := by
  intro k
  induction k with
  | zero => exact fun T U σ τ _ _ hR hN => ⟨σ, τ, rfl, rfl, hR, hN, pt_F.rf, pt_G.rf⟩
  | succ k ih =>
    intro T U σ τ hT hM hR hN
    obtain ⟨σ1, τ1, a1, a2, a3, a4, a5, a6⟩ := pr_tick hB hX hM hH hF hr (by omega) hR hN
    obtain ⟨σ', τ', b1, b2, b3, b4, b5, b6⟩ := ih (T + 1) (U + 1) σ1 τ1 (by omega) (by rw [a6.m2]; exact hM) a3 a4
    refine ⟨σ', τ', ?_, ?_, ?_, ?_, a5.tr b5, a6.tr b6⟩
    · show (oX3_tick σ β bp r).bind _ = _
      rw [a1]
      exact b1
    · show (oX4_tick τ).bind _ = _
      rw [a2]
      exact b2
    · rw [show T + (k + 1) = T + 1 + k by omega, show U + (k + 1) = U + 1 + k by omega]
      exact b3
    · rw [show T + (k + 1) = T + 1 + k by omega]
      exact b4
theorem pt_goes {k N : Nat} (hk : k ≤ N) (hN : N < 2147483648) : oX3_goes σ β bp r N (nI k) = pt_nX β bp r k σ := by
  have g : ∀ d v n s, d + v = k → d < n → oX3_goes_L2 β bp r N (nI k) n (nI v) s = pt_nX β bp r d s := by
    intro d
    induction d with
    | zero =>
      intro v n s hv hn
      obtain ⟨n, rfl⟩ : ∃ m, n = m + 1 := ⟨n - 1, by omega⟩
      have e : v = k := by omega
      subst e
      rw [oX3_goes_L2, if_pos (Int32.le_refl _)]
      rfl
    | succ d ih =>
      intro v n s hv hn
      obtain ⟨n, rfl⟩ : ∃ m, n = m + 1 := ⟨n - 1, by omega⟩
      rw [oX3_goes_L2, if_neg (fun q => by have := (pl_le (by omega) (by omega)).mp q; omega), pl_s]
      exact congrArg _ (funext fun y => ih (v + 1) n y (by omega) (by omega))
  exact g k 0 (N + 1) σ (by omega) (by omega)
theorem pt_ticksM {k : Nat} (hk : k < 2147483648) : oX4_ticks_L38 (nI k) ol_fuel 0 τ = (pt_nM k τ).bind fun y => some (y.1 5 1, y) := by
  have g : ∀ d v n s, d + v = k → d < n → oX4_ticks_L38 (nI k) n (nI v) s = (pt_nM d s).bind fun y => some (y.1 5 1, y) := by
    intro d
    induction d with
    | zero =>
      intro v n s hv hn
      obtain ⟨n, rfl⟩ : ∃ m, n = m + 1 := ⟨n - 1, by omega⟩
      have e : v = k := by omega
      subst e
      rw [oX4_ticks_L38, if_pos (Int32.le_refl _)]
      rfl
    | succ d ih =>
      intro v n s hv hn
      obtain ⟨n, rfl⟩ : ∃ m, n = m + 1 := ⟨n - 1, by omega⟩
      rw [oX4_ticks_L38, if_neg (fun q => by have := (pl_le (by omega) (by omega)).mp q; omega), pl_s]
      show _ = Option.bind ((oX4_tick s).bind fun y => pt_nM d y) _
      rw [Option.bind_assoc]
      exact congrArg _ (funext fun y => ih (v + 1) n y (by omega) (by omega))
  exact g k 0 ol_fuel τ (by omega) (by unfold ol_fuel; omega)
theorem pt_willM {k : Nat} (x2 : Int32) (hk : k < 2147483648) : oX4_will_L52 (nI k) x2 ol_fuel 0 τ = (pt_nM k τ).bind fun σ => ((oX4_told σ x2).bind fun y1 => ((oX4_takesBack σ).bind fun y3 => some (y1, y3))) := by
  have g : ∀ d v n s, d + v = k → d < n → oX4_will_L52 (nI k) x2 n (nI v) s = (pt_nM d s).bind fun σ => ((oX4_told σ x2).bind fun y1 => ((oX4_takesBack σ).bind fun y3 => some (y1, y3))) := by
    intro d
    induction d with
    | zero =>
      intro v n s hv hn
      obtain ⟨n, rfl⟩ : ∃ m, n = m + 1 := ⟨n - 1, by omega⟩
      have e : v = k := by omega
      subst e
      rw [oX4_will_L52, if_pos (Int32.le_refl _)]
      rfl
    | succ d ih =>
      intro v n s hv hn
      obtain ⟨n, rfl⟩ : ∃ m, n = m + 1 := ⟨n - 1, by omega⟩
      rw [oX4_will_L52, if_neg (fun q => by have := (pl_le (by omega) (by omega)).mp q; omega), pl_s]
      show _ = Option.bind ((oX4_tick s).bind fun y => pt_nM d y) _
      rw [Option.bind_assoc]
      exact congrArg _ (funext fun y => ih (v + 1) n y (by omega) (by omega))
  exact g k 0 ol_fuel τ (by omega) (by unfold ol_fuel; omega)
/-! rows of the model laid aside -/
def pc_M (c0 c1 : Nat) (τ τ' : ol_Mm) : Prop := (∀ k, k < 251 → τ'.1 c1 k = τ.1 c0 k) ∧ (∀ c k, ¬ c = c1 → τ'.1 c k = τ.1 c k) ∧ τ'.2 = τ.2
theorem pc_for (c0 c1 : Nat) (hc : ¬ c0 = c1) {R : Type} (L : Nat → Int32 → ol_Mm → R) (Q : R → Prop) (hend : ∀ n s, pc_M c0 c1 τ s → Q (L (n + 1) (nI 251) s)) (hst : ∀ n k s, k < 251 → L (n + 1) (nI k) s = L n (nI k + 1) (ol_ms s c1 k (s.1 c0 k))) : Q (L ol_fuel 0 τ) := by
  refine pl_for L 251 (fun k s => (∀ j, j < k → s.1 c1 j = τ.1 c0 j) ∧ (∀ c k, ¬ c = c1 → s.1 c k = τ.1 c k) ∧ s.2 = τ.2) Q (fun n k s hk hs ih => ?_) ol_fuel 0 τ (by omega) (by unfold ol_fuel; omega) ⟨fun j q => by omega, fun _ _ _ => rfl, rfl⟩
  obtain ⟨s1, s2, s3⟩ := hs
  by_cases hk2 : k < 251
  · rw [hst n k s hk2, pl_s]
    refine ih hk2 _ ⟨fun j hj => ?_, fun c j hc => (mx_ne hc).trans (s2 c j hc), s3⟩
    by_cases e : j = k
    · rw [e, mx_eq]
      exact s2 c0 k hc
    · rw [mx_nk e]
      exact s1 j (by omega)
  · have e : k = 251 := by omega
    subst e
    exact hend n s ⟨s1, s2, s3⟩
theorem pc_aside : ∃ τ', oX4_laysAside τ = some τ' ∧ pc_M 5 6 τ τ' := by
  unfold oX4_laysAside
  refine pc_for 5 6 (by decide) (fun n v s => oX4_laysAside_L2 n v s) (fun z => ∃ τ', z = some τ' ∧ pc_M 5 6 τ τ') (fun n s hs => ⟨s, ?_, hs⟩) fun n k s hk => ?_
  · show oX4_laysAside_L2 (n + 1) (nI 251) s = _
    rw [oX4_laysAside_L2, if_pos (show (251 : Int32) ≤ nI 251 from Int32.le_refl _)]
  · show oX4_laysAside_L2 (n + 1) (nI k) s = _
    rw [oX4_laysAside_L2, if_neg (fun q => by have := (pl_le (a := 251) (by omega) (by omega)).mp q; omega), pl_in (i := k) (n := 251) hk (by omega), pl_ogt, pl_ogt, pl_nn (n := k) (by omega)]
theorem pc_back : ∃ τ', oX4_takesBack τ = some τ' ∧ pc_M 6 5 τ τ' := by
  unfold oX4_takesBack
  refine pc_for 6 5 (by decide) (fun n v s => oX4_takesBack_L2 n v s) (fun z => ∃ τ', z = some τ' ∧ pc_M 6 5 τ τ') (fun n s hs => ⟨s, ?_, hs⟩) fun n k s hk => ?_
  · show oX4_takesBack_L2 (n + 1) (nI 251) s = _
    rw [oX4_takesBack_L2, if_pos (show (251 : Int32) ≤ nI 251 from Int32.le_refl _)]
  · show oX4_takesBack_L2 (n + 1) (nI k) s = _
    rw [oX4_takesBack_L2, if_neg (fun q => by have := (pl_le (a := 251) (by omega) (by omega)).mp q; omega), pl_in (i := k) (n := 251) hk (by omega), pl_ogt, pl_ogt, pl_nn (n := k) (by omega)]
theorem pc_keep : ∃ τ', oX4_keep_L18 ol_fuel 0 τ = some (1, ol_ms τ' 0 21 1) ∧ pc_M 5 7 τ τ' := by
  refine pc_for 5 7 (by decide) (fun n v s => oX4_keep_L18 n v s) (fun z => ∃ τ', z = some (1, ol_ms τ' 0 21 1) ∧ pc_M 5 7 τ τ') (fun n s hs => ⟨s, ?_, hs⟩) fun n k s hk => ?_
  · show oX4_keep_L18 (n + 1) (nI 251) s = _
    rw [oX4_keep_L18, if_pos (show (251 : Int32) ≤ nI 251 from Int32.le_refl _)]
  · show oX4_keep_L18 (n + 1) (nI k) s = _
    rw [oX4_keep_L18, if_neg (fun q => by have := (pl_le (a := 251) (by omega) (by omega)).mp q; omega), pl_in (i := k) (n := 251) hk (by omega), pl_ogt, pl_ogt, pl_nn (n := k) (by omega)]
theorem pc_back2 : ∃ τ', oX4_back_L18 ol_fuel 0 τ = some (1, τ') ∧ pc_M 7 5 τ τ' := by
  refine pc_for 7 5 (by decide) (fun n v s => oX4_back_L18 n v s) (fun z => ∃ τ', z = some (1, τ') ∧ pc_M 7 5 τ τ') (fun n s hs => ⟨s, ?_, hs⟩) fun n k s hk => ?_
  · show oX4_back_L18 (n + 1) (nI 251) s = _
    rw [oX4_back_L18, if_pos (show (251 : Int32) ≤ nI 251 from Int32.le_refl _)]
  · show oX4_back_L18 (n + 1) (nI k) s = _
    rw [oX4_back_L18, if_neg (fun q => by have := (pl_le (a := 251) (by omega) (by omega)).mp q; omega), pl_in (i := k) (n := 251) hk (by omega), pl_ogt, pl_ogt, pl_nn (n := k) (by omega)]
/-- another row that is the same -/
theorem pr_R.row (hR : pr_R B bp r T U wt σ ρ) (h6 : pb_n B ≤ 6) (e : ∀ j, j < 251 → ρ' j = ρ j) : pr_R B bp r T U wt σ ρ' := by
  obtain ⟨hE, hI, hL, hP, hW, hbus⟩ := hR
  refine ⟨hE.of fun j hj _ _ => e j (by omega), hI.of h6 fun j hj => e j (by omega), hL.of fun j _ h2 => e j (by omega), fun j hj hc => ?_, fun q b hb hs => ?_, hbus⟩
  · rw [e _ (by omega)]
    exact hP j hj hc
  · rw [e _ (by omega)] at q hs
    rw [e _ (by omega)]
    exact hW q b hb hs
theorem pr_N.row (hN : pr_N r T σ ρ) (e : ∀ j, j < 251 → ρ' j = ρ j) : pr_N r T σ ρ' := fun h => by
  rw [e _ (by omega)]
  exact hN h
/-- another state of the system that has the same run -/
theorem pr_R.ofX (hR : pr_R B bp r T U wt σ ρ) (e : ∀ c k, r ≤ c → c ≤ r + 8 → (c = r → k < 19) → σ'.1 c k = σ.1 c k) (e2 : σ'.2.1 r = σ.2.1 r) (e3 : σ'.2.2 r = σ.2.2 r) : pr_R B bp r T U wt σ' ρ := by
  obtain ⟨hE, hI, hL, hP, hW, hbus⟩ := hR
  refine ⟨hE.ofX fun c k h1 h2 _ h4 => e c k h1 (by omega) fun q => (h4 q).2, hI, by rw [e3]; exact hL, fun j hj hc => ?_, fun q b hb hs => ?_, e2.trans hbus⟩
  · rw [e _ _ (by omega) (by omega) (by omega)]
    exact hP j hj hc
  · rw [e _ _ (by omega) (by omega) (by omega)]
    exact hW q b hb hs
theorem pr_N.ofX (hN : pr_N r T σ ρ) (e : ∀ k, σ'.1 (r + 8) k = σ.1 (r + 8) k) : pr_N r T σ' ρ := fun h => (e _).trans (hN h)
/-! a run laid aside -/
theorem cp_hit {c0 c1 n k : Nat} (h : k < n) : (ol_xcpy σ c0 c1 n).1 c1 k = σ.1 c0 k := by
  show (if c1 = c1 then va_cpy (σ.1 c0) (σ.1 c1) 0 0 n else σ.1 c1) k = _
  rw [if_pos rfl]
  show (if 0 ≤ k ∧ k < 0 + n then σ.1 c0 (0 + (k - 0)) else _) = _
  rw [if_pos (by omega)]
  exact congrArg (σ.1 c0) (by omega)
theorem cp_ne {c0 c1 n c k : Nat} (h : ¬ c = c1) : (ol_xcpy σ c0 c1 n).1 c k = σ.1 c k := by
  show (if c = c1 then va_cpy (σ.1 c0) (σ.1 c1) 0 0 n else σ.1 c) k = _
  rw [if_neg h]
def pc_n (i : Nat) : Nat := if i = 7 then 36 else if i = 8 then 64 else 6
def pc_C (r : Nat) (σ σ' : ol_Xm) : Prop := (∀ c k, ¬ (r ≤ c ∧ c ≤ r + 8) → σ'.1 c k = σ.1 c k) ∧ (∀ q, ¬ q = r → σ'.2.1 q = σ.2.1 q) ∧ ∀ q, ¬ q = r → σ'.2.2 q = σ.2.2 q
/-- arrays below i are copied -/
def pc_A (r r1 i : Nat) (σ s : ol_Xm) : Prop := pc_C r σ s ∧ ∀ c j, 1 ≤ c → c < i → j < pc_n c → s.1 (r + c) j = σ.1 (r1 + c) j
def pc_S (r r1 i : Nat) (σ s : ol_Xm) : Prop := pc_A r r1 9 σ s ∧ ∀ j, 8 ≤ j → j < i → s.1 r j = σ.1 r1 j
theorem pc_A.w (hd : r + 9 ≤ r1 ∨ r1 + 9 ≤ r) {i : Nat} (hA : pc_A r r1 i σ σ') (hi : 1 ≤ i ∧ i < 9) {n : Nat} (hn : n = pc_n i) : pc_A r r1 (i + 1) σ (ol_xcpy σ' (r1 + i) (r + i) n) := by
  obtain ⟨⟨a1, a2, a3⟩, a4⟩ := hA
  refine ⟨⟨fun c k hc => (cp_ne (by omega)).trans (a1 c k hc), a2, a3⟩, fun c j h1 h2 h3 => ?_⟩
  by_cases e : c = i
  · subst e
    rw [hn, cp_hit h3]
    exact a1 _ _ (by omega)
  · rw [cp_ne (by omega)]
    exact a4 c j h1 (by omega) h3
theorem pc_A.l {i : Nat} (hA : pc_A r r1 i σ σ') (F : Nat → Int32) : pc_A r r1 i σ (ol_lgU σ' r F) := ⟨⟨hA.1.1, hA.1.2.1, fun q hq => (if_neg hq).trans (hA.1.2.2 q hq)⟩, hA.2⟩
theorem pc_S.w (hd : r + 9 ≤ r1 ∨ r1 + 9 ≤ r) {i : Nat} (hS : pc_S r r1 i σ σ') (hi : 8 ≤ i) : pc_S r r1 (i + 1) σ (ol_xs σ' r i (σ'.1 r1 i)) := by
  obtain ⟨⟨⟨a1, a2, a3⟩, a4⟩, a5⟩ := hS
  refine ⟨⟨⟨fun c k hc => (px_ne (by omega)).trans (a1 c k hc), a2, a3⟩, fun c j h1 h2 h3 => (px_ne (by omega)).trans (a4 c j h1 h2 h3)⟩, fun j h1 h2 => ?_⟩
  by_cases e : j = i
  · subst e
    rw [px_eq]
    exact a1 _ _ (by omega)
  · rw [px_nk e]
    exact a5 j h1 (by omega)
theorem px_lt {α γ : Type} {A : α} {f : α → Option γ} {Q : Option γ → Prop} (J : α → Prop) (hA : J A) (k : ∀ s, J s → Q (f s)) : Q (ol_lt A f) := k A hA
/-- a run becomes another -/
theorem pr_be (h6 : pb_n B ≤ 6) (hr : ol_isr r) (hr1 : ol_isr r1) (hne : ¬ r = r1) (hR : pr_R B bp r1 T U wt σ ρ) (hN : pr_N r1 T σ ρ) : ∃ σ', oX3_be σ β bp r r1 = some σ' ∧ pr_R B bp r T U wt σ' ρ ∧ pr_N r T σ' ρ ∧ pc_C r σ σ' := by
  have hd : r + 9 ≤ r1 ∨ r1 + 9 ≤ r := by
    rcases hr with h | h | h <;> rcases hr1 with h1 | h1 | h1 <;> omega
  have hA0 : pc_A r r1 1 σ (ol_xr σ r (some bp)) := ⟨⟨fun _ _ _ => rfl, fun q hq => if_neg hq, fun _ _ => rfl⟩, fun c j h1 h2 _ => by omega⟩
  have hz : ol_zbs ((ol_xr σ r (some bp)).1 (r1 + 1)) 6 = true := by
    unfold ol_zbs
    rw [List.all_eq_true]
    intro i hi
    have hi6 := List.mem_range.mp hi
    have e : (ol_xr σ r (some bp)).1 (r1 + 1) i = ρ (18 + 12 * i + 2) := (hR.1.2.2 i hi6).2.2.1
    obtain ⟨f, f1, f2⟩ := (hR.2.1.2.2.2.2.2.1 i hi6).2.1
    rw [e, f2]
    match f, f1 with
    | 0, _ => rfl
    | 1, _ => rfl
  have fin : ∀ s, pc_S r r1 19 σ s → s.2.1 r = some bp → s.2.2 r = σ.2.2 r1 → pr_R B bp r T U wt s ρ ∧ pr_N r T s ρ ∧ pc_C r σ s := fun s hS hb hl => by
    obtain ⟨⟨a1, a2⟩, a3⟩ := hS
    obtain ⟨hE, hI, hL, hP, hW, hbus⟩ := hR
    have k6 : ∀ c, ¬ c = 7 → ¬ c = 8 → pc_n c = 6 := fun c h7 h8 => by
      unfold pc_n
      rw [if_neg h7, if_neg h8]
    refine ⟨⟨⟨fun k hk => (a3 _ (by omega) (by omega)).trans (hE.1 k hk), fun i hi => (a2 5 i (by omega) (by omega) (by rw [k6 5 (by omega) (by omega)]; exact hi)).trans (hE.2.1 i hi), fun b hb => ?_⟩, hI, by rw [hl]; exact hL, fun j hj hc => (a2 8 j (by omega) (by omega) (show j < 64 from hj)).trans (hP j hj hc), fun q b hb hs => ?_, hb⟩, fun q => ?_, a1⟩
    · obtain ⟨e1, e2, e3, e4, e5⟩ := hE.2.2 b hb
      exact ⟨(a2 2 b (by omega) (by omega) hb).trans e1, (a2 3 b (by omega) (by omega) hb).trans e2, (a2 1 b (by omega) (by omega) hb).trans e3, (a2 4 b (by omega) (by omega) hb).trans e4, fun k hk => (a2 7 _ (by omega) (by omega) (show 6 * b + k < 36 by omega)).trans (e5 k hk)⟩
    · exact (a2 6 b (by omega) (by omega) (show b < 6 by omega)).trans (hW q b hb hs)
    · exact (a2 8 _ (by omega) (by omega) (show T % 64 < 64 by omega)).trans (hN q)
  unfold oX3_be
  rw [hR.2.2.2.2.2, pl_dd, pl_ogt, hz, pl_ogt]
  refine px_lt (Q := fun z => ∃ σ', z = some σ' ∧ pr_R B bp r T U wt σ' ρ ∧ pr_N r T σ' ρ ∧ pc_C r σ σ') (fun s => pc_A r r1 6 σ s ∧ s.2 = (ol_xr σ r (some bp)).2) ⟨((((hA0.w hd (by omega) rfl).w hd (by omega) rfl).w hd (by omega) rfl).w hd (by omega) rfl).w hd (by omega) rfl, rfl⟩ fun s3 h3 => ?_
  rw [decide_eq_true hne, pl_ogt]
  have e2 : s3.2.1 r = some bp := by rw [h3.2]; exact if_pos rfl
  have e3 : s3.2.2 r1 = σ.2.2 r1 := by rw [h3.2]; rfl
  refine px_lt (Q := fun z => ∃ σ', z = some σ' ∧ pr_R B bp r T U wt σ' ρ ∧ pr_N r T σ' ρ ∧ pc_C r σ σ') (fun s => pc_A r r1 9 σ s ∧ s.2.1 r = some bp ∧ s.2.2 r = σ.2.2 r1) ⟨((((h3.1.w hd (by omega) rfl).w hd (by omega) rfl).l _).w hd (by omega) rfl), e2, (if_pos rfl).trans e3⟩ fun s9 h9 => ?_
  have s8 : pc_S r r1 8 σ s9 := ⟨h9.1, fun j _ _ => by omega⟩
  refine px_lt (Q := fun z => ∃ σ', z = some σ' ∧ pr_R B bp r T U wt σ' ρ ∧ pr_N r T σ' ρ ∧ pc_C r σ σ') (fun s => pc_S r r1 11 σ s ∧ s.2 = s9.2) ⟨((s8.w hd (by omega)).w hd (by omega)).w hd (by omega), rfl⟩ fun s12 h12 => ?_
  refine px_lt (Q := fun z => ∃ σ', z = some σ' ∧ pr_R B bp r T U wt σ' ρ ∧ pr_N r T σ' ρ ∧ pc_C r σ σ') (fun s => pc_S r r1 14 σ s ∧ s.2 = s9.2) ⟨((h12.1.w hd (by omega)).w hd (by omega)).w hd (by omega), h12.2⟩ fun s15 h15 => ?_
  refine px_lt (Q := fun z => ∃ σ', z = some σ' ∧ pr_R B bp r T U wt σ' ρ ∧ pr_N r T σ' ρ ∧ pc_C r σ σ') (fun s => pc_S r r1 17 σ s ∧ s.2 = s9.2) ⟨((h15.1.w hd (by omega)).w hd (by omega)).w hd (by omega), h15.2⟩ fun s18 h18 => ?_
  have hl : (ol_xs (ol_xs s18 r 17 (s18.1 r1 17)) r 18 ((ol_xs s18 r 17 (s18.1 r1 17)).1 r1 18)).2 = s9.2 := h18.2
  exact ⟨_, rfl, fin _ ((h18.1.w hd (by omega)).w hd (by omega)) (by rw [hl]; exact h9.2.1) (by rw [hl]; exact h9.2.2)⟩
end PCP
