/-! CALLS, XI: filters; who would win -/
set_option maxRecDepth 100000
/-- the first of d filters from k on that suits -/
def sp_first (g : Nat → Int32) (w : Int32) : Nat → Nat → Int32
  | 0, _ => -2
  | d + 1, k => if g k = -2 ∨ w < g k then sp_first g w d (k + 1) else nI k
theorem pz_choice {Q : Nat → Int32 → Prop} (h : ∀ f, f ≤ 20 → ∃ z, Q f z) : ∃ g : Nat → Int32, ∀ f, f ≤ 20 → Q f (g f) := ⟨fun f => if q : f ≤ 20 then (h f q).choose else 0, fun f hf => by
  dsimp only
  rw [dif_pos hf]
  exact (h f hf).choose_spec⟩
section PCB
variable {K : Nat} {B : ol_Bp} {β : ol_Bd} {bp r T U H T' U' H' : Nat} {wt wt' : Nat → Option Nat} {σ σ0 σ' σ'' : ol_Xm} {τ τ' υ υ' υ0 υ1 : ol_Mm} {ρ ρ' : Nat → Int32} {p : ol_Pp} {set ps : Int32} {cnt : Nat} {Mk : Nat → Nat → Nat → Prop}
def pz_Mk (p : ol_Pp) : Nat → Nat → Nat → Prop := fun b k j => sp_dp p (sp_D p) 401 b k j
noncomputable def pz_cn (p : ol_Pp) : Nat := sp_c4 p (sp_D p) 401
theorem pz_g (h : pz_1 K B β bp T U H wt σ τ) (hK : K ≤ 24) (hps : ps = 1 ∨ ps = 2) (set : Int32) : ∃ g : Nat → Int32, ∀ f, f ≤ 20 → (∀ s σ1, px_I s bp (pz_p B wt H (τ.1 5) f ps set) set (nI 400) 401 0 0 (pz_Mk (pz_p B wt H (τ.1 5) f ps set)) (pz_cn (pz_p B wt H (τ.1 5) f ps set)) σ1 → oX2_sure σ1 β bp = some (g f)) ∧ ∀ υ0 υ1, pm_S υ0 (pz_p B wt H (τ.1 5) f ps set) → pm_I υ0 (pz_p B wt H (τ.1 5) f ps set) set 401 0 0 (pz_Mk (pz_p B wt H (τ.1 5) f ps set)) (pz_cn (pz_p B wt H (τ.1 5) f ps set)) υ1 → oX4_sureAt υ1 = some (g f) := by
  have one : ∀ f, f ≤ 20 → ∃ z : Int32, (∀ s σ1, px_I s bp (pz_p B wt H (τ.1 5) f ps set) set (nI 400) 401 0 0 (pz_Mk (pz_p B wt H (τ.1 5) f ps set)) (pz_cn (pz_p B wt H (τ.1 5) f ps set)) σ1 → oX2_sure σ1 β bp = some z) ∧ ∀ υ0 υ1, pm_S υ0 (pz_p B wt H (τ.1 5) f ps set) → pm_I υ0 (pz_p B wt H (τ.1 5) f ps set) set 401 0 0 (pz_Mk (pz_p B wt H (τ.1 5) f ps set)) (pz_cn (pz_p B wt H (τ.1 5) f ps set)) υ1 → oX4_sureAt υ1 = some z := fun f hf => by
    have d1 := pz_pok h hf ps set
    have d2 : px_B β (pz_p B wt H (τ.1 5) f ps set) := pe_B h.2.1.1 h.2.1.2.1
    obtain ⟨σf, -, a2⟩ := pz_goX h hK hps set hf (σ' := σ) (fun _ _ _ _ => rfl) fun _ _ => rfl
    obtain ⟨υ0, υf, -, -, b3, b4⟩ := pz_goM (υ := ol_ms τ 2 1 (nI f)) h hK hps set hf (fun k hk => mx_nk hk) mx_eq rfl
    obtain ⟨z, z1, z2, -⟩ := pq_sure d1 d2 b3 a2 b4
    refine ⟨z, fun s σ1 c => ?_, fun u0 u1 c1 c2 => ?_⟩
    · obtain ⟨y, y1, y2, -⟩ := pq_sure d1 d2 b3 c b4
      rw [z2] at y2
      cases y2
      exact y1
    · obtain ⟨y, y1, y2, -⟩ := pq_sure d1 d2 c1 a2 c2
      rw [z1] at y1
      cases y1
      exact y2
  exact pz_choice one
theorem pz_filtX (h : pz_1 K B β bp T U H wt σ τ) (hK : K ≤ 24) (hps : ps = 1 ∨ ps = 2) (set : Int32) {g : Nat → Int32} (hg : ∀ f, f ≤ 20 → ∀ s σ1, px_I s bp (pz_p B wt H (τ.1 5) f ps set) set (nI 400) 401 0 0 (pz_Mk (pz_p B wt H (τ.1 5) f ps set)) (pz_cn (pz_p B wt H (τ.1 5) f ps set)) σ1 → oX2_sure σ1 β bp = some (g f)) : ∀ d k n s, d + k = 21 → d < n → (∀ c k, ¬ (2 ≤ c ∧ c ≤ 9) → ¬ (c = 0 ∧ (k = 11 ∨ k = 12)) → s.1 c k = σ.1 c k) → (∀ q, ¬ q = 3 → s.2.1 q = σ.2.1 q) → s.2.2 = σ.2.2 → s.1 0 11 = -1 → ∃ σ1, oX1_filters_L26 β bp ps set n (nI k) s = some (sp_first g (nI (pb_w B)) d k, pz_x σ1 0) ∧ pz_1 K B β bp T U H wt σ1 τ := by
  intro d
  induction d with
  | zero =>
    intro k n s hk hn s1 s2 s3 s4
    obtain ⟨n, rfl⟩ : ∃ i, n = i + 1 := ⟨n - 1, by omega⟩
    have e : k = 21 := by omega
    subst e
    refine ⟨s, ?_, h.lay (fun c k c1 c2 _ => s1 c k c1 c2) s2 s3 (Or.inl s4)⟩
    rw [oX1_filters_L26, if_pos (show (20 : Int32) < nI 21 by decide)]
    rfl
  | succ d ih =>
    intro k n s hk hn s1 s2 s3 s4
    obtain ⟨n, rfl⟩ : ∃ i, n = i + 1 := ⟨n - 1, by omega⟩
    obtain ⟨σ1, a1, a2⟩ := pz_goX h hK hps set (f := k) (by omega) (σ' := s) s1 s2
    have hP := a2.2.2.2.2.2.2.2
    have hs := hg k (by omega) s σ1 a2
    have t1 : ∀ c k, ¬ (2 ≤ c ∧ c ≤ 9) → ¬ (c = 0 ∧ (k = 11 ∨ k = 12)) → σ1.1 c k = σ.1 c k := fun c k c1 c2 => (hP.1 c k c1).trans (s1 c k c1 c2)
    have t2 : ∀ q, ¬ q = 3 → σ1.2.1 q = σ.2.1 q := fun q hq => (hP.2.1 q hq).trans (s2 q hq)
    have t3 : σ1.2.2 = σ.2.2 := hP.2.2.trans s3
    have t4 : σ1.1 0 11 = -1 := (hP.1 0 11 (by omega)).trans s4
    have ef : sp_first g (nI (pb_w B)) (d + 1) k = if g k = -2 ∨ nI (pb_w B) < g k then sp_first g (nI (pb_w B)) d (k + 1) else nI k := rfl
    rw [oX1_filters_L26, if_neg (show ¬ (20 : Int32) < nI k from fun q => by have := (pl_lt (a := 20) (by omega) (by omega)).mp q; omega), a1, Option.bind_some, hs, Option.bind_some, h.2.1.2.1.1.2.2.1, pl_s, ef]
    by_cases c1 : g k = -2
    · rw [if_pos c1, if_pos (Or.inl c1)]
      exact ih (k + 1) n σ1 (by omega) (by omega) t1 t2 t3 t4
    · rw [if_neg c1]
      by_cases c2 : nI (pb_w B) < g k
      · rw [if_pos c2, if_pos (Or.inr c2)]
        exact ih (k + 1) n σ1 (by omega) (by omega) t1 t2 t3 t4
      · rw [if_neg c2, if_neg (fun q => q.elim c1 c2)]
        exact ⟨σ1, rfl, h.lay (fun c k c1 c2 _ => t1 c k c1 c2) t2 t3 (Or.inl t4)⟩
theorem pz_filtM (h : pz_1 K B β bp T U H wt σ τ) (hK : K ≤ 24) (hps : ps = 1 ∨ ps = 2) (set : Int32) {g : Nat → Int32} (hg : ∀ f, f ≤ 20 → ∀ υ0 υ1, pm_S υ0 (pz_p B wt H (τ.1 5) f ps set) → pm_I υ0 (pz_p B wt H (τ.1 5) f ps set) set 401 0 0 (pz_Mk (pz_p B wt H (τ.1 5) f ps set)) (pz_cn (pz_p B wt H (τ.1 5) f ps set)) υ1 → oX4_sureAt υ1 = some (g f)) : ∀ k n s, k ≤ 21 → k < n → pe_G (pz_m τ 0) (ol_ms s 2 1 (nI (pb_f B))) → ∃ υ1, oX4_filters_L32 ps set n (nI (pb_f B)) (sp_first g (nI (pb_w B)) (21 - k) k) (nI k + (-1)) s = some (sp_first g (nI (pb_w B)) 21 0, υ1) ∧ pe_G (pz_m τ 0) υ1 := by
  intro k
  induction k with
  | zero =>
    intro n s hk hn hs
    obtain ⟨n, rfl⟩ : ∃ i, n = i + 1 := ⟨n - 1, by omega⟩
    refine ⟨ol_ms s 2 1 (nI (pb_f B)), ?_, hs⟩
    rw [oX4_filters_L32, if_pos (by decide)]
  | succ k ih =>
    intro n s hk hn hs
    obtain ⟨n, rfl⟩ : ∃ i, n = i + 1 := ⟨n - 1, by omega⟩
    have sz : ∀ c j, ¬ (8 ≤ c ∧ c ≤ 13) → ¬ (c = 0 ∧ 23 ≤ j ∧ j ≤ 32) → ¬ (c = 2 ∧ j = 1) → s.1 c j = (pz_m τ 0).1 c j := fun c j c1 c2 c3 => by
      have := hs.1 c j c1 c2
      rw [pl_ms, if_neg c3] at this
      exact this
    obtain ⟨υ0, υ1, b1, b2, b3, b4⟩ := pz_goM (υ := ol_ms s 2 1 (nI k)) (f := k) h hK hps set (by omega) (fun j hj => by
      rw [mx_nk hj, sz 2 j (by omega) (by omega) (by omega)]
      exact pz_m5 0 2 j (by omega)) mx_eq (funext fun j => by
      rw [mx_ne (by omega), sz 5 j (by omega) (by omega) (by omega)]
      exact pz_m5 0 5 j (by omega))
    have hs1 := hg k (by omega) υ0 υ1 b3 b4
    have e22 : υ1.1 2 2 = nI (pb_w B) := by
      rw [b2.1 2 2 (by omega) (by omega), mx_nk (by omega), sz 2 2 (by omega) (by omega) (by omega), pz_m5 0 2 2 (by omega)]
      exact h.2.1.2.2.1.2.2.1
    have hs' : pe_G (pz_m τ 0) (ol_ms υ1 2 1 (nI (pb_f B))) := ⟨fun c j c1 c2 => by
      rw [pl_ms]
      by_cases c3 : c = 2 ∧ j = 1
      · rw [if_pos c3]
        have := hs.1 c j c1 c2
        rw [pl_ms, if_pos c3] at this
        exact this
      · rw [if_neg c3, b2.1 c j c1 c2, pl_ms, if_neg c3]
        exact sz c j c1 c2 c3, b2.2.trans hs.2⟩
    have ef : sp_first g (nI (pb_w B)) (21 - k) k = if g k = -2 ∨ nI (pb_w B) < g k then sp_first g (nI (pb_w B)) (21 - (k + 1)) (k + 1) else nI k := by
      rw [show 21 - k = 21 - (k + 1) + 1 by omega]
      rfl
    have ihk := ih n υ1 (by omega) (by omega) hs'
    rw [ef] at ihk
    rw [oX4_filters_L32, pl_p, if_neg (show ¬ nI k < 0 from fun q => by have := (pl_lt (b := 0) (by omega) (by omega)).mp q; omega), b1, Option.bind_some, hs1, Option.bind_some, e22]
    by_cases c1 : g k = -2
    · rw [if_pos c1]
      rw [if_pos (Or.inl c1)] at ihk
      exact ihk
    · rw [if_neg c1]
      by_cases c2 : nI (pb_w B) < g k
      · rw [if_pos c2]
        rw [if_pos (Or.inr c2)] at ihk
        exact ihk
      · rw [if_neg c2]
        rw [if_neg (fun q => q.elim c1 c2)] at ihk
        exact ihk
theorem pz_filters (h : pz_1 K B β bp T U H wt σ τ) (hK : K ≤ 24) (x1 x2 : Int32) : pz_E (K + 1) B β bp (oX1_filters σ β bp x1 x2) (oX4_filters τ x1 x2) := by
  unfold oX1_filters oX4_filters
  rcases pz_why h 1 x1 x2 0 (Or.inr rfl) with ⟨w, w1, w2, w3⟩ | ⟨-, f2, -, f4, f5⟩
  · have ex : ((oX1_refuses σ β bp 1 x1 x2 0).bind fun y1 => if y1 ≤ 0 then (oX1_forgets σ).bind fun y3 => oX1_filters_L26 β bp x1 x2 22 0 y3 else (oX1_refused σ y1).bind fun y => some (y.1, y.2)) = some (-1, pz_x σ w) := by
      rw [w2]
      rcases w1 with q | q <;> subst q
      · rw [Option.bind_some, if_neg (by decide)]
        rfl
      · rw [Option.bind_some, if_neg (by decide)]
        rfl
    rw [ex]
    exact pz_wno h w1 w3 fun y => oX4_filters_L32 x1 x2 ol_fuel (y.1 2 1) (-2) 20 y
  · obtain ⟨g, hg⟩ := pz_g h hK f2 x2
    obtain ⟨σ1, a1, a2⟩ := pz_filtX h hK f2 x2 (fun f hf => (hg f hf).1) 21 0 22 (ol_xs σ 0 11 (-1)) rfl (by omega) (fun c k _ c2 => by rw [pl_xs, if_neg (by omega)]) (fun _ _ => rfl) rfl px_eq
    have e21 : (pz_m τ 0).1 2 1 = nI (pb_f B) := (pz_m5 0 2 1 (by omega)).trans h.2.1.2.2.1.2.1
    obtain ⟨υ1, b1, b2⟩ := pz_filtM h hK f2 x2 (fun f hf => (hg f hf).2) 21 ol_fuel (pz_m τ 0) (Nat.le_refl _) (by unfold ol_fuel; omega) ⟨fun c j _ _ => by
      rw [pl_ms]
      by_cases q : c = 2 ∧ j = 1
      · rw [if_pos q, q.1, q.2, e21]
      · rw [if_neg q], rfl⟩
    have e20 : nI 21 + (-1) = 20 := by decide
    have es : sp_first g (nI (pb_w B)) (21 - 21) 21 = -2 := rfl
    rw [e20, es] at b1
    rw [f4, f5, Option.bind_some, if_pos (Int32.le_refl _), Option.bind_some, pz_ref0, Option.bind_some, if_pos rfl, e21, b1]
    show pz_E _ _ _ _ (oX1_filters_L26 β bp x1 x2 22 (nI 0) (ol_xs σ 0 11 (-1))) _
    rw [a1]
    exact pz_fin a2 b2.z ((b2.1 0 1 (by omega) (by omega)).trans mx_eq) _
theorem pz_would (h : pz_1 K B β bp T U H wt σ τ) (hK : K ≤ 24) (x1 : Int32) : pz_E (K + 1) B β bp (oX1_would σ β bp x1) (oX4_would τ x1) := by
  obtain ⟨hB, hX, hM⟩ := h.2.1
  obtain ⟨hh, hH⟩ := h.2.2.1
  have hF := pz_H h hK
  obtain ⟨w1, w2, w3⟩ := pz_XM h
  have no0 : oX4_isSet τ x1 = some 1 → ¬ x1 = 0 := fun q e => by
    unfold oX4_isSet oX4_in at q
    rw [e, if_pos (by decide)] at q
    have : (some (0 : Int32)) = some 1 := q
    cases this
  obtain ⟨v, v1, v2, v3⟩ := pz_set h x1
  unfold oX1_would oX4_would oX4_would_L25
  rw [v2, h.1.2.1, if_neg pz_10]
  rcases v1 with q | q <;> subst q
  · rw [v3, Option.bind_some, if_pos rfl, Option.bind_some, if_pos rfl, pz_ref1 (by decide), Option.bind_some, if_neg pz_10]
    exact pz_no h (by decide)
  · have hln := pz_lnok h.2.2.2.1.2.1
    obtain ⟨σ1, a1, ⟨⟨a2, a3⟩, a4⟩, a5, -⟩ := pe_passX (B := B) (β := β) (σ := σ) (bp := bp) (r := 10) (set := x1) (ln := pz_ln (τ.1 5)) (w1 := pz_w B wt H (τ.1 5) 1) hB hX hln ol_isr0 h.2.2.2.1.2.2.2.2.2 (fun i hi => by
      show σ.1 (10 + 5) i = pz_ln (τ.1 5) i
      unfold pz_ln
      rw [if_pos hi]
      exact h.2.2.2.1.1.2.1 i hi) (wf := fun σ i => oX11_of σ β bp 1 i) (fun b hb _ => pz_wok h 1 hb) (fun υ b hb _ hu => by
      have wυ : pw_X υ β bp 10 (pb_n B) wt (pb_rk B) (pz_fr (τ.1 5)) (pb_cd B) := ⟨⟨(hu.2 10 (by omega)).trans w1.1.1, w1.1.2⟩, fun b hb => by
        rw [hu.1 _ _ (by omega) (by omega) (by omega), hu.1 _ _ (by omega) (by omega) (by omega)]
        exact w1.2 b hb⟩
      unfold oX11_of pz_w
      rw [if_pos rfl, if_pos rfl, pw_firstX wυ w3 hH hF hb]
      rfl)
    obtain ⟨υ1, b1, b2, -⟩ := pe_electM (B := B) (τ := pz_m τ 0) (set := x1) (x2 := 0) (ln := pz_ln (τ.1 5)) (w1 := pz_w B wt H (τ.1 5) 1) (wr := pz_w B wt H (τ.1 5) 1) hB (by rw [pz_mB]; exact hM) hln (fun i hi => by
      rw [pz_m5 0 5 _ (by omega)]
      unfold pz_ln
      rw [if_pos hi]) (no0 v3) (fun b hb _ => pz_wok h 1 hb) (fun _ _ _ => rfl) (fun b hb => ⟨fun _ υ u2 u5 => by
      have wM : pw_M υ (pb_n B) wt (pb_rk B) (pz_fr (τ.1 5)) (pb_cd B) := by
        have w2' := pz_mM 0 w2
        refine ⟨⟨(u2 3).trans w2'.1.1, w2'.1.2⟩, fun b hb => ?_⟩
        rw [u5, u5, u2, u2]
        exact w2'.2 b hb
      refine ⟨?_, pw_wordM2 wM w3 hb (by decide)⟩
      unfold pz_w
      rw [if_pos rfl]
      exact pw_wordM1 wM w3 hH hF hb, fun q => absurd rfl q⟩)
    rw [v3, Option.bind_some, if_neg pz_10, a1, Option.bind_some, Option.bind_some, if_neg pz_10, pz_ref0, Option.bind_some, if_pos rfl, b1, Option.bind_some]
    have h' : pz_1 K B β bp T U H wt σ1 τ := h.lay (fun c k c1 c2 c3 => a2 c k c1 (by omega) c3) a3 a4 (Or.inl a5)
    exact pz_fin h' b2.z ((b2.1 0 1 (by omega) (by omega)).trans mx_eq) _
end PCB
