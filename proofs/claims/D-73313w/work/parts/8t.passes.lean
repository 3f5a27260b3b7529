/-! CALLS, VIII: a pass is laid on both sides -/
set_option maxRecDepth 100000
section PC8
variable {K : Nat} {B : ol_Bp} {β : ol_Bd} {bp r T U H T' U' H' : Nat} {wt wt' : Nat → Option Nat} {σ σ0 σ' σ'' : ol_Xm} {τ τ' υ υ' : ol_Mm} {ρ ρ' : Nat → Int32} {f : Nat} {ps set : Int32}
theorem px_mk {p : ol_Pp} {Mk : Nat → Nat → Nat → Prop} {cnt : Nat} {tl : Int32} (h : px_I σ0 bp p set tl 401 0 0 Mk cnt σ) (e : ∀ c k, 2 ≤ c → c ≤ 9 → σ'.1 c k = σ.1 c k) (e3 : σ'.2.1 3 = σ.2.1 3) : px_I σ' bp p set tl 401 0 0 Mk cnt σ' := by
  obtain ⟨h1, h2, h3, h4, h5, h6, h7, -⟩ := h
  have g : ∀ c, (2 ≤ c ∧ c ≤ 9) → σ'.1 c = σ.1 c := fun c hc => funext fun k => e c k hc.1 hc.2
  refine ⟨?_, ?_, ?_, ?_, ?_, ?_, h7, fun _ _ _ => rfl, fun _ _ => rfl, rfl⟩
  · rw [g 4 (by omega), g 5 (by omega), g 6 (by omega), g 7 (by omega)]
    exact h1
  · rw [g 8 (by omega)]
    exact h2
  · rw [g 9 (by omega)]
    exact h3
  · rw [g 2 (by omega)]
    exact h4
  · rw [g 2 (by omega), e3]
    exact h5
  · rw [g 3 (by omega)]
    exact h6
theorem pz_lnok (h : pv_I B T U wt ρ) : ∀ i, i < 6 → pz_ln ρ i = 0 ∨ pz_ln ρ i = 1 ∨ pz_ln ρ i = 2 := fun i hi => by
  unfold pz_ln
  rw [if_pos hi]
  exact h.2.2.2.2.2.2 i hi
theorem pz_wok (h : pz_1 K B β bp T U H wt σ τ) (ps : Int32) {b : Nat} (hb : b < pb_n B) : pl_sm6 (pz_w B wt H (τ.1 5) ps b) ∧ ¬ pz_w B wt H (τ.1 5) ps b = 0 := by
  unfold pz_w
  by_cases q : ps = 1
  · rw [if_pos q]
    exact pr_w1 (pz_XM h).2.2 hb
  · rw [if_neg q]
    exact pl_parsm (h.2.1.1.2.1 b hb).2.2.2
theorem pz_pok (h : pz_1 K B β bp T U H wt σ τ) (hf : f ≤ 20) (ps set : Int32) : pq_ok (pz_p B wt H (τ.1 5) f ps set) := pe_ok h.2.1.1 hf (pz_lnok h.2.2.2.1.2.1) fun b hb _ => pz_wok h ps hb
/-- words of both sides -/
theorem pz_wX (h : pz_1 K B β bp T U H wt σ τ) (hK : K ≤ 24) (hps : ps = 1 ∨ ps = 2) (υ : ol_Xm) {b : Nat} (hb : b < pb_n B) (g1 : ∀ c k, ¬ (2 ≤ c ∧ c ≤ 9) → ¬ (c = 0 ∧ (k = 11 ∨ k = 12)) → υ.1 c k = σ.1 c k) (g2 : ∀ q, ¬ q = 3 → υ.2.1 q = σ.2.1 q) : oX11_of υ β bp ps b = some (pz_w B wt H (τ.1 5) ps b) := by
  obtain ⟨hh, hH⟩ := h.2.2.1
  obtain ⟨w1, w2, w3⟩ := pz_XM h
  have wυ : pw_X υ β bp 10 (pb_n B) wt (pb_rk B) (pz_fr (τ.1 5)) (pb_cd B) := ⟨⟨(g2 10 (by omega)).trans w1.1.1, w1.1.2⟩, fun b hb => by
    rw [g1 _ _ (by omega) (by omega), g1 _ _ (by omega) (by omega)]
    exact w1.2 b hb⟩
  unfold oX11_of pz_w
  rcases hps with q | q <;> subst q
  · rw [if_pos rfl, if_pos rfl, pw_firstX wυ w3 hH (pz_H h hK) hb]
    rfl
  · rw [if_neg (by decide), if_neg (by decide), pw_secondX wυ w3 hb]
    rfl
/-- the system lays a pass of run 10 -/
theorem pz_goX (h : pz_1 K B β bp T U H wt σ τ) (hK : K ≤ 24) (hps : ps = 1 ∨ ps = 2) (set : Int32) (hf : f ≤ 20) (e1 : ∀ c k, ¬ (2 ≤ c ∧ c ≤ 9) → ¬ (c = 0 ∧ (k = 11 ∨ k = 12)) → σ'.1 c k = σ.1 c k) (e2 : ∀ q, ¬ q = 3 → σ'.2.1 q = σ.2.1 q) : ∃ σ1, oX2_goes_2 σ' β bp 10 (fun σ i => oX11_of σ β bp ps i) set 400 (nI f) = some σ1 ∧ px_I σ' bp (pz_p B wt H (τ.1 5) f ps set) set (nI 400) 401 0 0 (fun b k j => sp_dp (pz_p B wt H (τ.1 5) f ps set) (sp_D (pz_p B wt H (τ.1 5) f ps set)) 401 b k j) (sp_c4 (pz_p B wt H (τ.1 5) f ps set) (sp_D (pz_p B wt H (τ.1 5) f ps set)) 401) σ1 := by
  refine pg_goes (σ := σ') (bp := bp) (set := set) (E := 400) (lr := 10) (p := pz_p B wt H (τ.1 5) f ps set) (pz_pok h hf ps set) (pe_B h.2.1.1 h.2.1.2.1) (by omega) ol_isr0 (fun i hi => ?_) (fun b _ => Iff.rfl) fun υ b hb _ g1 g2 => ?_
  · rw [e1 _ _ (by omega) (by omega)]
    show σ.1 (10 + 5) i = pz_ln (τ.1 5) i
    unfold pz_ln
    rw [if_pos hi]
    exact h.2.2.2.1.1.2.1 i hi
  · exact pz_wX h hK hps υ hb (fun c k c1 c2 => (g1 c k c1).trans (e1 c k c1 c2)) fun q hq => (g2 q hq).trans (e2 q hq)
/-- the model lays it -/
theorem pz_goM (h : pz_1 K B β bp T U H wt σ τ) (hK : K ≤ 24) (hps : ps = 1 ∨ ps = 2) (set : Int32) (hf : f ≤ 20) (e2 : ∀ k, ¬ k = 1 → υ.1 2 k = τ.1 2 k) (e21 : υ.1 2 1 = nI f) (e5 : υ.1 5 = τ.1 5) : ∃ υ0 υ1, oX4_passes υ ps set = some υ1 ∧ pe_G υ υ1 ∧ pm_S υ0 (pz_p B wt H (τ.1 5) f ps set) ∧ pm_I υ0 (pz_p B wt H (τ.1 5) f ps set) set 401 0 0 (fun b k j => sp_dp (pz_p B wt H (τ.1 5) f ps set) (sp_D (pz_p B wt H (τ.1 5) f ps set)) 401 b k j) (sp_c4 (pz_p B wt H (τ.1 5) f ps set) (sp_D (pz_p B wt H (τ.1 5) f ps set)) 401) υ1 := by
  obtain ⟨hh, hH⟩ := h.2.2.1
  obtain ⟨w1, w2, w3⟩ := pz_XM h
  have h6 := h.2.1.1.1.1.2
  obtain ⟨hM1, hM2, hM3⟩ := h.2.1.2.2
  unfold oX4_passes
  refine pl_for (fun n v s => oX4_passes_L2 ps set n v s) (pb_n B) (fun k s => pe_G υ s ∧ ∀ b, b < k → s.1 8 b = pz_w B wt H (τ.1 5) ps b) (fun z => ∃ υ0 υ1, z = some υ1 ∧ pe_G υ υ1 ∧ pm_S υ0 (pz_p B wt H (τ.1 5) f ps set) ∧ pm_I υ0 (pz_p B wt H (τ.1 5) f ps set) set 401 0 0 (fun b k j => sp_dp (pz_p B wt H (τ.1 5) f ps set) (sp_D (pz_p B wt H (τ.1 5) f ps set)) 401 b k j) (sp_c4 (pz_p B wt H (τ.1 5) f ps set) (sp_D (pz_p B wt H (τ.1 5) f ps set)) 401) υ1) (fun n k s hk hs ih => ?_) ol_fuel 0 υ (by omega) (by unfold ol_fuel; omega) ⟨pe_G.rf υ, fun b q => by omega⟩
  obtain ⟨s1, s2⟩ := hs
  show ∃ υ0 υ1, oX4_passes_L2 ps set (n + 1) (nI k) s = some υ1 ∧ _
  have s2e : ∀ j, ¬ j = 1 → s.1 2 j = τ.1 2 j := fun j hj => (s1.1 2 j (by omega) (by omega)).trans (e2 j hj)
  have s5e : ∀ j, s.1 5 j = τ.1 5 j := fun j => (s1.1 5 j (by omega) (by omega)).trans (congrFun e5 j)
  rw [oX4_passes_L2, s2e 3 (by omega), hM1.2.2.2.1, pl_s]
  by_cases hkn : k < pb_n B
  · have wM : pw_M s (pb_n B) wt (pb_rk B) (pz_fr (τ.1 5)) (pb_cd B) := ⟨⟨(s2e 3 (by omega)).trans w2.1.1, w2.1.2⟩, fun b hb => by
      rw [s5e, s5e, s2e _ (by omega), s2e _ (by omega)]
      exact w2.2 b hb⟩
    have ew : oX4_wordOf s (nI k) ps = some (pz_w B wt H (τ.1 5) ps k) := by
      unfold pz_w
      rcases hps with q | q <;> subst q
      · rw [if_pos rfl]
        exact pw_wordM1 wM w3 hH (pz_H h hK) hkn
      · rw [if_neg (by decide)]
        exact pw_wordM2 wM w3 hkn (by decide)
    rw [if_neg (fun q => by have := (pl_le (by omega) (by omega)).mp q; omega), ew, Option.bind_some, pl_in (i := k) (n := 6) (by omega) (by omega), pl_ogt, pl_nn (n := k) (by omega)]
    refine ih hkn _ ⟨s1.w 8 k _ (by omega), fun b hb => ?_⟩
    by_cases e : b = k
    · rw [e, mx_eq]
    · rw [mx_nk e]
      exact s2 b (by omega)
  · have e : k = pb_n B := by omega
    subst e
    have hSo : pm_S s (pz_p B wt H (τ.1 5) f ps set) := by
      have a0 : pm_S τ (pe_p B (pb_f B) (pz_ln (τ.1 5)) (fun b => pl_b set b = true) (pz_w B wt H (τ.1 5) ps)) := pe_S h.2.1.1 h.2.1.2.2 hM1.2.1 fun i hi => by
        unfold pz_ln
        rw [if_pos hi]
      obtain ⟨b1, b2, b3, b4, b5⟩ := a0
      refine ⟨(s2e 3 (by omega)).trans b1, (s2e 0 (by omega)).trans b2, (s1.1 2 1 (by omega) (by omega)).trans e21, fun b o hb ho => ?_, fun i hi => (s5e _).trans (b5 i hi)⟩
      have hb : b < pb_n B := hb
      have ho : o < pb_n B := ho
      have := b4 b o hb ho
      unfold oX4_slotsApart at this ⊢
      rw [show (5 : Int32) = nI 5 from rfl, pl_add, pl_add, pl_in (i := 5 + b) (by omega) (by omega), pl_ogt, pl_in (i := 5 + o) (by omega) (by omega), pl_ogt, pl_nn (n := 5 + b) (by omega), pl_nn (n := 5 + o) (by omega)] at this ⊢
      rw [s2e _ (by omega), s2e _ (by omega)]
      exact this
    obtain ⟨υ1, d1, d2⟩ := pm_lays (σ := s) (set := set) (p := pz_p B wt H (τ.1 5) f ps set) (pz_pok h hf ps set) hSo (fun b hb _ => s2 b hb) (fun b _ => Iff.rfl)
    rw [if_pos (Int32.le_refl _), d1, Option.bind_some]
    have hP := d2.2.2.2
    exact ⟨s, υ1, rfl, ⟨fun c k q1 q2 => (hP.2.2.2.1 c k q1 (by omega)).trans (s1.1 c k q1 q2), hP.2.2.2.2.trans s1.2⟩, hSo, d2⟩
/-- a state that differs in what passes write; a pass of it is laid -/
theorem pz_1.lay (h : pz_1 K B β bp T U H wt σ τ) (e1 : ∀ c k, ¬ (2 ≤ c ∧ c ≤ 9) → ¬ (c = 0 ∧ (k = 11 ∨ k = 12)) → ¬ (c = 10 ∧ 21 ≤ k) → σ'.1 c k = σ.1 c k) (e2 : ∀ q, ¬ q = 3 → σ'.2.1 q = σ.2.1 q) (e3 : σ'.2.2 = σ.2.2) (hC : pz_C B bp wt H σ' (τ.1 5)) : pz_1 K B β bp T U H wt σ' τ := by
  obtain ⟨⟨⟨a1, a2, a3, a4, a5⟩, hb⟩, hB, hw, hR, hN, -, hK⟩ := h
  refine ⟨⟨⟨?_, fun j hj => ?_, ?_, ?_, a5⟩, hb⟩, hB, hw, hR.ofX (fun c k _ _ hq => e1 c k (by omega) (by omega) (by omega)) (e2 10 (by omega)) (by rw [e3]), hN.ofX (fun k => e1 _ k (by omega) (by omega) (by omega)), hC, fun q => ?_⟩
  · rw [e1 0 4 (by omega) (by omega) (by omega)]
    exact a1
  · rw [e1 1 j (by omega) (by omega) (by omega)]
    exact a2 j hj
  · rw [e1 0 5 (by omega) (by omega) (by omega)]
    exact a3
  · rw [e1 0 10 (by omega) (by omega) (by omega)]
    exact a4
  · obtain ⟨T', U', H', wt', g1, g2, g3, g4⟩ := hK q
    exact ⟨T', U', H', wt', g1, g2, g3.ofX (fun c k _ _ hq => e1 c k (by omega) (by omega) (by omega)) (e2 19 (by omega)) (by rw [e3]), g4.ofX fun k => e1 _ k (by omega) (by omega) (by omega)⟩
theorem pz_passX (h : pz_1 K B β bp T U H wt σ τ) (hK : K ≤ 24) (hps : ps = 1 ∨ ps = 2) (set : Int32) : ∃ σ1, (∀ k, k ≤ 400 → oX1_passOf σ β bp ps set (nI k) = some σ1) ∧ pz_1 K B β bp T U H wt σ1 τ ∧ pz_L B bp wt H (τ.1 5) (pb_f B) ps set σ1 := by
  have hn1 : ¬ ps = -1 := by rcases hps with q | q <;> subst q <;> decide
  have fresh : ∃ σ1, (∀ x3, oX1_passOf_L32 β bp ps set x3 σ = some σ1) ∧ pz_1 K B β bp T U H wt σ1 τ ∧ pz_L B bp wt H (τ.1 5) (pb_f B) ps set σ1 := by
    obtain ⟨σ1, a1, a2⟩ := pz_goX h hK hps set h.2.1.1.1.2.2.1 (σ' := σ) (fun _ _ _ _ => rfl) fun _ _ => rfl
    have hP := a2.2.2.2.2.2.2.2
    have hL : pz_L B bp wt H (τ.1 5) (pb_f B) ps set (ol_xs (ol_xs σ1 0 11 ps) 0 12 set) := px_mk a2 (fun c k _ _ => (px_ne (by omega)).trans (px_ne (by omega))) rfl
    have e11 : (ol_xs (ol_xs σ1 0 11 ps) 0 12 set).1 0 11 = ps := (px_nk (by omega)).trans px_eq
    have e12 : (ol_xs (ol_xs σ1 0 11 ps) 0 12 set).1 0 12 = set := px_eq
    refine ⟨ol_xs (ol_xs σ1 0 11 ps) 0 12 set, fun x3 => ?_, h.lay (fun c k c1 c2 _ => ?_) (fun q hq => hP.2.1 q hq) hP.2.2 (Or.inr ⟨by rw [e11]; exact hps, by rw [e11, e12]; exact hL⟩), hL⟩
    · unfold oX1_passOf_L32 oX2_goes
      rw [h.2.1.2.1.1.2.1, show oX2_goes_2 σ β bp 10 (fun σ i => oX11_of σ β bp ps i) set 400 (nI (pb_f B)) = some σ1 from a1]
      rfl
    · rw [pl_xs, if_neg (by omega), pl_xs, if_neg (by omega)]
      exact hP.1 c k c1
  obtain ⟨σ1, f1, f2, f3⟩ := fresh
  by_cases q1 : ps = σ.1 0 11
  · by_cases q2 : set = σ.1 0 12
    · have hL : pz_L B bp wt H (τ.1 5) (pb_f B) ps set σ := by
        rcases h.2.2.2.2.2.1 with q | ⟨-, q⟩
        · exact absurd (q1.trans q) hn1
        · rw [q1, q2]
          exact q
      refine ⟨σ, fun k hk => ?_, h, hL⟩
      have e12 : σ.1 2 12 = nI 400 := hL.2.2.2.2.1.2.2.2.2.2
      unfold oX1_passOf
      rw [if_pos q1, if_pos q2, e12, if_neg (fun q => by have := (pl_lt (by omega) (by omega)).mp q; omega)]
    · refine ⟨σ1, fun k _ => ?_, f2, f3⟩
      unfold oX1_passOf
      rw [if_pos q1, if_neg q2, f1]
  · refine ⟨σ1, fun k _ => ?_, f2, f3⟩
    unfold oX1_passOf
    rw [if_neg q1, f1]
/-- both sides -/
theorem pz_lay (h : pz_1 K B β bp T U H wt σ τ) (hK : K ≤ 24) (hps : ps = 1 ∨ ps = 2) (set : Int32) (hυ : pz_FM τ υ) : ∃ (σ1 : ol_Xm) (υ0 υ1 : ol_Mm) (p : ol_Pp) (Mk : Nat → Nat → Nat → Prop) (cnt : Nat), (∀ k, k ≤ 400 → oX1_passOf σ β bp ps set (nI k) = some σ1) ∧ oX4_passes υ ps set = some υ1 ∧ pz_1 K B β bp T U H wt σ1 τ ∧ pe_G υ υ1 ∧ (pq_ok p ∧ px_B β p ∧ pm_S υ0 p ∧ pq_n p = pb_n B) ∧ px_I σ1 bp p set (nI 400) 401 0 0 Mk cnt σ1 ∧ pm_I υ0 p set 401 0 0 Mk cnt υ1 := by
  obtain ⟨σ1, a1, a2, a3⟩ := pz_passX h hK hps set
  obtain ⟨-, -, m2, m5, -⟩ := hυ
  obtain ⟨υ0, υ1, b1, b2, b3, b4⟩ := pz_goM (υ := υ) h hK hps set h.2.1.1.1.2.2.1 (fun k _ => congrFun m2 k) ((congrFun m2 1).trans h.2.1.2.2.1.2.1) m5
  exact ⟨σ1, υ0, υ1, _, _, _, a1, b1, a2, b2, ⟨pz_pok h h.2.1.1.1.2.2.1 ps set, pe_B h.2.1.1 h.2.1.2.1, b3, rfl⟩, a3, b4⟩
end PC8
