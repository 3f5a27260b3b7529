/-! AN ELECTION, II -/
set_option maxRecDepth 100000
def pe_P1 (B : ol_Bp) (ln : Nat → Int32) (set : Int32) (w1 : Nat → Int32) : ol_Pp := pe_p B (pb_f B) ln (fun b => pl_b set b = true) w1
noncomputable def pe_z1 (B : ol_Bp) (ln : Nat → Int32) (set : Int32) (w1 : Nat → Int32) : Int32 := sp_win (pe_P1 B ln set w1) (pb_w B)
noncomputable def pe_z2 (B : ol_Bp) (ln : Nat → Int32) (set : Int32) (w1 : Nat → Int32) : Int32 := bif pl_c (pe_z1 B ln set w1 = 0) then 0 else pe_z1 B ln (pe_z1 B ln set w1) (sp_w2 (pb_cd B))
noncomputable def pe_fd (B : ol_Bp) (ln : Nat → Int32) (set : Int32) (w1 : Nat → Int32) : Int32 := bif pl_c (pe_z1 B ln set w1 = 0) then sp_fty (pe_P1 B ln set w1) (pb_w B) else sp_fty (pe_P1 B ln set w1) (pb_w B) + sp_fty (pe_P1 B ln (pe_z1 B ln set w1) (sp_w2 (pb_cd B))) (pb_w B)
/-- who is elected -/
noncomputable def pe_el (B : ol_Bp) (ln : Nat → Int32) (set : Int32) (w1 : Nat → Int32) : Int32 := pe_one (pe_z2 B ln set w1).toNatClampNeg
section PE2
variable {B : ol_Bp} {β : ol_Bd} {ln : Nat → Int32} {w1 : Nat → Int32} {σ : ol_Xm} {τ : ol_Mm} {bp r : Nat} {set : Int32}
theorem sp_fty01 (p : ol_Pp) (t : Nat) : sp_fty p t = 0 ∨ sp_fty p t = 1 := by
  unfold sp_fty
  cases pl_c (∀ b, b < pq_n p → sp_odd p b t) with
  | true => exact Or.inl rfl
  | false => exact Or.inr rfl
theorem pe_z1n (b : Nat) (hb : b < 32) (h : pl_b (pe_z1 B ln set w1) b = true) : b < pb_n B ∧ pl_b set b = true := by
  unfold pe_z1 sp_win at h
  obtain ⟨-, h1, h2, -⟩ := (pl_m_b _ hb).mp h
  exact ⟨h1, h2⟩
theorem pe_z1s : pl_sm6 (pe_z1 B ln set w1) := by
  unfold pe_z1 sp_win
  exact pl_m_sm _
theorem pe_z2s : pl_sm6 (pe_z2 B ln set w1) := by
  unfold pe_z2
  cases pl_c (pe_z1 B ln set w1 = 0) with
  | true =>
    rw [cond_true]
    exact fun i _ hi => pl_b_0 i hi
  | false =>
    rw [cond_false]
    exact pe_z1s
theorem pe_z2n (b : Nat) (hb : b < 32) (h : pl_b (pe_z2 B ln set w1) b = true) : b < pb_n B ∧ pl_b set b = true := by
  unfold pe_z2 at h
  cases e : pl_c (pe_z1 B ln set w1 = 0) with
  | true =>
    rw [e, cond_true, pl_b_0 b hb] at h
    cases h
  | false =>
    rw [e, cond_false] at h
    exact pe_z1n b hb (pe_z1n b hb h).2
theorem pe_195' {k : Nat} (hk : k < 64) (wf : ol_Xm → Nat → Option Int32) (x1 : Int32) : oX3_passes_L195 β bp r wf x1 (nI k) σ = some (pe_one k, σ) := by
  by_cases h0 : k = 0
  · subst h0
    unfold oX3_passes_L195
    rw [pl_bc (by decide), Option.bind_some, if_neg (by decide)]
    rfl
  · exact pe_195 hk h0 wf x1
theorem pe_178' {k : Nat} (hk : k < 64) (x1 x2 : Int32) : oX4_elects_L178 x1 x2 ol_fuel (nI k) 0 τ = some (pe_one k, τ) := by
  by_cases h0 : k = 0
  · subst h0
    have e : pe_one 0 = -2 := by decide
    rw [e]
    exact pe_178z x1 x2
  · exact pe_178 hk h0 x1 x2
theorem pe_second (hB : pb_ok B) (hX : pb_X B β) (υ : ol_Xm) {b : Nat} (hb : b < pb_n B) : oX12_of υ β b = some (sp_w2 (pb_cd B) b) := by
  have hc := (hB.2.1 b hb).2.2.2
  have h6 := hB.1.1.2
  unfold oX12_of oX1_secondWord
  have e : ol_nb β b = true := by
    unfold ol_nb ol_many
    rw [hX.1.2.2.2.1, pl_nn (n := pb_n B) (by omega)]
    exact decide_eq_true hb
  rw [e, pl_ogt, (hX.2.1 b hb).2.2, pl_sh1 _ hc, pl_par1 _ hc, Option.bind_some, Option.bind_some]
  rfl
/-- a state but for what a pass and an election write -/
def pe_F0 (r : Nat) (σ σ' : ol_Xm) : Prop := (∀ c k, ¬ (2 ≤ c ∧ c ≤ 9) → ¬ (c = 0 ∧ k = 11) → ¬ (c = r ∧ 21 ≤ k) → σ'.1 c k = σ.1 c k) ∧ ∀ q, ¬ q = 3 → σ'.2.1 q = σ.2.1 q
def pe_F (r : Nat) (σ σ' : ol_Xm) : Prop := pe_F0 r σ σ' ∧ σ'.2.2 = σ.2.2
theorem pe_passX (hB : pb_ok B) (hX : pb_X B β) (hln : ∀ i, i < 6 → ln i = 0 ∨ ln i = 1 ∨ ln i = 2) (hr : ol_isr r) (hbus : σ.2.1 r = some bp) (hl : ∀ i, i < 6 → σ.1 (r + 5) i = ln i) {wf : ol_Xm → Nat → Option Int32} (hw : ∀ b, b < pb_n B → pl_b set b = true → pl_sm6 (w1 b) ∧ ¬ w1 b = 0) (hwf : ∀ (υ : ol_Xm) b, b < pb_n B → pl_b set b = true → pe_F0 r σ υ → wf υ b = some (w1 b)) : ∃ σ', oX3_passes σ β bp r wf set = some (pe_el B ln set w1, σ') ∧ pe_F r σ σ' ∧ σ'.1 0 11 = -1 ∧ σ'.1 r 21 = pe_fd B ln set w1 ∧ σ'.1 r 22 = pe_z1 B ln set w1 ∧ σ'.1 r 23 = pe_z2 B ln set w1 := by
  have hr0 : ¬ (2 ≤ r ∧ r ≤ 9) ∧ ¬ r = 0 ∧ ¬ (2 ≤ r + 5 ∧ r + 5 ≤ 9) ∧ ¬ r = 3 := by
    rcases hr with h | h | h <;> subst h <;> decide
  have hw2 : ∀ b, b < pb_n B → pl_sm6 (sp_w2 (pb_cd B) b) ∧ ¬ sp_w2 (pb_cd B) b = 0 := fun b hb => pl_parsm (hB.2.1 b hb).2.2.2
  have ha : pe_F0 r σ (ol_xs (ol_xs (ol_xs σ 0 11 (-1)) r 21 0) r 23 0) := by
    refine ⟨fun c k h1 h2 h3 => ?_, fun _ _ => rfl⟩
    rw [pl_xs, if_neg (fun q => h3 ⟨q.1, by omega⟩), pl_xs, if_neg (fun q => h3 ⟨q.1, by omega⟩), pl_xs, if_neg h2]
  obtain ⟨σ1, e1, e2, e3, f1, f2, f3⟩ := pe_goX (w := w1) (σ := ol_xs (ol_xs (ol_xs σ 0 11 (-1)) r 21 0) r 23 0) (bp := bp) (set := set) (wf := wf) hB hX hln hr (fun i hi => (ha.1 (r + 5) i hr0.2.2.1 (by omega) (by omega)).trans (hl i hi)) hw (fun υ b hb hs g1 g2 => hwf υ b hb hs ⟨fun c k q1 q2 q3 => (g1 c k q1).trans (ha.1 c k q1 q2 q3), fun q hq => (g2 q hq).trans (ha.2 q hq)⟩)
  have hz1 : sp_win (pe_p B (pb_f B) ln (fun b => pl_b set b = true) w1) (pb_w B) = pe_z1 B ln set w1 := rfl
  rw [hz1] at e2
  have hb1 : σ1.2.1 r = some bp := (f2 r hr0.2.2.2).trans hbus
  have e4 := e3 (ol_xs σ1 r 22 (pe_z1 B ln set w1)) (fun c k hc => px_ne hc) rfl
  have hfty1 : sp_fty (pe_p B (pb_f B) ln (fun b => pl_b set b = true) w1) (pb_w B) = sp_fty (pe_P1 B ln set w1) (pb_w B) := rfl
  rw [hfty1] at e4
  -- the state behind the first pass, its faults counted
  have g21 : σ1.1 r 21 = 0 := (f1 r 21 hr0.1).trans ((px_nk (by omega)).trans px_eq)
  have g23 : σ1.1 r 23 = 0 := (f1 r 23 hr0.1).trans px_eq
  have g011 : σ1.1 0 11 = -1 := (f1 0 11 (by omega)).trans ((px_ne (fun q => hr0.2.1 q.symm)).trans ((px_ne (fun q => hr0.2.1 q.symm)).trans px_eq))
  have hF1 : pe_F r σ σ1 := ⟨⟨fun c k h1 h2 h3 => (f1 c k h1).trans (ha.1 c k h1 h2 h3), fun q hq => (f2 q hq).trans (ha.2 q hq)⟩, f3⟩
  have key : ∀ (υ : ol_Xm), pe_F r σ υ → υ.1 0 11 = -1 → υ.1 r 21 = sp_fty (pe_P1 B ln set w1) (pb_w B) → υ.1 r 22 = pe_z1 B ln set w1 → υ.1 r 23 = 0 → ∃ σ', oX3_passes_L98 β bp r wf set (pe_z1 B ln set w1) υ = some (pe_el B ln set w1, σ') ∧ pe_F r σ σ' ∧ σ'.1 0 11 = -1 ∧ σ'.1 r 21 = pe_fd B ln set w1 ∧ σ'.1 r 22 = pe_z1 B ln set w1 ∧ σ'.1 r 23 = pe_z2 B ln set w1 := fun υ hF k11 k21 k22 k23 => by
    unfold oX3_passes_L98
    by_cases h0 : pe_z1 B ln set w1 = 0
    · have ez : pe_z2 B ln set w1 = 0 := by
        unfold pe_z2
        rw [pl_c_t h0, cond_true]
      have ef : pe_fd B ln set w1 = sp_fty (pe_P1 B ln set w1) (pb_w B) := by
        unfold pe_fd
        rw [pl_c_t h0, cond_true]
      have ee : pe_el B ln set w1 = -2 := by
        unfold pe_el
        rw [ez]
        decide
      rw [if_pos h0, ee, ef, ez]
      exact ⟨υ, rfl, hF, k11, k21, k22, k23⟩
    · have hbu : υ.2.1 r = some bp := (hF.1.2 r hr0.2.2.2).trans hbus
      have ez : pe_z2 B ln set w1 = pe_z1 B ln (pe_z1 B ln set w1) (sp_w2 (pb_cd B)) := by
        unfold pe_z2
        rw [pl_c_f h0, cond_false]
      have ef : pe_fd B ln set w1 = sp_fty (pe_P1 B ln set w1) (pb_w B) + sp_fty (pe_P1 B ln (pe_z1 B ln set w1) (sp_w2 (pb_cd B))) (pb_w B) := by
        unfold pe_fd
        rw [pl_c_f h0, cond_false]
      obtain ⟨σ2, p1, p2, p3, q1, q2, q3⟩ := pe_goX (w := sp_w2 (pb_cd B)) (σ := υ) (bp := bp) (set := pe_z1 B ln set w1) (wf := fun σ i => oX12_of σ β i) hB hX hln hr (fun i hi => (hF.1.1 (r + 5) i hr0.2.2.1 (by omega) (by omega)).trans (hl i hi)) (fun b hb _ => hw2 b hb) (fun υ2 b hb _ _ _ => pe_second hB hX υ2 hb)
      have hz2 : sp_win (pe_p B (pb_f B) ln (fun b => pl_b (pe_z1 B ln set w1) b = true) (sp_w2 (pb_cd B))) (pb_w B) = pe_z2 B ln set w1 := ez.symm
      rw [hz2] at p2
      have hb2 : σ2.2.1 r = some bp := (q2 r hr0.2.2.2).trans hbu
      have p4 := p3 (ol_xs σ2 r 23 (pe_z2 B ln set w1)) (fun c k hc => px_ne hc) rfl
      have hfty2 : sp_fty (pe_p B (pb_f B) ln (fun b => pl_b (pe_z1 B ln set w1) b = true) (sp_w2 (pb_cd B))) (pb_w B) = sp_fty (pe_P1 B ln (pe_z1 B ln set w1) (sp_w2 (pb_cd B))) (pb_w B) := rfl
      rw [hfty2] at p4
      obtain ⟨k, ek, hk⟩ := pl_sm_lt (pe_z2s (B := B) (ln := ln) (set := set) (w1 := w1))
      have eel : pe_el B ln set w1 = pe_one k := by
        unfold pe_el
        rw [ek, pl_nn (n := k) (by omega)]
      have m21 : σ2.1 r 21 = sp_fty (pe_P1 B ln set w1) (pb_w B) := (q1 r 21 hr0.1).trans k21
      have hF2 : ∀ x, pe_F r σ (ol_xs (ol_xs σ2 r 23 (pe_z2 B ln set w1)) r 21 x) := fun x => ⟨⟨fun c k h1 h2 h3 => by
        rw [pl_xs, if_neg (fun q => h3 ⟨q.1, by omega⟩), pl_xs, if_neg (fun q => h3 ⟨q.1, by omega⟩)]
        exact (q1 c k h1).trans (hF.1.1 c k h1 h2 h3), fun q hq => (q2 q hq).trans (hF.1.2 q hq)⟩, q3.trans hF.2⟩
      have hF3 : pe_F r σ (ol_xs σ2 r 23 (pe_z2 B ln set w1)) := ⟨⟨fun c k h1 h2 h3 => by
        rw [pl_xs, if_neg (fun q => h3 ⟨q.1, by omega⟩)]
        exact (q1 c k h1).trans (hF.1.1 c k h1 h2 h3), fun q hq => (q2 q hq).trans (hF.1.2 q hq)⟩, q3.trans hF.2⟩
      have n0 : ¬ (0 : Nat) = r := fun q => hr0.2.1 q.symm
      have hd : decide (σ2.2.1 r = some bp) = true := decide_eq_true hb2
      rw [if_neg h0, hbu, pl_dd, pl_ogt, pl_ogt, p1, Option.bind_some, hd, pl_ogt, p2, Option.bind_some, show decide ((ol_xs σ2 r 23 (pe_z2 B ln set w1)).2.1 r = some bp) = true from hd, pl_ogt, p4, Option.bind_some, eel, ef]
      rcases sp_fty01 (pe_P1 B ln (pe_z1 B ln set w1) (sp_w2 (pb_cd B))) (pb_w B) with h1 | h1
      · rw [h1, pl_i00, Int32.add_zero]
        refine ⟨_, ?_, hF3, (px_ne n0).trans ((q1 0 11 (by omega)).trans k11), (px_nk (by omega)).trans m21, (px_nk (by omega)).trans ((q1 r 22 hr0.1).trans k22), px_eq⟩
        rw [ek]
        exact pe_195' hk wf set
      · rw [h1, pl_i10]
        refine ⟨ol_xs (ol_xs σ2 r 23 (pe_z2 B ln set w1)) r 21 ((ol_xs σ2 r 23 (pe_z2 B ln set w1)).1 r 21 + 1), ?_, hF2 _, (px_ne n0).trans ((px_ne n0).trans ((q1 0 11 (by omega)).trans k11)), px_eq.trans ?_, (px_nk (by omega)).trans ((px_nk (by omega)).trans ((q1 r 22 hr0.1).trans k22)), (px_nk (by omega)).trans px_eq⟩
        · rw [ek]
          exact pe_195' hk wf set
        · rw [px_nk (by omega), m21]
  have hd : decide (σ1.2.1 r = some bp) = true := decide_eq_true hb1
  have n0 : ¬ (0 : Nat) = r := fun q => hr0.2.1 q.symm
  have hda : decide ((ol_xs (ol_xs (ol_xs σ 0 11 (-1)) r 21 0) r 23 0).2.1 r = some bp) = true := decide_eq_true hbus
  unfold oX3_passes oX1_forgets
  rw [Option.bind_some, hda, pl_ogt, pl_ogt, e1, Option.bind_some, hd, pl_ogt, e2, Option.bind_some, show decide ((ol_xs σ1 r 22 (pe_z1 B ln set w1)).2.1 r = some bp) = true from hd, pl_ogt, e4, Option.bind_some]
  have hFa : pe_F r σ (ol_xs σ1 r 22 (pe_z1 B ln set w1)) := ⟨⟨fun c k h1 h2 h3 => by
    rw [pl_xs, if_neg (fun q => h3 ⟨q.1, by omega⟩)]
    exact hF1.1.1 c k h1 h2 h3, hF1.1.2⟩, hF1.2⟩
  rcases sp_fty01 (pe_P1 B ln set w1) (pb_w B) with h1 | h1
  · rw [h1, pl_i00]
    exact key _ hFa ((px_ne n0).trans g011) ((px_nk (by omega)).trans (g21.trans h1.symm)) px_eq ((px_nk (by omega)).trans g23)
  · rw [h1, pl_i10]
    refine key _ ⟨⟨fun c k q1 q2 q3 => ?_, hF1.1.2⟩, hF1.2⟩ ((px_ne n0).trans ((px_ne n0).trans g011)) (px_eq.trans ?_) ((px_nk (by omega)).trans px_eq) ((px_nk (by omega)).trans ((px_nk (by omega)).trans g23))
    · rw [pl_xs, if_neg (fun q => q3 ⟨q.1, by omega⟩)]
      exact hFa.1.1 c k q1 q2 q3
    · rw [px_nk (by omega), g21, h1]
      decide
end PE2
