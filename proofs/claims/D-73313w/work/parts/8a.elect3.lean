/-! AN ELECTION, III: the model's -/
set_option maxRecDepth 100000
section PE3
variable {B : ol_Bp} {ln : Nat → Int32} {w1 w2 : Nat → Int32} {τ υ : ol_Mm} {set x2 : Int32}
/-- where the words of both passes come from -/
def pe_W (τ : ol_Mm) (n : Nat) (x2 : Int32) (w1 w2 : Nat → Int32) : Prop := ∀ b, b < n → (x2 = 0 → ∀ υ : ol_Mm, (∀ k, υ.1 2 k = τ.1 2 k) → (∀ k, υ.1 5 k = τ.1 5 k) → oX4_wordOf υ (nI b) 1 = some (w1 b) ∧ oX4_wordOf υ (nI b) 2 = some (w2 b)) ∧ (¬ x2 = 0 → τ.1 5 (18 + 12 * b + 4) = w1 b ∧ τ.1 5 (18 + 12 * b + 5) = w2 b)
/-- a state but for what an election writes -/
def pe_G (τ υ : ol_Mm) : Prop := (∀ c k, ¬ (8 ≤ c ∧ c ≤ 13) → ¬ (c = 0 ∧ 23 ≤ k ∧ k ≤ 32) → υ.1 c k = τ.1 c k) ∧ υ.2 = τ.2
theorem pe_G.rf (τ : ol_Mm) : pe_G τ τ := ⟨fun _ _ _ _ => rfl, rfl⟩
theorem pe_G.tr {a b c : ol_Mm} (h1 : pe_G a b) (h2 : pe_G b c) : pe_G a c := ⟨fun i k q1 q2 => (h2.1 i k q1 q2).trans (h1.1 i k q1 q2), h2.2.trans h1.2⟩
theorem pe_G.w (h : pe_G τ υ) (c k : Nat) (x : Int32) (hc : (8 ≤ c ∧ c ≤ 13) ∨ (c = 0 ∧ 23 ≤ k ∧ k ≤ 32)) : pe_G τ (ol_ms υ c k x) := ⟨fun i j q1 q2 => by
  rw [pl_ms, if_neg (fun q => by omega)]
  exact h.1 i j q1 q2, h.2⟩
theorem pe_L33 (hB : pb_ok B) (hM : pb_M B (τ.1 2)) (hW : pe_W τ (pb_n B) x2 w1 w2) (hG : pe_G τ υ) (v3 : Int32) (k20 : Int32 → Int32 → ol_Mm → Option (Int32 × ol_Mm)) (ps : Bool) : ∃ υ1, oX4_elects_L33 set x2 k20 ol_fuel v3 (bif ps then 2 else 1) 0 υ = ((oX4_laysPass υ1 v3).bind fun y1 => (oX4_isFaultyAt y1 (y1.1 2 2)).bind fun y3 => if y3 = 0 then oX4_elects_L121 set x2 k20 (bif ps then 2 else 1) 0 (y1.1 0 30) y1 else oX4_elects_L121 set x2 k20 (bif ps then 2 else 1) 1 (y1.1 0 30) y1) ∧ (∀ b, b < pb_n B → υ1.1 8 b = bif ps then w2 b else w1 b) ∧ (∀ c k, ¬ c = 8 → υ1.1 c k = υ.1 c k) ∧ υ1.2 = υ.2 := by
  have h6 := hB.1.1.2
  refine pl_for (fun n v s => oX4_elects_L33 set x2 k20 n v3 (bif ps then 2 else 1) v s) (pb_n B) (fun k s => (∀ b, b < k → s.1 8 b = bif ps then w2 b else w1 b) ∧ (∀ c k, ¬ c = 8 → s.1 c k = υ.1 c k) ∧ s.2 = υ.2) (fun r => ∃ υ1, r = ((oX4_laysPass υ1 v3).bind fun y1 => (oX4_isFaultyAt y1 (y1.1 2 2)).bind fun y3 => if y3 = 0 then oX4_elects_L121 set x2 k20 (bif ps then 2 else 1) 0 (y1.1 0 30) y1 else oX4_elects_L121 set x2 k20 (bif ps then 2 else 1) 1 (y1.1 0 30) y1) ∧ (∀ b, b < pb_n B → υ1.1 8 b = bif ps then w2 b else w1 b) ∧ (∀ c k, ¬ c = 8 → υ1.1 c k = υ.1 c k) ∧ υ1.2 = υ.2) (fun n k s hk hs ih => ?_) ol_fuel 0 υ (by omega) (by unfold ol_fuel; omega) ⟨fun b q => by omega, fun _ _ _ => rfl, rfl⟩
  obtain ⟨s1, s2, s3⟩ := hs
  show ∃ υ1, oX4_elects_L33 set x2 k20 (n + 1) v3 (bif ps then 2 else 1) (nI k) s = _ ∧ _
  have hn : s.1 2 3 = nI (pb_n B) := (s2 2 3 (by omega)).trans ((hG.1 2 3 (by omega) (by omega)).trans hM.1.2.2.2.1)
  rw [oX4_elects_L33, hn, pl_s]
  by_cases hkn : k < pb_n B
  · have h2 : ∀ j, s.1 2 j = τ.1 2 j := fun j => (s2 2 j (by omega)).trans (hG.1 2 j (by omega) (by omega))
    have h5 : ∀ j, s.1 5 j = τ.1 5 j := fun j => (s2 5 j (by omega)).trans (hG.1 5 j (by omega) (by omega))
    have nx : ∀ x : Int32, x = (bif ps then w2 k else w1 k) → (∀ b, b < k + 1 → (ol_ms s 8 k x).1 8 b = bif ps then w2 b else w1 b) ∧ (∀ c j, ¬ c = 8 → (ol_ms s 8 k x).1 c j = υ.1 c j) ∧ (ol_ms s 8 k x).2 = υ.2 := fun x hx => ⟨fun b hb => by
      by_cases e : b = k
      · rw [e, mx_eq]
        exact hx
      · rw [mx_nk e]
        exact s1 b (by omega), fun c j hc => (mx_ne hc).trans (s2 c j hc), s3⟩
    rw [if_neg (fun q => by have := (pl_le (by omega) (by omega)).mp q; omega)]
    by_cases hx : x2 = 0
    · obtain ⟨g1, g2⟩ := (hW k hkn).1 hx s h2 h5
      rw [if_pos hx]
      cases ps with
      | true =>
        rw [show oX4_wordOf s (nI k) (bif true then 2 else 1) = some (w2 k) from g2, Option.bind_some, pl_in (i := k) (n := 6) (by omega) (by omega), pl_ogt, pl_nn (n := k) (by omega)]
        exact ih hkn _ (nx _ rfl)
      | false =>
        rw [show oX4_wordOf s (nI k) (bif false then 2 else 1) = some (w1 k) from g1, Option.bind_some, pl_in (i := k) (n := 6) (by omega) (by omega), pl_ogt, pl_nn (n := k) (by omega)]
        exact ih hkn _ (nx _ rfl)
    · obtain ⟨g1, g2⟩ := (hW k hkn).2 hx
      rw [if_neg hx]
      cases ps with
      | true =>
        rw [if_neg (show ¬ (bif true then (2 : Int32) else 1) = 1 by decide), show (5 : Int32) = nI 5 from rfl, pw_at (by omega) (by omega), Option.bind_some, pl_in (n := 251) (by omega) (by omega), pl_ogt, pl_in (i := k) (n := 6) (by omega) (by omega), pl_ogt, pl_nn (n := k) (by omega), pl_nn (by omega), h5, g2]
        exact ih hkn _ (nx _ rfl)
      | false =>
        rw [if_pos (show (bif false then (2 : Int32) else 1) = 1 from rfl), show (4 : Int32) = nI 4 from rfl, pw_at (by omega) (by omega), Option.bind_some, pl_in (n := 251) (by omega) (by omega), pl_ogt, pl_in (i := k) (n := 6) (by omega) (by omega), pl_ogt, pl_nn (n := k) (by omega), pl_nn (by omega), h5, g1]
        exact ih hkn _ (nx _ rfl)
  · have e : k = pb_n B := by omega
    subst e
    rw [if_pos (Int32.le_refl _)]
    exact ⟨s, rfl, s1, s2, s3⟩
theorem pm_re {τ0 : ol_Mm} {p : ol_Pp} {T bd bs cnt : Nat} {Mk : Nat → Nat → Nat → Prop} (h : pm_I τ0 p set T bd bs Mk cnt υ) (x : Int32) : pm_I (ol_ms υ 0 30 x) p set T bd bs Mk cnt (ol_ms υ 0 30 x) := by
  obtain ⟨h1, h2, h3, h4, h5, h6, -⟩ := h
  exact ⟨h1, h2, (mx_nk (by omega)).trans h3, (mx_nk (by omega)).trans h4, h5, h6, fun _ _ _ _ => rfl, rfl⟩
/-- one pass of the model, its winners, its faults -/
theorem pe_goM (hB : pb_ok B) (hM : pb_M B (τ.1 2)) (hln : ∀ i, i < 6 → ln i = 0 ∨ ln i = 1 ∨ ln i = 2) (hl : ∀ i, i < 6 → τ.1 5 (12 + i) = ln i) (hG : pe_G τ υ) {w : Nat → Int32} (h8 : ∀ b, b < pb_n B → pl_b set b = true → υ.1 8 b = w b) (hw : ∀ b, b < pb_n B → pl_b set b = true → pl_sm6 (w b) ∧ ¬ w b = 0) : ∃ υ1, oX4_laysPass υ set = some υ1 ∧ pe_G τ υ1 ∧ (∀ k, 30 ≤ k → υ1.1 0 k = υ.1 0 k) ∧ oX4_isFaultyAt υ1 (υ1.1 2 2) = some (sp_fty (pe_P1 B ln set w) (pb_w B)) ∧ ∀ (x : Int32), oX4_winnersAt (ol_ms υ1 0 30 x) ((ol_ms υ1 0 30 x).1 2 2) = some (pe_z1 B ln set w) := by
  have hW := hB.1.2.2.2.1
  have hp : pq_ok (pe_P1 B ln set w) := pe_ok hB hB.1.2.2.1 hln hw
  have hM' : pb_M B (υ.1 2) := by
    have e : υ.1 2 = τ.1 2 := funext fun k => hG.1 2 k (by omega) (by omega)
    rw [e]
    exact hM
  have hS : pm_S υ (pe_P1 B ln set w) := pe_S hB hM' hM'.1.2.1 fun i hi => (hG.1 5 _ (by omega) (by omega)).trans (hl i hi)
  obtain ⟨υ1, e1, h1⟩ := pm_lays (σ := υ) (set := set) hp hS h8 (fun b _ => Iff.rfl)
  have hP := h1.2.2.2
  have hG1 : pe_G τ υ1 := ⟨fun c k q1 q2 => (hP.2.2.2.1 c k q1 (by omega)).trans (hG.1 c k q1 q2), hP.2.2.2.2.trans hG.2⟩
  have hw2 : υ1.1 2 2 = nI (pb_w B) := (hP.is 2).trans hM'.1.2.2.1
  refine ⟨υ1, e1, hG1, fun k hk => hP.2.2.2.1 0 k (by omega) (by omega), ?_, fun x => ?_⟩
  · rw [hw2]
    exact pq_ftyM hp hS h1 (by omega)
  · rw [mx_ne (by omega), hw2]
    have hS2 : pm_S (ol_ms υ1 0 30 x) (pe_P1 B ln set w) := by
      refine pe_S hB ?_ ?_ fun i hi => (hG1.1 5 _ (by omega) (by omega)).trans (hl i hi)
      · have e : (ol_ms υ1 0 30 x).1 2 = υ.1 2 := funext fun k => (mx_ne (by omega)).trans (hP.is k)
        rw [e]
        exact hM'
      · exact (mx_ne (by omega)).trans ((hP.is 1).trans hM'.1.2.1)
    have h3 := pq_winM hp hS2 (pm_re h1 x) (t := pb_w B) (by omega)
    exact h3
theorem pe_electM (hB : pb_ok B) (hM : pb_M B (τ.1 2)) (hln : ∀ i, i < 6 → ln i = 0 ∨ ln i = 1 ∨ ln i = 2) (hl : ∀ i, i < 6 → τ.1 5 (12 + i) = ln i) (hs0 : ¬ set = 0) (hw : ∀ b, b < pb_n B → pl_b set b = true → pl_sm6 (w1 b) ∧ ¬ w1 b = 0) {wr : Nat → Int32} (hwr : ∀ b, b < pb_n B → pl_b set b = true → wr b = w1 b) (hW : pe_W τ (pb_n B) x2 wr (sp_w2 (pb_cd B))) : ∃ τ', oX4_elects τ set x2 = some (pe_el B ln set w1, τ') ∧ pe_G τ τ' ∧ τ'.1 0 30 = pe_fd B ln set w1 ∧ τ'.1 0 31 = pe_z1 B ln set w1 ∧ τ'.1 0 32 = pe_z2 B ln set w1 := by
  have hw2 : ∀ b, b < pb_n B → pl_sm6 (sp_w2 (pb_cd B) b) ∧ ¬ sp_w2 (pb_cd B) b = 0 := fun b hb => pl_parsm (hB.2.1 b hb).2.2.2
  have hG0 : pe_G τ (ol_ms (ol_ms (ol_ms τ 0 30 0) 0 31 0) 0 32 0) := (((pe_G.rf τ).w 0 30 0 (by omega)).w 0 31 0 (by omega)).w 0 32 0 (by omega)
  obtain ⟨n, en⟩ : ∃ m, ol_fuel = m + 1 + 1 + 1 := ⟨ol_fuel - 3, by unfold ol_fuel; omega⟩
  obtain ⟨k, ek, hk⟩ := pl_sm_lt (pe_z2s (B := B) (ln := ln) (set := set) (w1 := w1))
  have eel : pe_el B ln set w1 = pe_one k := by
    unfold pe_el
    rw [ek, pl_nn (n := k) (by omega)]
  -- how it ends
  have fin : ∀ (m : Nat) (v4 : Int32) (υ : ol_Mm), (3 ≤ v4 ∨ pe_z2 B ln set w1 = 0) → oX4_elects_L20 set x2 (m + 1) (pe_z2 B ln set w1) v4 υ = some (pe_el B ln set w1, υ) := fun m v4 υ hv => by
    rw [oX4_elects_L20]
    have e2 : oX4_elects_L178 set x2 ol_fuel (pe_z2 B ln set w1) 0 υ = some (pe_el B ln set w1, υ) := by
      rw [eel, ek]
      exact pe_178' hk set x2
    by_cases h3 : 3 ≤ v4
    · rw [if_pos h3]
      exact e2
    · rw [if_neg h3, if_pos (hv.resolve_left h3)]
      exact e2
  obtain ⟨υ0, a1, a2, a3, a4⟩ := pe_L33 (set := set) hB hM hW hG0 set (oX4_elects_L20 set x2 (n + 1 + 1)) false
  have hG1 : pe_G τ υ0 := ⟨fun c j q1 q2 => (a3 c j (by omega)).trans (hG0.1 c j q1 q2), a4.trans hG0.2⟩
  obtain ⟨υ1, b1, b2, b3, b4, b5⟩ := pe_goM hB hM hln hl hG1 (w := w1) (set := set) (fun b hb hs => (a2 b hb).trans (hwr b hb hs)) hw
  have h030 : υ1.1 0 30 = 0 := (b3 30 (by omega)).trans ((a3 0 30 (by omega)).trans ((mx_nk (by omega)).trans ((mx_nk (by omega)).trans mx_eq)))
  unfold oX4_elects
  rw [en, oX4_elects_L20, if_neg (by decide), if_neg hs0]
  have a1' : oX4_elects_L33 set x2 (oX4_elects_L20 set x2 (n + 1 + 1)) ol_fuel set 1 0 (ol_ms (ol_ms (ol_ms τ 0 30 0) 0 31 0) 0 32 0) = _ := a1
  rw [a1', b1, Option.bind_some, b4, Option.bind_some]
  -- behind the first pass
  have key : ∀ x : Int32, x = 0 + sp_fty (pe_P1 B ln set w1) (pb_w B) → ∃ τ', oX4_elects_L20 set x2 (n + 1 + 1) (pe_z1 B ln set w1) (1 + 1) (ol_ms (ol_ms (ol_ms υ1 0 30 x) 0 31 (pe_z1 B ln set w1)) 0 32 0) = some (pe_el B ln set w1, τ') ∧ pe_G τ τ' ∧ τ'.1 0 30 = pe_fd B ln set w1 ∧ τ'.1 0 31 = pe_z1 B ln set w1 ∧ τ'.1 0 32 = pe_z2 B ln set w1 := fun x hx => by
    have hG2 : pe_G τ (ol_ms (ol_ms (ol_ms υ1 0 30 x) 0 31 (pe_z1 B ln set w1)) 0 32 0) := ((b2.w 0 30 x (by omega)).w 0 31 _ (by omega)).w 0 32 0 (by omega)
    by_cases h0 : pe_z1 B ln set w1 = 0
    · have ez : pe_z2 B ln set w1 = 0 := by
        unfold pe_z2
        rw [pl_c_t h0, cond_true]
      have ef : pe_fd B ln set w1 = sp_fty (pe_P1 B ln set w1) (pb_w B) := by
        unfold pe_fd
        rw [pl_c_t h0, cond_true]
      have f := fin (n + 1) (1 + 1) (ol_ms (ol_ms (ol_ms υ1 0 30 x) 0 31 (pe_z1 B ln set w1)) 0 32 0) (Or.inr ez)
      rw [ez] at f
      rw [h0] at f ⊢
      refine ⟨_, f, by rw [h0] at hG2; exact hG2, ?_, ?_, ?_⟩
      · rw [mx_nk (by omega), mx_nk (by omega), mx_eq, hx, ef, Int32.zero_add]
      · rw [mx_nk (by omega), mx_eq]
      · rw [mx_eq, ez]
    · have ez : pe_z2 B ln set w1 = pe_z1 B ln (pe_z1 B ln set w1) (sp_w2 (pb_cd B)) := by
        unfold pe_z2
        rw [pl_c_f h0, cond_false]
      have ef : pe_fd B ln set w1 = sp_fty (pe_P1 B ln set w1) (pb_w B) + sp_fty (pe_P1 B ln (pe_z1 B ln set w1) (sp_w2 (pb_cd B))) (pb_w B) := by
        unfold pe_fd
        rw [pl_c_f h0, cond_false]
      obtain ⟨υ2, c1, c2, c3, c4⟩ := pe_L33 (set := set) hB hM hW hG2 (pe_z1 B ln set w1) (oX4_elects_L20 set x2 (n + 1)) true
      have hG3 : pe_G τ υ2 := ⟨fun c j q1 q2 => (c3 c j (by omega)).trans (hG2.1 c j q1 q2), c4.trans hG2.2⟩
      obtain ⟨υ3, d1, d2, d3, d4, d5⟩ := pe_goM hB hM hln hl hG3 (w := sp_w2 (pb_cd B)) (set := pe_z1 B ln set w1) (fun b hb _ => c2 b hb) (fun b hb _ => hw2 b hb)
      rw [← ez] at d5
      rw [oX4_elects_L20, if_neg (by decide), if_neg h0]
      have c1' : oX4_elects_L33 set x2 (oX4_elects_L20 set x2 (n + 1)) ol_fuel (pe_z1 B ln set w1) (1 + 1) 0 (ol_ms (ol_ms (ol_ms υ1 0 30 x) 0 31 (pe_z1 B ln set w1)) 0 32 0) = _ := c1
      have g30 : υ3.1 0 30 = sp_fty (pe_P1 B ln set w1) (pb_w B) := (d3 30 (by omega)).trans ((c3 0 30 (by omega)).trans ((mx_nk (by omega)).trans ((mx_nk (by omega)).trans (mx_eq.trans (hx.trans (Int32.zero_add _))))))
      have g31 : υ3.1 0 31 = pe_z1 B ln set w1 := (d3 31 (by omega)).trans ((c3 0 31 (by omega)).trans ((mx_nk (by omega)).trans mx_eq))
      rw [c1', d1, Option.bind_some, d4, Option.bind_some]
      have last : ∀ y : Int32, y = sp_fty (pe_P1 B ln (pe_z1 B ln set w1) (sp_w2 (pb_cd B))) (pb_w B) → ∃ τ', oX4_elects_L121 set x2 (oX4_elects_L20 set x2 (n + 1)) (bif true then 2 else 1) y (υ3.1 0 30) υ3 = some (pe_el B ln set w1, τ') ∧ pe_G τ τ' ∧ τ'.1 0 30 = pe_fd B ln set w1 ∧ τ'.1 0 31 = pe_z1 B ln set w1 ∧ τ'.1 0 32 = pe_z2 B ln set w1 := fun y hy => by
        unfold oX4_elects_L121 oX4_elects_L151
        rw [d5, Option.bind_some, if_neg (show ¬ (bif true then (2 : Int32) else 1) = 1 by decide), if_pos (show (bif true then (2 : Int32) else 1) = 2 from rfl), fin n _ _ (Or.inl (by decide))]
        refine ⟨_, rfl, ((d2.w 0 30 _ (by omega)).w 0 31 _ (by omega)).w 0 32 _ (by omega), ?_, ?_, ?_⟩
        · rw [mx_nk (by omega), mx_nk (by omega), mx_eq, g30, ef, hy]
        · rw [mx_nk (by omega), mx_eq, mx_nk (by omega)]
          exact g31
        · rw [mx_eq]
      rcases sp_fty01 (pe_P1 B ln (pe_z1 B ln set w1) (sp_w2 (pb_cd B))) (pb_w B) with h1 | h1
      · rw [h1, pl_i00]
        exact last 0 h1.symm
      · rw [h1, pl_i10]
        exact last 1 h1.symm
  have first : ∀ y : Int32, y = sp_fty (pe_P1 B ln set w1) (pb_w B) → ∃ τ', oX4_elects_L121 set x2 (oX4_elects_L20 set x2 (n + 1 + 1)) (bif false then 2 else 1) y (υ1.1 0 30) υ1 = some (pe_el B ln set w1, τ') ∧ pe_G τ τ' ∧ τ'.1 0 30 = pe_fd B ln set w1 ∧ τ'.1 0 31 = pe_z1 B ln set w1 ∧ τ'.1 0 32 = pe_z2 B ln set w1 := fun y hy => by
    unfold oX4_elects_L121 oX4_elects_L151
    rw [b5, Option.bind_some, if_pos (show (bif false then (2 : Int32) else 1) = 1 from rfl), if_neg (show ¬ (bif false then (2 : Int32) else 1) = 2 by decide)]
    exact key _ (by rw [h030, hy])
  rcases sp_fty01 (pe_P1 B ln set w1) (pb_w B) with h1 | h1
  · rw [h1, pl_i00]
    exact first 0 h1.symm
  · rw [h1, pl_i10]
    exact first 1 h1.symm
end PE3
