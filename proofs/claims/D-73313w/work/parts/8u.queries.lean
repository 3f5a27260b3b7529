/-! CALLS, IX: what is asked of a pass -/
set_option maxRecDepth 100000
def pz_sQ (σ : ol_Xm) (β : ol_Bd) (bp : Nat) (fl x1 x2 x4 x3 : Int32) (q : ol_Xm → Option (Int32 × ol_Xm)) : Option (Int32 × ol_Xm) :=
  (oX1_refuses σ β bp fl x1 x2 x4).bind fun y1 => if y1 ≤ 0 then (oX1_passOf σ β bp x1 x2 x3).bind q else (oX1_refused σ y1).bind fun y => some (y.1, y.2)
def pz_mQ (τ : ol_Mm) (fl x1 x2 x4 : Int32) (q : ol_Mm → Option (Int32 × ol_Mm)) : Option (Int32 × ol_Mm) :=
  (oX4_passWhy τ fl x1 x2 x4).bind fun y1 => (oX4_isRefused τ y1).bind fun y3 => if y3.1 = 0 then (oX4_passes y3.2 x1 x2).bind q else some (-1, y3.2)
section PC9
variable {K : Nat} {B : ol_Bp} {β : ol_Bd} {bp r T U H T' U' H' : Nat} {wt wt' : Nat → Option Nat} {σ σ0 σ' σ'' : ol_Xm} {τ τ' υ υ' : ol_Mm} {ρ ρ' : Nat → Int32}
theorem pz_sh1 : ∀ n, n ≤ 6 → (1 : Int32) <<< (nI n &&& 31) = nI (2 ^ n) := by decide +kernel
theorem pz_both (x y z : Int32) : ∃ v, (v = 0 ∨ v = 1) ∧ oX1_isIn x y z = some v ∧ oX4_in x y z = some v := by
  obtain ⟨e1, e2⟩ := pz_isIn x y z
  refine ⟨_, ?_, e1, e2⟩
  by_cases h1 : x < y
  · rw [if_pos h1]
    exact Or.inl rfl
  · rw [if_neg h1]
    by_cases h2 : z < x
    · rw [if_pos h2]
      exact Or.inl rfl
    · rw [if_neg h2]
      exact Or.inr rfl
theorem pz_set (h : pz_1 K B β bp T U H wt σ τ) (x : Int32) : ∃ v, (v = 0 ∨ v = 1) ∧ oX1_isSet σ β bp x = some v ∧ oX4_isSet τ x = some v := by
  unfold oX1_isSet oX4_isSet
  rw [h.2.1.2.1.1.2.2.2.1, h.2.1.2.2.1.2.2.2.1]
  obtain ⟨v, v1, v2, v3⟩ := pz_both x 1 ((1 : Int32) <<< (nI (pb_n B) &&& 31) - 1)
  rw [v2, v3]
  rcases v1 with q | q <;> subst q
  · exact ⟨0, Or.inl rfl, rfl, rfl⟩
  · exact ⟨1, Or.inr rfl, rfl, rfl⟩
theorem pz_why (h : pz_1 K B β bp T U H wt σ τ) (fl x2 x3 x4 : Int32) (hfl : fl = 0 ∨ fl = 1) : (∃ w, (w = 1 ∨ w = 2) ∧ oX1_refuses σ β bp fl x2 x3 x4 = some w ∧ oX4_passWhy τ fl x2 x3 x4 = some w) ∨ (fl = 1 ∧ (x2 = 1 ∨ x2 = 2) ∧ (∃ k, k ≤ 400 ∧ x4 = nI k) ∧ oX1_refuses σ β bp fl x2 x3 x4 = some 0 ∧ oX4_passWhy τ fl x2 x3 x4 = some 0) := by
  unfold oX1_refuses oX4_passWhy oX1_isPass
  rw [h.1.2.1, if_neg pz_10]
  rcases hfl with q | q
  · rw [if_pos q, if_pos q]
    exact Or.inl ⟨1, Or.inl rfl, rfl, rfl⟩
  · rw [if_neg (by rw [q]; exact pz_10), if_neg (by rw [q]; exact pz_10)]
    rcases pz_rng x2 1 2 (by omega) (by omega) with ⟨k, k0, k1, k2, k5, k4⟩ | ⟨-, k5, k3⟩
    · rw [show oX1_isIn x2 1 2 = some 1 from k5, show oX4_in x2 1 2 = some 1 from k4]
      obtain ⟨v, v1, v2, v3⟩ := pz_set h x3
      rw [v2, v3]
      rcases v1 with e | e <;> subst e
      · exact Or.inl ⟨2, Or.inr rfl, rfl, rfl⟩
      · rcases pz_rng0 x4 400 (by omega) with ⟨t, t1, t2, t5, t4⟩ | ⟨-, t5, t3⟩
        · rw [show oX1_isIn x4 0 400 = some 1 from t5, show oX4_in x4 0 400 = some 1 from t4]
          refine Or.inr ⟨q, ?_, ⟨t, t1, t2⟩, rfl, rfl⟩
          have c : k = 1 ∨ k = 2 := by omega
          rcases c with c | c <;> subst c
          · exact Or.inl k2
          · exact Or.inr k2
        · rw [show oX1_isIn x4 0 400 = some 0 from t5, show oX4_in x4 0 400 = some 0 from t3]
          exact Or.inl ⟨2, Or.inr rfl, rfl, rfl⟩
    · rw [show oX1_isIn x2 1 2 = some 0 from k5, show oX4_in x2 1 2 = some 0 from k3]
      exact Or.inl ⟨2, Or.inr rfl, rfl, rfl⟩
/-- what both sides have laid -/
def pz_D (B : ol_Bp) (β : ol_Bd) (bp : Nat) (set : Int32) (σ1 : ol_Xm) (υ0 υ1 : ol_Mm) (p : ol_Pp) (Mk : Nat → Nat → Nat → Prop) (cnt : Nat) : Prop := (pq_ok p ∧ px_B β p ∧ pm_S υ0 p ∧ pq_n p = pb_n B) ∧ px_I σ1 bp p set (nI 400) 401 0 0 Mk cnt σ1 ∧ pm_I υ0 p set 401 0 0 Mk cnt υ1
theorem pz_wno (h : pz_1 K B β bp T U H wt σ τ) {fl x1 x2 x4 w : Int32} (hw : w = 1 ∨ w = 2) (e2 : oX4_passWhy τ fl x1 x2 x4 = some w) (qM : ol_Mm → Option (Int32 × ol_Mm)) : pz_E (K + 1) B β bp (some (-1, pz_x σ w)) ((oX4_passWhy τ fl x1 x2 x4).bind fun y1 => (oX4_isRefused τ y1).bind fun y3 => if y3.1 = 0 then qM y3.2 else some (-1, y3.2)) := by
  rw [e2]
  rcases hw with q | q <;> subst q
  · rw [Option.bind_some, pz_ref1 (by decide), Option.bind_some, if_neg pz_10]
    exact pz_no h (by decide)
  · rw [Option.bind_some, pz_ref1 (by decide), Option.bind_some, if_neg pz_10]
    exact pz_no h (by decide)
theorem pz_gen (h : pz_1 K B β bp T U H wt σ τ) (hK : K ≤ 24) (fl x1 x2 x4 x3 : Int32) (hfl : fl = 0 ∨ fl = 1) (h3 : ∀ k, k ≤ 400 → x4 = nI k → ∃ k3, k3 ≤ 400 ∧ x3 = nI k3) (qX : ol_Xm → Option (Int32 × ol_Xm)) (qM : ol_Mm → Option (Int32 × ol_Mm)) (hq : ∀ σ1 υ0 υ1 p Mk cnt k, fl = 1 → k ≤ 400 → x4 = nI k → pz_D B β bp x2 σ1 υ0 υ1 p Mk cnt → ∃ z, qX σ1 = some (z, pz_x σ1 0) ∧ qM υ1 = some (z, υ1)) : pz_E (K + 1) B β bp (pz_sQ σ β bp fl x1 x2 x4 x3 qX) (pz_mQ τ fl x1 x2 x4 qM) := by
  unfold pz_sQ pz_mQ
  rcases pz_why h fl x1 x2 x4 hfl with ⟨w, w1, w2, w3⟩ | ⟨f1, f2, ⟨k, k1, k2⟩, f4, f5⟩
  · have ex : ((oX1_refuses σ β bp fl x1 x2 x4).bind fun y1 => if y1 ≤ 0 then (oX1_passOf σ β bp x1 x2 x3).bind qX else (oX1_refused σ y1).bind fun y => some (y.1, y.2)) = some (-1, pz_x σ w) := by
      rw [w2]
      rcases w1 with q | q <;> subst q
      · rw [Option.bind_some, if_neg (by decide)]
        rfl
      · rw [Option.bind_some, if_neg (by decide)]
        rfl
    rw [ex]
    exact pz_wno h w1 w3 fun y => (oX4_passes y x1 x2).bind qM
  · obtain ⟨k3, c1, c2⟩ := h3 k k1 k2
    obtain ⟨σ1, υ0, υ1, p, Mk, cnt, a1, a2, a3, a4, a5, a6, a7⟩ := pz_lay (υ := pz_m τ 0) h hK f2 x2 (pz_mF 0)
    obtain ⟨z, z1, z2⟩ := hq σ1 υ0 υ1 p Mk cnt k f1 k1 k2 ⟨a5, a6, a7⟩
    rw [f4, f5, Option.bind_some, if_pos (Int32.le_refl _), c2, a1 k3 c1, Option.bind_some, z1, Option.bind_some, pz_ref0, Option.bind_some, if_pos rfl, a2, Option.bind_some, z2]
    exact pz_yes a3 pz_FX.rf a4.z ((a4.1 0 1 (by omega) (by omega)).trans mx_eq) z
theorem pz_400 : ∀ (x4 : Int32) k, k ≤ 400 → x4 = nI k → ∃ k3, k3 ≤ 400 ∧ (400 : Int32) = nI k3 := fun _ _ _ _ => ⟨400, Nat.le_refl _, rfl⟩
theorem pz_cell {b k : Nat} (hb : b < 6) (hk : k ≤ 400) : (401 : Int32) * nI b + nI k = nI (401 * b + k) ∧ ol_in (nI (401 * b + k)) 2406 = true ∧ (nI (401 * b + k)).toNatClampNeg = 401 * b + k := ⟨by rw [pl_l401, pl_mul, pl_add], pl_in (by omega) (by omega), pl_nn (by omega)⟩
theorem pz_winners (h : pz_1 K B β bp T U H wt σ τ) (hK : K ≤ 24) (x1 x2 x3 : Int32) : pz_E (K + 1) B β bp (oX1_winners σ β bp x1 x2 x3) (oX4_winners τ x1 x2 x3) := by
  refine pz_gen h hK 1 x1 x2 x3 x3 (Or.inr rfl) (fun k k1 k2 => ⟨k, k1, k2⟩) _ _ fun σ1 υ0 υ1 p Mk cnt k _ k1 k2 ⟨⟨d1, d2, d3, d4⟩, d5, d6⟩ => ⟨sp_win p k, ?_, ?_⟩
  · subst k2
    rw [pq_winX d1 d2 d5 k1 (by omega)]
    rfl
  · subst k2
    rw [pq_winM d1 d3 d6 (by omega)]
    rfl
theorem pz_settles (h : pz_1 K B β bp T U H wt σ τ) (hK : K ≤ 24) (x1 x2 : Int32) : pz_E (K + 1) B β bp (oX1_settles σ β bp x1 x2) (oX4_settles τ x1 x2) := by
  refine pz_gen h hK 1 x1 x2 0 400 (Or.inr rfl) (pz_400 0) _ _ fun σ1 υ0 υ1 p Mk cnt k _ k1 k2 ⟨⟨d1, d2, d3, d4⟩, d5, d6⟩ => ⟨nI (sp_stl p 400), ?_, ?_⟩
  · rw [(pq_settles d1 d2 d3 d5 d6).1]
    rfl
  · rw [(pq_settles d1 d2 d3 d5 d6).2]
    rfl
theorem pz_sure (h : pz_1 K B β bp T U H wt σ τ) (hK : K ≤ 24) (x1 x2 : Int32) : pz_E (K + 1) B β bp (oX1_sure σ β bp x1 x2) (oX4_sure τ x1 x2) := by
  refine pz_gen h hK 1 x1 x2 0 400 (Or.inr rfl) (pz_400 0) _ _ fun σ1 υ0 υ1 p Mk cnt k _ k1 k2 ⟨⟨d1, d2, d3, d4⟩, d5, d6⟩ => ?_
  obtain ⟨z, z1, z2, -⟩ := pq_sure d1 d2 d3 d5 d6
  refine ⟨z, ?_, ?_⟩
  · rw [z1]
    rfl
  · rw [z2]
    rfl
theorem pz_right (h : pz_1 K B β bp T U H wt σ τ) (hK : K ≤ 24) (x1 x2 : Int32) : pz_E (K + 1) B β bp (oX1_right σ β bp x1 x2) (oX4_right τ x1 x2) := by
  refine pz_gen h hK 1 x1 x2 0 0 (Or.inr rfl) (fun _ _ _ => ⟨0, Nat.zero_le _, rfl⟩) _ _ fun σ1 υ0 υ1 p Mk cnt k _ k1 k2 ⟨⟨d1, d2, d3, d4⟩, d5, d6⟩ => ?_
  obtain ⟨z, z1, z2⟩ := pq_right d1 d2 d3 d5 d6
  refine ⟨z, ?_, ?_⟩
  · rw [z1]
    rfl
  · rw [z2]
    rfl
theorem pz_dips (h : pz_1 K B β bp T U H wt σ τ) (hK : K ≤ 24) (x1 x2 : Int32) : pz_E (K + 1) B β bp (oX1_dips σ β bp x1 x2) (oX4_dips τ x1 x2) := by
  refine pz_gen h hK 1 x1 x2 0 400 (Or.inr rfl) (pz_400 0) _ _ fun σ1 υ0 υ1 p Mk cnt k _ k1 k2 ⟨⟨d1, d2, d3, d4⟩, d5, d6⟩ => ⟨nI cnt, ?_, ?_⟩
  · rw [d5.2.2.2.1]
    rfl
  · rw [d6.2.2.1]
theorem pz_faulty (h : pz_1 K B β bp T U H wt σ τ) (hK : K ≤ 24) (x1 x2 x3 : Int32) : pz_E (K + 1) B β bp (oX1_faulty σ β bp x1 x2 x3) (oX4_faulty τ x1 x2 x3) := by
  refine pz_gen h hK 1 x1 x2 x3 x3 (Or.inr rfl) (fun k k1 k2 => ⟨k, k1, k2⟩) _ _ fun σ1 υ0 υ1 p Mk cnt k _ k1 k2 ⟨⟨d1, d2, d3, d4⟩, d5, d6⟩ => ⟨sp_fty p k, ?_, ?_⟩
  · subst k2
    rw [pq_ftyX d1 d2 d5 k1 (by omega)]
    rcases sp_fty01 p k with q | q <;> rw [q] <;> rfl
  · subst k2
    rw [pq_ftyM d1 d3 d6 (by omega)]
    rcases sp_fty01 p k with q | q <;> rw [q] <;> rfl
end PC9
