/-! CALLS, X: rows of a pass; all sets; filters; who would win -/
set_option maxRecDepth 100000
section PCA
variable {K : Nat} {B : ol_Bp} {β : ol_Bd} {bp r T U H T' U' H' : Nat} {wt wt' : Nat → Option Nat} {σ σ0 σ' σ'' : ol_Xm} {τ τ' υ υ' υ0 υ1 : ol_Mm} {ρ ρ' : Nat → Int32} {p : ol_Pp} {set : Int32} {cnt : Nat} {Mk : Nat → Nat → Nat → Prop}
theorem pz_rows (d5 : px_I σ bp p set (nI 400) 401 0 0 Mk cnt σ) (d6 : pm_I υ0 p set 401 0 0 Mk cnt υ1) {b k : Nat} (hb : b < pq_n p) (hk : k ≤ 400) : σ.1 4 (401 * b + k) = υ1.1 9 (401 * b + k) ∧ σ.1 5 (401 * b + k) = υ1.1 10 (401 * b + k) ∧ σ.1 6 (401 * b + k) = υ1.1 11 (401 * b + k) ∧ σ.1 7 (401 * b + k) = υ1.1 12 (401 * b + k) := by
  have a1 := d5.1.1 b k hb (Or.inl (by omega))
  have a2 := d6.1.1 b k hb (Or.inl (by omega))
  obtain ⟨b1, b2, b3⟩ := d5.1.2 b k hb (Or.inl (by omega))
  obtain ⟨c1, c2, c3⟩ := d6.1.2 b k hb (Or.inl (by omega))
  exact ⟨a1.trans a2.symm, b1.trans c1.symm, b2.trans c2.symm, b3.trans c3.symm⟩
theorem pz_row (h : pz_1 K B β bp T U H wt σ τ) (hK : K ≤ 24) (cx cm : Nat) (hc : (cx = 4 ∧ cm = 9) ∨ (cx = 5 ∧ cm = 10) ∨ (cx = 6 ∧ cm = 11) ∨ (cx = 7 ∧ cm = 12)) (x1 x2 x3 x4 : Int32) : pz_E (K + 1) B β bp ((oX1_isBoard σ β bp x3).bind fun y1 => pz_sQ σ β bp y1 x1 x2 x4 x4 fun y5 => ol_og (ol_in ((401 * x3) + x4) 2406) ((oX1_fine y5 (y5.1 cx (((401 * x3) + x4).toNatClampNeg))).bind fun y8 => some (y8.1, y8.2))) ((oX4_isBoard τ x3).bind fun y1 => pz_mQ τ y1 x1 x2 x4 fun y7 => (oX4_cell x3 x4).bind fun y9 => ol_og (ol_in y9 2406) (some ((y7.1 cm y9.toNatClampNeg), y7))) := by
  have go : ∀ fl : Int32, (fl = 0 ∨ fl = 1) → (fl = 1 → ∃ b, b < pb_n B ∧ b < 6 ∧ x3 = nI b) → oX1_isBoard σ β bp x3 = some fl → oX4_isBoard τ x3 = some fl → pz_E (K + 1) B β bp ((oX1_isBoard σ β bp x3).bind fun y1 => pz_sQ σ β bp y1 x1 x2 x4 x4 fun y5 => ol_og (ol_in ((401 * x3) + x4) 2406) ((oX1_fine y5 (y5.1 cx (((401 * x3) + x4).toNatClampNeg))).bind fun y8 => some (y8.1, y8.2))) ((oX4_isBoard τ x3).bind fun y1 => pz_mQ τ y1 x1 x2 x4 fun y7 => (oX4_cell x3 x4).bind fun y9 => ol_og (ol_in y9 2406) (some ((y7.1 cm y9.toNatClampNeg), y7))) := fun fl hfl hb x m => by
    rw [x, m, Option.bind_some, Option.bind_some]
    refine pz_gen h hK fl x1 x2 x4 x4 hfl (fun k k1 k2 => ⟨k, k1, k2⟩) _ _ fun σ1 υ0 υ1 p Mk cnt k f1 k1 k2 ⟨⟨d1, d2, d3, d4⟩, d5, d6⟩ => ?_
    obtain ⟨b, bn, b6, e⟩ := hb f1
    obtain ⟨g1, g2, g3⟩ := pz_cell b6 k1
    obtain ⟨r1, r2, r3, r4⟩ := pz_rows d5 d6 (b := b) (k := k) (by rw [d4]; exact bn) k1
    have er : σ1.1 cx (401 * b + k) = υ1.1 cm (401 * b + k) := by
      rcases hc with ⟨q1, q2⟩ | ⟨q1, q2⟩ | ⟨q1, q2⟩ | ⟨q1, q2⟩ <;> subst q1 <;> subst q2
      · exact r1
      · exact r2
      · exact r3
      · exact r4
    refine ⟨σ1.1 cx (401 * b + k), ?_, ?_⟩
    · rw [e, k2, g1, g2, pl_ogt, g3]
      rfl
    · unfold oX4_cell
      rw [e, k2, g1, Option.bind_some, g2, pl_ogt, g3, er]
  rcases pz_brd h x3 with ⟨b, bn, b6, e, x, m⟩ | ⟨-, x, m⟩
  · exact go 1 (Or.inr rfl) (fun _ => ⟨b, bn, b6, e⟩) x m
  · exact go 0 (Or.inl rfl) (fun q => absurd q.symm pz_10) x m
theorem pz_drives (h : pz_1 K B β bp T U H wt σ τ) (hK : K ≤ 24) (x1 x2 x3 x4 : Int32) : pz_E (K + 1) B β bp (oX1_drives σ β bp x1 x2 x3 x4) (oX4_drives τ x1 x2 x3 x4) := pz_row h hK 4 9 (by omega) x1 x2 x3 x4
theorem pz_seen (h : pz_1 K B β bp T U H wt σ τ) (hK : K ≤ 24) (x1 x2 x3 x4 : Int32) : pz_E (K + 1) B β bp (oX1_seen σ β bp x1 x2 x3 x4) (oX4_seen τ x1 x2 x3 x4) := pz_row h hK 5 10 (by omega) x1 x2 x3 x4
theorem pz_taken (h : pz_1 K B β bp T U H wt σ τ) (hK : K ≤ 24) (x1 x2 x3 x4 : Int32) : pz_E (K + 1) B β bp (oX1_taken σ β bp x1 x2 x3 x4) (oX4_taken τ x1 x2 x3 x4) := pz_row h hK 6 11 (by omega) x1 x2 x3 x4
theorem pz_withdrawn (h : pz_1 K B β bp T U H wt σ τ) (hK : K ≤ 24) (x1 x2 x3 x4 : Int32) : pz_E (K + 1) B β bp (oX1_withdrawn σ β bp x1 x2 x3 x4) (oX4_withdrawn τ x1 x2 x3 x4) := pz_row h hK 7 12 (by omega) x1 x2 x3 x4
theorem pz_edges (h : pz_1 K B β bp T U H wt σ τ) (hK : K ≤ 24) (x1 x2 x3 x4 : Int32) : pz_E (K + 1) B β bp (oX1_edges σ β bp x1 x2 x3 x4) (oX4_edges τ x1 x2 x3 x4) := by
  have go : ∀ fl : Int32, (fl = 0 ∨ fl = 1) → (fl = 1 → ∃ b i, b < pb_n B ∧ x3 = nI b ∧ i < 6 ∧ x4 = nI i) → pz_E (K + 1) B β bp (oX1_edges_L24 β bp x1 x2 x3 x4 fl σ) (oX4_edges_L25 x1 x2 x3 x4 fl τ) := fun fl hfl hb => by
    refine pz_gen h hK fl x1 x2 0 400 hfl (pz_400 0) _ _ fun σ1 υ0 υ1 p Mk cnt k f1 k1 k2 ⟨⟨d1, d2, d3, d4⟩, d5, d6⟩ => ?_
    obtain ⟨b, i, bn, e, i6, ei⟩ := hb f1
    obtain ⟨z, z1, z2⟩ := pq_edges d1 d5 d6 (b := b) (i := i) (by rw [d4]; exact bn) i6 x1 x2
    refine ⟨z, ?_, ?_⟩
    · rw [e, ei, z1]
      rfl
    · rw [e, ei]
      exact z2
  unfold oX1_edges oX4_edges
  rcases pz_brd h x3 with ⟨b, bn, b6, e, x, m⟩ | ⟨-, x, m⟩
  · rw [x, m, Option.bind_some, if_neg pz_10, Option.bind_some, if_neg pz_10]
    rcases pz_rng0 x4 5 (by omega) with ⟨i, i1, i2, i5, i4⟩ | ⟨-, i5, i3⟩
    · rw [show oX1_isIn x4 0 5 = some 1 from i5, show oX4_in x4 0 5 = some 1 from i4, Option.bind_some, if_neg pz_10, Option.bind_some, if_neg pz_10]
      exact go 1 (Or.inr rfl) fun _ => ⟨b, i, bn, e, by omega, i2⟩
    · rw [show oX1_isIn x4 0 5 = some 0 from i5, show oX4_in x4 0 5 = some 0 from i3, Option.bind_some, if_pos rfl, Option.bind_some, if_pos rfl]
      exact go 0 (Or.inl rfl) fun q => absurd q.symm pz_10
  · rw [x, m, Option.bind_some, if_pos rfl, Option.bind_some, if_pos rfl]
    exact go 0 (Or.inl rfl) fun q => absurd q.symm pz_10
/-- over all sets -/
theorem pz_sets (h : pz_1 K B β bp T U H wt σ τ) {S : Type} (LX : Nat → S → Int32 → ol_Xm → Option (Int32 × ol_Xm)) (LM : Nat → S → Int32 → ol_Mm → Option (Int32 × ol_Mm)) (s0 : S)
    (hend : ∀ n m s v σ1 υ1, nI (2 ^ pb_n B) ≤ v → pz_1 K B β bp T U H wt σ1 τ → pz_FM (pz_m τ 0) υ1 → υ1.1 0 1 = 0 → pz_E (K + 1) B β bp (LX (n + 1) s v σ1) (LM (m + 1) s v υ1))
    (hst : ∀ n m s (k : Nat) σ1 υ1, k < 2 ^ pb_n B → 1 ≤ k → pz_1 K B β bp T U H wt σ1 τ → pz_FM (pz_m τ 0) υ1 → υ1.1 0 1 = 0 → (∀ s' σ2 υ2, pz_1 K B β bp T U H wt σ2 τ → pz_FM (pz_m τ 0) υ2 → υ2.1 0 1 = 0 → pz_E (K + 1) B β bp (LX n s' (nI (k + 1)) σ2) (LM m s' (nI (k + 1)) υ2)) → pz_E (K + 1) B β bp (LX (n + 1) s (nI k) σ1) (LM (m + 1) s (nI k) υ1)) : pz_E (K + 1) B β bp (LX 65 s0 1 σ) (LM ol_fuel s0 1 (pz_m τ 0)) := by
  have h6 := h.2.1.1.1.1.2
  have hp : 2 ^ pb_n B ≤ 64 := Nat.le_trans (Nat.pow_le_pow_right (by omega) h6) (by decide)
  have g : ∀ d k n m s σ1 υ1, d + k = 2 ^ pb_n B → 1 ≤ k → d < n → d < m → pz_1 K B β bp T U H wt σ1 τ → pz_FM (pz_m τ 0) υ1 → υ1.1 0 1 = 0 → pz_E (K + 1) B β bp (LX n s (nI k) σ1) (LM m s (nI k) υ1) := by
    intro d
    induction d with
    | zero =>
      intro k n m s σ1 υ1 hk h1 hn hm hs ht hv
      obtain ⟨n, rfl⟩ : ∃ i, n = i + 1 := ⟨n - 1, by omega⟩
      obtain ⟨m, rfl⟩ : ∃ i, m = i + 1 := ⟨m - 1, by omega⟩
      have e : k = 2 ^ pb_n B := by omega
      exact hend n m s _ σ1 υ1 (by rw [e]; exact Int32.le_refl _) hs ht hv
    | succ d ih =>
      intro k n m s σ1 υ1 hk h1 hn hm hs ht hv
      obtain ⟨n, rfl⟩ : ∃ i, n = i + 1 := ⟨n - 1, by omega⟩
      obtain ⟨m, rfl⟩ : ∃ i, m = i + 1 := ⟨m - 1, by omega⟩
      exact hst n m s k σ1 υ1 (by omega) h1 hs ht hv fun s' σ2 υ2 c1 c2 c3 => ih (k + 1) n m s' σ2 υ2 (by omega) (by omega) (by omega) (by omega) c1 c2 c3
  have h1 : 1 ≤ 2 ^ pb_n B := Nat.one_le_two_pow
  exact g (2 ^ pb_n B - 1) 1 65 ol_fuel s0 σ (pz_m τ 0) (by omega) (Nat.le_refl _) (by omega) (by unfold ol_fuel; omega) h pz_FM.rf mx_eq
theorem pz_n2 (hB : pb_ok B) : (1 : Int32) <<< (nI (pb_n B) &&& 31) = nI (2 ^ pb_n B) := pz_sh1 _ hB.1.1.2
/-- one step of such a loop: the pass of set k -/
theorem pz_step (h : pz_1 K B β bp T U H wt σ τ) (hK : K ≤ 24) {ps : Int32} (hps : ps = 1 ∨ ps = 2) (set : Int32) (hm : pz_FM (pz_m τ 0) υ) (hv : υ.1 0 1 = 0) : ∃ (σ1 : ol_Xm) (υ0 υ1 : ol_Mm) (p : ol_Pp) (Mk : Nat → Nat → Nat → Prop) (cnt : Nat), oX1_passOf σ β bp ps set 400 = some σ1 ∧ oX4_passes υ ps set = some υ1 ∧ pz_1 K B β bp T U H wt σ1 τ ∧ pz_FM (pz_m τ 0) υ1 ∧ υ1.1 0 1 = 0 ∧ pz_D B β bp set σ1 υ0 υ1 p Mk cnt := by
  obtain ⟨σ1, υ0, υ1, p, Mk, cnt, a1, a2, a3, a4, a5, a6, a7⟩ := pz_lay h hK hps set ((pz_mF 0).tr hm)
  exact ⟨σ1, υ0, υ1, p, Mk, cnt, a1 400 (Nat.le_refl _), a2, a3, hm.tr a4.z, (a4.1 0 1 (by omega) (by omega)).trans hv, a5, a6, a7⟩
theorem pz_fin (h : pz_1 K B β bp T U H wt σ τ) (hm : pz_FM (pz_m τ 0) υ) (hv : υ.1 0 1 = 0) (z : Int32) : pz_E (K + 1) B β bp (some (z, pz_x σ 0)) (some (z, υ)) := pz_yes h pz_FX.rf hm hv z
theorem pz_slowest (h : pz_1 K B β bp T U H wt σ τ) (hK : K ≤ 24) (x1 : Int32) : pz_E (K + 1) B β bp (oX1_slowest σ β bp x1) (oX4_slowest τ x1) := by
  unfold oX1_slowest oX4_slowest
  rcases pz_why h 1 x1 1 0 (Or.inr rfl) with ⟨w, w1, w2, w3⟩ | ⟨-, f2, -, f4, f5⟩
  · have ex : ((oX1_refuses σ β bp 1 x1 1 0).bind fun y1 => if y1 ≤ 0 then oX1_slowest_L27 β bp x1 65 0 (-1) 1 σ else (oX1_refused σ y1).bind fun y => some (y.1, y.2)) = some (-1, pz_x σ w) := by
      rw [w2]
      rcases w1 with q | q <;> subst q
      · rw [Option.bind_some, if_neg (by decide)]
        rfl
      · rw [Option.bind_some, if_neg (by decide)]
        rfl
    rw [ex]
    exact pz_wno h w1 w3 fun y => oX4_slowest_L24 x1 ol_fuel 0 (-1) 1 y
  · rw [f4, f5, Option.bind_some, if_pos (Int32.le_refl _), Option.bind_some, pz_ref0, Option.bind_some, if_pos rfl]
    refine pz_sets h (fun n (s : Int32 × Int32) v σ => oX1_slowest_L27 β bp x1 n s.1 s.2 v σ) (fun n s v υ => oX4_slowest_L24 x1 n s.1 s.2 v υ) (0, -1) (fun n m s v σ1 υ1 hv hs ht h0 => ?_) fun n m s k σ1 υ1 hk h1 hs ht h0 ih => ?_
    · show pz_E _ _ _ _ (oX1_slowest_L27 β bp x1 (n + 1) s.1 s.2 v σ1) (oX4_slowest_L24 x1 (m + 1) s.1 s.2 v υ1)
      rw [oX1_slowest_L27, oX4_slowest_L24, h.2.1.2.1.1.2.2.2.1, congrFun ht.2.2.1 3, pz_m5 0 2 3 (by omega), h.2.1.2.2.1.2.2.2.1, pz_n2 h.2.1.1, if_pos hv, if_pos hv]
      exact pz_fin hs ht h0 _
    · show pz_E _ _ _ _ (oX1_slowest_L27 β bp x1 (n + 1) s.1 s.2 (nI k) σ1) (oX4_slowest_L24 x1 (m + 1) s.1 s.2 (nI k) υ1)
      obtain ⟨σ2, υ0, υ2, p, Mk, cnt, a1, a2, a3, a4, a5, ⟨d1, d2, d3, d4⟩, d5, d6⟩ := pz_step hs hK f2 (nI k) ht h0
      have hp : 2 ^ pb_n B ≤ 64 := Nat.le_trans (Nat.pow_le_pow_right (by omega) h.2.1.1.1.1.2) (by decide)
      have hc : ¬ nI (2 ^ pb_n B) ≤ nI k := fun q => by
        have := (pl_le (by omega) (by omega)).mp q
        omega
      obtain ⟨q1, q2⟩ := pq_settles d1 d2 d3 d5 d6
      rw [oX1_slowest_L27, oX4_slowest_L24, h.2.1.2.1.1.2.2.2.1, congrFun ht.2.2.1 3, pz_m5 0 2 3 (by omega), h.2.1.2.2.1.2.2.2.1, pz_n2 h.2.1.1, if_neg hc, if_neg hc, a1, Option.bind_some, q1, Option.bind_some, a2, Option.bind_some, q2, Option.bind_some, Option.bind_some, pl_s]
      by_cases c : s.2 < nI (sp_stl p 400)
      · rw [if_pos c, if_neg (Int32.not_le.mpr c)]
        exact ih (nI k, nI (sp_stl p 400)) σ2 υ2 a3 a4 a5
      · rw [if_neg c, if_pos (Int32.not_lt.mp c)]
        exact ih s σ2 υ2 a3 a4 a5
theorem pz_settled (h : pz_1 K B β bp T U H wt σ τ) (hK : K ≤ 24) (x1 x2 : Int32) : pz_E (K + 1) B β bp (oX1_settled σ β bp x1 x2) (oX4_settled τ x1 x2) := by
  unfold oX1_settled oX4_settled
  rcases pz_why h 1 x1 1 x2 (Or.inr rfl) with ⟨w, w1, w2, w3⟩ | ⟨-, f2, -, f4, f5⟩
  · have ex : ((oX1_refuses σ β bp 1 x1 1 x2).bind fun y1 => if y1 ≤ 0 then oX1_settled_L25 β bp x1 x2 65 0 1 σ else (oX1_refused σ y1).bind fun y => some (y.1, y.2)) = some (-1, pz_x σ w) := by
      rw [w2]
      rcases w1 with q | q <;> subst q
      · rw [Option.bind_some, if_neg (by decide)]
        rfl
      · rw [Option.bind_some, if_neg (by decide)]
        rfl
    rw [ex]
    exact pz_wno h w1 w3 fun y => oX4_settled_L22 x1 x2 ol_fuel 0 1 y
  · rw [f4, f5, Option.bind_some, if_pos (Int32.le_refl _), Option.bind_some, pz_ref0, Option.bind_some, if_pos rfl]
    refine pz_sets h (fun n (s : Int32) v σ => oX1_settled_L25 β bp x1 x2 n s v σ) (fun n s v υ => oX4_settled_L22 x1 x2 n s v υ) 0 (fun n m s v σ1 υ1 hv hs ht h0 => ?_) fun n m s k σ1 υ1 hk h1 hs ht h0 ih => ?_
    · show pz_E _ _ _ _ (oX1_settled_L25 β bp x1 x2 (n + 1) s v σ1) (oX4_settled_L22 x1 x2 (m + 1) s v υ1)
      rw [oX1_settled_L25, oX4_settled_L22, h.2.1.2.1.1.2.2.2.1, congrFun ht.2.2.1 3, pz_m5 0 2 3 (by omega), h.2.1.2.2.1.2.2.2.1, pz_n2 h.2.1.1, if_pos hv, if_pos hv]
      exact pz_fin hs ht h0 _
    · show pz_E _ _ _ _ (oX1_settled_L25 β bp x1 x2 (n + 1) s (nI k) σ1) (oX4_settled_L22 x1 x2 (m + 1) s (nI k) υ1)
      obtain ⟨σ2, υ0, υ2, p, Mk, cnt, a1, a2, a3, a4, a5, ⟨d1, d2, d3, d4⟩, d5, d6⟩ := pz_step hs hK f2 (nI k) ht h0
      have hp : 2 ^ pb_n B ≤ 64 := Nat.le_trans (Nat.pow_le_pow_right (by omega) h.2.1.1.1.1.2) (by decide)
      have hc : ¬ nI (2 ^ pb_n B) ≤ nI k := fun q => by
        have := (pl_le (by omega) (by omega)).mp q
        omega
      obtain ⟨q1, q2⟩ := pq_settles d1 d2 d3 d5 d6
      rw [oX1_settled_L25, oX4_settled_L22, h.2.1.2.1.1.2.2.2.1, congrFun ht.2.2.1 3, pz_m5 0 2 3 (by omega), h.2.1.2.2.1.2.2.2.1, pz_n2 h.2.1.1, if_neg hc, if_neg hc, a1, Option.bind_some, q1, Option.bind_some, a2, Option.bind_some, q2, Option.bind_some, pl_s, Int32.add_zero]
      by_cases c : x2 < nI (sp_stl p 400)
      · rw [if_pos c, if_pos c]
        exact ih s σ2 υ2 a3 a4 a5
      · rw [if_neg c, if_neg c]
        exact ih (s + 1) σ2 υ2 a3 a4 a5
theorem pz_enough (h : pz_1 K B β bp T U H wt σ τ) (hK : K ≤ 24) (x1 : Int32) : pz_E (K + 1) B β bp (oX1_enough σ β bp x1) (oX4_enough τ x1) := by
  unfold oX1_enough oX4_enough
  rcases pz_why h 1 x1 1 0 (Or.inr rfl) with ⟨w, w1, w2, w3⟩ | ⟨-, f2, -, f4, f5⟩
  · have ex : ((oX1_refuses σ β bp 1 x1 1 0).bind fun y1 => if y1 ≤ 0 then oX1_enough_L24 β bp x1 65 0 1 σ else (oX1_refused σ y1).bind fun y => some (y.1, y.2)) = some (-1, pz_x σ w) := by
      rw [w2]
      rcases w1 with q | q <;> subst q
      · rw [Option.bind_some, if_neg (by decide)]
        rfl
      · rw [Option.bind_some, if_neg (by decide)]
        rfl
    rw [ex]
    exact pz_wno h w1 w3 fun y => oX4_enough_L21 x1 ol_fuel 0 1 y
  · rw [f4, f5, Option.bind_some, if_pos (Int32.le_refl _), Option.bind_some, pz_ref0, Option.bind_some, if_pos rfl]
    refine pz_sets h (fun n (s : Int32) v σ => oX1_enough_L24 β bp x1 n s v σ) (fun n s v υ => oX4_enough_L21 x1 n s v υ) 0 (fun n m s v σ1 υ1 hv hs ht h0 => ?_) fun n m s k σ1 υ1 hk h1 hs ht h0 ih => ?_
    · show pz_E _ _ _ _ (oX1_enough_L24 β bp x1 (n + 1) s v σ1) (oX4_enough_L21 x1 (m + 1) s v υ1)
      rw [oX1_enough_L24, oX4_enough_L21, h.2.1.2.1.1.2.2.2.1, congrFun ht.2.2.1 3, pz_m5 0 2 3 (by omega), h.2.1.2.2.1.2.2.2.1, pz_n2 h.2.1.1, if_pos hv, if_pos hv]
      exact pz_fin hs ht h0 _
    · show pz_E _ _ _ _ (oX1_enough_L24 β bp x1 (n + 1) s (nI k) σ1) (oX4_enough_L21 x1 (m + 1) s (nI k) υ1)
      obtain ⟨σ2, υ0, υ2, p, Mk, cnt, a1, a2, a3, a4, a5, ⟨d1, d2, d3, d4⟩, d5, d6⟩ := pz_step hs hK f2 (nI k) ht h0
      have hp : 2 ^ pb_n B ≤ 64 := Nat.le_trans (Nat.pow_le_pow_right (by omega) h.2.1.1.1.1.2) (by decide)
      have hc : ¬ nI (2 ^ pb_n B) ≤ nI k := fun q => by
        have := (pl_le (by omega) (by omega)).mp q
        omega
      obtain ⟨z, q1, q2, -⟩ := pq_sure d1 d2 d3 d5 d6
      rw [oX1_enough_L24, oX4_enough_L21, h.2.1.2.1.1.2.2.2.1, congrFun ht.2.2.1 3, pz_m5 0 2 3 (by omega), h.2.1.2.2.1.2.2.2.1, pz_n2 h.2.1.1, if_neg hc, if_neg hc, a1, Option.bind_some, q1, Option.bind_some, a2, Option.bind_some, q2, Option.bind_some, pl_s]
      by_cases c : z = -2
      · rw [if_pos c, if_pos c]
        exact pz_fin a3 a4 a5 _
      · rw [if_neg c, if_neg c]
        by_cases c2 : s < z
        · rw [if_pos c2, if_neg (Int32.not_le.mpr c2)]
          exact ih z σ2 υ2 a3 a4 a5
        · rw [if_neg c2, if_pos (Int32.not_lt.mp c2)]
          exact ih s σ2 υ2 a3 a4 a5
end PCA
