/-! NUMBERS for the plain law: nI, bits, six bits, states, loops -/
set_option maxRecDepth 100000
theorem pl_add (a b : Nat) : nI a + nI b = nI (a + b) := (Int32.ofNat_add a b).symm
theorem pl_mul (a b : Nat) : nI a * nI b = nI (a * b) := (Int32.ofNat_mul a b).symm
theorem pl_sub {a b : Nat} (h : b ≤ a) : nI a - nI b = nI (a - b) := (Int32.ofNat_sub a b h).symm
theorem pl_s (a : Nat) : nI a + 1 = nI (a + 1) := (Int32.ofNat_add a 1).symm
theorem pl_int {n : Nat} (h : n < 2147483648) : (nI n).toInt = (n : Int) := Int32.toInt_ofNat_of_lt h
theorem pl_nn {n : Nat} (h : n < 2147483648) : (nI n).toNatClampNeg = n := Int32.toNatClampNeg_ofNat_of_lt h
theorem pl_in {i n : Nat} (h : i < n) (hn : n ≤ 2147483648) : ol_in (nI i) n = true := by
  unfold ol_in
  rw [pl_int (by omega), Bool.and_eq_true, decide_eq_true_eq, decide_eq_true_eq]
  omega
theorem pl_lt {a b : Nat} (ha : a < 2147483648) (hb : b < 2147483648) : nI a < nI b ↔ a < b := by
  rw [Int32.lt_iff_toInt_lt, pl_int ha, pl_int hb]
  omega
theorem pl_le {a b : Nat} (ha : a < 2147483648) (hb : b < 2147483648) : nI a ≤ nI b ↔ a ≤ b := by
  rw [Int32.le_iff_toInt_le, pl_int ha, pl_int hb]
  omega
theorem pl_eq {a b : Nat} (ha : a < 2147483648) (hb : b < 2147483648) : nI a = nI b ↔ a = b := by
  constructor
  · intro h
    have h2 := congrArg Int32.toInt h
    rw [pl_int ha, pl_int hb] at h2
    omega
  · intro h
    rw [h]
theorem pl_of {x : Int32} {n : Int} (h0 : 0 ≤ x.toInt) (h : x.toInt < n) : ∃ k : Nat, x = nI k ∧ (k : Int) < n := by
  refine ⟨x.toNatClampNeg, (Int32.ofNat_toNatClampNeg x (Int32.le_iff_toInt_le.mpr h0)).symm, ?_⟩
  have e : x.toNatClampNeg = x.toInt.toNat := rfl
  omega
theorem pl_in_of {x : Int32} {n : Nat} (h : ol_in x n = true) (hn : n ≤ 2147483648) : ∃ k : Nat, x = nI k ∧ k < n := by
  simp only [ol_in, Bool.and_eq_true, decide_eq_true_eq] at h
  obtain ⟨k, h1, h2⟩ := pl_of h.1 h.2
  exact ⟨k, h1, by omega⟩
/-! bits -/
def pl_b (x : Int32) (i : Nat) : Bool := x.toBitVec.getLsbD i
theorem pl_ext {x y : Int32} (h : ∀ i, i < 32 → pl_b x i = pl_b y i) : x = y := Int32.toBitVec_inj.1 (BitVec.eq_of_getLsbD_eq h)
theorem pl_b_and (x y : Int32) (i : Nat) : pl_b (x &&& y) i = (pl_b x i && pl_b y i) := by
  unfold pl_b
  rw [Int32.toBitVec_and, BitVec.getLsbD_and]
theorem pl_b_or (x y : Int32) (i : Nat) : pl_b (x ||| y) i = (pl_b x i || pl_b y i) := by
  unfold pl_b
  rw [Int32.toBitVec_or, BitVec.getLsbD_or]
theorem pl_b_xor (x y : Int32) (i : Nat) : pl_b (x ^^^ y) i = (pl_b x i ^^ pl_b y i) := by
  unfold pl_b
  rw [Int32.toBitVec_xor, BitVec.getLsbD_xor]
theorem pl_b_m1 : ∀ i, i < 32 → pl_b (-1) i = true := by decide +kernel
theorem pl_b_0 : ∀ i, i < 32 → pl_b 0 i = false := by decide +kernel
theorem pl_b_1 : ∀ i, i < 32 → pl_b 1 i = decide (i = 0) := by decide +kernel
theorem pl_b_not (x : Int32) {i : Nat} (hi : i < 32) : pl_b (x ^^^ (-1)) i = !pl_b x i := by
  rw [pl_b_xor, pl_b_m1 i hi, Bool.xor_true]
theorem pl_b_one : ∀ i, i < 32 → ∀ j, j < 32 → pl_b ((1 : Int32) <<< (nI i &&& 31)) j = decide (j = i) := by decide +kernel
theorem pl_sm : ∀ i, i < 32 → ((nI i &&& 31).toBitVec.smod 32).toNat = i := by decide +kernel
theorem pl_shr (x : Int32) {i j : Nat} (h : i + j < 32) : pl_b (x >>> (nI i &&& 31)) j = pl_b x (i + j) := by
  unfold pl_b
  rw [Int32.toBitVec_shiftRight, BitVec.getLsbD_sshiftRight', pl_sm i (by omega), if_pos h]
  have : ¬ 32 ≤ j := by omega
  simp [this]
theorem pl_and1 (x : Int32) : x &&& 1 = 1 ↔ pl_b x 0 = true := by
  constructor
  · intro h
    have h2 := congrArg (fun z => pl_b z 0) h
    simp only [pl_b_and, pl_b_1 0 (by decide)] at h2
    simpa using h2
  · intro h
    refine pl_ext fun i hi => ?_
    rw [pl_b_and, pl_b_1 i hi]
    by_cases e : i = 0
    · subst e
      rw [h]
      rfl
    · simp [e]
theorem pl_has (x : Int32) {i : Nat} (hi : i < 32) : oX1_has x (nI i) = some (if pl_b x i = true then 1 else 0) := by
  have e : pl_b (x >>> (nI i &&& 31)) 0 = pl_b x i := by rw [pl_shr x (by omega)]; rfl
  unfold oX1_has
  by_cases h : pl_b x i = true
  · rw [if_pos ((pl_and1 _).mpr (by rw [e]; exact h)), if_pos h]
  · rw [if_neg (fun q => h (by rw [← e]; exact (pl_and1 _).mp q)), if_neg h]
theorem pl_hasM (x : Int32) {i : Nat} (hi : i < 32) : oX4_has x (nI i) = some (if pl_b x i = true then 1 else 0) := by
  have e : pl_b (x >>> (nI i &&& 31)) 0 = pl_b x i := by rw [pl_shr x (by omega)]; rfl
  unfold oX4_has
  by_cases h : pl_b x i = true
  · rw [if_pos ((pl_and1 _).mpr (by rw [e]; exact h)), if_pos h]
  · rw [if_neg (fun q => h (by rw [← e]; exact (pl_and1 _).mp q)), if_neg h]
/-! six bits -/
noncomputable def pl_c (P : Prop) : Bool := @decide P (Classical.propDecidable P)
theorem pl_c_iff {P : Prop} : pl_c P = true ↔ P := by
  unfold pl_c
  exact @decide_eq_true_iff P (Classical.propDecidable P)
theorem pl_c_f {P : Prop} (h : ¬ P) : pl_c P = false := by
  cases e : pl_c P with
  | true => exact absurd (pl_c_iff.mp e) h
  | false => rfl
theorem pl_c_t {P : Prop} (h : P) : pl_c P = true := pl_c_iff.mpr h
def pl_6 (a b c d e f : Bool) : Int32 := nI (a.toNat + 2 * b.toNat + 4 * c.toNat + 8 * d.toNat + 16 * e.toNat + 32 * f.toNat)
def pl_g (a b c d e f : Bool) (i : Nat) : Bool := match i with
  | 0 => a
  | 1 => b
  | 2 => c
  | 3 => d
  | 4 => e
  | 5 => f
  | _ => false
theorem pl_6_b : ∀ a b c d e f : Bool, ∀ i, i < 32 → pl_b (pl_6 a b c d e f) i = pl_g a b c d e f i := by decide +kernel
noncomputable def pl_m (f : Nat → Prop) : Int32 := pl_6 (pl_c (f 0)) (pl_c (f 1)) (pl_c (f 2)) (pl_c (f 3)) (pl_c (f 4)) (pl_c (f 5))
theorem pl_m_b (f : Nat → Prop) {i : Nat} (hi : i < 32) : pl_b (pl_m f) i = true ↔ i < 6 ∧ f i := by
  unfold pl_m
  rw [pl_6_b _ _ _ _ _ _ i hi]
  match i, hi with
  | 0, _ => simp [pl_g, pl_c_iff]
  | 1, _ => simp [pl_g, pl_c_iff]
  | 2, _ => simp [pl_g, pl_c_iff]
  | 3, _ => simp [pl_g, pl_c_iff]
  | 4, _ => simp [pl_g, pl_c_iff]
  | 5, _ => simp [pl_g, pl_c_iff]
  | i + 6, _ =>
    have h6 : ¬ i + 6 < 6 := by omega
    simp [pl_g, h6]
theorem pl_bool {a b : Bool} (h : a = true ↔ b = true) : a = b := by
  cases a <;> cases b <;> simp_all
theorem pl_m_of {x : Int32} {f : Nat → Prop} (h : ∀ i, i < 32 → (pl_b x i = true ↔ i < 6 ∧ f i)) : x = pl_m f :=
  pl_ext fun i hi => pl_bool ((h i hi).trans (pl_m_b f hi).symm)
theorem pl_m_ext {f g : Nat → Prop} (h : ∀ i, i < 6 → (f i ↔ g i)) : pl_m f = pl_m g :=
  pl_m_of fun i hi => (pl_m_b f hi).trans ⟨fun q => ⟨q.1, (h i q.1).mp q.2⟩, fun q => ⟨q.1, (h i q.1).mpr q.2⟩⟩
/-- no bit from the sixth on -/
def pl_sm6 (x : Int32) : Prop := ∀ i, 6 ≤ i → i < 32 → pl_b x i = false
theorem pl_m_sm (f : Nat → Prop) : pl_sm6 (pl_m f) := fun i h hi => by
  cases e : pl_b (pl_m f) i with
  | true => exact absurd ((pl_m_b f hi).mp e).1 (by omega)
  | false => rfl
theorem pl_sm_m {x : Int32} (h : pl_sm6 x) : x = pl_m (fun i => pl_b x i = true) := pl_m_of fun i hi => by
  constructor
  · intro e
    refine ⟨?_, e⟩
    by_cases h6 : i < 6
    · exact h6
    · rw [h i (by omega) hi] at e
      cases e
  · exact fun q => q.2
/-- a number of six bits is one of 64 -/
theorem pl_64 : ∀ a b c d e f : Bool, a.toNat + 2 * b.toNat + 4 * c.toNat + 8 * d.toNat + 16 * e.toNat + 32 * f.toNat < 64 := by decide
theorem pl_sm_lt {x : Int32} (h : pl_sm6 x) : ∃ k : Nat, x = nI k ∧ k < 64 := ⟨_, (pl_sm_m h).trans rfl, pl_64 _ _ _ _ _ _⟩
theorem pl_lt_sm0 : ∀ k, k < 64 → ∀ i, i < 32 → 6 ≤ i → pl_b (nI k) i = false := by decide +kernel
theorem pl_lt_sm {k : Nat} (hk : k < 64) : pl_sm6 (nI k) := fun i h hi => pl_lt_sm0 k hk i hi h
/-! states -/
theorem pl_xs (σ : ol_Xm) (c k : Nat) (x : Int32) (c' k' : Nat) : (ol_xs σ c k x).1 c' k' = if c' = c ∧ k' = k then x else σ.1 c' k' := by
  show (if c' = c then upd (σ.1 c) k x else σ.1 c') k' = _
  by_cases h : c' = c
  · subst h
    by_cases h2 : k' = k
    · simp [h2, upd]
    · simp [h2, upd]
  · simp [h]
theorem pl_ms (σ : ol_Mm) (c k : Nat) (x : Int32) (c' k' : Nat) : (ol_ms σ c k x).1 c' k' = if c' = c ∧ k' = k then x else σ.1 c' k' := by
  show (if c' = c then upd (σ.1 c) k x else σ.1 c') k' = _
  by_cases h : c' = c
  · subst h
    by_cases h2 : k' = k
    · simp [h2, upd]
    · simp [h2, upd]
  · simp [h]
theorem pl_xs2 (σ : ol_Xm) (c k : Nat) (x : Int32) : (ol_xs σ c k x).2 = σ.2 := rfl
theorem pl_ms2 (σ : ol_Mm) (c k : Nat) (x : Int32) : (ol_ms σ c k x).2 = σ.2 := rfl
/-! loops -/
theorem pl_for {S R : Type} (L : Nat → Int32 → S → R) (N : Nat) (I : Nat → S → Prop) (Q : R → Prop) (step : ∀ (n i : Nat) (s : S), i ≤ N → I i s → (i < N → ∀ s', I (i + 1) s' → Q (L n (nI (i + 1)) s')) → Q (L (n + 1) (nI i) s)) : ∀ (n i : Nat) (s : S), i ≤ N → N - i < n → I i s → Q (L n (nI i) s) := by
  intro n
  induction n with
  | zero => intro i s _ h _; omega
  | succ n ih => intro i s hi hn hI; exact step n i s hi hI (fun hlt s' hs' => ih (i + 1) s' (by omega) (by omega) hs')
theorem pl_og {α : Type} {c : Bool} {x : Option α} (h : c = true) : ol_og c x = x := by
  subst h
  rfl
theorem pl_bd {α β : Type} {x : Option α} {y : α} {f : α → Option β} (h : x = some y) : x.bind f = f y := by
  rw [h]
  rfl
