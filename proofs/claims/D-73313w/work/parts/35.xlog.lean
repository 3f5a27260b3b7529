/-! the logs: ghosts, pictures -/
set_option maxRecDepth 100000
/-- of the logs: modCounts, where the entries lie (by run, place), all entries there are with their fields -/
abbrev ol_Lh : Type := (Nat → Int32) × (Nat → Nat → Option Nat) × List (Nat × (Nat → Int32))
def ol_Lc (V : ol_Gh) (a : Nat → Nat) (gh : ol_Lh) (lg : Nat → Nat → Int32) (r : Nat) : va_W := [(a (r + 30), .inr (15, [.int (gh.1 r), .ref (a (r + 31)), .int (lg r 0)])), (a (r + 31), .inl (V.2.2.2.2 4, 16, ol_refs (gh.2.1 r)))]
def ol_ent (e : Nat × (Nat → Int32)) : Nat × va_E := (e.1, .inr (12, [.int (e.2 0), .int (e.2 1), .int (e.2 2), .int (e.2 3), .int (e.2 4), .int (e.2 5)]))
def ol_WL (V : ol_Gh) (a : Nat → Nat) (gh : ol_Lh) (lg : Nat → Nat → Int32) : va_W := ol_Lc V a gh lg 10 ++ (ol_Lc V a gh lg 19 ++ (ol_Lc V a gh lg 28 ++ gh.2.2.map ol_ent))
/-- the entries are what the picture says -/
def ol_Rel (gh : ol_Lh) (lg : Nat → Nat → Int32) : Prop := ∀ r, ol_isr r → (0 ≤ (lg r 0).toInt ∧ (lg r 0).toInt ≤ 16) ∧ ∀ i : Nat, i < (lg r 0).toNatClampNeg → ∃ e ∈ gh.2.2, gh.2.1 r i = some e.1 ∧ ∀ k, k < 6 → e.2 k = lg r (1 + 6 * i + k)
