/-! NoSuchElementException out of OpenLines -/
set_option maxRecDepth 100000
def nse_names : List String := ["java/lang/RuntimeException", "java/lang/Exception"]
theorem nse_good : ∀ w ∈ (vx_at0 "OpenLines" 344 RJ26 nse_names).filter goodWord, w ∈ lw_all := by decide +kernel
theorem nse_rest : ∀ w ∈ (vx_at0 "OpenLines" 344 RJ26 nse_names).filter (fun w => !goodWord w), w.onTables = true ∧ w ∈ lw_tbl := by decide +kernel
theorem nse_cast : ∀ w ∈ (vx_at0 "OpenLines" 344 RJ26 nse_names).filter (fun w => !goodWord w), (match w with | .castable _ _ => true | .declares _ => true | _ => false) = true := by decide +kernel
theorem nse_ot : ∀ w ∈ Cond.classLink "OpenLines" 342 RJ26 :: Cond.initialized RJ26 :: vx_at0 "OpenLines" 344 RJ26 nse_names, vx_ot w = true := by decide +kernel
section NSE
variable {X : ol_Cx} {V : ol_Gh} {A : Nat → Prop} {cc : ByteArray} {own nm : String} {nL : Nat} {ret : Option FieldType}
theorem nse_at (hX : ol_CX X V A cc own nm nL ret) : ∀ w ∈ vx_at0 "OpenLines" 344 RJ26 nse_names, w.before X.2.2.2.2.1 X.2.2.1 = true := by
  intro w hw
  by_cases g : goodWord w = true
  · exact hX.ts _ (nse_good w (List.mem_filter.mpr ⟨hw, g⟩))
  · have hw2 : w ∈ (vx_at0 "OpenLines" 344 RJ26 nse_names).filter (fun w => !goodWord w) := List.mem_filter.mpr ⟨hw, by simp [g]⟩
    obtain ⟨h1, h2⟩ := nse_rest w hw2
    have h3 := nse_cast w hw2
    cases w with
    | castable C T => exact (hX.nwC h2).use rfl
    | declares y => exact (hX.nwD h2).use rfl
    | _ => cases h3
/-- new NoSuchElementException(); athrow, in OpenLines -/
theorem ol_nse {P : Option Value → va_W → Prop} {PX : String → Nat → va_W → Prop} {rm : Room} {cells slots : Nat} {ws : va_W} {pc : Nat} {L : List (Option Value)} {st : List Value} (hX : ol_CX X V A cc "OpenLines" nm nL ret) (hpx : X.2.2.2.2.2.2.2.2 = some PX) (hth : ol_Th V)
    (d0 : decode cc pc = .ok (.new 342, 3)) (d3 : decode cc (pc + 3) = .ok (.dup, 1)) (d4 : decode cc (pc + 4) = .ok (.invokespecial 344, 3)) (d7 : decode cc (pc + 7) = .ok (.athrow, 1)) (hR1 : 5 < rm.frames) (hR2 : (st.map fun v => v.category).sum + 81 ≤ rm.locals) (hcs : cells + 1 ≤ rm.cells ∧ slots + 6 ≤ rm.slots) (hp : ∀ q, PX RJ26 q ws) : ol_G X V A true P rm nL cells slots ws pc L st :=
  ol_throw0 hX hpx hth (cls := RJ26) (names := nse_names) (ik := 342) (ic := 344) (by decide) (by decide) q2123 q147 (nse_at hX) nse_ot d0 d3 d4 d7 hR1 hR2 hcs hp
end NSE
theorem nse_f1 : Cond.isRef (.static Bundle.tN "UNASSIGNED_STACK" Bundle.steD) ∈ ol_flat := by decide +kernel
theorem nse_f2 : Cond.isRef (.static Bundle.tN "SUPPRESSED_SENTINEL" Bundle.listD) ∈ ol_flat := by decide +kernel
theorem ol_Th.of {V : ol_Gh} (hS : ol_Start V) (hl : V.1.stackTraces = false) : ol_Th V := ⟨hl, hS.fl _ nse_f1, hS.fl _ nse_f2⟩
