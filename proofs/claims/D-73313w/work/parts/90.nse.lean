/-! NoSuchElementException out of OpenLines -/
set_option maxRecDepth 100000
def nse_names : List String := ["java/lang/RuntimeException", "java/lang/Exception"]
theorem nse_good : ∀ w ∈ (vx_at0 "OpenLines" 344 RJ26 nse_names).filter goodWord, w ∈ lw_all := by decide +kernel
theorem nse_rest : ∀ w ∈ (vx_at0 "OpenLines" 344 RJ26 nse_names).filter (fun w => !goodWord w), w.onTables = true ∧ w ∈ lw_tbl := by decide +kernel
theorem nse_cast : ∀ w ∈ (vx_at0 "OpenLines" 344 RJ26 nse_names).filter (fun w => !goodWord w), (match w with | .castable _ _ => true | .declares _ => true | .laysStatic _ _ _ => true | _ => false) = true := by decide +kernel
theorem nse_ot : ∀ w ∈ Cond.classLink "OpenLines" 342 RJ26 :: Cond.initialized RJ26 :: vx_at0 "OpenLines" 344 RJ26 nse_names, vx_ot w = true := by decide +kernel
