/-! NoSuchElementException out of OpenLines -/
set_option maxRecDepth 100000
def nse_names : List String := ["java/lang/RuntimeException", "java/lang/Exception"]
theorem nse_good : ∀ w ∈ (vx_at0 "OpenLines" 344 RJ26 nse_names).filter goodWord, w ∈ lw_all := by decide +kernel
theorem nse_rest : ∀ w ∈ (vx_at0 "OpenLines" 344 RJ26 nse_names).filter (fun w => !goodWord w), w ∈ [Cond.castable RJ26 RJ26] := by decide +kernel
theorem nse_ot : ∀ w ∈ Cond.classLink "OpenLines" 342 RJ26 :: Cond.initialized RJ26 :: vx_at0 "OpenLines" 344 RJ26 nse_names, vx_ot w = true := by decide +kernel
