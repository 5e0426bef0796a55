/-! WORDS of what a NoSuchElementException's making asks -/
set_option maxRecDepth 100000
theorem nse_in : ∀ w ∈ vx_at0 "BreakSetter" 154 "java/util/NoSuchElementException" ["java/lang/RuntimeException", "java/lang/Exception"], w ∈ lw_tbl := by
  have h : (vx_at0 "BreakSetter" 154 "java/util/NoSuchElementException" ["java/lang/RuntimeException", "java/lang/Exception"]).all (fun w => lw_tbl.any (fun v => decide (v = w))) = true := by decide +kernel
  intro w hw
  have h1 := List.all_eq_true.mp h w hw
  obtain ⟨v, hv, he⟩ := List.any_eq_true.mp h1
  rw [← of_decide_eq_true he]
  exact hv
