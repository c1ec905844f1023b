/-! the kernel checks the tables -/
set_option maxRecDepth 100000
theorem al_00 : alF 0 0 = true := by decide +kernel
theorem al_01 : alF 0 1 = true := by decide +kernel
theorem al_10 : alF 1 0 = true := by decide +kernel
theorem al_11 : alF 1 1 = true := by decide +kernel
