/-! the kernel checks the plays: how soon a drawn board comes back -/
set_option maxRecDepth 100000
theorem ap_00 : apF 0 0 = true := by decide +kernel
theorem ap_01 : apF 0 1 = true := by decide +kernel
theorem ap_10 : apF 1 0 = true := by decide +kernel
theorem ap_11 : apF 1 1 = true := by decide +kernel
