/-! the checks, run by the kernel -/
theorem chk_11 : chk 11 7 = true := by decide +kernel
theorem chk_13 : chk 13 7 = true := by decide +kernel
theorem chk_19 : chk 19 15 = true := by decide +kernel
theorem chk_25 : chk 25 15 = true := by decide +kernel
