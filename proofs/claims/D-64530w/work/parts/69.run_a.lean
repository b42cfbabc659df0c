/-! the checks of two polynomials -/
theorem chk_37 : chk 37 31 = true := by decide +kernel
theorem chk_41 : chk 41 31 = true := by decide +kernel
