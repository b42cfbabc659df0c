/-! the checks of two polynomials -/
theorem chk_47 : chk 47 31 = true := by decide +kernel
theorem chk_55 : chk 55 31 = true := by decide +kernel
