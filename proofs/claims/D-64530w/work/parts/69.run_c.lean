/-! the checks of two polynomials -/
theorem chk_59 : chk 59 31 = true := by decide +kernel
theorem chk_61 : chk 61 31 = true := by decide +kernel
