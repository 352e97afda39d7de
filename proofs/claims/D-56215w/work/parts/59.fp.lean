/-! a mean brightness is a number: one row a count of colours (a minute or two in all) -/
set_option maxRecDepth 100000
theorem fp_d1 : ∀ g, g < 298 → FP.ddiv (FP.i2d (nI g)) (FP.i2d (nI 3)) &&& 0x7fffffffffffffff ≤ 0x7ff0000000000000 := by decide +kernel
theorem fp_d2 : ∀ g, g < 595 → FP.ddiv (FP.i2d (nI g)) (FP.i2d (nI 6)) &&& 0x7fffffffffffffff ≤ 0x7ff0000000000000 := by decide +kernel
theorem fp_d3 : ∀ g, g < 892 → FP.ddiv (FP.i2d (nI g)) (FP.i2d (nI 9)) &&& 0x7fffffffffffffff ≤ 0x7ff0000000000000 := by decide +kernel
theorem fp_d4 : ∀ g, g < 1189 → FP.ddiv (FP.i2d (nI g)) (FP.i2d (nI 12)) &&& 0x7fffffffffffffff ≤ 0x7ff0000000000000 := by decide +kernel
theorem fp_d5 : ∀ g, g < 1486 → FP.ddiv (FP.i2d (nI g)) (FP.i2d (nI 15)) &&& 0x7fffffffffffffff ≤ 0x7ff0000000000000 := by decide +kernel
theorem fp_d6 : ∀ g, g < 1783 → FP.ddiv (FP.i2d (nI g)) (FP.i2d (nI 18)) &&& 0x7fffffffffffffff ≤ 0x7ff0000000000000 := by decide +kernel
theorem fp_d7 : ∀ g, g < 2080 → FP.ddiv (FP.i2d (nI g)) (FP.i2d (nI 21)) &&& 0x7fffffffffffffff ≤ 0x7ff0000000000000 := by decide +kernel
theorem fp_d8 : ∀ g, g < 2377 → FP.ddiv (FP.i2d (nI g)) (FP.i2d (nI 24)) &&& 0x7fffffffffffffff ≤ 0x7ff0000000000000 := by decide +kernel
theorem fp_d9 : ∀ g, g < 2674 → FP.ddiv (FP.i2d (nI g)) (FP.i2d (nI 27)) &&& 0x7fffffffffffffff ≤ 0x7ff0000000000000 := by decide +kernel
theorem fp_d10 : ∀ g, g < 2971 → FP.ddiv (FP.i2d (nI g)) (FP.i2d (nI 30)) &&& 0x7fffffffffffffff ≤ 0x7ff0000000000000 := by decide +kernel
