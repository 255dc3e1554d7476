/-! quotients that are no NaN -/
section FPN
theorem fp_d : ∀ a : Fin 397, ∀ b : Fin 5, b.val ≠ 0 → FP.ddiv (FP.i2d (nI a.val)) (FP.i2d (nI b.val)) &&& 0x7fffffffffffffff ≤ 0x7ff0000000000000 := by decide +kernel
theorem fp_f : ∀ a : Fin 65, ∀ b : Fin 65, b.val ≠ 0 → FP.fdiv (FP.i2f (nI a.val)) (FP.i2f (nI b.val)) &&& 0x7fffffff ≤ 0x7f800000 := by decide +kernel
theorem fp_c : ∀ a : Fin 65, ∀ b : Fin 65, b.val ≠ 0 → FP.f2d (FP.fdiv (FP.i2f (nI a.val)) (FP.i2f (nI b.val))) &&& 0x7fffffffffffffff ≤ 0x7ff0000000000000 := by decide +kernel
end FPN
