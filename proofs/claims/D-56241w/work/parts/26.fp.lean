set_option maxRecDepth 100000
theorem n64_t : ∀ a : Fin 211, ∀ b : Fin 42, FP.ddiv (FP.i2d (nI a.1)) (FP.i2d (nI (b.1 + 1))) &&& 0x7fffffffffffffff ≤ 0x7ff0000000000000 := by decide +kernel
theorem n32_t : ∀ a : Fin 43, ∀ b : Fin 42, FP.fdiv (FP.i2f (nI a.1)) (FP.i2f (nI (b.1 + 1))) &&& 0x7fffffff ≤ 0x7f800000 := by decide +kernel
