/-! quotients that are met are numbers -/
set_option maxRecDepth 100000
theorem mean_0 : ∀ i, i < 49 → ∀ j, j < 50 → ∀ b, b < 10 → vf_n64 (FP.ddiv (FP.i2d (Int32.ofInt ((50 * i + j : Nat) - 500 : Int))) (FP.i2d (nI (b + 1)))) := by unfold vf_n64; decide +kernel
theorem frac_0 : ∀ i, i < 7 → ∀ b, b < 6 → vf_n32 (FP.fdiv (FP.i2f (nI i)) (FP.i2f (nI (b + 1)))) ∧ vf_n64 (FP.f2d (FP.fdiv (FP.i2f (nI i)) (FP.i2f (nI (b + 1))))) := by unfold vf_n32 vf_n64; decide +kernel
