/-! ===== division of doubles: not NaN ===== -/
section Fp
theorem fp_ddiv : ∀ s : Nat, s < 721 → ∀ n : Nat, n < 13 → 1 ≤ n → vf_n64 (FP.ddiv (FP.i2d (iI (s : Int))) (FP.i2d (iI (n : Int)))) := by unfold vf_n64; decide +kernel
theorem fp_fdiv : ∀ s : Nat, s < 62 → vf_n32 (FP.fdiv (FP.i2f (iI (s : Int))) 1114898432) := by unfold vf_n32; decide +kernel
end Fp
