set_option maxRecDepth 100000
theorem apX19 : ∀ a, a < 8 → ∀ b, b < 8 → a ≠ b → (TX19 a).2.1 ≠ (TX19 b).2.1 ∨ (TX19 a).1 ≠ (TX19 b).1 := by decide +kernel
theorem fiX19 : ∀ k, k < 8 → (TX19 k).2.2.2 = true := by decide +kernel
theorem apX20 : ∀ a, a < 7 → ∀ b, b < 7 → a ≠ b → (TX20 a).2.1 ≠ (TX20 b).2.1 ∨ (TX20 a).1 ≠ (TX20 b).1 := by decide +kernel
theorem fiX20 : ∀ k, k < 7 → (TX20 k).2.2.2 = true := by decide +kernel
theorem apX22 : ∀ a, a < 6 → ∀ b, b < 6 → a ≠ b → (TX22 a).2.1 ≠ (TX22 b).2.1 ∨ (TX22 a).1 ≠ (TX22 b).1 := by decide +kernel
theorem fiX22 : ∀ k, k < 6 → (TX22 k).2.2.2 = true := by decide +kernel
theorem apX23 : ∀ a, a < 6 → ∀ b, b < 6 → a ≠ b → (TX23 a).2.1 ≠ (TX23 b).2.1 ∨ (TX23 a).1 ≠ (TX23 b).1 := by decide +kernel
theorem fiX23 : ∀ k, k < 6 → (TX23 k).2.2.2 = true := by decide +kernel
theorem apX24 : ∀ a, a < 7 → ∀ b, b < 7 → a ≠ b → (TX24 a).2.1 ≠ (TX24 b).2.1 ∨ (TX24 a).1 ≠ (TX24 b).1 := by decide +kernel
theorem fiX24 : ∀ k, k < 7 → (TX24 k).2.2.2 = true := by decide +kernel
