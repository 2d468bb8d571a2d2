/-! bits of sets of ten -/
set_option maxRecDepth 100000
/-- a set without, and with, a bit -/
def clrB (a k : Nat) : Nat := if a.testBit k then a - 2 ^ k else a
def setB (a k : Nat) : Nat := if a.testBit k then a else a + 2 ^ k
theorem clr_bit : ∀ k, k < 10 → ∀ a, a < 1024 → (nI a &&& ((1 : Int32) <<< (nI k &&& 31) ^^^ -1)) = nI (clrB a k) := by decide +kernel
theorem set_bit : ∀ k, k < 10 → ∀ a, a < 1024 → (nI a ||| ((1 : Int32) <<< (nI k &&& 31))) = nI (setB a k) := by decide +kernel
theorem clrB_le (a k : Nat) : clrB a k ≤ a := by unfold clrB; split; exact Nat.sub_le _ _; exact Nat.le_refl _
theorem setB_lt : ∀ k, k < 10 → ∀ a, a < 1024 → setB a k < 1024 := by decide +kernel
