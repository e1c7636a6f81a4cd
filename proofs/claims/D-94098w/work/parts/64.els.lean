/-! elements of a set, ascending -/
def els (s : Nat) : List Nat := (List.range 6).filter fun k => s.testBit k
theorem els_len : ∀ s, s < 64 → (els s).length = pc s := by decide +kernel
theorem els_lt : ∀ s, s < 64 → ∀ x ∈ els s, x < 6 := by decide +kernel
theorem els_wo : ∀ s, s < 64 → ∀ x, x < 6 → x ∈ els s → (nI s &&& (((1 : Int32) <<< (nI x &&& 31)) ^^^ (-1 : Int32))) = nI (s - 2 ^ x) ∧ 2 ^ x ≤ s ∧ els (s - 2 ^ x) = (els s).erase x := by decide +kernel
theorem els_lie : ∀ s, s < 64 → ∀ x, x < 6 → lieB (nI s) x = decide (x ∈ els s) := by decide +kernel
