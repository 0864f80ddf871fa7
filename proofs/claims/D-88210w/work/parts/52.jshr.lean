/-! halves -/
set_option maxRecDepth 100000
theorem shr1F : ∀ w : Fin 4096, nI w.val >>> ((1 : Int32) &&& 31) = nI (w.val / 2) := by decide +kernel
theorem shr1 {n : Nat} (h : n < 4096) : nI n >>> ((1 : Int32) &&& 31) = nI (n / 2) := shr1F ⟨n, h⟩
