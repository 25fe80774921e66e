/-! ROWS 8: characters -/
theorem nar_cN : ∀ z : Fin 127, narrow .char (.int (iz ((z.val : Nat) : Int))) = .int (iz ((z.val : Nat) : Int)) := by decide +kernel
theorem nar_c {z : Int} (h0 : 0 ≤ z) (h1 : z ≤ 126) : narrow .char (.int (iz z)) = .int (iz z) := by
  have h := nar_cN ⟨z.toNat, by omega⟩
  rw [show (((⟨z.toNat, by omega⟩ : Fin 127).val : Nat) : Int) = z from Int.toNat_of_nonneg h0] at h
  exact h
