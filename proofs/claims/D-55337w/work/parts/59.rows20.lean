/-! ROWS 20: a new set -/
theorem BS_new {E : En} {σ : Mm} {b : Nat} (hO : Ob E σ b 5) (hsz : sz σ = b + 1) (h1 : rd σ b 1 = .int (iz 0)) : BS E (wr (nw σ (.inr (.long, 6)) (fun _ => defaultValue .long)) b 0 (.ref (sz σ))) b (fun _ => 0) 0 := by
  refine ⟨obW (obN hO), by rw [rd_wr_s, hsz], arW (hsz ▸ arNew (Nat.le_trans hO.1 (by omega))), by rw [rd_wr_k _ _ _ _ (by decide), rd_nw_o σ _ _ _ (by omega)]; exact h1, by omega, fun k a c => ?_, fun _ => (by decide : (0 : Nat) < 2 ^ 64), fun _ _ => rfl⟩
  rw [rd_wr_a _ _ _ _ (by omega), ← hsz, rd_nw_s]
  rfl
theorem BS_st {E : En} {σ : Mm} {b : Nat} {V : Nat → Nat} {n : Int} {v : Value} (h : BS E σ b V n) : BS E (wr σ b 2 v) b V n := by
  obtain ⟨h1, h2, h3, h4, h5, h6, h7, h8⟩ := h
  exact ⟨h1, by rw [rd_wr_k _ _ _ _ (by decide)]; exact h2, h3, by rw [rd_wr_k _ _ _ _ (by decide)]; exact h4, h5, fun k a c => by rw [rd_wr_a _ _ _ _ (by omega)]; exact h6 k a c, h7, h8⟩
