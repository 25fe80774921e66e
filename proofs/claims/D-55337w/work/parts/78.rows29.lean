/-! ROWS 29: an empty state -/
theorem sbg_0 : sbg (fun _ => 0) = fun _ => false := by
  funext i
  unfold sbg wSignOn
  exact decide_eq_false (show ¬ (0 : Int) ≤ -1 by decide)
theorem BG_0 {E : En} {σ : Mm} {b : Nat} {V : Nat → Nat} (h : BS E σ b V 0) : BG E σ b (sbg (fun _ => 0)) := by
  refine ⟨V, 0, h, fun i => ?_⟩
  rw [sbg_0]
  unfold bw
  rw [h.2.2.2.2.2.2.2 _ (by omega), Nat.zero_testBit]
def EP (a : Nat) : Nat → Nat → Prop := fun b j => (b = a ∧ (j = 1 ∨ j = 5 ∨ j = 7 ∨ j = 8)) ∨ b = a + 2 ∨ b = a + 3
theorem SS_0 {E : En} {σ τ : Mm} {a x : Nat} {w ld ow : Int → Int} {ch : Int} {V : Nat → Nat} (h : SS E σ a x w ld ow ch) (hf : Fr (EP a) σ τ) (hB : BS E τ (a + 2) V 0) (h1 : rd τ a 1 = .int (iz 0)) (h5 : rd τ a 5 = .int (iz 0)) (h7 : rd τ a 7 = .int (iz 0)) (h8 : rd τ a 8 = .int (iz 0)) : SS E τ a x (fun _ => 0) ld ow 0 := by
  obtain ⟨hL, hK, -, d, o1, o2, -, -⟩ := h
  have r : ∀ b j, b < sz σ → b ≠ a → b ≠ a + 2 → b ≠ a + 3 → rd τ b j = rd σ b j := fun b j hb q1 q2 q3 => (hf.2 b hb).2 j (fun z => by rcases z with z | z | z; exact q1 z.1; exact q2 z; exact q3 z)
  refine ⟨SL_fr hL hf (fun j hj z => ?_) (fun j z => ?_) (fun j z => ?_), KX_fr hK hf, ⟨h1, h5, h7, h8⟩, BG_0 hB, fun i h0 h9 => ?_, fun b h0 h9 => ?_, fun b h0 h9 => ?_, fun k h0 h9 => ?_⟩
  · rcases z with z | z | z <;> omega
  · rcases z with z | z | z <;> omega
  · rcases z with z | z | z <;> omega
  · rw [r (a + 4) _ hL.2.1.2.1.2.1 (by omega) (by omega) (by omega)]; exact o1 i h0 h9
  · rw [r (a + 6) _ hL.2.1.2.2.2.2.1 (by omega) (by omega) (by omega)]; exact o2 b h0 h9
  · exact absurd h9 (by show ¬ b < (0 : Int); omega)
  · exact absurd h9 (by show ¬ k < (0 : Int); omega)
