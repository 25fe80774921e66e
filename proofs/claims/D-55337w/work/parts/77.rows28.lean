/-! ROWS 28: a state under what happens elsewhere -/
theorem SL_fr {P : Nat → Nat → Prop} {E : En} {σ τ : Mm} {a : Nat} (h : SL E σ a) (hf : Fr P σ τ) (h1 : ∀ j, j = 0 ∨ j = 2 ∨ j = 3 ∨ j = 4 ∨ j = 6 → ¬ P a j) (h2 : ∀ j, ¬ P (a + 1) j) (h3 : ∀ j, ¬ P (a + 5) j) : SL E τ a := by
  obtain ⟨⟨l1, l2, l3, l4, l5, l6⟩, ⟨m1, m2, m3, m4⟩, n1, n2⟩ := h
  have r : ∀ j, ¬ P a j → rd τ a j = rd σ a j := fun j hn => (hf.2 a l1.2.1).2 j hn
  refine ⟨⟨obFr hf l1, ?_, ?_, ?_, ?_, ?_⟩, ⟨arFr hf m1, arFr hf m2, arFr hf m3, arFr hf m4⟩, fun b h0 h9 => ⟨?_, obFr hf (n1 b h0 h9).2⟩, fun k h0 h9 => ⟨?_, obFr hf (n2 k h0 h9).2⟩⟩
  · rw [r 0 (h1 0 (by omega))]; exact l2
  · rw [r 2 (h1 2 (by omega))]; exact l3
  · rw [r 3 (h1 3 (by omega))]; exact l4
  · rw [r 4 (h1 4 (by omega))]; exact l5
  · rw [r 6 (h1 6 (by omega))]; exact l6
  · rw [(hf.2 (a + 1) m1.2.1).2 _ (h2 _)]; exact (n1 b h0 h9).1
  · rw [(hf.2 (a + 5) m3.2.1).2 _ (h3 _)]; exact (n2 k h0 h9).1
theorem KX_fr {P : Nat → Nat → Prop} {E : En} {σ τ : Mm} {x : Nat} (h : KX E σ x) (hf : Fr P σ τ) : KX E τ x := ⟨obFr hf h.1, obFr hf h.2.1, obFr hf h.2.2⟩
theorem SS_fr {P : Nat → Nat → Prop} {E : En} {σ τ : Mm} {a x : Nat} {w ld ow : Int → Int} {ch : Int} (h : SS E σ a x w ld ow ch) (hw : w 0 ≤ 6 ∧ w 1 ≤ 20) (hf : Fr P σ τ) (hP : ∀ b j, a ≤ b → b < a + 33 → ¬ P b j) : SS E τ a x w ld ow ch := by
  obtain ⟨hL, hK, ⟨c1, c2, c3, c4⟩, d, o1, o2, o3, o4⟩ := h
  have l1 := hL.1.1
  have r : ∀ b j, b < sz σ → a ≤ b → b < a + 33 → rd τ b j = rd σ b j := fun b j hb a0 b0 => (hf.2 b hb).2 j (hP b j a0 b0)
  refine ⟨SL_fr hL hf (fun j _ => hP a j (by omega) (by omega)) (fun j => hP _ j (by omega) (by omega)) (fun j => hP _ j (by omega) (by omega)), KX_fr hK hf, ⟨?_, ?_, ?_, ?_⟩, BG_fr d hf (fun b j q => hP b j (by omega) (by omega)), fun i h0 h1 => ?_, fun b h0 h1 => ?_, fun b h0 h1 => ?_, fun k h0 h1 => ?_⟩
  · rw [r a 1 l1.2.1 (by omega) (by omega)]; exact c1
  · rw [r a 5 l1.2.1 (by omega) (by omega)]; exact c2
  · rw [r a 7 l1.2.1 (by omega) (by omega)]; exact c3
  · rw [r a 8 l1.2.1 (by omega) (by omega)]; exact c4
  · rw [r (a + 4) _ hL.2.1.2.1.2.1 (by omega) (by omega)]; exact o1 i h0 h1
  · rw [r (a + 6) _ hL.2.1.2.2.2.2.1 (by omega) (by omega)]; exact o2 b h0 h1
  · have h2 := (hL.2.2.1 b h0 (by omega)).2.2.1
    rw [r _ 0 h2 (by omega) (by omega), r _ 1 h2 (by omega) (by omega), r _ 2 h2 (by omega) (by omega)]
    exact o3 b h0 h1
  · have h2 := (hL.2.2.2 k h0 (by omega)).2.2.1
    rw [r _ 0 h2 (by omega) (by omega), r _ 1 h2 (by omega) (by omega), r _ 2 h2 (by omega) (by omega), r _ 3 h2 (by omega) (by omega), r _ 4 h2 (by omega) (by omega), r _ 5 h2 (by omega) (by omega)]
    exact o4 k h0 h1
