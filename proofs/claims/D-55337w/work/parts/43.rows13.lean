/-! ROWS 13: a new model -/
def PI (E : En) (σ0 σ : Mm) (o k : Nat) (v : Nat → Value) (ks : Nat → FieldType × Nat) : Prop := (Ob E σ o 10 ∧ sz σ = o + 1 + k ∧ Fr (fun b _ => b = o) σ0 σ) ∧ (∀ f, rd σ o f = v f) ∧ ∀ i, i < k → Ar E σ (o + 1 + i) (ks i).1 (ks i).2 ∧ ∀ j, rd σ (o + 1 + i) j = .int 0
def uV (v : Nat → Value) (f : Nat) (x : Value) : Nat → Value := fun g => if g = f then x else v g
def uK (ks : Nat → FieldType × Nat) (k : Nat) (x : FieldType × Nat) : Nat → FieldType × Nat := fun g => if g = k then x else ks g
theorem PI_1 {E : En} {σ0 σ : Mm} {o k : Nat} {v : Nat → Value} {ks : Nat → FieldType × Nat} (h : PI E σ0 σ o k v ks) (hz : sz σ0 = o + 1) (f n : Nat) {ty : FieldType} (hd : defaultValue ty = .int 0) : PI E σ0 (wr (nw σ (.inr (ty, n)) (fun _ => defaultValue ty)) o f (.ref (sz σ))) o (k + 1) (uV v f (.ref (o + 1 + k))) (uK ks k (ty, n)) := by
  obtain ⟨⟨h1, h2, h3⟩, h4, h5⟩ := h
  refine ⟨⟨obW (obN h1), by rw [sz_wr, sz_nw, h2]; omega, frWr (frNw h3) (fun _ => rfl)⟩, fun g => ?_, fun i hi => ?_⟩
  · unfold uV
    by_cases q : g = f
    · rw [q, rd_wr_s, if_pos rfl, h2]
    · rw [rd_wr_k _ _ _ _ q, if_neg q, rd_nw_o σ _ _ g (by omega)]
      exact h4 g
  · unfold uK
    by_cases q : i = k
    · rw [if_pos q, q, ← h2]
      refine ⟨arW (arNew (Nat.le_trans h1.1 (by omega))), fun j => ?_⟩
      rw [rd_wr_a _ _ _ _ (by omega), rd_nw_s, hd]
    · rw [if_neg q]
      have h6 := h5 i (by omega)
      refine ⟨arW (arN h6.1), fun j => ?_⟩
      rw [rd_wr_a _ _ _ _ (by omega), rd_nw_o σ _ _ j (by omega)]
      exact h6.2 j
theorem PI_2 {E : En} {σ0 σ : Mm} {o k : Nat} {v : Nat → Value} {ks : Nat → FieldType × Nat} (h : PI E σ0 σ o k v ks) (f : Nat) (x : Value) : PI E σ0 (wr σ o f x) o k (uV v f x) ks := by
  obtain ⟨⟨h1, h2, h3⟩, h4, h5⟩ := h
  refine ⟨⟨obW h1, h2, frWr h3 (fun _ => rfl)⟩, fun g => ?_, fun i hi => ?_⟩
  · unfold uV
    by_cases q : g = f
    · rw [q, rd_wr_s, if_pos rfl]
    · rw [rd_wr_k _ _ _ _ q, if_neg q]
      exact h4 g
  · have h6 := h5 i hi
    refine ⟨arW h6.1, fun j => ?_⟩
    rw [rd_wr_a _ _ _ _ (by omega)]
    exact h6.2 j
/-- the numbers of a new model -/
def mNew : Nat → Int → Int := fun f _ => if f = 17 then -1 else 0
