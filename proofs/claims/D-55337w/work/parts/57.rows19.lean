/-! ROWS 19: the next bit -/
theorem BS_cp2 {E : En} {τ : Mm} {b b2 : Nat} {V V2 : Nat → Nat} {n : Int} (h : BS E τ b V n) (hz : ∀ k, V k = 0) (h2 : BS E τ b2 V2 n) (hne : b2 + 1 ≠ b) (hne1 : b2 ≠ b) : BS E (cpm τ (b2 + 1) 0 (b + 1) 0 n.toNat) b V2 n := by
  obtain ⟨h1, g2, h3, h4, h5, h6, h7, h8⟩ := h
  obtain ⟨k1, k2, k3, k4, k5, k6, k7, k8⟩ := h2
  refine ⟨h1, ?_, h3, ?_, k5, fun k a c => ?_, k7, k8⟩
  · rw [rd_cpm_a _ _ _ _ _ _ (by omega)]
    exact g2
  · rw [rd_cpm_a _ _ _ _ _ _ (by omega)]
    exact h4
  · by_cases q : k < n
    · rw [rd_cpm_in _ _ _ _ _ _ (by omega) (by omega), Nat.zero_add, Nat.sub_zero]
      exact k6 k a c
    · rw [rd_cpm_out _ _ _ _ _ _ (Or.inr (by omega)), h6 k a c, hz k.toNat, k8 k.toNat (by omega)]
theorem bw_hi {V : Nat → Nat} {g : Nat → Bool} {n : Int} (hg : ∀ i, bw V i = g i) (hz : ∀ k : Nat, n ≤ (k : Int) → V k = 0) {i : Nat} (h : 64 * n ≤ (i : Int)) : g i = false := by
  rw [← hg i]
  unfold bw
  rw [hz (i / 64) (by omega), Nat.zero_testBit]
theorem inv_ok {m : Nat} (hm : m < 2 ^ 64) : ∃ q : Nat, q < 2 ^ 64 ∧ lN m ^^^ (-1) = lN q ∧ ∀ i, i < 64 → q.testBit i = !m.testBit i := by
  obtain ⟨n, hn, e⟩ := wb_of (lN m ^^^ (-1))
  refine ⟨n, hn, e, fun i q => ?_⟩
  have e0 : (lN n).toBitVec.getLsbD i = n.testBit i := by
    rw [wb_tb, BitVec.getLsbD_ofNat]
    simp [q]
  have e1 : (lN m).toBitVec.getLsbD i = m.testBit i := by
    rw [wb_tb, BitVec.getLsbD_ofNat]
    simp [q]
  rw [← e0, ← e, Int64.toBitVec_xor, BitVec.getLsbD_xor, e1, m1_bit i q]
  cases m.testBit i <;> rfl
/-- the bits of word u from f on, of those that are v -/
def qW (g : Nat → Bool) (v : Bool) (f u : Int) (q : Nat) : Prop := q < 2 ^ 64 ∧ (∀ i : Nat, f ≤ i → (i : Int) < 64 * u → g i = !v) ∧ ∀ j : Nat, j < 64 → q.testBit j = (decide (f ≤ 64 * u + j) && (g (64 * u.toNat + j) == v))
theorem qW_0 {g : Nat → Bool} {v : Bool} {f u : Int} {q : Nat} (h : qW g v f u q) (hu : 0 ≤ u) (hq : q = 0) (i : Nat) (h0 : f ≤ i) (h1 : (i : Int) < 64 * (u + 1)) : g i = !v := by
  by_cases c : (i : Int) < 64 * u
  · exact h.2.1 i h0 c
  · have h2 := h.2.2 (i - 64 * u.toNat) (by omega)
    rw [hq, Nat.zero_testBit, show 64 * u.toNat + (i - 64 * u.toNat) = i by omega] at h2
    have h3 : decide (f ≤ 64 * u + ((i - 64 * u.toNat : Nat) : Int)) = true := decide_eq_true (by omega)
    rw [h3, Bool.true_and] at h2
    cases hgi : g i <;> cases v <;> rw [hgi] at h2 <;> first | rfl | exact absurd h2 (by decide)
theorem qW_s {g : Nat → Bool} {v : Bool} {f u : Int} {q q2 : Nat} (h : qW g v f u q) (hf : f < 64 * (u + 1)) (hu : 0 ≤ u) (hq : q = 0) (h2 : q2 < 2 ^ 64) (h3 : ∀ j : Nat, j < 64 → q2.testBit j = (g (64 * (u + 1).toNat + j) == v)) : qW g v f (u + 1) q2 := by
  refine ⟨h2, fun i a b => qW_0 h hu hq i a b, fun j hj => ?_⟩
  rw [h3 j hj, decide_eq_true (show f ≤ 64 * (u + 1) + (j : Int) by omega), Bool.true_and]
theorem qW_k {g : Nat → Bool} {v : Bool} {f u : Int} {q k : Nat} (h : qW g v f u q) (hu : 0 ≤ u) (hk : k < 64) (h1 : q.testBit k = true) (h2 : ∀ i, i < k → q.testBit i = false) : f ≤ u * 64 + k ∧ g (u * 64 + (k : Int)).toNat = v ∧ ∀ i : Nat, f ≤ i → (i : Int) < u * 64 + k → g i = !v := by
  have h3 := h.2.2 k hk
  rw [h1] at h3
  have h4 := (Bool.and_eq_true _ _).mp h3.symm
  have h5 := of_decide_eq_true h4.1
  refine ⟨by omega, ?_, fun i a b => ?_⟩
  · rw [show (u * 64 + (k : Int)).toNat = 64 * u.toNat + k by omega]
    exact (beq_iff_eq).mp h4.2
  · by_cases c : (i : Int) < 64 * u
    · exact h.2.1 i a c
    · have h6 := h.2.2 (i - 64 * u.toNat) (by omega)
      rw [h2 _ (by omega), show 64 * u.toNat + (i - 64 * u.toNat) = i by omega] at h6
      rw [decide_eq_true (show f ≤ 64 * u + ((i - 64 * u.toNat : Nat) : Int) by omega), Bool.true_and] at h6
      cases hgi : g i <;> cases v <;> rw [hgi] at h6 <;> first | rfl | exact absurd h6 (by decide)
theorem qW_b {V : Nat → Nat} {g : Nat → Bool} {v : Bool} {f : Int} {q m : Nat} (hg : ∀ i, bw V i = g i) (h0 : 0 ≤ f) (hq : q < 2 ^ 64) (hm : ∀ j, j < 64 → m.testBit j = (g (64 * (f / 64).toNat + j) == v)) (h : ∀ i, q.testBit i = (decide (f.toNat % 64 ≤ i) && m.testBit i)) : qW g v f (f / 64) q := by
  refine ⟨hq, fun i a b => by omega, fun j hj => ?_⟩
  rw [h j, hm j hj]
  congr 1
  exact decide_eq_decide.mpr (by omega)
