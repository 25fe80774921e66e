/-! ROWS 18: a set's words, more -/
theorem rd_cpm (σ : Mm) (src sp dst dp n b j : Nat) : rd (cpm σ src sp dst dp n) b j = if b = dst ∧ dp ≤ j ∧ j < dp + n then rd σ src (sp + (j - dp)) else rd σ b j := rfl
theorem rd_cpm_a (σ : Mm) (src sp dst dp n : Nat) {b j : Nat} (h : b ≠ dst) : rd (cpm σ src sp dst dp n) b j = rd σ b j := by rw [rd_cpm, if_neg (fun q => h q.1)]
theorem rd_cpm_in (σ : Mm) (src sp dst dp n : Nat) {j : Nat} (h : dp ≤ j) (h1 : j < dp + n) : rd (cpm σ src sp dst dp n) dst j = rd σ src (sp + (j - dp)) := by rw [rd_cpm, if_pos ⟨rfl, h, h1⟩]
theorem rd_cpm_out (σ : Mm) (src sp dst dp n : Nat) {j : Nat} (h : j < dp ∨ dp + n ≤ j) : rd (cpm σ src sp dst dp n) dst j = rd σ dst j := by rw [rd_cpm, if_neg (fun q => by omega)]
theorem frCpm {P : Nat → Nat → Prop} {σ τ : Mm} {src sp dst dp n : Nat} (h : Fr P σ τ) (hp : ∀ j, dst < sz σ → P dst j) : Fr P σ (cpm τ src sp dst dp n) :=
  ⟨h.1, fun b hb => ⟨(h.2 b hb).1, fun j hj => by
    rw [rd_cpm, if_neg (fun q => hj (by rw [q.1]; exact hp j (by rw [← q.1]; exact hb)))]
    exact (h.2 b hb).2 j hj⟩⟩
theorem BS_c {E : En} {σ : Mm} {b : Nat} {V : Nat → Nat} {n : Int} (h : BS E σ b V n) (hn : 0 < n) : BS E (wr (wr σ b 1 (.int (iz (n - 1)))) (b + 1) (n - 1).toNat (.long 0)) b (upW V (n - 1).toNat 0) (n - 1) := by
  obtain ⟨h1, h2, h3, h4, h5, h6, h7, h8⟩ := h
  refine ⟨h1, by rw [rd_wr_a _ _ _ _ (by omega), rd_wr_k _ _ _ _ (by decide)]; exact h2, h3, by rw [rd_wr_a _ _ _ _ (by omega), rd_wr_s], by omega, fun k a c => ?_, fun k => ?_, fun k hk => ?_⟩
  · unfold upW
    by_cases e : k.toNat = (n - 1).toNat
    · rw [e, rd_wr_s, if_pos rfl]
      rfl
    · rw [rd_wr_k _ _ _ _ e, if_neg e, rd_wr_a _ _ _ _ (by omega)]
      exact h6 k a c
  · unfold upW
    split
    · decide
    · exact h7 k
  · unfold upW
    split
    · rfl
    · exact h8 k (by omega)
theorem BS_cp {E : En} {σ : Mm} {b b2 : Nat} {V V2 : Nat → Nat} {n : Int} (h : BS E σ b V 0) (h2 : BS E σ b2 V2 n) (hne : b2 + 1 ≠ b) (hne1 : b2 ≠ b) : BS E (cpm (wr σ b 1 (.int (iz n))) (b2 + 1) 0 (b + 1) 0 n.toNat) b V2 n := by
  obtain ⟨h1, g2, h3, h4, h5, h6, h7, h8⟩ := h
  obtain ⟨k1, k2, k3, k4, k5, k6, k7, k8⟩ := h2
  refine ⟨h1, ?_, h3, ?_, k5, fun k a c => ?_, k7, k8⟩
  · rw [rd_cpm_a _ _ _ _ _ _ (by omega), rd_wr_k _ _ _ _ (by decide)]
    exact g2
  · rw [rd_cpm_a _ _ _ _ _ _ (by omega), rd_wr_s]
  · by_cases q : k < n
    · rw [rd_cpm_in _ _ _ _ _ _ (by omega) (by omega), rd_wr_a _ _ _ _ (by omega), Nat.zero_add, Nat.sub_zero]
      exact k6 k a c
    · rw [rd_cpm_out _ _ _ _ _ _ (Or.inr (by omega)), rd_wr_a _ _ _ _ (by omega), h6 k a c, h8 k.toNat (by omega), k8 k.toNat (by omega)]
/-- the bits of the first words -/
def cB (V : Nat → Nat) : Nat → Nat
  | 0 => 0
  | k + 1 => cB V k + bN (V k) 64 0
theorem cB_sm {V : Nat → Nat} (k : Nat) : ((cB V k : Nat) : Int) = sm (fun i => if bw V i.toNat = true then 1 else 0) (64 * (k : Int)) := by
  have h : ∀ (u j : Nat), j ≤ 64 → sm (fun i => if bw V i.toNat = true then 1 else 0) (64 * (u : Int) + j) = sm (fun i => if bw V i.toNat = true then 1 else 0) (64 * (u : Int)) + ((bN (V u) j 0 : Nat) : Int) := by
    intro u j
    induction j with
    | zero => intro _; rw [show 64 * (u : Int) + ((0 : Nat) : Int) = 64 * (u : Int) by omega]; show _ = _ + ((0 : Nat) : Int); omega
    | succ j ih =>
      intro hj
      rw [show 64 * (u : Int) + ((j + 1 : Nat) : Int) = (64 * (u : Int) + j) + 1 by omega, sm_1 _ (by omega), ih (by omega), bN_add (V u) j 1 0]
      have e : bw V (64 * (u : Int) + (j : Int)).toNat = (V u).testBit j := bw_at (show (64 * (u : Int) + (j : Int)).toNat = 64 * u + j by omega) (by omega)
      rw [e, Nat.zero_add]
      show _ + _ + _ = _ + (((bN (V u) j 0 + ((if (V u).testBit j = true then 1 else 0) + 0)) : Nat) : Int)
      split <;> omega
  induction k with
  | zero => rfl
  | succ k ih =>
    rw [show 64 * ((k + 1 : Nat) : Int) = 64 * (k : Int) + ((64 : Nat) : Int) by omega, h k 64 (Nat.le_refl _), ← ih]
    rfl
theorem cB_n {V : Nat → Nat} {n : Int} (hn : 0 ≤ n ∧ n ≤ 6) (hz : ∀ k : Nat, n ≤ (k : Int) → V k = 0) : cB V n.toNat = cB V 6 := by
  have h : ∀ j : Nat, n.toNat + j ≤ 6 → cB V (n.toNat + j) = cB V n.toNat := by
    intro j
    induction j with
    | zero => exact fun _ => rfl
    | succ j ih =>
      intro hj
      show cB V (n.toNat + j) + bN (V (n.toNat + j)) 64 0 = _
      rw [ih (by omega), hz (n.toNat + j) (by omega)]
      have : bN 0 64 0 = 0 := by decide
      omega
  have h2 := h (6 - n.toNat) (by omega)
  rw [show n.toNat + (6 - n.toNat) = 6 by omega] at h2
  exact h2.symm
theorem cB_s {V : Nat → Nat} {i : Int} (h : 0 ≤ i) : ((cB V i.toNat : Nat) : Int) + ((bN (V i.toNat) 64 0 : Nat) : Int) = ((cB V (i + 1).toNat : Nat) : Int) := by
  rw [show (i + 1).toNat = i.toNat + 1 by omega]
  show _ = (((cB V i.toNat + bN (V i.toNat) 64 0) : Nat) : Int)
  omega
theorem bcard_ok {V : Nat → Nat} {g : Nat → Bool} (hg : ∀ i, bw V i = g i) : ((cB V 6 : Nat) : Int) = bcard g := by
  rw [cB_sm]
  unfold bcard
  exact sm_congr (fun j _ _ => by rw [hg])
