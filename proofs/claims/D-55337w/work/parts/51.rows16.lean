/-! ROWS 16: a set's words -/
theorem lN_0 {n : Nat} (h : n < 2 ^ 64) : lN n = 0 ↔ n = 0 := by
  constructor
  · intro q
    have h1 : (lN n).toBitVec = (lN 0).toBitVec := congrArg Int64.toBitVec q
    have h2 := congrArg BitVec.toNat h1
    rw [wb_tn h, wb_tn (by decide)] at h2
    exact h2
  · intro q
    subst q
    rfl
theorem sh_N : ∀ f : Fin 512, (iz ((f.val : Nat) : Int)).toInt64 &&& 63 = (nI (f.val % 64)).toInt64 &&& 63 := by decide +kernel
theorem wi_N : ∀ f : Fin 512, (iz ((f.val : Nat) : Int)) >>> (iz 6 &&& 31) = iz ((f.val / 64 : Nat) : Int) := by decide +kernel
theorem wi_ok {f : Int} (h0 : 0 ≤ f) (h1 : f < 512) : (iz f) >>> (iz 6 &&& 31) = iz (f / 64) := by
  have h := wi_N ⟨f.toNat, by omega⟩
  dsimp only at h
  rw [Int.toNat_of_nonneg h0, show ((f.toNat / 64 : Nat) : Int) = f / 64 by omega] at h
  exact h
theorem shl_ok {f : Int} (h0 : 0 ≤ f) (h1 : f < 512) (n : Nat) : lN n <<< ((iz f).toInt64 &&& 63) = lN (n * 2 ^ (f.toNat % 64)) := by
  have h := sh_N ⟨f.toNat, by omega⟩
  dsimp only at h
  rw [Int.toNat_of_nonneg h0] at h
  rw [h]
  exact wb_shl n (Nat.mod_lt _ (by decide))
theorem m1_lN : (-1 : Int64) = lN (2 ^ 64 - 1) := by decide +kernel
theorem pow_lt64 {k : Nat} (h : k < 64) : 2 ^ k < 2 ^ 64 := Nat.pow_lt_pow_right (by decide) h
/-- the bits from k on -/
theorem and_hi {m : Nat} (hm : m < 2 ^ 64) {f : Int} (h0 : 0 ≤ f) (h1 : f < 512) : ∃ q : Nat, q < 2 ^ 64 ∧ lN m &&& ((-1 : Int64) <<< ((iz f).toInt64 &&& 63)) = lN q ∧ ∀ i, q.testBit i = (decide (f.toNat % 64 ≤ i) && m.testBit i) := by
  have hk : f.toNat % 64 < 64 := Nat.mod_lt _ (by decide)
  generalize hkk : f.toNat % 64 = k at hk ⊢
  have hp : 0 < 2 ^ k := Nat.two_pow_pos k
  have e1 : ((2 ^ 64 - 1) * 2 ^ k) % 2 ^ 64 = 2 ^ k * (2 ^ (64 - k) - 1) := by
    have e2 : 2 ^ 64 = 2 ^ k * 2 ^ (64 - k) := by rw [← Nat.pow_add]; congr 1; omega
    have e3 : (2 ^ 64 - 1) * 2 ^ k = 2 ^ k * (2 ^ (64 - k) - 1) + 2 ^ 64 * (2 ^ k - 1) := by
      have a1 := pow_lt64 hk
      rw [Nat.mul_sub, Nat.mul_sub, Nat.mul_one, Nat.mul_one, Nat.sub_mul, Nat.one_mul, ← e2]
      have a2 : 2 ^ 64 ≤ 2 ^ 64 * 2 ^ k := Nat.le_mul_of_pos_right _ hp
      have a3 : 2 ^ k ≤ 2 ^ 64 := Nat.le_of_lt a1
      omega
    rw [e3, Nat.add_mul_mod_self_left]
    apply Nat.mod_eq_of_lt
    rw [e2]
    exact Nat.mul_lt_mul_of_pos_left (Nat.sub_lt (Nat.two_pow_pos _) (by decide)) hp
  have e4 : 2 ^ k * (2 ^ (64 - k) - 1) < 2 ^ 64 := by rw [← e1]; exact Nat.mod_lt _ (by decide)
  refine ⟨m &&& (2 ^ k * (2 ^ (64 - k) - 1)), Nat.lt_of_le_of_lt Nat.and_le_left hm, ?_, fun i => ?_⟩
  · rw [m1_lN, shl_ok h0 h1, hkk, wb_mod ((2 ^ 64 - 1) * 2 ^ k), e1, wb_and hm e4]
  · rw [Nat.testBit_and, Nat.testBit_two_pow_mul, Nat.testBit_two_pow_sub_one]
    by_cases q : k ≤ i
    · by_cases q2 : i < 64
      · simp [q, show i - k < 64 - k by omega]
      · have : m.testBit i = false := Nat.testBit_lt_two_pow (Nat.lt_of_lt_of_le hm (Nat.pow_le_pow_right (by decide) (by omega)))
        simp [this]
    · simp [q]
/-- one bit -/
theorem bit_ok {f : Int} (h0 : 0 ≤ f) (h1 : f < 512) : (1 : Int64) <<< ((iz f).toInt64 &&& 63) = lN (2 ^ (f.toNat % 64)) := by
  have h := shl_ok h0 h1 1
  rw [Nat.one_mul] at h
  exact h
theorem bit_get {m : Nat} (hm : m < 2 ^ 64) {k : Nat} (hk : k < 64) : (lN m &&& lN (2 ^ k) = 0) ↔ m.testBit k = false := by
  rw [wb_and hm (pow_lt64 hk), lN_0 (Nat.lt_of_le_of_lt Nat.and_le_left hm)]
  constructor
  · intro q
    have h := Nat.testBit_and m (2 ^ k) k
    rw [q, Nat.zero_testBit, Nat.testBit_two_pow_self, Bool.and_true] at h
    exact h.symm
  · intro q
    apply Nat.eq_of_testBit_eq
    intro i
    rw [Nat.testBit_and, Nat.zero_testBit]
    by_cases e : i = k
    · subst e
      rw [q, Bool.false_and]
    · rw [Nat.testBit_two_pow_of_ne (fun z => e z.symm), Bool.and_false]
theorem bit_set {m : Nat} (hm : m < 2 ^ 64) {k : Nat} (hk : k < 64) : ∃ q : Nat, q < 2 ^ 64 ∧ lN m ||| lN (2 ^ k) = lN q ∧ ∀ i, q.testBit i = (decide (i = k) || m.testBit i) := by
  refine ⟨m ||| 2 ^ k, Nat.or_lt_two_pow hm (pow_lt64 hk), wb_or hm (pow_lt64 hk), fun i => ?_⟩
  rw [Nat.testBit_or, Nat.testBit_two_pow]
  by_cases e : i = k
  · subst e; simp
  · simp [e, show ¬ k = i from fun z => e z.symm]
theorem m1_bit : ∀ i, i < 64 → (-1 : Int64).toBitVec.getLsbD i = true := by decide +kernel
theorem bit_clr {m : Nat} (hm : m < 2 ^ 64) {k : Nat} (hk : k < 64) : ∃ q : Nat, q < 2 ^ 64 ∧ lN m &&& (lN (2 ^ k) ^^^ (-1)) = lN q ∧ ∀ i, q.testBit i = (!decide (i = k) && m.testBit i) := by
  obtain ⟨n, hn, e⟩ := wb_of (lN m &&& (lN (2 ^ k) ^^^ (-1)))
  refine ⟨n, hn, e, fun i => ?_⟩
  · have e0 : i < 64 → (lN n).toBitVec.getLsbD i = n.testBit i := fun q => by
      rw [wb_tb, BitVec.getLsbD_ofNat]
      simp [q]
    by_cases q : i < 64
    · have e1 : (lN m).toBitVec.getLsbD i = m.testBit i := by
        rw [wb_tb, BitVec.getLsbD_ofNat]
        simp [q]
      have e2 : (lN (2 ^ k)).toBitVec.getLsbD i = decide (i = k) := by
        rw [wb_tb, BitVec.getLsbD_ofNat, Nat.testBit_two_pow]
        by_cases e : i = k
        · subst e; simp [q]
        · simp [e, show ¬ k = i from fun z => e z.symm]
      have e3 : (-1 : Int64).toBitVec.getLsbD i = true := m1_bit i q
      rw [← e0 q, ← e, Int64.toBitVec_and, Int64.toBitVec_xor, BitVec.getLsbD_and, BitVec.getLsbD_xor, e1, e2, e3]
      cases decide (i = k) <;> cases m.testBit i <;> rfl
    · have e1 : m.testBit i = false := Nat.testBit_lt_two_pow (Nat.lt_of_lt_of_le hm (Nat.pow_le_pow_right (by decide) (by omega)))
      have e5 : n.testBit i = false := Nat.testBit_lt_two_pow (Nat.lt_of_lt_of_le hn (Nat.pow_le_pow_right (by decide) (by omega)))
      rw [e5, e1]
      simp
/-- the lowest bit -/
theorem low_ex (n : Nat) : ∀ m, m ≤ n → m ≠ 0 → ∃ k r, m = 2 ^ k * (2 * r + 1) := by
  induction n with
  | zero => exact fun m h h1 => absurd (Nat.le_zero.mp h) h1
  | succ n ih =>
    intro m h h1
    by_cases q : m % 2 = 1
    · exact ⟨0, m / 2, by rw [Nat.pow_zero, Nat.one_mul]; omega⟩
    · obtain ⟨k, r, h2⟩ := ih (m / 2) (by omega) (by omega)
      refine ⟨k + 1, r, ?_⟩
      rw [Nat.pow_succ, Nat.mul_assoc, Nat.mul_comm 2, ← Nat.mul_assoc, ← h2]
      omega
theorem ntz_ok {m : Nat} (hm : m < 2 ^ 64) (h0 : m ≠ 0) : ∃ k, k < 64 ∧ ntzL (lN m) = iz ((k : Nat) : Int) ∧ m.testBit k = true ∧ ∀ i, i < k → m.testBit i = false := by
  obtain ⟨k, r, e⟩ := low_ex m m (Nat.le_refl _) h0
  have hp : 0 < 2 ^ k := Nat.two_pow_pos k
  have hk : k < 64 := by
    apply Nat.lt_of_not_le
    intro q
    have h1 : 2 ^ 64 ≤ 2 ^ k := Nat.pow_le_pow_right (by decide) q
    have h2 : 2 ^ k ≤ 2 ^ k * (2 * r + 1) := Nat.le_mul_of_pos_right _ (by omega)
    omega
  refine ⟨k, hk, ?_, ?_, fun i hi => ?_⟩
  · unfold ntzL
    rw [lN_i]
    by_cases q : k < 32
    · have hne : ¬ nI m = 0 := by
        intro z
        have h1 := bt_nI m k q
        rw [z, e, Nat.testBit_two_pow_mul, Nat.sub_self] at h1
        simp at h1
      rw [if_neg hne, ntzI_ok q e]
      rfl
    · have e2 : m = 2 ^ 32 * (2 ^ (k - 32) * (2 * r + 1)) := by
        rw [← Nat.mul_assoc, ← Nat.pow_add, show 32 + (k - 32) = k by omega]
        exact e
      have hz : nI m = 0 := by
        apply Int32.toBitVec_inj.mp
        apply BitVec.eq_of_getLsbD_eq
        intro i hi
        rw [bt_nI _ _ hi, e2, Nat.testBit_two_pow_mul]
        have : ¬ 32 ≤ i := by omega
        simp [this]
      have hs : ((lN m).toUInt64 >>> ((iz 32).toInt64.toUInt64 &&& Int64.toUInt64 63)).toInt64 = lN (m / 2 ^ 32) := wb_shr (k := 32) hm (by decide)
      rw [if_pos hz, hs, lN_i, ntzI_ok (q := m / 2 ^ 32) (k := k - 32) (m := r) (by omega) (by rw [e2, Nat.mul_div_cancel_left _ (by decide)])]
      show nI 32 + nI (k - 32) = nI k
      rw [nI_add, show 32 + (k - 32) = k by omega]
  · rw [e, Nat.testBit_two_pow_mul, Nat.sub_self]
    simp
  · rw [e, Nat.testBit_two_pow_mul]
    simp [show ¬ k ≤ i by omega]
