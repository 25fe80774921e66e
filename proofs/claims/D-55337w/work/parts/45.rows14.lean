/-! ROWS 14: trailing zeros, bits that are set -/
def ntz3 (n : Int) (i : Int32) : Int32 := iz n + ((i.toUInt32 >>> ((iz 1).toUInt32 &&& Int32.toUInt32 31)).toInt32)
abbrev shr (i : Int32) (z : Int) : Int32 := (i.toUInt32 >>> ((iz z).toUInt32 &&& Int32.toUInt32 31)).toInt32
def ntz4 (n : Int) (i : Int32) : Int32 := if i ≤ iz 4 then ntz3 n i else ntz3 (n + 2) (shr i 2)
def ntz5 (n : Int) (i : Int32) : Int32 := if i ≤ iz 16 then ntz4 n i else ntz4 (n + 4) (shr i 4)
def ntz6 (n : Int) (i : Int32) : Int32 := if i ≤ iz 256 then ntz5 n i else ntz5 (n + 8) (shr i 8)
def ntz7 (n : Int) (i : Int32) : Int32 := if i ≤ 65536 then ntz6 n i else ntz6 (n + 16) (shr i 16)
def ntzM (i : Int32) : Int32 := if 0 < i then ntz7 1 i else i &&& iz 32
def ntzI (x : Int32) : Int32 := ntzM ((x ^^^ iz (-1)) &&& (x - iz 1))
theorem ntzM_N : ∀ k : Fin 32, ntzM (nI (2 ^ k.val - 1)) = nI k.val := by decide +kernel
theorem bt_nI (q i : Nat) (hi : i < 32) : (nI q).toBitVec.getLsbD i = q.testBit i := by
  show (BitVec.ofNat 32 q).getLsbD i = _
  rw [BitVec.getLsbD_ofNat]
  simp [hi]
theorem low_I {q k m : Nat} (hk : k < 32) (hq : q = 2 ^ k * (2 * m + 1)) : ((nI q ^^^ iz (-1)) &&& (nI q - iz 1)) = nI (2 ^ k - 1) := by
  have hp : 0 < 2 ^ k := Nat.two_pow_pos k
  have h1 : q - 1 = 2 ^ k * (2 * m) + (2 ^ k - 1) := by
    rw [hq, Nat.mul_add, Nat.mul_one]
    omega
  have hq1 : 1 ≤ q := by
    rw [hq]
    exact Nat.mul_pos hp (by omega)
  have e1 : nI q - iz 1 = nI (q - 1) := by
    obtain ⟨r, rfl⟩ : ∃ r, q = r + 1 := ⟨q - 1, by omega⟩
    exact nI_pred r
  rw [e1]
  apply Int32.toBitVec_inj.mp
  apply BitVec.eq_of_getLsbD_eq
  intro i hi
  rw [Int32.toBitVec_and, BitVec.getLsbD_and, Int32.toBitVec_xor, BitVec.getLsbD_xor, bt_nI _ _ hi, bt_nI _ _ hi, bt_nI _ _ hi]
  have e2 : (iz (-1)).toBitVec.getLsbD i = true := by
    revert i
    decide +kernel
  rw [e2, h1, hq, Nat.testBit_two_pow_mul, Nat.testBit_two_pow_mul_add _ (by omega), Nat.testBit_two_pow_sub_one]
  by_cases q1 : i < k
  · simp [q1, Nat.not_le.mpr q1]
  · rw [if_neg q1]
    have q2 : k ≤ i := by omega
    obtain ⟨j, rfl⟩ : ∃ j, i = k + j := ⟨i - k, by omega⟩
    rw [show k + j - k = j by omega]
    cases j with
    | zero => simp
    | succ j =>
      have e3 : (2 * m + 1).testBit (j + 1) = m.testBit j := by
        rw [Nat.testBit_succ]
        congr 1
        omega
      have e4 : (2 * m).testBit (j + 1) = m.testBit j := by
        rw [Nat.testBit_succ]
        congr 1
        omega
      rw [e3, e4]
      simp
theorem ntzI_ok {q k m : Nat} (hk : k < 32) (hq : q = 2 ^ k * (2 * m + 1)) : ntzI (nI q) = nI k := by
  unfold ntzI
  rw [low_I hk hq]
  exact ntzM_N ⟨k, hk⟩
theorem lN_i32 (n : Nat) : (lN n).toInt32 = nI n := lN_i n
def ntzL (x : Int64) : Int32 := if x.toInt32 = 0 then iz 32 + ntzI ((x.toUInt64 >>> ((iz 32).toInt64.toUInt64 &&& Int64.toUInt64 63)).toInt64).toInt32 else ntzI x.toInt32
