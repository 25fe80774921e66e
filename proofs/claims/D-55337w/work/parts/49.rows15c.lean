/-! ROWS 15c: all the bits of a long -/
def pbS : Nat → Nat → Nat
  | 0, _ => 0
  | k + 1, n => 256 * pbS k (n / 256) + bN (n % 256) 8 0
theorem pbG_v (k : Nat) : ∀ n, n < 256 ^ k → pbG k n = pbS k n := by
  induction k with
  | zero =>
    intro n hn
    have : n = 0 := by omega
    subst this
    decide
  | succ k ih =>
    intro n hn
    have h1 : n / 256 < 256 ^ k := by
      rw [Nat.pow_succ] at hn
      omega
    have h2 : n % 256 < 256 := Nat.mod_lt _ (by decide)
    have h3 := pbG_s k h1 h2
    rw [show 256 * (n / 256) + n % 256 = n by omega] at h3
    rw [h3, ih _ h1]
    show _ = 256 * pbS k (n / 256) + bN (n % 256) 8 0
    rw [← pg_b ⟨n % 256, h2⟩]
theorem bN_d (n k : Nat) : bN n (8 + k) 0 = bN (n % 256) 8 0 + bN (n / 256) k 0 := by
  have h := bN_byte (n / 256) k (Nat.mod_lt n (by decide : 0 < 256))
  rw [show 256 * (n / 256) + n % 256 = n by omega] at h
  exact h
theorem bN_8 (n : Nat) : bN n 8 0 ≤ 8 := by
  have h : ∀ k i, bN n k i ≤ k := by
    intro k
    induction k with
    | zero => exact fun _ => Nat.le_refl _
    | succ k ih =>
      intro i
      show (if n.testBit i then 1 else 0) + bN n k (i + 1) ≤ k + 1
      have := ih (i + 1)
      split <;> omega
  exact h 8 0
theorem bN_64 (n : Nat) : bN n 64 0 = bN (n % 256) 8 0 + bN (n / 256 % 256) 8 0 + bN (n / 256 / 256 % 256) 8 0 + bN (n / 256 / 256 / 256 % 256) 8 0 + bN (n / 256 / 256 / 256 / 256 % 256) 8 0 + bN (n / 256 / 256 / 256 / 256 / 256 % 256) 8 0 + bN (n / 256 / 256 / 256 / 256 / 256 / 256 % 256) 8 0 + bN (n / 256 / 256 / 256 / 256 / 256 / 256 / 256 % 256) 8 0 := by
  have e0 : bN n 64 0 = _ := bN_d n 56
  have e1 : bN (n / 256) 56 0 = _ := bN_d _ 48
  have e2 : bN (n / 256 / 256) 48 0 = _ := bN_d _ 40
  have e3 : bN (n / 256 / 256 / 256) 40 0 = _ := bN_d _ 32
  have e4 : bN (n / 256 / 256 / 256 / 256) 32 0 = _ := bN_d _ 24
  have e5 : bN (n / 256 / 256 / 256 / 256 / 256) 24 0 = _ := bN_d _ 16
  have e6 : bN (n / 256 / 256 / 256 / 256 / 256 / 256) 16 0 = _ := bN_d _ 8
  have e7 : bN (n / 256 / 256 / 256 / 256 / 256 / 256 / 256) 8 0 = _ := bN_d _ 0
  have e8 : bN (n / 256 / 256 / 256 / 256 / 256 / 256 / 256 / 256) 0 0 = 0 := rfl
  omega
theorem pbS_b (k : Nat) : ∀ n, 31 * pbS k n ≤ 256 ^ k - 1 := by
  induction k with
  | zero => exact fun _ => Nat.le_refl _
  | succ k ih =>
    intro n
    show 31 * (256 * pbS k (n / 256) + bN (n % 256) 8 0) ≤ 256 ^ (k + 1) - 1
    have h1 := ih (n / 256)
    have h2 := bN_8 (n % 256)
    have h3 : 0 < 256 ^ k := Nat.pow_pos (by decide)
    rw [Nat.pow_succ]
    omega
theorem pb_all {n : Nat} (hn : n < 2 ^ 64) : pb6 (pb5 (pb4 (pbG 8 n))) % 128 = bN n 64 0 ∧ pbG 8 n < 2 ^ 60 := by
  rw [pbG_v 8 n (by omega)]
  refine ⟨?_, ?_⟩
  · rw [bN_64]
    exact pb_end (bN_8 _) (bN_8 _) (bN_8 _) (bN_8 _) (bN_8 _) (bN_8 _) (bN_8 _) (bN_8 _)
  · have := pbS_b 8 n
    omega
/-- the long's count, as it is reckoned -/
def pcL (x : Int64) : Int32 :=
  let sh := fun (v : Int64) (k : Int) => (v.toUInt64 >>> ((iz k).toInt64.toUInt64 &&& Int64.toUInt64 63)).toInt64
  let x1 := x - (sh x 1 &&& 6148914691236517205)
  let x2 := (x1 &&& 3689348814741910323) + (sh x1 2 &&& 3689348814741910323)
  let x3 := (x2 + sh x2 4) &&& 1085102592571150095
  let x4 := x3 + sh x3 8
  let x5 := x4 + sh x4 16
  let x6 := x5 + sh x5 32
  x6.toInt32 &&& iz 127
theorem pb_u (k : Nat) {n : Nat} (h : n < 2 ^ 64) : pb1 8 n < 2 ^ 64 ∧ pb2 8 (pb1 8 n) < 2 ^ 64 - 2 ^ 60 := by
  have h1 : pb1 8 n ≤ n := Nat.sub_le _ _
  refine ⟨by omega, ?_⟩
  have e1 : (pb1 8 n &&& mB 51 8) ≤ mB 51 8 := Nat.and_le_right
  have e2 : (pb1 8 n / 4 &&& mB 51 8) ≤ mB 51 8 := Nat.and_le_right
  have e3 : mB 51 8 = 3689348814741910323 := by decide
  unfold pb2
  omega
theorem pcL_ok {n : Nat} (hn : n < 2 ^ 64) : pcL (lN n) = iz ((bN n 64 0 : Nat) : Int) := by
  have hu := pb_u 0 hn
  have ha := pb_all hn
  have e55 : (6148914691236517205 : Int64) = lN (mB 85 8) := by decide +kernel
  have e33 : (3689348814741910323 : Int64) = lN (mB 51 8) := by decide +kernel
  have e0f : (1085102592571150095 : Int64) = lN (mB 15 8) := by decide +kernel
  have b55 : mB 85 8 < 2 ^ 64 := by decide
  have b33 : mB 51 8 < 2 ^ 64 := by decide
  have b0f : mB 15 8 < 2 ^ 64 := by decide
  have sh : ∀ {m k : Nat}, m < 2 ^ 64 → k < 64 → ((lN m).toUInt64 >>> ((iz (k : Int)).toInt64.toUInt64 &&& Int64.toUInt64 63)).toInt64 = lN (m / 2 ^ k) := fun h1 h2 => wb_shr h1 h2
  have s1 := sh (k := 1) hn (by decide)
  have s2 := sh (k := 2) hu.1 (by decide)
  have s4 := sh (k := 4) (m := pb2 8 (pb1 8 n)) (by omega) (by decide)
  have s8 := sh (k := 8) (m := pbG 8 n) (by omega) (by decide)
  have s16 := sh (k := 16) (m := pb4 (pbG 8 n)) (by unfold pb4; omega) (by decide)
  have s32 := sh (k := 32) (m := pb5 (pb4 (pbG 8 n))) (by unfold pb5 pb4; omega) (by decide)
  have x1 : lN n - (lN (n / 2 ^ 1) &&& lN (mB 85 8)) = lN (pb1 8 n) := by
    rw [wb_and (by omega) b55, lN_sub (Nat.le_trans Nat.and_le_left (by omega))]
    rfl
  have x2 : (lN (pb1 8 n) &&& lN (mB 51 8)) + (lN (pb1 8 n / 2 ^ 2) &&& lN (mB 51 8)) = lN (pb2 8 (pb1 8 n)) := by
    rw [wb_and hu.1 b33, wb_and (by omega) b33, lN_add]
    rfl
  have x3 : (lN (pb2 8 (pb1 8 n)) + lN (pb2 8 (pb1 8 n) / 2 ^ 4)) &&& lN (mB 15 8) = lN (pbG 8 n) := by
    rw [lN_add, wb_and (by omega) b0f]
    rfl
  have x4 : lN (pbG 8 n) + lN (pbG 8 n / 2 ^ 8) = lN (pb4 (pbG 8 n)) := by
    rw [lN_add]
    rfl
  have x5 : lN (pb4 (pbG 8 n)) + lN (pb4 (pbG 8 n) / 2 ^ 16) = lN (pb5 (pb4 (pbG 8 n))) := by
    rw [lN_add]
    rfl
  have x6 : lN (pb5 (pb4 (pbG 8 n))) + lN (pb5 (pb4 (pbG 8 n)) / 2 ^ 32) = lN (pb6 (pb5 (pb4 (pbG 8 n)))) := by
    rw [lN_add]
    rfl
  have x7 : (lN (pb6 (pb5 (pb4 (pbG 8 n))))).toInt32 &&& iz 127 = iz ((bN n 64 0 : Nat) : Int) := by
    rw [lN_i, ← ha.1]
    show nI _ &&& nI 127 = nI _
    rw [nx_and]
    congr 1
    exact Nat.and_two_pow_sub_one_eq_mod _ 7
  unfold pcL
  dsimp only
  rw [e55, e33, e0f]
  have s1' : ((lN n).toUInt64 >>> ((iz 1).toInt64.toUInt64 &&& Int64.toUInt64 63)).toInt64 = lN (n / 2 ^ 1) := s1
  rw [s1', x1]
  have s2' : ((lN (pb1 8 n)).toUInt64 >>> ((iz 2).toInt64.toUInt64 &&& Int64.toUInt64 63)).toInt64 = lN (pb1 8 n / 2 ^ 2) := s2
  rw [s2', x2]
  have s4' : ((lN (pb2 8 (pb1 8 n))).toUInt64 >>> ((iz 4).toInt64.toUInt64 &&& Int64.toUInt64 63)).toInt64 = lN (pb2 8 (pb1 8 n) / 2 ^ 4) := s4
  rw [s4', x3]
  have s8' : ((lN (pbG 8 n)).toUInt64 >>> ((iz 8).toInt64.toUInt64 &&& Int64.toUInt64 63)).toInt64 = lN (pbG 8 n / 2 ^ 8) := s8
  rw [s8', x4]
  have s16' : ((lN (pb4 (pbG 8 n))).toUInt64 >>> ((iz 16).toInt64.toUInt64 &&& Int64.toUInt64 63)).toInt64 = lN (pb4 (pbG 8 n) / 2 ^ 16) := s16
  rw [s16', x5]
  have s32' : ((lN (pb5 (pb4 (pbG 8 n)))).toUInt64 >>> ((iz 32).toInt64.toUInt64 &&& Int64.toUInt64 63)).toInt64 = lN (pb5 (pb4 (pbG 8 n)) / 2 ^ 32) := s32
  rw [s32', x6, x7]
