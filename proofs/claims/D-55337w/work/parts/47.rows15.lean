/-! ROWS 15: how many bits are set -/
theorem and_split (a A : Nat) {d D : Nat} (hd : d < 256) (hD : D < 256) : (256 * a + d) &&& (256 * A + D) = 256 * (a &&& A) + (d &&& D) := by
  have hdD : d &&& D < 2 ^ 8 := Nat.lt_of_le_of_lt Nat.and_le_left hd
  apply Nat.eq_of_testBit_eq
  intro i
  rw [Nat.testBit_and, show (256 : Nat) = 2 ^ 8 from rfl, Nat.testBit_two_pow_mul_add _ hd, Nat.testBit_two_pow_mul_add _ hD, Nat.testBit_two_pow_mul_add _ hdD]
  split
  · rw [Nat.testBit_and]
  · rw [Nat.testBit_and]
def mB (c : Nat) : Nat → Nat
  | 0 => 0
  | k + 1 => 256 * mB c k + c
def pb1 (k n : Nat) : Nat := n - (n / 2 &&& mB 85 k)
def pb2 (k n : Nat) : Nat := (n &&& mB 51 k) + (n / 4 &&& mB 51 k)
def pb3 (k n : Nat) : Nat := (n + n / 16) &&& mB 15 k
def pg1 (d : Nat) : Nat := d - (d / 2 &&& 85)
def pg2 (d : Nat) : Nat := (d &&& 51) + (d / 4 &&& 51)
def pg3 (d : Nat) : Nat := (d + d / 16) &&& 15
theorem pg_1 : ∀ e : Fin 2, ∀ d : Fin 256, ((128 * e.val + d.val / 2) &&& 85) = (d.val / 2 &&& 85) ∧ (d.val / 2 &&& 85) ≤ d.val := by decide +kernel
theorem pg_2 : ∀ e : Fin 4, ∀ d : Fin 256, ((64 * e.val + d.val / 4) &&& 51) = (d.val / 4 &&& 51) := by decide +kernel
theorem pg_3 : ∀ e : Fin 5, ∀ d : Fin 256, 16 * e.val + (pg2 (pg1 d.val) + pg2 (pg1 d.val) / 16) < 256 ∧ ((16 * e.val + (pg2 (pg1 d.val) + pg2 (pg1 d.val) / 16)) &&& 15) = pg3 (pg2 (pg1 d.val)) ∧ pg2 (pg1 d.val) % 16 ≤ 4 ∧ pg1 d.val < 256 ∧ pg2 (pg1 d.val) < 256 ∧ pg3 (pg2 (pg1 d.val)) ≤ 8 := by decide +kernel
theorem pb1_s (k a : Nat) {d : Nat} (hd : d < 256) : pb1 (k + 1) (256 * a + d) = 256 * pb1 k a + pg1 d := by
  have h1 := pg_1 ⟨a % 2, by omega⟩ ⟨d, hd⟩
  dsimp only at h1
  unfold pb1 pg1
  show 256 * a + d - ((256 * a + d) / 2 &&& (256 * mB 85 k + 85)) = _
  rw [show (256 * a + d) / 2 = 256 * (a / 2) + (128 * (a % 2) + d / 2) by omega, and_split _ _ (by omega) (by omega), h1.1]
  have h2 : (a / 2 &&& mB 85 k) ≤ a / 2 := Nat.and_le_left
  omega
theorem pb2_s (k a : Nat) {d : Nat} (hd : d < 256) : pb2 (k + 1) (256 * a + d) = 256 * pb2 k a + pg2 d := by
  have h1 := pg_2 ⟨a % 4, by omega⟩ ⟨d, hd⟩
  dsimp only at h1
  unfold pb2 pg2
  show ((256 * a + d) &&& (256 * mB 51 k + 51)) + ((256 * a + d) / 4 &&& (256 * mB 51 k + 51)) = _
  rw [show (256 * a + d) / 4 = 256 * (a / 4) + (64 * (a % 4) + d / 4) by omega, and_split _ _ hd (by omega), and_split _ _ (by omega) (by omega), h1]
  omega
/-- a number's bytes by their bits' counts -/
def pbG (k n : Nat) : Nat := pb3 k (pb2 k (pb1 k n))
theorem pb_lo (k : Nat) {a : Nat} (ha : a < 256 ^ k) : pb2 k (pb1 k a) % 16 ≤ 4 := by
  cases k with
  | zero =>
    have : a = 0 := by omega
    subst this
    decide
  | succ k =>
    have hq := pg_3 ⟨0, by decide⟩ ⟨a % 256, Nat.mod_lt _ (by decide)⟩
    dsimp only at hq
    have e : a = 256 * (a / 256) + a % 256 := by omega
    have hd : a % 256 < 256 := by omega
    generalize a / 256 = b at e
    generalize a % 256 = d at e hq hd
    subst e
    rw [pb1_s _ _ hd, pb2_s _ _ hq.2.2.2.1]
    omega
theorem pbG_s (k : Nat) {a d : Nat} (ha : a < 256 ^ k) (hd : d < 256) : pbG (k + 1) (256 * a + d) = 256 * pbG k a + pg3 (pg2 (pg1 d)) := by
  have hlo := pb_lo k ha
  have h1 := pg_3 ⟨pb2 k (pb1 k a) % 16, by omega⟩ ⟨d, hd⟩
  dsimp only at h1
  unfold pbG
  rw [pb1_s _ _ hd, pb2_s _ _ h1.2.2.2.1]
  show ((256 * pb2 k (pb1 k a) + pg2 (pg1 d)) + (256 * pb2 k (pb1 k a) + pg2 (pg1 d)) / 16) &&& (256 * mB 15 k + 15) = 256 * ((pb2 k (pb1 k a) + pb2 k (pb1 k a) / 16) &&& mB 15 k) + _
  rw [show (256 * pb2 k (pb1 k a) + pg2 (pg1 d)) + (256 * pb2 k (pb1 k a) + pg2 (pg1 d)) / 16 = 256 * (pb2 k (pb1 k a) + pb2 k (pb1 k a) / 16) + (16 * (pb2 k (pb1 k a) % 16) + (pg2 (pg1 d) + pg2 (pg1 d) / 16)) by omega, and_split _ _ h1.1 (by omega), h1.2.1]
/-- the bits of n from place i on, k of them -/
def bN (n : Nat) : Nat → Nat → Nat
  | 0, _ => 0
  | k + 1, i => (if n.testBit i then 1 else 0) + bN n k (i + 1)
theorem pg_b : ∀ d : Fin 256, pg3 (pg2 (pg1 d.val)) = bN d.val 8 0 := by decide +kernel
theorem bN_add (n : Nat) (k j : Nat) : ∀ i, bN n (k + j) i = bN n k i + bN n j (i + k) := by
  induction k with
  | zero => intro i; rw [Nat.zero_add]; show _ = 0 + _; rw [Nat.zero_add, Nat.add_zero]
  | succ k ih =>
    intro i
    rw [show k + 1 + j = (k + j) + 1 by omega]
    show (if n.testBit i then 1 else 0) + bN n (k + j) (i + 1) = (if n.testBit i then 1 else 0) + bN n k (i + 1) + bN n j (i + (k + 1))
    rw [ih (i + 1), show i + 1 + k = i + (k + 1) by omega]
    omega
theorem bN_eq {m n : Nat} (k : Nat) : ∀ (i j : Nat), (∀ q, q < k → m.testBit (i + q) = n.testBit (j + q)) → bN m k i = bN n k j := by
  induction k with
  | zero => exact fun _ _ _ => rfl
  | succ k ih =>
    intro i j h
    show (if m.testBit i then 1 else 0) + bN m k (i + 1) = (if n.testBit j then 1 else 0) + bN n k (j + 1)
    have h0 := h 0 (by omega)
    rw [Nat.add_zero, Nat.add_zero] at h0
    rw [h0, ih (i + 1) (j + 1) (fun q hq => by rw [show i + 1 + q = i + (q + 1) by omega, show j + 1 + q = j + (q + 1) by omega]; exact h (q + 1) (by omega))]
theorem bN_byte (a k : Nat) {d : Nat} (hd : d < 256) : bN (256 * a + d) (8 + k) 0 = bN d 8 0 + bN a k 0 := by
  rw [bN_add, Nat.zero_add]
  congr 1
  · refine bN_eq 8 0 0 (fun q hq => ?_)
    rw [show (256 : Nat) = 2 ^ 8 from rfl, Nat.testBit_two_pow_mul_add _ hd, if_pos (by omega)]
  · refine bN_eq k 8 0 (fun q hq => ?_)
    rw [show (256 : Nat) = 2 ^ 8 from rfl, Nat.testBit_two_pow_mul_add _ hd, if_neg (by omega)]
    congr 1
    omega
