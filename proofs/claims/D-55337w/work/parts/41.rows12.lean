/-! ROWS 12: the line -/
theorem i2c_N : ∀ z : Fin 127, ((iz ((z.val : Nat) : Int)).toUInt32 % 65536).toInt32 = iz ((z.val : Nat) : Int) := by decide +kernel
theorem i2c_ok {z : Int} (h0 : 0 ≤ z) (h1 : z ≤ 126) : ((iz z).toUInt32 % 65536).toInt32 = iz z := by
  have h := i2c_N ⟨z.toNat, by omega⟩
  rw [show (((⟨z.toNat, by omega⟩ : Fin 127).val : Nat) : Int) = z from Int.toNat_of_nonneg h0] at h
  exact h
def dgs (v : Int) : List Int := ((if 99 < v then [48 + v / 100] else []) ++ (if 9 < v then [48 + v / 10 % 10] else [])) ++ [48 + v % 10]
def kc1 (z : Int) : Int := if z = 0 then 112 else if z = 1 then 98 else 115
def kc2 (z : Int) : Int := if z = 0 then 108 else if z = 1 then 105 else 116
def kc3 (z : Int) : Int := if z = 1 then 103 else 97
def kc4 (z : Int) : Int := if z = 0 then 105 else 110
def kc5 (z : Int) : Int := if z = 0 then 110 else 100
def kindW (z : Int) : List Int := if z = 1 then [kc1 z, kc2 z, kc3 z] else [kc1 z, kc2 z, kc3 z, kc4 z, kc5 z]
def sgN (w : Int → Int) (b : Int) : Nat → List Int
  | 0 => []
  | n + 1 => sgN w b n ++ (if w (29 + 2 * (n : Int) + 1) = b then [64] ++ dgs (w (29 + 2 * (n : Int))) else [])
def wDesc (w : Int → Int) (b : Int) : List Int := (((((((kindW (w (4 + 4 * b + 0)) ++ dgs b) ++ [58]) ++ dgs (wLoadOf w b)) ++ [47]) ++ dgs (w (4 + 4 * b + 1))) ++ (if w (4 + 4 * b + 1) < wLoadOf w b then [33] else [])) ++ (if w (4 + 4 * b + 2) = 0 then [] else [32, 115, 104, 117, 116])) ++ sgN w b (w 28).toNat
theorem dgs_len (v : Int) : (dgs v).length ≤ 3 := by
  unfold dgs
  simp only [List.length_append]
  split <;> split <;> simp
theorem kindW_len (z : Int) : (kindW z).length ≤ 5 := by
  unfold kindW
  split <;> simp
theorem sgN_s {w : Int → Int} {b i : Int} (h : 0 ≤ i) : sgN w b (i + 1).toNat = sgN w b i.toNat ++ (if w (29 + 2 * i + 1) = b then [64] ++ dgs (w (29 + 2 * i)) else []) := by
  rw [show (i + 1).toNat = i.toNat + 1 by omega]
  show sgN w b i.toNat ++ (if w (29 + 2 * (i.toNat : Int) + 1) = b then [64] ++ dgs (w (29 + 2 * (i.toNat : Int))) else []) = _
  rw [Int.toNat_of_nonneg h]
theorem sgN_len (w : Int → Int) (b : Int) (n : Nat) : ((sgN w b n).length : Int) ≤ 4 * sm (fun k => if w (29 + 2 * k + 1) = b then 1 else 0) n := by
  induction n with
  | zero => exact Int.le_refl _
  | succ n ih =>
    rw [show ((n + 1 : Nat) : Int) = (n : Int) + 1 by omega, sm_1 _ (by omega)]
    show ((sgN w b n ++ (if w (29 + 2 * (n : Int) + 1) = b then [64] ++ dgs (w (29 + 2 * (n : Int))) else [])).length : Int) ≤ 4 * (sm (fun k => if w (29 + 2 * k + 1) = b then 1 else 0) n + (if w (29 + 2 * (n : Int) + 1) = b then 1 else 0))
    have h := dgs_len (w (29 + 2 * (n : Int)))
    by_cases q : w (29 + 2 * (n : Int) + 1) = b
    · rw [if_pos q, if_pos q]
      simp only [List.length_append, List.length_cons, List.length_nil]
      omega
    · rw [if_neg q, if_neg q]
      simp only [List.length_append, List.length_nil]
      omega
theorem sm_mono {f : Int → Int} (h : ∀ j, 0 ≤ f j) {i n : Int} (hi : i ≤ n) : sm f i ≤ sm f n := by
  obtain ⟨k, rfl⟩ : ∃ k : Nat, n = i + k := ⟨(n - i).toNat, by omega⟩
  clear hi
  induction k with
  | zero => rw [show i + ((0 : Nat) : Int) = i by omega]; exact Int.le_refl _
  | succ k ih =>
    by_cases q : i + (k : Int) < 0
    · rw [sm_neg f (show i + ((k + 1 : Nat) : Int) ≤ 0 by omega), sm_neg f (show i ≤ 0 by omega)]
      exact Int.le_refl _
    · rw [show i + ((k + 1 : Nat) : Int) = (i + (k : Int)) + 1 by omega, sm_1 f (by omega)]
      have := h (i + (k : Int))
      omega
/-- the line is tl -/
def Ln (F : Nat → Int → Int) (tl : List Int) : Prop := F 22 0 = (tl.length : Int) ∧ ∀ j : Nat, j < tl.length → F 21 (j : Int) = tl.getD j 0
def LW (E : En) (σ0 : Mm) (o : Nat) (σ : Mm) (F : Nat → Int → Int) (tl : List Int) : Prop := ∃ F1 : Nat → Int → Int, MS E σ0 o σ F1 ∧ Ln F1 tl ∧ ∀ f, f ≠ 21 → f ≠ 22 → F1 f = F f
theorem Ln_1 {F : Nat → Int → Int} {tl : List Int} (h : Ln F tl) (z : Int) : Ln (up2 (up2 F 21 (tl.length : Int) z) 22 0 ((tl.length : Int) + 1)) (tl ++ [z]) := by
  refine ⟨?_, fun j hj => ?_⟩
  · rw [up2_s, List.length_append]
    rfl
  · rw [up2_oth _ _ _ (by decide)]
    by_cases q : j = tl.length
    · subst q
      rw [up2_s]
      simp
    · rw [List.length_append] at hj
      have hj2 : j < tl.length := by
        simp only [List.length_cons, List.length_nil] at hj
        omega
      rw [up2_k _ _ _ _ (by omega), h.2 j hj2]
      simp [List.getD, List.getElem?_append_left hj2]
theorem LW_t {E : En} {σ0 σ τ : Mm} {o : Nat} {F F1 : Nat → Int → Int} {tl : List Int} (h : MS E σ0 o σ F1) (he : ∀ f, f ≠ 21 → f ≠ 22 → F1 f = F f) (h2 : LW E σ o τ F1 tl) : LW E σ0 o τ F tl := by
  obtain ⟨F2, a, b, d⟩ := h2
  exact ⟨F2, MS_t h a, b, fun f x y => (d f x y).trans (he f x y)⟩
theorem LW_c {E : En} {σ0 σ : Mm} {o : Nat} {F : Nat → Int → Int} {tl tl2 : List Int} (h : LW E σ0 o σ F tl) (e : tl = tl2) : LW E σ0 o σ F tl2 := e ▸ h
