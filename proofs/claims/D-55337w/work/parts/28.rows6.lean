/-! ROWS 6: sums, accounts -/
def wLoads (w : Int → Int) : Int := sm (wLoadOf w) (w 0)
def wThat (w : Int → Int) (k v : Int) : Int := sm (fun c => if w (79 + 6 * c + k) = v then 1 else 0) (w 1)
def wLoaves (w : Int → Int) : Int := sm (fun c => w (79 + 6 * c + 1)) (w 1)
def wOverM (w : Int → Int) : Int := sm (fun b => if w (4 + 4 * b + 1) < wLoadOf w b then 1 else 0) (w 0)
def qAccount (w : Int → Int) (ln ch k : Int) : Int × Int := if k = 0 then (0, w 0) else if k = 1 then (0, wOpenMany w) else if k = 2 then (0, w 28) else if k = 3 then (0, w 1) else if k = 4 then (0, wLoaves w) else if k = 5 then (0, wLoads w) else if k = 6 then (0, wThat w 2 0) else if k = 7 then (0, wThat w 4 1) else if k = 8 then (0, wOverM w) else if k = 9 then (0, w 2) else if k = 10 then (0, w 3) else if k = 11 then (0, ln) else if k = 12 then (0, ch) else (1, 0)
def qReason (y d : Int → Int) (p b : Int) : Int × Int := if ¬ (0 ≤ p ∧ p ≤ 1) then (1, 0) else if y p = 0 then (2, 0) else if b = 0 then (0, y p) else (0, d p)
def qFault (x : Int) : Int × Int := if x < 0 then (1, 0) else (0, x)
theorem wLoads_r {w : Int → Int} (h : Wk w) : 0 ≤ wLoads w ∧ wLoads w ≤ 1080 := by
  have h1 := h.2.1
  have h2 := sm_le (wLoadOf w) (c := 180) (by omega) (w 0) (fun j _ _ => wLoadOf_r h j) (by omega)
  unfold wLoads
  omega
theorem wThat_r {w : Int → Int} (h : Wk w) (k v : Int) : 0 ≤ wThat w k v ∧ wThat w k v ≤ w 1 := by
  have h1 := h.2.1
  have h2 := sm_le (fun c => if w (79 + 6 * c + k) = v then 1 else 0) (c := 1) (by omega) (w 1) (fun j _ _ => by
    show 0 ≤ (if w (79 + 6 * j + k) = v then (1 : Int) else 0) ∧ (if w (79 + 6 * j + k) = v then (1 : Int) else 0) ≤ 1
    split <;> omega) (by omega)
  unfold wThat
  omega
theorem fl_n : ∀ a : Fin 1081, ∀ b : Fin 6, vf_n32 (Jvm.FP.fdiv (Jvm.FP.i2f (iz ((a.val : Nat) : Int))) (Jvm.FP.i2f (iz ((b.val + 1 : Nat) : Int)))) := by unfold vf_n32; decide +kernel
theorem db_n : ∀ a : Fin 21, ∀ b : Fin 20, vf_n64 (Jvm.FP.ddiv (Jvm.FP.i2d (iz ((a.val : Nat) : Int))) (Jvm.FP.i2d (iz ((b.val + 1 : Nat) : Int)))) := by unfold vf_n64; decide +kernel
theorem fl_ok {a b : Int} (h0 : 0 ≤ a) (h1 : a ≤ 1080) (h2 : 1 ≤ b) (h3 : b ≤ 6) : vf_n32 (Jvm.FP.fdiv (Jvm.FP.i2f (iz a)) (Jvm.FP.i2f (iz b))) := by
  have h := fl_n ⟨a.toNat, by omega⟩ ⟨(b - 1).toNat, by omega⟩
  rw [show (((⟨a.toNat, by omega⟩ : Fin 1081).val : Nat) : Int) = a from Int.toNat_of_nonneg h0, show (((⟨(b - 1).toNat, by omega⟩ : Fin 6).val + 1 : Nat) : Int) = b by (show (((b - 1).toNat + 1 : Nat) : Int) = b); omega] at h
  exact h
theorem db_ok {a b : Int} (h0 : 0 ≤ a) (h1 : a ≤ 20) (h2 : 1 ≤ b) (h3 : b ≤ 20) : vf_n64 (Jvm.FP.ddiv (Jvm.FP.i2d (iz a)) (Jvm.FP.i2d (iz b))) := by
  have h := db_n ⟨a.toNat, by omega⟩ ⟨(b - 1).toNat, by omega⟩
  rw [show (((⟨a.toNat, by omega⟩ : Fin 21).val : Nat) : Int) = a from Int.toNat_of_nonneg h0, show (((⟨(b - 1).toNat, by omega⟩ : Fin 20).val + 1 : Nat) : Int) = b by (show (((b - 1).toNat + 1 : Nat) : Int) = b); omega] at h
  exact h
theorem aheadP_i {w ld : Int → Int} {a b : Int} : aheadP w ld a b ↔ (ld b < ld a ∨ (ld a = ld b ∧ (wRoom w a < wRoom w b ∨ (wRoom w a = wRoom w b ∧ a < b)))) := by
  unfold aheadP
  split <;> (try split) <;> omega
