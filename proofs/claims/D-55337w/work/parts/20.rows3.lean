/-! ROWS 3: a change's beginning; leaving; what a pass of the refusals says -/
theorem mBeg_5 (F : Nat → Int → Int) : mBeg F 5 = wUp (F 5) 2 (F 5 2 + 1) := by
  unfold mBeg
  rw [up2_as, stF_s, mKeep_o _ (by decide) (by decide) (by decide), upR_oth _ _ _ (by decide)]
theorem mNot_3 (F : Nat → Int → Int) (t : Int × Int × Int) (h : t.1 ≠ 0) : mNot F t 3 0 = t.2.1 := by
  unfold mNot
  rw [if_neg h]
  split
  · rename_i q
    rw [up2_s, q]
  · rw [up2_f _ _ _ _ (by decide), up2_s]
theorem nSign_r (w : Int → Int) (b a : Int) : 0 ≤ (nSign w b a).1 ∧ (nSign w b a).1 ≤ 3 ∧ 0 ≤ (nSign w b a).2.1 ∧ (nSign w b a).2.1 ≤ 8 := by
  unfold nSign
  (repeat' split) <;> simp
theorem nDown_r (w : Int → Int) (a : Int) : 0 ≤ (nDown w a).1 ∧ (nDown w a).1 ≤ 3 ∧ 0 ≤ (nDown w a).2.1 ∧ (nDown w a).2.1 ≤ 8 := by
  unfold nDown
  (repeat' split) <;> simp
theorem nClose_r (w : Int → Int) (b : Int) : 0 ≤ (nClose w b).1 ∧ (nClose w b).1 ≤ 3 ∧ 0 ≤ (nClose w b).2.1 ∧ (nClose w b).2.1 ≤ 8 := by
  unfold nClose
  (repeat' split) <;> simp
theorem nOpen_r (w : Int → Int) (b : Int) : 0 ≤ (nOpen w b).1 ∧ (nOpen w b).1 ≤ 3 ∧ 0 ≤ (nOpen w b).2.1 ∧ (nOpen w b).2.1 ≤ 8 := by
  unfold nOpen
  (repeat' split) <;> simp
theorem nOven_r (w : Int → Int) (b a : Int) : 0 ≤ (nOven w b a).1 ∧ (nOven w b a).1 ≤ 3 ∧ 0 ≤ (nOven w b a).2.1 ∧ (nOven w b a).2.1 ≤ 8 := by
  unfold nOven
  (repeat' split) <;> simp
theorem nCome_r (w : Int → Int) (b a : Int) : 0 ≤ (nCome w b a).1 ∧ (nCome w b a).1 ≤ 3 ∧ 0 ≤ (nCome w b a).2.1 ∧ (nCome w b a).2.1 ≤ 8 := by
  unfold nCome
  (repeat' split) <;> simp
theorem nLeave_r (w : Int → Int) (b : Int) : 0 ≤ (nLeave w b).1 ∧ (nLeave w b).1 ≤ 3 ∧ 0 ≤ (nLeave w b).2.1 ∧ (nLeave w b).2.1 ≤ 8 := by
  unfold nLeave
  (repeat' split) <;> simp
theorem nSign_ok {w : Int → Int} {b a : Int} (h : (nSign w b a).1 = 0) : (0 ≤ b ∧ b ≤ w 0 - 1) ∧ (0 ≤ a ∧ a ≤ 359) ∧ wSignOn w a < 0 ∧ w 28 ≠ 24 ∧ wSignsOf w b ≠ 8 := by
  unfold nSign at h
  (repeat' split at h) <;> first | (exact absurd h (by decide)) | omega
theorem nDown_ok {w : Int → Int} {a : Int} (h : (nDown w a).1 = 0) : (0 ≤ a ∧ a ≤ 359) ∧ 0 ≤ wSignOn w a := by
  unfold nDown at h
  (repeat' split at h) <;> first | (exact absurd h (by decide)) | omega
theorem nClose_ok {w : Int → Int} {b : Int} (h : (nClose w b).1 = 0) : (0 ≤ b ∧ b ≤ w 0 - 1) ∧ w (4 + 4 * b + 2) = 0 ∧ wOpenMany w ≠ 1 := by
  unfold nClose at h
  (repeat' split at h) <;> first | (exact absurd h (by decide)) | omega
theorem nOpen_ok {w : Int → Int} {b : Int} (h : (nOpen w b).1 = 0) : (0 ≤ b ∧ b ≤ w 0 - 1) ∧ ¬ w (4 + 4 * b + 2) = 0 := by
  unfold nOpen at h
  (repeat' split at h) <;> first | (exact absurd h (by decide)) | omega
theorem nOven_ok {w : Int → Int} {b v : Int} (h : (nOven w b v).1 = 0) : (0 ≤ b ∧ b ≤ w 0 - 1) ∧ (1 ≤ v ∧ v ≤ 40) ∧ ¬ w (4 + 4 * b + 1) = v := by
  unfold nOven at h
  (repeat' split at h) <;> first | (exact absurd h (by decide)) | omega
theorem nCome_ok {w : Int → Int} {a lv : Int} (h : (nCome w a lv).1 = 0) : (0 ≤ a ∧ a ≤ 359) ∧ (1 ≤ lv ∧ lv ≤ 9) ∧ ¬ w 1 = 20 := by
  unfold nCome at h
  (repeat' split at h) <;> first | (exact absurd h (by decide)) | omega
theorem nLeave_ok {w : Int → Int} {c : Int} (h : (nLeave w c).1 = 0) : 0 ≤ c ∧ c ≤ w 1 - 1 := by
  unfold nLeave at h
  (repeat' split at h) <;> first | (exact absurd h (by decide)) | omega
/-- the ones behind c a place nearer, i numbers of them -/
def wLs (w : Int → Int) (c i : Int) : Int → Int := fun j => if j = 1 then w 1 - 1 else if 79 + 6 * c ≤ j ∧ j < 79 + i then w (j + 6) else w j
theorem wLs_0 (w : Int → Int) (c : Int) : wUp w 1 (w 1 - 1) = wLs w c (6 * c) := by
  funext j
  unfold wUp wLs
  split
  · rfl
  · exact (if_neg (fun q => by omega)).symm
theorem wLs_1 (w : Int → Int) {c i : Int} (h0 : 0 ≤ c) (h : 6 * c ≤ i) : wUp (wLs w c i) (79 + i) (w (79 + i + 6)) = wLs w c (i + 1) := by
  funext j
  unfold wUp wLs
  by_cases q : j = 79 + i
  · rw [if_pos q, if_neg (by omega), if_pos ⟨by omega, by omega⟩, q]
  · rw [if_neg q]
    by_cases q4 : j = 1
    · rw [if_pos q4, if_pos q4]
    · rw [if_neg q4, if_neg q4]
      by_cases q3 : 79 + 6 * c ≤ j ∧ j < 79 + i
      · rw [if_pos q3, if_pos ⟨by omega, by omega⟩]
      · rw [if_neg q3, if_neg (fun z => q3 ⟨by omega, by omega⟩)]
def wLz (w : Int → Int) (c k : Int) : Int → Int := fun j => if 79 + 6 * (w 1 - 1) ≤ j ∧ j < 79 + 6 * (w 1 - 1) + k then 0 else wLs w c (6 * (w 1 - 1)) j
theorem wLz_0 (w : Int → Int) (c : Int) : wLz w c 0 = wLs w c (6 * (w 1 - 1)) := by
  funext j
  exact if_neg (fun q => by omega)
theorem wLz_1 (w : Int → Int) {c k : Int} (hk : 0 ≤ k) : wUp (wLz w c k) (79 + 6 * (w 1 - 1) + k) 0 = wLz w c (k + 1) := by
  funext j
  unfold wUp wLz
  by_cases q : j = 79 + 6 * (w 1 - 1) + k
  · rw [if_pos q, if_pos ⟨by omega, by omega⟩]
  · rw [if_neg q]
    by_cases q3 : 79 + 6 * (w 1 - 1) ≤ j ∧ j < 79 + 6 * (w 1 - 1) + k
    · rw [if_pos q3, if_pos ⟨by omega, by omega⟩]
    · rw [if_neg q3, if_neg (fun z => q3 ⟨by omega, by omega⟩)]
theorem wLz_6 (w : Int → Int) {c : Int} (hc : 0 ≤ c) (h : c < w 1) : wLz w c 6 = wLeave w c := by
  funext j
  unfold wLz wLs wLeave
  by_cases q1 : j = 1
  · rw [if_neg (by omega), if_pos q1, if_pos q1]
  · rw [if_neg q1, if_neg q1]
    by_cases q2 : 79 + 6 * (w 1 - 1) ≤ j ∧ j < 79 + 6 * (w 1 - 1) + 6
    · rw [if_pos q2, if_neg (by omega), if_pos ⟨by omega, by omega⟩]
    · rw [if_neg q2]
      by_cases q3 : 79 + 6 * c ≤ j ∧ j < 79 + 6 * (w 1 - 1)
      · rw [if_pos q3, if_pos ⟨by omega, by omega⟩]
      · rw [if_neg q3, if_neg (by omega), if_neg (by omega)]
theorem wLs_c1 (w : Int → Int) (c i : Int) : wLs w c i 1 = w 1 - 1 := if_pos rfl
theorem wLs_hi (w : Int → Int) {c i j : Int} (h : 79 + i ≤ j) (h1 : j ≠ 1) : wLs w c i j = w j := by
  unfold wLs
  rw [if_neg h1, if_neg (fun q => by omega)]
theorem wLz_c1 (w : Int → Int) {c k : Int} (h : 1 ≤ w 1) : wLz w c k 1 = w 1 - 1 := by
  unfold wLz
  rw [if_neg (by omega), wLs_c1]
