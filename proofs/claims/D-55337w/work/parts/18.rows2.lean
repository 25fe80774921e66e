/-! ROWS 2: what is refused; rows stay good -/
/-- a number of a bakery's is written -/
theorem Wk_bk {w : Int → Int} (h : Wk w) {b f v : Int} (hb : 0 ≤ b) (hb2 : b < 6) (hf : 0 ≤ f ∧ f ≤ 2) (h0 : f = 0 → 0 ≤ v ∧ v ≤ 2) (h1 : f = 1 → 0 ≤ v ∧ v ≤ 40) (h2 : f = 2 → 0 ≤ v ∧ v ≤ 1) : Wk (wUp w (4 + 4 * b + f) v) := by
  obtain ⟨q1, q2, q3, q4, q5⟩ := h
  refine ⟨Rg_wUp q1 _ (by omega), by rw [wUp_o _ _ (by omega), wUp_o _ _ (by omega), wUp_o _ _ (by omega)]; exact q2, fun k g0 g1 => ?_, fun d g0 g1 => ?_, fun d g0 g1 => ?_⟩
  · rw [wUp_o _ _ (by omega)] at g1
    rw [wUp_o _ _ (by omega), wUp_o _ _ (by omega), wUp_o _ _ (by omega)]
    exact q3 k g0 g1
  · have q := q4 d g0 g1
    refine ⟨?_, ?_, ?_⟩
    · by_cases z : 4 + 4 * d + 0 = 4 + 4 * b + f
      · rw [z, wUp_s]
        exact h0 (by omega)
      · rw [wUp_o _ _ z]
        exact q.1
    · by_cases z : 4 + 4 * d + 1 = 4 + 4 * b + f
      · rw [z, wUp_s]
        exact h1 (by omega)
      · rw [wUp_o _ _ z]
        exact q.2.1
    · by_cases z : 4 + 4 * d + 2 = 4 + 4 * b + f
      · rw [z, wUp_s]
        exact h2 (by omega)
      · rw [wUp_o _ _ z]
        exact q.2.2
  · rw [wUp_o _ _ (by omega), wUp_o _ _ (by omega), wUp_o _ _ (by omega), wUp_o _ _ (by omega)]
    exact q5 d g0 g1
/-- the numbers 2 and 3 -/
theorem Wk_23 {w : Int → Int} (h : Wk w) {f v : Int} (hf : 2 ≤ f ∧ f ≤ 3) (hv : -1048576 ≤ v ∧ v ≤ 1048576) : Wk (wUp w f v) := by
  obtain ⟨q1, q2, q3, q4, q5⟩ := h
  refine ⟨Rg_wUp q1 _ hv, by rw [wUp_o _ _ (by omega), wUp_o _ _ (by omega), wUp_o _ _ (by omega)]; exact q2, fun k g0 g1 => ?_, fun d g0 g1 => ?_, fun d g0 g1 => ?_⟩
  · rw [wUp_o _ _ (by omega)] at g1
    rw [wUp_o _ _ (by omega), wUp_o _ _ (by omega), wUp_o _ _ (by omega)]
    exact q3 k g0 g1
  · rw [wUp_o _ _ (by omega), wUp_o _ _ (by omega), wUp_o _ _ (by omega)]
    exact q4 d g0 g1
  · rw [wUp_o _ _ (by omega), wUp_o _ _ (by omega), wUp_o _ _ (by omega), wUp_o _ _ (by omega)]
    exact q5 d g0 g1
theorem gAll_k (nc : Int) (m : Nat) : ∀ (c : Int) (w ld : Int → Int) (n : Int), 0 ≤ c → Wk w → Wk (gAll nc c w ld n m).1 ∧ Wsm w (gAll nc c w ld n m).1 ∧ n ≤ (gAll nc c w ld n m).2.2 ∧ (gAll nc c w ld n m).2.2 ≤ n + m := by
  induction m with
  | zero => exact fun c w ld n hc h => ⟨h, Wsm_r w, Int.le_refl _, by show n ≤ n + 0; omega⟩
  | succ m ih =>
    intro c w ld n hc h
    obtain ⟨h1, h2, h3, h4⟩ := ih (c + 1) (cW nc w ld c) (cLd w ld c) (cN nc w ld c n) (by omega) (Wk_cW h nc ld hc)
    have hn : n ≤ cN nc w ld c n ∧ cN nc w ld c n ≤ n + 1 := by
      unfold cN
      split <;> omega
    exact ⟨h1, Wsm_t (Wsm_cW nc w ld hc) h2, by show n ≤ (gAll nc (c + 1) (cW nc w ld c) (cLd w ld c) (cN nc w ld c n) m).2.2; omega, by show (gAll nc (c + 1) (cW nc w ld c) (cLd w ld c) (cN nc w ld c n) m).2.2 ≤ n + ((m + 1 : Nat) : Int); omega⟩
theorem wAll_k {w : Int → Int} (h : Wk w) (nc : Int) (h3 : -1000000 ≤ w 3 ∧ w 3 ≤ 1000000) : Wk (wAllW nc w) ∧ (∀ j, j < 79 → j ≠ 3 → wAllW nc w j = w j) ∧ w 3 ≤ wAllW nc w 3 ∧ wAllW nc w 3 ≤ w 3 + 20 ∧ 0 ≤ wAllN nc w ∧ wAllN nc w ≤ 20 ∧ ∀ c, 0 ≤ c → wAllW nc w (79 + 6 * c + 0) = w (79 + 6 * c + 0) ∧ wAllW nc w (79 + 6 * c + 1) = w (79 + 6 * c + 1) := by
  obtain ⟨h1, h2, h4, h5⟩ := gAll_k nc (w 1).toNat 0 w (fun _ => 0) 0 (by omega) h
  have hc := h.2.1
  have e3 := h2.1 3 (by omega)
  unfold wAllW wAllN wAll
  refine ⟨Wk_23 h1 ⟨by omega, by omega⟩ (by omega), fun j hj h3' => by rw [wUp_o _ _ h3']; exact h2.1 j hj, ?_, ?_, by omega, by omega, fun c hc => ?_⟩
  · rw [wUp_s]; omega
  · rw [wUp_s]; omega
  · rw [wUp_o _ _ (by omega), wUp_o _ _ (by omega)]
    exact h2.2 c hc
/-- a sign comes up -/
theorem Wk_put {w : Int → Int} (h : Wk w) {b a : Int} (hb : 0 ≤ b) (hb2 : b < w 0) (ha : 0 ≤ a) (ha2 : a < 360) (hn : w 28 ≤ 24) : Wk (wPut w b a) ∧ (∀ j, j < 28 → wPut w b a j = w j) ∧ ∀ j, 79 ≤ j → wPut w b a j = w j := by
  obtain ⟨q1, q2, q3, q4, q5⟩ := h
  have hp := psF_r w a (w 28).toNat
  have lo : ∀ j, j < 28 → wPut w b a j = w j := fun j hj => by
    unfold wPut
    rw [wUp_o _ _ (by omega), wUp_o _ _ (by omega), wUp_o _ _ (by omega), wSh_lo _ (by omega)]
  have hi : ∀ j, 79 ≤ j → wPut w b a j = w j := fun j hj => by
    unfold wPut
    rw [wUp_o _ _ (by omega), wUp_o _ _ (by omega), wUp_o _ _ (by omega)]
    exact if_neg (fun q => by omega)
  have e28 : wPut w b a 28 = w 28 + 1 := wUp_s _ _ _
  refine ⟨⟨?_, ?_, fun k g0 g1 => ?_, fun d g0 g1 => ?_, fun d g0 g1 => ?_⟩, lo, hi⟩
  · unfold wPut
    refine Rg_wUp (Rg_wUp (Rg_wUp ?_ _ (by omega)) _ (by omega)) _ (by omega)
    intro j
    unfold wSh
    split
    · exact q1 _
    · exact q1 _
  · rw [lo 0 (by omega), lo 1 (by omega), e28]
    omega
  · rw [e28] at g1
    rw [lo 0 (by omega)]
    unfold wPut
    by_cases z : k = psF w a (w 28).toNat
    · rw [← z, wUp_o _ _ (by omega), wUp_o _ _ (by omega), wUp_s, wUp_o _ _ (by omega), wUp_s]
      omega
    · rw [wUp_o _ _ (by omega), wUp_o _ _ (by omega), wUp_o _ _ (by omega), wUp_o _ _ (by omega), wUp_o _ _ (by omega), wUp_o _ _ (by omega)]
      by_cases z2 : psF w a (w 28).toNat < k
      · have e1 : wSh w (psF w a (w 28).toNat) (w 28) (29 + 2 * k) = w (29 + 2 * (k - 1)) := by
          unfold wSh
          rw [if_pos ⟨by omega, by omega⟩]
          congr 1
          omega
        have e2 : wSh w (psF w a (w 28).toNat) (w 28) (29 + 2 * k + 1) = w (29 + 2 * (k - 1) + 1) := by
          unfold wSh
          rw [if_pos ⟨by omega, by omega⟩]
          congr 1
          omega
        rw [e1, e2]
        exact q3 (k - 1) (by omega) (by omega)
      · rw [wSh_lo _ (by omega), wSh_lo _ (by omega)]
        exact q3 k g0 (by omega)
  · rw [lo _ (by omega), lo _ (by omega), lo _ (by omega)]
    exact q4 d g0 g1
  · rw [hi _ (by omega), hi _ (by omega), hi _ (by omega), hi _ (by omega)]
    exact q5 d g0 g1
theorem Wk_take {w : Int → Int} (h : Wk w) {z : Int} (hz : 0 ≤ z) (hz2 : z < w 28) : Wk (wTake w z) ∧ (∀ j, j < 28 → wTake w z j = w j) ∧ ∀ j, 79 ≤ j → wTake w z j = w j := by
  obtain ⟨q1, q2, q3, q4, q5⟩ := h
  have lo : ∀ j, j < 28 → wTake w z j = w j := fun j hj => by
    unfold wTake
    rw [wUp_o _ _ (by omega), wUp_o _ _ (by omega)]
    unfold wUn
    rw [if_neg (by omega), if_neg (by omega)]
  have hi : ∀ j, 79 ≤ j → wTake w z j = w j := fun j hj => by
    unfold wTake
    rw [wUp_o _ _ (by omega), wUp_o _ _ (by omega)]
    exact wUn_hi w (by omega) (by omega)
  have e28 : wTake w z 28 = w 28 - 1 := by
    unfold wTake
    rw [wUp_o _ _ (by omega), wUp_o _ _ (by omega)]
    exact wUn_28 _ _ _
  refine ⟨⟨?_, ?_, fun k g0 g1 => ?_, fun d g0 g1 => ?_, fun d g0 g1 => ?_⟩, lo, hi⟩
  · unfold wTake
    refine Rg_wUp (Rg_wUp ?_ _ (by omega)) _ (by omega)
    intro j
    unfold wUn
    split
    · have := q1 28; omega
    · split
      · exact q1 _
      · exact q1 _
  · rw [lo 0 (by omega), lo 1 (by omega), e28]
    omega
  · rw [e28] at g1
    rw [lo 0 (by omega)]
    unfold wTake
    rw [wUp_o _ _ (by omega), wUp_o _ _ (by omega), wUp_o _ _ (by omega), wUp_o _ _ (by omega)]
    by_cases z2 : z ≤ k
    · have e1 : wUn w z (w 28 - 1) (29 + 2 * k) = w (29 + 2 * (k + 1)) := by
        unfold wUn
        rw [if_neg (by omega), if_pos ⟨by omega, by omega⟩]
        congr 1
        omega
      have e2 : wUn w z (w 28 - 1) (29 + 2 * k + 1) = w (29 + 2 * (k + 1) + 1) := by
        unfold wUn
        rw [if_neg (by omega), if_pos ⟨by omega, by omega⟩]
        congr 1
        omega
      rw [e1, e2]
      exact q3 (k + 1) (by omega) (by omega)
    · have e1 : wUn w z (w 28 - 1) (29 + 2 * k) = w (29 + 2 * k) := by
        unfold wUn
        rw [if_neg (by omega), if_neg (by omega)]
      have e2 : wUn w z (w 28 - 1) (29 + 2 * k + 1) = w (29 + 2 * k + 1) := by
        unfold wUn
        rw [if_neg (by omega), if_neg (by omega)]
      rw [e1, e2]
      exact q3 k g0 (by omega)
  · rw [lo _ (by omega), lo _ (by omega), lo _ (by omega)]
    exact q4 d g0 g1
  · rw [hi _ (by omega), hi _ (by omega), hi _ (by omega), hi _ (by omega)]
    exact q5 d g0 g1
/-- one comes: the row before all go -/
def wCome (w : Int → Int) (a lv : Int) : Int → Int := wUp (wUp (wUp w 1 (w 1 + 1)) (79 + 6 * w 1 + 0) a) (79 + 6 * w 1 + 1) lv
theorem Wk_come {w : Int → Int} (h : Wk w) {a lv : Int} (ha : 0 ≤ a) (ha2 : a < 360) (hl : 1 ≤ lv) (hl2 : lv ≤ 9) (hn : w 1 < 20) : Wk (wCome w a lv) ∧ (∀ j, j < 79 → j ≠ 1 → wCome w a lv j = w j) := by
  obtain ⟨q1, q2, q3, q4, q5⟩ := h
  have lo : ∀ j, j < 79 → j ≠ 1 → wCome w a lv j = w j := fun j hj h1 => by
    unfold wCome
    rw [wUp_o _ _ (by omega), wUp_o _ _ (by omega), wUp_o _ _ h1]
  have e1 : wCome w a lv 1 = w 1 + 1 := by
    unfold wCome
    rw [wUp_o _ _ (by omega), wUp_o _ _ (by omega), wUp_s]
  refine ⟨⟨?_, ?_, fun k g0 g1 => ?_, fun d g0 g1 => ?_, fun d g0 g1 => ?_⟩, lo⟩
  · exact Rg_wUp (Rg_wUp (Rg_wUp q1 _ (by omega)) _ (by omega)) _ (by omega)
  · rw [lo 0 (by omega) (by omega), e1, lo 28 (by omega) (by omega)]
    omega
  · rw [lo 28 (by omega) (by omega)] at g1
    rw [lo _ (by omega) (by omega), lo _ (by omega) (by omega), lo 0 (by omega) (by omega)]
    exact q3 k g0 g1
  · rw [lo _ (by omega) (by omega), lo _ (by omega) (by omega), lo _ (by omega) (by omega)]
    exact q4 d g0 g1
  · have q := q5 d g0 g1
    unfold wCome
    rw [wUp_o (j := 79 + 6 * d + 2) _ _ (by omega), wUp_o (j := 79 + 6 * d + 2) _ _ (by omega), wUp_o (j := 79 + 6 * d + 2) _ _ (by omega), wUp_o (j := 79 + 6 * d + 4) _ _ (by omega), wUp_o (j := 79 + 6 * d + 4) _ _ (by omega), wUp_o (j := 79 + 6 * d + 4) _ _ (by omega)]
    by_cases z : d = w 1
    · rw [z, wUp_o (j := 79 + 6 * w 1 + 0) _ _ (by omega), wUp_s, wUp_s]
      rw [z] at q
      omega
    · rw [wUp_o _ _ (by omega), wUp_o _ _ (by omega), wUp_o _ _ (by omega), wUp_o _ _ (by omega), wUp_o _ _ (by omega), wUp_o _ _ (by omega)]
      exact q
/-- one leaves: the others come a place nearer, the last place is empty -/
def wLeave (w : Int → Int) (c : Int) : Int → Int := fun j => if j = 1 then w 1 - 1 else if 79 + 6 * c ≤ j ∧ j < 79 + 6 * (w 1 - 1) then w (j + 6) else if 79 + 6 * (w 1 - 1) ≤ j ∧ j < 79 + 6 * w 1 then 0 else w j
theorem Wk_leave {w : Int → Int} (h : Wk w) {c : Int} (hc : 0 ≤ c) (hc2 : c < w 1) : Wk (wLeave w c) ∧ (∀ j, j < 79 → j ≠ 1 → wLeave w c j = w j) := by
  obtain ⟨q1, q2, q3, q4, q5⟩ := h
  have lo : ∀ j, j < 79 → j ≠ 1 → wLeave w c j = w j := fun j hj h1 => by
    unfold wLeave
    rw [if_neg h1, if_neg (by omega), if_neg (by omega)]
  have e1 : wLeave w c 1 = w 1 - 1 := if_pos rfl
  refine ⟨⟨?_, ?_, fun k g0 g1 => ?_, fun d g0 g1 => ?_, fun d g0 g1 => ?_⟩, lo⟩
  · intro j
    unfold wLeave
    split
    · have := q1 1; omega
    · split
      · exact q1 _
      · split
        · omega
        · exact q1 _
  · rw [lo 0 (by omega) (by omega), e1, lo 28 (by omega) (by omega)]
    omega
  · rw [lo 28 (by omega) (by omega)] at g1
    rw [lo _ (by omega) (by omega), lo _ (by omega) (by omega), lo 0 (by omega) (by omega)]
    exact q3 k g0 g1
  · rw [lo _ (by omega) (by omega), lo _ (by omega) (by omega), lo _ (by omega) (by omega)]
    exact q4 d g0 g1
  · have q := q5 d g0 g1
    have cs : ∀ f, 0 ≤ f → f ≤ 5 → wLeave w c (79 + 6 * d + f) = if c ≤ d ∧ d < w 1 - 1 then w (79 + 6 * (d + 1) + f) else if d = w 1 - 1 then 0 else w (79 + 6 * d + f) := fun f f0 f5 => by
      unfold wLeave
      rw [if_neg (by omega)]
      by_cases z : c ≤ d ∧ d < w 1 - 1
      · rw [if_pos ⟨by omega, by omega⟩, if_pos z]
        congr 1
        omega
      · rw [if_neg (by omega), if_neg z]
        by_cases z2 : d = w 1 - 1
        · rw [if_pos ⟨by omega, by omega⟩, if_pos z2]
        · rw [if_neg (by omega), if_neg z2]
    rw [cs 0 (by omega) (by omega), cs 1 (by omega) (by omega), cs 2 (by omega) (by omega), cs 4 (by omega) (by omega)]
    by_cases z : c ≤ d ∧ d < w 1 - 1
    · rw [if_pos z, if_pos z, if_pos z, if_pos z]
      exact q5 (d + 1) (by omega) (by omega)
    · rw [if_neg z, if_neg z, if_neg z, if_neg z]
      by_cases z2 : d = w 1 - 1
      · rw [if_pos z2, if_pos z2, if_pos z2, if_pos z2]
        omega
      · rw [if_neg z2, if_neg z2, if_neg z2, if_neg z2]
        exact q
/-- why not: the outcome's number, the reason (0: none that is kept), what stands beside it -/
def nSign (w : Int → Int) (b a : Int) : Int × Int × Int := if ¬ ((0 ≤ b ∧ b ≤ w 0 - 1) ∧ 0 ≤ a ∧ a ≤ 359) then (1, 0, 0) else if 0 ≤ wSignOn w a then (2, 2, w (29 + 2 * wSignOn w a + 1)) else if w 28 = 24 then (2, 1, 24) else if wSignsOf w b = 8 then (2, 1, 8) else (0, 0, 0)
def nDown (w : Int → Int) (a : Int) : Int × Int × Int := if ¬ (0 ≤ a ∧ a ≤ 359) then (1, 0, 0) else if wSignOn w a < 0 then (2, 3, a) else (0, 0, 0)
def nClose (w : Int → Int) (b : Int) : Int × Int × Int := if ¬ (0 ≤ b ∧ b ≤ w 0 - 1) then (1, 0, 0) else if ¬ w (4 + 4 * b + 2) = 0 then (2, 4, b) else if wOpenMany w = 1 then (2, 6, b) else (0, 0, 0)
def nOpen (w : Int → Int) (b : Int) : Int × Int × Int := if ¬ (0 ≤ b ∧ b ≤ w 0 - 1) then (1, 0, 0) else if w (4 + 4 * b + 2) = 0 then (2, 5, b) else (0, 0, 0)
def nOven (w : Int → Int) (b v : Int) : Int × Int × Int := if ¬ (0 ≤ b ∧ b ≤ w 0 - 1) then (1, 0, 0) else if ¬ (1 ≤ v ∧ v ≤ 40) then (2, 0, 0) else if w (4 + 4 * b + 1) = v then (3, 7, v) else (0, 0, 0)
def nCome (w : Int → Int) (a lv : Int) : Int × Int × Int := if ¬ (0 ≤ a ∧ a ≤ 359) then (1, 0, 0) else if ¬ (1 ≤ lv ∧ lv ≤ 9) then (2, 0, 0) else if w 1 = 20 then (3, 1, 20) else (0, 0, 0)
def nLeave (w : Int → Int) (c : Int) : Int × Int × Int := if ¬ (0 ≤ c ∧ c ≤ w 1 - 1) then (1, 0, 0) else (0, 0, 0)
/-- .. noted -/
def mNot (F : Nat → Int → Int) (t : Int × Int × Int) : Nat → Int → Int := if t.1 = 0 then F else if t.2.1 = 0 then up2 F 3 0 0 else up2 (up2 F 3 0 t.2.1) 4 0 t.2.2
theorem mNot_0 (F : Nat → Int → Int) : mNot F (0, 0, 0) = F := rfl
theorem mNot_1 (F : Nat → Int → Int) {c : Int} (h : c ≠ 0) : mNot F (c, 0, 0) = up2 F 3 0 0 := by
  unfold mNot
  rw [if_neg h, if_pos rfl]
theorem mNot_2 (F : Nat → Int → Int) {c r : Int} (d : Int) (h : c ≠ 0) (hr : r ≠ 0) : mNot F (c, r, d) = up2 (up2 F 3 0 r) 4 0 d := by
  unfold mNot
  rw [if_neg h, if_neg hr]
theorem mNot_o (F : Nat → Int → Int) (t : Int × Int × Int) {f : Nat} (h3 : f ≠ 3) (h4 : f ≠ 4) : mNot F t f = F f := by
  unfold mNot
  split
  · rfl
  · split
    · rw [up2_oth _ _ _ h3]
    · rw [up2_oth _ _ _ h4, up2_oth _ _ _ h3]
theorem wSignOn_r (w : Int → Int) (h0 : 0 ≤ w 28) (a : Int) : wSignOn w a = -1 ∨ (0 ≤ wSignOn w a ∧ wSignOn w a < w 28) := by
  have h := fdF_range (p := fun k => w (29 + 2 * k) == a) (w 28).toNat 0
  unfold wSignOn
  omega
theorem wSignsOf_r (w : Int → Int) (h0 : 0 ≤ w 28) (b : Int) : 0 ≤ wSignsOf w b ∧ wSignsOf w b ≤ w 28 := by
  have := sm_le (fun k => if w (29 + 2 * k + 1) = b then 1 else 0) (c := 1) (by omega) (w 28) (fun j _ _ => by
    show 0 ≤ (if w (29 + 2 * j + 1) = b then (1 : Int) else 0) ∧ (if w (29 + 2 * j + 1) = b then (1 : Int) else 0) ≤ 1
    split <;> omega) h0
  unfold wSignsOf
  omega
theorem wOpenMany_r (w : Int → Int) (h0 : 0 ≤ w 0) : 0 ≤ wOpenMany w ∧ wOpenMany w ≤ w 0 := by
  have := sm_le (fun b => if w (4 + 4 * b + 2) = 0 then 1 else 0) (c := 1) (by omega) (w 0) (fun j _ _ => by
    show 0 ≤ (if w (4 + 4 * j + 2) = 0 then (1 : Int) else 0) ∧ (if w (4 + 4 * j + 2) = 0 then (1 : Int) else 0) ≤ 1
    split <;> omega) h0
  unfold wOpenMany
  omega
