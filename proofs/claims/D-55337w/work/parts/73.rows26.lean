/-! ROWS 26: all go anew -/
theorem SS_lc {E : En} {σ : Mm} {a x : Nat} {w ld ld2 ow : Int → Int} {ch : Int} (h : SS E σ a x w ld ow ch) (he : ∀ b, 0 ≤ b → b < 6 → ld b = ld2 b) : SS E σ a x w ld2 ow ch := by
  obtain ⟨h1, h2, c, d, o1, o2, o3⟩ := h
  exact ⟨h1, h2, c, d, o1, fun b h0 h9 => by rw [← he b h0 h9]; exact o2 b h0 h9, o3⟩
theorem cW3_alt (w ld : Int → Int) (c : Int) : wUp (wUp (wUp w (79 + 6 * c + ((2 : Nat) : Int)) (cAt w ld c)) (79 + 6 * c + ((3 : Nat) : Int)) (cBy w ld c)) (79 + 6 * c + ((4 : Nat) : Int)) (cGo w ld c).2 = cW3 w ld c := by
  funext j
  unfold cW3 wUp
  by_cases q2 : j = 79 + 6 * c + 2
  · rw [if_neg (by omega), if_neg (by omega), if_pos (by omega), if_neg (by omega), if_pos q2]
  · by_cases q3 : j = 79 + 6 * c + 3
    · rw [if_neg (by omega), if_pos (by omega), if_pos q3]
    · by_cases q4 : j = 79 + 6 * c + 4
      · rw [if_pos (by omega), if_neg q3, if_neg q2, if_pos q4]
      · rw [if_neg (by omega), if_neg (by omega), if_neg (by omega), if_neg q3, if_neg q2, if_neg q4]
theorem Wso_c {v w : Int → Int} (h : Wso w) (hk : Wk w) (he : ∀ j, j < 79 → v j = w j) : Wso v := by
  have h28 := hk.2.1
  intro j k h0 h1 h2
  rw [he 28 (by omega)] at h2
  rw [he _ (by omega), he _ (by omega)]
  exact h j k h0 h1 h2
theorem Wow_c {v w ow : Int → Int} (h : Wow w ow) (hk : Wk w) (he : ∀ j, j < 79 → v j = w j) : Wow v ow := by
  have h28 := hk.2.1
  intro i h0 h1 h2
  have e : wSignOn v i = wSignOn w i := sbg_c (he 28 (by omega)) (fun k a b => he _ (by omega)) i
  rw [e] at h2
  rw [e]
  have h3 := wSignOn_at (by omega) h2
  rw [he _ (by omega)]
  exact h i h0 h1 h2
