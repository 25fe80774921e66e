/-! ROWS 10 -/
theorem pAllF_ok {t : Int → Int} {L q : Int} {k : Nat} (hk : 0 < k) (h : (pAllF t L k q).1 = 1) : (pOrd t L q).1 = 1 ∧ (lt t L (pOrd t L q).2.1 = 59 → (pAllF t L (k - 1) ((pOrd t L q).2.1 + 1)).1 = 1) := by
  rw [pAllF_1 hk] at h
  by_cases c : (pOrd t L q).1 = 1
  · refine ⟨c, fun c2 => ?_⟩
    rw [if_pos c, if_pos c2] at h
    exact h
  · rw [if_neg c] at h
    exact absurd h (by show ¬ (0 : Int) = 1; decide)
theorem sRun_1 {r : Int × Int × Int} {rs : List (Int × Int × Int)} {w : Int → Int} {d : Int} (h : (nNow w r).1 = 0) : sRun (r :: rs) w d = sRun rs (dNow w r) (d + 1) := if_pos h
theorem sRun_0 {r : Int × Int × Int} {rs : List (Int × Int × Int)} {w : Int → Int} {d : Int} (h : ¬ (nNow w r).1 = 0) : sRun (r :: rs) w d = (0, w, d, nNow w r) := if_neg h
theorem nNow_r (w : Int → Int) (r : Int × Int × Int) : 0 ≤ (nNow w r).1 ∧ (nNow w r).1 ≤ 3 ∧ 0 ≤ (nNow w r).2.1 ∧ (nNow w r).2.1 ≤ 8 := by
  unfold nNow
  split
  · exact nSign_r _ _ _
  · split
    · exact nDown_r _ _
    · split
      · exact nClose_r _ _
      · split
        · exact nOpen_r _ _
        · split
          · exact nOven_r _ _ _
          · split
            · exact nCome_r _ _ _
            · exact nLeave_r _ _
