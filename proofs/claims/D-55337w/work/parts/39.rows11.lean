/-! ROWS 11 -/
/-- what a script that went through leaves, beside a change's beginning -/
theorem script_keep {F F3 : Nat → Int → Int} {w : Int → Int} (h3z : ∀ f : Nat, f ≠ 3 → f ≠ 4 → f ≠ 5 → f ≠ 8 → f ≠ 12 → f ≠ 13 → f ≠ 16 → f ≠ 18 → f ≠ 19 → f ≠ 20 → F3 f = up2 F 0 0 0 f) (h3 : F3 3 = F 3) (h4 : F3 4 = F 4) (h38 : ∀ j, 0 ≤ j → j < 199 → F3 8 j = w j) (hw : F 5 = w) (f : Nat) (a : f ≠ 5) (b : f ≠ 8) (c : f ≠ 12) (d : f ≠ 13) (e : f ≠ 15) (g : f ≠ 16) (h : f ≠ 18) (i : f ≠ 19) (j : f ≠ 20) : mKeep (up2 F3 15 0 0) f = mBeg (up2 F 0 0 0) f := by
  unfold mBeg
  rw [up2_oth _ _ _ a]
  by_cases q : f = 6 ∨ f = 9 ∨ f = 10
  · refine mKeep_c ?_ ?_ ?_ (fun j h0 h1 => ?_) q
    · rw [up2_oth _ _ _ (by decide), upR_oth _ _ _ (by decide), h3z 6 (by decide) (by decide) (by decide) (by decide) (by decide) (by decide) (by decide) (by decide) (by decide) (by decide)]
    · rw [up2_oth _ _ _ (by decide), upR_oth _ _ _ (by decide), h3z 9 (by decide) (by decide) (by decide) (by decide) (by decide) (by decide) (by decide) (by decide) (by decide) (by decide)]
    · rw [up2_oth _ _ _ (by decide), upR_oth _ _ _ (by decide), h3z 10 (by decide) (by decide) (by decide) (by decide) (by decide) (by decide) (by decide) (by decide) (by decide) (by decide)]
    · rw [up2_oth _ _ _ (by decide), upR_in _ _ _ h0 h1, up2_oth _ _ _ (by decide), hw]
      exact h38 j h0 h1
  · have q6 : f ≠ 6 := fun z => q (Or.inl z)
    have q9 : f ≠ 9 := fun z => q (Or.inr (Or.inl z))
    have q10 : f ≠ 10 := fun z => q (Or.inr (Or.inr z))
    rw [mKeep_o _ q9 q10 q6, mKeep_o _ q9 q10 q6, up2_oth _ _ _ e, upR_oth _ _ _ b]
    by_cases q3 : f = 3
    · rw [q3, h3, up2_oth _ _ _ (by decide)]
    · by_cases q4 : f = 4
      · rw [q4, h4, up2_oth _ _ _ (by decide)]
      · exact h3z f q3 q4 a b c d g h i j
