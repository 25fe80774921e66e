/-! ROWS 9: scripts -/
theorem pAllF_1 {t : Int → Int} {L p : Int} {k : Nat} (hk : 0 < k) : pAllF t L k p = if (pOrd t L p).1 = 1 then (if lt t L (pOrd t L p).2.1 = 59 then pAllF t L (k - 1) ((pOrd t L p).2.1 + 1) else (if (pOrd t L p).2.1 = L then 1 else 0, (pOrd t L p).2.1)) else (0, (pOrd t L p).2.1) := by
  obtain ⟨m, rfl⟩ : ∃ m, k = m + 1 := ⟨k - 1, by omega⟩
  rfl
theorem pList_1 {t : Int → Int} {L p : Int} {k : Nat} (hk : 0 < k) : pList t L k p = (pOrd t L p).2.2 :: (if lt t L (pOrd t L p).2.1 = 59 then pList t L (k - 1) ((pOrd t L p).2.1 + 1) else []) := by
  obtain ⟨m, rfl⟩ : ∃ m, k = m + 1 := ⟨k - 1, by omega⟩
  rfl
def Wq (w : Int → Int) : Prop := Wk w ∧ w 28 ≤ 24
theorem wPut_28 (w : Int → Int) (b a : Int) : wPut w b a 28 = w 28 + 1 := wUp_s _ _ _
theorem wTake_28 (w : Int → Int) (k : Int) (h : 1 ≤ w 28) : wTake w k 28 = w 28 - 1 := by
  unfold wTake
  rw [wUp_o _ _ (by omega), wUp_o _ _ (by omega), wUn_28]
/-- a change of the row that is followed by all going -/
theorem wStep {w v : Int → Int} {nc : Int} (hv : Wk v) (h3 : v 3 = w 3) (h28 : v 28 ≤ 24) (hb : -1000000 ≤ w 3 ∧ w 3 ≤ 1000000) : Wq (wAllW nc v) ∧ w 3 ≤ wAllW nc v 3 ∧ wAllW nc v 3 ≤ w 3 + 20 := by
  have h := wAll_k hv nc (by rw [h3]; exact hb)
  refine ⟨⟨h.1, ?_⟩, by omega, by omega⟩
  rw [h.2.1 28 (by decide) (by decide)]
  exact h28
theorem dNow_k {w : Int → Int} {r : Int × Int × Int} (hk : Wq w) (hn : (nNow w r).1 = 0) (hb : -1000000 ≤ w 3 ∧ w 3 ≤ 1000000) : Wq (dNow w r) ∧ w 3 ≤ dNow w r 3 ∧ dNow w r 3 ≤ w 3 + 20 := by
  have hk2 := hk.1.2.1
  have h24 := hk.2
  unfold nNow at hn
  unfold dNow
  split at hn
  · rename_i q
    rw [if_pos q]
    have h := nSign_ok hn
    have hp := Wk_put hk.1 (b := r.2.1) (a := r.2.2) (by omega) (by omega) (by omega) (by omega) (by omega)
    exact wStep hp.1 (hp.2.1 3 (by decide)) (by rw [wPut_28]; omega) hb
  · rename_i q
    rw [if_neg q]
    split at hn
    · rename_i q
      rw [if_pos q]
      have h := nDown_ok hn
      have hs := wSignOn_r w (by omega) r.2.1
      have hp := Wk_take hk.1 (z := wSignOn w r.2.1) (by omega) (by omega)
      exact wStep hp.1 (hp.2.1 3 (by decide)) (by rw [wTake_28 _ _ (by omega)]; omega) hb
    · rename_i q
      rw [if_neg q]
      split at hn
      · rename_i q
        rw [if_pos q]
        have h := nClose_ok hn
        exact wStep (Wk_bk hk.1 (b := r.2.1) (f := 2) (v := 1) (by omega) (by omega) ⟨by omega, by omega⟩ (by omega) (by omega) (by omega)) (wUp_o _ _ (by omega)) (by rw [wUp_o _ _ (by omega)]; exact h24) hb
      · rename_i q
        rw [if_neg q]
        split at hn
        · rename_i q
          rw [if_pos q]
          have h := nOpen_ok hn
          exact wStep (Wk_bk hk.1 (b := r.2.1) (f := 2) (v := 0) (by omega) (by omega) ⟨by omega, by omega⟩ (by omega) (by omega) (by omega)) (wUp_o _ _ (by omega)) (by rw [wUp_o _ _ (by omega)]; exact h24) hb
        · rename_i q
          rw [if_neg q]
          split at hn
          · rename_i q
            rw [if_pos q]
            have h := nOven_ok hn
            exact wStep (Wk_bk hk.1 (b := r.2.1) (f := 1) (v := r.2.2) (by omega) (by omega) ⟨by omega, by omega⟩ (by omega) (by omega) (by omega)) (wUp_o _ _ (by omega)) (by rw [wUp_o _ _ (by omega)]; exact h24) hb
          · rename_i q
            rw [if_neg q]
            split at hn
            · rename_i q
              rw [if_pos q]
              have h := nCome_ok hn
              have hp := Wk_come hk.1 (a := r.2.1) (lv := r.2.2) (by omega) (by omega) (by omega) (by omega) (by omega)
              exact wStep hp.1 (hp.2 3 (by decide) (by decide)) (by rw [hp.2 28 (by decide) (by decide)]; exact h24) hb
            · rename_i q
              rw [if_neg q]
              have h := nLeave_ok hn
              have hp := Wk_leave hk.1 (c := r.2.1) (by omega) (by omega)
              exact wStep hp.1 (hp.2 3 (by decide) (by decide)) (by rw [hp.2 28 (by decide) (by decide)]; exact h24) hb
theorem mKeep_c {A B : Nat → Int → Int} (h6 : A 6 = B 6) (h9 : A 9 = B 9) (h10 : A 10 = B 10) (h8 : ∀ j, 0 ≤ j → j < 199 → A 8 j = B 8 j) {f : Nat} (hf : f = 6 ∨ f = 9 ∨ f = 10) : mKeep A f = mKeep B f := by
  have e1 : mFc A = mFc B := by unfold mFc; rw [h9, h10]
  have e2 : mCh A = mCh B := by unfold mCh; rw [h9]
  have e3 : ∀ f, f = 6 ∨ f = 9 ∨ f = 10 → mKeep0 A f = mKeep0 B f := by
    intro f hf
    have e4 : A f = B f := by
      rcases hf with q | q | q <;> subst q <;> assumption
    funext j
    unfold mKeep0
    rw [h9]
    split
    · rw [h10]
      unfold up2
      rw [e4]
    · rw [e4]
  funext j
  unfold mKeep
  rw [e1, e2]
  unfold up2 upA
  rw [e3 f hf]
  by_cases q : f = 9 ∧ j = 0
  · rw [if_pos q, if_pos q]
  · rw [if_neg q, if_neg q]
    by_cases q2 : f = 6 ∧ 199 * ((mFc B + mCh B) % 8) ≤ j ∧ j < 199 * ((mFc B + mCh B) % 8) + 199
    · rw [if_pos q2, if_pos q2, h8 _ (by omega) (by omega)]
    · rw [if_neg q2, if_neg q2]
def RQ (E : En) (σ0 : Mm) (o : Nat) (σ : Mm) (F : Nat → Int → Int) (q : Int) : Prop := ∃ F1 : Nat → Int → Int, MS E σ0 o σ F1 ∧ F1 16 0 = q ∧ ∀ f, f ≠ 16 → f ≠ 18 → f ≠ 19 → F1 f = F f
theorem RQ_t {E : En} {σ0 σ τ : Mm} {o : Nat} {F F1 : Nat → Int → Int} {q : Int} (h : MS E σ0 o σ F1) (he : ∀ f, f ≠ 16 → f ≠ 18 → f ≠ 19 → F1 f = F f) (h2 : RQ E σ o τ F1 q) : RQ E σ0 o τ F q := by
  obtain ⟨F2, a, b, d⟩ := h2
  exact ⟨F2, MS_t h a, b, fun f x y z => (d f x y z).trans (he f x y z)⟩
def DQ (E : En) (σ0 : Mm) (o : Nat) (σ : Mm) (F : Nat → Int → Int) (q : Int) (w : Int → Int) (d : Int) : Prop := ∃ F1 : Nat → Int → Int, MS E σ0 o σ F1 ∧ F1 16 0 = q ∧ F1 5 = w ∧ F1 20 0 = d ∧ ∀ f, f ≠ 5 → f ≠ 12 → f ≠ 13 → f ≠ 16 → f ≠ 18 → f ≠ 19 → f ≠ 20 → F1 f = F f
/-- a script's end: (is all done, the row, how many, why not) -/
def DE (E : En) (σ0 : Mm) (o : Nat) (σ : Mm) (F : Nat → Int → Int) (r : Int × (Int → Int) × Int × Int × Int × Int) : Prop := ∃ F1 : Nat → Int → Int, MS E σ0 o σ F1 ∧ F1 5 = r.2.1 ∧ F1 20 0 = r.2.2.1 ∧ (r.1 = 1 → F1 3 = F 3 ∧ F1 4 = F 4) ∧ (r.1 ≠ 1 → F1 3 0 = r.2.2.2.2.1 ∧ (r.2.2.2.2.1 ≠ 0 → F1 4 0 = r.2.2.2.2.2)) ∧ ∀ f, f ≠ 3 → f ≠ 4 → f ≠ 5 → f ≠ 12 → f ≠ 13 → f ≠ 16 → f ≠ 18 → f ≠ 19 → f ≠ 20 → F1 f = F f
theorem mNot_4 (F : Nat → Int → Int) (t : Int × Int × Int) (h : t.1 ≠ 0) (h2 : t.2.1 ≠ 0) : mNot F t 4 0 = t.2.2 := by
  unfold mNot
  rw [if_neg h, if_neg h2, up2_s]
