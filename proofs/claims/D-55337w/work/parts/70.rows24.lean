/-! ROWS 24: how many signs -/
theorem wCt_k {w : Int → Int} (h0 : 0 ≤ w 28) (f : Int) : (∀ j, 0 ≤ j → j < wCt w f → w (29 + 2 * j) < f) ∧ (wCt w f < w 28 → f ≤ w (29 + 2 * wCt w f)) := by
  have h1 := ctF_all (p := fun k => decide (w (29 + 2 * k) < f)) (w 28).toNat 0
  refine ⟨fun j a b => of_decide_eq_true (h1.1 j a b), fun h => ?_⟩
  have h2 := of_decide_eq_false (h1.2 (by unfold wCt at h; omega))
  unfold wCt
  omega
theorem wCt_s {w : Int → Int} (hs : Wso w) (h0 : 0 ≤ w 28) (f : Int) : wCt w (f + 1) = wCt w f + (if 0 ≤ wSignOn w f then 1 else 0) := by
  have hr := wCt_r (w := w) h0 f
  have hc := wCt_k h0 f
  by_cases q : wCt w f < w 28 ∧ w (29 + 2 * wCt w f) = f
  · have e : wSignOn w f = wCt w f := by
      have := wSignOn_u hs hr.1 q.1
      rw [q.2] at this
      exact this
    rw [if_pos (by omega)]
    refine wCt_u h0 (by omega) (by omega) (fun j a b => ?_) (fun h => ?_)
    · by_cases z : j = wCt w f
      · rw [z]; omega
      · have := hc.1 j a (by omega)
        omega
    · have := hs (wCt w f) (wCt w f + 1) hr.1 (by omega) h
      omega
  · have e : ¬ 0 ≤ wSignOn w f := fun z => by
      have h2 := wSignOn_at h0 z
      by_cases z1 : wSignOn w f < wCt w f
      · have := hc.1 _ z z1
        omega
      · by_cases z2 : wSignOn w f = wCt w f
        · rw [z2] at h2
          exact q h2
        · have := hs _ _ hr.1 (show wCt w f < wSignOn w f by omega) h2.1
          have := hc.2 (by omega)
          omega
    rw [if_neg e, Int.add_zero]
    refine wCt_u h0 hr.1 hr.2 (fun j a b => ?_) (fun h => ?_)
    · have := hc.1 j a b
      omega
    · have := hc.2 h
      omega
theorem bcard_w {w : Int → Int} (hs : Wso w) (hk : Wk w) : bcard (sbg w) = w 28 := by
  have h28 := hk.2.1
  have h : ∀ n : Nat, sm (fun i => if sbg w i.toNat = true then 1 else 0) (n : Int) = wCt w (n : Int) := by
    intro n
    induction n with
    | zero => exact (wCt_u (by omega) (Int.le_refl _) (by omega) (fun j a b => by omega) (fun h => (hk.2.2.1 0 (Int.le_refl _) h).1.1)).symm
    | succ n ih =>
      rw [show ((n + 1 : Nat) : Int) = (n : Int) + 1 by omega, sm_1 _ (by omega), ih, wCt_s hs (by omega)]
      congr 1
      unfold sbg
      rw [Int.toNat_natCast]
      by_cases q : 0 ≤ wSignOn w (n : Int)
      · rw [if_pos q, if_pos (decide_eq_true q)]
      · rw [if_neg q, if_neg (by rw [decide_eq_false q]; decide)]
  unfold bcard
  rw [show (384 : Int) = ((384 : Nat) : Int) from rfl, h 384]
  exact wCt_u (by omega) (by omega) (Int.le_refl _) (fun j a b => by have := hk.2.2.1 j a b; omega) (fun h => by omega)
theorem kRoom_w (w : Int → Int) (b : Int) : kRoom (w (4 + 4 * b + 0)) (w (4 + 4 * b + 1)) = wRoom w b := rfl
