/-! ROWS 22: the first sign from an angle on -/
theorem bg_ob {E : En} {σ : Mm} {b : Nat} {g : Nat → Bool} (h : BG E σ b g) : Ob E σ b 5 := by
  obtain ⟨W, n, h1, -⟩ := h
  exact h1.1
theorem ctF_all {p : Int → Bool} (m : Nat) : ∀ i : Int, (∀ j, i ≤ j → j < ctF p i m → p j = true) ∧ (ctF p i m < i + m → p (ctF p i m) = false) := by
  induction m with
  | zero => exact fun i => ⟨fun j a b => by have : ctF p i 0 = i := rfl; omega, fun h => by have : ctF p i 0 = i := rfl; omega⟩
  | succ m ih =>
    intro i
    by_cases q : p i = true
    · have e : ctF p i (m + 1) = ctF p (i + 1) m := if_pos q
      rw [e]
      refine ⟨fun j a b => ?_, fun h => (ih (i + 1)).2 (by omega)⟩
      by_cases q2 : j = i
      · rw [q2]; exact q
      · exact (ih (i + 1)).1 j (by omega) b
    · have e : ctF p i (m + 1) = i := if_neg q
      rw [e]
      exact ⟨fun j a b => by omega, fun _ => by cases z : p i; rfl; exact absurd z q⟩
def wCt (w : Int → Int) (a : Int) : Int := ctF (fun k => decide (w (29 + 2 * k) < a)) 0 (w 28).toNat
theorem wCt_r {w : Int → Int} (h0 : 0 ≤ w 28) (a : Int) : 0 ≤ wCt w a ∧ wCt w a ≤ w 28 := by
  have h := ctF_range (p := fun k => decide (w (29 + 2 * k) < a)) (w 28).toNat 0
  unfold wCt
  omega
theorem nsb_ct {w : Int → Int} (hs : Wso w) (hk : Wk w) {f : Int} (hf : 0 ≤ f) (hf2 : f ≤ 384) : nsb (sbg w) f = if wCt w f < w 28 then w (29 + 2 * wCt w f) else -1 := by
  have h28 := hk.2.1
  have hr := wCt_r (w := w) (by omega) f
  have ha := ctF_all (p := fun k => decide (w (29 + 2 * k) < f)) (w 28).toNat 0
  refine nsb_k hs hk hf hf2 hr.1 hr.2 (fun j a b => of_decide_eq_true (ha.1 j a b)) (fun h => ?_)
  have h2 := ha.2 (by unfold wCt at h; omega)
  have h3 := of_decide_eq_false h2
  unfold wCt
  omega
def sgF (w : Int → Int) (a : Int) : Int := if w 28 = 0 then -1 else w (29 + 2 * wFirst w a)
theorem nsb_0 {w : Int → Int} (hs : Wso w) (hk : Wk w) : nsb (sbg w) 0 = if 0 < w 28 then w (29 + 2 * 0) else -1 := by
  have h28 := hk.2.1
  exact nsb_k hs hk (Int.le_refl _) (by omega) (Int.le_refl _) (by omega) (fun j a b => by omega) (fun h => (hk.2.2.1 0 (Int.le_refl _) h).1.1)
theorem sgF_ok {w : Int → Int} (hs : Wso w) (hk : Wk w) {f : Int} (hf : 0 ≤ f) (hf2 : f ≤ 384) : (if 0 ≤ nsb (sbg w) f then nsb (sbg w) f else nsb (sbg w) 0) = sgF w f := by
  have h28 := hk.2.1
  have hr := wCt_r (w := w) (by omega) f
  unfold sgF
  have e : wFirst w f = if wCt w f = w 28 then 0 else wCt w f := rfl
  rw [e, nsb_ct hs hk hf hf2, nsb_0 hs hk]
  by_cases q : wCt w f < w 28
  · have h2 := hk.2.2.1 _ hr.1 q
    rw [if_pos q, if_pos h2.1.1, if_neg (by omega), if_neg (by omega)]
  · rw [if_neg q, if_neg (by decide)]
    by_cases q2 : w 28 = 0
    · rw [if_pos q2, if_neg (by omega)]
    · rw [if_neg q2, if_pos (by omega), if_pos (by omega)]
theorem nsb_rng {g : Nat → Bool} {f : Int} (h0 : 0 ≤ f) (h1 : f ≤ 384) : nsb g f = -1 ∨ (f ≤ nsb g f ∧ nsb g f < 384) := by
  have h := fdF_range (p := fun i => g i.toNat) (384 - f).toNat f
  change nsb g f = -1 ∨ (f ≤ nsb g f ∧ nsb g f < f + ((384 - f).toNat : Int) ∧ _) at h
  omega
