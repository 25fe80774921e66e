/-! ROWS 4 -/
theorem wSignOn_2 (w : Int → Int) (v a : Int) : wSignOn (wUp w 2 v) a = wSignOn w a := by
  unfold wSignOn
  rw [wUp_o _ _ (show (28 : Int) ≠ 2 by decide)]
  have h : ∀ (m : Nat) (i : Int), 0 ≤ i → fdF (fun k => wUp w 2 v (29 + 2 * k) == a) i m = fdF (fun k => w (29 + 2 * k) == a) i m := by
    intro m
    induction m with
    | zero => exact fun i _ => rfl
    | succ m ih =>
      intro i hi
      show (if (wUp w 2 v (29 + 2 * i) == a) = true then i else fdF (fun k => wUp w 2 v (29 + 2 * k) == a) (i + 1) m) = (if (w (29 + 2 * i) == a) = true then i else fdF (fun k => w (29 + 2 * k) == a) (i + 1) m)
      rw [wUp_o _ _ (by omega), ih (i + 1) (by omega)]
  exact h _ 0 (by omega)
