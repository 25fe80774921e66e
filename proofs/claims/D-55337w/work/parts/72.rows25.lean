/-! ROWS 25: a customer's number changes -/
theorem sbg_c {v w : Int → Int} (h28 : v 28 = w 28) (h : ∀ k, 0 ≤ k → k < w 28 → v (29 + 2 * k) = w (29 + 2 * k)) (a : Int) : wSignOn v a = wSignOn w a := by
  unfold wSignOn
  rw [h28]
  have g : ∀ (m : Nat) (i : Int), 0 ≤ i → i + m ≤ w 28 → fdF (fun k => v (29 + 2 * k) == a) i m = fdF (fun k => w (29 + 2 * k) == a) i m := by
    intro m
    induction m with
    | zero => exact fun i _ _ => rfl
    | succ m ih =>
      intro i h0 h1
      show (if (v (29 + 2 * i) == a) = true then i else fdF (fun k => v (29 + 2 * k) == a) (i + 1) m) = (if (w (29 + 2 * i) == a) = true then i else fdF (fun k => w (29 + 2 * k) == a) (i + 1) m)
      rw [h i h0 (by omega), ih (i + 1) (by omega) (by omega)]
  by_cases q : 0 ≤ w 28
  · exact g _ 0 (Int.le_refl _) (by omega)
  · rw [show (w 28).toNat = 0 by omega]
    rfl
theorem SS_cu {E : En} {σ : Mm} {a x : Nat} {w ld ow : Int → Int} {ch c v v' : Int} {f : Nat} (h : SS E σ a x w ld ow ch) (hk : Wk w) (hc : 0 ≤ c) (hc2 : c < w 1) (hf : 2 ≤ f ∧ f ≤ 5) (hv : v' = if f = 2 ∨ f = 3 then v - 1 else v) : SS E (wr σ (a + 13 + c.toNat) f (.int (iz v'))) a x (wUp w (79 + 6 * c + f) v) ld ow ch := by
  obtain ⟨⟨⟨l1, l2, l3, l4, l5, l6⟩, ⟨m1, m2, m3, m4⟩, n1, n2⟩, ⟨k1, k2, k3⟩, ⟨c1, c2, c3, c4⟩, d, o1, o2, o3, o4⟩ := h
  have hw := hk.2.1
  have lo : ∀ j, j < 79 → wUp w (79 + 6 * c + f) v j = w j := fun j hj => wUp_o w v (by omega)
  have r : ∀ b j, b ≠ a + 13 + c.toNat → rd (wr σ (a + 13 + c.toNat) f (.int (iz v'))) b j = rd σ b j := fun b j hb => rd_wr_a σ f j _ hb
  have es : sbg (wUp w (79 + 6 * c + f) v) = sbg w := by
    funext i
    unfold sbg
    rw [sbg_c (lo 28 (by omega)) (fun k h0 h1 => lo _ (by omega))]
  refine ⟨⟨⟨obW l1, ?_, ?_, ?_, ?_, ?_⟩, ⟨arW m1, arW m2, arW m3, arW m4⟩, fun b h0 h1 => ⟨?_, obW (n1 b h0 h1).2⟩, fun k h0 h1 => ⟨?_, obW (n2 k h0 h1).2⟩⟩, ⟨obW k1, obW k2, obW k3⟩, ⟨?_, ?_, ?_, ?_⟩, ?_, fun i h0 h1 => ?_, fun b h0 h1 => ?_, fun b h0 h1 => ?_, fun k h0 h1 => ?_⟩
  · rw [r a 0 (by omega)]; exact l2
  · rw [r a 2 (by omega)]; exact l3
  · rw [r a 3 (by omega)]; exact l4
  · rw [r a 4 (by omega)]; exact l5
  · rw [r a 6 (by omega)]; exact l6
  · rw [r (a + 1) _ (by omega)]; exact (n1 b h0 h1).1
  · rw [r (a + 5) _ (by omega)]; exact (n2 k h0 h1).1
  · rw [r a 1 (by omega), lo 0 (by omega)]; exact c1
  · rw [r a 5 (by omega), lo 1 (by omega)]; exact c2
  · rw [r a 7 (by omega)]; exact c3
  · rw [r a 8 (by omega), lo 3 (by omega)]; exact c4
  · rw [es]
    exact BG_fr d (frWr (P := fun b _ => b = a + 13 + c.toNat) (frRefl _ _) (fun _ => rfl)) (fun b j q z => by omega)
  · rw [r (a + 4) _ (by omega)]; exact o1 i h0 h1
  · rw [r (a + 6) _ (by omega)]; exact o2 b h0 h1
  · rw [lo 0 (by omega)] at h1
    rw [r _ 0 (by omega), r _ 1 (by omega), r _ 2 (by omega), lo _ (by omega), lo _ (by omega), lo _ (by omega)]
    exact o3 b h0 h1
  · rw [lo 1 (by omega)] at h1
    have h3 := o4 k h0 h1
    by_cases q : k = c
    · subst q
      obtain ⟨g0, g1, g2, g3, g4, g5⟩ := h3
      refine ⟨?_, ?_, ?_, ?_, ?_, ?_⟩
      · rw [rd_wr_k _ _ _ _ (by omega), wUp_o _ _ (by omega)]; exact g0
      · rw [rd_wr_k _ _ _ _ (by omega), wUp_o _ _ (by omega)]; exact g1
      · by_cases e : f = 2
        · subst e
          rw [rd_wr_s, hv, if_pos (Or.inl rfl), show (79 + 6 * k + 2 : Int) = 79 + 6 * k + ((2 : Nat) : Int) by omega, wUp_s]
        · rw [rd_wr_k _ _ _ _ (by omega), wUp_o _ _ (by omega)]; exact g2
      · by_cases e : f = 3
        · subst e
          rw [rd_wr_s, hv, if_pos (Or.inr rfl), show (79 + 6 * k + 3 : Int) = 79 + 6 * k + ((3 : Nat) : Int) by omega, wUp_s]
        · rw [rd_wr_k _ _ _ _ (by omega), wUp_o _ _ (by omega)]; exact g3
      · by_cases e : f = 4
        · subst e
          rw [rd_wr_s, hv, if_neg (by decide), show (79 + 6 * k + 4 : Int) = 79 + 6 * k + ((4 : Nat) : Int) by omega, wUp_s]
        · rw [rd_wr_k _ _ _ _ (by omega), wUp_o _ _ (by omega)]; exact g4
      · by_cases e : f = 5
        · subst e
          rw [rd_wr_s, hv, if_neg (by decide), show (79 + 6 * k + 5 : Int) = 79 + 6 * k + ((5 : Nat) : Int) by omega, wUp_s]
        · rw [rd_wr_k _ _ _ _ (by omega), wUp_o _ _ (by omega)]; exact g5
    · have hne : a + 13 + k.toNat ≠ a + 13 + c.toNat := by omega
      rw [r _ 0 hne, r _ 1 hne, r _ 2 hne, r _ 3 hne, r _ 4 hne, r _ 5 hne, wUp_o _ _ (by omega), wUp_o _ _ (by omega), wUp_o _ _ (by omega), wUp_o _ _ (by omega), wUp_o _ _ (by omega), wUp_o _ _ (by omega)]
      exact h3
/-- a load changes -/
theorem SS_ld {E : En} {σ : Mm} {a x : Nat} {w ld ow : Int → Int} {ch b v : Int} (h : SS E σ a x w ld ow ch) (hk : Wk w) (hb : 0 ≤ b) : SS E (wr σ (a + 6) b.toNat (.int (iz v))) a x w (wUp ld b v) ow ch := by
  obtain ⟨⟨⟨l1, l2, l3, l4, l5, l6⟩, ⟨m1, m2, m3, m4⟩, n1, n2⟩, ⟨k1, k2, k3⟩, ⟨c1, c2, c3, c4⟩, d, o1, o2, o3, o4⟩ := h
  have r : ∀ c j, c ≠ a + 6 → rd (wr σ (a + 6) b.toNat (.int (iz v))) c j = rd σ c j := fun c j hc => rd_wr_a σ _ j _ hc
  refine ⟨⟨⟨obW l1, ?_, ?_, ?_, ?_, ?_⟩, ⟨arW m1, arW m2, arW m3, arW m4⟩, fun b h0 h1 => ⟨?_, obW (n1 b h0 h1).2⟩, fun k h0 h1 => ⟨?_, obW (n2 k h0 h1).2⟩⟩, ⟨obW k1, obW k2, obW k3⟩, ⟨?_, ?_, ?_, ?_⟩, ?_, fun i h0 h1 => ?_, fun c h0 h1 => ?_, fun c h0 h1 => ?_, fun k h0 h1 => ?_⟩
  · rw [r a 0 (by omega)]; exact l2
  · rw [r a 2 (by omega)]; exact l3
  · rw [r a 3 (by omega)]; exact l4
  · rw [r a 4 (by omega)]; exact l5
  · rw [r a 6 (by omega)]; exact l6
  · rw [r (a + 1) _ (by omega)]; exact (n1 b h0 h1).1
  · rw [r (a + 5) _ (by omega)]; exact (n2 k h0 h1).1
  · rw [r a 1 (by omega)]; exact c1
  · rw [r a 5 (by omega)]; exact c2
  · rw [r a 7 (by omega)]; exact c3
  · rw [r a 8 (by omega)]; exact c4
  · exact BG_fr d (frWr (P := fun c _ => c = a + 6) (frRefl _ _) (fun _ => rfl)) (fun c j q z => by omega)
  · rw [r (a + 4) _ (by omega)]; exact o1 i h0 h1
  · by_cases q : c = b
    · subst q
      rw [rd_wr_s, wUp_s]
    · rw [rd_wr_k _ _ _ _ (by omega), wUp_o _ _ q]
      exact o2 c h0 h1
  · rw [r _ 0 (by omega), r _ 1 (by omega), r _ 2 (by omega)]
    exact o3 c h0 h1
  · rw [r _ 0 (by omega), r _ 1 (by omega), r _ 2 (by omega), r _ 3 (by omega), r _ 4 (by omega), r _ 5 (by omega)]
    exact o4 k h0 h1
