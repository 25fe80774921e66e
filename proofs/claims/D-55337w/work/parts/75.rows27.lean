/-! ROWS 27: the moves -/
theorem SS_mv {E : En} {σ : Mm} {a x : Nat} {w ld ow : Int → Int} {ch v : Int} (h : SS E σ a x w ld ow ch) (hk : Wk w) : SS E (wr σ a 8 (.int (iz v))) a x (wUp w 3 v) ld ow ch := by
  obtain ⟨⟨⟨l1, l2, l3, l4, l5, l6⟩, ⟨m1, m2, m3, m4⟩, n1, n2⟩, ⟨k1, k2, k3⟩, ⟨c1, c2, c3, c4⟩, d, o1, o2, o3, o4⟩ := h
  have hw := hk.2.1
  have lo : ∀ j, j ≠ 3 → wUp w 3 v j = w j := fun j hj => wUp_o w v hj
  have r : ∀ b j, ¬ (b = a ∧ j = 8) → rd (wr σ a 8 (.int (iz v))) b j = rd σ b j := fun b j hb => by rw [rd_wr, if_neg hb]
  have es : sbg (wUp w 3 v) = sbg w := by
    funext i
    unfold sbg
    rw [sbg_c (lo 28 (by omega)) (fun k h0 h1 => lo _ (by omega))]
  refine ⟨⟨⟨obW l1, ?_, ?_, ?_, ?_, ?_⟩, ⟨arW m1, arW m2, arW m3, arW m4⟩, fun b h0 h1 => ⟨?_, obW (n1 b h0 h1).2⟩, fun k h0 h1 => ⟨?_, obW (n2 k h0 h1).2⟩⟩, ⟨obW k1, obW k2, obW k3⟩, ⟨?_, ?_, ?_, ?_⟩, ?_, fun i h0 h1 => ?_, fun b h0 h1 => ?_, fun b h0 h1 => ?_, fun k h0 h1 => ?_⟩
  · rw [r a 0 (by omega)]; exact l2
  · rw [r a 2 (by omega)]; exact l3
  · rw [r a 3 (by omega)]; exact l4
  · rw [r a 4 (by omega)]; exact l5
  · rw [r a 6 (by omega)]; exact l6
  · rw [r (a + 1) _ (by omega)]; exact (n1 b h0 h1).1
  · rw [r (a + 5) _ (by omega)]; exact (n2 k h0 h1).1
  · rw [r a 1 (by omega), lo 0 (by omega)]; exact c1
  · rw [r a 5 (by omega), lo 1 (by omega)]; exact c2
  · rw [r a 7 (by omega)]; exact c3
  · rw [rd_wr_s, wUp_s]
  · rw [es]
    exact BG_fr d (frWr (P := fun b _ => b = a) (frRefl _ _) (fun _ => rfl)) (fun b j q z => by omega)
  · rw [r (a + 4) _ (by omega)]; exact o1 i h0 h1
  · rw [r (a + 6) _ (by omega)]; exact o2 b h0 h1
  · rw [lo 0 (by omega)] at h1
    rw [r _ 0 (by omega), r _ 1 (by omega), r _ 2 (by omega), lo _ (by omega), lo _ (by omega), lo _ (by omega)]
    exact o3 b h0 h1
  · rw [lo 1 (by omega)] at h1
    rw [r _ 0 (by omega), r _ 1 (by omega), r _ 2 (by omega), r _ 3 (by omega), r _ 4 (by omega), r _ 5 (by omega), lo _ (by omega), lo _ (by omega), lo _ (by omega), lo _ (by omega), lo _ (by omega), lo _ (by omega)]
    exact o4 k h0 h1
