/-! ROWS 23: round the ring -/
def atF (w : Int → Int) (z i : Int) : Int := if w 28 = 0 then -1 else w (29 + 2 * ((wFirst w z + i) % w 28))
theorem atF_0 {w : Int → Int} (hk : Wk w) (z : Int) : sgF w z = atF w z 0 := by
  have h28 := hk.2.1
  have hr := wFirst_r (w := w) (by omega) z
  unfold sgF atF
  by_cases q : w 28 = 0
  · rw [if_pos q, if_pos q]
  · rw [if_neg q, if_neg q, Int.add_zero, Int.emod_eq_of_lt hr.1 (by omega)]
theorem wCt_u {w : Int → Int} (h0 : 0 ≤ w 28) {f k : Int} (k0 : 0 ≤ k) (k1 : k ≤ w 28) (hb : ∀ j, 0 ≤ j → j < k → w (29 + 2 * j) < f) (ha : k < w 28 → f ≤ w (29 + 2 * k)) : wCt w f = k := by
  have h1 := ctF_all (p := fun k => decide (w (29 + 2 * k) < f)) (w 28).toNat 0
  have hr := wCt_r (w := w) h0 f
  change (∀ j, 0 ≤ j → j < wCt w f → _) ∧ (wCt w f < 0 + ((w 28).toNat : Int) → _) at h1
  by_cases q : wCt w f < k
  · have h2 := of_decide_eq_false (h1.2 (by omega))
    change ¬ w (29 + 2 * wCt w f) < f at h2
    exact absurd (hb _ hr.1 q) h2
  · by_cases q2 : k < wCt w f
    · have h2 := of_decide_eq_true (h1.1 k k0 q2)
      have := ha (by omega)
      omega
    · omega
theorem sgF_n {w : Int → Int} (hs : Wso w) (hk : Wk w) {j : Int} (j0 : 0 ≤ j) (j1 : j < w 28) : sgF w ((w (29 + 2 * j) + 1) % 360) = w (29 + 2 * ((j + 1) % w 28)) := by
  have h28 := hk.2.1
  have hj := hk.2.2.1 j j0 j1
  unfold sgF
  rw [if_neg (by omega)]
  congr 2
  have e : ∀ f, wFirst w f = if wCt w f = w 28 then 0 else wCt w f := fun _ => rfl
  rw [e]
  by_cases q : w (29 + 2 * j) = 359
  · have h1 : j + 1 = w 28 := by
      by_cases z : j + 1 < w 28
      · have h2 := hk.2.2.1 (j + 1) (by omega) z
        have := hs j (j + 1) j0 (by omega) z
        omega
      · omega
    rw [q, show ((359 : Int) + 1) % 360 = 0 by decide, wCt_u (k := 0) (by omega) (Int.le_refl _) (by omega) (fun i a b => by omega) (fun h => (hk.2.2.1 0 (Int.le_refl _) h).1.1), if_neg (by omega), h1, Int.emod_self]
  · rw [Int.emod_eq_of_lt (by omega) (by omega), wCt_u (k := j + 1) (by omega) (by omega) (by omega) (fun i a b => by
      by_cases z : i = j
      · rw [z]; omega
      · have := hs i j a (by omega) j1
        omega) (fun h => by have := hs j (j + 1) j0 (by omega) h; omega)]
    by_cases z : j + 1 = w 28
    · rw [if_pos z, z, Int.emod_self]
    · rw [if_neg z, Int.emod_eq_of_lt (by omega) (by omega)]
theorem atF_1 {w : Int → Int} (hs : Wso w) (hk : Wk w) {z i : Int} (h : 0 < w 28) : sgF w ((atF w z i + 1) % 360) = atF w z (i + 1) := by
  unfold atF
  rw [if_neg (by omega), if_neg (by omega), sgF_n hs hk (Int.emod_nonneg _ (by omega)) (Int.emod_lt_of_pos _ h)]
  rw [Int.emod_add_emod, show wFirst w z + i + 1 = wFirst w z + (i + 1) by omega]
def GP (a : Nat) : Nat → Nat → Prop := fun b j => b = a ∧ (j = 9 ∨ j = 10)
theorem SS_g {E : En} {σ τ : Mm} {a x : Nat} {w ld ow : Int → Int} {ch : Int} (h : SS E σ a x w ld ow ch) (hw : w 0 ≤ 6 ∧ w 1 ≤ 20) (hf : Fr (GP a) σ τ) : SS E τ a x w ld ow ch := by
  obtain ⟨⟨⟨l1, l2, l3, l4, l5, l6⟩, ⟨m1, m2, m3, m4⟩, n1, n2⟩, ⟨k1, k2, k3⟩, ⟨c1, c2, c3, c4⟩, d, o1, o2, o3, o4⟩ := h
  have r : ∀ b j, b < sz σ → ¬ (b = a ∧ (j = 9 ∨ j = 10)) → rd τ b j = rd σ b j := fun b j hb hn => (hf.2 b hb).2 j hn
  refine ⟨⟨⟨obFr hf l1, ?_, ?_, ?_, ?_, ?_⟩, ⟨arFr hf m1, arFr hf m2, arFr hf m3, arFr hf m4⟩, fun b h0 h1 => ⟨?_, obFr hf (n1 b h0 h1).2⟩, fun k h0 h1 => ⟨?_, obFr hf (n2 k h0 h1).2⟩⟩, ⟨obFr hf k1, obFr hf k2, obFr hf k3⟩, ⟨?_, ?_, ?_, ?_⟩, BG_fr d hf (fun b j q z => by have := z.1; omega), fun i h0 h1 => ?_, fun b h0 h1 => ?_, fun b h0 h1 => ?_, fun k h0 h1 => ?_⟩
  · rw [r a 0 l1.2.1 (by omega)]; exact l2
  · rw [r a 2 l1.2.1 (by omega)]; exact l3
  · rw [r a 3 l1.2.1 (by omega)]; exact l4
  · rw [r a 4 l1.2.1 (by omega)]; exact l5
  · rw [r a 6 l1.2.1 (by omega)]; exact l6
  · rw [r (a + 1) _ m1.2.1 (by omega)]; exact (n1 b h0 h1).1
  · rw [r (a + 5) _ m3.2.1 (by omega)]; exact (n2 k h0 h1).1
  · rw [r a 1 l1.2.1 (by omega)]; exact c1
  · rw [r a 5 l1.2.1 (by omega)]; exact c2
  · rw [r a 7 l1.2.1 (by omega)]; exact c3
  · rw [r a 8 l1.2.1 (by omega)]; exact c4
  · rw [r (a + 4) _ m2.2.1 (by omega)]; exact o1 i h0 h1
  · rw [r (a + 6) _ m4.2.1 (by omega)]; exact o2 b h0 h1
  · by_cases q : b < 6
    · have h2 := (n1 b h0 q).2.2.1
      have h3 := o3 b h0 h1
      rw [r _ 0 h2 (by omega), r _ 1 h2 (by omega), r _ 2 h2 (by omega)]
      exact h3
    · exact absurd h1 (by omega)
  · have h2 := (n2 k h0 (by omega)).2.2.1
    have h3 := o4 k h0 h1
    rw [r _ 0 h2 (by omega), r _ 1 h2 (by omega), r _ 2 h2 (by omega), r _ 3 h2 (by omega), r _ 4 h2 (by omega), r _ 5 h2 (by omega)]
    exact h3
