/-! ROWS 21: a state at a, the kinds at x: the row w, its loads ld, its owners ow, the number of changes ch -/
def sbg (w : Int → Int) : Nat → Bool := fun i => decide (0 ≤ wSignOn w (i : Int))
/-- how a state lies -/
def SL (E : En) (σ : Mm) (a : Nat) : Prop :=
  (Ob E σ a 4 ∧ rd σ a 0 = .ref (a + 1) ∧ rd σ a 2 = .ref (a + 2) ∧ rd σ a 3 = .ref (a + 4) ∧ rd σ a 4 = .ref (a + 5) ∧ rd σ a 6 = .ref (a + 6)) ∧
  (Ar E σ (a + 1) (.object "BakeryRing$Bakery") 6 ∧ Ar E σ (a + 4) .int 360 ∧ Ar E σ (a + 5) (.object "BakeryRing$Customer") 20 ∧ Ar E σ (a + 6) .int 6) ∧
  (∀ b : Int, 0 ≤ b → b < 6 → rd σ (a + 1) b.toNat = .ref (a + 7 + b.toNat) ∧ Ob E σ (a + 7 + b.toNat) 6) ∧
  ∀ k : Int, 0 ≤ k → k < 20 → rd σ (a + 5) k.toNat = .ref (a + 13 + k.toNat) ∧ Ob E σ (a + 13 + k.toNat) 7
/-- what a state holds -/
def SC (E : En) (σ : Mm) (a x : Nat) (w ld ow : Int → Int) (ch : Int) : Prop :=
  (rd σ a 1 = .int (iz (w 0)) ∧ rd σ a 5 = .int (iz (w 1)) ∧ rd σ a 7 = .int (iz ch) ∧ rd σ a 8 = .int (iz (w 3))) ∧
  BG E σ (a + 2) (sbg w) ∧
  (∀ i : Int, 0 ≤ i → i < 360 → rd σ (a + 4) i.toNat = .int (iz (ow i))) ∧
  (∀ b : Int, 0 ≤ b → b < 6 → rd σ (a + 6) b.toNat = .int (iz (ld b))) ∧
  (∀ b : Int, 0 ≤ b → b < w 0 → rd σ (a + 7 + b.toNat) 0 = .ref (x + (w (4 + 4 * b + 0)).toNat) ∧ rd σ (a + 7 + b.toNat) 1 = .int (iz (w (4 + 4 * b + 1))) ∧ rd σ (a + 7 + b.toNat) 2 = .int (iz (if w (4 + 4 * b + 2) = 0 then 1 else 0))) ∧
  ∀ k : Int, 0 ≤ k → k < w 1 → rd σ (a + 13 + k.toNat) 0 = .int (iz (w (79 + 6 * k + 0))) ∧ rd σ (a + 13 + k.toNat) 1 = .int (iz (w (79 + 6 * k + 1))) ∧ rd σ (a + 13 + k.toNat) 2 = .int (iz (w (79 + 6 * k + 2) - 1)) ∧ rd σ (a + 13 + k.toNat) 3 = .int (iz (w (79 + 6 * k + 3) - 1)) ∧ rd σ (a + 13 + k.toNat) 4 = .int (iz (w (79 + 6 * k + 4))) ∧ rd σ (a + 13 + k.toNat) 5 = .int (iz (w (79 + 6 * k + 5)))
/-- the owners are the signs' -/
def Wow (w ow : Int → Int) : Prop := ∀ i, 0 ≤ i → i < 360 → 0 ≤ wSignOn w i → ow i = w (29 + 2 * wSignOn w i + 1)
/-- the signs stand by their angles -/
def Wso (w : Int → Int) : Prop := ∀ j k, 0 ≤ j → j < k → k < w 28 → w (29 + 2 * j) < w (29 + 2 * k)
def SP (a : Nat) : Nat → Nat → Prop := fun b _ => a ≤ b ∧ b < a + 33
def SS (E : En) (σ : Mm) (a x : Nat) (w ld ow : Int → Int) (ch : Int) : Prop := SL E σ a ∧ KX E σ x ∧ SC E σ a x w ld ow ch
/-! the signs by their angles -/
theorem wSignOn_u {w : Int → Int} (hs : Wso w) {k : Int} (h0 : 0 ≤ k) (h1 : k < w 28) : wSignOn w (w (29 + 2 * k)) = k := by
  unfold wSignOn
  refine fdF_u _ 0 h0 (by omega) (by simp) (fun i a b => ?_)
  have := hs i k a b h1
  simp
  omega
theorem wSignOn_at {w : Int → Int} (h0 : 0 ≤ w 28) {a : Int} (h : 0 ≤ wSignOn w a) : wSignOn w a < w 28 ∧ w (29 + 2 * wSignOn w a) = a := by
  have h1 := fdF_range (p := fun k => w (29 + 2 * k) == a) (w 28).toNat 0
  change wSignOn w a = -1 ∨ (0 ≤ wSignOn w a ∧ wSignOn w a < 0 + ((w 28).toNat : Int) ∧ _) at h1
  rcases h1 with h1 | ⟨h1, h2, h3⟩
  · omega
  · exact ⟨by omega, beq_iff_eq.mp h3⟩
theorem sbg_k {w : Int → Int} (hs : Wso w) (hk : Wk w) {k : Int} (h0 : 0 ≤ k) (h1 : k < w 28) : sbg w (w (29 + 2 * k)).toNat = true := by
  have h2 := hk.2.2.1 k h0 h1
  unfold sbg
  rw [Int.toNat_of_nonneg h2.1.1, wSignOn_u hs h0 h1]
  exact decide_eq_true h0
theorem sbg_t {w : Int → Int} (h0 : 0 ≤ w 28) {i : Nat} (h : sbg w i = true) : 0 ≤ wSignOn w (i : Int) ∧ wSignOn w (i : Int) < w 28 ∧ w (29 + 2 * wSignOn w (i : Int)) = i := by
  have h1 := of_decide_eq_true h
  exact ⟨h1, wSignOn_at h0 h1⟩
/-- the first k signs lie below f, the others do not: the next one from f on -/
theorem nsb_k {w : Int → Int} (hs : Wso w) (hk : Wk w) {f k : Int} (hf : 0 ≤ f) (hf2 : f ≤ 384) (h0 : 0 ≤ k) (h1 : k ≤ w 28) (hb : ∀ j, 0 ≤ j → j < k → w (29 + 2 * j) < f) (ha : k < w 28 → f ≤ w (29 + 2 * k)) : nsb (sbg w) f = if k < w 28 then w (29 + 2 * k) else -1 := by
  have h28 := hk.2.1
  refine (NB_n hf hf2 ?_).symm
  by_cases q : k < w 28
  · rw [if_pos q]
    have h2 := hk.2.2.1 k h0 q
    refine Or.inr ⟨ha q, by omega, sbg_k hs hk h0 q, fun i a b => ?_⟩
    cases e : sbg w i
    · rfl
    · exfalso
      have h3 := sbg_t (by omega) e
      by_cases q2 : wSignOn w (i : Int) < k
      · have := hb _ h3.1 q2
        omega
      · by_cases q3 : wSignOn w (i : Int) = k
        · rw [q3] at h3
          omega
        · have := hs k _ h0 (by omega) h3.2.1
          omega
  · rw [if_neg q]
    refine Or.inl ⟨rfl, fun i a b => ?_⟩
    cases e : sbg w i
    · rfl
    · exfalso
      have h3 := sbg_t (by omega) e
      have := hb _ h3.1 (by omega)
      omega
