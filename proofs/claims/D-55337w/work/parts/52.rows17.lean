/-! ROWS 17: a set of bits at b -/
def bw (W : Nat → Nat) (i : Nat) : Bool := (W (i / 64)).testBit (i % 64)
def BS (E : En) (σ : Mm) (b : Nat) (W : Nat → Nat) (n : Int) : Prop := Ob E σ b 5 ∧ rd σ b 0 = .ref (b + 1) ∧ Ar E σ (b + 1) .long 6 ∧ rd σ b 1 = .int (iz n) ∧ (0 ≤ n ∧ n ≤ 6) ∧ (∀ k : Int, 0 ≤ k → k < 6 → rd σ (b + 1) k.toNat = .long (lN (W k.toNat))) ∧ (∀ k, W k < 2 ^ 64) ∧ ∀ k : Nat, n ≤ (k : Int) → W k = 0
def BG (E : En) (σ : Mm) (b : Nat) (g : Nat → Bool) : Prop := ∃ (W : Nat → Nat) (n : Int), BS E σ b W n ∧ ∀ i, bw W i = g i
def BP (b : Nat) : Nat → Nat → Prop := fun a _ => a = b ∨ a = b + 1
def bgU (g : Nat → Bool) (f : Int) (v : Bool) : Nat → Bool := fun i => if (i : Int) = f then v else g i
def nsb (g : Nat → Bool) (f : Int) : Int := fdF (fun i => g i.toNat) f (384 - f).toNat
def ncb (g : Nat → Bool) (f : Int) : Int := fdF (fun i => !g i.toNat) f (385 - f).toNat
def bcard (g : Nat → Bool) : Int := sm (fun i => if g i.toNat = true then 1 else 0) 384
def NB (g : Nat → Bool) (f r : Int) : Prop := (r = -1 ∧ ∀ i : Nat, f ≤ i → i < 384 → g i = false) ∨ (f ≤ r ∧ r < 384 ∧ g r.toNat = true ∧ ∀ i : Nat, f ≤ i → (i : Int) < r → g i = false)
def NC (g : Nat → Bool) (f r : Int) : Prop := f ≤ r ∧ r ≤ 384 ∧ g r.toNat = false ∧ ∀ i : Nat, f ≤ i → (i : Int) < r → g i = true
theorem fdF_u {p : Int → Bool} {r : Int} (N : Nat) : ∀ f : Int, f ≤ r → r < f + N → p r = true → (∀ i, f ≤ i → i < r → p i = false) → fdF p f N = r := by
  induction N with
  | zero => intro f h1 h2; omega
  | succ N ih =>
    intro f h1 h2 h3 h4
    by_cases q : f = r
    · subst q
      exact if_pos h3
    · have h5 := h4 f (Int.le_refl _) (by omega)
      show (if p f = true then f else fdF p (f + 1) N) = r
      rw [if_neg (by rw [h5]; decide)]
      exact ih (f + 1) (by omega) (by omega) h3 (fun i a b => h4 i (by omega) b)
theorem fdF_none {p : Int → Bool} (N : Nat) : ∀ f : Int, (∀ i, f ≤ i → i < f + N → p i = false) → fdF p f N = -1 := by
  induction N with
  | zero => exact fun _ _ => rfl
  | succ N ih =>
    intro f h
    have h5 := h f (Int.le_refl _) (by omega)
    show (if p f = true then f else fdF p (f + 1) N) = -1
    rw [if_neg (by rw [h5]; decide)]
    exact ih (f + 1) (fun i a b => h i (by omega) (by omega))
theorem NB_n {g : Nat → Bool} {f r : Int} (h0 : 0 ≤ f) (h1 : f ≤ 384) (h : NB g f r) : r = nsb g f := by
  unfold nsb
  rcases h with ⟨h2, h3⟩ | ⟨h2, h3, h4, h5⟩
  · rw [fdF_none _ f (fun i a b => h3 i.toNat (by omega) (by omega))]
    exact h2
  · exact (fdF_u _ f h2 (by omega) h4 (fun i a b => h5 i.toNat (by omega) (by omega))).symm
theorem NC_n {g : Nat → Bool} {f r : Int} (h0 : 0 ≤ f) (h : NC g f r) : r = ncb g f := by
  unfold ncb
  obtain ⟨h2, h3, h4, h5⟩ := h
  exact (fdF_u _ f h2 (by omega) (by show (!g r.toNat) = true; rw [h4]; rfl) (fun i a b => by show (!g i.toNat) = false; rw [h5 i.toNat (by omega) (by omega)]; rfl)).symm
/-- the bits of word u from the r-th of them on -/
theorem bw_at {W : Nat → Nat} {i u j : Nat} (h : i = 64 * u + j) (hj : j < 64) : bw W i = (W u).testBit j := by
  unfold bw
  rw [show i / 64 = u by omega, show i % 64 = j by omega]
/-- a word's change -/
def upW (W : Nat → Nat) (u q : Nat) : Nat → Nat := fun k => if k = u then q else W k
theorem BS_wr {E : En} {σ : Mm} {b : Nat} {W : Nat → Nat} {n : Int} {u : Int} {q : Nat} (h : BS E σ b W n) (hu : 0 ≤ u) (hun : u < n) (hq : q < 2 ^ 64) : BS E (wr σ (b + 1) u.toNat (.long (lN q))) b (upW W u.toNat q) n := by
  obtain ⟨h1, h2, h3, h4, h5, h6, h7, h8⟩ := h
  refine ⟨h1, by rw [rd_wr_a _ _ _ _ (by omega)]; exact h2, h3, by rw [rd_wr_a _ _ _ _ (by omega)]; exact h4, h5, fun k a c => ?_, fun k => ?_, fun k hk => ?_⟩
  · unfold upW
    by_cases e : k.toNat = u.toNat
    · rw [e, rd_wr_s, if_pos rfl]
    · rw [rd_wr_k _ _ _ _ e, if_neg e]
      exact h6 k a c
  · unfold upW
    split
    · exact hq
    · exact h7 k
  · unfold upW
    rw [if_neg (by omega)]
    exact h8 k hk
theorem BS_n {E : En} {σ : Mm} {b : Nat} {W : Nat → Nat} {n n' : Int} (h : BS E σ b W n) (hn : 0 ≤ n' ∧ n' ≤ 6) (hz : ∀ k : Nat, n' ≤ (k : Int) → W k = 0) : BS E (wr σ b 1 (.int (iz n'))) b W n' := by
  obtain ⟨h1, h2, h3, h4, h5, h6, h7, h8⟩ := h
  refine ⟨h1, by rw [rd_wr_k _ _ _ _ (by decide)]; exact h2, h3, rd_wr_s _ _ _ _, hn, fun k a c => ?_, h7, hz⟩
  rw [rd_wr_a _ _ _ _ (by omega)]
  exact h6 k a c
theorem BS_fr {P : Nat → Nat → Prop} {E : En} {σ τ : Mm} {b : Nat} {W : Nat → Nat} {n : Int} (h : BS E σ b W n) (hf : Fr P σ τ) (hP : ∀ a j, a = b ∨ a = b + 1 → ¬ P a j) : BS E τ b W n := by
  obtain ⟨h1, h2, h3, h4, h5, h6, h7, h8⟩ := h
  have k0 : ∀ j, rd τ b j = rd σ b j := fun j => (hf.2 b h1.2.1).2 j (hP b j (Or.inl rfl))
  have k1 : ∀ j, rd τ (b + 1) j = rd σ (b + 1) j := fun j => (hf.2 (b + 1) h3.2.1).2 j (hP (b + 1) j (Or.inr rfl))
  exact ⟨obFr hf h1, (k0 0).trans h2, arFr hf h3, (k0 1).trans h4, h5, fun k a c => (k1 _).trans (h6 k a c), h7, h8⟩
theorem BG_fr {P : Nat → Nat → Prop} {E : En} {σ τ : Mm} {b : Nat} {g : Nat → Bool} (h : BG E σ b g) (hf : Fr P σ τ) (hP : ∀ a j, a = b ∨ a = b + 1 → ¬ P a j) : BG E τ b g := by
  obtain ⟨W, n, h1, h2⟩ := h
  exact ⟨W, n, BS_fr h1 hf hP, h2⟩
theorem upW_bit {W : Nat → Nat} {g : Nat → Bool} {f : Int} {q : Nat} {v : Bool} (hg : ∀ i, bw W i = g i) (h0 : 0 ≤ f) (hq : ∀ i, q.testBit i = if i = f.toNat % 64 then v else (W (f / 64).toNat).testBit i) (i : Nat) : bw (upW W (f / 64).toNat q) i = bgU g f v i := by
  unfold bgU bw upW
  rw [← hg i]
  unfold bw
  by_cases e : i / 64 = (f / 64).toNat
  · rw [if_pos e, hq]
    by_cases e2 : i % 64 = f.toNat % 64
    · rw [if_pos e2, if_pos (by omega)]
    · rw [if_neg e2, if_neg (by omega), e]
  · rw [if_neg e, if_neg (by omega)]
theorem bit_if1 {q m k : Nat} (h : ∀ i, q.testBit i = (decide (i = k) || m.testBit i)) (i : Nat) : q.testBit i = if i = k then true else m.testBit i := by
  rw [h]
  by_cases e : i = k
  · rw [if_pos e]; simp [e]
  · rw [if_neg e]; simp [e]
theorem bit_if0 {q m k : Nat} (h : ∀ i, q.testBit i = (!decide (i = k) && m.testBit i)) (i : Nat) : q.testBit i = if i = k then false else m.testBit i := by
  rw [h]
  by_cases e : i = k
  · rw [if_pos e]; simp [e]
  · rw [if_neg e]; simp [e]
