/-! BASE 1: numbers; the memory above the start as one function; locals by lookup -/
/-- an Int32 by its whole number -/
def iz (z : Int) : Int32 := Int32.ofInt z
def inR (z : Int) : Prop := -2147483648 ≤ z ∧ z < 2147483648
theorem iz_toInt {z : Int} (h : inR z) : (iz z).toInt = z := by
  unfold iz
  rw [Int32.toInt_ofInt]
  have h1 := h.1
  have h2 := h.2
  have h3 : (Int32.size : Int) = 4294967296 := rfl
  exact Int.bmod_eq_of_le (by omega) (by omega)
theorem iz_of (x : Int32) : iz x.toInt = x := by
  unfold iz
  exact Int32.ofInt_toInt x
theorem inR_of (x : Int32) : inR x.toInt := ⟨Int32.le_toInt x, Int32.toInt_lt x⟩
theorem iz_add (a b : Int) : iz a + iz b = iz (a + b) := by
  unfold iz
  exact (Int32.ofInt_add a b).symm
theorem iz_sub (a b : Int) : iz a - iz b = iz (a - b) := by
  unfold iz
  exact (Int32.ofInt_sub a b).symm
theorem iz_mul (a b : Int) : iz a * iz b = iz (a * b) := by
  unfold iz
  exact (Int32.ofInt_mul a b).symm
theorem iz_neg (a : Int) : - iz a = iz (- a) := by
  unfold iz
  exact (Int32.ofInt_neg a).symm
theorem iz_lt {a b : Int} (ha : inR a) (hb : inR b) : iz a < iz b ↔ a < b := by
  rw [Int32.lt_iff_toInt_lt, iz_toInt ha, iz_toInt hb]
theorem iz_le {a b : Int} (ha : inR a) (hb : inR b) : iz a ≤ iz b ↔ a ≤ b := by
  rw [Int32.le_iff_toInt_le, iz_toInt ha, iz_toInt hb]
theorem iz_inj {a b : Int} (ha : inR a) (hb : inR b) : iz a = iz b ↔ a = b := by
  rw [← Int32.toInt_inj, iz_toInt ha, iz_toInt hb]
theorem iz_0 : (0 : Int32) = iz 0 := by decide
theorem iz_1 : (1 : Int32) = iz 1 := by decide
theorem iz_clamp {z : Int} (h0 : 0 ≤ z) (h1 : z < 2147483648) : (iz z).toNatClampNeg = z.toNat := by
  show (iz z).toInt.toNat = z.toNat
  rw [iz_toInt ⟨by omega, h1⟩]
theorem iz_nneg {z : Int} (h0 : 0 ≤ z) (h1 : z < 2147483648) : ¬ iz z < 0 := by
  rw [iz_0, iz_lt ⟨by omega, h1⟩ ⟨by omega, by omega⟩]
  omega
theorem iz_in {z : Int} {n : Nat} (h0 : 0 ≤ z) (h1 : z < n) (hn : n < 2147483648) : ¬ (iz z < 0 ∨ n ≤ (iz z).toNatClampNeg) := by
  have h2 : z < 2147483648 := by omega
  rw [iz_clamp h0 h2]
  intro h
  rcases h with h | h
  · exact iz_nneg h0 h2 h
  · omega
theorem nI_iz (n : Nat) : nI n = iz (n : Int) := by
  unfold nI iz
  exact (Int32.ofInt_eq_ofNat).symm
theorem iz_div {a b : Int} (ha : inR a) (hb : inR b) (h0 : 0 ≤ a) (h1 : 0 < b) : iz a / iz b = iz (a / b) := by
  have e1 : iz a = nI a.toNat := by rw [nI_iz, Int.toNat_of_nonneg h0]
  have e2 : iz b = nI b.toNat := by rw [nI_iz, Int.toNat_of_nonneg (by omega)]
  rw [e1, e2, pk_div (by have := ha.2; omega) (by omega) (by have := hb.2; omega), nI_iz]
  congr 1
  rw [Int.natCast_ediv, Int.toNat_of_nonneg h0, Int.toNat_of_nonneg (by omega)]
theorem iz_rem {a b : Int} (ha : inR a) (hb : inR b) (h0 : 0 ≤ a) (h1 : 0 < b) : iz a - iz a / iz b * iz b = iz (a % b) := by
  rw [iz_div ha hb h0 h1, iz_mul, iz_sub]
  congr 1
  have := Int.mul_ediv_add_emod a b
  rw [Int.mul_comm] at this
  omega
/-! the memory -/
abbrev Kd : Type := Nat ⊕ (FieldType × Nat)
abbrev Mm : Type := (Nat → Kd) × (Nat → Nat → Value) × Nat
def kd (σ : Mm) (a : Nat) : Kd := σ.1 a
def rd (σ : Mm) (a k : Nat) : Value := σ.2.1 a k
def sz (σ : Mm) : Nat := σ.2.2
def wr (σ : Mm) (a k : Nat) (v : Value) : Mm := (σ.1, fun b j => if b = a ∧ j = k then v else σ.2.1 b j, σ.2.2)
def nw (σ : Mm) (K : Kd) (f : Nat → Value) : Mm := (fun b => if b = σ.2.2 then K else σ.1 b, fun b j => if b = σ.2.2 then f j else σ.2.1 b j, σ.2.2 + 1)
theorem kd_wr (σ : Mm) (a k : Nat) (v : Value) (b : Nat) : kd (wr σ a k v) b = kd σ b := rfl
theorem sz_wr (σ : Mm) (a k : Nat) (v : Value) : sz (wr σ a k v) = sz σ := rfl
theorem rd_wr (σ : Mm) (a k : Nat) (v : Value) (b j : Nat) : rd (wr σ a k v) b j = if b = a ∧ j = k then v else rd σ b j := rfl
theorem rd_wr_s (σ : Mm) (a k : Nat) (v : Value) : rd (wr σ a k v) a k = v := by rw [rd_wr, if_pos ⟨rfl, rfl⟩]
theorem rd_wr_a (σ : Mm) {a b : Nat} (k j : Nat) (v : Value) (h : b ≠ a) : rd (wr σ a k v) b j = rd σ b j := by rw [rd_wr, if_neg (fun q => h q.1)]
theorem rd_wr_k (σ : Mm) (a b : Nat) {k j : Nat} (v : Value) (h : j ≠ k) : rd (wr σ a k v) b j = rd σ b j := by rw [rd_wr, if_neg (fun q => h q.2)]
theorem kd_nw_s (σ : Mm) (K : Kd) (f : Nat → Value) : kd (nw σ K f) (sz σ) = K := by
  show (if σ.2.2 = σ.2.2 then K else σ.1 σ.2.2) = K
  rw [if_pos rfl]
theorem kd_nw_o (σ : Mm) (K : Kd) (f : Nat → Value) {b : Nat} (h : b ≠ sz σ) : kd (nw σ K f) b = kd σ b := by
  show (if b = σ.2.2 then K else σ.1 b) = σ.1 b
  exact if_neg h
theorem rd_nw_s (σ : Mm) (K : Kd) (f : Nat → Value) (j : Nat) : rd (nw σ K f) (sz σ) j = f j := by
  show (if σ.2.2 = σ.2.2 then f j else σ.2.1 σ.2.2 j) = f j
  rw [if_pos rfl]
theorem rd_nw_o (σ : Mm) (K : Kd) (f : Nat → Value) {b : Nat} (j : Nat) (h : b ≠ sz σ) : rd (nw σ K f) b j = rd σ b j := by
  show (if b = σ.2.2 then f j else σ.2.1 b j) = σ.2.1 b j
  exact if_neg h
theorem sz_nw (σ : Mm) (K : Kd) (f : Nat → Value) : sz (nw σ K f) = sz σ + 1 := rfl
/-! locals, by lookup -/
def lh (ls : Array Slot) (nL : Nat) (l : List (Nat × Value)) : Prop := ls.size = nL ∧ lv_wf ls ∧ ∀ (i : Nat) (v : Value), l.lookup i = some v → ls[i]? = some (.val v)
theorem lk {ls : Array Slot} {nL : Nat} {l : List (Nat × Value)} (h : lh ls nL l) {i : Nat} {v : Value} (hk : l.lookup i = some v) : ls[i]? = some (.val v) := h.2.2 i v hk
theorem lk_mem : ∀ (l : List (Nat × Value)) (i : Nat) (v : Value), l.lookup i = some v → (i, v) ∈ l
  | [], i, v, h => by cases h
  | (a, b) :: l, i, v, h => by
    rw [List.lookup_cons] at h
    by_cases q : i = a
    · subst q
      simp at h
      subst h
      exact List.mem_cons_self
    · have : (i == a) = false := by simp [q]
      rw [this] at h
      exact List.mem_cons_of_mem _ (lk_mem l i v h)
theorem lh_of {ls : Array Slot} {nL : Nat} {l : List (Nat × Value)} (h : lv_has ls nL l) : lh ls nL l := ⟨h.1, h.2.1, fun i v hv => h.2.2 (i, v) (lk_mem l i v hv)⟩
def canon (nL : Nat) (l : List (Nat × Value)) : List (Nat × Value) := (List.range nL).filterMap (fun j => (l.lookup j).map (fun v => (j, v)))
theorem canon_mem {nL : Nat} {l : List (Nat × Value)} {i : Nat} {v : Value} (hi : i < nL) (h : l.lookup i = some v) : (i, v) ∈ canon nL l :=
  List.mem_filterMap.mpr ⟨i, List.mem_range.mpr hi, by rw [h]; rfl⟩
theorem lh_has {ls : Array Slot} {nL : Nat} {l : List (Nat × Value)} (h : lh ls nL l) : lv_has ls nL (canon nL l) := by
  refine ⟨h.1, h.2.1, fun q hq => ?_⟩
  obtain ⟨j, -, hj⟩ := List.mem_filterMap.mp hq
  cases hl : l.lookup j with
  | none => rw [hl] at hj; cases hj
  | some v =>
    rw [hl] at hj
    cases hj
    exact h.2.2 j v hl
theorem lh_lt {ls : Array Slot} {nL : Nat} {l : List (Nat × Value)} (h : lh ls nL l) {i : Nat} {v : Value} (hv : l.lookup i = some v) : i < nL := by
  have := lv_lt (h.2.2 i v hv)
  rw [h.1] at this
  exact this
/-- the value before place i isn't of two slots -/
def cat1 (l : List (Nat × Value)) (i : Nat) : Bool := match i with
  | 0 => true
  | i + 1 => match l.lookup i with
    | some w => w.category == 1
    | none => true
theorem lh_store {ls ls' : Array Slot} {nL : Nat} {l : List (Nat × Value)} {i : Nat} {v : Value} (h0 : lh ls nL l) (h : lv_has ls' nL ((i, v) :: (canon nL l).filter (fun q => !(q.1 == i) && !(q.1 + 1 == i && q.2.category == 2)))) (hc : cat1 l i = true) : lh ls' nL ((i, v) :: l) := by
  refine ⟨h.1, h.2.1, fun j w hw => ?_⟩
  rw [List.lookup_cons] at hw
  by_cases q : j = i
  · subst q
    simp at hw
    subst hw
    exact h.2.2 _ List.mem_cons_self
  · have hne : (j == i) = false := by simp [q]
    rw [hne] at hw
    refine h.2.2 (j, w) (List.mem_cons_of_mem _ (List.mem_filter.mpr ⟨canon_mem (lh_lt h0 hw) hw, ?_⟩))
    by_cases q2 : j + 1 = i
    · subst q2
      simp only [cat1, hw] at hc
      have : w.category = 1 := by simpa using hc
      simp [this]
    · simp [q, q2]
theorem lh_store2 {ls ls' : Array Slot} {nL : Nat} {l : List (Nat × Value)} {i : Nat} {v : Value} (h0 : lh ls nL l) (h : lv_has ls' nL ((i, v) :: (canon nL l).filter (fun q => !(q.1 == i) && (!(q.1 == i + 1) && !(q.1 + 1 == i && q.2.category == 2))))) (hc : cat1 l i = true) (hn : l.lookup (i + 1) = none) : lh ls' nL ((i, v) :: l) := by
  refine ⟨h.1, h.2.1, fun j w hw => ?_⟩
  rw [List.lookup_cons] at hw
  by_cases q : j = i
  · subst q
    simp at hw
    subst hw
    exact h.2.2 _ List.mem_cons_self
  · have hne : (j == i) = false := by simp [q]
    rw [hne] at hw
    have hn2 : ¬ j = i + 1 := fun e => by
      subst e
      rw [hn] at hw
      cases hw
    refine h.2.2 (j, w) (List.mem_cons_of_mem _ (List.mem_filter.mpr ⟨canon_mem (lh_lt h0 hw) hw, ?_⟩))
    by_cases q2 : j + 1 = i
    · subst q2
      simp only [cat1, hw] at hc
      have : w.category = 1 := by simpa using hc
      simp [this]
      omega
    · simp [q, q2, hn2]
/-- fewer locals: l' by its own entries -/
theorem lh_sub {ls : Array Slot} {nL : Nat} {l l' : List (Nat × Value)} (h : lh ls nL l) (hs : l'.map (fun q => l.lookup q.1) = l'.map (fun q => some q.2)) : lh ls nL l' := by
  refine ⟨h.1, h.2.1, fun i v hv => h.2.2 i v ?_⟩
  have hm := lk_mem l' i v hv
  clear hv
  induction l' with
  | nil => cases hm
  | cons b l' ih =>
    simp only [List.map_cons, List.cons.injEq] at hs
    rcases List.mem_cons.mp hm with e | e
    · subst e
      exact hs.1
    · exact ih hs.2 e
