/-! ROWS: what the calls do to the row of numbers w (the reference's), in plain Lean -/
theorem nat_loop {P : Nat → Prop} (h0 : P 0) (hs : ∀ n, P n → P (n + 1)) : ∀ n, P n := fun n => Nat.rec h0 (fun n ih => hs n ih) n
/-- numbers that are far from the ends -/
def Rf (F : Nat → Int → Int) : Prop := ∀ f j, -1048576 ≤ F f j ∧ F f j ≤ 1048576
theorem Rf_in {F : Nat → Int → Int} (h : Rf F) (f : Nat) (j : Int) : inR (F f j) := by
  have := h f j
  unfold inR
  omega
def Rg (w : Int → Int) : Prop := ∀ j, -1048576 ≤ w j ∧ w j ≤ 1048576
theorem Rg_in {w : Int → Int} (h : Rg w) (j : Int) : inR (w j) := by
  have := h j
  unfold inR
  omega
/-- a run of numbers is written over -/
def upR (F : Nat → Int → Int) (f : Nat) (n : Int) (g : Int → Int) : Nat → Int → Int := fun h j => if h = f ∧ 0 ≤ j ∧ j < n then g j else F h j
theorem upR_0 (F : Nat → Int → Int) (f : Nat) (g : Int → Int) : upR F f 0 g = F := by
  funext h j
  exact if_neg (fun q => by omega)
theorem upR_1 (F : Nat → Int → Int) (f : Nat) {i v : Int} (g : Int → Int) (h : 0 ≤ i) (hv : v = g i) : up2 (upR F f i g) f i v = upR F f (i + 1) g := by
  funext h' j
  unfold up2 upR
  by_cases q : h' = f ∧ j = i
  · rw [if_pos q, if_pos ⟨q.1, by omega, by omega⟩, hv, q.2]
  · rw [if_neg q]
    by_cases q2 : h' = f ∧ 0 ≤ j ∧ j < i
    · rw [if_pos q2, if_pos ⟨q2.1, q2.2.1, by omega⟩]
    · rw [if_neg q2, if_neg (fun z => by
        rcases z with ⟨z1, z2, z3⟩
        exact q ⟨z1, by
          by_cases z4 : j < i
          · exact absurd ⟨z1, z2, z4⟩ q2
          · omega⟩)]
theorem upR_f (F : Nat → Int → Int) {f h : Nat} (n j : Int) (g : Int → Int) (hh : h ≠ f) : upR F f n g h j = F h j := if_neg (fun q => hh q.1)
theorem upR_in (F : Nat → Int → Int) (f : Nat) {n j : Int} (g : Int → Int) (h0 : 0 ≤ j) (h1 : j < n) : upR F f n g f j = g j := if_pos ⟨rfl, h0, h1⟩
theorem upR_out (F : Nat → Int → Int) (f : Nat) {n j : Int} (g : Int → Int) (h1 : j < 0 ∨ n ≤ j) : upR F f n g f j = F f j := if_neg (fun q => by omega)
theorem Rf_up2 {F : Nat → Int → Int} (h : Rf F) (f : Nat) (k : Int) {v : Int} (hv : -1048576 ≤ v ∧ v ≤ 1048576) : Rf (up2 F f k v) := by
  intro g j
  unfold up2
  split
  · exact hv
  · exact h g j
theorem Rf_upR {F : Nat → Int → Int} (h : Rf F) (f : Nat) (n : Int) {g : Int → Int} (hg : ∀ j, -1048576 ≤ g j ∧ g j ≤ 1048576) : Rf (upR F f n g) := by
  intro f' j
  unfold upR
  split
  · exact hg j
  · exact h f' j
/-- the first place from i on, of m, where p holds; -1 -/
def fdF (p : Int → Bool) (i : Int) : Nat → Int
  | 0 => -1
  | m + 1 => if p i = true then i else fdF p (i + 1) m
/-- the first place from i on, of m, where p doesn't hold -/
def ctF (p : Int → Bool) (i : Int) : Nat → Int
  | 0 => i
  | m + 1 => if p i = true then ctF p (i + 1) m else i
def wRoom (w : Int → Int) (b : Int) : Int := if w (4 + 4 * b + 0) = 1 then w (4 + 4 * b + 1) + w (4 + 4 * b + 1) / 2 else if w (4 + 4 * b + 0) = 2 then w (4 + 4 * b + 1) + 3 else w (4 + 4 * b + 1)
def wSignOn (w : Int → Int) (a : Int) : Int := fdF (fun k => w (29 + 2 * k) == a) 0 (w 28).toNat
def wSignsOf (w : Int → Int) (b : Int) : Int := sm (fun k => if w (29 + 2 * k + 1) = b then 1 else 0) (w 28)
def wOpenMany (w : Int → Int) : Int := sm (fun b => if w (4 + 4 * b + 2) = 0 then 1 else 0) (w 0)
def wFirst (w : Int → Int) (a : Int) : Int := if ctF (fun k => decide (w (29 + 2 * k) < a)) 0 (w 28).toNat = w 28 then 0 else ctF (fun k => decide (w (29 + 2 * k) < a)) 0 (w 28).toNat
/-- what one meets on the way: the sign that is taken (or -1), and whether one was passed -/
def goF (w ld : Int → Int) (first lv : Int) (i : Int) (ps : Int) : Nat → Int × Int
  | 0 => (-1, ps)
  | m + 1 => if w (4 + 4 * w (29 + 2 * ((first + i) % w 28) + 1) + 2) = 0 then (if ld (w (29 + 2 * ((first + i) % w 28) + 1)) + lv ≤ wRoom w (w (29 + 2 * ((first + i) % w 28) + 1)) then ((first + i) % w 28, ps) else goF w ld first lv (i + 1) 1 m) else goF w ld first lv (i + 1) ps m
def wGo (w ld : Int → Int) (a lv : Int) : Int × Int := goF w ld (wFirst w a) lv 0 0 (w 28).toNat
def wUp (w : Int → Int) (k v : Int) : Int → Int := fun j => if j = k then v else w j
def wLoadOf (w : Int → Int) (b : Int) : Int := sm (fun c => if w (79 + 6 * c + 2) = b + 1 then w (79 + 6 * c + 1) else 0) (w 1)
theorem fdF_t {p : Int → Bool} {i N : Int} (h : i < N) (hp : p i = true) : fdF p i (N - i).toNat = i := by
  rw [show (N - i).toNat = (N - (i + 1)).toNat + 1 by omega]
  exact if_pos hp
theorem fdF_f {p : Int → Bool} {i N : Int} (h : i < N) (hp : p i = false) : fdF p i (N - i).toNat = fdF p (i + 1) (N - (i + 1)).toNat := by
  rw [show (N - i).toNat = (N - (i + 1)).toNat + 1 by omega]
  exact if_neg (by rw [hp]; decide)
theorem fdF_e {p : Int → Bool} {i N : Int} (h : N ≤ i) : fdF p i (N - i).toNat = -1 := by
  rw [show (N - i).toNat = 0 by omega]
  rfl
theorem ctF_t {p : Int → Bool} {i N : Int} (h : i < N) (hp : p i = true) : ctF p i (N - i).toNat = ctF p (i + 1) (N - (i + 1)).toNat := by
  rw [show (N - i).toNat = (N - (i + 1)).toNat + 1 by omega]
  exact if_pos hp
theorem ctF_f {p : Int → Bool} {i N : Int} (h : i < N) (hp : p i = false) : ctF p i (N - i).toNat = i := by
  rw [show (N - i).toNat = (N - (i + 1)).toNat + 1 by omega]
  exact if_neg (by rw [hp]; decide)
theorem ctF_e {p : Int → Bool} {i N : Int} (h : N ≤ i) : ctF p i (N - i).toNat = i := by
  rw [show (N - i).toNat = 0 by omega]
  rfl
theorem fdF_range {p : Int → Bool} (m : Nat) : ∀ (i : Int), fdF p i m = -1 ∨ (i ≤ fdF p i m ∧ fdF p i m < i + m ∧ p (fdF p i m) = true) := by
  induction m with
  | zero => exact fun i => Or.inl rfl
  | succ m ih =>
    intro i
    have e : fdF p i (m + 1) = if p i = true then i else fdF p (i + 1) m := rfl
    by_cases h : p i = true
    · rw [e, if_pos h]
      exact Or.inr ⟨by omega, by omega, h⟩
    · rw [e, if_neg h]
      rcases ih (i + 1) with q | ⟨q1, q2, q3⟩
      · exact Or.inl q
      · exact Or.inr ⟨by omega, by omega, q3⟩
theorem ctF_range {p : Int → Bool} (m : Nat) : ∀ (i : Int), i ≤ ctF p i m ∧ ctF p i m ≤ i + m := by
  induction m with
  | zero => exact fun i => ⟨Int.le_refl _, by show i ≤ i + 0; omega⟩
  | succ m ih =>
    intro i
    have e : ctF p i (m + 1) = if p i = true then ctF p (i + 1) m else i := rfl
    rw [e]
    have := ih (i + 1)
    by_cases h : p i = true
    · rw [if_pos h]
      omega
    · rw [if_neg h]
      omega
theorem up2_up2 (F : Nat → Int → Int) (f : Nat) (k v v' : Int) : up2 (up2 F f k v) f k v' = up2 F f k v' := by
  funext g j
  unfold up2
  split <;> rfl
theorem up2_row (F : Nat → Int → Int) (f : Nat) (k v : Int) : up2 F f k v f = wUp (F f) k v := by
  funext j
  unfold up2 wUp
  by_cases q : j = k
  · rw [if_pos ⟨rfl, q⟩, if_pos q]
  · rw [if_neg (fun z => q z.2), if_neg q]
theorem up2_oth (F : Nat → Int → Int) {f g : Nat} (k v : Int) (h : g ≠ f) : up2 F f k v g = F g := by
  funext j
  exact up2_f F k v j h
theorem wUp_s (w : Int → Int) (k v : Int) : wUp w k v k = v := if_pos rfl
theorem wUp_o (w : Int → Int) {k j : Int} (v : Int) (h : j ≠ k) : wUp w k v j = w j := if_neg h
/-- what a refused call notes, and its number -/
def mThr (F : Nat → Int → Int) (c : Int) : Nat → Int → Int := up2 (if F 3 0 ≤ 0 then F else up2 (up2 (up2 (up2 F 1 0 (F 3 0)) 2 0 (F 4 0)) 1 1 0) 2 1 0) 0 0 c
/-- the row before goes on top of the ones that can be had again -/
def mFc (F : Nat → Int → Int) : Int := if F 9 0 = 8 then (F 10 0 + 1) % 8 else F 10 0
def mCh (F : Nat → Int → Int) : Int := if F 9 0 = 8 then F 9 0 - 1 else F 9 0
def mKeep0 (F : Nat → Int → Int) : Nat → Int → Int := if F 9 0 = 8 then up2 (up2 F 10 0 ((F 10 0 + 1) % 8)) 9 0 (F 9 0 - 1) else F
/-- a run of numbers, from a place on -/
def upA (F : Nat → Int → Int) (f : Nat) (b n : Int) (g : Int → Int) : Nat → Int → Int := fun h j => if h = f ∧ b ≤ j ∧ j < b + n then g (j - b) else F h j
theorem upA_0 (F : Nat → Int → Int) (f : Nat) (b : Int) (g : Int → Int) : upA F f b 0 g = F := by
  funext h j
  exact if_neg (fun q => by omega)
theorem upA_1 (F : Nat → Int → Int) (f : Nat) {b i v : Int} (g : Int → Int) (h : 0 ≤ i) (hv : v = g i) : up2 (upA F f b i g) f (b + i) v = upA F f b (i + 1) g := by
  funext h' j
  unfold up2 upA
  by_cases q : h' = f ∧ j = b + i
  · rw [if_pos q, if_pos ⟨q.1, by omega, by omega⟩, hv, q.2]
    congr 1
    omega
  · rw [if_neg q]
    by_cases q2 : h' = f ∧ b ≤ j ∧ j < b + i
    · rw [if_pos q2, if_pos ⟨q2.1, q2.2.1, by omega⟩]
    · rw [if_neg q2, if_neg (fun z => by
        rcases z with ⟨z1, z2, z3⟩
        exact q ⟨z1, by
          by_cases z4 : j < b + i
          · exact absurd ⟨z1, z2, z4⟩ q2
          · omega⟩)]
theorem upA_f (F : Nat → Int → Int) {f h : Nat} (b n j : Int) (g : Int → Int) (hh : h ≠ f) : upA F f b n g h j = F h j := if_neg (fun q => hh q.1)
def mKeep (F : Nat → Int → Int) : Nat → Int → Int := up2 (upA (mKeep0 F) 6 (199 * ((mFc F + mCh F) % 8)) 199 (F 8)) 9 0 (mCh F + 1)
def mBeg (F : Nat → Int → Int) : Nat → Int → Int := up2 (mKeep (upR F 8 199 (F 5))) 5 2 (F 5 2 + 1)
def mClr (F : Nat → Int → Int) : Nat → Int → Int := up2 (up2 (upR (up2 F 0 0 0) 5 199 (fun _ => 0)) 9 0 0) 10 0 0
theorem mKeep0_10 (F : Nat → Int → Int) : mKeep0 F 10 0 = mFc F := by
  unfold mKeep0 mFc
  split
  · rw [up2_f _ _ _ _ (by decide), up2_s]
  · rfl
theorem mKeep0_9 (F : Nat → Int → Int) : mKeep0 F 9 0 = mCh F := by
  unfold mKeep0 mCh
  split
  · rw [up2_s]
  · rfl
theorem mKeep0_o (F : Nat → Int → Int) {f : Nat} (h1 : f ≠ 9) (h2 : f ≠ 10) : mKeep0 F f = F f := by
  unfold mKeep0
  split
  · rw [up2_oth _ _ _ h1, up2_oth _ _ _ h2]
  · rfl
theorem mFc_r {F : Nat → Int → Int} (ha0 : 0 ≤ F 10 0) (ha8 : F 10 0 < 8) : 0 ≤ mFc F ∧ mFc F < 8 := by
  unfold mFc
  split <;> omega
theorem mCh_r {F : Nat → Int → Int} (h90 : 0 ≤ F 9 0) (h98 : F 9 0 ≤ 8) : 0 ≤ mCh F ∧ mCh F < 8 := by
  unfold mCh
  split <;> omega
theorem upA_oth (F : Nat → Int → Int) {f h : Nat} (b n : Int) (g : Int → Int) (hh : h ≠ f) : upA F f b n g h = F h := by
  funext j
  exact upA_f F b n j g hh
theorem upR_oth (F : Nat → Int → Int) {f h : Nat} (n : Int) (g : Int → Int) (hh : h ≠ f) : upR F f n g h = F h := by
  funext j
  exact upR_f F n j g hh
theorem mKeep_o (F : Nat → Int → Int) {f : Nat} (h1 : f ≠ 9) (h2 : f ≠ 10) (h3 : f ≠ 6) : mKeep F f = F f := by
  unfold mKeep
  rw [up2_oth _ _ _ h1, upA_oth _ _ _ _ h3, mKeep0_o F h1 h2]
/-- a whole family anew -/
def stF (F : Nat → Int → Int) (f : Nat) (g : Int → Int) : Nat → Int → Int := fun h j => if h = f then g j else F h j
theorem stF_s (F : Nat → Int → Int) (f : Nat) (g : Int → Int) : stF F f g f = g := by
  funext j
  exact if_pos rfl
theorem stF_o (F : Nat → Int → Int) {f h : Nat} (g : Int → Int) (hh : h ≠ f) : stF F f g h = F h := by
  funext j
  exact if_neg hh
theorem stF_self (F : Nat → Int → Int) (f : Nat) : stF F f (F f) = F := by
  funext h j
  unfold stF
  split
  · rename_i q
    rw [q]
  · rfl
theorem up2_st (F : Nat → Int → Int) (f : Nat) (g : Int → Int) (k v : Int) : up2 (stF F f g) f k v = stF F f (wUp g k v) := by
  funext h j
  unfold up2 stF wUp
  by_cases q : h = f
  · rw [if_pos q, if_pos q]
    by_cases q2 : j = k
    · rw [if_pos ⟨q, q2⟩, if_pos q2]
    · rw [if_neg (fun z => q2 z.2), if_neg q2]
  · rw [if_neg (fun z => q z.1), if_neg q, if_neg q]
theorem st_st (F : Nat → Int → Int) (f : Nat) (g g' : Int → Int) : stF (stF F f g) f g' = stF F f g' := by
  funext h j
  unfold stF
  split <;> rfl
/-- what the goers ask of a row -/
def Wg (w : Int → Int) : Prop := Rg w ∧ 0 ≤ w 28 ∧ w 28 ≤ 25 ∧ (∀ k, 0 ≤ k → k < w 28 → 0 ≤ w (29 + 2 * k + 1) ∧ w (29 + 2 * k + 1) < 6) ∧ ∀ b, 0 ≤ b → b < 6 → 0 ≤ w (4 + 4 * b + 1)
theorem wFirst_r {w : Int → Int} (h0 : 0 ≤ w 28) (a : Int) : 0 ≤ wFirst w a ∧ (wFirst w a < w 28 ∨ wFirst w a = 0) := by
  have h := ctF_range (p := fun k => decide (w (29 + 2 * k) < a)) (w 28).toNat 0
  unfold wFirst
  split
  · omega
  · omega
theorem goF_1 {w ld : Int → Int} {first lv i ps : Int} (h : i < w 28) : goF w ld first lv i ps (w 28 - i).toNat = if w (4 + 4 * w (29 + 2 * ((first + i) % w 28) + 1) + 2) = 0 then (if ld (w (29 + 2 * ((first + i) % w 28) + 1)) + lv ≤ wRoom w (w (29 + 2 * ((first + i) % w 28) + 1)) then ((first + i) % w 28, ps) else goF w ld first lv (i + 1) 1 (w 28 - (i + 1)).toNat) else goF w ld first lv (i + 1) ps (w 28 - (i + 1)).toNat := by
  rw [show (w 28 - i).toNat = (w 28 - (i + 1)).toNat + 1 by omega]
  rfl
theorem goF_e {w ld : Int → Int} {first lv i ps : Int} (h : w 28 ≤ i) : goF w ld first lv i ps (w 28 - i).toNat = (-1, ps) := by
  rw [show (w 28 - i).toNat = 0 by omega]
  rfl
theorem wRoom_r {w : Int → Int} (h : Rg w) {b : Int} (hv : 0 ≤ w (4 + 4 * b + 1)) : 0 ≤ wRoom w b ∧ wRoom w b ≤ 2097152 := by
  have h1 := h (4 + 4 * b + 1)
  unfold wRoom
  split
  · omega
  · split <;> omega
/-- where a sign at a comes to stand among the first m -/
def psF (w : Int → Int) (a : Int) : Nat → Int
  | 0 => 0
  | m + 1 => if a < w (29 + 2 * (m : Int)) then psF w a m else (m : Int) + 1
/-- the signs from k on up to n a place further on -/
def wSh (w : Int → Int) (k n : Int) : Int → Int := fun j => if 29 + 2 * k + 2 ≤ j ∧ j ≤ 29 + 2 * n + 1 then w (j - 2) else w j
def wPut (w : Int → Int) (b a : Int) : Int → Int := wUp (wUp (wUp (wSh w (psF w a (w 28).toNat) (w 28)) (29 + 2 * psF w a (w 28).toNat) a) (29 + 2 * psF w a (w 28).toNat + 1) b) 28 (w 28 + 1)
theorem wSh_n (w : Int → Int) (n : Int) : wSh w n n = w := by
  funext j
  exact if_neg (fun q => by omega)
theorem wSh_1 (w : Int → Int) {k n : Int} (h : 1 ≤ k) (hn : k ≤ n) : wUp (wUp (wSh w k n) (29 + 2 * k) (w (29 + 2 * (k - 1)))) (29 + 2 * k + 1) (w (29 + 2 * (k - 1) + 1)) = wSh w (k - 1) n := by
  funext j
  unfold wUp wSh
  by_cases q : j = 29 + 2 * k + 1
  · rw [if_pos q, if_pos ⟨by omega, by omega⟩, q]
    congr 1
    omega
  · rw [if_neg q]
    by_cases q2 : j = 29 + 2 * k
    · rw [if_pos q2, if_pos ⟨by omega, by omega⟩, q2]
      congr 1
      omega
    · rw [if_neg q2]
      by_cases q3 : 29 + 2 * k + 2 ≤ j ∧ j ≤ 29 + 2 * n + 1
      · rw [if_pos q3, if_pos ⟨by omega, by omega⟩]
      · rw [if_neg q3, if_neg (fun z => q3 ⟨by omega, z.2⟩)]
theorem wSh_lo (w : Int → Int) {k n j : Int} (h : j < 29 + 2 * k + 2) : wSh w k n j = w j := if_neg (fun q => by omega)
theorem psF_r (w : Int → Int) (a : Int) (m : Nat) : 0 ≤ psF w a m ∧ psF w a m ≤ m := by
  induction m with
  | zero => exact ⟨Int.le_refl _, Int.le_refl _⟩
  | succ m ih =>
    unfold psF
    split <;> omega
theorem psF_t {w : Int → Int} {a k : Int} (h : 1 ≤ k) (hp : a < w (29 + 2 * (k - 1))) : psF w a k.toNat = psF w a (k - 1).toNat := by
  rw [show k.toNat = (k - 1).toNat + 1 by omega]
  exact if_pos (by rw [show (((k - 1).toNat : Nat) : Int) = k - 1 by omega]; exact hp)
theorem psF_f {w : Int → Int} {a k : Int} (h : 1 ≤ k) (hp : ¬ a < w (29 + 2 * (k - 1))) : psF w a k.toNat = k := by
  rw [show k.toNat = (k - 1).toNat + 1 by omega]
  have e : (((k - 1).toNat : Nat) : Int) = k - 1 := by omega
  show (if a < w (29 + 2 * (((k - 1).toNat : Nat) : Int)) then psF w a (k - 1).toNat else (((k - 1).toNat : Nat) : Int) + 1) = k
  rw [e, if_neg hp]
  omega
/-- the signs behind k a place nearer, up to i -/
def wUn (w : Int → Int) (k i : Int) : Int → Int := fun j => if j = 28 then w 28 - 1 else if 29 + 2 * k ≤ j ∧ j < 29 + 2 * i then w (j + 2) else w j
def wTake (w : Int → Int) (k : Int) : Int → Int := wUp (wUp (wUn w k (w 28 - 1)) (29 + 2 * (w 28 - 1)) 0) (29 + 2 * (w 28 - 1) + 1) 0
theorem wUn_0 (w : Int → Int) (k : Int) : wUp w 28 (w 28 - 1) = wUn w k k := by
  funext j
  unfold wUp wUn
  split
  · rfl
  · exact (if_neg (fun q => by omega)).symm
theorem wUn_1 (w : Int → Int) {k i : Int} (h0 : 0 ≤ k) (h : k ≤ i) : wUp (wUp (wUn w k i) (29 + 2 * i) (w (29 + 2 * (i + 1)))) (29 + 2 * i + 1) (w (29 + 2 * (i + 1) + 1)) = wUn w k (i + 1) := by
  funext j
  unfold wUp wUn
  by_cases q : j = 29 + 2 * i + 1
  · rw [if_pos q, if_neg (by omega), if_pos ⟨by omega, by omega⟩, q]
    congr 1
    omega
  · rw [if_neg q]
    by_cases q2 : j = 29 + 2 * i
    · rw [if_pos q2, if_neg (by omega), if_pos ⟨by omega, by omega⟩, q2]
      congr 1
      omega
    · rw [if_neg q2]
      by_cases q4 : j = 28
      · rw [if_pos q4, if_pos q4]
      · rw [if_neg q4, if_neg q4]
        by_cases q3 : 29 + 2 * k ≤ j ∧ j < 29 + 2 * i
        · rw [if_pos q3, if_pos ⟨by omega, by omega⟩]
        · rw [if_neg q3, if_neg (fun z => q3 ⟨by omega, by omega⟩)]
theorem wUn_28 (w : Int → Int) (k i : Int) : wUn w k i 28 = w 28 - 1 := if_pos rfl
theorem wUn_hi (w : Int → Int) {k i j : Int} (h2 : j ≠ 28) (h : 29 + 2 * i ≤ j) : wUn w k i j = w j := by
  unfold wUn
  rw [if_neg h2, if_neg (fun q => by omega)]
theorem goF_no {w ld : Int → Int} {first lv i ps : Int} (h : i < w 28) (h1 : ¬ w (4 + 4 * w (29 + 2 * ((first + i) % w 28) + 1) + 2) = 0) : goF w ld first lv i ps (w 28 - i).toNat = goF w ld first lv (i + 1) ps (w 28 - (i + 1)).toNat := by
  rw [goF_1 h, if_neg h1]
theorem goF_fl {w ld : Int → Int} {first lv i ps : Int} (h : i < w 28) (h1 : w (4 + 4 * w (29 + 2 * ((first + i) % w 28) + 1) + 2) = 0) (h2 : wRoom w (w (29 + 2 * ((first + i) % w 28) + 1)) < ld (w (29 + 2 * ((first + i) % w 28) + 1)) + lv) : goF w ld first lv i ps (w 28 - i).toNat = goF w ld first lv (i + 1) 1 (w 28 - (i + 1)).toNat := by
  rw [goF_1 h, if_pos h1, if_neg (by omega)]
/-! all go anew, in the reference's way -/
def cGo (w ld : Int → Int) (c : Int) : Int × Int := wGo w ld (w (79 + 6 * c + 0)) (w (79 + 6 * c + 1))
def cAt (w ld : Int → Int) (c : Int) : Int := if (cGo w ld c).1 < 0 then 0 else w (29 + 2 * (cGo w ld c).1 + 1) + 1
def cBy (w ld : Int → Int) (c : Int) : Int := if (cGo w ld c).1 < 0 then 0 else w (29 + 2 * (cGo w ld c).1) + 1
def cW3 (w ld : Int → Int) (c : Int) : Int → Int := wUp (wUp (wUp w (79 + 6 * c + 4) (cGo w ld c).2) (79 + 6 * c + 2) (cAt w ld c)) (79 + 6 * c + 3) (cBy w ld c)
/-- the one at c goes on to where he was, or has just come -/
def cSame (nc : Int) (w ld : Int → Int) (c : Int) : Bool := cAt w ld c == w (79 + 6 * c + 2) || c == nc
def cW (nc : Int) (w ld : Int → Int) (c : Int) : Int → Int := if cSame nc w ld c = true then cW3 w ld c else wUp (cW3 w ld c) (79 + 6 * c + 5) (w 2)
def cLd (w ld : Int → Int) (c : Int) : Int → Int := if (cGo w ld c).1 < 0 then ld else wUp ld (w (29 + 2 * (cGo w ld c).1 + 1)) (ld (w (29 + 2 * (cGo w ld c).1 + 1)) + w (79 + 6 * c + 1))
def cN (nc : Int) (w ld : Int → Int) (c n : Int) : Int := if cSame nc w ld c = true then n else n + 1
def gAll (nc : Int) (c : Int) (w ld : Int → Int) (n : Int) : Nat → (Int → Int) × (Int → Int) × Int
  | 0 => (w, ld, n)
  | m + 1 => gAll nc (c + 1) (cW nc w ld c) (cLd w ld c) (cN nc w ld c n) m
def wAll (nc : Int) (w : Int → Int) : (Int → Int) × (Int → Int) × Int := gAll nc 0 w (fun _ => 0) 0 (w 1).toNat
/-- the row and the number of the moved, when all have gone -/
def wAllW (nc : Int) (w : Int → Int) : Int → Int := wUp (wAll nc w).1 3 ((wAll nc w).1 3 + (wAll nc w).2.2)
def wAllN (nc : Int) (w : Int → Int) : Int := (wAll nc w).2.2
/-- a good row: what all calls keep -/
def Wk (w : Int → Int) : Prop :=
  Rg w ∧ (0 ≤ w 0 ∧ w 0 ≤ 6 ∧ 0 ≤ w 1 ∧ w 1 ≤ 20 ∧ 0 ≤ w 28 ∧ w 28 ≤ 25) ∧
  (∀ k, 0 ≤ k → k < w 28 → (0 ≤ w (29 + 2 * k) ∧ w (29 + 2 * k) < 360) ∧ 0 ≤ w (29 + 2 * k + 1) ∧ w (29 + 2 * k + 1) < w 0) ∧
  (∀ b, 0 ≤ b → b < 6 → (0 ≤ w (4 + 4 * b + 0) ∧ w (4 + 4 * b + 0) ≤ 2) ∧ (0 ≤ w (4 + 4 * b + 1) ∧ w (4 + 4 * b + 1) ≤ 40) ∧ 0 ≤ w (4 + 4 * b + 2) ∧ w (4 + 4 * b + 2) ≤ 1) ∧
  ∀ c, 0 ≤ c → c < 20 → (0 ≤ w (79 + 6 * c + 0) ∧ w (79 + 6 * c + 0) < 360) ∧ (0 ≤ w (79 + 6 * c + 1) ∧ w (79 + 6 * c + 1) ≤ 9) ∧ (0 ≤ w (79 + 6 * c + 2) ∧ w (79 + 6 * c + 2) ≤ 6) ∧ 0 ≤ w (79 + 6 * c + 4) ∧ w (79 + 6 * c + 4) ≤ 1
theorem Wk_Wg {w : Int → Int} (h : Wk w) : Wg w := by
  obtain ⟨h1, h2, h3, h4, h5⟩ := h
  exact ⟨h1, by omega, by omega, fun k h6 h7 => by have := h3 k h6 h7; omega, fun b h6 h7 => by have := h4 b h6 h7; omega⟩
theorem goF_rr {w ld : Int → Int} {first lv : Int} (h : 0 < w 28) (m : Nat) : ∀ (i ps : Int), ((goF w ld first lv i ps m).1 = -1 ∨ (0 ≤ (goF w ld first lv i ps m).1 ∧ (goF w ld first lv i ps m).1 < w 28)) ∧ ((goF w ld first lv i ps m).2 = ps ∨ (goF w ld first lv i ps m).2 = 1) := by
  induction m with
  | zero => exact fun i ps => ⟨Or.inl rfl, Or.inl rfl⟩
  | succ m ih =>
    intro i ps
    unfold goF
    split
    · split
      · exact ⟨Or.inr ⟨Int.emod_nonneg _ (by omega), Int.emod_lt_of_pos _ h⟩, Or.inl rfl⟩
      · have := ih (i + 1) 1
        exact ⟨this.1, Or.inr (by omega)⟩
    · exact ih (i + 1) ps
theorem wGo_r {w ld : Int → Int} (h0 : 0 ≤ w 28) (a lv : Int) : ((wGo w ld a lv).1 = -1 ∨ (0 ≤ (wGo w ld a lv).1 ∧ (wGo w ld a lv).1 < w 28)) ∧ ((wGo w ld a lv).2 = 0 ∨ (wGo w ld a lv).2 = 1) := by
  unfold wGo
  by_cases h : 0 < w 28
  · exact goF_rr h _ 0 0
  · rw [show (w 28).toNat = 0 by omega]
    exact ⟨Or.inl rfl, Or.inl rfl⟩
theorem Rg_wUp {w : Int → Int} (h : Rg w) (k : Int) {v : Int} (hv : -1048576 ≤ v ∧ v ≤ 1048576) : Rg (wUp w k v) := by
  intro j
  unfold wUp
  split
  · exact hv
  · exact h j
/-- a number of a customer's other than angle and loaves is written -/
theorem Wk_cu {w : Int → Int} (h : Wk w) {c f v : Int} (hc : 0 ≤ c) (hf : 2 ≤ f ∧ f ≤ 5) (hv : -1048576 ≤ v ∧ v ≤ 1048576) (h2 : f = 2 → 0 ≤ v ∧ v ≤ 6) (h4 : f = 4 → 0 ≤ v ∧ v ≤ 1) : Wk (wUp w (79 + 6 * c + f) v) := by
  obtain ⟨q1, q2, q3, q4, q5⟩ := h
  have lo : ∀ j, j < 79 → wUp w (79 + 6 * c + f) v j = w j := fun j hj => wUp_o _ _ (by omega)
  refine ⟨Rg_wUp q1 _ hv, by rw [lo _ (by omega), lo _ (by omega), lo _ (by omega)]; exact q2, fun k g0 g1 => ?_, fun b g0 g1 => ?_, fun d g0 g1 => ?_⟩
  · rw [lo _ (by omega)] at g1
    rw [lo _ (by omega), lo _ (by omega), lo _ (by omega)]
    exact q3 k g0 g1
  · rw [lo _ (by omega), lo _ (by omega), lo _ (by omega)]
    exact q4 b g0 g1
  · have q := q5 d g0 g1
    rw [wUp_o _ (k := 79 + 6 * c + f) (j := 79 + 6 * d + 0) _ (by omega), wUp_o _ (k := 79 + 6 * c + f) (j := 79 + 6 * d + 1) _ (by omega)]
    refine ⟨q.1, q.2.1, ?_, ?_⟩
    · by_cases z : 79 + 6 * d + 2 = 79 + 6 * c + f
      · rw [z, wUp_s]
        exact h2 (by omega)
      · rw [wUp_o _ _ z]
        exact q.2.2.1
    · by_cases z : 79 + 6 * d + 4 = 79 + 6 * c + f
      · rw [z, wUp_s]
        exact h4 (by omega)
      · rw [wUp_o _ _ z]
        exact q.2.2.2
theorem cAt_r {w ld : Int → Int} (h : Wk w) (c : Int) : 0 ≤ cAt w ld c ∧ cAt w ld c ≤ 6 := by
  have h1 := wGo_r (ld := ld) h.2.1.2.2.2.2.1 (w (79 + 6 * c + 0)) (w (79 + 6 * c + 1))
  unfold cAt
  split
  · omega
  · rename_i q
    have h2 := h.2.2.1 (cGo w ld c).1 (by omega) (by unfold cGo at q ⊢; omega)
    have := h.2.1
    omega
theorem cBy_r {w ld : Int → Int} (h : Wk w) (c : Int) : 0 ≤ cBy w ld c ∧ cBy w ld c ≤ 360 := by
  have h1 := wGo_r (ld := ld) h.2.1.2.2.2.2.1 (w (79 + 6 * c + 0)) (w (79 + 6 * c + 1))
  unfold cBy
  split
  · omega
  · rename_i q
    have h2 := h.2.2.1 (cGo w ld c).1 (by omega) (by unfold cGo at q ⊢; omega)
    omega
theorem Wk_cW {w : Int → Int} (h : Wk w) (nc : Int) (ld : Int → Int) {c : Int} (hc : 0 ≤ c) : Wk (cW nc w ld c) := by
  have h1 := wGo_r (ld := ld) h.2.1.2.2.2.2.1 (w (79 + 6 * c + 0)) (w (79 + 6 * c + 1))
  have a1 := cAt_r (ld := ld) h c
  have b1 := cBy_r (ld := ld) h c
  have k3 : Wk (cW3 w ld c) := by
    unfold cW3
    refine Wk_cu (Wk_cu (Wk_cu h hc ⟨by omega, by omega⟩ ?_ (by omega) (by unfold cGo; omega)) hc ⟨by omega, by omega⟩ (by omega) (by omega) (by omega)) hc ⟨by omega, by omega⟩ (by omega) (by omega) (by omega)
    unfold cGo
    omega
  unfold cW
  split
  · exact k3
  · exact Wk_cu k3 hc ⟨by omega, by omega⟩ (h.1 2) (by omega) (by omega)
/-- what a change of the customers' later numbers leaves -/
def Wsm (w v : Int → Int) : Prop := (∀ j, j < 79 → v j = w j) ∧ ∀ c, 0 ≤ c → v (79 + 6 * c + 0) = w (79 + 6 * c + 0) ∧ v (79 + 6 * c + 1) = w (79 + 6 * c + 1)
theorem Wsm_r (w : Int → Int) : Wsm w w := ⟨fun _ _ => rfl, fun _ _ => ⟨rfl, rfl⟩⟩
theorem Wsm_t {w v u : Int → Int} (h : Wsm w v) (h2 : Wsm v u) : Wsm w u := ⟨fun j hj => (h2.1 j hj).trans (h.1 j hj), fun c hc => ⟨(h2.2 c hc).1.trans (h.2 c hc).1, (h2.2 c hc).2.trans (h.2 c hc).2⟩⟩
theorem Wsm_u {w v : Int → Int} (h : Wsm w v) {c f x : Int} (hc : 0 ≤ c) (hf : 2 ≤ f ∧ f ≤ 5) : Wsm w (wUp v (79 + 6 * c + f) x) :=
  Wsm_t h ⟨fun j hj => wUp_o _ _ (by omega), fun d hd => ⟨wUp_o _ _ (by omega), wUp_o _ _ (by omega)⟩⟩
theorem Wsm_cW (nc : Int) (w ld : Int → Int) {c : Int} (hc : 0 ≤ c) : Wsm w (cW nc w ld c) := by
  have k3 : Wsm w (cW3 w ld c) := Wsm_u (Wsm_u (Wsm_u (Wsm_r w) hc ⟨by omega, by omega⟩) hc ⟨by omega, by omega⟩) hc ⟨by omega, by omega⟩
  unfold cW
  split
  · exact k3
  · exact Wsm_u k3 hc ⟨by omega, by omega⟩
theorem cLd_r {w ld : Int → Int} (h : Wk w) {c : Int} (hc : 0 ≤ c) (hc2 : c < 20) (hl : ∀ b, 0 ≤ ld b ∧ ld b ≤ 9 * c) : ∀ b, 0 ≤ cLd w ld c b ∧ cLd w ld c b ≤ 9 * (c + 1) := by
  intro b
  have h5 := (h.2.2.2.2 c hc hc2).2.1
  have := hl b
  unfold cLd
  split
  · omega
  · unfold wUp
    split
    · have := hl (w (29 + 2 * (cGo w ld c).1 + 1))
      omega
    · omega
theorem gAll_1 {nc c n N : Int} {w ld : Int → Int} (h : c < N) : gAll nc c w ld n (N - c).toNat = gAll nc (c + 1) (cW nc w ld c) (cLd w ld c) (cN nc w ld c n) (N - (c + 1)).toNat := by
  rw [show (N - c).toNat = (N - (c + 1)).toNat + 1 by omega]
  rfl
theorem gAll_e {nc c n N : Int} {w ld : Int → Int} (h : N ≤ c) : gAll nc c w ld n (N - c).toNat = (w, ld, n) := by
  rw [show (N - c).toNat = 0 by omega]
  rfl
theorem up2_as (F : Nat → Int → Int) (f : Nat) (k v : Int) : up2 F f k v = stF F f (wUp (F f) k v) := by
  rw [← up2_st, stF_self]
theorem cW3_lo (w ld : Int → Int) {c j : Int} (hc : 0 ≤ c) (h : j < 79) : cW3 w ld c j = w j := by
  unfold cW3
  rw [wUp_o _ _ (by omega), wUp_o _ _ (by omega), wUp_o _ _ (by omega)]
theorem cW3_1 (w ld : Int → Int) {c : Int} : cW3 w ld c (79 + 6 * c + 1) = w (79 + 6 * c + 1) := by
  unfold cW3
  rw [wUp_o _ _ (by omega), wUp_o _ _ (by omega), wUp_o _ _ (by omega)]
theorem cW3_2 (w ld : Int → Int) {c : Int} : cW3 w ld c (79 + 6 * c + 2) = cAt w ld c := by
  unfold cW3
  rw [wUp_o _ _ (by omega), wUp_s]
