/-! ROWS 5: what is told -/
def wCust (w : Int → Int) (b : Int) : Int := sm (fun c => if w (79 + 6 * c + 2) = b + 1 then 1 else 0) (w 1)
def wWay (f t : Int) : Int := (t - f + 360) % 360
def wOpI (w : Int → Int) (a : Int) : Int := fdF (fun i => decide (w (4 + 4 * w (29 + 2 * ((wFirst w a + i) % w 28) + 1) + 2) = 0)) 0 (w 28).toNat
def wOpen (w : Int → Int) (a : Int) : Int := if wOpI w a < 0 then -1 else (wFirst w a + wOpI w a) % w 28
def nrF (w : Int → Int) (a : Int) (best i : Int) : Nat → Int
  | 0 => best
  | m + 1 => nrF w a (if w (4 + 4 * w (29 + 2 * i + 1) + 2) = 0 ∧ (best < 0 ∨ wWay a (w (29 + 2 * i)) < wWay a (w (29 + 2 * best))) then i else best) (i + 1) m
def wNear (w : Int → Int) (a : Int) : Int := nrF w a (-1) 0 (w 28).toNat
def mx (f : Int → Int) : Nat → Int
  | 0 => 0
  | n + 1 => if mx f n < f n then f n else mx f n
def wGreat (w : Int → Int) : Int := mx (wLoadOf w) (w 0).toNat
def wTryL (w : Int → Int) (b a : Int) : Int := wGreat (wAllW (-1) (wPut w b a))
def bsF (w : Int → Int) (b : Int) (best least i : Int) : Nat → Int
  | 0 => best
  | m + 1 => if 0 ≤ wSignOn w i then bsF w b best least (i + 1) m else if 0 ≤ best ∧ least ≤ wTryL w b i then bsF w b best least (i + 1) m else bsF w b i (wTryL w b i) (i + 1) m
def wBest (w : Int → Int) (b : Int) : Int := bsF w b (-1) 0 0 (360 : Int).toNat
def wByL (w : Int → Int) (y : Int) : Int := sm (fun c => if w (79 + 6 * c + 3) = y then w (79 + 6 * c + 1) else 0) (w 1)
def wLoadAg (w : Int → Int) (b : Int) : Int := sm (fun k => if w (29 + 2 * k + 1) = b then wByL w (w (29 + 2 * k) + 1) else 0) (w 28)
def wSpan (w : Int → Int) (b : Int) : Int := sm (fun a => if 0 ≤ wOpen w a ∧ w (29 + 2 * wOpen w a + 1) = b then 1 else 0) 360
def cuF (w : Int → Int) (b : Int) (left i : Int) : Nat → Int
  | 0 => -1
  | m + 1 => if w (79 + 6 * i + 2) = b + 1 then (if left = 0 then i else cuF w b (left - 1) (i + 1) m) else cuF w b left (i + 1) m
abbrev aheadP (w ld : Int → Int) (a b : Int) : Prop := if ld a = ld b then (if wRoom w a = wRoom w b then a < b else wRoom w a < wRoom w b) else ld b < ld a
def wAhead (w ld : Int → Int) (b : Int) : Int := sm (fun k => if w (4 + 4 * k + 2) = 0 ∧ aheadP w ld k b then 1 else 0) (w 0)
def wRank (w : Int → Int) (p : Int) : Int := fdF (fun b => decide (w (4 + 4 * b + 2) = 0 ∧ wAhead w (wLoadOf w) b = p)) 0 (w 0).toNat
def leF (w : Int → Int) (any least i : Int) : Nat → Int
  | 0 => least
  | m + 1 => if w (4 + 4 * i + 2) = 0 ∧ ¬ (any = 1 ∧ least ≤ wLoadOf w i) then leF w 1 (wLoadOf w i) (i + 1) m else leF w any least (i + 1) m
/-! (what is thrown, what is answered) -/
def qBakeryOf (w : Int → Int) (b k : Int) : Int × Int := if ¬ (0 ≤ b ∧ b ≤ w 0 - 1) then (1, 0) else if k = 0 then (0, w (4 + 4 * b + 0)) else if k = 1 then (0, w (4 + 4 * b + 1)) else if k = 2 then (0, wRoom w b) else if k = 3 then (0, if w (4 + 4 * b + 2) = 0 then 1 else 0) else if k = 4 then (0, wSignsOf w b) else if k = 5 then (0, wCust w b) else if k = 6 then (0, wLoadOf w b) else if k = 7 then (0, if w (4 + 4 * b + 1) < wLoadOf w b then 1 else 0) else (2, 0)
def qSignAt (w : Int → Int) (p : Int) : Int × Int := if 0 ≤ p ∧ p ≤ w 28 - 1 then (0, w (29 + 2 * p)) else (1, 0)
def qSignOf (w : Int → Int) (a : Int) : Int × Int := if ¬ (0 ≤ a ∧ a ≤ 359) then (1, 0) else if wSignOn w a < 0 then (2, 0) else (0, w (29 + 2 * wSignOn w a + 1))
def qCustomerOf (w : Int → Int) (c k : Int) : Int × Int := if ¬ (0 ≤ c ∧ c ≤ w 1 - 1) then (1, 0) else if ¬ (0 ≤ k ∧ k ≤ 5) then (2, 0) else if k = 2 ∨ k = 3 then (0, w (79 + 6 * c + k) - 1) else (0, w (79 + 6 * c + k))
def qWay (f t : Int) : Int × Int := if (0 ≤ f ∧ f ≤ 359) ∧ 0 ≤ t ∧ t ≤ 359 then (0, wWay f t) else (1, 0)
def qNearest (w : Int → Int) (a : Int) : Int × Int := if ¬ (0 ≤ a ∧ a ≤ 359) then (1, 0) else if wOpen w a < 0 then (2, 0) else (0, w (29 + 2 * wOpen w a + 1))
def qNearestAg (w : Int → Int) (a : Int) : Int × Int := if ¬ (0 ≤ a ∧ a ≤ 359) then (1, 0) else if wNear w a < 0 then (2, 0) else (0, w (29 + 2 * wNear w a + 1))
def qWouldGo (w : Int → Int) (a lv : Int) : Int × Int := if ¬ (0 ≤ a ∧ a ≤ 359) then (1, 0) else if ¬ (1 ≤ lv ∧ lv ≤ 9) then (2, 0) else if (wGo w (wLoadOf w) a lv).1 < 0 then (3, 0) else (0, w (29 + 2 * (wGo w (wLoadOf w) a lv).1 + 1))
def qWouldMove (w : Int → Int) (b : Int) : Int × Int := if ¬ (0 ≤ b ∧ b ≤ w 0 - 1) then (1, 0) else if w (4 + 4 * b + 2) = 0 then (0, wAllN (-1) (wUp w (4 + 4 * b + 2) 1)) else (0, wAllN (-1) (wUp w (4 + 4 * b + 2) 0))
def qWouldLoad (w : Int → Int) (b a : Int) : Int × Int := if ¬ ((0 ≤ b ∧ b ≤ w 0 - 1) ∧ 0 ≤ a ∧ a ≤ 359) then (1, 0) else if 0 ≤ wSignOn w a then (0, wLoadOf w b) else (0, wLoadOf (wAllW (-1) (wPut w b a)) b)
def qBestAngle (w : Int → Int) (b : Int) : Int × Int := if ¬ (0 ≤ b ∧ b ≤ w 0 - 1) then (1, 0) else (0, wBest w b)
def qLoadAgain (w : Int → Int) (b : Int) : Int × Int := if ¬ (0 ≤ b ∧ b ≤ w 0 - 1) then (1, 0) else (0, wLoadAg w b)
def qSpan (w : Int → Int) (b : Int) : Int × Int := if ¬ (0 ≤ b ∧ b ≤ w 0 - 1) then (1, 0) else (0, wSpan w b)
def qCustomers (w : Int → Int) (b p : Int) : Int × Int := if ¬ (0 ≤ b ∧ b ≤ w 0 - 1) then (1, 0) else if p < 0 then (2, 0) else if cuF w b p 0 (w 1).toNat < 0 then (2, 0) else (0, cuF w b p 0 (w 1).toNat)
def qRanked (w : Int → Int) (p : Int) : Int × Int := if wRank w p < 0 then (1, 0) else (0, wRank w p)
def qUnfair (w : Int → Int) : Int × Int := if wOpenMany w = 0 then (1, 0) else (0, wGreat w - leF w 0 0 0 (w 0).toNat)
def qIsOwn (w : Int → Int) (b : Int) : Int × Int := if ¬ (0 ≤ b ∧ b ≤ w 0 - 1) then (1, 0) else if ¬ w (4 + 4 * b + 2) = 0 then (0, 1) else if wAllN (-1) (wUp w (4 + 4 * b + 2) 1) = wCust w b then (0, 1) else (0, 0)
/-! ranges, steps -/
theorem wLoadOf_r {w : Int → Int} (h : Wk w) (b : Int) : 0 ≤ wLoadOf w b ∧ wLoadOf w b ≤ 180 := by
  have h1 := h.2.1
  have h2 := sm_le (fun c => if w (79 + 6 * c + 2) = b + 1 then w (79 + 6 * c + 1) else 0) (c := 9) (by omega) (w 1) (fun j h0 hj => by
    have h3 := h.2.2.2.2 j h0 (by omega)
    show 0 ≤ (if w (79 + 6 * j + 2) = b + 1 then w (79 + 6 * j + 1) else 0) ∧ (if w (79 + 6 * j + 2) = b + 1 then w (79 + 6 * j + 1) else 0) ≤ 9
    split <;> omega) (by omega)
  unfold wLoadOf
  omega
theorem mx_r {f : Int → Int} {c : Int} (hc : 0 ≤ c) (h : ∀ j, 0 ≤ f j ∧ f j ≤ c) (n : Nat) : 0 ≤ mx f n ∧ mx f n ≤ c := by
  induction n with
  | zero => exact ⟨Int.le_refl _, hc⟩
  | succ n ih =>
    show 0 ≤ (if mx f n < f n then f n else mx f n) ∧ (if mx f n < f n then f n else mx f n) ≤ c
    split
    · exact h n
    · exact ih
theorem wGreat_r {w : Int → Int} (h : Wk w) : 0 ≤ wGreat w ∧ wGreat w ≤ 180 := mx_r (by omega) (wLoadOf_r h) _
theorem mx_t {f : Int → Int} {i : Int} (h : 0 ≤ i) (h1 : mx f i.toNat < f i) : f i = mx f (i + 1).toNat := by
  rw [show (i + 1).toNat = i.toNat + 1 by omega]
  show _ = if mx f i.toNat < f (i.toNat : Int) then f (i.toNat : Int) else _
  rw [Int.toNat_of_nonneg h, if_pos h1]
theorem mx_f {f : Int → Int} {i : Int} (h : 0 ≤ i) (h1 : ¬ mx f i.toNat < f i) : mx f i.toNat = mx f (i + 1).toNat := by
  rw [show (i + 1).toNat = i.toNat + 1 by omega]
  show _ = if mx f i.toNat < f (i.toNat : Int) then f (i.toNat : Int) else _
  rw [Int.toNat_of_nonneg h, if_neg h1]
theorem wWay_j {f t : Int} (hf : 0 ≤ f ∧ f ≤ 359) (ht : 0 ≤ t ∧ t ≤ 359) : 0 ≤ wWay f t ∧ wWay f t ≤ 359 := by
  unfold wWay
  omega
theorem wOpen_r {w : Int → Int} (h0 : 0 ≤ w 28) (a : Int) : wOpen w a = -1 ∨ (0 ≤ wOpen w a ∧ wOpen w a < w 28) := by
  unfold wOpen
  split
  · exact Or.inl rfl
  · rename_i q
    have h1 := fdF_range (p := fun i => decide (w (4 + 4 * w (29 + 2 * ((wFirst w a + i) % w 28) + 1) + 2) = 0)) (w 28).toNat 0
    change wOpI w a = -1 ∨ (0 ≤ wOpI w a ∧ wOpI w a < 0 + ((w 28).toNat : Int) ∧ _) at h1
    have h2 : 0 < w 28 := by omega
    exact Or.inr ⟨Int.emod_nonneg _ (by omega), Int.emod_lt_of_pos _ h2⟩
theorem nrF_1 {w : Int → Int} {a best i N : Int} (h : i < N) : nrF w a best i (N - i).toNat = nrF w a (if w (4 + 4 * w (29 + 2 * i + 1) + 2) = 0 ∧ (best < 0 ∨ wWay a (w (29 + 2 * i)) < wWay a (w (29 + 2 * best))) then i else best) (i + 1) (N - (i + 1)).toNat := by
  rw [show (N - i).toNat = (N - (i + 1)).toNat + 1 by omega]
  rfl
theorem nrF_e {w : Int → Int} {a best i N : Int} (h : N ≤ i) : nrF w a best i (N - i).toNat = best := by
  rw [show (N - i).toNat = 0 by omega]
  rfl
theorem bsF_1 {w : Int → Int} {b best least i N : Int} (h : i < N) : bsF w b best least i (N - i).toNat = if 0 ≤ wSignOn w i then bsF w b best least (i + 1) (N - (i + 1)).toNat else if 0 ≤ best ∧ least ≤ wTryL w b i then bsF w b best least (i + 1) (N - (i + 1)).toNat else bsF w b i (wTryL w b i) (i + 1) (N - (i + 1)).toNat := by
  rw [show (N - i).toNat = (N - (i + 1)).toNat + 1 by omega]
  rfl
theorem bsF_e {w : Int → Int} {b best least i N : Int} (h : N ≤ i) : bsF w b best least i (N - i).toNat = best := by
  rw [show (N - i).toNat = 0 by omega]
  rfl
theorem cuF_1 {w : Int → Int} {b left i N : Int} (h : i < N) : cuF w b left i (N - i).toNat = if w (79 + 6 * i + 2) = b + 1 then (if left = 0 then i else cuF w b (left - 1) (i + 1) (N - (i + 1)).toNat) else cuF w b left (i + 1) (N - (i + 1)).toNat := by
  rw [show (N - i).toNat = (N - (i + 1)).toNat + 1 by omega]
  rfl
theorem cuF_e {w : Int → Int} {b left i N : Int} (h : N ≤ i) : cuF w b left i (N - i).toNat = -1 := by
  rw [show (N - i).toNat = 0 by omega]
  rfl
theorem leF_1 {w : Int → Int} {any least i N : Int} (h : i < N) : leF w any least i (N - i).toNat = if w (4 + 4 * i + 2) = 0 ∧ ¬ (any = 1 ∧ least ≤ wLoadOf w i) then leF w 1 (wLoadOf w i) (i + 1) (N - (i + 1)).toNat else leF w any least (i + 1) (N - (i + 1)).toNat := by
  rw [show (N - i).toNat = (N - (i + 1)).toNat + 1 by omega]
  rfl
theorem leF_e {w : Int → Int} {any least i N : Int} (h : N ≤ i) : leF w any least i (N - i).toNat = least := by
  rw [show (N - i).toNat = 0 by omega]
  rfl
/-! a query is over: c is thrown, the rest is as before but for what is thought -/
def QE (E : En) (σ0 : Mm) (o : Nat) (σ : Mm) (F : Nat → Int → Int) (c : Int) : Prop := ∃ F1 : Nat → Int → Int, MS E σ0 o σ F1 ∧ F1 0 0 = c ∧ ∀ f, f ≠ 0 → f ≠ 8 → f ≠ 12 → f ≠ 13 → F1 f = F f
theorem QE_0 {E : En} {σ0 σ : Mm} {o : Nat} {F : Nat → Int → Int} (h : MS E σ0 o σ (up2 F 0 0 0)) : QE E σ0 o σ F 0 := ⟨_, h, up2_s _ _ _ _, fun f a _ _ _ => up2_oth _ _ _ a⟩
theorem QE_1 {E : En} {σ0 σ : Mm} {o : Nat} {F : Nat → Int → Int} {c : Int} (h : MS E σ0 o σ (up2 (up2 F 0 0 0) 0 0 c)) : QE E σ0 o σ F c := ⟨_, h, up2_s _ _ _ _, fun f a _ _ _ => by rw [up2_oth _ _ _ a, up2_oth _ _ _ a]⟩
/-- thinking: the row is wn, what was thought is w -/
def TE (E : En) (σ0 : Mm) (o : Nat) (σ : Mm) (F : Nat → Int → Int) (w wn : Int → Int) : Prop := ∃ F1 : Nat → Int → Int, MS E σ0 o σ F1 ∧ F1 0 0 = 0 ∧ F1 5 = wn ∧ F1 8 = w ∧ ∀ f, f ≠ 0 → f ≠ 5 → f ≠ 8 → f ≠ 12 → f ≠ 13 → F1 f = F f
theorem TE_0 {E : En} {σ0 σ : Mm} {o : Nat} {F : Nat → Int → Int} {w : Int → Int} (hw : F 5 = w) (h : MS E σ0 o σ (upR (up2 F 0 0 0) 8 199 ((up2 F 0 0 0) 5))) : TE E σ0 o σ F w w := by
  refine ⟨_, MS_c8 (g := w) h (fun j h0 h1 => by rw [upR_in _ _ _ h0 h1, up2_oth _ _ _ (by decide), hw]), ?_, ?_, stF_s _ _ _, fun f a _ b _ _ => ?_⟩
  · rw [stF_o _ _ (by decide), upR_oth _ _ _ (by decide), up2_s]
  · rw [stF_o _ _ (by decide), upR_oth _ _ _ (by decide), up2_oth _ _ _ (by decide), hw]
  · rw [stF_o _ _ b, upR_oth _ _ _ b, up2_oth _ _ _ a]
theorem TE_1 {E : En} {σ0 σ τ : Mm} {o : Nat} {F F1 : Nat → Int → Int} {w wn : Int → Int} (h : MS E σ0 o σ F1) (h0 : F1 0 0 = 0) (h8 : F1 8 = w) (he : ∀ f, f ≠ 0 → f ≠ 5 → f ≠ 8 → f ≠ 12 → f ≠ 13 → F1 f = F f) (h2 : ME E σ o τ F1 wn) : TE E σ0 o τ F w wn := by
  obtain ⟨F2, h3, h4, h5⟩ := ME_t h h2
  exact ⟨F2, h3, by rw [h5 0 (by decide) (by decide) (by decide)]; exact h0, h4, by rw [h5 8 (by decide) (by decide) (by decide)]; exact h8, fun f a b c d e => (h5 f b d e).trans (he f a b c d e)⟩
theorem TE_2 {E : En} {σ0 σ : Mm} {o : Nat} {F F1 : Nat → Int → Int} {w : Int → Int} (h0 : F1 0 0 = 0) (h8 : F1 8 = w) (he : ∀ f, f ≠ 0 → f ≠ 5 → f ≠ 8 → f ≠ 12 → f ≠ 13 → F1 f = F f) (h : MS E σ0 o σ (upR F1 5 199 (F1 8))) : TE E σ0 o σ F w w := by
  refine ⟨_, MS_c5 (g := w) h (fun j h0 h1 => by rw [upR_in _ _ _ h0 h1, h8]), ?_, stF_s _ _ _, ?_, fun f a b c d e => ?_⟩
  · rw [stF_o _ _ (by decide), upR_oth _ _ _ (by decide)]; exact h0
  · rw [stF_o _ _ (by decide), upR_oth _ _ _ (by decide)]; exact h8
  · rw [stF_o _ _ b, upR_oth _ _ _ b]; exact he f a b c d e
theorem TE_q {E : En} {σ0 σ : Mm} {o : Nat} {F : Nat → Int → Int} {w : Int → Int} (hw : F 5 = w) (h : TE E σ0 o σ F w w) : QE E σ0 o σ F 0 := by
  obtain ⟨F1, h1, h2, h3, h4, h5⟩ := h
  refine ⟨F1, h1, h2, fun f a b c d => ?_⟩
  by_cases q : f = 5
  · rw [q, h3, hw]
  · exact h5 f a q b c d
/-- the loads are found -/
def LE (E : En) (σ0 : Mm) (o : Nat) (σ : Mm) (F : Nat → Int → Int) (w : Int → Int) : Prop := ∃ F1 : Nat → Int → Int, MS E σ0 o σ F1 ∧ F1 0 0 = 0 ∧ F1 5 = w ∧ F1 12 = wLoadOf w ∧ ∀ f, f ≠ 0 → f ≠ 12 → f ≠ 13 → F1 f = F f
theorem LE_0 {E : En} {σ0 σ : Mm} {o : Nat} {F : Nat → Int → Int} {w : Int → Int} (hw : F 5 = w) (h : MS E σ0 o σ (upR (up2 F 0 0 0) 12 6 (wLoadOf w))) : LE E σ0 o σ F w := by
  refine ⟨_, MS_c12 (g := wLoadOf w) h (fun j h0 h1 => by rw [upR_in _ _ _ h0 h1]), ?_, ?_, stF_s _ _ _, fun f a b _ => ?_⟩
  · rw [stF_o _ _ (by decide), upR_oth _ _ _ (by decide), up2_s]
  · rw [stF_o _ _ (by decide), upR_oth _ _ _ (by decide), up2_oth _ _ _ (by decide), hw]
  · rw [stF_o _ _ b, upR_oth _ _ _ b, up2_oth _ _ _ a]
def wBak (w : Int → Int) (k v : Int) : Int → Int := wUp (wUp (wUp w 0 (w 0 + 1)) (4 + 4 * w 0 + 0) k) (4 + 4 * w 0 + 1) v
