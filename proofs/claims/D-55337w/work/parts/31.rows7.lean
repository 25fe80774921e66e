/-! ROWS 7: the reader -/
def lt (t : Int → Int) (L p : Int) : Int := if p < L then t p else -1
def Tx (t : Int → Int) (L : Int) : Prop := (∀ j, 0 ≤ t j ∧ t j ≤ 65535) ∧ 0 ≤ L ∧ L ≤ 60
def dg (t : Int → Int) (L p : Int) : Prop := 48 ≤ lt t L p ∧ lt t L p ≤ 57
def pDg (t : Int → Int) (L : Int) : Nat → Int → Int → Int × Int
  | 0, p, v => (p, v)
  | d + 1, p, v => if 48 ≤ lt t L p ∧ lt t L p ≤ 57 then pDg t L d (p + 1) (10 * v + lt t L p - 48) else (p, v)
/-- (is it one, where it ends, the number) -/
def pNum (t : Int → Int) (L p d : Int) : Int × Int × Int := if lt t L p = 32 then (if 48 ≤ lt t L (p + 1) ∧ lt t L (p + 1) ≤ 57 then (1, pDg t L d.toNat (p + 1) 0) else (0, p + 1, 0)) else (0, p, 0)
/-- (is it one, where it ends, its sort, its numbers) -/
def pTwo (t : Int → Int) (L p d1 d2 so : Int) : Int × Int × Int × Int × Int := if (pNum t L p d1).1 = 1 then (if d2 = 0 then (1, (pNum t L p d1).2.1, so, (pNum t L p d1).2.2, 0) else if (pNum t L (pNum t L p d1).2.1 d2).1 = 1 then (1, (pNum t L (pNum t L p d1).2.1 d2).2.1, so, (pNum t L p d1).2.2, (pNum t L (pNum t L p d1).2.1 d2).2.2) else (0, (pNum t L (pNum t L p d1).2.1 d2).2.1, 0, 0, 0)) else (0, (pNum t L p d1).2.1, 0, 0, 0)
def pRest (t : Int → Int) (L : Int) (d1 d2 so : Int) : List Int → Int → Int × Int × Int × Int × Int
  | [], p => pTwo t L p d1 d2 so
  | c :: cs, p => if lt t L p = c then pRest t L d1 d2 so cs (p + 1) else (0, p, 0, 0, 0)
def pC (t : Int → Int) (L p : Int) : Int × Int × Int × Int × Int := if lt t L p = 108 then pRest t L 1 0 2 [111, 115, 101] (p + 1) else pRest t L 3 1 5 [111, 109, 101] p
def pV (t : Int → Int) (L p : Int) : Int × Int × Int × Int × Int := if lt t L p = 112 then pRest t L 1 0 3 [101, 110] (p + 1) else pRest t L 1 3 4 [118, 101, 110] p
def pOrd (t : Int → Int) (L p : Int) : Int × Int × Int × Int × Int := if lt t L p = 115 then pRest t L 1 3 0 [105, 103, 110] (p + 1) else if lt t L p = 100 then pRest t L 3 0 1 [111, 119, 110] (p + 1) else if lt t L p = 99 then pC t L (p + 1) else if lt t L p = 111 then pV t L (p + 1) else pRest t L 3 0 6 [108, 101, 97, 118, 101] p
/-- (are they all orders, where it ends) -/
def pAllF (t : Int → Int) (L : Int) : Nat → Int → Int × Int
  | 0, p => (0, p)
  | n + 1, p => if (pOrd t L p).1 = 1 then (if lt t L (pOrd t L p).2.1 = 59 then pAllF t L n ((pOrd t L p).2.1 + 1) else (if (pOrd t L p).2.1 = L then 1 else 0, (pOrd t L p).2.1)) else (0, (pOrd t L p).2.1)
def pList (t : Int → Int) (L : Int) : Nat → Int → List (Int × Int × Int)
  | 0, _ => []
  | n + 1, p => (pOrd t L p).2.2 :: (if lt t L (pOrd t L p).2.1 = 59 then pList t L n ((pOrd t L p).2.1 + 1) else [])
def nNow (w : Int → Int) (r : Int × Int × Int) : Int × Int × Int := if r.1 = 0 then nSign w r.2.1 r.2.2 else if r.1 = 1 then nDown w r.2.1 else if r.1 = 2 then nClose w r.2.1 else if r.1 = 3 then nOpen w r.2.1 else if r.1 = 4 then nOven w r.2.1 r.2.2 else if r.1 = 5 then nCome w r.2.1 r.2.2 else nLeave w r.2.1
def dNow (w : Int → Int) (r : Int × Int × Int) : Int → Int := if r.1 = 0 then wAllW (-1) (wPut w r.2.1 r.2.2) else if r.1 = 1 then wAllW (-1) (wTake w (wSignOn w r.2.1)) else if r.1 = 2 then wAllW (-1) (wUp w (4 + 4 * r.2.1 + 2) 1) else if r.1 = 3 then wAllW (-1) (wUp w (4 + 4 * r.2.1 + 2) 0) else if r.1 = 4 then wAllW (-1) (wUp w (4 + 4 * r.2.1 + 1) r.2.2) else if r.1 = 5 then wAllW (w 1) (wCome w r.2.1 r.2.2) else wAllW (-1) (wLeave w r.2.1)
/-- (is all done, the row, how many, why not) -/
def sRun : List (Int × Int × Int) → (Int → Int) → Int → Int × (Int → Int) × Int × Int × Int × Int
  | [], w, d => (1, w, d, 0, 0, 0)
  | r :: rs, w, d => if (nNow w r).1 = 0 then sRun rs (dNow w r) (d + 1) else (0, w, d, nNow w r)
theorem lt_lt {t : Int → Int} {L p z : Int} (h : lt t L p = z) (hz : 0 ≤ z) : p < L := by
  unfold lt at h
  split at h <;> omega
theorem lt_r {t : Int → Int} {L : Int} (h : Tx t L) (p : Int) : -1 ≤ lt t L p ∧ lt t L p ≤ 65535 := by
  have h1 := h.1 p
  unfold lt
  split <;> omega
theorem pRest_c {t : Int → Int} {L p d1 d2 so c : Int} {cs : List Int} (h : lt t L p = c) : pRest t L d1 d2 so (c :: cs) p = pRest t L d1 d2 so cs (p + 1) := if_pos h
theorem pRest_n {t : Int → Int} {L p d1 d2 so c : Int} {cs : List Int} (h : ¬ lt t L p = c) : pRest t L d1 d2 so (c :: cs) p = (0, p, 0, 0, 0) := if_neg h
theorem pDg_t {t : Int → Int} {L p v d n : Int} (h : n < d) (h1 : 48 ≤ lt t L p ∧ lt t L p ≤ 57) : pDg t L (d - n).toNat p v = pDg t L (d - (n + 1)).toNat (p + 1) (10 * v + lt t L p - 48) := by
  rw [show (d - n).toNat = (d - (n + 1)).toNat + 1 by omega]
  exact if_pos h1
theorem pDg_f {t : Int → Int} {L p v : Int} {m : Nat} (h1 : ¬ (48 ≤ lt t L p ∧ lt t L p ≤ 57)) : pDg t L m p v = (p, v) := by
  cases m with
  | zero => rfl
  | succ m => exact if_neg h1
theorem pDg_e {t : Int → Int} {L p v d n : Int} (h : d ≤ n) : pDg t L (d - n).toNat p v = (p, v) := by
  rw [show (d - n).toNat = 0 by omega]
  rfl
theorem pDg_r {t : Int → Int} {L : Int} (m : Nat) : ∀ (p v : Int), 0 ≤ v → p ≤ L → p ≤ (pDg t L m p v).1 ∧ (pDg t L m p v).1 ≤ L ∧ 0 ≤ (pDg t L m p v).2 ∧ (pDg t L m p v).2 < 10 ^ m * (v + 1) := by
  induction m with
  | zero =>
    intro p v h0 h1
    show p ≤ p ∧ p ≤ L ∧ 0 ≤ v ∧ v < 1 * (v + 1)
    omega
  | succ m ih =>
    intro p v h0 h1
    by_cases q : 48 ≤ lt t L p ∧ lt t L p ≤ 57
    · have e : pDg t L (m + 1) p v = pDg t L m (p + 1) (10 * v + lt t L p - 48) := if_pos q
      have hl : p < L := lt_lt (t := t) rfl (by omega)
      have h2 := ih (p + 1) (10 * v + lt t L p - 48) (by omega) (by omega)
      rw [e]
      refine ⟨by omega, h2.2.1, h2.2.2.1, Int.lt_of_lt_of_le h2.2.2.2 ?_⟩
      rw [Int.pow_succ, Int.mul_assoc]
      exact Int.mul_le_mul_of_nonneg_left (by omega) (Int.pow_nonneg (by omega))
    · rw [show pDg t L (m + 1) p v = (p, v) from if_neg q]
      refine ⟨Int.le_refl _, h1, h0, Int.lt_of_lt_of_le (show v < 1 * (v + 1) by omega) ?_⟩
      exact Int.mul_le_mul_of_nonneg_right (Int.add_one_le_of_lt (Int.pow_pos (by omega))) (by omega)
theorem pNum_r {t : Int → Int} {L p d : Int} (h0 : 0 ≤ p) (h1 : p ≤ L) (hd : d ≤ 3) : ((pNum t L p d).1 = 0 ∨ (pNum t L p d).1 = 1) ∧ p ≤ (pNum t L p d).2.1 ∧ (pNum t L p d).2.1 ≤ L ∧ 0 ≤ (pNum t L p d).2.2 ∧ (pNum t L p d).2.2 < 1000 ∧ ((pNum t L p d).1 = 1 → p < (pNum t L p d).2.1) := by
  unfold pNum
  split
  · rename_i q
    have hl := lt_lt q (by decide)
    split
    · have h2 := pDg_r (t := t) (L := L) d.toNat (p + 1) 0 (by omega) (by omega)
      have h3 : (10 : Int) ^ d.toNat ≤ 1000 := by
        rcases (show d.toNat = 0 ∨ d.toNat = 1 ∨ d.toNat = 2 ∨ d.toNat = 3 by omega) with e | e | e | e <;> rw [e] <;> decide
      show ((1 : Int) = 0 ∨ (1 : Int) = 1) ∧ p ≤ (pDg t L d.toNat (p + 1) 0).1 ∧ (pDg t L d.toNat (p + 1) 0).1 ≤ L ∧ 0 ≤ (pDg t L d.toNat (p + 1) 0).2 ∧ (pDg t L d.toNat (p + 1) 0).2 < 1000 ∧ ((1 : Int) = 1 → p < (pDg t L d.toNat (p + 1) 0).1)
      omega
    · show ((0 : Int) = 0 ∨ (0 : Int) = 1) ∧ p ≤ p + 1 ∧ p + 1 ≤ L ∧ (0 : Int) ≤ 0 ∧ (0 : Int) < 1000 ∧ ((0 : Int) = 1 → p < p + 1)
      omega
  · show ((0 : Int) = 0 ∨ (0 : Int) = 1) ∧ p ≤ p ∧ p ≤ L ∧ (0 : Int) ≤ 0 ∧ (0 : Int) < 1000 ∧ ((0 : Int) = 1 → p < p)
    omega
def Po (L p : Int) (r : Int × Int × Int × Int × Int) : Prop := (r.1 = 0 ∨ r.1 = 1) ∧ p ≤ r.2.1 ∧ r.2.1 ≤ L ∧ (0 ≤ r.2.2.1 ∧ r.2.2.1 ≤ 6) ∧ (0 ≤ r.2.2.2.1 ∧ r.2.2.2.1 < 1000) ∧ (0 ≤ r.2.2.2.2 ∧ r.2.2.2.2 < 1000) ∧ (r.1 = 1 → p < r.2.1)
theorem Po_0 {L p q : Int} (h : p ≤ q) (h1 : q ≤ L) : Po L p (0, q, 0, 0, 0) := by
  show ((0 : Int) = 0 ∨ (0 : Int) = 1) ∧ p ≤ q ∧ q ≤ L ∧ ((0 : Int) ≤ 0 ∧ (0 : Int) ≤ 6) ∧ ((0 : Int) ≤ 0 ∧ (0 : Int) < 1000) ∧ ((0 : Int) ≤ 0 ∧ (0 : Int) < 1000) ∧ ((0 : Int) = 1 → p < q)
  omega
theorem Po_m {L p q : Int} {r : Int × Int × Int × Int × Int} (h : Po L q r) (hp : p ≤ q) : Po L p r := by
  obtain ⟨a, b, c, d, e, f, g⟩ := h
  exact ⟨a, by omega, c, d, e, f, fun x => by have := g x; omega⟩
theorem pTwo_r {t : Int → Int} {L p d1 d2 so : Int} (h0 : 0 ≤ p) (h1 : p ≤ L) (hd1 : d1 ≤ 3) (hd2 : d2 ≤ 3) (hs : 0 ≤ so ∧ so ≤ 6) : Po L p (pTwo t L p d1 d2 so) := by
  have h2 := pNum_r (t := t) (L := L) (d := d1) h0 h1 hd1
  have h3 := pNum_r (t := t) (L := L) (p := (pNum t L p d1).2.1) (d := d2) (by omega) (by omega) hd2
  unfold pTwo
  split
  · split
    · exact ⟨Or.inr rfl, h2.2.1, h2.2.2.1, hs, ⟨h2.2.2.2.1, h2.2.2.2.2.1⟩, ⟨Int.le_refl _, by show (0 : Int) < 1000; decide⟩, fun _ => h2.2.2.2.2.2 (by assumption)⟩
    · split
      · have h4 := h2.2.2.2.2.2 (by assumption)
        exact ⟨Or.inr rfl, by show p ≤ (pNum t L (pNum t L p d1).2.1 d2).2.1; omega, h3.2.2.1, hs, ⟨h2.2.2.2.1, h2.2.2.2.2.1⟩, ⟨h3.2.2.2.1, h3.2.2.2.2.1⟩, fun _ => by show p < (pNum t L (pNum t L p d1).2.1 d2).2.1; omega⟩
      · exact Po_0 (by omega) (by omega)
  · exact Po_0 (by omega) (by omega)
theorem pRest_r {t : Int → Int} {L d1 d2 so : Int} (hd1 : d1 ≤ 3) (hd2 : d2 ≤ 3) (hs : 0 ≤ so ∧ so ≤ 6) (cs : List Int) (hc : ∀ c ∈ cs, 0 ≤ c) : ∀ p, 0 ≤ p → p ≤ L → Po L p (pRest t L d1 d2 so cs p) := by
  induction cs with
  | nil => exact fun p h0 h1 => pTwo_r h0 h1 hd1 hd2 hs
  | cons c cs ih =>
    intro p h0 h1
    by_cases q : lt t L p = c
    · rw [pRest_c q]
      have := lt_lt q (hc c List.mem_cons_self)
      exact Po_m (ih (fun c hc2 => hc c (List.mem_cons_of_mem _ hc2)) (p + 1) (by omega) (by omega)) (by omega)
    · rw [pRest_n q]
      exact Po_0 (Int.le_refl _) h1
theorem pOrd_r {t : Int → Int} {L p : Int} (h0 : 0 ≤ p) (h1 : p ≤ L) : Po L p (pOrd t L p) := by
  unfold pOrd
  split
  · rename_i q
    have := lt_lt q (by decide)
    exact Po_m (pRest_r (by decide) (by decide) (by decide) _ (by decide) _ (by omega) (by omega)) (by omega)
  · split
    · rename_i q
      have := lt_lt q (by decide)
      exact Po_m (pRest_r (by decide) (by decide) (by decide) _ (by decide) _ (by omega) (by omega)) (by omega)
    · split
      · rename_i q
        have := lt_lt q (by decide)
        unfold pC
        split
        · rename_i q
          have := lt_lt q (by decide)
          exact Po_m (pRest_r (by decide) (by decide) (by decide) _ (by decide) _ (by omega) (by omega)) (by omega)
        · exact Po_m (pRest_r (by decide) (by decide) (by decide) _ (by decide) _ (by omega) (by omega)) (by omega)
      · split
        · rename_i q
          have := lt_lt q (by decide)
          unfold pV
          split
          · rename_i q
            have := lt_lt q (by decide)
            exact Po_m (pRest_r (by decide) (by decide) (by decide) _ (by decide) _ (by omega) (by omega)) (by omega)
          · exact Po_m (pRest_r (by decide) (by decide) (by decide) _ (by decide) _ (by omega) (by omega)) (by omega)
        · exact pRest_r (by decide) (by decide) (by decide) _ (by decide) _ h0 h1
/-! pictures: read to p -/
def RP (E : En) (σ0 : Mm) (o : Nat) (σ : Mm) (F : Nat → Int → Int) (p : Int) : Prop := ∃ F1 : Nat → Int → Int, MS E σ0 o σ F1 ∧ F1 16 0 = p ∧ ∀ f, f ≠ 16 → F1 f = F f
def RN (E : En) (σ0 : Mm) (o : Nat) (σ : Mm) (F : Nat → Int → Int) (k : Int) (r : Int × Int × Int) : Prop := ∃ F1 : Nat → Int → Int, MS E σ0 o σ F1 ∧ F1 16 0 = r.2.1 ∧ (r.1 = 1 → F1 18 k = r.2.2) ∧ (∀ j, j ≠ k → F1 18 j = F 18 j) ∧ ∀ f, f ≠ 16 → f ≠ 18 → F1 f = F f
def RT (E : En) (σ0 : Mm) (o : Nat) (σ : Mm) (F : Nat → Int → Int) (r : Int × Int × Int × Int × Int) : Prop := ∃ F1 : Nat → Int → Int, MS E σ0 o σ F1 ∧ F1 16 0 = r.2.1 ∧ (r.1 = 1 → F1 19 0 = r.2.2.1 ∧ F1 18 0 = r.2.2.2.1 ∧ (r.2.2.1 = 0 ∨ r.2.2.1 = 4 ∨ r.2.2.1 = 5 → F1 18 1 = r.2.2.2.2)) ∧ ∀ f, f ≠ 16 → f ≠ 18 → f ≠ 19 → F1 f = F f
theorem RT_t {E : En} {σ0 σ τ : Mm} {o : Nat} {F F1 : Nat → Int → Int} {r : Int × Int × Int × Int × Int} (h : MS E σ0 o σ F1) (he : ∀ f, f ≠ 16 → F1 f = F f) (h2 : RT E σ o τ F1 r) : RT E σ0 o τ F r := by
  obtain ⟨F2, a, b, c, d⟩ := h2
  exact ⟨F2, MS_t h a, b, c, fun f x y z => (d f x y z).trans (he f x)⟩
