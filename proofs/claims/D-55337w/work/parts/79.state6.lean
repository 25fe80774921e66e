set_option maxHeartbeats 4000000 in
set_option maxRecDepth 100000 in
/-- BakeryRing$State.empties()V -/
theorem mX6_empties {l : Launch} {E : En} {σ : Mm} {a x : Nat} {w ld ow : Int → Int} {ch : Int} (hS : SS E σ a x w ld ow ch) (hk : Wk w)  : Ctr l E yX6_empties (ws_ yX6_empties cX6_empties 1 none) 1 20 0 0 [.ref a] σ (fun v τ => v = none ∧ SS E τ a x (fun _ => 0) ld ow 0 ∧ Fr (EP a) σ τ) noX := by
  refine x_head (own := RX6) (cc := cX6_empties) (maxL := 1) (ret := none) (by decide) rfl rfl (Nat.le_of_ble_eq_true rfl) ?_
  intro p e s m args below meth c H ls hF hname htab hM hl
  have hx := hF.2.2.1
  have hb := hF.2.2.2.1
  have hL : Lc E [] := lcNil
  have hl : lh ls 1 ([(0, .ref a)]) := hl
  have hk2 := hk.2.1
  refine lv_aload_n hx hb dX6_empties_0 rfl (lk hl rfl) ?_
  refine x_iconst hF dX6_empties_1 ?_
  refine x_putfield hF (ci := 4) in_X6 rfl tyX6_ok nmX6 1 (by decide) q400 (fun _ h => h) rfl hM hL hS.1.1.1 (ty := .int) (by decide +kernel) rfl rfl dX6_empties_2 (fun H locs hM hL => ?_)
  refine x_gen (P := fun τ => Ob E τ a 4 ∧ BG E τ (a + 2) (sbg w) ∧ rd τ a 2 = .ref (a + 2) ∧ rd τ a 1 = .int (iz 0) ∧ Fr (EP a) σ τ) hM ⟨obW hS.1.1.1, BG_fr hS.2.2.2.1 (frWr (P := fun b _ => b = a) (frRefl _ _) (fun _ => rfl)) (fun b j q z => by omega), by rw [rd_wr_k _ _ _ _ (by decide)]; exact hS.1.1.2.2.1, rd_wr_s _ _ _ _, frWr (frRefl _ _) (fun _ => Or.inl ⟨rfl, by omega⟩)⟩ (fun τ hM hT => ?_)
  obtain ⟨Wo, n, hB, hg⟩ := hT.2.1
  refine lv_aload_n hx hb dX6_empties_5 rfl (lk hl rfl) ?_
  refine x_getfield hF (ci := 4) in_X6 rfl 2 (by decide) q402 (fun _ h => h) hM hT.1 hT.2.2.1 dX6_empties_6 ?_
  refine x_kn hL (vx_runV (As := []) hF.2.2.2.2.2.2.2.2.2 ((mJ8_clear hB) hF.1) (cwV 0 hF.2.2.2.2.2.2.2.2.1 (lw_V q558 q559 q560 q128 q561) rfl rfl rfl (by decide +kernel) ⟨(Nat.le_of_ble_eq_true rfl), (Nat.le_of_ble_eq_true rfl)⟩) (x_preV hF hM hB.1 rfl) rfl rfl hl.1 rfl (lv_room (Nat.le_of_ble_eq_true rfl)) dX6_empties_9 ⟨(Nat.le_of_ble_eq_true rfl), (Nat.le_of_ble_eq_true rfl)⟩) ?_
  rintro _ τ9 H locs ⟨rfl, V, hB2, hfr⟩ hM hL
  have hO2 := obFr hfr hT.1
  have hfr2 := frTrans hT.2.2.2.2 (frMono hfr (P2 := EP a) (fun b j _ q => Or.inr q))
  have h1 : _ := (hfr.2 a hT.1.2.1).2 1 (fun q => by rcases q with q | q <;> omega)
  rw [hT.2.2.2.1] at h1
  refine lv_aload_n hx hb dX6_empties_12 rfl (lk hl rfl) ?_
  refine x_iconst hF dX6_empties_13 ?_
  refine x_putfield hF (ci := 4) in_X6 rfl tyX6_ok nmX6 5 (by decide) q408 (fun _ h => h) rfl hM hL hO2 (ty := .int) (by decide +kernel) rfl rfl dX6_empties_14 (fun H locs hM hL => ?_)
  refine lv_aload_n hx hb dX6_empties_17 rfl (lk hl rfl) ?_
  refine x_iconst hF dX6_empties_18 ?_
  refine x_putfield hF (ci := 4) in_X6 rfl tyX6_ok nmX6 7 (by decide) q412 (fun _ h => h) rfl hM hL (obW hO2) (ty := .int) (by decide +kernel) rfl rfl dX6_empties_19 (fun H locs hM hL => ?_)
  refine lv_aload_n hx hb dX6_empties_22 rfl (lk hl rfl) ?_
  refine x_iconst hF dX6_empties_23 ?_
  refine x_putfield hF (ci := 4) in_X6 rfl tyX6_ok nmX6 8 (by decide) q414 (fun _ h => h) rfl hM hL (obW (obW hO2)) (ty := .int) (by decide +kernel) rfl rfl dX6_empties_24 (fun H locs hM hL => ?_)
  exact x_return hF hM hL (Nat.le_of_ble_eq_true rfl) (Nat.le_of_ble_eq_true rfl) (by have hf9 : Fr (EP a) σ _ := frWr (frWr (frWr hfr2 (a := a) (k := 5) (v := .int (iz 0)) (fun _ => Or.inl ⟨rfl, by omega⟩)) (a := a) (k := 7) (v := .int (iz 0)) (fun _ => Or.inl ⟨rfl, by omega⟩)) (a := a) (k := 8) (v := .int (iz 0)) (fun _ => Or.inl ⟨rfl, by omega⟩); exact ⟨rfl, SS_0 hS hf9 (BS_fr hB2 (frWr (frWr (frWr (P := fun b _ => b = a) (frRefl _ _) (fun _ => rfl)) (fun _ => rfl)) (fun _ => rfl)) (fun b j q z => by omega)) (by rw [rd_wr_k _ _ _ _ (by decide), rd_wr_k _ _ _ _ (by decide), rd_wr_k _ _ _ _ (by decide)]; exact h1) (by rw [rd_wr_k _ _ _ _ (by decide), rd_wr_k _ _ _ _ (by decide), rd_wr_s]) (by rw [rd_wr_k _ _ _ _ (by decide), rd_wr_s]) (rd_wr_s _ _ _ _), hf9⟩) dX6_empties_27
