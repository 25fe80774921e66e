set_option maxHeartbeats 4000000 in
set_option maxRecDepth 100000 in
/-- BakeryRing$Bakery.like(LBakeryRing$Bakery;)V -/
theorem mX7_like {l : Launch} {E : En} {σ : Mm} {b b2 k : Nat} {ov op : Int} (hO : Ob E σ b 6) (hO2 : Ob E σ b2 6) (h0 : rd σ b2 0 = .ref k) (h1 : rd σ b2 1 = .int (iz ov)) (h2 : rd σ b2 2 = .int (iz op)) (hop : op = 0 ∨ op = 1) : Ctr l E yX7_like (ws_ yX7_like cX7_like 2 none) 0 0 0 0 [.ref b, .ref b2] σ (fun v τ => v = none ∧ τ = (wr (wr (wr σ b 0 (.ref k)) b 1 (.int (iz ov))) b 2 (.int (iz op)))) noX := by
  refine x_head (own := RX7) (cc := cX7_like) (maxL := 2) (ret := none) (by decide) rfl rfl (Nat.le_of_ble_eq_true rfl) ?_
  intro p e s m args below meth c H ls hF hname htab hM hl
  have hx := hF.2.2.1
  have hb := hF.2.2.2.1
  have hL : Lc E [] := lcNil
  have hl : lh ls 2 ([(0, .ref b), (1, .ref b2)]) := hl
  refine lv_aload_n hx hb dX7_like_0 rfl (lk hl rfl) ?_
  refine lv_aload_n hx hb dX7_like_1 rfl (lk hl rfl) ?_
  refine x_getfield hF (ci := 6) in_X7 rfl 0 (by decide) q346 (fun _ h => h) hM hO2 h0 dX7_like_2 ?_
  refine x_putfield hF (ci := 6) in_X7 rfl tyX7_ok nmX7 0 (by decide) q346 (fun _ h => h) rfl hM hL hO (ty := .object "BakeryRing$Kind") (by decide +kernel) rfl rfl dX7_like_5 (fun H locs hM hL => ?_)
  refine lv_aload_n hx hb dX7_like_8 rfl (lk hl rfl) ?_
  refine lv_aload_n hx hb dX7_like_9 rfl (lk hl rfl) ?_
  refine x_getfield hF (ci := 6) in_X7 rfl 1 (by decide) q348 (fun _ h => h) hM (obW hO2) (show rd _ _ _ = .int (iz ov) from by rw [rd_wr, if_neg (fun q => by omega)]; exact h1) dX7_like_10 ?_
  refine x_putfield hF (ci := 6) in_X7 rfl tyX7_ok nmX7 1 (by decide) q348 (fun _ h => h) rfl hM hL (obW hO) (ty := .int) (by decide +kernel) rfl rfl dX7_like_13 (fun H locs hM hL => ?_)
  refine lv_aload_n hx hb dX7_like_16 rfl (lk hl rfl) ?_
  refine lv_aload_n hx hb dX7_like_17 rfl (lk hl rfl) ?_
  refine x_getfield hF (ci := 6) in_X7 rfl 2 (by decide) q351 (fun _ h => h) hM (obW (obW hO2)) (show rd _ _ _ = .int (iz op) from by rw [rd_wr, if_neg (fun q => by omega), rd_wr, if_neg (fun q => by omega)]; exact h2) dX7_like_18 ?_
  refine x_putfield hF (ci := 6) in_X7 rfl tyX7_ok nmX7 2 (by decide) q351 (fun _ h => h) rfl hM hL (obW (obW hO)) (ty := .boolean) (by decide +kernel) (nar_z hop) (fit_z hop) dX7_like_21 (fun H locs hM hL => ?_)
  exact x_return hF hM hL (Nat.le_of_ble_eq_true rfl) (Nat.le_of_ble_eq_true rfl) ⟨rfl, rfl⟩ dX7_like_24
set_option maxHeartbeats 4000000 in
set_option maxRecDepth 100000 in
/-- BakeryRing$Customer.like(LBakeryRing$Customer;)V -/
theorem mX8_like {l : Launch} {E : En} {σ : Mm} {b b2 : Nat} {an lv ba sg se mv : Int} (hO : Ob E σ b 7) (hO2 : Ob E σ b2 7) (h0 : rd σ b2 0 = .int (iz an)) (h1 : rd σ b2 1 = .int (iz lv)) (h2 : rd σ b2 2 = .int (iz ba)) (h3 : rd σ b2 3 = .int (iz sg)) (h4 : rd σ b2 4 = .int (iz se)) (h5 : rd σ b2 5 = .int (iz mv)) (hop : se = 0 ∨ se = 1) : Ctr l E yX8_like (ws_ yX8_like cX8_like 2 none) 0 0 0 0 [.ref b, .ref b2] σ (fun v τ => v = none ∧ τ = (wr (wr (wr (wr (wr (wr σ b 0 (.int (iz an))) b 1 (.int (iz lv))) b 2 (.int (iz ba))) b 3 (.int (iz sg))) b 4 (.int (iz se))) b 5 (.int (iz mv)))) noX := by
  refine x_head (own := RX8) (cc := cX8_like) (maxL := 2) (ret := none) (by decide) rfl rfl (Nat.le_of_ble_eq_true rfl) ?_
  intro p e s m args below meth c H ls hF hname htab hM hl
  have hx := hF.2.2.1
  have hb := hF.2.2.2.1
  have hL : Lc E [] := lcNil
  have hl : lh ls 2 ([(0, .ref b), (1, .ref b2)]) := hl
  refine lv_aload_n hx hb dX8_like_0 rfl (lk hl rfl) ?_
  refine lv_aload_n hx hb dX8_like_1 rfl (lk hl rfl) ?_
  refine x_getfield hF (ci := 7) in_X8 rfl 0 (by decide) q367 (fun _ h => h) hM hO2 h0 dX8_like_2 ?_
  refine x_putfield hF (ci := 7) in_X8 rfl tyX8_ok nmX8 0 (by decide) q367 (fun _ h => h) rfl hM hL hO (ty := .int) (by decide +kernel) rfl rfl dX8_like_5 (fun H locs hM hL => ?_)
  refine lv_aload_n hx hb dX8_like_8 rfl (lk hl rfl) ?_
  refine lv_aload_n hx hb dX8_like_9 rfl (lk hl rfl) ?_
  refine x_getfield hF (ci := 7) in_X8 rfl 1 (by decide) q370 (fun _ h => h) hM (obW hO2) (show rd _ _ _ = .int (iz lv) from by rw [rd_wr, if_neg (fun q => by omega)]; exact h1) dX8_like_10 ?_
  refine x_putfield hF (ci := 7) in_X8 rfl tyX8_ok nmX8 1 (by decide) q370 (fun _ h => h) rfl hM hL (obW hO) (ty := .int) (by decide +kernel) rfl rfl dX8_like_13 (fun H locs hM hL => ?_)
  refine lv_aload_n hx hb dX8_like_16 rfl (lk hl rfl) ?_
  refine lv_aload_n hx hb dX8_like_17 rfl (lk hl rfl) ?_
  refine x_getfield hF (ci := 7) in_X8 rfl 2 (by decide) q373 (fun _ h => h) hM (obW (obW hO2)) (show rd _ _ _ = .int (iz ba) from by rw [rd_wr, if_neg (fun q => by omega), rd_wr, if_neg (fun q => by omega)]; exact h2) dX8_like_18 ?_
  refine x_putfield hF (ci := 7) in_X8 rfl tyX8_ok nmX8 2 (by decide) q373 (fun _ h => h) rfl hM hL (obW (obW hO)) (ty := .int) (by decide +kernel) rfl rfl dX8_like_21 (fun H locs hM hL => ?_)
  refine lv_aload_n hx hb dX8_like_24 rfl (lk hl rfl) ?_
  refine lv_aload_n hx hb dX8_like_25 rfl (lk hl rfl) ?_
  refine x_getfield hF (ci := 7) in_X8 rfl 3 (by decide) q376 (fun _ h => h) hM (obW (obW (obW hO2))) (show rd _ _ _ = .int (iz sg) from by rw [rd_wr, if_neg (fun q => by omega), rd_wr, if_neg (fun q => by omega), rd_wr, if_neg (fun q => by omega)]; exact h3) dX8_like_26 ?_
  refine x_putfield hF (ci := 7) in_X8 rfl tyX8_ok nmX8 3 (by decide) q376 (fun _ h => h) rfl hM hL (obW (obW (obW hO))) (ty := .int) (by decide +kernel) rfl rfl dX8_like_29 (fun H locs hM hL => ?_)
  refine lv_aload_n hx hb dX8_like_32 rfl (lk hl rfl) ?_
  refine lv_aload_n hx hb dX8_like_33 rfl (lk hl rfl) ?_
  refine x_getfield hF (ci := 7) in_X8 rfl 4 (by decide) q379 (fun _ h => h) hM (obW (obW (obW (obW hO2)))) (show rd _ _ _ = .int (iz se) from by rw [rd_wr, if_neg (fun q => by omega), rd_wr, if_neg (fun q => by omega), rd_wr, if_neg (fun q => by omega), rd_wr, if_neg (fun q => by omega)]; exact h4) dX8_like_34 ?_
  refine x_putfield hF (ci := 7) in_X8 rfl tyX8_ok nmX8 4 (by decide) q379 (fun _ h => h) rfl hM hL (obW (obW (obW (obW hO)))) (ty := .boolean) (by decide +kernel) (nar_z hop) (fit_z hop) dX8_like_37 (fun H locs hM hL => ?_)
  refine lv_aload_n hx hb dX8_like_40 rfl (lk hl rfl) ?_
  refine lv_aload_n hx hb dX8_like_41 rfl (lk hl rfl) ?_
  refine x_getfield hF (ci := 7) in_X8 rfl 5 (by decide) q382 (fun _ h => h) hM (obW (obW (obW (obW (obW hO2))))) (show rd _ _ _ = .int (iz mv) from by rw [rd_wr, if_neg (fun q => by omega), rd_wr, if_neg (fun q => by omega), rd_wr, if_neg (fun q => by omega), rd_wr, if_neg (fun q => by omega), rd_wr, if_neg (fun q => by omega)]; exact h5) dX8_like_42 ?_
  refine x_putfield hF (ci := 7) in_X8 rfl tyX8_ok nmX8 5 (by decide) q382 (fun _ h => h) rfl hM hL (obW (obW (obW (obW (obW hO))))) (ty := .int) (by decide +kernel) rfl rfl dX8_like_45 (fun H locs hM hL => ?_)
  exact x_return hF hM hL (Nat.le_of_ble_eq_true rfl) (Nat.le_of_ble_eq_true rfl) ⟨rfl, rfl⟩ dX8_like_48
set_option maxHeartbeats 4000000 in
set_option maxRecDepth 100000 in
/-- BakeryRing$Customer.comes(II)V -/
theorem mX8_comes {l : Launch} {E : En} {σ : Mm} {b : Nat} {an lv : Int} (hO : Ob E σ b 7) : Ctr l E yX8_comes (ws_ yX8_comes cX8_comes 3 none) 0 0 0 0 [.ref b, .int (iz an), .int (iz lv)] σ (fun v τ => v = none ∧ τ = (wr (wr (wr (wr (wr (wr σ b 0 (.int (iz an))) b 1 (.int (iz lv))) b 2 (.int (iz (-1)))) b 3 (.int (iz (-1)))) b 4 (.int (iz 0))) b 5 (.int (iz 0)))) noX := by
  refine x_head (own := RX8) (cc := cX8_comes) (maxL := 3) (ret := none) (by decide) rfl rfl (Nat.le_of_ble_eq_true rfl) ?_
  intro p e s m args below meth c H ls hF hname htab hM hl
  have hx := hF.2.2.1
  have hb := hF.2.2.2.1
  have hL : Lc E [] := lcNil
  have hl : lh ls 3 ([(0, .ref b), (1, .int (iz an)), (2, .int (iz lv))]) := hl
  refine lv_aload_n hx hb dX8_comes_0 rfl (lk hl rfl) ?_
  refine lv_iload_n hx hb dX8_comes_1 rfl (lk hl rfl) ?_
  refine x_putfield hF (ci := 7) in_X8 rfl tyX8_ok nmX8 0 (by decide) q367 (fun _ h => h) rfl hM hL hO (ty := .int) (by decide +kernel) rfl rfl dX8_comes_2 (fun H locs hM hL => ?_)
  refine lv_aload_n hx hb dX8_comes_5 rfl (lk hl rfl) ?_
  refine lv_iload_n hx hb dX8_comes_6 rfl (lk hl rfl) ?_
  refine x_putfield hF (ci := 7) in_X8 rfl tyX8_ok nmX8 1 (by decide) q370 (fun _ h => h) rfl hM hL (obW hO) (ty := .int) (by decide +kernel) rfl rfl dX8_comes_7 (fun H locs hM hL => ?_)
  refine lv_aload_n hx hb dX8_comes_10 rfl (lk hl rfl) ?_
  refine x_iconst hF dX8_comes_11 ?_
  refine x_putfield hF (ci := 7) in_X8 rfl tyX8_ok nmX8 2 (by decide) q373 (fun _ h => h) rfl hM hL (obW (obW hO)) (ty := .int) (by decide +kernel) rfl rfl dX8_comes_12 (fun H locs hM hL => ?_)
  refine lv_aload_n hx hb dX8_comes_15 rfl (lk hl rfl) ?_
  refine x_iconst hF dX8_comes_16 ?_
  refine x_putfield hF (ci := 7) in_X8 rfl tyX8_ok nmX8 3 (by decide) q376 (fun _ h => h) rfl hM hL (obW (obW (obW hO))) (ty := .int) (by decide +kernel) rfl rfl dX8_comes_17 (fun H locs hM hL => ?_)
  refine lv_aload_n hx hb dX8_comes_20 rfl (lk hl rfl) ?_
  refine x_iconst hF dX8_comes_21 ?_
  refine x_putfield hF (ci := 7) in_X8 rfl tyX8_ok nmX8 4 (by decide) q379 (fun _ h => h) rfl hM hL (obW (obW (obW (obW hO)))) (ty := .boolean) (by decide +kernel) rfl rfl dX8_comes_22 (fun H locs hM hL => ?_)
  refine lv_aload_n hx hb dX8_comes_25 rfl (lk hl rfl) ?_
  refine x_iconst hF dX8_comes_26 ?_
  refine x_putfield hF (ci := 7) in_X8 rfl tyX8_ok nmX8 5 (by decide) q382 (fun _ h => h) rfl hM hL (obW (obW (obW (obW (obW hO))))) (ty := .int) (by decide +kernel) rfl rfl dX8_comes_27 (fun H locs hM hL => ?_)
  exact x_return hF hM hL (Nat.le_of_ble_eq_true rfl) (Nat.le_of_ble_eq_true rfl) ⟨rfl, rfl⟩ dX8_comes_30
