set_option maxHeartbeats 4000000 in
set_option maxRecDepth 100000 in
/-- BakeryRingModel.signs(II)I -/
theorem mX9_signs {l : Launch} {E : En} {σ0 : Mm} {o : Nat} {F : Nat → Int → Int} {w : Int → Int} (hw : F 5 = w) (hk : Wk w) {z a : Int} (hz0 : 0 ≤ z) (hz1 : z < w 0) (ha0 : 0 ≤ a) (ha1 : a < 360) (hn : w 28 ≤ 24) (h3 : -1000000 ≤ w 3 ∧ w 3 ≤ 1000000) (hP : MA E σ0 o F) : Ctr l E yX9_signs (ws_ yX9_signs cX9_signs 3 (some .int)) 4 94 0 0 [.ref o, .int (iz z), .int (iz a)] σ0 (fun v τ => v = some (.int (iz (wSignsOf (wAllW (-1) (wPut w z a)) z))) ∧ ME E σ0 o τ F (wAllW (-1) (wPut w z a))) noX := by
  refine x_head (own := RX9) (cc := cX9_signs) (maxL := 3) (ret := (some .int)) (by decide) rfl rfl (Nat.le_of_ble_eq_true rfl) ?_
  intro p e s m args below meth c H ls hF hname htab hM hl
  have hx := hF.2.2.1
  have hb := hF.2.2.2.1
  have hL : Lc E [] := lcNil
  have hl : lh ls 3 ([(0, .ref o), (1, .int (iz z)), (2, .int (iz a))]) := hl
  refine MS_gen hM (MS_0 hP) (fun σ hM hP => ?_)
  have hk2 := hk.2.1
  refine lv_aload_n hx hb dX9_signs_0 rfl (lk hl rfl) ?_
  refine lv_iload_n hx hb dX9_signs_1 rfl (lk hl rfl) ?_
  refine lv_iload_n hx hb dX9_signs_2 rfl (lk hl rfl) ?_
  refine x_kn hL (vx_runV (As := [_, _]) hF.2.2.2.2.2.2.2.2.2 ((mX9_putsUp (by unfold inR; omega) (hw ▸ hk.1) (by rw [hw]; omega) (by rw [hw]; omega) hP.1) hF.1) (cwV 2 hF.2.2.2.2.2.2.2.2.1 (lw_V q2408 q2410 qs62 q138 q2411) rfl rfl rfl (by decide +kernel) ⟨(Nat.le_of_ble_eq_true rfl), (Nat.le_of_ble_eq_true rfl)⟩) (x_preV hF hM (MA_ob hP.1) rfl) rfl rfl hl.1 rfl (lv_room (Nat.le_of_ble_eq_true rfl)) dX9_signs_3 ⟨(Nat.le_of_ble_eq_true rfl), (Nat.le_of_ble_eq_true rfl)⟩) ?_
  rintro _ τ3 H locs ⟨rfl, hp⟩ hM hL
  refine MS_gen hM (MS_t hP hp) (fun σ hM hP => ?_)
  have hkp := Wk_put hk hz0 hz1 ha0 ha1 hn
  have hka := wAll_k hkp.1 (-1) (by rw [hkp.2.1 3 (by omega)]; exact h3)
  refine lv_aload_n hx hb dX9_signs_6 rfl (lk hl rfl) ?_
  refine x_iconst hF dX9_signs_7 ?_
  refine x_kn hL (vx_runV (As := [_]) hF.2.2.2.2.2.2.2.2.2 ((mX9_allGo (w0 := (wPut w z a)) (by unfold inR; omega) (by rw [stF_s, hw]) hkp.1 hP.1) hF.1) (cwV 1 hF.2.2.2.2.2.2.2.2.1 (lw_V q2412 q2414 qs63 q138 q2415) rfl rfl rfl (by decide +kernel) ⟨(Nat.le_of_ble_eq_true rfl), (Nat.le_of_ble_eq_true rfl)⟩) (x_preV hF hM (MA_ob hP.1) rfl) rfl rfl hl.1 rfl (lv_room (Nat.le_of_ble_eq_true rfl)) dX9_signs_8 ⟨(Nat.le_of_ble_eq_true rfl), (Nat.le_of_ble_eq_true rfl)⟩) ?_
  rintro _ τ8 H locs ⟨rfl, hp⟩ hM hL
  obtain ⟨F1, hP, e5, eo⟩ := ME_t hP hp
  refine MS_gen hM hP (fun σ hM hP => ?_)
  refine lv_pop hx hb dX9_signs_11 rfl ?_
  refine lv_aload_n hx hb dX9_signs_12 rfl (lk hl rfl) ?_
  refine lv_iload_n hx hb dX9_signs_13 rfl (lk hl rfl) ?_
  refine x_kp hL (vx_runV (As := [_]) hF.2.2.2.2.2.2.2.2.2 ((mX9_signsOf (w := wAllW (-1) (wPut w z a)) e5 (by unfold inR; omega) hka.1.1 hka.1.2.1.2.2.2.2.1 hka.1.2.1.2.2.2.2.2 hP.1) hF.1) (cwV 1 hF.2.2.2.2.2.2.2.2.1 (lw_V q2400 q2402 qs60 q138 q2403) rfl rfl rfl (by decide +kernel) ⟨(Nat.le_of_ble_eq_true rfl), (Nat.le_of_ble_eq_true rfl)⟩) (x_preV hF hM (MA_ob hP.1) rfl) rfl rfl hl.1 rfl (lv_room (Nat.le_of_ble_eq_true rfl)) dX9_signs_14 ⟨(Nat.le_of_ble_eq_true rfl), (Nat.le_of_ble_eq_true rfl)⟩) (fun H locs hM hL => ?_)
  exact x_ireturn hF hM hL rfl (Nat.le_of_ble_eq_true rfl) (Nat.le_of_ble_eq_true rfl) ⟨rfl, _, hP, e5, fun f a b c => (eo f a b c).trans (stF_o _ _ a)⟩ dX9_signs_17
set_option maxHeartbeats 4000000 in
set_option maxRecDepth 100000 in
/-- BakeryRingModel.downs(I)I -/
theorem mX9_downs {l : Launch} {E : En} {σ0 : Mm} {o : Nat} {F : Nat → Int → Int} {w : Int → Int} (hw : F 5 = w) (hk : Wk w) {a : Int} (ha : inR a) (hs : 0 ≤ wSignOn w a) (h3 : -1000000 ≤ w 3 ∧ w 3 ≤ 1000000) (hP : MA E σ0 o F) : Ctr l E yX9_downs (ws_ yX9_downs cX9_downs 2 (some .int)) 4 94 0 0 [.ref o, .int (iz a)] σ0 (fun v τ => v = some (.int (iz (wAllN (-1) (wTake w (wSignOn w a))))) ∧ ME E σ0 o τ F (wAllW (-1) (wTake w (wSignOn w a)))) noX := by
  refine x_head (own := RX9) (cc := cX9_downs) (maxL := 2) (ret := (some .int)) (by decide) rfl rfl (Nat.le_of_ble_eq_true rfl) ?_
  intro p e s m args below meth c H ls hF hname htab hM hl
  have hx := hF.2.2.1
  have hb := hF.2.2.2.1
  have hL : Lc E [] := lcNil
  have hl : lh ls 2 ([(0, .ref o), (1, .int (iz a))]) := hl
  refine MS_gen hM (MS_0 hP) (fun σ hM hP => ?_)
  have hk2 := hk.2.1
  have hso := wSignOn_r w (by omega) a
  have hkp := Wk_take hk hs (by omega)
  refine lv_aload_n hx hb dX9_downs_0 rfl (lk hl rfl) ?_
  refine lv_aload_n hx hb dX9_downs_1 rfl (lk hl rfl) ?_
  refine lv_iload_n hx hb dX9_downs_2 rfl (lk hl rfl) ?_
  refine x_kp hL (vx_runV (As := [_]) hF.2.2.2.2.2.2.2.2.2 ((mX9_signOn (w := w) hw ha hk.1 (by omega) (by omega) hP.1) hF.1) (cwV 1 hF.2.2.2.2.2.2.2.2.1 (lw_V q2388 q2390 qs57 q138 q2391) rfl rfl rfl (by decide +kernel) ⟨(Nat.le_of_ble_eq_true rfl), (Nat.le_of_ble_eq_true rfl)⟩) (x_preV hF hM (MA_ob hP.1) rfl) rfl rfl hl.1 rfl (lv_room (Nat.le_of_ble_eq_true rfl)) dX9_downs_3 ⟨(Nat.le_of_ble_eq_true rfl), (Nat.le_of_ble_eq_true rfl)⟩) (fun H locs hM hL => ?_)
  refine x_kn hL (vx_runV (As := [_]) hF.2.2.2.2.2.2.2.2.2 ((mX9_takesDown (hw ▸ hk.1) hs (by rw [hw]; omega) (by rw [hw]; omega) hP.1) hF.1) (cwV 1 hF.2.2.2.2.2.2.2.2.1 (lw_V q2460 q2462 qs74 q138 q2463) rfl rfl rfl (by decide +kernel) ⟨(Nat.le_of_ble_eq_true rfl), (Nat.le_of_ble_eq_true rfl)⟩) (x_preV hF hM (MA_ob hP.1) rfl) rfl rfl hl.1 rfl (lv_room (Nat.le_of_ble_eq_true rfl)) dX9_downs_6 ⟨(Nat.le_of_ble_eq_true rfl), (Nat.le_of_ble_eq_true rfl)⟩) ?_
  rintro _ τ6 H locs ⟨rfl, hp⟩ hM hL
  refine MS_gen hM (MS_t hP hp) (fun σ hM hP => ?_)
  refine lv_aload_n hx hb dX9_downs_9 rfl (lk hl rfl) ?_
  refine x_iconst hF dX9_downs_10 ?_
  refine x_kn hL (vx_runV (As := [_]) hF.2.2.2.2.2.2.2.2.2 ((mX9_allGo (w0 := (wTake w (wSignOn w a))) (by unfold inR; omega) (by rw [stF_s, hw]) hkp.1 hP.1) hF.1) (cwV 1 hF.2.2.2.2.2.2.2.2.1 (lw_V q2412 q2414 qs63 q138 q2415) rfl rfl rfl (by decide +kernel) ⟨(Nat.le_of_ble_eq_true rfl), (Nat.le_of_ble_eq_true rfl)⟩) (x_preV hF hM (MA_ob hP.1) rfl) rfl rfl hl.1 rfl (lv_room (Nat.le_of_ble_eq_true rfl)) dX9_downs_11 ⟨(Nat.le_of_ble_eq_true rfl), (Nat.le_of_ble_eq_true rfl)⟩) ?_
  rintro _ τ11 H locs ⟨rfl, hp⟩ hM hL
  obtain ⟨F1, hP, e5, eo⟩ := ME_t hP hp
  refine MS_gen hM hP (fun σ hM hP => ?_)
  exact x_ireturn hF hM hL rfl (Nat.le_of_ble_eq_true rfl) (Nat.le_of_ble_eq_true rfl) ⟨rfl, _, hP, e5, fun f a b c => (eo f a b c).trans (stF_o _ _ a)⟩ dX9_downs_14
set_option maxHeartbeats 4000000 in
set_option maxRecDepth 100000 in
/-- BakeryRingModel.shuts(II)I -/
theorem mX9_shuts {l : Launch} {E : En} {σ0 : Mm} {o : Nat} {F : Nat → Int → Int} {w : Int → Int} (hw : F 5 = w) (hk : Wk w) {z a : Int} (hz0 : 0 ≤ z) (hz1 : z < 6) (ha0 : 0 ≤ a) (ha1 : a ≤ 1) (h3 : -1000000 ≤ w 3 ∧ w 3 ≤ 1000000) (hP : MA E σ0 o F) : Ctr l E yX9_shuts (ws_ yX9_shuts cX9_shuts 3 (some .int)) 4 94 0 0 [.ref o, .int (iz z), .int (iz a)] σ0 (fun v τ => v = some (.int (iz (wAllN (-1) (wUp w (4 + 4 * z + 2) a)))) ∧ ME E σ0 o τ F (wAllW (-1) (wUp w (4 + 4 * z + 2) a))) noX := by
  refine x_head (own := RX9) (cc := cX9_shuts) (maxL := 3) (ret := (some .int)) (by decide) rfl rfl (Nat.le_of_ble_eq_true rfl) ?_
  intro p e s m args below meth c H ls hF hname htab hM hl
  have hx := hF.2.2.1
  have hb := hF.2.2.2.1
  have hL : Lc E [] := lcNil
  have hl : lh ls 3 ([(0, .ref o), (1, .int (iz z)), (2, .int (iz a))]) := hl
  refine MS_gen hM (MS_0 hP) (fun σ hM hP => ?_)
  have hk2 := hk.2.1
  refine lv_aload_n hx hb dX9_shuts_0 rfl (lk hl rfl) ?_
  refine lv_iload_n hx hb dX9_shuts_1 rfl (lk hl rfl) ?_
  refine x_iconst hF dX9_shuts_2 ?_
  refine lv_iload_n hx hb dX9_shuts_3 rfl (lk hl rfl) ?_
  refine x_kn hL (vx_runV (As := [_, _, _]) hF.2.2.2.2.2.2.2.2.2 ((mX9_setsBakery (by omega) (by omega) hP.1) hF.1) (cwV 3 hF.2.2.2.2.2.2.2.2.1 (lw_V q2365 q2367 qs53 q138 q2368) rfl rfl rfl (by decide +kernel) ⟨(Nat.le_of_ble_eq_true rfl), (Nat.le_of_ble_eq_true rfl)⟩) (x_preV hF hM (MA_ob hP.1) rfl) rfl rfl hl.1 rfl (lv_room (Nat.le_of_ble_eq_true rfl)) dX9_shuts_4 ⟨(Nat.le_of_ble_eq_true rfl), (Nat.le_of_ble_eq_true rfl)⟩) ?_
  rintro _ τ4 H locs ⟨rfl, hp⟩ hM hL
  refine MS_gen hM (MS_t hP hp) (fun σ hM hP => ?_)
  refine lv_aload_n hx hb dX9_shuts_7 rfl (lk hl rfl) ?_
  refine x_iconst hF dX9_shuts_8 ?_
  refine x_kn hL (vx_runV (As := [_]) hF.2.2.2.2.2.2.2.2.2 ((mX9_allGo (w0 := (wUp w (4 + 4 * z + 2) a)) (by unfold inR; omega) (by rw [up2_as, stF_s, hw]) (Wk_bk hk hz0 hz1 ⟨by omega, by omega⟩ (by omega) (by omega) (by omega)) hP.1) hF.1) (cwV 1 hF.2.2.2.2.2.2.2.2.1 (lw_V q2412 q2414 qs63 q138 q2415) rfl rfl rfl (by decide +kernel) ⟨(Nat.le_of_ble_eq_true rfl), (Nat.le_of_ble_eq_true rfl)⟩) (x_preV hF hM (MA_ob hP.1) rfl) rfl rfl hl.1 rfl (lv_room (Nat.le_of_ble_eq_true rfl)) dX9_shuts_9 ⟨(Nat.le_of_ble_eq_true rfl), (Nat.le_of_ble_eq_true rfl)⟩) ?_
  rintro _ τ9 H locs ⟨rfl, hp⟩ hM hL
  obtain ⟨F1, hP, e5, eo⟩ := ME_t hP hp
  refine MS_gen hM hP (fun σ hM hP => ?_)
  exact x_ireturn hF hM hL rfl (Nat.le_of_ble_eq_true rfl) (Nat.le_of_ble_eq_true rfl) ⟨rfl, _, hP, e5, fun f a b c => (eo f a b c).trans (up2_oth _ _ _ a)⟩ dX9_shuts_12
set_option maxHeartbeats 4000000 in
set_option maxRecDepth 100000 in
/-- BakeryRingModel.ovens(II)I -/
theorem mX9_ovens {l : Launch} {E : En} {σ0 : Mm} {o : Nat} {F : Nat → Int → Int} {w : Int → Int} (hw : F 5 = w) (hk : Wk w) {z a : Int} (hz0 : 0 ≤ z) (hz1 : z < 6) (ha0 : 1 ≤ a) (ha1 : a ≤ 40) (h3 : -1000000 ≤ w 3 ∧ w 3 ≤ 1000000) (hP : MA E σ0 o F) : Ctr l E yX9_ovens (ws_ yX9_ovens cX9_ovens 3 (some .int)) 4 94 0 0 [.ref o, .int (iz z), .int (iz a)] σ0 (fun v τ => v = some (.int (iz (wAllN (-1) (wUp w (4 + 4 * z + 1) a)))) ∧ ME E σ0 o τ F (wAllW (-1) (wUp w (4 + 4 * z + 1) a))) noX := by
  refine x_head (own := RX9) (cc := cX9_ovens) (maxL := 3) (ret := (some .int)) (by decide) rfl rfl (Nat.le_of_ble_eq_true rfl) ?_
  intro p e s m args below meth c H ls hF hname htab hM hl
  have hx := hF.2.2.1
  have hb := hF.2.2.2.1
  have hL : Lc E [] := lcNil
  have hl : lh ls 3 ([(0, .ref o), (1, .int (iz z)), (2, .int (iz a))]) := hl
  refine MS_gen hM (MS_0 hP) (fun σ hM hP => ?_)
  have hk2 := hk.2.1
  refine lv_aload_n hx hb dX9_ovens_0 rfl (lk hl rfl) ?_
  refine lv_iload_n hx hb dX9_ovens_1 rfl (lk hl rfl) ?_
  refine x_iconst hF dX9_ovens_2 ?_
  refine lv_iload_n hx hb dX9_ovens_3 rfl (lk hl rfl) ?_
  refine x_kn hL (vx_runV (As := [_, _, _]) hF.2.2.2.2.2.2.2.2.2 ((mX9_setsBakery (by omega) (by omega) hP.1) hF.1) (cwV 3 hF.2.2.2.2.2.2.2.2.1 (lw_V q2365 q2367 qs53 q138 q2368) rfl rfl rfl (by decide +kernel) ⟨(Nat.le_of_ble_eq_true rfl), (Nat.le_of_ble_eq_true rfl)⟩) (x_preV hF hM (MA_ob hP.1) rfl) rfl rfl hl.1 rfl (lv_room (Nat.le_of_ble_eq_true rfl)) dX9_ovens_4 ⟨(Nat.le_of_ble_eq_true rfl), (Nat.le_of_ble_eq_true rfl)⟩) ?_
  rintro _ τ4 H locs ⟨rfl, hp⟩ hM hL
  refine MS_gen hM (MS_t hP hp) (fun σ hM hP => ?_)
  refine lv_aload_n hx hb dX9_ovens_7 rfl (lk hl rfl) ?_
  refine x_iconst hF dX9_ovens_8 ?_
  refine x_kn hL (vx_runV (As := [_]) hF.2.2.2.2.2.2.2.2.2 ((mX9_allGo (w0 := (wUp w (4 + 4 * z + 1) a)) (by unfold inR; omega) (by rw [up2_as, stF_s, hw]) (Wk_bk hk hz0 hz1 ⟨by omega, by omega⟩ (by omega) (by omega) (by omega)) hP.1) hF.1) (cwV 1 hF.2.2.2.2.2.2.2.2.1 (lw_V q2412 q2414 qs63 q138 q2415) rfl rfl rfl (by decide +kernel) ⟨(Nat.le_of_ble_eq_true rfl), (Nat.le_of_ble_eq_true rfl)⟩) (x_preV hF hM (MA_ob hP.1) rfl) rfl rfl hl.1 rfl (lv_room (Nat.le_of_ble_eq_true rfl)) dX9_ovens_9 ⟨(Nat.le_of_ble_eq_true rfl), (Nat.le_of_ble_eq_true rfl)⟩) ?_
  rintro _ τ9 H locs ⟨rfl, hp⟩ hM hL
  obtain ⟨F1, hP, e5, eo⟩ := ME_t hP hp
  refine MS_gen hM hP (fun σ hM hP => ?_)
  exact x_ireturn hF hM hL rfl (Nat.le_of_ble_eq_true rfl) (Nat.le_of_ble_eq_true rfl) ⟨rfl, _, hP, e5, fun f a b c => (eo f a b c).trans (up2_oth _ _ _ a)⟩ dX9_ovens_12
set_option maxHeartbeats 4000000 in
set_option maxRecDepth 100000 in
/-- BakeryRingModel.comes(II)I -/
theorem mX9_comes {l : Launch} {E : En} {σ0 : Mm} {o : Nat} {F : Nat → Int → Int} {w : Int → Int} (hw : F 5 = w) (hk : Wk w) {z a : Int} (hz0 : 0 ≤ z) (hz1 : z < 360) (ha0 : 1 ≤ a) (ha1 : a ≤ 9) (hn : w 1 < 20) (h3 : -1000000 ≤ w 3 ∧ w 3 ≤ 1000000) (hP : MA E σ0 o F) : Ctr l E yX9_comes (ws_ yX9_comes cX9_comes 4 (some .int)) 4 94 0 0 [.ref o, .int (iz z), .int (iz a)] σ0 (fun v τ => v = some (.int (iz (w 1))) ∧ ME E σ0 o τ F (wAllW (w 1) (wCome w z a))) noX := by
  refine x_head (own := RX9) (cc := cX9_comes) (maxL := 4) (ret := (some .int)) (by decide) rfl rfl (Nat.le_of_ble_eq_true rfl) ?_
  intro p e s m args below meth c H ls hF hname htab hM hl
  have hx := hF.2.2.1
  have hb := hF.2.2.2.1
  have hL : Lc E [] := lcNil
  have hl : lh ls 4 ([(0, .ref o), (1, .int (iz z)), (2, .int (iz a))]) := hl
  refine MS_gen hM (MS_0 hP) (fun σ hM hP => ?_)
  have hk2 := hk.2.1
  refine lv_aload_n hx hb dX9_comes_0 rfl (lk hl rfl) ?_
  refine x_getfield hF (ci := 10) in_X9 rfl 5 (by decide) q2256 (fun _ h => h) hM (MA_ob hP.1) (MA_f5 hP.1) dX9_comes_1 ?_
  refine x_iconst hF dX9_comes_4 ?_
  refine x_iald hF hM (MA_a5 hP.1) (by omega) (by omega) (by decide) (show rd _ _ _ = .int (iz (w _)) from by have h9 := MA_r5 hP.1; rw [hw] at h9; exact h9 _ (by omega) (by omega)) dX9_comes_5 ?_
  refine x_istore_n hF dX9_comes_6 rfl hl (by decide) rfl (fun ls hl => ?_)
  refine lv_aload_n hx hb dX9_comes_7 rfl (lk hl rfl) ?_
  refine x_getfield hF (ci := 10) in_X9 rfl 5 (by decide) q2256 (fun _ h => h) hM (MA_ob hP.1) (MA_f5 hP.1) dX9_comes_8 ?_
  refine x_iconst hF dX9_comes_11 ?_
  refine lv_dup2_11 hx hb dX9_comes_12 rfl rfl ?_
  refine x_iald hF hM (MA_a5 hP.1) (by omega) (by omega) (by decide) (show rd _ _ _ = .int (iz (w _)) from by have h9 := MA_r5 hP.1; rw [hw] at h9; exact h9 _ (by omega) (by omega)) dX9_comes_13 ?_
  refine x_iconst hF dX9_comes_14 ?_
  refine x_iadd hF dX9_comes_15 ?_
  refine x_iast hF hM hL (MA_a5 hP.1) (by omega) (by omega) (by decide) dX9_comes_16 (fun H locs hM hL => ?_)
  refine MS_gen hM (MS_q5 hM hP (by omega)) (fun σ hM hP => ?_)
  refine lv_aload_n hx hb dX9_comes_17 rfl (lk hl rfl) ?_
  refine lv_iload_n hx hb dX9_comes_18 rfl (lk hl rfl) ?_
  refine x_iconst hF dX9_comes_19 ?_
  refine lv_iload_n hx hb dX9_comes_20 rfl (lk hl rfl) ?_
  refine x_kn hL (vx_runV (As := [_, _, _]) hF.2.2.2.2.2.2.2.2.2 ((mX9_sets (by omega) (by omega) hP.1) hF.1) (cwV 3 hF.2.2.2.2.2.2.2.2.1 (lw_V q2444 q2446 qs71 q138 q2447) rfl rfl rfl (by decide +kernel) ⟨(Nat.le_of_ble_eq_true rfl), (Nat.le_of_ble_eq_true rfl)⟩) (x_preV hF hM (MA_ob hP.1) rfl) rfl rfl hl.1 rfl (lv_room (Nat.le_of_ble_eq_true rfl)) dX9_comes_21 ⟨(Nat.le_of_ble_eq_true rfl), (Nat.le_of_ble_eq_true rfl)⟩) ?_
  rintro _ τ21 H locs ⟨rfl, hp⟩ hM hL
  refine MS_gen hM (MS_t hP hp) (fun σ hM hP => ?_)
  refine lv_aload_n hx hb dX9_comes_24 rfl (lk hl rfl) ?_
  refine lv_iload_n hx hb dX9_comes_25 rfl (lk hl rfl) ?_
  refine x_iconst hF dX9_comes_26 ?_
  refine lv_iload_n hx hb dX9_comes_27 rfl (lk hl rfl) ?_
  refine x_kn hL (vx_runV (As := [_, _, _]) hF.2.2.2.2.2.2.2.2.2 ((mX9_sets (by omega) (by omega) hP.1) hF.1) (cwV 3 hF.2.2.2.2.2.2.2.2.1 (lw_V q2444 q2446 qs71 q138 q2447) rfl rfl rfl (by decide +kernel) ⟨(Nat.le_of_ble_eq_true rfl), (Nat.le_of_ble_eq_true rfl)⟩) (x_preV hF hM (MA_ob hP.1) rfl) rfl rfl hl.1 rfl (lv_room (Nat.le_of_ble_eq_true rfl)) dX9_comes_28 ⟨(Nat.le_of_ble_eq_true rfl), (Nat.le_of_ble_eq_true rfl)⟩) ?_
  rintro _ τ28 H locs ⟨rfl, hp⟩ hM hL
  refine MS_gen hM (MS_t hP hp) (fun σ hM hP => ?_)
  refine lv_aload_n hx hb dX9_comes_31 rfl (lk hl rfl) ?_
  refine lv_iload_n hx hb dX9_comes_32 rfl (lk hl rfl) ?_
  refine x_kn hL (vx_runV (As := [_]) hF.2.2.2.2.2.2.2.2.2 ((mX9_allGo (w0 := (wCome w z a)) (by unfold inR; omega) (by rw [up2_as, stF_s, up2_as, stF_s, up2_as, stF_s, hw]; rfl) (Wk_come hk hz0 hz1 ha0 ha1 hn).1 hP.1) hF.1) (cwV 1 hF.2.2.2.2.2.2.2.2.1 (lw_V q2412 q2414 qs63 q138 q2415) rfl rfl rfl (by decide +kernel) ⟨(Nat.le_of_ble_eq_true rfl), (Nat.le_of_ble_eq_true rfl)⟩) (x_preV hF hM (MA_ob hP.1) rfl) rfl rfl hl.1 rfl (lv_room (Nat.le_of_ble_eq_true rfl)) dX9_comes_33 ⟨(Nat.le_of_ble_eq_true rfl), (Nat.le_of_ble_eq_true rfl)⟩) ?_
  rintro _ τ33 H locs ⟨rfl, hp⟩ hM hL
  obtain ⟨F1, hP, e5, eo⟩ := ME_t hP hp
  refine MS_gen hM hP (fun σ hM hP => ?_)
  refine lv_pop hx hb dX9_comes_36 rfl ?_
  refine lv_iload_n hx hb dX9_comes_37 rfl (lk hl rfl) ?_
  exact x_ireturn hF hM hL rfl (Nat.le_of_ble_eq_true rfl) (Nat.le_of_ble_eq_true rfl) ⟨rfl, _, hP, e5, fun f a b c => (eo f a b c).trans (by rw [up2_oth _ _ _ a, up2_oth _ _ _ a, up2_oth _ _ _ a])⟩ dX9_comes_38
set_option maxHeartbeats 4000000 in
set_option maxRecDepth 100000 in
/-- BakeryRingModel.leaves(I)I -/
theorem mX9_leaves {l : Launch} {E : En} {σ0 : Mm} {o : Nat} {F : Nat → Int → Int} {w : Int → Int} (hw : F 5 = w) (hk : Wk w) {z : Int} (hz0 : 0 ≤ z) (hz1 : z < w 1) (h3 : -1000000 ≤ w 3 ∧ w 3 ≤ 1000000) (hP : MA E σ0 o F) : Ctr l E yX9_leaves (ws_ yX9_leaves cX9_leaves 3 (some .int)) 4 94 0 0 [.ref o, .int (iz z)] σ0 (fun v τ => v = some (.int (iz (wAllN (-1) (wLeave w z)))) ∧ ME E σ0 o τ F (wAllW (-1) (wLeave w z))) noX := by
  refine x_head (own := RX9) (cc := cX9_leaves) (maxL := 3) (ret := (some .int)) (by decide) rfl rfl (Nat.le_of_ble_eq_true rfl) ?_
  intro p e s m args below meth c H ls hF hname htab hM hl
  have hx := hF.2.2.1
  have hb := hF.2.2.2.1
  have hL : Lc E [] := lcNil
  have hl : lh ls 3 ([(0, .ref o), (1, .int (iz z))]) := hl
  refine MS_gen hM (MS_0 hP) (fun σ hM hP => ?_)
  have hk2 := hk.2.1
  refine lv_aload_n hx hb dX9_leaves_0 rfl (lk hl rfl) ?_
  refine x_getfield hF (ci := 10) in_X9 rfl 5 (by decide) q2256 (fun _ h => h) hM (MA_ob hP.1) (MA_f5 hP.1) dX9_leaves_1 ?_
  refine x_iconst hF dX9_leaves_4 ?_
  refine lv_dup2_11 hx hb dX9_leaves_5 rfl rfl ?_
  refine x_iald hF hM (MA_a5 hP.1) (by omega) (by omega) (by decide) (show rd _ _ _ = .int (iz (w _)) from by have h9 := MA_r5 hP.1; rw [hw] at h9; exact h9 _ (by omega) (by omega)) dX9_leaves_6 ?_
  refine x_iconst hF dX9_leaves_7 ?_
  refine x_isub hF dX9_leaves_8 ?_
  refine x_iast hF hM hL (MA_a5 hP.1) (by omega) (by omega) (by decide) dX9_leaves_9 (fun H locs hM hL => ?_)
  refine MS_gen hM (by have h9 := MS_q5 hM hP (by omega); rw [up2_as, hw, wLs_0 w z] at h9; exact h9) (fun σ hM hP => ?_)
  refine x_bipush hF (by decide) dX9_leaves_10 ?_
  refine lv_iload_n hx hb dX9_leaves_12 rfl (lk hl rfl) ?_
  refine x_imul hF dX9_leaves_13 ?_
  refine x_istore_n hF dX9_leaves_14 rfl hl (by decide) rfl (fun ls hl => ?_)
  suffices loop1 : ∀ (n : Nat) (i : Int) (σ : Mm) (H : Heap) (locs : List Loc) (ls : Array Slot), 6 * (w 1 - 1) - i < (n : Int) → (6 * z ≤ i) → (i ≤ 6 * (w 1 - 1)) → Mem E s H σ → MS E σ0 o σ (stF F 5 (wLs w z i)) → Lc E locs → lh ls 3 [(0, .ref o), (1, .int (iz z)), (2, .int (iz i))] → W p l e ({ frames := 4, cells := 0, slots := 0, locals := 94 } : Room) s m args below meth c H locs 0 0 (vx_MQ below (XQc E (fun v τ => v = some (.int (iz (wAllN (-1) (wLeave w z)))) ∧ ME E σ0 o τ F (wAllW (-1) (wLeave w z)))) (XXc E noX) args s 0 0 (XA E)) (F0 m 15 ls []) from loop1 (140) (6 * z) _ _ _ _ (by omega) (by omega) (by omega) hM hP hL (lh_sub hl rfl)
  refine nat_loop (fun i σ H locs ls hmm h0 h1 => absurd hmm (by omega)) (fun n ih1 i σ H locs ls hmm h0 h1 hM hP hL hl => ?_)
  refine lv_iload_n hx hb dX9_leaves_15 rfl (lk hl rfl) ?_
  refine x_bipush hF (by decide) dX9_leaves_16 ?_
  refine lv_aload_n hx hb dX9_leaves_18 rfl (lk hl rfl) ?_
  refine x_getfield hF (ci := 10) in_X9 rfl 5 (by decide) q2256 (fun _ h => h) hM (MA_ob hP.1) (MA_f5 hP.1) dX9_leaves_19 ?_
  refine x_iconst hF dX9_leaves_22 ?_
  refine x_iald hF hM (MA_a5 hP.1) (by omega) (by omega) (by decide) (show rd _ _ _ = .int (iz (w 1 - 1)) from by have h9 := MA_r5 hP.1 1 (by omega) (by omega); rw [stF_s, wLs_c1] at h9; exact h9) dX9_leaves_23 ?_
  refine x_imul hF dX9_leaves_24 ?_
  refine x_icmp_ge (tgt := 55) hF dX9_leaves_25 (by decide) (by first | exact Rg_in hk.1 _ | assumption | (unfold inR; omega)) (by first | exact Rg_in hk.1 _ | assumption | (unfold inR; omega)) (fun c25 => ?_) (fun c25 => ?_)
  · skip
    have e9 : i = 6 * (w 1 - 1) := by omega
    refine x_iconst hF dX9_leaves_55 ?_
    refine x_istore_n hF dX9_leaves_56 rfl hl (by decide) rfl (fun ls hl => ?_)
    suffices loop2 : ∀ (n : Nat) (k : Int) (σ : Mm) (H : Heap) (locs : List Loc) (ls : Array Slot), 6 - k < (n : Int) → (0 ≤ k) → (k ≤ 6) → Mem E s H σ → MS E σ0 o σ (stF F 5 (wLz w z k)) → Lc E locs → lh ls 3 [(0, .ref o), (1, .int (iz z)), (2, .int (iz k))] → W p l e ({ frames := 4, cells := 0, slots := 0, locals := 94 } : Room) s m args below meth c H locs 0 0 (vx_MQ below (XQc E (fun v τ => v = some (.int (iz (wAllN (-1) (wLeave w z)))) ∧ ME E σ0 o τ F (wAllW (-1) (wLeave w z)))) (XXc E noX) args s 0 0 (XA E)) (F0 m 57 ls []) from loop2 (7) 0 _ _ _ _ (by omega) (by omega) (by omega) hM (by rw [wLz_0, ← e9]; exact hP) hL (lh_sub hl rfl)
    refine nat_loop (fun k σ H locs ls hmm k0 k1 => absurd hmm (by omega)) (fun n ih2 k σ H locs ls hmm k0 k1 hM hP hL hl => ?_)
    refine lv_iload_n hx hb dX9_leaves_57 rfl (lk hl rfl) ?_
    refine x_bipush hF (by decide) dX9_leaves_58 ?_
    refine x_icmp_ge (tgt := 81) hF dX9_leaves_60 (by decide) (by first | exact Rg_in hk.1 _ | assumption | (unfold inR; omega)) (by first | exact Rg_in hk.1 _ | assumption | (unfold inR; omega)) (fun c60 => ?_) (fun c60 => ?_)
    · skip
      refine lv_aload_n hx hb dX9_leaves_81 rfl (lk hl rfl) ?_
      refine x_iconst hF dX9_leaves_82 ?_
      refine x_kn hL (vx_runV (As := [_]) hF.2.2.2.2.2.2.2.2.2 ((mX9_allGo (w0 := (wLeave w z)) (by unfold inR; omega) (by rw [stF_s, show k = 6 by omega, wLz_6 w hz0 hz1]) (Wk_leave hk hz0 hz1).1 hP.1) hF.1) (cwV 1 hF.2.2.2.2.2.2.2.2.1 (lw_V q2412 q2414 qs63 q138 q2415) rfl rfl rfl (by decide +kernel) ⟨(Nat.le_of_ble_eq_true rfl), (Nat.le_of_ble_eq_true rfl)⟩) (x_preV hF hM (MA_ob hP.1) rfl) rfl rfl hl.1 rfl (lv_room (Nat.le_of_ble_eq_true rfl)) dX9_leaves_83 ⟨(Nat.le_of_ble_eq_true rfl), (Nat.le_of_ble_eq_true rfl)⟩) ?_
      rintro _ τ83 H locs ⟨rfl, hp⟩ hM hL
      obtain ⟨F1, hP, e5, eo⟩ := ME_t hP hp
      refine MS_gen hM hP (fun σ hM hP => ?_)
      exact x_ireturn hF hM hL rfl (Nat.le_of_ble_eq_true rfl) (Nat.le_of_ble_eq_true rfl) ⟨rfl, _, hP, e5, fun f a b c => (eo f a b c).trans (stF_o _ _ a)⟩ dX9_leaves_86
    · skip
      refine lv_aload_n hx hb dX9_leaves_63 rfl (lk hl rfl) ?_
      refine lv_aload_n hx hb dX9_leaves_64 rfl (lk hl rfl) ?_
      refine x_getfield hF (ci := 10) in_X9 rfl 5 (by decide) q2256 (fun _ h => h) hM (MA_ob hP.1) (MA_f5 hP.1) dX9_leaves_65 ?_
      refine x_iconst hF dX9_leaves_68 ?_
      refine x_iald hF hM (MA_a5 hP.1) (by omega) (by omega) (by decide) (show rd _ _ _ = .int (iz (w 1 - 1)) from by have h9 := MA_r5 hP.1 1 (by omega) (by omega); rw [stF_s, wLz_c1 w (by omega)] at h9; exact h9) dX9_leaves_69 ?_
      refine lv_iload_n hx hb dX9_leaves_70 rfl (lk hl rfl) ?_
      refine x_iconst hF dX9_leaves_71 ?_
      refine x_kn hL (vx_runV (As := [_, _, _]) hF.2.2.2.2.2.2.2.2.2 ((mX9_sets (by omega) (by omega) hP.1) hF.1) (cwV 3 hF.2.2.2.2.2.2.2.2.1 (lw_V q2444 q2446 qs71 q138 q2447) rfl rfl rfl (by decide +kernel) ⟨(Nat.le_of_ble_eq_true rfl), (Nat.le_of_ble_eq_true rfl)⟩) (x_preV hF hM (MA_ob hP.1) rfl) rfl rfl hl.1 rfl (lv_room (Nat.le_of_ble_eq_true rfl)) dX9_leaves_72 ⟨(Nat.le_of_ble_eq_true rfl), (Nat.le_of_ble_eq_true rfl)⟩) ?_
      rintro _ τ72 H locs ⟨rfl, hp⟩ hM hL
      refine MS_gen hM (MS_t hP hp) (fun σ hM hP => ?_)
      refine x_iinc hF dX9_leaves_75 hl rfl (by decide) rfl (fun ls hl => ?_)
      refine x_goto (tgt := 57) hF dX9_leaves_78 (by decide) ?_
      exact ih2 (k + 1) _ _ _ _ (by omega) (by omega) (by omega) hM (by rw [up2_st, wLz_1 w k0] at hP; exact hP) hL (lh_sub hl rfl)
  · skip
    refine lv_aload_n hx hb dX9_leaves_28 rfl (lk hl rfl) ?_
    refine x_getfield hF (ci := 10) in_X9 rfl 5 (by decide) q2256 (fun _ h => h) hM (MA_ob hP.1) (MA_f5 hP.1) dX9_leaves_29 ?_
    refine x_bipush hF (by decide) dX9_leaves_32 ?_
    refine lv_iload_n hx hb dX9_leaves_34 rfl (lk hl rfl) ?_
    refine x_iadd hF dX9_leaves_35 ?_
    refine lv_aload_n hx hb dX9_leaves_36 rfl (lk hl rfl) ?_
    refine x_getfield hF (ci := 10) in_X9 rfl 5 (by decide) q2256 (fun _ h => h) hM (MA_ob hP.1) (MA_f5 hP.1) dX9_leaves_37 ?_
    refine x_bipush hF (by decide) dX9_leaves_40 ?_
    refine lv_iload_n hx hb dX9_leaves_42 rfl (lk hl rfl) ?_
    refine x_iadd hF dX9_leaves_43 ?_
    refine x_bipush hF (by decide) dX9_leaves_44 ?_
    refine x_iadd hF dX9_leaves_46 ?_
    refine x_iald hF hM (MA_a5 hP.1) (by omega) (by omega) (by decide) (show rd _ _ _ = .int (iz (w (79 + i + 6))) from by have h9 := MA_r5 hP.1 (79 + i + 6) (by omega) (by omega); rw [stF_s, wLs_hi w (by omega) (by omega)] at h9; exact h9) dX9_leaves_47 ?_
    refine x_iast hF hM hL (MA_a5 hP.1) (by omega) (by omega) (by decide) dX9_leaves_48 (fun H locs hM hL => ?_)
    refine MS_gen hM (by have h9 := MS_q5 hM hP (by omega); rw [up2_st] at h9; exact h9) (fun σ hM hP => ?_)
    refine x_iinc hF dX9_leaves_49 hl rfl (by decide) rfl (fun ls hl => ?_)
    refine x_goto (tgt := 15) hF dX9_leaves_52 (by decide) ?_
    exact ih1 (i + 1) _ _ _ _ (by omega) (by omega) (by omega) hM (by rw [wLs_1 w hz0 h0] at hP; exact hP) hL (lh_sub hl rfl)
