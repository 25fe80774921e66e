set_option maxHeartbeats 4000000 in
set_option maxRecDepth 100000 in
/-- BakeryRingModel.sign(II)I -/
theorem mX9_sign {l : Launch} {E : En} {σ0 : Mm} {o : Nat} {F : Nat → Int → Int} {z a : Int} (hz : inR z) (ha : inR a) {w : Int → Int} (hw : F 5 = w) (hk : Wk w) (h2 : 0 ≤ w 2 ∧ w 2 ≤ 1000000) (h3 : -1000000 ≤ w 3 ∧ w 3 ≤ 1000000) (h24 : w 28 ≤ 24) (h90 : 0 ≤ F 9 0) (h98 : F 9 0 ≤ 8) (ha0 : 0 ≤ F 10 0) (ha8 : F 10 0 < 8) (hP : MA E σ0 o F) : Ctr l E yX9_sign (ws_ yX9_sign cX9_sign 4 (some .int)) 5 116 0 0 [.ref o, .int (iz z), .int (iz a)] σ0 (fun v τ => ((nSign w z a).1 ≠ 0 → v = some (.int (iz 0)) ∧ MS E σ0 o τ (mThr (mNot (up2 F 0 0 0) (nSign w z a)) (nSign w z a).1)) ∧ ((nSign w z a).1 = 0 → v = some (.int (iz (wSignsOf (wAllW (-1) (wPut (wUp w 2 (w 2 + 1)) z a)) z))) ∧ ME E σ0 o τ (mBeg (up2 F 0 0 0)) (wAllW (-1) (wPut (wUp w 2 (w 2 + 1)) z a)))) noX := by
  refine x_head (own := RX9) (cc := cX9_sign) (maxL := 4) (ret := (some .int)) (by decide) rfl rfl (Nat.le_of_ble_eq_true rfl) ?_
  intro p e s m args below meth c H ls hF hname htab hM hl
  have hx := hF.2.2.1
  have hb := hF.2.2.2.1
  have hL : Lc E [] := lcNil
  have hl : lh ls 4 ([(0, .ref o), (1, .int (iz z)), (2, .int (iz a))]) := hl
  refine MS_gen hM (MS_0 hP) (fun σ hM hP => ?_)
  have hk2 := hk.2.1
  refine lv_aload_n hx hb dX9_sign_0 rfl (lk hl rfl) ?_
  refine x_iconst hF dX9_sign_1 ?_
  refine x_putfield hF (ci := 10) in_X9 rfl tyX9_ok nmX9 0 (by decide) q2251 (fun _ h => h) rfl hM hL (MA_ob hP.1) (ty := .int) (by decide +kernel) rfl rfl dX9_sign_2 (fun H locs hM hL => ?_)
  refine MS_gen hM (MS_p0 hM hP) (fun σ hM hP => ?_)
  refine lv_aload_n hx hb dX9_sign_5 rfl (lk hl rfl) ?_
  refine lv_iload_n hx hb dX9_sign_6 rfl (lk hl rfl) ?_
  refine lv_iload_n hx hb dX9_sign_7 rfl (lk hl rfl) ?_
  refine x_kn hL (vx_runV (As := [_, _]) hF.2.2.2.2.2.2.2.2.2 ((mX9_notSign hz ha (w := w) (by rw [up2_oth _ _ _ (by decide)]; exact hw) hk hP.1) hF.1) (cwV 2 hF.2.2.2.2.2.2.2.2.1 (lw_V q2373 q2375 qs54 q138 q2376) rfl rfl rfl (by decide +kernel) ⟨(Nat.le_of_ble_eq_true rfl), (Nat.le_of_ble_eq_true rfl)⟩) (x_preV hF hM (MA_ob hP.1) rfl) rfl rfl hl.1 rfl (lv_room (Nat.le_of_ble_eq_true rfl)) dX9_sign_8 ⟨(Nat.le_of_ble_eq_true rfl), (Nat.le_of_ble_eq_true rfl)⟩) ?_
  rintro _ τ8 H locs ⟨rfl, hp⟩ hM hL
  refine MS_gen hM (MS_t hP hp) (fun σ hM hP => ?_)
  have hrg := nSign_r w z a
  refine x_istore_n hF dX9_sign_11 rfl hl (by decide) rfl (fun ls hl => ?_)
  refine lv_iload_n hx hb dX9_sign_12 rfl (lk hl rfl) ?_
  refine x_if_eq (tgt := 22) hF dX9_sign_13 (by decide) (by first | assumption | (unfold inR; omega)) (fun c13 => ?_) (fun c13 => ?_)
  · skip
    have e0 : mNot (up2 F 0 0 0) (nSign w z a) = (up2 F 0 0 0) := by unfold mNot; rw [if_pos c13]
    rw [e0] at hP
    have hok := nSign_ok c13
    refine lv_aload_n hx hb dX9_sign_22 rfl (lk hl rfl) ?_
    refine x_kn hL (vx_runV (As := []) hF.2.2.2.2.2.2.2.2.2 ((mX9_begins (F := (up2 F 0 0 0)) h90 h98 ha0 ha8 hP.1) hF.1) (cwV 0 hF.2.2.2.2.2.2.2.2.1 (lw_V q2353 q2355 qs50 q138 q2356) rfl rfl rfl (by decide +kernel) ⟨(Nat.le_of_ble_eq_true rfl), (Nat.le_of_ble_eq_true rfl)⟩) (x_preV hF hM (MA_ob hP.1) rfl) rfl rfl hl.1 rfl (lv_room (Nat.le_of_ble_eq_true rfl)) dX9_sign_23 ⟨(Nat.le_of_ble_eq_true rfl), (Nat.le_of_ble_eq_true rfl)⟩) ?_
    rintro _ τ23 H locs ⟨rfl, hp⟩ hM hL
    refine MS_gen hM (MS_t hP hp) (fun σ hM hP => ?_)
    have hwb : mBeg (up2 F 0 0 0) 5 = (wUp w 2 (w 2 + 1)) := by rw [mBeg_5, up2_oth _ _ _ (by decide), hw]
    have hkb : Wk (wUp w 2 (w 2 + 1)) := Wk_23 hk ⟨by omega, by omega⟩ (by omega)
    
    refine lv_aload_n hx hb dX9_sign_26 rfl (lk hl rfl) ?_
    refine lv_iload_n hx hb dX9_sign_27 rfl (lk hl rfl) ?_
    refine lv_iload_n hx hb dX9_sign_28 rfl (lk hl rfl) ?_
    refine x_kn hL (vx_runV (As := [_, _]) hF.2.2.2.2.2.2.2.2.2 ((mX9_signs (w := (wUp w 2 (w 2 + 1))) hwb hkb (by omega) (by rw [(wUp_o w (k := 2) (j := 0) (w 2 + 1) (by omega))]; omega) (by omega) (by omega) (by rw [(wUp_o w (k := 2) (j := 28) (w 2 + 1) (by omega))]; omega) (by rw [(wUp_o w (k := 2) (j := 3) (w 2 + 1) (by omega))]; omega) hP.1) hF.1) (cwV 2 hF.2.2.2.2.2.2.2.2.1 (lw_V q2404 q2406 qs61 q138 q2407) rfl rfl rfl (by decide +kernel) ⟨(Nat.le_of_ble_eq_true rfl), (Nat.le_of_ble_eq_true rfl)⟩) (x_preV hF hM (MA_ob hP.1) rfl) rfl rfl hl.1 rfl (lv_room (Nat.le_of_ble_eq_true rfl)) dX9_sign_29 ⟨(Nat.le_of_ble_eq_true rfl), (Nat.le_of_ble_eq_true rfl)⟩) ?_
    rintro _ τ29 H locs ⟨rfl, hp⟩ hM hL
    obtain ⟨F1, hP, e5, eo⟩ := ME_t hP hp
    refine MS_gen hM hP (fun σ hM hP => ?_)
    exact x_ireturn hF hM hL rfl (Nat.le_of_ble_eq_true rfl) (Nat.le_of_ble_eq_true rfl) ⟨fun q => absurd c13 q, fun _ => ⟨rfl, _, hP, e5, eo⟩⟩ dX9_sign_32
  · skip
    refine lv_aload_n hx hb dX9_sign_16 rfl (lk hl rfl) ?_
    refine lv_iload_n hx hb dX9_sign_17 rfl (lk hl rfl) ?_
    refine x_kn hL (vx_runV (As := [_]) hF.2.2.2.2.2.2.2.2.2 ((mX9_throwsNow (by rw [mNot_3 _ _ c13]; unfold inR; omega) hP.1) hF.1) (cwV 1 hF.2.2.2.2.2.2.2.2.1 (lw_V q2345 q2347 qs48 q138 q2348) rfl rfl rfl (by decide +kernel) ⟨(Nat.le_of_ble_eq_true rfl), (Nat.le_of_ble_eq_true rfl)⟩) (x_preV hF hM (MA_ob hP.1) rfl) rfl rfl hl.1 rfl (lv_room (Nat.le_of_ble_eq_true rfl)) dX9_sign_18 ⟨(Nat.le_of_ble_eq_true rfl), (Nat.le_of_ble_eq_true rfl)⟩) ?_
    rintro _ τ18 H locs ⟨rfl, hp⟩ hM hL
    refine MS_gen hM (MS_t hP hp) (fun σ hM hP => ?_)
    exact x_ireturn hF hM hL rfl (Nat.le_of_ble_eq_true rfl) (Nat.le_of_ble_eq_true rfl) ⟨fun _ => ⟨rfl, hP⟩, fun q => absurd q c13⟩ dX9_sign_21
set_option maxHeartbeats 4000000 in
set_option maxRecDepth 100000 in
/-- BakeryRingModel.down(I)I -/
theorem mX9_down {l : Launch} {E : En} {σ0 : Mm} {o : Nat} {F : Nat → Int → Int} {a : Int} (ha : inR a) {w : Int → Int} (hw : F 5 = w) (hk : Wk w) (h2 : 0 ≤ w 2 ∧ w 2 ≤ 1000000) (h3 : -1000000 ≤ w 3 ∧ w 3 ≤ 1000000) (h24 : w 28 ≤ 24) (h90 : 0 ≤ F 9 0) (h98 : F 9 0 ≤ 8) (ha0 : 0 ≤ F 10 0) (ha8 : F 10 0 < 8) (hP : MA E σ0 o F) : Ctr l E yX9_down (ws_ yX9_down cX9_down 3 (some .int)) 5 115 0 0 [.ref o, .int (iz a)] σ0 (fun v τ => ((nDown w a).1 ≠ 0 → v = some (.int (iz 0)) ∧ MS E σ0 o τ (mThr (mNot (up2 F 0 0 0) (nDown w a)) (nDown w a).1)) ∧ ((nDown w a).1 = 0 → v = some (.int (iz (wAllN (-1) (wTake (wUp w 2 (w 2 + 1)) (wSignOn (wUp w 2 (w 2 + 1)) a))))) ∧ ME E σ0 o τ (mBeg (up2 F 0 0 0)) (wAllW (-1) (wTake (wUp w 2 (w 2 + 1)) (wSignOn (wUp w 2 (w 2 + 1)) a))))) noX := by
  refine x_head (own := RX9) (cc := cX9_down) (maxL := 3) (ret := (some .int)) (by decide) rfl rfl (Nat.le_of_ble_eq_true rfl) ?_
  intro p e s m args below meth c H ls hF hname htab hM hl
  have hx := hF.2.2.1
  have hb := hF.2.2.2.1
  have hL : Lc E [] := lcNil
  have hl : lh ls 3 ([(0, .ref o), (1, .int (iz a))]) := hl
  refine MS_gen hM (MS_0 hP) (fun σ hM hP => ?_)
  have hk2 := hk.2.1
  refine lv_aload_n hx hb dX9_down_0 rfl (lk hl rfl) ?_
  refine x_iconst hF dX9_down_1 ?_
  refine x_putfield hF (ci := 10) in_X9 rfl tyX9_ok nmX9 0 (by decide) q2251 (fun _ h => h) rfl hM hL (MA_ob hP.1) (ty := .int) (by decide +kernel) rfl rfl dX9_down_2 (fun H locs hM hL => ?_)
  refine MS_gen hM (MS_p0 hM hP) (fun σ hM hP => ?_)
  refine lv_aload_n hx hb dX9_down_5 rfl (lk hl rfl) ?_
  refine lv_iload_n hx hb dX9_down_6 rfl (lk hl rfl) ?_
  refine x_kn hL (vx_runV (As := [_]) hF.2.2.2.2.2.2.2.2.2 ((mX9_notDown ha (w := w) (by rw [up2_oth _ _ _ (by decide)]; exact hw) hk hP.1) hF.1) (cwV 1 hF.2.2.2.2.2.2.2.2.1 (lw_V q2452 q2454 qs72 q138 q2455) rfl rfl rfl (by decide +kernel) ⟨(Nat.le_of_ble_eq_true rfl), (Nat.le_of_ble_eq_true rfl)⟩) (x_preV hF hM (MA_ob hP.1) rfl) rfl rfl hl.1 rfl (lv_room (Nat.le_of_ble_eq_true rfl)) dX9_down_7 ⟨(Nat.le_of_ble_eq_true rfl), (Nat.le_of_ble_eq_true rfl)⟩) ?_
  rintro _ τ7 H locs ⟨rfl, hp⟩ hM hL
  refine MS_gen hM (MS_t hP hp) (fun σ hM hP => ?_)
  have hrg := nDown_r w a
  refine x_istore_n hF dX9_down_10 rfl hl (by decide) rfl (fun ls hl => ?_)
  refine lv_iload_n hx hb dX9_down_11 rfl (lk hl rfl) ?_
  refine x_if_eq (tgt := 21) hF dX9_down_12 (by decide) (by first | assumption | (unfold inR; omega)) (fun c12 => ?_) (fun c12 => ?_)
  · skip
    have e0 : mNot (up2 F 0 0 0) (nDown w a) = (up2 F 0 0 0) := by unfold mNot; rw [if_pos c12]
    rw [e0] at hP
    have hok := nDown_ok c12
    refine lv_aload_n hx hb dX9_down_21 rfl (lk hl rfl) ?_
    refine x_kn hL (vx_runV (As := []) hF.2.2.2.2.2.2.2.2.2 ((mX9_begins (F := (up2 F 0 0 0)) h90 h98 ha0 ha8 hP.1) hF.1) (cwV 0 hF.2.2.2.2.2.2.2.2.1 (lw_V q2353 q2355 qs50 q138 q2356) rfl rfl rfl (by decide +kernel) ⟨(Nat.le_of_ble_eq_true rfl), (Nat.le_of_ble_eq_true rfl)⟩) (x_preV hF hM (MA_ob hP.1) rfl) rfl rfl hl.1 rfl (lv_room (Nat.le_of_ble_eq_true rfl)) dX9_down_22 ⟨(Nat.le_of_ble_eq_true rfl), (Nat.le_of_ble_eq_true rfl)⟩) ?_
    rintro _ τ22 H locs ⟨rfl, hp⟩ hM hL
    refine MS_gen hM (MS_t hP hp) (fun σ hM hP => ?_)
    have hwb : mBeg (up2 F 0 0 0) 5 = (wUp w 2 (w 2 + 1)) := by rw [mBeg_5, up2_oth _ _ _ (by decide), hw]
    have hkb : Wk (wUp w 2 (w 2 + 1)) := Wk_23 hk ⟨by omega, by omega⟩ (by omega)
    
    refine lv_aload_n hx hb dX9_down_25 rfl (lk hl rfl) ?_
    refine lv_iload_n hx hb dX9_down_26 rfl (lk hl rfl) ?_
    refine x_kn hL (vx_runV (As := [_]) hF.2.2.2.2.2.2.2.2.2 ((mX9_downs (w := (wUp w 2 (w 2 + 1))) hwb hkb ha (by rw [wSignOn_2]; omega) (by rw [(wUp_o w (k := 2) (j := 3) (w 2 + 1) (by omega))]; omega) hP.1) hF.1) (cwV 1 hF.2.2.2.2.2.2.2.2.1 (lw_V q2456 q2458 qs73 q138 q2459) rfl rfl rfl (by decide +kernel) ⟨(Nat.le_of_ble_eq_true rfl), (Nat.le_of_ble_eq_true rfl)⟩) (x_preV hF hM (MA_ob hP.1) rfl) rfl rfl hl.1 rfl (lv_room (Nat.le_of_ble_eq_true rfl)) dX9_down_27 ⟨(Nat.le_of_ble_eq_true rfl), (Nat.le_of_ble_eq_true rfl)⟩) ?_
    rintro _ τ27 H locs ⟨rfl, hp⟩ hM hL
    obtain ⟨F1, hP, e5, eo⟩ := ME_t hP hp
    refine MS_gen hM hP (fun σ hM hP => ?_)
    exact x_ireturn hF hM hL rfl (Nat.le_of_ble_eq_true rfl) (Nat.le_of_ble_eq_true rfl) ⟨fun q => absurd c12 q, fun _ => ⟨rfl, _, hP, e5, eo⟩⟩ dX9_down_30
  · skip
    refine lv_aload_n hx hb dX9_down_15 rfl (lk hl rfl) ?_
    refine lv_iload_n hx hb dX9_down_16 rfl (lk hl rfl) ?_
    refine x_kn hL (vx_runV (As := [_]) hF.2.2.2.2.2.2.2.2.2 ((mX9_throwsNow (by rw [mNot_3 _ _ c12]; unfold inR; omega) hP.1) hF.1) (cwV 1 hF.2.2.2.2.2.2.2.2.1 (lw_V q2345 q2347 qs48 q138 q2348) rfl rfl rfl (by decide +kernel) ⟨(Nat.le_of_ble_eq_true rfl), (Nat.le_of_ble_eq_true rfl)⟩) (x_preV hF hM (MA_ob hP.1) rfl) rfl rfl hl.1 rfl (lv_room (Nat.le_of_ble_eq_true rfl)) dX9_down_17 ⟨(Nat.le_of_ble_eq_true rfl), (Nat.le_of_ble_eq_true rfl)⟩) ?_
    rintro _ τ17 H locs ⟨rfl, hp⟩ hM hL
    refine MS_gen hM (MS_t hP hp) (fun σ hM hP => ?_)
    exact x_ireturn hF hM hL rfl (Nat.le_of_ble_eq_true rfl) (Nat.le_of_ble_eq_true rfl) ⟨fun _ => ⟨rfl, hP⟩, fun q => absurd q c12⟩ dX9_down_20
set_option maxHeartbeats 4000000 in
set_option maxRecDepth 100000 in
/-- BakeryRingModel.close(I)I -/
theorem mX9_close {l : Launch} {E : En} {σ0 : Mm} {o : Nat} {F : Nat → Int → Int} {z : Int} (hz : inR z) {w : Int → Int} (hw : F 5 = w) (hk : Wk w) (h2 : 0 ≤ w 2 ∧ w 2 ≤ 1000000) (h3 : -1000000 ≤ w 3 ∧ w 3 ≤ 1000000) (h24 : w 28 ≤ 24) (h90 : 0 ≤ F 9 0) (h98 : F 9 0 ≤ 8) (ha0 : 0 ≤ F 10 0) (ha8 : F 10 0 < 8) (hP : MA E σ0 o F) : Ctr l E yX9_close (ws_ yX9_close cX9_close 3 (some .int)) 5 116 0 0 [.ref o, .int (iz z)] σ0 (fun v τ => ((nClose w z).1 ≠ 0 → v = some (.int (iz 0)) ∧ MS E σ0 o τ (mThr (mNot (up2 F 0 0 0) (nClose w z)) (nClose w z).1)) ∧ ((nClose w z).1 = 0 → v = some (.int (iz (wAllN (-1) (wUp (wUp w 2 (w 2 + 1)) (4 + 4 * z + 2) 1)))) ∧ ME E σ0 o τ (mBeg (up2 F 0 0 0)) (wAllW (-1) (wUp (wUp w 2 (w 2 + 1)) (4 + 4 * z + 2) 1)))) noX := by
  refine x_head (own := RX9) (cc := cX9_close) (maxL := 3) (ret := (some .int)) (by decide) rfl rfl (Nat.le_of_ble_eq_true rfl) ?_
  intro p e s m args below meth c H ls hF hname htab hM hl
  have hx := hF.2.2.1
  have hb := hF.2.2.2.1
  have hL : Lc E [] := lcNil
  have hl : lh ls 3 ([(0, .ref o), (1, .int (iz z))]) := hl
  refine MS_gen hM (MS_0 hP) (fun σ hM hP => ?_)
  have hk2 := hk.2.1
  refine lv_aload_n hx hb dX9_close_0 rfl (lk hl rfl) ?_
  refine x_iconst hF dX9_close_1 ?_
  refine x_putfield hF (ci := 10) in_X9 rfl tyX9_ok nmX9 0 (by decide) q2251 (fun _ h => h) rfl hM hL (MA_ob hP.1) (ty := .int) (by decide +kernel) rfl rfl dX9_close_2 (fun H locs hM hL => ?_)
  refine MS_gen hM (MS_p0 hM hP) (fun σ hM hP => ?_)
  refine lv_aload_n hx hb dX9_close_5 rfl (lk hl rfl) ?_
  refine lv_iload_n hx hb dX9_close_6 rfl (lk hl rfl) ?_
  refine x_kn hL (vx_runV (As := [_]) hF.2.2.2.2.2.2.2.2.2 ((mX9_notClose hz (w := w) (by rw [up2_oth _ _ _ (by decide)]; exact hw) hk hP.1) hF.1) (cwV 1 hF.2.2.2.2.2.2.2.2.1 (lw_V q2468 q2470 qs75 q138 q2471) rfl rfl rfl (by decide +kernel) ⟨(Nat.le_of_ble_eq_true rfl), (Nat.le_of_ble_eq_true rfl)⟩) (x_preV hF hM (MA_ob hP.1) rfl) rfl rfl hl.1 rfl (lv_room (Nat.le_of_ble_eq_true rfl)) dX9_close_7 ⟨(Nat.le_of_ble_eq_true rfl), (Nat.le_of_ble_eq_true rfl)⟩) ?_
  rintro _ τ7 H locs ⟨rfl, hp⟩ hM hL
  refine MS_gen hM (MS_t hP hp) (fun σ hM hP => ?_)
  have hrg := nClose_r w z
  refine x_istore_n hF dX9_close_10 rfl hl (by decide) rfl (fun ls hl => ?_)
  refine lv_iload_n hx hb dX9_close_11 rfl (lk hl rfl) ?_
  refine x_if_eq (tgt := 21) hF dX9_close_12 (by decide) (by first | assumption | (unfold inR; omega)) (fun c12 => ?_) (fun c12 => ?_)
  · skip
    have e0 : mNot (up2 F 0 0 0) (nClose w z) = (up2 F 0 0 0) := by unfold mNot; rw [if_pos c12]
    rw [e0] at hP
    have hok := nClose_ok c12
    refine lv_aload_n hx hb dX9_close_21 rfl (lk hl rfl) ?_
    refine x_kn hL (vx_runV (As := []) hF.2.2.2.2.2.2.2.2.2 ((mX9_begins (F := (up2 F 0 0 0)) h90 h98 ha0 ha8 hP.1) hF.1) (cwV 0 hF.2.2.2.2.2.2.2.2.1 (lw_V q2353 q2355 qs50 q138 q2356) rfl rfl rfl (by decide +kernel) ⟨(Nat.le_of_ble_eq_true rfl), (Nat.le_of_ble_eq_true rfl)⟩) (x_preV hF hM (MA_ob hP.1) rfl) rfl rfl hl.1 rfl (lv_room (Nat.le_of_ble_eq_true rfl)) dX9_close_22 ⟨(Nat.le_of_ble_eq_true rfl), (Nat.le_of_ble_eq_true rfl)⟩) ?_
    rintro _ τ22 H locs ⟨rfl, hp⟩ hM hL
    refine MS_gen hM (MS_t hP hp) (fun σ hM hP => ?_)
    have hwb : mBeg (up2 F 0 0 0) 5 = (wUp w 2 (w 2 + 1)) := by rw [mBeg_5, up2_oth _ _ _ (by decide), hw]
    have hkb : Wk (wUp w 2 (w 2 + 1)) := Wk_23 hk ⟨by omega, by omega⟩ (by omega)
    
    refine lv_aload_n hx hb dX9_close_25 rfl (lk hl rfl) ?_
    refine lv_iload_n hx hb dX9_close_26 rfl (lk hl rfl) ?_
    refine x_iconst hF dX9_close_27 ?_
    refine x_kn hL (vx_runV (As := [_, _]) hF.2.2.2.2.2.2.2.2.2 ((mX9_shuts (w := (wUp w 2 (w 2 + 1))) (a := 1) hwb hkb (by omega) (by omega) (by omega) (by omega) (by rw [(wUp_o w (k := 2) (j := 3) (w 2 + 1) (by omega))]; omega) hP.1) hF.1) (cwV 2 hF.2.2.2.2.2.2.2.2.1 (lw_V q2476 q2478 qs77 q138 q2479) rfl rfl rfl (by decide +kernel) ⟨(Nat.le_of_ble_eq_true rfl), (Nat.le_of_ble_eq_true rfl)⟩) (x_preV hF hM (MA_ob hP.1) rfl) rfl rfl hl.1 rfl (lv_room (Nat.le_of_ble_eq_true rfl)) dX9_close_28 ⟨(Nat.le_of_ble_eq_true rfl), (Nat.le_of_ble_eq_true rfl)⟩) ?_
    rintro _ τ28 H locs ⟨rfl, hp⟩ hM hL
    obtain ⟨F1, hP, e5, eo⟩ := ME_t hP hp
    refine MS_gen hM hP (fun σ hM hP => ?_)
    exact x_ireturn hF hM hL rfl (Nat.le_of_ble_eq_true rfl) (Nat.le_of_ble_eq_true rfl) ⟨fun q => absurd c12 q, fun _ => ⟨rfl, _, hP, e5, eo⟩⟩ dX9_close_31
  · skip
    refine lv_aload_n hx hb dX9_close_15 rfl (lk hl rfl) ?_
    refine lv_iload_n hx hb dX9_close_16 rfl (lk hl rfl) ?_
    refine x_kn hL (vx_runV (As := [_]) hF.2.2.2.2.2.2.2.2.2 ((mX9_throwsNow (by rw [mNot_3 _ _ c12]; unfold inR; omega) hP.1) hF.1) (cwV 1 hF.2.2.2.2.2.2.2.2.1 (lw_V q2345 q2347 qs48 q138 q2348) rfl rfl rfl (by decide +kernel) ⟨(Nat.le_of_ble_eq_true rfl), (Nat.le_of_ble_eq_true rfl)⟩) (x_preV hF hM (MA_ob hP.1) rfl) rfl rfl hl.1 rfl (lv_room (Nat.le_of_ble_eq_true rfl)) dX9_close_17 ⟨(Nat.le_of_ble_eq_true rfl), (Nat.le_of_ble_eq_true rfl)⟩) ?_
    rintro _ τ17 H locs ⟨rfl, hp⟩ hM hL
    refine MS_gen hM (MS_t hP hp) (fun σ hM hP => ?_)
    exact x_ireturn hF hM hL rfl (Nat.le_of_ble_eq_true rfl) (Nat.le_of_ble_eq_true rfl) ⟨fun _ => ⟨rfl, hP⟩, fun q => absurd q c12⟩ dX9_close_20
set_option maxHeartbeats 4000000 in
set_option maxRecDepth 100000 in
/-- BakeryRingModel.open(I)I -/
theorem mX9_open {l : Launch} {E : En} {σ0 : Mm} {o : Nat} {F : Nat → Int → Int} {z : Int} (hz : inR z) {w : Int → Int} (hw : F 5 = w) (hk : Wk w) (h2 : 0 ≤ w 2 ∧ w 2 ≤ 1000000) (h3 : -1000000 ≤ w 3 ∧ w 3 ≤ 1000000) (h24 : w 28 ≤ 24) (h90 : 0 ≤ F 9 0) (h98 : F 9 0 ≤ 8) (ha0 : 0 ≤ F 10 0) (ha8 : F 10 0 < 8) (hP : MA E σ0 o F) : Ctr l E yX9_open (ws_ yX9_open cX9_open 3 (some .int)) 5 116 0 0 [.ref o, .int (iz z)] σ0 (fun v τ => ((nOpen w z).1 ≠ 0 → v = some (.int (iz 0)) ∧ MS E σ0 o τ (mThr (mNot (up2 F 0 0 0) (nOpen w z)) (nOpen w z).1)) ∧ ((nOpen w z).1 = 0 → v = some (.int (iz (wAllN (-1) (wUp (wUp w 2 (w 2 + 1)) (4 + 4 * z + 2) 0)))) ∧ ME E σ0 o τ (mBeg (up2 F 0 0 0)) (wAllW (-1) (wUp (wUp w 2 (w 2 + 1)) (4 + 4 * z + 2) 0)))) noX := by
  refine x_head (own := RX9) (cc := cX9_open) (maxL := 3) (ret := (some .int)) (by decide) rfl rfl (Nat.le_of_ble_eq_true rfl) ?_
  intro p e s m args below meth c H ls hF hname htab hM hl
  have hx := hF.2.2.1
  have hb := hF.2.2.2.1
  have hL : Lc E [] := lcNil
  have hl : lh ls 3 ([(0, .ref o), (1, .int (iz z))]) := hl
  refine MS_gen hM (MS_0 hP) (fun σ hM hP => ?_)
  have hk2 := hk.2.1
  refine lv_aload_n hx hb dX9_open_0 rfl (lk hl rfl) ?_
  refine x_iconst hF dX9_open_1 ?_
  refine x_putfield hF (ci := 10) in_X9 rfl tyX9_ok nmX9 0 (by decide) q2251 (fun _ h => h) rfl hM hL (MA_ob hP.1) (ty := .int) (by decide +kernel) rfl rfl dX9_open_2 (fun H locs hM hL => ?_)
  refine MS_gen hM (MS_p0 hM hP) (fun σ hM hP => ?_)
  refine lv_aload_n hx hb dX9_open_5 rfl (lk hl rfl) ?_
  refine lv_iload_n hx hb dX9_open_6 rfl (lk hl rfl) ?_
  refine x_kn hL (vx_runV (As := [_]) hF.2.2.2.2.2.2.2.2.2 ((mX9_notOpen hz (w := w) (by rw [up2_oth _ _ _ (by decide)]; exact hw) hk hP.1) hF.1) (cwV 1 hF.2.2.2.2.2.2.2.2.1 (lw_V q2484 q2486 qs78 q138 q2487) rfl rfl rfl (by decide +kernel) ⟨(Nat.le_of_ble_eq_true rfl), (Nat.le_of_ble_eq_true rfl)⟩) (x_preV hF hM (MA_ob hP.1) rfl) rfl rfl hl.1 rfl (lv_room (Nat.le_of_ble_eq_true rfl)) dX9_open_7 ⟨(Nat.le_of_ble_eq_true rfl), (Nat.le_of_ble_eq_true rfl)⟩) ?_
  rintro _ τ7 H locs ⟨rfl, hp⟩ hM hL
  refine MS_gen hM (MS_t hP hp) (fun σ hM hP => ?_)
  have hrg := nOpen_r w z
  refine x_istore_n hF dX9_open_10 rfl hl (by decide) rfl (fun ls hl => ?_)
  refine lv_iload_n hx hb dX9_open_11 rfl (lk hl rfl) ?_
  refine x_if_eq (tgt := 21) hF dX9_open_12 (by decide) (by first | assumption | (unfold inR; omega)) (fun c12 => ?_) (fun c12 => ?_)
  · skip
    have e0 : mNot (up2 F 0 0 0) (nOpen w z) = (up2 F 0 0 0) := by unfold mNot; rw [if_pos c12]
    rw [e0] at hP
    have hok := nOpen_ok c12
    refine lv_aload_n hx hb dX9_open_21 rfl (lk hl rfl) ?_
    refine x_kn hL (vx_runV (As := []) hF.2.2.2.2.2.2.2.2.2 ((mX9_begins (F := (up2 F 0 0 0)) h90 h98 ha0 ha8 hP.1) hF.1) (cwV 0 hF.2.2.2.2.2.2.2.2.1 (lw_V q2353 q2355 qs50 q138 q2356) rfl rfl rfl (by decide +kernel) ⟨(Nat.le_of_ble_eq_true rfl), (Nat.le_of_ble_eq_true rfl)⟩) (x_preV hF hM (MA_ob hP.1) rfl) rfl rfl hl.1 rfl (lv_room (Nat.le_of_ble_eq_true rfl)) dX9_open_22 ⟨(Nat.le_of_ble_eq_true rfl), (Nat.le_of_ble_eq_true rfl)⟩) ?_
    rintro _ τ22 H locs ⟨rfl, hp⟩ hM hL
    refine MS_gen hM (MS_t hP hp) (fun σ hM hP => ?_)
    have hwb : mBeg (up2 F 0 0 0) 5 = (wUp w 2 (w 2 + 1)) := by rw [mBeg_5, up2_oth _ _ _ (by decide), hw]
    have hkb : Wk (wUp w 2 (w 2 + 1)) := Wk_23 hk ⟨by omega, by omega⟩ (by omega)
    
    refine lv_aload_n hx hb dX9_open_25 rfl (lk hl rfl) ?_
    refine lv_iload_n hx hb dX9_open_26 rfl (lk hl rfl) ?_
    refine x_iconst hF dX9_open_27 ?_
    refine x_kn hL (vx_runV (As := [_, _]) hF.2.2.2.2.2.2.2.2.2 ((mX9_shuts (w := (wUp w 2 (w 2 + 1))) (a := 0) hwb hkb (by omega) (by omega) (by omega) (by omega) (by rw [(wUp_o w (k := 2) (j := 3) (w 2 + 1) (by omega))]; omega) hP.1) hF.1) (cwV 2 hF.2.2.2.2.2.2.2.2.1 (lw_V q2476 q2478 qs77 q138 q2479) rfl rfl rfl (by decide +kernel) ⟨(Nat.le_of_ble_eq_true rfl), (Nat.le_of_ble_eq_true rfl)⟩) (x_preV hF hM (MA_ob hP.1) rfl) rfl rfl hl.1 rfl (lv_room (Nat.le_of_ble_eq_true rfl)) dX9_open_28 ⟨(Nat.le_of_ble_eq_true rfl), (Nat.le_of_ble_eq_true rfl)⟩) ?_
    rintro _ τ28 H locs ⟨rfl, hp⟩ hM hL
    obtain ⟨F1, hP, e5, eo⟩ := ME_t hP hp
    refine MS_gen hM hP (fun σ hM hP => ?_)
    exact x_ireturn hF hM hL rfl (Nat.le_of_ble_eq_true rfl) (Nat.le_of_ble_eq_true rfl) ⟨fun q => absurd c12 q, fun _ => ⟨rfl, _, hP, e5, eo⟩⟩ dX9_open_31
  · skip
    refine lv_aload_n hx hb dX9_open_15 rfl (lk hl rfl) ?_
    refine lv_iload_n hx hb dX9_open_16 rfl (lk hl rfl) ?_
    refine x_kn hL (vx_runV (As := [_]) hF.2.2.2.2.2.2.2.2.2 ((mX9_throwsNow (by rw [mNot_3 _ _ c12]; unfold inR; omega) hP.1) hF.1) (cwV 1 hF.2.2.2.2.2.2.2.2.1 (lw_V q2345 q2347 qs48 q138 q2348) rfl rfl rfl (by decide +kernel) ⟨(Nat.le_of_ble_eq_true rfl), (Nat.le_of_ble_eq_true rfl)⟩) (x_preV hF hM (MA_ob hP.1) rfl) rfl rfl hl.1 rfl (lv_room (Nat.le_of_ble_eq_true rfl)) dX9_open_17 ⟨(Nat.le_of_ble_eq_true rfl), (Nat.le_of_ble_eq_true rfl)⟩) ?_
    rintro _ τ17 H locs ⟨rfl, hp⟩ hM hL
    refine MS_gen hM (MS_t hP hp) (fun σ hM hP => ?_)
    exact x_ireturn hF hM hL rfl (Nat.le_of_ble_eq_true rfl) (Nat.le_of_ble_eq_true rfl) ⟨fun _ => ⟨rfl, hP⟩, fun q => absurd q c12⟩ dX9_open_20
set_option maxHeartbeats 4000000 in
set_option maxRecDepth 100000 in
/-- BakeryRingModel.oven(II)I -/
theorem mX9_oven {l : Launch} {E : En} {σ0 : Mm} {o : Nat} {F : Nat → Int → Int} {z a : Int} (hz : inR z) (ha : inR a) {w : Int → Int} (hw : F 5 = w) (hk : Wk w) (h2 : 0 ≤ w 2 ∧ w 2 ≤ 1000000) (h3 : -1000000 ≤ w 3 ∧ w 3 ≤ 1000000) (h24 : w 28 ≤ 24) (h90 : 0 ≤ F 9 0) (h98 : F 9 0 ≤ 8) (ha0 : 0 ≤ F 10 0) (ha8 : F 10 0 < 8) (hP : MA E σ0 o F) : Ctr l E yX9_oven (ws_ yX9_oven cX9_oven 4 (some .int)) 5 116 0 0 [.ref o, .int (iz z), .int (iz a)] σ0 (fun v τ => ((nOven w z a).1 ≠ 0 → v = some (.int (iz 0)) ∧ MS E σ0 o τ (mThr (mNot (up2 F 0 0 0) (nOven w z a)) (nOven w z a).1)) ∧ ((nOven w z a).1 = 0 → v = some (.int (iz (wAllN (-1) (wUp (wUp w 2 (w 2 + 1)) (4 + 4 * z + 1) a)))) ∧ ME E σ0 o τ (mBeg (up2 F 0 0 0)) (wAllW (-1) (wUp (wUp w 2 (w 2 + 1)) (4 + 4 * z + 1) a)))) noX := by
  refine x_head (own := RX9) (cc := cX9_oven) (maxL := 4) (ret := (some .int)) (by decide) rfl rfl (Nat.le_of_ble_eq_true rfl) ?_
  intro p e s m args below meth c H ls hF hname htab hM hl
  have hx := hF.2.2.1
  have hb := hF.2.2.2.1
  have hL : Lc E [] := lcNil
  have hl : lh ls 4 ([(0, .ref o), (1, .int (iz z)), (2, .int (iz a))]) := hl
  refine MS_gen hM (MS_0 hP) (fun σ hM hP => ?_)
  have hk2 := hk.2.1
  refine lv_aload_n hx hb dX9_oven_0 rfl (lk hl rfl) ?_
  refine x_iconst hF dX9_oven_1 ?_
  refine x_putfield hF (ci := 10) in_X9 rfl tyX9_ok nmX9 0 (by decide) q2251 (fun _ h => h) rfl hM hL (MA_ob hP.1) (ty := .int) (by decide +kernel) rfl rfl dX9_oven_2 (fun H locs hM hL => ?_)
  refine MS_gen hM (MS_p0 hM hP) (fun σ hM hP => ?_)
  refine lv_aload_n hx hb dX9_oven_5 rfl (lk hl rfl) ?_
  refine lv_iload_n hx hb dX9_oven_6 rfl (lk hl rfl) ?_
  refine lv_iload_n hx hb dX9_oven_7 rfl (lk hl rfl) ?_
  refine x_kn hL (vx_runV (As := [_, _]) hF.2.2.2.2.2.2.2.2.2 ((mX9_notOven hz ha (w := w) (by rw [up2_oth _ _ _ (by decide)]; exact hw) hk hP.1) hF.1) (cwV 2 hF.2.2.2.2.2.2.2.2.1 (lw_V q2492 q2494 qs79 q138 q2495) rfl rfl rfl (by decide +kernel) ⟨(Nat.le_of_ble_eq_true rfl), (Nat.le_of_ble_eq_true rfl)⟩) (x_preV hF hM (MA_ob hP.1) rfl) rfl rfl hl.1 rfl (lv_room (Nat.le_of_ble_eq_true rfl)) dX9_oven_8 ⟨(Nat.le_of_ble_eq_true rfl), (Nat.le_of_ble_eq_true rfl)⟩) ?_
  rintro _ τ8 H locs ⟨rfl, hp⟩ hM hL
  refine MS_gen hM (MS_t hP hp) (fun σ hM hP => ?_)
  have hrg := nOven_r w z a
  refine x_istore_n hF dX9_oven_11 rfl hl (by decide) rfl (fun ls hl => ?_)
  refine lv_iload_n hx hb dX9_oven_12 rfl (lk hl rfl) ?_
  refine x_if_eq (tgt := 22) hF dX9_oven_13 (by decide) (by first | assumption | (unfold inR; omega)) (fun c13 => ?_) (fun c13 => ?_)
  · skip
    have e0 : mNot (up2 F 0 0 0) (nOven w z a) = (up2 F 0 0 0) := by unfold mNot; rw [if_pos c13]
    rw [e0] at hP
    have hok := nOven_ok c13
    refine lv_aload_n hx hb dX9_oven_22 rfl (lk hl rfl) ?_
    refine x_kn hL (vx_runV (As := []) hF.2.2.2.2.2.2.2.2.2 ((mX9_begins (F := (up2 F 0 0 0)) h90 h98 ha0 ha8 hP.1) hF.1) (cwV 0 hF.2.2.2.2.2.2.2.2.1 (lw_V q2353 q2355 qs50 q138 q2356) rfl rfl rfl (by decide +kernel) ⟨(Nat.le_of_ble_eq_true rfl), (Nat.le_of_ble_eq_true rfl)⟩) (x_preV hF hM (MA_ob hP.1) rfl) rfl rfl hl.1 rfl (lv_room (Nat.le_of_ble_eq_true rfl)) dX9_oven_23 ⟨(Nat.le_of_ble_eq_true rfl), (Nat.le_of_ble_eq_true rfl)⟩) ?_
    rintro _ τ23 H locs ⟨rfl, hp⟩ hM hL
    refine MS_gen hM (MS_t hP hp) (fun σ hM hP => ?_)
    have hwb : mBeg (up2 F 0 0 0) 5 = (wUp w 2 (w 2 + 1)) := by rw [mBeg_5, up2_oth _ _ _ (by decide), hw]
    have hkb : Wk (wUp w 2 (w 2 + 1)) := Wk_23 hk ⟨by omega, by omega⟩ (by omega)
    
    refine lv_aload_n hx hb dX9_oven_26 rfl (lk hl rfl) ?_
    refine lv_iload_n hx hb dX9_oven_27 rfl (lk hl rfl) ?_
    refine lv_iload_n hx hb dX9_oven_28 rfl (lk hl rfl) ?_
    refine x_kn hL (vx_runV (As := [_, _]) hF.2.2.2.2.2.2.2.2.2 ((mX9_ovens (w := (wUp w 2 (w 2 + 1))) hwb hkb (by omega) (by omega) (by omega) (by omega) (by rw [(wUp_o w (k := 2) (j := 3) (w 2 + 1) (by omega))]; omega) hP.1) hF.1) (cwV 2 hF.2.2.2.2.2.2.2.2.1 (lw_V q2496 q2498 qs80 q138 q2499) rfl rfl rfl (by decide +kernel) ⟨(Nat.le_of_ble_eq_true rfl), (Nat.le_of_ble_eq_true rfl)⟩) (x_preV hF hM (MA_ob hP.1) rfl) rfl rfl hl.1 rfl (lv_room (Nat.le_of_ble_eq_true rfl)) dX9_oven_29 ⟨(Nat.le_of_ble_eq_true rfl), (Nat.le_of_ble_eq_true rfl)⟩) ?_
    rintro _ τ29 H locs ⟨rfl, hp⟩ hM hL
    obtain ⟨F1, hP, e5, eo⟩ := ME_t hP hp
    refine MS_gen hM hP (fun σ hM hP => ?_)
    exact x_ireturn hF hM hL rfl (Nat.le_of_ble_eq_true rfl) (Nat.le_of_ble_eq_true rfl) ⟨fun q => absurd c13 q, fun _ => ⟨rfl, _, hP, e5, eo⟩⟩ dX9_oven_32
  · skip
    refine lv_aload_n hx hb dX9_oven_16 rfl (lk hl rfl) ?_
    refine lv_iload_n hx hb dX9_oven_17 rfl (lk hl rfl) ?_
    refine x_kn hL (vx_runV (As := [_]) hF.2.2.2.2.2.2.2.2.2 ((mX9_throwsNow (by rw [mNot_3 _ _ c13]; unfold inR; omega) hP.1) hF.1) (cwV 1 hF.2.2.2.2.2.2.2.2.1 (lw_V q2345 q2347 qs48 q138 q2348) rfl rfl rfl (by decide +kernel) ⟨(Nat.le_of_ble_eq_true rfl), (Nat.le_of_ble_eq_true rfl)⟩) (x_preV hF hM (MA_ob hP.1) rfl) rfl rfl hl.1 rfl (lv_room (Nat.le_of_ble_eq_true rfl)) dX9_oven_18 ⟨(Nat.le_of_ble_eq_true rfl), (Nat.le_of_ble_eq_true rfl)⟩) ?_
    rintro _ τ18 H locs ⟨rfl, hp⟩ hM hL
    refine MS_gen hM (MS_t hP hp) (fun σ hM hP => ?_)
    exact x_ireturn hF hM hL rfl (Nat.le_of_ble_eq_true rfl) (Nat.le_of_ble_eq_true rfl) ⟨fun _ => ⟨rfl, hP⟩, fun q => absurd q c13⟩ dX9_oven_21
set_option maxHeartbeats 4000000 in
set_option maxRecDepth 100000 in
/-- BakeryRingModel.come(II)I -/
theorem mX9_come {l : Launch} {E : En} {σ0 : Mm} {o : Nat} {F : Nat → Int → Int} {z a : Int} (hz : inR z) (ha : inR a) {w : Int → Int} (hw : F 5 = w) (hk : Wk w) (h2 : 0 ≤ w 2 ∧ w 2 ≤ 1000000) (h3 : -1000000 ≤ w 3 ∧ w 3 ≤ 1000000) (h24 : w 28 ≤ 24) (h90 : 0 ≤ F 9 0) (h98 : F 9 0 ≤ 8) (ha0 : 0 ≤ F 10 0) (ha8 : F 10 0 < 8) (hP : MA E σ0 o F) : Ctr l E yX9_come (ws_ yX9_come cX9_come 4 (some .int)) 5 117 0 0 [.ref o, .int (iz z), .int (iz a)] σ0 (fun v τ => ((nCome w z a).1 ≠ 0 → v = some (.int (iz 0)) ∧ MS E σ0 o τ (mThr (mNot (up2 F 0 0 0) (nCome w z a)) (nCome w z a).1)) ∧ ((nCome w z a).1 = 0 → v = some (.int (iz ((wUp w 2 (w 2 + 1)) 1))) ∧ ME E σ0 o τ (mBeg (up2 F 0 0 0)) (wAllW ((wUp w 2 (w 2 + 1)) 1) (wCome (wUp w 2 (w 2 + 1)) z a)))) noX := by
  refine x_head (own := RX9) (cc := cX9_come) (maxL := 4) (ret := (some .int)) (by decide) rfl rfl (Nat.le_of_ble_eq_true rfl) ?_
  intro p e s m args below meth c H ls hF hname htab hM hl
  have hx := hF.2.2.1
  have hb := hF.2.2.2.1
  have hL : Lc E [] := lcNil
  have hl : lh ls 4 ([(0, .ref o), (1, .int (iz z)), (2, .int (iz a))]) := hl
  refine MS_gen hM (MS_0 hP) (fun σ hM hP => ?_)
  have hk2 := hk.2.1
  refine lv_aload_n hx hb dX9_come_0 rfl (lk hl rfl) ?_
  refine x_iconst hF dX9_come_1 ?_
  refine x_putfield hF (ci := 10) in_X9 rfl tyX9_ok nmX9 0 (by decide) q2251 (fun _ h => h) rfl hM hL (MA_ob hP.1) (ty := .int) (by decide +kernel) rfl rfl dX9_come_2 (fun H locs hM hL => ?_)
  refine MS_gen hM (MS_p0 hM hP) (fun σ hM hP => ?_)
  refine lv_aload_n hx hb dX9_come_5 rfl (lk hl rfl) ?_
  refine lv_iload_n hx hb dX9_come_6 rfl (lk hl rfl) ?_
  refine lv_iload_n hx hb dX9_come_7 rfl (lk hl rfl) ?_
  refine x_kn hL (vx_runV (As := [_, _]) hF.2.2.2.2.2.2.2.2.2 ((mX9_notCome hz ha (w := w) (by rw [up2_oth _ _ _ (by decide)]; exact hw) hk hP.1) hF.1) (cwV 2 hF.2.2.2.2.2.2.2.2.1 (lw_V q2504 q2506 qs81 q138 q2507) rfl rfl rfl (by decide +kernel) ⟨(Nat.le_of_ble_eq_true rfl), (Nat.le_of_ble_eq_true rfl)⟩) (x_preV hF hM (MA_ob hP.1) rfl) rfl rfl hl.1 rfl (lv_room (Nat.le_of_ble_eq_true rfl)) dX9_come_8 ⟨(Nat.le_of_ble_eq_true rfl), (Nat.le_of_ble_eq_true rfl)⟩) ?_
  rintro _ τ8 H locs ⟨rfl, hp⟩ hM hL
  refine MS_gen hM (MS_t hP hp) (fun σ hM hP => ?_)
  have hrg := nCome_r w z a
  refine x_istore_n hF dX9_come_11 rfl hl (by decide) rfl (fun ls hl => ?_)
  refine lv_iload_n hx hb dX9_come_12 rfl (lk hl rfl) ?_
  refine x_if_eq (tgt := 22) hF dX9_come_13 (by decide) (by first | assumption | (unfold inR; omega)) (fun c13 => ?_) (fun c13 => ?_)
  · skip
    have e0 : mNot (up2 F 0 0 0) (nCome w z a) = (up2 F 0 0 0) := by unfold mNot; rw [if_pos c13]
    rw [e0] at hP
    have hok := nCome_ok c13
    refine lv_aload_n hx hb dX9_come_22 rfl (lk hl rfl) ?_
    refine x_kn hL (vx_runV (As := []) hF.2.2.2.2.2.2.2.2.2 ((mX9_begins (F := (up2 F 0 0 0)) h90 h98 ha0 ha8 hP.1) hF.1) (cwV 0 hF.2.2.2.2.2.2.2.2.1 (lw_V q2353 q2355 qs50 q138 q2356) rfl rfl rfl (by decide +kernel) ⟨(Nat.le_of_ble_eq_true rfl), (Nat.le_of_ble_eq_true rfl)⟩) (x_preV hF hM (MA_ob hP.1) rfl) rfl rfl hl.1 rfl (lv_room (Nat.le_of_ble_eq_true rfl)) dX9_come_23 ⟨(Nat.le_of_ble_eq_true rfl), (Nat.le_of_ble_eq_true rfl)⟩) ?_
    rintro _ τ23 H locs ⟨rfl, hp⟩ hM hL
    refine MS_gen hM (MS_t hP hp) (fun σ hM hP => ?_)
    have hwb : mBeg (up2 F 0 0 0) 5 = (wUp w 2 (w 2 + 1)) := by rw [mBeg_5, up2_oth _ _ _ (by decide), hw]
    have hkb : Wk (wUp w 2 (w 2 + 1)) := Wk_23 hk ⟨by omega, by omega⟩ (by omega)
    
    refine lv_aload_n hx hb dX9_come_26 rfl (lk hl rfl) ?_
    refine lv_iload_n hx hb dX9_come_27 rfl (lk hl rfl) ?_
    refine lv_iload_n hx hb dX9_come_28 rfl (lk hl rfl) ?_
    refine x_kn hL (vx_runV (As := [_, _]) hF.2.2.2.2.2.2.2.2.2 ((mX9_comes (w := (wUp w 2 (w 2 + 1))) hwb hkb (by omega) (by omega) (by omega) (by omega) (by rw [(wUp_o w (k := 2) (j := 1) (w 2 + 1) (by omega))]; omega) (by rw [(wUp_o w (k := 2) (j := 3) (w 2 + 1) (by omega))]; omega) hP.1) hF.1) (cwV 2 hF.2.2.2.2.2.2.2.2.1 (lw_V q2508 q2510 qs82 q138 q2511) rfl rfl rfl (by decide +kernel) ⟨(Nat.le_of_ble_eq_true rfl), (Nat.le_of_ble_eq_true rfl)⟩) (x_preV hF hM (MA_ob hP.1) rfl) rfl rfl hl.1 rfl (lv_room (Nat.le_of_ble_eq_true rfl)) dX9_come_29 ⟨(Nat.le_of_ble_eq_true rfl), (Nat.le_of_ble_eq_true rfl)⟩) ?_
    rintro _ τ29 H locs ⟨rfl, hp⟩ hM hL
    obtain ⟨F1, hP, e5, eo⟩ := ME_t hP hp
    refine MS_gen hM hP (fun σ hM hP => ?_)
    exact x_ireturn hF hM hL rfl (Nat.le_of_ble_eq_true rfl) (Nat.le_of_ble_eq_true rfl) ⟨fun q => absurd c13 q, fun _ => ⟨rfl, _, hP, e5, eo⟩⟩ dX9_come_32
  · skip
    refine lv_aload_n hx hb dX9_come_16 rfl (lk hl rfl) ?_
    refine lv_iload_n hx hb dX9_come_17 rfl (lk hl rfl) ?_
    refine x_kn hL (vx_runV (As := [_]) hF.2.2.2.2.2.2.2.2.2 ((mX9_throwsNow (by rw [mNot_3 _ _ c13]; unfold inR; omega) hP.1) hF.1) (cwV 1 hF.2.2.2.2.2.2.2.2.1 (lw_V q2345 q2347 qs48 q138 q2348) rfl rfl rfl (by decide +kernel) ⟨(Nat.le_of_ble_eq_true rfl), (Nat.le_of_ble_eq_true rfl)⟩) (x_preV hF hM (MA_ob hP.1) rfl) rfl rfl hl.1 rfl (lv_room (Nat.le_of_ble_eq_true rfl)) dX9_come_18 ⟨(Nat.le_of_ble_eq_true rfl), (Nat.le_of_ble_eq_true rfl)⟩) ?_
    rintro _ τ18 H locs ⟨rfl, hp⟩ hM hL
    refine MS_gen hM (MS_t hP hp) (fun σ hM hP => ?_)
    exact x_ireturn hF hM hL rfl (Nat.le_of_ble_eq_true rfl) (Nat.le_of_ble_eq_true rfl) ⟨fun _ => ⟨rfl, hP⟩, fun q => absurd q c13⟩ dX9_come_21
set_option maxHeartbeats 4000000 in
set_option maxRecDepth 100000 in
/-- BakeryRingModel.leave(I)I -/
theorem mX9_leave {l : Launch} {E : En} {σ0 : Mm} {o : Nat} {F : Nat → Int → Int} {z : Int} (hz : inR z) {w : Int → Int} (hw : F 5 = w) (hk : Wk w) (h2 : 0 ≤ w 2 ∧ w 2 ≤ 1000000) (h3 : -1000000 ≤ w 3 ∧ w 3 ≤ 1000000) (h24 : w 28 ≤ 24) (h90 : 0 ≤ F 9 0) (h98 : F 9 0 ≤ 8) (ha0 : 0 ≤ F 10 0) (ha8 : F 10 0 < 8) (hP : MA E σ0 o F) : Ctr l E yX9_leave (ws_ yX9_leave cX9_leave 3 (some .int)) 5 116 0 0 [.ref o, .int (iz z)] σ0 (fun v τ => ((nLeave w z).1 ≠ 0 → v = some (.int (iz 0)) ∧ MS E σ0 o τ (mThr (mNot (up2 F 0 0 0) (nLeave w z)) (nLeave w z).1)) ∧ ((nLeave w z).1 = 0 → v = some (.int (iz (wAllN (-1) (wLeave (wUp w 2 (w 2 + 1)) z)))) ∧ ME E σ0 o τ (mBeg (up2 F 0 0 0)) (wAllW (-1) (wLeave (wUp w 2 (w 2 + 1)) z)))) noX := by
  refine x_head (own := RX9) (cc := cX9_leave) (maxL := 3) (ret := (some .int)) (by decide) rfl rfl (Nat.le_of_ble_eq_true rfl) ?_
  intro p e s m args below meth c H ls hF hname htab hM hl
  have hx := hF.2.2.1
  have hb := hF.2.2.2.1
  have hL : Lc E [] := lcNil
  have hl : lh ls 3 ([(0, .ref o), (1, .int (iz z))]) := hl
  refine MS_gen hM (MS_0 hP) (fun σ hM hP => ?_)
  have hk2 := hk.2.1
  refine lv_aload_n hx hb dX9_leave_0 rfl (lk hl rfl) ?_
  refine x_iconst hF dX9_leave_1 ?_
  refine x_putfield hF (ci := 10) in_X9 rfl tyX9_ok nmX9 0 (by decide) q2251 (fun _ h => h) rfl hM hL (MA_ob hP.1) (ty := .int) (by decide +kernel) rfl rfl dX9_leave_2 (fun H locs hM hL => ?_)
  refine MS_gen hM (MS_p0 hM hP) (fun σ hM hP => ?_)
  refine lv_aload_n hx hb dX9_leave_5 rfl (lk hl rfl) ?_
  refine lv_iload_n hx hb dX9_leave_6 rfl (lk hl rfl) ?_
  refine x_kn hL (vx_runV (As := [_]) hF.2.2.2.2.2.2.2.2.2 ((mX9_notLeave hz (w := w) (by rw [up2_oth _ _ _ (by decide)]; exact hw) hk hP.1) hF.1) (cwV 1 hF.2.2.2.2.2.2.2.2.1 (lw_V q2516 q2518 qs83 q138 q2519) rfl rfl rfl (by decide +kernel) ⟨(Nat.le_of_ble_eq_true rfl), (Nat.le_of_ble_eq_true rfl)⟩) (x_preV hF hM (MA_ob hP.1) rfl) rfl rfl hl.1 rfl (lv_room (Nat.le_of_ble_eq_true rfl)) dX9_leave_7 ⟨(Nat.le_of_ble_eq_true rfl), (Nat.le_of_ble_eq_true rfl)⟩) ?_
  rintro _ τ7 H locs ⟨rfl, hp⟩ hM hL
  refine MS_gen hM (MS_t hP hp) (fun σ hM hP => ?_)
  have hrg := nLeave_r w z
  refine x_istore_n hF dX9_leave_10 rfl hl (by decide) rfl (fun ls hl => ?_)
  refine lv_iload_n hx hb dX9_leave_11 rfl (lk hl rfl) ?_
  refine x_if_eq (tgt := 21) hF dX9_leave_12 (by decide) (by first | assumption | (unfold inR; omega)) (fun c12 => ?_) (fun c12 => ?_)
  · skip
    have e0 : mNot (up2 F 0 0 0) (nLeave w z) = (up2 F 0 0 0) := by unfold mNot; rw [if_pos c12]
    rw [e0] at hP
    have hok := nLeave_ok c12
    refine lv_aload_n hx hb dX9_leave_21 rfl (lk hl rfl) ?_
    refine x_kn hL (vx_runV (As := []) hF.2.2.2.2.2.2.2.2.2 ((mX9_begins (F := (up2 F 0 0 0)) h90 h98 ha0 ha8 hP.1) hF.1) (cwV 0 hF.2.2.2.2.2.2.2.2.1 (lw_V q2353 q2355 qs50 q138 q2356) rfl rfl rfl (by decide +kernel) ⟨(Nat.le_of_ble_eq_true rfl), (Nat.le_of_ble_eq_true rfl)⟩) (x_preV hF hM (MA_ob hP.1) rfl) rfl rfl hl.1 rfl (lv_room (Nat.le_of_ble_eq_true rfl)) dX9_leave_22 ⟨(Nat.le_of_ble_eq_true rfl), (Nat.le_of_ble_eq_true rfl)⟩) ?_
    rintro _ τ22 H locs ⟨rfl, hp⟩ hM hL
    refine MS_gen hM (MS_t hP hp) (fun σ hM hP => ?_)
    have hwb : mBeg (up2 F 0 0 0) 5 = (wUp w 2 (w 2 + 1)) := by rw [mBeg_5, up2_oth _ _ _ (by decide), hw]
    have hkb : Wk (wUp w 2 (w 2 + 1)) := Wk_23 hk ⟨by omega, by omega⟩ (by omega)
    
    refine lv_aload_n hx hb dX9_leave_25 rfl (lk hl rfl) ?_
    refine lv_iload_n hx hb dX9_leave_26 rfl (lk hl rfl) ?_
    refine x_kn hL (vx_runV (As := [_]) hF.2.2.2.2.2.2.2.2.2 ((mX9_leaves (w := (wUp w 2 (w 2 + 1))) hwb hkb (by omega) (by rw [(wUp_o w (k := 2) (j := 1) (w 2 + 1) (by omega))]; omega) (by rw [(wUp_o w (k := 2) (j := 3) (w 2 + 1) (by omega))]; omega) hP.1) hF.1) (cwV 1 hF.2.2.2.2.2.2.2.2.1 (lw_V q2524 q2526 qs85 q138 q2527) rfl rfl rfl (by decide +kernel) ⟨(Nat.le_of_ble_eq_true rfl), (Nat.le_of_ble_eq_true rfl)⟩) (x_preV hF hM (MA_ob hP.1) rfl) rfl rfl hl.1 rfl (lv_room (Nat.le_of_ble_eq_true rfl)) dX9_leave_27 ⟨(Nat.le_of_ble_eq_true rfl), (Nat.le_of_ble_eq_true rfl)⟩) ?_
    rintro _ τ27 H locs ⟨rfl, hp⟩ hM hL
    obtain ⟨F1, hP, e5, eo⟩ := ME_t hP hp
    refine MS_gen hM hP (fun σ hM hP => ?_)
    exact x_ireturn hF hM hL rfl (Nat.le_of_ble_eq_true rfl) (Nat.le_of_ble_eq_true rfl) ⟨fun q => absurd c12 q, fun _ => ⟨rfl, _, hP, e5, eo⟩⟩ dX9_leave_30
  · skip
    refine lv_aload_n hx hb dX9_leave_15 rfl (lk hl rfl) ?_
    refine lv_iload_n hx hb dX9_leave_16 rfl (lk hl rfl) ?_
    refine x_kn hL (vx_runV (As := [_]) hF.2.2.2.2.2.2.2.2.2 ((mX9_throwsNow (by rw [mNot_3 _ _ c12]; unfold inR; omega) hP.1) hF.1) (cwV 1 hF.2.2.2.2.2.2.2.2.1 (lw_V q2345 q2347 qs48 q138 q2348) rfl rfl rfl (by decide +kernel) ⟨(Nat.le_of_ble_eq_true rfl), (Nat.le_of_ble_eq_true rfl)⟩) (x_preV hF hM (MA_ob hP.1) rfl) rfl rfl hl.1 rfl (lv_room (Nat.le_of_ble_eq_true rfl)) dX9_leave_17 ⟨(Nat.le_of_ble_eq_true rfl), (Nat.le_of_ble_eq_true rfl)⟩) ?_
    rintro _ τ17 H locs ⟨rfl, hp⟩ hM hL
    refine MS_gen hM (MS_t hP hp) (fun σ hM hP => ?_)
    exact x_ireturn hF hM hL rfl (Nat.le_of_ble_eq_true rfl) (Nat.le_of_ble_eq_true rfl) ⟨fun _ => ⟨rfl, hP⟩, fun q => absurd q c12⟩ dX9_leave_20
