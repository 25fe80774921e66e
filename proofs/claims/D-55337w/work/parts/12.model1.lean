set_option maxHeartbeats 4000000 in
set_option maxRecDepth 100000 in
/-- BakeryRingModel.thrown()I -/
theorem mX9_thrown {l : Launch} {E : En} {σ0 : Mm} {o : Nat} {F : Nat → Int → Int}  (hP : MA E σ0 o F) : Ctr l E yX9_thrown (ws_ yX9_thrown cX9_thrown 1 (some .int)) 0 0 0 0 [.ref o] σ0 (fun v τ => v = some (.int (iz (F 0 0))) ∧ τ = σ0) noX := by
  refine x_head (own := RX9) (cc := cX9_thrown) (maxL := 1) (ret := (some .int)) (by decide) rfl rfl (Nat.le_of_ble_eq_true rfl) ?_
  intro p e s m args below meth c H ls hF hname htab hM hl
  have hx := hF.2.2.1
  have hb := hF.2.2.2.1
  have hL : Lc E [] := lcNil
  have hl : lh ls 1 ([(0, .ref o)]) := hl
  refine lv_aload_n hx hb dX9_thrown_0 rfl (lk hl rfl) ?_
  refine x_getfield hF (ci := 10) in_X9 rfl 0 (by decide) q2251 (fun _ h => h) hM (MA_ob hP) (show rd _ _ _ = .int (iz (F 0 0)) from by have h9 := MA_s0 hP; exact h9) dX9_thrown_1 ?_
  exact x_ireturn hF hM hL rfl (Nat.le_of_ble_eq_true rfl) (Nat.le_of_ble_eq_true rfl) ⟨by first | rfl | rw [if_pos (by omega)] | rw [if_neg (by omega)], rfl⟩ dX9_thrown_4
set_option maxHeartbeats 4000000 in
set_option maxRecDepth 100000 in
/-- BakeryRingModel.isBetween(III)Z -/
theorem mX9_isBetween {l : Launch} {E : En} {σ0 : Mm} {z a b : Int} (hz : inR z) (ha : inR a) (hc : inR b) : Ctr l E yX9_isBetween (ws_ yX9_isBetween cX9_isBetween 3 (some .boolean)) 0 0 0 0 [.int (iz z), .int (iz a), .int (iz b)] σ0 (fun v τ => v = some (.int (iz (if a ≤ z ∧ z ≤ b then 1 else 0))) ∧ τ = σ0) noX := by
  refine x_head (own := RX9) (cc := cX9_isBetween) (maxL := 3) (ret := (some .boolean)) (by decide) rfl rfl (Nat.le_of_ble_eq_true rfl) ?_
  intro p e s m args below meth c H ls hF hname htab hM hl
  have hx := hF.2.2.1
  have hb := hF.2.2.2.1
  have hL : Lc E [] := lcNil
  have hl : lh ls 3 ([(0, .int (iz z)), (1, .int (iz a)), (2, .int (iz b))]) := hl
  refine lv_iload_n hx hb dX9_isBetween_0 rfl (lk hl rfl) ?_
  refine lv_iload_n hx hb dX9_isBetween_1 rfl (lk hl rfl) ?_
  refine x_icmp_gt (tgt := 14) hF dX9_isBetween_2 (by decide) (by assumption) (by assumption) (fun c2 => ?_) (fun c2 => ?_)
  · skip
    refine x_iconst hF dX9_isBetween_14 ?_
    exact x_ireturn hF hM hL (by rfl) (Nat.le_of_ble_eq_true rfl) (Nat.le_of_ble_eq_true rfl) ⟨by first | rfl | rw [if_pos (by omega)] | rw [if_neg (by omega)], rfl⟩ dX9_isBetween_15
  · skip
    refine lv_iload_n hx hb dX9_isBetween_5 rfl (lk hl rfl) ?_
    refine lv_iload_n hx hb dX9_isBetween_6 rfl (lk hl rfl) ?_
    refine x_icmp_gt (tgt := 14) hF dX9_isBetween_7 (by decide) (by assumption) (by assumption) (fun c7 => ?_) (fun c7 => ?_)
    · skip
      refine x_iconst hF dX9_isBetween_14 ?_
      exact x_ireturn hF hM hL (by rfl) (Nat.le_of_ble_eq_true rfl) (Nat.le_of_ble_eq_true rfl) ⟨by first | rfl | rw [if_pos (by omega)] | rw [if_neg (by omega)], rfl⟩ dX9_isBetween_15
    · skip
      refine x_iconst hF dX9_isBetween_10 ?_
      refine x_goto (tgt := 15) hF dX9_isBetween_11 (by decide) ?_
      exact x_ireturn hF hM hL (by rfl) (Nat.le_of_ble_eq_true rfl) (Nat.le_of_ble_eq_true rfl) ⟨by first | rfl | rw [if_pos (by omega)] | rw [if_neg (by omega)], rfl⟩ dX9_isBetween_15
set_option maxHeartbeats 4000000 in
set_option maxRecDepth 100000 in
/-- BakeryRingModel.fails(I)I -/
theorem mX9_fails {l : Launch} {E : En} {σ0 : Mm} {o : Nat} {F : Nat → Int → Int} {z : Int} (hP : MA E σ0 o F) : Ctr l E yX9_fails (ws_ yX9_fails cX9_fails 2 (some .int)) 0 0 0 0 [.ref o, .int (iz z)] σ0 (fun v τ => v = some (.int (iz (0))) ∧ MS E σ0 o τ (up2 F 0 0 z)) noX := by
  refine x_head (own := RX9) (cc := cX9_fails) (maxL := 2) (ret := (some .int)) (by decide) rfl rfl (Nat.le_of_ble_eq_true rfl) ?_
  intro p e s m args below meth c H ls hF hname htab hM hl
  have hx := hF.2.2.1
  have hb := hF.2.2.2.1
  have hL : Lc E [] := lcNil
  have hl : lh ls 2 ([(0, .ref o), (1, .int (iz z))]) := hl
  refine MS_gen hM (MS_0 hP) (fun σ hM hP => ?_)
  refine lv_aload_n hx hb dX9_fails_0 rfl (lk hl rfl) ?_
  refine lv_iload_n hx hb dX9_fails_1 rfl (lk hl rfl) ?_
  refine x_putfield hF (ci := 10) in_X9 rfl tyX9_ok nmX9 0 (by decide) q2251 (fun _ h => h) rfl hM hL (MA_ob hP.1) (ty := .int) (by decide +kernel) rfl rfl dX9_fails_2 (fun H locs hM hL => ?_)
  refine MS_gen hM (MS_p0 hM hP) (fun σ hM hP => ?_)
  refine x_iconst hF dX9_fails_5 ?_
  exact x_ireturn hF hM hL rfl (Nat.le_of_ble_eq_true rfl) (Nat.le_of_ble_eq_true rfl) ⟨rfl, hP⟩ dX9_fails_6
set_option maxHeartbeats 4000000 in
set_option maxRecDepth 100000 in
/-- BakeryRingModel.isNot(III)I -/
theorem mX9_isNot {l : Launch} {E : En} {σ0 : Mm} {o : Nat} {F : Nat → Int → Int} {z a b : Int} (hP : MA E σ0 o F) : Ctr l E yX9_isNot (ws_ yX9_isNot cX9_isNot 4 (some .int)) 0 0 0 0 [.ref o, .int (iz z), .int (iz a), .int (iz b)] σ0 (fun v τ => v = some (.int (iz (z))) ∧ MS E σ0 o τ (up2 (up2 F 3 0 a) 4 0 b)) noX := by
  refine x_head (own := RX9) (cc := cX9_isNot) (maxL := 4) (ret := (some .int)) (by decide) rfl rfl (Nat.le_of_ble_eq_true rfl) ?_
  intro p e s m args below meth c H ls hF hname htab hM hl
  have hx := hF.2.2.1
  have hb := hF.2.2.2.1
  have hL : Lc E [] := lcNil
  have hl : lh ls 4 ([(0, .ref o), (1, .int (iz z)), (2, .int (iz a)), (3, .int (iz b))]) := hl
  refine MS_gen hM (MS_0 hP) (fun σ hM hP => ?_)
  refine lv_aload_n hx hb dX9_isNot_0 rfl (lk hl rfl) ?_
  refine lv_iload_n hx hb dX9_isNot_1 rfl (lk hl rfl) ?_
  refine x_putfield hF (ci := 10) in_X9 rfl tyX9_ok nmX9 3 (by decide) q2254 (fun _ h => h) rfl hM hL (MA_ob hP.1) (ty := .int) (by decide +kernel) rfl rfl dX9_isNot_2 (fun H locs hM hL => ?_)
  refine MS_gen hM (MS_p3 hM hP) (fun σ hM hP => ?_)
  refine lv_aload_n hx hb dX9_isNot_5 rfl (lk hl rfl) ?_
  refine lv_iload_n hx hb dX9_isNot_6 rfl (lk hl rfl) ?_
  refine x_putfield hF (ci := 10) in_X9 rfl tyX9_ok nmX9 4 (by decide) q2255 (fun _ h => h) rfl hM hL (MA_ob hP.1) (ty := .int) (by decide +kernel) rfl rfl dX9_isNot_7 (fun H locs hM hL => ?_)
  refine MS_gen hM (MS_p4 hM hP) (fun σ hM hP => ?_)
  refine lv_iload_n hx hb dX9_isNot_10 rfl (lk hl rfl) ?_
  exact x_ireturn hF hM hL rfl (Nat.le_of_ble_eq_true rfl) (Nat.le_of_ble_eq_true rfl) ⟨rfl, hP⟩ dX9_isNot_11
set_option maxHeartbeats 4000000 in
set_option maxRecDepth 100000 in
/-- BakeryRingModel.isOther(I)I -/
theorem mX9_isOther {l : Launch} {E : En} {σ0 : Mm} {o : Nat} {F : Nat → Int → Int} {z : Int} (hP : MA E σ0 o F) : Ctr l E yX9_isOther (ws_ yX9_isOther cX9_isOther 2 (some .int)) 0 0 0 0 [.ref o, .int (iz z)] σ0 (fun v τ => v = some (.int (iz (z))) ∧ MS E σ0 o τ (up2 F 3 0 0)) noX := by
  refine x_head (own := RX9) (cc := cX9_isOther) (maxL := 2) (ret := (some .int)) (by decide) rfl rfl (Nat.le_of_ble_eq_true rfl) ?_
  intro p e s m args below meth c H ls hF hname htab hM hl
  have hx := hF.2.2.1
  have hb := hF.2.2.2.1
  have hL : Lc E [] := lcNil
  have hl : lh ls 2 ([(0, .ref o), (1, .int (iz z))]) := hl
  refine MS_gen hM (MS_0 hP) (fun σ hM hP => ?_)
  refine lv_aload_n hx hb dX9_isOther_0 rfl (lk hl rfl) ?_
  refine x_iconst hF dX9_isOther_1 ?_
  refine x_putfield hF (ci := 10) in_X9 rfl tyX9_ok nmX9 3 (by decide) q2254 (fun _ h => h) rfl hM hL (MA_ob hP.1) (ty := .int) (by decide +kernel) rfl rfl dX9_isOther_2 (fun H locs hM hL => ?_)
  refine MS_gen hM (MS_p3 hM hP) (fun σ hM hP => ?_)
  refine lv_iload_n hx hb dX9_isOther_5 rfl (lk hl rfl) ?_
  exact x_ireturn hF hM hL rfl (Nat.le_of_ble_eq_true rfl) (Nat.le_of_ble_eq_true rfl) ⟨rfl, hP⟩ dX9_isOther_6
set_option maxHeartbeats 4000000 in
set_option maxRecDepth 100000 in
/-- BakeryRingModel.keepsAt(III)V -/
theorem mX9_keepsAt {l : Launch} {E : En} {σ0 : Mm} {o : Nat} {F : Nat → Int → Int} {z a b : Int} (h0 : 0 ≤ z) (h1 : z < 2) (hP : MA E σ0 o F) : Ctr l E yX9_keepsAt (ws_ yX9_keepsAt cX9_keepsAt 4 none) 0 0 0 0 [.ref o, .int (iz z), .int (iz a), .int (iz b)] σ0 (fun v τ => v = none ∧ MS E σ0 o τ (up2 (up2 F 1 z a) 2 z b)) noX := by
  refine x_head (own := RX9) (cc := cX9_keepsAt) (maxL := 4) (ret := none) (by decide) rfl rfl (Nat.le_of_ble_eq_true rfl) ?_
  intro p e s m args below meth c H ls hF hname htab hM hl
  have hx := hF.2.2.1
  have hb := hF.2.2.2.1
  have hL : Lc E [] := lcNil
  have hl : lh ls 4 ([(0, .ref o), (1, .int (iz z)), (2, .int (iz a)), (3, .int (iz b))]) := hl
  refine MS_gen hM (MS_0 hP) (fun σ hM hP => ?_)
  refine lv_aload_n hx hb dX9_keepsAt_0 rfl (lk hl rfl) ?_
  refine x_getfield hF (ci := 10) in_X9 rfl 1 (by decide) q2252 (fun _ h => h) hM (MA_ob hP.1) (MA_f1 hP.1) dX9_keepsAt_1 ?_
  refine lv_iload_n hx hb dX9_keepsAt_4 rfl (lk hl rfl) ?_
  refine lv_iload_n hx hb dX9_keepsAt_5 rfl (lk hl rfl) ?_
  refine x_iast hF hM hL (MA_a1 hP.1) (by omega) (by omega) (by decide) dX9_keepsAt_6 (fun H locs hM hL => ?_)
  refine MS_gen hM (MS_q1 hM hP (by omega)) (fun σ hM hP => ?_)
  refine lv_aload_n hx hb dX9_keepsAt_7 rfl (lk hl rfl) ?_
  refine x_getfield hF (ci := 10) in_X9 rfl 2 (by decide) q2253 (fun _ h => h) hM (MA_ob hP.1) (MA_f2 hP.1) dX9_keepsAt_8 ?_
  refine lv_iload_n hx hb dX9_keepsAt_11 rfl (lk hl rfl) ?_
  refine lv_iload_n hx hb dX9_keepsAt_12 rfl (lk hl rfl) ?_
  refine x_iast hF hM hL (MA_a2 hP.1) (by omega) (by omega) (by decide) dX9_keepsAt_13 (fun H locs hM hL => ?_)
  refine MS_gen hM (MS_q2 hM hP (by omega)) (fun σ hM hP => ?_)
  exact x_return hF hM hL (Nat.le_of_ble_eq_true rfl) (Nat.le_of_ble_eq_true rfl) ⟨rfl, hP⟩ dX9_keepsAt_14
set_option maxHeartbeats 4000000 in
set_option maxRecDepth 100000 in
/-- BakeryRingModel.isAngle(I)Z -/
theorem mX9_isAngle {l : Launch} {E : En} {σ0 : Mm} {z : Int} (hz : inR z) : Ctr l E yX9_isAngle (ws_ yX9_isAngle cX9_isAngle 1 (some .boolean)) 1 22 0 0 [.int (iz z)] σ0 (fun v τ => v = some (.int (iz (if 0 ≤ z ∧ z ≤ 359 then 1 else 0))) ∧ τ = σ0) noX := by
  refine x_head (own := RX9) (cc := cX9_isAngle) (maxL := 1) (ret := (some .boolean)) (by decide) rfl rfl (Nat.le_of_ble_eq_true rfl) ?_
  intro p e s m args below meth c H ls hF hname htab hM hl
  have hx := hF.2.2.1
  have hb := hF.2.2.2.1
  have hL : Lc E [] := lcNil
  have hl : lh ls 1 ([(0, .int (iz z))]) := hl
  refine lv_iload_n hx hb dX9_isAngle_0 rfl (lk hl rfl) ?_
  refine x_iconst hF dX9_isAngle_1 ?_
  refine x_sipush hF (by decide) dX9_isAngle_2 ?_
  refine x_kp hL (vx_runS (As := [_, _, _]) hF.2.2.2.2.2.2.2.2.2 ((mX9_isBetween hz ⟨by omega, by omega⟩ ⟨by omega, by omega⟩) hF.1) (va_cwS 3 hF.2.2.2.2.2.2.2.2.1 (lw_S q2334 q2335 q138 q2336) rfl rfl rfl (by decide +kernel) ⟨(Nat.le_of_ble_eq_true rfl), (Nat.le_of_ble_eq_true rfl)⟩) (x_preS hF hM) rfl rfl hl.1 rfl (lv_room (Nat.le_of_ble_eq_true rfl)) dX9_isAngle_5 ⟨(Nat.le_of_ble_eq_true rfl), (Nat.le_of_ble_eq_true rfl)⟩) (fun H locs hM hL => ?_)
  exact x_ireturn hF hM hL nar_b (Nat.le_of_ble_eq_true rfl) (Nat.le_of_ble_eq_true rfl) ⟨by first | rfl | rw [if_pos (by omega)] | rw [if_neg (by omega)], rfl⟩ dX9_isAngle_8
set_option maxHeartbeats 4000000 in
set_option maxRecDepth 100000 in
/-- BakeryRingModel.isBakery(I)Z -/
theorem mX9_isBakery {l : Launch} {E : En} {σ0 : Mm} {o : Nat} {F : Nat → Int → Int} {w : Int → Int} (hw : F 5 = w) {z : Int} (hz : inR z) (hR : Rg w) (hP : MA E σ0 o F) : Ctr l E yX9_isBakery (ws_ yX9_isBakery cX9_isBakery 2 (some .boolean)) 1 22 0 0 [.ref o, .int (iz z)] σ0 (fun v τ => v = some (.int (iz (if 0 ≤ z ∧ z ≤ w 0 - 1 then 1 else 0))) ∧ τ = σ0) noX := by
  subst hw
  refine x_head (own := RX9) (cc := cX9_isBakery) (maxL := 2) (ret := (some .boolean)) (by decide) rfl rfl (Nat.le_of_ble_eq_true rfl) ?_
  intro p e s m args below meth c H ls hF hname htab hM hl
  have hx := hF.2.2.1
  have hb := hF.2.2.2.1
  have hL : Lc E [] := lcNil
  have hl : lh ls 2 ([(0, .ref o), (1, .int (iz z))]) := hl
  refine lv_iload_n hx hb dX9_isBakery_0 rfl (lk hl rfl) ?_
  refine x_iconst hF dX9_isBakery_1 ?_
  refine lv_aload_n hx hb dX9_isBakery_2 rfl (lk hl rfl) ?_
  refine x_getfield hF (ci := 10) in_X9 rfl 5 (by decide) q2256 (fun _ h => h) hM (MA_ob hP) (MA_f5 hP) dX9_isBakery_3 ?_
  refine x_iconst hF dX9_isBakery_6 ?_
  refine x_iald hF hM (MA_a5 hP) (by omega) (by omega) (by decide) (show rd _ _ _ = .int (iz (F 5 _)) from by have h9 := MA_r5 hP; exact h9 _ (by omega) (by omega)) dX9_isBakery_7 ?_
  refine x_iconst hF dX9_isBakery_8 ?_
  refine x_isub hF dX9_isBakery_9 ?_
  refine x_kp hL (vx_runS (As := [_, _, _]) hF.2.2.2.2.2.2.2.2.2 ((mX9_isBetween hz ⟨by omega, by omega⟩ (by have := hR 0; unfold inR; omega)) hF.1) (va_cwS 3 hF.2.2.2.2.2.2.2.2.1 (lw_S q2334 q2335 q138 q2336) rfl rfl rfl (by decide +kernel) ⟨(Nat.le_of_ble_eq_true rfl), (Nat.le_of_ble_eq_true rfl)⟩) (x_preS hF hM) rfl rfl hl.1 rfl (lv_room (Nat.le_of_ble_eq_true rfl)) dX9_isBakery_10 ⟨(Nat.le_of_ble_eq_true rfl), (Nat.le_of_ble_eq_true rfl)⟩) (fun H locs hM hL => ?_)
  exact x_ireturn hF hM hL nar_b (Nat.le_of_ble_eq_true rfl) (Nat.le_of_ble_eq_true rfl) ⟨by first | rfl | rw [if_pos (by omega)] | rw [if_neg (by omega)], rfl⟩ dX9_isBakery_13
