set_option maxHeartbeats 4000000 in
set_option maxRecDepth 100000 in
/-- BakeryRingModel.append(C)I -/
theorem mX9_append {l : Launch} {E : En} {σ0 : Mm} {o : Nat} {F : Nat → Int → Int} {z L : Int} (hz0 : 0 ≤ z) (hz1 : z ≤ 65535) (hl : F 15 0 = L) (hL0 : 0 ≤ L) (hL1 : L ≤ 60) (hP : MA E σ0 o F) : Ctr l E yX9_append (ws_ yX9_append cX9_append 2 (some .int)) 1 22 0 0 [.ref o, .int (iz z)] σ0 (fun v τ => (¬ (32 ≤ z ∧ z ≤ 126) → v = some (.int (iz 0)) ∧ QE E σ0 o τ F 1) ∧ ((32 ≤ z ∧ z ≤ 126) → L = 60 → v = some (.int (iz 0)) ∧ QE E σ0 o τ F 2) ∧ ((32 ≤ z ∧ z ≤ 126) → L ≠ 60 → v = some (.int (iz (L + 1))) ∧ MS E σ0 o τ (up2 (up2 (up2 F 0 0 0) 14 L z) 15 0 (L + 1)))) noX := by
  subst hl
  refine x_head (own := RX9) (cc := cX9_append) (maxL := 2) (ret := (some .int)) (by decide) rfl rfl (Nat.le_of_ble_eq_true rfl) ?_
  intro p e s m args below meth c H ls hF hname htab hM hl
  have hx := hF.2.2.1
  have hb := hF.2.2.2.1
  have hL : Lc E [] := lcNil
  have hl : lh ls 2 ([(0, .ref o), (1, .int (iz z))]) := hl
  refine MS_gen hM (MS_0 hP) (fun σ hM hP => ?_)
  refine lv_aload_n hx hb dX9_append_0 rfl (lk hl rfl) ?_
  refine x_iconst hF dX9_append_1 ?_
  refine x_putfield hF (ci := 10) in_X9 rfl tyX9_ok nmX9 0 (by decide) q2251 (fun _ h => h) rfl hM hL (MA_ob hP.1) (ty := .int) (by decide +kernel) rfl rfl dX9_append_2 (fun H locs hM hL => ?_)
  refine MS_gen hM (MS_p0 hM hP) (fun σ hM hP => ?_)
  refine lv_iload_n hx hb dX9_append_5 rfl (lk hl rfl) ?_
  refine x_bipush hF (by decide) dX9_append_6 ?_
  refine x_bipush hF (by decide) dX9_append_8 ?_
  refine x_kp hL (vx_runS (As := [_, _, _]) hF.2.2.2.2.2.2.2.2.2 ((mX9_isBetween (by unfold inR; omega) ⟨by omega, by omega⟩ ⟨by omega, by omega⟩) hF.1) (va_cwS 3 hF.2.2.2.2.2.2.2.2.1 (lw_S q2334 q2335 q138 q2336) rfl rfl rfl (by decide +kernel) ⟨(Nat.le_of_ble_eq_true rfl), (Nat.le_of_ble_eq_true rfl)⟩) (x_preS hF hM) rfl rfl hl.1 rfl (lv_room (Nat.le_of_ble_eq_true rfl)) dX9_append_10 ⟨(Nat.le_of_ble_eq_true rfl), (Nat.le_of_ble_eq_true rfl)⟩) (fun H locs hM hL => ?_)
  refine x_ifne_b (tgt := 22) hF dX9_append_13 (by decide) (fun c13 => ?_) (fun c13 => ?_)
  · skip
    refine lv_aload_n hx hb dX9_append_22 rfl (lk hl rfl) ?_
    refine x_getfield hF (ci := 10) in_X9 rfl 15 (by decide) q2266 (fun _ h => h) hM (MA_ob hP.1) (show rd _ _ _ = .int (iz (F 15 0)) from by have h9 := MA_s15 hP.1; exact h9) dX9_append_23 ?_
    refine x_bipush hF (by decide) dX9_append_26 ?_
    refine x_icmp_ne (tgt := 37) hF dX9_append_28 (by decide) (by first | assumption | (unfold inR; omega)) (by first | assumption | (unfold inR; omega)) (fun c28 => ?_) (fun c28 => ?_)
    · skip
      refine lv_aload_n hx hb dX9_append_37 rfl (lk hl rfl) ?_
      refine x_getfield hF (ci := 10) in_X9 rfl 14 (by decide) q2265 (fun _ h => h) hM (MA_ob hP.1) (MA_f14 hP.1) dX9_append_38 ?_
      refine lv_aload_n hx hb dX9_append_41 rfl (lk hl rfl) ?_
      refine x_getfield hF (ci := 10) in_X9 rfl 15 (by decide) q2266 (fun _ h => h) hM (MA_ob hP.1) (show rd _ _ _ = .int (iz (F 15 0)) from by have h9 := MA_s15 hP.1; exact h9) dX9_append_42 ?_
      refine lv_iload_n hx hb dX9_append_45 rfl (lk hl rfl) ?_
      refine x_cast hF hM hL (MA_a14 hP.1) (by omega) (by omega) (by decide) (nar_c (by omega) (by omega)) dX9_append_46 (fun H locs hM hL => ?_)
      refine MS_gen hM (MS_q14 hM hP (by omega)) (fun σ hM hP => ?_)
      refine lv_aload_n hx hb dX9_append_47 rfl (lk hl rfl) ?_
      refine lv_dup hx hb dX9_append_48 rfl ?_
      refine x_getfield hF (ci := 10) in_X9 rfl 15 (by decide) q2266 (fun _ h => h) hM (MA_ob hP.1) (show rd _ _ _ = .int (iz (F 15 0)) from by have h9 := MA_s15 hP.1; exact h9) dX9_append_49 ?_
      refine x_iconst hF dX9_append_52 ?_
      refine x_iadd hF dX9_append_53 ?_
      refine x_putfield hF (ci := 10) in_X9 rfl tyX9_ok nmX9 15 (by decide) q2266 (fun _ h => h) rfl hM hL (MA_ob hP.1) (ty := .int) (by decide +kernel) rfl rfl dX9_append_54 (fun H locs hM hL => ?_)
      refine MS_gen hM (MS_p15 hM hP) (fun σ hM hP => ?_)
      refine lv_aload_n hx hb dX9_append_57 rfl (lk hl rfl) ?_
      refine x_getfield hF (ci := 10) in_X9 rfl 15 (by decide) q2266 (fun _ h => h) hM (MA_ob hP.1) (show rd _ _ _ = .int (iz (F 15 0 + 1)) from by have h9 := MA_s15 hP.1; exact h9) dX9_append_58 ?_
      exact x_ireturn hF hM hL rfl (Nat.le_of_ble_eq_true rfl) (Nat.le_of_ble_eq_true rfl) ⟨fun q => by omega, fun _ q => by omega, fun _ _ => ⟨rfl, hP⟩⟩ dX9_append_61
    · skip
      refine lv_aload_n hx hb dX9_append_31 rfl (lk hl rfl) ?_
      refine x_iconst hF dX9_append_32 ?_
      refine x_kn hL (vx_runV (As := [_]) hF.2.2.2.2.2.2.2.2.2 ((mX9_fails hP.1) hF.1) (cwV 1 hF.2.2.2.2.2.2.2.2.1 (lw_V q2337 q2339 qs46 q138 q2340) rfl rfl rfl (by decide +kernel) ⟨(Nat.le_of_ble_eq_true rfl), (Nat.le_of_ble_eq_true rfl)⟩) (x_preV hF hM (MA_ob hP.1) rfl) rfl rfl hl.1 rfl (lv_room (Nat.le_of_ble_eq_true rfl)) dX9_append_33 ⟨(Nat.le_of_ble_eq_true rfl), (Nat.le_of_ble_eq_true rfl)⟩) ?_
      rintro _ τ33 H locs ⟨rfl, hp⟩ hM hL
      refine MS_gen hM (MS_t hP hp) (fun σ hM hP => ?_)
      exact x_ireturn hF hM hL rfl (Nat.le_of_ble_eq_true rfl) (Nat.le_of_ble_eq_true rfl) ⟨fun q => by omega, fun _ _ => ⟨rfl, QE_1 hP⟩, fun _ q => by omega⟩ dX9_append_36
  · skip
    refine lv_aload_n hx hb dX9_append_16 rfl (lk hl rfl) ?_
    refine x_iconst hF dX9_append_17 ?_
    refine x_kn hL (vx_runV (As := [_]) hF.2.2.2.2.2.2.2.2.2 ((mX9_fails hP.1) hF.1) (cwV 1 hF.2.2.2.2.2.2.2.2.1 (lw_V q2337 q2339 qs46 q138 q2340) rfl rfl rfl (by decide +kernel) ⟨(Nat.le_of_ble_eq_true rfl), (Nat.le_of_ble_eq_true rfl)⟩) (x_preV hF hM (MA_ob hP.1) rfl) rfl rfl hl.1 rfl (lv_room (Nat.le_of_ble_eq_true rfl)) dX9_append_18 ⟨(Nat.le_of_ble_eq_true rfl), (Nat.le_of_ble_eq_true rfl)⟩) ?_
    rintro _ τ18 H locs ⟨rfl, hp⟩ hM hL
    refine MS_gen hM (MS_t hP hp) (fun σ hM hP => ?_)
    exact x_ireturn hF hM hL rfl (Nat.le_of_ble_eq_true rfl) (Nat.le_of_ble_eq_true rfl) ⟨fun _ => ⟨rfl, QE_1 hP⟩, fun q => by omega, fun q => by omega⟩ dX9_append_21
set_option maxHeartbeats 4000000 in
set_option maxRecDepth 100000 in
/-- BakeryRingModel.letter()I -/
theorem mX9_letter {l : Launch} {E : En} {σ0 : Mm} {o : Nat} {F : Nat → Int → Int} {t : Int → Int} {L x : Int} (htx : F 14 = t) (hln : F 15 0 = L) (hps : F 16 0 = x) (hTx : Tx t L) (x0 : 0 ≤ x) (x1 : x ≤ L) (hP : MA E σ0 o F) : Ctr l E yX9_letter (ws_ yX9_letter cX9_letter 1 (some .int)) 0 0 0 0 [.ref o] σ0 (fun v τ => v = some (.int (iz (lt t L x))) ∧ τ = σ0) noX := by
  refine x_head (own := RX9) (cc := cX9_letter) (maxL := 1) (ret := (some .int)) (by decide) rfl rfl (Nat.le_of_ble_eq_true rfl) ?_
  intro p e s m args below meth c H ls hF hname htab hM hl
  have hx := hF.2.2.1
  have hb := hF.2.2.2.1
  have hL : Lc E [] := lcNil
  have hl : lh ls 1 ([(0, .ref o)]) := hl
  have hx1 := hTx.2
  refine lv_aload_n hx hb dX9_letter_0 rfl (lk hl rfl) ?_
  refine x_getfield hF (ci := 10) in_X9 rfl 16 (by decide) q2267 (fun _ h => h) hM (MA_ob hP) (show rd _ _ _ = .int (iz (x)) from by have h9 := MA_s16 hP; rw [hps] at h9; exact h9) dX9_letter_1 ?_
  refine lv_aload_n hx hb dX9_letter_4 rfl (lk hl rfl) ?_
  refine x_getfield hF (ci := 10) in_X9 rfl 15 (by decide) q2266 (fun _ h => h) hM (MA_ob hP) (show rd _ _ _ = .int (iz (L)) from by have h9 := MA_s15 hP; rw [hln] at h9; exact h9) dX9_letter_5 ?_
  refine x_icmp_ge (tgt := 23) hF dX9_letter_8 (by decide) (by unfold inR; omega) (by unfold inR; omega) (fun c8 => ?_) (fun c8 => ?_)
  · skip
    refine x_iconst hF dX9_letter_23 ?_
    exact x_ireturn hF hM hL rfl (Nat.le_of_ble_eq_true rfl) (Nat.le_of_ble_eq_true rfl) ⟨by unfold lt; first | rw [if_pos (by omega)] | rw [if_neg (by omega)], rfl⟩ dX9_letter_24
  · skip
    refine lv_aload_n hx hb dX9_letter_11 rfl (lk hl rfl) ?_
    refine x_getfield hF (ci := 10) in_X9 rfl 14 (by decide) q2265 (fun _ h => h) hM (MA_ob hP) (MA_f14 hP) dX9_letter_12 ?_
    refine lv_aload_n hx hb dX9_letter_15 rfl (lk hl rfl) ?_
    refine x_getfield hF (ci := 10) in_X9 rfl 16 (by decide) q2267 (fun _ h => h) hM (MA_ob hP) (show rd _ _ _ = .int (iz (x)) from by have h9 := MA_s16 hP; rw [hps] at h9; exact h9) dX9_letter_16 ?_
    refine x_cald hF hM (MA_a14 hP) (by omega) (by omega) (by decide) (show rd _ _ _ = .int (iz (t _)) from by have h9 := MA_r14 hP; rw [htx] at h9; exact h9 _ (by omega) (by omega)) dX9_letter_19 ?_
    refine x_goto (tgt := 24) hF dX9_letter_20 (by decide) ?_
    exact x_ireturn hF hM hL rfl (Nat.le_of_ble_eq_true rfl) (Nat.le_of_ble_eq_true rfl) ⟨by unfold lt; first | rw [if_pos (by omega)] | rw [if_neg (by omega)], rfl⟩ dX9_letter_24
set_option maxHeartbeats 4000000 in
set_option maxRecDepth 100000 in
/-- BakeryRingModel.reads(I)Z -/
theorem mX9_reads {l : Launch} {E : En} {σ0 : Mm} {o : Nat} {F : Nat → Int → Int} {z : Int} (hz : inR z) {t : Int → Int} {L x : Int} (htx : F 14 = t) (hln : F 15 0 = L) (hps : F 16 0 = x) (hTx : Tx t L) (x0 : 0 ≤ x) (x1 : x ≤ L) (hP : MA E σ0 o F) : Ctr l E yX9_reads (ws_ yX9_reads cX9_reads 2 (some .boolean)) 1 20 0 0 [.ref o, .int (iz z)] σ0 (fun v τ => v = some (.int (iz (if lt t L x = z then 1 else 0))) ∧ RP E σ0 o τ F (if lt t L x = z then x + 1 else x)) noX := by
  refine x_head (own := RX9) (cc := cX9_reads) (maxL := 2) (ret := (some .boolean)) (by decide) rfl rfl (Nat.le_of_ble_eq_true rfl) ?_
  intro p e s m args below meth c H ls hF hname htab hM hl
  have hx := hF.2.2.1
  have hb := hF.2.2.2.1
  have hL : Lc E [] := lcNil
  have hl : lh ls 2 ([(0, .ref o), (1, .int (iz z))]) := hl
  refine MS_gen hM (MS_0 hP) (fun σ hM hP => ?_)
  refine lv_aload_n hx hb dX9_reads_0 rfl (lk hl rfl) ?_
  refine x_kp hL (vx_runV (As := []) hF.2.2.2.2.2.2.2.2.2 ((mX9_letter (t := t) (L := L) (x := x) htx hln hps hTx x0 x1 hP.1) hF.1) (cwV 0 hF.2.2.2.2.2.2.2.2.1 (lw_V q2651 q2653 qs97 q138 q2654) rfl rfl rfl (by decide +kernel) ⟨(Nat.le_of_ble_eq_true rfl), (Nat.le_of_ble_eq_true rfl)⟩) (x_preV hF hM (MA_ob hP.1) rfl) rfl rfl hl.1 rfl (lv_room (Nat.le_of_ble_eq_true rfl)) dX9_reads_1 ⟨(Nat.le_of_ble_eq_true rfl), (Nat.le_of_ble_eq_true rfl)⟩) (fun H locs hM hL => ?_)
  refine lv_iload_n hx hb dX9_reads_4 rfl (lk hl rfl) ?_
  have hlr := lt_r hTx x
  refine x_icmp_eq (tgt := 10) hF dX9_reads_5 (by decide) (by first | assumption | (unfold inR; omega)) (by first | assumption | (unfold inR; omega)) (fun c5 => ?_) (fun c5 => ?_)
  · skip
    refine lv_aload_n hx hb dX9_reads_10 rfl (lk hl rfl) ?_
    refine lv_dup hx hb dX9_reads_11 rfl ?_
    refine x_getfield hF (ci := 10) in_X9 rfl 16 (by decide) q2267 (fun _ h => h) hM (MA_ob hP.1) (show rd _ _ _ = .int (iz (x)) from by have h9 := MA_s16 hP.1; rw [hps] at h9; exact h9) dX9_reads_12 ?_
    refine x_iconst hF dX9_reads_15 ?_
    refine x_iadd hF dX9_reads_16 ?_
    refine x_putfield hF (ci := 10) in_X9 rfl tyX9_ok nmX9 16 (by decide) q2267 (fun _ h => h) rfl hM hL (MA_ob hP.1) (ty := .int) (by decide +kernel) rfl rfl dX9_reads_17 (fun H locs hM hL => ?_)
    refine MS_gen hM (MS_p16 hM hP) (fun σ hM hP => ?_)
    refine x_iconst hF dX9_reads_20 ?_
    exact x_ireturn hF hM hL (by rfl) (Nat.le_of_ble_eq_true rfl) (Nat.le_of_ble_eq_true rfl) ⟨by rw [if_pos c5], _, hP, by rw [if_pos c5, up2_s], fun f a => up2_oth _ _ _ a⟩ dX9_reads_21
  · skip
    refine x_iconst hF dX9_reads_8 ?_
    exact x_ireturn hF hM hL (by rfl) (Nat.le_of_ble_eq_true rfl) (Nat.le_of_ble_eq_true rfl) ⟨by rw [if_neg c5], _, hP, by rw [if_neg c5]; exact hps, fun _ _ => rfl⟩ dX9_reads_9
set_option maxHeartbeats 4000000 in
set_option maxRecDepth 100000 in
/-- BakeryRingModel.readsNumber(II)Z -/
theorem mX9_readsNumber {l : Launch} {E : En} {σ0 : Mm} {o : Nat} {F : Nat → Int → Int} {z a : Int} (hz0 : 0 ≤ z) (hz1 : z ≤ 1) (ha0 : 1 ≤ a) (ha1 : a ≤ 3) {t : Int → Int} {L x : Int} (htx : F 14 = t) (hln : F 15 0 = L) (hps : F 16 0 = x) (hTx : Tx t L) (x0 : 0 ≤ x) (x1 : x ≤ L) (hP : MA E σ0 o F) : Ctr l E yX9_readsNumber (ws_ yX9_readsNumber cX9_readsNumber 4 (some .boolean)) 2 41 0 0 [.ref o, .int (iz z), .int (iz a)] σ0 (fun v τ => v = some (.int (iz (if (pNum t L x a).1 = 1 then 1 else 0))) ∧ RN E σ0 o τ F z (pNum t L x a)) noX := by
  refine x_head (own := RX9) (cc := cX9_readsNumber) (maxL := 4) (ret := (some .boolean)) (by decide) rfl rfl (Nat.le_of_ble_eq_true rfl) ?_
  intro p e s m args below meth c H ls hF hname htab hM hl
  have hx := hF.2.2.1
  have hb := hF.2.2.2.1
  have hL : Lc E [] := lcNil
  have hl : lh ls 4 ([(0, .ref o), (1, .int (iz z)), (2, .int (iz a))]) := hl
  refine MS_gen hM (MS_0 hP) (fun σ hM hP => ?_)
  have hx1 := hTx.2
  have eo : ∀ f : Nat, f ≠ 16 → F f = F f := fun _ _ => rfl
  have ep := hps
  
  refine lv_aload_n hx hb dX9_readsNumber_0 rfl (lk hl rfl) ?_
  refine x_bipush hF (by decide) dX9_readsNumber_1 ?_
  refine x_kn hL (vx_runV (As := [_]) hF.2.2.2.2.2.2.2.2.2 ((mX9_reads (z := 32) (t := t) (L := L) (x := x) (by unfold inR; omega) ((eo 14 (by decide)).trans htx) ((congrFun (eo 15 (by decide)) 0).trans hln) ep hTx (by omega) (by omega) hP.1) hF.1) (cwV 1 hF.2.2.2.2.2.2.2.2.1 (lw_V q2647 q2649 qs96 q138 q2650) rfl rfl rfl (by decide +kernel) ⟨(Nat.le_of_ble_eq_true rfl), (Nat.le_of_ble_eq_true rfl)⟩) (x_preV hF hM (MA_ob hP.1) rfl) rfl rfl hl.1 rfl (lv_room (Nat.le_of_ble_eq_true rfl)) dX9_readsNumber_3 ⟨(Nat.le_of_ble_eq_true rfl), (Nat.le_of_ble_eq_true rfl)⟩) ?_
  rintro _ τ3 H locs ⟨rfl, hp⟩ hM hL
  obtain ⟨F2, hP2, ep, eo2⟩ := hp
  refine MS_gen hM (MS_t hP hP2) (fun σ hM hP => ?_)
  replace eo := fun f (a : f ≠ 16) => (eo2 f a).trans (eo f a)
  refine x_ifeq_b (tgt := 23) hF dX9_readsNumber_6 (by decide) (fun c6 => ?_) (fun c6 => ?_)
  · skip
    refine x_iconst hF dX9_readsNumber_23 ?_
    exact x_ireturn hF hM hL (by rfl) (Nat.le_of_ble_eq_true rfl) (Nat.le_of_ble_eq_true rfl) (by (have ht9 : pNum t L x a = (0, x, 0) := by unfold pNum; rw [if_neg c6]); rw [ht9]; exact ⟨rfl, _, hP, ep.trans (if_neg c6), fun q => absurd q (by show ¬ (0 : Int) = 1; decide), fun j _ => by rw [eo 18 (by decide)], fun f x _ => eo f x⟩) dX9_readsNumber_24
  · skip
    have hll := lt_lt c6 (by decide)
    refine lv_aload_n hx hb dX9_readsNumber_9 rfl (lk hl rfl) ?_
    refine x_kp hL (vx_runV (As := []) hF.2.2.2.2.2.2.2.2.2 ((mX9_letter (t := t) (L := L) (x := x + 1) ((eo 14 (by decide)).trans htx) ((congrFun (eo 15 (by decide)) 0).trans hln) (ep.trans (if_pos c6)) hTx (by omega) (by omega) hP.1) hF.1) (cwV 0 hF.2.2.2.2.2.2.2.2.1 (lw_V q2651 q2653 qs97 q138 q2654) rfl rfl rfl (by decide +kernel) ⟨(Nat.le_of_ble_eq_true rfl), (Nat.le_of_ble_eq_true rfl)⟩) (x_preV hF hM (MA_ob hP.1) rfl) rfl rfl hl.1 rfl (lv_room (Nat.le_of_ble_eq_true rfl)) dX9_readsNumber_10 ⟨(Nat.le_of_ble_eq_true rfl), (Nat.le_of_ble_eq_true rfl)⟩) (fun H locs hM hL => ?_)
    have hlr := lt_r hTx (x + 1)
    refine x_bipush hF (by decide) dX9_readsNumber_13 ?_
    refine x_bipush hF (by decide) dX9_readsNumber_15 ?_
    refine x_kp hL (vx_runS (As := [_, _, _]) hF.2.2.2.2.2.2.2.2.2 ((mX9_isBetween (by unfold inR; omega) ⟨by omega, by omega⟩ ⟨by omega, by omega⟩) hF.1) (va_cwS 3 hF.2.2.2.2.2.2.2.2.1 (lw_S q2334 q2335 q138 q2336) rfl rfl rfl (by decide +kernel) ⟨(Nat.le_of_ble_eq_true rfl), (Nat.le_of_ble_eq_true rfl)⟩) (x_preS hF hM) rfl rfl hl.1 rfl (lv_room (Nat.le_of_ble_eq_true rfl)) dX9_readsNumber_17 ⟨(Nat.le_of_ble_eq_true rfl), (Nat.le_of_ble_eq_true rfl)⟩) (fun H locs hM hL => ?_)
    refine x_ifne_b (tgt := 25) hF dX9_readsNumber_20 (by decide) (fun c20 => ?_) (fun c20 => ?_)
    · skip
      have hl2 : x + 1 < L := lt_lt (t := t) rfl (by omega)
      refine lv_aload_n hx hb dX9_readsNumber_25 rfl (lk hl rfl) ?_
      refine x_getfield hF (ci := 10) in_X9 rfl 18 (by decide) q2269 (fun _ h => h) hM (MA_ob hP.1) (MA_f18 hP.1) dX9_readsNumber_26 ?_
      refine lv_iload_n hx hb dX9_readsNumber_29 rfl (lk hl rfl) ?_
      refine x_iconst hF dX9_readsNumber_30 ?_
      refine x_iast hF hM hL (MA_a18 hP.1) (by omega) (by omega) (by decide) dX9_readsNumber_31 (fun H locs hM hL => ?_)
      refine MS_gen hM (MS_q18 hM hP (by omega)) (fun σ hM hP => ?_)
      refine x_iconst hF dX9_readsNumber_32 ?_
      refine x_istore_n hF dX9_readsNumber_33 rfl hl (by decide) rfl (fun ls hl => ?_)
      suffices loop : ∀ (n : Nat) (k : Int) (q : Int) (v : Int) (σ : Mm) (H : Heap) (locs : List Loc) (ls : Array Slot), a - k < (n : Int) → (0 ≤ k) → (k ≤ a) → (0 ≤ q) → (q ≤ L) → (pDg t L (a - k).toNat q v = pDg t L a.toNat (x + 1) 0) → Mem E s H σ → (∃ F1 : Nat → Int → Int, MS E σ0 o σ F1 ∧ F1 16 0 = q ∧ F1 18 z = v ∧ (∀ j, j ≠ z → F1 18 j = F 18 j) ∧ ∀ f, f ≠ 16 → f ≠ 18 → F1 f = F f) → Lc E locs → lh ls 4 [(0, .ref o), (1, .int (iz z)), (2, .int (iz a)), (3, .int (iz k))] → W p l e ({ frames := 2, cells := 0, slots := 0, locals := 41 } : Room) s m args below meth c H locs 0 0 (vx_MQ below (XQc E (fun v τ => v = some (.int (iz (if (pNum t L x a).1 = 1 then 1 else 0))) ∧ RN E σ0 o τ F z (pNum t L x a))) (XXc E noX) args s 0 0 (XA E)) (F0 m 34 ls []) from loop (4) 0 (x + 1) 0 _ _ _ _ (by omega) (by omega) (by omega) (by omega) (by omega) (by rw [Int.sub_zero]) hM ⟨_, hP, by rw [up2_f _ _ _ _ (by decide)]; exact ep.trans (if_pos c6), up2_s _ _ _ _, fun j hj => by rw [up2_k _ _ _ _ hj, eo 18 (by decide)], fun f x y => by rw [up2_oth _ _ _ y]; exact eo f x⟩ hL (lh_sub hl rfl)
      refine nat_loop (fun k q v σ H locs ls hmm g0 g1 q0 q1 hr => absurd hmm (by omega)) (fun n ih k q v σ H locs ls hmm g0 g1 q0 q1 hr hM hP hL hl => ?_)
      refine lv_iload_n hx hb dX9_readsNumber_34 rfl (lk hl rfl) ?_
      refine lv_iload_n hx hb dX9_readsNumber_35 rfl (lk hl rfl) ?_
      refine x_icmp_ge (tgt := 92) hF dX9_readsNumber_36 (by decide) (by unfold inR; omega) (by unfold inR; omega) (fun c36 => ?_) (fun c36 => ?_)
      · skip
        refine x_iconst hF dX9_readsNumber_92 ?_
        exact x_ireturn hF hM hL (by rfl) (Nat.le_of_ble_eq_true rfl) (Nat.le_of_ble_eq_true rfl) (by obtain ⟨F1, hP, ep, ev, ej, eo⟩ := hP; (have ht9 : pNum t L x a = (1, q, v) := by unfold pNum; rw [if_pos c6, if_pos c20, ← hr, pDg_e (by omega)]); rw [ht9]; exact ⟨rfl, F1, hP, ep, fun _ => ev, ej, eo⟩) dX9_readsNumber_93
      · skip
        obtain ⟨F1, hP, ep, ev, ej, eo⟩ := hP
        refine lv_aload_n hx hb dX9_readsNumber_39 rfl (lk hl rfl) ?_
        refine x_kp hL (vx_runV (As := []) hF.2.2.2.2.2.2.2.2.2 ((mX9_letter (t := t) (L := L) (x := q) ((eo 14 (by decide) (by decide)).trans htx) ((congrFun (eo 15 (by decide) (by decide)) 0).trans hln) ep hTx q0 q1 hP.1) hF.1) (cwV 0 hF.2.2.2.2.2.2.2.2.1 (lw_V q2651 q2653 qs97 q138 q2654) rfl rfl rfl (by decide +kernel) ⟨(Nat.le_of_ble_eq_true rfl), (Nat.le_of_ble_eq_true rfl)⟩) (x_preV hF hM (MA_ob hP.1) rfl) rfl rfl hl.1 rfl (lv_room (Nat.le_of_ble_eq_true rfl)) dX9_readsNumber_40 ⟨(Nat.le_of_ble_eq_true rfl), (Nat.le_of_ble_eq_true rfl)⟩) (fun H locs hM hL => ?_)
        have hlr := lt_r hTx q
        refine x_bipush hF (by decide) dX9_readsNumber_43 ?_
        refine x_bipush hF (by decide) dX9_readsNumber_45 ?_
        refine x_kp hL (vx_runS (As := [_, _, _]) hF.2.2.2.2.2.2.2.2.2 ((mX9_isBetween (by unfold inR; omega) ⟨by omega, by omega⟩ ⟨by omega, by omega⟩) hF.1) (va_cwS 3 hF.2.2.2.2.2.2.2.2.1 (lw_S q2334 q2335 q138 q2336) rfl rfl rfl (by decide +kernel) ⟨(Nat.le_of_ble_eq_true rfl), (Nat.le_of_ble_eq_true rfl)⟩) (x_preS hF hM) rfl rfl hl.1 rfl (lv_room (Nat.le_of_ble_eq_true rfl)) dX9_readsNumber_47 ⟨(Nat.le_of_ble_eq_true rfl), (Nat.le_of_ble_eq_true rfl)⟩) (fun H locs hM hL => ?_)
        refine x_ifeq_b (tgt := 92) hF dX9_readsNumber_50 (by decide) (fun c50 => ?_) (fun c50 => ?_)
        · skip
          refine x_iconst hF dX9_readsNumber_92 ?_
          exact x_ireturn hF hM hL (by rfl) (Nat.le_of_ble_eq_true rfl) (Nat.le_of_ble_eq_true rfl) (by (have ht9 : pNum t L x a = (1, q, v) := by unfold pNum; rw [if_pos c6, if_pos c20, ← hr, pDg_f c50]); rw [ht9]; exact ⟨rfl, F1, hP, ep, fun _ => ev, ej, eo⟩) dX9_readsNumber_93
        · skip
          have hlq : q < L := lt_lt (t := t) rfl (by omega)
          refine lv_aload_n hx hb dX9_readsNumber_53 rfl (lk hl rfl) ?_
          refine x_getfield hF (ci := 10) in_X9 rfl 18 (by decide) q2269 (fun _ h => h) hM (MA_ob hP.1) (MA_f18 hP.1) dX9_readsNumber_54 ?_
          refine lv_iload_n hx hb dX9_readsNumber_57 rfl (lk hl rfl) ?_
          refine x_bipush hF (by decide) dX9_readsNumber_58 ?_
          refine lv_aload_n hx hb dX9_readsNumber_60 rfl (lk hl rfl) ?_
          refine x_getfield hF (ci := 10) in_X9 rfl 18 (by decide) q2269 (fun _ h => h) hM (MA_ob hP.1) (MA_f18 hP.1) dX9_readsNumber_61 ?_
          refine lv_iload_n hx hb dX9_readsNumber_64 rfl (lk hl rfl) ?_
          refine x_iald hF hM (MA_a18 hP.1) (by omega) (by omega) (by decide) (show rd _ _ _ = .int (iz v) from by have h9 := MA_r18 hP.1 z (by omega) (by omega); rw [ev] at h9; exact h9) dX9_readsNumber_65 ?_
          refine x_imul hF dX9_readsNumber_66 ?_
          refine lv_aload_n hx hb dX9_readsNumber_67 rfl (lk hl rfl) ?_
          refine x_kp hL (vx_runV (As := []) hF.2.2.2.2.2.2.2.2.2 ((mX9_letter (t := t) (L := L) (x := q) ((eo 14 (by decide) (by decide)).trans htx) ((congrFun (eo 15 (by decide) (by decide)) 0).trans hln) ep hTx q0 q1 hP.1) hF.1) (cwV 0 hF.2.2.2.2.2.2.2.2.1 (lw_V q2651 q2653 qs97 q138 q2654) rfl rfl rfl (by decide +kernel) ⟨(Nat.le_of_ble_eq_true rfl), (Nat.le_of_ble_eq_true rfl)⟩) (x_preV hF hM (MA_ob hP.1) rfl) rfl rfl hl.1 rfl (lv_room (Nat.le_of_ble_eq_true rfl)) dX9_readsNumber_68 ⟨(Nat.le_of_ble_eq_true rfl), (Nat.le_of_ble_eq_true rfl)⟩) (fun H locs hM hL => ?_)
          refine x_iadd hF dX9_readsNumber_71 ?_
          refine x_bipush hF (by decide) dX9_readsNumber_72 ?_
          refine x_isub hF dX9_readsNumber_74 ?_
          refine x_iast hF hM hL (MA_a18 hP.1) (by omega) (by omega) (by decide) dX9_readsNumber_75 (fun H locs hM hL => ?_)
          refine MS_gen hM (MS_q18 hM hP (by omega)) (fun σ hM hP => ?_)
          refine lv_aload_n hx hb dX9_readsNumber_76 rfl (lk hl rfl) ?_
          refine lv_dup hx hb dX9_readsNumber_77 rfl ?_
          refine x_getfield hF (ci := 10) in_X9 rfl 16 (by decide) q2267 (fun _ h => h) hM (MA_ob hP.1) (show rd _ _ _ = .int (iz (q)) from by have h9 := MA_s16 hP.1; rw [up2_f _ _ _ _ (by decide), ep] at h9; exact h9) dX9_readsNumber_78 ?_
          refine x_iconst hF dX9_readsNumber_81 ?_
          refine x_iadd hF dX9_readsNumber_82 ?_
          refine x_putfield hF (ci := 10) in_X9 rfl tyX9_ok nmX9 16 (by decide) q2267 (fun _ h => h) rfl hM hL (MA_ob hP.1) (ty := .int) (by decide +kernel) rfl rfl dX9_readsNumber_83 (fun H locs hM hL => ?_)
          refine MS_gen hM (MS_p16 hM hP) (fun σ hM hP => ?_)
          refine x_iinc hF dX9_readsNumber_86 hl rfl (by decide) rfl (fun ls hl => ?_)
          refine x_goto (tgt := 34) hF dX9_readsNumber_89 (by decide) ?_
          exact ih (k + 1) (q + 1) (10 * v + lt t L q - 48) _ _ _ _ (by omega) (by omega) (by omega) (by omega) (by omega) (by rw [← hr]; exact (pDg_t (by omega) c50).symm) hM ⟨_, hP, up2_s _ _ _ _, by rw [up2_f _ _ _ _ (by decide), up2_s], fun j hj => by rw [up2_f _ _ _ _ (by decide), up2_k _ _ _ _ hj]; exact ej j hj, fun f x y => by rw [up2_oth _ _ _ x, up2_oth _ _ _ y]; exact eo f x y⟩ hL (lh_sub hl rfl)
    · skip
      refine x_iconst hF dX9_readsNumber_23 ?_
      exact x_ireturn hF hM hL (by rfl) (Nat.le_of_ble_eq_true rfl) (Nat.le_of_ble_eq_true rfl) (by (have ht9 : pNum t L x a = (0, x + 1, 0) := by unfold pNum; rw [if_pos c6, if_neg c20]); rw [ht9]; exact ⟨rfl, _, hP, ep.trans (if_pos c6), fun q => absurd q (by show ¬ (0 : Int) = 1; decide), fun j _ => by rw [eo 18 (by decide)], fun f x _ => eo f x⟩) dX9_readsNumber_24
