set_option maxHeartbeats 4000000 in
set_option maxRecDepth 100000 in
/-- BakeryRingModel.isCustomer(I)Z -/
theorem mX9_isCustomer {l : Launch} {E : En} {σ0 : Mm} {o : Nat} {F : Nat → Int → Int} {w : Int → Int} (hw : F 5 = w) {z : Int} (hz : inR z) (hR : Rg (w)) (hP : MA E σ0 o F) : Ctr l E yX9_isCustomer (ws_ yX9_isCustomer cX9_isCustomer 2 (some .boolean)) 1 22 0 0 [.ref o, .int (iz z)] σ0 (fun v τ => v = some (.int (iz (if 0 ≤ z ∧ z ≤ w 1 - 1 then 1 else 0))) ∧ τ = σ0) noX := by
  subst hw
  refine x_head (own := RX9) (cc := cX9_isCustomer) (maxL := 2) (ret := (some .boolean)) (by decide) rfl rfl (Nat.le_of_ble_eq_true rfl) ?_
  intro p e s m args below meth c H ls hF hname htab hM hl
  have hx := hF.2.2.1
  have hb := hF.2.2.2.1
  have hL : Lc E [] := lcNil
  have hl : lh ls 2 ([(0, .ref o), (1, .int (iz z))]) := hl
  refine lv_iload_n hx hb dX9_isCustomer_0 rfl (lk hl rfl) ?_
  refine x_iconst hF dX9_isCustomer_1 ?_
  refine lv_aload_n hx hb dX9_isCustomer_2 rfl (lk hl rfl) ?_
  refine x_getfield hF (ci := 10) in_X9 rfl 5 (by decide) q2256 (fun _ h => h) hM (MA_ob hP) (MA_f5 hP) dX9_isCustomer_3 ?_
  refine x_iconst hF dX9_isCustomer_6 ?_
  refine x_iald hF hM (MA_a5 hP) (by omega) (by omega) (by decide) (show rd _ _ _ = .int (iz (F 5 _)) from by have h9 := MA_r5 hP; exact h9 _ (by omega) (by omega)) dX9_isCustomer_7 ?_
  refine x_iconst hF dX9_isCustomer_8 ?_
  refine x_isub hF dX9_isCustomer_9 ?_
  refine x_kp hL (vx_runS (As := [_, _, _]) hF.2.2.2.2.2.2.2.2.2 ((mX9_isBetween hz ⟨by omega, by omega⟩ (by have := hR 1; unfold inR; omega)) hF.1) (va_cwS 3 hF.2.2.2.2.2.2.2.2.1 (lw_S q2334 q2335 q138 q2336) rfl rfl rfl (by decide +kernel) ⟨(Nat.le_of_ble_eq_true rfl), (Nat.le_of_ble_eq_true rfl)⟩) (x_preS hF hM) rfl rfl hl.1 rfl (lv_room (Nat.le_of_ble_eq_true rfl)) dX9_isCustomer_10 ⟨(Nat.le_of_ble_eq_true rfl), (Nat.le_of_ble_eq_true rfl)⟩) (fun H locs hM hL => ?_)
  exact x_ireturn hF hM hL nar_b (Nat.le_of_ble_eq_true rfl) (Nat.le_of_ble_eq_true rfl) ⟨by first | rfl | rw [if_pos (by omega)] | rw [if_neg (by omega)], rfl⟩ dX9_isCustomer_13
set_option maxHeartbeats 4000000 in
set_option maxRecDepth 100000 in
/-- BakeryRingModel.notSign(II)I -/
theorem mX9_notSign {l : Launch} {E : En} {σ0 : Mm} {o : Nat} {F : Nat → Int → Int} {z a : Int} (hz : inR z) (ha : inR a) {w : Int → Int} (hw : F 5 = w) (hk : Wk w) (hP : MA E σ0 o F) : Ctr l E yX9_notSign (ws_ yX9_notSign cX9_notSign 3 (some .int)) 2 44 0 0 [.ref o, .int (iz z), .int (iz a)] σ0 (fun v τ => v = some (.int (iz ((nSign w z a).1))) ∧ MS E σ0 o τ (mNot F (nSign w z a))) noX := by
  refine x_head (own := RX9) (cc := cX9_notSign) (maxL := 3) (ret := (some .int)) (by decide) rfl rfl (Nat.le_of_ble_eq_true rfl) ?_
  intro p e s m args below meth c H ls hF hname htab hM hl
  have hx := hF.2.2.1
  have hb := hF.2.2.2.1
  have hL : Lc E [] := lcNil
  have hl : lh ls 3 ([(0, .ref o), (1, .int (iz z)), (2, .int (iz a))]) := hl
  refine MS_gen hM (MS_0 hP) (fun σ hM hP => ?_)
  have hk2 := hk.2.1
  refine lv_aload_n hx hb dX9_notSign_0 rfl (lk hl rfl) ?_
  refine lv_iload_n hx hb dX9_notSign_1 rfl (lk hl rfl) ?_
  refine x_kp hL (vx_runV (As := [_]) hF.2.2.2.2.2.2.2.2.2 ((mX9_isBakery (w := w) hw hz hk.1 hP.1) hF.1) (cwV 1 hF.2.2.2.2.2.2.2.2.1 (lw_V q2377 q2379 qs55 q138 q2380) rfl rfl rfl (by decide +kernel) ⟨(Nat.le_of_ble_eq_true rfl), (Nat.le_of_ble_eq_true rfl)⟩) (x_preV hF hM (MA_ob hP.1) rfl) rfl rfl hl.1 rfl (lv_room (Nat.le_of_ble_eq_true rfl)) dX9_notSign_2 ⟨(Nat.le_of_ble_eq_true rfl), (Nat.le_of_ble_eq_true rfl)⟩) (fun H locs hM hL => ?_)
  refine x_ifeq_b (tgt := 15) hF dX9_notSign_5 (by decide) (fun c5 => ?_) (fun c5 => ?_)
  · skip
    refine lv_aload_n hx hb dX9_notSign_15 rfl (lk hl rfl) ?_
    refine x_iconst hF dX9_notSign_16 ?_
    refine x_kn hL (vx_runV (As := [_]) hF.2.2.2.2.2.2.2.2.2 ((mX9_isOther hP.1) hF.1) (cwV 1 hF.2.2.2.2.2.2.2.2.1 (lw_V q2384 q2386 qs56 q138 q2387) rfl rfl rfl (by decide +kernel) ⟨(Nat.le_of_ble_eq_true rfl), (Nat.le_of_ble_eq_true rfl)⟩) (x_preV hF hM (MA_ob hP.1) rfl) rfl rfl hl.1 rfl (lv_room (Nat.le_of_ble_eq_true rfl)) dX9_notSign_17 ⟨(Nat.le_of_ble_eq_true rfl), (Nat.le_of_ble_eq_true rfl)⟩) ?_
    rintro _ τ17 H locs ⟨rfl, hp⟩ hM hL
    refine MS_gen hM (MS_t hP hp) (fun σ hM hP => ?_)
    exact x_ireturn hF hM hL rfl (Nat.le_of_ble_eq_true rfl) (Nat.le_of_ble_eq_true rfl) (by (have ht : nSign w z a = (1, 0, 0) := by first | (unfold nSign; rw [if_pos (by omega)])); rw [ht]; exact ⟨rfl, by rw [mNot_1 _ (by decide)]; exact hP⟩) dX9_notSign_20
  · skip
    refine lv_iload_n hx hb dX9_notSign_8 rfl (lk hl rfl) ?_
    refine x_kp hL (vx_runS (As := [_]) hF.2.2.2.2.2.2.2.2.2 ((mX9_isAngle ha) hF.1) (va_cwS 1 hF.2.2.2.2.2.2.2.2.1 (lw_S q2381 q2382 q138 q2383) rfl rfl rfl (by decide +kernel) ⟨(Nat.le_of_ble_eq_true rfl), (Nat.le_of_ble_eq_true rfl)⟩) (x_preS hF hM) rfl rfl hl.1 rfl (lv_room (Nat.le_of_ble_eq_true rfl)) dX9_notSign_9 ⟨(Nat.le_of_ble_eq_true rfl), (Nat.le_of_ble_eq_true rfl)⟩) (fun H locs hM hL => ?_)
    refine x_ifne_b (tgt := 21) hF dX9_notSign_12 (by decide) (fun c12 => ?_) (fun c12 => ?_)
    · skip
      refine lv_aload_n hx hb dX9_notSign_21 rfl (lk hl rfl) ?_
      refine lv_iload_n hx hb dX9_notSign_22 rfl (lk hl rfl) ?_
      have hso := wSignOn_r w (by omega) a
      refine x_kp hL (vx_runV (As := [_]) hF.2.2.2.2.2.2.2.2.2 ((mX9_signOn (w := w) hw ha hk.1 (by omega) (by omega) hP.1) hF.1) (cwV 1 hF.2.2.2.2.2.2.2.2.1 (lw_V q2388 q2390 qs57 q138 q2391) rfl rfl rfl (by decide +kernel) ⟨(Nat.le_of_ble_eq_true rfl), (Nat.le_of_ble_eq_true rfl)⟩) (x_preV hF hM (MA_ob hP.1) rfl) rfl rfl hl.1 rfl (lv_room (Nat.le_of_ble_eq_true rfl)) dX9_notSign_23 ⟨(Nat.le_of_ble_eq_true rfl), (Nat.le_of_ble_eq_true rfl)⟩) (fun H locs hM hL => ?_)
      refine x_if_lt (tgt := 45) hF dX9_notSign_26 (by decide) (by first | exact Rg_in hk.1 _ | assumption | (unfold inR; omega)) (fun c26 => ?_) (fun c26 => ?_)
      · skip
        refine lv_aload_n hx hb dX9_notSign_45 rfl (lk hl rfl) ?_
        refine x_getfield hF (ci := 10) in_X9 rfl 5 (by decide) q2256 (fun _ h => h) hM (MA_ob hP.1) (MA_f5 hP.1) dX9_notSign_46 ?_
        refine x_bipush hF (by decide) dX9_notSign_49 ?_
        refine x_iald hF hM (MA_a5 hP.1) (by omega) (by omega) (by decide) (show rd _ _ _ = .int (iz (w _)) from by have h9 := MA_r5 hP.1; rw [hw] at h9; exact h9 _ (by omega) (by omega)) dX9_notSign_51 ?_
        refine x_bipush hF (by decide) dX9_notSign_52 ?_
        refine x_icmp_ne (tgt := 66) hF dX9_notSign_54 (by decide) (by first | exact Rg_in hk.1 _ | assumption | (unfold inR; omega)) (by first | exact Rg_in hk.1 _ | assumption | (unfold inR; omega)) (fun c54 => ?_) (fun c54 => ?_)
        · skip
          refine lv_aload_n hx hb dX9_notSign_66 rfl (lk hl rfl) ?_
          refine lv_iload_n hx hb dX9_notSign_67 rfl (lk hl rfl) ?_
          have hsg := wSignsOf_r w (by omega) z
          refine x_kp hL (vx_runV (As := [_]) hF.2.2.2.2.2.2.2.2.2 ((mX9_signsOf (w := w) hw hz hk.1 (by omega) (by omega) hP.1) hF.1) (cwV 1 hF.2.2.2.2.2.2.2.2.1 (lw_V q2400 q2402 qs60 q138 q2403) rfl rfl rfl (by decide +kernel) ⟨(Nat.le_of_ble_eq_true rfl), (Nat.le_of_ble_eq_true rfl)⟩) (x_preV hF hM (MA_ob hP.1) rfl) rfl rfl hl.1 rfl (lv_room (Nat.le_of_ble_eq_true rfl)) dX9_notSign_68 ⟨(Nat.le_of_ble_eq_true rfl), (Nat.le_of_ble_eq_true rfl)⟩) (fun H locs hM hL => ?_)
          refine x_bipush hF (by decide) dX9_notSign_71 ?_
          refine x_icmp_ne (tgt := 87) hF dX9_notSign_73 (by decide) (by first | exact Rg_in hk.1 _ | assumption | (unfold inR; omega)) (by first | exact Rg_in hk.1 _ | assumption | (unfold inR; omega)) (fun c73 => ?_) (fun c73 => ?_)
          · skip
            refine x_iconst hF dX9_notSign_87 ?_
            exact x_ireturn hF hM hL rfl (Nat.le_of_ble_eq_true rfl) (Nat.le_of_ble_eq_true rfl) (by (have ht : nSign w z a = (0, 0, 0) := by first | (unfold nSign; rw [if_neg (by omega), if_neg (by omega), if_neg (by omega), if_neg (by omega)])); rw [ht]; exact ⟨rfl, by rw [mNot_0]; exact hP⟩) dX9_notSign_88
          · skip
            refine lv_aload_n hx hb dX9_notSign_76 rfl (lk hl rfl) ?_
            refine x_iconst hF dX9_notSign_77 ?_
            refine x_iconst hF dX9_notSign_78 ?_
            refine x_bipush hF (by decide) dX9_notSign_79 ?_
            refine x_kn hL (vx_runV (As := [_, _, _]) hF.2.2.2.2.2.2.2.2.2 ((mX9_isNot hP.1) hF.1) (cwV 3 hF.2.2.2.2.2.2.2.2.1 (lw_V q2341 q2343 qs47 q138 q2344) rfl rfl rfl (by decide +kernel) ⟨(Nat.le_of_ble_eq_true rfl), (Nat.le_of_ble_eq_true rfl)⟩) (x_preV hF hM (MA_ob hP.1) rfl) rfl rfl hl.1 rfl (lv_room (Nat.le_of_ble_eq_true rfl)) dX9_notSign_81 ⟨(Nat.le_of_ble_eq_true rfl), (Nat.le_of_ble_eq_true rfl)⟩) ?_
            rintro _ τ81 H locs ⟨rfl, hp⟩ hM hL
            refine MS_gen hM (MS_t hP hp) (fun σ hM hP => ?_)
            refine x_goto (tgt := 88) hF dX9_notSign_84 (by decide) ?_
            exact x_ireturn hF hM hL rfl (Nat.le_of_ble_eq_true rfl) (Nat.le_of_ble_eq_true rfl) (by (have ht : nSign w z a = (2, 1, 8) := by first | (unfold nSign; rw [if_neg (by omega), if_neg (by omega), if_neg (by omega), if_pos (by omega)])); rw [ht]; exact ⟨rfl, by rw [mNot_2 _ _ (by decide) (by decide)]; exact hP⟩) dX9_notSign_88
        · skip
          refine lv_aload_n hx hb dX9_notSign_57 rfl (lk hl rfl) ?_
          refine x_iconst hF dX9_notSign_58 ?_
          refine x_iconst hF dX9_notSign_59 ?_
          refine x_bipush hF (by decide) dX9_notSign_60 ?_
          refine x_kn hL (vx_runV (As := [_, _, _]) hF.2.2.2.2.2.2.2.2.2 ((mX9_isNot hP.1) hF.1) (cwV 3 hF.2.2.2.2.2.2.2.2.1 (lw_V q2341 q2343 qs47 q138 q2344) rfl rfl rfl (by decide +kernel) ⟨(Nat.le_of_ble_eq_true rfl), (Nat.le_of_ble_eq_true rfl)⟩) (x_preV hF hM (MA_ob hP.1) rfl) rfl rfl hl.1 rfl (lv_room (Nat.le_of_ble_eq_true rfl)) dX9_notSign_62 ⟨(Nat.le_of_ble_eq_true rfl), (Nat.le_of_ble_eq_true rfl)⟩) ?_
          rintro _ τ62 H locs ⟨rfl, hp⟩ hM hL
          refine MS_gen hM (MS_t hP hp) (fun σ hM hP => ?_)
          exact x_ireturn hF hM hL rfl (Nat.le_of_ble_eq_true rfl) (Nat.le_of_ble_eq_true rfl) (by (have ht : nSign w z a = (2, 1, 24) := by first | (unfold nSign; rw [if_neg (by omega), if_neg (by omega), if_pos (by omega)])); rw [ht]; exact ⟨rfl, by rw [mNot_2 _ _ (by decide) (by decide)]; exact hP⟩) dX9_notSign_65
      · skip
        refine lv_aload_n hx hb dX9_notSign_29 rfl (lk hl rfl) ?_
        refine x_iconst hF dX9_notSign_30 ?_
        refine x_iconst hF dX9_notSign_31 ?_
        refine lv_aload_n hx hb dX9_notSign_32 rfl (lk hl rfl) ?_
        refine lv_aload_n hx hb dX9_notSign_33 rfl (lk hl rfl) ?_
        refine lv_iload_n hx hb dX9_notSign_34 rfl (lk hl rfl) ?_
        refine x_kp hL (vx_runV (As := [_]) hF.2.2.2.2.2.2.2.2.2 ((mX9_signOn (w := w) hw ha hk.1 (by omega) (by omega) hP.1) hF.1) (cwV 1 hF.2.2.2.2.2.2.2.2.1 (lw_V q2388 q2390 qs57 q138 q2391) rfl rfl rfl (by decide +kernel) ⟨(Nat.le_of_ble_eq_true rfl), (Nat.le_of_ble_eq_true rfl)⟩) (x_preV hF hM (MA_ob hP.1) rfl) rfl rfl hl.1 rfl (lv_room (Nat.le_of_ble_eq_true rfl)) dX9_notSign_35 ⟨(Nat.le_of_ble_eq_true rfl), (Nat.le_of_ble_eq_true rfl)⟩) (fun H locs hM hL => ?_)
        refine x_kp hL (vx_runV (As := [_]) hF.2.2.2.2.2.2.2.2.2 ((mX9_ownerAt (w := w) hw (by omega) (by omega) hP.1) hF.1) (cwV 1 hF.2.2.2.2.2.2.2.2.1 (lw_V q2396 q2398 qs59 q138 q2399) rfl rfl rfl (by decide +kernel) ⟨(Nat.le_of_ble_eq_true rfl), (Nat.le_of_ble_eq_true rfl)⟩) (x_preV hF hM (MA_ob hP.1) rfl) rfl rfl hl.1 rfl (lv_room (Nat.le_of_ble_eq_true rfl)) dX9_notSign_38 ⟨(Nat.le_of_ble_eq_true rfl), (Nat.le_of_ble_eq_true rfl)⟩) (fun H locs hM hL => ?_)
        refine x_kn hL (vx_runV (As := [_, _, _]) hF.2.2.2.2.2.2.2.2.2 ((mX9_isNot hP.1) hF.1) (cwV 3 hF.2.2.2.2.2.2.2.2.1 (lw_V q2341 q2343 qs47 q138 q2344) rfl rfl rfl (by decide +kernel) ⟨(Nat.le_of_ble_eq_true rfl), (Nat.le_of_ble_eq_true rfl)⟩) (x_preV hF hM (MA_ob hP.1) rfl) rfl rfl hl.1 rfl (lv_room (Nat.le_of_ble_eq_true rfl)) dX9_notSign_41 ⟨(Nat.le_of_ble_eq_true rfl), (Nat.le_of_ble_eq_true rfl)⟩) ?_
        rintro _ τ41 H locs ⟨rfl, hp⟩ hM hL
        refine MS_gen hM (MS_t hP hp) (fun σ hM hP => ?_)
        exact x_ireturn hF hM hL rfl (Nat.le_of_ble_eq_true rfl) (Nat.le_of_ble_eq_true rfl) (by (have ht : nSign w z a = (2, 2, w (29 + 2 * wSignOn w a + 1)) := by first | (unfold nSign; rw [if_neg (by omega), if_pos (by omega)])); rw [ht]; exact ⟨rfl, by rw [mNot_2 _ _ (by decide) (by decide)]; exact hP⟩) dX9_notSign_44
    · skip
      refine lv_aload_n hx hb dX9_notSign_15 rfl (lk hl rfl) ?_
      refine x_iconst hF dX9_notSign_16 ?_
      refine x_kn hL (vx_runV (As := [_]) hF.2.2.2.2.2.2.2.2.2 ((mX9_isOther hP.1) hF.1) (cwV 1 hF.2.2.2.2.2.2.2.2.1 (lw_V q2384 q2386 qs56 q138 q2387) rfl rfl rfl (by decide +kernel) ⟨(Nat.le_of_ble_eq_true rfl), (Nat.le_of_ble_eq_true rfl)⟩) (x_preV hF hM (MA_ob hP.1) rfl) rfl rfl hl.1 rfl (lv_room (Nat.le_of_ble_eq_true rfl)) dX9_notSign_17 ⟨(Nat.le_of_ble_eq_true rfl), (Nat.le_of_ble_eq_true rfl)⟩) ?_
      rintro _ τ17 H locs ⟨rfl, hp⟩ hM hL
      refine MS_gen hM (MS_t hP hp) (fun σ hM hP => ?_)
      exact x_ireturn hF hM hL rfl (Nat.le_of_ble_eq_true rfl) (Nat.le_of_ble_eq_true rfl) (by (have ht : nSign w z a = (1, 0, 0) := by first | (unfold nSign; rw [if_pos (by omega)])); rw [ht]; exact ⟨rfl, by rw [mNot_1 _ (by decide)]; exact hP⟩) dX9_notSign_20
set_option maxHeartbeats 4000000 in
set_option maxRecDepth 100000 in
/-- BakeryRingModel.notDown(I)I -/
theorem mX9_notDown {l : Launch} {E : En} {σ0 : Mm} {o : Nat} {F : Nat → Int → Int} {a : Int} (ha : inR a) {w : Int → Int} (hw : F 5 = w) (hk : Wk w) (hP : MA E σ0 o F) : Ctr l E yX9_notDown (ws_ yX9_notDown cX9_notDown 2 (some .int)) 2 43 0 0 [.ref o, .int (iz a)] σ0 (fun v τ => v = some (.int (iz ((nDown w a).1))) ∧ MS E σ0 o τ (mNot F (nDown w a))) noX := by
  refine x_head (own := RX9) (cc := cX9_notDown) (maxL := 2) (ret := (some .int)) (by decide) rfl rfl (Nat.le_of_ble_eq_true rfl) ?_
  intro p e s m args below meth c H ls hF hname htab hM hl
  have hx := hF.2.2.1
  have hb := hF.2.2.2.1
  have hL : Lc E [] := lcNil
  have hl : lh ls 2 ([(0, .ref o), (1, .int (iz a))]) := hl
  refine MS_gen hM (MS_0 hP) (fun σ hM hP => ?_)
  have hk2 := hk.2.1
  refine lv_iload_n hx hb dX9_notDown_0 rfl (lk hl rfl) ?_
  refine x_kp hL (vx_runS (As := [_]) hF.2.2.2.2.2.2.2.2.2 ((mX9_isAngle ha) hF.1) (va_cwS 1 hF.2.2.2.2.2.2.2.2.1 (lw_S q2381 q2382 q138 q2383) rfl rfl rfl (by decide +kernel) ⟨(Nat.le_of_ble_eq_true rfl), (Nat.le_of_ble_eq_true rfl)⟩) (x_preS hF hM) rfl rfl hl.1 rfl (lv_room (Nat.le_of_ble_eq_true rfl)) dX9_notDown_1 ⟨(Nat.le_of_ble_eq_true rfl), (Nat.le_of_ble_eq_true rfl)⟩) (fun H locs hM hL => ?_)
  refine x_ifne_b (tgt := 13) hF dX9_notDown_4 (by decide) (fun c4 => ?_) (fun c4 => ?_)
  · skip
    refine lv_aload_n hx hb dX9_notDown_13 rfl (lk hl rfl) ?_
    refine lv_iload_n hx hb dX9_notDown_14 rfl (lk hl rfl) ?_
    have hso := wSignOn_r w (by omega) a
    refine x_kp hL (vx_runV (As := [_]) hF.2.2.2.2.2.2.2.2.2 ((mX9_signOn (w := w) hw ha hk.1 (by omega) (by omega) hP.1) hF.1) (cwV 1 hF.2.2.2.2.2.2.2.2.1 (lw_V q2388 q2390 qs57 q138 q2391) rfl rfl rfl (by decide +kernel) ⟨(Nat.le_of_ble_eq_true rfl), (Nat.le_of_ble_eq_true rfl)⟩) (x_preV hF hM (MA_ob hP.1) rfl) rfl rfl hl.1 rfl (lv_room (Nat.le_of_ble_eq_true rfl)) dX9_notDown_15 ⟨(Nat.le_of_ble_eq_true rfl), (Nat.le_of_ble_eq_true rfl)⟩) (fun H locs hM hL => ?_)
    refine x_if_ge (tgt := 31) hF dX9_notDown_18 (by decide) (by first | exact Rg_in hk.1 _ | assumption | (unfold inR; omega)) (fun c18 => ?_) (fun c18 => ?_)
    · skip
      refine x_iconst hF dX9_notDown_31 ?_
      exact x_ireturn hF hM hL rfl (Nat.le_of_ble_eq_true rfl) (Nat.le_of_ble_eq_true rfl) (by (have ht : nDown w a = (0, 0, 0) := by first | (unfold nDown; rw [if_neg (by omega), if_neg (by omega)])); rw [ht]; exact ⟨rfl, by rw [mNot_0]; exact hP⟩) dX9_notDown_32
    · skip
      refine lv_aload_n hx hb dX9_notDown_21 rfl (lk hl rfl) ?_
      refine x_iconst hF dX9_notDown_22 ?_
      refine x_iconst hF dX9_notDown_23 ?_
      refine lv_iload_n hx hb dX9_notDown_24 rfl (lk hl rfl) ?_
      refine x_kn hL (vx_runV (As := [_, _, _]) hF.2.2.2.2.2.2.2.2.2 ((mX9_isNot hP.1) hF.1) (cwV 3 hF.2.2.2.2.2.2.2.2.1 (lw_V q2341 q2343 qs47 q138 q2344) rfl rfl rfl (by decide +kernel) ⟨(Nat.le_of_ble_eq_true rfl), (Nat.le_of_ble_eq_true rfl)⟩) (x_preV hF hM (MA_ob hP.1) rfl) rfl rfl hl.1 rfl (lv_room (Nat.le_of_ble_eq_true rfl)) dX9_notDown_25 ⟨(Nat.le_of_ble_eq_true rfl), (Nat.le_of_ble_eq_true rfl)⟩) ?_
      rintro _ τ25 H locs ⟨rfl, hp⟩ hM hL
      refine MS_gen hM (MS_t hP hp) (fun σ hM hP => ?_)
      refine x_goto (tgt := 32) hF dX9_notDown_28 (by decide) ?_
      exact x_ireturn hF hM hL rfl (Nat.le_of_ble_eq_true rfl) (Nat.le_of_ble_eq_true rfl) (by (have ht : nDown w a = (2, 3, a) := by first | (unfold nDown; rw [if_neg (by omega), if_pos (by omega)])); rw [ht]; exact ⟨rfl, by rw [mNot_2 _ _ (by decide) (by decide)]; exact hP⟩) dX9_notDown_32
  · skip
    refine lv_aload_n hx hb dX9_notDown_7 rfl (lk hl rfl) ?_
    refine x_iconst hF dX9_notDown_8 ?_
    refine x_kn hL (vx_runV (As := [_]) hF.2.2.2.2.2.2.2.2.2 ((mX9_isOther hP.1) hF.1) (cwV 1 hF.2.2.2.2.2.2.2.2.1 (lw_V q2384 q2386 qs56 q138 q2387) rfl rfl rfl (by decide +kernel) ⟨(Nat.le_of_ble_eq_true rfl), (Nat.le_of_ble_eq_true rfl)⟩) (x_preV hF hM (MA_ob hP.1) rfl) rfl rfl hl.1 rfl (lv_room (Nat.le_of_ble_eq_true rfl)) dX9_notDown_9 ⟨(Nat.le_of_ble_eq_true rfl), (Nat.le_of_ble_eq_true rfl)⟩) ?_
    rintro _ τ9 H locs ⟨rfl, hp⟩ hM hL
    refine MS_gen hM (MS_t hP hp) (fun σ hM hP => ?_)
    exact x_ireturn hF hM hL rfl (Nat.le_of_ble_eq_true rfl) (Nat.le_of_ble_eq_true rfl) (by (have ht : nDown w a = (1, 0, 0) := by first | (unfold nDown; rw [if_pos (by omega)])); rw [ht]; exact ⟨rfl, by rw [mNot_1 _ (by decide)]; exact hP⟩) dX9_notDown_12
set_option maxHeartbeats 4000000 in
set_option maxRecDepth 100000 in
/-- BakeryRingModel.notClose(I)I -/
theorem mX9_notClose {l : Launch} {E : En} {σ0 : Mm} {o : Nat} {F : Nat → Int → Int} {z : Int} (hz : inR z) {w : Int → Int} (hw : F 5 = w) (hk : Wk w) (hP : MA E σ0 o F) : Ctr l E yX9_notClose (ws_ yX9_notClose cX9_notClose 2 (some .int)) 3 65 0 0 [.ref o, .int (iz z)] σ0 (fun v τ => v = some (.int (iz ((nClose w z).1))) ∧ MS E σ0 o τ (mNot F (nClose w z))) noX := by
  refine x_head (own := RX9) (cc := cX9_notClose) (maxL := 2) (ret := (some .int)) (by decide) rfl rfl (Nat.le_of_ble_eq_true rfl) ?_
  intro p e s m args below meth c H ls hF hname htab hM hl
  have hx := hF.2.2.1
  have hb := hF.2.2.2.1
  have hL : Lc E [] := lcNil
  have hl : lh ls 2 ([(0, .ref o), (1, .int (iz z))]) := hl
  refine MS_gen hM (MS_0 hP) (fun σ hM hP => ?_)
  have hk2 := hk.2.1
  refine lv_aload_n hx hb dX9_notClose_0 rfl (lk hl rfl) ?_
  refine lv_iload_n hx hb dX9_notClose_1 rfl (lk hl rfl) ?_
  refine x_kp hL (vx_runV (As := [_]) hF.2.2.2.2.2.2.2.2.2 ((mX9_isBakery (w := w) hw hz hk.1 hP.1) hF.1) (cwV 1 hF.2.2.2.2.2.2.2.2.1 (lw_V q2377 q2379 qs55 q138 q2380) rfl rfl rfl (by decide +kernel) ⟨(Nat.le_of_ble_eq_true rfl), (Nat.le_of_ble_eq_true rfl)⟩) (x_preV hF hM (MA_ob hP.1) rfl) rfl rfl hl.1 rfl (lv_room (Nat.le_of_ble_eq_true rfl)) dX9_notClose_2 ⟨(Nat.le_of_ble_eq_true rfl), (Nat.le_of_ble_eq_true rfl)⟩) (fun H locs hM hL => ?_)
  refine x_ifne_b (tgt := 14) hF dX9_notClose_5 (by decide) (fun c5 => ?_) (fun c5 => ?_)
  · skip
    refine lv_aload_n hx hb dX9_notClose_14 rfl (lk hl rfl) ?_
    refine lv_iload_n hx hb dX9_notClose_15 rfl (lk hl rfl) ?_
    refine x_kp hL (vx_runV (As := [_]) hF.2.2.2.2.2.2.2.2.2 ((mX9_isOpen (w := w) hw (by omega) (by omega) hk.1 hP.1) hF.1) (cwV 1 hF.2.2.2.2.2.2.2.2.1 (lw_V q2432 q2434 qs68 q138 q2435) rfl rfl rfl (by decide +kernel) ⟨(Nat.le_of_ble_eq_true rfl), (Nat.le_of_ble_eq_true rfl)⟩) (x_preV hF hM (MA_ob hP.1) rfl) rfl rfl hl.1 rfl (lv_room (Nat.le_of_ble_eq_true rfl)) dX9_notClose_16 ⟨(Nat.le_of_ble_eq_true rfl), (Nat.le_of_ble_eq_true rfl)⟩) (fun H locs hM hL => ?_)
    refine x_ifne_b (tgt := 30) hF dX9_notClose_19 (by decide) (fun c19 => ?_) (fun c19 => ?_)
    · skip
      refine lv_aload_n hx hb dX9_notClose_30 rfl (lk hl rfl) ?_
      have hom := wOpenMany_r w (by omega)
      refine x_kp hL (vx_runV (As := []) hF.2.2.2.2.2.2.2.2.2 ((mX9_openMany (w := w) hw hk.1 (by omega) (by omega) hP.1) hF.1) (cwV 0 hF.2.2.2.2.2.2.2.2.1 (lw_V q2472 q2474 qs76 q138 q2475) rfl rfl rfl (by decide +kernel) ⟨(Nat.le_of_ble_eq_true rfl), (Nat.le_of_ble_eq_true rfl)⟩) (x_preV hF hM (MA_ob hP.1) rfl) rfl rfl hl.1 rfl (lv_room (Nat.le_of_ble_eq_true rfl)) dX9_notClose_31 ⟨(Nat.le_of_ble_eq_true rfl), (Nat.le_of_ble_eq_true rfl)⟩) (fun H locs hM hL => ?_)
      refine x_iconst hF dX9_notClose_34 ?_
      refine x_icmp_ne (tgt := 49) hF dX9_notClose_35 (by decide) (by first | exact Rg_in hk.1 _ | assumption | (unfold inR; omega)) (by first | exact Rg_in hk.1 _ | assumption | (unfold inR; omega)) (fun c35 => ?_) (fun c35 => ?_)
      · skip
        refine x_iconst hF dX9_notClose_49 ?_
        exact x_ireturn hF hM hL rfl (Nat.le_of_ble_eq_true rfl) (Nat.le_of_ble_eq_true rfl) (by (have ht : nClose w z = (0, 0, 0) := by first | (unfold nClose; rw [if_neg (by omega), if_neg (by omega), if_neg (by omega)])); rw [ht]; exact ⟨rfl, by rw [mNot_0]; exact hP⟩) dX9_notClose_50
      · skip
        refine lv_aload_n hx hb dX9_notClose_38 rfl (lk hl rfl) ?_
        refine x_iconst hF dX9_notClose_39 ?_
        refine x_bipush hF (by decide) dX9_notClose_40 ?_
        refine lv_iload_n hx hb dX9_notClose_42 rfl (lk hl rfl) ?_
        refine x_kn hL (vx_runV (As := [_, _, _]) hF.2.2.2.2.2.2.2.2.2 ((mX9_isNot hP.1) hF.1) (cwV 3 hF.2.2.2.2.2.2.2.2.1 (lw_V q2341 q2343 qs47 q138 q2344) rfl rfl rfl (by decide +kernel) ⟨(Nat.le_of_ble_eq_true rfl), (Nat.le_of_ble_eq_true rfl)⟩) (x_preV hF hM (MA_ob hP.1) rfl) rfl rfl hl.1 rfl (lv_room (Nat.le_of_ble_eq_true rfl)) dX9_notClose_43 ⟨(Nat.le_of_ble_eq_true rfl), (Nat.le_of_ble_eq_true rfl)⟩) ?_
        rintro _ τ43 H locs ⟨rfl, hp⟩ hM hL
        refine MS_gen hM (MS_t hP hp) (fun σ hM hP => ?_)
        refine x_goto (tgt := 50) hF dX9_notClose_46 (by decide) ?_
        exact x_ireturn hF hM hL rfl (Nat.le_of_ble_eq_true rfl) (Nat.le_of_ble_eq_true rfl) (by (have ht : nClose w z = (2, 6, z) := by first | (unfold nClose; rw [if_neg (by omega), if_neg (by omega), if_pos (by omega)])); rw [ht]; exact ⟨rfl, by rw [mNot_2 _ _ (by decide) (by decide)]; exact hP⟩) dX9_notClose_50
    · skip
      refine lv_aload_n hx hb dX9_notClose_22 rfl (lk hl rfl) ?_
      refine x_iconst hF dX9_notClose_23 ?_
      refine x_iconst hF dX9_notClose_24 ?_
      refine lv_iload_n hx hb dX9_notClose_25 rfl (lk hl rfl) ?_
      refine x_kn hL (vx_runV (As := [_, _, _]) hF.2.2.2.2.2.2.2.2.2 ((mX9_isNot hP.1) hF.1) (cwV 3 hF.2.2.2.2.2.2.2.2.1 (lw_V q2341 q2343 qs47 q138 q2344) rfl rfl rfl (by decide +kernel) ⟨(Nat.le_of_ble_eq_true rfl), (Nat.le_of_ble_eq_true rfl)⟩) (x_preV hF hM (MA_ob hP.1) rfl) rfl rfl hl.1 rfl (lv_room (Nat.le_of_ble_eq_true rfl)) dX9_notClose_26 ⟨(Nat.le_of_ble_eq_true rfl), (Nat.le_of_ble_eq_true rfl)⟩) ?_
      rintro _ τ26 H locs ⟨rfl, hp⟩ hM hL
      refine MS_gen hM (MS_t hP hp) (fun σ hM hP => ?_)
      exact x_ireturn hF hM hL rfl (Nat.le_of_ble_eq_true rfl) (Nat.le_of_ble_eq_true rfl) (by (have ht : nClose w z = (2, 4, z) := by first | (unfold nClose; rw [if_neg (by omega), if_pos (by omega)])); rw [ht]; exact ⟨rfl, by rw [mNot_2 _ _ (by decide) (by decide)]; exact hP⟩) dX9_notClose_29
  · skip
    refine lv_aload_n hx hb dX9_notClose_8 rfl (lk hl rfl) ?_
    refine x_iconst hF dX9_notClose_9 ?_
    refine x_kn hL (vx_runV (As := [_]) hF.2.2.2.2.2.2.2.2.2 ((mX9_isOther hP.1) hF.1) (cwV 1 hF.2.2.2.2.2.2.2.2.1 (lw_V q2384 q2386 qs56 q138 q2387) rfl rfl rfl (by decide +kernel) ⟨(Nat.le_of_ble_eq_true rfl), (Nat.le_of_ble_eq_true rfl)⟩) (x_preV hF hM (MA_ob hP.1) rfl) rfl rfl hl.1 rfl (lv_room (Nat.le_of_ble_eq_true rfl)) dX9_notClose_10 ⟨(Nat.le_of_ble_eq_true rfl), (Nat.le_of_ble_eq_true rfl)⟩) ?_
    rintro _ τ10 H locs ⟨rfl, hp⟩ hM hL
    refine MS_gen hM (MS_t hP hp) (fun σ hM hP => ?_)
    exact x_ireturn hF hM hL rfl (Nat.le_of_ble_eq_true rfl) (Nat.le_of_ble_eq_true rfl) (by (have ht : nClose w z = (1, 0, 0) := by first | (unfold nClose; rw [if_pos (by omega)])); rw [ht]; exact ⟨rfl, by rw [mNot_1 _ (by decide)]; exact hP⟩) dX9_notClose_13
set_option maxHeartbeats 4000000 in
set_option maxRecDepth 100000 in
/-- BakeryRingModel.notOpen(I)I -/
theorem mX9_notOpen {l : Launch} {E : En} {σ0 : Mm} {o : Nat} {F : Nat → Int → Int} {z : Int} (hz : inR z) {w : Int → Int} (hw : F 5 = w) (hk : Wk w) (hP : MA E σ0 o F) : Ctr l E yX9_notOpen (ws_ yX9_notOpen cX9_notOpen 2 (some .int)) 2 43 0 0 [.ref o, .int (iz z)] σ0 (fun v τ => v = some (.int (iz ((nOpen w z).1))) ∧ MS E σ0 o τ (mNot F (nOpen w z))) noX := by
  refine x_head (own := RX9) (cc := cX9_notOpen) (maxL := 2) (ret := (some .int)) (by decide) rfl rfl (Nat.le_of_ble_eq_true rfl) ?_
  intro p e s m args below meth c H ls hF hname htab hM hl
  have hx := hF.2.2.1
  have hb := hF.2.2.2.1
  have hL : Lc E [] := lcNil
  have hl : lh ls 2 ([(0, .ref o), (1, .int (iz z))]) := hl
  refine MS_gen hM (MS_0 hP) (fun σ hM hP => ?_)
  have hk2 := hk.2.1
  refine lv_aload_n hx hb dX9_notOpen_0 rfl (lk hl rfl) ?_
  refine lv_iload_n hx hb dX9_notOpen_1 rfl (lk hl rfl) ?_
  refine x_kp hL (vx_runV (As := [_]) hF.2.2.2.2.2.2.2.2.2 ((mX9_isBakery (w := w) hw hz hk.1 hP.1) hF.1) (cwV 1 hF.2.2.2.2.2.2.2.2.1 (lw_V q2377 q2379 qs55 q138 q2380) rfl rfl rfl (by decide +kernel) ⟨(Nat.le_of_ble_eq_true rfl), (Nat.le_of_ble_eq_true rfl)⟩) (x_preV hF hM (MA_ob hP.1) rfl) rfl rfl hl.1 rfl (lv_room (Nat.le_of_ble_eq_true rfl)) dX9_notOpen_2 ⟨(Nat.le_of_ble_eq_true rfl), (Nat.le_of_ble_eq_true rfl)⟩) (fun H locs hM hL => ?_)
  refine x_ifne_b (tgt := 14) hF dX9_notOpen_5 (by decide) (fun c5 => ?_) (fun c5 => ?_)
  · skip
    refine lv_aload_n hx hb dX9_notOpen_14 rfl (lk hl rfl) ?_
    refine lv_iload_n hx hb dX9_notOpen_15 rfl (lk hl rfl) ?_
    refine x_kp hL (vx_runV (As := [_]) hF.2.2.2.2.2.2.2.2.2 ((mX9_isOpen (w := w) hw (by omega) (by omega) hk.1 hP.1) hF.1) (cwV 1 hF.2.2.2.2.2.2.2.2.1 (lw_V q2432 q2434 qs68 q138 q2435) rfl rfl rfl (by decide +kernel) ⟨(Nat.le_of_ble_eq_true rfl), (Nat.le_of_ble_eq_true rfl)⟩) (x_preV hF hM (MA_ob hP.1) rfl) rfl rfl hl.1 rfl (lv_room (Nat.le_of_ble_eq_true rfl)) dX9_notOpen_16 ⟨(Nat.le_of_ble_eq_true rfl), (Nat.le_of_ble_eq_true rfl)⟩) (fun H locs hM hL => ?_)
    refine x_ifeq_b (tgt := 32) hF dX9_notOpen_19 (by decide) (fun c19 => ?_) (fun c19 => ?_)
    · skip
      refine x_iconst hF dX9_notOpen_32 ?_
      exact x_ireturn hF hM hL rfl (Nat.le_of_ble_eq_true rfl) (Nat.le_of_ble_eq_true rfl) (by (have ht : nOpen w z = (0, 0, 0) := by first | (unfold nOpen; rw [if_neg (by omega), if_neg (by omega)])); rw [ht]; exact ⟨rfl, by rw [mNot_0]; exact hP⟩) dX9_notOpen_33
    · skip
      refine lv_aload_n hx hb dX9_notOpen_22 rfl (lk hl rfl) ?_
      refine x_iconst hF dX9_notOpen_23 ?_
      refine x_iconst hF dX9_notOpen_24 ?_
      refine lv_iload_n hx hb dX9_notOpen_25 rfl (lk hl rfl) ?_
      refine x_kn hL (vx_runV (As := [_, _, _]) hF.2.2.2.2.2.2.2.2.2 ((mX9_isNot hP.1) hF.1) (cwV 3 hF.2.2.2.2.2.2.2.2.1 (lw_V q2341 q2343 qs47 q138 q2344) rfl rfl rfl (by decide +kernel) ⟨(Nat.le_of_ble_eq_true rfl), (Nat.le_of_ble_eq_true rfl)⟩) (x_preV hF hM (MA_ob hP.1) rfl) rfl rfl hl.1 rfl (lv_room (Nat.le_of_ble_eq_true rfl)) dX9_notOpen_26 ⟨(Nat.le_of_ble_eq_true rfl), (Nat.le_of_ble_eq_true rfl)⟩) ?_
      rintro _ τ26 H locs ⟨rfl, hp⟩ hM hL
      refine MS_gen hM (MS_t hP hp) (fun σ hM hP => ?_)
      refine x_goto (tgt := 33) hF dX9_notOpen_29 (by decide) ?_
      exact x_ireturn hF hM hL rfl (Nat.le_of_ble_eq_true rfl) (Nat.le_of_ble_eq_true rfl) (by (have ht : nOpen w z = (2, 5, z) := by first | (unfold nOpen; rw [if_neg (by omega), if_pos (by omega)])); rw [ht]; exact ⟨rfl, by rw [mNot_2 _ _ (by decide) (by decide)]; exact hP⟩) dX9_notOpen_33
  · skip
    refine lv_aload_n hx hb dX9_notOpen_8 rfl (lk hl rfl) ?_
    refine x_iconst hF dX9_notOpen_9 ?_
    refine x_kn hL (vx_runV (As := [_]) hF.2.2.2.2.2.2.2.2.2 ((mX9_isOther hP.1) hF.1) (cwV 1 hF.2.2.2.2.2.2.2.2.1 (lw_V q2384 q2386 qs56 q138 q2387) rfl rfl rfl (by decide +kernel) ⟨(Nat.le_of_ble_eq_true rfl), (Nat.le_of_ble_eq_true rfl)⟩) (x_preV hF hM (MA_ob hP.1) rfl) rfl rfl hl.1 rfl (lv_room (Nat.le_of_ble_eq_true rfl)) dX9_notOpen_10 ⟨(Nat.le_of_ble_eq_true rfl), (Nat.le_of_ble_eq_true rfl)⟩) ?_
    rintro _ τ10 H locs ⟨rfl, hp⟩ hM hL
    refine MS_gen hM (MS_t hP hp) (fun σ hM hP => ?_)
    exact x_ireturn hF hM hL rfl (Nat.le_of_ble_eq_true rfl) (Nat.le_of_ble_eq_true rfl) (by (have ht : nOpen w z = (1, 0, 0) := by first | (unfold nOpen; rw [if_pos (by omega)])); rw [ht]; exact ⟨rfl, by rw [mNot_1 _ (by decide)]; exact hP⟩) dX9_notOpen_13
set_option maxHeartbeats 4000000 in
set_option maxRecDepth 100000 in
/-- BakeryRingModel.notOven(II)I -/
theorem mX9_notOven {l : Launch} {E : En} {σ0 : Mm} {o : Nat} {F : Nat → Int → Int} {z a : Int} (hz : inR z) (ha : inR a) {w : Int → Int} (hw : F 5 = w) (hk : Wk w) (hP : MA E σ0 o F) : Ctr l E yX9_notOven (ws_ yX9_notOven cX9_notOven 3 (some .int)) 2 43 0 0 [.ref o, .int (iz z), .int (iz a)] σ0 (fun v τ => v = some (.int (iz ((nOven w z a).1))) ∧ MS E σ0 o τ (mNot F (nOven w z a))) noX := by
  refine x_head (own := RX9) (cc := cX9_notOven) (maxL := 3) (ret := (some .int)) (by decide) rfl rfl (Nat.le_of_ble_eq_true rfl) ?_
  intro p e s m args below meth c H ls hF hname htab hM hl
  have hx := hF.2.2.1
  have hb := hF.2.2.2.1
  have hL : Lc E [] := lcNil
  have hl : lh ls 3 ([(0, .ref o), (1, .int (iz z)), (2, .int (iz a))]) := hl
  refine MS_gen hM (MS_0 hP) (fun σ hM hP => ?_)
  have hk2 := hk.2.1
  refine lv_aload_n hx hb dX9_notOven_0 rfl (lk hl rfl) ?_
  refine lv_iload_n hx hb dX9_notOven_1 rfl (lk hl rfl) ?_
  refine x_kp hL (vx_runV (As := [_]) hF.2.2.2.2.2.2.2.2.2 ((mX9_isBakery (w := w) hw hz hk.1 hP.1) hF.1) (cwV 1 hF.2.2.2.2.2.2.2.2.1 (lw_V q2377 q2379 qs55 q138 q2380) rfl rfl rfl (by decide +kernel) ⟨(Nat.le_of_ble_eq_true rfl), (Nat.le_of_ble_eq_true rfl)⟩) (x_preV hF hM (MA_ob hP.1) rfl) rfl rfl hl.1 rfl (lv_room (Nat.le_of_ble_eq_true rfl)) dX9_notOven_2 ⟨(Nat.le_of_ble_eq_true rfl), (Nat.le_of_ble_eq_true rfl)⟩) (fun H locs hM hL => ?_)
  refine x_ifne_b (tgt := 14) hF dX9_notOven_5 (by decide) (fun c5 => ?_) (fun c5 => ?_)
  · skip
    refine lv_iload_n hx hb dX9_notOven_14 rfl (lk hl rfl) ?_
    refine x_iconst hF dX9_notOven_15 ?_
    refine x_bipush hF (by decide) dX9_notOven_16 ?_
    refine x_kp hL (vx_runS (As := [_, _, _]) hF.2.2.2.2.2.2.2.2.2 ((mX9_isBetween ha ⟨by omega, by omega⟩ ⟨by omega, by omega⟩) hF.1) (va_cwS 3 hF.2.2.2.2.2.2.2.2.1 (lw_S q2334 q2335 q138 q2336) rfl rfl rfl (by decide +kernel) ⟨(Nat.le_of_ble_eq_true rfl), (Nat.le_of_ble_eq_true rfl)⟩) (x_preS hF hM) rfl rfl hl.1 rfl (lv_room (Nat.le_of_ble_eq_true rfl)) dX9_notOven_18 ⟨(Nat.le_of_ble_eq_true rfl), (Nat.le_of_ble_eq_true rfl)⟩) (fun H locs hM hL => ?_)
    refine x_ifne_b (tgt := 30) hF dX9_notOven_21 (by decide) (fun c21 => ?_) (fun c21 => ?_)
    · skip
      refine lv_aload_n hx hb dX9_notOven_30 rfl (lk hl rfl) ?_
      refine lv_iload_n hx hb dX9_notOven_31 rfl (lk hl rfl) ?_
      refine x_iconst hF dX9_notOven_32 ?_
      refine x_kp hL (vx_runV (As := [_, _]) hF.2.2.2.2.2.2.2.2.2 ((mX9_ofBakery (w := w) hw (by omega) (by omega) hP.1) hF.1) (cwV 2 hF.2.2.2.2.2.2.2.2.1 (lw_V q2436 q2438 qs69 q138 q2439) rfl rfl rfl (by decide +kernel) ⟨(Nat.le_of_ble_eq_true rfl), (Nat.le_of_ble_eq_true rfl)⟩) (x_preV hF hM (MA_ob hP.1) rfl) rfl rfl hl.1 rfl (lv_room (Nat.le_of_ble_eq_true rfl)) dX9_notOven_33 ⟨(Nat.le_of_ble_eq_true rfl), (Nat.le_of_ble_eq_true rfl)⟩) (fun H locs hM hL => ?_)
      refine lv_iload_n hx hb dX9_notOven_36 rfl (lk hl rfl) ?_
      refine x_icmp_ne (tgt := 51) hF dX9_notOven_37 (by decide) (by first | exact Rg_in hk.1 _ | assumption | (unfold inR; omega)) (by first | exact Rg_in hk.1 _ | assumption | (unfold inR; omega)) (fun c37 => ?_) (fun c37 => ?_)
      · skip
        refine x_iconst hF dX9_notOven_51 ?_
        exact x_ireturn hF hM hL rfl (Nat.le_of_ble_eq_true rfl) (Nat.le_of_ble_eq_true rfl) (by (have ht : nOven w z a = (0, 0, 0) := by first | (unfold nOven; rw [if_neg (by omega), if_neg (by omega), if_neg (by omega)])); rw [ht]; exact ⟨rfl, by rw [mNot_0]; exact hP⟩) dX9_notOven_52
      · skip
        refine lv_aload_n hx hb dX9_notOven_40 rfl (lk hl rfl) ?_
        refine x_iconst hF dX9_notOven_41 ?_
        refine x_bipush hF (by decide) dX9_notOven_42 ?_
        refine lv_iload_n hx hb dX9_notOven_44 rfl (lk hl rfl) ?_
        refine x_kn hL (vx_runV (As := [_, _, _]) hF.2.2.2.2.2.2.2.2.2 ((mX9_isNot hP.1) hF.1) (cwV 3 hF.2.2.2.2.2.2.2.2.1 (lw_V q2341 q2343 qs47 q138 q2344) rfl rfl rfl (by decide +kernel) ⟨(Nat.le_of_ble_eq_true rfl), (Nat.le_of_ble_eq_true rfl)⟩) (x_preV hF hM (MA_ob hP.1) rfl) rfl rfl hl.1 rfl (lv_room (Nat.le_of_ble_eq_true rfl)) dX9_notOven_45 ⟨(Nat.le_of_ble_eq_true rfl), (Nat.le_of_ble_eq_true rfl)⟩) ?_
        rintro _ τ45 H locs ⟨rfl, hp⟩ hM hL
        refine MS_gen hM (MS_t hP hp) (fun σ hM hP => ?_)
        refine x_goto (tgt := 52) hF dX9_notOven_48 (by decide) ?_
        exact x_ireturn hF hM hL rfl (Nat.le_of_ble_eq_true rfl) (Nat.le_of_ble_eq_true rfl) (by (have ht : nOven w z a = (3, 7, a) := by first | (unfold nOven; rw [if_neg (by omega), if_neg (by omega), if_pos (by omega)])); rw [ht]; exact ⟨rfl, by rw [mNot_2 _ _ (by decide) (by decide)]; exact hP⟩) dX9_notOven_52
    · skip
      refine lv_aload_n hx hb dX9_notOven_24 rfl (lk hl rfl) ?_
      refine x_iconst hF dX9_notOven_25 ?_
      refine x_kn hL (vx_runV (As := [_]) hF.2.2.2.2.2.2.2.2.2 ((mX9_isOther hP.1) hF.1) (cwV 1 hF.2.2.2.2.2.2.2.2.1 (lw_V q2384 q2386 qs56 q138 q2387) rfl rfl rfl (by decide +kernel) ⟨(Nat.le_of_ble_eq_true rfl), (Nat.le_of_ble_eq_true rfl)⟩) (x_preV hF hM (MA_ob hP.1) rfl) rfl rfl hl.1 rfl (lv_room (Nat.le_of_ble_eq_true rfl)) dX9_notOven_26 ⟨(Nat.le_of_ble_eq_true rfl), (Nat.le_of_ble_eq_true rfl)⟩) ?_
      rintro _ τ26 H locs ⟨rfl, hp⟩ hM hL
      refine MS_gen hM (MS_t hP hp) (fun σ hM hP => ?_)
      exact x_ireturn hF hM hL rfl (Nat.le_of_ble_eq_true rfl) (Nat.le_of_ble_eq_true rfl) (by (have ht : nOven w z a = (2, 0, 0) := by first | (unfold nOven; rw [if_neg (by omega), if_pos (by omega)])); rw [ht]; exact ⟨rfl, by rw [mNot_1 _ (by decide)]; exact hP⟩) dX9_notOven_29
  · skip
    refine lv_aload_n hx hb dX9_notOven_8 rfl (lk hl rfl) ?_
    refine x_iconst hF dX9_notOven_9 ?_
    refine x_kn hL (vx_runV (As := [_]) hF.2.2.2.2.2.2.2.2.2 ((mX9_isOther hP.1) hF.1) (cwV 1 hF.2.2.2.2.2.2.2.2.1 (lw_V q2384 q2386 qs56 q138 q2387) rfl rfl rfl (by decide +kernel) ⟨(Nat.le_of_ble_eq_true rfl), (Nat.le_of_ble_eq_true rfl)⟩) (x_preV hF hM (MA_ob hP.1) rfl) rfl rfl hl.1 rfl (lv_room (Nat.le_of_ble_eq_true rfl)) dX9_notOven_10 ⟨(Nat.le_of_ble_eq_true rfl), (Nat.le_of_ble_eq_true rfl)⟩) ?_
    rintro _ τ10 H locs ⟨rfl, hp⟩ hM hL
    refine MS_gen hM (MS_t hP hp) (fun σ hM hP => ?_)
    exact x_ireturn hF hM hL rfl (Nat.le_of_ble_eq_true rfl) (Nat.le_of_ble_eq_true rfl) (by (have ht : nOven w z a = (1, 0, 0) := by first | (unfold nOven; rw [if_pos (by omega)])); rw [ht]; exact ⟨rfl, by rw [mNot_1 _ (by decide)]; exact hP⟩) dX9_notOven_13
set_option maxHeartbeats 4000000 in
set_option maxRecDepth 100000 in
/-- BakeryRingModel.notCome(II)I -/
theorem mX9_notCome {l : Launch} {E : En} {σ0 : Mm} {o : Nat} {F : Nat → Int → Int} {z a : Int} (hz : inR z) (ha : inR a) {w : Int → Int} (hw : F 5 = w) (hk : Wk w) (hP : MA E σ0 o F) : Ctr l E yX9_notCome (ws_ yX9_notCome cX9_notCome 3 (some .int)) 2 42 0 0 [.ref o, .int (iz z), .int (iz a)] σ0 (fun v τ => v = some (.int (iz ((nCome w z a).1))) ∧ MS E σ0 o τ (mNot F (nCome w z a))) noX := by
  refine x_head (own := RX9) (cc := cX9_notCome) (maxL := 3) (ret := (some .int)) (by decide) rfl rfl (Nat.le_of_ble_eq_true rfl) ?_
  intro p e s m args below meth c H ls hF hname htab hM hl
  have hx := hF.2.2.1
  have hb := hF.2.2.2.1
  have hL : Lc E [] := lcNil
  have hl : lh ls 3 ([(0, .ref o), (1, .int (iz z)), (2, .int (iz a))]) := hl
  refine MS_gen hM (MS_0 hP) (fun σ hM hP => ?_)
  have hk2 := hk.2.1
  refine lv_iload_n hx hb dX9_notCome_0 rfl (lk hl rfl) ?_
  refine x_kp hL (vx_runS (As := [_]) hF.2.2.2.2.2.2.2.2.2 ((mX9_isAngle hz) hF.1) (va_cwS 1 hF.2.2.2.2.2.2.2.2.1 (lw_S q2381 q2382 q138 q2383) rfl rfl rfl (by decide +kernel) ⟨(Nat.le_of_ble_eq_true rfl), (Nat.le_of_ble_eq_true rfl)⟩) (x_preS hF hM) rfl rfl hl.1 rfl (lv_room (Nat.le_of_ble_eq_true rfl)) dX9_notCome_1 ⟨(Nat.le_of_ble_eq_true rfl), (Nat.le_of_ble_eq_true rfl)⟩) (fun H locs hM hL => ?_)
  refine x_ifne_b (tgt := 13) hF dX9_notCome_4 (by decide) (fun c4 => ?_) (fun c4 => ?_)
  · skip
    refine lv_iload_n hx hb dX9_notCome_13 rfl (lk hl rfl) ?_
    refine x_iconst hF dX9_notCome_14 ?_
    refine x_bipush hF (by decide) dX9_notCome_15 ?_
    refine x_kp hL (vx_runS (As := [_, _, _]) hF.2.2.2.2.2.2.2.2.2 ((mX9_isBetween ha ⟨by omega, by omega⟩ ⟨by omega, by omega⟩) hF.1) (va_cwS 3 hF.2.2.2.2.2.2.2.2.1 (lw_S q2334 q2335 q138 q2336) rfl rfl rfl (by decide +kernel) ⟨(Nat.le_of_ble_eq_true rfl), (Nat.le_of_ble_eq_true rfl)⟩) (x_preS hF hM) rfl rfl hl.1 rfl (lv_room (Nat.le_of_ble_eq_true rfl)) dX9_notCome_17 ⟨(Nat.le_of_ble_eq_true rfl), (Nat.le_of_ble_eq_true rfl)⟩) (fun H locs hM hL => ?_)
    refine x_ifne_b (tgt := 29) hF dX9_notCome_20 (by decide) (fun c20 => ?_) (fun c20 => ?_)
    · skip
      refine lv_aload_n hx hb dX9_notCome_29 rfl (lk hl rfl) ?_
      refine x_getfield hF (ci := 10) in_X9 rfl 5 (by decide) q2256 (fun _ h => h) hM (MA_ob hP.1) (MA_f5 hP.1) dX9_notCome_30 ?_
      refine x_iconst hF dX9_notCome_33 ?_
      refine x_iald hF hM (MA_a5 hP.1) (by omega) (by omega) (by decide) (show rd _ _ _ = .int (iz (w _)) from by have h9 := MA_r5 hP.1; rw [hw] at h9; exact h9 _ (by omega) (by omega)) dX9_notCome_34 ?_
      refine x_bipush hF (by decide) dX9_notCome_35 ?_
      refine x_icmp_ne (tgt := 51) hF dX9_notCome_37 (by decide) (by first | exact Rg_in hk.1 _ | assumption | (unfold inR; omega)) (by first | exact Rg_in hk.1 _ | assumption | (unfold inR; omega)) (fun c37 => ?_) (fun c37 => ?_)
      · skip
        refine x_iconst hF dX9_notCome_51 ?_
        exact x_ireturn hF hM hL rfl (Nat.le_of_ble_eq_true rfl) (Nat.le_of_ble_eq_true rfl) (by (have ht : nCome w z a = (0, 0, 0) := by first | (unfold nCome; rw [if_neg (by omega), if_neg (by omega), if_neg (by omega)])); rw [ht]; exact ⟨rfl, by rw [mNot_0]; exact hP⟩) dX9_notCome_52
      · skip
        refine lv_aload_n hx hb dX9_notCome_40 rfl (lk hl rfl) ?_
        refine x_iconst hF dX9_notCome_41 ?_
        refine x_iconst hF dX9_notCome_42 ?_
        refine x_bipush hF (by decide) dX9_notCome_43 ?_
        refine x_kn hL (vx_runV (As := [_, _, _]) hF.2.2.2.2.2.2.2.2.2 ((mX9_isNot hP.1) hF.1) (cwV 3 hF.2.2.2.2.2.2.2.2.1 (lw_V q2341 q2343 qs47 q138 q2344) rfl rfl rfl (by decide +kernel) ⟨(Nat.le_of_ble_eq_true rfl), (Nat.le_of_ble_eq_true rfl)⟩) (x_preV hF hM (MA_ob hP.1) rfl) rfl rfl hl.1 rfl (lv_room (Nat.le_of_ble_eq_true rfl)) dX9_notCome_45 ⟨(Nat.le_of_ble_eq_true rfl), (Nat.le_of_ble_eq_true rfl)⟩) ?_
        rintro _ τ45 H locs ⟨rfl, hp⟩ hM hL
        refine MS_gen hM (MS_t hP hp) (fun σ hM hP => ?_)
        refine x_goto (tgt := 52) hF dX9_notCome_48 (by decide) ?_
        exact x_ireturn hF hM hL rfl (Nat.le_of_ble_eq_true rfl) (Nat.le_of_ble_eq_true rfl) (by (have ht : nCome w z a = (3, 1, 20) := by first | (unfold nCome; rw [if_neg (by omega), if_neg (by omega), if_pos (by omega)])); rw [ht]; exact ⟨rfl, by rw [mNot_2 _ _ (by decide) (by decide)]; exact hP⟩) dX9_notCome_52
    · skip
      refine lv_aload_n hx hb dX9_notCome_23 rfl (lk hl rfl) ?_
      refine x_iconst hF dX9_notCome_24 ?_
      refine x_kn hL (vx_runV (As := [_]) hF.2.2.2.2.2.2.2.2.2 ((mX9_isOther hP.1) hF.1) (cwV 1 hF.2.2.2.2.2.2.2.2.1 (lw_V q2384 q2386 qs56 q138 q2387) rfl rfl rfl (by decide +kernel) ⟨(Nat.le_of_ble_eq_true rfl), (Nat.le_of_ble_eq_true rfl)⟩) (x_preV hF hM (MA_ob hP.1) rfl) rfl rfl hl.1 rfl (lv_room (Nat.le_of_ble_eq_true rfl)) dX9_notCome_25 ⟨(Nat.le_of_ble_eq_true rfl), (Nat.le_of_ble_eq_true rfl)⟩) ?_
      rintro _ τ25 H locs ⟨rfl, hp⟩ hM hL
      refine MS_gen hM (MS_t hP hp) (fun σ hM hP => ?_)
      exact x_ireturn hF hM hL rfl (Nat.le_of_ble_eq_true rfl) (Nat.le_of_ble_eq_true rfl) (by (have ht : nCome w z a = (2, 0, 0) := by first | (unfold nCome; rw [if_neg (by omega), if_pos (by omega)])); rw [ht]; exact ⟨rfl, by rw [mNot_1 _ (by decide)]; exact hP⟩) dX9_notCome_28
  · skip
    refine lv_aload_n hx hb dX9_notCome_7 rfl (lk hl rfl) ?_
    refine x_iconst hF dX9_notCome_8 ?_
    refine x_kn hL (vx_runV (As := [_]) hF.2.2.2.2.2.2.2.2.2 ((mX9_isOther hP.1) hF.1) (cwV 1 hF.2.2.2.2.2.2.2.2.1 (lw_V q2384 q2386 qs56 q138 q2387) rfl rfl rfl (by decide +kernel) ⟨(Nat.le_of_ble_eq_true rfl), (Nat.le_of_ble_eq_true rfl)⟩) (x_preV hF hM (MA_ob hP.1) rfl) rfl rfl hl.1 rfl (lv_room (Nat.le_of_ble_eq_true rfl)) dX9_notCome_9 ⟨(Nat.le_of_ble_eq_true rfl), (Nat.le_of_ble_eq_true rfl)⟩) ?_
    rintro _ τ9 H locs ⟨rfl, hp⟩ hM hL
    refine MS_gen hM (MS_t hP hp) (fun σ hM hP => ?_)
    exact x_ireturn hF hM hL rfl (Nat.le_of_ble_eq_true rfl) (Nat.le_of_ble_eq_true rfl) (by (have ht : nCome w z a = (1, 0, 0) := by first | (unfold nCome; rw [if_pos (by omega)])); rw [ht]; exact ⟨rfl, by rw [mNot_1 _ (by decide)]; exact hP⟩) dX9_notCome_12
set_option maxHeartbeats 4000000 in
set_option maxRecDepth 100000 in
/-- BakeryRingModel.notLeave(I)I -/
theorem mX9_notLeave {l : Launch} {E : En} {σ0 : Mm} {o : Nat} {F : Nat → Int → Int} {z : Int} (hz : inR z) {w : Int → Int} (hw : F 5 = w) (hk : Wk w) (hP : MA E σ0 o F) : Ctr l E yX9_notLeave (ws_ yX9_notLeave cX9_notLeave 2 (some .int)) 2 43 0 0 [.ref o, .int (iz z)] σ0 (fun v τ => v = some (.int (iz ((nLeave w z).1))) ∧ MS E σ0 o τ (mNot F (nLeave w z))) noX := by
  refine x_head (own := RX9) (cc := cX9_notLeave) (maxL := 2) (ret := (some .int)) (by decide) rfl rfl (Nat.le_of_ble_eq_true rfl) ?_
  intro p e s m args below meth c H ls hF hname htab hM hl
  have hx := hF.2.2.1
  have hb := hF.2.2.2.1
  have hL : Lc E [] := lcNil
  have hl : lh ls 2 ([(0, .ref o), (1, .int (iz z))]) := hl
  refine MS_gen hM (MS_0 hP) (fun σ hM hP => ?_)
  have hk2 := hk.2.1
  refine lv_aload_n hx hb dX9_notLeave_0 rfl (lk hl rfl) ?_
  refine lv_iload_n hx hb dX9_notLeave_1 rfl (lk hl rfl) ?_
  refine x_kp hL (vx_runV (As := [_]) hF.2.2.2.2.2.2.2.2.2 ((mX9_isCustomer (w := w) hw hz hk.1 hP.1) hF.1) (cwV 1 hF.2.2.2.2.2.2.2.2.1 (lw_V q2520 q2522 qs84 q138 q2523) rfl rfl rfl (by decide +kernel) ⟨(Nat.le_of_ble_eq_true rfl), (Nat.le_of_ble_eq_true rfl)⟩) (x_preV hF hM (MA_ob hP.1) rfl) rfl rfl hl.1 rfl (lv_room (Nat.le_of_ble_eq_true rfl)) dX9_notLeave_2 ⟨(Nat.le_of_ble_eq_true rfl), (Nat.le_of_ble_eq_true rfl)⟩) (fun H locs hM hL => ?_)
  refine x_ifeq_b (tgt := 12) hF dX9_notLeave_5 (by decide) (fun c5 => ?_) (fun c5 => ?_)
  · skip
    refine lv_aload_n hx hb dX9_notLeave_12 rfl (lk hl rfl) ?_
    refine x_iconst hF dX9_notLeave_13 ?_
    refine x_kn hL (vx_runV (As := [_]) hF.2.2.2.2.2.2.2.2.2 ((mX9_isOther hP.1) hF.1) (cwV 1 hF.2.2.2.2.2.2.2.2.1 (lw_V q2384 q2386 qs56 q138 q2387) rfl rfl rfl (by decide +kernel) ⟨(Nat.le_of_ble_eq_true rfl), (Nat.le_of_ble_eq_true rfl)⟩) (x_preV hF hM (MA_ob hP.1) rfl) rfl rfl hl.1 rfl (lv_room (Nat.le_of_ble_eq_true rfl)) dX9_notLeave_14 ⟨(Nat.le_of_ble_eq_true rfl), (Nat.le_of_ble_eq_true rfl)⟩) ?_
    rintro _ τ14 H locs ⟨rfl, hp⟩ hM hL
    refine MS_gen hM (MS_t hP hp) (fun σ hM hP => ?_)
    exact x_ireturn hF hM hL rfl (Nat.le_of_ble_eq_true rfl) (Nat.le_of_ble_eq_true rfl) (by (have ht : nLeave w z = (1, 0, 0) := by first | (unfold nLeave; rw [if_pos (by omega)])); rw [ht]; exact ⟨rfl, by rw [mNot_1 _ (by decide)]; exact hP⟩) dX9_notLeave_17
  · skip
    refine x_iconst hF dX9_notLeave_8 ?_
    refine x_goto (tgt := 17) hF dX9_notLeave_9 (by decide) ?_
    exact x_ireturn hF hM hL rfl (Nat.le_of_ble_eq_true rfl) (Nat.le_of_ble_eq_true rfl) (by (have ht : nLeave w z = (0, 0, 0) := by first | (unfold nLeave; rw [if_neg (by omega)])); rw [ht]; exact ⟨rfl, by rw [mNot_0]; exact hP⟩) dX9_notLeave_17
