set_option maxHeartbeats 4000000 in
set_option maxRecDepth 100000 in
/-- BakeryRingModel.nearestAgain(I)I -/
theorem mX9_nearestAgain {l : Launch} {E : En} {σ0 : Mm} {o : Nat} {F : Nat → Int → Int} {w : Int → Int} (hw : F 5 = w) (hk : Wk w) {z : Int} (hz : inR z) (hP : MA E σ0 o F) : Ctr l E yX9_nearestAgain (ws_ yX9_nearestAgain cX9_nearestAgain 4 (some .int)) 2 43 0 0 [.ref o, .int (iz z)] σ0 (fun v τ => v = some (.int (iz (qNearestAg w z).2)) ∧ QE E σ0 o τ F (qNearestAg w z).1) noX := by
  refine x_head (own := RX9) (cc := cX9_nearestAgain) (maxL := 4) (ret := (some .int)) (by decide) rfl rfl (Nat.le_of_ble_eq_true rfl) ?_
  intro p e s m args below meth c H ls hF hname htab hM hl
  have hx := hF.2.2.1
  have hb := hF.2.2.2.1
  have hL : Lc E [] := lcNil
  have hl : lh ls 4 ([(0, .ref o), (1, .int (iz z))]) := hl
  refine MS_gen hM (MS_0 hP) (fun σ hM hP => ?_)
  have hk2 := hk.2.1
  refine lv_aload_n hx hb dX9_nearestAgain_0 rfl (lk hl rfl) ?_
  refine x_iconst hF dX9_nearestAgain_1 ?_
  refine x_putfield hF (ci := 10) in_X9 rfl tyX9_ok nmX9 0 (by decide) q2251 (fun _ h => h) rfl hM hL (MA_ob hP.1) (ty := .int) (by decide +kernel) rfl rfl dX9_nearestAgain_2 (fun H locs hM hL => ?_)
  refine MS_gen hM (MS_p0 hM hP) (fun σ hM hP => ?_)
  refine lv_iload_n hx hb dX9_nearestAgain_5 rfl (lk hl rfl) ?_
  refine x_kp hL (vx_runS (As := [_]) hF.2.2.2.2.2.2.2.2.2 ((mX9_isAngle hz) hF.1) (va_cwS 1 hF.2.2.2.2.2.2.2.2.1 (lw_S q2381 q2382 q138 q2383) rfl rfl rfl (by decide +kernel) ⟨(Nat.le_of_ble_eq_true rfl), (Nat.le_of_ble_eq_true rfl)⟩) (x_preS hF hM) rfl rfl hl.1 rfl (lv_room (Nat.le_of_ble_eq_true rfl)) dX9_nearestAgain_6 ⟨(Nat.le_of_ble_eq_true rfl), (Nat.le_of_ble_eq_true rfl)⟩) (fun H locs hM hL => ?_)
  refine x_ifne_b (tgt := 18) hF dX9_nearestAgain_9 (by decide) (fun c9 => ?_) (fun c9 => ?_)
  · skip
    refine x_iconst hF dX9_nearestAgain_18 ?_
    refine x_istore_n hF dX9_nearestAgain_19 rfl hl (by decide) rfl (fun ls hl => ?_)
    refine x_iconst hF dX9_nearestAgain_20 ?_
    refine x_istore_n hF dX9_nearestAgain_21 rfl hl (by decide) rfl (fun ls hl => ?_)
    suffices loop : ∀ (n : Nat) (i : Int) (be : Int) (σ : Mm) (H : Heap) (locs : List Loc) (ls : Array Slot), w 28 - i < (n : Int) → (0 ≤ i) → (i ≤ w 28) → (-1 ≤ be) → (be < w 28) → (nrF w z be i (w 28 - i).toNat = wNear w z) → Mem E s H σ → MS E σ0 o σ (up2 F 0 0 0) → Lc E locs → lh ls 4 [(0, .ref o), (1, .int (iz z)), (2, .int (iz be)), (3, .int (iz i))] → W p l e ({ frames := 2, cells := 0, slots := 0, locals := 43 } : Room) s m args below meth c H locs 0 0 (vx_MQ below (XQc E (fun v τ => v = some (.int (iz (qNearestAg w z).2)) ∧ QE E σ0 o τ F (qNearestAg w z).1)) (XXc E noX) args s 0 0 (XA E)) (F0 m 22 ls []) from loop (27) 0 (-1) _ _ _ _ (by omega) (by omega) (by omega) (by omega) (by omega) (by unfold wNear; rw [Int.sub_zero]) hM hP hL (lh_sub hl rfl)
    refine nat_loop (fun i be σ H locs ls hmm h0 h1 b0 b1 hr => absurd hmm (by omega)) (fun n ih i be σ H locs ls hmm h0 h1 b0 b1 hr hM hP hL hl => ?_)
    refine lv_iload_n hx hb dX9_nearestAgain_22 rfl (lk hl rfl) ?_
    refine lv_aload_n hx hb dX9_nearestAgain_23 rfl (lk hl rfl) ?_
    refine x_getfield hF (ci := 10) in_X9 rfl 5 (by decide) q2256 (fun _ h => h) hM (MA_ob hP.1) (MA_f5 hP.1) dX9_nearestAgain_24 ?_
    refine x_bipush hF (by decide) dX9_nearestAgain_27 ?_
    refine x_iald hF hM (MA_a5 hP.1) (by omega) (by omega) (by decide) (show rd _ _ _ = .int (iz (w _)) from by have h9 := MA_r5 hP.1; rw [up2_oth _ _ _ (by decide), hw] at h9; exact h9 _ (by omega) (by omega)) dX9_nearestAgain_29 ?_
    refine x_icmp_ge (tgt := 78) hF dX9_nearestAgain_30 (by decide) (by first | exact Rg_in hk.1 _ | assumption | (unfold inR; omega)) (by first | exact Rg_in hk.1 _ | assumption | (unfold inR; omega)) (fun c30 => ?_) (fun c30 => ?_)
    · skip
      have hfe : wNear w z = be := by rw [← hr]; exact nrF_e (by omega)
      refine lv_iload_n hx hb dX9_nearestAgain_78 rfl (lk hl rfl) ?_
      refine x_if_ge (tgt := 90) hF dX9_nearestAgain_79 (by decide) (by first | exact Rg_in hk.1 _ | assumption | (unfold inR; omega)) (fun c79 => ?_) (fun c79 => ?_)
      · skip
        refine lv_aload_n hx hb dX9_nearestAgain_90 rfl (lk hl rfl) ?_
        refine lv_iload_n hx hb dX9_nearestAgain_91 rfl (lk hl rfl) ?_
        refine x_kp hL (vx_runV (As := [_]) hF.2.2.2.2.2.2.2.2.2 ((mX9_ownerAt (w := w) (by rw [up2_oth _ _ _ (by decide)]; exact hw) (by omega) (by omega) hP.1) hF.1) (cwV 1 hF.2.2.2.2.2.2.2.2.1 (lw_V q2396 q2398 qs59 q138 q2399) rfl rfl rfl (by decide +kernel) ⟨(Nat.le_of_ble_eq_true rfl), (Nat.le_of_ble_eq_true rfl)⟩) (x_preV hF hM (MA_ob hP.1) rfl) rfl rfl hl.1 rfl (lv_room (Nat.le_of_ble_eq_true rfl)) dX9_nearestAgain_92 ⟨(Nat.le_of_ble_eq_true rfl), (Nat.le_of_ble_eq_true rfl)⟩) (fun H locs hM hL => ?_)
        exact x_ireturn hF hM hL rfl (Nat.le_of_ble_eq_true rfl) (Nat.le_of_ble_eq_true rfl) (by rw [← hfe]; (have ht : qNearestAg w z = (0, w (29 + 2 * wNear w z + 1)) := by first | (unfold qNearestAg; rw [if_neg (by omega), if_neg (by omega)])); rw [ht]; exact ⟨rfl, QE_0 hP⟩) dX9_nearestAgain_95
      · skip
        refine lv_aload_n hx hb dX9_nearestAgain_82 rfl (lk hl rfl) ?_
        refine x_iconst hF dX9_nearestAgain_83 ?_
        refine x_kn hL (vx_runV (As := [_]) hF.2.2.2.2.2.2.2.2.2 ((mX9_fails hP.1) hF.1) (cwV 1 hF.2.2.2.2.2.2.2.2.1 (lw_V q2337 q2339 qs46 q138 q2340) rfl rfl rfl (by decide +kernel) ⟨(Nat.le_of_ble_eq_true rfl), (Nat.le_of_ble_eq_true rfl)⟩) (x_preV hF hM (MA_ob hP.1) rfl) rfl rfl hl.1 rfl (lv_room (Nat.le_of_ble_eq_true rfl)) dX9_nearestAgain_84 ⟨(Nat.le_of_ble_eq_true rfl), (Nat.le_of_ble_eq_true rfl)⟩) ?_
        rintro _ τ84 H locs ⟨rfl, hp⟩ hM hL
        refine MS_gen hM (MS_t hP hp) (fun σ hM hP => ?_)
        refine x_goto (tgt := 95) hF dX9_nearestAgain_87 (by decide) ?_
        exact x_ireturn hF hM hL rfl (Nat.le_of_ble_eq_true rfl) (Nat.le_of_ble_eq_true rfl) (by (have ht : qNearestAg w z = (2, 0) := by first | (unfold qNearestAg; rw [if_neg (by omega), if_pos (by omega)])); rw [ht]; exact ⟨rfl, QE_1 hP⟩) dX9_nearestAgain_95
    · skip
      have how := hk.2.2.1 i h0 (by omega)
      refine lv_aload_n hx hb dX9_nearestAgain_33 rfl (lk hl rfl) ?_
      refine lv_aload_n hx hb dX9_nearestAgain_34 rfl (lk hl rfl) ?_
      refine lv_iload_n hx hb dX9_nearestAgain_35 rfl (lk hl rfl) ?_
      refine x_kp hL (vx_runV (As := [_]) hF.2.2.2.2.2.2.2.2.2 ((mX9_ownerAt (w := w) (by rw [up2_oth _ _ _ (by decide)]; exact hw) (by omega) (by omega) hP.1) hF.1) (cwV 1 hF.2.2.2.2.2.2.2.2.1 (lw_V q2396 q2398 qs59 q138 q2399) rfl rfl rfl (by decide +kernel) ⟨(Nat.le_of_ble_eq_true rfl), (Nat.le_of_ble_eq_true rfl)⟩) (x_preV hF hM (MA_ob hP.1) rfl) rfl rfl hl.1 rfl (lv_room (Nat.le_of_ble_eq_true rfl)) dX9_nearestAgain_36 ⟨(Nat.le_of_ble_eq_true rfl), (Nat.le_of_ble_eq_true rfl)⟩) (fun H locs hM hL => ?_)
      refine x_kp hL (vx_runV (As := [_]) hF.2.2.2.2.2.2.2.2.2 ((mX9_isOpen (w := w) (by rw [up2_oth _ _ _ (by decide)]; exact hw) (by omega) (by omega) hk.1 hP.1) hF.1) (cwV 1 hF.2.2.2.2.2.2.2.2.1 (lw_V q2432 q2434 qs68 q138 q2435) rfl rfl rfl (by decide +kernel) ⟨(Nat.le_of_ble_eq_true rfl), (Nat.le_of_ble_eq_true rfl)⟩) (x_preV hF hM (MA_ob hP.1) rfl) rfl rfl hl.1 rfl (lv_room (Nat.le_of_ble_eq_true rfl)) dX9_nearestAgain_39 ⟨(Nat.le_of_ble_eq_true rfl), (Nat.le_of_ble_eq_true rfl)⟩) (fun H locs hM hL => ?_)
      refine x_ifeq_b (tgt := 72) hF dX9_nearestAgain_42 (by decide) (fun c42 => ?_) (fun c42 => ?_)
      · skip
        refine x_iinc hF dX9_nearestAgain_72 hl rfl (by decide) rfl (fun ls hl => ?_)
        refine x_goto (tgt := 22) hF dX9_nearestAgain_75 (by decide) ?_
        first | (exact ih (i + 1) i _ _ _ _ (by omega) (by omega) (by omega) (by omega) (by omega) (by rw [← hr, nrF_1 (i := i) (by omega)]; (first | rw [if_pos (by omega)] | rw [if_neg (by omega)] | fail); done) hM hP hL (lh_sub hl rfl)) | (exact ih (i + 1) be _ _ _ _ (by omega) (by omega) (by omega) (by omega) (by omega) (by rw [← hr, nrF_1 (i := i) (by omega)]; (first | rw [if_pos (by omega)] | rw [if_neg (by omega)] | fail); done) hM hP hL (lh_sub hl rfl))
      · skip
        refine lv_iload_n hx hb dX9_nearestAgain_45 rfl (lk hl rfl) ?_
        refine x_if_lt (tgt := 70) hF dX9_nearestAgain_46 (by decide) (by first | exact Rg_in hk.1 _ | assumption | (unfold inR; omega)) (fun c46 => ?_) (fun c46 => ?_)
        · skip
          refine lv_iload_n hx hb dX9_nearestAgain_70 rfl (lk hl rfl) ?_
          refine x_istore_n hF dX9_nearestAgain_71 rfl hl (by decide) rfl (fun ls hl => ?_)
          refine x_iinc hF dX9_nearestAgain_72 hl rfl (by decide) rfl (fun ls hl => ?_)
          refine x_goto (tgt := 22) hF dX9_nearestAgain_75 (by decide) ?_
          first | (exact ih (i + 1) i _ _ _ _ (by omega) (by omega) (by omega) (by omega) (by omega) (by rw [← hr, nrF_1 (i := i) (by omega)]; (first | rw [if_pos (by omega)] | rw [if_neg (by omega)] | fail); done) hM hP hL (lh_sub hl rfl)) | (exact ih (i + 1) be _ _ _ _ (by omega) (by omega) (by omega) (by omega) (by omega) (by rw [← hr, nrF_1 (i := i) (by omega)]; (first | rw [if_pos (by omega)] | rw [if_neg (by omega)] | fail); done) hM hP hL (lh_sub hl rfl))
        · skip
          have hob := hk.2.2.1 be (by omega) (by omega)
          refine lv_iload_n hx hb dX9_nearestAgain_49 rfl (lk hl rfl) ?_
          refine lv_aload_n hx hb dX9_nearestAgain_50 rfl (lk hl rfl) ?_
          refine lv_iload_n hx hb dX9_nearestAgain_51 rfl (lk hl rfl) ?_
          refine x_kp hL (vx_runV (As := [_]) hF.2.2.2.2.2.2.2.2.2 ((mX9_angleAt (w := w) (by rw [up2_oth _ _ _ (by decide)]; exact hw) (by omega) (by omega) hP.1) hF.1) (cwV 1 hF.2.2.2.2.2.2.2.2.1 (lw_V q2392 q2394 qs58 q138 q2395) rfl rfl rfl (by decide +kernel) ⟨(Nat.le_of_ble_eq_true rfl), (Nat.le_of_ble_eq_true rfl)⟩) (x_preV hF hM (MA_ob hP.1) rfl) rfl rfl hl.1 rfl (lv_room (Nat.le_of_ble_eq_true rfl)) dX9_nearestAgain_52 ⟨(Nat.le_of_ble_eq_true rfl), (Nat.le_of_ble_eq_true rfl)⟩) (fun H locs hM hL => ?_)
          refine x_kp hL (vx_runS (As := [_, _]) hF.2.2.2.2.2.2.2.2.2 ((mX9_wayTo (by omega) (by omega)) hF.1) (va_cwS 2 hF.2.2.2.2.2.2.2.2.1 (lw_S q2560 q2561 q138 q2562) rfl rfl rfl (by decide +kernel) ⟨(Nat.le_of_ble_eq_true rfl), (Nat.le_of_ble_eq_true rfl)⟩) (x_preS hF hM) rfl rfl hl.1 rfl (lv_room (Nat.le_of_ble_eq_true rfl)) dX9_nearestAgain_55 ⟨(Nat.le_of_ble_eq_true rfl), (Nat.le_of_ble_eq_true rfl)⟩) (fun H locs hM hL => ?_)
          refine lv_iload_n hx hb dX9_nearestAgain_58 rfl (lk hl rfl) ?_
          refine lv_aload_n hx hb dX9_nearestAgain_59 rfl (lk hl rfl) ?_
          refine lv_iload_n hx hb dX9_nearestAgain_60 rfl (lk hl rfl) ?_
          refine x_kp hL (vx_runV (As := [_]) hF.2.2.2.2.2.2.2.2.2 ((mX9_angleAt (w := w) (by rw [up2_oth _ _ _ (by decide)]; exact hw) (by omega) (by omega) hP.1) hF.1) (cwV 1 hF.2.2.2.2.2.2.2.2.1 (lw_V q2392 q2394 qs58 q138 q2395) rfl rfl rfl (by decide +kernel) ⟨(Nat.le_of_ble_eq_true rfl), (Nat.le_of_ble_eq_true rfl)⟩) (x_preV hF hM (MA_ob hP.1) rfl) rfl rfl hl.1 rfl (lv_room (Nat.le_of_ble_eq_true rfl)) dX9_nearestAgain_61 ⟨(Nat.le_of_ble_eq_true rfl), (Nat.le_of_ble_eq_true rfl)⟩) (fun H locs hM hL => ?_)
          refine x_kp hL (vx_runS (As := [_, _]) hF.2.2.2.2.2.2.2.2.2 ((mX9_wayTo (by omega) (by omega)) hF.1) (va_cwS 2 hF.2.2.2.2.2.2.2.2.1 (lw_S q2560 q2561 q138 q2562) rfl rfl rfl (by decide +kernel) ⟨(Nat.le_of_ble_eq_true rfl), (Nat.le_of_ble_eq_true rfl)⟩) (x_preS hF hM) rfl rfl hl.1 rfl (lv_room (Nat.le_of_ble_eq_true rfl)) dX9_nearestAgain_64 ⟨(Nat.le_of_ble_eq_true rfl), (Nat.le_of_ble_eq_true rfl)⟩) (fun H locs hM hL => ?_)
          have hw1 := wWay_j (f := z) (t := w (29 + 2 * i)) (by omega) (by omega)
          have hw2 := wWay_j (f := z) (t := w (29 + 2 * be)) (by omega) (by omega)
          refine x_icmp_ge (tgt := 72) hF dX9_nearestAgain_67 (by decide) (by first | exact Rg_in hk.1 _ | assumption | (unfold inR; omega)) (by first | exact Rg_in hk.1 _ | assumption | (unfold inR; omega)) (fun c67 => ?_) (fun c67 => ?_)
          · skip
            refine x_iinc hF dX9_nearestAgain_72 hl rfl (by decide) rfl (fun ls hl => ?_)
            refine x_goto (tgt := 22) hF dX9_nearestAgain_75 (by decide) ?_
            first | (exact ih (i + 1) i _ _ _ _ (by omega) (by omega) (by omega) (by omega) (by omega) (by rw [← hr, nrF_1 (i := i) (by omega)]; (first | rw [if_pos (by omega)] | rw [if_neg (by omega)] | fail); done) hM hP hL (lh_sub hl rfl)) | (exact ih (i + 1) be _ _ _ _ (by omega) (by omega) (by omega) (by omega) (by omega) (by rw [← hr, nrF_1 (i := i) (by omega)]; (first | rw [if_pos (by omega)] | rw [if_neg (by omega)] | fail); done) hM hP hL (lh_sub hl rfl))
          · skip
            refine lv_iload_n hx hb dX9_nearestAgain_70 rfl (lk hl rfl) ?_
            refine x_istore_n hF dX9_nearestAgain_71 rfl hl (by decide) rfl (fun ls hl => ?_)
            refine x_iinc hF dX9_nearestAgain_72 hl rfl (by decide) rfl (fun ls hl => ?_)
            refine x_goto (tgt := 22) hF dX9_nearestAgain_75 (by decide) ?_
            first | (exact ih (i + 1) i _ _ _ _ (by omega) (by omega) (by omega) (by omega) (by omega) (by rw [← hr, nrF_1 (i := i) (by omega)]; (first | rw [if_pos (by omega)] | rw [if_neg (by omega)] | fail); done) hM hP hL (lh_sub hl rfl)) | (exact ih (i + 1) be _ _ _ _ (by omega) (by omega) (by omega) (by omega) (by omega) (by rw [← hr, nrF_1 (i := i) (by omega)]; (first | rw [if_pos (by omega)] | rw [if_neg (by omega)] | fail); done) hM hP hL (lh_sub hl rfl))
  · skip
    refine lv_aload_n hx hb dX9_nearestAgain_12 rfl (lk hl rfl) ?_
    refine x_iconst hF dX9_nearestAgain_13 ?_
    refine x_kn hL (vx_runV (As := [_]) hF.2.2.2.2.2.2.2.2.2 ((mX9_fails hP.1) hF.1) (cwV 1 hF.2.2.2.2.2.2.2.2.1 (lw_V q2337 q2339 qs46 q138 q2340) rfl rfl rfl (by decide +kernel) ⟨(Nat.le_of_ble_eq_true rfl), (Nat.le_of_ble_eq_true rfl)⟩) (x_preV hF hM (MA_ob hP.1) rfl) rfl rfl hl.1 rfl (lv_room (Nat.le_of_ble_eq_true rfl)) dX9_nearestAgain_14 ⟨(Nat.le_of_ble_eq_true rfl), (Nat.le_of_ble_eq_true rfl)⟩) ?_
    rintro _ τ14 H locs ⟨rfl, hp⟩ hM hL
    refine MS_gen hM (MS_t hP hp) (fun σ hM hP => ?_)
    exact x_ireturn hF hM hL rfl (Nat.le_of_ble_eq_true rfl) (Nat.le_of_ble_eq_true rfl) (by (have ht : qNearestAg w z = (1, 0) := by first | (unfold qNearestAg; rw [if_pos (by omega)])); rw [ht]; exact ⟨rfl, QE_1 hP⟩) dX9_nearestAgain_17
set_option maxHeartbeats 4000000 in
set_option maxRecDepth 100000 in
/-- BakeryRingModel.wouldMove(I)I -/
theorem mX9_wouldMove {l : Launch} {E : En} {σ0 : Mm} {o : Nat} {F : Nat → Int → Int} {w : Int → Int} (hw : F 5 = w) (hk : Wk w) {z : Int} (hz : inR z) (h3 : -1000000 ≤ w 3 ∧ w 3 ≤ 1000000) (hP : MA E σ0 o F) : Ctr l E yX9_wouldMove (ws_ yX9_wouldMove cX9_wouldMove 3 (some .int)) 5 116 0 0 [.ref o, .int (iz z)] σ0 (fun v τ => v = some (.int (iz (qWouldMove w z).2)) ∧ QE E σ0 o τ F (qWouldMove w z).1) noX := by
  refine x_head (own := RX9) (cc := cX9_wouldMove) (maxL := 3) (ret := (some .int)) (by decide) rfl rfl (Nat.le_of_ble_eq_true rfl) ?_
  intro p e s m args below meth c H ls hF hname htab hM hl
  have hx := hF.2.2.1
  have hb := hF.2.2.2.1
  have hL : Lc E [] := lcNil
  have hl : lh ls 3 ([(0, .ref o), (1, .int (iz z))]) := hl
  refine MS_gen hM (MS_0 hP) (fun σ hM hP => ?_)
  have hk2 := hk.2.1
  refine lv_aload_n hx hb dX9_wouldMove_0 rfl (lk hl rfl) ?_
  refine x_iconst hF dX9_wouldMove_1 ?_
  refine x_putfield hF (ci := 10) in_X9 rfl tyX9_ok nmX9 0 (by decide) q2251 (fun _ h => h) rfl hM hL (MA_ob hP.1) (ty := .int) (by decide +kernel) rfl rfl dX9_wouldMove_2 (fun H locs hM hL => ?_)
  refine MS_gen hM (MS_p0 hM hP) (fun σ hM hP => ?_)
  refine lv_aload_n hx hb dX9_wouldMove_5 rfl (lk hl rfl) ?_
  refine lv_iload_n hx hb dX9_wouldMove_6 rfl (lk hl rfl) ?_
  refine x_kp hL (vx_runV (As := [_]) hF.2.2.2.2.2.2.2.2.2 ((mX9_isBakery (w := w) (by rw [up2_oth _ _ _ (by decide)]; exact hw) hz hk.1 hP.1) hF.1) (cwV 1 hF.2.2.2.2.2.2.2.2.1 (lw_V q2377 q2379 qs55 q138 q2380) rfl rfl rfl (by decide +kernel) ⟨(Nat.le_of_ble_eq_true rfl), (Nat.le_of_ble_eq_true rfl)⟩) (x_preV hF hM (MA_ob hP.1) rfl) rfl rfl hl.1 rfl (lv_room (Nat.le_of_ble_eq_true rfl)) dX9_wouldMove_7 ⟨(Nat.le_of_ble_eq_true rfl), (Nat.le_of_ble_eq_true rfl)⟩) (fun H locs hM hL => ?_)
  refine x_ifne_b (tgt := 19) hF dX9_wouldMove_10 (by decide) (fun c10 => ?_) (fun c10 => ?_)
  · skip
    refine lv_aload_n hx hb dX9_wouldMove_19 rfl (lk hl rfl) ?_
    refine x_kn hL (vx_runV (As := []) hF.2.2.2.2.2.2.2.2.2 ((mX9_thinks hP.1) hF.1) (cwV 0 hF.2.2.2.2.2.2.2.2.1 (lw_V q2357 q2359 qs51 q138 q2360) rfl rfl rfl (by decide +kernel) ⟨(Nat.le_of_ble_eq_true rfl), (Nat.le_of_ble_eq_true rfl)⟩) (x_preV hF hM (MA_ob hP.1) rfl) rfl rfl hl.1 rfl (lv_room (Nat.le_of_ble_eq_true rfl)) dX9_wouldMove_20 ⟨(Nat.le_of_ble_eq_true rfl), (Nat.le_of_ble_eq_true rfl)⟩) ?_
    rintro _ τ20 H locs ⟨rfl, hp⟩ hM hL
    refine MS_gen hM (MS_t hP hp) (fun σ hM hP => ?_)
    obtain ⟨F1, hP, e0, e5, e8, eo⟩ := TE_0 hw hP
    refine lv_aload_n hx hb dX9_wouldMove_23 rfl (lk hl rfl) ?_
    refine lv_iload_n hx hb dX9_wouldMove_24 rfl (lk hl rfl) ?_
    refine lv_aload_n hx hb dX9_wouldMove_25 rfl (lk hl rfl) ?_
    refine lv_iload_n hx hb dX9_wouldMove_26 rfl (lk hl rfl) ?_
    refine x_kp hL (vx_runV (As := [_]) hF.2.2.2.2.2.2.2.2.2 ((mX9_isOpen (w := w) e5 (by omega) (by omega) hk.1 hP.1) hF.1) (cwV 1 hF.2.2.2.2.2.2.2.2.1 (lw_V q2432 q2434 qs68 q138 q2435) rfl rfl rfl (by decide +kernel) ⟨(Nat.le_of_ble_eq_true rfl), (Nat.le_of_ble_eq_true rfl)⟩) (x_preV hF hM (MA_ob hP.1) rfl) rfl rfl hl.1 rfl (lv_room (Nat.le_of_ble_eq_true rfl)) dX9_wouldMove_27 ⟨(Nat.le_of_ble_eq_true rfl), (Nat.le_of_ble_eq_true rfl)⟩) (fun H locs hM hL => ?_)
    refine x_ifeq_b (tgt := 37) hF dX9_wouldMove_30 (by decide) (fun c30 => ?_) (fun c30 => ?_)
    · skip
      refine x_iconst hF dX9_wouldMove_37 ?_
      refine x_kn hL (vx_runV (As := [_, _]) hF.2.2.2.2.2.2.2.2.2 ((mX9_shuts (w := w) e5 hk (by omega) (by omega) (by omega) (by omega) h3 hP.1) hF.1) (cwV 2 hF.2.2.2.2.2.2.2.2.1 (lw_V q2476 q2478 qs77 q138 q2479) rfl rfl rfl (by decide +kernel) ⟨(Nat.le_of_ble_eq_true rfl), (Nat.le_of_ble_eq_true rfl)⟩) (x_preV hF hM (MA_ob hP.1) rfl) rfl rfl hl.1 rfl (lv_room (Nat.le_of_ble_eq_true rfl)) dX9_wouldMove_38 ⟨(Nat.le_of_ble_eq_true rfl), (Nat.le_of_ble_eq_true rfl)⟩) ?_
      rintro _ τ38 H locs ⟨rfl, hp⟩ hM hL
      obtain ⟨F2, hP, e0, e5, e8, eo⟩ := TE_1 hP e0 e8 eo hp
      refine x_istore_n hF dX9_wouldMove_41 rfl hl (by decide) rfl (fun ls hl => ?_)
      refine lv_aload_n hx hb dX9_wouldMove_42 rfl (lk hl rfl) ?_
      refine x_kn hL (vx_runV (As := []) hF.2.2.2.2.2.2.2.2.2 ((mX9_forgets hP.1) hF.1) (cwV 0 hF.2.2.2.2.2.2.2.2.1 (lw_V q2587 q2589 qs91 q138 q2590) rfl rfl rfl (by decide +kernel) ⟨(Nat.le_of_ble_eq_true rfl), (Nat.le_of_ble_eq_true rfl)⟩) (x_preV hF hM (MA_ob hP.1) rfl) rfl rfl hl.1 rfl (lv_room (Nat.le_of_ble_eq_true rfl)) dX9_wouldMove_43 ⟨(Nat.le_of_ble_eq_true rfl), (Nat.le_of_ble_eq_true rfl)⟩) ?_
      rintro _ τ43 H locs ⟨rfl, hp⟩ hM hL
      refine MS_gen hM (MS_t hP hp) (fun σ hM hP => ?_)
      have hT := TE_2 e0 e8 eo hP
      refine lv_iload_n hx hb dX9_wouldMove_46 rfl (lk hl rfl) ?_
      exact x_ireturn hF hM hL rfl (Nat.le_of_ble_eq_true rfl) (Nat.le_of_ble_eq_true rfl) (by (have ht : qWouldMove w z = (0, wAllN (-1) (wUp w (4 + 4 * z + 2) 0)) := by first | (unfold qWouldMove; rw [if_neg (by omega), if_neg (by omega)])); rw [ht]; exact ⟨rfl, TE_q hw hT⟩) dX9_wouldMove_47
    · skip
      refine x_iconst hF dX9_wouldMove_33 ?_
      refine x_goto (tgt := 38) hF dX9_wouldMove_34 (by decide) ?_
      refine x_kn hL (vx_runV (As := [_, _]) hF.2.2.2.2.2.2.2.2.2 ((mX9_shuts (w := w) e5 hk (by omega) (by omega) (by omega) (by omega) h3 hP.1) hF.1) (cwV 2 hF.2.2.2.2.2.2.2.2.1 (lw_V q2476 q2478 qs77 q138 q2479) rfl rfl rfl (by decide +kernel) ⟨(Nat.le_of_ble_eq_true rfl), (Nat.le_of_ble_eq_true rfl)⟩) (x_preV hF hM (MA_ob hP.1) rfl) rfl rfl hl.1 rfl (lv_room (Nat.le_of_ble_eq_true rfl)) dX9_wouldMove_38 ⟨(Nat.le_of_ble_eq_true rfl), (Nat.le_of_ble_eq_true rfl)⟩) ?_
      rintro _ τ38 H locs ⟨rfl, hp⟩ hM hL
      obtain ⟨F2, hP, e0, e5, e8, eo⟩ := TE_1 hP e0 e8 eo hp
      refine x_istore_n hF dX9_wouldMove_41 rfl hl (by decide) rfl (fun ls hl => ?_)
      refine lv_aload_n hx hb dX9_wouldMove_42 rfl (lk hl rfl) ?_
      refine x_kn hL (vx_runV (As := []) hF.2.2.2.2.2.2.2.2.2 ((mX9_forgets hP.1) hF.1) (cwV 0 hF.2.2.2.2.2.2.2.2.1 (lw_V q2587 q2589 qs91 q138 q2590) rfl rfl rfl (by decide +kernel) ⟨(Nat.le_of_ble_eq_true rfl), (Nat.le_of_ble_eq_true rfl)⟩) (x_preV hF hM (MA_ob hP.1) rfl) rfl rfl hl.1 rfl (lv_room (Nat.le_of_ble_eq_true rfl)) dX9_wouldMove_43 ⟨(Nat.le_of_ble_eq_true rfl), (Nat.le_of_ble_eq_true rfl)⟩) ?_
      rintro _ τ43 H locs ⟨rfl, hp⟩ hM hL
      refine MS_gen hM (MS_t hP hp) (fun σ hM hP => ?_)
      have hT := TE_2 e0 e8 eo hP
      refine lv_iload_n hx hb dX9_wouldMove_46 rfl (lk hl rfl) ?_
      exact x_ireturn hF hM hL rfl (Nat.le_of_ble_eq_true rfl) (Nat.le_of_ble_eq_true rfl) (by (have ht : qWouldMove w z = (0, wAllN (-1) (wUp w (4 + 4 * z + 2) 1)) := by first | (unfold qWouldMove; rw [if_neg (by omega), if_pos (by omega)])); rw [ht]; exact ⟨rfl, TE_q hw hT⟩) dX9_wouldMove_47
  · skip
    refine lv_aload_n hx hb dX9_wouldMove_13 rfl (lk hl rfl) ?_
    refine x_iconst hF dX9_wouldMove_14 ?_
    refine x_kn hL (vx_runV (As := [_]) hF.2.2.2.2.2.2.2.2.2 ((mX9_fails hP.1) hF.1) (cwV 1 hF.2.2.2.2.2.2.2.2.1 (lw_V q2337 q2339 qs46 q138 q2340) rfl rfl rfl (by decide +kernel) ⟨(Nat.le_of_ble_eq_true rfl), (Nat.le_of_ble_eq_true rfl)⟩) (x_preV hF hM (MA_ob hP.1) rfl) rfl rfl hl.1 rfl (lv_room (Nat.le_of_ble_eq_true rfl)) dX9_wouldMove_15 ⟨(Nat.le_of_ble_eq_true rfl), (Nat.le_of_ble_eq_true rfl)⟩) ?_
    rintro _ τ15 H locs ⟨rfl, hp⟩ hM hL
    refine MS_gen hM (MS_t hP hp) (fun σ hM hP => ?_)
    exact x_ireturn hF hM hL rfl (Nat.le_of_ble_eq_true rfl) (Nat.le_of_ble_eq_true rfl) (by (have ht : qWouldMove w z = (1, 0) := by first | (unfold qWouldMove; rw [if_pos (by omega)])); rw [ht]; exact ⟨rfl, QE_1 hP⟩) dX9_wouldMove_18
set_option maxHeartbeats 4000000 in
set_option maxRecDepth 100000 in
/-- BakeryRingModel.wouldLoad(II)I -/
theorem mX9_wouldLoad {l : Launch} {E : En} {σ0 : Mm} {o : Nat} {F : Nat → Int → Int} {w : Int → Int} (hw : F 5 = w) (hk : Wk w) {z a : Int} (hz : inR z) (ha : inR a) (hn : w 28 ≤ 24) (h3 : -1000000 ≤ w 3 ∧ w 3 ≤ 1000000) (hP : MA E σ0 o F) : Ctr l E yX9_wouldLoad (ws_ yX9_wouldLoad cX9_wouldLoad 4 (some .int)) 5 116 0 0 [.ref o, .int (iz z), .int (iz a)] σ0 (fun v τ => v = some (.int (iz (qWouldLoad w z a).2)) ∧ QE E σ0 o τ F (qWouldLoad w z a).1) noX := by
  refine x_head (own := RX9) (cc := cX9_wouldLoad) (maxL := 4) (ret := (some .int)) (by decide) rfl rfl (Nat.le_of_ble_eq_true rfl) ?_
  intro p e s m args below meth c H ls hF hname htab hM hl
  have hx := hF.2.2.1
  have hb := hF.2.2.2.1
  have hL : Lc E [] := lcNil
  have hl : lh ls 4 ([(0, .ref o), (1, .int (iz z)), (2, .int (iz a))]) := hl
  refine MS_gen hM (MS_0 hP) (fun σ hM hP => ?_)
  have hk2 := hk.2.1
  refine lv_aload_n hx hb dX9_wouldLoad_0 rfl (lk hl rfl) ?_
  refine x_iconst hF dX9_wouldLoad_1 ?_
  refine x_putfield hF (ci := 10) in_X9 rfl tyX9_ok nmX9 0 (by decide) q2251 (fun _ h => h) rfl hM hL (MA_ob hP.1) (ty := .int) (by decide +kernel) rfl rfl dX9_wouldLoad_2 (fun H locs hM hL => ?_)
  refine MS_gen hM (MS_p0 hM hP) (fun σ hM hP => ?_)
  refine lv_aload_n hx hb dX9_wouldLoad_5 rfl (lk hl rfl) ?_
  refine lv_iload_n hx hb dX9_wouldLoad_6 rfl (lk hl rfl) ?_
  refine x_kp hL (vx_runV (As := [_]) hF.2.2.2.2.2.2.2.2.2 ((mX9_isBakery (w := w) (by rw [up2_oth _ _ _ (by decide)]; exact hw) hz hk.1 hP.1) hF.1) (cwV 1 hF.2.2.2.2.2.2.2.2.1 (lw_V q2377 q2379 qs55 q138 q2380) rfl rfl rfl (by decide +kernel) ⟨(Nat.le_of_ble_eq_true rfl), (Nat.le_of_ble_eq_true rfl)⟩) (x_preV hF hM (MA_ob hP.1) rfl) rfl rfl hl.1 rfl (lv_room (Nat.le_of_ble_eq_true rfl)) dX9_wouldLoad_7 ⟨(Nat.le_of_ble_eq_true rfl), (Nat.le_of_ble_eq_true rfl)⟩) (fun H locs hM hL => ?_)
  refine x_ifeq_b (tgt := 20) hF dX9_wouldLoad_10 (by decide) (fun c10 => ?_) (fun c10 => ?_)
  · skip
    refine lv_aload_n hx hb dX9_wouldLoad_20 rfl (lk hl rfl) ?_
    refine x_iconst hF dX9_wouldLoad_21 ?_
    refine x_kn hL (vx_runV (As := [_]) hF.2.2.2.2.2.2.2.2.2 ((mX9_fails hP.1) hF.1) (cwV 1 hF.2.2.2.2.2.2.2.2.1 (lw_V q2337 q2339 qs46 q138 q2340) rfl rfl rfl (by decide +kernel) ⟨(Nat.le_of_ble_eq_true rfl), (Nat.le_of_ble_eq_true rfl)⟩) (x_preV hF hM (MA_ob hP.1) rfl) rfl rfl hl.1 rfl (lv_room (Nat.le_of_ble_eq_true rfl)) dX9_wouldLoad_22 ⟨(Nat.le_of_ble_eq_true rfl), (Nat.le_of_ble_eq_true rfl)⟩) ?_
    rintro _ τ22 H locs ⟨rfl, hp⟩ hM hL
    refine MS_gen hM (MS_t hP hp) (fun σ hM hP => ?_)
    exact x_ireturn hF hM hL rfl (Nat.le_of_ble_eq_true rfl) (Nat.le_of_ble_eq_true rfl) (by (have ht : qWouldLoad w z a = (1, 0) := by first | (unfold qWouldLoad; rw [if_pos (by omega)])); rw [ht]; exact ⟨rfl, QE_1 hP⟩) dX9_wouldLoad_25
  · skip
    refine lv_iload_n hx hb dX9_wouldLoad_13 rfl (lk hl rfl) ?_
    refine x_kp hL (vx_runS (As := [_]) hF.2.2.2.2.2.2.2.2.2 ((mX9_isAngle ha) hF.1) (va_cwS 1 hF.2.2.2.2.2.2.2.2.1 (lw_S q2381 q2382 q138 q2383) rfl rfl rfl (by decide +kernel) ⟨(Nat.le_of_ble_eq_true rfl), (Nat.le_of_ble_eq_true rfl)⟩) (x_preS hF hM) rfl rfl hl.1 rfl (lv_room (Nat.le_of_ble_eq_true rfl)) dX9_wouldLoad_14 ⟨(Nat.le_of_ble_eq_true rfl), (Nat.le_of_ble_eq_true rfl)⟩) (fun H locs hM hL => ?_)
    refine x_ifne_b (tgt := 26) hF dX9_wouldLoad_17 (by decide) (fun c17 => ?_) (fun c17 => ?_)
    · skip
      refine lv_aload_n hx hb dX9_wouldLoad_26 rfl (lk hl rfl) ?_
      refine lv_iload_n hx hb dX9_wouldLoad_27 rfl (lk hl rfl) ?_
      have hso := wSignOn_r w (by omega) a
      refine x_kp hL (vx_runV (As := [_]) hF.2.2.2.2.2.2.2.2.2 ((mX9_signOn (w := w) (by rw [up2_oth _ _ _ (by decide)]; exact hw) ha hk.1 (by omega) (by omega) hP.1) hF.1) (cwV 1 hF.2.2.2.2.2.2.2.2.1 (lw_V q2388 q2390 qs57 q138 q2391) rfl rfl rfl (by decide +kernel) ⟨(Nat.le_of_ble_eq_true rfl), (Nat.le_of_ble_eq_true rfl)⟩) (x_preV hF hM (MA_ob hP.1) rfl) rfl rfl hl.1 rfl (lv_room (Nat.le_of_ble_eq_true rfl)) dX9_wouldLoad_28 ⟨(Nat.le_of_ble_eq_true rfl), (Nat.le_of_ble_eq_true rfl)⟩) (fun H locs hM hL => ?_)
      refine x_if_lt (tgt := 40) hF dX9_wouldLoad_31 (by decide) (by first | exact Rg_in hk.1 _ | assumption | (unfold inR; omega)) (fun c31 => ?_) (fun c31 => ?_)
      · skip
        refine lv_aload_n hx hb dX9_wouldLoad_40 rfl (lk hl rfl) ?_
        refine x_kn hL (vx_runV (As := []) hF.2.2.2.2.2.2.2.2.2 ((mX9_thinks hP.1) hF.1) (cwV 0 hF.2.2.2.2.2.2.2.2.1 (lw_V q2357 q2359 qs51 q138 q2360) rfl rfl rfl (by decide +kernel) ⟨(Nat.le_of_ble_eq_true rfl), (Nat.le_of_ble_eq_true rfl)⟩) (x_preV hF hM (MA_ob hP.1) rfl) rfl rfl hl.1 rfl (lv_room (Nat.le_of_ble_eq_true rfl)) dX9_wouldLoad_41 ⟨(Nat.le_of_ble_eq_true rfl), (Nat.le_of_ble_eq_true rfl)⟩) ?_
        rintro _ τ41 H locs ⟨rfl, hp⟩ hM hL
        refine MS_gen hM (MS_t hP hp) (fun σ hM hP => ?_)
        obtain ⟨F1, hP, e0, e5, e8, eo⟩ := TE_0 hw hP
        refine lv_aload_n hx hb dX9_wouldLoad_44 rfl (lk hl rfl) ?_
        refine lv_iload_n hx hb dX9_wouldLoad_45 rfl (lk hl rfl) ?_
        refine lv_iload_n hx hb dX9_wouldLoad_46 rfl (lk hl rfl) ?_
        refine x_kn hL (vx_runV (As := [_, _]) hF.2.2.2.2.2.2.2.2.2 ((mX9_signs (w := w) e5 hk (by omega) (by omega) (by omega) (by omega) (by omega) h3 hP.1) hF.1) (cwV 2 hF.2.2.2.2.2.2.2.2.1 (lw_V q2404 q2406 qs61 q138 q2407) rfl rfl rfl (by decide +kernel) ⟨(Nat.le_of_ble_eq_true rfl), (Nat.le_of_ble_eq_true rfl)⟩) (x_preV hF hM (MA_ob hP.1) rfl) rfl rfl hl.1 rfl (lv_room (Nat.le_of_ble_eq_true rfl)) dX9_wouldLoad_47 ⟨(Nat.le_of_ble_eq_true rfl), (Nat.le_of_ble_eq_true rfl)⟩) ?_
        rintro _ τ47 H locs ⟨rfl, hp⟩ hM hL
        have hkp := (Wk_put hk (b := z) (a := a) (by omega) (by omega) (by omega) (by omega) (by omega))
        have hka := (wAll_k hkp.1 (-1) (by rw [hkp.2.1 3 (by omega)]; exact h3)).1
        have hka2 := hka.2.1
        obtain ⟨F2, hP, e0, e5, e8, eo⟩ := TE_1 hP e0 e8 eo hp
        refine lv_pop hx hb dX9_wouldLoad_50 rfl ?_
        refine lv_aload_n hx hb dX9_wouldLoad_51 rfl (lk hl rfl) ?_
        refine lv_iload_n hx hb dX9_wouldLoad_52 rfl (lk hl rfl) ?_
        refine x_kp hL (vx_runV (As := [_]) hF.2.2.2.2.2.2.2.2.2 ((mX9_loadOf (w := (wAllW (-1) (wPut w z a))) e5 (by omega) (by omega) hka.1 (by omega) (by omega) hP.1) hF.1) (cwV 1 hF.2.2.2.2.2.2.2.2.1 (lw_V q2536 q2538 qs87 q138 q2539) rfl rfl rfl (by decide +kernel) ⟨(Nat.le_of_ble_eq_true rfl), (Nat.le_of_ble_eq_true rfl)⟩) (x_preV hF hM (MA_ob hP.1) rfl) rfl rfl hl.1 rfl (lv_room (Nat.le_of_ble_eq_true rfl)) dX9_wouldLoad_53 ⟨(Nat.le_of_ble_eq_true rfl), (Nat.le_of_ble_eq_true rfl)⟩) (fun H locs hM hL => ?_)
        refine x_istore_n hF dX9_wouldLoad_56 rfl hl (by decide) rfl (fun ls hl => ?_)
        refine lv_aload_n hx hb dX9_wouldLoad_57 rfl (lk hl rfl) ?_
        refine x_kn hL (vx_runV (As := []) hF.2.2.2.2.2.2.2.2.2 ((mX9_forgets hP.1) hF.1) (cwV 0 hF.2.2.2.2.2.2.2.2.1 (lw_V q2587 q2589 qs91 q138 q2590) rfl rfl rfl (by decide +kernel) ⟨(Nat.le_of_ble_eq_true rfl), (Nat.le_of_ble_eq_true rfl)⟩) (x_preV hF hM (MA_ob hP.1) rfl) rfl rfl hl.1 rfl (lv_room (Nat.le_of_ble_eq_true rfl)) dX9_wouldLoad_58 ⟨(Nat.le_of_ble_eq_true rfl), (Nat.le_of_ble_eq_true rfl)⟩) ?_
        rintro _ τ58 H locs ⟨rfl, hp⟩ hM hL
        refine MS_gen hM (MS_t hP hp) (fun σ hM hP => ?_)
        have hT := TE_2 e0 e8 eo hP
        refine lv_iload_n hx hb dX9_wouldLoad_61 rfl (lk hl rfl) ?_
        exact x_ireturn hF hM hL rfl (Nat.le_of_ble_eq_true rfl) (Nat.le_of_ble_eq_true rfl) (by (have ht : qWouldLoad w z a = (0, wLoadOf (wAllW (-1) (wPut w z a)) z) := by first | (unfold qWouldLoad; rw [if_neg (by omega), if_neg (by omega)])); rw [ht]; exact ⟨rfl, TE_q hw hT⟩) dX9_wouldLoad_62
      · skip
        refine lv_aload_n hx hb dX9_wouldLoad_34 rfl (lk hl rfl) ?_
        refine lv_iload_n hx hb dX9_wouldLoad_35 rfl (lk hl rfl) ?_
        refine x_kp hL (vx_runV (As := [_]) hF.2.2.2.2.2.2.2.2.2 ((mX9_loadOf (w := w) (by rw [up2_oth _ _ _ (by decide)]; exact hw) (by omega) (by omega) hk.1 (by omega) (by omega) hP.1) hF.1) (cwV 1 hF.2.2.2.2.2.2.2.2.1 (lw_V q2536 q2538 qs87 q138 q2539) rfl rfl rfl (by decide +kernel) ⟨(Nat.le_of_ble_eq_true rfl), (Nat.le_of_ble_eq_true rfl)⟩) (x_preV hF hM (MA_ob hP.1) rfl) rfl rfl hl.1 rfl (lv_room (Nat.le_of_ble_eq_true rfl)) dX9_wouldLoad_36 ⟨(Nat.le_of_ble_eq_true rfl), (Nat.le_of_ble_eq_true rfl)⟩) (fun H locs hM hL => ?_)
        exact x_ireturn hF hM hL rfl (Nat.le_of_ble_eq_true rfl) (Nat.le_of_ble_eq_true rfl) (by (have ht : qWouldLoad w z a = (0, wLoadOf w z) := by first | (unfold qWouldLoad; rw [if_neg (by omega), if_pos (by omega)])); rw [ht]; exact ⟨rfl, QE_0 hP⟩) dX9_wouldLoad_39
    · skip
      refine lv_aload_n hx hb dX9_wouldLoad_20 rfl (lk hl rfl) ?_
      refine x_iconst hF dX9_wouldLoad_21 ?_
      refine x_kn hL (vx_runV (As := [_]) hF.2.2.2.2.2.2.2.2.2 ((mX9_fails hP.1) hF.1) (cwV 1 hF.2.2.2.2.2.2.2.2.1 (lw_V q2337 q2339 qs46 q138 q2340) rfl rfl rfl (by decide +kernel) ⟨(Nat.le_of_ble_eq_true rfl), (Nat.le_of_ble_eq_true rfl)⟩) (x_preV hF hM (MA_ob hP.1) rfl) rfl rfl hl.1 rfl (lv_room (Nat.le_of_ble_eq_true rfl)) dX9_wouldLoad_22 ⟨(Nat.le_of_ble_eq_true rfl), (Nat.le_of_ble_eq_true rfl)⟩) ?_
      rintro _ τ22 H locs ⟨rfl, hp⟩ hM hL
      refine MS_gen hM (MS_t hP hp) (fun σ hM hP => ?_)
      exact x_ireturn hF hM hL rfl (Nat.le_of_ble_eq_true rfl) (Nat.le_of_ble_eq_true rfl) (by (have ht : qWouldLoad w z a = (1, 0) := by first | (unfold qWouldLoad; rw [if_pos (by omega)])); rw [ht]; exact ⟨rfl, QE_1 hP⟩) dX9_wouldLoad_25
set_option maxHeartbeats 4000000 in
set_option maxRecDepth 100000 in
/-- BakeryRingModel.bestAngle(I)I -/
theorem mX9_bestAngle {l : Launch} {E : En} {σ0 : Mm} {o : Nat} {F : Nat → Int → Int} {w : Int → Int} (hw : F 5 = w) (hk : Wk w) {z : Int} (hz : inR z) (hn : w 28 ≤ 24) (h3 : -1000000 ≤ w 3 ∧ w 3 ≤ 1000000) (hP : MA E σ0 o F) : Ctr l E yX9_bestAngle (ws_ yX9_bestAngle cX9_bestAngle 6 (some .int)) 5 116 0 0 [.ref o, .int (iz z)] σ0 (fun v τ => v = some (.int (iz (qBestAngle w z).2)) ∧ QE E σ0 o τ F (qBestAngle w z).1) noX := by
  refine x_head (own := RX9) (cc := cX9_bestAngle) (maxL := 6) (ret := (some .int)) (by decide) rfl rfl (Nat.le_of_ble_eq_true rfl) ?_
  intro p e s m args below meth c H ls hF hname htab hM hl
  have hx := hF.2.2.1
  have hb := hF.2.2.2.1
  have hL : Lc E [] := lcNil
  have hl : lh ls 6 ([(0, .ref o), (1, .int (iz z))]) := hl
  refine MS_gen hM (MS_0 hP) (fun σ hM hP => ?_)
  have hk2 := hk.2.1
  refine lv_aload_n hx hb dX9_bestAngle_0 rfl (lk hl rfl) ?_
  refine x_iconst hF dX9_bestAngle_1 ?_
  refine x_putfield hF (ci := 10) in_X9 rfl tyX9_ok nmX9 0 (by decide) q2251 (fun _ h => h) rfl hM hL (MA_ob hP.1) (ty := .int) (by decide +kernel) rfl rfl dX9_bestAngle_2 (fun H locs hM hL => ?_)
  refine MS_gen hM (MS_p0 hM hP) (fun σ hM hP => ?_)
  refine lv_aload_n hx hb dX9_bestAngle_5 rfl (lk hl rfl) ?_
  refine lv_iload_n hx hb dX9_bestAngle_6 rfl (lk hl rfl) ?_
  refine x_kp hL (vx_runV (As := [_]) hF.2.2.2.2.2.2.2.2.2 ((mX9_isBakery (w := w) (by rw [up2_oth _ _ _ (by decide)]; exact hw) hz hk.1 hP.1) hF.1) (cwV 1 hF.2.2.2.2.2.2.2.2.1 (lw_V q2377 q2379 qs55 q138 q2380) rfl rfl rfl (by decide +kernel) ⟨(Nat.le_of_ble_eq_true rfl), (Nat.le_of_ble_eq_true rfl)⟩) (x_preV hF hM (MA_ob hP.1) rfl) rfl rfl hl.1 rfl (lv_room (Nat.le_of_ble_eq_true rfl)) dX9_bestAngle_7 ⟨(Nat.le_of_ble_eq_true rfl), (Nat.le_of_ble_eq_true rfl)⟩) (fun H locs hM hL => ?_)
  refine x_ifne_b (tgt := 19) hF dX9_bestAngle_10 (by decide) (fun c10 => ?_) (fun c10 => ?_)
  · skip
    refine lv_aload_n hx hb dX9_bestAngle_19 rfl (lk hl rfl) ?_
    refine x_kn hL (vx_runV (As := []) hF.2.2.2.2.2.2.2.2.2 ((mX9_thinks hP.1) hF.1) (cwV 0 hF.2.2.2.2.2.2.2.2.1 (lw_V q2357 q2359 qs51 q138 q2360) rfl rfl rfl (by decide +kernel) ⟨(Nat.le_of_ble_eq_true rfl), (Nat.le_of_ble_eq_true rfl)⟩) (x_preV hF hM (MA_ob hP.1) rfl) rfl rfl hl.1 rfl (lv_room (Nat.le_of_ble_eq_true rfl)) dX9_bestAngle_20 ⟨(Nat.le_of_ble_eq_true rfl), (Nat.le_of_ble_eq_true rfl)⟩) ?_
    rintro _ τ20 H locs ⟨rfl, hp⟩ hM hL
    refine MS_gen hM (MS_t hP hp) (fun σ hM hP => ?_)
    obtain ⟨F1, hP, e0, e5, e8, eo⟩ := TE_0 hw hP
    refine x_iconst hF dX9_bestAngle_23 ?_
    refine x_istore_n hF dX9_bestAngle_24 rfl hl (by decide) rfl (fun ls hl => ?_)
    refine x_iconst hF dX9_bestAngle_25 ?_
    refine x_istore_n hF dX9_bestAngle_26 rfl hl (by decide) rfl (fun ls hl => ?_)
    refine x_iconst hF dX9_bestAngle_27 ?_
    refine x_istore hF dX9_bestAngle_28 hl (by decide) rfl (fun ls hl => ?_)
    suffices loop : ∀ (n : Nat) (i : Int) (be : Int) (le : Int) (σ : Mm) (H : Heap) (locs : List Loc) (ls : Array Slot), 360 - i < (n : Int) → (0 ≤ i) → (i ≤ 360) → (-1 ≤ be) → (be < 360) → (0 ≤ le) → (le ≤ 180) → (bsF w z be le i (360 - i).toNat = wBest w z) → Mem E s H σ → TE E σ0 o σ F w w → Lc E locs → lh ls 6 [(0, .ref o), (1, .int (iz z)), (2, .int (iz be)), (3, .int (iz le)), (4, .int (iz i))] → W p l e ({ frames := 5, cells := 0, slots := 0, locals := 116 } : Room) s m args below meth c H locs 0 0 (vx_MQ below (XQc E (fun v τ => v = some (.int (iz (qBestAngle w z).2)) ∧ QE E σ0 o τ F (qBestAngle w z).1)) (XXc E noX) args s 0 0 (XA E)) (F0 m 30 ls []) from loop (361) 0 (-1) 0 _ _ _ _ (by omega) (by omega) (by omega) (by omega) (by omega) (by omega) (by omega) (by unfold wBest; rw [Int.sub_zero]) hM ⟨_, hP, e0, e5, e8, eo⟩ hL (lh_sub hl rfl)
    refine nat_loop (fun i be le σ H locs ls hmm h0 h1 b0 b1 l0 l1 hr => absurd hmm (by omega)) (fun n ih i be le σ H locs ls hmm h0 h1 b0 b1 l0 l1 hr hM hP hL hl => ?_)
    refine lv_iload hx hb dX9_bestAngle_30 (lk hl rfl) ?_
    refine x_sipush hF (by decide) dX9_bestAngle_32 ?_
    refine x_icmp_ge (tgt := 93) hF dX9_bestAngle_35 (by decide) (by first | exact Rg_in hk.1 _ | assumption | (unfold inR; omega)) (by first | exact Rg_in hk.1 _ | assumption | (unfold inR; omega)) (fun c35 => ?_) (fun c35 => ?_)
    · skip
      refine lv_iload_n hx hb dX9_bestAngle_93 rfl (lk hl rfl) ?_
      exact x_ireturn hF hM hL rfl (Nat.le_of_ble_eq_true rfl) (Nat.le_of_ble_eq_true rfl) (by (have hfe : wBest w z = be := by rw [← hr]; exact bsF_e (by omega)); rw [← hfe]; (have ht : qBestAngle w z = (0, wBest w z) := by first | (unfold qBestAngle; rw [if_neg (by omega)])); rw [ht]; exact ⟨rfl, TE_q hw hP⟩) dX9_bestAngle_94
    · skip
      obtain ⟨F1, hP, e0, e5, e8, eo⟩ := hP
      have hso := wSignOn_r w (by omega) i
      refine lv_aload_n hx hb dX9_bestAngle_38 rfl (lk hl rfl) ?_
      refine lv_iload hx hb dX9_bestAngle_39 (lk hl rfl) ?_
      refine x_kp hL (vx_runV (As := [_]) hF.2.2.2.2.2.2.2.2.2 ((mX9_signOn (w := w) e5 (by unfold inR; omega) hk.1 (by omega) (by omega) hP.1) hF.1) (cwV 1 hF.2.2.2.2.2.2.2.2.1 (lw_V q2388 q2390 qs57 q138 q2391) rfl rfl rfl (by decide +kernel) ⟨(Nat.le_of_ble_eq_true rfl), (Nat.le_of_ble_eq_true rfl)⟩) (x_preV hF hM (MA_ob hP.1) rfl) rfl rfl hl.1 rfl (lv_room (Nat.le_of_ble_eq_true rfl)) dX9_bestAngle_41 ⟨(Nat.le_of_ble_eq_true rfl), (Nat.le_of_ble_eq_true rfl)⟩) (fun H locs hM hL => ?_)
      refine x_if_lt (tgt := 50) hF dX9_bestAngle_44 (by decide) (by first | exact Rg_in hk.1 _ | assumption | (unfold inR; omega)) (fun c44 => ?_) (fun c44 => ?_)
      · skip
        refine lv_aload_n hx hb dX9_bestAngle_50 rfl (lk hl rfl) ?_
        refine lv_iload_n hx hb dX9_bestAngle_51 rfl (lk hl rfl) ?_
        refine lv_iload hx hb dX9_bestAngle_52 (lk hl rfl) ?_
        refine x_kn hL (vx_runV (As := [_, _]) hF.2.2.2.2.2.2.2.2.2 ((mX9_signs (w := w) e5 hk (by omega) (by omega) (by omega) (by omega) (by omega) h3 hP.1) hF.1) (cwV 2 hF.2.2.2.2.2.2.2.2.1 (lw_V q2404 q2406 qs61 q138 q2407) rfl rfl rfl (by decide +kernel) ⟨(Nat.le_of_ble_eq_true rfl), (Nat.le_of_ble_eq_true rfl)⟩) (x_preV hF hM (MA_ob hP.1) rfl) rfl rfl hl.1 rfl (lv_room (Nat.le_of_ble_eq_true rfl)) dX9_bestAngle_54 ⟨(Nat.le_of_ble_eq_true rfl), (Nat.le_of_ble_eq_true rfl)⟩) ?_
        rintro _ τ54 H locs ⟨rfl, hp⟩ hM hL
        have hkp := (Wk_put hk (b := z) (a := i) (by omega) (by omega) (by omega) (by omega) (by omega))
        have hka := (wAll_k hkp.1 (-1) (by rw [hkp.2.1 3 (by omega)]; exact h3)).1
        have hka2 := hka.2.1
        obtain ⟨F2, hP, e0, e5, e8, eo⟩ := TE_1 hP e0 e8 eo hp
        refine lv_pop hx hb dX9_bestAngle_57 rfl ?_
        refine lv_aload_n hx hb dX9_bestAngle_58 rfl (lk hl rfl) ?_
        refine x_kp hL (vx_runV (As := []) hF.2.2.2.2.2.2.2.2.2 ((mX9_greatestLoad (w := wAllW (-1) (wPut w z i)) e5 hka hP.1) hF.1) (cwV 0 hF.2.2.2.2.2.2.2.2.1 (lw_V q2599 q2601 qs92 q138 q2602) rfl rfl rfl (by decide +kernel) ⟨(Nat.le_of_ble_eq_true rfl), (Nat.le_of_ble_eq_true rfl)⟩) (x_preV hF hM (MA_ob hP.1) rfl) rfl rfl hl.1 rfl (lv_room (Nat.le_of_ble_eq_true rfl)) dX9_bestAngle_59 ⟨(Nat.le_of_ble_eq_true rfl), (Nat.le_of_ble_eq_true rfl)⟩) (fun H locs hM hL => ?_)
        have hgr := wGreat_r hka
        have htl : wGreat (wAllW (-1) (wPut w z i)) = wTryL w z i := rfl
        refine x_istore hF dX9_bestAngle_62 hl (by decide) rfl (fun ls hl => ?_)
        refine lv_aload_n hx hb dX9_bestAngle_64 rfl (lk hl rfl) ?_
        refine x_kn hL (vx_runV (As := []) hF.2.2.2.2.2.2.2.2.2 ((mX9_forgets hP.1) hF.1) (cwV 0 hF.2.2.2.2.2.2.2.2.1 (lw_V q2587 q2589 qs91 q138 q2590) rfl rfl rfl (by decide +kernel) ⟨(Nat.le_of_ble_eq_true rfl), (Nat.le_of_ble_eq_true rfl)⟩) (x_preV hF hM (MA_ob hP.1) rfl) rfl rfl hl.1 rfl (lv_room (Nat.le_of_ble_eq_true rfl)) dX9_bestAngle_65 ⟨(Nat.le_of_ble_eq_true rfl), (Nat.le_of_ble_eq_true rfl)⟩) ?_
        rintro _ τ65 H locs ⟨rfl, hp⟩ hM hL
        refine MS_gen hM (MS_t hP hp) (fun σ hM hP => ?_)
        obtain ⟨F3, hP, e0, e5, e8, eo⟩ := TE_2 e0 e8 eo hP
        refine lv_iload_n hx hb dX9_bestAngle_68 rfl (lk hl rfl) ?_
        refine x_if_lt (tgt := 81) hF dX9_bestAngle_69 (by decide) (by first | exact Rg_in hk.1 _ | assumption | (unfold inR; omega)) (fun c69 => ?_) (fun c69 => ?_)
        · skip
          refine lv_iload hx hb dX9_bestAngle_81 (lk hl rfl) ?_
          refine x_istore_n hF dX9_bestAngle_83 rfl hl (by decide) rfl (fun ls hl => ?_)
          refine lv_iload hx hb dX9_bestAngle_84 (lk hl rfl) ?_
          refine x_istore_n hF dX9_bestAngle_86 rfl hl (by decide) rfl (fun ls hl => ?_)
          refine x_iinc hF dX9_bestAngle_87 hl rfl (by decide) rfl (fun ls hl => ?_)
          refine x_goto (tgt := 30) hF dX9_bestAngle_90 (by decide) ?_
          first | (exact ih (i + 1) i (wTryL w z i) _ _ _ _ (by omega) (by omega) (by omega) (by omega) (by omega) (by omega) (by omega) (by rw [← hr, bsF_1 (i := i) (by omega)]; (first | rw [if_pos (by omega)] | rw [if_neg (by omega), if_pos (by omega)] | rw [if_neg (by omega), if_neg (by omega)] | fail); done) hM ⟨_, hP, e0, e5, e8, eo⟩ hL (lh_sub hl rfl)) | (exact ih (i + 1) be le _ _ _ _ (by omega) (by omega) (by omega) (by omega) (by omega) (by omega) (by omega) (by rw [← hr, bsF_1 (i := i) (by omega)]; (first | rw [if_pos (by omega)] | rw [if_neg (by omega), if_pos (by omega)] | rw [if_neg (by omega), if_neg (by omega)] | fail); done) hM ⟨_, hP, e0, e5, e8, eo⟩ hL (lh_sub hl rfl))
        · skip
          refine lv_iload hx hb dX9_bestAngle_72 (lk hl rfl) ?_
          refine lv_iload_n hx hb dX9_bestAngle_74 rfl (lk hl rfl) ?_
          refine x_icmp_lt (tgt := 81) hF dX9_bestAngle_75 (by decide) (by first | exact Rg_in hk.1 _ | assumption | (unfold inR; omega)) (by first | exact Rg_in hk.1 _ | assumption | (unfold inR; omega)) (fun c75 => ?_) (fun c75 => ?_)
          · skip
            refine lv_iload hx hb dX9_bestAngle_81 (lk hl rfl) ?_
            refine x_istore_n hF dX9_bestAngle_83 rfl hl (by decide) rfl (fun ls hl => ?_)
            refine lv_iload hx hb dX9_bestAngle_84 (lk hl rfl) ?_
            refine x_istore_n hF dX9_bestAngle_86 rfl hl (by decide) rfl (fun ls hl => ?_)
            refine x_iinc hF dX9_bestAngle_87 hl rfl (by decide) rfl (fun ls hl => ?_)
            refine x_goto (tgt := 30) hF dX9_bestAngle_90 (by decide) ?_
            first | (exact ih (i + 1) i (wTryL w z i) _ _ _ _ (by omega) (by omega) (by omega) (by omega) (by omega) (by omega) (by omega) (by rw [← hr, bsF_1 (i := i) (by omega)]; (first | rw [if_pos (by omega)] | rw [if_neg (by omega), if_pos (by omega)] | rw [if_neg (by omega), if_neg (by omega)] | fail); done) hM ⟨_, hP, e0, e5, e8, eo⟩ hL (lh_sub hl rfl)) | (exact ih (i + 1) be le _ _ _ _ (by omega) (by omega) (by omega) (by omega) (by omega) (by omega) (by omega) (by rw [← hr, bsF_1 (i := i) (by omega)]; (first | rw [if_pos (by omega)] | rw [if_neg (by omega), if_pos (by omega)] | rw [if_neg (by omega), if_neg (by omega)] | fail); done) hM ⟨_, hP, e0, e5, e8, eo⟩ hL (lh_sub hl rfl))
          · skip
            refine x_goto (tgt := 87) hF dX9_bestAngle_78 (by decide) ?_
            refine x_iinc hF dX9_bestAngle_87 hl rfl (by decide) rfl (fun ls hl => ?_)
            refine x_goto (tgt := 30) hF dX9_bestAngle_90 (by decide) ?_
            first | (exact ih (i + 1) i (wTryL w z i) _ _ _ _ (by omega) (by omega) (by omega) (by omega) (by omega) (by omega) (by omega) (by rw [← hr, bsF_1 (i := i) (by omega)]; (first | rw [if_pos (by omega)] | rw [if_neg (by omega), if_pos (by omega)] | rw [if_neg (by omega), if_neg (by omega)] | fail); done) hM ⟨_, hP, e0, e5, e8, eo⟩ hL (lh_sub hl rfl)) | (exact ih (i + 1) be le _ _ _ _ (by omega) (by omega) (by omega) (by omega) (by omega) (by omega) (by omega) (by rw [← hr, bsF_1 (i := i) (by omega)]; (first | rw [if_pos (by omega)] | rw [if_neg (by omega), if_pos (by omega)] | rw [if_neg (by omega), if_neg (by omega)] | fail); done) hM ⟨_, hP, e0, e5, e8, eo⟩ hL (lh_sub hl rfl))
      · skip
        refine x_goto (tgt := 87) hF dX9_bestAngle_47 (by decide) ?_
        refine x_iinc hF dX9_bestAngle_87 hl rfl (by decide) rfl (fun ls hl => ?_)
        refine x_goto (tgt := 30) hF dX9_bestAngle_90 (by decide) ?_
        first | (exact ih (i + 1) i (wTryL w z i) _ _ _ _ (by omega) (by omega) (by omega) (by omega) (by omega) (by omega) (by omega) (by rw [← hr, bsF_1 (i := i) (by omega)]; (first | rw [if_pos (by omega)] | rw [if_neg (by omega), if_pos (by omega)] | rw [if_neg (by omega), if_neg (by omega)] | fail); done) hM ⟨_, hP, e0, e5, e8, eo⟩ hL (lh_sub hl rfl)) | (exact ih (i + 1) be le _ _ _ _ (by omega) (by omega) (by omega) (by omega) (by omega) (by omega) (by omega) (by rw [← hr, bsF_1 (i := i) (by omega)]; (first | rw [if_pos (by omega)] | rw [if_neg (by omega), if_pos (by omega)] | rw [if_neg (by omega), if_neg (by omega)] | fail); done) hM ⟨_, hP, e0, e5, e8, eo⟩ hL (lh_sub hl rfl))
  · skip
    refine lv_aload_n hx hb dX9_bestAngle_13 rfl (lk hl rfl) ?_
    refine x_iconst hF dX9_bestAngle_14 ?_
    refine x_kn hL (vx_runV (As := [_]) hF.2.2.2.2.2.2.2.2.2 ((mX9_fails hP.1) hF.1) (cwV 1 hF.2.2.2.2.2.2.2.2.1 (lw_V q2337 q2339 qs46 q138 q2340) rfl rfl rfl (by decide +kernel) ⟨(Nat.le_of_ble_eq_true rfl), (Nat.le_of_ble_eq_true rfl)⟩) (x_preV hF hM (MA_ob hP.1) rfl) rfl rfl hl.1 rfl (lv_room (Nat.le_of_ble_eq_true rfl)) dX9_bestAngle_15 ⟨(Nat.le_of_ble_eq_true rfl), (Nat.le_of_ble_eq_true rfl)⟩) ?_
    rintro _ τ15 H locs ⟨rfl, hp⟩ hM hL
    refine MS_gen hM (MS_t hP hp) (fun σ hM hP => ?_)
    exact x_ireturn hF hM hL rfl (Nat.le_of_ble_eq_true rfl) (Nat.le_of_ble_eq_true rfl) (by (have ht : qBestAngle w z = (1, 0) := by first | (unfold qBestAngle; rw [if_pos (by omega)])); rw [ht]; exact ⟨rfl, QE_1 hP⟩) dX9_bestAngle_18
set_option maxHeartbeats 4000000 in
set_option maxRecDepth 100000 in
/-- BakeryRingModel.loadAgain(I)I -/
theorem mX9_loadAgain {l : Launch} {E : En} {σ0 : Mm} {o : Nat} {F : Nat → Int → Int} {w : Int → Int} (hw : F 5 = w) (hk : Wk w) {z : Int} (hz : inR z) (hP : MA E σ0 o F) : Ctr l E yX9_loadAgain (ws_ yX9_loadAgain cX9_loadAgain 5 (some .int)) 2 43 0 0 [.ref o, .int (iz z)] σ0 (fun v τ => v = some (.int (iz (qLoadAgain w z).2)) ∧ QE E σ0 o τ F (qLoadAgain w z).1) noX := by
  refine x_head (own := RX9) (cc := cX9_loadAgain) (maxL := 5) (ret := (some .int)) (by decide) rfl rfl (Nat.le_of_ble_eq_true rfl) ?_
  intro p e s m args below meth c H ls hF hname htab hM hl
  have hx := hF.2.2.1
  have hb := hF.2.2.2.1
  have hL : Lc E [] := lcNil
  have hl : lh ls 5 ([(0, .ref o), (1, .int (iz z))]) := hl
  refine MS_gen hM (MS_0 hP) (fun σ hM hP => ?_)
  have hk2 := hk.2.1
  refine lv_aload_n hx hb dX9_loadAgain_0 rfl (lk hl rfl) ?_
  refine x_iconst hF dX9_loadAgain_1 ?_
  refine x_putfield hF (ci := 10) in_X9 rfl tyX9_ok nmX9 0 (by decide) q2251 (fun _ h => h) rfl hM hL (MA_ob hP.1) (ty := .int) (by decide +kernel) rfl rfl dX9_loadAgain_2 (fun H locs hM hL => ?_)
  refine MS_gen hM (MS_p0 hM hP) (fun σ hM hP => ?_)
  refine lv_aload_n hx hb dX9_loadAgain_5 rfl (lk hl rfl) ?_
  refine lv_iload_n hx hb dX9_loadAgain_6 rfl (lk hl rfl) ?_
  refine x_kp hL (vx_runV (As := [_]) hF.2.2.2.2.2.2.2.2.2 ((mX9_isBakery (w := w) (by rw [up2_oth _ _ _ (by decide)]; exact hw) hz hk.1 hP.1) hF.1) (cwV 1 hF.2.2.2.2.2.2.2.2.1 (lw_V q2377 q2379 qs55 q138 q2380) rfl rfl rfl (by decide +kernel) ⟨(Nat.le_of_ble_eq_true rfl), (Nat.le_of_ble_eq_true rfl)⟩) (x_preV hF hM (MA_ob hP.1) rfl) rfl rfl hl.1 rfl (lv_room (Nat.le_of_ble_eq_true rfl)) dX9_loadAgain_7 ⟨(Nat.le_of_ble_eq_true rfl), (Nat.le_of_ble_eq_true rfl)⟩) (fun H locs hM hL => ?_)
  refine x_ifne_b (tgt := 19) hF dX9_loadAgain_10 (by decide) (fun c10 => ?_) (fun c10 => ?_)
  · skip
    refine x_iconst hF dX9_loadAgain_19 ?_
    refine x_istore_n hF dX9_loadAgain_20 rfl hl (by decide) rfl (fun ls hl => ?_)
    refine x_iconst hF dX9_loadAgain_21 ?_
    refine x_istore_n hF dX9_loadAgain_22 rfl hl (by decide) rfl (fun ls hl => ?_)
    suffices loop1 : ∀ (n : Nat) (k : Int) (σ : Mm) (H : Heap) (locs : List Loc) (ls : Array Slot), w 28 - k < (n : Int) → (0 ≤ k) → (k ≤ w 28) → Mem E s H σ → MS E σ0 o σ (up2 F 0 0 0) → Lc E locs → lh ls 5 [(0, .ref o), (1, .int (iz z)), (2, .int (iz (sm (fun k => if w (29 + 2 * k + 1) = z then wByL w (w (29 + 2 * k) + 1) else 0) k))), (3, .int (iz k))] → W p l e ({ frames := 2, cells := 0, slots := 0, locals := 43 } : Room) s m args below meth c H locs 0 0 (vx_MQ below (XQc E (fun v τ => v = some (.int (iz (qLoadAgain w z).2)) ∧ QE E σ0 o τ F (qLoadAgain w z).1)) (XXc E noX) args s 0 0 (XA E)) (F0 m 23 ls []) from loop1 (27) 0 _ _ _ _ (by omega) (by omega) (by omega) hM hP hL (lh_sub hl rfl)
    refine nat_loop (fun k σ H locs ls hmm h0 h1 => absurd hmm (by omega)) (fun n ih1 k σ H locs ls hmm h0 h1 hM hP hL hl => ?_)
    refine lv_iload_n hx hb dX9_loadAgain_23 rfl (lk hl rfl) ?_
    refine lv_aload_n hx hb dX9_loadAgain_24 rfl (lk hl rfl) ?_
    refine x_getfield hF (ci := 10) in_X9 rfl 5 (by decide) q2256 (fun _ h => h) hM (MA_ob hP.1) (MA_f5 hP.1) dX9_loadAgain_25 ?_
    refine x_bipush hF (by decide) dX9_loadAgain_28 ?_
    refine x_iald hF hM (MA_a5 hP.1) (by omega) (by omega) (by decide) (show rd _ _ _ = .int (iz (w _)) from by have h9 := MA_r5 hP.1; rw [up2_oth _ _ _ (by decide), hw] at h9; exact h9 _ (by omega) (by omega)) dX9_loadAgain_30 ?_
    refine x_icmp_ge (tgt := 100) hF dX9_loadAgain_31 (by decide) (by first | exact Rg_in hk.1 _ | assumption | (unfold inR; omega)) (by first | exact Rg_in hk.1 _ | assumption | (unfold inR; omega)) (fun c31 => ?_) (fun c31 => ?_)
    · skip
      refine lv_iload_n hx hb dX9_loadAgain_100 rfl (lk hl rfl) ?_
      exact x_ireturn hF hM hL rfl (Nat.le_of_ble_eq_true rfl) (Nat.le_of_ble_eq_true rfl) (by (have hfe : wLoadAg w z = sm (fun k => if w (29 + 2 * k + 1) = z then wByL w (w (29 + 2 * k) + 1) else 0) k := by unfold wLoadAg; rw [show k = w 28 by omega]); rw [← hfe]; (have ht : qLoadAgain w z = (0, wLoadAg w z) := by first | (unfold qLoadAgain; rw [if_neg (by omega)])); rw [ht]; exact ⟨rfl, QE_0 hP⟩) dX9_loadAgain_101
    · skip
      refine x_iconst hF dX9_loadAgain_34 ?_
      refine x_istore hF dX9_loadAgain_35 hl (by decide) rfl (fun ls hl => ?_)
      rw [show sm (fun k => if w (29 + 2 * k + 1) = z then wByL w (w (29 + 2 * k) + 1) else 0) k = sm (fun k => if w (29 + 2 * k + 1) = z then wByL w (w (29 + 2 * k) + 1) else 0) k + sm (fun c => if w (79 + 6 * c + 3) = w (29 + 2 * k) + 1 then w (79 + 6 * c + 1) else 0) 0 by rw [sm_0, Int.add_zero]] at hl
      suffices loop2 : ∀ (n : Nat) (u : Int) (σ : Mm) (H : Heap) (locs : List Loc) (ls : Array Slot), w 1 - u < (n : Int) → (0 ≤ u) → (u ≤ w 1) → (u = 0 ∨ w (29 + 2 * k + 1) = z) → Mem E s H σ → MS E σ0 o σ (up2 F 0 0 0) → Lc E locs → lh ls 5 [(0, .ref o), (1, .int (iz z)), (2, .int (iz (sm (fun k => if w (29 + 2 * k + 1) = z then wByL w (w (29 + 2 * k) + 1) else 0) k + sm (fun c => if w (79 + 6 * c + 3) = w (29 + 2 * k) + 1 then w (79 + 6 * c + 1) else 0) u))), (3, .int (iz k)), (4, .int (iz u))] → W p l e ({ frames := 2, cells := 0, slots := 0, locals := 43 } : Room) s m args below meth c H locs 0 0 (vx_MQ below (XQc E (fun v τ => v = some (.int (iz (qLoadAgain w z).2)) ∧ QE E σ0 o τ F (qLoadAgain w z).1)) (XXc E noX) args s 0 0 (XA E)) (F0 m 37 ls []) from loop2 (22) 0 _ _ _ _ (by omega) (by omega) (by omega) (Or.inl rfl) hM hP hL (lh_sub hl rfl)
      refine nat_loop (fun u σ H locs ls hmm g0 g1 gc => absurd hmm (by omega)) (fun n ih2 u σ H locs ls hmm g0 g1 gc hM hP hL hl => ?_)
      refine lv_iload hx hb dX9_loadAgain_37 (lk hl rfl) ?_
      refine lv_aload_n hx hb dX9_loadAgain_39 rfl (lk hl rfl) ?_
      refine x_getfield hF (ci := 10) in_X9 rfl 5 (by decide) q2256 (fun _ h => h) hM (MA_ob hP.1) (MA_f5 hP.1) dX9_loadAgain_40 ?_
      refine x_iconst hF dX9_loadAgain_43 ?_
      refine x_iald hF hM (MA_a5 hP.1) (by omega) (by omega) (by decide) (show rd _ _ _ = .int (iz (w _)) from by have h9 := MA_r5 hP.1; rw [up2_oth _ _ _ (by decide), hw] at h9; exact h9 _ (by omega) (by omega)) dX9_loadAgain_44 ?_
      refine x_icmp_ge (tgt := 94) hF dX9_loadAgain_45 (by decide) (by first | exact Rg_in hk.1 _ | assumption | (unfold inR; omega)) (by first | exact Rg_in hk.1 _ | assumption | (unfold inR; omega)) (fun c45 => ?_) (fun c45 => ?_)
      · skip
        refine x_iinc hF dX9_loadAgain_94 hl rfl (by decide) rfl (fun ls hl => ?_)
        refine x_goto (tgt := 23) hF dX9_loadAgain_97 (by decide) ?_
        have e8 : sm (fun k => if w (29 + 2 * k + 1) = z then wByL w (w (29 + 2 * k) + 1) else 0) (k + 1) = _ := sm_1 _ h0
        have e9 : (if w (29 + 2 * k + 1) = z then wByL w (w (29 + 2 * k) + 1) else 0) = sm (fun c => if w (79 + 6 * c + 3) = w (29 + 2 * k) + 1 then w (79 + 6 * c + 1) else 0) u := by
          by_cases q : w (29 + 2 * k + 1) = z
          · rw [if_pos q]
            unfold wByL
            rw [show u = w 1 by omega]
          · rw [if_neg q, show u = 0 by omega, sm_0]
        rw [show sm (fun k => if w (29 + 2 * k + 1) = z then wByL w (w (29 + 2 * k) + 1) else 0) k + (if w (29 + 2 * k + 1) = z then wByL w (w (29 + 2 * k) + 1) else 0) = sm (fun k => if w (29 + 2 * k + 1) = z then wByL w (w (29 + 2 * k) + 1) else 0) k + sm (fun c => if w (79 + 6 * c + 3) = w (29 + 2 * k) + 1 then w (79 + 6 * c + 1) else 0) u by rw [e9]] at e8
        rw [← e8] at hl
        exact ih1 (k + 1) _ _ _ _ (by omega) (by omega) (by omega) hM hP hL (lh_sub hl rfl)
      · skip
        have how := hk.2.2.1 k h0 (by omega)
        refine lv_aload_n hx hb dX9_loadAgain_48 rfl (lk hl rfl) ?_
        refine lv_iload_n hx hb dX9_loadAgain_49 rfl (lk hl rfl) ?_
        refine x_kp hL (vx_runV (As := [_]) hF.2.2.2.2.2.2.2.2.2 ((mX9_ownerAt (w := w) (by rw [up2_oth _ _ _ (by decide)]; exact hw) (by omega) (by omega) hP.1) hF.1) (cwV 1 hF.2.2.2.2.2.2.2.2.1 (lw_V q2396 q2398 qs59 q138 q2399) rfl rfl rfl (by decide +kernel) ⟨(Nat.le_of_ble_eq_true rfl), (Nat.le_of_ble_eq_true rfl)⟩) (x_preV hF hM (MA_ob hP.1) rfl) rfl rfl hl.1 rfl (lv_room (Nat.le_of_ble_eq_true rfl)) dX9_loadAgain_50 ⟨(Nat.le_of_ble_eq_true rfl), (Nat.le_of_ble_eq_true rfl)⟩) (fun H locs hM hL => ?_)
        refine lv_iload_n hx hb dX9_loadAgain_53 rfl (lk hl rfl) ?_
        refine x_icmp_ne (tgt := 94) hF dX9_loadAgain_54 (by decide) (by first | exact Rg_in hk.1 _ | assumption | (unfold inR; omega)) (by first | exact Rg_in hk.1 _ | assumption | (unfold inR; omega)) (fun c54 => ?_) (fun c54 => ?_)
        · skip
          refine x_iinc hF dX9_loadAgain_94 hl rfl (by decide) rfl (fun ls hl => ?_)
          refine x_goto (tgt := 23) hF dX9_loadAgain_97 (by decide) ?_
          have e8 : sm (fun k => if w (29 + 2 * k + 1) = z then wByL w (w (29 + 2 * k) + 1) else 0) (k + 1) = _ := sm_1 _ h0
          have e9 : (if w (29 + 2 * k + 1) = z then wByL w (w (29 + 2 * k) + 1) else 0) = sm (fun c => if w (79 + 6 * c + 3) = w (29 + 2 * k) + 1 then w (79 + 6 * c + 1) else 0) u := by
            by_cases q : w (29 + 2 * k + 1) = z
            · rw [if_pos q]
              unfold wByL
              rw [show u = w 1 by omega]
            · rw [if_neg q, show u = 0 by omega, sm_0]
          rw [show sm (fun k => if w (29 + 2 * k + 1) = z then wByL w (w (29 + 2 * k) + 1) else 0) k + (if w (29 + 2 * k + 1) = z then wByL w (w (29 + 2 * k) + 1) else 0) = sm (fun k => if w (29 + 2 * k + 1) = z then wByL w (w (29 + 2 * k) + 1) else 0) k + sm (fun c => if w (79 + 6 * c + 3) = w (29 + 2 * k) + 1 then w (79 + 6 * c + 1) else 0) u by rw [e9]] at e8
          rw [← e8] at hl
          exact ih1 (k + 1) _ _ _ _ (by omega) (by omega) (by omega) hM hP hL (lh_sub hl rfl)
        · skip
          refine lv_iload_n hx hb dX9_loadAgain_57 rfl (lk hl rfl) ?_
          refine lv_aload_n hx hb dX9_loadAgain_58 rfl (lk hl rfl) ?_
          refine lv_iload hx hb dX9_loadAgain_59 (lk hl rfl) ?_
          refine x_iconst hF dX9_loadAgain_61 ?_
          refine x_kp hL (vx_runV (As := [_, _]) hF.2.2.2.2.2.2.2.2.2 ((mX9_of (w := w) (by rw [up2_oth _ _ _ (by decide)]; exact hw) (by omega) (by omega) hP.1) hF.1) (cwV 2 hF.2.2.2.2.2.2.2.2.1 (lw_V q2420 q2422 qs65 q138 q2423) rfl rfl rfl (by decide +kernel) ⟨(Nat.le_of_ble_eq_true rfl), (Nat.le_of_ble_eq_true rfl)⟩) (x_preV hF hM (MA_ob hP.1) rfl) rfl rfl hl.1 rfl (lv_room (Nat.le_of_ble_eq_true rfl)) dX9_loadAgain_62 ⟨(Nat.le_of_ble_eq_true rfl), (Nat.le_of_ble_eq_true rfl)⟩) (fun H locs hM hL => ?_)
          refine lv_aload_n hx hb dX9_loadAgain_65 rfl (lk hl rfl) ?_
          refine lv_iload_n hx hb dX9_loadAgain_66 rfl (lk hl rfl) ?_
          refine x_kp hL (vx_runV (As := [_]) hF.2.2.2.2.2.2.2.2.2 ((mX9_angleAt (w := w) (by rw [up2_oth _ _ _ (by decide)]; exact hw) (by omega) (by omega) hP.1) hF.1) (cwV 1 hF.2.2.2.2.2.2.2.2.1 (lw_V q2392 q2394 qs58 q138 q2395) rfl rfl rfl (by decide +kernel) ⟨(Nat.le_of_ble_eq_true rfl), (Nat.le_of_ble_eq_true rfl)⟩) (x_preV hF hM (MA_ob hP.1) rfl) rfl rfl hl.1 rfl (lv_room (Nat.le_of_ble_eq_true rfl)) dX9_loadAgain_67 ⟨(Nat.le_of_ble_eq_true rfl), (Nat.le_of_ble_eq_true rfl)⟩) (fun H locs hM hL => ?_)
          refine x_iconst hF dX9_loadAgain_70 ?_
          refine x_iadd hF dX9_loadAgain_71 ?_
          refine x_icmp_ne (tgt := 85) hF dX9_loadAgain_72 (by decide) (by first | exact Rg_in hk.1 _ | assumption | (unfold inR; omega)) (by first | exact Rg_in hk.1 _ | assumption | (unfold inR; omega)) (fun c72 => ?_) (fun c72 => ?_)
          · skip
            refine x_iconst hF dX9_loadAgain_85 ?_
            refine x_iadd hF dX9_loadAgain_86 ?_
            refine x_istore_n hF dX9_loadAgain_87 rfl hl (by decide) rfl (fun ls hl => ?_)
            refine x_iinc hF dX9_loadAgain_88 hl rfl (by decide) rfl (fun ls hl => ?_)
            refine x_goto (tgt := 37) hF dX9_loadAgain_91 (by decide) ?_
            have e9 : sm (fun c => if w (79 + 6 * c + 3) = w (29 + 2 * k) + 1 then w (79 + 6 * c + 1) else 0) (u + 1) = _ := sm_1 _ g0
            first | rw [show (if w (79 + 6 * u + 3) = w (29 + 2 * k) + 1 then w (79 + 6 * u + 1) else 0) = w (79 + 6 * u + 1) from if_pos c72] at e9 | rw [show (if w (79 + 6 * u + 3) = w (29 + 2 * k) + 1 then w (79 + 6 * u + 1) else 0) = 0 from if_neg c72] at e9
            rw [Int.add_assoc, ← e9] at hl
            exact ih2 (u + 1) _ _ _ _ (by omega) (by omega) (by omega) (Or.inr c54) hM hP hL (lh_sub hl rfl)
          · skip
            refine lv_aload_n hx hb dX9_loadAgain_75 rfl (lk hl rfl) ?_
            refine lv_iload hx hb dX9_loadAgain_76 (lk hl rfl) ?_
            refine x_iconst hF dX9_loadAgain_78 ?_
            refine x_kp hL (vx_runV (As := [_, _]) hF.2.2.2.2.2.2.2.2.2 ((mX9_of (w := w) (by rw [up2_oth _ _ _ (by decide)]; exact hw) (by omega) (by omega) hP.1) hF.1) (cwV 2 hF.2.2.2.2.2.2.2.2.1 (lw_V q2420 q2422 qs65 q138 q2423) rfl rfl rfl (by decide +kernel) ⟨(Nat.le_of_ble_eq_true rfl), (Nat.le_of_ble_eq_true rfl)⟩) (x_preV hF hM (MA_ob hP.1) rfl) rfl rfl hl.1 rfl (lv_room (Nat.le_of_ble_eq_true rfl)) dX9_loadAgain_79 ⟨(Nat.le_of_ble_eq_true rfl), (Nat.le_of_ble_eq_true rfl)⟩) (fun H locs hM hL => ?_)
            refine x_goto (tgt := 86) hF dX9_loadAgain_82 (by decide) ?_
            refine x_iadd hF dX9_loadAgain_86 ?_
            refine x_istore_n hF dX9_loadAgain_87 rfl hl (by decide) rfl (fun ls hl => ?_)
            refine x_iinc hF dX9_loadAgain_88 hl rfl (by decide) rfl (fun ls hl => ?_)
            refine x_goto (tgt := 37) hF dX9_loadAgain_91 (by decide) ?_
            have e9 : sm (fun c => if w (79 + 6 * c + 3) = w (29 + 2 * k) + 1 then w (79 + 6 * c + 1) else 0) (u + 1) = _ := sm_1 _ g0
            first | rw [show (if w (79 + 6 * u + 3) = w (29 + 2 * k) + 1 then w (79 + 6 * u + 1) else 0) = w (79 + 6 * u + 1) from if_pos c72] at e9 | rw [show (if w (79 + 6 * u + 3) = w (29 + 2 * k) + 1 then w (79 + 6 * u + 1) else 0) = 0 from if_neg c72] at e9
            rw [Int.add_assoc, ← e9] at hl
            exact ih2 (u + 1) _ _ _ _ (by omega) (by omega) (by omega) (Or.inr c54) hM hP hL (lh_sub hl rfl)
  · skip
    refine lv_aload_n hx hb dX9_loadAgain_13 rfl (lk hl rfl) ?_
    refine x_iconst hF dX9_loadAgain_14 ?_
    refine x_kn hL (vx_runV (As := [_]) hF.2.2.2.2.2.2.2.2.2 ((mX9_fails hP.1) hF.1) (cwV 1 hF.2.2.2.2.2.2.2.2.1 (lw_V q2337 q2339 qs46 q138 q2340) rfl rfl rfl (by decide +kernel) ⟨(Nat.le_of_ble_eq_true rfl), (Nat.le_of_ble_eq_true rfl)⟩) (x_preV hF hM (MA_ob hP.1) rfl) rfl rfl hl.1 rfl (lv_room (Nat.le_of_ble_eq_true rfl)) dX9_loadAgain_15 ⟨(Nat.le_of_ble_eq_true rfl), (Nat.le_of_ble_eq_true rfl)⟩) ?_
    rintro _ τ15 H locs ⟨rfl, hp⟩ hM hL
    refine MS_gen hM (MS_t hP hp) (fun σ hM hP => ?_)
    exact x_ireturn hF hM hL rfl (Nat.le_of_ble_eq_true rfl) (Nat.le_of_ble_eq_true rfl) (by (have ht : qLoadAgain w z = (1, 0) := by first | (unfold qLoadAgain; rw [if_pos (by omega)])); rw [ht]; exact ⟨rfl, QE_1 hP⟩) dX9_loadAgain_18
set_option maxHeartbeats 4000000 in
set_option maxRecDepth 100000 in
/-- BakeryRingModel.span(I)I -/
theorem mX9_span {l : Launch} {E : En} {σ0 : Mm} {o : Nat} {F : Nat → Int → Int} {w : Int → Int} (hw : F 5 = w) (hk : Wk w) {z : Int} (hz : inR z) (hP : MA E σ0 o F) : Ctr l E yX9_span (ws_ yX9_span cX9_span 4 (some .int)) 3 67 0 0 [.ref o, .int (iz z)] σ0 (fun v τ => v = some (.int (iz (qSpan w z).2)) ∧ QE E σ0 o τ F (qSpan w z).1) noX := by
  refine x_head (own := RX9) (cc := cX9_span) (maxL := 4) (ret := (some .int)) (by decide) rfl rfl (Nat.le_of_ble_eq_true rfl) ?_
  intro p e s m args below meth c H ls hF hname htab hM hl
  have hx := hF.2.2.1
  have hb := hF.2.2.2.1
  have hL : Lc E [] := lcNil
  have hl : lh ls 4 ([(0, .ref o), (1, .int (iz z))]) := hl
  refine MS_gen hM (MS_0 hP) (fun σ hM hP => ?_)
  have hk2 := hk.2.1
  refine lv_aload_n hx hb dX9_span_0 rfl (lk hl rfl) ?_
  refine x_iconst hF dX9_span_1 ?_
  refine x_putfield hF (ci := 10) in_X9 rfl tyX9_ok nmX9 0 (by decide) q2251 (fun _ h => h) rfl hM hL (MA_ob hP.1) (ty := .int) (by decide +kernel) rfl rfl dX9_span_2 (fun H locs hM hL => ?_)
  refine MS_gen hM (MS_p0 hM hP) (fun σ hM hP => ?_)
  refine lv_aload_n hx hb dX9_span_5 rfl (lk hl rfl) ?_
  refine lv_iload_n hx hb dX9_span_6 rfl (lk hl rfl) ?_
  refine x_kp hL (vx_runV (As := [_]) hF.2.2.2.2.2.2.2.2.2 ((mX9_isBakery (w := w) (by rw [up2_oth _ _ _ (by decide)]; exact hw) hz hk.1 hP.1) hF.1) (cwV 1 hF.2.2.2.2.2.2.2.2.1 (lw_V q2377 q2379 qs55 q138 q2380) rfl rfl rfl (by decide +kernel) ⟨(Nat.le_of_ble_eq_true rfl), (Nat.le_of_ble_eq_true rfl)⟩) (x_preV hF hM (MA_ob hP.1) rfl) rfl rfl hl.1 rfl (lv_room (Nat.le_of_ble_eq_true rfl)) dX9_span_7 ⟨(Nat.le_of_ble_eq_true rfl), (Nat.le_of_ble_eq_true rfl)⟩) (fun H locs hM hL => ?_)
  refine x_ifne_b (tgt := 19) hF dX9_span_10 (by decide) (fun c10 => ?_) (fun c10 => ?_)
  · skip
    refine x_iconst hF dX9_span_19 ?_
    refine x_istore_n hF dX9_span_20 rfl hl (by decide) rfl (fun ls hl => ?_)
    refine x_iconst hF dX9_span_21 ?_
    refine x_istore_n hF dX9_span_22 rfl hl (by decide) rfl (fun ls hl => ?_)
    suffices loop : ∀ (n : Nat) (i : Int) (σ : Mm) (H : Heap) (locs : List Loc) (ls : Array Slot), 360 - i < (n : Int) → (0 ≤ i) → (i ≤ 360) → Mem E s H σ → MS E σ0 o σ (up2 F 0 0 0) → Lc E locs → lh ls 4 [(0, .ref o), (1, .int (iz z)), (2, .int (iz (sm (fun a => if 0 ≤ wOpen w a ∧ w (29 + 2 * wOpen w a + 1) = z then 1 else 0) i))), (3, .int (iz i))] → W p l e ({ frames := 3, cells := 0, slots := 0, locals := 67 } : Room) s m args below meth c H locs 0 0 (vx_MQ below (XQc E (fun v τ => v = some (.int (iz (qSpan w z).2)) ∧ QE E σ0 o τ F (qSpan w z).1)) (XXc E noX) args s 0 0 (XA E)) (F0 m 23 ls []) from loop (361) 0 _ _ _ _ (by omega) (by omega) (by omega) hM hP hL (lh_sub hl rfl)
    refine nat_loop (fun i σ H locs ls hmm h0 h1 => absurd hmm (by omega)) (fun n ih i σ H locs ls hmm h0 h1 hM hP hL hl => ?_)
    refine lv_iload_n hx hb dX9_span_23 rfl (lk hl rfl) ?_
    refine x_sipush hF (by decide) dX9_span_24 ?_
    refine x_icmp_ge (tgt := 65) hF dX9_span_27 (by decide) (by first | exact Rg_in hk.1 _ | assumption | (unfold inR; omega)) (by first | exact Rg_in hk.1 _ | assumption | (unfold inR; omega)) (fun c27 => ?_) (fun c27 => ?_)
    · skip
      refine lv_iload_n hx hb dX9_span_65 rfl (lk hl rfl) ?_
      exact x_ireturn hF hM hL rfl (Nat.le_of_ble_eq_true rfl) (Nat.le_of_ble_eq_true rfl) (by (have hfe : wSpan w z = sm (fun a => if 0 ≤ wOpen w a ∧ w (29 + 2 * wOpen w a + 1) = z then 1 else 0) i := by unfold wSpan; rw [show i = 360 by omega]); rw [← hfe]; (have ht : qSpan w z = (0, wSpan w z) := by first | (unfold qSpan; rw [if_neg (by omega)])); rw [ht]; exact ⟨rfl, QE_0 hP⟩) dX9_span_66
    · skip
      have hso := wOpen_r (w := w) (by omega) i
      refine lv_iload_n hx hb dX9_span_30 rfl (lk hl rfl) ?_
      refine lv_aload_n hx hb dX9_span_31 rfl (lk hl rfl) ?_
      refine lv_iload_n hx hb dX9_span_32 rfl (lk hl rfl) ?_
      refine x_kp hL (vx_runV (As := [_]) hF.2.2.2.2.2.2.2.2.2 ((mX9_openFrom (w := w) (by rw [up2_oth _ _ _ (by decide)]; exact hw) hk (by unfold inR; omega) hP.1) hF.1) (cwV 1 hF.2.2.2.2.2.2.2.2.1 (lw_V q2567 q2569 qs89 q138 q2570) rfl rfl rfl (by decide +kernel) ⟨(Nat.le_of_ble_eq_true rfl), (Nat.le_of_ble_eq_true rfl)⟩) (x_preV hF hM (MA_ob hP.1) rfl) rfl rfl hl.1 rfl (lv_room (Nat.le_of_ble_eq_true rfl)) dX9_span_33 ⟨(Nat.le_of_ble_eq_true rfl), (Nat.le_of_ble_eq_true rfl)⟩) (fun H locs hM hL => ?_)
      refine x_if_lt (tgt := 56) hF dX9_span_36 (by decide) (by first | exact Rg_in hk.1 _ | assumption | (unfold inR; omega)) (fun c36 => ?_) (fun c36 => ?_)
      · skip
        refine x_iconst hF dX9_span_56 ?_
        refine x_iadd hF dX9_span_57 ?_
        refine x_istore_n hF dX9_span_58 rfl hl (by decide) rfl (fun ls hl => ?_)
        refine x_iinc hF dX9_span_59 hl rfl (by decide) rfl (fun ls hl => ?_)
        refine x_goto (tgt := 23) hF dX9_span_62 (by decide) ?_
        have e9 : sm (fun a => if 0 ≤ wOpen w a ∧ w (29 + 2 * wOpen w a + 1) = z then 1 else 0) (i + 1) = _ := sm_1 _ h0
        first | rw [show (if 0 ≤ wOpen w i ∧ w (29 + 2 * wOpen w i + 1) = z then (1 : Int) else 0) = 1 from if_pos (by omega)] at e9 | rw [show (if 0 ≤ wOpen w i ∧ w (29 + 2 * wOpen w i + 1) = z then (1 : Int) else 0) = 0 from if_neg (by omega)] at e9
        rw [← e9] at hl
        exact ih (i + 1) _ _ _ _ (by omega) (by omega) (by omega) hM hP hL (lh_sub hl rfl)
      · skip
        refine lv_aload_n hx hb dX9_span_39 rfl (lk hl rfl) ?_
        refine lv_aload_n hx hb dX9_span_40 rfl (lk hl rfl) ?_
        refine lv_iload_n hx hb dX9_span_41 rfl (lk hl rfl) ?_
        refine x_kp hL (vx_runV (As := [_]) hF.2.2.2.2.2.2.2.2.2 ((mX9_openFrom (w := w) (by rw [up2_oth _ _ _ (by decide)]; exact hw) hk (by unfold inR; omega) hP.1) hF.1) (cwV 1 hF.2.2.2.2.2.2.2.2.1 (lw_V q2567 q2569 qs89 q138 q2570) rfl rfl rfl (by decide +kernel) ⟨(Nat.le_of_ble_eq_true rfl), (Nat.le_of_ble_eq_true rfl)⟩) (x_preV hF hM (MA_ob hP.1) rfl) rfl rfl hl.1 rfl (lv_room (Nat.le_of_ble_eq_true rfl)) dX9_span_42 ⟨(Nat.le_of_ble_eq_true rfl), (Nat.le_of_ble_eq_true rfl)⟩) (fun H locs hM hL => ?_)
        refine x_kp hL (vx_runV (As := [_]) hF.2.2.2.2.2.2.2.2.2 ((mX9_ownerAt (w := w) (by rw [up2_oth _ _ _ (by decide)]; exact hw) (by omega) (by omega) hP.1) hF.1) (cwV 1 hF.2.2.2.2.2.2.2.2.1 (lw_V q2396 q2398 qs59 q138 q2399) rfl rfl rfl (by decide +kernel) ⟨(Nat.le_of_ble_eq_true rfl), (Nat.le_of_ble_eq_true rfl)⟩) (x_preV hF hM (MA_ob hP.1) rfl) rfl rfl hl.1 rfl (lv_room (Nat.le_of_ble_eq_true rfl)) dX9_span_45 ⟨(Nat.le_of_ble_eq_true rfl), (Nat.le_of_ble_eq_true rfl)⟩) (fun H locs hM hL => ?_)
        refine lv_iload_n hx hb dX9_span_48 rfl (lk hl rfl) ?_
        refine x_icmp_ne (tgt := 56) hF dX9_span_49 (by decide) (by first | exact Rg_in hk.1 _ | assumption | (unfold inR; omega)) (by first | exact Rg_in hk.1 _ | assumption | (unfold inR; omega)) (fun c49 => ?_) (fun c49 => ?_)
        · skip
          refine x_iconst hF dX9_span_56 ?_
          refine x_iadd hF dX9_span_57 ?_
          refine x_istore_n hF dX9_span_58 rfl hl (by decide) rfl (fun ls hl => ?_)
          refine x_iinc hF dX9_span_59 hl rfl (by decide) rfl (fun ls hl => ?_)
          refine x_goto (tgt := 23) hF dX9_span_62 (by decide) ?_
          have e9 : sm (fun a => if 0 ≤ wOpen w a ∧ w (29 + 2 * wOpen w a + 1) = z then 1 else 0) (i + 1) = _ := sm_1 _ h0
          first | rw [show (if 0 ≤ wOpen w i ∧ w (29 + 2 * wOpen w i + 1) = z then (1 : Int) else 0) = 1 from if_pos (by omega)] at e9 | rw [show (if 0 ≤ wOpen w i ∧ w (29 + 2 * wOpen w i + 1) = z then (1 : Int) else 0) = 0 from if_neg (by omega)] at e9
          rw [← e9] at hl
          exact ih (i + 1) _ _ _ _ (by omega) (by omega) (by omega) hM hP hL (lh_sub hl rfl)
        · skip
          refine x_iconst hF dX9_span_52 ?_
          refine x_goto (tgt := 57) hF dX9_span_53 (by decide) ?_
          refine x_iadd hF dX9_span_57 ?_
          refine x_istore_n hF dX9_span_58 rfl hl (by decide) rfl (fun ls hl => ?_)
          refine x_iinc hF dX9_span_59 hl rfl (by decide) rfl (fun ls hl => ?_)
          refine x_goto (tgt := 23) hF dX9_span_62 (by decide) ?_
          have e9 : sm (fun a => if 0 ≤ wOpen w a ∧ w (29 + 2 * wOpen w a + 1) = z then 1 else 0) (i + 1) = _ := sm_1 _ h0
          first | rw [show (if 0 ≤ wOpen w i ∧ w (29 + 2 * wOpen w i + 1) = z then (1 : Int) else 0) = 1 from if_pos (by omega)] at e9 | rw [show (if 0 ≤ wOpen w i ∧ w (29 + 2 * wOpen w i + 1) = z then (1 : Int) else 0) = 0 from if_neg (by omega)] at e9
          rw [← e9] at hl
          exact ih (i + 1) _ _ _ _ (by omega) (by omega) (by omega) hM hP hL (lh_sub hl rfl)
  · skip
    refine lv_aload_n hx hb dX9_span_13 rfl (lk hl rfl) ?_
    refine x_iconst hF dX9_span_14 ?_
    refine x_kn hL (vx_runV (As := [_]) hF.2.2.2.2.2.2.2.2.2 ((mX9_fails hP.1) hF.1) (cwV 1 hF.2.2.2.2.2.2.2.2.1 (lw_V q2337 q2339 qs46 q138 q2340) rfl rfl rfl (by decide +kernel) ⟨(Nat.le_of_ble_eq_true rfl), (Nat.le_of_ble_eq_true rfl)⟩) (x_preV hF hM (MA_ob hP.1) rfl) rfl rfl hl.1 rfl (lv_room (Nat.le_of_ble_eq_true rfl)) dX9_span_15 ⟨(Nat.le_of_ble_eq_true rfl), (Nat.le_of_ble_eq_true rfl)⟩) ?_
    rintro _ τ15 H locs ⟨rfl, hp⟩ hM hL
    refine MS_gen hM (MS_t hP hp) (fun σ hM hP => ?_)
    exact x_ireturn hF hM hL rfl (Nat.le_of_ble_eq_true rfl) (Nat.le_of_ble_eq_true rfl) (by (have ht : qSpan w z = (1, 0) := by first | (unfold qSpan; rw [if_pos (by omega)])); rw [ht]; exact ⟨rfl, QE_1 hP⟩) dX9_span_18
set_option maxHeartbeats 4000000 in
set_option maxRecDepth 100000 in
/-- BakeryRingModel.customers(II)I -/
theorem mX9_customers {l : Launch} {E : En} {σ0 : Mm} {o : Nat} {F : Nat → Int → Int} {w : Int → Int} (hw : F 5 = w) (hk : Wk w) {z a : Int} (hz : inR z) (ha : inR a) (hP : MA E σ0 o F) : Ctr l E yX9_customers (ws_ yX9_customers cX9_customers 5 (some .int)) 2 43 0 0 [.ref o, .int (iz z), .int (iz a)] σ0 (fun v τ => v = some (.int (iz (qCustomers w z a).2)) ∧ QE E σ0 o τ F (qCustomers w z a).1) noX := by
  refine x_head (own := RX9) (cc := cX9_customers) (maxL := 5) (ret := (some .int)) (by decide) rfl rfl (Nat.le_of_ble_eq_true rfl) ?_
  intro p e s m args below meth c H ls hF hname htab hM hl
  have hx := hF.2.2.1
  have hb := hF.2.2.2.1
  have hL : Lc E [] := lcNil
  have hl : lh ls 5 ([(0, .ref o), (1, .int (iz z)), (2, .int (iz a))]) := hl
  refine MS_gen hM (MS_0 hP) (fun σ hM hP => ?_)
  have hk2 := hk.2.1
  refine lv_aload_n hx hb dX9_customers_0 rfl (lk hl rfl) ?_
  refine x_iconst hF dX9_customers_1 ?_
  refine x_putfield hF (ci := 10) in_X9 rfl tyX9_ok nmX9 0 (by decide) q2251 (fun _ h => h) rfl hM hL (MA_ob hP.1) (ty := .int) (by decide +kernel) rfl rfl dX9_customers_2 (fun H locs hM hL => ?_)
  refine MS_gen hM (MS_p0 hM hP) (fun σ hM hP => ?_)
  refine lv_aload_n hx hb dX9_customers_5 rfl (lk hl rfl) ?_
  refine lv_iload_n hx hb dX9_customers_6 rfl (lk hl rfl) ?_
  refine x_kp hL (vx_runV (As := [_]) hF.2.2.2.2.2.2.2.2.2 ((mX9_isBakery (w := w) (by rw [up2_oth _ _ _ (by decide)]; exact hw) hz hk.1 hP.1) hF.1) (cwV 1 hF.2.2.2.2.2.2.2.2.1 (lw_V q2377 q2379 qs55 q138 q2380) rfl rfl rfl (by decide +kernel) ⟨(Nat.le_of_ble_eq_true rfl), (Nat.le_of_ble_eq_true rfl)⟩) (x_preV hF hM (MA_ob hP.1) rfl) rfl rfl hl.1 rfl (lv_room (Nat.le_of_ble_eq_true rfl)) dX9_customers_7 ⟨(Nat.le_of_ble_eq_true rfl), (Nat.le_of_ble_eq_true rfl)⟩) (fun H locs hM hL => ?_)
  refine x_ifne_b (tgt := 19) hF dX9_customers_10 (by decide) (fun c10 => ?_) (fun c10 => ?_)
  · skip
    refine lv_iload_n hx hb dX9_customers_19 rfl (lk hl rfl) ?_
    refine x_istore_n hF dX9_customers_20 rfl hl (by decide) rfl (fun ls hl => ?_)
    refine x_iconst hF dX9_customers_21 ?_
    refine x_istore hF dX9_customers_22 hl (by decide) rfl (fun ls hl => ?_)
    suffices loop : ∀ (n : Nat) (i : Int) (lf : Int) (σ : Mm) (H : Heap) (locs : List Loc) (ls : Array Slot), w 1 - i < (n : Int) → (0 ≤ i) → (i ≤ w 1) → (lf ≤ a) → (lf = a ∨ 0 ≤ lf) → (cuF w z lf i (w 1 - i).toNat = cuF w z a 0 (w 1).toNat) → Mem E s H σ → MS E σ0 o σ (up2 F 0 0 0) → Lc E locs → lh ls 5 [(0, .ref o), (1, .int (iz z)), (2, .int (iz a)), (3, .int (iz lf)), (4, .int (iz i))] → W p l e ({ frames := 2, cells := 0, slots := 0, locals := 43 } : Room) s m args below meth c H locs 0 0 (vx_MQ below (XQc E (fun v τ => v = some (.int (iz (qCustomers w z a).2)) ∧ QE E σ0 o τ F (qCustomers w z a).1)) (XXc E noX) args s 0 0 (XA E)) (F0 m 24 ls []) from loop (22) 0 a _ _ _ _ (by omega) (by omega) (by omega) (by omega) (by omega) (by rw [Int.sub_zero]) hM hP hL (lh_sub hl rfl)
    refine nat_loop (fun i lf σ H locs ls hmm h0 h1 g0 g1 hr => absurd hmm (by omega)) (fun n ih i lf σ H locs ls hmm h0 h1 g0 g1 hr hM hP hL hl => ?_)
    refine lv_iload hx hb dX9_customers_24 (lk hl rfl) ?_
    refine lv_aload_n hx hb dX9_customers_26 rfl (lk hl rfl) ?_
    refine x_getfield hF (ci := 10) in_X9 rfl 5 (by decide) q2256 (fun _ h => h) hM (MA_ob hP.1) (MA_f5 hP.1) dX9_customers_27 ?_
    refine x_iconst hF dX9_customers_30 ?_
    refine x_iald hF hM (MA_a5 hP.1) (by omega) (by omega) (by decide) (show rd _ _ _ = .int (iz (w _)) from by have h9 := MA_r5 hP.1; rw [up2_oth _ _ _ (by decide), hw] at h9; exact h9 _ (by omega) (by omega)) dX9_customers_31 ?_
    refine x_icmp_ge (tgt := 71) hF dX9_customers_32 (by decide) (by first | exact Rg_in hk.1 _ | assumption | (unfold inR at *; omega)) (by first | exact Rg_in hk.1 _ | assumption | (unfold inR at *; omega)) (fun c32 => ?_) (fun c32 => ?_)
    · skip
      refine lv_aload_n hx hb dX9_customers_71 rfl (lk hl rfl) ?_
      refine x_iconst hF dX9_customers_72 ?_
      refine x_kn hL (vx_runV (As := [_]) hF.2.2.2.2.2.2.2.2.2 ((mX9_fails hP.1) hF.1) (cwV 1 hF.2.2.2.2.2.2.2.2.1 (lw_V q2337 q2339 qs46 q138 q2340) rfl rfl rfl (by decide +kernel) ⟨(Nat.le_of_ble_eq_true rfl), (Nat.le_of_ble_eq_true rfl)⟩) (x_preV hF hM (MA_ob hP.1) rfl) rfl rfl hl.1 rfl (lv_room (Nat.le_of_ble_eq_true rfl)) dX9_customers_73 ⟨(Nat.le_of_ble_eq_true rfl), (Nat.le_of_ble_eq_true rfl)⟩) ?_
      rintro _ τ73 H locs ⟨rfl, hp⟩ hM hL
      refine MS_gen hM (MS_t hP hp) (fun σ hM hP => ?_)
      exact x_ireturn hF hM hL rfl (Nat.le_of_ble_eq_true rfl) (Nat.le_of_ble_eq_true rfl) (by (have hfe : cuF w z a 0 (w 1).toNat = -1 := by rw [← hr]; exact cuF_e (by omega)); (have ht : qCustomers w z a = (2, 0) := by unfold qCustomers; rw [hfe, if_neg (by omega)]; split <;> rfl); rw [ht]; exact ⟨rfl, QE_1 hP⟩) dX9_customers_76
    · skip
      refine lv_iload_n hx hb dX9_customers_35 rfl (lk hl rfl) ?_
      refine x_if_lt (tgt := 71) hF dX9_customers_36 (by decide) (by first | exact Rg_in hk.1 _ | assumption | (unfold inR at *; omega)) (fun c36 => ?_) (fun c36 => ?_)
      · skip
        refine lv_aload_n hx hb dX9_customers_71 rfl (lk hl rfl) ?_
        refine x_iconst hF dX9_customers_72 ?_
        refine x_kn hL (vx_runV (As := [_]) hF.2.2.2.2.2.2.2.2.2 ((mX9_fails hP.1) hF.1) (cwV 1 hF.2.2.2.2.2.2.2.2.1 (lw_V q2337 q2339 qs46 q138 q2340) rfl rfl rfl (by decide +kernel) ⟨(Nat.le_of_ble_eq_true rfl), (Nat.le_of_ble_eq_true rfl)⟩) (x_preV hF hM (MA_ob hP.1) rfl) rfl rfl hl.1 rfl (lv_room (Nat.le_of_ble_eq_true rfl)) dX9_customers_73 ⟨(Nat.le_of_ble_eq_true rfl), (Nat.le_of_ble_eq_true rfl)⟩) ?_
        rintro _ τ73 H locs ⟨rfl, hp⟩ hM hL
        refine MS_gen hM (MS_t hP hp) (fun σ hM hP => ?_)
        exact x_ireturn hF hM hL rfl (Nat.le_of_ble_eq_true rfl) (Nat.le_of_ble_eq_true rfl) (by (have ht : qCustomers w z a = (2, 0) := by unfold qCustomers; rw [if_neg (by omega), if_pos (by omega)]); rw [ht]; exact ⟨rfl, QE_1 hP⟩) dX9_customers_76
      · skip
        refine lv_aload_n hx hb dX9_customers_39 rfl (lk hl rfl) ?_
        refine lv_iload hx hb dX9_customers_40 (lk hl rfl) ?_
        refine x_iconst hF dX9_customers_42 ?_
        refine x_kp hL (vx_runV (As := [_, _]) hF.2.2.2.2.2.2.2.2.2 ((mX9_of (w := w) (by rw [up2_oth _ _ _ (by decide)]; exact hw) (by omega) (by omega) hP.1) hF.1) (cwV 2 hF.2.2.2.2.2.2.2.2.1 (lw_V q2420 q2422 qs65 q138 q2423) rfl rfl rfl (by decide +kernel) ⟨(Nat.le_of_ble_eq_true rfl), (Nat.le_of_ble_eq_true rfl)⟩) (x_preV hF hM (MA_ob hP.1) rfl) rfl rfl hl.1 rfl (lv_room (Nat.le_of_ble_eq_true rfl)) dX9_customers_43 ⟨(Nat.le_of_ble_eq_true rfl), (Nat.le_of_ble_eq_true rfl)⟩) (fun H locs hM hL => ?_)
        refine lv_iload_n hx hb dX9_customers_46 rfl (lk hl rfl) ?_
        refine x_iconst hF dX9_customers_47 ?_
        refine x_iadd hF dX9_customers_48 ?_
        refine x_icmp_eq (tgt := 55) hF dX9_customers_49 (by decide) (by first | exact Rg_in hk.1 _ | assumption | (unfold inR at *; omega)) (by first | exact Rg_in hk.1 _ | assumption | (unfold inR at *; omega)) (fun c49 => ?_) (fun c49 => ?_)
        · skip
          refine lv_iload_n hx hb dX9_customers_55 rfl (lk hl rfl) ?_
          refine x_if_ne (tgt := 62) hF dX9_customers_56 (by decide) (by first | exact Rg_in hk.1 _ | assumption | (unfold inR at *; omega)) (fun c56 => ?_) (fun c56 => ?_)
          · skip
            refine x_iinc hF dX9_customers_62 hl rfl (by decide) rfl (fun ls hl => ?_)
            refine x_iinc hF dX9_customers_65 hl rfl (by decide) rfl (fun ls hl => ?_)
            refine x_goto (tgt := 24) hF dX9_customers_68 (by decide) ?_
            first | (exact ih (i + 1) (lf - 1) _ _ _ _ (by omega) (by omega) (by omega) (by omega) (by omega) (by rw [← hr, cuF_1 (i := i) (by omega)]; (first | rw [if_pos c49, if_neg c56] | rw [if_neg c49] | fail); done) hM hP hL (lh_sub hl rfl)) | (exact ih (i + 1) lf _ _ _ _ (by omega) (by omega) (by omega) (by omega) (by omega) (by rw [← hr, cuF_1 (i := i) (by omega)]; (first | rw [if_pos c49, if_neg c56] | rw [if_neg c49] | fail); done) hM hP hL (lh_sub hl rfl))
          · skip
            refine lv_iload hx hb dX9_customers_59 (lk hl rfl) ?_
            exact x_ireturn hF hM hL rfl (Nat.le_of_ble_eq_true rfl) (Nat.le_of_ble_eq_true rfl) (by (have hfe : cuF w z a 0 (w 1).toNat = i := by rw [← hr, cuF_1 (by omega), if_pos c49, if_pos c56]); (have ht : qCustomers w z a = (0, i) := by unfold qCustomers; rw [hfe, if_neg (by omega), if_neg (by omega), if_neg (by omega)]); rw [ht]; exact ⟨rfl, QE_0 hP⟩) dX9_customers_61
        · skip
          refine x_goto (tgt := 65) hF dX9_customers_52 (by decide) ?_
          refine x_iinc hF dX9_customers_65 hl rfl (by decide) rfl (fun ls hl => ?_)
          refine x_goto (tgt := 24) hF dX9_customers_68 (by decide) ?_
          first | (exact ih (i + 1) (lf - 1) _ _ _ _ (by omega) (by omega) (by omega) (by omega) (by omega) (by rw [← hr, cuF_1 (i := i) (by omega)]; (first | rw [if_pos c49, if_neg c56] | rw [if_neg c49] | fail); done) hM hP hL (lh_sub hl rfl)) | (exact ih (i + 1) lf _ _ _ _ (by omega) (by omega) (by omega) (by omega) (by omega) (by rw [← hr, cuF_1 (i := i) (by omega)]; (first | rw [if_pos c49, if_neg c56] | rw [if_neg c49] | fail); done) hM hP hL (lh_sub hl rfl))
  · skip
    refine lv_aload_n hx hb dX9_customers_13 rfl (lk hl rfl) ?_
    refine x_iconst hF dX9_customers_14 ?_
    refine x_kn hL (vx_runV (As := [_]) hF.2.2.2.2.2.2.2.2.2 ((mX9_fails hP.1) hF.1) (cwV 1 hF.2.2.2.2.2.2.2.2.1 (lw_V q2337 q2339 qs46 q138 q2340) rfl rfl rfl (by decide +kernel) ⟨(Nat.le_of_ble_eq_true rfl), (Nat.le_of_ble_eq_true rfl)⟩) (x_preV hF hM (MA_ob hP.1) rfl) rfl rfl hl.1 rfl (lv_room (Nat.le_of_ble_eq_true rfl)) dX9_customers_15 ⟨(Nat.le_of_ble_eq_true rfl), (Nat.le_of_ble_eq_true rfl)⟩) ?_
    rintro _ τ15 H locs ⟨rfl, hp⟩ hM hL
    refine MS_gen hM (MS_t hP hp) (fun σ hM hP => ?_)
    exact x_ireturn hF hM hL rfl (Nat.le_of_ble_eq_true rfl) (Nat.le_of_ble_eq_true rfl) (by (have ht : qCustomers w z a = (1, 0) := by first | (unfold qCustomers; rw [if_pos (by omega)])); rw [ht]; exact ⟨rfl, QE_1 hP⟩) dX9_customers_18
