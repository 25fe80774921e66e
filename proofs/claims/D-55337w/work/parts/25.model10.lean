set_option maxHeartbeats 4000000 in
set_option maxRecDepth 100000 in
/-- BakeryRingModel.bakery(II)I -/
theorem mX9_bakery {l : Launch} {E : En} {σ0 : Mm} {o : Nat} {F : Nat → Int → Int} {z a : Int} (hz : inR z) (ha : inR a) {w : Int → Int} (hw : F 5 = w) (hk : Wk w) (h90 : 0 ≤ F 9 0) (h98 : F 9 0 ≤ 8) (ha0 : 0 ≤ F 10 0) (ha8 : F 10 0 < 8) (hP : MA E σ0 o F) : Ctr l E yX9_bakery (ws_ yX9_bakery cX9_bakery 4 (some .int)) 2 44 0 0 [.ref o, .int (iz z), .int (iz a)] σ0 (fun v τ => (¬ ((0 ≤ z ∧ z ≤ 2) ∧ 1 ≤ a ∧ a ≤ 40) → v = some (.int (iz 0)) ∧ MS E σ0 o τ (up2 (up2 F 0 0 0) 0 0 1)) ∧ (((0 ≤ z ∧ z ≤ 2) ∧ 1 ≤ a ∧ a ≤ 40) → w 0 = 6 → v = some (.int (iz 0)) ∧ MS E σ0 o τ (mThr (up2 (up2 (up2 F 0 0 0) 3 0 1) 4 0 6) 2)) ∧ (((0 ≤ z ∧ z ≤ 2) ∧ 1 ≤ a ∧ a ≤ 40) → w 0 ≠ 6 → v = some (.int (iz (w 0))) ∧ ME E σ0 o τ (mBeg (up2 F 0 0 0)) (wBak (wUp w 2 (w 2 + 1)) z a))) noX := by
  refine x_head (own := RX9) (cc := cX9_bakery) (maxL := 4) (ret := (some .int)) (by decide) rfl rfl (Nat.le_of_ble_eq_true rfl) ?_
  intro p e s m args below meth c H ls hF hname htab hM hl
  have hx := hF.2.2.1
  have hb := hF.2.2.2.1
  have hL : Lc E [] := lcNil
  have hl : lh ls 4 ([(0, .ref o), (1, .int (iz z)), (2, .int (iz a))]) := hl
  refine MS_gen hM (MS_0 hP) (fun σ hM hP => ?_)
  have hk2 := hk.2.1
  refine lv_aload_n hx hb dX9_bakery_0 rfl (lk hl rfl) ?_
  refine x_iconst hF dX9_bakery_1 ?_
  refine x_putfield hF (ci := 10) in_X9 rfl tyX9_ok nmX9 0 (by decide) q2251 (fun _ h => h) rfl hM hL (MA_ob hP.1) (ty := .int) (by decide +kernel) rfl rfl dX9_bakery_2 (fun H locs hM hL => ?_)
  refine MS_gen hM (MS_p0 hM hP) (fun σ hM hP => ?_)
  refine lv_iload_n hx hb dX9_bakery_5 rfl (lk hl rfl) ?_
  refine x_iconst hF dX9_bakery_6 ?_
  refine x_iconst hF dX9_bakery_7 ?_
  refine x_kp hL (vx_runS (As := [_, _, _]) hF.2.2.2.2.2.2.2.2.2 ((mX9_isBetween hz ⟨by omega, by omega⟩ ⟨by omega, by omega⟩) hF.1) (va_cwS 3 hF.2.2.2.2.2.2.2.2.1 (lw_S q2334 q2335 q138 q2336) rfl rfl rfl (by decide +kernel) ⟨(Nat.le_of_ble_eq_true rfl), (Nat.le_of_ble_eq_true rfl)⟩) (x_preS hF hM) rfl rfl hl.1 rfl (lv_room (Nat.le_of_ble_eq_true rfl)) dX9_bakery_8 ⟨(Nat.le_of_ble_eq_true rfl), (Nat.le_of_ble_eq_true rfl)⟩) (fun H locs hM hL => ?_)
  refine x_ifeq_b (tgt := 24) hF dX9_bakery_11 (by decide) (fun c11 => ?_) (fun c11 => ?_)
  · skip
    refine lv_aload_n hx hb dX9_bakery_24 rfl (lk hl rfl) ?_
    refine x_iconst hF dX9_bakery_25 ?_
    refine x_kn hL (vx_runV (As := [_]) hF.2.2.2.2.2.2.2.2.2 ((mX9_fails hP.1) hF.1) (cwV 1 hF.2.2.2.2.2.2.2.2.1 (lw_V q2337 q2339 qs46 q138 q2340) rfl rfl rfl (by decide +kernel) ⟨(Nat.le_of_ble_eq_true rfl), (Nat.le_of_ble_eq_true rfl)⟩) (x_preV hF hM (MA_ob hP.1) rfl) rfl rfl hl.1 rfl (lv_room (Nat.le_of_ble_eq_true rfl)) dX9_bakery_26 ⟨(Nat.le_of_ble_eq_true rfl), (Nat.le_of_ble_eq_true rfl)⟩) ?_
    rintro _ τ26 H locs ⟨rfl, hp⟩ hM hL
    refine MS_gen hM (MS_t hP hp) (fun σ hM hP => ?_)
    exact x_ireturn hF hM hL rfl (Nat.le_of_ble_eq_true rfl) (Nat.le_of_ble_eq_true rfl) ⟨fun _ => ⟨rfl, hP⟩, fun q => by omega, fun q => by omega⟩ dX9_bakery_29
  · skip
    refine lv_iload_n hx hb dX9_bakery_14 rfl (lk hl rfl) ?_
    refine x_iconst hF dX9_bakery_15 ?_
    refine x_bipush hF (by decide) dX9_bakery_16 ?_
    refine x_kp hL (vx_runS (As := [_, _, _]) hF.2.2.2.2.2.2.2.2.2 ((mX9_isBetween ha ⟨by omega, by omega⟩ ⟨by omega, by omega⟩) hF.1) (va_cwS 3 hF.2.2.2.2.2.2.2.2.1 (lw_S q2334 q2335 q138 q2336) rfl rfl rfl (by decide +kernel) ⟨(Nat.le_of_ble_eq_true rfl), (Nat.le_of_ble_eq_true rfl)⟩) (x_preS hF hM) rfl rfl hl.1 rfl (lv_room (Nat.le_of_ble_eq_true rfl)) dX9_bakery_18 ⟨(Nat.le_of_ble_eq_true rfl), (Nat.le_of_ble_eq_true rfl)⟩) (fun H locs hM hL => ?_)
    refine x_ifne_b (tgt := 30) hF dX9_bakery_21 (by decide) (fun c21 => ?_) (fun c21 => ?_)
    · skip
      refine lv_aload_n hx hb dX9_bakery_30 rfl (lk hl rfl) ?_
      refine x_getfield hF (ci := 10) in_X9 rfl 5 (by decide) q2256 (fun _ h => h) hM (MA_ob hP.1) (MA_f5 hP.1) dX9_bakery_31 ?_
      refine x_iconst hF dX9_bakery_34 ?_
      refine x_iald hF hM (MA_a5 hP.1) (by omega) (by omega) (by decide) (show rd _ _ _ = .int (iz (w 0)) from by have h9 := MA_r5 hP.1 0 (by omega) (by omega); rw [up2_oth _ _ _ (by decide), hw] at h9; exact h9) dX9_bakery_35 ?_
      refine x_bipush hF (by decide) dX9_bakery_36 ?_
      refine x_icmp_ne (tgt := 54) hF dX9_bakery_38 (by decide) (by first | exact Rg_in hk.1 _ | assumption | (unfold inR; omega)) (by first | exact Rg_in hk.1 _ | assumption | (unfold inR; omega)) (fun c38 => ?_) (fun c38 => ?_)
      · skip
        refine lv_aload_n hx hb dX9_bakery_54 rfl (lk hl rfl) ?_
        refine x_kn hL (vx_runV (As := []) hF.2.2.2.2.2.2.2.2.2 ((mX9_begins (F := (up2 F 0 0 0)) h90 h98 ha0 ha8 hP.1) hF.1) (cwV 0 hF.2.2.2.2.2.2.2.2.1 (lw_V q2353 q2355 qs50 q138 q2356) rfl rfl rfl (by decide +kernel) ⟨(Nat.le_of_ble_eq_true rfl), (Nat.le_of_ble_eq_true rfl)⟩) (x_preV hF hM (MA_ob hP.1) rfl) rfl rfl hl.1 rfl (lv_room (Nat.le_of_ble_eq_true rfl)) dX9_bakery_55 ⟨(Nat.le_of_ble_eq_true rfl), (Nat.le_of_ble_eq_true rfl)⟩) ?_
        rintro _ τ55 H locs ⟨rfl, hp⟩ hM hL
        refine MS_gen hM (MS_t hP hp) (fun σ hM hP => ?_)
        have hwb : mBeg (up2 F 0 0 0) 5 = (wUp w 2 (w 2 + 1)) := by rw [mBeg_5, up2_oth _ _ _ (by decide), hw]
        refine lv_aload_n hx hb dX9_bakery_58 rfl (lk hl rfl) ?_
        refine x_getfield hF (ci := 10) in_X9 rfl 5 (by decide) q2256 (fun _ h => h) hM (MA_ob hP.1) (MA_f5 hP.1) dX9_bakery_59 ?_
        refine x_iconst hF dX9_bakery_62 ?_
        refine x_iald hF hM (MA_a5 hP.1) (by omega) (by omega) (by decide) (show rd _ _ _ = .int (iz (w 0)) from by have h9 := MA_r5 hP.1 0 (by omega) (by omega); rw [hwb, wUp_o _ _ (by decide)] at h9; exact h9) dX9_bakery_63 ?_
        refine x_istore_n hF dX9_bakery_64 rfl hl (by decide) rfl (fun ls hl => ?_)
        refine lv_aload_n hx hb dX9_bakery_65 rfl (lk hl rfl) ?_
        refine x_getfield hF (ci := 10) in_X9 rfl 5 (by decide) q2256 (fun _ h => h) hM (MA_ob hP.1) (MA_f5 hP.1) dX9_bakery_66 ?_
        refine x_iconst hF dX9_bakery_69 ?_
        refine lv_dup2_11 hx hb dX9_bakery_70 rfl rfl ?_
        refine x_iald hF hM (MA_a5 hP.1) (by omega) (by omega) (by decide) (show rd _ _ _ = .int (iz (w 0)) from by have h9 := MA_r5 hP.1 0 (by omega) (by omega); rw [hwb, wUp_o _ _ (by decide)] at h9; exact h9) dX9_bakery_71 ?_
        refine x_iconst hF dX9_bakery_72 ?_
        refine x_iadd hF dX9_bakery_73 ?_
        refine x_iast hF hM hL (MA_a5 hP.1) (by omega) (by omega) (by decide) dX9_bakery_74 (fun H locs hM hL => ?_)
        refine MS_gen hM (MS_q5 hM hP (by omega)) (fun σ hM hP => ?_)
        refine lv_aload_n hx hb dX9_bakery_75 rfl (lk hl rfl) ?_
        refine lv_iload_n hx hb dX9_bakery_76 rfl (lk hl rfl) ?_
        refine x_iconst hF dX9_bakery_77 ?_
        refine lv_iload_n hx hb dX9_bakery_78 rfl (lk hl rfl) ?_
        refine x_kn hL (vx_runV (As := [_, _, _]) hF.2.2.2.2.2.2.2.2.2 ((mX9_setsBakery (by omega) (by omega) hP.1) hF.1) (cwV 3 hF.2.2.2.2.2.2.2.2.1 (lw_V q2365 q2367 qs53 q138 q2368) rfl rfl rfl (by decide +kernel) ⟨(Nat.le_of_ble_eq_true rfl), (Nat.le_of_ble_eq_true rfl)⟩) (x_preV hF hM (MA_ob hP.1) rfl) rfl rfl hl.1 rfl (lv_room (Nat.le_of_ble_eq_true rfl)) dX9_bakery_79 ⟨(Nat.le_of_ble_eq_true rfl), (Nat.le_of_ble_eq_true rfl)⟩) ?_
        rintro _ τ79 H locs ⟨rfl, hp⟩ hM hL
        refine MS_gen hM (MS_t hP hp) (fun σ hM hP => ?_)
        refine lv_aload_n hx hb dX9_bakery_82 rfl (lk hl rfl) ?_
        refine lv_iload_n hx hb dX9_bakery_83 rfl (lk hl rfl) ?_
        refine x_iconst hF dX9_bakery_84 ?_
        refine lv_iload_n hx hb dX9_bakery_85 rfl (lk hl rfl) ?_
        refine x_kn hL (vx_runV (As := [_, _, _]) hF.2.2.2.2.2.2.2.2.2 ((mX9_setsBakery (by omega) (by omega) hP.1) hF.1) (cwV 3 hF.2.2.2.2.2.2.2.2.1 (lw_V q2365 q2367 qs53 q138 q2368) rfl rfl rfl (by decide +kernel) ⟨(Nat.le_of_ble_eq_true rfl), (Nat.le_of_ble_eq_true rfl)⟩) (x_preV hF hM (MA_ob hP.1) rfl) rfl rfl hl.1 rfl (lv_room (Nat.le_of_ble_eq_true rfl)) dX9_bakery_86 ⟨(Nat.le_of_ble_eq_true rfl), (Nat.le_of_ble_eq_true rfl)⟩) ?_
        rintro _ τ86 H locs ⟨rfl, hp⟩ hM hL
        refine MS_gen hM (MS_t hP hp) (fun σ hM hP => ?_)
        refine lv_iload_n hx hb dX9_bakery_89 rfl (lk hl rfl) ?_
        exact x_ireturn hF hM hL rfl (Nat.le_of_ble_eq_true rfl) (Nat.le_of_ble_eq_true rfl) ⟨fun q => by omega, fun _ q => by omega, fun _ _ => ⟨rfl, _, hP, by rw [up2_as, stF_s, up2_as, stF_s, up2_as, stF_s, hwb]; unfold wBak; rw [wUp_o _ _ (show (0 : Int) ≠ 2 by decide)], fun f a _ _ => by rw [up2_oth _ _ _ a, up2_oth _ _ _ a, up2_oth _ _ _ a]⟩⟩ dX9_bakery_90
      · skip
        refine lv_aload_n hx hb dX9_bakery_41 rfl (lk hl rfl) ?_
        refine lv_aload_n hx hb dX9_bakery_42 rfl (lk hl rfl) ?_
        refine x_iconst hF dX9_bakery_43 ?_
        refine x_iconst hF dX9_bakery_44 ?_
        refine x_bipush hF (by decide) dX9_bakery_45 ?_
        refine x_kn hL (vx_runV (As := [_, _, _]) hF.2.2.2.2.2.2.2.2.2 ((mX9_isNot hP.1) hF.1) (cwV 3 hF.2.2.2.2.2.2.2.2.1 (lw_V q2341 q2343 qs47 q138 q2344) rfl rfl rfl (by decide +kernel) ⟨(Nat.le_of_ble_eq_true rfl), (Nat.le_of_ble_eq_true rfl)⟩) (x_preV hF hM (MA_ob hP.1) rfl) rfl rfl hl.1 rfl (lv_room (Nat.le_of_ble_eq_true rfl)) dX9_bakery_47 ⟨(Nat.le_of_ble_eq_true rfl), (Nat.le_of_ble_eq_true rfl)⟩) ?_
        rintro _ τ47 H locs ⟨rfl, hp⟩ hM hL
        refine MS_gen hM (MS_t hP hp) (fun σ hM hP => ?_)
        refine x_kn hL (vx_runV (As := [_]) hF.2.2.2.2.2.2.2.2.2 ((mX9_throwsNow (by rw [up2_f _ _ _ _ (by decide), up2_s]; unfold inR; omega) hP.1) hF.1) (cwV 1 hF.2.2.2.2.2.2.2.2.1 (lw_V q2345 q2347 qs48 q138 q2348) rfl rfl rfl (by decide +kernel) ⟨(Nat.le_of_ble_eq_true rfl), (Nat.le_of_ble_eq_true rfl)⟩) (x_preV hF hM (MA_ob hP.1) rfl) rfl rfl hl.1 rfl (lv_room (Nat.le_of_ble_eq_true rfl)) dX9_bakery_50 ⟨(Nat.le_of_ble_eq_true rfl), (Nat.le_of_ble_eq_true rfl)⟩) ?_
        rintro _ τ50 H locs ⟨rfl, hp⟩ hM hL
        refine MS_gen hM (MS_t hP hp) (fun σ hM hP => ?_)
        exact x_ireturn hF hM hL rfl (Nat.le_of_ble_eq_true rfl) (Nat.le_of_ble_eq_true rfl) ⟨fun q => by omega, fun _ _ => ⟨rfl, hP⟩, fun _ q => by omega⟩ dX9_bakery_53
    · skip
      refine lv_aload_n hx hb dX9_bakery_24 rfl (lk hl rfl) ?_
      refine x_iconst hF dX9_bakery_25 ?_
      refine x_kn hL (vx_runV (As := [_]) hF.2.2.2.2.2.2.2.2.2 ((mX9_fails hP.1) hF.1) (cwV 1 hF.2.2.2.2.2.2.2.2.1 (lw_V q2337 q2339 qs46 q138 q2340) rfl rfl rfl (by decide +kernel) ⟨(Nat.le_of_ble_eq_true rfl), (Nat.le_of_ble_eq_true rfl)⟩) (x_preV hF hM (MA_ob hP.1) rfl) rfl rfl hl.1 rfl (lv_room (Nat.le_of_ble_eq_true rfl)) dX9_bakery_26 ⟨(Nat.le_of_ble_eq_true rfl), (Nat.le_of_ble_eq_true rfl)⟩) ?_
      rintro _ τ26 H locs ⟨rfl, hp⟩ hM hL
      refine MS_gen hM (MS_t hP hp) (fun σ hM hP => ?_)
      exact x_ireturn hF hM hL rfl (Nat.le_of_ble_eq_true rfl) (Nat.le_of_ble_eq_true rfl) ⟨fun _ => ⟨rfl, hP⟩, fun q => by omega, fun q => by omega⟩ dX9_bakery_29
set_option maxHeartbeats 4000000 in
set_option maxRecDepth 100000 in
/-- BakeryRingModel.customersOf(I)I -/
theorem mX9_customersOf {l : Launch} {E : En} {σ0 : Mm} {o : Nat} {F : Nat → Int → Int} {w : Int → Int} (hw : F 5 = w) (hk : Wk w) {z : Int} (hz0 : -1000 ≤ z) (hz1 : z ≤ 1000) (hP : MA E σ0 o F) : Ctr l E yX9_customersOf (ws_ yX9_customersOf cX9_customersOf 4 (some .int)) 1 22 0 0 [.ref o, .int (iz z)] σ0 (fun v τ => v = some (.int (iz (wCust w z))) ∧ τ = σ0) noX := by
  refine x_head (own := RX9) (cc := cX9_customersOf) (maxL := 4) (ret := (some .int)) (by decide) rfl rfl (Nat.le_of_ble_eq_true rfl) ?_
  intro p e s m args below meth c H ls hF hname htab hM hl
  have hx := hF.2.2.1
  have hb := hF.2.2.2.1
  have hL : Lc E [] := lcNil
  have hl : lh ls 4 ([(0, .ref o), (1, .int (iz z))]) := hl
  have hk2 := hk.2.1
  refine x_iconst hF dX9_customersOf_0 ?_
  refine x_istore_n hF dX9_customersOf_1 rfl hl (by decide) rfl (fun ls hl => ?_)
  refine x_iconst hF dX9_customersOf_2 ?_
  refine x_istore_n hF dX9_customersOf_3 rfl hl (by decide) rfl (fun ls hl => ?_)
  suffices loop : ∀ (n : Nat) (i : Int) (H : Heap) (locs : List Loc) (ls : Array Slot), w 1 - i < (n : Int) → (0 ≤ i) → (i ≤ w 1) → Mem E s H σ0 → Lc E locs → lh ls 4 [(0, .ref o), (1, .int (iz z)), (2, .int (iz (sm (fun c => if w (79 + 6 * c + 2) = z + 1 then 1 else 0) i))), (3, .int (iz i))] → W p l e ({ frames := 1, cells := 0, slots := 0, locals := 22 } : Room) s m args below meth c H locs 0 0 (vx_MQ below (XQc E (fun v τ => v = some (.int (iz (wCust w z))) ∧ τ = σ0)) (XXc E noX) args s 0 0 (XA E)) (F0 m 4 ls []) from loop (22) 0 _ _ _ (by omega) (by omega) (by omega) hM hL (lh_sub hl rfl)
  refine nat_loop (fun i H locs ls hmm h0 h1 => absurd hmm (by omega)) (fun n ih i H locs ls hmm h0 h1 hM hL hl => ?_)
  refine lv_iload_n hx hb dX9_customersOf_4 rfl (lk hl rfl) ?_
  refine lv_aload_n hx hb dX9_customersOf_5 rfl (lk hl rfl) ?_
  refine x_getfield hF (ci := 10) in_X9 rfl 5 (by decide) q2256 (fun _ h => h) hM (MA_ob hP) (MA_f5 hP) dX9_customersOf_6 ?_
  refine x_iconst hF dX9_customersOf_9 ?_
  refine x_iald hF hM (MA_a5 hP) (by omega) (by omega) (by decide) (show rd _ _ _ = .int (iz (w _)) from by have h9 := MA_r5 hP; rw [hw] at h9; exact h9 _ (by omega) (by omega)) dX9_customersOf_10 ?_
  refine x_icmp_ge (tgt := 40) hF dX9_customersOf_11 (by decide) (by first | exact Rg_in hk.1 _ | assumption | (unfold inR; omega)) (by first | exact Rg_in hk.1 _ | assumption | (unfold inR; omega)) (fun c11 => ?_) (fun c11 => ?_)
  · skip
    refine lv_iload_n hx hb dX9_customersOf_40 rfl (lk hl rfl) ?_
    exact x_ireturn hF hM hL rfl (Nat.le_of_ble_eq_true rfl) (Nat.le_of_ble_eq_true rfl) ⟨by unfold wCust; rw [show i = w 1 by omega], rfl⟩ dX9_customersOf_41
  · skip
    refine lv_iload_n hx hb dX9_customersOf_14 rfl (lk hl rfl) ?_
    refine lv_aload_n hx hb dX9_customersOf_15 rfl (lk hl rfl) ?_
    refine lv_iload_n hx hb dX9_customersOf_16 rfl (lk hl rfl) ?_
    refine x_iconst hF dX9_customersOf_17 ?_
    refine x_kp hL (vx_runV (As := [_, _]) hF.2.2.2.2.2.2.2.2.2 ((mX9_of (w := w) hw (by omega) (by omega) hP) hF.1) (cwV 2 hF.2.2.2.2.2.2.2.2.1 (lw_V q2420 q2422 qs65 q138 q2423) rfl rfl rfl (by decide +kernel) ⟨(Nat.le_of_ble_eq_true rfl), (Nat.le_of_ble_eq_true rfl)⟩) (x_preV hF hM (MA_ob hP) rfl) rfl rfl hl.1 rfl (lv_room (Nat.le_of_ble_eq_true rfl)) dX9_customersOf_18 ⟨(Nat.le_of_ble_eq_true rfl), (Nat.le_of_ble_eq_true rfl)⟩) (fun H locs hM hL => ?_)
    refine lv_iload_n hx hb dX9_customersOf_21 rfl (lk hl rfl) ?_
    refine x_iconst hF dX9_customersOf_22 ?_
    refine x_iadd hF dX9_customersOf_23 ?_
    refine x_icmp_ne (tgt := 31) hF dX9_customersOf_24 (by decide) (by first | exact Rg_in hk.1 _ | assumption | (unfold inR; omega)) (by first | exact Rg_in hk.1 _ | assumption | (unfold inR; omega)) (fun c24 => ?_) (fun c24 => ?_)
    · skip
      refine x_iconst hF dX9_customersOf_31 ?_
      refine x_iadd hF dX9_customersOf_32 ?_
      refine x_istore_n hF dX9_customersOf_33 rfl hl (by decide) rfl (fun ls hl => ?_)
      refine x_iinc hF dX9_customersOf_34 hl rfl (by decide) rfl (fun ls hl => ?_)
      refine x_goto (tgt := 4) hF dX9_customersOf_37 (by decide) ?_
      have e9 : sm (fun c => if w (79 + 6 * c + 2) = z + 1 then 1 else 0) (i + 1) = _ := sm_1 _ h0
      first | rw [show (if w (79 + 6 * i + 2) = z + 1 then (1 : Int) else 0) = (1 : Int) from if_pos c24] at e9 | rw [show (if w (79 + 6 * i + 2) = z + 1 then (1 : Int) else 0) = 0 from if_neg c24] at e9
      rw [← e9] at hl
      exact ih (i + 1) _ _ _ (by omega) (by omega) (by omega) hM hL (lh_sub hl rfl)
    · skip
      refine x_iconst hF dX9_customersOf_27 ?_
      refine x_goto (tgt := 32) hF dX9_customersOf_28 (by decide) ?_
      refine x_iadd hF dX9_customersOf_32 ?_
      refine x_istore_n hF dX9_customersOf_33 rfl hl (by decide) rfl (fun ls hl => ?_)
      refine x_iinc hF dX9_customersOf_34 hl rfl (by decide) rfl (fun ls hl => ?_)
      refine x_goto (tgt := 4) hF dX9_customersOf_37 (by decide) ?_
      have e9 : sm (fun c => if w (79 + 6 * c + 2) = z + 1 then 1 else 0) (i + 1) = _ := sm_1 _ h0
      first | rw [show (if w (79 + 6 * i + 2) = z + 1 then (1 : Int) else 0) = (1 : Int) from if_pos c24] at e9 | rw [show (if w (79 + 6 * i + 2) = z + 1 then (1 : Int) else 0) = 0 from if_neg c24] at e9
      rw [← e9] at hl
      exact ih (i + 1) _ _ _ (by omega) (by omega) (by omega) hM hL (lh_sub hl rfl)
set_option maxHeartbeats 4000000 in
set_option maxRecDepth 100000 in
/-- BakeryRingModel.isOverloaded(I)Z -/
theorem mX9_isOverloaded {l : Launch} {E : En} {σ0 : Mm} {o : Nat} {F : Nat → Int → Int} {w : Int → Int} (hw : F 5 = w) (hk : Wk w) {z : Int} (hz0 : 0 ≤ z) (hz1 : z < 6) (hP : MA E σ0 o F) : Ctr l E yX9_isOverloaded (ws_ yX9_isOverloaded cX9_isOverloaded 2 (some .boolean)) 2 45 0 0 [.ref o, .int (iz z)] σ0 (fun v τ => v = some (.int (iz (if w (4 + 4 * z + 1) < wLoadOf w z then 1 else 0))) ∧ τ = σ0) noX := by
  refine x_head (own := RX9) (cc := cX9_isOverloaded) (maxL := 2) (ret := (some .boolean)) (by decide) rfl rfl (Nat.le_of_ble_eq_true rfl) ?_
  intro p e s m args below meth c H ls hF hname htab hM hl
  have hx := hF.2.2.1
  have hb := hF.2.2.2.1
  have hL : Lc E [] := lcNil
  have hl : lh ls 2 ([(0, .ref o), (1, .int (iz z))]) := hl
  have hk2 := hk.2.1
  have hlr := wLoadOf_r hk z
  refine lv_aload_n hx hb dX9_isOverloaded_0 rfl (lk hl rfl) ?_
  refine lv_iload_n hx hb dX9_isOverloaded_1 rfl (lk hl rfl) ?_
  refine x_kp hL (vx_runV (As := [_]) hF.2.2.2.2.2.2.2.2.2 ((mX9_loadOf (w := w) hw (by omega) (by omega) hk.1 (by omega) (by omega) hP) hF.1) (cwV 1 hF.2.2.2.2.2.2.2.2.1 (lw_V q2536 q2538 qs87 q138 q2539) rfl rfl rfl (by decide +kernel) ⟨(Nat.le_of_ble_eq_true rfl), (Nat.le_of_ble_eq_true rfl)⟩) (x_preV hF hM (MA_ob hP) rfl) rfl rfl hl.1 rfl (lv_room (Nat.le_of_ble_eq_true rfl)) dX9_isOverloaded_2 ⟨(Nat.le_of_ble_eq_true rfl), (Nat.le_of_ble_eq_true rfl)⟩) (fun H locs hM hL => ?_)
  refine lv_aload_n hx hb dX9_isOverloaded_5 rfl (lk hl rfl) ?_
  refine lv_iload_n hx hb dX9_isOverloaded_6 rfl (lk hl rfl) ?_
  refine x_iconst hF dX9_isOverloaded_7 ?_
  refine x_kp hL (vx_runV (As := [_, _]) hF.2.2.2.2.2.2.2.2.2 ((mX9_ofBakery (w := w) hw (by omega) (by omega) hP) hF.1) (cwV 2 hF.2.2.2.2.2.2.2.2.1 (lw_V q2436 q2438 qs69 q138 q2439) rfl rfl rfl (by decide +kernel) ⟨(Nat.le_of_ble_eq_true rfl), (Nat.le_of_ble_eq_true rfl)⟩) (x_preV hF hM (MA_ob hP) rfl) rfl rfl hl.1 rfl (lv_room (Nat.le_of_ble_eq_true rfl)) dX9_isOverloaded_8 ⟨(Nat.le_of_ble_eq_true rfl), (Nat.le_of_ble_eq_true rfl)⟩) (fun H locs hM hL => ?_)
  refine x_icmp_le (tgt := 18) hF dX9_isOverloaded_11 (by decide) (by first | exact Rg_in hk.1 _ | assumption | (unfold inR; omega)) (by first | exact Rg_in hk.1 _ | assumption | (unfold inR; omega)) (fun c11 => ?_) (fun c11 => ?_)
  · skip
    refine x_iconst hF dX9_isOverloaded_18 ?_
    exact x_ireturn hF hM hL (by rfl) (Nat.le_of_ble_eq_true rfl) (Nat.le_of_ble_eq_true rfl) ⟨by first | rfl | rw [if_pos (by first | assumption | omega)] | rw [if_neg (by first | assumption | omega)], rfl⟩ dX9_isOverloaded_19
  · skip
    refine x_iconst hF dX9_isOverloaded_14 ?_
    refine x_goto (tgt := 19) hF dX9_isOverloaded_15 (by decide) ?_
    exact x_ireturn hF hM hL (by rfl) (Nat.le_of_ble_eq_true rfl) (Nat.le_of_ble_eq_true rfl) ⟨by first | rfl | rw [if_pos (by first | assumption | omega)] | rw [if_neg (by first | assumption | omega)], rfl⟩ dX9_isOverloaded_19
set_option maxHeartbeats 4000000 in
set_option maxRecDepth 100000 in
/-- BakeryRingModel.greatestLoad()I -/
theorem mX9_greatestLoad {l : Launch} {E : En} {σ0 : Mm} {o : Nat} {F : Nat → Int → Int} {w : Int → Int} (hw : F 5 = w) (hk : Wk w)  (hP : MA E σ0 o F) : Ctr l E yX9_greatestLoad (ws_ yX9_greatestLoad cX9_greatestLoad 3 (some .int)) 2 45 0 0 [.ref o] σ0 (fun v τ => v = some (.int (iz (wGreat w))) ∧ τ = σ0) noX := by
  refine x_head (own := RX9) (cc := cX9_greatestLoad) (maxL := 3) (ret := (some .int)) (by decide) rfl rfl (Nat.le_of_ble_eq_true rfl) ?_
  intro p e s m args below meth c H ls hF hname htab hM hl
  have hx := hF.2.2.1
  have hb := hF.2.2.2.1
  have hL : Lc E [] := lcNil
  have hl : lh ls 3 ([(0, .ref o)]) := hl
  have hk2 := hk.2.1
  refine x_iconst hF dX9_greatestLoad_0 ?_
  refine x_istore_n hF dX9_greatestLoad_1 rfl hl (by decide) rfl (fun ls hl => ?_)
  refine x_iconst hF dX9_greatestLoad_2 ?_
  refine x_istore_n hF dX9_greatestLoad_3 rfl hl (by decide) rfl (fun ls hl => ?_)
  suffices loop : ∀ (n : Nat) (i : Int) (H : Heap) (locs : List Loc) (ls : Array Slot), w 0 - i < (n : Int) → (0 ≤ i) → (i ≤ w 0) → Mem E s H σ0 → Lc E locs → lh ls 3 [(0, .ref o), (1, .int (iz (mx (wLoadOf w) i.toNat))), (2, .int (iz i))] → W p l e ({ frames := 2, cells := 0, slots := 0, locals := 45 } : Room) s m args below meth c H locs 0 0 (vx_MQ below (XQc E (fun v τ => v = some (.int (iz (wGreat w))) ∧ τ = σ0)) (XXc E noX) args s 0 0 (XA E)) (F0 m 4 ls []) from loop (8) 0 _ _ _ (by omega) (by omega) (by omega) hM hL (lh_sub hl rfl)
  refine nat_loop (fun i H locs ls hmm h0 h1 => absurd hmm (by omega)) (fun n ih i H locs ls hmm h0 h1 hM hL hl => ?_)
  refine lv_iload_n hx hb dX9_greatestLoad_4 rfl (lk hl rfl) ?_
  refine lv_aload_n hx hb dX9_greatestLoad_5 rfl (lk hl rfl) ?_
  refine x_getfield hF (ci := 10) in_X9 rfl 5 (by decide) q2256 (fun _ h => h) hM (MA_ob hP) (MA_f5 hP) dX9_greatestLoad_6 ?_
  refine x_iconst hF dX9_greatestLoad_9 ?_
  refine x_iald hF hM (MA_a5 hP) (by omega) (by omega) (by decide) (show rd _ _ _ = .int (iz (w _)) from by have h9 := MA_r5 hP; rw [hw] at h9; exact h9 _ (by omega) (by omega)) dX9_greatestLoad_10 ?_
  refine x_icmp_ge (tgt := 39) hF dX9_greatestLoad_11 (by decide) (by first | exact Rg_in hk.1 _ | assumption | (unfold inR; omega)) (by first | exact Rg_in hk.1 _ | assumption | (unfold inR; omega)) (fun c11 => ?_) (fun c11 => ?_)
  · skip
    refine lv_iload_n hx hb dX9_greatestLoad_39 rfl (lk hl rfl) ?_
    exact x_ireturn hF hM hL rfl (Nat.le_of_ble_eq_true rfl) (Nat.le_of_ble_eq_true rfl) ⟨by unfold wGreat; rw [show i = w 0 by omega], rfl⟩ dX9_greatestLoad_40
  · skip
    have hlr := wLoadOf_r hk i
    have hmr := mx_r (c := 180) (by omega) (wLoadOf_r hk) i.toNat
    refine lv_aload_n hx hb dX9_greatestLoad_14 rfl (lk hl rfl) ?_
    refine lv_iload_n hx hb dX9_greatestLoad_15 rfl (lk hl rfl) ?_
    refine x_kp hL (vx_runV (As := [_]) hF.2.2.2.2.2.2.2.2.2 ((mX9_loadOf (w := w) hw (by omega) (by omega) hk.1 (by omega) (by omega) hP) hF.1) (cwV 1 hF.2.2.2.2.2.2.2.2.1 (lw_V q2536 q2538 qs87 q138 q2539) rfl rfl rfl (by decide +kernel) ⟨(Nat.le_of_ble_eq_true rfl), (Nat.le_of_ble_eq_true rfl)⟩) (x_preV hF hM (MA_ob hP) rfl) rfl rfl hl.1 rfl (lv_room (Nat.le_of_ble_eq_true rfl)) dX9_greatestLoad_16 ⟨(Nat.le_of_ble_eq_true rfl), (Nat.le_of_ble_eq_true rfl)⟩) (fun H locs hM hL => ?_)
    refine lv_iload_n hx hb dX9_greatestLoad_19 rfl (lk hl rfl) ?_
    refine x_icmp_le (tgt := 31) hF dX9_greatestLoad_20 (by decide) (by first | exact Rg_in hk.1 _ | assumption | (unfold inR; omega)) (by first | exact Rg_in hk.1 _ | assumption | (unfold inR; omega)) (fun c20 => ?_) (fun c20 => ?_)
    · skip
      refine lv_iload_n hx hb dX9_greatestLoad_31 rfl (lk hl rfl) ?_
      refine x_istore_n hF dX9_greatestLoad_32 rfl hl (by decide) rfl (fun ls hl => ?_)
      refine x_iinc hF dX9_greatestLoad_33 hl rfl (by decide) rfl (fun ls hl => ?_)
      refine x_goto (tgt := 4) hF dX9_greatestLoad_36 (by decide) ?_
      first | rw [mx_t (f := wLoadOf w) h0 (by omega)] at hl | rw [mx_f (f := wLoadOf w) h0 (by omega)] at hl
      exact ih (i + 1) _ _ _ (by omega) (by omega) (by omega) hM hL (lh_sub hl rfl)
    · skip
      refine lv_aload_n hx hb dX9_greatestLoad_23 rfl (lk hl rfl) ?_
      refine lv_iload_n hx hb dX9_greatestLoad_24 rfl (lk hl rfl) ?_
      refine x_kp hL (vx_runV (As := [_]) hF.2.2.2.2.2.2.2.2.2 ((mX9_loadOf (w := w) hw (by omega) (by omega) hk.1 (by omega) (by omega) hP) hF.1) (cwV 1 hF.2.2.2.2.2.2.2.2.1 (lw_V q2536 q2538 qs87 q138 q2539) rfl rfl rfl (by decide +kernel) ⟨(Nat.le_of_ble_eq_true rfl), (Nat.le_of_ble_eq_true rfl)⟩) (x_preV hF hM (MA_ob hP) rfl) rfl rfl hl.1 rfl (lv_room (Nat.le_of_ble_eq_true rfl)) dX9_greatestLoad_25 ⟨(Nat.le_of_ble_eq_true rfl), (Nat.le_of_ble_eq_true rfl)⟩) (fun H locs hM hL => ?_)
      refine x_goto (tgt := 32) hF dX9_greatestLoad_28 (by decide) ?_
      refine x_istore_n hF dX9_greatestLoad_32 rfl hl (by decide) rfl (fun ls hl => ?_)
      refine x_iinc hF dX9_greatestLoad_33 hl rfl (by decide) rfl (fun ls hl => ?_)
      refine x_goto (tgt := 4) hF dX9_greatestLoad_36 (by decide) ?_
      first | rw [mx_t (f := wLoadOf w) h0 (by omega)] at hl | rw [mx_f (f := wLoadOf w) h0 (by omega)] at hl
      exact ih (i + 1) _ _ _ (by omega) (by omega) (by omega) hM hL (lh_sub hl rfl)
set_option maxHeartbeats 4000000 in
set_option maxRecDepth 100000 in
/-- BakeryRingModel.wayTo(II)I -/
theorem mX9_wayTo {l : Launch} {E : En} {σ0 : Mm} {z a : Int} (hz : 0 ≤ z ∧ z ≤ 359) (ha : 0 ≤ a ∧ a ≤ 359) : Ctr l E yX9_wayTo (ws_ yX9_wayTo cX9_wayTo 2 (some .int)) 0 0 0 0 [.int (iz z), .int (iz a)] σ0 (fun v τ => v = some (.int (iz (wWay z a))) ∧ τ = σ0) noX := by
  refine x_head (own := RX9) (cc := cX9_wayTo) (maxL := 2) (ret := (some .int)) (by decide) rfl rfl (Nat.le_of_ble_eq_true rfl) ?_
  intro p e s m args below meth c H ls hF hname htab hM hl
  have hx := hF.2.2.1
  have hb := hF.2.2.2.1
  have hL : Lc E [] := lcNil
  have hl : lh ls 2 ([(0, .int (iz z)), (1, .int (iz a))]) := hl
  refine lv_iload_n hx hb dX9_wayTo_0 rfl (lk hl rfl) ?_
  refine lv_iload_n hx hb dX9_wayTo_1 rfl (lk hl rfl) ?_
  refine x_isub hF dX9_wayTo_2 ?_
  refine x_sipush hF (by decide) dX9_wayTo_3 ?_
  refine x_iadd hF dX9_wayTo_6 ?_
  refine x_sipush hF (by decide) dX9_wayTo_7 ?_
  refine x_irem hF dX9_wayTo_10 (by omega) (by omega) (by omega) (by omega) ?_
  exact x_ireturn hF hM hL rfl (Nat.le_of_ble_eq_true rfl) (Nat.le_of_ble_eq_true rfl) ⟨rfl, rfl⟩ dX9_wayTo_11
set_option maxHeartbeats 4000000 in
set_option maxRecDepth 100000 in
/-- BakeryRingModel.openFrom(I)I -/
theorem mX9_openFrom {l : Launch} {E : En} {σ0 : Mm} {o : Nat} {F : Nat → Int → Int} {w : Int → Int} (hw : F 5 = w) (hk : Wk w) {z : Int} (hz : inR z) (hP : MA E σ0 o F) : Ctr l E yX9_openFrom (ws_ yX9_openFrom cX9_openFrom 5 (some .int)) 2 43 0 0 [.ref o, .int (iz z)] σ0 (fun v τ => v = some (.int (iz (wOpen w z))) ∧ τ = σ0) noX := by
  refine x_head (own := RX9) (cc := cX9_openFrom) (maxL := 5) (ret := (some .int)) (by decide) rfl rfl (Nat.le_of_ble_eq_true rfl) ?_
  intro p e s m args below meth c H ls hF hname htab hM hl
  have hx := hF.2.2.1
  have hb := hF.2.2.2.1
  have hL : Lc E [] := lcNil
  have hl : lh ls 5 ([(0, .ref o), (1, .int (iz z))]) := hl
  have hk2 := hk.2.1
  have hfr := wFirst_r (w := w) (by omega) z
  refine lv_aload_n hx hb dX9_openFrom_0 rfl (lk hl rfl) ?_
  refine lv_iload_n hx hb dX9_openFrom_1 rfl (lk hl rfl) ?_
  refine x_kp hL (vx_runV (As := [_]) hF.2.2.2.2.2.2.2.2.2 ((mX9_firstFrom (w := w) hw hz hk.1 (by omega) (by omega) hP) hF.1) (cwV 1 hF.2.2.2.2.2.2.2.2.1 (lw_V q2428 q2430 qs67 q138 q2431) rfl rfl rfl (by decide +kernel) ⟨(Nat.le_of_ble_eq_true rfl), (Nat.le_of_ble_eq_true rfl)⟩) (x_preV hF hM (MA_ob hP) rfl) rfl rfl hl.1 rfl (lv_room (Nat.le_of_ble_eq_true rfl)) dX9_openFrom_2 ⟨(Nat.le_of_ble_eq_true rfl), (Nat.le_of_ble_eq_true rfl)⟩) (fun H locs hM hL => ?_)
  refine x_istore_n hF dX9_openFrom_5 rfl hl (by decide) rfl (fun ls hl => ?_)
  refine x_iconst hF dX9_openFrom_6 ?_
  refine x_istore_n hF dX9_openFrom_7 rfl hl (by decide) rfl (fun ls hl => ?_)
  suffices loop : ∀ (n : Nat) (i : Int) (H : Heap) (locs : List Loc) (ls : Array Slot), w 28 - i < (n : Int) → (0 ≤ i) → (i ≤ w 28) → (fdF (fun i => decide (w (4 + 4 * w (29 + 2 * ((wFirst w z + i) % w 28) + 1) + 2) = 0)) i (w 28 - i).toNat = wOpI w z) → Mem E s H σ0 → Lc E locs → lh ls 5 [(0, .ref o), (1, .int (iz z)), (2, .int (iz (wFirst w z))), (3, .int (iz i))] → W p l e ({ frames := 2, cells := 0, slots := 0, locals := 43 } : Room) s m args below meth c H locs 0 0 (vx_MQ below (XQc E (fun v τ => v = some (.int (iz (wOpen w z))) ∧ τ = σ0)) (XXc E noX) args s 0 0 (XA E)) (F0 m 8 ls []) from loop (27) 0 _ _ _ (by omega) (by omega) (by omega) (by unfold wOpI; rw [Int.sub_zero]) hM hL (lh_sub hl rfl)
  refine nat_loop (fun i H locs ls hmm h0 h1 hr => absurd hmm (by omega)) (fun n ih i H locs ls hmm h0 h1 hr hM hL hl => ?_)
  refine lv_iload_n hx hb dX9_openFrom_8 rfl (lk hl rfl) ?_
  refine lv_aload_n hx hb dX9_openFrom_9 rfl (lk hl rfl) ?_
  refine x_getfield hF (ci := 10) in_X9 rfl 5 (by decide) q2256 (fun _ h => h) hM (MA_ob hP) (MA_f5 hP) dX9_openFrom_10 ?_
  refine x_bipush hF (by decide) dX9_openFrom_13 ?_
  refine x_iald hF hM (MA_a5 hP) (by omega) (by omega) (by decide) (show rd _ _ _ = .int (iz (w _)) from by have h9 := MA_r5 hP; rw [hw] at h9; exact h9 _ (by omega) (by omega)) dX9_openFrom_15 ?_
  refine x_icmp_ge (tgt := 54) hF dX9_openFrom_16 (by decide) (by first | exact Rg_in hk.1 _ | assumption | (unfold inR; omega)) (by first | exact Rg_in hk.1 _ | assumption | (unfold inR; omega)) (fun c16 => ?_) (fun c16 => ?_)
  · skip
    refine x_iconst hF dX9_openFrom_54 ?_
    exact x_ireturn hF hM hL rfl (Nat.le_of_ble_eq_true rfl) (Nat.le_of_ble_eq_true rfl) ⟨by (have e9 : wOpI w z = -1 := by rw [← hr]; exact fdF_e (by omega)); unfold wOpen; rw [e9, if_pos (by omega)], rfl⟩ dX9_openFrom_55
  · skip
    have hk0 := Int.emod_nonneg (wFirst w z + i) (show w 28 ≠ 0 by omega)
    have hk1 := Int.emod_lt_of_pos (wFirst w z + i) (show 0 < w 28 by omega)
    have how := hk.2.2.1 _ hk0 hk1
    refine lv_iload_n hx hb dX9_openFrom_19 rfl (lk hl rfl) ?_
    refine lv_iload_n hx hb dX9_openFrom_20 rfl (lk hl rfl) ?_
    refine x_iadd hF dX9_openFrom_21 ?_
    refine lv_aload_n hx hb dX9_openFrom_22 rfl (lk hl rfl) ?_
    refine x_getfield hF (ci := 10) in_X9 rfl 5 (by decide) q2256 (fun _ h => h) hM (MA_ob hP) (MA_f5 hP) dX9_openFrom_23 ?_
    refine x_bipush hF (by decide) dX9_openFrom_26 ?_
    refine x_iald hF hM (MA_a5 hP) (by omega) (by omega) (by decide) (show rd _ _ _ = .int (iz (w _)) from by have h9 := MA_r5 hP; rw [hw] at h9; exact h9 _ (by omega) (by omega)) dX9_openFrom_28 ?_
    refine x_irem hF dX9_openFrom_29 (by omega) (by omega) (by omega) (by omega) ?_
    refine x_istore hF dX9_openFrom_30 hl (by decide) rfl (fun ls hl => ?_)
    refine lv_aload_n hx hb dX9_openFrom_32 rfl (lk hl rfl) ?_
    refine lv_aload_n hx hb dX9_openFrom_33 rfl (lk hl rfl) ?_
    refine lv_iload hx hb dX9_openFrom_34 (lk hl rfl) ?_
    refine x_kp hL (vx_runV (As := [_]) hF.2.2.2.2.2.2.2.2.2 ((mX9_ownerAt (w := w) hw (by omega) (by omega) hP) hF.1) (cwV 1 hF.2.2.2.2.2.2.2.2.1 (lw_V q2396 q2398 qs59 q138 q2399) rfl rfl rfl (by decide +kernel) ⟨(Nat.le_of_ble_eq_true rfl), (Nat.le_of_ble_eq_true rfl)⟩) (x_preV hF hM (MA_ob hP) rfl) rfl rfl hl.1 rfl (lv_room (Nat.le_of_ble_eq_true rfl)) dX9_openFrom_36 ⟨(Nat.le_of_ble_eq_true rfl), (Nat.le_of_ble_eq_true rfl)⟩) (fun H locs hM hL => ?_)
    refine x_kp hL (vx_runV (As := [_]) hF.2.2.2.2.2.2.2.2.2 ((mX9_isOpen (w := w) hw (by omega) (by omega) hk.1 hP) hF.1) (cwV 1 hF.2.2.2.2.2.2.2.2.1 (lw_V q2432 q2434 qs68 q138 q2435) rfl rfl rfl (by decide +kernel) ⟨(Nat.le_of_ble_eq_true rfl), (Nat.le_of_ble_eq_true rfl)⟩) (x_preV hF hM (MA_ob hP) rfl) rfl rfl hl.1 rfl (lv_room (Nat.le_of_ble_eq_true rfl)) dX9_openFrom_39 ⟨(Nat.le_of_ble_eq_true rfl), (Nat.le_of_ble_eq_true rfl)⟩) (fun H locs hM hL => ?_)
    refine x_ifeq_b (tgt := 48) hF dX9_openFrom_42 (by decide) (fun c42 => ?_) (fun c42 => ?_)
    · skip
      refine x_iinc hF dX9_openFrom_48 hl rfl (by decide) rfl (fun ls hl => ?_)
      refine x_goto (tgt := 8) hF dX9_openFrom_51 (by decide) ?_
      exact ih (i + 1) _ _ _ (by omega) (by omega) (by omega) (by rw [← hr]; exact (fdF_f (by omega) (by simp; exact c42)).symm) hM hL (lh_sub hl rfl)
    · skip
      refine lv_iload hx hb dX9_openFrom_45 (lk hl rfl) ?_
      exact x_ireturn hF hM hL rfl (Nat.le_of_ble_eq_true rfl) (Nat.le_of_ble_eq_true rfl) ⟨by (have e9 : wOpI w z = i := by rw [← hr]; exact fdF_t (by omega) (by simp; exact c42)); unfold wOpen; rw [e9, if_neg (by omega)], rfl⟩ dX9_openFrom_47
