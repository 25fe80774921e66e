set_option maxHeartbeats 4000000 in
set_option maxRecDepth 100000 in
/-- BakeryRingModel.signFor(II)I -/
theorem mX9_signFor {l : Launch} {E : En} {σ0 : Mm} {o : Nat} {F : Nat → Int → Int} {z a : Int} {w ld : Int → Int} (hw : F 5 = w) (hlw : F 12 = ld) (hz : inR z) (ha0 : -1000 ≤ a) (ha1 : a ≤ 1000) (hg : Wg w) (hl12 : Rg ld) (hP : MA E σ0 o F) : Ctr l E yX9_signFor (ws_ yX9_signFor cX9_signFor 6 (some .int)) 2 44 0 0 [.ref o, .int (iz z), .int (iz a)] σ0 (fun v τ => v = some (.int (iz ((wGo w ld z a).1))) ∧ MS E σ0 o τ (up2 F 13 0 (wGo w ld z a).2)) noX := by
  subst hw
  subst hlw
  refine x_head (own := RX9) (cc := cX9_signFor) (maxL := 6) (ret := (some .int)) (by decide) rfl rfl (Nat.le_of_ble_eq_true rfl) ?_
  intro p e s m args below meth c H ls hF hname htab hM hl
  have hx := hF.2.2.1
  have hb := hF.2.2.2.1
  have hL : Lc E [] := lcNil
  have hl : lh ls 6 ([(0, .ref o), (1, .int (iz z)), (2, .int (iz a))]) := hl
  refine MS_gen hM (MS_0 hP) (fun σ hM hP => ?_)
  have h28 := hg.2.2.1
  have h28a := hg.2.1
  refine lv_aload_n hx hb dX9_signFor_0 rfl (lk hl rfl) ?_
  refine x_iconst hF dX9_signFor_1 ?_
  refine x_putfield hF (ci := 10) in_X9 rfl tyX9_ok nmX9 13 (by decide) q2264 (fun _ h => h) rfl hM hL (MA_ob hP.1) (ty := .boolean) (by decide +kernel) rfl rfl dX9_signFor_2 (fun H locs hM hL => ?_)
  refine MS_gen hM (by have h9 := MS_p13 hM hP; first | rw [up2_up2] at h9; exact h9 | exact h9) (fun σ hM hP => ?_)
  refine lv_aload_n hx hb dX9_signFor_5 rfl (lk hl rfl) ?_
  refine lv_iload_n hx hb dX9_signFor_6 rfl (lk hl rfl) ?_
  refine x_kp hL (vx_runV (As := [_]) hF.2.2.2.2.2.2.2.2.2 ((mX9_firstFrom (w := F 5) (by rfl) hz hg.1 hg.2.1 hg.2.2.1 hP.1) hF.1) (cwV 1 hF.2.2.2.2.2.2.2.2.1 (lw_V q2428 q2430 qs67 q138 q2431) rfl rfl rfl (by decide +kernel) ⟨(Nat.le_of_ble_eq_true rfl), (Nat.le_of_ble_eq_true rfl)⟩) (x_preV hF hM (MA_ob hP.1) rfl) rfl rfl hl.1 rfl (lv_room (Nat.le_of_ble_eq_true rfl)) dX9_signFor_7 ⟨(Nat.le_of_ble_eq_true rfl), (Nat.le_of_ble_eq_true rfl)⟩) (fun H locs hM hL => ?_)
  refine x_istore_n hF dX9_signFor_10 rfl hl (by decide) rfl (fun ls hl => ?_)
  refine x_iconst hF dX9_signFor_11 ?_
  refine x_istore hF dX9_signFor_12 hl (by decide) rfl (fun ls hl => ?_)
  suffices loop : ∀ (n : Nat) (i : Int) (ps : Int) (σ : Mm) (H : Heap) (locs : List Loc) (ls : Array Slot), F 5 28 - i < (n : Int) → (0 ≤ i) → (i ≤ F 5 28) → (goF (F 5) (F 12) (wFirst (F 5) z) a i ps (F 5 28 - i).toNat = wGo (F 5) (F 12) z a) → Mem E s H σ → MS E σ0 o σ (up2 F 13 0 ps) → Lc E locs → lh ls 6 [(0, .ref o), (1, .int (iz z)), (2, .int (iz a)), (3, .int (iz (wFirst (F 5) z))), (4, .int (iz i))] → W p l e ({ frames := 2, cells := 0, slots := 0, locals := 44 } : Room) s m args below meth c H locs 0 0 (vx_MQ below (XQc E (fun v τ => v = some (.int (iz ((wGo (F 5) (F 12) z a).1))) ∧ MS E σ0 o τ (up2 F 13 0 (wGo (F 5) (F 12) z a).2))) (XXc E noX) args s 0 0 (XA E)) (F0 m 14 ls []) from loop (27) 0 0 _ _ _ _ (by omega) (by omega) hg.2.1 (by unfold wGo; rw [Int.sub_zero]) hM hP hL (lh_sub hl rfl)
  refine nat_loop (fun i ps σ H locs ls hmm h0 h1 hr => absurd hmm (by omega)) (fun n ih i ps σ H locs ls hmm h0 h1 hr hM hP hL hl => ?_)
  refine lv_iload hx hb dX9_signFor_14 (lk hl rfl) ?_
  refine lv_aload_n hx hb dX9_signFor_16 rfl (lk hl rfl) ?_
  refine x_getfield hF (ci := 10) in_X9 rfl 5 (by decide) q2256 (fun _ h => h) hM (MA_ob hP.1) (MA_f5 hP.1) dX9_signFor_17 ?_
  refine x_bipush hF (by decide) dX9_signFor_20 ?_
  refine x_iald hF hM (MA_a5 hP.1) (by omega) (by omega) (by decide) (show rd _ _ _ = .int (iz (F 5 _)) from by have h9 := MA_r5 hP.1; exact h9 _ (by omega) (by omega)) dX9_signFor_22 ?_
  refine x_icmp_ge (tgt := 96) hF dX9_signFor_23 (by decide) (by first | exact Rg_in hg.1 _ | (unfold inR; omega)) (by first | exact Rg_in hg.1 _ | (unfold inR; omega)) (fun c23 => ?_) (fun c23 => ?_)
  · skip
    refine x_iconst hF dX9_signFor_96 ?_
    exact x_ireturn hF hM hL rfl (Nat.le_of_ble_eq_true rfl) (Nat.le_of_ble_eq_true rfl) ⟨by rw [← hr, goF_e (by omega)], by rw [← hr, goF_e (by omega)]; exact hP⟩ dX9_signFor_97
  · skip
    have hf1 := wFirst_r hg.2.1 z
    refine lv_iload_n hx hb dX9_signFor_26 rfl (lk hl rfl) ?_
    refine lv_iload hx hb dX9_signFor_27 (lk hl rfl) ?_
    refine x_iadd hF dX9_signFor_29 ?_
    refine lv_aload_n hx hb dX9_signFor_30 rfl (lk hl rfl) ?_
    refine x_getfield hF (ci := 10) in_X9 rfl 5 (by decide) q2256 (fun _ h => h) hM (MA_ob hP.1) (MA_f5 hP.1) dX9_signFor_31 ?_
    refine x_bipush hF (by decide) dX9_signFor_34 ?_
    refine x_iald hF hM (MA_a5 hP.1) (by omega) (by omega) (by decide) (show rd _ _ _ = .int (iz (F 5 _)) from by have h9 := MA_r5 hP.1; exact h9 _ (by omega) (by omega)) dX9_signFor_36 ?_
    refine x_irem hF dX9_signFor_37 (by omega) (by have := hg.2.2.1; omega) (by omega) (by have := hg.2.2.1; omega) ?_
    refine x_istore hF dX9_signFor_38 hl (by decide) rfl (fun ls hl => ?_)
    have hk0 := Int.emod_nonneg (wFirst (F 5) z + i) (show F 5 28 ≠ 0 by omega)
    have hk1 := Int.emod_lt_of_pos (wFirst (F 5) z + i) (show 0 < F 5 28 by omega)
    have how := hg.2.2.2.1 _ hk0 hk1
    have hrm := wRoom_r hg.1 (hg.2.2.2.2 _ how.1 how.2)
    have hld := hl12 (F 5 (29 + 2 * ((wFirst (F 5) z + i) % F 5 28) + 1))
    refine lv_aload_n hx hb dX9_signFor_40 rfl (lk hl rfl) ?_
    refine lv_aload_n hx hb dX9_signFor_41 rfl (lk hl rfl) ?_
    refine lv_iload hx hb dX9_signFor_42 (lk hl rfl) ?_
    refine x_kp hL (vx_runV (As := [_]) hF.2.2.2.2.2.2.2.2.2 ((mX9_ownerAt (w := F 5) (by rfl) (by omega) (by omega) hP.1) hF.1) (cwV 1 hF.2.2.2.2.2.2.2.2.1 (lw_V q2396 q2398 qs59 q138 q2399) rfl rfl rfl (by decide +kernel) ⟨(Nat.le_of_ble_eq_true rfl), (Nat.le_of_ble_eq_true rfl)⟩) (x_preV hF hM (MA_ob hP.1) rfl) rfl rfl hl.1 rfl (lv_room (Nat.le_of_ble_eq_true rfl)) dX9_signFor_44 ⟨(Nat.le_of_ble_eq_true rfl), (Nat.le_of_ble_eq_true rfl)⟩) (fun H locs hM hL => ?_)
    refine x_kp hL (vx_runV (As := [_]) hF.2.2.2.2.2.2.2.2.2 ((mX9_isOpen (w := F 5) (by rfl) (by omega) (by omega) hg.1 hP.1) hF.1) (cwV 1 hF.2.2.2.2.2.2.2.2.1 (lw_V q2432 q2434 qs68 q138 q2435) rfl rfl rfl (by decide +kernel) ⟨(Nat.le_of_ble_eq_true rfl), (Nat.le_of_ble_eq_true rfl)⟩) (x_preV hF hM (MA_ob hP.1) rfl) rfl rfl hl.1 rfl (lv_room (Nat.le_of_ble_eq_true rfl)) dX9_signFor_47 ⟨(Nat.le_of_ble_eq_true rfl), (Nat.le_of_ble_eq_true rfl)⟩) (fun H locs hM hL => ?_)
    refine x_ifne_b (tgt := 56) hF dX9_signFor_50 (by decide) (fun c50 => ?_) (fun c50 => ?_)
    · skip
      refine lv_aload_n hx hb dX9_signFor_56 rfl (lk hl rfl) ?_
      refine x_getfield hF (ci := 10) in_X9 rfl 12 (by decide) q2263 (fun _ h => h) hM (MA_ob hP.1) (MA_f12 hP.1) dX9_signFor_57 ?_
      refine lv_aload_n hx hb dX9_signFor_60 rfl (lk hl rfl) ?_
      refine lv_iload hx hb dX9_signFor_61 (lk hl rfl) ?_
      refine x_kp hL (vx_runV (As := [_]) hF.2.2.2.2.2.2.2.2.2 ((mX9_ownerAt (w := F 5) (by rfl) (by omega) (by omega) hP.1) hF.1) (cwV 1 hF.2.2.2.2.2.2.2.2.1 (lw_V q2396 q2398 qs59 q138 q2399) rfl rfl rfl (by decide +kernel) ⟨(Nat.le_of_ble_eq_true rfl), (Nat.le_of_ble_eq_true rfl)⟩) (x_preV hF hM (MA_ob hP.1) rfl) rfl rfl hl.1 rfl (lv_room (Nat.le_of_ble_eq_true rfl)) dX9_signFor_63 ⟨(Nat.le_of_ble_eq_true rfl), (Nat.le_of_ble_eq_true rfl)⟩) (fun H locs hM hL => ?_)
      refine x_iald hF hM (MA_a12 hP.1) (by omega) (by omega) (by decide) (show rd _ _ _ = .int (iz (F 12 _)) from by have h9 := MA_r12 hP.1; exact h9 _ (by omega) (by omega)) dX9_signFor_66 ?_
      refine lv_iload_n hx hb dX9_signFor_67 rfl (lk hl rfl) ?_
      refine x_iadd hF dX9_signFor_68 ?_
      refine lv_aload_n hx hb dX9_signFor_69 rfl (lk hl rfl) ?_
      refine lv_aload_n hx hb dX9_signFor_70 rfl (lk hl rfl) ?_
      refine lv_iload hx hb dX9_signFor_71 (lk hl rfl) ?_
      refine x_kp hL (vx_runV (As := [_]) hF.2.2.2.2.2.2.2.2.2 ((mX9_ownerAt (w := F 5) (by rfl) (by omega) (by omega) hP.1) hF.1) (cwV 1 hF.2.2.2.2.2.2.2.2.1 (lw_V q2396 q2398 qs59 q138 q2399) rfl rfl rfl (by decide +kernel) ⟨(Nat.le_of_ble_eq_true rfl), (Nat.le_of_ble_eq_true rfl)⟩) (x_preV hF hM (MA_ob hP.1) rfl) rfl rfl hl.1 rfl (lv_room (Nat.le_of_ble_eq_true rfl)) dX9_signFor_73 ⟨(Nat.le_of_ble_eq_true rfl), (Nat.le_of_ble_eq_true rfl)⟩) (fun H locs hM hL => ?_)
      refine x_kp hL (vx_runV (As := [_]) hF.2.2.2.2.2.2.2.2.2 ((mX9_roomOf (w := F 5) (by rfl) (by omega) (by omega) hg.1 (hg.2.2.2.2 _ (by omega) (by omega)) hP.1) hF.1) (cwV 1 hF.2.2.2.2.2.2.2.2.1 (lw_V q2440 q2442 qs70 q138 q2443) rfl rfl rfl (by decide +kernel) ⟨(Nat.le_of_ble_eq_true rfl), (Nat.le_of_ble_eq_true rfl)⟩) (x_preV hF hM (MA_ob hP.1) rfl) rfl rfl hl.1 rfl (lv_room (Nat.le_of_ble_eq_true rfl)) dX9_signFor_76 ⟨(Nat.le_of_ble_eq_true rfl), (Nat.le_of_ble_eq_true rfl)⟩) (fun H locs hM hL => ?_)
      refine x_icmp_gt (tgt := 85) hF dX9_signFor_79 (by decide) (by first | exact Rg_in hg.1 _ | (unfold inR; omega)) (by first | exact Rg_in hg.1 _ | (unfold inR; omega)) (fun c79 => ?_) (fun c79 => ?_)
      · skip
        refine lv_aload_n hx hb dX9_signFor_85 rfl (lk hl rfl) ?_
        refine x_iconst hF dX9_signFor_86 ?_
        refine x_putfield hF (ci := 10) in_X9 rfl tyX9_ok nmX9 13 (by decide) q2264 (fun _ h => h) rfl hM hL (MA_ob hP.1) (ty := .boolean) (by decide +kernel) rfl rfl dX9_signFor_87 (fun H locs hM hL => ?_)
        refine MS_gen hM (by have h9 := MS_p13 hM hP; first | rw [up2_up2] at h9; exact h9 | exact h9) (fun σ hM hP => ?_)
        refine x_iinc hF dX9_signFor_90 hl rfl (by decide) rfl (fun ls hl => ?_)
        refine x_goto (tgt := 14) hF dX9_signFor_93 (by decide) ?_
        exact ih (i + 1) _ _ _ _ _ (by omega) (by omega) (by omega) (by rw [← hr]; first | exact (goF_no (by omega) c50).symm | exact (goF_fl (by omega) c50 (by omega)).symm) hM hP hL (lh_sub hl rfl)
      · skip
        refine lv_iload hx hb dX9_signFor_82 (lk hl rfl) ?_
        exact x_ireturn hF hM hL rfl (Nat.le_of_ble_eq_true rfl) (Nat.le_of_ble_eq_true rfl) ⟨by rw [← hr, goF_1 (by omega), if_pos c50, if_pos (by omega)], by rw [← hr, goF_1 (by omega), if_pos c50, if_pos (by omega)]; exact hP⟩ dX9_signFor_84
    · skip
      refine x_goto (tgt := 90) hF dX9_signFor_53 (by decide) ?_
      refine x_iinc hF dX9_signFor_90 hl rfl (by decide) rfl (fun ls hl => ?_)
      refine x_goto (tgt := 14) hF dX9_signFor_93 (by decide) ?_
      exact ih (i + 1) _ _ _ _ _ (by omega) (by omega) (by omega) (by rw [← hr]; first | exact (goF_no (by omega) c50).symm | exact (goF_fl (by omega) c50 (by omega)).symm) hM hP hL (lh_sub hl rfl)
set_option maxHeartbeats 4000000 in
set_option maxRecDepth 100000 in
/-- BakeryRingModel.putsUp(II)V -/
theorem mX9_putsUp {l : Launch} {E : En} {σ0 : Mm} {o : Nat} {F : Nat → Int → Int} {z a : Int} (ha : inR a) (hR : Rg (F 5)) (hn : 0 ≤ F 5 28) (hn2 : F 5 28 ≤ 24) (hP : MA E σ0 o F) : Ctr l E yX9_putsUp (ws_ yX9_putsUp cX9_putsUp 4 none) 1 21 0 0 [.ref o, .int (iz z), .int (iz a)] σ0 (fun v τ => v = none ∧ MS E σ0 o τ (stF F 5 (wPut (F 5) z a))) noX := by
  refine x_head (own := RX9) (cc := cX9_putsUp) (maxL := 4) (ret := none) (by decide) rfl rfl (Nat.le_of_ble_eq_true rfl) ?_
  intro p e s m args below meth c H ls hF hname htab hM hl
  have hx := hF.2.2.1
  have hb := hF.2.2.2.1
  have hL : Lc E [] := lcNil
  have hl : lh ls 4 ([(0, .ref o), (1, .int (iz z)), (2, .int (iz a))]) := hl
  refine MS_gen hM (MS_0 hP) (fun σ hM hP => ?_)
  refine lv_aload_n hx hb dX9_putsUp_0 rfl (lk hl rfl) ?_
  refine x_getfield hF (ci := 10) in_X9 rfl 5 (by decide) q2256 (fun _ h => h) hM (MA_ob hP.1) (MA_f5 hP.1) dX9_putsUp_1 ?_
  refine x_bipush hF (by decide) dX9_putsUp_4 ?_
  refine x_iald hF hM (MA_a5 hP.1) (by omega) (by omega) (by decide) (show rd _ _ _ = .int (iz (F 5 _)) from MA_r5 hP.1 _ (by omega) (by omega)) dX9_putsUp_6 ?_
  refine x_istore_n hF dX9_putsUp_7 rfl hl (by decide) rfl (fun ls hl => ?_)
  suffices loop : ∀ (n : Nat) (k : Int) (σ : Mm) (H : Heap) (locs : List Loc) (ls : Array Slot), k < (n : Int) → (0 ≤ k) → (k ≤ F 5 28) → (psF (F 5) a k.toNat = psF (F 5) a (F 5 28).toNat) → Mem E s H σ → MS E σ0 o σ (stF F 5 (wSh (F 5) k (F 5 28))) → Lc E locs → lh ls 4 [(0, .ref o), (1, .int (iz z)), (2, .int (iz a)), (3, .int (iz k))] → W p l e ({ frames := 1, cells := 0, slots := 0, locals := 21 } : Room) s m args below meth c H locs 0 0 (vx_MQ below (XQc E (fun v τ => v = none ∧ MS E σ0 o τ (stF F 5 (wPut (F 5) z a)))) (XXc E noX) args s 0 0 (XA E)) (F0 m 8 ls []) from loop (27) (F 5 28) _ _ _ _ (by omega) hn (by omega) rfl hM (by rw [wSh_n, stF_self]; exact hP) hL (lh_sub hl rfl)
  refine nat_loop (fun k σ H locs ls hmm h0 h1 hr => absurd hmm (by omega)) (fun n ih k σ H locs ls hmm h0 h1 hr hM hP hL hl => ?_)
  refine lv_iload_n hx hb dX9_putsUp_8 rfl (lk hl rfl) ?_
  refine x_if_le (tgt := 67) hF dX9_putsUp_9 (by decide) (by first | exact Rg_in hR _ | assumption | (unfold inR; omega)) (fun c9 => ?_) (fun c9 => ?_)
  · skip
    have hk9 : k = psF (F 5) a (F 5 28).toNat := by rw [← hr, show k = 0 by omega]; rfl
    refine lv_aload_n hx hb dX9_putsUp_67 rfl (lk hl rfl) ?_
    refine x_getfield hF (ci := 10) in_X9 rfl 5 (by decide) q2256 (fun _ h => h) hM (MA_ob hP.1) (MA_f5 hP.1) dX9_putsUp_68 ?_
    refine x_bipush hF (by decide) dX9_putsUp_71 ?_
    refine x_iconst hF dX9_putsUp_73 ?_
    refine lv_iload_n hx hb dX9_putsUp_74 rfl (lk hl rfl) ?_
    refine x_imul hF dX9_putsUp_75 ?_
    refine x_iadd hF dX9_putsUp_76 ?_
    refine lv_iload_n hx hb dX9_putsUp_77 rfl (lk hl rfl) ?_
    refine x_iast hF hM hL (MA_a5 hP.1) (by omega) (by omega) (by decide) dX9_putsUp_78 (fun H locs hM hL => ?_)
    refine MS_gen hM (by have h9 := MS_q5 hM hP (by omega); rw [up2_st] at h9; exact h9) (fun σ hM hP => ?_)
    refine lv_aload_n hx hb dX9_putsUp_79 rfl (lk hl rfl) ?_
    refine x_getfield hF (ci := 10) in_X9 rfl 5 (by decide) q2256 (fun _ h => h) hM (MA_ob hP.1) (MA_f5 hP.1) dX9_putsUp_80 ?_
    refine x_bipush hF (by decide) dX9_putsUp_83 ?_
    refine x_iconst hF dX9_putsUp_85 ?_
    refine lv_iload_n hx hb dX9_putsUp_86 rfl (lk hl rfl) ?_
    refine x_imul hF dX9_putsUp_87 ?_
    refine x_iadd hF dX9_putsUp_88 ?_
    refine x_iconst hF dX9_putsUp_89 ?_
    refine x_iadd hF dX9_putsUp_90 ?_
    refine lv_iload_n hx hb dX9_putsUp_91 rfl (lk hl rfl) ?_
    refine x_iast hF hM hL (MA_a5 hP.1) (by omega) (by omega) (by decide) dX9_putsUp_92 (fun H locs hM hL => ?_)
    refine MS_gen hM (by have h9 := MS_q5 hM hP (by omega); rw [up2_st] at h9; exact h9) (fun σ hM hP => ?_)
    refine lv_aload_n hx hb dX9_putsUp_93 rfl (lk hl rfl) ?_
    refine x_getfield hF (ci := 10) in_X9 rfl 5 (by decide) q2256 (fun _ h => h) hM (MA_ob hP.1) (MA_f5 hP.1) dX9_putsUp_94 ?_
    refine x_bipush hF (by decide) dX9_putsUp_97 ?_
    refine lv_dup2_11 hx hb dX9_putsUp_99 rfl rfl ?_
    refine x_iald hF hM (MA_a5 hP.1) (by omega) (by omega) (by decide) (show rd _ _ _ = .int (iz (F 5 28)) from by have h9 := MA_r5 hP.1 28 (by omega) (by omega); rw [stF_s, wUp_o _ _ (by omega), wUp_o _ _ (by omega), wSh_lo (F 5) (by omega)] at h9; exact h9) dX9_putsUp_100 ?_
    refine x_iconst hF dX9_putsUp_101 ?_
    refine x_iadd hF dX9_putsUp_102 ?_
    refine x_iast hF hM hL (MA_a5 hP.1) (by omega) (by omega) (by decide) dX9_putsUp_103 (fun H locs hM hL => ?_)
    refine MS_gen hM (by have h9 := MS_q5 hM hP (by omega); rw [up2_st] at h9; exact h9) (fun σ hM hP => ?_)
    exact x_return hF hM hL (Nat.le_of_ble_eq_true rfl) (Nat.le_of_ble_eq_true rfl) ⟨rfl, by unfold wPut; rw [← hk9]; exact hP⟩ dX9_putsUp_104
  · skip
    refine lv_aload_n hx hb dX9_putsUp_12 rfl (lk hl rfl) ?_
    refine lv_iload_n hx hb dX9_putsUp_13 rfl (lk hl rfl) ?_
    refine x_iconst hF dX9_putsUp_14 ?_
    refine x_isub hF dX9_putsUp_15 ?_
    refine x_kp hL (vx_runV (As := [_]) hF.2.2.2.2.2.2.2.2.2 ((mX9_angleAt (w := (wSh (F 5) k (F 5 28))) (by rw [stF_s]) (by omega) (by omega) hP.1) hF.1) (cwV 1 hF.2.2.2.2.2.2.2.2.1 (lw_V q2392 q2394 qs58 q138 q2395) rfl rfl rfl (by decide +kernel) ⟨(Nat.le_of_ble_eq_true rfl), (Nat.le_of_ble_eq_true rfl)⟩) (x_preV hF hM (MA_ob hP.1) rfl) rfl rfl hl.1 rfl (lv_room (Nat.le_of_ble_eq_true rfl)) dX9_putsUp_16 ⟨(Nat.le_of_ble_eq_true rfl), (Nat.le_of_ble_eq_true rfl)⟩) (fun H locs hM hL => ?_)
    rw [wSh_lo (F 5) (by omega)]
    refine lv_iload_n hx hb dX9_putsUp_19 rfl (lk hl rfl) ?_
    refine x_icmp_le (tgt := 67) hF dX9_putsUp_20 (by decide) (by first | exact Rg_in hR _ | assumption | (unfold inR; omega)) (by first | exact Rg_in hR _ | assumption | (unfold inR; omega)) (fun c20 => ?_) (fun c20 => ?_)
    · skip
      have hk9 : k = psF (F 5) a (F 5 28).toNat := by rw [← hr, psF_f (by omega) (by omega)]
      refine lv_aload_n hx hb dX9_putsUp_67 rfl (lk hl rfl) ?_
      refine x_getfield hF (ci := 10) in_X9 rfl 5 (by decide) q2256 (fun _ h => h) hM (MA_ob hP.1) (MA_f5 hP.1) dX9_putsUp_68 ?_
      refine x_bipush hF (by decide) dX9_putsUp_71 ?_
      refine x_iconst hF dX9_putsUp_73 ?_
      refine lv_iload_n hx hb dX9_putsUp_74 rfl (lk hl rfl) ?_
      refine x_imul hF dX9_putsUp_75 ?_
      refine x_iadd hF dX9_putsUp_76 ?_
      refine lv_iload_n hx hb dX9_putsUp_77 rfl (lk hl rfl) ?_
      refine x_iast hF hM hL (MA_a5 hP.1) (by omega) (by omega) (by decide) dX9_putsUp_78 (fun H locs hM hL => ?_)
      refine MS_gen hM (by have h9 := MS_q5 hM hP (by omega); rw [up2_st] at h9; exact h9) (fun σ hM hP => ?_)
      refine lv_aload_n hx hb dX9_putsUp_79 rfl (lk hl rfl) ?_
      refine x_getfield hF (ci := 10) in_X9 rfl 5 (by decide) q2256 (fun _ h => h) hM (MA_ob hP.1) (MA_f5 hP.1) dX9_putsUp_80 ?_
      refine x_bipush hF (by decide) dX9_putsUp_83 ?_
      refine x_iconst hF dX9_putsUp_85 ?_
      refine lv_iload_n hx hb dX9_putsUp_86 rfl (lk hl rfl) ?_
      refine x_imul hF dX9_putsUp_87 ?_
      refine x_iadd hF dX9_putsUp_88 ?_
      refine x_iconst hF dX9_putsUp_89 ?_
      refine x_iadd hF dX9_putsUp_90 ?_
      refine lv_iload_n hx hb dX9_putsUp_91 rfl (lk hl rfl) ?_
      refine x_iast hF hM hL (MA_a5 hP.1) (by omega) (by omega) (by decide) dX9_putsUp_92 (fun H locs hM hL => ?_)
      refine MS_gen hM (by have h9 := MS_q5 hM hP (by omega); rw [up2_st] at h9; exact h9) (fun σ hM hP => ?_)
      refine lv_aload_n hx hb dX9_putsUp_93 rfl (lk hl rfl) ?_
      refine x_getfield hF (ci := 10) in_X9 rfl 5 (by decide) q2256 (fun _ h => h) hM (MA_ob hP.1) (MA_f5 hP.1) dX9_putsUp_94 ?_
      refine x_bipush hF (by decide) dX9_putsUp_97 ?_
      refine lv_dup2_11 hx hb dX9_putsUp_99 rfl rfl ?_
      refine x_iald hF hM (MA_a5 hP.1) (by omega) (by omega) (by decide) (show rd _ _ _ = .int (iz (F 5 28)) from by have h9 := MA_r5 hP.1 28 (by omega) (by omega); rw [stF_s, wUp_o _ _ (by omega), wUp_o _ _ (by omega), wSh_lo (F 5) (by omega)] at h9; exact h9) dX9_putsUp_100 ?_
      refine x_iconst hF dX9_putsUp_101 ?_
      refine x_iadd hF dX9_putsUp_102 ?_
      refine x_iast hF hM hL (MA_a5 hP.1) (by omega) (by omega) (by decide) dX9_putsUp_103 (fun H locs hM hL => ?_)
      refine MS_gen hM (by have h9 := MS_q5 hM hP (by omega); rw [up2_st] at h9; exact h9) (fun σ hM hP => ?_)
      exact x_return hF hM hL (Nat.le_of_ble_eq_true rfl) (Nat.le_of_ble_eq_true rfl) ⟨rfl, by unfold wPut; rw [← hk9]; exact hP⟩ dX9_putsUp_104
    · skip
      refine lv_aload_n hx hb dX9_putsUp_23 rfl (lk hl rfl) ?_
      refine x_getfield hF (ci := 10) in_X9 rfl 5 (by decide) q2256 (fun _ h => h) hM (MA_ob hP.1) (MA_f5 hP.1) dX9_putsUp_24 ?_
      refine x_bipush hF (by decide) dX9_putsUp_27 ?_
      refine x_iconst hF dX9_putsUp_29 ?_
      refine lv_iload_n hx hb dX9_putsUp_30 rfl (lk hl rfl) ?_
      refine x_imul hF dX9_putsUp_31 ?_
      refine x_iadd hF dX9_putsUp_32 ?_
      refine lv_aload_n hx hb dX9_putsUp_33 rfl (lk hl rfl) ?_
      refine lv_iload_n hx hb dX9_putsUp_34 rfl (lk hl rfl) ?_
      refine x_iconst hF dX9_putsUp_35 ?_
      refine x_isub hF dX9_putsUp_36 ?_
      refine x_kp hL (vx_runV (As := [_]) hF.2.2.2.2.2.2.2.2.2 ((mX9_angleAt (w := (wSh (F 5) k (F 5 28))) (by rw [stF_s]) (by omega) (by omega) hP.1) hF.1) (cwV 1 hF.2.2.2.2.2.2.2.2.1 (lw_V q2392 q2394 qs58 q138 q2395) rfl rfl rfl (by decide +kernel) ⟨(Nat.le_of_ble_eq_true rfl), (Nat.le_of_ble_eq_true rfl)⟩) (x_preV hF hM (MA_ob hP.1) rfl) rfl rfl hl.1 rfl (lv_room (Nat.le_of_ble_eq_true rfl)) dX9_putsUp_37 ⟨(Nat.le_of_ble_eq_true rfl), (Nat.le_of_ble_eq_true rfl)⟩) (fun H locs hM hL => ?_)
      rw [wSh_lo (F 5) (by omega)]
      refine x_iast hF hM hL (MA_a5 hP.1) (by omega) (by omega) (by decide) dX9_putsUp_40 (fun H locs hM hL => ?_)
      refine MS_gen hM (by have h9 := MS_q5 hM hP (by omega); rw [up2_st] at h9; exact h9) (fun σ hM hP => ?_)
      refine lv_aload_n hx hb dX9_putsUp_41 rfl (lk hl rfl) ?_
      refine x_getfield hF (ci := 10) in_X9 rfl 5 (by decide) q2256 (fun _ h => h) hM (MA_ob hP.1) (MA_f5 hP.1) dX9_putsUp_42 ?_
      refine x_bipush hF (by decide) dX9_putsUp_45 ?_
      refine x_iconst hF dX9_putsUp_47 ?_
      refine lv_iload_n hx hb dX9_putsUp_48 rfl (lk hl rfl) ?_
      refine x_imul hF dX9_putsUp_49 ?_
      refine x_iadd hF dX9_putsUp_50 ?_
      refine x_iconst hF dX9_putsUp_51 ?_
      refine x_iadd hF dX9_putsUp_52 ?_
      refine lv_aload_n hx hb dX9_putsUp_53 rfl (lk hl rfl) ?_
      refine lv_iload_n hx hb dX9_putsUp_54 rfl (lk hl rfl) ?_
      refine x_iconst hF dX9_putsUp_55 ?_
      refine x_isub hF dX9_putsUp_56 ?_
      refine x_kp hL (vx_runV (As := [_]) hF.2.2.2.2.2.2.2.2.2 ((mX9_ownerAt (w := wUp (wSh (F 5) k (F 5 28)) (29 + 2 * k) (F 5 (29 + 2 * (k - 1)))) (by rw [stF_s]) (by omega) (by omega) hP.1) hF.1) (cwV 1 hF.2.2.2.2.2.2.2.2.1 (lw_V q2396 q2398 qs59 q138 q2399) rfl rfl rfl (by decide +kernel) ⟨(Nat.le_of_ble_eq_true rfl), (Nat.le_of_ble_eq_true rfl)⟩) (x_preV hF hM (MA_ob hP.1) rfl) rfl rfl hl.1 rfl (lv_room (Nat.le_of_ble_eq_true rfl)) dX9_putsUp_57 ⟨(Nat.le_of_ble_eq_true rfl), (Nat.le_of_ble_eq_true rfl)⟩) (fun H locs hM hL => ?_)
      rw [wUp_o _ _ (by omega), wSh_lo (F 5) (by omega)]
      refine x_iast hF hM hL (MA_a5 hP.1) (by omega) (by omega) (by decide) dX9_putsUp_60 (fun H locs hM hL => ?_)
      refine MS_gen hM (by have h9 := MS_q5 hM hP (by omega); rw [up2_st] at h9; exact h9) (fun σ hM hP => ?_)
      refine x_iinc hF dX9_putsUp_61 hl rfl (by decide) rfl (fun ls hl => ?_)
      refine x_goto (tgt := 8) hF dX9_putsUp_64 (by decide) ?_
      exact ih (k - 1) _ _ _ _ (by omega) (by omega) (by omega) (by rw [← hr]; exact (psF_t (by omega) c20).symm) hM (by rw [wSh_1 (F 5) (by omega) h1] at hP; exact hP) hL (lh_sub hl rfl)
set_option maxHeartbeats 4000000 in
set_option maxRecDepth 100000 in
/-- BakeryRingModel.takesDown(I)V -/
theorem mX9_takesDown {l : Launch} {E : En} {σ0 : Mm} {o : Nat} {F : Nat → Int → Int} {z : Int} (hR : Rg (F 5)) (hz0 : 0 ≤ z) (hz1 : z < F 5 28) (hn2 : F 5 28 ≤ 25) (hP : MA E σ0 o F) : Ctr l E yX9_takesDown (ws_ yX9_takesDown cX9_takesDown 3 none) 1 21 0 0 [.ref o, .int (iz z)] σ0 (fun v τ => v = none ∧ MS E σ0 o τ (stF F 5 (wTake (F 5) z))) noX := by
  refine x_head (own := RX9) (cc := cX9_takesDown) (maxL := 3) (ret := none) (by decide) rfl rfl (Nat.le_of_ble_eq_true rfl) ?_
  intro p e s m args below meth c H ls hF hname htab hM hl
  have hx := hF.2.2.1
  have hb := hF.2.2.2.1
  have hL : Lc E [] := lcNil
  have hl : lh ls 3 ([(0, .ref o), (1, .int (iz z))]) := hl
  refine MS_gen hM (MS_0 hP) (fun σ hM hP => ?_)
  refine lv_aload_n hx hb dX9_takesDown_0 rfl (lk hl rfl) ?_
  refine x_getfield hF (ci := 10) in_X9 rfl 5 (by decide) q2256 (fun _ h => h) hM (MA_ob hP.1) (MA_f5 hP.1) dX9_takesDown_1 ?_
  refine x_bipush hF (by decide) dX9_takesDown_4 ?_
  refine lv_dup2_11 hx hb dX9_takesDown_6 rfl rfl ?_
  refine x_iald hF hM (MA_a5 hP.1) (by omega) (by omega) (by decide) (show rd _ _ _ = .int (iz (F 5 _)) from MA_r5 hP.1 _ (by omega) (by omega)) dX9_takesDown_7 ?_
  refine x_iconst hF dX9_takesDown_8 ?_
  refine x_isub hF dX9_takesDown_9 ?_
  refine x_iast hF hM hL (MA_a5 hP.1) (by omega) (by omega) (by decide) dX9_takesDown_10 (fun H locs hM hL => ?_)
  refine MS_gen hM (by have h9 := MS_q5 hM hP (by omega); rw [up2_as, wUn_0 (F 5) z] at h9; exact h9) (fun σ hM hP => ?_)
  refine lv_iload_n hx hb dX9_takesDown_11 rfl (lk hl rfl) ?_
  refine x_istore_n hF dX9_takesDown_12 rfl hl (by decide) rfl (fun ls hl => ?_)
  suffices loop : ∀ (n : Nat) (i : Int) (σ : Mm) (H : Heap) (locs : List Loc) (ls : Array Slot), F 5 28 - 1 - i < (n : Int) → (z ≤ i) → (i ≤ F 5 28 - 1) → Mem E s H σ → MS E σ0 o σ (stF F 5 (wUn (F 5) z i)) → Lc E locs → lh ls 3 [(0, .ref o), (1, .int (iz z)), (2, .int (iz i))] → W p l e ({ frames := 1, cells := 0, slots := 0, locals := 21 } : Room) s m args below meth c H locs 0 0 (vx_MQ below (XQc E (fun v τ => v = none ∧ MS E σ0 o τ (stF F 5 (wTake (F 5) z)))) (XXc E noX) args s 0 0 (XA E)) (F0 m 13 ls []) from loop (27) z _ _ _ _ (by omega) (by omega) (by omega) hM hP hL (lh_sub hl rfl)
  refine nat_loop (fun i σ H locs ls hmm h0 h1 => absurd hmm (by omega)) (fun n ih i σ H locs ls hmm h0 h1 hM hP hL hl => ?_)
  refine lv_iload_n hx hb dX9_takesDown_13 rfl (lk hl rfl) ?_
  refine lv_aload_n hx hb dX9_takesDown_14 rfl (lk hl rfl) ?_
  refine x_getfield hF (ci := 10) in_X9 rfl 5 (by decide) q2256 (fun _ h => h) hM (MA_ob hP.1) (MA_f5 hP.1) dX9_takesDown_15 ?_
  refine x_bipush hF (by decide) dX9_takesDown_18 ?_
  refine x_iald hF hM (MA_a5 hP.1) (by omega) (by omega) (by decide) (show rd _ _ _ = .int (iz (F 5 28 - 1)) from by have h9 := MA_r5 hP.1 28 (by omega) (by omega); rw [stF_s, wUn_28] at h9; exact h9) dX9_takesDown_20 ?_
  refine x_icmp_ge (tgt := 68) hF dX9_takesDown_21 (by decide) (by have h28 := hR 28; unfold inR; omega) (by have h28 := hR 28; unfold inR; omega) (fun c21 => ?_) (fun c21 => ?_)
  · skip
    have e9 : i = F 5 28 - 1 := by omega
    subst e9
    refine lv_aload_n hx hb dX9_takesDown_68 rfl (lk hl rfl) ?_
    refine x_getfield hF (ci := 10) in_X9 rfl 5 (by decide) q2256 (fun _ h => h) hM (MA_ob hP.1) (MA_f5 hP.1) dX9_takesDown_69 ?_
    refine x_bipush hF (by decide) dX9_takesDown_72 ?_
    refine x_iconst hF dX9_takesDown_74 ?_
    refine lv_aload_n hx hb dX9_takesDown_75 rfl (lk hl rfl) ?_
    refine x_getfield hF (ci := 10) in_X9 rfl 5 (by decide) q2256 (fun _ h => h) hM (MA_ob hP.1) (MA_f5 hP.1) dX9_takesDown_76 ?_
    refine x_bipush hF (by decide) dX9_takesDown_79 ?_
    refine x_iald hF hM (MA_a5 hP.1) (by omega) (by omega) (by decide) (show rd _ _ _ = .int (iz (F 5 28 - 1)) from by have h9 := MA_r5 hP.1 28 (by omega) (by omega); rw [stF_s, wUn_28] at h9; exact h9) dX9_takesDown_81 ?_
    refine x_imul hF dX9_takesDown_82 ?_
    refine x_iadd hF dX9_takesDown_83 ?_
    refine x_iconst hF dX9_takesDown_84 ?_
    refine x_iast hF hM hL (MA_a5 hP.1) (by omega) (by omega) (by decide) dX9_takesDown_85 (fun H locs hM hL => ?_)
    refine MS_gen hM (by have h9 := MS_q5 hM hP (by omega); rw [up2_st] at h9; exact h9) (fun σ hM hP => ?_)
    refine lv_aload_n hx hb dX9_takesDown_86 rfl (lk hl rfl) ?_
    refine x_getfield hF (ci := 10) in_X9 rfl 5 (by decide) q2256 (fun _ h => h) hM (MA_ob hP.1) (MA_f5 hP.1) dX9_takesDown_87 ?_
    refine x_bipush hF (by decide) dX9_takesDown_90 ?_
    refine x_iconst hF dX9_takesDown_92 ?_
    refine lv_aload_n hx hb dX9_takesDown_93 rfl (lk hl rfl) ?_
    refine x_getfield hF (ci := 10) in_X9 rfl 5 (by decide) q2256 (fun _ h => h) hM (MA_ob hP.1) (MA_f5 hP.1) dX9_takesDown_94 ?_
    refine x_bipush hF (by decide) dX9_takesDown_97 ?_
    refine x_iald hF hM (MA_a5 hP.1) (by omega) (by omega) (by decide) (show rd _ _ _ = .int (iz (F 5 28 - 1)) from by have h9 := MA_r5 hP.1 28 (by omega) (by omega); rw [stF_s, wUp_o _ _ (by omega), wUn_28] at h9; exact h9) dX9_takesDown_99 ?_
    refine x_imul hF dX9_takesDown_100 ?_
    refine x_iadd hF dX9_takesDown_101 ?_
    refine x_iconst hF dX9_takesDown_102 ?_
    refine x_iadd hF dX9_takesDown_103 ?_
    refine x_iconst hF dX9_takesDown_104 ?_
    refine x_iast hF hM hL (MA_a5 hP.1) (by omega) (by omega) (by decide) dX9_takesDown_105 (fun H locs hM hL => ?_)
    refine MS_gen hM (by have h9 := MS_q5 hM hP (by omega); rw [up2_st] at h9; exact h9) (fun σ hM hP => ?_)
    exact x_return hF hM hL (Nat.le_of_ble_eq_true rfl) (Nat.le_of_ble_eq_true rfl) ⟨rfl, hP⟩ dX9_takesDown_106
  · skip
    refine lv_aload_n hx hb dX9_takesDown_24 rfl (lk hl rfl) ?_
    refine x_getfield hF (ci := 10) in_X9 rfl 5 (by decide) q2256 (fun _ h => h) hM (MA_ob hP.1) (MA_f5 hP.1) dX9_takesDown_25 ?_
    refine x_bipush hF (by decide) dX9_takesDown_28 ?_
    refine x_iconst hF dX9_takesDown_30 ?_
    refine lv_iload_n hx hb dX9_takesDown_31 rfl (lk hl rfl) ?_
    refine x_imul hF dX9_takesDown_32 ?_
    refine x_iadd hF dX9_takesDown_33 ?_
    refine lv_aload_n hx hb dX9_takesDown_34 rfl (lk hl rfl) ?_
    refine lv_iload_n hx hb dX9_takesDown_35 rfl (lk hl rfl) ?_
    refine x_iconst hF dX9_takesDown_36 ?_
    refine x_iadd hF dX9_takesDown_37 ?_
    refine x_kp hL (vx_runV (As := [_]) hF.2.2.2.2.2.2.2.2.2 ((mX9_angleAt (w := (wUn (F 5) z i)) (by rw [stF_s]) (by omega) (by omega) hP.1) hF.1) (cwV 1 hF.2.2.2.2.2.2.2.2.1 (lw_V q2392 q2394 qs58 q138 q2395) rfl rfl rfl (by decide +kernel) ⟨(Nat.le_of_ble_eq_true rfl), (Nat.le_of_ble_eq_true rfl)⟩) (x_preV hF hM (MA_ob hP.1) rfl) rfl rfl hl.1 rfl (lv_room (Nat.le_of_ble_eq_true rfl)) dX9_takesDown_38 ⟨(Nat.le_of_ble_eq_true rfl), (Nat.le_of_ble_eq_true rfl)⟩) (fun H locs hM hL => ?_)
    rw [wUn_hi (F 5) (by omega) (by omega)]
    refine x_iast hF hM hL (MA_a5 hP.1) (by omega) (by omega) (by decide) dX9_takesDown_41 (fun H locs hM hL => ?_)
    refine MS_gen hM (by have h9 := MS_q5 hM hP (by omega); rw [up2_st] at h9; exact h9) (fun σ hM hP => ?_)
    refine lv_aload_n hx hb dX9_takesDown_42 rfl (lk hl rfl) ?_
    refine x_getfield hF (ci := 10) in_X9 rfl 5 (by decide) q2256 (fun _ h => h) hM (MA_ob hP.1) (MA_f5 hP.1) dX9_takesDown_43 ?_
    refine x_bipush hF (by decide) dX9_takesDown_46 ?_
    refine x_iconst hF dX9_takesDown_48 ?_
    refine lv_iload_n hx hb dX9_takesDown_49 rfl (lk hl rfl) ?_
    refine x_imul hF dX9_takesDown_50 ?_
    refine x_iadd hF dX9_takesDown_51 ?_
    refine x_iconst hF dX9_takesDown_52 ?_
    refine x_iadd hF dX9_takesDown_53 ?_
    refine lv_aload_n hx hb dX9_takesDown_54 rfl (lk hl rfl) ?_
    refine lv_iload_n hx hb dX9_takesDown_55 rfl (lk hl rfl) ?_
    refine x_iconst hF dX9_takesDown_56 ?_
    refine x_iadd hF dX9_takesDown_57 ?_
    refine x_kp hL (vx_runV (As := [_]) hF.2.2.2.2.2.2.2.2.2 ((mX9_ownerAt (w := wUp (wUn (F 5) z i) (29 + 2 * i) (F 5 (29 + 2 * (i + 1)))) (by rw [stF_s]) (by omega) (by omega) hP.1) hF.1) (cwV 1 hF.2.2.2.2.2.2.2.2.1 (lw_V q2396 q2398 qs59 q138 q2399) rfl rfl rfl (by decide +kernel) ⟨(Nat.le_of_ble_eq_true rfl), (Nat.le_of_ble_eq_true rfl)⟩) (x_preV hF hM (MA_ob hP.1) rfl) rfl rfl hl.1 rfl (lv_room (Nat.le_of_ble_eq_true rfl)) dX9_takesDown_58 ⟨(Nat.le_of_ble_eq_true rfl), (Nat.le_of_ble_eq_true rfl)⟩) (fun H locs hM hL => ?_)
    rw [wUp_o _ _ (by omega), wUn_hi (F 5) (by omega) (by omega)]
    refine x_iast hF hM hL (MA_a5 hP.1) (by omega) (by omega) (by decide) dX9_takesDown_61 (fun H locs hM hL => ?_)
    refine MS_gen hM (by have h9 := MS_q5 hM hP (by omega); rw [up2_st] at h9; exact h9) (fun σ hM hP => ?_)
    refine x_iinc hF dX9_takesDown_62 hl rfl (by decide) rfl (fun ls hl => ?_)
    refine x_goto (tgt := 13) hF dX9_takesDown_65 (by decide) ?_
    exact ih (i + 1) _ _ _ _ (by omega) (by omega) (by omega) hM (by rw [wUn_1 (F 5) hz0 h0] at hP; exact hP) hL (lh_sub hl rfl)
