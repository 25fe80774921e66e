set_option maxHeartbeats 4000000 in
set_option maxRecDepth 100000 in
/-- BakeryRingModel.isAhead(II)Z -/
theorem mX9_isAhead {l : Launch} {E : En} {σ0 : Mm} {o : Nat} {F : Nat → Int → Int} {w : Int → Int} (hw : F 5 = w) (hk : Wk w) {z a : Int} {ld : Int → Int} (hld : F 12 = ld) (hlr : ∀ b, 0 ≤ ld b ∧ ld b ≤ 180) (hz0 : 0 ≤ z) (hz1 : z < 6) (ha0 : 0 ≤ a) (ha1 : a < 6) (hP : MA E σ0 o F) : Ctr l E yX9_isAhead (ws_ yX9_isAhead cX9_isAhead 3 (some .boolean)) 2 44 0 0 [.ref o, .int (iz z), .int (iz a)] σ0 (fun v τ => v = some (.int (iz (if aheadP w ld z a then 1 else 0))) ∧ τ = σ0) noX := by
  refine x_head (own := RX9) (cc := cX9_isAhead) (maxL := 3) (ret := (some .boolean)) (by decide) rfl rfl (Nat.le_of_ble_eq_true rfl) ?_
  intro p e s m args below meth c H ls hF hname htab hM hl
  have hx := hF.2.2.1
  have hb := hF.2.2.2.1
  have hL : Lc E [] := lcNil
  have hl : lh ls 3 ([(0, .ref o), (1, .int (iz z)), (2, .int (iz a))]) := hl
  have hk2 := hk.2.1
  have hl1 := hlr z
  have hl2 := hlr a
  have hbz := hk.2.2.2.1 z (by omega) (by omega)
  have hba := hk.2.2.2.1 a (by omega) (by omega)
  have hr1 := wRoom_r (b := z) hk.1 (by omega)
  have hr2 := wRoom_r (b := a) hk.1 (by omega)
  refine lv_aload_n hx hb dX9_isAhead_0 rfl (lk hl rfl) ?_
  refine x_getfield hF (ci := 10) in_X9 rfl 12 (by decide) q2263 (fun _ h => h) hM (MA_ob hP) (MA_f12 hP) dX9_isAhead_1 ?_
  refine lv_iload_n hx hb dX9_isAhead_4 rfl (lk hl rfl) ?_
  refine x_iald hF hM (MA_a12 hP) (by omega) (by omega) (by decide) (show rd _ _ _ = .int (iz (ld _)) from by have h9 := MA_r12 hP; rw [hld] at h9; exact h9 _ (by omega) (by omega)) dX9_isAhead_5 ?_
  refine lv_aload_n hx hb dX9_isAhead_6 rfl (lk hl rfl) ?_
  refine x_getfield hF (ci := 10) in_X9 rfl 12 (by decide) q2263 (fun _ h => h) hM (MA_ob hP) (MA_f12 hP) dX9_isAhead_7 ?_
  refine lv_iload_n hx hb dX9_isAhead_10 rfl (lk hl rfl) ?_
  refine x_iald hF hM (MA_a12 hP) (by omega) (by omega) (by decide) (show rd _ _ _ = .int (iz (ld _)) from by have h9 := MA_r12 hP; rw [hld] at h9; exact h9 _ (by omega) (by omega)) dX9_isAhead_11 ?_
  refine x_icmp_eq (tgt := 36) hF dX9_isAhead_12 (by decide) (by first | exact Rg_in hk.1 _ | assumption | (unfold inR; omega)) (by first | exact Rg_in hk.1 _ | assumption | (unfold inR; omega)) (fun c12 => ?_) (fun c12 => ?_)
  · skip
    refine lv_aload_n hx hb dX9_isAhead_36 rfl (lk hl rfl) ?_
    refine lv_iload_n hx hb dX9_isAhead_37 rfl (lk hl rfl) ?_
    refine x_kp hL (vx_runV (As := [_]) hF.2.2.2.2.2.2.2.2.2 ((mX9_roomOf (w := w) hw (by omega) (by omega) hk.1 (by omega) hP) hF.1) (cwV 1 hF.2.2.2.2.2.2.2.2.1 (lw_V q2440 q2442 qs70 q138 q2443) rfl rfl rfl (by decide +kernel) ⟨(Nat.le_of_ble_eq_true rfl), (Nat.le_of_ble_eq_true rfl)⟩) (x_preV hF hM (MA_ob hP) rfl) rfl rfl hl.1 rfl (lv_room (Nat.le_of_ble_eq_true rfl)) dX9_isAhead_38 ⟨(Nat.le_of_ble_eq_true rfl), (Nat.le_of_ble_eq_true rfl)⟩) (fun H locs hM hL => ?_)
    refine lv_aload_n hx hb dX9_isAhead_41 rfl (lk hl rfl) ?_
    refine lv_iload_n hx hb dX9_isAhead_42 rfl (lk hl rfl) ?_
    refine x_kp hL (vx_runV (As := [_]) hF.2.2.2.2.2.2.2.2.2 ((mX9_roomOf (w := w) hw (by omega) (by omega) hk.1 (by omega) hP) hF.1) (cwV 1 hF.2.2.2.2.2.2.2.2.1 (lw_V q2440 q2442 qs70 q138 q2443) rfl rfl rfl (by decide +kernel) ⟨(Nat.le_of_ble_eq_true rfl), (Nat.le_of_ble_eq_true rfl)⟩) (x_preV hF hM (MA_ob hP) rfl) rfl rfl hl.1 rfl (lv_room (Nat.le_of_ble_eq_true rfl)) dX9_isAhead_43 ⟨(Nat.le_of_ble_eq_true rfl), (Nat.le_of_ble_eq_true rfl)⟩) (fun H locs hM hL => ?_)
    refine x_icmp_eq (tgt := 70) hF dX9_isAhead_46 (by decide) (by first | exact Rg_in hk.1 _ | assumption | (unfold inR; omega)) (by first | exact Rg_in hk.1 _ | assumption | (unfold inR; omega)) (fun c46 => ?_) (fun c46 => ?_)
    · skip
      refine lv_iload_n hx hb dX9_isAhead_70 rfl (lk hl rfl) ?_
      refine lv_iload_n hx hb dX9_isAhead_71 rfl (lk hl rfl) ?_
      refine x_icmp_ge (tgt := 79) hF dX9_isAhead_72 (by decide) (by first | exact Rg_in hk.1 _ | assumption | (unfold inR; omega)) (by first | exact Rg_in hk.1 _ | assumption | (unfold inR; omega)) (fun c72 => ?_) (fun c72 => ?_)
      · skip
        refine x_iconst hF dX9_isAhead_79 ?_
        exact x_ireturn hF hM hL (by rfl) (Nat.le_of_ble_eq_true rfl) (Nat.le_of_ble_eq_true rfl) ⟨by first | rw [if_pos (aheadP_i.2 (by omega))] | rw [if_neg (fun q => absurd (aheadP_i.1 q) (by omega))], rfl⟩ dX9_isAhead_80
      · skip
        refine x_iconst hF dX9_isAhead_75 ?_
        refine x_goto (tgt := 80) hF dX9_isAhead_76 (by decide) ?_
        exact x_ireturn hF hM hL (by rfl) (Nat.le_of_ble_eq_true rfl) (Nat.le_of_ble_eq_true rfl) ⟨by first | rw [if_pos (aheadP_i.2 (by omega))] | rw [if_neg (fun q => absurd (aheadP_i.1 q) (by omega))], rfl⟩ dX9_isAhead_80
    · skip
      refine lv_aload_n hx hb dX9_isAhead_49 rfl (lk hl rfl) ?_
      refine lv_iload_n hx hb dX9_isAhead_50 rfl (lk hl rfl) ?_
      refine x_kp hL (vx_runV (As := [_]) hF.2.2.2.2.2.2.2.2.2 ((mX9_roomOf (w := w) hw (by omega) (by omega) hk.1 (by omega) hP) hF.1) (cwV 1 hF.2.2.2.2.2.2.2.2.1 (lw_V q2440 q2442 qs70 q138 q2443) rfl rfl rfl (by decide +kernel) ⟨(Nat.le_of_ble_eq_true rfl), (Nat.le_of_ble_eq_true rfl)⟩) (x_preV hF hM (MA_ob hP) rfl) rfl rfl hl.1 rfl (lv_room (Nat.le_of_ble_eq_true rfl)) dX9_isAhead_51 ⟨(Nat.le_of_ble_eq_true rfl), (Nat.le_of_ble_eq_true rfl)⟩) (fun H locs hM hL => ?_)
      refine lv_aload_n hx hb dX9_isAhead_54 rfl (lk hl rfl) ?_
      refine lv_iload_n hx hb dX9_isAhead_55 rfl (lk hl rfl) ?_
      refine x_kp hL (vx_runV (As := [_]) hF.2.2.2.2.2.2.2.2.2 ((mX9_roomOf (w := w) hw (by omega) (by omega) hk.1 (by omega) hP) hF.1) (cwV 1 hF.2.2.2.2.2.2.2.2.1 (lw_V q2440 q2442 qs70 q138 q2443) rfl rfl rfl (by decide +kernel) ⟨(Nat.le_of_ble_eq_true rfl), (Nat.le_of_ble_eq_true rfl)⟩) (x_preV hF hM (MA_ob hP) rfl) rfl rfl hl.1 rfl (lv_room (Nat.le_of_ble_eq_true rfl)) dX9_isAhead_56 ⟨(Nat.le_of_ble_eq_true rfl), (Nat.le_of_ble_eq_true rfl)⟩) (fun H locs hM hL => ?_)
      refine x_icmp_ge (tgt := 66) hF dX9_isAhead_59 (by decide) (by first | exact Rg_in hk.1 _ | assumption | (unfold inR; omega)) (by first | exact Rg_in hk.1 _ | assumption | (unfold inR; omega)) (fun c59 => ?_) (fun c59 => ?_)
      · skip
        refine x_iconst hF dX9_isAhead_66 ?_
        refine x_goto (tgt := 80) hF dX9_isAhead_67 (by decide) ?_
        exact x_ireturn hF hM hL (by rfl) (Nat.le_of_ble_eq_true rfl) (Nat.le_of_ble_eq_true rfl) ⟨by first | rw [if_pos (aheadP_i.2 (by omega))] | rw [if_neg (fun q => absurd (aheadP_i.1 q) (by omega))], rfl⟩ dX9_isAhead_80
      · skip
        refine x_iconst hF dX9_isAhead_62 ?_
        refine x_goto (tgt := 80) hF dX9_isAhead_63 (by decide) ?_
        exact x_ireturn hF hM hL (by rfl) (Nat.le_of_ble_eq_true rfl) (Nat.le_of_ble_eq_true rfl) ⟨by first | rw [if_pos (aheadP_i.2 (by omega))] | rw [if_neg (fun q => absurd (aheadP_i.1 q) (by omega))], rfl⟩ dX9_isAhead_80
  · skip
    refine lv_aload_n hx hb dX9_isAhead_15 rfl (lk hl rfl) ?_
    refine x_getfield hF (ci := 10) in_X9 rfl 12 (by decide) q2263 (fun _ h => h) hM (MA_ob hP) (MA_f12 hP) dX9_isAhead_16 ?_
    refine lv_iload_n hx hb dX9_isAhead_19 rfl (lk hl rfl) ?_
    refine x_iald hF hM (MA_a12 hP) (by omega) (by omega) (by decide) (show rd _ _ _ = .int (iz (ld _)) from by have h9 := MA_r12 hP; rw [hld] at h9; exact h9 _ (by omega) (by omega)) dX9_isAhead_20 ?_
    refine lv_aload_n hx hb dX9_isAhead_21 rfl (lk hl rfl) ?_
    refine x_getfield hF (ci := 10) in_X9 rfl 12 (by decide) q2263 (fun _ h => h) hM (MA_ob hP) (MA_f12 hP) dX9_isAhead_22 ?_
    refine lv_iload_n hx hb dX9_isAhead_25 rfl (lk hl rfl) ?_
    refine x_iald hF hM (MA_a12 hP) (by omega) (by omega) (by decide) (show rd _ _ _ = .int (iz (ld _)) from by have h9 := MA_r12 hP; rw [hld] at h9; exact h9 _ (by omega) (by omega)) dX9_isAhead_26 ?_
    refine x_icmp_le (tgt := 34) hF dX9_isAhead_27 (by decide) (by first | exact Rg_in hk.1 _ | assumption | (unfold inR; omega)) (by first | exact Rg_in hk.1 _ | assumption | (unfold inR; omega)) (fun c27 => ?_) (fun c27 => ?_)
    · skip
      refine x_iconst hF dX9_isAhead_34 ?_
      exact x_ireturn hF hM hL (by rfl) (Nat.le_of_ble_eq_true rfl) (Nat.le_of_ble_eq_true rfl) ⟨by first | rw [if_pos (aheadP_i.2 (by omega))] | rw [if_neg (fun q => absurd (aheadP_i.1 q) (by omega))], rfl⟩ dX9_isAhead_35
    · skip
      refine x_iconst hF dX9_isAhead_30 ?_
      refine x_goto (tgt := 35) hF dX9_isAhead_31 (by decide) ?_
      exact x_ireturn hF hM hL (by rfl) (Nat.le_of_ble_eq_true rfl) (Nat.le_of_ble_eq_true rfl) ⟨by first | rw [if_pos (aheadP_i.2 (by omega))] | rw [if_neg (fun q => absurd (aheadP_i.1 q) (by omega))], rfl⟩ dX9_isAhead_35
set_option maxHeartbeats 4000000 in
set_option maxRecDepth 100000 in
/-- BakeryRingModel.ranked(I)I -/
theorem mX9_ranked {l : Launch} {E : En} {σ0 : Mm} {o : Nat} {F : Nat → Int → Int} {w : Int → Int} (hw : F 5 = w) (hk : Wk w) {z : Int} (hz : inR z) (hP : MA E σ0 o F) : Ctr l E yX9_ranked (ws_ yX9_ranked cX9_ranked 5 (some .int)) 3 66 0 0 [.ref o, .int (iz z)] σ0 (fun v τ => v = some (.int (iz (qRanked w z).2)) ∧ QE E σ0 o τ F (qRanked w z).1) noX := by
  refine x_head (own := RX9) (cc := cX9_ranked) (maxL := 5) (ret := (some .int)) (by decide) rfl rfl (Nat.le_of_ble_eq_true rfl) ?_
  intro p e s m args below meth c H ls hF hname htab hM hl
  have hx := hF.2.2.1
  have hb := hF.2.2.2.1
  have hL : Lc E [] := lcNil
  have hl : lh ls 5 ([(0, .ref o), (1, .int (iz z))]) := hl
  refine MS_gen hM (MS_0 hP) (fun σ hM hP => ?_)
  have hk2 := hk.2.1
  refine lv_aload_n hx hb dX9_ranked_0 rfl (lk hl rfl) ?_
  refine x_iconst hF dX9_ranked_1 ?_
  refine x_putfield hF (ci := 10) in_X9 rfl tyX9_ok nmX9 0 (by decide) q2251 (fun _ h => h) rfl hM hL (MA_ob hP.1) (ty := .int) (by decide +kernel) rfl rfl dX9_ranked_2 (fun H locs hM hL => ?_)
  refine MS_gen hM (MS_p0 hM hP) (fun σ hM hP => ?_)
  refine lv_aload_n hx hb dX9_ranked_5 rfl (lk hl rfl) ?_
  refine x_kn hL (vx_runV (As := []) hF.2.2.2.2.2.2.2.2.2 ((mX9_findsLoads (F := up2 F 0 0 0) (by rw [up2_oth _ _ _ (by decide), hw]; exact hk.1) (by rw [up2_oth _ _ _ (by decide), hw]; omega) (by rw [up2_oth _ _ _ (by decide), hw]; omega) hP.1) hF.1) (cwV 0 hF.2.2.2.2.2.2.2.2.1 (lw_V q2579 q2581 qs90 q138 q2582) rfl rfl rfl (by decide +kernel) ⟨(Nat.le_of_ble_eq_true rfl), (Nat.le_of_ble_eq_true rfl)⟩) (x_preV hF hM (MA_ob hP.1) rfl) rfl rfl hl.1 rfl (lv_room (Nat.le_of_ble_eq_true rfl)) dX9_ranked_6 ⟨(Nat.le_of_ble_eq_true rfl), (Nat.le_of_ble_eq_true rfl)⟩) ?_
  rintro _ τ6 H locs ⟨rfl, hp⟩ hM hL
  refine MS_gen hM (MS_t hP hp) (fun σ hM hP => ?_)
  rw [show (up2 F 0 0 0) 5 = w from by rw [up2_oth _ _ _ (by decide), hw]] at hP
  obtain ⟨F1, hP, e0, e5, e12, eo⟩ := LE_0 hw hP
  refine x_iconst hF dX9_ranked_9 ?_
  refine x_istore_n hF dX9_ranked_10 rfl hl (by decide) rfl (fun ls hl => ?_)
  suffices loop1 : ∀ (n : Nat) (i : Int) (σ : Mm) (H : Heap) (locs : List Loc) (ls : Array Slot), w 0 - i < (n : Int) → (0 ≤ i) → (i ≤ w 0) → (fdF (fun b => decide (w (4 + 4 * b + 2) = 0 ∧ wAhead w (wLoadOf w) b = z)) i (w 0 - i).toNat = wRank w z) → Mem E s H σ → MS E σ0 o σ F1 → Lc E locs → lh ls 5 [(0, .ref o), (1, .int (iz z)), (2, .int (iz i))] → W p l e ({ frames := 3, cells := 0, slots := 0, locals := 66 } : Room) s m args below meth c H locs 0 0 (vx_MQ below (XQc E (fun v τ => v = some (.int (iz (qRanked w z).2)) ∧ QE E σ0 o τ F (qRanked w z).1)) (XXc E noX) args s 0 0 (XA E)) (F0 m 11 ls []) from loop1 (8) 0 _ _ _ _ (by omega) (by omega) (by omega) (by unfold wRank; rw [Int.sub_zero]) hM hP hL (lh_sub hl rfl)
  refine nat_loop (fun i σ H locs ls hmm h0 h1 hr => absurd hmm (by omega)) (fun n ih1 i σ H locs ls hmm h0 h1 hr hM hP hL hl => ?_)
  refine lv_iload_n hx hb dX9_ranked_11 rfl (lk hl rfl) ?_
  refine lv_aload_n hx hb dX9_ranked_12 rfl (lk hl rfl) ?_
  refine x_getfield hF (ci := 10) in_X9 rfl 5 (by decide) q2256 (fun _ h => h) hM (MA_ob hP.1) (MA_f5 hP.1) dX9_ranked_13 ?_
  refine x_iconst hF dX9_ranked_16 ?_
  refine x_iald hF hM (MA_a5 hP.1) (by omega) (by omega) (by decide) (show rd _ _ _ = .int (iz (w _)) from by have h9 := MA_r5 hP.1; rw [e5] at h9; exact h9 _ (by omega) (by omega)) dX9_ranked_17 ?_
  refine x_icmp_ge (tgt := 94) hF dX9_ranked_18 (by decide) (by first | exact Rg_in hk.1 _ | assumption | (unfold inR; omega)) (by first | exact Rg_in hk.1 _ | assumption | (unfold inR; omega)) (fun c18 => ?_) (fun c18 => ?_)
  · skip
    refine lv_aload_n hx hb dX9_ranked_94 rfl (lk hl rfl) ?_
    refine x_iconst hF dX9_ranked_95 ?_
    refine x_kn hL (vx_runV (As := [_]) hF.2.2.2.2.2.2.2.2.2 ((mX9_fails hP.1) hF.1) (cwV 1 hF.2.2.2.2.2.2.2.2.1 (lw_V q2337 q2339 qs46 q138 q2340) rfl rfl rfl (by decide +kernel) ⟨(Nat.le_of_ble_eq_true rfl), (Nat.le_of_ble_eq_true rfl)⟩) (x_preV hF hM (MA_ob hP.1) rfl) rfl rfl hl.1 rfl (lv_room (Nat.le_of_ble_eq_true rfl)) dX9_ranked_96 ⟨(Nat.le_of_ble_eq_true rfl), (Nat.le_of_ble_eq_true rfl)⟩) ?_
    rintro _ τ96 H locs ⟨rfl, hp⟩ hM hL
    refine MS_gen hM (MS_t hP hp) (fun σ hM hP => ?_)
    exact x_ireturn hF hM hL rfl (Nat.le_of_ble_eq_true rfl) (Nat.le_of_ble_eq_true rfl) (by (have hfe : wRank w z = -1 := by rw [← hr]; exact fdF_e (by omega)); (have ht : qRanked w z = (1, 0) := by unfold qRanked; rw [hfe, if_pos (by omega)]); rw [ht]; exact ⟨rfl, _, hP, up2_s _ _ _ _, fun f a b c d => by rw [up2_oth _ _ _ a]; exact eo f a c d⟩) dX9_ranked_99
  · skip
    refine lv_aload_n hx hb dX9_ranked_21 rfl (lk hl rfl) ?_
    refine lv_iload_n hx hb dX9_ranked_22 rfl (lk hl rfl) ?_
    refine x_kp hL (vx_runV (As := [_]) hF.2.2.2.2.2.2.2.2.2 ((mX9_isOpen (w := w) e5 (by omega) (by omega) hk.1 hP.1) hF.1) (cwV 1 hF.2.2.2.2.2.2.2.2.1 (lw_V q2432 q2434 qs68 q138 q2435) rfl rfl rfl (by decide +kernel) ⟨(Nat.le_of_ble_eq_true rfl), (Nat.le_of_ble_eq_true rfl)⟩) (x_preV hF hM (MA_ob hP.1) rfl) rfl rfl hl.1 rfl (lv_room (Nat.le_of_ble_eq_true rfl)) dX9_ranked_23 ⟨(Nat.le_of_ble_eq_true rfl), (Nat.le_of_ble_eq_true rfl)⟩) (fun H locs hM hL => ?_)
    refine x_ifne_b (tgt := 32) hF dX9_ranked_26 (by decide) (fun c26 => ?_) (fun c26 => ?_)
    · skip
      refine x_iconst hF dX9_ranked_32 ?_
      refine x_istore_n hF dX9_ranked_33 rfl hl (by decide) rfl (fun ls hl => ?_)
      refine x_iconst hF dX9_ranked_34 ?_
      refine x_istore hF dX9_ranked_35 hl (by decide) rfl (fun ls hl => ?_)
      suffices loop2 : ∀ (n : Nat) (k : Int) (σ : Mm) (H : Heap) (locs : List Loc) (ls : Array Slot), w 0 - k < (n : Int) → (0 ≤ k) → (k ≤ w 0) → Mem E s H σ → MS E σ0 o σ F1 → Lc E locs → lh ls 5 [(0, .ref o), (1, .int (iz z)), (2, .int (iz i)), (3, .int (iz (sm (fun k => if w (4 + 4 * k + 2) = 0 ∧ aheadP w (wLoadOf w) k i then 1 else 0) k))), (4, .int (iz k))] → W p l e ({ frames := 3, cells := 0, slots := 0, locals := 66 } : Room) s m args below meth c H locs 0 0 (vx_MQ below (XQc E (fun v τ => v = some (.int (iz (qRanked w z).2)) ∧ QE E σ0 o τ F (qRanked w z).1)) (XXc E noX) args s 0 0 (XA E)) (F0 m 37 ls []) from loop2 (8) 0 _ _ _ _ (by omega) (by omega) (by omega) hM hP hL (lh_sub hl rfl)
      refine nat_loop (fun k σ H locs ls hmm g0 g1 => absurd hmm (by omega)) (fun n ih2 k σ H locs ls hmm g0 g1 hM hP hL hl => ?_)
      refine lv_iload hx hb dX9_ranked_37 (lk hl rfl) ?_
      refine lv_aload_n hx hb dX9_ranked_39 rfl (lk hl rfl) ?_
      refine x_getfield hF (ci := 10) in_X9 rfl 5 (by decide) q2256 (fun _ h => h) hM (MA_ob hP.1) (MA_f5 hP.1) dX9_ranked_40 ?_
      refine x_iconst hF dX9_ranked_43 ?_
      refine x_iald hF hM (MA_a5 hP.1) (by omega) (by omega) (by decide) (show rd _ _ _ = .int (iz (w _)) from by have h9 := MA_r5 hP.1; rw [e5] at h9; exact h9 _ (by omega) (by omega)) dX9_ranked_44 ?_
      refine x_icmp_ge (tgt := 81) hF dX9_ranked_45 (by decide) (by first | exact Rg_in hk.1 _ | assumption | (unfold inR; omega)) (by first | exact Rg_in hk.1 _ | assumption | (unfold inR; omega)) (fun c45 => ?_) (fun c45 => ?_)
      · skip
        have hfa : wAhead w (wLoadOf w) i = sm (fun k => if w (4 + 4 * k + 2) = 0 ∧ aheadP w (wLoadOf w) k i then 1 else 0) k := by unfold wAhead; rw [show k = w 0 by omega]
        have hfr := sm_le (fun k => if w (4 + 4 * k + 2) = 0 ∧ aheadP w (wLoadOf w) k i then 1 else 0) (c := 1) (by omega) k (fun j _ _ => by (show 0 ≤ (if w (4 + 4 * j + 2) = 0 ∧ aheadP w (wLoadOf w) j i then (1 : Int) else 0) ∧ (if w (4 + 4 * j + 2) = 0 ∧ aheadP w (wLoadOf w) j i then (1 : Int) else 0) ≤ 1); split <;> omega) (by omega)
        refine lv_iload_n hx hb dX9_ranked_81 rfl (lk hl rfl) ?_
        refine lv_iload_n hx hb dX9_ranked_82 rfl (lk hl rfl) ?_
        refine x_icmp_ne (tgt := 88) hF dX9_ranked_83 (by decide) (by first | exact Rg_in hk.1 _ | assumption | (unfold inR; omega)) (by first | exact Rg_in hk.1 _ | assumption | (unfold inR; omega)) (fun c83 => ?_) (fun c83 => ?_)
        · skip
          refine x_iinc hF dX9_ranked_88 hl rfl (by decide) rfl (fun ls hl => ?_)
          refine x_goto (tgt := 11) hF dX9_ranked_91 (by decide) ?_
          first | exact ih1 (i + 1) _ _ _ _ (by omega) (by omega) (by omega) (by rw [← hr]; exact (fdF_f (by omega) (by simp; intro q; exact absurd q c26)).symm) hM hP hL (lh_sub hl rfl) | exact ih1 (i + 1) _ _ _ _ (by omega) (by omega) (by omega) (by rw [← hr]; exact (fdF_f (by omega) (by simp; intro q; rw [hfa]; exact c83)).symm) hM hP hL (lh_sub hl rfl)
        · skip
          refine lv_iload_n hx hb dX9_ranked_86 rfl (lk hl rfl) ?_
          exact x_ireturn hF hM hL rfl (Nat.le_of_ble_eq_true rfl) (Nat.le_of_ble_eq_true rfl) (by (have hfe : wRank w z = i := by rw [← hr]; exact fdF_t (by omega) (by simp; exact ⟨c26, hfa.trans c83⟩)); (have ht : qRanked w z = (0, i) := by unfold qRanked; rw [hfe, if_neg (by omega)]); rw [ht]; exact ⟨rfl, _, hP, e0, fun f a b c d => eo f a c d⟩) dX9_ranked_87
      · skip
        refine lv_iload_n hx hb dX9_ranked_48 rfl (lk hl rfl) ?_
        refine lv_aload_n hx hb dX9_ranked_49 rfl (lk hl rfl) ?_
        refine lv_iload hx hb dX9_ranked_50 (lk hl rfl) ?_
        refine x_kp hL (vx_runV (As := [_]) hF.2.2.2.2.2.2.2.2.2 ((mX9_isOpen (w := w) e5 (by omega) (by omega) hk.1 hP.1) hF.1) (cwV 1 hF.2.2.2.2.2.2.2.2.1 (lw_V q2432 q2434 qs68 q138 q2435) rfl rfl rfl (by decide +kernel) ⟨(Nat.le_of_ble_eq_true rfl), (Nat.le_of_ble_eq_true rfl)⟩) (x_preV hF hM (MA_ob hP.1) rfl) rfl rfl hl.1 rfl (lv_room (Nat.le_of_ble_eq_true rfl)) dX9_ranked_52 ⟨(Nat.le_of_ble_eq_true rfl), (Nat.le_of_ble_eq_true rfl)⟩) (fun H locs hM hL => ?_)
        refine x_ifeq_b (tgt := 72) hF dX9_ranked_55 (by decide) (fun c55 => ?_) (fun c55 => ?_)
        · skip
          refine x_iconst hF dX9_ranked_72 ?_
          refine x_iadd hF dX9_ranked_73 ?_
          refine x_istore_n hF dX9_ranked_74 rfl hl (by decide) rfl (fun ls hl => ?_)
          refine x_iinc hF dX9_ranked_75 hl rfl (by decide) rfl (fun ls hl => ?_)
          refine x_goto (tgt := 37) hF dX9_ranked_78 (by decide) ?_
          have e9 : sm (fun k => if w (4 + 4 * k + 2) = 0 ∧ aheadP w (wLoadOf w) k i then 1 else 0) (k + 1) = _ := sm_1 _ g0
          first | rw [show (if w (4 + 4 * k + 2) = 0 ∧ aheadP w (wLoadOf w) k i then (1 : Int) else 0) = 1 from if_pos (And.intro c55 c65)] at e9 | rw [show (if w (4 + 4 * k + 2) = 0 ∧ aheadP w (wLoadOf w) k i then (1 : Int) else 0) = 0 from if_neg (fun q => c55 q.1)] at e9 | rw [show (if w (4 + 4 * k + 2) = 0 ∧ aheadP w (wLoadOf w) k i then (1 : Int) else 0) = 0 from if_neg (fun q => c65 q.2)] at e9
          rw [← e9] at hl
          exact ih2 (k + 1) _ _ _ _ (by omega) (by omega) (by omega) hM hP hL (lh_sub hl rfl)
        · skip
          refine lv_aload_n hx hb dX9_ranked_58 rfl (lk hl rfl) ?_
          refine lv_iload hx hb dX9_ranked_59 (lk hl rfl) ?_
          refine lv_iload_n hx hb dX9_ranked_61 rfl (lk hl rfl) ?_
          refine x_kp hL (vx_runV (As := [_, _]) hF.2.2.2.2.2.2.2.2.2 ((mX9_isAhead (w := w) e5 hk e12 (wLoadOf_r hk) (by omega) (by omega) (by omega) (by omega) hP.1) hF.1) (cwV 2 hF.2.2.2.2.2.2.2.2.1 (lw_V q2619 q2621 qs93 q138 q2622) rfl rfl rfl (by decide +kernel) ⟨(Nat.le_of_ble_eq_true rfl), (Nat.le_of_ble_eq_true rfl)⟩) (x_preV hF hM (MA_ob hP.1) rfl) rfl rfl hl.1 rfl (lv_room (Nat.le_of_ble_eq_true rfl)) dX9_ranked_62 ⟨(Nat.le_of_ble_eq_true rfl), (Nat.le_of_ble_eq_true rfl)⟩) (fun H locs hM hL => ?_)
          refine x_ifeq_b (tgt := 72) hF dX9_ranked_65 (by decide) (fun c65 => ?_) (fun c65 => ?_)
          · skip
            refine x_iconst hF dX9_ranked_72 ?_
            refine x_iadd hF dX9_ranked_73 ?_
            refine x_istore_n hF dX9_ranked_74 rfl hl (by decide) rfl (fun ls hl => ?_)
            refine x_iinc hF dX9_ranked_75 hl rfl (by decide) rfl (fun ls hl => ?_)
            refine x_goto (tgt := 37) hF dX9_ranked_78 (by decide) ?_
            have e9 : sm (fun k => if w (4 + 4 * k + 2) = 0 ∧ aheadP w (wLoadOf w) k i then 1 else 0) (k + 1) = _ := sm_1 _ g0
            first | rw [show (if w (4 + 4 * k + 2) = 0 ∧ aheadP w (wLoadOf w) k i then (1 : Int) else 0) = 1 from if_pos (And.intro c55 c65)] at e9 | rw [show (if w (4 + 4 * k + 2) = 0 ∧ aheadP w (wLoadOf w) k i then (1 : Int) else 0) = 0 from if_neg (fun q => c55 q.1)] at e9 | rw [show (if w (4 + 4 * k + 2) = 0 ∧ aheadP w (wLoadOf w) k i then (1 : Int) else 0) = 0 from if_neg (fun q => c65 q.2)] at e9
            rw [← e9] at hl
            exact ih2 (k + 1) _ _ _ _ (by omega) (by omega) (by omega) hM hP hL (lh_sub hl rfl)
          · skip
            refine x_iconst hF dX9_ranked_68 ?_
            refine x_goto (tgt := 73) hF dX9_ranked_69 (by decide) ?_
            refine x_iadd hF dX9_ranked_73 ?_
            refine x_istore_n hF dX9_ranked_74 rfl hl (by decide) rfl (fun ls hl => ?_)
            refine x_iinc hF dX9_ranked_75 hl rfl (by decide) rfl (fun ls hl => ?_)
            refine x_goto (tgt := 37) hF dX9_ranked_78 (by decide) ?_
            have e9 : sm (fun k => if w (4 + 4 * k + 2) = 0 ∧ aheadP w (wLoadOf w) k i then 1 else 0) (k + 1) = _ := sm_1 _ g0
            first | rw [show (if w (4 + 4 * k + 2) = 0 ∧ aheadP w (wLoadOf w) k i then (1 : Int) else 0) = 1 from if_pos (And.intro c55 c65)] at e9 | rw [show (if w (4 + 4 * k + 2) = 0 ∧ aheadP w (wLoadOf w) k i then (1 : Int) else 0) = 0 from if_neg (fun q => c55 q.1)] at e9 | rw [show (if w (4 + 4 * k + 2) = 0 ∧ aheadP w (wLoadOf w) k i then (1 : Int) else 0) = 0 from if_neg (fun q => c65 q.2)] at e9
            rw [← e9] at hl
            exact ih2 (k + 1) _ _ _ _ (by omega) (by omega) (by omega) hM hP hL (lh_sub hl rfl)
    · skip
      refine x_goto (tgt := 88) hF dX9_ranked_29 (by decide) ?_
      refine x_iinc hF dX9_ranked_88 hl rfl (by decide) rfl (fun ls hl => ?_)
      refine x_goto (tgt := 11) hF dX9_ranked_91 (by decide) ?_
      first | exact ih1 (i + 1) _ _ _ _ (by omega) (by omega) (by omega) (by rw [← hr]; exact (fdF_f (by omega) (by simp; intro q; exact absurd q c26)).symm) hM hP hL (lh_sub hl rfl) | exact ih1 (i + 1) _ _ _ _ (by omega) (by omega) (by omega) (by rw [← hr]; exact (fdF_f (by omega) (by simp; intro q; rw [hfa]; exact c83)).symm) hM hP hL (lh_sub hl rfl)
set_option maxHeartbeats 4000000 in
set_option maxRecDepth 100000 in
/-- BakeryRingModel.unfairness()I -/
theorem mX9_unfairness {l : Launch} {E : En} {σ0 : Mm} {o : Nat} {F : Nat → Int → Int} {w : Int → Int} (hw : F 5 = w) (hk : Wk w)  (hP : MA E σ0 o F) : Ctr l E yX9_unfairness (ws_ yX9_unfairness cX9_unfairness 4 (some .int)) 3 67 0 0 [.ref o] σ0 (fun v τ => v = some (.int (iz (qUnfair w).2)) ∧ QE E σ0 o τ F (qUnfair w).1) noX := by
  refine x_head (own := RX9) (cc := cX9_unfairness) (maxL := 4) (ret := (some .int)) (by decide) rfl rfl (Nat.le_of_ble_eq_true rfl) ?_
  intro p e s m args below meth c H ls hF hname htab hM hl
  have hx := hF.2.2.1
  have hb := hF.2.2.2.1
  have hL : Lc E [] := lcNil
  have hl : lh ls 4 ([(0, .ref o)]) := hl
  refine MS_gen hM (MS_0 hP) (fun σ hM hP => ?_)
  have hk2 := hk.2.1
  refine lv_aload_n hx hb dX9_unfairness_0 rfl (lk hl rfl) ?_
  refine x_iconst hF dX9_unfairness_1 ?_
  refine x_putfield hF (ci := 10) in_X9 rfl tyX9_ok nmX9 0 (by decide) q2251 (fun _ h => h) rfl hM hL (MA_ob hP.1) (ty := .int) (by decide +kernel) rfl rfl dX9_unfairness_2 (fun H locs hM hL => ?_)
  refine MS_gen hM (MS_p0 hM hP) (fun σ hM hP => ?_)
  refine lv_aload_n hx hb dX9_unfairness_5 rfl (lk hl rfl) ?_
  refine x_kp hL (vx_runV (As := []) hF.2.2.2.2.2.2.2.2.2 ((mX9_openMany (w := w) (by rw [up2_oth _ _ _ (by decide)]; exact hw) hk.1 (by omega) (by omega) hP.1) hF.1) (cwV 0 hF.2.2.2.2.2.2.2.2.1 (lw_V q2472 q2474 qs76 q138 q2475) rfl rfl rfl (by decide +kernel) ⟨(Nat.le_of_ble_eq_true rfl), (Nat.le_of_ble_eq_true rfl)⟩) (x_preV hF hM (MA_ob hP.1) rfl) rfl rfl hl.1 rfl (lv_room (Nat.le_of_ble_eq_true rfl)) dX9_unfairness_6 ⟨(Nat.le_of_ble_eq_true rfl), (Nat.le_of_ble_eq_true rfl)⟩) (fun H locs hM hL => ?_)
  have hom := wOpenMany_r (w := w) (by omega)
  refine x_if_ne (tgt := 18) hF dX9_unfairness_9 (by decide) (by first | exact Rg_in hk.1 _ | assumption | (unfold inR; omega)) (fun c9 => ?_) (fun c9 => ?_)
  · skip
    refine x_iconst hF dX9_unfairness_18 ?_
    refine x_istore_n hF dX9_unfairness_19 rfl hl (by decide) rfl (fun ls hl => ?_)
    refine x_iconst hF dX9_unfairness_20 ?_
    refine x_istore_n hF dX9_unfairness_21 rfl hl (by decide) rfl (fun ls hl => ?_)
    refine x_iconst hF dX9_unfairness_22 ?_
    refine x_istore_n hF dX9_unfairness_23 rfl hl (by decide) rfl (fun ls hl => ?_)
    suffices loop : ∀ (n : Nat) (i : Int) (le : Int) (an : Int) (σ : Mm) (H : Heap) (locs : List Loc) (ls : Array Slot), w 0 - i < (n : Int) → (0 ≤ i) → (i ≤ w 0) → (0 ≤ le) → (le ≤ 180) → (an = 0 ∨ an = 1) → (leF w an le i (w 0 - i).toNat = leF w 0 0 0 (w 0).toNat) → Mem E s H σ → MS E σ0 o σ (up2 F 0 0 0) → Lc E locs → lh ls 4 [(0, .ref o), (1, .int (iz le)), (2, .int (iz an)), (3, .int (iz i))] → W p l e ({ frames := 3, cells := 0, slots := 0, locals := 67 } : Room) s m args below meth c H locs 0 0 (vx_MQ below (XQc E (fun v τ => v = some (.int (iz (qUnfair w).2)) ∧ QE E σ0 o τ F (qUnfair w).1)) (XXc E noX) args s 0 0 (XA E)) (F0 m 24 ls []) from loop (8) 0 0 0 _ _ _ _ (by omega) (by omega) (by omega) (by omega) (by omega) (by omega) (by rw [Int.sub_zero]) hM hP hL (lh_sub hl rfl)
    refine nat_loop (fun i le an σ H locs ls hmm h0 h1 l0 l1 a0 hr => absurd hmm (by omega)) (fun n ih i le an σ H locs ls hmm h0 h1 l0 l1 a0 hr hM hP hL hl => ?_)
    refine lv_iload_n hx hb dX9_unfairness_24 rfl (lk hl rfl) ?_
    refine lv_aload_n hx hb dX9_unfairness_25 rfl (lk hl rfl) ?_
    refine x_getfield hF (ci := 10) in_X9 rfl 5 (by decide) q2256 (fun _ h => h) hM (MA_ob hP.1) (MA_f5 hP.1) dX9_unfairness_26 ?_
    refine x_iconst hF dX9_unfairness_29 ?_
    refine x_iald hF hM (MA_a5 hP.1) (by omega) (by omega) (by decide) (show rd _ _ _ = .int (iz (w _)) from by have h9 := MA_r5 hP.1; rw [up2_oth _ _ _ (by decide), hw] at h9; exact h9 _ (by omega) (by omega)) dX9_unfairness_30 ?_
    refine x_icmp_ge (tgt := 72) hF dX9_unfairness_31 (by decide) (by first | exact Rg_in hk.1 _ | assumption | (unfold inR; omega)) (by first | exact Rg_in hk.1 _ | assumption | (unfold inR; omega)) (fun c31 => ?_) (fun c31 => ?_)
    · skip
      refine lv_aload_n hx hb dX9_unfairness_72 rfl (lk hl rfl) ?_
      refine x_kp hL (vx_runV (As := []) hF.2.2.2.2.2.2.2.2.2 ((mX9_greatestLoad (w := w) (by rw [up2_oth _ _ _ (by decide)]; exact hw) hk hP.1) hF.1) (cwV 0 hF.2.2.2.2.2.2.2.2.1 (lw_V q2599 q2601 qs92 q138 q2602) rfl rfl rfl (by decide +kernel) ⟨(Nat.le_of_ble_eq_true rfl), (Nat.le_of_ble_eq_true rfl)⟩) (x_preV hF hM (MA_ob hP.1) rfl) rfl rfl hl.1 rfl (lv_room (Nat.le_of_ble_eq_true rfl)) dX9_unfairness_73 ⟨(Nat.le_of_ble_eq_true rfl), (Nat.le_of_ble_eq_true rfl)⟩) (fun H locs hM hL => ?_)
      refine lv_iload_n hx hb dX9_unfairness_76 rfl (lk hl rfl) ?_
      refine x_isub hF dX9_unfairness_77 ?_
      exact x_ireturn hF hM hL rfl (Nat.le_of_ble_eq_true rfl) (Nat.le_of_ble_eq_true rfl) (by (have hfe : leF w 0 0 0 (w 0).toNat = le := by rw [← hr]; exact leF_e (by omega)); (have ht : qUnfair w = (0, wGreat w - le) := by unfold qUnfair; rw [hfe, if_neg (by omega)]); rw [ht]; exact ⟨rfl, QE_0 hP⟩) dX9_unfairness_78
    · skip
      have hlr := wLoadOf_r hk i
      refine lv_aload_n hx hb dX9_unfairness_34 rfl (lk hl rfl) ?_
      refine lv_iload_n hx hb dX9_unfairness_35 rfl (lk hl rfl) ?_
      refine x_kp hL (vx_runV (As := [_]) hF.2.2.2.2.2.2.2.2.2 ((mX9_isOpen (w := w) (by rw [up2_oth _ _ _ (by decide)]; exact hw) (by omega) (by omega) hk.1 hP.1) hF.1) (cwV 1 hF.2.2.2.2.2.2.2.2.1 (lw_V q2432 q2434 qs68 q138 q2435) rfl rfl rfl (by decide +kernel) ⟨(Nat.le_of_ble_eq_true rfl), (Nat.le_of_ble_eq_true rfl)⟩) (x_preV hF hM (MA_ob hP.1) rfl) rfl rfl hl.1 rfl (lv_room (Nat.le_of_ble_eq_true rfl)) dX9_unfairness_36 ⟨(Nat.le_of_ble_eq_true rfl), (Nat.le_of_ble_eq_true rfl)⟩) (fun H locs hM hL => ?_)
      refine x_ifeq_b (tgt := 66) hF dX9_unfairness_39 (by decide) (fun c39 => ?_) (fun c39 => ?_)
      · skip
        refine x_iinc hF dX9_unfairness_66 hl rfl (by decide) rfl (fun ls hl => ?_)
        refine x_goto (tgt := 24) hF dX9_unfairness_69 (by decide) ?_
        first | (exact ih (i + 1) (wLoadOf w i) 1 _ _ _ _ (by omega) (by omega) (by omega) (by omega) (by omega) (by omega) (by rw [← hr, leF_1 (i := i) (by omega)]; (first | rw [if_pos (by omega)] | rw [if_neg (by omega)] | fail); done) hM hP hL (lh_sub hl rfl)) | (exact ih (i + 1) le an _ _ _ _ (by omega) (by omega) (by omega) (by omega) (by omega) (by omega) (by rw [← hr, leF_1 (i := i) (by omega)]; (first | rw [if_pos (by omega)] | rw [if_neg (by omega)] | fail); done) hM hP hL (lh_sub hl rfl))
      · skip
        refine lv_iload_n hx hb dX9_unfairness_42 rfl (lk hl rfl) ?_
        refine x_if_eq (tgt := 58) hF dX9_unfairness_43 (by decide) (by first | exact Rg_in hk.1 _ | assumption | (unfold inR; omega)) (fun c43 => ?_) (fun c43 => ?_)
        · skip
          refine lv_aload_n hx hb dX9_unfairness_58 rfl (lk hl rfl) ?_
          refine lv_iload_n hx hb dX9_unfairness_59 rfl (lk hl rfl) ?_
          refine x_kp hL (vx_runV (As := [_]) hF.2.2.2.2.2.2.2.2.2 ((mX9_loadOf (w := w) (by rw [up2_oth _ _ _ (by decide)]; exact hw) (by omega) (by omega) hk.1 (by omega) (by omega) hP.1) hF.1) (cwV 1 hF.2.2.2.2.2.2.2.2.1 (lw_V q2536 q2538 qs87 q138 q2539) rfl rfl rfl (by decide +kernel) ⟨(Nat.le_of_ble_eq_true rfl), (Nat.le_of_ble_eq_true rfl)⟩) (x_preV hF hM (MA_ob hP.1) rfl) rfl rfl hl.1 rfl (lv_room (Nat.le_of_ble_eq_true rfl)) dX9_unfairness_60 ⟨(Nat.le_of_ble_eq_true rfl), (Nat.le_of_ble_eq_true rfl)⟩) (fun H locs hM hL => ?_)
          refine x_istore_n hF dX9_unfairness_63 rfl hl (by decide) rfl (fun ls hl => ?_)
          refine x_iconst hF dX9_unfairness_64 ?_
          refine x_istore_n hF dX9_unfairness_65 rfl hl (by decide) rfl (fun ls hl => ?_)
          refine x_iinc hF dX9_unfairness_66 hl rfl (by decide) rfl (fun ls hl => ?_)
          refine x_goto (tgt := 24) hF dX9_unfairness_69 (by decide) ?_
          first | (exact ih (i + 1) (wLoadOf w i) 1 _ _ _ _ (by omega) (by omega) (by omega) (by omega) (by omega) (by omega) (by rw [← hr, leF_1 (i := i) (by omega)]; (first | rw [if_pos (by omega)] | rw [if_neg (by omega)] | fail); done) hM hP hL (lh_sub hl rfl)) | (exact ih (i + 1) le an _ _ _ _ (by omega) (by omega) (by omega) (by omega) (by omega) (by omega) (by rw [← hr, leF_1 (i := i) (by omega)]; (first | rw [if_pos (by omega)] | rw [if_neg (by omega)] | fail); done) hM hP hL (lh_sub hl rfl))
        · skip
          refine lv_aload_n hx hb dX9_unfairness_46 rfl (lk hl rfl) ?_
          refine lv_iload_n hx hb dX9_unfairness_47 rfl (lk hl rfl) ?_
          refine x_kp hL (vx_runV (As := [_]) hF.2.2.2.2.2.2.2.2.2 ((mX9_loadOf (w := w) (by rw [up2_oth _ _ _ (by decide)]; exact hw) (by omega) (by omega) hk.1 (by omega) (by omega) hP.1) hF.1) (cwV 1 hF.2.2.2.2.2.2.2.2.1 (lw_V q2536 q2538 qs87 q138 q2539) rfl rfl rfl (by decide +kernel) ⟨(Nat.le_of_ble_eq_true rfl), (Nat.le_of_ble_eq_true rfl)⟩) (x_preV hF hM (MA_ob hP.1) rfl) rfl rfl hl.1 rfl (lv_room (Nat.le_of_ble_eq_true rfl)) dX9_unfairness_48 ⟨(Nat.le_of_ble_eq_true rfl), (Nat.le_of_ble_eq_true rfl)⟩) (fun H locs hM hL => ?_)
          refine lv_iload_n hx hb dX9_unfairness_51 rfl (lk hl rfl) ?_
          refine x_icmp_lt (tgt := 58) hF dX9_unfairness_52 (by decide) (by first | exact Rg_in hk.1 _ | assumption | (unfold inR; omega)) (by first | exact Rg_in hk.1 _ | assumption | (unfold inR; omega)) (fun c52 => ?_) (fun c52 => ?_)
          · skip
            refine lv_aload_n hx hb dX9_unfairness_58 rfl (lk hl rfl) ?_
            refine lv_iload_n hx hb dX9_unfairness_59 rfl (lk hl rfl) ?_
            refine x_kp hL (vx_runV (As := [_]) hF.2.2.2.2.2.2.2.2.2 ((mX9_loadOf (w := w) (by rw [up2_oth _ _ _ (by decide)]; exact hw) (by omega) (by omega) hk.1 (by omega) (by omega) hP.1) hF.1) (cwV 1 hF.2.2.2.2.2.2.2.2.1 (lw_V q2536 q2538 qs87 q138 q2539) rfl rfl rfl (by decide +kernel) ⟨(Nat.le_of_ble_eq_true rfl), (Nat.le_of_ble_eq_true rfl)⟩) (x_preV hF hM (MA_ob hP.1) rfl) rfl rfl hl.1 rfl (lv_room (Nat.le_of_ble_eq_true rfl)) dX9_unfairness_60 ⟨(Nat.le_of_ble_eq_true rfl), (Nat.le_of_ble_eq_true rfl)⟩) (fun H locs hM hL => ?_)
            refine x_istore_n hF dX9_unfairness_63 rfl hl (by decide) rfl (fun ls hl => ?_)
            refine x_iconst hF dX9_unfairness_64 ?_
            refine x_istore_n hF dX9_unfairness_65 rfl hl (by decide) rfl (fun ls hl => ?_)
            refine x_iinc hF dX9_unfairness_66 hl rfl (by decide) rfl (fun ls hl => ?_)
            refine x_goto (tgt := 24) hF dX9_unfairness_69 (by decide) ?_
            first | (exact ih (i + 1) (wLoadOf w i) 1 _ _ _ _ (by omega) (by omega) (by omega) (by omega) (by omega) (by omega) (by rw [← hr, leF_1 (i := i) (by omega)]; (first | rw [if_pos (by omega)] | rw [if_neg (by omega)] | fail); done) hM hP hL (lh_sub hl rfl)) | (exact ih (i + 1) le an _ _ _ _ (by omega) (by omega) (by omega) (by omega) (by omega) (by omega) (by rw [← hr, leF_1 (i := i) (by omega)]; (first | rw [if_pos (by omega)] | rw [if_neg (by omega)] | fail); done) hM hP hL (lh_sub hl rfl))
          · skip
            refine x_goto (tgt := 66) hF dX9_unfairness_55 (by decide) ?_
            refine x_iinc hF dX9_unfairness_66 hl rfl (by decide) rfl (fun ls hl => ?_)
            refine x_goto (tgt := 24) hF dX9_unfairness_69 (by decide) ?_
            first | (exact ih (i + 1) (wLoadOf w i) 1 _ _ _ _ (by omega) (by omega) (by omega) (by omega) (by omega) (by omega) (by rw [← hr, leF_1 (i := i) (by omega)]; (first | rw [if_pos (by omega)] | rw [if_neg (by omega)] | fail); done) hM hP hL (lh_sub hl rfl)) | (exact ih (i + 1) le an _ _ _ _ (by omega) (by omega) (by omega) (by omega) (by omega) (by omega) (by rw [← hr, leF_1 (i := i) (by omega)]; (first | rw [if_pos (by omega)] | rw [if_neg (by omega)] | fail); done) hM hP hL (lh_sub hl rfl))
  · skip
    refine lv_aload_n hx hb dX9_unfairness_12 rfl (lk hl rfl) ?_
    refine x_iconst hF dX9_unfairness_13 ?_
    refine x_kn hL (vx_runV (As := [_]) hF.2.2.2.2.2.2.2.2.2 ((mX9_fails hP.1) hF.1) (cwV 1 hF.2.2.2.2.2.2.2.2.1 (lw_V q2337 q2339 qs46 q138 q2340) rfl rfl rfl (by decide +kernel) ⟨(Nat.le_of_ble_eq_true rfl), (Nat.le_of_ble_eq_true rfl)⟩) (x_preV hF hM (MA_ob hP.1) rfl) rfl rfl hl.1 rfl (lv_room (Nat.le_of_ble_eq_true rfl)) dX9_unfairness_14 ⟨(Nat.le_of_ble_eq_true rfl), (Nat.le_of_ble_eq_true rfl)⟩) ?_
    rintro _ τ14 H locs ⟨rfl, hp⟩ hM hL
    refine MS_gen hM (MS_t hP hp) (fun σ hM hP => ?_)
    exact x_ireturn hF hM hL rfl (Nat.le_of_ble_eq_true rfl) (Nat.le_of_ble_eq_true rfl) (by (have ht : qUnfair w = (1, 0) := by first | (unfold qUnfair; rw [if_pos (by omega)])); rw [ht]; exact ⟨rfl, QE_1 hP⟩) dX9_unfairness_17
set_option maxHeartbeats 4000000 in
set_option maxRecDepth 100000 in
/-- BakeryRingModel.isOwn(I)Z -/
theorem mX9_isOwn {l : Launch} {E : En} {σ0 : Mm} {o : Nat} {F : Nat → Int → Int} {w : Int → Int} (hw : F 5 = w) (hk : Wk w) {z : Int} (hz : inR z) (h3 : -1000000 ≤ w 3 ∧ w 3 ≤ 1000000) (hP : MA E σ0 o F) : Ctr l E yX9_isOwn (ws_ yX9_isOwn cX9_isOwn 4 (some .boolean)) 5 116 0 0 [.ref o, .int (iz z)] σ0 (fun v τ => v = some (.int (iz (qIsOwn w z).2)) ∧ QE E σ0 o τ F (qIsOwn w z).1) noX := by
  refine x_head (own := RX9) (cc := cX9_isOwn) (maxL := 4) (ret := (some .boolean)) (by decide) rfl rfl (Nat.le_of_ble_eq_true rfl) ?_
  intro p e s m args below meth c H ls hF hname htab hM hl
  have hx := hF.2.2.1
  have hb := hF.2.2.2.1
  have hL : Lc E [] := lcNil
  have hl : lh ls 4 ([(0, .ref o), (1, .int (iz z))]) := hl
  refine MS_gen hM (MS_0 hP) (fun σ hM hP => ?_)
  have hk2 := hk.2.1
  refine lv_aload_n hx hb dX9_isOwn_0 rfl (lk hl rfl) ?_
  refine x_iconst hF dX9_isOwn_1 ?_
  refine x_putfield hF (ci := 10) in_X9 rfl tyX9_ok nmX9 0 (by decide) q2251 (fun _ h => h) rfl hM hL (MA_ob hP.1) (ty := .int) (by decide +kernel) rfl rfl dX9_isOwn_2 (fun H locs hM hL => ?_)
  refine MS_gen hM (MS_p0 hM hP) (fun σ hM hP => ?_)
  refine lv_aload_n hx hb dX9_isOwn_5 rfl (lk hl rfl) ?_
  refine lv_iload_n hx hb dX9_isOwn_6 rfl (lk hl rfl) ?_
  refine x_kp hL (vx_runV (As := [_]) hF.2.2.2.2.2.2.2.2.2 ((mX9_isBakery (w := w) (by rw [up2_oth _ _ _ (by decide)]; exact hw) hz hk.1 hP.1) hF.1) (cwV 1 hF.2.2.2.2.2.2.2.2.1 (lw_V q2377 q2379 qs55 q138 q2380) rfl rfl rfl (by decide +kernel) ⟨(Nat.le_of_ble_eq_true rfl), (Nat.le_of_ble_eq_true rfl)⟩) (x_preV hF hM (MA_ob hP.1) rfl) rfl rfl hl.1 rfl (lv_room (Nat.le_of_ble_eq_true rfl)) dX9_isOwn_7 ⟨(Nat.le_of_ble_eq_true rfl), (Nat.le_of_ble_eq_true rfl)⟩) (fun H locs hM hL => ?_)
  refine x_ifne_b (tgt := 27) hF dX9_isOwn_10 (by decide) (fun c10 => ?_) (fun c10 => ?_)
  · skip
    refine lv_aload_n hx hb dX9_isOwn_27 rfl (lk hl rfl) ?_
    refine lv_iload_n hx hb dX9_isOwn_28 rfl (lk hl rfl) ?_
    refine x_kp hL (vx_runV (As := [_]) hF.2.2.2.2.2.2.2.2.2 ((mX9_isOpen (w := w) (by rw [up2_oth _ _ _ (by decide)]; exact hw) (by omega) (by omega) hk.1 hP.1) hF.1) (cwV 1 hF.2.2.2.2.2.2.2.2.1 (lw_V q2432 q2434 qs68 q138 q2435) rfl rfl rfl (by decide +kernel) ⟨(Nat.le_of_ble_eq_true rfl), (Nat.le_of_ble_eq_true rfl)⟩) (x_preV hF hM (MA_ob hP.1) rfl) rfl rfl hl.1 rfl (lv_room (Nat.le_of_ble_eq_true rfl)) dX9_isOwn_29 ⟨(Nat.le_of_ble_eq_true rfl), (Nat.le_of_ble_eq_true rfl)⟩) (fun H locs hM hL => ?_)
    refine x_ifne_b (tgt := 37) hF dX9_isOwn_32 (by decide) (fun c32 => ?_) (fun c32 => ?_)
    · skip
      refine lv_aload_n hx hb dX9_isOwn_37 rfl (lk hl rfl) ?_
      refine lv_iload_n hx hb dX9_isOwn_38 rfl (lk hl rfl) ?_
      refine x_kp hL (vx_runV (As := [_]) hF.2.2.2.2.2.2.2.2.2 ((mX9_customersOf (w := w) (by rw [up2_oth _ _ _ (by decide)]; exact hw) hk (by omega) (by omega) hP.1) hF.1) (cwV 1 hF.2.2.2.2.2.2.2.2.1 (lw_V q2532 q2534 qs86 q138 q2535) rfl rfl rfl (by decide +kernel) ⟨(Nat.le_of_ble_eq_true rfl), (Nat.le_of_ble_eq_true rfl)⟩) (x_preV hF hM (MA_ob hP.1) rfl) rfl rfl hl.1 rfl (lv_room (Nat.le_of_ble_eq_true rfl)) dX9_isOwn_39 ⟨(Nat.le_of_ble_eq_true rfl), (Nat.le_of_ble_eq_true rfl)⟩) (fun H locs hM hL => ?_)
      refine x_istore_n hF dX9_isOwn_42 rfl hl (by decide) rfl (fun ls hl => ?_)
      refine lv_aload_n hx hb dX9_isOwn_43 rfl (lk hl rfl) ?_
      refine x_kn hL (vx_runV (As := []) hF.2.2.2.2.2.2.2.2.2 ((mX9_thinks hP.1) hF.1) (cwV 0 hF.2.2.2.2.2.2.2.2.1 (lw_V q2357 q2359 qs51 q138 q2360) rfl rfl rfl (by decide +kernel) ⟨(Nat.le_of_ble_eq_true rfl), (Nat.le_of_ble_eq_true rfl)⟩) (x_preV hF hM (MA_ob hP.1) rfl) rfl rfl hl.1 rfl (lv_room (Nat.le_of_ble_eq_true rfl)) dX9_isOwn_44 ⟨(Nat.le_of_ble_eq_true rfl), (Nat.le_of_ble_eq_true rfl)⟩) ?_
      rintro _ τ44 H locs ⟨rfl, hp⟩ hM hL
      refine MS_gen hM (MS_t hP hp) (fun σ hM hP => ?_)
      obtain ⟨F1, hP, e0, e5, e8, eo⟩ := TE_0 hw hP
      refine lv_aload_n hx hb dX9_isOwn_47 rfl (lk hl rfl) ?_
      refine lv_iload_n hx hb dX9_isOwn_48 rfl (lk hl rfl) ?_
      refine x_iconst hF dX9_isOwn_49 ?_
      refine x_kn hL (vx_runV (As := [_, _]) hF.2.2.2.2.2.2.2.2.2 ((mX9_shuts (w := w) e5 hk (by omega) (by omega) (by omega) (by omega) h3 hP.1) hF.1) (cwV 2 hF.2.2.2.2.2.2.2.2.1 (lw_V q2476 q2478 qs77 q138 q2479) rfl rfl rfl (by decide +kernel) ⟨(Nat.le_of_ble_eq_true rfl), (Nat.le_of_ble_eq_true rfl)⟩) (x_preV hF hM (MA_ob hP.1) rfl) rfl rfl hl.1 rfl (lv_room (Nat.le_of_ble_eq_true rfl)) dX9_isOwn_50 ⟨(Nat.le_of_ble_eq_true rfl), (Nat.le_of_ble_eq_true rfl)⟩) ?_
      rintro _ τ50 H locs ⟨rfl, hp⟩ hM hL
      obtain ⟨F2, hP, e0, e5, e8, eo⟩ := TE_1 hP e0 e8 eo hp
      refine x_istore_n hF dX9_isOwn_53 rfl hl (by decide) rfl (fun ls hl => ?_)
      refine lv_aload_n hx hb dX9_isOwn_54 rfl (lk hl rfl) ?_
      refine x_kn hL (vx_runV (As := []) hF.2.2.2.2.2.2.2.2.2 ((mX9_forgets hP.1) hF.1) (cwV 0 hF.2.2.2.2.2.2.2.2.1 (lw_V q2587 q2589 qs91 q138 q2590) rfl rfl rfl (by decide +kernel) ⟨(Nat.le_of_ble_eq_true rfl), (Nat.le_of_ble_eq_true rfl)⟩) (x_preV hF hM (MA_ob hP.1) rfl) rfl rfl hl.1 rfl (lv_room (Nat.le_of_ble_eq_true rfl)) dX9_isOwn_55 ⟨(Nat.le_of_ble_eq_true rfl), (Nat.le_of_ble_eq_true rfl)⟩) ?_
      rintro _ τ55 H locs ⟨rfl, hp⟩ hM hL
      refine MS_gen hM (MS_t hP hp) (fun σ hM hP => ?_)
      have hT := TE_2 e0 e8 eo hP
      refine lv_iload_n hx hb dX9_isOwn_58 rfl (lk hl rfl) ?_
      refine lv_iload_n hx hb dX9_isOwn_59 rfl (lk hl rfl) ?_
      have hkb := Wk_bk hk (b := z) (f := 2) (v := 1) (by omega) (by omega) ⟨by omega, by omega⟩ (by omega) (by omega) (by omega)
      have hwk := wAll_k hkb (-1) (by rw [wUp_o _ _ (by omega)]; exact h3)
      have hcu := sm_le (fun c => if w (79 + 6 * c + 2) = z + 1 then 1 else 0) (c := 1) (by omega) (w 1) (fun j _ _ => by (show 0 ≤ (if w (79 + 6 * j + 2) = z + 1 then (1 : Int) else 0) ∧ (if w (79 + 6 * j + 2) = z + 1 then (1 : Int) else 0) ≤ 1); split <;> omega) (by omega)
      change 0 ≤ wCust w z ∧ wCust w z ≤ 1 * w 1 at hcu
      refine x_icmp_ne (tgt := 67) hF dX9_isOwn_60 (by decide) (by first | exact Rg_in hk.1 _ | assumption | (unfold inR; omega)) (by first | exact Rg_in hk.1 _ | assumption | (unfold inR; omega)) (fun c60 => ?_) (fun c60 => ?_)
      · skip
        refine x_iconst hF dX9_isOwn_67 ?_
        exact x_ireturn hF hM hL (by rfl) (Nat.le_of_ble_eq_true rfl) (Nat.le_of_ble_eq_true rfl) (by (have ht : qIsOwn w z = (0, 0) := by first | (unfold qIsOwn; rw [if_neg (by omega), if_neg (by omega), if_neg (by omega)])); rw [ht]; exact ⟨rfl, TE_q hw hT⟩) dX9_isOwn_68
      · skip
        refine x_iconst hF dX9_isOwn_63 ?_
        refine x_goto (tgt := 68) hF dX9_isOwn_64 (by decide) ?_
        exact x_ireturn hF hM hL (by rfl) (Nat.le_of_ble_eq_true rfl) (Nat.le_of_ble_eq_true rfl) (by (have ht : qIsOwn w z = (0, 1) := by first | (unfold qIsOwn; rw [if_neg (by omega), if_neg (by omega), if_pos (by omega)])); rw [ht]; exact ⟨rfl, TE_q hw hT⟩) dX9_isOwn_68
    · skip
      refine x_iconst hF dX9_isOwn_35 ?_
      exact x_ireturn hF hM hL (by rfl) (Nat.le_of_ble_eq_true rfl) (Nat.le_of_ble_eq_true rfl) (by (have ht : qIsOwn w z = (0, 1) := by first | (unfold qIsOwn; rw [if_neg (by omega), if_pos (by omega)])); rw [ht]; exact ⟨rfl, QE_0 hP⟩) dX9_isOwn_36
  · skip
    refine lv_aload_n hx hb dX9_isOwn_13 rfl (lk hl rfl) ?_
    refine x_iconst hF dX9_isOwn_14 ?_
    refine x_kn hL (vx_runV (As := [_]) hF.2.2.2.2.2.2.2.2.2 ((mX9_fails hP.1) hF.1) (cwV 1 hF.2.2.2.2.2.2.2.2.1 (lw_V q2337 q2339 qs46 q138 q2340) rfl rfl rfl (by decide +kernel) ⟨(Nat.le_of_ble_eq_true rfl), (Nat.le_of_ble_eq_true rfl)⟩) (x_preV hF hM (MA_ob hP.1) rfl) rfl rfl hl.1 rfl (lv_room (Nat.le_of_ble_eq_true rfl)) dX9_isOwn_15 ⟨(Nat.le_of_ble_eq_true rfl), (Nat.le_of_ble_eq_true rfl)⟩) ?_
    rintro _ τ15 H locs ⟨rfl, hp⟩ hM hL
    refine MS_gen hM (MS_t hP hp) (fun σ hM hP => ?_)
    refine x_if_le (tgt := 25) hF dX9_isOwn_18 (by decide) (by first | exact Rg_in hk.1 _ | assumption | (unfold inR; omega)) (fun c18 => ?_) (fun c18 => ?_)
    · skip
      refine x_iconst hF dX9_isOwn_25 ?_
      exact x_ireturn hF hM hL (by rfl) (Nat.le_of_ble_eq_true rfl) (Nat.le_of_ble_eq_true rfl) (by (have ht : qIsOwn w z = (1, 0) := by first | (unfold qIsOwn; rw [if_pos (by omega)])); rw [ht]; exact ⟨rfl, QE_1 hP⟩) dX9_isOwn_26
    · skip
      exact absurd c18 (by omega)
set_option maxHeartbeats 4000000 in
set_option maxRecDepth 100000 in
/-- BakeryRingModel.loadsAll()I -/
theorem mX9_loadsAll {l : Launch} {E : En} {σ0 : Mm} {o : Nat} {F : Nat → Int → Int} {w : Int → Int} (hw : F 5 = w) (hk : Wk w)  (hP : MA E σ0 o F) : Ctr l E yX9_loadsAll (ws_ yX9_loadsAll cX9_loadsAll 3 (some .int)) 2 45 0 0 [.ref o] σ0 (fun v τ => v = some (.int (iz (wLoads w))) ∧ τ = σ0) noX := by
  refine x_head (own := RX9) (cc := cX9_loadsAll) (maxL := 3) (ret := (some .int)) (by decide) rfl rfl (Nat.le_of_ble_eq_true rfl) ?_
  intro p e s m args below meth c H ls hF hname htab hM hl
  have hx := hF.2.2.1
  have hb := hF.2.2.2.1
  have hL : Lc E [] := lcNil
  have hl : lh ls 3 ([(0, .ref o)]) := hl
  have hk2 := hk.2.1
  refine x_iconst hF dX9_loadsAll_0 ?_
  refine x_istore_n hF dX9_loadsAll_1 rfl hl (by decide) rfl (fun ls hl => ?_)
  refine x_iconst hF dX9_loadsAll_2 ?_
  refine x_istore_n hF dX9_loadsAll_3 rfl hl (by decide) rfl (fun ls hl => ?_)
  suffices loop : ∀ (n : Nat) (i : Int) (H : Heap) (locs : List Loc) (ls : Array Slot), w 0 - i < (n : Int) → (0 ≤ i) → (i ≤ w 0) → Mem E s H σ0 → Lc E locs → lh ls 3 [(0, .ref o), (1, .int (iz (sm (wLoadOf w) i))), (2, .int (iz i))] → W p l e ({ frames := 2, cells := 0, slots := 0, locals := 45 } : Room) s m args below meth c H locs 0 0 (vx_MQ below (XQc E (fun v τ => v = some (.int (iz (wLoads w))) ∧ τ = σ0)) (XXc E noX) args s 0 0 (XA E)) (F0 m 4 ls []) from loop (8) 0 _ _ _ (by omega) (by omega) (by omega) hM hL (lh_sub hl rfl)
  refine nat_loop (fun i H locs ls hmm h0 h1 => absurd hmm (by omega)) (fun n ih i H locs ls hmm h0 h1 hM hL hl => ?_)
  refine lv_iload_n hx hb dX9_loadsAll_4 rfl (lk hl rfl) ?_
  refine lv_aload_n hx hb dX9_loadsAll_5 rfl (lk hl rfl) ?_
  refine x_getfield hF (ci := 10) in_X9 rfl 5 (by decide) q2256 (fun _ h => h) hM (MA_ob hP) (MA_f5 hP) dX9_loadsAll_6 ?_
  refine x_iconst hF dX9_loadsAll_9 ?_
  refine x_iald hF hM (MA_a5 hP) (by omega) (by omega) (by decide) (show rd _ _ _ = .int (iz (w _)) from by have h9 := MA_r5 hP; rw [hw] at h9; exact h9 _ (by omega) (by omega)) dX9_loadsAll_10 ?_
  refine x_icmp_ge (tgt := 28) hF dX9_loadsAll_11 (by decide) (by first | exact Rg_in hk.1 _ | assumption | (unfold inR; omega)) (by first | exact Rg_in hk.1 _ | assumption | (unfold inR; omega)) (fun c11 => ?_) (fun c11 => ?_)
  · skip
    refine lv_iload_n hx hb dX9_loadsAll_28 rfl (lk hl rfl) ?_
    exact x_ireturn hF hM hL rfl (Nat.le_of_ble_eq_true rfl) (Nat.le_of_ble_eq_true rfl) ⟨by unfold wLoads; rw [show i = w 0 by omega], rfl⟩ dX9_loadsAll_29
  · skip
    refine lv_iload_n hx hb dX9_loadsAll_14 rfl (lk hl rfl) ?_
    refine lv_aload_n hx hb dX9_loadsAll_15 rfl (lk hl rfl) ?_
    refine lv_iload_n hx hb dX9_loadsAll_16 rfl (lk hl rfl) ?_
    refine x_kp hL (vx_runV (As := [_]) hF.2.2.2.2.2.2.2.2.2 ((mX9_loadOf (w := w) hw (by omega) (by omega) hk.1 (by omega) (by omega) hP) hF.1) (cwV 1 hF.2.2.2.2.2.2.2.2.1 (lw_V q2536 q2538 qs87 q138 q2539) rfl rfl rfl (by decide +kernel) ⟨(Nat.le_of_ble_eq_true rfl), (Nat.le_of_ble_eq_true rfl)⟩) (x_preV hF hM (MA_ob hP) rfl) rfl rfl hl.1 rfl (lv_room (Nat.le_of_ble_eq_true rfl)) dX9_loadsAll_17 ⟨(Nat.le_of_ble_eq_true rfl), (Nat.le_of_ble_eq_true rfl)⟩) (fun H locs hM hL => ?_)
    refine x_iadd hF dX9_loadsAll_20 ?_
    refine x_istore_n hF dX9_loadsAll_21 rfl hl (by decide) rfl (fun ls hl => ?_)
    refine x_iinc hF dX9_loadsAll_22 hl rfl (by decide) rfl (fun ls hl => ?_)
    refine x_goto (tgt := 4) hF dX9_loadsAll_25 (by decide) ?_
    rw [← sm_1 (wLoadOf w) h0] at hl
    exact ih (i + 1) _ _ _ (by omega) (by omega) (by omega) hM hL (lh_sub hl rfl)
set_option maxHeartbeats 4000000 in
set_option maxRecDepth 100000 in
/-- BakeryRingModel.customersThat(II)I -/
theorem mX9_customersThat {l : Launch} {E : En} {σ0 : Mm} {o : Nat} {F : Nat → Int → Int} {w : Int → Int} (hw : F 5 = w) (hk : Wk w) {z a : Int} (hz0 : 0 ≤ z) (hz1 : z < 6) (ha : inR a) (hP : MA E σ0 o F) : Ctr l E yX9_customersThat (ws_ yX9_customersThat cX9_customersThat 5 (some .int)) 1 22 0 0 [.ref o, .int (iz z), .int (iz a)] σ0 (fun v τ => v = some (.int (iz (wThat w z a))) ∧ τ = σ0) noX := by
  refine x_head (own := RX9) (cc := cX9_customersThat) (maxL := 5) (ret := (some .int)) (by decide) rfl rfl (Nat.le_of_ble_eq_true rfl) ?_
  intro p e s m args below meth c H ls hF hname htab hM hl
  have hx := hF.2.2.1
  have hb := hF.2.2.2.1
  have hL : Lc E [] := lcNil
  have hl : lh ls 5 ([(0, .ref o), (1, .int (iz z)), (2, .int (iz a))]) := hl
  have hk2 := hk.2.1
  refine x_iconst hF dX9_customersThat_0 ?_
  refine x_istore_n hF dX9_customersThat_1 rfl hl (by decide) rfl (fun ls hl => ?_)
  refine x_iconst hF dX9_customersThat_2 ?_
  refine x_istore hF dX9_customersThat_3 hl (by decide) rfl (fun ls hl => ?_)
  suffices loop : ∀ (n : Nat) (i : Int) (H : Heap) (locs : List Loc) (ls : Array Slot), w 1 - i < (n : Int) → (0 ≤ i) → (i ≤ w 1) → Mem E s H σ0 → Lc E locs → lh ls 5 [(0, .ref o), (1, .int (iz z)), (2, .int (iz a)), (3, .int (iz (sm (fun c => if w (79 + 6 * c + z) = a then 1 else 0) i))), (4, .int (iz i))] → W p l e ({ frames := 1, cells := 0, slots := 0, locals := 22 } : Room) s m args below meth c H locs 0 0 (vx_MQ below (XQc E (fun v τ => v = some (.int (iz (wThat w z a))) ∧ τ = σ0)) (XXc E noX) args s 0 0 (XA E)) (F0 m 5 ls []) from loop (22) 0 _ _ _ (by omega) (by omega) (by omega) hM hL (lh_sub hl rfl)
  refine nat_loop (fun i H locs ls hmm h0 h1 => absurd hmm (by omega)) (fun n ih i H locs ls hmm h0 h1 hM hL hl => ?_)
  refine lv_iload hx hb dX9_customersThat_5 (lk hl rfl) ?_
  refine lv_aload_n hx hb dX9_customersThat_7 rfl (lk hl rfl) ?_
  refine x_getfield hF (ci := 10) in_X9 rfl 5 (by decide) q2256 (fun _ h => h) hM (MA_ob hP) (MA_f5 hP) dX9_customersThat_8 ?_
  refine x_iconst hF dX9_customersThat_11 ?_
  refine x_iald hF hM (MA_a5 hP) (by omega) (by omega) (by decide) (show rd _ _ _ = .int (iz (w _)) from by have h9 := MA_r5 hP; rw [hw] at h9; exact h9 _ (by omega) (by omega)) dX9_customersThat_12 ?_
  refine x_icmp_ge (tgt := 41) hF dX9_customersThat_13 (by decide) (by first | exact Rg_in hk.1 _ | assumption | (unfold inR; omega)) (by first | exact Rg_in hk.1 _ | assumption | (unfold inR; omega)) (fun c13 => ?_) (fun c13 => ?_)
  · skip
    refine lv_iload_n hx hb dX9_customersThat_41 rfl (lk hl rfl) ?_
    exact x_ireturn hF hM hL rfl (Nat.le_of_ble_eq_true rfl) (Nat.le_of_ble_eq_true rfl) ⟨by unfold wThat; rw [show i = w 1 by omega], rfl⟩ dX9_customersThat_42
  · skip
    refine lv_iload_n hx hb dX9_customersThat_16 rfl (lk hl rfl) ?_
    refine lv_aload_n hx hb dX9_customersThat_17 rfl (lk hl rfl) ?_
    refine lv_iload hx hb dX9_customersThat_18 (lk hl rfl) ?_
    refine lv_iload_n hx hb dX9_customersThat_20 rfl (lk hl rfl) ?_
    refine x_kp hL (vx_runV (As := [_, _]) hF.2.2.2.2.2.2.2.2.2 ((mX9_of (w := w) hw (by omega) (by omega) hP) hF.1) (cwV 2 hF.2.2.2.2.2.2.2.2.1 (lw_V q2420 q2422 qs65 q138 q2423) rfl rfl rfl (by decide +kernel) ⟨(Nat.le_of_ble_eq_true rfl), (Nat.le_of_ble_eq_true rfl)⟩) (x_preV hF hM (MA_ob hP) rfl) rfl rfl hl.1 rfl (lv_room (Nat.le_of_ble_eq_true rfl)) dX9_customersThat_21 ⟨(Nat.le_of_ble_eq_true rfl), (Nat.le_of_ble_eq_true rfl)⟩) (fun H locs hM hL => ?_)
    refine lv_iload_n hx hb dX9_customersThat_24 rfl (lk hl rfl) ?_
    refine x_icmp_ne (tgt := 32) hF dX9_customersThat_25 (by decide) (by first | exact Rg_in hk.1 _ | assumption | (unfold inR; omega)) (by first | exact Rg_in hk.1 _ | assumption | (unfold inR; omega)) (fun c25 => ?_) (fun c25 => ?_)
    · skip
      refine x_iconst hF dX9_customersThat_32 ?_
      refine x_iadd hF dX9_customersThat_33 ?_
      refine x_istore_n hF dX9_customersThat_34 rfl hl (by decide) rfl (fun ls hl => ?_)
      refine x_iinc hF dX9_customersThat_35 hl rfl (by decide) rfl (fun ls hl => ?_)
      refine x_goto (tgt := 5) hF dX9_customersThat_38 (by decide) ?_
      have e9 : sm (fun c => if w (79 + 6 * c + z) = a then 1 else 0) (i + 1) = _ := sm_1 _ h0
      first | rw [show (if w (79 + 6 * i + z) = a then (1 : Int) else 0) = (1 : Int) from if_pos c25] at e9 | rw [show (if w (79 + 6 * i + z) = a then (1 : Int) else 0) = 0 from if_neg c25] at e9
      rw [← e9] at hl
      exact ih (i + 1) _ _ _ (by omega) (by omega) (by omega) hM hL (lh_sub hl rfl)
    · skip
      refine x_iconst hF dX9_customersThat_28 ?_
      refine x_goto (tgt := 33) hF dX9_customersThat_29 (by decide) ?_
      refine x_iadd hF dX9_customersThat_33 ?_
      refine x_istore_n hF dX9_customersThat_34 rfl hl (by decide) rfl (fun ls hl => ?_)
      refine x_iinc hF dX9_customersThat_35 hl rfl (by decide) rfl (fun ls hl => ?_)
      refine x_goto (tgt := 5) hF dX9_customersThat_38 (by decide) ?_
      have e9 : sm (fun c => if w (79 + 6 * c + z) = a then 1 else 0) (i + 1) = _ := sm_1 _ h0
      first | rw [show (if w (79 + 6 * i + z) = a then (1 : Int) else 0) = (1 : Int) from if_pos c25] at e9 | rw [show (if w (79 + 6 * i + z) = a then (1 : Int) else 0) = 0 from if_neg c25] at e9
      rw [← e9] at hl
      exact ih (i + 1) _ _ _ (by omega) (by omega) (by omega) hM hL (lh_sub hl rfl)
set_option maxHeartbeats 4000000 in
set_option maxRecDepth 100000 in
/-- BakeryRingModel.loavesAll()I -/
theorem mX9_loavesAll {l : Launch} {E : En} {σ0 : Mm} {o : Nat} {F : Nat → Int → Int} {w : Int → Int} (hw : F 5 = w) (hk : Wk w)  (hP : MA E σ0 o F) : Ctr l E yX9_loavesAll (ws_ yX9_loavesAll cX9_loavesAll 3 (some .int)) 1 22 0 0 [.ref o] σ0 (fun v τ => v = some (.int (iz (wLoaves w))) ∧ τ = σ0) noX := by
  refine x_head (own := RX9) (cc := cX9_loavesAll) (maxL := 3) (ret := (some .int)) (by decide) rfl rfl (Nat.le_of_ble_eq_true rfl) ?_
  intro p e s m args below meth c H ls hF hname htab hM hl
  have hx := hF.2.2.1
  have hb := hF.2.2.2.1
  have hL : Lc E [] := lcNil
  have hl : lh ls 3 ([(0, .ref o)]) := hl
  have hk2 := hk.2.1
  refine x_iconst hF dX9_loavesAll_0 ?_
  refine x_istore_n hF dX9_loavesAll_1 rfl hl (by decide) rfl (fun ls hl => ?_)
  refine x_iconst hF dX9_loavesAll_2 ?_
  refine x_istore_n hF dX9_loavesAll_3 rfl hl (by decide) rfl (fun ls hl => ?_)
  suffices loop : ∀ (n : Nat) (i : Int) (H : Heap) (locs : List Loc) (ls : Array Slot), w 1 - i < (n : Int) → (0 ≤ i) → (i ≤ w 1) → Mem E s H σ0 → Lc E locs → lh ls 3 [(0, .ref o), (1, .int (iz (sm (fun c => w (79 + 6 * c + 1)) i))), (2, .int (iz i))] → W p l e ({ frames := 1, cells := 0, slots := 0, locals := 22 } : Room) s m args below meth c H locs 0 0 (vx_MQ below (XQc E (fun v τ => v = some (.int (iz (wLoaves w))) ∧ τ = σ0)) (XXc E noX) args s 0 0 (XA E)) (F0 m 4 ls []) from loop (22) 0 _ _ _ (by omega) (by omega) (by omega) hM hL (lh_sub hl rfl)
  refine nat_loop (fun i H locs ls hmm h0 h1 => absurd hmm (by omega)) (fun n ih i H locs ls hmm h0 h1 hM hL hl => ?_)
  refine lv_iload_n hx hb dX9_loavesAll_4 rfl (lk hl rfl) ?_
  refine lv_aload_n hx hb dX9_loavesAll_5 rfl (lk hl rfl) ?_
  refine x_getfield hF (ci := 10) in_X9 rfl 5 (by decide) q2256 (fun _ h => h) hM (MA_ob hP) (MA_f5 hP) dX9_loavesAll_6 ?_
  refine x_iconst hF dX9_loavesAll_9 ?_
  refine x_iald hF hM (MA_a5 hP) (by omega) (by omega) (by decide) (show rd _ _ _ = .int (iz (w _)) from by have h9 := MA_r5 hP; rw [hw] at h9; exact h9 _ (by omega) (by omega)) dX9_loavesAll_10 ?_
  refine x_icmp_ge (tgt := 29) hF dX9_loavesAll_11 (by decide) (by first | exact Rg_in hk.1 _ | assumption | (unfold inR; omega)) (by first | exact Rg_in hk.1 _ | assumption | (unfold inR; omega)) (fun c11 => ?_) (fun c11 => ?_)
  · skip
    refine lv_iload_n hx hb dX9_loavesAll_29 rfl (lk hl rfl) ?_
    exact x_ireturn hF hM hL rfl (Nat.le_of_ble_eq_true rfl) (Nat.le_of_ble_eq_true rfl) ⟨by unfold wLoaves; rw [show i = w 1 by omega], rfl⟩ dX9_loavesAll_30
  · skip
    refine lv_iload_n hx hb dX9_loavesAll_14 rfl (lk hl rfl) ?_
    refine lv_aload_n hx hb dX9_loavesAll_15 rfl (lk hl rfl) ?_
    refine lv_iload_n hx hb dX9_loavesAll_16 rfl (lk hl rfl) ?_
    refine x_iconst hF dX9_loavesAll_17 ?_
    refine x_kp hL (vx_runV (As := [_, _]) hF.2.2.2.2.2.2.2.2.2 ((mX9_of (w := w) hw (by omega) (by omega) hP) hF.1) (cwV 2 hF.2.2.2.2.2.2.2.2.1 (lw_V q2420 q2422 qs65 q138 q2423) rfl rfl rfl (by decide +kernel) ⟨(Nat.le_of_ble_eq_true rfl), (Nat.le_of_ble_eq_true rfl)⟩) (x_preV hF hM (MA_ob hP) rfl) rfl rfl hl.1 rfl (lv_room (Nat.le_of_ble_eq_true rfl)) dX9_loavesAll_18 ⟨(Nat.le_of_ble_eq_true rfl), (Nat.le_of_ble_eq_true rfl)⟩) (fun H locs hM hL => ?_)
    refine x_iadd hF dX9_loavesAll_21 ?_
    refine x_istore_n hF dX9_loavesAll_22 rfl hl (by decide) rfl (fun ls hl => ?_)
    refine x_iinc hF dX9_loavesAll_23 hl rfl (by decide) rfl (fun ls hl => ?_)
    refine x_goto (tgt := 4) hF dX9_loavesAll_26 (by decide) ?_
    have e9 : sm (fun c => w (79 + 6 * c + 1)) (i + 1) = sm (fun c => w (79 + 6 * c + 1)) i + w (79 + 6 * i + 1) := sm_1 _ h0
    rw [← e9] at hl
    exact ih (i + 1) _ _ _ (by omega) (by omega) (by omega) hM hL (lh_sub hl rfl)
set_option maxHeartbeats 4000000 in
set_option maxRecDepth 100000 in
/-- BakeryRingModel.overloadedMany()I -/
theorem mX9_overloadedMany {l : Launch} {E : En} {σ0 : Mm} {o : Nat} {F : Nat → Int → Int} {w : Int → Int} (hw : F 5 = w) (hk : Wk w)  (hP : MA E σ0 o F) : Ctr l E yX9_overloadedMany (ws_ yX9_overloadedMany cX9_overloadedMany 3 (some .int)) 3 66 0 0 [.ref o] σ0 (fun v τ => v = some (.int (iz (wOverM w))) ∧ τ = σ0) noX := by
  refine x_head (own := RX9) (cc := cX9_overloadedMany) (maxL := 3) (ret := (some .int)) (by decide) rfl rfl (Nat.le_of_ble_eq_true rfl) ?_
  intro p e s m args below meth c H ls hF hname htab hM hl
  have hx := hF.2.2.1
  have hb := hF.2.2.2.1
  have hL : Lc E [] := lcNil
  have hl : lh ls 3 ([(0, .ref o)]) := hl
  have hk2 := hk.2.1
  refine x_iconst hF dX9_overloadedMany_0 ?_
  refine x_istore_n hF dX9_overloadedMany_1 rfl hl (by decide) rfl (fun ls hl => ?_)
  refine x_iconst hF dX9_overloadedMany_2 ?_
  refine x_istore_n hF dX9_overloadedMany_3 rfl hl (by decide) rfl (fun ls hl => ?_)
  suffices loop : ∀ (n : Nat) (i : Int) (H : Heap) (locs : List Loc) (ls : Array Slot), w 0 - i < (n : Int) → (0 ≤ i) → (i ≤ w 0) → Mem E s H σ0 → Lc E locs → lh ls 3 [(0, .ref o), (1, .int (iz (sm (fun b => if w (4 + 4 * b + 1) < wLoadOf w b then 1 else 0) i))), (2, .int (iz i))] → W p l e ({ frames := 3, cells := 0, slots := 0, locals := 66 } : Room) s m args below meth c H locs 0 0 (vx_MQ below (XQc E (fun v τ => v = some (.int (iz (wOverM w))) ∧ τ = σ0)) (XXc E noX) args s 0 0 (XA E)) (F0 m 4 ls []) from loop (8) 0 _ _ _ (by omega) (by omega) (by omega) hM hL (lh_sub hl rfl)
  refine nat_loop (fun i H locs ls hmm h0 h1 => absurd hmm (by omega)) (fun n ih i H locs ls hmm h0 h1 hM hL hl => ?_)
  refine lv_iload_n hx hb dX9_overloadedMany_4 rfl (lk hl rfl) ?_
  refine lv_aload_n hx hb dX9_overloadedMany_5 rfl (lk hl rfl) ?_
  refine x_getfield hF (ci := 10) in_X9 rfl 5 (by decide) q2256 (fun _ h => h) hM (MA_ob hP) (MA_f5 hP) dX9_overloadedMany_6 ?_
  refine x_iconst hF dX9_overloadedMany_9 ?_
  refine x_iald hF hM (MA_a5 hP) (by omega) (by omega) (by decide) (show rd _ _ _ = .int (iz (w _)) from by have h9 := MA_r5 hP; rw [hw] at h9; exact h9 _ (by omega) (by omega)) dX9_overloadedMany_10 ?_
  refine x_icmp_ge (tgt := 36) hF dX9_overloadedMany_11 (by decide) (by first | exact Rg_in hk.1 _ | assumption | (unfold inR; omega)) (by first | exact Rg_in hk.1 _ | assumption | (unfold inR; omega)) (fun c11 => ?_) (fun c11 => ?_)
  · skip
    refine lv_iload_n hx hb dX9_overloadedMany_36 rfl (lk hl rfl) ?_
    exact x_ireturn hF hM hL rfl (Nat.le_of_ble_eq_true rfl) (Nat.le_of_ble_eq_true rfl) ⟨by unfold wOverM; rw [show i = w 0 by omega], rfl⟩ dX9_overloadedMany_37
  · skip
    refine lv_iload_n hx hb dX9_overloadedMany_14 rfl (lk hl rfl) ?_
    refine lv_aload_n hx hb dX9_overloadedMany_15 rfl (lk hl rfl) ?_
    refine lv_iload_n hx hb dX9_overloadedMany_16 rfl (lk hl rfl) ?_
    refine x_kp hL (vx_runV (As := [_]) hF.2.2.2.2.2.2.2.2.2 ((mX9_isOverloaded (w := w) hw hk (by omega) (by omega) hP) hF.1) (cwV 1 hF.2.2.2.2.2.2.2.2.1 (lw_V q2540 q2542 qs88 q138 q2543) rfl rfl rfl (by decide +kernel) ⟨(Nat.le_of_ble_eq_true rfl), (Nat.le_of_ble_eq_true rfl)⟩) (x_preV hF hM (MA_ob hP) rfl) rfl rfl hl.1 rfl (lv_room (Nat.le_of_ble_eq_true rfl)) dX9_overloadedMany_17 ⟨(Nat.le_of_ble_eq_true rfl), (Nat.le_of_ble_eq_true rfl)⟩) (fun H locs hM hL => ?_)
    refine x_ifeq_b (tgt := 27) hF dX9_overloadedMany_20 (by decide) (fun c20 => ?_) (fun c20 => ?_)
    · skip
      refine x_iconst hF dX9_overloadedMany_27 ?_
      refine x_iadd hF dX9_overloadedMany_28 ?_
      refine x_istore_n hF dX9_overloadedMany_29 rfl hl (by decide) rfl (fun ls hl => ?_)
      refine x_iinc hF dX9_overloadedMany_30 hl rfl (by decide) rfl (fun ls hl => ?_)
      refine x_goto (tgt := 4) hF dX9_overloadedMany_33 (by decide) ?_
      have e9 : sm (fun b => if w (4 + 4 * b + 1) < wLoadOf w b then 1 else 0) (i + 1) = _ := sm_1 _ h0
      first | rw [show (if w (4 + 4 * i + 1) < wLoadOf w i then (1 : Int) else 0) = (1 : Int) from if_pos c20] at e9 | rw [show (if w (4 + 4 * i + 1) < wLoadOf w i then (1 : Int) else 0) = 0 from if_neg c20] at e9
      rw [← e9] at hl
      exact ih (i + 1) _ _ _ (by omega) (by omega) (by omega) hM hL (lh_sub hl rfl)
    · skip
      refine x_iconst hF dX9_overloadedMany_23 ?_
      refine x_goto (tgt := 28) hF dX9_overloadedMany_24 (by decide) ?_
      refine x_iadd hF dX9_overloadedMany_28 ?_
      refine x_istore_n hF dX9_overloadedMany_29 rfl hl (by decide) rfl (fun ls hl => ?_)
      refine x_iinc hF dX9_overloadedMany_30 hl rfl (by decide) rfl (fun ls hl => ?_)
      refine x_goto (tgt := 4) hF dX9_overloadedMany_33 (by decide) ?_
      have e9 : sm (fun b => if w (4 + 4 * b + 1) < wLoadOf w b then 1 else 0) (i + 1) = _ := sm_1 _ h0
      first | rw [show (if w (4 + 4 * i + 1) < wLoadOf w i then (1 : Int) else 0) = (1 : Int) from if_pos c20] at e9 | rw [show (if w (4 + 4 * i + 1) < wLoadOf w i then (1 : Int) else 0) = 0 from if_neg c20] at e9
      rw [← e9] at hl
      exact ih (i + 1) _ _ _ (by omega) (by omega) (by omega) hM hL (lh_sub hl rfl)
