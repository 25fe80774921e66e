set_option maxHeartbeats 4000000 in
set_option maxRecDepth 100000 in
/-- BakeryRingModel.keepsMind()V -/
theorem mX9_keepsMind {l : Launch} {E : En} {σ0 : Mm} {o : Nat} {F : Nat → Int → Int} (h90 : 0 ≤ F 9 0) (h98 : F 9 0 ≤ 8) (ha0 : 0 ≤ F 10 0) (ha8 : F 10 0 < 8) (hP : MA E σ0 o F) : Ctr l E yX9_keepsMind (ws_ yX9_keepsMind cX9_keepsMind 3 none) 0 0 0 0 [.ref o] σ0 (fun v τ => v = none ∧ MS E σ0 o τ (mKeep F)) noX := by
  refine x_head (own := RX9) (cc := cX9_keepsMind) (maxL := 3) (ret := none) (by decide) rfl rfl (Nat.le_of_ble_eq_true rfl) ?_
  intro p e s m args below meth c H ls hF hname htab hM hl
  have hx := hF.2.2.1
  have hb := hF.2.2.2.1
  have hL : Lc E [] := lcNil
  have hl : lh ls 3 ([(0, .ref o)]) := hl
  refine MS_gen hM (MS_0 hP) (fun σ hM hP => ?_)
  have hfc := mFc_r ha0 ha8
  have hch := mCh_r h90 h98
  refine lv_aload_n hx hb dX9_keepsMind_0 rfl (lk hl rfl) ?_
  refine x_getfield hF (ci := 10) in_X9 rfl 9 (by decide) q2260 (fun _ h => h) hM (MA_ob hP.1) (show rd _ _ _ = .int (iz (F 9 0)) from by have h9 := MA_s9 hP.1; exact h9) dX9_keepsMind_1 ?_
  refine x_bipush hF (by decide) dX9_keepsMind_4 ?_
  refine x_icmp_ne (tgt := 32) hF dX9_keepsMind_6 (by decide) (by unfold inR; omega) (by unfold inR; omega) (fun c6 => ?_) (fun c6 => ?_)
  · skip
    refine MS_gen hM (show MS E σ0 o σ (mKeep0 F) from by unfold mKeep0; rw [if_neg c6]; exact hP) (fun σ hM hP => ?_)
    refine lv_aload_n hx hb dX9_keepsMind_32 rfl (lk hl rfl) ?_
    refine x_getfield hF (ci := 10) in_X9 rfl 10 (by decide) q2261 (fun _ h => h) hM (MA_ob hP.1) (show rd _ _ _ = .int (iz (mFc F)) from by rw [MA_s10 hP.1, mKeep0_10]) dX9_keepsMind_33 ?_
    refine lv_aload_n hx hb dX9_keepsMind_36 rfl (lk hl rfl) ?_
    refine x_getfield hF (ci := 10) in_X9 rfl 9 (by decide) q2260 (fun _ h => h) hM (MA_ob hP.1) (show rd _ _ _ = .int (iz (mCh F)) from by rw [MA_s9 hP.1, mKeep0_9]) dX9_keepsMind_37 ?_
    refine x_iadd hF dX9_keepsMind_40 ?_
    refine x_bipush hF (by decide) dX9_keepsMind_41 ?_
    refine x_irem hF dX9_keepsMind_43 (by omega) (by omega) (by omega) (by omega) ?_
    refine x_istore_n hF dX9_keepsMind_44 rfl hl (by decide) rfl (fun ls hl => ?_)
    refine x_iconst hF dX9_keepsMind_45 ?_
    refine x_istore_n hF dX9_keepsMind_46 rfl hl (by decide) rfl (fun ls hl => ?_)
    suffices loop : ∀ (n : Nat) (i : Int) (σ : Mm) (H : Heap) (locs : List Loc) (ls : Array Slot), 199 - i < (n : Int) → (0 ≤ i) → (i ≤ 199) → Mem E s H σ → MS E σ0 o σ (upA (mKeep0 F) 6 (199 * ((mFc F + mCh F) % 8)) i (F 8)) → Lc E locs → lh ls 3 [(0, .ref o), (1, .int (iz ((mFc F + mCh F) % 8))), (2, .int (iz i))] → W p l e ({ frames := 0, cells := 0, slots := 0, locals := 0 } : Room) s m args below meth c H locs 0 0 (vx_MQ below (XQc E (fun v τ => v = none ∧ MS E σ0 o τ (mKeep F))) (XXc E noX) args s 0 0 (XA E)) (F0 m 47 ls []) from loop (200) 0 _ _ _ _ (by omega) (by omega) (by omega) hM (by rw [upA_0]; exact hP) hL (lh_sub hl rfl)
    refine nat_loop (fun i σ H locs ls hmm h0 h1 => absurd hmm (by omega)) (fun n ih i σ H locs ls hmm h0 h1 hM hP hL hl => ?_)
    refine lv_iload_n hx hb dX9_keepsMind_47 rfl (lk hl rfl) ?_
    refine x_sipush hF (by decide) dX9_keepsMind_48 ?_
    refine x_icmp_ge (tgt := 78) hF dX9_keepsMind_51 (by decide) (by unfold inR; omega) (by unfold inR; omega) (fun c51 => ?_) (fun c51 => ?_)
    · skip
      refine lv_aload_n hx hb dX9_keepsMind_78 rfl (lk hl rfl) ?_
      refine lv_dup hx hb dX9_keepsMind_79 rfl ?_
      refine x_getfield hF (ci := 10) in_X9 rfl 9 (by decide) q2260 (fun _ h => h) hM (MA_ob hP.1) (show rd _ _ _ = .int (iz (mCh F)) from by rw [MA_s9 hP.1, upA_f _ _ _ _ _ (by decide), mKeep0_9]) dX9_keepsMind_80 ?_
      refine x_iconst hF dX9_keepsMind_83 ?_
      refine x_iadd hF dX9_keepsMind_84 ?_
      refine x_putfield hF (ci := 10) in_X9 rfl tyX9_ok nmX9 9 (by decide) q2260 (fun _ h => h) rfl hM hL (MA_ob hP.1) (ty := .int) (by decide +kernel) rfl rfl dX9_keepsMind_85 (fun H locs hM hL => ?_)
      refine MS_gen hM (MS_p9 hM hP) (fun σ hM hP => ?_)
      exact x_return hF hM hL (Nat.le_of_ble_eq_true rfl) (Nat.le_of_ble_eq_true rfl) ⟨rfl, by (have e9 : i = 199 := by omega); subst e9; exact hP⟩ dX9_keepsMind_88
    · skip
      refine lv_aload_n hx hb dX9_keepsMind_54 rfl (lk hl rfl) ?_
      refine x_getfield hF (ci := 10) in_X9 rfl 6 (by decide) q2257 (fun _ h => h) hM (MA_ob hP.1) (MA_f6 hP.1) dX9_keepsMind_55 ?_
      refine x_sipush hF (by decide) dX9_keepsMind_58 ?_
      refine lv_iload_n hx hb dX9_keepsMind_61 rfl (lk hl rfl) ?_
      refine x_imul hF dX9_keepsMind_62 ?_
      refine lv_iload_n hx hb dX9_keepsMind_63 rfl (lk hl rfl) ?_
      refine x_iadd hF dX9_keepsMind_64 ?_
      refine lv_aload_n hx hb dX9_keepsMind_65 rfl (lk hl rfl) ?_
      refine x_getfield hF (ci := 10) in_X9 rfl 8 (by decide) q2259 (fun _ h => h) hM (MA_ob hP.1) (MA_f8 hP.1) dX9_keepsMind_66 ?_
      refine lv_iload_n hx hb dX9_keepsMind_69 rfl (lk hl rfl) ?_
      refine x_iald hF hM (MA_a8 hP.1) (by omega) (by omega) (by decide) (show rd _ _ _ = .int (iz (F 8 _)) from by rw [MA_r8 hP.1 _ (by omega) (by omega), upA_f _ _ _ _ _ (by decide), mKeep0_o F (by decide) (by decide)]) dX9_keepsMind_70 ?_
      refine x_iast hF hM hL (MA_a6 hP.1) (by omega) (by omega) (by decide) dX9_keepsMind_71 (fun H locs hM hL => ?_)
      refine MS_gen hM (by have h9 := MS_q6 hM hP (by omega); rw [upA_1 (mKeep0 F) 6 (F 8) h0 rfl] at h9; exact h9) (fun σ hM hP => ?_)
      refine x_iinc hF dX9_keepsMind_72 hl rfl (by decide) rfl (fun ls hl => ?_)
      refine x_goto (tgt := 47) hF dX9_keepsMind_75 (by decide) ?_
      exact ih (i + 1) _ _ _ _ (by omega) (by omega) (by omega) hM hP hL (lh_sub hl rfl)
  · skip
    refine lv_aload_n hx hb dX9_keepsMind_9 rfl (lk hl rfl) ?_
    refine lv_aload_n hx hb dX9_keepsMind_10 rfl (lk hl rfl) ?_
    refine x_getfield hF (ci := 10) in_X9 rfl 10 (by decide) q2261 (fun _ h => h) hM (MA_ob hP.1) (show rd _ _ _ = .int (iz (F 10 0)) from by have h9 := MA_s10 hP.1; exact h9) dX9_keepsMind_11 ?_
    refine x_iconst hF dX9_keepsMind_14 ?_
    refine x_iadd hF dX9_keepsMind_15 ?_
    refine x_bipush hF (by decide) dX9_keepsMind_16 ?_
    refine x_irem hF dX9_keepsMind_18 (by omega) (by omega) (by omega) (by omega) ?_
    refine x_putfield hF (ci := 10) in_X9 rfl tyX9_ok nmX9 10 (by decide) q2261 (fun _ h => h) rfl hM hL (MA_ob hP.1) (ty := .int) (by decide +kernel) rfl rfl dX9_keepsMind_19 (fun H locs hM hL => ?_)
    refine MS_gen hM (MS_p10 hM hP) (fun σ hM hP => ?_)
    refine lv_aload_n hx hb dX9_keepsMind_22 rfl (lk hl rfl) ?_
    refine lv_dup hx hb dX9_keepsMind_23 rfl ?_
    refine x_getfield hF (ci := 10) in_X9 rfl 9 (by decide) q2260 (fun _ h => h) hM (MA_ob hP.1) (show rd _ _ _ = .int (iz (F 9 0)) from by have h9 := MA_s9 hP.1; exact h9) dX9_keepsMind_24 ?_
    refine x_iconst hF dX9_keepsMind_27 ?_
    refine x_isub hF dX9_keepsMind_28 ?_
    refine x_putfield hF (ci := 10) in_X9 rfl tyX9_ok nmX9 9 (by decide) q2260 (fun _ h => h) rfl hM hL (MA_ob hP.1) (ty := .int) (by decide +kernel) rfl rfl dX9_keepsMind_29 (fun H locs hM hL => ?_)
    refine MS_gen hM (MS_p9 hM hP) (fun σ hM hP => ?_)
    refine MS_gen hM (show MS E σ0 o σ (mKeep0 F) from by unfold mKeep0; rw [if_pos c6]; exact hP) (fun σ hM hP => ?_)
    refine lv_aload_n hx hb dX9_keepsMind_32 rfl (lk hl rfl) ?_
    refine x_getfield hF (ci := 10) in_X9 rfl 10 (by decide) q2261 (fun _ h => h) hM (MA_ob hP.1) (show rd _ _ _ = .int (iz (mFc F)) from by rw [MA_s10 hP.1, mKeep0_10]) dX9_keepsMind_33 ?_
    refine lv_aload_n hx hb dX9_keepsMind_36 rfl (lk hl rfl) ?_
    refine x_getfield hF (ci := 10) in_X9 rfl 9 (by decide) q2260 (fun _ h => h) hM (MA_ob hP.1) (show rd _ _ _ = .int (iz (mCh F)) from by rw [MA_s9 hP.1, mKeep0_9]) dX9_keepsMind_37 ?_
    refine x_iadd hF dX9_keepsMind_40 ?_
    refine x_bipush hF (by decide) dX9_keepsMind_41 ?_
    refine x_irem hF dX9_keepsMind_43 (by omega) (by omega) (by omega) (by omega) ?_
    refine x_istore_n hF dX9_keepsMind_44 rfl hl (by decide) rfl (fun ls hl => ?_)
    refine x_iconst hF dX9_keepsMind_45 ?_
    refine x_istore_n hF dX9_keepsMind_46 rfl hl (by decide) rfl (fun ls hl => ?_)
    suffices loop : ∀ (n : Nat) (i : Int) (σ : Mm) (H : Heap) (locs : List Loc) (ls : Array Slot), 199 - i < (n : Int) → (0 ≤ i) → (i ≤ 199) → Mem E s H σ → MS E σ0 o σ (upA (mKeep0 F) 6 (199 * ((mFc F + mCh F) % 8)) i (F 8)) → Lc E locs → lh ls 3 [(0, .ref o), (1, .int (iz ((mFc F + mCh F) % 8))), (2, .int (iz i))] → W p l e ({ frames := 0, cells := 0, slots := 0, locals := 0 } : Room) s m args below meth c H locs 0 0 (vx_MQ below (XQc E (fun v τ => v = none ∧ MS E σ0 o τ (mKeep F))) (XXc E noX) args s 0 0 (XA E)) (F0 m 47 ls []) from loop (200) 0 _ _ _ _ (by omega) (by omega) (by omega) hM (by rw [upA_0]; exact hP) hL (lh_sub hl rfl)
    refine nat_loop (fun i σ H locs ls hmm h0 h1 => absurd hmm (by omega)) (fun n ih i σ H locs ls hmm h0 h1 hM hP hL hl => ?_)
    refine lv_iload_n hx hb dX9_keepsMind_47 rfl (lk hl rfl) ?_
    refine x_sipush hF (by decide) dX9_keepsMind_48 ?_
    refine x_icmp_ge (tgt := 78) hF dX9_keepsMind_51 (by decide) (by unfold inR; omega) (by unfold inR; omega) (fun c51 => ?_) (fun c51 => ?_)
    · skip
      refine lv_aload_n hx hb dX9_keepsMind_78 rfl (lk hl rfl) ?_
      refine lv_dup hx hb dX9_keepsMind_79 rfl ?_
      refine x_getfield hF (ci := 10) in_X9 rfl 9 (by decide) q2260 (fun _ h => h) hM (MA_ob hP.1) (show rd _ _ _ = .int (iz (mCh F)) from by rw [MA_s9 hP.1, upA_f _ _ _ _ _ (by decide), mKeep0_9]) dX9_keepsMind_80 ?_
      refine x_iconst hF dX9_keepsMind_83 ?_
      refine x_iadd hF dX9_keepsMind_84 ?_
      refine x_putfield hF (ci := 10) in_X9 rfl tyX9_ok nmX9 9 (by decide) q2260 (fun _ h => h) rfl hM hL (MA_ob hP.1) (ty := .int) (by decide +kernel) rfl rfl dX9_keepsMind_85 (fun H locs hM hL => ?_)
      refine MS_gen hM (MS_p9 hM hP) (fun σ hM hP => ?_)
      exact x_return hF hM hL (Nat.le_of_ble_eq_true rfl) (Nat.le_of_ble_eq_true rfl) ⟨rfl, by (have e9 : i = 199 := by omega); subst e9; exact hP⟩ dX9_keepsMind_88
    · skip
      refine lv_aload_n hx hb dX9_keepsMind_54 rfl (lk hl rfl) ?_
      refine x_getfield hF (ci := 10) in_X9 rfl 6 (by decide) q2257 (fun _ h => h) hM (MA_ob hP.1) (MA_f6 hP.1) dX9_keepsMind_55 ?_
      refine x_sipush hF (by decide) dX9_keepsMind_58 ?_
      refine lv_iload_n hx hb dX9_keepsMind_61 rfl (lk hl rfl) ?_
      refine x_imul hF dX9_keepsMind_62 ?_
      refine lv_iload_n hx hb dX9_keepsMind_63 rfl (lk hl rfl) ?_
      refine x_iadd hF dX9_keepsMind_64 ?_
      refine lv_aload_n hx hb dX9_keepsMind_65 rfl (lk hl rfl) ?_
      refine x_getfield hF (ci := 10) in_X9 rfl 8 (by decide) q2259 (fun _ h => h) hM (MA_ob hP.1) (MA_f8 hP.1) dX9_keepsMind_66 ?_
      refine lv_iload_n hx hb dX9_keepsMind_69 rfl (lk hl rfl) ?_
      refine x_iald hF hM (MA_a8 hP.1) (by omega) (by omega) (by decide) (show rd _ _ _ = .int (iz (F 8 _)) from by rw [MA_r8 hP.1 _ (by omega) (by omega), upA_f _ _ _ _ _ (by decide), mKeep0_o F (by decide) (by decide)]) dX9_keepsMind_70 ?_
      refine x_iast hF hM hL (MA_a6 hP.1) (by omega) (by omega) (by decide) dX9_keepsMind_71 (fun H locs hM hL => ?_)
      refine MS_gen hM (by have h9 := MS_q6 hM hP (by omega); rw [upA_1 (mKeep0 F) 6 (F 8) h0 rfl] at h9; exact h9) (fun σ hM hP => ?_)
      refine x_iinc hF dX9_keepsMind_72 hl rfl (by decide) rfl (fun ls hl => ?_)
      refine x_goto (tgt := 47) hF dX9_keepsMind_75 (by decide) ?_
      exact ih (i + 1) _ _ _ _ (by omega) (by omega) (by omega) hM hP hL (lh_sub hl rfl)
set_option maxHeartbeats 4000000 in
set_option maxRecDepth 100000 in
/-- BakeryRingModel.begins()V -/
theorem mX9_begins {l : Launch} {E : En} {σ0 : Mm} {o : Nat} {F : Nat → Int → Int} (h90 : 0 ≤ F 9 0) (h98 : F 9 0 ≤ 8) (ha0 : 0 ≤ F 10 0) (ha8 : F 10 0 < 8) (hP : MA E σ0 o F) : Ctr l E yX9_begins (ws_ yX9_begins cX9_begins 1 none) 1 22 0 0 [.ref o] σ0 (fun v τ => v = none ∧ MS E σ0 o τ (mBeg F)) noX := by
  refine x_head (own := RX9) (cc := cX9_begins) (maxL := 1) (ret := none) (by decide) rfl rfl (Nat.le_of_ble_eq_true rfl) ?_
  intro p e s m args below meth c H ls hF hname htab hM hl
  have hx := hF.2.2.1
  have hb := hF.2.2.2.1
  have hL : Lc E [] := lcNil
  have hl : lh ls 1 ([(0, .ref o)]) := hl
  refine MS_gen hM (MS_0 hP) (fun σ hM hP => ?_)
  refine lv_aload_n hx hb dX9_begins_0 rfl (lk hl rfl) ?_
  refine x_kn hL (vx_runV (As := []) hF.2.2.2.2.2.2.2.2.2 ((mX9_thinks hP.1) hF.1) (cwV 0 hF.2.2.2.2.2.2.2.2.1 (lw_V q2357 q2359 qs51 q138 q2360) rfl rfl rfl (by decide +kernel) ⟨(Nat.le_of_ble_eq_true rfl), (Nat.le_of_ble_eq_true rfl)⟩) (x_preV hF hM (MA_ob hP.1) rfl) rfl rfl hl.1 rfl (lv_room (Nat.le_of_ble_eq_true rfl)) dX9_begins_1 ⟨(Nat.le_of_ble_eq_true rfl), (Nat.le_of_ble_eq_true rfl)⟩) ?_
  rintro _ τ1 H locs ⟨rfl, hp⟩ hM hL
  refine MS_gen hM (MS_t hP hp) (fun σ hM hP => ?_)
  refine lv_aload_n hx hb dX9_begins_4 rfl (lk hl rfl) ?_
  refine x_kn hL (vx_runV (As := []) hF.2.2.2.2.2.2.2.2.2 ((mX9_keepsMind (F := upR F 8 199 (F 5)) h90 h98 ha0 ha8 hP.1) hF.1) (cwV 0 hF.2.2.2.2.2.2.2.2.1 (lw_V q2361 q2363 qs52 q138 q2364) rfl rfl rfl (by decide +kernel) ⟨(Nat.le_of_ble_eq_true rfl), (Nat.le_of_ble_eq_true rfl)⟩) (x_preV hF hM (MA_ob hP.1) rfl) rfl rfl hl.1 rfl (lv_room (Nat.le_of_ble_eq_true rfl)) dX9_begins_5 ⟨(Nat.le_of_ble_eq_true rfl), (Nat.le_of_ble_eq_true rfl)⟩) ?_
  rintro _ τ5 H locs ⟨rfl, hp⟩ hM hL
  refine MS_gen hM (MS_t hP hp) (fun σ hM hP => ?_)
  refine lv_aload_n hx hb dX9_begins_8 rfl (lk hl rfl) ?_
  refine x_getfield hF (ci := 10) in_X9 rfl 5 (by decide) q2256 (fun _ h => h) hM (MA_ob hP.1) (MA_f5 hP.1) dX9_begins_9 ?_
  refine x_iconst hF dX9_begins_12 ?_
  refine lv_dup2_11 hx hb dX9_begins_13 rfl rfl ?_
  refine x_iald hF hM (MA_a5 hP.1) (by omega) (by omega) (by decide) (show rd _ _ _ = .int (iz (F 5 _)) from by rw [MA_r5 hP.1 _ (by omega) (by omega), mKeep_o _ (by decide) (by decide) (by decide), upR_f _ _ _ _ (by decide)]) dX9_begins_14 ?_
  refine x_iconst hF dX9_begins_15 ?_
  refine x_iadd hF dX9_begins_16 ?_
  refine x_iast hF hM hL (MA_a5 hP.1) (by omega) (by omega) (by decide) dX9_begins_17 (fun H locs hM hL => ?_)
  refine MS_gen hM (MS_q5 hM hP (by omega)) (fun σ hM hP => ?_)
  exact x_return hF hM hL (Nat.le_of_ble_eq_true rfl) (Nat.le_of_ble_eq_true rfl) ⟨rfl, hP⟩ dX9_begins_18
set_option maxHeartbeats 4000000 in
set_option maxRecDepth 100000 in
/-- BakeryRingModel.clear()I -/
theorem mX9_clear {l : Launch} {E : En} {σ0 : Mm} {o : Nat} {F : Nat → Int → Int}  (hP : MA E σ0 o F) : Ctr l E yX9_clear (ws_ yX9_clear cX9_clear 3 (some .int)) 0 0 0 0 [.ref o] σ0 (fun v τ => v = some (.int (iz (F 5 2))) ∧ MS E σ0 o τ (mClr F)) noX := by
  refine x_head (own := RX9) (cc := cX9_clear) (maxL := 3) (ret := (some .int)) (by decide) rfl rfl (Nat.le_of_ble_eq_true rfl) ?_
  intro p e s m args below meth c H ls hF hname htab hM hl
  have hx := hF.2.2.1
  have hb := hF.2.2.2.1
  have hL : Lc E [] := lcNil
  have hl : lh ls 3 ([(0, .ref o)]) := hl
  refine MS_gen hM (MS_0 hP) (fun σ hM hP => ?_)
  refine lv_aload_n hx hb dX9_clear_0 rfl (lk hl rfl) ?_
  refine x_iconst hF dX9_clear_1 ?_
  refine x_putfield hF (ci := 10) in_X9 rfl tyX9_ok nmX9 0 (by decide) q2251 (fun _ h => h) rfl hM hL (MA_ob hP.1) (ty := .int) (by decide +kernel) rfl rfl dX9_clear_2 (fun H locs hM hL => ?_)
  refine MS_gen hM (MS_p0 hM hP) (fun σ hM hP => ?_)
  refine lv_aload_n hx hb dX9_clear_5 rfl (lk hl rfl) ?_
  refine x_getfield hF (ci := 10) in_X9 rfl 5 (by decide) q2256 (fun _ h => h) hM (MA_ob hP.1) (MA_f5 hP.1) dX9_clear_6 ?_
  refine x_iconst hF dX9_clear_9 ?_
  refine x_iald hF hM (MA_a5 hP.1) (by omega) (by omega) (by decide) (show rd _ _ _ = .int (iz (F 5 _)) from by have h9 := MA_r5 hP.1; exact h9 _ (by omega) (by omega)) dX9_clear_10 ?_
  refine x_istore_n hF dX9_clear_11 rfl hl (by decide) rfl (fun ls hl => ?_)
  refine x_iconst hF dX9_clear_12 ?_
  refine x_istore_n hF dX9_clear_13 rfl hl (by decide) rfl (fun ls hl => ?_)
  suffices loop : ∀ (n : Nat) (i : Int) (σ : Mm) (H : Heap) (locs : List Loc) (ls : Array Slot), 199 - i < (n : Int) → (0 ≤ i) → (i ≤ 199) → Mem E s H σ → MS E σ0 o σ (upR (up2 F 0 0 0) 5 i (fun _ => 0)) → Lc E locs → lh ls 3 [(0, .ref o), (1, .int (iz (F 5 2))), (2, .int (iz i))] → W p l e ({ frames := 0, cells := 0, slots := 0, locals := 0 } : Room) s m args below meth c H locs 0 0 (vx_MQ below (XQc E (fun v τ => v = some (.int (iz (F 5 2))) ∧ MS E σ0 o τ (mClr F))) (XXc E noX) args s 0 0 (XA E)) (F0 m 14 ls []) from loop (200) 0 _ _ _ _ (by omega) (by omega) (by omega) hM (by rw [upR_0]; exact hP) hL (lh_sub hl rfl)
  refine nat_loop (fun i σ H locs ls hmm h0 h1 => absurd hmm (by omega)) (fun n ih i σ H locs ls hmm h0 h1 hM hP hL hl => ?_)
  refine lv_iload_n hx hb dX9_clear_14 rfl (lk hl rfl) ?_
  refine x_sipush hF (by decide) dX9_clear_15 ?_
  refine x_icmp_ge (tgt := 34) hF dX9_clear_18 (by decide) (by unfold inR; omega) (by unfold inR; omega) (fun c18 => ?_) (fun c18 => ?_)
  · skip
    refine lv_aload_n hx hb dX9_clear_34 rfl (lk hl rfl) ?_
    refine x_iconst hF dX9_clear_35 ?_
    refine x_putfield hF (ci := 10) in_X9 rfl tyX9_ok nmX9 9 (by decide) q2260 (fun _ h => h) rfl hM hL (MA_ob hP.1) (ty := .int) (by decide +kernel) rfl rfl dX9_clear_36 (fun H locs hM hL => ?_)
    refine MS_gen hM (MS_p9 hM hP) (fun σ hM hP => ?_)
    refine lv_aload_n hx hb dX9_clear_39 rfl (lk hl rfl) ?_
    refine x_iconst hF dX9_clear_40 ?_
    refine x_putfield hF (ci := 10) in_X9 rfl tyX9_ok nmX9 10 (by decide) q2261 (fun _ h => h) rfl hM hL (MA_ob hP.1) (ty := .int) (by decide +kernel) rfl rfl dX9_clear_41 (fun H locs hM hL => ?_)
    refine MS_gen hM (MS_p10 hM hP) (fun σ hM hP => ?_)
    refine lv_iload_n hx hb dX9_clear_44 rfl (lk hl rfl) ?_
    exact x_ireturn hF hM hL rfl (Nat.le_of_ble_eq_true rfl) (Nat.le_of_ble_eq_true rfl) ⟨rfl, by (have e9 : i = 199 := by omega); subst e9; exact hP⟩ dX9_clear_45
  · skip
    refine lv_aload_n hx hb dX9_clear_21 rfl (lk hl rfl) ?_
    refine x_getfield hF (ci := 10) in_X9 rfl 5 (by decide) q2256 (fun _ h => h) hM (MA_ob hP.1) (MA_f5 hP.1) dX9_clear_22 ?_
    refine lv_iload_n hx hb dX9_clear_25 rfl (lk hl rfl) ?_
    refine x_iconst hF dX9_clear_26 ?_
    refine x_iast hF hM hL (MA_a5 hP.1) (by omega) (by omega) (by decide) dX9_clear_27 (fun H locs hM hL => ?_)
    refine MS_gen hM (by have h9 := MS_q5 hM hP (by omega); rw [upR_1 (up2 F 0 0 0) 5 (fun _ => 0) h0 rfl] at h9; exact h9) (fun σ hM hP => ?_)
    refine x_iinc hF dX9_clear_28 hl rfl (by decide) rfl (fun ls hl => ?_)
    refine x_goto (tgt := 14) hF dX9_clear_31 (by decide) ?_
    exact ih (i + 1) _ _ _ _ (by omega) (by omega) (by omega) hM hP hL (lh_sub hl rfl)
