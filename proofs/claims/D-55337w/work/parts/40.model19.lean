set_option maxHeartbeats 4000000 in
set_option maxRecDepth 100000 in
/-- BakeryRingModel.script()I -/
theorem mX9_script {l : Launch} {E : En} {σ0 : Mm} {o : Nat} {F : Nat → Int → Int} {w : Int → Int} (hw : F 5 = w) (hq : Wq w) (hw2 : 0 ≤ w 2 ∧ w 2 ≤ 1000000) (hb3 : -900000 ≤ w 3 ∧ w 3 ≤ 900000) (h90 : 0 ≤ F 9 0) (h98 : F 9 0 ≤ 8) (ha0 : 0 ≤ F 10 0) (ha8 : F 10 0 < 8) {t : Int → Int} {L : Int} (htx : F 14 = t) (hln : F 15 0 = L) (hTx : Tx t L) (hP : MA E σ0 o F) : Ctr l E yX9_script (ws_ yX9_script cX9_script 2 (some .int)) 7 160 0 0 [.ref o] σ0 (fun v τ => ((pAllF t L 61 0).1 ≠ 1 → v = some (.int (iz 0)) ∧ ∃ F1 : Nat → Int → Int, MS E σ0 o τ F1 ∧ F1 0 0 = 1 ∧ F1 17 0 = (pAllF t L 61 0).2 ∧ F1 15 0 = 0 ∧ ∀ f, f ≠ 0 → f ≠ 15 → f ≠ 16 → f ≠ 17 → f ≠ 18 → f ≠ 19 → F1 f = F f) ∧ ((pAllF t L 61 0).1 = 1 → (sRun (pList t L 61 0) (wUp w 2 (w 2 + 1)) 0).1 = 1 → v = some (.int (iz (sRun (pList t L 61 0) (wUp w 2 (w 2 + 1)) 0).2.2.1)) ∧ ∃ F1 : Nat → Int → Int, MS E σ0 o τ F1 ∧ F1 5 = (sRun (pList t L 61 0) (wUp w 2 (w 2 + 1)) 0).2.1 ∧ F1 15 0 = 0 ∧ ∀ f, f ≠ 5 → f ≠ 8 → f ≠ 12 → f ≠ 13 → f ≠ 15 → f ≠ 16 → f ≠ 18 → f ≠ 19 → f ≠ 20 → F1 f = mBeg (up2 F 0 0 0) f) ∧ ((pAllF t L 61 0).1 = 1 → (sRun (pList t L 61 0) (wUp w 2 (w 2 + 1)) 0).1 ≠ 1 → v = some (.int (iz 0)) ∧ ∃ F1 : Nat → Int → Int, MS E σ0 o τ F1 ∧ F1 0 0 = 2 ∧ F1 5 = w ∧ F1 15 0 = 0 ∧ F1 1 0 = 8 ∧ F1 1 1 = (sRun (pList t L 61 0) (wUp w 2 (w 2 + 1)) 0).2.2.2.2.1 ∧ F1 2 0 = (sRun (pList t L 61 0) (wUp w 2 (w 2 + 1)) 0).2.2.1 ∧ ((sRun (pList t L 61 0) (wUp w 2 (w 2 + 1)) 0).2.2.2.2.1 ≠ 0 → F1 2 1 = (sRun (pList t L 61 0) (wUp w 2 (w 2 + 1)) 0).2.2.2.2.2) ∧ ∀ f, f ≠ 0 → f ≠ 1 → f ≠ 2 → f ≠ 3 → f ≠ 4 → f ≠ 5 → f ≠ 8 → f ≠ 12 → f ≠ 13 → f ≠ 15 → f ≠ 16 → f ≠ 18 → f ≠ 19 → f ≠ 20 → F1 f = F f)) noX := by
  refine x_head (own := RX9) (cc := cX9_script) (maxL := 2) (ret := (some .int)) (by decide) rfl rfl (Nat.le_of_ble_eq_true rfl) ?_
  intro p e s m args below meth c H ls hF hname htab hM hl
  have hx := hF.2.2.1
  have hb := hF.2.2.2.1
  have hL : Lc E [] := lcNil
  have hl : lh ls 2 ([(0, .ref o)]) := hl
  refine MS_gen hM (MS_0 hP) (fun σ hM hP => ?_)
  refine lv_aload_n hx hb dX9_script_0 rfl (lk hl rfl) ?_
  refine x_iconst hF dX9_script_1 ?_
  refine x_putfield hF (ci := 10) in_X9 rfl tyX9_ok nmX9 0 (by decide) q2251 (fun _ h => h) rfl hM hL (MA_ob hP.1) (ty := .int) (by decide +kernel) rfl rfl dX9_script_2 (fun H locs hM hL => ?_)
  refine MS_gen hM (MS_p0 hM hP) (fun σ hM hP => ?_)
  refine lv_aload_n hx hb dX9_script_5 rfl (lk hl rfl) ?_
  refine x_kn hL (vx_runV (As := []) hF.2.2.2.2.2.2.2.2.2 ((mX9_readsAll (t := t) (L := L) ((up2_oth _ _ _ (by decide)).trans htx) ((up2_f _ _ _ _ (by decide)).trans hln) hTx hP.1) hF.1) (cwV 0 hF.2.2.2.2.2.2.2.2.1 (lw_V q2639 q2641 qs94 q138 q2642) rfl rfl rfl (by decide +kernel) ⟨(Nat.le_of_ble_eq_true rfl), (Nat.le_of_ble_eq_true rfl)⟩) (x_preV hF hM (MA_ob hP.1) rfl) rfl rfl hl.1 rfl (lv_room (Nat.le_of_ble_eq_true rfl)) dX9_script_6 ⟨(Nat.le_of_ble_eq_true rfl), (Nat.le_of_ble_eq_true rfl)⟩) ?_
  rintro _ τ6 H locs ⟨rfl, hp⟩ hM hL
  obtain ⟨F1, hP2, ep, eo⟩ := hp
  refine MS_gen hM (MS_t hP hP2) (fun σ hM hP => ?_)
  refine x_ifne_b (tgt := 31) hF dX9_script_9 (by decide) (fun c9 => ?_) (fun c9 => ?_)
  · skip
    refine lv_aload_n hx hb dX9_script_31 rfl (lk hl rfl) ?_
    refine x_kn hL (vx_runV (As := []) hF.2.2.2.2.2.2.2.2.2 ((mX9_thinks hP.1) hF.1) (cwV 0 hF.2.2.2.2.2.2.2.2.1 (lw_V q2357 q2359 qs51 q138 q2360) rfl rfl rfl (by decide +kernel) ⟨(Nat.le_of_ble_eq_true rfl), (Nat.le_of_ble_eq_true rfl)⟩) (x_preV hF hM (MA_ob hP.1) rfl) rfl rfl hl.1 rfl (lv_room (Nat.le_of_ble_eq_true rfl)) dX9_script_32 ⟨(Nat.le_of_ble_eq_true rfl), (Nat.le_of_ble_eq_true rfl)⟩) ?_
    rintro _ τ32 H locs ⟨rfl, hp⟩ hM hL
    refine MS_gen hM (MS_t hP hp) (fun σ hM hP => ?_)
    refine lv_aload_n hx hb dX9_script_35 rfl (lk hl rfl) ?_
    refine x_getfield hF (ci := 10) in_X9 rfl 5 (by decide) q2256 (fun _ h => h) hM (MA_ob hP.1) (MA_f5 hP.1) dX9_script_36 ?_
    refine x_iconst hF dX9_script_39 ?_
    refine lv_dup2_11 hx hb dX9_script_40 rfl rfl ?_
    refine x_iald hF hM (MA_a5 hP.1) (by omega) (by omega) (by decide) (show rd _ _ _ = .int (iz (w 2)) from by have h9 := MA_r5 hP.1 2 (by omega) (by omega); rw [upR_oth _ _ _ (by decide), eo 5 (by decide) (by decide) (by decide), up2_oth _ _ _ (by decide), hw] at h9; exact h9) dX9_script_41 ?_
    refine x_iconst hF dX9_script_42 ?_
    refine x_iadd hF dX9_script_43 ?_
    refine x_iast hF hM hL (MA_a5 hP.1) (by omega) (by omega) (by decide) dX9_script_44 (fun H locs hM hL => ?_)
    refine MS_gen hM (by have h9 := MS_q5 hM hP (by omega); exact h9) (fun σ hM hP => ?_)
    have h15u : F1 5 = w := by rw [eo 5 (by decide) (by decide) (by decide), up2_oth _ _ _ (by decide)]; exact hw
    have h5 : up2 (upR F1 8 199 (F1 5)) 5 2 (w 2 + 1) 5 = wUp w 2 (w 2 + 1) := by rw [up2_as, stF_s, upR_oth _ _ _ (by decide), h15u]
    have hz : ∀ f : Nat, f ≠ 5 → f ≠ 8 → up2 (upR F1 8 199 (F1 5)) 5 2 (w 2 + 1) f = F1 f := fun f a b => by rw [up2_oth _ _ _ a, upR_oth _ _ _ b]
    have hz8 : ∀ j, 0 ≤ j → j < 199 → up2 (upR F1 8 199 (F1 5)) 5 2 (w 2 + 1) 8 j = w j := fun j a b => by rw [up2_oth _ _ _ (by decide), upR_in _ _ _ a b, h15u]
    have h14 : up2 (upR F1 8 199 (F1 5)) 5 2 (w 2 + 1) 14 = t := by rw [hz 14 (by decide) (by decide), eo 14 (by decide) (by decide) (by decide), up2_oth _ _ _ (by decide)]; exact htx
    have h15 : up2 (upR F1 8 199 (F1 5)) 5 2 (w 2 + 1) 15 0 = L := by rw [hz 15 (by decide) (by decide), eo 15 (by decide) (by decide) (by decide), up2_oth _ _ _ (by decide)]; exact hln
    have hwq0 : Wq (wUp w 2 (w 2 + 1)) := ⟨Wk_23 hq.1 ⟨by omega, by omega⟩ ⟨by omega, by omega⟩, by rw [wUp_o _ _ (by decide)]; exact hq.2⟩
    refine lv_aload_n hx hb dX9_script_45 rfl (lk hl rfl) ?_
    refine x_kn hL (vx_runV (As := []) hF.2.2.2.2.2.2.2.2.2 ((mX9_doesAll (t := t) (L := L) (w0 := wUp w 2 (w 2 + 1)) h14 h15 hTx h5 hwq0 (by rw [wUp_o _ _ (by decide)]; exact hb3) c9 hP.1) hF.1) (cwV 0 hF.2.2.2.2.2.2.2.2.1 (lw_V q2671 q2673 qs102 q138 q2674) rfl rfl rfl (by decide +kernel) ⟨(Nat.le_of_ble_eq_true rfl), (Nat.le_of_ble_eq_true rfl)⟩) (x_preV hF hM (MA_ob hP.1) rfl) rfl rfl hl.1 rfl (lv_room (Nat.le_of_ble_eq_true rfl)) dX9_script_46 ⟨(Nat.le_of_ble_eq_true rfl), (Nat.le_of_ble_eq_true rfl)⟩) ?_
    rintro _ τ46 H locs ⟨rfl, hp⟩ hM hL
    obtain ⟨F3, hP2, h35, h320, ey, en, eo3⟩ := hp
    refine MS_gen hM (MS_t hP hP2) (fun σ hM hP => ?_)
    have h3z : ∀ f : Nat, f ≠ 3 → f ≠ 4 → f ≠ 5 → f ≠ 8 → f ≠ 12 → f ≠ 13 → f ≠ 16 → f ≠ 18 → f ≠ 19 → f ≠ 20 → F3 f = (up2 F 0 0 0) f := fun f a b c d e1 g h i j k => ((eo3 f a b c e1 g h i j k).trans (hz f c d)).trans (eo f h i j)
    have h38 : ∀ j, 0 ≤ j → j < 199 → F3 8 j = w j := fun j a b => by rw [eo3 8 (by decide) (by decide) (by decide) (by decide) (by decide) (by decide) (by decide) (by decide) (by decide)]; exact hz8 j a b
    have h39 : F3 9 0 = F 9 0 := by rw [h3z 9 (by decide) (by decide) (by decide) (by decide) (by decide) (by decide) (by decide) (by decide) (by decide) (by decide), up2_oth _ _ _ (by decide)]
    have h310 : F3 10 0 = F 10 0 := by rw [h3z 10 (by decide) (by decide) (by decide) (by decide) (by decide) (by decide) (by decide) (by decide) (by decide) (by decide), up2_oth _ _ _ (by decide)]
    refine x_istore_n hF dX9_script_49 rfl hl (by decide) rfl (fun ls hl => ?_)
    refine lv_aload_n hx hb dX9_script_50 rfl (lk hl rfl) ?_
    refine x_iconst hF dX9_script_51 ?_
    refine x_putfield hF (ci := 10) in_X9 rfl tyX9_ok nmX9 15 (by decide) q2266 (fun _ h => h) rfl hM hL (MA_ob hP.1) (ty := .int) (by decide +kernel) rfl rfl dX9_script_52 (fun H locs hM hL => ?_)
    refine MS_gen hM (MS_p15 hM hP) (fun σ hM hP => ?_)
    refine lv_iload_n hx hb dX9_script_55 rfl (lk hl rfl) ?_
    refine x_ifeq_b (tgt := 68) hF dX9_script_56 (by decide) (fun c56 => ?_) (fun c56 => ?_)
    · skip
      refine lv_aload_n hx hb dX9_script_68 rfl (lk hl rfl) ?_
      refine x_kn hL (vx_runV (As := []) hF.2.2.2.2.2.2.2.2.2 ((mX9_forgets hP.1) hF.1) (cwV 0 hF.2.2.2.2.2.2.2.2.1 (lw_V q2587 q2589 qs91 q138 q2590) rfl rfl rfl (by decide +kernel) ⟨(Nat.le_of_ble_eq_true rfl), (Nat.le_of_ble_eq_true rfl)⟩) (x_preV hF hM (MA_ob hP.1) rfl) rfl rfl hl.1 rfl (lv_room (Nat.le_of_ble_eq_true rfl)) dX9_script_69 ⟨(Nat.le_of_ble_eq_true rfl), (Nat.le_of_ble_eq_true rfl)⟩) ?_
      rintro _ τ69 H locs ⟨rfl, hp⟩ hM hL
      refine MS_gen hM (MS_t hP hp) (fun σ hM hP => ?_)
      refine MS_gen hM (MS_c5 (g := w) hP (fun j a b => by rw [upR_in _ _ _ a b, up2_oth _ _ _ (by decide)]; exact h38 j a b)) (fun σ hM hP => ?_)
      refine lv_aload_n hx hb dX9_script_72 rfl (lk hl rfl) ?_
      refine x_iconst hF dX9_script_73 ?_
      refine x_bipush hF (by decide) dX9_script_74 ?_
      refine lv_aload_n hx hb dX9_script_76 rfl (lk hl rfl) ?_
      refine x_getfield hF (ci := 10) in_X9 rfl 20 (by decide) q2271 (fun _ h => h) hM (MA_ob hP.1) (show rd _ _ _ = .int (iz ((sRun (pList t L 61 0) (wUp w 2 (w 2 + 1)) 0).2.2.1)) from by have h9 := MA_s20 hP.1; rw [stF_o _ _ (by decide), upR_oth _ _ _ (by decide), up2_oth _ _ _ (by decide), h320] at h9; exact h9) dX9_script_77 ?_
      refine x_kn hL (vx_runV (As := [_, _, _]) hF.2.2.2.2.2.2.2.2.2 ((mX9_keepsAt (by omega) (by omega) hP.1) hF.1) (cwV 3 hF.2.2.2.2.2.2.2.2.1 (lw_V q2349 q2351 qs49 q138 q2352) rfl rfl rfl (by decide +kernel) ⟨(Nat.le_of_ble_eq_true rfl), (Nat.le_of_ble_eq_true rfl)⟩) (x_preV hF hM (MA_ob hP.1) rfl) rfl rfl hl.1 rfl (lv_room (Nat.le_of_ble_eq_true rfl)) dX9_script_80 ⟨(Nat.le_of_ble_eq_true rfl), (Nat.le_of_ble_eq_true rfl)⟩) ?_
      rintro _ τ80 H locs ⟨rfl, hp⟩ hM hL
      refine MS_gen hM (MS_t hP hp) (fun σ hM hP => ?_)
      refine lv_aload_n hx hb dX9_script_83 rfl (lk hl rfl) ?_
      refine x_iconst hF dX9_script_84 ?_
      refine lv_aload_n hx hb dX9_script_85 rfl (lk hl rfl) ?_
      refine x_getfield hF (ci := 10) in_X9 rfl 3 (by decide) q2254 (fun _ h => h) hM (MA_ob hP.1) (show rd _ _ _ = .int (iz ((sRun (pList t L 61 0) (wUp w 2 (w 2 + 1)) 0).2.2.2.2.1)) from by have h9 := MA_s3 hP.1; rw [up2_oth _ _ _ (by decide), up2_oth _ _ _ (by decide), stF_o _ _ (by decide), upR_oth _ _ _ (by decide), up2_oth _ _ _ (by decide), (en c56).1] at h9; exact h9) dX9_script_86 ?_
      refine lv_aload_n hx hb dX9_script_89 rfl (lk hl rfl) ?_
      refine x_getfield hF (ci := 10) in_X9 rfl 4 (by decide) q2255 (fun _ h => h) hM (MA_ob hP.1) (show rd _ _ _ = .int (iz (F3 4 0)) from by have h9 := MA_s4 hP.1; rw [up2_oth _ _ _ (by decide), up2_oth _ _ _ (by decide), stF_o _ _ (by decide), upR_oth _ _ _ (by decide), up2_oth _ _ _ (by decide)] at h9; exact h9) dX9_script_90 ?_
      refine x_kn hL (vx_runV (As := [_, _, _]) hF.2.2.2.2.2.2.2.2.2 ((mX9_keepsAt (by omega) (by omega) hP.1) hF.1) (cwV 3 hF.2.2.2.2.2.2.2.2.1 (lw_V q2349 q2351 qs49 q138 q2352) rfl rfl rfl (by decide +kernel) ⟨(Nat.le_of_ble_eq_true rfl), (Nat.le_of_ble_eq_true rfl)⟩) (x_preV hF hM (MA_ob hP.1) rfl) rfl rfl hl.1 rfl (lv_room (Nat.le_of_ble_eq_true rfl)) dX9_script_93 ⟨(Nat.le_of_ble_eq_true rfl), (Nat.le_of_ble_eq_true rfl)⟩) ?_
      rintro _ τ93 H locs ⟨rfl, hp⟩ hM hL
      refine MS_gen hM (MS_t hP hp) (fun σ hM hP => ?_)
      refine lv_aload_n hx hb dX9_script_96 rfl (lk hl rfl) ?_
      refine x_iconst hF dX9_script_97 ?_
      refine x_kn hL (vx_runV (As := [_]) hF.2.2.2.2.2.2.2.2.2 ((mX9_fails hP.1) hF.1) (cwV 1 hF.2.2.2.2.2.2.2.2.1 (lw_V q2337 q2339 qs46 q138 q2340) rfl rfl rfl (by decide +kernel) ⟨(Nat.le_of_ble_eq_true rfl), (Nat.le_of_ble_eq_true rfl)⟩) (x_preV hF hM (MA_ob hP.1) rfl) rfl rfl hl.1 rfl (lv_room (Nat.le_of_ble_eq_true rfl)) dX9_script_98 ⟨(Nat.le_of_ble_eq_true rfl), (Nat.le_of_ble_eq_true rfl)⟩) ?_
      rintro _ τ98 H locs ⟨rfl, hp⟩ hM hL
      refine MS_gen hM (MS_t hP hp) (fun σ hM hP => ?_)
      exact x_ireturn hF hM hL rfl (Nat.le_of_ble_eq_true rfl) (Nat.le_of_ble_eq_true rfl) ⟨fun q => absurd c9 q, fun _ q => absurd q c56, fun _ _ => ⟨rfl, _, hP, up2_s _ _ _ _, by rw [up2_oth _ _ _ (by decide), up2_oth _ _ _ (by decide), up2_oth _ _ _ (by decide), up2_oth _ _ _ (by decide), up2_oth _ _ _ (by decide), stF_s], by rw [up2_oth _ _ _ (by decide), up2_oth _ _ _ (by decide), up2_oth _ _ _ (by decide), up2_oth _ _ _ (by decide), up2_oth _ _ _ (by decide), stF_o _ _ (by decide), upR_oth _ _ _ (by decide), up2_s], by rw [up2_oth _ _ _ (by decide), up2_oth _ _ _ (by decide), up2_k _ _ _ _ (by decide), up2_oth _ _ _ (by decide), up2_s], by rw [up2_oth _ _ _ (by decide), up2_oth _ _ _ (by decide), up2_s], by rw [up2_oth _ _ _ (by decide), up2_k _ _ _ _ (by decide), up2_oth _ _ _ (by decide), up2_s], fun h9 => by rw [up2_oth _ _ _ (by decide), up2_s]; exact (en c56).2 h9, fun f a b c d e1 g h i j k r s x y => by rw [up2_oth _ _ _ a, up2_oth _ _ _ c, up2_oth _ _ _ b, up2_oth _ _ _ c, up2_oth _ _ _ b, stF_o _ _ g, upR_oth _ _ _ g, up2_oth _ _ _ k, h3z f d e1 g h i j r s x y, up2_oth _ _ _ a]⟩⟩ dX9_script_101
    · skip
      refine lv_aload_n hx hb dX9_script_59 rfl (lk hl rfl) ?_
      refine x_kn hL (vx_runV (As := []) hF.2.2.2.2.2.2.2.2.2 ((mX9_keepsMind (F := up2 F3 15 0 0) (by rw [up2_f _ _ _ _ (by decide), h39]; exact h90) (by rw [up2_f _ _ _ _ (by decide), h39]; exact h98) (by rw [up2_f _ _ _ _ (by decide), h310]; exact ha0) (by rw [up2_f _ _ _ _ (by decide), h310]; exact ha8) hP.1) hF.1) (cwV 0 hF.2.2.2.2.2.2.2.2.1 (lw_V q2361 q2363 qs52 q138 q2364) rfl rfl rfl (by decide +kernel) ⟨(Nat.le_of_ble_eq_true rfl), (Nat.le_of_ble_eq_true rfl)⟩) (x_preV hF hM (MA_ob hP.1) rfl) rfl rfl hl.1 rfl (lv_room (Nat.le_of_ble_eq_true rfl)) dX9_script_60 ⟨(Nat.le_of_ble_eq_true rfl), (Nat.le_of_ble_eq_true rfl)⟩) ?_
      rintro _ τ60 H locs ⟨rfl, hp⟩ hM hL
      refine MS_gen hM (MS_t hP hp) (fun σ hM hP => ?_)
      refine lv_aload_n hx hb dX9_script_63 rfl (lk hl rfl) ?_
      refine x_getfield hF (ci := 10) in_X9 rfl 20 (by decide) q2271 (fun _ h => h) hM (MA_ob hP.1) (show rd _ _ _ = .int (iz ((sRun (pList t L 61 0) (wUp w 2 (w 2 + 1)) 0).2.2.1)) from by have h9 := MA_s20 hP.1; rw [mKeep_o _ (by decide) (by decide) (by decide), up2_oth _ _ _ (by decide), h320] at h9; exact h9) dX9_script_64 ?_
      exact x_ireturn hF hM hL rfl (Nat.le_of_ble_eq_true rfl) (Nat.le_of_ble_eq_true rfl) ⟨fun q => absurd c9 q, fun _ _ => ⟨rfl, _, hP, by rw [mKeep_o _ (by decide) (by decide) (by decide), up2_oth _ _ _ (by decide)]; exact h35, by rw [mKeep_o _ (by decide) (by decide) (by decide), up2_s], fun f a b c d e1 g h i j => script_keep h3z (((ey c56).1.trans (hz 3 (by decide) (by decide))).trans ((eo 3 (by decide) (by decide) (by decide)).trans (up2_oth _ _ _ (by decide)))) (((ey c56).2.trans (hz 4 (by decide) (by decide))).trans ((eo 4 (by decide) (by decide) (by decide)).trans (up2_oth _ _ _ (by decide)))) h38 hw f a b c d e1 g h i j⟩, fun _ q => absurd c56 q⟩ dX9_script_67
  · skip
    refine lv_aload_n hx hb dX9_script_12 rfl (lk hl rfl) ?_
    refine lv_aload_n hx hb dX9_script_13 rfl (lk hl rfl) ?_
    refine x_getfield hF (ci := 10) in_X9 rfl 16 (by decide) q2267 (fun _ h => h) hM (MA_ob hP.1) (show rd _ _ _ = .int (iz ((pAllF t L 61 0).2)) from by have h9 := MA_s16 hP.1; rw [ep] at h9; exact h9) dX9_script_14 ?_
    refine x_putfield hF (ci := 10) in_X9 rfl tyX9_ok nmX9 17 (by decide) q2268 (fun _ h => h) rfl hM hL (MA_ob hP.1) (ty := .int) (by decide +kernel) rfl rfl dX9_script_17 (fun H locs hM hL => ?_)
    refine MS_gen hM (MS_p17 hM hP) (fun σ hM hP => ?_)
    refine lv_aload_n hx hb dX9_script_20 rfl (lk hl rfl) ?_
    refine x_iconst hF dX9_script_21 ?_
    refine x_putfield hF (ci := 10) in_X9 rfl tyX9_ok nmX9 15 (by decide) q2266 (fun _ h => h) rfl hM hL (MA_ob hP.1) (ty := .int) (by decide +kernel) rfl rfl dX9_script_22 (fun H locs hM hL => ?_)
    refine MS_gen hM (MS_p15 hM hP) (fun σ hM hP => ?_)
    refine lv_aload_n hx hb dX9_script_25 rfl (lk hl rfl) ?_
    refine x_iconst hF dX9_script_26 ?_
    refine x_kn hL (vx_runV (As := [_]) hF.2.2.2.2.2.2.2.2.2 ((mX9_fails hP.1) hF.1) (cwV 1 hF.2.2.2.2.2.2.2.2.1 (lw_V q2337 q2339 qs46 q138 q2340) rfl rfl rfl (by decide +kernel) ⟨(Nat.le_of_ble_eq_true rfl), (Nat.le_of_ble_eq_true rfl)⟩) (x_preV hF hM (MA_ob hP.1) rfl) rfl rfl hl.1 rfl (lv_room (Nat.le_of_ble_eq_true rfl)) dX9_script_27 ⟨(Nat.le_of_ble_eq_true rfl), (Nat.le_of_ble_eq_true rfl)⟩) ?_
    rintro _ τ27 H locs ⟨rfl, hp⟩ hM hL
    refine MS_gen hM (MS_t hP hp) (fun σ hM hP => ?_)
    exact x_ireturn hF hM hL rfl (Nat.le_of_ble_eq_true rfl) (Nat.le_of_ble_eq_true rfl) ⟨fun _ => ⟨rfl, _, hP, up2_s _ _ _ _, by rw [up2_oth _ _ _ (by decide), up2_oth _ _ _ (by decide), up2_s], by rw [up2_oth _ _ _ (by decide), up2_s], fun f a b c d e1 g => by rw [up2_oth _ _ _ a, up2_oth _ _ _ b, up2_oth _ _ _ d, eo f c e1 g, up2_oth _ _ _ a]⟩, fun q => absurd q c9, fun q => absurd q c9⟩ dX9_script_30
