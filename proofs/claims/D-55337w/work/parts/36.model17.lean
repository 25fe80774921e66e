set_option maxHeartbeats 4000000 in
set_option maxRecDepth 100000 in
/-- BakeryRingModel.readsAll()Z -/
theorem mX9_readsAll {l : Launch} {E : En} {σ0 : Mm} {o : Nat} {F : Nat → Int → Int} {t : Int → Int} {L : Int} (htx : F 14 = t) (hln : F 15 0 = L) (hTx : Tx t L) (hP : MA E σ0 o F) : Ctr l E yX9_readsAll (ws_ yX9_readsAll cX9_readsAll 2 (some .boolean)) 6 127 0 0 [.ref o] σ0 (fun v τ => v = some (.int (iz (if (pAllF t L 61 0).1 = 1 then 1 else 0))) ∧ RQ E σ0 o τ F (pAllF t L 61 0).2) noX := by
  refine x_head (own := RX9) (cc := cX9_readsAll) (maxL := 2) (ret := (some .boolean)) (by decide) rfl rfl (Nat.le_of_ble_eq_true rfl) ?_
  intro p e s m args below meth c H ls hF hname htab hM hl
  have hx := hF.2.2.1
  have hb := hF.2.2.2.1
  have hL : Lc E [] := lcNil
  have hl : lh ls 2 ([(0, .ref o)]) := hl
  refine MS_gen hM (MS_0 hP) (fun σ hM hP => ?_)
  have hx1 := hTx.2
  refine lv_aload_n hx hb dX9_readsAll_0 rfl (lk hl rfl) ?_
  refine x_iconst hF dX9_readsAll_1 ?_
  refine x_putfield hF (ci := 10) in_X9 rfl tyX9_ok nmX9 16 (by decide) q2267 (fun _ h => h) rfl hM hL (MA_ob hP.1) (ty := .int) (by decide +kernel) rfl rfl dX9_readsAll_2 (fun H locs hM hL => ?_)
  refine MS_gen hM (MS_p16 hM hP) (fun σ hM hP => ?_)
  refine x_iconst hF dX9_readsAll_5 ?_
  refine x_istore_n hF dX9_readsAll_6 rfl hl (by decide) rfl (fun ls hl => ?_)
  suffices loop : ∀ (n : Nat) (g : Int) (q : Int) (k : Nat) (σ : Mm) (H : Heap) (locs : List Loc) (ls : Array Slot), 62 - q < (n : Int) → (g = 0 ∨ g = 1) → (0 ≤ q) → (q ≤ L) → (g = 1 → L - q < (k : Int)) → (g = 1 → pAllF t L k q = pAllF t L 61 0) → (g = 0 → pAllF t L 61 0 = (if q = L then 1 else 0, q)) → Mem E s H σ → RQ E σ0 o σ F q → Lc E locs → lh ls 2 [(0, .ref o), (1, .int (iz g))] → W p l e ({ frames := 6, cells := 0, slots := 0, locals := 127 } : Room) s m args below meth c H locs 0 0 (vx_MQ below (XQc E (fun v τ => v = some (.int (iz (if (pAllF t L 61 0).1 = 1 then 1 else 0))) ∧ RQ E σ0 o τ F (pAllF t L 61 0).2)) (XXc E noX) args s 0 0 (XA E)) (F0 m 7 ls []) from loop (63) 1 0 61 _ _ _ _ (by omega) (Or.inr rfl) (by omega) (by omega) (by omega) (fun _ => rfl) (by omega) hM ⟨_, hP, up2_s _ _ _ _, fun f x _ _ => up2_oth _ _ _ x⟩ hL (lh_sub hl rfl)
  refine nat_loop (fun g q k σ H locs ls hmm gg q0 q1 hk hr1 hr0 => absurd hmm (by omega)) (fun n ih g q k σ H locs ls hmm gg q0 q1 hk hr1 hr0 hM hP hL hl => ?_)
  refine lv_iload_n hx hb dX9_readsAll_7 rfl (lk hl rfl) ?_
  refine x_if_eq (tgt := 30) hF dX9_readsAll_8 (by decide) (by unfold inR; omega) (fun c8 => ?_) (fun c8 => ?_)
  · skip
    obtain ⟨F1, hP, ep, eo⟩ := hP
    refine lv_aload_n hx hb dX9_readsAll_30 rfl (lk hl rfl) ?_
    refine x_getfield hF (ci := 10) in_X9 rfl 16 (by decide) q2267 (fun _ h => h) hM (MA_ob hP.1) (show rd _ _ _ = .int (iz (q)) from by have h9 := MA_s16 hP.1; rw [ep] at h9; exact h9) dX9_readsAll_31 ?_
    refine lv_aload_n hx hb dX9_readsAll_34 rfl (lk hl rfl) ?_
    refine x_getfield hF (ci := 10) in_X9 rfl 15 (by decide) q2266 (fun _ h => h) hM (MA_ob hP.1) (show rd _ _ _ = .int (iz (L)) from by have h9 := MA_s15 hP.1; rw [congrFun (eo 15 (by decide) (by decide) (by decide)) 0, hln] at h9; exact h9) dX9_readsAll_35 ?_
    refine x_icmp_ne (tgt := 45) hF dX9_readsAll_38 (by decide) (by unfold inR; omega) (by unfold inR; omega) (fun c38 => ?_) (fun c38 => ?_)
    · skip
      refine x_iconst hF dX9_readsAll_45 ?_
      exact x_ireturn hF hM hL (by rfl) (Nat.le_of_ble_eq_true rfl) (Nat.le_of_ble_eq_true rfl) (by first | (have e9 : pAllF t L 61 0 = (1, q) := by rw [hr0 (by omega), if_pos c38]); rw [e9]; exact ⟨rfl, F1, hP, ep, eo⟩ | (have e9 : pAllF t L 61 0 = (0, q) := by rw [hr0 (by omega), if_neg c38]); rw [e9]; exact ⟨rfl, F1, hP, ep, eo⟩) dX9_readsAll_46
    · skip
      refine x_iconst hF dX9_readsAll_41 ?_
      refine x_goto (tgt := 46) hF dX9_readsAll_42 (by decide) ?_
      exact x_ireturn hF hM hL (by rfl) (Nat.le_of_ble_eq_true rfl) (Nat.le_of_ble_eq_true rfl) (by first | (have e9 : pAllF t L 61 0 = (1, q) := by rw [hr0 (by omega), if_pos c38]); rw [e9]; exact ⟨rfl, F1, hP, ep, eo⟩ | (have e9 : pAllF t L 61 0 = (0, q) := by rw [hr0 (by omega), if_neg c38]); rw [e9]; exact ⟨rfl, F1, hP, ep, eo⟩) dX9_readsAll_46
  · skip
    obtain ⟨F1, hP, ep, eo⟩ := hP
    refine lv_aload_n hx hb dX9_readsAll_11 rfl (lk hl rfl) ?_
    refine x_kn hL (vx_runV (As := []) hF.2.2.2.2.2.2.2.2.2 ((mX9_readsOrder (t := t) (L := L) (x := q) ((eo 14 (by decide) (by decide) (by decide)).trans htx) ((congrFun (eo 15 (by decide) (by decide) (by decide)) 0).trans hln) ep hTx q0 q1 hP.1) hF.1) (cwV 0 hF.2.2.2.2.2.2.2.2.1 (lw_V q2643 q2645 qs95 q138 q2646) rfl rfl rfl (by decide +kernel) ⟨(Nat.le_of_ble_eq_true rfl), (Nat.le_of_ble_eq_true rfl)⟩) (x_preV hF hM (MA_ob hP.1) rfl) rfl rfl hl.1 rfl (lv_room (Nat.le_of_ble_eq_true rfl)) dX9_readsAll_12 ⟨(Nat.le_of_ble_eq_true rfl), (Nat.le_of_ble_eq_true rfl)⟩) ?_
    rintro _ τ12 H locs ⟨rfl, hp⟩ hM hL
    obtain ⟨F2, hP2, ep, et, eo2⟩ := hp
    refine MS_gen hM (MS_t hP hP2) (fun σ hM hP => ?_)
    replace eo : ∀ f : Nat, f ≠ 16 → f ≠ 18 → f ≠ 19 → F2 f = F f := fun f x y w => (eo2 f x y w).trans (eo f x y w)
    have hpo := pOrd_r (t := t) (L := L) q0 q1
    unfold Po at hpo
    refine x_ifne_b (tgt := 20) hF dX9_readsAll_15 (by decide) (fun c15 => ?_) (fun c15 => ?_)
    · skip
      refine lv_aload_n hx hb dX9_readsAll_20 rfl (lk hl rfl) ?_
      refine x_bipush hF (by decide) dX9_readsAll_21 ?_
      refine x_kn hL (vx_runV (As := [_]) hF.2.2.2.2.2.2.2.2.2 ((mX9_reads (z := 59) (t := t) (L := L) (x := (pOrd t L q).2.1) (by unfold inR; omega) ((eo 14 (by decide) (by decide) (by decide)).trans htx) ((congrFun (eo 15 (by decide) (by decide) (by decide)) 0).trans hln) ep hTx (by omega) (by omega) hP.1) hF.1) (cwV 1 hF.2.2.2.2.2.2.2.2.1 (lw_V q2647 q2649 qs96 q138 q2650) rfl rfl rfl (by decide +kernel) ⟨(Nat.le_of_ble_eq_true rfl), (Nat.le_of_ble_eq_true rfl)⟩) (x_preV hF hM (MA_ob hP.1) rfl) rfl rfl hl.1 rfl (lv_room (Nat.le_of_ble_eq_true rfl)) dX9_readsAll_23 ⟨(Nat.le_of_ble_eq_true rfl), (Nat.le_of_ble_eq_true rfl)⟩) ?_
      rintro _ τ23 H locs ⟨rfl, hp⟩ hM hL
      obtain ⟨F3, hP2, ep, eo2⟩ := hp
      refine MS_gen hM (MS_t hP hP2) (fun σ hM hP => ?_)
      replace eo : ∀ f : Nat, f ≠ 16 → f ≠ 18 → f ≠ 19 → F3 f = F f := fun f x y w => (eo2 f x).trans (eo f x y w)
      refine x_istore_n hF dX9_readsAll_26 rfl hl (by decide) rfl (fun ls hl => ?_)
      refine x_goto (tgt := 7) hF dX9_readsAll_27 (by decide) ?_
      have hnx := hr1 (by omega)
      rw [pAllF_1 (by omega), if_pos c15] at hnx
      by_cases c9 : lt t L (pOrd t L q).2.1 = 59
      · rw [if_pos c9] at hl
        rw [if_pos c9] at ep
        rw [if_pos c9] at hnx
        have hll := lt_lt c9 (by decide)
        exact ih 1 ((pOrd t L q).2.1 + 1) (k - 1) _ _ _ _ (by omega) (by omega) (by omega) (by omega) (by omega) (fun _ => hnx) (by omega) hM ⟨_, hP, ep, eo⟩ hL (lh_sub hl rfl)
      · rw [if_neg c9] at hl
        rw [if_neg c9] at ep
        rw [if_neg c9] at hnx
        exact ih 0 (pOrd t L q).2.1 (k - 1) _ _ _ _ (by omega) (by omega) (by omega) (by omega) (by omega) (by omega) (fun _ => hnx.symm) hM ⟨_, hP, ep, eo⟩ hL (lh_sub hl rfl)
    · skip
      refine x_iconst hF dX9_readsAll_18 ?_
      exact x_ireturn hF hM hL (by rfl) (Nat.le_of_ble_eq_true rfl) (Nat.le_of_ble_eq_true rfl) (by (have e9 : pAllF t L 61 0 = (0, (pOrd t L q).2.1) := by rw [← hr1 (by omega), pAllF_1 (by omega), if_neg c15]); rw [e9]; exact ⟨rfl, F2, hP, ep, eo⟩) dX9_readsAll_19
set_option maxHeartbeats 4000000 in
set_option maxRecDepth 100000 in
/-- BakeryRingModel.notNow()I -/
theorem mX9_notNow {l : Launch} {E : En} {σ0 : Mm} {o : Nat} {F : Nat → Int → Int} {w : Int → Int} (hw : F 5 = w) (hk : Wk w) {r : Int × Int × Int} (hr0 : 0 ≤ r.1 ∧ r.1 ≤ 6) (hr1 : 0 ≤ r.2.1 ∧ r.2.1 < 1000) (hr2 : 0 ≤ r.2.2 ∧ r.2.2 < 1000) (e19 : F 19 0 = r.1) (e18 : F 18 0 = r.2.1) (e181 : r.1 = 0 ∨ r.1 = 4 ∨ r.1 = 5 → F 18 1 = r.2.2) (hP : MA E σ0 o F) : Ctr l E yX9_notNow (ws_ yX9_notNow cX9_notNow 3 (some .int)) 4 86 0 0 [.ref o] σ0 (fun v τ => v = some (.int (iz (nNow w r).1)) ∧ MS E σ0 o τ (mNot F (nNow w r))) noX := by
  refine x_head (own := RX9) (cc := cX9_notNow) (maxL := 3) (ret := (some .int)) (by decide) rfl rfl (Nat.le_of_ble_eq_true rfl) ?_
  intro p e s m args below meth c H ls hF hname htab hM hl
  have hx := hF.2.2.1
  have hb := hF.2.2.2.1
  have hL : Lc E [] := lcNil
  have hl : lh ls 3 ([(0, .ref o)]) := hl
  refine MS_gen hM (MS_0 hP) (fun σ hM hP => ?_)
  refine lv_aload_n hx hb dX9_notNow_0 rfl (lk hl rfl) ?_
  refine x_getfield hF (ci := 10) in_X9 rfl 18 (by decide) q2269 (fun _ h => h) hM (MA_ob hP.1) (MA_f18 hP.1) dX9_notNow_1 ?_
  refine x_iconst hF dX9_notNow_4 ?_
  refine x_iald hF hM (MA_a18 hP.1) (by omega) (by omega) (by decide) (show rd _ _ _ = .int (iz r.2.1) from by have h9 := MA_r18 hP.1 0 (by omega) (by omega); rw [e18] at h9; exact h9) dX9_notNow_5 ?_
  refine x_istore_n hF dX9_notNow_6 rfl hl (by decide) rfl (fun ls hl => ?_)
  refine lv_aload_n hx hb dX9_notNow_7 rfl (lk hl rfl) ?_
  refine x_getfield hF (ci := 10) in_X9 rfl 18 (by decide) q2269 (fun _ h => h) hM (MA_ob hP.1) (MA_f18 hP.1) dX9_notNow_8 ?_
  refine x_iconst hF dX9_notNow_11 ?_
  refine x_iald hF hM (MA_a18 hP.1) (by omega) (by omega) (by decide) (show rd _ _ _ = .int (iz (F 18 1)) from MA_r18 hP.1 1 (by omega) (by omega)) dX9_notNow_12 ?_
  refine x_istore_n hF dX9_notNow_13 rfl hl (by decide) rfl (fun ls hl => ?_)
  refine lv_aload_n hx hb dX9_notNow_14 rfl (lk hl rfl) ?_
  refine x_getfield hF (ci := 10) in_X9 rfl 19 (by decide) q2270 (fun _ h => h) hM (MA_ob hP.1) (show rd _ _ _ = .int (iz (r.1)) from by have h9 := MA_s19 hP.1; rw [e19] at h9; exact h9) dX9_notNow_15 ?_
  rcases (show r.1 = 0 ∨ r.1 = 1 ∨ r.1 = 2 ∨ r.1 = 3 ∨ r.1 = 4 ∨ r.1 = 5 ∨ (r.1 < 0 ∨ 5 < r.1) by omega) with csw | csw | csw | csw | csw | csw | csw
  · refine x_tableIn (tgt := 56) (i := 0) hF dX9_notNow_18 (by omega) (by first | omega | (unfold inR; omega)) (by decide) rfl (by decide) ?_
    have e9 := e181 (by omega)
    rw [e9] at hl
    refine lv_aload_n hx hb dX9_notNow_56 rfl (lk hl rfl) ?_
    refine lv_iload_n hx hb dX9_notNow_57 rfl (lk hl rfl) ?_
    refine lv_iload_n hx hb dX9_notNow_58 rfl (lk hl rfl) ?_
    refine x_kn hL (vx_runV (As := [_, _]) hF.2.2.2.2.2.2.2.2.2 ((mX9_notSign (by unfold inR; omega) (by unfold inR; omega) hw hk hP.1) hF.1) (cwV 2 hF.2.2.2.2.2.2.2.2.1 (lw_V q2373 q2375 qs54 q138 q2376) rfl rfl rfl (by decide +kernel) ⟨(Nat.le_of_ble_eq_true rfl), (Nat.le_of_ble_eq_true rfl)⟩) (x_preV hF hM (MA_ob hP.1) rfl) rfl rfl hl.1 rfl (lv_room (Nat.le_of_ble_eq_true rfl)) dX9_notNow_59 ⟨(Nat.le_of_ble_eq_true rfl), (Nat.le_of_ble_eq_true rfl)⟩) ?_
    rintro _ τ59 H locs ⟨rfl, hp⟩ hM hL
    refine MS_gen hM (MS_t hP hp) (fun σ hM hP => ?_)
    exact x_ireturn hF hM hL rfl (Nat.le_of_ble_eq_true rfl) (Nat.le_of_ble_eq_true rfl) (by (have ht : nNow w r = nSign w r.2.1 r.2.2 := by unfold nNow; rw [if_pos csw]); rw [ht]; exact ⟨rfl, hP⟩) dX9_notNow_62
  · refine x_tableIn (tgt := 63) (i := 1) hF dX9_notNow_18 (by omega) (by first | omega | (unfold inR; omega)) (by decide) rfl (by decide) ?_
    refine lv_aload_n hx hb dX9_notNow_63 rfl (lk hl rfl) ?_
    refine lv_iload_n hx hb dX9_notNow_64 rfl (lk hl rfl) ?_
    refine x_kn hL (vx_runV (As := [_]) hF.2.2.2.2.2.2.2.2.2 ((mX9_notDown (by unfold inR; omega) hw hk hP.1) hF.1) (cwV 1 hF.2.2.2.2.2.2.2.2.1 (lw_V q2452 q2454 qs72 q138 q2455) rfl rfl rfl (by decide +kernel) ⟨(Nat.le_of_ble_eq_true rfl), (Nat.le_of_ble_eq_true rfl)⟩) (x_preV hF hM (MA_ob hP.1) rfl) rfl rfl hl.1 rfl (lv_room (Nat.le_of_ble_eq_true rfl)) dX9_notNow_65 ⟨(Nat.le_of_ble_eq_true rfl), (Nat.le_of_ble_eq_true rfl)⟩) ?_
    rintro _ τ65 H locs ⟨rfl, hp⟩ hM hL
    refine MS_gen hM (MS_t hP hp) (fun σ hM hP => ?_)
    exact x_ireturn hF hM hL rfl (Nat.le_of_ble_eq_true rfl) (Nat.le_of_ble_eq_true rfl) (by (have ht : nNow w r = nDown w r.2.1 := by unfold nNow; rw [if_neg (by omega), if_pos csw]); rw [ht]; exact ⟨rfl, hP⟩) dX9_notNow_68
  · refine x_tableIn (tgt := 69) (i := 2) hF dX9_notNow_18 (by omega) (by first | omega | (unfold inR; omega)) (by decide) rfl (by decide) ?_
    refine lv_aload_n hx hb dX9_notNow_69 rfl (lk hl rfl) ?_
    refine lv_iload_n hx hb dX9_notNow_70 rfl (lk hl rfl) ?_
    refine x_kn hL (vx_runV (As := [_]) hF.2.2.2.2.2.2.2.2.2 ((mX9_notClose (by unfold inR; omega) hw hk hP.1) hF.1) (cwV 1 hF.2.2.2.2.2.2.2.2.1 (lw_V q2468 q2470 qs75 q138 q2471) rfl rfl rfl (by decide +kernel) ⟨(Nat.le_of_ble_eq_true rfl), (Nat.le_of_ble_eq_true rfl)⟩) (x_preV hF hM (MA_ob hP.1) rfl) rfl rfl hl.1 rfl (lv_room (Nat.le_of_ble_eq_true rfl)) dX9_notNow_71 ⟨(Nat.le_of_ble_eq_true rfl), (Nat.le_of_ble_eq_true rfl)⟩) ?_
    rintro _ τ71 H locs ⟨rfl, hp⟩ hM hL
    refine MS_gen hM (MS_t hP hp) (fun σ hM hP => ?_)
    exact x_ireturn hF hM hL rfl (Nat.le_of_ble_eq_true rfl) (Nat.le_of_ble_eq_true rfl) (by (have ht : nNow w r = nClose w r.2.1 := by unfold nNow; rw [if_neg (by omega), if_neg (by omega), if_pos csw]); rw [ht]; exact ⟨rfl, hP⟩) dX9_notNow_74
  · refine x_tableIn (tgt := 75) (i := 3) hF dX9_notNow_18 (by omega) (by first | omega | (unfold inR; omega)) (by decide) rfl (by decide) ?_
    refine lv_aload_n hx hb dX9_notNow_75 rfl (lk hl rfl) ?_
    refine lv_iload_n hx hb dX9_notNow_76 rfl (lk hl rfl) ?_
    refine x_kn hL (vx_runV (As := [_]) hF.2.2.2.2.2.2.2.2.2 ((mX9_notOpen (by unfold inR; omega) hw hk hP.1) hF.1) (cwV 1 hF.2.2.2.2.2.2.2.2.1 (lw_V q2484 q2486 qs78 q138 q2487) rfl rfl rfl (by decide +kernel) ⟨(Nat.le_of_ble_eq_true rfl), (Nat.le_of_ble_eq_true rfl)⟩) (x_preV hF hM (MA_ob hP.1) rfl) rfl rfl hl.1 rfl (lv_room (Nat.le_of_ble_eq_true rfl)) dX9_notNow_77 ⟨(Nat.le_of_ble_eq_true rfl), (Nat.le_of_ble_eq_true rfl)⟩) ?_
    rintro _ τ77 H locs ⟨rfl, hp⟩ hM hL
    refine MS_gen hM (MS_t hP hp) (fun σ hM hP => ?_)
    exact x_ireturn hF hM hL rfl (Nat.le_of_ble_eq_true rfl) (Nat.le_of_ble_eq_true rfl) (by (have ht : nNow w r = nOpen w r.2.1 := by unfold nNow; rw [if_neg (by omega), if_neg (by omega), if_neg (by omega), if_pos csw]); rw [ht]; exact ⟨rfl, hP⟩) dX9_notNow_80
  · refine x_tableIn (tgt := 81) (i := 4) hF dX9_notNow_18 (by omega) (by first | omega | (unfold inR; omega)) (by decide) rfl (by decide) ?_
    have e9 := e181 (by omega)
    rw [e9] at hl
    refine lv_aload_n hx hb dX9_notNow_81 rfl (lk hl rfl) ?_
    refine lv_iload_n hx hb dX9_notNow_82 rfl (lk hl rfl) ?_
    refine lv_iload_n hx hb dX9_notNow_83 rfl (lk hl rfl) ?_
    refine x_kn hL (vx_runV (As := [_, _]) hF.2.2.2.2.2.2.2.2.2 ((mX9_notOven (by unfold inR; omega) (by unfold inR; omega) hw hk hP.1) hF.1) (cwV 2 hF.2.2.2.2.2.2.2.2.1 (lw_V q2492 q2494 qs79 q138 q2495) rfl rfl rfl (by decide +kernel) ⟨(Nat.le_of_ble_eq_true rfl), (Nat.le_of_ble_eq_true rfl)⟩) (x_preV hF hM (MA_ob hP.1) rfl) rfl rfl hl.1 rfl (lv_room (Nat.le_of_ble_eq_true rfl)) dX9_notNow_84 ⟨(Nat.le_of_ble_eq_true rfl), (Nat.le_of_ble_eq_true rfl)⟩) ?_
    rintro _ τ84 H locs ⟨rfl, hp⟩ hM hL
    refine MS_gen hM (MS_t hP hp) (fun σ hM hP => ?_)
    exact x_ireturn hF hM hL rfl (Nat.le_of_ble_eq_true rfl) (Nat.le_of_ble_eq_true rfl) (by (have ht : nNow w r = nOven w r.2.1 r.2.2 := by unfold nNow; rw [if_neg (by omega), if_neg (by omega), if_neg (by omega), if_neg (by omega), if_pos csw]); rw [ht]; exact ⟨rfl, hP⟩) dX9_notNow_87
  · refine x_tableIn (tgt := 88) (i := 5) hF dX9_notNow_18 (by omega) (by first | omega | (unfold inR; omega)) (by decide) rfl (by decide) ?_
    have e9 := e181 (by omega)
    rw [e9] at hl
    refine lv_aload_n hx hb dX9_notNow_88 rfl (lk hl rfl) ?_
    refine lv_iload_n hx hb dX9_notNow_89 rfl (lk hl rfl) ?_
    refine lv_iload_n hx hb dX9_notNow_90 rfl (lk hl rfl) ?_
    refine x_kn hL (vx_runV (As := [_, _]) hF.2.2.2.2.2.2.2.2.2 ((mX9_notCome (by unfold inR; omega) (by unfold inR; omega) hw hk hP.1) hF.1) (cwV 2 hF.2.2.2.2.2.2.2.2.1 (lw_V q2504 q2506 qs81 q138 q2507) rfl rfl rfl (by decide +kernel) ⟨(Nat.le_of_ble_eq_true rfl), (Nat.le_of_ble_eq_true rfl)⟩) (x_preV hF hM (MA_ob hP.1) rfl) rfl rfl hl.1 rfl (lv_room (Nat.le_of_ble_eq_true rfl)) dX9_notNow_91 ⟨(Nat.le_of_ble_eq_true rfl), (Nat.le_of_ble_eq_true rfl)⟩) ?_
    rintro _ τ91 H locs ⟨rfl, hp⟩ hM hL
    refine MS_gen hM (MS_t hP hp) (fun σ hM hP => ?_)
    exact x_ireturn hF hM hL rfl (Nat.le_of_ble_eq_true rfl) (Nat.le_of_ble_eq_true rfl) (by (have ht : nNow w r = nCome w r.2.1 r.2.2 := by unfold nNow; rw [if_neg (by omega), if_neg (by omega), if_neg (by omega), if_neg (by omega), if_neg (by omega), if_pos csw]); rw [ht]; exact ⟨rfl, hP⟩) dX9_notNow_94
  · refine x_tableOut (tgt := 95) hF dX9_notNow_18 (by unfold inR; omega) csw (by decide) ?_
    refine lv_aload_n hx hb dX9_notNow_95 rfl (lk hl rfl) ?_
    refine lv_iload_n hx hb dX9_notNow_96 rfl (lk hl rfl) ?_
    refine x_kn hL (vx_runV (As := [_]) hF.2.2.2.2.2.2.2.2.2 ((mX9_notLeave (by unfold inR; omega) hw hk hP.1) hF.1) (cwV 1 hF.2.2.2.2.2.2.2.2.1 (lw_V q2516 q2518 qs83 q138 q2519) rfl rfl rfl (by decide +kernel) ⟨(Nat.le_of_ble_eq_true rfl), (Nat.le_of_ble_eq_true rfl)⟩) (x_preV hF hM (MA_ob hP.1) rfl) rfl rfl hl.1 rfl (lv_room (Nat.le_of_ble_eq_true rfl)) dX9_notNow_97 ⟨(Nat.le_of_ble_eq_true rfl), (Nat.le_of_ble_eq_true rfl)⟩) ?_
    rintro _ τ97 H locs ⟨rfl, hp⟩ hM hL
    refine MS_gen hM (MS_t hP hp) (fun σ hM hP => ?_)
    exact x_ireturn hF hM hL rfl (Nat.le_of_ble_eq_true rfl) (Nat.le_of_ble_eq_true rfl) (by (have ht : nNow w r = nLeave w r.2.1 := by unfold nNow; rw [if_neg (by omega), if_neg (by omega), if_neg (by omega), if_neg (by omega), if_neg (by omega), if_neg (by omega)]); rw [ht]; exact ⟨rfl, hP⟩) dX9_notNow_100
set_option maxHeartbeats 4000000 in
set_option maxRecDepth 100000 in
/-- BakeryRingModel.doesNow()I -/
theorem mX9_doesNow {l : Launch} {E : En} {σ0 : Mm} {o : Nat} {F : Nat → Int → Int} {w : Int → Int} (hw : F 5 = w) (hk : Wk w) {r : Int × Int × Int} (hr0 : 0 ≤ r.1 ∧ r.1 ≤ 6) (hr1 : 0 ≤ r.2.1 ∧ r.2.1 < 1000) (hr2 : 0 ≤ r.2.2 ∧ r.2.2 < 1000) (e19 : F 19 0 = r.1) (e18 : F 18 0 = r.2.1) (e181 : r.1 = 0 ∨ r.1 = 4 ∨ r.1 = 5 → F 18 1 = r.2.2) (hn : (nNow w r).1 = 0) (h24 : w 28 ≤ 24) (h3 : -1000000 ≤ w 3 ∧ w 3 ≤ 1000000) (hP : MA E σ0 o F) : Ctr l E yX9_doesNow (ws_ yX9_doesNow cX9_doesNow 3 (some .int)) 5 117 0 0 [.ref o] σ0 (fun v τ => (∃ y : Int32, v = some (.int y)) ∧ ME E σ0 o τ F (dNow w r)) noX := by
  refine x_head (own := RX9) (cc := cX9_doesNow) (maxL := 3) (ret := (some .int)) (by decide) rfl rfl (Nat.le_of_ble_eq_true rfl) ?_
  intro p e s m args below meth c H ls hF hname htab hM hl
  have hx := hF.2.2.1
  have hb := hF.2.2.2.1
  have hL : Lc E [] := lcNil
  have hl : lh ls 3 ([(0, .ref o)]) := hl
  refine MS_gen hM (MS_0 hP) (fun σ hM hP => ?_)
  have hk2 := hk.2.1
  refine lv_aload_n hx hb dX9_doesNow_0 rfl (lk hl rfl) ?_
  refine x_getfield hF (ci := 10) in_X9 rfl 18 (by decide) q2269 (fun _ h => h) hM (MA_ob hP.1) (MA_f18 hP.1) dX9_doesNow_1 ?_
  refine x_iconst hF dX9_doesNow_4 ?_
  refine x_iald hF hM (MA_a18 hP.1) (by omega) (by omega) (by decide) (show rd _ _ _ = .int (iz r.2.1) from by have h9 := MA_r18 hP.1 0 (by omega) (by omega); rw [e18] at h9; exact h9) dX9_doesNow_5 ?_
  refine x_istore_n hF dX9_doesNow_6 rfl hl (by decide) rfl (fun ls hl => ?_)
  refine lv_aload_n hx hb dX9_doesNow_7 rfl (lk hl rfl) ?_
  refine x_getfield hF (ci := 10) in_X9 rfl 18 (by decide) q2269 (fun _ h => h) hM (MA_ob hP.1) (MA_f18 hP.1) dX9_doesNow_8 ?_
  refine x_iconst hF dX9_doesNow_11 ?_
  refine x_iald hF hM (MA_a18 hP.1) (by omega) (by omega) (by decide) (show rd _ _ _ = .int (iz (F 18 1)) from MA_r18 hP.1 1 (by omega) (by omega)) dX9_doesNow_12 ?_
  refine x_istore_n hF dX9_doesNow_13 rfl hl (by decide) rfl (fun ls hl => ?_)
  refine lv_aload_n hx hb dX9_doesNow_14 rfl (lk hl rfl) ?_
  refine x_getfield hF (ci := 10) in_X9 rfl 19 (by decide) q2270 (fun _ h => h) hM (MA_ob hP.1) (show rd _ _ _ = .int (iz (r.1)) from by have h9 := MA_s19 hP.1; rw [e19] at h9; exact h9) dX9_doesNow_15 ?_
  rcases (show r.1 = 0 ∨ r.1 = 1 ∨ r.1 = 2 ∨ r.1 = 3 ∨ r.1 = 4 ∨ r.1 = 5 ∨ (r.1 < 0 ∨ 5 < r.1) by omega) with csw | csw | csw | csw | csw | csw | csw
  · refine x_tableIn (tgt := 56) (i := 0) hF dX9_doesNow_18 (by omega) (by first | omega | (unfold inR; omega)) (by decide) rfl (by decide) ?_
    have e9 := e181 (by omega)
    rw [e9] at hl
    have hok := nSign_ok (w := w) (b := r.2.1) (a := r.2.2) (by have h9 := hn; unfold nNow at h9; rw [if_pos csw] at h9; exact h9)
    
    refine lv_aload_n hx hb dX9_doesNow_56 rfl (lk hl rfl) ?_
    refine lv_iload_n hx hb dX9_doesNow_57 rfl (lk hl rfl) ?_
    refine lv_iload_n hx hb dX9_doesNow_58 rfl (lk hl rfl) ?_
    refine x_kn hL (vx_runV (As := [_, _]) hF.2.2.2.2.2.2.2.2.2 ((mX9_signs (w := w) hw hk (by omega) (by omega) (by omega) (by omega) h24 h3 hP.1) hF.1) (cwV 2 hF.2.2.2.2.2.2.2.2.1 (lw_V q2404 q2406 qs61 q138 q2407) rfl rfl rfl (by decide +kernel) ⟨(Nat.le_of_ble_eq_true rfl), (Nat.le_of_ble_eq_true rfl)⟩) (x_preV hF hM (MA_ob hP.1) rfl) rfl rfl hl.1 rfl (lv_room (Nat.le_of_ble_eq_true rfl)) dX9_doesNow_59 ⟨(Nat.le_of_ble_eq_true rfl), (Nat.le_of_ble_eq_true rfl)⟩) ?_
    rintro _ τ59 H locs ⟨rfl, hp⟩ hM hL
    obtain ⟨F1, hP, e5, eo⟩ := ME_t hP hp
    refine MS_gen hM hP (fun σ hM hP => ?_)
    exact x_ireturn hF hM hL rfl (Nat.le_of_ble_eq_true rfl) (Nat.le_of_ble_eq_true rfl) (by (have ht : dNow w r = wAllW (-1) (wPut w r.2.1 r.2.2) := by unfold dNow; rw [if_pos csw]); rw [ht]; exact ⟨⟨_, rfl⟩, _, hP, e5, eo⟩) dX9_doesNow_62
  · refine x_tableIn (tgt := 63) (i := 1) hF dX9_doesNow_18 (by omega) (by first | omega | (unfold inR; omega)) (by decide) rfl (by decide) ?_
    have hok := nDown_ok (w := w) (a := r.2.1) (by have h9 := hn; unfold nNow at h9; rw [if_neg (by omega), if_pos csw] at h9; exact h9)
    
    refine lv_aload_n hx hb dX9_doesNow_63 rfl (lk hl rfl) ?_
    refine lv_iload_n hx hb dX9_doesNow_64 rfl (lk hl rfl) ?_
    refine x_kn hL (vx_runV (As := [_]) hF.2.2.2.2.2.2.2.2.2 ((mX9_downs (w := w) hw hk (by unfold inR; omega) (by omega) h3 hP.1) hF.1) (cwV 1 hF.2.2.2.2.2.2.2.2.1 (lw_V q2456 q2458 qs73 q138 q2459) rfl rfl rfl (by decide +kernel) ⟨(Nat.le_of_ble_eq_true rfl), (Nat.le_of_ble_eq_true rfl)⟩) (x_preV hF hM (MA_ob hP.1) rfl) rfl rfl hl.1 rfl (lv_room (Nat.le_of_ble_eq_true rfl)) dX9_doesNow_65 ⟨(Nat.le_of_ble_eq_true rfl), (Nat.le_of_ble_eq_true rfl)⟩) ?_
    rintro _ τ65 H locs ⟨rfl, hp⟩ hM hL
    obtain ⟨F1, hP, e5, eo⟩ := ME_t hP hp
    refine MS_gen hM hP (fun σ hM hP => ?_)
    exact x_ireturn hF hM hL rfl (Nat.le_of_ble_eq_true rfl) (Nat.le_of_ble_eq_true rfl) (by (have ht : dNow w r = wAllW (-1) (wTake w (wSignOn w r.2.1)) := by unfold dNow; rw [if_neg (by omega), if_pos csw]); rw [ht]; exact ⟨⟨_, rfl⟩, _, hP, e5, eo⟩) dX9_doesNow_68
  · refine x_tableIn (tgt := 69) (i := 2) hF dX9_doesNow_18 (by omega) (by first | omega | (unfold inR; omega)) (by decide) rfl (by decide) ?_
    have hok := nClose_ok (w := w) (b := r.2.1) (by have h9 := hn; unfold nNow at h9; rw [if_neg (by omega), if_neg (by omega), if_pos csw] at h9; exact h9)
    
    refine lv_aload_n hx hb dX9_doesNow_69 rfl (lk hl rfl) ?_
    refine lv_iload_n hx hb dX9_doesNow_70 rfl (lk hl rfl) ?_
    refine x_iconst hF dX9_doesNow_71 ?_
    refine x_kn hL (vx_runV (As := [_, _]) hF.2.2.2.2.2.2.2.2.2 ((mX9_shuts (w := w) (a := 1) hw hk (by omega) (by omega) (by omega) (by omega) h3 hP.1) hF.1) (cwV 2 hF.2.2.2.2.2.2.2.2.1 (lw_V q2476 q2478 qs77 q138 q2479) rfl rfl rfl (by decide +kernel) ⟨(Nat.le_of_ble_eq_true rfl), (Nat.le_of_ble_eq_true rfl)⟩) (x_preV hF hM (MA_ob hP.1) rfl) rfl rfl hl.1 rfl (lv_room (Nat.le_of_ble_eq_true rfl)) dX9_doesNow_72 ⟨(Nat.le_of_ble_eq_true rfl), (Nat.le_of_ble_eq_true rfl)⟩) ?_
    rintro _ τ72 H locs ⟨rfl, hp⟩ hM hL
    obtain ⟨F1, hP, e5, eo⟩ := ME_t hP hp
    refine MS_gen hM hP (fun σ hM hP => ?_)
    exact x_ireturn hF hM hL rfl (Nat.le_of_ble_eq_true rfl) (Nat.le_of_ble_eq_true rfl) (by (have ht : dNow w r = wAllW (-1) (wUp w (4 + 4 * r.2.1 + 2) 1) := by unfold dNow; rw [if_neg (by omega), if_neg (by omega), if_pos csw]); rw [ht]; exact ⟨⟨_, rfl⟩, _, hP, e5, eo⟩) dX9_doesNow_75
  · refine x_tableIn (tgt := 76) (i := 3) hF dX9_doesNow_18 (by omega) (by first | omega | (unfold inR; omega)) (by decide) rfl (by decide) ?_
    have hok := nOpen_ok (w := w) (b := r.2.1) (by have h9 := hn; unfold nNow at h9; rw [if_neg (by omega), if_neg (by omega), if_neg (by omega), if_pos csw] at h9; exact h9)
    
    refine lv_aload_n hx hb dX9_doesNow_76 rfl (lk hl rfl) ?_
    refine lv_iload_n hx hb dX9_doesNow_77 rfl (lk hl rfl) ?_
    refine x_iconst hF dX9_doesNow_78 ?_
    refine x_kn hL (vx_runV (As := [_, _]) hF.2.2.2.2.2.2.2.2.2 ((mX9_shuts (w := w) (a := 0) hw hk (by omega) (by omega) (by omega) (by omega) h3 hP.1) hF.1) (cwV 2 hF.2.2.2.2.2.2.2.2.1 (lw_V q2476 q2478 qs77 q138 q2479) rfl rfl rfl (by decide +kernel) ⟨(Nat.le_of_ble_eq_true rfl), (Nat.le_of_ble_eq_true rfl)⟩) (x_preV hF hM (MA_ob hP.1) rfl) rfl rfl hl.1 rfl (lv_room (Nat.le_of_ble_eq_true rfl)) dX9_doesNow_79 ⟨(Nat.le_of_ble_eq_true rfl), (Nat.le_of_ble_eq_true rfl)⟩) ?_
    rintro _ τ79 H locs ⟨rfl, hp⟩ hM hL
    obtain ⟨F1, hP, e5, eo⟩ := ME_t hP hp
    refine MS_gen hM hP (fun σ hM hP => ?_)
    exact x_ireturn hF hM hL rfl (Nat.le_of_ble_eq_true rfl) (Nat.le_of_ble_eq_true rfl) (by (have ht : dNow w r = wAllW (-1) (wUp w (4 + 4 * r.2.1 + 2) 0) := by unfold dNow; rw [if_neg (by omega), if_neg (by omega), if_neg (by omega), if_pos csw]); rw [ht]; exact ⟨⟨_, rfl⟩, _, hP, e5, eo⟩) dX9_doesNow_82
  · refine x_tableIn (tgt := 83) (i := 4) hF dX9_doesNow_18 (by omega) (by first | omega | (unfold inR; omega)) (by decide) rfl (by decide) ?_
    have e9 := e181 (by omega)
    rw [e9] at hl
    have hok := nOven_ok (w := w) (b := r.2.1) (v := r.2.2) (by have h9 := hn; unfold nNow at h9; rw [if_neg (by omega), if_neg (by omega), if_neg (by omega), if_neg (by omega), if_pos csw] at h9; exact h9)
    
    refine lv_aload_n hx hb dX9_doesNow_83 rfl (lk hl rfl) ?_
    refine lv_iload_n hx hb dX9_doesNow_84 rfl (lk hl rfl) ?_
    refine lv_iload_n hx hb dX9_doesNow_85 rfl (lk hl rfl) ?_
    refine x_kn hL (vx_runV (As := [_, _]) hF.2.2.2.2.2.2.2.2.2 ((mX9_ovens (w := w) hw hk (by omega) (by omega) (by omega) (by omega) h3 hP.1) hF.1) (cwV 2 hF.2.2.2.2.2.2.2.2.1 (lw_V q2496 q2498 qs80 q138 q2499) rfl rfl rfl (by decide +kernel) ⟨(Nat.le_of_ble_eq_true rfl), (Nat.le_of_ble_eq_true rfl)⟩) (x_preV hF hM (MA_ob hP.1) rfl) rfl rfl hl.1 rfl (lv_room (Nat.le_of_ble_eq_true rfl)) dX9_doesNow_86 ⟨(Nat.le_of_ble_eq_true rfl), (Nat.le_of_ble_eq_true rfl)⟩) ?_
    rintro _ τ86 H locs ⟨rfl, hp⟩ hM hL
    obtain ⟨F1, hP, e5, eo⟩ := ME_t hP hp
    refine MS_gen hM hP (fun σ hM hP => ?_)
    exact x_ireturn hF hM hL rfl (Nat.le_of_ble_eq_true rfl) (Nat.le_of_ble_eq_true rfl) (by (have ht : dNow w r = wAllW (-1) (wUp w (4 + 4 * r.2.1 + 1) r.2.2) := by unfold dNow; rw [if_neg (by omega), if_neg (by omega), if_neg (by omega), if_neg (by omega), if_pos csw]); rw [ht]; exact ⟨⟨_, rfl⟩, _, hP, e5, eo⟩) dX9_doesNow_89
  · refine x_tableIn (tgt := 90) (i := 5) hF dX9_doesNow_18 (by omega) (by first | omega | (unfold inR; omega)) (by decide) rfl (by decide) ?_
    have e9 := e181 (by omega)
    rw [e9] at hl
    have hok := nCome_ok (w := w) (a := r.2.1) (lv := r.2.2) (by have h9 := hn; unfold nNow at h9; rw [if_neg (by omega), if_neg (by omega), if_neg (by omega), if_neg (by omega), if_neg (by omega), if_pos csw] at h9; exact h9)
    
    refine lv_aload_n hx hb dX9_doesNow_90 rfl (lk hl rfl) ?_
    refine lv_iload_n hx hb dX9_doesNow_91 rfl (lk hl rfl) ?_
    refine lv_iload_n hx hb dX9_doesNow_92 rfl (lk hl rfl) ?_
    refine x_kn hL (vx_runV (As := [_, _]) hF.2.2.2.2.2.2.2.2.2 ((mX9_comes (w := w) hw hk (by omega) (by omega) (by omega) (by omega) (by omega) h3 hP.1) hF.1) (cwV 2 hF.2.2.2.2.2.2.2.2.1 (lw_V q2508 q2510 qs82 q138 q2511) rfl rfl rfl (by decide +kernel) ⟨(Nat.le_of_ble_eq_true rfl), (Nat.le_of_ble_eq_true rfl)⟩) (x_preV hF hM (MA_ob hP.1) rfl) rfl rfl hl.1 rfl (lv_room (Nat.le_of_ble_eq_true rfl)) dX9_doesNow_93 ⟨(Nat.le_of_ble_eq_true rfl), (Nat.le_of_ble_eq_true rfl)⟩) ?_
    rintro _ τ93 H locs ⟨rfl, hp⟩ hM hL
    obtain ⟨F1, hP, e5, eo⟩ := ME_t hP hp
    refine MS_gen hM hP (fun σ hM hP => ?_)
    exact x_ireturn hF hM hL rfl (Nat.le_of_ble_eq_true rfl) (Nat.le_of_ble_eq_true rfl) (by (have ht : dNow w r = wAllW (w 1) (wCome w r.2.1 r.2.2) := by unfold dNow; rw [if_neg (by omega), if_neg (by omega), if_neg (by omega), if_neg (by omega), if_neg (by omega), if_pos csw]); rw [ht]; exact ⟨⟨_, rfl⟩, _, hP, e5, eo⟩) dX9_doesNow_96
  · refine x_tableOut (tgt := 97) hF dX9_doesNow_18 (by unfold inR; omega) csw (by decide) ?_
    have hok := nLeave_ok (w := w) (c := r.2.1) (by have h9 := hn; unfold nNow at h9; rw [if_neg (by omega), if_neg (by omega), if_neg (by omega), if_neg (by omega), if_neg (by omega), if_neg (by omega)] at h9; exact h9)
    
    refine lv_aload_n hx hb dX9_doesNow_97 rfl (lk hl rfl) ?_
    refine lv_iload_n hx hb dX9_doesNow_98 rfl (lk hl rfl) ?_
    refine x_kn hL (vx_runV (As := [_]) hF.2.2.2.2.2.2.2.2.2 ((mX9_leaves (w := w) hw hk (by omega) (by omega) h3 hP.1) hF.1) (cwV 1 hF.2.2.2.2.2.2.2.2.1 (lw_V q2524 q2526 qs85 q138 q2527) rfl rfl rfl (by decide +kernel) ⟨(Nat.le_of_ble_eq_true rfl), (Nat.le_of_ble_eq_true rfl)⟩) (x_preV hF hM (MA_ob hP.1) rfl) rfl rfl hl.1 rfl (lv_room (Nat.le_of_ble_eq_true rfl)) dX9_doesNow_99 ⟨(Nat.le_of_ble_eq_true rfl), (Nat.le_of_ble_eq_true rfl)⟩) ?_
    rintro _ τ99 H locs ⟨rfl, hp⟩ hM hL
    obtain ⟨F1, hP, e5, eo⟩ := ME_t hP hp
    refine MS_gen hM hP (fun σ hM hP => ?_)
    exact x_ireturn hF hM hL rfl (Nat.le_of_ble_eq_true rfl) (Nat.le_of_ble_eq_true rfl) (by (have ht : dNow w r = wAllW (-1) (wLeave w r.2.1) := by unfold dNow; rw [if_neg (by omega), if_neg (by omega), if_neg (by omega), if_neg (by omega), if_neg (by omega), if_neg (by omega)]); rw [ht]; exact ⟨⟨_, rfl⟩, _, hP, e5, eo⟩) dX9_doesNow_102
