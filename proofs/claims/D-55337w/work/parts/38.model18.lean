set_option maxHeartbeats 4000000 in
set_option maxRecDepth 100000 in
/-- BakeryRingModel.doesAll()Z -/
theorem mX9_doesAll {l : Launch} {E : En} {σ0 : Mm} {o : Nat} {F : Nat → Int → Int} {t : Int → Int} {L : Int} (htx : F 14 = t) (hln : F 15 0 = L) (hTx : Tx t L) {w0 : Int → Int} (hw0 : F 5 = w0) (hwq0 : Wq w0) (hb3 : -900000 ≤ w0 3 ∧ w0 3 ≤ 900000) (hall : (pAllF t L 61 0).1 = 1) (hP : MA E σ0 o F) : Ctr l E yX9_doesAll (ws_ yX9_doesAll cX9_doesAll 2 (some .boolean)) 6 139 0 0 [.ref o] σ0 (fun v τ => v = some (.int (iz (if (sRun (pList t L 61 0) w0 0).1 = 1 then 1 else 0))) ∧ DE E σ0 o τ F (sRun (pList t L 61 0) w0 0)) noX := by
  refine x_head (own := RX9) (cc := cX9_doesAll) (maxL := 2) (ret := (some .boolean)) (by decide) rfl rfl (Nat.le_of_ble_eq_true rfl) ?_
  intro p e s m args below meth c H ls hF hname htab hM hl
  have hx := hF.2.2.1
  have hb := hF.2.2.2.1
  have hL : Lc E [] := lcNil
  have hl : lh ls 2 ([(0, .ref o)]) := hl
  refine MS_gen hM (MS_0 hP) (fun σ hM hP => ?_)
  have hx1 := hTx.2
  refine lv_aload_n hx hb dX9_doesAll_0 rfl (lk hl rfl) ?_
  refine x_iconst hF dX9_doesAll_1 ?_
  refine x_putfield hF (ci := 10) in_X9 rfl tyX9_ok nmX9 20 (by decide) q2271 (fun _ h => h) rfl hM hL (MA_ob hP.1) (ty := .int) (by decide +kernel) rfl rfl dX9_doesAll_2 (fun H locs hM hL => ?_)
  refine MS_gen hM (MS_p20 hM hP) (fun σ hM hP => ?_)
  refine lv_aload_n hx hb dX9_doesAll_5 rfl (lk hl rfl) ?_
  refine x_iconst hF dX9_doesAll_6 ?_
  refine x_putfield hF (ci := 10) in_X9 rfl tyX9_ok nmX9 16 (by decide) q2267 (fun _ h => h) rfl hM hL (MA_ob hP.1) (ty := .int) (by decide +kernel) rfl rfl dX9_doesAll_7 (fun H locs hM hL => ?_)
  refine MS_gen hM (MS_p16 hM hP) (fun σ hM hP => ?_)
  refine x_iconst hF dX9_doesAll_10 ?_
  refine x_istore_n hF dX9_doesAll_11 rfl hl (by decide) rfl (fun ls hl => ?_)
  suffices loop : ∀ (n : Nat) (g : Int) (q : Int) (k : Nat) (w : Int → Int) (d : Int) (σ : Mm) (H : Heap) (locs : List Loc) (ls : Array Slot), 62 - q < (n : Int) → (g = 0 ∨ g = 1) → (0 ≤ q) → (q ≤ L) → (g = 1 → L - q < (k : Int)) → (g = 1 → (pAllF t L k q).1 = 1) → (Wq w) → (w0 3 ≤ w 3) → (w 3 ≤ w0 3 + 20 * d) → (0 ≤ d) → (d ≤ q) → (g = 1 → sRun (pList t L k q) w d = sRun (pList t L 61 0) w0 0) → (g = 0 → sRun (pList t L 61 0) w0 0 = (1, w, d, 0, 0, 0)) → Mem E s H σ → DQ E σ0 o σ F q w d → Lc E locs → lh ls 2 [(0, .ref o), (1, .int (iz g))] → W p l e ({ frames := 6, cells := 0, slots := 0, locals := 139 } : Room) s m args below meth c H locs 0 0 (vx_MQ below (XQc E (fun v τ => v = some (.int (iz (if (sRun (pList t L 61 0) w0 0).1 = 1 then 1 else 0))) ∧ DE E σ0 o τ F (sRun (pList t L 61 0) w0 0))) (XXc E noX) args s 0 0 (XA E)) (F0 m 12 ls []) from loop (63) 1 0 61 w0 0 _ _ _ _ (by omega) (Or.inr rfl) (by omega) (by omega) (by omega) (fun _ => hall) hwq0 (by omega) (by omega) (by omega) (by omega) (fun _ => rfl) (by omega) hM ⟨_, hP, up2_s _ _ _ _, by rw [up2_oth _ _ _ (by decide), up2_oth _ _ _ (by decide)]; exact hw0, by rw [up2_f _ _ _ _ (by decide), up2_s], fun f _ _ _ x _ _ y => by rw [up2_oth _ _ _ x, up2_oth _ _ _ y]⟩ hL (lh_sub hl rfl)
  refine nat_loop (fun g q k w d σ H locs ls hmm gg q0 q1 hk hal hwq b30 b31 d0 d1 hr1 hr0 => absurd hmm (by omega)) (fun n ih g q k w d σ H locs ls hmm gg q0 q1 hk hal hwq b30 b31 d0 d1 hr1 hr0 hM hP hL hl => ?_)
  refine lv_iload_n hx hb dX9_doesAll_12 rfl (lk hl rfl) ?_
  refine x_if_eq (tgt := 57) hF dX9_doesAll_13 (by decide) (by unfold inR; omega) (fun c13 => ?_) (fun c13 => ?_)
  · skip
    obtain ⟨F1, hP, ep, e5, e20, eo⟩ := hP
    refine x_iconst hF dX9_doesAll_57 ?_
    exact x_ireturn hF hM hL (by rfl) (Nat.le_of_ble_eq_true rfl) (Nat.le_of_ble_eq_true rfl) (by rw [hr0 (by omega)]; exact ⟨rfl, F1, hP, e5, e20, fun _ => ⟨eo 3 (by decide) (by decide) (by decide) (by decide) (by decide) (by decide) (by decide), eo 4 (by decide) (by decide) (by decide) (by decide) (by decide) (by decide) (by decide)⟩, fun q => absurd rfl q, fun f _ _ c x y z u r s => eo f c x y z u r s⟩) dX9_doesAll_58
  · skip
    obtain ⟨F1, hP, ep, e5, e20, eo⟩ := hP
    refine lv_aload_n hx hb dX9_doesAll_16 rfl (lk hl rfl) ?_
    refine x_kn hL (vx_runV (As := []) hF.2.2.2.2.2.2.2.2.2 ((mX9_readsOrder (t := t) (L := L) (x := q) ((eo 14 (by decide) (by decide) (by decide) (by decide) (by decide) (by decide) (by decide)).trans htx) ((congrFun (eo 15 (by decide) (by decide) (by decide) (by decide) (by decide) (by decide) (by decide)) 0).trans hln) ep hTx q0 q1 hP.1) hF.1) (cwV 0 hF.2.2.2.2.2.2.2.2.1 (lw_V q2643 q2645 qs95 q138 q2646) rfl rfl rfl (by decide +kernel) ⟨(Nat.le_of_ble_eq_true rfl), (Nat.le_of_ble_eq_true rfl)⟩) (x_preV hF hM (MA_ob hP.1) rfl) rfl rfl hl.1 rfl (lv_room (Nat.le_of_ble_eq_true rfl)) dX9_doesAll_17 ⟨(Nat.le_of_ble_eq_true rfl), (Nat.le_of_ble_eq_true rfl)⟩) ?_
    rintro _ τ17 H locs ⟨rfl, hp⟩ hM hL
    obtain ⟨F2, hP2, ep, et, eo2⟩ := hp
    refine MS_gen hM (MS_t hP hP2) (fun σ hM hP => ?_)
    replace eo : ∀ f : Nat, f ≠ 5 → f ≠ 12 → f ≠ 13 → f ≠ 16 → f ≠ 18 → f ≠ 19 → f ≠ 20 → F2 f = F f := fun f a b c x y z u => (eo2 f x y z).trans (eo f a b c x y z u)
    replace e5 := (eo2 5 (by decide) (by decide) (by decide)).trans e5
    replace e20 := (congrFun (eo2 20 (by decide) (by decide) (by decide)) 0).trans e20
    have hpo := pOrd_r (t := t) (L := L) q0 q1
    unfold Po at hpo
    have hok1 := pAllF_ok (k := k) (by omega) (hal (by omega))
    have et1 := et hok1.1
    refine x_ifeq_b (tgt := 30) hF dX9_doesAll_20 (by decide) (fun c20 => ?_) (fun c20 => ?_)
    · skip
      exact absurd hok1.1 c20
    · skip
      refine lv_aload_n hx hb dX9_doesAll_23 rfl (lk hl rfl) ?_
      refine x_kn hL (vx_runV (As := []) hF.2.2.2.2.2.2.2.2.2 ((mX9_notNow (w := w) (r := (pOrd t L q).2.2) e5 hwq.1 hpo.2.2.2.1 hpo.2.2.2.2.1 hpo.2.2.2.2.2.1 et1.1 et1.2.1 et1.2.2 hP.1) hF.1) (cwV 0 hF.2.2.2.2.2.2.2.2.1 (lw_V q2675 q2677 qs103 q138 q2678) rfl rfl rfl (by decide +kernel) ⟨(Nat.le_of_ble_eq_true rfl), (Nat.le_of_ble_eq_true rfl)⟩) (x_preV hF hM (MA_ob hP.1) rfl) rfl rfl hl.1 rfl (lv_room (Nat.le_of_ble_eq_true rfl)) dX9_doesAll_24 ⟨(Nat.le_of_ble_eq_true rfl), (Nat.le_of_ble_eq_true rfl)⟩) ?_
      rintro _ τ24 H locs ⟨rfl, hp⟩ hM hL
      refine MS_gen hM (MS_t hP hp) (fun σ hM hP => ?_)
      
      refine x_if_eq (tgt := 32) hF dX9_doesAll_27 (by decide) (by have h9 := nNow_r w (pOrd t L q).2.2; unfold inR; omega) (fun c27 => ?_) (fun c27 => ?_)
      · skip
        have e0 : mNot F2 (nNow w (pOrd t L q).2.2) = F2 := if_pos c27
        rw [e0] at hP
        refine lv_aload_n hx hb dX9_doesAll_32 rfl (lk hl rfl) ?_
        refine x_kn hL (vx_runV (As := []) hF.2.2.2.2.2.2.2.2.2 ((mX9_doesNow (w := w) (r := (pOrd t L q).2.2) e5 hwq.1 hpo.2.2.2.1 hpo.2.2.2.2.1 hpo.2.2.2.2.2.1 et1.1 et1.2.1 et1.2.2 c27 hwq.2 ⟨by omega, by omega⟩ hP.1) hF.1) (cwV 0 hF.2.2.2.2.2.2.2.2.1 (lw_V q2679 q2681 qs104 q138 q2682) rfl rfl rfl (by decide +kernel) ⟨(Nat.le_of_ble_eq_true rfl), (Nat.le_of_ble_eq_true rfl)⟩) (x_preV hF hM (MA_ob hP.1) rfl) rfl rfl hl.1 rfl (lv_room (Nat.le_of_ble_eq_true rfl)) dX9_doesAll_33 ⟨(Nat.le_of_ble_eq_true rfl), (Nat.le_of_ble_eq_true rfl)⟩) ?_
        rintro _ τ33 H locs ⟨⟨y9, rfl⟩, hp⟩ hM hL
        obtain ⟨F4, hP, e5, eo4⟩ := ME_t hP hp
        refine MS_gen hM hP (fun σ hM hP => ?_)
        replace eo : ∀ f : Nat, f ≠ 5 → f ≠ 12 → f ≠ 13 → f ≠ 16 → f ≠ 18 → f ≠ 19 → f ≠ 20 → F4 f = F f := fun f a b c x y z u => (eo4 f a b c).trans (eo f a b c x y z u)
        replace e20 := (congrFun (eo4 20 (by decide) (by decide) (by decide)) 0).trans e20
        replace ep := (congrFun (eo4 16 (by decide) (by decide) (by decide)) 0).trans ep
        refine lv_pop hx hb dX9_doesAll_36 rfl ?_
        refine lv_aload_n hx hb dX9_doesAll_37 rfl (lk hl rfl) ?_
        refine lv_dup hx hb dX9_doesAll_38 rfl ?_
        refine x_getfield hF (ci := 10) in_X9 rfl 20 (by decide) q2271 (fun _ h => h) hM (MA_ob hP.1) (show rd _ _ _ = .int (iz (d)) from by have h9 := MA_s20 hP.1; rw [e20] at h9; exact h9) dX9_doesAll_39 ?_
        refine x_iconst hF dX9_doesAll_42 ?_
        refine x_iadd hF dX9_doesAll_43 ?_
        refine x_putfield hF (ci := 10) in_X9 rfl tyX9_ok nmX9 20 (by decide) q2271 (fun _ h => h) rfl hM hL (MA_ob hP.1) (ty := .int) (by decide +kernel) rfl rfl dX9_doesAll_44 (fun H locs hM hL => ?_)
        refine MS_gen hM (MS_p20 hM hP) (fun σ hM hP => ?_)
        refine lv_aload_n hx hb dX9_doesAll_47 rfl (lk hl rfl) ?_
        refine x_bipush hF (by decide) dX9_doesAll_48 ?_
        refine x_kn hL (vx_runV (As := [_]) hF.2.2.2.2.2.2.2.2.2 ((mX9_reads (z := 59) (t := t) (L := L) (x := (pOrd t L q).2.1) (by unfold inR; omega) ((up2_oth _ _ _ (by decide)).trans ((eo 14 (by decide) (by decide) (by decide) (by decide) (by decide) (by decide) (by decide)).trans htx)) ((up2_f _ _ _ _ (by decide)).trans ((congrFun (eo 15 (by decide) (by decide) (by decide) (by decide) (by decide) (by decide) (by decide)) 0).trans hln)) ((up2_f _ _ _ _ (by decide)).trans ep) hTx (by omega) (by omega) hP.1) hF.1) (cwV 1 hF.2.2.2.2.2.2.2.2.1 (lw_V q2647 q2649 qs96 q138 q2650) rfl rfl rfl (by decide +kernel) ⟨(Nat.le_of_ble_eq_true rfl), (Nat.le_of_ble_eq_true rfl)⟩) (x_preV hF hM (MA_ob hP.1) rfl) rfl rfl hl.1 rfl (lv_room (Nat.le_of_ble_eq_true rfl)) dX9_doesAll_50 ⟨(Nat.le_of_ble_eq_true rfl), (Nat.le_of_ble_eq_true rfl)⟩) ?_
        rintro _ τ50 H locs ⟨rfl, hp⟩ hM hL
        obtain ⟨F5, hP2, ep, eo5⟩ := hp
        refine MS_gen hM (MS_t hP hP2) (fun σ hM hP => ?_)
        replace eo : ∀ f : Nat, f ≠ 5 → f ≠ 12 → f ≠ 13 → f ≠ 16 → f ≠ 18 → f ≠ 19 → f ≠ 20 → F5 f = F f := fun f a b c x y z u => ((eo5 f x).trans (up2_oth _ _ _ u)).trans (eo f a b c x y z u)
        replace e20 : F5 20 0 = d + 1 := by rw [eo5 20 (by decide), up2_s]
        replace e5 : F5 5 = dNow w (pOrd t L q).2.2 := by rw [eo5 5 (by decide), up2_oth _ _ _ (by decide)]; exact e5
        refine x_istore_n hF dX9_doesAll_53 rfl hl (by decide) rfl (fun ls hl => ?_)
        refine x_goto (tgt := 12) hF dX9_doesAll_54 (by decide) ?_
        have hnx := hr1 (by omega)
        rw [pList_1 (by omega), sRun_1 c27] at hnx
        have hdk := dNow_k hwq c27 ⟨by omega, by omega⟩
        by_cases c9 : lt t L (pOrd t L q).2.1 = 59
        · rw [if_pos c9] at hl
          rw [if_pos c9] at ep
          rw [if_pos c9] at hnx
          have hll := lt_lt c9 (by decide)
          exact ih 1 ((pOrd t L q).2.1 + 1) (k - 1) (dNow w (pOrd t L q).2.2) (d + 1) _ _ _ _ (by omega) (by omega) (by omega) (by omega) (by omega) (fun _ => hok1.2 c9) hdk.1 (by omega) (by omega) (by omega) (by omega) (fun _ => hnx) (by omega) hM ⟨_, hP, ep, e5, e20, eo⟩ hL (lh_sub hl rfl)
        · rw [if_neg c9] at hl
          rw [if_neg c9] at ep
          rw [if_neg c9] at hnx
          exact ih 0 (pOrd t L q).2.1 (k - 1) (dNow w (pOrd t L q).2.2) (d + 1) _ _ _ _ (by omega) (by omega) (by omega) (by omega) (by omega) (by omega) hdk.1 (by omega) (by omega) (by omega) (by omega) (by omega) (fun _ => hnx.symm) hM ⟨_, hP, ep, e5, e20, eo⟩ hL (lh_sub hl rfl)
      · skip
        refine x_iconst hF dX9_doesAll_30 ?_
        exact x_ireturn hF hM hL (by rfl) (Nat.le_of_ble_eq_true rfl) (Nat.le_of_ble_eq_true rfl) (by (have e9 : sRun (pList t L 61 0) w0 0 = (0, w, d, nNow w (pOrd t L q).2.2) := by rw [← hr1 (by omega), pList_1 (by omega), sRun_0 c27]); rw [e9]; exact ⟨rfl, _, hP, by rw [mNot_o _ _ (by decide) (by decide)]; exact e5, by rw [mNot_o _ _ (by decide) (by decide)]; exact e20, fun q => absurd q (by show ¬ (0 : Int) = 1; decide), fun _ => ⟨mNot_3 _ _ c27, fun h9 => mNot_4 _ _ c27 h9⟩, fun f a b c x y z u r s => by rw [mNot_o _ _ a b]; exact eo f c x y z u r s⟩) dX9_doesAll_31
