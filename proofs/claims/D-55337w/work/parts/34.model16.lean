set_option maxHeartbeats 4000000 in
set_option maxRecDepth 100000 in
/-- BakeryRingModel.readsTwo(III)Z -/
theorem mX9_readsTwo {l : Launch} {E : En} {σ0 : Mm} {o : Nat} {F : Nat → Int → Int} {z a b : Int} (ha0 : 1 ≤ a) (ha1 : a ≤ 3) (hb0 : 0 ≤ b) (hb1 : b ≤ 3) (hd : b = 0 → z ≠ 0 ∧ z ≠ 4 ∧ z ≠ 5) {t : Int → Int} {L x : Int} (htx : F 14 = t) (hln : F 15 0 = L) (hps : F 16 0 = x) (hTx : Tx t L) (x0 : 0 ≤ x) (x1 : x ≤ L) (hP : MA E σ0 o F) : Ctr l E yX9_readsTwo (ws_ yX9_readsTwo cX9_readsTwo 4 (some .boolean)) 3 64 0 0 [.ref o, .int (iz z), .int (iz a), .int (iz b)] σ0 (fun v τ => v = some (.int (iz (if (pTwo t L x a b z).1 = 1 then 1 else 0))) ∧ RT E σ0 o τ F (pTwo t L x a b z)) noX := by
  refine x_head (own := RX9) (cc := cX9_readsTwo) (maxL := 4) (ret := (some .boolean)) (by decide) rfl rfl (Nat.le_of_ble_eq_true rfl) ?_
  intro p e s m args below meth c H ls hF hname htab hM hl
  have hx := hF.2.2.1
  have hb := hF.2.2.2.1
  have hL : Lc E [] := lcNil
  have hl : lh ls 4 ([(0, .ref o), (1, .int (iz z)), (2, .int (iz a)), (3, .int (iz b))]) := hl
  refine MS_gen hM (MS_0 hP) (fun σ hM hP => ?_)
  have hn1 := pNum_r (t := t) (L := L) (d := a) x0 x1 ha1
  refine lv_aload_n hx hb dX9_readsTwo_0 rfl (lk hl rfl) ?_
  refine lv_iload_n hx hb dX9_readsTwo_1 rfl (lk hl rfl) ?_
  refine x_putfield hF (ci := 10) in_X9 rfl tyX9_ok nmX9 19 (by decide) q2270 (fun _ h => h) rfl hM hL (MA_ob hP.1) (ty := .int) (by decide +kernel) rfl rfl dX9_readsTwo_2 (fun H locs hM hL => ?_)
  refine MS_gen hM (MS_p19 hM hP) (fun σ hM hP => ?_)
  refine lv_aload_n hx hb dX9_readsTwo_5 rfl (lk hl rfl) ?_
  refine x_iconst hF dX9_readsTwo_6 ?_
  refine lv_iload_n hx hb dX9_readsTwo_7 rfl (lk hl rfl) ?_
  refine x_kn hL (vx_runV (As := [_, _]) hF.2.2.2.2.2.2.2.2.2 ((mX9_readsNumber (z := 0) (a := a) (t := t) (L := L) (x := x) (by omega) (by omega) ha0 ha1 ((up2_oth _ _ _ (by decide)).trans htx) ((up2_f _ _ _ _ (by decide)).trans hln) ((up2_f _ _ _ _ (by decide)).trans hps) hTx x0 x1 hP.1) hF.1) (cwV 2 hF.2.2.2.2.2.2.2.2.1 (lw_V q2659 q2661 qs99 q138 q2662) rfl rfl rfl (by decide +kernel) ⟨(Nat.le_of_ble_eq_true rfl), (Nat.le_of_ble_eq_true rfl)⟩) (x_preV hF hM (MA_ob hP.1) rfl) rfl rfl hl.1 rfl (lv_room (Nat.le_of_ble_eq_true rfl)) dX9_readsTwo_8 ⟨(Nat.le_of_ble_eq_true rfl), (Nat.le_of_ble_eq_true rfl)⟩) ?_
  rintro _ τ8 H locs ⟨rfl, hp⟩ hM hL
  obtain ⟨F2, hP2, ep, ev, ej, eo2⟩ := hp
  refine MS_gen hM (MS_t hP hP2) (fun σ hM hP => ?_)
  have eo : ∀ f : Nat, f ≠ 16 → f ≠ 18 → f ≠ 19 → F2 f = F f := fun f x y w => (eo2 f x y).trans (up2_oth _ _ _ w)
  have es : F2 19 0 = z := by rw [eo2 19 (by decide) (by decide), up2_s]
  refine x_ifeq_b (tgt := 31) hF dX9_readsTwo_11 (by decide) (fun c11 => ?_) (fun c11 => ?_)
  · skip
    refine x_iconst hF dX9_readsTwo_31 ?_
    exact x_ireturn hF hM hL (by rfl) (Nat.le_of_ble_eq_true rfl) (Nat.le_of_ble_eq_true rfl) (by (have ht9 : pTwo t L x a b z = (0, (pNum t L x a).2.1, 0, 0, 0) := by unfold pTwo; rw [if_neg c11]); rw [ht9]; exact ⟨rfl, _, hP, ep, fun q => absurd q (by show ¬ (0 : Int) = 1; decide), eo⟩) dX9_readsTwo_32
  · skip
    refine lv_iload_n hx hb dX9_readsTwo_14 rfl (lk hl rfl) ?_
    refine x_if_eq (tgt := 27) hF dX9_readsTwo_15 (by decide) (by unfold inR; omega) (fun c15 => ?_) (fun c15 => ?_)
    · skip
      refine x_iconst hF dX9_readsTwo_27 ?_
      refine x_goto (tgt := 32) hF dX9_readsTwo_28 (by decide) ?_
      exact x_ireturn hF hM hL (by rfl) (Nat.le_of_ble_eq_true rfl) (Nat.le_of_ble_eq_true rfl) (by (have ht9 : pTwo t L x a b z = (1, (pNum t L x a).2.1, z, (pNum t L x a).2.2, 0) := by unfold pTwo; rw [if_pos c11, if_pos c15]); rw [ht9]; exact ⟨rfl, _, hP, ep, fun _ => ⟨es, ev c11, fun q => absurd q (by have h9 := hd c15; show ¬ (z = 0 ∨ z = 4 ∨ z = 5); omega)⟩, eo⟩) dX9_readsTwo_32
    · skip
      refine lv_aload_n hx hb dX9_readsTwo_18 rfl (lk hl rfl) ?_
      refine x_iconst hF dX9_readsTwo_19 ?_
      refine lv_iload_n hx hb dX9_readsTwo_20 rfl (lk hl rfl) ?_
      refine x_kn hL (vx_runV (As := [_, _]) hF.2.2.2.2.2.2.2.2.2 ((mX9_readsNumber (z := 1) (a := b) (t := t) (L := L) (x := (pNum t L x a).2.1) (by omega) (by omega) (by omega) hb1 ((eo 14 (by decide) (by decide) (by decide)).trans htx) ((congrFun (eo 15 (by decide) (by decide) (by decide)) 0).trans hln) ep hTx (by omega) (by omega) hP.1) hF.1) (cwV 2 hF.2.2.2.2.2.2.2.2.1 (lw_V q2659 q2661 qs99 q138 q2662) rfl rfl rfl (by decide +kernel) ⟨(Nat.le_of_ble_eq_true rfl), (Nat.le_of_ble_eq_true rfl)⟩) (x_preV hF hM (MA_ob hP.1) rfl) rfl rfl hl.1 rfl (lv_room (Nat.le_of_ble_eq_true rfl)) dX9_readsTwo_21 ⟨(Nat.le_of_ble_eq_true rfl), (Nat.le_of_ble_eq_true rfl)⟩) ?_
      rintro _ τ21 H locs ⟨rfl, hp⟩ hM hL
      obtain ⟨F3, hP2, ep3, ev3, ej3, eo3⟩ := hp
      refine MS_gen hM (MS_t hP hP2) (fun σ hM hP => ?_)
      replace eo : ∀ f : Nat, f ≠ 16 → f ≠ 18 → f ≠ 19 → F3 f = F f := fun f x y w => (eo3 f x y).trans (eo f x y w)
      replace es : F3 19 0 = z := by rw [eo3 19 (by decide) (by decide)]; exact es
      have ev1 : F3 18 0 = (pNum t L x a).2.2 := by rw [ej3 0 (by decide)]; exact ev c11
      refine x_ifeq_b (tgt := 31) hF dX9_readsTwo_24 (by decide) (fun c24 => ?_) (fun c24 => ?_)
      · skip
        refine x_iconst hF dX9_readsTwo_31 ?_
        exact x_ireturn hF hM hL (by rfl) (Nat.le_of_ble_eq_true rfl) (Nat.le_of_ble_eq_true rfl) (by (have ht9 : pTwo t L x a b z = (0, (pNum t L (pNum t L x a).2.1 b).2.1, 0, 0, 0) := by unfold pTwo; rw [if_pos c11, if_neg c15, if_neg c24]); rw [ht9]; exact ⟨rfl, _, hP, ep3, fun q => absurd q (by show ¬ (0 : Int) = 1; decide), eo⟩) dX9_readsTwo_32
      · skip
        refine x_iconst hF dX9_readsTwo_27 ?_
        refine x_goto (tgt := 32) hF dX9_readsTwo_28 (by decide) ?_
        exact x_ireturn hF hM hL (by rfl) (Nat.le_of_ble_eq_true rfl) (Nat.le_of_ble_eq_true rfl) (by (have ht9 : pTwo t L x a b z = (1, (pNum t L (pNum t L x a).2.1 b).2.1, z, (pNum t L x a).2.2, (pNum t L (pNum t L x a).2.1 b).2.2) := by unfold pTwo; rw [if_pos c11, if_neg c15, if_pos c24]); rw [ht9]; exact ⟨rfl, _, hP, ep3, fun _ => ⟨es, ev1, fun _ => ev3 c24⟩, eo⟩) dX9_readsTwo_32
set_option maxHeartbeats 4000000 in
set_option maxRecDepth 100000 in
/-- BakeryRingModel.readsC()Z -/
theorem mX9_readsC {l : Launch} {E : En} {σ0 : Mm} {o : Nat} {F : Nat → Int → Int} {t : Int → Int} {L x : Int} (htx : F 14 = t) (hln : F 15 0 = L) (hps : F 16 0 = x) (hTx : Tx t L) (x0 : 0 ≤ x) (x1 : x ≤ L) (hP : MA E σ0 o F) : Ctr l E yX9_readsC (ws_ yX9_readsC cX9_readsC 1 (some .boolean)) 4 87 0 0 [.ref o] σ0 (fun v τ => v = some (.int (iz (if (pC t L x).1 = 1 then 1 else 0))) ∧ RT E σ0 o τ F (pC t L x)) noX := by
  refine x_head (own := RX9) (cc := cX9_readsC) (maxL := 1) (ret := (some .boolean)) (by decide) rfl rfl (Nat.le_of_ble_eq_true rfl) ?_
  intro p e s m args below meth c H ls hF hname htab hM hl
  have hx := hF.2.2.1
  have hb := hF.2.2.2.1
  have hL : Lc E [] := lcNil
  have hl : lh ls 1 ([(0, .ref o)]) := hl
  refine MS_gen hM (MS_0 hP) (fun σ hM hP => ?_)
  have eo : ∀ f : Nat, f ≠ 16 → F f = F f := fun _ _ => rfl
  have ep := hps
  
  refine lv_aload_n hx hb dX9_readsC_0 rfl (lk hl rfl) ?_
  refine x_bipush hF (by decide) dX9_readsC_1 ?_
  refine x_kn hL (vx_runV (As := [_]) hF.2.2.2.2.2.2.2.2.2 ((mX9_reads (z := 108) (t := t) (L := L) (x := x) (by unfold inR; omega) ((eo 14 (by decide)).trans htx) ((congrFun (eo 15 (by decide)) 0).trans hln) ep hTx (by omega) (by omega) hP.1) hF.1) (cwV 1 hF.2.2.2.2.2.2.2.2.1 (lw_V q2647 q2649 qs96 q138 q2650) rfl rfl rfl (by decide +kernel) ⟨(Nat.le_of_ble_eq_true rfl), (Nat.le_of_ble_eq_true rfl)⟩) (x_preV hF hM (MA_ob hP.1) rfl) rfl rfl hl.1 rfl (lv_room (Nat.le_of_ble_eq_true rfl)) dX9_readsC_3 ⟨(Nat.le_of_ble_eq_true rfl), (Nat.le_of_ble_eq_true rfl)⟩) ?_
  rintro _ τ3 H locs ⟨rfl, hp⟩ hM hL
  obtain ⟨F2, hP2, ep, eo2⟩ := hp
  refine MS_gen hM (MS_t hP hP2) (fun σ hM hP => ?_)
  replace eo := fun f (a : f ≠ 16) => (eo2 f a).trans (eo f a)
  refine x_ifeq_b (tgt := 52) hF dX9_readsC_6 (by decide) (fun c6 => ?_) (fun c6 => ?_)
  · skip
    have hr : pC t L x = _ := if_neg c6
    replace ep := ep.trans (if_neg c6)
    refine lv_aload_n hx hb dX9_readsC_52 rfl (lk hl rfl) ?_
    refine x_bipush hF (by decide) dX9_readsC_53 ?_
    refine x_kn hL (vx_runV (As := [_]) hF.2.2.2.2.2.2.2.2.2 ((mX9_reads (z := 111) (t := t) (L := L) (x := x) (by unfold inR; omega) ((eo 14 (by decide)).trans htx) ((congrFun (eo 15 (by decide)) 0).trans hln) ep hTx (by omega) (by omega) hP.1) hF.1) (cwV 1 hF.2.2.2.2.2.2.2.2.1 (lw_V q2647 q2649 qs96 q138 q2650) rfl rfl rfl (by decide +kernel) ⟨(Nat.le_of_ble_eq_true rfl), (Nat.le_of_ble_eq_true rfl)⟩) (x_preV hF hM (MA_ob hP.1) rfl) rfl rfl hl.1 rfl (lv_room (Nat.le_of_ble_eq_true rfl)) dX9_readsC_55 ⟨(Nat.le_of_ble_eq_true rfl), (Nat.le_of_ble_eq_true rfl)⟩) ?_
    rintro _ τ55 H locs ⟨rfl, hp⟩ hM hL
    obtain ⟨F2, hP2, ep, eo2⟩ := hp
    refine MS_gen hM (MS_t hP hP2) (fun σ hM hP => ?_)
    replace eo := fun f (a : f ≠ 16) => (eo2 f a).trans (eo f a)
    refine x_ifeq_b (tgt := 93) hF dX9_readsC_58 (by decide) (fun c58 => ?_) (fun c58 => ?_)
    · skip
      replace hr := hr.trans (pRest_n c58)
      replace ep := ep.trans (if_neg c58)
      refine x_iconst hF dX9_readsC_93 ?_
      exact x_ireturn hF hM hL (by rfl) (Nat.le_of_ble_eq_true rfl) (Nat.le_of_ble_eq_true rfl) (by first | exact ⟨by rw [hr, if_pos c43], by rw [hr]; exact hT⟩ | exact ⟨by rw [hr, if_pos c86], by rw [hr]; exact hT⟩ | exact ⟨by rw [hr, if_neg c43], by rw [hr]; exact hT⟩ | exact ⟨by rw [hr, if_neg c86], by rw [hr]; exact hT⟩ | exact ⟨by rw [hr]; rfl, by rw [hr]; exact ⟨_, hP, ep, fun q => absurd q (by show ¬ (0 : Int) = 1; decide), fun f a _ _ => eo f a⟩⟩ | exact ⟨by rw [hr], by rw [hr]; exact hT⟩ | fail) dX9_readsC_94
    · skip
      replace hr := hr.trans (pRest_c c58)
      replace ep := ep.trans (if_pos c58)
      have hl55 := lt_lt c58 (by decide)
      refine lv_aload_n hx hb dX9_readsC_61 rfl (lk hl rfl) ?_
      refine x_bipush hF (by decide) dX9_readsC_62 ?_
      refine x_kn hL (vx_runV (As := [_]) hF.2.2.2.2.2.2.2.2.2 ((mX9_reads (z := 109) (t := t) (L := L) (x := (x + 1)) (by unfold inR; omega) ((eo 14 (by decide)).trans htx) ((congrFun (eo 15 (by decide)) 0).trans hln) ep hTx (by omega) (by omega) hP.1) hF.1) (cwV 1 hF.2.2.2.2.2.2.2.2.1 (lw_V q2647 q2649 qs96 q138 q2650) rfl rfl rfl (by decide +kernel) ⟨(Nat.le_of_ble_eq_true rfl), (Nat.le_of_ble_eq_true rfl)⟩) (x_preV hF hM (MA_ob hP.1) rfl) rfl rfl hl.1 rfl (lv_room (Nat.le_of_ble_eq_true rfl)) dX9_readsC_64 ⟨(Nat.le_of_ble_eq_true rfl), (Nat.le_of_ble_eq_true rfl)⟩) ?_
      rintro _ τ64 H locs ⟨rfl, hp⟩ hM hL
      obtain ⟨F2, hP2, ep, eo2⟩ := hp
      refine MS_gen hM (MS_t hP hP2) (fun σ hM hP => ?_)
      replace eo := fun f (a : f ≠ 16) => (eo2 f a).trans (eo f a)
      refine x_ifeq_b (tgt := 93) hF dX9_readsC_67 (by decide) (fun c67 => ?_) (fun c67 => ?_)
      · skip
        replace hr := hr.trans (pRest_n c67)
        replace ep := ep.trans (if_neg c67)
        refine x_iconst hF dX9_readsC_93 ?_
        exact x_ireturn hF hM hL (by rfl) (Nat.le_of_ble_eq_true rfl) (Nat.le_of_ble_eq_true rfl) (by first | exact ⟨by rw [hr, if_pos c43], by rw [hr]; exact hT⟩ | exact ⟨by rw [hr, if_pos c86], by rw [hr]; exact hT⟩ | exact ⟨by rw [hr, if_neg c43], by rw [hr]; exact hT⟩ | exact ⟨by rw [hr, if_neg c86], by rw [hr]; exact hT⟩ | exact ⟨by rw [hr]; rfl, by rw [hr]; exact ⟨_, hP, ep, fun q => absurd q (by show ¬ (0 : Int) = 1; decide), fun f a _ _ => eo f a⟩⟩ | exact ⟨by rw [hr], by rw [hr]; exact hT⟩ | fail) dX9_readsC_94
      · skip
        replace hr := hr.trans (pRest_c c67)
        replace ep := ep.trans (if_pos c67)
        have hl64 := lt_lt c67 (by decide)
        refine lv_aload_n hx hb dX9_readsC_70 rfl (lk hl rfl) ?_
        refine x_bipush hF (by decide) dX9_readsC_71 ?_
        refine x_kn hL (vx_runV (As := [_]) hF.2.2.2.2.2.2.2.2.2 ((mX9_reads (z := 101) (t := t) (L := L) (x := (x + 1 + 1)) (by unfold inR; omega) ((eo 14 (by decide)).trans htx) ((congrFun (eo 15 (by decide)) 0).trans hln) ep hTx (by omega) (by omega) hP.1) hF.1) (cwV 1 hF.2.2.2.2.2.2.2.2.1 (lw_V q2647 q2649 qs96 q138 q2650) rfl rfl rfl (by decide +kernel) ⟨(Nat.le_of_ble_eq_true rfl), (Nat.le_of_ble_eq_true rfl)⟩) (x_preV hF hM (MA_ob hP.1) rfl) rfl rfl hl.1 rfl (lv_room (Nat.le_of_ble_eq_true rfl)) dX9_readsC_73 ⟨(Nat.le_of_ble_eq_true rfl), (Nat.le_of_ble_eq_true rfl)⟩) ?_
        rintro _ τ73 H locs ⟨rfl, hp⟩ hM hL
        obtain ⟨F2, hP2, ep, eo2⟩ := hp
        refine MS_gen hM (MS_t hP hP2) (fun σ hM hP => ?_)
        replace eo := fun f (a : f ≠ 16) => (eo2 f a).trans (eo f a)
        refine x_ifeq_b (tgt := 93) hF dX9_readsC_76 (by decide) (fun c76 => ?_) (fun c76 => ?_)
        · skip
          replace hr := hr.trans (pRest_n c76)
          replace ep := ep.trans (if_neg c76)
          refine x_iconst hF dX9_readsC_93 ?_
          exact x_ireturn hF hM hL (by rfl) (Nat.le_of_ble_eq_true rfl) (Nat.le_of_ble_eq_true rfl) (by first | exact ⟨by rw [hr, if_pos c43], by rw [hr]; exact hT⟩ | exact ⟨by rw [hr, if_pos c86], by rw [hr]; exact hT⟩ | exact ⟨by rw [hr, if_neg c43], by rw [hr]; exact hT⟩ | exact ⟨by rw [hr, if_neg c86], by rw [hr]; exact hT⟩ | exact ⟨by rw [hr]; rfl, by rw [hr]; exact ⟨_, hP, ep, fun q => absurd q (by show ¬ (0 : Int) = 1; decide), fun f a _ _ => eo f a⟩⟩ | exact ⟨by rw [hr], by rw [hr]; exact hT⟩ | fail) dX9_readsC_94
        · skip
          replace hr := hr.trans (pRest_c c76)
          replace ep := ep.trans (if_pos c76)
          have hl73 := lt_lt c76 (by decide)
          refine lv_aload_n hx hb dX9_readsC_79 rfl (lk hl rfl) ?_
          refine x_iconst hF dX9_readsC_80 ?_
          refine x_iconst hF dX9_readsC_81 ?_
          refine x_iconst hF dX9_readsC_82 ?_
          refine x_kn hL (vx_runV (As := [_, _, _]) hF.2.2.2.2.2.2.2.2.2 ((mX9_readsTwo (z := 5) (a := 3) (b := 1) (t := t) (L := L) (x := (x + 1 + 1 + 1)) (by omega) (by omega) (by omega) (by omega) (by omega) ((eo 14 (by decide)).trans htx) ((congrFun (eo 15 (by decide)) 0).trans hln) ep hTx (by omega) (by omega) hP.1) hF.1) (cwV 3 hF.2.2.2.2.2.2.2.2.1 (lw_V q2655 q2657 qs98 q138 q2658) rfl rfl rfl (by decide +kernel) ⟨(Nat.le_of_ble_eq_true rfl), (Nat.le_of_ble_eq_true rfl)⟩) (x_preV hF hM (MA_ob hP.1) rfl) rfl rfl hl.1 rfl (lv_room (Nat.le_of_ble_eq_true rfl)) dX9_readsC_83 ⟨(Nat.le_of_ble_eq_true rfl), (Nat.le_of_ble_eq_true rfl)⟩) ?_
          rintro _ τ83 H locs ⟨rfl, hp⟩ hM hL
          have hT := RT_t hP eo hp
          refine x_ifeq_b (tgt := 93) hF dX9_readsC_86 (by decide) (fun c86 => ?_) (fun c86 => ?_)
          · skip
            replace hr := hr.trans (show _ = pTwo t L (x + 1 + 1 + 1) 3 1 5 from rfl)
            refine x_iconst hF dX9_readsC_93 ?_
            exact x_ireturn hF hM hL (by rfl) (Nat.le_of_ble_eq_true rfl) (Nat.le_of_ble_eq_true rfl) (by first | exact ⟨by rw [hr, if_pos c43], by rw [hr]; exact hT⟩ | exact ⟨by rw [hr, if_pos c86], by rw [hr]; exact hT⟩ | exact ⟨by rw [hr, if_neg c43], by rw [hr]; exact hT⟩ | exact ⟨by rw [hr, if_neg c86], by rw [hr]; exact hT⟩ | exact ⟨by rw [hr]; rfl, by rw [hr]; exact ⟨_, hP, ep, fun q => absurd q (by show ¬ (0 : Int) = 1; decide), fun f a _ _ => eo f a⟩⟩ | exact ⟨by rw [hr], by rw [hr]; exact hT⟩ | fail) dX9_readsC_94
          · skip
            replace hr := hr.trans (show _ = pTwo t L (x + 1 + 1 + 1) 3 1 5 from rfl)
            refine x_iconst hF dX9_readsC_89 ?_
            refine x_goto (tgt := 94) hF dX9_readsC_90 (by decide) ?_
            exact x_ireturn hF hM hL (by rfl) (Nat.le_of_ble_eq_true rfl) (Nat.le_of_ble_eq_true rfl) (by first | exact ⟨by rw [hr, if_pos c43], by rw [hr]; exact hT⟩ | exact ⟨by rw [hr, if_pos c86], by rw [hr]; exact hT⟩ | exact ⟨by rw [hr, if_neg c43], by rw [hr]; exact hT⟩ | exact ⟨by rw [hr, if_neg c86], by rw [hr]; exact hT⟩ | exact ⟨by rw [hr]; rfl, by rw [hr]; exact ⟨_, hP, ep, fun q => absurd q (by show ¬ (0 : Int) = 1; decide), fun f a _ _ => eo f a⟩⟩ | exact ⟨by rw [hr], by rw [hr]; exact hT⟩ | fail) dX9_readsC_94
  · skip
    have hr : pC t L x = _ := if_pos c6
    replace ep := ep.trans (if_pos c6)
    have hll := lt_lt c6 (by decide)
    refine lv_aload_n hx hb dX9_readsC_9 rfl (lk hl rfl) ?_
    refine x_bipush hF (by decide) dX9_readsC_10 ?_
    refine x_kn hL (vx_runV (As := [_]) hF.2.2.2.2.2.2.2.2.2 ((mX9_reads (z := 111) (t := t) (L := L) (x := (x + 1)) (by unfold inR; omega) ((eo 14 (by decide)).trans htx) ((congrFun (eo 15 (by decide)) 0).trans hln) ep hTx (by omega) (by omega) hP.1) hF.1) (cwV 1 hF.2.2.2.2.2.2.2.2.1 (lw_V q2647 q2649 qs96 q138 q2650) rfl rfl rfl (by decide +kernel) ⟨(Nat.le_of_ble_eq_true rfl), (Nat.le_of_ble_eq_true rfl)⟩) (x_preV hF hM (MA_ob hP.1) rfl) rfl rfl hl.1 rfl (lv_room (Nat.le_of_ble_eq_true rfl)) dX9_readsC_12 ⟨(Nat.le_of_ble_eq_true rfl), (Nat.le_of_ble_eq_true rfl)⟩) ?_
    rintro _ τ12 H locs ⟨rfl, hp⟩ hM hL
    obtain ⟨F2, hP2, ep, eo2⟩ := hp
    refine MS_gen hM (MS_t hP hP2) (fun σ hM hP => ?_)
    replace eo := fun f (a : f ≠ 16) => (eo2 f a).trans (eo f a)
    refine x_ifeq_b (tgt := 50) hF dX9_readsC_15 (by decide) (fun c15 => ?_) (fun c15 => ?_)
    · skip
      replace hr := hr.trans (pRest_n c15)
      replace ep := ep.trans (if_neg c15)
      refine x_iconst hF dX9_readsC_50 ?_
      exact x_ireturn hF hM hL (by rfl) (Nat.le_of_ble_eq_true rfl) (Nat.le_of_ble_eq_true rfl) (by first | exact ⟨by rw [hr, if_pos c43], by rw [hr]; exact hT⟩ | exact ⟨by rw [hr, if_pos c86], by rw [hr]; exact hT⟩ | exact ⟨by rw [hr, if_neg c43], by rw [hr]; exact hT⟩ | exact ⟨by rw [hr, if_neg c86], by rw [hr]; exact hT⟩ | exact ⟨by rw [hr]; rfl, by rw [hr]; exact ⟨_, hP, ep, fun q => absurd q (by show ¬ (0 : Int) = 1; decide), fun f a _ _ => eo f a⟩⟩ | exact ⟨by rw [hr], by rw [hr]; exact hT⟩ | fail) dX9_readsC_51
    · skip
      replace hr := hr.trans (pRest_c c15)
      replace ep := ep.trans (if_pos c15)
      have hl12 := lt_lt c15 (by decide)
      refine lv_aload_n hx hb dX9_readsC_18 rfl (lk hl rfl) ?_
      refine x_bipush hF (by decide) dX9_readsC_19 ?_
      refine x_kn hL (vx_runV (As := [_]) hF.2.2.2.2.2.2.2.2.2 ((mX9_reads (z := 115) (t := t) (L := L) (x := (x + 1 + 1)) (by unfold inR; omega) ((eo 14 (by decide)).trans htx) ((congrFun (eo 15 (by decide)) 0).trans hln) ep hTx (by omega) (by omega) hP.1) hF.1) (cwV 1 hF.2.2.2.2.2.2.2.2.1 (lw_V q2647 q2649 qs96 q138 q2650) rfl rfl rfl (by decide +kernel) ⟨(Nat.le_of_ble_eq_true rfl), (Nat.le_of_ble_eq_true rfl)⟩) (x_preV hF hM (MA_ob hP.1) rfl) rfl rfl hl.1 rfl (lv_room (Nat.le_of_ble_eq_true rfl)) dX9_readsC_21 ⟨(Nat.le_of_ble_eq_true rfl), (Nat.le_of_ble_eq_true rfl)⟩) ?_
      rintro _ τ21 H locs ⟨rfl, hp⟩ hM hL
      obtain ⟨F2, hP2, ep, eo2⟩ := hp
      refine MS_gen hM (MS_t hP hP2) (fun σ hM hP => ?_)
      replace eo := fun f (a : f ≠ 16) => (eo2 f a).trans (eo f a)
      refine x_ifeq_b (tgt := 50) hF dX9_readsC_24 (by decide) (fun c24 => ?_) (fun c24 => ?_)
      · skip
        replace hr := hr.trans (pRest_n c24)
        replace ep := ep.trans (if_neg c24)
        refine x_iconst hF dX9_readsC_50 ?_
        exact x_ireturn hF hM hL (by rfl) (Nat.le_of_ble_eq_true rfl) (Nat.le_of_ble_eq_true rfl) (by first | exact ⟨by rw [hr, if_pos c43], by rw [hr]; exact hT⟩ | exact ⟨by rw [hr, if_pos c86], by rw [hr]; exact hT⟩ | exact ⟨by rw [hr, if_neg c43], by rw [hr]; exact hT⟩ | exact ⟨by rw [hr, if_neg c86], by rw [hr]; exact hT⟩ | exact ⟨by rw [hr]; rfl, by rw [hr]; exact ⟨_, hP, ep, fun q => absurd q (by show ¬ (0 : Int) = 1; decide), fun f a _ _ => eo f a⟩⟩ | exact ⟨by rw [hr], by rw [hr]; exact hT⟩ | fail) dX9_readsC_51
      · skip
        replace hr := hr.trans (pRest_c c24)
        replace ep := ep.trans (if_pos c24)
        have hl21 := lt_lt c24 (by decide)
        refine lv_aload_n hx hb dX9_readsC_27 rfl (lk hl rfl) ?_
        refine x_bipush hF (by decide) dX9_readsC_28 ?_
        refine x_kn hL (vx_runV (As := [_]) hF.2.2.2.2.2.2.2.2.2 ((mX9_reads (z := 101) (t := t) (L := L) (x := (x + 1 + 1 + 1)) (by unfold inR; omega) ((eo 14 (by decide)).trans htx) ((congrFun (eo 15 (by decide)) 0).trans hln) ep hTx (by omega) (by omega) hP.1) hF.1) (cwV 1 hF.2.2.2.2.2.2.2.2.1 (lw_V q2647 q2649 qs96 q138 q2650) rfl rfl rfl (by decide +kernel) ⟨(Nat.le_of_ble_eq_true rfl), (Nat.le_of_ble_eq_true rfl)⟩) (x_preV hF hM (MA_ob hP.1) rfl) rfl rfl hl.1 rfl (lv_room (Nat.le_of_ble_eq_true rfl)) dX9_readsC_30 ⟨(Nat.le_of_ble_eq_true rfl), (Nat.le_of_ble_eq_true rfl)⟩) ?_
        rintro _ τ30 H locs ⟨rfl, hp⟩ hM hL
        obtain ⟨F2, hP2, ep, eo2⟩ := hp
        refine MS_gen hM (MS_t hP hP2) (fun σ hM hP => ?_)
        replace eo := fun f (a : f ≠ 16) => (eo2 f a).trans (eo f a)
        refine x_ifeq_b (tgt := 50) hF dX9_readsC_33 (by decide) (fun c33 => ?_) (fun c33 => ?_)
        · skip
          replace hr := hr.trans (pRest_n c33)
          replace ep := ep.trans (if_neg c33)
          refine x_iconst hF dX9_readsC_50 ?_
          exact x_ireturn hF hM hL (by rfl) (Nat.le_of_ble_eq_true rfl) (Nat.le_of_ble_eq_true rfl) (by first | exact ⟨by rw [hr, if_pos c43], by rw [hr]; exact hT⟩ | exact ⟨by rw [hr, if_pos c86], by rw [hr]; exact hT⟩ | exact ⟨by rw [hr, if_neg c43], by rw [hr]; exact hT⟩ | exact ⟨by rw [hr, if_neg c86], by rw [hr]; exact hT⟩ | exact ⟨by rw [hr]; rfl, by rw [hr]; exact ⟨_, hP, ep, fun q => absurd q (by show ¬ (0 : Int) = 1; decide), fun f a _ _ => eo f a⟩⟩ | exact ⟨by rw [hr], by rw [hr]; exact hT⟩ | fail) dX9_readsC_51
        · skip
          replace hr := hr.trans (pRest_c c33)
          replace ep := ep.trans (if_pos c33)
          have hl30 := lt_lt c33 (by decide)
          refine lv_aload_n hx hb dX9_readsC_36 rfl (lk hl rfl) ?_
          refine x_iconst hF dX9_readsC_37 ?_
          refine x_iconst hF dX9_readsC_38 ?_
          refine x_iconst hF dX9_readsC_39 ?_
          refine x_kn hL (vx_runV (As := [_, _, _]) hF.2.2.2.2.2.2.2.2.2 ((mX9_readsTwo (z := 2) (a := 1) (b := 0) (t := t) (L := L) (x := (x + 1 + 1 + 1 + 1)) (by omega) (by omega) (by omega) (by omega) (by omega) ((eo 14 (by decide)).trans htx) ((congrFun (eo 15 (by decide)) 0).trans hln) ep hTx (by omega) (by omega) hP.1) hF.1) (cwV 3 hF.2.2.2.2.2.2.2.2.1 (lw_V q2655 q2657 qs98 q138 q2658) rfl rfl rfl (by decide +kernel) ⟨(Nat.le_of_ble_eq_true rfl), (Nat.le_of_ble_eq_true rfl)⟩) (x_preV hF hM (MA_ob hP.1) rfl) rfl rfl hl.1 rfl (lv_room (Nat.le_of_ble_eq_true rfl)) dX9_readsC_40 ⟨(Nat.le_of_ble_eq_true rfl), (Nat.le_of_ble_eq_true rfl)⟩) ?_
          rintro _ τ40 H locs ⟨rfl, hp⟩ hM hL
          have hT := RT_t hP eo hp
          refine x_ifeq_b (tgt := 50) hF dX9_readsC_43 (by decide) (fun c43 => ?_) (fun c43 => ?_)
          · skip
            replace hr := hr.trans (show _ = pTwo t L (x + 1 + 1 + 1 + 1) 1 0 2 from rfl)
            refine x_iconst hF dX9_readsC_50 ?_
            exact x_ireturn hF hM hL (by rfl) (Nat.le_of_ble_eq_true rfl) (Nat.le_of_ble_eq_true rfl) (by first | exact ⟨by rw [hr, if_pos c43], by rw [hr]; exact hT⟩ | exact ⟨by rw [hr, if_pos c86], by rw [hr]; exact hT⟩ | exact ⟨by rw [hr, if_neg c43], by rw [hr]; exact hT⟩ | exact ⟨by rw [hr, if_neg c86], by rw [hr]; exact hT⟩ | exact ⟨by rw [hr]; rfl, by rw [hr]; exact ⟨_, hP, ep, fun q => absurd q (by show ¬ (0 : Int) = 1; decide), fun f a _ _ => eo f a⟩⟩ | exact ⟨by rw [hr], by rw [hr]; exact hT⟩ | fail) dX9_readsC_51
          · skip
            replace hr := hr.trans (show _ = pTwo t L (x + 1 + 1 + 1 + 1) 1 0 2 from rfl)
            refine x_iconst hF dX9_readsC_46 ?_
            refine x_goto (tgt := 51) hF dX9_readsC_47 (by decide) ?_
            exact x_ireturn hF hM hL (by rfl) (Nat.le_of_ble_eq_true rfl) (Nat.le_of_ble_eq_true rfl) (by first | exact ⟨by rw [hr, if_pos c43], by rw [hr]; exact hT⟩ | exact ⟨by rw [hr, if_pos c86], by rw [hr]; exact hT⟩ | exact ⟨by rw [hr, if_neg c43], by rw [hr]; exact hT⟩ | exact ⟨by rw [hr, if_neg c86], by rw [hr]; exact hT⟩ | exact ⟨by rw [hr]; rfl, by rw [hr]; exact ⟨_, hP, ep, fun q => absurd q (by show ¬ (0 : Int) = 1; decide), fun f a _ _ => eo f a⟩⟩ | exact ⟨by rw [hr], by rw [hr]; exact hT⟩ | fail) dX9_readsC_51
set_option maxHeartbeats 4000000 in
set_option maxRecDepth 100000 in
/-- BakeryRingModel.readsO()Z -/
theorem mX9_readsO {l : Launch} {E : En} {σ0 : Mm} {o : Nat} {F : Nat → Int → Int} {t : Int → Int} {L x : Int} (htx : F 14 = t) (hln : F 15 0 = L) (hps : F 16 0 = x) (hTx : Tx t L) (x0 : 0 ≤ x) (x1 : x ≤ L) (hP : MA E σ0 o F) : Ctr l E yX9_readsO (ws_ yX9_readsO cX9_readsO 1 (some .boolean)) 4 87 0 0 [.ref o] σ0 (fun v τ => v = some (.int (iz (if (pV t L x).1 = 1 then 1 else 0))) ∧ RT E σ0 o τ F (pV t L x)) noX := by
  refine x_head (own := RX9) (cc := cX9_readsO) (maxL := 1) (ret := (some .boolean)) (by decide) rfl rfl (Nat.le_of_ble_eq_true rfl) ?_
  intro p e s m args below meth c H ls hF hname htab hM hl
  have hx := hF.2.2.1
  have hb := hF.2.2.2.1
  have hL : Lc E [] := lcNil
  have hl : lh ls 1 ([(0, .ref o)]) := hl
  refine MS_gen hM (MS_0 hP) (fun σ hM hP => ?_)
  have eo : ∀ f : Nat, f ≠ 16 → F f = F f := fun _ _ => rfl
  have ep := hps
  
  refine lv_aload_n hx hb dX9_readsO_0 rfl (lk hl rfl) ?_
  refine x_bipush hF (by decide) dX9_readsO_1 ?_
  refine x_kn hL (vx_runV (As := [_]) hF.2.2.2.2.2.2.2.2.2 ((mX9_reads (z := 112) (t := t) (L := L) (x := x) (by unfold inR; omega) ((eo 14 (by decide)).trans htx) ((congrFun (eo 15 (by decide)) 0).trans hln) ep hTx (by omega) (by omega) hP.1) hF.1) (cwV 1 hF.2.2.2.2.2.2.2.2.1 (lw_V q2647 q2649 qs96 q138 q2650) rfl rfl rfl (by decide +kernel) ⟨(Nat.le_of_ble_eq_true rfl), (Nat.le_of_ble_eq_true rfl)⟩) (x_preV hF hM (MA_ob hP.1) rfl) rfl rfl hl.1 rfl (lv_room (Nat.le_of_ble_eq_true rfl)) dX9_readsO_3 ⟨(Nat.le_of_ble_eq_true rfl), (Nat.le_of_ble_eq_true rfl)⟩) ?_
  rintro _ τ3 H locs ⟨rfl, hp⟩ hM hL
  obtain ⟨F2, hP2, ep, eo2⟩ := hp
  refine MS_gen hM (MS_t hP hP2) (fun σ hM hP => ?_)
  replace eo := fun f (a : f ≠ 16) => (eo2 f a).trans (eo f a)
  refine x_ifeq_b (tgt := 43) hF dX9_readsO_6 (by decide) (fun c6 => ?_) (fun c6 => ?_)
  · skip
    have hr : pV t L x = _ := if_neg c6
    replace ep := ep.trans (if_neg c6)
    refine lv_aload_n hx hb dX9_readsO_43 rfl (lk hl rfl) ?_
    refine x_bipush hF (by decide) dX9_readsO_44 ?_
    refine x_kn hL (vx_runV (As := [_]) hF.2.2.2.2.2.2.2.2.2 ((mX9_reads (z := 118) (t := t) (L := L) (x := x) (by unfold inR; omega) ((eo 14 (by decide)).trans htx) ((congrFun (eo 15 (by decide)) 0).trans hln) ep hTx (by omega) (by omega) hP.1) hF.1) (cwV 1 hF.2.2.2.2.2.2.2.2.1 (lw_V q2647 q2649 qs96 q138 q2650) rfl rfl rfl (by decide +kernel) ⟨(Nat.le_of_ble_eq_true rfl), (Nat.le_of_ble_eq_true rfl)⟩) (x_preV hF hM (MA_ob hP.1) rfl) rfl rfl hl.1 rfl (lv_room (Nat.le_of_ble_eq_true rfl)) dX9_readsO_46 ⟨(Nat.le_of_ble_eq_true rfl), (Nat.le_of_ble_eq_true rfl)⟩) ?_
    rintro _ τ46 H locs ⟨rfl, hp⟩ hM hL
    obtain ⟨F2, hP2, ep, eo2⟩ := hp
    refine MS_gen hM (MS_t hP hP2) (fun σ hM hP => ?_)
    replace eo := fun f (a : f ≠ 16) => (eo2 f a).trans (eo f a)
    refine x_ifeq_b (tgt := 84) hF dX9_readsO_49 (by decide) (fun c49 => ?_) (fun c49 => ?_)
    · skip
      replace hr := hr.trans (pRest_n c49)
      replace ep := ep.trans (if_neg c49)
      refine x_iconst hF dX9_readsO_84 ?_
      exact x_ireturn hF hM hL (by rfl) (Nat.le_of_ble_eq_true rfl) (Nat.le_of_ble_eq_true rfl) (by first | exact ⟨by rw [hr, if_pos c34], by rw [hr]; exact hT⟩ | exact ⟨by rw [hr, if_pos c77], by rw [hr]; exact hT⟩ | exact ⟨by rw [hr, if_neg c34], by rw [hr]; exact hT⟩ | exact ⟨by rw [hr, if_neg c77], by rw [hr]; exact hT⟩ | exact ⟨by rw [hr]; rfl, by rw [hr]; exact ⟨_, hP, ep, fun q => absurd q (by show ¬ (0 : Int) = 1; decide), fun f a _ _ => eo f a⟩⟩ | exact ⟨by rw [hr], by rw [hr]; exact hT⟩ | fail) dX9_readsO_85
    · skip
      replace hr := hr.trans (pRest_c c49)
      replace ep := ep.trans (if_pos c49)
      have hl46 := lt_lt c49 (by decide)
      refine lv_aload_n hx hb dX9_readsO_52 rfl (lk hl rfl) ?_
      refine x_bipush hF (by decide) dX9_readsO_53 ?_
      refine x_kn hL (vx_runV (As := [_]) hF.2.2.2.2.2.2.2.2.2 ((mX9_reads (z := 101) (t := t) (L := L) (x := (x + 1)) (by unfold inR; omega) ((eo 14 (by decide)).trans htx) ((congrFun (eo 15 (by decide)) 0).trans hln) ep hTx (by omega) (by omega) hP.1) hF.1) (cwV 1 hF.2.2.2.2.2.2.2.2.1 (lw_V q2647 q2649 qs96 q138 q2650) rfl rfl rfl (by decide +kernel) ⟨(Nat.le_of_ble_eq_true rfl), (Nat.le_of_ble_eq_true rfl)⟩) (x_preV hF hM (MA_ob hP.1) rfl) rfl rfl hl.1 rfl (lv_room (Nat.le_of_ble_eq_true rfl)) dX9_readsO_55 ⟨(Nat.le_of_ble_eq_true rfl), (Nat.le_of_ble_eq_true rfl)⟩) ?_
      rintro _ τ55 H locs ⟨rfl, hp⟩ hM hL
      obtain ⟨F2, hP2, ep, eo2⟩ := hp
      refine MS_gen hM (MS_t hP hP2) (fun σ hM hP => ?_)
      replace eo := fun f (a : f ≠ 16) => (eo2 f a).trans (eo f a)
      refine x_ifeq_b (tgt := 84) hF dX9_readsO_58 (by decide) (fun c58 => ?_) (fun c58 => ?_)
      · skip
        replace hr := hr.trans (pRest_n c58)
        replace ep := ep.trans (if_neg c58)
        refine x_iconst hF dX9_readsO_84 ?_
        exact x_ireturn hF hM hL (by rfl) (Nat.le_of_ble_eq_true rfl) (Nat.le_of_ble_eq_true rfl) (by first | exact ⟨by rw [hr, if_pos c34], by rw [hr]; exact hT⟩ | exact ⟨by rw [hr, if_pos c77], by rw [hr]; exact hT⟩ | exact ⟨by rw [hr, if_neg c34], by rw [hr]; exact hT⟩ | exact ⟨by rw [hr, if_neg c77], by rw [hr]; exact hT⟩ | exact ⟨by rw [hr]; rfl, by rw [hr]; exact ⟨_, hP, ep, fun q => absurd q (by show ¬ (0 : Int) = 1; decide), fun f a _ _ => eo f a⟩⟩ | exact ⟨by rw [hr], by rw [hr]; exact hT⟩ | fail) dX9_readsO_85
      · skip
        replace hr := hr.trans (pRest_c c58)
        replace ep := ep.trans (if_pos c58)
        have hl55 := lt_lt c58 (by decide)
        refine lv_aload_n hx hb dX9_readsO_61 rfl (lk hl rfl) ?_
        refine x_bipush hF (by decide) dX9_readsO_62 ?_
        refine x_kn hL (vx_runV (As := [_]) hF.2.2.2.2.2.2.2.2.2 ((mX9_reads (z := 110) (t := t) (L := L) (x := (x + 1 + 1)) (by unfold inR; omega) ((eo 14 (by decide)).trans htx) ((congrFun (eo 15 (by decide)) 0).trans hln) ep hTx (by omega) (by omega) hP.1) hF.1) (cwV 1 hF.2.2.2.2.2.2.2.2.1 (lw_V q2647 q2649 qs96 q138 q2650) rfl rfl rfl (by decide +kernel) ⟨(Nat.le_of_ble_eq_true rfl), (Nat.le_of_ble_eq_true rfl)⟩) (x_preV hF hM (MA_ob hP.1) rfl) rfl rfl hl.1 rfl (lv_room (Nat.le_of_ble_eq_true rfl)) dX9_readsO_64 ⟨(Nat.le_of_ble_eq_true rfl), (Nat.le_of_ble_eq_true rfl)⟩) ?_
        rintro _ τ64 H locs ⟨rfl, hp⟩ hM hL
        obtain ⟨F2, hP2, ep, eo2⟩ := hp
        refine MS_gen hM (MS_t hP hP2) (fun σ hM hP => ?_)
        replace eo := fun f (a : f ≠ 16) => (eo2 f a).trans (eo f a)
        refine x_ifeq_b (tgt := 84) hF dX9_readsO_67 (by decide) (fun c67 => ?_) (fun c67 => ?_)
        · skip
          replace hr := hr.trans (pRest_n c67)
          replace ep := ep.trans (if_neg c67)
          refine x_iconst hF dX9_readsO_84 ?_
          exact x_ireturn hF hM hL (by rfl) (Nat.le_of_ble_eq_true rfl) (Nat.le_of_ble_eq_true rfl) (by first | exact ⟨by rw [hr, if_pos c34], by rw [hr]; exact hT⟩ | exact ⟨by rw [hr, if_pos c77], by rw [hr]; exact hT⟩ | exact ⟨by rw [hr, if_neg c34], by rw [hr]; exact hT⟩ | exact ⟨by rw [hr, if_neg c77], by rw [hr]; exact hT⟩ | exact ⟨by rw [hr]; rfl, by rw [hr]; exact ⟨_, hP, ep, fun q => absurd q (by show ¬ (0 : Int) = 1; decide), fun f a _ _ => eo f a⟩⟩ | exact ⟨by rw [hr], by rw [hr]; exact hT⟩ | fail) dX9_readsO_85
        · skip
          replace hr := hr.trans (pRest_c c67)
          replace ep := ep.trans (if_pos c67)
          have hl64 := lt_lt c67 (by decide)
          refine lv_aload_n hx hb dX9_readsO_70 rfl (lk hl rfl) ?_
          refine x_iconst hF dX9_readsO_71 ?_
          refine x_iconst hF dX9_readsO_72 ?_
          refine x_iconst hF dX9_readsO_73 ?_
          refine x_kn hL (vx_runV (As := [_, _, _]) hF.2.2.2.2.2.2.2.2.2 ((mX9_readsTwo (z := 4) (a := 1) (b := 3) (t := t) (L := L) (x := (x + 1 + 1 + 1)) (by omega) (by omega) (by omega) (by omega) (by omega) ((eo 14 (by decide)).trans htx) ((congrFun (eo 15 (by decide)) 0).trans hln) ep hTx (by omega) (by omega) hP.1) hF.1) (cwV 3 hF.2.2.2.2.2.2.2.2.1 (lw_V q2655 q2657 qs98 q138 q2658) rfl rfl rfl (by decide +kernel) ⟨(Nat.le_of_ble_eq_true rfl), (Nat.le_of_ble_eq_true rfl)⟩) (x_preV hF hM (MA_ob hP.1) rfl) rfl rfl hl.1 rfl (lv_room (Nat.le_of_ble_eq_true rfl)) dX9_readsO_74 ⟨(Nat.le_of_ble_eq_true rfl), (Nat.le_of_ble_eq_true rfl)⟩) ?_
          rintro _ τ74 H locs ⟨rfl, hp⟩ hM hL
          have hT := RT_t hP eo hp
          refine x_ifeq_b (tgt := 84) hF dX9_readsO_77 (by decide) (fun c77 => ?_) (fun c77 => ?_)
          · skip
            replace hr := hr.trans (show _ = pTwo t L (x + 1 + 1 + 1) 1 3 4 from rfl)
            refine x_iconst hF dX9_readsO_84 ?_
            exact x_ireturn hF hM hL (by rfl) (Nat.le_of_ble_eq_true rfl) (Nat.le_of_ble_eq_true rfl) (by first | exact ⟨by rw [hr, if_pos c34], by rw [hr]; exact hT⟩ | exact ⟨by rw [hr, if_pos c77], by rw [hr]; exact hT⟩ | exact ⟨by rw [hr, if_neg c34], by rw [hr]; exact hT⟩ | exact ⟨by rw [hr, if_neg c77], by rw [hr]; exact hT⟩ | exact ⟨by rw [hr]; rfl, by rw [hr]; exact ⟨_, hP, ep, fun q => absurd q (by show ¬ (0 : Int) = 1; decide), fun f a _ _ => eo f a⟩⟩ | exact ⟨by rw [hr], by rw [hr]; exact hT⟩ | fail) dX9_readsO_85
          · skip
            replace hr := hr.trans (show _ = pTwo t L (x + 1 + 1 + 1) 1 3 4 from rfl)
            refine x_iconst hF dX9_readsO_80 ?_
            refine x_goto (tgt := 85) hF dX9_readsO_81 (by decide) ?_
            exact x_ireturn hF hM hL (by rfl) (Nat.le_of_ble_eq_true rfl) (Nat.le_of_ble_eq_true rfl) (by first | exact ⟨by rw [hr, if_pos c34], by rw [hr]; exact hT⟩ | exact ⟨by rw [hr, if_pos c77], by rw [hr]; exact hT⟩ | exact ⟨by rw [hr, if_neg c34], by rw [hr]; exact hT⟩ | exact ⟨by rw [hr, if_neg c77], by rw [hr]; exact hT⟩ | exact ⟨by rw [hr]; rfl, by rw [hr]; exact ⟨_, hP, ep, fun q => absurd q (by show ¬ (0 : Int) = 1; decide), fun f a _ _ => eo f a⟩⟩ | exact ⟨by rw [hr], by rw [hr]; exact hT⟩ | fail) dX9_readsO_85
  · skip
    have hr : pV t L x = _ := if_pos c6
    replace ep := ep.trans (if_pos c6)
    have hll := lt_lt c6 (by decide)
    refine lv_aload_n hx hb dX9_readsO_9 rfl (lk hl rfl) ?_
    refine x_bipush hF (by decide) dX9_readsO_10 ?_
    refine x_kn hL (vx_runV (As := [_]) hF.2.2.2.2.2.2.2.2.2 ((mX9_reads (z := 101) (t := t) (L := L) (x := (x + 1)) (by unfold inR; omega) ((eo 14 (by decide)).trans htx) ((congrFun (eo 15 (by decide)) 0).trans hln) ep hTx (by omega) (by omega) hP.1) hF.1) (cwV 1 hF.2.2.2.2.2.2.2.2.1 (lw_V q2647 q2649 qs96 q138 q2650) rfl rfl rfl (by decide +kernel) ⟨(Nat.le_of_ble_eq_true rfl), (Nat.le_of_ble_eq_true rfl)⟩) (x_preV hF hM (MA_ob hP.1) rfl) rfl rfl hl.1 rfl (lv_room (Nat.le_of_ble_eq_true rfl)) dX9_readsO_12 ⟨(Nat.le_of_ble_eq_true rfl), (Nat.le_of_ble_eq_true rfl)⟩) ?_
    rintro _ τ12 H locs ⟨rfl, hp⟩ hM hL
    obtain ⟨F2, hP2, ep, eo2⟩ := hp
    refine MS_gen hM (MS_t hP hP2) (fun σ hM hP => ?_)
    replace eo := fun f (a : f ≠ 16) => (eo2 f a).trans (eo f a)
    refine x_ifeq_b (tgt := 41) hF dX9_readsO_15 (by decide) (fun c15 => ?_) (fun c15 => ?_)
    · skip
      replace hr := hr.trans (pRest_n c15)
      replace ep := ep.trans (if_neg c15)
      refine x_iconst hF dX9_readsO_41 ?_
      exact x_ireturn hF hM hL (by rfl) (Nat.le_of_ble_eq_true rfl) (Nat.le_of_ble_eq_true rfl) (by first | exact ⟨by rw [hr, if_pos c34], by rw [hr]; exact hT⟩ | exact ⟨by rw [hr, if_pos c77], by rw [hr]; exact hT⟩ | exact ⟨by rw [hr, if_neg c34], by rw [hr]; exact hT⟩ | exact ⟨by rw [hr, if_neg c77], by rw [hr]; exact hT⟩ | exact ⟨by rw [hr]; rfl, by rw [hr]; exact ⟨_, hP, ep, fun q => absurd q (by show ¬ (0 : Int) = 1; decide), fun f a _ _ => eo f a⟩⟩ | exact ⟨by rw [hr], by rw [hr]; exact hT⟩ | fail) dX9_readsO_42
    · skip
      replace hr := hr.trans (pRest_c c15)
      replace ep := ep.trans (if_pos c15)
      have hl12 := lt_lt c15 (by decide)
      refine lv_aload_n hx hb dX9_readsO_18 rfl (lk hl rfl) ?_
      refine x_bipush hF (by decide) dX9_readsO_19 ?_
      refine x_kn hL (vx_runV (As := [_]) hF.2.2.2.2.2.2.2.2.2 ((mX9_reads (z := 110) (t := t) (L := L) (x := (x + 1 + 1)) (by unfold inR; omega) ((eo 14 (by decide)).trans htx) ((congrFun (eo 15 (by decide)) 0).trans hln) ep hTx (by omega) (by omega) hP.1) hF.1) (cwV 1 hF.2.2.2.2.2.2.2.2.1 (lw_V q2647 q2649 qs96 q138 q2650) rfl rfl rfl (by decide +kernel) ⟨(Nat.le_of_ble_eq_true rfl), (Nat.le_of_ble_eq_true rfl)⟩) (x_preV hF hM (MA_ob hP.1) rfl) rfl rfl hl.1 rfl (lv_room (Nat.le_of_ble_eq_true rfl)) dX9_readsO_21 ⟨(Nat.le_of_ble_eq_true rfl), (Nat.le_of_ble_eq_true rfl)⟩) ?_
      rintro _ τ21 H locs ⟨rfl, hp⟩ hM hL
      obtain ⟨F2, hP2, ep, eo2⟩ := hp
      refine MS_gen hM (MS_t hP hP2) (fun σ hM hP => ?_)
      replace eo := fun f (a : f ≠ 16) => (eo2 f a).trans (eo f a)
      refine x_ifeq_b (tgt := 41) hF dX9_readsO_24 (by decide) (fun c24 => ?_) (fun c24 => ?_)
      · skip
        replace hr := hr.trans (pRest_n c24)
        replace ep := ep.trans (if_neg c24)
        refine x_iconst hF dX9_readsO_41 ?_
        exact x_ireturn hF hM hL (by rfl) (Nat.le_of_ble_eq_true rfl) (Nat.le_of_ble_eq_true rfl) (by first | exact ⟨by rw [hr, if_pos c34], by rw [hr]; exact hT⟩ | exact ⟨by rw [hr, if_pos c77], by rw [hr]; exact hT⟩ | exact ⟨by rw [hr, if_neg c34], by rw [hr]; exact hT⟩ | exact ⟨by rw [hr, if_neg c77], by rw [hr]; exact hT⟩ | exact ⟨by rw [hr]; rfl, by rw [hr]; exact ⟨_, hP, ep, fun q => absurd q (by show ¬ (0 : Int) = 1; decide), fun f a _ _ => eo f a⟩⟩ | exact ⟨by rw [hr], by rw [hr]; exact hT⟩ | fail) dX9_readsO_42
      · skip
        replace hr := hr.trans (pRest_c c24)
        replace ep := ep.trans (if_pos c24)
        have hl21 := lt_lt c24 (by decide)
        refine lv_aload_n hx hb dX9_readsO_27 rfl (lk hl rfl) ?_
        refine x_iconst hF dX9_readsO_28 ?_
        refine x_iconst hF dX9_readsO_29 ?_
        refine x_iconst hF dX9_readsO_30 ?_
        refine x_kn hL (vx_runV (As := [_, _, _]) hF.2.2.2.2.2.2.2.2.2 ((mX9_readsTwo (z := 3) (a := 1) (b := 0) (t := t) (L := L) (x := (x + 1 + 1 + 1)) (by omega) (by omega) (by omega) (by omega) (by omega) ((eo 14 (by decide)).trans htx) ((congrFun (eo 15 (by decide)) 0).trans hln) ep hTx (by omega) (by omega) hP.1) hF.1) (cwV 3 hF.2.2.2.2.2.2.2.2.1 (lw_V q2655 q2657 qs98 q138 q2658) rfl rfl rfl (by decide +kernel) ⟨(Nat.le_of_ble_eq_true rfl), (Nat.le_of_ble_eq_true rfl)⟩) (x_preV hF hM (MA_ob hP.1) rfl) rfl rfl hl.1 rfl (lv_room (Nat.le_of_ble_eq_true rfl)) dX9_readsO_31 ⟨(Nat.le_of_ble_eq_true rfl), (Nat.le_of_ble_eq_true rfl)⟩) ?_
        rintro _ τ31 H locs ⟨rfl, hp⟩ hM hL
        have hT := RT_t hP eo hp
        refine x_ifeq_b (tgt := 41) hF dX9_readsO_34 (by decide) (fun c34 => ?_) (fun c34 => ?_)
        · skip
          replace hr := hr.trans (show _ = pTwo t L (x + 1 + 1 + 1) 1 0 3 from rfl)
          refine x_iconst hF dX9_readsO_41 ?_
          exact x_ireturn hF hM hL (by rfl) (Nat.le_of_ble_eq_true rfl) (Nat.le_of_ble_eq_true rfl) (by first | exact ⟨by rw [hr, if_pos c34], by rw [hr]; exact hT⟩ | exact ⟨by rw [hr, if_pos c77], by rw [hr]; exact hT⟩ | exact ⟨by rw [hr, if_neg c34], by rw [hr]; exact hT⟩ | exact ⟨by rw [hr, if_neg c77], by rw [hr]; exact hT⟩ | exact ⟨by rw [hr]; rfl, by rw [hr]; exact ⟨_, hP, ep, fun q => absurd q (by show ¬ (0 : Int) = 1; decide), fun f a _ _ => eo f a⟩⟩ | exact ⟨by rw [hr], by rw [hr]; exact hT⟩ | fail) dX9_readsO_42
        · skip
          replace hr := hr.trans (show _ = pTwo t L (x + 1 + 1 + 1) 1 0 3 from rfl)
          refine x_iconst hF dX9_readsO_37 ?_
          refine x_goto (tgt := 42) hF dX9_readsO_38 (by decide) ?_
          exact x_ireturn hF hM hL (by rfl) (Nat.le_of_ble_eq_true rfl) (Nat.le_of_ble_eq_true rfl) (by first | exact ⟨by rw [hr, if_pos c34], by rw [hr]; exact hT⟩ | exact ⟨by rw [hr, if_pos c77], by rw [hr]; exact hT⟩ | exact ⟨by rw [hr, if_neg c34], by rw [hr]; exact hT⟩ | exact ⟨by rw [hr, if_neg c77], by rw [hr]; exact hT⟩ | exact ⟨by rw [hr]; rfl, by rw [hr]; exact ⟨_, hP, ep, fun q => absurd q (by show ¬ (0 : Int) = 1; decide), fun f a _ _ => eo f a⟩⟩ | exact ⟨by rw [hr], by rw [hr]; exact hT⟩ | fail) dX9_readsO_42
set_option maxHeartbeats 4000000 in
set_option maxRecDepth 100000 in
/-- BakeryRingModel.readsOrder()Z -/
theorem mX9_readsOrder {l : Launch} {E : En} {σ0 : Mm} {o : Nat} {F : Nat → Int → Int} {t : Int → Int} {L x : Int} (htx : F 14 = t) (hln : F 15 0 = L) (hps : F 16 0 = x) (hTx : Tx t L) (x0 : 0 ≤ x) (x1 : x ≤ L) (hP : MA E σ0 o F) : Ctr l E yX9_readsOrder (ws_ yX9_readsOrder cX9_readsOrder 1 (some .boolean)) 5 107 0 0 [.ref o] σ0 (fun v τ => v = some (.int (iz (if (pOrd t L x).1 = 1 then 1 else 0))) ∧ RT E σ0 o τ F (pOrd t L x)) noX := by
  refine x_head (own := RX9) (cc := cX9_readsOrder) (maxL := 1) (ret := (some .boolean)) (by decide) rfl rfl (Nat.le_of_ble_eq_true rfl) ?_
  intro p e s m args below meth c H ls hF hname htab hM hl
  have hx := hF.2.2.1
  have hb := hF.2.2.2.1
  have hL : Lc E [] := lcNil
  have hl : lh ls 1 ([(0, .ref o)]) := hl
  refine MS_gen hM (MS_0 hP) (fun σ hM hP => ?_)
  have eo : ∀ f : Nat, f ≠ 16 → F f = F f := fun _ _ => rfl
  have ep := hps
  
  refine lv_aload_n hx hb dX9_readsOrder_0 rfl (lk hl rfl) ?_
  refine x_bipush hF (by decide) dX9_readsOrder_1 ?_
  refine x_kn hL (vx_runV (As := [_]) hF.2.2.2.2.2.2.2.2.2 ((mX9_reads (z := 115) (t := t) (L := L) (x := x) (by unfold inR; omega) ((eo 14 (by decide)).trans htx) ((congrFun (eo 15 (by decide)) 0).trans hln) ep hTx (by omega) (by omega) hP.1) hF.1) (cwV 1 hF.2.2.2.2.2.2.2.2.1 (lw_V q2647 q2649 qs96 q138 q2650) rfl rfl rfl (by decide +kernel) ⟨(Nat.le_of_ble_eq_true rfl), (Nat.le_of_ble_eq_true rfl)⟩) (x_preV hF hM (MA_ob hP.1) rfl) rfl rfl hl.1 rfl (lv_room (Nat.le_of_ble_eq_true rfl)) dX9_readsOrder_3 ⟨(Nat.le_of_ble_eq_true rfl), (Nat.le_of_ble_eq_true rfl)⟩) ?_
  rintro _ τ3 H locs ⟨rfl, hp⟩ hM hL
  obtain ⟨F2, hP2, ep, eo2⟩ := hp
  refine MS_gen hM (MS_t hP hP2) (fun σ hM hP => ?_)
  replace eo := fun f (a : f ≠ 16) => (eo2 f a).trans (eo f a)
  refine x_ifeq_b (tgt := 52) hF dX9_readsOrder_6 (by decide) (fun c6 => ?_) (fun c6 => ?_)
  · skip
    have hr : pOrd t L x = _ := if_neg c6
    replace ep := ep.trans (if_neg c6)
    refine lv_aload_n hx hb dX9_readsOrder_52 rfl (lk hl rfl) ?_
    refine x_bipush hF (by decide) dX9_readsOrder_53 ?_
    refine x_kn hL (vx_runV (As := [_]) hF.2.2.2.2.2.2.2.2.2 ((mX9_reads (z := 100) (t := t) (L := L) (x := x) (by unfold inR; omega) ((eo 14 (by decide)).trans htx) ((congrFun (eo 15 (by decide)) 0).trans hln) ep hTx (by omega) (by omega) hP.1) hF.1) (cwV 1 hF.2.2.2.2.2.2.2.2.1 (lw_V q2647 q2649 qs96 q138 q2650) rfl rfl rfl (by decide +kernel) ⟨(Nat.le_of_ble_eq_true rfl), (Nat.le_of_ble_eq_true rfl)⟩) (x_preV hF hM (MA_ob hP.1) rfl) rfl rfl hl.1 rfl (lv_room (Nat.le_of_ble_eq_true rfl)) dX9_readsOrder_55 ⟨(Nat.le_of_ble_eq_true rfl), (Nat.le_of_ble_eq_true rfl)⟩) ?_
    rintro _ τ55 H locs ⟨rfl, hp⟩ hM hL
    obtain ⟨F2, hP2, ep, eo2⟩ := hp
    refine MS_gen hM (MS_t hP hP2) (fun σ hM hP => ?_)
    replace eo := fun f (a : f ≠ 16) => (eo2 f a).trans (eo f a)
    refine x_ifeq_b (tgt := 104) hF dX9_readsOrder_58 (by decide) (fun c58 => ?_) (fun c58 => ?_)
    · skip
      replace hr := hr.trans (if_neg c58)
      replace ep := ep.trans (if_neg c58)
      refine lv_aload_n hx hb dX9_readsOrder_104 rfl (lk hl rfl) ?_
      refine x_bipush hF (by decide) dX9_readsOrder_105 ?_
      refine x_kn hL (vx_runV (As := [_]) hF.2.2.2.2.2.2.2.2.2 ((mX9_reads (z := 99) (t := t) (L := L) (x := x) (by unfold inR; omega) ((eo 14 (by decide)).trans htx) ((congrFun (eo 15 (by decide)) 0).trans hln) ep hTx (by omega) (by omega) hP.1) hF.1) (cwV 1 hF.2.2.2.2.2.2.2.2.1 (lw_V q2647 q2649 qs96 q138 q2650) rfl rfl rfl (by decide +kernel) ⟨(Nat.le_of_ble_eq_true rfl), (Nat.le_of_ble_eq_true rfl)⟩) (x_preV hF hM (MA_ob hP.1) rfl) rfl rfl hl.1 rfl (lv_room (Nat.le_of_ble_eq_true rfl)) dX9_readsOrder_107 ⟨(Nat.le_of_ble_eq_true rfl), (Nat.le_of_ble_eq_true rfl)⟩) ?_
      rintro _ τ107 H locs ⟨rfl, hp⟩ hM hL
      obtain ⟨F2, hP2, ep, eo2⟩ := hp
      refine MS_gen hM (MS_t hP hP2) (fun σ hM hP => ?_)
      replace eo := fun f (a : f ≠ 16) => (eo2 f a).trans (eo f a)
      refine x_ifeq_b (tgt := 118) hF dX9_readsOrder_110 (by decide) (fun c110 => ?_) (fun c110 => ?_)
      · skip
        replace hr := hr.trans (if_neg c110)
        replace ep := ep.trans (if_neg c110)
        refine lv_aload_n hx hb dX9_readsOrder_118 rfl (lk hl rfl) ?_
        refine x_bipush hF (by decide) dX9_readsOrder_119 ?_
        refine x_kn hL (vx_runV (As := [_]) hF.2.2.2.2.2.2.2.2.2 ((mX9_reads (z := 111) (t := t) (L := L) (x := x) (by unfold inR; omega) ((eo 14 (by decide)).trans htx) ((congrFun (eo 15 (by decide)) 0).trans hln) ep hTx (by omega) (by omega) hP.1) hF.1) (cwV 1 hF.2.2.2.2.2.2.2.2.1 (lw_V q2647 q2649 qs96 q138 q2650) rfl rfl rfl (by decide +kernel) ⟨(Nat.le_of_ble_eq_true rfl), (Nat.le_of_ble_eq_true rfl)⟩) (x_preV hF hM (MA_ob hP.1) rfl) rfl rfl hl.1 rfl (lv_room (Nat.le_of_ble_eq_true rfl)) dX9_readsOrder_121 ⟨(Nat.le_of_ble_eq_true rfl), (Nat.le_of_ble_eq_true rfl)⟩) ?_
        rintro _ τ121 H locs ⟨rfl, hp⟩ hM hL
        obtain ⟨F2, hP2, ep, eo2⟩ := hp
        refine MS_gen hM (MS_t hP hP2) (fun σ hM hP => ?_)
        replace eo := fun f (a : f ≠ 16) => (eo2 f a).trans (eo f a)
        refine x_ifeq_b (tgt := 132) hF dX9_readsOrder_124 (by decide) (fun c124 => ?_) (fun c124 => ?_)
        · skip
          replace hr := hr.trans (if_neg c124)
          replace ep := ep.trans (if_neg c124)
          refine lv_aload_n hx hb dX9_readsOrder_132 rfl (lk hl rfl) ?_
          refine x_bipush hF (by decide) dX9_readsOrder_133 ?_
          refine x_kn hL (vx_runV (As := [_]) hF.2.2.2.2.2.2.2.2.2 ((mX9_reads (z := 108) (t := t) (L := L) (x := x) (by unfold inR; omega) ((eo 14 (by decide)).trans htx) ((congrFun (eo 15 (by decide)) 0).trans hln) ep hTx (by omega) (by omega) hP.1) hF.1) (cwV 1 hF.2.2.2.2.2.2.2.2.1 (lw_V q2647 q2649 qs96 q138 q2650) rfl rfl rfl (by decide +kernel) ⟨(Nat.le_of_ble_eq_true rfl), (Nat.le_of_ble_eq_true rfl)⟩) (x_preV hF hM (MA_ob hP.1) rfl) rfl rfl hl.1 rfl (lv_room (Nat.le_of_ble_eq_true rfl)) dX9_readsOrder_135 ⟨(Nat.le_of_ble_eq_true rfl), (Nat.le_of_ble_eq_true rfl)⟩) ?_
          rintro _ τ135 H locs ⟨rfl, hp⟩ hM hL
          obtain ⟨F2, hP2, ep, eo2⟩ := hp
          refine MS_gen hM (MS_t hP hP2) (fun σ hM hP => ?_)
          replace eo := fun f (a : f ≠ 16) => (eo2 f a).trans (eo f a)
          refine x_ifeq_b (tgt := 192) hF dX9_readsOrder_138 (by decide) (fun c138 => ?_) (fun c138 => ?_)
          · skip
            replace hr := hr.trans (pRest_n c138)
            replace ep := ep.trans (if_neg c138)
            refine x_iconst hF dX9_readsOrder_192 ?_
            exact x_ireturn hF hM hL (by rfl) (Nat.le_of_ble_eq_true rfl) (Nat.le_of_ble_eq_true rfl) (by first | exact ⟨by rw [hr, if_pos c43], by rw [hr]; exact hT⟩ | exact ⟨by rw [hr, if_pos c95], by rw [hr]; exact hT⟩ | exact ⟨by rw [hr, if_pos c185], by rw [hr]; exact hT⟩ | exact ⟨by rw [hr, if_neg c43], by rw [hr]; exact hT⟩ | exact ⟨by rw [hr, if_neg c95], by rw [hr]; exact hT⟩ | exact ⟨by rw [hr, if_neg c185], by rw [hr]; exact hT⟩ | exact ⟨by rw [hr]; rfl, by rw [hr]; exact ⟨_, hP, ep, fun q => absurd q (by show ¬ (0 : Int) = 1; decide), fun f a _ _ => eo f a⟩⟩ | exact ⟨by rw [hr], by rw [hr]; exact hT⟩ | fail) dX9_readsOrder_193
          · skip
            replace hr := hr.trans (pRest_c c138)
            replace ep := ep.trans (if_pos c138)
            have hl135 := lt_lt c138 (by decide)
            refine lv_aload_n hx hb dX9_readsOrder_141 rfl (lk hl rfl) ?_
            refine x_bipush hF (by decide) dX9_readsOrder_142 ?_
            refine x_kn hL (vx_runV (As := [_]) hF.2.2.2.2.2.2.2.2.2 ((mX9_reads (z := 101) (t := t) (L := L) (x := (x + 1)) (by unfold inR; omega) ((eo 14 (by decide)).trans htx) ((congrFun (eo 15 (by decide)) 0).trans hln) ep hTx (by omega) (by omega) hP.1) hF.1) (cwV 1 hF.2.2.2.2.2.2.2.2.1 (lw_V q2647 q2649 qs96 q138 q2650) rfl rfl rfl (by decide +kernel) ⟨(Nat.le_of_ble_eq_true rfl), (Nat.le_of_ble_eq_true rfl)⟩) (x_preV hF hM (MA_ob hP.1) rfl) rfl rfl hl.1 rfl (lv_room (Nat.le_of_ble_eq_true rfl)) dX9_readsOrder_144 ⟨(Nat.le_of_ble_eq_true rfl), (Nat.le_of_ble_eq_true rfl)⟩) ?_
            rintro _ τ144 H locs ⟨rfl, hp⟩ hM hL
            obtain ⟨F2, hP2, ep, eo2⟩ := hp
            refine MS_gen hM (MS_t hP hP2) (fun σ hM hP => ?_)
            replace eo := fun f (a : f ≠ 16) => (eo2 f a).trans (eo f a)
            refine x_ifeq_b (tgt := 192) hF dX9_readsOrder_147 (by decide) (fun c147 => ?_) (fun c147 => ?_)
            · skip
              replace hr := hr.trans (pRest_n c147)
              replace ep := ep.trans (if_neg c147)
              refine x_iconst hF dX9_readsOrder_192 ?_
              exact x_ireturn hF hM hL (by rfl) (Nat.le_of_ble_eq_true rfl) (Nat.le_of_ble_eq_true rfl) (by first | exact ⟨by rw [hr, if_pos c43], by rw [hr]; exact hT⟩ | exact ⟨by rw [hr, if_pos c95], by rw [hr]; exact hT⟩ | exact ⟨by rw [hr, if_pos c185], by rw [hr]; exact hT⟩ | exact ⟨by rw [hr, if_neg c43], by rw [hr]; exact hT⟩ | exact ⟨by rw [hr, if_neg c95], by rw [hr]; exact hT⟩ | exact ⟨by rw [hr, if_neg c185], by rw [hr]; exact hT⟩ | exact ⟨by rw [hr]; rfl, by rw [hr]; exact ⟨_, hP, ep, fun q => absurd q (by show ¬ (0 : Int) = 1; decide), fun f a _ _ => eo f a⟩⟩ | exact ⟨by rw [hr], by rw [hr]; exact hT⟩ | fail) dX9_readsOrder_193
            · skip
              replace hr := hr.trans (pRest_c c147)
              replace ep := ep.trans (if_pos c147)
              have hl144 := lt_lt c147 (by decide)
              refine lv_aload_n hx hb dX9_readsOrder_150 rfl (lk hl rfl) ?_
              refine x_bipush hF (by decide) dX9_readsOrder_151 ?_
              refine x_kn hL (vx_runV (As := [_]) hF.2.2.2.2.2.2.2.2.2 ((mX9_reads (z := 97) (t := t) (L := L) (x := (x + 1 + 1)) (by unfold inR; omega) ((eo 14 (by decide)).trans htx) ((congrFun (eo 15 (by decide)) 0).trans hln) ep hTx (by omega) (by omega) hP.1) hF.1) (cwV 1 hF.2.2.2.2.2.2.2.2.1 (lw_V q2647 q2649 qs96 q138 q2650) rfl rfl rfl (by decide +kernel) ⟨(Nat.le_of_ble_eq_true rfl), (Nat.le_of_ble_eq_true rfl)⟩) (x_preV hF hM (MA_ob hP.1) rfl) rfl rfl hl.1 rfl (lv_room (Nat.le_of_ble_eq_true rfl)) dX9_readsOrder_153 ⟨(Nat.le_of_ble_eq_true rfl), (Nat.le_of_ble_eq_true rfl)⟩) ?_
              rintro _ τ153 H locs ⟨rfl, hp⟩ hM hL
              obtain ⟨F2, hP2, ep, eo2⟩ := hp
              refine MS_gen hM (MS_t hP hP2) (fun σ hM hP => ?_)
              replace eo := fun f (a : f ≠ 16) => (eo2 f a).trans (eo f a)
              refine x_ifeq_b (tgt := 192) hF dX9_readsOrder_156 (by decide) (fun c156 => ?_) (fun c156 => ?_)
              · skip
                replace hr := hr.trans (pRest_n c156)
                replace ep := ep.trans (if_neg c156)
                refine x_iconst hF dX9_readsOrder_192 ?_
                exact x_ireturn hF hM hL (by rfl) (Nat.le_of_ble_eq_true rfl) (Nat.le_of_ble_eq_true rfl) (by first | exact ⟨by rw [hr, if_pos c43], by rw [hr]; exact hT⟩ | exact ⟨by rw [hr, if_pos c95], by rw [hr]; exact hT⟩ | exact ⟨by rw [hr, if_pos c185], by rw [hr]; exact hT⟩ | exact ⟨by rw [hr, if_neg c43], by rw [hr]; exact hT⟩ | exact ⟨by rw [hr, if_neg c95], by rw [hr]; exact hT⟩ | exact ⟨by rw [hr, if_neg c185], by rw [hr]; exact hT⟩ | exact ⟨by rw [hr]; rfl, by rw [hr]; exact ⟨_, hP, ep, fun q => absurd q (by show ¬ (0 : Int) = 1; decide), fun f a _ _ => eo f a⟩⟩ | exact ⟨by rw [hr], by rw [hr]; exact hT⟩ | fail) dX9_readsOrder_193
              · skip
                replace hr := hr.trans (pRest_c c156)
                replace ep := ep.trans (if_pos c156)
                have hl153 := lt_lt c156 (by decide)
                refine lv_aload_n hx hb dX9_readsOrder_159 rfl (lk hl rfl) ?_
                refine x_bipush hF (by decide) dX9_readsOrder_160 ?_
                refine x_kn hL (vx_runV (As := [_]) hF.2.2.2.2.2.2.2.2.2 ((mX9_reads (z := 118) (t := t) (L := L) (x := (x + 1 + 1 + 1)) (by unfold inR; omega) ((eo 14 (by decide)).trans htx) ((congrFun (eo 15 (by decide)) 0).trans hln) ep hTx (by omega) (by omega) hP.1) hF.1) (cwV 1 hF.2.2.2.2.2.2.2.2.1 (lw_V q2647 q2649 qs96 q138 q2650) rfl rfl rfl (by decide +kernel) ⟨(Nat.le_of_ble_eq_true rfl), (Nat.le_of_ble_eq_true rfl)⟩) (x_preV hF hM (MA_ob hP.1) rfl) rfl rfl hl.1 rfl (lv_room (Nat.le_of_ble_eq_true rfl)) dX9_readsOrder_162 ⟨(Nat.le_of_ble_eq_true rfl), (Nat.le_of_ble_eq_true rfl)⟩) ?_
                rintro _ τ162 H locs ⟨rfl, hp⟩ hM hL
                obtain ⟨F2, hP2, ep, eo2⟩ := hp
                refine MS_gen hM (MS_t hP hP2) (fun σ hM hP => ?_)
                replace eo := fun f (a : f ≠ 16) => (eo2 f a).trans (eo f a)
                refine x_ifeq_b (tgt := 192) hF dX9_readsOrder_165 (by decide) (fun c165 => ?_) (fun c165 => ?_)
                · skip
                  replace hr := hr.trans (pRest_n c165)
                  replace ep := ep.trans (if_neg c165)
                  refine x_iconst hF dX9_readsOrder_192 ?_
                  exact x_ireturn hF hM hL (by rfl) (Nat.le_of_ble_eq_true rfl) (Nat.le_of_ble_eq_true rfl) (by first | exact ⟨by rw [hr, if_pos c43], by rw [hr]; exact hT⟩ | exact ⟨by rw [hr, if_pos c95], by rw [hr]; exact hT⟩ | exact ⟨by rw [hr, if_pos c185], by rw [hr]; exact hT⟩ | exact ⟨by rw [hr, if_neg c43], by rw [hr]; exact hT⟩ | exact ⟨by rw [hr, if_neg c95], by rw [hr]; exact hT⟩ | exact ⟨by rw [hr, if_neg c185], by rw [hr]; exact hT⟩ | exact ⟨by rw [hr]; rfl, by rw [hr]; exact ⟨_, hP, ep, fun q => absurd q (by show ¬ (0 : Int) = 1; decide), fun f a _ _ => eo f a⟩⟩ | exact ⟨by rw [hr], by rw [hr]; exact hT⟩ | fail) dX9_readsOrder_193
                · skip
                  replace hr := hr.trans (pRest_c c165)
                  replace ep := ep.trans (if_pos c165)
                  have hl162 := lt_lt c165 (by decide)
                  refine lv_aload_n hx hb dX9_readsOrder_168 rfl (lk hl rfl) ?_
                  refine x_bipush hF (by decide) dX9_readsOrder_169 ?_
                  refine x_kn hL (vx_runV (As := [_]) hF.2.2.2.2.2.2.2.2.2 ((mX9_reads (z := 101) (t := t) (L := L) (x := (x + 1 + 1 + 1 + 1)) (by unfold inR; omega) ((eo 14 (by decide)).trans htx) ((congrFun (eo 15 (by decide)) 0).trans hln) ep hTx (by omega) (by omega) hP.1) hF.1) (cwV 1 hF.2.2.2.2.2.2.2.2.1 (lw_V q2647 q2649 qs96 q138 q2650) rfl rfl rfl (by decide +kernel) ⟨(Nat.le_of_ble_eq_true rfl), (Nat.le_of_ble_eq_true rfl)⟩) (x_preV hF hM (MA_ob hP.1) rfl) rfl rfl hl.1 rfl (lv_room (Nat.le_of_ble_eq_true rfl)) dX9_readsOrder_171 ⟨(Nat.le_of_ble_eq_true rfl), (Nat.le_of_ble_eq_true rfl)⟩) ?_
                  rintro _ τ171 H locs ⟨rfl, hp⟩ hM hL
                  obtain ⟨F2, hP2, ep, eo2⟩ := hp
                  refine MS_gen hM (MS_t hP hP2) (fun σ hM hP => ?_)
                  replace eo := fun f (a : f ≠ 16) => (eo2 f a).trans (eo f a)
                  refine x_ifeq_b (tgt := 192) hF dX9_readsOrder_174 (by decide) (fun c174 => ?_) (fun c174 => ?_)
                  · skip
                    replace hr := hr.trans (pRest_n c174)
                    replace ep := ep.trans (if_neg c174)
                    refine x_iconst hF dX9_readsOrder_192 ?_
                    exact x_ireturn hF hM hL (by rfl) (Nat.le_of_ble_eq_true rfl) (Nat.le_of_ble_eq_true rfl) (by first | exact ⟨by rw [hr, if_pos c43], by rw [hr]; exact hT⟩ | exact ⟨by rw [hr, if_pos c95], by rw [hr]; exact hT⟩ | exact ⟨by rw [hr, if_pos c185], by rw [hr]; exact hT⟩ | exact ⟨by rw [hr, if_neg c43], by rw [hr]; exact hT⟩ | exact ⟨by rw [hr, if_neg c95], by rw [hr]; exact hT⟩ | exact ⟨by rw [hr, if_neg c185], by rw [hr]; exact hT⟩ | exact ⟨by rw [hr]; rfl, by rw [hr]; exact ⟨_, hP, ep, fun q => absurd q (by show ¬ (0 : Int) = 1; decide), fun f a _ _ => eo f a⟩⟩ | exact ⟨by rw [hr], by rw [hr]; exact hT⟩ | fail) dX9_readsOrder_193
                  · skip
                    replace hr := hr.trans (pRest_c c174)
                    replace ep := ep.trans (if_pos c174)
                    have hl171 := lt_lt c174 (by decide)
                    refine lv_aload_n hx hb dX9_readsOrder_177 rfl (lk hl rfl) ?_
                    refine x_bipush hF (by decide) dX9_readsOrder_178 ?_
                    refine x_iconst hF dX9_readsOrder_180 ?_
                    refine x_iconst hF dX9_readsOrder_181 ?_
                    refine x_kn hL (vx_runV (As := [_, _, _]) hF.2.2.2.2.2.2.2.2.2 ((mX9_readsTwo (z := 6) (a := 3) (b := 0) (t := t) (L := L) (x := (x + 1 + 1 + 1 + 1 + 1)) (by omega) (by omega) (by omega) (by omega) (by omega) ((eo 14 (by decide)).trans htx) ((congrFun (eo 15 (by decide)) 0).trans hln) ep hTx (by omega) (by omega) hP.1) hF.1) (cwV 3 hF.2.2.2.2.2.2.2.2.1 (lw_V q2655 q2657 qs98 q138 q2658) rfl rfl rfl (by decide +kernel) ⟨(Nat.le_of_ble_eq_true rfl), (Nat.le_of_ble_eq_true rfl)⟩) (x_preV hF hM (MA_ob hP.1) rfl) rfl rfl hl.1 rfl (lv_room (Nat.le_of_ble_eq_true rfl)) dX9_readsOrder_182 ⟨(Nat.le_of_ble_eq_true rfl), (Nat.le_of_ble_eq_true rfl)⟩) ?_
                    rintro _ τ182 H locs ⟨rfl, hp⟩ hM hL
                    have hT := RT_t hP eo hp
                    refine x_ifeq_b (tgt := 192) hF dX9_readsOrder_185 (by decide) (fun c185 => ?_) (fun c185 => ?_)
                    · skip
                      replace hr := hr.trans (show _ = pTwo t L (x + 1 + 1 + 1 + 1 + 1) 3 0 6 from rfl)
                      refine x_iconst hF dX9_readsOrder_192 ?_
                      exact x_ireturn hF hM hL (by rfl) (Nat.le_of_ble_eq_true rfl) (Nat.le_of_ble_eq_true rfl) (by first | exact ⟨by rw [hr, if_pos c43], by rw [hr]; exact hT⟩ | exact ⟨by rw [hr, if_pos c95], by rw [hr]; exact hT⟩ | exact ⟨by rw [hr, if_pos c185], by rw [hr]; exact hT⟩ | exact ⟨by rw [hr, if_neg c43], by rw [hr]; exact hT⟩ | exact ⟨by rw [hr, if_neg c95], by rw [hr]; exact hT⟩ | exact ⟨by rw [hr, if_neg c185], by rw [hr]; exact hT⟩ | exact ⟨by rw [hr]; rfl, by rw [hr]; exact ⟨_, hP, ep, fun q => absurd q (by show ¬ (0 : Int) = 1; decide), fun f a _ _ => eo f a⟩⟩ | exact ⟨by rw [hr], by rw [hr]; exact hT⟩ | fail) dX9_readsOrder_193
                    · skip
                      replace hr := hr.trans (show _ = pTwo t L (x + 1 + 1 + 1 + 1 + 1) 3 0 6 from rfl)
                      refine x_iconst hF dX9_readsOrder_188 ?_
                      refine x_goto (tgt := 193) hF dX9_readsOrder_189 (by decide) ?_
                      exact x_ireturn hF hM hL (by rfl) (Nat.le_of_ble_eq_true rfl) (Nat.le_of_ble_eq_true rfl) (by first | exact ⟨by rw [hr, if_pos c43], by rw [hr]; exact hT⟩ | exact ⟨by rw [hr, if_pos c95], by rw [hr]; exact hT⟩ | exact ⟨by rw [hr, if_pos c185], by rw [hr]; exact hT⟩ | exact ⟨by rw [hr, if_neg c43], by rw [hr]; exact hT⟩ | exact ⟨by rw [hr, if_neg c95], by rw [hr]; exact hT⟩ | exact ⟨by rw [hr, if_neg c185], by rw [hr]; exact hT⟩ | exact ⟨by rw [hr]; rfl, by rw [hr]; exact ⟨_, hP, ep, fun q => absurd q (by show ¬ (0 : Int) = 1; decide), fun f a _ _ => eo f a⟩⟩ | exact ⟨by rw [hr], by rw [hr]; exact hT⟩ | fail) dX9_readsOrder_193
        · skip
          replace hr := hr.trans (if_pos c124)
          replace ep := ep.trans (if_pos c124)
          have hll := lt_lt c124 (by decide)
          refine lv_aload_n hx hb dX9_readsOrder_127 rfl (lk hl rfl) ?_
          refine x_kn hL (vx_runV (As := []) hF.2.2.2.2.2.2.2.2.2 ((mX9_readsO (t := t) (L := L) (x := x + 1) ((eo 14 (by decide)).trans htx) ((congrFun (eo 15 (by decide)) 0).trans hln) ep hTx (by omega) (by omega) hP.1) hF.1) (cwV 0 hF.2.2.2.2.2.2.2.2.1 (lw_V q2667 q2669 qs101 q138 q2670) rfl rfl rfl (by decide +kernel) ⟨(Nat.le_of_ble_eq_true rfl), (Nat.le_of_ble_eq_true rfl)⟩) (x_preV hF hM (MA_ob hP.1) rfl) rfl rfl hl.1 rfl (lv_room (Nat.le_of_ble_eq_true rfl)) dX9_readsOrder_128 ⟨(Nat.le_of_ble_eq_true rfl), (Nat.le_of_ble_eq_true rfl)⟩) ?_
          rintro _ τ128 H locs ⟨rfl, hp⟩ hM hL
          have hT := RT_t hP eo hp
          exact x_ireturn hF hM hL nar_b (Nat.le_of_ble_eq_true rfl) (Nat.le_of_ble_eq_true rfl) (by first | exact ⟨by rw [hr, if_pos c43], by rw [hr]; exact hT⟩ | exact ⟨by rw [hr, if_pos c95], by rw [hr]; exact hT⟩ | exact ⟨by rw [hr, if_pos c185], by rw [hr]; exact hT⟩ | exact ⟨by rw [hr, if_neg c43], by rw [hr]; exact hT⟩ | exact ⟨by rw [hr, if_neg c95], by rw [hr]; exact hT⟩ | exact ⟨by rw [hr, if_neg c185], by rw [hr]; exact hT⟩ | exact ⟨by rw [hr]; rfl, by rw [hr]; exact ⟨_, hP, ep, fun q => absurd q (by show ¬ (0 : Int) = 1; decide), fun f a _ _ => eo f a⟩⟩ | exact ⟨by rw [hr], by rw [hr]; exact hT⟩ | fail) dX9_readsOrder_131
      · skip
        replace hr := hr.trans (if_pos c110)
        replace ep := ep.trans (if_pos c110)
        have hll := lt_lt c110 (by decide)
        refine lv_aload_n hx hb dX9_readsOrder_113 rfl (lk hl rfl) ?_
        refine x_kn hL (vx_runV (As := []) hF.2.2.2.2.2.2.2.2.2 ((mX9_readsC (t := t) (L := L) (x := x + 1) ((eo 14 (by decide)).trans htx) ((congrFun (eo 15 (by decide)) 0).trans hln) ep hTx (by omega) (by omega) hP.1) hF.1) (cwV 0 hF.2.2.2.2.2.2.2.2.1 (lw_V q2663 q2665 qs100 q138 q2666) rfl rfl rfl (by decide +kernel) ⟨(Nat.le_of_ble_eq_true rfl), (Nat.le_of_ble_eq_true rfl)⟩) (x_preV hF hM (MA_ob hP.1) rfl) rfl rfl hl.1 rfl (lv_room (Nat.le_of_ble_eq_true rfl)) dX9_readsOrder_114 ⟨(Nat.le_of_ble_eq_true rfl), (Nat.le_of_ble_eq_true rfl)⟩) ?_
        rintro _ τ114 H locs ⟨rfl, hp⟩ hM hL
        have hT := RT_t hP eo hp
        exact x_ireturn hF hM hL nar_b (Nat.le_of_ble_eq_true rfl) (Nat.le_of_ble_eq_true rfl) (by first | exact ⟨by rw [hr, if_pos c43], by rw [hr]; exact hT⟩ | exact ⟨by rw [hr, if_pos c95], by rw [hr]; exact hT⟩ | exact ⟨by rw [hr, if_pos c185], by rw [hr]; exact hT⟩ | exact ⟨by rw [hr, if_neg c43], by rw [hr]; exact hT⟩ | exact ⟨by rw [hr, if_neg c95], by rw [hr]; exact hT⟩ | exact ⟨by rw [hr, if_neg c185], by rw [hr]; exact hT⟩ | exact ⟨by rw [hr]; rfl, by rw [hr]; exact ⟨_, hP, ep, fun q => absurd q (by show ¬ (0 : Int) = 1; decide), fun f a _ _ => eo f a⟩⟩ | exact ⟨by rw [hr], by rw [hr]; exact hT⟩ | fail) dX9_readsOrder_117
    · skip
      replace hr := hr.trans (if_pos c58)
      replace ep := ep.trans (if_pos c58)
      have hll := lt_lt c58 (by decide)
      refine lv_aload_n hx hb dX9_readsOrder_61 rfl (lk hl rfl) ?_
      refine x_bipush hF (by decide) dX9_readsOrder_62 ?_
      refine x_kn hL (vx_runV (As := [_]) hF.2.2.2.2.2.2.2.2.2 ((mX9_reads (z := 111) (t := t) (L := L) (x := (x + 1)) (by unfold inR; omega) ((eo 14 (by decide)).trans htx) ((congrFun (eo 15 (by decide)) 0).trans hln) ep hTx (by omega) (by omega) hP.1) hF.1) (cwV 1 hF.2.2.2.2.2.2.2.2.1 (lw_V q2647 q2649 qs96 q138 q2650) rfl rfl rfl (by decide +kernel) ⟨(Nat.le_of_ble_eq_true rfl), (Nat.le_of_ble_eq_true rfl)⟩) (x_preV hF hM (MA_ob hP.1) rfl) rfl rfl hl.1 rfl (lv_room (Nat.le_of_ble_eq_true rfl)) dX9_readsOrder_64 ⟨(Nat.le_of_ble_eq_true rfl), (Nat.le_of_ble_eq_true rfl)⟩) ?_
      rintro _ τ64 H locs ⟨rfl, hp⟩ hM hL
      obtain ⟨F2, hP2, ep, eo2⟩ := hp
      refine MS_gen hM (MS_t hP hP2) (fun σ hM hP => ?_)
      replace eo := fun f (a : f ≠ 16) => (eo2 f a).trans (eo f a)
      refine x_ifeq_b (tgt := 102) hF dX9_readsOrder_67 (by decide) (fun c67 => ?_) (fun c67 => ?_)
      · skip
        replace hr := hr.trans (pRest_n c67)
        replace ep := ep.trans (if_neg c67)
        refine x_iconst hF dX9_readsOrder_102 ?_
        exact x_ireturn hF hM hL (by rfl) (Nat.le_of_ble_eq_true rfl) (Nat.le_of_ble_eq_true rfl) (by first | exact ⟨by rw [hr, if_pos c43], by rw [hr]; exact hT⟩ | exact ⟨by rw [hr, if_pos c95], by rw [hr]; exact hT⟩ | exact ⟨by rw [hr, if_pos c185], by rw [hr]; exact hT⟩ | exact ⟨by rw [hr, if_neg c43], by rw [hr]; exact hT⟩ | exact ⟨by rw [hr, if_neg c95], by rw [hr]; exact hT⟩ | exact ⟨by rw [hr, if_neg c185], by rw [hr]; exact hT⟩ | exact ⟨by rw [hr]; rfl, by rw [hr]; exact ⟨_, hP, ep, fun q => absurd q (by show ¬ (0 : Int) = 1; decide), fun f a _ _ => eo f a⟩⟩ | exact ⟨by rw [hr], by rw [hr]; exact hT⟩ | fail) dX9_readsOrder_103
      · skip
        replace hr := hr.trans (pRest_c c67)
        replace ep := ep.trans (if_pos c67)
        have hl64 := lt_lt c67 (by decide)
        refine lv_aload_n hx hb dX9_readsOrder_70 rfl (lk hl rfl) ?_
        refine x_bipush hF (by decide) dX9_readsOrder_71 ?_
        refine x_kn hL (vx_runV (As := [_]) hF.2.2.2.2.2.2.2.2.2 ((mX9_reads (z := 119) (t := t) (L := L) (x := (x + 1 + 1)) (by unfold inR; omega) ((eo 14 (by decide)).trans htx) ((congrFun (eo 15 (by decide)) 0).trans hln) ep hTx (by omega) (by omega) hP.1) hF.1) (cwV 1 hF.2.2.2.2.2.2.2.2.1 (lw_V q2647 q2649 qs96 q138 q2650) rfl rfl rfl (by decide +kernel) ⟨(Nat.le_of_ble_eq_true rfl), (Nat.le_of_ble_eq_true rfl)⟩) (x_preV hF hM (MA_ob hP.1) rfl) rfl rfl hl.1 rfl (lv_room (Nat.le_of_ble_eq_true rfl)) dX9_readsOrder_73 ⟨(Nat.le_of_ble_eq_true rfl), (Nat.le_of_ble_eq_true rfl)⟩) ?_
        rintro _ τ73 H locs ⟨rfl, hp⟩ hM hL
        obtain ⟨F2, hP2, ep, eo2⟩ := hp
        refine MS_gen hM (MS_t hP hP2) (fun σ hM hP => ?_)
        replace eo := fun f (a : f ≠ 16) => (eo2 f a).trans (eo f a)
        refine x_ifeq_b (tgt := 102) hF dX9_readsOrder_76 (by decide) (fun c76 => ?_) (fun c76 => ?_)
        · skip
          replace hr := hr.trans (pRest_n c76)
          replace ep := ep.trans (if_neg c76)
          refine x_iconst hF dX9_readsOrder_102 ?_
          exact x_ireturn hF hM hL (by rfl) (Nat.le_of_ble_eq_true rfl) (Nat.le_of_ble_eq_true rfl) (by first | exact ⟨by rw [hr, if_pos c43], by rw [hr]; exact hT⟩ | exact ⟨by rw [hr, if_pos c95], by rw [hr]; exact hT⟩ | exact ⟨by rw [hr, if_pos c185], by rw [hr]; exact hT⟩ | exact ⟨by rw [hr, if_neg c43], by rw [hr]; exact hT⟩ | exact ⟨by rw [hr, if_neg c95], by rw [hr]; exact hT⟩ | exact ⟨by rw [hr, if_neg c185], by rw [hr]; exact hT⟩ | exact ⟨by rw [hr]; rfl, by rw [hr]; exact ⟨_, hP, ep, fun q => absurd q (by show ¬ (0 : Int) = 1; decide), fun f a _ _ => eo f a⟩⟩ | exact ⟨by rw [hr], by rw [hr]; exact hT⟩ | fail) dX9_readsOrder_103
        · skip
          replace hr := hr.trans (pRest_c c76)
          replace ep := ep.trans (if_pos c76)
          have hl73 := lt_lt c76 (by decide)
          refine lv_aload_n hx hb dX9_readsOrder_79 rfl (lk hl rfl) ?_
          refine x_bipush hF (by decide) dX9_readsOrder_80 ?_
          refine x_kn hL (vx_runV (As := [_]) hF.2.2.2.2.2.2.2.2.2 ((mX9_reads (z := 110) (t := t) (L := L) (x := (x + 1 + 1 + 1)) (by unfold inR; omega) ((eo 14 (by decide)).trans htx) ((congrFun (eo 15 (by decide)) 0).trans hln) ep hTx (by omega) (by omega) hP.1) hF.1) (cwV 1 hF.2.2.2.2.2.2.2.2.1 (lw_V q2647 q2649 qs96 q138 q2650) rfl rfl rfl (by decide +kernel) ⟨(Nat.le_of_ble_eq_true rfl), (Nat.le_of_ble_eq_true rfl)⟩) (x_preV hF hM (MA_ob hP.1) rfl) rfl rfl hl.1 rfl (lv_room (Nat.le_of_ble_eq_true rfl)) dX9_readsOrder_82 ⟨(Nat.le_of_ble_eq_true rfl), (Nat.le_of_ble_eq_true rfl)⟩) ?_
          rintro _ τ82 H locs ⟨rfl, hp⟩ hM hL
          obtain ⟨F2, hP2, ep, eo2⟩ := hp
          refine MS_gen hM (MS_t hP hP2) (fun σ hM hP => ?_)
          replace eo := fun f (a : f ≠ 16) => (eo2 f a).trans (eo f a)
          refine x_ifeq_b (tgt := 102) hF dX9_readsOrder_85 (by decide) (fun c85 => ?_) (fun c85 => ?_)
          · skip
            replace hr := hr.trans (pRest_n c85)
            replace ep := ep.trans (if_neg c85)
            refine x_iconst hF dX9_readsOrder_102 ?_
            exact x_ireturn hF hM hL (by rfl) (Nat.le_of_ble_eq_true rfl) (Nat.le_of_ble_eq_true rfl) (by first | exact ⟨by rw [hr, if_pos c43], by rw [hr]; exact hT⟩ | exact ⟨by rw [hr, if_pos c95], by rw [hr]; exact hT⟩ | exact ⟨by rw [hr, if_pos c185], by rw [hr]; exact hT⟩ | exact ⟨by rw [hr, if_neg c43], by rw [hr]; exact hT⟩ | exact ⟨by rw [hr, if_neg c95], by rw [hr]; exact hT⟩ | exact ⟨by rw [hr, if_neg c185], by rw [hr]; exact hT⟩ | exact ⟨by rw [hr]; rfl, by rw [hr]; exact ⟨_, hP, ep, fun q => absurd q (by show ¬ (0 : Int) = 1; decide), fun f a _ _ => eo f a⟩⟩ | exact ⟨by rw [hr], by rw [hr]; exact hT⟩ | fail) dX9_readsOrder_103
          · skip
            replace hr := hr.trans (pRest_c c85)
            replace ep := ep.trans (if_pos c85)
            have hl82 := lt_lt c85 (by decide)
            refine lv_aload_n hx hb dX9_readsOrder_88 rfl (lk hl rfl) ?_
            refine x_iconst hF dX9_readsOrder_89 ?_
            refine x_iconst hF dX9_readsOrder_90 ?_
            refine x_iconst hF dX9_readsOrder_91 ?_
            refine x_kn hL (vx_runV (As := [_, _, _]) hF.2.2.2.2.2.2.2.2.2 ((mX9_readsTwo (z := 1) (a := 3) (b := 0) (t := t) (L := L) (x := (x + 1 + 1 + 1 + 1)) (by omega) (by omega) (by omega) (by omega) (by omega) ((eo 14 (by decide)).trans htx) ((congrFun (eo 15 (by decide)) 0).trans hln) ep hTx (by omega) (by omega) hP.1) hF.1) (cwV 3 hF.2.2.2.2.2.2.2.2.1 (lw_V q2655 q2657 qs98 q138 q2658) rfl rfl rfl (by decide +kernel) ⟨(Nat.le_of_ble_eq_true rfl), (Nat.le_of_ble_eq_true rfl)⟩) (x_preV hF hM (MA_ob hP.1) rfl) rfl rfl hl.1 rfl (lv_room (Nat.le_of_ble_eq_true rfl)) dX9_readsOrder_92 ⟨(Nat.le_of_ble_eq_true rfl), (Nat.le_of_ble_eq_true rfl)⟩) ?_
            rintro _ τ92 H locs ⟨rfl, hp⟩ hM hL
            have hT := RT_t hP eo hp
            refine x_ifeq_b (tgt := 102) hF dX9_readsOrder_95 (by decide) (fun c95 => ?_) (fun c95 => ?_)
            · skip
              replace hr := hr.trans (show _ = pTwo t L (x + 1 + 1 + 1 + 1) 3 0 1 from rfl)
              refine x_iconst hF dX9_readsOrder_102 ?_
              exact x_ireturn hF hM hL (by rfl) (Nat.le_of_ble_eq_true rfl) (Nat.le_of_ble_eq_true rfl) (by first | exact ⟨by rw [hr, if_pos c43], by rw [hr]; exact hT⟩ | exact ⟨by rw [hr, if_pos c95], by rw [hr]; exact hT⟩ | exact ⟨by rw [hr, if_pos c185], by rw [hr]; exact hT⟩ | exact ⟨by rw [hr, if_neg c43], by rw [hr]; exact hT⟩ | exact ⟨by rw [hr, if_neg c95], by rw [hr]; exact hT⟩ | exact ⟨by rw [hr, if_neg c185], by rw [hr]; exact hT⟩ | exact ⟨by rw [hr]; rfl, by rw [hr]; exact ⟨_, hP, ep, fun q => absurd q (by show ¬ (0 : Int) = 1; decide), fun f a _ _ => eo f a⟩⟩ | exact ⟨by rw [hr], by rw [hr]; exact hT⟩ | fail) dX9_readsOrder_103
            · skip
              replace hr := hr.trans (show _ = pTwo t L (x + 1 + 1 + 1 + 1) 3 0 1 from rfl)
              refine x_iconst hF dX9_readsOrder_98 ?_
              refine x_goto (tgt := 103) hF dX9_readsOrder_99 (by decide) ?_
              exact x_ireturn hF hM hL (by rfl) (Nat.le_of_ble_eq_true rfl) (Nat.le_of_ble_eq_true rfl) (by first | exact ⟨by rw [hr, if_pos c43], by rw [hr]; exact hT⟩ | exact ⟨by rw [hr, if_pos c95], by rw [hr]; exact hT⟩ | exact ⟨by rw [hr, if_pos c185], by rw [hr]; exact hT⟩ | exact ⟨by rw [hr, if_neg c43], by rw [hr]; exact hT⟩ | exact ⟨by rw [hr, if_neg c95], by rw [hr]; exact hT⟩ | exact ⟨by rw [hr, if_neg c185], by rw [hr]; exact hT⟩ | exact ⟨by rw [hr]; rfl, by rw [hr]; exact ⟨_, hP, ep, fun q => absurd q (by show ¬ (0 : Int) = 1; decide), fun f a _ _ => eo f a⟩⟩ | exact ⟨by rw [hr], by rw [hr]; exact hT⟩ | fail) dX9_readsOrder_103
  · skip
    have hr : pOrd t L x = _ := if_pos c6
    replace ep := ep.trans (if_pos c6)
    have hll := lt_lt c6 (by decide)
    refine lv_aload_n hx hb dX9_readsOrder_9 rfl (lk hl rfl) ?_
    refine x_bipush hF (by decide) dX9_readsOrder_10 ?_
    refine x_kn hL (vx_runV (As := [_]) hF.2.2.2.2.2.2.2.2.2 ((mX9_reads (z := 105) (t := t) (L := L) (x := (x + 1)) (by unfold inR; omega) ((eo 14 (by decide)).trans htx) ((congrFun (eo 15 (by decide)) 0).trans hln) ep hTx (by omega) (by omega) hP.1) hF.1) (cwV 1 hF.2.2.2.2.2.2.2.2.1 (lw_V q2647 q2649 qs96 q138 q2650) rfl rfl rfl (by decide +kernel) ⟨(Nat.le_of_ble_eq_true rfl), (Nat.le_of_ble_eq_true rfl)⟩) (x_preV hF hM (MA_ob hP.1) rfl) rfl rfl hl.1 rfl (lv_room (Nat.le_of_ble_eq_true rfl)) dX9_readsOrder_12 ⟨(Nat.le_of_ble_eq_true rfl), (Nat.le_of_ble_eq_true rfl)⟩) ?_
    rintro _ τ12 H locs ⟨rfl, hp⟩ hM hL
    obtain ⟨F2, hP2, ep, eo2⟩ := hp
    refine MS_gen hM (MS_t hP hP2) (fun σ hM hP => ?_)
    replace eo := fun f (a : f ≠ 16) => (eo2 f a).trans (eo f a)
    refine x_ifeq_b (tgt := 50) hF dX9_readsOrder_15 (by decide) (fun c15 => ?_) (fun c15 => ?_)
    · skip
      replace hr := hr.trans (pRest_n c15)
      replace ep := ep.trans (if_neg c15)
      refine x_iconst hF dX9_readsOrder_50 ?_
      exact x_ireturn hF hM hL (by rfl) (Nat.le_of_ble_eq_true rfl) (Nat.le_of_ble_eq_true rfl) (by first | exact ⟨by rw [hr, if_pos c43], by rw [hr]; exact hT⟩ | exact ⟨by rw [hr, if_pos c95], by rw [hr]; exact hT⟩ | exact ⟨by rw [hr, if_pos c185], by rw [hr]; exact hT⟩ | exact ⟨by rw [hr, if_neg c43], by rw [hr]; exact hT⟩ | exact ⟨by rw [hr, if_neg c95], by rw [hr]; exact hT⟩ | exact ⟨by rw [hr, if_neg c185], by rw [hr]; exact hT⟩ | exact ⟨by rw [hr]; rfl, by rw [hr]; exact ⟨_, hP, ep, fun q => absurd q (by show ¬ (0 : Int) = 1; decide), fun f a _ _ => eo f a⟩⟩ | exact ⟨by rw [hr], by rw [hr]; exact hT⟩ | fail) dX9_readsOrder_51
    · skip
      replace hr := hr.trans (pRest_c c15)
      replace ep := ep.trans (if_pos c15)
      have hl12 := lt_lt c15 (by decide)
      refine lv_aload_n hx hb dX9_readsOrder_18 rfl (lk hl rfl) ?_
      refine x_bipush hF (by decide) dX9_readsOrder_19 ?_
      refine x_kn hL (vx_runV (As := [_]) hF.2.2.2.2.2.2.2.2.2 ((mX9_reads (z := 103) (t := t) (L := L) (x := (x + 1 + 1)) (by unfold inR; omega) ((eo 14 (by decide)).trans htx) ((congrFun (eo 15 (by decide)) 0).trans hln) ep hTx (by omega) (by omega) hP.1) hF.1) (cwV 1 hF.2.2.2.2.2.2.2.2.1 (lw_V q2647 q2649 qs96 q138 q2650) rfl rfl rfl (by decide +kernel) ⟨(Nat.le_of_ble_eq_true rfl), (Nat.le_of_ble_eq_true rfl)⟩) (x_preV hF hM (MA_ob hP.1) rfl) rfl rfl hl.1 rfl (lv_room (Nat.le_of_ble_eq_true rfl)) dX9_readsOrder_21 ⟨(Nat.le_of_ble_eq_true rfl), (Nat.le_of_ble_eq_true rfl)⟩) ?_
      rintro _ τ21 H locs ⟨rfl, hp⟩ hM hL
      obtain ⟨F2, hP2, ep, eo2⟩ := hp
      refine MS_gen hM (MS_t hP hP2) (fun σ hM hP => ?_)
      replace eo := fun f (a : f ≠ 16) => (eo2 f a).trans (eo f a)
      refine x_ifeq_b (tgt := 50) hF dX9_readsOrder_24 (by decide) (fun c24 => ?_) (fun c24 => ?_)
      · skip
        replace hr := hr.trans (pRest_n c24)
        replace ep := ep.trans (if_neg c24)
        refine x_iconst hF dX9_readsOrder_50 ?_
        exact x_ireturn hF hM hL (by rfl) (Nat.le_of_ble_eq_true rfl) (Nat.le_of_ble_eq_true rfl) (by first | exact ⟨by rw [hr, if_pos c43], by rw [hr]; exact hT⟩ | exact ⟨by rw [hr, if_pos c95], by rw [hr]; exact hT⟩ | exact ⟨by rw [hr, if_pos c185], by rw [hr]; exact hT⟩ | exact ⟨by rw [hr, if_neg c43], by rw [hr]; exact hT⟩ | exact ⟨by rw [hr, if_neg c95], by rw [hr]; exact hT⟩ | exact ⟨by rw [hr, if_neg c185], by rw [hr]; exact hT⟩ | exact ⟨by rw [hr]; rfl, by rw [hr]; exact ⟨_, hP, ep, fun q => absurd q (by show ¬ (0 : Int) = 1; decide), fun f a _ _ => eo f a⟩⟩ | exact ⟨by rw [hr], by rw [hr]; exact hT⟩ | fail) dX9_readsOrder_51
      · skip
        replace hr := hr.trans (pRest_c c24)
        replace ep := ep.trans (if_pos c24)
        have hl21 := lt_lt c24 (by decide)
        refine lv_aload_n hx hb dX9_readsOrder_27 rfl (lk hl rfl) ?_
        refine x_bipush hF (by decide) dX9_readsOrder_28 ?_
        refine x_kn hL (vx_runV (As := [_]) hF.2.2.2.2.2.2.2.2.2 ((mX9_reads (z := 110) (t := t) (L := L) (x := (x + 1 + 1 + 1)) (by unfold inR; omega) ((eo 14 (by decide)).trans htx) ((congrFun (eo 15 (by decide)) 0).trans hln) ep hTx (by omega) (by omega) hP.1) hF.1) (cwV 1 hF.2.2.2.2.2.2.2.2.1 (lw_V q2647 q2649 qs96 q138 q2650) rfl rfl rfl (by decide +kernel) ⟨(Nat.le_of_ble_eq_true rfl), (Nat.le_of_ble_eq_true rfl)⟩) (x_preV hF hM (MA_ob hP.1) rfl) rfl rfl hl.1 rfl (lv_room (Nat.le_of_ble_eq_true rfl)) dX9_readsOrder_30 ⟨(Nat.le_of_ble_eq_true rfl), (Nat.le_of_ble_eq_true rfl)⟩) ?_
        rintro _ τ30 H locs ⟨rfl, hp⟩ hM hL
        obtain ⟨F2, hP2, ep, eo2⟩ := hp
        refine MS_gen hM (MS_t hP hP2) (fun σ hM hP => ?_)
        replace eo := fun f (a : f ≠ 16) => (eo2 f a).trans (eo f a)
        refine x_ifeq_b (tgt := 50) hF dX9_readsOrder_33 (by decide) (fun c33 => ?_) (fun c33 => ?_)
        · skip
          replace hr := hr.trans (pRest_n c33)
          replace ep := ep.trans (if_neg c33)
          refine x_iconst hF dX9_readsOrder_50 ?_
          exact x_ireturn hF hM hL (by rfl) (Nat.le_of_ble_eq_true rfl) (Nat.le_of_ble_eq_true rfl) (by first | exact ⟨by rw [hr, if_pos c43], by rw [hr]; exact hT⟩ | exact ⟨by rw [hr, if_pos c95], by rw [hr]; exact hT⟩ | exact ⟨by rw [hr, if_pos c185], by rw [hr]; exact hT⟩ | exact ⟨by rw [hr, if_neg c43], by rw [hr]; exact hT⟩ | exact ⟨by rw [hr, if_neg c95], by rw [hr]; exact hT⟩ | exact ⟨by rw [hr, if_neg c185], by rw [hr]; exact hT⟩ | exact ⟨by rw [hr]; rfl, by rw [hr]; exact ⟨_, hP, ep, fun q => absurd q (by show ¬ (0 : Int) = 1; decide), fun f a _ _ => eo f a⟩⟩ | exact ⟨by rw [hr], by rw [hr]; exact hT⟩ | fail) dX9_readsOrder_51
        · skip
          replace hr := hr.trans (pRest_c c33)
          replace ep := ep.trans (if_pos c33)
          have hl30 := lt_lt c33 (by decide)
          refine lv_aload_n hx hb dX9_readsOrder_36 rfl (lk hl rfl) ?_
          refine x_iconst hF dX9_readsOrder_37 ?_
          refine x_iconst hF dX9_readsOrder_38 ?_
          refine x_iconst hF dX9_readsOrder_39 ?_
          refine x_kn hL (vx_runV (As := [_, _, _]) hF.2.2.2.2.2.2.2.2.2 ((mX9_readsTwo (z := 0) (a := 1) (b := 3) (t := t) (L := L) (x := (x + 1 + 1 + 1 + 1)) (by omega) (by omega) (by omega) (by omega) (by omega) ((eo 14 (by decide)).trans htx) ((congrFun (eo 15 (by decide)) 0).trans hln) ep hTx (by omega) (by omega) hP.1) hF.1) (cwV 3 hF.2.2.2.2.2.2.2.2.1 (lw_V q2655 q2657 qs98 q138 q2658) rfl rfl rfl (by decide +kernel) ⟨(Nat.le_of_ble_eq_true rfl), (Nat.le_of_ble_eq_true rfl)⟩) (x_preV hF hM (MA_ob hP.1) rfl) rfl rfl hl.1 rfl (lv_room (Nat.le_of_ble_eq_true rfl)) dX9_readsOrder_40 ⟨(Nat.le_of_ble_eq_true rfl), (Nat.le_of_ble_eq_true rfl)⟩) ?_
          rintro _ τ40 H locs ⟨rfl, hp⟩ hM hL
          have hT := RT_t hP eo hp
          refine x_ifeq_b (tgt := 50) hF dX9_readsOrder_43 (by decide) (fun c43 => ?_) (fun c43 => ?_)
          · skip
            replace hr := hr.trans (show _ = pTwo t L (x + 1 + 1 + 1 + 1) 1 3 0 from rfl)
            refine x_iconst hF dX9_readsOrder_50 ?_
            exact x_ireturn hF hM hL (by rfl) (Nat.le_of_ble_eq_true rfl) (Nat.le_of_ble_eq_true rfl) (by first | exact ⟨by rw [hr, if_pos c43], by rw [hr]; exact hT⟩ | exact ⟨by rw [hr, if_pos c95], by rw [hr]; exact hT⟩ | exact ⟨by rw [hr, if_pos c185], by rw [hr]; exact hT⟩ | exact ⟨by rw [hr, if_neg c43], by rw [hr]; exact hT⟩ | exact ⟨by rw [hr, if_neg c95], by rw [hr]; exact hT⟩ | exact ⟨by rw [hr, if_neg c185], by rw [hr]; exact hT⟩ | exact ⟨by rw [hr]; rfl, by rw [hr]; exact ⟨_, hP, ep, fun q => absurd q (by show ¬ (0 : Int) = 1; decide), fun f a _ _ => eo f a⟩⟩ | exact ⟨by rw [hr], by rw [hr]; exact hT⟩ | fail) dX9_readsOrder_51
          · skip
            replace hr := hr.trans (show _ = pTwo t L (x + 1 + 1 + 1 + 1) 1 3 0 from rfl)
            refine x_iconst hF dX9_readsOrder_46 ?_
            refine x_goto (tgt := 51) hF dX9_readsOrder_47 (by decide) ?_
            exact x_ireturn hF hM hL (by rfl) (Nat.le_of_ble_eq_true rfl) (Nat.le_of_ble_eq_true rfl) (by first | exact ⟨by rw [hr, if_pos c43], by rw [hr]; exact hT⟩ | exact ⟨by rw [hr, if_pos c95], by rw [hr]; exact hT⟩ | exact ⟨by rw [hr, if_pos c185], by rw [hr]; exact hT⟩ | exact ⟨by rw [hr, if_neg c43], by rw [hr]; exact hT⟩ | exact ⟨by rw [hr, if_neg c95], by rw [hr]; exact hT⟩ | exact ⟨by rw [hr, if_neg c185], by rw [hr]; exact hT⟩ | exact ⟨by rw [hr]; rfl, by rw [hr]; exact ⟨_, hP, ep, fun q => absurd q (by show ¬ (0 : Int) = 1; decide), fun f a _ _ => eo f a⟩⟩ | exact ⟨by rw [hr], by rw [hr]; exact hT⟩ | fail) dX9_readsOrder_51
