set_option maxHeartbeats 4000000 in
set_option maxRecDepth 100000 in
/-- BakeryRingModel.bakeryOf(II)I -/
theorem mX9_bakeryOf {l : Launch} {E : En} {σ0 : Mm} {o : Nat} {F : Nat → Int → Int} {w : Int → Int} (hw : F 5 = w) (hk : Wk w) {z a : Int} (hz : inR z) (ha : inR a) (hP : MA E σ0 o F) : Ctr l E yX9_bakeryOf (ws_ yX9_bakeryOf cX9_bakeryOf 3 (some .int)) 3 66 0 0 [.ref o, .int (iz z), .int (iz a)] σ0 (fun v τ => v = some (.int (iz (qBakeryOf w z a).2)) ∧ QE E σ0 o τ F (qBakeryOf w z a).1) noX := by
  refine x_head (own := RX9) (cc := cX9_bakeryOf) (maxL := 3) (ret := (some .int)) (by decide) rfl rfl (Nat.le_of_ble_eq_true rfl) ?_
  intro p e s m args below meth c H ls hF hname htab hM hl
  have hx := hF.2.2.1
  have hb := hF.2.2.2.1
  have hL : Lc E [] := lcNil
  have hl : lh ls 3 ([(0, .ref o), (1, .int (iz z)), (2, .int (iz a))]) := hl
  refine MS_gen hM (MS_0 hP) (fun σ hM hP => ?_)
  have hk2 := hk.2.1
  refine lv_aload_n hx hb dX9_bakeryOf_0 rfl (lk hl rfl) ?_
  refine x_iconst hF dX9_bakeryOf_1 ?_
  refine x_putfield hF (ci := 10) in_X9 rfl tyX9_ok nmX9 0 (by decide) q2251 (fun _ h => h) rfl hM hL (MA_ob hP.1) (ty := .int) (by decide +kernel) rfl rfl dX9_bakeryOf_2 (fun H locs hM hL => ?_)
  refine MS_gen hM (MS_p0 hM hP) (fun σ hM hP => ?_)
  refine lv_aload_n hx hb dX9_bakeryOf_5 rfl (lk hl rfl) ?_
  refine lv_iload_n hx hb dX9_bakeryOf_6 rfl (lk hl rfl) ?_
  refine x_kp hL (vx_runV (As := [_]) hF.2.2.2.2.2.2.2.2.2 ((mX9_isBakery (w := w) (by rw [up2_oth _ _ _ (by decide)]; exact hw) hz hk.1 hP.1) hF.1) (cwV 1 hF.2.2.2.2.2.2.2.2.1 (lw_V q2377 q2379 qs55 q138 q2380) rfl rfl rfl (by decide +kernel) ⟨(Nat.le_of_ble_eq_true rfl), (Nat.le_of_ble_eq_true rfl)⟩) (x_preV hF hM (MA_ob hP.1) rfl) rfl rfl hl.1 rfl (lv_room (Nat.le_of_ble_eq_true rfl)) dX9_bakeryOf_7 ⟨(Nat.le_of_ble_eq_true rfl), (Nat.le_of_ble_eq_true rfl)⟩) (fun H locs hM hL => ?_)
  refine x_ifne_b (tgt := 19) hF dX9_bakeryOf_10 (by decide) (fun c10 => ?_) (fun c10 => ?_)
  · skip
    refine lv_iload_n hx hb dX9_bakeryOf_19 rfl (lk hl rfl) ?_
    rcases (show a = 0 ∨ a = 1 ∨ a = 2 ∨ a = 3 ∨ a = 4 ∨ a = 5 ∨ a = 6 ∨ a = 7 ∨ (a < 0 ∨ 7 < a) by omega) with csw | csw | csw | csw | csw | csw | csw | csw | csw
    · refine x_tableIn (tgt := 68) (i := 0) hF dX9_bakeryOf_20 (by omega) (by first | omega | (unfold inR; omega)) (by decide) rfl (by decide) ?_
      refine lv_aload_n hx hb dX9_bakeryOf_68 rfl (lk hl rfl) ?_
      refine lv_iload_n hx hb dX9_bakeryOf_69 rfl (lk hl rfl) ?_
      refine lv_iload_n hx hb dX9_bakeryOf_70 rfl (lk hl rfl) ?_
      refine x_kp hL (vx_runV (As := [_, _]) hF.2.2.2.2.2.2.2.2.2 ((mX9_ofBakery (w := w) (by rw [up2_oth _ _ _ (by decide)]; exact hw) (by omega) (by omega) hP.1) hF.1) (cwV 2 hF.2.2.2.2.2.2.2.2.1 (lw_V q2436 q2438 qs69 q138 q2439) rfl rfl rfl (by decide +kernel) ⟨(Nat.le_of_ble_eq_true rfl), (Nat.le_of_ble_eq_true rfl)⟩) (x_preV hF hM (MA_ob hP.1) rfl) rfl rfl hl.1 rfl (lv_room (Nat.le_of_ble_eq_true rfl)) dX9_bakeryOf_71 ⟨(Nat.le_of_ble_eq_true rfl), (Nat.le_of_ble_eq_true rfl)⟩) (fun H locs hM hL => ?_)
      exact x_ireturn hF hM hL rfl (Nat.le_of_ble_eq_true rfl) (Nat.le_of_ble_eq_true rfl) (by subst csw; (have ht : qBakeryOf w z 0 = (0, w (4 + 4 * z + 0)) := by unfold qBakeryOf; rw [if_neg (by omega), if_pos rfl]); rw [ht]; exact ⟨rfl, QE_0 hP⟩) dX9_bakeryOf_74
    · refine x_tableIn (tgt := 68) (i := 1) hF dX9_bakeryOf_20 (by omega) (by first | omega | (unfold inR; omega)) (by decide) rfl (by decide) ?_
      refine lv_aload_n hx hb dX9_bakeryOf_68 rfl (lk hl rfl) ?_
      refine lv_iload_n hx hb dX9_bakeryOf_69 rfl (lk hl rfl) ?_
      refine lv_iload_n hx hb dX9_bakeryOf_70 rfl (lk hl rfl) ?_
      refine x_kp hL (vx_runV (As := [_, _]) hF.2.2.2.2.2.2.2.2.2 ((mX9_ofBakery (w := w) (by rw [up2_oth _ _ _ (by decide)]; exact hw) (by omega) (by omega) hP.1) hF.1) (cwV 2 hF.2.2.2.2.2.2.2.2.1 (lw_V q2436 q2438 qs69 q138 q2439) rfl rfl rfl (by decide +kernel) ⟨(Nat.le_of_ble_eq_true rfl), (Nat.le_of_ble_eq_true rfl)⟩) (x_preV hF hM (MA_ob hP.1) rfl) rfl rfl hl.1 rfl (lv_room (Nat.le_of_ble_eq_true rfl)) dX9_bakeryOf_71 ⟨(Nat.le_of_ble_eq_true rfl), (Nat.le_of_ble_eq_true rfl)⟩) (fun H locs hM hL => ?_)
      exact x_ireturn hF hM hL rfl (Nat.le_of_ble_eq_true rfl) (Nat.le_of_ble_eq_true rfl) (by subst csw; (have ht : qBakeryOf w z 1 = (0, w (4 + 4 * z + 1)) := by unfold qBakeryOf; rw [if_neg (by omega), if_neg (by omega), if_pos rfl]); rw [ht]; exact ⟨rfl, QE_0 hP⟩) dX9_bakeryOf_74
    · refine x_tableIn (tgt := 75) (i := 2) hF dX9_bakeryOf_20 (by omega) (by first | omega | (unfold inR; omega)) (by decide) rfl (by decide) ?_
      refine lv_aload_n hx hb dX9_bakeryOf_75 rfl (lk hl rfl) ?_
      refine lv_iload_n hx hb dX9_bakeryOf_76 rfl (lk hl rfl) ?_
      refine x_kp hL (vx_runV (As := [_]) hF.2.2.2.2.2.2.2.2.2 ((mX9_roomOf (w := w) (by rw [up2_oth _ _ _ (by decide)]; exact hw) (by omega) (by omega) hk.1 (by have := hk.2.2.2.1 z (by omega) (by omega); omega) hP.1) hF.1) (cwV 1 hF.2.2.2.2.2.2.2.2.1 (lw_V q2440 q2442 qs70 q138 q2443) rfl rfl rfl (by decide +kernel) ⟨(Nat.le_of_ble_eq_true rfl), (Nat.le_of_ble_eq_true rfl)⟩) (x_preV hF hM (MA_ob hP.1) rfl) rfl rfl hl.1 rfl (lv_room (Nat.le_of_ble_eq_true rfl)) dX9_bakeryOf_77 ⟨(Nat.le_of_ble_eq_true rfl), (Nat.le_of_ble_eq_true rfl)⟩) (fun H locs hM hL => ?_)
      exact x_ireturn hF hM hL rfl (Nat.le_of_ble_eq_true rfl) (Nat.le_of_ble_eq_true rfl) (by (have ht : qBakeryOf w z a = (0, wRoom w z) := by first | (unfold qBakeryOf; rw [if_neg (by omega), if_neg (by omega), if_neg (by omega), if_pos (by omega)])); rw [ht]; exact ⟨rfl, QE_0 hP⟩) dX9_bakeryOf_80
    · refine x_tableIn (tgt := 81) (i := 3) hF dX9_bakeryOf_20 (by omega) (by first | omega | (unfold inR; omega)) (by decide) rfl (by decide) ?_
      refine lv_aload_n hx hb dX9_bakeryOf_81 rfl (lk hl rfl) ?_
      refine lv_iload_n hx hb dX9_bakeryOf_82 rfl (lk hl rfl) ?_
      refine x_kp hL (vx_runV (As := [_]) hF.2.2.2.2.2.2.2.2.2 ((mX9_isOpen (w := w) (by rw [up2_oth _ _ _ (by decide)]; exact hw) (by omega) (by omega) hk.1 hP.1) hF.1) (cwV 1 hF.2.2.2.2.2.2.2.2.1 (lw_V q2432 q2434 qs68 q138 q2435) rfl rfl rfl (by decide +kernel) ⟨(Nat.le_of_ble_eq_true rfl), (Nat.le_of_ble_eq_true rfl)⟩) (x_preV hF hM (MA_ob hP.1) rfl) rfl rfl hl.1 rfl (lv_room (Nat.le_of_ble_eq_true rfl)) dX9_bakeryOf_83 ⟨(Nat.le_of_ble_eq_true rfl), (Nat.le_of_ble_eq_true rfl)⟩) (fun H locs hM hL => ?_)
      refine x_ifeq_b (tgt := 93) hF dX9_bakeryOf_86 (by decide) (fun c86 => ?_) (fun c86 => ?_)
      · skip
        refine x_iconst hF dX9_bakeryOf_93 ?_
        exact x_ireturn hF hM hL rfl (Nat.le_of_ble_eq_true rfl) (Nat.le_of_ble_eq_true rfl) (by (have ht : qBakeryOf w z a = (0, 0) := by first | (unfold qBakeryOf; rw [if_neg (by omega), if_neg (by omega), if_neg (by omega), if_neg (by omega), if_pos (by omega), if_neg c86])); rw [ht]; exact ⟨rfl, QE_0 hP⟩) dX9_bakeryOf_94
      · skip
        refine x_iconst hF dX9_bakeryOf_89 ?_
        refine x_goto (tgt := 94) hF dX9_bakeryOf_90 (by decide) ?_
        exact x_ireturn hF hM hL rfl (Nat.le_of_ble_eq_true rfl) (Nat.le_of_ble_eq_true rfl) (by (have ht : qBakeryOf w z a = (0, 1) := by first | (unfold qBakeryOf; rw [if_neg (by omega), if_neg (by omega), if_neg (by omega), if_neg (by omega), if_pos (by omega), if_pos (by omega)])); rw [ht]; exact ⟨rfl, QE_0 hP⟩) dX9_bakeryOf_94
    · refine x_tableIn (tgt := 95) (i := 4) hF dX9_bakeryOf_20 (by omega) (by first | omega | (unfold inR; omega)) (by decide) rfl (by decide) ?_
      refine lv_aload_n hx hb dX9_bakeryOf_95 rfl (lk hl rfl) ?_
      refine lv_iload_n hx hb dX9_bakeryOf_96 rfl (lk hl rfl) ?_
      refine x_kp hL (vx_runV (As := [_]) hF.2.2.2.2.2.2.2.2.2 ((mX9_signsOf (w := w) (by rw [up2_oth _ _ _ (by decide)]; exact hw) hz hk.1 (by omega) (by omega) hP.1) hF.1) (cwV 1 hF.2.2.2.2.2.2.2.2.1 (lw_V q2400 q2402 qs60 q138 q2403) rfl rfl rfl (by decide +kernel) ⟨(Nat.le_of_ble_eq_true rfl), (Nat.le_of_ble_eq_true rfl)⟩) (x_preV hF hM (MA_ob hP.1) rfl) rfl rfl hl.1 rfl (lv_room (Nat.le_of_ble_eq_true rfl)) dX9_bakeryOf_97 ⟨(Nat.le_of_ble_eq_true rfl), (Nat.le_of_ble_eq_true rfl)⟩) (fun H locs hM hL => ?_)
      exact x_ireturn hF hM hL rfl (Nat.le_of_ble_eq_true rfl) (Nat.le_of_ble_eq_true rfl) (by (have ht : qBakeryOf w z a = (0, wSignsOf w z) := by first | (unfold qBakeryOf; rw [if_neg (by omega), if_neg (by omega), if_neg (by omega), if_neg (by omega), if_neg (by omega), if_pos (by omega)])); rw [ht]; exact ⟨rfl, QE_0 hP⟩) dX9_bakeryOf_100
    · refine x_tableIn (tgt := 101) (i := 5) hF dX9_bakeryOf_20 (by omega) (by first | omega | (unfold inR; omega)) (by decide) rfl (by decide) ?_
      refine lv_aload_n hx hb dX9_bakeryOf_101 rfl (lk hl rfl) ?_
      refine lv_iload_n hx hb dX9_bakeryOf_102 rfl (lk hl rfl) ?_
      refine x_kp hL (vx_runV (As := [_]) hF.2.2.2.2.2.2.2.2.2 ((mX9_customersOf (w := w) (by rw [up2_oth _ _ _ (by decide)]; exact hw) hk (by omega) (by omega) hP.1) hF.1) (cwV 1 hF.2.2.2.2.2.2.2.2.1 (lw_V q2532 q2534 qs86 q138 q2535) rfl rfl rfl (by decide +kernel) ⟨(Nat.le_of_ble_eq_true rfl), (Nat.le_of_ble_eq_true rfl)⟩) (x_preV hF hM (MA_ob hP.1) rfl) rfl rfl hl.1 rfl (lv_room (Nat.le_of_ble_eq_true rfl)) dX9_bakeryOf_103 ⟨(Nat.le_of_ble_eq_true rfl), (Nat.le_of_ble_eq_true rfl)⟩) (fun H locs hM hL => ?_)
      exact x_ireturn hF hM hL rfl (Nat.le_of_ble_eq_true rfl) (Nat.le_of_ble_eq_true rfl) (by (have ht : qBakeryOf w z a = (0, wCust w z) := by first | (unfold qBakeryOf; rw [if_neg (by omega), if_neg (by omega), if_neg (by omega), if_neg (by omega), if_neg (by omega), if_neg (by omega), if_pos (by omega)])); rw [ht]; exact ⟨rfl, QE_0 hP⟩) dX9_bakeryOf_106
    · refine x_tableIn (tgt := 107) (i := 6) hF dX9_bakeryOf_20 (by omega) (by first | omega | (unfold inR; omega)) (by decide) rfl (by decide) ?_
      refine lv_aload_n hx hb dX9_bakeryOf_107 rfl (lk hl rfl) ?_
      refine lv_iload_n hx hb dX9_bakeryOf_108 rfl (lk hl rfl) ?_
      refine x_kp hL (vx_runV (As := [_]) hF.2.2.2.2.2.2.2.2.2 ((mX9_loadOf (w := w) (by rw [up2_oth _ _ _ (by decide)]; exact hw) (by omega) (by omega) hk.1 (by omega) (by omega) hP.1) hF.1) (cwV 1 hF.2.2.2.2.2.2.2.2.1 (lw_V q2536 q2538 qs87 q138 q2539) rfl rfl rfl (by decide +kernel) ⟨(Nat.le_of_ble_eq_true rfl), (Nat.le_of_ble_eq_true rfl)⟩) (x_preV hF hM (MA_ob hP.1) rfl) rfl rfl hl.1 rfl (lv_room (Nat.le_of_ble_eq_true rfl)) dX9_bakeryOf_109 ⟨(Nat.le_of_ble_eq_true rfl), (Nat.le_of_ble_eq_true rfl)⟩) (fun H locs hM hL => ?_)
      exact x_ireturn hF hM hL rfl (Nat.le_of_ble_eq_true rfl) (Nat.le_of_ble_eq_true rfl) (by (have ht : qBakeryOf w z a = (0, wLoadOf w z) := by first | (unfold qBakeryOf; rw [if_neg (by omega), if_neg (by omega), if_neg (by omega), if_neg (by omega), if_neg (by omega), if_neg (by omega), if_neg (by omega), if_pos (by omega)])); rw [ht]; exact ⟨rfl, QE_0 hP⟩) dX9_bakeryOf_112
    · refine x_tableIn (tgt := 113) (i := 7) hF dX9_bakeryOf_20 (by omega) (by first | omega | (unfold inR; omega)) (by decide) rfl (by decide) ?_
      refine lv_aload_n hx hb dX9_bakeryOf_113 rfl (lk hl rfl) ?_
      refine lv_iload_n hx hb dX9_bakeryOf_114 rfl (lk hl rfl) ?_
      refine x_kp hL (vx_runV (As := [_]) hF.2.2.2.2.2.2.2.2.2 ((mX9_isOverloaded (w := w) (by rw [up2_oth _ _ _ (by decide)]; exact hw) hk (by omega) (by omega) hP.1) hF.1) (cwV 1 hF.2.2.2.2.2.2.2.2.1 (lw_V q2540 q2542 qs88 q138 q2543) rfl rfl rfl (by decide +kernel) ⟨(Nat.le_of_ble_eq_true rfl), (Nat.le_of_ble_eq_true rfl)⟩) (x_preV hF hM (MA_ob hP.1) rfl) rfl rfl hl.1 rfl (lv_room (Nat.le_of_ble_eq_true rfl)) dX9_bakeryOf_115 ⟨(Nat.le_of_ble_eq_true rfl), (Nat.le_of_ble_eq_true rfl)⟩) (fun H locs hM hL => ?_)
      refine x_ifeq_b (tgt := 125) hF dX9_bakeryOf_118 (by decide) (fun c118 => ?_) (fun c118 => ?_)
      · skip
        refine x_iconst hF dX9_bakeryOf_125 ?_
        exact x_ireturn hF hM hL rfl (Nat.le_of_ble_eq_true rfl) (Nat.le_of_ble_eq_true rfl) (by (have ht : qBakeryOf w z a = (0, 0) := by first | (unfold qBakeryOf; rw [if_neg (by omega), if_neg (by omega), if_neg (by omega), if_neg (by omega), if_neg (by omega), if_neg (by omega), if_neg (by omega), if_neg (by omega), if_pos (by omega), if_neg (by omega)])); rw [ht]; exact ⟨rfl, QE_0 hP⟩) dX9_bakeryOf_126
      · skip
        refine x_iconst hF dX9_bakeryOf_121 ?_
        refine x_goto (tgt := 126) hF dX9_bakeryOf_122 (by decide) ?_
        exact x_ireturn hF hM hL rfl (Nat.le_of_ble_eq_true rfl) (Nat.le_of_ble_eq_true rfl) (by (have ht : qBakeryOf w z a = (0, 1) := by first | (unfold qBakeryOf; rw [if_neg (by omega), if_neg (by omega), if_neg (by omega), if_neg (by omega), if_neg (by omega), if_neg (by omega), if_neg (by omega), if_neg (by omega), if_pos (by omega), if_pos (by omega)])); rw [ht]; exact ⟨rfl, QE_0 hP⟩) dX9_bakeryOf_126
    · refine x_tableOut (tgt := 127) hF dX9_bakeryOf_20 ha csw (by decide) ?_
      refine lv_aload_n hx hb dX9_bakeryOf_127 rfl (lk hl rfl) ?_
      refine x_iconst hF dX9_bakeryOf_128 ?_
      refine x_kn hL (vx_runV (As := [_]) hF.2.2.2.2.2.2.2.2.2 ((mX9_fails hP.1) hF.1) (cwV 1 hF.2.2.2.2.2.2.2.2.1 (lw_V q2337 q2339 qs46 q138 q2340) rfl rfl rfl (by decide +kernel) ⟨(Nat.le_of_ble_eq_true rfl), (Nat.le_of_ble_eq_true rfl)⟩) (x_preV hF hM (MA_ob hP.1) rfl) rfl rfl hl.1 rfl (lv_room (Nat.le_of_ble_eq_true rfl)) dX9_bakeryOf_129 ⟨(Nat.le_of_ble_eq_true rfl), (Nat.le_of_ble_eq_true rfl)⟩) ?_
      rintro _ τ129 H locs ⟨rfl, hp⟩ hM hL
      refine MS_gen hM (MS_t hP hp) (fun σ hM hP => ?_)
      exact x_ireturn hF hM hL rfl (Nat.le_of_ble_eq_true rfl) (Nat.le_of_ble_eq_true rfl) (by (have ht : qBakeryOf w z a = (2, 0) := by first | (unfold qBakeryOf; rw [if_neg (by omega), if_neg (by omega), if_neg (by omega), if_neg (by omega), if_neg (by omega), if_neg (by omega), if_neg (by omega), if_neg (by omega), if_neg (by omega)])); rw [ht]; exact ⟨rfl, QE_1 hP⟩) dX9_bakeryOf_132
  · skip
    refine lv_aload_n hx hb dX9_bakeryOf_13 rfl (lk hl rfl) ?_
    refine x_iconst hF dX9_bakeryOf_14 ?_
    refine x_kn hL (vx_runV (As := [_]) hF.2.2.2.2.2.2.2.2.2 ((mX9_fails hP.1) hF.1) (cwV 1 hF.2.2.2.2.2.2.2.2.1 (lw_V q2337 q2339 qs46 q138 q2340) rfl rfl rfl (by decide +kernel) ⟨(Nat.le_of_ble_eq_true rfl), (Nat.le_of_ble_eq_true rfl)⟩) (x_preV hF hM (MA_ob hP.1) rfl) rfl rfl hl.1 rfl (lv_room (Nat.le_of_ble_eq_true rfl)) dX9_bakeryOf_15 ⟨(Nat.le_of_ble_eq_true rfl), (Nat.le_of_ble_eq_true rfl)⟩) ?_
    rintro _ τ15 H locs ⟨rfl, hp⟩ hM hL
    refine MS_gen hM (MS_t hP hp) (fun σ hM hP => ?_)
    exact x_ireturn hF hM hL rfl (Nat.le_of_ble_eq_true rfl) (Nat.le_of_ble_eq_true rfl) (by (have ht : qBakeryOf w z a = (1, 0) := by first | (unfold qBakeryOf; rw [if_pos (by omega)])); rw [ht]; exact ⟨rfl, QE_1 hP⟩) dX9_bakeryOf_18
set_option maxHeartbeats 4000000 in
set_option maxRecDepth 100000 in
/-- BakeryRingModel.signAt(I)I -/
theorem mX9_signAt {l : Launch} {E : En} {σ0 : Mm} {o : Nat} {F : Nat → Int → Int} {w : Int → Int} (hw : F 5 = w) (hk : Wk w) {z : Int} (hz : inR z) (hP : MA E σ0 o F) : Ctr l E yX9_signAt (ws_ yX9_signAt cX9_signAt 2 (some .int)) 1 22 0 0 [.ref o, .int (iz z)] σ0 (fun v τ => v = some (.int (iz (qSignAt w z).2)) ∧ QE E σ0 o τ F (qSignAt w z).1) noX := by
  refine x_head (own := RX9) (cc := cX9_signAt) (maxL := 2) (ret := (some .int)) (by decide) rfl rfl (Nat.le_of_ble_eq_true rfl) ?_
  intro p e s m args below meth c H ls hF hname htab hM hl
  have hx := hF.2.2.1
  have hb := hF.2.2.2.1
  have hL : Lc E [] := lcNil
  have hl : lh ls 2 ([(0, .ref o), (1, .int (iz z))]) := hl
  refine MS_gen hM (MS_0 hP) (fun σ hM hP => ?_)
  have hk2 := hk.2.1
  refine lv_aload_n hx hb dX9_signAt_0 rfl (lk hl rfl) ?_
  refine x_iconst hF dX9_signAt_1 ?_
  refine x_putfield hF (ci := 10) in_X9 rfl tyX9_ok nmX9 0 (by decide) q2251 (fun _ h => h) rfl hM hL (MA_ob hP.1) (ty := .int) (by decide +kernel) rfl rfl dX9_signAt_2 (fun H locs hM hL => ?_)
  refine MS_gen hM (MS_p0 hM hP) (fun σ hM hP => ?_)
  refine lv_iload_n hx hb dX9_signAt_5 rfl (lk hl rfl) ?_
  refine x_iconst hF dX9_signAt_6 ?_
  refine lv_aload_n hx hb dX9_signAt_7 rfl (lk hl rfl) ?_
  refine x_getfield hF (ci := 10) in_X9 rfl 5 (by decide) q2256 (fun _ h => h) hM (MA_ob hP.1) (MA_f5 hP.1) dX9_signAt_8 ?_
  refine x_bipush hF (by decide) dX9_signAt_11 ?_
  refine x_iald hF hM (MA_a5 hP.1) (by omega) (by omega) (by decide) (show rd _ _ _ = .int (iz (w _)) from by have h9 := MA_r5 hP.1; rw [up2_oth _ _ _ (by decide), hw] at h9; exact h9 _ (by omega) (by omega)) dX9_signAt_13 ?_
  refine x_iconst hF dX9_signAt_14 ?_
  refine x_isub hF dX9_signAt_15 ?_
  refine x_kp hL (vx_runS (As := [_, _, _]) hF.2.2.2.2.2.2.2.2.2 ((mX9_isBetween hz ⟨by omega, by omega⟩ (by unfold inR; omega)) hF.1) (va_cwS 3 hF.2.2.2.2.2.2.2.2.1 (lw_S q2334 q2335 q138 q2336) rfl rfl rfl (by decide +kernel) ⟨(Nat.le_of_ble_eq_true rfl), (Nat.le_of_ble_eq_true rfl)⟩) (x_preS hF hM) rfl rfl hl.1 rfl (lv_room (Nat.le_of_ble_eq_true rfl)) dX9_signAt_16 ⟨(Nat.le_of_ble_eq_true rfl), (Nat.le_of_ble_eq_true rfl)⟩) (fun H locs hM hL => ?_)
  refine x_ifeq_b (tgt := 30) hF dX9_signAt_19 (by decide) (fun c19 => ?_) (fun c19 => ?_)
  · skip
    refine lv_aload_n hx hb dX9_signAt_30 rfl (lk hl rfl) ?_
    refine x_iconst hF dX9_signAt_31 ?_
    refine x_kn hL (vx_runV (As := [_]) hF.2.2.2.2.2.2.2.2.2 ((mX9_fails hP.1) hF.1) (cwV 1 hF.2.2.2.2.2.2.2.2.1 (lw_V q2337 q2339 qs46 q138 q2340) rfl rfl rfl (by decide +kernel) ⟨(Nat.le_of_ble_eq_true rfl), (Nat.le_of_ble_eq_true rfl)⟩) (x_preV hF hM (MA_ob hP.1) rfl) rfl rfl hl.1 rfl (lv_room (Nat.le_of_ble_eq_true rfl)) dX9_signAt_32 ⟨(Nat.le_of_ble_eq_true rfl), (Nat.le_of_ble_eq_true rfl)⟩) ?_
    rintro _ τ32 H locs ⟨rfl, hp⟩ hM hL
    refine MS_gen hM (MS_t hP hp) (fun σ hM hP => ?_)
    exact x_ireturn hF hM hL rfl (Nat.le_of_ble_eq_true rfl) (Nat.le_of_ble_eq_true rfl) (by (have ht : qSignAt w z = (1, 0) := by first | (unfold qSignAt; rw [if_neg (by omega)])); rw [ht]; exact ⟨rfl, QE_1 hP⟩) dX9_signAt_35
  · skip
    refine lv_aload_n hx hb dX9_signAt_22 rfl (lk hl rfl) ?_
    refine lv_iload_n hx hb dX9_signAt_23 rfl (lk hl rfl) ?_
    refine x_kp hL (vx_runV (As := [_]) hF.2.2.2.2.2.2.2.2.2 ((mX9_angleAt (w := w) (by rw [up2_oth _ _ _ (by decide)]; exact hw) (by omega) (by omega) hP.1) hF.1) (cwV 1 hF.2.2.2.2.2.2.2.2.1 (lw_V q2392 q2394 qs58 q138 q2395) rfl rfl rfl (by decide +kernel) ⟨(Nat.le_of_ble_eq_true rfl), (Nat.le_of_ble_eq_true rfl)⟩) (x_preV hF hM (MA_ob hP.1) rfl) rfl rfl hl.1 rfl (lv_room (Nat.le_of_ble_eq_true rfl)) dX9_signAt_24 ⟨(Nat.le_of_ble_eq_true rfl), (Nat.le_of_ble_eq_true rfl)⟩) (fun H locs hM hL => ?_)
    refine x_goto (tgt := 35) hF dX9_signAt_27 (by decide) ?_
    exact x_ireturn hF hM hL rfl (Nat.le_of_ble_eq_true rfl) (Nat.le_of_ble_eq_true rfl) (by (have ht : qSignAt w z = (0, w (29 + 2 * z)) := by first | (unfold qSignAt; rw [if_pos (by omega)])); rw [ht]; exact ⟨rfl, QE_0 hP⟩) dX9_signAt_35
set_option maxHeartbeats 4000000 in
set_option maxRecDepth 100000 in
/-- BakeryRingModel.signOf(I)I -/
theorem mX9_signOf {l : Launch} {E : En} {σ0 : Mm} {o : Nat} {F : Nat → Int → Int} {w : Int → Int} (hw : F 5 = w) (hk : Wk w) {z : Int} (hz : inR z) (hP : MA E σ0 o F) : Ctr l E yX9_signOf (ws_ yX9_signOf cX9_signOf 2 (some .int)) 2 43 0 0 [.ref o, .int (iz z)] σ0 (fun v τ => v = some (.int (iz (qSignOf w z).2)) ∧ QE E σ0 o τ F (qSignOf w z).1) noX := by
  refine x_head (own := RX9) (cc := cX9_signOf) (maxL := 2) (ret := (some .int)) (by decide) rfl rfl (Nat.le_of_ble_eq_true rfl) ?_
  intro p e s m args below meth c H ls hF hname htab hM hl
  have hx := hF.2.2.1
  have hb := hF.2.2.2.1
  have hL : Lc E [] := lcNil
  have hl : lh ls 2 ([(0, .ref o), (1, .int (iz z))]) := hl
  refine MS_gen hM (MS_0 hP) (fun σ hM hP => ?_)
  have hk2 := hk.2.1
  refine lv_aload_n hx hb dX9_signOf_0 rfl (lk hl rfl) ?_
  refine x_iconst hF dX9_signOf_1 ?_
  refine x_putfield hF (ci := 10) in_X9 rfl tyX9_ok nmX9 0 (by decide) q2251 (fun _ h => h) rfl hM hL (MA_ob hP.1) (ty := .int) (by decide +kernel) rfl rfl dX9_signOf_2 (fun H locs hM hL => ?_)
  refine MS_gen hM (MS_p0 hM hP) (fun σ hM hP => ?_)
  refine lv_iload_n hx hb dX9_signOf_5 rfl (lk hl rfl) ?_
  refine x_kp hL (vx_runS (As := [_]) hF.2.2.2.2.2.2.2.2.2 ((mX9_isAngle hz) hF.1) (va_cwS 1 hF.2.2.2.2.2.2.2.2.1 (lw_S q2381 q2382 q138 q2383) rfl rfl rfl (by decide +kernel) ⟨(Nat.le_of_ble_eq_true rfl), (Nat.le_of_ble_eq_true rfl)⟩) (x_preS hF hM) rfl rfl hl.1 rfl (lv_room (Nat.le_of_ble_eq_true rfl)) dX9_signOf_6 ⟨(Nat.le_of_ble_eq_true rfl), (Nat.le_of_ble_eq_true rfl)⟩) (fun H locs hM hL => ?_)
  refine x_ifne_b (tgt := 18) hF dX9_signOf_9 (by decide) (fun c9 => ?_) (fun c9 => ?_)
  · skip
    refine lv_aload_n hx hb dX9_signOf_18 rfl (lk hl rfl) ?_
    refine lv_iload_n hx hb dX9_signOf_19 rfl (lk hl rfl) ?_
    have hso := wSignOn_r w (by omega) z
    refine x_kp hL (vx_runV (As := [_]) hF.2.2.2.2.2.2.2.2.2 ((mX9_signOn (w := w) (by rw [up2_oth _ _ _ (by decide)]; exact hw) hz hk.1 (by omega) (by omega) hP.1) hF.1) (cwV 1 hF.2.2.2.2.2.2.2.2.1 (lw_V q2388 q2390 qs57 q138 q2391) rfl rfl rfl (by decide +kernel) ⟨(Nat.le_of_ble_eq_true rfl), (Nat.le_of_ble_eq_true rfl)⟩) (x_preV hF hM (MA_ob hP.1) rfl) rfl rfl hl.1 rfl (lv_room (Nat.le_of_ble_eq_true rfl)) dX9_signOf_20 ⟨(Nat.le_of_ble_eq_true rfl), (Nat.le_of_ble_eq_true rfl)⟩) (fun H locs hM hL => ?_)
    refine x_if_ge (tgt := 34) hF dX9_signOf_23 (by decide) (by first | exact Rg_in hk.1 _ | assumption | (unfold inR; omega)) (fun c23 => ?_) (fun c23 => ?_)
    · skip
      refine lv_aload_n hx hb dX9_signOf_34 rfl (lk hl rfl) ?_
      refine lv_aload_n hx hb dX9_signOf_35 rfl (lk hl rfl) ?_
      refine lv_iload_n hx hb dX9_signOf_36 rfl (lk hl rfl) ?_
      refine x_kp hL (vx_runV (As := [_]) hF.2.2.2.2.2.2.2.2.2 ((mX9_signOn (w := w) (by rw [up2_oth _ _ _ (by decide)]; exact hw) hz hk.1 (by omega) (by omega) hP.1) hF.1) (cwV 1 hF.2.2.2.2.2.2.2.2.1 (lw_V q2388 q2390 qs57 q138 q2391) rfl rfl rfl (by decide +kernel) ⟨(Nat.le_of_ble_eq_true rfl), (Nat.le_of_ble_eq_true rfl)⟩) (x_preV hF hM (MA_ob hP.1) rfl) rfl rfl hl.1 rfl (lv_room (Nat.le_of_ble_eq_true rfl)) dX9_signOf_37 ⟨(Nat.le_of_ble_eq_true rfl), (Nat.le_of_ble_eq_true rfl)⟩) (fun H locs hM hL => ?_)
      refine x_kp hL (vx_runV (As := [_]) hF.2.2.2.2.2.2.2.2.2 ((mX9_ownerAt (w := w) (by rw [up2_oth _ _ _ (by decide)]; exact hw) (by omega) (by omega) hP.1) hF.1) (cwV 1 hF.2.2.2.2.2.2.2.2.1 (lw_V q2396 q2398 qs59 q138 q2399) rfl rfl rfl (by decide +kernel) ⟨(Nat.le_of_ble_eq_true rfl), (Nat.le_of_ble_eq_true rfl)⟩) (x_preV hF hM (MA_ob hP.1) rfl) rfl rfl hl.1 rfl (lv_room (Nat.le_of_ble_eq_true rfl)) dX9_signOf_40 ⟨(Nat.le_of_ble_eq_true rfl), (Nat.le_of_ble_eq_true rfl)⟩) (fun H locs hM hL => ?_)
      exact x_ireturn hF hM hL rfl (Nat.le_of_ble_eq_true rfl) (Nat.le_of_ble_eq_true rfl) (by (have ht : qSignOf w z = (0, w (29 + 2 * wSignOn w z + 1)) := by first | (unfold qSignOf; rw [if_neg (by omega), if_neg (by omega)])); rw [ht]; exact ⟨rfl, QE_0 hP⟩) dX9_signOf_43
    · skip
      refine lv_aload_n hx hb dX9_signOf_26 rfl (lk hl rfl) ?_
      refine x_iconst hF dX9_signOf_27 ?_
      refine x_kn hL (vx_runV (As := [_]) hF.2.2.2.2.2.2.2.2.2 ((mX9_fails hP.1) hF.1) (cwV 1 hF.2.2.2.2.2.2.2.2.1 (lw_V q2337 q2339 qs46 q138 q2340) rfl rfl rfl (by decide +kernel) ⟨(Nat.le_of_ble_eq_true rfl), (Nat.le_of_ble_eq_true rfl)⟩) (x_preV hF hM (MA_ob hP.1) rfl) rfl rfl hl.1 rfl (lv_room (Nat.le_of_ble_eq_true rfl)) dX9_signOf_28 ⟨(Nat.le_of_ble_eq_true rfl), (Nat.le_of_ble_eq_true rfl)⟩) ?_
      rintro _ τ28 H locs ⟨rfl, hp⟩ hM hL
      refine MS_gen hM (MS_t hP hp) (fun σ hM hP => ?_)
      refine x_goto (tgt := 43) hF dX9_signOf_31 (by decide) ?_
      exact x_ireturn hF hM hL rfl (Nat.le_of_ble_eq_true rfl) (Nat.le_of_ble_eq_true rfl) (by (have ht : qSignOf w z = (2, 0) := by first | (unfold qSignOf; rw [if_neg (by omega), if_pos (by omega)])); rw [ht]; exact ⟨rfl, QE_1 hP⟩) dX9_signOf_43
  · skip
    refine lv_aload_n hx hb dX9_signOf_12 rfl (lk hl rfl) ?_
    refine x_iconst hF dX9_signOf_13 ?_
    refine x_kn hL (vx_runV (As := [_]) hF.2.2.2.2.2.2.2.2.2 ((mX9_fails hP.1) hF.1) (cwV 1 hF.2.2.2.2.2.2.2.2.1 (lw_V q2337 q2339 qs46 q138 q2340) rfl rfl rfl (by decide +kernel) ⟨(Nat.le_of_ble_eq_true rfl), (Nat.le_of_ble_eq_true rfl)⟩) (x_preV hF hM (MA_ob hP.1) rfl) rfl rfl hl.1 rfl (lv_room (Nat.le_of_ble_eq_true rfl)) dX9_signOf_14 ⟨(Nat.le_of_ble_eq_true rfl), (Nat.le_of_ble_eq_true rfl)⟩) ?_
    rintro _ τ14 H locs ⟨rfl, hp⟩ hM hL
    refine MS_gen hM (MS_t hP hp) (fun σ hM hP => ?_)
    exact x_ireturn hF hM hL rfl (Nat.le_of_ble_eq_true rfl) (Nat.le_of_ble_eq_true rfl) (by (have ht : qSignOf w z = (1, 0) := by first | (unfold qSignOf; rw [if_pos (by omega)])); rw [ht]; exact ⟨rfl, QE_1 hP⟩) dX9_signOf_17
set_option maxHeartbeats 4000000 in
set_option maxRecDepth 100000 in
/-- BakeryRingModel.customerOf(II)I -/
theorem mX9_customerOf {l : Launch} {E : En} {σ0 : Mm} {o : Nat} {F : Nat → Int → Int} {w : Int → Int} (hw : F 5 = w) (hk : Wk w) {z a : Int} (hz : inR z) (ha : inR a) (hP : MA E σ0 o F) : Ctr l E yX9_customerOf (ws_ yX9_customerOf cX9_customerOf 3 (some .int)) 2 43 0 0 [.ref o, .int (iz z), .int (iz a)] σ0 (fun v τ => v = some (.int (iz (qCustomerOf w z a).2)) ∧ QE E σ0 o τ F (qCustomerOf w z a).1) noX := by
  refine x_head (own := RX9) (cc := cX9_customerOf) (maxL := 3) (ret := (some .int)) (by decide) rfl rfl (Nat.le_of_ble_eq_true rfl) ?_
  intro p e s m args below meth c H ls hF hname htab hM hl
  have hx := hF.2.2.1
  have hb := hF.2.2.2.1
  have hL : Lc E [] := lcNil
  have hl : lh ls 3 ([(0, .ref o), (1, .int (iz z)), (2, .int (iz a))]) := hl
  refine MS_gen hM (MS_0 hP) (fun σ hM hP => ?_)
  have hk2 := hk.2.1
  refine lv_aload_n hx hb dX9_customerOf_0 rfl (lk hl rfl) ?_
  refine x_iconst hF dX9_customerOf_1 ?_
  refine x_putfield hF (ci := 10) in_X9 rfl tyX9_ok nmX9 0 (by decide) q2251 (fun _ h => h) rfl hM hL (MA_ob hP.1) (ty := .int) (by decide +kernel) rfl rfl dX9_customerOf_2 (fun H locs hM hL => ?_)
  refine MS_gen hM (MS_p0 hM hP) (fun σ hM hP => ?_)
  refine lv_aload_n hx hb dX9_customerOf_5 rfl (lk hl rfl) ?_
  refine lv_iload_n hx hb dX9_customerOf_6 rfl (lk hl rfl) ?_
  refine x_kp hL (vx_runV (As := [_]) hF.2.2.2.2.2.2.2.2.2 ((mX9_isCustomer (w := w) (by rw [up2_oth _ _ _ (by decide)]; exact hw) hz hk.1 hP.1) hF.1) (cwV 1 hF.2.2.2.2.2.2.2.2.1 (lw_V q2520 q2522 qs84 q138 q2523) rfl rfl rfl (by decide +kernel) ⟨(Nat.le_of_ble_eq_true rfl), (Nat.le_of_ble_eq_true rfl)⟩) (x_preV hF hM (MA_ob hP.1) rfl) rfl rfl hl.1 rfl (lv_room (Nat.le_of_ble_eq_true rfl)) dX9_customerOf_7 ⟨(Nat.le_of_ble_eq_true rfl), (Nat.le_of_ble_eq_true rfl)⟩) (fun H locs hM hL => ?_)
  refine x_ifne_b (tgt := 19) hF dX9_customerOf_10 (by decide) (fun c10 => ?_) (fun c10 => ?_)
  · skip
    refine lv_iload_n hx hb dX9_customerOf_19 rfl (lk hl rfl) ?_
    refine x_iconst hF dX9_customerOf_20 ?_
    refine x_iconst hF dX9_customerOf_21 ?_
    refine x_kp hL (vx_runS (As := [_, _, _]) hF.2.2.2.2.2.2.2.2.2 ((mX9_isBetween ha ⟨by omega, by omega⟩ ⟨by omega, by omega⟩) hF.1) (va_cwS 3 hF.2.2.2.2.2.2.2.2.1 (lw_S q2334 q2335 q138 q2336) rfl rfl rfl (by decide +kernel) ⟨(Nat.le_of_ble_eq_true rfl), (Nat.le_of_ble_eq_true rfl)⟩) (x_preS hF hM) rfl rfl hl.1 rfl (lv_room (Nat.le_of_ble_eq_true rfl)) dX9_customerOf_22 ⟨(Nat.le_of_ble_eq_true rfl), (Nat.le_of_ble_eq_true rfl)⟩) (fun H locs hM hL => ?_)
    refine x_ifne_b (tgt := 34) hF dX9_customerOf_25 (by decide) (fun c25 => ?_) (fun c25 => ?_)
    · skip
      refine lv_aload_n hx hb dX9_customerOf_34 rfl (lk hl rfl) ?_
      refine lv_iload_n hx hb dX9_customerOf_35 rfl (lk hl rfl) ?_
      refine lv_iload_n hx hb dX9_customerOf_36 rfl (lk hl rfl) ?_
      refine x_kp hL (vx_runV (As := [_, _]) hF.2.2.2.2.2.2.2.2.2 ((mX9_of (w := w) (by rw [up2_oth _ _ _ (by decide)]; exact hw) (by omega) (by omega) hP.1) hF.1) (cwV 2 hF.2.2.2.2.2.2.2.2.1 (lw_V q2420 q2422 qs65 q138 q2423) rfl rfl rfl (by decide +kernel) ⟨(Nat.le_of_ble_eq_true rfl), (Nat.le_of_ble_eq_true rfl)⟩) (x_preV hF hM (MA_ob hP.1) rfl) rfl rfl hl.1 rfl (lv_room (Nat.le_of_ble_eq_true rfl)) dX9_customerOf_37 ⟨(Nat.le_of_ble_eq_true rfl), (Nat.le_of_ble_eq_true rfl)⟩) (fun H locs hM hL => ?_)
      refine lv_iload_n hx hb dX9_customerOf_40 rfl (lk hl rfl) ?_
      refine x_iconst hF dX9_customerOf_41 ?_
      refine x_icmp_eq (tgt := 50) hF dX9_customerOf_42 (by decide) (by first | exact Rg_in hk.1 _ | assumption | (unfold inR; omega)) (by first | exact Rg_in hk.1 _ | assumption | (unfold inR; omega)) (fun c42 => ?_) (fun c42 => ?_)
      · skip
        refine x_iconst hF dX9_customerOf_50 ?_
        refine x_goto (tgt := 55) hF dX9_customerOf_51 (by decide) ?_
        refine x_isub hF dX9_customerOf_55 ?_
        exact x_ireturn hF hM hL rfl (Nat.le_of_ble_eq_true rfl) (Nat.le_of_ble_eq_true rfl) (by (have ht : qCustomerOf w z a = (0, w (79 + 6 * z + a) - 1) := by first | (unfold qCustomerOf; rw [if_neg (by omega), if_neg (by omega), if_pos (by omega)])); rw [ht]; exact ⟨rfl, QE_0 hP⟩) dX9_customerOf_56
      · skip
        refine lv_iload_n hx hb dX9_customerOf_45 rfl (lk hl rfl) ?_
        refine x_iconst hF dX9_customerOf_46 ?_
        refine x_icmp_ne (tgt := 54) hF dX9_customerOf_47 (by decide) (by first | exact Rg_in hk.1 _ | assumption | (unfold inR; omega)) (by first | exact Rg_in hk.1 _ | assumption | (unfold inR; omega)) (fun c47 => ?_) (fun c47 => ?_)
        · skip
          refine x_iconst hF dX9_customerOf_54 ?_
          refine x_isub hF dX9_customerOf_55 ?_
          exact x_ireturn hF hM hL rfl (Nat.le_of_ble_eq_true rfl) (Nat.le_of_ble_eq_true rfl) (by (have ht : qCustomerOf w z a = (0, w (79 + 6 * z + a)) := by first | (unfold qCustomerOf; rw [if_neg (by omega), if_neg (by omega), if_neg (by omega)])); rw [ht]; exact ⟨by rw [Int.sub_zero], QE_0 hP⟩) dX9_customerOf_56
        · skip
          refine x_iconst hF dX9_customerOf_50 ?_
          refine x_goto (tgt := 55) hF dX9_customerOf_51 (by decide) ?_
          refine x_isub hF dX9_customerOf_55 ?_
          exact x_ireturn hF hM hL rfl (Nat.le_of_ble_eq_true rfl) (Nat.le_of_ble_eq_true rfl) (by (have ht : qCustomerOf w z a = (0, w (79 + 6 * z + a) - 1) := by first | (unfold qCustomerOf; rw [if_neg (by omega), if_neg (by omega), if_pos (by omega)])); rw [ht]; exact ⟨rfl, QE_0 hP⟩) dX9_customerOf_56
    · skip
      refine lv_aload_n hx hb dX9_customerOf_28 rfl (lk hl rfl) ?_
      refine x_iconst hF dX9_customerOf_29 ?_
      refine x_kn hL (vx_runV (As := [_]) hF.2.2.2.2.2.2.2.2.2 ((mX9_fails hP.1) hF.1) (cwV 1 hF.2.2.2.2.2.2.2.2.1 (lw_V q2337 q2339 qs46 q138 q2340) rfl rfl rfl (by decide +kernel) ⟨(Nat.le_of_ble_eq_true rfl), (Nat.le_of_ble_eq_true rfl)⟩) (x_preV hF hM (MA_ob hP.1) rfl) rfl rfl hl.1 rfl (lv_room (Nat.le_of_ble_eq_true rfl)) dX9_customerOf_30 ⟨(Nat.le_of_ble_eq_true rfl), (Nat.le_of_ble_eq_true rfl)⟩) ?_
      rintro _ τ30 H locs ⟨rfl, hp⟩ hM hL
      refine MS_gen hM (MS_t hP hp) (fun σ hM hP => ?_)
      exact x_ireturn hF hM hL rfl (Nat.le_of_ble_eq_true rfl) (Nat.le_of_ble_eq_true rfl) (by (have ht : qCustomerOf w z a = (2, 0) := by first | (unfold qCustomerOf; rw [if_neg (by omega), if_pos (by omega)])); rw [ht]; exact ⟨rfl, QE_1 hP⟩) dX9_customerOf_33
  · skip
    refine lv_aload_n hx hb dX9_customerOf_13 rfl (lk hl rfl) ?_
    refine x_iconst hF dX9_customerOf_14 ?_
    refine x_kn hL (vx_runV (As := [_]) hF.2.2.2.2.2.2.2.2.2 ((mX9_fails hP.1) hF.1) (cwV 1 hF.2.2.2.2.2.2.2.2.1 (lw_V q2337 q2339 qs46 q138 q2340) rfl rfl rfl (by decide +kernel) ⟨(Nat.le_of_ble_eq_true rfl), (Nat.le_of_ble_eq_true rfl)⟩) (x_preV hF hM (MA_ob hP.1) rfl) rfl rfl hl.1 rfl (lv_room (Nat.le_of_ble_eq_true rfl)) dX9_customerOf_15 ⟨(Nat.le_of_ble_eq_true rfl), (Nat.le_of_ble_eq_true rfl)⟩) ?_
    rintro _ τ15 H locs ⟨rfl, hp⟩ hM hL
    refine MS_gen hM (MS_t hP hp) (fun σ hM hP => ?_)
    exact x_ireturn hF hM hL rfl (Nat.le_of_ble_eq_true rfl) (Nat.le_of_ble_eq_true rfl) (by (have ht : qCustomerOf w z a = (1, 0) := by first | (unfold qCustomerOf; rw [if_pos (by omega)])); rw [ht]; exact ⟨rfl, QE_1 hP⟩) dX9_customerOf_18
set_option maxHeartbeats 4000000 in
set_option maxRecDepth 100000 in
/-- BakeryRingModel.way(II)I -/
theorem mX9_way {l : Launch} {E : En} {σ0 : Mm} {o : Nat} {F : Nat → Int → Int} {w : Int → Int} (hw : F 5 = w) (hk : Wk w) {z a : Int} (hz : inR z) (ha : inR a) (hP : MA E σ0 o F) : Ctr l E yX9_way (ws_ yX9_way cX9_way 3 (some .int)) 2 42 0 0 [.ref o, .int (iz z), .int (iz a)] σ0 (fun v τ => v = some (.int (iz (qWay z a).2)) ∧ QE E σ0 o τ F (qWay z a).1) noX := by
  refine x_head (own := RX9) (cc := cX9_way) (maxL := 3) (ret := (some .int)) (by decide) rfl rfl (Nat.le_of_ble_eq_true rfl) ?_
  intro p e s m args below meth c H ls hF hname htab hM hl
  have hx := hF.2.2.1
  have hb := hF.2.2.2.1
  have hL : Lc E [] := lcNil
  have hl : lh ls 3 ([(0, .ref o), (1, .int (iz z)), (2, .int (iz a))]) := hl
  refine MS_gen hM (MS_0 hP) (fun σ hM hP => ?_)
  have hk2 := hk.2.1
  refine lv_aload_n hx hb dX9_way_0 rfl (lk hl rfl) ?_
  refine x_iconst hF dX9_way_1 ?_
  refine x_putfield hF (ci := 10) in_X9 rfl tyX9_ok nmX9 0 (by decide) q2251 (fun _ h => h) rfl hM hL (MA_ob hP.1) (ty := .int) (by decide +kernel) rfl rfl dX9_way_2 (fun H locs hM hL => ?_)
  refine MS_gen hM (MS_p0 hM hP) (fun σ hM hP => ?_)
  refine lv_iload_n hx hb dX9_way_5 rfl (lk hl rfl) ?_
  refine x_kp hL (vx_runS (As := [_]) hF.2.2.2.2.2.2.2.2.2 ((mX9_isAngle hz) hF.1) (va_cwS 1 hF.2.2.2.2.2.2.2.2.1 (lw_S q2381 q2382 q138 q2383) rfl rfl rfl (by decide +kernel) ⟨(Nat.le_of_ble_eq_true rfl), (Nat.le_of_ble_eq_true rfl)⟩) (x_preS hF hM) rfl rfl hl.1 rfl (lv_room (Nat.le_of_ble_eq_true rfl)) dX9_way_6 ⟨(Nat.le_of_ble_eq_true rfl), (Nat.le_of_ble_eq_true rfl)⟩) (fun H locs hM hL => ?_)
  refine x_ifeq_b (tgt := 27) hF dX9_way_9 (by decide) (fun c9 => ?_) (fun c9 => ?_)
  · skip
    refine lv_aload_n hx hb dX9_way_27 rfl (lk hl rfl) ?_
    refine x_iconst hF dX9_way_28 ?_
    refine x_kn hL (vx_runV (As := [_]) hF.2.2.2.2.2.2.2.2.2 ((mX9_fails hP.1) hF.1) (cwV 1 hF.2.2.2.2.2.2.2.2.1 (lw_V q2337 q2339 qs46 q138 q2340) rfl rfl rfl (by decide +kernel) ⟨(Nat.le_of_ble_eq_true rfl), (Nat.le_of_ble_eq_true rfl)⟩) (x_preV hF hM (MA_ob hP.1) rfl) rfl rfl hl.1 rfl (lv_room (Nat.le_of_ble_eq_true rfl)) dX9_way_29 ⟨(Nat.le_of_ble_eq_true rfl), (Nat.le_of_ble_eq_true rfl)⟩) ?_
    rintro _ τ29 H locs ⟨rfl, hp⟩ hM hL
    refine MS_gen hM (MS_t hP hp) (fun σ hM hP => ?_)
    exact x_ireturn hF hM hL rfl (Nat.le_of_ble_eq_true rfl) (Nat.le_of_ble_eq_true rfl) (by (have ht : qWay z a = (1, 0) := by first | (unfold qWay; rw [if_neg (by omega)])); rw [ht]; exact ⟨rfl, QE_1 hP⟩) dX9_way_32
  · skip
    refine lv_iload_n hx hb dX9_way_12 rfl (lk hl rfl) ?_
    refine x_kp hL (vx_runS (As := [_]) hF.2.2.2.2.2.2.2.2.2 ((mX9_isAngle ha) hF.1) (va_cwS 1 hF.2.2.2.2.2.2.2.2.1 (lw_S q2381 q2382 q138 q2383) rfl rfl rfl (by decide +kernel) ⟨(Nat.le_of_ble_eq_true rfl), (Nat.le_of_ble_eq_true rfl)⟩) (x_preS hF hM) rfl rfl hl.1 rfl (lv_room (Nat.le_of_ble_eq_true rfl)) dX9_way_13 ⟨(Nat.le_of_ble_eq_true rfl), (Nat.le_of_ble_eq_true rfl)⟩) (fun H locs hM hL => ?_)
    refine x_ifeq_b (tgt := 27) hF dX9_way_16 (by decide) (fun c16 => ?_) (fun c16 => ?_)
    · skip
      refine lv_aload_n hx hb dX9_way_27 rfl (lk hl rfl) ?_
      refine x_iconst hF dX9_way_28 ?_
      refine x_kn hL (vx_runV (As := [_]) hF.2.2.2.2.2.2.2.2.2 ((mX9_fails hP.1) hF.1) (cwV 1 hF.2.2.2.2.2.2.2.2.1 (lw_V q2337 q2339 qs46 q138 q2340) rfl rfl rfl (by decide +kernel) ⟨(Nat.le_of_ble_eq_true rfl), (Nat.le_of_ble_eq_true rfl)⟩) (x_preV hF hM (MA_ob hP.1) rfl) rfl rfl hl.1 rfl (lv_room (Nat.le_of_ble_eq_true rfl)) dX9_way_29 ⟨(Nat.le_of_ble_eq_true rfl), (Nat.le_of_ble_eq_true rfl)⟩) ?_
      rintro _ τ29 H locs ⟨rfl, hp⟩ hM hL
      refine MS_gen hM (MS_t hP hp) (fun σ hM hP => ?_)
      exact x_ireturn hF hM hL rfl (Nat.le_of_ble_eq_true rfl) (Nat.le_of_ble_eq_true rfl) (by (have ht : qWay z a = (1, 0) := by first | (unfold qWay; rw [if_neg (by omega)])); rw [ht]; exact ⟨rfl, QE_1 hP⟩) dX9_way_32
    · skip
      refine lv_iload_n hx hb dX9_way_19 rfl (lk hl rfl) ?_
      refine lv_iload_n hx hb dX9_way_20 rfl (lk hl rfl) ?_
      refine x_kp hL (vx_runS (As := [_, _]) hF.2.2.2.2.2.2.2.2.2 ((mX9_wayTo (by omega) (by omega)) hF.1) (va_cwS 2 hF.2.2.2.2.2.2.2.2.1 (lw_S q2560 q2561 q138 q2562) rfl rfl rfl (by decide +kernel) ⟨(Nat.le_of_ble_eq_true rfl), (Nat.le_of_ble_eq_true rfl)⟩) (x_preS hF hM) rfl rfl hl.1 rfl (lv_room (Nat.le_of_ble_eq_true rfl)) dX9_way_21 ⟨(Nat.le_of_ble_eq_true rfl), (Nat.le_of_ble_eq_true rfl)⟩) (fun H locs hM hL => ?_)
      refine x_goto (tgt := 32) hF dX9_way_24 (by decide) ?_
      exact x_ireturn hF hM hL rfl (Nat.le_of_ble_eq_true rfl) (Nat.le_of_ble_eq_true rfl) (by (have ht : qWay z a = (0, wWay z a) := by first | (unfold qWay; rw [if_pos (by omega)])); rw [ht]; exact ⟨rfl, QE_0 hP⟩) dX9_way_32
set_option maxHeartbeats 4000000 in
set_option maxRecDepth 100000 in
/-- BakeryRingModel.nearest(I)I -/
theorem mX9_nearest {l : Launch} {E : En} {σ0 : Mm} {o : Nat} {F : Nat → Int → Int} {w : Int → Int} (hw : F 5 = w) (hk : Wk w) {z : Int} (hz : inR z) (hP : MA E σ0 o F) : Ctr l E yX9_nearest (ws_ yX9_nearest cX9_nearest 2 (some .int)) 3 67 0 0 [.ref o, .int (iz z)] σ0 (fun v τ => v = some (.int (iz (qNearest w z).2)) ∧ QE E σ0 o τ F (qNearest w z).1) noX := by
  refine x_head (own := RX9) (cc := cX9_nearest) (maxL := 2) (ret := (some .int)) (by decide) rfl rfl (Nat.le_of_ble_eq_true rfl) ?_
  intro p e s m args below meth c H ls hF hname htab hM hl
  have hx := hF.2.2.1
  have hb := hF.2.2.2.1
  have hL : Lc E [] := lcNil
  have hl : lh ls 2 ([(0, .ref o), (1, .int (iz z))]) := hl
  refine MS_gen hM (MS_0 hP) (fun σ hM hP => ?_)
  have hk2 := hk.2.1
  refine lv_aload_n hx hb dX9_nearest_0 rfl (lk hl rfl) ?_
  refine x_iconst hF dX9_nearest_1 ?_
  refine x_putfield hF (ci := 10) in_X9 rfl tyX9_ok nmX9 0 (by decide) q2251 (fun _ h => h) rfl hM hL (MA_ob hP.1) (ty := .int) (by decide +kernel) rfl rfl dX9_nearest_2 (fun H locs hM hL => ?_)
  refine MS_gen hM (MS_p0 hM hP) (fun σ hM hP => ?_)
  refine lv_iload_n hx hb dX9_nearest_5 rfl (lk hl rfl) ?_
  refine x_kp hL (vx_runS (As := [_]) hF.2.2.2.2.2.2.2.2.2 ((mX9_isAngle hz) hF.1) (va_cwS 1 hF.2.2.2.2.2.2.2.2.1 (lw_S q2381 q2382 q138 q2383) rfl rfl rfl (by decide +kernel) ⟨(Nat.le_of_ble_eq_true rfl), (Nat.le_of_ble_eq_true rfl)⟩) (x_preS hF hM) rfl rfl hl.1 rfl (lv_room (Nat.le_of_ble_eq_true rfl)) dX9_nearest_6 ⟨(Nat.le_of_ble_eq_true rfl), (Nat.le_of_ble_eq_true rfl)⟩) (fun H locs hM hL => ?_)
  refine x_ifne_b (tgt := 18) hF dX9_nearest_9 (by decide) (fun c9 => ?_) (fun c9 => ?_)
  · skip
    refine lv_aload_n hx hb dX9_nearest_18 rfl (lk hl rfl) ?_
    refine lv_iload_n hx hb dX9_nearest_19 rfl (lk hl rfl) ?_
    have hso := wOpen_r (w := w) (by omega) z
    refine x_kp hL (vx_runV (As := [_]) hF.2.2.2.2.2.2.2.2.2 ((mX9_openFrom (w := w) (by rw [up2_oth _ _ _ (by decide)]; exact hw) hk hz hP.1) hF.1) (cwV 1 hF.2.2.2.2.2.2.2.2.1 (lw_V q2567 q2569 qs89 q138 q2570) rfl rfl rfl (by decide +kernel) ⟨(Nat.le_of_ble_eq_true rfl), (Nat.le_of_ble_eq_true rfl)⟩) (x_preV hF hM (MA_ob hP.1) rfl) rfl rfl hl.1 rfl (lv_room (Nat.le_of_ble_eq_true rfl)) dX9_nearest_20 ⟨(Nat.le_of_ble_eq_true rfl), (Nat.le_of_ble_eq_true rfl)⟩) (fun H locs hM hL => ?_)
    refine x_if_ge (tgt := 34) hF dX9_nearest_23 (by decide) (by first | exact Rg_in hk.1 _ | assumption | (unfold inR; omega)) (fun c23 => ?_) (fun c23 => ?_)
    · skip
      refine lv_aload_n hx hb dX9_nearest_34 rfl (lk hl rfl) ?_
      refine lv_aload_n hx hb dX9_nearest_35 rfl (lk hl rfl) ?_
      refine lv_iload_n hx hb dX9_nearest_36 rfl (lk hl rfl) ?_
      refine x_kp hL (vx_runV (As := [_]) hF.2.2.2.2.2.2.2.2.2 ((mX9_openFrom (w := w) (by rw [up2_oth _ _ _ (by decide)]; exact hw) hk hz hP.1) hF.1) (cwV 1 hF.2.2.2.2.2.2.2.2.1 (lw_V q2567 q2569 qs89 q138 q2570) rfl rfl rfl (by decide +kernel) ⟨(Nat.le_of_ble_eq_true rfl), (Nat.le_of_ble_eq_true rfl)⟩) (x_preV hF hM (MA_ob hP.1) rfl) rfl rfl hl.1 rfl (lv_room (Nat.le_of_ble_eq_true rfl)) dX9_nearest_37 ⟨(Nat.le_of_ble_eq_true rfl), (Nat.le_of_ble_eq_true rfl)⟩) (fun H locs hM hL => ?_)
      refine x_kp hL (vx_runV (As := [_]) hF.2.2.2.2.2.2.2.2.2 ((mX9_ownerAt (w := w) (by rw [up2_oth _ _ _ (by decide)]; exact hw) (by omega) (by omega) hP.1) hF.1) (cwV 1 hF.2.2.2.2.2.2.2.2.1 (lw_V q2396 q2398 qs59 q138 q2399) rfl rfl rfl (by decide +kernel) ⟨(Nat.le_of_ble_eq_true rfl), (Nat.le_of_ble_eq_true rfl)⟩) (x_preV hF hM (MA_ob hP.1) rfl) rfl rfl hl.1 rfl (lv_room (Nat.le_of_ble_eq_true rfl)) dX9_nearest_40 ⟨(Nat.le_of_ble_eq_true rfl), (Nat.le_of_ble_eq_true rfl)⟩) (fun H locs hM hL => ?_)
      exact x_ireturn hF hM hL rfl (Nat.le_of_ble_eq_true rfl) (Nat.le_of_ble_eq_true rfl) (by (have ht : qNearest w z = (0, w (29 + 2 * wOpen w z + 1)) := by first | (unfold qNearest; rw [if_neg (by omega), if_neg (by omega)])); rw [ht]; exact ⟨rfl, QE_0 hP⟩) dX9_nearest_43
    · skip
      refine lv_aload_n hx hb dX9_nearest_26 rfl (lk hl rfl) ?_
      refine x_iconst hF dX9_nearest_27 ?_
      refine x_kn hL (vx_runV (As := [_]) hF.2.2.2.2.2.2.2.2.2 ((mX9_fails hP.1) hF.1) (cwV 1 hF.2.2.2.2.2.2.2.2.1 (lw_V q2337 q2339 qs46 q138 q2340) rfl rfl rfl (by decide +kernel) ⟨(Nat.le_of_ble_eq_true rfl), (Nat.le_of_ble_eq_true rfl)⟩) (x_preV hF hM (MA_ob hP.1) rfl) rfl rfl hl.1 rfl (lv_room (Nat.le_of_ble_eq_true rfl)) dX9_nearest_28 ⟨(Nat.le_of_ble_eq_true rfl), (Nat.le_of_ble_eq_true rfl)⟩) ?_
      rintro _ τ28 H locs ⟨rfl, hp⟩ hM hL
      refine MS_gen hM (MS_t hP hp) (fun σ hM hP => ?_)
      refine x_goto (tgt := 43) hF dX9_nearest_31 (by decide) ?_
      exact x_ireturn hF hM hL rfl (Nat.le_of_ble_eq_true rfl) (Nat.le_of_ble_eq_true rfl) (by (have ht : qNearest w z = (2, 0) := by first | (unfold qNearest; rw [if_neg (by omega), if_pos (by omega)])); rw [ht]; exact ⟨rfl, QE_1 hP⟩) dX9_nearest_43
  · skip
    refine lv_aload_n hx hb dX9_nearest_12 rfl (lk hl rfl) ?_
    refine x_iconst hF dX9_nearest_13 ?_
    refine x_kn hL (vx_runV (As := [_]) hF.2.2.2.2.2.2.2.2.2 ((mX9_fails hP.1) hF.1) (cwV 1 hF.2.2.2.2.2.2.2.2.1 (lw_V q2337 q2339 qs46 q138 q2340) rfl rfl rfl (by decide +kernel) ⟨(Nat.le_of_ble_eq_true rfl), (Nat.le_of_ble_eq_true rfl)⟩) (x_preV hF hM (MA_ob hP.1) rfl) rfl rfl hl.1 rfl (lv_room (Nat.le_of_ble_eq_true rfl)) dX9_nearest_14 ⟨(Nat.le_of_ble_eq_true rfl), (Nat.le_of_ble_eq_true rfl)⟩) ?_
    rintro _ τ14 H locs ⟨rfl, hp⟩ hM hL
    refine MS_gen hM (MS_t hP hp) (fun σ hM hP => ?_)
    exact x_ireturn hF hM hL rfl (Nat.le_of_ble_eq_true rfl) (Nat.le_of_ble_eq_true rfl) (by (have ht : qNearest w z = (1, 0) := by first | (unfold qNearest; rw [if_pos (by omega)])); rw [ht]; exact ⟨rfl, QE_1 hP⟩) dX9_nearest_17
set_option maxHeartbeats 4000000 in
set_option maxRecDepth 100000 in
/-- BakeryRingModel.wouldGo(II)I -/
theorem mX9_wouldGo {l : Launch} {E : En} {σ0 : Mm} {o : Nat} {F : Nat → Int → Int} {w : Int → Int} (hw : F 5 = w) (hk : Wk w) {z a : Int} (hz : inR z) (ha : inR a) (hP : MA E σ0 o F) : Ctr l E yX9_wouldGo (ws_ yX9_wouldGo cX9_wouldGo 4 (some .int)) 3 69 0 0 [.ref o, .int (iz z), .int (iz a)] σ0 (fun v τ => v = some (.int (iz (qWouldGo w z a).2)) ∧ QE E σ0 o τ F (qWouldGo w z a).1) noX := by
  refine x_head (own := RX9) (cc := cX9_wouldGo) (maxL := 4) (ret := (some .int)) (by decide) rfl rfl (Nat.le_of_ble_eq_true rfl) ?_
  intro p e s m args below meth c H ls hF hname htab hM hl
  have hx := hF.2.2.1
  have hb := hF.2.2.2.1
  have hL : Lc E [] := lcNil
  have hl : lh ls 4 ([(0, .ref o), (1, .int (iz z)), (2, .int (iz a))]) := hl
  refine MS_gen hM (MS_0 hP) (fun σ hM hP => ?_)
  have hk2 := hk.2.1
  refine lv_aload_n hx hb dX9_wouldGo_0 rfl (lk hl rfl) ?_
  refine x_iconst hF dX9_wouldGo_1 ?_
  refine x_putfield hF (ci := 10) in_X9 rfl tyX9_ok nmX9 0 (by decide) q2251 (fun _ h => h) rfl hM hL (MA_ob hP.1) (ty := .int) (by decide +kernel) rfl rfl dX9_wouldGo_2 (fun H locs hM hL => ?_)
  refine MS_gen hM (MS_p0 hM hP) (fun σ hM hP => ?_)
  refine lv_iload_n hx hb dX9_wouldGo_5 rfl (lk hl rfl) ?_
  refine x_kp hL (vx_runS (As := [_]) hF.2.2.2.2.2.2.2.2.2 ((mX9_isAngle hz) hF.1) (va_cwS 1 hF.2.2.2.2.2.2.2.2.1 (lw_S q2381 q2382 q138 q2383) rfl rfl rfl (by decide +kernel) ⟨(Nat.le_of_ble_eq_true rfl), (Nat.le_of_ble_eq_true rfl)⟩) (x_preS hF hM) rfl rfl hl.1 rfl (lv_room (Nat.le_of_ble_eq_true rfl)) dX9_wouldGo_6 ⟨(Nat.le_of_ble_eq_true rfl), (Nat.le_of_ble_eq_true rfl)⟩) (fun H locs hM hL => ?_)
  refine x_ifne_b (tgt := 18) hF dX9_wouldGo_9 (by decide) (fun c9 => ?_) (fun c9 => ?_)
  · skip
    refine lv_iload_n hx hb dX9_wouldGo_18 rfl (lk hl rfl) ?_
    refine x_iconst hF dX9_wouldGo_19 ?_
    refine x_bipush hF (by decide) dX9_wouldGo_20 ?_
    refine x_kp hL (vx_runS (As := [_, _, _]) hF.2.2.2.2.2.2.2.2.2 ((mX9_isBetween ha ⟨by omega, by omega⟩ ⟨by omega, by omega⟩) hF.1) (va_cwS 3 hF.2.2.2.2.2.2.2.2.1 (lw_S q2334 q2335 q138 q2336) rfl rfl rfl (by decide +kernel) ⟨(Nat.le_of_ble_eq_true rfl), (Nat.le_of_ble_eq_true rfl)⟩) (x_preS hF hM) rfl rfl hl.1 rfl (lv_room (Nat.le_of_ble_eq_true rfl)) dX9_wouldGo_22 ⟨(Nat.le_of_ble_eq_true rfl), (Nat.le_of_ble_eq_true rfl)⟩) (fun H locs hM hL => ?_)
    refine x_ifne_b (tgt := 34) hF dX9_wouldGo_25 (by decide) (fun c25 => ?_) (fun c25 => ?_)
    · skip
      refine lv_aload_n hx hb dX9_wouldGo_34 rfl (lk hl rfl) ?_
      refine x_kn hL (vx_runV (As := []) hF.2.2.2.2.2.2.2.2.2 ((mX9_findsLoads (F := up2 F 0 0 0) (by rw [up2_oth _ _ _ (by decide), hw]; exact hk.1) (by rw [up2_oth _ _ _ (by decide), hw]; omega) (by rw [up2_oth _ _ _ (by decide), hw]; omega) hP.1) hF.1) (cwV 0 hF.2.2.2.2.2.2.2.2.1 (lw_V q2579 q2581 qs90 q138 q2582) rfl rfl rfl (by decide +kernel) ⟨(Nat.le_of_ble_eq_true rfl), (Nat.le_of_ble_eq_true rfl)⟩) (x_preV hF hM (MA_ob hP.1) rfl) rfl rfl hl.1 rfl (lv_room (Nat.le_of_ble_eq_true rfl)) dX9_wouldGo_35 ⟨(Nat.le_of_ble_eq_true rfl), (Nat.le_of_ble_eq_true rfl)⟩) ?_
      rintro _ τ35 H locs ⟨rfl, hp⟩ hM hL
      refine MS_gen hM (MS_t hP hp) (fun σ hM hP => ?_)
      rw [show (up2 F 0 0 0) 5 = w from by rw [up2_oth _ _ _ (by decide), hw]] at hP
      obtain ⟨F1, hP, e0, e5, e12, eo⟩ := LE_0 hw hP
      have hgo := wGo_r (w := w) (ld := wLoadOf w) (by omega) z a
      refine lv_aload_n hx hb dX9_wouldGo_38 rfl (lk hl rfl) ?_
      refine lv_iload_n hx hb dX9_wouldGo_39 rfl (lk hl rfl) ?_
      refine lv_iload_n hx hb dX9_wouldGo_40 rfl (lk hl rfl) ?_
      refine x_kn hL (vx_runV (As := [_, _]) hF.2.2.2.2.2.2.2.2.2 ((mX9_signFor (w := w) (ld := wLoadOf w) e5 e12 hz (by omega) (by omega) (Wk_Wg hk) (fun b => by have := wLoadOf_r hk b; omega) hP.1) hF.1) (cwV 2 hF.2.2.2.2.2.2.2.2.1 (lw_V q2424 q2426 qs66 q138 q2427) rfl rfl rfl (by decide +kernel) ⟨(Nat.le_of_ble_eq_true rfl), (Nat.le_of_ble_eq_true rfl)⟩) (x_preV hF hM (MA_ob hP.1) rfl) rfl rfl hl.1 rfl (lv_room (Nat.le_of_ble_eq_true rfl)) dX9_wouldGo_41 ⟨(Nat.le_of_ble_eq_true rfl), (Nat.le_of_ble_eq_true rfl)⟩) ?_
      rintro _ τ41 H locs ⟨rfl, hp⟩ hM hL
      refine MS_gen hM (MS_t hP hp) (fun σ hM hP => ?_)
      refine x_istore_n hF dX9_wouldGo_44 rfl hl (by decide) rfl (fun ls hl => ?_)
      refine lv_iload_n hx hb dX9_wouldGo_45 rfl (lk hl rfl) ?_
      refine x_if_ge (tgt := 57) hF dX9_wouldGo_46 (by decide) (by first | exact Rg_in hk.1 _ | assumption | (unfold inR; omega)) (fun c46 => ?_) (fun c46 => ?_)
      · skip
        refine lv_aload_n hx hb dX9_wouldGo_57 rfl (lk hl rfl) ?_
        refine lv_iload_n hx hb dX9_wouldGo_58 rfl (lk hl rfl) ?_
        refine x_kp hL (vx_runV (As := [_]) hF.2.2.2.2.2.2.2.2.2 ((mX9_ownerAt (w := w) (by rw [up2_oth _ _ _ (by decide)]; exact e5) (by omega) (by omega) hP.1) hF.1) (cwV 1 hF.2.2.2.2.2.2.2.2.1 (lw_V q2396 q2398 qs59 q138 q2399) rfl rfl rfl (by decide +kernel) ⟨(Nat.le_of_ble_eq_true rfl), (Nat.le_of_ble_eq_true rfl)⟩) (x_preV hF hM (MA_ob hP.1) rfl) rfl rfl hl.1 rfl (lv_room (Nat.le_of_ble_eq_true rfl)) dX9_wouldGo_59 ⟨(Nat.le_of_ble_eq_true rfl), (Nat.le_of_ble_eq_true rfl)⟩) (fun H locs hM hL => ?_)
        exact x_ireturn hF hM hL rfl (Nat.le_of_ble_eq_true rfl) (Nat.le_of_ble_eq_true rfl) (by (have ht : qWouldGo w z a = (0, w (29 + 2 * (wGo w (wLoadOf w) z a).1 + 1)) := by first | (unfold qWouldGo; rw [if_neg (by omega), if_neg (by omega), if_neg (by omega)])); rw [ht]; exact ⟨rfl, _, hP, by rw [up2_f _ _ _ _ (by decide)]; exact e0, fun f a b c d => by rw [up2_oth _ _ _ d]; exact eo f a c d⟩) dX9_wouldGo_62
      · skip
        refine lv_aload_n hx hb dX9_wouldGo_49 rfl (lk hl rfl) ?_
        refine x_iconst hF dX9_wouldGo_50 ?_
        refine x_kn hL (vx_runV (As := [_]) hF.2.2.2.2.2.2.2.2.2 ((mX9_fails hP.1) hF.1) (cwV 1 hF.2.2.2.2.2.2.2.2.1 (lw_V q2337 q2339 qs46 q138 q2340) rfl rfl rfl (by decide +kernel) ⟨(Nat.le_of_ble_eq_true rfl), (Nat.le_of_ble_eq_true rfl)⟩) (x_preV hF hM (MA_ob hP.1) rfl) rfl rfl hl.1 rfl (lv_room (Nat.le_of_ble_eq_true rfl)) dX9_wouldGo_51 ⟨(Nat.le_of_ble_eq_true rfl), (Nat.le_of_ble_eq_true rfl)⟩) ?_
        rintro _ τ51 H locs ⟨rfl, hp⟩ hM hL
        refine MS_gen hM (MS_t hP hp) (fun σ hM hP => ?_)
        refine x_goto (tgt := 62) hF dX9_wouldGo_54 (by decide) ?_
        exact x_ireturn hF hM hL rfl (Nat.le_of_ble_eq_true rfl) (Nat.le_of_ble_eq_true rfl) (by (have ht : qWouldGo w z a = (3, 0) := by first | (unfold qWouldGo; rw [if_neg (by omega), if_neg (by omega), if_pos (by omega)])); rw [ht]; exact ⟨rfl, _, hP, up2_s _ _ _ _, fun f a b c d => by rw [up2_oth _ _ _ a, up2_oth _ _ _ d]; exact eo f a c d⟩) dX9_wouldGo_62
    · skip
      refine lv_aload_n hx hb dX9_wouldGo_28 rfl (lk hl rfl) ?_
      refine x_iconst hF dX9_wouldGo_29 ?_
      refine x_kn hL (vx_runV (As := [_]) hF.2.2.2.2.2.2.2.2.2 ((mX9_fails hP.1) hF.1) (cwV 1 hF.2.2.2.2.2.2.2.2.1 (lw_V q2337 q2339 qs46 q138 q2340) rfl rfl rfl (by decide +kernel) ⟨(Nat.le_of_ble_eq_true rfl), (Nat.le_of_ble_eq_true rfl)⟩) (x_preV hF hM (MA_ob hP.1) rfl) rfl rfl hl.1 rfl (lv_room (Nat.le_of_ble_eq_true rfl)) dX9_wouldGo_30 ⟨(Nat.le_of_ble_eq_true rfl), (Nat.le_of_ble_eq_true rfl)⟩) ?_
      rintro _ τ30 H locs ⟨rfl, hp⟩ hM hL
      refine MS_gen hM (MS_t hP hp) (fun σ hM hP => ?_)
      exact x_ireturn hF hM hL rfl (Nat.le_of_ble_eq_true rfl) (Nat.le_of_ble_eq_true rfl) (by (have ht : qWouldGo w z a = (2, 0) := by first | (unfold qWouldGo; rw [if_neg (by omega), if_pos (by omega)])); rw [ht]; exact ⟨rfl, QE_1 hP⟩) dX9_wouldGo_33
  · skip
    refine lv_aload_n hx hb dX9_wouldGo_12 rfl (lk hl rfl) ?_
    refine x_iconst hF dX9_wouldGo_13 ?_
    refine x_kn hL (vx_runV (As := [_]) hF.2.2.2.2.2.2.2.2.2 ((mX9_fails hP.1) hF.1) (cwV 1 hF.2.2.2.2.2.2.2.2.1 (lw_V q2337 q2339 qs46 q138 q2340) rfl rfl rfl (by decide +kernel) ⟨(Nat.le_of_ble_eq_true rfl), (Nat.le_of_ble_eq_true rfl)⟩) (x_preV hF hM (MA_ob hP.1) rfl) rfl rfl hl.1 rfl (lv_room (Nat.le_of_ble_eq_true rfl)) dX9_wouldGo_14 ⟨(Nat.le_of_ble_eq_true rfl), (Nat.le_of_ble_eq_true rfl)⟩) ?_
    rintro _ τ14 H locs ⟨rfl, hp⟩ hM hL
    refine MS_gen hM (MS_t hP hp) (fun σ hM hP => ?_)
    exact x_ireturn hF hM hL rfl (Nat.le_of_ble_eq_true rfl) (Nat.le_of_ble_eq_true rfl) (by (have ht : qWouldGo w z a = (1, 0) := by first | (unfold qWouldGo; rw [if_pos (by omega)])); rw [ht]; exact ⟨rfl, QE_1 hP⟩) dX9_wouldGo_17
