set_option maxHeartbeats 4000000 in
set_option maxRecDepth 100000 in
/-- BakeryRingModel.account(I)I -/
theorem mX9_account {l : Launch} {E : En} {σ0 : Mm} {o : Nat} {F : Nat → Int → Int} {w : Int → Int} (hw : F 5 = w) (hk : Wk w) {z : Int} (hz : inR z) (hP : MA E σ0 o F) : Ctr l E yX9_account (ws_ yX9_account cX9_account 2 (some .int)) 4 88 0 0 [.ref o, .int (iz z)] σ0 (fun v τ => v = some (.int (iz (qAccount w (F 15 0) (F 9 0) z).2)) ∧ QE E σ0 o τ F (qAccount w (F 15 0) (F 9 0) z).1) noX := by
  refine x_head (own := RX9) (cc := cX9_account) (maxL := 2) (ret := (some .int)) (by decide) rfl rfl (Nat.le_of_ble_eq_true rfl) ?_
  intro p e s m args below meth c H ls hF hname htab hM hl
  have hx := hF.2.2.1
  have hb := hF.2.2.2.1
  have hL : Lc E [] := lcNil
  have hl : lh ls 2 ([(0, .ref o), (1, .int (iz z))]) := hl
  refine MS_gen hM (MS_0 hP) (fun σ hM hP => ?_)
  have hk2 := hk.2.1
  refine lv_aload_n hx hb dX9_account_0 rfl (lk hl rfl) ?_
  refine x_iconst hF dX9_account_1 ?_
  refine x_putfield hF (ci := 10) in_X9 rfl tyX9_ok nmX9 0 (by decide) q2251 (fun _ h => h) rfl hM hL (MA_ob hP.1) (ty := .int) (by decide +kernel) rfl rfl dX9_account_2 (fun H locs hM hL => ?_)
  refine MS_gen hM (MS_p0 hM hP) (fun σ hM hP => ?_)
  refine lv_iload_n hx hb dX9_account_5 rfl (lk hl rfl) ?_
  rcases (show z = 0 ∨ z = 1 ∨ z = 2 ∨ z = 3 ∨ z = 4 ∨ z = 5 ∨ z = 6 ∨ z = 7 ∨ z = 8 ∨ z = 9 ∨ z = 10 ∨ z = 11 ∨ z = 12 ∨ (z < 0 ∨ 12 < z) by omega) with csw | csw | csw | csw | csw | csw | csw | csw | csw | csw | csw | csw | csw | csw
  · refine x_tableIn (tgt := 72) (i := 0) hF dX9_account_6 (by omega) (by first | omega | (unfold inR; omega)) (by decide) rfl (by decide) ?_
    refine lv_aload_n hx hb dX9_account_72 rfl (lk hl rfl) ?_
    refine x_getfield hF (ci := 10) in_X9 rfl 5 (by decide) q2256 (fun _ h => h) hM (MA_ob hP.1) (MA_f5 hP.1) dX9_account_73 ?_
    refine x_iconst hF dX9_account_76 ?_
    refine x_iald hF hM (MA_a5 hP.1) (by omega) (by omega) (by decide) (show rd _ _ _ = .int (iz (w _)) from by have h9 := MA_r5 hP.1; rw [up2_oth _ _ _ (by decide), hw] at h9; exact h9 _ (by omega) (by omega)) dX9_account_77 ?_
    exact x_ireturn hF hM hL rfl (Nat.le_of_ble_eq_true rfl) (Nat.le_of_ble_eq_true rfl) (by (have ht : qAccount w (F 15 0) (F 9 0) z = (0, w 0) := by first | (unfold qAccount; rw [if_pos (by omega)])); rw [ht]; exact ⟨rfl, QE_0 hP⟩) dX9_account_78
  · refine x_tableIn (tgt := 79) (i := 1) hF dX9_account_6 (by omega) (by first | omega | (unfold inR; omega)) (by decide) rfl (by decide) ?_
    refine lv_aload_n hx hb dX9_account_79 rfl (lk hl rfl) ?_
    refine x_kp hL (vx_runV (As := []) hF.2.2.2.2.2.2.2.2.2 ((mX9_openMany (w := w) (by rw [up2_oth _ _ _ (by decide)]; exact hw) hk.1 (by omega) (by omega) hP.1) hF.1) (cwV 0 hF.2.2.2.2.2.2.2.2.1 (lw_V q2472 q2474 qs76 q138 q2475) rfl rfl rfl (by decide +kernel) ⟨(Nat.le_of_ble_eq_true rfl), (Nat.le_of_ble_eq_true rfl)⟩) (x_preV hF hM (MA_ob hP.1) rfl) rfl rfl hl.1 rfl (lv_room (Nat.le_of_ble_eq_true rfl)) dX9_account_80 ⟨(Nat.le_of_ble_eq_true rfl), (Nat.le_of_ble_eq_true rfl)⟩) (fun H locs hM hL => ?_)
    exact x_ireturn hF hM hL rfl (Nat.le_of_ble_eq_true rfl) (Nat.le_of_ble_eq_true rfl) (by (have ht : qAccount w (F 15 0) (F 9 0) z = (0, wOpenMany w) := by first | (unfold qAccount; rw [if_neg (by omega), if_pos (by omega)])); rw [ht]; exact ⟨rfl, QE_0 hP⟩) dX9_account_83
  · refine x_tableIn (tgt := 84) (i := 2) hF dX9_account_6 (by omega) (by first | omega | (unfold inR; omega)) (by decide) rfl (by decide) ?_
    refine lv_aload_n hx hb dX9_account_84 rfl (lk hl rfl) ?_
    refine x_getfield hF (ci := 10) in_X9 rfl 5 (by decide) q2256 (fun _ h => h) hM (MA_ob hP.1) (MA_f5 hP.1) dX9_account_85 ?_
    refine x_bipush hF (by decide) dX9_account_88 ?_
    refine x_iald hF hM (MA_a5 hP.1) (by omega) (by omega) (by decide) (show rd _ _ _ = .int (iz (w _)) from by have h9 := MA_r5 hP.1; rw [up2_oth _ _ _ (by decide), hw] at h9; exact h9 _ (by omega) (by omega)) dX9_account_90 ?_
    exact x_ireturn hF hM hL rfl (Nat.le_of_ble_eq_true rfl) (Nat.le_of_ble_eq_true rfl) (by (have ht : qAccount w (F 15 0) (F 9 0) z = (0, w 28) := by first | (unfold qAccount; rw [if_neg (by omega), if_neg (by omega), if_pos (by omega)])); rw [ht]; exact ⟨rfl, QE_0 hP⟩) dX9_account_91
  · refine x_tableIn (tgt := 92) (i := 3) hF dX9_account_6 (by omega) (by first | omega | (unfold inR; omega)) (by decide) rfl (by decide) ?_
    refine lv_aload_n hx hb dX9_account_92 rfl (lk hl rfl) ?_
    refine x_getfield hF (ci := 10) in_X9 rfl 5 (by decide) q2256 (fun _ h => h) hM (MA_ob hP.1) (MA_f5 hP.1) dX9_account_93 ?_
    refine x_iconst hF dX9_account_96 ?_
    refine x_iald hF hM (MA_a5 hP.1) (by omega) (by omega) (by decide) (show rd _ _ _ = .int (iz (w _)) from by have h9 := MA_r5 hP.1; rw [up2_oth _ _ _ (by decide), hw] at h9; exact h9 _ (by omega) (by omega)) dX9_account_97 ?_
    exact x_ireturn hF hM hL rfl (Nat.le_of_ble_eq_true rfl) (Nat.le_of_ble_eq_true rfl) (by (have ht : qAccount w (F 15 0) (F 9 0) z = (0, w 1) := by first | (unfold qAccount; rw [if_neg (by omega), if_neg (by omega), if_neg (by omega), if_pos (by omega)])); rw [ht]; exact ⟨rfl, QE_0 hP⟩) dX9_account_98
  · refine x_tableIn (tgt := 99) (i := 4) hF dX9_account_6 (by omega) (by first | omega | (unfold inR; omega)) (by decide) rfl (by decide) ?_
    refine lv_aload_n hx hb dX9_account_99 rfl (lk hl rfl) ?_
    refine x_kp hL (vx_runV (As := []) hF.2.2.2.2.2.2.2.2.2 ((mX9_loavesAll (w := w) (by rw [up2_oth _ _ _ (by decide)]; exact hw) hk hP.1) hF.1) (cwV 0 hF.2.2.2.2.2.2.2.2.1 (lw_V q2735 q2737 qs111 q138 q2738) rfl rfl rfl (by decide +kernel) ⟨(Nat.le_of_ble_eq_true rfl), (Nat.le_of_ble_eq_true rfl)⟩) (x_preV hF hM (MA_ob hP.1) rfl) rfl rfl hl.1 rfl (lv_room (Nat.le_of_ble_eq_true rfl)) dX9_account_100 ⟨(Nat.le_of_ble_eq_true rfl), (Nat.le_of_ble_eq_true rfl)⟩) (fun H locs hM hL => ?_)
    exact x_ireturn hF hM hL rfl (Nat.le_of_ble_eq_true rfl) (Nat.le_of_ble_eq_true rfl) (by (have ht : qAccount w (F 15 0) (F 9 0) z = (0, wLoaves w) := by first | (unfold qAccount; rw [if_neg (by omega), if_neg (by omega), if_neg (by omega), if_neg (by omega), if_pos (by omega)])); rw [ht]; exact ⟨rfl, QE_0 hP⟩) dX9_account_103
  · refine x_tableIn (tgt := 104) (i := 5) hF dX9_account_6 (by omega) (by first | omega | (unfold inR; omega)) (by decide) rfl (by decide) ?_
    refine lv_aload_n hx hb dX9_account_104 rfl (lk hl rfl) ?_
    refine x_kp hL (vx_runV (As := []) hF.2.2.2.2.2.2.2.2.2 ((mX9_loadsAll (w := w) (by rw [up2_oth _ _ _ (by decide)]; exact hw) hk hP.1) hF.1) (cwV 0 hF.2.2.2.2.2.2.2.2.1 (lw_V q2719 q2721 qs109 q138 q2722) rfl rfl rfl (by decide +kernel) ⟨(Nat.le_of_ble_eq_true rfl), (Nat.le_of_ble_eq_true rfl)⟩) (x_preV hF hM (MA_ob hP.1) rfl) rfl rfl hl.1 rfl (lv_room (Nat.le_of_ble_eq_true rfl)) dX9_account_105 ⟨(Nat.le_of_ble_eq_true rfl), (Nat.le_of_ble_eq_true rfl)⟩) (fun H locs hM hL => ?_)
    exact x_ireturn hF hM hL rfl (Nat.le_of_ble_eq_true rfl) (Nat.le_of_ble_eq_true rfl) (by (have ht : qAccount w (F 15 0) (F 9 0) z = (0, wLoads w) := by first | (unfold qAccount; rw [if_neg (by omega), if_neg (by omega), if_neg (by omega), if_neg (by omega), if_neg (by omega), if_pos (by omega)])); rw [ht]; exact ⟨rfl, QE_0 hP⟩) dX9_account_108
  · refine x_tableIn (tgt := 109) (i := 6) hF dX9_account_6 (by omega) (by first | omega | (unfold inR; omega)) (by decide) rfl (by decide) ?_
    refine lv_aload_n hx hb dX9_account_109 rfl (lk hl rfl) ?_
    refine x_iconst hF dX9_account_110 ?_
    refine x_iconst hF dX9_account_111 ?_
    refine x_kp hL (vx_runV (As := [_, _]) hF.2.2.2.2.2.2.2.2.2 ((mX9_customersThat (w := w) (by rw [up2_oth _ _ _ (by decide)]; exact hw) hk (by omega) (by omega) (by unfold inR; omega) hP.1) hF.1) (cwV 2 hF.2.2.2.2.2.2.2.2.1 (lw_V q2727 q2729 qs110 q138 q2730) rfl rfl rfl (by decide +kernel) ⟨(Nat.le_of_ble_eq_true rfl), (Nat.le_of_ble_eq_true rfl)⟩) (x_preV hF hM (MA_ob hP.1) rfl) rfl rfl hl.1 rfl (lv_room (Nat.le_of_ble_eq_true rfl)) dX9_account_112 ⟨(Nat.le_of_ble_eq_true rfl), (Nat.le_of_ble_eq_true rfl)⟩) (fun H locs hM hL => ?_)
    exact x_ireturn hF hM hL rfl (Nat.le_of_ble_eq_true rfl) (Nat.le_of_ble_eq_true rfl) (by (have ht : qAccount w (F 15 0) (F 9 0) z = (0, wThat w 2 0) := by first | (unfold qAccount; rw [if_neg (by omega), if_neg (by omega), if_neg (by omega), if_neg (by omega), if_neg (by omega), if_neg (by omega), if_pos (by omega)])); rw [ht]; exact ⟨rfl, QE_0 hP⟩) dX9_account_115
  · refine x_tableIn (tgt := 116) (i := 7) hF dX9_account_6 (by omega) (by first | omega | (unfold inR; omega)) (by decide) rfl (by decide) ?_
    refine lv_aload_n hx hb dX9_account_116 rfl (lk hl rfl) ?_
    refine x_iconst hF dX9_account_117 ?_
    refine x_iconst hF dX9_account_118 ?_
    refine x_kp hL (vx_runV (As := [_, _]) hF.2.2.2.2.2.2.2.2.2 ((mX9_customersThat (w := w) (by rw [up2_oth _ _ _ (by decide)]; exact hw) hk (by omega) (by omega) (by unfold inR; omega) hP.1) hF.1) (cwV 2 hF.2.2.2.2.2.2.2.2.1 (lw_V q2727 q2729 qs110 q138 q2730) rfl rfl rfl (by decide +kernel) ⟨(Nat.le_of_ble_eq_true rfl), (Nat.le_of_ble_eq_true rfl)⟩) (x_preV hF hM (MA_ob hP.1) rfl) rfl rfl hl.1 rfl (lv_room (Nat.le_of_ble_eq_true rfl)) dX9_account_119 ⟨(Nat.le_of_ble_eq_true rfl), (Nat.le_of_ble_eq_true rfl)⟩) (fun H locs hM hL => ?_)
    exact x_ireturn hF hM hL rfl (Nat.le_of_ble_eq_true rfl) (Nat.le_of_ble_eq_true rfl) (by (have ht : qAccount w (F 15 0) (F 9 0) z = (0, wThat w 4 1) := by first | (unfold qAccount; rw [if_neg (by omega), if_neg (by omega), if_neg (by omega), if_neg (by omega), if_neg (by omega), if_neg (by omega), if_neg (by omega), if_pos (by omega)])); rw [ht]; exact ⟨rfl, QE_0 hP⟩) dX9_account_122
  · refine x_tableIn (tgt := 123) (i := 8) hF dX9_account_6 (by omega) (by first | omega | (unfold inR; omega)) (by decide) rfl (by decide) ?_
    refine lv_aload_n hx hb dX9_account_123 rfl (lk hl rfl) ?_
    refine x_kp hL (vx_runV (As := []) hF.2.2.2.2.2.2.2.2.2 ((mX9_overloadedMany (w := w) (by rw [up2_oth _ _ _ (by decide)]; exact hw) hk hP.1) hF.1) (cwV 0 hF.2.2.2.2.2.2.2.2.1 (lw_V q2739 q2741 qs112 q138 q2742) rfl rfl rfl (by decide +kernel) ⟨(Nat.le_of_ble_eq_true rfl), (Nat.le_of_ble_eq_true rfl)⟩) (x_preV hF hM (MA_ob hP.1) rfl) rfl rfl hl.1 rfl (lv_room (Nat.le_of_ble_eq_true rfl)) dX9_account_124 ⟨(Nat.le_of_ble_eq_true rfl), (Nat.le_of_ble_eq_true rfl)⟩) (fun H locs hM hL => ?_)
    exact x_ireturn hF hM hL rfl (Nat.le_of_ble_eq_true rfl) (Nat.le_of_ble_eq_true rfl) (by (have ht : qAccount w (F 15 0) (F 9 0) z = (0, wOverM w) := by first | (unfold qAccount; rw [if_neg (by omega), if_neg (by omega), if_neg (by omega), if_neg (by omega), if_neg (by omega), if_neg (by omega), if_neg (by omega), if_neg (by omega), if_pos (by omega)])); rw [ht]; exact ⟨rfl, QE_0 hP⟩) dX9_account_127
  · refine x_tableIn (tgt := 128) (i := 9) hF dX9_account_6 (by omega) (by first | omega | (unfold inR; omega)) (by decide) rfl (by decide) ?_
    refine lv_aload_n hx hb dX9_account_128 rfl (lk hl rfl) ?_
    refine x_getfield hF (ci := 10) in_X9 rfl 5 (by decide) q2256 (fun _ h => h) hM (MA_ob hP.1) (MA_f5 hP.1) dX9_account_129 ?_
    refine x_iconst hF dX9_account_132 ?_
    refine x_iald hF hM (MA_a5 hP.1) (by omega) (by omega) (by decide) (show rd _ _ _ = .int (iz (w _)) from by have h9 := MA_r5 hP.1; rw [up2_oth _ _ _ (by decide), hw] at h9; exact h9 _ (by omega) (by omega)) dX9_account_133 ?_
    exact x_ireturn hF hM hL rfl (Nat.le_of_ble_eq_true rfl) (Nat.le_of_ble_eq_true rfl) (by (have ht : qAccount w (F 15 0) (F 9 0) z = (0, w 2) := by first | (unfold qAccount; rw [if_neg (by omega), if_neg (by omega), if_neg (by omega), if_neg (by omega), if_neg (by omega), if_neg (by omega), if_neg (by omega), if_neg (by omega), if_neg (by omega), if_pos (by omega)])); rw [ht]; exact ⟨rfl, QE_0 hP⟩) dX9_account_134
  · refine x_tableIn (tgt := 135) (i := 10) hF dX9_account_6 (by omega) (by first | omega | (unfold inR; omega)) (by decide) rfl (by decide) ?_
    refine lv_aload_n hx hb dX9_account_135 rfl (lk hl rfl) ?_
    refine x_getfield hF (ci := 10) in_X9 rfl 5 (by decide) q2256 (fun _ h => h) hM (MA_ob hP.1) (MA_f5 hP.1) dX9_account_136 ?_
    refine x_iconst hF dX9_account_139 ?_
    refine x_iald hF hM (MA_a5 hP.1) (by omega) (by omega) (by decide) (show rd _ _ _ = .int (iz (w _)) from by have h9 := MA_r5 hP.1; rw [up2_oth _ _ _ (by decide), hw] at h9; exact h9 _ (by omega) (by omega)) dX9_account_140 ?_
    exact x_ireturn hF hM hL rfl (Nat.le_of_ble_eq_true rfl) (Nat.le_of_ble_eq_true rfl) (by (have ht : qAccount w (F 15 0) (F 9 0) z = (0, w 3) := by first | (unfold qAccount; rw [if_neg (by omega), if_neg (by omega), if_neg (by omega), if_neg (by omega), if_neg (by omega), if_neg (by omega), if_neg (by omega), if_neg (by omega), if_neg (by omega), if_neg (by omega), if_pos (by omega)])); rw [ht]; exact ⟨rfl, QE_0 hP⟩) dX9_account_141
  · refine x_tableIn (tgt := 142) (i := 11) hF dX9_account_6 (by omega) (by first | omega | (unfold inR; omega)) (by decide) rfl (by decide) ?_
    refine lv_aload_n hx hb dX9_account_142 rfl (lk hl rfl) ?_
    refine x_getfield hF (ci := 10) in_X9 rfl 15 (by decide) q2266 (fun _ h => h) hM (MA_ob hP.1) (show rd _ _ _ = .int (iz (F 15 0)) from by have h9 := MA_s15 hP.1; exact h9) dX9_account_143 ?_
    exact x_ireturn hF hM hL rfl (Nat.le_of_ble_eq_true rfl) (Nat.le_of_ble_eq_true rfl) (by (have ht : qAccount w (F 15 0) (F 9 0) z = (0, F 15 0) := by first | (unfold qAccount; rw [if_neg (by omega), if_neg (by omega), if_neg (by omega), if_neg (by omega), if_neg (by omega), if_neg (by omega), if_neg (by omega), if_neg (by omega), if_neg (by omega), if_neg (by omega), if_neg (by omega), if_pos (by omega)])); rw [ht]; exact ⟨rfl, QE_0 hP⟩) dX9_account_146
  · refine x_tableIn (tgt := 147) (i := 12) hF dX9_account_6 (by omega) (by first | omega | (unfold inR; omega)) (by decide) rfl (by decide) ?_
    refine lv_aload_n hx hb dX9_account_147 rfl (lk hl rfl) ?_
    refine x_getfield hF (ci := 10) in_X9 rfl 9 (by decide) q2260 (fun _ h => h) hM (MA_ob hP.1) (show rd _ _ _ = .int (iz (F 9 0)) from by have h9 := MA_s9 hP.1; exact h9) dX9_account_148 ?_
    exact x_ireturn hF hM hL rfl (Nat.le_of_ble_eq_true rfl) (Nat.le_of_ble_eq_true rfl) (by (have ht : qAccount w (F 15 0) (F 9 0) z = (0, F 9 0) := by first | (unfold qAccount; rw [if_neg (by omega), if_neg (by omega), if_neg (by omega), if_neg (by omega), if_neg (by omega), if_neg (by omega), if_neg (by omega), if_neg (by omega), if_neg (by omega), if_neg (by omega), if_neg (by omega), if_neg (by omega), if_pos (by omega)])); rw [ht]; exact ⟨rfl, QE_0 hP⟩) dX9_account_151
  · refine x_tableOut (tgt := 152) hF dX9_account_6 hz csw (by decide) ?_
    refine lv_aload_n hx hb dX9_account_152 rfl (lk hl rfl) ?_
    refine x_iconst hF dX9_account_153 ?_
    refine x_kn hL (vx_runV (As := [_]) hF.2.2.2.2.2.2.2.2.2 ((mX9_fails hP.1) hF.1) (cwV 1 hF.2.2.2.2.2.2.2.2.1 (lw_V q2337 q2339 qs46 q138 q2340) rfl rfl rfl (by decide +kernel) ⟨(Nat.le_of_ble_eq_true rfl), (Nat.le_of_ble_eq_true rfl)⟩) (x_preV hF hM (MA_ob hP.1) rfl) rfl rfl hl.1 rfl (lv_room (Nat.le_of_ble_eq_true rfl)) dX9_account_154 ⟨(Nat.le_of_ble_eq_true rfl), (Nat.le_of_ble_eq_true rfl)⟩) ?_
    rintro _ τ154 H locs ⟨rfl, hp⟩ hM hL
    refine MS_gen hM (MS_t hP hp) (fun σ hM hP => ?_)
    exact x_ireturn hF hM hL rfl (Nat.le_of_ble_eq_true rfl) (Nat.le_of_ble_eq_true rfl) (by (have ht : qAccount w (F 15 0) (F 9 0) z = (1, 0) := by first | (unfold qAccount; rw [if_neg (by omega), if_neg (by omega), if_neg (by omega), if_neg (by omega), if_neg (by omega), if_neg (by omega), if_neg (by omega), if_neg (by omega), if_neg (by omega), if_neg (by omega), if_neg (by omega), if_neg (by omega), if_neg (by omega)])); rw [ht]; exact ⟨rfl, QE_1 hP⟩) dX9_account_157
set_option maxHeartbeats 4000000 in
set_option maxRecDepth 100000 in
/-- BakeryRingModel.meanLoad()F -/
theorem mX9_meanLoad {l : Launch} {E : En} {σ0 : Mm} {o : Nat} {F : Nat → Int → Int} {w : Int → Int} (hw : F 5 = w) (hk : Wk w)  (hP : MA E σ0 o F) : Ctr l E yX9_meanLoad (ws_ yX9_meanLoad cX9_meanLoad 1 (some .float)) 3 67 0 0 [.ref o] σ0 (fun v τ => (wOpenMany w = 0 → v = some (.float (Jvm.FP.i2f (iz 0))) ∧ QE E σ0 o τ F 1) ∧ (wOpenMany w ≠ 0 → v = some (.float (Jvm.FP.fdiv (Jvm.FP.i2f (iz (wLoads w))) (Jvm.FP.i2f (iz (wOpenMany w))))) ∧ QE E σ0 o τ F 0)) noX := by
  refine x_head (own := RX9) (cc := cX9_meanLoad) (maxL := 1) (ret := (some .float)) (by decide) rfl rfl (Nat.le_of_ble_eq_true rfl) ?_
  intro p e s m args below meth c H ls hF hname htab hM hl
  have hx := hF.2.2.1
  have hb := hF.2.2.2.1
  have hL : Lc E [] := lcNil
  have hl : lh ls 1 ([(0, .ref o)]) := hl
  refine MS_gen hM (MS_0 hP) (fun σ hM hP => ?_)
  have hk2 := hk.2.1
  refine lv_aload_n hx hb dX9_meanLoad_0 rfl (lk hl rfl) ?_
  refine x_iconst hF dX9_meanLoad_1 ?_
  refine x_putfield hF (ci := 10) in_X9 rfl tyX9_ok nmX9 0 (by decide) q2251 (fun _ h => h) rfl hM hL (MA_ob hP.1) (ty := .int) (by decide +kernel) rfl rfl dX9_meanLoad_2 (fun H locs hM hL => ?_)
  refine MS_gen hM (MS_p0 hM hP) (fun σ hM hP => ?_)
  refine lv_aload_n hx hb dX9_meanLoad_5 rfl (lk hl rfl) ?_
  refine x_kp hL (vx_runV (As := []) hF.2.2.2.2.2.2.2.2.2 ((mX9_openMany (w := w) (by rw [up2_oth _ _ _ (by decide)]; exact hw) hk.1 (by omega) (by omega) hP.1) hF.1) (cwV 0 hF.2.2.2.2.2.2.2.2.1 (lw_V q2472 q2474 qs76 q138 q2475) rfl rfl rfl (by decide +kernel) ⟨(Nat.le_of_ble_eq_true rfl), (Nat.le_of_ble_eq_true rfl)⟩) (x_preV hF hM (MA_ob hP.1) rfl) rfl rfl hl.1 rfl (lv_room (Nat.le_of_ble_eq_true rfl)) dX9_meanLoad_6 ⟨(Nat.le_of_ble_eq_true rfl), (Nat.le_of_ble_eq_true rfl)⟩) (fun H locs hM hL => ?_)
  have hom := wOpenMany_r (w := w) (by omega)
  have hlo := wLoads_r hk
  refine x_if_ne (tgt := 21) hF dX9_meanLoad_9 (by decide) (by first | exact Rg_in hk.1 _ | assumption | (unfold inR; omega)) (fun c9 => ?_) (fun c9 => ?_)
  · skip
    refine lv_aload_n hx hb dX9_meanLoad_21 rfl (lk hl rfl) ?_
    refine x_kp hL (vx_runV (As := []) hF.2.2.2.2.2.2.2.2.2 ((mX9_loadsAll (w := w) (by rw [up2_oth _ _ _ (by decide)]; exact hw) hk hP.1) hF.1) (cwV 0 hF.2.2.2.2.2.2.2.2.1 (lw_V q2719 q2721 qs109 q138 q2722) rfl rfl rfl (by decide +kernel) ⟨(Nat.le_of_ble_eq_true rfl), (Nat.le_of_ble_eq_true rfl)⟩) (x_preV hF hM (MA_ob hP.1) rfl) rfl rfl hl.1 rfl (lv_room (Nat.le_of_ble_eq_true rfl)) dX9_meanLoad_22 ⟨(Nat.le_of_ble_eq_true rfl), (Nat.le_of_ble_eq_true rfl)⟩) (fun H locs hM hL => ?_)
    refine lv_i2f hx hb dX9_meanLoad_25 ?_
    refine lv_aload_n hx hb dX9_meanLoad_26 rfl (lk hl rfl) ?_
    refine x_kp hL (vx_runV (As := []) hF.2.2.2.2.2.2.2.2.2 ((mX9_openMany (w := w) (by rw [up2_oth _ _ _ (by decide)]; exact hw) hk.1 (by omega) (by omega) hP.1) hF.1) (cwV 0 hF.2.2.2.2.2.2.2.2.1 (lw_V q2472 q2474 qs76 q138 q2475) rfl rfl rfl (by decide +kernel) ⟨(Nat.le_of_ble_eq_true rfl), (Nat.le_of_ble_eq_true rfl)⟩) (x_preV hF hM (MA_ob hP.1) rfl) rfl rfl hl.1 rfl (lv_room (Nat.le_of_ble_eq_true rfl)) dX9_meanLoad_27 ⟨(Nat.le_of_ble_eq_true rfl), (Nat.le_of_ble_eq_true rfl)⟩) (fun H locs hM hL => ?_)
    refine lv_i2f hx hb dX9_meanLoad_30 ?_
    refine lv_fdiv hx hb dX9_meanLoad_31 (fl_ok (by omega) (by omega) (by omega) (by omega)) ?_
    exact x_freturn hF hM hL (Nat.le_of_ble_eq_true rfl) (Nat.le_of_ble_eq_true rfl) ⟨fun q => absurd q c9, fun _ => ⟨rfl, QE_0 hP⟩⟩ dX9_meanLoad_32
  · skip
    refine lv_aload_n hx hb dX9_meanLoad_12 rfl (lk hl rfl) ?_
    refine x_iconst hF dX9_meanLoad_13 ?_
    refine x_kn hL (vx_runV (As := [_]) hF.2.2.2.2.2.2.2.2.2 ((mX9_fails hP.1) hF.1) (cwV 1 hF.2.2.2.2.2.2.2.2.1 (lw_V q2337 q2339 qs46 q138 q2340) rfl rfl rfl (by decide +kernel) ⟨(Nat.le_of_ble_eq_true rfl), (Nat.le_of_ble_eq_true rfl)⟩) (x_preV hF hM (MA_ob hP.1) rfl) rfl rfl hl.1 rfl (lv_room (Nat.le_of_ble_eq_true rfl)) dX9_meanLoad_14 ⟨(Nat.le_of_ble_eq_true rfl), (Nat.le_of_ble_eq_true rfl)⟩) ?_
    rintro _ τ14 H locs ⟨rfl, hp⟩ hM hL
    refine MS_gen hM (MS_t hP hp) (fun σ hM hP => ?_)
    refine lv_i2f hx hb dX9_meanLoad_17 ?_
    refine x_goto (tgt := 32) hF dX9_meanLoad_18 (by decide) ?_
    exact x_freturn hF hM hL (Nat.le_of_ble_eq_true rfl) (Nat.le_of_ble_eq_true rfl) ⟨fun _ => ⟨rfl, QE_1 hP⟩, fun q => absurd c9 q⟩ dX9_meanLoad_32
set_option maxHeartbeats 4000000 in
set_option maxRecDepth 100000 in
/-- BakeryRingModel.sentShare()D -/
theorem mX9_sentShare {l : Launch} {E : En} {σ0 : Mm} {o : Nat} {F : Nat → Int → Int} {w : Int → Int} (hw : F 5 = w) (hk : Wk w)  (hP : MA E σ0 o F) : Ctr l E yX9_sentShare (ws_ yX9_sentShare cX9_sentShare 1 (some .double)) 2 46 0 0 [.ref o] σ0 (fun v τ => (w 1 = 0 → v = some (.double (Jvm.FP.i2d (iz 0))) ∧ QE E σ0 o τ F 1) ∧ (w 1 ≠ 0 → v = some (.double (Jvm.FP.ddiv (Jvm.FP.i2d (iz (wThat w 4 1))) (Jvm.FP.i2d (iz (w 1))))) ∧ QE E σ0 o τ F 0)) noX := by
  refine x_head (own := RX9) (cc := cX9_sentShare) (maxL := 1) (ret := (some .double)) (by decide) rfl rfl (Nat.le_of_ble_eq_true rfl) ?_
  intro p e s m args below meth c H ls hF hname htab hM hl
  have hx := hF.2.2.1
  have hb := hF.2.2.2.1
  have hL : Lc E [] := lcNil
  have hl : lh ls 1 ([(0, .ref o)]) := hl
  refine MS_gen hM (MS_0 hP) (fun σ hM hP => ?_)
  have hk2 := hk.2.1
  refine lv_aload_n hx hb dX9_sentShare_0 rfl (lk hl rfl) ?_
  refine x_iconst hF dX9_sentShare_1 ?_
  refine x_putfield hF (ci := 10) in_X9 rfl tyX9_ok nmX9 0 (by decide) q2251 (fun _ h => h) rfl hM hL (MA_ob hP.1) (ty := .int) (by decide +kernel) rfl rfl dX9_sentShare_2 (fun H locs hM hL => ?_)
  refine MS_gen hM (MS_p0 hM hP) (fun σ hM hP => ?_)
  refine lv_aload_n hx hb dX9_sentShare_5 rfl (lk hl rfl) ?_
  refine x_getfield hF (ci := 10) in_X9 rfl 5 (by decide) q2256 (fun _ h => h) hM (MA_ob hP.1) (MA_f5 hP.1) dX9_sentShare_6 ?_
  refine x_iconst hF dX9_sentShare_9 ?_
  refine x_iald hF hM (MA_a5 hP.1) (by omega) (by omega) (by decide) (show rd _ _ _ = .int (iz (w _)) from by have h9 := MA_r5 hP.1; rw [up2_oth _ _ _ (by decide), hw] at h9; exact h9 _ (by omega) (by omega)) dX9_sentShare_10 ?_
  refine x_if_ne (tgt := 23) hF dX9_sentShare_11 (by decide) (by first | exact Rg_in hk.1 _ | assumption | (unfold inR; omega)) (fun c11 => ?_) (fun c11 => ?_)
  · skip
    have hth := wThat_r hk 4 1
    refine lv_aload_n hx hb dX9_sentShare_23 rfl (lk hl rfl) ?_
    refine x_iconst hF dX9_sentShare_24 ?_
    refine x_iconst hF dX9_sentShare_25 ?_
    refine x_kp hL (vx_runV (As := [_, _]) hF.2.2.2.2.2.2.2.2.2 ((mX9_customersThat (w := w) (by rw [up2_oth _ _ _ (by decide)]; exact hw) hk (by omega) (by omega) (by unfold inR; omega) hP.1) hF.1) (cwV 2 hF.2.2.2.2.2.2.2.2.1 (lw_V q2727 q2729 qs110 q138 q2730) rfl rfl rfl (by decide +kernel) ⟨(Nat.le_of_ble_eq_true rfl), (Nat.le_of_ble_eq_true rfl)⟩) (x_preV hF hM (MA_ob hP.1) rfl) rfl rfl hl.1 rfl (lv_room (Nat.le_of_ble_eq_true rfl)) dX9_sentShare_26 ⟨(Nat.le_of_ble_eq_true rfl), (Nat.le_of_ble_eq_true rfl)⟩) (fun H locs hM hL => ?_)
    refine lv_i2d hx hb dX9_sentShare_29 ?_
    refine lv_aload_n hx hb dX9_sentShare_30 rfl (lk hl rfl) ?_
    refine x_getfield hF (ci := 10) in_X9 rfl 5 (by decide) q2256 (fun _ h => h) hM (MA_ob hP.1) (MA_f5 hP.1) dX9_sentShare_31 ?_
    refine x_iconst hF dX9_sentShare_34 ?_
    refine x_iald hF hM (MA_a5 hP.1) (by omega) (by omega) (by decide) (show rd _ _ _ = .int (iz (w _)) from by have h9 := MA_r5 hP.1; rw [up2_oth _ _ _ (by decide), hw] at h9; exact h9 _ (by omega) (by omega)) dX9_sentShare_35 ?_
    refine lv_i2d hx hb dX9_sentShare_36 ?_
    refine lv_ddiv hx hb dX9_sentShare_37 (db_ok (by omega) (by omega) (by omega) (by omega)) ?_
    exact x_dreturn hF hM hL (Nat.le_of_ble_eq_true rfl) (Nat.le_of_ble_eq_true rfl) ⟨fun q => absurd q c11, fun _ => ⟨rfl, QE_0 hP⟩⟩ dX9_sentShare_38
  · skip
    refine lv_aload_n hx hb dX9_sentShare_14 rfl (lk hl rfl) ?_
    refine x_iconst hF dX9_sentShare_15 ?_
    refine x_kn hL (vx_runV (As := [_]) hF.2.2.2.2.2.2.2.2.2 ((mX9_fails hP.1) hF.1) (cwV 1 hF.2.2.2.2.2.2.2.2.1 (lw_V q2337 q2339 qs46 q138 q2340) rfl rfl rfl (by decide +kernel) ⟨(Nat.le_of_ble_eq_true rfl), (Nat.le_of_ble_eq_true rfl)⟩) (x_preV hF hM (MA_ob hP.1) rfl) rfl rfl hl.1 rfl (lv_room (Nat.le_of_ble_eq_true rfl)) dX9_sentShare_16 ⟨(Nat.le_of_ble_eq_true rfl), (Nat.le_of_ble_eq_true rfl)⟩) ?_
    rintro _ τ16 H locs ⟨rfl, hp⟩ hM hL
    refine MS_gen hM (MS_t hP hp) (fun σ hM hP => ?_)
    refine lv_i2d hx hb dX9_sentShare_19 ?_
    refine x_goto (tgt := 38) hF dX9_sentShare_20 (by decide) ?_
    exact x_dreturn hF hM hL (Nat.le_of_ble_eq_true rfl) (Nat.le_of_ble_eq_true rfl) ⟨fun _ => ⟨rfl, QE_1 hP⟩, fun q => absurd c11 q⟩ dX9_sentShare_38
set_option maxHeartbeats 4000000 in
set_option maxRecDepth 100000 in
/-- BakeryRingModel.faultPosition()I -/
theorem mX9_faultPosition {l : Launch} {E : En} {σ0 : Mm} {o : Nat} {F : Nat → Int → Int} (h17 : inR (F 17 0)) (hP : MA E σ0 o F) : Ctr l E yX9_faultPosition (ws_ yX9_faultPosition cX9_faultPosition 1 (some .int)) 1 21 0 0 [.ref o] σ0 (fun v τ => v = some (.int (iz (qFault (F 17 0)).2)) ∧ QE E σ0 o τ F (qFault (F 17 0)).1) noX := by
  refine x_head (own := RX9) (cc := cX9_faultPosition) (maxL := 1) (ret := (some .int)) (by decide) rfl rfl (Nat.le_of_ble_eq_true rfl) ?_
  intro p e s m args below meth c H ls hF hname htab hM hl
  have hx := hF.2.2.1
  have hb := hF.2.2.2.1
  have hL : Lc E [] := lcNil
  have hl : lh ls 1 ([(0, .ref o)]) := hl
  refine MS_gen hM (MS_0 hP) (fun σ hM hP => ?_)
  refine lv_aload_n hx hb dX9_faultPosition_0 rfl (lk hl rfl) ?_
  refine x_iconst hF dX9_faultPosition_1 ?_
  refine x_putfield hF (ci := 10) in_X9 rfl tyX9_ok nmX9 0 (by decide) q2251 (fun _ h => h) rfl hM hL (MA_ob hP.1) (ty := .int) (by decide +kernel) rfl rfl dX9_faultPosition_2 (fun H locs hM hL => ?_)
  refine MS_gen hM (MS_p0 hM hP) (fun σ hM hP => ?_)
  refine lv_aload_n hx hb dX9_faultPosition_5 rfl (lk hl rfl) ?_
  refine x_getfield hF (ci := 10) in_X9 rfl 17 (by decide) q2268 (fun _ h => h) hM (MA_ob hP.1) (show rd _ _ _ = .int (iz (F 17 0)) from by have h9 := MA_s17 hP.1; exact h9) dX9_faultPosition_6 ?_
  refine x_if_ge (tgt := 20) hF dX9_faultPosition_9 (by decide) (by first | assumption | (unfold inR; omega)) (fun c9 => ?_) (fun c9 => ?_)
  · skip
    refine lv_aload_n hx hb dX9_faultPosition_20 rfl (lk hl rfl) ?_
    refine x_getfield hF (ci := 10) in_X9 rfl 17 (by decide) q2268 (fun _ h => h) hM (MA_ob hP.1) (show rd _ _ _ = .int (iz (F 17 0)) from by have h9 := MA_s17 hP.1; exact h9) dX9_faultPosition_21 ?_
    exact x_ireturn hF hM hL rfl (Nat.le_of_ble_eq_true rfl) (Nat.le_of_ble_eq_true rfl) (by (have ht : qFault (F 17 0) = (0, F 17 0) := by first | (unfold qFault; rw [if_neg (by omega)])); rw [ht]; exact ⟨rfl, QE_0 hP⟩) dX9_faultPosition_24
  · skip
    refine lv_aload_n hx hb dX9_faultPosition_12 rfl (lk hl rfl) ?_
    refine x_iconst hF dX9_faultPosition_13 ?_
    refine x_kn hL (vx_runV (As := [_]) hF.2.2.2.2.2.2.2.2.2 ((mX9_fails hP.1) hF.1) (cwV 1 hF.2.2.2.2.2.2.2.2.1 (lw_V q2337 q2339 qs46 q138 q2340) rfl rfl rfl (by decide +kernel) ⟨(Nat.le_of_ble_eq_true rfl), (Nat.le_of_ble_eq_true rfl)⟩) (x_preV hF hM (MA_ob hP.1) rfl) rfl rfl hl.1 rfl (lv_room (Nat.le_of_ble_eq_true rfl)) dX9_faultPosition_14 ⟨(Nat.le_of_ble_eq_true rfl), (Nat.le_of_ble_eq_true rfl)⟩) ?_
    rintro _ τ14 H locs ⟨rfl, hp⟩ hM hL
    refine MS_gen hM (MS_t hP hp) (fun σ hM hP => ?_)
    refine x_goto (tgt := 24) hF dX9_faultPosition_17 (by decide) ?_
    exact x_ireturn hF hM hL rfl (Nat.le_of_ble_eq_true rfl) (Nat.le_of_ble_eq_true rfl) (by (have ht : qFault (F 17 0) = (1, 0) := by first | (unfold qFault; rw [if_pos (by omega)])); rw [ht]; exact ⟨rfl, QE_1 hP⟩) dX9_faultPosition_24
set_option maxHeartbeats 4000000 in
set_option maxRecDepth 100000 in
/-- BakeryRingModel.reason(IZ)I -/
theorem mX9_reason {l : Launch} {E : En} {σ0 : Mm} {o : Nat} {F : Nat → Int → Int} {z a : Int} (hz : inR z) (ha : a = 0 ∨ a = 1) (h1 : ∀ j, inR (F 1 j)) (hP : MA E σ0 o F) : Ctr l E yX9_reason (ws_ yX9_reason cX9_reason 3 (some .int)) 1 22 0 0 [.ref o, .int (iz z), .int (iz a)] σ0 (fun v τ => v = some (.int (iz (qReason (F 1) (F 2) z a).2)) ∧ QE E σ0 o τ F (qReason (F 1) (F 2) z a).1) noX := by
  refine x_head (own := RX9) (cc := cX9_reason) (maxL := 3) (ret := (some .int)) (by decide) rfl rfl (Nat.le_of_ble_eq_true rfl) ?_
  intro p e s m args below meth c H ls hF hname htab hM hl
  have hx := hF.2.2.1
  have hb := hF.2.2.2.1
  have hL : Lc E [] := lcNil
  have hl : lh ls 3 ([(0, .ref o), (1, .int (iz z)), (2, .int (iz a))]) := hl
  refine MS_gen hM (MS_0 hP) (fun σ hM hP => ?_)
  refine lv_aload_n hx hb dX9_reason_0 rfl (lk hl rfl) ?_
  refine x_iconst hF dX9_reason_1 ?_
  refine x_putfield hF (ci := 10) in_X9 rfl tyX9_ok nmX9 0 (by decide) q2251 (fun _ h => h) rfl hM hL (MA_ob hP.1) (ty := .int) (by decide +kernel) rfl rfl dX9_reason_2 (fun H locs hM hL => ?_)
  refine MS_gen hM (MS_p0 hM hP) (fun σ hM hP => ?_)
  refine lv_iload_n hx hb dX9_reason_5 rfl (lk hl rfl) ?_
  refine x_iconst hF dX9_reason_6 ?_
  refine x_iconst hF dX9_reason_7 ?_
  refine x_kp hL (vx_runS (As := [_, _, _]) hF.2.2.2.2.2.2.2.2.2 ((mX9_isBetween hz ⟨by omega, by omega⟩ ⟨by omega, by omega⟩) hF.1) (va_cwS 3 hF.2.2.2.2.2.2.2.2.1 (lw_S q2334 q2335 q138 q2336) rfl rfl rfl (by decide +kernel) ⟨(Nat.le_of_ble_eq_true rfl), (Nat.le_of_ble_eq_true rfl)⟩) (x_preS hF hM) rfl rfl hl.1 rfl (lv_room (Nat.le_of_ble_eq_true rfl)) dX9_reason_8 ⟨(Nat.le_of_ble_eq_true rfl), (Nat.le_of_ble_eq_true rfl)⟩) (fun H locs hM hL => ?_)
  refine x_ifne_b (tgt := 20) hF dX9_reason_11 (by decide) (fun c11 => ?_) (fun c11 => ?_)
  · skip
    refine lv_aload_n hx hb dX9_reason_20 rfl (lk hl rfl) ?_
    refine x_getfield hF (ci := 10) in_X9 rfl 1 (by decide) q2252 (fun _ h => h) hM (MA_ob hP.1) (MA_f1 hP.1) dX9_reason_21 ?_
    refine lv_iload_n hx hb dX9_reason_24 rfl (lk hl rfl) ?_
    refine x_iald hF hM (MA_a1 hP.1) (by omega) (by omega) (by decide) (show rd _ _ _ = .int (iz (F 1 _)) from by have h9 := MA_r1 hP.1; rw [up2_oth _ _ _ (by decide)] at h9; exact h9 _ (by omega) (by omega)) dX9_reason_25 ?_
    refine x_if_ne (tgt := 35) hF dX9_reason_26 (by decide) (by first | assumption | exact h1 _ | (unfold inR; omega)) (fun c26 => ?_) (fun c26 => ?_)
    · skip
      refine lv_iload_n hx hb dX9_reason_35 rfl (lk hl rfl) ?_
      refine x_if_eq (tgt := 48) hF dX9_reason_36 (by decide) (by first | assumption | exact h1 _ | (unfold inR; omega)) (fun c36 => ?_) (fun c36 => ?_)
      · skip
        refine lv_aload_n hx hb dX9_reason_48 rfl (lk hl rfl) ?_
        refine x_getfield hF (ci := 10) in_X9 rfl 1 (by decide) q2252 (fun _ h => h) hM (MA_ob hP.1) (MA_f1 hP.1) dX9_reason_49 ?_
        refine lv_iload_n hx hb dX9_reason_52 rfl (lk hl rfl) ?_
        refine x_iald hF hM (MA_a1 hP.1) (by omega) (by omega) (by decide) (show rd _ _ _ = .int (iz (F 1 _)) from by have h9 := MA_r1 hP.1; rw [up2_oth _ _ _ (by decide)] at h9; exact h9 _ (by omega) (by omega)) dX9_reason_53 ?_
        exact x_ireturn hF hM hL rfl (Nat.le_of_ble_eq_true rfl) (Nat.le_of_ble_eq_true rfl) (by (have ht : qReason (F 1) (F 2) z a = (0, F 1 z) := by first | (unfold qReason; rw [if_neg (by omega), if_neg (by omega), if_pos (by omega)])); rw [ht]; exact ⟨rfl, QE_0 hP⟩) dX9_reason_54
      · skip
        refine lv_aload_n hx hb dX9_reason_39 rfl (lk hl rfl) ?_
        refine x_getfield hF (ci := 10) in_X9 rfl 2 (by decide) q2253 (fun _ h => h) hM (MA_ob hP.1) (MA_f2 hP.1) dX9_reason_40 ?_
        refine lv_iload_n hx hb dX9_reason_43 rfl (lk hl rfl) ?_
        refine x_iald hF hM (MA_a2 hP.1) (by omega) (by omega) (by decide) (show rd _ _ _ = .int (iz (F 2 _)) from by have h9 := MA_r2 hP.1; rw [up2_oth _ _ _ (by decide)] at h9; exact h9 _ (by omega) (by omega)) dX9_reason_44 ?_
        refine x_goto (tgt := 54) hF dX9_reason_45 (by decide) ?_
        exact x_ireturn hF hM hL rfl (Nat.le_of_ble_eq_true rfl) (Nat.le_of_ble_eq_true rfl) (by (have ht : qReason (F 1) (F 2) z a = (0, F 2 z) := by first | (unfold qReason; rw [if_neg (by omega), if_neg (by omega), if_neg (by omega)])); rw [ht]; exact ⟨rfl, QE_0 hP⟩) dX9_reason_54
    · skip
      refine lv_aload_n hx hb dX9_reason_29 rfl (lk hl rfl) ?_
      refine x_iconst hF dX9_reason_30 ?_
      refine x_kn hL (vx_runV (As := [_]) hF.2.2.2.2.2.2.2.2.2 ((mX9_fails hP.1) hF.1) (cwV 1 hF.2.2.2.2.2.2.2.2.1 (lw_V q2337 q2339 qs46 q138 q2340) rfl rfl rfl (by decide +kernel) ⟨(Nat.le_of_ble_eq_true rfl), (Nat.le_of_ble_eq_true rfl)⟩) (x_preV hF hM (MA_ob hP.1) rfl) rfl rfl hl.1 rfl (lv_room (Nat.le_of_ble_eq_true rfl)) dX9_reason_31 ⟨(Nat.le_of_ble_eq_true rfl), (Nat.le_of_ble_eq_true rfl)⟩) ?_
      rintro _ τ31 H locs ⟨rfl, hp⟩ hM hL
      refine MS_gen hM (MS_t hP hp) (fun σ hM hP => ?_)
      exact x_ireturn hF hM hL rfl (Nat.le_of_ble_eq_true rfl) (Nat.le_of_ble_eq_true rfl) (by (have ht : qReason (F 1) (F 2) z a = (2, 0) := by first | (unfold qReason; rw [if_neg (by omega), if_pos (by omega)])); rw [ht]; exact ⟨rfl, QE_1 hP⟩) dX9_reason_34
  · skip
    refine lv_aload_n hx hb dX9_reason_14 rfl (lk hl rfl) ?_
    refine x_iconst hF dX9_reason_15 ?_
    refine x_kn hL (vx_runV (As := [_]) hF.2.2.2.2.2.2.2.2.2 ((mX9_fails hP.1) hF.1) (cwV 1 hF.2.2.2.2.2.2.2.2.1 (lw_V q2337 q2339 qs46 q138 q2340) rfl rfl rfl (by decide +kernel) ⟨(Nat.le_of_ble_eq_true rfl), (Nat.le_of_ble_eq_true rfl)⟩) (x_preV hF hM (MA_ob hP.1) rfl) rfl rfl hl.1 rfl (lv_room (Nat.le_of_ble_eq_true rfl)) dX9_reason_16 ⟨(Nat.le_of_ble_eq_true rfl), (Nat.le_of_ble_eq_true rfl)⟩) ?_
    rintro _ τ16 H locs ⟨rfl, hp⟩ hM hL
    refine MS_gen hM (MS_t hP hp) (fun σ hM hP => ?_)
    exact x_ireturn hF hM hL rfl (Nat.le_of_ble_eq_true rfl) (Nat.le_of_ble_eq_true rfl) (by (have ht : qReason (F 1) (F 2) z a = (1, 0) := by first | (unfold qReason; rw [if_pos (by omega)])); rw [ht]; exact ⟨rfl, QE_1 hP⟩) dX9_reason_19
set_option maxHeartbeats 4000000 in
set_option maxRecDepth 100000 in
/-- BakeryRingModel.save()I -/
theorem mX9_save {l : Launch} {E : En} {σ0 : Mm} {o : Nat} {F : Nat → Int → Int}  (hP : MA E σ0 o F) : Ctr l E yX9_save (ws_ yX9_save cX9_save 2 (some .int)) 0 0 0 0 [.ref o] σ0 (fun v τ => v = some (.int (iz (F 5 2))) ∧ MS E σ0 o τ (up2 (upR (up2 F 0 0 0) 7 199 (F 5)) 11 0 1)) noX := by
  refine x_head (own := RX9) (cc := cX9_save) (maxL := 2) (ret := (some .int)) (by decide) rfl rfl (Nat.le_of_ble_eq_true rfl) ?_
  intro p e s m args below meth c H ls hF hname htab hM hl
  have hx := hF.2.2.1
  have hb := hF.2.2.2.1
  have hL : Lc E [] := lcNil
  have hl : lh ls 2 ([(0, .ref o)]) := hl
  refine MS_gen hM (MS_0 hP) (fun σ hM hP => ?_)
  refine lv_aload_n hx hb dX9_save_0 rfl (lk hl rfl) ?_
  refine x_iconst hF dX9_save_1 ?_
  refine x_putfield hF (ci := 10) in_X9 rfl tyX9_ok nmX9 0 (by decide) q2251 (fun _ h => h) rfl hM hL (MA_ob hP.1) (ty := .int) (by decide +kernel) rfl rfl dX9_save_2 (fun H locs hM hL => ?_)
  refine MS_gen hM (MS_p0 hM hP) (fun σ hM hP => ?_)
  refine x_iconst hF dX9_save_5 ?_
  refine x_istore_n hF dX9_save_6 rfl hl (by decide) rfl (fun ls hl => ?_)
  suffices loop : ∀ (n : Nat) (i : Int) (σ : Mm) (H : Heap) (locs : List Loc) (ls : Array Slot), 199 - i < (n : Int) → (0 ≤ i) → (i ≤ 199) → Mem E s H σ → MS E σ0 o σ (upR (up2 F 0 0 0) 7 i (F 5)) → Lc E locs → lh ls 2 [(0, .ref o), (1, .int (iz i))] → W p l e ({ frames := 0, cells := 0, slots := 0, locals := 0 } : Room) s m args below meth c H locs 0 0 (vx_MQ below (XQc E (fun v τ => v = some (.int (iz (F 5 2))) ∧ MS E σ0 o τ (up2 (upR (up2 F 0 0 0) 7 199 (F 5)) 11 0 1))) (XXc E noX) args s 0 0 (XA E)) (F0 m 7 ls []) from loop (200) 0 _ _ _ _ (by omega) (by omega) (by omega) hM (by rw [upR_0]; exact hP) hL (lh_sub hl rfl)
  refine nat_loop (fun i σ H locs ls hmm h0 h1 => absurd hmm (by omega)) (fun n ih i σ H locs ls hmm h0 h1 hM hP hL hl => ?_)
  refine lv_iload_n hx hb dX9_save_7 rfl (lk hl rfl) ?_
  refine x_sipush hF (by decide) dX9_save_8 ?_
  refine x_icmp_ge (tgt := 32) hF dX9_save_11 (by decide) (by unfold inR; omega) (by unfold inR; omega) (fun c11 => ?_) (fun c11 => ?_)
  · skip
    have e9 : i = 199 := by omega
    subst e9
    refine lv_aload_n hx hb dX9_save_32 rfl (lk hl rfl) ?_
    refine x_iconst hF dX9_save_33 ?_
    refine x_putfield hF (ci := 10) in_X9 rfl tyX9_ok nmX9 11 (by decide) q2262 (fun _ h => h) rfl hM hL (MA_ob hP.1) (ty := .boolean) (by decide +kernel) rfl rfl dX9_save_34 (fun H locs hM hL => ?_)
    refine MS_gen hM (MS_p11 hM hP) (fun σ hM hP => ?_)
    refine lv_aload_n hx hb dX9_save_37 rfl (lk hl rfl) ?_
    refine x_getfield hF (ci := 10) in_X9 rfl 5 (by decide) q2256 (fun _ h => h) hM (MA_ob hP.1) (MA_f5 hP.1) dX9_save_38 ?_
    refine x_iconst hF dX9_save_41 ?_
    refine x_iald hF hM (MA_a5 hP.1) (by omega) (by omega) (by decide) (show rd _ _ _ = .int (iz (F 5 2)) from by have h9 := MA_r5 hP.1; rw [up2_oth _ _ _ (by decide), upR_oth _ _ _ (by decide), up2_oth _ _ _ (by decide)] at h9; exact h9 _ (by omega) (by omega)) dX9_save_42 ?_
    exact x_ireturn hF hM hL rfl (Nat.le_of_ble_eq_true rfl) (Nat.le_of_ble_eq_true rfl) ⟨rfl, hP⟩ dX9_save_43
  · skip
    refine lv_aload_n hx hb dX9_save_14 rfl (lk hl rfl) ?_
    refine x_getfield hF (ci := 10) in_X9 rfl 7 (by decide) q2258 (fun _ h => h) hM (MA_ob hP.1) (MA_f7 hP.1) dX9_save_15 ?_
    refine lv_iload_n hx hb dX9_save_18 rfl (lk hl rfl) ?_
    refine lv_aload_n hx hb dX9_save_19 rfl (lk hl rfl) ?_
    refine x_getfield hF (ci := 10) in_X9 rfl 5 (by decide) q2256 (fun _ h => h) hM (MA_ob hP.1) (MA_f5 hP.1) dX9_save_20 ?_
    refine lv_iload_n hx hb dX9_save_23 rfl (lk hl rfl) ?_
    refine x_iald hF hM (MA_a5 hP.1) (by omega) (by omega) (by decide) (show rd _ _ _ = .int (iz (F 5 _)) from by have h9 := MA_r5 hP.1; rw [upR_oth _ _ _ (by decide), up2_oth _ _ _ (by decide)] at h9; exact h9 _ (by omega) (by omega)) dX9_save_24 ?_
    refine x_iast hF hM hL (MA_a7 hP.1) (by omega) (by omega) (by decide) dX9_save_25 (fun H locs hM hL => ?_)
    refine MS_gen hM (by have h9 := MS_q7 hM hP (by omega); rw [upR_1 (up2 F 0 0 0) 7 (F 5) h0 rfl] at h9; exact h9) (fun σ hM hP => ?_)
    refine x_iinc hF dX9_save_26 hl rfl (by decide) rfl (fun ls hl => ?_)
    refine x_goto (tgt := 7) hF dX9_save_29 (by decide) ?_
    exact ih (i + 1) _ _ _ _ (by omega) (by omega) (by omega) hM hP hL (lh_sub hl rfl)
set_option maxHeartbeats 4000000 in
set_option maxRecDepth 100000 in
/-- BakeryRingModel.restore()I -/
theorem mX9_restore {l : Launch} {E : En} {σ0 : Mm} {o : Nat} {F : Nat → Int → Int} {v : Int → Int} (h11 : F 11 0 = 0 ∨ F 11 0 = 1) (hv : F 11 0 = 1 → ∀ j, 0 ≤ j → j < 199 → F 7 j = v j) (hP : MA E σ0 o F) : Ctr l E yX9_restore (ws_ yX9_restore cX9_restore 2 (some .int)) 1 21 0 0 [.ref o] σ0 (fun v0 τ => (F 11 0 = 0 → v0 = some (.int (iz 0)) ∧ QE E σ0 o τ F 1) ∧ (F 11 0 = 1 → v0 = some (.int (iz (v 2))) ∧ MS E σ0 o τ (up2 (up2 (stF (up2 F 0 0 0) 5 v) 9 0 0) 10 0 0))) noX := by
  refine x_head (own := RX9) (cc := cX9_restore) (maxL := 2) (ret := (some .int)) (by decide) rfl rfl (Nat.le_of_ble_eq_true rfl) ?_
  intro p e s m args below meth c H ls hF hname htab hM hl
  have hx := hF.2.2.1
  have hb := hF.2.2.2.1
  have hL : Lc E [] := lcNil
  have hl : lh ls 2 ([(0, .ref o)]) := hl
  refine MS_gen hM (MS_0 hP) (fun σ hM hP => ?_)
  refine lv_aload_n hx hb dX9_restore_0 rfl (lk hl rfl) ?_
  refine x_iconst hF dX9_restore_1 ?_
  refine x_putfield hF (ci := 10) in_X9 rfl tyX9_ok nmX9 0 (by decide) q2251 (fun _ h => h) rfl hM hL (MA_ob hP.1) (ty := .int) (by decide +kernel) rfl rfl dX9_restore_2 (fun H locs hM hL => ?_)
  refine MS_gen hM (MS_p0 hM hP) (fun σ hM hP => ?_)
  refine lv_aload_n hx hb dX9_restore_5 rfl (lk hl rfl) ?_
  refine x_getfield hF (ci := 10) in_X9 rfl 11 (by decide) q2262 (fun _ h => h) hM (MA_ob hP.1) (show rd _ _ _ = .int (iz (F 11 0)) from by have h9 := MA_s11 hP.1; exact h9) dX9_restore_6 ?_
  refine x_if_ne (tgt := 18) hF dX9_restore_9 (by decide) (by unfold inR; omega) (fun c9 => ?_) (fun c9 => ?_)
  · skip
    refine x_iconst hF dX9_restore_18 ?_
    refine x_istore_n hF dX9_restore_19 rfl hl (by decide) rfl (fun ls hl => ?_)
    suffices loop : ∀ (n : Nat) (i : Int) (σ : Mm) (H : Heap) (locs : List Loc) (ls : Array Slot), 199 - i < (n : Int) → (0 ≤ i) → (i ≤ 199) → Mem E s H σ → MS E σ0 o σ (upR (up2 F 0 0 0) 5 i (v)) → Lc E locs → lh ls 2 [(0, .ref o), (1, .int (iz i))] → W p l e ({ frames := 1, cells := 0, slots := 0, locals := 21 } : Room) s m args below meth c H locs 0 0 (vx_MQ below (XQc E (fun v0 τ => (F 11 0 = 0 → v0 = some (.int (iz 0)) ∧ QE E σ0 o τ F 1) ∧ (F 11 0 = 1 → v0 = some (.int (iz (v 2))) ∧ MS E σ0 o τ (up2 (up2 (stF (up2 F 0 0 0) 5 v) 9 0 0) 10 0 0)))) (XXc E noX) args s 0 0 (XA E)) (F0 m 20 ls []) from loop (200) 0 _ _ _ _ (by omega) (by omega) (by omega) hM (by rw [upR_0]; exact hP) hL (lh_sub hl rfl)
    refine nat_loop (fun i σ H locs ls hmm h0 h1 => absurd hmm (by omega)) (fun n ih i σ H locs ls hmm h0 h1 hM hP hL hl => ?_)
    refine lv_iload_n hx hb dX9_restore_20 rfl (lk hl rfl) ?_
    refine x_sipush hF (by decide) dX9_restore_21 ?_
    refine x_icmp_ge (tgt := 45) hF dX9_restore_24 (by decide) (by unfold inR; omega) (by unfold inR; omega) (fun c24 => ?_) (fun c24 => ?_)
    · skip
      have e9 : i = 199 := by omega
      subst e9
      refine MS_gen hM (MS_c5 (g := v) hP (fun j h0 h1 => upR_in _ _ _ h0 h1)) (fun σ hM hP => ?_)
      have est : stF (upR (up2 F 0 0 0) 5 199 v) 5 v = stF (up2 F 0 0 0) 5 v := by
        funext f j
        by_cases q : f = 5
        · subst q; rw [stF_s, stF_s]
        · rw [stF_o _ _ q, stF_o _ _ q, upR_oth _ _ _ q]
      rw [est] at hP
      refine lv_aload_n hx hb dX9_restore_45 rfl (lk hl rfl) ?_
      refine x_iconst hF dX9_restore_46 ?_
      refine x_putfield hF (ci := 10) in_X9 rfl tyX9_ok nmX9 9 (by decide) q2260 (fun _ h => h) rfl hM hL (MA_ob hP.1) (ty := .int) (by decide +kernel) rfl rfl dX9_restore_47 (fun H locs hM hL => ?_)
      refine MS_gen hM (MS_p9 hM hP) (fun σ hM hP => ?_)
      refine lv_aload_n hx hb dX9_restore_50 rfl (lk hl rfl) ?_
      refine x_iconst hF dX9_restore_51 ?_
      refine x_putfield hF (ci := 10) in_X9 rfl tyX9_ok nmX9 10 (by decide) q2261 (fun _ h => h) rfl hM hL (MA_ob hP.1) (ty := .int) (by decide +kernel) rfl rfl dX9_restore_52 (fun H locs hM hL => ?_)
      refine MS_gen hM (MS_p10 hM hP) (fun σ hM hP => ?_)
      refine lv_aload_n hx hb dX9_restore_55 rfl (lk hl rfl) ?_
      refine x_getfield hF (ci := 10) in_X9 rfl 5 (by decide) q2256 (fun _ h => h) hM (MA_ob hP.1) (MA_f5 hP.1) dX9_restore_56 ?_
      refine x_iconst hF dX9_restore_59 ?_
      refine x_iald hF hM (MA_a5 hP.1) (by omega) (by omega) (by decide) (show rd _ _ _ = .int (iz (v 2)) from by have h9 := MA_r5 hP.1; rw [up2_oth _ _ _ (by decide), up2_oth _ _ _ (by decide), stF_s] at h9; exact h9 _ (by omega) (by omega)) dX9_restore_60 ?_
      exact x_ireturn hF hM hL rfl (Nat.le_of_ble_eq_true rfl) (Nat.le_of_ble_eq_true rfl) ⟨fun q => by omega, fun _ => ⟨rfl, hP⟩⟩ dX9_restore_61
    · skip
      refine lv_aload_n hx hb dX9_restore_27 rfl (lk hl rfl) ?_
      refine x_getfield hF (ci := 10) in_X9 rfl 5 (by decide) q2256 (fun _ h => h) hM (MA_ob hP.1) (MA_f5 hP.1) dX9_restore_28 ?_
      refine lv_iload_n hx hb dX9_restore_31 rfl (lk hl rfl) ?_
      refine lv_aload_n hx hb dX9_restore_32 rfl (lk hl rfl) ?_
      refine x_getfield hF (ci := 10) in_X9 rfl 7 (by decide) q2258 (fun _ h => h) hM (MA_ob hP.1) (MA_f7 hP.1) dX9_restore_33 ?_
      refine lv_iload_n hx hb dX9_restore_36 rfl (lk hl rfl) ?_
      refine x_iald hF hM (MA_a7 hP.1) (by omega) (by omega) (by decide) (show rd _ _ _ = .int (iz (v _)) from by have h9 := MA_r7 hP.1; rw [upR_oth _ _ _ (by decide), up2_oth _ _ _ (by decide)] at h9; rw [← hv (by omega) _ (by omega) (by omega)]; exact h9 _ (by omega) (by omega)) dX9_restore_37 ?_
      refine x_iast hF hM hL (MA_a5 hP.1) (by omega) (by omega) (by decide) dX9_restore_38 (fun H locs hM hL => ?_)
      refine MS_gen hM (by have h9 := MS_q5 hM hP (by omega); rw [upR_1 (up2 F 0 0 0) 5 v h0 rfl] at h9; exact h9) (fun σ hM hP => ?_)
      refine x_iinc hF dX9_restore_39 hl rfl (by decide) rfl (fun ls hl => ?_)
      refine x_goto (tgt := 20) hF dX9_restore_42 (by decide) ?_
      exact ih (i + 1) _ _ _ _ (by omega) (by omega) (by omega) hM hP hL (lh_sub hl rfl)
  · skip
    refine lv_aload_n hx hb dX9_restore_12 rfl (lk hl rfl) ?_
    refine x_iconst hF dX9_restore_13 ?_
    refine x_kn hL (vx_runV (As := [_]) hF.2.2.2.2.2.2.2.2.2 ((mX9_fails hP.1) hF.1) (cwV 1 hF.2.2.2.2.2.2.2.2.1 (lw_V q2337 q2339 qs46 q138 q2340) rfl rfl rfl (by decide +kernel) ⟨(Nat.le_of_ble_eq_true rfl), (Nat.le_of_ble_eq_true rfl)⟩) (x_preV hF hM (MA_ob hP.1) rfl) rfl rfl hl.1 rfl (lv_room (Nat.le_of_ble_eq_true rfl)) dX9_restore_14 ⟨(Nat.le_of_ble_eq_true rfl), (Nat.le_of_ble_eq_true rfl)⟩) ?_
    rintro _ τ14 H locs ⟨rfl, hp⟩ hM hL
    refine MS_gen hM (MS_t hP hp) (fun σ hM hP => ?_)
    exact x_ireturn hF hM hL rfl (Nat.le_of_ble_eq_true rfl) (Nat.le_of_ble_eq_true rfl) ⟨fun _ => ⟨rfl, QE_1 hP⟩, fun q => by omega⟩ dX9_restore_17
set_option maxHeartbeats 4000000 in
set_option maxRecDepth 100000 in
/-- BakeryRingModel.undo()I -/
theorem mX9_undo {l : Launch} {E : En} {σ0 : Mm} {o : Nat} {F : Nat → Int → Int} {v : Int → Int} (h90 : 0 ≤ F 9 0) (h98 : F 9 0 ≤ 8) (ha0 : 0 ≤ F 10 0) (ha8 : F 10 0 < 8) (hv : F 9 0 ≠ 0 → ∀ j, 0 ≤ j → j < 199 → F 6 (199 * ((F 10 0 + (F 9 0 - 1)) % 8) + j) = v j) (hP : MA E σ0 o F) : Ctr l E yX9_undo (ws_ yX9_undo cX9_undo 3 (some .int)) 1 21 0 0 [.ref o] σ0 (fun v0 τ => (F 9 0 = 0 → v0 = some (.int (iz 0)) ∧ QE E σ0 o τ F 1) ∧ (F 9 0 ≠ 0 → v0 = some (.int (iz (F 9 0 - 1))) ∧ MS E σ0 o τ (stF (up2 (up2 F 0 0 0) 9 0 (F 9 0 - 1)) 5 v))) noX := by
  refine x_head (own := RX9) (cc := cX9_undo) (maxL := 3) (ret := (some .int)) (by decide) rfl rfl (Nat.le_of_ble_eq_true rfl) ?_
  intro p e s m args below meth c H ls hF hname htab hM hl
  have hx := hF.2.2.1
  have hb := hF.2.2.2.1
  have hL : Lc E [] := lcNil
  have hl : lh ls 3 ([(0, .ref o)]) := hl
  refine MS_gen hM (MS_0 hP) (fun σ hM hP => ?_)
  refine lv_aload_n hx hb dX9_undo_0 rfl (lk hl rfl) ?_
  refine x_iconst hF dX9_undo_1 ?_
  refine x_putfield hF (ci := 10) in_X9 rfl tyX9_ok nmX9 0 (by decide) q2251 (fun _ h => h) rfl hM hL (MA_ob hP.1) (ty := .int) (by decide +kernel) rfl rfl dX9_undo_2 (fun H locs hM hL => ?_)
  refine MS_gen hM (MS_p0 hM hP) (fun σ hM hP => ?_)
  refine lv_aload_n hx hb dX9_undo_5 rfl (lk hl rfl) ?_
  refine x_getfield hF (ci := 10) in_X9 rfl 9 (by decide) q2260 (fun _ h => h) hM (MA_ob hP.1) (show rd _ _ _ = .int (iz (F 9 0)) from by have h9 := MA_s9 hP.1; exact h9) dX9_undo_6 ?_
  refine x_if_ne (tgt := 18) hF dX9_undo_9 (by decide) (by unfold inR; omega) (fun c9 => ?_) (fun c9 => ?_)
  · skip
    refine lv_aload_n hx hb dX9_undo_18 rfl (lk hl rfl) ?_
    refine lv_dup hx hb dX9_undo_19 rfl ?_
    refine x_getfield hF (ci := 10) in_X9 rfl 9 (by decide) q2260 (fun _ h => h) hM (MA_ob hP.1) (show rd _ _ _ = .int (iz (F 9 0)) from by have h9 := MA_s9 hP.1; exact h9) dX9_undo_20 ?_
    refine x_iconst hF dX9_undo_23 ?_
    refine x_isub hF dX9_undo_24 ?_
    refine x_putfield hF (ci := 10) in_X9 rfl tyX9_ok nmX9 9 (by decide) q2260 (fun _ h => h) rfl hM hL (MA_ob hP.1) (ty := .int) (by decide +kernel) rfl rfl dX9_undo_25 (fun H locs hM hL => ?_)
    refine MS_gen hM (MS_p9 hM hP) (fun σ hM hP => ?_)
    refine lv_aload_n hx hb dX9_undo_28 rfl (lk hl rfl) ?_
    refine x_getfield hF (ci := 10) in_X9 rfl 10 (by decide) q2261 (fun _ h => h) hM (MA_ob hP.1) (show rd _ _ _ = .int (iz (F 10 0)) from by have h9 := MA_s10 hP.1; exact h9) dX9_undo_29 ?_
    refine lv_aload_n hx hb dX9_undo_32 rfl (lk hl rfl) ?_
    refine x_getfield hF (ci := 10) in_X9 rfl 9 (by decide) q2260 (fun _ h => h) hM (MA_ob hP.1) (show rd _ _ _ = .int (iz (F 9 0 - 1)) from by have h9 := MA_s9 hP.1; exact h9) dX9_undo_33 ?_
    refine x_iadd hF dX9_undo_36 ?_
    refine x_bipush hF (by decide) dX9_undo_37 ?_
    refine x_irem hF dX9_undo_39 (by omega) (by omega) (by omega) (by omega) ?_
    refine x_istore_n hF dX9_undo_40 rfl hl (by decide) rfl (fun ls hl => ?_)
    refine x_iconst hF dX9_undo_41 ?_
    refine x_istore_n hF dX9_undo_42 rfl hl (by decide) rfl (fun ls hl => ?_)
    suffices loop : ∀ (n : Nat) (i : Int) (σ : Mm) (H : Heap) (locs : List Loc) (ls : Array Slot), 199 - i < (n : Int) → (0 ≤ i) → (i ≤ 199) → Mem E s H σ → MS E σ0 o σ (upR (up2 (up2 F 0 0 0) 9 0 (F 9 0 - 1)) 5 i (v)) → Lc E locs → lh ls 3 [(0, .ref o), (1, .int (iz ((F 10 0 + (F 9 0 - 1)) % 8))), (2, .int (iz i))] → W p l e ({ frames := 1, cells := 0, slots := 0, locals := 21 } : Room) s m args below meth c H locs 0 0 (vx_MQ below (XQc E (fun v0 τ => (F 9 0 = 0 → v0 = some (.int (iz 0)) ∧ QE E σ0 o τ F 1) ∧ (F 9 0 ≠ 0 → v0 = some (.int (iz (F 9 0 - 1))) ∧ MS E σ0 o τ (stF (up2 (up2 F 0 0 0) 9 0 (F 9 0 - 1)) 5 v)))) (XXc E noX) args s 0 0 (XA E)) (F0 m 43 ls []) from loop (200) 0 _ _ _ _ (by omega) (by omega) (by omega) hM (by rw [upR_0]; exact hP) hL (lh_sub hl rfl)
    refine nat_loop (fun i σ H locs ls hmm h0 h1 => absurd hmm (by omega)) (fun n ih i σ H locs ls hmm h0 h1 hM hP hL hl => ?_)
    refine lv_iload_n hx hb dX9_undo_43 rfl (lk hl rfl) ?_
    refine x_sipush hF (by decide) dX9_undo_44 ?_
    refine x_icmp_ge (tgt := 74) hF dX9_undo_47 (by decide) (by unfold inR; omega) (by unfold inR; omega) (fun c47 => ?_) (fun c47 => ?_)
    · skip
      have e9 : i = 199 := by omega
      subst e9
      refine MS_gen hM (MS_c5 (g := v) hP (fun j h0 h1 => upR_in _ _ _ h0 h1)) (fun σ hM hP => ?_)
      have est : stF (upR (up2 (up2 F 0 0 0) 9 0 (F 9 0 - 1)) 5 199 v) 5 v = stF (up2 (up2 F 0 0 0) 9 0 (F 9 0 - 1)) 5 v := by
        funext f j
        by_cases q : f = 5
        · subst q; rw [stF_s, stF_s]
        · rw [stF_o _ _ q, stF_o _ _ q, upR_oth _ _ _ q]
      rw [est] at hP
      refine lv_aload_n hx hb dX9_undo_74 rfl (lk hl rfl) ?_
      refine x_getfield hF (ci := 10) in_X9 rfl 9 (by decide) q2260 (fun _ h => h) hM (MA_ob hP.1) (show rd _ _ _ = .int (iz (F 9 0 - 1)) from by have h9 := MA_s9 hP.1; exact h9) dX9_undo_75 ?_
      exact x_ireturn hF hM hL rfl (Nat.le_of_ble_eq_true rfl) (Nat.le_of_ble_eq_true rfl) ⟨fun q => by omega, fun _ => ⟨rfl, hP⟩⟩ dX9_undo_78
    · skip
      refine lv_aload_n hx hb dX9_undo_50 rfl (lk hl rfl) ?_
      refine x_getfield hF (ci := 10) in_X9 rfl 5 (by decide) q2256 (fun _ h => h) hM (MA_ob hP.1) (MA_f5 hP.1) dX9_undo_51 ?_
      refine lv_iload_n hx hb dX9_undo_54 rfl (lk hl rfl) ?_
      refine lv_aload_n hx hb dX9_undo_55 rfl (lk hl rfl) ?_
      refine x_getfield hF (ci := 10) in_X9 rfl 6 (by decide) q2257 (fun _ h => h) hM (MA_ob hP.1) (MA_f6 hP.1) dX9_undo_56 ?_
      refine x_sipush hF (by decide) dX9_undo_59 ?_
      refine lv_iload_n hx hb dX9_undo_62 rfl (lk hl rfl) ?_
      refine x_imul hF dX9_undo_63 ?_
      refine lv_iload_n hx hb dX9_undo_64 rfl (lk hl rfl) ?_
      refine x_iadd hF dX9_undo_65 ?_
      refine x_iald hF hM (MA_a6 hP.1) (by omega) (by omega) (by decide) (show rd _ _ _ = .int (iz (v _)) from by have h9 := MA_r6 hP.1; rw [upR_oth _ _ _ (by decide), up2_oth _ _ _ (by decide), up2_oth _ _ _ (by decide)] at h9; rw [← hv (by omega) _ h0 (by omega)]; exact h9 _ (by omega) (by omega)) dX9_undo_66 ?_
      refine x_iast hF hM hL (MA_a5 hP.1) (by omega) (by omega) (by decide) dX9_undo_67 (fun H locs hM hL => ?_)
      refine MS_gen hM (by have h9 := MS_q5 hM hP (by omega); rw [upR_1 (up2 (up2 F 0 0 0) 9 0 (F 9 0 - 1)) 5 v h0 rfl] at h9; exact h9) (fun σ hM hP => ?_)
      refine x_iinc hF dX9_undo_68 hl rfl (by decide) rfl (fun ls hl => ?_)
      refine x_goto (tgt := 43) hF dX9_undo_71 (by decide) ?_
      exact ih (i + 1) _ _ _ _ (by omega) (by omega) (by omega) hM hP hL (lh_sub hl rfl)
  · skip
    refine lv_aload_n hx hb dX9_undo_12 rfl (lk hl rfl) ?_
    refine x_iconst hF dX9_undo_13 ?_
    refine x_kn hL (vx_runV (As := [_]) hF.2.2.2.2.2.2.2.2.2 ((mX9_fails hP.1) hF.1) (cwV 1 hF.2.2.2.2.2.2.2.2.1 (lw_V q2337 q2339 qs46 q138 q2340) rfl rfl rfl (by decide +kernel) ⟨(Nat.le_of_ble_eq_true rfl), (Nat.le_of_ble_eq_true rfl)⟩) (x_preV hF hM (MA_ob hP.1) rfl) rfl rfl hl.1 rfl (lv_room (Nat.le_of_ble_eq_true rfl)) dX9_undo_14 ⟨(Nat.le_of_ble_eq_true rfl), (Nat.le_of_ble_eq_true rfl)⟩) ?_
    rintro _ τ14 H locs ⟨rfl, hp⟩ hM hL
    refine MS_gen hM (MS_t hP hp) (fun σ hM hP => ?_)
    exact x_ireturn hF hM hL rfl (Nat.le_of_ble_eq_true rfl) (Nat.le_of_ble_eq_true rfl) ⟨fun _ => ⟨rfl, QE_1 hP⟩, fun q => by omega⟩ dX9_undo_17
