set_option maxHeartbeats 4000000 in
set_option maxRecDepth 100000 in
/-- BakeryRingModel.allGo(I)I -/
theorem mX9_allGo {l : Launch} {E : En} {σ0 : Mm} {o : Nat} {F : Nat → Int → Int} {z : Int} {w0 : Int → Int} (hz : inR z) (hw : F 5 = w0) (hk0 : Wk w0) (hP : MA E σ0 o F) : Ctr l E yX9_allGo (ws_ yX9_allGo cX9_allGo 6 (some .int)) 3 69 0 0 [.ref o, .int (iz z)] σ0 (fun v τ => v = some (.int (iz (wAllN z w0))) ∧ ME E σ0 o τ F (wAllW z w0)) noX := by
  refine x_head (own := RX9) (cc := cX9_allGo) (maxL := 6) (ret := (some .int)) (by decide) rfl rfl (Nat.le_of_ble_eq_true rfl) ?_
  intro p e s m args below meth c H ls hF hname htab hM hl
  have hx := hF.2.2.1
  have hb := hF.2.2.2.1
  have hL : Lc E [] := lcNil
  have hl : lh ls 6 ([(0, .ref o), (1, .int (iz z))]) := hl
  refine MS_gen hM (MS_0 hP) (fun σ hM hP => ?_)
  refine lv_aload_n hx hb dX9_allGo_0 rfl (lk hl rfl) ?_
  refine x_kn hL (vx_runV (As := []) hF.2.2.2.2.2.2.2.2.2 ((mX9_clearsLoads hP.1) hF.1) (cwV 0 hF.2.2.2.2.2.2.2.2.1 (lw_V q2416 q2418 qs64 q138 q2419) rfl rfl rfl (by decide +kernel) ⟨(Nat.le_of_ble_eq_true rfl), (Nat.le_of_ble_eq_true rfl)⟩) (x_preV hF hM (MA_ob hP.1) rfl) rfl rfl hl.1 rfl (lv_room (Nat.le_of_ble_eq_true rfl)) dX9_allGo_1 ⟨(Nat.le_of_ble_eq_true rfl), (Nat.le_of_ble_eq_true rfl)⟩) ?_
  rintro _ τ1 H locs ⟨rfl, hp⟩ hM hL
  refine MS_gen hM (MS_t hP hp) (fun σ hM hP => ?_)
  refine x_iconst hF dX9_allGo_4 ?_
  refine x_istore_n hF dX9_allGo_5 rfl hl (by decide) rfl (fun ls hl => ?_)
  refine x_iconst hF dX9_allGo_6 ?_
  refine x_istore_n hF dX9_allGo_7 rfl hl (by decide) rfl (fun ls hl => ?_)
  suffices loop : ∀ (n : Nat) (i : Int) (n1 : Int) (w : Int → Int) (ld : Int → Int) (σ : Mm) (H : Heap) (locs : List Loc) (ls : Array Slot), w 1 - i < (n : Int) → (0 ≤ i) → (i ≤ w 1) → (Wk w) → (∀ b, 0 ≤ ld b ∧ ld b ≤ 9 * i) → (0 ≤ n1) → (n1 ≤ i) → (gAll z i w ld n1 (w 1 - i).toNat = wAll z w0) → Mem E s H σ → ML E σ0 o σ F w ld → Lc E locs → lh ls 6 [(0, .ref o), (1, .int (iz z)), (2, .int (iz n1)), (3, .int (iz i))] → W p l e ({ frames := 3, cells := 0, slots := 0, locals := 69 } : Room) s m args below meth c H locs 0 0 (vx_MQ below (XQc E (fun v τ => v = some (.int (iz (wAllN z w0))) ∧ ME E σ0 o τ F (wAllW z w0))) (XXc E noX) args s 0 0 (XA E)) (F0 m 8 ls []) from loop (22) 0 0 w0 (fun _ => 0) _ _ _ _ (by have := hk0.2.1; omega) (by omega) hk0.2.1.2.2.1 hk0 (fun b => by omega) (by omega) (by omega) (by unfold wAll; rw [Int.sub_zero]) hM ⟨_, MS_c12 (g := fun _ => 0) hP (fun j g0 g1 => upR_in F 12 _ g0 g1), by rw [stF_o _ _ (by decide), upR_oth _ _ _ (by decide)]; exact hw, stF_s _ _ _, fun f _ h12 _ => (stF_o _ _ h12).trans (upR_oth _ _ _ h12)⟩ hL (lh_sub hl rfl)
  refine nat_loop (fun i n1 w ld σ H locs ls hmm h0 h1 hk hld hn0 hn1 hr => absurd hmm (by omega)) (fun n ih i n1 w ld σ H locs ls hmm h0 h1 hk hld hn0 hn1 hr hM hP hL hl => ?_)
  obtain ⟨F1, hP, e5, e12, eo⟩ := hP
  have h28 := hk.2.1
  refine lv_iload_n hx hb dX9_allGo_8 rfl (lk hl rfl) ?_
  refine lv_aload_n hx hb dX9_allGo_9 rfl (lk hl rfl) ?_
  refine x_getfield hF (ci := 10) in_X9 rfl 5 (by decide) q2256 (fun _ h => h) hM (MA_ob hP.1) (MA_f5 hP.1) dX9_allGo_10 ?_
  refine x_iconst hF dX9_allGo_13 ?_
  refine x_iald hF hM (MA_a5 hP.1) (by omega) (by omega) (by decide) (show rd _ _ _ = .int (iz (w _)) from by have h9 := MA_r5 hP.1; rw [e5] at h9; exact h9 _ (by omega) (by omega)) dX9_allGo_14 ?_
  refine x_icmp_ge (tgt := 173) hF dX9_allGo_15 (by decide) (by first | exact Rg_in hk.1 _ | exact hz | (unfold inR; omega)) (by first | exact Rg_in hk.1 _ | exact hz | (unfold inR; omega)) (fun c15 => ?_) (fun c15 => ?_)
  · skip
    have hfin : wAll z w0 = (w, ld, n1) := by rw [← hr]; exact gAll_e (by omega)
    refine lv_aload_n hx hb dX9_allGo_173 rfl (lk hl rfl) ?_
    refine x_getfield hF (ci := 10) in_X9 rfl 5 (by decide) q2256 (fun _ h => h) hM (MA_ob hP.1) (MA_f5 hP.1) dX9_allGo_174 ?_
    refine x_iconst hF dX9_allGo_177 ?_
    refine lv_dup2_11 hx hb dX9_allGo_178 rfl rfl ?_
    refine x_iald hF hM (MA_a5 hP.1) (by omega) (by omega) (by decide) (show rd _ _ _ = .int (iz (w _)) from by have h9 := MA_r5 hP.1; rw [e5] at h9; exact h9 _ (by omega) (by omega)) dX9_allGo_179 ?_
    refine lv_iload_n hx hb dX9_allGo_180 rfl (lk hl rfl) ?_
    refine x_iadd hF dX9_allGo_181 ?_
    refine x_iast hF hM hL (MA_a5 hP.1) (by omega) (by omega) (by decide) dX9_allGo_182 (fun H locs hM hL => ?_)
    refine MS_gen hM (MS_q5 hM hP (by omega)) (fun σ hM hP => ?_)
    refine lv_iload_n hx hb dX9_allGo_183 rfl (lk hl rfl) ?_
    exact x_ireturn hF hM hL rfl (Nat.le_of_ble_eq_true rfl) (Nat.le_of_ble_eq_true rfl) ⟨by unfold wAllN; rw [hfin], _, hP, by rw [up2_as, stF_s, e5]; unfold wAllW; rw [hfin], fun f h5 h12 h13 => (up2_oth _ _ _ h5).trans (eo f h5 h12 h13)⟩ dX9_allGo_184
  · skip
    have hcu := hk.2.2.2.2 i h0 (by omega)
    have hgo := wGo_r (ld := ld) hk.2.1.2.2.2.2.1 (w (79 + 6 * i + 0)) (w (79 + 6 * i + 1))
    change ((cGo w ld i).1 = -1 ∨ 0 ≤ (cGo w ld i).1 ∧ (cGo w ld i).1 < w 28) ∧ ((cGo w ld i).2 = 0 ∨ (cGo w ld i).2 = 1) at hgo
    have hca := cAt_r (ld := ld) hk i
    have hsg : 0 ≤ (cGo w ld i).1 → 0 ≤ w (29 + 2 * (cGo w ld i).1 + 1) ∧ w (29 + 2 * (cGo w ld i).1 + 1) < 6 := fun q => by have := hk.2.2.1 (cGo w ld i).1 q (by omega); omega
    refine lv_aload_n hx hb dX9_allGo_18 rfl (lk hl rfl) ?_
    refine lv_aload_n hx hb dX9_allGo_19 rfl (lk hl rfl) ?_
    refine lv_iload_n hx hb dX9_allGo_20 rfl (lk hl rfl) ?_
    refine x_iconst hF dX9_allGo_21 ?_
    refine x_kp hL (vx_runV (As := [_, _]) hF.2.2.2.2.2.2.2.2.2 ((mX9_of (w := w) (e5) (by omega) (by omega) hP.1) hF.1) (cwV 2 hF.2.2.2.2.2.2.2.2.1 (lw_V q2420 q2422 qs65 q138 q2423) rfl rfl rfl (by decide +kernel) ⟨(Nat.le_of_ble_eq_true rfl), (Nat.le_of_ble_eq_true rfl)⟩) (x_preV hF hM (MA_ob hP.1) rfl) rfl rfl hl.1 rfl (lv_room (Nat.le_of_ble_eq_true rfl)) dX9_allGo_22 ⟨(Nat.le_of_ble_eq_true rfl), (Nat.le_of_ble_eq_true rfl)⟩) (fun H locs hM hL => ?_)
    refine lv_aload_n hx hb dX9_allGo_25 rfl (lk hl rfl) ?_
    refine lv_iload_n hx hb dX9_allGo_26 rfl (lk hl rfl) ?_
    refine x_iconst hF dX9_allGo_27 ?_
    refine x_kp hL (vx_runV (As := [_, _]) hF.2.2.2.2.2.2.2.2.2 ((mX9_of (w := w) (e5) (by omega) (by omega) hP.1) hF.1) (cwV 2 hF.2.2.2.2.2.2.2.2.1 (lw_V q2420 q2422 qs65 q138 q2423) rfl rfl rfl (by decide +kernel) ⟨(Nat.le_of_ble_eq_true rfl), (Nat.le_of_ble_eq_true rfl)⟩) (x_preV hF hM (MA_ob hP.1) rfl) rfl rfl hl.1 rfl (lv_room (Nat.le_of_ble_eq_true rfl)) dX9_allGo_28 ⟨(Nat.le_of_ble_eq_true rfl), (Nat.le_of_ble_eq_true rfl)⟩) (fun H locs hM hL => ?_)
    refine x_kn hL (vx_runV (As := [_, _]) hF.2.2.2.2.2.2.2.2.2 ((mX9_signFor (w := w) (ld := ld) e5 e12 (Rg_in hk.1 _) (by omega) (by omega) (Wk_Wg hk) (fun b => by have := hld b; omega) hP.1) hF.1) (cwV 2 hF.2.2.2.2.2.2.2.2.1 (lw_V q2424 q2426 qs66 q138 q2427) rfl rfl rfl (by decide +kernel) ⟨(Nat.le_of_ble_eq_true rfl), (Nat.le_of_ble_eq_true rfl)⟩) (x_preV hF hM (MA_ob hP.1) rfl) rfl rfl hl.1 rfl (lv_room (Nat.le_of_ble_eq_true rfl)) dX9_allGo_31 ⟨(Nat.le_of_ble_eq_true rfl), (Nat.le_of_ble_eq_true rfl)⟩) ?_
    rintro _ τ31 H locs ⟨rfl, hp⟩ hM hL
    refine MS_gen hM (MS_t hP hp) (fun σ hM hP => ?_)
    obtain ⟨F1, hP, e5, e12, e13, eo⟩ : ∃ F2, MS E σ0 o σ F2 ∧ F2 5 = w ∧ F2 12 = ld ∧ F2 13 0 = (cGo w ld i).2 ∧ ∀ f, f ≠ 5 → f ≠ 12 → f ≠ 13 → F2 f = F f := ⟨_, hP, by rw [up2_oth _ _ _ (by decide)]; exact e5, by rw [up2_oth _ _ _ (by decide)]; exact e12, up2_s _ _ _ _, fun f h5 h12 h13 => (up2_oth _ _ _ h13).trans (eo f h5 h12 h13)⟩
    refine x_istore hF dX9_allGo_34 hl (by decide) rfl (fun ls hl => ?_)
    replace hl : lh ls 6 [(4, .int (iz (cGo w ld i).1)), (0, .ref o), (1, .int (iz z)), (2, .int (iz n1)), (3, .int (iz i))] := lh_sub hl rfl
    refine lv_aload_n hx hb dX9_allGo_36 rfl (lk hl rfl) ?_
    refine lv_iload_n hx hb dX9_allGo_37 rfl (lk hl rfl) ?_
    refine x_iconst hF dX9_allGo_38 ?_
    refine x_kp hL (vx_runV (As := [_, _]) hF.2.2.2.2.2.2.2.2.2 ((mX9_of (w := w) (e5) (by omega) (by omega) hP.1) hF.1) (cwV 2 hF.2.2.2.2.2.2.2.2.1 (lw_V q2420 q2422 qs65 q138 q2423) rfl rfl rfl (by decide +kernel) ⟨(Nat.le_of_ble_eq_true rfl), (Nat.le_of_ble_eq_true rfl)⟩) (x_preV hF hM (MA_ob hP.1) rfl) rfl rfl hl.1 rfl (lv_room (Nat.le_of_ble_eq_true rfl)) dX9_allGo_39 ⟨(Nat.le_of_ble_eq_true rfl), (Nat.le_of_ble_eq_true rfl)⟩) (fun H locs hM hL => ?_)
    refine x_istore hF dX9_allGo_42 hl (by decide) rfl (fun ls hl => ?_)
    refine lv_aload_n hx hb dX9_allGo_44 rfl (lk hl rfl) ?_
    refine lv_iload_n hx hb dX9_allGo_45 rfl (lk hl rfl) ?_
    refine x_iconst hF dX9_allGo_46 ?_
    refine lv_aload_n hx hb dX9_allGo_47 rfl (lk hl rfl) ?_
    refine x_getfield hF (ci := 10) in_X9 rfl 13 (by decide) q2264 (fun _ h => h) hM (MA_ob hP.1) (show rd _ _ _ = .int (iz (cGo w ld i).2) from by have h9 := MA_s13 hP.1; rw [e13] at h9; exact h9) dX9_allGo_48 ?_
    refine x_join (P := ∀ (H : Heap) (locs : List Loc), Mem E s H σ → Lc E locs → W p l e ({ frames := 3, cells := 0, slots := 0, locals := 69 } : Room) s m args below meth c H locs 0 0 (vx_MQ below (XQc E (fun v τ => v = some (.int (iz (wAllN z w0))) ∧ ME E σ0 o τ F (wAllW z w0))) (XXc E noX) args s 0 0 (XA E)) (F0 m 59 ls [.int (iz (cGo w ld i).2), .int (iz 4), .int (iz i), .ref o])) (fun jn => ?_) ?_
    · skip
      refine x_if_eq (tgt := 58) hF dX9_allGo_51 (by decide) (by first | exact Rg_in hk.1 _ | exact hz | (unfold inR; omega)) (fun c51 => ?_) (fun c51 => ?_)
      · skip
        refine x_iconst hF dX9_allGo_58 ?_
        first | (have e9 : (cGo w ld i).2 = 0 := by omega); rw [e9] at jn; exact jn _ _ hM hL | (have e9 : (cGo w ld i).2 = 1 := by omega); rw [e9] at jn; exact jn _ _ hM hL
      · skip
        refine x_iconst hF dX9_allGo_54 ?_
        refine x_goto (tgt := 59) hF dX9_allGo_55 (by decide) ?_
        first | (have e9 : (cGo w ld i).2 = 0 := by omega); rw [e9] at jn; exact jn _ _ hM hL | (have e9 : (cGo w ld i).2 = 1 := by omega); rw [e9] at jn; exact jn _ _ hM hL
    · intro H locs hM hL
      refine x_kn hL (vx_runV (As := [_, _, _]) hF.2.2.2.2.2.2.2.2.2 ((mX9_sets (by omega) (by omega) hP.1) hF.1) (cwV 3 hF.2.2.2.2.2.2.2.2.1 (lw_V q2444 q2446 qs71 q138 q2447) rfl rfl rfl (by decide +kernel) ⟨(Nat.le_of_ble_eq_true rfl), (Nat.le_of_ble_eq_true rfl)⟩) (x_preV hF hM (MA_ob hP.1) rfl) rfl rfl hl.1 rfl (lv_room (Nat.le_of_ble_eq_true rfl)) dX9_allGo_59 ⟨(Nat.le_of_ble_eq_true rfl), (Nat.le_of_ble_eq_true rfl)⟩) ?_
      rintro _ τ59 H locs ⟨rfl, hp⟩ hM hL
      refine MS_gen hM (MS_t hP hp) (fun σ hM hP => ?_)
      obtain ⟨F1, hP, e5, e12, eo⟩ : ML E σ0 o σ F (wUp w (79 + 6 * i + 4) (cGo w ld i).2) ld := ⟨_, hP, by rw [up2_as, stF_s, e5], by rw [up2_oth _ _ _ (by decide)]; exact e12, fun f h5 h12 h13 => (up2_oth _ _ _ h5).trans (eo f h5 h12 h13)⟩
      refine lv_aload_n hx hb dX9_allGo_62 rfl (lk hl rfl) ?_
      refine lv_iload_n hx hb dX9_allGo_63 rfl (lk hl rfl) ?_
      refine x_iconst hF dX9_allGo_64 ?_
      refine lv_iload hx hb dX9_allGo_65 (lk hl rfl) ?_
      refine x_join (P := ∀ (H : Heap) (locs : List Loc), Mem E s H σ → Lc E locs → W p l e ({ frames := 3, cells := 0, slots := 0, locals := 69 } : Room) s m args below meth c H locs 0 0 (vx_MQ below (XQc E (fun v τ => v = some (.int (iz (wAllN z w0))) ∧ ME E σ0 o τ F (wAllW z w0))) (XXc E noX) args s 0 0 (XA E)) (F0 m 82 ls [.int (iz (cAt w ld i)), .int (iz 2), .int (iz i), .ref o])) (fun jn => ?_) ?_
      · skip
        refine x_if_ge (tgt := 74) hF dX9_allGo_67 (by decide) (by first | exact Rg_in hk.1 _ | exact hz | (unfold inR; omega)) (fun c67 => ?_) (fun c67 => ?_)
        · skip
          refine lv_aload_n hx hb dX9_allGo_74 rfl (lk hl rfl) ?_
          refine lv_iload hx hb dX9_allGo_75 (lk hl rfl) ?_
          refine x_kp hL (vx_runV (As := [_]) hF.2.2.2.2.2.2.2.2.2 ((mX9_ownerAt (w := (wUp w (79 + 6 * i + 4) (cGo w ld i).2)) e5 (by omega) (by omega) hP.1) hF.1) (cwV 1 hF.2.2.2.2.2.2.2.2.1 (lw_V q2396 q2398 qs59 q138 q2399) rfl rfl rfl (by decide +kernel) ⟨(Nat.le_of_ble_eq_true rfl), (Nat.le_of_ble_eq_true rfl)⟩) (x_preV hF hM (MA_ob hP.1) rfl) rfl rfl hl.1 rfl (lv_room (Nat.le_of_ble_eq_true rfl)) dX9_allGo_77 ⟨(Nat.le_of_ble_eq_true rfl), (Nat.le_of_ble_eq_true rfl)⟩) (fun H locs hM hL => ?_)
          rw [wUp_o _ _ (by omega)]
          refine x_iconst hF dX9_allGo_80 ?_
          refine x_iadd hF dX9_allGo_81 ?_
          first | (have e9 : cAt w ld i = 0 := if_pos (by omega)); rw [e9] at jn; exact jn _ _ hM hL | (have e9 : cAt w ld i = w (29 + 2 * (cGo w ld i).1 + 1) + 1 := if_neg (by omega)); rw [e9] at jn; exact jn _ _ hM hL
        · skip
          refine x_iconst hF dX9_allGo_70 ?_
          refine x_goto (tgt := 82) hF dX9_allGo_71 (by decide) ?_
          first | (have e9 : cAt w ld i = 0 := if_pos (by omega)); rw [e9] at jn; exact jn _ _ hM hL | (have e9 : cAt w ld i = w (29 + 2 * (cGo w ld i).1 + 1) + 1 := if_neg (by omega)); rw [e9] at jn; exact jn _ _ hM hL
      · intro H locs hM hL
        refine x_kn hL (vx_runV (As := [_, _, _]) hF.2.2.2.2.2.2.2.2.2 ((mX9_sets (by omega) (by omega) hP.1) hF.1) (cwV 3 hF.2.2.2.2.2.2.2.2.1 (lw_V q2444 q2446 qs71 q138 q2447) rfl rfl rfl (by decide +kernel) ⟨(Nat.le_of_ble_eq_true rfl), (Nat.le_of_ble_eq_true rfl)⟩) (x_preV hF hM (MA_ob hP.1) rfl) rfl rfl hl.1 rfl (lv_room (Nat.le_of_ble_eq_true rfl)) dX9_allGo_82 ⟨(Nat.le_of_ble_eq_true rfl), (Nat.le_of_ble_eq_true rfl)⟩) ?_
        rintro _ τ82 H locs ⟨rfl, hp⟩ hM hL
        refine MS_gen hM (MS_t hP hp) (fun σ hM hP => ?_)
        obtain ⟨F1, hP, e5, e12, eo⟩ : ML E σ0 o σ F (wUp (wUp w (79 + 6 * i + 4) (cGo w ld i).2) (79 + 6 * i + 2) (cAt w ld i)) ld := ⟨_, hP, by rw [up2_as, stF_s, e5], by rw [up2_oth _ _ _ (by decide)]; exact e12, fun f h5 h12 h13 => (up2_oth _ _ _ h5).trans (eo f h5 h12 h13)⟩
        refine lv_aload_n hx hb dX9_allGo_85 rfl (lk hl rfl) ?_
        refine lv_iload_n hx hb dX9_allGo_86 rfl (lk hl rfl) ?_
        refine x_iconst hF dX9_allGo_87 ?_
        refine lv_iload hx hb dX9_allGo_88 (lk hl rfl) ?_
        refine x_join (P := ∀ (H : Heap) (locs : List Loc), Mem E s H σ → Lc E locs → W p l e ({ frames := 3, cells := 0, slots := 0, locals := 69 } : Room) s m args below meth c H locs 0 0 (vx_MQ below (XQc E (fun v τ => v = some (.int (iz (wAllN z w0))) ∧ ME E σ0 o τ F (wAllW z w0))) (XXc E noX) args s 0 0 (XA E)) (F0 m 105 ls [.int (iz (cBy w ld i)), .int (iz 3), .int (iz i), .ref o])) (fun jn => ?_) ?_
        · skip
          refine x_if_ge (tgt := 97) hF dX9_allGo_90 (by decide) (by first | exact Rg_in hk.1 _ | exact hz | (unfold inR; omega)) (fun c90 => ?_) (fun c90 => ?_)
          · skip
            refine lv_aload_n hx hb dX9_allGo_97 rfl (lk hl rfl) ?_
            refine lv_iload hx hb dX9_allGo_98 (lk hl rfl) ?_
            refine x_kp hL (vx_runV (As := [_]) hF.2.2.2.2.2.2.2.2.2 ((mX9_angleAt (w := (wUp (wUp w (79 + 6 * i + 4) (cGo w ld i).2) (79 + 6 * i + 2) (cAt w ld i))) e5 (by omega) (by omega) hP.1) hF.1) (cwV 1 hF.2.2.2.2.2.2.2.2.1 (lw_V q2392 q2394 qs58 q138 q2395) rfl rfl rfl (by decide +kernel) ⟨(Nat.le_of_ble_eq_true rfl), (Nat.le_of_ble_eq_true rfl)⟩) (x_preV hF hM (MA_ob hP.1) rfl) rfl rfl hl.1 rfl (lv_room (Nat.le_of_ble_eq_true rfl)) dX9_allGo_100 ⟨(Nat.le_of_ble_eq_true rfl), (Nat.le_of_ble_eq_true rfl)⟩) (fun H locs hM hL => ?_)
            rw [wUp_o _ _ (by omega), wUp_o _ _ (by omega)]
            refine x_iconst hF dX9_allGo_103 ?_
            refine x_iadd hF dX9_allGo_104 ?_
            first | (have e9 : cBy w ld i = 0 := if_pos (by omega)); rw [e9] at jn; exact jn _ _ hM hL | (have e9 : cBy w ld i = w (29 + 2 * (cGo w ld i).1) + 1 := if_neg (by omega)); rw [e9] at jn; exact jn _ _ hM hL
          · skip
            refine x_iconst hF dX9_allGo_93 ?_
            refine x_goto (tgt := 105) hF dX9_allGo_94 (by decide) ?_
            first | (have e9 : cBy w ld i = 0 := if_pos (by omega)); rw [e9] at jn; exact jn _ _ hM hL | (have e9 : cBy w ld i = w (29 + 2 * (cGo w ld i).1) + 1 := if_neg (by omega)); rw [e9] at jn; exact jn _ _ hM hL
        · intro H locs hM hL
          refine x_kn hL (vx_runV (As := [_, _, _]) hF.2.2.2.2.2.2.2.2.2 ((mX9_sets (by omega) (by omega) hP.1) hF.1) (cwV 3 hF.2.2.2.2.2.2.2.2.1 (lw_V q2444 q2446 qs71 q138 q2447) rfl rfl rfl (by decide +kernel) ⟨(Nat.le_of_ble_eq_true rfl), (Nat.le_of_ble_eq_true rfl)⟩) (x_preV hF hM (MA_ob hP.1) rfl) rfl rfl hl.1 rfl (lv_room (Nat.le_of_ble_eq_true rfl)) dX9_allGo_105 ⟨(Nat.le_of_ble_eq_true rfl), (Nat.le_of_ble_eq_true rfl)⟩) ?_
          rintro _ τ105 H locs ⟨rfl, hp⟩ hM hL
          refine MS_gen hM (MS_t hP hp) (fun σ hM hP => ?_)
          obtain ⟨F1, hP, e5, e12, eo⟩ : ML E σ0 o σ F (cW3 w ld i) ld := ⟨_, hP, by rw [up2_as, stF_s, e5]; rfl, by rw [up2_oth _ _ _ (by decide)]; exact e12, fun f h5 h12 h13 => (up2_oth _ _ _ h5).trans (eo f h5 h12 h13)⟩
          refine lv_iload hx hb dX9_allGo_108 (lk hl rfl) ?_
          refine x_join (P := ∀ (σ : Mm) (H : Heap) (locs : List Loc), Mem E s H σ → ML E σ0 o σ F (cW3 w ld i) (cLd w ld i) → Lc E locs → W p l e ({ frames := 3, cells := 0, slots := 0, locals := 69 } : Room) s m args below meth c H locs 0 0 (vx_MQ below (XQc E (fun v τ => v = some (.int (iz (wAllN z w0))) ∧ ME E σ0 o τ F (wAllW z w0))) (XXc E noX) args s 0 0 (XA E)) (F0 m 133 ls [])) (fun jn => ?_) ?_
          · skip
            refine x_if_lt (tgt := 133) hF dX9_allGo_110 (by decide) (by first | exact Rg_in hk.1 _ | exact hz | (unfold inR; omega)) (fun c110 => ?_) (fun c110 => ?_)
            · skip
              first | exact jn _ _ _ hM ⟨_, hP, e5, by rw [e12]; unfold cLd; rw [if_pos (by omega)], eo⟩ hL | exact jn _ _ _ hM ⟨_, hP, by rw [up2_oth _ _ _ (by decide)]; exact e5, by rw [up2_as, stF_s, e12]; unfold cLd; rw [if_neg (by omega)], fun f h5 h12 h13 => (up2_oth _ _ _ h12).trans (eo f h5 h12 h13)⟩ hL
            · skip
              refine lv_aload_n hx hb dX9_allGo_113 rfl (lk hl rfl) ?_
              refine x_getfield hF (ci := 10) in_X9 rfl 12 (by decide) q2263 (fun _ h => h) hM (MA_ob hP.1) (MA_f12 hP.1) dX9_allGo_114 ?_
              refine lv_aload_n hx hb dX9_allGo_117 rfl (lk hl rfl) ?_
              refine lv_iload hx hb dX9_allGo_118 (lk hl rfl) ?_
              refine x_kp hL (vx_runV (As := [_]) hF.2.2.2.2.2.2.2.2.2 ((mX9_ownerAt (w := (cW3 w ld i)) e5 (by omega) (by omega) hP.1) hF.1) (cwV 1 hF.2.2.2.2.2.2.2.2.1 (lw_V q2396 q2398 qs59 q138 q2399) rfl rfl rfl (by decide +kernel) ⟨(Nat.le_of_ble_eq_true rfl), (Nat.le_of_ble_eq_true rfl)⟩) (x_preV hF hM (MA_ob hP.1) rfl) rfl rfl hl.1 rfl (lv_room (Nat.le_of_ble_eq_true rfl)) dX9_allGo_120 ⟨(Nat.le_of_ble_eq_true rfl), (Nat.le_of_ble_eq_true rfl)⟩) (fun H locs hM hL => ?_)
              rw [cW3_lo w ld h0 (by omega)]
              refine lv_dup2_11 hx hb dX9_allGo_123 rfl rfl ?_
              refine x_iald hF hM (MA_a12 hP.1) (by omega) (by omega) (by decide) (show rd _ _ _ = .int (iz (ld _)) from by have h9 := MA_r12 hP.1; rw [e12] at h9; exact h9 _ (by omega) (by omega)) dX9_allGo_124 ?_
              refine lv_aload_n hx hb dX9_allGo_125 rfl (lk hl rfl) ?_
              refine lv_iload_n hx hb dX9_allGo_126 rfl (lk hl rfl) ?_
              refine x_iconst hF dX9_allGo_127 ?_
              refine x_kp hL (vx_runV (As := [_, _]) hF.2.2.2.2.2.2.2.2.2 ((mX9_of (w := (cW3 w ld i)) (e5) (by omega) (by omega) hP.1) hF.1) (cwV 2 hF.2.2.2.2.2.2.2.2.1 (lw_V q2420 q2422 qs65 q138 q2423) rfl rfl rfl (by decide +kernel) ⟨(Nat.le_of_ble_eq_true rfl), (Nat.le_of_ble_eq_true rfl)⟩) (x_preV hF hM (MA_ob hP.1) rfl) rfl rfl hl.1 rfl (lv_room (Nat.le_of_ble_eq_true rfl)) dX9_allGo_128 ⟨(Nat.le_of_ble_eq_true rfl), (Nat.le_of_ble_eq_true rfl)⟩) (fun H locs hM hL => ?_)
              rw [cW3_1]
              refine x_iadd hF dX9_allGo_131 ?_
              refine x_iast hF hM hL (MA_a12 hP.1) (by omega) (by omega) (by decide) dX9_allGo_132 (fun H locs hM hL => ?_)
              refine MS_gen hM (MS_q12 hM hP (by omega)) (fun σ hM hP => ?_)
              first | exact jn _ _ _ hM ⟨_, hP, e5, by rw [e12]; unfold cLd; rw [if_pos (by omega)], eo⟩ hL | exact jn _ _ _ hM ⟨_, hP, by rw [up2_oth _ _ _ (by decide)]; exact e5, by rw [up2_as, stF_s, e12]; unfold cLd; rw [if_neg (by omega)], fun f h5 h12 h13 => (up2_oth _ _ _ h12).trans (eo f h5 h12 h13)⟩ hL
          · intro σ H locs hM hP hL
            obtain ⟨F1, hP, e5, e12, eo⟩ := hP
            refine lv_aload_n hx hb dX9_allGo_133 rfl (lk hl rfl) ?_
            refine lv_iload_n hx hb dX9_allGo_134 rfl (lk hl rfl) ?_
            refine x_iconst hF dX9_allGo_135 ?_
            refine x_kp hL (vx_runV (As := [_, _]) hF.2.2.2.2.2.2.2.2.2 ((mX9_of (w := (cW3 w ld i)) (e5) (by omega) (by omega) hP.1) hF.1) (cwV 2 hF.2.2.2.2.2.2.2.2.1 (lw_V q2420 q2422 qs65 q138 q2423) rfl rfl rfl (by decide +kernel) ⟨(Nat.le_of_ble_eq_true rfl), (Nat.le_of_ble_eq_true rfl)⟩) (x_preV hF hM (MA_ob hP.1) rfl) rfl rfl hl.1 rfl (lv_room (Nat.le_of_ble_eq_true rfl)) dX9_allGo_136 ⟨(Nat.le_of_ble_eq_true rfl), (Nat.le_of_ble_eq_true rfl)⟩) (fun H locs hM hL => ?_)
            rw [cW3_2]
            refine lv_iload hx hb dX9_allGo_139 (lk hl rfl) ?_
            refine x_icmp_eq (tgt := 167) hF dX9_allGo_141 (by decide) (by first | exact Rg_in hk.1 _ | exact hz | (unfold inR; omega)) (by first | exact Rg_in hk.1 _ | exact hz | (unfold inR; omega)) (fun c141 => ?_) (fun c141 => ?_)
            · skip
              have hcs : cSame z w ld i = true := by unfold cSame; simp only [Bool.or_eq_true, beq_iff_eq]; exact Or.inl c141
              have hE : ML E σ0 o σ F (cW z w ld i) (cLd w ld i) := ⟨_, hP, by rw [e5]; unfold cW; rw [if_pos hcs], e12, eo⟩
              have hcn : cN z w ld i n1 = n1 := by unfold cN; rw [if_pos hcs]
              refine x_iinc hF dX9_allGo_167 hl rfl (by decide) rfl (fun ls hl => ?_)
              refine x_goto (tgt := 8) hF dX9_allGo_170 (by decide) ?_
              have hkW := Wk_cW hk z ld h0
              have hsm := Wsm_cW z w ld h0
              have hlW := cLd_r hk h0 (by omega) hld
              have hr2 : gAll z (i + 1) (cW z w ld i) (cLd w ld i) (cN z w ld i n1) ((cW z w ld i) 1 - (i + 1)).toNat = wAll z w0 := by
                rw [hsm.1 1 (by omega), ← hr]
                exact (gAll_1 (by omega)).symm
              rw [hcn] at hr2
              exact ih (i + 1) _ (cW z w ld i) (cLd w ld i) _ _ _ _ (by rw [hsm.1 1 (by omega)]; omega) (by omega) (by rw [hsm.1 1 (by omega)]; omega) hkW hlW (by omega) (by omega) hr2 hM hE hL (lh_sub hl rfl)
            · skip
              refine lv_iload_n hx hb dX9_allGo_144 rfl (lk hl rfl) ?_
              refine lv_iload_n hx hb dX9_allGo_145 rfl (lk hl rfl) ?_
              refine x_icmp_ne (tgt := 152) hF dX9_allGo_146 (by decide) (by first | exact Rg_in hk.1 _ | exact hz | (unfold inR; omega)) (by first | exact Rg_in hk.1 _ | exact hz | (unfold inR; omega)) (fun c146 => ?_) (fun c146 => ?_)
              · skip
                refine lv_aload_n hx hb dX9_allGo_152 rfl (lk hl rfl) ?_
                refine lv_iload_n hx hb dX9_allGo_153 rfl (lk hl rfl) ?_
                refine x_iconst hF dX9_allGo_154 ?_
                refine lv_aload_n hx hb dX9_allGo_155 rfl (lk hl rfl) ?_
                refine x_getfield hF (ci := 10) in_X9 rfl 5 (by decide) q2256 (fun _ h => h) hM (MA_ob hP.1) (MA_f5 hP.1) dX9_allGo_156 ?_
                refine x_iconst hF dX9_allGo_159 ?_
                refine x_iald hF hM (MA_a5 hP.1) (by omega) (by omega) (by decide) (show rd _ _ _ = .int (iz (w 2)) from by have h9 := MA_r5 hP.1 2 (by omega) (by omega); rw [e5, cW3_lo w ld h0 (by omega)] at h9; exact h9) dX9_allGo_160 ?_
                refine x_kn hL (vx_runV (As := [_, _, _]) hF.2.2.2.2.2.2.2.2.2 ((mX9_sets (by omega) (by omega) hP.1) hF.1) (cwV 3 hF.2.2.2.2.2.2.2.2.1 (lw_V q2444 q2446 qs71 q138 q2447) rfl rfl rfl (by decide +kernel) ⟨(Nat.le_of_ble_eq_true rfl), (Nat.le_of_ble_eq_true rfl)⟩) (x_preV hF hM (MA_ob hP.1) rfl) rfl rfl hl.1 rfl (lv_room (Nat.le_of_ble_eq_true rfl)) dX9_allGo_161 ⟨(Nat.le_of_ble_eq_true rfl), (Nat.le_of_ble_eq_true rfl)⟩) ?_
                rintro _ τ161 H locs ⟨rfl, hp⟩ hM hL
                refine MS_gen hM (MS_t hP hp) (fun σ hM hP => ?_)
                refine x_iinc hF dX9_allGo_164 hl rfl (by decide) rfl (fun ls hl => ?_)
                have hcs : ¬ cSame z w ld i = true := by unfold cSame; simp only [Bool.or_eq_true, beq_iff_eq]; exact fun q => q.elim c141 c146
                have hE : ML E σ0 o σ F (cW z w ld i) (cLd w ld i) := ⟨_, hP, by rw [up2_as, stF_s, e5]; unfold cW; rw [if_neg hcs], by rw [up2_oth _ _ _ (by decide)]; exact e12, fun f h5 h12 h13 => (up2_oth _ _ _ h5).trans (eo f h5 h12 h13)⟩
                have hcn : cN z w ld i n1 = n1 + 1 := by unfold cN; rw [if_neg hcs]
                refine x_iinc hF dX9_allGo_167 hl rfl (by decide) rfl (fun ls hl => ?_)
                refine x_goto (tgt := 8) hF dX9_allGo_170 (by decide) ?_
                have hkW := Wk_cW hk z ld h0
                have hsm := Wsm_cW z w ld h0
                have hlW := cLd_r hk h0 (by omega) hld
                have hr2 : gAll z (i + 1) (cW z w ld i) (cLd w ld i) (cN z w ld i n1) ((cW z w ld i) 1 - (i + 1)).toNat = wAll z w0 := by
                  rw [hsm.1 1 (by omega), ← hr]
                  exact (gAll_1 (by omega)).symm
                rw [hcn] at hr2
                exact ih (i + 1) _ (cW z w ld i) (cLd w ld i) _ _ _ _ (by rw [hsm.1 1 (by omega)]; omega) (by omega) (by rw [hsm.1 1 (by omega)]; omega) hkW hlW (by omega) (by omega) hr2 hM hE hL (lh_sub hl rfl)
              · skip
                refine x_goto (tgt := 167) hF dX9_allGo_149 (by decide) ?_
                have hcs : cSame z w ld i = true := by unfold cSame; simp only [Bool.or_eq_true, beq_iff_eq]; exact Or.inr c146
                have hE : ML E σ0 o σ F (cW z w ld i) (cLd w ld i) := ⟨_, hP, by rw [e5]; unfold cW; rw [if_pos hcs], e12, eo⟩
                have hcn : cN z w ld i n1 = n1 := by unfold cN; rw [if_pos hcs]
                refine x_iinc hF dX9_allGo_167 hl rfl (by decide) rfl (fun ls hl => ?_)
                refine x_goto (tgt := 8) hF dX9_allGo_170 (by decide) ?_
                have hkW := Wk_cW hk z ld h0
                have hsm := Wsm_cW z w ld h0
                have hlW := cLd_r hk h0 (by omega) hld
                have hr2 : gAll z (i + 1) (cW z w ld i) (cLd w ld i) (cN z w ld i n1) ((cW z w ld i) 1 - (i + 1)).toNat = wAll z w0 := by
                  rw [hsm.1 1 (by omega), ← hr]
                  exact (gAll_1 (by omega)).symm
                rw [hcn] at hr2
                exact ih (i + 1) _ (cW z w ld i) (cLd w ld i) _ _ _ _ (by rw [hsm.1 1 (by omega)]; omega) (by omega) (by rw [hsm.1 1 (by omega)]; omega) hkW hlW (by omega) (by omega) hr2 hM hE hL (lh_sub hl rfl)
