set_option maxHeartbeats 4000000 in
set_option maxRecDepth 100000 in
/-- BakeryRingModel.describe(I)I -/
theorem mX9_describe {l : Launch} {E : En} {σ0 : Mm} {o : Nat} {F : Nat → Int → Int} {w : Int → Int} (hw : F 5 = w) (hk : Wk w) {z : Int} (hz : inR z) (h8 : wSignsOf w z ≤ 8) (hP : MA E σ0 o F) : Ctr l E yX9_describe (ws_ yX9_describe cX9_describe 3 (some .int)) 3 66 0 0 [.ref o, .int (iz z)] σ0 (fun v τ => (¬ (0 ≤ z ∧ z ≤ w 0 - 1) → v = some (.int (iz 0)) ∧ QE E σ0 o τ F 1) ∧ ((0 ≤ z ∧ z ≤ w 0 - 1) → v = some (.int (iz ((wDesc w z).length : Int))) ∧ LW E σ0 o τ (up2 F 0 0 0) (wDesc w z))) noX := by
  refine x_head (own := RX9) (cc := cX9_describe) (maxL := 3) (ret := (some .int)) (by decide) rfl rfl (Nat.le_of_ble_eq_true rfl) ?_
  intro p e s m args below meth c H ls hF hname htab hM hl
  have hx := hF.2.2.1
  have hb := hF.2.2.2.1
  have hL : Lc E [] := lcNil
  have hl : lh ls 3 ([(0, .ref o), (1, .int (iz z))]) := hl
  refine MS_gen hM (MS_0 hP) (fun σ hM hP => ?_)
  have hk2 := hk.2.1
  refine lv_aload_n hx hb dX9_describe_0 rfl (lk hl rfl) ?_
  refine x_iconst hF dX9_describe_1 ?_
  refine x_putfield hF (ci := 10) in_X9 rfl tyX9_ok nmX9 0 (by decide) q2251 (fun _ h => h) rfl hM hL (MA_ob hP.1) (ty := .int) (by decide +kernel) rfl rfl dX9_describe_2 (fun H locs hM hL => ?_)
  refine MS_gen hM (MS_p0 hM hP) (fun σ hM hP => ?_)
  refine lv_aload_n hx hb dX9_describe_5 rfl (lk hl rfl) ?_
  refine lv_iload_n hx hb dX9_describe_6 rfl (lk hl rfl) ?_
  refine x_kp hL (vx_runV (As := [_]) hF.2.2.2.2.2.2.2.2.2 ((mX9_isBakery (w := w) (by rw [up2_oth _ _ _ (by decide)]; exact hw) hz hk.1 hP.1) hF.1) (cwV 1 hF.2.2.2.2.2.2.2.2.1 (lw_V q2377 q2379 qs55 q138 q2380) rfl rfl rfl (by decide +kernel) ⟨(Nat.le_of_ble_eq_true rfl), (Nat.le_of_ble_eq_true rfl)⟩) (x_preV hF hM (MA_ob hP.1) rfl) rfl rfl hl.1 rfl (lv_room (Nat.le_of_ble_eq_true rfl)) dX9_describe_7 ⟨(Nat.le_of_ble_eq_true rfl), (Nat.le_of_ble_eq_true rfl)⟩) (fun H locs hM hL => ?_)
  refine x_ifne_b (tgt := 19) hF dX9_describe_10 (by decide) (fun c10 => ?_) (fun c10 => ?_)
  · skip
    refine lv_aload_n hx hb dX9_describe_19 rfl (lk hl rfl) ?_
    refine x_iconst hF dX9_describe_20 ?_
    refine x_putfield hF (ci := 10) in_X9 rfl tyX9_ok nmX9 22 (by decide) q2273 (fun _ h => h) rfl hM hL (MA_ob hP.1) (ty := .int) (by decide +kernel) rfl rfl dX9_describe_21 (fun H locs hM hL => ?_)
    refine MS_gen hM (MS_p22 hM hP) (fun σ hM hP => ?_)
    have E5 : up2 F 0 0 0 5 = w := by rw [up2_oth _ _ _ (by decide)]; exact hw
    have eo : ∀ f : Nat, f ≠ 21 → f ≠ 22 → up2 (up2 F 0 0 0) 22 0 0 f = up2 F 0 0 0 f := fun f x y => up2_oth _ _ _ y
    have hln : Ln (up2 (up2 F 0 0 0) 22 0 0) [] := ⟨up2_s _ _ _ _, fun j hj => absurd hj (Nat.not_lt_zero _)⟩
    have hbz := hk.2.2.2.1 z (by omega) (by omega)
    have hlr := wLoadOf_r hk z
    have l1 := kindW_len (w (4 + 4 * z + 0))
    have l2 := dgs_len z
    have l3 := dgs_len (wLoadOf w z)
    have l4 := dgs_len (w (4 + 4 * z + 1))
    have l5 : ((if w (4 + 4 * z + 1) < wLoadOf w z then [33] else []) : List Int).length ≤ 1 := by split <;> simp
    have l6 : ((if w (4 + 4 * z + 2) = 0 then [] else [32, 115, 104, 117, 116]) : List Int).length ≤ 5 := by split <;> simp
    refine lv_aload_n hx hb dX9_describe_24 rfl (lk hl rfl) ?_
    refine lv_aload_n hx hb dX9_describe_25 rfl (lk hl rfl) ?_
    refine lv_iload_n hx hb dX9_describe_26 rfl (lk hl rfl) ?_
    refine x_iconst hF dX9_describe_27 ?_
    refine x_kp hL (vx_runV (As := [_, _]) hF.2.2.2.2.2.2.2.2.2 ((mX9_ofBakery (w := w) ((eo 5 (by decide) (by decide)).trans E5) (by omega) (by omega) hP.1) hF.1) (cwV 2 hF.2.2.2.2.2.2.2.2.1 (lw_V q2436 q2438 qs69 q138 q2439) rfl rfl rfl (by decide +kernel) ⟨(Nat.le_of_ble_eq_true rfl), (Nat.le_of_ble_eq_true rfl)⟩) (x_preV hF hM (MA_ob hP.1) rfl) rfl rfl hl.1 rfl (lv_room (Nat.le_of_ble_eq_true rfl)) dX9_describe_28 ⟨(Nat.le_of_ble_eq_true rfl), (Nat.le_of_ble_eq_true rfl)⟩) (fun H locs hM hL => ?_)
    refine x_kn hL (vx_runV (As := [_]) hF.2.2.2.2.2.2.2.2.2 ((mX9_writesKind (by omega) (by omega) hln (by show (0 : Nat) < 75; decide) hP.1) hF.1) (cwV 1 hF.2.2.2.2.2.2.2.2.1 (lw_V q2695 q2697 qs105 q138 q2698) rfl rfl rfl (by decide +kernel) ⟨(Nat.le_of_ble_eq_true rfl), (Nat.le_of_ble_eq_true rfl)⟩) (x_preV hF hM (MA_ob hP.1) rfl) rfl rfl hl.1 rfl (lv_room (Nat.le_of_ble_eq_true rfl)) dX9_describe_31 ⟨(Nat.le_of_ble_eq_true rfl), (Nat.le_of_ble_eq_true rfl)⟩) ?_
    rintro _ τ31 H locs ⟨rfl, hp⟩ hM hL
    obtain ⟨F2, hP2, hln, eo2⟩ := hp
    refine MS_gen hM (MS_t hP hP2) (fun σ hM hP => ?_)
    replace eo := fun f (x : f ≠ 21) (y : f ≠ 22) => (eo2 f x y).trans (eo f x y)
    refine lv_aload_n hx hb dX9_describe_34 rfl (lk hl rfl) ?_
    refine lv_iload_n hx hb dX9_describe_35 rfl (lk hl rfl) ?_
    refine x_kn hL (vx_runV (As := [_]) hF.2.2.2.2.2.2.2.2.2 ((mX9_writesNumber (by omega) (by omega) hln (by first | omega | (simp only [List.length_append, List.length_cons, List.length_nil]; omega)) hP.1) hF.1) (cwV 1 hF.2.2.2.2.2.2.2.2.1 (lw_V q2703 q2705 qs107 q138 q2706) rfl rfl rfl (by decide +kernel) ⟨(Nat.le_of_ble_eq_true rfl), (Nat.le_of_ble_eq_true rfl)⟩) (x_preV hF hM (MA_ob hP.1) rfl) rfl rfl hl.1 rfl (lv_room (Nat.le_of_ble_eq_true rfl)) dX9_describe_36 ⟨(Nat.le_of_ble_eq_true rfl), (Nat.le_of_ble_eq_true rfl)⟩) ?_
    rintro _ τ36 H locs ⟨rfl, hp⟩ hM hL
    obtain ⟨F2, hP2, hln, eo2⟩ := hp
    refine MS_gen hM (MS_t hP hP2) (fun σ hM hP => ?_)
    replace eo := fun f (x : f ≠ 21) (y : f ≠ 22) => (eo2 f x y).trans (eo f x y)
    refine lv_aload_n hx hb dX9_describe_39 rfl (lk hl rfl) ?_
    refine x_bipush hF (by decide) dX9_describe_40 ?_
    refine x_kn hL (vx_runV (As := [_]) hF.2.2.2.2.2.2.2.2.2 ((mX9_writes (by omega) (by omega) hln (by first | omega | (simp only [List.length_append, List.length_cons, List.length_nil]; omega)) hP.1) hF.1) (cwV 1 hF.2.2.2.2.2.2.2.2.1 (lw_V q2699 q2701 qs106 q138 q2702) rfl rfl rfl (by decide +kernel) ⟨(Nat.le_of_ble_eq_true rfl), (Nat.le_of_ble_eq_true rfl)⟩) (x_preV hF hM (MA_ob hP.1) rfl) rfl rfl hl.1 rfl (lv_room (Nat.le_of_ble_eq_true rfl)) dX9_describe_42 ⟨(Nat.le_of_ble_eq_true rfl), (Nat.le_of_ble_eq_true rfl)⟩) ?_
    rintro _ τ42 H locs ⟨rfl, hp⟩ hM hL
    obtain ⟨F2, hP2, hln, eo2⟩ := hp
    refine MS_gen hM (MS_t hP hP2) (fun σ hM hP => ?_)
    replace eo := fun f (x : f ≠ 21) (y : f ≠ 22) => (eo2 f x y).trans (eo f x y)
    refine lv_aload_n hx hb dX9_describe_45 rfl (lk hl rfl) ?_
    refine lv_aload_n hx hb dX9_describe_46 rfl (lk hl rfl) ?_
    refine lv_iload_n hx hb dX9_describe_47 rfl (lk hl rfl) ?_
    refine x_kp hL (vx_runV (As := [_]) hF.2.2.2.2.2.2.2.2.2 ((mX9_loadOf (w := w) ((eo 5 (by decide) (by decide)).trans E5) (by omega) (by omega) hk.1 (by omega) (by omega) hP.1) hF.1) (cwV 1 hF.2.2.2.2.2.2.2.2.1 (lw_V q2536 q2538 qs87 q138 q2539) rfl rfl rfl (by decide +kernel) ⟨(Nat.le_of_ble_eq_true rfl), (Nat.le_of_ble_eq_true rfl)⟩) (x_preV hF hM (MA_ob hP.1) rfl) rfl rfl hl.1 rfl (lv_room (Nat.le_of_ble_eq_true rfl)) dX9_describe_48 ⟨(Nat.le_of_ble_eq_true rfl), (Nat.le_of_ble_eq_true rfl)⟩) (fun H locs hM hL => ?_)
    refine x_kn hL (vx_runV (As := [_]) hF.2.2.2.2.2.2.2.2.2 ((mX9_writesNumber (by omega) (by omega) hln (by first | omega | (simp only [List.length_append, List.length_cons, List.length_nil]; omega)) hP.1) hF.1) (cwV 1 hF.2.2.2.2.2.2.2.2.1 (lw_V q2703 q2705 qs107 q138 q2706) rfl rfl rfl (by decide +kernel) ⟨(Nat.le_of_ble_eq_true rfl), (Nat.le_of_ble_eq_true rfl)⟩) (x_preV hF hM (MA_ob hP.1) rfl) rfl rfl hl.1 rfl (lv_room (Nat.le_of_ble_eq_true rfl)) dX9_describe_51 ⟨(Nat.le_of_ble_eq_true rfl), (Nat.le_of_ble_eq_true rfl)⟩) ?_
    rintro _ τ51 H locs ⟨rfl, hp⟩ hM hL
    obtain ⟨F2, hP2, hln, eo2⟩ := hp
    refine MS_gen hM (MS_t hP hP2) (fun σ hM hP => ?_)
    replace eo := fun f (x : f ≠ 21) (y : f ≠ 22) => (eo2 f x y).trans (eo f x y)
    refine lv_aload_n hx hb dX9_describe_54 rfl (lk hl rfl) ?_
    refine x_bipush hF (by decide) dX9_describe_55 ?_
    refine x_kn hL (vx_runV (As := [_]) hF.2.2.2.2.2.2.2.2.2 ((mX9_writes (by omega) (by omega) hln (by first | omega | (simp only [List.length_append, List.length_cons, List.length_nil]; omega)) hP.1) hF.1) (cwV 1 hF.2.2.2.2.2.2.2.2.1 (lw_V q2699 q2701 qs106 q138 q2702) rfl rfl rfl (by decide +kernel) ⟨(Nat.le_of_ble_eq_true rfl), (Nat.le_of_ble_eq_true rfl)⟩) (x_preV hF hM (MA_ob hP.1) rfl) rfl rfl hl.1 rfl (lv_room (Nat.le_of_ble_eq_true rfl)) dX9_describe_57 ⟨(Nat.le_of_ble_eq_true rfl), (Nat.le_of_ble_eq_true rfl)⟩) ?_
    rintro _ τ57 H locs ⟨rfl, hp⟩ hM hL
    obtain ⟨F2, hP2, hln, eo2⟩ := hp
    refine MS_gen hM (MS_t hP hP2) (fun σ hM hP => ?_)
    replace eo := fun f (x : f ≠ 21) (y : f ≠ 22) => (eo2 f x y).trans (eo f x y)
    refine lv_aload_n hx hb dX9_describe_60 rfl (lk hl rfl) ?_
    refine lv_aload_n hx hb dX9_describe_61 rfl (lk hl rfl) ?_
    refine lv_iload_n hx hb dX9_describe_62 rfl (lk hl rfl) ?_
    refine x_iconst hF dX9_describe_63 ?_
    refine x_kp hL (vx_runV (As := [_, _]) hF.2.2.2.2.2.2.2.2.2 ((mX9_ofBakery (w := w) ((eo 5 (by decide) (by decide)).trans E5) (by omega) (by omega) hP.1) hF.1) (cwV 2 hF.2.2.2.2.2.2.2.2.1 (lw_V q2436 q2438 qs69 q138 q2439) rfl rfl rfl (by decide +kernel) ⟨(Nat.le_of_ble_eq_true rfl), (Nat.le_of_ble_eq_true rfl)⟩) (x_preV hF hM (MA_ob hP.1) rfl) rfl rfl hl.1 rfl (lv_room (Nat.le_of_ble_eq_true rfl)) dX9_describe_64 ⟨(Nat.le_of_ble_eq_true rfl), (Nat.le_of_ble_eq_true rfl)⟩) (fun H locs hM hL => ?_)
    refine x_kn hL (vx_runV (As := [_]) hF.2.2.2.2.2.2.2.2.2 ((mX9_writesNumber (by omega) (by omega) hln (by first | omega | (simp only [List.length_append, List.length_cons, List.length_nil]; omega)) hP.1) hF.1) (cwV 1 hF.2.2.2.2.2.2.2.2.1 (lw_V q2703 q2705 qs107 q138 q2706) rfl rfl rfl (by decide +kernel) ⟨(Nat.le_of_ble_eq_true rfl), (Nat.le_of_ble_eq_true rfl)⟩) (x_preV hF hM (MA_ob hP.1) rfl) rfl rfl hl.1 rfl (lv_room (Nat.le_of_ble_eq_true rfl)) dX9_describe_67 ⟨(Nat.le_of_ble_eq_true rfl), (Nat.le_of_ble_eq_true rfl)⟩) ?_
    rintro _ τ67 H locs ⟨rfl, hp⟩ hM hL
    obtain ⟨F2, hP2, hln, eo2⟩ := hp
    refine MS_gen hM (MS_t hP hP2) (fun σ hM hP => ?_)
    replace eo := fun f (x : f ≠ 21) (y : f ≠ 22) => (eo2 f x y).trans (eo f x y)
    refine lv_aload_n hx hb dX9_describe_70 rfl (lk hl rfl) ?_
    refine lv_iload_n hx hb dX9_describe_71 rfl (lk hl rfl) ?_
    refine x_kp hL (vx_runV (As := [_]) hF.2.2.2.2.2.2.2.2.2 ((mX9_isOverloaded (w := w) ((eo 5 (by decide) (by decide)).trans E5) hk (by omega) (by omega) hP.1) hF.1) (cwV 1 hF.2.2.2.2.2.2.2.2.1 (lw_V q2540 q2542 qs88 q138 q2543) rfl rfl rfl (by decide +kernel) ⟨(Nat.le_of_ble_eq_true rfl), (Nat.le_of_ble_eq_true rfl)⟩) (x_preV hF hM (MA_ob hP.1) rfl) rfl rfl hl.1 rfl (lv_room (Nat.le_of_ble_eq_true rfl)) dX9_describe_72 ⟨(Nat.le_of_ble_eq_true rfl), (Nat.le_of_ble_eq_true rfl)⟩) (fun H locs hM hL => ?_)
    refine x_join (P := ∀ (σ : Mm) (H : Heap) (locs : List Loc), Mem E s H σ → LW E σ0 o σ (up2 F 0 0 0) ((((((kindW (w (4 + 4 * z + 0)) ++ dgs z) ++ [58]) ++ dgs (wLoadOf w z)) ++ [47]) ++ dgs (w (4 + 4 * z + 1))) ++ (if w (4 + 4 * z + 1) < wLoadOf w z then [33] else [])) → Lc E locs → W p l e ({ frames := 3, cells := 0, slots := 0, locals := 66 } : Room) s m args below meth c H locs 0 0 (vx_MQ below (XQc E (fun v τ => (¬ (0 ≤ z ∧ z ≤ w 0 - 1) → v = some (.int (iz 0)) ∧ QE E σ0 o τ F 1) ∧ ((0 ≤ z ∧ z ≤ w 0 - 1) → v = some (.int (iz ((wDesc w z).length : Int))) ∧ LW E σ0 o τ (up2 F 0 0 0) (wDesc w z)))) (XXc E noX) args s 0 0 (XA E)) (F0 m 84 ls [])) (fun jn => ?_) ?_
    · skip
      refine x_ifeq_b (tgt := 84) hF dX9_describe_75 (by decide) (fun c75 => ?_) (fun c75 => ?_)
      · skip
        first | exact jn _ _ _ hM (LW_c ⟨_, hP, hln, eo⟩ (by rw [if_pos c75]; rfl)) hL | exact jn _ _ _ hM (LW_c ⟨_, hP, hln, eo⟩ (by rw [if_neg c75, List.append_nil]; rfl)) hL
      · skip
        refine lv_aload_n hx hb dX9_describe_78 rfl (lk hl rfl) ?_
        refine x_bipush hF (by decide) dX9_describe_79 ?_
        refine x_kn hL (vx_runV (As := [_]) hF.2.2.2.2.2.2.2.2.2 ((mX9_writes (by omega) (by omega) hln (by first | omega | (simp only [List.length_append, List.length_cons, List.length_nil]; omega)) hP.1) hF.1) (cwV 1 hF.2.2.2.2.2.2.2.2.1 (lw_V q2699 q2701 qs106 q138 q2702) rfl rfl rfl (by decide +kernel) ⟨(Nat.le_of_ble_eq_true rfl), (Nat.le_of_ble_eq_true rfl)⟩) (x_preV hF hM (MA_ob hP.1) rfl) rfl rfl hl.1 rfl (lv_room (Nat.le_of_ble_eq_true rfl)) dX9_describe_81 ⟨(Nat.le_of_ble_eq_true rfl), (Nat.le_of_ble_eq_true rfl)⟩) ?_
        rintro _ τ81 H locs ⟨rfl, hp⟩ hM hL
        obtain ⟨F2, hP2, hln, eo2⟩ := hp
        refine MS_gen hM (MS_t hP hP2) (fun σ hM hP => ?_)
        replace eo := fun f (x : f ≠ 21) (y : f ≠ 22) => (eo2 f x y).trans (eo f x y)
        first | exact jn _ _ _ hM (LW_c ⟨_, hP, hln, eo⟩ (by rw [if_pos c75]; rfl)) hL | exact jn _ _ _ hM (LW_c ⟨_, hP, hln, eo⟩ (by rw [if_neg c75, List.append_nil]; rfl)) hL
    · intro σ H locs hM hP hL
      obtain ⟨F1, hP, hln, eo⟩ := hP
      refine lv_aload_n hx hb dX9_describe_84 rfl (lk hl rfl) ?_
      refine lv_iload_n hx hb dX9_describe_85 rfl (lk hl rfl) ?_
      refine x_kp hL (vx_runV (As := [_]) hF.2.2.2.2.2.2.2.2.2 ((mX9_isOpen (w := w) ((eo 5 (by decide) (by decide)).trans E5) (by omega) (by omega) hk.1 hP.1) hF.1) (cwV 1 hF.2.2.2.2.2.2.2.2.1 (lw_V q2432 q2434 qs68 q138 q2435) rfl rfl rfl (by decide +kernel) ⟨(Nat.le_of_ble_eq_true rfl), (Nat.le_of_ble_eq_true rfl)⟩) (x_preV hF hM (MA_ob hP.1) rfl) rfl rfl hl.1 rfl (lv_room (Nat.le_of_ble_eq_true rfl)) dX9_describe_86 ⟨(Nat.le_of_ble_eq_true rfl), (Nat.le_of_ble_eq_true rfl)⟩) (fun H locs hM hL => ?_)
      refine x_join (P := ∀ (σ : Mm) (H : Heap) (locs : List Loc), Mem E s H σ → LW E σ0 o σ (up2 F 0 0 0) (((((((kindW (w (4 + 4 * z + 0)) ++ dgs z) ++ [58]) ++ dgs (wLoadOf w z)) ++ [47]) ++ dgs (w (4 + 4 * z + 1))) ++ (if w (4 + 4 * z + 1) < wLoadOf w z then [33] else [])) ++ (if w (4 + 4 * z + 2) = 0 then [] else [32, 115, 104, 117, 116])) → Lc E locs → W p l e ({ frames := 3, cells := 0, slots := 0, locals := 66 } : Room) s m args below meth c H locs 0 0 (vx_MQ below (XQc E (fun v τ => (¬ (0 ≤ z ∧ z ≤ w 0 - 1) → v = some (.int (iz 0)) ∧ QE E σ0 o τ F 1) ∧ ((0 ≤ z ∧ z ≤ w 0 - 1) → v = some (.int (iz ((wDesc w z).length : Int))) ∧ LW E σ0 o τ (up2 F 0 0 0) (wDesc w z)))) (XXc E noX) args s 0 0 (XA E)) (F0 m 96 ls [])) (fun jn => ?_) ?_
      · skip
        refine x_ifne_b (tgt := 96) hF dX9_describe_89 (by decide) (fun c89 => ?_) (fun c89 => ?_)
        · skip
          first | exact jn _ _ _ hM (LW_c ⟨_, hP, hln, eo⟩ (by rw [if_pos (c := w (4 + 4 * z + 2) = 0) c89, List.append_nil])) hL | exact jn _ _ _ hM (LW_c ⟨_, hP, hln, eo⟩ (by rw [if_neg (c := w (4 + 4 * z + 2) = 0) c89])) hL
        · skip
          refine lv_aload_n hx hb dX9_describe_92 rfl (lk hl rfl) ?_
          refine x_kn hL (vx_runV (As := []) hF.2.2.2.2.2.2.2.2.2 ((mX9_writesShut hln (by first | omega | (simp only [List.length_append, List.length_cons, List.length_nil]; omega)) hP.1) hF.1) (cwV 0 hF.2.2.2.2.2.2.2.2.1 (lw_V q2707 q2709 qs108 q138 q2710) rfl rfl rfl (by decide +kernel) ⟨(Nat.le_of_ble_eq_true rfl), (Nat.le_of_ble_eq_true rfl)⟩) (x_preV hF hM (MA_ob hP.1) rfl) rfl rfl hl.1 rfl (lv_room (Nat.le_of_ble_eq_true rfl)) dX9_describe_93 ⟨(Nat.le_of_ble_eq_true rfl), (Nat.le_of_ble_eq_true rfl)⟩) ?_
          rintro _ τ93 H locs ⟨rfl, hp⟩ hM hL
          obtain ⟨F2, hP2, hln, eo2⟩ := hp
          refine MS_gen hM (MS_t hP hP2) (fun σ hM hP => ?_)
          replace eo := fun f (x : f ≠ 21) (y : f ≠ 22) => (eo2 f x y).trans (eo f x y)
          first | exact jn _ _ _ hM (LW_c ⟨_, hP, hln, eo⟩ (by rw [if_pos (c := w (4 + 4 * z + 2) = 0) c89, List.append_nil])) hL | exact jn _ _ _ hM (LW_c ⟨_, hP, hln, eo⟩ (by rw [if_neg (c := w (4 + 4 * z + 2) = 0) c89])) hL
      · intro σ H locs hM hP hL
        refine x_iconst hF dX9_describe_96 ?_
        refine x_istore_n hF dX9_describe_97 rfl hl (by decide) rfl (fun ls hl => ?_)
        suffices loop : ∀ (n : Nat) (i : Int) (σ : Mm) (H : Heap) (locs : List Loc) (ls : Array Slot), w 28 - i < (n : Int) → (0 ≤ i) → (i ≤ w 28) → Mem E s H σ → LW E σ0 o σ (up2 F 0 0 0) ((((((((kindW (w (4 + 4 * z + 0)) ++ dgs z) ++ [58]) ++ dgs (wLoadOf w z)) ++ [47]) ++ dgs (w (4 + 4 * z + 1))) ++ (if w (4 + 4 * z + 1) < wLoadOf w z then [33] else [])) ++ (if w (4 + 4 * z + 2) = 0 then [] else [32, 115, 104, 117, 116])) ++ sgN w z i.toNat) → Lc E locs → lh ls 3 [(0, .ref o), (1, .int (iz z)), (2, .int (iz i))] → W p l e ({ frames := 3, cells := 0, slots := 0, locals := 66 } : Room) s m args below meth c H locs 0 0 (vx_MQ below (XQc E (fun v τ => (¬ (0 ≤ z ∧ z ≤ w 0 - 1) → v = some (.int (iz 0)) ∧ QE E σ0 o τ F 1) ∧ ((0 ≤ z ∧ z ≤ w 0 - 1) → v = some (.int (iz ((wDesc w z).length : Int))) ∧ LW E σ0 o τ (up2 F 0 0 0) (wDesc w z)))) (XXc E noX) args s 0 0 (XA E)) (F0 m 98 ls []) from loop (26) 0 _ _ _ _ (by omega) (by omega) (by omega) hM (LW_c hP (List.append_nil _).symm) hL (lh_sub hl rfl)
        refine nat_loop (fun i σ H locs ls hmm h0 h1 => absurd hmm (by omega)) (fun n ih i σ H locs ls hmm h0 h1 hM hP hL hl => ?_)
        obtain ⟨F1, hP, hln, eo⟩ := hP
        refine lv_iload_n hx hb dX9_describe_98 rfl (lk hl rfl) ?_
        refine lv_aload_n hx hb dX9_describe_99 rfl (lk hl rfl) ?_
        refine x_getfield hF (ci := 10) in_X9 rfl 5 (by decide) q2256 (fun _ h => h) hM (MA_ob hP.1) (MA_f5 hP.1) dX9_describe_100 ?_
        refine x_bipush hF (by decide) dX9_describe_103 ?_
        refine x_iald hF hM (MA_a5 hP.1) (by omega) (by omega) (by decide) (show rd _ _ _ = .int (iz (w _)) from by have h9 := MA_r5 hP.1; rw [eo 5 (by decide) (by decide), E5] at h9; exact h9 _ (by omega) (by omega)) dX9_describe_105 ?_
        refine x_icmp_ge (tgt := 142) hF dX9_describe_106 (by decide) (by first | exact Rg_in hk.1 _ | assumption | (unfold inR; omega)) (by first | exact Rg_in hk.1 _ | assumption | (unfold inR; omega)) (fun c106 => ?_) (fun c106 => ?_)
        · skip
          refine lv_aload_n hx hb dX9_describe_142 rfl (lk hl rfl) ?_
          refine x_getfield hF (ci := 10) in_X9 rfl 22 (by decide) q2273 (fun _ h => h) hM (MA_ob hP.1) (show rd _ _ _ = .int (iz ((wDesc w z).length : Int)) from by have h9 := MA_s22 hP.1; rw [hln.1] at h9; (have e9 : wDesc w z = (((((((kindW (w (4 + 4 * z + 0)) ++ dgs z) ++ [58]) ++ dgs (wLoadOf w z)) ++ [47]) ++ dgs (w (4 + 4 * z + 1))) ++ (if w (4 + 4 * z + 1) < wLoadOf w z then [33] else [])) ++ (if w (4 + 4 * z + 2) = 0 then [] else [32, 115, 104, 117, 116])) ++ sgN w z i.toNat := by (show wDesc w z = _); unfold wDesc; rw [show i = w 28 by omega]); rw [e9]; exact h9) dX9_describe_143 ?_
          exact x_ireturn hF hM hL rfl (Nat.le_of_ble_eq_true rfl) (Nat.le_of_ble_eq_true rfl) ⟨fun q => absurd (by omega) q, fun _ => ⟨rfl, LW_c ⟨_, hP, hln, eo⟩ (by unfold wDesc; rw [show i = w 28 by omega])⟩⟩ dX9_describe_146
        · skip
          have how := hk.2.2.1 i h0 (by omega)
          refine lv_aload_n hx hb dX9_describe_109 rfl (lk hl rfl) ?_
          refine lv_iload_n hx hb dX9_describe_110 rfl (lk hl rfl) ?_
          refine x_kp hL (vx_runV (As := [_]) hF.2.2.2.2.2.2.2.2.2 ((mX9_ownerAt (w := w) ((eo 5 (by decide) (by decide)).trans E5) (by omega) (by omega) hP.1) hF.1) (cwV 1 hF.2.2.2.2.2.2.2.2.1 (lw_V q2396 q2398 qs59 q138 q2399) rfl rfl rfl (by decide +kernel) ⟨(Nat.le_of_ble_eq_true rfl), (Nat.le_of_ble_eq_true rfl)⟩) (x_preV hF hM (MA_ob hP.1) rfl) rfl rfl hl.1 rfl (lv_room (Nat.le_of_ble_eq_true rfl)) dX9_describe_111 ⟨(Nat.le_of_ble_eq_true rfl), (Nat.le_of_ble_eq_true rfl)⟩) (fun H locs hM hL => ?_)
          refine lv_iload_n hx hb dX9_describe_114 rfl (lk hl rfl) ?_
          refine x_icmp_eq (tgt := 121) hF dX9_describe_115 (by decide) (by first | exact Rg_in hk.1 _ | assumption | (unfold inR; omega)) (by first | exact Rg_in hk.1 _ | assumption | (unfold inR; omega)) (fun c115 => ?_) (fun c115 => ?_)
          · skip
            have lsg := sgN_len w z i.toNat
            rw [Int.toNat_of_nonneg h0] at lsg
            have lsm := sm_mono (f := fun k => if w (29 + 2 * k + 1) = z then 1 else 0) (fun j => by (show 0 ≤ (if w (29 + 2 * j + 1) = z then (1 : Int) else 0)); split <;> omega) (show i + 1 ≤ w 28 by omega)
            rw [sm_1 _ h0] at lsm
            change _ ≤ wSignsOf w z at lsm
            have ldg := dgs_len (w (29 + 2 * i))
            refine lv_aload_n hx hb dX9_describe_121 rfl (lk hl rfl) ?_
            refine x_bipush hF (by decide) dX9_describe_122 ?_
            refine x_kn hL (vx_runV (As := [_]) hF.2.2.2.2.2.2.2.2.2 ((mX9_writes (by omega) (by omega) hln (by first | omega | (simp only [List.length_append, List.length_cons, List.length_nil]; omega)) hP.1) hF.1) (cwV 1 hF.2.2.2.2.2.2.2.2.1 (lw_V q2699 q2701 qs106 q138 q2702) rfl rfl rfl (by decide +kernel) ⟨(Nat.le_of_ble_eq_true rfl), (Nat.le_of_ble_eq_true rfl)⟩) (x_preV hF hM (MA_ob hP.1) rfl) rfl rfl hl.1 rfl (lv_room (Nat.le_of_ble_eq_true rfl)) dX9_describe_124 ⟨(Nat.le_of_ble_eq_true rfl), (Nat.le_of_ble_eq_true rfl)⟩) ?_
            rintro _ τ124 H locs ⟨rfl, hp⟩ hM hL
            obtain ⟨F2, hP2, hln, eo2⟩ := hp
            refine MS_gen hM (MS_t hP hP2) (fun σ hM hP => ?_)
            replace eo := fun f (x : f ≠ 21) (y : f ≠ 22) => (eo2 f x y).trans (eo f x y)
            refine lv_aload_n hx hb dX9_describe_127 rfl (lk hl rfl) ?_
            refine lv_aload_n hx hb dX9_describe_128 rfl (lk hl rfl) ?_
            refine lv_iload_n hx hb dX9_describe_129 rfl (lk hl rfl) ?_
            refine x_kp hL (vx_runV (As := [_]) hF.2.2.2.2.2.2.2.2.2 ((mX9_angleAt (w := w) ((eo 5 (by decide) (by decide)).trans E5) (by omega) (by omega) hP.1) hF.1) (cwV 1 hF.2.2.2.2.2.2.2.2.1 (lw_V q2392 q2394 qs58 q138 q2395) rfl rfl rfl (by decide +kernel) ⟨(Nat.le_of_ble_eq_true rfl), (Nat.le_of_ble_eq_true rfl)⟩) (x_preV hF hM (MA_ob hP.1) rfl) rfl rfl hl.1 rfl (lv_room (Nat.le_of_ble_eq_true rfl)) dX9_describe_130 ⟨(Nat.le_of_ble_eq_true rfl), (Nat.le_of_ble_eq_true rfl)⟩) (fun H locs hM hL => ?_)
            refine x_kn hL (vx_runV (As := [_]) hF.2.2.2.2.2.2.2.2.2 ((mX9_writesNumber (by omega) (by omega) hln (by first | omega | (simp only [List.length_append, List.length_cons, List.length_nil]; omega)) hP.1) hF.1) (cwV 1 hF.2.2.2.2.2.2.2.2.1 (lw_V q2703 q2705 qs107 q138 q2706) rfl rfl rfl (by decide +kernel) ⟨(Nat.le_of_ble_eq_true rfl), (Nat.le_of_ble_eq_true rfl)⟩) (x_preV hF hM (MA_ob hP.1) rfl) rfl rfl hl.1 rfl (lv_room (Nat.le_of_ble_eq_true rfl)) dX9_describe_133 ⟨(Nat.le_of_ble_eq_true rfl), (Nat.le_of_ble_eq_true rfl)⟩) ?_
            rintro _ τ133 H locs ⟨rfl, hp⟩ hM hL
            obtain ⟨F2, hP2, hln, eo2⟩ := hp
            refine MS_gen hM (MS_t hP hP2) (fun σ hM hP => ?_)
            replace eo := fun f (x : f ≠ 21) (y : f ≠ 22) => (eo2 f x y).trans (eo f x y)
            refine x_iinc hF dX9_describe_136 hl rfl (by decide) rfl (fun ls hl => ?_)
            refine x_goto (tgt := 98) hF dX9_describe_139 (by decide) ?_
            first | exact ih (i + 1) _ _ _ _ (by omega) (by omega) (by omega) hM (LW_c ⟨_, hP, hln, eo⟩ (by rw [sgN_s h0, if_neg c115, List.append_nil])) hL (lh_sub hl rfl) | exact ih (i + 1) _ _ _ _ (by omega) (by omega) (by omega) hM (LW_c ⟨_, hP, hln, eo⟩ (by rw [sgN_s h0, if_pos c115]; simp only [List.append_assoc])) hL (lh_sub hl rfl)
          · skip
            refine x_goto (tgt := 136) hF dX9_describe_118 (by decide) ?_
            refine x_iinc hF dX9_describe_136 hl rfl (by decide) rfl (fun ls hl => ?_)
            refine x_goto (tgt := 98) hF dX9_describe_139 (by decide) ?_
            first | exact ih (i + 1) _ _ _ _ (by omega) (by omega) (by omega) hM (LW_c ⟨_, hP, hln, eo⟩ (by rw [sgN_s h0, if_neg c115, List.append_nil])) hL (lh_sub hl rfl) | exact ih (i + 1) _ _ _ _ (by omega) (by omega) (by omega) hM (LW_c ⟨_, hP, hln, eo⟩ (by rw [sgN_s h0, if_pos c115]; simp only [List.append_assoc])) hL (lh_sub hl rfl)
  · skip
    refine lv_aload_n hx hb dX9_describe_13 rfl (lk hl rfl) ?_
    refine x_iconst hF dX9_describe_14 ?_
    refine x_kn hL (vx_runV (As := [_]) hF.2.2.2.2.2.2.2.2.2 ((mX9_fails hP.1) hF.1) (cwV 1 hF.2.2.2.2.2.2.2.2.1 (lw_V q2337 q2339 qs46 q138 q2340) rfl rfl rfl (by decide +kernel) ⟨(Nat.le_of_ble_eq_true rfl), (Nat.le_of_ble_eq_true rfl)⟩) (x_preV hF hM (MA_ob hP.1) rfl) rfl rfl hl.1 rfl (lv_room (Nat.le_of_ble_eq_true rfl)) dX9_describe_15 ⟨(Nat.le_of_ble_eq_true rfl), (Nat.le_of_ble_eq_true rfl)⟩) ?_
    rintro _ τ15 H locs ⟨rfl, hp⟩ hM hL
    refine MS_gen hM (MS_t hP hp) (fun σ hM hP => ?_)
    exact x_ireturn hF hM hL rfl (Nat.le_of_ble_eq_true rfl) (Nat.le_of_ble_eq_true rfl) ⟨fun _ => ⟨rfl, QE_1 hP⟩, fun q => absurd q (by omega)⟩ dX9_describe_18
set_option maxHeartbeats 4000000 in
set_option maxRecDepth 100000 in
/-- BakeryRingModel.<init>()V -/
theorem mX9_init {l : Launch} {E : En} {σ0 : Mm} {o : Nat} (hO : Ob E σ0 o 10) (hsz : sz σ0 = o + 1) (hv : ∀ f, rd σ0 o f = defaultValue (tyX9 f)) : Ctr l E yX9_init (ws_ yX9_init cX9_init 1 none) 1 12 10 2341 [.ref o] σ0 (fun v τ => v = none ∧ MA E τ o mNew ∧ Fr (fun b _ => b = o) σ0 τ ∧ sz τ = o + 11) noX := by
  refine x_head (own := RX9) (cc := cX9_init) (maxL := 1) (ret := none) (by decide) rfl rfl (Nat.le_of_ble_eq_true rfl) ?_
  intro p e s m args below meth c H ls hF hname htab hM hl
  have hx := hF.2.2.1
  have hb := hF.2.2.2.1
  have hL : Lc E [] := lcNil
  have hl : lh ls 1 ([(0, .ref o)]) := hl
  have hP : PI E σ0 σ0 o 0 (fun f => defaultValue (tyX9 f)) (fun _ => (.int, 0)) := ⟨⟨hO, hsz, frRefl _ _⟩, hv, fun i hi => absurd hi (Nat.not_lt_zero _)⟩
  refine lv_aload_n hx hb dX9_init_0 rfl (lk hl rfl) ?_
  refine x_objInit hF hl q2250 q176 q177 (Nat.le_of_ble_eq_true rfl) (Nat.le_of_ble_eq_true rfl) dX9_init_1 ?_
  refine lv_aload_n hx hb dX9_init_4 rfl (lk hl rfl) ?_
  refine x_iconst hF dX9_init_5 ?_
  refine x_newarray (ty := .int) (n := 2) hF rfl q361 (fun _ h => h) rfl (by decide) (by decide) hM (Nat.le_of_ble_eq_true rfl) (Nat.le_of_ble_eq_true rfl) dX9_init_6 (fun H hM => ?_)
  refine x_putfieldF hF (ci := 10) in_X9 rfl tyX9_ok nmX9 1 (by decide) q2252 (fun _ h => h) rfl hname rfl hM hL (obN hP.1.1) (ty := .array .int) (by decide +kernel) rfl rfl dX9_init_8 (fun H locs hM hL => ?_)
  refine x_gen (P := fun σ => PI E σ0 σ o 1 _ _) hM (PI_1 hP hsz 1 2 rfl) (fun σ hM hP => ?_)
  refine lv_aload_n hx hb dX9_init_11 rfl (lk hl rfl) ?_
  refine x_iconst hF dX9_init_12 ?_
  refine x_newarray (ty := .int) (n := 2) hF rfl q361 (fun _ h => h) rfl (by decide) (by decide) hM (Nat.le_of_ble_eq_true rfl) (Nat.le_of_ble_eq_true rfl) dX9_init_13 (fun H hM => ?_)
  refine x_putfieldF hF (ci := 10) in_X9 rfl tyX9_ok nmX9 2 (by decide) q2253 (fun _ h => h) rfl hname rfl hM hL (obN hP.1.1) (ty := .array .int) (by decide +kernel) rfl rfl dX9_init_15 (fun H locs hM hL => ?_)
  refine x_gen (P := fun σ => PI E σ0 σ o 2 _ _) hM (PI_1 hP hsz 2 2 rfl) (fun σ hM hP => ?_)
  refine lv_aload_n hx hb dX9_init_18 rfl (lk hl rfl) ?_
  refine x_sipush hF (by decide) dX9_init_19 ?_
  refine x_newarray (ty := .int) (n := 199) hF rfl q361 (fun _ h => h) rfl (by decide) (by decide) hM (Nat.le_of_ble_eq_true rfl) (Nat.le_of_ble_eq_true rfl) dX9_init_22 (fun H hM => ?_)
  refine x_putfieldF hF (ci := 10) in_X9 rfl tyX9_ok nmX9 5 (by decide) q2256 (fun _ h => h) rfl hname rfl hM hL (obN hP.1.1) (ty := .array .int) (by decide +kernel) rfl rfl dX9_init_24 (fun H locs hM hL => ?_)
  refine x_gen (P := fun σ => PI E σ0 σ o 3 _ _) hM (PI_1 hP hsz 5 199 rfl) (fun σ hM hP => ?_)
  refine lv_aload_n hx hb dX9_init_27 rfl (lk hl rfl) ?_
  refine x_sipush hF (by decide) dX9_init_28 ?_
  refine x_newarray (ty := .int) (n := 1592) hF rfl q361 (fun _ h => h) rfl (by decide) (by decide) hM (Nat.le_of_ble_eq_true rfl) (Nat.le_of_ble_eq_true rfl) dX9_init_31 (fun H hM => ?_)
  refine x_putfieldF hF (ci := 10) in_X9 rfl tyX9_ok nmX9 6 (by decide) q2257 (fun _ h => h) rfl hname rfl hM hL (obN hP.1.1) (ty := .array .int) (by decide +kernel) rfl rfl dX9_init_33 (fun H locs hM hL => ?_)
  refine x_gen (P := fun σ => PI E σ0 σ o 4 _ _) hM (PI_1 hP hsz 6 1592 rfl) (fun σ hM hP => ?_)
  refine lv_aload_n hx hb dX9_init_36 rfl (lk hl rfl) ?_
  refine x_sipush hF (by decide) dX9_init_37 ?_
  refine x_newarray (ty := .int) (n := 199) hF rfl q361 (fun _ h => h) rfl (by decide) (by decide) hM (Nat.le_of_ble_eq_true rfl) (Nat.le_of_ble_eq_true rfl) dX9_init_40 (fun H hM => ?_)
  refine x_putfieldF hF (ci := 10) in_X9 rfl tyX9_ok nmX9 7 (by decide) q2258 (fun _ h => h) rfl hname rfl hM hL (obN hP.1.1) (ty := .array .int) (by decide +kernel) rfl rfl dX9_init_42 (fun H locs hM hL => ?_)
  refine x_gen (P := fun σ => PI E σ0 σ o 5 _ _) hM (PI_1 hP hsz 7 199 rfl) (fun σ hM hP => ?_)
  refine lv_aload_n hx hb dX9_init_45 rfl (lk hl rfl) ?_
  refine x_sipush hF (by decide) dX9_init_46 ?_
  refine x_newarray (ty := .int) (n := 199) hF rfl q361 (fun _ h => h) rfl (by decide) (by decide) hM (Nat.le_of_ble_eq_true rfl) (Nat.le_of_ble_eq_true rfl) dX9_init_49 (fun H hM => ?_)
  refine x_putfieldF hF (ci := 10) in_X9 rfl tyX9_ok nmX9 8 (by decide) q2259 (fun _ h => h) rfl hname rfl hM hL (obN hP.1.1) (ty := .array .int) (by decide +kernel) rfl rfl dX9_init_51 (fun H locs hM hL => ?_)
  refine x_gen (P := fun σ => PI E σ0 σ o 6 _ _) hM (PI_1 hP hsz 8 199 rfl) (fun σ hM hP => ?_)
  refine lv_aload_n hx hb dX9_init_54 rfl (lk hl rfl) ?_
  refine x_bipush hF (by decide) dX9_init_55 ?_
  refine x_newarray (ty := .int) (n := 6) hF rfl q361 (fun _ h => h) rfl (by decide) (by decide) hM (Nat.le_of_ble_eq_true rfl) (Nat.le_of_ble_eq_true rfl) dX9_init_57 (fun H hM => ?_)
  refine x_putfieldF hF (ci := 10) in_X9 rfl tyX9_ok nmX9 12 (by decide) q2263 (fun _ h => h) rfl hname rfl hM hL (obN hP.1.1) (ty := .array .int) (by decide +kernel) rfl rfl dX9_init_59 (fun H locs hM hL => ?_)
  refine x_gen (P := fun σ => PI E σ0 σ o 7 _ _) hM (PI_1 hP hsz 12 6 rfl) (fun σ hM hP => ?_)
  refine lv_aload_n hx hb dX9_init_62 rfl (lk hl rfl) ?_
  refine x_bipush hF (by decide) dX9_init_63 ?_
  refine x_newarray (ty := .char) (n := 60) hF rfl q2321 (fun _ h => h) rfl (by decide) (by decide) hM (Nat.le_of_ble_eq_true rfl) (Nat.le_of_ble_eq_true rfl) dX9_init_65 (fun H hM => ?_)
  refine x_putfieldF hF (ci := 10) in_X9 rfl tyX9_ok nmX9 14 (by decide) q2265 (fun _ h => h) rfl hname rfl hM hL (obN hP.1.1) (ty := .array .char) (by decide +kernel) rfl rfl dX9_init_67 (fun H locs hM hL => ?_)
  refine x_gen (P := fun σ => PI E σ0 σ o 8 _ _) hM (PI_1 hP hsz 14 60 rfl) (fun σ hM hP => ?_)
  refine lv_aload_n hx hb dX9_init_70 rfl (lk hl rfl) ?_
  refine x_iconst hF dX9_init_71 ?_
  refine x_putfield hF (ci := 10) in_X9 rfl tyX9_ok nmX9 17 (by decide) q2268 (fun _ h => h) rfl hM hL hP.1.1 (ty := .int) (by decide +kernel) rfl rfl dX9_init_72 (fun H locs hM hL => ?_)
  refine x_gen (P := fun σ => PI E σ0 σ o 8 _ _) hM (PI_2 hP 17 _) (fun σ hM hP => ?_)
  refine lv_aload_n hx hb dX9_init_75 rfl (lk hl rfl) ?_
  refine x_iconst hF dX9_init_76 ?_
  refine x_newarray (ty := .int) (n := 2) hF rfl q361 (fun _ h => h) rfl (by decide) (by decide) hM (Nat.le_of_ble_eq_true rfl) (Nat.le_of_ble_eq_true rfl) dX9_init_77 (fun H hM => ?_)
  refine x_putfieldF hF (ci := 10) in_X9 rfl tyX9_ok nmX9 18 (by decide) q2269 (fun _ h => h) rfl hname rfl hM hL (obN hP.1.1) (ty := .array .int) (by decide +kernel) rfl rfl dX9_init_79 (fun H locs hM hL => ?_)
  refine x_gen (P := fun σ => PI E σ0 σ o 9 _ _) hM (PI_1 hP hsz 18 2 rfl) (fun σ hM hP => ?_)
  refine lv_aload_n hx hb dX9_init_82 rfl (lk hl rfl) ?_
  refine x_bipush hF (by decide) dX9_init_83 ?_
  refine x_newarray (ty := .char) (n := 80) hF rfl q2321 (fun _ h => h) rfl (by decide) (by decide) hM (Nat.le_of_ble_eq_true rfl) (Nat.le_of_ble_eq_true rfl) dX9_init_85 (fun H hM => ?_)
  refine x_putfieldF hF (ci := 10) in_X9 rfl tyX9_ok nmX9 21 (by decide) q2272 (fun _ h => h) rfl hname rfl hM hL (obN hP.1.1) (ty := .array .char) (by decide +kernel) rfl rfl dX9_init_87 (fun H locs hM hL => ?_)
  refine x_gen (P := fun σ => PI E σ0 σ o 10 _ _) hM (PI_1 hP hsz 21 80 rfl) (fun σ hM hP => ?_)
  exact x_return hF hM hL (Nat.le_of_ble_eq_true rfl) (Nat.le_of_ble_eq_true rfl) ⟨rfl, ⟨hP.1.1, (hP.2.1 1).trans rfl, (hP.2.1 2).trans rfl, (hP.2.1 5).trans rfl, (hP.2.1 6).trans rfl, (hP.2.1 7).trans rfl, (hP.2.1 8).trans rfl, (hP.2.1 12).trans rfl, (hP.2.1 14).trans rfl, (hP.2.1 18).trans rfl, (hP.2.1 21).trans rfl, (hP.2.2 0 (by decide)).1, (hP.2.2 1 (by decide)).1, (hP.2.2 2 (by decide)).1, (hP.2.2 3 (by decide)).1, (hP.2.2 4 (by decide)).1, (hP.2.2 5 (by decide)).1, (hP.2.2 6 (by decide)).1, (hP.2.2 7 (by decide)).1, (hP.2.2 8 (by decide)).1, (hP.2.2 9 (by decide)).1, (hP.2.1 0).trans rfl, (hP.2.1 3).trans rfl, (hP.2.1 4).trans rfl, (hP.2.1 9).trans rfl, (hP.2.1 10).trans rfl, (hP.2.1 11).trans rfl, (hP.2.1 13).trans rfl, (hP.2.1 15).trans rfl, (hP.2.1 16).trans rfl, (hP.2.1 17).trans rfl, (hP.2.1 19).trans rfl, (hP.2.1 20).trans rfl, (hP.2.1 22).trans rfl, fun j _ _ => (hP.2.2 0 (by decide)).2 _, fun j _ _ => (hP.2.2 1 (by decide)).2 _, fun j _ _ => (hP.2.2 2 (by decide)).2 _, fun j _ _ => (hP.2.2 3 (by decide)).2 _, fun j _ _ => (hP.2.2 4 (by decide)).2 _, fun j _ _ => (hP.2.2 5 (by decide)).2 _, fun j _ _ => (hP.2.2 6 (by decide)).2 _, fun j _ _ => (hP.2.2 7 (by decide)).2 _, fun j _ _ => (hP.2.2 8 (by decide)).2 _, fun j _ _ => (hP.2.2 9 (by decide)).2 _⟩, hP.1.2.2, hP.1.2.1⟩ dX9_init_90
