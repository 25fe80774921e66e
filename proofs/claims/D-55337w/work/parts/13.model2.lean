set_option maxHeartbeats 4000000 in
set_option maxRecDepth 100000 in
/-- BakeryRingModel.ofBakery(II)I -/
theorem mX9_ofBakery {l : Launch} {E : En} {σ0 : Mm} {o : Nat} {F : Nat → Int → Int} {w : Int → Int} (hw : F 5 = w) {z a : Int} (h0 : 0 ≤ 4 + 4 * z + a) (h1 : 4 + 4 * z + a < 199) (hP : MA E σ0 o F) : Ctr l E yX9_ofBakery (ws_ yX9_ofBakery cX9_ofBakery 3 (some .int)) 0 0 0 0 [.ref o, .int (iz z), .int (iz a)] σ0 (fun v τ => v = some (.int (iz (w (4 + 4 * z + a)))) ∧ τ = σ0) noX := by
  subst hw
  refine x_head (own := RX9) (cc := cX9_ofBakery) (maxL := 3) (ret := (some .int)) (by decide) rfl rfl (Nat.le_of_ble_eq_true rfl) ?_
  intro p e s m args below meth c H ls hF hname htab hM hl
  have hx := hF.2.2.1
  have hb := hF.2.2.2.1
  have hL : Lc E [] := lcNil
  have hl : lh ls 3 ([(0, .ref o), (1, .int (iz z)), (2, .int (iz a))]) := hl
  refine lv_aload_n hx hb dX9_ofBakery_0 rfl (lk hl rfl) ?_
  refine x_getfield hF (ci := 10) in_X9 rfl 5 (by decide) q2256 (fun _ h => h) hM (MA_ob hP) (MA_f5 hP) dX9_ofBakery_1 ?_
  refine x_iconst hF dX9_ofBakery_4 ?_
  refine x_iconst hF dX9_ofBakery_5 ?_
  refine lv_iload_n hx hb dX9_ofBakery_6 rfl (lk hl rfl) ?_
  refine x_imul hF dX9_ofBakery_7 ?_
  refine x_iadd hF dX9_ofBakery_8 ?_
  refine lv_iload_n hx hb dX9_ofBakery_9 rfl (lk hl rfl) ?_
  refine x_iadd hF dX9_ofBakery_10 ?_
  refine x_iald hF hM (MA_a5 hP) (by omega) (by omega) (by decide) (show rd _ _ _ = .int (iz (F 5 _)) from by have h9 := MA_r5 hP; exact h9 _ (by omega) (by omega)) dX9_ofBakery_11 ?_
  exact x_ireturn hF hM hL rfl (Nat.le_of_ble_eq_true rfl) (Nat.le_of_ble_eq_true rfl) ⟨by first | rfl | rw [if_pos (by omega)] | rw [if_neg (by omega)], rfl⟩ dX9_ofBakery_12
set_option maxHeartbeats 4000000 in
set_option maxRecDepth 100000 in
/-- BakeryRingModel.setsBakery(III)V -/
theorem mX9_setsBakery {l : Launch} {E : En} {σ0 : Mm} {o : Nat} {F : Nat → Int → Int} {z a b : Int} (h0 : 0 ≤ 4 + 4 * z + a) (h1 : 4 + 4 * z + a < 199) (hP : MA E σ0 o F) : Ctr l E yX9_setsBakery (ws_ yX9_setsBakery cX9_setsBakery 4 none) 0 0 0 0 [.ref o, .int (iz z), .int (iz a), .int (iz b)] σ0 (fun v τ => v = none ∧ MS E σ0 o τ (up2 F 5 (4 + 4 * z + a) b)) noX := by
  refine x_head (own := RX9) (cc := cX9_setsBakery) (maxL := 4) (ret := none) (by decide) rfl rfl (Nat.le_of_ble_eq_true rfl) ?_
  intro p e s m args below meth c H ls hF hname htab hM hl
  have hx := hF.2.2.1
  have hb := hF.2.2.2.1
  have hL : Lc E [] := lcNil
  have hl : lh ls 4 ([(0, .ref o), (1, .int (iz z)), (2, .int (iz a)), (3, .int (iz b))]) := hl
  refine MS_gen hM (MS_0 hP) (fun σ hM hP => ?_)
  refine lv_aload_n hx hb dX9_setsBakery_0 rfl (lk hl rfl) ?_
  refine x_getfield hF (ci := 10) in_X9 rfl 5 (by decide) q2256 (fun _ h => h) hM (MA_ob hP.1) (MA_f5 hP.1) dX9_setsBakery_1 ?_
  refine x_iconst hF dX9_setsBakery_4 ?_
  refine x_iconst hF dX9_setsBakery_5 ?_
  refine lv_iload_n hx hb dX9_setsBakery_6 rfl (lk hl rfl) ?_
  refine x_imul hF dX9_setsBakery_7 ?_
  refine x_iadd hF dX9_setsBakery_8 ?_
  refine lv_iload_n hx hb dX9_setsBakery_9 rfl (lk hl rfl) ?_
  refine x_iadd hF dX9_setsBakery_10 ?_
  refine lv_iload_n hx hb dX9_setsBakery_11 rfl (lk hl rfl) ?_
  refine x_iast hF hM hL (MA_a5 hP.1) (by omega) (by omega) (by decide) dX9_setsBakery_12 (fun H locs hM hL => ?_)
  refine MS_gen hM (MS_q5 hM hP (by omega)) (fun σ hM hP => ?_)
  exact x_return hF hM hL (Nat.le_of_ble_eq_true rfl) (Nat.le_of_ble_eq_true rfl) ⟨rfl, hP⟩ dX9_setsBakery_13
set_option maxHeartbeats 4000000 in
set_option maxRecDepth 100000 in
/-- BakeryRingModel.of(II)I -/
theorem mX9_of {l : Launch} {E : En} {σ0 : Mm} {o : Nat} {F : Nat → Int → Int} {w : Int → Int} (hw : F 5 = w) {z a : Int} (h0 : 0 ≤ 79 + 6 * z + a) (h1 : 79 + 6 * z + a < 199) (hP : MA E σ0 o F) : Ctr l E yX9_of (ws_ yX9_of cX9_of 3 (some .int)) 0 0 0 0 [.ref o, .int (iz z), .int (iz a)] σ0 (fun v τ => v = some (.int (iz (w (79 + 6 * z + a)))) ∧ τ = σ0) noX := by
  subst hw
  refine x_head (own := RX9) (cc := cX9_of) (maxL := 3) (ret := (some .int)) (by decide) rfl rfl (Nat.le_of_ble_eq_true rfl) ?_
  intro p e s m args below meth c H ls hF hname htab hM hl
  have hx := hF.2.2.1
  have hb := hF.2.2.2.1
  have hL : Lc E [] := lcNil
  have hl : lh ls 3 ([(0, .ref o), (1, .int (iz z)), (2, .int (iz a))]) := hl
  refine lv_aload_n hx hb dX9_of_0 rfl (lk hl rfl) ?_
  refine x_getfield hF (ci := 10) in_X9 rfl 5 (by decide) q2256 (fun _ h => h) hM (MA_ob hP) (MA_f5 hP) dX9_of_1 ?_
  refine x_bipush hF (by decide) dX9_of_4 ?_
  refine x_bipush hF (by decide) dX9_of_6 ?_
  refine lv_iload_n hx hb dX9_of_8 rfl (lk hl rfl) ?_
  refine x_imul hF dX9_of_9 ?_
  refine x_iadd hF dX9_of_10 ?_
  refine lv_iload_n hx hb dX9_of_11 rfl (lk hl rfl) ?_
  refine x_iadd hF dX9_of_12 ?_
  refine x_iald hF hM (MA_a5 hP) (by omega) (by omega) (by decide) (show rd _ _ _ = .int (iz (F 5 _)) from by have h9 := MA_r5 hP; exact h9 _ (by omega) (by omega)) dX9_of_13 ?_
  exact x_ireturn hF hM hL rfl (Nat.le_of_ble_eq_true rfl) (Nat.le_of_ble_eq_true rfl) ⟨by first | rfl | rw [if_pos (by omega)] | rw [if_neg (by omega)], rfl⟩ dX9_of_14
set_option maxHeartbeats 4000000 in
set_option maxRecDepth 100000 in
/-- BakeryRingModel.sets(III)V -/
theorem mX9_sets {l : Launch} {E : En} {σ0 : Mm} {o : Nat} {F : Nat → Int → Int} {z a b : Int} (h0 : 0 ≤ 79 + 6 * z + a) (h1 : 79 + 6 * z + a < 199) (hP : MA E σ0 o F) : Ctr l E yX9_sets (ws_ yX9_sets cX9_sets 4 none) 0 0 0 0 [.ref o, .int (iz z), .int (iz a), .int (iz b)] σ0 (fun v τ => v = none ∧ MS E σ0 o τ (up2 F 5 (79 + 6 * z + a) b)) noX := by
  refine x_head (own := RX9) (cc := cX9_sets) (maxL := 4) (ret := none) (by decide) rfl rfl (Nat.le_of_ble_eq_true rfl) ?_
  intro p e s m args below meth c H ls hF hname htab hM hl
  have hx := hF.2.2.1
  have hb := hF.2.2.2.1
  have hL : Lc E [] := lcNil
  have hl : lh ls 4 ([(0, .ref o), (1, .int (iz z)), (2, .int (iz a)), (3, .int (iz b))]) := hl
  refine MS_gen hM (MS_0 hP) (fun σ hM hP => ?_)
  refine lv_aload_n hx hb dX9_sets_0 rfl (lk hl rfl) ?_
  refine x_getfield hF (ci := 10) in_X9 rfl 5 (by decide) q2256 (fun _ h => h) hM (MA_ob hP.1) (MA_f5 hP.1) dX9_sets_1 ?_
  refine x_bipush hF (by decide) dX9_sets_4 ?_
  refine x_bipush hF (by decide) dX9_sets_6 ?_
  refine lv_iload_n hx hb dX9_sets_8 rfl (lk hl rfl) ?_
  refine x_imul hF dX9_sets_9 ?_
  refine x_iadd hF dX9_sets_10 ?_
  refine lv_iload_n hx hb dX9_sets_11 rfl (lk hl rfl) ?_
  refine x_iadd hF dX9_sets_12 ?_
  refine lv_iload_n hx hb dX9_sets_13 rfl (lk hl rfl) ?_
  refine x_iast hF hM hL (MA_a5 hP.1) (by omega) (by omega) (by decide) dX9_sets_14 (fun H locs hM hL => ?_)
  refine MS_gen hM (MS_q5 hM hP (by omega)) (fun σ hM hP => ?_)
  exact x_return hF hM hL (Nat.le_of_ble_eq_true rfl) (Nat.le_of_ble_eq_true rfl) ⟨rfl, hP⟩ dX9_sets_15
set_option maxHeartbeats 4000000 in
set_option maxRecDepth 100000 in
/-- BakeryRingModel.angleAt(I)I -/
theorem mX9_angleAt {l : Launch} {E : En} {σ0 : Mm} {o : Nat} {F : Nat → Int → Int} {w : Int → Int} (hw : F 5 = w) {z : Int} (h0 : 0 ≤ 29 + 2 * z) (h1 : 29 + 2 * z < 199) (hP : MA E σ0 o F) : Ctr l E yX9_angleAt (ws_ yX9_angleAt cX9_angleAt 2 (some .int)) 0 0 0 0 [.ref o, .int (iz z)] σ0 (fun v τ => v = some (.int (iz (w (29 + 2 * z)))) ∧ τ = σ0) noX := by
  subst hw
  refine x_head (own := RX9) (cc := cX9_angleAt) (maxL := 2) (ret := (some .int)) (by decide) rfl rfl (Nat.le_of_ble_eq_true rfl) ?_
  intro p e s m args below meth c H ls hF hname htab hM hl
  have hx := hF.2.2.1
  have hb := hF.2.2.2.1
  have hL : Lc E [] := lcNil
  have hl : lh ls 2 ([(0, .ref o), (1, .int (iz z))]) := hl
  refine lv_aload_n hx hb dX9_angleAt_0 rfl (lk hl rfl) ?_
  refine x_getfield hF (ci := 10) in_X9 rfl 5 (by decide) q2256 (fun _ h => h) hM (MA_ob hP) (MA_f5 hP) dX9_angleAt_1 ?_
  refine x_bipush hF (by decide) dX9_angleAt_4 ?_
  refine x_iconst hF dX9_angleAt_6 ?_
  refine lv_iload_n hx hb dX9_angleAt_7 rfl (lk hl rfl) ?_
  refine x_imul hF dX9_angleAt_8 ?_
  refine x_iadd hF dX9_angleAt_9 ?_
  refine x_iald hF hM (MA_a5 hP) (by omega) (by omega) (by decide) (show rd _ _ _ = .int (iz (F 5 _)) from by have h9 := MA_r5 hP; exact h9 _ (by omega) (by omega)) dX9_angleAt_10 ?_
  exact x_ireturn hF hM hL rfl (Nat.le_of_ble_eq_true rfl) (Nat.le_of_ble_eq_true rfl) ⟨by first | rfl | rw [if_pos (by omega)] | rw [if_neg (by omega)], rfl⟩ dX9_angleAt_11
set_option maxHeartbeats 4000000 in
set_option maxRecDepth 100000 in
/-- BakeryRingModel.ownerAt(I)I -/
theorem mX9_ownerAt {l : Launch} {E : En} {σ0 : Mm} {o : Nat} {F : Nat → Int → Int} {w : Int → Int} (hw : F 5 = w) {z : Int} (h0 : 0 ≤ 29 + 2 * z + 1) (h1 : 29 + 2 * z + 1 < 199) (hP : MA E σ0 o F) : Ctr l E yX9_ownerAt (ws_ yX9_ownerAt cX9_ownerAt 2 (some .int)) 0 0 0 0 [.ref o, .int (iz z)] σ0 (fun v τ => v = some (.int (iz (w (29 + 2 * z + 1)))) ∧ τ = σ0) noX := by
  subst hw
  refine x_head (own := RX9) (cc := cX9_ownerAt) (maxL := 2) (ret := (some .int)) (by decide) rfl rfl (Nat.le_of_ble_eq_true rfl) ?_
  intro p e s m args below meth c H ls hF hname htab hM hl
  have hx := hF.2.2.1
  have hb := hF.2.2.2.1
  have hL : Lc E [] := lcNil
  have hl : lh ls 2 ([(0, .ref o), (1, .int (iz z))]) := hl
  refine lv_aload_n hx hb dX9_ownerAt_0 rfl (lk hl rfl) ?_
  refine x_getfield hF (ci := 10) in_X9 rfl 5 (by decide) q2256 (fun _ h => h) hM (MA_ob hP) (MA_f5 hP) dX9_ownerAt_1 ?_
  refine x_bipush hF (by decide) dX9_ownerAt_4 ?_
  refine x_iconst hF dX9_ownerAt_6 ?_
  refine lv_iload_n hx hb dX9_ownerAt_7 rfl (lk hl rfl) ?_
  refine x_imul hF dX9_ownerAt_8 ?_
  refine x_iadd hF dX9_ownerAt_9 ?_
  refine x_iconst hF dX9_ownerAt_10 ?_
  refine x_iadd hF dX9_ownerAt_11 ?_
  refine x_iald hF hM (MA_a5 hP) (by omega) (by omega) (by decide) (show rd _ _ _ = .int (iz (F 5 _)) from by have h9 := MA_r5 hP; exact h9 _ (by omega) (by omega)) dX9_ownerAt_12 ?_
  exact x_ireturn hF hM hL rfl (Nat.le_of_ble_eq_true rfl) (Nat.le_of_ble_eq_true rfl) ⟨by first | rfl | rw [if_pos (by omega)] | rw [if_neg (by omega)], rfl⟩ dX9_ownerAt_13
set_option maxHeartbeats 4000000 in
set_option maxRecDepth 100000 in
/-- BakeryRingModel.isOpen(I)Z -/
theorem mX9_isOpen {l : Launch} {E : En} {σ0 : Mm} {o : Nat} {F : Nat → Int → Int} {w : Int → Int} (hw : F 5 = w) {z : Int} (h0 : 0 ≤ z) (h1 : z < 6) (hR : Rg w) (hP : MA E σ0 o F) : Ctr l E yX9_isOpen (ws_ yX9_isOpen cX9_isOpen 2 (some .boolean)) 1 22 0 0 [.ref o, .int (iz z)] σ0 (fun v τ => v = some (.int (iz (if w (4 + 4 * z + 2) = 0 then 1 else 0))) ∧ τ = σ0) noX := by
  subst hw
  refine x_head (own := RX9) (cc := cX9_isOpen) (maxL := 2) (ret := (some .boolean)) (by decide) rfl rfl (Nat.le_of_ble_eq_true rfl) ?_
  intro p e s m args below meth c H ls hF hname htab hM hl
  have hx := hF.2.2.1
  have hb := hF.2.2.2.1
  have hL : Lc E [] := lcNil
  have hl : lh ls 2 ([(0, .ref o), (1, .int (iz z))]) := hl
  refine lv_aload_n hx hb dX9_isOpen_0 rfl (lk hl rfl) ?_
  refine lv_iload_n hx hb dX9_isOpen_1 rfl (lk hl rfl) ?_
  refine x_iconst hF dX9_isOpen_2 ?_
  refine x_kp hL (vx_runV (As := [_, _]) hF.2.2.2.2.2.2.2.2.2 ((mX9_ofBakery rfl (by omega) (by omega) hP) hF.1) (cwV 2 hF.2.2.2.2.2.2.2.2.1 (lw_V q2436 q2438 qs69 q138 q2439) rfl rfl rfl (by decide +kernel) ⟨(Nat.le_of_ble_eq_true rfl), (Nat.le_of_ble_eq_true rfl)⟩) (x_preV hF hM (MA_ob hP) rfl) rfl rfl hl.1 rfl (lv_room (Nat.le_of_ble_eq_true rfl)) dX9_isOpen_3 ⟨(Nat.le_of_ble_eq_true rfl), (Nat.le_of_ble_eq_true rfl)⟩) (fun H locs hM hL => ?_)
  refine x_if_ne (tgt := 13) hF dX9_isOpen_6 (by decide) (by first | exact Rg_in hR _ | assumption | (unfold inR; omega)) (fun c6 => ?_) (fun c6 => ?_)
  · skip
    refine x_iconst hF dX9_isOpen_13 ?_
    exact x_ireturn hF hM hL (by rfl) (Nat.le_of_ble_eq_true rfl) (Nat.le_of_ble_eq_true rfl) ⟨by first | rw [if_pos (by assumption)] | rw [if_neg (by assumption)], rfl⟩ dX9_isOpen_14
  · skip
    refine x_iconst hF dX9_isOpen_9 ?_
    refine x_goto (tgt := 14) hF dX9_isOpen_10 (by decide) ?_
    exact x_ireturn hF hM hL (by rfl) (Nat.le_of_ble_eq_true rfl) (Nat.le_of_ble_eq_true rfl) ⟨by first | rw [if_pos (by assumption)] | rw [if_neg (by assumption)], rfl⟩ dX9_isOpen_14
set_option maxHeartbeats 4000000 in
set_option maxRecDepth 100000 in
/-- BakeryRingModel.roomOf(I)I -/
theorem mX9_roomOf {l : Launch} {E : En} {σ0 : Mm} {o : Nat} {F : Nat → Int → Int} {w : Int → Int} (hw : F 5 = w) {z : Int} (h0 : 0 ≤ z) (h1 : z < 6) (hR : Rg w) (hv : 0 ≤ w (4 + 4 * z + 1)) (hP : MA E σ0 o F) : Ctr l E yX9_roomOf (ws_ yX9_roomOf cX9_roomOf 3 (some .int)) 1 22 0 0 [.ref o, .int (iz z)] σ0 (fun v τ => v = some (.int (iz (wRoom (w) z))) ∧ τ = σ0) noX := by
  subst hw
  refine x_head (own := RX9) (cc := cX9_roomOf) (maxL := 3) (ret := (some .int)) (by decide) rfl rfl (Nat.le_of_ble_eq_true rfl) ?_
  intro p e s m args below meth c H ls hF hname htab hM hl
  have hx := hF.2.2.1
  have hb := hF.2.2.2.1
  have hL : Lc E [] := lcNil
  have hl : lh ls 3 ([(0, .ref o), (1, .int (iz z))]) := hl
  refine lv_aload_n hx hb dX9_roomOf_0 rfl (lk hl rfl) ?_
  refine lv_iload_n hx hb dX9_roomOf_1 rfl (lk hl rfl) ?_
  refine x_iconst hF dX9_roomOf_2 ?_
  refine x_kp hL (vx_runV (As := [_, _]) hF.2.2.2.2.2.2.2.2.2 ((mX9_ofBakery rfl (by omega) (by omega) hP) hF.1) (cwV 2 hF.2.2.2.2.2.2.2.2.1 (lw_V q2436 q2438 qs69 q138 q2439) rfl rfl rfl (by decide +kernel) ⟨(Nat.le_of_ble_eq_true rfl), (Nat.le_of_ble_eq_true rfl)⟩) (x_preV hF hM (MA_ob hP) rfl) rfl rfl hl.1 rfl (lv_room (Nat.le_of_ble_eq_true rfl)) dX9_roomOf_3 ⟨(Nat.le_of_ble_eq_true rfl), (Nat.le_of_ble_eq_true rfl)⟩) (fun H locs hM hL => ?_)
  refine x_istore_n hF dX9_roomOf_6 rfl hl (by decide) rfl (fun ls hl => ?_)
  refine lv_aload_n hx hb dX9_roomOf_7 rfl (lk hl rfl) ?_
  refine lv_iload_n hx hb dX9_roomOf_8 rfl (lk hl rfl) ?_
  refine x_iconst hF dX9_roomOf_9 ?_
  refine x_kp hL (vx_runV (As := [_, _]) hF.2.2.2.2.2.2.2.2.2 ((mX9_ofBakery rfl (by omega) (by omega) hP) hF.1) (cwV 2 hF.2.2.2.2.2.2.2.2.1 (lw_V q2436 q2438 qs69 q138 q2439) rfl rfl rfl (by decide +kernel) ⟨(Nat.le_of_ble_eq_true rfl), (Nat.le_of_ble_eq_true rfl)⟩) (x_preV hF hM (MA_ob hP) rfl) rfl rfl hl.1 rfl (lv_room (Nat.le_of_ble_eq_true rfl)) dX9_roomOf_10 ⟨(Nat.le_of_ble_eq_true rfl), (Nat.le_of_ble_eq_true rfl)⟩) (fun H locs hM hL => ?_)
  refine x_iconst hF dX9_roomOf_13 ?_
  refine x_icmp_ne (tgt := 25) hF dX9_roomOf_14 (by decide) (by first | exact Rg_in hR _ | assumption | (unfold inR; omega)) (by first | exact Rg_in hR _ | assumption | (unfold inR; omega)) (fun c14 => ?_) (fun c14 => ?_)
  · skip
    refine lv_aload_n hx hb dX9_roomOf_25 rfl (lk hl rfl) ?_
    refine lv_iload_n hx hb dX9_roomOf_26 rfl (lk hl rfl) ?_
    refine x_iconst hF dX9_roomOf_27 ?_
    refine x_kp hL (vx_runV (As := [_, _]) hF.2.2.2.2.2.2.2.2.2 ((mX9_ofBakery rfl (by omega) (by omega) hP) hF.1) (cwV 2 hF.2.2.2.2.2.2.2.2.1 (lw_V q2436 q2438 qs69 q138 q2439) rfl rfl rfl (by decide +kernel) ⟨(Nat.le_of_ble_eq_true rfl), (Nat.le_of_ble_eq_true rfl)⟩) (x_preV hF hM (MA_ob hP) rfl) rfl rfl hl.1 rfl (lv_room (Nat.le_of_ble_eq_true rfl)) dX9_roomOf_28 ⟨(Nat.le_of_ble_eq_true rfl), (Nat.le_of_ble_eq_true rfl)⟩) (fun H locs hM hL => ?_)
    refine x_iconst hF dX9_roomOf_31 ?_
    refine x_icmp_ne (tgt := 41) hF dX9_roomOf_32 (by decide) (by first | exact Rg_in hR _ | assumption | (unfold inR; omega)) (by first | exact Rg_in hR _ | assumption | (unfold inR; omega)) (fun c32 => ?_) (fun c32 => ?_)
    · skip
      refine lv_iload_n hx hb dX9_roomOf_41 rfl (lk hl rfl) ?_
      exact x_ireturn hF hM hL rfl (Nat.le_of_ble_eq_true rfl) (Nat.le_of_ble_eq_true rfl) ⟨by unfold wRoom; first | rw [if_pos c14] | rw [if_neg c14, if_pos c32] | rw [if_neg c14, if_neg c32], rfl⟩ dX9_roomOf_42
    · skip
      refine lv_iload_n hx hb dX9_roomOf_35 rfl (lk hl rfl) ?_
      refine x_iconst hF dX9_roomOf_36 ?_
      refine x_iadd hF dX9_roomOf_37 ?_
      refine x_goto (tgt := 42) hF dX9_roomOf_38 (by decide) ?_
      exact x_ireturn hF hM hL rfl (Nat.le_of_ble_eq_true rfl) (Nat.le_of_ble_eq_true rfl) ⟨by unfold wRoom; first | rw [if_pos c14] | rw [if_neg c14, if_pos c32] | rw [if_neg c14, if_neg c32], rfl⟩ dX9_roomOf_42
  · skip
    refine lv_iload_n hx hb dX9_roomOf_17 rfl (lk hl rfl) ?_
    refine lv_iload_n hx hb dX9_roomOf_18 rfl (lk hl rfl) ?_
    refine x_iconst hF dX9_roomOf_19 ?_
    refine x_idiv hF dX9_roomOf_20 hv (by have := hR (4 + 4 * z + 1); omega) (by omega) (by omega) ?_
    refine x_iadd hF dX9_roomOf_21 ?_
    refine x_goto (tgt := 42) hF dX9_roomOf_22 (by decide) ?_
    exact x_ireturn hF hM hL rfl (Nat.le_of_ble_eq_true rfl) (Nat.le_of_ble_eq_true rfl) ⟨by unfold wRoom; first | rw [if_pos c14] | rw [if_neg c14, if_pos c32] | rw [if_neg c14, if_neg c32], rfl⟩ dX9_roomOf_42
set_option maxHeartbeats 4000000 in
set_option maxRecDepth 100000 in
/-- BakeryRingModel.signOn(I)I -/
theorem mX9_signOn {l : Launch} {E : En} {σ0 : Mm} {o : Nat} {F : Nat → Int → Int} {w : Int → Int} (hw : F 5 = w) {z : Int} (hz : inR z) (hR : Rg w) (hn : 0 ≤ w 28) (hn2 : w 28 ≤ 25) (hP : MA E σ0 o F) : Ctr l E yX9_signOn (ws_ yX9_signOn cX9_signOn 3 (some .int)) 1 21 0 0 [.ref o, .int (iz z)] σ0 (fun v τ => v = some (.int (iz (wSignOn (w) z))) ∧ τ = σ0) noX := by
  subst hw
  refine x_head (own := RX9) (cc := cX9_signOn) (maxL := 3) (ret := (some .int)) (by decide) rfl rfl (Nat.le_of_ble_eq_true rfl) ?_
  intro p e s m args below meth c H ls hF hname htab hM hl
  have hx := hF.2.2.1
  have hb := hF.2.2.2.1
  have hL : Lc E [] := lcNil
  have hl : lh ls 3 ([(0, .ref o), (1, .int (iz z))]) := hl
  refine x_iconst hF dX9_signOn_0 ?_
  refine x_istore_n hF dX9_signOn_1 rfl hl (by decide) rfl (fun ls hl => ?_)
  suffices loop : ∀ (n : Nat) (i : Int) (H : Heap) (locs : List Loc) (ls : Array Slot), F 5 28 - i < (n : Int) → (0 ≤ i) → (i ≤ F 5 28) → (fdF (fun k => F 5 (29 + 2 * k) == z) i (F 5 28 - i).toNat = wSignOn (F 5) z) → Mem E s H σ0 → Lc E locs → lh ls 3 [(0, .ref o), (1, .int (iz z)), (2, .int (iz i))] → W p l e ({ frames := 1, cells := 0, slots := 0, locals := 21 } : Room) s m args below meth c H locs 0 0 (vx_MQ below (XQc E (fun v τ => v = some (.int (iz (wSignOn (F 5) z))) ∧ τ = σ0)) (XXc E noX) args s 0 0 (XA E)) (F0 m 2 ls []) from loop (27) 0 _ _ _ (by omega) (by omega) hn (by unfold wSignOn; rw [Int.sub_zero]) hM hL (lh_sub hl rfl)
  refine nat_loop (fun i H locs ls hmm h0 h1 hr => absurd hmm (by omega)) (fun n ih i H locs ls hmm h0 h1 hr hM hL hl => ?_)
  refine lv_iload_n hx hb dX9_signOn_2 rfl (lk hl rfl) ?_
  refine lv_aload_n hx hb dX9_signOn_3 rfl (lk hl rfl) ?_
  refine x_getfield hF (ci := 10) in_X9 rfl 5 (by decide) q2256 (fun _ h => h) hM (MA_ob hP) (MA_f5 hP) dX9_signOn_4 ?_
  refine x_bipush hF (by decide) dX9_signOn_7 ?_
  refine x_iald hF hM (MA_a5 hP) (by omega) (by omega) (by decide) (show rd _ _ _ = .int (iz (F 5 _)) from by have h9 := MA_r5 hP; exact h9 _ (by omega) (by omega)) dX9_signOn_9 ?_
  refine x_icmp_ge (tgt := 30) hF dX9_signOn_10 (by decide) (by first | exact Rg_in hR _ | assumption | (unfold inR; omega)) (by first | exact Rg_in hR _ | assumption | (unfold inR; omega)) (fun c10 => ?_) (fun c10 => ?_)
  · skip
    refine x_iconst hF dX9_signOn_30 ?_
    exact x_ireturn hF hM hL rfl (Nat.le_of_ble_eq_true rfl) (Nat.le_of_ble_eq_true rfl) ⟨by rw [← hr, fdF_e (by omega)], rfl⟩ dX9_signOn_31
  · skip
    refine lv_aload_n hx hb dX9_signOn_13 rfl (lk hl rfl) ?_
    refine lv_iload_n hx hb dX9_signOn_14 rfl (lk hl rfl) ?_
    refine x_kp hL (vx_runV (As := [_]) hF.2.2.2.2.2.2.2.2.2 ((mX9_angleAt rfl (by omega) (by omega) hP) hF.1) (cwV 1 hF.2.2.2.2.2.2.2.2.1 (lw_V q2392 q2394 qs58 q138 q2395) rfl rfl rfl (by decide +kernel) ⟨(Nat.le_of_ble_eq_true rfl), (Nat.le_of_ble_eq_true rfl)⟩) (x_preV hF hM (MA_ob hP) rfl) rfl rfl hl.1 rfl (lv_room (Nat.le_of_ble_eq_true rfl)) dX9_signOn_15 ⟨(Nat.le_of_ble_eq_true rfl), (Nat.le_of_ble_eq_true rfl)⟩) (fun H locs hM hL => ?_)
    refine lv_iload_n hx hb dX9_signOn_18 rfl (lk hl rfl) ?_
    refine x_icmp_ne (tgt := 24) hF dX9_signOn_19 (by decide) (by first | exact Rg_in hR _ | assumption | (unfold inR; omega)) (by first | exact Rg_in hR _ | assumption | (unfold inR; omega)) (fun c19 => ?_) (fun c19 => ?_)
    · skip
      refine x_iinc hF dX9_signOn_24 hl rfl (by decide) rfl (fun ls hl => ?_)
      refine x_goto (tgt := 2) hF dX9_signOn_27 (by decide) ?_
      exact ih (i + 1) _ _ _ (by omega) (by omega) (by omega) (by rw [← hr]; exact (fdF_f (by omega) (by simp [c19])).symm) hM hL (lh_sub hl rfl)
    · skip
      refine lv_iload_n hx hb dX9_signOn_22 rfl (lk hl rfl) ?_
      exact x_ireturn hF hM hL rfl (Nat.le_of_ble_eq_true rfl) (Nat.le_of_ble_eq_true rfl) ⟨by rw [← hr, fdF_t (by omega) (by simp [c19])], rfl⟩ dX9_signOn_23
set_option maxHeartbeats 4000000 in
set_option maxRecDepth 100000 in
/-- BakeryRingModel.signsOf(I)I -/
theorem mX9_signsOf {l : Launch} {E : En} {σ0 : Mm} {o : Nat} {F : Nat → Int → Int} {w : Int → Int} (hw : F 5 = w) {z : Int} (hz : inR z) (hR : Rg w) (hn : 0 ≤ w 28) (hn2 : w 28 ≤ 25) (hP : MA E σ0 o F) : Ctr l E yX9_signsOf (ws_ yX9_signsOf cX9_signsOf 4 (some .int)) 1 21 0 0 [.ref o, .int (iz z)] σ0 (fun v τ => v = some (.int (iz (wSignsOf (w) z))) ∧ τ = σ0) noX := by
  subst hw
  refine x_head (own := RX9) (cc := cX9_signsOf) (maxL := 4) (ret := (some .int)) (by decide) rfl rfl (Nat.le_of_ble_eq_true rfl) ?_
  intro p e s m args below meth c H ls hF hname htab hM hl
  have hx := hF.2.2.1
  have hb := hF.2.2.2.1
  have hL : Lc E [] := lcNil
  have hl : lh ls 4 ([(0, .ref o), (1, .int (iz z))]) := hl
  refine x_iconst hF dX9_signsOf_0 ?_
  refine x_istore_n hF dX9_signsOf_1 rfl hl (by decide) rfl (fun ls hl => ?_)
  refine x_iconst hF dX9_signsOf_2 ?_
  refine x_istore_n hF dX9_signsOf_3 rfl hl (by decide) rfl (fun ls hl => ?_)
  suffices loop : ∀ (n : Nat) (i : Int) (H : Heap) (locs : List Loc) (ls : Array Slot), F 5 28 - i < (n : Int) → (0 ≤ i) → (i ≤ F 5 28) → Mem E s H σ0 → Lc E locs → lh ls 4 [(0, .ref o), (1, .int (iz z)), (2, .int (iz (sm (fun k => if F 5 (29 + 2 * k + 1) = z then 1 else 0) i))), (3, .int (iz i))] → W p l e ({ frames := 1, cells := 0, slots := 0, locals := 21 } : Room) s m args below meth c H locs 0 0 (vx_MQ below (XQc E (fun v τ => v = some (.int (iz (wSignsOf (F 5) z))) ∧ τ = σ0)) (XXc E noX) args s 0 0 (XA E)) (F0 m 4 ls []) from loop (27) 0 _ _ _ (by omega) (by omega) hn hM hL (lh_sub hl rfl)
  refine nat_loop (fun i H locs ls hmm h0 h1 => absurd hmm (by omega)) (fun n ih i H locs ls hmm h0 h1 hM hL hl => ?_)
  refine lv_iload_n hx hb dX9_signsOf_4 rfl (lk hl rfl) ?_
  refine lv_aload_n hx hb dX9_signsOf_5 rfl (lk hl rfl) ?_
  refine x_getfield hF (ci := 10) in_X9 rfl 5 (by decide) q2256 (fun _ h => h) hM (MA_ob hP) (MA_f5 hP) dX9_signsOf_6 ?_
  refine x_bipush hF (by decide) dX9_signsOf_9 ?_
  refine x_iald hF hM (MA_a5 hP) (by omega) (by omega) (by decide) (show rd _ _ _ = .int (iz (F 5 _)) from by have h9 := MA_r5 hP; exact h9 _ (by omega) (by omega)) dX9_signsOf_11 ?_
  refine x_icmp_ge (tgt := 38) hF dX9_signsOf_12 (by decide) (by first | exact Rg_in hR _ | assumption | (unfold inR; omega)) (by first | exact Rg_in hR _ | assumption | (unfold inR; omega)) (fun c12 => ?_) (fun c12 => ?_)
  · skip
    refine lv_iload_n hx hb dX9_signsOf_38 rfl (lk hl rfl) ?_
    exact x_ireturn hF hM hL rfl (Nat.le_of_ble_eq_true rfl) (Nat.le_of_ble_eq_true rfl) ⟨by unfold wSignsOf; rw [show i = F 5 28 by omega], rfl⟩ dX9_signsOf_39
  · skip
    refine lv_iload_n hx hb dX9_signsOf_15 rfl (lk hl rfl) ?_
    refine lv_aload_n hx hb dX9_signsOf_16 rfl (lk hl rfl) ?_
    refine lv_iload_n hx hb dX9_signsOf_17 rfl (lk hl rfl) ?_
    refine x_kp hL (vx_runV (As := [_]) hF.2.2.2.2.2.2.2.2.2 ((mX9_ownerAt rfl (by omega) (by omega) hP) hF.1) (cwV 1 hF.2.2.2.2.2.2.2.2.1 (lw_V q2396 q2398 qs59 q138 q2399) rfl rfl rfl (by decide +kernel) ⟨(Nat.le_of_ble_eq_true rfl), (Nat.le_of_ble_eq_true rfl)⟩) (x_preV hF hM (MA_ob hP) rfl) rfl rfl hl.1 rfl (lv_room (Nat.le_of_ble_eq_true rfl)) dX9_signsOf_18 ⟨(Nat.le_of_ble_eq_true rfl), (Nat.le_of_ble_eq_true rfl)⟩) (fun H locs hM hL => ?_)
    refine lv_iload_n hx hb dX9_signsOf_21 rfl (lk hl rfl) ?_
    refine x_icmp_ne (tgt := 29) hF dX9_signsOf_22 (by decide) (by first | exact Rg_in hR _ | assumption | (unfold inR; omega)) (by first | exact Rg_in hR _ | assumption | (unfold inR; omega)) (fun c22 => ?_) (fun c22 => ?_)
    · skip
      refine x_iconst hF dX9_signsOf_29 ?_
      refine x_iadd hF dX9_signsOf_30 ?_
      refine x_istore_n hF dX9_signsOf_31 rfl hl (by decide) rfl (fun ls hl => ?_)
      refine x_iinc hF dX9_signsOf_32 hl rfl (by decide) rfl (fun ls hl => ?_)
      refine x_goto (tgt := 4) hF dX9_signsOf_35 (by decide) ?_
      have e9 : sm (fun k => if F 5 (29 + 2 * k + 1) = z then 1 else 0) (i + 1) = _ := sm_1 _ h0
      first | rw [show (if F 5 (29 + 2 * i + 1) = z then (1 : Int) else 0) = 1 from if_pos c22] at e9 | rw [show (if F 5 (29 + 2 * i + 1) = z then (1 : Int) else 0) = 0 from if_neg c22] at e9
      rw [← e9] at hl
      exact ih (i + 1) _ _ _ (by omega) (by omega) (by omega) hM hL (lh_sub hl rfl)
    · skip
      refine x_iconst hF dX9_signsOf_25 ?_
      refine x_goto (tgt := 30) hF dX9_signsOf_26 (by decide) ?_
      refine x_iadd hF dX9_signsOf_30 ?_
      refine x_istore_n hF dX9_signsOf_31 rfl hl (by decide) rfl (fun ls hl => ?_)
      refine x_iinc hF dX9_signsOf_32 hl rfl (by decide) rfl (fun ls hl => ?_)
      refine x_goto (tgt := 4) hF dX9_signsOf_35 (by decide) ?_
      have e9 : sm (fun k => if F 5 (29 + 2 * k + 1) = z then 1 else 0) (i + 1) = _ := sm_1 _ h0
      first | rw [show (if F 5 (29 + 2 * i + 1) = z then (1 : Int) else 0) = 1 from if_pos c22] at e9 | rw [show (if F 5 (29 + 2 * i + 1) = z then (1 : Int) else 0) = 0 from if_neg c22] at e9
      rw [← e9] at hl
      exact ih (i + 1) _ _ _ (by omega) (by omega) (by omega) hM hL (lh_sub hl rfl)
set_option maxHeartbeats 4000000 in
set_option maxRecDepth 100000 in
/-- BakeryRingModel.openMany()I -/
theorem mX9_openMany {l : Launch} {E : En} {σ0 : Mm} {o : Nat} {F : Nat → Int → Int} {w : Int → Int} (hw : F 5 = w) (hR : Rg w) (hb0 : 0 ≤ w 0) (hb1 : w 0 ≤ 6) (hP : MA E σ0 o F) : Ctr l E yX9_openMany (ws_ yX9_openMany cX9_openMany 3 (some .int)) 2 43 0 0 [.ref o] σ0 (fun v τ => v = some (.int (iz (wOpenMany (w)))) ∧ τ = σ0) noX := by
  subst hw
  refine x_head (own := RX9) (cc := cX9_openMany) (maxL := 3) (ret := (some .int)) (by decide) rfl rfl (Nat.le_of_ble_eq_true rfl) ?_
  intro p e s m args below meth c H ls hF hname htab hM hl
  have hx := hF.2.2.1
  have hb := hF.2.2.2.1
  have hL : Lc E [] := lcNil
  have hl : lh ls 3 ([(0, .ref o)]) := hl
  refine x_iconst hF dX9_openMany_0 ?_
  refine x_istore_n hF dX9_openMany_1 rfl hl (by decide) rfl (fun ls hl => ?_)
  refine x_iconst hF dX9_openMany_2 ?_
  refine x_istore_n hF dX9_openMany_3 rfl hl (by decide) rfl (fun ls hl => ?_)
  suffices loop : ∀ (n : Nat) (i : Int) (H : Heap) (locs : List Loc) (ls : Array Slot), F 5 0 - i < (n : Int) → (0 ≤ i) → (i ≤ F 5 0) → Mem E s H σ0 → Lc E locs → lh ls 3 [(0, .ref o), (1, .int (iz (sm (fun b => if F 5 (4 + 4 * b + 2) = 0 then 1 else 0) i))), (2, .int (iz i))] → W p l e ({ frames := 2, cells := 0, slots := 0, locals := 43 } : Room) s m args below meth c H locs 0 0 (vx_MQ below (XQc E (fun v τ => v = some (.int (iz (wOpenMany (F 5)))) ∧ τ = σ0)) (XXc E noX) args s 0 0 (XA E)) (F0 m 4 ls []) from loop (8) 0 _ _ _ (by omega) (by omega) hb0 hM hL (lh_sub hl rfl)
  refine nat_loop (fun i H locs ls hmm h0 h1 => absurd hmm (by omega)) (fun n ih i H locs ls hmm h0 h1 hM hL hl => ?_)
  refine lv_iload_n hx hb dX9_openMany_4 rfl (lk hl rfl) ?_
  refine lv_aload_n hx hb dX9_openMany_5 rfl (lk hl rfl) ?_
  refine x_getfield hF (ci := 10) in_X9 rfl 5 (by decide) q2256 (fun _ h => h) hM (MA_ob hP) (MA_f5 hP) dX9_openMany_6 ?_
  refine x_iconst hF dX9_openMany_9 ?_
  refine x_iald hF hM (MA_a5 hP) (by omega) (by omega) (by decide) (show rd _ _ _ = .int (iz (F 5 _)) from by have h9 := MA_r5 hP; exact h9 _ (by omega) (by omega)) dX9_openMany_10 ?_
  refine x_icmp_ge (tgt := 36) hF dX9_openMany_11 (by decide) (by first | exact Rg_in hR _ | assumption | (unfold inR; omega)) (by first | exact Rg_in hR _ | assumption | (unfold inR; omega)) (fun c11 => ?_) (fun c11 => ?_)
  · skip
    refine lv_iload_n hx hb dX9_openMany_36 rfl (lk hl rfl) ?_
    exact x_ireturn hF hM hL rfl (Nat.le_of_ble_eq_true rfl) (Nat.le_of_ble_eq_true rfl) ⟨by unfold wOpenMany; rw [show i = F 5 0 by omega], rfl⟩ dX9_openMany_37
  · skip
    refine lv_iload_n hx hb dX9_openMany_14 rfl (lk hl rfl) ?_
    refine lv_aload_n hx hb dX9_openMany_15 rfl (lk hl rfl) ?_
    refine lv_iload_n hx hb dX9_openMany_16 rfl (lk hl rfl) ?_
    refine x_kp hL (vx_runV (As := [_]) hF.2.2.2.2.2.2.2.2.2 ((mX9_isOpen rfl (by omega) (by omega) hR hP) hF.1) (cwV 1 hF.2.2.2.2.2.2.2.2.1 (lw_V q2432 q2434 qs68 q138 q2435) rfl rfl rfl (by decide +kernel) ⟨(Nat.le_of_ble_eq_true rfl), (Nat.le_of_ble_eq_true rfl)⟩) (x_preV hF hM (MA_ob hP) rfl) rfl rfl hl.1 rfl (lv_room (Nat.le_of_ble_eq_true rfl)) dX9_openMany_17 ⟨(Nat.le_of_ble_eq_true rfl), (Nat.le_of_ble_eq_true rfl)⟩) (fun H locs hM hL => ?_)
    refine x_ifeq_b (tgt := 27) hF dX9_openMany_20 (by decide) (fun c20 => ?_) (fun c20 => ?_)
    · skip
      refine x_iconst hF dX9_openMany_27 ?_
      refine x_iadd hF dX9_openMany_28 ?_
      refine x_istore_n hF dX9_openMany_29 rfl hl (by decide) rfl (fun ls hl => ?_)
      refine x_iinc hF dX9_openMany_30 hl rfl (by decide) rfl (fun ls hl => ?_)
      refine x_goto (tgt := 4) hF dX9_openMany_33 (by decide) ?_
      have e9 : sm (fun b => if F 5 (4 + 4 * b + 2) = 0 then 1 else 0) (i + 1) = _ := sm_1 _ h0
      first | rw [show (if F 5 (4 + 4 * i + 2) = 0 then (1 : Int) else 0) = 1 from if_pos c20] at e9 | rw [show (if F 5 (4 + 4 * i + 2) = 0 then (1 : Int) else 0) = 0 from if_neg c20] at e9
      rw [← e9] at hl
      exact ih (i + 1) _ _ _ (by omega) (by omega) (by omega) hM hL (lh_sub hl rfl)
    · skip
      refine x_iconst hF dX9_openMany_23 ?_
      refine x_goto (tgt := 28) hF dX9_openMany_24 (by decide) ?_
      refine x_iadd hF dX9_openMany_28 ?_
      refine x_istore_n hF dX9_openMany_29 rfl hl (by decide) rfl (fun ls hl => ?_)
      refine x_iinc hF dX9_openMany_30 hl rfl (by decide) rfl (fun ls hl => ?_)
      refine x_goto (tgt := 4) hF dX9_openMany_33 (by decide) ?_
      have e9 : sm (fun b => if F 5 (4 + 4 * b + 2) = 0 then 1 else 0) (i + 1) = _ := sm_1 _ h0
      first | rw [show (if F 5 (4 + 4 * i + 2) = 0 then (1 : Int) else 0) = 1 from if_pos c20] at e9 | rw [show (if F 5 (4 + 4 * i + 2) = 0 then (1 : Int) else 0) = 0 from if_neg c20] at e9
      rw [← e9] at hl
      exact ih (i + 1) _ _ _ (by omega) (by omega) (by omega) hM hL (lh_sub hl rfl)
set_option maxHeartbeats 4000000 in
set_option maxRecDepth 100000 in
/-- BakeryRingModel.firstFrom(I)I -/
theorem mX9_firstFrom {l : Launch} {E : En} {σ0 : Mm} {o : Nat} {F : Nat → Int → Int} {w : Int → Int} (hw : F 5 = w) {z : Int} (hz : inR z) (hR : Rg w) (hn : 0 ≤ w 28) (hn2 : w 28 ≤ 25) (hP : MA E σ0 o F) : Ctr l E yX9_firstFrom (ws_ yX9_firstFrom cX9_firstFrom 3 (some .int)) 1 21 0 0 [.ref o, .int (iz z)] σ0 (fun v τ => v = some (.int (iz (wFirst (w) z))) ∧ τ = σ0) noX := by
  subst hw
  refine x_head (own := RX9) (cc := cX9_firstFrom) (maxL := 3) (ret := (some .int)) (by decide) rfl rfl (Nat.le_of_ble_eq_true rfl) ?_
  intro p e s m args below meth c H ls hF hname htab hM hl
  have hx := hF.2.2.1
  have hb := hF.2.2.2.1
  have hL : Lc E [] := lcNil
  have hl : lh ls 3 ([(0, .ref o), (1, .int (iz z))]) := hl
  refine x_iconst hF dX9_firstFrom_0 ?_
  refine x_istore_n hF dX9_firstFrom_1 rfl hl (by decide) rfl (fun ls hl => ?_)
  suffices loop : ∀ (n : Nat) (i : Int) (H : Heap) (locs : List Loc) (ls : Array Slot), F 5 28 - i < (n : Int) → (0 ≤ i) → (i ≤ F 5 28) → (ctF (fun k => decide (F 5 (29 + 2 * k) < z)) i (F 5 28 - i).toNat = ctF (fun k => decide (F 5 (29 + 2 * k) < z)) 0 (F 5 28).toNat) → Mem E s H σ0 → Lc E locs → lh ls 3 [(0, .ref o), (1, .int (iz z)), (2, .int (iz i))] → W p l e ({ frames := 1, cells := 0, slots := 0, locals := 21 } : Room) s m args below meth c H locs 0 0 (vx_MQ below (XQc E (fun v τ => v = some (.int (iz (wFirst (F 5) z))) ∧ τ = σ0)) (XXc E noX) args s 0 0 (XA E)) (F0 m 2 ls []) from loop (27) 0 _ _ _ (by omega) (by omega) hn (by rw [Int.sub_zero]) hM hL (lh_sub hl rfl)
  refine nat_loop (fun i H locs ls hmm h0 h1 hr => absurd hmm (by omega)) (fun n ih i H locs ls hmm h0 h1 hr hM hL hl => ?_)
  refine lv_iload_n hx hb dX9_firstFrom_2 rfl (lk hl rfl) ?_
  refine lv_aload_n hx hb dX9_firstFrom_3 rfl (lk hl rfl) ?_
  refine x_getfield hF (ci := 10) in_X9 rfl 5 (by decide) q2256 (fun _ h => h) hM (MA_ob hP) (MA_f5 hP) dX9_firstFrom_4 ?_
  refine x_bipush hF (by decide) dX9_firstFrom_7 ?_
  refine x_iald hF hM (MA_a5 hP) (by omega) (by omega) (by decide) (show rd _ _ _ = .int (iz (F 5 _)) from by have h9 := MA_r5 hP; exact h9 _ (by omega) (by omega)) dX9_firstFrom_9 ?_
  refine x_icmp_ge (tgt := 28) hF dX9_firstFrom_10 (by decide) (by first | exact Rg_in hR _ | assumption | (unfold inR; omega)) (by first | exact Rg_in hR _ | assumption | (unfold inR; omega)) (fun c10 => ?_) (fun c10 => ?_)
  · skip
    refine lv_iload_n hx hb dX9_firstFrom_28 rfl (lk hl rfl) ?_
    refine lv_aload_n hx hb dX9_firstFrom_29 rfl (lk hl rfl) ?_
    refine x_getfield hF (ci := 10) in_X9 rfl 5 (by decide) q2256 (fun _ h => h) hM (MA_ob hP) (MA_f5 hP) dX9_firstFrom_30 ?_
    refine x_bipush hF (by decide) dX9_firstFrom_33 ?_
    refine x_iald hF hM (MA_a5 hP) (by omega) (by omega) (by decide) (show rd _ _ _ = .int (iz (F 5 _)) from by have h9 := MA_r5 hP; exact h9 _ (by omega) (by omega)) dX9_firstFrom_35 ?_
    refine x_icmp_ne (tgt := 43) hF dX9_firstFrom_36 (by decide) (by first | exact Rg_in hR _ | assumption | (unfold inR; omega)) (by first | exact Rg_in hR _ | assumption | (unfold inR; omega)) (fun c36 => ?_) (fun c36 => ?_)
    · skip
      refine lv_iload_n hx hb dX9_firstFrom_43 rfl (lk hl rfl) ?_
      exact x_ireturn hF hM hL rfl (Nat.le_of_ble_eq_true rfl) (Nat.le_of_ble_eq_true rfl) ⟨by unfold wFirst; rw [← hr]; (first | rw [ctF_e (by omega)] | rw [ctF_f (by omega) (by simp; omega)]); (first | rw [if_pos c36] | rw [if_neg c36]), rfl⟩ dX9_firstFrom_44
    · skip
      refine x_iconst hF dX9_firstFrom_39 ?_
      refine x_goto (tgt := 44) hF dX9_firstFrom_40 (by decide) ?_
      exact x_ireturn hF hM hL rfl (Nat.le_of_ble_eq_true rfl) (Nat.le_of_ble_eq_true rfl) ⟨by unfold wFirst; rw [← hr]; (first | rw [ctF_e (by omega)] | rw [ctF_f (by omega) (by simp; omega)]); (first | rw [if_pos c36] | rw [if_neg c36]), rfl⟩ dX9_firstFrom_44
  · skip
    refine lv_aload_n hx hb dX9_firstFrom_13 rfl (lk hl rfl) ?_
    refine lv_iload_n hx hb dX9_firstFrom_14 rfl (lk hl rfl) ?_
    refine x_kp hL (vx_runV (As := [_]) hF.2.2.2.2.2.2.2.2.2 ((mX9_angleAt rfl (by omega) (by omega) hP) hF.1) (cwV 1 hF.2.2.2.2.2.2.2.2.1 (lw_V q2392 q2394 qs58 q138 q2395) rfl rfl rfl (by decide +kernel) ⟨(Nat.le_of_ble_eq_true rfl), (Nat.le_of_ble_eq_true rfl)⟩) (x_preV hF hM (MA_ob hP) rfl) rfl rfl hl.1 rfl (lv_room (Nat.le_of_ble_eq_true rfl)) dX9_firstFrom_15 ⟨(Nat.le_of_ble_eq_true rfl), (Nat.le_of_ble_eq_true rfl)⟩) (fun H locs hM hL => ?_)
    refine lv_iload_n hx hb dX9_firstFrom_18 rfl (lk hl rfl) ?_
    refine x_icmp_ge (tgt := 28) hF dX9_firstFrom_19 (by decide) (by first | exact Rg_in hR _ | assumption | (unfold inR; omega)) (by first | exact Rg_in hR _ | assumption | (unfold inR; omega)) (fun c19 => ?_) (fun c19 => ?_)
    · skip
      refine lv_iload_n hx hb dX9_firstFrom_28 rfl (lk hl rfl) ?_
      refine lv_aload_n hx hb dX9_firstFrom_29 rfl (lk hl rfl) ?_
      refine x_getfield hF (ci := 10) in_X9 rfl 5 (by decide) q2256 (fun _ h => h) hM (MA_ob hP) (MA_f5 hP) dX9_firstFrom_30 ?_
      refine x_bipush hF (by decide) dX9_firstFrom_33 ?_
      refine x_iald hF hM (MA_a5 hP) (by omega) (by omega) (by decide) (show rd _ _ _ = .int (iz (F 5 _)) from by have h9 := MA_r5 hP; exact h9 _ (by omega) (by omega)) dX9_firstFrom_35 ?_
      refine x_icmp_ne (tgt := 43) hF dX9_firstFrom_36 (by decide) (by first | exact Rg_in hR _ | assumption | (unfold inR; omega)) (by first | exact Rg_in hR _ | assumption | (unfold inR; omega)) (fun c36 => ?_) (fun c36 => ?_)
      · skip
        refine lv_iload_n hx hb dX9_firstFrom_43 rfl (lk hl rfl) ?_
        exact x_ireturn hF hM hL rfl (Nat.le_of_ble_eq_true rfl) (Nat.le_of_ble_eq_true rfl) ⟨by unfold wFirst; rw [← hr]; (first | rw [ctF_e (by omega)] | rw [ctF_f (by omega) (by simp; omega)]); (first | rw [if_pos c36] | rw [if_neg c36]), rfl⟩ dX9_firstFrom_44
      · skip
        refine x_iconst hF dX9_firstFrom_39 ?_
        refine x_goto (tgt := 44) hF dX9_firstFrom_40 (by decide) ?_
        exact x_ireturn hF hM hL rfl (Nat.le_of_ble_eq_true rfl) (Nat.le_of_ble_eq_true rfl) ⟨by unfold wFirst; rw [← hr]; (first | rw [ctF_e (by omega)] | rw [ctF_f (by omega) (by simp; omega)]); (first | rw [if_pos c36] | rw [if_neg c36]), rfl⟩ dX9_firstFrom_44
    · skip
      refine x_iinc hF dX9_firstFrom_22 hl rfl (by decide) rfl (fun ls hl => ?_)
      refine x_goto (tgt := 2) hF dX9_firstFrom_25 (by decide) ?_
      exact ih (i + 1) _ _ _ (by omega) (by omega) (by omega) (by rw [← hr]; exact (ctF_t (by omega) (by simp [c19])).symm) hM hL (lh_sub hl rfl)
