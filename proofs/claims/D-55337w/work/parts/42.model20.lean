set_option maxHeartbeats 4000000 in
set_option maxRecDepth 100000 in
/-- BakeryRingModel.writes(I)V -/
theorem mX9_writes {l : Launch} {E : En} {σ0 : Mm} {o : Nat} {F : Nat → Int → Int} {z : Int} (hz0 : 0 ≤ z) (hz1 : z ≤ 126) {tl : List Int} (hln : Ln F tl) (hlt : tl.length < 80) (hP : MA E σ0 o F) : Ctr l E yX9_writes (ws_ yX9_writes cX9_writes 2 none) 0 0 0 0 [.ref o, .int (iz z)] σ0 (fun v τ => v = none ∧ LW E σ0 o τ F (tl ++ [z])) noX := by
  refine x_head (own := RX9) (cc := cX9_writes) (maxL := 2) (ret := none) (by decide) rfl rfl (Nat.le_of_ble_eq_true rfl) ?_
  intro p e s m args below meth c H ls hF hname htab hM hl
  have hx := hF.2.2.1
  have hb := hF.2.2.2.1
  have hL : Lc E [] := lcNil
  have hl : lh ls 2 ([(0, .ref o), (1, .int (iz z))]) := hl
  refine MS_gen hM (MS_0 hP) (fun σ hM hP => ?_)
  refine lv_aload_n hx hb dX9_writes_0 rfl (lk hl rfl) ?_
  refine x_getfield hF (ci := 10) in_X9 rfl 21 (by decide) q2272 (fun _ h => h) hM (MA_ob hP.1) (MA_f21 hP.1) dX9_writes_1 ?_
  refine lv_aload_n hx hb dX9_writes_4 rfl (lk hl rfl) ?_
  refine x_getfield hF (ci := 10) in_X9 rfl 22 (by decide) q2273 (fun _ h => h) hM (MA_ob hP.1) (show rd _ _ _ = .int (iz ((tl.length : Int))) from by have h9 := MA_s22 hP.1; rw [hln.1] at h9; exact h9) dX9_writes_5 ?_
  refine lv_iload_n hx hb dX9_writes_8 rfl (lk hl rfl) ?_
  refine lv_i2c hx hb dX9_writes_9 (i2c_ok hz0 hz1) ?_
  refine x_cast hF hM hL (MA_a21 hP.1) (by omega) (by omega) (by decide) (nar_c hz0 hz1) dX9_writes_10 (fun H locs hM hL => ?_)
  refine MS_gen hM (MS_q21 hM hP (by omega)) (fun σ hM hP => ?_)
  refine lv_aload_n hx hb dX9_writes_11 rfl (lk hl rfl) ?_
  refine lv_dup hx hb dX9_writes_12 rfl ?_
  refine x_getfield hF (ci := 10) in_X9 rfl 22 (by decide) q2273 (fun _ h => h) hM (MA_ob hP.1) (show rd _ _ _ = .int (iz ((tl.length : Int))) from by have h9 := MA_s22 hP.1; rw [up2_f _ _ _ _ (by decide), hln.1] at h9; exact h9) dX9_writes_13 ?_
  refine x_iconst hF dX9_writes_16 ?_
  refine x_iadd hF dX9_writes_17 ?_
  refine x_putfield hF (ci := 10) in_X9 rfl tyX9_ok nmX9 22 (by decide) q2273 (fun _ h => h) rfl hM hL (MA_ob hP.1) (ty := .int) (by decide +kernel) rfl rfl dX9_writes_18 (fun H locs hM hL => ?_)
  refine MS_gen hM (MS_p22 hM hP) (fun σ hM hP => ?_)
  exact x_return hF hM hL (Nat.le_of_ble_eq_true rfl) (Nat.le_of_ble_eq_true rfl) ⟨rfl, _, hP, Ln_1 hln z, fun f x y => by rw [up2_oth _ _ _ y, up2_oth _ _ _ x]⟩ dX9_writes_21
set_option maxHeartbeats 4000000 in
set_option maxRecDepth 100000 in
/-- BakeryRingModel.writesNumber(I)V -/
theorem mX9_writesNumber {l : Launch} {E : En} {σ0 : Mm} {o : Nat} {F : Nat → Int → Int} {z : Int} (hz0 : 0 ≤ z) (hz1 : z ≤ 999) {tl : List Int} (hln : Ln F tl) (hlt : tl.length < 77) (hP : MA E σ0 o F) : Ctr l E yX9_writesNumber (ws_ yX9_writesNumber cX9_writesNumber 2 none) 1 21 0 0 [.ref o, .int (iz z)] σ0 (fun v τ => v = none ∧ LW E σ0 o τ F (tl ++ dgs z)) noX := by
  refine x_head (own := RX9) (cc := cX9_writesNumber) (maxL := 2) (ret := none) (by decide) rfl rfl (Nat.le_of_ble_eq_true rfl) ?_
  intro p e s m args below meth c H ls hF hname htab hM hl
  have hx := hF.2.2.1
  have hb := hF.2.2.2.1
  have hL : Lc E [] := lcNil
  have hl : lh ls 2 ([(0, .ref o), (1, .int (iz z))]) := hl
  refine MS_gen hM (MS_0 hP) (fun σ hM hP => ?_)
  have eo : ∀ f : Nat, f ≠ 21 → f ≠ 22 → F f = F f := fun _ _ _ => rfl
  have hq1 : ((if 99 < z then [48 + z / 100] else []) : List Int).length ≤ 1 := by split <;> simp
  have hq2 : ((if 9 < z then [48 + z / 10 % 10] else []) : List Int).length ≤ 1 := by split <;> simp
  refine lv_iload_n hx hb dX9_writesNumber_0 rfl (lk hl rfl) ?_
  refine x_bipush hF (by decide) dX9_writesNumber_1 ?_
  refine x_join (P := ∀ (σ : Mm) (H : Heap) (locs : List Loc), Mem E s H σ → LW E σ0 o σ F (tl ++ (if 99 < z then [48 + z / 100] else [])) → Lc E locs → W p l e ({ frames := 1, cells := 0, slots := 0, locals := 21 } : Room) s m args below meth c H locs 0 0 (vx_MQ below (XQc E (fun v τ => v = none ∧ LW E σ0 o τ F (tl ++ dgs z))) (XXc E noX) args s 0 0 (XA E)) (F0 m 17 ls [])) (fun jn => ?_) ?_
  · skip
    refine x_icmp_le (tgt := 17) hF dX9_writesNumber_3 (by decide) (by unfold inR; omega) (by unfold inR; omega) (fun c3 => ?_) (fun c3 => ?_)
    · skip
      first | exact jn _ _ _ hM (LW_c ⟨_, hP, hln, eo⟩ (by rw [if_pos (c := 99 < z) (by omega)])) hL | exact jn _ _ _ hM (LW_c ⟨_, hP, hln, eo⟩ (by rw [if_neg (c := 99 < z) (by omega), List.append_nil])) hL
    · skip
      refine lv_aload_n hx hb dX9_writesNumber_6 rfl (lk hl rfl) ?_
      refine x_bipush hF (by decide) dX9_writesNumber_7 ?_
      refine lv_iload_n hx hb dX9_writesNumber_9 rfl (lk hl rfl) ?_
      refine x_bipush hF (by decide) dX9_writesNumber_10 ?_
      refine x_idiv hF dX9_writesNumber_12 (by omega) (by omega) (by omega) (by omega) ?_
      refine x_iadd hF dX9_writesNumber_13 ?_
      refine x_kn hL (vx_runV (As := [_]) hF.2.2.2.2.2.2.2.2.2 ((mX9_writes (by omega) (by omega) hln (by first | omega | (simp only [List.length_append, List.length_cons, List.length_nil]; omega)) hP.1) hF.1) (cwV 1 hF.2.2.2.2.2.2.2.2.1 (lw_V q2699 q2701 qs106 q138 q2702) rfl rfl rfl (by decide +kernel) ⟨(Nat.le_of_ble_eq_true rfl), (Nat.le_of_ble_eq_true rfl)⟩) (x_preV hF hM (MA_ob hP.1) rfl) rfl rfl hl.1 rfl (lv_room (Nat.le_of_ble_eq_true rfl)) dX9_writesNumber_14 ⟨(Nat.le_of_ble_eq_true rfl), (Nat.le_of_ble_eq_true rfl)⟩) ?_
      rintro _ τ14 H locs ⟨rfl, hp⟩ hM hL
      obtain ⟨F2, hP2, hln, eo2⟩ := hp
      refine MS_gen hM (MS_t hP hP2) (fun σ hM hP => ?_)
      replace eo := fun f (x : f ≠ 21) (y : f ≠ 22) => (eo2 f x y).trans (eo f x y)
      first | exact jn _ _ _ hM (LW_c ⟨_, hP, hln, eo⟩ (by rw [if_pos (c := 99 < z) (by omega)])) hL | exact jn _ _ _ hM (LW_c ⟨_, hP, hln, eo⟩ (by rw [if_neg (c := 99 < z) (by omega), List.append_nil])) hL
  · intro σ H locs hM hP hL
    obtain ⟨F1, hP, hln, eo⟩ := hP
    refine lv_iload_n hx hb dX9_writesNumber_17 rfl (lk hl rfl) ?_
    refine x_bipush hF (by decide) dX9_writesNumber_18 ?_
    refine x_join (P := ∀ (σ : Mm) (H : Heap) (locs : List Loc), Mem E s H σ → LW E σ0 o σ F ((tl ++ (if 99 < z then [48 + z / 100] else [])) ++ (if 9 < z then [48 + z / 10 % 10] else [])) → Lc E locs → W p l e ({ frames := 1, cells := 0, slots := 0, locals := 21 } : Room) s m args below meth c H locs 0 0 (vx_MQ below (XQc E (fun v τ => v = none ∧ LW E σ0 o τ F (tl ++ dgs z))) (XXc E noX) args s 0 0 (XA E)) (F0 m 37 ls [])) (fun jn => ?_) ?_
    · skip
      refine x_icmp_le (tgt := 37) hF dX9_writesNumber_20 (by decide) (by unfold inR; omega) (by unfold inR; omega) (fun c20 => ?_) (fun c20 => ?_)
      · skip
        first | exact jn _ _ _ hM (LW_c ⟨_, hP, hln, eo⟩ (by rw [if_pos (c := 9 < z) (by omega)])) hL | exact jn _ _ _ hM (LW_c ⟨_, hP, hln, eo⟩ (by rw [if_neg (c := 9 < z) (by omega), List.append_nil])) hL
      · skip
        refine lv_aload_n hx hb dX9_writesNumber_23 rfl (lk hl rfl) ?_
        refine x_bipush hF (by decide) dX9_writesNumber_24 ?_
        refine lv_iload_n hx hb dX9_writesNumber_26 rfl (lk hl rfl) ?_
        refine x_bipush hF (by decide) dX9_writesNumber_27 ?_
        refine x_idiv hF dX9_writesNumber_29 (by omega) (by omega) (by omega) (by omega) ?_
        refine x_bipush hF (by decide) dX9_writesNumber_30 ?_
        refine x_irem hF dX9_writesNumber_32 (by omega) (by omega) (by omega) (by omega) ?_
        refine x_iadd hF dX9_writesNumber_33 ?_
        refine x_kn hL (vx_runV (As := [_]) hF.2.2.2.2.2.2.2.2.2 ((mX9_writes (by omega) (by omega) hln (by first | omega | (simp only [List.length_append, List.length_cons, List.length_nil]; omega)) hP.1) hF.1) (cwV 1 hF.2.2.2.2.2.2.2.2.1 (lw_V q2699 q2701 qs106 q138 q2702) rfl rfl rfl (by decide +kernel) ⟨(Nat.le_of_ble_eq_true rfl), (Nat.le_of_ble_eq_true rfl)⟩) (x_preV hF hM (MA_ob hP.1) rfl) rfl rfl hl.1 rfl (lv_room (Nat.le_of_ble_eq_true rfl)) dX9_writesNumber_34 ⟨(Nat.le_of_ble_eq_true rfl), (Nat.le_of_ble_eq_true rfl)⟩) ?_
        rintro _ τ34 H locs ⟨rfl, hp⟩ hM hL
        obtain ⟨F2, hP2, hln, eo2⟩ := hp
        refine MS_gen hM (MS_t hP hP2) (fun σ hM hP => ?_)
        replace eo := fun f (x : f ≠ 21) (y : f ≠ 22) => (eo2 f x y).trans (eo f x y)
        first | exact jn _ _ _ hM (LW_c ⟨_, hP, hln, eo⟩ (by rw [if_pos (c := 9 < z) (by omega)])) hL | exact jn _ _ _ hM (LW_c ⟨_, hP, hln, eo⟩ (by rw [if_neg (c := 9 < z) (by omega), List.append_nil])) hL
    · intro σ H locs hM hP hL
      obtain ⟨F1, hP, hln, eo⟩ := hP
      refine lv_aload_n hx hb dX9_writesNumber_37 rfl (lk hl rfl) ?_
      refine x_bipush hF (by decide) dX9_writesNumber_38 ?_
      refine lv_iload_n hx hb dX9_writesNumber_40 rfl (lk hl rfl) ?_
      refine x_bipush hF (by decide) dX9_writesNumber_41 ?_
      refine x_irem hF dX9_writesNumber_43 (by omega) (by omega) (by omega) (by omega) ?_
      refine x_iadd hF dX9_writesNumber_44 ?_
      refine x_kn hL (vx_runV (As := [_]) hF.2.2.2.2.2.2.2.2.2 ((mX9_writes (by omega) (by omega) hln (by first | omega | (simp only [List.length_append, List.length_cons, List.length_nil]; omega)) hP.1) hF.1) (cwV 1 hF.2.2.2.2.2.2.2.2.1 (lw_V q2699 q2701 qs106 q138 q2702) rfl rfl rfl (by decide +kernel) ⟨(Nat.le_of_ble_eq_true rfl), (Nat.le_of_ble_eq_true rfl)⟩) (x_preV hF hM (MA_ob hP.1) rfl) rfl rfl hl.1 rfl (lv_room (Nat.le_of_ble_eq_true rfl)) dX9_writesNumber_45 ⟨(Nat.le_of_ble_eq_true rfl), (Nat.le_of_ble_eq_true rfl)⟩) ?_
      rintro _ τ45 H locs ⟨rfl, hp⟩ hM hL
      obtain ⟨F2, hP2, hln, eo2⟩ := hp
      refine MS_gen hM (MS_t hP hP2) (fun σ hM hP => ?_)
      replace eo := fun f (x : f ≠ 21) (y : f ≠ 22) => (eo2 f x y).trans (eo f x y)
      exact x_return hF hM hL (Nat.le_of_ble_eq_true rfl) (Nat.le_of_ble_eq_true rfl) ⟨rfl, LW_c ⟨_, hP, hln, eo⟩ (by unfold dgs; simp only [List.append_assoc])⟩ dX9_writesNumber_48
set_option maxHeartbeats 4000000 in
set_option maxRecDepth 100000 in
/-- BakeryRingModel.writesKind(I)V -/
theorem mX9_writesKind {l : Launch} {E : En} {σ0 : Mm} {o : Nat} {F : Nat → Int → Int} {z : Int} (hz0 : 0 ≤ z) (hz1 : z ≤ 2) {tl : List Int} (hln : Ln F tl) (hlt : tl.length < 75) (hP : MA E σ0 o F) : Ctr l E yX9_writesKind (ws_ yX9_writesKind cX9_writesKind 2 none) 1 21 0 0 [.ref o, .int (iz z)] σ0 (fun v τ => v = none ∧ LW E σ0 o τ F (tl ++ kindW z)) noX := by
  refine x_head (own := RX9) (cc := cX9_writesKind) (maxL := 2) (ret := none) (by decide) rfl rfl (Nat.le_of_ble_eq_true rfl) ?_
  intro p e s m args below meth c H ls hF hname htab hM hl
  have hx := hF.2.2.1
  have hb := hF.2.2.2.1
  have hL : Lc E [] := lcNil
  have hl : lh ls 2 ([(0, .ref o), (1, .int (iz z))]) := hl
  refine MS_gen hM (MS_0 hP) (fun σ hM hP => ?_)
  have eo : ∀ f : Nat, f ≠ 21 → f ≠ 22 → F f = F f := fun _ _ _ => rfl
  have hk1 : 0 ≤ kc1 z ∧ kc1 z ≤ 126 := by unfold kc1; (repeat' split) <;> omega
  have hk2 : 0 ≤ kc2 z ∧ kc2 z ≤ 126 := by unfold kc2; (repeat' split) <;> omega
  have hk3 : 0 ≤ kc3 z ∧ kc3 z ≤ 126 := by unfold kc3; (repeat' split) <;> omega
  have hk4 : 0 ≤ kc4 z ∧ kc4 z ≤ 126 := by unfold kc4; (repeat' split) <;> omega
  have hk5 : 0 ≤ kc5 z ∧ kc5 z ≤ 126 := by unfold kc5; (repeat' split) <;> omega
  refine lv_aload_n hx hb dX9_writesKind_0 rfl (lk hl rfl) ?_
  refine lv_iload_n hx hb dX9_writesKind_1 rfl (lk hl rfl) ?_
  refine x_join (P := ∀ (H : Heap) (locs : List Loc), Mem E s H σ → Lc E locs → W p l e ({ frames := 1, cells := 0, slots := 0, locals := 21 } : Room) s m args below meth c H locs 0 0 (vx_MQ below (XQc E (fun v τ => v = none ∧ LW E σ0 o τ F (tl ++ kindW z))) (XXc E noX) args s 0 0 (XA E)) (F0 m 22 ls [.int (iz (kc1 z)), .ref o])) (fun jn => ?_) ?_
  · skip
    refine x_if_ne (tgt := 10) hF dX9_writesKind_2 (by decide) (by unfold inR; omega) (fun c2 => ?_) (fun c2 => ?_)
    · skip
      refine lv_iload_n hx hb dX9_writesKind_10 rfl (lk hl rfl) ?_
      refine x_iconst hF dX9_writesKind_11 ?_
      refine x_icmp_ne (tgt := 20) hF dX9_writesKind_12 (by decide) (by unfold inR; omega) (by unfold inR; omega) (fun c12 => ?_) (fun c12 => ?_)
      · skip
        refine x_bipush hF (by decide) dX9_writesKind_20 ?_
        first | (have e9 : kc1 z = _ := if_pos (by omega)); rw [e9] at jn; exact jn _ _ hM hL | (have e9 : kc1 z = _ := (if_neg (by omega)).trans (if_pos (by omega))); rw [e9] at jn; exact jn _ _ hM hL | (have e9 : kc1 z = _ := (if_neg (by omega)).trans (if_neg (by omega))); rw [e9] at jn; exact jn _ _ hM hL
      · skip
        refine x_bipush hF (by decide) dX9_writesKind_15 ?_
        refine x_goto (tgt := 22) hF dX9_writesKind_17 (by decide) ?_
        first | (have e9 : kc1 z = _ := if_pos (by omega)); rw [e9] at jn; exact jn _ _ hM hL | (have e9 : kc1 z = _ := (if_neg (by omega)).trans (if_pos (by omega))); rw [e9] at jn; exact jn _ _ hM hL | (have e9 : kc1 z = _ := (if_neg (by omega)).trans (if_neg (by omega))); rw [e9] at jn; exact jn _ _ hM hL
    · skip
      refine x_bipush hF (by decide) dX9_writesKind_5 ?_
      refine x_goto (tgt := 22) hF dX9_writesKind_7 (by decide) ?_
      first | (have e9 : kc1 z = _ := if_pos (by omega)); rw [e9] at jn; exact jn _ _ hM hL | (have e9 : kc1 z = _ := (if_neg (by omega)).trans (if_pos (by omega))); rw [e9] at jn; exact jn _ _ hM hL | (have e9 : kc1 z = _ := (if_neg (by omega)).trans (if_neg (by omega))); rw [e9] at jn; exact jn _ _ hM hL
  · intro H locs hM hL
    refine x_kn hL (vx_runV (As := [_]) hF.2.2.2.2.2.2.2.2.2 ((mX9_writes (by omega) (by omega) hln (by first | omega | (simp only [List.length_append, List.length_cons, List.length_nil]; omega)) hP.1) hF.1) (cwV 1 hF.2.2.2.2.2.2.2.2.1 (lw_V q2699 q2701 qs106 q138 q2702) rfl rfl rfl (by decide +kernel) ⟨(Nat.le_of_ble_eq_true rfl), (Nat.le_of_ble_eq_true rfl)⟩) (x_preV hF hM (MA_ob hP.1) rfl) rfl rfl hl.1 rfl (lv_room (Nat.le_of_ble_eq_true rfl)) dX9_writesKind_22 ⟨(Nat.le_of_ble_eq_true rfl), (Nat.le_of_ble_eq_true rfl)⟩) ?_
    rintro _ τ22 H locs ⟨rfl, hp⟩ hM hL
    obtain ⟨F2, hP2, hln, eo2⟩ := hp
    refine MS_gen hM (MS_t hP hP2) (fun σ hM hP => ?_)
    replace eo := fun f (x : f ≠ 21) (y : f ≠ 22) => (eo2 f x y).trans (eo f x y)
    refine lv_aload_n hx hb dX9_writesKind_25 rfl (lk hl rfl) ?_
    refine lv_iload_n hx hb dX9_writesKind_26 rfl (lk hl rfl) ?_
    refine x_join (P := ∀ (H : Heap) (locs : List Loc), Mem E s H σ → Lc E locs → W p l e ({ frames := 1, cells := 0, slots := 0, locals := 21 } : Room) s m args below meth c H locs 0 0 (vx_MQ below (XQc E (fun v τ => v = none ∧ LW E σ0 o τ F (tl ++ kindW z))) (XXc E noX) args s 0 0 (XA E)) (F0 m 47 ls [.int (iz (kc2 z)), .ref o])) (fun jn => ?_) ?_
    · skip
      refine x_if_ne (tgt := 35) hF dX9_writesKind_27 (by decide) (by unfold inR; omega) (fun c27 => ?_) (fun c27 => ?_)
      · skip
        refine lv_iload_n hx hb dX9_writesKind_35 rfl (lk hl rfl) ?_
        refine x_iconst hF dX9_writesKind_36 ?_
        refine x_icmp_ne (tgt := 45) hF dX9_writesKind_37 (by decide) (by unfold inR; omega) (by unfold inR; omega) (fun c37 => ?_) (fun c37 => ?_)
        · skip
          refine x_bipush hF (by decide) dX9_writesKind_45 ?_
          first | (have e9 : kc2 z = _ := if_pos (by omega)); rw [e9] at jn; exact jn _ _ hM hL | (have e9 : kc2 z = _ := (if_neg (by omega)).trans (if_pos (by omega))); rw [e9] at jn; exact jn _ _ hM hL | (have e9 : kc2 z = _ := (if_neg (by omega)).trans (if_neg (by omega))); rw [e9] at jn; exact jn _ _ hM hL
        · skip
          refine x_bipush hF (by decide) dX9_writesKind_40 ?_
          refine x_goto (tgt := 47) hF dX9_writesKind_42 (by decide) ?_
          first | (have e9 : kc2 z = _ := if_pos (by omega)); rw [e9] at jn; exact jn _ _ hM hL | (have e9 : kc2 z = _ := (if_neg (by omega)).trans (if_pos (by omega))); rw [e9] at jn; exact jn _ _ hM hL | (have e9 : kc2 z = _ := (if_neg (by omega)).trans (if_neg (by omega))); rw [e9] at jn; exact jn _ _ hM hL
      · skip
        refine x_bipush hF (by decide) dX9_writesKind_30 ?_
        refine x_goto (tgt := 47) hF dX9_writesKind_32 (by decide) ?_
        first | (have e9 : kc2 z = _ := if_pos (by omega)); rw [e9] at jn; exact jn _ _ hM hL | (have e9 : kc2 z = _ := (if_neg (by omega)).trans (if_pos (by omega))); rw [e9] at jn; exact jn _ _ hM hL | (have e9 : kc2 z = _ := (if_neg (by omega)).trans (if_neg (by omega))); rw [e9] at jn; exact jn _ _ hM hL
    · intro H locs hM hL
      refine x_kn hL (vx_runV (As := [_]) hF.2.2.2.2.2.2.2.2.2 ((mX9_writes (by omega) (by omega) hln (by first | omega | (simp only [List.length_append, List.length_cons, List.length_nil]; omega)) hP.1) hF.1) (cwV 1 hF.2.2.2.2.2.2.2.2.1 (lw_V q2699 q2701 qs106 q138 q2702) rfl rfl rfl (by decide +kernel) ⟨(Nat.le_of_ble_eq_true rfl), (Nat.le_of_ble_eq_true rfl)⟩) (x_preV hF hM (MA_ob hP.1) rfl) rfl rfl hl.1 rfl (lv_room (Nat.le_of_ble_eq_true rfl)) dX9_writesKind_47 ⟨(Nat.le_of_ble_eq_true rfl), (Nat.le_of_ble_eq_true rfl)⟩) ?_
      rintro _ τ47 H locs ⟨rfl, hp⟩ hM hL
      obtain ⟨F2, hP2, hln, eo2⟩ := hp
      refine MS_gen hM (MS_t hP hP2) (fun σ hM hP => ?_)
      replace eo := fun f (x : f ≠ 21) (y : f ≠ 22) => (eo2 f x y).trans (eo f x y)
      refine lv_aload_n hx hb dX9_writesKind_50 rfl (lk hl rfl) ?_
      refine lv_iload_n hx hb dX9_writesKind_51 rfl (lk hl rfl) ?_
      refine x_iconst hF dX9_writesKind_52 ?_
      refine x_join (P := ∀ (H : Heap) (locs : List Loc), Mem E s H σ → Lc E locs → W p l e ({ frames := 1, cells := 0, slots := 0, locals := 21 } : Room) s m args below meth c H locs 0 0 (vx_MQ below (XQc E (fun v τ => v = none ∧ LW E σ0 o τ F (tl ++ kindW z))) (XXc E noX) args s 0 0 (XA E)) (F0 m 63 ls [.int (iz (kc3 z)), .ref o])) (fun jn => ?_) ?_
      · skip
        refine x_icmp_ne (tgt := 61) hF dX9_writesKind_53 (by decide) (by unfold inR; omega) (by unfold inR; omega) (fun c53 => ?_) (fun c53 => ?_)
        · skip
          refine x_bipush hF (by decide) dX9_writesKind_61 ?_
          first | (have e9 : kc3 z = _ := if_pos (by omega)); rw [e9] at jn; exact jn _ _ hM hL | (have e9 : kc3 z = _ := if_neg (by omega)); rw [e9] at jn; exact jn _ _ hM hL
        · skip
          refine x_bipush hF (by decide) dX9_writesKind_56 ?_
          refine x_goto (tgt := 63) hF dX9_writesKind_58 (by decide) ?_
          first | (have e9 : kc3 z = _ := if_pos (by omega)); rw [e9] at jn; exact jn _ _ hM hL | (have e9 : kc3 z = _ := if_neg (by omega)); rw [e9] at jn; exact jn _ _ hM hL
      · intro H locs hM hL
        refine x_kn hL (vx_runV (As := [_]) hF.2.2.2.2.2.2.2.2.2 ((mX9_writes (by omega) (by omega) hln (by first | omega | (simp only [List.length_append, List.length_cons, List.length_nil]; omega)) hP.1) hF.1) (cwV 1 hF.2.2.2.2.2.2.2.2.1 (lw_V q2699 q2701 qs106 q138 q2702) rfl rfl rfl (by decide +kernel) ⟨(Nat.le_of_ble_eq_true rfl), (Nat.le_of_ble_eq_true rfl)⟩) (x_preV hF hM (MA_ob hP.1) rfl) rfl rfl hl.1 rfl (lv_room (Nat.le_of_ble_eq_true rfl)) dX9_writesKind_63 ⟨(Nat.le_of_ble_eq_true rfl), (Nat.le_of_ble_eq_true rfl)⟩) ?_
        rintro _ τ63 H locs ⟨rfl, hp⟩ hM hL
        obtain ⟨F2, hP2, hln, eo2⟩ := hp
        refine MS_gen hM (MS_t hP hP2) (fun σ hM hP => ?_)
        replace eo := fun f (x : f ≠ 21) (y : f ≠ 22) => (eo2 f x y).trans (eo f x y)
        refine lv_iload_n hx hb dX9_writesKind_66 rfl (lk hl rfl) ?_
        refine x_iconst hF dX9_writesKind_67 ?_
        refine x_icmp_ne (tgt := 72) hF dX9_writesKind_68 (by decide) (by unfold inR; omega) (by unfold inR; omega) (fun c68 => ?_) (fun c68 => ?_)
        · skip
          refine lv_aload_n hx hb dX9_writesKind_72 rfl (lk hl rfl) ?_
          refine lv_iload_n hx hb dX9_writesKind_73 rfl (lk hl rfl) ?_
          refine x_join (P := ∀ (H : Heap) (locs : List Loc), Mem E s H σ → Lc E locs → W p l e ({ frames := 1, cells := 0, slots := 0, locals := 21 } : Room) s m args below meth c H locs 0 0 (vx_MQ below (XQc E (fun v τ => v = none ∧ LW E σ0 o τ F (tl ++ kindW z))) (XXc E noX) args s 0 0 (XA E)) (F0 m 84 ls [.int (iz (kc4 z)), .ref o])) (fun jn => ?_) ?_
          · skip
            refine x_if_ne (tgt := 82) hF dX9_writesKind_74 (by decide) (by unfold inR; omega) (fun c74 => ?_) (fun c74 => ?_)
            · skip
              refine x_bipush hF (by decide) dX9_writesKind_82 ?_
              first | (have e9 : kc4 z = _ := if_pos (by omega)); rw [e9] at jn; exact jn _ _ hM hL | (have e9 : kc4 z = _ := if_neg (by omega)); rw [e9] at jn; exact jn _ _ hM hL
            · skip
              refine x_bipush hF (by decide) dX9_writesKind_77 ?_
              refine x_goto (tgt := 84) hF dX9_writesKind_79 (by decide) ?_
              first | (have e9 : kc4 z = _ := if_pos (by omega)); rw [e9] at jn; exact jn _ _ hM hL | (have e9 : kc4 z = _ := if_neg (by omega)); rw [e9] at jn; exact jn _ _ hM hL
          · intro H locs hM hL
            refine x_kn hL (vx_runV (As := [_]) hF.2.2.2.2.2.2.2.2.2 ((mX9_writes (by omega) (by omega) hln (by first | omega | (simp only [List.length_append, List.length_cons, List.length_nil]; omega)) hP.1) hF.1) (cwV 1 hF.2.2.2.2.2.2.2.2.1 (lw_V q2699 q2701 qs106 q138 q2702) rfl rfl rfl (by decide +kernel) ⟨(Nat.le_of_ble_eq_true rfl), (Nat.le_of_ble_eq_true rfl)⟩) (x_preV hF hM (MA_ob hP.1) rfl) rfl rfl hl.1 rfl (lv_room (Nat.le_of_ble_eq_true rfl)) dX9_writesKind_84 ⟨(Nat.le_of_ble_eq_true rfl), (Nat.le_of_ble_eq_true rfl)⟩) ?_
            rintro _ τ84 H locs ⟨rfl, hp⟩ hM hL
            obtain ⟨F2, hP2, hln, eo2⟩ := hp
            refine MS_gen hM (MS_t hP hP2) (fun σ hM hP => ?_)
            replace eo := fun f (x : f ≠ 21) (y : f ≠ 22) => (eo2 f x y).trans (eo f x y)
            refine lv_aload_n hx hb dX9_writesKind_87 rfl (lk hl rfl) ?_
            refine lv_iload_n hx hb dX9_writesKind_88 rfl (lk hl rfl) ?_
            refine x_join (P := ∀ (H : Heap) (locs : List Loc), Mem E s H σ → Lc E locs → W p l e ({ frames := 1, cells := 0, slots := 0, locals := 21 } : Room) s m args below meth c H locs 0 0 (vx_MQ below (XQc E (fun v τ => v = none ∧ LW E σ0 o τ F (tl ++ kindW z))) (XXc E noX) args s 0 0 (XA E)) (F0 m 99 ls [.int (iz (kc5 z)), .ref o])) (fun jn => ?_) ?_
            · skip
              refine x_if_ne (tgt := 97) hF dX9_writesKind_89 (by decide) (by unfold inR; omega) (fun c89 => ?_) (fun c89 => ?_)
              · skip
                refine x_bipush hF (by decide) dX9_writesKind_97 ?_
                first | (have e9 : kc5 z = _ := if_pos (by omega)); rw [e9] at jn; exact jn _ _ hM hL | (have e9 : kc5 z = _ := if_neg (by omega)); rw [e9] at jn; exact jn _ _ hM hL
              · skip
                refine x_bipush hF (by decide) dX9_writesKind_92 ?_
                refine x_goto (tgt := 99) hF dX9_writesKind_94 (by decide) ?_
                first | (have e9 : kc5 z = _ := if_pos (by omega)); rw [e9] at jn; exact jn _ _ hM hL | (have e9 : kc5 z = _ := if_neg (by omega)); rw [e9] at jn; exact jn _ _ hM hL
            · intro H locs hM hL
              refine x_kn hL (vx_runV (As := [_]) hF.2.2.2.2.2.2.2.2.2 ((mX9_writes (by omega) (by omega) hln (by first | omega | (simp only [List.length_append, List.length_cons, List.length_nil]; omega)) hP.1) hF.1) (cwV 1 hF.2.2.2.2.2.2.2.2.1 (lw_V q2699 q2701 qs106 q138 q2702) rfl rfl rfl (by decide +kernel) ⟨(Nat.le_of_ble_eq_true rfl), (Nat.le_of_ble_eq_true rfl)⟩) (x_preV hF hM (MA_ob hP.1) rfl) rfl rfl hl.1 rfl (lv_room (Nat.le_of_ble_eq_true rfl)) dX9_writesKind_99 ⟨(Nat.le_of_ble_eq_true rfl), (Nat.le_of_ble_eq_true rfl)⟩) ?_
              rintro _ τ99 H locs ⟨rfl, hp⟩ hM hL
              obtain ⟨F2, hP2, hln, eo2⟩ := hp
              refine MS_gen hM (MS_t hP hP2) (fun σ hM hP => ?_)
              replace eo := fun f (x : f ≠ 21) (y : f ≠ 22) => (eo2 f x y).trans (eo f x y)
              exact x_return hF hM hL (Nat.le_of_ble_eq_true rfl) (Nat.le_of_ble_eq_true rfl) ⟨rfl, LW_c ⟨_, hP, hln, eo⟩ (by unfold kindW; rw [if_neg (by omega)]; simp only [List.append_assoc, List.cons_append, List.nil_append])⟩ dX9_writesKind_102
        · skip
          exact x_return hF hM hL (Nat.le_of_ble_eq_true rfl) (Nat.le_of_ble_eq_true rfl) ⟨rfl, LW_c ⟨_, hP, hln, eo⟩ (by unfold kindW; rw [if_pos (by omega)]; simp only [List.append_assoc, List.cons_append, List.nil_append])⟩ dX9_writesKind_71
set_option maxHeartbeats 4000000 in
set_option maxRecDepth 100000 in
/-- BakeryRingModel.writesShut()V -/
theorem mX9_writesShut {l : Launch} {E : En} {σ0 : Mm} {o : Nat} {F : Nat → Int → Int} {tl : List Int} (hln : Ln F tl) (hlt : tl.length < 75) (hP : MA E σ0 o F) : Ctr l E yX9_writesShut (ws_ yX9_writesShut cX9_writesShut 1 none) 1 21 0 0 [.ref o] σ0 (fun v τ => v = none ∧ LW E σ0 o τ F (tl ++ [32, 115, 104, 117, 116])) noX := by
  refine x_head (own := RX9) (cc := cX9_writesShut) (maxL := 1) (ret := none) (by decide) rfl rfl (Nat.le_of_ble_eq_true rfl) ?_
  intro p e s m args below meth c H ls hF hname htab hM hl
  have hx := hF.2.2.1
  have hb := hF.2.2.2.1
  have hL : Lc E [] := lcNil
  have hl : lh ls 1 ([(0, .ref o)]) := hl
  refine MS_gen hM (MS_0 hP) (fun σ hM hP => ?_)
  have eo : ∀ f : Nat, f ≠ 21 → f ≠ 22 → F f = F f := fun _ _ _ => rfl
  
  refine lv_aload_n hx hb dX9_writesShut_0 rfl (lk hl rfl) ?_
  refine x_bipush hF (by decide) dX9_writesShut_1 ?_
  refine x_kn hL (vx_runV (As := [_]) hF.2.2.2.2.2.2.2.2.2 ((mX9_writes (by omega) (by omega) hln (by first | omega | (simp only [List.length_append, List.length_cons, List.length_nil]; omega)) hP.1) hF.1) (cwV 1 hF.2.2.2.2.2.2.2.2.1 (lw_V q2699 q2701 qs106 q138 q2702) rfl rfl rfl (by decide +kernel) ⟨(Nat.le_of_ble_eq_true rfl), (Nat.le_of_ble_eq_true rfl)⟩) (x_preV hF hM (MA_ob hP.1) rfl) rfl rfl hl.1 rfl (lv_room (Nat.le_of_ble_eq_true rfl)) dX9_writesShut_3 ⟨(Nat.le_of_ble_eq_true rfl), (Nat.le_of_ble_eq_true rfl)⟩) ?_
  rintro _ τ3 H locs ⟨rfl, hp⟩ hM hL
  obtain ⟨F2, hP2, hln, eo2⟩ := hp
  refine MS_gen hM (MS_t hP hP2) (fun σ hM hP => ?_)
  replace eo := fun f (x : f ≠ 21) (y : f ≠ 22) => (eo2 f x y).trans (eo f x y)
  refine lv_aload_n hx hb dX9_writesShut_6 rfl (lk hl rfl) ?_
  refine x_bipush hF (by decide) dX9_writesShut_7 ?_
  refine x_kn hL (vx_runV (As := [_]) hF.2.2.2.2.2.2.2.2.2 ((mX9_writes (by omega) (by omega) hln (by first | omega | (simp only [List.length_append, List.length_cons, List.length_nil]; omega)) hP.1) hF.1) (cwV 1 hF.2.2.2.2.2.2.2.2.1 (lw_V q2699 q2701 qs106 q138 q2702) rfl rfl rfl (by decide +kernel) ⟨(Nat.le_of_ble_eq_true rfl), (Nat.le_of_ble_eq_true rfl)⟩) (x_preV hF hM (MA_ob hP.1) rfl) rfl rfl hl.1 rfl (lv_room (Nat.le_of_ble_eq_true rfl)) dX9_writesShut_9 ⟨(Nat.le_of_ble_eq_true rfl), (Nat.le_of_ble_eq_true rfl)⟩) ?_
  rintro _ τ9 H locs ⟨rfl, hp⟩ hM hL
  obtain ⟨F2, hP2, hln, eo2⟩ := hp
  refine MS_gen hM (MS_t hP hP2) (fun σ hM hP => ?_)
  replace eo := fun f (x : f ≠ 21) (y : f ≠ 22) => (eo2 f x y).trans (eo f x y)
  refine lv_aload_n hx hb dX9_writesShut_12 rfl (lk hl rfl) ?_
  refine x_bipush hF (by decide) dX9_writesShut_13 ?_
  refine x_kn hL (vx_runV (As := [_]) hF.2.2.2.2.2.2.2.2.2 ((mX9_writes (by omega) (by omega) hln (by first | omega | (simp only [List.length_append, List.length_cons, List.length_nil]; omega)) hP.1) hF.1) (cwV 1 hF.2.2.2.2.2.2.2.2.1 (lw_V q2699 q2701 qs106 q138 q2702) rfl rfl rfl (by decide +kernel) ⟨(Nat.le_of_ble_eq_true rfl), (Nat.le_of_ble_eq_true rfl)⟩) (x_preV hF hM (MA_ob hP.1) rfl) rfl rfl hl.1 rfl (lv_room (Nat.le_of_ble_eq_true rfl)) dX9_writesShut_15 ⟨(Nat.le_of_ble_eq_true rfl), (Nat.le_of_ble_eq_true rfl)⟩) ?_
  rintro _ τ15 H locs ⟨rfl, hp⟩ hM hL
  obtain ⟨F2, hP2, hln, eo2⟩ := hp
  refine MS_gen hM (MS_t hP hP2) (fun σ hM hP => ?_)
  replace eo := fun f (x : f ≠ 21) (y : f ≠ 22) => (eo2 f x y).trans (eo f x y)
  refine lv_aload_n hx hb dX9_writesShut_18 rfl (lk hl rfl) ?_
  refine x_bipush hF (by decide) dX9_writesShut_19 ?_
  refine x_kn hL (vx_runV (As := [_]) hF.2.2.2.2.2.2.2.2.2 ((mX9_writes (by omega) (by omega) hln (by first | omega | (simp only [List.length_append, List.length_cons, List.length_nil]; omega)) hP.1) hF.1) (cwV 1 hF.2.2.2.2.2.2.2.2.1 (lw_V q2699 q2701 qs106 q138 q2702) rfl rfl rfl (by decide +kernel) ⟨(Nat.le_of_ble_eq_true rfl), (Nat.le_of_ble_eq_true rfl)⟩) (x_preV hF hM (MA_ob hP.1) rfl) rfl rfl hl.1 rfl (lv_room (Nat.le_of_ble_eq_true rfl)) dX9_writesShut_21 ⟨(Nat.le_of_ble_eq_true rfl), (Nat.le_of_ble_eq_true rfl)⟩) ?_
  rintro _ τ21 H locs ⟨rfl, hp⟩ hM hL
  obtain ⟨F2, hP2, hln, eo2⟩ := hp
  refine MS_gen hM (MS_t hP hP2) (fun σ hM hP => ?_)
  replace eo := fun f (x : f ≠ 21) (y : f ≠ 22) => (eo2 f x y).trans (eo f x y)
  refine lv_aload_n hx hb dX9_writesShut_24 rfl (lk hl rfl) ?_
  refine x_bipush hF (by decide) dX9_writesShut_25 ?_
  refine x_kn hL (vx_runV (As := [_]) hF.2.2.2.2.2.2.2.2.2 ((mX9_writes (by omega) (by omega) hln (by first | omega | (simp only [List.length_append, List.length_cons, List.length_nil]; omega)) hP.1) hF.1) (cwV 1 hF.2.2.2.2.2.2.2.2.1 (lw_V q2699 q2701 qs106 q138 q2702) rfl rfl rfl (by decide +kernel) ⟨(Nat.le_of_ble_eq_true rfl), (Nat.le_of_ble_eq_true rfl)⟩) (x_preV hF hM (MA_ob hP.1) rfl) rfl rfl hl.1 rfl (lv_room (Nat.le_of_ble_eq_true rfl)) dX9_writesShut_27 ⟨(Nat.le_of_ble_eq_true rfl), (Nat.le_of_ble_eq_true rfl)⟩) ?_
  rintro _ τ27 H locs ⟨rfl, hp⟩ hM hL
  obtain ⟨F2, hP2, hln, eo2⟩ := hp
  refine MS_gen hM (MS_t hP hP2) (fun σ hM hP => ?_)
  replace eo := fun f (x : f ≠ 21) (y : f ≠ 22) => (eo2 f x y).trans (eo f x y)
  exact x_return hF hM hL (Nat.le_of_ble_eq_true rfl) (Nat.le_of_ble_eq_true rfl) ⟨rfl, LW_c ⟨_, hP, hln, eo⟩ (by simp only [List.append_assoc, List.cons_append, List.nil_append])⟩ dX9_writesShut_30
set_option maxHeartbeats 4000000 in
set_option maxRecDepth 100000 in
/-- BakeryRingModel.written(I)C -/
theorem mX9_written {l : Launch} {E : En} {σ0 : Mm} {o : Nat} {F : Nat → Int → Int} {z n : Int} (hz : inR z) (h22 : F 22 0 = n) (hn0 : 0 ≤ n) (hn1 : n ≤ 80) (h21 : ∀ j, 0 ≤ F 21 j ∧ F 21 j ≤ 126) (hP : MA E σ0 o F) : Ctr l E yX9_written (ws_ yX9_written cX9_written 2 (some .char)) 1 22 0 0 [.ref o, .int (iz z)] σ0 (fun v τ => ((0 ≤ z ∧ z ≤ n - 1) → v = some (.int (iz (F 21 z))) ∧ QE E σ0 o τ F 0) ∧ (¬ (0 ≤ z ∧ z ≤ n - 1) → v = some (.int (iz 0)) ∧ QE E σ0 o τ F 1)) noX := by
  refine x_head (own := RX9) (cc := cX9_written) (maxL := 2) (ret := (some .char)) (by decide) rfl rfl (Nat.le_of_ble_eq_true rfl) ?_
  intro p e s m args below meth c H ls hF hname htab hM hl
  have hx := hF.2.2.1
  have hb := hF.2.2.2.1
  have hL : Lc E [] := lcNil
  have hl : lh ls 2 ([(0, .ref o), (1, .int (iz z))]) := hl
  refine MS_gen hM (MS_0 hP) (fun σ hM hP => ?_)
  refine lv_aload_n hx hb dX9_written_0 rfl (lk hl rfl) ?_
  refine x_iconst hF dX9_written_1 ?_
  refine x_putfield hF (ci := 10) in_X9 rfl tyX9_ok nmX9 0 (by decide) q2251 (fun _ h => h) rfl hM hL (MA_ob hP.1) (ty := .int) (by decide +kernel) rfl rfl dX9_written_2 (fun H locs hM hL => ?_)
  refine MS_gen hM (MS_p0 hM hP) (fun σ hM hP => ?_)
  refine lv_iload_n hx hb dX9_written_5 rfl (lk hl rfl) ?_
  refine x_iconst hF dX9_written_6 ?_
  refine lv_aload_n hx hb dX9_written_7 rfl (lk hl rfl) ?_
  refine x_getfield hF (ci := 10) in_X9 rfl 22 (by decide) q2273 (fun _ h => h) hM (MA_ob hP.1) (show rd _ _ _ = .int (iz (n)) from by have h9 := MA_s22 hP.1; rw [up2_f _ _ _ _ (by decide), h22] at h9; exact h9) dX9_written_8 ?_
  refine x_iconst hF dX9_written_11 ?_
  refine x_isub hF dX9_written_12 ?_
  refine x_kp hL (vx_runS (As := [_, _, _]) hF.2.2.2.2.2.2.2.2.2 ((mX9_isBetween hz ⟨by omega, by omega⟩ ⟨by omega, by omega⟩) hF.1) (va_cwS 3 hF.2.2.2.2.2.2.2.2.1 (lw_S q2334 q2335 q138 q2336) rfl rfl rfl (by decide +kernel) ⟨(Nat.le_of_ble_eq_true rfl), (Nat.le_of_ble_eq_true rfl)⟩) (x_preS hF hM) rfl rfl hl.1 rfl (lv_room (Nat.le_of_ble_eq_true rfl)) dX9_written_13 ⟨(Nat.le_of_ble_eq_true rfl), (Nat.le_of_ble_eq_true rfl)⟩) (fun H locs hM hL => ?_)
  refine x_ifeq_b (tgt := 28) hF dX9_written_16 (by decide) (fun c16 => ?_) (fun c16 => ?_)
  · skip
    refine lv_aload_n hx hb dX9_written_28 rfl (lk hl rfl) ?_
    refine x_iconst hF dX9_written_29 ?_
    refine x_kn hL (vx_runV (As := [_]) hF.2.2.2.2.2.2.2.2.2 ((mX9_fails hP.1) hF.1) (cwV 1 hF.2.2.2.2.2.2.2.2.1 (lw_V q2337 q2339 qs46 q138 q2340) rfl rfl rfl (by decide +kernel) ⟨(Nat.le_of_ble_eq_true rfl), (Nat.le_of_ble_eq_true rfl)⟩) (x_preV hF hM (MA_ob hP.1) rfl) rfl rfl hl.1 rfl (lv_room (Nat.le_of_ble_eq_true rfl)) dX9_written_30 ⟨(Nat.le_of_ble_eq_true rfl), (Nat.le_of_ble_eq_true rfl)⟩) ?_
    rintro _ τ30 H locs ⟨rfl, hp⟩ hM hL
    refine MS_gen hM (MS_t hP hp) (fun σ hM hP => ?_)
    refine lv_i2c hx hb dX9_written_33 (i2c_ok (by omega) (by omega)) ?_
    exact x_ireturn hF hM hL (nar_c (by omega) (by omega)) (Nat.le_of_ble_eq_true rfl) (Nat.le_of_ble_eq_true rfl) ⟨fun q => absurd q c16, fun _ => ⟨rfl, QE_1 hP⟩⟩ dX9_written_34
  · skip
    refine lv_aload_n hx hb dX9_written_19 rfl (lk hl rfl) ?_
    refine x_getfield hF (ci := 10) in_X9 rfl 21 (by decide) q2272 (fun _ h => h) hM (MA_ob hP.1) (MA_f21 hP.1) dX9_written_20 ?_
    refine lv_iload_n hx hb dX9_written_23 rfl (lk hl rfl) ?_
    refine x_cald hF hM (MA_a21 hP.1) (by omega) (by omega) (by decide) (show rd _ _ _ = .int (iz (F 21 _)) from by have h9 := MA_r21 hP.1; rw [up2_oth _ _ _ (by decide)] at h9; exact h9 _ (by omega) (by omega)) dX9_written_24 ?_
    refine x_goto (tgt := 34) hF dX9_written_25 (by decide) ?_
    exact x_ireturn hF hM hL (nar_c (h21 _).1 (h21 _).2) (Nat.le_of_ble_eq_true rfl) (Nat.le_of_ble_eq_true rfl) ⟨fun _ => ⟨rfl, QE_0 hP⟩, fun q => absurd c16 q⟩ dX9_written_34
