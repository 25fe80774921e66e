set_option maxHeartbeats 4000000 in
set_option maxRecDepth 100000 in
/-- BakeryRingModel.clearsLoads()V -/
theorem mX9_clearsLoads {l : Launch} {E : En} {σ0 : Mm} {o : Nat} {F : Nat → Int → Int}  (hP : MA E σ0 o F) : Ctr l E yX9_clearsLoads (ws_ yX9_clearsLoads cX9_clearsLoads 2 none) 0 0 0 0 [.ref o] σ0 (fun v τ => v = none ∧ MS E σ0 o τ (upR F 12 6 (fun _ => 0))) noX := by
  refine x_head (own := RX9) (cc := cX9_clearsLoads) (maxL := 2) (ret := none) (by decide) rfl rfl (Nat.le_of_ble_eq_true rfl) ?_
  intro p e s m args below meth c H ls hF hname htab hM hl
  have hx := hF.2.2.1
  have hb := hF.2.2.2.1
  have hL : Lc E [] := lcNil
  have hl : lh ls 2 ([(0, .ref o)]) := hl
  refine MS_gen hM (MS_0 hP) (fun σ hM hP => ?_)
  refine x_iconst hF dX9_clearsLoads_0 ?_
  refine x_istore_n hF dX9_clearsLoads_1 rfl hl (by decide) rfl (fun ls hl => ?_)
  suffices loop : ∀ (n : Nat) (i : Int) (σ : Mm) (H : Heap) (locs : List Loc) (ls : Array Slot), 6 - i < (n : Int) → (0 ≤ i) → (i ≤ 6) → Mem E s H σ → MS E σ0 o σ (upR F 12 i (fun _ => 0)) → Lc E locs → lh ls 2 [(0, .ref o), (1, .int (iz i))] → W p l e ({ frames := 0, cells := 0, slots := 0, locals := 0 } : Room) s m args below meth c H locs 0 0 (vx_MQ below (XQc E (fun v τ => v = none ∧ MS E σ0 o τ (upR F 12 6 (fun _ => 0)))) (XXc E noX) args s 0 0 (XA E)) (F0 m 2 ls []) from loop (7) 0 _ _ _ _ (by omega) (by omega) (by omega) hM (by rw [upR_0]; exact hP) hL (lh_sub hl rfl)
  refine nat_loop (fun i σ H locs ls hmm h0 h1 => absurd hmm (by omega)) (fun n ih i σ H locs ls hmm h0 h1 hM hP hL hl => ?_)
  refine lv_iload_n hx hb dX9_clearsLoads_2 rfl (lk hl rfl) ?_
  refine x_bipush hF (by decide) dX9_clearsLoads_3 ?_
  refine x_icmp_ge (tgt := 21) hF dX9_clearsLoads_5 (by decide) (by unfold inR; omega) (by unfold inR; omega) (fun c5 => ?_) (fun c5 => ?_)
  · skip
    exact x_return hF hM hL (Nat.le_of_ble_eq_true rfl) (Nat.le_of_ble_eq_true rfl) ⟨rfl, by rw [show (6 : Int) = i by omega]; exact hP⟩ dX9_clearsLoads_21
  · skip
    refine lv_aload_n hx hb dX9_clearsLoads_8 rfl (lk hl rfl) ?_
    refine x_getfield hF (ci := 10) in_X9 rfl 12 (by decide) q2263 (fun _ h => h) hM (MA_ob hP.1) (MA_f12 hP.1) dX9_clearsLoads_9 ?_
    refine lv_iload_n hx hb dX9_clearsLoads_12 rfl (lk hl rfl) ?_
    refine x_iconst hF dX9_clearsLoads_13 ?_
    refine x_iast hF hM hL (MA_a12 hP.1) (by omega) (by omega) (by decide) dX9_clearsLoads_14 (fun H locs hM hL => ?_)
    refine MS_gen hM (by have h9 := MS_q12 hM hP (by omega); rw [upR_1 F 12 (fun _ => 0) h0 rfl] at h9; exact h9) (fun σ hM hP => ?_)
    refine x_iinc hF dX9_clearsLoads_15 hl rfl (by decide) rfl (fun ls hl => ?_)
    refine x_goto (tgt := 2) hF dX9_clearsLoads_18 (by decide) ?_
    exact ih (i + 1) _ _ _ _ (by omega) (by omega) (by omega) hM hP hL (lh_sub hl rfl)
set_option maxHeartbeats 4000000 in
set_option maxRecDepth 100000 in
/-- BakeryRingModel.thinks()V -/
theorem mX9_thinks {l : Launch} {E : En} {σ0 : Mm} {o : Nat} {F : Nat → Int → Int}  (hP : MA E σ0 o F) : Ctr l E yX9_thinks (ws_ yX9_thinks cX9_thinks 2 none) 0 0 0 0 [.ref o] σ0 (fun v τ => v = none ∧ MS E σ0 o τ (upR F 8 199 (F 5))) noX := by
  refine x_head (own := RX9) (cc := cX9_thinks) (maxL := 2) (ret := none) (by decide) rfl rfl (Nat.le_of_ble_eq_true rfl) ?_
  intro p e s m args below meth c H ls hF hname htab hM hl
  have hx := hF.2.2.1
  have hb := hF.2.2.2.1
  have hL : Lc E [] := lcNil
  have hl : lh ls 2 ([(0, .ref o)]) := hl
  refine MS_gen hM (MS_0 hP) (fun σ hM hP => ?_)
  refine x_iconst hF dX9_thinks_0 ?_
  refine x_istore_n hF dX9_thinks_1 rfl hl (by decide) rfl (fun ls hl => ?_)
  suffices loop : ∀ (n : Nat) (i : Int) (σ : Mm) (H : Heap) (locs : List Loc) (ls : Array Slot), 199 - i < (n : Int) → (0 ≤ i) → (i ≤ 199) → Mem E s H σ → MS E σ0 o σ (upR F 8 i (F 5)) → Lc E locs → lh ls 2 [(0, .ref o), (1, .int (iz i))] → W p l e ({ frames := 0, cells := 0, slots := 0, locals := 0 } : Room) s m args below meth c H locs 0 0 (vx_MQ below (XQc E (fun v τ => v = none ∧ MS E σ0 o τ (upR F 8 199 (F 5)))) (XXc E noX) args s 0 0 (XA E)) (F0 m 2 ls []) from loop (200) 0 _ _ _ _ (by omega) (by omega) (by omega) hM (by rw [upR_0]; exact hP) hL (lh_sub hl rfl)
  refine nat_loop (fun i σ H locs ls hmm h0 h1 => absurd hmm (by omega)) (fun n ih i σ H locs ls hmm h0 h1 hM hP hL hl => ?_)
  refine lv_iload_n hx hb dX9_thinks_2 rfl (lk hl rfl) ?_
  refine x_sipush hF (by decide) dX9_thinks_3 ?_
  refine x_icmp_ge (tgt := 27) hF dX9_thinks_6 (by decide) (by unfold inR; omega) (by unfold inR; omega) (fun c6 => ?_) (fun c6 => ?_)
  · skip
    exact x_return hF hM hL (Nat.le_of_ble_eq_true rfl) (Nat.le_of_ble_eq_true rfl) ⟨rfl, by rw [show (199 : Int) = i by omega]; exact hP⟩ dX9_thinks_27
  · skip
    refine lv_aload_n hx hb dX9_thinks_9 rfl (lk hl rfl) ?_
    refine x_getfield hF (ci := 10) in_X9 rfl 8 (by decide) q2259 (fun _ h => h) hM (MA_ob hP.1) (MA_f8 hP.1) dX9_thinks_10 ?_
    refine lv_iload_n hx hb dX9_thinks_13 rfl (lk hl rfl) ?_
    refine lv_aload_n hx hb dX9_thinks_14 rfl (lk hl rfl) ?_
    refine x_getfield hF (ci := 10) in_X9 rfl 5 (by decide) q2256 (fun _ h => h) hM (MA_ob hP.1) (MA_f5 hP.1) dX9_thinks_15 ?_
    refine lv_iload_n hx hb dX9_thinks_18 rfl (lk hl rfl) ?_
    refine x_iald hF hM (MA_a5 hP.1) (by omega) (by omega) (by decide) (show rd _ _ _ = .int (iz (F 5 _)) from by have h9 := MA_r5 hP.1; exact h9 _ (by omega) (by omega)) dX9_thinks_19 ?_
    refine x_iast hF hM hL (MA_a8 hP.1) (by omega) (by omega) (by decide) dX9_thinks_20 (fun H locs hM hL => ?_)
    refine MS_gen hM (by have h9 := MS_q8 hM hP (by omega); rw [upR_1 F 8 (F 5) h0 rfl] at h9; exact h9) (fun σ hM hP => ?_)
    refine x_iinc hF dX9_thinks_21 hl rfl (by decide) rfl (fun ls hl => ?_)
    refine x_goto (tgt := 2) hF dX9_thinks_24 (by decide) ?_
    exact ih (i + 1) _ _ _ _ (by omega) (by omega) (by omega) hM hP hL (lh_sub hl rfl)
set_option maxHeartbeats 4000000 in
set_option maxRecDepth 100000 in
/-- BakeryRingModel.forgets()V -/
theorem mX9_forgets {l : Launch} {E : En} {σ0 : Mm} {o : Nat} {F : Nat → Int → Int}  (hP : MA E σ0 o F) : Ctr l E yX9_forgets (ws_ yX9_forgets cX9_forgets 2 none) 0 0 0 0 [.ref o] σ0 (fun v τ => v = none ∧ MS E σ0 o τ (upR F 5 199 (F 8))) noX := by
  refine x_head (own := RX9) (cc := cX9_forgets) (maxL := 2) (ret := none) (by decide) rfl rfl (Nat.le_of_ble_eq_true rfl) ?_
  intro p e s m args below meth c H ls hF hname htab hM hl
  have hx := hF.2.2.1
  have hb := hF.2.2.2.1
  have hL : Lc E [] := lcNil
  have hl : lh ls 2 ([(0, .ref o)]) := hl
  refine MS_gen hM (MS_0 hP) (fun σ hM hP => ?_)
  refine x_iconst hF dX9_forgets_0 ?_
  refine x_istore_n hF dX9_forgets_1 rfl hl (by decide) rfl (fun ls hl => ?_)
  suffices loop : ∀ (n : Nat) (i : Int) (σ : Mm) (H : Heap) (locs : List Loc) (ls : Array Slot), 199 - i < (n : Int) → (0 ≤ i) → (i ≤ 199) → Mem E s H σ → MS E σ0 o σ (upR F 5 i (F 8)) → Lc E locs → lh ls 2 [(0, .ref o), (1, .int (iz i))] → W p l e ({ frames := 0, cells := 0, slots := 0, locals := 0 } : Room) s m args below meth c H locs 0 0 (vx_MQ below (XQc E (fun v τ => v = none ∧ MS E σ0 o τ (upR F 5 199 (F 8)))) (XXc E noX) args s 0 0 (XA E)) (F0 m 2 ls []) from loop (200) 0 _ _ _ _ (by omega) (by omega) (by omega) hM (by rw [upR_0]; exact hP) hL (lh_sub hl rfl)
  refine nat_loop (fun i σ H locs ls hmm h0 h1 => absurd hmm (by omega)) (fun n ih i σ H locs ls hmm h0 h1 hM hP hL hl => ?_)
  refine lv_iload_n hx hb dX9_forgets_2 rfl (lk hl rfl) ?_
  refine x_sipush hF (by decide) dX9_forgets_3 ?_
  refine x_icmp_ge (tgt := 27) hF dX9_forgets_6 (by decide) (by unfold inR; omega) (by unfold inR; omega) (fun c6 => ?_) (fun c6 => ?_)
  · skip
    exact x_return hF hM hL (Nat.le_of_ble_eq_true rfl) (Nat.le_of_ble_eq_true rfl) ⟨rfl, by rw [show (199 : Int) = i by omega]; exact hP⟩ dX9_forgets_27
  · skip
    refine lv_aload_n hx hb dX9_forgets_9 rfl (lk hl rfl) ?_
    refine x_getfield hF (ci := 10) in_X9 rfl 5 (by decide) q2256 (fun _ h => h) hM (MA_ob hP.1) (MA_f5 hP.1) dX9_forgets_10 ?_
    refine lv_iload_n hx hb dX9_forgets_13 rfl (lk hl rfl) ?_
    refine lv_aload_n hx hb dX9_forgets_14 rfl (lk hl rfl) ?_
    refine x_getfield hF (ci := 10) in_X9 rfl 8 (by decide) q2259 (fun _ h => h) hM (MA_ob hP.1) (MA_f8 hP.1) dX9_forgets_15 ?_
    refine lv_iload_n hx hb dX9_forgets_18 rfl (lk hl rfl) ?_
    refine x_iald hF hM (MA_a8 hP.1) (by omega) (by omega) (by decide) (show rd _ _ _ = .int (iz (F 8 _)) from by have h9 := MA_r8 hP.1; exact h9 _ (by omega) (by omega)) dX9_forgets_19 ?_
    refine x_iast hF hM hL (MA_a5 hP.1) (by omega) (by omega) (by decide) dX9_forgets_20 (fun H locs hM hL => ?_)
    refine MS_gen hM (by have h9 := MS_q5 hM hP (by omega); rw [upR_1 F 5 (F 8) h0 rfl] at h9; exact h9) (fun σ hM hP => ?_)
    refine x_iinc hF dX9_forgets_21 hl rfl (by decide) rfl (fun ls hl => ?_)
    refine x_goto (tgt := 2) hF dX9_forgets_24 (by decide) ?_
    exact ih (i + 1) _ _ _ _ (by omega) (by omega) (by omega) hM hP hL (lh_sub hl rfl)
set_option maxHeartbeats 4000000 in
set_option maxRecDepth 100000 in
/-- BakeryRingModel.loadOf(I)I -/
theorem mX9_loadOf {l : Launch} {E : En} {σ0 : Mm} {o : Nat} {F : Nat → Int → Int} {w : Int → Int} (hw : F 5 = w) {z : Int} (hz0 : -1000 ≤ z) (hz1 : z ≤ 1000) (hR : Rg w) (hc0 : 0 ≤ w 1) (hc1 : w 1 ≤ 20) (hP : MA E σ0 o F) : Ctr l E yX9_loadOf (ws_ yX9_loadOf cX9_loadOf 4 (some .int)) 1 22 0 0 [.ref o, .int (iz z)] σ0 (fun v τ => v = some (.int (iz (wLoadOf (w) z))) ∧ τ = σ0) noX := by
  subst hw
  refine x_head (own := RX9) (cc := cX9_loadOf) (maxL := 4) (ret := (some .int)) (by decide) rfl rfl (Nat.le_of_ble_eq_true rfl) ?_
  intro p e s m args below meth c H ls hF hname htab hM hl
  have hx := hF.2.2.1
  have hb := hF.2.2.2.1
  have hL : Lc E [] := lcNil
  have hl : lh ls 4 ([(0, .ref o), (1, .int (iz z))]) := hl
  refine x_iconst hF dX9_loadOf_0 ?_
  refine x_istore_n hF dX9_loadOf_1 rfl hl (by decide) rfl (fun ls hl => ?_)
  refine x_iconst hF dX9_loadOf_2 ?_
  refine x_istore_n hF dX9_loadOf_3 rfl hl (by decide) rfl (fun ls hl => ?_)
  suffices loop : ∀ (n : Nat) (i : Int) (H : Heap) (locs : List Loc) (ls : Array Slot), F 5 1 - i < (n : Int) → (0 ≤ i) → (i ≤ F 5 1) → Mem E s H σ0 → Lc E locs → lh ls 4 [(0, .ref o), (1, .int (iz z)), (2, .int (iz (sm (fun c => if F 5 (79 + 6 * c + 2) = z + 1 then F 5 (79 + 6 * c + 1) else 0) i))), (3, .int (iz i))] → W p l e ({ frames := 1, cells := 0, slots := 0, locals := 22 } : Room) s m args below meth c H locs 0 0 (vx_MQ below (XQc E (fun v τ => v = some (.int (iz (wLoadOf (F 5) z))) ∧ τ = σ0)) (XXc E noX) args s 0 0 (XA E)) (F0 m 4 ls []) from loop (22) 0 _ _ _ (by omega) (by omega) hc0 hM hL (lh_sub hl rfl)
  refine nat_loop (fun i H locs ls hmm h0 h1 => absurd hmm (by omega)) (fun n ih i H locs ls hmm h0 h1 hM hL hl => ?_)
  refine lv_iload_n hx hb dX9_loadOf_4 rfl (lk hl rfl) ?_
  refine lv_aload_n hx hb dX9_loadOf_5 rfl (lk hl rfl) ?_
  refine x_getfield hF (ci := 10) in_X9 rfl 5 (by decide) q2256 (fun _ h => h) hM (MA_ob hP) (MA_f5 hP) dX9_loadOf_6 ?_
  refine x_iconst hF dX9_loadOf_9 ?_
  refine x_iald hF hM (MA_a5 hP) (by omega) (by omega) (by decide) (show rd _ _ _ = .int (iz (F 5 _)) from by have h9 := MA_r5 hP; exact h9 _ (by omega) (by omega)) dX9_loadOf_10 ?_
  refine x_icmp_ge (tgt := 45) hF dX9_loadOf_11 (by decide) (by first | exact Rg_in hR _ | assumption | (unfold inR; omega)) (by first | exact Rg_in hR _ | assumption | (unfold inR; omega)) (fun c11 => ?_) (fun c11 => ?_)
  · skip
    refine lv_iload_n hx hb dX9_loadOf_45 rfl (lk hl rfl) ?_
    exact x_ireturn hF hM hL rfl (Nat.le_of_ble_eq_true rfl) (Nat.le_of_ble_eq_true rfl) ⟨by unfold wLoadOf; rw [show i = F 5 1 by omega], rfl⟩ dX9_loadOf_46
  · skip
    refine lv_iload_n hx hb dX9_loadOf_14 rfl (lk hl rfl) ?_
    refine lv_aload_n hx hb dX9_loadOf_15 rfl (lk hl rfl) ?_
    refine lv_iload_n hx hb dX9_loadOf_16 rfl (lk hl rfl) ?_
    refine x_iconst hF dX9_loadOf_17 ?_
    refine x_kp hL (vx_runV (As := [_, _]) hF.2.2.2.2.2.2.2.2.2 ((mX9_of rfl (by omega) (by omega) hP) hF.1) (cwV 2 hF.2.2.2.2.2.2.2.2.1 (lw_V q2420 q2422 qs65 q138 q2423) rfl rfl rfl (by decide +kernel) ⟨(Nat.le_of_ble_eq_true rfl), (Nat.le_of_ble_eq_true rfl)⟩) (x_preV hF hM (MA_ob hP) rfl) rfl rfl hl.1 rfl (lv_room (Nat.le_of_ble_eq_true rfl)) dX9_loadOf_18 ⟨(Nat.le_of_ble_eq_true rfl), (Nat.le_of_ble_eq_true rfl)⟩) (fun H locs hM hL => ?_)
    refine lv_iload_n hx hb dX9_loadOf_21 rfl (lk hl rfl) ?_
    refine x_iconst hF dX9_loadOf_22 ?_
    refine x_iadd hF dX9_loadOf_23 ?_
    refine x_icmp_ne (tgt := 36) hF dX9_loadOf_24 (by decide) (by first | exact Rg_in hR _ | assumption | (unfold inR; omega)) (by first | exact Rg_in hR _ | assumption | (unfold inR; omega)) (fun c24 => ?_) (fun c24 => ?_)
    · skip
      refine x_iconst hF dX9_loadOf_36 ?_
      refine x_iadd hF dX9_loadOf_37 ?_
      refine x_istore_n hF dX9_loadOf_38 rfl hl (by decide) rfl (fun ls hl => ?_)
      refine x_iinc hF dX9_loadOf_39 hl rfl (by decide) rfl (fun ls hl => ?_)
      refine x_goto (tgt := 4) hF dX9_loadOf_42 (by decide) ?_
      have e9 : sm (fun c => if F 5 (79 + 6 * c + 2) = z + 1 then F 5 (79 + 6 * c + 1) else 0) (i + 1) = _ := sm_1 _ h0
      first | rw [show (if F 5 (79 + 6 * i + 2) = z + 1 then F 5 (79 + 6 * i + 1) else 0) = F 5 (79 + 6 * i + 1) from if_pos c24] at e9 | rw [show (if F 5 (79 + 6 * i + 2) = z + 1 then F 5 (79 + 6 * i + 1) else 0) = 0 from if_neg c24] at e9
      rw [← e9] at hl
      exact ih (i + 1) _ _ _ (by omega) (by omega) (by omega) hM hL (lh_sub hl rfl)
    · skip
      refine lv_aload_n hx hb dX9_loadOf_27 rfl (lk hl rfl) ?_
      refine lv_iload_n hx hb dX9_loadOf_28 rfl (lk hl rfl) ?_
      refine x_iconst hF dX9_loadOf_29 ?_
      refine x_kp hL (vx_runV (As := [_, _]) hF.2.2.2.2.2.2.2.2.2 ((mX9_of rfl (by omega) (by omega) hP) hF.1) (cwV 2 hF.2.2.2.2.2.2.2.2.1 (lw_V q2420 q2422 qs65 q138 q2423) rfl rfl rfl (by decide +kernel) ⟨(Nat.le_of_ble_eq_true rfl), (Nat.le_of_ble_eq_true rfl)⟩) (x_preV hF hM (MA_ob hP) rfl) rfl rfl hl.1 rfl (lv_room (Nat.le_of_ble_eq_true rfl)) dX9_loadOf_30 ⟨(Nat.le_of_ble_eq_true rfl), (Nat.le_of_ble_eq_true rfl)⟩) (fun H locs hM hL => ?_)
      refine x_goto (tgt := 37) hF dX9_loadOf_33 (by decide) ?_
      refine x_iadd hF dX9_loadOf_37 ?_
      refine x_istore_n hF dX9_loadOf_38 rfl hl (by decide) rfl (fun ls hl => ?_)
      refine x_iinc hF dX9_loadOf_39 hl rfl (by decide) rfl (fun ls hl => ?_)
      refine x_goto (tgt := 4) hF dX9_loadOf_42 (by decide) ?_
      have e9 : sm (fun c => if F 5 (79 + 6 * c + 2) = z + 1 then F 5 (79 + 6 * c + 1) else 0) (i + 1) = _ := sm_1 _ h0
      first | rw [show (if F 5 (79 + 6 * i + 2) = z + 1 then F 5 (79 + 6 * i + 1) else 0) = F 5 (79 + 6 * i + 1) from if_pos c24] at e9 | rw [show (if F 5 (79 + 6 * i + 2) = z + 1 then F 5 (79 + 6 * i + 1) else 0) = 0 from if_neg c24] at e9
      rw [← e9] at hl
      exact ih (i + 1) _ _ _ (by omega) (by omega) (by omega) hM hL (lh_sub hl rfl)
set_option maxHeartbeats 4000000 in
set_option maxRecDepth 100000 in
/-- BakeryRingModel.findsLoads()V -/
theorem mX9_findsLoads {l : Launch} {E : En} {σ0 : Mm} {o : Nat} {F : Nat → Int → Int} (hR : Rg (F 5)) (hc0 : 0 ≤ F 5 1) (hc1 : F 5 1 ≤ 20) (hP : MA E σ0 o F) : Ctr l E yX9_findsLoads (ws_ yX9_findsLoads cX9_findsLoads 2 none) 2 45 0 0 [.ref o] σ0 (fun v τ => v = none ∧ MS E σ0 o τ (upR F 12 6 (wLoadOf (F 5)))) noX := by
  refine x_head (own := RX9) (cc := cX9_findsLoads) (maxL := 2) (ret := none) (by decide) rfl rfl (Nat.le_of_ble_eq_true rfl) ?_
  intro p e s m args below meth c H ls hF hname htab hM hl
  have hx := hF.2.2.1
  have hb := hF.2.2.2.1
  have hL : Lc E [] := lcNil
  have hl : lh ls 2 ([(0, .ref o)]) := hl
  refine MS_gen hM (MS_0 hP) (fun σ hM hP => ?_)
  refine x_iconst hF dX9_findsLoads_0 ?_
  refine x_istore_n hF dX9_findsLoads_1 rfl hl (by decide) rfl (fun ls hl => ?_)
  suffices loop : ∀ (n : Nat) (i : Int) (σ : Mm) (H : Heap) (locs : List Loc) (ls : Array Slot), 6 - i < (n : Int) → (0 ≤ i) → (i ≤ 6) → Mem E s H σ → MS E σ0 o σ (upR F 12 i (wLoadOf (F 5))) → Lc E locs → lh ls 2 [(0, .ref o), (1, .int (iz i))] → W p l e ({ frames := 2, cells := 0, slots := 0, locals := 45 } : Room) s m args below meth c H locs 0 0 (vx_MQ below (XQc E (fun v τ => v = none ∧ MS E σ0 o τ (upR F 12 6 (wLoadOf (F 5))))) (XXc E noX) args s 0 0 (XA E)) (F0 m 2 ls []) from loop (7) 0 _ _ _ _ (by omega) (by omega) (by omega) hM (by rw [upR_0]; exact hP) hL (lh_sub hl rfl)
  refine nat_loop (fun i σ H locs ls hmm h0 h1 => absurd hmm (by omega)) (fun n ih i σ H locs ls hmm h0 h1 hM hP hL hl => ?_)
  refine lv_iload_n hx hb dX9_findsLoads_2 rfl (lk hl rfl) ?_
  refine x_bipush hF (by decide) dX9_findsLoads_3 ?_
  refine x_icmp_ge (tgt := 25) hF dX9_findsLoads_5 (by decide) (by unfold inR; omega) (by unfold inR; omega) (fun c5 => ?_) (fun c5 => ?_)
  · skip
    exact x_return hF hM hL (Nat.le_of_ble_eq_true rfl) (Nat.le_of_ble_eq_true rfl) ⟨rfl, by rw [show (6 : Int) = i by omega]; exact hP⟩ dX9_findsLoads_25
  · skip
    refine lv_aload_n hx hb dX9_findsLoads_8 rfl (lk hl rfl) ?_
    refine x_getfield hF (ci := 10) in_X9 rfl 12 (by decide) q2263 (fun _ h => h) hM (MA_ob hP.1) (MA_f12 hP.1) dX9_findsLoads_9 ?_
    refine lv_iload_n hx hb dX9_findsLoads_12 rfl (lk hl rfl) ?_
    refine lv_aload_n hx hb dX9_findsLoads_13 rfl (lk hl rfl) ?_
    refine lv_iload_n hx hb dX9_findsLoads_14 rfl (lk hl rfl) ?_
    refine x_kp hL (vx_runV (As := [_]) hF.2.2.2.2.2.2.2.2.2 ((mX9_loadOf (w := F 5) (by rfl) (by omega) (by omega) hR hc0 hc1 hP.1) hF.1) (cwV 1 hF.2.2.2.2.2.2.2.2.1 (lw_V q2536 q2538 qs87 q138 q2539) rfl rfl rfl (by decide +kernel) ⟨(Nat.le_of_ble_eq_true rfl), (Nat.le_of_ble_eq_true rfl)⟩) (x_preV hF hM (MA_ob hP.1) rfl) rfl rfl hl.1 rfl (lv_room (Nat.le_of_ble_eq_true rfl)) dX9_findsLoads_15 ⟨(Nat.le_of_ble_eq_true rfl), (Nat.le_of_ble_eq_true rfl)⟩) (fun H locs hM hL => ?_)
    refine x_iast hF hM hL (MA_a12 hP.1) (by omega) (by omega) (by decide) dX9_findsLoads_18 (fun H locs hM hL => ?_)
    refine MS_gen hM (by have h9 := MS_q12 hM hP (by omega); rw [upR_1 F 12 (wLoadOf (F 5)) h0 rfl] at h9; exact h9) (fun σ hM hP => ?_)
    refine x_iinc hF dX9_findsLoads_19 hl rfl (by decide) rfl (fun ls hl => ?_)
    refine x_goto (tgt := 2) hF dX9_findsLoads_22 (by decide) ?_
    exact ih (i + 1) _ _ _ _ (by omega) (by omega) (by omega) hM hP hL (lh_sub hl rfl)
set_option maxHeartbeats 4000000 in
set_option maxRecDepth 100000 in
/-- BakeryRingModel.throwsNow(I)I -/
theorem mX9_throwsNow {l : Launch} {E : En} {σ0 : Mm} {o : Nat} {F : Nat → Int → Int} {z : Int} (h3 : inR (F 3 0)) (hP : MA E σ0 o F) : Ctr l E yX9_throwsNow (ws_ yX9_throwsNow cX9_throwsNow 2 (some .int)) 1 23 0 0 [.ref o, .int (iz z)] σ0 (fun v τ => v = some (.int (iz (0))) ∧ MS E σ0 o τ (mThr F z)) noX := by
  refine x_head (own := RX9) (cc := cX9_throwsNow) (maxL := 2) (ret := (some .int)) (by decide) rfl rfl (Nat.le_of_ble_eq_true rfl) ?_
  intro p e s m args below meth c H ls hF hname htab hM hl
  have hx := hF.2.2.1
  have hb := hF.2.2.2.1
  have hL : Lc E [] := lcNil
  have hl : lh ls 2 ([(0, .ref o), (1, .int (iz z))]) := hl
  refine MS_gen hM (MS_0 hP) (fun σ hM hP => ?_)
  refine lv_aload_n hx hb dX9_throwsNow_0 rfl (lk hl rfl) ?_
  refine x_getfield hF (ci := 10) in_X9 rfl 3 (by decide) q2254 (fun _ h => h) hM (MA_ob hP.1) (show rd _ _ _ = .int (iz (F 3 0)) from by have h9 := MA_s3 hP.1; exact h9) dX9_throwsNow_1 ?_
  refine x_if_le (tgt := 27) hF dX9_throwsNow_4 (by decide) h3 (fun c4 => ?_) (fun c4 => ?_)
  · skip
    refine lv_aload_n hx hb dX9_throwsNow_27 rfl (lk hl rfl) ?_
    refine lv_iload_n hx hb dX9_throwsNow_28 rfl (lk hl rfl) ?_
    refine x_kn hL (vx_runV (As := [_]) hF.2.2.2.2.2.2.2.2.2 ((mX9_fails hP.1) hF.1) (cwV 1 hF.2.2.2.2.2.2.2.2.1 (lw_V q2337 q2339 qs46 q138 q2340) rfl rfl rfl (by decide +kernel) ⟨(Nat.le_of_ble_eq_true rfl), (Nat.le_of_ble_eq_true rfl)⟩) (x_preV hF hM (MA_ob hP.1) rfl) rfl rfl hl.1 rfl (lv_room (Nat.le_of_ble_eq_true rfl)) dX9_throwsNow_29 ⟨(Nat.le_of_ble_eq_true rfl), (Nat.le_of_ble_eq_true rfl)⟩) ?_
    rintro _ τ29 H locs ⟨rfl, hp⟩ hM hL
    refine MS_gen hM (MS_t hP hp) (fun σ hM hP => ?_)
    exact x_ireturn hF hM hL rfl (Nat.le_of_ble_eq_true rfl) (Nat.le_of_ble_eq_true rfl) ⟨rfl, by unfold mThr; rw [if_pos c4]; exact hP⟩ dX9_throwsNow_32
  · skip
    refine lv_aload_n hx hb dX9_throwsNow_7 rfl (lk hl rfl) ?_
    refine x_iconst hF dX9_throwsNow_8 ?_
    refine lv_aload_n hx hb dX9_throwsNow_9 rfl (lk hl rfl) ?_
    refine x_getfield hF (ci := 10) in_X9 rfl 3 (by decide) q2254 (fun _ h => h) hM (MA_ob hP.1) (show rd _ _ _ = .int (iz (F 3 0)) from by have h9 := MA_s3 hP.1; exact h9) dX9_throwsNow_10 ?_
    refine lv_aload_n hx hb dX9_throwsNow_13 rfl (lk hl rfl) ?_
    refine x_getfield hF (ci := 10) in_X9 rfl 4 (by decide) q2255 (fun _ h => h) hM (MA_ob hP.1) (show rd _ _ _ = .int (iz (F 4 0)) from by have h9 := MA_s4 hP.1; exact h9) dX9_throwsNow_14 ?_
    refine x_kn hL (vx_runV (As := [_, _, _]) hF.2.2.2.2.2.2.2.2.2 ((mX9_keepsAt (by omega) (by omega) hP.1) hF.1) (cwV 3 hF.2.2.2.2.2.2.2.2.1 (lw_V q2349 q2351 qs49 q138 q2352) rfl rfl rfl (by decide +kernel) ⟨(Nat.le_of_ble_eq_true rfl), (Nat.le_of_ble_eq_true rfl)⟩) (x_preV hF hM (MA_ob hP.1) rfl) rfl rfl hl.1 rfl (lv_room (Nat.le_of_ble_eq_true rfl)) dX9_throwsNow_17 ⟨(Nat.le_of_ble_eq_true rfl), (Nat.le_of_ble_eq_true rfl)⟩) ?_
    rintro _ τ17 H locs ⟨rfl, hp⟩ hM hL
    refine MS_gen hM (MS_t hP hp) (fun σ hM hP => ?_)
    refine lv_aload_n hx hb dX9_throwsNow_20 rfl (lk hl rfl) ?_
    refine x_iconst hF dX9_throwsNow_21 ?_
    refine x_iconst hF dX9_throwsNow_22 ?_
    refine x_iconst hF dX9_throwsNow_23 ?_
    refine x_kn hL (vx_runV (As := [_, _, _]) hF.2.2.2.2.2.2.2.2.2 ((mX9_keepsAt (by omega) (by omega) hP.1) hF.1) (cwV 3 hF.2.2.2.2.2.2.2.2.1 (lw_V q2349 q2351 qs49 q138 q2352) rfl rfl rfl (by decide +kernel) ⟨(Nat.le_of_ble_eq_true rfl), (Nat.le_of_ble_eq_true rfl)⟩) (x_preV hF hM (MA_ob hP.1) rfl) rfl rfl hl.1 rfl (lv_room (Nat.le_of_ble_eq_true rfl)) dX9_throwsNow_24 ⟨(Nat.le_of_ble_eq_true rfl), (Nat.le_of_ble_eq_true rfl)⟩) ?_
    rintro _ τ24 H locs ⟨rfl, hp⟩ hM hL
    refine MS_gen hM (MS_t hP hp) (fun σ hM hP => ?_)
    refine lv_aload_n hx hb dX9_throwsNow_27 rfl (lk hl rfl) ?_
    refine lv_iload_n hx hb dX9_throwsNow_28 rfl (lk hl rfl) ?_
    refine x_kn hL (vx_runV (As := [_]) hF.2.2.2.2.2.2.2.2.2 ((mX9_fails hP.1) hF.1) (cwV 1 hF.2.2.2.2.2.2.2.2.1 (lw_V q2337 q2339 qs46 q138 q2340) rfl rfl rfl (by decide +kernel) ⟨(Nat.le_of_ble_eq_true rfl), (Nat.le_of_ble_eq_true rfl)⟩) (x_preV hF hM (MA_ob hP.1) rfl) rfl rfl hl.1 rfl (lv_room (Nat.le_of_ble_eq_true rfl)) dX9_throwsNow_29 ⟨(Nat.le_of_ble_eq_true rfl), (Nat.le_of_ble_eq_true rfl)⟩) ?_
    rintro _ τ29 H locs ⟨rfl, hp⟩ hM hL
    refine MS_gen hM (MS_t hP hp) (fun σ hM hP => ?_)
    exact x_ireturn hF hM hL rfl (Nat.le_of_ble_eq_true rfl) (Nat.le_of_ble_eq_true rfl) ⟨rfl, by unfold mThr; rw [if_neg (by omega)]; exact hP⟩ dX9_throwsNow_32
