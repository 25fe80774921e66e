set_option maxHeartbeats 4000000 in
set_option maxRecDepth 100000 in
/-- BakeryRing$State.signsOf(I)I -/
theorem mX6_signsOf {l : Launch} {E : En} {σ : Mm} {a x : Nat} {w ld ow : Int → Int} {ch : Int} (hS : SS E σ a x w ld ow ch) (hk : Wk w) {z : Int} (hz : inR z) (hs : Wso w) (ho : Wow w ow) : Ctr l E yX6_signsOf (ws_ yX6_signsOf cX6_signsOf 4 (some .int)) 3 67 0 0 [.ref a, .int (iz z)] σ (fun v τ => v = some (.int (iz (wSignsOf w z))) ∧ τ = σ) noX := by
  refine x_head (own := RX6) (cc := cX6_signsOf) (maxL := 4) (ret := (some .int)) (by decide) rfl rfl (Nat.le_of_ble_eq_true rfl) ?_
  intro p e s m args below meth c H ls hF hname htab hM hl
  have hx := hF.2.2.1
  have hb := hF.2.2.2.1
  have hL : Lc E [] := lcNil
  have hl : lh ls 4 ([(0, .ref a), (1, .int (iz z))]) := hl
  have hk2 := hk.2.1
  refine x_iconst hF dX6_signsOf_0 ?_
  refine x_istore_n hF dX6_signsOf_1 rfl hl (by decide) rfl (fun ls hl => ?_)
  refine lv_aload_n hx hb dX6_signsOf_2 rfl (lk hl rfl) ?_
  refine x_getfield hF (ci := 4) in_X6 rfl 2 (by decide) q402 (fun _ h => h) hM hS.1.1.1 hS.1.1.2.2.1 dX6_signsOf_3 ?_
  refine x_iconst hF dX6_signsOf_6 ?_
  refine x_kp hL (vx_runV (As := [_]) hF.2.2.2.2.2.2.2.2.2 ((mJ8_nextSetBit hS.2.2.2.1 (by omega) (by omega)) hF.1) (cwV 1 hF.2.2.2.2.2.2.2.2.1 (lw_V q1107 q1108 q1109 q128 q1110) rfl rfl rfl (by decide +kernel) ⟨(Nat.le_of_ble_eq_true rfl), (Nat.le_of_ble_eq_true rfl)⟩) (x_preV hF hM (bg_ob hS.2.2.2.1) rfl) rfl rfl hl.1 rfl (lv_room (Nat.le_of_ble_eq_true rfl)) dX6_signsOf_7 ⟨(Nat.le_of_ble_eq_true rfl), (Nat.le_of_ble_eq_true rfl)⟩) (fun H locs hM hL => ?_)
  refine x_istore_n hF dX6_signsOf_10 rfl hl (by decide) rfl (fun ls hl => ?_)
  rw [nsb_0 hs hk] at hl
  suffices loop : ∀ (n9 : Nat) (k : Int) (H : Heap) (locs : List Loc) (ls : Array Slot), w 28 - k < (n9 : Int) → (0 ≤ k) → (k ≤ w 28) → Mem E s H σ → Lc E locs → lh ls 4 [(0, .ref a), (1, .int (iz z)), (2, .int (iz (sm (fun k => if w (29 + 2 * k + 1) = z then 1 else 0) k))), (3, .int (iz (if k < w 28 then w (29 + 2 * k) else -1)))] → W p l e ({ frames := 3, cells := 0, slots := 0, locals := 67 } : Room) s m args below meth c H locs 0 0 (vx_MQ below (XQc E (fun v τ => v = some (.int (iz (wSignsOf w z))) ∧ τ = σ)) (XXc E noX) args s 0 0 (XA E)) (F0 m 11 ls []) from loop (27) 0 _ _ _ (by omega) (by omega) (by omega) hM hL (lh_sub hl rfl)
  refine nat_loop (fun k H locs ls hmm k0 k1 => absurd hmm (by omega)) (fun n9 ih k H locs ls hmm k0 k1 hM hL hl => ?_)
  refine lv_iload_n hx hb dX6_signsOf_11 rfl (lk hl rfl) ?_
  refine x_if_lt (tgt := 50) hF dX6_signsOf_12 (by decide) (by have h9 := hk.1 (29 + 2 * k); unfold inR; split <;> omega) (fun c12 => ?_) (fun c12 => ?_)
  · skip
    have hkn : ¬ k < w 28 := fun q9 => by rw [if_pos q9] at c12; have h9 := hk.2.2.1 k k0 q9; omega
    refine lv_iload_n hx hb dX6_signsOf_50 rfl (lk hl rfl) ?_
    exact x_ireturn hF hM hL rfl (Nat.le_of_ble_eq_true rfl) (Nat.le_of_ble_eq_true rfl) ⟨by unfold wSignsOf; rw [show k = w 28 by omega], rfl⟩ dX6_signsOf_51
  · skip
    have hkn : k < w 28 := by (by_cases q9 : k < w 28); exact q9; rw [if_neg q9] at c12; omega
    rw [if_pos hkn] at hl
    have hat := hk.2.2.1 k k0 hkn
    have how : ow (w (29 + 2 * k)) = w (29 + 2 * k + 1) := by rw [ho _ hat.1.1 (by omega) (by rw [wSignOn_u hs k0 hkn]; exact k0), wSignOn_u hs k0 hkn]
    refine lv_iload_n hx hb dX6_signsOf_15 rfl (lk hl rfl) ?_
    refine lv_aload_n hx hb dX6_signsOf_16 rfl (lk hl rfl) ?_
    refine x_getfield hF (ci := 4) in_X6 rfl 3 (by decide) q404 (fun _ h => h) hM hS.1.1.1 hS.1.1.2.2.2.1 dX6_signsOf_17 ?_
    refine lv_iload_n hx hb dX6_signsOf_20 rfl (lk hl rfl) ?_
    refine x_iald hF hM hS.1.2.1.2.1 (by omega) (by omega) (by decide) (hS.2.2.2.2.1 _ (by omega) (by omega)) dX6_signsOf_21 ?_
    rw [how]
    refine lv_iload_n hx hb dX6_signsOf_22 rfl (lk hl rfl) ?_
    refine x_icmp_ne (tgt := 30) hF dX6_signsOf_23 (by decide) (by first | exact Rg_in hk.1 _ | assumption | (unfold inR; omega)) (by first | exact Rg_in hk.1 _ | assumption | (unfold inR; omega)) (fun c23 => ?_) (fun c23 => ?_)
    · skip
      refine x_iconst hF dX6_signsOf_30 ?_
      refine x_kp hL (vx_runSN (As := [_]) hF.2.2.2.2.2.2.2.2.2 ((mX1_bit (by omega)) hF.1) ⟨va_cnB 1 hF.2.2.2.2.2.2.2.2.1 (lw_meth q1232) rfl rfl rfl (x_nwM hF q1230) (hF.2.2.2.2.2.2.2.2.1 _ q114) (by decide +kernel) ⟨(Nat.le_of_ble_eq_true rfl), (Nat.le_of_ble_eq_true rfl)⟩, hF.2.2.2.2.2.2.2.2.1 _ q1231, trivial⟩ (x_preS hF hM) rfl rfl hl.1 rfl (lv_room (Nat.le_of_ble_eq_true rfl)) dX6_signsOf_31 ⟨(Nat.le_of_ble_eq_true rfl), (Nat.le_of_ble_eq_true rfl)⟩) (fun H locs hM hL => ?_)
      refine x_iadd hF dX6_signsOf_34 ?_
      refine x_istore_n hF dX6_signsOf_35 rfl hl (by decide) rfl (fun ls hl => ?_)
      refine lv_aload_n hx hb dX6_signsOf_36 rfl (lk hl rfl) ?_
      refine x_getfield hF (ci := 4) in_X6 rfl 2 (by decide) q402 (fun _ h => h) hM hS.1.1.1 hS.1.1.2.2.1 dX6_signsOf_37 ?_
      refine lv_iload_n hx hb dX6_signsOf_40 rfl (lk hl rfl) ?_
      refine x_iconst hF dX6_signsOf_41 ?_
      refine x_iadd hF dX6_signsOf_42 ?_
      refine x_kp hL (vx_runV (As := [_]) hF.2.2.2.2.2.2.2.2.2 ((mJ8_nextSetBit hS.2.2.2.1 (by omega) (by omega)) hF.1) (cwV 1 hF.2.2.2.2.2.2.2.2.1 (lw_V q1107 q1108 q1109 q128 q1110) rfl rfl rfl (by decide +kernel) ⟨(Nat.le_of_ble_eq_true rfl), (Nat.le_of_ble_eq_true rfl)⟩) (x_preV hF hM (bg_ob hS.2.2.2.1) rfl) rfl rfl hl.1 rfl (lv_room (Nat.le_of_ble_eq_true rfl)) dX6_signsOf_43 ⟨(Nat.le_of_ble_eq_true rfl), (Nat.le_of_ble_eq_true rfl)⟩) (fun H locs hM hL => ?_)
      refine x_istore_n hF dX6_signsOf_46 rfl hl (by decide) rfl (fun ls hl => ?_)
      refine x_goto (tgt := 11) hF dX6_signsOf_47 (by decide) ?_
      have e8 := nsb_k (f := w (29 + 2 * k) + 1) (k := k + 1) hs hk (by omega) (by omega) (by omega) (by omega) (fun j a0 b0 => by by_cases q9 : j = k; rw [q9]; omega; have h9 := hs j k a0 (by omega) hkn; omega) (fun h9 => by have := hs k (k + 1) k0 (by omega) h9; omega)
      rw [e8] at hl
      have e9 : sm (fun k => if w (29 + 2 * k + 1) = z then 1 else 0) (k + 1) = _ := sm_1 _ k0
      first | rw [show (if w (29 + 2 * k + 1) = z then (1 : Int) else 0) = 1 from if_pos c23] at e9 | rw [show (if w (29 + 2 * k + 1) = z then (1 : Int) else 0) = 0 from if_neg c23] at e9
      rw [← e9] at hl
      exact ih (k + 1) _ _ _ (by omega) (by omega) (by omega) hM hL (lh_sub hl rfl)
    · skip
      refine x_iconst hF dX6_signsOf_26 ?_
      refine x_goto (tgt := 31) hF dX6_signsOf_27 (by decide) ?_
      refine x_kp hL (vx_runSN (As := [_]) hF.2.2.2.2.2.2.2.2.2 ((mX1_bit (by omega)) hF.1) ⟨va_cnB 1 hF.2.2.2.2.2.2.2.2.1 (lw_meth q1232) rfl rfl rfl (x_nwM hF q1230) (hF.2.2.2.2.2.2.2.2.1 _ q114) (by decide +kernel) ⟨(Nat.le_of_ble_eq_true rfl), (Nat.le_of_ble_eq_true rfl)⟩, hF.2.2.2.2.2.2.2.2.1 _ q1231, trivial⟩ (x_preS hF hM) rfl rfl hl.1 rfl (lv_room (Nat.le_of_ble_eq_true rfl)) dX6_signsOf_31 ⟨(Nat.le_of_ble_eq_true rfl), (Nat.le_of_ble_eq_true rfl)⟩) (fun H locs hM hL => ?_)
      refine x_iadd hF dX6_signsOf_34 ?_
      refine x_istore_n hF dX6_signsOf_35 rfl hl (by decide) rfl (fun ls hl => ?_)
      refine lv_aload_n hx hb dX6_signsOf_36 rfl (lk hl rfl) ?_
      refine x_getfield hF (ci := 4) in_X6 rfl 2 (by decide) q402 (fun _ h => h) hM hS.1.1.1 hS.1.1.2.2.1 dX6_signsOf_37 ?_
      refine lv_iload_n hx hb dX6_signsOf_40 rfl (lk hl rfl) ?_
      refine x_iconst hF dX6_signsOf_41 ?_
      refine x_iadd hF dX6_signsOf_42 ?_
      refine x_kp hL (vx_runV (As := [_]) hF.2.2.2.2.2.2.2.2.2 ((mJ8_nextSetBit hS.2.2.2.1 (by omega) (by omega)) hF.1) (cwV 1 hF.2.2.2.2.2.2.2.2.1 (lw_V q1107 q1108 q1109 q128 q1110) rfl rfl rfl (by decide +kernel) ⟨(Nat.le_of_ble_eq_true rfl), (Nat.le_of_ble_eq_true rfl)⟩) (x_preV hF hM (bg_ob hS.2.2.2.1) rfl) rfl rfl hl.1 rfl (lv_room (Nat.le_of_ble_eq_true rfl)) dX6_signsOf_43 ⟨(Nat.le_of_ble_eq_true rfl), (Nat.le_of_ble_eq_true rfl)⟩) (fun H locs hM hL => ?_)
      refine x_istore_n hF dX6_signsOf_46 rfl hl (by decide) rfl (fun ls hl => ?_)
      refine x_goto (tgt := 11) hF dX6_signsOf_47 (by decide) ?_
      have e8 := nsb_k (f := w (29 + 2 * k) + 1) (k := k + 1) hs hk (by omega) (by omega) (by omega) (by omega) (fun j a0 b0 => by by_cases q9 : j = k; rw [q9]; omega; have h9 := hs j k a0 (by omega) hkn; omega) (fun h9 => by have := hs k (k + 1) k0 (by omega) h9; omega)
      rw [e8] at hl
      have e9 : sm (fun k => if w (29 + 2 * k + 1) = z then 1 else 0) (k + 1) = _ := sm_1 _ k0
      first | rw [show (if w (29 + 2 * k + 1) = z then (1 : Int) else 0) = 1 from if_pos c23] at e9 | rw [show (if w (29 + 2 * k + 1) = z then (1 : Int) else 0) = 0 from if_neg c23] at e9
      rw [← e9] at hl
      exact ih (k + 1) _ _ _ (by omega) (by omega) (by omega) hM hL (lh_sub hl rfl)
