set_option maxHeartbeats 4000000 in
set_option maxRecDepth 100000 in
/-- BakeryRing.within(III)Z -/
theorem mX1_within {l : Launch} {E : En} {σ : Mm} {z a b : Int} (hz : inR z) (ha : inR a) (hc : inR b) : Ctr l E yX1_within (ws_ yX1_within cX1_within 3 (some .boolean)) 0 0 0 0 [.int (iz z), .int (iz a), .int (iz b)] σ (fun v τ => v = some (.int (iz (if a ≤ z ∧ z ≤ b then 1 else 0))) ∧ τ = σ) noX := by
  refine x_head (own := RX1) (cc := cX1_within) (maxL := 3) (ret := (some .boolean)) (by decide) rfl rfl (Nat.le_of_ble_eq_true rfl) ?_
  intro p e s m args below meth c H ls hF hname htab hM hl
  have hx := hF.2.2.1
  have hb := hF.2.2.2.1
  have hL : Lc E [] := lcNil
  have hl : lh ls 3 ([(0, .int (iz z)), (1, .int (iz a)), (2, .int (iz b))]) := hl
  refine lv_iload_n hx hb dX1_within_0 rfl (lk hl rfl) ?_
  refine lv_iload_n hx hb dX1_within_1 rfl (lk hl rfl) ?_
  refine x_icmp_lt (tgt := 14) hF dX1_within_2 (by decide) (by assumption) (by assumption) (fun c2 => ?_) (fun c2 => ?_)
  · skip
    refine x_iconst hF dX1_within_14 ?_
    exact x_ireturn hF hM hL (by rfl) (Nat.le_of_ble_eq_true rfl) (Nat.le_of_ble_eq_true rfl) ⟨by first | rw [if_pos (by omega)] | rw [if_neg (by omega)], rfl⟩ dX1_within_15
  · skip
    refine lv_iload_n hx hb dX1_within_5 rfl (lk hl rfl) ?_
    refine lv_iload_n hx hb dX1_within_6 rfl (lk hl rfl) ?_
    refine x_icmp_gt (tgt := 14) hF dX1_within_7 (by decide) (by assumption) (by assumption) (fun c7 => ?_) (fun c7 => ?_)
    · skip
      refine x_iconst hF dX1_within_14 ?_
      exact x_ireturn hF hM hL (by rfl) (Nat.le_of_ble_eq_true rfl) (Nat.le_of_ble_eq_true rfl) ⟨by first | rw [if_pos (by omega)] | rw [if_neg (by omega)], rfl⟩ dX1_within_15
    · skip
      refine x_iconst hF dX1_within_10 ?_
      refine x_goto (tgt := 15) hF dX1_within_11 (by decide) ?_
      exact x_ireturn hF hM hL (by rfl) (Nat.le_of_ble_eq_true rfl) (Nat.le_of_ble_eq_true rfl) ⟨by first | rw [if_pos (by omega)] | rw [if_neg (by omega)], rfl⟩ dX1_within_15
set_option maxHeartbeats 4000000 in
set_option maxRecDepth 100000 in
/-- BakeryRing.bit(Z)I -/
theorem mX1_bit {l : Launch} {E : En} {σ : Mm} {z : Int} (hz : z = 0 ∨ z = 1) : Ctr l E yX1_bit (ws_ yX1_bit cX1_bit 1 (some .int)) 0 0 0 0 [.int (iz z)] σ (fun v τ => v = some (.int (iz z)) ∧ τ = σ) noX := by
  refine x_head (own := RX1) (cc := cX1_bit) (maxL := 1) (ret := (some .int)) (by decide) rfl rfl (Nat.le_of_ble_eq_true rfl) ?_
  intro p e s m args below meth c H ls hF hname htab hM hl
  have hx := hF.2.2.1
  have hb := hF.2.2.2.1
  have hL : Lc E [] := lcNil
  have hl : lh ls 1 ([(0, .int (iz z))]) := hl
  refine lv_iload_n hx hb dX1_bit_0 rfl (lk hl rfl) ?_
  refine x_if_eq (tgt := 8) hF dX1_bit_1 (by decide) (by unfold inR; omega) (fun c1 => ?_) (fun c1 => ?_)
  · skip
    refine x_iconst hF dX1_bit_8 ?_
    exact x_ireturn hF hM hL rfl (Nat.le_of_ble_eq_true rfl) (Nat.le_of_ble_eq_true rfl) ⟨by first | rw [show z = 0 by omega] | rw [show z = 1 by omega], rfl⟩ dX1_bit_9
  · skip
    refine x_iconst hF dX1_bit_4 ?_
    refine x_goto (tgt := 9) hF dX1_bit_5 (by decide) ?_
    exact x_ireturn hF hM hL rfl (Nat.le_of_ble_eq_true rfl) (Nat.le_of_ble_eq_true rfl) ⟨by first | rw [show z = 0 by omega] | rw [show z = 1 by omega], rfl⟩ dX1_bit_9
set_option maxHeartbeats 4000000 in
set_option maxRecDepth 100000 in
/-- BakeryRing$State.isBakery(I)Z -/
theorem mX6_isBakery {l : Launch} {E : En} {σ : Mm} {a x : Nat} {w ld ow : Int → Int} {ch : Int} (hS : SS E σ a x w ld ow ch) (hk : Wk w) {z : Int} (hz : inR z) : Ctr l E yX6_isBakery (ws_ yX6_isBakery cX6_isBakery 2 (some .boolean)) 1 22 0 0 [.ref a, .int (iz z)] σ (fun v τ => v = some (.int (iz (if 0 ≤ z ∧ z ≤ w 0 - 1 then 1 else 0))) ∧ τ = σ) noX := by
  refine x_head (own := RX6) (cc := cX6_isBakery) (maxL := 2) (ret := (some .boolean)) (by decide) rfl rfl (Nat.le_of_ble_eq_true rfl) ?_
  intro p e s m args below meth c H ls hF hname htab hM hl
  have hx := hF.2.2.1
  have hb := hF.2.2.2.1
  have hL : Lc E [] := lcNil
  have hl : lh ls 2 ([(0, .ref a), (1, .int (iz z))]) := hl
  have hk2 := hk.2.1
  refine lv_iload_n hx hb dX6_isBakery_0 rfl (lk hl rfl) ?_
  refine x_iconst hF dX6_isBakery_1 ?_
  refine lv_aload_n hx hb dX6_isBakery_2 rfl (lk hl rfl) ?_
  refine x_getfield hF (ci := 4) in_X6 rfl 1 (by decide) q400 (fun _ h => h) hM hS.1.1.1 hS.2.2.1.1 dX6_isBakery_3 ?_
  refine x_iconst hF dX6_isBakery_6 ?_
  refine x_isub hF dX6_isBakery_7 ?_
  refine x_kp hL (vx_runSN (As := [_, _, _]) hF.2.2.2.2.2.2.2.2.2 ((mX1_within hz ⟨by omega, by omega⟩ (by unfold inR; omega)) hF.1) ⟨va_cnB 3 hF.2.2.2.2.2.2.2.2.1 (lw_meth q625) rfl rfl rfl (x_nwM hF q1208) (hF.2.2.2.2.2.2.2.2.1 _ q114) (by decide +kernel) ⟨(Nat.le_of_ble_eq_true rfl), (Nat.le_of_ble_eq_true rfl)⟩, hF.2.2.2.2.2.2.2.2.1 _ q624, trivial⟩ (x_preS hF hM) rfl rfl hl.1 rfl (lv_room (Nat.le_of_ble_eq_true rfl)) dX6_isBakery_8 ⟨(Nat.le_of_ble_eq_true rfl), (Nat.le_of_ble_eq_true rfl)⟩) (fun H locs hM hL => ?_)
  exact x_ireturn hF hM hL nar_b (Nat.le_of_ble_eq_true rfl) (Nat.le_of_ble_eq_true rfl) ⟨rfl, rfl⟩ dX6_isBakery_11
set_option maxHeartbeats 4000000 in
set_option maxRecDepth 100000 in
/-- BakeryRing$State.openMany()I -/
theorem mX6_openMany {l : Launch} {E : En} {σ : Mm} {a x : Nat} {w ld ow : Int → Int} {ch : Int} (hS : SS E σ a x w ld ow ch) (hk : Wk w)  : Ctr l E yX6_openMany (ws_ yX6_openMany cX6_openMany 3 (some .int)) 1 20 0 0 [.ref a] σ (fun v τ => v = some (.int (iz (wOpenMany w))) ∧ τ = σ) noX := by
  refine x_head (own := RX6) (cc := cX6_openMany) (maxL := 3) (ret := (some .int)) (by decide) rfl rfl (Nat.le_of_ble_eq_true rfl) ?_
  intro p e s m args below meth c H ls hF hname htab hM hl
  have hx := hF.2.2.1
  have hb := hF.2.2.2.1
  have hL : Lc E [] := lcNil
  have hl : lh ls 3 ([(0, .ref a)]) := hl
  have hk2 := hk.2.1
  refine x_iconst hF dX6_openMany_0 ?_
  refine x_istore_n hF dX6_openMany_1 rfl hl (by decide) rfl (fun ls hl => ?_)
  refine x_iconst hF dX6_openMany_2 ?_
  refine x_istore_n hF dX6_openMany_3 rfl hl (by decide) rfl (fun ls hl => ?_)
  suffices loop : ∀ (n9 : Nat) (i : Int) (H : Heap) (locs : List Loc) (ls : Array Slot), w 0 - i < (n9 : Int) → (0 ≤ i) → (i ≤ w 0) → Mem E s H σ → Lc E locs → lh ls 3 [(0, .ref a), (1, .int (iz (sm (fun b => if w (4 + 4 * b + 2) = 0 then 1 else 0) i))), (2, .int (iz i))] → W p l e ({ frames := 1, cells := 0, slots := 0, locals := 20 } : Room) s m args below meth c H locs 0 0 (vx_MQ below (XQc E (fun v τ => v = some (.int (iz (wOpenMany w))) ∧ τ = σ)) (XXc E noX) args s 0 0 (XA E)) (F0 m 4 ls []) from loop (8) 0 _ _ _ (by omega) (by omega) (by omega) hM hL (lh_sub hl rfl)
  refine nat_loop (fun i H locs ls hmm i0 i1 => absurd hmm (by omega)) (fun n9 ih i H locs ls hmm i0 i1 hM hL hl => ?_)
  refine lv_iload_n hx hb dX6_openMany_4 rfl (lk hl rfl) ?_
  refine lv_aload_n hx hb dX6_openMany_5 rfl (lk hl rfl) ?_
  refine x_getfield hF (ci := 4) in_X6 rfl 1 (by decide) q400 (fun _ h => h) hM hS.1.1.1 hS.2.2.1.1 dX6_openMany_6 ?_
  refine x_icmp_ge (tgt := 33) hF dX6_openMany_9 (by decide) (by first | exact Rg_in hk.1 _ | assumption | (unfold inR; omega)) (by first | exact Rg_in hk.1 _ | assumption | (unfold inR; omega)) (fun c9 => ?_) (fun c9 => ?_)
  · skip
    refine lv_iload_n hx hb dX6_openMany_33 rfl (lk hl rfl) ?_
    exact x_ireturn hF hM hL rfl (Nat.le_of_ble_eq_true rfl) (Nat.le_of_ble_eq_true rfl) ⟨by unfold wOpenMany; rw [show i = w 0 by omega], rfl⟩ dX6_openMany_34
  · skip
    refine lv_iload_n hx hb dX6_openMany_12 rfl (lk hl rfl) ?_
    refine lv_aload_n hx hb dX6_openMany_13 rfl (lk hl rfl) ?_
    refine x_getfield hF (ci := 4) in_X6 rfl 0 (by decide) q398 (fun _ h => h) hM hS.1.1.1 hS.1.1.2.1 dX6_openMany_14 ?_
    refine lv_iload_n hx hb dX6_openMany_17 rfl (lk hl rfl) ?_
    refine x_aald hF hM hS.1.2.1.1 (by omega) (by omega) (by decide) (hS.1.2.2.1 _ (by omega) (by omega)).1 dX6_openMany_18 ?_
    refine x_getfieldN hF (ci := 6) in_X7 rfl 2 (by decide) q352 (fun _ h => h) hM (hS.1.2.2.1 _ (by omega) (by omega)).2 (hS.2.2.2.2.2.2.1 _ (by omega) (by omega)).2.2 dX6_openMany_19 ?_
    refine x_kp hL (vx_runSN (As := [_]) hF.2.2.2.2.2.2.2.2.2 ((mX1_bit b2_01) hF.1) ⟨va_cnB 1 hF.2.2.2.2.2.2.2.2.1 (lw_meth q1232) rfl rfl rfl (x_nwM hF q1230) (hF.2.2.2.2.2.2.2.2.1 _ q114) (by decide +kernel) ⟨(Nat.le_of_ble_eq_true rfl), (Nat.le_of_ble_eq_true rfl)⟩, hF.2.2.2.2.2.2.2.2.1 _ q1231, trivial⟩ (x_preS hF hM) rfl rfl hl.1 rfl (lv_room (Nat.le_of_ble_eq_true rfl)) dX6_openMany_22 ⟨(Nat.le_of_ble_eq_true rfl), (Nat.le_of_ble_eq_true rfl)⟩) (fun H locs hM hL => ?_)
    refine x_iadd hF dX6_openMany_25 ?_
    refine x_istore_n hF dX6_openMany_26 rfl hl (by decide) rfl (fun ls hl => ?_)
    refine x_iinc hF dX6_openMany_27 hl rfl (by decide) rfl (fun ls hl => ?_)
    refine x_goto (tgt := 4) hF dX6_openMany_30 (by decide) ?_
    have e9 : sm (fun b => if w (4 + 4 * b + 2) = 0 then 1 else 0) (i + 1) = sm (fun b => if w (4 + 4 * b + 2) = 0 then 1 else 0) i + (if w (4 + 4 * i + 2) = 0 then 1 else 0) := sm_1 _ i0
    rw [← e9] at hl
    exact ih (i + 1) _ _ _ (by omega) (by omega) (by omega) hM hL (lh_sub hl rfl)
set_option maxHeartbeats 4000000 in
set_option maxRecDepth 100000 in
/-- BakeryRing$State.signFrom(I)I -/
theorem mX6_signFrom {l : Launch} {E : En} {σ : Mm} {a x : Nat} {w ld ow : Int → Int} {ch : Int} (hS : SS E σ a x w ld ow ch) (hk : Wk w) {z : Int} (hs : Wso w) (hz0 : 0 ≤ z) (hz1 : z < 384) : Ctr l E yX6_signFrom (ws_ yX6_signFrom cX6_signFrom 3 (some .int)) 3 67 0 0 [.ref a, .int (iz z)] σ (fun v τ => v = some (.int (iz (sgF w z))) ∧ τ = σ) noX := by
  refine x_head (own := RX6) (cc := cX6_signFrom) (maxL := 3) (ret := (some .int)) (by decide) rfl rfl (Nat.le_of_ble_eq_true rfl) ?_
  intro p e s m args below meth c H ls hF hname htab hM hl
  have hx := hF.2.2.1
  have hb := hF.2.2.2.1
  have hL : Lc E [] := lcNil
  have hl : lh ls 3 ([(0, .ref a), (1, .int (iz z))]) := hl
  have hk2 := hk.2.1
  refine lv_aload_n hx hb dX6_signFrom_0 rfl (lk hl rfl) ?_
  refine x_getfield hF (ci := 4) in_X6 rfl 2 (by decide) q402 (fun _ h => h) hM hS.1.1.1 hS.1.1.2.2.1 dX6_signFrom_1 ?_
  refine lv_iload_n hx hb dX6_signFrom_4 rfl (lk hl rfl) ?_
  refine x_kp hL (vx_runV (As := [_]) hF.2.2.2.2.2.2.2.2.2 ((mJ8_nextSetBit hS.2.2.2.1 hz0 hz1) hF.1) (cwV 1 hF.2.2.2.2.2.2.2.2.1 (lw_V q1107 q1108 q1109 q128 q1110) rfl rfl rfl (by decide +kernel) ⟨(Nat.le_of_ble_eq_true rfl), (Nat.le_of_ble_eq_true rfl)⟩) (x_preV hF hM (bg_ob hS.2.2.2.1) rfl) rfl rfl hl.1 rfl (lv_room (Nat.le_of_ble_eq_true rfl)) dX6_signFrom_5 ⟨(Nat.le_of_ble_eq_true rfl), (Nat.le_of_ble_eq_true rfl)⟩) (fun H locs hM hL => ?_)
  refine x_istore_n hF dX6_signFrom_8 rfl hl (by decide) rfl (fun ls hl => ?_)
  refine lv_iload_n hx hb dX6_signFrom_9 rfl (lk hl rfl) ?_
  have hr := nsb_rng (g := sbg w) hz0 (show z ≤ 384 by omega)
  have hok := sgF_ok hs hk hz0 (show z ≤ 384 by omega)
  refine x_if_ge (tgt := 24) hF dX6_signFrom_10 (by decide) (by first | exact Rg_in hk.1 _ | assumption | (unfold inR; omega)) (fun c10 => ?_) (fun c10 => ?_)
  · skip
    refine lv_iload_n hx hb dX6_signFrom_24 rfl (lk hl rfl) ?_
    exact x_ireturn hF hM hL rfl (Nat.le_of_ble_eq_true rfl) (Nat.le_of_ble_eq_true rfl) ⟨by rw [← hok]; first | rw [if_pos (by omega)] | rw [if_neg (by omega)], rfl⟩ dX6_signFrom_25
  · skip
    refine lv_aload_n hx hb dX6_signFrom_13 rfl (lk hl rfl) ?_
    refine x_getfield hF (ci := 4) in_X6 rfl 2 (by decide) q402 (fun _ h => h) hM hS.1.1.1 hS.1.1.2.2.1 dX6_signFrom_14 ?_
    refine x_iconst hF dX6_signFrom_17 ?_
    refine x_kp hL (vx_runV (As := [_]) hF.2.2.2.2.2.2.2.2.2 ((mJ8_nextSetBit hS.2.2.2.1 (by omega) (by omega)) hF.1) (cwV 1 hF.2.2.2.2.2.2.2.2.1 (lw_V q1107 q1108 q1109 q128 q1110) rfl rfl rfl (by decide +kernel) ⟨(Nat.le_of_ble_eq_true rfl), (Nat.le_of_ble_eq_true rfl)⟩) (x_preV hF hM (bg_ob hS.2.2.2.1) rfl) rfl rfl hl.1 rfl (lv_room (Nat.le_of_ble_eq_true rfl)) dX6_signFrom_18 ⟨(Nat.le_of_ble_eq_true rfl), (Nat.le_of_ble_eq_true rfl)⟩) (fun H locs hM hL => ?_)
    refine x_goto (tgt := 25) hF dX6_signFrom_21 (by decide) ?_
    exact x_ireturn hF hM hL rfl (Nat.le_of_ble_eq_true rfl) (Nat.le_of_ble_eq_true rfl) ⟨by rw [← hok]; first | rw [if_pos (by omega)] | rw [if_neg (by omega)], rfl⟩ dX6_signFrom_25
set_option maxHeartbeats 4000000 in
set_option maxRecDepth 100000 in
/-- BakeryRing$State.greatestLoad()I -/
theorem mX6_greatestLoad {l : Launch} {E : En} {σ : Mm} {a x : Nat} {w ld ow : Int → Int} {ch : Int} (hS : SS E σ a x w ld ow ch) (hk : Wk w) (hld : ∀ b, 0 ≤ ld b ∧ ld b ≤ 180) : Ctr l E yX6_greatestLoad (ws_ yX6_greatestLoad cX6_greatestLoad 3 (some .int)) 1 40 0 0 [.ref a] σ (fun v τ => v = some (.int (iz (mx ld (w 0).toNat))) ∧ τ = σ) noX := by
  refine x_head (own := RX6) (cc := cX6_greatestLoad) (maxL := 3) (ret := (some .int)) (by decide) rfl rfl (Nat.le_of_ble_eq_true rfl) ?_
  intro p e s m args below meth c H ls hF hname htab hM hl
  have hx := hF.2.2.1
  have hb := hF.2.2.2.1
  have hL : Lc E [] := lcNil
  have hl : lh ls 3 ([(0, .ref a)]) := hl
  have hk2 := hk.2.1
  refine x_iconst hF dX6_greatestLoad_0 ?_
  refine x_istore_n hF dX6_greatestLoad_1 rfl hl (by decide) rfl (fun ls hl => ?_)
  refine x_iconst hF dX6_greatestLoad_2 ?_
  refine x_istore_n hF dX6_greatestLoad_3 rfl hl (by decide) rfl (fun ls hl => ?_)
  suffices loop : ∀ (n9 : Nat) (i : Int) (H : Heap) (locs : List Loc) (ls : Array Slot), w 0 - i < (n9 : Int) → (0 ≤ i) → (i ≤ w 0) → Mem E s H σ → Lc E locs → lh ls 3 [(0, .ref a), (1, .int (iz (mx ld i.toNat))), (2, .int (iz i))] → W p l e ({ frames := 1, cells := 0, slots := 0, locals := 40 } : Room) s m args below meth c H locs 0 0 (vx_MQ below (XQc E (fun v τ => v = some (.int (iz (mx ld (w 0).toNat))) ∧ τ = σ)) (XXc E noX) args s 0 0 (XA E)) (F0 m 4 ls []) from loop (8) 0 _ _ _ (by omega) (by omega) (by omega) hM hL (lh_sub hl rfl)
  refine nat_loop (fun i H locs ls hmm i0 i1 => absurd hmm (by omega)) (fun n9 ih i H locs ls hmm i0 i1 hM hL hl => ?_)
  refine lv_iload_n hx hb dX6_greatestLoad_4 rfl (lk hl rfl) ?_
  refine lv_aload_n hx hb dX6_greatestLoad_5 rfl (lk hl rfl) ?_
  refine x_getfield hF (ci := 4) in_X6 rfl 1 (by decide) q400 (fun _ h => h) hM hS.1.1.1 hS.2.2.1.1 dX6_greatestLoad_6 ?_
  refine x_icmp_ge (tgt := 29) hF dX6_greatestLoad_9 (by decide) (by first | exact Rg_in hk.1 _ | assumption | (unfold inR; omega)) (by first | exact Rg_in hk.1 _ | assumption | (unfold inR; omega)) (fun c9 => ?_) (fun c9 => ?_)
  · skip
    refine lv_iload_n hx hb dX6_greatestLoad_29 rfl (lk hl rfl) ?_
    exact x_ireturn hF hM hL rfl (Nat.le_of_ble_eq_true rfl) (Nat.le_of_ble_eq_true rfl) ⟨by rw [show i = w 0 by omega], rfl⟩ dX6_greatestLoad_30
  · skip
    have hmr := mx_r (c := 180) (by omega) hld i.toNat
    have hlr := hld i
    refine lv_iload_n hx hb dX6_greatestLoad_12 rfl (lk hl rfl) ?_
    refine lv_aload_n hx hb dX6_greatestLoad_13 rfl (lk hl rfl) ?_
    refine x_getfield hF (ci := 4) in_X6 rfl 6 (by decide) q410 (fun _ h => h) hM hS.1.1.1 hS.1.1.2.2.2.2.2 dX6_greatestLoad_14 ?_
    refine lv_iload_n hx hb dX6_greatestLoad_17 rfl (lk hl rfl) ?_
    refine x_iald hF hM hS.1.2.1.2.2.2 (by omega) (by omega) (by decide) (hS.2.2.2.2.2.1 _ (by omega) (by omega)) dX6_greatestLoad_18 ?_
    refine x_mmax hF hl (by first | exact Rg_in hk.1 _ | assumption | (unfold inR; omega)) (by first | exact Rg_in hk.1 _ | assumption | (unfold inR; omega)) q1983 q586 q145 q587 (Nat.le_of_ble_eq_true rfl) (Nat.le_of_ble_eq_true rfl) (Nat.le_of_ble_eq_true rfl) (Nat.le_of_ble_eq_true rfl) dX6_greatestLoad_19 ?_
    refine x_istore_n hF dX6_greatestLoad_22 rfl hl (by decide) rfl (fun ls hl => ?_)
    refine x_iinc hF dX6_greatestLoad_23 hl rfl (by decide) rfl (fun ls hl => ?_)
    refine x_goto (tgt := 4) hF dX6_greatestLoad_26 (by decide) ?_
    by_cases q9 : mx ld i.toNat < ld i
    · rw [if_pos q9, mx_t (f := ld) i0 q9] at hl
      exact ih (i + 1) _ _ _ (by omega) (by omega) (by omega) hM hL (lh_sub hl rfl)
    · rw [if_neg q9, mx_f (f := ld) i0 q9] at hl
      exact ih (i + 1) _ _ _ (by omega) (by omega) (by omega) hM hL (lh_sub hl rfl)
set_option maxHeartbeats 4000000 in
set_option maxRecDepth 100000 in
/-- BakeryRing$State.isOverloaded(I)Z -/
theorem mX6_isOverloaded {l : Launch} {E : En} {σ : Mm} {a x : Nat} {w ld ow : Int → Int} {ch : Int} (hS : SS E σ a x w ld ow ch) (hk : Wk w) {z : Int} (hz0 : 0 ≤ z) (hz1 : z < w 0) (hld : ∀ b, 0 ≤ ld b ∧ ld b ≤ 180) : Ctr l E yX6_isOverloaded (ws_ yX6_isOverloaded cX6_isOverloaded 2 (some .boolean)) 0 0 0 0 [.ref a, .int (iz z)] σ (fun v τ => v = some (.int (iz (if w (4 + 4 * z + 1) < ld z then 1 else 0))) ∧ τ = σ) noX := by
  refine x_head (own := RX6) (cc := cX6_isOverloaded) (maxL := 2) (ret := (some .boolean)) (by decide) rfl rfl (Nat.le_of_ble_eq_true rfl) ?_
  intro p e s m args below meth c H ls hF hname htab hM hl
  have hx := hF.2.2.1
  have hb := hF.2.2.2.1
  have hL : Lc E [] := lcNil
  have hl : lh ls 2 ([(0, .ref a), (1, .int (iz z))]) := hl
  have hk2 := hk.2.1
  have hlr := hld z
  refine lv_aload_n hx hb dX6_isOverloaded_0 rfl (lk hl rfl) ?_
  refine x_getfield hF (ci := 4) in_X6 rfl 6 (by decide) q410 (fun _ h => h) hM hS.1.1.1 hS.1.1.2.2.2.2.2 dX6_isOverloaded_1 ?_
  refine lv_iload_n hx hb dX6_isOverloaded_4 rfl (lk hl rfl) ?_
  refine x_iald hF hM hS.1.2.1.2.2.2 (by omega) (by omega) (by decide) (hS.2.2.2.2.2.1 _ (by omega) (by omega)) dX6_isOverloaded_5 ?_
  refine lv_aload_n hx hb dX6_isOverloaded_6 rfl (lk hl rfl) ?_
  refine x_getfield hF (ci := 4) in_X6 rfl 0 (by decide) q398 (fun _ h => h) hM hS.1.1.1 hS.1.1.2.1 dX6_isOverloaded_7 ?_
  refine lv_iload_n hx hb dX6_isOverloaded_10 rfl (lk hl rfl) ?_
  refine x_aald hF hM hS.1.2.1.1 (by omega) (by omega) (by decide) (hS.1.2.2.1 _ (by omega) (by omega)).1 dX6_isOverloaded_11 ?_
  refine x_getfieldN hF (ci := 6) in_X7 rfl 1 (by decide) q349 (fun _ h => h) hM (hS.1.2.2.1 _ (by omega) (by omega)).2 (hS.2.2.2.2.2.2.1 _ (by omega) (by omega)).2.1 dX6_isOverloaded_12 ?_
  refine x_icmp_le (tgt := 22) hF dX6_isOverloaded_15 (by decide) (by first | exact Rg_in hk.1 _ | assumption | (unfold inR; omega)) (by first | exact Rg_in hk.1 _ | assumption | (unfold inR; omega)) (fun c15 => ?_) (fun c15 => ?_)
  · skip
    refine x_iconst hF dX6_isOverloaded_22 ?_
    exact x_ireturn hF hM hL (by rfl) (Nat.le_of_ble_eq_true rfl) (Nat.le_of_ble_eq_true rfl) ⟨by first | rfl | rw [if_pos (by first | assumption | omega)] | rw [if_neg (by first | assumption | omega)], rfl⟩ dX6_isOverloaded_23
  · skip
    refine x_iconst hF dX6_isOverloaded_18 ?_
    refine x_goto (tgt := 23) hF dX6_isOverloaded_19 (by decide) ?_
    exact x_ireturn hF hM hL (by rfl) (Nat.le_of_ble_eq_true rfl) (Nat.le_of_ble_eq_true rfl) ⟨by first | rfl | rw [if_pos (by first | assumption | omega)] | rw [if_neg (by first | assumption | omega)], rfl⟩ dX6_isOverloaded_23
