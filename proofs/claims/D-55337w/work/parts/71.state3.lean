set_option maxHeartbeats 4000000 in
set_option maxRecDepth 100000 in
/-- BakeryRing$State.goesFrom(II)I -/
theorem mX6_goesFrom {l : Launch} {E : En} {σ : Mm} {a x : Nat} {w ld ow : Int → Int} {ch : Int} (hS : SS E σ a x w ld ow ch) (hk : Wk w) {z lv : Int} (hs : Wso w) (ho : Wow w ow) (hz0 : 0 ≤ z) (hz1 : z < 360) (hl0 : 0 ≤ lv) (hl1 : lv ≤ 9) (hld : ∀ b, 0 ≤ ld b ∧ ld b ≤ 180) : Ctr l E yX6_goesFrom (ws_ yX6_goesFrom cX6_goesFrom 6 (some .int)) 4 89 0 0 [.ref a, .int (iz z), .int (iz lv)] σ (fun v τ => v = some (.int (iz (if (wGo w ld z lv).1 < 0 then -1 else w (29 + 2 * (wGo w ld z lv).1 + 1)))) ∧ SS E τ a x w ld ow ch ∧ rd τ a 9 = .int (iz (if (wGo w ld z lv).1 < 0 then -1 else w (29 + 2 * (wGo w ld z lv).1))) ∧ rd τ a 10 = .int (iz (wGo w ld z lv).2) ∧ Fr (GP a) σ τ) noX := by
  refine x_head (own := RX6) (cc := cX6_goesFrom) (maxL := 6) (ret := (some .int)) (by decide) rfl rfl (Nat.le_of_ble_eq_true rfl) ?_
  intro p e s m args below meth c H ls hF hname htab hM hl
  have hx := hF.2.2.1
  have hb := hF.2.2.2.1
  have hL : Lc E [] := lcNil
  have hl : lh ls 6 ([(0, .ref a), (1, .int (iz z)), (2, .int (iz lv))]) := hl
  have hk2 := hk.2.1
  refine lv_aload_n hx hb dX6_goesFrom_0 rfl (lk hl rfl) ?_
  refine x_iconst hF dX6_goesFrom_1 ?_
  refine x_putfield hF (ci := 4) in_X6 rfl tyX6_ok nmX6 10 (by decide) q417 (fun _ h => h) rfl hM hL hS.1.1.1 (ty := .boolean) (by decide +kernel) rfl rfl dX6_goesFrom_2 (fun H locs hM hL => ?_)
  refine lv_aload_n hx hb dX6_goesFrom_5 rfl (lk hl rfl) ?_
  refine x_iconst hF dX6_goesFrom_6 ?_
  refine x_putfield hF (ci := 4) in_X6 rfl tyX6_ok nmX6 9 (by decide) q416 (fun _ h => h) rfl hM hL (obW hS.1.1.1) (ty := .int) (by decide +kernel) rfl rfl dX6_goesFrom_7 (fun H locs hM hL => ?_)
  refine x_gen (P := fun τ => SS E τ a x w ld ow ch ∧ rd τ a 9 = .int (iz (-1)) ∧ rd τ a 10 = .int (iz 0) ∧ Fr (GP a) σ τ) hM ⟨SS_g hS ⟨by omega, by omega⟩ (frWr (frWr (frRefl _ _) (fun _ => ⟨rfl, by omega⟩)) (fun _ => ⟨rfl, by omega⟩)), rd_wr_s _ _ _ _, by rw [rd_wr_k _ _ _ _ (by decide), rd_wr_s], frWr (frWr (frRefl _ _) (fun _ => ⟨rfl, by omega⟩)) (fun _ => ⟨rfl, by omega⟩)⟩ (fun τ hM hT => ?_)
  replace hS := hT.1
  refine lv_aload_n hx hb dX6_goesFrom_10 rfl (lk hl rfl) ?_
  refine lv_iload_n hx hb dX6_goesFrom_11 rfl (lk hl rfl) ?_
  refine x_kp hL (vx_runV (As := [_]) hF.2.2.2.2.2.2.2.2.2 ((mX6_signFrom hS hk hs hz0 (by omega)) hF.1) (cwV 1 hF.2.2.2.2.2.2.2.2.1 (lw_V q1103 q1104 q1105 q127 q1106) rfl rfl rfl (by decide +kernel) ⟨(Nat.le_of_ble_eq_true rfl), (Nat.le_of_ble_eq_true rfl)⟩) (x_preV hF hM hS.1.1.1 rfl) rfl rfl hl.1 rfl (lv_room (Nat.le_of_ble_eq_true rfl)) dX6_goesFrom_12 ⟨(Nat.le_of_ble_eq_true rfl), (Nat.le_of_ble_eq_true rfl)⟩) (fun H locs hM hL => ?_)
  refine x_istore_n hF dX6_goesFrom_15 rfl hl (by decide) rfl (fun ls hl => ?_)
  refine lv_aload_n hx hb dX6_goesFrom_16 rfl (lk hl rfl) ?_
  refine x_getfield hF (ci := 4) in_X6 rfl 2 (by decide) q402 (fun _ h => h) hM hS.1.1.1 hS.1.1.2.2.1 dX6_goesFrom_17 ?_
  refine x_kp hL (vx_runV (As := []) hF.2.2.2.2.2.2.2.2.2 ((mJ8_cardinality hS.2.2.2.1) hF.1) (cwV 0 hF.2.2.2.2.2.2.2.2.1 (lw_V q1127 q1128 q1129 q128 q1130) rfl rfl rfl (by decide +kernel) ⟨(Nat.le_of_ble_eq_true rfl), (Nat.le_of_ble_eq_true rfl)⟩) (x_preV hF hM (bg_ob hS.2.2.2.1) rfl) rfl rfl hl.1 rfl (lv_room (Nat.le_of_ble_eq_true rfl)) dX6_goesFrom_20 ⟨(Nat.le_of_ble_eq_true rfl), (Nat.le_of_ble_eq_true rfl)⟩) (fun H locs hM hL => ?_)
  refine x_istore hF dX6_goesFrom_23 hl (by decide) rfl (fun ls hl => ?_)
  rw [atF_0 hk, bcard_w hs hk, ← Int.sub_zero (w 28)] at hl
  suffices loop : ∀ (n9 : Nat) (i : Int) (ps : Int) (τ : Mm) (H : Heap) (locs : List Loc) (ls : Array Slot), w 28 - i < (n9 : Int) → (0 ≤ i) → (i ≤ w 28) → (ps = 0 ∨ ps = 1) → (goF w ld (wFirst w z) lv i ps (w 28 - i).toNat = (wGo w ld z lv)) → Mem E s H τ → (SS E τ a x w ld ow ch ∧ rd τ a 9 = .int (iz (-1)) ∧ rd τ a 10 = .int (iz ps) ∧ Fr (GP a) σ τ) → Lc E locs → lh ls 6 [(0, .ref a), (1, .int (iz z)), (2, .int (iz lv)), (3, .int (iz (atF w z i))), (4, .int (iz (w 28 - i)))] → W p l e ({ frames := 4, cells := 0, slots := 0, locals := 89 } : Room) s m args below meth c H locs 0 0 (vx_MQ below (XQc E (fun v τ => v = some (.int (iz (if (wGo w ld z lv).1 < 0 then -1 else w (29 + 2 * (wGo w ld z lv).1 + 1)))) ∧ SS E τ a x w ld ow ch ∧ rd τ a 9 = .int (iz (if (wGo w ld z lv).1 < 0 then -1 else w (29 + 2 * (wGo w ld z lv).1))) ∧ rd τ a 10 = .int (iz (wGo w ld z lv).2) ∧ Fr (GP a) σ τ)) (XXc E noX) args s 0 0 (XA E)) (F0 m 25 ls []) from loop (27) 0 0 _ _ _ _ (by omega) (by omega) (by omega) (Or.inl rfl) (by unfold wGo; rw [Int.sub_zero]) hM hT hL (lh_sub hl rfl)
  refine nat_loop (fun i ps τ H locs ls hmm i0 i1 hp9 hr => absurd hmm (by omega)) (fun n9 ih i ps τ H locs ls hmm i0 i1 hp9 hr hM hP hL hl => ?_)
  refine lv_iload hx hb dX6_goesFrom_25 (lk hl rfl) ?_
  obtain ⟨hS, h9, h10, hfr⟩ := hP
  refine x_if_le (tgt := 104) hF dX6_goesFrom_27 (by decide) (by first | exact Rg_in hk.1 _ | assumption | (unfold inR; omega)) (fun c27 => ?_) (fun c27 => ?_)
  · skip
    refine x_iconst hF dX6_goesFrom_104 ?_
    exact x_ireturn hF hM hL rfl (Nat.le_of_ble_eq_true rfl) (Nat.le_of_ble_eq_true rfl) (by (have e9 : (wGo w ld z lv) = (-1, ps) := by rw [← hr, goF_e (by omega)]); rw [e9]; exact ⟨rfl, hS, h9, h10, hfr⟩) dX6_goesFrom_105
  · skip
    have hn0 : 0 < w 28 := by omega
    have hx0 := Int.emod_nonneg (wFirst w z + i) (show w 28 ≠ 0 by omega)
    have hx1 := Int.emod_lt_of_pos (wFirst w z + i) hn0
    have hsg := hk.2.2.1 _ hx0 hx1
    have hat : atF w z i = w (29 + 2 * ((wFirst w z + i) % w 28)) := if_neg (by omega)
    have how : ow (atF w z i) = w (29 + 2 * ((wFirst w z + i) % w 28) + 1) := by rw [hat, ho _ hsg.1.1 (by omega) (by rw [wSignOn_u hs hx0 hx1]; exact hx0), wSignOn_u hs hx0 hx1]
    refine lv_aload_n hx hb dX6_goesFrom_30 rfl (lk hl rfl) ?_
    refine x_getfield hF (ci := 4) in_X6 rfl 3 (by decide) q404 (fun _ h => h) hM hS.1.1.1 hS.1.1.2.2.2.1 dX6_goesFrom_31 ?_
    refine lv_iload_n hx hb dX6_goesFrom_34 rfl (lk hl rfl) ?_
    refine x_iald hF hM hS.1.2.1.2.1 (by omega) (by omega) (by decide) (hS.2.2.2.2.1 _ (by omega) (by omega)) dX6_goesFrom_35 ?_
    rw [how]
    refine x_istore hF dX6_goesFrom_36 hl (by decide) rfl (fun ls hl => ?_)
    have hbk := hk.2.2.2.1 (w (29 + 2 * ((wFirst w z + i) % w 28) + 1)) (by omega) (by omega)
    have hlb := hld (w (29 + 2 * ((wFirst w z + i) % w 28) + 1))
    have hrm := wRoom_r (b := w (29 + 2 * ((wFirst w z + i) % w 28) + 1)) hk.1 (by omega)
    refine lv_aload_n hx hb dX6_goesFrom_38 rfl (lk hl rfl) ?_
    refine x_getfield hF (ci := 4) in_X6 rfl 0 (by decide) q398 (fun _ h => h) hM hS.1.1.1 hS.1.1.2.1 dX6_goesFrom_39 ?_
    refine lv_iload hx hb dX6_goesFrom_42 (lk hl rfl) ?_
    refine x_aald hF hM hS.1.2.1.1 (by omega) (by omega) (by decide) (hS.1.2.2.1 _ (by omega) (by omega)).1 dX6_goesFrom_44 ?_
    refine x_getfieldN hF (ci := 6) in_X7 rfl 2 (by decide) q352 (fun _ h => h) hM (hS.1.2.2.1 _ (by omega) (by omega)).2 (hS.2.2.2.2.2.2.1 _ (by omega) (by omega)).2.2 dX6_goesFrom_45 ?_
    refine x_ifeq_b (tgt := 86) hF dX6_goesFrom_48 (by decide) (fun c48 => ?_) (fun c48 => ?_)
    · skip
      refine lv_aload_n hx hb dX6_goesFrom_86 rfl (lk hl rfl) ?_
      refine lv_iload_n hx hb dX6_goesFrom_87 rfl (lk hl rfl) ?_
      refine x_iconst hF dX6_goesFrom_88 ?_
      refine x_iadd hF dX6_goesFrom_89 ?_
      refine x_sipush hF (by decide) dX6_goesFrom_90 ?_
      refine x_irem hF dX6_goesFrom_93 (by omega) (by omega) (by omega) (by omega) ?_
      refine x_kp hL (vx_runV (As := [_]) hF.2.2.2.2.2.2.2.2.2 ((mX6_signFrom hS hk hs (by omega) (by omega)) hF.1) (cwV 1 hF.2.2.2.2.2.2.2.2.1 (lw_V q1103 q1104 q1105 q127 q1106) rfl rfl rfl (by decide +kernel) ⟨(Nat.le_of_ble_eq_true rfl), (Nat.le_of_ble_eq_true rfl)⟩) (x_preV hF hM hS.1.1.1 rfl) rfl rfl hl.1 rfl (lv_room (Nat.le_of_ble_eq_true rfl)) dX6_goesFrom_94 ⟨(Nat.le_of_ble_eq_true rfl), (Nat.le_of_ble_eq_true rfl)⟩) (fun H locs hM hL => ?_)
      refine x_istore_n hF dX6_goesFrom_97 rfl hl (by decide) rfl (fun ls hl => ?_)
      refine x_iinc hF dX6_goesFrom_98 hl rfl (by decide) rfl (fun ls hl => ?_)
      refine x_goto (tgt := 25) hF dX6_goesFrom_101 (by decide) ?_
      rw [atF_1 hs hk hn0, show w 28 - i + -1 = w 28 - (i + 1) by omega] at hl
      first | exact ih (i + 1) ps _ _ _ _ (by omega) (by omega) (by omega) hp9 (by rw [← hr]; exact (goF_no (by omega) c48).symm) hM ⟨hS, h9, h10, hfr⟩ hL (lh_sub hl rfl) | exact ih (i + 1) 1 _ _ _ _ (by omega) (by omega) (by omega) (Or.inr rfl) (by rw [← hr]; exact (goF_fl (by omega) c48 (by omega)).symm) hM hT hL (lh_sub hl rfl)
    · skip
      refine lv_aload_n hx hb dX6_goesFrom_51 rfl (lk hl rfl) ?_
      refine x_getfield hF (ci := 4) in_X6 rfl 6 (by decide) q410 (fun _ h => h) hM hS.1.1.1 hS.1.1.2.2.2.2.2 dX6_goesFrom_52 ?_
      refine lv_iload hx hb dX6_goesFrom_55 (lk hl rfl) ?_
      refine x_iald hF hM hS.1.2.1.2.2.2 (by omega) (by omega) (by decide) (hS.2.2.2.2.2.1 _ (by omega) (by omega)) dX6_goesFrom_57 ?_
      refine lv_iload_n hx hb dX6_goesFrom_58 rfl (lk hl rfl) ?_
      refine x_iadd hF dX6_goesFrom_59 ?_
      refine lv_aload_n hx hb dX6_goesFrom_60 rfl (lk hl rfl) ?_
      refine x_getfield hF (ci := 4) in_X6 rfl 0 (by decide) q398 (fun _ h => h) hM hS.1.1.1 hS.1.1.2.1 dX6_goesFrom_61 ?_
      refine lv_iload hx hb dX6_goesFrom_64 (lk hl rfl) ?_
      refine x_aald hF hM hS.1.2.1.1 (by omega) (by omega) (by decide) (hS.1.2.2.1 _ (by omega) (by omega)).1 dX6_goesFrom_66 ?_
      refine x_kp hL (vx_runV (As := []) hF.2.2.2.2.2.2.2.2.2 ((mX7_room hS.2.1 ⟨by omega, by omega⟩ (hS.1.2.2.1 _ (by omega) (by omega)).2 (hS.2.2.2.2.2.2.1 _ (by omega) (by omega)).1 (hS.2.2.2.2.2.2.1 _ (by omega) (by omega)).2.1 (by omega) (by omega)) hF.1) (cwV 0 hF.2.2.2.2.2.2.2.2.1 (lw_V q1137 q1138 q1139 q129 q1140) rfl rfl rfl (by decide +kernel) ⟨(Nat.le_of_ble_eq_true rfl), (Nat.le_of_ble_eq_true rfl)⟩) (x_preV hF hM (hS.1.2.2.1 _ (by omega) (by omega)).2 rfl) rfl rfl hl.1 rfl (lv_room (Nat.le_of_ble_eq_true rfl)) dX6_goesFrom_67 ⟨(Nat.le_of_ble_eq_true rfl), (Nat.le_of_ble_eq_true rfl)⟩) (fun H locs hM hL => ?_)
      rw [kRoom_w]
      refine x_icmp_gt (tgt := 81) hF dX6_goesFrom_70 (by decide) (by first | exact Rg_in hk.1 _ | assumption | (unfold inR; omega)) (by first | exact Rg_in hk.1 _ | assumption | (unfold inR; omega)) (fun c70 => ?_) (fun c70 => ?_)
      · skip
        refine lv_aload_n hx hb dX6_goesFrom_81 rfl (lk hl rfl) ?_
        refine x_iconst hF dX6_goesFrom_82 ?_
        refine x_putfield hF (ci := 4) in_X6 rfl tyX6_ok nmX6 10 (by decide) q417 (fun _ h => h) rfl hM hL hS.1.1.1 (ty := .boolean) (by decide +kernel) rfl rfl dX6_goesFrom_83 (fun H locs hM hL => ?_)
        refine x_gen (P := fun ρ => SS E ρ a x w ld ow ch ∧ rd ρ a 9 = .int (iz (-1)) ∧ rd ρ a 10 = .int (iz 1) ∧ Fr (GP a) σ ρ) hM ⟨SS_g hS ⟨by omega, by omega⟩ (frWr (frRefl _ _) (fun _ => ⟨rfl, by omega⟩)), by rw [rd_wr_k _ _ _ _ (by decide)]; exact h9, rd_wr_s _ _ _ _, frWr hfr (fun _ => ⟨rfl, by omega⟩)⟩ (fun τ hM hT => ?_)
        replace hS := hT.1
        refine lv_aload_n hx hb dX6_goesFrom_86 rfl (lk hl rfl) ?_
        refine lv_iload_n hx hb dX6_goesFrom_87 rfl (lk hl rfl) ?_
        refine x_iconst hF dX6_goesFrom_88 ?_
        refine x_iadd hF dX6_goesFrom_89 ?_
        refine x_sipush hF (by decide) dX6_goesFrom_90 ?_
        refine x_irem hF dX6_goesFrom_93 (by omega) (by omega) (by omega) (by omega) ?_
        refine x_kp hL (vx_runV (As := [_]) hF.2.2.2.2.2.2.2.2.2 ((mX6_signFrom hS hk hs (by omega) (by omega)) hF.1) (cwV 1 hF.2.2.2.2.2.2.2.2.1 (lw_V q1103 q1104 q1105 q127 q1106) rfl rfl rfl (by decide +kernel) ⟨(Nat.le_of_ble_eq_true rfl), (Nat.le_of_ble_eq_true rfl)⟩) (x_preV hF hM hS.1.1.1 rfl) rfl rfl hl.1 rfl (lv_room (Nat.le_of_ble_eq_true rfl)) dX6_goesFrom_94 ⟨(Nat.le_of_ble_eq_true rfl), (Nat.le_of_ble_eq_true rfl)⟩) (fun H locs hM hL => ?_)
        refine x_istore_n hF dX6_goesFrom_97 rfl hl (by decide) rfl (fun ls hl => ?_)
        refine x_iinc hF dX6_goesFrom_98 hl rfl (by decide) rfl (fun ls hl => ?_)
        refine x_goto (tgt := 25) hF dX6_goesFrom_101 (by decide) ?_
        rw [atF_1 hs hk hn0, show w 28 - i + -1 = w 28 - (i + 1) by omega] at hl
        first | exact ih (i + 1) ps _ _ _ _ (by omega) (by omega) (by omega) hp9 (by rw [← hr]; exact (goF_no (by omega) c48).symm) hM ⟨hS, h9, h10, hfr⟩ hL (lh_sub hl rfl) | exact ih (i + 1) 1 _ _ _ _ (by omega) (by omega) (by omega) (Or.inr rfl) (by rw [← hr]; exact (goF_fl (by omega) c48 (by omega)).symm) hM hT hL (lh_sub hl rfl)
      · skip
        refine lv_aload_n hx hb dX6_goesFrom_73 rfl (lk hl rfl) ?_
        refine lv_iload_n hx hb dX6_goesFrom_74 rfl (lk hl rfl) ?_
        refine x_putfield hF (ci := 4) in_X6 rfl tyX6_ok nmX6 9 (by decide) q416 (fun _ h => h) rfl hM hL hS.1.1.1 (ty := .int) (by decide +kernel) rfl rfl dX6_goesFrom_75 (fun H locs hM hL => ?_)
        have hfr2 := frWr (v := .int (iz (atF w z i))) hfr (a := a) (k := 9) (fun _ => ⟨rfl, by omega⟩)
        have hf3 : Fr (GP a) τ (wr τ a 9 (.int (iz (atF w z i)))) := frWr (frRefl _ _) (fun _ => ⟨rfl, by omega⟩)
        have hS2 := SS_g hS ⟨by omega, by omega⟩ hf3
        refine lv_iload hx hb dX6_goesFrom_78 (lk hl rfl) ?_
        exact x_ireturn hF hM hL rfl (Nat.le_of_ble_eq_true rfl) (Nat.le_of_ble_eq_true rfl) (by (have e9 : (wGo w ld z lv) = (((wFirst w z + i) % w 28), ps) := by rw [← hr, goF_1 (by omega), if_pos c48, if_pos (by omega)]); rw [e9]; exact ⟨by rw [if_neg (by omega)], hS2, by rw [rd_wr_s, hat, if_neg (by omega)], by rw [rd_wr_k _ _ _ _ (by decide)]; exact h10, hfr2⟩) dX6_goesFrom_80
