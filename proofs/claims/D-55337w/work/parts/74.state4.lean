set_option maxHeartbeats 4000000 in
set_option maxRecDepth 100000 in
/-- BakeryRing$State.goAnew(II)I -/
theorem mX6_goAnew {l : Launch} {E : En} {σ : Mm} {a x : Nat} {w ld ow : Int → Int} {ch : Int} (hS : SS E σ a x w ld ow ch) (hk : Wk w) {fi nc : Int} (hs : Wso w) (ho : Wow w ow) (hfi : ∀ c9, 0 ≤ c9 → c9 < w 1 → (c9 < fi ↔ c9 ≠ nc)) (hfi2 : inR fi) : Ctr l E yX6_goAnew (ws_ yX6_goAnew cX6_goAnew 7 (some .int)) 5 114 0 0 [.ref a, .int (iz fi), .int (iz (w 2))] σ (fun v τ => v = some (.int (iz (wAllN nc w))) ∧ SS E τ a x (wAll nc w).1 (wAll nc w).2.1 ow ch ∧ Fr (SP a) σ τ) noX := by
  refine x_head (own := RX6) (cc := cX6_goAnew) (maxL := 7) (ret := (some .int)) (by decide) rfl rfl (Nat.le_of_ble_eq_true rfl) ?_
  intro p e s m args below meth c H ls hF hname htab hM hl
  have hx := hF.2.2.1
  have hb := hF.2.2.2.1
  have hL : Lc E [] := lcNil
  have hl : lh ls 7 ([(0, .ref a), (1, .int (iz fi)), (2, .int (iz (w 2)))]) := hl
  have hk2 := hk.2.1
  refine x_iconst hF dX6_goAnew_0 ?_
  refine x_istore_n hF dX6_goAnew_1 rfl hl (by decide) rfl (fun ls hl => ?_)
  suffices loop1 : ∀ (n9 : Nat) (i : Int) (lv : Int → Int) (τ : Mm) (H : Heap) (locs : List Loc) (ls : Array Slot), 6 - i < (n9 : Int) → (0 ≤ i) → (i ≤ 6) → (∀ b, 0 ≤ b → b < i → lv b = 0) → Mem E s H τ → (SS E τ a x w lv ow ch ∧ Fr (SP a) σ τ) → Lc E locs → lh ls 7 [(0, .ref a), (1, .int (iz fi)), (2, .int (iz (w 2))), (3, .int (iz i))] → W p l e ({ frames := 5, cells := 0, slots := 0, locals := 114 } : Room) s m args below meth c H locs 0 0 (vx_MQ below (XQc E (fun v τ => v = some (.int (iz (wAllN nc w))) ∧ SS E τ a x (wAll nc w).1 (wAll nc w).2.1 ow ch ∧ Fr (SP a) σ τ)) (XXc E noX) args s 0 0 (XA E)) (F0 m 2 ls []) from loop1 (7) 0 ld _ _ _ _ (by omega) (by omega) (by omega) (fun b h0 h1 => by omega) hM ⟨hS, frRefl _ _⟩ hL (lh_sub hl rfl)
  refine nat_loop (fun i lv τ H locs ls hmm h0 h1 hz => absurd hmm (by omega)) (fun n9 ih1 i lv τ H locs ls hmm h0 h1 hz hM hP hL hl => ?_)
  obtain ⟨hS, hfr⟩ := hP
  refine lv_iload_n hx hb dX6_goAnew_2 rfl (lk hl rfl) ?_
  refine x_bipush hF (by decide) dX6_goAnew_3 ?_
  refine x_icmp_ge (tgt := 21) hF dX6_goAnew_5 (by decide) (by first | assumption | exact Rg_in hkv.1 _ | (unfold inR; omega)) (by first | assumption | exact Rg_in hkv.1 _ | (unfold inR; omega)) (fun c5 => ?_) (fun c5 => ?_)
  · skip
    refine x_iconst hF dX6_goAnew_21 ?_
    refine x_istore_n hF dX6_goAnew_22 rfl hl (by decide) rfl (fun ls hl => ?_)
    refine x_iconst hF dX6_goAnew_23 ?_
    refine x_istore hF dX6_goAnew_24 hl (by decide) rfl (fun ls hl => ?_)
    suffices loop2 : ∀ (n9 : Nat) (i : Int) (n1 : Int) (wv : Int → Int) (lv : Int → Int) (τ : Mm) (H : Heap) (locs : List Loc) (ls : Array Slot), wv 1 - i < (n9 : Int) → (0 ≤ i) → (i ≤ wv 1) → (Wk wv) → (∀ b, 0 ≤ lv b ∧ lv b ≤ 9 * i) → (0 ≤ n1) → (n1 ≤ i) → (gAll nc i wv lv n1 (wv 1 - i).toNat = wAll nc w) → (∀ j, j < 79 → wv j = w j) → Mem E s H τ → (SS E τ a x wv lv ow ch ∧ Fr (SP a) σ τ) → Lc E locs → lh ls 7 [(0, .ref a), (1, .int (iz fi)), (2, .int (iz (w 2))), (3, .int (iz n1)), (4, .int (iz i))] → W p l e ({ frames := 5, cells := 0, slots := 0, locals := 114 } : Room) s m args below meth c H locs 0 0 (vx_MQ below (XQc E (fun v τ => v = some (.int (iz (wAllN nc w))) ∧ SS E τ a x (wAll nc w).1 (wAll nc w).2.1 ow ch ∧ Fr (SP a) σ τ)) (XXc E noX) args s 0 0 (XA E)) (F0 m 26 ls []) from loop2 (22) 0 0 w (fun _ => 0) _ _ _ _ (by omega) (by omega) hk2.2.2.1 hk (fun b => by omega) (by omega) (by omega) (by unfold wAll; rw [Int.sub_zero]) (fun _ _ => rfl) hM ⟨SS_lc hS (fun b a0 b0 => hz b a0 (by omega)), hfr⟩ hL (lh_sub hl rfl)
    refine nat_loop (fun i n1 wv lv τ H locs ls hmm h0 h1 hkv hld n0 n2 hr hlow => absurd hmm (by omega)) (fun n9 ih2 i n1 wv lv τ H locs ls hmm h0 h1 hkv hld n0 n2 hr hlow hM hP hL hl => ?_)
    obtain ⟨hS, hfr⟩ := hP
    have hkv2 := hkv.2.1
    have hs2 := Wso_c hs hk hlow
    have ho2 := Wow_c ho hk hlow
    have hlow1 := hlow 1 (by omega)
    refine lv_iload hx hb dX6_goAnew_26 (lk hl rfl) ?_
    refine lv_aload_n hx hb dX6_goAnew_28 rfl (lk hl rfl) ?_
    refine x_getfield hF (ci := 4) in_X6 rfl 5 (by decide) q408 (fun _ h => h) hM hS.1.1.1 hS.2.2.1.2.1 dX6_goAnew_29 ?_
    refine x_icmp_ge (tgt := 145) hF dX6_goAnew_32 (by decide) (by first | assumption | exact Rg_in hkv.1 _ | (unfold inR; omega)) (by first | assumption | exact Rg_in hkv.1 _ | (unfold inR; omega)) (fun c32 => ?_) (fun c32 => ?_)
    · skip
      have hfin : wAll nc w = (wv, lv, n1) := by rw [← hr]; exact gAll_e (by omega)
      refine lv_iload_n hx hb dX6_goAnew_145 rfl (lk hl rfl) ?_
      exact x_ireturn hF hM hL rfl (Nat.le_of_ble_eq_true rfl) (Nat.le_of_ble_eq_true rfl) ⟨by unfold wAllN; rw [hfin], by rw [hfin]; exact hS, hfr⟩ dX6_goAnew_146
    · skip
      have hcu := hkv.2.2.2.2 i h0 (by omega)
      have hgo := wGo_r (w := wv) (ld := lv) (by omega) (wv (79 + 6 * i + 0)) (wv (79 + 6 * i + 1))
      change ((cGo wv lv i).1 = -1 ∨ 0 ≤ (cGo wv lv i).1 ∧ (cGo wv lv i).1 < wv 28) ∧ ((cGo wv lv i).2 = 0 ∨ (cGo wv lv i).2 = 1) at hgo
      have hca := cAt_r (ld := lv) hkv i
      have hcb := cBy_r (ld := lv) hkv i
      have hsg : 0 ≤ (cGo wv lv i).1 → 0 ≤ wv (29 + 2 * (cGo wv lv i).1 + 1) ∧ wv (29 + 2 * (cGo wv lv i).1 + 1) < 6 := fun q => by have := hkv.2.2.1 (cGo wv lv i).1 q (by omega); omega
      refine lv_aload_n hx hb dX6_goAnew_35 rfl (lk hl rfl) ?_
      refine x_getfield hF (ci := 4) in_X6 rfl 4 (by decide) q406 (fun _ h => h) hM hS.1.1.1 hS.1.1.2.2.2.2.1 dX6_goAnew_36 ?_
      refine lv_iload hx hb dX6_goAnew_39 (lk hl rfl) ?_
      refine x_aald hF hM hS.1.2.1.2.2.1 (by omega) (by omega) (by decide) (hS.1.2.2.2 _ (by omega) (by omega)).1 dX6_goAnew_41 ?_
      refine x_astore hF dX6_goAnew_42 hl (by decide) rfl (fun ls hl => ?_)
      refine lv_aload hx hb dX6_goAnew_44 (lk hl rfl) ?_
      refine x_getfieldN hF (ci := 7) in_X8 rfl 2 (by decide) q374 (fun _ h => h) hM (hS.1.2.2.2 i h0 (by omega)).2 (hS.2.2.2.2.2.2.2 _ (by omega) (by omega)).2.2.1 dX6_goAnew_46 ?_
      refine x_istore hF dX6_goAnew_49 hl (by decide) rfl (fun ls hl => ?_)
      refine lv_aload hx hb dX6_goAnew_51 (lk hl rfl) ?_
      refine lv_aload_n hx hb dX6_goAnew_53 rfl (lk hl rfl) ?_
      refine lv_aload hx hb dX6_goAnew_54 (lk hl rfl) ?_
      refine x_getfieldN hF (ci := 7) in_X8 rfl 0 (by decide) q368 (fun _ h => h) hM (hS.1.2.2.2 i h0 (by omega)).2 (hS.2.2.2.2.2.2.2 _ (by omega) (by omega)).1 dX6_goAnew_56 ?_
      refine lv_aload hx hb dX6_goAnew_59 (lk hl rfl) ?_
      refine x_getfieldN hF (ci := 7) in_X8 rfl 1 (by decide) q371 (fun _ h => h) hM (hS.1.2.2.2 i h0 (by omega)).2 (hS.2.2.2.2.2.2.2 _ (by omega) (by omega)).2.1 dX6_goAnew_61 ?_
      refine x_kn hL (vx_runV (As := [_, _]) hF.2.2.2.2.2.2.2.2.2 ((mX6_goesFrom hS hkv hs2 ho2 hcu.1.1 hcu.1.2 hcu.2.1.1 hcu.2.1.2 (fun b => by have := hld b; omega)) hF.1) (cwV 2 hF.2.2.2.2.2.2.2.2.1 (lw_V q1099 q1100 q1101 q127 q1102) rfl rfl rfl (by decide +kernel) ⟨(Nat.le_of_ble_eq_true rfl), (Nat.le_of_ble_eq_true rfl)⟩) (x_preV hF hM hS.1.1.1 rfl) rfl rfl hl.1 rfl (lv_room (Nat.le_of_ble_eq_true rfl)) dX6_goAnew_64 ⟨(Nat.le_of_ble_eq_true rfl), (Nat.le_of_ble_eq_true rfl)⟩) ?_
      rintro _ τ64 H locs ⟨rfl, hS, h9, h10, hfr2⟩ hM hL
      replace hfr := frTrans hfr (frMono hfr2 (fun b j _ q => ⟨by have := q.1; omega, by have := q.1; omega⟩))
      have eA : (if (wGo wv lv (wv (79 + 6 * i + 0)) (wv (79 + 6 * i + 1))).1 < 0 then -1 else wv (29 + 2 * (wGo wv lv (wv (79 + 6 * i + 0)) (wv (79 + 6 * i + 1))).1 + 1)) = cAt wv lv i - 1 := by unfold cAt cGo; split <;> omega
      have eB : (if (wGo wv lv (wv (79 + 6 * i + 0)) (wv (79 + 6 * i + 1))).1 < 0 then -1 else wv (29 + 2 * (wGo wv lv (wv (79 + 6 * i + 0)) (wv (79 + 6 * i + 1))).1)) = cBy wv lv i - 1 := by unfold cBy cGo; split <;> omega
      rw [eA]
      rw [eB] at h9
      have hAi : ((cGo wv lv i).1 < 0 → cAt wv lv i = 0) ∧ (0 ≤ (cGo wv lv i).1 → cAt wv lv i = wv (29 + 2 * (cGo wv lv i).1 + 1) + 1) := ⟨fun q => if_pos q, fun q => if_neg (by omega)⟩
      have hk1 : Wk (wUp wv (79 + 6 * i + ((2 : Nat) : Int)) (cAt wv lv i)) := Wk_cu hkv h0 ⟨by omega, by omega⟩ ⟨by omega, by omega⟩ (fun _ => ⟨by omega, by omega⟩) (fun q => absurd q (by omega))
      have hk22 : Wk (wUp (wUp wv (79 + 6 * i + ((2 : Nat) : Int)) (cAt wv lv i)) (79 + 6 * i + ((3 : Nat) : Int)) (cBy wv lv i)) := Wk_cu hk1 h0 ⟨by omega, by omega⟩ ⟨by omega, by omega⟩ (fun q => absurd q (by omega)) (fun q => absurd q (by omega))
      refine x_putfieldN hF (ci := 7) in_X8 rfl tyX8_ok nmX8 2 (by decide) q374 (fun _ h => h) rfl hM hL (hS.1.2.2.2 i h0 (by omega)).2 (ty := .int) (by decide +kernel) rfl rfl dX6_goAnew_67 (fun H locs hM hL => ?_)
      have hkx : Wk wv := hkv
      have hcx : i < wv 1 := by omega
      refine x_gen (P := fun τ => SS E τ a x (wUp wv (79 + 6 * i + ((2 : Nat) : Int)) (cAt wv lv i)) lv ow ch ∧ rd τ a 9 = .int (iz (cBy wv lv i - 1)) ∧ rd τ a 10 = .int (iz (cGo wv lv i).2) ∧ Fr (SP a) σ τ) hM ⟨by have h8 := SS_cu (f := 2) (v := cAt wv lv i) hS hkx h0 hcx ⟨by decide, by decide⟩ (by rw [if_pos (Or.inl rfl)]); exact h8, by rw [rd_wr_a _ _ _ _ (by omega)]; exact h9, by rw [rd_wr_a _ _ _ _ (by omega)]; exact h10, frWr hfr (fun _ => ⟨by omega, by omega⟩)⟩ (fun τ hM hT => ?_)
      obtain ⟨hS, h9, h10, hfr⟩ := hT
      refine lv_aload hx hb dX6_goAnew_70 (lk hl rfl) ?_
      refine lv_aload_n hx hb dX6_goAnew_72 rfl (lk hl rfl) ?_
      refine x_getfield hF (ci := 4) in_X6 rfl 9 (by decide) q416 (fun _ h => h) hM hS.1.1.1 h9 dX6_goAnew_73 ?_
      refine x_putfieldN hF (ci := 7) in_X8 rfl tyX8_ok nmX8 3 (by decide) q377 (fun _ h => h) rfl hM hL (hS.1.2.2.2 i h0 (by omega)).2 (ty := .int) (by decide +kernel) rfl rfl dX6_goAnew_76 (fun H locs hM hL => ?_)
      have hkx : Wk (wUp wv (79 + 6 * i + ((2 : Nat) : Int)) (cAt wv lv i)) := hk1
      have hcx : i < (wUp wv (79 + 6 * i + ((2 : Nat) : Int)) (cAt wv lv i)) 1 := by rw [wUp_o _ _ (by omega)]; omega
      refine x_gen (P := fun τ => SS E τ a x (wUp (wUp wv (79 + 6 * i + ((2 : Nat) : Int)) (cAt wv lv i)) (79 + 6 * i + ((3 : Nat) : Int)) (cBy wv lv i)) lv ow ch ∧ rd τ a 9 = .int (iz (cBy wv lv i - 1)) ∧ rd τ a 10 = .int (iz (cGo wv lv i).2) ∧ Fr (SP a) σ τ) hM ⟨by have h8 := SS_cu (f := 3) (v := cBy wv lv i) hS hkx h0 hcx ⟨by decide, by decide⟩ (by rw [if_pos (Or.inr rfl)]); exact h8, by rw [rd_wr_a _ _ _ _ (by omega)]; exact h9, by rw [rd_wr_a _ _ _ _ (by omega)]; exact h10, frWr hfr (fun _ => ⟨by omega, by omega⟩)⟩ (fun τ hM hT => ?_)
      obtain ⟨hS, h9, h10, hfr⟩ := hT
      refine lv_aload hx hb dX6_goAnew_79 (lk hl rfl) ?_
      refine lv_aload_n hx hb dX6_goAnew_81 rfl (lk hl rfl) ?_
      refine x_getfield hF (ci := 4) in_X6 rfl 10 (by decide) q417 (fun _ h => h) hM hS.1.1.1 h10 dX6_goAnew_82 ?_
      refine x_putfieldN hF (ci := 7) in_X8 rfl tyX8_ok nmX8 4 (by decide) q380 (fun _ h => h) rfl hM hL (hS.1.2.2.2 i h0 (by omega)).2 (ty := .boolean) (by decide +kernel) (nar_z hgo.2) (fit_z hgo.2) dX6_goAnew_85 (fun H locs hM hL => ?_)
      have hkx : Wk (wUp (wUp wv (79 + 6 * i + ((2 : Nat) : Int)) (cAt wv lv i)) (79 + 6 * i + ((3 : Nat) : Int)) (cBy wv lv i)) := hk22
      have hcx : i < (wUp (wUp wv (79 + 6 * i + ((2 : Nat) : Int)) (cAt wv lv i)) (79 + 6 * i + ((3 : Nat) : Int)) (cBy wv lv i)) 1 := by rw [wUp_o _ _ (by omega), wUp_o _ _ (by omega)]; omega
      refine x_gen (P := fun τ => SS E τ a x (cW3 wv lv i) lv ow ch ∧ rd τ a 9 = .int (iz (cBy wv lv i - 1)) ∧ rd τ a 10 = .int (iz (cGo wv lv i).2) ∧ Fr (SP a) σ τ) hM ⟨by have h8 := SS_cu (f := 4) (v := (cGo wv lv i).2) hS hkx h0 hcx ⟨by decide, by decide⟩ (by rw [if_neg (by decide)]); rw [cW3_alt] at h8; exact h8, by rw [rd_wr_a _ _ _ _ (by omega)]; exact h9, by rw [rd_wr_a _ _ _ _ (by omega)]; exact h10, frWr hfr (fun _ => ⟨by omega, by omega⟩)⟩ (fun τ hM hT => ?_)
      obtain ⟨hS, h9, h10, hfr⟩ := hT
      have hk3 : Wk (cW3 wv lv i) := by have h8 := Wk_cu (f := 4) (v := (cGo wv lv i).2) hk22 h0 ⟨by omega, by omega⟩ ⟨by omega, by omega⟩ (fun q => absurd q (by omega)) (fun _ => ⟨by omega, by omega⟩); rw [← cW3_alt]; exact h8
      refine lv_aload hx hb dX6_goAnew_88 (lk hl rfl) ?_
      refine x_getfieldN hF (ci := 7) in_X8 rfl 2 (by decide) q374 (fun _ h => h) hM (hS.1.2.2.2 i h0 (by omega)).2 (show rd _ _ _ = .int (iz (cAt wv lv i - 1)) from by have h8 := (hS.2.2.2.2.2.2.2 i h0 (by rw [cW3_lo wv lv h0 (by omega)]; omega)).2.2.1; rw [cW3_2] at h8; exact h8) dX6_goAnew_90 ?_
      refine x_join (P := ∀ (τ : Mm) (H : Heap) (locs : List Loc), Mem E s H τ → (SS E τ a x (cW3 wv lv i) (cLd wv lv i) ow ch ∧ Fr (SP a) σ τ) → Lc E locs → W p l e ({ frames := 5, cells := 0, slots := 0, locals := 114 } : Room) s m args below meth c H locs 0 0 (vx_MQ below (XQc E (fun v τ => v = some (.int (iz (wAllN nc w))) ∧ SS E τ a x (wAll nc w).1 (wAll nc w).2.1 ow ch ∧ Fr (SP a) σ τ)) (XXc E noX) args s 0 0 (XA E)) (F0 m 114 ls [])) (fun jn => ?_) ?_
      · skip
        refine x_if_lt (tgt := 114) hF dX6_goAnew_93 (by decide) (by first | assumption | exact Rg_in hkv.1 _ | (unfold inR; omega)) (fun c93 => ?_) (fun c93 => ?_)
        · skip
          first | exact jn _ _ _ hM ⟨by (have e9 : (cLd wv lv i) = lv := if_pos (by omega)); rw [e9]; exact hS, hfr⟩ hL | exact jn _ _ _ hM ⟨hS, hfr⟩ hL
        · skip
          refine lv_aload_n hx hb dX6_goAnew_96 rfl (lk hl rfl) ?_
          refine x_getfield hF (ci := 4) in_X6 rfl 6 (by decide) q410 (fun _ h => h) hM hS.1.1.1 hS.1.1.2.2.2.2.2 dX6_goAnew_97 ?_
          refine lv_aload hx hb dX6_goAnew_100 (lk hl rfl) ?_
          refine x_getfieldN hF (ci := 7) in_X8 rfl 2 (by decide) q374 (fun _ h => h) hM (hS.1.2.2.2 i h0 (by omega)).2 (show rd _ _ _ = .int (iz (cAt wv lv i - 1)) from by have h8 := (hS.2.2.2.2.2.2.2 i h0 (by rw [cW3_lo wv lv h0 (by omega)]; omega)).2.2.1; rw [cW3_2] at h8; exact h8) dX6_goAnew_102 ?_
          refine lv_dup2_11 hx hb dX6_goAnew_105 rfl rfl ?_
          refine x_iald hF hM hS.1.2.1.2.2.2 (by omega) (by omega) (by decide) (hS.2.2.2.2.2.1 _ (by omega) (by omega)) dX6_goAnew_106 ?_
          refine lv_aload hx hb dX6_goAnew_107 (lk hl rfl) ?_
          refine x_getfieldN hF (ci := 7) in_X8 rfl 1 (by decide) q371 (fun _ h => h) hM (hS.1.2.2.2 i h0 (by omega)).2 (show rd _ _ _ = .int (iz (wv (79 + 6 * i + 1))) from by have h8 := (hS.2.2.2.2.2.2.2 i h0 (by rw [cW3_lo wv lv h0 (by omega)]; omega)).2.1; rw [cW3_1] at h8; exact h8) dX6_goAnew_109 ?_
          refine x_iadd hF dX6_goAnew_112 ?_
          refine x_iast hF hM hL hS.1.2.1.2.2.2 (by omega) (by omega) (by decide) dX6_goAnew_113 (fun H locs hM hL => ?_)
          have eL : wUp lv (cAt wv lv i - 1) (lv (cAt wv lv i - 1) + wv (79 + 6 * i + 1)) = (cLd wv lv i) := by unfold cLd; rw [if_neg (by omega), show cAt wv lv i - 1 = wv (29 + 2 * (cGo wv lv i).1 + 1) by omega]
          refine x_gen (P := fun τ => SS E τ a x (cW3 wv lv i) (cLd wv lv i) ow ch ∧ Fr (SP a) σ τ) hM ⟨by have h8 := SS_ld (v := lv (cAt wv lv i - 1) + wv (79 + 6 * i + 1)) hS hk3 (show 0 ≤ cAt wv lv i - 1 by omega); rw [eL] at h8; exact h8, frWr hfr (fun _ => ⟨by omega, by omega⟩)⟩ (fun τ hM hT => ?_)
          obtain ⟨hS, hfr⟩ := hT
          first | exact jn _ _ _ hM ⟨by (have e9 : (cLd wv lv i) = lv := if_pos (by omega)); rw [e9]; exact hS, hfr⟩ hL | exact jn _ _ _ hM ⟨hS, hfr⟩ hL
      · intro τ H locs hM hP hL
        obtain ⟨hS, hfr⟩ := hP
        refine lv_iload hx hb dX6_goAnew_114 (lk hl rfl) ?_
        refine lv_iload_n hx hb dX6_goAnew_116 rfl (lk hl rfl) ?_
        refine x_icmp_ge (tgt := 139) hF dX6_goAnew_117 (by decide) (by first | assumption | exact Rg_in hkv.1 _ | (unfold inR; omega)) (by first | assumption | exact Rg_in hkv.1 _ | (unfold inR; omega)) (fun c117 => ?_) (fun c117 => ?_)
        · skip
          have hcs : cSame nc wv lv i = true := by unfold cSame; simp only [Bool.or_eq_true, beq_iff_eq]; exact Or.inr (by have h8 := hfi i h0 (by omega); omega)
          have ecw : cW nc wv lv i = cW3 wv lv i := by unfold cW; rw [if_pos hcs]
          have ecn : cN nc wv lv i n1 = n1 := by unfold cN; rw [if_pos hcs]
          have hE : SS E τ a x (cW nc wv lv i) (cLd wv lv i) ow ch := by rw [ecw]; exact hS
          refine x_iinc hF dX6_goAnew_139 hl rfl (by decide) rfl (fun ls hl => ?_)
          refine x_goto (tgt := 26) hF dX6_goAnew_142 (by decide) ?_
          have hkW := Wk_cW hkv nc lv h0
          have hsm := Wsm_cW nc wv lv h0
          have hlW := cLd_r hkv h0 (by omega) hld
          have hrn : gAll nc (i + 1) (cW nc wv lv i) (cLd wv lv i) (cN nc wv lv i n1) ((cW nc wv lv i) 1 - (i + 1)).toNat = wAll nc w := by
            rw [hsm.1 1 (by omega), ← hr]
            exact (gAll_1 (by omega)).symm
          rw [ecn] at hrn
          exact ih2 (i + 1) _ (cW nc wv lv i) (cLd wv lv i) _ _ _ _ (by rw [hsm.1 1 (by omega)]; omega) (by omega) (by rw [hsm.1 1 (by omega)]; omega) hkW hlW (by omega) (by omega) hrn (fun j hj => (hsm.1 j hj).trans (hlow j hj)) hM ⟨hE, hfr⟩ hL (lh_sub hl rfl)
        · skip
          refine lv_iload hx hb dX6_goAnew_120 (lk hl rfl) ?_
          refine lv_aload hx hb dX6_goAnew_122 (lk hl rfl) ?_
          refine x_getfieldN hF (ci := 7) in_X8 rfl 2 (by decide) q374 (fun _ h => h) hM (hS.1.2.2.2 i h0 (by omega)).2 (show rd _ _ _ = .int (iz (cAt wv lv i - 1)) from by have h8 := (hS.2.2.2.2.2.2.2 i h0 (by rw [cW3_lo wv lv h0 (by omega)]; omega)).2.2.1; rw [cW3_2] at h8; exact h8) dX6_goAnew_124 ?_
          refine x_icmp_eq (tgt := 139) hF dX6_goAnew_127 (by decide) (by first | assumption | exact Rg_in hkv.1 _ | (unfold inR; omega)) (by first | assumption | exact Rg_in hkv.1 _ | (unfold inR; omega)) (fun c127 => ?_) (fun c127 => ?_)
          · skip
            have hcs : cSame nc wv lv i = true := by unfold cSame; simp only [Bool.or_eq_true, beq_iff_eq]; exact Or.inl (by omega)
            have ecw : cW nc wv lv i = cW3 wv lv i := by unfold cW; rw [if_pos hcs]
            have ecn : cN nc wv lv i n1 = n1 := by unfold cN; rw [if_pos hcs]
            have hE : SS E τ a x (cW nc wv lv i) (cLd wv lv i) ow ch := by rw [ecw]; exact hS
            refine x_iinc hF dX6_goAnew_139 hl rfl (by decide) rfl (fun ls hl => ?_)
            refine x_goto (tgt := 26) hF dX6_goAnew_142 (by decide) ?_
            have hkW := Wk_cW hkv nc lv h0
            have hsm := Wsm_cW nc wv lv h0
            have hlW := cLd_r hkv h0 (by omega) hld
            have hrn : gAll nc (i + 1) (cW nc wv lv i) (cLd wv lv i) (cN nc wv lv i n1) ((cW nc wv lv i) 1 - (i + 1)).toNat = wAll nc w := by
              rw [hsm.1 1 (by omega), ← hr]
              exact (gAll_1 (by omega)).symm
            rw [ecn] at hrn
            exact ih2 (i + 1) _ (cW nc wv lv i) (cLd wv lv i) _ _ _ _ (by rw [hsm.1 1 (by omega)]; omega) (by omega) (by rw [hsm.1 1 (by omega)]; omega) hkW hlW (by omega) (by omega) hrn (fun j hj => (hsm.1 j hj).trans (hlow j hj)) hM ⟨hE, hfr⟩ hL (lh_sub hl rfl)
          · skip
            have hcs : ¬ cSame nc wv lv i = true := by unfold cSame; simp only [Bool.or_eq_true, beq_iff_eq]; exact fun q => q.elim (fun q1 => c127 (by rw [← q1])) (fun q1 => ((hfi i h0 (by omega)).mp c117) q1)
            have ecw : cW nc wv lv i = wUp (cW3 wv lv i) (79 + 6 * i + ((5 : Nat) : Int)) (wv 2) := by unfold cW; rw [if_neg hcs]; rfl
            have ecn : cN nc wv lv i n1 = n1 + 1 := by unfold cN; rw [if_neg hcs]
            
            refine lv_aload hx hb dX6_goAnew_130 (lk hl rfl) ?_
            refine lv_iload_n hx hb dX6_goAnew_132 rfl (lk hl rfl) ?_
            refine x_putfieldN hF (ci := 7) in_X8 rfl tyX8_ok nmX8 5 (by decide) q383 (fun _ h => h) rfl hM hL (hS.1.2.2.2 i h0 (by omega)).2 (ty := .int) (by decide +kernel) rfl rfl dX6_goAnew_133 (fun H locs hM hL => ?_)
            have hE : SS E (wr τ (a + 13 + i.toNat) 5 (.int (iz (w 2)))) a x (cW nc wv lv i) (cLd wv lv i) ow ch := by
              have h8 := SS_cu (f := 5) (v := w 2) hS hk3 h0 (show i < (cW3 wv lv i) 1 by rw [cW3_lo wv lv h0 (by omega)]; omega) ⟨by decide, by decide⟩ (show w 2 = (if (5 : Nat) = 2 ∨ (5 : Nat) = 3 then w 2 - 1 else w 2) by rw [if_neg (by decide)])
              rw [ecw, hlow 2 (by omega)]
              exact h8
            replace hfr := frWr (v := .int (iz (w 2))) hfr (a := (a + 13 + i.toNat)) (k := 5) (fun _ => ⟨by omega, by omega⟩)
            refine x_iinc hF dX6_goAnew_136 hl rfl (by decide) rfl (fun ls hl => ?_)
            refine x_iinc hF dX6_goAnew_139 hl rfl (by decide) rfl (fun ls hl => ?_)
            refine x_goto (tgt := 26) hF dX6_goAnew_142 (by decide) ?_
            have hkW := Wk_cW hkv nc lv h0
            have hsm := Wsm_cW nc wv lv h0
            have hlW := cLd_r hkv h0 (by omega) hld
            have hrn : gAll nc (i + 1) (cW nc wv lv i) (cLd wv lv i) (cN nc wv lv i n1) ((cW nc wv lv i) 1 - (i + 1)).toNat = wAll nc w := by
              rw [hsm.1 1 (by omega), ← hr]
              exact (gAll_1 (by omega)).symm
            rw [ecn] at hrn
            exact ih2 (i + 1) _ (cW nc wv lv i) (cLd wv lv i) _ _ _ _ (by rw [hsm.1 1 (by omega)]; omega) (by omega) (by rw [hsm.1 1 (by omega)]; omega) hkW hlW (by omega) (by omega) hrn (fun j hj => (hsm.1 j hj).trans (hlow j hj)) hM ⟨hE, hfr⟩ hL (lh_sub hl rfl)
  · skip
    refine lv_aload_n hx hb dX6_goAnew_8 rfl (lk hl rfl) ?_
    refine x_getfield hF (ci := 4) in_X6 rfl 6 (by decide) q410 (fun _ h => h) hM hS.1.1.1 hS.1.1.2.2.2.2.2 dX6_goAnew_9 ?_
    refine lv_iload_n hx hb dX6_goAnew_12 rfl (lk hl rfl) ?_
    refine x_iconst hF dX6_goAnew_13 ?_
    refine x_iast hF hM hL hS.1.2.1.2.2.2 (by omega) (by omega) (by decide) dX6_goAnew_14 (fun H locs hM hL => ?_)
    refine x_iinc hF dX6_goAnew_15 hl rfl (by decide) rfl (fun ls hl => ?_)
    refine x_goto (tgt := 2) hF dX6_goAnew_18 (by decide) ?_
    exact ih1 (i + 1) (wUp lv i 0) _ _ _ _ (by omega) (by omega) (by omega) (fun b a0 b0 => by by_cases q9 : b = i; rw [q9, wUp_s]; rw [wUp_o _ _ q9]; exact hz b a0 (by omega)) hM ⟨SS_ld hS hk h0, frWr hfr (fun _ => ⟨by omega, by omega⟩)⟩ hL (lh_sub hl rfl)
