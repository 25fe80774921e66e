set_option maxHeartbeats 4000000 in
set_option maxRecDepth 100000 in
/-- BakeryRing$State.moveAll(I)I -/
theorem mX6_moveAll {l : Launch} {E : En} {σ : Mm} {a x : Nat} {w ld ow : Int → Int} {ch : Int} (hS : SS E σ a x w ld ow ch) (hk : Wk w) {fi nc : Int} (hs : Wso w) (ho : Wow w ow) (hfi : ∀ c9, 0 ≤ c9 → c9 < w 1 → (c9 < fi ↔ c9 ≠ nc)) (hfi2 : inR fi) (hch : ch + 1 = w 2) : Ctr l E yX6_moveAll (ws_ yX6_moveAll cX6_moveAll 3 (some .int)) 6 140 0 0 [.ref a, .int (iz fi)] σ (fun v τ => v = some (.int (iz (wAllN nc w))) ∧ SS E τ a x (wAllW nc w) (wAll nc w).2.1 ow ch ∧ Fr (SP a) σ τ) noX := by
  refine x_head (own := RX6) (cc := cX6_moveAll) (maxL := 3) (ret := (some .int)) (by decide) rfl rfl (Nat.le_of_ble_eq_true rfl) ?_
  intro p e s m args below meth c H ls hF hname htab hM hl
  have hx := hF.2.2.1
  have hb := hF.2.2.2.1
  have hL : Lc E [] := lcNil
  have hl : lh ls 3 ([(0, .ref a), (1, .int (iz fi))]) := hl
  have hk2 := hk.2.1
  refine lv_aload_n hx hb dX6_moveAll_0 rfl (lk hl rfl) ?_
  refine lv_iload_n hx hb dX6_moveAll_1 rfl (lk hl rfl) ?_
  refine lv_aload_n hx hb dX6_moveAll_2 rfl (lk hl rfl) ?_
  refine x_getfield hF (ci := 4) in_X6 rfl 7 (by decide) q412 (fun _ h => h) hM hS.1.1.1 hS.2.2.1.2.2.1 dX6_moveAll_3 ?_
  refine x_iconst hF dX6_moveAll_6 ?_
  refine x_iadd hF dX6_moveAll_7 ?_
  rw [hch]
  refine x_kn hL (vx_runV (As := [_, _]) hF.2.2.2.2.2.2.2.2.2 ((mX6_goAnew (nc := nc) hS hk hs ho hfi hfi2) hF.1) (cwV 2 hF.2.2.2.2.2.2.2.2.1 (lw_V q1095 q1096 q1097 q127 q1098) rfl rfl rfl (by decide +kernel) ⟨(Nat.le_of_ble_eq_true rfl), (Nat.le_of_ble_eq_true rfl)⟩) (x_preV hF hM hS.1.1.1 rfl) rfl rfl hl.1 rfl (lv_room (Nat.le_of_ble_eq_true rfl)) dX6_moveAll_8 ⟨(Nat.le_of_ble_eq_true rfl), (Nat.le_of_ble_eq_true rfl)⟩) ?_
  rintro _ τ8 H locs ⟨rfl, hS, hfr⟩ hM hL
  have hkA := (gAll_k nc (w 1).toNat 0 w (fun _ => 0) 0 (by omega) hk).1
  refine x_istore_n hF dX6_moveAll_11 rfl hl (by decide) rfl (fun ls hl => ?_)
  refine lv_aload_n hx hb dX6_moveAll_12 rfl (lk hl rfl) ?_
  refine lv_dup hx hb dX6_moveAll_13 rfl ?_
  refine x_getfield hF (ci := 4) in_X6 rfl 8 (by decide) q414 (fun _ h => h) hM hS.1.1.1 hS.2.2.1.2.2.2 dX6_moveAll_14 ?_
  refine lv_iload_n hx hb dX6_moveAll_17 rfl (lk hl rfl) ?_
  refine x_iadd hF dX6_moveAll_18 ?_
  refine x_putfield hF (ci := 4) in_X6 rfl tyX6_ok nmX6 8 (by decide) q414 (fun _ h => h) rfl hM hL hS.1.1.1 (ty := .int) (by decide +kernel) rfl rfl dX6_moveAll_19 (fun H locs hM hL => ?_)
  refine lv_iload_n hx hb dX6_moveAll_22 rfl (lk hl rfl) ?_
  exact x_ireturn hF hM hL rfl (Nat.le_of_ble_eq_true rfl) (Nat.le_of_ble_eq_true rfl) ⟨rfl, SS_mv hS hkA, frWr hfr (fun _ => ⟨by omega, by omega⟩)⟩ dX6_moveAll_23
