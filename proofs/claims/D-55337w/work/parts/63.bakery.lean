set_option maxHeartbeats 4000000 in
set_option maxRecDepth 100000 in
/-- BakeryRing$Bakery.room()I -/
theorem mX7_room_0 {l : Launch} {E : En} {σ : Mm} {b k : Nat} {ov : Int} (hO : Ob E σ b 6) (hk : rd σ b 0 = .ref k) (hK : Ob E σ k 1) (ho : rd σ b 1 = .int (iz ov)) (ho0 : 0 ≤ ov) (ho1 : ov ≤ 40) : Ctr l E yX7_room (ws_ yX7_room cX7_room 1 (some .int)) 1 21 0 0 [.ref b] σ (fun v τ => v = some (.int (iz (ov))) ∧ τ = σ) noX := by
  refine x_head (own := RX7) (cc := cX7_room) (maxL := 1) (ret := (some .int)) (by decide) rfl rfl (Nat.le_of_ble_eq_true rfl) ?_
  intro p e s m args below meth c H ls hF hname htab hM hl
  have hx := hF.2.2.1
  have hb := hF.2.2.2.1
  have hL : Lc E [] := lcNil
  have hl : lh ls 1 ([(0, .ref b)]) := hl
  refine lv_aload_n hx hb dX7_room_0 rfl (lk hl rfl) ?_
  refine x_getfield hF (ci := 6) in_X7 rfl 0 (by decide) q346 (fun _ h => h) hM hO hk dX7_room_1 ?_
  refine lv_aload_n hx hb dX7_room_4 rfl (lk hl rfl) ?_
  refine x_getfield hF (ci := 6) in_X7 rfl 1 (by decide) q348 (fun _ h => h) hM hO ho dX7_room_5 ?_
  refine x_kp hL (vx_runU (As := [_]) hF.2.2.2.2.2.2.2.2.2 (mX3_room hF.1) (va_cwA 1 hF.2.2.2.2.2.2.2.2.1 (lw_U q1141 q1143 q1147 q1148 q116 q1149) rfl rfl rfl (x_nwD hF q1142) (by decide +kernel) ⟨(Nat.le_of_ble_eq_true rfl), (Nat.le_of_ble_eq_true rfl)⟩) (x_preV hF hM hK rfl) rfl rfl hl.1 rfl (lv_room (Nat.le_of_ble_eq_true rfl)) dX7_room_8 ⟨(Nat.le_of_ble_eq_true rfl), (Nat.le_of_ble_eq_true rfl)⟩) (fun H locs hM hL => ?_)
  exact x_ireturn hF hM hL rfl (Nat.le_of_ble_eq_true rfl) (Nat.le_of_ble_eq_true rfl) ⟨rfl, rfl⟩ dX7_room_11
set_option maxHeartbeats 4000000 in
set_option maxRecDepth 100000 in
/-- BakeryRing$Bakery.room()I -/
theorem mX7_room_1 {l : Launch} {E : En} {σ : Mm} {b k : Nat} {ov : Int} (hO : Ob E σ b 6) (hk : rd σ b 0 = .ref k) (hK : Ob E σ k 2) (ho : rd σ b 1 = .int (iz ov)) (ho0 : 0 ≤ ov) (ho1 : ov ≤ 40) : Ctr l E yX7_room (ws_ yX7_room cX7_room 1 (some .int)) 1 21 0 0 [.ref b] σ (fun v τ => v = some (.int (iz (ov + ov / 2))) ∧ τ = σ) noX := by
  refine x_head (own := RX7) (cc := cX7_room) (maxL := 1) (ret := (some .int)) (by decide) rfl rfl (Nat.le_of_ble_eq_true rfl) ?_
  intro p e s m args below meth c H ls hF hname htab hM hl
  have hx := hF.2.2.1
  have hb := hF.2.2.2.1
  have hL : Lc E [] := lcNil
  have hl : lh ls 1 ([(0, .ref b)]) := hl
  refine lv_aload_n hx hb dX7_room_0 rfl (lk hl rfl) ?_
  refine x_getfield hF (ci := 6) in_X7 rfl 0 (by decide) q346 (fun _ h => h) hM hO hk dX7_room_1 ?_
  refine lv_aload_n hx hb dX7_room_4 rfl (lk hl rfl) ?_
  refine x_getfield hF (ci := 6) in_X7 rfl 1 (by decide) q348 (fun _ h => h) hM hO ho dX7_room_5 ?_
  refine x_kp hL (vx_runU (As := [_]) hF.2.2.2.2.2.2.2.2.2 ((mX4_room ho0 ho1) hF.1) (va_cwA 1 hF.2.2.2.2.2.2.2.2.1 (lw_U q1141 q1143 q1144 q1145 q117 q1146) rfl rfl rfl (x_nwD hF q1142) (by decide +kernel) ⟨(Nat.le_of_ble_eq_true rfl), (Nat.le_of_ble_eq_true rfl)⟩) (x_preV hF hM hK rfl) rfl rfl hl.1 rfl (lv_room (Nat.le_of_ble_eq_true rfl)) dX7_room_8 ⟨(Nat.le_of_ble_eq_true rfl), (Nat.le_of_ble_eq_true rfl)⟩) (fun H locs hM hL => ?_)
  exact x_ireturn hF hM hL rfl (Nat.le_of_ble_eq_true rfl) (Nat.le_of_ble_eq_true rfl) ⟨rfl, rfl⟩ dX7_room_11
set_option maxHeartbeats 4000000 in
set_option maxRecDepth 100000 in
/-- BakeryRing$Bakery.room()I -/
theorem mX7_room_2 {l : Launch} {E : En} {σ : Mm} {b k : Nat} {ov : Int} (hO : Ob E σ b 6) (hk : rd σ b 0 = .ref k) (hK : Ob E σ k 3) (ho : rd σ b 1 = .int (iz ov)) (ho0 : 0 ≤ ov) (ho1 : ov ≤ 40) : Ctr l E yX7_room (ws_ yX7_room cX7_room 1 (some .int)) 1 21 0 0 [.ref b] σ (fun v τ => v = some (.int (iz (ov + 3))) ∧ τ = σ) noX := by
  refine x_head (own := RX7) (cc := cX7_room) (maxL := 1) (ret := (some .int)) (by decide) rfl rfl (Nat.le_of_ble_eq_true rfl) ?_
  intro p e s m args below meth c H ls hF hname htab hM hl
  have hx := hF.2.2.1
  have hb := hF.2.2.2.1
  have hL : Lc E [] := lcNil
  have hl : lh ls 1 ([(0, .ref b)]) := hl
  refine lv_aload_n hx hb dX7_room_0 rfl (lk hl rfl) ?_
  refine x_getfield hF (ci := 6) in_X7 rfl 0 (by decide) q346 (fun _ h => h) hM hO hk dX7_room_1 ?_
  refine lv_aload_n hx hb dX7_room_4 rfl (lk hl rfl) ?_
  refine x_getfield hF (ci := 6) in_X7 rfl 1 (by decide) q348 (fun _ h => h) hM hO ho dX7_room_5 ?_
  refine x_kp hL (vx_runU (As := [_]) hF.2.2.2.2.2.2.2.2.2 (mX5_room hF.1) (va_cwA 1 hF.2.2.2.2.2.2.2.2.1 (lw_U q1141 q1143 q1150 q1151 q118 q1152) rfl rfl rfl (x_nwD hF q1142) (by decide +kernel) ⟨(Nat.le_of_ble_eq_true rfl), (Nat.le_of_ble_eq_true rfl)⟩) (x_preV hF hM hK rfl) rfl rfl hl.1 rfl (lv_room (Nat.le_of_ble_eq_true rfl)) dX7_room_8 ⟨(Nat.le_of_ble_eq_true rfl), (Nat.le_of_ble_eq_true rfl)⟩) (fun H locs hM hL => ?_)
  exact x_ireturn hF hM hL rfl (Nat.le_of_ble_eq_true rfl) (Nat.le_of_ble_eq_true rfl) ⟨rfl, rfl⟩ dX7_room_11
/-- the kinds at x -/
def KX (E : En) (σ : Mm) (x : Nat) : Prop := Ob E σ x 1 ∧ Ob E σ (x + 1) 2 ∧ Ob E σ (x + 2) 3
def kRoom (kz ov : Int) : Int := if kz = 1 then ov + ov / 2 else if kz = 2 then ov + 3 else ov
theorem mX7_room {l : Launch} {E : En} {σ : Mm} {x b : Nat} {kz ov : Int} (hX : KX E σ x) (hz : 0 ≤ kz ∧ kz ≤ 2) (hO : Ob E σ b 6) (hk : rd σ b 0 = .ref (x + kz.toNat)) (ho : rd σ b 1 = .int (iz ov)) (ho0 : 0 ≤ ov) (ho1 : ov ≤ 40) : Ctr l E yX7_room (ws_ yX7_room cX7_room 1 (some .int)) 1 21 0 0 [.ref b] σ (fun v τ => v = some (.int (iz (kRoom kz ov))) ∧ τ = σ) noX := by
  unfold kRoom
  rcases (show kz = 0 ∨ kz = 1 ∨ kz = 2 by omega) with q | q | q <;> subst q
  · exact mX7_room_0 hO hk hX.1 ho ho0 ho1
  · exact mX7_room_1 hO hk hX.2.1 ho ho0 ho1
  · exact mX7_room_2 hO hk hX.2.2 ho ho0 ho1
set_option maxHeartbeats 4000000 in
set_option maxRecDepth 100000 in
/-- BakeryRing$Bakery.comes(LBakeryRing$Kind;I)V -/
theorem mX7_comes {l : Launch} {E : En} {σ : Mm} {b k : Nat} {ov : Int} (hO : Ob E σ b 6) : Ctr l E yX7_comes (ws_ yX7_comes cX7_comes 3 none) 0 0 0 0 [.ref b, .ref k, .int (iz ov)] σ (fun v τ => v = none ∧ τ = (wr (wr (wr σ b 0 (.ref k)) b 1 (.int (iz ov))) b 2 (.int (iz 1)))) noX := by
  refine x_head (own := RX7) (cc := cX7_comes) (maxL := 3) (ret := none) (by decide) rfl rfl (Nat.le_of_ble_eq_true rfl) ?_
  intro p e s m args below meth c H ls hF hname htab hM hl
  have hx := hF.2.2.1
  have hb := hF.2.2.2.1
  have hL : Lc E [] := lcNil
  have hl : lh ls 3 ([(0, .ref b), (1, .ref k), (2, .int (iz ov))]) := hl
  refine lv_aload_n hx hb dX7_comes_0 rfl (lk hl rfl) ?_
  refine lv_aload_n hx hb dX7_comes_1 rfl (lk hl rfl) ?_
  refine x_putfield hF (ci := 6) in_X7 rfl tyX7_ok nmX7 0 (by decide) q346 (fun _ h => h) rfl hM hL hO (ty := .object "BakeryRing$Kind") (by decide +kernel) rfl rfl dX7_comes_2 (fun H locs hM hL => ?_)
  refine lv_aload_n hx hb dX7_comes_5 rfl (lk hl rfl) ?_
  refine lv_iload_n hx hb dX7_comes_6 rfl (lk hl rfl) ?_
  refine x_putfield hF (ci := 6) in_X7 rfl tyX7_ok nmX7 1 (by decide) q348 (fun _ h => h) rfl hM hL (obW hO) (ty := .int) (by decide +kernel) rfl rfl dX7_comes_7 (fun H locs hM hL => ?_)
  refine lv_aload_n hx hb dX7_comes_10 rfl (lk hl rfl) ?_
  refine x_iconst hF dX7_comes_11 ?_
  refine x_putfield hF (ci := 6) in_X7 rfl tyX7_ok nmX7 2 (by decide) q351 (fun _ h => h) rfl hM hL (obW (obW hO)) (ty := .boolean) (by decide +kernel) rfl rfl dX7_comes_12 (fun H locs hM hL => ?_)
  exact x_return hF hM hL (Nat.le_of_ble_eq_true rfl) (Nat.le_of_ble_eq_true rfl) ⟨rfl, rfl⟩ dX7_comes_15
