set_option maxHeartbeats 4000000 in
set_option maxRecDepth 100000 in
/-- BakeryRing$Plain.room(I)I -/
theorem mX3_room {l : Launch} {E : En} {σ : Mm} {b : Nat} {z : Int} : Ctr l E yX3_room (ws_ yX3_room cX3_room 2 (some .int)) 0 0 0 0 [.ref b, .int (iz z)] σ (fun v τ => v = some (.int (iz z)) ∧ τ = σ) noX := by
  refine x_head (own := RX3) (cc := cX3_room) (maxL := 2) (ret := (some .int)) (by decide) rfl rfl (Nat.le_of_ble_eq_true rfl) ?_
  intro p e s m args below meth c H ls hF hname htab hM hl
  have hx := hF.2.2.1
  have hb := hF.2.2.2.1
  have hL : Lc E [] := lcNil
  have hl : lh ls 2 ([(0, .ref b), (1, .int (iz z))]) := hl
  refine lv_iload_n hx hb dX3_room_0 rfl (lk hl rfl) ?_
  exact x_ireturn hF hM hL rfl (Nat.le_of_ble_eq_true rfl) (Nat.le_of_ble_eq_true rfl) ⟨rfl, rfl⟩ dX3_room_1
set_option maxHeartbeats 4000000 in
set_option maxRecDepth 100000 in
/-- BakeryRing$Big.room(I)I -/
theorem mX4_room {l : Launch} {E : En} {σ : Mm} {b : Nat} {z : Int} (hz0 : 0 ≤ z) (hz1 : z ≤ 40) : Ctr l E yX4_room (ws_ yX4_room cX4_room 2 (some .int)) 0 0 0 0 [.ref b, .int (iz z)] σ (fun v τ => v = some (.int (iz (z + z / 2))) ∧ τ = σ) noX := by
  refine x_head (own := RX4) (cc := cX4_room) (maxL := 2) (ret := (some .int)) (by decide) rfl rfl (Nat.le_of_ble_eq_true rfl) ?_
  intro p e s m args below meth c H ls hF hname htab hM hl
  have hx := hF.2.2.1
  have hb := hF.2.2.2.1
  have hL : Lc E [] := lcNil
  have hl : lh ls 2 ([(0, .ref b), (1, .int (iz z))]) := hl
  refine lv_iload_n hx hb dX4_room_0 rfl (lk hl rfl) ?_
  refine lv_iload_n hx hb dX4_room_1 rfl (lk hl rfl) ?_
  refine x_iconst hF dX4_room_2 ?_
  refine x_idiv hF dX4_room_3 (by omega) (by omega) (by omega) (by omega) ?_
  refine x_iadd hF dX4_room_4 ?_
  exact x_ireturn hF hM hL rfl (Nat.le_of_ble_eq_true rfl) (Nat.le_of_ble_eq_true rfl) ⟨rfl, rfl⟩ dX4_room_5
set_option maxHeartbeats 4000000 in
set_option maxRecDepth 100000 in
/-- BakeryRing$Stand.room(I)I -/
theorem mX5_room {l : Launch} {E : En} {σ : Mm} {b : Nat} {z : Int} : Ctr l E yX5_room (ws_ yX5_room cX5_room 2 (some .int)) 0 0 0 0 [.ref b, .int (iz z)] σ (fun v τ => v = some (.int (iz (z + 3))) ∧ τ = σ) noX := by
  refine x_head (own := RX5) (cc := cX5_room) (maxL := 2) (ret := (some .int)) (by decide) rfl rfl (Nat.le_of_ble_eq_true rfl) ?_
  intro p e s m args below meth c H ls hF hname htab hM hl
  have hx := hF.2.2.1
  have hb := hF.2.2.2.1
  have hL : Lc E [] := lcNil
  have hl : lh ls 2 ([(0, .ref b), (1, .int (iz z))]) := hl
  refine lv_iload_n hx hb dX5_room_0 rfl (lk hl rfl) ?_
  refine x_iconst hF dX5_room_1 ?_
  refine x_iadd hF dX5_room_2 ?_
  exact x_ireturn hF hM hL rfl (Nat.le_of_ble_eq_true rfl) (Nat.le_of_ble_eq_true rfl) ⟨rfl, rfl⟩ dX5_room_3
