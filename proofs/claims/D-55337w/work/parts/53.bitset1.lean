set_option maxHeartbeats 4000000 in
set_option maxRecDepth 100000 in
/-- java/lang/Long.bitCount(J)I -/
theorem mJ29_bitCount {l : Launch} {E : En} {σ : Mm} {q : Nat} (hq : q < 2 ^ 64) : Ctr l E yJ29_bitCount (ws_ yJ29_bitCount cJ29_bitCount 2 (some .int)) 0 0 0 0 [.long (lN q)] σ (fun v τ => v = some (.int (iz ((bN q 64 0 : Nat) : Int))) ∧ τ = σ) noX := by
  refine x_head (own := RJ29) (cc := cJ29_bitCount) (maxL := 2) (ret := (some .int)) (by decide) rfl rfl (Nat.le_of_ble_eq_true rfl) ?_
  intro p e s m args below meth c H ls hF hname htab hM hl
  have hx := hF.2.2.1
  have hb := hF.2.2.2.1
  have hL : Lc E [] := lcNil
  have hl : lh ls 2 ([(0, .long (lN q))]) := hl
  refine lv_lload_n hx hb dJ29_bitCount_0 rfl (lk hl rfl) ?_
  refine lv_lload_n hx hb dJ29_bitCount_1 rfl (lk hl rfl) ?_
  refine x_iconst hF dJ29_bitCount_2 ?_
  refine lv_lushr hx hb dJ29_bitCount_3 rfl ?_
  refine lv_ldc2 hx hb hF.2.2.2.2.2.2.2.1 (hF.2.2.2.2.2.2.2.2.1 _ q1134) dJ29_bitCount_4 ?_
  refine lv_land hx hb dJ29_bitCount_7 ?_
  refine lv_lsub hx hb dJ29_bitCount_8 ?_
  refine x_lstore_n hF dJ29_bitCount_9 rfl hl (by decide) rfl rfl (fun ls hl => ?_)
  refine lv_lload_n hx hb dJ29_bitCount_10 rfl (lk hl rfl) ?_
  refine lv_ldc2 hx hb hF.2.2.2.2.2.2.2.1 (hF.2.2.2.2.2.2.2.2.1 _ q1135) dJ29_bitCount_11 ?_
  refine lv_land hx hb dJ29_bitCount_14 ?_
  refine lv_lload_n hx hb dJ29_bitCount_15 rfl (lk hl rfl) ?_
  refine x_iconst hF dJ29_bitCount_16 ?_
  refine lv_lushr hx hb dJ29_bitCount_17 rfl ?_
  refine lv_ldc2 hx hb hF.2.2.2.2.2.2.2.1 (hF.2.2.2.2.2.2.2.2.1 _ q1135) dJ29_bitCount_18 ?_
  refine lv_land hx hb dJ29_bitCount_21 ?_
  refine lv_ladd hx hb dJ29_bitCount_22 ?_
  refine x_lstore_n hF dJ29_bitCount_23 rfl hl (by decide) rfl rfl (fun ls hl => ?_)
  refine lv_lload_n hx hb dJ29_bitCount_24 rfl (lk hl rfl) ?_
  refine lv_lload_n hx hb dJ29_bitCount_25 rfl (lk hl rfl) ?_
  refine x_iconst hF dJ29_bitCount_26 ?_
  refine lv_lushr hx hb dJ29_bitCount_27 rfl ?_
  refine lv_ladd hx hb dJ29_bitCount_28 ?_
  refine lv_ldc2 hx hb hF.2.2.2.2.2.2.2.1 (hF.2.2.2.2.2.2.2.2.1 _ q1136) dJ29_bitCount_29 ?_
  refine lv_land hx hb dJ29_bitCount_32 ?_
  refine x_lstore_n hF dJ29_bitCount_33 rfl hl (by decide) rfl rfl (fun ls hl => ?_)
  refine lv_lload_n hx hb dJ29_bitCount_34 rfl (lk hl rfl) ?_
  refine lv_lload_n hx hb dJ29_bitCount_35 rfl (lk hl rfl) ?_
  refine x_bipush hF (by decide) dJ29_bitCount_36 ?_
  refine lv_lushr hx hb dJ29_bitCount_38 rfl ?_
  refine lv_ladd hx hb dJ29_bitCount_39 ?_
  refine x_lstore_n hF dJ29_bitCount_40 rfl hl (by decide) rfl rfl (fun ls hl => ?_)
  refine lv_lload_n hx hb dJ29_bitCount_41 rfl (lk hl rfl) ?_
  refine lv_lload_n hx hb dJ29_bitCount_42 rfl (lk hl rfl) ?_
  refine x_bipush hF (by decide) dJ29_bitCount_43 ?_
  refine lv_lushr hx hb dJ29_bitCount_45 rfl ?_
  refine lv_ladd hx hb dJ29_bitCount_46 ?_
  refine x_lstore_n hF dJ29_bitCount_47 rfl hl (by decide) rfl rfl (fun ls hl => ?_)
  refine lv_lload_n hx hb dJ29_bitCount_48 rfl (lk hl rfl) ?_
  refine lv_lload_n hx hb dJ29_bitCount_49 rfl (lk hl rfl) ?_
  refine x_bipush hF (by decide) dJ29_bitCount_50 ?_
  refine lv_lushr hx hb dJ29_bitCount_52 rfl ?_
  refine lv_ladd hx hb dJ29_bitCount_53 ?_
  refine x_lstore_n hF dJ29_bitCount_54 rfl hl (by decide) rfl rfl (fun ls hl => ?_)
  refine lv_lload_n hx hb dJ29_bitCount_55 rfl (lk hl rfl) ?_
  refine lv_l2i hx hb dJ29_bitCount_56 rfl ?_
  refine x_bipush hF (by decide) dJ29_bitCount_57 ?_
  refine lv_iand hx hb dJ29_bitCount_59 ?_
  exact x_ireturn hF hM hL rfl (Nat.le_of_ble_eq_true rfl) (Nat.le_of_ble_eq_true rfl) ⟨congrArg (fun x => some (Value.int x)) (show _ = iz ((bN q 64 0 : Nat) : Int) from pcL_ok hq), rfl⟩ dJ29_bitCount_60
set_option maxHeartbeats 4000000 in
set_option maxRecDepth 100000 in
/-- java/util/BitSet.wordIndex(I)I -/
theorem mJ8_wordIndex {l : Launch} {E : En} {σ : Mm} {f : Int} (h0 : 0 ≤ f) (h1 : f < 512) : Ctr l E yJ8_wordIndex (ws_ yJ8_wordIndex cJ8_wordIndex 1 (some .int)) 0 0 0 0 [.int (iz f)] σ (fun v τ => v = some (.int (iz (f / 64))) ∧ τ = σ) noX := by
  refine x_head (own := RJ8) (cc := cJ8_wordIndex) (maxL := 1) (ret := (some .int)) (by decide) rfl rfl (Nat.le_of_ble_eq_true rfl) ?_
  intro p e s m args below meth c H ls hF hname htab hM hl
  have hx := hF.2.2.1
  have hb := hF.2.2.2.1
  have hL : Lc E [] := lcNil
  have hl : lh ls 1 ([(0, .int (iz f))]) := hl
  refine lv_iload_n hx hb dJ8_wordIndex_0 rfl (lk hl rfl) ?_
  refine x_bipush hF (by decide) dJ8_wordIndex_1 ?_
  refine lv_ishr hx hb dJ8_wordIndex_3 ?_
  exact x_ireturn hF hM hL rfl (Nat.le_of_ble_eq_true rfl) (Nat.le_of_ble_eq_true rfl) ⟨by rw [wi_ok h0 h1], rfl⟩ dJ8_wordIndex_4
set_option maxHeartbeats 4000000 in
set_option maxRecDepth 100000 in
/-- java/util/BitSet.checkInvariants()V -/
theorem mJ8_checkInvariants {l : Launch} {E : En} {σ : Mm} {b : Nat} {Wo : Nat → Nat} {n : Int} (hB : BS E σ b Wo n)  : Ctr l E yJ8_checkInvariants (ws_ yJ8_checkInvariants cJ8_checkInvariants 1 none) 0 0 0 0 [.ref b] σ (fun v τ => v = none ∧ τ = σ) noX := by
  refine x_head (own := RJ8) (cc := cJ8_checkInvariants) (maxL := 1) (ret := none) (by decide) rfl rfl (Nat.le_of_ble_eq_true rfl) ?_
  intro p e s m args below meth c H ls hF hname htab hM hl
  have hx := hF.2.2.1
  have hb := hF.2.2.2.1
  have hL : Lc E [] := lcNil
  have hl : lh ls 1 ([(0, .ref b)]) := hl
  have hn := hB.2.2.2.2.1
  refine x_gets hF (w0_bs hF.1) q607 (fun _ h => h) hM dJ8_checkInvariants_0 ?_
  refine lv_if_ne (tgt := 37) hx hb dJ8_checkInvariants_3 (by decide) (fun c3 => ?_) (fun c3 => ?_)
  · skip
    refine x_gets hF (w0_bs hF.1) q607 (fun _ h => h) hM dJ8_checkInvariants_37 ?_
    refine lv_if_ne (tgt := 70) hx hb dJ8_checkInvariants_40 (by decide) (fun c40 => ?_) (fun c40 => ?_)
    · skip
      refine x_gets hF (w0_bs hF.1) q607 (fun _ h => h) hM dJ8_checkInvariants_70 ?_
      refine lv_if_ne (tgt := 110) hx hb dJ8_checkInvariants_73 (by decide) (fun c73 => ?_) (fun c73 => ?_)
      · skip
        exact x_return hF hM hL (Nat.le_of_ble_eq_true rfl) (Nat.le_of_ble_eq_true rfl) ⟨rfl, rfl⟩ dJ8_checkInvariants_110
      · skip
        exact absurd c73 (by decide)
    · skip
      exact absurd c40 (by decide)
  · skip
    exact absurd c3 (by decide)
set_option maxHeartbeats 4000000 in
set_option maxRecDepth 100000 in
/-- java/util/BitSet.ensureCapacity(I)V -/
theorem mJ8_ensureCapacity {l : Launch} {E : En} {σ : Mm} {b : Nat} {Wo : Nat → Nat} {n : Int} (hB : BS E σ b Wo n) {z : Int} (hz0 : 0 ≤ z) (hz1 : z ≤ 6) : Ctr l E yJ8_ensureCapacity (ws_ yJ8_ensureCapacity cJ8_ensureCapacity 3 none) 0 0 0 0 [.ref b, .int (iz z)] σ (fun v τ => v = none ∧ τ = σ) noX := by
  refine x_head (own := RJ8) (cc := cJ8_ensureCapacity) (maxL := 3) (ret := none) (by decide) rfl rfl (Nat.le_of_ble_eq_true rfl) ?_
  intro p e s m args below meth c H ls hF hname htab hM hl
  have hx := hF.2.2.1
  have hb := hF.2.2.2.1
  have hL : Lc E [] := lcNil
  have hl : lh ls 3 ([(0, .ref b), (1, .int (iz z))]) := hl
  have hn := hB.2.2.2.2.1
  refine lv_aload_n hx hb dJ8_ensureCapacity_0 rfl (lk hl rfl) ?_
  refine x_getfield hF (ci := 5) in_J8 rfl 0 (by decide) q327 (fun _ h => h) hM hB.1 hB.2.1 dJ8_ensureCapacity_1 ?_
  refine x_arraylength hF hM hB.2.2.1 dJ8_ensureCapacity_4 ?_
  refine lv_iload_n hx hb dJ8_ensureCapacity_5 rfl (lk hl rfl) ?_
  refine x_icmp_ge (tgt := 38) hF dJ8_ensureCapacity_6 (by decide) (by first | assumption | (unfold inR; omega)) (by first | assumption | (unfold inR; omega)) (fun c6 => ?_) (fun c6 => ?_)
  · skip
    exact x_return hF hM hL (Nat.le_of_ble_eq_true rfl) (Nat.le_of_ble_eq_true rfl) ⟨rfl, rfl⟩ dJ8_ensureCapacity_38
  · skip
    exact absurd c6 (by omega)
