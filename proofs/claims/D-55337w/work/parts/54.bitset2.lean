set_option maxHeartbeats 4000000 in
set_option maxRecDepth 100000 in
/-- java/util/BitSet.get(I)Z -/
theorem mJ8_get {l : Launch} {E : En} {σ : Mm} {b : Nat} {g : Nat → Bool} (hG : BG E σ b g) {f : Int} (h0 : 0 ≤ f) (h1 : f < 384) : Ctr l E yJ8_get (ws_ yJ8_get cJ8_get 3 (some .boolean)) 1 20 0 0 [.ref b, .int (iz f)] σ (fun v τ => v = some (.int (iz (if g f.toNat = true then 1 else 0))) ∧ τ = σ) noX := by
  refine x_head (own := RJ8) (cc := cJ8_get) (maxL := 3) (ret := (some .boolean)) (by decide) rfl rfl (Nat.le_of_ble_eq_true rfl) ?_
  intro p e s m args below meth c H ls hF hname htab hM hl
  have hx := hF.2.2.1
  have hb := hF.2.2.2.1
  have hL : Lc E [] := lcNil
  have hl : lh ls 3 ([(0, .ref b), (1, .int (iz f))]) := hl
  obtain ⟨Wo, n, hB, hg⟩ := hG
  have hn := hB.2.2.2.2.1
  have hk : f.toNat % 64 < 64 := Nat.mod_lt _ (by decide)
  have hu : (f / 64).toNat = f.toNat / 64 := by omega
  have hgf := hg f.toNat
  unfold bw at hgf
  refine lv_iload_n hx hb dJ8_get_0 rfl (lk hl rfl) ?_
  refine x_if_ge (tgt := 31) hF dJ8_get_1 (by decide) (by first | assumption | (unfold inR; omega)) (fun c1 => ?_) (fun c1 => ?_)
  · skip
    refine lv_aload_n hx hb dJ8_get_31 rfl (lk hl rfl) ?_
    refine x_kn hL (vx_runV (As := []) hF.2.2.2.2.2.2.2.2.2 ((mJ8_checkInvariants hB) hF.1) (cwV 0 hF.2.2.2.2.2.2.2.2.1 (lw_V q603 q605 qs2 q128 q606) rfl rfl rfl (by decide +kernel) ⟨(Nat.le_of_ble_eq_true rfl), (Nat.le_of_ble_eq_true rfl)⟩) (x_preV hF hM hB.1 rfl) rfl rfl hl.1 rfl (lv_room (Nat.le_of_ble_eq_true rfl)) dJ8_get_32 ⟨(Nat.le_of_ble_eq_true rfl), (Nat.le_of_ble_eq_true rfl)⟩) ?_
    rintro _ τ32 H locs ⟨rfl, hp⟩ hM hL
    rw [hp] at hM
    refine lv_iload_n hx hb dJ8_get_35 rfl (lk hl rfl) ?_
    refine x_kp hL (vx_runS (As := [_]) hF.2.2.2.2.2.2.2.2.2 ((mJ8_wordIndex h0 (by omega)) hF.1) (va_cwS 1 hF.2.2.2.2.2.2.2.2.1 (lw_S q324 q325 q128 q326) rfl rfl rfl (by decide +kernel) ⟨(Nat.le_of_ble_eq_true rfl), (Nat.le_of_ble_eq_true rfl)⟩) (x_preS hF hM) rfl rfl hl.1 rfl (lv_room (Nat.le_of_ble_eq_true rfl)) dJ8_get_36 ⟨(Nat.le_of_ble_eq_true rfl), (Nat.le_of_ble_eq_true rfl)⟩) (fun H locs hM hL => ?_)
    refine x_istore_n hF dJ8_get_39 rfl hl (by decide) rfl (fun ls hl => ?_)
    refine lv_iload_n hx hb dJ8_get_40 rfl (lk hl rfl) ?_
    refine lv_aload_n hx hb dJ8_get_41 rfl (lk hl rfl) ?_
    refine x_getfield hF (ci := 5) in_J8 rfl 1 (by decide) q328 (fun _ h => h) hM hB.1 hB.2.2.2.1 dJ8_get_42 ?_
    refine x_icmp_ge (tgt := 67) hF dJ8_get_45 (by decide) (by first | assumption | (unfold inR; omega)) (by first | assumption | (unfold inR; omega)) (fun c45 => ?_) (fun c45 => ?_)
    · skip
      refine x_iconst hF dJ8_get_67 ?_
      exact x_ireturn hF hM hL (by rfl) (Nat.le_of_ble_eq_true rfl) (Nat.le_of_ble_eq_true rfl) ⟨by rw [if_neg (by rw [← hgf, hB.2.2.2.2.2.2.2 _ (by omega), Nat.zero_testBit]; decide)], rfl⟩ dJ8_get_68
    · skip
      refine lv_aload_n hx hb dJ8_get_48 rfl (lk hl rfl) ?_
      refine x_getfield hF (ci := 5) in_J8 rfl 0 (by decide) q327 (fun _ h => h) hM hB.1 hB.2.1 dJ8_get_49 ?_
      refine lv_iload_n hx hb dJ8_get_52 rfl (lk hl rfl) ?_
      refine x_lald hF hM hB.2.2.1 (by omega) (by omega) (by decide) (hB.2.2.2.2.2.1 _ (by omega) (by omega)) dJ8_get_53 ?_
      refine lv_lconst (v := 1) hx hb dJ8_get_54 rfl ?_
      refine lv_iload_n hx hb dJ8_get_55 rfl (lk hl rfl) ?_
      refine lv_lshl hx hb dJ8_get_56 (bit_ok h0 (by omega)) ?_
      refine lv_land hx hb dJ8_get_57 ?_
      refine lv_lconst (v := 0) hx hb dJ8_get_58 rfl ?_
      refine W.lcmp hx hb dJ8_get_59 ?_
      refine x_lcmp0_eq (tgt := 67) hF dJ8_get_60 (by decide) (fun c60 => ?_) (fun c60 => ?_)
      · skip
        refine x_iconst hF dJ8_get_67 ?_
        exact x_ireturn hF hM hL (by rfl) (Nat.le_of_ble_eq_true rfl) (Nat.le_of_ble_eq_true rfl) ⟨by rw [hu] at c60; rw [if_neg (by rw [← hgf, (bit_get (hB.2.2.2.2.2.2.1 _) hk).mp c60]; decide)], rfl⟩ dJ8_get_68
      · skip
        refine x_iconst hF dJ8_get_63 ?_
        refine x_goto (tgt := 68) hF dJ8_get_64 (by decide) ?_
        exact x_ireturn hF hM hL (by rfl) (Nat.le_of_ble_eq_true rfl) (Nat.le_of_ble_eq_true rfl) ⟨by rw [hu] at c60; rw [if_pos (by rw [← hgf]; exact (Bool.not_eq_false _).mp (fun q => c60 ((bit_get (hB.2.2.2.2.2.2.1 _) hk).mpr q)))], rfl⟩ dJ8_get_68
  · skip
    exact absurd c1 (by omega)
set_option maxHeartbeats 4000000 in
set_option maxRecDepth 100000 in
/-- java/util/BitSet.expandTo(I)V -/
theorem mJ8_expandTo {l : Launch} {E : En} {σ : Mm} {b : Nat} {Wo : Nat → Nat} {n : Int} (hB : BS E σ b Wo n) {z : Int} (hz0 : 0 ≤ z) (hz1 : z < 6) : Ctr l E yJ8_expandTo (ws_ yJ8_expandTo cJ8_expandTo 3 none) 1 22 0 0 [.ref b, .int (iz z)] σ (fun v τ => v = none ∧ ∃ n2, BS E τ b Wo n2 ∧ z < n2 ∧ Fr (BP b) σ τ) noX := by
  refine x_head (own := RJ8) (cc := cJ8_expandTo) (maxL := 3) (ret := none) (by decide) rfl rfl (Nat.le_of_ble_eq_true rfl) ?_
  intro p e s m args below meth c H ls hF hname htab hM hl
  have hx := hF.2.2.1
  have hb := hF.2.2.2.1
  have hL : Lc E [] := lcNil
  have hl : lh ls 3 ([(0, .ref b), (1, .int (iz z))]) := hl
  have hn := hB.2.2.2.2.1
  refine lv_iload_n hx hb dJ8_expandTo_0 rfl (lk hl rfl) ?_
  refine x_iconst hF dJ8_expandTo_1 ?_
  refine x_iadd hF dJ8_expandTo_2 ?_
  refine x_istore_n hF dJ8_expandTo_3 rfl hl (by decide) rfl (fun ls hl => ?_)
  refine lv_aload_n hx hb dJ8_expandTo_4 rfl (lk hl rfl) ?_
  refine x_getfield hF (ci := 5) in_J8 rfl 1 (by decide) q328 (fun _ h => h) hM hB.1 hB.2.2.2.1 dJ8_expandTo_5 ?_
  refine lv_iload_n hx hb dJ8_expandTo_8 rfl (lk hl rfl) ?_
  refine x_icmp_ge (tgt := 22) hF dJ8_expandTo_9 (by decide) (by first | assumption | (unfold inR; omega)) (by first | assumption | (unfold inR; omega)) (fun c9 => ?_) (fun c9 => ?_)
  · skip
    exact x_return hF hM hL (Nat.le_of_ble_eq_true rfl) (Nat.le_of_ble_eq_true rfl) ⟨rfl, n, hB, by omega, frRefl _ _⟩ dJ8_expandTo_22
  · skip
    refine lv_aload_n hx hb dJ8_expandTo_12 rfl (lk hl rfl) ?_
    refine lv_iload_n hx hb dJ8_expandTo_13 rfl (lk hl rfl) ?_
    refine x_kn hL (vx_runV (As := [_]) hF.2.2.2.2.2.2.2.2.2 ((mJ8_ensureCapacity hB (by omega) (by omega)) hF.1) (cwV 1 hF.2.2.2.2.2.2.2.2.1 (lw_V q581 q583 qs1 q128 q584) rfl rfl rfl (by decide +kernel) ⟨(Nat.le_of_ble_eq_true rfl), (Nat.le_of_ble_eq_true rfl)⟩) (x_preV hF hM hB.1 rfl) rfl rfl hl.1 rfl (lv_room (Nat.le_of_ble_eq_true rfl)) dJ8_expandTo_14 ⟨(Nat.le_of_ble_eq_true rfl), (Nat.le_of_ble_eq_true rfl)⟩) ?_
    rintro _ τ14 H locs ⟨rfl, hp⟩ hM hL
    rw [hp] at hM
    refine lv_aload_n hx hb dJ8_expandTo_17 rfl (lk hl rfl) ?_
    refine lv_iload_n hx hb dJ8_expandTo_18 rfl (lk hl rfl) ?_
    refine x_putfield hF (ci := 5) in_J8 rfl tyJ8_ok nmJ8 1 (by decide) q328 (fun _ h => h) rfl hM hL hB.1 (ty := .int) (by decide +kernel) rfl rfl dJ8_expandTo_19 (fun H locs hM hL => ?_)
    exact x_return hF hM hL (Nat.le_of_ble_eq_true rfl) (Nat.le_of_ble_eq_true rfl) ⟨rfl, z + 1, BS_n hB ⟨by omega, by omega⟩ (fun k hk => hB.2.2.2.2.2.2.2 k (by omega)), by omega, frWr (frRefl _ _) (fun _ => Or.inl rfl)⟩ dJ8_expandTo_22
set_option maxHeartbeats 4000000 in
set_option maxRecDepth 100000 in
/-- java/util/BitSet.set(I)V -/
theorem mJ8_set {l : Launch} {E : En} {σ : Mm} {b : Nat} {g : Nat → Bool} (hG : BG E σ b g) {f : Int} (h0 : 0 ≤ f) (h1 : f < 384) : Ctr l E yJ8_set (ws_ yJ8_set cJ8_set 3 none) 2 44 0 0 [.ref b, .int (iz f)] σ (fun v τ => v = none ∧ BG E τ b (bgU g f true) ∧ Fr (BP b) σ τ) noX := by
  refine x_head (own := RJ8) (cc := cJ8_set) (maxL := 3) (ret := none) (by decide) rfl rfl (Nat.le_of_ble_eq_true rfl) ?_
  intro p e s m args below meth c H ls hF hname htab hM hl
  have hx := hF.2.2.1
  have hb := hF.2.2.2.1
  have hL : Lc E [] := lcNil
  have hl : lh ls 3 ([(0, .ref b), (1, .int (iz f))]) := hl
  obtain ⟨Wo, n, hB, hg⟩ := hG
  have hn := hB.2.2.2.2.1
  have hk : f.toNat % 64 < 64 := Nat.mod_lt _ (by decide)
  have hu : (f / 64).toNat = f.toNat / 64 := by omega
  have hgf := hg f.toNat
  unfold bw at hgf
  refine lv_iload_n hx hb dJ8_set_0 rfl (lk hl rfl) ?_
  refine x_if_ge (tgt := 31) hF dJ8_set_1 (by decide) (by first | assumption | (unfold inR; omega)) (fun c1 => ?_) (fun c1 => ?_)
  · skip
    refine lv_iload_n hx hb dJ8_set_31 rfl (lk hl rfl) ?_
    refine x_kp hL (vx_runS (As := [_]) hF.2.2.2.2.2.2.2.2.2 ((mJ8_wordIndex h0 (by omega)) hF.1) (va_cwS 1 hF.2.2.2.2.2.2.2.2.1 (lw_S q324 q325 q128 q326) rfl rfl rfl (by decide +kernel) ⟨(Nat.le_of_ble_eq_true rfl), (Nat.le_of_ble_eq_true rfl)⟩) (x_preS hF hM) rfl rfl hl.1 rfl (lv_room (Nat.le_of_ble_eq_true rfl)) dJ8_set_32 ⟨(Nat.le_of_ble_eq_true rfl), (Nat.le_of_ble_eq_true rfl)⟩) (fun H locs hM hL => ?_)
    refine x_istore_n hF dJ8_set_35 rfl hl (by decide) rfl (fun ls hl => ?_)
    refine lv_aload_n hx hb dJ8_set_36 rfl (lk hl rfl) ?_
    refine lv_iload_n hx hb dJ8_set_37 rfl (lk hl rfl) ?_
    refine x_kn hL (vx_runV (As := [_]) hF.2.2.2.2.2.2.2.2.2 ((mJ8_expandTo hB (by omega) (by omega)) hF.1) (cwV 1 hF.2.2.2.2.2.2.2.2.1 (lw_V q1237 q1239 qs12 q128 q1240) rfl rfl rfl (by decide +kernel) ⟨(Nat.le_of_ble_eq_true rfl), (Nat.le_of_ble_eq_true rfl)⟩) (x_preV hF hM hB.1 rfl) rfl rfl hl.1 rfl (lv_room (Nat.le_of_ble_eq_true rfl)) dJ8_set_38 ⟨(Nat.le_of_ble_eq_true rfl), (Nat.le_of_ble_eq_true rfl)⟩) ?_
    rintro _ τ38 H locs ⟨rfl, n2, hB, hn2, hfr⟩ hM hL
    have hn := hB.2.2.2.2.1
    refine lv_aload_n hx hb dJ8_set_41 rfl (lk hl rfl) ?_
    refine x_getfield hF (ci := 5) in_J8 rfl 0 (by decide) q327 (fun _ h => h) hM hB.1 hB.2.1 dJ8_set_42 ?_
    refine lv_iload_n hx hb dJ8_set_45 rfl (lk hl rfl) ?_
    refine lv_dup2_11 hx hb dJ8_set_46 rfl rfl ?_
    refine x_lald hF hM hB.2.2.1 (by omega) (by omega) (by decide) (hB.2.2.2.2.2.1 _ (by omega) (by omega)) dJ8_set_47 ?_
    refine lv_lconst (v := 1) hx hb dJ8_set_48 rfl ?_
    refine lv_iload_n hx hb dJ8_set_49 rfl (lk hl rfl) ?_
    refine lv_lshl hx hb dJ8_set_50 (bit_ok h0 (by omega)) ?_
    refine lv_lor hx hb dJ8_set_51 ?_
    refine x_last hF hM hL hB.2.2.1 (by omega) (by omega) (by decide) dJ8_set_52 (fun H locs hM hL => ?_)
    obtain ⟨q, hq, eq, hqb⟩ := bit_set (hB.2.2.2.2.2.2.1 (f / 64).toNat) hk
    rw [eq] at hM
    refine x_gen (P := fun τ => BS E τ b (upW Wo (f / 64).toNat q) n2 ∧ Fr (BP b) σ τ) hM ⟨BS_wr hB (by omega) (by omega) hq, frWr hfr (fun _ => Or.inr rfl)⟩ (fun τ hM hT => ?_)
    replace hfr := hT.2
    replace hB := hT.1
    refine lv_aload_n hx hb dJ8_set_53 rfl (lk hl rfl) ?_
    refine x_kn hL (vx_runV (As := []) hF.2.2.2.2.2.2.2.2.2 ((mJ8_checkInvariants hB) hF.1) (cwV 0 hF.2.2.2.2.2.2.2.2.1 (lw_V q603 q605 qs2 q128 q606) rfl rfl rfl (by decide +kernel) ⟨(Nat.le_of_ble_eq_true rfl), (Nat.le_of_ble_eq_true rfl)⟩) (x_preV hF hM hB.1 rfl) rfl rfl hl.1 rfl (lv_room (Nat.le_of_ble_eq_true rfl)) dJ8_set_54 ⟨(Nat.le_of_ble_eq_true rfl), (Nat.le_of_ble_eq_true rfl)⟩) ?_
    rintro _ τ54 H locs ⟨rfl, hp⟩ hM hL
    rw [hp] at hM
    exact x_return hF hM hL (Nat.le_of_ble_eq_true rfl) (Nat.le_of_ble_eq_true rfl) ⟨rfl, ⟨_, _, hB, upW_bit hg h0 (bit_if1 hqb)⟩, hfr⟩ dJ8_set_57
  · skip
    exact absurd c1 (by omega)
