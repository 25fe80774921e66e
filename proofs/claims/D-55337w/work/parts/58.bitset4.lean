set_option maxHeartbeats 4000000 in
set_option maxRecDepth 100000 in
/-- java/util/BitSet.or(Ljava/util/BitSet;)V -/
theorem mJ8_or {l : Launch} {E : En} {σ : Mm} {b b2 : Nat} {Wo V2 : Nat → Nat} {n2 : Int} (hB : BS E σ b Wo 0) (hB2 : BS E σ b2 V2 n2) (e1 : b2 ≠ b) (e2 : b2 + 1 ≠ b) (e3 : b2 ≠ b + 1) : Ctr l E yJ8_or (ws_ yJ8_or cJ8_or 4 none) 1 40 0 0 [.ref b, .ref b2] σ (fun v τ => v = none ∧ BS E τ b V2 n2 ∧ Fr (BP b) σ τ) noX := by
  refine x_head (own := RJ8) (cc := cJ8_or) (maxL := 4) (ret := none) (by decide) rfl rfl (Nat.le_of_ble_eq_true rfl) ?_
  intro p e s m args below meth c H ls hF hname htab hM hl
  have hx := hF.2.2.1
  have hb := hF.2.2.2.1
  have hL : Lc E [] := lcNil
  have hl : lh ls 4 ([(0, .ref b), (1, .ref b2)]) := hl
  have hn2 := hB2.2.2.2.2.1
  have hz : ∀ k, Wo k = 0 := fun k => hB.2.2.2.2.2.2.2 k (by omega)
  refine lv_aload_n hx hb dJ8_or_0 rfl (lk hl rfl) ?_
  refine lv_aload_n hx hb dJ8_or_1 rfl (lk hl rfl) ?_
  refine lv_acmp_ne (rx := some b) (ry := some b2) (tgt := 6) hx hb dJ8_or_2 (by decide) (fun c2 => ?_) (fun c2 => ?_)
  · skip
    refine lv_aload_n hx hb dJ8_or_6 rfl (lk hl rfl) ?_
    refine x_getfield hF (ci := 5) in_J8 rfl 1 (by decide) q328 (fun _ h => h) hM hB.1 hB.2.2.2.1 dJ8_or_7 ?_
    refine lv_aload_n hx hb dJ8_or_10 rfl (lk hl rfl) ?_
    refine x_getfield hF (ci := 5) in_J8 rfl 1 (by decide) q328 (fun _ h => h) hM hB2.1 hB2.2.2.2.1 dJ8_or_11 ?_
    refine x_mmin hF hl (by first | assumption | (unfold inR; omega)) (by first | assumption | (unfold inR; omega)) q578 q579 q145 q580 (Nat.le_of_ble_eq_true rfl) (Nat.le_of_ble_eq_true rfl) (Nat.le_of_ble_eq_true rfl) (Nat.le_of_ble_eq_true rfl) dJ8_or_14 ?_
    rw [if_neg (show ¬ n2 < 0 by omega)]
    refine x_istore_n hF dJ8_or_17 rfl hl (by decide) rfl (fun ls hl => ?_)
    refine lv_aload_n hx hb dJ8_or_18 rfl (lk hl rfl) ?_
    refine x_getfield hF (ci := 5) in_J8 rfl 1 (by decide) q328 (fun _ h => h) hM hB.1 hB.2.2.2.1 dJ8_or_19 ?_
    refine lv_aload_n hx hb dJ8_or_22 rfl (lk hl rfl) ?_
    refine x_getfield hF (ci := 5) in_J8 rfl 1 (by decide) q328 (fun _ h => h) hM hB2.1 hB2.2.2.2.1 dJ8_or_23 ?_
    refine x_icmp_ge (tgt := 45) hF dJ8_or_26 (by decide) (by first | assumption | (unfold inR; omega)) (by first | assumption | (unfold inR; omega)) (fun c26 => ?_) (fun c26 => ?_)
    · skip
      have e9 : n2 = 0 := by omega
      subst e9
      refine x_iconst hF dJ8_or_45 ?_
      refine x_istore_n hF dJ8_or_46 rfl hl (by decide) rfl (fun ls hl => ?_)
      refine lv_iload_n hx hb dJ8_or_47 rfl (lk hl rfl) ?_
      refine lv_iload_n hx hb dJ8_or_48 rfl (lk hl rfl) ?_
      refine x_icmp_ge (tgt := 73) hF dJ8_or_49 (by decide) (by first | assumption | (unfold inR; omega)) (by first | assumption | (unfold inR; omega)) (fun c49 => ?_) (fun c49 => ?_)
      · skip
        refine lv_iload_n hx hb dJ8_or_73 rfl (lk hl rfl) ?_
        refine lv_aload_n hx hb dJ8_or_74 rfl (lk hl rfl) ?_
        refine x_getfield hF (ci := 5) in_J8 rfl 1 (by decide) q328 (fun _ h => h) hM hB2.1 hB2.2.2.2.1 dJ8_or_75 ?_
        refine x_icmp_ge (tgt := 100) hF dJ8_or_78 (by decide) (by first | assumption | (unfold inR; omega)) (by first | assumption | (unfold inR; omega)) (fun c78 => ?_) (fun c78 => ?_)
        · skip
          refine lv_aload_n hx hb dJ8_or_100 rfl (lk hl rfl) ?_
          refine x_kn hL (vx_runV (As := []) hF.2.2.2.2.2.2.2.2.2 ((mJ8_checkInvariants hB) hF.1) (cwV 0 hF.2.2.2.2.2.2.2.2.1 (lw_V q603 q605 qs2 q128 q606) rfl rfl rfl (by decide +kernel) ⟨(Nat.le_of_ble_eq_true rfl), (Nat.le_of_ble_eq_true rfl)⟩) (x_preV hF hM hB.1 rfl) rfl rfl hl.1 rfl (lv_room (Nat.le_of_ble_eq_true rfl)) dJ8_or_101 ⟨(Nat.le_of_ble_eq_true rfl), (Nat.le_of_ble_eq_true rfl)⟩) ?_
          rintro _ τ101 H locs ⟨rfl, hp⟩ hM hL
          rw [hp] at hM
          exact x_return hF hM hL (Nat.le_of_ble_eq_true rfl) (Nat.le_of_ble_eq_true rfl) ⟨rfl, (show Wo = V2 from funext fun k => by rw [hz k, hB2.2.2.2.2.2.2.2 k (by omega)]) ▸ hB, frRefl _ _⟩ dJ8_or_104
        · skip
          exact absurd c78 (by omega)
      · skip
        exact absurd c49 (by omega)
    · skip
      refine lv_aload_n hx hb dJ8_or_29 rfl (lk hl rfl) ?_
      refine lv_aload_n hx hb dJ8_or_30 rfl (lk hl rfl) ?_
      refine x_getfield hF (ci := 5) in_J8 rfl 1 (by decide) q328 (fun _ h => h) hM hB2.1 hB2.2.2.2.1 dJ8_or_31 ?_
      refine x_kn hL (vx_runV (As := [_]) hF.2.2.2.2.2.2.2.2.2 ((mJ8_ensureCapacity hB hn2.1 hn2.2) hF.1) (cwV 1 hF.2.2.2.2.2.2.2.2.1 (lw_V q581 q583 qs1 q128 q584) rfl rfl rfl (by decide +kernel) ⟨(Nat.le_of_ble_eq_true rfl), (Nat.le_of_ble_eq_true rfl)⟩) (x_preV hF hM hB.1 rfl) rfl rfl hl.1 rfl (lv_room (Nat.le_of_ble_eq_true rfl)) dJ8_or_34 ⟨(Nat.le_of_ble_eq_true rfl), (Nat.le_of_ble_eq_true rfl)⟩) ?_
      rintro _ τ34 H locs ⟨rfl, hp⟩ hM hL
      rw [hp] at hM
      refine lv_aload_n hx hb dJ8_or_37 rfl (lk hl rfl) ?_
      refine lv_aload_n hx hb dJ8_or_38 rfl (lk hl rfl) ?_
      refine x_getfield hF (ci := 5) in_J8 rfl 1 (by decide) q328 (fun _ h => h) hM hB2.1 hB2.2.2.2.1 dJ8_or_39 ?_
      refine x_putfield hF (ci := 5) in_J8 rfl tyJ8_ok nmJ8 1 (by decide) q328 (fun _ h => h) rfl hM hL hB.1 (ty := .int) (by decide +kernel) rfl rfl dJ8_or_42 (fun H locs hM hL => ?_)
      refine x_gen (P := fun τ => BS E τ b Wo n2 ∧ Fr (BP b) σ τ) hM ⟨BS_n hB hn2 (fun k _ => hz k), frWr (frRefl _ _) (fun _ => Or.inl rfl)⟩ (fun τ hM hT => ?_)
      obtain ⟨hB, hfr⟩ := hT
      replace hB2 := BS_fr hB2 hfr (fun a j ha q => by rcases ha with ha | ha <;> rcases q with q | q <;> omega)
      refine x_iconst hF dJ8_or_45 ?_
      refine x_istore_n hF dJ8_or_46 rfl hl (by decide) rfl (fun ls hl => ?_)
      refine lv_iload_n hx hb dJ8_or_47 rfl (lk hl rfl) ?_
      refine lv_iload_n hx hb dJ8_or_48 rfl (lk hl rfl) ?_
      refine x_icmp_ge (tgt := 73) hF dJ8_or_49 (by decide) (by first | assumption | (unfold inR; omega)) (by first | assumption | (unfold inR; omega)) (fun c49 => ?_) (fun c49 => ?_)
      · skip
        refine lv_iload_n hx hb dJ8_or_73 rfl (lk hl rfl) ?_
        refine lv_aload_n hx hb dJ8_or_74 rfl (lk hl rfl) ?_
        refine x_getfield hF (ci := 5) in_J8 rfl 1 (by decide) q328 (fun _ h => h) hM hB2.1 hB2.2.2.2.1 dJ8_or_75 ?_
        refine x_icmp_ge (tgt := 100) hF dJ8_or_78 (by decide) (by first | assumption | (unfold inR; omega)) (by first | assumption | (unfold inR; omega)) (fun c78 => ?_) (fun c78 => ?_)
        · skip
          exact absurd c78 (by omega)
        · skip
          refine lv_aload_n hx hb dJ8_or_81 rfl (lk hl rfl) ?_
          refine x_getfield hF (ci := 5) in_J8 rfl 0 (by decide) q327 (fun _ h => h) hM hB2.1 hB2.2.1 dJ8_or_82 ?_
          refine lv_iload_n hx hb dJ8_or_85 rfl (lk hl rfl) ?_
          refine lv_aload_n hx hb dJ8_or_86 rfl (lk hl rfl) ?_
          refine x_getfield hF (ci := 5) in_J8 rfl 0 (by decide) q327 (fun _ h => h) hM hB.1 hB.2.1 dJ8_or_87 ?_
          refine lv_iload_n hx hb dJ8_or_90 rfl (lk hl rfl) ?_
          refine lv_aload_n hx hb dJ8_or_91 rfl (lk hl rfl) ?_
          refine x_getfield hF (ci := 5) in_J8 rfl 1 (by decide) q328 (fun _ h => h) hM hB.1 hB.2.2.2.1 dJ8_or_92 ?_
          refine lv_iload_n hx hb dJ8_or_95 rfl (lk hl rfl) ?_
          refine x_isub hF dJ8_or_96 ?_
          refine x_arraycopy hF hl q602 q601 q600 q147 hM hL hB2.2.2.1 hB.2.2.1 rfl (by omega) (by omega) (by omega) (by omega) (by omega) (by decide) (by decide) (fun i hi => by rw [show (0 : Int).toNat + i = (i : Int).toNat by omega, hB2.2.2.2.2.2.1 (i : Int) (by omega) (by omega)]; rfl) (fun _ _ => Or.inl rfl) (Nat.le_of_ble_eq_true rfl) (Nat.le_of_ble_eq_true rfl) dJ8_or_97 (fun H locs hM hL => ?_)
          refine x_gen (P := fun τ => BS E τ b V2 n2 ∧ Fr (BP b) σ τ) hM ⟨by rw [Int.sub_zero]; exact BS_cp2 hB hz hB2 e2 e1, frCpm hfr (fun _ _ => Or.inr rfl)⟩ (fun τ hM hT => ?_)
          obtain ⟨hB, hfr⟩ := hT
          refine lv_aload_n hx hb dJ8_or_100 rfl (lk hl rfl) ?_
          refine x_kn hL (vx_runV (As := []) hF.2.2.2.2.2.2.2.2.2 ((mJ8_checkInvariants hB) hF.1) (cwV 0 hF.2.2.2.2.2.2.2.2.1 (lw_V q603 q605 qs2 q128 q606) rfl rfl rfl (by decide +kernel) ⟨(Nat.le_of_ble_eq_true rfl), (Nat.le_of_ble_eq_true rfl)⟩) (x_preV hF hM hB.1 rfl) rfl rfl hl.1 rfl (lv_room (Nat.le_of_ble_eq_true rfl)) dJ8_or_101 ⟨(Nat.le_of_ble_eq_true rfl), (Nat.le_of_ble_eq_true rfl)⟩) ?_
          rintro _ τ101 H locs ⟨rfl, hp⟩ hM hL
          rw [hp] at hM
          exact x_return hF hM hL (Nat.le_of_ble_eq_true rfl) (Nat.le_of_ble_eq_true rfl) ⟨rfl, hB, hfr⟩ dJ8_or_104
      · skip
        exact absurd c49 (by omega)
  · skip
    exact absurd (Option.some.inj c2) (fun q => e1 q.symm)
set_option maxHeartbeats 4000000 in
set_option maxRecDepth 100000 in
/-- java/util/BitSet.cardinality()I -/
theorem mJ8_cardinality {l : Launch} {E : En} {σ : Mm} {b : Nat} {g : Nat → Bool} (hG : BG E σ b g)  : Ctr l E yJ8_cardinality (ws_ yJ8_cardinality cJ8_cardinality 3 (some .int)) 1 21 0 0 [.ref b] σ (fun v τ => v = some (.int (iz (bcard g))) ∧ τ = σ) noX := by
  refine x_head (own := RJ8) (cc := cJ8_cardinality) (maxL := 3) (ret := (some .int)) (by decide) rfl rfl (Nat.le_of_ble_eq_true rfl) ?_
  intro p e s m args below meth c H ls hF hname htab hM hl
  have hx := hF.2.2.1
  have hb := hF.2.2.2.1
  have hL : Lc E [] := lcNil
  have hl : lh ls 3 ([(0, .ref b)]) := hl
  obtain ⟨Wo, n, hB, hg⟩ := hG
  have hn := hB.2.2.2.2.1
  refine x_iconst hF dJ8_cardinality_0 ?_
  refine x_istore_n hF dJ8_cardinality_1 rfl hl (by decide) rfl (fun ls hl => ?_)
  refine x_iconst hF dJ8_cardinality_2 ?_
  refine x_istore_n hF dJ8_cardinality_3 rfl hl (by decide) rfl (fun ls hl => ?_)
  suffices loop : ∀ (n9 : Nat) (i : Int) (H : Heap) (locs : List Loc) (ls : Array Slot), n - i < (n9 : Int) → (0 ≤ i) → (i ≤ n) → Mem E s H σ → Lc E locs → lh ls 3 [(0, .ref b), (1, .int (iz ((cB Wo i.toNat : Nat) : Int))), (2, .int (iz i))] → W p l e ({ frames := 1, cells := 0, slots := 0, locals := 21 } : Room) s m args below meth c H locs 0 0 (vx_MQ below (XQc E (fun v τ => v = some (.int (iz (bcard g))) ∧ τ = σ)) (XXc E noX) args s 0 0 (XA E)) (F0 m 4 ls []) from loop (8) 0 _ _ _ (by omega) (by omega) (by omega) hM hL (lh_sub hl rfl)
  refine nat_loop (fun i H locs ls hmm i0 i1 => absurd hmm (by omega)) (fun n9 ih i H locs ls hmm i0 i1 hM hL hl => ?_)
  refine lv_iload_n hx hb dJ8_cardinality_4 rfl (lk hl rfl) ?_
  refine lv_aload_n hx hb dJ8_cardinality_5 rfl (lk hl rfl) ?_
  refine x_getfield hF (ci := 5) in_J8 rfl 1 (by decide) q328 (fun _ h => h) hM hB.1 hB.2.2.2.1 dJ8_cardinality_6 ?_
  refine x_icmp_ge (tgt := 30) hF dJ8_cardinality_9 (by decide) (by first | assumption | (unfold inR; omega)) (by first | assumption | (unfold inR; omega)) (fun c9 => ?_) (fun c9 => ?_)
  · skip
    refine lv_iload_n hx hb dJ8_cardinality_30 rfl (lk hl rfl) ?_
    exact x_ireturn hF hM hL rfl (Nat.le_of_ble_eq_true rfl) (Nat.le_of_ble_eq_true rfl) ⟨by rw [← bcard_ok hg, ← cB_n hn hB.2.2.2.2.2.2.2, show i = n by omega], rfl⟩ dJ8_cardinality_31
  · skip
    refine lv_iload_n hx hb dJ8_cardinality_12 rfl (lk hl rfl) ?_
    refine lv_aload_n hx hb dJ8_cardinality_13 rfl (lk hl rfl) ?_
    refine x_getfield hF (ci := 5) in_J8 rfl 0 (by decide) q327 (fun _ h => h) hM hB.1 hB.2.1 dJ8_cardinality_14 ?_
    refine lv_iload_n hx hb dJ8_cardinality_17 rfl (lk hl rfl) ?_
    refine x_lald hF hM hB.2.2.1 (by omega) (by omega) (by decide) (hB.2.2.2.2.2.1 _ (by omega) (by omega)) dJ8_cardinality_18 ?_
    refine x_kp hL (vx_runS (As := [_]) hF.2.2.2.2.2.2.2.2.2 ((mJ29_bitCount (q := Wo i.toNat) (hB.2.2.2.2.2.2.1 _)) hF.1) (va_cwS 1 hF.2.2.2.2.2.2.2.2.1 (lw_S q1131 q1132 q154 q1133) rfl rfl rfl (by decide +kernel) ⟨(Nat.le_of_ble_eq_true rfl), (Nat.le_of_ble_eq_true rfl)⟩) (x_preS hF hM) rfl rfl hl.1 rfl (lv_room (Nat.le_of_ble_eq_true rfl)) dJ8_cardinality_19 ⟨(Nat.le_of_ble_eq_true rfl), (Nat.le_of_ble_eq_true rfl)⟩) (fun H locs hM hL => ?_)
    refine x_iadd hF dJ8_cardinality_22 ?_
    refine x_istore_n hF dJ8_cardinality_23 rfl hl (by decide) rfl (fun ls hl => ?_)
    refine x_iinc hF dJ8_cardinality_24 hl rfl (by decide) rfl (fun ls hl => ?_)
    refine x_goto (tgt := 4) hF dJ8_cardinality_27 (by decide) ?_
    rw [cB_s i0] at hl
    exact ih (i + 1) _ _ _ (by omega) (by omega) (by omega) hM hL (lh_sub hl rfl)
set_option maxHeartbeats 4000000 in
set_option maxRecDepth 100000 in
/-- java/util/BitSet.nextSetBit(I)I -/
theorem mJ8_nextSetBit {l : Launch} {E : En} {σ : Mm} {b : Nat} {g : Nat → Bool} (hG : BG E σ b g) {f : Int} (h0 : 0 ≤ f) (h1 : f < 384) : Ctr l E yJ8_nextSetBit (ws_ yJ8_nextSetBit cJ8_nextSetBit 5 (some .int)) 2 43 0 0 [.ref b, .int (iz f)] σ (fun v τ => v = some (.int (iz (nsb g f))) ∧ τ = σ) noX := by
  refine x_head (own := RJ8) (cc := cJ8_nextSetBit) (maxL := 5) (ret := (some .int)) (by decide) rfl rfl (Nat.le_of_ble_eq_true rfl) ?_
  intro p e s m args below meth c H ls hF hname htab hM hl
  have hx := hF.2.2.1
  have hb := hF.2.2.2.1
  have hL : Lc E [] := lcNil
  have hl : lh ls 5 ([(0, .ref b), (1, .int (iz f))]) := hl
  obtain ⟨Wo, n, hB, hg⟩ := hG
  have hn := hB.2.2.2.2.1
  refine lv_iload_n hx hb dJ8_nextSetBit_0 rfl (lk hl rfl) ?_
  refine x_if_ge (tgt := 31) hF dJ8_nextSetBit_1 (by decide) (by first | assumption | (unfold inR; omega)) (fun c1 => ?_) (fun c1 => ?_)
  · skip
    refine lv_aload_n hx hb dJ8_nextSetBit_31 rfl (lk hl rfl) ?_
    refine x_kn hL (vx_runV (As := []) hF.2.2.2.2.2.2.2.2.2 ((mJ8_checkInvariants hB) hF.1) (cwV 0 hF.2.2.2.2.2.2.2.2.1 (lw_V q603 q605 qs2 q128 q606) rfl rfl rfl (by decide +kernel) ⟨(Nat.le_of_ble_eq_true rfl), (Nat.le_of_ble_eq_true rfl)⟩) (x_preV hF hM hB.1 rfl) rfl rfl hl.1 rfl (lv_room (Nat.le_of_ble_eq_true rfl)) dJ8_nextSetBit_32 ⟨(Nat.le_of_ble_eq_true rfl), (Nat.le_of_ble_eq_true rfl)⟩) ?_
    rintro _ τ32 H locs ⟨rfl, hp⟩ hM hL
    rw [hp] at hM
    refine lv_iload_n hx hb dJ8_nextSetBit_35 rfl (lk hl rfl) ?_
    refine x_kp hL (vx_runS (As := [_]) hF.2.2.2.2.2.2.2.2.2 ((mJ8_wordIndex h0 (by omega)) hF.1) (va_cwS 1 hF.2.2.2.2.2.2.2.2.1 (lw_S q324 q325 q128 q326) rfl rfl rfl (by decide +kernel) ⟨(Nat.le_of_ble_eq_true rfl), (Nat.le_of_ble_eq_true rfl)⟩) (x_preS hF hM) rfl rfl hl.1 rfl (lv_room (Nat.le_of_ble_eq_true rfl)) dJ8_nextSetBit_36 ⟨(Nat.le_of_ble_eq_true rfl), (Nat.le_of_ble_eq_true rfl)⟩) (fun H locs hM hL => ?_)
    refine x_istore_n hF dJ8_nextSetBit_39 rfl hl (by decide) rfl (fun ls hl => ?_)
    refine lv_iload_n hx hb dJ8_nextSetBit_40 rfl (lk hl rfl) ?_
    refine lv_aload_n hx hb dJ8_nextSetBit_41 rfl (lk hl rfl) ?_
    refine x_getfield hF (ci := 5) in_J8 rfl 1 (by decide) q328 (fun _ h => h) hM hB.1 hB.2.2.2.1 dJ8_nextSetBit_42 ?_
    refine x_icmp_lt (tgt := 50) hF dJ8_nextSetBit_45 (by decide) (by first | assumption | (unfold inR; omega)) (by first | assumption | (unfold inR; omega)) (fun c45 => ?_) (fun c45 => ?_)
    · skip
      refine lv_aload_n hx hb dJ8_nextSetBit_50 rfl (lk hl rfl) ?_
      refine x_getfield hF (ci := 5) in_J8 rfl 0 (by decide) q327 (fun _ h => h) hM hB.1 hB.2.1 dJ8_nextSetBit_51 ?_
      refine lv_iload_n hx hb dJ8_nextSetBit_54 rfl (lk hl rfl) ?_
      refine x_lald hF hM hB.2.2.1 (by omega) (by omega) (by decide) (hB.2.2.2.2.2.1 _ (by omega) (by omega)) dJ8_nextSetBit_55 ?_
      refine lv_ldc2 hx hb hF.2.2.2.2.2.2.2.1 (hF.2.2.2.2.2.2.2.2.1 _ q1119) dJ8_nextSetBit_56 ?_
      refine lv_iload_n hx hb dJ8_nextSetBit_59 rfl (lk hl rfl) ?_
      refine lv_lshl hx hb dJ8_nextSetBit_60 rfl ?_
      refine lv_land hx hb dJ8_nextSetBit_61 ?_
      obtain ⟨q, hq, eq, hqb⟩ := and_hi (hB.2.2.2.2.2.2.1 (f / 64).toNat) h0 (show f < 512 by omega)
      rw [eq]
      refine x_lstore_n hF dJ8_nextSetBit_62 rfl hl (by decide) rfl rfl (fun ls hl => ?_)
      suffices loop : ∀ (n9 : Nat) (u : Int) (q : Nat) (H : Heap) (locs : List Loc) (ls : Array Slot), n - u < (n9 : Int) → (f / 64 ≤ u) → (u < n) → (qW g true f u q) → Mem E s H σ → Lc E locs → lh ls 5 [(0, .ref b), (1, .int (iz f)), (2, .int (iz u)), (3, .long (lN q))] → W p l e ({ frames := 2, cells := 0, slots := 0, locals := 43 } : Room) s m args below meth c H locs 0 0 (vx_MQ below (XQc E (fun v τ => v = some (.int (iz (nsb g f))) ∧ τ = σ)) (XXc E noX) args s 0 0 (XA E)) (F0 m 63 ls []) from loop (8) (f / 64) q _ _ _ (by omega) (by omega) (by omega) (qW_b hg h0 hq (fun j hj => by rw [← hg]; unfold bw; rw [show (64 * (f / 64).toNat + j) / 64 = (f / 64).toNat by omega, show (64 * (f / 64).toNat + j) % 64 = j by omega]; cases (Wo (f / 64).toNat).testBit j <;> rfl) hqb) hM hL (lh_sub hl rfl)
      refine nat_loop (fun u q H locs ls hmm u0 u1 hw => absurd hmm (by omega)) (fun n9 ih u q H locs ls hmm u0 u1 hw hM hL hl => ?_)
      refine lv_lload_n hx hb dJ8_nextSetBit_63 rfl (lk hl rfl) ?_
      refine lv_lconst (v := 0) hx hb dJ8_nextSetBit_64 rfl ?_
      refine W.lcmp hx hb dJ8_nextSetBit_65 ?_
      refine x_lcmp0_eq (tgt := 79) hF dJ8_nextSetBit_66 (by decide) (fun c66 => ?_) (fun c66 => ?_)
      · skip
        refine x_iinc hF dJ8_nextSetBit_79 hl rfl (by decide) rfl (fun ls hl => ?_)
        refine lv_iload_n hx hb dJ8_nextSetBit_82 rfl (lk hl rfl) ?_
        refine lv_aload_n hx hb dJ8_nextSetBit_83 rfl (lk hl rfl) ?_
        refine x_getfield hF (ci := 5) in_J8 rfl 1 (by decide) q328 (fun _ h => h) hM hB.1 hB.2.2.2.1 dJ8_nextSetBit_84 ?_
        refine x_icmp_ne (tgt := 92) hF dJ8_nextSetBit_87 (by decide) (by first | assumption | (unfold inR; omega)) (by first | assumption | (unfold inR; omega)) (fun c87 => ?_) (fun c87 => ?_)
        · skip
          refine lv_aload_n hx hb dJ8_nextSetBit_92 rfl (lk hl rfl) ?_
          refine x_getfield hF (ci := 5) in_J8 rfl 0 (by decide) q327 (fun _ h => h) hM hB.1 hB.2.1 dJ8_nextSetBit_93 ?_
          refine lv_iload_n hx hb dJ8_nextSetBit_96 rfl (lk hl rfl) ?_
          refine x_lald hF hM hB.2.2.1 (by omega) (by omega) (by decide) (hB.2.2.2.2.2.1 _ (by omega) (by omega)) dJ8_nextSetBit_97 ?_
          refine x_lstore_n hF dJ8_nextSetBit_98 rfl hl (by decide) rfl rfl (fun ls hl => ?_)
          refine x_goto (tgt := 63) hF dJ8_nextSetBit_99 (by decide) ?_
          exact ih (u + 1) (Wo (u + 1).toNat) _ _ _ (by omega) (by omega) (by omega) (qW_s hw (by omega) (by omega) ((lN_0 hw.1).mp c66) (hB.2.2.2.2.2.2.1 _) (fun j hj => by rw [← hg]; unfold bw; rw [show (64 * (u + 1).toNat + j) / 64 = (u + 1).toNat by omega, show (64 * (u + 1).toNat + j) % 64 = j by omega]; cases (Wo (u + 1).toNat).testBit j <;> rfl)) hM hL (lh_sub hl rfl)
        · skip
          refine x_iconst hF dJ8_nextSetBit_90 ?_
          exact x_ireturn hF hM hL rfl (Nat.le_of_ble_eq_true rfl) (Nat.le_of_ble_eq_true rfl) ⟨by rw [← NB_n h0 (by omega) (Or.inl ⟨rfl, fun i a c => by by_cases z : (i : Int) < 64 * (u + 1); exact qW_0 hw (by omega) ((lN_0 hw.1).mp c66) i a z; exact bw_hi hg hB.2.2.2.2.2.2.2 (by omega)⟩)], rfl⟩ dJ8_nextSetBit_91
      · skip
        refine lv_iload_n hx hb dJ8_nextSetBit_69 rfl (lk hl rfl) ?_
        refine x_bipush hF (by decide) dJ8_nextSetBit_70 ?_
        refine x_imul hF dJ8_nextSetBit_72 ?_
        refine lv_lload_n hx hb dJ8_nextSetBit_73 rfl (lk hl rfl) ?_
        refine x_kp hL (vx_runS (As := [_]) hF.2.2.2.2.2.2.2.2.2 (mJ29_numberOfTrailingZeros hF.1) (va_cwS 1 hF.2.2.2.2.2.2.2.2.1 (lw_S q1120 q1121 q154 q1122) rfl rfl rfl (by decide +kernel) ⟨(Nat.le_of_ble_eq_true rfl), (Nat.le_of_ble_eq_true rfl)⟩) (x_preS hF hM) rfl rfl hl.1 rfl (lv_room (Nat.le_of_ble_eq_true rfl)) dJ8_nextSetBit_74 ⟨(Nat.le_of_ble_eq_true rfl), (Nat.le_of_ble_eq_true rfl)⟩) (fun H locs hM hL => ?_)
        obtain ⟨k, hk, ek, hkb, hkl⟩ := ntz_ok hw.1 (fun z => c66 ((lN_0 hw.1).mpr z))
        rw [ek]
        have hqk := qW_k hw (by omega) hk hkb hkl
        refine x_iadd hF dJ8_nextSetBit_77 ?_
        exact x_ireturn hF hM hL rfl (Nat.le_of_ble_eq_true rfl) (Nat.le_of_ble_eq_true rfl) ⟨by rw [← NB_n h0 (by omega) (Or.inr ⟨hqk.1, by omega, hqk.2.1, hqk.2.2⟩)], rfl⟩ dJ8_nextSetBit_78
    · skip
      refine x_iconst hF dJ8_nextSetBit_48 ?_
      exact x_ireturn hF hM hL rfl (Nat.le_of_ble_eq_true rfl) (Nat.le_of_ble_eq_true rfl) ⟨by rw [← NB_n h0 (by omega) (Or.inl ⟨rfl, fun i a c => bw_hi hg hB.2.2.2.2.2.2.2 (by omega)⟩)], rfl⟩ dJ8_nextSetBit_49
  · skip
    exact absurd c1 (by omega)
