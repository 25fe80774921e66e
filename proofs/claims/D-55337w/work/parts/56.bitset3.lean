set_option maxHeartbeats 4000000 in
set_option maxRecDepth 100000 in
/-- java/util/BitSet.recalculateWordsInUse()V -/
theorem mJ8_recalculateWordsInUse {l : Launch} {E : En} {σ : Mm} {b : Nat} {Wo : Nat → Nat} {n : Int} (hB : BS E σ b Wo n)  : Ctr l E yJ8_recalculateWordsInUse (ws_ yJ8_recalculateWordsInUse cJ8_recalculateWordsInUse 2 none) 0 0 0 0 [.ref b] σ (fun v τ => v = none ∧ ∃ n2, BS E τ b Wo n2 ∧ Fr (BP b) σ τ) noX := by
  refine x_head (own := RJ8) (cc := cJ8_recalculateWordsInUse) (maxL := 2) (ret := none) (by decide) rfl rfl (Nat.le_of_ble_eq_true rfl) ?_
  intro p e s m args below meth c H ls hF hname htab hM hl
  have hx := hF.2.2.1
  have hb := hF.2.2.2.1
  have hL : Lc E [] := lcNil
  have hl : lh ls 2 ([(0, .ref b)]) := hl
  have hn := hB.2.2.2.2.1
  refine lv_aload_n hx hb dJ8_recalculateWordsInUse_0 rfl (lk hl rfl) ?_
  refine x_getfield hF (ci := 5) in_J8 rfl 1 (by decide) q328 (fun _ h => h) hM hB.1 hB.2.2.2.1 dJ8_recalculateWordsInUse_1 ?_
  refine x_iconst hF dJ8_recalculateWordsInUse_4 ?_
  refine x_isub hF dJ8_recalculateWordsInUse_5 ?_
  refine x_istore_n hF dJ8_recalculateWordsInUse_6 rfl hl (by decide) rfl (fun ls hl => ?_)
  suffices loop : ∀ (n9 : Nat) (i : Int) (H : Heap) (locs : List Loc) (ls : Array Slot), i + 1 < (n9 : Int) → (-1 ≤ i) → (i < n) → (∀ k : Nat, i < (k : Int) → Wo k = 0) → Mem E s H σ → Lc E locs → lh ls 2 [(0, .ref b), (1, .int (iz i))] → W p l e ({ frames := 0, cells := 0, slots := 0, locals := 0 } : Room) s m args below meth c H locs 0 0 (vx_MQ below (XQc E (fun v τ => v = none ∧ ∃ n2, BS E τ b Wo n2 ∧ Fr (BP b) σ τ)) (XXc E noX) args s 0 0 (XA E)) (F0 m 7 ls []) from loop (8) (n - 1) _ _ _ (by omega) (by omega) (by omega) (fun k hk => hB.2.2.2.2.2.2.2 k (by omega)) hM hL (lh_sub hl rfl)
  refine nat_loop (fun i H locs ls hmm i0 i1 hz => absurd hmm (by omega)) (fun n9 ih i H locs ls hmm i0 i1 hz hM hL hl => ?_)
  refine lv_iload_n hx hb dJ8_recalculateWordsInUse_7 rfl (lk hl rfl) ?_
  refine x_if_lt (tgt := 31) hF dJ8_recalculateWordsInUse_8 (by decide) (by first | assumption | (unfold inR; omega)) (fun c8 => ?_) (fun c8 => ?_)
  · skip
    refine lv_aload_n hx hb dJ8_recalculateWordsInUse_31 rfl (lk hl rfl) ?_
    refine lv_iload_n hx hb dJ8_recalculateWordsInUse_32 rfl (lk hl rfl) ?_
    refine x_iconst hF dJ8_recalculateWordsInUse_33 ?_
    refine x_iadd hF dJ8_recalculateWordsInUse_34 ?_
    refine x_putfield hF (ci := 5) in_J8 rfl tyJ8_ok nmJ8 1 (by decide) q328 (fun _ h => h) rfl hM hL hB.1 (ty := .int) (by decide +kernel) rfl rfl dJ8_recalculateWordsInUse_35 (fun H locs hM hL => ?_)
    exact x_return hF hM hL (Nat.le_of_ble_eq_true rfl) (Nat.le_of_ble_eq_true rfl) ⟨rfl, i + 1, BS_n hB ⟨by omega, by omega⟩ (fun k hk => hz k (by omega)), frWr (frRefl _ _) (fun _ => Or.inl rfl)⟩ dJ8_recalculateWordsInUse_38
  · skip
    refine lv_aload_n hx hb dJ8_recalculateWordsInUse_11 rfl (lk hl rfl) ?_
    refine x_getfield hF (ci := 5) in_J8 rfl 0 (by decide) q327 (fun _ h => h) hM hB.1 hB.2.1 dJ8_recalculateWordsInUse_12 ?_
    refine lv_iload_n hx hb dJ8_recalculateWordsInUse_15 rfl (lk hl rfl) ?_
    refine x_lald hF hM hB.2.2.1 (by omega) (by omega) (by decide) (hB.2.2.2.2.2.1 _ (by omega) (by omega)) dJ8_recalculateWordsInUse_16 ?_
    refine lv_lconst (v := 0) hx hb dJ8_recalculateWordsInUse_17 rfl ?_
    refine W.lcmp hx hb dJ8_recalculateWordsInUse_18 ?_
    refine x_lcmp0_eq (tgt := 25) hF dJ8_recalculateWordsInUse_19 (by decide) (fun c19 => ?_) (fun c19 => ?_)
    · skip
      refine x_iinc hF dJ8_recalculateWordsInUse_25 hl rfl (by decide) rfl (fun ls hl => ?_)
      refine x_goto (tgt := 7) hF dJ8_recalculateWordsInUse_28 (by decide) ?_
      exact ih (i - 1) _ _ _ (by omega) (by omega) (by omega) (fun k hk => by by_cases e : i < (k : Int); exact hz k e; exact (show k = i.toNat by omega) ▸ (lN_0 (hB.2.2.2.2.2.2.1 i.toNat)).mp c19) hM hL (lh_sub hl rfl)
    · skip
      refine x_goto (tgt := 31) hF dJ8_recalculateWordsInUse_22 (by decide) ?_
      refine lv_aload_n hx hb dJ8_recalculateWordsInUse_31 rfl (lk hl rfl) ?_
      refine lv_iload_n hx hb dJ8_recalculateWordsInUse_32 rfl (lk hl rfl) ?_
      refine x_iconst hF dJ8_recalculateWordsInUse_33 ?_
      refine x_iadd hF dJ8_recalculateWordsInUse_34 ?_
      refine x_putfield hF (ci := 5) in_J8 rfl tyJ8_ok nmJ8 1 (by decide) q328 (fun _ h => h) rfl hM hL hB.1 (ty := .int) (by decide +kernel) rfl rfl dJ8_recalculateWordsInUse_35 (fun H locs hM hL => ?_)
      exact x_return hF hM hL (Nat.le_of_ble_eq_true rfl) (Nat.le_of_ble_eq_true rfl) ⟨rfl, i + 1, BS_n hB ⟨by omega, by omega⟩ (fun k hk => hz k (by omega)), frWr (frRefl _ _) (fun _ => Or.inl rfl)⟩ dJ8_recalculateWordsInUse_38
set_option maxHeartbeats 4000000 in
set_option maxRecDepth 100000 in
/-- java/util/BitSet.clear(I)V -/
theorem mJ8_clear_2 {l : Launch} {E : En} {σ : Mm} {b : Nat} {g : Nat → Bool} (hG : BG E σ b g) {f : Int} (h0 : 0 ≤ f) (h1 : f < 384) : Ctr l E yJ8_clear_2 (ws_ yJ8_clear_2 cJ8_clear_2 3 none) 1 21 0 0 [.ref b, .int (iz f)] σ (fun v τ => v = none ∧ BG E τ b (bgU g f false) ∧ Fr (BP b) σ τ) noX := by
  refine x_head (own := RJ8) (cc := cJ8_clear_2) (maxL := 3) (ret := none) (by decide) rfl rfl (Nat.le_of_ble_eq_true rfl) ?_
  intro p e s m args below meth c H ls hF hname htab hM hl
  have hx := hF.2.2.1
  have hb := hF.2.2.2.1
  have hL : Lc E [] := lcNil
  have hl : lh ls 3 ([(0, .ref b), (1, .int (iz f))]) := hl
  obtain ⟨Wo, n, hB, hg⟩ := hG
  have hn := hB.2.2.2.2.1
  have hk : f.toNat % 64 < 64 := Nat.mod_lt _ (by decide)
  have hu : (f / 64).toNat = f.toNat / 64 := by omega
  have hgf := hg f.toNat
  unfold bw at hgf
  refine lv_iload_n hx hb dJ8_clear_2_0 rfl (lk hl rfl) ?_
  refine x_if_ge (tgt := 31) hF dJ8_clear_2_1 (by decide) (by first | assumption | (unfold inR; omega)) (fun c1 => ?_) (fun c1 => ?_)
  · skip
    refine lv_iload_n hx hb dJ8_clear_2_31 rfl (lk hl rfl) ?_
    refine x_kp hL (vx_runS (As := [_]) hF.2.2.2.2.2.2.2.2.2 ((mJ8_wordIndex h0 (by omega)) hF.1) (va_cwS 1 hF.2.2.2.2.2.2.2.2.1 (lw_S q324 q325 q128 q326) rfl rfl rfl (by decide +kernel) ⟨(Nat.le_of_ble_eq_true rfl), (Nat.le_of_ble_eq_true rfl)⟩) (x_preS hF hM) rfl rfl hl.1 rfl (lv_room (Nat.le_of_ble_eq_true rfl)) dJ8_clear_2_32 ⟨(Nat.le_of_ble_eq_true rfl), (Nat.le_of_ble_eq_true rfl)⟩) (fun H locs hM hL => ?_)
    refine x_istore_n hF dJ8_clear_2_35 rfl hl (by decide) rfl (fun ls hl => ?_)
    refine lv_iload_n hx hb dJ8_clear_2_36 rfl (lk hl rfl) ?_
    refine lv_aload_n hx hb dJ8_clear_2_37 rfl (lk hl rfl) ?_
    refine x_getfield hF (ci := 5) in_J8 rfl 1 (by decide) q328 (fun _ h => h) hM hB.1 hB.2.2.2.1 dJ8_clear_2_38 ?_
    refine x_icmp_lt (tgt := 45) hF dJ8_clear_2_41 (by decide) (by first | assumption | (unfold inR; omega)) (by first | assumption | (unfold inR; omega)) (fun c41 => ?_) (fun c41 => ?_)
    · skip
      refine lv_aload_n hx hb dJ8_clear_2_45 rfl (lk hl rfl) ?_
      refine x_getfield hF (ci := 5) in_J8 rfl 0 (by decide) q327 (fun _ h => h) hM hB.1 hB.2.1 dJ8_clear_2_46 ?_
      refine lv_iload_n hx hb dJ8_clear_2_49 rfl (lk hl rfl) ?_
      refine lv_dup2_11 hx hb dJ8_clear_2_50 rfl rfl ?_
      refine x_lald hF hM hB.2.2.1 (by omega) (by omega) (by decide) (hB.2.2.2.2.2.1 _ (by omega) (by omega)) dJ8_clear_2_51 ?_
      refine lv_lconst (v := 1) hx hb dJ8_clear_2_52 rfl ?_
      refine lv_iload_n hx hb dJ8_clear_2_53 rfl (lk hl rfl) ?_
      refine lv_lshl hx hb dJ8_clear_2_54 (bit_ok h0 (by omega)) ?_
      refine lv_ldc2 hx hb hF.2.2.2.2.2.2.2.1 (hF.2.2.2.2.2.2.2.2.1 _ q1119) dJ8_clear_2_55 ?_
      refine lv_lxor hx hb dJ8_clear_2_58 ?_
      refine lv_land hx hb dJ8_clear_2_59 ?_
      refine x_last hF hM hL hB.2.2.1 (by omega) (by omega) (by decide) dJ8_clear_2_60 (fun H locs hM hL => ?_)
      obtain ⟨q, hq, eq, hqb⟩ := bit_clr (hB.2.2.2.2.2.2.1 (f / 64).toNat) hk
      rw [eq] at hM
      refine x_gen (P := fun τ => BS E τ b (upW Wo (f / 64).toNat q) n ∧ Fr (BP b) σ τ) hM ⟨BS_wr hB (by omega) (by omega) hq, frWr (frRefl _ _) (fun _ => Or.inr rfl)⟩ (fun τ hM hT => ?_)
      have hfr := hT.2
      replace hB := hT.1
      refine lv_aload_n hx hb dJ8_clear_2_61 rfl (lk hl rfl) ?_
      refine x_kn hL (vx_runV (As := []) hF.2.2.2.2.2.2.2.2.2 ((mJ8_recalculateWordsInUse hB) hF.1) (cwV 0 hF.2.2.2.2.2.2.2.2.1 (lw_V q1256 q1258 qs14 q128 q1259) rfl rfl rfl (by decide +kernel) ⟨(Nat.le_of_ble_eq_true rfl), (Nat.le_of_ble_eq_true rfl)⟩) (x_preV hF hM hB.1 rfl) rfl rfl hl.1 rfl (lv_room (Nat.le_of_ble_eq_true rfl)) dJ8_clear_2_62 ⟨(Nat.le_of_ble_eq_true rfl), (Nat.le_of_ble_eq_true rfl)⟩) ?_
      rintro _ τ62 H locs ⟨rfl, n2, hB, hfr2⟩ hM hL
      replace hfr := frTrans hfr hfr2
      refine lv_aload_n hx hb dJ8_clear_2_65 rfl (lk hl rfl) ?_
      refine x_kn hL (vx_runV (As := []) hF.2.2.2.2.2.2.2.2.2 ((mJ8_checkInvariants hB) hF.1) (cwV 0 hF.2.2.2.2.2.2.2.2.1 (lw_V q603 q605 qs2 q128 q606) rfl rfl rfl (by decide +kernel) ⟨(Nat.le_of_ble_eq_true rfl), (Nat.le_of_ble_eq_true rfl)⟩) (x_preV hF hM hB.1 rfl) rfl rfl hl.1 rfl (lv_room (Nat.le_of_ble_eq_true rfl)) dJ8_clear_2_66 ⟨(Nat.le_of_ble_eq_true rfl), (Nat.le_of_ble_eq_true rfl)⟩) ?_
      rintro _ τ66 H locs ⟨rfl, hp⟩ hM hL
      rw [hp] at hM
      exact x_return hF hM hL (Nat.le_of_ble_eq_true rfl) (Nat.le_of_ble_eq_true rfl) ⟨rfl, ⟨_, _, hB, upW_bit hg h0 (bit_if0 hqb)⟩, hfr⟩ dJ8_clear_2_69
    · skip
      exact x_return hF hM hL (Nat.le_of_ble_eq_true rfl) (Nat.le_of_ble_eq_true rfl) ⟨rfl, ⟨_, _, hB, fun i => by (have e9 : bgU g f false i = g i := by unfold bgU; split; (rw [show i = f.toNat by omega, ← hgf, hB.2.2.2.2.2.2.2 _ (by omega), Nat.zero_testBit]); rfl); rw [e9]; exact hg i⟩, frRefl _ _⟩ dJ8_clear_2_44
  · skip
    exact absurd c1 (by omega)
set_option maxHeartbeats 4000000 in
set_option maxRecDepth 100000 in
/-- java/util/BitSet.clear()V -/
theorem mJ8_clear {l : Launch} {E : En} {σ : Mm} {b : Nat} {Wo : Nat → Nat} {n : Int} (hB : BS E σ b Wo n)  : Ctr l E yJ8_clear (ws_ yJ8_clear cJ8_clear 1 none) 0 0 0 0 [.ref b] σ (fun v τ => v = none ∧ ∃ V, BS E τ b V 0 ∧ Fr (BP b) σ τ) noX := by
  refine x_head (own := RJ8) (cc := cJ8_clear) (maxL := 1) (ret := none) (by decide) rfl rfl (Nat.le_of_ble_eq_true rfl) ?_
  intro p e s m args below meth c H ls hF hname htab hM hl
  have hx := hF.2.2.1
  have hb := hF.2.2.2.1
  have hL : Lc E [] := lcNil
  have hl : lh ls 1 ([(0, .ref b)]) := hl
  have hn := hB.2.2.2.2.1
  suffices loop : ∀ (n9 : Nat) (V : Nat → Nat) (k : Int) (τ : Mm) (H : Heap) (locs : List Loc) (ls : Array Slot), k < (n9 : Int) → (0 ≤ k) → Mem E s H τ → BS E τ b V k ∧ Fr (BP b) σ τ → Lc E locs → lh ls 1 [(0, .ref b)] → W p l e ({ frames := 0, cells := 0, slots := 0, locals := 0 } : Room) s m args below meth c H locs 0 0 (vx_MQ below (XQc E (fun v τ => v = none ∧ ∃ V, BS E τ b V 0 ∧ Fr (BP b) σ τ)) (XXc E noX) args s 0 0 (XA E)) (F0 m 0 ls []) from loop (7) Wo n _ _ _ _ (by omega) (by omega) hM ⟨hB, frRefl _ _⟩ hL (lh_sub hl rfl)
  refine nat_loop (fun V k τ H locs ls hmm k0 => absurd hmm (by omega)) (fun n9 ih V k τ H locs ls hmm k0 hM hP hL hl => ?_)
  refine lv_aload_n hx hb dJ8_clear_0 rfl (lk hl rfl) ?_
  have hk := hP.1.2.2.2.2.1
  refine x_getfield hF (ci := 5) in_J8 rfl 1 (by decide) q328 (fun _ h => h) hM hP.1.1 hP.1.2.2.2.1 dJ8_clear_1 ?_
  refine x_if_le (tgt := 27) hF dJ8_clear_4 (by decide) (by first | assumption | (unfold inR; omega)) (fun c4 => ?_) (fun c4 => ?_)
  · skip
    exact x_return hF hM hL (Nat.le_of_ble_eq_true rfl) (Nat.le_of_ble_eq_true rfl) ⟨rfl, V, (show (0 : Int) = k by omega) ▸ hP.1, hP.2⟩ dJ8_clear_27
  · skip
    refine lv_aload_n hx hb dJ8_clear_7 rfl (lk hl rfl) ?_
    refine x_getfield hF (ci := 5) in_J8 rfl 0 (by decide) q327 (fun _ h => h) hM hP.1.1 hP.1.2.1 dJ8_clear_8 ?_
    refine lv_aload_n hx hb dJ8_clear_11 rfl (lk hl rfl) ?_
    refine lv_dup hx hb dJ8_clear_12 rfl ?_
    refine x_getfield hF (ci := 5) in_J8 rfl 1 (by decide) q328 (fun _ h => h) hM hP.1.1 hP.1.2.2.2.1 dJ8_clear_13 ?_
    refine x_iconst hF dJ8_clear_16 ?_
    refine x_isub hF dJ8_clear_17 ?_
    refine lv_dup_x1 hx hb dJ8_clear_18 rfl rfl ?_
    refine x_putfield hF (ci := 5) in_J8 rfl tyJ8_ok nmJ8 1 (by decide) q328 (fun _ h => h) rfl hM hL hP.1.1 (ty := .int) (by decide +kernel) rfl rfl dJ8_clear_19 (fun H locs hM hL => ?_)
    refine lv_lconst (v := 0) hx hb dJ8_clear_22 rfl ?_
    refine x_last hF hM hL (arW hP.1.2.2.1) (by omega) (by omega) (by decide) dJ8_clear_23 (fun H locs hM hL => ?_)
    refine x_goto (tgt := 0) hF dJ8_clear_24 (by decide) ?_
    exact ih _ (k - 1) _ _ _ _ (by omega) (by omega) hM ⟨BS_c hP.1 (by omega), frWr (frWr hP.2 (fun _ => Or.inl rfl)) (fun _ => Or.inr rfl)⟩ hL (lh_sub hl rfl)
