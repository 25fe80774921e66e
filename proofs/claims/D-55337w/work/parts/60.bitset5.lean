set_option maxHeartbeats 4000000 in
set_option maxRecDepth 100000 in
/-- java/util/BitSet.nextClearBit(I)I -/
theorem mJ8_nextClearBit {l : Launch} {E : En} {σ : Mm} {b : Nat} {g : Nat → Bool} (hG : BG E σ b g) {f : Int} (h0 : 0 ≤ f) (h1 : f < 384) : Ctr l E yJ8_nextClearBit (ws_ yJ8_nextClearBit cJ8_nextClearBit 5 (some .int)) 2 43 0 0 [.ref b, .int (iz f)] σ (fun v τ => v = some (.int (iz (ncb g f))) ∧ τ = σ) noX := by
  refine x_head (own := RJ8) (cc := cJ8_nextClearBit) (maxL := 5) (ret := (some .int)) (by decide) rfl rfl (Nat.le_of_ble_eq_true rfl) ?_
  intro p e s m args below meth c H ls hF hname htab hM hl
  have hx := hF.2.2.1
  have hb := hF.2.2.2.1
  have hL : Lc E [] := lcNil
  have hl : lh ls 5 ([(0, .ref b), (1, .int (iz f))]) := hl
  obtain ⟨Wo, n, hB, hg⟩ := hG
  have hn := hB.2.2.2.2.1
  refine lv_iload_n hx hb dJ8_nextClearBit_0 rfl (lk hl rfl) ?_
  refine x_if_ge (tgt := 31) hF dJ8_nextClearBit_1 (by decide) (by first | assumption | (unfold inR; omega)) (fun c1 => ?_) (fun c1 => ?_)
  · skip
    refine lv_aload_n hx hb dJ8_nextClearBit_31 rfl (lk hl rfl) ?_
    refine x_kn hL (vx_runV (As := []) hF.2.2.2.2.2.2.2.2.2 ((mJ8_checkInvariants hB) hF.1) (cwV 0 hF.2.2.2.2.2.2.2.2.1 (lw_V q603 q605 qs2 q128 q606) rfl rfl rfl (by decide +kernel) ⟨(Nat.le_of_ble_eq_true rfl), (Nat.le_of_ble_eq_true rfl)⟩) (x_preV hF hM hB.1 rfl) rfl rfl hl.1 rfl (lv_room (Nat.le_of_ble_eq_true rfl)) dJ8_nextClearBit_32 ⟨(Nat.le_of_ble_eq_true rfl), (Nat.le_of_ble_eq_true rfl)⟩) ?_
    rintro _ τ32 H locs ⟨rfl, hp⟩ hM hL
    rw [hp] at hM
    refine lv_iload_n hx hb dJ8_nextClearBit_35 rfl (lk hl rfl) ?_
    refine x_kp hL (vx_runS (As := [_]) hF.2.2.2.2.2.2.2.2.2 ((mJ8_wordIndex h0 (by omega)) hF.1) (va_cwS 1 hF.2.2.2.2.2.2.2.2.1 (lw_S q324 q325 q128 q326) rfl rfl rfl (by decide +kernel) ⟨(Nat.le_of_ble_eq_true rfl), (Nat.le_of_ble_eq_true rfl)⟩) (x_preS hF hM) rfl rfl hl.1 rfl (lv_room (Nat.le_of_ble_eq_true rfl)) dJ8_nextClearBit_36 ⟨(Nat.le_of_ble_eq_true rfl), (Nat.le_of_ble_eq_true rfl)⟩) (fun H locs hM hL => ?_)
    refine x_istore_n hF dJ8_nextClearBit_39 rfl hl (by decide) rfl (fun ls hl => ?_)
    refine lv_iload_n hx hb dJ8_nextClearBit_40 rfl (lk hl rfl) ?_
    refine lv_aload_n hx hb dJ8_nextClearBit_41 rfl (lk hl rfl) ?_
    refine x_getfield hF (ci := 5) in_J8 rfl 1 (by decide) q328 (fun _ h => h) hM hB.1 hB.2.2.2.1 dJ8_nextClearBit_42 ?_
    refine x_icmp_lt (tgt := 50) hF dJ8_nextClearBit_45 (by decide) (by first | assumption | (unfold inR; omega)) (by first | assumption | (unfold inR; omega)) (fun c45 => ?_) (fun c45 => ?_)
    · skip
      refine lv_aload_n hx hb dJ8_nextClearBit_50 rfl (lk hl rfl) ?_
      refine x_getfield hF (ci := 5) in_J8 rfl 0 (by decide) q327 (fun _ h => h) hM hB.1 hB.2.1 dJ8_nextClearBit_51 ?_
      refine lv_iload_n hx hb dJ8_nextClearBit_54 rfl (lk hl rfl) ?_
      refine x_lald hF hM hB.2.2.1 (by omega) (by omega) (by decide) (hB.2.2.2.2.2.1 _ (by omega) (by omega)) dJ8_nextClearBit_55 ?_
      refine lv_ldc2 hx hb hF.2.2.2.2.2.2.2.1 (hF.2.2.2.2.2.2.2.2.1 _ q1119) dJ8_nextClearBit_56 ?_
      refine lv_lxor hx hb dJ8_nextClearBit_59 ?_
      refine lv_ldc2 hx hb hF.2.2.2.2.2.2.2.1 (hF.2.2.2.2.2.2.2.2.1 _ q1119) dJ8_nextClearBit_60 ?_
      refine lv_iload_n hx hb dJ8_nextClearBit_63 rfl (lk hl rfl) ?_
      refine lv_lshl hx hb dJ8_nextClearBit_64 rfl ?_
      refine lv_land hx hb dJ8_nextClearBit_65 ?_
      obtain ⟨m2, hm2, em, hmb⟩ := inv_ok (hB.2.2.2.2.2.2.1 (f / 64).toNat)
      obtain ⟨q, hq, eq, hqb⟩ := and_hi hm2 h0 (show f < 512 by omega)
      rw [em, eq]
      refine x_lstore_n hF dJ8_nextClearBit_66 rfl hl (by decide) rfl rfl (fun ls hl => ?_)
      suffices loop : ∀ (n9 : Nat) (u : Int) (q : Nat) (H : Heap) (locs : List Loc) (ls : Array Slot), n - u < (n9 : Int) → (f / 64 ≤ u) → (u < n) → (qW g false f u q) → Mem E s H σ → Lc E locs → lh ls 5 [(0, .ref b), (1, .int (iz f)), (2, .int (iz u)), (3, .long (lN q))] → W p l e ({ frames := 2, cells := 0, slots := 0, locals := 43 } : Room) s m args below meth c H locs 0 0 (vx_MQ below (XQc E (fun v τ => v = some (.int (iz (ncb g f))) ∧ τ = σ)) (XXc E noX) args s 0 0 (XA E)) (F0 m 67 ls []) from loop (8) (f / 64) q _ _ _ (by omega) (by omega) (by omega) (qW_b (m := m2) hg h0 hq (fun j hj => by rw [hmb j hj]; rw [← hg]; unfold bw; rw [show (64 * (f / 64).toNat + j) / 64 = (f / 64).toNat by omega, show (64 * (f / 64).toNat + j) % 64 = j by omega]; cases (Wo (f / 64).toNat).testBit j <;> rfl) hqb) hM hL (lh_sub hl rfl)
      refine nat_loop (fun u q H locs ls hmm u0 u1 hw => absurd hmm (by omega)) (fun n9 ih u q H locs ls hmm u0 u1 hw hM hL hl => ?_)
      refine lv_lload_n hx hb dJ8_nextClearBit_67 rfl (lk hl rfl) ?_
      refine lv_lconst (v := 0) hx hb dJ8_nextClearBit_68 rfl ?_
      refine W.lcmp hx hb dJ8_nextClearBit_69 ?_
      refine x_lcmp0_eq (tgt := 83) hF dJ8_nextClearBit_70 (by decide) (fun c70 => ?_) (fun c70 => ?_)
      · skip
        refine x_iinc hF dJ8_nextClearBit_83 hl rfl (by decide) rfl (fun ls hl => ?_)
        refine lv_iload_n hx hb dJ8_nextClearBit_86 rfl (lk hl rfl) ?_
        refine lv_aload_n hx hb dJ8_nextClearBit_87 rfl (lk hl rfl) ?_
        refine x_getfield hF (ci := 5) in_J8 rfl 1 (by decide) q328 (fun _ h => h) hM hB.1 hB.2.2.2.1 dJ8_nextClearBit_88 ?_
        refine x_icmp_ne (tgt := 102) hF dJ8_nextClearBit_91 (by decide) (by first | assumption | (unfold inR; omega)) (by first | assumption | (unfold inR; omega)) (fun c91 => ?_) (fun c91 => ?_)
        · skip
          refine lv_aload_n hx hb dJ8_nextClearBit_102 rfl (lk hl rfl) ?_
          refine x_getfield hF (ci := 5) in_J8 rfl 0 (by decide) q327 (fun _ h => h) hM hB.1 hB.2.1 dJ8_nextClearBit_103 ?_
          refine lv_iload_n hx hb dJ8_nextClearBit_106 rfl (lk hl rfl) ?_
          refine x_lald hF hM hB.2.2.1 (by omega) (by omega) (by decide) (hB.2.2.2.2.2.1 _ (by omega) (by omega)) dJ8_nextClearBit_107 ?_
          refine lv_ldc2 hx hb hF.2.2.2.2.2.2.2.1 (hF.2.2.2.2.2.2.2.2.1 _ q1119) dJ8_nextClearBit_108 ?_
          refine lv_lxor hx hb dJ8_nextClearBit_111 ?_
          obtain ⟨m3, hm3, em3, hmb3⟩ := inv_ok (hB.2.2.2.2.2.2.1 (u + 1).toNat)
          rw [em3]
          refine x_lstore_n hF dJ8_nextClearBit_112 rfl hl (by decide) rfl rfl (fun ls hl => ?_)
          refine x_goto (tgt := 67) hF dJ8_nextClearBit_113 (by decide) ?_
          exact ih (u + 1) m3 _ _ _ (by omega) (by omega) (by omega) (qW_s hw (by omega) (by omega) ((lN_0 hw.1).mp c70) hm3 (fun j hj => by rw [hmb3 j hj]; rw [← hg]; unfold bw; rw [show (64 * (u + 1).toNat + j) / 64 = (u + 1).toNat by omega, show (64 * (u + 1).toNat + j) % 64 = j by omega]; cases (Wo (u + 1).toNat).testBit j <;> rfl)) hM hL (lh_sub hl rfl)
        · skip
          refine lv_aload_n hx hb dJ8_nextClearBit_94 rfl (lk hl rfl) ?_
          refine x_getfield hF (ci := 5) in_J8 rfl 1 (by decide) q328 (fun _ h => h) hM hB.1 hB.2.2.2.1 dJ8_nextClearBit_95 ?_
          refine x_bipush hF (by decide) dJ8_nextClearBit_98 ?_
          refine x_imul hF dJ8_nextClearBit_100 ?_
          exact x_ireturn hF hM hL rfl (Nat.le_of_ble_eq_true rfl) (Nat.le_of_ble_eq_true rfl) ⟨by rw [← NC_n (r := n * 64) h0 ⟨by omega, by omega, bw_hi hg hB.2.2.2.2.2.2.2 (by omega), fun i a c => qW_0 hw (by omega) ((lN_0 hw.1).mp c70) i a (by omega)⟩], rfl⟩ dJ8_nextClearBit_101
      · skip
        refine lv_iload_n hx hb dJ8_nextClearBit_73 rfl (lk hl rfl) ?_
        refine x_bipush hF (by decide) dJ8_nextClearBit_74 ?_
        refine x_imul hF dJ8_nextClearBit_76 ?_
        refine lv_lload_n hx hb dJ8_nextClearBit_77 rfl (lk hl rfl) ?_
        refine x_kp hL (vx_runS (As := [_]) hF.2.2.2.2.2.2.2.2.2 (mJ29_numberOfTrailingZeros hF.1) (va_cwS 1 hF.2.2.2.2.2.2.2.2.1 (lw_S q1120 q1121 q154 q1122) rfl rfl rfl (by decide +kernel) ⟨(Nat.le_of_ble_eq_true rfl), (Nat.le_of_ble_eq_true rfl)⟩) (x_preS hF hM) rfl rfl hl.1 rfl (lv_room (Nat.le_of_ble_eq_true rfl)) dJ8_nextClearBit_78 ⟨(Nat.le_of_ble_eq_true rfl), (Nat.le_of_ble_eq_true rfl)⟩) (fun H locs hM hL => ?_)
        obtain ⟨k, hk, ek, hkb, hkl⟩ := ntz_ok hw.1 (fun z => c70 ((lN_0 hw.1).mpr z))
        rw [ek]
        have hqk := qW_k hw (by omega) hk hkb hkl
        refine x_iadd hF dJ8_nextClearBit_81 ?_
        exact x_ireturn hF hM hL rfl (Nat.le_of_ble_eq_true rfl) (Nat.le_of_ble_eq_true rfl) ⟨by rw [← NC_n h0 ⟨hqk.1, by omega, hqk.2.1, hqk.2.2⟩], rfl⟩ dJ8_nextClearBit_82
    · skip
      refine lv_iload_n hx hb dJ8_nextClearBit_48 rfl (lk hl rfl) ?_
      exact x_ireturn hF hM hL rfl (Nat.le_of_ble_eq_true rfl) (Nat.le_of_ble_eq_true rfl) ⟨by rw [← NC_n h0 ⟨Int.le_refl _, by omega, bw_hi hg hB.2.2.2.2.2.2.2 (by omega), fun i a c => by omega⟩], rfl⟩ dJ8_nextClearBit_49
  · skip
    exact absurd c1 (by omega)
set_option maxHeartbeats 4000000 in
set_option maxRecDepth 100000 in
/-- java/util/BitSet.initWords(I)V -/
theorem mJ8_initWords {l : Launch} {E : En} {σ : Mm} {b : Nat} (hO : Ob E σ b 5) (hsz : sz σ = b + 1) : Ctr l E yJ8_initWords (ws_ yJ8_initWords cJ8_initWords 2 none) 1 20 1 6 [.ref b, .int (iz 360)] σ (fun v τ => v = none ∧ τ = wr (nw σ (.inr (.long, 6)) (fun _ => defaultValue .long)) b 0 (.ref (sz σ))) noX := by
  refine x_head (own := RJ8) (cc := cJ8_initWords) (maxL := 2) (ret := none) (by decide) rfl rfl (Nat.le_of_ble_eq_true rfl) ?_
  intro p e s m args below meth c H ls hF hname htab hM hl
  have hx := hF.2.2.1
  have hb := hF.2.2.2.1
  have hL : Lc E [] := lcNil
  have hl : lh ls 2 ([(0, .ref b), (1, .int (iz 360))]) := hl
  refine lv_aload_n hx hb dJ8_initWords_0 rfl (lk hl rfl) ?_
  refine lv_iload_n hx hb dJ8_initWords_1 rfl (lk hl rfl) ?_
  refine x_iconst hF dJ8_initWords_2 ?_
  refine x_isub hF dJ8_initWords_3 ?_
  refine x_kp hL (vx_runS (As := [_]) hF.2.2.2.2.2.2.2.2.2 ((mJ8_wordIndex (f := 360 - 1) (by omega) (by omega)) hF.1) (va_cwS 1 hF.2.2.2.2.2.2.2.2.1 (lw_S q324 q325 q128 q326) rfl rfl rfl (by decide +kernel) ⟨(Nat.le_of_ble_eq_true rfl), (Nat.le_of_ble_eq_true rfl)⟩) (x_preS hF hM) rfl rfl hl.1 rfl (lv_room (Nat.le_of_ble_eq_true rfl)) dJ8_initWords_4 ⟨(Nat.le_of_ble_eq_true rfl), (Nat.le_of_ble_eq_true rfl)⟩) (fun H locs hM hL => ?_)
  refine x_iconst hF dJ8_initWords_7 ?_
  refine x_iadd hF dJ8_initWords_8 ?_
  refine x_newarray (ty := .long) (n := 6) hF rfl q338 (fun _ h => h) (by decide) (by decide) (by decide) hM (Nat.le_of_ble_eq_true rfl) (Nat.le_of_ble_eq_true rfl) dJ8_initWords_9 (fun H hM => ?_)
  refine x_putfield hF (ci := 5) in_J8 rfl tyJ8_ok nmJ8 0 (by decide) q327 (fun _ h => h) rfl hM hL (obN hO) (ty := .array .long) (by decide +kernel) rfl rfl dJ8_initWords_11 (fun H locs hM hL => ?_)
  exact x_return hF hM hL (Nat.le_of_ble_eq_true rfl) (Nat.le_of_ble_eq_true rfl) ⟨rfl, rfl⟩ dJ8_initWords_14
set_option maxHeartbeats 4000000 in
set_option maxRecDepth 100000 in
/-- java/util/BitSet.<init>(I)V -/
theorem mJ8_init {l : Launch} {E : En} {σ : Mm} {b : Nat} (hO : Ob E σ b 5) (hsz : sz σ = b + 1) : Ctr l E yJ8_init (ws_ yJ8_init cJ8_init 2 none) 2 41 1 6 [.ref b, .int (iz 360)] σ (fun v τ => v = none ∧ BS E τ b (fun _ => 0) 0 ∧ sz τ = b + 2 ∧ Fr (fun a _ => a = b) σ τ) noX := by
  refine x_head (own := RJ8) (cc := cJ8_init) (maxL := 2) (ret := none) (by decide) rfl rfl (Nat.le_of_ble_eq_true rfl) ?_
  intro p e s m args below meth c H ls hF hname htab hM hl
  have hx := hF.2.2.1
  have hb := hF.2.2.2.1
  have hL : Lc E [] := lcNil
  have hl : lh ls 2 ([(0, .ref b), (1, .int (iz 360))]) := hl
  refine lv_aload_n hx hb dJ8_init_0 rfl (lk hl rfl) ?_
  refine x_objInit hF hl q319 q176 q177 (Nat.le_of_ble_eq_true rfl) (Nat.le_of_ble_eq_true rfl) dJ8_init_1 ?_
  refine lv_aload_n hx hb dJ8_init_4 rfl (lk hl rfl) ?_
  refine x_iconst hF dJ8_init_5 ?_
  refine x_putfield hF (ci := 5) in_J8 rfl tyJ8_ok nmJ8 1 (by decide) q328 (fun _ h => h) rfl hM hL hO (ty := .int) (by decide +kernel) rfl rfl dJ8_init_6 (fun H locs hM hL => ?_)
  refine lv_aload_n hx hb dJ8_init_9 rfl (lk hl rfl) ?_
  refine x_iconst hF dJ8_init_10 ?_
  refine x_putfield hF (ci := 5) in_J8 rfl tyJ8_ok nmJ8 2 (by decide) q329 (fun _ h => h) rfl hM hL (obW hO) (ty := .boolean) (by decide +kernel) rfl rfl dJ8_init_11 (fun H locs hM hL => ?_)
  refine x_gen (P := fun τ => Ob E τ b 5 ∧ sz τ = b + 1 ∧ rd τ b 1 = .int (iz 0) ∧ Fr (fun a _ => a = b) σ τ) hM ⟨obW (obW hO), hsz, by rw [rd_wr_k _ _ _ _ (by decide), rd_wr_s], frWr (frWr (frRefl _ _) (fun _ => rfl)) (fun _ => rfl)⟩ (fun τ hM hT => ?_)
  refine lv_iload_n hx hb dJ8_init_14 rfl (lk hl rfl) ?_
  refine x_if_ge (tgt := 45) hF dJ8_init_15 (by decide) (by unfold inR; omega) (fun c15 => ?_) (fun c15 => ?_)
  · skip
    refine lv_aload_n hx hb dJ8_init_45 rfl (lk hl rfl) ?_
    refine lv_iload_n hx hb dJ8_init_46 rfl (lk hl rfl) ?_
    refine x_kn hL (vx_runV (As := [_]) hF.2.2.2.2.2.2.2.2.2 ((mJ8_initWords hT.1 hT.2.1) hF.1) (cwV 1 hF.2.2.2.2.2.2.2.2.1 (lw_V q320 q322 qs0 q128 q323) rfl rfl rfl (by decide +kernel) ⟨(Nat.le_of_ble_eq_true rfl), (Nat.le_of_ble_eq_true rfl)⟩) (x_preV hF hM hT.1 rfl) rfl rfl hl.1 rfl (lv_room (Nat.le_of_ble_eq_true rfl)) dJ8_init_47 ⟨(Nat.le_of_ble_eq_true rfl), (Nat.le_of_ble_eq_true rfl)⟩) ?_
    rintro _ τ47 H locs ⟨rfl, hp⟩ hM hL
    rw [hp] at hM
    refine x_gen (P := fun ρ => Ob E ρ b 5 ∧ BS E ρ b (fun _ => 0) 0 ∧ sz ρ = b + 2 ∧ Fr (fun a _ => a = b) σ ρ) hM ⟨obW (obN hT.1), BS_new hT.1 hT.2.1 hT.2.2.1, by rw [sz_wr, sz_nw, hT.2.1], frWr (frNw hT.2.2.2) (fun _ => rfl)⟩ (fun τ hM hT => ?_)
    refine lv_aload_n hx hb dJ8_init_50 rfl (lk hl rfl) ?_
    refine x_iconst hF dJ8_init_51 ?_
    refine x_putfield hF (ci := 5) in_J8 rfl tyJ8_ok nmJ8 2 (by decide) q329 (fun _ h => h) rfl hM hL hT.1 (ty := .boolean) (by decide +kernel) rfl rfl dJ8_init_52 (fun H locs hM hL => ?_)
    exact x_return hF hM hL (Nat.le_of_ble_eq_true rfl) (Nat.le_of_ble_eq_true rfl) ⟨rfl, BS_st hT.2.1, hT.2.2.1, frWr hT.2.2.2 (fun _ => rfl)⟩ dJ8_init_55
  · skip
    exact absurd c15 (by omega)
