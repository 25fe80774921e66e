/-! BASE 3: rows -/
section XR
variable {p : Program} {l : Launch} {e : Env} {R : Room} {s : State} {m : MethodId} {args : Array Value} {below : List Frame} {meth : Method} {c : Code} {H : Heap} {locs : List Loc} {cells slots : Nat} {Q : State → Prop}
variable {E : En} {cc : ByteArray} {nL : Nat} {own : String} {ret : Option FieldType} {σ : Mm} {pc : Nat} {ls : Array Slot} {rest : List Value} {a : Nat} {lv : List (Nat × Value)}
/-! locals -/
theorem x_istore_n {k : Fin 4} {i : Nat} {x : Int32} (hF : Fx l E p s m args meth c cc nL own ret) (hdg : decode cc pc = .ok (.istore_n k, 1)) (hi : (k : Nat) = i) (h : lh ls nL lv) (hn : i < nL) (hc : cat1 lv i = true)
    (kk : ∀ ls' : Array Slot, lh ls' nL ((i, .int x) :: lv) → W p l e R s m args below meth c H locs cells slots Q (F0 m (pc + 1) ls' rest)) : W p l e R s m args below meth c H locs cells slots Q (F0 m pc ls (.int x :: rest)) := by
  obtain ⟨-, -, hx, hb, -⟩ := hF
  exact lv_istore_n hx hb hdg hi (lh_has h) hn rfl (fun ls' h' => kk ls' (lh_store h h' hc))
theorem x_istore {i : Nat} {x : Int32} (hF : Fx l E p s m args meth c cc nL own ret) (hdg : decode cc pc = .ok (.istore i, 2)) (h : lh ls nL lv) (hn : i < nL) (hc : cat1 lv i = true)
    (kk : ∀ ls' : Array Slot, lh ls' nL ((i, .int x) :: lv) → W p l e R s m args below meth c H locs cells slots Q (F0 m (pc + 2) ls' rest)) : W p l e R s m args below meth c H locs cells slots Q (F0 m pc ls (.int x :: rest)) := by
  obtain ⟨-, -, hx, hb, -⟩ := hF
  exact lv_istore hx hb hdg (lh_has h) hn rfl (fun ls' h' => kk ls' (lh_store h h' hc))
theorem x_astore_n {k : Fin 4} {i : Nat} {x : Nat} (hF : Fx l E p s m args meth c cc nL own ret) (hdg : decode cc pc = .ok (.astore_n k, 1)) (hi : (k : Nat) = i) (h : lh ls nL lv) (hn : i < nL) (hc : cat1 lv i = true)
    (kk : ∀ ls' : Array Slot, lh ls' nL ((i, .ref x) :: lv) → W p l e R s m args below meth c H locs cells slots Q (F0 m (pc + 1) ls' rest)) : W p l e R s m args below meth c H locs cells slots Q (F0 m pc ls (.ref x :: rest)) := by
  obtain ⟨-, -, hx, hb, -⟩ := hF
  exact lv_astore_n hx hb hdg hi (lh_has h) hn rfl (fun ls' h' => kk ls' (lh_store h h' hc))
theorem x_astore {i : Nat} {x : Nat} (hF : Fx l E p s m args meth c cc nL own ret) (hdg : decode cc pc = .ok (.astore i, 2)) (h : lh ls nL lv) (hn : i < nL) (hc : cat1 lv i = true)
    (kk : ∀ ls' : Array Slot, lh ls' nL ((i, .ref x) :: lv) → W p l e R s m args below meth c H locs cells slots Q (F0 m (pc + 2) ls' rest)) : W p l e R s m args below meth c H locs cells slots Q (F0 m pc ls (.ref x :: rest)) := by
  obtain ⟨-, -, hx, hb, -⟩ := hF
  exact lv_astore hx hb hdg (lh_has h) hn rfl (fun ls' h' => kk ls' (lh_store h h' hc))
theorem x_lstore_n {k : Fin 4} {i : Nat} {x : Int64} (hF : Fx l E p s m args meth c cc nL own ret) (hdg : decode cc pc = .ok (.lstore_n k, 1)) (hi : (k : Nat) = i) (h : lh ls nL lv) (hn : i + 1 < nL) (hc : cat1 lv i = true) (h2 : lv.lookup (i + 1) = none)
    (kk : ∀ ls' : Array Slot, lh ls' nL ((i, .long x) :: lv) → W p l e R s m args below meth c H locs cells slots Q (F0 m (pc + 1) ls' rest)) : W p l e R s m args below meth c H locs cells slots Q (F0 m pc ls (.long x :: rest)) := by
  obtain ⟨-, -, hx, hb, -⟩ := hF
  exact lv_lstore_n hx hb hdg hi (lh_has h) hn rfl (fun ls' h' => kk ls' (lh_store2 h h' hc h2))
theorem x_lstore {i : Nat} {x : Int64} (hF : Fx l E p s m args meth c cc nL own ret) (hdg : decode cc pc = .ok (.lstore i, 2)) (h : lh ls nL lv) (hn : i + 1 < nL) (hc : cat1 lv i = true) (h2 : lv.lookup (i + 1) = none)
    (kk : ∀ ls' : Array Slot, lh ls' nL ((i, .long x) :: lv) → W p l e R s m args below meth c H locs cells slots Q (F0 m (pc + 2) ls' rest)) : W p l e R s m args below meth c H locs cells slots Q (F0 m pc ls (.long x :: rest)) := by
  obtain ⟨-, -, hx, hb, -⟩ := hF
  exact lv_lstore hx hb hdg (lh_has h) hn rfl (fun ls' h' => kk ls' (lh_store2 h h' hc h2))
theorem x_dstore {i : Nat} {x : UInt64} (hF : Fx l E p s m args meth c cc nL own ret) (hdg : decode cc pc = .ok (.dstore i, 2)) (h : lh ls nL lv) (hn : i + 1 < nL) (hc : cat1 lv i = true) (h2 : lv.lookup (i + 1) = none)
    (kk : ∀ ls' : Array Slot, lh ls' nL ((i, .double x) :: lv) → W p l e R s m args below meth c H locs cells slots Q (F0 m (pc + 2) ls' rest)) : W p l e R s m args below meth c H locs cells slots Q (F0 m pc ls (.double x :: rest)) := by
  obtain ⟨-, -, hx, hb, -⟩ := hF
  exact lv_dstore hx hb hdg (lh_has h) hn rfl (fun ls' h' => kk ls' (lh_store2 h h' hc h2))
theorem x_fstore {i : Nat} {x : UInt32} (hF : Fx l E p s m args meth c cc nL own ret) (hdg : decode cc pc = .ok (.fstore i, 2)) (h : lh ls nL lv) (hn : i < nL) (hc : cat1 lv i = true)
    (kk : ∀ ls' : Array Slot, lh ls' nL ((i, .float x) :: lv) → W p l e R s m args below meth c H locs cells slots Q (F0 m (pc + 2) ls' rest)) : W p l e R s m args below meth c H locs cells slots Q (F0 m pc ls (.float x :: rest)) := by
  obtain ⟨-, -, hx, hb, -⟩ := hF
  exact lv_fstore hx hb hdg (lh_has h) hn rfl (fun ls' h' => kk ls' (lh_store h h' hc))
theorem x_iinc {i : Nat} {n : Int} {x : Int} (hF : Fx l E p s m args meth c cc nL own ret) (hdg : decode cc pc = .ok (.iinc i n, 3)) (h : lh ls nL lv) (hk : lv.lookup i = some (.int (iz x))) (hn : i < nL) (hc : cat1 lv i = true)
    (kk : ∀ ls' : Array Slot, lh ls' nL ((i, .int (iz (x + n))) :: lv) → W p l e R s m args below meth c H locs cells slots Q (F0 m (pc + 3) ls' rest)) : W p l e R s m args below meth c H locs cells slots Q (F0 m pc ls rest) := by
  obtain ⟨-, -, hx, hb, -⟩ := hF
  have h9 := lh_has h
  have h8 : lv_has ls nL ((i, .int (iz x)) :: canon nL lv) := ⟨h9.1, h9.2.1, fun q hq => by
    rcases List.mem_cons.mp hq with e | e
    · rw [e]; exact h.2.2 i _ hk
    · exact h9.2.2 q e⟩
  refine lv_iinc (k := 0) hx hb hdg h8 rfl (v := iz (x + n)) (iz_add x n) hn rfl (fun ls' h' => kk ls' (lh_store h ?_ hc))
  refine ⟨h'.1, h'.2.1, fun q hq => h'.2.2 q ?_⟩
  rcases List.mem_cons.mp hq with e | e
  · rw [e]; exact List.mem_cons_self
  · refine List.mem_cons_of_mem _ ?_
    obtain ⟨e1, e2⟩ := List.mem_filter.mp e
    exact List.mem_filter.mpr ⟨List.mem_cons_of_mem _ e1, e2⟩
/-! numbers -/
theorem x_iconst {n : Int} (hF : Fx l E p s m args meth c cc nL own ret) (hdg : decode cc pc = .ok (.iconst n, 1))
    (kk : W p l e R s m args below meth c H locs cells slots Q (F0 m (pc + 1) ls (.int (iz n) :: rest))) : W p l e R s m args below meth c H locs cells slots Q (F0 m pc ls rest) :=
  lv_iconst (v := iz n) hF.2.2.1 hF.2.2.2.1 hdg rfl kk
theorem x_bipush {n : Int} (hF : Fx l E p s m args meth c cc nL own ret) (hv : (Int8.ofInt n).toInt32 = iz n) (hdg : decode cc pc = .ok (.bipush n, 2))
    (kk : W p l e R s m args below meth c H locs cells slots Q (F0 m (pc + 2) ls (.int (iz n) :: rest))) : W p l e R s m args below meth c H locs cells slots Q (F0 m pc ls rest) :=
  lv_bipush (v := iz n) hF.2.2.1 hF.2.2.2.1 hdg hv kk
theorem x_sipush {n : Int} (hF : Fx l E p s m args meth c cc nL own ret) (hv : (Int16.ofInt n).toInt32 = iz n) (hdg : decode cc pc = .ok (.sipush n, 3))
    (kk : W p l e R s m args below meth c H locs cells slots Q (F0 m (pc + 3) ls (.int (iz n) :: rest))) : W p l e R s m args below meth c H locs cells slots Q (F0 m pc ls rest) :=
  lv_sipush (v := iz n) hF.2.2.1 hF.2.2.2.1 hdg hv kk
theorem x_iadd {x y : Int} (hF : Fx l E p s m args meth c cc nL own ret) (hdg : decode cc pc = .ok (.iadd, 1))
    (kk : W p l e R s m args below meth c H locs cells slots Q (F0 m (pc + 1) ls (.int (iz (x + y)) :: rest))) : W p l e R s m args below meth c H locs cells slots Q (F0 m pc ls (.int (iz y) :: .int (iz x) :: rest)) := by
  refine lv_iadd hF.2.2.1 hF.2.2.2.1 hdg ?_
  rw [iz_add]
  exact kk
theorem x_isub {x y : Int} (hF : Fx l E p s m args meth c cc nL own ret) (hdg : decode cc pc = .ok (.isub, 1))
    (kk : W p l e R s m args below meth c H locs cells slots Q (F0 m (pc + 1) ls (.int (iz (x - y)) :: rest))) : W p l e R s m args below meth c H locs cells slots Q (F0 m pc ls (.int (iz y) :: .int (iz x) :: rest)) := by
  refine lv_isub hF.2.2.1 hF.2.2.2.1 hdg ?_
  rw [iz_sub]
  exact kk
theorem x_imul {x y : Int} (hF : Fx l E p s m args meth c cc nL own ret) (hdg : decode cc pc = .ok (.imul, 1))
    (kk : W p l e R s m args below meth c H locs cells slots Q (F0 m (pc + 1) ls (.int (iz (x * y)) :: rest))) : W p l e R s m args below meth c H locs cells slots Q (F0 m pc ls (.int (iz y) :: .int (iz x) :: rest)) := by
  refine lv_imul hF.2.2.1 hF.2.2.2.1 hdg ?_
  rw [iz_mul]
  exact kk
theorem iz_ne0 {y : Int} (hy : inR y) (h : y ≠ 0) : ¬ iz y = 0 := by
  rw [iz_0, iz_inj hy ⟨by omega, by omega⟩]
  exact h
theorem x_idiv {x y : Int} (hF : Fx l E p s m args meth c cc nL own ret) (hdg : decode cc pc = .ok (.idiv, 1)) (h0 : 0 ≤ x) (h1 : x < 2147483648) (h2 : 0 < y) (h3 : y < 2147483648)
    (kk : W p l e R s m args below meth c H locs cells slots Q (F0 m (pc + 1) ls (.int (iz (x / y)) :: rest))) : W p l e R s m args below meth c H locs cells slots Q (F0 m pc ls (.int (iz y) :: .int (iz x) :: rest)) := by
  refine lv_idiv hF.2.2.1 hF.2.2.2.1 hdg (iz_ne0 ⟨by omega, h3⟩ (by omega)) ?_
  rw [iz_div ⟨by omega, h1⟩ ⟨by omega, h3⟩ h0 h2]
  exact kk
theorem x_irem {x y : Int} (hF : Fx l E p s m args meth c cc nL own ret) (hdg : decode cc pc = .ok (.irem, 1)) (h0 : 0 ≤ x) (h1 : x < 2147483648) (h2 : 0 < y) (h3 : y < 2147483648)
    (kk : W p l e R s m args below meth c H locs cells slots Q (F0 m (pc + 1) ls (.int (iz (x % y)) :: rest))) : W p l e R s m args below meth c H locs cells slots Q (F0 m pc ls (.int (iz y) :: .int (iz x) :: rest)) := by
  refine lv_irem hF.2.2.1 hF.2.2.2.1 hdg (iz_ne0 ⟨by omega, h3⟩ (by omega)) ?_
  rw [iz_rem ⟨by omega, h1⟩ ⟨by omega, h3⟩ h0 h2]
  exact kk
/-! branches: first where it jumps -/
theorem x_icmp_eq {x y : Int} {off : Int} {tgt : Nat} (hF : Fx l E p s m args meth c cc nL own ret) (hdg : decode cc pc = .ok (.if_icmp .eq off, 3)) (ht : (pc : Int) + off = (tgt : Int)) (hx : inR x) (hy : inR y)
    (kt : x = y → W p l e R s m args below meth c H locs cells slots Q (F0 m tgt ls rest)) (kf : ¬ x = y → W p l e R s m args below meth c H locs cells slots Q (F0 m (pc + 3) ls rest)) : W p l e R s m args below meth c H locs cells slots Q (F0 m pc ls (.int (iz y) :: .int (iz x) :: rest)) :=
  lv_icmp_eq hF.2.2.1 hF.2.2.2.1 hdg ht (fun h => kt ((iz_inj hx hy).mp h)) (fun h => kf (fun q => h ((iz_inj hx hy).mpr q)))
theorem x_if_eq {x : Int} {off : Int} {tgt : Nat} (hF : Fx l E p s m args meth c cc nL own ret) (hdg : decode cc pc = .ok (.ifCond .eq off, 3)) (ht : (pc : Int) + off = (tgt : Int)) (hx : inR x)
    (kt : x = 0 → W p l e R s m args below meth c H locs cells slots Q (F0 m tgt ls rest)) (kf : ¬ x = 0 → W p l e R s m args below meth c H locs cells slots Q (F0 m (pc + 3) ls rest)) : W p l e R s m args below meth c H locs cells slots Q (F0 m pc ls (.int (iz x) :: rest)) := by
  have hy : inR 0 := ⟨by omega, by omega⟩
  refine lv_if_eq hF.2.2.1 hF.2.2.2.1 hdg ht (fun h => kt ?_) (fun h => kf ?_)
  · rw [iz_0] at h
    exact (iz_inj hx hy).mp h
  · rw [iz_0] at h
    exact fun q => h ((iz_inj hx hy).mpr q)
theorem x_icmp_ne {x y : Int} {off : Int} {tgt : Nat} (hF : Fx l E p s m args meth c cc nL own ret) (hdg : decode cc pc = .ok (.if_icmp .ne off, 3)) (ht : (pc : Int) + off = (tgt : Int)) (hx : inR x) (hy : inR y)
    (kt : ¬ x = y → W p l e R s m args below meth c H locs cells slots Q (F0 m tgt ls rest)) (kf : x = y → W p l e R s m args below meth c H locs cells slots Q (F0 m (pc + 3) ls rest)) : W p l e R s m args below meth c H locs cells slots Q (F0 m pc ls (.int (iz y) :: .int (iz x) :: rest)) :=
  lv_icmp_ne hF.2.2.1 hF.2.2.2.1 hdg ht (fun h => kt ((not_congr (iz_inj hx hy)).mp h)) (fun h => kf ((iz_inj hx hy).mp h))
theorem x_if_ne {x : Int} {off : Int} {tgt : Nat} (hF : Fx l E p s m args meth c cc nL own ret) (hdg : decode cc pc = .ok (.ifCond .ne off, 3)) (ht : (pc : Int) + off = (tgt : Int)) (hx : inR x)
    (kt : ¬ x = 0 → W p l e R s m args below meth c H locs cells slots Q (F0 m tgt ls rest)) (kf : x = 0 → W p l e R s m args below meth c H locs cells slots Q (F0 m (pc + 3) ls rest)) : W p l e R s m args below meth c H locs cells slots Q (F0 m pc ls (.int (iz x) :: rest)) := by
  have hy : inR 0 := ⟨by omega, by omega⟩
  refine lv_if_ne hF.2.2.1 hF.2.2.2.1 hdg ht (fun h => kt ?_) (fun h => kf ?_)
  · rw [iz_0] at h
    exact (not_congr (iz_inj hx hy)).mp h
  · rw [iz_0] at h
    exact (iz_inj hx hy).mp h
theorem x_icmp_lt {x y : Int} {off : Int} {tgt : Nat} (hF : Fx l E p s m args meth c cc nL own ret) (hdg : decode cc pc = .ok (.if_icmp .lt off, 3)) (ht : (pc : Int) + off = (tgt : Int)) (hx : inR x) (hy : inR y)
    (kt : x < y → W p l e R s m args below meth c H locs cells slots Q (F0 m tgt ls rest)) (kf : y ≤ x → W p l e R s m args below meth c H locs cells slots Q (F0 m (pc + 3) ls rest)) : W p l e R s m args below meth c H locs cells slots Q (F0 m pc ls (.int (iz y) :: .int (iz x) :: rest)) :=
  lv_icmp_lt hF.2.2.1 hF.2.2.2.1 hdg ht (fun h => kt ((iz_lt hx hy).mp h)) (fun h => kf (by have h9 := mt (iz_lt hx hy).mpr h; omega))
theorem x_if_lt {x : Int} {off : Int} {tgt : Nat} (hF : Fx l E p s m args meth c cc nL own ret) (hdg : decode cc pc = .ok (.ifCond .lt off, 3)) (ht : (pc : Int) + off = (tgt : Int)) (hx : inR x)
    (kt : x < 0 → W p l e R s m args below meth c H locs cells slots Q (F0 m tgt ls rest)) (kf : 0 ≤ x → W p l e R s m args below meth c H locs cells slots Q (F0 m (pc + 3) ls rest)) : W p l e R s m args below meth c H locs cells slots Q (F0 m pc ls (.int (iz x) :: rest)) := by
  have hy : inR 0 := ⟨by omega, by omega⟩
  refine lv_if_lt hF.2.2.1 hF.2.2.2.1 hdg ht (fun h => kt ?_) (fun h => kf ?_)
  · rw [iz_0] at h
    exact (iz_lt hx hy).mp h
  · rw [iz_0] at h
    have h9 := mt (iz_lt hx hy).mpr h; omega
theorem x_icmp_ge {x y : Int} {off : Int} {tgt : Nat} (hF : Fx l E p s m args meth c cc nL own ret) (hdg : decode cc pc = .ok (.if_icmp .ge off, 3)) (ht : (pc : Int) + off = (tgt : Int)) (hx : inR x) (hy : inR y)
    (kt : y ≤ x → W p l e R s m args below meth c H locs cells slots Q (F0 m tgt ls rest)) (kf : x < y → W p l e R s m args below meth c H locs cells slots Q (F0 m (pc + 3) ls rest)) : W p l e R s m args below meth c H locs cells slots Q (F0 m pc ls (.int (iz y) :: .int (iz x) :: rest)) :=
  lv_icmp_ge hF.2.2.1 hF.2.2.2.1 hdg ht (fun h => kt ((iz_le hy hx).mp h)) (fun h => kf (by have h9 := mt (iz_le hy hx).mpr h; omega))
theorem x_if_ge {x : Int} {off : Int} {tgt : Nat} (hF : Fx l E p s m args meth c cc nL own ret) (hdg : decode cc pc = .ok (.ifCond .ge off, 3)) (ht : (pc : Int) + off = (tgt : Int)) (hx : inR x)
    (kt : 0 ≤ x → W p l e R s m args below meth c H locs cells slots Q (F0 m tgt ls rest)) (kf : x < 0 → W p l e R s m args below meth c H locs cells slots Q (F0 m (pc + 3) ls rest)) : W p l e R s m args below meth c H locs cells slots Q (F0 m pc ls (.int (iz x) :: rest)) := by
  have hy : inR 0 := ⟨by omega, by omega⟩
  refine lv_if_ge hF.2.2.1 hF.2.2.2.1 hdg ht (fun h => kt ?_) (fun h => kf ?_)
  · rw [iz_0] at h
    exact (iz_le hy hx).mp h
  · rw [iz_0] at h
    have h9 := mt (iz_le hy hx).mpr h; omega
theorem x_icmp_gt {x y : Int} {off : Int} {tgt : Nat} (hF : Fx l E p s m args meth c cc nL own ret) (hdg : decode cc pc = .ok (.if_icmp .gt off, 3)) (ht : (pc : Int) + off = (tgt : Int)) (hx : inR x) (hy : inR y)
    (kt : y < x → W p l e R s m args below meth c H locs cells slots Q (F0 m tgt ls rest)) (kf : x ≤ y → W p l e R s m args below meth c H locs cells slots Q (F0 m (pc + 3) ls rest)) : W p l e R s m args below meth c H locs cells slots Q (F0 m pc ls (.int (iz y) :: .int (iz x) :: rest)) :=
  lv_icmp_gt hF.2.2.1 hF.2.2.2.1 hdg ht (fun h => kt ((iz_lt hy hx).mp h)) (fun h => kf (by have h9 := mt (iz_lt hy hx).mpr h; omega))
theorem x_if_gt {x : Int} {off : Int} {tgt : Nat} (hF : Fx l E p s m args meth c cc nL own ret) (hdg : decode cc pc = .ok (.ifCond .gt off, 3)) (ht : (pc : Int) + off = (tgt : Int)) (hx : inR x)
    (kt : 0 < x → W p l e R s m args below meth c H locs cells slots Q (F0 m tgt ls rest)) (kf : x ≤ 0 → W p l e R s m args below meth c H locs cells slots Q (F0 m (pc + 3) ls rest)) : W p l e R s m args below meth c H locs cells slots Q (F0 m pc ls (.int (iz x) :: rest)) := by
  have hy : inR 0 := ⟨by omega, by omega⟩
  refine lv_if_gt hF.2.2.1 hF.2.2.2.1 hdg ht (fun h => kt ?_) (fun h => kf ?_)
  · rw [iz_0] at h
    exact (iz_lt hy hx).mp h
  · rw [iz_0] at h
    have h9 := mt (iz_lt hy hx).mpr h; omega
theorem x_icmp_le {x y : Int} {off : Int} {tgt : Nat} (hF : Fx l E p s m args meth c cc nL own ret) (hdg : decode cc pc = .ok (.if_icmp .le off, 3)) (ht : (pc : Int) + off = (tgt : Int)) (hx : inR x) (hy : inR y)
    (kt : x ≤ y → W p l e R s m args below meth c H locs cells slots Q (F0 m tgt ls rest)) (kf : y < x → W p l e R s m args below meth c H locs cells slots Q (F0 m (pc + 3) ls rest)) : W p l e R s m args below meth c H locs cells slots Q (F0 m pc ls (.int (iz y) :: .int (iz x) :: rest)) :=
  lv_icmp_le hF.2.2.1 hF.2.2.2.1 hdg ht (fun h => kt ((iz_le hx hy).mp h)) (fun h => kf (by have h9 := mt (iz_le hx hy).mpr h; omega))
theorem x_if_le {x : Int} {off : Int} {tgt : Nat} (hF : Fx l E p s m args meth c cc nL own ret) (hdg : decode cc pc = .ok (.ifCond .le off, 3)) (ht : (pc : Int) + off = (tgt : Int)) (hx : inR x)
    (kt : x ≤ 0 → W p l e R s m args below meth c H locs cells slots Q (F0 m tgt ls rest)) (kf : 0 < x → W p l e R s m args below meth c H locs cells slots Q (F0 m (pc + 3) ls rest)) : W p l e R s m args below meth c H locs cells slots Q (F0 m pc ls (.int (iz x) :: rest)) := by
  have hy : inR 0 := ⟨by omega, by omega⟩
  refine lv_if_le hF.2.2.1 hF.2.2.2.1 hdg ht (fun h => kt ?_) (fun h => kf ?_)
  · rw [iz_0] at h
    exact (iz_le hx hy).mp h
  · rw [iz_0] at h
    have h9 := mt (iz_le hx hy).mpr h; omega
theorem x_goto {off : Int} {tgt : Nat} (hF : Fx l E p s m args meth c cc nL own ret) (hdg : decode cc pc = .ok (.goto off, 3)) (ht : (pc : Int) + off = (tgt : Int)) (kk : W p l e R s m args below meth c H locs cells slots Q (F0 m tgt ls rest)) : W p l e R s m args below meth c H locs cells slots Q (F0 m pc ls rest) :=
  lv_goto hF.2.2.1 hF.2.2.2.1 hdg ht kk
/-! fields -/
theorem x_cell {ci : Nat} {r : vw_C} (hF : Fx l E p s m args meth c cc nL own ret) (hM : Mem E s H σ) (ho : Ob E σ a ci) (hc : clAll[ci]? = some r) : t_OB a (E.1.1 ci) r.2.2 (E.1.2 ci) H (rd σ a) ∧ u_Kn s r.1 r.2.1 r.2.2 (E.1.1 ci) (E.1.2 ci) := by
  obtain ⟨h1, h2, h3⟩ := ho
  have h4 := hM.2.2.2 a h1 (by rw [← hM.1]; exact h2)
  rw [h3] at h4
  obtain ⟨r', q1, q2⟩ := h4
  obtain rfl : r' = r := Option.some.inj (q1.symm.trans hc)
  exact ⟨q2, (va_K.moved hF.2.1.alike hF.1.2.1).1 ci _ hc⟩
theorem x_getfield {ref C : String} {T : u_T} {N ci index : Nat} (hF : Fx l E p s m args meth c cc nL own ret) (hin : ∀ w ∈ u_ws C T N, w ∈ lw_all) (hc : clAll[ci]? = some (C, T, N)) (k : Nat) (hk : k < N) (hl : Cond.fieldLink own index ref (T k).2.1 (T k).2.2.1 ∈ lw_all) (hsame : ∀ x, s.fieldFound? (T k).1 (T k).2.1 (T k).2.2.1 = some x → s.fieldFound? ref (T k).2.1 (T k).2.2.1 = some x) (hM : Mem E s H σ) (ho : Ob E σ a ci) {v : Value} (hv : rd σ a k = v) (hdg : decode cc pc = .ok (.getfield index, 3))
    (kk : W p l e R s m args below meth c H locs cells slots Q (F0 m (pc + 3) ls (v :: rest))) : W p l e R s m args below meth c H locs cells slots Q (F0 m pc ls (.ref a :: rest)) := by
  obtain ⟨⟨cell, q1, q2, q3, q4⟩, hKn⟩ := x_cell hF hM ho hc
  obtain ⟨hS, hfc, kC, hkC, hkind⟩ := hKn
  obtain ⟨-, -, hx, hb, -, -, -, hown, hts, -⟩ := hF
  obtain ⟨cf, kf, fi, f, hi, hsl⟩ := hS k hk
  refine W.getf hx hb hown (hts _ hl) (hsame _ hi) (u_facts hfc hkC (u_lays hts hin hk) hi).1 q1 (by rw [q3]; exact fun h => by cases h) (v := v) ?_ rfl rfl hdg kk
  rw [hsl, q4 k hk, hv]
theorem x_nwF {a' : String} {i : Nat} {b n d h : String} (hF : Fx l E p s m args meth c cc nL own ret) (hl : Cond.fieldLinkNest a' i b n d h ∈ lw_tbl) : (Cond.fieldLinkNest a' i b n d h).before args s = true :=
  va_Nw.use rfl (va_Nw.warmF hF.2.1 (va_Nw.of rfl (hF.1.2.2.1 _ hl)))
theorem x_nwM {a' : String} {i : Nat} {x : MethodName} {h : String} (hF : Fx l E p s m args meth c cc nL own ret) (hl : Cond.methodLinkNest a' i x h ∈ lw_tbl) : va_Nw (.methodLinkNest a' i x h) s :=
  va_Nw.warmM hF.2.1 (va_Nw.of rfl (hF.1.2.2.1 _ hl))
theorem x_nwC {C T : String} (hF : Fx l E p s m args meth c cc nL own ret) (hl : Cond.castable C T ∈ lw_tbl) : va_Nw (.castable C T) s :=
  va_Nw.warmC hF.2.1 (va_Nw.of rfl (hF.1.2.2.1 _ hl))
theorem x_nwD {x : MethodName} (hF : Fx l E p s m args meth c cc nL own ret) (hl : Cond.declares x ∈ lw_tbl) : va_Nw (.declares x) s :=
  va_Nw.warmD hF.2.1 (va_Nw.of rfl (hF.1.2.2.1 _ hl))
theorem x_AO {C : String} (hF : Fx l E p s m args meth c cc nL own ret) (hl : Cond.arrayOver (.object C) ∈ lw_tbl) : va_AO C s :=
  va_AO.moved hF.2.1.alike (va_AO.of (hF.1.2.2.1 _ hl))
theorem x_getfieldN {ref C host : String} {T : u_T} {N ci index : Nat} (hF : Fx l E p s m args meth c cc nL own ret) (hin : ∀ w ∈ u_ws C T N, w ∈ lw_all) (hc : clAll[ci]? = some (C, T, N)) (k : Nat) (hk : k < N) (hl : Cond.fieldLinkNest own index ref (T k).2.1 (T k).2.2.1 host ∈ lw_tbl) (hsame : ∀ x, s.fieldFound? (T k).1 (T k).2.1 (T k).2.2.1 = some x → s.fieldFound? ref (T k).2.1 (T k).2.2.1 = some x) (hM : Mem E s H σ) (ho : Ob E σ a ci) {v : Value} (hv : rd σ a k = v) (hdg : decode cc pc = .ok (.getfield index, 3))
    (kk : W p l e R s m args below meth c H locs cells slots Q (F0 m (pc + 3) ls (v :: rest))) : W p l e R s m args below meth c H locs cells slots Q (F0 m pc ls (.ref a :: rest)) := by
  obtain ⟨⟨cell, q1, q2, q3, q4⟩, hKn⟩ := x_cell hF hM ho hc
  obtain ⟨hS, hfc, kC, hkC, hkind⟩ := hKn
  have hlk := x_nwF hF hl
  obtain ⟨-, -, hx, hb, -, -, -, hown, hts, -⟩ := hF
  obtain ⟨cf, kf, fi, f, hi, hsl⟩ := hS k hk
  refine va_Wgetf hx hb hown hlk (hsame _ hi) (u_facts hfc hkC (u_lays hts hin hk) hi).1 q1 (by rw [q3]; exact fun h => by cases h) (v := v) ?_ rfl rfl hdg kk
  rw [hsl, q4 k hk, hv]
theorem x_slots {C : String} {T : u_T} {N ci : Nat} (hF : Fx l E p s m args meth c cc nL own ret) (hin : ∀ w ∈ u_ws C T N, w ∈ lw_all) (hc : clAll[ci]? = some (C, T, N)) {ty0 : Nat → FieldType} (hty : ∀ k, k < N → parseFieldDescriptor (T k).2.2.1 = some (ty0 k)) (hnm : ∀ a, a < N → ∀ b, b < N → a ≠ b → (T a).2.1 ≠ (T b).2.1) : ∀ x y, x < N → y < N → x ≠ y → (E.1.2 ci) x ≠ (E.1.2 ci) y :=
  va_apart (own := own) hF.2.2.2.2.2.2.2.2.1 hin ty0 hty hnm (va_K.moved hF.2.1.alike hF.1.2.1) hc
theorem x_putfield {ref C : String} {T : u_T} {N ci index : Nat} {ty0 : Nat → FieldType} (hF : Fx l E p s m args meth c cc nL own ret) (hin : ∀ w ∈ u_ws C T N, w ∈ lw_all) (hc : clAll[ci]? = some (C, T, N)) (hty : ∀ k, k < N → parseFieldDescriptor (T k).2.2.1 = some (ty0 k)) (hnm : ∀ a, a < N → ∀ b, b < N → a ≠ b → (T a).2.1 ≠ (T b).2.1) (k : Nat) (hk : k < N) (hl : Cond.fieldLink own index ref (T k).2.1 (T k).2.2.1 ∈ lw_all) (hsame : ∀ x, s.fieldFound? (T k).1 (T k).2.1 (T k).2.2.1 = some x → s.fieldFound? ref (T k).2.1 (T k).2.2.1 = some x) (hfin : (T k).2.2.2 = false) (hM : Mem E s H σ) (hL : Lc E locs) (ho : Ob E σ a ci) {v : Value} {ty : FieldType} (hd : parseFieldDescriptor (T k).2.2.1 = some ty) (hn : narrow ty v = v) (hfit : fits ty v = true) (hdg : decode cc pc = .ok (.putfield index, 3))
    (kk : ∀ (H' : Heap) (locs' : List Loc), Mem E s H' (wr σ a k v) → Lc E locs' → W p l e R s m args below meth c H' locs' cells slots Q (F0 m (pc + 3) ls rest)) : W p l e R s m args below meth c H locs cells slots Q (F0 m pc ls (v :: .ref a :: rest)) := by
  have hap := x_slots hF hin hc hty hnm
  obtain ⟨⟨cell, q1, q2, q3, q4⟩, hKn⟩ := x_cell hF hM ho hc
  obtain ⟨hS, hfc, kC, hkC, hkind⟩ := hKn
  obtain ⟨-, -, hx, hb, -, -, -, hown, hts, -⟩ := hF
  obtain ⟨cf, kf, fi, f, hi, hsl⟩ := hS k hk
  have hlay := hts _ (hin _ (u_in_lay hk))
  unfold u_lay at hlay
  rw [if_neg (by rw [hfin]; decide)] at hlay
  have hst := (u_facts hfc hkC (u_lays hts hin hk) hi).1
  have h6 := u_store hfc hkC hkind hlay hi hd hn hfit
  refine W.putK hx hb (f := f) ⟨hown, hts _ hl, ⟨_, _, _, hsame _ hi⟩, hst⟩ (by rw [q2]; exact h6) q1 q3 (by rw [hsl]; exact k2_hasslot (q4 k hk)) rfl rfl hdg fun H' e1 e2 e3 => ?_
  rw [hsl] at e1 ⊢
  refine kk H' _ (memSet hM ho.1 e2 e3 ?_) (lcPut hL ho.1)
  rw [ho.2.2]
  refine ⟨_, hc, _, e1, q2, q3, fun j hj => ?_⟩
  rw [t_set q4 hap hk v j hj, rd_wr]
  simp [updV]
theorem x_putfieldN {ref C host : String} {T : u_T} {N ci index : Nat} {ty0 : Nat → FieldType} (hF : Fx l E p s m args meth c cc nL own ret) (hin : ∀ w ∈ u_ws C T N, w ∈ lw_all) (hc : clAll[ci]? = some (C, T, N)) (hty : ∀ k, k < N → parseFieldDescriptor (T k).2.2.1 = some (ty0 k)) (hnm : ∀ a, a < N → ∀ b, b < N → a ≠ b → (T a).2.1 ≠ (T b).2.1) (k : Nat) (hk : k < N) (hl : Cond.fieldLinkNest own index ref (T k).2.1 (T k).2.2.1 host ∈ lw_tbl) (hsame : ∀ x, s.fieldFound? (T k).1 (T k).2.1 (T k).2.2.1 = some x → s.fieldFound? ref (T k).2.1 (T k).2.2.1 = some x) (hfin : (T k).2.2.2 = false) (hM : Mem E s H σ) (hL : Lc E locs) (ho : Ob E σ a ci) {v : Value} {ty : FieldType} (hd : parseFieldDescriptor (T k).2.2.1 = some ty) (hn : narrow ty v = v) (hfit : fits ty v = true) (hdg : decode cc pc = .ok (.putfield index, 3))
    (kk : ∀ (H' : Heap) (locs' : List Loc), Mem E s H' (wr σ a k v) → Lc E locs' → W p l e R s m args below meth c H' locs' cells slots Q (F0 m (pc + 3) ls rest)) : W p l e R s m args below meth c H locs cells slots Q (F0 m pc ls (v :: .ref a :: rest)) := by
  have hap := x_slots hF hin hc hty hnm
  obtain ⟨⟨cell, q1, q2, q3, q4⟩, hKn⟩ := x_cell hF hM ho hc
  obtain ⟨hS, hfc, kC, hkC, hkind⟩ := hKn
  have hlk := x_nwF hF hl
  obtain ⟨-, -, hx, hb, -, -, -, hown, hts, -⟩ := hF
  obtain ⟨cf, kf, fi, f, hi, hsl⟩ := hS k hk
  have hlay := hts _ (hin _ (u_in_lay hk))
  unfold u_lay at hlay
  rw [if_neg (by rw [hfin]; decide)] at hlay
  have hst := (u_facts hfc hkC (u_lays hts hin hk) hi).1
  have h6 := u_store hfc hkC hkind hlay hi hd hn hfit
  refine va_WputK hx hb (f := f) hown hlk (hsame _ hi) hst (by rw [q2]; exact h6) q1 q3 (by rw [hsl]; exact k2_hasslot (q4 k hk)) rfl rfl hdg fun H' e1 e2 e3 => ?_
  rw [hsl] at e1 ⊢
  refine kk H' _ (memSet hM ho.1 e2 e3 ?_) (lcPut hL ho.1)
  rw [ho.2.2]
  refine ⟨_, hc, _, e1, q2, q3, fun j hj => ?_⟩
  rw [t_set q4 hap hk v j hj, rd_wr]
  simp [updV]
theorem x_putfieldF {ref C : String} {T : u_T} {N ci index : Nat} {ty0 : Nat → FieldType} (hF : Fx l E p s m args meth c cc nL own ret) (hin : ∀ w ∈ u_ws C T N, w ∈ lw_all) (hc : clAll[ci]? = some (C, T, N)) (hty : ∀ k, k < N → parseFieldDescriptor (T k).2.2.1 = some (ty0 k)) (hnm : ∀ a, a < N → ∀ b, b < N → a ≠ b → (T a).2.1 ≠ (T b).2.1) (k : Nat) (hk : k < N) (hl : Cond.fieldLink own index ref (T k).2.1 (T k).2.2.1 ∈ lw_all) (hsame : ∀ x, s.fieldFound? (T k).1 (T k).2.1 (T k).2.2.1 = some x → s.fieldFound? ref (T k).2.1 (T k).2.2.1 = some x) (hfin : (T k).2.2.2 = true) (hin2 : meth.name = "<init>") (hdecl : (T k).1 = own) (hM : Mem E s H σ) (hL : Lc E locs) (ho : Ob E σ a ci) {v : Value} {ty : FieldType} (hd : parseFieldDescriptor (T k).2.2.1 = some ty) (hn : narrow ty v = v) (hfit : fits ty v = true) (hdg : decode cc pc = .ok (.putfield index, 3))
    (kk : ∀ (H' : Heap) (locs' : List Loc), Mem E s H' (wr σ a k v) → Lc E locs' → W p l e R s m args below meth c H' locs' cells slots Q (F0 m (pc + 3) ls rest)) : W p l e R s m args below meth c H locs cells slots Q (F0 m pc ls (v :: .ref a :: rest)) := by
  have hap := x_slots hF hin hc hty hnm
  obtain ⟨⟨cell, q1, q2, q3, q4⟩, hKn⟩ := x_cell hF hM ho hc
  obtain ⟨hS, hfc, kC, hkC, hkind⟩ := hKn
  obtain ⟨-, -, hx, hb, -, -, -, hown, hts, -⟩ := hF
  obtain ⟨cf, kf, fi, f, hi, hsl⟩ := hS k hk
  have hlay := hts _ (hin _ (u_in_lay hk))
  unfold u_lay at hlay
  rw [if_pos hfin] at hlay
  have hst := (u_facts hfc hkC (u_lays hts hin hk) hi).1
  have hcf : m.cls = cf := by
    obtain ⟨_, _, c', _, _, _, -, -, hf', -, -, -, hown2, -⟩ := Cond.laysFinal_spec hlay
    have e1 : c' = cf := by have := hi.symm.trans hf'; simp at this; exact this.1.symm
    rw [hdecl] at hown2
    rw [← e1]; exact Option.some.inj (hown.symm.trans hown2)
  have h6 := u_fits hfc hkC hkind (Or.inr hlay) hi hd hn hfit
  refine W.putFinK hx hb hown (hts _ hl) (hsame _ hi) hst hcf hin2 (by rw [q2]; exact h6) q1 q3 (by rw [hsl]; exact k2_hasslot (q4 k hk)) rfl rfl hdg fun H' e1 e2 e3 => ?_
  rw [hsl] at e1 ⊢
  refine kk H' _ (memSet hM ho.1 e2 e3 ?_) (lcPut hL ho.1)
  rw [ho.2.2]
  refine ⟨_, hc, _, e1, q2, q3, fun j hj => ?_⟩
  rw [t_set q4 hap hk v j hj, rd_wr]
  simp [updV]
/-! arrays -/
theorem x_arr {ty : FieldType} {n : Nat} (hM : Mem E s H σ) (ha : Ar E σ a ty n) : ∃ cell : Cell, H[a]? = some cell ∧ s.isArrayOf cell ty ∧ va_RA s cell.cls ty ∧ cell.vm = .none ∧ cell.slots.size = n ∧ ∀ j, j < n → cell.slots[j]? = some (rd σ a j) := by
  obtain ⟨h1, h2, h3⟩ := ha
  have h4 := hM.2.2.2 a h1 (by rw [← hM.1]; exact h2)
  rw [h3] at h4
  exact h4
theorem x_arraylength {ty : FieldType} {n : Nat} (hF : Fx l E p s m args meth c cc nL own ret) (hM : Mem E s H σ) (ha : Ar E σ a ty n) (hdg : decode cc pc = .ok (.arraylength, 1))
    (kk : W p l e R s m args below meth c H locs cells slots Q (F0 m (pc + 1) ls (.int (iz n) :: rest))) : W p l e R s m args below meth c H locs cells slots Q (F0 m pc ls (.ref a :: rest)) := by
  obtain ⟨cell, h1, h2, h3, h4, h5, h6⟩ := x_arr hM ha
  refine W.alen (n := iz n) hF.2.2.1 hF.2.2.2.1 h1 h2 ?_ rfl rfl hdg kk
  rw [h5]
  unfold iz
  exact (Int32.ofInt_eq_ofNat).symm
/-- one slot of an array has a new value -/
theorem x_stored {ty : FieldType} {n j : Nat} {v : Value} {H' : Heap} {cell : Cell} (hM : Mem E s H σ) (ha : Ar E σ a ty n) (h2 : s.isArrayOf cell ty) (h3 : va_RA s cell.cls ty) (h4 : cell.vm = .none) (h5 : cell.slots.size = n) (h6 : ∀ j, j < n → cell.slots[j]? = some (rd σ a j)) (hj : j < n) (e1 : H'[a]? = some (cell.setSlot j v)) (e2 : H'.size = H.size) (e3 : ∀ q, q ≠ a → H'[q]? = H[q]?) : Mem E s H' (wr σ a j v) := by
  refine memSet hM ha.1 e2 e3 ?_
  rw [ha.2.2]
  refine ⟨_, e1, h2, h3, h4, ?_, fun i hi => ?_⟩
  · rw [← h5]
    simp [Cell.setSlot]
  · rw [rd_wr]
    by_cases q : i = j
    · subst q
      rw [if_pos ⟨rfl, rfl⟩]
      exact Cell.slots_setSlot_self _ (by rw [h5]; exact hi)
    · rw [if_neg (fun z => q z.2), slot_ne _ _ (Ne.symm q)]
      exact h6 i hi
theorem x_iald {n : Nat} {z : Int} (hF : Fx l E p s m args meth c cc nL own ret) (hM : Mem E s H σ) (ha : Ar E σ a .int n) (h0 : 0 ≤ z) (h1 : z < n) (hn : n < 2147483648) {v : Value} (hv : rd σ a z.toNat = v) (hdg : decode cc pc = .ok (.iaload, 1))
    (kk : W p l e R s m args below meth c H locs cells slots Q (F0 m (pc + 1) ls (v :: rest))) : W p l e R s m args below meth c H locs cells slots Q (F0 m pc ls (.int (iz z) :: .ref a :: rest)) := by
  obtain ⟨cell, g1, g2, g3, g4, g5, g6⟩ := x_arr hM ha
  refine W.iald (v := v) hF.2.2.1 hF.2.2.2.1 g1 g2 (by rw [g4]; exact fun h => by cases h) (by rw [g5]; exact iz_in h0 h1 hn) ?_ rfl rfl hdg kk
  rw [iz_clamp h0 (by omega), g6 _ (by omega), hv]
theorem x_iast {n : Nat} {z : Int} {x : Int32} (hF : Fx l E p s m args meth c cc nL own ret) (hM : Mem E s H σ) (hL : Lc E locs) (ha : Ar E σ a .int n) (h0 : 0 ≤ z) (h1 : z < n) (hn : n < 2147483648) (hdg : decode cc pc = .ok (.iastore, 1))
    (kk : ∀ (H' : Heap) (locs' : List Loc), Mem E s H' (wr σ a z.toNat (.int x)) → Lc E locs' → W p l e R s m args below meth c H' locs' cells slots Q (F0 m (pc + 1) ls rest)) : W p l e R s m args below meth c H locs cells slots Q (F0 m pc ls (.int x :: .int (iz z) :: .ref a :: rest)) := by
  obtain ⟨cell, g1, g2, g3, g4, g5, g6⟩ := x_arr hM ha
  refine W.iast (x := x) hF.2.2.1 hF.2.2.2.1 g1 g2 (by rw [g4]; exact fun h => by cases h) (by rw [g5]; exact iz_in h0 h1 hn) rfl rfl hdg fun H' e1 e2 e3 => ?_
  rw [iz_clamp h0 (by omega)] at e1
  exact kk H' _ (x_stored hM ha g2 g3 g4 g5 g6 (by omega) e1 e2 e3) (lcPut hL ha.1)
theorem x_bald {n : Nat} {z : Int} (hF : Fx l E p s m args meth c cc nL own ret) (hM : Mem E s H σ) (ha : Ar E σ a .byte n) (h0 : 0 ≤ z) (h1 : z < n) (hn : n < 2147483648) {v : Value} (hv : rd σ a z.toNat = v) (hdg : decode cc pc = .ok (.baload, 1))
    (kk : W p l e R s m args below meth c H locs cells slots Q (F0 m (pc + 1) ls (v :: rest))) : W p l e R s m args below meth c H locs cells slots Q (F0 m pc ls (.int (iz z) :: .ref a :: rest)) := by
  obtain ⟨cell, g1, g2, g3, g4, g5, g6⟩ := x_arr hM ha
  refine W.bald (v := v) hF.2.2.1 hF.2.2.2.1 g1 g2 (by rw [g4]; exact fun h => by cases h) (by rw [g5]; exact iz_in h0 h1 hn) ?_ rfl rfl hdg kk
  rw [iz_clamp h0 (by omega), g6 _ (by omega), hv]
theorem x_bast {n : Nat} {z : Int} {x : Int32} (hF : Fx l E p s m args meth c cc nL own ret) (hM : Mem E s H σ) (hL : Lc E locs) (ha : Ar E σ a .byte n) (h0 : 0 ≤ z) (h1 : z < n) (hn : n < 2147483648) (hnar : narrow .byte (.int x) = .int x) (hdg : decode cc pc = .ok (.bastore, 1))
    (kk : ∀ (H' : Heap) (locs' : List Loc), Mem E s H' (wr σ a z.toNat (.int x)) → Lc E locs' → W p l e R s m args below meth c H' locs' cells slots Q (F0 m (pc + 1) ls rest)) : W p l e R s m args below meth c H locs cells slots Q (F0 m pc ls (.int x :: .int (iz z) :: .ref a :: rest)) := by
  obtain ⟨cell, g1, g2, g3, g4, g5, g6⟩ := x_arr hM ha
  refine W.bast (x := x) hF.2.2.1 hF.2.2.2.1 g1 g2 (by rw [g4]; exact fun h => by cases h) (by rw [g5]; exact iz_in h0 h1 hn) rfl rfl hdg fun H' e1 e2 e3 => ?_
  rw [iz_clamp h0 (by omega)] at e1
  rw [hnar] at e1
  exact kk H' _ (x_stored hM ha g2 g3 g4 g5 g6 (by omega) e1 e2 e3) (lcPut hL ha.1)
theorem x_zald {n : Nat} {z : Int} (hF : Fx l E p s m args meth c cc nL own ret) (hM : Mem E s H σ) (ha : Ar E σ a .boolean n) (h0 : 0 ≤ z) (h1 : z < n) (hn : n < 2147483648) {v : Value} (hv : rd σ a z.toNat = v) (hdg : decode cc pc = .ok (.baload, 1))
    (kk : W p l e R s m args below meth c H locs cells slots Q (F0 m (pc + 1) ls (v :: rest))) : W p l e R s m args below meth c H locs cells slots Q (F0 m pc ls (.int (iz z) :: .ref a :: rest)) := by
  obtain ⟨cell, g1, g2, g3, g4, g5, g6⟩ := x_arr hM ha
  refine W.zald (v := v) hF.2.2.1 hF.2.2.2.1 g1 g2 (by rw [g4]; exact fun h => by cases h) (by rw [g5]; exact iz_in h0 h1 hn) ?_ rfl rfl hdg kk
  rw [iz_clamp h0 (by omega), g6 _ (by omega), hv]
theorem x_zast {n : Nat} {z : Int} {x : Int32} (hF : Fx l E p s m args meth c cc nL own ret) (hM : Mem E s H σ) (hL : Lc E locs) (ha : Ar E σ a .boolean n) (h0 : 0 ≤ z) (h1 : z < n) (hn : n < 2147483648) (hnar : narrow .boolean (.int x) = .int x) (hdg : decode cc pc = .ok (.bastore, 1))
    (kk : ∀ (H' : Heap) (locs' : List Loc), Mem E s H' (wr σ a z.toNat (.int x)) → Lc E locs' → W p l e R s m args below meth c H' locs' cells slots Q (F0 m (pc + 1) ls rest)) : W p l e R s m args below meth c H locs cells slots Q (F0 m pc ls (.int x :: .int (iz z) :: .ref a :: rest)) := by
  obtain ⟨cell, g1, g2, g3, g4, g5, g6⟩ := x_arr hM ha
  refine W.zast (x := x) hF.2.2.1 hF.2.2.2.1 g1 g2 (by rw [g4]; exact fun h => by cases h) (by rw [g5]; exact iz_in h0 h1 hn) rfl rfl hdg fun H' e1 e2 e3 => ?_
  rw [iz_clamp h0 (by omega)] at e1
  rw [hnar] at e1
  exact kk H' _ (x_stored hM ha g2 g3 g4 g5 g6 (by omega) e1 e2 e3) (lcPut hL ha.1)
theorem x_cald {n : Nat} {z : Int} (hF : Fx l E p s m args meth c cc nL own ret) (hM : Mem E s H σ) (ha : Ar E σ a .char n) (h0 : 0 ≤ z) (h1 : z < n) (hn : n < 2147483648) {v : Value} (hv : rd σ a z.toNat = v) (hdg : decode cc pc = .ok (.caload, 1))
    (kk : W p l e R s m args below meth c H locs cells slots Q (F0 m (pc + 1) ls (v :: rest))) : W p l e R s m args below meth c H locs cells slots Q (F0 m pc ls (.int (iz z) :: .ref a :: rest)) := by
  obtain ⟨cell, g1, g2, g3, g4, g5, g6⟩ := x_arr hM ha
  refine W.cald (v := v) hF.2.2.1 hF.2.2.2.1 g1 g2 (by rw [g4]; exact fun h => by cases h) (by rw [g5]; exact iz_in h0 h1 hn) ?_ rfl rfl hdg kk
  rw [iz_clamp h0 (by omega), g6 _ (by omega), hv]
theorem x_cast {n : Nat} {z : Int} {x : Int32} (hF : Fx l E p s m args meth c cc nL own ret) (hM : Mem E s H σ) (hL : Lc E locs) (ha : Ar E σ a .char n) (h0 : 0 ≤ z) (h1 : z < n) (hn : n < 2147483648) (hnar : narrow .char (.int x) = .int x) (hdg : decode cc pc = .ok (.castore, 1))
    (kk : ∀ (H' : Heap) (locs' : List Loc), Mem E s H' (wr σ a z.toNat (.int x)) → Lc E locs' → W p l e R s m args below meth c H' locs' cells slots Q (F0 m (pc + 1) ls rest)) : W p l e R s m args below meth c H locs cells slots Q (F0 m pc ls (.int x :: .int (iz z) :: .ref a :: rest)) := by
  obtain ⟨cell, g1, g2, g3, g4, g5, g6⟩ := x_arr hM ha
  refine W.cast (x := x) hF.2.2.1 hF.2.2.2.1 g1 g2 (by rw [g4]; exact fun h => by cases h) (by rw [g5]; exact iz_in h0 h1 hn) rfl rfl hdg fun H' e1 e2 e3 => ?_
  rw [iz_clamp h0 (by omega)] at e1
  rw [hnar] at e1
  exact kk H' _ (x_stored hM ha g2 g3 g4 g5 g6 (by omega) e1 e2 e3) (lcPut hL ha.1)
theorem x_lald {n : Nat} {z : Int} (hF : Fx l E p s m args meth c cc nL own ret) (hM : Mem E s H σ) (ha : Ar E σ a .long n) (h0 : 0 ≤ z) (h1 : z < n) (hn : n < 2147483648) {v : Value} (hv : rd σ a z.toNat = v) (hdg : decode cc pc = .ok (.laload, 1))
    (kk : W p l e R s m args below meth c H locs cells slots Q (F0 m (pc + 1) ls (v :: rest))) : W p l e R s m args below meth c H locs cells slots Q (F0 m pc ls (.int (iz z) :: .ref a :: rest)) := by
  obtain ⟨cell, g1, g2, g3, g4, g5, g6⟩ := x_arr hM ha
  refine W.lald (v := v) hF.2.2.1 hF.2.2.2.1 g1 g2 (by rw [g4]; exact fun h => by cases h) (by rw [g5]; exact iz_in h0 h1 hn) ?_ rfl rfl hdg kk
  rw [iz_clamp h0 (by omega), g6 _ (by omega), hv]
theorem x_last {n : Nat} {z : Int} {x : Int64} (hF : Fx l E p s m args meth c cc nL own ret) (hM : Mem E s H σ) (hL : Lc E locs) (ha : Ar E σ a .long n) (h0 : 0 ≤ z) (h1 : z < n) (hn : n < 2147483648) (hdg : decode cc pc = .ok (.lastore, 1))
    (kk : ∀ (H' : Heap) (locs' : List Loc), Mem E s H' (wr σ a z.toNat (.long x)) → Lc E locs' → W p l e R s m args below meth c H' locs' cells slots Q (F0 m (pc + 1) ls rest)) : W p l e R s m args below meth c H locs cells slots Q (F0 m pc ls (.long x :: .int (iz z) :: .ref a :: rest)) := by
  obtain ⟨cell, g1, g2, g3, g4, g5, g6⟩ := x_arr hM ha
  refine W.last (x := x) hF.2.2.1 hF.2.2.2.1 g1 g2 (by rw [g4]; exact fun h => by cases h) (by rw [g5]; exact iz_in h0 h1 hn) rfl rfl hdg fun H' e1 e2 e3 => ?_
  rw [iz_clamp h0 (by omega)] at e1
  exact kk H' _ (x_stored hM ha g2 g3 g4 g5 g6 (by omega) e1 e2 e3) (lcPut hL ha.1)
theorem x_dald {n : Nat} {z : Int} (hF : Fx l E p s m args meth c cc nL own ret) (hM : Mem E s H σ) (ha : Ar E σ a .double n) (h0 : 0 ≤ z) (h1 : z < n) (hn : n < 2147483648) {v : Value} (hv : rd σ a z.toNat = v) (hdg : decode cc pc = .ok (.daload, 1))
    (kk : W p l e R s m args below meth c H locs cells slots Q (F0 m (pc + 1) ls (v :: rest))) : W p l e R s m args below meth c H locs cells slots Q (F0 m pc ls (.int (iz z) :: .ref a :: rest)) := by
  obtain ⟨cell, g1, g2, g3, g4, g5, g6⟩ := x_arr hM ha
  refine W.dald (v := v) hF.2.2.1 hF.2.2.2.1 g1 g2 (by rw [g4]; exact fun h => by cases h) (by rw [g5]; exact iz_in h0 h1 hn) ?_ rfl rfl hdg kk
  rw [iz_clamp h0 (by omega), g6 _ (by omega), hv]
theorem x_dast {n : Nat} {z : Int} {x : UInt64} (hF : Fx l E p s m args meth c cc nL own ret) (hM : Mem E s H σ) (hL : Lc E locs) (ha : Ar E σ a .double n) (h0 : 0 ≤ z) (h1 : z < n) (hn : n < 2147483648) (hdg : decode cc pc = .ok (.dastore, 1))
    (kk : ∀ (H' : Heap) (locs' : List Loc), Mem E s H' (wr σ a z.toNat (.double x)) → Lc E locs' → W p l e R s m args below meth c H' locs' cells slots Q (F0 m (pc + 1) ls rest)) : W p l e R s m args below meth c H locs cells slots Q (F0 m pc ls (.double x :: .int (iz z) :: .ref a :: rest)) := by
  obtain ⟨cell, g1, g2, g3, g4, g5, g6⟩ := x_arr hM ha
  refine W.dast (x := x) hF.2.2.1 hF.2.2.2.1 g1 g2 (by rw [g4]; exact fun h => by cases h) (by rw [g5]; exact iz_in h0 h1 hn) rfl rfl hdg fun H' e1 e2 e3 => ?_
  rw [iz_clamp h0 (by omega)] at e1
  exact kk H' _ (x_stored hM ha g2 g3 g4 g5 g6 (by omega) e1 e2 e3) (lcPut hL ha.1)
theorem x_aald {C : String} {n : Nat} {z : Int} (hF : Fx l E p s m args meth c cc nL own ret) (hM : Mem E s H σ) (ha : Ar E σ a (.object C) n) (h0 : 0 ≤ z) (h1 : z < n) (hn : n < 2147483648) {v : Value} (hv : rd σ a z.toNat = v) (hdg : decode cc pc = .ok (.aaload, 1))
    (kk : W p l e R s m args below meth c H locs cells slots Q (F0 m (pc + 1) ls (v :: rest))) : W p l e R s m args below meth c H locs cells slots Q (F0 m pc ls (.int (iz z) :: .ref a :: rest)) := by
  obtain ⟨cell, g1, g2, g3, g4, g5, g6⟩ := x_arr hM ha
  refine W.aald (v := v) hF.2.2.1 hF.2.2.2.1 g1 g2 rfl (by rw [g4]; exact fun h => by cases h) (by rw [g5]; exact iz_in h0 h1 hn) ?_ rfl rfl hdg kk
  rw [iz_clamp h0 (by omega), g6 _ (by omega), hv]
/-- what may lie in an array of C's: an object whose kind can be cast to C -/
theorem x_any {C : String} {v ci : Nat} {r : vw_C} (hF : Fx l E p s m args meth c cc nL own ret) (hM : Mem E s H σ) (hv : Ob E σ v ci) (hc : clAll[ci]? = some r) (hcast : r.1 = C ∨ Cond.castable r.1 C ∈ lw_tbl) : va_Any C s H v := by
  obtain ⟨⟨cv, q1, q2, q3, q4⟩, hKn⟩ := x_cell hF hM hv hc
  obtain ⟨kC, hkC, hkind⟩ := hKn.2.2
  refine ⟨cv, q1, by rw [q3]; rfl, ⟨kC, by rw [q2]; exact hkC⟩, fun comp hcomp => ?_⟩
  rcases hcast with h | h
  · subst h
    have : comp = E.1.1 ci := Option.some.inj (hcomp.symm.trans hKn.2.1)
    rw [this, q2]
    exact va_assign hKn.2
  · obtain ⟨c0, t0, f1, f2, f3⟩ := Cond.castable_spec (va_Nw.use (A := args) rfl (x_nwC hF h))
    have e1 : c0 = cv.cls := by rw [q2]; exact Option.some.inj (f1.symm.trans hKn.2.1)
    have e2 : t0 = comp := Option.some.inj (f2.symm.trans hcomp)
    rw [← e1, ← e2]
    exact f3
theorem x_aastG {C : String} {n v : Nat} {z : Int} (hF : Fx l E p s m args meth c cc nL own ret) (hM : Mem E s H σ) (hL : Lc E locs) (ha : Ar E σ a (.object C) n) (h0 : 0 ≤ z) (h1 : z < n) (hn : n < 2147483648) (hv : va_Any C s H v) (hdg : decode cc pc = .ok (.aastore, 1))
    (kk : ∀ (H' : Heap) (locs' : List Loc), Mem E s H' (wr σ a z.toNat (.ref v)) → Lc E locs' → W p l e R s m args below meth c H' locs' cells slots Q (F0 m (pc + 1) ls rest)) : W p l e R s m args below meth c H locs cells slots Q (F0 m pc ls (.ref v :: .int (iz z) :: .ref a :: rest)) := by
  obtain ⟨cell, g1, g2, g3, g4, g5, g6⟩ := x_arr hM ha
  obtain ⟨cv, q1, q2, ⟨kv, hkv⟩, q4⟩ := hv
  have g3' := g3
  obtain ⟨kA, comp, k1, k2, k3, -⟩ := g3'
  obtain ⟨kE, hkE, -⟩ := Vm.findClass_spec k3
  refine W.aast hF.2.2.1 hF.2.2.2.1 g1 (fun q h => by rw [g4] at h; cases h) (by rw [g4]; exact fun h => by cases h) k1 k2 rfl hkE ⟨iz_nneg h0 (by omega), by rw [g5, iz_clamp h0 (by omega)]; omega⟩ q1 (fun q h => by rw [h] at q2; cases q2) hkv (q4 _ k3) rfl rfl hdg fun H' e1 e2 e3 => ?_
  rw [iz_clamp h0 (by omega)] at e1
  exact kk H' _ (x_stored hM ha g2 g3 g4 g5 g6 (by omega) e1 e2 e3) (lcPut hL ha.1)
theorem x_aastN {C : String} {n : Nat} {z : Int} (hF : Fx l E p s m args meth c cc nL own ret) (hM : Mem E s H σ) (hL : Lc E locs) (ha : Ar E σ a (.object C) n) (h0 : 0 ≤ z) (h1 : z < n) (hn : n < 2147483648) (hdg : decode cc pc = .ok (.aastore, 1))
    (kk : ∀ (H' : Heap) (locs' : List Loc), Mem E s H' (wr σ a z.toNat .null) → Lc E locs' → W p l e R s m args below meth c H' locs' cells slots Q (F0 m (pc + 1) ls rest)) : W p l e R s m args below meth c H locs cells slots Q (F0 m pc ls (.null :: .int (iz z) :: .ref a :: rest)) := by
  obtain ⟨cell, g1, g2, g3, g4, g5, g6⟩ := x_arr hM ha
  refine va_WaastN hF.2.2.1 hF.2.2.2.1 g1 g2 (by rw [g4]; exact fun h => by cases h) (by rw [g5]; exact iz_in h0 h1 hn) rfl rfl hdg fun H' e1 e2 e3 => ?_
  rw [iz_clamp h0 (by omega)] at e1
  exact kk H' _ (x_stored hM ha g2 g3 g4 g5 g6 (by omega) e1 e2 e3) (lcPut hL ha.1)
/-! new -/
theorem x_new {C : String} {T : u_T} {N ci index : Nat} {ty0 : Nat → FieldType} (hF : Fx l E p s m args meth c cc nL own ret) (hin : ∀ w ∈ u_ws C T N, w ∈ lw_all) (hc : clAll[ci]? = some (C, T, N)) (hty : ∀ k, k < N → parseFieldDescriptor (T k).2.2.1 = some (ty0 k)) (hcl : Cond.classLink own index C ∈ lw_all) (hins : Cond.instantiable C N ∈ lw_all) (hini : Cond.initialized C ∈ lw_all) (hM : Mem E s H σ) (hcells : cells + 1 ≤ R.cells) (hslots : slots + N ≤ R.slots) (hdg : decode cc pc = .ok (.new index, 3))
    (kk : ∀ H' : Heap, Mem E s H' (nw σ (.inl ci) (fun k => defaultValue (ty0 k))) → W p l e R s m args below meth c H' locs (cells + 1) (slots + N) Q (F0 m (pc + 3) ls (.ref (sz σ) :: rest))) : W p l e R s m args below meth c H locs cells slots Q (F0 m pc ls rest) := by
  have hKn := (va_K.moved hF.2.1.alike hF.1.2.1).1 ci _ hc
  obtain ⟨-, -, hx, hb, -, -, -, hown, hts, -⟩ := hF
  refine W.newcK hx hb hown (hts _ hcl) (hts _ hins) (hts _ hini) rfl hdg hcells hslots hKn.2.1 hM.1.symm fun H1 kC hkC e1 z1 o1 => ?_
  refine kk H1 (memPush hM (by rw [z1, hM.1]) (fun q hq => o1 q (by rw [hM.1]; exact hq)) ?_)
  rw [hM.1] at e1
  exact ⟨_, hc, u_born ty0 hts hin hKn hkC e1 hty⟩
theorem x_newarray {atype : ArrayType} {ty : FieldType} {z : Int} {n : Nat} (hF : Fx l E p s m args meth c cc nL own ret) (hty : newarray.typeOf atype = ty) (harr : Cond.arrayClass ty ∈ lw_all) (hra : ∀ cA : ClassId, s.vm.findClass ("[" ++ ty.toString) = some cA → va_RA s cA ty) (hz : z = (n : Int)) (hn : n * componentBytes ty ≤ 536870912) (hn2 : n < 2147483648) (hM : Mem E s H σ) (hcells : cells + 1 ≤ R.cells) (hslots : slots + n ≤ R.slots) (hdg : decode cc pc = .ok (.newarray atype, 2))
    (kk : ∀ H' : Heap, Mem E s H' (nw σ (.inr (ty, n)) (fun _ => defaultValue ty)) → W p l e R s m args below meth c H' locs (cells + 1) (slots + n) Q (F0 m (pc + 2) ls (.ref (sz σ) :: rest))) : W p l e R s m args below meth c H locs cells slots Q (F0 m pc ls (.int (iz z) :: rest)) := by
  subst hty; subst hz
  obtain ⟨-, -, hx, hb, -, -, -, hown, hts, -⟩ := hF
  have hcl : (iz (n : Int)).toNatClampNeg = n := by rw [iz_clamp (by omega) (by omega)]; rfl
  refine va_newaK hx hb (hts _ harr) rfl hdg rfl (iz_nneg (by omega) (by omega)) hcl hn hcells hslots hM.1.symm fun H1 cA e1 z1 o1 hAr hNm => ?_
  refine kk H1 (memPush hM (by rw [z1, hM.1]) (fun q hq => o1 q (by rw [hM.1]; exact hq)) ?_)
  rw [hM.1] at e1
  exact ⟨_, e1, hAr _ _, hra _ hNm, rfl, arrV_size _ _ _, fun j hj => arrV_read _ _ hj⟩
theorem x_anewarray {C : String} {index : Nat} {z : Int} {n : Nat} (hF : Fx l E p s m args meth c cc nL own ret) (hcl : Cond.classLink own index C ∈ lw_all) (hov : Cond.arrayOver (.object C) ∈ lw_tbl) (hz : z = (n : Int)) (hn : n * 4 ≤ 536870912) (hM : Mem E s H σ) (hcells : cells + 1 ≤ R.cells) (hslots : slots + n ≤ R.slots) (hdg : decode cc pc = .ok (.anewarray index, 3))
    (kk : ∀ H' : Heap, Mem E s H' (nw σ (.inr (.object C, n)) (fun _ => .null)) → W p l e R s m args below meth c H' locs (cells + 1) (slots + n) Q (F0 m (pc + 3) ls (.ref (sz σ) :: rest))) : W p l e R s m args below meth c H locs cells slots Q (F0 m pc ls (.int (iz z) :: rest)) := by
  subst hz
  have hAO := va_AO.use (A := args) (x_AO hF hov)
  obtain ⟨-, -, hx, hb, -, -, -, hown, hts, -⟩ := hF
  have hclm : (iz (n : Int)).toNatClampNeg = n := by rw [iz_clamp (by omega) (by omega)]; rfl
  refine W.anew hx hb hown (hts _ hcl) hAO rfl hdg rfl (iz_nneg (by omega) (by omega)) (by rw [hclm]; exact hn) hcells (by rw [hclm]; exact hslots) fun cA kA comp h1 h2 h3 h4 => ?_
  rw [hclm, ← hM.1]
  refine kk _ (memPush hM (by simp) (fun q hq => by rw [Array.getElem?_push, if_neg (Nat.ne_of_lt hq)]) ?_)
  refine ⟨{ cls := cA, slots := Array.replicate n .null, vm := .none }, by simp, ⟨fun k h => (by cases h), kA, h2, comp, h3⟩, ⟨kA, comp, h2, h3, h4, h1⟩, rfl, by simp, fun j hj => by simp [hj]⟩
/-! Object.<init>, casts -/
theorem x_objInit {idx : Nat} (hF : Fx l E p s m args meth c cc nL own ret) (h : lh ls nL lv) (hlink : Cond.methodLink own idx Lib.objectInit ∈ lw_all) (hinst : Cond.instanceMethod Lib.objectInit ∈ lw_all) (hcode : Cond.code Lib.objectInit ⟨#[0xb1]⟩ 1 none ∈ lw_all) (hfr : 1 ≤ R.frames) (hlo : (rest.map fun v => v.category).sum + 12 ≤ R.locals) (hd : decode cc pc = .ok (.invokespecial idx, 3))
    (kk : W p l e R s m args below meth c H locs cells slots Q (F0 m (pc + 3) ls rest)) : W p l e R s m args below meth c H locs cells slots Q (F0 m pc ls (.ref a :: rest)) := by
  obtain ⟨-, -, hx, hb, hml, -, -, hown, hts, -⟩ := hF
  exact W.objInit hx hb hown (hts _ hlink) (hts _ hinst) (hts _ hcode) rfl (by rw [hml]; exact h.1) rfl hd hfr (by show 2 * 0 + _ + 12 ≤ _; omega) kk
theorem x_checkcast {C nm : String} {index : Nat} (hF : Fx l E p s m args meth c cc nL own ret) (hl : Cond.classLink own index nm ∈ lw_all) (hr : ∃ cell : Cell, H[a]? = some cell ∧ cell.vm.isStatics = false ∧ s.vm.findClass C = some cell.cls) (hcast : C = nm ∧ (∃ cC, ClassAt s nm cC) ∨ Cond.castable C nm ∈ lw_tbl) (hdg : decode cc pc = .ok (.checkcast index, 3))
    (kk : W p l e R s m args below meth c H locs cells slots Q (F0 m (pc + 3) ls (.ref a :: rest))) : W p l e R s m args below meth c H locs cells slots Q (F0 m pc ls (.ref a :: rest)) := by
  rcases hcast with ⟨h, cC, hC⟩ | h
  · subst h
    exact va_castS hF.2.2.1 hF.2.2.2.1 hF.2.2.2.2.2.2.2.1 (hF.2.2.2.2.2.2.2.2.1 _ hl) hC hr hdg kk
  · exact va_castY hF.2.2.1 hF.2.2.2.1 hF.2.2.2.2.2.2.2.1 (hF.2.2.2.2.2.2.2.2.1 _ hl) (x_nwC hF h) hr hdg kk
theorem x_classAt {ci : Nat} {r : vw_C} (hF : Fx l E p s m args meth c cc nL own ret) (hc : clAll[ci]? = some r) : ∃ cC, ClassAt s r.1 cC := ⟨_, ((va_K.moved hF.2.1.alike hF.1.2.1).1 ci _ hc).2⟩
/-! arraycopy -/
def cpm (σ : Mm) (src sp dst dp n : Nat) : Mm := (σ.1, fun b j => if b = dst ∧ dp ≤ j ∧ j < dp + n then rd σ src (sp + (j - dp)) else rd σ b j, σ.2.2)
theorem x_arraycopy {src dst idx n0 n1 : Nat} {ty ty1 : FieldType} {sp dp n : Int} (hF : Fx l E p s m args meth c cc nL own ret) (h : lh ls nL lv) (hlink : Cond.methodLink own idx arraycopyName ∈ lw_all) (hnat : Cond.native arraycopyName ∈ lw_all) (hstat : Cond.static arraycopyName ∈ lw_all) (hini : Cond.initialized "java/lang/System" ∈ lw_all) (hM : Mem E s H σ) (hL : Lc E locs)
    (ha0 : Ar E σ src ty n0) (ha1 : Ar E σ dst ty1 n1) (hty : ((refKind ty != refKind ty1) || (!refKind ty && ty != ty1)) = false) (h1 : 0 ≤ sp) (h2 : 0 ≤ dp) (h3 : 0 ≤ n) (h4 : sp + n ≤ n0) (h5 : dp + n ≤ n1) (hb0 : n0 < 2147483648) (hb1 : n1 < 2147483648)
    (hfit : ∀ i : Nat, (i : Int) < n → fits ty1 (rd σ src (sp.toNat + i)) = true) (htake : ∀ i : Nat, (i : Int) < n → refKind ty1 = false ∨ rd σ src (sp.toNat + i) = .null ∨ ∃ C b, ty1 = .object C ∧ rd σ src (sp.toNat + i) = .ref b ∧ va_Any C s H b)
    (hframes : 1 ≤ R.frames) (hlocals : (rest.map fun v => v.category).sum + (nativeFrameWords "java/lang/System" "arraycopy" 5 + 11) ≤ R.locals) (hdg : decode cc pc = .ok (.invokestatic idx, 3))
    (kk : ∀ (H' : Heap) (locs' : List Loc), Mem E s H' (cpm σ src sp.toNat dst dp.toNat n.toNat) → Lc E locs' → W p l e R s m args below meth c H' locs' cells slots Q (F0 m (pc + 3) ls rest)) : W p l e R s m args below meth c H locs cells slots Q (F0 m pc ls (.int (iz n) :: .int (iz dp) :: .ref dst :: .int (iz sp) :: .ref src :: rest)) := by
  obtain ⟨cs, p1, p2, p3, p4, p5, p6⟩ := x_arr hM ha0
  obtain ⟨cd, q1, q2, q3, q4, q5, q6⟩ := x_arr hM ha1
  obtain ⟨-, -, hx, hb, hml, -, -, hown, hts, -⟩ := hF
  have p2' := p2
  have q2' := q2
  obtain ⟨-, ks, hks, cms, hkks⟩ := p2'
  obtain ⟨-, kd', hkd, cmd, hkkd⟩ := q2'
  have csp : (iz sp).toNatClampNeg = sp.toNat := iz_clamp h1 (by omega)
  have cdp : (iz dp).toNatClampNeg = dp.toNat := iz_clamp h2 (by omega)
  have cn : (iz n).toNatClampNeg = n.toNat := iz_clamp h3 (by omega)
  have getS : ∀ i : Nat, (i : Int) < n → cs.slots.getD (sp.toNat + i) .null = rd σ src (sp.toNat + i) := fun i hi => by
    rw [Array.getD_eq_getD_getElem?, p6 _ (by omega)]
    rfl
  intro T hT X
  obtain ⟨vm', X', step⟩ := X.arraycopy hx hown (hts _ hlink) (hts _ hnat) (hts _ hstat) (hts _ hini) (src := src) (dst := dst) (cs := cs) (cd := cd) (srcPos := iz sp) (destPos := iz dp) (n := iz n) (by rw [hT]; exact p1) (by rw [hT]; exact q1)
    (fun _ h => by rw [p4] at h; cases h) (fun _ h => by rw [q4] at h; cases h) (fun h => by rw [p4] at h; cases h) (fun h => by rw [q4] at h; cases h) hks hkd hkks hkkd hty (iz_nneg h1 (by omega)) (iz_nneg h2 (by omega)) (iz_nneg h3 (by omega))
    (by rw [iz_toInt ⟨by omega, by omega⟩, iz_toInt ⟨by omega, by omega⟩, p5]; omega)
    (by rw [iz_toInt ⟨by omega, by omega⟩, iz_toInt ⟨by omega, by omega⟩, q5]; omega)
    (fun vm₁ hal i hi => by
      rw [cn] at hi
      rw [csp, getS i (by omega)]
      refine ⟨hfit i (by omega), ?_⟩
      rcases htake i (by omega) with z | z | ⟨C, b, z1, z2, cv, z3, z4, ⟨kv, z5⟩, z6⟩
      · exact State.takes_of_prim _ _ z (hfit i (by omega))
      · rw [z]
        exact trivial
      · subst z1
        rw [z2]
        obtain ⟨kA, comp, k1, k2, k3, -⟩ := q3
        obtain ⟨kE, hkE, -⟩ := Vm.findClass_spec k3
        have ecm : cmd = comp := by
          have e9 := hkd.symm.trans k1
          cases e9
          rw [k2] at hkkd
          cases hkkd
          rfl
        subst ecm
        obtain ⟨kv', hkv', -⟩ := hal.2.2 _ _ z5
        obtain ⟨kE', hkE', -⟩ := hal.2.2 _ _ hkE
        refine ⟨cv, (by show T.heap[b]? = _; rw [hT]; exact z3), fun k h => (by rw [h] at z4; cases z4), ⟨kv', hkv'⟩, ⟨kE', hkE'⟩, ?_⟩
        show vm₁.assignable _ _ = true
        rw [hal.assignable]
        exact z6 _ k3)
    (g := F0 m pc ls (.int (iz n) :: .int (iz dp) :: .ref dst :: .int (iz sp) :: .ref src :: rest)) rfl (by rw [hml]; exact h.1) (rest := rest) rfl (by rw [hb]; exact hdg) hframes (by show 2 * 0 + _ + _ ≤ _; omega)
  have hl : dst < H.size := (Array.getElem?_eq_some_iff.mp q1).1
  have hheap : ((T.setVm vm').setCell dst (copied cs cd (iz sp) (iz dp) (iz n))).heap = H.setIfInBounds dst (copied cs cd (iz sp) (iz dp) (iz n)) := by rw [← hT]; rfl
  have oq : ∀ q : Nat, q ≠ dst → (H.setIfInBounds dst (copied cs cd (iz sp) (iz dp) (iz n)))[q]? = H[q]? := fun q hq => by simp [Array.getElem?_setIfInBounds, Ne.symm hq]
  have hcp : copied cs cd (iz sp) (iz dp) (iz n) = cd.storeRun dp.toNat (cs.stretch sp.toNat n.toNat) := by
    unfold copied
    rw [csp, cdp, cn]
  have hlen : (cs.stretch sp.toNat n.toNat).length = n.toNat := Cell.stretch_length _ _ _
  have hfacts := Cell.storeRun_facts cd dp.toNat (cs.stretch sp.toNat n.toNat)
  have hM' : Mem E s (H.setIfInBounds dst (copied cs cd (iz sp) (iz dp) (iz n))) (cpm σ src sp.toNat dst dp.toNat n.toNat) := by
    refine ⟨by show sz σ = _; rw [hM.1]; simp, by simp; exact hM.2.1, fun q hq => ?_, fun b g1 g2 => ?_⟩
    · rw [oq q (by have := ha1.1; omega)]
      exact hM.2.2.1 q hq
    · by_cases hb' : b = dst
      · subst hb'
        show cOk E.1 s _ b (kd σ b) _
        rw [ha1.2.2]
        refine ⟨copied cs cd (iz sp) (iz dp) (iz n), by simp [Array.getElem?_setIfInBounds, hl], ?_⟩
        rw [hcp]
        refine ⟨?_, ?_, ?_, ?_, fun j hj => ?_⟩
        · refine ⟨fun k h => (by rw [hfacts.2.1, q4] at h; cases h), ?_⟩
          rw [hfacts.1]
          exact q2.2
        · rw [hfacts.1]
          exact q3
        · rw [hfacts.2.1]
          exact q4
        · rw [hfacts.2.2.1]
          exact q5
        · rw [Cell.storeRun_get _ _ _ _ (by rw [hlen, q5]; omega), hlen]
          show _ = some (if b = b ∧ dp.toNat ≤ j ∧ j < dp.toNat + n.toNat then rd σ src (sp.toNat + (j - dp.toNat)) else rd σ b j)
          by_cases hj2 : dp.toNat ≤ j ∧ j < dp.toNat + n.toNat
          · rw [if_pos hj2, if_pos ⟨rfl, hj2⟩]
            unfold Cell.stretch
            rw [List.getElem?_map, List.getElem?_range (by omega)]
            simp only [Option.map_some]
            rw [getS _ (by omega)]
          · rw [if_neg hj2, if_neg (fun z => hj2 z.2)]
            exact q6 j hj
      · have e : rd (cpm σ src sp.toNat dst dp.toNat n.toNat) b = rd σ b := by
          funext j
          show (if b = dst ∧ dp.toNat ≤ j ∧ j < dp.toNat + n.toNat then rd σ src (sp.toNat + (j - dp.toNat)) else rd σ b j) = _
          rw [if_neg (fun z => hb' z.1)]
        rw [e]
        show cOk E.1 s _ b (kd σ b) _
        exact (hM.2.2.2 b g1 (by simpa using g2)).kept (oq b hb')
  obtain ⟨t, a1, b1⟩ := kk _ _ hM' (by
      intro q hq
      rcases List.mem_append.mp hq with h | h
      · exact hL q h
      · obtain ⟨z, -, hz⟩ := List.mem_map.mp h
        rw [← hz]
        exact ha1.1) _ hheap X'
  exact ⟨t, step t a1, b1⟩
end XR
