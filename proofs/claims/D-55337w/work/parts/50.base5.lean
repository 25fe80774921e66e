/-! BASE 5: statics of whole numbers; long compares -/
theorem w0_st {l : Launch} {E : En} (hW : W0 l E) {C n d : String} {z : Int32} (hm : Cond.eq (.static C n d) (.int z) ∈ flatC (Jvm.Cond.and given_1 narrow_1)) (hl : Cond.laysStatic C n d ∈ lw_tbl) (hi : Cond.initialized C ∈ lw_all) : va_Z C n d (.int z) (fun a => lo E ≤ a) E.2.1 E.2.1.heap :=
  va_Zof (hW.2.2.1 _ hl) (hW.2.2.1 _ (lw_all_tbl hi)) (va_eqi (flat_of_before _ hW.2.2.2 _ hm)) (fun a ha => Nat.not_le.mpr ha)
section X5
variable {p : Program} {l : Launch} {e : Env} {R : Room} {s : State} {m : MethodId} {args : Array Value} {below : List Frame} {meth : Method} {c : Code} {H : Heap} {locs : List Loc} {cells slots : Nat} {Q : State → Prop}
variable {E : En} {cc : ByteArray} {nL : Nat} {own : String} {ret : Option FieldType} {σ : Mm} {pc : Nat} {ls : Array Slot} {rest : List Value}
theorem x_gets {C n d ref : String} {v : Value} {index : Nat} (hF : Fx l E p s m args meth c cc nL own ret) (hZ : va_Z C n d v (fun a => lo E ≤ a) E.2.1 E.2.1.heap) (hlink : Cond.fieldLink own index ref n d ∈ lw_all) (hsame : ∀ x, s.fieldFound? C n d = some x → s.fieldFound? ref n d = some x) (hM : Mem E s H σ) (hdg : decode cc pc = .ok (.getstatic index, 3))
    (kk : W p l e R s m args below meth c H locs cells slots Q (F0 m (pc + 3) ls (v :: rest))) : W p l e R s m args below meth c H locs cells slots Q (F0 m pc ls rest) := by
  obtain ⟨cf, kf, fi, f, a, cell, h1, h2, h3, h4, h5, h6, h7, h8⟩ := va_Z.moved hF.2.1.alike hZ
  exact W.gets hF.2.2.1 hF.2.2.2.1 hF.2.2.2.2.2.2.2.1 (hF.2.2.2.2.2.2.2.2.1 _ hlink) (hsame _ h1) h2 h3 h4 (by rw [hM.2.2.1 a (Nat.not_le.mp h8)]; exact h5) (fun e => by rw [e] at h6; cases h6) h7 rfl hdg kk
theorem x_lcmp0_eq {x : Int64} {off : Int} {tgt : Nat} (hF : Fx l E p s m args meth c cc nL own ret) (hdg : decode cc pc = .ok (.ifCond .eq off, 3)) (ht : (pc : Int) + off = (tgt : Int))
    (kt : x = 0 → W p l e R s m args below meth c H locs cells slots Q (F0 m tgt ls rest)) (kf : ¬ x = 0 → W p l e R s m args below meth c H locs cells slots Q (F0 m (pc + 3) ls rest)) : W p l e R s m args below meth c H locs cells slots Q (F0 m pc ls (.int (lg_cmp x 0) :: rest)) :=
  lv_if_eq hF.2.2.1 hF.2.2.2.1 hdg ht (fun q => kt ((lg_cmp_eq x 0).mp q)) (fun q => kf (fun z => q ((lg_cmp_eq x 0).mpr z)))
theorem x_lcmp0_ne {x : Int64} {off : Int} {tgt : Nat} (hF : Fx l E p s m args meth c cc nL own ret) (hdg : decode cc pc = .ok (.ifCond .ne off, 3)) (ht : (pc : Int) + off = (tgt : Int))
    (kt : ¬ x = 0 → W p l e R s m args below meth c H locs cells slots Q (F0 m tgt ls rest)) (kf : x = 0 → W p l e R s m args below meth c H locs cells slots Q (F0 m (pc + 3) ls rest)) : W p l e R s m args below meth c H locs cells slots Q (F0 m pc ls (.int (lg_cmp x 0) :: rest)) :=
  lv_if_ne hF.2.2.1 hF.2.2.2.1 hdg ht (fun q => kt (fun z => q ((lg_cmp_eq x 0).mpr z))) (fun q => kf ((lg_cmp_eq x 0).mp q))
end X5
theorem w0_bs {l : Launch} {E : En} (hW : W0 l E) : va_Z "java/util/BitSet" "$assertionsDisabled" "Z" (.int 1) (fun a => lo E ≤ a) E.2.1 E.2.1.heap := w0_st hW (by decide +kernel) q608 q128
