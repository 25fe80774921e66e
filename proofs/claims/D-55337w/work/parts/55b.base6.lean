/-! BASE 6: Math.max, Math.min of whole numbers -/
section X6
variable {p : Program} {l : Launch} {e : Env} {R : Room} {s : State} {m : MethodId} {args : Array Value} {below : List Frame} {meth : Method} {c : Code} {H : Heap} {locs : List Loc} {cells slots : Nat} {Q : State → Prop}
variable {E : En} {cc : ByteArray} {nL : Nat} {own : String} {ret : Option FieldType} {σ : Mm} {pc : Nat} {ls : Array Slot} {rest : List Value} {lv : List (Nat × Value)}
theorem x_mmax {idx : Nat} {a b : Int} (hF : Fx l E p s m args meth c cc nL own ret) (h : lh ls nL lv) (ha : inR a) (hb : inR b) (hlink : Cond.methodLink own idx ⟨"java/lang/Math", "max", "(II)I"⟩ ∈ lw_all) (hst : Cond.static ⟨"java/lang/Math", "max", "(II)I"⟩ ∈ lw_all) (hini : Cond.initialized "java/lang/Math" ∈ lw_all) (hco : Cond.code ⟨"java/lang/Math", "max", "(II)I"⟩ Lib.Math.max.code 2 (some .int) ∈ lw_all)
    (hf : 1 ≤ R.frames) (hlo : (rest.map fun v => v.category).sum + 13 ≤ R.locals) (hc : cells ≤ R.cells) (hs : slots ≤ R.slots) (hdg : decode cc pc = .ok (.invokestatic idx, 3))
    (kk : W p l e R s m args below meth c H locs cells slots Q (F0 m (pc + 3) ls (.int (iz (if a < b then b else a)) :: rest))) : W p l e R s m args below meth c H locs cells slots Q (F0 m pc ls (.int (iz b) :: .int (iz a) :: rest)) := by
  obtain ⟨-, -, hx, hbb, hml, -, -, hown, hts, -⟩ := hF
  refine va_mmax hx hbb (by rw [hml]; exact h.1.symm) hown (hts _ hlink) (hts _ hst) (hts _ hini) (hts _ hco) hf hlo hc hs hdg ?_
  have e : (if iz a < iz b then iz b else iz a) = iz (if a < b then b else a) := by
    by_cases q : a < b
    · rw [if_pos q, if_pos ((iz_lt ha hb).mpr q)]
    · rw [if_neg q, if_neg (fun z => q ((iz_lt ha hb).mp z))]
  rw [e]
  exact kk
theorem x_mmin {idx : Nat} {a b : Int} (hF : Fx l E p s m args meth c cc nL own ret) (h : lh ls nL lv) (ha : inR a) (hb : inR b) (hlink : Cond.methodLink own idx ⟨"java/lang/Math", "min", "(II)I"⟩ ∈ lw_all) (hst : Cond.static ⟨"java/lang/Math", "min", "(II)I"⟩ ∈ lw_all) (hini : Cond.initialized "java/lang/Math" ∈ lw_all) (hco : Cond.code ⟨"java/lang/Math", "min", "(II)I"⟩ Lib.Math.min.code 2 (some .int) ∈ lw_all)
    (hf : 1 ≤ R.frames) (hlo : (rest.map fun v => v.category).sum + 13 ≤ R.locals) (hc : cells ≤ R.cells) (hs : slots ≤ R.slots) (hdg : decode cc pc = .ok (.invokestatic idx, 3))
    (kk : W p l e R s m args below meth c H locs cells slots Q (F0 m (pc + 3) ls (.int (iz (if b < a then b else a)) :: rest))) : W p l e R s m args below meth c H locs cells slots Q (F0 m pc ls (.int (iz b) :: .int (iz a) :: rest)) := by
  obtain ⟨-, -, hx, hbb, hml, -, -, hown, hts, -⟩ := hF
  refine va_mmin hx hbb (by rw [hml]; exact h.1.symm) hown (hts _ hlink) (hts _ hst) (hts _ hini) (hts _ hco) hf hlo hc hs hdg ?_
  have e : (if iz b < iz a then iz b else iz a) = iz (if b < a then b else a) := by
    by_cases q : b < a
    · rw [if_pos q, if_pos ((iz_lt hb ha).mpr q)]
    · rw [if_neg q, if_neg (fun z => q ((iz_lt hb ha).mp z))]
  rw [e]
  exact kk
end X6
