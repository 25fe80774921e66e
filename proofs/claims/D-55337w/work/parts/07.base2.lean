/-! BASE 2: the claim's classes; the world; contracts; ends -/
def T0 : u_T := fun _ => ("", "", "", false)
def clAll : List vw_C := [(RX1, TX1, 15), (RX3, T0, 0), (RX4, T0, 0), (RX5, T0, 0), (RX6, TX6, 11), (RJ8, TJ8, 3), (RX7, TX7, 3), (RX8, TX8, 6), (RJ10, TJ10, 4), (RJ15, TJ15, 4), (RX9, TX9, 23), (RJ19, TJ19, 6), (RJ20, TJ20, 6), (RX10, TX10, 8), (RJ26, TJ26, 6), (RJ28, TJ28, 1), (RJ30, TJ30, 6), (RJ32, TJ32, 4), (RJ34, TJ34, 5), (RJ35, TJ35, 6), (RJ36, TJ36, 3), (RX11, TX11, 6), (RX12, TX12, 2), (RJ37, TJ37, 3), (RJ39, TJ39, 4), (RJ40, TJ40, 6), (RJ6, TJ6, 2), (RJ7, TJ7, 2)]
/-- classes and slots; the start's state; the start's arguments -/
abbrev En : Type := va_G × State × Array Value
def lo (E : En) : Nat := E.2.1.heap.size
def W0 (l : Launch) (E : En) : Prop := l.flags = flags0 ∧ va_K E.1 clAll [] E.2.1 ∧ (∀ w ∈ lw_tbl, w.before E.2.2 E.2.1 = true) ∧ (Jvm.Cond.and given_1 narrow_1).before E.2.2 E.2.1 = true
def cOk (D : va_G) (U : State) (H : Heap) (a : Nat) (K : Kd) (v : Nat → Value) : Prop := match K with
  | .inl ci => ∃ r : vw_C, clAll[ci]? = some r ∧ t_OB a (D.1 ci) r.2.2 (D.2 ci) H v
  | .inr t => ∃ cell : Cell, H[a]? = some cell ∧ U.isArrayOf cell t.1 ∧ va_RA U cell.cls t.1 ∧ cell.vm = .none ∧ cell.slots.size = t.2 ∧ ∀ j, j < t.2 → cell.slots[j]? = some (v j)
theorem cOk.moved {D : va_G} {u U : State} {H : Heap} {a : Nat} {K : Kd} {v : Nat → Value} (hvm : u.vm.Alike U.vm) (h : cOk D u H a K v) : cOk D U H a K v := by
  cases K with
  | inl ci => exact h
  | inr t =>
    obtain ⟨cell, h1, h2, h3, h4⟩ := h
    exact ⟨cell, h1, State.isArrayOf_alike hvm h2, h3.moved hvm, h4⟩
theorem cOk.kept {D : va_G} {U : State} {H H1 : Heap} {a : Nat} {K : Kd} {v : Nat → Value} (h : cOk D U H a K v) (hq : H1[a]? = H[a]?) : cOk D U H1 a K v := by
  cases K with
  | inl ci =>
    obtain ⟨r, h1, h2⟩ := h
    exact ⟨r, h1, h2.kept hq⟩
  | inr t =>
    obtain ⟨cell, h1, h2⟩ := h
    exact ⟨cell, hq.trans h1, h2⟩
def Mem (E : En) (U : State) (H : Heap) (σ : Mm) : Prop :=
  sz σ = H.size ∧ lo E ≤ H.size ∧ (∀ q : Nat, q < lo E → H[q]? = E.2.1.heap[q]?) ∧ ∀ a : Nat, lo E ≤ a → a < H.size → cOk E.1 U H a (kd σ a) (rd σ a)
theorem memMoved {E : En} {u U : State} {H : Heap} {σ : Mm} (hvm : u.vm.Alike U.vm) (h : Mem E u H σ) : Mem E U H σ :=
  ⟨h.1, h.2.1, h.2.2.1, fun a h1 h2 => (h.2.2.2 a h1 h2).moved hvm⟩
/-- one cell has new contents -/
theorem memSet {E : En} {U : State} {H H1 : Heap} {σ : Mm} {a k : Nat} {v : Value} (h : Mem E U H σ) (ha : lo E ≤ a) (z : H1.size = H.size) (oq : ∀ q : Nat, q ≠ a → H1[q]? = H[q]?) (hc : cOk E.1 U H1 a (kd σ a) (rd (wr σ a k v) a)) : Mem E U H1 (wr σ a k v) := by
  refine ⟨by rw [z]; exact h.1, by rw [z]; exact h.2.1, fun q hq => ?_, fun b h1 h2 => ?_⟩
  · rw [oq q (by omega)]
    exact h.2.2.1 q hq
  · by_cases hb : b = a
    · subst hb
      exact hc
    · have e : rd (wr σ a k v) b = rd σ b := by
        funext j
        exact rd_wr_a σ k j v hb
      rw [e]
      exact (h.2.2.2 b h1 (by rw [← z]; exact h2)).kept (oq b hb)
/-- a new cell -/
theorem memPush {E : En} {U : State} {H H1 : Heap} {σ : Mm} {K : Kd} {f : Nat → Value} (h : Mem E U H σ) (z : H1.size = H.size + 1) (oq : ∀ q : Nat, q < H.size → H1[q]? = H[q]?) (hc : cOk E.1 U H1 H.size K f) : Mem E U H1 (nw σ K f) := by
  refine ⟨by rw [z, sz_nw, h.1], by rw [z]; have := h.2.1; omega, fun q hq => ?_, fun b h1 h2 => ?_⟩
  · rw [oq q (Nat.lt_of_lt_of_le hq h.2.1)]
    exact h.2.2.1 q hq
  · by_cases hb : b = H.size
    · rw [hb, ← h.1, kd_nw_s, h.1]
      have e : rd (nw σ K f) H.size = f := by
        funext j
        rw [← h.1]
        exact rd_nw_s σ K f j
      rw [e]
      exact hc
    · have hb2 : b ≠ sz σ := by rw [h.1]; exact hb
      have e : rd (nw σ K f) b = rd σ b := by
        funext j
        exact rd_nw_o σ K f j hb2
      rw [e, kd_nw_o σ K f hb2]
      have hl : b < H.size := by omega
      exact (h.2.2.2 b h1 hl).kept (oq b hl)
/-- an object of class number ci; an array -/
def Ob (E : En) (σ : Mm) (a ci : Nat) : Prop := lo E ≤ a ∧ a < sz σ ∧ kd σ a = .inl ci
def Ar (E : En) (σ : Mm) (a : Nat) (ty : FieldType) (n : Nat) : Prop := lo E ≤ a ∧ a < sz σ ∧ kd σ a = .inr (ty, n)
theorem obW {E : En} {σ : Mm} {a ci b k : Nat} {v : Value} (h : Ob E σ a ci) : Ob E (wr σ b k v) a ci := h
theorem arW {E : En} {σ : Mm} {a b k n : Nat} {ty : FieldType} {v : Value} (h : Ar E σ a ty n) : Ar E (wr σ b k v) a ty n := h
theorem obN {E : En} {σ : Mm} {a ci : Nat} {K : Kd} {f : Nat → Value} (h : Ob E σ a ci) : Ob E (nw σ K f) a ci :=
  ⟨h.1, by rw [sz_nw]; exact Nat.lt_succ_of_lt h.2.1, by rw [kd_nw_o σ K f (Nat.ne_of_lt h.2.1)]; exact h.2.2⟩
theorem arN {E : En} {σ : Mm} {a n : Nat} {ty : FieldType} {K : Kd} {f : Nat → Value} (h : Ar E σ a ty n) : Ar E (nw σ K f) a ty n :=
  ⟨h.1, by rw [sz_nw]; exact Nat.lt_succ_of_lt h.2.1, by rw [kd_nw_o σ K f (Nat.ne_of_lt h.2.1)]; exact h.2.2⟩
theorem obNew {E : En} {σ : Mm} {ci : Nat} {f : Nat → Value} (h : lo E ≤ sz σ) : Ob E (nw σ (.inl ci) f) (sz σ) ci := ⟨h, Nat.lt_succ_self _, kd_nw_s σ _ f⟩
theorem arNew {E : En} {σ : Mm} {n : Nat} {ty : FieldType} {f : Nat → Value} (h : lo E ≤ sz σ) : Ar E (nw σ (.inr (ty, n)) f) (sz σ) ty n := ⟨h, Nat.lt_succ_self _, kd_nw_s σ _ f⟩
theorem memLo {E : En} {U : State} {H : Heap} {σ : Mm} (h : Mem E U H σ) : lo E ≤ sz σ := by rw [h.1]; exact h.2.1
def Lc (E : En) (locs : List Loc) : Prop := ∀ q ∈ locs, lo E ≤ q.base
theorem lcNil {E : En} : Lc E [] := fun q h => by cases h
theorem lcPut {E : En} {locs : List Loc} {a i : Nat} (h : Lc E locs) (ha : lo E ≤ a) : Lc E (locs ++ [⟨a, i⟩]) := by
  intro q hq
  rcases List.mem_append.mp hq with h1 | h1
  · exact h q h1
  · rw [List.mem_singleton.mp h1]
    exact ha
/-! contracts -/
def XPc (E : En) (av : List Value) (σ : Mm) : Array Value → State → Prop := va_Pc av (fun U => E.2.1.WarmedH U.vm ∧ Mem E U U.heap σ)
def XQc (E : En) (post : Option Value → Mm → Prop) : Array Value → State → Outcome → State → Prop := fun _ _ o t => ∃ (v : Option Value) (σ' : Mm), o = .returned v ∧ post v σ' ∧ Mem E t t.heap σ'
def XXc (E : En) (xp : String → Nat → Mm → Prop) : String → Addr → State → State → Prop := fun X q _ t => ∃ σ' : Mm, xp X q σ' ∧ Mem E t t.heap σ'
def XA (E : En) : Addr → Prop := fun q => lo E ≤ q
/-- THE CONTRACT: from memory σ and these arguments the method returns v at memory σ' with post v σ', or throws the object q of class X at σ' with xp X q σ' -/
def Ctr (l : Launch) (E : En) (y : MethodName) (ws : List Cond) (f L mc ms : Nat) (av : List Value) (σ : Mm) (post : Option Value → Mm → Prop) (xp : String → Nat → Mm → Prop) : Prop :=
  W0 l E → vx_Met l y ws ({ frames := f, cells := mc, slots := ms, locals := L } : Room) (XPc E av σ) (XQc E post) (XXc E xp) mc ms (XA E)
theorem xpcBlind (E : En) (av : List Value) (σ : Mm) : FrameBlind (XPc E av σ) := fun _ _ _ _ h => ⟨h.1, h.2.1, h.2.2⟩
/-- what is fixed all through a method's walk -/
def Fx (l : Launch) (E : En) (p : Program) (s : State) (m : MethodId) (args : Array Value) (meth : Method) (c : Code) (cc : ByteArray) (nL : Nat) (own : String) (ret : Option FieldType) : Prop :=
  W0 l E ∧ E.2.1.WarmedH s.vm ∧ p.tables.exec = Jvm.exec ∧ c.code = cc ∧ c.maxLocals = nL ∧ meth.sig.returnType = ret ∧ meth.locks = false ∧ s.vm.findClass own = some m.cls ∧ (∀ w ∈ lw_all, w.before args s = true) ∧ CallFix p m c cc nL s args lw_all own
def noX : String → Nat → Mm → Prop := fun _ _ _ => False
theorem x_head {l : Launch} {E : En} {y : MethodName} {own : String} {ws : List Cond} {f L mc ms : Nat} {av : List Value} {σ : Mm} {post : Option Value → Mm → Prop} {xp : String → Nat → Mm → Prop} {cc : ByteArray} {maxL : Nat} {ret : Option FieldType}
    (hy : plainName y.cls = true) (hyc : y.cls = own) (hw : ws = Cond.code y cc maxL ret :: lw_all) (hn : (lg_sl av).length ≤ maxL)
    (body : ∀ (p : Program) (e : Env) (s : State) (m : MethodId) (args : Array Value) (below : List Frame) (meth : Method) (c : Code) (H : Heap) (ls : Array Slot), Fx l E p s m args meth c cc maxL own ret → meth.name = y.name → (∀ x ∈ c.exceptionTable.toList, False) → Mem E s H σ → lh ls maxL (lv_args 0 av) →
      W p l e ({ frames := f, cells := mc, slots := ms, locals := L } : Room) s m args below meth c H [] 0 0 (vx_MQ below (XQc E post) (XXc E xp) args s mc ms (XA E)) (F0 m 0 ls [])) : Ctr l E y ws f L mc ms av σ post xp := by
  intro hW0
  refine vx_ofW (cc := cc) (maxL := maxL) (ret := ret) hy hw ?_
  intro p e s m args below meth c s₁ B hml hnx hv
  obtain ⟨rfl, hwm, hM⟩ := hv
  have hts := atoms_spec (ws := ws) B.pre
  have hts2 : ∀ w ∈ lw_all, w.before av.toArray s = true := fun w h => hts w (by rw [hw]; exact List.mem_cons_of_mem _ h)
  have hown : s.vm.findClass own = some m.cls := hyc ▸ findClass_of_methodNamed B.named
  rw [lg_entry_eq]
  exact body p e s m _ below meth c s.heap _ ⟨hW0, hwm, B.exec, B.bytes, hml, B.returns, B.notSynchronized, hown, hts2, B.exec, B.bytes, hml, hown, hts2⟩ (name_of_methodNamed B.named B.method).1 hnx hM (lh_of (lv_entry av hn))
/-- the head of a method with handlers -/
theorem x_headW {l : Launch} {E : En} {y : MethodName} {own : String} {ws : List Cond} {f L mc ms : Nat} {av : List Value} {σ : Mm} {post : Option Value → Mm → Prop} {xp : String → Nat → Mm → Prop} {cc : ByteArray} {maxL : Nat} {ret : Option FieldType} {hh : List (Nat × Nat × Nat × Nat)}
    (hy : plainName y.cls = true) (hyc : y.cls = own) (hw : ws = Cond.codeWith y cc maxL ret hh :: lw_all) (hn : (lg_sl av).length ≤ maxL)
    (body : ∀ (p : Program) (e : Env) (s : State) (m : MethodId) (args : Array Value) (below : List Frame) (meth : Method) (c : Code) (H : Heap) (ls : Array Slot), Fx l E p s m args meth c cc maxL own ret → meth.name = y.name → c.exceptionTable.toList = tableOf hh → Mem E s H σ → lh ls maxL (lv_args 0 av) →
      W p l e ({ frames := f, cells := mc, slots := ms, locals := L } : Room) s m args below meth c H [] 0 0 (vx_MQ below (XQc E post) (XXc E xp) args s mc ms (XA E)) (F0 m 0 ls [])) : Ctr l E y ws f L mc ms av σ post xp := by
  intro hW0
  refine vx_ofWH (cc := cc) (maxL := maxL) (ret := ret) (hh := hh) hy hw ?_
  intro p e s m args below meth c s₁ B hml hv
  obtain ⟨rfl, hwm, hM⟩ := hv
  have hts := atoms_spec (ws := ws) B.pre
  have hts2 : ∀ w ∈ lw_all, w.before av.toArray s = true := fun w h => hts w (by rw [hw]; exact List.mem_cons_of_mem _ h)
  have hown : s.vm.findClass own = some m.cls := hyc ▸ findClass_of_methodNamed B.named
  have htab : c.exceptionTable.toList = tableOf hh := vx_table (x := y) (bytes := cc) (maxL' := maxL) (ret' := ret) B (hts _ (by rw [hw]; exact List.mem_cons_self))
  rw [lg_entry_eq]
  exact body p e s m _ below meth c s.heap _ ⟨hW0, hwm, B.exec, B.bytes, hml, B.returns, B.notSynchronized, hown, hts2, B.exec, B.bytes, hml, hown, hts2⟩ (name_of_methodNamed B.named B.method).1 htab hM (lh_of (lv_entry av hn))
/-- a stronger contract gives a weaker one -/
theorem vx_MQ.mono {below : List Frame} {E : En} {p1 p2 : Option Value → Mm → Prop} {x1 x2 : String → Nat → Mm → Prop} {a : Array Value} {s : State} {mc ms : Nat} (hp : ∀ v σ', p1 v σ' → p2 v σ') (hx : ∀ X q σ', x1 X q σ' → x2 X q σ') {t : State} (h : vx_MQ below (XQc E p1) (XXc E x1) a s mc ms (XA E) t) : vx_MQ below (XQc E p2) (XXc E x2) a s mc ms (XA E) t := by
  obtain ⟨o, h1, h2, h3⟩ := h
  refine ⟨o, h1, h2, ?_⟩
  rcases h3 with ⟨⟨v, σ', q1, q2, q3⟩, h4⟩ | ⟨q, q1, X, ce, L, ⟨σ', q2, q3⟩, h5⟩
  · exact Or.inl ⟨⟨v, σ', q1, hp _ _ q2, q3⟩, h4⟩
  · exact Or.inr ⟨q, q1, X, ce, L, ⟨σ', hx _ _ _ q2, q3⟩, h5⟩
section XE
variable {p : Program} {l : Launch} {e : Env} {R : Room} {s : State} {m : MethodId} {args : Array Value} {below : List Frame} {meth : Method} {c : Code} {H : Heap} {locs : List Loc} {cells slots : Nat} {Q : State → Prop}
variable {E : En} {cc : ByteArray} {nL : Nat} {own : String} {σ : Mm} {post : Option Value → Mm → Prop} {xp : String → Nat → Mm → Prop} {mc ms pc : Nat} {ls : Array Slot}
/-- ends: an int (boolean, char ..), a long, float, double, reference, nothing -/
theorem x_ireturn {ty : FieldType} {v : Int32} (hF : Fx l E p s m args meth c cc nL own (some ty)) (hM : Mem E s H σ) (hL : Lc E locs) (hn : narrow ty (.int v) = .int v) (hc : cells ≤ mc) (hs : slots ≤ ms) (hp : post (some (.int v)) σ) (hdg : decode cc pc = .ok (.ireturn, 1)) :
    W p l e R s m args below meth c H locs cells slots (vx_MQ below (XQc E post) (XXc E xp) args s mc ms (XA E)) (F0 m pc ls [.int v]) := by
  obtain ⟨-, -, hx, hb, -, hr, hlk, -⟩ := hF
  refine W.widen hc hs (vx_ret ?_)
  exact W.zret (ty := ty) hx hb hr hn (fun t ht hW => ⟨_, σ, rfl, hp, by rw [ht]; exact memMoved hW.alike hM⟩) hL hdg hlk
theorem x_lreturn {v : Int64} (hF : Fx l E p s m args meth c cc nL own (some .long)) (hM : Mem E s H σ) (hL : Lc E locs) (hc : cells ≤ mc) (hs : slots ≤ ms) (hp : post (some (.long v)) σ) (hdg : decode cc pc = .ok (.lreturn, 1)) :
    W p l e R s m args below meth c H locs cells slots (vx_MQ below (XQc E post) (XXc E xp) args s mc ms (XA E)) (F0 m pc ls [.long v]) := by
  obtain ⟨-, -, hx, hb, -, hr, hlk, -⟩ := hF
  refine W.widen hc hs (vx_ret ?_)
  exact W.lret hx hb hr (fun t ht hW => ⟨_, σ, rfl, hp, by rw [ht]; exact memMoved hW.alike hM⟩) hL hdg hlk
theorem x_freturn {v : UInt32} (hF : Fx l E p s m args meth c cc nL own (some .float)) (hM : Mem E s H σ) (hL : Lc E locs) (hc : cells ≤ mc) (hs : slots ≤ ms) (hp : post (some (.float v)) σ) (hdg : decode cc pc = .ok (.freturn, 1)) :
    W p l e R s m args below meth c H locs cells slots (vx_MQ below (XQc E post) (XXc E xp) args s mc ms (XA E)) (F0 m pc ls [.float v]) := by
  obtain ⟨-, -, hx, hb, -, hr, hlk, -⟩ := hF
  refine W.widen hc hs (vx_ret ?_)
  exact W.fret hx hb hr (fun t ht hW => ⟨_, σ, rfl, hp, by rw [ht]; exact memMoved hW.alike hM⟩) hL hdg hlk
theorem x_dreturn {v : UInt64} (hF : Fx l E p s m args meth c cc nL own (some .double)) (hM : Mem E s H σ) (hL : Lc E locs) (hc : cells ≤ mc) (hs : slots ≤ ms) (hp : post (some (.double v)) σ) (hdg : decode cc pc = .ok (.dreturn, 1)) :
    W p l e R s m args below meth c H locs cells slots (vx_MQ below (XQc E post) (XXc E xp) args s mc ms (XA E)) (F0 m pc ls [.double v]) := by
  obtain ⟨-, -, hx, hb, -, hr, hlk, -⟩ := hF
  refine W.widen hc hs (vx_ret ?_)
  exact W.dret hx hb hr (fun t ht hW => ⟨_, σ, rfl, hp, by rw [ht]; exact memMoved hW.alike hM⟩) hL hdg hlk
theorem x_areturn {v : Value} {rt : FieldType} (hF : Fx l E p s m args meth c cc nL own (some rt)) (hM : Mem E s H σ) (hL : Lc E locs) (hrt : (∃ n, rt = .object n) ∨ ∃ t, rt = .array t) (hv : v = .null ∨ ∃ a, v = .ref a) (hc : cells ≤ mc) (hs : slots ≤ ms) (hp : post (some v) σ) (hdg : decode cc pc = .ok (.areturn, 1)) :
    W p l e R s m args below meth c H locs cells slots (vx_MQ below (XQc E post) (XXc E xp) args s mc ms (XA E)) (F0 m pc ls [v]) := by
  obtain ⟨-, -, hx, hb, -, hr, hlk, -⟩ := hF
  refine W.widen hc hs (vx_ret ?_)
  exact W.aret hx hb hr hrt hv (fun t ht hW => ⟨_, σ, rfl, hp, by rw [ht]; exact memMoved hW.alike hM⟩) hL hdg hlk
theorem x_return (hF : Fx l E p s m args meth c cc nL own none) (hM : Mem E s H σ) (hL : Lc E locs) (hc : cells ≤ mc) (hs : slots ≤ ms) (hp : post none σ) (hdg : decode cc pc = .ok (.return_, 1)) :
    W p l e R s m args below meth c H locs cells slots (vx_MQ below (XQc E post) (XXc E xp) args s mc ms (XA E)) (F0 m pc ls []) := by
  obtain ⟨-, -, hx, hb, -, hr, hlk, -⟩ := hF
  refine W.widen hc hs (vx_ret ?_)
  exact W.vret hx hb hr (fun t ht hW => ⟨_, σ, rfl, hp, by rw [ht]; exact memMoved hW.alike hM⟩) hL hdg hlk
/-- behind a call -/
theorem x_k {E : En} {a : Array Value} {st0 rest : List Value} {mk sk : Nat} (hL : Lc E locs) {po : Option Value → Mm → Prop} {xo : String → Nat → Mm → Prop}
    (hr : vx_Run p l e R s m args below meth c H locs cells slots mk sk (F0 m pc ls st0) rest (XQc E po a) (XXc E xo) (XA E))
    (kx : ∀ (X : String) (q : Addr) (ce : Cell) (σ' : Mm) (H' : Heap) (locs' : List Loc), xo X q σ' → Mem E s H' σ' → Lc E locs' → H'[q]? = some ce → ce.vm = .none → s.vm.findClass X = some ce.cls → vx_W p l e R s m args below meth c H' locs' (cells + mk) (slots + sk) Q (F0 m pc ls rest) q)
    (kk : ∀ (v : Option Value) (σ' : Mm) (H' : Heap) (locs' : List Loc), po v σ' → Mem E s H' σ' → Lc E locs' → W p l e R s m args below meth c H' locs' (cells + mk) (slots + sk) Q (F0 m (pc + 3) ls (v.toList ++ rest))) :
    W p l e R s m args below meth c H locs cells slots Q (F0 m pc ls st0) := by
  intro T hT X
  have app : ∀ L : List Loc, (∀ q ∈ L, XA E q.base) → Lc E (locs ++ L) := fun L h q hq => (List.mem_append.mp hq).elim (hL q) (h q)
  rcases hr T hT X with ⟨v, st₀, t, T', L, h0, X', hl, e1, e2, ⟨w, σ', hv, hp, hm⟩, st⟩ | ⟨q, st₀, t, T', L, Y, ce, h0, X', hl, e1, e2, ⟨σ', hp, hm⟩, hce, hcv, hcl, st⟩
  · cases hv
    have hal : t.vm.Alike s.vm := by rw [← e2]; exact X'.warmed.alike.symm
    obtain ⟨t2, a1, b1⟩ := kk v σ' T'.heap (locs ++ L) hp (by rw [e1]; exact memMoved hal hm) (app L hl) T' rfl X'
    exact ⟨t2, st t2 a1, b1⟩
  · have hal : t.vm.Alike s.vm := by rw [← e2]; exact X'.warmed.alike.symm
    obtain ⟨t2, a1, b1⟩ := kx Y q ce σ' T'.heap (locs ++ L) hp (by rw [e1]; exact memMoved hal hm) (app L hl) (by rw [e1]; exact hce) hcv hcl T' rfl X'
    exact ⟨t2, st.trans a1, b1⟩
/-- behind a call that doesn't throw -/
theorem x_kn {E : En} {a : Array Value} {st0 rest : List Value} {mk sk : Nat} (hL : Lc E locs) {po : Option Value → Mm → Prop}
    (hr : vx_Run p l e R s m args below meth c H locs cells slots mk sk (F0 m pc ls st0) rest (XQc E po a) (XXc E noX) (XA E))
    (kk : ∀ (v : Option Value) (σ' : Mm) (H' : Heap) (locs' : List Loc), po v σ' → Mem E s H' σ' → Lc E locs' → W p l e R s m args below meth c H' locs' (cells + mk) (slots + sk) Q (F0 m (pc + 3) ls (v.toList ++ rest))) :
    W p l e R s m args below meth c H locs cells slots Q (F0 m pc ls st0) :=
  x_k hL hr (fun _ _ _ _ _ _ h => h.elim) kk
/-- a call whose answer and memory are known -/
theorem x_kp {E : En} {a : Array Value} {st0 rest : List Value} {mk sk : Nat} {w : Value} {σ' : Mm} (hL : Lc E locs)
    (hr : vx_Run p l e R s m args below meth c H locs cells slots mk sk (F0 m pc ls st0) rest (XQc E (fun v τ => v = some w ∧ τ = σ') a) (XXc E noX) (XA E))
    (kk : ∀ (H' : Heap) (locs' : List Loc), Mem E s H' σ' → Lc E locs' → W p l e R s m args below meth c H' locs' (cells + mk) (slots + sk) Q (F0 m (pc + 3) ls (w :: rest))) :
    W p l e R s m args below meth c H locs cells slots Q (F0 m pc ls st0) :=
  x_kn hL hr (fun _ _ H' locs' h hM hl => by obtain ⟨rfl, rfl⟩ := h; exact kk H' locs' hM hl)
theorem x_preS {E : En} {ret : Option FieldType} {As : List Value} (hF : Fx l E p s m args meth c cc nL own ret) (hM : Mem E s H σ) : PreS s H (XPc E As σ) As :=
  ⟨xpcBlind E As σ, fun U hU hW => ⟨rfl, State.WarmedH.trans hF.2.1 hW, by rw [hU]; exact memMoved hW.alike hM⟩⟩
theorem x_recv {E : En} {a ci : Nat} {r : vw_C} {ret : Option FieldType} (hF : Fx l E p s m args meth c cc nL own ret) (hM : Mem E s H σ) (ho : Ob E σ a ci) (hc : clAll[ci]? = some r) : ∃ cell : Cell, H[a]? = some cell ∧ cell.vm.isStatics = false ∧ s.vm.findClass r.1 = some cell.cls := by
  obtain ⟨h1, h2, h3⟩ := ho
  have h4 := hM.2.2.2 a h1 (by rw [← hM.1]; exact h2)
  rw [h3] at h4
  obtain ⟨r', q1, cell, q2, q3, q4, -⟩ := h4
  obtain rfl : r' = r := Option.some.inj (q1.symm.trans hc)
  refine ⟨cell, q2, by rw [q4]; rfl, ?_⟩
  rw [q3]
  have h5 := ((va_K.moved hF.2.1.alike hF.1.2.1).1 ci _ hc).2.1
  exact h5
theorem x_preV {E : En} {ret : Option FieldType} {a ci : Nat} {r : vw_C} {As : List Value} (hF : Fx l E p s m args meth c cc nL own ret) (hM : Mem E s H σ) (ho : Ob E σ a ci) (hc : clAll[ci]? = some r) : PreV s H r.1 a (XPc E (.ref a :: As) σ) As :=
  ⟨xpcBlind E _ σ, x_recv hF hM ho hc, fun U hU hW => ⟨rfl, State.WarmedH.trans hF.2.1 hW, by rw [hU]; exact memMoved hW.alike hM⟩⟩
end XE
