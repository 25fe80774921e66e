/-! BASE 4: truth values, switches, sums -/
theorem b2_or (P : Prop) (d : Decidable P) : (P ∧ @ite Int P d 1 0 = 1) ∨ (¬ P ∧ @ite Int P d 1 0 = 0) := by
  by_cases h : P
  · exact Or.inl ⟨h, if_pos h⟩
  · exact Or.inr ⟨h, if_neg h⟩
theorem nar_z {z : Int} (h : z = 0 ∨ z = 1) : narrow .boolean (.int (iz z)) = .int (iz z) := by
  rcases h with h | h <;> subst h <;> rfl
theorem fit_z {z : Int} (h : z = 0 ∨ z = 1) : fits .boolean (.int (iz z)) = true := by
  rcases h with h | h <;> subst h <;> rfl
theorem b2_01 {P : Prop} {d : Decidable P} : @ite Int P d 1 0 = 0 ∨ @ite Int P d 1 0 = 1 := by
  rcases b2_or P d with h | h
  · exact Or.inr h.2
  · exact Or.inl h.2
theorem nar_b {P : Prop} {d : Decidable P} : narrow .boolean (.int (iz (@ite Int P d 1 0))) = .int (iz (@ite Int P d 1 0)) := nar_z b2_01
theorem fit_b {P : Prop} {d : Decidable P} : fits .boolean (.int (iz (@ite Int P d 1 0))) = true := fit_z b2_01
section XS
variable {p : Program} {l : Launch} {e : Env} {R : Room} {s : State} {m : MethodId} {args : Array Value} {below : List Frame} {meth : Method} {c : Code} {H : Heap} {locs : List Loc} {cells slots : Nat} {Q : State → Prop}
variable {E : En} {cc : ByteArray} {nL : Nat} {own : String} {ret : Option FieldType} {σ : Mm} {pc : Nat} {ls : Array Slot} {rest : List Value} {a : Nat} {lv : List (Nat × Value)}
theorem x_ifeq_b {P : Prop} {dP : Decidable P} {off : Int} {tgt : Nat} (hF : Fx l E p s m args meth c cc nL own ret) (hdg : decode cc pc = .ok (.ifCond .eq off, 3)) (ht : (pc : Int) + off = (tgt : Int))
    (kt : ¬ P → W p l e R s m args below meth c H locs cells slots Q (F0 m tgt ls rest)) (kf : P → W p l e R s m args below meth c H locs cells slots Q (F0 m (pc + 3) ls rest)) : W p l e R s m args below meth c H locs cells slots Q (F0 m pc ls (.int (iz (@ite Int P dP 1 0)) :: rest)) := by
  rcases b2_or P dP with ⟨h, e⟩ | ⟨h, e⟩
  · rw [e]
    exact x_if_eq hF hdg ht ⟨by omega, by omega⟩ (fun q => absurd q (by omega)) (fun _ => kf h)
  · rw [e]
    exact x_if_eq hF hdg ht ⟨by omega, by omega⟩ (fun _ => kt h) (fun q => absurd rfl q)
theorem x_ifne_b {P : Prop} {dP : Decidable P} {off : Int} {tgt : Nat} (hF : Fx l E p s m args meth c cc nL own ret) (hdg : decode cc pc = .ok (.ifCond .ne off, 3)) (ht : (pc : Int) + off = (tgt : Int))
    (kt : P → W p l e R s m args below meth c H locs cells slots Q (F0 m tgt ls rest)) (kf : ¬ P → W p l e R s m args below meth c H locs cells slots Q (F0 m (pc + 3) ls rest)) : W p l e R s m args below meth c H locs cells slots Q (F0 m pc ls (.int (iz (@ite Int P dP 1 0)) :: rest)) := by
  rcases b2_or P dP with ⟨h, e⟩ | ⟨h, e⟩
  · rw [e]
    exact x_if_ne hF hdg ht ⟨by omega, by omega⟩ (fun _ => kt h) (fun q => absurd q (by omega))
  · rw [e]
    exact x_if_ne hF hdg ht ⟨by omega, by omega⟩ (fun q => absurd rfl q) (fun _ => kf h)
theorem x_tableIn {dflt lo hi : Int} {offs : Array Int} {len i : Nat} {z off : Int} {tgt : Nat} (hF : Fx l E p s m args meth c cc nL own ret) (hdg : decode cc pc = .ok (.tableswitch dflt lo hi offs, len)) (hz : z = lo + i) (hr : inR z) (hh : lo + i ≤ hi) (ho : offs[i]? = some off) (ht : (pc : Int) + off = (tgt : Int))
    (kk : W p l e R s m args below meth c H locs cells slots Q (F0 m tgt ls rest)) : W p l e R s m args below meth c H locs cells slots Q (F0 m pc ls (.int (iz z) :: rest)) := by
  have h1 : (iz z).toInt = z := iz_toInt hr
  refine lv_tableIn hF.2.2.1 hF.2.2.2.1 hdg (by rw [h1]; omega) (by rw [h1]; omega) (off := off) ?_ ht kk
  rw [h1, hz, show (lo + (i : Int) - lo).toNat = i by omega]
  exact ho
theorem x_tableOut {dflt lo hi : Int} {offs : Array Int} {len : Nat} {z : Int} {tgt : Nat} (hF : Fx l E p s m args meth c cc nL own ret) (hdg : decode cc pc = .ok (.tableswitch dflt lo hi offs, len)) (hr : inR z) (hh : z < lo ∨ hi < z) (ht : (pc : Int) + dflt = (tgt : Int))
    (kk : W p l e R s m args below meth c H locs cells slots Q (F0 m tgt ls rest)) : W p l e R s m args below meth c H locs cells slots Q (F0 m pc ls (.int (iz z) :: rest)) := by
  have h1 : (iz z).toInt = z := iz_toInt hr
  exact lv_tableOut hF.2.2.1 hF.2.2.2.1 hdg (by rw [h1]; exact hh) ht kk
/-- a memory by a name -/
theorem x_gen {P : Mm → Prop} {G : Prop} (hM : Mem E s H σ) (hP : P σ) (k : ∀ τ : Mm, Mem E s H τ → P τ → G) : G := k σ hM hP
end XS
theorem x_join {P G : Prop} (h : P → G) (p : P) : G := h p
/-! what stays: all but the places P; cells may be new -/
def Fr (P : Nat → Nat → Prop) (σ τ : Mm) : Prop := sz σ ≤ sz τ ∧ ∀ b : Nat, b < sz σ → kd τ b = kd σ b ∧ ∀ j : Nat, ¬ P b j → rd τ b j = rd σ b j
theorem frRefl (P : Nat → Nat → Prop) (σ : Mm) : Fr P σ σ := ⟨Nat.le_refl _, fun _ _ => ⟨rfl, fun _ _ => rfl⟩⟩
theorem frTrans {P : Nat → Nat → Prop} {σ τ ρ : Mm} (h1 : Fr P σ τ) (h2 : Fr P τ ρ) : Fr P σ ρ :=
  ⟨Nat.le_trans h1.1 h2.1, fun b hb => ⟨((h2.2 b (Nat.lt_of_lt_of_le hb h1.1)).1).trans (h1.2 b hb).1, fun j hj => ((h2.2 b (Nat.lt_of_lt_of_le hb h1.1)).2 j hj).trans ((h1.2 b hb).2 j hj)⟩⟩
theorem frMono {P P2 : Nat → Nat → Prop} {σ τ : Mm} (h : Fr P σ τ) (hP : ∀ b j, b < sz σ → P b j → P2 b j) : Fr P2 σ τ :=
  ⟨h.1, fun b hb => ⟨(h.2 b hb).1, fun j hj => (h.2 b hb).2 j (fun q => hj (hP b j hb q))⟩⟩
theorem frWr {P : Nat → Nat → Prop} {σ τ : Mm} {a k : Nat} {v : Value} (h : Fr P σ τ) (hp : a < sz σ → P a k) : Fr P σ (wr τ a k v) :=
  ⟨h.1, fun b hb => ⟨(h.2 b hb).1, fun j hj => by
    rw [rd_wr, if_neg (fun q => hj (by rw [q.1, q.2]; exact hp (by rw [← q.1]; exact hb)))]
    exact (h.2 b hb).2 j hj⟩⟩
theorem frNw {P : Nat → Nat → Prop} {σ τ : Mm} {K : Kd} {f : Nat → Value} (h : Fr P σ τ) : Fr P σ (nw τ K f) :=
  ⟨Nat.le_succ_of_le h.1, fun b hb => by
    have hne : b ≠ sz τ := by have := h.1; omega
    rw [kd_nw_o τ K f hne]
    exact ⟨(h.2 b hb).1, fun j hj => by rw [rd_nw_o τ K f j hne]; exact (h.2 b hb).2 j hj⟩⟩
theorem obFr {P : Nat → Nat → Prop} {E : En} {σ τ : Mm} {a ci : Nat} (h : Fr P σ τ) (ho : Ob E σ a ci) : Ob E τ a ci :=
  ⟨ho.1, Nat.lt_of_lt_of_le ho.2.1 h.1, ((h.2 a ho.2.1).1).trans ho.2.2⟩
theorem arFr {P : Nat → Nat → Prop} {E : En} {σ τ : Mm} {a n : Nat} {ty : FieldType} (h : Fr P σ τ) (ho : Ar E σ a ty n) : Ar E τ a ty n :=
  ⟨ho.1, Nat.lt_of_lt_of_le ho.2.1 h.1, ((h.2 a ho.2.1).1).trans ho.2.2⟩
/-! families of whole numbers; sums -/
def up2 (F : Nat → Int → Int) (f : Nat) (k v : Int) : Nat → Int → Int := fun g j => if g = f ∧ j = k then v else F g j
theorem up2_s (F : Nat → Int → Int) (f : Nat) (k v : Int) : up2 F f k v f k = v := if_pos ⟨rfl, rfl⟩
theorem up2_f (F : Nat → Int → Int) {f g : Nat} (k v j : Int) (h : g ≠ f) : up2 F f k v g j = F g j := if_neg (fun q => h q.1)
theorem up2_k (F : Nat → Int → Int) (f g : Nat) {k j : Int} (v : Int) (h : j ≠ k) : up2 F f k v g j = F g j := if_neg (fun q => h q.2)
def smN (f : Int → Int) : Nat → Int
  | 0 => 0
  | n + 1 => smN f n + f n
/-- f 0 + .. + f (i - 1) -/
def sm (f : Int → Int) (i : Int) : Int := smN f i.toNat
theorem sm_0 (f : Int → Int) : sm f 0 = 0 := rfl
theorem sm_neg (f : Int → Int) {i : Int} (h : i ≤ 0) : sm f i = 0 := by
  unfold sm
  rw [show i.toNat = 0 by omega]
  rfl
theorem sm_1 (f : Int → Int) {i : Int} (h : 0 ≤ i) : sm f (i + 1) = sm f i + f i := by
  unfold sm
  rw [show (i + 1).toNat = i.toNat + 1 by omega]
  show smN f i.toNat + f i.toNat = _
  rw [Int.toNat_of_nonneg h]
theorem sm_le (f : Int → Int) {c : Int} (hc : 0 ≤ c) (i : Int) (h : ∀ j, 0 ≤ j → j < i → 0 ≤ f j ∧ f j ≤ c) : 0 ≤ i → 0 ≤ sm f i ∧ sm f i ≤ c * i := by
  intro hi
  obtain ⟨n, rfl⟩ : ∃ n : Nat, i = n := ⟨i.toNat, by omega⟩
  clear hi
  induction n with
  | zero => exact ⟨by rw [sm_neg f (by omega)]; omega, by rw [sm_neg f (by omega)]; simp⟩
  | succ n ih =>
    have h1 := ih (fun j h0 h2 => h j h0 (by omega))
    have h2 := h n (by omega) (by omega)
    rw [show ((n + 1 : Nat) : Int) = (n : Int) + 1 by omega, sm_1 f (by omega), Int.mul_add]
    omega
theorem sm_congr {f g : Int → Int} {i : Int} (h : ∀ j, 0 ≤ j → j < i → f j = g j) : sm f i = sm g i := by
  by_cases q : i < 0
  · rw [sm_neg f (by omega), sm_neg g (by omega)]
  · obtain ⟨n, rfl⟩ : ∃ n : Nat, i = n := ⟨i.toNat, by omega⟩
    clear q
    induction n with
    | zero => rfl
    | succ n ih =>
      rw [show ((n + 1 : Nat) : Int) = (n : Int) + 1 by omega, sm_1 f (by omega), sm_1 g (by omega), ih (fun j h0 h2 => h j h0 (by omega)), h n (by omega) (by omega)]
/-- P holds as a number -/
abbrev b2 (P : Prop) [Decidable P] : Int := if P then 1 else 0
