/-! DECODE ROWS BY BYTES: one lemma an opcode; a method's code is cut into short pieces once, and a row reads its own piece alone. -/
set_option maxRecDepth 100000
/-- the code has just these bytes from pc on -/
def DkAt (code : ByteArray) (pc : Nat) (bs : List UInt8) : Prop := ∀ (j : Nat) (b : UInt8), bs[j]? = some b → code.data.toList[pc + j]? = some b
/-- the piece W has the bytes bs from its place j on -/
def dkIn (W : List UInt8) (j : Nat) (bs : List UInt8) : Bool := decide ((W.drop j).take bs.length = bs)
theorem dk_seg {l W T : List UInt8} {o o2 : Nat} (h : l.drop o = W ++ T) (n : Nat) (hn : W.length = n) (ho : o + n = o2) : l.drop o2 = T := by
  subst ho
  rw [← List.drop_drop, h, List.drop_left' hn]
theorem dk_at {code : ByteArray} {W T bs : List UInt8} {o pc : Nat} (h : code.data.toList.drop o = W ++ T) (j : Nat) (hp : o + j = pc) (hw : dkIn W j bs = true) : DkAt code pc bs := by
  subst hp
  intro i b e
  have h1 := of_decide_eq_true hw
  have h2 : i < bs.length := (List.getElem?_eq_some_iff.mp e).1
  have h3 : W[j + i]? = some b := by
    rw [← h1, List.getElem?_take, if_pos h2, List.getElem?_drop] at e
    exact e
  have h4 : j + i < W.length := (List.getElem?_eq_some_iff.mp h3).1
  have h5 : (code.data.toList.drop o)[j + i]? = some b := by
    rw [h, List.getElem?_append_left h4]
    exact h3
  rw [List.getElem?_drop, ← Nat.add_assoc] at h5
  exact h5
theorem dk_u1 {A : ByteArray} {p : Nat} {b : UInt8} (h : A.data.toList[p]? = some b) : (Reader.u1 : Reader DecodeError Nat) A p = .ok (b.toNat, p + 1) := by
  obtain ⟨h1, h2⟩ := List.getElem?_eq_some_iff.mp h
  have h3 : p < A.size := by simpa using h1
  have h4 : A[p]'h3 = b := h2
  have e : (Reader.u1 : Reader DecodeError Nat) A p = (if h : p < A.size then .ok (A[p].toNat, p + 1) else .error (HasTruncated.truncated p)) := by
    show (do if h : p < A.size then do set (p + 1); Pure.pure A[p].toNat else MonadExcept.throw (HasTruncated.truncated p) : Reader DecodeError Nat) A p = _
    by_cases hi : p < A.size
    · rw [dif_pos hi, dif_pos hi]; rfl
    · rw [dif_neg hi, dif_neg hi]; rfl
  rw [e, dif_pos h3, h4]
theorem dk_bind {α β : Type} {r : Reader DecodeError α} {f : α → Reader DecodeError β} {A : ByteArray} {p s : Nat} {a : α} (h : r A p = .ok (a, s)) : (r >>= f) A p = f a A s := by
  show (do let (a, s) ← r A p; f a A s : Except DecodeError (β × Nat)) = _
  rw [h]
  rfl
theorem dk_map {α β : Type} {r : Reader DecodeError α} {g : α → β} {A : ByteArray} {p s : Nat} {a : α} (h : r A p = .ok (a, s)) : (g <$> r) A p = .ok (g a, s) := by
  show (do let (a, s) ← r A p; .ok (g a, s) : Except DecodeError (β × Nat)) = _
  rw [h]
  rfl
theorem dk_u2 {A : ByteArray} {p : Nat} {a b : UInt8} (h : A.data.toList[p]? = some a) (h2 : A.data.toList[p + 1]? = some b) : (Reader.u2 : Reader DecodeError Nat) A p = .ok (a.toNat * 256 + b.toNat, p + 2) := by
  show (Reader.u1 >>= fun hi => Reader.u1 >>= fun lo => Pure.pure (hi * 256 + lo) : Reader DecodeError Nat) A p = _
  rw [dk_bind (dk_u1 h), dk_bind (dk_u1 h2)]
  rfl
theorem dk_of {code : ByteArray} {pc n : Nat} {i : Instr} (h : Decoder.instr pc code pc = .ok (i, pc + n)) : decode code pc = .ok (i, n) := by
  have e : decode code pc = (match Decoder.instr pc code pc with | .error x => .error x | .ok (j, s) => .ok (j, s - pc)) := by
    show (do let (j, s) ← Decoder.instr pc code pc; Pure.pure (j, s - pc) : Except DecodeError (Instr × Nat)) = _
    cases Decoder.instr pc code pc <;> rfl
  rw [e, h]
  show Except.ok (i, pc + n - pc) = _
  rw [Nat.add_sub_cancel_left]
theorem dk_1 {code : ByteArray} {pc : Nat} (h : DkAt code pc [1]) : decode code pc = .ok (.aconst_null, 1) := dk_of ((dk_bind (dk_u1 (h 0 _ rfl))).trans rfl)
theorem dk_2 {code : ByteArray} {pc : Nat} (h : DkAt code pc [2]) : decode code pc = .ok (.iconst (-1), 1) := dk_of ((dk_bind (dk_u1 (h 0 _ rfl))).trans rfl)
theorem dk_3 {code : ByteArray} {pc : Nat} (h : DkAt code pc [3]) : decode code pc = .ok (.iconst 0, 1) := dk_of ((dk_bind (dk_u1 (h 0 _ rfl))).trans rfl)
theorem dk_4 {code : ByteArray} {pc : Nat} (h : DkAt code pc [4]) : decode code pc = .ok (.iconst 1, 1) := dk_of ((dk_bind (dk_u1 (h 0 _ rfl))).trans rfl)
theorem dk_5 {code : ByteArray} {pc : Nat} (h : DkAt code pc [5]) : decode code pc = .ok (.iconst 2, 1) := dk_of ((dk_bind (dk_u1 (h 0 _ rfl))).trans rfl)
theorem dk_6 {code : ByteArray} {pc : Nat} (h : DkAt code pc [6]) : decode code pc = .ok (.iconst 3, 1) := dk_of ((dk_bind (dk_u1 (h 0 _ rfl))).trans rfl)
theorem dk_7 {code : ByteArray} {pc : Nat} (h : DkAt code pc [7]) : decode code pc = .ok (.iconst 4, 1) := dk_of ((dk_bind (dk_u1 (h 0 _ rfl))).trans rfl)
theorem dk_8 {code : ByteArray} {pc : Nat} (h : DkAt code pc [8]) : decode code pc = .ok (.iconst 5, 1) := dk_of ((dk_bind (dk_u1 (h 0 _ rfl))).trans rfl)
theorem dk_9 {code : ByteArray} {pc : Nat} (h : DkAt code pc [9]) : decode code pc = .ok (.lconst 0, 1) := dk_of ((dk_bind (dk_u1 (h 0 _ rfl))).trans rfl)
theorem dk_10 {code : ByteArray} {pc : Nat} (h : DkAt code pc [10]) : decode code pc = .ok (.lconst 1, 1) := dk_of ((dk_bind (dk_u1 (h 0 _ rfl))).trans rfl)
theorem dk_16 {code : ByteArray} {pc : Nat} (a : UInt8) (h : DkAt code pc [16, a]) : decode code pc = .ok (.bipush (Reader.signed 8 a.toNat), 2) := dk_of ((dk_bind (dk_u1 (h 0 _ rfl))).trans ((dk_bind (dk_map (dk_u1 (h 1 _ rfl)))).trans rfl))
theorem dk_17 {code : ByteArray} {pc : Nat} (a b : UInt8) (h : DkAt code pc [17, a, b]) : decode code pc = .ok (.sipush (Reader.signed 16 (a.toNat * 256 + b.toNat)), 3) := dk_of ((dk_bind (dk_u1 (h 0 _ rfl))).trans ((dk_bind (dk_map (dk_u2 (h 1 _ rfl) (h 2 _ rfl)))).trans rfl))
theorem dk_18 {code : ByteArray} {pc : Nat} (a : UInt8) (h : DkAt code pc [18, a]) : decode code pc = .ok (.ldc a.toNat, 2) := dk_of ((dk_bind (dk_u1 (h 0 _ rfl))).trans ((dk_bind (dk_u1 (h 1 _ rfl))).trans rfl))
theorem dk_19 {code : ByteArray} {pc : Nat} (a b : UInt8) (h : DkAt code pc [19, a, b]) : decode code pc = .ok (.ldc_w (a.toNat * 256 + b.toNat), 3) := dk_of ((dk_bind (dk_u1 (h 0 _ rfl))).trans ((dk_bind (dk_u2 (h 1 _ rfl) (h 2 _ rfl))).trans rfl))
theorem dk_20 {code : ByteArray} {pc : Nat} (a b : UInt8) (h : DkAt code pc [20, a, b]) : decode code pc = .ok (.ldc2_w (a.toNat * 256 + b.toNat), 3) := dk_of ((dk_bind (dk_u1 (h 0 _ rfl))).trans ((dk_bind (dk_u2 (h 1 _ rfl) (h 2 _ rfl))).trans rfl))
theorem dk_21 {code : ByteArray} {pc : Nat} (a : UInt8) (h : DkAt code pc [21, a]) : decode code pc = .ok (.iload a.toNat, 2) := dk_of ((dk_bind (dk_u1 (h 0 _ rfl))).trans ((dk_bind (dk_u1 (h 1 _ rfl))).trans rfl))
theorem dk_23 {code : ByteArray} {pc : Nat} (a : UInt8) (h : DkAt code pc [23, a]) : decode code pc = .ok (.fload a.toNat, 2) := dk_of ((dk_bind (dk_u1 (h 0 _ rfl))).trans ((dk_bind (dk_u1 (h 1 _ rfl))).trans rfl))
theorem dk_24 {code : ByteArray} {pc : Nat} (a : UInt8) (h : DkAt code pc [24, a]) : decode code pc = .ok (.dload a.toNat, 2) := dk_of ((dk_bind (dk_u1 (h 0 _ rfl))).trans ((dk_bind (dk_u1 (h 1 _ rfl))).trans rfl))
theorem dk_25 {code : ByteArray} {pc : Nat} (a : UInt8) (h : DkAt code pc [25, a]) : decode code pc = .ok (.aload a.toNat, 2) := dk_of ((dk_bind (dk_u1 (h 0 _ rfl))).trans ((dk_bind (dk_u1 (h 1 _ rfl))).trans rfl))
theorem dk_26 {code : ByteArray} {pc : Nat} (h : DkAt code pc [26]) : decode code pc = .ok (.iload_n 0, 1) := dk_of ((dk_bind (dk_u1 (h 0 _ rfl))).trans rfl)
theorem dk_27 {code : ByteArray} {pc : Nat} (h : DkAt code pc [27]) : decode code pc = .ok (.iload_n 1, 1) := dk_of ((dk_bind (dk_u1 (h 0 _ rfl))).trans rfl)
theorem dk_28 {code : ByteArray} {pc : Nat} (h : DkAt code pc [28]) : decode code pc = .ok (.iload_n 2, 1) := dk_of ((dk_bind (dk_u1 (h 0 _ rfl))).trans rfl)
theorem dk_29 {code : ByteArray} {pc : Nat} (h : DkAt code pc [29]) : decode code pc = .ok (.iload_n 3, 1) := dk_of ((dk_bind (dk_u1 (h 0 _ rfl))).trans rfl)
theorem dk_30 {code : ByteArray} {pc : Nat} (h : DkAt code pc [30]) : decode code pc = .ok (.lload_n 0, 1) := dk_of ((dk_bind (dk_u1 (h 0 _ rfl))).trans rfl)
theorem dk_33 {code : ByteArray} {pc : Nat} (h : DkAt code pc [33]) : decode code pc = .ok (.lload_n 3, 1) := dk_of ((dk_bind (dk_u1 (h 0 _ rfl))).trans rfl)
theorem dk_42 {code : ByteArray} {pc : Nat} (h : DkAt code pc [42]) : decode code pc = .ok (.aload_n 0, 1) := dk_of ((dk_bind (dk_u1 (h 0 _ rfl))).trans rfl)
theorem dk_43 {code : ByteArray} {pc : Nat} (h : DkAt code pc [43]) : decode code pc = .ok (.aload_n 1, 1) := dk_of ((dk_bind (dk_u1 (h 0 _ rfl))).trans rfl)
theorem dk_44 {code : ByteArray} {pc : Nat} (h : DkAt code pc [44]) : decode code pc = .ok (.aload_n 2, 1) := dk_of ((dk_bind (dk_u1 (h 0 _ rfl))).trans rfl)
theorem dk_45 {code : ByteArray} {pc : Nat} (h : DkAt code pc [45]) : decode code pc = .ok (.aload_n 3, 1) := dk_of ((dk_bind (dk_u1 (h 0 _ rfl))).trans rfl)
theorem dk_46 {code : ByteArray} {pc : Nat} (h : DkAt code pc [46]) : decode code pc = .ok (.iaload, 1) := dk_of ((dk_bind (dk_u1 (h 0 _ rfl))).trans rfl)
theorem dk_47 {code : ByteArray} {pc : Nat} (h : DkAt code pc [47]) : decode code pc = .ok (.laload, 1) := dk_of ((dk_bind (dk_u1 (h 0 _ rfl))).trans rfl)
theorem dk_49 {code : ByteArray} {pc : Nat} (h : DkAt code pc [49]) : decode code pc = .ok (.daload, 1) := dk_of ((dk_bind (dk_u1 (h 0 _ rfl))).trans rfl)
theorem dk_50 {code : ByteArray} {pc : Nat} (h : DkAt code pc [50]) : decode code pc = .ok (.aaload, 1) := dk_of ((dk_bind (dk_u1 (h 0 _ rfl))).trans rfl)
theorem dk_51 {code : ByteArray} {pc : Nat} (h : DkAt code pc [51]) : decode code pc = .ok (.baload, 1) := dk_of ((dk_bind (dk_u1 (h 0 _ rfl))).trans rfl)
theorem dk_52 {code : ByteArray} {pc : Nat} (h : DkAt code pc [52]) : decode code pc = .ok (.caload, 1) := dk_of ((dk_bind (dk_u1 (h 0 _ rfl))).trans rfl)
theorem dk_53 {code : ByteArray} {pc : Nat} (h : DkAt code pc [53]) : decode code pc = .ok (.saload, 1) := dk_of ((dk_bind (dk_u1 (h 0 _ rfl))).trans rfl)
theorem dk_54 {code : ByteArray} {pc : Nat} (a : UInt8) (h : DkAt code pc [54, a]) : decode code pc = .ok (.istore a.toNat, 2) := dk_of ((dk_bind (dk_u1 (h 0 _ rfl))).trans ((dk_bind (dk_u1 (h 1 _ rfl))).trans rfl))
theorem dk_56 {code : ByteArray} {pc : Nat} (a : UInt8) (h : DkAt code pc [56, a]) : decode code pc = .ok (.fstore a.toNat, 2) := dk_of ((dk_bind (dk_u1 (h 0 _ rfl))).trans ((dk_bind (dk_u1 (h 1 _ rfl))).trans rfl))
theorem dk_57 {code : ByteArray} {pc : Nat} (a : UInt8) (h : DkAt code pc [57, a]) : decode code pc = .ok (.dstore a.toNat, 2) := dk_of ((dk_bind (dk_u1 (h 0 _ rfl))).trans ((dk_bind (dk_u1 (h 1 _ rfl))).trans rfl))
theorem dk_58 {code : ByteArray} {pc : Nat} (a : UInt8) (h : DkAt code pc [58, a]) : decode code pc = .ok (.astore a.toNat, 2) := dk_of ((dk_bind (dk_u1 (h 0 _ rfl))).trans ((dk_bind (dk_u1 (h 1 _ rfl))).trans rfl))
theorem dk_59 {code : ByteArray} {pc : Nat} (h : DkAt code pc [59]) : decode code pc = .ok (.istore_n 0, 1) := dk_of ((dk_bind (dk_u1 (h 0 _ rfl))).trans rfl)
theorem dk_60 {code : ByteArray} {pc : Nat} (h : DkAt code pc [60]) : decode code pc = .ok (.istore_n 1, 1) := dk_of ((dk_bind (dk_u1 (h 0 _ rfl))).trans rfl)
theorem dk_61 {code : ByteArray} {pc : Nat} (h : DkAt code pc [61]) : decode code pc = .ok (.istore_n 2, 1) := dk_of ((dk_bind (dk_u1 (h 0 _ rfl))).trans rfl)
theorem dk_62 {code : ByteArray} {pc : Nat} (h : DkAt code pc [62]) : decode code pc = .ok (.istore_n 3, 1) := dk_of ((dk_bind (dk_u1 (h 0 _ rfl))).trans rfl)
theorem dk_63 {code : ByteArray} {pc : Nat} (h : DkAt code pc [63]) : decode code pc = .ok (.lstore_n 0, 1) := dk_of ((dk_bind (dk_u1 (h 0 _ rfl))).trans rfl)
theorem dk_66 {code : ByteArray} {pc : Nat} (h : DkAt code pc [66]) : decode code pc = .ok (.lstore_n 3, 1) := dk_of ((dk_bind (dk_u1 (h 0 _ rfl))).trans rfl)
theorem dk_76 {code : ByteArray} {pc : Nat} (h : DkAt code pc [76]) : decode code pc = .ok (.astore_n 1, 1) := dk_of ((dk_bind (dk_u1 (h 0 _ rfl))).trans rfl)
theorem dk_77 {code : ByteArray} {pc : Nat} (h : DkAt code pc [77]) : decode code pc = .ok (.astore_n 2, 1) := dk_of ((dk_bind (dk_u1 (h 0 _ rfl))).trans rfl)
theorem dk_78 {code : ByteArray} {pc : Nat} (h : DkAt code pc [78]) : decode code pc = .ok (.astore_n 3, 1) := dk_of ((dk_bind (dk_u1 (h 0 _ rfl))).trans rfl)
theorem dk_79 {code : ByteArray} {pc : Nat} (h : DkAt code pc [79]) : decode code pc = .ok (.iastore, 1) := dk_of ((dk_bind (dk_u1 (h 0 _ rfl))).trans rfl)
theorem dk_80 {code : ByteArray} {pc : Nat} (h : DkAt code pc [80]) : decode code pc = .ok (.lastore, 1) := dk_of ((dk_bind (dk_u1 (h 0 _ rfl))).trans rfl)
theorem dk_82 {code : ByteArray} {pc : Nat} (h : DkAt code pc [82]) : decode code pc = .ok (.dastore, 1) := dk_of ((dk_bind (dk_u1 (h 0 _ rfl))).trans rfl)
theorem dk_83 {code : ByteArray} {pc : Nat} (h : DkAt code pc [83]) : decode code pc = .ok (.aastore, 1) := dk_of ((dk_bind (dk_u1 (h 0 _ rfl))).trans rfl)
theorem dk_84 {code : ByteArray} {pc : Nat} (h : DkAt code pc [84]) : decode code pc = .ok (.bastore, 1) := dk_of ((dk_bind (dk_u1 (h 0 _ rfl))).trans rfl)
theorem dk_85 {code : ByteArray} {pc : Nat} (h : DkAt code pc [85]) : decode code pc = .ok (.castore, 1) := dk_of ((dk_bind (dk_u1 (h 0 _ rfl))).trans rfl)
theorem dk_87 {code : ByteArray} {pc : Nat} (h : DkAt code pc [87]) : decode code pc = .ok (.pop, 1) := dk_of ((dk_bind (dk_u1 (h 0 _ rfl))).trans rfl)
theorem dk_89 {code : ByteArray} {pc : Nat} (h : DkAt code pc [89]) : decode code pc = .ok (.dup, 1) := dk_of ((dk_bind (dk_u1 (h 0 _ rfl))).trans rfl)
theorem dk_90 {code : ByteArray} {pc : Nat} (h : DkAt code pc [90]) : decode code pc = .ok (.dup_x1, 1) := dk_of ((dk_bind (dk_u1 (h 0 _ rfl))).trans rfl)
theorem dk_92 {code : ByteArray} {pc : Nat} (h : DkAt code pc [92]) : decode code pc = .ok (.dup2, 1) := dk_of ((dk_bind (dk_u1 (h 0 _ rfl))).trans rfl)
theorem dk_96 {code : ByteArray} {pc : Nat} (h : DkAt code pc [96]) : decode code pc = .ok (.iadd, 1) := dk_of ((dk_bind (dk_u1 (h 0 _ rfl))).trans rfl)
theorem dk_97 {code : ByteArray} {pc : Nat} (h : DkAt code pc [97]) : decode code pc = .ok (.ladd, 1) := dk_of ((dk_bind (dk_u1 (h 0 _ rfl))).trans rfl)
theorem dk_100 {code : ByteArray} {pc : Nat} (h : DkAt code pc [100]) : decode code pc = .ok (.isub, 1) := dk_of ((dk_bind (dk_u1 (h 0 _ rfl))).trans rfl)
theorem dk_101 {code : ByteArray} {pc : Nat} (h : DkAt code pc [101]) : decode code pc = .ok (.lsub, 1) := dk_of ((dk_bind (dk_u1 (h 0 _ rfl))).trans rfl)
theorem dk_104 {code : ByteArray} {pc : Nat} (h : DkAt code pc [104]) : decode code pc = .ok (.imul, 1) := dk_of ((dk_bind (dk_u1 (h 0 _ rfl))).trans rfl)
theorem dk_108 {code : ByteArray} {pc : Nat} (h : DkAt code pc [108]) : decode code pc = .ok (.idiv, 1) := dk_of ((dk_bind (dk_u1 (h 0 _ rfl))).trans rfl)
theorem dk_110 {code : ByteArray} {pc : Nat} (h : DkAt code pc [110]) : decode code pc = .ok (.fdiv, 1) := dk_of ((dk_bind (dk_u1 (h 0 _ rfl))).trans rfl)
theorem dk_111 {code : ByteArray} {pc : Nat} (h : DkAt code pc [111]) : decode code pc = .ok (.ddiv, 1) := dk_of ((dk_bind (dk_u1 (h 0 _ rfl))).trans rfl)
theorem dk_112 {code : ByteArray} {pc : Nat} (h : DkAt code pc [112]) : decode code pc = .ok (.irem, 1) := dk_of ((dk_bind (dk_u1 (h 0 _ rfl))).trans rfl)
theorem dk_116 {code : ByteArray} {pc : Nat} (h : DkAt code pc [116]) : decode code pc = .ok (.ineg, 1) := dk_of ((dk_bind (dk_u1 (h 0 _ rfl))).trans rfl)
theorem dk_120 {code : ByteArray} {pc : Nat} (h : DkAt code pc [120]) : decode code pc = .ok (.ishl, 1) := dk_of ((dk_bind (dk_u1 (h 0 _ rfl))).trans rfl)
theorem dk_121 {code : ByteArray} {pc : Nat} (h : DkAt code pc [121]) : decode code pc = .ok (.lshl, 1) := dk_of ((dk_bind (dk_u1 (h 0 _ rfl))).trans rfl)
theorem dk_122 {code : ByteArray} {pc : Nat} (h : DkAt code pc [122]) : decode code pc = .ok (.ishr, 1) := dk_of ((dk_bind (dk_u1 (h 0 _ rfl))).trans rfl)
theorem dk_124 {code : ByteArray} {pc : Nat} (h : DkAt code pc [124]) : decode code pc = .ok (.iushr, 1) := dk_of ((dk_bind (dk_u1 (h 0 _ rfl))).trans rfl)
theorem dk_125 {code : ByteArray} {pc : Nat} (h : DkAt code pc [125]) : decode code pc = .ok (.lushr, 1) := dk_of ((dk_bind (dk_u1 (h 0 _ rfl))).trans rfl)
theorem dk_126 {code : ByteArray} {pc : Nat} (h : DkAt code pc [126]) : decode code pc = .ok (.iand, 1) := dk_of ((dk_bind (dk_u1 (h 0 _ rfl))).trans rfl)
theorem dk_127 {code : ByteArray} {pc : Nat} (h : DkAt code pc [127]) : decode code pc = .ok (.land, 1) := dk_of ((dk_bind (dk_u1 (h 0 _ rfl))).trans rfl)
theorem dk_128 {code : ByteArray} {pc : Nat} (h : DkAt code pc [128]) : decode code pc = .ok (.ior, 1) := dk_of ((dk_bind (dk_u1 (h 0 _ rfl))).trans rfl)
theorem dk_129 {code : ByteArray} {pc : Nat} (h : DkAt code pc [129]) : decode code pc = .ok (.lor, 1) := dk_of ((dk_bind (dk_u1 (h 0 _ rfl))).trans rfl)
theorem dk_130 {code : ByteArray} {pc : Nat} (h : DkAt code pc [130]) : decode code pc = .ok (.ixor, 1) := dk_of ((dk_bind (dk_u1 (h 0 _ rfl))).trans rfl)
theorem dk_131 {code : ByteArray} {pc : Nat} (h : DkAt code pc [131]) : decode code pc = .ok (.lxor, 1) := dk_of ((dk_bind (dk_u1 (h 0 _ rfl))).trans rfl)
theorem dk_132 {code : ByteArray} {pc : Nat} (a b : UInt8) (h : DkAt code pc [132, a, b]) : decode code pc = .ok (.iinc a.toNat (Reader.signed 8 b.toNat), 3) := dk_of ((dk_bind (dk_u1 (h 0 _ rfl))).trans ((dk_bind (dk_u1 (h 1 _ rfl))).trans ((dk_bind (dk_map (dk_u1 (h 2 _ rfl)))).trans rfl)))
theorem dk_133 {code : ByteArray} {pc : Nat} (h : DkAt code pc [133]) : decode code pc = .ok (.i2l, 1) := dk_of ((dk_bind (dk_u1 (h 0 _ rfl))).trans rfl)
theorem dk_134 {code : ByteArray} {pc : Nat} (h : DkAt code pc [134]) : decode code pc = .ok (.i2f, 1) := dk_of ((dk_bind (dk_u1 (h 0 _ rfl))).trans rfl)
theorem dk_135 {code : ByteArray} {pc : Nat} (h : DkAt code pc [135]) : decode code pc = .ok (.i2d, 1) := dk_of ((dk_bind (dk_u1 (h 0 _ rfl))).trans rfl)
theorem dk_136 {code : ByteArray} {pc : Nat} (h : DkAt code pc [136]) : decode code pc = .ok (.l2i, 1) := dk_of ((dk_bind (dk_u1 (h 0 _ rfl))).trans rfl)
theorem dk_141 {code : ByteArray} {pc : Nat} (h : DkAt code pc [141]) : decode code pc = .ok (.f2d, 1) := dk_of ((dk_bind (dk_u1 (h 0 _ rfl))).trans rfl)
theorem dk_145 {code : ByteArray} {pc : Nat} (h : DkAt code pc [145]) : decode code pc = .ok (.i2b, 1) := dk_of ((dk_bind (dk_u1 (h 0 _ rfl))).trans rfl)
theorem dk_146 {code : ByteArray} {pc : Nat} (h : DkAt code pc [146]) : decode code pc = .ok (.i2c, 1) := dk_of ((dk_bind (dk_u1 (h 0 _ rfl))).trans rfl)
theorem dk_148 {code : ByteArray} {pc : Nat} (h : DkAt code pc [148]) : decode code pc = .ok (.lcmp, 1) := dk_of ((dk_bind (dk_u1 (h 0 _ rfl))).trans rfl)
theorem dk_149 {code : ByteArray} {pc : Nat} (h : DkAt code pc [149]) : decode code pc = .ok (.fcmp .l, 1) := dk_of ((dk_bind (dk_u1 (h 0 _ rfl))).trans rfl)
theorem dk_151 {code : ByteArray} {pc : Nat} (h : DkAt code pc [151]) : decode code pc = .ok (.dcmp .l, 1) := dk_of ((dk_bind (dk_u1 (h 0 _ rfl))).trans rfl)
theorem dk_153 {code : ByteArray} {pc : Nat} (a b : UInt8) (h : DkAt code pc [153, a, b]) : decode code pc = .ok (.ifCond .eq (Reader.signed 16 (a.toNat * 256 + b.toNat)), 3) := dk_of ((dk_bind (dk_u1 (h 0 _ rfl))).trans ((dk_bind (dk_map (dk_u2 (h 1 _ rfl) (h 2 _ rfl)))).trans rfl))
theorem dk_154 {code : ByteArray} {pc : Nat} (a b : UInt8) (h : DkAt code pc [154, a, b]) : decode code pc = .ok (.ifCond .ne (Reader.signed 16 (a.toNat * 256 + b.toNat)), 3) := dk_of ((dk_bind (dk_u1 (h 0 _ rfl))).trans ((dk_bind (dk_map (dk_u2 (h 1 _ rfl) (h 2 _ rfl)))).trans rfl))
theorem dk_155 {code : ByteArray} {pc : Nat} (a b : UInt8) (h : DkAt code pc [155, a, b]) : decode code pc = .ok (.ifCond .lt (Reader.signed 16 (a.toNat * 256 + b.toNat)), 3) := dk_of ((dk_bind (dk_u1 (h 0 _ rfl))).trans ((dk_bind (dk_map (dk_u2 (h 1 _ rfl) (h 2 _ rfl)))).trans rfl))
theorem dk_156 {code : ByteArray} {pc : Nat} (a b : UInt8) (h : DkAt code pc [156, a, b]) : decode code pc = .ok (.ifCond .ge (Reader.signed 16 (a.toNat * 256 + b.toNat)), 3) := dk_of ((dk_bind (dk_u1 (h 0 _ rfl))).trans ((dk_bind (dk_map (dk_u2 (h 1 _ rfl) (h 2 _ rfl)))).trans rfl))
theorem dk_157 {code : ByteArray} {pc : Nat} (a b : UInt8) (h : DkAt code pc [157, a, b]) : decode code pc = .ok (.ifCond .gt (Reader.signed 16 (a.toNat * 256 + b.toNat)), 3) := dk_of ((dk_bind (dk_u1 (h 0 _ rfl))).trans ((dk_bind (dk_map (dk_u2 (h 1 _ rfl) (h 2 _ rfl)))).trans rfl))
theorem dk_158 {code : ByteArray} {pc : Nat} (a b : UInt8) (h : DkAt code pc [158, a, b]) : decode code pc = .ok (.ifCond .le (Reader.signed 16 (a.toNat * 256 + b.toNat)), 3) := dk_of ((dk_bind (dk_u1 (h 0 _ rfl))).trans ((dk_bind (dk_map (dk_u2 (h 1 _ rfl) (h 2 _ rfl)))).trans rfl))
theorem dk_159 {code : ByteArray} {pc : Nat} (a b : UInt8) (h : DkAt code pc [159, a, b]) : decode code pc = .ok (.if_icmp .eq (Reader.signed 16 (a.toNat * 256 + b.toNat)), 3) := dk_of ((dk_bind (dk_u1 (h 0 _ rfl))).trans ((dk_bind (dk_map (dk_u2 (h 1 _ rfl) (h 2 _ rfl)))).trans rfl))
theorem dk_160 {code : ByteArray} {pc : Nat} (a b : UInt8) (h : DkAt code pc [160, a, b]) : decode code pc = .ok (.if_icmp .ne (Reader.signed 16 (a.toNat * 256 + b.toNat)), 3) := dk_of ((dk_bind (dk_u1 (h 0 _ rfl))).trans ((dk_bind (dk_map (dk_u2 (h 1 _ rfl) (h 2 _ rfl)))).trans rfl))
theorem dk_161 {code : ByteArray} {pc : Nat} (a b : UInt8) (h : DkAt code pc [161, a, b]) : decode code pc = .ok (.if_icmp .lt (Reader.signed 16 (a.toNat * 256 + b.toNat)), 3) := dk_of ((dk_bind (dk_u1 (h 0 _ rfl))).trans ((dk_bind (dk_map (dk_u2 (h 1 _ rfl) (h 2 _ rfl)))).trans rfl))
theorem dk_162 {code : ByteArray} {pc : Nat} (a b : UInt8) (h : DkAt code pc [162, a, b]) : decode code pc = .ok (.if_icmp .ge (Reader.signed 16 (a.toNat * 256 + b.toNat)), 3) := dk_of ((dk_bind (dk_u1 (h 0 _ rfl))).trans ((dk_bind (dk_map (dk_u2 (h 1 _ rfl) (h 2 _ rfl)))).trans rfl))
theorem dk_163 {code : ByteArray} {pc : Nat} (a b : UInt8) (h : DkAt code pc [163, a, b]) : decode code pc = .ok (.if_icmp .gt (Reader.signed 16 (a.toNat * 256 + b.toNat)), 3) := dk_of ((dk_bind (dk_u1 (h 0 _ rfl))).trans ((dk_bind (dk_map (dk_u2 (h 1 _ rfl) (h 2 _ rfl)))).trans rfl))
theorem dk_164 {code : ByteArray} {pc : Nat} (a b : UInt8) (h : DkAt code pc [164, a, b]) : decode code pc = .ok (.if_icmp .le (Reader.signed 16 (a.toNat * 256 + b.toNat)), 3) := dk_of ((dk_bind (dk_u1 (h 0 _ rfl))).trans ((dk_bind (dk_map (dk_u2 (h 1 _ rfl) (h 2 _ rfl)))).trans rfl))
theorem dk_165 {code : ByteArray} {pc : Nat} (a b : UInt8) (h : DkAt code pc [165, a, b]) : decode code pc = .ok (.if_acmp .eq (Reader.signed 16 (a.toNat * 256 + b.toNat)), 3) := dk_of ((dk_bind (dk_u1 (h 0 _ rfl))).trans ((dk_bind (dk_map (dk_u2 (h 1 _ rfl) (h 2 _ rfl)))).trans rfl))
theorem dk_166 {code : ByteArray} {pc : Nat} (a b : UInt8) (h : DkAt code pc [166, a, b]) : decode code pc = .ok (.if_acmp .ne (Reader.signed 16 (a.toNat * 256 + b.toNat)), 3) := dk_of ((dk_bind (dk_u1 (h 0 _ rfl))).trans ((dk_bind (dk_map (dk_u2 (h 1 _ rfl) (h 2 _ rfl)))).trans rfl))
theorem dk_167 {code : ByteArray} {pc : Nat} (a b : UInt8) (h : DkAt code pc [167, a, b]) : decode code pc = .ok (.goto (Reader.signed 16 (a.toNat * 256 + b.toNat)), 3) := dk_of ((dk_bind (dk_u1 (h 0 _ rfl))).trans ((dk_bind (dk_map (dk_u2 (h 1 _ rfl) (h 2 _ rfl)))).trans rfl))
theorem dk_172 {code : ByteArray} {pc : Nat} (h : DkAt code pc [172]) : decode code pc = .ok (.ireturn, 1) := dk_of ((dk_bind (dk_u1 (h 0 _ rfl))).trans rfl)
theorem dk_174 {code : ByteArray} {pc : Nat} (h : DkAt code pc [174]) : decode code pc = .ok (.freturn, 1) := dk_of ((dk_bind (dk_u1 (h 0 _ rfl))).trans rfl)
theorem dk_175 {code : ByteArray} {pc : Nat} (h : DkAt code pc [175]) : decode code pc = .ok (.dreturn, 1) := dk_of ((dk_bind (dk_u1 (h 0 _ rfl))).trans rfl)
theorem dk_176 {code : ByteArray} {pc : Nat} (h : DkAt code pc [176]) : decode code pc = .ok (.areturn, 1) := dk_of ((dk_bind (dk_u1 (h 0 _ rfl))).trans rfl)
theorem dk_177 {code : ByteArray} {pc : Nat} (h : DkAt code pc [177]) : decode code pc = .ok (.return_, 1) := dk_of ((dk_bind (dk_u1 (h 0 _ rfl))).trans rfl)
theorem dk_178 {code : ByteArray} {pc : Nat} (a b : UInt8) (h : DkAt code pc [178, a, b]) : decode code pc = .ok (.getstatic (a.toNat * 256 + b.toNat), 3) := dk_of ((dk_bind (dk_u1 (h 0 _ rfl))).trans ((dk_bind (dk_u2 (h 1 _ rfl) (h 2 _ rfl))).trans rfl))
theorem dk_180 {code : ByteArray} {pc : Nat} (a b : UInt8) (h : DkAt code pc [180, a, b]) : decode code pc = .ok (.getfield (a.toNat * 256 + b.toNat), 3) := dk_of ((dk_bind (dk_u1 (h 0 _ rfl))).trans ((dk_bind (dk_u2 (h 1 _ rfl) (h 2 _ rfl))).trans rfl))
theorem dk_181 {code : ByteArray} {pc : Nat} (a b : UInt8) (h : DkAt code pc [181, a, b]) : decode code pc = .ok (.putfield (a.toNat * 256 + b.toNat), 3) := dk_of ((dk_bind (dk_u1 (h 0 _ rfl))).trans ((dk_bind (dk_u2 (h 1 _ rfl) (h 2 _ rfl))).trans rfl))
theorem dk_182 {code : ByteArray} {pc : Nat} (a b : UInt8) (h : DkAt code pc [182, a, b]) : decode code pc = .ok (.invokevirtual (a.toNat * 256 + b.toNat), 3) := dk_of ((dk_bind (dk_u1 (h 0 _ rfl))).trans ((dk_bind (dk_u2 (h 1 _ rfl) (h 2 _ rfl))).trans rfl))
theorem dk_183 {code : ByteArray} {pc : Nat} (a b : UInt8) (h : DkAt code pc [183, a, b]) : decode code pc = .ok (.invokespecial (a.toNat * 256 + b.toNat), 3) := dk_of ((dk_bind (dk_u1 (h 0 _ rfl))).trans ((dk_bind (dk_u2 (h 1 _ rfl) (h 2 _ rfl))).trans rfl))
theorem dk_184 {code : ByteArray} {pc : Nat} (a b : UInt8) (h : DkAt code pc [184, a, b]) : decode code pc = .ok (.invokestatic (a.toNat * 256 + b.toNat), 3) := dk_of ((dk_bind (dk_u1 (h 0 _ rfl))).trans ((dk_bind (dk_u2 (h 1 _ rfl) (h 2 _ rfl))).trans rfl))
theorem dk_187 {code : ByteArray} {pc : Nat} (a b : UInt8) (h : DkAt code pc [187, a, b]) : decode code pc = .ok (.new (a.toNat * 256 + b.toNat), 3) := dk_of ((dk_bind (dk_u1 (h 0 _ rfl))).trans ((dk_bind (dk_u2 (h 1 _ rfl) (h 2 _ rfl))).trans rfl))
theorem dk_188_5 {code : ByteArray} {pc : Nat} (h : DkAt code pc [188, 5]) : decode code pc = .ok (.newarray .char, 2) := dk_of ((dk_bind (dk_u1 (h 0 _ rfl))).trans ((dk_bind (dk_u1 (h 1 _ rfl))).trans rfl))
theorem dk_188_7 {code : ByteArray} {pc : Nat} (h : DkAt code pc [188, 7]) : decode code pc = .ok (.newarray .double, 2) := dk_of ((dk_bind (dk_u1 (h 0 _ rfl))).trans ((dk_bind (dk_u1 (h 1 _ rfl))).trans rfl))
theorem dk_188_8 {code : ByteArray} {pc : Nat} (h : DkAt code pc [188, 8]) : decode code pc = .ok (.newarray .byte, 2) := dk_of ((dk_bind (dk_u1 (h 0 _ rfl))).trans ((dk_bind (dk_u1 (h 1 _ rfl))).trans rfl))
theorem dk_188_10 {code : ByteArray} {pc : Nat} (h : DkAt code pc [188, 10]) : decode code pc = .ok (.newarray .int, 2) := dk_of ((dk_bind (dk_u1 (h 0 _ rfl))).trans ((dk_bind (dk_u1 (h 1 _ rfl))).trans rfl))
theorem dk_188_11 {code : ByteArray} {pc : Nat} (h : DkAt code pc [188, 11]) : decode code pc = .ok (.newarray .long, 2) := dk_of ((dk_bind (dk_u1 (h 0 _ rfl))).trans ((dk_bind (dk_u1 (h 1 _ rfl))).trans rfl))
theorem dk_189 {code : ByteArray} {pc : Nat} (a b : UInt8) (h : DkAt code pc [189, a, b]) : decode code pc = .ok (.anewarray (a.toNat * 256 + b.toNat), 3) := dk_of ((dk_bind (dk_u1 (h 0 _ rfl))).trans ((dk_bind (dk_u2 (h 1 _ rfl) (h 2 _ rfl))).trans rfl))
theorem dk_190 {code : ByteArray} {pc : Nat} (h : DkAt code pc [190]) : decode code pc = .ok (.arraylength, 1) := dk_of ((dk_bind (dk_u1 (h 0 _ rfl))).trans rfl)
theorem dk_191 {code : ByteArray} {pc : Nat} (h : DkAt code pc [191]) : decode code pc = .ok (.athrow, 1) := dk_of ((dk_bind (dk_u1 (h 0 _ rfl))).trans rfl)
theorem dk_192 {code : ByteArray} {pc : Nat} (a b : UInt8) (h : DkAt code pc [192, a, b]) : decode code pc = .ok (.checkcast (a.toNat * 256 + b.toNat), 3) := dk_of ((dk_bind (dk_u1 (h 0 _ rfl))).trans ((dk_bind (dk_u2 (h 1 _ rfl) (h 2 _ rfl))).trans rfl))
theorem dk_193 {code : ByteArray} {pc : Nat} (a b : UInt8) (h : DkAt code pc [193, a, b]) : decode code pc = .ok (.instanceof (a.toNat * 256 + b.toNat), 3) := dk_of ((dk_bind (dk_u1 (h 0 _ rfl))).trans ((dk_bind (dk_u2 (h 1 _ rfl) (h 2 _ rfl))).trans rfl))
theorem dk_198 {code : ByteArray} {pc : Nat} (a b : UInt8) (h : DkAt code pc [198, a, b]) : decode code pc = .ok (.ifnull (Reader.signed 16 (a.toNat * 256 + b.toNat)), 3) := dk_of ((dk_bind (dk_u1 (h 0 _ rfl))).trans ((dk_bind (dk_map (dk_u2 (h 1 _ rfl) (h 2 _ rfl)))).trans rfl))
theorem dk_199 {code : ByteArray} {pc : Nat} (a b : UInt8) (h : DkAt code pc [199, a, b]) : decode code pc = .ok (.ifnonnull (Reader.signed 16 (a.toNat * 256 + b.toNat)), 3) := dk_of ((dk_bind (dk_u1 (h 0 _ rfl))).trans ((dk_bind (dk_map (dk_u2 (h 1 _ rfl) (h 2 _ rfl)))).trans rfl))

/-! BakeryRingLaw -/
set_option maxRecDepth 100000
def RX0 : String := "BakeryRingLaw"
abbrev cX0_append : ByteArray := method_3_code
def yX0_append : MethodName := ⟨RX0, "append", "(LBakeryRing;C[J)I"⟩
def dkwX0_append_0 : List UInt8 := [44, 3, 42, 27, 182, 0, 7, 133, 80, 167, 0, 9, 78, 4, 172, 78, 5, 172, 3, 172]
abbrev dktX0_append_0 : List UInt8 := dkwX0_append_0 ++ []
theorem dksX0_append_0 : cX0_append.data.toList.drop 0 = dktX0_append_0 := by decide +kernel
theorem dX0_append_0 : decode cX0_append 0 = .ok (.aload_n 2, 1) := dk_44 (dk_at dksX0_append_0 0 rfl rfl)
theorem dX0_append_1 : decode cX0_append 1 = .ok (.iconst 0, 1) := dk_3 (dk_at dksX0_append_0 1 rfl rfl)
theorem dX0_append_2 : decode cX0_append 2 = .ok (.aload_n 0, 1) := dk_42 (dk_at dksX0_append_0 2 rfl rfl)
theorem dX0_append_3 : decode cX0_append 3 = .ok (.iload_n 1, 1) := dk_27 (dk_at dksX0_append_0 3 rfl rfl)
theorem dX0_append_4 : decode cX0_append 4 = .ok (.invokevirtual 7, 3) := dk_182 0 7 (dk_at dksX0_append_0 4 rfl rfl)
theorem dX0_append_7 : decode cX0_append 7 = .ok (.i2l, 1) := dk_133 (dk_at dksX0_append_0 7 rfl rfl)
theorem dX0_append_8 : decode cX0_append 8 = .ok (.lastore, 1) := dk_80 (dk_at dksX0_append_0 8 rfl rfl)
theorem dX0_append_9 : decode cX0_append 9 = .ok (.goto 9, 3) := dk_167 0 9 (dk_at dksX0_append_0 9 rfl rfl)
theorem dX0_append_12 : decode cX0_append 12 = .ok (.astore_n 3, 1) := dk_78 (dk_at dksX0_append_0 12 rfl rfl)
theorem dX0_append_13 : decode cX0_append 13 = .ok (.iconst 1, 1) := dk_4 (dk_at dksX0_append_0 13 rfl rfl)
theorem dX0_append_14 : decode cX0_append 14 = .ok (.ireturn, 1) := dk_172 (dk_at dksX0_append_0 14 rfl rfl)
theorem dX0_append_15 : decode cX0_append 15 = .ok (.astore_n 3, 1) := dk_78 (dk_at dksX0_append_0 15 rfl rfl)
theorem dX0_append_16 : decode cX0_append 16 = .ok (.iconst 2, 1) := dk_5 (dk_at dksX0_append_0 16 rfl rfl)
theorem dX0_append_17 : decode cX0_append 17 = .ok (.ireturn, 1) := dk_172 (dk_at dksX0_append_0 17 rfl rfl)
theorem dX0_append_18 : decode cX0_append 18 = .ok (.iconst 0, 1) := dk_3 (dk_at dksX0_append_0 18 rfl rfl)
theorem dX0_append_19 : decode cX0_append 19 = .ok (.ireturn, 1) := dk_172 (dk_at dksX0_append_0 19 rfl rfl)
abbrev cX0_bakery : ByteArray := method_4_code
def yX0_bakery : MethodName := ⟨RX0, "bakery", "(LBakeryRing;II[J)I"⟩
def dkwX0_bakery_0 : List UInt8 := [45, 3, 42, 27, 28, 182, 0, 17, 133, 80, 167, 0, 11, 58, 4, 4, 172, 58, 4, 5, 172, 3, 172]
abbrev dktX0_bakery_0 : List UInt8 := dkwX0_bakery_0 ++ []
theorem dksX0_bakery_0 : cX0_bakery.data.toList.drop 0 = dktX0_bakery_0 := by decide +kernel
theorem dX0_bakery_0 : decode cX0_bakery 0 = .ok (.aload_n 3, 1) := dk_45 (dk_at dksX0_bakery_0 0 rfl rfl)
theorem dX0_bakery_1 : decode cX0_bakery 1 = .ok (.iconst 0, 1) := dk_3 (dk_at dksX0_bakery_0 1 rfl rfl)
theorem dX0_bakery_2 : decode cX0_bakery 2 = .ok (.aload_n 0, 1) := dk_42 (dk_at dksX0_bakery_0 2 rfl rfl)
theorem dX0_bakery_3 : decode cX0_bakery 3 = .ok (.iload_n 1, 1) := dk_27 (dk_at dksX0_bakery_0 3 rfl rfl)
theorem dX0_bakery_4 : decode cX0_bakery 4 = .ok (.iload_n 2, 1) := dk_28 (dk_at dksX0_bakery_0 4 rfl rfl)
theorem dX0_bakery_5 : decode cX0_bakery 5 = .ok (.invokevirtual 17, 3) := dk_182 0 17 (dk_at dksX0_bakery_0 5 rfl rfl)
theorem dX0_bakery_8 : decode cX0_bakery 8 = .ok (.i2l, 1) := dk_133 (dk_at dksX0_bakery_0 8 rfl rfl)
theorem dX0_bakery_9 : decode cX0_bakery 9 = .ok (.lastore, 1) := dk_80 (dk_at dksX0_bakery_0 9 rfl rfl)
theorem dX0_bakery_10 : decode cX0_bakery 10 = .ok (.goto 11, 3) := dk_167 0 11 (dk_at dksX0_bakery_0 10 rfl rfl)
theorem dX0_bakery_13 : decode cX0_bakery 13 = .ok (.astore 4, 2) := dk_58 4 (dk_at dksX0_bakery_0 13 rfl rfl)
theorem dX0_bakery_15 : decode cX0_bakery 15 = .ok (.iconst 1, 1) := dk_4 (dk_at dksX0_bakery_0 15 rfl rfl)
theorem dX0_bakery_16 : decode cX0_bakery 16 = .ok (.ireturn, 1) := dk_172 (dk_at dksX0_bakery_0 16 rfl rfl)
theorem dX0_bakery_17 : decode cX0_bakery 17 = .ok (.astore 4, 2) := dk_58 4 (dk_at dksX0_bakery_0 17 rfl rfl)
theorem dX0_bakery_19 : decode cX0_bakery 19 = .ok (.iconst 2, 1) := dk_5 (dk_at dksX0_bakery_0 19 rfl rfl)
theorem dX0_bakery_20 : decode cX0_bakery 20 = .ok (.ireturn, 1) := dk_172 (dk_at dksX0_bakery_0 20 rfl rfl)
theorem dX0_bakery_21 : decode cX0_bakery 21 = .ok (.iconst 0, 1) := dk_3 (dk_at dksX0_bakery_0 21 rfl rfl)
theorem dX0_bakery_22 : decode cX0_bakery 22 = .ok (.ireturn, 1) := dk_172 (dk_at dksX0_bakery_0 22 rfl rfl)
abbrev cX0_sign : ByteArray := method_5_code
def yX0_sign : MethodName := ⟨RX0, "sign", "(LBakeryRing;II[J)I"⟩
def dkwX0_sign_0 : List UInt8 := [45, 3, 42, 27, 28, 182, 0, 23, 133, 80, 167, 0, 11, 58, 4, 4, 172, 58, 4, 5, 172, 3, 172]
abbrev dktX0_sign_0 : List UInt8 := dkwX0_sign_0 ++ []
theorem dksX0_sign_0 : cX0_sign.data.toList.drop 0 = dktX0_sign_0 := by decide +kernel
theorem dX0_sign_0 : decode cX0_sign 0 = .ok (.aload_n 3, 1) := dk_45 (dk_at dksX0_sign_0 0 rfl rfl)
theorem dX0_sign_1 : decode cX0_sign 1 = .ok (.iconst 0, 1) := dk_3 (dk_at dksX0_sign_0 1 rfl rfl)
theorem dX0_sign_2 : decode cX0_sign 2 = .ok (.aload_n 0, 1) := dk_42 (dk_at dksX0_sign_0 2 rfl rfl)
theorem dX0_sign_3 : decode cX0_sign 3 = .ok (.iload_n 1, 1) := dk_27 (dk_at dksX0_sign_0 3 rfl rfl)
theorem dX0_sign_4 : decode cX0_sign 4 = .ok (.iload_n 2, 1) := dk_28 (dk_at dksX0_sign_0 4 rfl rfl)
theorem dX0_sign_5 : decode cX0_sign 5 = .ok (.invokevirtual 23, 3) := dk_182 0 23 (dk_at dksX0_sign_0 5 rfl rfl)
theorem dX0_sign_8 : decode cX0_sign 8 = .ok (.i2l, 1) := dk_133 (dk_at dksX0_sign_0 8 rfl rfl)
theorem dX0_sign_9 : decode cX0_sign 9 = .ok (.lastore, 1) := dk_80 (dk_at dksX0_sign_0 9 rfl rfl)
theorem dX0_sign_10 : decode cX0_sign 10 = .ok (.goto 11, 3) := dk_167 0 11 (dk_at dksX0_sign_0 10 rfl rfl)
theorem dX0_sign_13 : decode cX0_sign 13 = .ok (.astore 4, 2) := dk_58 4 (dk_at dksX0_sign_0 13 rfl rfl)
theorem dX0_sign_15 : decode cX0_sign 15 = .ok (.iconst 1, 1) := dk_4 (dk_at dksX0_sign_0 15 rfl rfl)
theorem dX0_sign_16 : decode cX0_sign 16 = .ok (.ireturn, 1) := dk_172 (dk_at dksX0_sign_0 16 rfl rfl)
theorem dX0_sign_17 : decode cX0_sign 17 = .ok (.astore 4, 2) := dk_58 4 (dk_at dksX0_sign_0 17 rfl rfl)
theorem dX0_sign_19 : decode cX0_sign 19 = .ok (.iconst 2, 1) := dk_5 (dk_at dksX0_sign_0 19 rfl rfl)
theorem dX0_sign_20 : decode cX0_sign 20 = .ok (.ireturn, 1) := dk_172 (dk_at dksX0_sign_0 20 rfl rfl)
theorem dX0_sign_21 : decode cX0_sign 21 = .ok (.iconst 0, 1) := dk_3 (dk_at dksX0_sign_0 21 rfl rfl)
theorem dX0_sign_22 : decode cX0_sign 22 = .ok (.ireturn, 1) := dk_172 (dk_at dksX0_sign_0 22 rfl rfl)
abbrev cX0_down : ByteArray := method_6_code
def yX0_down : MethodName := ⟨RX0, "down", "(LBakeryRing;I[J)I"⟩
def dkwX0_down_0 : List UInt8 := [44, 3, 42, 27, 182, 0, 28, 133, 80, 167, 0, 9, 78, 4, 172, 78, 5, 172, 3, 172]
abbrev dktX0_down_0 : List UInt8 := dkwX0_down_0 ++ []
theorem dksX0_down_0 : cX0_down.data.toList.drop 0 = dktX0_down_0 := by decide +kernel
theorem dX0_down_0 : decode cX0_down 0 = .ok (.aload_n 2, 1) := dk_44 (dk_at dksX0_down_0 0 rfl rfl)
theorem dX0_down_1 : decode cX0_down 1 = .ok (.iconst 0, 1) := dk_3 (dk_at dksX0_down_0 1 rfl rfl)
theorem dX0_down_2 : decode cX0_down 2 = .ok (.aload_n 0, 1) := dk_42 (dk_at dksX0_down_0 2 rfl rfl)
theorem dX0_down_3 : decode cX0_down 3 = .ok (.iload_n 1, 1) := dk_27 (dk_at dksX0_down_0 3 rfl rfl)
theorem dX0_down_4 : decode cX0_down 4 = .ok (.invokevirtual 28, 3) := dk_182 0 28 (dk_at dksX0_down_0 4 rfl rfl)
theorem dX0_down_7 : decode cX0_down 7 = .ok (.i2l, 1) := dk_133 (dk_at dksX0_down_0 7 rfl rfl)
theorem dX0_down_8 : decode cX0_down 8 = .ok (.lastore, 1) := dk_80 (dk_at dksX0_down_0 8 rfl rfl)
theorem dX0_down_9 : decode cX0_down 9 = .ok (.goto 9, 3) := dk_167 0 9 (dk_at dksX0_down_0 9 rfl rfl)
theorem dX0_down_12 : decode cX0_down 12 = .ok (.astore_n 3, 1) := dk_78 (dk_at dksX0_down_0 12 rfl rfl)
theorem dX0_down_13 : decode cX0_down 13 = .ok (.iconst 1, 1) := dk_4 (dk_at dksX0_down_0 13 rfl rfl)
theorem dX0_down_14 : decode cX0_down 14 = .ok (.ireturn, 1) := dk_172 (dk_at dksX0_down_0 14 rfl rfl)
theorem dX0_down_15 : decode cX0_down 15 = .ok (.astore_n 3, 1) := dk_78 (dk_at dksX0_down_0 15 rfl rfl)
theorem dX0_down_16 : decode cX0_down 16 = .ok (.iconst 2, 1) := dk_5 (dk_at dksX0_down_0 16 rfl rfl)
theorem dX0_down_17 : decode cX0_down 17 = .ok (.ireturn, 1) := dk_172 (dk_at dksX0_down_0 17 rfl rfl)
theorem dX0_down_18 : decode cX0_down 18 = .ok (.iconst 0, 1) := dk_3 (dk_at dksX0_down_0 18 rfl rfl)
theorem dX0_down_19 : decode cX0_down 19 = .ok (.ireturn, 1) := dk_172 (dk_at dksX0_down_0 19 rfl rfl)
abbrev cX0_close : ByteArray := method_7_code
def yX0_close : MethodName := ⟨RX0, "close", "(LBakeryRing;I[J)I"⟩
def dkwX0_close_0 : List UInt8 := [44, 3, 42, 27, 182, 0, 32, 133, 80, 167, 0, 9, 78, 4, 172, 78, 5, 172, 3, 172]
abbrev dktX0_close_0 : List UInt8 := dkwX0_close_0 ++ []
theorem dksX0_close_0 : cX0_close.data.toList.drop 0 = dktX0_close_0 := by decide +kernel
theorem dX0_close_0 : decode cX0_close 0 = .ok (.aload_n 2, 1) := dk_44 (dk_at dksX0_close_0 0 rfl rfl)
theorem dX0_close_1 : decode cX0_close 1 = .ok (.iconst 0, 1) := dk_3 (dk_at dksX0_close_0 1 rfl rfl)
theorem dX0_close_2 : decode cX0_close 2 = .ok (.aload_n 0, 1) := dk_42 (dk_at dksX0_close_0 2 rfl rfl)
theorem dX0_close_3 : decode cX0_close 3 = .ok (.iload_n 1, 1) := dk_27 (dk_at dksX0_close_0 3 rfl rfl)
theorem dX0_close_4 : decode cX0_close 4 = .ok (.invokevirtual 32, 3) := dk_182 0 32 (dk_at dksX0_close_0 4 rfl rfl)
theorem dX0_close_7 : decode cX0_close 7 = .ok (.i2l, 1) := dk_133 (dk_at dksX0_close_0 7 rfl rfl)
theorem dX0_close_8 : decode cX0_close 8 = .ok (.lastore, 1) := dk_80 (dk_at dksX0_close_0 8 rfl rfl)
theorem dX0_close_9 : decode cX0_close 9 = .ok (.goto 9, 3) := dk_167 0 9 (dk_at dksX0_close_0 9 rfl rfl)
theorem dX0_close_12 : decode cX0_close 12 = .ok (.astore_n 3, 1) := dk_78 (dk_at dksX0_close_0 12 rfl rfl)
theorem dX0_close_13 : decode cX0_close 13 = .ok (.iconst 1, 1) := dk_4 (dk_at dksX0_close_0 13 rfl rfl)
theorem dX0_close_14 : decode cX0_close 14 = .ok (.ireturn, 1) := dk_172 (dk_at dksX0_close_0 14 rfl rfl)
theorem dX0_close_15 : decode cX0_close 15 = .ok (.astore_n 3, 1) := dk_78 (dk_at dksX0_close_0 15 rfl rfl)
theorem dX0_close_16 : decode cX0_close 16 = .ok (.iconst 2, 1) := dk_5 (dk_at dksX0_close_0 16 rfl rfl)
theorem dX0_close_17 : decode cX0_close 17 = .ok (.ireturn, 1) := dk_172 (dk_at dksX0_close_0 17 rfl rfl)
theorem dX0_close_18 : decode cX0_close 18 = .ok (.iconst 0, 1) := dk_3 (dk_at dksX0_close_0 18 rfl rfl)
theorem dX0_close_19 : decode cX0_close 19 = .ok (.ireturn, 1) := dk_172 (dk_at dksX0_close_0 19 rfl rfl)
abbrev cX0_open : ByteArray := method_8_code
def yX0_open : MethodName := ⟨RX0, "open", "(LBakeryRing;I[J)I"⟩
def dkwX0_open_0 : List UInt8 := [44, 3, 42, 27, 182, 0, 35, 133, 80, 167, 0, 9, 78, 4, 172, 78, 5, 172, 3, 172]
abbrev dktX0_open_0 : List UInt8 := dkwX0_open_0 ++ []
theorem dksX0_open_0 : cX0_open.data.toList.drop 0 = dktX0_open_0 := by decide +kernel
theorem dX0_open_0 : decode cX0_open 0 = .ok (.aload_n 2, 1) := dk_44 (dk_at dksX0_open_0 0 rfl rfl)
theorem dX0_open_1 : decode cX0_open 1 = .ok (.iconst 0, 1) := dk_3 (dk_at dksX0_open_0 1 rfl rfl)
theorem dX0_open_2 : decode cX0_open 2 = .ok (.aload_n 0, 1) := dk_42 (dk_at dksX0_open_0 2 rfl rfl)
theorem dX0_open_3 : decode cX0_open 3 = .ok (.iload_n 1, 1) := dk_27 (dk_at dksX0_open_0 3 rfl rfl)
theorem dX0_open_4 : decode cX0_open 4 = .ok (.invokevirtual 35, 3) := dk_182 0 35 (dk_at dksX0_open_0 4 rfl rfl)
theorem dX0_open_7 : decode cX0_open 7 = .ok (.i2l, 1) := dk_133 (dk_at dksX0_open_0 7 rfl rfl)
theorem dX0_open_8 : decode cX0_open 8 = .ok (.lastore, 1) := dk_80 (dk_at dksX0_open_0 8 rfl rfl)
theorem dX0_open_9 : decode cX0_open 9 = .ok (.goto 9, 3) := dk_167 0 9 (dk_at dksX0_open_0 9 rfl rfl)
theorem dX0_open_12 : decode cX0_open 12 = .ok (.astore_n 3, 1) := dk_78 (dk_at dksX0_open_0 12 rfl rfl)
theorem dX0_open_13 : decode cX0_open 13 = .ok (.iconst 1, 1) := dk_4 (dk_at dksX0_open_0 13 rfl rfl)
theorem dX0_open_14 : decode cX0_open 14 = .ok (.ireturn, 1) := dk_172 (dk_at dksX0_open_0 14 rfl rfl)
theorem dX0_open_15 : decode cX0_open 15 = .ok (.astore_n 3, 1) := dk_78 (dk_at dksX0_open_0 15 rfl rfl)
theorem dX0_open_16 : decode cX0_open 16 = .ok (.iconst 2, 1) := dk_5 (dk_at dksX0_open_0 16 rfl rfl)
theorem dX0_open_17 : decode cX0_open 17 = .ok (.ireturn, 1) := dk_172 (dk_at dksX0_open_0 17 rfl rfl)
theorem dX0_open_18 : decode cX0_open 18 = .ok (.iconst 0, 1) := dk_3 (dk_at dksX0_open_0 18 rfl rfl)
theorem dX0_open_19 : decode cX0_open 19 = .ok (.ireturn, 1) := dk_172 (dk_at dksX0_open_0 19 rfl rfl)
abbrev cX0_oven : ByteArray := method_9_code
def yX0_oven : MethodName := ⟨RX0, "oven", "(LBakeryRing;II[J)I"⟩
def dkwX0_oven_1 : List UInt8 := [172, 3, 172]
abbrev dktX0_oven_1 : List UInt8 := dkwX0_oven_1 ++ []
def dkwX0_oven_0 : List UInt8 := [45, 3, 42, 27, 28, 182, 0, 38, 133, 80, 167, 0, 15, 58, 4, 4, 172, 58, 4, 5, 172, 58, 4, 6]
abbrev dktX0_oven_0 : List UInt8 := dkwX0_oven_0 ++ dktX0_oven_1
theorem dksX0_oven_0 : cX0_oven.data.toList.drop 0 = dktX0_oven_0 := by decide +kernel
theorem dksX0_oven_1 : cX0_oven.data.toList.drop 24 = dktX0_oven_1 := dk_seg dksX0_oven_0 24 rfl rfl
theorem dX0_oven_0 : decode cX0_oven 0 = .ok (.aload_n 3, 1) := dk_45 (dk_at dksX0_oven_0 0 rfl rfl)
theorem dX0_oven_1 : decode cX0_oven 1 = .ok (.iconst 0, 1) := dk_3 (dk_at dksX0_oven_0 1 rfl rfl)
theorem dX0_oven_2 : decode cX0_oven 2 = .ok (.aload_n 0, 1) := dk_42 (dk_at dksX0_oven_0 2 rfl rfl)
theorem dX0_oven_3 : decode cX0_oven 3 = .ok (.iload_n 1, 1) := dk_27 (dk_at dksX0_oven_0 3 rfl rfl)
theorem dX0_oven_4 : decode cX0_oven 4 = .ok (.iload_n 2, 1) := dk_28 (dk_at dksX0_oven_0 4 rfl rfl)
theorem dX0_oven_5 : decode cX0_oven 5 = .ok (.invokevirtual 38, 3) := dk_182 0 38 (dk_at dksX0_oven_0 5 rfl rfl)
theorem dX0_oven_8 : decode cX0_oven 8 = .ok (.i2l, 1) := dk_133 (dk_at dksX0_oven_0 8 rfl rfl)
theorem dX0_oven_9 : decode cX0_oven 9 = .ok (.lastore, 1) := dk_80 (dk_at dksX0_oven_0 9 rfl rfl)
theorem dX0_oven_10 : decode cX0_oven 10 = .ok (.goto 15, 3) := dk_167 0 15 (dk_at dksX0_oven_0 10 rfl rfl)
theorem dX0_oven_13 : decode cX0_oven 13 = .ok (.astore 4, 2) := dk_58 4 (dk_at dksX0_oven_0 13 rfl rfl)
theorem dX0_oven_15 : decode cX0_oven 15 = .ok (.iconst 1, 1) := dk_4 (dk_at dksX0_oven_0 15 rfl rfl)
theorem dX0_oven_16 : decode cX0_oven 16 = .ok (.ireturn, 1) := dk_172 (dk_at dksX0_oven_0 16 rfl rfl)
theorem dX0_oven_17 : decode cX0_oven 17 = .ok (.astore 4, 2) := dk_58 4 (dk_at dksX0_oven_0 17 rfl rfl)
theorem dX0_oven_19 : decode cX0_oven 19 = .ok (.iconst 2, 1) := dk_5 (dk_at dksX0_oven_0 19 rfl rfl)
theorem dX0_oven_20 : decode cX0_oven 20 = .ok (.ireturn, 1) := dk_172 (dk_at dksX0_oven_0 20 rfl rfl)
theorem dX0_oven_21 : decode cX0_oven 21 = .ok (.astore 4, 2) := dk_58 4 (dk_at dksX0_oven_0 21 rfl rfl)
theorem dX0_oven_23 : decode cX0_oven 23 = .ok (.iconst 3, 1) := dk_6 (dk_at dksX0_oven_0 23 rfl rfl)
theorem dX0_oven_24 : decode cX0_oven 24 = .ok (.ireturn, 1) := dk_172 (dk_at dksX0_oven_1 0 rfl rfl)
theorem dX0_oven_25 : decode cX0_oven 25 = .ok (.iconst 0, 1) := dk_3 (dk_at dksX0_oven_1 1 rfl rfl)
theorem dX0_oven_26 : decode cX0_oven 26 = .ok (.ireturn, 1) := dk_172 (dk_at dksX0_oven_1 2 rfl rfl)
abbrev cX0_come : ByteArray := method_10_code
def yX0_come : MethodName := ⟨RX0, "come", "(LBakeryRing;II[J)I"⟩
def dkwX0_come_1 : List UInt8 := [172, 3, 172]
abbrev dktX0_come_1 : List UInt8 := dkwX0_come_1 ++ []
def dkwX0_come_0 : List UInt8 := [45, 3, 42, 27, 28, 182, 0, 41, 133, 80, 167, 0, 15, 58, 4, 4, 172, 58, 4, 5, 172, 58, 4, 6]
abbrev dktX0_come_0 : List UInt8 := dkwX0_come_0 ++ dktX0_come_1
theorem dksX0_come_0 : cX0_come.data.toList.drop 0 = dktX0_come_0 := by decide +kernel
theorem dksX0_come_1 : cX0_come.data.toList.drop 24 = dktX0_come_1 := dk_seg dksX0_come_0 24 rfl rfl
theorem dX0_come_0 : decode cX0_come 0 = .ok (.aload_n 3, 1) := dk_45 (dk_at dksX0_come_0 0 rfl rfl)
theorem dX0_come_1 : decode cX0_come 1 = .ok (.iconst 0, 1) := dk_3 (dk_at dksX0_come_0 1 rfl rfl)
theorem dX0_come_2 : decode cX0_come 2 = .ok (.aload_n 0, 1) := dk_42 (dk_at dksX0_come_0 2 rfl rfl)
theorem dX0_come_3 : decode cX0_come 3 = .ok (.iload_n 1, 1) := dk_27 (dk_at dksX0_come_0 3 rfl rfl)
theorem dX0_come_4 : decode cX0_come 4 = .ok (.iload_n 2, 1) := dk_28 (dk_at dksX0_come_0 4 rfl rfl)
theorem dX0_come_5 : decode cX0_come 5 = .ok (.invokevirtual 41, 3) := dk_182 0 41 (dk_at dksX0_come_0 5 rfl rfl)
theorem dX0_come_8 : decode cX0_come 8 = .ok (.i2l, 1) := dk_133 (dk_at dksX0_come_0 8 rfl rfl)
theorem dX0_come_9 : decode cX0_come 9 = .ok (.lastore, 1) := dk_80 (dk_at dksX0_come_0 9 rfl rfl)
theorem dX0_come_10 : decode cX0_come 10 = .ok (.goto 15, 3) := dk_167 0 15 (dk_at dksX0_come_0 10 rfl rfl)
theorem dX0_come_13 : decode cX0_come 13 = .ok (.astore 4, 2) := dk_58 4 (dk_at dksX0_come_0 13 rfl rfl)
theorem dX0_come_15 : decode cX0_come 15 = .ok (.iconst 1, 1) := dk_4 (dk_at dksX0_come_0 15 rfl rfl)
theorem dX0_come_16 : decode cX0_come 16 = .ok (.ireturn, 1) := dk_172 (dk_at dksX0_come_0 16 rfl rfl)
theorem dX0_come_17 : decode cX0_come 17 = .ok (.astore 4, 2) := dk_58 4 (dk_at dksX0_come_0 17 rfl rfl)
theorem dX0_come_19 : decode cX0_come 19 = .ok (.iconst 2, 1) := dk_5 (dk_at dksX0_come_0 19 rfl rfl)
theorem dX0_come_20 : decode cX0_come 20 = .ok (.ireturn, 1) := dk_172 (dk_at dksX0_come_0 20 rfl rfl)
theorem dX0_come_21 : decode cX0_come 21 = .ok (.astore 4, 2) := dk_58 4 (dk_at dksX0_come_0 21 rfl rfl)
theorem dX0_come_23 : decode cX0_come 23 = .ok (.iconst 3, 1) := dk_6 (dk_at dksX0_come_0 23 rfl rfl)
theorem dX0_come_24 : decode cX0_come 24 = .ok (.ireturn, 1) := dk_172 (dk_at dksX0_come_1 0 rfl rfl)
theorem dX0_come_25 : decode cX0_come 25 = .ok (.iconst 0, 1) := dk_3 (dk_at dksX0_come_1 1 rfl rfl)
theorem dX0_come_26 : decode cX0_come 26 = .ok (.ireturn, 1) := dk_172 (dk_at dksX0_come_1 2 rfl rfl)
abbrev cX0_leave : ByteArray := method_11_code
def yX0_leave : MethodName := ⟨RX0, "leave", "(LBakeryRing;I[J)I"⟩
def dkwX0_leave_0 : List UInt8 := [44, 3, 42, 27, 182, 0, 44, 133, 80, 167, 0, 6, 78, 4, 172, 3, 172]
abbrev dktX0_leave_0 : List UInt8 := dkwX0_leave_0 ++ []
theorem dksX0_leave_0 : cX0_leave.data.toList.drop 0 = dktX0_leave_0 := by decide +kernel
theorem dX0_leave_0 : decode cX0_leave 0 = .ok (.aload_n 2, 1) := dk_44 (dk_at dksX0_leave_0 0 rfl rfl)
theorem dX0_leave_1 : decode cX0_leave 1 = .ok (.iconst 0, 1) := dk_3 (dk_at dksX0_leave_0 1 rfl rfl)
theorem dX0_leave_2 : decode cX0_leave 2 = .ok (.aload_n 0, 1) := dk_42 (dk_at dksX0_leave_0 2 rfl rfl)
theorem dX0_leave_3 : decode cX0_leave 3 = .ok (.iload_n 1, 1) := dk_27 (dk_at dksX0_leave_0 3 rfl rfl)
theorem dX0_leave_4 : decode cX0_leave 4 = .ok (.invokevirtual 44, 3) := dk_182 0 44 (dk_at dksX0_leave_0 4 rfl rfl)
theorem dX0_leave_7 : decode cX0_leave 7 = .ok (.i2l, 1) := dk_133 (dk_at dksX0_leave_0 7 rfl rfl)
theorem dX0_leave_8 : decode cX0_leave 8 = .ok (.lastore, 1) := dk_80 (dk_at dksX0_leave_0 8 rfl rfl)
theorem dX0_leave_9 : decode cX0_leave 9 = .ok (.goto 6, 3) := dk_167 0 6 (dk_at dksX0_leave_0 9 rfl rfl)
theorem dX0_leave_12 : decode cX0_leave 12 = .ok (.astore_n 3, 1) := dk_78 (dk_at dksX0_leave_0 12 rfl rfl)
theorem dX0_leave_13 : decode cX0_leave 13 = .ok (.iconst 1, 1) := dk_4 (dk_at dksX0_leave_0 13 rfl rfl)
theorem dX0_leave_14 : decode cX0_leave 14 = .ok (.ireturn, 1) := dk_172 (dk_at dksX0_leave_0 14 rfl rfl)
theorem dX0_leave_15 : decode cX0_leave 15 = .ok (.iconst 0, 1) := dk_3 (dk_at dksX0_leave_0 15 rfl rfl)
theorem dX0_leave_16 : decode cX0_leave 16 = .ok (.ireturn, 1) := dk_172 (dk_at dksX0_leave_0 16 rfl rfl)
abbrev cX0_script : ByteArray := method_12_code
def yX0_script : MethodName := ⟨RX0, "script", "(LBakeryRing;[J)I"⟩
def dkwX0_script_0 : List UInt8 := [43, 3, 42, 182, 0, 47, 133, 80, 167, 0, 9, 77, 4, 172, 77, 5, 172, 3, 172]
abbrev dktX0_script_0 : List UInt8 := dkwX0_script_0 ++ []
theorem dksX0_script_0 : cX0_script.data.toList.drop 0 = dktX0_script_0 := by decide +kernel
theorem dX0_script_0 : decode cX0_script 0 = .ok (.aload_n 1, 1) := dk_43 (dk_at dksX0_script_0 0 rfl rfl)
theorem dX0_script_1 : decode cX0_script 1 = .ok (.iconst 0, 1) := dk_3 (dk_at dksX0_script_0 1 rfl rfl)
theorem dX0_script_2 : decode cX0_script 2 = .ok (.aload_n 0, 1) := dk_42 (dk_at dksX0_script_0 2 rfl rfl)
theorem dX0_script_3 : decode cX0_script 3 = .ok (.invokevirtual 47, 3) := dk_182 0 47 (dk_at dksX0_script_0 3 rfl rfl)
theorem dX0_script_6 : decode cX0_script 6 = .ok (.i2l, 1) := dk_133 (dk_at dksX0_script_0 6 rfl rfl)
theorem dX0_script_7 : decode cX0_script 7 = .ok (.lastore, 1) := dk_80 (dk_at dksX0_script_0 7 rfl rfl)
theorem dX0_script_8 : decode cX0_script 8 = .ok (.goto 9, 3) := dk_167 0 9 (dk_at dksX0_script_0 8 rfl rfl)
theorem dX0_script_11 : decode cX0_script 11 = .ok (.astore_n 2, 1) := dk_77 (dk_at dksX0_script_0 11 rfl rfl)
theorem dX0_script_12 : decode cX0_script 12 = .ok (.iconst 1, 1) := dk_4 (dk_at dksX0_script_0 12 rfl rfl)
theorem dX0_script_13 : decode cX0_script 13 = .ok (.ireturn, 1) := dk_172 (dk_at dksX0_script_0 13 rfl rfl)
theorem dX0_script_14 : decode cX0_script 14 = .ok (.astore_n 2, 1) := dk_77 (dk_at dksX0_script_0 14 rfl rfl)
theorem dX0_script_15 : decode cX0_script 15 = .ok (.iconst 2, 1) := dk_5 (dk_at dksX0_script_0 15 rfl rfl)
theorem dX0_script_16 : decode cX0_script 16 = .ok (.ireturn, 1) := dk_172 (dk_at dksX0_script_0 16 rfl rfl)
theorem dX0_script_17 : decode cX0_script 17 = .ok (.iconst 0, 1) := dk_3 (dk_at dksX0_script_0 17 rfl rfl)
theorem dX0_script_18 : decode cX0_script 18 = .ok (.ireturn, 1) := dk_172 (dk_at dksX0_script_0 18 rfl rfl)
abbrev cX0_faultPosition : ByteArray := method_13_code
def yX0_faultPosition : MethodName := ⟨RX0, "faultPosition", "(LBakeryRing;[J)I"⟩
def dkwX0_faultPosition_0 : List UInt8 := [43, 3, 42, 182, 0, 51, 133, 80, 167, 0, 6, 77, 4, 172, 3, 172]
abbrev dktX0_faultPosition_0 : List UInt8 := dkwX0_faultPosition_0 ++ []
theorem dksX0_faultPosition_0 : cX0_faultPosition.data.toList.drop 0 = dktX0_faultPosition_0 := by decide +kernel
theorem dX0_faultPosition_0 : decode cX0_faultPosition 0 = .ok (.aload_n 1, 1) := dk_43 (dk_at dksX0_faultPosition_0 0 rfl rfl)
theorem dX0_faultPosition_1 : decode cX0_faultPosition 1 = .ok (.iconst 0, 1) := dk_3 (dk_at dksX0_faultPosition_0 1 rfl rfl)
theorem dX0_faultPosition_2 : decode cX0_faultPosition 2 = .ok (.aload_n 0, 1) := dk_42 (dk_at dksX0_faultPosition_0 2 rfl rfl)
theorem dX0_faultPosition_3 : decode cX0_faultPosition 3 = .ok (.invokevirtual 51, 3) := dk_182 0 51 (dk_at dksX0_faultPosition_0 3 rfl rfl)
theorem dX0_faultPosition_6 : decode cX0_faultPosition 6 = .ok (.i2l, 1) := dk_133 (dk_at dksX0_faultPosition_0 6 rfl rfl)
theorem dX0_faultPosition_7 : decode cX0_faultPosition 7 = .ok (.lastore, 1) := dk_80 (dk_at dksX0_faultPosition_0 7 rfl rfl)
theorem dX0_faultPosition_8 : decode cX0_faultPosition 8 = .ok (.goto 6, 3) := dk_167 0 6 (dk_at dksX0_faultPosition_0 8 rfl rfl)
theorem dX0_faultPosition_11 : decode cX0_faultPosition 11 = .ok (.astore_n 2, 1) := dk_77 (dk_at dksX0_faultPosition_0 11 rfl rfl)
theorem dX0_faultPosition_12 : decode cX0_faultPosition 12 = .ok (.iconst 1, 1) := dk_4 (dk_at dksX0_faultPosition_0 12 rfl rfl)
theorem dX0_faultPosition_13 : decode cX0_faultPosition 13 = .ok (.ireturn, 1) := dk_172 (dk_at dksX0_faultPosition_0 13 rfl rfl)
theorem dX0_faultPosition_14 : decode cX0_faultPosition 14 = .ok (.iconst 0, 1) := dk_3 (dk_at dksX0_faultPosition_0 14 rfl rfl)
theorem dX0_faultPosition_15 : decode cX0_faultPosition 15 = .ok (.ireturn, 1) := dk_172 (dk_at dksX0_faultPosition_0 15 rfl rfl)
abbrev cX0_reason : ByteArray := method_14_code
def yX0_reason : MethodName := ⟨RX0, "reason", "(LBakeryRing;IZ[J)I"⟩
def dkwX0_reason_0 : List UInt8 := [45, 3, 42, 27, 28, 182, 0, 56, 133, 80, 167, 0, 11, 58, 4, 4, 172, 58, 4, 5, 172, 3, 172]
abbrev dktX0_reason_0 : List UInt8 := dkwX0_reason_0 ++ []
theorem dksX0_reason_0 : cX0_reason.data.toList.drop 0 = dktX0_reason_0 := by decide +kernel
theorem dX0_reason_0 : decode cX0_reason 0 = .ok (.aload_n 3, 1) := dk_45 (dk_at dksX0_reason_0 0 rfl rfl)
theorem dX0_reason_1 : decode cX0_reason 1 = .ok (.iconst 0, 1) := dk_3 (dk_at dksX0_reason_0 1 rfl rfl)
theorem dX0_reason_2 : decode cX0_reason 2 = .ok (.aload_n 0, 1) := dk_42 (dk_at dksX0_reason_0 2 rfl rfl)
theorem dX0_reason_3 : decode cX0_reason 3 = .ok (.iload_n 1, 1) := dk_27 (dk_at dksX0_reason_0 3 rfl rfl)
theorem dX0_reason_4 : decode cX0_reason 4 = .ok (.iload_n 2, 1) := dk_28 (dk_at dksX0_reason_0 4 rfl rfl)
theorem dX0_reason_5 : decode cX0_reason 5 = .ok (.invokevirtual 56, 3) := dk_182 0 56 (dk_at dksX0_reason_0 5 rfl rfl)
theorem dX0_reason_8 : decode cX0_reason 8 = .ok (.i2l, 1) := dk_133 (dk_at dksX0_reason_0 8 rfl rfl)
theorem dX0_reason_9 : decode cX0_reason 9 = .ok (.lastore, 1) := dk_80 (dk_at dksX0_reason_0 9 rfl rfl)
theorem dX0_reason_10 : decode cX0_reason 10 = .ok (.goto 11, 3) := dk_167 0 11 (dk_at dksX0_reason_0 10 rfl rfl)
theorem dX0_reason_13 : decode cX0_reason 13 = .ok (.astore 4, 2) := dk_58 4 (dk_at dksX0_reason_0 13 rfl rfl)
theorem dX0_reason_15 : decode cX0_reason 15 = .ok (.iconst 1, 1) := dk_4 (dk_at dksX0_reason_0 15 rfl rfl)
theorem dX0_reason_16 : decode cX0_reason 16 = .ok (.ireturn, 1) := dk_172 (dk_at dksX0_reason_0 16 rfl rfl)
theorem dX0_reason_17 : decode cX0_reason 17 = .ok (.astore 4, 2) := dk_58 4 (dk_at dksX0_reason_0 17 rfl rfl)
theorem dX0_reason_19 : decode cX0_reason 19 = .ok (.iconst 2, 1) := dk_5 (dk_at dksX0_reason_0 19 rfl rfl)
theorem dX0_reason_20 : decode cX0_reason 20 = .ok (.ireturn, 1) := dk_172 (dk_at dksX0_reason_0 20 rfl rfl)
theorem dX0_reason_21 : decode cX0_reason 21 = .ok (.iconst 0, 1) := dk_3 (dk_at dksX0_reason_0 21 rfl rfl)
theorem dX0_reason_22 : decode cX0_reason 22 = .ok (.ireturn, 1) := dk_172 (dk_at dksX0_reason_0 22 rfl rfl)
abbrev cX0_bakeryOf : ByteArray := method_15_code
def yX0_bakeryOf : MethodName := ⟨RX0, "bakeryOf", "(LBakeryRing;II[J)I"⟩
def dkwX0_bakeryOf_0 : List UInt8 := [45, 3, 42, 27, 28, 182, 0, 60, 133, 80, 167, 0, 11, 58, 4, 4, 172, 58, 4, 5, 172, 3, 172]
abbrev dktX0_bakeryOf_0 : List UInt8 := dkwX0_bakeryOf_0 ++ []
theorem dksX0_bakeryOf_0 : cX0_bakeryOf.data.toList.drop 0 = dktX0_bakeryOf_0 := by decide +kernel
theorem dX0_bakeryOf_0 : decode cX0_bakeryOf 0 = .ok (.aload_n 3, 1) := dk_45 (dk_at dksX0_bakeryOf_0 0 rfl rfl)
theorem dX0_bakeryOf_1 : decode cX0_bakeryOf 1 = .ok (.iconst 0, 1) := dk_3 (dk_at dksX0_bakeryOf_0 1 rfl rfl)
theorem dX0_bakeryOf_2 : decode cX0_bakeryOf 2 = .ok (.aload_n 0, 1) := dk_42 (dk_at dksX0_bakeryOf_0 2 rfl rfl)
theorem dX0_bakeryOf_3 : decode cX0_bakeryOf 3 = .ok (.iload_n 1, 1) := dk_27 (dk_at dksX0_bakeryOf_0 3 rfl rfl)
theorem dX0_bakeryOf_4 : decode cX0_bakeryOf 4 = .ok (.iload_n 2, 1) := dk_28 (dk_at dksX0_bakeryOf_0 4 rfl rfl)
theorem dX0_bakeryOf_5 : decode cX0_bakeryOf 5 = .ok (.invokevirtual 60, 3) := dk_182 0 60 (dk_at dksX0_bakeryOf_0 5 rfl rfl)
theorem dX0_bakeryOf_8 : decode cX0_bakeryOf 8 = .ok (.i2l, 1) := dk_133 (dk_at dksX0_bakeryOf_0 8 rfl rfl)
theorem dX0_bakeryOf_9 : decode cX0_bakeryOf 9 = .ok (.lastore, 1) := dk_80 (dk_at dksX0_bakeryOf_0 9 rfl rfl)
theorem dX0_bakeryOf_10 : decode cX0_bakeryOf 10 = .ok (.goto 11, 3) := dk_167 0 11 (dk_at dksX0_bakeryOf_0 10 rfl rfl)
theorem dX0_bakeryOf_13 : decode cX0_bakeryOf 13 = .ok (.astore 4, 2) := dk_58 4 (dk_at dksX0_bakeryOf_0 13 rfl rfl)
theorem dX0_bakeryOf_15 : decode cX0_bakeryOf 15 = .ok (.iconst 1, 1) := dk_4 (dk_at dksX0_bakeryOf_0 15 rfl rfl)
theorem dX0_bakeryOf_16 : decode cX0_bakeryOf 16 = .ok (.ireturn, 1) := dk_172 (dk_at dksX0_bakeryOf_0 16 rfl rfl)
theorem dX0_bakeryOf_17 : decode cX0_bakeryOf 17 = .ok (.astore 4, 2) := dk_58 4 (dk_at dksX0_bakeryOf_0 17 rfl rfl)
theorem dX0_bakeryOf_19 : decode cX0_bakeryOf 19 = .ok (.iconst 2, 1) := dk_5 (dk_at dksX0_bakeryOf_0 19 rfl rfl)
theorem dX0_bakeryOf_20 : decode cX0_bakeryOf 20 = .ok (.ireturn, 1) := dk_172 (dk_at dksX0_bakeryOf_0 20 rfl rfl)
theorem dX0_bakeryOf_21 : decode cX0_bakeryOf 21 = .ok (.iconst 0, 1) := dk_3 (dk_at dksX0_bakeryOf_0 21 rfl rfl)
theorem dX0_bakeryOf_22 : decode cX0_bakeryOf 22 = .ok (.ireturn, 1) := dk_172 (dk_at dksX0_bakeryOf_0 22 rfl rfl)
abbrev cX0_signAt : ByteArray := method_16_code
def yX0_signAt : MethodName := ⟨RX0, "signAt", "(LBakeryRing;I[J)I"⟩
def dkwX0_signAt_0 : List UInt8 := [44, 3, 42, 27, 182, 0, 63, 133, 80, 167, 0, 6, 78, 4, 172, 3, 172]
abbrev dktX0_signAt_0 : List UInt8 := dkwX0_signAt_0 ++ []
theorem dksX0_signAt_0 : cX0_signAt.data.toList.drop 0 = dktX0_signAt_0 := by decide +kernel
theorem dX0_signAt_0 : decode cX0_signAt 0 = .ok (.aload_n 2, 1) := dk_44 (dk_at dksX0_signAt_0 0 rfl rfl)
theorem dX0_signAt_1 : decode cX0_signAt 1 = .ok (.iconst 0, 1) := dk_3 (dk_at dksX0_signAt_0 1 rfl rfl)
theorem dX0_signAt_2 : decode cX0_signAt 2 = .ok (.aload_n 0, 1) := dk_42 (dk_at dksX0_signAt_0 2 rfl rfl)
theorem dX0_signAt_3 : decode cX0_signAt 3 = .ok (.iload_n 1, 1) := dk_27 (dk_at dksX0_signAt_0 3 rfl rfl)
theorem dX0_signAt_4 : decode cX0_signAt 4 = .ok (.invokevirtual 63, 3) := dk_182 0 63 (dk_at dksX0_signAt_0 4 rfl rfl)
theorem dX0_signAt_7 : decode cX0_signAt 7 = .ok (.i2l, 1) := dk_133 (dk_at dksX0_signAt_0 7 rfl rfl)
theorem dX0_signAt_8 : decode cX0_signAt 8 = .ok (.lastore, 1) := dk_80 (dk_at dksX0_signAt_0 8 rfl rfl)
theorem dX0_signAt_9 : decode cX0_signAt 9 = .ok (.goto 6, 3) := dk_167 0 6 (dk_at dksX0_signAt_0 9 rfl rfl)
theorem dX0_signAt_12 : decode cX0_signAt 12 = .ok (.astore_n 3, 1) := dk_78 (dk_at dksX0_signAt_0 12 rfl rfl)
theorem dX0_signAt_13 : decode cX0_signAt 13 = .ok (.iconst 1, 1) := dk_4 (dk_at dksX0_signAt_0 13 rfl rfl)
theorem dX0_signAt_14 : decode cX0_signAt 14 = .ok (.ireturn, 1) := dk_172 (dk_at dksX0_signAt_0 14 rfl rfl)
theorem dX0_signAt_15 : decode cX0_signAt 15 = .ok (.iconst 0, 1) := dk_3 (dk_at dksX0_signAt_0 15 rfl rfl)
theorem dX0_signAt_16 : decode cX0_signAt 16 = .ok (.ireturn, 1) := dk_172 (dk_at dksX0_signAt_0 16 rfl rfl)
abbrev cX0_signOf : ByteArray := method_17_code
def yX0_signOf : MethodName := ⟨RX0, "signOf", "(LBakeryRing;I[J)I"⟩
def dkwX0_signOf_0 : List UInt8 := [44, 3, 42, 27, 182, 0, 66, 133, 80, 167, 0, 9, 78, 4, 172, 78, 5, 172, 3, 172]
abbrev dktX0_signOf_0 : List UInt8 := dkwX0_signOf_0 ++ []
theorem dksX0_signOf_0 : cX0_signOf.data.toList.drop 0 = dktX0_signOf_0 := by decide +kernel
theorem dX0_signOf_0 : decode cX0_signOf 0 = .ok (.aload_n 2, 1) := dk_44 (dk_at dksX0_signOf_0 0 rfl rfl)
theorem dX0_signOf_1 : decode cX0_signOf 1 = .ok (.iconst 0, 1) := dk_3 (dk_at dksX0_signOf_0 1 rfl rfl)
theorem dX0_signOf_2 : decode cX0_signOf 2 = .ok (.aload_n 0, 1) := dk_42 (dk_at dksX0_signOf_0 2 rfl rfl)
theorem dX0_signOf_3 : decode cX0_signOf 3 = .ok (.iload_n 1, 1) := dk_27 (dk_at dksX0_signOf_0 3 rfl rfl)
theorem dX0_signOf_4 : decode cX0_signOf 4 = .ok (.invokevirtual 66, 3) := dk_182 0 66 (dk_at dksX0_signOf_0 4 rfl rfl)
theorem dX0_signOf_7 : decode cX0_signOf 7 = .ok (.i2l, 1) := dk_133 (dk_at dksX0_signOf_0 7 rfl rfl)
theorem dX0_signOf_8 : decode cX0_signOf 8 = .ok (.lastore, 1) := dk_80 (dk_at dksX0_signOf_0 8 rfl rfl)
theorem dX0_signOf_9 : decode cX0_signOf 9 = .ok (.goto 9, 3) := dk_167 0 9 (dk_at dksX0_signOf_0 9 rfl rfl)
theorem dX0_signOf_12 : decode cX0_signOf 12 = .ok (.astore_n 3, 1) := dk_78 (dk_at dksX0_signOf_0 12 rfl rfl)
theorem dX0_signOf_13 : decode cX0_signOf 13 = .ok (.iconst 1, 1) := dk_4 (dk_at dksX0_signOf_0 13 rfl rfl)
theorem dX0_signOf_14 : decode cX0_signOf 14 = .ok (.ireturn, 1) := dk_172 (dk_at dksX0_signOf_0 14 rfl rfl)
theorem dX0_signOf_15 : decode cX0_signOf 15 = .ok (.astore_n 3, 1) := dk_78 (dk_at dksX0_signOf_0 15 rfl rfl)
theorem dX0_signOf_16 : decode cX0_signOf 16 = .ok (.iconst 2, 1) := dk_5 (dk_at dksX0_signOf_0 16 rfl rfl)
theorem dX0_signOf_17 : decode cX0_signOf 17 = .ok (.ireturn, 1) := dk_172 (dk_at dksX0_signOf_0 17 rfl rfl)
theorem dX0_signOf_18 : decode cX0_signOf 18 = .ok (.iconst 0, 1) := dk_3 (dk_at dksX0_signOf_0 18 rfl rfl)
theorem dX0_signOf_19 : decode cX0_signOf 19 = .ok (.ireturn, 1) := dk_172 (dk_at dksX0_signOf_0 19 rfl rfl)
abbrev cX0_customerOf : ByteArray := method_18_code
def yX0_customerOf : MethodName := ⟨RX0, "customerOf", "(LBakeryRing;II[J)I"⟩
def dkwX0_customerOf_0 : List UInt8 := [45, 3, 42, 27, 28, 182, 0, 69, 133, 80, 167, 0, 11, 58, 4, 4, 172, 58, 4, 5, 172, 3, 172]
abbrev dktX0_customerOf_0 : List UInt8 := dkwX0_customerOf_0 ++ []
theorem dksX0_customerOf_0 : cX0_customerOf.data.toList.drop 0 = dktX0_customerOf_0 := by decide +kernel
theorem dX0_customerOf_0 : decode cX0_customerOf 0 = .ok (.aload_n 3, 1) := dk_45 (dk_at dksX0_customerOf_0 0 rfl rfl)
theorem dX0_customerOf_1 : decode cX0_customerOf 1 = .ok (.iconst 0, 1) := dk_3 (dk_at dksX0_customerOf_0 1 rfl rfl)
theorem dX0_customerOf_2 : decode cX0_customerOf 2 = .ok (.aload_n 0, 1) := dk_42 (dk_at dksX0_customerOf_0 2 rfl rfl)
theorem dX0_customerOf_3 : decode cX0_customerOf 3 = .ok (.iload_n 1, 1) := dk_27 (dk_at dksX0_customerOf_0 3 rfl rfl)
theorem dX0_customerOf_4 : decode cX0_customerOf 4 = .ok (.iload_n 2, 1) := dk_28 (dk_at dksX0_customerOf_0 4 rfl rfl)
theorem dX0_customerOf_5 : decode cX0_customerOf 5 = .ok (.invokevirtual 69, 3) := dk_182 0 69 (dk_at dksX0_customerOf_0 5 rfl rfl)
theorem dX0_customerOf_8 : decode cX0_customerOf 8 = .ok (.i2l, 1) := dk_133 (dk_at dksX0_customerOf_0 8 rfl rfl)
theorem dX0_customerOf_9 : decode cX0_customerOf 9 = .ok (.lastore, 1) := dk_80 (dk_at dksX0_customerOf_0 9 rfl rfl)
theorem dX0_customerOf_10 : decode cX0_customerOf 10 = .ok (.goto 11, 3) := dk_167 0 11 (dk_at dksX0_customerOf_0 10 rfl rfl)
theorem dX0_customerOf_13 : decode cX0_customerOf 13 = .ok (.astore 4, 2) := dk_58 4 (dk_at dksX0_customerOf_0 13 rfl rfl)
theorem dX0_customerOf_15 : decode cX0_customerOf 15 = .ok (.iconst 1, 1) := dk_4 (dk_at dksX0_customerOf_0 15 rfl rfl)
theorem dX0_customerOf_16 : decode cX0_customerOf 16 = .ok (.ireturn, 1) := dk_172 (dk_at dksX0_customerOf_0 16 rfl rfl)
theorem dX0_customerOf_17 : decode cX0_customerOf 17 = .ok (.astore 4, 2) := dk_58 4 (dk_at dksX0_customerOf_0 17 rfl rfl)
theorem dX0_customerOf_19 : decode cX0_customerOf 19 = .ok (.iconst 2, 1) := dk_5 (dk_at dksX0_customerOf_0 19 rfl rfl)
theorem dX0_customerOf_20 : decode cX0_customerOf 20 = .ok (.ireturn, 1) := dk_172 (dk_at dksX0_customerOf_0 20 rfl rfl)
theorem dX0_customerOf_21 : decode cX0_customerOf 21 = .ok (.iconst 0, 1) := dk_3 (dk_at dksX0_customerOf_0 21 rfl rfl)
theorem dX0_customerOf_22 : decode cX0_customerOf 22 = .ok (.ireturn, 1) := dk_172 (dk_at dksX0_customerOf_0 22 rfl rfl)
abbrev cX0_way : ByteArray := method_19_code
def yX0_way : MethodName := ⟨RX0, "way", "(LBakeryRing;II[J)I"⟩
def dkwX0_way_0 : List UInt8 := [45, 3, 42, 27, 28, 182, 0, 72, 133, 80, 167, 0, 7, 58, 4, 4, 172, 3, 172]
abbrev dktX0_way_0 : List UInt8 := dkwX0_way_0 ++ []
theorem dksX0_way_0 : cX0_way.data.toList.drop 0 = dktX0_way_0 := by decide +kernel
theorem dX0_way_0 : decode cX0_way 0 = .ok (.aload_n 3, 1) := dk_45 (dk_at dksX0_way_0 0 rfl rfl)
theorem dX0_way_1 : decode cX0_way 1 = .ok (.iconst 0, 1) := dk_3 (dk_at dksX0_way_0 1 rfl rfl)
theorem dX0_way_2 : decode cX0_way 2 = .ok (.aload_n 0, 1) := dk_42 (dk_at dksX0_way_0 2 rfl rfl)
theorem dX0_way_3 : decode cX0_way 3 = .ok (.iload_n 1, 1) := dk_27 (dk_at dksX0_way_0 3 rfl rfl)
theorem dX0_way_4 : decode cX0_way 4 = .ok (.iload_n 2, 1) := dk_28 (dk_at dksX0_way_0 4 rfl rfl)
theorem dX0_way_5 : decode cX0_way 5 = .ok (.invokevirtual 72, 3) := dk_182 0 72 (dk_at dksX0_way_0 5 rfl rfl)
theorem dX0_way_8 : decode cX0_way 8 = .ok (.i2l, 1) := dk_133 (dk_at dksX0_way_0 8 rfl rfl)
theorem dX0_way_9 : decode cX0_way 9 = .ok (.lastore, 1) := dk_80 (dk_at dksX0_way_0 9 rfl rfl)
theorem dX0_way_10 : decode cX0_way 10 = .ok (.goto 7, 3) := dk_167 0 7 (dk_at dksX0_way_0 10 rfl rfl)
theorem dX0_way_13 : decode cX0_way 13 = .ok (.astore 4, 2) := dk_58 4 (dk_at dksX0_way_0 13 rfl rfl)
theorem dX0_way_15 : decode cX0_way 15 = .ok (.iconst 1, 1) := dk_4 (dk_at dksX0_way_0 15 rfl rfl)
theorem dX0_way_16 : decode cX0_way 16 = .ok (.ireturn, 1) := dk_172 (dk_at dksX0_way_0 16 rfl rfl)
theorem dX0_way_17 : decode cX0_way 17 = .ok (.iconst 0, 1) := dk_3 (dk_at dksX0_way_0 17 rfl rfl)
theorem dX0_way_18 : decode cX0_way 18 = .ok (.ireturn, 1) := dk_172 (dk_at dksX0_way_0 18 rfl rfl)
abbrev cX0_nearest : ByteArray := method_20_code
def yX0_nearest : MethodName := ⟨RX0, "nearest", "(LBakeryRing;I[J)I"⟩
def dkwX0_nearest_0 : List UInt8 := [44, 3, 42, 27, 182, 0, 75, 133, 80, 167, 0, 9, 78, 4, 172, 78, 5, 172, 3, 172]
abbrev dktX0_nearest_0 : List UInt8 := dkwX0_nearest_0 ++ []
theorem dksX0_nearest_0 : cX0_nearest.data.toList.drop 0 = dktX0_nearest_0 := by decide +kernel
theorem dX0_nearest_0 : decode cX0_nearest 0 = .ok (.aload_n 2, 1) := dk_44 (dk_at dksX0_nearest_0 0 rfl rfl)
theorem dX0_nearest_1 : decode cX0_nearest 1 = .ok (.iconst 0, 1) := dk_3 (dk_at dksX0_nearest_0 1 rfl rfl)
theorem dX0_nearest_2 : decode cX0_nearest 2 = .ok (.aload_n 0, 1) := dk_42 (dk_at dksX0_nearest_0 2 rfl rfl)
theorem dX0_nearest_3 : decode cX0_nearest 3 = .ok (.iload_n 1, 1) := dk_27 (dk_at dksX0_nearest_0 3 rfl rfl)
theorem dX0_nearest_4 : decode cX0_nearest 4 = .ok (.invokevirtual 75, 3) := dk_182 0 75 (dk_at dksX0_nearest_0 4 rfl rfl)
theorem dX0_nearest_7 : decode cX0_nearest 7 = .ok (.i2l, 1) := dk_133 (dk_at dksX0_nearest_0 7 rfl rfl)
theorem dX0_nearest_8 : decode cX0_nearest 8 = .ok (.lastore, 1) := dk_80 (dk_at dksX0_nearest_0 8 rfl rfl)
theorem dX0_nearest_9 : decode cX0_nearest 9 = .ok (.goto 9, 3) := dk_167 0 9 (dk_at dksX0_nearest_0 9 rfl rfl)
theorem dX0_nearest_12 : decode cX0_nearest 12 = .ok (.astore_n 3, 1) := dk_78 (dk_at dksX0_nearest_0 12 rfl rfl)
theorem dX0_nearest_13 : decode cX0_nearest 13 = .ok (.iconst 1, 1) := dk_4 (dk_at dksX0_nearest_0 13 rfl rfl)
theorem dX0_nearest_14 : decode cX0_nearest 14 = .ok (.ireturn, 1) := dk_172 (dk_at dksX0_nearest_0 14 rfl rfl)
theorem dX0_nearest_15 : decode cX0_nearest 15 = .ok (.astore_n 3, 1) := dk_78 (dk_at dksX0_nearest_0 15 rfl rfl)
theorem dX0_nearest_16 : decode cX0_nearest 16 = .ok (.iconst 2, 1) := dk_5 (dk_at dksX0_nearest_0 16 rfl rfl)
theorem dX0_nearest_17 : decode cX0_nearest 17 = .ok (.ireturn, 1) := dk_172 (dk_at dksX0_nearest_0 17 rfl rfl)
theorem dX0_nearest_18 : decode cX0_nearest 18 = .ok (.iconst 0, 1) := dk_3 (dk_at dksX0_nearest_0 18 rfl rfl)
theorem dX0_nearest_19 : decode cX0_nearest 19 = .ok (.ireturn, 1) := dk_172 (dk_at dksX0_nearest_0 19 rfl rfl)
abbrev cX0_nearestAgain : ByteArray := method_21_code
def yX0_nearestAgain : MethodName := ⟨RX0, "nearestAgain", "(LBakeryRing;I[J)I"⟩
def dkwX0_nearestAgain_0 : List UInt8 := [44, 3, 42, 27, 182, 0, 78, 133, 80, 167, 0, 9, 78, 4, 172, 78, 5, 172, 3, 172]
abbrev dktX0_nearestAgain_0 : List UInt8 := dkwX0_nearestAgain_0 ++ []
theorem dksX0_nearestAgain_0 : cX0_nearestAgain.data.toList.drop 0 = dktX0_nearestAgain_0 := by decide +kernel
theorem dX0_nearestAgain_0 : decode cX0_nearestAgain 0 = .ok (.aload_n 2, 1) := dk_44 (dk_at dksX0_nearestAgain_0 0 rfl rfl)
theorem dX0_nearestAgain_1 : decode cX0_nearestAgain 1 = .ok (.iconst 0, 1) := dk_3 (dk_at dksX0_nearestAgain_0 1 rfl rfl)
theorem dX0_nearestAgain_2 : decode cX0_nearestAgain 2 = .ok (.aload_n 0, 1) := dk_42 (dk_at dksX0_nearestAgain_0 2 rfl rfl)
theorem dX0_nearestAgain_3 : decode cX0_nearestAgain 3 = .ok (.iload_n 1, 1) := dk_27 (dk_at dksX0_nearestAgain_0 3 rfl rfl)
theorem dX0_nearestAgain_4 : decode cX0_nearestAgain 4 = .ok (.invokevirtual 78, 3) := dk_182 0 78 (dk_at dksX0_nearestAgain_0 4 rfl rfl)
theorem dX0_nearestAgain_7 : decode cX0_nearestAgain 7 = .ok (.i2l, 1) := dk_133 (dk_at dksX0_nearestAgain_0 7 rfl rfl)
theorem dX0_nearestAgain_8 : decode cX0_nearestAgain 8 = .ok (.lastore, 1) := dk_80 (dk_at dksX0_nearestAgain_0 8 rfl rfl)
theorem dX0_nearestAgain_9 : decode cX0_nearestAgain 9 = .ok (.goto 9, 3) := dk_167 0 9 (dk_at dksX0_nearestAgain_0 9 rfl rfl)
theorem dX0_nearestAgain_12 : decode cX0_nearestAgain 12 = .ok (.astore_n 3, 1) := dk_78 (dk_at dksX0_nearestAgain_0 12 rfl rfl)
theorem dX0_nearestAgain_13 : decode cX0_nearestAgain 13 = .ok (.iconst 1, 1) := dk_4 (dk_at dksX0_nearestAgain_0 13 rfl rfl)
theorem dX0_nearestAgain_14 : decode cX0_nearestAgain 14 = .ok (.ireturn, 1) := dk_172 (dk_at dksX0_nearestAgain_0 14 rfl rfl)
theorem dX0_nearestAgain_15 : decode cX0_nearestAgain 15 = .ok (.astore_n 3, 1) := dk_78 (dk_at dksX0_nearestAgain_0 15 rfl rfl)
theorem dX0_nearestAgain_16 : decode cX0_nearestAgain 16 = .ok (.iconst 2, 1) := dk_5 (dk_at dksX0_nearestAgain_0 16 rfl rfl)
theorem dX0_nearestAgain_17 : decode cX0_nearestAgain 17 = .ok (.ireturn, 1) := dk_172 (dk_at dksX0_nearestAgain_0 17 rfl rfl)
theorem dX0_nearestAgain_18 : decode cX0_nearestAgain 18 = .ok (.iconst 0, 1) := dk_3 (dk_at dksX0_nearestAgain_0 18 rfl rfl)
theorem dX0_nearestAgain_19 : decode cX0_nearestAgain 19 = .ok (.ireturn, 1) := dk_172 (dk_at dksX0_nearestAgain_0 19 rfl rfl)
abbrev cX0_wouldGo : ByteArray := method_22_code
def yX0_wouldGo : MethodName := ⟨RX0, "wouldGo", "(LBakeryRing;II[J)I"⟩
def dkwX0_wouldGo_1 : List UInt8 := [172, 3, 172]
abbrev dktX0_wouldGo_1 : List UInt8 := dkwX0_wouldGo_1 ++ []
def dkwX0_wouldGo_0 : List UInt8 := [45, 3, 42, 27, 28, 182, 0, 81, 133, 80, 167, 0, 15, 58, 4, 4, 172, 58, 4, 5, 172, 58, 4, 6]
abbrev dktX0_wouldGo_0 : List UInt8 := dkwX0_wouldGo_0 ++ dktX0_wouldGo_1
theorem dksX0_wouldGo_0 : cX0_wouldGo.data.toList.drop 0 = dktX0_wouldGo_0 := by decide +kernel
theorem dksX0_wouldGo_1 : cX0_wouldGo.data.toList.drop 24 = dktX0_wouldGo_1 := dk_seg dksX0_wouldGo_0 24 rfl rfl
theorem dX0_wouldGo_0 : decode cX0_wouldGo 0 = .ok (.aload_n 3, 1) := dk_45 (dk_at dksX0_wouldGo_0 0 rfl rfl)
theorem dX0_wouldGo_1 : decode cX0_wouldGo 1 = .ok (.iconst 0, 1) := dk_3 (dk_at dksX0_wouldGo_0 1 rfl rfl)
theorem dX0_wouldGo_2 : decode cX0_wouldGo 2 = .ok (.aload_n 0, 1) := dk_42 (dk_at dksX0_wouldGo_0 2 rfl rfl)
theorem dX0_wouldGo_3 : decode cX0_wouldGo 3 = .ok (.iload_n 1, 1) := dk_27 (dk_at dksX0_wouldGo_0 3 rfl rfl)
theorem dX0_wouldGo_4 : decode cX0_wouldGo 4 = .ok (.iload_n 2, 1) := dk_28 (dk_at dksX0_wouldGo_0 4 rfl rfl)
theorem dX0_wouldGo_5 : decode cX0_wouldGo 5 = .ok (.invokevirtual 81, 3) := dk_182 0 81 (dk_at dksX0_wouldGo_0 5 rfl rfl)
theorem dX0_wouldGo_8 : decode cX0_wouldGo 8 = .ok (.i2l, 1) := dk_133 (dk_at dksX0_wouldGo_0 8 rfl rfl)
theorem dX0_wouldGo_9 : decode cX0_wouldGo 9 = .ok (.lastore, 1) := dk_80 (dk_at dksX0_wouldGo_0 9 rfl rfl)
theorem dX0_wouldGo_10 : decode cX0_wouldGo 10 = .ok (.goto 15, 3) := dk_167 0 15 (dk_at dksX0_wouldGo_0 10 rfl rfl)
theorem dX0_wouldGo_13 : decode cX0_wouldGo 13 = .ok (.astore 4, 2) := dk_58 4 (dk_at dksX0_wouldGo_0 13 rfl rfl)
theorem dX0_wouldGo_15 : decode cX0_wouldGo 15 = .ok (.iconst 1, 1) := dk_4 (dk_at dksX0_wouldGo_0 15 rfl rfl)
theorem dX0_wouldGo_16 : decode cX0_wouldGo 16 = .ok (.ireturn, 1) := dk_172 (dk_at dksX0_wouldGo_0 16 rfl rfl)
theorem dX0_wouldGo_17 : decode cX0_wouldGo 17 = .ok (.astore 4, 2) := dk_58 4 (dk_at dksX0_wouldGo_0 17 rfl rfl)
theorem dX0_wouldGo_19 : decode cX0_wouldGo 19 = .ok (.iconst 2, 1) := dk_5 (dk_at dksX0_wouldGo_0 19 rfl rfl)
theorem dX0_wouldGo_20 : decode cX0_wouldGo 20 = .ok (.ireturn, 1) := dk_172 (dk_at dksX0_wouldGo_0 20 rfl rfl)
theorem dX0_wouldGo_21 : decode cX0_wouldGo 21 = .ok (.astore 4, 2) := dk_58 4 (dk_at dksX0_wouldGo_0 21 rfl rfl)
theorem dX0_wouldGo_23 : decode cX0_wouldGo 23 = .ok (.iconst 3, 1) := dk_6 (dk_at dksX0_wouldGo_0 23 rfl rfl)
theorem dX0_wouldGo_24 : decode cX0_wouldGo 24 = .ok (.ireturn, 1) := dk_172 (dk_at dksX0_wouldGo_1 0 rfl rfl)
theorem dX0_wouldGo_25 : decode cX0_wouldGo 25 = .ok (.iconst 0, 1) := dk_3 (dk_at dksX0_wouldGo_1 1 rfl rfl)
theorem dX0_wouldGo_26 : decode cX0_wouldGo 26 = .ok (.ireturn, 1) := dk_172 (dk_at dksX0_wouldGo_1 2 rfl rfl)
abbrev cX0_wouldMove : ByteArray := method_23_code
def yX0_wouldMove : MethodName := ⟨RX0, "wouldMove", "(LBakeryRing;I[J)I"⟩
def dkwX0_wouldMove_0 : List UInt8 := [44, 3, 42, 27, 182, 0, 84, 133, 80, 167, 0, 6, 78, 4, 172, 3, 172]
abbrev dktX0_wouldMove_0 : List UInt8 := dkwX0_wouldMove_0 ++ []
theorem dksX0_wouldMove_0 : cX0_wouldMove.data.toList.drop 0 = dktX0_wouldMove_0 := by decide +kernel
theorem dX0_wouldMove_0 : decode cX0_wouldMove 0 = .ok (.aload_n 2, 1) := dk_44 (dk_at dksX0_wouldMove_0 0 rfl rfl)
theorem dX0_wouldMove_1 : decode cX0_wouldMove 1 = .ok (.iconst 0, 1) := dk_3 (dk_at dksX0_wouldMove_0 1 rfl rfl)
theorem dX0_wouldMove_2 : decode cX0_wouldMove 2 = .ok (.aload_n 0, 1) := dk_42 (dk_at dksX0_wouldMove_0 2 rfl rfl)
theorem dX0_wouldMove_3 : decode cX0_wouldMove 3 = .ok (.iload_n 1, 1) := dk_27 (dk_at dksX0_wouldMove_0 3 rfl rfl)
theorem dX0_wouldMove_4 : decode cX0_wouldMove 4 = .ok (.invokevirtual 84, 3) := dk_182 0 84 (dk_at dksX0_wouldMove_0 4 rfl rfl)
theorem dX0_wouldMove_7 : decode cX0_wouldMove 7 = .ok (.i2l, 1) := dk_133 (dk_at dksX0_wouldMove_0 7 rfl rfl)
theorem dX0_wouldMove_8 : decode cX0_wouldMove 8 = .ok (.lastore, 1) := dk_80 (dk_at dksX0_wouldMove_0 8 rfl rfl)
theorem dX0_wouldMove_9 : decode cX0_wouldMove 9 = .ok (.goto 6, 3) := dk_167 0 6 (dk_at dksX0_wouldMove_0 9 rfl rfl)
theorem dX0_wouldMove_12 : decode cX0_wouldMove 12 = .ok (.astore_n 3, 1) := dk_78 (dk_at dksX0_wouldMove_0 12 rfl rfl)
theorem dX0_wouldMove_13 : decode cX0_wouldMove 13 = .ok (.iconst 1, 1) := dk_4 (dk_at dksX0_wouldMove_0 13 rfl rfl)
theorem dX0_wouldMove_14 : decode cX0_wouldMove 14 = .ok (.ireturn, 1) := dk_172 (dk_at dksX0_wouldMove_0 14 rfl rfl)
theorem dX0_wouldMove_15 : decode cX0_wouldMove 15 = .ok (.iconst 0, 1) := dk_3 (dk_at dksX0_wouldMove_0 15 rfl rfl)
theorem dX0_wouldMove_16 : decode cX0_wouldMove 16 = .ok (.ireturn, 1) := dk_172 (dk_at dksX0_wouldMove_0 16 rfl rfl)
abbrev cX0_wouldLoad : ByteArray := method_24_code
def yX0_wouldLoad : MethodName := ⟨RX0, "wouldLoad", "(LBakeryRing;II[J)I"⟩
def dkwX0_wouldLoad_0 : List UInt8 := [45, 3, 42, 27, 28, 182, 0, 87, 133, 80, 167, 0, 7, 58, 4, 4, 172, 3, 172]
abbrev dktX0_wouldLoad_0 : List UInt8 := dkwX0_wouldLoad_0 ++ []
theorem dksX0_wouldLoad_0 : cX0_wouldLoad.data.toList.drop 0 = dktX0_wouldLoad_0 := by decide +kernel
theorem dX0_wouldLoad_0 : decode cX0_wouldLoad 0 = .ok (.aload_n 3, 1) := dk_45 (dk_at dksX0_wouldLoad_0 0 rfl rfl)
theorem dX0_wouldLoad_1 : decode cX0_wouldLoad 1 = .ok (.iconst 0, 1) := dk_3 (dk_at dksX0_wouldLoad_0 1 rfl rfl)
theorem dX0_wouldLoad_2 : decode cX0_wouldLoad 2 = .ok (.aload_n 0, 1) := dk_42 (dk_at dksX0_wouldLoad_0 2 rfl rfl)
theorem dX0_wouldLoad_3 : decode cX0_wouldLoad 3 = .ok (.iload_n 1, 1) := dk_27 (dk_at dksX0_wouldLoad_0 3 rfl rfl)
theorem dX0_wouldLoad_4 : decode cX0_wouldLoad 4 = .ok (.iload_n 2, 1) := dk_28 (dk_at dksX0_wouldLoad_0 4 rfl rfl)
theorem dX0_wouldLoad_5 : decode cX0_wouldLoad 5 = .ok (.invokevirtual 87, 3) := dk_182 0 87 (dk_at dksX0_wouldLoad_0 5 rfl rfl)
theorem dX0_wouldLoad_8 : decode cX0_wouldLoad 8 = .ok (.i2l, 1) := dk_133 (dk_at dksX0_wouldLoad_0 8 rfl rfl)
theorem dX0_wouldLoad_9 : decode cX0_wouldLoad 9 = .ok (.lastore, 1) := dk_80 (dk_at dksX0_wouldLoad_0 9 rfl rfl)
theorem dX0_wouldLoad_10 : decode cX0_wouldLoad 10 = .ok (.goto 7, 3) := dk_167 0 7 (dk_at dksX0_wouldLoad_0 10 rfl rfl)
theorem dX0_wouldLoad_13 : decode cX0_wouldLoad 13 = .ok (.astore 4, 2) := dk_58 4 (dk_at dksX0_wouldLoad_0 13 rfl rfl)
theorem dX0_wouldLoad_15 : decode cX0_wouldLoad 15 = .ok (.iconst 1, 1) := dk_4 (dk_at dksX0_wouldLoad_0 15 rfl rfl)
theorem dX0_wouldLoad_16 : decode cX0_wouldLoad 16 = .ok (.ireturn, 1) := dk_172 (dk_at dksX0_wouldLoad_0 16 rfl rfl)
theorem dX0_wouldLoad_17 : decode cX0_wouldLoad 17 = .ok (.iconst 0, 1) := dk_3 (dk_at dksX0_wouldLoad_0 17 rfl rfl)
theorem dX0_wouldLoad_18 : decode cX0_wouldLoad 18 = .ok (.ireturn, 1) := dk_172 (dk_at dksX0_wouldLoad_0 18 rfl rfl)
abbrev cX0_bestAngle : ByteArray := method_25_code
def yX0_bestAngle : MethodName := ⟨RX0, "bestAngle", "(LBakeryRing;I[J)I"⟩
def dkwX0_bestAngle_0 : List UInt8 := [44, 3, 42, 27, 182, 0, 90, 133, 80, 167, 0, 6, 78, 4, 172, 3, 172]
abbrev dktX0_bestAngle_0 : List UInt8 := dkwX0_bestAngle_0 ++ []
theorem dksX0_bestAngle_0 : cX0_bestAngle.data.toList.drop 0 = dktX0_bestAngle_0 := by decide +kernel
theorem dX0_bestAngle_0 : decode cX0_bestAngle 0 = .ok (.aload_n 2, 1) := dk_44 (dk_at dksX0_bestAngle_0 0 rfl rfl)
theorem dX0_bestAngle_1 : decode cX0_bestAngle 1 = .ok (.iconst 0, 1) := dk_3 (dk_at dksX0_bestAngle_0 1 rfl rfl)
theorem dX0_bestAngle_2 : decode cX0_bestAngle 2 = .ok (.aload_n 0, 1) := dk_42 (dk_at dksX0_bestAngle_0 2 rfl rfl)
theorem dX0_bestAngle_3 : decode cX0_bestAngle 3 = .ok (.iload_n 1, 1) := dk_27 (dk_at dksX0_bestAngle_0 3 rfl rfl)
theorem dX0_bestAngle_4 : decode cX0_bestAngle 4 = .ok (.invokevirtual 90, 3) := dk_182 0 90 (dk_at dksX0_bestAngle_0 4 rfl rfl)
theorem dX0_bestAngle_7 : decode cX0_bestAngle 7 = .ok (.i2l, 1) := dk_133 (dk_at dksX0_bestAngle_0 7 rfl rfl)
theorem dX0_bestAngle_8 : decode cX0_bestAngle 8 = .ok (.lastore, 1) := dk_80 (dk_at dksX0_bestAngle_0 8 rfl rfl)
theorem dX0_bestAngle_9 : decode cX0_bestAngle 9 = .ok (.goto 6, 3) := dk_167 0 6 (dk_at dksX0_bestAngle_0 9 rfl rfl)
theorem dX0_bestAngle_12 : decode cX0_bestAngle 12 = .ok (.astore_n 3, 1) := dk_78 (dk_at dksX0_bestAngle_0 12 rfl rfl)
theorem dX0_bestAngle_13 : decode cX0_bestAngle 13 = .ok (.iconst 1, 1) := dk_4 (dk_at dksX0_bestAngle_0 13 rfl rfl)
theorem dX0_bestAngle_14 : decode cX0_bestAngle 14 = .ok (.ireturn, 1) := dk_172 (dk_at dksX0_bestAngle_0 14 rfl rfl)
theorem dX0_bestAngle_15 : decode cX0_bestAngle 15 = .ok (.iconst 0, 1) := dk_3 (dk_at dksX0_bestAngle_0 15 rfl rfl)
theorem dX0_bestAngle_16 : decode cX0_bestAngle 16 = .ok (.ireturn, 1) := dk_172 (dk_at dksX0_bestAngle_0 16 rfl rfl)
abbrev cX0_loadAgain : ByteArray := method_26_code
def yX0_loadAgain : MethodName := ⟨RX0, "loadAgain", "(LBakeryRing;I[J)I"⟩
def dkwX0_loadAgain_0 : List UInt8 := [44, 3, 42, 27, 182, 0, 93, 133, 80, 167, 0, 6, 78, 4, 172, 3, 172]
abbrev dktX0_loadAgain_0 : List UInt8 := dkwX0_loadAgain_0 ++ []
theorem dksX0_loadAgain_0 : cX0_loadAgain.data.toList.drop 0 = dktX0_loadAgain_0 := by decide +kernel
theorem dX0_loadAgain_0 : decode cX0_loadAgain 0 = .ok (.aload_n 2, 1) := dk_44 (dk_at dksX0_loadAgain_0 0 rfl rfl)
theorem dX0_loadAgain_1 : decode cX0_loadAgain 1 = .ok (.iconst 0, 1) := dk_3 (dk_at dksX0_loadAgain_0 1 rfl rfl)
theorem dX0_loadAgain_2 : decode cX0_loadAgain 2 = .ok (.aload_n 0, 1) := dk_42 (dk_at dksX0_loadAgain_0 2 rfl rfl)
theorem dX0_loadAgain_3 : decode cX0_loadAgain 3 = .ok (.iload_n 1, 1) := dk_27 (dk_at dksX0_loadAgain_0 3 rfl rfl)
theorem dX0_loadAgain_4 : decode cX0_loadAgain 4 = .ok (.invokevirtual 93, 3) := dk_182 0 93 (dk_at dksX0_loadAgain_0 4 rfl rfl)
theorem dX0_loadAgain_7 : decode cX0_loadAgain 7 = .ok (.i2l, 1) := dk_133 (dk_at dksX0_loadAgain_0 7 rfl rfl)
theorem dX0_loadAgain_8 : decode cX0_loadAgain 8 = .ok (.lastore, 1) := dk_80 (dk_at dksX0_loadAgain_0 8 rfl rfl)
theorem dX0_loadAgain_9 : decode cX0_loadAgain 9 = .ok (.goto 6, 3) := dk_167 0 6 (dk_at dksX0_loadAgain_0 9 rfl rfl)
theorem dX0_loadAgain_12 : decode cX0_loadAgain 12 = .ok (.astore_n 3, 1) := dk_78 (dk_at dksX0_loadAgain_0 12 rfl rfl)
theorem dX0_loadAgain_13 : decode cX0_loadAgain 13 = .ok (.iconst 1, 1) := dk_4 (dk_at dksX0_loadAgain_0 13 rfl rfl)
theorem dX0_loadAgain_14 : decode cX0_loadAgain 14 = .ok (.ireturn, 1) := dk_172 (dk_at dksX0_loadAgain_0 14 rfl rfl)
theorem dX0_loadAgain_15 : decode cX0_loadAgain 15 = .ok (.iconst 0, 1) := dk_3 (dk_at dksX0_loadAgain_0 15 rfl rfl)
theorem dX0_loadAgain_16 : decode cX0_loadAgain 16 = .ok (.ireturn, 1) := dk_172 (dk_at dksX0_loadAgain_0 16 rfl rfl)
abbrev cX0_span : ByteArray := method_27_code
def yX0_span : MethodName := ⟨RX0, "span", "(LBakeryRing;I[J)I"⟩
def dkwX0_span_0 : List UInt8 := [44, 3, 42, 27, 182, 0, 96, 133, 80, 167, 0, 6, 78, 4, 172, 3, 172]
abbrev dktX0_span_0 : List UInt8 := dkwX0_span_0 ++ []
theorem dksX0_span_0 : cX0_span.data.toList.drop 0 = dktX0_span_0 := by decide +kernel
theorem dX0_span_0 : decode cX0_span 0 = .ok (.aload_n 2, 1) := dk_44 (dk_at dksX0_span_0 0 rfl rfl)
theorem dX0_span_1 : decode cX0_span 1 = .ok (.iconst 0, 1) := dk_3 (dk_at dksX0_span_0 1 rfl rfl)
theorem dX0_span_2 : decode cX0_span 2 = .ok (.aload_n 0, 1) := dk_42 (dk_at dksX0_span_0 2 rfl rfl)
theorem dX0_span_3 : decode cX0_span 3 = .ok (.iload_n 1, 1) := dk_27 (dk_at dksX0_span_0 3 rfl rfl)
theorem dX0_span_4 : decode cX0_span 4 = .ok (.invokevirtual 96, 3) := dk_182 0 96 (dk_at dksX0_span_0 4 rfl rfl)
theorem dX0_span_7 : decode cX0_span 7 = .ok (.i2l, 1) := dk_133 (dk_at dksX0_span_0 7 rfl rfl)
theorem dX0_span_8 : decode cX0_span 8 = .ok (.lastore, 1) := dk_80 (dk_at dksX0_span_0 8 rfl rfl)
theorem dX0_span_9 : decode cX0_span 9 = .ok (.goto 6, 3) := dk_167 0 6 (dk_at dksX0_span_0 9 rfl rfl)
theorem dX0_span_12 : decode cX0_span 12 = .ok (.astore_n 3, 1) := dk_78 (dk_at dksX0_span_0 12 rfl rfl)
theorem dX0_span_13 : decode cX0_span 13 = .ok (.iconst 1, 1) := dk_4 (dk_at dksX0_span_0 13 rfl rfl)
theorem dX0_span_14 : decode cX0_span 14 = .ok (.ireturn, 1) := dk_172 (dk_at dksX0_span_0 14 rfl rfl)
theorem dX0_span_15 : decode cX0_span 15 = .ok (.iconst 0, 1) := dk_3 (dk_at dksX0_span_0 15 rfl rfl)
theorem dX0_span_16 : decode cX0_span 16 = .ok (.ireturn, 1) := dk_172 (dk_at dksX0_span_0 16 rfl rfl)
abbrev cX0_customers : ByteArray := method_28_code
def yX0_customers : MethodName := ⟨RX0, "customers", "(LBakeryRing;II[J)I"⟩
def dkwX0_customers_0 : List UInt8 := [45, 3, 42, 27, 28, 182, 0, 99, 133, 80, 167, 0, 11, 58, 4, 4, 172, 58, 4, 5, 172, 3, 172]
abbrev dktX0_customers_0 : List UInt8 := dkwX0_customers_0 ++ []
theorem dksX0_customers_0 : cX0_customers.data.toList.drop 0 = dktX0_customers_0 := by decide +kernel
theorem dX0_customers_0 : decode cX0_customers 0 = .ok (.aload_n 3, 1) := dk_45 (dk_at dksX0_customers_0 0 rfl rfl)
theorem dX0_customers_1 : decode cX0_customers 1 = .ok (.iconst 0, 1) := dk_3 (dk_at dksX0_customers_0 1 rfl rfl)
theorem dX0_customers_2 : decode cX0_customers 2 = .ok (.aload_n 0, 1) := dk_42 (dk_at dksX0_customers_0 2 rfl rfl)
theorem dX0_customers_3 : decode cX0_customers 3 = .ok (.iload_n 1, 1) := dk_27 (dk_at dksX0_customers_0 3 rfl rfl)
theorem dX0_customers_4 : decode cX0_customers 4 = .ok (.iload_n 2, 1) := dk_28 (dk_at dksX0_customers_0 4 rfl rfl)
theorem dX0_customers_5 : decode cX0_customers 5 = .ok (.invokevirtual 99, 3) := dk_182 0 99 (dk_at dksX0_customers_0 5 rfl rfl)
theorem dX0_customers_8 : decode cX0_customers 8 = .ok (.i2l, 1) := dk_133 (dk_at dksX0_customers_0 8 rfl rfl)
theorem dX0_customers_9 : decode cX0_customers 9 = .ok (.lastore, 1) := dk_80 (dk_at dksX0_customers_0 9 rfl rfl)
theorem dX0_customers_10 : decode cX0_customers 10 = .ok (.goto 11, 3) := dk_167 0 11 (dk_at dksX0_customers_0 10 rfl rfl)
theorem dX0_customers_13 : decode cX0_customers 13 = .ok (.astore 4, 2) := dk_58 4 (dk_at dksX0_customers_0 13 rfl rfl)
theorem dX0_customers_15 : decode cX0_customers 15 = .ok (.iconst 1, 1) := dk_4 (dk_at dksX0_customers_0 15 rfl rfl)
theorem dX0_customers_16 : decode cX0_customers 16 = .ok (.ireturn, 1) := dk_172 (dk_at dksX0_customers_0 16 rfl rfl)
theorem dX0_customers_17 : decode cX0_customers 17 = .ok (.astore 4, 2) := dk_58 4 (dk_at dksX0_customers_0 17 rfl rfl)
theorem dX0_customers_19 : decode cX0_customers 19 = .ok (.iconst 2, 1) := dk_5 (dk_at dksX0_customers_0 19 rfl rfl)
theorem dX0_customers_20 : decode cX0_customers 20 = .ok (.ireturn, 1) := dk_172 (dk_at dksX0_customers_0 20 rfl rfl)
theorem dX0_customers_21 : decode cX0_customers 21 = .ok (.iconst 0, 1) := dk_3 (dk_at dksX0_customers_0 21 rfl rfl)
theorem dX0_customers_22 : decode cX0_customers 22 = .ok (.ireturn, 1) := dk_172 (dk_at dksX0_customers_0 22 rfl rfl)
abbrev cX0_ranked : ByteArray := method_29_code
def yX0_ranked : MethodName := ⟨RX0, "ranked", "(LBakeryRing;I[J)I"⟩
def dkwX0_ranked_0 : List UInt8 := [44, 3, 42, 27, 182, 0, 102, 133, 80, 167, 0, 6, 78, 4, 172, 3, 172]
abbrev dktX0_ranked_0 : List UInt8 := dkwX0_ranked_0 ++ []
theorem dksX0_ranked_0 : cX0_ranked.data.toList.drop 0 = dktX0_ranked_0 := by decide +kernel
theorem dX0_ranked_0 : decode cX0_ranked 0 = .ok (.aload_n 2, 1) := dk_44 (dk_at dksX0_ranked_0 0 rfl rfl)
theorem dX0_ranked_1 : decode cX0_ranked 1 = .ok (.iconst 0, 1) := dk_3 (dk_at dksX0_ranked_0 1 rfl rfl)
theorem dX0_ranked_2 : decode cX0_ranked 2 = .ok (.aload_n 0, 1) := dk_42 (dk_at dksX0_ranked_0 2 rfl rfl)
theorem dX0_ranked_3 : decode cX0_ranked 3 = .ok (.iload_n 1, 1) := dk_27 (dk_at dksX0_ranked_0 3 rfl rfl)
theorem dX0_ranked_4 : decode cX0_ranked 4 = .ok (.invokevirtual 102, 3) := dk_182 0 102 (dk_at dksX0_ranked_0 4 rfl rfl)
theorem dX0_ranked_7 : decode cX0_ranked 7 = .ok (.i2l, 1) := dk_133 (dk_at dksX0_ranked_0 7 rfl rfl)
theorem dX0_ranked_8 : decode cX0_ranked 8 = .ok (.lastore, 1) := dk_80 (dk_at dksX0_ranked_0 8 rfl rfl)
theorem dX0_ranked_9 : decode cX0_ranked 9 = .ok (.goto 6, 3) := dk_167 0 6 (dk_at dksX0_ranked_0 9 rfl rfl)
theorem dX0_ranked_12 : decode cX0_ranked 12 = .ok (.astore_n 3, 1) := dk_78 (dk_at dksX0_ranked_0 12 rfl rfl)
theorem dX0_ranked_13 : decode cX0_ranked 13 = .ok (.iconst 1, 1) := dk_4 (dk_at dksX0_ranked_0 13 rfl rfl)
theorem dX0_ranked_14 : decode cX0_ranked 14 = .ok (.ireturn, 1) := dk_172 (dk_at dksX0_ranked_0 14 rfl rfl)
theorem dX0_ranked_15 : decode cX0_ranked 15 = .ok (.iconst 0, 1) := dk_3 (dk_at dksX0_ranked_0 15 rfl rfl)
theorem dX0_ranked_16 : decode cX0_ranked 16 = .ok (.ireturn, 1) := dk_172 (dk_at dksX0_ranked_0 16 rfl rfl)
abbrev cX0_unfairness : ByteArray := method_30_code
def yX0_unfairness : MethodName := ⟨RX0, "unfairness", "(LBakeryRing;[J)I"⟩
def dkwX0_unfairness_0 : List UInt8 := [43, 3, 42, 182, 0, 105, 133, 80, 167, 0, 6, 77, 4, 172, 3, 172]
abbrev dktX0_unfairness_0 : List UInt8 := dkwX0_unfairness_0 ++ []
theorem dksX0_unfairness_0 : cX0_unfairness.data.toList.drop 0 = dktX0_unfairness_0 := by decide +kernel
theorem dX0_unfairness_0 : decode cX0_unfairness 0 = .ok (.aload_n 1, 1) := dk_43 (dk_at dksX0_unfairness_0 0 rfl rfl)
theorem dX0_unfairness_1 : decode cX0_unfairness 1 = .ok (.iconst 0, 1) := dk_3 (dk_at dksX0_unfairness_0 1 rfl rfl)
theorem dX0_unfairness_2 : decode cX0_unfairness 2 = .ok (.aload_n 0, 1) := dk_42 (dk_at dksX0_unfairness_0 2 rfl rfl)
theorem dX0_unfairness_3 : decode cX0_unfairness 3 = .ok (.invokevirtual 105, 3) := dk_182 0 105 (dk_at dksX0_unfairness_0 3 rfl rfl)
theorem dX0_unfairness_6 : decode cX0_unfairness 6 = .ok (.i2l, 1) := dk_133 (dk_at dksX0_unfairness_0 6 rfl rfl)
theorem dX0_unfairness_7 : decode cX0_unfairness 7 = .ok (.lastore, 1) := dk_80 (dk_at dksX0_unfairness_0 7 rfl rfl)
theorem dX0_unfairness_8 : decode cX0_unfairness 8 = .ok (.goto 6, 3) := dk_167 0 6 (dk_at dksX0_unfairness_0 8 rfl rfl)
theorem dX0_unfairness_11 : decode cX0_unfairness 11 = .ok (.astore_n 2, 1) := dk_77 (dk_at dksX0_unfairness_0 11 rfl rfl)
theorem dX0_unfairness_12 : decode cX0_unfairness 12 = .ok (.iconst 1, 1) := dk_4 (dk_at dksX0_unfairness_0 12 rfl rfl)
theorem dX0_unfairness_13 : decode cX0_unfairness 13 = .ok (.ireturn, 1) := dk_172 (dk_at dksX0_unfairness_0 13 rfl rfl)
theorem dX0_unfairness_14 : decode cX0_unfairness 14 = .ok (.iconst 0, 1) := dk_3 (dk_at dksX0_unfairness_0 14 rfl rfl)
theorem dX0_unfairness_15 : decode cX0_unfairness 15 = .ok (.ireturn, 1) := dk_172 (dk_at dksX0_unfairness_0 15 rfl rfl)
abbrev cX0_isOwn : ByteArray := method_31_code
def yX0_isOwn : MethodName := ⟨RX0, "isOwn", "(LBakeryRing;I[J)I"⟩
def dkwX0_isOwn_0 : List UInt8 := [44, 3, 42, 27, 182, 0, 108, 153, 0, 7, 10, 167, 0, 4, 9, 80, 167, 0, 6, 78, 4, 172, 3, 172]
abbrev dktX0_isOwn_0 : List UInt8 := dkwX0_isOwn_0 ++ []
theorem dksX0_isOwn_0 : cX0_isOwn.data.toList.drop 0 = dktX0_isOwn_0 := by decide +kernel
theorem dX0_isOwn_0 : decode cX0_isOwn 0 = .ok (.aload_n 2, 1) := dk_44 (dk_at dksX0_isOwn_0 0 rfl rfl)
theorem dX0_isOwn_1 : decode cX0_isOwn 1 = .ok (.iconst 0, 1) := dk_3 (dk_at dksX0_isOwn_0 1 rfl rfl)
theorem dX0_isOwn_2 : decode cX0_isOwn 2 = .ok (.aload_n 0, 1) := dk_42 (dk_at dksX0_isOwn_0 2 rfl rfl)
theorem dX0_isOwn_3 : decode cX0_isOwn 3 = .ok (.iload_n 1, 1) := dk_27 (dk_at dksX0_isOwn_0 3 rfl rfl)
theorem dX0_isOwn_4 : decode cX0_isOwn 4 = .ok (.invokevirtual 108, 3) := dk_182 0 108 (dk_at dksX0_isOwn_0 4 rfl rfl)
theorem dX0_isOwn_7 : decode cX0_isOwn 7 = .ok (.ifCond .eq 7, 3) := dk_153 0 7 (dk_at dksX0_isOwn_0 7 rfl rfl)
theorem dX0_isOwn_10 : decode cX0_isOwn 10 = .ok (.lconst 1, 1) := dk_10 (dk_at dksX0_isOwn_0 10 rfl rfl)
theorem dX0_isOwn_11 : decode cX0_isOwn 11 = .ok (.goto 4, 3) := dk_167 0 4 (dk_at dksX0_isOwn_0 11 rfl rfl)
theorem dX0_isOwn_14 : decode cX0_isOwn 14 = .ok (.lconst 0, 1) := dk_9 (dk_at dksX0_isOwn_0 14 rfl rfl)
theorem dX0_isOwn_15 : decode cX0_isOwn 15 = .ok (.lastore, 1) := dk_80 (dk_at dksX0_isOwn_0 15 rfl rfl)
theorem dX0_isOwn_16 : decode cX0_isOwn 16 = .ok (.goto 6, 3) := dk_167 0 6 (dk_at dksX0_isOwn_0 16 rfl rfl)
theorem dX0_isOwn_19 : decode cX0_isOwn 19 = .ok (.astore_n 3, 1) := dk_78 (dk_at dksX0_isOwn_0 19 rfl rfl)
theorem dX0_isOwn_20 : decode cX0_isOwn 20 = .ok (.iconst 1, 1) := dk_4 (dk_at dksX0_isOwn_0 20 rfl rfl)
theorem dX0_isOwn_21 : decode cX0_isOwn 21 = .ok (.ireturn, 1) := dk_172 (dk_at dksX0_isOwn_0 21 rfl rfl)
theorem dX0_isOwn_22 : decode cX0_isOwn 22 = .ok (.iconst 0, 1) := dk_3 (dk_at dksX0_isOwn_0 22 rfl rfl)
theorem dX0_isOwn_23 : decode cX0_isOwn 23 = .ok (.ireturn, 1) := dk_172 (dk_at dksX0_isOwn_0 23 rfl rfl)
abbrev cX0_describe : ByteArray := method_32_code
def yX0_describe : MethodName := ⟨RX0, "describe", "(LBakeryRing;I[J)I"⟩
def dkwX0_describe_0 : List UInt8 := [44, 3, 42, 27, 182, 0, 112, 133, 80, 167, 0, 6, 78, 4, 172, 3, 172]
abbrev dktX0_describe_0 : List UInt8 := dkwX0_describe_0 ++ []
theorem dksX0_describe_0 : cX0_describe.data.toList.drop 0 = dktX0_describe_0 := by decide +kernel
theorem dX0_describe_0 : decode cX0_describe 0 = .ok (.aload_n 2, 1) := dk_44 (dk_at dksX0_describe_0 0 rfl rfl)
theorem dX0_describe_1 : decode cX0_describe 1 = .ok (.iconst 0, 1) := dk_3 (dk_at dksX0_describe_0 1 rfl rfl)
theorem dX0_describe_2 : decode cX0_describe 2 = .ok (.aload_n 0, 1) := dk_42 (dk_at dksX0_describe_0 2 rfl rfl)
theorem dX0_describe_3 : decode cX0_describe 3 = .ok (.iload_n 1, 1) := dk_27 (dk_at dksX0_describe_0 3 rfl rfl)
theorem dX0_describe_4 : decode cX0_describe 4 = .ok (.invokevirtual 112, 3) := dk_182 0 112 (dk_at dksX0_describe_0 4 rfl rfl)
theorem dX0_describe_7 : decode cX0_describe 7 = .ok (.i2l, 1) := dk_133 (dk_at dksX0_describe_0 7 rfl rfl)
theorem dX0_describe_8 : decode cX0_describe 8 = .ok (.lastore, 1) := dk_80 (dk_at dksX0_describe_0 8 rfl rfl)
theorem dX0_describe_9 : decode cX0_describe 9 = .ok (.goto 6, 3) := dk_167 0 6 (dk_at dksX0_describe_0 9 rfl rfl)
theorem dX0_describe_12 : decode cX0_describe 12 = .ok (.astore_n 3, 1) := dk_78 (dk_at dksX0_describe_0 12 rfl rfl)
theorem dX0_describe_13 : decode cX0_describe 13 = .ok (.iconst 1, 1) := dk_4 (dk_at dksX0_describe_0 13 rfl rfl)
theorem dX0_describe_14 : decode cX0_describe 14 = .ok (.ireturn, 1) := dk_172 (dk_at dksX0_describe_0 14 rfl rfl)
theorem dX0_describe_15 : decode cX0_describe 15 = .ok (.iconst 0, 1) := dk_3 (dk_at dksX0_describe_0 15 rfl rfl)
theorem dX0_describe_16 : decode cX0_describe 16 = .ok (.ireturn, 1) := dk_172 (dk_at dksX0_describe_0 16 rfl rfl)
abbrev cX0_written : ByteArray := method_33_code
def yX0_written : MethodName := ⟨RX0, "written", "(LBakeryRing;I[J)I"⟩
def dkwX0_written_0 : List UInt8 := [44, 3, 42, 27, 182, 0, 115, 133, 80, 167, 0, 6, 78, 4, 172, 3, 172]
abbrev dktX0_written_0 : List UInt8 := dkwX0_written_0 ++ []
theorem dksX0_written_0 : cX0_written.data.toList.drop 0 = dktX0_written_0 := by decide +kernel
theorem dX0_written_0 : decode cX0_written 0 = .ok (.aload_n 2, 1) := dk_44 (dk_at dksX0_written_0 0 rfl rfl)
theorem dX0_written_1 : decode cX0_written 1 = .ok (.iconst 0, 1) := dk_3 (dk_at dksX0_written_0 1 rfl rfl)
theorem dX0_written_2 : decode cX0_written 2 = .ok (.aload_n 0, 1) := dk_42 (dk_at dksX0_written_0 2 rfl rfl)
theorem dX0_written_3 : decode cX0_written 3 = .ok (.iload_n 1, 1) := dk_27 (dk_at dksX0_written_0 3 rfl rfl)
theorem dX0_written_4 : decode cX0_written 4 = .ok (.invokevirtual 115, 3) := dk_182 0 115 (dk_at dksX0_written_0 4 rfl rfl)
theorem dX0_written_7 : decode cX0_written 7 = .ok (.i2l, 1) := dk_133 (dk_at dksX0_written_0 7 rfl rfl)
theorem dX0_written_8 : decode cX0_written 8 = .ok (.lastore, 1) := dk_80 (dk_at dksX0_written_0 8 rfl rfl)
theorem dX0_written_9 : decode cX0_written 9 = .ok (.goto 6, 3) := dk_167 0 6 (dk_at dksX0_written_0 9 rfl rfl)
theorem dX0_written_12 : decode cX0_written 12 = .ok (.astore_n 3, 1) := dk_78 (dk_at dksX0_written_0 12 rfl rfl)
theorem dX0_written_13 : decode cX0_written 13 = .ok (.iconst 1, 1) := dk_4 (dk_at dksX0_written_0 13 rfl rfl)
theorem dX0_written_14 : decode cX0_written 14 = .ok (.ireturn, 1) := dk_172 (dk_at dksX0_written_0 14 rfl rfl)
theorem dX0_written_15 : decode cX0_written 15 = .ok (.iconst 0, 1) := dk_3 (dk_at dksX0_written_0 15 rfl rfl)
theorem dX0_written_16 : decode cX0_written 16 = .ok (.ireturn, 1) := dk_172 (dk_at dksX0_written_0 16 rfl rfl)
abbrev cX0_meanLoad : ByteArray := method_34_code
def yX0_meanLoad : MethodName := ⟨RX0, "meanLoad", "(LBakeryRing;[D)I"⟩
def dkwX0_meanLoad_0 : List UInt8 := [43, 3, 42, 182, 0, 119, 141, 82, 167, 0, 6, 77, 4, 172, 3, 172]
abbrev dktX0_meanLoad_0 : List UInt8 := dkwX0_meanLoad_0 ++ []
theorem dksX0_meanLoad_0 : cX0_meanLoad.data.toList.drop 0 = dktX0_meanLoad_0 := by decide +kernel
theorem dX0_meanLoad_0 : decode cX0_meanLoad 0 = .ok (.aload_n 1, 1) := dk_43 (dk_at dksX0_meanLoad_0 0 rfl rfl)
theorem dX0_meanLoad_1 : decode cX0_meanLoad 1 = .ok (.iconst 0, 1) := dk_3 (dk_at dksX0_meanLoad_0 1 rfl rfl)
theorem dX0_meanLoad_2 : decode cX0_meanLoad 2 = .ok (.aload_n 0, 1) := dk_42 (dk_at dksX0_meanLoad_0 2 rfl rfl)
theorem dX0_meanLoad_3 : decode cX0_meanLoad 3 = .ok (.invokevirtual 119, 3) := dk_182 0 119 (dk_at dksX0_meanLoad_0 3 rfl rfl)
theorem dX0_meanLoad_6 : decode cX0_meanLoad 6 = .ok (.f2d, 1) := dk_141 (dk_at dksX0_meanLoad_0 6 rfl rfl)
theorem dX0_meanLoad_7 : decode cX0_meanLoad 7 = .ok (.dastore, 1) := dk_82 (dk_at dksX0_meanLoad_0 7 rfl rfl)
theorem dX0_meanLoad_8 : decode cX0_meanLoad 8 = .ok (.goto 6, 3) := dk_167 0 6 (dk_at dksX0_meanLoad_0 8 rfl rfl)
theorem dX0_meanLoad_11 : decode cX0_meanLoad 11 = .ok (.astore_n 2, 1) := dk_77 (dk_at dksX0_meanLoad_0 11 rfl rfl)
theorem dX0_meanLoad_12 : decode cX0_meanLoad 12 = .ok (.iconst 1, 1) := dk_4 (dk_at dksX0_meanLoad_0 12 rfl rfl)
theorem dX0_meanLoad_13 : decode cX0_meanLoad 13 = .ok (.ireturn, 1) := dk_172 (dk_at dksX0_meanLoad_0 13 rfl rfl)
theorem dX0_meanLoad_14 : decode cX0_meanLoad 14 = .ok (.iconst 0, 1) := dk_3 (dk_at dksX0_meanLoad_0 14 rfl rfl)
theorem dX0_meanLoad_15 : decode cX0_meanLoad 15 = .ok (.ireturn, 1) := dk_172 (dk_at dksX0_meanLoad_0 15 rfl rfl)
abbrev cX0_sentShare : ByteArray := method_35_code
def yX0_sentShare : MethodName := ⟨RX0, "sentShare", "(LBakeryRing;[D)I"⟩
def dkwX0_sentShare_0 : List UInt8 := [43, 3, 42, 182, 0, 125, 82, 167, 0, 6, 77, 4, 172, 3, 172]
abbrev dktX0_sentShare_0 : List UInt8 := dkwX0_sentShare_0 ++ []
theorem dksX0_sentShare_0 : cX0_sentShare.data.toList.drop 0 = dktX0_sentShare_0 := by decide +kernel
theorem dX0_sentShare_0 : decode cX0_sentShare 0 = .ok (.aload_n 1, 1) := dk_43 (dk_at dksX0_sentShare_0 0 rfl rfl)
theorem dX0_sentShare_1 : decode cX0_sentShare 1 = .ok (.iconst 0, 1) := dk_3 (dk_at dksX0_sentShare_0 1 rfl rfl)
theorem dX0_sentShare_2 : decode cX0_sentShare 2 = .ok (.aload_n 0, 1) := dk_42 (dk_at dksX0_sentShare_0 2 rfl rfl)
theorem dX0_sentShare_3 : decode cX0_sentShare 3 = .ok (.invokevirtual 125, 3) := dk_182 0 125 (dk_at dksX0_sentShare_0 3 rfl rfl)
theorem dX0_sentShare_6 : decode cX0_sentShare 6 = .ok (.dastore, 1) := dk_82 (dk_at dksX0_sentShare_0 6 rfl rfl)
theorem dX0_sentShare_7 : decode cX0_sentShare 7 = .ok (.goto 6, 3) := dk_167 0 6 (dk_at dksX0_sentShare_0 7 rfl rfl)
theorem dX0_sentShare_10 : decode cX0_sentShare 10 = .ok (.astore_n 2, 1) := dk_77 (dk_at dksX0_sentShare_0 10 rfl rfl)
theorem dX0_sentShare_11 : decode cX0_sentShare 11 = .ok (.iconst 1, 1) := dk_4 (dk_at dksX0_sentShare_0 11 rfl rfl)
theorem dX0_sentShare_12 : decode cX0_sentShare 12 = .ok (.ireturn, 1) := dk_172 (dk_at dksX0_sentShare_0 12 rfl rfl)
theorem dX0_sentShare_13 : decode cX0_sentShare 13 = .ok (.iconst 0, 1) := dk_3 (dk_at dksX0_sentShare_0 13 rfl rfl)
theorem dX0_sentShare_14 : decode cX0_sentShare 14 = .ok (.ireturn, 1) := dk_172 (dk_at dksX0_sentShare_0 14 rfl rfl)
abbrev cX0_account : ByteArray := method_36_code
def yX0_account : MethodName := ⟨RX0, "account", "(LBakeryRing;I[J)I"⟩
def dkwX0_account_0 : List UInt8 := [44, 3, 42, 27, 182, 0, 129, 133, 80, 167, 0, 6, 78, 4, 172, 3, 172]
abbrev dktX0_account_0 : List UInt8 := dkwX0_account_0 ++ []
theorem dksX0_account_0 : cX0_account.data.toList.drop 0 = dktX0_account_0 := by decide +kernel
theorem dX0_account_0 : decode cX0_account 0 = .ok (.aload_n 2, 1) := dk_44 (dk_at dksX0_account_0 0 rfl rfl)
theorem dX0_account_1 : decode cX0_account 1 = .ok (.iconst 0, 1) := dk_3 (dk_at dksX0_account_0 1 rfl rfl)
theorem dX0_account_2 : decode cX0_account 2 = .ok (.aload_n 0, 1) := dk_42 (dk_at dksX0_account_0 2 rfl rfl)
theorem dX0_account_3 : decode cX0_account 3 = .ok (.iload_n 1, 1) := dk_27 (dk_at dksX0_account_0 3 rfl rfl)
theorem dX0_account_4 : decode cX0_account 4 = .ok (.invokevirtual 129, 3) := dk_182 0 129 (dk_at dksX0_account_0 4 rfl rfl)
theorem dX0_account_7 : decode cX0_account 7 = .ok (.i2l, 1) := dk_133 (dk_at dksX0_account_0 7 rfl rfl)
theorem dX0_account_8 : decode cX0_account 8 = .ok (.lastore, 1) := dk_80 (dk_at dksX0_account_0 8 rfl rfl)
theorem dX0_account_9 : decode cX0_account 9 = .ok (.goto 6, 3) := dk_167 0 6 (dk_at dksX0_account_0 9 rfl rfl)
theorem dX0_account_12 : decode cX0_account 12 = .ok (.astore_n 3, 1) := dk_78 (dk_at dksX0_account_0 12 rfl rfl)
theorem dX0_account_13 : decode cX0_account 13 = .ok (.iconst 1, 1) := dk_4 (dk_at dksX0_account_0 13 rfl rfl)
theorem dX0_account_14 : decode cX0_account 14 = .ok (.ireturn, 1) := dk_172 (dk_at dksX0_account_0 14 rfl rfl)
theorem dX0_account_15 : decode cX0_account 15 = .ok (.iconst 0, 1) := dk_3 (dk_at dksX0_account_0 15 rfl rfl)
theorem dX0_account_16 : decode cX0_account 16 = .ok (.ireturn, 1) := dk_172 (dk_at dksX0_account_0 16 rfl rfl)
abbrev cX0_undo : ByteArray := method_37_code
def yX0_undo : MethodName := ⟨RX0, "undo", "(LBakeryRing;[J)I"⟩
def dkwX0_undo_0 : List UInt8 := [43, 3, 42, 182, 0, 132, 133, 80, 167, 0, 6, 77, 4, 172, 3, 172]
abbrev dktX0_undo_0 : List UInt8 := dkwX0_undo_0 ++ []
theorem dksX0_undo_0 : cX0_undo.data.toList.drop 0 = dktX0_undo_0 := by decide +kernel
theorem dX0_undo_0 : decode cX0_undo 0 = .ok (.aload_n 1, 1) := dk_43 (dk_at dksX0_undo_0 0 rfl rfl)
theorem dX0_undo_1 : decode cX0_undo 1 = .ok (.iconst 0, 1) := dk_3 (dk_at dksX0_undo_0 1 rfl rfl)
theorem dX0_undo_2 : decode cX0_undo 2 = .ok (.aload_n 0, 1) := dk_42 (dk_at dksX0_undo_0 2 rfl rfl)
theorem dX0_undo_3 : decode cX0_undo 3 = .ok (.invokevirtual 132, 3) := dk_182 0 132 (dk_at dksX0_undo_0 3 rfl rfl)
theorem dX0_undo_6 : decode cX0_undo 6 = .ok (.i2l, 1) := dk_133 (dk_at dksX0_undo_0 6 rfl rfl)
theorem dX0_undo_7 : decode cX0_undo 7 = .ok (.lastore, 1) := dk_80 (dk_at dksX0_undo_0 7 rfl rfl)
theorem dX0_undo_8 : decode cX0_undo 8 = .ok (.goto 6, 3) := dk_167 0 6 (dk_at dksX0_undo_0 8 rfl rfl)
theorem dX0_undo_11 : decode cX0_undo 11 = .ok (.astore_n 2, 1) := dk_77 (dk_at dksX0_undo_0 11 rfl rfl)
theorem dX0_undo_12 : decode cX0_undo 12 = .ok (.iconst 1, 1) := dk_4 (dk_at dksX0_undo_0 12 rfl rfl)
theorem dX0_undo_13 : decode cX0_undo 13 = .ok (.ireturn, 1) := dk_172 (dk_at dksX0_undo_0 13 rfl rfl)
theorem dX0_undo_14 : decode cX0_undo 14 = .ok (.iconst 0, 1) := dk_3 (dk_at dksX0_undo_0 14 rfl rfl)
theorem dX0_undo_15 : decode cX0_undo 15 = .ok (.ireturn, 1) := dk_172 (dk_at dksX0_undo_0 15 rfl rfl)
abbrev cX0_restore : ByteArray := method_38_code
def yX0_restore : MethodName := ⟨RX0, "restore", "(LBakeryRing;[J)I"⟩
def dkwX0_restore_0 : List UInt8 := [43, 3, 42, 182, 0, 135, 133, 80, 167, 0, 6, 77, 4, 172, 3, 172]
abbrev dktX0_restore_0 : List UInt8 := dkwX0_restore_0 ++ []
theorem dksX0_restore_0 : cX0_restore.data.toList.drop 0 = dktX0_restore_0 := by decide +kernel
theorem dX0_restore_0 : decode cX0_restore 0 = .ok (.aload_n 1, 1) := dk_43 (dk_at dksX0_restore_0 0 rfl rfl)
theorem dX0_restore_1 : decode cX0_restore 1 = .ok (.iconst 0, 1) := dk_3 (dk_at dksX0_restore_0 1 rfl rfl)
theorem dX0_restore_2 : decode cX0_restore 2 = .ok (.aload_n 0, 1) := dk_42 (dk_at dksX0_restore_0 2 rfl rfl)
theorem dX0_restore_3 : decode cX0_restore 3 = .ok (.invokevirtual 135, 3) := dk_182 0 135 (dk_at dksX0_restore_0 3 rfl rfl)
theorem dX0_restore_6 : decode cX0_restore 6 = .ok (.i2l, 1) := dk_133 (dk_at dksX0_restore_0 6 rfl rfl)
theorem dX0_restore_7 : decode cX0_restore 7 = .ok (.lastore, 1) := dk_80 (dk_at dksX0_restore_0 7 rfl rfl)
theorem dX0_restore_8 : decode cX0_restore 8 = .ok (.goto 6, 3) := dk_167 0 6 (dk_at dksX0_restore_0 8 rfl rfl)
theorem dX0_restore_11 : decode cX0_restore 11 = .ok (.astore_n 2, 1) := dk_77 (dk_at dksX0_restore_0 11 rfl rfl)
theorem dX0_restore_12 : decode cX0_restore 12 = .ok (.iconst 1, 1) := dk_4 (dk_at dksX0_restore_0 12 rfl rfl)
theorem dX0_restore_13 : decode cX0_restore 13 = .ok (.ireturn, 1) := dk_172 (dk_at dksX0_restore_0 13 rfl rfl)
theorem dX0_restore_14 : decode cX0_restore 14 = .ok (.iconst 0, 1) := dk_3 (dk_at dksX0_restore_0 14 rfl rfl)
theorem dX0_restore_15 : decode cX0_restore 15 = .ok (.ireturn, 1) := dk_172 (dk_at dksX0_restore_0 15 rfl rfl)
theorem q113 : (Jvm.Cond.initialized "BakeryRingLaw") ∈ lw_all := lw_g (lw_at lw_m1 0 rfl) rfl
theorem q170 : (Jvm.Cond.classLink "BakeryRingLaw" (8 : Nat) "BakeryRing") ∈ lw_all := lw_g (lw_at lw_m1 57 rfl) rfl
theorem q172 : (Jvm.Cond.methodLink "BakeryRingLaw" (138 : Nat) ({ cls := "BakeryRing", name := "<init>", desc := "()V" } : Jvm.MethodName)) ∈ lw_all := lw_g (lw_at lw_m1 59 rfl) rfl
theorem q550 : (Jvm.Cond.methodLink "BakeryRingLaw" (142 : Nat) ({ cls := "BakeryRing", name := "clear", desc := "()I" } : Jvm.MethodName)) ∈ lw_all := lw_g (lw_at lw_m2 197 rfl) rfl
theorem q562 : (Jvm.Cond.methodLink "BakeryRingLaw" (262 : Nat) ({ cls := "BakeryRing", name := "save", desc := "()I" } : Jvm.MethodName)) ∈ lw_all := lw_g (lw_at lw_m2 209 rfl) rfl
theorem q614 : (Jvm.Cond.methodLink "BakeryRingLaw" (146 : Nat) ({ cls := "BakeryRingLaw", name := "append", desc := "(LBakeryRing;C[J)I" } : Jvm.MethodName)) ∈ lw_all := lw_g (lw_at lw_m3 21 rfl) rfl
theorem q615 : (Jvm.Cond.static ({ cls := "BakeryRingLaw", name := "append", desc := "(LBakeryRing;C[J)I" } : Jvm.MethodName)) ∈ lw_all := lw_g (lw_at lw_m3 22 rfl) rfl
theorem q616 : (Jvm.Cond.codeWith ({ cls := "BakeryRingLaw", name := "append", desc := "(LBakeryRing;C[J)I" } : Jvm.MethodName) method_3_code (4 : Nat) (Option.some Jvm.ClassFile.FieldType.int) [((0 : Nat), (9 : Nat), (12 : Nat), (13 : Nat)), ((0 : Nat), (9 : Nat), (15 : Nat), (15 : Nat))]) ∈ lw_all := lw_g (lw_at lw_m3 23 rfl) rfl
theorem q617 : (Jvm.Cond.classLink "BakeryRingLaw" (13 : Nat) "java/lang/IllegalArgumentException") ∈ lw_all := lw_g (lw_at lw_m3 24 rfl) rfl
theorem q618 : (Jvm.Cond.classLink "BakeryRingLaw" (15 : Nat) "java/lang/IllegalStateException") ∈ lw_all := lw_g (lw_at lw_m3 25 rfl) rfl
theorem q619 : (Jvm.Cond.methodLink "BakeryRingLaw" (7 : Nat) ({ cls := "BakeryRing", name := "append", desc := "(C)I" } : Jvm.MethodName)) ∈ lw_all := lw_g (lw_at lw_m3 26 rfl) rfl
theorem q807 : (Jvm.Cond.methodLink "BakeryRingLaw" (155 : Nat) ({ cls := "BakeryRingLaw", name := "bakery", desc := "(LBakeryRing;II[J)I" } : Jvm.MethodName)) ∈ lw_all := lw_g (lw_at lw_m3 214 rfl) rfl
theorem q808 : (Jvm.Cond.static ({ cls := "BakeryRingLaw", name := "bakery", desc := "(LBakeryRing;II[J)I" } : Jvm.MethodName)) ∈ lw_all := lw_g (lw_at lw_m3 215 rfl) rfl
theorem q809 : (Jvm.Cond.codeWith ({ cls := "BakeryRingLaw", name := "bakery", desc := "(LBakeryRing;II[J)I" } : Jvm.MethodName) method_4_code (5 : Nat) (Option.some Jvm.ClassFile.FieldType.int) [((0 : Nat), (10 : Nat), (13 : Nat), (13 : Nat)), ((0 : Nat), (10 : Nat), (17 : Nat), (21 : Nat))]) ∈ lw_all := lw_g (lw_at lw_m3 216 rfl) rfl
theorem q810 : (Jvm.Cond.classLink "BakeryRingLaw" (21 : Nat) "java/lang/UnsupportedOperationException") ∈ lw_all := lw_g (lw_at lw_m3 217 rfl) rfl
theorem q811 : (Jvm.Cond.methodLink "BakeryRingLaw" (17 : Nat) ({ cls := "BakeryRing", name := "bakery", desc := "(II)I" } : Jvm.MethodName)) ∈ lw_all := lw_g (lw_at lw_m3 218 rfl) rfl
theorem q1177 : (Jvm.Cond.methodLink "BakeryRingLaw" (159 : Nat) ({ cls := "BakeryRingLaw", name := "sign", desc := "(LBakeryRing;II[J)I" } : Jvm.MethodName)) ∈ lw_all := lw_g (lw_at lw_m5 104 rfl) rfl
theorem q1178 : (Jvm.Cond.static ({ cls := "BakeryRingLaw", name := "sign", desc := "(LBakeryRing;II[J)I" } : Jvm.MethodName)) ∈ lw_all := lw_g (lw_at lw_m5 105 rfl) rfl
theorem q1179 : (Jvm.Cond.codeWith ({ cls := "BakeryRingLaw", name := "sign", desc := "(LBakeryRing;II[J)I" } : Jvm.MethodName) method_5_code (5 : Nat) (Option.some Jvm.ClassFile.FieldType.int) [((0 : Nat), (10 : Nat), (13 : Nat), (26 : Nat)), ((0 : Nat), (10 : Nat), (17 : Nat), (21 : Nat))]) ∈ lw_all := lw_g (lw_at lw_m5 106 rfl) rfl
theorem q1180 : (Jvm.Cond.classLink "BakeryRingLaw" (26 : Nat) "java/lang/IndexOutOfBoundsException") ∈ lw_all := lw_g (lw_at lw_m5 107 rfl) rfl
theorem q1196 : (Jvm.Cond.methodLink "BakeryRingLaw" (23 : Nat) ({ cls := "BakeryRing", name := "sign", desc := "(II)I" } : Jvm.MethodName)) ∈ lw_all := lw_g (lw_at lw_m5 123 rfl) rfl
theorem q1241 : (Jvm.Cond.methodLink "BakeryRingLaw" (162 : Nat) ({ cls := "BakeryRingLaw", name := "down", desc := "(LBakeryRing;I[J)I" } : Jvm.MethodName)) ∈ lw_all := lw_g (lw_at lw_m5 168 rfl) rfl
theorem q1242 : (Jvm.Cond.static ({ cls := "BakeryRingLaw", name := "down", desc := "(LBakeryRing;I[J)I" } : Jvm.MethodName)) ∈ lw_all := lw_g (lw_at lw_m5 169 rfl) rfl
theorem q1243 : (Jvm.Cond.codeWith ({ cls := "BakeryRingLaw", name := "down", desc := "(LBakeryRing;I[J)I" } : Jvm.MethodName) method_6_code (4 : Nat) (Option.some Jvm.ClassFile.FieldType.int) [((0 : Nat), (9 : Nat), (12 : Nat), (26 : Nat)), ((0 : Nat), (9 : Nat), (15 : Nat), (21 : Nat))]) ∈ lw_all := lw_g (lw_at lw_m5 170 rfl) rfl
theorem q1244 : (Jvm.Cond.methodLink "BakeryRingLaw" (28 : Nat) ({ cls := "BakeryRing", name := "down", desc := "(I)I" } : Jvm.MethodName)) ∈ lw_all := lw_g (lw_at lw_m5 171 rfl) rfl
theorem q1260 : (Jvm.Cond.methodLink "BakeryRingLaw" (166 : Nat) ({ cls := "BakeryRingLaw", name := "close", desc := "(LBakeryRing;I[J)I" } : Jvm.MethodName)) ∈ lw_all := lw_g (lw_at lw_m5 187 rfl) rfl
theorem q1261 : (Jvm.Cond.static ({ cls := "BakeryRingLaw", name := "close", desc := "(LBakeryRing;I[J)I" } : Jvm.MethodName)) ∈ lw_all := lw_g (lw_at lw_m5 188 rfl) rfl
theorem q1262 : (Jvm.Cond.codeWith ({ cls := "BakeryRingLaw", name := "close", desc := "(LBakeryRing;I[J)I" } : Jvm.MethodName) method_7_code (4 : Nat) (Option.some Jvm.ClassFile.FieldType.int) [((0 : Nat), (9 : Nat), (12 : Nat), (26 : Nat)), ((0 : Nat), (9 : Nat), (15 : Nat), (21 : Nat))]) ∈ lw_all := lw_g (lw_at lw_m5 189 rfl) rfl
theorem q1263 : (Jvm.Cond.methodLink "BakeryRingLaw" (32 : Nat) ({ cls := "BakeryRing", name := "close", desc := "(I)I" } : Jvm.MethodName)) ∈ lw_all := lw_g (lw_at lw_m5 190 rfl) rfl
theorem q1279 : (Jvm.Cond.methodLink "BakeryRingLaw" (169 : Nat) ({ cls := "BakeryRingLaw", name := "open", desc := "(LBakeryRing;I[J)I" } : Jvm.MethodName)) ∈ lw_all := lw_g (lw_at lw_m5 206 rfl) rfl
theorem q1280 : (Jvm.Cond.static ({ cls := "BakeryRingLaw", name := "open", desc := "(LBakeryRing;I[J)I" } : Jvm.MethodName)) ∈ lw_all := lw_g (lw_at lw_m5 207 rfl) rfl
theorem q1281 : (Jvm.Cond.codeWith ({ cls := "BakeryRingLaw", name := "open", desc := "(LBakeryRing;I[J)I" } : Jvm.MethodName) method_8_code (4 : Nat) (Option.some Jvm.ClassFile.FieldType.int) [((0 : Nat), (9 : Nat), (12 : Nat), (26 : Nat)), ((0 : Nat), (9 : Nat), (15 : Nat), (21 : Nat))]) ∈ lw_all := lw_g (lw_at lw_m5 208 rfl) rfl
theorem q1282 : (Jvm.Cond.methodLink "BakeryRingLaw" (35 : Nat) ({ cls := "BakeryRing", name := "open", desc := "(I)I" } : Jvm.MethodName)) ∈ lw_all := lw_g (lw_at lw_m5 209 rfl) rfl
theorem q1290 : (Jvm.Cond.methodLink "BakeryRingLaw" (172 : Nat) ({ cls := "BakeryRingLaw", name := "oven", desc := "(LBakeryRing;II[J)I" } : Jvm.MethodName)) ∈ lw_all := lw_g (lw_at lw_m5 217 rfl) rfl
theorem q1291 : (Jvm.Cond.static ({ cls := "BakeryRingLaw", name := "oven", desc := "(LBakeryRing;II[J)I" } : Jvm.MethodName)) ∈ lw_all := lw_g (lw_at lw_m5 218 rfl) rfl
theorem q1292 : (Jvm.Cond.codeWith ({ cls := "BakeryRingLaw", name := "oven", desc := "(LBakeryRing;II[J)I" } : Jvm.MethodName) method_9_code (5 : Nat) (Option.some Jvm.ClassFile.FieldType.int) [((0 : Nat), (10 : Nat), (13 : Nat), (26 : Nat)), ((0 : Nat), (10 : Nat), (17 : Nat), (13 : Nat)), ((0 : Nat), (10 : Nat), (21 : Nat), (21 : Nat))]) ∈ lw_all := lw_g (lw_at lw_m5 219 rfl) rfl
theorem q1293 : (Jvm.Cond.methodLink "BakeryRingLaw" (38 : Nat) ({ cls := "BakeryRing", name := "oven", desc := "(II)I" } : Jvm.MethodName)) ∈ lw_all := lw_g (lw_at lw_m5 220 rfl) rfl
theorem q1301 : (Jvm.Cond.methodLink "BakeryRingLaw" (175 : Nat) ({ cls := "BakeryRingLaw", name := "come", desc := "(LBakeryRing;II[J)I" } : Jvm.MethodName)) ∈ lw_all := lw_g (lw_at lw_m5 228 rfl) rfl
theorem q1302 : (Jvm.Cond.static ({ cls := "BakeryRingLaw", name := "come", desc := "(LBakeryRing;II[J)I" } : Jvm.MethodName)) ∈ lw_all := lw_g (lw_at lw_m5 229 rfl) rfl
theorem q1303 : (Jvm.Cond.codeWith ({ cls := "BakeryRingLaw", name := "come", desc := "(LBakeryRing;II[J)I" } : Jvm.MethodName) method_10_code (5 : Nat) (Option.some Jvm.ClassFile.FieldType.int) [((0 : Nat), (10 : Nat), (13 : Nat), (26 : Nat)), ((0 : Nat), (10 : Nat), (17 : Nat), (13 : Nat)), ((0 : Nat), (10 : Nat), (21 : Nat), (21 : Nat))]) ∈ lw_all := lw_g (lw_at lw_m5 230 rfl) rfl
theorem q1304 : (Jvm.Cond.methodLink "BakeryRingLaw" (41 : Nat) ({ cls := "BakeryRing", name := "come", desc := "(II)I" } : Jvm.MethodName)) ∈ lw_all := lw_g (lw_at lw_m5 231 rfl) rfl
theorem q1316 : (Jvm.Cond.methodLink "BakeryRingLaw" (178 : Nat) ({ cls := "BakeryRingLaw", name := "leave", desc := "(LBakeryRing;I[J)I" } : Jvm.MethodName)) ∈ lw_all := lw_g (lw_at lw_m6 3 rfl) rfl
theorem q1317 : (Jvm.Cond.static ({ cls := "BakeryRingLaw", name := "leave", desc := "(LBakeryRing;I[J)I" } : Jvm.MethodName)) ∈ lw_all := lw_g (lw_at lw_m6 4 rfl) rfl
theorem q1318 : (Jvm.Cond.codeWith ({ cls := "BakeryRingLaw", name := "leave", desc := "(LBakeryRing;I[J)I" } : Jvm.MethodName) method_11_code (4 : Nat) (Option.some Jvm.ClassFile.FieldType.int) [((0 : Nat), (9 : Nat), (12 : Nat), (26 : Nat))]) ∈ lw_all := lw_g (lw_at lw_m6 5 rfl) rfl
theorem q1319 : (Jvm.Cond.methodLink "BakeryRingLaw" (44 : Nat) ({ cls := "BakeryRing", name := "leave", desc := "(I)I" } : Jvm.MethodName)) ∈ lw_all := lw_g (lw_at lw_m6 6 rfl) rfl
theorem q1335 : (Jvm.Cond.methodLink "BakeryRingLaw" (181 : Nat) ({ cls := "BakeryRingLaw", name := "script", desc := "(LBakeryRing;[J)I" } : Jvm.MethodName)) ∈ lw_all := lw_g (lw_at lw_m6 22 rfl) rfl
theorem q1336 : (Jvm.Cond.static ({ cls := "BakeryRingLaw", name := "script", desc := "(LBakeryRing;[J)I" } : Jvm.MethodName)) ∈ lw_all := lw_g (lw_at lw_m6 23 rfl) rfl
theorem q1337 : (Jvm.Cond.codeWith ({ cls := "BakeryRingLaw", name := "script", desc := "(LBakeryRing;[J)I" } : Jvm.MethodName) method_12_code (3 : Nat) (Option.some Jvm.ClassFile.FieldType.int) [((0 : Nat), (8 : Nat), (11 : Nat), (13 : Nat)), ((0 : Nat), (8 : Nat), (14 : Nat), (21 : Nat))]) ∈ lw_all := lw_g (lw_at lw_m6 24 rfl) rfl
theorem q1338 : (Jvm.Cond.methodLink "BakeryRingLaw" (47 : Nat) ({ cls := "BakeryRing", name := "script", desc := "()I" } : Jvm.MethodName)) ∈ lw_all := lw_g (lw_at lw_m6 25 rfl) rfl
theorem q1833 : (Jvm.Cond.methodLink "BakeryRingLaw" (185 : Nat) ({ cls := "BakeryRingLaw", name := "faultPosition", desc := "(LBakeryRing;[J)I" } : Jvm.MethodName)) ∈ lw_all := lw_g (lw_at lw_m8 40 rfl) rfl
theorem q1834 : (Jvm.Cond.static ({ cls := "BakeryRingLaw", name := "faultPosition", desc := "(LBakeryRing;[J)I" } : Jvm.MethodName)) ∈ lw_all := lw_g (lw_at lw_m8 41 rfl) rfl
theorem q1835 : (Jvm.Cond.codeWith ({ cls := "BakeryRingLaw", name := "faultPosition", desc := "(LBakeryRing;[J)I" } : Jvm.MethodName) method_13_code (3 : Nat) (Option.some Jvm.ClassFile.FieldType.int) [((0 : Nat), (8 : Nat), (11 : Nat), (54 : Nat))]) ∈ lw_all := lw_g (lw_at lw_m8 42 rfl) rfl
theorem q1836 : (Jvm.Cond.classLink "BakeryRingLaw" (54 : Nat) "java/util/NoSuchElementException") ∈ lw_all := lw_g (lw_at lw_m8 43 rfl) rfl
theorem q1837 : (Jvm.Cond.methodLink "BakeryRingLaw" (51 : Nat) ({ cls := "BakeryRing", name := "faultPosition", desc := "()I" } : Jvm.MethodName)) ∈ lw_all := lw_g (lw_at lw_m8 44 rfl) rfl
theorem q1846 : (Jvm.Cond.methodLink "BakeryRingLaw" (188 : Nat) ({ cls := "BakeryRingLaw", name := "reason", desc := "(LBakeryRing;IZ[J)I" } : Jvm.MethodName)) ∈ lw_all := lw_g (lw_at lw_m8 53 rfl) rfl
theorem q1847 : (Jvm.Cond.static ({ cls := "BakeryRingLaw", name := "reason", desc := "(LBakeryRing;IZ[J)I" } : Jvm.MethodName)) ∈ lw_all := lw_g (lw_at lw_m8 54 rfl) rfl
theorem q1848 : (Jvm.Cond.codeWith ({ cls := "BakeryRingLaw", name := "reason", desc := "(LBakeryRing;IZ[J)I" } : Jvm.MethodName) method_14_code (5 : Nat) (Option.some Jvm.ClassFile.FieldType.int) [((0 : Nat), (10 : Nat), (13 : Nat), (13 : Nat)), ((0 : Nat), (10 : Nat), (17 : Nat), (54 : Nat))]) ∈ lw_all := lw_g (lw_at lw_m8 55 rfl) rfl
theorem q1849 : (Jvm.Cond.methodLink "BakeryRingLaw" (56 : Nat) ({ cls := "BakeryRing", name := "reason", desc := "(IZ)I" } : Jvm.MethodName)) ∈ lw_all := lw_g (lw_at lw_m8 56 rfl) rfl
theorem q1864 : (Jvm.Cond.methodLink "BakeryRingLaw" (192 : Nat) ({ cls := "BakeryRingLaw", name := "bakeryOf", desc := "(LBakeryRing;II[J)I" } : Jvm.MethodName)) ∈ lw_all := lw_g (lw_at lw_m8 71 rfl) rfl
theorem q1865 : (Jvm.Cond.static ({ cls := "BakeryRingLaw", name := "bakeryOf", desc := "(LBakeryRing;II[J)I" } : Jvm.MethodName)) ∈ lw_all := lw_g (lw_at lw_m8 72 rfl) rfl
theorem q1866 : (Jvm.Cond.codeWith ({ cls := "BakeryRingLaw", name := "bakeryOf", desc := "(LBakeryRing;II[J)I" } : Jvm.MethodName) method_15_code (5 : Nat) (Option.some Jvm.ClassFile.FieldType.int) [((0 : Nat), (10 : Nat), (13 : Nat), (26 : Nat)), ((0 : Nat), (10 : Nat), (17 : Nat), (13 : Nat))]) ∈ lw_all := lw_g (lw_at lw_m8 73 rfl) rfl
theorem q1867 : (Jvm.Cond.methodLink "BakeryRingLaw" (60 : Nat) ({ cls := "BakeryRing", name := "bakeryOf", desc := "(II)I" } : Jvm.MethodName)) ∈ lw_all := lw_g (lw_at lw_m8 74 rfl) rfl
theorem q1890 : (Jvm.Cond.methodLink "BakeryRingLaw" (195 : Nat) ({ cls := "BakeryRingLaw", name := "signAt", desc := "(LBakeryRing;I[J)I" } : Jvm.MethodName)) ∈ lw_all := lw_g (lw_at lw_m8 97 rfl) rfl
theorem q1891 : (Jvm.Cond.static ({ cls := "BakeryRingLaw", name := "signAt", desc := "(LBakeryRing;I[J)I" } : Jvm.MethodName)) ∈ lw_all := lw_g (lw_at lw_m8 98 rfl) rfl
theorem q1892 : (Jvm.Cond.codeWith ({ cls := "BakeryRingLaw", name := "signAt", desc := "(LBakeryRing;I[J)I" } : Jvm.MethodName) method_16_code (4 : Nat) (Option.some Jvm.ClassFile.FieldType.int) [((0 : Nat), (9 : Nat), (12 : Nat), (54 : Nat))]) ∈ lw_all := lw_g (lw_at lw_m8 99 rfl) rfl
theorem q1893 : (Jvm.Cond.methodLink "BakeryRingLaw" (63 : Nat) ({ cls := "BakeryRing", name := "signAt", desc := "(I)I" } : Jvm.MethodName)) ∈ lw_all := lw_g (lw_at lw_m8 100 rfl) rfl
theorem q1898 : (Jvm.Cond.methodLink "BakeryRingLaw" (198 : Nat) ({ cls := "BakeryRingLaw", name := "signOf", desc := "(LBakeryRing;I[J)I" } : Jvm.MethodName)) ∈ lw_all := lw_g (lw_at lw_m8 105 rfl) rfl
theorem q1899 : (Jvm.Cond.static ({ cls := "BakeryRingLaw", name := "signOf", desc := "(LBakeryRing;I[J)I" } : Jvm.MethodName)) ∈ lw_all := lw_g (lw_at lw_m8 106 rfl) rfl
theorem q1900 : (Jvm.Cond.codeWith ({ cls := "BakeryRingLaw", name := "signOf", desc := "(LBakeryRing;I[J)I" } : Jvm.MethodName) method_17_code (4 : Nat) (Option.some Jvm.ClassFile.FieldType.int) [((0 : Nat), (9 : Nat), (12 : Nat), (26 : Nat)), ((0 : Nat), (9 : Nat), (15 : Nat), (54 : Nat))]) ∈ lw_all := lw_g (lw_at lw_m8 107 rfl) rfl
theorem q1901 : (Jvm.Cond.methodLink "BakeryRingLaw" (66 : Nat) ({ cls := "BakeryRing", name := "signOf", desc := "(I)I" } : Jvm.MethodName)) ∈ lw_all := lw_g (lw_at lw_m8 108 rfl) rfl
theorem q1905 : (Jvm.Cond.methodLink "BakeryRingLaw" (201 : Nat) ({ cls := "BakeryRingLaw", name := "customerOf", desc := "(LBakeryRing;II[J)I" } : Jvm.MethodName)) ∈ lw_all := lw_g (lw_at lw_m8 112 rfl) rfl
theorem q1906 : (Jvm.Cond.static ({ cls := "BakeryRingLaw", name := "customerOf", desc := "(LBakeryRing;II[J)I" } : Jvm.MethodName)) ∈ lw_all := lw_g (lw_at lw_m8 113 rfl) rfl
theorem q1907 : (Jvm.Cond.codeWith ({ cls := "BakeryRingLaw", name := "customerOf", desc := "(LBakeryRing;II[J)I" } : Jvm.MethodName) method_18_code (5 : Nat) (Option.some Jvm.ClassFile.FieldType.int) [((0 : Nat), (10 : Nat), (13 : Nat), (26 : Nat)), ((0 : Nat), (10 : Nat), (17 : Nat), (13 : Nat))]) ∈ lw_all := lw_g (lw_at lw_m8 114 rfl) rfl
theorem q1908 : (Jvm.Cond.methodLink "BakeryRingLaw" (69 : Nat) ({ cls := "BakeryRing", name := "customerOf", desc := "(II)I" } : Jvm.MethodName)) ∈ lw_all := lw_g (lw_at lw_m8 115 rfl) rfl
theorem q1912 : (Jvm.Cond.methodLink "BakeryRingLaw" (204 : Nat) ({ cls := "BakeryRingLaw", name := "way", desc := "(LBakeryRing;II[J)I" } : Jvm.MethodName)) ∈ lw_all := lw_g (lw_at lw_m8 119 rfl) rfl
theorem q1913 : (Jvm.Cond.static ({ cls := "BakeryRingLaw", name := "way", desc := "(LBakeryRing;II[J)I" } : Jvm.MethodName)) ∈ lw_all := lw_g (lw_at lw_m8 120 rfl) rfl
theorem q1914 : (Jvm.Cond.codeWith ({ cls := "BakeryRingLaw", name := "way", desc := "(LBakeryRing;II[J)I" } : Jvm.MethodName) method_19_code (5 : Nat) (Option.some Jvm.ClassFile.FieldType.int) [((0 : Nat), (10 : Nat), (13 : Nat), (26 : Nat))]) ∈ lw_all := lw_g (lw_at lw_m8 121 rfl) rfl
theorem q1915 : (Jvm.Cond.methodLink "BakeryRingLaw" (72 : Nat) ({ cls := "BakeryRing", name := "way", desc := "(II)I" } : Jvm.MethodName)) ∈ lw_all := lw_g (lw_at lw_m8 122 rfl) rfl
theorem q1922 : (Jvm.Cond.methodLink "BakeryRingLaw" (207 : Nat) ({ cls := "BakeryRingLaw", name := "nearest", desc := "(LBakeryRing;I[J)I" } : Jvm.MethodName)) ∈ lw_all := lw_g (lw_at lw_m8 129 rfl) rfl
theorem q1923 : (Jvm.Cond.static ({ cls := "BakeryRingLaw", name := "nearest", desc := "(LBakeryRing;I[J)I" } : Jvm.MethodName)) ∈ lw_all := lw_g (lw_at lw_m8 130 rfl) rfl
theorem q1924 : (Jvm.Cond.codeWith ({ cls := "BakeryRingLaw", name := "nearest", desc := "(LBakeryRing;I[J)I" } : Jvm.MethodName) method_20_code (4 : Nat) (Option.some Jvm.ClassFile.FieldType.int) [((0 : Nat), (9 : Nat), (12 : Nat), (26 : Nat)), ((0 : Nat), (9 : Nat), (15 : Nat), (54 : Nat))]) ∈ lw_all := lw_g (lw_at lw_m8 131 rfl) rfl
theorem q1925 : (Jvm.Cond.methodLink "BakeryRingLaw" (75 : Nat) ({ cls := "BakeryRing", name := "nearest", desc := "(I)I" } : Jvm.MethodName)) ∈ lw_all := lw_g (lw_at lw_m8 132 rfl) rfl
theorem q1934 : (Jvm.Cond.methodLink "BakeryRingLaw" (210 : Nat) ({ cls := "BakeryRingLaw", name := "nearestAgain", desc := "(LBakeryRing;I[J)I" } : Jvm.MethodName)) ∈ lw_all := lw_g (lw_at lw_m8 141 rfl) rfl
theorem q1935 : (Jvm.Cond.static ({ cls := "BakeryRingLaw", name := "nearestAgain", desc := "(LBakeryRing;I[J)I" } : Jvm.MethodName)) ∈ lw_all := lw_g (lw_at lw_m8 142 rfl) rfl
theorem q1936 : (Jvm.Cond.codeWith ({ cls := "BakeryRingLaw", name := "nearestAgain", desc := "(LBakeryRing;I[J)I" } : Jvm.MethodName) method_21_code (4 : Nat) (Option.some Jvm.ClassFile.FieldType.int) [((0 : Nat), (9 : Nat), (12 : Nat), (26 : Nat)), ((0 : Nat), (9 : Nat), (15 : Nat), (54 : Nat))]) ∈ lw_all := lw_g (lw_at lw_m8 143 rfl) rfl
theorem q1937 : (Jvm.Cond.methodLink "BakeryRingLaw" (78 : Nat) ({ cls := "BakeryRing", name := "nearestAgain", desc := "(I)I" } : Jvm.MethodName)) ∈ lw_all := lw_g (lw_at lw_m8 144 rfl) rfl
theorem q1941 : (Jvm.Cond.methodLink "BakeryRingLaw" (213 : Nat) ({ cls := "BakeryRingLaw", name := "wouldGo", desc := "(LBakeryRing;II[J)I" } : Jvm.MethodName)) ∈ lw_all := lw_g (lw_at lw_m8 148 rfl) rfl
theorem q1942 : (Jvm.Cond.static ({ cls := "BakeryRingLaw", name := "wouldGo", desc := "(LBakeryRing;II[J)I" } : Jvm.MethodName)) ∈ lw_all := lw_g (lw_at lw_m8 149 rfl) rfl
theorem q1943 : (Jvm.Cond.codeWith ({ cls := "BakeryRingLaw", name := "wouldGo", desc := "(LBakeryRing;II[J)I" } : Jvm.MethodName) method_22_code (5 : Nat) (Option.some Jvm.ClassFile.FieldType.int) [((0 : Nat), (10 : Nat), (13 : Nat), (26 : Nat)), ((0 : Nat), (10 : Nat), (17 : Nat), (13 : Nat)), ((0 : Nat), (10 : Nat), (21 : Nat), (54 : Nat))]) ∈ lw_all := lw_g (lw_at lw_m8 150 rfl) rfl
theorem q1944 : (Jvm.Cond.methodLink "BakeryRingLaw" (81 : Nat) ({ cls := "BakeryRing", name := "wouldGo", desc := "(II)I" } : Jvm.MethodName)) ∈ lw_all := lw_g (lw_at lw_m8 151 rfl) rfl
theorem q1949 : (Jvm.Cond.methodLink "BakeryRingLaw" (216 : Nat) ({ cls := "BakeryRingLaw", name := "wouldMove", desc := "(LBakeryRing;I[J)I" } : Jvm.MethodName)) ∈ lw_all := lw_g (lw_at lw_m8 156 rfl) rfl
theorem q1950 : (Jvm.Cond.static ({ cls := "BakeryRingLaw", name := "wouldMove", desc := "(LBakeryRing;I[J)I" } : Jvm.MethodName)) ∈ lw_all := lw_g (lw_at lw_m8 157 rfl) rfl
theorem q1951 : (Jvm.Cond.codeWith ({ cls := "BakeryRingLaw", name := "wouldMove", desc := "(LBakeryRing;I[J)I" } : Jvm.MethodName) method_23_code (4 : Nat) (Option.some Jvm.ClassFile.FieldType.int) [((0 : Nat), (9 : Nat), (12 : Nat), (26 : Nat))]) ∈ lw_all := lw_g (lw_at lw_m8 158 rfl) rfl
theorem q1952 : (Jvm.Cond.methodLink "BakeryRingLaw" (84 : Nat) ({ cls := "BakeryRing", name := "wouldMove", desc := "(I)I" } : Jvm.MethodName)) ∈ lw_all := lw_g (lw_at lw_m8 159 rfl) rfl
theorem q1956 : (Jvm.Cond.methodLink "BakeryRingLaw" (219 : Nat) ({ cls := "BakeryRingLaw", name := "wouldLoad", desc := "(LBakeryRing;II[J)I" } : Jvm.MethodName)) ∈ lw_all := lw_g (lw_at lw_m8 163 rfl) rfl
theorem q1957 : (Jvm.Cond.static ({ cls := "BakeryRingLaw", name := "wouldLoad", desc := "(LBakeryRing;II[J)I" } : Jvm.MethodName)) ∈ lw_all := lw_g (lw_at lw_m8 164 rfl) rfl
theorem q1958 : (Jvm.Cond.codeWith ({ cls := "BakeryRingLaw", name := "wouldLoad", desc := "(LBakeryRing;II[J)I" } : Jvm.MethodName) method_24_code (5 : Nat) (Option.some Jvm.ClassFile.FieldType.int) [((0 : Nat), (10 : Nat), (13 : Nat), (26 : Nat))]) ∈ lw_all := lw_g (lw_at lw_m8 165 rfl) rfl
theorem q1959 : (Jvm.Cond.methodLink "BakeryRingLaw" (87 : Nat) ({ cls := "BakeryRing", name := "wouldLoad", desc := "(II)I" } : Jvm.MethodName)) ∈ lw_all := lw_g (lw_at lw_m8 166 rfl) rfl
theorem q1967 : (Jvm.Cond.methodLink "BakeryRingLaw" (222 : Nat) ({ cls := "BakeryRingLaw", name := "bestAngle", desc := "(LBakeryRing;I[J)I" } : Jvm.MethodName)) ∈ lw_all := lw_g (lw_at lw_m8 174 rfl) rfl
theorem q1968 : (Jvm.Cond.static ({ cls := "BakeryRingLaw", name := "bestAngle", desc := "(LBakeryRing;I[J)I" } : Jvm.MethodName)) ∈ lw_all := lw_g (lw_at lw_m8 175 rfl) rfl
theorem q1969 : (Jvm.Cond.codeWith ({ cls := "BakeryRingLaw", name := "bestAngle", desc := "(LBakeryRing;I[J)I" } : Jvm.MethodName) method_25_code (4 : Nat) (Option.some Jvm.ClassFile.FieldType.int) [((0 : Nat), (9 : Nat), (12 : Nat), (26 : Nat))]) ∈ lw_all := lw_g (lw_at lw_m8 176 rfl) rfl
theorem q1970 : (Jvm.Cond.methodLink "BakeryRingLaw" (90 : Nat) ({ cls := "BakeryRing", name := "bestAngle", desc := "(I)I" } : Jvm.MethodName)) ∈ lw_all := lw_g (lw_at lw_m8 177 rfl) rfl
theorem q1984 : (Jvm.Cond.methodLink "BakeryRingLaw" (225 : Nat) ({ cls := "BakeryRingLaw", name := "loadAgain", desc := "(LBakeryRing;I[J)I" } : Jvm.MethodName)) ∈ lw_all := lw_g (lw_at lw_m8 191 rfl) rfl
theorem q1985 : (Jvm.Cond.static ({ cls := "BakeryRingLaw", name := "loadAgain", desc := "(LBakeryRing;I[J)I" } : Jvm.MethodName)) ∈ lw_all := lw_g (lw_at lw_m8 192 rfl) rfl
theorem q1986 : (Jvm.Cond.codeWith ({ cls := "BakeryRingLaw", name := "loadAgain", desc := "(LBakeryRing;I[J)I" } : Jvm.MethodName) method_26_code (4 : Nat) (Option.some Jvm.ClassFile.FieldType.int) [((0 : Nat), (9 : Nat), (12 : Nat), (26 : Nat))]) ∈ lw_all := lw_g (lw_at lw_m8 193 rfl) rfl
theorem q1987 : (Jvm.Cond.methodLink "BakeryRingLaw" (93 : Nat) ({ cls := "BakeryRing", name := "loadAgain", desc := "(I)I" } : Jvm.MethodName)) ∈ lw_all := lw_g (lw_at lw_m8 194 rfl) rfl
theorem q2100 : (Jvm.Cond.methodLink "BakeryRingLaw" (228 : Nat) ({ cls := "BakeryRingLaw", name := "span", desc := "(LBakeryRing;I[J)I" } : Jvm.MethodName)) ∈ lw_all := lw_g (lw_at lw_m9 67 rfl) rfl
theorem q2101 : (Jvm.Cond.static ({ cls := "BakeryRingLaw", name := "span", desc := "(LBakeryRing;I[J)I" } : Jvm.MethodName)) ∈ lw_all := lw_g (lw_at lw_m9 68 rfl) rfl
theorem q2102 : (Jvm.Cond.codeWith ({ cls := "BakeryRingLaw", name := "span", desc := "(LBakeryRing;I[J)I" } : Jvm.MethodName) method_27_code (4 : Nat) (Option.some Jvm.ClassFile.FieldType.int) [((0 : Nat), (9 : Nat), (12 : Nat), (26 : Nat))]) ∈ lw_all := lw_g (lw_at lw_m9 69 rfl) rfl
theorem q2103 : (Jvm.Cond.methodLink "BakeryRingLaw" (96 : Nat) ({ cls := "BakeryRing", name := "span", desc := "(I)I" } : Jvm.MethodName)) ∈ lw_all := lw_g (lw_at lw_m9 70 rfl) rfl
theorem q2107 : (Jvm.Cond.methodLink "BakeryRingLaw" (231 : Nat) ({ cls := "BakeryRingLaw", name := "customers", desc := "(LBakeryRing;II[J)I" } : Jvm.MethodName)) ∈ lw_all := lw_g (lw_at lw_m9 74 rfl) rfl
theorem q2108 : (Jvm.Cond.static ({ cls := "BakeryRingLaw", name := "customers", desc := "(LBakeryRing;II[J)I" } : Jvm.MethodName)) ∈ lw_all := lw_g (lw_at lw_m9 75 rfl) rfl
theorem q2109 : (Jvm.Cond.codeWith ({ cls := "BakeryRingLaw", name := "customers", desc := "(LBakeryRing;II[J)I" } : Jvm.MethodName) method_28_code (5 : Nat) (Option.some Jvm.ClassFile.FieldType.int) [((0 : Nat), (10 : Nat), (13 : Nat), (26 : Nat)), ((0 : Nat), (10 : Nat), (17 : Nat), (54 : Nat))]) ∈ lw_all := lw_g (lw_at lw_m9 76 rfl) rfl
theorem q2110 : (Jvm.Cond.methodLink "BakeryRingLaw" (99 : Nat) ({ cls := "BakeryRing", name := "customers", desc := "(II)I" } : Jvm.MethodName)) ∈ lw_all := lw_g (lw_at lw_m9 77 rfl) rfl
theorem q2118 : (Jvm.Cond.methodLink "BakeryRingLaw" (234 : Nat) ({ cls := "BakeryRingLaw", name := "ranked", desc := "(LBakeryRing;I[J)I" } : Jvm.MethodName)) ∈ lw_all := lw_g (lw_at lw_m9 85 rfl) rfl
theorem q2119 : (Jvm.Cond.static ({ cls := "BakeryRingLaw", name := "ranked", desc := "(LBakeryRing;I[J)I" } : Jvm.MethodName)) ∈ lw_all := lw_g (lw_at lw_m9 86 rfl) rfl
theorem q2120 : (Jvm.Cond.codeWith ({ cls := "BakeryRingLaw", name := "ranked", desc := "(LBakeryRing;I[J)I" } : Jvm.MethodName) method_29_code (4 : Nat) (Option.some Jvm.ClassFile.FieldType.int) [((0 : Nat), (9 : Nat), (12 : Nat), (54 : Nat))]) ∈ lw_all := lw_g (lw_at lw_m9 87 rfl) rfl
theorem q2121 : (Jvm.Cond.methodLink "BakeryRingLaw" (102 : Nat) ({ cls := "BakeryRing", name := "ranked", desc := "(I)I" } : Jvm.MethodName)) ∈ lw_all := lw_g (lw_at lw_m9 88 rfl) rfl
theorem q2129 : (Jvm.Cond.methodLink "BakeryRingLaw" (237 : Nat) ({ cls := "BakeryRingLaw", name := "unfairness", desc := "(LBakeryRing;[J)I" } : Jvm.MethodName)) ∈ lw_all := lw_g (lw_at lw_m9 96 rfl) rfl
theorem q2130 : (Jvm.Cond.static ({ cls := "BakeryRingLaw", name := "unfairness", desc := "(LBakeryRing;[J)I" } : Jvm.MethodName)) ∈ lw_all := lw_g (lw_at lw_m9 97 rfl) rfl
theorem q2131 : (Jvm.Cond.codeWith ({ cls := "BakeryRingLaw", name := "unfairness", desc := "(LBakeryRing;[J)I" } : Jvm.MethodName) method_30_code (3 : Nat) (Option.some Jvm.ClassFile.FieldType.int) [((0 : Nat), (8 : Nat), (11 : Nat), (54 : Nat))]) ∈ lw_all := lw_g (lw_at lw_m9 98 rfl) rfl
theorem q2132 : (Jvm.Cond.methodLink "BakeryRingLaw" (105 : Nat) ({ cls := "BakeryRing", name := "unfairness", desc := "()I" } : Jvm.MethodName)) ∈ lw_all := lw_g (lw_at lw_m9 99 rfl) rfl
theorem q2137 : (Jvm.Cond.methodLink "BakeryRingLaw" (240 : Nat) ({ cls := "BakeryRingLaw", name := "isOwn", desc := "(LBakeryRing;I[J)I" } : Jvm.MethodName)) ∈ lw_all := lw_g (lw_at lw_m9 104 rfl) rfl
theorem q2138 : (Jvm.Cond.static ({ cls := "BakeryRingLaw", name := "isOwn", desc := "(LBakeryRing;I[J)I" } : Jvm.MethodName)) ∈ lw_all := lw_g (lw_at lw_m9 105 rfl) rfl
theorem q2139 : (Jvm.Cond.codeWith ({ cls := "BakeryRingLaw", name := "isOwn", desc := "(LBakeryRing;I[J)I" } : Jvm.MethodName) method_31_code (4 : Nat) (Option.some Jvm.ClassFile.FieldType.int) [((0 : Nat), (16 : Nat), (19 : Nat), (26 : Nat))]) ∈ lw_all := lw_g (lw_at lw_m9 106 rfl) rfl
theorem q2140 : (Jvm.Cond.methodLink "BakeryRingLaw" (108 : Nat) ({ cls := "BakeryRing", name := "isOwn", desc := "(I)Z" } : Jvm.MethodName)) ∈ lw_all := lw_g (lw_at lw_m9 107 rfl) rfl
theorem q2144 : (Jvm.Cond.methodLink "BakeryRingLaw" (243 : Nat) ({ cls := "BakeryRingLaw", name := "describe", desc := "(LBakeryRing;I[J)I" } : Jvm.MethodName)) ∈ lw_all := lw_g (lw_at lw_m9 111 rfl) rfl
theorem q2145 : (Jvm.Cond.static ({ cls := "BakeryRingLaw", name := "describe", desc := "(LBakeryRing;I[J)I" } : Jvm.MethodName)) ∈ lw_all := lw_g (lw_at lw_m9 112 rfl) rfl
theorem q2146 : (Jvm.Cond.codeWith ({ cls := "BakeryRingLaw", name := "describe", desc := "(LBakeryRing;I[J)I" } : Jvm.MethodName) method_32_code (4 : Nat) (Option.some Jvm.ClassFile.FieldType.int) [((0 : Nat), (9 : Nat), (12 : Nat), (26 : Nat))]) ∈ lw_all := lw_g (lw_at lw_m9 113 rfl) rfl
theorem q2147 : (Jvm.Cond.methodLink "BakeryRingLaw" (112 : Nat) ({ cls := "BakeryRing", name := "describe", desc := "(I)I" } : Jvm.MethodName)) ∈ lw_all := lw_g (lw_at lw_m9 114 rfl) rfl
theorem q2168 : (Jvm.Cond.methodLink "BakeryRingLaw" (246 : Nat) ({ cls := "BakeryRingLaw", name := "written", desc := "(LBakeryRing;I[J)I" } : Jvm.MethodName)) ∈ lw_all := lw_g (lw_at lw_m9 135 rfl) rfl
theorem q2169 : (Jvm.Cond.static ({ cls := "BakeryRingLaw", name := "written", desc := "(LBakeryRing;I[J)I" } : Jvm.MethodName)) ∈ lw_all := lw_g (lw_at lw_m9 136 rfl) rfl
theorem q2170 : (Jvm.Cond.codeWith ({ cls := "BakeryRingLaw", name := "written", desc := "(LBakeryRing;I[J)I" } : Jvm.MethodName) method_33_code (4 : Nat) (Option.some Jvm.ClassFile.FieldType.int) [((0 : Nat), (9 : Nat), (12 : Nat), (26 : Nat))]) ∈ lw_all := lw_g (lw_at lw_m9 137 rfl) rfl
theorem q2171 : (Jvm.Cond.methodLink "BakeryRingLaw" (115 : Nat) ({ cls := "BakeryRing", name := "written", desc := "(I)C" } : Jvm.MethodName)) ∈ lw_all := lw_g (lw_at lw_m9 138 rfl) rfl
theorem q2175 : (Jvm.Cond.methodLink "BakeryRingLaw" (249 : Nat) ({ cls := "BakeryRingLaw", name := "meanLoad", desc := "(LBakeryRing;[D)I" } : Jvm.MethodName)) ∈ lw_all := lw_g (lw_at lw_m9 142 rfl) rfl
theorem q2176 : (Jvm.Cond.static ({ cls := "BakeryRingLaw", name := "meanLoad", desc := "(LBakeryRing;[D)I" } : Jvm.MethodName)) ∈ lw_all := lw_g (lw_at lw_m9 143 rfl) rfl
theorem q2177 : (Jvm.Cond.codeWith ({ cls := "BakeryRingLaw", name := "meanLoad", desc := "(LBakeryRing;[D)I" } : Jvm.MethodName) method_34_code (3 : Nat) (Option.some Jvm.ClassFile.FieldType.int) [((0 : Nat), (8 : Nat), (11 : Nat), (123 : Nat))]) ∈ lw_all := lw_g (lw_at lw_m9 144 rfl) rfl
theorem q2178 : (Jvm.Cond.classLink "BakeryRingLaw" (123 : Nat) "java/lang/ArithmeticException") ∈ lw_all := lw_g (lw_at lw_m9 145 rfl) rfl
theorem q2192 : (Jvm.Cond.methodLink "BakeryRingLaw" (119 : Nat) ({ cls := "BakeryRing", name := "meanLoad", desc := "()F" } : Jvm.MethodName)) ∈ lw_all := lw_g (lw_at lw_m9 159 rfl) rfl
theorem q2205 : (Jvm.Cond.methodLink "BakeryRingLaw" (253 : Nat) ({ cls := "BakeryRingLaw", name := "sentShare", desc := "(LBakeryRing;[D)I" } : Jvm.MethodName)) ∈ lw_all := lw_g (lw_at lw_m9 172 rfl) rfl
theorem q2206 : (Jvm.Cond.static ({ cls := "BakeryRingLaw", name := "sentShare", desc := "(LBakeryRing;[D)I" } : Jvm.MethodName)) ∈ lw_all := lw_g (lw_at lw_m9 173 rfl) rfl
theorem q2207 : (Jvm.Cond.codeWith ({ cls := "BakeryRingLaw", name := "sentShare", desc := "(LBakeryRing;[D)I" } : Jvm.MethodName) method_35_code (3 : Nat) (Option.some Jvm.ClassFile.FieldType.int) [((0 : Nat), (7 : Nat), (10 : Nat), (123 : Nat))]) ∈ lw_all := lw_g (lw_at lw_m9 174 rfl) rfl
theorem q2208 : (Jvm.Cond.methodLink "BakeryRingLaw" (125 : Nat) ({ cls := "BakeryRing", name := "sentShare", desc := "()D" } : Jvm.MethodName)) ∈ lw_all := lw_g (lw_at lw_m9 175 rfl) rfl
theorem q2216 : (Jvm.Cond.methodLink "BakeryRingLaw" (256 : Nat) ({ cls := "BakeryRingLaw", name := "account", desc := "(LBakeryRing;I[J)I" } : Jvm.MethodName)) ∈ lw_all := lw_g (lw_at lw_m9 183 rfl) rfl
theorem q2217 : (Jvm.Cond.static ({ cls := "BakeryRingLaw", name := "account", desc := "(LBakeryRing;I[J)I" } : Jvm.MethodName)) ∈ lw_all := lw_g (lw_at lw_m9 184 rfl) rfl
theorem q2218 : (Jvm.Cond.codeWith ({ cls := "BakeryRingLaw", name := "account", desc := "(LBakeryRing;I[J)I" } : Jvm.MethodName) method_36_code (4 : Nat) (Option.some Jvm.ClassFile.FieldType.int) [((0 : Nat), (9 : Nat), (12 : Nat), (13 : Nat))]) ∈ lw_all := lw_g (lw_at lw_m9 185 rfl) rfl
theorem q2219 : (Jvm.Cond.methodLink "BakeryRingLaw" (129 : Nat) ({ cls := "BakeryRing", name := "account", desc := "(I)I" } : Jvm.MethodName)) ∈ lw_all := lw_g (lw_at lw_m9 186 rfl) rfl
theorem q2231 : (Jvm.Cond.methodLink "BakeryRingLaw" (259 : Nat) ({ cls := "BakeryRingLaw", name := "undo", desc := "(LBakeryRing;[J)I" } : Jvm.MethodName)) ∈ lw_all := lw_g (lw_at lw_m9 198 rfl) rfl
theorem q2232 : (Jvm.Cond.static ({ cls := "BakeryRingLaw", name := "undo", desc := "(LBakeryRing;[J)I" } : Jvm.MethodName)) ∈ lw_all := lw_g (lw_at lw_m9 199 rfl) rfl
theorem q2233 : (Jvm.Cond.codeWith ({ cls := "BakeryRingLaw", name := "undo", desc := "(LBakeryRing;[J)I" } : Jvm.MethodName) method_37_code (3 : Nat) (Option.some Jvm.ClassFile.FieldType.int) [((0 : Nat), (8 : Nat), (11 : Nat), (15 : Nat))]) ∈ lw_all := lw_g (lw_at lw_m9 200 rfl) rfl
theorem q2234 : (Jvm.Cond.methodLink "BakeryRingLaw" (132 : Nat) ({ cls := "BakeryRing", name := "undo", desc := "()I" } : Jvm.MethodName)) ∈ lw_all := lw_g (lw_at lw_m9 201 rfl) rfl
theorem q2238 : (Jvm.Cond.methodLink "BakeryRingLaw" (266 : Nat) ({ cls := "BakeryRingLaw", name := "restore", desc := "(LBakeryRing;[J)I" } : Jvm.MethodName)) ∈ lw_all := lw_g (lw_at lw_m9 205 rfl) rfl
theorem q2239 : (Jvm.Cond.static ({ cls := "BakeryRingLaw", name := "restore", desc := "(LBakeryRing;[J)I" } : Jvm.MethodName)) ∈ lw_all := lw_g (lw_at lw_m9 206 rfl) rfl
theorem q2240 : (Jvm.Cond.codeWith ({ cls := "BakeryRingLaw", name := "restore", desc := "(LBakeryRing;[J)I" } : Jvm.MethodName) method_38_code (3 : Nat) (Option.some Jvm.ClassFile.FieldType.int) [((0 : Nat), (8 : Nat), (11 : Nat), (15 : Nat))]) ∈ lw_all := lw_g (lw_at lw_m9 207 rfl) rfl
theorem q2241 : (Jvm.Cond.methodLink "BakeryRingLaw" (135 : Nat) ({ cls := "BakeryRing", name := "restore", desc := "()I" } : Jvm.MethodName)) ∈ lw_all := lw_g (lw_at lw_m9 208 rfl) rfl
theorem q2245 : (Jvm.Cond.classLink "BakeryRingLaw" (139 : Nat) "BakeryRingModel") ∈ lw_all := lw_g (lw_at lw_m9 212 rfl) rfl
theorem q2247 : (Jvm.Cond.methodLink "BakeryRingLaw" (141 : Nat) ({ cls := "BakeryRingModel", name := "<init>", desc := "()V" } : Jvm.MethodName)) ∈ lw_all := lw_g (lw_at lw_m9 214 rfl) rfl
theorem q2322 : (Jvm.Cond.methodLink "BakeryRingLaw" (152 : Nat) ({ cls := "BakeryRingModel", name := "thrown", desc := "()I" } : Jvm.MethodName)) ∈ lw_all := lw_g (lw_at lw_m10 49 rfl) rfl
theorem q2326 : (Jvm.Cond.methodLink "BakeryRingLaw" (145 : Nat) ({ cls := "BakeryRingModel", name := "clear", desc := "()I" } : Jvm.MethodName)) ∈ lw_all := lw_g (lw_at lw_m10 53 rfl) rfl
theorem q2330 : (Jvm.Cond.methodLink "BakeryRingLaw" (158 : Nat) ({ cls := "BakeryRingModel", name := "bakery", desc := "(II)I" } : Jvm.MethodName)) ∈ lw_all := lw_g (lw_at lw_m10 57 rfl) rfl
theorem q2369 : (Jvm.Cond.methodLink "BakeryRingLaw" (161 : Nat) ({ cls := "BakeryRingModel", name := "sign", desc := "(II)I" } : Jvm.MethodName)) ∈ lw_all := lw_g (lw_at lw_m10 96 rfl) rfl
theorem q2448 : (Jvm.Cond.methodLink "BakeryRingLaw" (165 : Nat) ({ cls := "BakeryRingModel", name := "down", desc := "(I)I" } : Jvm.MethodName)) ∈ lw_all := lw_g (lw_at lw_m10 175 rfl) rfl
theorem q2464 : (Jvm.Cond.methodLink "BakeryRingLaw" (168 : Nat) ({ cls := "BakeryRingModel", name := "close", desc := "(I)I" } : Jvm.MethodName)) ∈ lw_all := lw_g (lw_at lw_m10 191 rfl) rfl
theorem q2480 : (Jvm.Cond.methodLink "BakeryRingLaw" (171 : Nat) ({ cls := "BakeryRingModel", name := "open", desc := "(I)I" } : Jvm.MethodName)) ∈ lw_all := lw_g (lw_at lw_m10 207 rfl) rfl
theorem q2488 : (Jvm.Cond.methodLink "BakeryRingLaw" (174 : Nat) ({ cls := "BakeryRingModel", name := "oven", desc := "(II)I" } : Jvm.MethodName)) ∈ lw_all := lw_g (lw_at lw_m10 215 rfl) rfl
theorem q2500 : (Jvm.Cond.methodLink "BakeryRingLaw" (177 : Nat) ({ cls := "BakeryRingModel", name := "come", desc := "(II)I" } : Jvm.MethodName)) ∈ lw_all := lw_g (lw_at lw_m10 227 rfl) rfl
theorem q2512 : (Jvm.Cond.methodLink "BakeryRingLaw" (180 : Nat) ({ cls := "BakeryRingModel", name := "leave", desc := "(I)I" } : Jvm.MethodName)) ∈ lw_all := lw_g (lw_at lw_m10 239 rfl) rfl
theorem q2528 : (Jvm.Cond.methodLink "BakeryRingLaw" (194 : Nat) ({ cls := "BakeryRingModel", name := "bakeryOf", desc := "(II)I" } : Jvm.MethodName)) ∈ lw_all := lw_g (lw_at lw_m11 15 rfl) rfl
theorem q2544 : (Jvm.Cond.methodLink "BakeryRingLaw" (197 : Nat) ({ cls := "BakeryRingModel", name := "signAt", desc := "(I)I" } : Jvm.MethodName)) ∈ lw_all := lw_g (lw_at lw_m11 31 rfl) rfl
theorem q2548 : (Jvm.Cond.methodLink "BakeryRingLaw" (200 : Nat) ({ cls := "BakeryRingModel", name := "signOf", desc := "(I)I" } : Jvm.MethodName)) ∈ lw_all := lw_g (lw_at lw_m11 35 rfl) rfl
theorem q2552 : (Jvm.Cond.methodLink "BakeryRingLaw" (203 : Nat) ({ cls := "BakeryRingModel", name := "customerOf", desc := "(II)I" } : Jvm.MethodName)) ∈ lw_all := lw_g (lw_at lw_m11 39 rfl) rfl
theorem q2556 : (Jvm.Cond.methodLink "BakeryRingLaw" (206 : Nat) ({ cls := "BakeryRingModel", name := "way", desc := "(II)I" } : Jvm.MethodName)) ∈ lw_all := lw_g (lw_at lw_m11 43 rfl) rfl
theorem q2563 : (Jvm.Cond.methodLink "BakeryRingLaw" (209 : Nat) ({ cls := "BakeryRingModel", name := "nearest", desc := "(I)I" } : Jvm.MethodName)) ∈ lw_all := lw_g (lw_at lw_m11 50 rfl) rfl
theorem q2571 : (Jvm.Cond.methodLink "BakeryRingLaw" (212 : Nat) ({ cls := "BakeryRingModel", name := "nearestAgain", desc := "(I)I" } : Jvm.MethodName)) ∈ lw_all := lw_g (lw_at lw_m11 58 rfl) rfl
theorem q2575 : (Jvm.Cond.methodLink "BakeryRingLaw" (215 : Nat) ({ cls := "BakeryRingModel", name := "wouldGo", desc := "(II)I" } : Jvm.MethodName)) ∈ lw_all := lw_g (lw_at lw_m11 62 rfl) rfl
theorem q2583 : (Jvm.Cond.methodLink "BakeryRingLaw" (218 : Nat) ({ cls := "BakeryRingModel", name := "wouldMove", desc := "(I)I" } : Jvm.MethodName)) ∈ lw_all := lw_g (lw_at lw_m11 70 rfl) rfl
theorem q2591 : (Jvm.Cond.methodLink "BakeryRingLaw" (221 : Nat) ({ cls := "BakeryRingModel", name := "wouldLoad", desc := "(II)I" } : Jvm.MethodName)) ∈ lw_all := lw_g (lw_at lw_m11 78 rfl) rfl
theorem q2595 : (Jvm.Cond.methodLink "BakeryRingLaw" (224 : Nat) ({ cls := "BakeryRingModel", name := "bestAngle", desc := "(I)I" } : Jvm.MethodName)) ∈ lw_all := lw_g (lw_at lw_m11 82 rfl) rfl
theorem q2603 : (Jvm.Cond.methodLink "BakeryRingLaw" (227 : Nat) ({ cls := "BakeryRingModel", name := "loadAgain", desc := "(I)I" } : Jvm.MethodName)) ∈ lw_all := lw_g (lw_at lw_m11 90 rfl) rfl
theorem q2607 : (Jvm.Cond.methodLink "BakeryRingLaw" (230 : Nat) ({ cls := "BakeryRingModel", name := "span", desc := "(I)I" } : Jvm.MethodName)) ∈ lw_all := lw_g (lw_at lw_m11 94 rfl) rfl
theorem q2611 : (Jvm.Cond.methodLink "BakeryRingLaw" (233 : Nat) ({ cls := "BakeryRingModel", name := "customers", desc := "(II)I" } : Jvm.MethodName)) ∈ lw_all := lw_g (lw_at lw_m11 98 rfl) rfl
theorem q2615 : (Jvm.Cond.methodLink "BakeryRingLaw" (236 : Nat) ({ cls := "BakeryRingModel", name := "ranked", desc := "(I)I" } : Jvm.MethodName)) ∈ lw_all := lw_g (lw_at lw_m11 102 rfl) rfl
theorem q2623 : (Jvm.Cond.methodLink "BakeryRingLaw" (239 : Nat) ({ cls := "BakeryRingModel", name := "unfairness", desc := "()I" } : Jvm.MethodName)) ∈ lw_all := lw_g (lw_at lw_m11 110 rfl) rfl
theorem q2627 : (Jvm.Cond.methodLink "BakeryRingLaw" (242 : Nat) ({ cls := "BakeryRingModel", name := "isOwn", desc := "(I)Z" } : Jvm.MethodName)) ∈ lw_all := lw_g (lw_at lw_m11 114 rfl) rfl
theorem q2631 : (Jvm.Cond.methodLink "BakeryRingLaw" (151 : Nat) ({ cls := "BakeryRingModel", name := "append", desc := "(C)I" } : Jvm.MethodName)) ∈ lw_all := lw_g (lw_at lw_m11 118 rfl) rfl
theorem q2635 : (Jvm.Cond.methodLink "BakeryRingLaw" (184 : Nat) ({ cls := "BakeryRingModel", name := "script", desc := "()I" } : Jvm.MethodName)) ∈ lw_all := lw_g (lw_at lw_m11 122 rfl) rfl
theorem q2683 : (Jvm.Cond.methodLink "BakeryRingLaw" (187 : Nat) ({ cls := "BakeryRingModel", name := "faultPosition", desc := "()I" } : Jvm.MethodName)) ∈ lw_all := lw_g (lw_at lw_m11 170 rfl) rfl
theorem q2687 : (Jvm.Cond.methodLink "BakeryRingLaw" (191 : Nat) ({ cls := "BakeryRingModel", name := "reason", desc := "(IZ)I" } : Jvm.MethodName)) ∈ lw_all := lw_g (lw_at lw_m11 174 rfl) rfl
theorem q2691 : (Jvm.Cond.methodLink "BakeryRingLaw" (245 : Nat) ({ cls := "BakeryRingModel", name := "describe", desc := "(I)I" } : Jvm.MethodName)) ∈ lw_all := lw_g (lw_at lw_m11 178 rfl) rfl
theorem q2711 : (Jvm.Cond.methodLink "BakeryRingLaw" (248 : Nat) ({ cls := "BakeryRingModel", name := "written", desc := "(I)C" } : Jvm.MethodName)) ∈ lw_all := lw_g (lw_at lw_m11 198 rfl) rfl
theorem q2715 : (Jvm.Cond.methodLink "BakeryRingLaw" (252 : Nat) ({ cls := "BakeryRingModel", name := "meanLoad", desc := "()F" } : Jvm.MethodName)) ∈ lw_all := lw_g (lw_at lw_m11 202 rfl) rfl
theorem q2723 : (Jvm.Cond.methodLink "BakeryRingLaw" (255 : Nat) ({ cls := "BakeryRingModel", name := "sentShare", desc := "()D" } : Jvm.MethodName)) ∈ lw_all := lw_g (lw_at lw_m11 210 rfl) rfl
theorem q2731 : (Jvm.Cond.methodLink "BakeryRingLaw" (258 : Nat) ({ cls := "BakeryRingModel", name := "account", desc := "(I)I" } : Jvm.MethodName)) ∈ lw_all := lw_g (lw_at lw_m11 218 rfl) rfl
theorem q2743 : (Jvm.Cond.methodLink "BakeryRingLaw" (261 : Nat) ({ cls := "BakeryRingModel", name := "undo", desc := "()I" } : Jvm.MethodName)) ∈ lw_all := lw_g (lw_at lw_m11 230 rfl) rfl
theorem q2747 : (Jvm.Cond.methodLink "BakeryRingLaw" (265 : Nat) ({ cls := "BakeryRingModel", name := "save", desc := "()I" } : Jvm.MethodName)) ∈ lw_all := lw_g (lw_at lw_m11 234 rfl) rfl
theorem q2751 : (Jvm.Cond.methodLink "BakeryRingLaw" (268 : Nat) ({ cls := "BakeryRingModel", name := "restore", desc := "()I" } : Jvm.MethodName)) ∈ lw_all := lw_g (lw_at lw_m11 238 rfl) rfl

/-! BakeryRing -/
set_option maxRecDepth 100000
def RX1 : String := "BakeryRing"
def TX1 : u_T := fun k => match k with
  | 0 => ("BakeryRing", "kinds", "Ljava/util/List;", true)
  | 1 => ("BakeryRing", "words", "Ljava/util/List;", true)
  | 2 => ("BakeryRing", "now", "LBakeryRing$State;", true)
  | 3 => ("BakeryRing", "before", "LBakeryRing$State;", true)
  | 4 => ("BakeryRing", "aside", "LBakeryRing$State;", true)
  | 5 => ("BakeryRing", "saved", "LBakeryRing$State;", true)
  | 6 => ("BakeryRing", "isSaved", "Z", false)
  | 7 => ("BakeryRing", "past", "[LBakeryRing$State;", true)
  | 8 => ("BakeryRing", "pastMany", "I", false)
  | 9 => ("BakeryRing", "refused", "LBakeryRing$Refused;", false)
  | 10 => ("BakeryRing", "faultAt", "I", false)
  | 11 => ("BakeryRing", "input", "Ljava/lang/StringBuilder;", true)
  | 12 => ("BakeryRing", "line", "Ljava/lang/StringBuilder;", true)
  | 13 => ("BakeryRing", "orders", "Ljava/util/LinkedList;", true)
  | _ => ("BakeryRing", "readAt", "I", false)
def tyX1 : Nat → FieldType := fun k => match k with
  | 0 => .object "java/util/List"
  | 1 => .object "java/util/List"
  | 2 => .object "BakeryRing$State"
  | 3 => .object "BakeryRing$State"
  | 4 => .object "BakeryRing$State"
  | 5 => .object "BakeryRing$State"
  | 6 => .boolean
  | 7 => .array (.object "BakeryRing$State")
  | 8 => .int
  | 9 => .object "BakeryRing$Refused"
  | 10 => .int
  | 11 => .object "java/lang/StringBuilder"
  | 12 => .object "java/lang/StringBuilder"
  | 13 => .object "java/util/LinkedList"
  | _ => .int
abbrev wsX10 : List Cond := u_ws RX1 TX1 15
set_option maxRecDepth 100000 in
theorem nmX1 : ∀ a, a < 15 → ∀ b, b < 15 → a ≠ b → (TX1 a).2.1 ≠ (TX1 b).2.1 := by decide +kernel
set_option maxRecDepth 100000 in
theorem tyX1_ok : ∀ k, k < 15 → parseFieldDescriptor (TX1 k).2.2.1 = some (tyX1 k) := by decide +kernel
abbrev cX1_init : ByteArray := prog_1_method_8_code
def yX1_init : MethodName := ⟨RX1, "<init>", "()V"⟩
def dkwX1_init_7 : List UInt8 := [187, 0, 62, 89, 183, 0, 64, 83, 132, 1, 1, 167, 255, 234, 177]
abbrev dktX1_init_7 : List UInt8 := dkwX1_init_7 ++ []
def dkwX1_init_6 : List UInt8 := [187, 0, 98, 89, 183, 0, 100, 181, 0, 101, 3, 60, 27, 16, 8, 162, 0, 22, 42, 180, 0, 78, 27]
abbrev dktX1_init_6 : List UInt8 := dkwX1_init_6 ++ dktX1_init_7
def dkwX1_init_5 : List UInt8 := [89, 16, 60, 183, 0, 88, 181, 0, 91, 42, 187, 0, 86, 89, 16, 60, 183, 0, 88, 181, 0, 95, 42]
abbrev dktX1_init_5 : List UInt8 := dkwX1_init_5 ++ dktX1_init_6
def dkwX1_init_4 : List UInt8 := [183, 0, 64, 181, 0, 75, 42, 16, 8, 189, 0, 62, 181, 0, 78, 42, 2, 181, 0, 82, 42, 187, 0, 86]
abbrev dktX1_init_4 : List UInt8 := dkwX1_init_4 ++ dktX1_init_5
def dkwX1_init_3 : List UInt8 := [183, 0, 64, 181, 0, 69, 42, 187, 0, 62, 89, 183, 0, 64, 181, 0, 72, 42, 187, 0, 62, 89]
abbrev dktX1_init_3 : List UInt8 := dkwX1_init_3 ++ dktX1_init_4
def dkwX1_init_2 : List UInt8 := [184, 0, 56, 181, 0, 59, 42, 187, 0, 62, 89, 183, 0, 64, 181, 0, 65, 42, 187, 0, 62, 89]
abbrev dktX1_init_2 : List UInt8 := dkwX1_init_2 ++ dktX1_init_3
def dkwX1_init_1 : List UInt8 := [183, 0, 31, 184, 0, 32, 181, 0, 38, 42, 18, 42, 18, 44, 18, 46, 18, 48, 18, 50, 18, 52, 18, 54]
abbrev dktX1_init_1 : List UInt8 := dkwX1_init_1 ++ dktX1_init_2
def dkwX1_init_0 : List UInt8 := [42, 183, 0, 20, 42, 187, 0, 23, 89, 183, 0, 25, 187, 0, 26, 89, 183, 0, 28, 187, 0, 29, 89]
abbrev dktX1_init_0 : List UInt8 := dkwX1_init_0 ++ dktX1_init_1
theorem dksX1_init_0 : cX1_init.data.toList.drop 0 = dktX1_init_0 := by decide +kernel
theorem dksX1_init_1 : cX1_init.data.toList.drop 23 = dktX1_init_1 := dk_seg dksX1_init_0 23 rfl rfl
theorem dksX1_init_2 : cX1_init.data.toList.drop 47 = dktX1_init_2 := dk_seg dksX1_init_1 24 rfl rfl
theorem dksX1_init_3 : cX1_init.data.toList.drop 69 = dktX1_init_3 := dk_seg dksX1_init_2 22 rfl rfl
theorem dksX1_init_4 : cX1_init.data.toList.drop 91 = dktX1_init_4 := dk_seg dksX1_init_3 22 rfl rfl
theorem dksX1_init_5 : cX1_init.data.toList.drop 115 = dktX1_init_5 := dk_seg dksX1_init_4 24 rfl rfl
theorem dksX1_init_6 : cX1_init.data.toList.drop 138 = dktX1_init_6 := dk_seg dksX1_init_5 23 rfl rfl
theorem dksX1_init_7 : cX1_init.data.toList.drop 161 = dktX1_init_7 := dk_seg dksX1_init_6 23 rfl rfl
theorem dX1_init_0 : decode cX1_init 0 = .ok (.aload_n 0, 1) := dk_42 (dk_at dksX1_init_0 0 rfl rfl)
theorem dX1_init_1 : decode cX1_init 1 = .ok (.invokespecial 20, 3) := dk_183 0 20 (dk_at dksX1_init_0 1 rfl rfl)
theorem dX1_init_4 : decode cX1_init 4 = .ok (.aload_n 0, 1) := dk_42 (dk_at dksX1_init_0 4 rfl rfl)
theorem dX1_init_5 : decode cX1_init 5 = .ok (.new 23, 3) := dk_187 0 23 (dk_at dksX1_init_0 5 rfl rfl)
theorem dX1_init_8 : decode cX1_init 8 = .ok (.dup, 1) := dk_89 (dk_at dksX1_init_0 8 rfl rfl)
theorem dX1_init_9 : decode cX1_init 9 = .ok (.invokespecial 25, 3) := dk_183 0 25 (dk_at dksX1_init_0 9 rfl rfl)
theorem dX1_init_12 : decode cX1_init 12 = .ok (.new 26, 3) := dk_187 0 26 (dk_at dksX1_init_0 12 rfl rfl)
theorem dX1_init_15 : decode cX1_init 15 = .ok (.dup, 1) := dk_89 (dk_at dksX1_init_0 15 rfl rfl)
theorem dX1_init_16 : decode cX1_init 16 = .ok (.invokespecial 28, 3) := dk_183 0 28 (dk_at dksX1_init_0 16 rfl rfl)
theorem dX1_init_19 : decode cX1_init 19 = .ok (.new 29, 3) := dk_187 0 29 (dk_at dksX1_init_0 19 rfl rfl)
theorem dX1_init_22 : decode cX1_init 22 = .ok (.dup, 1) := dk_89 (dk_at dksX1_init_0 22 rfl rfl)
theorem dX1_init_23 : decode cX1_init 23 = .ok (.invokespecial 31, 3) := dk_183 0 31 (dk_at dksX1_init_1 0 rfl rfl)
theorem dX1_init_26 : decode cX1_init 26 = .ok (.invokestatic 32, 3) := dk_184 0 32 (dk_at dksX1_init_1 3 rfl rfl)
theorem dX1_init_29 : decode cX1_init 29 = .ok (.putfield 38, 3) := dk_181 0 38 (dk_at dksX1_init_1 6 rfl rfl)
theorem dX1_init_32 : decode cX1_init 32 = .ok (.aload_n 0, 1) := dk_42 (dk_at dksX1_init_1 9 rfl rfl)
theorem dX1_init_33 : decode cX1_init 33 = .ok (.ldc 42, 2) := dk_18 42 (dk_at dksX1_init_1 10 rfl rfl)
theorem dX1_init_35 : decode cX1_init 35 = .ok (.ldc 44, 2) := dk_18 44 (dk_at dksX1_init_1 12 rfl rfl)
theorem dX1_init_37 : decode cX1_init 37 = .ok (.ldc 46, 2) := dk_18 46 (dk_at dksX1_init_1 14 rfl rfl)
theorem dX1_init_39 : decode cX1_init 39 = .ok (.ldc 48, 2) := dk_18 48 (dk_at dksX1_init_1 16 rfl rfl)
theorem dX1_init_41 : decode cX1_init 41 = .ok (.ldc 50, 2) := dk_18 50 (dk_at dksX1_init_1 18 rfl rfl)
theorem dX1_init_43 : decode cX1_init 43 = .ok (.ldc 52, 2) := dk_18 52 (dk_at dksX1_init_1 20 rfl rfl)
theorem dX1_init_45 : decode cX1_init 45 = .ok (.ldc 54, 2) := dk_18 54 (dk_at dksX1_init_1 22 rfl rfl)
theorem dX1_init_47 : decode cX1_init 47 = .ok (.invokestatic 56, 3) := dk_184 0 56 (dk_at dksX1_init_2 0 rfl rfl)
theorem dX1_init_50 : decode cX1_init 50 = .ok (.putfield 59, 3) := dk_181 0 59 (dk_at dksX1_init_2 3 rfl rfl)
theorem dX1_init_53 : decode cX1_init 53 = .ok (.aload_n 0, 1) := dk_42 (dk_at dksX1_init_2 6 rfl rfl)
theorem dX1_init_54 : decode cX1_init 54 = .ok (.new 62, 3) := dk_187 0 62 (dk_at dksX1_init_2 7 rfl rfl)
theorem dX1_init_57 : decode cX1_init 57 = .ok (.dup, 1) := dk_89 (dk_at dksX1_init_2 10 rfl rfl)
theorem dX1_init_58 : decode cX1_init 58 = .ok (.invokespecial 64, 3) := dk_183 0 64 (dk_at dksX1_init_2 11 rfl rfl)
theorem dX1_init_61 : decode cX1_init 61 = .ok (.putfield 65, 3) := dk_181 0 65 (dk_at dksX1_init_2 14 rfl rfl)
theorem dX1_init_64 : decode cX1_init 64 = .ok (.aload_n 0, 1) := dk_42 (dk_at dksX1_init_2 17 rfl rfl)
theorem dX1_init_65 : decode cX1_init 65 = .ok (.new 62, 3) := dk_187 0 62 (dk_at dksX1_init_2 18 rfl rfl)
theorem dX1_init_68 : decode cX1_init 68 = .ok (.dup, 1) := dk_89 (dk_at dksX1_init_2 21 rfl rfl)
theorem dX1_init_69 : decode cX1_init 69 = .ok (.invokespecial 64, 3) := dk_183 0 64 (dk_at dksX1_init_3 0 rfl rfl)
theorem dX1_init_72 : decode cX1_init 72 = .ok (.putfield 69, 3) := dk_181 0 69 (dk_at dksX1_init_3 3 rfl rfl)
theorem dX1_init_75 : decode cX1_init 75 = .ok (.aload_n 0, 1) := dk_42 (dk_at dksX1_init_3 6 rfl rfl)
theorem dX1_init_76 : decode cX1_init 76 = .ok (.new 62, 3) := dk_187 0 62 (dk_at dksX1_init_3 7 rfl rfl)
theorem dX1_init_79 : decode cX1_init 79 = .ok (.dup, 1) := dk_89 (dk_at dksX1_init_3 10 rfl rfl)
theorem dX1_init_80 : decode cX1_init 80 = .ok (.invokespecial 64, 3) := dk_183 0 64 (dk_at dksX1_init_3 11 rfl rfl)
theorem dX1_init_83 : decode cX1_init 83 = .ok (.putfield 72, 3) := dk_181 0 72 (dk_at dksX1_init_3 14 rfl rfl)
theorem dX1_init_86 : decode cX1_init 86 = .ok (.aload_n 0, 1) := dk_42 (dk_at dksX1_init_3 17 rfl rfl)
theorem dX1_init_87 : decode cX1_init 87 = .ok (.new 62, 3) := dk_187 0 62 (dk_at dksX1_init_3 18 rfl rfl)
theorem dX1_init_90 : decode cX1_init 90 = .ok (.dup, 1) := dk_89 (dk_at dksX1_init_3 21 rfl rfl)
theorem dX1_init_91 : decode cX1_init 91 = .ok (.invokespecial 64, 3) := dk_183 0 64 (dk_at dksX1_init_4 0 rfl rfl)
theorem dX1_init_94 : decode cX1_init 94 = .ok (.putfield 75, 3) := dk_181 0 75 (dk_at dksX1_init_4 3 rfl rfl)
theorem dX1_init_97 : decode cX1_init 97 = .ok (.aload_n 0, 1) := dk_42 (dk_at dksX1_init_4 6 rfl rfl)
theorem dX1_init_98 : decode cX1_init 98 = .ok (.bipush 8, 2) := dk_16 8 (dk_at dksX1_init_4 7 rfl rfl)
theorem dX1_init_100 : decode cX1_init 100 = .ok (.anewarray 62, 3) := dk_189 0 62 (dk_at dksX1_init_4 9 rfl rfl)
theorem dX1_init_103 : decode cX1_init 103 = .ok (.putfield 78, 3) := dk_181 0 78 (dk_at dksX1_init_4 12 rfl rfl)
theorem dX1_init_106 : decode cX1_init 106 = .ok (.aload_n 0, 1) := dk_42 (dk_at dksX1_init_4 15 rfl rfl)
theorem dX1_init_107 : decode cX1_init 107 = .ok (.iconst (-1), 1) := dk_2 (dk_at dksX1_init_4 16 rfl rfl)
theorem dX1_init_108 : decode cX1_init 108 = .ok (.putfield 82, 3) := dk_181 0 82 (dk_at dksX1_init_4 17 rfl rfl)
theorem dX1_init_111 : decode cX1_init 111 = .ok (.aload_n 0, 1) := dk_42 (dk_at dksX1_init_4 20 rfl rfl)
theorem dX1_init_112 : decode cX1_init 112 = .ok (.new 86, 3) := dk_187 0 86 (dk_at dksX1_init_4 21 rfl rfl)
theorem dX1_init_115 : decode cX1_init 115 = .ok (.dup, 1) := dk_89 (dk_at dksX1_init_5 0 rfl rfl)
theorem dX1_init_116 : decode cX1_init 116 = .ok (.bipush 60, 2) := dk_16 60 (dk_at dksX1_init_5 1 rfl rfl)
theorem dX1_init_118 : decode cX1_init 118 = .ok (.invokespecial 88, 3) := dk_183 0 88 (dk_at dksX1_init_5 3 rfl rfl)
theorem dX1_init_121 : decode cX1_init 121 = .ok (.putfield 91, 3) := dk_181 0 91 (dk_at dksX1_init_5 6 rfl rfl)
theorem dX1_init_124 : decode cX1_init 124 = .ok (.aload_n 0, 1) := dk_42 (dk_at dksX1_init_5 9 rfl rfl)
theorem dX1_init_125 : decode cX1_init 125 = .ok (.new 86, 3) := dk_187 0 86 (dk_at dksX1_init_5 10 rfl rfl)
theorem dX1_init_128 : decode cX1_init 128 = .ok (.dup, 1) := dk_89 (dk_at dksX1_init_5 13 rfl rfl)
theorem dX1_init_129 : decode cX1_init 129 = .ok (.bipush 60, 2) := dk_16 60 (dk_at dksX1_init_5 14 rfl rfl)
theorem dX1_init_131 : decode cX1_init 131 = .ok (.invokespecial 88, 3) := dk_183 0 88 (dk_at dksX1_init_5 16 rfl rfl)
theorem dX1_init_134 : decode cX1_init 134 = .ok (.putfield 95, 3) := dk_181 0 95 (dk_at dksX1_init_5 19 rfl rfl)
theorem dX1_init_137 : decode cX1_init 137 = .ok (.aload_n 0, 1) := dk_42 (dk_at dksX1_init_5 22 rfl rfl)
theorem dX1_init_138 : decode cX1_init 138 = .ok (.new 98, 3) := dk_187 0 98 (dk_at dksX1_init_6 0 rfl rfl)
theorem dX1_init_141 : decode cX1_init 141 = .ok (.dup, 1) := dk_89 (dk_at dksX1_init_6 3 rfl rfl)
theorem dX1_init_142 : decode cX1_init 142 = .ok (.invokespecial 100, 3) := dk_183 0 100 (dk_at dksX1_init_6 4 rfl rfl)
theorem dX1_init_145 : decode cX1_init 145 = .ok (.putfield 101, 3) := dk_181 0 101 (dk_at dksX1_init_6 7 rfl rfl)
theorem dX1_init_148 : decode cX1_init 148 = .ok (.iconst 0, 1) := dk_3 (dk_at dksX1_init_6 10 rfl rfl)
theorem dX1_init_149 : decode cX1_init 149 = .ok (.istore_n 1, 1) := dk_60 (dk_at dksX1_init_6 11 rfl rfl)
theorem dX1_init_150 : decode cX1_init 150 = .ok (.iload_n 1, 1) := dk_27 (dk_at dksX1_init_6 12 rfl rfl)
theorem dX1_init_151 : decode cX1_init 151 = .ok (.bipush 8, 2) := dk_16 8 (dk_at dksX1_init_6 13 rfl rfl)
theorem dX1_init_153 : decode cX1_init 153 = .ok (.if_icmp .ge 22, 3) := dk_162 0 22 (dk_at dksX1_init_6 15 rfl rfl)
theorem dX1_init_156 : decode cX1_init 156 = .ok (.aload_n 0, 1) := dk_42 (dk_at dksX1_init_6 18 rfl rfl)
theorem dX1_init_157 : decode cX1_init 157 = .ok (.getfield 78, 3) := dk_180 0 78 (dk_at dksX1_init_6 19 rfl rfl)
theorem dX1_init_160 : decode cX1_init 160 = .ok (.iload_n 1, 1) := dk_27 (dk_at dksX1_init_6 22 rfl rfl)
theorem dX1_init_161 : decode cX1_init 161 = .ok (.new 62, 3) := dk_187 0 62 (dk_at dksX1_init_7 0 rfl rfl)
theorem dX1_init_164 : decode cX1_init 164 = .ok (.dup, 1) := dk_89 (dk_at dksX1_init_7 3 rfl rfl)
theorem dX1_init_165 : decode cX1_init 165 = .ok (.invokespecial 64, 3) := dk_183 0 64 (dk_at dksX1_init_7 4 rfl rfl)
theorem dX1_init_168 : decode cX1_init 168 = .ok (.aastore, 1) := dk_83 (dk_at dksX1_init_7 7 rfl rfl)
theorem dX1_init_169 : decode cX1_init 169 = .ok (.iinc 1 1, 3) := dk_132 1 1 (dk_at dksX1_init_7 8 rfl rfl)
theorem dX1_init_172 : decode cX1_init 172 = .ok (.goto (-22), 3) := dk_167 255 234 (dk_at dksX1_init_7 11 rfl rfl)
theorem dX1_init_175 : decode cX1_init 175 = .ok (.return_, 1) := dk_177 (dk_at dksX1_init_7 14 rfl rfl)
abbrev cX1_clear : ByteArray := prog_1_method_12_code
def yX1_clear : MethodName := ⟨RX1, "clear", "()I"⟩
def dkwX1_clear_0 : List UInt8 := [42, 180, 0, 65, 180, 0, 109, 60, 42, 180, 0, 65, 182, 0, 128, 42, 3, 181, 0, 112, 27, 172]
abbrev dktX1_clear_0 : List UInt8 := dkwX1_clear_0 ++ []
theorem dksX1_clear_0 : cX1_clear.data.toList.drop 0 = dktX1_clear_0 := by decide +kernel
theorem dX1_clear_0 : decode cX1_clear 0 = .ok (.aload_n 0, 1) := dk_42 (dk_at dksX1_clear_0 0 rfl rfl)
theorem dX1_clear_1 : decode cX1_clear 1 = .ok (.getfield 65, 3) := dk_180 0 65 (dk_at dksX1_clear_0 1 rfl rfl)
theorem dX1_clear_4 : decode cX1_clear 4 = .ok (.getfield 109, 3) := dk_180 0 109 (dk_at dksX1_clear_0 4 rfl rfl)
theorem dX1_clear_7 : decode cX1_clear 7 = .ok (.istore_n 1, 1) := dk_60 (dk_at dksX1_clear_0 7 rfl rfl)
theorem dX1_clear_8 : decode cX1_clear 8 = .ok (.aload_n 0, 1) := dk_42 (dk_at dksX1_clear_0 8 rfl rfl)
theorem dX1_clear_9 : decode cX1_clear 9 = .ok (.getfield 65, 3) := dk_180 0 65 (dk_at dksX1_clear_0 9 rfl rfl)
theorem dX1_clear_12 : decode cX1_clear 12 = .ok (.invokevirtual 128, 3) := dk_182 0 128 (dk_at dksX1_clear_0 12 rfl rfl)
theorem dX1_clear_15 : decode cX1_clear 15 = .ok (.aload_n 0, 1) := dk_42 (dk_at dksX1_clear_0 15 rfl rfl)
theorem dX1_clear_16 : decode cX1_clear 16 = .ok (.iconst 0, 1) := dk_3 (dk_at dksX1_clear_0 16 rfl rfl)
theorem dX1_clear_17 : decode cX1_clear 17 = .ok (.putfield 112, 3) := dk_181 0 112 (dk_at dksX1_clear_0 17 rfl rfl)
theorem dX1_clear_20 : decode cX1_clear 20 = .ok (.iload_n 1, 1) := dk_27 (dk_at dksX1_clear_0 20 rfl rfl)
theorem dX1_clear_21 : decode cX1_clear 21 = .ok (.ireturn, 1) := dk_172 (dk_at dksX1_clear_0 21 rfl rfl)
abbrev cX1_save : ByteArray := prog_1_method_79_code
def yX1_save : MethodName := ⟨RX1, "save", "()I"⟩
def dkwX1_save_0 : List UInt8 := [42, 180, 0, 75, 42, 180, 0, 65, 182, 0, 105, 42, 4, 181, 1, 253, 42, 180, 0, 65, 180, 0, 109, 172]
abbrev dktX1_save_0 : List UInt8 := dkwX1_save_0 ++ []
theorem dksX1_save_0 : cX1_save.data.toList.drop 0 = dktX1_save_0 := by decide +kernel
theorem dX1_save_0 : decode cX1_save 0 = .ok (.aload_n 0, 1) := dk_42 (dk_at dksX1_save_0 0 rfl rfl)
theorem dX1_save_1 : decode cX1_save 1 = .ok (.getfield 75, 3) := dk_180 0 75 (dk_at dksX1_save_0 1 rfl rfl)
theorem dX1_save_4 : decode cX1_save 4 = .ok (.aload_n 0, 1) := dk_42 (dk_at dksX1_save_0 4 rfl rfl)
theorem dX1_save_5 : decode cX1_save 5 = .ok (.getfield 65, 3) := dk_180 0 65 (dk_at dksX1_save_0 5 rfl rfl)
theorem dX1_save_8 : decode cX1_save 8 = .ok (.invokevirtual 105, 3) := dk_182 0 105 (dk_at dksX1_save_0 8 rfl rfl)
theorem dX1_save_11 : decode cX1_save 11 = .ok (.aload_n 0, 1) := dk_42 (dk_at dksX1_save_0 11 rfl rfl)
theorem dX1_save_12 : decode cX1_save 12 = .ok (.iconst 1, 1) := dk_4 (dk_at dksX1_save_0 12 rfl rfl)
theorem dX1_save_13 : decode cX1_save 13 = .ok (.putfield 509, 3) := dk_181 1 253 (dk_at dksX1_save_0 13 rfl rfl)
theorem dX1_save_16 : decode cX1_save 16 = .ok (.aload_n 0, 1) := dk_42 (dk_at dksX1_save_0 16 rfl rfl)
theorem dX1_save_17 : decode cX1_save 17 = .ok (.getfield 65, 3) := dk_180 0 65 (dk_at dksX1_save_0 17 rfl rfl)
theorem dX1_save_20 : decode cX1_save 20 = .ok (.getfield 109, 3) := dk_180 0 109 (dk_at dksX1_save_0 20 rfl rfl)
theorem dX1_save_23 : decode cX1_save 23 = .ok (.ireturn, 1) := dk_172 (dk_at dksX1_save_0 23 rfl rfl)
abbrev cX1_append : ByteArray := prog_1_method_32_code
def yX1_append : MethodName := ⟨RX1, "append", "(C)I"⟩
def dkwX1_append_2 : List UInt8 := [172]
abbrev dktX1_append_2 : List UInt8 := dkwX1_append_2 ++ []
def dkwX1_append_1 : List UInt8 := [187, 1, 14, 89, 183, 1, 16, 191, 42, 180, 0, 91, 27, 182, 1, 17, 87, 42, 180, 0, 91, 182, 1, 11]
abbrev dktX1_append_1 : List UInt8 := dkwX1_append_1 ++ dktX1_append_2
def dkwX1_append_0 : List UInt8 := [27, 16, 32, 16, 126, 184, 0, 143, 184, 0, 173, 42, 180, 0, 91, 182, 1, 11, 16, 60, 160, 0, 11]
abbrev dktX1_append_0 : List UInt8 := dkwX1_append_0 ++ dktX1_append_1
theorem dksX1_append_0 : cX1_append.data.toList.drop 0 = dktX1_append_0 := by decide +kernel
theorem dksX1_append_1 : cX1_append.data.toList.drop 23 = dktX1_append_1 := dk_seg dksX1_append_0 23 rfl rfl
theorem dksX1_append_2 : cX1_append.data.toList.drop 47 = dktX1_append_2 := dk_seg dksX1_append_1 24 rfl rfl
theorem dX1_append_0 : decode cX1_append 0 = .ok (.iload_n 1, 1) := dk_27 (dk_at dksX1_append_0 0 rfl rfl)
theorem dX1_append_1 : decode cX1_append 1 = .ok (.bipush 32, 2) := dk_16 32 (dk_at dksX1_append_0 1 rfl rfl)
theorem dX1_append_3 : decode cX1_append 3 = .ok (.bipush 126, 2) := dk_16 126 (dk_at dksX1_append_0 3 rfl rfl)
theorem dX1_append_5 : decode cX1_append 5 = .ok (.invokestatic 143, 3) := dk_184 0 143 (dk_at dksX1_append_0 5 rfl rfl)
theorem dX1_append_8 : decode cX1_append 8 = .ok (.invokestatic 173, 3) := dk_184 0 173 (dk_at dksX1_append_0 8 rfl rfl)
theorem dX1_append_11 : decode cX1_append 11 = .ok (.aload_n 0, 1) := dk_42 (dk_at dksX1_append_0 11 rfl rfl)
theorem dX1_append_12 : decode cX1_append 12 = .ok (.getfield 91, 3) := dk_180 0 91 (dk_at dksX1_append_0 12 rfl rfl)
theorem dX1_append_15 : decode cX1_append 15 = .ok (.invokevirtual 267, 3) := dk_182 1 11 (dk_at dksX1_append_0 15 rfl rfl)
theorem dX1_append_18 : decode cX1_append 18 = .ok (.bipush 60, 2) := dk_16 60 (dk_at dksX1_append_0 18 rfl rfl)
theorem dX1_append_20 : decode cX1_append 20 = .ok (.if_icmp .ne 11, 3) := dk_160 0 11 (dk_at dksX1_append_0 20 rfl rfl)
theorem dX1_append_23 : decode cX1_append 23 = .ok (.new 270, 3) := dk_187 1 14 (dk_at dksX1_append_1 0 rfl rfl)
theorem dX1_append_26 : decode cX1_append 26 = .ok (.dup, 1) := dk_89 (dk_at dksX1_append_1 3 rfl rfl)
theorem dX1_append_27 : decode cX1_append 27 = .ok (.invokespecial 272, 3) := dk_183 1 16 (dk_at dksX1_append_1 4 rfl rfl)
theorem dX1_append_30 : decode cX1_append 30 = .ok (.athrow, 1) := dk_191 (dk_at dksX1_append_1 7 rfl rfl)
theorem dX1_append_31 : decode cX1_append 31 = .ok (.aload_n 0, 1) := dk_42 (dk_at dksX1_append_1 8 rfl rfl)
theorem dX1_append_32 : decode cX1_append 32 = .ok (.getfield 91, 3) := dk_180 0 91 (dk_at dksX1_append_1 9 rfl rfl)
theorem dX1_append_35 : decode cX1_append 35 = .ok (.iload_n 1, 1) := dk_27 (dk_at dksX1_append_1 12 rfl rfl)
theorem dX1_append_36 : decode cX1_append 36 = .ok (.invokevirtual 273, 3) := dk_182 1 17 (dk_at dksX1_append_1 13 rfl rfl)
theorem dX1_append_39 : decode cX1_append 39 = .ok (.pop, 1) := dk_87 (dk_at dksX1_append_1 16 rfl rfl)
theorem dX1_append_40 : decode cX1_append 40 = .ok (.aload_n 0, 1) := dk_42 (dk_at dksX1_append_1 17 rfl rfl)
theorem dX1_append_41 : decode cX1_append 41 = .ok (.getfield 91, 3) := dk_180 0 91 (dk_at dksX1_append_1 18 rfl rfl)
theorem dX1_append_44 : decode cX1_append 44 = .ok (.invokevirtual 267, 3) := dk_182 1 11 (dk_at dksX1_append_1 21 rfl rfl)
theorem dX1_append_47 : decode cX1_append 47 = .ok (.ireturn, 1) := dk_172 (dk_at dksX1_append_2 0 rfl rfl)
abbrev cX1_within : ByteArray := prog_1_method_1_code
def yX1_within : MethodName := ⟨RX1, "within", "(III)Z"⟩
def dkwX1_within_0 : List UInt8 := [26, 27, 161, 0, 12, 26, 28, 163, 0, 7, 4, 167, 0, 4, 3, 172]
abbrev dktX1_within_0 : List UInt8 := dkwX1_within_0 ++ []
theorem dksX1_within_0 : cX1_within.data.toList.drop 0 = dktX1_within_0 := by decide +kernel
theorem dX1_within_0 : decode cX1_within 0 = .ok (.iload_n 0, 1) := dk_26 (dk_at dksX1_within_0 0 rfl rfl)
theorem dX1_within_1 : decode cX1_within 1 = .ok (.iload_n 1, 1) := dk_27 (dk_at dksX1_within_0 1 rfl rfl)
theorem dX1_within_2 : decode cX1_within 2 = .ok (.if_icmp .lt 12, 3) := dk_161 0 12 (dk_at dksX1_within_0 2 rfl rfl)
theorem dX1_within_5 : decode cX1_within 5 = .ok (.iload_n 0, 1) := dk_26 (dk_at dksX1_within_0 5 rfl rfl)
theorem dX1_within_6 : decode cX1_within 6 = .ok (.iload_n 2, 1) := dk_28 (dk_at dksX1_within_0 6 rfl rfl)
theorem dX1_within_7 : decode cX1_within 7 = .ok (.if_icmp .gt 7, 3) := dk_163 0 7 (dk_at dksX1_within_0 7 rfl rfl)
theorem dX1_within_10 : decode cX1_within 10 = .ok (.iconst 1, 1) := dk_4 (dk_at dksX1_within_0 10 rfl rfl)
theorem dX1_within_11 : decode cX1_within 11 = .ok (.goto 4, 3) := dk_167 0 4 (dk_at dksX1_within_0 11 rfl rfl)
theorem dX1_within_14 : decode cX1_within 14 = .ok (.iconst 0, 1) := dk_3 (dk_at dksX1_within_0 14 rfl rfl)
theorem dX1_within_15 : decode cX1_within 15 = .ok (.ireturn, 1) := dk_172 (dk_at dksX1_within_0 15 rfl rfl)
abbrev cX1_fits : ByteArray := prog_1_method_5_code
def yX1_fits : MethodName := ⟨RX1, "fits", "(Z)V"⟩
def dkwX1_fits_0 : List UInt8 := [26, 154, 0, 11, 187, 0, 12, 89, 183, 0, 14, 191, 177]
abbrev dktX1_fits_0 : List UInt8 := dkwX1_fits_0 ++ []
theorem dksX1_fits_0 : cX1_fits.data.toList.drop 0 = dktX1_fits_0 := by decide +kernel
theorem dX1_fits_0 : decode cX1_fits 0 = .ok (.iload_n 0, 1) := dk_26 (dk_at dksX1_fits_0 0 rfl rfl)
theorem dX1_fits_1 : decode cX1_fits 1 = .ok (.ifCond .ne 11, 3) := dk_154 0 11 (dk_at dksX1_fits_0 1 rfl rfl)
theorem dX1_fits_4 : decode cX1_fits 4 = .ok (.new 12, 3) := dk_187 0 12 (dk_at dksX1_fits_0 4 rfl rfl)
theorem dX1_fits_7 : decode cX1_fits 7 = .ok (.dup, 1) := dk_89 (dk_at dksX1_fits_0 7 rfl rfl)
theorem dX1_fits_8 : decode cX1_fits 8 = .ok (.invokespecial 14, 3) := dk_183 0 14 (dk_at dksX1_fits_0 8 rfl rfl)
theorem dX1_fits_11 : decode cX1_fits 11 = .ok (.athrow, 1) := dk_191 (dk_at dksX1_fits_0 11 rfl rfl)
theorem dX1_fits_12 : decode cX1_fits 12 = .ok (.return_, 1) := dk_177 (dk_at dksX1_fits_0 12 rfl rfl)
abbrev cX1_bakery : ByteArray := prog_1_method_17_code
def yX1_bakery : MethodName := ⟨RX1, "bakery", "(II)I"⟩
def dkwX1_bakery_2 : List UInt8 := [191]
abbrev dktX1_bakery_2 : List UInt8 := dkwX1_bakery_2 ++ []
def dkwX1_bakery_1 : List UInt8 := [184, 0, 173, 42, 182, 0, 176, 42, 42, 27, 28, 182, 0, 179, 182, 0, 183, 172, 78, 42, 45, 182, 0, 186]
abbrev dktX1_bakery_1 : List UInt8 := dkwX1_bakery_1 ++ dktX1_bakery_2
def dkwX1_bakery_0 : List UInt8 := [27, 3, 5, 184, 0, 143, 153, 0, 17, 28, 4, 16, 40, 184, 0, 143, 153, 0, 7, 4, 167, 0, 4, 3]
abbrev dktX1_bakery_0 : List UInt8 := dkwX1_bakery_0 ++ dktX1_bakery_1
theorem dksX1_bakery_0 : cX1_bakery.data.toList.drop 0 = dktX1_bakery_0 := by decide +kernel
theorem dksX1_bakery_1 : cX1_bakery.data.toList.drop 24 = dktX1_bakery_1 := dk_seg dksX1_bakery_0 24 rfl rfl
theorem dksX1_bakery_2 : cX1_bakery.data.toList.drop 48 = dktX1_bakery_2 := dk_seg dksX1_bakery_1 24 rfl rfl
theorem dX1_bakery_0 : decode cX1_bakery 0 = .ok (.iload_n 1, 1) := dk_27 (dk_at dksX1_bakery_0 0 rfl rfl)
theorem dX1_bakery_1 : decode cX1_bakery 1 = .ok (.iconst 0, 1) := dk_3 (dk_at dksX1_bakery_0 1 rfl rfl)
theorem dX1_bakery_2 : decode cX1_bakery 2 = .ok (.iconst 2, 1) := dk_5 (dk_at dksX1_bakery_0 2 rfl rfl)
theorem dX1_bakery_3 : decode cX1_bakery 3 = .ok (.invokestatic 143, 3) := dk_184 0 143 (dk_at dksX1_bakery_0 3 rfl rfl)
theorem dX1_bakery_6 : decode cX1_bakery 6 = .ok (.ifCond .eq 17, 3) := dk_153 0 17 (dk_at dksX1_bakery_0 6 rfl rfl)
theorem dX1_bakery_9 : decode cX1_bakery 9 = .ok (.iload_n 2, 1) := dk_28 (dk_at dksX1_bakery_0 9 rfl rfl)
theorem dX1_bakery_10 : decode cX1_bakery 10 = .ok (.iconst 1, 1) := dk_4 (dk_at dksX1_bakery_0 10 rfl rfl)
theorem dX1_bakery_11 : decode cX1_bakery 11 = .ok (.bipush 40, 2) := dk_16 40 (dk_at dksX1_bakery_0 11 rfl rfl)
theorem dX1_bakery_13 : decode cX1_bakery 13 = .ok (.invokestatic 143, 3) := dk_184 0 143 (dk_at dksX1_bakery_0 13 rfl rfl)
theorem dX1_bakery_16 : decode cX1_bakery 16 = .ok (.ifCond .eq 7, 3) := dk_153 0 7 (dk_at dksX1_bakery_0 16 rfl rfl)
theorem dX1_bakery_19 : decode cX1_bakery 19 = .ok (.iconst 1, 1) := dk_4 (dk_at dksX1_bakery_0 19 rfl rfl)
theorem dX1_bakery_20 : decode cX1_bakery 20 = .ok (.goto 4, 3) := dk_167 0 4 (dk_at dksX1_bakery_0 20 rfl rfl)
theorem dX1_bakery_23 : decode cX1_bakery 23 = .ok (.iconst 0, 1) := dk_3 (dk_at dksX1_bakery_0 23 rfl rfl)
theorem dX1_bakery_24 : decode cX1_bakery 24 = .ok (.invokestatic 173, 3) := dk_184 0 173 (dk_at dksX1_bakery_1 0 rfl rfl)
theorem dX1_bakery_27 : decode cX1_bakery 27 = .ok (.aload_n 0, 1) := dk_42 (dk_at dksX1_bakery_1 3 rfl rfl)
theorem dX1_bakery_28 : decode cX1_bakery 28 = .ok (.invokevirtual 176, 3) := dk_182 0 176 (dk_at dksX1_bakery_1 4 rfl rfl)
theorem dX1_bakery_31 : decode cX1_bakery 31 = .ok (.aload_n 0, 1) := dk_42 (dk_at dksX1_bakery_1 7 rfl rfl)
theorem dX1_bakery_32 : decode cX1_bakery 32 = .ok (.aload_n 0, 1) := dk_42 (dk_at dksX1_bakery_1 8 rfl rfl)
theorem dX1_bakery_33 : decode cX1_bakery 33 = .ok (.iload_n 1, 1) := dk_27 (dk_at dksX1_bakery_1 9 rfl rfl)
theorem dX1_bakery_34 : decode cX1_bakery 34 = .ok (.iload_n 2, 1) := dk_28 (dk_at dksX1_bakery_1 10 rfl rfl)
theorem dX1_bakery_35 : decode cX1_bakery 35 = .ok (.invokevirtual 179, 3) := dk_182 0 179 (dk_at dksX1_bakery_1 11 rfl rfl)
theorem dX1_bakery_38 : decode cX1_bakery 38 = .ok (.invokevirtual 183, 3) := dk_182 0 183 (dk_at dksX1_bakery_1 14 rfl rfl)
theorem dX1_bakery_41 : decode cX1_bakery 41 = .ok (.ireturn, 1) := dk_172 (dk_at dksX1_bakery_1 17 rfl rfl)
theorem dX1_bakery_42 : decode cX1_bakery 42 = .ok (.astore_n 3, 1) := dk_78 (dk_at dksX1_bakery_1 18 rfl rfl)
theorem dX1_bakery_43 : decode cX1_bakery 43 = .ok (.aload_n 0, 1) := dk_42 (dk_at dksX1_bakery_1 19 rfl rfl)
theorem dX1_bakery_44 : decode cX1_bakery 44 = .ok (.aload_n 3, 1) := dk_45 (dk_at dksX1_bakery_1 20 rfl rfl)
theorem dX1_bakery_45 : decode cX1_bakery 45 = .ok (.invokevirtual 186, 3) := dk_182 0 186 (dk_at dksX1_bakery_1 21 rfl rfl)
theorem dX1_bakery_48 : decode cX1_bakery 48 = .ok (.athrow, 1) := dk_191 (dk_at dksX1_bakery_2 0 rfl rfl)
abbrev cX1_begins : ByteArray := prog_1_method_9_code
def yX1_begins : MethodName := ⟨RX1, "begins", "()V"⟩
def dkwX1_begins_0 : List UInt8 := [42, 180, 0, 69, 42, 180, 0, 65, 182, 0, 105, 177]
abbrev dktX1_begins_0 : List UInt8 := dkwX1_begins_0 ++ []
theorem dksX1_begins_0 : cX1_begins.data.toList.drop 0 = dktX1_begins_0 := by decide +kernel
theorem dX1_begins_0 : decode cX1_begins 0 = .ok (.aload_n 0, 1) := dk_42 (dk_at dksX1_begins_0 0 rfl rfl)
theorem dX1_begins_1 : decode cX1_begins 1 = .ok (.getfield 69, 3) := dk_180 0 69 (dk_at dksX1_begins_0 1 rfl rfl)
theorem dX1_begins_4 : decode cX1_begins 4 = .ok (.aload_n 0, 1) := dk_42 (dk_at dksX1_begins_0 4 rfl rfl)
theorem dX1_begins_5 : decode cX1_begins 5 = .ok (.getfield 65, 3) := dk_180 0 65 (dk_at dksX1_begins_0 5 rfl rfl)
theorem dX1_begins_8 : decode cX1_begins 8 = .ok (.invokevirtual 105, 3) := dk_182 0 105 (dk_at dksX1_begins_0 8 rfl rfl)
theorem dX1_begins_11 : decode cX1_begins 11 = .ok (.return_, 1) := dk_177 (dk_at dksX1_begins_0 11 rfl rfl)
abbrev cX1_doBakery : ByteArray := prog_1_method_16_code
def yX1_doBakery : MethodName := ⟨RX1, "doBakery", "(II)I"⟩
def dkwX1_doBakery_3 : List UInt8 := [42, 180, 0, 65, 180, 0, 147, 182, 0, 169, 62, 42, 180, 0, 65, 180, 0, 150, 4, 100, 172]
abbrev dktX1_doBakery_3 : List UInt8 := dkwX1_doBakery_3 ++ []
def dkwX1_doBakery_2 : List UInt8 := [192, 0, 161, 28, 182, 0, 163, 42, 180, 0, 65, 89, 180, 0, 150, 4, 96, 181, 0, 150, 42, 180, 0, 65]
abbrev dktX1_doBakery_2 : List UInt8 := dkwX1_doBakery_2 ++ dktX1_doBakery_3
def dkwX1_doBakery_1 : List UInt8 := [180, 0, 65, 180, 0, 139, 42, 180, 0, 65, 180, 0, 150, 50, 42, 180, 0, 38, 27, 185, 0, 157, 2, 0]
abbrev dktX1_doBakery_1 : List UInt8 := dkwX1_doBakery_1 ++ dktX1_doBakery_2
def dkwX1_doBakery_0 : List UInt8 := [42, 180, 0, 65, 180, 0, 150, 16, 6, 162, 0, 7, 4, 167, 0, 4, 3, 4, 16, 6, 184, 0, 153, 42]
abbrev dktX1_doBakery_0 : List UInt8 := dkwX1_doBakery_0 ++ dktX1_doBakery_1
theorem dksX1_doBakery_0 : cX1_doBakery.data.toList.drop 0 = dktX1_doBakery_0 := by decide +kernel
theorem dksX1_doBakery_1 : cX1_doBakery.data.toList.drop 24 = dktX1_doBakery_1 := dk_seg dksX1_doBakery_0 24 rfl rfl
theorem dksX1_doBakery_2 : cX1_doBakery.data.toList.drop 48 = dktX1_doBakery_2 := dk_seg dksX1_doBakery_1 24 rfl rfl
theorem dksX1_doBakery_3 : cX1_doBakery.data.toList.drop 72 = dktX1_doBakery_3 := dk_seg dksX1_doBakery_2 24 rfl rfl
theorem dX1_doBakery_0 : decode cX1_doBakery 0 = .ok (.aload_n 0, 1) := dk_42 (dk_at dksX1_doBakery_0 0 rfl rfl)
theorem dX1_doBakery_1 : decode cX1_doBakery 1 = .ok (.getfield 65, 3) := dk_180 0 65 (dk_at dksX1_doBakery_0 1 rfl rfl)
theorem dX1_doBakery_4 : decode cX1_doBakery 4 = .ok (.getfield 150, 3) := dk_180 0 150 (dk_at dksX1_doBakery_0 4 rfl rfl)
theorem dX1_doBakery_7 : decode cX1_doBakery 7 = .ok (.bipush 6, 2) := dk_16 6 (dk_at dksX1_doBakery_0 7 rfl rfl)
theorem dX1_doBakery_9 : decode cX1_doBakery 9 = .ok (.if_icmp .ge 7, 3) := dk_162 0 7 (dk_at dksX1_doBakery_0 9 rfl rfl)
theorem dX1_doBakery_12 : decode cX1_doBakery 12 = .ok (.iconst 1, 1) := dk_4 (dk_at dksX1_doBakery_0 12 rfl rfl)
theorem dX1_doBakery_13 : decode cX1_doBakery 13 = .ok (.goto 4, 3) := dk_167 0 4 (dk_at dksX1_doBakery_0 13 rfl rfl)
theorem dX1_doBakery_16 : decode cX1_doBakery 16 = .ok (.iconst 0, 1) := dk_3 (dk_at dksX1_doBakery_0 16 rfl rfl)
theorem dX1_doBakery_17 : decode cX1_doBakery 17 = .ok (.iconst 1, 1) := dk_4 (dk_at dksX1_doBakery_0 17 rfl rfl)
theorem dX1_doBakery_18 : decode cX1_doBakery 18 = .ok (.bipush 6, 2) := dk_16 6 (dk_at dksX1_doBakery_0 18 rfl rfl)
theorem dX1_doBakery_20 : decode cX1_doBakery 20 = .ok (.invokestatic 153, 3) := dk_184 0 153 (dk_at dksX1_doBakery_0 20 rfl rfl)
theorem dX1_doBakery_23 : decode cX1_doBakery 23 = .ok (.aload_n 0, 1) := dk_42 (dk_at dksX1_doBakery_0 23 rfl rfl)
theorem dX1_doBakery_24 : decode cX1_doBakery 24 = .ok (.getfield 65, 3) := dk_180 0 65 (dk_at dksX1_doBakery_1 0 rfl rfl)
theorem dX1_doBakery_27 : decode cX1_doBakery 27 = .ok (.getfield 139, 3) := dk_180 0 139 (dk_at dksX1_doBakery_1 3 rfl rfl)
theorem dX1_doBakery_30 : decode cX1_doBakery 30 = .ok (.aload_n 0, 1) := dk_42 (dk_at dksX1_doBakery_1 6 rfl rfl)
theorem dX1_doBakery_31 : decode cX1_doBakery 31 = .ok (.getfield 65, 3) := dk_180 0 65 (dk_at dksX1_doBakery_1 7 rfl rfl)
theorem dX1_doBakery_34 : decode cX1_doBakery 34 = .ok (.getfield 150, 3) := dk_180 0 150 (dk_at dksX1_doBakery_1 10 rfl rfl)
theorem dX1_doBakery_37 : decode cX1_doBakery 37 = .ok (.aaload, 1) := dk_50 (dk_at dksX1_doBakery_1 13 rfl rfl)
theorem dX1_doBakery_38 : decode cX1_doBakery 38 = .ok (.aload_n 0, 1) := dk_42 (dk_at dksX1_doBakery_1 14 rfl rfl)
theorem dX1_doBakery_39 : decode cX1_doBakery 39 = .ok (.getfield 38, 3) := dk_180 0 38 (dk_at dksX1_doBakery_1 15 rfl rfl)
theorem dX1_doBakery_42 : decode cX1_doBakery 42 = .ok (.iload_n 1, 1) := dk_27 (dk_at dksX1_doBakery_1 18 rfl rfl)
theorem dX1_doBakery_43 : decode cX1_doBakery 43 = .ok (.invokeinterface 157 2, 5) := by decide +kernel
theorem dX1_doBakery_48 : decode cX1_doBakery 48 = .ok (.checkcast 161, 3) := dk_192 0 161 (dk_at dksX1_doBakery_2 0 rfl rfl)
theorem dX1_doBakery_51 : decode cX1_doBakery 51 = .ok (.iload_n 2, 1) := dk_28 (dk_at dksX1_doBakery_2 3 rfl rfl)
theorem dX1_doBakery_52 : decode cX1_doBakery 52 = .ok (.invokevirtual 163, 3) := dk_182 0 163 (dk_at dksX1_doBakery_2 4 rfl rfl)
theorem dX1_doBakery_55 : decode cX1_doBakery 55 = .ok (.aload_n 0, 1) := dk_42 (dk_at dksX1_doBakery_2 7 rfl rfl)
theorem dX1_doBakery_56 : decode cX1_doBakery 56 = .ok (.getfield 65, 3) := dk_180 0 65 (dk_at dksX1_doBakery_2 8 rfl rfl)
theorem dX1_doBakery_59 : decode cX1_doBakery 59 = .ok (.dup, 1) := dk_89 (dk_at dksX1_doBakery_2 11 rfl rfl)
theorem dX1_doBakery_60 : decode cX1_doBakery 60 = .ok (.getfield 150, 3) := dk_180 0 150 (dk_at dksX1_doBakery_2 12 rfl rfl)
theorem dX1_doBakery_63 : decode cX1_doBakery 63 = .ok (.iconst 1, 1) := dk_4 (dk_at dksX1_doBakery_2 15 rfl rfl)
theorem dX1_doBakery_64 : decode cX1_doBakery 64 = .ok (.iadd, 1) := dk_96 (dk_at dksX1_doBakery_2 16 rfl rfl)
theorem dX1_doBakery_65 : decode cX1_doBakery 65 = .ok (.putfield 150, 3) := dk_181 0 150 (dk_at dksX1_doBakery_2 17 rfl rfl)
theorem dX1_doBakery_68 : decode cX1_doBakery 68 = .ok (.aload_n 0, 1) := dk_42 (dk_at dksX1_doBakery_2 20 rfl rfl)
theorem dX1_doBakery_69 : decode cX1_doBakery 69 = .ok (.getfield 65, 3) := dk_180 0 65 (dk_at dksX1_doBakery_2 21 rfl rfl)
theorem dX1_doBakery_72 : decode cX1_doBakery 72 = .ok (.aload_n 0, 1) := dk_42 (dk_at dksX1_doBakery_3 0 rfl rfl)
theorem dX1_doBakery_73 : decode cX1_doBakery 73 = .ok (.getfield 65, 3) := dk_180 0 65 (dk_at dksX1_doBakery_3 1 rfl rfl)
theorem dX1_doBakery_76 : decode cX1_doBakery 76 = .ok (.getfield 147, 3) := dk_180 0 147 (dk_at dksX1_doBakery_3 4 rfl rfl)
theorem dX1_doBakery_79 : decode cX1_doBakery 79 = .ok (.invokevirtual 169, 3) := dk_182 0 169 (dk_at dksX1_doBakery_3 7 rfl rfl)
theorem dX1_doBakery_82 : decode cX1_doBakery 82 = .ok (.istore_n 3, 1) := dk_62 (dk_at dksX1_doBakery_3 10 rfl rfl)
theorem dX1_doBakery_83 : decode cX1_doBakery 83 = .ok (.aload_n 0, 1) := dk_42 (dk_at dksX1_doBakery_3 11 rfl rfl)
theorem dX1_doBakery_84 : decode cX1_doBakery 84 = .ok (.getfield 65, 3) := dk_180 0 65 (dk_at dksX1_doBakery_3 12 rfl rfl)
theorem dX1_doBakery_87 : decode cX1_doBakery 87 = .ok (.getfield 150, 3) := dk_180 0 150 (dk_at dksX1_doBakery_3 15 rfl rfl)
theorem dX1_doBakery_90 : decode cX1_doBakery 90 = .ok (.iconst 1, 1) := dk_4 (dk_at dksX1_doBakery_3 18 rfl rfl)
theorem dX1_doBakery_91 : decode cX1_doBakery 91 = .ok (.isub, 1) := dk_100 (dk_at dksX1_doBakery_3 19 rfl rfl)
theorem dX1_doBakery_92 : decode cX1_doBakery 92 = .ok (.ireturn, 1) := dk_172 (dk_at dksX1_doBakery_3 20 rfl rfl)
abbrev cX1_allow : ByteArray := prog_1_method_3_code
def yX1_allow : MethodName := ⟨RX1, "allow", "(ZII)V"⟩
def dkwX1_allow_0 : List UInt8 := [26, 154, 0, 13, 187, 0, 1, 89, 27, 28, 183, 0, 3, 191, 177]
abbrev dktX1_allow_0 : List UInt8 := dkwX1_allow_0 ++ []
theorem dksX1_allow_0 : cX1_allow.data.toList.drop 0 = dktX1_allow_0 := by decide +kernel
theorem dX1_allow_0 : decode cX1_allow 0 = .ok (.iload_n 0, 1) := dk_26 (dk_at dksX1_allow_0 0 rfl rfl)
theorem dX1_allow_1 : decode cX1_allow 1 = .ok (.ifCond .ne 13, 3) := dk_154 0 13 (dk_at dksX1_allow_0 1 rfl rfl)
theorem dX1_allow_4 : decode cX1_allow 4 = .ok (.new 1, 3) := dk_187 0 1 (dk_at dksX1_allow_0 4 rfl rfl)
theorem dX1_allow_7 : decode cX1_allow 7 = .ok (.dup, 1) := dk_89 (dk_at dksX1_allow_0 7 rfl rfl)
theorem dX1_allow_8 : decode cX1_allow 8 = .ok (.iload_n 1, 1) := dk_27 (dk_at dksX1_allow_0 8 rfl rfl)
theorem dX1_allow_9 : decode cX1_allow 9 = .ok (.iload_n 2, 1) := dk_28 (dk_at dksX1_allow_0 9 rfl rfl)
theorem dX1_allow_10 : decode cX1_allow 10 = .ok (.invokespecial 3, 3) := dk_183 0 3 (dk_at dksX1_allow_0 10 rfl rfl)
theorem dX1_allow_13 : decode cX1_allow 13 = .ok (.athrow, 1) := dk_191 (dk_at dksX1_allow_0 13 rfl rfl)
theorem dX1_allow_14 : decode cX1_allow 14 = .ok (.return_, 1) := dk_177 (dk_at dksX1_allow_0 14 rfl rfl)
abbrev cX1_changed : ByteArray := prog_1_method_10_code
def yX1_changed : MethodName := ⟨RX1, "changed", "(I)I"⟩
def dkwX1_changed_3 : List UInt8 := [180, 0, 112, 50, 42, 180, 0, 69, 182, 0, 105, 42, 89, 180, 0, 112, 4, 96, 181, 0, 112, 27, 172]
abbrev dktX1_changed_3 : List UInt8 := dkwX1_changed_3 ++ []
def dkwX1_changed_2 : List UInt8 := [180, 0, 78, 16, 7, 44, 83, 42, 89, 180, 0, 112, 4, 100, 181, 0, 112, 42, 180, 0, 78, 42]
abbrev dktX1_changed_2 : List UInt8 := dkwX1_changed_2 ++ dktX1_changed_3
def dkwX1_changed_1 : List UInt8 := [180, 0, 78, 3, 50, 77, 42, 180, 0, 78, 4, 42, 180, 0, 78, 3, 16, 7, 184, 0, 115, 42]
abbrev dktX1_changed_1 : List UInt8 := dkwX1_changed_1 ++ dktX1_changed_2
def dkwX1_changed_0 : List UInt8 := [42, 180, 0, 65, 89, 180, 0, 109, 4, 96, 181, 0, 109, 42, 180, 0, 112, 16, 8, 160, 0, 43, 42]
abbrev dktX1_changed_0 : List UInt8 := dkwX1_changed_0 ++ dktX1_changed_1
theorem dksX1_changed_0 : cX1_changed.data.toList.drop 0 = dktX1_changed_0 := by decide +kernel
theorem dksX1_changed_1 : cX1_changed.data.toList.drop 23 = dktX1_changed_1 := dk_seg dksX1_changed_0 23 rfl rfl
theorem dksX1_changed_2 : cX1_changed.data.toList.drop 45 = dktX1_changed_2 := dk_seg dksX1_changed_1 22 rfl rfl
theorem dksX1_changed_3 : cX1_changed.data.toList.drop 67 = dktX1_changed_3 := dk_seg dksX1_changed_2 22 rfl rfl
theorem dX1_changed_0 : decode cX1_changed 0 = .ok (.aload_n 0, 1) := dk_42 (dk_at dksX1_changed_0 0 rfl rfl)
theorem dX1_changed_1 : decode cX1_changed 1 = .ok (.getfield 65, 3) := dk_180 0 65 (dk_at dksX1_changed_0 1 rfl rfl)
theorem dX1_changed_4 : decode cX1_changed 4 = .ok (.dup, 1) := dk_89 (dk_at dksX1_changed_0 4 rfl rfl)
theorem dX1_changed_5 : decode cX1_changed 5 = .ok (.getfield 109, 3) := dk_180 0 109 (dk_at dksX1_changed_0 5 rfl rfl)
theorem dX1_changed_8 : decode cX1_changed 8 = .ok (.iconst 1, 1) := dk_4 (dk_at dksX1_changed_0 8 rfl rfl)
theorem dX1_changed_9 : decode cX1_changed 9 = .ok (.iadd, 1) := dk_96 (dk_at dksX1_changed_0 9 rfl rfl)
theorem dX1_changed_10 : decode cX1_changed 10 = .ok (.putfield 109, 3) := dk_181 0 109 (dk_at dksX1_changed_0 10 rfl rfl)
theorem dX1_changed_13 : decode cX1_changed 13 = .ok (.aload_n 0, 1) := dk_42 (dk_at dksX1_changed_0 13 rfl rfl)
theorem dX1_changed_14 : decode cX1_changed 14 = .ok (.getfield 112, 3) := dk_180 0 112 (dk_at dksX1_changed_0 14 rfl rfl)
theorem dX1_changed_17 : decode cX1_changed 17 = .ok (.bipush 8, 2) := dk_16 8 (dk_at dksX1_changed_0 17 rfl rfl)
theorem dX1_changed_19 : decode cX1_changed 19 = .ok (.if_icmp .ne 43, 3) := dk_160 0 43 (dk_at dksX1_changed_0 19 rfl rfl)
theorem dX1_changed_22 : decode cX1_changed 22 = .ok (.aload_n 0, 1) := dk_42 (dk_at dksX1_changed_0 22 rfl rfl)
theorem dX1_changed_23 : decode cX1_changed 23 = .ok (.getfield 78, 3) := dk_180 0 78 (dk_at dksX1_changed_1 0 rfl rfl)
theorem dX1_changed_26 : decode cX1_changed 26 = .ok (.iconst 0, 1) := dk_3 (dk_at dksX1_changed_1 3 rfl rfl)
theorem dX1_changed_27 : decode cX1_changed 27 = .ok (.aaload, 1) := dk_50 (dk_at dksX1_changed_1 4 rfl rfl)
theorem dX1_changed_28 : decode cX1_changed 28 = .ok (.astore_n 2, 1) := dk_77 (dk_at dksX1_changed_1 5 rfl rfl)
theorem dX1_changed_29 : decode cX1_changed 29 = .ok (.aload_n 0, 1) := dk_42 (dk_at dksX1_changed_1 6 rfl rfl)
theorem dX1_changed_30 : decode cX1_changed 30 = .ok (.getfield 78, 3) := dk_180 0 78 (dk_at dksX1_changed_1 7 rfl rfl)
theorem dX1_changed_33 : decode cX1_changed 33 = .ok (.iconst 1, 1) := dk_4 (dk_at dksX1_changed_1 10 rfl rfl)
theorem dX1_changed_34 : decode cX1_changed 34 = .ok (.aload_n 0, 1) := dk_42 (dk_at dksX1_changed_1 11 rfl rfl)
theorem dX1_changed_35 : decode cX1_changed 35 = .ok (.getfield 78, 3) := dk_180 0 78 (dk_at dksX1_changed_1 12 rfl rfl)
theorem dX1_changed_38 : decode cX1_changed 38 = .ok (.iconst 0, 1) := dk_3 (dk_at dksX1_changed_1 15 rfl rfl)
theorem dX1_changed_39 : decode cX1_changed 39 = .ok (.bipush 7, 2) := dk_16 7 (dk_at dksX1_changed_1 16 rfl rfl)
theorem dX1_changed_41 : decode cX1_changed 41 = .ok (.invokestatic 115, 3) := dk_184 0 115 (dk_at dksX1_changed_1 18 rfl rfl)
theorem dX1_changed_44 : decode cX1_changed 44 = .ok (.aload_n 0, 1) := dk_42 (dk_at dksX1_changed_1 21 rfl rfl)
theorem dX1_changed_45 : decode cX1_changed 45 = .ok (.getfield 78, 3) := dk_180 0 78 (dk_at dksX1_changed_2 0 rfl rfl)
theorem dX1_changed_48 : decode cX1_changed 48 = .ok (.bipush 7, 2) := dk_16 7 (dk_at dksX1_changed_2 3 rfl rfl)
theorem dX1_changed_50 : decode cX1_changed 50 = .ok (.aload_n 2, 1) := dk_44 (dk_at dksX1_changed_2 5 rfl rfl)
theorem dX1_changed_51 : decode cX1_changed 51 = .ok (.aastore, 1) := dk_83 (dk_at dksX1_changed_2 6 rfl rfl)
theorem dX1_changed_52 : decode cX1_changed 52 = .ok (.aload_n 0, 1) := dk_42 (dk_at dksX1_changed_2 7 rfl rfl)
theorem dX1_changed_53 : decode cX1_changed 53 = .ok (.dup, 1) := dk_89 (dk_at dksX1_changed_2 8 rfl rfl)
theorem dX1_changed_54 : decode cX1_changed 54 = .ok (.getfield 112, 3) := dk_180 0 112 (dk_at dksX1_changed_2 9 rfl rfl)
theorem dX1_changed_57 : decode cX1_changed 57 = .ok (.iconst 1, 1) := dk_4 (dk_at dksX1_changed_2 12 rfl rfl)
theorem dX1_changed_58 : decode cX1_changed 58 = .ok (.isub, 1) := dk_100 (dk_at dksX1_changed_2 13 rfl rfl)
theorem dX1_changed_59 : decode cX1_changed 59 = .ok (.putfield 112, 3) := dk_181 0 112 (dk_at dksX1_changed_2 14 rfl rfl)
theorem dX1_changed_62 : decode cX1_changed 62 = .ok (.aload_n 0, 1) := dk_42 (dk_at dksX1_changed_2 17 rfl rfl)
theorem dX1_changed_63 : decode cX1_changed 63 = .ok (.getfield 78, 3) := dk_180 0 78 (dk_at dksX1_changed_2 18 rfl rfl)
theorem dX1_changed_66 : decode cX1_changed 66 = .ok (.aload_n 0, 1) := dk_42 (dk_at dksX1_changed_2 21 rfl rfl)
theorem dX1_changed_67 : decode cX1_changed 67 = .ok (.getfield 112, 3) := dk_180 0 112 (dk_at dksX1_changed_3 0 rfl rfl)
theorem dX1_changed_70 : decode cX1_changed 70 = .ok (.aaload, 1) := dk_50 (dk_at dksX1_changed_3 3 rfl rfl)
theorem dX1_changed_71 : decode cX1_changed 71 = .ok (.aload_n 0, 1) := dk_42 (dk_at dksX1_changed_3 4 rfl rfl)
theorem dX1_changed_72 : decode cX1_changed 72 = .ok (.getfield 69, 3) := dk_180 0 69 (dk_at dksX1_changed_3 5 rfl rfl)
theorem dX1_changed_75 : decode cX1_changed 75 = .ok (.invokevirtual 105, 3) := dk_182 0 105 (dk_at dksX1_changed_3 8 rfl rfl)
theorem dX1_changed_78 : decode cX1_changed 78 = .ok (.aload_n 0, 1) := dk_42 (dk_at dksX1_changed_3 11 rfl rfl)
theorem dX1_changed_79 : decode cX1_changed 79 = .ok (.dup, 1) := dk_89 (dk_at dksX1_changed_3 12 rfl rfl)
theorem dX1_changed_80 : decode cX1_changed 80 = .ok (.getfield 112, 3) := dk_180 0 112 (dk_at dksX1_changed_3 13 rfl rfl)
theorem dX1_changed_83 : decode cX1_changed 83 = .ok (.iconst 1, 1) := dk_4 (dk_at dksX1_changed_3 16 rfl rfl)
theorem dX1_changed_84 : decode cX1_changed 84 = .ok (.iadd, 1) := dk_96 (dk_at dksX1_changed_3 17 rfl rfl)
theorem dX1_changed_85 : decode cX1_changed 85 = .ok (.putfield 112, 3) := dk_181 0 112 (dk_at dksX1_changed_3 18 rfl rfl)
theorem dX1_changed_88 : decode cX1_changed 88 = .ok (.iload_n 1, 1) := dk_27 (dk_at dksX1_changed_3 21 rfl rfl)
theorem dX1_changed_89 : decode cX1_changed 89 = .ok (.ireturn, 1) := dk_172 (dk_at dksX1_changed_3 22 rfl rfl)
abbrev cX1_refusal : ByteArray := prog_1_method_11_code
def yX1_refusal : MethodName := ⟨RX1, "refusal", "(LBakeryRing$Refused;)Ljava/lang/UnsupportedOperationException;"⟩
def dkwX1_refusal_0 : List UInt8 := [42, 180, 0, 65, 42, 180, 0, 69, 182, 0, 105, 42, 43, 181, 0, 121, 187, 0, 125, 89, 183, 0, 127, 176]
abbrev dktX1_refusal_0 : List UInt8 := dkwX1_refusal_0 ++ []
theorem dksX1_refusal_0 : cX1_refusal.data.toList.drop 0 = dktX1_refusal_0 := by decide +kernel
theorem dX1_refusal_0 : decode cX1_refusal 0 = .ok (.aload_n 0, 1) := dk_42 (dk_at dksX1_refusal_0 0 rfl rfl)
theorem dX1_refusal_1 : decode cX1_refusal 1 = .ok (.getfield 65, 3) := dk_180 0 65 (dk_at dksX1_refusal_0 1 rfl rfl)
theorem dX1_refusal_4 : decode cX1_refusal 4 = .ok (.aload_n 0, 1) := dk_42 (dk_at dksX1_refusal_0 4 rfl rfl)
theorem dX1_refusal_5 : decode cX1_refusal 5 = .ok (.getfield 69, 3) := dk_180 0 69 (dk_at dksX1_refusal_0 5 rfl rfl)
theorem dX1_refusal_8 : decode cX1_refusal 8 = .ok (.invokevirtual 105, 3) := dk_182 0 105 (dk_at dksX1_refusal_0 8 rfl rfl)
theorem dX1_refusal_11 : decode cX1_refusal 11 = .ok (.aload_n 0, 1) := dk_42 (dk_at dksX1_refusal_0 11 rfl rfl)
theorem dX1_refusal_12 : decode cX1_refusal 12 = .ok (.aload_n 1, 1) := dk_43 (dk_at dksX1_refusal_0 12 rfl rfl)
theorem dX1_refusal_13 : decode cX1_refusal 13 = .ok (.putfield 121, 3) := dk_181 0 121 (dk_at dksX1_refusal_0 13 rfl rfl)
theorem dX1_refusal_16 : decode cX1_refusal 16 = .ok (.new 125, 3) := dk_187 0 125 (dk_at dksX1_refusal_0 16 rfl rfl)
theorem dX1_refusal_19 : decode cX1_refusal 19 = .ok (.dup, 1) := dk_89 (dk_at dksX1_refusal_0 19 rfl rfl)
theorem dX1_refusal_20 : decode cX1_refusal 20 = .ok (.invokespecial 127, 3) := dk_183 0 127 (dk_at dksX1_refusal_0 20 rfl rfl)
theorem dX1_refusal_23 : decode cX1_refusal 23 = .ok (.areturn, 1) := dk_176 (dk_at dksX1_refusal_0 23 rfl rfl)
abbrev cX1_sign : ByteArray := prog_1_method_19_code
def yX1_sign : MethodName := ⟨RX1, "sign", "(II)I"⟩
def dkwX1_sign_0 : List UInt8 := [42, 182, 0, 176, 42, 42, 27, 28, 182, 0, 215, 182, 0, 183, 172, 78, 42, 45, 182, 0, 186, 191]
abbrev dktX1_sign_0 : List UInt8 := dkwX1_sign_0 ++ []
theorem dksX1_sign_0 : cX1_sign.data.toList.drop 0 = dktX1_sign_0 := by decide +kernel
theorem dX1_sign_0 : decode cX1_sign 0 = .ok (.aload_n 0, 1) := dk_42 (dk_at dksX1_sign_0 0 rfl rfl)
theorem dX1_sign_1 : decode cX1_sign 1 = .ok (.invokevirtual 176, 3) := dk_182 0 176 (dk_at dksX1_sign_0 1 rfl rfl)
theorem dX1_sign_4 : decode cX1_sign 4 = .ok (.aload_n 0, 1) := dk_42 (dk_at dksX1_sign_0 4 rfl rfl)
theorem dX1_sign_5 : decode cX1_sign 5 = .ok (.aload_n 0, 1) := dk_42 (dk_at dksX1_sign_0 5 rfl rfl)
theorem dX1_sign_6 : decode cX1_sign 6 = .ok (.iload_n 1, 1) := dk_27 (dk_at dksX1_sign_0 6 rfl rfl)
theorem dX1_sign_7 : decode cX1_sign 7 = .ok (.iload_n 2, 1) := dk_28 (dk_at dksX1_sign_0 7 rfl rfl)
theorem dX1_sign_8 : decode cX1_sign 8 = .ok (.invokevirtual 215, 3) := dk_182 0 215 (dk_at dksX1_sign_0 8 rfl rfl)
theorem dX1_sign_11 : decode cX1_sign 11 = .ok (.invokevirtual 183, 3) := dk_182 0 183 (dk_at dksX1_sign_0 11 rfl rfl)
theorem dX1_sign_14 : decode cX1_sign 14 = .ok (.ireturn, 1) := dk_172 (dk_at dksX1_sign_0 14 rfl rfl)
theorem dX1_sign_15 : decode cX1_sign 15 = .ok (.astore_n 3, 1) := dk_78 (dk_at dksX1_sign_0 15 rfl rfl)
theorem dX1_sign_16 : decode cX1_sign 16 = .ok (.aload_n 0, 1) := dk_42 (dk_at dksX1_sign_0 16 rfl rfl)
theorem dX1_sign_17 : decode cX1_sign 17 = .ok (.aload_n 3, 1) := dk_45 (dk_at dksX1_sign_0 17 rfl rfl)
theorem dX1_sign_18 : decode cX1_sign 18 = .ok (.invokevirtual 186, 3) := dk_182 0 186 (dk_at dksX1_sign_0 18 rfl rfl)
theorem dX1_sign_21 : decode cX1_sign 21 = .ok (.athrow, 1) := dk_191 (dk_at dksX1_sign_0 21 rfl rfl)
abbrev cX1_doSign : ByteArray := prog_1_method_18_code
def yX1_doSign : MethodName := ⟨RX1, "doSign", "(II)I"⟩
def dkwX1_doSign_6 : List UInt8 := [182, 0, 169, 62, 42, 180, 0, 65, 27, 182, 0, 209, 172]
abbrev dktX1_doSign_6 : List UInt8 := dkwX1_doSign_6 ++ []
def dkwX1_doSign_5 : List UInt8 := [182, 0, 212, 42, 180, 0, 65, 180, 0, 201, 28, 27, 79, 42, 180, 0, 65, 42, 180, 0, 65, 180, 0, 147]
abbrev dktX1_doSign_5 : List UInt8 := dkwX1_doSign_5 ++ dktX1_doSign_6
def dkwX1_doSign_4 : List UInt8 := [162, 0, 7, 4, 167, 0, 4, 3, 4, 16, 8, 184, 0, 153, 42, 180, 0, 65, 180, 0, 193, 28]
abbrev dktX1_doSign_4 : List UInt8 := dkwX1_doSign_4 ++ dktX1_doSign_5
def dkwX1_doSign_3 : List UInt8 := [162, 0, 7, 4, 167, 0, 4, 3, 4, 16, 24, 184, 0, 153, 42, 180, 0, 65, 27, 182, 0, 209, 16, 8]
abbrev dktX1_doSign_3 : List UInt8 := dkwX1_doSign_3 ++ dktX1_doSign_4
def dkwX1_doSign_2 : List UInt8 := [180, 0, 65, 180, 0, 201, 28, 46, 184, 0, 153, 42, 180, 0, 65, 180, 0, 193, 182, 0, 205, 16, 24]
abbrev dktX1_doSign_2 : List UInt8 := dkwX1_doSign_2 ++ dktX1_doSign_3
def dkwX1_doSign_1 : List UInt8 := [184, 0, 135, 42, 180, 0, 65, 180, 0, 193, 28, 182, 0, 197, 154, 0, 7, 4, 167, 0, 4, 3, 5, 42]
abbrev dktX1_doSign_1 : List UInt8 := dkwX1_doSign_1 ++ dktX1_doSign_2
def dkwX1_doSign_0 : List UInt8 := [42, 180, 0, 65, 27, 182, 0, 131, 153, 0, 14, 28, 184, 0, 190, 153, 0, 7, 4, 167, 0, 4, 3]
abbrev dktX1_doSign_0 : List UInt8 := dkwX1_doSign_0 ++ dktX1_doSign_1
theorem dksX1_doSign_0 : cX1_doSign.data.toList.drop 0 = dktX1_doSign_0 := by decide +kernel
theorem dksX1_doSign_1 : cX1_doSign.data.toList.drop 23 = dktX1_doSign_1 := dk_seg dksX1_doSign_0 23 rfl rfl
theorem dksX1_doSign_2 : cX1_doSign.data.toList.drop 47 = dktX1_doSign_2 := dk_seg dksX1_doSign_1 24 rfl rfl
theorem dksX1_doSign_3 : cX1_doSign.data.toList.drop 70 = dktX1_doSign_3 := dk_seg dksX1_doSign_2 23 rfl rfl
theorem dksX1_doSign_4 : cX1_doSign.data.toList.drop 94 = dktX1_doSign_4 := dk_seg dksX1_doSign_3 24 rfl rfl
theorem dksX1_doSign_5 : cX1_doSign.data.toList.drop 116 = dktX1_doSign_5 := dk_seg dksX1_doSign_4 22 rfl rfl
theorem dksX1_doSign_6 : cX1_doSign.data.toList.drop 140 = dktX1_doSign_6 := dk_seg dksX1_doSign_5 24 rfl rfl
theorem dX1_doSign_0 : decode cX1_doSign 0 = .ok (.aload_n 0, 1) := dk_42 (dk_at dksX1_doSign_0 0 rfl rfl)
theorem dX1_doSign_1 : decode cX1_doSign 1 = .ok (.getfield 65, 3) := dk_180 0 65 (dk_at dksX1_doSign_0 1 rfl rfl)
theorem dX1_doSign_4 : decode cX1_doSign 4 = .ok (.iload_n 1, 1) := dk_27 (dk_at dksX1_doSign_0 4 rfl rfl)
theorem dX1_doSign_5 : decode cX1_doSign 5 = .ok (.invokevirtual 131, 3) := dk_182 0 131 (dk_at dksX1_doSign_0 5 rfl rfl)
theorem dX1_doSign_8 : decode cX1_doSign 8 = .ok (.ifCond .eq 14, 3) := dk_153 0 14 (dk_at dksX1_doSign_0 8 rfl rfl)
theorem dX1_doSign_11 : decode cX1_doSign 11 = .ok (.iload_n 2, 1) := dk_28 (dk_at dksX1_doSign_0 11 rfl rfl)
theorem dX1_doSign_12 : decode cX1_doSign 12 = .ok (.invokestatic 190, 3) := dk_184 0 190 (dk_at dksX1_doSign_0 12 rfl rfl)
theorem dX1_doSign_15 : decode cX1_doSign 15 = .ok (.ifCond .eq 7, 3) := dk_153 0 7 (dk_at dksX1_doSign_0 15 rfl rfl)
theorem dX1_doSign_18 : decode cX1_doSign 18 = .ok (.iconst 1, 1) := dk_4 (dk_at dksX1_doSign_0 18 rfl rfl)
theorem dX1_doSign_19 : decode cX1_doSign 19 = .ok (.goto 4, 3) := dk_167 0 4 (dk_at dksX1_doSign_0 19 rfl rfl)
theorem dX1_doSign_22 : decode cX1_doSign 22 = .ok (.iconst 0, 1) := dk_3 (dk_at dksX1_doSign_0 22 rfl rfl)
theorem dX1_doSign_23 : decode cX1_doSign 23 = .ok (.invokestatic 135, 3) := dk_184 0 135 (dk_at dksX1_doSign_1 0 rfl rfl)
theorem dX1_doSign_26 : decode cX1_doSign 26 = .ok (.aload_n 0, 1) := dk_42 (dk_at dksX1_doSign_1 3 rfl rfl)
theorem dX1_doSign_27 : decode cX1_doSign 27 = .ok (.getfield 65, 3) := dk_180 0 65 (dk_at dksX1_doSign_1 4 rfl rfl)
theorem dX1_doSign_30 : decode cX1_doSign 30 = .ok (.getfield 193, 3) := dk_180 0 193 (dk_at dksX1_doSign_1 7 rfl rfl)
theorem dX1_doSign_33 : decode cX1_doSign 33 = .ok (.iload_n 2, 1) := dk_28 (dk_at dksX1_doSign_1 10 rfl rfl)
theorem dX1_doSign_34 : decode cX1_doSign 34 = .ok (.invokevirtual 197, 3) := dk_182 0 197 (dk_at dksX1_doSign_1 11 rfl rfl)
theorem dX1_doSign_37 : decode cX1_doSign 37 = .ok (.ifCond .ne 7, 3) := dk_154 0 7 (dk_at dksX1_doSign_1 14 rfl rfl)
theorem dX1_doSign_40 : decode cX1_doSign 40 = .ok (.iconst 1, 1) := dk_4 (dk_at dksX1_doSign_1 17 rfl rfl)
theorem dX1_doSign_41 : decode cX1_doSign 41 = .ok (.goto 4, 3) := dk_167 0 4 (dk_at dksX1_doSign_1 18 rfl rfl)
theorem dX1_doSign_44 : decode cX1_doSign 44 = .ok (.iconst 0, 1) := dk_3 (dk_at dksX1_doSign_1 21 rfl rfl)
theorem dX1_doSign_45 : decode cX1_doSign 45 = .ok (.iconst 2, 1) := dk_5 (dk_at dksX1_doSign_1 22 rfl rfl)
theorem dX1_doSign_46 : decode cX1_doSign 46 = .ok (.aload_n 0, 1) := dk_42 (dk_at dksX1_doSign_1 23 rfl rfl)
theorem dX1_doSign_47 : decode cX1_doSign 47 = .ok (.getfield 65, 3) := dk_180 0 65 (dk_at dksX1_doSign_2 0 rfl rfl)
theorem dX1_doSign_50 : decode cX1_doSign 50 = .ok (.getfield 201, 3) := dk_180 0 201 (dk_at dksX1_doSign_2 3 rfl rfl)
theorem dX1_doSign_53 : decode cX1_doSign 53 = .ok (.iload_n 2, 1) := dk_28 (dk_at dksX1_doSign_2 6 rfl rfl)
theorem dX1_doSign_54 : decode cX1_doSign 54 = .ok (.iaload, 1) := dk_46 (dk_at dksX1_doSign_2 7 rfl rfl)
theorem dX1_doSign_55 : decode cX1_doSign 55 = .ok (.invokestatic 153, 3) := dk_184 0 153 (dk_at dksX1_doSign_2 8 rfl rfl)
theorem dX1_doSign_58 : decode cX1_doSign 58 = .ok (.aload_n 0, 1) := dk_42 (dk_at dksX1_doSign_2 11 rfl rfl)
theorem dX1_doSign_59 : decode cX1_doSign 59 = .ok (.getfield 65, 3) := dk_180 0 65 (dk_at dksX1_doSign_2 12 rfl rfl)
theorem dX1_doSign_62 : decode cX1_doSign 62 = .ok (.getfield 193, 3) := dk_180 0 193 (dk_at dksX1_doSign_2 15 rfl rfl)
theorem dX1_doSign_65 : decode cX1_doSign 65 = .ok (.invokevirtual 205, 3) := dk_182 0 205 (dk_at dksX1_doSign_2 18 rfl rfl)
theorem dX1_doSign_68 : decode cX1_doSign 68 = .ok (.bipush 24, 2) := dk_16 24 (dk_at dksX1_doSign_2 21 rfl rfl)
theorem dX1_doSign_70 : decode cX1_doSign 70 = .ok (.if_icmp .ge 7, 3) := dk_162 0 7 (dk_at dksX1_doSign_3 0 rfl rfl)
theorem dX1_doSign_73 : decode cX1_doSign 73 = .ok (.iconst 1, 1) := dk_4 (dk_at dksX1_doSign_3 3 rfl rfl)
theorem dX1_doSign_74 : decode cX1_doSign 74 = .ok (.goto 4, 3) := dk_167 0 4 (dk_at dksX1_doSign_3 4 rfl rfl)
theorem dX1_doSign_77 : decode cX1_doSign 77 = .ok (.iconst 0, 1) := dk_3 (dk_at dksX1_doSign_3 7 rfl rfl)
theorem dX1_doSign_78 : decode cX1_doSign 78 = .ok (.iconst 1, 1) := dk_4 (dk_at dksX1_doSign_3 8 rfl rfl)
theorem dX1_doSign_79 : decode cX1_doSign 79 = .ok (.bipush 24, 2) := dk_16 24 (dk_at dksX1_doSign_3 9 rfl rfl)
theorem dX1_doSign_81 : decode cX1_doSign 81 = .ok (.invokestatic 153, 3) := dk_184 0 153 (dk_at dksX1_doSign_3 11 rfl rfl)
theorem dX1_doSign_84 : decode cX1_doSign 84 = .ok (.aload_n 0, 1) := dk_42 (dk_at dksX1_doSign_3 14 rfl rfl)
theorem dX1_doSign_85 : decode cX1_doSign 85 = .ok (.getfield 65, 3) := dk_180 0 65 (dk_at dksX1_doSign_3 15 rfl rfl)
theorem dX1_doSign_88 : decode cX1_doSign 88 = .ok (.iload_n 1, 1) := dk_27 (dk_at dksX1_doSign_3 18 rfl rfl)
theorem dX1_doSign_89 : decode cX1_doSign 89 = .ok (.invokevirtual 209, 3) := dk_182 0 209 (dk_at dksX1_doSign_3 19 rfl rfl)
theorem dX1_doSign_92 : decode cX1_doSign 92 = .ok (.bipush 8, 2) := dk_16 8 (dk_at dksX1_doSign_3 22 rfl rfl)
theorem dX1_doSign_94 : decode cX1_doSign 94 = .ok (.if_icmp .ge 7, 3) := dk_162 0 7 (dk_at dksX1_doSign_4 0 rfl rfl)
theorem dX1_doSign_97 : decode cX1_doSign 97 = .ok (.iconst 1, 1) := dk_4 (dk_at dksX1_doSign_4 3 rfl rfl)
theorem dX1_doSign_98 : decode cX1_doSign 98 = .ok (.goto 4, 3) := dk_167 0 4 (dk_at dksX1_doSign_4 4 rfl rfl)
theorem dX1_doSign_101 : decode cX1_doSign 101 = .ok (.iconst 0, 1) := dk_3 (dk_at dksX1_doSign_4 7 rfl rfl)
theorem dX1_doSign_102 : decode cX1_doSign 102 = .ok (.iconst 1, 1) := dk_4 (dk_at dksX1_doSign_4 8 rfl rfl)
theorem dX1_doSign_103 : decode cX1_doSign 103 = .ok (.bipush 8, 2) := dk_16 8 (dk_at dksX1_doSign_4 9 rfl rfl)
theorem dX1_doSign_105 : decode cX1_doSign 105 = .ok (.invokestatic 153, 3) := dk_184 0 153 (dk_at dksX1_doSign_4 11 rfl rfl)
theorem dX1_doSign_108 : decode cX1_doSign 108 = .ok (.aload_n 0, 1) := dk_42 (dk_at dksX1_doSign_4 14 rfl rfl)
theorem dX1_doSign_109 : decode cX1_doSign 109 = .ok (.getfield 65, 3) := dk_180 0 65 (dk_at dksX1_doSign_4 15 rfl rfl)
theorem dX1_doSign_112 : decode cX1_doSign 112 = .ok (.getfield 193, 3) := dk_180 0 193 (dk_at dksX1_doSign_4 18 rfl rfl)
theorem dX1_doSign_115 : decode cX1_doSign 115 = .ok (.iload_n 2, 1) := dk_28 (dk_at dksX1_doSign_4 21 rfl rfl)
theorem dX1_doSign_116 : decode cX1_doSign 116 = .ok (.invokevirtual 212, 3) := dk_182 0 212 (dk_at dksX1_doSign_5 0 rfl rfl)
theorem dX1_doSign_119 : decode cX1_doSign 119 = .ok (.aload_n 0, 1) := dk_42 (dk_at dksX1_doSign_5 3 rfl rfl)
theorem dX1_doSign_120 : decode cX1_doSign 120 = .ok (.getfield 65, 3) := dk_180 0 65 (dk_at dksX1_doSign_5 4 rfl rfl)
theorem dX1_doSign_123 : decode cX1_doSign 123 = .ok (.getfield 201, 3) := dk_180 0 201 (dk_at dksX1_doSign_5 7 rfl rfl)
theorem dX1_doSign_126 : decode cX1_doSign 126 = .ok (.iload_n 2, 1) := dk_28 (dk_at dksX1_doSign_5 10 rfl rfl)
theorem dX1_doSign_127 : decode cX1_doSign 127 = .ok (.iload_n 1, 1) := dk_27 (dk_at dksX1_doSign_5 11 rfl rfl)
theorem dX1_doSign_128 : decode cX1_doSign 128 = .ok (.iastore, 1) := dk_79 (dk_at dksX1_doSign_5 12 rfl rfl)
theorem dX1_doSign_129 : decode cX1_doSign 129 = .ok (.aload_n 0, 1) := dk_42 (dk_at dksX1_doSign_5 13 rfl rfl)
theorem dX1_doSign_130 : decode cX1_doSign 130 = .ok (.getfield 65, 3) := dk_180 0 65 (dk_at dksX1_doSign_5 14 rfl rfl)
theorem dX1_doSign_133 : decode cX1_doSign 133 = .ok (.aload_n 0, 1) := dk_42 (dk_at dksX1_doSign_5 17 rfl rfl)
theorem dX1_doSign_134 : decode cX1_doSign 134 = .ok (.getfield 65, 3) := dk_180 0 65 (dk_at dksX1_doSign_5 18 rfl rfl)
theorem dX1_doSign_137 : decode cX1_doSign 137 = .ok (.getfield 147, 3) := dk_180 0 147 (dk_at dksX1_doSign_5 21 rfl rfl)
theorem dX1_doSign_140 : decode cX1_doSign 140 = .ok (.invokevirtual 169, 3) := dk_182 0 169 (dk_at dksX1_doSign_6 0 rfl rfl)
theorem dX1_doSign_143 : decode cX1_doSign 143 = .ok (.istore_n 3, 1) := dk_62 (dk_at dksX1_doSign_6 3 rfl rfl)
theorem dX1_doSign_144 : decode cX1_doSign 144 = .ok (.aload_n 0, 1) := dk_42 (dk_at dksX1_doSign_6 4 rfl rfl)
theorem dX1_doSign_145 : decode cX1_doSign 145 = .ok (.getfield 65, 3) := dk_180 0 65 (dk_at dksX1_doSign_6 5 rfl rfl)
theorem dX1_doSign_148 : decode cX1_doSign 148 = .ok (.iload_n 1, 1) := dk_27 (dk_at dksX1_doSign_6 8 rfl rfl)
theorem dX1_doSign_149 : decode cX1_doSign 149 = .ok (.invokevirtual 209, 3) := dk_182 0 209 (dk_at dksX1_doSign_6 9 rfl rfl)
theorem dX1_doSign_152 : decode cX1_doSign 152 = .ok (.ireturn, 1) := dk_172 (dk_at dksX1_doSign_6 12 rfl rfl)
abbrev cX1_isAngle : ByteArray := prog_1_method_14_code
def yX1_isAngle : MethodName := ⟨RX1, "isAngle", "(I)Z"⟩
def dkwX1_isAngle_0 : List UInt8 := [26, 3, 17, 1, 103, 184, 0, 143, 172]
abbrev dktX1_isAngle_0 : List UInt8 := dkwX1_isAngle_0 ++ []
theorem dksX1_isAngle_0 : cX1_isAngle.data.toList.drop 0 = dktX1_isAngle_0 := by decide +kernel
theorem dX1_isAngle_0 : decode cX1_isAngle 0 = .ok (.iload_n 0, 1) := dk_26 (dk_at dksX1_isAngle_0 0 rfl rfl)
theorem dX1_isAngle_1 : decode cX1_isAngle 1 = .ok (.iconst 0, 1) := dk_3 (dk_at dksX1_isAngle_0 1 rfl rfl)
theorem dX1_isAngle_2 : decode cX1_isAngle 2 = .ok (.sipush 359, 3) := dk_17 1 103 (dk_at dksX1_isAngle_0 2 rfl rfl)
theorem dX1_isAngle_5 : decode cX1_isAngle 5 = .ok (.invokestatic 143, 3) := dk_184 0 143 (dk_at dksX1_isAngle_0 5 rfl rfl)
theorem dX1_isAngle_8 : decode cX1_isAngle 8 = .ok (.ireturn, 1) := dk_172 (dk_at dksX1_isAngle_0 8 rfl rfl)
abbrev cX1_exists : ByteArray := prog_1_method_4_code
def yX1_exists : MethodName := ⟨RX1, "exists", "(Z)V"⟩
def dkwX1_exists_0 : List UInt8 := [26, 154, 0, 11, 187, 0, 7, 89, 183, 0, 9, 191, 177]
abbrev dktX1_exists_0 : List UInt8 := dkwX1_exists_0 ++ []
theorem dksX1_exists_0 : cX1_exists.data.toList.drop 0 = dktX1_exists_0 := by decide +kernel
theorem dX1_exists_0 : decode cX1_exists 0 = .ok (.iload_n 0, 1) := dk_26 (dk_at dksX1_exists_0 0 rfl rfl)
theorem dX1_exists_1 : decode cX1_exists 1 = .ok (.ifCond .ne 11, 3) := dk_154 0 11 (dk_at dksX1_exists_0 1 rfl rfl)
theorem dX1_exists_4 : decode cX1_exists 4 = .ok (.new 7, 3) := dk_187 0 7 (dk_at dksX1_exists_0 4 rfl rfl)
theorem dX1_exists_7 : decode cX1_exists 7 = .ok (.dup, 1) := dk_89 (dk_at dksX1_exists_0 7 rfl rfl)
theorem dX1_exists_8 : decode cX1_exists 8 = .ok (.invokespecial 9, 3) := dk_183 0 9 (dk_at dksX1_exists_0 8 rfl rfl)
theorem dX1_exists_11 : decode cX1_exists 11 = .ok (.athrow, 1) := dk_191 (dk_at dksX1_exists_0 11 rfl rfl)
theorem dX1_exists_12 : decode cX1_exists 12 = .ok (.return_, 1) := dk_177 (dk_at dksX1_exists_0 12 rfl rfl)
abbrev cX1_bit : ByteArray := prog_1_method_2_code
def yX1_bit : MethodName := ⟨RX1, "bit", "(Z)I"⟩
def dkwX1_bit_0 : List UInt8 := [26, 153, 0, 7, 4, 167, 0, 4, 3, 172]
abbrev dktX1_bit_0 : List UInt8 := dkwX1_bit_0 ++ []
theorem dksX1_bit_0 : cX1_bit.data.toList.drop 0 = dktX1_bit_0 := by decide +kernel
theorem dX1_bit_0 : decode cX1_bit 0 = .ok (.iload_n 0, 1) := dk_26 (dk_at dksX1_bit_0 0 rfl rfl)
theorem dX1_bit_1 : decode cX1_bit 1 = .ok (.ifCond .eq 7, 3) := dk_153 0 7 (dk_at dksX1_bit_0 1 rfl rfl)
theorem dX1_bit_4 : decode cX1_bit 4 = .ok (.iconst 1, 1) := dk_4 (dk_at dksX1_bit_0 4 rfl rfl)
theorem dX1_bit_5 : decode cX1_bit 5 = .ok (.goto 4, 3) := dk_167 0 4 (dk_at dksX1_bit_0 5 rfl rfl)
theorem dX1_bit_8 : decode cX1_bit 8 = .ok (.iconst 0, 1) := dk_3 (dk_at dksX1_bit_0 8 rfl rfl)
theorem dX1_bit_9 : decode cX1_bit 9 = .ok (.ireturn, 1) := dk_172 (dk_at dksX1_bit_0 9 rfl rfl)
abbrev cX1_down : ByteArray := prog_1_method_21_code
def yX1_down : MethodName := ⟨RX1, "down", "(I)I"⟩
def dkwX1_down_0 : List UInt8 := [42, 182, 0, 176, 42, 42, 27, 182, 0, 221, 182, 0, 183, 172, 77, 42, 44, 182, 0, 186, 191]
abbrev dktX1_down_0 : List UInt8 := dkwX1_down_0 ++ []
theorem dksX1_down_0 : cX1_down.data.toList.drop 0 = dktX1_down_0 := by decide +kernel
theorem dX1_down_0 : decode cX1_down 0 = .ok (.aload_n 0, 1) := dk_42 (dk_at dksX1_down_0 0 rfl rfl)
theorem dX1_down_1 : decode cX1_down 1 = .ok (.invokevirtual 176, 3) := dk_182 0 176 (dk_at dksX1_down_0 1 rfl rfl)
theorem dX1_down_4 : decode cX1_down 4 = .ok (.aload_n 0, 1) := dk_42 (dk_at dksX1_down_0 4 rfl rfl)
theorem dX1_down_5 : decode cX1_down 5 = .ok (.aload_n 0, 1) := dk_42 (dk_at dksX1_down_0 5 rfl rfl)
theorem dX1_down_6 : decode cX1_down 6 = .ok (.iload_n 1, 1) := dk_27 (dk_at dksX1_down_0 6 rfl rfl)
theorem dX1_down_7 : decode cX1_down 7 = .ok (.invokevirtual 221, 3) := dk_182 0 221 (dk_at dksX1_down_0 7 rfl rfl)
theorem dX1_down_10 : decode cX1_down 10 = .ok (.invokevirtual 183, 3) := dk_182 0 183 (dk_at dksX1_down_0 10 rfl rfl)
theorem dX1_down_13 : decode cX1_down 13 = .ok (.ireturn, 1) := dk_172 (dk_at dksX1_down_0 13 rfl rfl)
theorem dX1_down_14 : decode cX1_down 14 = .ok (.astore_n 2, 1) := dk_77 (dk_at dksX1_down_0 14 rfl rfl)
theorem dX1_down_15 : decode cX1_down 15 = .ok (.aload_n 0, 1) := dk_42 (dk_at dksX1_down_0 15 rfl rfl)
theorem dX1_down_16 : decode cX1_down 16 = .ok (.aload_n 2, 1) := dk_44 (dk_at dksX1_down_0 16 rfl rfl)
theorem dX1_down_17 : decode cX1_down 17 = .ok (.invokevirtual 186, 3) := dk_182 0 186 (dk_at dksX1_down_0 17 rfl rfl)
theorem dX1_down_20 : decode cX1_down 20 = .ok (.athrow, 1) := dk_191 (dk_at dksX1_down_0 20 rfl rfl)
abbrev cX1_doDown : ByteArray := prog_1_method_20_code
def yX1_doDown : MethodName := ⟨RX1, "doDown", "(I)I"⟩
def dkwX1_doDown_2 : List UInt8 := [172]
abbrev dktX1_doDown_2 : List UInt8 := dkwX1_doDown_2 ++ []
def dkwX1_doDown_1 : List UInt8 := [180, 0, 65, 180, 0, 193, 27, 182, 0, 218, 42, 180, 0, 65, 42, 180, 0, 65, 180, 0, 147, 182, 0, 169]
abbrev dktX1_doDown_1 : List UInt8 := dkwX1_doDown_1 ++ dktX1_doDown_2
def dkwX1_doDown_0 : List UInt8 := [27, 184, 0, 190, 184, 0, 135, 42, 180, 0, 65, 180, 0, 193, 27, 182, 0, 197, 6, 27, 184, 0, 153, 42]
abbrev dktX1_doDown_0 : List UInt8 := dkwX1_doDown_0 ++ dktX1_doDown_1
theorem dksX1_doDown_0 : cX1_doDown.data.toList.drop 0 = dktX1_doDown_0 := by decide +kernel
theorem dksX1_doDown_1 : cX1_doDown.data.toList.drop 24 = dktX1_doDown_1 := dk_seg dksX1_doDown_0 24 rfl rfl
theorem dksX1_doDown_2 : cX1_doDown.data.toList.drop 48 = dktX1_doDown_2 := dk_seg dksX1_doDown_1 24 rfl rfl
theorem dX1_doDown_0 : decode cX1_doDown 0 = .ok (.iload_n 1, 1) := dk_27 (dk_at dksX1_doDown_0 0 rfl rfl)
theorem dX1_doDown_1 : decode cX1_doDown 1 = .ok (.invokestatic 190, 3) := dk_184 0 190 (dk_at dksX1_doDown_0 1 rfl rfl)
theorem dX1_doDown_4 : decode cX1_doDown 4 = .ok (.invokestatic 135, 3) := dk_184 0 135 (dk_at dksX1_doDown_0 4 rfl rfl)
theorem dX1_doDown_7 : decode cX1_doDown 7 = .ok (.aload_n 0, 1) := dk_42 (dk_at dksX1_doDown_0 7 rfl rfl)
theorem dX1_doDown_8 : decode cX1_doDown 8 = .ok (.getfield 65, 3) := dk_180 0 65 (dk_at dksX1_doDown_0 8 rfl rfl)
theorem dX1_doDown_11 : decode cX1_doDown 11 = .ok (.getfield 193, 3) := dk_180 0 193 (dk_at dksX1_doDown_0 11 rfl rfl)
theorem dX1_doDown_14 : decode cX1_doDown 14 = .ok (.iload_n 1, 1) := dk_27 (dk_at dksX1_doDown_0 14 rfl rfl)
theorem dX1_doDown_15 : decode cX1_doDown 15 = .ok (.invokevirtual 197, 3) := dk_182 0 197 (dk_at dksX1_doDown_0 15 rfl rfl)
theorem dX1_doDown_18 : decode cX1_doDown 18 = .ok (.iconst 3, 1) := dk_6 (dk_at dksX1_doDown_0 18 rfl rfl)
theorem dX1_doDown_19 : decode cX1_doDown 19 = .ok (.iload_n 1, 1) := dk_27 (dk_at dksX1_doDown_0 19 rfl rfl)
theorem dX1_doDown_20 : decode cX1_doDown 20 = .ok (.invokestatic 153, 3) := dk_184 0 153 (dk_at dksX1_doDown_0 20 rfl rfl)
theorem dX1_doDown_23 : decode cX1_doDown 23 = .ok (.aload_n 0, 1) := dk_42 (dk_at dksX1_doDown_0 23 rfl rfl)
theorem dX1_doDown_24 : decode cX1_doDown 24 = .ok (.getfield 65, 3) := dk_180 0 65 (dk_at dksX1_doDown_1 0 rfl rfl)
theorem dX1_doDown_27 : decode cX1_doDown 27 = .ok (.getfield 193, 3) := dk_180 0 193 (dk_at dksX1_doDown_1 3 rfl rfl)
theorem dX1_doDown_30 : decode cX1_doDown 30 = .ok (.iload_n 1, 1) := dk_27 (dk_at dksX1_doDown_1 6 rfl rfl)
theorem dX1_doDown_31 : decode cX1_doDown 31 = .ok (.invokevirtual 218, 3) := dk_182 0 218 (dk_at dksX1_doDown_1 7 rfl rfl)
theorem dX1_doDown_34 : decode cX1_doDown 34 = .ok (.aload_n 0, 1) := dk_42 (dk_at dksX1_doDown_1 10 rfl rfl)
theorem dX1_doDown_35 : decode cX1_doDown 35 = .ok (.getfield 65, 3) := dk_180 0 65 (dk_at dksX1_doDown_1 11 rfl rfl)
theorem dX1_doDown_38 : decode cX1_doDown 38 = .ok (.aload_n 0, 1) := dk_42 (dk_at dksX1_doDown_1 14 rfl rfl)
theorem dX1_doDown_39 : decode cX1_doDown 39 = .ok (.getfield 65, 3) := dk_180 0 65 (dk_at dksX1_doDown_1 15 rfl rfl)
theorem dX1_doDown_42 : decode cX1_doDown 42 = .ok (.getfield 147, 3) := dk_180 0 147 (dk_at dksX1_doDown_1 18 rfl rfl)
theorem dX1_doDown_45 : decode cX1_doDown 45 = .ok (.invokevirtual 169, 3) := dk_182 0 169 (dk_at dksX1_doDown_1 21 rfl rfl)
theorem dX1_doDown_48 : decode cX1_doDown 48 = .ok (.ireturn, 1) := dk_172 (dk_at dksX1_doDown_2 0 rfl rfl)
abbrev cX1_close : ByteArray := prog_1_method_23_code
def yX1_close : MethodName := ⟨RX1, "close", "(I)I"⟩
def dkwX1_close_0 : List UInt8 := [42, 182, 0, 176, 42, 42, 27, 182, 0, 235, 182, 0, 183, 172, 77, 42, 44, 182, 0, 186, 191]
abbrev dktX1_close_0 : List UInt8 := dkwX1_close_0 ++ []
theorem dksX1_close_0 : cX1_close.data.toList.drop 0 = dktX1_close_0 := by decide +kernel
theorem dX1_close_0 : decode cX1_close 0 = .ok (.aload_n 0, 1) := dk_42 (dk_at dksX1_close_0 0 rfl rfl)
theorem dX1_close_1 : decode cX1_close 1 = .ok (.invokevirtual 176, 3) := dk_182 0 176 (dk_at dksX1_close_0 1 rfl rfl)
theorem dX1_close_4 : decode cX1_close 4 = .ok (.aload_n 0, 1) := dk_42 (dk_at dksX1_close_0 4 rfl rfl)
theorem dX1_close_5 : decode cX1_close 5 = .ok (.aload_n 0, 1) := dk_42 (dk_at dksX1_close_0 5 rfl rfl)
theorem dX1_close_6 : decode cX1_close 6 = .ok (.iload_n 1, 1) := dk_27 (dk_at dksX1_close_0 6 rfl rfl)
theorem dX1_close_7 : decode cX1_close 7 = .ok (.invokevirtual 235, 3) := dk_182 0 235 (dk_at dksX1_close_0 7 rfl rfl)
theorem dX1_close_10 : decode cX1_close 10 = .ok (.invokevirtual 183, 3) := dk_182 0 183 (dk_at dksX1_close_0 10 rfl rfl)
theorem dX1_close_13 : decode cX1_close 13 = .ok (.ireturn, 1) := dk_172 (dk_at dksX1_close_0 13 rfl rfl)
theorem dX1_close_14 : decode cX1_close 14 = .ok (.astore_n 2, 1) := dk_77 (dk_at dksX1_close_0 14 rfl rfl)
theorem dX1_close_15 : decode cX1_close 15 = .ok (.aload_n 0, 1) := dk_42 (dk_at dksX1_close_0 15 rfl rfl)
theorem dX1_close_16 : decode cX1_close 16 = .ok (.aload_n 2, 1) := dk_44 (dk_at dksX1_close_0 16 rfl rfl)
theorem dX1_close_17 : decode cX1_close 17 = .ok (.invokevirtual 186, 3) := dk_182 0 186 (dk_at dksX1_close_0 17 rfl rfl)
theorem dX1_close_20 : decode cX1_close 20 = .ok (.athrow, 1) := dk_191 (dk_at dksX1_close_0 20 rfl rfl)
abbrev cX1_doClose : ByteArray := prog_1_method_22_code
def yX1_doClose : MethodName := ⟨RX1, "doClose", "(I)I"⟩
def dkwX1_doClose_2 : List UInt8 := [180, 0, 65, 180, 0, 147, 182, 0, 169, 172]
abbrev dktX1_doClose_2 : List UInt8 := dkwX1_doClose_2 ++ []
def dkwX1_doClose_1 : List UInt8 := [164, 0, 7, 4, 167, 0, 4, 3, 16, 6, 27, 184, 0, 153, 44, 3, 181, 0, 228, 42, 180, 0, 65, 42]
abbrev dktX1_doClose_1 : List UInt8 := dkwX1_doClose_1 ++ dktX1_doClose_2
def dkwX1_doClose_0 : List UInt8 := [42, 27, 182, 0, 224, 77, 44, 180, 0, 228, 7, 27, 184, 0, 153, 42, 180, 0, 65, 182, 0, 232, 4]
abbrev dktX1_doClose_0 : List UInt8 := dkwX1_doClose_0 ++ dktX1_doClose_1
theorem dksX1_doClose_0 : cX1_doClose.data.toList.drop 0 = dktX1_doClose_0 := by decide +kernel
theorem dksX1_doClose_1 : cX1_doClose.data.toList.drop 23 = dktX1_doClose_1 := dk_seg dksX1_doClose_0 23 rfl rfl
theorem dksX1_doClose_2 : cX1_doClose.data.toList.drop 47 = dktX1_doClose_2 := dk_seg dksX1_doClose_1 24 rfl rfl
theorem dX1_doClose_0 : decode cX1_doClose 0 = .ok (.aload_n 0, 1) := dk_42 (dk_at dksX1_doClose_0 0 rfl rfl)
theorem dX1_doClose_1 : decode cX1_doClose 1 = .ok (.iload_n 1, 1) := dk_27 (dk_at dksX1_doClose_0 1 rfl rfl)
theorem dX1_doClose_2 : decode cX1_doClose 2 = .ok (.invokevirtual 224, 3) := dk_182 0 224 (dk_at dksX1_doClose_0 2 rfl rfl)
theorem dX1_doClose_5 : decode cX1_doClose 5 = .ok (.astore_n 2, 1) := dk_77 (dk_at dksX1_doClose_0 5 rfl rfl)
theorem dX1_doClose_6 : decode cX1_doClose 6 = .ok (.aload_n 2, 1) := dk_44 (dk_at dksX1_doClose_0 6 rfl rfl)
theorem dX1_doClose_7 : decode cX1_doClose 7 = .ok (.getfield 228, 3) := dk_180 0 228 (dk_at dksX1_doClose_0 7 rfl rfl)
theorem dX1_doClose_10 : decode cX1_doClose 10 = .ok (.iconst 4, 1) := dk_7 (dk_at dksX1_doClose_0 10 rfl rfl)
theorem dX1_doClose_11 : decode cX1_doClose 11 = .ok (.iload_n 1, 1) := dk_27 (dk_at dksX1_doClose_0 11 rfl rfl)
theorem dX1_doClose_12 : decode cX1_doClose 12 = .ok (.invokestatic 153, 3) := dk_184 0 153 (dk_at dksX1_doClose_0 12 rfl rfl)
theorem dX1_doClose_15 : decode cX1_doClose 15 = .ok (.aload_n 0, 1) := dk_42 (dk_at dksX1_doClose_0 15 rfl rfl)
theorem dX1_doClose_16 : decode cX1_doClose 16 = .ok (.getfield 65, 3) := dk_180 0 65 (dk_at dksX1_doClose_0 16 rfl rfl)
theorem dX1_doClose_19 : decode cX1_doClose 19 = .ok (.invokevirtual 232, 3) := dk_182 0 232 (dk_at dksX1_doClose_0 19 rfl rfl)
theorem dX1_doClose_22 : decode cX1_doClose 22 = .ok (.iconst 1, 1) := dk_4 (dk_at dksX1_doClose_0 22 rfl rfl)
theorem dX1_doClose_23 : decode cX1_doClose 23 = .ok (.if_icmp .le 7, 3) := dk_164 0 7 (dk_at dksX1_doClose_1 0 rfl rfl)
theorem dX1_doClose_26 : decode cX1_doClose 26 = .ok (.iconst 1, 1) := dk_4 (dk_at dksX1_doClose_1 3 rfl rfl)
theorem dX1_doClose_27 : decode cX1_doClose 27 = .ok (.goto 4, 3) := dk_167 0 4 (dk_at dksX1_doClose_1 4 rfl rfl)
theorem dX1_doClose_30 : decode cX1_doClose 30 = .ok (.iconst 0, 1) := dk_3 (dk_at dksX1_doClose_1 7 rfl rfl)
theorem dX1_doClose_31 : decode cX1_doClose 31 = .ok (.bipush 6, 2) := dk_16 6 (dk_at dksX1_doClose_1 8 rfl rfl)
theorem dX1_doClose_33 : decode cX1_doClose 33 = .ok (.iload_n 1, 1) := dk_27 (dk_at dksX1_doClose_1 10 rfl rfl)
theorem dX1_doClose_34 : decode cX1_doClose 34 = .ok (.invokestatic 153, 3) := dk_184 0 153 (dk_at dksX1_doClose_1 11 rfl rfl)
theorem dX1_doClose_37 : decode cX1_doClose 37 = .ok (.aload_n 2, 1) := dk_44 (dk_at dksX1_doClose_1 14 rfl rfl)
theorem dX1_doClose_38 : decode cX1_doClose 38 = .ok (.iconst 0, 1) := dk_3 (dk_at dksX1_doClose_1 15 rfl rfl)
theorem dX1_doClose_39 : decode cX1_doClose 39 = .ok (.putfield 228, 3) := dk_181 0 228 (dk_at dksX1_doClose_1 16 rfl rfl)
theorem dX1_doClose_42 : decode cX1_doClose 42 = .ok (.aload_n 0, 1) := dk_42 (dk_at dksX1_doClose_1 19 rfl rfl)
theorem dX1_doClose_43 : decode cX1_doClose 43 = .ok (.getfield 65, 3) := dk_180 0 65 (dk_at dksX1_doClose_1 20 rfl rfl)
theorem dX1_doClose_46 : decode cX1_doClose 46 = .ok (.aload_n 0, 1) := dk_42 (dk_at dksX1_doClose_1 23 rfl rfl)
theorem dX1_doClose_47 : decode cX1_doClose 47 = .ok (.getfield 65, 3) := dk_180 0 65 (dk_at dksX1_doClose_2 0 rfl rfl)
theorem dX1_doClose_50 : decode cX1_doClose 50 = .ok (.getfield 147, 3) := dk_180 0 147 (dk_at dksX1_doClose_2 3 rfl rfl)
theorem dX1_doClose_53 : decode cX1_doClose 53 = .ok (.invokevirtual 169, 3) := dk_182 0 169 (dk_at dksX1_doClose_2 6 rfl rfl)
theorem dX1_doClose_56 : decode cX1_doClose 56 = .ok (.ireturn, 1) := dk_172 (dk_at dksX1_doClose_2 9 rfl rfl)
abbrev cX1_bakeryAt : ByteArray := prog_1_method_13_code
def yX1_bakeryAt : MethodName := ⟨RX1, "bakeryAt", "(I)LBakeryRing$Bakery;"⟩
def dkwX1_bakeryAt_0 : List UInt8 := [42, 180, 0, 65, 27, 182, 0, 131, 184, 0, 135, 42, 180, 0, 65, 180, 0, 139, 27, 50, 176]
abbrev dktX1_bakeryAt_0 : List UInt8 := dkwX1_bakeryAt_0 ++ []
theorem dksX1_bakeryAt_0 : cX1_bakeryAt.data.toList.drop 0 = dktX1_bakeryAt_0 := by decide +kernel
theorem dX1_bakeryAt_0 : decode cX1_bakeryAt 0 = .ok (.aload_n 0, 1) := dk_42 (dk_at dksX1_bakeryAt_0 0 rfl rfl)
theorem dX1_bakeryAt_1 : decode cX1_bakeryAt 1 = .ok (.getfield 65, 3) := dk_180 0 65 (dk_at dksX1_bakeryAt_0 1 rfl rfl)
theorem dX1_bakeryAt_4 : decode cX1_bakeryAt 4 = .ok (.iload_n 1, 1) := dk_27 (dk_at dksX1_bakeryAt_0 4 rfl rfl)
theorem dX1_bakeryAt_5 : decode cX1_bakeryAt 5 = .ok (.invokevirtual 131, 3) := dk_182 0 131 (dk_at dksX1_bakeryAt_0 5 rfl rfl)
theorem dX1_bakeryAt_8 : decode cX1_bakeryAt 8 = .ok (.invokestatic 135, 3) := dk_184 0 135 (dk_at dksX1_bakeryAt_0 8 rfl rfl)
theorem dX1_bakeryAt_11 : decode cX1_bakeryAt 11 = .ok (.aload_n 0, 1) := dk_42 (dk_at dksX1_bakeryAt_0 11 rfl rfl)
theorem dX1_bakeryAt_12 : decode cX1_bakeryAt 12 = .ok (.getfield 65, 3) := dk_180 0 65 (dk_at dksX1_bakeryAt_0 12 rfl rfl)
theorem dX1_bakeryAt_15 : decode cX1_bakeryAt 15 = .ok (.getfield 139, 3) := dk_180 0 139 (dk_at dksX1_bakeryAt_0 15 rfl rfl)
theorem dX1_bakeryAt_18 : decode cX1_bakeryAt 18 = .ok (.iload_n 1, 1) := dk_27 (dk_at dksX1_bakeryAt_0 18 rfl rfl)
theorem dX1_bakeryAt_19 : decode cX1_bakeryAt 19 = .ok (.aaload, 1) := dk_50 (dk_at dksX1_bakeryAt_0 19 rfl rfl)
theorem dX1_bakeryAt_20 : decode cX1_bakeryAt 20 = .ok (.areturn, 1) := dk_176 (dk_at dksX1_bakeryAt_0 20 rfl rfl)
abbrev cX1_open : ByteArray := prog_1_method_25_code
def yX1_open : MethodName := ⟨RX1, "open", "(I)I"⟩
def dkwX1_open_0 : List UInt8 := [42, 182, 0, 176, 42, 42, 27, 182, 0, 238, 182, 0, 183, 172, 77, 42, 44, 182, 0, 186, 191]
abbrev dktX1_open_0 : List UInt8 := dkwX1_open_0 ++ []
theorem dksX1_open_0 : cX1_open.data.toList.drop 0 = dktX1_open_0 := by decide +kernel
theorem dX1_open_0 : decode cX1_open 0 = .ok (.aload_n 0, 1) := dk_42 (dk_at dksX1_open_0 0 rfl rfl)
theorem dX1_open_1 : decode cX1_open 1 = .ok (.invokevirtual 176, 3) := dk_182 0 176 (dk_at dksX1_open_0 1 rfl rfl)
theorem dX1_open_4 : decode cX1_open 4 = .ok (.aload_n 0, 1) := dk_42 (dk_at dksX1_open_0 4 rfl rfl)
theorem dX1_open_5 : decode cX1_open 5 = .ok (.aload_n 0, 1) := dk_42 (dk_at dksX1_open_0 5 rfl rfl)
theorem dX1_open_6 : decode cX1_open 6 = .ok (.iload_n 1, 1) := dk_27 (dk_at dksX1_open_0 6 rfl rfl)
theorem dX1_open_7 : decode cX1_open 7 = .ok (.invokevirtual 238, 3) := dk_182 0 238 (dk_at dksX1_open_0 7 rfl rfl)
theorem dX1_open_10 : decode cX1_open 10 = .ok (.invokevirtual 183, 3) := dk_182 0 183 (dk_at dksX1_open_0 10 rfl rfl)
theorem dX1_open_13 : decode cX1_open 13 = .ok (.ireturn, 1) := dk_172 (dk_at dksX1_open_0 13 rfl rfl)
theorem dX1_open_14 : decode cX1_open 14 = .ok (.astore_n 2, 1) := dk_77 (dk_at dksX1_open_0 14 rfl rfl)
theorem dX1_open_15 : decode cX1_open 15 = .ok (.aload_n 0, 1) := dk_42 (dk_at dksX1_open_0 15 rfl rfl)
theorem dX1_open_16 : decode cX1_open 16 = .ok (.aload_n 2, 1) := dk_44 (dk_at dksX1_open_0 16 rfl rfl)
theorem dX1_open_17 : decode cX1_open 17 = .ok (.invokevirtual 186, 3) := dk_182 0 186 (dk_at dksX1_open_0 17 rfl rfl)
theorem dX1_open_20 : decode cX1_open 20 = .ok (.athrow, 1) := dk_191 (dk_at dksX1_open_0 20 rfl rfl)
abbrev cX1_doOpen : ByteArray := prog_1_method_24_code
def yX1_doOpen : MethodName := ⟨RX1, "doOpen", "(I)I"⟩
def dkwX1_doOpen_1 : List UInt8 := [4, 181, 0, 228, 42, 180, 0, 65, 42, 180, 0, 65, 180, 0, 147, 182, 0, 169, 172]
abbrev dktX1_doOpen_1 : List UInt8 := dkwX1_doOpen_1 ++ []
def dkwX1_doOpen_0 : List UInt8 := [42, 27, 182, 0, 224, 77, 44, 180, 0, 228, 154, 0, 7, 4, 167, 0, 4, 3, 8, 27, 184, 0, 153, 44]
abbrev dktX1_doOpen_0 : List UInt8 := dkwX1_doOpen_0 ++ dktX1_doOpen_1
theorem dksX1_doOpen_0 : cX1_doOpen.data.toList.drop 0 = dktX1_doOpen_0 := by decide +kernel
theorem dksX1_doOpen_1 : cX1_doOpen.data.toList.drop 24 = dktX1_doOpen_1 := dk_seg dksX1_doOpen_0 24 rfl rfl
theorem dX1_doOpen_0 : decode cX1_doOpen 0 = .ok (.aload_n 0, 1) := dk_42 (dk_at dksX1_doOpen_0 0 rfl rfl)
theorem dX1_doOpen_1 : decode cX1_doOpen 1 = .ok (.iload_n 1, 1) := dk_27 (dk_at dksX1_doOpen_0 1 rfl rfl)
theorem dX1_doOpen_2 : decode cX1_doOpen 2 = .ok (.invokevirtual 224, 3) := dk_182 0 224 (dk_at dksX1_doOpen_0 2 rfl rfl)
theorem dX1_doOpen_5 : decode cX1_doOpen 5 = .ok (.astore_n 2, 1) := dk_77 (dk_at dksX1_doOpen_0 5 rfl rfl)
theorem dX1_doOpen_6 : decode cX1_doOpen 6 = .ok (.aload_n 2, 1) := dk_44 (dk_at dksX1_doOpen_0 6 rfl rfl)
theorem dX1_doOpen_7 : decode cX1_doOpen 7 = .ok (.getfield 228, 3) := dk_180 0 228 (dk_at dksX1_doOpen_0 7 rfl rfl)
theorem dX1_doOpen_10 : decode cX1_doOpen 10 = .ok (.ifCond .ne 7, 3) := dk_154 0 7 (dk_at dksX1_doOpen_0 10 rfl rfl)
theorem dX1_doOpen_13 : decode cX1_doOpen 13 = .ok (.iconst 1, 1) := dk_4 (dk_at dksX1_doOpen_0 13 rfl rfl)
theorem dX1_doOpen_14 : decode cX1_doOpen 14 = .ok (.goto 4, 3) := dk_167 0 4 (dk_at dksX1_doOpen_0 14 rfl rfl)
theorem dX1_doOpen_17 : decode cX1_doOpen 17 = .ok (.iconst 0, 1) := dk_3 (dk_at dksX1_doOpen_0 17 rfl rfl)
theorem dX1_doOpen_18 : decode cX1_doOpen 18 = .ok (.iconst 5, 1) := dk_8 (dk_at dksX1_doOpen_0 18 rfl rfl)
theorem dX1_doOpen_19 : decode cX1_doOpen 19 = .ok (.iload_n 1, 1) := dk_27 (dk_at dksX1_doOpen_0 19 rfl rfl)
theorem dX1_doOpen_20 : decode cX1_doOpen 20 = .ok (.invokestatic 153, 3) := dk_184 0 153 (dk_at dksX1_doOpen_0 20 rfl rfl)
theorem dX1_doOpen_23 : decode cX1_doOpen 23 = .ok (.aload_n 2, 1) := dk_44 (dk_at dksX1_doOpen_0 23 rfl rfl)
theorem dX1_doOpen_24 : decode cX1_doOpen 24 = .ok (.iconst 1, 1) := dk_4 (dk_at dksX1_doOpen_1 0 rfl rfl)
theorem dX1_doOpen_25 : decode cX1_doOpen 25 = .ok (.putfield 228, 3) := dk_181 0 228 (dk_at dksX1_doOpen_1 1 rfl rfl)
theorem dX1_doOpen_28 : decode cX1_doOpen 28 = .ok (.aload_n 0, 1) := dk_42 (dk_at dksX1_doOpen_1 4 rfl rfl)
theorem dX1_doOpen_29 : decode cX1_doOpen 29 = .ok (.getfield 65, 3) := dk_180 0 65 (dk_at dksX1_doOpen_1 5 rfl rfl)
theorem dX1_doOpen_32 : decode cX1_doOpen 32 = .ok (.aload_n 0, 1) := dk_42 (dk_at dksX1_doOpen_1 8 rfl rfl)
theorem dX1_doOpen_33 : decode cX1_doOpen 33 = .ok (.getfield 65, 3) := dk_180 0 65 (dk_at dksX1_doOpen_1 9 rfl rfl)
theorem dX1_doOpen_36 : decode cX1_doOpen 36 = .ok (.getfield 147, 3) := dk_180 0 147 (dk_at dksX1_doOpen_1 12 rfl rfl)
theorem dX1_doOpen_39 : decode cX1_doOpen 39 = .ok (.invokevirtual 169, 3) := dk_182 0 169 (dk_at dksX1_doOpen_1 15 rfl rfl)
theorem dX1_doOpen_42 : decode cX1_doOpen 42 = .ok (.ireturn, 1) := dk_172 (dk_at dksX1_doOpen_1 18 rfl rfl)
abbrev cX1_oven : ByteArray := prog_1_method_27_code
def yX1_oven : MethodName := ⟨RX1, "oven", "(II)I"⟩
def dkwX1_oven_0 : List UInt8 := [42, 182, 0, 176, 42, 42, 27, 28, 182, 0, 244, 182, 0, 183, 172, 78, 42, 45, 182, 0, 186, 191]
abbrev dktX1_oven_0 : List UInt8 := dkwX1_oven_0 ++ []
theorem dksX1_oven_0 : cX1_oven.data.toList.drop 0 = dktX1_oven_0 := by decide +kernel
theorem dX1_oven_0 : decode cX1_oven 0 = .ok (.aload_n 0, 1) := dk_42 (dk_at dksX1_oven_0 0 rfl rfl)
theorem dX1_oven_1 : decode cX1_oven 1 = .ok (.invokevirtual 176, 3) := dk_182 0 176 (dk_at dksX1_oven_0 1 rfl rfl)
theorem dX1_oven_4 : decode cX1_oven 4 = .ok (.aload_n 0, 1) := dk_42 (dk_at dksX1_oven_0 4 rfl rfl)
theorem dX1_oven_5 : decode cX1_oven 5 = .ok (.aload_n 0, 1) := dk_42 (dk_at dksX1_oven_0 5 rfl rfl)
theorem dX1_oven_6 : decode cX1_oven 6 = .ok (.iload_n 1, 1) := dk_27 (dk_at dksX1_oven_0 6 rfl rfl)
theorem dX1_oven_7 : decode cX1_oven 7 = .ok (.iload_n 2, 1) := dk_28 (dk_at dksX1_oven_0 7 rfl rfl)
theorem dX1_oven_8 : decode cX1_oven 8 = .ok (.invokevirtual 244, 3) := dk_182 0 244 (dk_at dksX1_oven_0 8 rfl rfl)
theorem dX1_oven_11 : decode cX1_oven 11 = .ok (.invokevirtual 183, 3) := dk_182 0 183 (dk_at dksX1_oven_0 11 rfl rfl)
theorem dX1_oven_14 : decode cX1_oven 14 = .ok (.ireturn, 1) := dk_172 (dk_at dksX1_oven_0 14 rfl rfl)
theorem dX1_oven_15 : decode cX1_oven 15 = .ok (.astore_n 3, 1) := dk_78 (dk_at dksX1_oven_0 15 rfl rfl)
theorem dX1_oven_16 : decode cX1_oven 16 = .ok (.aload_n 0, 1) := dk_42 (dk_at dksX1_oven_0 16 rfl rfl)
theorem dX1_oven_17 : decode cX1_oven 17 = .ok (.aload_n 3, 1) := dk_45 (dk_at dksX1_oven_0 17 rfl rfl)
theorem dX1_oven_18 : decode cX1_oven 18 = .ok (.invokevirtual 186, 3) := dk_182 0 186 (dk_at dksX1_oven_0 18 rfl rfl)
theorem dX1_oven_21 : decode cX1_oven 21 = .ok (.athrow, 1) := dk_191 (dk_at dksX1_oven_0 21 rfl rfl)
abbrev cX1_doOven : ByteArray := prog_1_method_26_code
def yX1_doOven : MethodName := ⟨RX1, "doOven", "(II)I"⟩
def dkwX1_doOven_2 : List UInt8 := [180, 0, 147, 182, 0, 169, 172]
abbrev dktX1_doOven_2 : List UInt8 := dkwX1_doOven_2 ++ []
def dkwX1_doOven_1 : List UInt8 := [4, 167, 0, 4, 3, 16, 7, 28, 184, 0, 153, 45, 28, 181, 0, 241, 42, 180, 0, 65, 42, 180, 0, 65]
abbrev dktX1_doOven_1 : List UInt8 := dkwX1_doOven_1 ++ dktX1_doOven_2
def dkwX1_doOven_0 : List UInt8 := [42, 27, 182, 0, 224, 78, 28, 4, 16, 40, 184, 0, 143, 184, 0, 173, 45, 180, 0, 241, 28, 159, 0, 7]
abbrev dktX1_doOven_0 : List UInt8 := dkwX1_doOven_0 ++ dktX1_doOven_1
theorem dksX1_doOven_0 : cX1_doOven.data.toList.drop 0 = dktX1_doOven_0 := by decide +kernel
theorem dksX1_doOven_1 : cX1_doOven.data.toList.drop 24 = dktX1_doOven_1 := dk_seg dksX1_doOven_0 24 rfl rfl
theorem dksX1_doOven_2 : cX1_doOven.data.toList.drop 48 = dktX1_doOven_2 := dk_seg dksX1_doOven_1 24 rfl rfl
theorem dX1_doOven_0 : decode cX1_doOven 0 = .ok (.aload_n 0, 1) := dk_42 (dk_at dksX1_doOven_0 0 rfl rfl)
theorem dX1_doOven_1 : decode cX1_doOven 1 = .ok (.iload_n 1, 1) := dk_27 (dk_at dksX1_doOven_0 1 rfl rfl)
theorem dX1_doOven_2 : decode cX1_doOven 2 = .ok (.invokevirtual 224, 3) := dk_182 0 224 (dk_at dksX1_doOven_0 2 rfl rfl)
theorem dX1_doOven_5 : decode cX1_doOven 5 = .ok (.astore_n 3, 1) := dk_78 (dk_at dksX1_doOven_0 5 rfl rfl)
theorem dX1_doOven_6 : decode cX1_doOven 6 = .ok (.iload_n 2, 1) := dk_28 (dk_at dksX1_doOven_0 6 rfl rfl)
theorem dX1_doOven_7 : decode cX1_doOven 7 = .ok (.iconst 1, 1) := dk_4 (dk_at dksX1_doOven_0 7 rfl rfl)
theorem dX1_doOven_8 : decode cX1_doOven 8 = .ok (.bipush 40, 2) := dk_16 40 (dk_at dksX1_doOven_0 8 rfl rfl)
theorem dX1_doOven_10 : decode cX1_doOven 10 = .ok (.invokestatic 143, 3) := dk_184 0 143 (dk_at dksX1_doOven_0 10 rfl rfl)
theorem dX1_doOven_13 : decode cX1_doOven 13 = .ok (.invokestatic 173, 3) := dk_184 0 173 (dk_at dksX1_doOven_0 13 rfl rfl)
theorem dX1_doOven_16 : decode cX1_doOven 16 = .ok (.aload_n 3, 1) := dk_45 (dk_at dksX1_doOven_0 16 rfl rfl)
theorem dX1_doOven_17 : decode cX1_doOven 17 = .ok (.getfield 241, 3) := dk_180 0 241 (dk_at dksX1_doOven_0 17 rfl rfl)
theorem dX1_doOven_20 : decode cX1_doOven 20 = .ok (.iload_n 2, 1) := dk_28 (dk_at dksX1_doOven_0 20 rfl rfl)
theorem dX1_doOven_21 : decode cX1_doOven 21 = .ok (.if_icmp .eq 7, 3) := dk_159 0 7 (dk_at dksX1_doOven_0 21 rfl rfl)
theorem dX1_doOven_24 : decode cX1_doOven 24 = .ok (.iconst 1, 1) := dk_4 (dk_at dksX1_doOven_1 0 rfl rfl)
theorem dX1_doOven_25 : decode cX1_doOven 25 = .ok (.goto 4, 3) := dk_167 0 4 (dk_at dksX1_doOven_1 1 rfl rfl)
theorem dX1_doOven_28 : decode cX1_doOven 28 = .ok (.iconst 0, 1) := dk_3 (dk_at dksX1_doOven_1 4 rfl rfl)
theorem dX1_doOven_29 : decode cX1_doOven 29 = .ok (.bipush 7, 2) := dk_16 7 (dk_at dksX1_doOven_1 5 rfl rfl)
theorem dX1_doOven_31 : decode cX1_doOven 31 = .ok (.iload_n 2, 1) := dk_28 (dk_at dksX1_doOven_1 7 rfl rfl)
theorem dX1_doOven_32 : decode cX1_doOven 32 = .ok (.invokestatic 153, 3) := dk_184 0 153 (dk_at dksX1_doOven_1 8 rfl rfl)
theorem dX1_doOven_35 : decode cX1_doOven 35 = .ok (.aload_n 3, 1) := dk_45 (dk_at dksX1_doOven_1 11 rfl rfl)
theorem dX1_doOven_36 : decode cX1_doOven 36 = .ok (.iload_n 2, 1) := dk_28 (dk_at dksX1_doOven_1 12 rfl rfl)
theorem dX1_doOven_37 : decode cX1_doOven 37 = .ok (.putfield 241, 3) := dk_181 0 241 (dk_at dksX1_doOven_1 13 rfl rfl)
theorem dX1_doOven_40 : decode cX1_doOven 40 = .ok (.aload_n 0, 1) := dk_42 (dk_at dksX1_doOven_1 16 rfl rfl)
theorem dX1_doOven_41 : decode cX1_doOven 41 = .ok (.getfield 65, 3) := dk_180 0 65 (dk_at dksX1_doOven_1 17 rfl rfl)
theorem dX1_doOven_44 : decode cX1_doOven 44 = .ok (.aload_n 0, 1) := dk_42 (dk_at dksX1_doOven_1 20 rfl rfl)
theorem dX1_doOven_45 : decode cX1_doOven 45 = .ok (.getfield 65, 3) := dk_180 0 65 (dk_at dksX1_doOven_1 21 rfl rfl)
theorem dX1_doOven_48 : decode cX1_doOven 48 = .ok (.getfield 147, 3) := dk_180 0 147 (dk_at dksX1_doOven_2 0 rfl rfl)
theorem dX1_doOven_51 : decode cX1_doOven 51 = .ok (.invokevirtual 169, 3) := dk_182 0 169 (dk_at dksX1_doOven_2 3 rfl rfl)
theorem dX1_doOven_54 : decode cX1_doOven 54 = .ok (.ireturn, 1) := dk_172 (dk_at dksX1_doOven_2 6 rfl rfl)
abbrev cX1_come : ByteArray := prog_1_method_29_code
def yX1_come : MethodName := ⟨RX1, "come", "(II)I"⟩
def dkwX1_come_0 : List UInt8 := [42, 182, 0, 176, 42, 42, 27, 28, 182, 0, 255, 182, 0, 183, 172, 78, 42, 45, 182, 0, 186, 191]
abbrev dktX1_come_0 : List UInt8 := dkwX1_come_0 ++ []
theorem dksX1_come_0 : cX1_come.data.toList.drop 0 = dktX1_come_0 := by decide +kernel
theorem dX1_come_0 : decode cX1_come 0 = .ok (.aload_n 0, 1) := dk_42 (dk_at dksX1_come_0 0 rfl rfl)
theorem dX1_come_1 : decode cX1_come 1 = .ok (.invokevirtual 176, 3) := dk_182 0 176 (dk_at dksX1_come_0 1 rfl rfl)
theorem dX1_come_4 : decode cX1_come 4 = .ok (.aload_n 0, 1) := dk_42 (dk_at dksX1_come_0 4 rfl rfl)
theorem dX1_come_5 : decode cX1_come 5 = .ok (.aload_n 0, 1) := dk_42 (dk_at dksX1_come_0 5 rfl rfl)
theorem dX1_come_6 : decode cX1_come 6 = .ok (.iload_n 1, 1) := dk_27 (dk_at dksX1_come_0 6 rfl rfl)
theorem dX1_come_7 : decode cX1_come 7 = .ok (.iload_n 2, 1) := dk_28 (dk_at dksX1_come_0 7 rfl rfl)
theorem dX1_come_8 : decode cX1_come 8 = .ok (.invokevirtual 255, 3) := dk_182 0 255 (dk_at dksX1_come_0 8 rfl rfl)
theorem dX1_come_11 : decode cX1_come 11 = .ok (.invokevirtual 183, 3) := dk_182 0 183 (dk_at dksX1_come_0 11 rfl rfl)
theorem dX1_come_14 : decode cX1_come 14 = .ok (.ireturn, 1) := dk_172 (dk_at dksX1_come_0 14 rfl rfl)
theorem dX1_come_15 : decode cX1_come 15 = .ok (.astore_n 3, 1) := dk_78 (dk_at dksX1_come_0 15 rfl rfl)
theorem dX1_come_16 : decode cX1_come 16 = .ok (.aload_n 0, 1) := dk_42 (dk_at dksX1_come_0 16 rfl rfl)
theorem dX1_come_17 : decode cX1_come 17 = .ok (.aload_n 3, 1) := dk_45 (dk_at dksX1_come_0 17 rfl rfl)
theorem dX1_come_18 : decode cX1_come 18 = .ok (.invokevirtual 186, 3) := dk_182 0 186 (dk_at dksX1_come_0 18 rfl rfl)
theorem dX1_come_21 : decode cX1_come 21 = .ok (.athrow, 1) := dk_191 (dk_at dksX1_come_0 21 rfl rfl)
abbrev cX1_doCome : ByteArray := prog_1_method_28_code
def yX1_doCome : MethodName := ⟨RX1, "doCome", "(II)I"⟩
def dkwX1_doCome_4 : List UInt8 := [180, 0, 147, 4, 100, 172]
abbrev dktX1_doCome_4 : List UInt8 := dkwX1_doCome_4 ++ []
def dkwX1_doCome_3 : List UInt8 := [181, 0, 147, 42, 180, 0, 65, 42, 180, 0, 65, 180, 0, 147, 4, 100, 182, 0, 169, 62, 42, 180, 0, 65]
abbrev dktX1_doCome_3 : List UInt8 := dkwX1_doCome_3 ++ dktX1_doCome_4
def dkwX1_doCome_2 : List UInt8 := [180, 0, 65, 180, 0, 147, 50, 27, 28, 182, 0, 251, 42, 180, 0, 65, 89, 180, 0, 147, 4, 96]
abbrev dktX1_doCome_2 : List UInt8 := dkwX1_doCome_2 ++ dktX1_doCome_3
def dkwX1_doCome_1 : List UInt8 := [16, 20, 162, 0, 7, 4, 167, 0, 4, 3, 4, 16, 20, 184, 0, 153, 42, 180, 0, 65, 180, 0, 247, 42]
abbrev dktX1_doCome_1 : List UInt8 := dkwX1_doCome_1 ++ dktX1_doCome_2
def dkwX1_doCome_0 : List UInt8 := [27, 184, 0, 190, 184, 0, 135, 28, 4, 16, 9, 184, 0, 143, 184, 0, 173, 42, 180, 0, 65, 180, 0, 147]
abbrev dktX1_doCome_0 : List UInt8 := dkwX1_doCome_0 ++ dktX1_doCome_1
theorem dksX1_doCome_0 : cX1_doCome.data.toList.drop 0 = dktX1_doCome_0 := by decide +kernel
theorem dksX1_doCome_1 : cX1_doCome.data.toList.drop 24 = dktX1_doCome_1 := dk_seg dksX1_doCome_0 24 rfl rfl
theorem dksX1_doCome_2 : cX1_doCome.data.toList.drop 48 = dktX1_doCome_2 := dk_seg dksX1_doCome_1 24 rfl rfl
theorem dksX1_doCome_3 : cX1_doCome.data.toList.drop 70 = dktX1_doCome_3 := dk_seg dksX1_doCome_2 22 rfl rfl
theorem dksX1_doCome_4 : cX1_doCome.data.toList.drop 94 = dktX1_doCome_4 := dk_seg dksX1_doCome_3 24 rfl rfl
theorem dX1_doCome_0 : decode cX1_doCome 0 = .ok (.iload_n 1, 1) := dk_27 (dk_at dksX1_doCome_0 0 rfl rfl)
theorem dX1_doCome_1 : decode cX1_doCome 1 = .ok (.invokestatic 190, 3) := dk_184 0 190 (dk_at dksX1_doCome_0 1 rfl rfl)
theorem dX1_doCome_4 : decode cX1_doCome 4 = .ok (.invokestatic 135, 3) := dk_184 0 135 (dk_at dksX1_doCome_0 4 rfl rfl)
theorem dX1_doCome_7 : decode cX1_doCome 7 = .ok (.iload_n 2, 1) := dk_28 (dk_at dksX1_doCome_0 7 rfl rfl)
theorem dX1_doCome_8 : decode cX1_doCome 8 = .ok (.iconst 1, 1) := dk_4 (dk_at dksX1_doCome_0 8 rfl rfl)
theorem dX1_doCome_9 : decode cX1_doCome 9 = .ok (.bipush 9, 2) := dk_16 9 (dk_at dksX1_doCome_0 9 rfl rfl)
theorem dX1_doCome_11 : decode cX1_doCome 11 = .ok (.invokestatic 143, 3) := dk_184 0 143 (dk_at dksX1_doCome_0 11 rfl rfl)
theorem dX1_doCome_14 : decode cX1_doCome 14 = .ok (.invokestatic 173, 3) := dk_184 0 173 (dk_at dksX1_doCome_0 14 rfl rfl)
theorem dX1_doCome_17 : decode cX1_doCome 17 = .ok (.aload_n 0, 1) := dk_42 (dk_at dksX1_doCome_0 17 rfl rfl)
theorem dX1_doCome_18 : decode cX1_doCome 18 = .ok (.getfield 65, 3) := dk_180 0 65 (dk_at dksX1_doCome_0 18 rfl rfl)
theorem dX1_doCome_21 : decode cX1_doCome 21 = .ok (.getfield 147, 3) := dk_180 0 147 (dk_at dksX1_doCome_0 21 rfl rfl)
theorem dX1_doCome_24 : decode cX1_doCome 24 = .ok (.bipush 20, 2) := dk_16 20 (dk_at dksX1_doCome_1 0 rfl rfl)
theorem dX1_doCome_26 : decode cX1_doCome 26 = .ok (.if_icmp .ge 7, 3) := dk_162 0 7 (dk_at dksX1_doCome_1 2 rfl rfl)
theorem dX1_doCome_29 : decode cX1_doCome 29 = .ok (.iconst 1, 1) := dk_4 (dk_at dksX1_doCome_1 5 rfl rfl)
theorem dX1_doCome_30 : decode cX1_doCome 30 = .ok (.goto 4, 3) := dk_167 0 4 (dk_at dksX1_doCome_1 6 rfl rfl)
theorem dX1_doCome_33 : decode cX1_doCome 33 = .ok (.iconst 0, 1) := dk_3 (dk_at dksX1_doCome_1 9 rfl rfl)
theorem dX1_doCome_34 : decode cX1_doCome 34 = .ok (.iconst 1, 1) := dk_4 (dk_at dksX1_doCome_1 10 rfl rfl)
theorem dX1_doCome_35 : decode cX1_doCome 35 = .ok (.bipush 20, 2) := dk_16 20 (dk_at dksX1_doCome_1 11 rfl rfl)
theorem dX1_doCome_37 : decode cX1_doCome 37 = .ok (.invokestatic 153, 3) := dk_184 0 153 (dk_at dksX1_doCome_1 13 rfl rfl)
theorem dX1_doCome_40 : decode cX1_doCome 40 = .ok (.aload_n 0, 1) := dk_42 (dk_at dksX1_doCome_1 16 rfl rfl)
theorem dX1_doCome_41 : decode cX1_doCome 41 = .ok (.getfield 65, 3) := dk_180 0 65 (dk_at dksX1_doCome_1 17 rfl rfl)
theorem dX1_doCome_44 : decode cX1_doCome 44 = .ok (.getfield 247, 3) := dk_180 0 247 (dk_at dksX1_doCome_1 20 rfl rfl)
theorem dX1_doCome_47 : decode cX1_doCome 47 = .ok (.aload_n 0, 1) := dk_42 (dk_at dksX1_doCome_1 23 rfl rfl)
theorem dX1_doCome_48 : decode cX1_doCome 48 = .ok (.getfield 65, 3) := dk_180 0 65 (dk_at dksX1_doCome_2 0 rfl rfl)
theorem dX1_doCome_51 : decode cX1_doCome 51 = .ok (.getfield 147, 3) := dk_180 0 147 (dk_at dksX1_doCome_2 3 rfl rfl)
theorem dX1_doCome_54 : decode cX1_doCome 54 = .ok (.aaload, 1) := dk_50 (dk_at dksX1_doCome_2 6 rfl rfl)
theorem dX1_doCome_55 : decode cX1_doCome 55 = .ok (.iload_n 1, 1) := dk_27 (dk_at dksX1_doCome_2 7 rfl rfl)
theorem dX1_doCome_56 : decode cX1_doCome 56 = .ok (.iload_n 2, 1) := dk_28 (dk_at dksX1_doCome_2 8 rfl rfl)
theorem dX1_doCome_57 : decode cX1_doCome 57 = .ok (.invokevirtual 251, 3) := dk_182 0 251 (dk_at dksX1_doCome_2 9 rfl rfl)
theorem dX1_doCome_60 : decode cX1_doCome 60 = .ok (.aload_n 0, 1) := dk_42 (dk_at dksX1_doCome_2 12 rfl rfl)
theorem dX1_doCome_61 : decode cX1_doCome 61 = .ok (.getfield 65, 3) := dk_180 0 65 (dk_at dksX1_doCome_2 13 rfl rfl)
theorem dX1_doCome_64 : decode cX1_doCome 64 = .ok (.dup, 1) := dk_89 (dk_at dksX1_doCome_2 16 rfl rfl)
theorem dX1_doCome_65 : decode cX1_doCome 65 = .ok (.getfield 147, 3) := dk_180 0 147 (dk_at dksX1_doCome_2 17 rfl rfl)
theorem dX1_doCome_68 : decode cX1_doCome 68 = .ok (.iconst 1, 1) := dk_4 (dk_at dksX1_doCome_2 20 rfl rfl)
theorem dX1_doCome_69 : decode cX1_doCome 69 = .ok (.iadd, 1) := dk_96 (dk_at dksX1_doCome_2 21 rfl rfl)
theorem dX1_doCome_70 : decode cX1_doCome 70 = .ok (.putfield 147, 3) := dk_181 0 147 (dk_at dksX1_doCome_3 0 rfl rfl)
theorem dX1_doCome_73 : decode cX1_doCome 73 = .ok (.aload_n 0, 1) := dk_42 (dk_at dksX1_doCome_3 3 rfl rfl)
theorem dX1_doCome_74 : decode cX1_doCome 74 = .ok (.getfield 65, 3) := dk_180 0 65 (dk_at dksX1_doCome_3 4 rfl rfl)
theorem dX1_doCome_77 : decode cX1_doCome 77 = .ok (.aload_n 0, 1) := dk_42 (dk_at dksX1_doCome_3 7 rfl rfl)
theorem dX1_doCome_78 : decode cX1_doCome 78 = .ok (.getfield 65, 3) := dk_180 0 65 (dk_at dksX1_doCome_3 8 rfl rfl)
theorem dX1_doCome_81 : decode cX1_doCome 81 = .ok (.getfield 147, 3) := dk_180 0 147 (dk_at dksX1_doCome_3 11 rfl rfl)
theorem dX1_doCome_84 : decode cX1_doCome 84 = .ok (.iconst 1, 1) := dk_4 (dk_at dksX1_doCome_3 14 rfl rfl)
theorem dX1_doCome_85 : decode cX1_doCome 85 = .ok (.isub, 1) := dk_100 (dk_at dksX1_doCome_3 15 rfl rfl)
theorem dX1_doCome_86 : decode cX1_doCome 86 = .ok (.invokevirtual 169, 3) := dk_182 0 169 (dk_at dksX1_doCome_3 16 rfl rfl)
theorem dX1_doCome_89 : decode cX1_doCome 89 = .ok (.istore_n 3, 1) := dk_62 (dk_at dksX1_doCome_3 19 rfl rfl)
theorem dX1_doCome_90 : decode cX1_doCome 90 = .ok (.aload_n 0, 1) := dk_42 (dk_at dksX1_doCome_3 20 rfl rfl)
theorem dX1_doCome_91 : decode cX1_doCome 91 = .ok (.getfield 65, 3) := dk_180 0 65 (dk_at dksX1_doCome_3 21 rfl rfl)
theorem dX1_doCome_94 : decode cX1_doCome 94 = .ok (.getfield 147, 3) := dk_180 0 147 (dk_at dksX1_doCome_4 0 rfl rfl)
theorem dX1_doCome_97 : decode cX1_doCome 97 = .ok (.iconst 1, 1) := dk_4 (dk_at dksX1_doCome_4 3 rfl rfl)
theorem dX1_doCome_98 : decode cX1_doCome 98 = .ok (.isub, 1) := dk_100 (dk_at dksX1_doCome_4 4 rfl rfl)
theorem dX1_doCome_99 : decode cX1_doCome 99 = .ok (.ireturn, 1) := dk_172 (dk_at dksX1_doCome_4 5 rfl rfl)
abbrev cX1_leave : ByteArray := prog_1_method_31_code
def yX1_leave : MethodName := ⟨RX1, "leave", "(I)I"⟩
def dkwX1_leave_0 : List UInt8 := [42, 182, 0, 176, 42, 42, 27, 182, 1, 8, 182, 0, 183, 172]
abbrev dktX1_leave_0 : List UInt8 := dkwX1_leave_0 ++ []
theorem dksX1_leave_0 : cX1_leave.data.toList.drop 0 = dktX1_leave_0 := by decide +kernel
theorem dX1_leave_0 : decode cX1_leave 0 = .ok (.aload_n 0, 1) := dk_42 (dk_at dksX1_leave_0 0 rfl rfl)
theorem dX1_leave_1 : decode cX1_leave 1 = .ok (.invokevirtual 176, 3) := dk_182 0 176 (dk_at dksX1_leave_0 1 rfl rfl)
theorem dX1_leave_4 : decode cX1_leave 4 = .ok (.aload_n 0, 1) := dk_42 (dk_at dksX1_leave_0 4 rfl rfl)
theorem dX1_leave_5 : decode cX1_leave 5 = .ok (.aload_n 0, 1) := dk_42 (dk_at dksX1_leave_0 5 rfl rfl)
theorem dX1_leave_6 : decode cX1_leave 6 = .ok (.iload_n 1, 1) := dk_27 (dk_at dksX1_leave_0 6 rfl rfl)
theorem dX1_leave_7 : decode cX1_leave 7 = .ok (.invokevirtual 264, 3) := dk_182 1 8 (dk_at dksX1_leave_0 7 rfl rfl)
theorem dX1_leave_10 : decode cX1_leave 10 = .ok (.invokevirtual 183, 3) := dk_182 0 183 (dk_at dksX1_leave_0 10 rfl rfl)
theorem dX1_leave_13 : decode cX1_leave 13 = .ok (.ireturn, 1) := dk_172 (dk_at dksX1_leave_0 13 rfl rfl)
abbrev cX1_doLeave : ByteArray := prog_1_method_30_code
def yX1_doLeave : MethodName := ⟨RX1, "doLeave", "(I)I"⟩
def dkwX1_doLeave_1 : List UInt8 := [180, 0, 147, 182, 0, 169, 172]
abbrev dktX1_doLeave_1 : List UInt8 := dkwX1_doLeave_1 ++ []
def dkwX1_doLeave_0 : List UInt8 := [42, 27, 182, 1, 2, 184, 0, 135, 42, 180, 0, 65, 27, 182, 1, 5, 42, 180, 0, 65, 42, 180, 0, 65]
abbrev dktX1_doLeave_0 : List UInt8 := dkwX1_doLeave_0 ++ dktX1_doLeave_1
theorem dksX1_doLeave_0 : cX1_doLeave.data.toList.drop 0 = dktX1_doLeave_0 := by decide +kernel
theorem dksX1_doLeave_1 : cX1_doLeave.data.toList.drop 24 = dktX1_doLeave_1 := dk_seg dksX1_doLeave_0 24 rfl rfl
theorem dX1_doLeave_0 : decode cX1_doLeave 0 = .ok (.aload_n 0, 1) := dk_42 (dk_at dksX1_doLeave_0 0 rfl rfl)
theorem dX1_doLeave_1 : decode cX1_doLeave 1 = .ok (.iload_n 1, 1) := dk_27 (dk_at dksX1_doLeave_0 1 rfl rfl)
theorem dX1_doLeave_2 : decode cX1_doLeave 2 = .ok (.invokevirtual 258, 3) := dk_182 1 2 (dk_at dksX1_doLeave_0 2 rfl rfl)
theorem dX1_doLeave_5 : decode cX1_doLeave 5 = .ok (.invokestatic 135, 3) := dk_184 0 135 (dk_at dksX1_doLeave_0 5 rfl rfl)
theorem dX1_doLeave_8 : decode cX1_doLeave 8 = .ok (.aload_n 0, 1) := dk_42 (dk_at dksX1_doLeave_0 8 rfl rfl)
theorem dX1_doLeave_9 : decode cX1_doLeave 9 = .ok (.getfield 65, 3) := dk_180 0 65 (dk_at dksX1_doLeave_0 9 rfl rfl)
theorem dX1_doLeave_12 : decode cX1_doLeave 12 = .ok (.iload_n 1, 1) := dk_27 (dk_at dksX1_doLeave_0 12 rfl rfl)
theorem dX1_doLeave_13 : decode cX1_doLeave 13 = .ok (.invokevirtual 261, 3) := dk_182 1 5 (dk_at dksX1_doLeave_0 13 rfl rfl)
theorem dX1_doLeave_16 : decode cX1_doLeave 16 = .ok (.aload_n 0, 1) := dk_42 (dk_at dksX1_doLeave_0 16 rfl rfl)
theorem dX1_doLeave_17 : decode cX1_doLeave 17 = .ok (.getfield 65, 3) := dk_180 0 65 (dk_at dksX1_doLeave_0 17 rfl rfl)
theorem dX1_doLeave_20 : decode cX1_doLeave 20 = .ok (.aload_n 0, 1) := dk_42 (dk_at dksX1_doLeave_0 20 rfl rfl)
theorem dX1_doLeave_21 : decode cX1_doLeave 21 = .ok (.getfield 65, 3) := dk_180 0 65 (dk_at dksX1_doLeave_0 21 rfl rfl)
theorem dX1_doLeave_24 : decode cX1_doLeave 24 = .ok (.getfield 147, 3) := dk_180 0 147 (dk_at dksX1_doLeave_1 0 rfl rfl)
theorem dX1_doLeave_27 : decode cX1_doLeave 27 = .ok (.invokevirtual 169, 3) := dk_182 0 169 (dk_at dksX1_doLeave_1 3 rfl rfl)
theorem dX1_doLeave_30 : decode cX1_doLeave 30 = .ok (.ireturn, 1) := dk_172 (dk_at dksX1_doLeave_1 6 rfl rfl)
abbrev cX1_isCustomer : ByteArray := prog_1_method_15_code
def yX1_isCustomer : MethodName := ⟨RX1, "isCustomer", "(I)Z"⟩
def dkwX1_isCustomer_0 : List UInt8 := [27, 3, 42, 180, 0, 65, 180, 0, 147, 4, 100, 184, 0, 143, 172]
abbrev dktX1_isCustomer_0 : List UInt8 := dkwX1_isCustomer_0 ++ []
theorem dksX1_isCustomer_0 : cX1_isCustomer.data.toList.drop 0 = dktX1_isCustomer_0 := by decide +kernel
theorem dX1_isCustomer_0 : decode cX1_isCustomer 0 = .ok (.iload_n 1, 1) := dk_27 (dk_at dksX1_isCustomer_0 0 rfl rfl)
theorem dX1_isCustomer_1 : decode cX1_isCustomer 1 = .ok (.iconst 0, 1) := dk_3 (dk_at dksX1_isCustomer_0 1 rfl rfl)
theorem dX1_isCustomer_2 : decode cX1_isCustomer 2 = .ok (.aload_n 0, 1) := dk_42 (dk_at dksX1_isCustomer_0 2 rfl rfl)
theorem dX1_isCustomer_3 : decode cX1_isCustomer 3 = .ok (.getfield 65, 3) := dk_180 0 65 (dk_at dksX1_isCustomer_0 3 rfl rfl)
theorem dX1_isCustomer_6 : decode cX1_isCustomer 6 = .ok (.getfield 147, 3) := dk_180 0 147 (dk_at dksX1_isCustomer_0 6 rfl rfl)
theorem dX1_isCustomer_9 : decode cX1_isCustomer 9 = .ok (.iconst 1, 1) := dk_4 (dk_at dksX1_isCustomer_0 9 rfl rfl)
theorem dX1_isCustomer_10 : decode cX1_isCustomer 10 = .ok (.isub, 1) := dk_100 (dk_at dksX1_isCustomer_0 10 rfl rfl)
theorem dX1_isCustomer_11 : decode cX1_isCustomer 11 = .ok (.invokestatic 143, 3) := dk_184 0 143 (dk_at dksX1_isCustomer_0 11 rfl rfl)
theorem dX1_isCustomer_14 : decode cX1_isCustomer 14 = .ok (.ireturn, 1) := dk_172 (dk_at dksX1_isCustomer_0 14 rfl rfl)
abbrev cX1_script : ByteArray := prog_1_method_44_code
def yX1_script : MethodName := ⟨RX1, "script", "()I"⟩
def dkwX1_script_1 : List UInt8 := [182, 0, 186, 191]
abbrev dktX1_script_1 : List UInt8 := dkwX1_script_1 ++ []
def dkwX1_script_0 : List UInt8 := [42, 182, 1, 117, 184, 0, 173, 42, 182, 0, 176, 42, 42, 182, 1, 120, 182, 0, 183, 172, 76, 42, 43]
abbrev dktX1_script_0 : List UInt8 := dkwX1_script_0 ++ dktX1_script_1
theorem dksX1_script_0 : cX1_script.data.toList.drop 0 = dktX1_script_0 := by decide +kernel
theorem dksX1_script_1 : cX1_script.data.toList.drop 23 = dktX1_script_1 := dk_seg dksX1_script_0 23 rfl rfl
theorem dX1_script_0 : decode cX1_script 0 = .ok (.aload_n 0, 1) := dk_42 (dk_at dksX1_script_0 0 rfl rfl)
theorem dX1_script_1 : decode cX1_script 1 = .ok (.invokevirtual 373, 3) := dk_182 1 117 (dk_at dksX1_script_0 1 rfl rfl)
theorem dX1_script_4 : decode cX1_script 4 = .ok (.invokestatic 173, 3) := dk_184 0 173 (dk_at dksX1_script_0 4 rfl rfl)
theorem dX1_script_7 : decode cX1_script 7 = .ok (.aload_n 0, 1) := dk_42 (dk_at dksX1_script_0 7 rfl rfl)
theorem dX1_script_8 : decode cX1_script 8 = .ok (.invokevirtual 176, 3) := dk_182 0 176 (dk_at dksX1_script_0 8 rfl rfl)
theorem dX1_script_11 : decode cX1_script 11 = .ok (.aload_n 0, 1) := dk_42 (dk_at dksX1_script_0 11 rfl rfl)
theorem dX1_script_12 : decode cX1_script 12 = .ok (.aload_n 0, 1) := dk_42 (dk_at dksX1_script_0 12 rfl rfl)
theorem dX1_script_13 : decode cX1_script 13 = .ok (.invokevirtual 376, 3) := dk_182 1 120 (dk_at dksX1_script_0 13 rfl rfl)
theorem dX1_script_16 : decode cX1_script 16 = .ok (.invokevirtual 183, 3) := dk_182 0 183 (dk_at dksX1_script_0 16 rfl rfl)
theorem dX1_script_19 : decode cX1_script 19 = .ok (.ireturn, 1) := dk_172 (dk_at dksX1_script_0 19 rfl rfl)
theorem dX1_script_20 : decode cX1_script 20 = .ok (.astore_n 1, 1) := dk_76 (dk_at dksX1_script_0 20 rfl rfl)
theorem dX1_script_21 : decode cX1_script 21 = .ok (.aload_n 0, 1) := dk_42 (dk_at dksX1_script_0 21 rfl rfl)
theorem dX1_script_22 : decode cX1_script 22 = .ok (.aload_n 1, 1) := dk_43 (dk_at dksX1_script_0 22 rfl rfl)
theorem dX1_script_23 : decode cX1_script 23 = .ok (.invokevirtual 186, 3) := dk_182 0 186 (dk_at dksX1_script_1 0 rfl rfl)
theorem dX1_script_26 : decode cX1_script 26 = .ok (.athrow, 1) := dk_191 (dk_at dksX1_script_1 3 rfl rfl)
abbrev cX1_readsScript : ByteArray := prog_1_method_41_code
def yX1_readsScript : MethodName := ⟨RX1, "readsScript", "()Z"⟩
def dkwX1_readsScript_5 : List UInt8 := [182, 1, 100, 45, 191]
abbrev dktX1_readsScript_5 : List UInt8 := dkwX1_readsScript_5 ++ []
def dkwX1_readsScript_4 : List UInt8 := [180, 1, 24, 181, 0, 82, 3, 61, 42, 180, 0, 91, 3, 182, 1, 100, 28, 172, 78, 42, 180, 0, 91, 3]
abbrev dktX1_readsScript_4 : List UInt8 := dkwX1_readsScript_4 ++ dktX1_readsScript_5
def dkwX1_readsScript_3 : List UInt8 := [187, 1, 35, 89, 183, 1, 37, 191, 4, 60, 42, 180, 0, 91, 3, 182, 1, 100, 27, 172, 76, 42, 42]
abbrev dktX1_readsScript_3 : List UInt8 := dkwX1_readsScript_3 ++ dktX1_readsScript_4
def dkwX1_readsScript_2 : List UInt8 := [42, 182, 1, 92, 182, 1, 96, 167, 255, 224, 42, 180, 1, 24, 42, 180, 0, 91, 182, 1, 11, 162, 0, 11]
abbrev dktX1_readsScript_2 : List UInt8 := dkwX1_readsScript_2 ++ dktX1_readsScript_3
def dkwX1_readsScript_1 : List UInt8 := [16, 59, 16, 59, 182, 1, 31, 153, 0, 27, 42, 89, 180, 1, 24, 4, 96, 181, 1, 24, 42, 180, 0, 101]
abbrev dktX1_readsScript_1 : List UInt8 := dkwX1_readsScript_1 ++ dktX1_readsScript_2
def dkwX1_readsScript_0 : List UInt8 := [42, 3, 181, 1, 24, 42, 180, 0, 101, 182, 1, 90, 42, 180, 0, 101, 42, 182, 1, 92, 182, 1, 96, 42]
abbrev dktX1_readsScript_0 : List UInt8 := dkwX1_readsScript_0 ++ dktX1_readsScript_1
theorem dksX1_readsScript_0 : cX1_readsScript.data.toList.drop 0 = dktX1_readsScript_0 := by decide +kernel
theorem dksX1_readsScript_1 : cX1_readsScript.data.toList.drop 24 = dktX1_readsScript_1 := dk_seg dksX1_readsScript_0 24 rfl rfl
theorem dksX1_readsScript_2 : cX1_readsScript.data.toList.drop 48 = dktX1_readsScript_2 := dk_seg dksX1_readsScript_1 24 rfl rfl
theorem dksX1_readsScript_3 : cX1_readsScript.data.toList.drop 72 = dktX1_readsScript_3 := dk_seg dksX1_readsScript_2 24 rfl rfl
theorem dksX1_readsScript_4 : cX1_readsScript.data.toList.drop 95 = dktX1_readsScript_4 := dk_seg dksX1_readsScript_3 23 rfl rfl
theorem dksX1_readsScript_5 : cX1_readsScript.data.toList.drop 119 = dktX1_readsScript_5 := dk_seg dksX1_readsScript_4 24 rfl rfl
theorem dX1_readsScript_0 : decode cX1_readsScript 0 = .ok (.aload_n 0, 1) := dk_42 (dk_at dksX1_readsScript_0 0 rfl rfl)
theorem dX1_readsScript_1 : decode cX1_readsScript 1 = .ok (.iconst 0, 1) := dk_3 (dk_at dksX1_readsScript_0 1 rfl rfl)
theorem dX1_readsScript_2 : decode cX1_readsScript 2 = .ok (.putfield 280, 3) := dk_181 1 24 (dk_at dksX1_readsScript_0 2 rfl rfl)
theorem dX1_readsScript_5 : decode cX1_readsScript 5 = .ok (.aload_n 0, 1) := dk_42 (dk_at dksX1_readsScript_0 5 rfl rfl)
theorem dX1_readsScript_6 : decode cX1_readsScript 6 = .ok (.getfield 101, 3) := dk_180 0 101 (dk_at dksX1_readsScript_0 6 rfl rfl)
theorem dX1_readsScript_9 : decode cX1_readsScript 9 = .ok (.invokevirtual 346, 3) := dk_182 1 90 (dk_at dksX1_readsScript_0 9 rfl rfl)
theorem dX1_readsScript_12 : decode cX1_readsScript 12 = .ok (.aload_n 0, 1) := dk_42 (dk_at dksX1_readsScript_0 12 rfl rfl)
theorem dX1_readsScript_13 : decode cX1_readsScript 13 = .ok (.getfield 101, 3) := dk_180 0 101 (dk_at dksX1_readsScript_0 13 rfl rfl)
theorem dX1_readsScript_16 : decode cX1_readsScript 16 = .ok (.aload_n 0, 1) := dk_42 (dk_at dksX1_readsScript_0 16 rfl rfl)
theorem dX1_readsScript_17 : decode cX1_readsScript 17 = .ok (.invokevirtual 348, 3) := dk_182 1 92 (dk_at dksX1_readsScript_0 17 rfl rfl)
theorem dX1_readsScript_20 : decode cX1_readsScript 20 = .ok (.invokevirtual 352, 3) := dk_182 1 96 (dk_at dksX1_readsScript_0 20 rfl rfl)
theorem dX1_readsScript_23 : decode cX1_readsScript 23 = .ok (.aload_n 0, 1) := dk_42 (dk_at dksX1_readsScript_0 23 rfl rfl)
theorem dX1_readsScript_24 : decode cX1_readsScript 24 = .ok (.bipush 59, 2) := dk_16 59 (dk_at dksX1_readsScript_1 0 rfl rfl)
theorem dX1_readsScript_26 : decode cX1_readsScript 26 = .ok (.bipush 59, 2) := dk_16 59 (dk_at dksX1_readsScript_1 2 rfl rfl)
theorem dX1_readsScript_28 : decode cX1_readsScript 28 = .ok (.invokevirtual 287, 3) := dk_182 1 31 (dk_at dksX1_readsScript_1 4 rfl rfl)
theorem dX1_readsScript_31 : decode cX1_readsScript 31 = .ok (.ifCond .eq 27, 3) := dk_153 0 27 (dk_at dksX1_readsScript_1 7 rfl rfl)
theorem dX1_readsScript_34 : decode cX1_readsScript 34 = .ok (.aload_n 0, 1) := dk_42 (dk_at dksX1_readsScript_1 10 rfl rfl)
theorem dX1_readsScript_35 : decode cX1_readsScript 35 = .ok (.dup, 1) := dk_89 (dk_at dksX1_readsScript_1 11 rfl rfl)
theorem dX1_readsScript_36 : decode cX1_readsScript 36 = .ok (.getfield 280, 3) := dk_180 1 24 (dk_at dksX1_readsScript_1 12 rfl rfl)
theorem dX1_readsScript_39 : decode cX1_readsScript 39 = .ok (.iconst 1, 1) := dk_4 (dk_at dksX1_readsScript_1 15 rfl rfl)
theorem dX1_readsScript_40 : decode cX1_readsScript 40 = .ok (.iadd, 1) := dk_96 (dk_at dksX1_readsScript_1 16 rfl rfl)
theorem dX1_readsScript_41 : decode cX1_readsScript 41 = .ok (.putfield 280, 3) := dk_181 1 24 (dk_at dksX1_readsScript_1 17 rfl rfl)
theorem dX1_readsScript_44 : decode cX1_readsScript 44 = .ok (.aload_n 0, 1) := dk_42 (dk_at dksX1_readsScript_1 20 rfl rfl)
theorem dX1_readsScript_45 : decode cX1_readsScript 45 = .ok (.getfield 101, 3) := dk_180 0 101 (dk_at dksX1_readsScript_1 21 rfl rfl)
theorem dX1_readsScript_48 : decode cX1_readsScript 48 = .ok (.aload_n 0, 1) := dk_42 (dk_at dksX1_readsScript_2 0 rfl rfl)
theorem dX1_readsScript_49 : decode cX1_readsScript 49 = .ok (.invokevirtual 348, 3) := dk_182 1 92 (dk_at dksX1_readsScript_2 1 rfl rfl)
theorem dX1_readsScript_52 : decode cX1_readsScript 52 = .ok (.invokevirtual 352, 3) := dk_182 1 96 (dk_at dksX1_readsScript_2 4 rfl rfl)
theorem dX1_readsScript_55 : decode cX1_readsScript 55 = .ok (.goto (-32), 3) := dk_167 255 224 (dk_at dksX1_readsScript_2 7 rfl rfl)
theorem dX1_readsScript_58 : decode cX1_readsScript 58 = .ok (.aload_n 0, 1) := dk_42 (dk_at dksX1_readsScript_2 10 rfl rfl)
theorem dX1_readsScript_59 : decode cX1_readsScript 59 = .ok (.getfield 280, 3) := dk_180 1 24 (dk_at dksX1_readsScript_2 11 rfl rfl)
theorem dX1_readsScript_62 : decode cX1_readsScript 62 = .ok (.aload_n 0, 1) := dk_42 (dk_at dksX1_readsScript_2 14 rfl rfl)
theorem dX1_readsScript_63 : decode cX1_readsScript 63 = .ok (.getfield 91, 3) := dk_180 0 91 (dk_at dksX1_readsScript_2 15 rfl rfl)
theorem dX1_readsScript_66 : decode cX1_readsScript 66 = .ok (.invokevirtual 267, 3) := dk_182 1 11 (dk_at dksX1_readsScript_2 18 rfl rfl)
theorem dX1_readsScript_69 : decode cX1_readsScript 69 = .ok (.if_icmp .ge 11, 3) := dk_162 0 11 (dk_at dksX1_readsScript_2 21 rfl rfl)
theorem dX1_readsScript_72 : decode cX1_readsScript 72 = .ok (.new 291, 3) := dk_187 1 35 (dk_at dksX1_readsScript_3 0 rfl rfl)
theorem dX1_readsScript_75 : decode cX1_readsScript 75 = .ok (.dup, 1) := dk_89 (dk_at dksX1_readsScript_3 3 rfl rfl)
theorem dX1_readsScript_76 : decode cX1_readsScript 76 = .ok (.invokespecial 293, 3) := dk_183 1 37 (dk_at dksX1_readsScript_3 4 rfl rfl)
theorem dX1_readsScript_79 : decode cX1_readsScript 79 = .ok (.athrow, 1) := dk_191 (dk_at dksX1_readsScript_3 7 rfl rfl)
theorem dX1_readsScript_80 : decode cX1_readsScript 80 = .ok (.iconst 1, 1) := dk_4 (dk_at dksX1_readsScript_3 8 rfl rfl)
theorem dX1_readsScript_81 : decode cX1_readsScript 81 = .ok (.istore_n 1, 1) := dk_60 (dk_at dksX1_readsScript_3 9 rfl rfl)
theorem dX1_readsScript_82 : decode cX1_readsScript 82 = .ok (.aload_n 0, 1) := dk_42 (dk_at dksX1_readsScript_3 10 rfl rfl)
theorem dX1_readsScript_83 : decode cX1_readsScript 83 = .ok (.getfield 91, 3) := dk_180 0 91 (dk_at dksX1_readsScript_3 11 rfl rfl)
theorem dX1_readsScript_86 : decode cX1_readsScript 86 = .ok (.iconst 0, 1) := dk_3 (dk_at dksX1_readsScript_3 14 rfl rfl)
theorem dX1_readsScript_87 : decode cX1_readsScript 87 = .ok (.invokevirtual 356, 3) := dk_182 1 100 (dk_at dksX1_readsScript_3 15 rfl rfl)
theorem dX1_readsScript_90 : decode cX1_readsScript 90 = .ok (.iload_n 1, 1) := dk_27 (dk_at dksX1_readsScript_3 18 rfl rfl)
theorem dX1_readsScript_91 : decode cX1_readsScript 91 = .ok (.ireturn, 1) := dk_172 (dk_at dksX1_readsScript_3 19 rfl rfl)
theorem dX1_readsScript_92 : decode cX1_readsScript 92 = .ok (.astore_n 1, 1) := dk_76 (dk_at dksX1_readsScript_3 20 rfl rfl)
theorem dX1_readsScript_93 : decode cX1_readsScript 93 = .ok (.aload_n 0, 1) := dk_42 (dk_at dksX1_readsScript_3 21 rfl rfl)
theorem dX1_readsScript_94 : decode cX1_readsScript 94 = .ok (.aload_n 0, 1) := dk_42 (dk_at dksX1_readsScript_3 22 rfl rfl)
theorem dX1_readsScript_95 : decode cX1_readsScript 95 = .ok (.getfield 280, 3) := dk_180 1 24 (dk_at dksX1_readsScript_4 0 rfl rfl)
theorem dX1_readsScript_98 : decode cX1_readsScript 98 = .ok (.putfield 82, 3) := dk_181 0 82 (dk_at dksX1_readsScript_4 3 rfl rfl)
theorem dX1_readsScript_101 : decode cX1_readsScript 101 = .ok (.iconst 0, 1) := dk_3 (dk_at dksX1_readsScript_4 6 rfl rfl)
theorem dX1_readsScript_102 : decode cX1_readsScript 102 = .ok (.istore_n 2, 1) := dk_61 (dk_at dksX1_readsScript_4 7 rfl rfl)
theorem dX1_readsScript_103 : decode cX1_readsScript 103 = .ok (.aload_n 0, 1) := dk_42 (dk_at dksX1_readsScript_4 8 rfl rfl)
theorem dX1_readsScript_104 : decode cX1_readsScript 104 = .ok (.getfield 91, 3) := dk_180 0 91 (dk_at dksX1_readsScript_4 9 rfl rfl)
theorem dX1_readsScript_107 : decode cX1_readsScript 107 = .ok (.iconst 0, 1) := dk_3 (dk_at dksX1_readsScript_4 12 rfl rfl)
theorem dX1_readsScript_108 : decode cX1_readsScript 108 = .ok (.invokevirtual 356, 3) := dk_182 1 100 (dk_at dksX1_readsScript_4 13 rfl rfl)
theorem dX1_readsScript_111 : decode cX1_readsScript 111 = .ok (.iload_n 2, 1) := dk_28 (dk_at dksX1_readsScript_4 16 rfl rfl)
theorem dX1_readsScript_112 : decode cX1_readsScript 112 = .ok (.ireturn, 1) := dk_172 (dk_at dksX1_readsScript_4 17 rfl rfl)
theorem dX1_readsScript_113 : decode cX1_readsScript 113 = .ok (.astore_n 3, 1) := dk_78 (dk_at dksX1_readsScript_4 18 rfl rfl)
theorem dX1_readsScript_114 : decode cX1_readsScript 114 = .ok (.aload_n 0, 1) := dk_42 (dk_at dksX1_readsScript_4 19 rfl rfl)
theorem dX1_readsScript_115 : decode cX1_readsScript 115 = .ok (.getfield 91, 3) := dk_180 0 91 (dk_at dksX1_readsScript_4 20 rfl rfl)
theorem dX1_readsScript_118 : decode cX1_readsScript 118 = .ok (.iconst 0, 1) := dk_3 (dk_at dksX1_readsScript_4 23 rfl rfl)
theorem dX1_readsScript_119 : decode cX1_readsScript 119 = .ok (.invokevirtual 356, 3) := dk_182 1 100 (dk_at dksX1_readsScript_5 0 rfl rfl)
theorem dX1_readsScript_122 : decode cX1_readsScript 122 = .ok (.aload_n 3, 1) := dk_45 (dk_at dksX1_readsScript_5 3 rfl rfl)
theorem dX1_readsScript_123 : decode cX1_readsScript 123 = .ok (.athrow, 1) := dk_191 (dk_at dksX1_readsScript_5 4 rfl rfl)
abbrev cX1_order : ByteArray := prog_1_method_40_code
def yX1_order : MethodName := ⟨RX1, "order", "()LBakeryRing$Order;"⟩
def dkwX1_order_11 : List UInt8 := [182, 1, 84, 79, 183, 1, 87, 176]
abbrev dktX1_order_11 : List UInt8 := dkwX1_order_11 ++ []
def dkwX1_order_10 : List UInt8 := [188, 10, 89, 3, 42, 182, 1, 38, 79, 183, 1, 87, 176, 187, 1, 82, 89, 43, 4, 188, 10, 89, 3, 42]
abbrev dktX1_order_10 : List UInt8 := dkwX1_order_10 ++ dktX1_order_11
def dkwX1_order_9 : List UInt8 := [188, 10, 89, 3, 28, 79, 89, 4, 42, 182, 1, 38, 79, 183, 1, 87, 176, 187, 1, 82, 89, 43, 4]
abbrev dktX1_order_9 : List UInt8 := dkwX1_order_9 ++ dktX1_order_10
def dkwX1_order_8 : List UInt8 := [182, 1, 84, 79, 183, 1, 87, 176, 42, 182, 1, 84, 61, 42, 182, 1, 79, 187, 1, 82, 89, 43, 5]
abbrev dktX1_order_8 : List UInt8 := dkwX1_order_8 ++ dktX1_order_9
def dkwX1_order_7 : List UInt8 := [42, 182, 1, 38, 61, 42, 182, 1, 79, 187, 1, 82, 89, 43, 5, 188, 10, 89, 3, 28, 79, 89, 4, 42]
abbrev dktX1_order_7 : List UInt8 := dkwX1_order_7 ++ dktX1_order_8
def dkwX1_order_6 : List UInt8 := [170, 0, 0, 0, 0, 117, 0, 0, 0, 0, 0, 0, 0, 4, 0, 0, 0, 34, 0, 0, 0, 34, 0, 0, 0, 66, 0, 0, 0, 98, 0, 0, 0, 98]
abbrev dktX1_order_6 : List UInt8 := dkwX1_order_6 ++ dktX1_order_7
def dkwX1_order_5 : List UInt8 := [21, 4]
abbrev dktX1_order_5 : List UInt8 := dkwX1_order_5 ++ dktX1_order_6
def dkwX1_order_4 : List UInt8 := [182, 1, 75, 153, 0, 21, 6, 54, 4, 167, 0, 15, 45, 18, 48, 182, 1, 75, 153, 0, 6, 7, 54, 4]
abbrev dktX1_order_4 : List UInt8 := dkwX1_order_4 ++ dktX1_order_5
def dkwX1_order_3 : List UInt8 := [4, 54, 4, 167, 0, 45, 45, 18, 52, 182, 1, 75, 153, 0, 36, 5, 54, 4, 167, 0, 30, 45, 18, 46]
abbrev dktX1_order_3 : List UInt8 := dkwX1_order_3 ++ dktX1_order_4
def dkwX1_order_2 : List UInt8 := [45, 18, 42, 182, 1, 75, 153, 0, 66, 3, 54, 4, 167, 0, 60, 45, 18, 50, 182, 1, 75, 153, 0, 51]
abbrev dktX1_order_2 : List UInt8 := dkwX1_order_2 ++ dktX1_order_3
def dkwX1_order_1 : List UInt8 := [171, 0, 0, 0, 0, 122, 0, 0, 0, 5, 175, 21, 225, 40, 0, 0, 0, 95, 5, 167, 49, 156, 0, 0, 0, 80, 6, 80, 163, 22, 0, 0, 0, 110, 6, 83, 93, 80, 0, 0, 0, 65, 6, 133, 218, 3, 0, 0, 0, 50]
abbrev dktX1_order_1 : List UInt8 := dkwX1_order_1 ++ dktX1_order_2
def dkwX1_order_0 : List UInt8 := [42, 182, 1, 68, 76, 43, 78, 2, 54, 4, 45, 182, 1, 72]
abbrev dktX1_order_0 : List UInt8 := dkwX1_order_0 ++ dktX1_order_1
theorem dksX1_order_0 : cX1_order.data.toList.drop 0 = dktX1_order_0 := by decide +kernel
theorem dksX1_order_1 : cX1_order.data.toList.drop 14 = dktX1_order_1 := dk_seg dksX1_order_0 14 rfl rfl
theorem dksX1_order_2 : cX1_order.data.toList.drop 64 = dktX1_order_2 := dk_seg dksX1_order_1 50 rfl rfl
theorem dksX1_order_3 : cX1_order.data.toList.drop 88 = dktX1_order_3 := dk_seg dksX1_order_2 24 rfl rfl
theorem dksX1_order_4 : cX1_order.data.toList.drop 112 = dktX1_order_4 := dk_seg dksX1_order_3 24 rfl rfl
theorem dksX1_order_5 : cX1_order.data.toList.drop 136 = dktX1_order_5 := dk_seg dksX1_order_4 24 rfl rfl
theorem dksX1_order_6 : cX1_order.data.toList.drop 138 = dktX1_order_6 := dk_seg dksX1_order_5 2 rfl rfl
theorem dksX1_order_7 : cX1_order.data.toList.drop 172 = dktX1_order_7 := dk_seg dksX1_order_6 34 rfl rfl
theorem dksX1_order_8 : cX1_order.data.toList.drop 196 = dktX1_order_8 := dk_seg dksX1_order_7 24 rfl rfl
theorem dksX1_order_9 : cX1_order.data.toList.drop 219 = dktX1_order_9 := dk_seg dksX1_order_8 23 rfl rfl
theorem dksX1_order_10 : cX1_order.data.toList.drop 242 = dktX1_order_10 := dk_seg dksX1_order_9 23 rfl rfl
theorem dksX1_order_11 : cX1_order.data.toList.drop 266 = dktX1_order_11 := dk_seg dksX1_order_10 24 rfl rfl
theorem dX1_order_0 : decode cX1_order 0 = .ok (.aload_n 0, 1) := dk_42 (dk_at dksX1_order_0 0 rfl rfl)
theorem dX1_order_1 : decode cX1_order 1 = .ok (.invokevirtual 324, 3) := dk_182 1 68 (dk_at dksX1_order_0 1 rfl rfl)
theorem dX1_order_4 : decode cX1_order 4 = .ok (.astore_n 1, 1) := dk_76 (dk_at dksX1_order_0 4 rfl rfl)
theorem dX1_order_5 : decode cX1_order 5 = .ok (.aload_n 1, 1) := dk_43 (dk_at dksX1_order_0 5 rfl rfl)
theorem dX1_order_6 : decode cX1_order 6 = .ok (.astore_n 3, 1) := dk_78 (dk_at dksX1_order_0 6 rfl rfl)
theorem dX1_order_7 : decode cX1_order 7 = .ok (.iconst (-1), 1) := dk_2 (dk_at dksX1_order_0 7 rfl rfl)
theorem dX1_order_8 : decode cX1_order 8 = .ok (.istore 4, 2) := dk_54 4 (dk_at dksX1_order_0 8 rfl rfl)
theorem dX1_order_10 : decode cX1_order 10 = .ok (.aload_n 3, 1) := dk_45 (dk_at dksX1_order_0 10 rfl rfl)
theorem dX1_order_11 : decode cX1_order 11 = .ok (.invokevirtual 328, 3) := dk_182 1 72 (dk_at dksX1_order_0 11 rfl rfl)
theorem dX1_order_14 : decode cX1_order 14 = .ok (.lookupswitch 122 #[(-1357520600, 95), (94843292, 80), (105947926, 110), (106126672, 65), (109435395, 50)], 50) := by decide +kernel
theorem dX1_order_64 : decode cX1_order 64 = .ok (.aload_n 3, 1) := dk_45 (dk_at dksX1_order_2 0 rfl rfl)
theorem dX1_order_65 : decode cX1_order 65 = .ok (.ldc 42, 2) := dk_18 42 (dk_at dksX1_order_2 1 rfl rfl)
theorem dX1_order_67 : decode cX1_order 67 = .ok (.invokevirtual 331, 3) := dk_182 1 75 (dk_at dksX1_order_2 3 rfl rfl)
theorem dX1_order_70 : decode cX1_order 70 = .ok (.ifCond .eq 66, 3) := dk_153 0 66 (dk_at dksX1_order_2 6 rfl rfl)
theorem dX1_order_73 : decode cX1_order 73 = .ok (.iconst 0, 1) := dk_3 (dk_at dksX1_order_2 9 rfl rfl)
theorem dX1_order_74 : decode cX1_order 74 = .ok (.istore 4, 2) := dk_54 4 (dk_at dksX1_order_2 10 rfl rfl)
theorem dX1_order_76 : decode cX1_order 76 = .ok (.goto 60, 3) := dk_167 0 60 (dk_at dksX1_order_2 12 rfl rfl)
theorem dX1_order_79 : decode cX1_order 79 = .ok (.aload_n 3, 1) := dk_45 (dk_at dksX1_order_2 15 rfl rfl)
theorem dX1_order_80 : decode cX1_order 80 = .ok (.ldc 50, 2) := dk_18 50 (dk_at dksX1_order_2 16 rfl rfl)
theorem dX1_order_82 : decode cX1_order 82 = .ok (.invokevirtual 331, 3) := dk_182 1 75 (dk_at dksX1_order_2 18 rfl rfl)
theorem dX1_order_85 : decode cX1_order 85 = .ok (.ifCond .eq 51, 3) := dk_153 0 51 (dk_at dksX1_order_2 21 rfl rfl)
theorem dX1_order_88 : decode cX1_order 88 = .ok (.iconst 1, 1) := dk_4 (dk_at dksX1_order_3 0 rfl rfl)
theorem dX1_order_89 : decode cX1_order 89 = .ok (.istore 4, 2) := dk_54 4 (dk_at dksX1_order_3 1 rfl rfl)
theorem dX1_order_91 : decode cX1_order 91 = .ok (.goto 45, 3) := dk_167 0 45 (dk_at dksX1_order_3 3 rfl rfl)
theorem dX1_order_94 : decode cX1_order 94 = .ok (.aload_n 3, 1) := dk_45 (dk_at dksX1_order_3 6 rfl rfl)
theorem dX1_order_95 : decode cX1_order 95 = .ok (.ldc 52, 2) := dk_18 52 (dk_at dksX1_order_3 7 rfl rfl)
theorem dX1_order_97 : decode cX1_order 97 = .ok (.invokevirtual 331, 3) := dk_182 1 75 (dk_at dksX1_order_3 9 rfl rfl)
theorem dX1_order_100 : decode cX1_order 100 = .ok (.ifCond .eq 36, 3) := dk_153 0 36 (dk_at dksX1_order_3 12 rfl rfl)
theorem dX1_order_103 : decode cX1_order 103 = .ok (.iconst 2, 1) := dk_5 (dk_at dksX1_order_3 15 rfl rfl)
theorem dX1_order_104 : decode cX1_order 104 = .ok (.istore 4, 2) := dk_54 4 (dk_at dksX1_order_3 16 rfl rfl)
theorem dX1_order_106 : decode cX1_order 106 = .ok (.goto 30, 3) := dk_167 0 30 (dk_at dksX1_order_3 18 rfl rfl)
theorem dX1_order_109 : decode cX1_order 109 = .ok (.aload_n 3, 1) := dk_45 (dk_at dksX1_order_3 21 rfl rfl)
theorem dX1_order_110 : decode cX1_order 110 = .ok (.ldc 46, 2) := dk_18 46 (dk_at dksX1_order_3 22 rfl rfl)
theorem dX1_order_112 : decode cX1_order 112 = .ok (.invokevirtual 331, 3) := dk_182 1 75 (dk_at dksX1_order_4 0 rfl rfl)
theorem dX1_order_115 : decode cX1_order 115 = .ok (.ifCond .eq 21, 3) := dk_153 0 21 (dk_at dksX1_order_4 3 rfl rfl)
theorem dX1_order_118 : decode cX1_order 118 = .ok (.iconst 3, 1) := dk_6 (dk_at dksX1_order_4 6 rfl rfl)
theorem dX1_order_119 : decode cX1_order 119 = .ok (.istore 4, 2) := dk_54 4 (dk_at dksX1_order_4 7 rfl rfl)
theorem dX1_order_121 : decode cX1_order 121 = .ok (.goto 15, 3) := dk_167 0 15 (dk_at dksX1_order_4 9 rfl rfl)
theorem dX1_order_124 : decode cX1_order 124 = .ok (.aload_n 3, 1) := dk_45 (dk_at dksX1_order_4 12 rfl rfl)
theorem dX1_order_125 : decode cX1_order 125 = .ok (.ldc 48, 2) := dk_18 48 (dk_at dksX1_order_4 13 rfl rfl)
theorem dX1_order_127 : decode cX1_order 127 = .ok (.invokevirtual 331, 3) := dk_182 1 75 (dk_at dksX1_order_4 15 rfl rfl)
theorem dX1_order_130 : decode cX1_order 130 = .ok (.ifCond .eq 6, 3) := dk_153 0 6 (dk_at dksX1_order_4 18 rfl rfl)
theorem dX1_order_133 : decode cX1_order 133 = .ok (.iconst 4, 1) := dk_7 (dk_at dksX1_order_4 21 rfl rfl)
theorem dX1_order_134 : decode cX1_order 134 = .ok (.istore 4, 2) := dk_54 4 (dk_at dksX1_order_4 22 rfl rfl)
theorem dX1_order_136 : decode cX1_order 136 = .ok (.iload 4, 2) := dk_21 4 (dk_at dksX1_order_5 0 rfl rfl)
theorem dX1_order_138 : decode cX1_order 138 = .ok (.tableswitch 117 0 4 #[34, 34, 66, 98, 98], 34) := by decide +kernel
theorem dX1_order_172 : decode cX1_order 172 = .ok (.aload_n 0, 1) := dk_42 (dk_at dksX1_order_7 0 rfl rfl)
theorem dX1_order_173 : decode cX1_order 173 = .ok (.invokevirtual 294, 3) := dk_182 1 38 (dk_at dksX1_order_7 1 rfl rfl)
theorem dX1_order_176 : decode cX1_order 176 = .ok (.istore_n 2, 1) := dk_61 (dk_at dksX1_order_7 4 rfl rfl)
theorem dX1_order_177 : decode cX1_order 177 = .ok (.aload_n 0, 1) := dk_42 (dk_at dksX1_order_7 5 rfl rfl)
theorem dX1_order_178 : decode cX1_order 178 = .ok (.invokevirtual 335, 3) := dk_182 1 79 (dk_at dksX1_order_7 6 rfl rfl)
theorem dX1_order_181 : decode cX1_order 181 = .ok (.new 338, 3) := dk_187 1 82 (dk_at dksX1_order_7 9 rfl rfl)
theorem dX1_order_184 : decode cX1_order 184 = .ok (.dup, 1) := dk_89 (dk_at dksX1_order_7 12 rfl rfl)
theorem dX1_order_185 : decode cX1_order 185 = .ok (.aload_n 1, 1) := dk_43 (dk_at dksX1_order_7 13 rfl rfl)
theorem dX1_order_186 : decode cX1_order 186 = .ok (.iconst 2, 1) := dk_5 (dk_at dksX1_order_7 14 rfl rfl)
theorem dX1_order_187 : decode cX1_order 187 = .ok (.newarray .int, 2) := dk_188_10 (dk_at dksX1_order_7 15 rfl rfl)
theorem dX1_order_189 : decode cX1_order 189 = .ok (.dup, 1) := dk_89 (dk_at dksX1_order_7 17 rfl rfl)
theorem dX1_order_190 : decode cX1_order 190 = .ok (.iconst 0, 1) := dk_3 (dk_at dksX1_order_7 18 rfl rfl)
theorem dX1_order_191 : decode cX1_order 191 = .ok (.iload_n 2, 1) := dk_28 (dk_at dksX1_order_7 19 rfl rfl)
theorem dX1_order_192 : decode cX1_order 192 = .ok (.iastore, 1) := dk_79 (dk_at dksX1_order_7 20 rfl rfl)
theorem dX1_order_193 : decode cX1_order 193 = .ok (.dup, 1) := dk_89 (dk_at dksX1_order_7 21 rfl rfl)
theorem dX1_order_194 : decode cX1_order 194 = .ok (.iconst 1, 1) := dk_4 (dk_at dksX1_order_7 22 rfl rfl)
theorem dX1_order_195 : decode cX1_order 195 = .ok (.aload_n 0, 1) := dk_42 (dk_at dksX1_order_7 23 rfl rfl)
theorem dX1_order_196 : decode cX1_order 196 = .ok (.invokevirtual 340, 3) := dk_182 1 84 (dk_at dksX1_order_8 0 rfl rfl)
theorem dX1_order_199 : decode cX1_order 199 = .ok (.iastore, 1) := dk_79 (dk_at dksX1_order_8 3 rfl rfl)
theorem dX1_order_200 : decode cX1_order 200 = .ok (.invokespecial 343, 3) := dk_183 1 87 (dk_at dksX1_order_8 4 rfl rfl)
theorem dX1_order_203 : decode cX1_order 203 = .ok (.areturn, 1) := dk_176 (dk_at dksX1_order_8 7 rfl rfl)
theorem dX1_order_204 : decode cX1_order 204 = .ok (.aload_n 0, 1) := dk_42 (dk_at dksX1_order_8 8 rfl rfl)
theorem dX1_order_205 : decode cX1_order 205 = .ok (.invokevirtual 340, 3) := dk_182 1 84 (dk_at dksX1_order_8 9 rfl rfl)
theorem dX1_order_208 : decode cX1_order 208 = .ok (.istore_n 2, 1) := dk_61 (dk_at dksX1_order_8 12 rfl rfl)
theorem dX1_order_209 : decode cX1_order 209 = .ok (.aload_n 0, 1) := dk_42 (dk_at dksX1_order_8 13 rfl rfl)
theorem dX1_order_210 : decode cX1_order 210 = .ok (.invokevirtual 335, 3) := dk_182 1 79 (dk_at dksX1_order_8 14 rfl rfl)
theorem dX1_order_213 : decode cX1_order 213 = .ok (.new 338, 3) := dk_187 1 82 (dk_at dksX1_order_8 17 rfl rfl)
theorem dX1_order_216 : decode cX1_order 216 = .ok (.dup, 1) := dk_89 (dk_at dksX1_order_8 20 rfl rfl)
theorem dX1_order_217 : decode cX1_order 217 = .ok (.aload_n 1, 1) := dk_43 (dk_at dksX1_order_8 21 rfl rfl)
theorem dX1_order_218 : decode cX1_order 218 = .ok (.iconst 2, 1) := dk_5 (dk_at dksX1_order_8 22 rfl rfl)
theorem dX1_order_219 : decode cX1_order 219 = .ok (.newarray .int, 2) := dk_188_10 (dk_at dksX1_order_9 0 rfl rfl)
theorem dX1_order_221 : decode cX1_order 221 = .ok (.dup, 1) := dk_89 (dk_at dksX1_order_9 2 rfl rfl)
theorem dX1_order_222 : decode cX1_order 222 = .ok (.iconst 0, 1) := dk_3 (dk_at dksX1_order_9 3 rfl rfl)
theorem dX1_order_223 : decode cX1_order 223 = .ok (.iload_n 2, 1) := dk_28 (dk_at dksX1_order_9 4 rfl rfl)
theorem dX1_order_224 : decode cX1_order 224 = .ok (.iastore, 1) := dk_79 (dk_at dksX1_order_9 5 rfl rfl)
theorem dX1_order_225 : decode cX1_order 225 = .ok (.dup, 1) := dk_89 (dk_at dksX1_order_9 6 rfl rfl)
theorem dX1_order_226 : decode cX1_order 226 = .ok (.iconst 1, 1) := dk_4 (dk_at dksX1_order_9 7 rfl rfl)
theorem dX1_order_227 : decode cX1_order 227 = .ok (.aload_n 0, 1) := dk_42 (dk_at dksX1_order_9 8 rfl rfl)
theorem dX1_order_228 : decode cX1_order 228 = .ok (.invokevirtual 294, 3) := dk_182 1 38 (dk_at dksX1_order_9 9 rfl rfl)
theorem dX1_order_231 : decode cX1_order 231 = .ok (.iastore, 1) := dk_79 (dk_at dksX1_order_9 12 rfl rfl)
theorem dX1_order_232 : decode cX1_order 232 = .ok (.invokespecial 343, 3) := dk_183 1 87 (dk_at dksX1_order_9 13 rfl rfl)
theorem dX1_order_235 : decode cX1_order 235 = .ok (.areturn, 1) := dk_176 (dk_at dksX1_order_9 16 rfl rfl)
theorem dX1_order_236 : decode cX1_order 236 = .ok (.new 338, 3) := dk_187 1 82 (dk_at dksX1_order_9 17 rfl rfl)
theorem dX1_order_239 : decode cX1_order 239 = .ok (.dup, 1) := dk_89 (dk_at dksX1_order_9 20 rfl rfl)
theorem dX1_order_240 : decode cX1_order 240 = .ok (.aload_n 1, 1) := dk_43 (dk_at dksX1_order_9 21 rfl rfl)
theorem dX1_order_241 : decode cX1_order 241 = .ok (.iconst 1, 1) := dk_4 (dk_at dksX1_order_9 22 rfl rfl)
theorem dX1_order_242 : decode cX1_order 242 = .ok (.newarray .int, 2) := dk_188_10 (dk_at dksX1_order_10 0 rfl rfl)
theorem dX1_order_244 : decode cX1_order 244 = .ok (.dup, 1) := dk_89 (dk_at dksX1_order_10 2 rfl rfl)
theorem dX1_order_245 : decode cX1_order 245 = .ok (.iconst 0, 1) := dk_3 (dk_at dksX1_order_10 3 rfl rfl)
theorem dX1_order_246 : decode cX1_order 246 = .ok (.aload_n 0, 1) := dk_42 (dk_at dksX1_order_10 4 rfl rfl)
theorem dX1_order_247 : decode cX1_order 247 = .ok (.invokevirtual 294, 3) := dk_182 1 38 (dk_at dksX1_order_10 5 rfl rfl)
theorem dX1_order_250 : decode cX1_order 250 = .ok (.iastore, 1) := dk_79 (dk_at dksX1_order_10 8 rfl rfl)
theorem dX1_order_251 : decode cX1_order 251 = .ok (.invokespecial 343, 3) := dk_183 1 87 (dk_at dksX1_order_10 9 rfl rfl)
theorem dX1_order_254 : decode cX1_order 254 = .ok (.areturn, 1) := dk_176 (dk_at dksX1_order_10 12 rfl rfl)
theorem dX1_order_255 : decode cX1_order 255 = .ok (.new 338, 3) := dk_187 1 82 (dk_at dksX1_order_10 13 rfl rfl)
theorem dX1_order_258 : decode cX1_order 258 = .ok (.dup, 1) := dk_89 (dk_at dksX1_order_10 16 rfl rfl)
theorem dX1_order_259 : decode cX1_order 259 = .ok (.aload_n 1, 1) := dk_43 (dk_at dksX1_order_10 17 rfl rfl)
theorem dX1_order_260 : decode cX1_order 260 = .ok (.iconst 1, 1) := dk_4 (dk_at dksX1_order_10 18 rfl rfl)
theorem dX1_order_261 : decode cX1_order 261 = .ok (.newarray .int, 2) := dk_188_10 (dk_at dksX1_order_10 19 rfl rfl)
theorem dX1_order_263 : decode cX1_order 263 = .ok (.dup, 1) := dk_89 (dk_at dksX1_order_10 21 rfl rfl)
theorem dX1_order_264 : decode cX1_order 264 = .ok (.iconst 0, 1) := dk_3 (dk_at dksX1_order_10 22 rfl rfl)
theorem dX1_order_265 : decode cX1_order 265 = .ok (.aload_n 0, 1) := dk_42 (dk_at dksX1_order_10 23 rfl rfl)
theorem dX1_order_266 : decode cX1_order 266 = .ok (.invokevirtual 340, 3) := dk_182 1 84 (dk_at dksX1_order_11 0 rfl rfl)
theorem dX1_order_269 : decode cX1_order 269 = .ok (.iastore, 1) := dk_79 (dk_at dksX1_order_11 3 rfl rfl)
theorem dX1_order_270 : decode cX1_order 270 = .ok (.invokespecial 343, 3) := dk_183 1 87 (dk_at dksX1_order_11 4 rfl rfl)
theorem dX1_order_273 : decode cX1_order 273 = .ok (.areturn, 1) := dk_176 (dk_at dksX1_order_11 7 rfl rfl)
abbrev cX1_word : ByteArray := prog_1_method_39_code
def yX1_word : MethodName := ⟨RX1, "word", "()Ljava/lang/String;"⟩
def dkwX1_word_3 : List UInt8 := [167, 255, 201, 42, 89, 180, 1, 24, 27, 96, 181, 1, 24, 187, 1, 35, 89, 183, 1, 37, 191]
abbrev dktX1_word_3 : List UInt8 := dkwX1_word_3 ++ []
def dkwX1_word_2 : List UInt8 := [160, 0, 16, 42, 89, 180, 1, 24, 21, 4, 96, 181, 1, 24, 45, 176, 27, 21, 4, 184, 1, 63, 60]
abbrev dktX1_word_2 : List UInt8 := dkwX1_word_2 ++ dktX1_word_3
def dkwX1_word_1 : List UInt8 := [185, 1, 55, 1, 0, 192, 1, 42, 78, 42, 45, 182, 1, 59, 54, 4, 21, 4, 45, 182, 1, 41]
abbrev dktX1_word_1 : List UInt8 := dkwX1_word_1 ++ dktX1_word_2
def dkwX1_word_0 : List UInt8 := [3, 60, 42, 180, 0, 59, 185, 1, 45, 1, 0, 77, 44, 185, 1, 49, 1, 0, 153, 0, 52, 44]
abbrev dktX1_word_0 : List UInt8 := dkwX1_word_0 ++ dktX1_word_1
theorem dksX1_word_0 : cX1_word.data.toList.drop 0 = dktX1_word_0 := by decide +kernel
theorem dksX1_word_1 : cX1_word.data.toList.drop 22 = dktX1_word_1 := dk_seg dksX1_word_0 22 rfl rfl
theorem dksX1_word_2 : cX1_word.data.toList.drop 44 = dktX1_word_2 := dk_seg dksX1_word_1 22 rfl rfl
theorem dksX1_word_3 : cX1_word.data.toList.drop 67 = dktX1_word_3 := dk_seg dksX1_word_2 23 rfl rfl
theorem dX1_word_0 : decode cX1_word 0 = .ok (.iconst 0, 1) := dk_3 (dk_at dksX1_word_0 0 rfl rfl)
theorem dX1_word_1 : decode cX1_word 1 = .ok (.istore_n 1, 1) := dk_60 (dk_at dksX1_word_0 1 rfl rfl)
theorem dX1_word_2 : decode cX1_word 2 = .ok (.aload_n 0, 1) := dk_42 (dk_at dksX1_word_0 2 rfl rfl)
theorem dX1_word_3 : decode cX1_word 3 = .ok (.getfield 59, 3) := dk_180 0 59 (dk_at dksX1_word_0 3 rfl rfl)
theorem dX1_word_6 : decode cX1_word 6 = .ok (.invokeinterface 301 1, 5) := by decide +kernel
theorem dX1_word_11 : decode cX1_word 11 = .ok (.astore_n 2, 1) := dk_77 (dk_at dksX1_word_0 11 rfl rfl)
theorem dX1_word_12 : decode cX1_word 12 = .ok (.aload_n 2, 1) := dk_44 (dk_at dksX1_word_0 12 rfl rfl)
theorem dX1_word_13 : decode cX1_word 13 = .ok (.invokeinterface 305 1, 5) := by decide +kernel
theorem dX1_word_18 : decode cX1_word 18 = .ok (.ifCond .eq 52, 3) := dk_153 0 52 (dk_at dksX1_word_0 18 rfl rfl)
theorem dX1_word_21 : decode cX1_word 21 = .ok (.aload_n 2, 1) := dk_44 (dk_at dksX1_word_0 21 rfl rfl)
theorem dX1_word_22 : decode cX1_word 22 = .ok (.invokeinterface 311 1, 5) := by decide +kernel
theorem dX1_word_27 : decode cX1_word 27 = .ok (.checkcast 298, 3) := dk_192 1 42 (dk_at dksX1_word_1 5 rfl rfl)
theorem dX1_word_30 : decode cX1_word 30 = .ok (.astore_n 3, 1) := dk_78 (dk_at dksX1_word_1 8 rfl rfl)
theorem dX1_word_31 : decode cX1_word 31 = .ok (.aload_n 0, 1) := dk_42 (dk_at dksX1_word_1 9 rfl rfl)
theorem dX1_word_32 : decode cX1_word 32 = .ok (.aload_n 3, 1) := dk_45 (dk_at dksX1_word_1 10 rfl rfl)
theorem dX1_word_33 : decode cX1_word 33 = .ok (.invokevirtual 315, 3) := dk_182 1 59 (dk_at dksX1_word_1 11 rfl rfl)
theorem dX1_word_36 : decode cX1_word 36 = .ok (.istore 4, 2) := dk_54 4 (dk_at dksX1_word_1 14 rfl rfl)
theorem dX1_word_38 : decode cX1_word 38 = .ok (.iload 4, 2) := dk_21 4 (dk_at dksX1_word_1 16 rfl rfl)
theorem dX1_word_40 : decode cX1_word 40 = .ok (.aload_n 3, 1) := dk_45 (dk_at dksX1_word_1 18 rfl rfl)
theorem dX1_word_41 : decode cX1_word 41 = .ok (.invokevirtual 297, 3) := dk_182 1 41 (dk_at dksX1_word_1 19 rfl rfl)
theorem dX1_word_44 : decode cX1_word 44 = .ok (.if_icmp .ne 16, 3) := dk_160 0 16 (dk_at dksX1_word_2 0 rfl rfl)
theorem dX1_word_47 : decode cX1_word 47 = .ok (.aload_n 0, 1) := dk_42 (dk_at dksX1_word_2 3 rfl rfl)
theorem dX1_word_48 : decode cX1_word 48 = .ok (.dup, 1) := dk_89 (dk_at dksX1_word_2 4 rfl rfl)
theorem dX1_word_49 : decode cX1_word 49 = .ok (.getfield 280, 3) := dk_180 1 24 (dk_at dksX1_word_2 5 rfl rfl)
theorem dX1_word_52 : decode cX1_word 52 = .ok (.iload 4, 2) := dk_21 4 (dk_at dksX1_word_2 8 rfl rfl)
theorem dX1_word_54 : decode cX1_word 54 = .ok (.iadd, 1) := dk_96 (dk_at dksX1_word_2 10 rfl rfl)
theorem dX1_word_55 : decode cX1_word 55 = .ok (.putfield 280, 3) := dk_181 1 24 (dk_at dksX1_word_2 11 rfl rfl)
theorem dX1_word_58 : decode cX1_word 58 = .ok (.aload_n 3, 1) := dk_45 (dk_at dksX1_word_2 14 rfl rfl)
theorem dX1_word_59 : decode cX1_word 59 = .ok (.areturn, 1) := dk_176 (dk_at dksX1_word_2 15 rfl rfl)
theorem dX1_word_60 : decode cX1_word 60 = .ok (.iload_n 1, 1) := dk_27 (dk_at dksX1_word_2 16 rfl rfl)
theorem dX1_word_61 : decode cX1_word 61 = .ok (.iload 4, 2) := dk_21 4 (dk_at dksX1_word_2 17 rfl rfl)
theorem dX1_word_63 : decode cX1_word 63 = .ok (.invokestatic 319, 3) := dk_184 1 63 (dk_at dksX1_word_2 19 rfl rfl)
theorem dX1_word_66 : decode cX1_word 66 = .ok (.istore_n 1, 1) := dk_60 (dk_at dksX1_word_2 22 rfl rfl)
theorem dX1_word_67 : decode cX1_word 67 = .ok (.goto (-55), 3) := dk_167 255 201 (dk_at dksX1_word_3 0 rfl rfl)
theorem dX1_word_70 : decode cX1_word 70 = .ok (.aload_n 0, 1) := dk_42 (dk_at dksX1_word_3 3 rfl rfl)
theorem dX1_word_71 : decode cX1_word 71 = .ok (.dup, 1) := dk_89 (dk_at dksX1_word_3 4 rfl rfl)
theorem dX1_word_72 : decode cX1_word 72 = .ok (.getfield 280, 3) := dk_180 1 24 (dk_at dksX1_word_3 5 rfl rfl)
theorem dX1_word_75 : decode cX1_word 75 = .ok (.iload_n 1, 1) := dk_27 (dk_at dksX1_word_3 8 rfl rfl)
theorem dX1_word_76 : decode cX1_word 76 = .ok (.iadd, 1) := dk_96 (dk_at dksX1_word_3 9 rfl rfl)
theorem dX1_word_77 : decode cX1_word 77 = .ok (.putfield 280, 3) := dk_181 1 24 (dk_at dksX1_word_3 10 rfl rfl)
theorem dX1_word_80 : decode cX1_word 80 = .ok (.new 291, 3) := dk_187 1 35 (dk_at dksX1_word_3 13 rfl rfl)
theorem dX1_word_83 : decode cX1_word 83 = .ok (.dup, 1) := dk_89 (dk_at dksX1_word_3 16 rfl rfl)
theorem dX1_word_84 : decode cX1_word 84 = .ok (.invokespecial 293, 3) := dk_183 1 37 (dk_at dksX1_word_3 17 rfl rfl)
theorem dX1_word_87 : decode cX1_word 87 = .ok (.athrow, 1) := dk_191 (dk_at dksX1_word_3 20 rfl rfl)
abbrev cX1_begun : ByteArray := prog_1_method_38_code
def yX1_begun : MethodName := ⟨RX1, "begun", "(Ljava/lang/String;)I"⟩
def dkwX1_begun_2 : List UInt8 := [132, 2, 1, 167, 255, 208, 28, 172]
abbrev dktX1_begun_2 : List UInt8 := dkwX1_begun_2 ++ []
def dkwX1_begun_1 : List UInt8 := [162, 0, 30, 42, 180, 0, 91, 42, 180, 1, 24, 28, 96, 182, 1, 27, 43, 28, 182, 1, 44, 160, 0, 9]
abbrev dktX1_begun_1 : List UInt8 := dkwX1_begun_1 ++ dktX1_begun_2
def dkwX1_begun_0 : List UInt8 := [3, 61, 28, 43, 182, 1, 41, 162, 0, 46, 42, 180, 1, 24, 28, 96, 42, 180, 0, 91, 182, 1, 11]
abbrev dktX1_begun_0 : List UInt8 := dkwX1_begun_0 ++ dktX1_begun_1
theorem dksX1_begun_0 : cX1_begun.data.toList.drop 0 = dktX1_begun_0 := by decide +kernel
theorem dksX1_begun_1 : cX1_begun.data.toList.drop 23 = dktX1_begun_1 := dk_seg dksX1_begun_0 23 rfl rfl
theorem dksX1_begun_2 : cX1_begun.data.toList.drop 47 = dktX1_begun_2 := dk_seg dksX1_begun_1 24 rfl rfl
theorem dX1_begun_0 : decode cX1_begun 0 = .ok (.iconst 0, 1) := dk_3 (dk_at dksX1_begun_0 0 rfl rfl)
theorem dX1_begun_1 : decode cX1_begun 1 = .ok (.istore_n 2, 1) := dk_61 (dk_at dksX1_begun_0 1 rfl rfl)
theorem dX1_begun_2 : decode cX1_begun 2 = .ok (.iload_n 2, 1) := dk_28 (dk_at dksX1_begun_0 2 rfl rfl)
theorem dX1_begun_3 : decode cX1_begun 3 = .ok (.aload_n 1, 1) := dk_43 (dk_at dksX1_begun_0 3 rfl rfl)
theorem dX1_begun_4 : decode cX1_begun 4 = .ok (.invokevirtual 297, 3) := dk_182 1 41 (dk_at dksX1_begun_0 4 rfl rfl)
theorem dX1_begun_7 : decode cX1_begun 7 = .ok (.if_icmp .ge 46, 3) := dk_162 0 46 (dk_at dksX1_begun_0 7 rfl rfl)
theorem dX1_begun_10 : decode cX1_begun 10 = .ok (.aload_n 0, 1) := dk_42 (dk_at dksX1_begun_0 10 rfl rfl)
theorem dX1_begun_11 : decode cX1_begun 11 = .ok (.getfield 280, 3) := dk_180 1 24 (dk_at dksX1_begun_0 11 rfl rfl)
theorem dX1_begun_14 : decode cX1_begun 14 = .ok (.iload_n 2, 1) := dk_28 (dk_at dksX1_begun_0 14 rfl rfl)
theorem dX1_begun_15 : decode cX1_begun 15 = .ok (.iadd, 1) := dk_96 (dk_at dksX1_begun_0 15 rfl rfl)
theorem dX1_begun_16 : decode cX1_begun 16 = .ok (.aload_n 0, 1) := dk_42 (dk_at dksX1_begun_0 16 rfl rfl)
theorem dX1_begun_17 : decode cX1_begun 17 = .ok (.getfield 91, 3) := dk_180 0 91 (dk_at dksX1_begun_0 17 rfl rfl)
theorem dX1_begun_20 : decode cX1_begun 20 = .ok (.invokevirtual 267, 3) := dk_182 1 11 (dk_at dksX1_begun_0 20 rfl rfl)
theorem dX1_begun_23 : decode cX1_begun 23 = .ok (.if_icmp .ge 30, 3) := dk_162 0 30 (dk_at dksX1_begun_1 0 rfl rfl)
theorem dX1_begun_26 : decode cX1_begun 26 = .ok (.aload_n 0, 1) := dk_42 (dk_at dksX1_begun_1 3 rfl rfl)
theorem dX1_begun_27 : decode cX1_begun 27 = .ok (.getfield 91, 3) := dk_180 0 91 (dk_at dksX1_begun_1 4 rfl rfl)
theorem dX1_begun_30 : decode cX1_begun 30 = .ok (.aload_n 0, 1) := dk_42 (dk_at dksX1_begun_1 7 rfl rfl)
theorem dX1_begun_31 : decode cX1_begun 31 = .ok (.getfield 280, 3) := dk_180 1 24 (dk_at dksX1_begun_1 8 rfl rfl)
theorem dX1_begun_34 : decode cX1_begun 34 = .ok (.iload_n 2, 1) := dk_28 (dk_at dksX1_begun_1 11 rfl rfl)
theorem dX1_begun_35 : decode cX1_begun 35 = .ok (.iadd, 1) := dk_96 (dk_at dksX1_begun_1 12 rfl rfl)
theorem dX1_begun_36 : decode cX1_begun 36 = .ok (.invokevirtual 283, 3) := dk_182 1 27 (dk_at dksX1_begun_1 13 rfl rfl)
theorem dX1_begun_39 : decode cX1_begun 39 = .ok (.aload_n 1, 1) := dk_43 (dk_at dksX1_begun_1 16 rfl rfl)
theorem dX1_begun_40 : decode cX1_begun 40 = .ok (.iload_n 2, 1) := dk_28 (dk_at dksX1_begun_1 17 rfl rfl)
theorem dX1_begun_41 : decode cX1_begun 41 = .ok (.invokevirtual 300, 3) := dk_182 1 44 (dk_at dksX1_begun_1 18 rfl rfl)
theorem dX1_begun_44 : decode cX1_begun 44 = .ok (.if_icmp .ne 9, 3) := dk_160 0 9 (dk_at dksX1_begun_1 21 rfl rfl)
theorem dX1_begun_47 : decode cX1_begun 47 = .ok (.iinc 2 1, 3) := dk_132 2 1 (dk_at dksX1_begun_2 0 rfl rfl)
theorem dX1_begun_50 : decode cX1_begun 50 = .ok (.goto (-48), 3) := dk_167 255 208 (dk_at dksX1_begun_2 3 rfl rfl)
theorem dX1_begun_53 : decode cX1_begun 53 = .ok (.iload_n 2, 1) := dk_28 (dk_at dksX1_begun_2 6 rfl rfl)
theorem dX1_begun_54 : decode cX1_begun 54 = .ok (.ireturn, 1) := dk_172 (dk_at dksX1_begun_2 7 rfl rfl)
abbrev cX1_digit : ByteArray := prog_1_method_35_code
def yX1_digit : MethodName := ⟨RX1, "digit", "()I"⟩
def dkwX1_digit_1 : List UInt8 := [4, 96, 181, 1, 24, 42, 180, 0, 91, 42, 180, 1, 24, 4, 100, 182, 1, 27, 16, 48, 100, 172]
abbrev dktX1_digit_1 : List UInt8 := dkwX1_digit_1 ++ []
def dkwX1_digit_0 : List UInt8 := [42, 16, 48, 16, 57, 182, 1, 31, 154, 0, 11, 187, 1, 35, 89, 183, 1, 37, 191, 42, 89, 180, 1, 24]
abbrev dktX1_digit_0 : List UInt8 := dkwX1_digit_0 ++ dktX1_digit_1
theorem dksX1_digit_0 : cX1_digit.data.toList.drop 0 = dktX1_digit_0 := by decide +kernel
theorem dksX1_digit_1 : cX1_digit.data.toList.drop 24 = dktX1_digit_1 := dk_seg dksX1_digit_0 24 rfl rfl
theorem dX1_digit_0 : decode cX1_digit 0 = .ok (.aload_n 0, 1) := dk_42 (dk_at dksX1_digit_0 0 rfl rfl)
theorem dX1_digit_1 : decode cX1_digit 1 = .ok (.bipush 48, 2) := dk_16 48 (dk_at dksX1_digit_0 1 rfl rfl)
theorem dX1_digit_3 : decode cX1_digit 3 = .ok (.bipush 57, 2) := dk_16 57 (dk_at dksX1_digit_0 3 rfl rfl)
theorem dX1_digit_5 : decode cX1_digit 5 = .ok (.invokevirtual 287, 3) := dk_182 1 31 (dk_at dksX1_digit_0 5 rfl rfl)
theorem dX1_digit_8 : decode cX1_digit 8 = .ok (.ifCond .ne 11, 3) := dk_154 0 11 (dk_at dksX1_digit_0 8 rfl rfl)
theorem dX1_digit_11 : decode cX1_digit 11 = .ok (.new 291, 3) := dk_187 1 35 (dk_at dksX1_digit_0 11 rfl rfl)
theorem dX1_digit_14 : decode cX1_digit 14 = .ok (.dup, 1) := dk_89 (dk_at dksX1_digit_0 14 rfl rfl)
theorem dX1_digit_15 : decode cX1_digit 15 = .ok (.invokespecial 293, 3) := dk_183 1 37 (dk_at dksX1_digit_0 15 rfl rfl)
theorem dX1_digit_18 : decode cX1_digit 18 = .ok (.athrow, 1) := dk_191 (dk_at dksX1_digit_0 18 rfl rfl)
theorem dX1_digit_19 : decode cX1_digit 19 = .ok (.aload_n 0, 1) := dk_42 (dk_at dksX1_digit_0 19 rfl rfl)
theorem dX1_digit_20 : decode cX1_digit 20 = .ok (.dup, 1) := dk_89 (dk_at dksX1_digit_0 20 rfl rfl)
theorem dX1_digit_21 : decode cX1_digit 21 = .ok (.getfield 280, 3) := dk_180 1 24 (dk_at dksX1_digit_0 21 rfl rfl)
theorem dX1_digit_24 : decode cX1_digit 24 = .ok (.iconst 1, 1) := dk_4 (dk_at dksX1_digit_1 0 rfl rfl)
theorem dX1_digit_25 : decode cX1_digit 25 = .ok (.iadd, 1) := dk_96 (dk_at dksX1_digit_1 1 rfl rfl)
theorem dX1_digit_26 : decode cX1_digit 26 = .ok (.putfield 280, 3) := dk_181 1 24 (dk_at dksX1_digit_1 2 rfl rfl)
theorem dX1_digit_29 : decode cX1_digit 29 = .ok (.aload_n 0, 1) := dk_42 (dk_at dksX1_digit_1 5 rfl rfl)
theorem dX1_digit_30 : decode cX1_digit 30 = .ok (.getfield 91, 3) := dk_180 0 91 (dk_at dksX1_digit_1 6 rfl rfl)
theorem dX1_digit_33 : decode cX1_digit 33 = .ok (.aload_n 0, 1) := dk_42 (dk_at dksX1_digit_1 9 rfl rfl)
theorem dX1_digit_34 : decode cX1_digit 34 = .ok (.getfield 280, 3) := dk_180 1 24 (dk_at dksX1_digit_1 10 rfl rfl)
theorem dX1_digit_37 : decode cX1_digit 37 = .ok (.iconst 1, 1) := dk_4 (dk_at dksX1_digit_1 13 rfl rfl)
theorem dX1_digit_38 : decode cX1_digit 38 = .ok (.isub, 1) := dk_100 (dk_at dksX1_digit_1 14 rfl rfl)
theorem dX1_digit_39 : decode cX1_digit 39 = .ok (.invokevirtual 283, 3) := dk_182 1 27 (dk_at dksX1_digit_1 15 rfl rfl)
theorem dX1_digit_42 : decode cX1_digit 42 = .ok (.bipush 48, 2) := dk_16 48 (dk_at dksX1_digit_1 18 rfl rfl)
theorem dX1_digit_44 : decode cX1_digit 44 = .ok (.isub, 1) := dk_100 (dk_at dksX1_digit_1 20 rfl rfl)
theorem dX1_digit_45 : decode cX1_digit 45 = .ok (.ireturn, 1) := dk_172 (dk_at dksX1_digit_1 21 rfl rfl)
abbrev cX1_isHere : ByteArray := prog_1_method_34_code
def yX1_isHere : MethodName := ⟨RX1, "isHere", "(CC)Z"⟩
def dkwX1_isHere_1 : List UInt8 := [182, 1, 27, 27, 28, 184, 0, 143, 153, 0, 7, 4, 167, 0, 4, 3, 172]
abbrev dktX1_isHere_1 : List UInt8 := dkwX1_isHere_1 ++ []
def dkwX1_isHere_0 : List UInt8 := [42, 180, 1, 24, 42, 180, 0, 91, 182, 1, 11, 162, 0, 26, 42, 180, 0, 91, 42, 180, 1, 24]
abbrev dktX1_isHere_0 : List UInt8 := dkwX1_isHere_0 ++ dktX1_isHere_1
theorem dksX1_isHere_0 : cX1_isHere.data.toList.drop 0 = dktX1_isHere_0 := by decide +kernel
theorem dksX1_isHere_1 : cX1_isHere.data.toList.drop 22 = dktX1_isHere_1 := dk_seg dksX1_isHere_0 22 rfl rfl
theorem dX1_isHere_0 : decode cX1_isHere 0 = .ok (.aload_n 0, 1) := dk_42 (dk_at dksX1_isHere_0 0 rfl rfl)
theorem dX1_isHere_1 : decode cX1_isHere 1 = .ok (.getfield 280, 3) := dk_180 1 24 (dk_at dksX1_isHere_0 1 rfl rfl)
theorem dX1_isHere_4 : decode cX1_isHere 4 = .ok (.aload_n 0, 1) := dk_42 (dk_at dksX1_isHere_0 4 rfl rfl)
theorem dX1_isHere_5 : decode cX1_isHere 5 = .ok (.getfield 91, 3) := dk_180 0 91 (dk_at dksX1_isHere_0 5 rfl rfl)
theorem dX1_isHere_8 : decode cX1_isHere 8 = .ok (.invokevirtual 267, 3) := dk_182 1 11 (dk_at dksX1_isHere_0 8 rfl rfl)
theorem dX1_isHere_11 : decode cX1_isHere 11 = .ok (.if_icmp .ge 26, 3) := dk_162 0 26 (dk_at dksX1_isHere_0 11 rfl rfl)
theorem dX1_isHere_14 : decode cX1_isHere 14 = .ok (.aload_n 0, 1) := dk_42 (dk_at dksX1_isHere_0 14 rfl rfl)
theorem dX1_isHere_15 : decode cX1_isHere 15 = .ok (.getfield 91, 3) := dk_180 0 91 (dk_at dksX1_isHere_0 15 rfl rfl)
theorem dX1_isHere_18 : decode cX1_isHere 18 = .ok (.aload_n 0, 1) := dk_42 (dk_at dksX1_isHere_0 18 rfl rfl)
theorem dX1_isHere_19 : decode cX1_isHere 19 = .ok (.getfield 280, 3) := dk_180 1 24 (dk_at dksX1_isHere_0 19 rfl rfl)
theorem dX1_isHere_22 : decode cX1_isHere 22 = .ok (.invokevirtual 283, 3) := dk_182 1 27 (dk_at dksX1_isHere_1 0 rfl rfl)
theorem dX1_isHere_25 : decode cX1_isHere 25 = .ok (.iload_n 1, 1) := dk_27 (dk_at dksX1_isHere_1 3 rfl rfl)
theorem dX1_isHere_26 : decode cX1_isHere 26 = .ok (.iload_n 2, 1) := dk_28 (dk_at dksX1_isHere_1 4 rfl rfl)
theorem dX1_isHere_27 : decode cX1_isHere 27 = .ok (.invokestatic 143, 3) := dk_184 0 143 (dk_at dksX1_isHere_1 5 rfl rfl)
theorem dX1_isHere_30 : decode cX1_isHere 30 = .ok (.ifCond .eq 7, 3) := dk_153 0 7 (dk_at dksX1_isHere_1 8 rfl rfl)
theorem dX1_isHere_33 : decode cX1_isHere 33 = .ok (.iconst 1, 1) := dk_4 (dk_at dksX1_isHere_1 11 rfl rfl)
theorem dX1_isHere_34 : decode cX1_isHere 34 = .ok (.goto 4, 3) := dk_167 0 4 (dk_at dksX1_isHere_1 12 rfl rfl)
theorem dX1_isHere_37 : decode cX1_isHere 37 = .ok (.iconst 0, 1) := dk_3 (dk_at dksX1_isHere_1 15 rfl rfl)
theorem dX1_isHere_38 : decode cX1_isHere 38 = .ok (.ireturn, 1) := dk_172 (dk_at dksX1_isHere_1 16 rfl rfl)
abbrev cX1_blank : ByteArray := prog_1_method_37_code
def yX1_blank : MethodName := ⟨RX1, "blank", "()V"⟩
def dkwX1_blank_1 : List UInt8 := [4, 96, 181, 1, 24, 177]
abbrev dktX1_blank_1 : List UInt8 := dkwX1_blank_1 ++ []
def dkwX1_blank_0 : List UInt8 := [42, 16, 32, 16, 32, 182, 1, 31, 154, 0, 11, 187, 1, 35, 89, 183, 1, 37, 191, 42, 89, 180, 1, 24]
abbrev dktX1_blank_0 : List UInt8 := dkwX1_blank_0 ++ dktX1_blank_1
theorem dksX1_blank_0 : cX1_blank.data.toList.drop 0 = dktX1_blank_0 := by decide +kernel
theorem dksX1_blank_1 : cX1_blank.data.toList.drop 24 = dktX1_blank_1 := dk_seg dksX1_blank_0 24 rfl rfl
theorem dX1_blank_0 : decode cX1_blank 0 = .ok (.aload_n 0, 1) := dk_42 (dk_at dksX1_blank_0 0 rfl rfl)
theorem dX1_blank_1 : decode cX1_blank 1 = .ok (.bipush 32, 2) := dk_16 32 (dk_at dksX1_blank_0 1 rfl rfl)
theorem dX1_blank_3 : decode cX1_blank 3 = .ok (.bipush 32, 2) := dk_16 32 (dk_at dksX1_blank_0 3 rfl rfl)
theorem dX1_blank_5 : decode cX1_blank 5 = .ok (.invokevirtual 287, 3) := dk_182 1 31 (dk_at dksX1_blank_0 5 rfl rfl)
theorem dX1_blank_8 : decode cX1_blank 8 = .ok (.ifCond .ne 11, 3) := dk_154 0 11 (dk_at dksX1_blank_0 8 rfl rfl)
theorem dX1_blank_11 : decode cX1_blank 11 = .ok (.new 291, 3) := dk_187 1 35 (dk_at dksX1_blank_0 11 rfl rfl)
theorem dX1_blank_14 : decode cX1_blank 14 = .ok (.dup, 1) := dk_89 (dk_at dksX1_blank_0 14 rfl rfl)
theorem dX1_blank_15 : decode cX1_blank 15 = .ok (.invokespecial 293, 3) := dk_183 1 37 (dk_at dksX1_blank_0 15 rfl rfl)
theorem dX1_blank_18 : decode cX1_blank 18 = .ok (.athrow, 1) := dk_191 (dk_at dksX1_blank_0 18 rfl rfl)
theorem dX1_blank_19 : decode cX1_blank 19 = .ok (.aload_n 0, 1) := dk_42 (dk_at dksX1_blank_0 19 rfl rfl)
theorem dX1_blank_20 : decode cX1_blank 20 = .ok (.dup, 1) := dk_89 (dk_at dksX1_blank_0 20 rfl rfl)
theorem dX1_blank_21 : decode cX1_blank 21 = .ok (.getfield 280, 3) := dk_180 1 24 (dk_at dksX1_blank_0 21 rfl rfl)
theorem dX1_blank_24 : decode cX1_blank 24 = .ok (.iconst 1, 1) := dk_4 (dk_at dksX1_blank_1 0 rfl rfl)
theorem dX1_blank_25 : decode cX1_blank 25 = .ok (.iadd, 1) := dk_96 (dk_at dksX1_blank_1 1 rfl rfl)
theorem dX1_blank_26 : decode cX1_blank 26 = .ok (.putfield 280, 3) := dk_181 1 24 (dk_at dksX1_blank_1 2 rfl rfl)
theorem dX1_blank_29 : decode cX1_blank 29 = .ok (.return_, 1) := dk_177 (dk_at dksX1_blank_1 5 rfl rfl)
abbrev cX1_number : ByteArray := prog_1_method_36_code
def yX1_number : MethodName := ⟨RX1, "number", "()I"⟩
def dkwX1_number_1 : List UInt8 := [16, 10, 27, 104, 42, 182, 1, 38, 96, 60, 132, 2, 1, 167, 255, 227, 27, 172]
abbrev dktX1_number_1 : List UInt8 := dkwX1_number_1 ++ []
def dkwX1_number_0 : List UInt8 := [42, 182, 1, 38, 60, 3, 61, 28, 5, 162, 0, 30, 42, 16, 48, 16, 57, 182, 1, 31, 153, 0, 19]
abbrev dktX1_number_0 : List UInt8 := dkwX1_number_0 ++ dktX1_number_1
theorem dksX1_number_0 : cX1_number.data.toList.drop 0 = dktX1_number_0 := by decide +kernel
theorem dksX1_number_1 : cX1_number.data.toList.drop 23 = dktX1_number_1 := dk_seg dksX1_number_0 23 rfl rfl
theorem dX1_number_0 : decode cX1_number 0 = .ok (.aload_n 0, 1) := dk_42 (dk_at dksX1_number_0 0 rfl rfl)
theorem dX1_number_1 : decode cX1_number 1 = .ok (.invokevirtual 294, 3) := dk_182 1 38 (dk_at dksX1_number_0 1 rfl rfl)
theorem dX1_number_4 : decode cX1_number 4 = .ok (.istore_n 1, 1) := dk_60 (dk_at dksX1_number_0 4 rfl rfl)
theorem dX1_number_5 : decode cX1_number 5 = .ok (.iconst 0, 1) := dk_3 (dk_at dksX1_number_0 5 rfl rfl)
theorem dX1_number_6 : decode cX1_number 6 = .ok (.istore_n 2, 1) := dk_61 (dk_at dksX1_number_0 6 rfl rfl)
theorem dX1_number_7 : decode cX1_number 7 = .ok (.iload_n 2, 1) := dk_28 (dk_at dksX1_number_0 7 rfl rfl)
theorem dX1_number_8 : decode cX1_number 8 = .ok (.iconst 2, 1) := dk_5 (dk_at dksX1_number_0 8 rfl rfl)
theorem dX1_number_9 : decode cX1_number 9 = .ok (.if_icmp .ge 30, 3) := dk_162 0 30 (dk_at dksX1_number_0 9 rfl rfl)
theorem dX1_number_12 : decode cX1_number 12 = .ok (.aload_n 0, 1) := dk_42 (dk_at dksX1_number_0 12 rfl rfl)
theorem dX1_number_13 : decode cX1_number 13 = .ok (.bipush 48, 2) := dk_16 48 (dk_at dksX1_number_0 13 rfl rfl)
theorem dX1_number_15 : decode cX1_number 15 = .ok (.bipush 57, 2) := dk_16 57 (dk_at dksX1_number_0 15 rfl rfl)
theorem dX1_number_17 : decode cX1_number 17 = .ok (.invokevirtual 287, 3) := dk_182 1 31 (dk_at dksX1_number_0 17 rfl rfl)
theorem dX1_number_20 : decode cX1_number 20 = .ok (.ifCond .eq 19, 3) := dk_153 0 19 (dk_at dksX1_number_0 20 rfl rfl)
theorem dX1_number_23 : decode cX1_number 23 = .ok (.bipush 10, 2) := dk_16 10 (dk_at dksX1_number_1 0 rfl rfl)
theorem dX1_number_25 : decode cX1_number 25 = .ok (.iload_n 1, 1) := dk_27 (dk_at dksX1_number_1 2 rfl rfl)
theorem dX1_number_26 : decode cX1_number 26 = .ok (.imul, 1) := dk_104 (dk_at dksX1_number_1 3 rfl rfl)
theorem dX1_number_27 : decode cX1_number 27 = .ok (.aload_n 0, 1) := dk_42 (dk_at dksX1_number_1 4 rfl rfl)
theorem dX1_number_28 : decode cX1_number 28 = .ok (.invokevirtual 294, 3) := dk_182 1 38 (dk_at dksX1_number_1 5 rfl rfl)
theorem dX1_number_31 : decode cX1_number 31 = .ok (.iadd, 1) := dk_96 (dk_at dksX1_number_1 8 rfl rfl)
theorem dX1_number_32 : decode cX1_number 32 = .ok (.istore_n 1, 1) := dk_60 (dk_at dksX1_number_1 9 rfl rfl)
theorem dX1_number_33 : decode cX1_number 33 = .ok (.iinc 2 1, 3) := dk_132 2 1 (dk_at dksX1_number_1 10 rfl rfl)
theorem dX1_number_36 : decode cX1_number 36 = .ok (.goto (-29), 3) := dk_167 255 227 (dk_at dksX1_number_1 13 rfl rfl)
theorem dX1_number_39 : decode cX1_number 39 = .ok (.iload_n 1, 1) := dk_27 (dk_at dksX1_number_1 16 rfl rfl)
theorem dX1_number_40 : decode cX1_number 40 = .ok (.ireturn, 1) := dk_172 (dk_at dksX1_number_1 17 rfl rfl)
abbrev cX1_doScript : ByteArray := prog_1_method_43_code
def yX1_doScript : MethodName := ⟨RX1, "doScript", "()I"⟩
def dkwX1_doScript_3 : List UInt8 := [132, 1, 1, 167, 255, 196, 27, 172]
abbrev dktX1_doScript_3 : List UInt8 := dkwX1_doScript_3 ++ []
def dkwX1_doScript_2 : List UInt8 := [89, 16, 8, 27, 25, 4, 183, 1, 114, 191, 58, 4, 187, 0, 1, 89, 16, 8, 27, 183, 0, 3, 191]
abbrev dktX1_doScript_2 : List UInt8 := dkwX1_doScript_2 ++ dktX1_doScript_3
def dkwX1_doScript_1 : List UInt8 := [185, 1, 55, 1, 0, 192, 1, 82, 78, 42, 45, 182, 1, 110, 54, 4, 167, 0, 31, 58, 4, 187, 0, 1]
abbrev dktX1_doScript_1 : List UInt8 := dkwX1_doScript_1 ++ dktX1_doScript_2
def dkwX1_doScript_0 : List UInt8 := [3, 60, 42, 180, 0, 101, 182, 1, 109, 77, 44, 185, 1, 49, 1, 0, 153, 0, 57, 44]
abbrev dktX1_doScript_0 : List UInt8 := dkwX1_doScript_0 ++ dktX1_doScript_1
theorem dksX1_doScript_0 : cX1_doScript.data.toList.drop 0 = dktX1_doScript_0 := by decide +kernel
theorem dksX1_doScript_1 : cX1_doScript.data.toList.drop 20 = dktX1_doScript_1 := dk_seg dksX1_doScript_0 20 rfl rfl
theorem dksX1_doScript_2 : cX1_doScript.data.toList.drop 44 = dktX1_doScript_2 := dk_seg dksX1_doScript_1 24 rfl rfl
theorem dksX1_doScript_3 : cX1_doScript.data.toList.drop 67 = dktX1_doScript_3 := dk_seg dksX1_doScript_2 23 rfl rfl
theorem dX1_doScript_0 : decode cX1_doScript 0 = .ok (.iconst 0, 1) := dk_3 (dk_at dksX1_doScript_0 0 rfl rfl)
theorem dX1_doScript_1 : decode cX1_doScript 1 = .ok (.istore_n 1, 1) := dk_60 (dk_at dksX1_doScript_0 1 rfl rfl)
theorem dX1_doScript_2 : decode cX1_doScript 2 = .ok (.aload_n 0, 1) := dk_42 (dk_at dksX1_doScript_0 2 rfl rfl)
theorem dX1_doScript_3 : decode cX1_doScript 3 = .ok (.getfield 101, 3) := dk_180 0 101 (dk_at dksX1_doScript_0 3 rfl rfl)
theorem dX1_doScript_6 : decode cX1_doScript 6 = .ok (.invokevirtual 365, 3) := dk_182 1 109 (dk_at dksX1_doScript_0 6 rfl rfl)
theorem dX1_doScript_9 : decode cX1_doScript 9 = .ok (.astore_n 2, 1) := dk_77 (dk_at dksX1_doScript_0 9 rfl rfl)
theorem dX1_doScript_10 : decode cX1_doScript 10 = .ok (.aload_n 2, 1) := dk_44 (dk_at dksX1_doScript_0 10 rfl rfl)
theorem dX1_doScript_11 : decode cX1_doScript 11 = .ok (.invokeinterface 305 1, 5) := by decide +kernel
theorem dX1_doScript_16 : decode cX1_doScript 16 = .ok (.ifCond .eq 57, 3) := dk_153 0 57 (dk_at dksX1_doScript_0 16 rfl rfl)
theorem dX1_doScript_19 : decode cX1_doScript 19 = .ok (.aload_n 2, 1) := dk_44 (dk_at dksX1_doScript_0 19 rfl rfl)
theorem dX1_doScript_20 : decode cX1_doScript 20 = .ok (.invokeinterface 311 1, 5) := by decide +kernel
theorem dX1_doScript_25 : decode cX1_doScript 25 = .ok (.checkcast 338, 3) := dk_192 1 82 (dk_at dksX1_doScript_1 5 rfl rfl)
theorem dX1_doScript_28 : decode cX1_doScript 28 = .ok (.astore_n 3, 1) := dk_78 (dk_at dksX1_doScript_1 8 rfl rfl)
theorem dX1_doScript_29 : decode cX1_doScript 29 = .ok (.aload_n 0, 1) := dk_42 (dk_at dksX1_doScript_1 9 rfl rfl)
theorem dX1_doScript_30 : decode cX1_doScript 30 = .ok (.aload_n 3, 1) := dk_45 (dk_at dksX1_doScript_1 10 rfl rfl)
theorem dX1_doScript_31 : decode cX1_doScript 31 = .ok (.invokevirtual 366, 3) := dk_182 1 110 (dk_at dksX1_doScript_1 11 rfl rfl)
theorem dX1_doScript_34 : decode cX1_doScript 34 = .ok (.istore 4, 2) := dk_54 4 (dk_at dksX1_doScript_1 14 rfl rfl)
theorem dX1_doScript_36 : decode cX1_doScript 36 = .ok (.goto 31, 3) := dk_167 0 31 (dk_at dksX1_doScript_1 16 rfl rfl)
theorem dX1_doScript_39 : decode cX1_doScript 39 = .ok (.astore 4, 2) := dk_58 4 (dk_at dksX1_doScript_1 19 rfl rfl)
theorem dX1_doScript_41 : decode cX1_doScript 41 = .ok (.new 1, 3) := dk_187 0 1 (dk_at dksX1_doScript_1 21 rfl rfl)
theorem dX1_doScript_44 : decode cX1_doScript 44 = .ok (.dup, 1) := dk_89 (dk_at dksX1_doScript_2 0 rfl rfl)
theorem dX1_doScript_45 : decode cX1_doScript 45 = .ok (.bipush 8, 2) := dk_16 8 (dk_at dksX1_doScript_2 1 rfl rfl)
theorem dX1_doScript_47 : decode cX1_doScript 47 = .ok (.iload_n 1, 1) := dk_27 (dk_at dksX1_doScript_2 3 rfl rfl)
theorem dX1_doScript_48 : decode cX1_doScript 48 = .ok (.aload 4, 2) := dk_25 4 (dk_at dksX1_doScript_2 4 rfl rfl)
theorem dX1_doScript_50 : decode cX1_doScript 50 = .ok (.invokespecial 370, 3) := dk_183 1 114 (dk_at dksX1_doScript_2 6 rfl rfl)
theorem dX1_doScript_53 : decode cX1_doScript 53 = .ok (.athrow, 1) := dk_191 (dk_at dksX1_doScript_2 9 rfl rfl)
theorem dX1_doScript_54 : decode cX1_doScript 54 = .ok (.astore 4, 2) := dk_58 4 (dk_at dksX1_doScript_2 10 rfl rfl)
theorem dX1_doScript_56 : decode cX1_doScript 56 = .ok (.new 1, 3) := dk_187 0 1 (dk_at dksX1_doScript_2 12 rfl rfl)
theorem dX1_doScript_59 : decode cX1_doScript 59 = .ok (.dup, 1) := dk_89 (dk_at dksX1_doScript_2 15 rfl rfl)
theorem dX1_doScript_60 : decode cX1_doScript 60 = .ok (.bipush 8, 2) := dk_16 8 (dk_at dksX1_doScript_2 16 rfl rfl)
theorem dX1_doScript_62 : decode cX1_doScript 62 = .ok (.iload_n 1, 1) := dk_27 (dk_at dksX1_doScript_2 18 rfl rfl)
theorem dX1_doScript_63 : decode cX1_doScript 63 = .ok (.invokespecial 3, 3) := dk_183 0 3 (dk_at dksX1_doScript_2 19 rfl rfl)
theorem dX1_doScript_66 : decode cX1_doScript 66 = .ok (.athrow, 1) := dk_191 (dk_at dksX1_doScript_2 22 rfl rfl)
theorem dX1_doScript_67 : decode cX1_doScript 67 = .ok (.iinc 1 1, 3) := dk_132 1 1 (dk_at dksX1_doScript_3 0 rfl rfl)
theorem dX1_doScript_70 : decode cX1_doScript 70 = .ok (.goto (-60), 3) := dk_167 255 196 (dk_at dksX1_doScript_3 3 rfl rfl)
theorem dX1_doScript_73 : decode cX1_doScript 73 = .ok (.iload_n 1, 1) := dk_27 (dk_at dksX1_doScript_3 6 rfl rfl)
theorem dX1_doScript_74 : decode cX1_doScript 74 = .ok (.ireturn, 1) := dk_172 (dk_at dksX1_doScript_3 7 rfl rfl)
abbrev cX1_doOrder : ByteArray := prog_1_method_42_code
def yX1_doOrder : MethodName := ⟨RX1, "doOrder", "(LBakeryRing$Order;)I"⟩
def dkwX1_doOrder_10 : List UInt8 := [46, 182, 1, 8, 172]
abbrev dktX1_doOrder_10 : List UInt8 := dkwX1_doOrder_10 ++ []
def dkwX1_doOrder_9 : List UInt8 := [4, 46, 182, 0, 244, 167, 0, 23, 42, 44, 3, 46, 44, 4, 46, 182, 0, 255, 167, 0, 10, 42, 44, 3]
abbrev dktX1_doOrder_9 : List UInt8 := dkwX1_doOrder_9 ++ dktX1_doOrder_10
def dkwX1_doOrder_8 : List UInt8 := [44, 3, 46, 182, 0, 235, 167, 0, 46, 42, 44, 3, 46, 182, 0, 238, 167, 0, 36, 42, 44, 3, 46, 44]
abbrev dktX1_doOrder_8 : List UInt8 := dkwX1_doOrder_8 ++ dktX1_doOrder_9
def dkwX1_doOrder_7 : List UInt8 := [42, 44, 3, 46, 44, 4, 46, 182, 0, 215, 167, 0, 66, 42, 44, 3, 46, 182, 0, 221, 167, 0, 56, 42]
abbrev dktX1_doOrder_7 : List UInt8 := dkwX1_doOrder_7 ++ dktX1_doOrder_8
def dkwX1_doOrder_6 : List UInt8 := [170, 0, 0, 0, 0, 0, 108, 0, 0, 0, 0, 0, 0, 0, 5, 0, 0, 0, 39, 0, 0, 0, 52, 0, 0, 0, 62, 0, 0, 0, 72, 0, 0, 0, 82, 0, 0, 0, 95]
abbrev dktX1_doOrder_6 : List UInt8 := dkwX1_doOrder_6 ++ dktX1_doOrder_7
def dkwX1_doOrder_5 : List UInt8 := [167, 0, 15, 45, 18, 52, 182, 1, 75, 153, 0, 6, 8, 54, 4, 21, 4]
abbrev dktX1_doOrder_5 : List UInt8 := dkwX1_doOrder_5 ++ dktX1_doOrder_6
def dkwX1_doOrder_4 : List UInt8 := [182, 1, 75, 153, 0, 36, 6, 54, 4, 167, 0, 30, 45, 18, 50, 182, 1, 75, 153, 0, 21, 7, 54, 4]
abbrev dktX1_doOrder_4 : List UInt8 := dkwX1_doOrder_4 ++ dktX1_doOrder_5
def dkwX1_doOrder_3 : List UInt8 := [4, 54, 4, 167, 0, 60, 45, 18, 46, 182, 1, 75, 153, 0, 51, 5, 54, 4, 167, 0, 45, 45, 18, 48]
abbrev dktX1_doOrder_3 : List UInt8 := dkwX1_doOrder_3 ++ dktX1_doOrder_4
def dkwX1_doOrder_2 : List UInt8 := [45, 18, 42, 182, 1, 75, 153, 0, 81, 3, 54, 4, 167, 0, 75, 45, 18, 44, 182, 1, 75, 153, 0, 66]
abbrev dktX1_doOrder_2 : List UInt8 := dkwX1_doOrder_2 ++ dktX1_doOrder_3
def dkwX1_doOrder_1 : List UInt8 := [171, 0, 0, 0, 0, 0, 146, 0, 0, 0, 6, 175, 21, 225, 40, 0, 0, 0, 89, 5, 167, 49, 156, 0, 0, 0, 134, 5, 181, 111, 190, 0, 0, 0, 74, 6, 80, 163, 22, 0, 0, 0, 104, 6, 83, 93, 80, 0, 0, 0, 119, 6, 133, 218, 3, 0, 0, 0, 59]
abbrev dktX1_doOrder_1 : List UInt8 := dkwX1_doOrder_1 ++ dktX1_doOrder_2
def dkwX1_doOrder_0 : List UInt8 := [43, 180, 1, 103, 77, 43, 180, 1, 106, 78, 2, 54, 4, 45, 182, 1, 72]
abbrev dktX1_doOrder_0 : List UInt8 := dkwX1_doOrder_0 ++ dktX1_doOrder_1
theorem dksX1_doOrder_0 : cX1_doOrder.data.toList.drop 0 = dktX1_doOrder_0 := by decide +kernel
theorem dksX1_doOrder_1 : cX1_doOrder.data.toList.drop 17 = dktX1_doOrder_1 := dk_seg dksX1_doOrder_0 17 rfl rfl
theorem dksX1_doOrder_2 : cX1_doOrder.data.toList.drop 76 = dktX1_doOrder_2 := dk_seg dksX1_doOrder_1 59 rfl rfl
theorem dksX1_doOrder_3 : cX1_doOrder.data.toList.drop 100 = dktX1_doOrder_3 := dk_seg dksX1_doOrder_2 24 rfl rfl
theorem dksX1_doOrder_4 : cX1_doOrder.data.toList.drop 124 = dktX1_doOrder_4 := dk_seg dksX1_doOrder_3 24 rfl rfl
theorem dksX1_doOrder_5 : cX1_doOrder.data.toList.drop 148 = dktX1_doOrder_5 := dk_seg dksX1_doOrder_4 24 rfl rfl
theorem dksX1_doOrder_6 : cX1_doOrder.data.toList.drop 165 = dktX1_doOrder_6 := dk_seg dksX1_doOrder_5 17 rfl rfl
theorem dksX1_doOrder_7 : cX1_doOrder.data.toList.drop 204 = dktX1_doOrder_7 := dk_seg dksX1_doOrder_6 39 rfl rfl
theorem dksX1_doOrder_8 : cX1_doOrder.data.toList.drop 228 = dktX1_doOrder_8 := dk_seg dksX1_doOrder_7 24 rfl rfl
theorem dksX1_doOrder_9 : cX1_doOrder.data.toList.drop 252 = dktX1_doOrder_9 := dk_seg dksX1_doOrder_8 24 rfl rfl
theorem dksX1_doOrder_10 : cX1_doOrder.data.toList.drop 276 = dktX1_doOrder_10 := dk_seg dksX1_doOrder_9 24 rfl rfl
theorem dX1_doOrder_0 : decode cX1_doOrder 0 = .ok (.aload_n 1, 1) := dk_43 (dk_at dksX1_doOrder_0 0 rfl rfl)
theorem dX1_doOrder_1 : decode cX1_doOrder 1 = .ok (.getfield 359, 3) := dk_180 1 103 (dk_at dksX1_doOrder_0 1 rfl rfl)
theorem dX1_doOrder_4 : decode cX1_doOrder 4 = .ok (.astore_n 2, 1) := dk_77 (dk_at dksX1_doOrder_0 4 rfl rfl)
theorem dX1_doOrder_5 : decode cX1_doOrder 5 = .ok (.aload_n 1, 1) := dk_43 (dk_at dksX1_doOrder_0 5 rfl rfl)
theorem dX1_doOrder_6 : decode cX1_doOrder 6 = .ok (.getfield 362, 3) := dk_180 1 106 (dk_at dksX1_doOrder_0 6 rfl rfl)
theorem dX1_doOrder_9 : decode cX1_doOrder 9 = .ok (.astore_n 3, 1) := dk_78 (dk_at dksX1_doOrder_0 9 rfl rfl)
theorem dX1_doOrder_10 : decode cX1_doOrder 10 = .ok (.iconst (-1), 1) := dk_2 (dk_at dksX1_doOrder_0 10 rfl rfl)
theorem dX1_doOrder_11 : decode cX1_doOrder 11 = .ok (.istore 4, 2) := dk_54 4 (dk_at dksX1_doOrder_0 11 rfl rfl)
theorem dX1_doOrder_13 : decode cX1_doOrder 13 = .ok (.aload_n 3, 1) := dk_45 (dk_at dksX1_doOrder_0 13 rfl rfl)
theorem dX1_doOrder_14 : decode cX1_doOrder 14 = .ok (.invokevirtual 328, 3) := dk_182 1 72 (dk_at dksX1_doOrder_0 14 rfl rfl)
theorem dX1_doOrder_17 : decode cX1_doOrder 17 = .ok (.lookupswitch 146 #[(-1357520600, 89), (94843292, 134), (95776702, 74), (105947926, 104), (106126672, 119), (109435395, 59)], 59) := by decide +kernel
theorem dX1_doOrder_76 : decode cX1_doOrder 76 = .ok (.aload_n 3, 1) := dk_45 (dk_at dksX1_doOrder_2 0 rfl rfl)
theorem dX1_doOrder_77 : decode cX1_doOrder 77 = .ok (.ldc 42, 2) := dk_18 42 (dk_at dksX1_doOrder_2 1 rfl rfl)
theorem dX1_doOrder_79 : decode cX1_doOrder 79 = .ok (.invokevirtual 331, 3) := dk_182 1 75 (dk_at dksX1_doOrder_2 3 rfl rfl)
theorem dX1_doOrder_82 : decode cX1_doOrder 82 = .ok (.ifCond .eq 81, 3) := dk_153 0 81 (dk_at dksX1_doOrder_2 6 rfl rfl)
theorem dX1_doOrder_85 : decode cX1_doOrder 85 = .ok (.iconst 0, 1) := dk_3 (dk_at dksX1_doOrder_2 9 rfl rfl)
theorem dX1_doOrder_86 : decode cX1_doOrder 86 = .ok (.istore 4, 2) := dk_54 4 (dk_at dksX1_doOrder_2 10 rfl rfl)
theorem dX1_doOrder_88 : decode cX1_doOrder 88 = .ok (.goto 75, 3) := dk_167 0 75 (dk_at dksX1_doOrder_2 12 rfl rfl)
theorem dX1_doOrder_91 : decode cX1_doOrder 91 = .ok (.aload_n 3, 1) := dk_45 (dk_at dksX1_doOrder_2 15 rfl rfl)
theorem dX1_doOrder_92 : decode cX1_doOrder 92 = .ok (.ldc 44, 2) := dk_18 44 (dk_at dksX1_doOrder_2 16 rfl rfl)
theorem dX1_doOrder_94 : decode cX1_doOrder 94 = .ok (.invokevirtual 331, 3) := dk_182 1 75 (dk_at dksX1_doOrder_2 18 rfl rfl)
theorem dX1_doOrder_97 : decode cX1_doOrder 97 = .ok (.ifCond .eq 66, 3) := dk_153 0 66 (dk_at dksX1_doOrder_2 21 rfl rfl)
theorem dX1_doOrder_100 : decode cX1_doOrder 100 = .ok (.iconst 1, 1) := dk_4 (dk_at dksX1_doOrder_3 0 rfl rfl)
theorem dX1_doOrder_101 : decode cX1_doOrder 101 = .ok (.istore 4, 2) := dk_54 4 (dk_at dksX1_doOrder_3 1 rfl rfl)
theorem dX1_doOrder_103 : decode cX1_doOrder 103 = .ok (.goto 60, 3) := dk_167 0 60 (dk_at dksX1_doOrder_3 3 rfl rfl)
theorem dX1_doOrder_106 : decode cX1_doOrder 106 = .ok (.aload_n 3, 1) := dk_45 (dk_at dksX1_doOrder_3 6 rfl rfl)
theorem dX1_doOrder_107 : decode cX1_doOrder 107 = .ok (.ldc 46, 2) := dk_18 46 (dk_at dksX1_doOrder_3 7 rfl rfl)
theorem dX1_doOrder_109 : decode cX1_doOrder 109 = .ok (.invokevirtual 331, 3) := dk_182 1 75 (dk_at dksX1_doOrder_3 9 rfl rfl)
theorem dX1_doOrder_112 : decode cX1_doOrder 112 = .ok (.ifCond .eq 51, 3) := dk_153 0 51 (dk_at dksX1_doOrder_3 12 rfl rfl)
theorem dX1_doOrder_115 : decode cX1_doOrder 115 = .ok (.iconst 2, 1) := dk_5 (dk_at dksX1_doOrder_3 15 rfl rfl)
theorem dX1_doOrder_116 : decode cX1_doOrder 116 = .ok (.istore 4, 2) := dk_54 4 (dk_at dksX1_doOrder_3 16 rfl rfl)
theorem dX1_doOrder_118 : decode cX1_doOrder 118 = .ok (.goto 45, 3) := dk_167 0 45 (dk_at dksX1_doOrder_3 18 rfl rfl)
theorem dX1_doOrder_121 : decode cX1_doOrder 121 = .ok (.aload_n 3, 1) := dk_45 (dk_at dksX1_doOrder_3 21 rfl rfl)
theorem dX1_doOrder_122 : decode cX1_doOrder 122 = .ok (.ldc 48, 2) := dk_18 48 (dk_at dksX1_doOrder_3 22 rfl rfl)
theorem dX1_doOrder_124 : decode cX1_doOrder 124 = .ok (.invokevirtual 331, 3) := dk_182 1 75 (dk_at dksX1_doOrder_4 0 rfl rfl)
theorem dX1_doOrder_127 : decode cX1_doOrder 127 = .ok (.ifCond .eq 36, 3) := dk_153 0 36 (dk_at dksX1_doOrder_4 3 rfl rfl)
theorem dX1_doOrder_130 : decode cX1_doOrder 130 = .ok (.iconst 3, 1) := dk_6 (dk_at dksX1_doOrder_4 6 rfl rfl)
theorem dX1_doOrder_131 : decode cX1_doOrder 131 = .ok (.istore 4, 2) := dk_54 4 (dk_at dksX1_doOrder_4 7 rfl rfl)
theorem dX1_doOrder_133 : decode cX1_doOrder 133 = .ok (.goto 30, 3) := dk_167 0 30 (dk_at dksX1_doOrder_4 9 rfl rfl)
theorem dX1_doOrder_136 : decode cX1_doOrder 136 = .ok (.aload_n 3, 1) := dk_45 (dk_at dksX1_doOrder_4 12 rfl rfl)
theorem dX1_doOrder_137 : decode cX1_doOrder 137 = .ok (.ldc 50, 2) := dk_18 50 (dk_at dksX1_doOrder_4 13 rfl rfl)
theorem dX1_doOrder_139 : decode cX1_doOrder 139 = .ok (.invokevirtual 331, 3) := dk_182 1 75 (dk_at dksX1_doOrder_4 15 rfl rfl)
theorem dX1_doOrder_142 : decode cX1_doOrder 142 = .ok (.ifCond .eq 21, 3) := dk_153 0 21 (dk_at dksX1_doOrder_4 18 rfl rfl)
theorem dX1_doOrder_145 : decode cX1_doOrder 145 = .ok (.iconst 4, 1) := dk_7 (dk_at dksX1_doOrder_4 21 rfl rfl)
theorem dX1_doOrder_146 : decode cX1_doOrder 146 = .ok (.istore 4, 2) := dk_54 4 (dk_at dksX1_doOrder_4 22 rfl rfl)
theorem dX1_doOrder_148 : decode cX1_doOrder 148 = .ok (.goto 15, 3) := dk_167 0 15 (dk_at dksX1_doOrder_5 0 rfl rfl)
theorem dX1_doOrder_151 : decode cX1_doOrder 151 = .ok (.aload_n 3, 1) := dk_45 (dk_at dksX1_doOrder_5 3 rfl rfl)
theorem dX1_doOrder_152 : decode cX1_doOrder 152 = .ok (.ldc 52, 2) := dk_18 52 (dk_at dksX1_doOrder_5 4 rfl rfl)
theorem dX1_doOrder_154 : decode cX1_doOrder 154 = .ok (.invokevirtual 331, 3) := dk_182 1 75 (dk_at dksX1_doOrder_5 6 rfl rfl)
theorem dX1_doOrder_157 : decode cX1_doOrder 157 = .ok (.ifCond .eq 6, 3) := dk_153 0 6 (dk_at dksX1_doOrder_5 9 rfl rfl)
theorem dX1_doOrder_160 : decode cX1_doOrder 160 = .ok (.iconst 5, 1) := dk_8 (dk_at dksX1_doOrder_5 12 rfl rfl)
theorem dX1_doOrder_161 : decode cX1_doOrder 161 = .ok (.istore 4, 2) := dk_54 4 (dk_at dksX1_doOrder_5 13 rfl rfl)
theorem dX1_doOrder_163 : decode cX1_doOrder 163 = .ok (.iload 4, 2) := dk_21 4 (dk_at dksX1_doOrder_5 15 rfl rfl)
theorem dX1_doOrder_165 : decode cX1_doOrder 165 = .ok (.tableswitch 108 0 5 #[39, 52, 62, 72, 82, 95], 39) := by decide +kernel
theorem dX1_doOrder_204 : decode cX1_doOrder 204 = .ok (.aload_n 0, 1) := dk_42 (dk_at dksX1_doOrder_7 0 rfl rfl)
theorem dX1_doOrder_205 : decode cX1_doOrder 205 = .ok (.aload_n 2, 1) := dk_44 (dk_at dksX1_doOrder_7 1 rfl rfl)
theorem dX1_doOrder_206 : decode cX1_doOrder 206 = .ok (.iconst 0, 1) := dk_3 (dk_at dksX1_doOrder_7 2 rfl rfl)
theorem dX1_doOrder_207 : decode cX1_doOrder 207 = .ok (.iaload, 1) := dk_46 (dk_at dksX1_doOrder_7 3 rfl rfl)
theorem dX1_doOrder_208 : decode cX1_doOrder 208 = .ok (.aload_n 2, 1) := dk_44 (dk_at dksX1_doOrder_7 4 rfl rfl)
theorem dX1_doOrder_209 : decode cX1_doOrder 209 = .ok (.iconst 1, 1) := dk_4 (dk_at dksX1_doOrder_7 5 rfl rfl)
theorem dX1_doOrder_210 : decode cX1_doOrder 210 = .ok (.iaload, 1) := dk_46 (dk_at dksX1_doOrder_7 6 rfl rfl)
theorem dX1_doOrder_211 : decode cX1_doOrder 211 = .ok (.invokevirtual 215, 3) := dk_182 0 215 (dk_at dksX1_doOrder_7 7 rfl rfl)
theorem dX1_doOrder_214 : decode cX1_doOrder 214 = .ok (.goto 66, 3) := dk_167 0 66 (dk_at dksX1_doOrder_7 10 rfl rfl)
theorem dX1_doOrder_217 : decode cX1_doOrder 217 = .ok (.aload_n 0, 1) := dk_42 (dk_at dksX1_doOrder_7 13 rfl rfl)
theorem dX1_doOrder_218 : decode cX1_doOrder 218 = .ok (.aload_n 2, 1) := dk_44 (dk_at dksX1_doOrder_7 14 rfl rfl)
theorem dX1_doOrder_219 : decode cX1_doOrder 219 = .ok (.iconst 0, 1) := dk_3 (dk_at dksX1_doOrder_7 15 rfl rfl)
theorem dX1_doOrder_220 : decode cX1_doOrder 220 = .ok (.iaload, 1) := dk_46 (dk_at dksX1_doOrder_7 16 rfl rfl)
theorem dX1_doOrder_221 : decode cX1_doOrder 221 = .ok (.invokevirtual 221, 3) := dk_182 0 221 (dk_at dksX1_doOrder_7 17 rfl rfl)
theorem dX1_doOrder_224 : decode cX1_doOrder 224 = .ok (.goto 56, 3) := dk_167 0 56 (dk_at dksX1_doOrder_7 20 rfl rfl)
theorem dX1_doOrder_227 : decode cX1_doOrder 227 = .ok (.aload_n 0, 1) := dk_42 (dk_at dksX1_doOrder_7 23 rfl rfl)
theorem dX1_doOrder_228 : decode cX1_doOrder 228 = .ok (.aload_n 2, 1) := dk_44 (dk_at dksX1_doOrder_8 0 rfl rfl)
theorem dX1_doOrder_229 : decode cX1_doOrder 229 = .ok (.iconst 0, 1) := dk_3 (dk_at dksX1_doOrder_8 1 rfl rfl)
theorem dX1_doOrder_230 : decode cX1_doOrder 230 = .ok (.iaload, 1) := dk_46 (dk_at dksX1_doOrder_8 2 rfl rfl)
theorem dX1_doOrder_231 : decode cX1_doOrder 231 = .ok (.invokevirtual 235, 3) := dk_182 0 235 (dk_at dksX1_doOrder_8 3 rfl rfl)
theorem dX1_doOrder_234 : decode cX1_doOrder 234 = .ok (.goto 46, 3) := dk_167 0 46 (dk_at dksX1_doOrder_8 6 rfl rfl)
theorem dX1_doOrder_237 : decode cX1_doOrder 237 = .ok (.aload_n 0, 1) := dk_42 (dk_at dksX1_doOrder_8 9 rfl rfl)
theorem dX1_doOrder_238 : decode cX1_doOrder 238 = .ok (.aload_n 2, 1) := dk_44 (dk_at dksX1_doOrder_8 10 rfl rfl)
theorem dX1_doOrder_239 : decode cX1_doOrder 239 = .ok (.iconst 0, 1) := dk_3 (dk_at dksX1_doOrder_8 11 rfl rfl)
theorem dX1_doOrder_240 : decode cX1_doOrder 240 = .ok (.iaload, 1) := dk_46 (dk_at dksX1_doOrder_8 12 rfl rfl)
theorem dX1_doOrder_241 : decode cX1_doOrder 241 = .ok (.invokevirtual 238, 3) := dk_182 0 238 (dk_at dksX1_doOrder_8 13 rfl rfl)
theorem dX1_doOrder_244 : decode cX1_doOrder 244 = .ok (.goto 36, 3) := dk_167 0 36 (dk_at dksX1_doOrder_8 16 rfl rfl)
theorem dX1_doOrder_247 : decode cX1_doOrder 247 = .ok (.aload_n 0, 1) := dk_42 (dk_at dksX1_doOrder_8 19 rfl rfl)
theorem dX1_doOrder_248 : decode cX1_doOrder 248 = .ok (.aload_n 2, 1) := dk_44 (dk_at dksX1_doOrder_8 20 rfl rfl)
theorem dX1_doOrder_249 : decode cX1_doOrder 249 = .ok (.iconst 0, 1) := dk_3 (dk_at dksX1_doOrder_8 21 rfl rfl)
theorem dX1_doOrder_250 : decode cX1_doOrder 250 = .ok (.iaload, 1) := dk_46 (dk_at dksX1_doOrder_8 22 rfl rfl)
theorem dX1_doOrder_251 : decode cX1_doOrder 251 = .ok (.aload_n 2, 1) := dk_44 (dk_at dksX1_doOrder_8 23 rfl rfl)
theorem dX1_doOrder_252 : decode cX1_doOrder 252 = .ok (.iconst 1, 1) := dk_4 (dk_at dksX1_doOrder_9 0 rfl rfl)
theorem dX1_doOrder_253 : decode cX1_doOrder 253 = .ok (.iaload, 1) := dk_46 (dk_at dksX1_doOrder_9 1 rfl rfl)
theorem dX1_doOrder_254 : decode cX1_doOrder 254 = .ok (.invokevirtual 244, 3) := dk_182 0 244 (dk_at dksX1_doOrder_9 2 rfl rfl)
theorem dX1_doOrder_257 : decode cX1_doOrder 257 = .ok (.goto 23, 3) := dk_167 0 23 (dk_at dksX1_doOrder_9 5 rfl rfl)
theorem dX1_doOrder_260 : decode cX1_doOrder 260 = .ok (.aload_n 0, 1) := dk_42 (dk_at dksX1_doOrder_9 8 rfl rfl)
theorem dX1_doOrder_261 : decode cX1_doOrder 261 = .ok (.aload_n 2, 1) := dk_44 (dk_at dksX1_doOrder_9 9 rfl rfl)
theorem dX1_doOrder_262 : decode cX1_doOrder 262 = .ok (.iconst 0, 1) := dk_3 (dk_at dksX1_doOrder_9 10 rfl rfl)
theorem dX1_doOrder_263 : decode cX1_doOrder 263 = .ok (.iaload, 1) := dk_46 (dk_at dksX1_doOrder_9 11 rfl rfl)
theorem dX1_doOrder_264 : decode cX1_doOrder 264 = .ok (.aload_n 2, 1) := dk_44 (dk_at dksX1_doOrder_9 12 rfl rfl)
theorem dX1_doOrder_265 : decode cX1_doOrder 265 = .ok (.iconst 1, 1) := dk_4 (dk_at dksX1_doOrder_9 13 rfl rfl)
theorem dX1_doOrder_266 : decode cX1_doOrder 266 = .ok (.iaload, 1) := dk_46 (dk_at dksX1_doOrder_9 14 rfl rfl)
theorem dX1_doOrder_267 : decode cX1_doOrder 267 = .ok (.invokevirtual 255, 3) := dk_182 0 255 (dk_at dksX1_doOrder_9 15 rfl rfl)
theorem dX1_doOrder_270 : decode cX1_doOrder 270 = .ok (.goto 10, 3) := dk_167 0 10 (dk_at dksX1_doOrder_9 18 rfl rfl)
theorem dX1_doOrder_273 : decode cX1_doOrder 273 = .ok (.aload_n 0, 1) := dk_42 (dk_at dksX1_doOrder_9 21 rfl rfl)
theorem dX1_doOrder_274 : decode cX1_doOrder 274 = .ok (.aload_n 2, 1) := dk_44 (dk_at dksX1_doOrder_9 22 rfl rfl)
theorem dX1_doOrder_275 : decode cX1_doOrder 275 = .ok (.iconst 0, 1) := dk_3 (dk_at dksX1_doOrder_9 23 rfl rfl)
theorem dX1_doOrder_276 : decode cX1_doOrder 276 = .ok (.iaload, 1) := dk_46 (dk_at dksX1_doOrder_10 0 rfl rfl)
theorem dX1_doOrder_277 : decode cX1_doOrder 277 = .ok (.invokevirtual 264, 3) := dk_182 1 8 (dk_at dksX1_doOrder_10 1 rfl rfl)
theorem dX1_doOrder_280 : decode cX1_doOrder 280 = .ok (.ireturn, 1) := dk_172 (dk_at dksX1_doOrder_10 4 rfl rfl)
abbrev cX1_faultPosition : ByteArray := prog_1_method_33_code
def yX1_faultPosition : MethodName := ⟨RX1, "faultPosition", "()I"⟩
def dkwX1_faultPosition_0 : List UInt8 := [42, 180, 0, 82, 184, 1, 21, 172]
abbrev dktX1_faultPosition_0 : List UInt8 := dkwX1_faultPosition_0 ++ []
theorem dksX1_faultPosition_0 : cX1_faultPosition.data.toList.drop 0 = dktX1_faultPosition_0 := by decide +kernel
theorem dX1_faultPosition_0 : decode cX1_faultPosition 0 = .ok (.aload_n 0, 1) := dk_42 (dk_at dksX1_faultPosition_0 0 rfl rfl)
theorem dX1_faultPosition_1 : decode cX1_faultPosition 1 = .ok (.getfield 82, 3) := dk_180 0 82 (dk_at dksX1_faultPosition_0 1 rfl rfl)
theorem dX1_faultPosition_4 : decode cX1_faultPosition 4 = .ok (.invokestatic 277, 3) := dk_184 1 21 (dk_at dksX1_faultPosition_0 4 rfl rfl)
theorem dX1_faultPosition_7 : decode cX1_faultPosition 7 = .ok (.ireturn, 1) := dk_172 (dk_at dksX1_faultPosition_0 7 rfl rfl)
abbrev cX1_there : ByteArray := prog_1_method_6_code
def yX1_there : MethodName := ⟨RX1, "there", "(I)I"⟩
def dkwX1_there_0 : List UInt8 := [26, 156, 0, 11, 187, 0, 15, 89, 183, 0, 17, 191, 26, 172]
abbrev dktX1_there_0 : List UInt8 := dkwX1_there_0 ++ []
theorem dksX1_there_0 : cX1_there.data.toList.drop 0 = dktX1_there_0 := by decide +kernel
theorem dX1_there_0 : decode cX1_there 0 = .ok (.iload_n 0, 1) := dk_26 (dk_at dksX1_there_0 0 rfl rfl)
theorem dX1_there_1 : decode cX1_there 1 = .ok (.ifCond .ge 11, 3) := dk_156 0 11 (dk_at dksX1_there_0 1 rfl rfl)
theorem dX1_there_4 : decode cX1_there 4 = .ok (.new 15, 3) := dk_187 0 15 (dk_at dksX1_there_0 4 rfl rfl)
theorem dX1_there_7 : decode cX1_there 7 = .ok (.dup, 1) := dk_89 (dk_at dksX1_there_0 7 rfl rfl)
theorem dX1_there_8 : decode cX1_there 8 = .ok (.invokespecial 17, 3) := dk_183 0 17 (dk_at dksX1_there_0 8 rfl rfl)
theorem dX1_there_11 : decode cX1_there 11 = .ok (.athrow, 1) := dk_191 (dk_at dksX1_there_0 11 rfl rfl)
theorem dX1_there_12 : decode cX1_there 12 = .ok (.iload_n 0, 1) := dk_26 (dk_at dksX1_there_0 12 rfl rfl)
theorem dX1_there_13 : decode cX1_there 13 = .ok (.ireturn, 1) := dk_172 (dk_at dksX1_there_0 13 rfl rfl)
abbrev cX1_reason : ByteArray := prog_1_method_45_code
def yX1_reason : MethodName := ⟨RX1, "reason", "(IZ)I"⟩
def dkwX1_reason_2 : List UInt8 := [180, 1, 127, 167, 0, 7, 45, 180, 1, 130, 172]
abbrev dktX1_reason_2 : List UInt8 := dkwX1_reason_2 ++ []
def dkwX1_reason_1 : List UInt8 := [27, 182, 1, 123, 78, 45, 199, 0, 11, 187, 0, 15, 89, 183, 0, 17, 191, 28, 153, 0, 10, 45]
abbrev dktX1_reason_1 : List UInt8 := dkwX1_reason_1 ++ dktX1_reason_2
def dkwX1_reason_0 : List UInt8 := [27, 3, 4, 184, 0, 143, 184, 0, 173, 42, 180, 0, 121, 199, 0, 7, 1, 167, 0, 11, 42, 180, 0, 121]
abbrev dktX1_reason_0 : List UInt8 := dkwX1_reason_0 ++ dktX1_reason_1
theorem dksX1_reason_0 : cX1_reason.data.toList.drop 0 = dktX1_reason_0 := by decide +kernel
theorem dksX1_reason_1 : cX1_reason.data.toList.drop 24 = dktX1_reason_1 := dk_seg dksX1_reason_0 24 rfl rfl
theorem dksX1_reason_2 : cX1_reason.data.toList.drop 46 = dktX1_reason_2 := dk_seg dksX1_reason_1 22 rfl rfl
theorem dX1_reason_0 : decode cX1_reason 0 = .ok (.iload_n 1, 1) := dk_27 (dk_at dksX1_reason_0 0 rfl rfl)
theorem dX1_reason_1 : decode cX1_reason 1 = .ok (.iconst 0, 1) := dk_3 (dk_at dksX1_reason_0 1 rfl rfl)
theorem dX1_reason_2 : decode cX1_reason 2 = .ok (.iconst 1, 1) := dk_4 (dk_at dksX1_reason_0 2 rfl rfl)
theorem dX1_reason_3 : decode cX1_reason 3 = .ok (.invokestatic 143, 3) := dk_184 0 143 (dk_at dksX1_reason_0 3 rfl rfl)
theorem dX1_reason_6 : decode cX1_reason 6 = .ok (.invokestatic 173, 3) := dk_184 0 173 (dk_at dksX1_reason_0 6 rfl rfl)
theorem dX1_reason_9 : decode cX1_reason 9 = .ok (.aload_n 0, 1) := dk_42 (dk_at dksX1_reason_0 9 rfl rfl)
theorem dX1_reason_10 : decode cX1_reason 10 = .ok (.getfield 121, 3) := dk_180 0 121 (dk_at dksX1_reason_0 10 rfl rfl)
theorem dX1_reason_13 : decode cX1_reason 13 = .ok (.ifnonnull 7, 3) := dk_199 0 7 (dk_at dksX1_reason_0 13 rfl rfl)
theorem dX1_reason_16 : decode cX1_reason 16 = .ok (.aconst_null, 1) := dk_1 (dk_at dksX1_reason_0 16 rfl rfl)
theorem dX1_reason_17 : decode cX1_reason 17 = .ok (.goto 11, 3) := dk_167 0 11 (dk_at dksX1_reason_0 17 rfl rfl)
theorem dX1_reason_20 : decode cX1_reason 20 = .ok (.aload_n 0, 1) := dk_42 (dk_at dksX1_reason_0 20 rfl rfl)
theorem dX1_reason_21 : decode cX1_reason 21 = .ok (.getfield 121, 3) := dk_180 0 121 (dk_at dksX1_reason_0 21 rfl rfl)
theorem dX1_reason_24 : decode cX1_reason 24 = .ok (.iload_n 1, 1) := dk_27 (dk_at dksX1_reason_1 0 rfl rfl)
theorem dX1_reason_25 : decode cX1_reason 25 = .ok (.invokevirtual 379, 3) := dk_182 1 123 (dk_at dksX1_reason_1 1 rfl rfl)
theorem dX1_reason_28 : decode cX1_reason 28 = .ok (.astore_n 3, 1) := dk_78 (dk_at dksX1_reason_1 4 rfl rfl)
theorem dX1_reason_29 : decode cX1_reason 29 = .ok (.aload_n 3, 1) := dk_45 (dk_at dksX1_reason_1 5 rfl rfl)
theorem dX1_reason_30 : decode cX1_reason 30 = .ok (.ifnonnull 11, 3) := dk_199 0 11 (dk_at dksX1_reason_1 6 rfl rfl)
theorem dX1_reason_33 : decode cX1_reason 33 = .ok (.new 15, 3) := dk_187 0 15 (dk_at dksX1_reason_1 9 rfl rfl)
theorem dX1_reason_36 : decode cX1_reason 36 = .ok (.dup, 1) := dk_89 (dk_at dksX1_reason_1 12 rfl rfl)
theorem dX1_reason_37 : decode cX1_reason 37 = .ok (.invokespecial 17, 3) := dk_183 0 17 (dk_at dksX1_reason_1 13 rfl rfl)
theorem dX1_reason_40 : decode cX1_reason 40 = .ok (.athrow, 1) := dk_191 (dk_at dksX1_reason_1 16 rfl rfl)
theorem dX1_reason_41 : decode cX1_reason 41 = .ok (.iload_n 2, 1) := dk_28 (dk_at dksX1_reason_1 17 rfl rfl)
theorem dX1_reason_42 : decode cX1_reason 42 = .ok (.ifCond .eq 10, 3) := dk_153 0 10 (dk_at dksX1_reason_1 18 rfl rfl)
theorem dX1_reason_45 : decode cX1_reason 45 = .ok (.aload_n 3, 1) := dk_45 (dk_at dksX1_reason_1 21 rfl rfl)
theorem dX1_reason_46 : decode cX1_reason 46 = .ok (.getfield 383, 3) := dk_180 1 127 (dk_at dksX1_reason_2 0 rfl rfl)
theorem dX1_reason_49 : decode cX1_reason 49 = .ok (.goto 7, 3) := dk_167 0 7 (dk_at dksX1_reason_2 3 rfl rfl)
theorem dX1_reason_52 : decode cX1_reason 52 = .ok (.aload_n 3, 1) := dk_45 (dk_at dksX1_reason_2 6 rfl rfl)
theorem dX1_reason_53 : decode cX1_reason 53 = .ok (.getfield 386, 3) := dk_180 1 130 (dk_at dksX1_reason_2 7 rfl rfl)
theorem dX1_reason_56 : decode cX1_reason 56 = .ok (.ireturn, 1) := dk_172 (dk_at dksX1_reason_2 10 rfl rfl)
abbrev cX1_bakeryOf : ByteArray := prog_1_method_47_code
def yX1_bakeryOf : MethodName := ⟨RX1, "bakeryOf", "(II)I"⟩
def dkwX1_bakeryOf_5 : List UInt8 := [183, 0, 14, 191]
abbrev dktX1_bakeryOf_5 : List UInt8 := dkwX1_bakeryOf_5 ++ []
def dkwX1_bakeryOf_4 : List UInt8 := [180, 1, 151, 27, 46, 172, 42, 180, 0, 65, 27, 182, 1, 154, 184, 1, 136, 172, 187, 0, 12, 89]
abbrev dktX1_bakeryOf_4 : List UInt8 := dkwX1_bakeryOf_4 ++ dktX1_bakeryOf_5
def dkwX1_bakeryOf_3 : List UInt8 := [184, 1, 136, 172, 42, 180, 0, 65, 27, 182, 0, 209, 172, 42, 27, 182, 1, 148, 172, 42, 180, 0, 65]
abbrev dktX1_bakeryOf_3 : List UInt8 := dkwX1_bakeryOf_3 ++ dktX1_bakeryOf_4
def dkwX1_bakeryOf_2 : List UInt8 := [45, 180, 1, 140, 182, 1, 144, 172, 45, 180, 0, 241, 172, 45, 182, 1, 145, 172, 45, 180, 0, 228]
abbrev dktX1_bakeryOf_2 : List UInt8 := dkwX1_bakeryOf_2 ++ dktX1_bakeryOf_3
def dkwX1_bakeryOf_1 : List UInt8 := [170, 0, 0, 0, 108, 0, 0, 0, 0, 0, 0, 0, 7, 0, 0, 0, 45, 0, 0, 0, 53, 0, 0, 0, 58, 0, 0, 0, 63, 0, 0, 0, 71, 0, 0, 0, 80, 0, 0, 0, 86, 0, 0, 0, 96]
abbrev dktX1_bakeryOf_1 : List UInt8 := dkwX1_bakeryOf_1 ++ dktX1_bakeryOf_2
def dkwX1_bakeryOf_0 : List UInt8 := [42, 27, 182, 0, 224, 78, 28]
abbrev dktX1_bakeryOf_0 : List UInt8 := dkwX1_bakeryOf_0 ++ dktX1_bakeryOf_1
theorem dksX1_bakeryOf_0 : cX1_bakeryOf.data.toList.drop 0 = dktX1_bakeryOf_0 := by decide +kernel
theorem dksX1_bakeryOf_1 : cX1_bakeryOf.data.toList.drop 7 = dktX1_bakeryOf_1 := dk_seg dksX1_bakeryOf_0 7 rfl rfl
theorem dksX1_bakeryOf_2 : cX1_bakeryOf.data.toList.drop 52 = dktX1_bakeryOf_2 := dk_seg dksX1_bakeryOf_1 45 rfl rfl
theorem dksX1_bakeryOf_3 : cX1_bakeryOf.data.toList.drop 74 = dktX1_bakeryOf_3 := dk_seg dksX1_bakeryOf_2 22 rfl rfl
theorem dksX1_bakeryOf_4 : cX1_bakeryOf.data.toList.drop 97 = dktX1_bakeryOf_4 := dk_seg dksX1_bakeryOf_3 23 rfl rfl
theorem dksX1_bakeryOf_5 : cX1_bakeryOf.data.toList.drop 119 = dktX1_bakeryOf_5 := dk_seg dksX1_bakeryOf_4 22 rfl rfl
theorem dX1_bakeryOf_0 : decode cX1_bakeryOf 0 = .ok (.aload_n 0, 1) := dk_42 (dk_at dksX1_bakeryOf_0 0 rfl rfl)
theorem dX1_bakeryOf_1 : decode cX1_bakeryOf 1 = .ok (.iload_n 1, 1) := dk_27 (dk_at dksX1_bakeryOf_0 1 rfl rfl)
theorem dX1_bakeryOf_2 : decode cX1_bakeryOf 2 = .ok (.invokevirtual 224, 3) := dk_182 0 224 (dk_at dksX1_bakeryOf_0 2 rfl rfl)
theorem dX1_bakeryOf_5 : decode cX1_bakeryOf 5 = .ok (.astore_n 3, 1) := dk_78 (dk_at dksX1_bakeryOf_0 5 rfl rfl)
theorem dX1_bakeryOf_6 : decode cX1_bakeryOf 6 = .ok (.iload_n 2, 1) := dk_28 (dk_at dksX1_bakeryOf_0 6 rfl rfl)
theorem dX1_bakeryOf_7 : decode cX1_bakeryOf 7 = .ok (.tableswitch 108 0 7 #[45, 53, 58, 63, 71, 80, 86, 96], 45) := by decide +kernel
theorem dX1_bakeryOf_52 : decode cX1_bakeryOf 52 = .ok (.aload_n 3, 1) := dk_45 (dk_at dksX1_bakeryOf_2 0 rfl rfl)
theorem dX1_bakeryOf_53 : decode cX1_bakeryOf 53 = .ok (.getfield 396, 3) := dk_180 1 140 (dk_at dksX1_bakeryOf_2 1 rfl rfl)
theorem dX1_bakeryOf_56 : decode cX1_bakeryOf 56 = .ok (.invokevirtual 400, 3) := dk_182 1 144 (dk_at dksX1_bakeryOf_2 4 rfl rfl)
theorem dX1_bakeryOf_59 : decode cX1_bakeryOf 59 = .ok (.ireturn, 1) := dk_172 (dk_at dksX1_bakeryOf_2 7 rfl rfl)
theorem dX1_bakeryOf_60 : decode cX1_bakeryOf 60 = .ok (.aload_n 3, 1) := dk_45 (dk_at dksX1_bakeryOf_2 8 rfl rfl)
theorem dX1_bakeryOf_61 : decode cX1_bakeryOf 61 = .ok (.getfield 241, 3) := dk_180 0 241 (dk_at dksX1_bakeryOf_2 9 rfl rfl)
theorem dX1_bakeryOf_64 : decode cX1_bakeryOf 64 = .ok (.ireturn, 1) := dk_172 (dk_at dksX1_bakeryOf_2 12 rfl rfl)
theorem dX1_bakeryOf_65 : decode cX1_bakeryOf 65 = .ok (.aload_n 3, 1) := dk_45 (dk_at dksX1_bakeryOf_2 13 rfl rfl)
theorem dX1_bakeryOf_66 : decode cX1_bakeryOf 66 = .ok (.invokevirtual 401, 3) := dk_182 1 145 (dk_at dksX1_bakeryOf_2 14 rfl rfl)
theorem dX1_bakeryOf_69 : decode cX1_bakeryOf 69 = .ok (.ireturn, 1) := dk_172 (dk_at dksX1_bakeryOf_2 17 rfl rfl)
theorem dX1_bakeryOf_70 : decode cX1_bakeryOf 70 = .ok (.aload_n 3, 1) := dk_45 (dk_at dksX1_bakeryOf_2 18 rfl rfl)
theorem dX1_bakeryOf_71 : decode cX1_bakeryOf 71 = .ok (.getfield 228, 3) := dk_180 0 228 (dk_at dksX1_bakeryOf_2 19 rfl rfl)
theorem dX1_bakeryOf_74 : decode cX1_bakeryOf 74 = .ok (.invokestatic 392, 3) := dk_184 1 136 (dk_at dksX1_bakeryOf_3 0 rfl rfl)
theorem dX1_bakeryOf_77 : decode cX1_bakeryOf 77 = .ok (.ireturn, 1) := dk_172 (dk_at dksX1_bakeryOf_3 3 rfl rfl)
theorem dX1_bakeryOf_78 : decode cX1_bakeryOf 78 = .ok (.aload_n 0, 1) := dk_42 (dk_at dksX1_bakeryOf_3 4 rfl rfl)
theorem dX1_bakeryOf_79 : decode cX1_bakeryOf 79 = .ok (.getfield 65, 3) := dk_180 0 65 (dk_at dksX1_bakeryOf_3 5 rfl rfl)
theorem dX1_bakeryOf_82 : decode cX1_bakeryOf 82 = .ok (.iload_n 1, 1) := dk_27 (dk_at dksX1_bakeryOf_3 8 rfl rfl)
theorem dX1_bakeryOf_83 : decode cX1_bakeryOf 83 = .ok (.invokevirtual 209, 3) := dk_182 0 209 (dk_at dksX1_bakeryOf_3 9 rfl rfl)
theorem dX1_bakeryOf_86 : decode cX1_bakeryOf 86 = .ok (.ireturn, 1) := dk_172 (dk_at dksX1_bakeryOf_3 12 rfl rfl)
theorem dX1_bakeryOf_87 : decode cX1_bakeryOf 87 = .ok (.aload_n 0, 1) := dk_42 (dk_at dksX1_bakeryOf_3 13 rfl rfl)
theorem dX1_bakeryOf_88 : decode cX1_bakeryOf 88 = .ok (.iload_n 1, 1) := dk_27 (dk_at dksX1_bakeryOf_3 14 rfl rfl)
theorem dX1_bakeryOf_89 : decode cX1_bakeryOf 89 = .ok (.invokevirtual 404, 3) := dk_182 1 148 (dk_at dksX1_bakeryOf_3 15 rfl rfl)
theorem dX1_bakeryOf_92 : decode cX1_bakeryOf 92 = .ok (.ireturn, 1) := dk_172 (dk_at dksX1_bakeryOf_3 18 rfl rfl)
theorem dX1_bakeryOf_93 : decode cX1_bakeryOf 93 = .ok (.aload_n 0, 1) := dk_42 (dk_at dksX1_bakeryOf_3 19 rfl rfl)
theorem dX1_bakeryOf_94 : decode cX1_bakeryOf 94 = .ok (.getfield 65, 3) := dk_180 0 65 (dk_at dksX1_bakeryOf_3 20 rfl rfl)
theorem dX1_bakeryOf_97 : decode cX1_bakeryOf 97 = .ok (.getfield 407, 3) := dk_180 1 151 (dk_at dksX1_bakeryOf_4 0 rfl rfl)
theorem dX1_bakeryOf_100 : decode cX1_bakeryOf 100 = .ok (.iload_n 1, 1) := dk_27 (dk_at dksX1_bakeryOf_4 3 rfl rfl)
theorem dX1_bakeryOf_101 : decode cX1_bakeryOf 101 = .ok (.iaload, 1) := dk_46 (dk_at dksX1_bakeryOf_4 4 rfl rfl)
theorem dX1_bakeryOf_102 : decode cX1_bakeryOf 102 = .ok (.ireturn, 1) := dk_172 (dk_at dksX1_bakeryOf_4 5 rfl rfl)
theorem dX1_bakeryOf_103 : decode cX1_bakeryOf 103 = .ok (.aload_n 0, 1) := dk_42 (dk_at dksX1_bakeryOf_4 6 rfl rfl)
theorem dX1_bakeryOf_104 : decode cX1_bakeryOf 104 = .ok (.getfield 65, 3) := dk_180 0 65 (dk_at dksX1_bakeryOf_4 7 rfl rfl)
theorem dX1_bakeryOf_107 : decode cX1_bakeryOf 107 = .ok (.iload_n 1, 1) := dk_27 (dk_at dksX1_bakeryOf_4 10 rfl rfl)
theorem dX1_bakeryOf_108 : decode cX1_bakeryOf 108 = .ok (.invokevirtual 410, 3) := dk_182 1 154 (dk_at dksX1_bakeryOf_4 11 rfl rfl)
theorem dX1_bakeryOf_111 : decode cX1_bakeryOf 111 = .ok (.invokestatic 392, 3) := dk_184 1 136 (dk_at dksX1_bakeryOf_4 14 rfl rfl)
theorem dX1_bakeryOf_114 : decode cX1_bakeryOf 114 = .ok (.ireturn, 1) := dk_172 (dk_at dksX1_bakeryOf_4 17 rfl rfl)
theorem dX1_bakeryOf_115 : decode cX1_bakeryOf 115 = .ok (.new 12, 3) := dk_187 0 12 (dk_at dksX1_bakeryOf_4 18 rfl rfl)
theorem dX1_bakeryOf_118 : decode cX1_bakeryOf 118 = .ok (.dup, 1) := dk_89 (dk_at dksX1_bakeryOf_4 21 rfl rfl)
theorem dX1_bakeryOf_119 : decode cX1_bakeryOf 119 = .ok (.invokespecial 14, 3) := dk_183 0 14 (dk_at dksX1_bakeryOf_5 0 rfl rfl)
theorem dX1_bakeryOf_122 : decode cX1_bakeryOf 122 = .ok (.athrow, 1) := dk_191 (dk_at dksX1_bakeryOf_5 3 rfl rfl)
abbrev cX1_customersOf : ByteArray := prog_1_method_46_code
def yX1_customersOf : MethodName := ⟨RX1, "customersOf", "(I)I"⟩
def dkwX1_customersOf_2 : List UInt8 := [28, 172]
abbrev dktX1_customersOf_2 : List UInt8 := dkwX1_customersOf_2 ++ []
def dkwX1_customersOf_1 : List UInt8 := [50, 180, 1, 133, 27, 160, 0, 7, 4, 167, 0, 4, 3, 184, 1, 136, 96, 61, 132, 3, 1, 167, 255, 215]
abbrev dktX1_customersOf_1 : List UInt8 := dkwX1_customersOf_1 ++ dktX1_customersOf_2
def dkwX1_customersOf_0 : List UInt8 := [3, 61, 3, 62, 29, 42, 180, 0, 65, 180, 0, 147, 162, 0, 36, 28, 42, 180, 0, 65, 180, 0, 247, 29]
abbrev dktX1_customersOf_0 : List UInt8 := dkwX1_customersOf_0 ++ dktX1_customersOf_1
theorem dksX1_customersOf_0 : cX1_customersOf.data.toList.drop 0 = dktX1_customersOf_0 := by decide +kernel
theorem dksX1_customersOf_1 : cX1_customersOf.data.toList.drop 24 = dktX1_customersOf_1 := dk_seg dksX1_customersOf_0 24 rfl rfl
theorem dksX1_customersOf_2 : cX1_customersOf.data.toList.drop 48 = dktX1_customersOf_2 := dk_seg dksX1_customersOf_1 24 rfl rfl
theorem dX1_customersOf_0 : decode cX1_customersOf 0 = .ok (.iconst 0, 1) := dk_3 (dk_at dksX1_customersOf_0 0 rfl rfl)
theorem dX1_customersOf_1 : decode cX1_customersOf 1 = .ok (.istore_n 2, 1) := dk_61 (dk_at dksX1_customersOf_0 1 rfl rfl)
theorem dX1_customersOf_2 : decode cX1_customersOf 2 = .ok (.iconst 0, 1) := dk_3 (dk_at dksX1_customersOf_0 2 rfl rfl)
theorem dX1_customersOf_3 : decode cX1_customersOf 3 = .ok (.istore_n 3, 1) := dk_62 (dk_at dksX1_customersOf_0 3 rfl rfl)
theorem dX1_customersOf_4 : decode cX1_customersOf 4 = .ok (.iload_n 3, 1) := dk_29 (dk_at dksX1_customersOf_0 4 rfl rfl)
theorem dX1_customersOf_5 : decode cX1_customersOf 5 = .ok (.aload_n 0, 1) := dk_42 (dk_at dksX1_customersOf_0 5 rfl rfl)
theorem dX1_customersOf_6 : decode cX1_customersOf 6 = .ok (.getfield 65, 3) := dk_180 0 65 (dk_at dksX1_customersOf_0 6 rfl rfl)
theorem dX1_customersOf_9 : decode cX1_customersOf 9 = .ok (.getfield 147, 3) := dk_180 0 147 (dk_at dksX1_customersOf_0 9 rfl rfl)
theorem dX1_customersOf_12 : decode cX1_customersOf 12 = .ok (.if_icmp .ge 36, 3) := dk_162 0 36 (dk_at dksX1_customersOf_0 12 rfl rfl)
theorem dX1_customersOf_15 : decode cX1_customersOf 15 = .ok (.iload_n 2, 1) := dk_28 (dk_at dksX1_customersOf_0 15 rfl rfl)
theorem dX1_customersOf_16 : decode cX1_customersOf 16 = .ok (.aload_n 0, 1) := dk_42 (dk_at dksX1_customersOf_0 16 rfl rfl)
theorem dX1_customersOf_17 : decode cX1_customersOf 17 = .ok (.getfield 65, 3) := dk_180 0 65 (dk_at dksX1_customersOf_0 17 rfl rfl)
theorem dX1_customersOf_20 : decode cX1_customersOf 20 = .ok (.getfield 247, 3) := dk_180 0 247 (dk_at dksX1_customersOf_0 20 rfl rfl)
theorem dX1_customersOf_23 : decode cX1_customersOf 23 = .ok (.iload_n 3, 1) := dk_29 (dk_at dksX1_customersOf_0 23 rfl rfl)
theorem dX1_customersOf_24 : decode cX1_customersOf 24 = .ok (.aaload, 1) := dk_50 (dk_at dksX1_customersOf_1 0 rfl rfl)
theorem dX1_customersOf_25 : decode cX1_customersOf 25 = .ok (.getfield 389, 3) := dk_180 1 133 (dk_at dksX1_customersOf_1 1 rfl rfl)
theorem dX1_customersOf_28 : decode cX1_customersOf 28 = .ok (.iload_n 1, 1) := dk_27 (dk_at dksX1_customersOf_1 4 rfl rfl)
theorem dX1_customersOf_29 : decode cX1_customersOf 29 = .ok (.if_icmp .ne 7, 3) := dk_160 0 7 (dk_at dksX1_customersOf_1 5 rfl rfl)
theorem dX1_customersOf_32 : decode cX1_customersOf 32 = .ok (.iconst 1, 1) := dk_4 (dk_at dksX1_customersOf_1 8 rfl rfl)
theorem dX1_customersOf_33 : decode cX1_customersOf 33 = .ok (.goto 4, 3) := dk_167 0 4 (dk_at dksX1_customersOf_1 9 rfl rfl)
theorem dX1_customersOf_36 : decode cX1_customersOf 36 = .ok (.iconst 0, 1) := dk_3 (dk_at dksX1_customersOf_1 12 rfl rfl)
theorem dX1_customersOf_37 : decode cX1_customersOf 37 = .ok (.invokestatic 392, 3) := dk_184 1 136 (dk_at dksX1_customersOf_1 13 rfl rfl)
theorem dX1_customersOf_40 : decode cX1_customersOf 40 = .ok (.iadd, 1) := dk_96 (dk_at dksX1_customersOf_1 16 rfl rfl)
theorem dX1_customersOf_41 : decode cX1_customersOf 41 = .ok (.istore_n 2, 1) := dk_61 (dk_at dksX1_customersOf_1 17 rfl rfl)
theorem dX1_customersOf_42 : decode cX1_customersOf 42 = .ok (.iinc 3 1, 3) := dk_132 3 1 (dk_at dksX1_customersOf_1 18 rfl rfl)
theorem dX1_customersOf_45 : decode cX1_customersOf 45 = .ok (.goto (-41), 3) := dk_167 255 215 (dk_at dksX1_customersOf_1 21 rfl rfl)
theorem dX1_customersOf_48 : decode cX1_customersOf 48 = .ok (.iload_n 2, 1) := dk_28 (dk_at dksX1_customersOf_2 0 rfl rfl)
theorem dX1_customersOf_49 : decode cX1_customersOf 49 = .ok (.ireturn, 1) := dk_172 (dk_at dksX1_customersOf_2 1 rfl rfl)
abbrev cX1_signAt : ByteArray := prog_1_method_48_code
def yX1_signAt : MethodName := ⟨RX1, "signAt", "(I)I"⟩
def dkwX1_signAt_2 : List UInt8 := [167, 0, 4, 28, 184, 1, 21, 172]
abbrev dktX1_signAt_2 : List UInt8 := dkwX1_signAt_2 ++ []
def dkwX1_signAt_1 : List UInt8 := [180, 0, 65, 180, 0, 193, 28, 4, 96, 182, 1, 157, 61, 132, 3, 1, 167, 255, 230, 27, 156, 0, 7, 2]
abbrev dktX1_signAt_1 : List UInt8 := dkwX1_signAt_1 ++ dktX1_signAt_2
def dkwX1_signAt_0 : List UInt8 := [42, 180, 0, 65, 180, 0, 193, 3, 182, 1, 157, 61, 3, 62, 29, 27, 162, 0, 27, 28, 155, 0, 23, 42]
abbrev dktX1_signAt_0 : List UInt8 := dkwX1_signAt_0 ++ dktX1_signAt_1
theorem dksX1_signAt_0 : cX1_signAt.data.toList.drop 0 = dktX1_signAt_0 := by decide +kernel
theorem dksX1_signAt_1 : cX1_signAt.data.toList.drop 24 = dktX1_signAt_1 := dk_seg dksX1_signAt_0 24 rfl rfl
theorem dksX1_signAt_2 : cX1_signAt.data.toList.drop 48 = dktX1_signAt_2 := dk_seg dksX1_signAt_1 24 rfl rfl
theorem dX1_signAt_0 : decode cX1_signAt 0 = .ok (.aload_n 0, 1) := dk_42 (dk_at dksX1_signAt_0 0 rfl rfl)
theorem dX1_signAt_1 : decode cX1_signAt 1 = .ok (.getfield 65, 3) := dk_180 0 65 (dk_at dksX1_signAt_0 1 rfl rfl)
theorem dX1_signAt_4 : decode cX1_signAt 4 = .ok (.getfield 193, 3) := dk_180 0 193 (dk_at dksX1_signAt_0 4 rfl rfl)
theorem dX1_signAt_7 : decode cX1_signAt 7 = .ok (.iconst 0, 1) := dk_3 (dk_at dksX1_signAt_0 7 rfl rfl)
theorem dX1_signAt_8 : decode cX1_signAt 8 = .ok (.invokevirtual 413, 3) := dk_182 1 157 (dk_at dksX1_signAt_0 8 rfl rfl)
theorem dX1_signAt_11 : decode cX1_signAt 11 = .ok (.istore_n 2, 1) := dk_61 (dk_at dksX1_signAt_0 11 rfl rfl)
theorem dX1_signAt_12 : decode cX1_signAt 12 = .ok (.iconst 0, 1) := dk_3 (dk_at dksX1_signAt_0 12 rfl rfl)
theorem dX1_signAt_13 : decode cX1_signAt 13 = .ok (.istore_n 3, 1) := dk_62 (dk_at dksX1_signAt_0 13 rfl rfl)
theorem dX1_signAt_14 : decode cX1_signAt 14 = .ok (.iload_n 3, 1) := dk_29 (dk_at dksX1_signAt_0 14 rfl rfl)
theorem dX1_signAt_15 : decode cX1_signAt 15 = .ok (.iload_n 1, 1) := dk_27 (dk_at dksX1_signAt_0 15 rfl rfl)
theorem dX1_signAt_16 : decode cX1_signAt 16 = .ok (.if_icmp .ge 27, 3) := dk_162 0 27 (dk_at dksX1_signAt_0 16 rfl rfl)
theorem dX1_signAt_19 : decode cX1_signAt 19 = .ok (.iload_n 2, 1) := dk_28 (dk_at dksX1_signAt_0 19 rfl rfl)
theorem dX1_signAt_20 : decode cX1_signAt 20 = .ok (.ifCond .lt 23, 3) := dk_155 0 23 (dk_at dksX1_signAt_0 20 rfl rfl)
theorem dX1_signAt_23 : decode cX1_signAt 23 = .ok (.aload_n 0, 1) := dk_42 (dk_at dksX1_signAt_0 23 rfl rfl)
theorem dX1_signAt_24 : decode cX1_signAt 24 = .ok (.getfield 65, 3) := dk_180 0 65 (dk_at dksX1_signAt_1 0 rfl rfl)
theorem dX1_signAt_27 : decode cX1_signAt 27 = .ok (.getfield 193, 3) := dk_180 0 193 (dk_at dksX1_signAt_1 3 rfl rfl)
theorem dX1_signAt_30 : decode cX1_signAt 30 = .ok (.iload_n 2, 1) := dk_28 (dk_at dksX1_signAt_1 6 rfl rfl)
theorem dX1_signAt_31 : decode cX1_signAt 31 = .ok (.iconst 1, 1) := dk_4 (dk_at dksX1_signAt_1 7 rfl rfl)
theorem dX1_signAt_32 : decode cX1_signAt 32 = .ok (.iadd, 1) := dk_96 (dk_at dksX1_signAt_1 8 rfl rfl)
theorem dX1_signAt_33 : decode cX1_signAt 33 = .ok (.invokevirtual 413, 3) := dk_182 1 157 (dk_at dksX1_signAt_1 9 rfl rfl)
theorem dX1_signAt_36 : decode cX1_signAt 36 = .ok (.istore_n 2, 1) := dk_61 (dk_at dksX1_signAt_1 12 rfl rfl)
theorem dX1_signAt_37 : decode cX1_signAt 37 = .ok (.iinc 3 1, 3) := dk_132 3 1 (dk_at dksX1_signAt_1 13 rfl rfl)
theorem dX1_signAt_40 : decode cX1_signAt 40 = .ok (.goto (-26), 3) := dk_167 255 230 (dk_at dksX1_signAt_1 16 rfl rfl)
theorem dX1_signAt_43 : decode cX1_signAt 43 = .ok (.iload_n 1, 1) := dk_27 (dk_at dksX1_signAt_1 19 rfl rfl)
theorem dX1_signAt_44 : decode cX1_signAt 44 = .ok (.ifCond .ge 7, 3) := dk_156 0 7 (dk_at dksX1_signAt_1 20 rfl rfl)
theorem dX1_signAt_47 : decode cX1_signAt 47 = .ok (.iconst (-1), 1) := dk_2 (dk_at dksX1_signAt_1 23 rfl rfl)
theorem dX1_signAt_48 : decode cX1_signAt 48 = .ok (.goto 4, 3) := dk_167 0 4 (dk_at dksX1_signAt_2 0 rfl rfl)
theorem dX1_signAt_51 : decode cX1_signAt 51 = .ok (.iload_n 2, 1) := dk_28 (dk_at dksX1_signAt_2 3 rfl rfl)
theorem dX1_signAt_52 : decode cX1_signAt 52 = .ok (.invokestatic 277, 3) := dk_184 1 21 (dk_at dksX1_signAt_2 4 rfl rfl)
theorem dX1_signAt_55 : decode cX1_signAt 55 = .ok (.ireturn, 1) := dk_172 (dk_at dksX1_signAt_2 7 rfl rfl)
abbrev cX1_signOf : ByteArray := prog_1_method_49_code
def yX1_signOf : MethodName := ⟨RX1, "signOf", "(I)I"⟩
def dkwX1_signOf_1 : List UInt8 := [180, 0, 65, 180, 0, 201, 27, 46, 167, 0, 4, 2, 184, 1, 21, 172]
abbrev dktX1_signOf_1 : List UInt8 := dkwX1_signOf_1 ++ []
def dkwX1_signOf_0 : List UInt8 := [27, 184, 0, 190, 184, 0, 135, 42, 180, 0, 65, 180, 0, 193, 27, 182, 0, 197, 153, 0, 15, 42]
abbrev dktX1_signOf_0 : List UInt8 := dkwX1_signOf_0 ++ dktX1_signOf_1
theorem dksX1_signOf_0 : cX1_signOf.data.toList.drop 0 = dktX1_signOf_0 := by decide +kernel
theorem dksX1_signOf_1 : cX1_signOf.data.toList.drop 22 = dktX1_signOf_1 := dk_seg dksX1_signOf_0 22 rfl rfl
theorem dX1_signOf_0 : decode cX1_signOf 0 = .ok (.iload_n 1, 1) := dk_27 (dk_at dksX1_signOf_0 0 rfl rfl)
theorem dX1_signOf_1 : decode cX1_signOf 1 = .ok (.invokestatic 190, 3) := dk_184 0 190 (dk_at dksX1_signOf_0 1 rfl rfl)
theorem dX1_signOf_4 : decode cX1_signOf 4 = .ok (.invokestatic 135, 3) := dk_184 0 135 (dk_at dksX1_signOf_0 4 rfl rfl)
theorem dX1_signOf_7 : decode cX1_signOf 7 = .ok (.aload_n 0, 1) := dk_42 (dk_at dksX1_signOf_0 7 rfl rfl)
theorem dX1_signOf_8 : decode cX1_signOf 8 = .ok (.getfield 65, 3) := dk_180 0 65 (dk_at dksX1_signOf_0 8 rfl rfl)
theorem dX1_signOf_11 : decode cX1_signOf 11 = .ok (.getfield 193, 3) := dk_180 0 193 (dk_at dksX1_signOf_0 11 rfl rfl)
theorem dX1_signOf_14 : decode cX1_signOf 14 = .ok (.iload_n 1, 1) := dk_27 (dk_at dksX1_signOf_0 14 rfl rfl)
theorem dX1_signOf_15 : decode cX1_signOf 15 = .ok (.invokevirtual 197, 3) := dk_182 0 197 (dk_at dksX1_signOf_0 15 rfl rfl)
theorem dX1_signOf_18 : decode cX1_signOf 18 = .ok (.ifCond .eq 15, 3) := dk_153 0 15 (dk_at dksX1_signOf_0 18 rfl rfl)
theorem dX1_signOf_21 : decode cX1_signOf 21 = .ok (.aload_n 0, 1) := dk_42 (dk_at dksX1_signOf_0 21 rfl rfl)
theorem dX1_signOf_22 : decode cX1_signOf 22 = .ok (.getfield 65, 3) := dk_180 0 65 (dk_at dksX1_signOf_1 0 rfl rfl)
theorem dX1_signOf_25 : decode cX1_signOf 25 = .ok (.getfield 201, 3) := dk_180 0 201 (dk_at dksX1_signOf_1 3 rfl rfl)
theorem dX1_signOf_28 : decode cX1_signOf 28 = .ok (.iload_n 1, 1) := dk_27 (dk_at dksX1_signOf_1 6 rfl rfl)
theorem dX1_signOf_29 : decode cX1_signOf 29 = .ok (.iaload, 1) := dk_46 (dk_at dksX1_signOf_1 7 rfl rfl)
theorem dX1_signOf_30 : decode cX1_signOf 30 = .ok (.goto 4, 3) := dk_167 0 4 (dk_at dksX1_signOf_1 8 rfl rfl)
theorem dX1_signOf_33 : decode cX1_signOf 33 = .ok (.iconst (-1), 1) := dk_2 (dk_at dksX1_signOf_1 11 rfl rfl)
theorem dX1_signOf_34 : decode cX1_signOf 34 = .ok (.invokestatic 277, 3) := dk_184 1 21 (dk_at dksX1_signOf_1 12 rfl rfl)
theorem dX1_signOf_37 : decode cX1_signOf 37 = .ok (.ireturn, 1) := dk_172 (dk_at dksX1_signOf_1 15 rfl rfl)
abbrev cX1_customerOf : ByteArray := prog_1_method_50_code
def yX1_customerOf : MethodName := ⟨RX1, "customerOf", "(II)I"⟩
def dkwX1_customerOf_3 : List UInt8 := [184, 1, 136, 172, 45, 180, 1, 172, 172, 187, 0, 12, 89, 183, 0, 14, 191]
abbrev dktX1_customerOf_3 : List UInt8 := dkwX1_customerOf_3 ++ []
def dkwX1_customerOf_2 : List UInt8 := [45, 180, 1, 160, 172, 45, 180, 1, 163, 172, 45, 180, 1, 133, 172, 45, 180, 1, 166, 172, 45, 180, 1, 169]
abbrev dktX1_customerOf_2 : List UInt8 := dkwX1_customerOf_2 ++ dktX1_customerOf_3
def dkwX1_customerOf_1 : List UInt8 := [170, 0, 0, 0, 70, 0, 0, 0, 0, 0, 0, 0, 5, 0, 0, 0, 37, 0, 0, 0, 42, 0, 0, 0, 47, 0, 0, 0, 52, 0, 0, 0, 57, 0, 0, 0, 65]
abbrev dktX1_customerOf_1 : List UInt8 := dkwX1_customerOf_1 ++ dktX1_customerOf_2
def dkwX1_customerOf_0 : List UInt8 := [42, 27, 182, 1, 2, 184, 0, 135, 42, 180, 0, 65, 180, 0, 247, 27, 50, 78, 28]
abbrev dktX1_customerOf_0 : List UInt8 := dkwX1_customerOf_0 ++ dktX1_customerOf_1
theorem dksX1_customerOf_0 : cX1_customerOf.data.toList.drop 0 = dktX1_customerOf_0 := by decide +kernel
theorem dksX1_customerOf_1 : cX1_customerOf.data.toList.drop 19 = dktX1_customerOf_1 := dk_seg dksX1_customerOf_0 19 rfl rfl
theorem dksX1_customerOf_2 : cX1_customerOf.data.toList.drop 56 = dktX1_customerOf_2 := dk_seg dksX1_customerOf_1 37 rfl rfl
theorem dksX1_customerOf_3 : cX1_customerOf.data.toList.drop 80 = dktX1_customerOf_3 := dk_seg dksX1_customerOf_2 24 rfl rfl
theorem dX1_customerOf_0 : decode cX1_customerOf 0 = .ok (.aload_n 0, 1) := dk_42 (dk_at dksX1_customerOf_0 0 rfl rfl)
theorem dX1_customerOf_1 : decode cX1_customerOf 1 = .ok (.iload_n 1, 1) := dk_27 (dk_at dksX1_customerOf_0 1 rfl rfl)
theorem dX1_customerOf_2 : decode cX1_customerOf 2 = .ok (.invokevirtual 258, 3) := dk_182 1 2 (dk_at dksX1_customerOf_0 2 rfl rfl)
theorem dX1_customerOf_5 : decode cX1_customerOf 5 = .ok (.invokestatic 135, 3) := dk_184 0 135 (dk_at dksX1_customerOf_0 5 rfl rfl)
theorem dX1_customerOf_8 : decode cX1_customerOf 8 = .ok (.aload_n 0, 1) := dk_42 (dk_at dksX1_customerOf_0 8 rfl rfl)
theorem dX1_customerOf_9 : decode cX1_customerOf 9 = .ok (.getfield 65, 3) := dk_180 0 65 (dk_at dksX1_customerOf_0 9 rfl rfl)
theorem dX1_customerOf_12 : decode cX1_customerOf 12 = .ok (.getfield 247, 3) := dk_180 0 247 (dk_at dksX1_customerOf_0 12 rfl rfl)
theorem dX1_customerOf_15 : decode cX1_customerOf 15 = .ok (.iload_n 1, 1) := dk_27 (dk_at dksX1_customerOf_0 15 rfl rfl)
theorem dX1_customerOf_16 : decode cX1_customerOf 16 = .ok (.aaload, 1) := dk_50 (dk_at dksX1_customerOf_0 16 rfl rfl)
theorem dX1_customerOf_17 : decode cX1_customerOf 17 = .ok (.astore_n 3, 1) := dk_78 (dk_at dksX1_customerOf_0 17 rfl rfl)
theorem dX1_customerOf_18 : decode cX1_customerOf 18 = .ok (.iload_n 2, 1) := dk_28 (dk_at dksX1_customerOf_0 18 rfl rfl)
theorem dX1_customerOf_19 : decode cX1_customerOf 19 = .ok (.tableswitch 70 0 5 #[37, 42, 47, 52, 57, 65], 37) := by decide +kernel
theorem dX1_customerOf_56 : decode cX1_customerOf 56 = .ok (.aload_n 3, 1) := dk_45 (dk_at dksX1_customerOf_2 0 rfl rfl)
theorem dX1_customerOf_57 : decode cX1_customerOf 57 = .ok (.getfield 416, 3) := dk_180 1 160 (dk_at dksX1_customerOf_2 1 rfl rfl)
theorem dX1_customerOf_60 : decode cX1_customerOf 60 = .ok (.ireturn, 1) := dk_172 (dk_at dksX1_customerOf_2 4 rfl rfl)
theorem dX1_customerOf_61 : decode cX1_customerOf 61 = .ok (.aload_n 3, 1) := dk_45 (dk_at dksX1_customerOf_2 5 rfl rfl)
theorem dX1_customerOf_62 : decode cX1_customerOf 62 = .ok (.getfield 419, 3) := dk_180 1 163 (dk_at dksX1_customerOf_2 6 rfl rfl)
theorem dX1_customerOf_65 : decode cX1_customerOf 65 = .ok (.ireturn, 1) := dk_172 (dk_at dksX1_customerOf_2 9 rfl rfl)
theorem dX1_customerOf_66 : decode cX1_customerOf 66 = .ok (.aload_n 3, 1) := dk_45 (dk_at dksX1_customerOf_2 10 rfl rfl)
theorem dX1_customerOf_67 : decode cX1_customerOf 67 = .ok (.getfield 389, 3) := dk_180 1 133 (dk_at dksX1_customerOf_2 11 rfl rfl)
theorem dX1_customerOf_70 : decode cX1_customerOf 70 = .ok (.ireturn, 1) := dk_172 (dk_at dksX1_customerOf_2 14 rfl rfl)
theorem dX1_customerOf_71 : decode cX1_customerOf 71 = .ok (.aload_n 3, 1) := dk_45 (dk_at dksX1_customerOf_2 15 rfl rfl)
theorem dX1_customerOf_72 : decode cX1_customerOf 72 = .ok (.getfield 422, 3) := dk_180 1 166 (dk_at dksX1_customerOf_2 16 rfl rfl)
theorem dX1_customerOf_75 : decode cX1_customerOf 75 = .ok (.ireturn, 1) := dk_172 (dk_at dksX1_customerOf_2 19 rfl rfl)
theorem dX1_customerOf_76 : decode cX1_customerOf 76 = .ok (.aload_n 3, 1) := dk_45 (dk_at dksX1_customerOf_2 20 rfl rfl)
theorem dX1_customerOf_77 : decode cX1_customerOf 77 = .ok (.getfield 425, 3) := dk_180 1 169 (dk_at dksX1_customerOf_2 21 rfl rfl)
theorem dX1_customerOf_80 : decode cX1_customerOf 80 = .ok (.invokestatic 392, 3) := dk_184 1 136 (dk_at dksX1_customerOf_3 0 rfl rfl)
theorem dX1_customerOf_83 : decode cX1_customerOf 83 = .ok (.ireturn, 1) := dk_172 (dk_at dksX1_customerOf_3 3 rfl rfl)
theorem dX1_customerOf_84 : decode cX1_customerOf 84 = .ok (.aload_n 3, 1) := dk_45 (dk_at dksX1_customerOf_3 4 rfl rfl)
theorem dX1_customerOf_85 : decode cX1_customerOf 85 = .ok (.getfield 428, 3) := dk_180 1 172 (dk_at dksX1_customerOf_3 5 rfl rfl)
theorem dX1_customerOf_88 : decode cX1_customerOf 88 = .ok (.ireturn, 1) := dk_172 (dk_at dksX1_customerOf_3 8 rfl rfl)
theorem dX1_customerOf_89 : decode cX1_customerOf 89 = .ok (.new 12, 3) := dk_187 0 12 (dk_at dksX1_customerOf_3 9 rfl rfl)
theorem dX1_customerOf_92 : decode cX1_customerOf 92 = .ok (.dup, 1) := dk_89 (dk_at dksX1_customerOf_3 12 rfl rfl)
theorem dX1_customerOf_93 : decode cX1_customerOf 93 = .ok (.invokespecial 14, 3) := dk_183 0 14 (dk_at dksX1_customerOf_3 13 rfl rfl)
theorem dX1_customerOf_96 : decode cX1_customerOf 96 = .ok (.athrow, 1) := dk_191 (dk_at dksX1_customerOf_3 16 rfl rfl)
abbrev cX1_way : ByteArray := prog_1_method_51_code
def yX1_way : MethodName := ⟨RX1, "way", "(II)I"⟩
def dkwX1_way_1 : List UInt8 := [184, 1, 175, 172]
abbrev dktX1_way_1 : List UInt8 := dkwX1_way_1 ++ []
def dkwX1_way_0 : List UInt8 := [27, 184, 0, 190, 153, 0, 14, 28, 184, 0, 190, 153, 0, 7, 4, 167, 0, 4, 3, 184, 0, 135, 27, 28]
abbrev dktX1_way_0 : List UInt8 := dkwX1_way_0 ++ dktX1_way_1
theorem dksX1_way_0 : cX1_way.data.toList.drop 0 = dktX1_way_0 := by decide +kernel
theorem dksX1_way_1 : cX1_way.data.toList.drop 24 = dktX1_way_1 := dk_seg dksX1_way_0 24 rfl rfl
theorem dX1_way_0 : decode cX1_way 0 = .ok (.iload_n 1, 1) := dk_27 (dk_at dksX1_way_0 0 rfl rfl)
theorem dX1_way_1 : decode cX1_way 1 = .ok (.invokestatic 190, 3) := dk_184 0 190 (dk_at dksX1_way_0 1 rfl rfl)
theorem dX1_way_4 : decode cX1_way 4 = .ok (.ifCond .eq 14, 3) := dk_153 0 14 (dk_at dksX1_way_0 4 rfl rfl)
theorem dX1_way_7 : decode cX1_way 7 = .ok (.iload_n 2, 1) := dk_28 (dk_at dksX1_way_0 7 rfl rfl)
theorem dX1_way_8 : decode cX1_way 8 = .ok (.invokestatic 190, 3) := dk_184 0 190 (dk_at dksX1_way_0 8 rfl rfl)
theorem dX1_way_11 : decode cX1_way 11 = .ok (.ifCond .eq 7, 3) := dk_153 0 7 (dk_at dksX1_way_0 11 rfl rfl)
theorem dX1_way_14 : decode cX1_way 14 = .ok (.iconst 1, 1) := dk_4 (dk_at dksX1_way_0 14 rfl rfl)
theorem dX1_way_15 : decode cX1_way 15 = .ok (.goto 4, 3) := dk_167 0 4 (dk_at dksX1_way_0 15 rfl rfl)
theorem dX1_way_18 : decode cX1_way 18 = .ok (.iconst 0, 1) := dk_3 (dk_at dksX1_way_0 18 rfl rfl)
theorem dX1_way_19 : decode cX1_way 19 = .ok (.invokestatic 135, 3) := dk_184 0 135 (dk_at dksX1_way_0 19 rfl rfl)
theorem dX1_way_22 : decode cX1_way 22 = .ok (.iload_n 1, 1) := dk_27 (dk_at dksX1_way_0 22 rfl rfl)
theorem dX1_way_23 : decode cX1_way 23 = .ok (.iload_n 2, 1) := dk_28 (dk_at dksX1_way_0 23 rfl rfl)
theorem dX1_way_24 : decode cX1_way 24 = .ok (.invokestatic 431, 3) := dk_184 1 175 (dk_at dksX1_way_1 0 rfl rfl)
theorem dX1_way_27 : decode cX1_way 27 = .ok (.ireturn, 1) := dk_172 (dk_at dksX1_way_1 3 rfl rfl)
abbrev cX1_wayBetween : ByteArray := prog_1_method_7_code
def yX1_wayBetween : MethodName := ⟨RX1, "wayBetween", "(II)I"⟩
def dkwX1_wayBetween_0 : List UInt8 := [27, 26, 161, 0, 9, 27, 26, 100, 167, 0, 10, 27, 17, 1, 104, 96, 26, 100, 172]
abbrev dktX1_wayBetween_0 : List UInt8 := dkwX1_wayBetween_0 ++ []
theorem dksX1_wayBetween_0 : cX1_wayBetween.data.toList.drop 0 = dktX1_wayBetween_0 := by decide +kernel
theorem dX1_wayBetween_0 : decode cX1_wayBetween 0 = .ok (.iload_n 1, 1) := dk_27 (dk_at dksX1_wayBetween_0 0 rfl rfl)
theorem dX1_wayBetween_1 : decode cX1_wayBetween 1 = .ok (.iload_n 0, 1) := dk_26 (dk_at dksX1_wayBetween_0 1 rfl rfl)
theorem dX1_wayBetween_2 : decode cX1_wayBetween 2 = .ok (.if_icmp .lt 9, 3) := dk_161 0 9 (dk_at dksX1_wayBetween_0 2 rfl rfl)
theorem dX1_wayBetween_5 : decode cX1_wayBetween 5 = .ok (.iload_n 1, 1) := dk_27 (dk_at dksX1_wayBetween_0 5 rfl rfl)
theorem dX1_wayBetween_6 : decode cX1_wayBetween 6 = .ok (.iload_n 0, 1) := dk_26 (dk_at dksX1_wayBetween_0 6 rfl rfl)
theorem dX1_wayBetween_7 : decode cX1_wayBetween 7 = .ok (.isub, 1) := dk_100 (dk_at dksX1_wayBetween_0 7 rfl rfl)
theorem dX1_wayBetween_8 : decode cX1_wayBetween 8 = .ok (.goto 10, 3) := dk_167 0 10 (dk_at dksX1_wayBetween_0 8 rfl rfl)
theorem dX1_wayBetween_11 : decode cX1_wayBetween 11 = .ok (.iload_n 1, 1) := dk_27 (dk_at dksX1_wayBetween_0 11 rfl rfl)
theorem dX1_wayBetween_12 : decode cX1_wayBetween 12 = .ok (.sipush 360, 3) := dk_17 1 104 (dk_at dksX1_wayBetween_0 12 rfl rfl)
theorem dX1_wayBetween_15 : decode cX1_wayBetween 15 = .ok (.iadd, 1) := dk_96 (dk_at dksX1_wayBetween_0 15 rfl rfl)
theorem dX1_wayBetween_16 : decode cX1_wayBetween 16 = .ok (.iload_n 0, 1) := dk_26 (dk_at dksX1_wayBetween_0 16 rfl rfl)
theorem dX1_wayBetween_17 : decode cX1_wayBetween 17 = .ok (.isub, 1) := dk_100 (dk_at dksX1_wayBetween_0 17 rfl rfl)
theorem dX1_wayBetween_18 : decode cX1_wayBetween 18 = .ok (.ireturn, 1) := dk_172 (dk_at dksX1_wayBetween_0 18 rfl rfl)
abbrev cX1_nearest : ByteArray := prog_1_method_53_code
def yX1_nearest : MethodName := ⟨RX1, "nearest", "(I)I"⟩
def dkwX1_nearest_0 : List UInt8 := [27, 184, 0, 190, 184, 0, 135, 42, 27, 182, 1, 181, 184, 1, 21, 172]
abbrev dktX1_nearest_0 : List UInt8 := dkwX1_nearest_0 ++ []
theorem dksX1_nearest_0 : cX1_nearest.data.toList.drop 0 = dktX1_nearest_0 := by decide +kernel
theorem dX1_nearest_0 : decode cX1_nearest 0 = .ok (.iload_n 1, 1) := dk_27 (dk_at dksX1_nearest_0 0 rfl rfl)
theorem dX1_nearest_1 : decode cX1_nearest 1 = .ok (.invokestatic 190, 3) := dk_184 0 190 (dk_at dksX1_nearest_0 1 rfl rfl)
theorem dX1_nearest_4 : decode cX1_nearest 4 = .ok (.invokestatic 135, 3) := dk_184 0 135 (dk_at dksX1_nearest_0 4 rfl rfl)
theorem dX1_nearest_7 : decode cX1_nearest 7 = .ok (.aload_n 0, 1) := dk_42 (dk_at dksX1_nearest_0 7 rfl rfl)
theorem dX1_nearest_8 : decode cX1_nearest 8 = .ok (.iload_n 1, 1) := dk_27 (dk_at dksX1_nearest_0 8 rfl rfl)
theorem dX1_nearest_9 : decode cX1_nearest 9 = .ok (.invokevirtual 437, 3) := dk_182 1 181 (dk_at dksX1_nearest_0 9 rfl rfl)
theorem dX1_nearest_12 : decode cX1_nearest 12 = .ok (.invokestatic 277, 3) := dk_184 1 21 (dk_at dksX1_nearest_0 12 rfl rfl)
theorem dX1_nearest_15 : decode cX1_nearest 15 = .ok (.ireturn, 1) := dk_172 (dk_at dksX1_nearest_0 15 rfl rfl)
abbrev cX1_firstOpen : ByteArray := prog_1_method_52_code
def yX1_firstOpen : MethodName := ⟨RX1, "firstOpen", "(I)I"⟩
def dkwX1_firstOpen_3 : List UInt8 := [132, 3, 255, 167, 255, 201, 2, 172]
abbrev dktX1_firstOpen_3 : List UInt8 := dkwX1_firstOpen_3 ++ []
def dkwX1_firstOpen_2 : List UInt8 := [180, 0, 65, 180, 0, 201, 28, 46, 172, 42, 180, 0, 65, 28, 4, 96, 17, 1, 104, 112, 182, 1, 178, 61]
abbrev dktX1_firstOpen_2 : List UInt8 := dkwX1_firstOpen_2 ++ dktX1_firstOpen_3
def dkwX1_firstOpen_1 : List UInt8 := [42, 180, 0, 65, 180, 0, 139, 42, 180, 0, 65, 180, 0, 201, 28, 46, 50, 180, 0, 228, 153, 0, 13, 42]
abbrev dktX1_firstOpen_1 : List UInt8 := dkwX1_firstOpen_1 ++ dktX1_firstOpen_2
def dkwX1_firstOpen_0 : List UInt8 := [42, 180, 0, 65, 27, 182, 1, 178, 61, 42, 180, 0, 65, 180, 0, 193, 182, 0, 205, 62, 29, 158, 0, 57]
abbrev dktX1_firstOpen_0 : List UInt8 := dkwX1_firstOpen_0 ++ dktX1_firstOpen_1
theorem dksX1_firstOpen_0 : cX1_firstOpen.data.toList.drop 0 = dktX1_firstOpen_0 := by decide +kernel
theorem dksX1_firstOpen_1 : cX1_firstOpen.data.toList.drop 24 = dktX1_firstOpen_1 := dk_seg dksX1_firstOpen_0 24 rfl rfl
theorem dksX1_firstOpen_2 : cX1_firstOpen.data.toList.drop 48 = dktX1_firstOpen_2 := dk_seg dksX1_firstOpen_1 24 rfl rfl
theorem dksX1_firstOpen_3 : cX1_firstOpen.data.toList.drop 72 = dktX1_firstOpen_3 := dk_seg dksX1_firstOpen_2 24 rfl rfl
theorem dX1_firstOpen_0 : decode cX1_firstOpen 0 = .ok (.aload_n 0, 1) := dk_42 (dk_at dksX1_firstOpen_0 0 rfl rfl)
theorem dX1_firstOpen_1 : decode cX1_firstOpen 1 = .ok (.getfield 65, 3) := dk_180 0 65 (dk_at dksX1_firstOpen_0 1 rfl rfl)
theorem dX1_firstOpen_4 : decode cX1_firstOpen 4 = .ok (.iload_n 1, 1) := dk_27 (dk_at dksX1_firstOpen_0 4 rfl rfl)
theorem dX1_firstOpen_5 : decode cX1_firstOpen 5 = .ok (.invokevirtual 434, 3) := dk_182 1 178 (dk_at dksX1_firstOpen_0 5 rfl rfl)
theorem dX1_firstOpen_8 : decode cX1_firstOpen 8 = .ok (.istore_n 2, 1) := dk_61 (dk_at dksX1_firstOpen_0 8 rfl rfl)
theorem dX1_firstOpen_9 : decode cX1_firstOpen 9 = .ok (.aload_n 0, 1) := dk_42 (dk_at dksX1_firstOpen_0 9 rfl rfl)
theorem dX1_firstOpen_10 : decode cX1_firstOpen 10 = .ok (.getfield 65, 3) := dk_180 0 65 (dk_at dksX1_firstOpen_0 10 rfl rfl)
theorem dX1_firstOpen_13 : decode cX1_firstOpen 13 = .ok (.getfield 193, 3) := dk_180 0 193 (dk_at dksX1_firstOpen_0 13 rfl rfl)
theorem dX1_firstOpen_16 : decode cX1_firstOpen 16 = .ok (.invokevirtual 205, 3) := dk_182 0 205 (dk_at dksX1_firstOpen_0 16 rfl rfl)
theorem dX1_firstOpen_19 : decode cX1_firstOpen 19 = .ok (.istore_n 3, 1) := dk_62 (dk_at dksX1_firstOpen_0 19 rfl rfl)
theorem dX1_firstOpen_20 : decode cX1_firstOpen 20 = .ok (.iload_n 3, 1) := dk_29 (dk_at dksX1_firstOpen_0 20 rfl rfl)
theorem dX1_firstOpen_21 : decode cX1_firstOpen 21 = .ok (.ifCond .le 57, 3) := dk_158 0 57 (dk_at dksX1_firstOpen_0 21 rfl rfl)
theorem dX1_firstOpen_24 : decode cX1_firstOpen 24 = .ok (.aload_n 0, 1) := dk_42 (dk_at dksX1_firstOpen_1 0 rfl rfl)
theorem dX1_firstOpen_25 : decode cX1_firstOpen 25 = .ok (.getfield 65, 3) := dk_180 0 65 (dk_at dksX1_firstOpen_1 1 rfl rfl)
theorem dX1_firstOpen_28 : decode cX1_firstOpen 28 = .ok (.getfield 139, 3) := dk_180 0 139 (dk_at dksX1_firstOpen_1 4 rfl rfl)
theorem dX1_firstOpen_31 : decode cX1_firstOpen 31 = .ok (.aload_n 0, 1) := dk_42 (dk_at dksX1_firstOpen_1 7 rfl rfl)
theorem dX1_firstOpen_32 : decode cX1_firstOpen 32 = .ok (.getfield 65, 3) := dk_180 0 65 (dk_at dksX1_firstOpen_1 8 rfl rfl)
theorem dX1_firstOpen_35 : decode cX1_firstOpen 35 = .ok (.getfield 201, 3) := dk_180 0 201 (dk_at dksX1_firstOpen_1 11 rfl rfl)
theorem dX1_firstOpen_38 : decode cX1_firstOpen 38 = .ok (.iload_n 2, 1) := dk_28 (dk_at dksX1_firstOpen_1 14 rfl rfl)
theorem dX1_firstOpen_39 : decode cX1_firstOpen 39 = .ok (.iaload, 1) := dk_46 (dk_at dksX1_firstOpen_1 15 rfl rfl)
theorem dX1_firstOpen_40 : decode cX1_firstOpen 40 = .ok (.aaload, 1) := dk_50 (dk_at dksX1_firstOpen_1 16 rfl rfl)
theorem dX1_firstOpen_41 : decode cX1_firstOpen 41 = .ok (.getfield 228, 3) := dk_180 0 228 (dk_at dksX1_firstOpen_1 17 rfl rfl)
theorem dX1_firstOpen_44 : decode cX1_firstOpen 44 = .ok (.ifCond .eq 13, 3) := dk_153 0 13 (dk_at dksX1_firstOpen_1 20 rfl rfl)
theorem dX1_firstOpen_47 : decode cX1_firstOpen 47 = .ok (.aload_n 0, 1) := dk_42 (dk_at dksX1_firstOpen_1 23 rfl rfl)
theorem dX1_firstOpen_48 : decode cX1_firstOpen 48 = .ok (.getfield 65, 3) := dk_180 0 65 (dk_at dksX1_firstOpen_2 0 rfl rfl)
theorem dX1_firstOpen_51 : decode cX1_firstOpen 51 = .ok (.getfield 201, 3) := dk_180 0 201 (dk_at dksX1_firstOpen_2 3 rfl rfl)
theorem dX1_firstOpen_54 : decode cX1_firstOpen 54 = .ok (.iload_n 2, 1) := dk_28 (dk_at dksX1_firstOpen_2 6 rfl rfl)
theorem dX1_firstOpen_55 : decode cX1_firstOpen 55 = .ok (.iaload, 1) := dk_46 (dk_at dksX1_firstOpen_2 7 rfl rfl)
theorem dX1_firstOpen_56 : decode cX1_firstOpen 56 = .ok (.ireturn, 1) := dk_172 (dk_at dksX1_firstOpen_2 8 rfl rfl)
theorem dX1_firstOpen_57 : decode cX1_firstOpen 57 = .ok (.aload_n 0, 1) := dk_42 (dk_at dksX1_firstOpen_2 9 rfl rfl)
theorem dX1_firstOpen_58 : decode cX1_firstOpen 58 = .ok (.getfield 65, 3) := dk_180 0 65 (dk_at dksX1_firstOpen_2 10 rfl rfl)
theorem dX1_firstOpen_61 : decode cX1_firstOpen 61 = .ok (.iload_n 2, 1) := dk_28 (dk_at dksX1_firstOpen_2 13 rfl rfl)
theorem dX1_firstOpen_62 : decode cX1_firstOpen 62 = .ok (.iconst 1, 1) := dk_4 (dk_at dksX1_firstOpen_2 14 rfl rfl)
theorem dX1_firstOpen_63 : decode cX1_firstOpen 63 = .ok (.iadd, 1) := dk_96 (dk_at dksX1_firstOpen_2 15 rfl rfl)
theorem dX1_firstOpen_64 : decode cX1_firstOpen 64 = .ok (.sipush 360, 3) := dk_17 1 104 (dk_at dksX1_firstOpen_2 16 rfl rfl)
theorem dX1_firstOpen_67 : decode cX1_firstOpen 67 = .ok (.irem, 1) := dk_112 (dk_at dksX1_firstOpen_2 19 rfl rfl)
theorem dX1_firstOpen_68 : decode cX1_firstOpen 68 = .ok (.invokevirtual 434, 3) := dk_182 1 178 (dk_at dksX1_firstOpen_2 20 rfl rfl)
theorem dX1_firstOpen_71 : decode cX1_firstOpen 71 = .ok (.istore_n 2, 1) := dk_61 (dk_at dksX1_firstOpen_2 23 rfl rfl)
theorem dX1_firstOpen_72 : decode cX1_firstOpen 72 = .ok (.iinc 3 (-1), 3) := dk_132 3 255 (dk_at dksX1_firstOpen_3 0 rfl rfl)
theorem dX1_firstOpen_75 : decode cX1_firstOpen 75 = .ok (.goto (-55), 3) := dk_167 255 201 (dk_at dksX1_firstOpen_3 3 rfl rfl)
theorem dX1_firstOpen_78 : decode cX1_firstOpen 78 = .ok (.iconst (-1), 1) := dk_2 (dk_at dksX1_firstOpen_3 6 rfl rfl)
theorem dX1_firstOpen_79 : decode cX1_firstOpen 79 = .ok (.ireturn, 1) := dk_172 (dk_at dksX1_firstOpen_3 7 rfl rfl)
abbrev cX1_nearestAgain : ByteArray := prog_1_method_54_code
def yX1_nearestAgain : MethodName := ⟨RX1, "nearestAgain", "(I)I"⟩
def dkwX1_nearestAgain_4 : List UInt8 := [182, 1, 157, 62, 167, 255, 180, 42, 180, 0, 65, 180, 0, 201, 28, 184, 1, 21, 46, 172]
abbrev dktX1_nearestAgain_4 : List UInt8 := dkwX1_nearestAgain_4 ++ []
def dkwX1_nearestAgain_3 : List UInt8 := [153, 0, 12, 21, 4, 153, 0, 7, 29, 167, 0, 4, 28, 61, 42, 180, 0, 65, 180, 0, 193, 29, 4, 96]
abbrev dktX1_nearestAgain_3 : List UInt8 := dkwX1_nearestAgain_3 ++ dktX1_nearestAgain_4
def dkwX1_nearestAgain_2 : List UInt8 := [3, 54, 4, 42, 180, 0, 65, 180, 0, 139, 42, 180, 0, 65, 180, 0, 201, 29, 46, 50, 180, 0, 228]
abbrev dktX1_nearestAgain_2 : List UInt8 := dkwX1_nearestAgain_2 ++ dktX1_nearestAgain_3
def dkwX1_nearestAgain_1 : List UInt8 := [155, 0, 78, 28, 155, 0, 16, 27, 29, 184, 1, 175, 27, 28, 184, 1, 175, 162, 0, 7, 4, 167, 0, 4]
abbrev dktX1_nearestAgain_1 : List UInt8 := dkwX1_nearestAgain_1 ++ dktX1_nearestAgain_2
def dkwX1_nearestAgain_0 : List UInt8 := [27, 184, 0, 190, 184, 0, 135, 2, 61, 42, 180, 0, 65, 180, 0, 193, 3, 182, 1, 157, 62, 29]
abbrev dktX1_nearestAgain_0 : List UInt8 := dkwX1_nearestAgain_0 ++ dktX1_nearestAgain_1
theorem dksX1_nearestAgain_0 : cX1_nearestAgain.data.toList.drop 0 = dktX1_nearestAgain_0 := by decide +kernel
theorem dksX1_nearestAgain_1 : cX1_nearestAgain.data.toList.drop 22 = dktX1_nearestAgain_1 := dk_seg dksX1_nearestAgain_0 22 rfl rfl
theorem dksX1_nearestAgain_2 : cX1_nearestAgain.data.toList.drop 46 = dktX1_nearestAgain_2 := dk_seg dksX1_nearestAgain_1 24 rfl rfl
theorem dksX1_nearestAgain_3 : cX1_nearestAgain.data.toList.drop 69 = dktX1_nearestAgain_3 := dk_seg dksX1_nearestAgain_2 23 rfl rfl
theorem dksX1_nearestAgain_4 : cX1_nearestAgain.data.toList.drop 93 = dktX1_nearestAgain_4 := dk_seg dksX1_nearestAgain_3 24 rfl rfl
theorem dX1_nearestAgain_0 : decode cX1_nearestAgain 0 = .ok (.iload_n 1, 1) := dk_27 (dk_at dksX1_nearestAgain_0 0 rfl rfl)
theorem dX1_nearestAgain_1 : decode cX1_nearestAgain 1 = .ok (.invokestatic 190, 3) := dk_184 0 190 (dk_at dksX1_nearestAgain_0 1 rfl rfl)
theorem dX1_nearestAgain_4 : decode cX1_nearestAgain 4 = .ok (.invokestatic 135, 3) := dk_184 0 135 (dk_at dksX1_nearestAgain_0 4 rfl rfl)
theorem dX1_nearestAgain_7 : decode cX1_nearestAgain 7 = .ok (.iconst (-1), 1) := dk_2 (dk_at dksX1_nearestAgain_0 7 rfl rfl)
theorem dX1_nearestAgain_8 : decode cX1_nearestAgain 8 = .ok (.istore_n 2, 1) := dk_61 (dk_at dksX1_nearestAgain_0 8 rfl rfl)
theorem dX1_nearestAgain_9 : decode cX1_nearestAgain 9 = .ok (.aload_n 0, 1) := dk_42 (dk_at dksX1_nearestAgain_0 9 rfl rfl)
theorem dX1_nearestAgain_10 : decode cX1_nearestAgain 10 = .ok (.getfield 65, 3) := dk_180 0 65 (dk_at dksX1_nearestAgain_0 10 rfl rfl)
theorem dX1_nearestAgain_13 : decode cX1_nearestAgain 13 = .ok (.getfield 193, 3) := dk_180 0 193 (dk_at dksX1_nearestAgain_0 13 rfl rfl)
theorem dX1_nearestAgain_16 : decode cX1_nearestAgain 16 = .ok (.iconst 0, 1) := dk_3 (dk_at dksX1_nearestAgain_0 16 rfl rfl)
theorem dX1_nearestAgain_17 : decode cX1_nearestAgain 17 = .ok (.invokevirtual 413, 3) := dk_182 1 157 (dk_at dksX1_nearestAgain_0 17 rfl rfl)
theorem dX1_nearestAgain_20 : decode cX1_nearestAgain 20 = .ok (.istore_n 3, 1) := dk_62 (dk_at dksX1_nearestAgain_0 20 rfl rfl)
theorem dX1_nearestAgain_21 : decode cX1_nearestAgain 21 = .ok (.iload_n 3, 1) := dk_29 (dk_at dksX1_nearestAgain_0 21 rfl rfl)
theorem dX1_nearestAgain_22 : decode cX1_nearestAgain 22 = .ok (.ifCond .lt 78, 3) := dk_155 0 78 (dk_at dksX1_nearestAgain_1 0 rfl rfl)
theorem dX1_nearestAgain_25 : decode cX1_nearestAgain 25 = .ok (.iload_n 2, 1) := dk_28 (dk_at dksX1_nearestAgain_1 3 rfl rfl)
theorem dX1_nearestAgain_26 : decode cX1_nearestAgain 26 = .ok (.ifCond .lt 16, 3) := dk_155 0 16 (dk_at dksX1_nearestAgain_1 4 rfl rfl)
theorem dX1_nearestAgain_29 : decode cX1_nearestAgain 29 = .ok (.iload_n 1, 1) := dk_27 (dk_at dksX1_nearestAgain_1 7 rfl rfl)
theorem dX1_nearestAgain_30 : decode cX1_nearestAgain 30 = .ok (.iload_n 3, 1) := dk_29 (dk_at dksX1_nearestAgain_1 8 rfl rfl)
theorem dX1_nearestAgain_31 : decode cX1_nearestAgain 31 = .ok (.invokestatic 431, 3) := dk_184 1 175 (dk_at dksX1_nearestAgain_1 9 rfl rfl)
theorem dX1_nearestAgain_34 : decode cX1_nearestAgain 34 = .ok (.iload_n 1, 1) := dk_27 (dk_at dksX1_nearestAgain_1 12 rfl rfl)
theorem dX1_nearestAgain_35 : decode cX1_nearestAgain 35 = .ok (.iload_n 2, 1) := dk_28 (dk_at dksX1_nearestAgain_1 13 rfl rfl)
theorem dX1_nearestAgain_36 : decode cX1_nearestAgain 36 = .ok (.invokestatic 431, 3) := dk_184 1 175 (dk_at dksX1_nearestAgain_1 14 rfl rfl)
theorem dX1_nearestAgain_39 : decode cX1_nearestAgain 39 = .ok (.if_icmp .ge 7, 3) := dk_162 0 7 (dk_at dksX1_nearestAgain_1 17 rfl rfl)
theorem dX1_nearestAgain_42 : decode cX1_nearestAgain 42 = .ok (.iconst 1, 1) := dk_4 (dk_at dksX1_nearestAgain_1 20 rfl rfl)
theorem dX1_nearestAgain_43 : decode cX1_nearestAgain 43 = .ok (.goto 4, 3) := dk_167 0 4 (dk_at dksX1_nearestAgain_1 21 rfl rfl)
theorem dX1_nearestAgain_46 : decode cX1_nearestAgain 46 = .ok (.iconst 0, 1) := dk_3 (dk_at dksX1_nearestAgain_2 0 rfl rfl)
theorem dX1_nearestAgain_47 : decode cX1_nearestAgain 47 = .ok (.istore 4, 2) := dk_54 4 (dk_at dksX1_nearestAgain_2 1 rfl rfl)
theorem dX1_nearestAgain_49 : decode cX1_nearestAgain 49 = .ok (.aload_n 0, 1) := dk_42 (dk_at dksX1_nearestAgain_2 3 rfl rfl)
theorem dX1_nearestAgain_50 : decode cX1_nearestAgain 50 = .ok (.getfield 65, 3) := dk_180 0 65 (dk_at dksX1_nearestAgain_2 4 rfl rfl)
theorem dX1_nearestAgain_53 : decode cX1_nearestAgain 53 = .ok (.getfield 139, 3) := dk_180 0 139 (dk_at dksX1_nearestAgain_2 7 rfl rfl)
theorem dX1_nearestAgain_56 : decode cX1_nearestAgain 56 = .ok (.aload_n 0, 1) := dk_42 (dk_at dksX1_nearestAgain_2 10 rfl rfl)
theorem dX1_nearestAgain_57 : decode cX1_nearestAgain 57 = .ok (.getfield 65, 3) := dk_180 0 65 (dk_at dksX1_nearestAgain_2 11 rfl rfl)
theorem dX1_nearestAgain_60 : decode cX1_nearestAgain 60 = .ok (.getfield 201, 3) := dk_180 0 201 (dk_at dksX1_nearestAgain_2 14 rfl rfl)
theorem dX1_nearestAgain_63 : decode cX1_nearestAgain 63 = .ok (.iload_n 3, 1) := dk_29 (dk_at dksX1_nearestAgain_2 17 rfl rfl)
theorem dX1_nearestAgain_64 : decode cX1_nearestAgain 64 = .ok (.iaload, 1) := dk_46 (dk_at dksX1_nearestAgain_2 18 rfl rfl)
theorem dX1_nearestAgain_65 : decode cX1_nearestAgain 65 = .ok (.aaload, 1) := dk_50 (dk_at dksX1_nearestAgain_2 19 rfl rfl)
theorem dX1_nearestAgain_66 : decode cX1_nearestAgain 66 = .ok (.getfield 228, 3) := dk_180 0 228 (dk_at dksX1_nearestAgain_2 20 rfl rfl)
theorem dX1_nearestAgain_69 : decode cX1_nearestAgain 69 = .ok (.ifCond .eq 12, 3) := dk_153 0 12 (dk_at dksX1_nearestAgain_3 0 rfl rfl)
theorem dX1_nearestAgain_72 : decode cX1_nearestAgain 72 = .ok (.iload 4, 2) := dk_21 4 (dk_at dksX1_nearestAgain_3 3 rfl rfl)
theorem dX1_nearestAgain_74 : decode cX1_nearestAgain 74 = .ok (.ifCond .eq 7, 3) := dk_153 0 7 (dk_at dksX1_nearestAgain_3 5 rfl rfl)
theorem dX1_nearestAgain_77 : decode cX1_nearestAgain 77 = .ok (.iload_n 3, 1) := dk_29 (dk_at dksX1_nearestAgain_3 8 rfl rfl)
theorem dX1_nearestAgain_78 : decode cX1_nearestAgain 78 = .ok (.goto 4, 3) := dk_167 0 4 (dk_at dksX1_nearestAgain_3 9 rfl rfl)
theorem dX1_nearestAgain_81 : decode cX1_nearestAgain 81 = .ok (.iload_n 2, 1) := dk_28 (dk_at dksX1_nearestAgain_3 12 rfl rfl)
theorem dX1_nearestAgain_82 : decode cX1_nearestAgain 82 = .ok (.istore_n 2, 1) := dk_61 (dk_at dksX1_nearestAgain_3 13 rfl rfl)
theorem dX1_nearestAgain_83 : decode cX1_nearestAgain 83 = .ok (.aload_n 0, 1) := dk_42 (dk_at dksX1_nearestAgain_3 14 rfl rfl)
theorem dX1_nearestAgain_84 : decode cX1_nearestAgain 84 = .ok (.getfield 65, 3) := dk_180 0 65 (dk_at dksX1_nearestAgain_3 15 rfl rfl)
theorem dX1_nearestAgain_87 : decode cX1_nearestAgain 87 = .ok (.getfield 193, 3) := dk_180 0 193 (dk_at dksX1_nearestAgain_3 18 rfl rfl)
theorem dX1_nearestAgain_90 : decode cX1_nearestAgain 90 = .ok (.iload_n 3, 1) := dk_29 (dk_at dksX1_nearestAgain_3 21 rfl rfl)
theorem dX1_nearestAgain_91 : decode cX1_nearestAgain 91 = .ok (.iconst 1, 1) := dk_4 (dk_at dksX1_nearestAgain_3 22 rfl rfl)
theorem dX1_nearestAgain_92 : decode cX1_nearestAgain 92 = .ok (.iadd, 1) := dk_96 (dk_at dksX1_nearestAgain_3 23 rfl rfl)
theorem dX1_nearestAgain_93 : decode cX1_nearestAgain 93 = .ok (.invokevirtual 413, 3) := dk_182 1 157 (dk_at dksX1_nearestAgain_4 0 rfl rfl)
theorem dX1_nearestAgain_96 : decode cX1_nearestAgain 96 = .ok (.istore_n 3, 1) := dk_62 (dk_at dksX1_nearestAgain_4 3 rfl rfl)
theorem dX1_nearestAgain_97 : decode cX1_nearestAgain 97 = .ok (.goto (-76), 3) := dk_167 255 180 (dk_at dksX1_nearestAgain_4 4 rfl rfl)
theorem dX1_nearestAgain_100 : decode cX1_nearestAgain 100 = .ok (.aload_n 0, 1) := dk_42 (dk_at dksX1_nearestAgain_4 7 rfl rfl)
theorem dX1_nearestAgain_101 : decode cX1_nearestAgain 101 = .ok (.getfield 65, 3) := dk_180 0 65 (dk_at dksX1_nearestAgain_4 8 rfl rfl)
theorem dX1_nearestAgain_104 : decode cX1_nearestAgain 104 = .ok (.getfield 201, 3) := dk_180 0 201 (dk_at dksX1_nearestAgain_4 11 rfl rfl)
theorem dX1_nearestAgain_107 : decode cX1_nearestAgain 107 = .ok (.iload_n 2, 1) := dk_28 (dk_at dksX1_nearestAgain_4 14 rfl rfl)
theorem dX1_nearestAgain_108 : decode cX1_nearestAgain 108 = .ok (.invokestatic 277, 3) := dk_184 1 21 (dk_at dksX1_nearestAgain_4 15 rfl rfl)
theorem dX1_nearestAgain_111 : decode cX1_nearestAgain 111 = .ok (.iaload, 1) := dk_46 (dk_at dksX1_nearestAgain_4 18 rfl rfl)
theorem dX1_nearestAgain_112 : decode cX1_nearestAgain 112 = .ok (.ireturn, 1) := dk_172 (dk_at dksX1_nearestAgain_4 19 rfl rfl)
abbrev cX1_wouldGo : ByteArray := prog_1_method_55_code
def yX1_wouldGo : MethodName := ⟨RX1, "wouldGo", "(II)I"⟩
def dkwX1_wouldGo_1 : List UInt8 := [182, 1, 184, 184, 1, 21, 172]
abbrev dktX1_wouldGo_1 : List UInt8 := dkwX1_wouldGo_1 ++ []
def dkwX1_wouldGo_0 : List UInt8 := [27, 184, 0, 190, 184, 0, 135, 28, 4, 16, 9, 184, 0, 143, 184, 0, 173, 42, 180, 0, 65, 27, 28]
abbrev dktX1_wouldGo_0 : List UInt8 := dkwX1_wouldGo_0 ++ dktX1_wouldGo_1
theorem dksX1_wouldGo_0 : cX1_wouldGo.data.toList.drop 0 = dktX1_wouldGo_0 := by decide +kernel
theorem dksX1_wouldGo_1 : cX1_wouldGo.data.toList.drop 23 = dktX1_wouldGo_1 := dk_seg dksX1_wouldGo_0 23 rfl rfl
theorem dX1_wouldGo_0 : decode cX1_wouldGo 0 = .ok (.iload_n 1, 1) := dk_27 (dk_at dksX1_wouldGo_0 0 rfl rfl)
theorem dX1_wouldGo_1 : decode cX1_wouldGo 1 = .ok (.invokestatic 190, 3) := dk_184 0 190 (dk_at dksX1_wouldGo_0 1 rfl rfl)
theorem dX1_wouldGo_4 : decode cX1_wouldGo 4 = .ok (.invokestatic 135, 3) := dk_184 0 135 (dk_at dksX1_wouldGo_0 4 rfl rfl)
theorem dX1_wouldGo_7 : decode cX1_wouldGo 7 = .ok (.iload_n 2, 1) := dk_28 (dk_at dksX1_wouldGo_0 7 rfl rfl)
theorem dX1_wouldGo_8 : decode cX1_wouldGo 8 = .ok (.iconst 1, 1) := dk_4 (dk_at dksX1_wouldGo_0 8 rfl rfl)
theorem dX1_wouldGo_9 : decode cX1_wouldGo 9 = .ok (.bipush 9, 2) := dk_16 9 (dk_at dksX1_wouldGo_0 9 rfl rfl)
theorem dX1_wouldGo_11 : decode cX1_wouldGo 11 = .ok (.invokestatic 143, 3) := dk_184 0 143 (dk_at dksX1_wouldGo_0 11 rfl rfl)
theorem dX1_wouldGo_14 : decode cX1_wouldGo 14 = .ok (.invokestatic 173, 3) := dk_184 0 173 (dk_at dksX1_wouldGo_0 14 rfl rfl)
theorem dX1_wouldGo_17 : decode cX1_wouldGo 17 = .ok (.aload_n 0, 1) := dk_42 (dk_at dksX1_wouldGo_0 17 rfl rfl)
theorem dX1_wouldGo_18 : decode cX1_wouldGo 18 = .ok (.getfield 65, 3) := dk_180 0 65 (dk_at dksX1_wouldGo_0 18 rfl rfl)
theorem dX1_wouldGo_21 : decode cX1_wouldGo 21 = .ok (.iload_n 1, 1) := dk_27 (dk_at dksX1_wouldGo_0 21 rfl rfl)
theorem dX1_wouldGo_22 : decode cX1_wouldGo 22 = .ok (.iload_n 2, 1) := dk_28 (dk_at dksX1_wouldGo_0 22 rfl rfl)
theorem dX1_wouldGo_23 : decode cX1_wouldGo 23 = .ok (.invokevirtual 440, 3) := dk_182 1 184 (dk_at dksX1_wouldGo_1 0 rfl rfl)
theorem dX1_wouldGo_26 : decode cX1_wouldGo 26 = .ok (.invokestatic 277, 3) := dk_184 1 21 (dk_at dksX1_wouldGo_1 3 rfl rfl)
theorem dX1_wouldGo_29 : decode cX1_wouldGo 29 = .ok (.ireturn, 1) := dk_172 (dk_at dksX1_wouldGo_1 6 rfl rfl)
abbrev cX1_wouldMove : ByteArray := prog_1_method_56_code
def yX1_wouldMove : MethodName := ⟨RX1, "wouldMove", "(I)I"⟩
def dkwX1_wouldMove_2 : List UInt8 := [180, 0, 72, 180, 0, 147, 182, 0, 169, 172]
abbrev dktX1_wouldMove_2 : List UInt8 := dkwX1_wouldMove_2 ++ []
def dkwX1_wouldMove_1 : List UInt8 := [180, 0, 139, 27, 50, 28, 154, 0, 7, 4, 167, 0, 4, 3, 181, 0, 228, 42, 180, 0, 72, 42]
abbrev dktX1_wouldMove_1 : List UInt8 := dkwX1_wouldMove_1 ++ dktX1_wouldMove_2
def dkwX1_wouldMove_0 : List UInt8 := [42, 27, 182, 0, 224, 180, 0, 228, 61, 42, 180, 0, 72, 42, 180, 0, 65, 182, 0, 105, 42, 180, 0, 72]
abbrev dktX1_wouldMove_0 : List UInt8 := dkwX1_wouldMove_0 ++ dktX1_wouldMove_1
theorem dksX1_wouldMove_0 : cX1_wouldMove.data.toList.drop 0 = dktX1_wouldMove_0 := by decide +kernel
theorem dksX1_wouldMove_1 : cX1_wouldMove.data.toList.drop 24 = dktX1_wouldMove_1 := dk_seg dksX1_wouldMove_0 24 rfl rfl
theorem dksX1_wouldMove_2 : cX1_wouldMove.data.toList.drop 46 = dktX1_wouldMove_2 := dk_seg dksX1_wouldMove_1 22 rfl rfl
theorem dX1_wouldMove_0 : decode cX1_wouldMove 0 = .ok (.aload_n 0, 1) := dk_42 (dk_at dksX1_wouldMove_0 0 rfl rfl)
theorem dX1_wouldMove_1 : decode cX1_wouldMove 1 = .ok (.iload_n 1, 1) := dk_27 (dk_at dksX1_wouldMove_0 1 rfl rfl)
theorem dX1_wouldMove_2 : decode cX1_wouldMove 2 = .ok (.invokevirtual 224, 3) := dk_182 0 224 (dk_at dksX1_wouldMove_0 2 rfl rfl)
theorem dX1_wouldMove_5 : decode cX1_wouldMove 5 = .ok (.getfield 228, 3) := dk_180 0 228 (dk_at dksX1_wouldMove_0 5 rfl rfl)
theorem dX1_wouldMove_8 : decode cX1_wouldMove 8 = .ok (.istore_n 2, 1) := dk_61 (dk_at dksX1_wouldMove_0 8 rfl rfl)
theorem dX1_wouldMove_9 : decode cX1_wouldMove 9 = .ok (.aload_n 0, 1) := dk_42 (dk_at dksX1_wouldMove_0 9 rfl rfl)
theorem dX1_wouldMove_10 : decode cX1_wouldMove 10 = .ok (.getfield 72, 3) := dk_180 0 72 (dk_at dksX1_wouldMove_0 10 rfl rfl)
theorem dX1_wouldMove_13 : decode cX1_wouldMove 13 = .ok (.aload_n 0, 1) := dk_42 (dk_at dksX1_wouldMove_0 13 rfl rfl)
theorem dX1_wouldMove_14 : decode cX1_wouldMove 14 = .ok (.getfield 65, 3) := dk_180 0 65 (dk_at dksX1_wouldMove_0 14 rfl rfl)
theorem dX1_wouldMove_17 : decode cX1_wouldMove 17 = .ok (.invokevirtual 105, 3) := dk_182 0 105 (dk_at dksX1_wouldMove_0 17 rfl rfl)
theorem dX1_wouldMove_20 : decode cX1_wouldMove 20 = .ok (.aload_n 0, 1) := dk_42 (dk_at dksX1_wouldMove_0 20 rfl rfl)
theorem dX1_wouldMove_21 : decode cX1_wouldMove 21 = .ok (.getfield 72, 3) := dk_180 0 72 (dk_at dksX1_wouldMove_0 21 rfl rfl)
theorem dX1_wouldMove_24 : decode cX1_wouldMove 24 = .ok (.getfield 139, 3) := dk_180 0 139 (dk_at dksX1_wouldMove_1 0 rfl rfl)
theorem dX1_wouldMove_27 : decode cX1_wouldMove 27 = .ok (.iload_n 1, 1) := dk_27 (dk_at dksX1_wouldMove_1 3 rfl rfl)
theorem dX1_wouldMove_28 : decode cX1_wouldMove 28 = .ok (.aaload, 1) := dk_50 (dk_at dksX1_wouldMove_1 4 rfl rfl)
theorem dX1_wouldMove_29 : decode cX1_wouldMove 29 = .ok (.iload_n 2, 1) := dk_28 (dk_at dksX1_wouldMove_1 5 rfl rfl)
theorem dX1_wouldMove_30 : decode cX1_wouldMove 30 = .ok (.ifCond .ne 7, 3) := dk_154 0 7 (dk_at dksX1_wouldMove_1 6 rfl rfl)
theorem dX1_wouldMove_33 : decode cX1_wouldMove 33 = .ok (.iconst 1, 1) := dk_4 (dk_at dksX1_wouldMove_1 9 rfl rfl)
theorem dX1_wouldMove_34 : decode cX1_wouldMove 34 = .ok (.goto 4, 3) := dk_167 0 4 (dk_at dksX1_wouldMove_1 10 rfl rfl)
theorem dX1_wouldMove_37 : decode cX1_wouldMove 37 = .ok (.iconst 0, 1) := dk_3 (dk_at dksX1_wouldMove_1 13 rfl rfl)
theorem dX1_wouldMove_38 : decode cX1_wouldMove 38 = .ok (.putfield 228, 3) := dk_181 0 228 (dk_at dksX1_wouldMove_1 14 rfl rfl)
theorem dX1_wouldMove_41 : decode cX1_wouldMove 41 = .ok (.aload_n 0, 1) := dk_42 (dk_at dksX1_wouldMove_1 17 rfl rfl)
theorem dX1_wouldMove_42 : decode cX1_wouldMove 42 = .ok (.getfield 72, 3) := dk_180 0 72 (dk_at dksX1_wouldMove_1 18 rfl rfl)
theorem dX1_wouldMove_45 : decode cX1_wouldMove 45 = .ok (.aload_n 0, 1) := dk_42 (dk_at dksX1_wouldMove_1 21 rfl rfl)
theorem dX1_wouldMove_46 : decode cX1_wouldMove 46 = .ok (.getfield 72, 3) := dk_180 0 72 (dk_at dksX1_wouldMove_2 0 rfl rfl)
theorem dX1_wouldMove_49 : decode cX1_wouldMove 49 = .ok (.getfield 147, 3) := dk_180 0 147 (dk_at dksX1_wouldMove_2 3 rfl rfl)
theorem dX1_wouldMove_52 : decode cX1_wouldMove 52 = .ok (.invokevirtual 169, 3) := dk_182 0 169 (dk_at dksX1_wouldMove_2 6 rfl rfl)
theorem dX1_wouldMove_55 : decode cX1_wouldMove 55 = .ok (.ireturn, 1) := dk_172 (dk_at dksX1_wouldMove_2 9 rfl rfl)
abbrev cX1_wouldLoad : ByteArray := prog_1_method_58_code
def yX1_wouldLoad : MethodName := ⟨RX1, "wouldLoad", "(II)I"⟩
def dkwX1_wouldLoad_2 : List UInt8 := [180, 1, 151, 27, 46, 172]
abbrev dktX1_wouldLoad_2 : List UInt8 := dkwX1_wouldLoad_2 ++ []
def dkwX1_wouldLoad_1 : List UInt8 := [184, 0, 135, 42, 180, 0, 72, 42, 180, 0, 65, 182, 0, 105, 42, 27, 28, 182, 1, 187, 42, 180, 0, 72]
abbrev dktX1_wouldLoad_1 : List UInt8 := dkwX1_wouldLoad_1 ++ dktX1_wouldLoad_2
def dkwX1_wouldLoad_0 : List UInt8 := [42, 180, 0, 65, 27, 182, 0, 131, 153, 0, 14, 28, 184, 0, 190, 153, 0, 7, 4, 167, 0, 4, 3]
abbrev dktX1_wouldLoad_0 : List UInt8 := dkwX1_wouldLoad_0 ++ dktX1_wouldLoad_1
theorem dksX1_wouldLoad_0 : cX1_wouldLoad.data.toList.drop 0 = dktX1_wouldLoad_0 := by decide +kernel
theorem dksX1_wouldLoad_1 : cX1_wouldLoad.data.toList.drop 23 = dktX1_wouldLoad_1 := dk_seg dksX1_wouldLoad_0 23 rfl rfl
theorem dksX1_wouldLoad_2 : cX1_wouldLoad.data.toList.drop 47 = dktX1_wouldLoad_2 := dk_seg dksX1_wouldLoad_1 24 rfl rfl
theorem dX1_wouldLoad_0 : decode cX1_wouldLoad 0 = .ok (.aload_n 0, 1) := dk_42 (dk_at dksX1_wouldLoad_0 0 rfl rfl)
theorem dX1_wouldLoad_1 : decode cX1_wouldLoad 1 = .ok (.getfield 65, 3) := dk_180 0 65 (dk_at dksX1_wouldLoad_0 1 rfl rfl)
theorem dX1_wouldLoad_4 : decode cX1_wouldLoad 4 = .ok (.iload_n 1, 1) := dk_27 (dk_at dksX1_wouldLoad_0 4 rfl rfl)
theorem dX1_wouldLoad_5 : decode cX1_wouldLoad 5 = .ok (.invokevirtual 131, 3) := dk_182 0 131 (dk_at dksX1_wouldLoad_0 5 rfl rfl)
theorem dX1_wouldLoad_8 : decode cX1_wouldLoad 8 = .ok (.ifCond .eq 14, 3) := dk_153 0 14 (dk_at dksX1_wouldLoad_0 8 rfl rfl)
theorem dX1_wouldLoad_11 : decode cX1_wouldLoad 11 = .ok (.iload_n 2, 1) := dk_28 (dk_at dksX1_wouldLoad_0 11 rfl rfl)
theorem dX1_wouldLoad_12 : decode cX1_wouldLoad 12 = .ok (.invokestatic 190, 3) := dk_184 0 190 (dk_at dksX1_wouldLoad_0 12 rfl rfl)
theorem dX1_wouldLoad_15 : decode cX1_wouldLoad 15 = .ok (.ifCond .eq 7, 3) := dk_153 0 7 (dk_at dksX1_wouldLoad_0 15 rfl rfl)
theorem dX1_wouldLoad_18 : decode cX1_wouldLoad 18 = .ok (.iconst 1, 1) := dk_4 (dk_at dksX1_wouldLoad_0 18 rfl rfl)
theorem dX1_wouldLoad_19 : decode cX1_wouldLoad 19 = .ok (.goto 4, 3) := dk_167 0 4 (dk_at dksX1_wouldLoad_0 19 rfl rfl)
theorem dX1_wouldLoad_22 : decode cX1_wouldLoad 22 = .ok (.iconst 0, 1) := dk_3 (dk_at dksX1_wouldLoad_0 22 rfl rfl)
theorem dX1_wouldLoad_23 : decode cX1_wouldLoad 23 = .ok (.invokestatic 135, 3) := dk_184 0 135 (dk_at dksX1_wouldLoad_1 0 rfl rfl)
theorem dX1_wouldLoad_26 : decode cX1_wouldLoad 26 = .ok (.aload_n 0, 1) := dk_42 (dk_at dksX1_wouldLoad_1 3 rfl rfl)
theorem dX1_wouldLoad_27 : decode cX1_wouldLoad 27 = .ok (.getfield 72, 3) := dk_180 0 72 (dk_at dksX1_wouldLoad_1 4 rfl rfl)
theorem dX1_wouldLoad_30 : decode cX1_wouldLoad 30 = .ok (.aload_n 0, 1) := dk_42 (dk_at dksX1_wouldLoad_1 7 rfl rfl)
theorem dX1_wouldLoad_31 : decode cX1_wouldLoad 31 = .ok (.getfield 65, 3) := dk_180 0 65 (dk_at dksX1_wouldLoad_1 8 rfl rfl)
theorem dX1_wouldLoad_34 : decode cX1_wouldLoad 34 = .ok (.invokevirtual 105, 3) := dk_182 0 105 (dk_at dksX1_wouldLoad_1 11 rfl rfl)
theorem dX1_wouldLoad_37 : decode cX1_wouldLoad 37 = .ok (.aload_n 0, 1) := dk_42 (dk_at dksX1_wouldLoad_1 14 rfl rfl)
theorem dX1_wouldLoad_38 : decode cX1_wouldLoad 38 = .ok (.iload_n 1, 1) := dk_27 (dk_at dksX1_wouldLoad_1 15 rfl rfl)
theorem dX1_wouldLoad_39 : decode cX1_wouldLoad 39 = .ok (.iload_n 2, 1) := dk_28 (dk_at dksX1_wouldLoad_1 16 rfl rfl)
theorem dX1_wouldLoad_40 : decode cX1_wouldLoad 40 = .ok (.invokevirtual 443, 3) := dk_182 1 187 (dk_at dksX1_wouldLoad_1 17 rfl rfl)
theorem dX1_wouldLoad_43 : decode cX1_wouldLoad 43 = .ok (.aload_n 0, 1) := dk_42 (dk_at dksX1_wouldLoad_1 20 rfl rfl)
theorem dX1_wouldLoad_44 : decode cX1_wouldLoad 44 = .ok (.getfield 72, 3) := dk_180 0 72 (dk_at dksX1_wouldLoad_1 21 rfl rfl)
theorem dX1_wouldLoad_47 : decode cX1_wouldLoad 47 = .ok (.getfield 407, 3) := dk_180 1 151 (dk_at dksX1_wouldLoad_2 0 rfl rfl)
theorem dX1_wouldLoad_50 : decode cX1_wouldLoad 50 = .ok (.iload_n 1, 1) := dk_27 (dk_at dksX1_wouldLoad_2 3 rfl rfl)
theorem dX1_wouldLoad_51 : decode cX1_wouldLoad 51 = .ok (.iaload, 1) := dk_46 (dk_at dksX1_wouldLoad_2 4 rfl rfl)
theorem dX1_wouldLoad_52 : decode cX1_wouldLoad 52 = .ok (.ireturn, 1) := dk_172 (dk_at dksX1_wouldLoad_2 5 rfl rfl)
abbrev cX1_putsAside : ByteArray := prog_1_method_57_code
def yX1_putsAside : MethodName := ⟨RX1, "putsAside", "(II)V"⟩
def dkwX1_putsAside_2 : List UInt8 := [182, 0, 169, 62, 177]
abbrev dktX1_putsAside_2 : List UInt8 := dkwX1_putsAside_2 ++ []
def dkwX1_putsAside_1 : List UInt8 := [182, 0, 212, 42, 180, 0, 72, 180, 0, 201, 28, 27, 79, 42, 180, 0, 72, 42, 180, 0, 72, 180, 0, 147]
abbrev dktX1_putsAside_1 : List UInt8 := dkwX1_putsAside_1 ++ dktX1_putsAside_2
def dkwX1_putsAside_0 : List UInt8 := [42, 180, 0, 72, 180, 0, 193, 28, 182, 0, 197, 154, 0, 39, 42, 180, 0, 72, 180, 0, 193, 28]
abbrev dktX1_putsAside_0 : List UInt8 := dkwX1_putsAside_0 ++ dktX1_putsAside_1
theorem dksX1_putsAside_0 : cX1_putsAside.data.toList.drop 0 = dktX1_putsAside_0 := by decide +kernel
theorem dksX1_putsAside_1 : cX1_putsAside.data.toList.drop 22 = dktX1_putsAside_1 := dk_seg dksX1_putsAside_0 22 rfl rfl
theorem dksX1_putsAside_2 : cX1_putsAside.data.toList.drop 46 = dktX1_putsAside_2 := dk_seg dksX1_putsAside_1 24 rfl rfl
theorem dX1_putsAside_0 : decode cX1_putsAside 0 = .ok (.aload_n 0, 1) := dk_42 (dk_at dksX1_putsAside_0 0 rfl rfl)
theorem dX1_putsAside_1 : decode cX1_putsAside 1 = .ok (.getfield 72, 3) := dk_180 0 72 (dk_at dksX1_putsAside_0 1 rfl rfl)
theorem dX1_putsAside_4 : decode cX1_putsAside 4 = .ok (.getfield 193, 3) := dk_180 0 193 (dk_at dksX1_putsAside_0 4 rfl rfl)
theorem dX1_putsAside_7 : decode cX1_putsAside 7 = .ok (.iload_n 2, 1) := dk_28 (dk_at dksX1_putsAside_0 7 rfl rfl)
theorem dX1_putsAside_8 : decode cX1_putsAside 8 = .ok (.invokevirtual 197, 3) := dk_182 0 197 (dk_at dksX1_putsAside_0 8 rfl rfl)
theorem dX1_putsAside_11 : decode cX1_putsAside 11 = .ok (.ifCond .ne 39, 3) := dk_154 0 39 (dk_at dksX1_putsAside_0 11 rfl rfl)
theorem dX1_putsAside_14 : decode cX1_putsAside 14 = .ok (.aload_n 0, 1) := dk_42 (dk_at dksX1_putsAside_0 14 rfl rfl)
theorem dX1_putsAside_15 : decode cX1_putsAside 15 = .ok (.getfield 72, 3) := dk_180 0 72 (dk_at dksX1_putsAside_0 15 rfl rfl)
theorem dX1_putsAside_18 : decode cX1_putsAside 18 = .ok (.getfield 193, 3) := dk_180 0 193 (dk_at dksX1_putsAside_0 18 rfl rfl)
theorem dX1_putsAside_21 : decode cX1_putsAside 21 = .ok (.iload_n 2, 1) := dk_28 (dk_at dksX1_putsAside_0 21 rfl rfl)
theorem dX1_putsAside_22 : decode cX1_putsAside 22 = .ok (.invokevirtual 212, 3) := dk_182 0 212 (dk_at dksX1_putsAside_1 0 rfl rfl)
theorem dX1_putsAside_25 : decode cX1_putsAside 25 = .ok (.aload_n 0, 1) := dk_42 (dk_at dksX1_putsAside_1 3 rfl rfl)
theorem dX1_putsAside_26 : decode cX1_putsAside 26 = .ok (.getfield 72, 3) := dk_180 0 72 (dk_at dksX1_putsAside_1 4 rfl rfl)
theorem dX1_putsAside_29 : decode cX1_putsAside 29 = .ok (.getfield 201, 3) := dk_180 0 201 (dk_at dksX1_putsAside_1 7 rfl rfl)
theorem dX1_putsAside_32 : decode cX1_putsAside 32 = .ok (.iload_n 2, 1) := dk_28 (dk_at dksX1_putsAside_1 10 rfl rfl)
theorem dX1_putsAside_33 : decode cX1_putsAside 33 = .ok (.iload_n 1, 1) := dk_27 (dk_at dksX1_putsAside_1 11 rfl rfl)
theorem dX1_putsAside_34 : decode cX1_putsAside 34 = .ok (.iastore, 1) := dk_79 (dk_at dksX1_putsAside_1 12 rfl rfl)
theorem dX1_putsAside_35 : decode cX1_putsAside 35 = .ok (.aload_n 0, 1) := dk_42 (dk_at dksX1_putsAside_1 13 rfl rfl)
theorem dX1_putsAside_36 : decode cX1_putsAside 36 = .ok (.getfield 72, 3) := dk_180 0 72 (dk_at dksX1_putsAside_1 14 rfl rfl)
theorem dX1_putsAside_39 : decode cX1_putsAside 39 = .ok (.aload_n 0, 1) := dk_42 (dk_at dksX1_putsAside_1 17 rfl rfl)
theorem dX1_putsAside_40 : decode cX1_putsAside 40 = .ok (.getfield 72, 3) := dk_180 0 72 (dk_at dksX1_putsAside_1 18 rfl rfl)
theorem dX1_putsAside_43 : decode cX1_putsAside 43 = .ok (.getfield 147, 3) := dk_180 0 147 (dk_at dksX1_putsAside_1 21 rfl rfl)
theorem dX1_putsAside_46 : decode cX1_putsAside 46 = .ok (.invokevirtual 169, 3) := dk_182 0 169 (dk_at dksX1_putsAside_2 0 rfl rfl)
theorem dX1_putsAside_49 : decode cX1_putsAside 49 = .ok (.istore_n 3, 1) := dk_62 (dk_at dksX1_putsAside_2 3 rfl rfl)
theorem dX1_putsAside_50 : decode cX1_putsAside 50 = .ok (.return_, 1) := dk_177 (dk_at dksX1_putsAside_2 4 rfl rfl)
abbrev cX1_bestAngle : ByteArray := prog_1_method_59_code
def yX1_bestAngle : MethodName := ⟨RX1, "bestAngle", "(I)I"⟩
def dkwX1_bestAngle_4 : List UInt8 := [180, 0, 193, 21, 4, 4, 96, 182, 1, 193, 54, 4, 167, 255, 191, 28, 172]
abbrev dktX1_bestAngle_4 : List UInt8 := dkwX1_bestAngle_4 ++ []
def dkwX1_bestAngle_3 : List UInt8 := [42, 180, 0, 72, 182, 1, 196, 62, 42, 180, 0, 72, 180, 0, 193, 21, 4, 182, 0, 218, 42, 180, 0, 65]
abbrev dktX1_bestAngle_3 : List UInt8 := dkwX1_bestAngle_3 ++ dktX1_bestAngle_4
def dkwX1_bestAngle_2 : List UInt8 := [162, 0, 63, 42, 27, 21, 4, 182, 1, 187, 42, 180, 0, 72, 182, 1, 196, 29, 162, 0, 14, 21, 4, 61]
abbrev dktX1_bestAngle_2 : List UInt8 := dkwX1_bestAngle_2 ++ dktX1_bestAngle_3
def dkwX1_bestAngle_1 : List UInt8 := [19, 1, 192, 62, 42, 180, 0, 65, 180, 0, 193, 3, 182, 1, 193, 54, 4, 21, 4, 17, 1, 104]
abbrev dktX1_bestAngle_1 : List UInt8 := dkwX1_bestAngle_1 ++ dktX1_bestAngle_2
def dkwX1_bestAngle_0 : List UInt8 := [42, 180, 0, 65, 27, 182, 0, 131, 184, 0, 135, 42, 180, 0, 72, 42, 180, 0, 65, 182, 0, 105, 2, 61]
abbrev dktX1_bestAngle_0 : List UInt8 := dkwX1_bestAngle_0 ++ dktX1_bestAngle_1
theorem dksX1_bestAngle_0 : cX1_bestAngle.data.toList.drop 0 = dktX1_bestAngle_0 := by decide +kernel
theorem dksX1_bestAngle_1 : cX1_bestAngle.data.toList.drop 24 = dktX1_bestAngle_1 := dk_seg dksX1_bestAngle_0 24 rfl rfl
theorem dksX1_bestAngle_2 : cX1_bestAngle.data.toList.drop 46 = dktX1_bestAngle_2 := dk_seg dksX1_bestAngle_1 22 rfl rfl
theorem dksX1_bestAngle_3 : cX1_bestAngle.data.toList.drop 70 = dktX1_bestAngle_3 := dk_seg dksX1_bestAngle_2 24 rfl rfl
theorem dksX1_bestAngle_4 : cX1_bestAngle.data.toList.drop 94 = dktX1_bestAngle_4 := dk_seg dksX1_bestAngle_3 24 rfl rfl
theorem dX1_bestAngle_0 : decode cX1_bestAngle 0 = .ok (.aload_n 0, 1) := dk_42 (dk_at dksX1_bestAngle_0 0 rfl rfl)
theorem dX1_bestAngle_1 : decode cX1_bestAngle 1 = .ok (.getfield 65, 3) := dk_180 0 65 (dk_at dksX1_bestAngle_0 1 rfl rfl)
theorem dX1_bestAngle_4 : decode cX1_bestAngle 4 = .ok (.iload_n 1, 1) := dk_27 (dk_at dksX1_bestAngle_0 4 rfl rfl)
theorem dX1_bestAngle_5 : decode cX1_bestAngle 5 = .ok (.invokevirtual 131, 3) := dk_182 0 131 (dk_at dksX1_bestAngle_0 5 rfl rfl)
theorem dX1_bestAngle_8 : decode cX1_bestAngle 8 = .ok (.invokestatic 135, 3) := dk_184 0 135 (dk_at dksX1_bestAngle_0 8 rfl rfl)
theorem dX1_bestAngle_11 : decode cX1_bestAngle 11 = .ok (.aload_n 0, 1) := dk_42 (dk_at dksX1_bestAngle_0 11 rfl rfl)
theorem dX1_bestAngle_12 : decode cX1_bestAngle 12 = .ok (.getfield 72, 3) := dk_180 0 72 (dk_at dksX1_bestAngle_0 12 rfl rfl)
theorem dX1_bestAngle_15 : decode cX1_bestAngle 15 = .ok (.aload_n 0, 1) := dk_42 (dk_at dksX1_bestAngle_0 15 rfl rfl)
theorem dX1_bestAngle_16 : decode cX1_bestAngle 16 = .ok (.getfield 65, 3) := dk_180 0 65 (dk_at dksX1_bestAngle_0 16 rfl rfl)
theorem dX1_bestAngle_19 : decode cX1_bestAngle 19 = .ok (.invokevirtual 105, 3) := dk_182 0 105 (dk_at dksX1_bestAngle_0 19 rfl rfl)
theorem dX1_bestAngle_22 : decode cX1_bestAngle 22 = .ok (.iconst (-1), 1) := dk_2 (dk_at dksX1_bestAngle_0 22 rfl rfl)
theorem dX1_bestAngle_23 : decode cX1_bestAngle 23 = .ok (.istore_n 2, 1) := dk_61 (dk_at dksX1_bestAngle_0 23 rfl rfl)
theorem dX1_bestAngle_24 : decode cX1_bestAngle 24 = .ok (.ldc_w 448, 3) := dk_19 1 192 (dk_at dksX1_bestAngle_1 0 rfl rfl)
theorem dX1_bestAngle_27 : decode cX1_bestAngle 27 = .ok (.istore_n 3, 1) := dk_62 (dk_at dksX1_bestAngle_1 3 rfl rfl)
theorem dX1_bestAngle_28 : decode cX1_bestAngle 28 = .ok (.aload_n 0, 1) := dk_42 (dk_at dksX1_bestAngle_1 4 rfl rfl)
theorem dX1_bestAngle_29 : decode cX1_bestAngle 29 = .ok (.getfield 65, 3) := dk_180 0 65 (dk_at dksX1_bestAngle_1 5 rfl rfl)
theorem dX1_bestAngle_32 : decode cX1_bestAngle 32 = .ok (.getfield 193, 3) := dk_180 0 193 (dk_at dksX1_bestAngle_1 8 rfl rfl)
theorem dX1_bestAngle_35 : decode cX1_bestAngle 35 = .ok (.iconst 0, 1) := dk_3 (dk_at dksX1_bestAngle_1 11 rfl rfl)
theorem dX1_bestAngle_36 : decode cX1_bestAngle 36 = .ok (.invokevirtual 449, 3) := dk_182 1 193 (dk_at dksX1_bestAngle_1 12 rfl rfl)
theorem dX1_bestAngle_39 : decode cX1_bestAngle 39 = .ok (.istore 4, 2) := dk_54 4 (dk_at dksX1_bestAngle_1 15 rfl rfl)
theorem dX1_bestAngle_41 : decode cX1_bestAngle 41 = .ok (.iload 4, 2) := dk_21 4 (dk_at dksX1_bestAngle_1 17 rfl rfl)
theorem dX1_bestAngle_43 : decode cX1_bestAngle 43 = .ok (.sipush 360, 3) := dk_17 1 104 (dk_at dksX1_bestAngle_1 19 rfl rfl)
theorem dX1_bestAngle_46 : decode cX1_bestAngle 46 = .ok (.if_icmp .ge 63, 3) := dk_162 0 63 (dk_at dksX1_bestAngle_2 0 rfl rfl)
theorem dX1_bestAngle_49 : decode cX1_bestAngle 49 = .ok (.aload_n 0, 1) := dk_42 (dk_at dksX1_bestAngle_2 3 rfl rfl)
theorem dX1_bestAngle_50 : decode cX1_bestAngle 50 = .ok (.iload_n 1, 1) := dk_27 (dk_at dksX1_bestAngle_2 4 rfl rfl)
theorem dX1_bestAngle_51 : decode cX1_bestAngle 51 = .ok (.iload 4, 2) := dk_21 4 (dk_at dksX1_bestAngle_2 5 rfl rfl)
theorem dX1_bestAngle_53 : decode cX1_bestAngle 53 = .ok (.invokevirtual 443, 3) := dk_182 1 187 (dk_at dksX1_bestAngle_2 7 rfl rfl)
theorem dX1_bestAngle_56 : decode cX1_bestAngle 56 = .ok (.aload_n 0, 1) := dk_42 (dk_at dksX1_bestAngle_2 10 rfl rfl)
theorem dX1_bestAngle_57 : decode cX1_bestAngle 57 = .ok (.getfield 72, 3) := dk_180 0 72 (dk_at dksX1_bestAngle_2 11 rfl rfl)
theorem dX1_bestAngle_60 : decode cX1_bestAngle 60 = .ok (.invokevirtual 452, 3) := dk_182 1 196 (dk_at dksX1_bestAngle_2 14 rfl rfl)
theorem dX1_bestAngle_63 : decode cX1_bestAngle 63 = .ok (.iload_n 3, 1) := dk_29 (dk_at dksX1_bestAngle_2 17 rfl rfl)
theorem dX1_bestAngle_64 : decode cX1_bestAngle 64 = .ok (.if_icmp .ge 14, 3) := dk_162 0 14 (dk_at dksX1_bestAngle_2 18 rfl rfl)
theorem dX1_bestAngle_67 : decode cX1_bestAngle 67 = .ok (.iload 4, 2) := dk_21 4 (dk_at dksX1_bestAngle_2 21 rfl rfl)
theorem dX1_bestAngle_69 : decode cX1_bestAngle 69 = .ok (.istore_n 2, 1) := dk_61 (dk_at dksX1_bestAngle_2 23 rfl rfl)
theorem dX1_bestAngle_70 : decode cX1_bestAngle 70 = .ok (.aload_n 0, 1) := dk_42 (dk_at dksX1_bestAngle_3 0 rfl rfl)
theorem dX1_bestAngle_71 : decode cX1_bestAngle 71 = .ok (.getfield 72, 3) := dk_180 0 72 (dk_at dksX1_bestAngle_3 1 rfl rfl)
theorem dX1_bestAngle_74 : decode cX1_bestAngle 74 = .ok (.invokevirtual 452, 3) := dk_182 1 196 (dk_at dksX1_bestAngle_3 4 rfl rfl)
theorem dX1_bestAngle_77 : decode cX1_bestAngle 77 = .ok (.istore_n 3, 1) := dk_62 (dk_at dksX1_bestAngle_3 7 rfl rfl)
theorem dX1_bestAngle_78 : decode cX1_bestAngle 78 = .ok (.aload_n 0, 1) := dk_42 (dk_at dksX1_bestAngle_3 8 rfl rfl)
theorem dX1_bestAngle_79 : decode cX1_bestAngle 79 = .ok (.getfield 72, 3) := dk_180 0 72 (dk_at dksX1_bestAngle_3 9 rfl rfl)
theorem dX1_bestAngle_82 : decode cX1_bestAngle 82 = .ok (.getfield 193, 3) := dk_180 0 193 (dk_at dksX1_bestAngle_3 12 rfl rfl)
theorem dX1_bestAngle_85 : decode cX1_bestAngle 85 = .ok (.iload 4, 2) := dk_21 4 (dk_at dksX1_bestAngle_3 15 rfl rfl)
theorem dX1_bestAngle_87 : decode cX1_bestAngle 87 = .ok (.invokevirtual 218, 3) := dk_182 0 218 (dk_at dksX1_bestAngle_3 17 rfl rfl)
theorem dX1_bestAngle_90 : decode cX1_bestAngle 90 = .ok (.aload_n 0, 1) := dk_42 (dk_at dksX1_bestAngle_3 20 rfl rfl)
theorem dX1_bestAngle_91 : decode cX1_bestAngle 91 = .ok (.getfield 65, 3) := dk_180 0 65 (dk_at dksX1_bestAngle_3 21 rfl rfl)
theorem dX1_bestAngle_94 : decode cX1_bestAngle 94 = .ok (.getfield 193, 3) := dk_180 0 193 (dk_at dksX1_bestAngle_4 0 rfl rfl)
theorem dX1_bestAngle_97 : decode cX1_bestAngle 97 = .ok (.iload 4, 2) := dk_21 4 (dk_at dksX1_bestAngle_4 3 rfl rfl)
theorem dX1_bestAngle_99 : decode cX1_bestAngle 99 = .ok (.iconst 1, 1) := dk_4 (dk_at dksX1_bestAngle_4 5 rfl rfl)
theorem dX1_bestAngle_100 : decode cX1_bestAngle 100 = .ok (.iadd, 1) := dk_96 (dk_at dksX1_bestAngle_4 6 rfl rfl)
theorem dX1_bestAngle_101 : decode cX1_bestAngle 101 = .ok (.invokevirtual 449, 3) := dk_182 1 193 (dk_at dksX1_bestAngle_4 7 rfl rfl)
theorem dX1_bestAngle_104 : decode cX1_bestAngle 104 = .ok (.istore 4, 2) := dk_54 4 (dk_at dksX1_bestAngle_4 10 rfl rfl)
theorem dX1_bestAngle_106 : decode cX1_bestAngle 106 = .ok (.goto (-65), 3) := dk_167 255 191 (dk_at dksX1_bestAngle_4 12 rfl rfl)
theorem dX1_bestAngle_109 : decode cX1_bestAngle 109 = .ok (.iload_n 2, 1) := dk_28 (dk_at dksX1_bestAngle_4 15 rfl rfl)
theorem dX1_bestAngle_110 : decode cX1_bestAngle 110 = .ok (.ireturn, 1) := dk_172 (dk_at dksX1_bestAngle_4 16 rfl rfl)
abbrev cX1_loadAgain : ByteArray := prog_1_method_61_code
def yX1_loadAgain : MethodName := ⟨RX1, "loadAgain", "(I)I"⟩
def dkwX1_loadAgain_4 : List UInt8 := [167, 0, 4, 3, 96, 61, 132, 5, 1, 167, 255, 203, 167, 255, 174, 28, 172]
abbrev dktX1_loadAgain_4 : List UInt8 := dkwX1_loadAgain_4 ++ []
def dkwX1_loadAgain_3 : List UInt8 := [50, 180, 1, 166, 21, 4, 160, 0, 19, 42, 180, 0, 65, 180, 0, 247, 21, 5, 50, 180, 1, 163]
abbrev dktX1_loadAgain_3 : List UInt8 := dkwX1_loadAgain_3 ++ dktX1_loadAgain_4
def dkwX1_loadAgain_2 : List UInt8 := [54, 5, 21, 5, 42, 180, 0, 65, 180, 0, 147, 162, 0, 47, 28, 42, 180, 0, 65, 180, 0, 247, 21, 5]
abbrev dktX1_loadAgain_2 : List UInt8 := dkwX1_loadAgain_2 ++ dktX1_loadAgain_3
def dkwX1_loadAgain_1 : List UInt8 := [185, 1, 49, 1, 0, 153, 0, 79, 45, 185, 1, 55, 1, 0, 192, 1, 190, 182, 1, 212, 54, 4, 3]
abbrev dktX1_loadAgain_1 : List UInt8 := dkwX1_loadAgain_1 ++ dktX1_loadAgain_2
def dkwX1_loadAgain_0 : List UInt8 := [42, 180, 0, 65, 27, 182, 0, 131, 184, 0, 135, 3, 61, 42, 27, 182, 1, 207, 182, 1, 211, 78, 45]
abbrev dktX1_loadAgain_0 : List UInt8 := dkwX1_loadAgain_0 ++ dktX1_loadAgain_1
theorem dksX1_loadAgain_0 : cX1_loadAgain.data.toList.drop 0 = dktX1_loadAgain_0 := by decide +kernel
theorem dksX1_loadAgain_1 : cX1_loadAgain.data.toList.drop 23 = dktX1_loadAgain_1 := dk_seg dksX1_loadAgain_0 23 rfl rfl
theorem dksX1_loadAgain_2 : cX1_loadAgain.data.toList.drop 46 = dktX1_loadAgain_2 := dk_seg dksX1_loadAgain_1 23 rfl rfl
theorem dksX1_loadAgain_3 : cX1_loadAgain.data.toList.drop 70 = dktX1_loadAgain_3 := dk_seg dksX1_loadAgain_2 24 rfl rfl
theorem dksX1_loadAgain_4 : cX1_loadAgain.data.toList.drop 92 = dktX1_loadAgain_4 := dk_seg dksX1_loadAgain_3 22 rfl rfl
theorem dX1_loadAgain_0 : decode cX1_loadAgain 0 = .ok (.aload_n 0, 1) := dk_42 (dk_at dksX1_loadAgain_0 0 rfl rfl)
theorem dX1_loadAgain_1 : decode cX1_loadAgain 1 = .ok (.getfield 65, 3) := dk_180 0 65 (dk_at dksX1_loadAgain_0 1 rfl rfl)
theorem dX1_loadAgain_4 : decode cX1_loadAgain 4 = .ok (.iload_n 1, 1) := dk_27 (dk_at dksX1_loadAgain_0 4 rfl rfl)
theorem dX1_loadAgain_5 : decode cX1_loadAgain 5 = .ok (.invokevirtual 131, 3) := dk_182 0 131 (dk_at dksX1_loadAgain_0 5 rfl rfl)
theorem dX1_loadAgain_8 : decode cX1_loadAgain 8 = .ok (.invokestatic 135, 3) := dk_184 0 135 (dk_at dksX1_loadAgain_0 8 rfl rfl)
theorem dX1_loadAgain_11 : decode cX1_loadAgain 11 = .ok (.iconst 0, 1) := dk_3 (dk_at dksX1_loadAgain_0 11 rfl rfl)
theorem dX1_loadAgain_12 : decode cX1_loadAgain 12 = .ok (.istore_n 2, 1) := dk_61 (dk_at dksX1_loadAgain_0 12 rfl rfl)
theorem dX1_loadAgain_13 : decode cX1_loadAgain 13 = .ok (.aload_n 0, 1) := dk_42 (dk_at dksX1_loadAgain_0 13 rfl rfl)
theorem dX1_loadAgain_14 : decode cX1_loadAgain 14 = .ok (.iload_n 1, 1) := dk_27 (dk_at dksX1_loadAgain_0 14 rfl rfl)
theorem dX1_loadAgain_15 : decode cX1_loadAgain 15 = .ok (.invokevirtual 463, 3) := dk_182 1 207 (dk_at dksX1_loadAgain_0 15 rfl rfl)
theorem dX1_loadAgain_18 : decode cX1_loadAgain 18 = .ok (.invokevirtual 467, 3) := dk_182 1 211 (dk_at dksX1_loadAgain_0 18 rfl rfl)
theorem dX1_loadAgain_21 : decode cX1_loadAgain 21 = .ok (.astore_n 3, 1) := dk_78 (dk_at dksX1_loadAgain_0 21 rfl rfl)
theorem dX1_loadAgain_22 : decode cX1_loadAgain 22 = .ok (.aload_n 3, 1) := dk_45 (dk_at dksX1_loadAgain_0 22 rfl rfl)
theorem dX1_loadAgain_23 : decode cX1_loadAgain 23 = .ok (.invokeinterface 305 1, 5) := by decide +kernel
theorem dX1_loadAgain_28 : decode cX1_loadAgain 28 = .ok (.ifCond .eq 79, 3) := dk_153 0 79 (dk_at dksX1_loadAgain_1 5 rfl rfl)
theorem dX1_loadAgain_31 : decode cX1_loadAgain 31 = .ok (.aload_n 3, 1) := dk_45 (dk_at dksX1_loadAgain_1 8 rfl rfl)
theorem dX1_loadAgain_32 : decode cX1_loadAgain 32 = .ok (.invokeinterface 311 1, 5) := by decide +kernel
theorem dX1_loadAgain_37 : decode cX1_loadAgain 37 = .ok (.checkcast 446, 3) := dk_192 1 190 (dk_at dksX1_loadAgain_1 14 rfl rfl)
theorem dX1_loadAgain_40 : decode cX1_loadAgain 40 = .ok (.invokevirtual 468, 3) := dk_182 1 212 (dk_at dksX1_loadAgain_1 17 rfl rfl)
theorem dX1_loadAgain_43 : decode cX1_loadAgain 43 = .ok (.istore 4, 2) := dk_54 4 (dk_at dksX1_loadAgain_1 20 rfl rfl)
theorem dX1_loadAgain_45 : decode cX1_loadAgain 45 = .ok (.iconst 0, 1) := dk_3 (dk_at dksX1_loadAgain_1 22 rfl rfl)
theorem dX1_loadAgain_46 : decode cX1_loadAgain 46 = .ok (.istore 5, 2) := dk_54 5 (dk_at dksX1_loadAgain_2 0 rfl rfl)
theorem dX1_loadAgain_48 : decode cX1_loadAgain 48 = .ok (.iload 5, 2) := dk_21 5 (dk_at dksX1_loadAgain_2 2 rfl rfl)
theorem dX1_loadAgain_50 : decode cX1_loadAgain 50 = .ok (.aload_n 0, 1) := dk_42 (dk_at dksX1_loadAgain_2 4 rfl rfl)
theorem dX1_loadAgain_51 : decode cX1_loadAgain 51 = .ok (.getfield 65, 3) := dk_180 0 65 (dk_at dksX1_loadAgain_2 5 rfl rfl)
theorem dX1_loadAgain_54 : decode cX1_loadAgain 54 = .ok (.getfield 147, 3) := dk_180 0 147 (dk_at dksX1_loadAgain_2 8 rfl rfl)
theorem dX1_loadAgain_57 : decode cX1_loadAgain 57 = .ok (.if_icmp .ge 47, 3) := dk_162 0 47 (dk_at dksX1_loadAgain_2 11 rfl rfl)
theorem dX1_loadAgain_60 : decode cX1_loadAgain 60 = .ok (.iload_n 2, 1) := dk_28 (dk_at dksX1_loadAgain_2 14 rfl rfl)
theorem dX1_loadAgain_61 : decode cX1_loadAgain 61 = .ok (.aload_n 0, 1) := dk_42 (dk_at dksX1_loadAgain_2 15 rfl rfl)
theorem dX1_loadAgain_62 : decode cX1_loadAgain 62 = .ok (.getfield 65, 3) := dk_180 0 65 (dk_at dksX1_loadAgain_2 16 rfl rfl)
theorem dX1_loadAgain_65 : decode cX1_loadAgain 65 = .ok (.getfield 247, 3) := dk_180 0 247 (dk_at dksX1_loadAgain_2 19 rfl rfl)
theorem dX1_loadAgain_68 : decode cX1_loadAgain 68 = .ok (.iload 5, 2) := dk_21 5 (dk_at dksX1_loadAgain_2 22 rfl rfl)
theorem dX1_loadAgain_70 : decode cX1_loadAgain 70 = .ok (.aaload, 1) := dk_50 (dk_at dksX1_loadAgain_3 0 rfl rfl)
theorem dX1_loadAgain_71 : decode cX1_loadAgain 71 = .ok (.getfield 422, 3) := dk_180 1 166 (dk_at dksX1_loadAgain_3 1 rfl rfl)
theorem dX1_loadAgain_74 : decode cX1_loadAgain 74 = .ok (.iload 4, 2) := dk_21 4 (dk_at dksX1_loadAgain_3 4 rfl rfl)
theorem dX1_loadAgain_76 : decode cX1_loadAgain 76 = .ok (.if_icmp .ne 19, 3) := dk_160 0 19 (dk_at dksX1_loadAgain_3 6 rfl rfl)
theorem dX1_loadAgain_79 : decode cX1_loadAgain 79 = .ok (.aload_n 0, 1) := dk_42 (dk_at dksX1_loadAgain_3 9 rfl rfl)
theorem dX1_loadAgain_80 : decode cX1_loadAgain 80 = .ok (.getfield 65, 3) := dk_180 0 65 (dk_at dksX1_loadAgain_3 10 rfl rfl)
theorem dX1_loadAgain_83 : decode cX1_loadAgain 83 = .ok (.getfield 247, 3) := dk_180 0 247 (dk_at dksX1_loadAgain_3 13 rfl rfl)
theorem dX1_loadAgain_86 : decode cX1_loadAgain 86 = .ok (.iload 5, 2) := dk_21 5 (dk_at dksX1_loadAgain_3 16 rfl rfl)
theorem dX1_loadAgain_88 : decode cX1_loadAgain 88 = .ok (.aaload, 1) := dk_50 (dk_at dksX1_loadAgain_3 18 rfl rfl)
theorem dX1_loadAgain_89 : decode cX1_loadAgain 89 = .ok (.getfield 419, 3) := dk_180 1 163 (dk_at dksX1_loadAgain_3 19 rfl rfl)
theorem dX1_loadAgain_92 : decode cX1_loadAgain 92 = .ok (.goto 4, 3) := dk_167 0 4 (dk_at dksX1_loadAgain_4 0 rfl rfl)
theorem dX1_loadAgain_95 : decode cX1_loadAgain 95 = .ok (.iconst 0, 1) := dk_3 (dk_at dksX1_loadAgain_4 3 rfl rfl)
theorem dX1_loadAgain_96 : decode cX1_loadAgain 96 = .ok (.iadd, 1) := dk_96 (dk_at dksX1_loadAgain_4 4 rfl rfl)
theorem dX1_loadAgain_97 : decode cX1_loadAgain 97 = .ok (.istore_n 2, 1) := dk_61 (dk_at dksX1_loadAgain_4 5 rfl rfl)
theorem dX1_loadAgain_98 : decode cX1_loadAgain 98 = .ok (.iinc 5 1, 3) := dk_132 5 1 (dk_at dksX1_loadAgain_4 6 rfl rfl)
theorem dX1_loadAgain_101 : decode cX1_loadAgain 101 = .ok (.goto (-53), 3) := dk_167 255 203 (dk_at dksX1_loadAgain_4 9 rfl rfl)
theorem dX1_loadAgain_104 : decode cX1_loadAgain 104 = .ok (.goto (-82), 3) := dk_167 255 174 (dk_at dksX1_loadAgain_4 12 rfl rfl)
theorem dX1_loadAgain_107 : decode cX1_loadAgain 107 = .ok (.iload_n 2, 1) := dk_28 (dk_at dksX1_loadAgain_4 15 rfl rfl)
theorem dX1_loadAgain_108 : decode cX1_loadAgain 108 = .ok (.ireturn, 1) := dk_172 (dk_at dksX1_loadAgain_4 16 rfl rfl)
abbrev cX1_anglesOf : ByteArray := prog_1_method_60_code
def yX1_anglesOf : MethodName := ⟨RX1, "anglesOf", "(I)Ljava/util/ArrayDeque;"⟩
def dkwX1_anglesOf_2 : List UInt8 := [42, 180, 0, 65, 180, 0, 193, 29, 4, 96, 182, 1, 157, 62, 167, 255, 217, 44, 176]
abbrev dktX1_anglesOf_2 : List UInt8 := dkwX1_anglesOf_2 ++ []
def dkwX1_anglesOf_1 : List UInt8 := [155, 0, 41, 42, 180, 0, 65, 180, 0, 201, 29, 46, 27, 160, 0, 11, 44, 29, 184, 1, 202, 182, 1, 206]
abbrev dktX1_anglesOf_1 : List UInt8 := dkwX1_anglesOf_1 ++ dktX1_anglesOf_2
def dkwX1_anglesOf_0 : List UInt8 := [187, 1, 199, 89, 16, 8, 183, 1, 201, 77, 42, 180, 0, 65, 180, 0, 193, 3, 182, 1, 157, 62, 29]
abbrev dktX1_anglesOf_0 : List UInt8 := dkwX1_anglesOf_0 ++ dktX1_anglesOf_1
theorem dksX1_anglesOf_0 : cX1_anglesOf.data.toList.drop 0 = dktX1_anglesOf_0 := by decide +kernel
theorem dksX1_anglesOf_1 : cX1_anglesOf.data.toList.drop 23 = dktX1_anglesOf_1 := dk_seg dksX1_anglesOf_0 23 rfl rfl
theorem dksX1_anglesOf_2 : cX1_anglesOf.data.toList.drop 47 = dktX1_anglesOf_2 := dk_seg dksX1_anglesOf_1 24 rfl rfl
theorem dX1_anglesOf_0 : decode cX1_anglesOf 0 = .ok (.new 455, 3) := dk_187 1 199 (dk_at dksX1_anglesOf_0 0 rfl rfl)
theorem dX1_anglesOf_3 : decode cX1_anglesOf 3 = .ok (.dup, 1) := dk_89 (dk_at dksX1_anglesOf_0 3 rfl rfl)
theorem dX1_anglesOf_4 : decode cX1_anglesOf 4 = .ok (.bipush 8, 2) := dk_16 8 (dk_at dksX1_anglesOf_0 4 rfl rfl)
theorem dX1_anglesOf_6 : decode cX1_anglesOf 6 = .ok (.invokespecial 457, 3) := dk_183 1 201 (dk_at dksX1_anglesOf_0 6 rfl rfl)
theorem dX1_anglesOf_9 : decode cX1_anglesOf 9 = .ok (.astore_n 2, 1) := dk_77 (dk_at dksX1_anglesOf_0 9 rfl rfl)
theorem dX1_anglesOf_10 : decode cX1_anglesOf 10 = .ok (.aload_n 0, 1) := dk_42 (dk_at dksX1_anglesOf_0 10 rfl rfl)
theorem dX1_anglesOf_11 : decode cX1_anglesOf 11 = .ok (.getfield 65, 3) := dk_180 0 65 (dk_at dksX1_anglesOf_0 11 rfl rfl)
theorem dX1_anglesOf_14 : decode cX1_anglesOf 14 = .ok (.getfield 193, 3) := dk_180 0 193 (dk_at dksX1_anglesOf_0 14 rfl rfl)
theorem dX1_anglesOf_17 : decode cX1_anglesOf 17 = .ok (.iconst 0, 1) := dk_3 (dk_at dksX1_anglesOf_0 17 rfl rfl)
theorem dX1_anglesOf_18 : decode cX1_anglesOf 18 = .ok (.invokevirtual 413, 3) := dk_182 1 157 (dk_at dksX1_anglesOf_0 18 rfl rfl)
theorem dX1_anglesOf_21 : decode cX1_anglesOf 21 = .ok (.istore_n 3, 1) := dk_62 (dk_at dksX1_anglesOf_0 21 rfl rfl)
theorem dX1_anglesOf_22 : decode cX1_anglesOf 22 = .ok (.iload_n 3, 1) := dk_29 (dk_at dksX1_anglesOf_0 22 rfl rfl)
theorem dX1_anglesOf_23 : decode cX1_anglesOf 23 = .ok (.ifCond .lt 41, 3) := dk_155 0 41 (dk_at dksX1_anglesOf_1 0 rfl rfl)
theorem dX1_anglesOf_26 : decode cX1_anglesOf 26 = .ok (.aload_n 0, 1) := dk_42 (dk_at dksX1_anglesOf_1 3 rfl rfl)
theorem dX1_anglesOf_27 : decode cX1_anglesOf 27 = .ok (.getfield 65, 3) := dk_180 0 65 (dk_at dksX1_anglesOf_1 4 rfl rfl)
theorem dX1_anglesOf_30 : decode cX1_anglesOf 30 = .ok (.getfield 201, 3) := dk_180 0 201 (dk_at dksX1_anglesOf_1 7 rfl rfl)
theorem dX1_anglesOf_33 : decode cX1_anglesOf 33 = .ok (.iload_n 3, 1) := dk_29 (dk_at dksX1_anglesOf_1 10 rfl rfl)
theorem dX1_anglesOf_34 : decode cX1_anglesOf 34 = .ok (.iaload, 1) := dk_46 (dk_at dksX1_anglesOf_1 11 rfl rfl)
theorem dX1_anglesOf_35 : decode cX1_anglesOf 35 = .ok (.iload_n 1, 1) := dk_27 (dk_at dksX1_anglesOf_1 12 rfl rfl)
theorem dX1_anglesOf_36 : decode cX1_anglesOf 36 = .ok (.if_icmp .ne 11, 3) := dk_160 0 11 (dk_at dksX1_anglesOf_1 13 rfl rfl)
theorem dX1_anglesOf_39 : decode cX1_anglesOf 39 = .ok (.aload_n 2, 1) := dk_44 (dk_at dksX1_anglesOf_1 16 rfl rfl)
theorem dX1_anglesOf_40 : decode cX1_anglesOf 40 = .ok (.iload_n 3, 1) := dk_29 (dk_at dksX1_anglesOf_1 17 rfl rfl)
theorem dX1_anglesOf_41 : decode cX1_anglesOf 41 = .ok (.invokestatic 458, 3) := dk_184 1 202 (dk_at dksX1_anglesOf_1 18 rfl rfl)
theorem dX1_anglesOf_44 : decode cX1_anglesOf 44 = .ok (.invokevirtual 462, 3) := dk_182 1 206 (dk_at dksX1_anglesOf_1 21 rfl rfl)
theorem dX1_anglesOf_47 : decode cX1_anglesOf 47 = .ok (.aload_n 0, 1) := dk_42 (dk_at dksX1_anglesOf_2 0 rfl rfl)
theorem dX1_anglesOf_48 : decode cX1_anglesOf 48 = .ok (.getfield 65, 3) := dk_180 0 65 (dk_at dksX1_anglesOf_2 1 rfl rfl)
theorem dX1_anglesOf_51 : decode cX1_anglesOf 51 = .ok (.getfield 193, 3) := dk_180 0 193 (dk_at dksX1_anglesOf_2 4 rfl rfl)
theorem dX1_anglesOf_54 : decode cX1_anglesOf 54 = .ok (.iload_n 3, 1) := dk_29 (dk_at dksX1_anglesOf_2 7 rfl rfl)
theorem dX1_anglesOf_55 : decode cX1_anglesOf 55 = .ok (.iconst 1, 1) := dk_4 (dk_at dksX1_anglesOf_2 8 rfl rfl)
theorem dX1_anglesOf_56 : decode cX1_anglesOf 56 = .ok (.iadd, 1) := dk_96 (dk_at dksX1_anglesOf_2 9 rfl rfl)
theorem dX1_anglesOf_57 : decode cX1_anglesOf 57 = .ok (.invokevirtual 413, 3) := dk_182 1 157 (dk_at dksX1_anglesOf_2 10 rfl rfl)
theorem dX1_anglesOf_60 : decode cX1_anglesOf 60 = .ok (.istore_n 3, 1) := dk_62 (dk_at dksX1_anglesOf_2 13 rfl rfl)
theorem dX1_anglesOf_61 : decode cX1_anglesOf 61 = .ok (.goto (-39), 3) := dk_167 255 217 (dk_at dksX1_anglesOf_2 14 rfl rfl)
theorem dX1_anglesOf_64 : decode cX1_anglesOf 64 = .ok (.aload_n 2, 1) := dk_44 (dk_at dksX1_anglesOf_2 17 rfl rfl)
theorem dX1_anglesOf_65 : decode cX1_anglesOf 65 = .ok (.areturn, 1) := dk_176 (dk_at dksX1_anglesOf_2 18 rfl rfl)
abbrev cX1_span : ByteArray := prog_1_method_62_code
def yX1_span : MethodName := ⟨RX1, "span", "(I)I"⟩
def dkwX1_span_2 : List UInt8 := [28, 172]
abbrev dktX1_span_2 : List UInt8 := dkwX1_span_2 ++ []
def dkwX1_span_1 : List UInt8 := [29, 182, 1, 181, 27, 160, 0, 7, 4, 167, 0, 4, 3, 184, 1, 136, 96, 61, 132, 3, 1, 167, 255, 226]
abbrev dktX1_span_1 : List UInt8 := dkwX1_span_1 ++ dktX1_span_2
def dkwX1_span_0 : List UInt8 := [42, 180, 0, 65, 27, 182, 0, 131, 184, 0, 135, 3, 61, 3, 62, 29, 17, 1, 104, 162, 0, 29, 28, 42]
abbrev dktX1_span_0 : List UInt8 := dkwX1_span_0 ++ dktX1_span_1
theorem dksX1_span_0 : cX1_span.data.toList.drop 0 = dktX1_span_0 := by decide +kernel
theorem dksX1_span_1 : cX1_span.data.toList.drop 24 = dktX1_span_1 := dk_seg dksX1_span_0 24 rfl rfl
theorem dksX1_span_2 : cX1_span.data.toList.drop 48 = dktX1_span_2 := dk_seg dksX1_span_1 24 rfl rfl
theorem dX1_span_0 : decode cX1_span 0 = .ok (.aload_n 0, 1) := dk_42 (dk_at dksX1_span_0 0 rfl rfl)
theorem dX1_span_1 : decode cX1_span 1 = .ok (.getfield 65, 3) := dk_180 0 65 (dk_at dksX1_span_0 1 rfl rfl)
theorem dX1_span_4 : decode cX1_span 4 = .ok (.iload_n 1, 1) := dk_27 (dk_at dksX1_span_0 4 rfl rfl)
theorem dX1_span_5 : decode cX1_span 5 = .ok (.invokevirtual 131, 3) := dk_182 0 131 (dk_at dksX1_span_0 5 rfl rfl)
theorem dX1_span_8 : decode cX1_span 8 = .ok (.invokestatic 135, 3) := dk_184 0 135 (dk_at dksX1_span_0 8 rfl rfl)
theorem dX1_span_11 : decode cX1_span 11 = .ok (.iconst 0, 1) := dk_3 (dk_at dksX1_span_0 11 rfl rfl)
theorem dX1_span_12 : decode cX1_span 12 = .ok (.istore_n 2, 1) := dk_61 (dk_at dksX1_span_0 12 rfl rfl)
theorem dX1_span_13 : decode cX1_span 13 = .ok (.iconst 0, 1) := dk_3 (dk_at dksX1_span_0 13 rfl rfl)
theorem dX1_span_14 : decode cX1_span 14 = .ok (.istore_n 3, 1) := dk_62 (dk_at dksX1_span_0 14 rfl rfl)
theorem dX1_span_15 : decode cX1_span 15 = .ok (.iload_n 3, 1) := dk_29 (dk_at dksX1_span_0 15 rfl rfl)
theorem dX1_span_16 : decode cX1_span 16 = .ok (.sipush 360, 3) := dk_17 1 104 (dk_at dksX1_span_0 16 rfl rfl)
theorem dX1_span_19 : decode cX1_span 19 = .ok (.if_icmp .ge 29, 3) := dk_162 0 29 (dk_at dksX1_span_0 19 rfl rfl)
theorem dX1_span_22 : decode cX1_span 22 = .ok (.iload_n 2, 1) := dk_28 (dk_at dksX1_span_0 22 rfl rfl)
theorem dX1_span_23 : decode cX1_span 23 = .ok (.aload_n 0, 1) := dk_42 (dk_at dksX1_span_0 23 rfl rfl)
theorem dX1_span_24 : decode cX1_span 24 = .ok (.iload_n 3, 1) := dk_29 (dk_at dksX1_span_1 0 rfl rfl)
theorem dX1_span_25 : decode cX1_span 25 = .ok (.invokevirtual 437, 3) := dk_182 1 181 (dk_at dksX1_span_1 1 rfl rfl)
theorem dX1_span_28 : decode cX1_span 28 = .ok (.iload_n 1, 1) := dk_27 (dk_at dksX1_span_1 4 rfl rfl)
theorem dX1_span_29 : decode cX1_span 29 = .ok (.if_icmp .ne 7, 3) := dk_160 0 7 (dk_at dksX1_span_1 5 rfl rfl)
theorem dX1_span_32 : decode cX1_span 32 = .ok (.iconst 1, 1) := dk_4 (dk_at dksX1_span_1 8 rfl rfl)
theorem dX1_span_33 : decode cX1_span 33 = .ok (.goto 4, 3) := dk_167 0 4 (dk_at dksX1_span_1 9 rfl rfl)
theorem dX1_span_36 : decode cX1_span 36 = .ok (.iconst 0, 1) := dk_3 (dk_at dksX1_span_1 12 rfl rfl)
theorem dX1_span_37 : decode cX1_span 37 = .ok (.invokestatic 392, 3) := dk_184 1 136 (dk_at dksX1_span_1 13 rfl rfl)
theorem dX1_span_40 : decode cX1_span 40 = .ok (.iadd, 1) := dk_96 (dk_at dksX1_span_1 16 rfl rfl)
theorem dX1_span_41 : decode cX1_span 41 = .ok (.istore_n 2, 1) := dk_61 (dk_at dksX1_span_1 17 rfl rfl)
theorem dX1_span_42 : decode cX1_span 42 = .ok (.iinc 3 1, 3) := dk_132 3 1 (dk_at dksX1_span_1 18 rfl rfl)
theorem dX1_span_45 : decode cX1_span 45 = .ok (.goto (-30), 3) := dk_167 255 226 (dk_at dksX1_span_1 21 rfl rfl)
theorem dX1_span_48 : decode cX1_span 48 = .ok (.iload_n 2, 1) := dk_28 (dk_at dksX1_span_2 0 rfl rfl)
theorem dX1_span_49 : decode cX1_span 49 = .ok (.ireturn, 1) := dk_172 (dk_at dksX1_span_2 1 rfl rfl)
abbrev cX1_customers : ByteArray := prog_1_method_64_code
def yX1_customers : MethodName := ⟨RX1, "customers", "(II)I"⟩
def dkwX1_customers_3 : List UInt8 := [2, 167, 0, 15, 45, 185, 1, 55, 1, 0, 192, 1, 190, 182, 1, 212, 184, 1, 21, 172]
abbrev dktX1_customers_3 : List UInt8 := dkwX1_customers_3 ++ []
def dkwX1_customers_2 : List UInt8 := [182, 1, 212, 54, 5, 132, 4, 1, 167, 255, 224, 28, 155, 0, 12, 45, 185, 1, 49, 1, 0, 154, 0, 7]
abbrev dktX1_customers_2 : List UInt8 := dkwX1_customers_2 ++ dktX1_customers_3
def dkwX1_customers_1 : List UInt8 := [21, 4, 28, 162, 0, 32, 45, 185, 1, 49, 1, 0, 153, 0, 23, 45, 185, 1, 55, 1, 0, 192, 1, 190]
abbrev dktX1_customers_1 : List UInt8 := dkwX1_customers_1 ++ dktX1_customers_2
def dkwX1_customers_0 : List UInt8 := [42, 180, 0, 65, 27, 182, 0, 131, 184, 0, 135, 42, 27, 182, 1, 215, 182, 1, 109, 78, 3, 54, 4]
abbrev dktX1_customers_0 : List UInt8 := dkwX1_customers_0 ++ dktX1_customers_1
theorem dksX1_customers_0 : cX1_customers.data.toList.drop 0 = dktX1_customers_0 := by decide +kernel
theorem dksX1_customers_1 : cX1_customers.data.toList.drop 23 = dktX1_customers_1 := dk_seg dksX1_customers_0 23 rfl rfl
theorem dksX1_customers_2 : cX1_customers.data.toList.drop 47 = dktX1_customers_2 := dk_seg dksX1_customers_1 24 rfl rfl
theorem dksX1_customers_3 : cX1_customers.data.toList.drop 71 = dktX1_customers_3 := dk_seg dksX1_customers_2 24 rfl rfl
theorem dX1_customers_0 : decode cX1_customers 0 = .ok (.aload_n 0, 1) := dk_42 (dk_at dksX1_customers_0 0 rfl rfl)
theorem dX1_customers_1 : decode cX1_customers 1 = .ok (.getfield 65, 3) := dk_180 0 65 (dk_at dksX1_customers_0 1 rfl rfl)
theorem dX1_customers_4 : decode cX1_customers 4 = .ok (.iload_n 1, 1) := dk_27 (dk_at dksX1_customers_0 4 rfl rfl)
theorem dX1_customers_5 : decode cX1_customers 5 = .ok (.invokevirtual 131, 3) := dk_182 0 131 (dk_at dksX1_customers_0 5 rfl rfl)
theorem dX1_customers_8 : decode cX1_customers 8 = .ok (.invokestatic 135, 3) := dk_184 0 135 (dk_at dksX1_customers_0 8 rfl rfl)
theorem dX1_customers_11 : decode cX1_customers 11 = .ok (.aload_n 0, 1) := dk_42 (dk_at dksX1_customers_0 11 rfl rfl)
theorem dX1_customers_12 : decode cX1_customers 12 = .ok (.iload_n 1, 1) := dk_27 (dk_at dksX1_customers_0 12 rfl rfl)
theorem dX1_customers_13 : decode cX1_customers 13 = .ok (.invokevirtual 471, 3) := dk_182 1 215 (dk_at dksX1_customers_0 13 rfl rfl)
theorem dX1_customers_16 : decode cX1_customers 16 = .ok (.invokevirtual 365, 3) := dk_182 1 109 (dk_at dksX1_customers_0 16 rfl rfl)
theorem dX1_customers_19 : decode cX1_customers 19 = .ok (.astore_n 3, 1) := dk_78 (dk_at dksX1_customers_0 19 rfl rfl)
theorem dX1_customers_20 : decode cX1_customers 20 = .ok (.iconst 0, 1) := dk_3 (dk_at dksX1_customers_0 20 rfl rfl)
theorem dX1_customers_21 : decode cX1_customers 21 = .ok (.istore 4, 2) := dk_54 4 (dk_at dksX1_customers_0 21 rfl rfl)
theorem dX1_customers_23 : decode cX1_customers 23 = .ok (.iload 4, 2) := dk_21 4 (dk_at dksX1_customers_1 0 rfl rfl)
theorem dX1_customers_25 : decode cX1_customers 25 = .ok (.iload_n 2, 1) := dk_28 (dk_at dksX1_customers_1 2 rfl rfl)
theorem dX1_customers_26 : decode cX1_customers 26 = .ok (.if_icmp .ge 32, 3) := dk_162 0 32 (dk_at dksX1_customers_1 3 rfl rfl)
theorem dX1_customers_29 : decode cX1_customers 29 = .ok (.aload_n 3, 1) := dk_45 (dk_at dksX1_customers_1 6 rfl rfl)
theorem dX1_customers_30 : decode cX1_customers 30 = .ok (.invokeinterface 305 1, 5) := by decide +kernel
theorem dX1_customers_35 : decode cX1_customers 35 = .ok (.ifCond .eq 23, 3) := dk_153 0 23 (dk_at dksX1_customers_1 12 rfl rfl)
theorem dX1_customers_38 : decode cX1_customers 38 = .ok (.aload_n 3, 1) := dk_45 (dk_at dksX1_customers_1 15 rfl rfl)
theorem dX1_customers_39 : decode cX1_customers 39 = .ok (.invokeinterface 311 1, 5) := by decide +kernel
theorem dX1_customers_44 : decode cX1_customers 44 = .ok (.checkcast 446, 3) := dk_192 1 190 (dk_at dksX1_customers_1 21 rfl rfl)
theorem dX1_customers_47 : decode cX1_customers 47 = .ok (.invokevirtual 468, 3) := dk_182 1 212 (dk_at dksX1_customers_2 0 rfl rfl)
theorem dX1_customers_50 : decode cX1_customers 50 = .ok (.istore 5, 2) := dk_54 5 (dk_at dksX1_customers_2 3 rfl rfl)
theorem dX1_customers_52 : decode cX1_customers 52 = .ok (.iinc 4 1, 3) := dk_132 4 1 (dk_at dksX1_customers_2 5 rfl rfl)
theorem dX1_customers_55 : decode cX1_customers 55 = .ok (.goto (-32), 3) := dk_167 255 224 (dk_at dksX1_customers_2 8 rfl rfl)
theorem dX1_customers_58 : decode cX1_customers 58 = .ok (.iload_n 2, 1) := dk_28 (dk_at dksX1_customers_2 11 rfl rfl)
theorem dX1_customers_59 : decode cX1_customers 59 = .ok (.ifCond .lt 12, 3) := dk_155 0 12 (dk_at dksX1_customers_2 12 rfl rfl)
theorem dX1_customers_62 : decode cX1_customers 62 = .ok (.aload_n 3, 1) := dk_45 (dk_at dksX1_customers_2 15 rfl rfl)
theorem dX1_customers_63 : decode cX1_customers 63 = .ok (.invokeinterface 305 1, 5) := by decide +kernel
theorem dX1_customers_68 : decode cX1_customers 68 = .ok (.ifCond .ne 7, 3) := dk_154 0 7 (dk_at dksX1_customers_2 21 rfl rfl)
theorem dX1_customers_71 : decode cX1_customers 71 = .ok (.iconst (-1), 1) := dk_2 (dk_at dksX1_customers_3 0 rfl rfl)
theorem dX1_customers_72 : decode cX1_customers 72 = .ok (.goto 15, 3) := dk_167 0 15 (dk_at dksX1_customers_3 1 rfl rfl)
theorem dX1_customers_75 : decode cX1_customers 75 = .ok (.aload_n 3, 1) := dk_45 (dk_at dksX1_customers_3 4 rfl rfl)
theorem dX1_customers_76 : decode cX1_customers 76 = .ok (.invokeinterface 311 1, 5) := by decide +kernel
theorem dX1_customers_81 : decode cX1_customers 81 = .ok (.checkcast 446, 3) := dk_192 1 190 (dk_at dksX1_customers_3 10 rfl rfl)
theorem dX1_customers_84 : decode cX1_customers 84 = .ok (.invokevirtual 468, 3) := dk_182 1 212 (dk_at dksX1_customers_3 13 rfl rfl)
theorem dX1_customers_87 : decode cX1_customers 87 = .ok (.invokestatic 277, 3) := dk_184 1 21 (dk_at dksX1_customers_3 16 rfl rfl)
theorem dX1_customers_90 : decode cX1_customers 90 = .ok (.ireturn, 1) := dk_172 (dk_at dksX1_customers_3 19 rfl rfl)
abbrev cX1_listOf : ByteArray := prog_1_method_63_code
def yX1_listOf : MethodName := ⟨RX1, "listOf", "(I)Ljava/util/LinkedList;"⟩
def dkwX1_listOf_2 : List UInt8 := [132, 3, 1, 167, 255, 218, 44, 176]
abbrev dktX1_listOf_2 : List UInt8 := dkwX1_listOf_2 ++ []
def dkwX1_listOf_1 : List UInt8 := [180, 0, 65, 180, 0, 247, 29, 50, 180, 1, 133, 27, 160, 0, 11, 44, 29, 184, 1, 202, 182, 1, 96]
abbrev dktX1_listOf_1 : List UInt8 := dkwX1_listOf_1 ++ dktX1_listOf_2
def dkwX1_listOf_0 : List UInt8 := [187, 0, 98, 89, 183, 0, 100, 77, 3, 62, 29, 42, 180, 0, 65, 180, 0, 147, 162, 0, 33, 42]
abbrev dktX1_listOf_0 : List UInt8 := dkwX1_listOf_0 ++ dktX1_listOf_1
theorem dksX1_listOf_0 : cX1_listOf.data.toList.drop 0 = dktX1_listOf_0 := by decide +kernel
theorem dksX1_listOf_1 : cX1_listOf.data.toList.drop 22 = dktX1_listOf_1 := dk_seg dksX1_listOf_0 22 rfl rfl
theorem dksX1_listOf_2 : cX1_listOf.data.toList.drop 45 = dktX1_listOf_2 := dk_seg dksX1_listOf_1 23 rfl rfl
theorem dX1_listOf_0 : decode cX1_listOf 0 = .ok (.new 98, 3) := dk_187 0 98 (dk_at dksX1_listOf_0 0 rfl rfl)
theorem dX1_listOf_3 : decode cX1_listOf 3 = .ok (.dup, 1) := dk_89 (dk_at dksX1_listOf_0 3 rfl rfl)
theorem dX1_listOf_4 : decode cX1_listOf 4 = .ok (.invokespecial 100, 3) := dk_183 0 100 (dk_at dksX1_listOf_0 4 rfl rfl)
theorem dX1_listOf_7 : decode cX1_listOf 7 = .ok (.astore_n 2, 1) := dk_77 (dk_at dksX1_listOf_0 7 rfl rfl)
theorem dX1_listOf_8 : decode cX1_listOf 8 = .ok (.iconst 0, 1) := dk_3 (dk_at dksX1_listOf_0 8 rfl rfl)
theorem dX1_listOf_9 : decode cX1_listOf 9 = .ok (.istore_n 3, 1) := dk_62 (dk_at dksX1_listOf_0 9 rfl rfl)
theorem dX1_listOf_10 : decode cX1_listOf 10 = .ok (.iload_n 3, 1) := dk_29 (dk_at dksX1_listOf_0 10 rfl rfl)
theorem dX1_listOf_11 : decode cX1_listOf 11 = .ok (.aload_n 0, 1) := dk_42 (dk_at dksX1_listOf_0 11 rfl rfl)
theorem dX1_listOf_12 : decode cX1_listOf 12 = .ok (.getfield 65, 3) := dk_180 0 65 (dk_at dksX1_listOf_0 12 rfl rfl)
theorem dX1_listOf_15 : decode cX1_listOf 15 = .ok (.getfield 147, 3) := dk_180 0 147 (dk_at dksX1_listOf_0 15 rfl rfl)
theorem dX1_listOf_18 : decode cX1_listOf 18 = .ok (.if_icmp .ge 33, 3) := dk_162 0 33 (dk_at dksX1_listOf_0 18 rfl rfl)
theorem dX1_listOf_21 : decode cX1_listOf 21 = .ok (.aload_n 0, 1) := dk_42 (dk_at dksX1_listOf_0 21 rfl rfl)
theorem dX1_listOf_22 : decode cX1_listOf 22 = .ok (.getfield 65, 3) := dk_180 0 65 (dk_at dksX1_listOf_1 0 rfl rfl)
theorem dX1_listOf_25 : decode cX1_listOf 25 = .ok (.getfield 247, 3) := dk_180 0 247 (dk_at dksX1_listOf_1 3 rfl rfl)
theorem dX1_listOf_28 : decode cX1_listOf 28 = .ok (.iload_n 3, 1) := dk_29 (dk_at dksX1_listOf_1 6 rfl rfl)
theorem dX1_listOf_29 : decode cX1_listOf 29 = .ok (.aaload, 1) := dk_50 (dk_at dksX1_listOf_1 7 rfl rfl)
theorem dX1_listOf_30 : decode cX1_listOf 30 = .ok (.getfield 389, 3) := dk_180 1 133 (dk_at dksX1_listOf_1 8 rfl rfl)
theorem dX1_listOf_33 : decode cX1_listOf 33 = .ok (.iload_n 1, 1) := dk_27 (dk_at dksX1_listOf_1 11 rfl rfl)
theorem dX1_listOf_34 : decode cX1_listOf 34 = .ok (.if_icmp .ne 11, 3) := dk_160 0 11 (dk_at dksX1_listOf_1 12 rfl rfl)
theorem dX1_listOf_37 : decode cX1_listOf 37 = .ok (.aload_n 2, 1) := dk_44 (dk_at dksX1_listOf_1 15 rfl rfl)
theorem dX1_listOf_38 : decode cX1_listOf 38 = .ok (.iload_n 3, 1) := dk_29 (dk_at dksX1_listOf_1 16 rfl rfl)
theorem dX1_listOf_39 : decode cX1_listOf 39 = .ok (.invokestatic 458, 3) := dk_184 1 202 (dk_at dksX1_listOf_1 17 rfl rfl)
theorem dX1_listOf_42 : decode cX1_listOf 42 = .ok (.invokevirtual 352, 3) := dk_182 1 96 (dk_at dksX1_listOf_1 20 rfl rfl)
theorem dX1_listOf_45 : decode cX1_listOf 45 = .ok (.iinc 3 1, 3) := dk_132 3 1 (dk_at dksX1_listOf_2 0 rfl rfl)
theorem dX1_listOf_48 : decode cX1_listOf 48 = .ok (.goto (-38), 3) := dk_167 255 218 (dk_at dksX1_listOf_2 3 rfl rfl)
theorem dX1_listOf_51 : decode cX1_listOf 51 = .ok (.aload_n 2, 1) := dk_44 (dk_at dksX1_listOf_2 6 rfl rfl)
theorem dX1_listOf_52 : decode cX1_listOf 52 = .ok (.areturn, 1) := dk_176 (dk_at dksX1_listOf_2 7 rfl rfl)
abbrev cX1_ranked : ByteArray := prog_1_method_66_code
def yX1_ranked : MethodName := ⟨RX1, "ranked", "(I)I"⟩
def dkwX1_ranked_4 : List UInt8 := [172, 132, 2, 1, 167, 255, 160, 187, 0, 15, 89, 183, 0, 17, 191]
abbrev dktX1_ranked_4 : List UInt8 := dkwX1_ranked_4 ++ []
def dkwX1_ranked_3 : List UInt8 := [167, 255, 204, 42, 180, 0, 65, 180, 0, 139, 28, 50, 180, 0, 228, 153, 0, 10, 29, 27, 160, 0, 5, 28]
abbrev dktX1_ranked_3 : List UInt8 := dkwX1_ranked_3 ++ dktX1_ranked_4
def dkwX1_ranked_2 : List UInt8 := [21, 4, 28, 182, 1, 219, 153, 0, 7, 4, 167, 0, 4, 3, 184, 1, 136, 96, 62, 132, 4, 1]
abbrev dktX1_ranked_2 : List UInt8 := dkwX1_ranked_2 ++ dktX1_ranked_3
def dkwX1_ranked_1 : List UInt8 := [180, 0, 150, 162, 0, 46, 29, 42, 180, 0, 65, 180, 0, 139, 21, 4, 50, 180, 0, 228, 153, 0, 17, 42]
abbrev dktX1_ranked_1 : List UInt8 := dkwX1_ranked_1 ++ dktX1_ranked_2
def dkwX1_ranked_0 : List UInt8 := [3, 61, 28, 42, 180, 0, 65, 180, 0, 150, 162, 0, 91, 3, 62, 3, 54, 4, 21, 4, 42, 180, 0, 65]
abbrev dktX1_ranked_0 : List UInt8 := dkwX1_ranked_0 ++ dktX1_ranked_1
theorem dksX1_ranked_0 : cX1_ranked.data.toList.drop 0 = dktX1_ranked_0 := by decide +kernel
theorem dksX1_ranked_1 : cX1_ranked.data.toList.drop 24 = dktX1_ranked_1 := dk_seg dksX1_ranked_0 24 rfl rfl
theorem dksX1_ranked_2 : cX1_ranked.data.toList.drop 48 = dktX1_ranked_2 := dk_seg dksX1_ranked_1 24 rfl rfl
theorem dksX1_ranked_3 : cX1_ranked.data.toList.drop 70 = dktX1_ranked_3 := dk_seg dksX1_ranked_2 22 rfl rfl
theorem dksX1_ranked_4 : cX1_ranked.data.toList.drop 94 = dktX1_ranked_4 := dk_seg dksX1_ranked_3 24 rfl rfl
theorem dX1_ranked_0 : decode cX1_ranked 0 = .ok (.iconst 0, 1) := dk_3 (dk_at dksX1_ranked_0 0 rfl rfl)
theorem dX1_ranked_1 : decode cX1_ranked 1 = .ok (.istore_n 2, 1) := dk_61 (dk_at dksX1_ranked_0 1 rfl rfl)
theorem dX1_ranked_2 : decode cX1_ranked 2 = .ok (.iload_n 2, 1) := dk_28 (dk_at dksX1_ranked_0 2 rfl rfl)
theorem dX1_ranked_3 : decode cX1_ranked 3 = .ok (.aload_n 0, 1) := dk_42 (dk_at dksX1_ranked_0 3 rfl rfl)
theorem dX1_ranked_4 : decode cX1_ranked 4 = .ok (.getfield 65, 3) := dk_180 0 65 (dk_at dksX1_ranked_0 4 rfl rfl)
theorem dX1_ranked_7 : decode cX1_ranked 7 = .ok (.getfield 150, 3) := dk_180 0 150 (dk_at dksX1_ranked_0 7 rfl rfl)
theorem dX1_ranked_10 : decode cX1_ranked 10 = .ok (.if_icmp .ge 91, 3) := dk_162 0 91 (dk_at dksX1_ranked_0 10 rfl rfl)
theorem dX1_ranked_13 : decode cX1_ranked 13 = .ok (.iconst 0, 1) := dk_3 (dk_at dksX1_ranked_0 13 rfl rfl)
theorem dX1_ranked_14 : decode cX1_ranked 14 = .ok (.istore_n 3, 1) := dk_62 (dk_at dksX1_ranked_0 14 rfl rfl)
theorem dX1_ranked_15 : decode cX1_ranked 15 = .ok (.iconst 0, 1) := dk_3 (dk_at dksX1_ranked_0 15 rfl rfl)
theorem dX1_ranked_16 : decode cX1_ranked 16 = .ok (.istore 4, 2) := dk_54 4 (dk_at dksX1_ranked_0 16 rfl rfl)
theorem dX1_ranked_18 : decode cX1_ranked 18 = .ok (.iload 4, 2) := dk_21 4 (dk_at dksX1_ranked_0 18 rfl rfl)
theorem dX1_ranked_20 : decode cX1_ranked 20 = .ok (.aload_n 0, 1) := dk_42 (dk_at dksX1_ranked_0 20 rfl rfl)
theorem dX1_ranked_21 : decode cX1_ranked 21 = .ok (.getfield 65, 3) := dk_180 0 65 (dk_at dksX1_ranked_0 21 rfl rfl)
theorem dX1_ranked_24 : decode cX1_ranked 24 = .ok (.getfield 150, 3) := dk_180 0 150 (dk_at dksX1_ranked_1 0 rfl rfl)
theorem dX1_ranked_27 : decode cX1_ranked 27 = .ok (.if_icmp .ge 46, 3) := dk_162 0 46 (dk_at dksX1_ranked_1 3 rfl rfl)
theorem dX1_ranked_30 : decode cX1_ranked 30 = .ok (.iload_n 3, 1) := dk_29 (dk_at dksX1_ranked_1 6 rfl rfl)
theorem dX1_ranked_31 : decode cX1_ranked 31 = .ok (.aload_n 0, 1) := dk_42 (dk_at dksX1_ranked_1 7 rfl rfl)
theorem dX1_ranked_32 : decode cX1_ranked 32 = .ok (.getfield 65, 3) := dk_180 0 65 (dk_at dksX1_ranked_1 8 rfl rfl)
theorem dX1_ranked_35 : decode cX1_ranked 35 = .ok (.getfield 139, 3) := dk_180 0 139 (dk_at dksX1_ranked_1 11 rfl rfl)
theorem dX1_ranked_38 : decode cX1_ranked 38 = .ok (.iload 4, 2) := dk_21 4 (dk_at dksX1_ranked_1 14 rfl rfl)
theorem dX1_ranked_40 : decode cX1_ranked 40 = .ok (.aaload, 1) := dk_50 (dk_at dksX1_ranked_1 16 rfl rfl)
theorem dX1_ranked_41 : decode cX1_ranked 41 = .ok (.getfield 228, 3) := dk_180 0 228 (dk_at dksX1_ranked_1 17 rfl rfl)
theorem dX1_ranked_44 : decode cX1_ranked 44 = .ok (.ifCond .eq 17, 3) := dk_153 0 17 (dk_at dksX1_ranked_1 20 rfl rfl)
theorem dX1_ranked_47 : decode cX1_ranked 47 = .ok (.aload_n 0, 1) := dk_42 (dk_at dksX1_ranked_1 23 rfl rfl)
theorem dX1_ranked_48 : decode cX1_ranked 48 = .ok (.iload 4, 2) := dk_21 4 (dk_at dksX1_ranked_2 0 rfl rfl)
theorem dX1_ranked_50 : decode cX1_ranked 50 = .ok (.iload_n 2, 1) := dk_28 (dk_at dksX1_ranked_2 2 rfl rfl)
theorem dX1_ranked_51 : decode cX1_ranked 51 = .ok (.invokevirtual 475, 3) := dk_182 1 219 (dk_at dksX1_ranked_2 3 rfl rfl)
theorem dX1_ranked_54 : decode cX1_ranked 54 = .ok (.ifCond .eq 7, 3) := dk_153 0 7 (dk_at dksX1_ranked_2 6 rfl rfl)
theorem dX1_ranked_57 : decode cX1_ranked 57 = .ok (.iconst 1, 1) := dk_4 (dk_at dksX1_ranked_2 9 rfl rfl)
theorem dX1_ranked_58 : decode cX1_ranked 58 = .ok (.goto 4, 3) := dk_167 0 4 (dk_at dksX1_ranked_2 10 rfl rfl)
theorem dX1_ranked_61 : decode cX1_ranked 61 = .ok (.iconst 0, 1) := dk_3 (dk_at dksX1_ranked_2 13 rfl rfl)
theorem dX1_ranked_62 : decode cX1_ranked 62 = .ok (.invokestatic 392, 3) := dk_184 1 136 (dk_at dksX1_ranked_2 14 rfl rfl)
theorem dX1_ranked_65 : decode cX1_ranked 65 = .ok (.iadd, 1) := dk_96 (dk_at dksX1_ranked_2 17 rfl rfl)
theorem dX1_ranked_66 : decode cX1_ranked 66 = .ok (.istore_n 3, 1) := dk_62 (dk_at dksX1_ranked_2 18 rfl rfl)
theorem dX1_ranked_67 : decode cX1_ranked 67 = .ok (.iinc 4 1, 3) := dk_132 4 1 (dk_at dksX1_ranked_2 19 rfl rfl)
theorem dX1_ranked_70 : decode cX1_ranked 70 = .ok (.goto (-52), 3) := dk_167 255 204 (dk_at dksX1_ranked_3 0 rfl rfl)
theorem dX1_ranked_73 : decode cX1_ranked 73 = .ok (.aload_n 0, 1) := dk_42 (dk_at dksX1_ranked_3 3 rfl rfl)
theorem dX1_ranked_74 : decode cX1_ranked 74 = .ok (.getfield 65, 3) := dk_180 0 65 (dk_at dksX1_ranked_3 4 rfl rfl)
theorem dX1_ranked_77 : decode cX1_ranked 77 = .ok (.getfield 139, 3) := dk_180 0 139 (dk_at dksX1_ranked_3 7 rfl rfl)
theorem dX1_ranked_80 : decode cX1_ranked 80 = .ok (.iload_n 2, 1) := dk_28 (dk_at dksX1_ranked_3 10 rfl rfl)
theorem dX1_ranked_81 : decode cX1_ranked 81 = .ok (.aaload, 1) := dk_50 (dk_at dksX1_ranked_3 11 rfl rfl)
theorem dX1_ranked_82 : decode cX1_ranked 82 = .ok (.getfield 228, 3) := dk_180 0 228 (dk_at dksX1_ranked_3 12 rfl rfl)
theorem dX1_ranked_85 : decode cX1_ranked 85 = .ok (.ifCond .eq 10, 3) := dk_153 0 10 (dk_at dksX1_ranked_3 15 rfl rfl)
theorem dX1_ranked_88 : decode cX1_ranked 88 = .ok (.iload_n 3, 1) := dk_29 (dk_at dksX1_ranked_3 18 rfl rfl)
theorem dX1_ranked_89 : decode cX1_ranked 89 = .ok (.iload_n 1, 1) := dk_27 (dk_at dksX1_ranked_3 19 rfl rfl)
theorem dX1_ranked_90 : decode cX1_ranked 90 = .ok (.if_icmp .ne 5, 3) := dk_160 0 5 (dk_at dksX1_ranked_3 20 rfl rfl)
theorem dX1_ranked_93 : decode cX1_ranked 93 = .ok (.iload_n 2, 1) := dk_28 (dk_at dksX1_ranked_3 23 rfl rfl)
theorem dX1_ranked_94 : decode cX1_ranked 94 = .ok (.ireturn, 1) := dk_172 (dk_at dksX1_ranked_4 0 rfl rfl)
theorem dX1_ranked_95 : decode cX1_ranked 95 = .ok (.iinc 2 1, 3) := dk_132 2 1 (dk_at dksX1_ranked_4 1 rfl rfl)
theorem dX1_ranked_98 : decode cX1_ranked 98 = .ok (.goto (-96), 3) := dk_167 255 160 (dk_at dksX1_ranked_4 4 rfl rfl)
theorem dX1_ranked_101 : decode cX1_ranked 101 = .ok (.new 15, 3) := dk_187 0 15 (dk_at dksX1_ranked_4 7 rfl rfl)
theorem dX1_ranked_104 : decode cX1_ranked 104 = .ok (.dup, 1) := dk_89 (dk_at dksX1_ranked_4 10 rfl rfl)
theorem dX1_ranked_105 : decode cX1_ranked 105 = .ok (.invokespecial 17, 3) := dk_183 0 17 (dk_at dksX1_ranked_4 11 rfl rfl)
theorem dX1_ranked_108 : decode cX1_ranked 108 = .ok (.athrow, 1) := dk_191 (dk_at dksX1_ranked_4 14 rfl rfl)
abbrev cX1_isAhead : ByteArray := prog_1_method_65_code
def yX1_isAhead : MethodName := ⟨RX1, "isAhead", "(II)Z"⟩
def dkwX1_isAhead_3 : List UInt8 := [162, 0, 7, 4, 167, 0, 4, 3, 172]
abbrev dktX1_isAhead_3 : List UInt8 := dkwX1_isAhead_3 ++ []
def dkwX1_isAhead_2 : List UInt8 := [50, 182, 1, 145, 100, 62, 29, 153, 0, 15, 29, 158, 0, 7, 4, 167, 0, 17, 3, 167, 0, 13, 27, 28]
abbrev dktX1_isAhead_2 : List UInt8 := dkwX1_isAhead_2 ++ dktX1_isAhead_3
def dkwX1_isAhead_1 : List UInt8 := [29, 167, 0, 28, 42, 180, 0, 65, 180, 0, 139, 28, 50, 182, 1, 145, 42, 180, 0, 65, 180, 0, 139, 27]
abbrev dktX1_isAhead_1 : List UInt8 := dkwX1_isAhead_1 ++ dktX1_isAhead_2
def dkwX1_isAhead_0 : List UInt8 := [42, 180, 0, 65, 180, 1, 151, 27, 46, 42, 180, 0, 65, 180, 1, 151, 28, 46, 100, 62, 29, 153, 0, 7]
abbrev dktX1_isAhead_0 : List UInt8 := dkwX1_isAhead_0 ++ dktX1_isAhead_1
theorem dksX1_isAhead_0 : cX1_isAhead.data.toList.drop 0 = dktX1_isAhead_0 := by decide +kernel
theorem dksX1_isAhead_1 : cX1_isAhead.data.toList.drop 24 = dktX1_isAhead_1 := dk_seg dksX1_isAhead_0 24 rfl rfl
theorem dksX1_isAhead_2 : cX1_isAhead.data.toList.drop 48 = dktX1_isAhead_2 := dk_seg dksX1_isAhead_1 24 rfl rfl
theorem dksX1_isAhead_3 : cX1_isAhead.data.toList.drop 72 = dktX1_isAhead_3 := dk_seg dksX1_isAhead_2 24 rfl rfl
theorem dX1_isAhead_0 : decode cX1_isAhead 0 = .ok (.aload_n 0, 1) := dk_42 (dk_at dksX1_isAhead_0 0 rfl rfl)
theorem dX1_isAhead_1 : decode cX1_isAhead 1 = .ok (.getfield 65, 3) := dk_180 0 65 (dk_at dksX1_isAhead_0 1 rfl rfl)
theorem dX1_isAhead_4 : decode cX1_isAhead 4 = .ok (.getfield 407, 3) := dk_180 1 151 (dk_at dksX1_isAhead_0 4 rfl rfl)
theorem dX1_isAhead_7 : decode cX1_isAhead 7 = .ok (.iload_n 1, 1) := dk_27 (dk_at dksX1_isAhead_0 7 rfl rfl)
theorem dX1_isAhead_8 : decode cX1_isAhead 8 = .ok (.iaload, 1) := dk_46 (dk_at dksX1_isAhead_0 8 rfl rfl)
theorem dX1_isAhead_9 : decode cX1_isAhead 9 = .ok (.aload_n 0, 1) := dk_42 (dk_at dksX1_isAhead_0 9 rfl rfl)
theorem dX1_isAhead_10 : decode cX1_isAhead 10 = .ok (.getfield 65, 3) := dk_180 0 65 (dk_at dksX1_isAhead_0 10 rfl rfl)
theorem dX1_isAhead_13 : decode cX1_isAhead 13 = .ok (.getfield 407, 3) := dk_180 1 151 (dk_at dksX1_isAhead_0 13 rfl rfl)
theorem dX1_isAhead_16 : decode cX1_isAhead 16 = .ok (.iload_n 2, 1) := dk_28 (dk_at dksX1_isAhead_0 16 rfl rfl)
theorem dX1_isAhead_17 : decode cX1_isAhead 17 = .ok (.iaload, 1) := dk_46 (dk_at dksX1_isAhead_0 17 rfl rfl)
theorem dX1_isAhead_18 : decode cX1_isAhead 18 = .ok (.isub, 1) := dk_100 (dk_at dksX1_isAhead_0 18 rfl rfl)
theorem dX1_isAhead_19 : decode cX1_isAhead 19 = .ok (.istore_n 3, 1) := dk_62 (dk_at dksX1_isAhead_0 19 rfl rfl)
theorem dX1_isAhead_20 : decode cX1_isAhead 20 = .ok (.iload_n 3, 1) := dk_29 (dk_at dksX1_isAhead_0 20 rfl rfl)
theorem dX1_isAhead_21 : decode cX1_isAhead 21 = .ok (.ifCond .eq 7, 3) := dk_153 0 7 (dk_at dksX1_isAhead_0 21 rfl rfl)
theorem dX1_isAhead_24 : decode cX1_isAhead 24 = .ok (.iload_n 3, 1) := dk_29 (dk_at dksX1_isAhead_1 0 rfl rfl)
theorem dX1_isAhead_25 : decode cX1_isAhead 25 = .ok (.goto 28, 3) := dk_167 0 28 (dk_at dksX1_isAhead_1 1 rfl rfl)
theorem dX1_isAhead_28 : decode cX1_isAhead 28 = .ok (.aload_n 0, 1) := dk_42 (dk_at dksX1_isAhead_1 4 rfl rfl)
theorem dX1_isAhead_29 : decode cX1_isAhead 29 = .ok (.getfield 65, 3) := dk_180 0 65 (dk_at dksX1_isAhead_1 5 rfl rfl)
theorem dX1_isAhead_32 : decode cX1_isAhead 32 = .ok (.getfield 139, 3) := dk_180 0 139 (dk_at dksX1_isAhead_1 8 rfl rfl)
theorem dX1_isAhead_35 : decode cX1_isAhead 35 = .ok (.iload_n 2, 1) := dk_28 (dk_at dksX1_isAhead_1 11 rfl rfl)
theorem dX1_isAhead_36 : decode cX1_isAhead 36 = .ok (.aaload, 1) := dk_50 (dk_at dksX1_isAhead_1 12 rfl rfl)
theorem dX1_isAhead_37 : decode cX1_isAhead 37 = .ok (.invokevirtual 401, 3) := dk_182 1 145 (dk_at dksX1_isAhead_1 13 rfl rfl)
theorem dX1_isAhead_40 : decode cX1_isAhead 40 = .ok (.aload_n 0, 1) := dk_42 (dk_at dksX1_isAhead_1 16 rfl rfl)
theorem dX1_isAhead_41 : decode cX1_isAhead 41 = .ok (.getfield 65, 3) := dk_180 0 65 (dk_at dksX1_isAhead_1 17 rfl rfl)
theorem dX1_isAhead_44 : decode cX1_isAhead 44 = .ok (.getfield 139, 3) := dk_180 0 139 (dk_at dksX1_isAhead_1 20 rfl rfl)
theorem dX1_isAhead_47 : decode cX1_isAhead 47 = .ok (.iload_n 1, 1) := dk_27 (dk_at dksX1_isAhead_1 23 rfl rfl)
theorem dX1_isAhead_48 : decode cX1_isAhead 48 = .ok (.aaload, 1) := dk_50 (dk_at dksX1_isAhead_2 0 rfl rfl)
theorem dX1_isAhead_49 : decode cX1_isAhead 49 = .ok (.invokevirtual 401, 3) := dk_182 1 145 (dk_at dksX1_isAhead_2 1 rfl rfl)
theorem dX1_isAhead_52 : decode cX1_isAhead 52 = .ok (.isub, 1) := dk_100 (dk_at dksX1_isAhead_2 4 rfl rfl)
theorem dX1_isAhead_53 : decode cX1_isAhead 53 = .ok (.istore_n 3, 1) := dk_62 (dk_at dksX1_isAhead_2 5 rfl rfl)
theorem dX1_isAhead_54 : decode cX1_isAhead 54 = .ok (.iload_n 3, 1) := dk_29 (dk_at dksX1_isAhead_2 6 rfl rfl)
theorem dX1_isAhead_55 : decode cX1_isAhead 55 = .ok (.ifCond .eq 15, 3) := dk_153 0 15 (dk_at dksX1_isAhead_2 7 rfl rfl)
theorem dX1_isAhead_58 : decode cX1_isAhead 58 = .ok (.iload_n 3, 1) := dk_29 (dk_at dksX1_isAhead_2 10 rfl rfl)
theorem dX1_isAhead_59 : decode cX1_isAhead 59 = .ok (.ifCond .le 7, 3) := dk_158 0 7 (dk_at dksX1_isAhead_2 11 rfl rfl)
theorem dX1_isAhead_62 : decode cX1_isAhead 62 = .ok (.iconst 1, 1) := dk_4 (dk_at dksX1_isAhead_2 14 rfl rfl)
theorem dX1_isAhead_63 : decode cX1_isAhead 63 = .ok (.goto 17, 3) := dk_167 0 17 (dk_at dksX1_isAhead_2 15 rfl rfl)
theorem dX1_isAhead_66 : decode cX1_isAhead 66 = .ok (.iconst 0, 1) := dk_3 (dk_at dksX1_isAhead_2 18 rfl rfl)
theorem dX1_isAhead_67 : decode cX1_isAhead 67 = .ok (.goto 13, 3) := dk_167 0 13 (dk_at dksX1_isAhead_2 19 rfl rfl)
theorem dX1_isAhead_70 : decode cX1_isAhead 70 = .ok (.iload_n 1, 1) := dk_27 (dk_at dksX1_isAhead_2 22 rfl rfl)
theorem dX1_isAhead_71 : decode cX1_isAhead 71 = .ok (.iload_n 2, 1) := dk_28 (dk_at dksX1_isAhead_2 23 rfl rfl)
theorem dX1_isAhead_72 : decode cX1_isAhead 72 = .ok (.if_icmp .ge 7, 3) := dk_162 0 7 (dk_at dksX1_isAhead_3 0 rfl rfl)
theorem dX1_isAhead_75 : decode cX1_isAhead 75 = .ok (.iconst 1, 1) := dk_4 (dk_at dksX1_isAhead_3 3 rfl rfl)
theorem dX1_isAhead_76 : decode cX1_isAhead 76 = .ok (.goto 4, 3) := dk_167 0 4 (dk_at dksX1_isAhead_3 4 rfl rfl)
theorem dX1_isAhead_79 : decode cX1_isAhead 79 = .ok (.iconst 0, 1) := dk_3 (dk_at dksX1_isAhead_3 7 rfl rfl)
theorem dX1_isAhead_80 : decode cX1_isAhead 80 = .ok (.ireturn, 1) := dk_172 (dk_at dksX1_isAhead_3 8 rfl rfl)
abbrev cX1_unfairness : ByteArray := prog_1_method_67_code
def yX1_unfairness : MethodName := ⟨RX1, "unfairness", "()I"⟩
def dkwX1_unfairness_1 : List UInt8 := [180, 1, 151, 27, 46, 42, 180, 0, 65, 180, 1, 151, 28, 46, 100, 172]
abbrev dktX1_unfairness_1 : List UInt8 := dkwX1_unfairness_1 ++ []
def dkwX1_unfairness_0 : List UInt8 := [42, 3, 182, 1, 223, 60, 42, 42, 180, 0, 65, 182, 0, 232, 4, 100, 182, 1, 223, 61, 42, 180, 0, 65]
abbrev dktX1_unfairness_0 : List UInt8 := dkwX1_unfairness_0 ++ dktX1_unfairness_1
theorem dksX1_unfairness_0 : cX1_unfairness.data.toList.drop 0 = dktX1_unfairness_0 := by decide +kernel
theorem dksX1_unfairness_1 : cX1_unfairness.data.toList.drop 24 = dktX1_unfairness_1 := dk_seg dksX1_unfairness_0 24 rfl rfl
theorem dX1_unfairness_0 : decode cX1_unfairness 0 = .ok (.aload_n 0, 1) := dk_42 (dk_at dksX1_unfairness_0 0 rfl rfl)
theorem dX1_unfairness_1 : decode cX1_unfairness 1 = .ok (.iconst 0, 1) := dk_3 (dk_at dksX1_unfairness_0 1 rfl rfl)
theorem dX1_unfairness_2 : decode cX1_unfairness 2 = .ok (.invokevirtual 479, 3) := dk_182 1 223 (dk_at dksX1_unfairness_0 2 rfl rfl)
theorem dX1_unfairness_5 : decode cX1_unfairness 5 = .ok (.istore_n 1, 1) := dk_60 (dk_at dksX1_unfairness_0 5 rfl rfl)
theorem dX1_unfairness_6 : decode cX1_unfairness 6 = .ok (.aload_n 0, 1) := dk_42 (dk_at dksX1_unfairness_0 6 rfl rfl)
theorem dX1_unfairness_7 : decode cX1_unfairness 7 = .ok (.aload_n 0, 1) := dk_42 (dk_at dksX1_unfairness_0 7 rfl rfl)
theorem dX1_unfairness_8 : decode cX1_unfairness 8 = .ok (.getfield 65, 3) := dk_180 0 65 (dk_at dksX1_unfairness_0 8 rfl rfl)
theorem dX1_unfairness_11 : decode cX1_unfairness 11 = .ok (.invokevirtual 232, 3) := dk_182 0 232 (dk_at dksX1_unfairness_0 11 rfl rfl)
theorem dX1_unfairness_14 : decode cX1_unfairness 14 = .ok (.iconst 1, 1) := dk_4 (dk_at dksX1_unfairness_0 14 rfl rfl)
theorem dX1_unfairness_15 : decode cX1_unfairness 15 = .ok (.isub, 1) := dk_100 (dk_at dksX1_unfairness_0 15 rfl rfl)
theorem dX1_unfairness_16 : decode cX1_unfairness 16 = .ok (.invokevirtual 479, 3) := dk_182 1 223 (dk_at dksX1_unfairness_0 16 rfl rfl)
theorem dX1_unfairness_19 : decode cX1_unfairness 19 = .ok (.istore_n 2, 1) := dk_61 (dk_at dksX1_unfairness_0 19 rfl rfl)
theorem dX1_unfairness_20 : decode cX1_unfairness 20 = .ok (.aload_n 0, 1) := dk_42 (dk_at dksX1_unfairness_0 20 rfl rfl)
theorem dX1_unfairness_21 : decode cX1_unfairness 21 = .ok (.getfield 65, 3) := dk_180 0 65 (dk_at dksX1_unfairness_0 21 rfl rfl)
theorem dX1_unfairness_24 : decode cX1_unfairness 24 = .ok (.getfield 407, 3) := dk_180 1 151 (dk_at dksX1_unfairness_1 0 rfl rfl)
theorem dX1_unfairness_27 : decode cX1_unfairness 27 = .ok (.iload_n 1, 1) := dk_27 (dk_at dksX1_unfairness_1 3 rfl rfl)
theorem dX1_unfairness_28 : decode cX1_unfairness 28 = .ok (.iaload, 1) := dk_46 (dk_at dksX1_unfairness_1 4 rfl rfl)
theorem dX1_unfairness_29 : decode cX1_unfairness 29 = .ok (.aload_n 0, 1) := dk_42 (dk_at dksX1_unfairness_1 5 rfl rfl)
theorem dX1_unfairness_30 : decode cX1_unfairness 30 = .ok (.getfield 65, 3) := dk_180 0 65 (dk_at dksX1_unfairness_1 6 rfl rfl)
theorem dX1_unfairness_33 : decode cX1_unfairness 33 = .ok (.getfield 407, 3) := dk_180 1 151 (dk_at dksX1_unfairness_1 9 rfl rfl)
theorem dX1_unfairness_36 : decode cX1_unfairness 36 = .ok (.iload_n 2, 1) := dk_28 (dk_at dksX1_unfairness_1 12 rfl rfl)
theorem dX1_unfairness_37 : decode cX1_unfairness 37 = .ok (.iaload, 1) := dk_46 (dk_at dksX1_unfairness_1 13 rfl rfl)
theorem dX1_unfairness_38 : decode cX1_unfairness 38 = .ok (.isub, 1) := dk_100 (dk_at dksX1_unfairness_1 14 rfl rfl)
theorem dX1_unfairness_39 : decode cX1_unfairness 39 = .ok (.ireturn, 1) := dk_172 (dk_at dksX1_unfairness_1 15 rfl rfl)
abbrev cX1_isOwn : ByteArray := prog_1_method_68_code
def yX1_isOwn : MethodName := ⟨RX1, "isOwn", "(I)Z"⟩
def dkwX1_isOwn_6 : List UInt8 := [167, 0, 4, 3, 172]
abbrev dktX1_isOwn_6 : List UInt8 := dkwX1_isOwn_6 ++ []
def dkwX1_isOwn_5 : List UInt8 := [167, 0, 4, 3, 54, 4, 132, 5, 1, 167, 255, 183, 28, 153, 0, 8, 21, 4, 153, 0, 7, 4]
abbrev dktX1_isOwn_5 : List UInt8 := dkwX1_isOwn_5 ++ dktX1_isOwn_6
def dkwX1_isOwn_4 : List UInt8 := [21, 5, 50, 180, 1, 133, 42, 180, 0, 72, 180, 0, 247, 21, 5, 50, 180, 1, 133, 160, 0, 7, 4]
abbrev dktX1_isOwn_4 : List UInt8 := dkwX1_isOwn_4 ++ dktX1_isOwn_5
def dkwX1_isOwn_3 : List UInt8 := [180, 0, 65, 180, 0, 247, 21, 5, 50, 180, 1, 133, 27, 159, 0, 32, 42, 180, 0, 65, 180, 0, 247]
abbrev dktX1_isOwn_3 : List UInt8 := dkwX1_isOwn_3 ++ dktX1_isOwn_4
def dkwX1_isOwn_2 : List UInt8 := [4, 54, 4, 3, 54, 5, 21, 5, 42, 180, 0, 65, 180, 0, 147, 162, 0, 67, 21, 4, 153, 0, 53, 42]
abbrev dktX1_isOwn_2 : List UInt8 := dkwX1_isOwn_2 ++ dktX1_isOwn_3
def dkwX1_isOwn_1 : List UInt8 := [180, 0, 139, 27, 50, 3, 181, 0, 228, 42, 180, 0, 72, 42, 180, 0, 72, 180, 0, 147, 182, 0, 169, 62]
abbrev dktX1_isOwn_1 : List UInt8 := dkwX1_isOwn_1 ++ dktX1_isOwn_2
def dkwX1_isOwn_0 : List UInt8 := [42, 27, 182, 0, 224, 180, 0, 228, 61, 42, 180, 0, 72, 42, 180, 0, 65, 182, 0, 105, 42, 180, 0, 72]
abbrev dktX1_isOwn_0 : List UInt8 := dkwX1_isOwn_0 ++ dktX1_isOwn_1
theorem dksX1_isOwn_0 : cX1_isOwn.data.toList.drop 0 = dktX1_isOwn_0 := by decide +kernel
theorem dksX1_isOwn_1 : cX1_isOwn.data.toList.drop 24 = dktX1_isOwn_1 := dk_seg dksX1_isOwn_0 24 rfl rfl
theorem dksX1_isOwn_2 : cX1_isOwn.data.toList.drop 48 = dktX1_isOwn_2 := dk_seg dksX1_isOwn_1 24 rfl rfl
theorem dksX1_isOwn_3 : cX1_isOwn.data.toList.drop 72 = dktX1_isOwn_3 := dk_seg dksX1_isOwn_2 24 rfl rfl
theorem dksX1_isOwn_4 : cX1_isOwn.data.toList.drop 95 = dktX1_isOwn_4 := dk_seg dksX1_isOwn_3 23 rfl rfl
theorem dksX1_isOwn_5 : cX1_isOwn.data.toList.drop 118 = dktX1_isOwn_5 := dk_seg dksX1_isOwn_4 23 rfl rfl
theorem dksX1_isOwn_6 : cX1_isOwn.data.toList.drop 140 = dktX1_isOwn_6 := dk_seg dksX1_isOwn_5 22 rfl rfl
theorem dX1_isOwn_0 : decode cX1_isOwn 0 = .ok (.aload_n 0, 1) := dk_42 (dk_at dksX1_isOwn_0 0 rfl rfl)
theorem dX1_isOwn_1 : decode cX1_isOwn 1 = .ok (.iload_n 1, 1) := dk_27 (dk_at dksX1_isOwn_0 1 rfl rfl)
theorem dX1_isOwn_2 : decode cX1_isOwn 2 = .ok (.invokevirtual 224, 3) := dk_182 0 224 (dk_at dksX1_isOwn_0 2 rfl rfl)
theorem dX1_isOwn_5 : decode cX1_isOwn 5 = .ok (.getfield 228, 3) := dk_180 0 228 (dk_at dksX1_isOwn_0 5 rfl rfl)
theorem dX1_isOwn_8 : decode cX1_isOwn 8 = .ok (.istore_n 2, 1) := dk_61 (dk_at dksX1_isOwn_0 8 rfl rfl)
theorem dX1_isOwn_9 : decode cX1_isOwn 9 = .ok (.aload_n 0, 1) := dk_42 (dk_at dksX1_isOwn_0 9 rfl rfl)
theorem dX1_isOwn_10 : decode cX1_isOwn 10 = .ok (.getfield 72, 3) := dk_180 0 72 (dk_at dksX1_isOwn_0 10 rfl rfl)
theorem dX1_isOwn_13 : decode cX1_isOwn 13 = .ok (.aload_n 0, 1) := dk_42 (dk_at dksX1_isOwn_0 13 rfl rfl)
theorem dX1_isOwn_14 : decode cX1_isOwn 14 = .ok (.getfield 65, 3) := dk_180 0 65 (dk_at dksX1_isOwn_0 14 rfl rfl)
theorem dX1_isOwn_17 : decode cX1_isOwn 17 = .ok (.invokevirtual 105, 3) := dk_182 0 105 (dk_at dksX1_isOwn_0 17 rfl rfl)
theorem dX1_isOwn_20 : decode cX1_isOwn 20 = .ok (.aload_n 0, 1) := dk_42 (dk_at dksX1_isOwn_0 20 rfl rfl)
theorem dX1_isOwn_21 : decode cX1_isOwn 21 = .ok (.getfield 72, 3) := dk_180 0 72 (dk_at dksX1_isOwn_0 21 rfl rfl)
theorem dX1_isOwn_24 : decode cX1_isOwn 24 = .ok (.getfield 139, 3) := dk_180 0 139 (dk_at dksX1_isOwn_1 0 rfl rfl)
theorem dX1_isOwn_27 : decode cX1_isOwn 27 = .ok (.iload_n 1, 1) := dk_27 (dk_at dksX1_isOwn_1 3 rfl rfl)
theorem dX1_isOwn_28 : decode cX1_isOwn 28 = .ok (.aaload, 1) := dk_50 (dk_at dksX1_isOwn_1 4 rfl rfl)
theorem dX1_isOwn_29 : decode cX1_isOwn 29 = .ok (.iconst 0, 1) := dk_3 (dk_at dksX1_isOwn_1 5 rfl rfl)
theorem dX1_isOwn_30 : decode cX1_isOwn 30 = .ok (.putfield 228, 3) := dk_181 0 228 (dk_at dksX1_isOwn_1 6 rfl rfl)
theorem dX1_isOwn_33 : decode cX1_isOwn 33 = .ok (.aload_n 0, 1) := dk_42 (dk_at dksX1_isOwn_1 9 rfl rfl)
theorem dX1_isOwn_34 : decode cX1_isOwn 34 = .ok (.getfield 72, 3) := dk_180 0 72 (dk_at dksX1_isOwn_1 10 rfl rfl)
theorem dX1_isOwn_37 : decode cX1_isOwn 37 = .ok (.aload_n 0, 1) := dk_42 (dk_at dksX1_isOwn_1 13 rfl rfl)
theorem dX1_isOwn_38 : decode cX1_isOwn 38 = .ok (.getfield 72, 3) := dk_180 0 72 (dk_at dksX1_isOwn_1 14 rfl rfl)
theorem dX1_isOwn_41 : decode cX1_isOwn 41 = .ok (.getfield 147, 3) := dk_180 0 147 (dk_at dksX1_isOwn_1 17 rfl rfl)
theorem dX1_isOwn_44 : decode cX1_isOwn 44 = .ok (.invokevirtual 169, 3) := dk_182 0 169 (dk_at dksX1_isOwn_1 20 rfl rfl)
theorem dX1_isOwn_47 : decode cX1_isOwn 47 = .ok (.istore_n 3, 1) := dk_62 (dk_at dksX1_isOwn_1 23 rfl rfl)
theorem dX1_isOwn_48 : decode cX1_isOwn 48 = .ok (.iconst 1, 1) := dk_4 (dk_at dksX1_isOwn_2 0 rfl rfl)
theorem dX1_isOwn_49 : decode cX1_isOwn 49 = .ok (.istore 4, 2) := dk_54 4 (dk_at dksX1_isOwn_2 1 rfl rfl)
theorem dX1_isOwn_51 : decode cX1_isOwn 51 = .ok (.iconst 0, 1) := dk_3 (dk_at dksX1_isOwn_2 3 rfl rfl)
theorem dX1_isOwn_52 : decode cX1_isOwn 52 = .ok (.istore 5, 2) := dk_54 5 (dk_at dksX1_isOwn_2 4 rfl rfl)
theorem dX1_isOwn_54 : decode cX1_isOwn 54 = .ok (.iload 5, 2) := dk_21 5 (dk_at dksX1_isOwn_2 6 rfl rfl)
theorem dX1_isOwn_56 : decode cX1_isOwn 56 = .ok (.aload_n 0, 1) := dk_42 (dk_at dksX1_isOwn_2 8 rfl rfl)
theorem dX1_isOwn_57 : decode cX1_isOwn 57 = .ok (.getfield 65, 3) := dk_180 0 65 (dk_at dksX1_isOwn_2 9 rfl rfl)
theorem dX1_isOwn_60 : decode cX1_isOwn 60 = .ok (.getfield 147, 3) := dk_180 0 147 (dk_at dksX1_isOwn_2 12 rfl rfl)
theorem dX1_isOwn_63 : decode cX1_isOwn 63 = .ok (.if_icmp .ge 67, 3) := dk_162 0 67 (dk_at dksX1_isOwn_2 15 rfl rfl)
theorem dX1_isOwn_66 : decode cX1_isOwn 66 = .ok (.iload 4, 2) := dk_21 4 (dk_at dksX1_isOwn_2 18 rfl rfl)
theorem dX1_isOwn_68 : decode cX1_isOwn 68 = .ok (.ifCond .eq 53, 3) := dk_153 0 53 (dk_at dksX1_isOwn_2 20 rfl rfl)
theorem dX1_isOwn_71 : decode cX1_isOwn 71 = .ok (.aload_n 0, 1) := dk_42 (dk_at dksX1_isOwn_2 23 rfl rfl)
theorem dX1_isOwn_72 : decode cX1_isOwn 72 = .ok (.getfield 65, 3) := dk_180 0 65 (dk_at dksX1_isOwn_3 0 rfl rfl)
theorem dX1_isOwn_75 : decode cX1_isOwn 75 = .ok (.getfield 247, 3) := dk_180 0 247 (dk_at dksX1_isOwn_3 3 rfl rfl)
theorem dX1_isOwn_78 : decode cX1_isOwn 78 = .ok (.iload 5, 2) := dk_21 5 (dk_at dksX1_isOwn_3 6 rfl rfl)
theorem dX1_isOwn_80 : decode cX1_isOwn 80 = .ok (.aaload, 1) := dk_50 (dk_at dksX1_isOwn_3 8 rfl rfl)
theorem dX1_isOwn_81 : decode cX1_isOwn 81 = .ok (.getfield 389, 3) := dk_180 1 133 (dk_at dksX1_isOwn_3 9 rfl rfl)
theorem dX1_isOwn_84 : decode cX1_isOwn 84 = .ok (.iload_n 1, 1) := dk_27 (dk_at dksX1_isOwn_3 12 rfl rfl)
theorem dX1_isOwn_85 : decode cX1_isOwn 85 = .ok (.if_icmp .eq 32, 3) := dk_159 0 32 (dk_at dksX1_isOwn_3 13 rfl rfl)
theorem dX1_isOwn_88 : decode cX1_isOwn 88 = .ok (.aload_n 0, 1) := dk_42 (dk_at dksX1_isOwn_3 16 rfl rfl)
theorem dX1_isOwn_89 : decode cX1_isOwn 89 = .ok (.getfield 65, 3) := dk_180 0 65 (dk_at dksX1_isOwn_3 17 rfl rfl)
theorem dX1_isOwn_92 : decode cX1_isOwn 92 = .ok (.getfield 247, 3) := dk_180 0 247 (dk_at dksX1_isOwn_3 20 rfl rfl)
theorem dX1_isOwn_95 : decode cX1_isOwn 95 = .ok (.iload 5, 2) := dk_21 5 (dk_at dksX1_isOwn_4 0 rfl rfl)
theorem dX1_isOwn_97 : decode cX1_isOwn 97 = .ok (.aaload, 1) := dk_50 (dk_at dksX1_isOwn_4 2 rfl rfl)
theorem dX1_isOwn_98 : decode cX1_isOwn 98 = .ok (.getfield 389, 3) := dk_180 1 133 (dk_at dksX1_isOwn_4 3 rfl rfl)
theorem dX1_isOwn_101 : decode cX1_isOwn 101 = .ok (.aload_n 0, 1) := dk_42 (dk_at dksX1_isOwn_4 6 rfl rfl)
theorem dX1_isOwn_102 : decode cX1_isOwn 102 = .ok (.getfield 72, 3) := dk_180 0 72 (dk_at dksX1_isOwn_4 7 rfl rfl)
theorem dX1_isOwn_105 : decode cX1_isOwn 105 = .ok (.getfield 247, 3) := dk_180 0 247 (dk_at dksX1_isOwn_4 10 rfl rfl)
theorem dX1_isOwn_108 : decode cX1_isOwn 108 = .ok (.iload 5, 2) := dk_21 5 (dk_at dksX1_isOwn_4 13 rfl rfl)
theorem dX1_isOwn_110 : decode cX1_isOwn 110 = .ok (.aaload, 1) := dk_50 (dk_at dksX1_isOwn_4 15 rfl rfl)
theorem dX1_isOwn_111 : decode cX1_isOwn 111 = .ok (.getfield 389, 3) := dk_180 1 133 (dk_at dksX1_isOwn_4 16 rfl rfl)
theorem dX1_isOwn_114 : decode cX1_isOwn 114 = .ok (.if_icmp .ne 7, 3) := dk_160 0 7 (dk_at dksX1_isOwn_4 19 rfl rfl)
theorem dX1_isOwn_117 : decode cX1_isOwn 117 = .ok (.iconst 1, 1) := dk_4 (dk_at dksX1_isOwn_4 22 rfl rfl)
theorem dX1_isOwn_118 : decode cX1_isOwn 118 = .ok (.goto 4, 3) := dk_167 0 4 (dk_at dksX1_isOwn_5 0 rfl rfl)
theorem dX1_isOwn_121 : decode cX1_isOwn 121 = .ok (.iconst 0, 1) := dk_3 (dk_at dksX1_isOwn_5 3 rfl rfl)
theorem dX1_isOwn_122 : decode cX1_isOwn 122 = .ok (.istore 4, 2) := dk_54 4 (dk_at dksX1_isOwn_5 4 rfl rfl)
theorem dX1_isOwn_124 : decode cX1_isOwn 124 = .ok (.iinc 5 1, 3) := dk_132 5 1 (dk_at dksX1_isOwn_5 6 rfl rfl)
theorem dX1_isOwn_127 : decode cX1_isOwn 127 = .ok (.goto (-73), 3) := dk_167 255 183 (dk_at dksX1_isOwn_5 9 rfl rfl)
theorem dX1_isOwn_130 : decode cX1_isOwn 130 = .ok (.iload_n 2, 1) := dk_28 (dk_at dksX1_isOwn_5 12 rfl rfl)
theorem dX1_isOwn_131 : decode cX1_isOwn 131 = .ok (.ifCond .eq 8, 3) := dk_153 0 8 (dk_at dksX1_isOwn_5 13 rfl rfl)
theorem dX1_isOwn_134 : decode cX1_isOwn 134 = .ok (.iload 4, 2) := dk_21 4 (dk_at dksX1_isOwn_5 16 rfl rfl)
theorem dX1_isOwn_136 : decode cX1_isOwn 136 = .ok (.ifCond .eq 7, 3) := dk_153 0 7 (dk_at dksX1_isOwn_5 18 rfl rfl)
theorem dX1_isOwn_139 : decode cX1_isOwn 139 = .ok (.iconst 1, 1) := dk_4 (dk_at dksX1_isOwn_5 21 rfl rfl)
theorem dX1_isOwn_140 : decode cX1_isOwn 140 = .ok (.goto 4, 3) := dk_167 0 4 (dk_at dksX1_isOwn_6 0 rfl rfl)
theorem dX1_isOwn_143 : decode cX1_isOwn 143 = .ok (.iconst 0, 1) := dk_3 (dk_at dksX1_isOwn_6 3 rfl rfl)
theorem dX1_isOwn_144 : decode cX1_isOwn 144 = .ok (.ireturn, 1) := dk_172 (dk_at dksX1_isOwn_6 4 rfl rfl)
abbrev cX1_describe : ByteArray := prog_1_method_69_code
def yX1_describe : MethodName := ⟨RX1, "describe", "(I)I"⟩
def dkwX1_describe_6 : List UInt8 := [182, 1, 17, 21, 4, 182, 1, 230, 87, 167, 255, 218, 42, 180, 0, 95, 182, 1, 11, 172]
abbrev dktX1_describe_6 : List UInt8 := dkwX1_describe_6 ++ []
def dkwX1_describe_5 : List UInt8 := [153, 0, 35, 45, 185, 1, 55, 1, 0, 192, 1, 190, 182, 1, 212, 54, 4, 42, 180, 0, 95, 16, 64]
abbrev dktX1_describe_5 : List UInt8 := dkwX1_describe_5 ++ dktX1_describe_6
def dkwX1_describe_4 : List UInt8 := [19, 1, 233, 182, 1, 227, 87, 42, 27, 182, 1, 207, 182, 1, 211, 78, 45, 185, 1, 49, 1, 0]
abbrev dktX1_describe_4 : List UInt8 := dkwX1_describe_4 ++ dktX1_describe_5
def dkwX1_describe_3 : List UInt8 := [153, 0, 13, 42, 180, 0, 95, 16, 33, 182, 1, 17, 87, 44, 180, 0, 228, 154, 0, 14, 42, 180, 0, 95]
abbrev dktX1_describe_3 : List UInt8 := dkwX1_describe_3 ++ dktX1_describe_4
def dkwX1_describe_2 : List UInt8 := [182, 1, 230, 16, 47, 182, 1, 17, 44, 180, 0, 241, 182, 1, 230, 87, 42, 180, 0, 65, 27, 182, 1, 154]
abbrev dktX1_describe_2 : List UInt8 := dkwX1_describe_2 ++ dktX1_describe_3
def dkwX1_describe_1 : List UInt8 := [182, 1, 226, 182, 1, 227, 27, 182, 1, 230, 16, 58, 182, 1, 17, 42, 180, 0, 65, 180, 1, 151, 27, 46]
abbrev dktX1_describe_1 : List UInt8 := dkwX1_describe_1 ++ dktX1_describe_2
def dkwX1_describe_0 : List UInt8 := [42, 27, 182, 0, 224, 77, 42, 180, 0, 95, 3, 182, 1, 100, 42, 180, 0, 95, 44, 180, 1, 140]
abbrev dktX1_describe_0 : List UInt8 := dkwX1_describe_0 ++ dktX1_describe_1
theorem dksX1_describe_0 : cX1_describe.data.toList.drop 0 = dktX1_describe_0 := by decide +kernel
theorem dksX1_describe_1 : cX1_describe.data.toList.drop 22 = dktX1_describe_1 := dk_seg dksX1_describe_0 22 rfl rfl
theorem dksX1_describe_2 : cX1_describe.data.toList.drop 46 = dktX1_describe_2 := dk_seg dksX1_describe_1 24 rfl rfl
theorem dksX1_describe_3 : cX1_describe.data.toList.drop 70 = dktX1_describe_3 := dk_seg dksX1_describe_2 24 rfl rfl
theorem dksX1_describe_4 : cX1_describe.data.toList.drop 94 = dktX1_describe_4 := dk_seg dksX1_describe_3 24 rfl rfl
theorem dksX1_describe_5 : cX1_describe.data.toList.drop 116 = dktX1_describe_5 := dk_seg dksX1_describe_4 22 rfl rfl
theorem dksX1_describe_6 : cX1_describe.data.toList.drop 139 = dktX1_describe_6 := dk_seg dksX1_describe_5 23 rfl rfl
theorem dX1_describe_0 : decode cX1_describe 0 = .ok (.aload_n 0, 1) := dk_42 (dk_at dksX1_describe_0 0 rfl rfl)
theorem dX1_describe_1 : decode cX1_describe 1 = .ok (.iload_n 1, 1) := dk_27 (dk_at dksX1_describe_0 1 rfl rfl)
theorem dX1_describe_2 : decode cX1_describe 2 = .ok (.invokevirtual 224, 3) := dk_182 0 224 (dk_at dksX1_describe_0 2 rfl rfl)
theorem dX1_describe_5 : decode cX1_describe 5 = .ok (.astore_n 2, 1) := dk_77 (dk_at dksX1_describe_0 5 rfl rfl)
theorem dX1_describe_6 : decode cX1_describe 6 = .ok (.aload_n 0, 1) := dk_42 (dk_at dksX1_describe_0 6 rfl rfl)
theorem dX1_describe_7 : decode cX1_describe 7 = .ok (.getfield 95, 3) := dk_180 0 95 (dk_at dksX1_describe_0 7 rfl rfl)
theorem dX1_describe_10 : decode cX1_describe 10 = .ok (.iconst 0, 1) := dk_3 (dk_at dksX1_describe_0 10 rfl rfl)
theorem dX1_describe_11 : decode cX1_describe 11 = .ok (.invokevirtual 356, 3) := dk_182 1 100 (dk_at dksX1_describe_0 11 rfl rfl)
theorem dX1_describe_14 : decode cX1_describe 14 = .ok (.aload_n 0, 1) := dk_42 (dk_at dksX1_describe_0 14 rfl rfl)
theorem dX1_describe_15 : decode cX1_describe 15 = .ok (.getfield 95, 3) := dk_180 0 95 (dk_at dksX1_describe_0 15 rfl rfl)
theorem dX1_describe_18 : decode cX1_describe 18 = .ok (.aload_n 2, 1) := dk_44 (dk_at dksX1_describe_0 18 rfl rfl)
theorem dX1_describe_19 : decode cX1_describe 19 = .ok (.getfield 396, 3) := dk_180 1 140 (dk_at dksX1_describe_0 19 rfl rfl)
theorem dX1_describe_22 : decode cX1_describe 22 = .ok (.invokevirtual 482, 3) := dk_182 1 226 (dk_at dksX1_describe_1 0 rfl rfl)
theorem dX1_describe_25 : decode cX1_describe 25 = .ok (.invokevirtual 483, 3) := dk_182 1 227 (dk_at dksX1_describe_1 3 rfl rfl)
theorem dX1_describe_28 : decode cX1_describe 28 = .ok (.iload_n 1, 1) := dk_27 (dk_at dksX1_describe_1 6 rfl rfl)
theorem dX1_describe_29 : decode cX1_describe 29 = .ok (.invokevirtual 486, 3) := dk_182 1 230 (dk_at dksX1_describe_1 7 rfl rfl)
theorem dX1_describe_32 : decode cX1_describe 32 = .ok (.bipush 58, 2) := dk_16 58 (dk_at dksX1_describe_1 10 rfl rfl)
theorem dX1_describe_34 : decode cX1_describe 34 = .ok (.invokevirtual 273, 3) := dk_182 1 17 (dk_at dksX1_describe_1 12 rfl rfl)
theorem dX1_describe_37 : decode cX1_describe 37 = .ok (.aload_n 0, 1) := dk_42 (dk_at dksX1_describe_1 15 rfl rfl)
theorem dX1_describe_38 : decode cX1_describe 38 = .ok (.getfield 65, 3) := dk_180 0 65 (dk_at dksX1_describe_1 16 rfl rfl)
theorem dX1_describe_41 : decode cX1_describe 41 = .ok (.getfield 407, 3) := dk_180 1 151 (dk_at dksX1_describe_1 19 rfl rfl)
theorem dX1_describe_44 : decode cX1_describe 44 = .ok (.iload_n 1, 1) := dk_27 (dk_at dksX1_describe_1 22 rfl rfl)
theorem dX1_describe_45 : decode cX1_describe 45 = .ok (.iaload, 1) := dk_46 (dk_at dksX1_describe_1 23 rfl rfl)
theorem dX1_describe_46 : decode cX1_describe 46 = .ok (.invokevirtual 486, 3) := dk_182 1 230 (dk_at dksX1_describe_2 0 rfl rfl)
theorem dX1_describe_49 : decode cX1_describe 49 = .ok (.bipush 47, 2) := dk_16 47 (dk_at dksX1_describe_2 3 rfl rfl)
theorem dX1_describe_51 : decode cX1_describe 51 = .ok (.invokevirtual 273, 3) := dk_182 1 17 (dk_at dksX1_describe_2 5 rfl rfl)
theorem dX1_describe_54 : decode cX1_describe 54 = .ok (.aload_n 2, 1) := dk_44 (dk_at dksX1_describe_2 8 rfl rfl)
theorem dX1_describe_55 : decode cX1_describe 55 = .ok (.getfield 241, 3) := dk_180 0 241 (dk_at dksX1_describe_2 9 rfl rfl)
theorem dX1_describe_58 : decode cX1_describe 58 = .ok (.invokevirtual 486, 3) := dk_182 1 230 (dk_at dksX1_describe_2 12 rfl rfl)
theorem dX1_describe_61 : decode cX1_describe 61 = .ok (.pop, 1) := dk_87 (dk_at dksX1_describe_2 15 rfl rfl)
theorem dX1_describe_62 : decode cX1_describe 62 = .ok (.aload_n 0, 1) := dk_42 (dk_at dksX1_describe_2 16 rfl rfl)
theorem dX1_describe_63 : decode cX1_describe 63 = .ok (.getfield 65, 3) := dk_180 0 65 (dk_at dksX1_describe_2 17 rfl rfl)
theorem dX1_describe_66 : decode cX1_describe 66 = .ok (.iload_n 1, 1) := dk_27 (dk_at dksX1_describe_2 20 rfl rfl)
theorem dX1_describe_67 : decode cX1_describe 67 = .ok (.invokevirtual 410, 3) := dk_182 1 154 (dk_at dksX1_describe_2 21 rfl rfl)
theorem dX1_describe_70 : decode cX1_describe 70 = .ok (.ifCond .eq 13, 3) := dk_153 0 13 (dk_at dksX1_describe_3 0 rfl rfl)
theorem dX1_describe_73 : decode cX1_describe 73 = .ok (.aload_n 0, 1) := dk_42 (dk_at dksX1_describe_3 3 rfl rfl)
theorem dX1_describe_74 : decode cX1_describe 74 = .ok (.getfield 95, 3) := dk_180 0 95 (dk_at dksX1_describe_3 4 rfl rfl)
theorem dX1_describe_77 : decode cX1_describe 77 = .ok (.bipush 33, 2) := dk_16 33 (dk_at dksX1_describe_3 7 rfl rfl)
theorem dX1_describe_79 : decode cX1_describe 79 = .ok (.invokevirtual 273, 3) := dk_182 1 17 (dk_at dksX1_describe_3 9 rfl rfl)
theorem dX1_describe_82 : decode cX1_describe 82 = .ok (.pop, 1) := dk_87 (dk_at dksX1_describe_3 12 rfl rfl)
theorem dX1_describe_83 : decode cX1_describe 83 = .ok (.aload_n 2, 1) := dk_44 (dk_at dksX1_describe_3 13 rfl rfl)
theorem dX1_describe_84 : decode cX1_describe 84 = .ok (.getfield 228, 3) := dk_180 0 228 (dk_at dksX1_describe_3 14 rfl rfl)
theorem dX1_describe_87 : decode cX1_describe 87 = .ok (.ifCond .ne 14, 3) := dk_154 0 14 (dk_at dksX1_describe_3 17 rfl rfl)
theorem dX1_describe_90 : decode cX1_describe 90 = .ok (.aload_n 0, 1) := dk_42 (dk_at dksX1_describe_3 20 rfl rfl)
theorem dX1_describe_91 : decode cX1_describe 91 = .ok (.getfield 95, 3) := dk_180 0 95 (dk_at dksX1_describe_3 21 rfl rfl)
theorem dX1_describe_94 : decode cX1_describe 94 = .ok (.ldc_w 489, 3) := dk_19 1 233 (dk_at dksX1_describe_4 0 rfl rfl)
theorem dX1_describe_97 : decode cX1_describe 97 = .ok (.invokevirtual 483, 3) := dk_182 1 227 (dk_at dksX1_describe_4 3 rfl rfl)
theorem dX1_describe_100 : decode cX1_describe 100 = .ok (.pop, 1) := dk_87 (dk_at dksX1_describe_4 6 rfl rfl)
theorem dX1_describe_101 : decode cX1_describe 101 = .ok (.aload_n 0, 1) := dk_42 (dk_at dksX1_describe_4 7 rfl rfl)
theorem dX1_describe_102 : decode cX1_describe 102 = .ok (.iload_n 1, 1) := dk_27 (dk_at dksX1_describe_4 8 rfl rfl)
theorem dX1_describe_103 : decode cX1_describe 103 = .ok (.invokevirtual 463, 3) := dk_182 1 207 (dk_at dksX1_describe_4 9 rfl rfl)
theorem dX1_describe_106 : decode cX1_describe 106 = .ok (.invokevirtual 467, 3) := dk_182 1 211 (dk_at dksX1_describe_4 12 rfl rfl)
theorem dX1_describe_109 : decode cX1_describe 109 = .ok (.astore_n 3, 1) := dk_78 (dk_at dksX1_describe_4 15 rfl rfl)
theorem dX1_describe_110 : decode cX1_describe 110 = .ok (.aload_n 3, 1) := dk_45 (dk_at dksX1_describe_4 16 rfl rfl)
theorem dX1_describe_111 : decode cX1_describe 111 = .ok (.invokeinterface 305 1, 5) := by decide +kernel
theorem dX1_describe_116 : decode cX1_describe 116 = .ok (.ifCond .eq 35, 3) := dk_153 0 35 (dk_at dksX1_describe_5 0 rfl rfl)
theorem dX1_describe_119 : decode cX1_describe 119 = .ok (.aload_n 3, 1) := dk_45 (dk_at dksX1_describe_5 3 rfl rfl)
theorem dX1_describe_120 : decode cX1_describe 120 = .ok (.invokeinterface 311 1, 5) := by decide +kernel
theorem dX1_describe_125 : decode cX1_describe 125 = .ok (.checkcast 446, 3) := dk_192 1 190 (dk_at dksX1_describe_5 9 rfl rfl)
theorem dX1_describe_128 : decode cX1_describe 128 = .ok (.invokevirtual 468, 3) := dk_182 1 212 (dk_at dksX1_describe_5 12 rfl rfl)
theorem dX1_describe_131 : decode cX1_describe 131 = .ok (.istore 4, 2) := dk_54 4 (dk_at dksX1_describe_5 15 rfl rfl)
theorem dX1_describe_133 : decode cX1_describe 133 = .ok (.aload_n 0, 1) := dk_42 (dk_at dksX1_describe_5 17 rfl rfl)
theorem dX1_describe_134 : decode cX1_describe 134 = .ok (.getfield 95, 3) := dk_180 0 95 (dk_at dksX1_describe_5 18 rfl rfl)
theorem dX1_describe_137 : decode cX1_describe 137 = .ok (.bipush 64, 2) := dk_16 64 (dk_at dksX1_describe_5 21 rfl rfl)
theorem dX1_describe_139 : decode cX1_describe 139 = .ok (.invokevirtual 273, 3) := dk_182 1 17 (dk_at dksX1_describe_6 0 rfl rfl)
theorem dX1_describe_142 : decode cX1_describe 142 = .ok (.iload 4, 2) := dk_21 4 (dk_at dksX1_describe_6 3 rfl rfl)
theorem dX1_describe_144 : decode cX1_describe 144 = .ok (.invokevirtual 486, 3) := dk_182 1 230 (dk_at dksX1_describe_6 5 rfl rfl)
theorem dX1_describe_147 : decode cX1_describe 147 = .ok (.pop, 1) := dk_87 (dk_at dksX1_describe_6 8 rfl rfl)
theorem dX1_describe_148 : decode cX1_describe 148 = .ok (.goto (-38), 3) := dk_167 255 218 (dk_at dksX1_describe_6 9 rfl rfl)
theorem dX1_describe_151 : decode cX1_describe 151 = .ok (.aload_n 0, 1) := dk_42 (dk_at dksX1_describe_6 12 rfl rfl)
theorem dX1_describe_152 : decode cX1_describe 152 = .ok (.getfield 95, 3) := dk_180 0 95 (dk_at dksX1_describe_6 13 rfl rfl)
theorem dX1_describe_155 : decode cX1_describe 155 = .ok (.invokevirtual 267, 3) := dk_182 1 11 (dk_at dksX1_describe_6 16 rfl rfl)
theorem dX1_describe_158 : decode cX1_describe 158 = .ok (.ireturn, 1) := dk_172 (dk_at dksX1_describe_6 19 rfl rfl)
abbrev cX1_written : ByteArray := prog_1_method_70_code
def yX1_written : MethodName := ⟨RX1, "written", "(I)C"⟩
def dkwX1_written_1 : List UInt8 := [182, 1, 27, 172]
abbrev dktX1_written_1 : List UInt8 := dkwX1_written_1 ++ []
def dkwX1_written_0 : List UInt8 := [27, 3, 42, 180, 0, 95, 182, 1, 11, 4, 100, 184, 0, 143, 184, 0, 135, 42, 180, 0, 95, 27]
abbrev dktX1_written_0 : List UInt8 := dkwX1_written_0 ++ dktX1_written_1
theorem dksX1_written_0 : cX1_written.data.toList.drop 0 = dktX1_written_0 := by decide +kernel
theorem dksX1_written_1 : cX1_written.data.toList.drop 22 = dktX1_written_1 := dk_seg dksX1_written_0 22 rfl rfl
theorem dX1_written_0 : decode cX1_written 0 = .ok (.iload_n 1, 1) := dk_27 (dk_at dksX1_written_0 0 rfl rfl)
theorem dX1_written_1 : decode cX1_written 1 = .ok (.iconst 0, 1) := dk_3 (dk_at dksX1_written_0 1 rfl rfl)
theorem dX1_written_2 : decode cX1_written 2 = .ok (.aload_n 0, 1) := dk_42 (dk_at dksX1_written_0 2 rfl rfl)
theorem dX1_written_3 : decode cX1_written 3 = .ok (.getfield 95, 3) := dk_180 0 95 (dk_at dksX1_written_0 3 rfl rfl)
theorem dX1_written_6 : decode cX1_written 6 = .ok (.invokevirtual 267, 3) := dk_182 1 11 (dk_at dksX1_written_0 6 rfl rfl)
theorem dX1_written_9 : decode cX1_written 9 = .ok (.iconst 1, 1) := dk_4 (dk_at dksX1_written_0 9 rfl rfl)
theorem dX1_written_10 : decode cX1_written 10 = .ok (.isub, 1) := dk_100 (dk_at dksX1_written_0 10 rfl rfl)
theorem dX1_written_11 : decode cX1_written 11 = .ok (.invokestatic 143, 3) := dk_184 0 143 (dk_at dksX1_written_0 11 rfl rfl)
theorem dX1_written_14 : decode cX1_written 14 = .ok (.invokestatic 135, 3) := dk_184 0 135 (dk_at dksX1_written_0 14 rfl rfl)
theorem dX1_written_17 : decode cX1_written 17 = .ok (.aload_n 0, 1) := dk_42 (dk_at dksX1_written_0 17 rfl rfl)
theorem dX1_written_18 : decode cX1_written 18 = .ok (.getfield 95, 3) := dk_180 0 95 (dk_at dksX1_written_0 18 rfl rfl)
theorem dX1_written_21 : decode cX1_written 21 = .ok (.iload_n 1, 1) := dk_27 (dk_at dksX1_written_0 21 rfl rfl)
theorem dX1_written_22 : decode cX1_written 22 = .ok (.invokevirtual 283, 3) := dk_182 1 27 (dk_at dksX1_written_1 0 rfl rfl)
theorem dX1_written_25 : decode cX1_written 25 = .ok (.ireturn, 1) := dk_172 (dk_at dksX1_written_1 3 rfl rfl)
abbrev cX1_meanLoad : ByteArray := prog_1_method_72_code
def yX1_meanLoad : MethodName := ⟨RX1, "meanLoad", "()F"⟩
def dkwX1_meanLoad_1 : List UInt8 := [134, 27, 134, 110, 174]
abbrev dktX1_meanLoad_1 : List UInt8 := dkwX1_meanLoad_1 ++ []
def dkwX1_meanLoad_0 : List UInt8 := [42, 180, 0, 65, 182, 0, 232, 60, 27, 154, 0, 11, 187, 1, 235, 89, 183, 1, 237, 191, 42, 182, 1, 238]
abbrev dktX1_meanLoad_0 : List UInt8 := dkwX1_meanLoad_0 ++ dktX1_meanLoad_1
theorem dksX1_meanLoad_0 : cX1_meanLoad.data.toList.drop 0 = dktX1_meanLoad_0 := by decide +kernel
theorem dksX1_meanLoad_1 : cX1_meanLoad.data.toList.drop 24 = dktX1_meanLoad_1 := dk_seg dksX1_meanLoad_0 24 rfl rfl
theorem dX1_meanLoad_0 : decode cX1_meanLoad 0 = .ok (.aload_n 0, 1) := dk_42 (dk_at dksX1_meanLoad_0 0 rfl rfl)
theorem dX1_meanLoad_1 : decode cX1_meanLoad 1 = .ok (.getfield 65, 3) := dk_180 0 65 (dk_at dksX1_meanLoad_0 1 rfl rfl)
theorem dX1_meanLoad_4 : decode cX1_meanLoad 4 = .ok (.invokevirtual 232, 3) := dk_182 0 232 (dk_at dksX1_meanLoad_0 4 rfl rfl)
theorem dX1_meanLoad_7 : decode cX1_meanLoad 7 = .ok (.istore_n 1, 1) := dk_60 (dk_at dksX1_meanLoad_0 7 rfl rfl)
theorem dX1_meanLoad_8 : decode cX1_meanLoad 8 = .ok (.iload_n 1, 1) := dk_27 (dk_at dksX1_meanLoad_0 8 rfl rfl)
theorem dX1_meanLoad_9 : decode cX1_meanLoad 9 = .ok (.ifCond .ne 11, 3) := dk_154 0 11 (dk_at dksX1_meanLoad_0 9 rfl rfl)
theorem dX1_meanLoad_12 : decode cX1_meanLoad 12 = .ok (.new 491, 3) := dk_187 1 235 (dk_at dksX1_meanLoad_0 12 rfl rfl)
theorem dX1_meanLoad_15 : decode cX1_meanLoad 15 = .ok (.dup, 1) := dk_89 (dk_at dksX1_meanLoad_0 15 rfl rfl)
theorem dX1_meanLoad_16 : decode cX1_meanLoad 16 = .ok (.invokespecial 493, 3) := dk_183 1 237 (dk_at dksX1_meanLoad_0 16 rfl rfl)
theorem dX1_meanLoad_19 : decode cX1_meanLoad 19 = .ok (.athrow, 1) := dk_191 (dk_at dksX1_meanLoad_0 19 rfl rfl)
theorem dX1_meanLoad_20 : decode cX1_meanLoad 20 = .ok (.aload_n 0, 1) := dk_42 (dk_at dksX1_meanLoad_0 20 rfl rfl)
theorem dX1_meanLoad_21 : decode cX1_meanLoad 21 = .ok (.invokevirtual 494, 3) := dk_182 1 238 (dk_at dksX1_meanLoad_0 21 rfl rfl)
theorem dX1_meanLoad_24 : decode cX1_meanLoad 24 = .ok (.i2f, 1) := dk_134 (dk_at dksX1_meanLoad_1 0 rfl rfl)
theorem dX1_meanLoad_25 : decode cX1_meanLoad 25 = .ok (.iload_n 1, 1) := dk_27 (dk_at dksX1_meanLoad_1 1 rfl rfl)
theorem dX1_meanLoad_26 : decode cX1_meanLoad 26 = .ok (.i2f, 1) := dk_134 (dk_at dksX1_meanLoad_1 2 rfl rfl)
theorem dX1_meanLoad_27 : decode cX1_meanLoad 27 = .ok (.fdiv, 1) := dk_110 (dk_at dksX1_meanLoad_1 3 rfl rfl)
theorem dX1_meanLoad_28 : decode cX1_meanLoad 28 = .ok (.freturn, 1) := dk_174 (dk_at dksX1_meanLoad_1 4 rfl rfl)
abbrev cX1_allLoads : ByteArray := prog_1_method_71_code
def yX1_allLoads : MethodName := ⟨RX1, "allLoads", "()I"⟩
def dkwX1_allLoads_1 : List UInt8 := [46, 96, 60, 132, 2, 1, 167, 255, 230, 27, 172]
abbrev dktX1_allLoads_1 : List UInt8 := dkwX1_allLoads_1 ++ []
def dkwX1_allLoads_0 : List UInt8 := [3, 60, 3, 61, 28, 42, 180, 0, 65, 180, 0, 150, 162, 0, 21, 27, 42, 180, 0, 65, 180, 1, 151, 28]
abbrev dktX1_allLoads_0 : List UInt8 := dkwX1_allLoads_0 ++ dktX1_allLoads_1
theorem dksX1_allLoads_0 : cX1_allLoads.data.toList.drop 0 = dktX1_allLoads_0 := by decide +kernel
theorem dksX1_allLoads_1 : cX1_allLoads.data.toList.drop 24 = dktX1_allLoads_1 := dk_seg dksX1_allLoads_0 24 rfl rfl
theorem dX1_allLoads_0 : decode cX1_allLoads 0 = .ok (.iconst 0, 1) := dk_3 (dk_at dksX1_allLoads_0 0 rfl rfl)
theorem dX1_allLoads_1 : decode cX1_allLoads 1 = .ok (.istore_n 1, 1) := dk_60 (dk_at dksX1_allLoads_0 1 rfl rfl)
theorem dX1_allLoads_2 : decode cX1_allLoads 2 = .ok (.iconst 0, 1) := dk_3 (dk_at dksX1_allLoads_0 2 rfl rfl)
theorem dX1_allLoads_3 : decode cX1_allLoads 3 = .ok (.istore_n 2, 1) := dk_61 (dk_at dksX1_allLoads_0 3 rfl rfl)
theorem dX1_allLoads_4 : decode cX1_allLoads 4 = .ok (.iload_n 2, 1) := dk_28 (dk_at dksX1_allLoads_0 4 rfl rfl)
theorem dX1_allLoads_5 : decode cX1_allLoads 5 = .ok (.aload_n 0, 1) := dk_42 (dk_at dksX1_allLoads_0 5 rfl rfl)
theorem dX1_allLoads_6 : decode cX1_allLoads 6 = .ok (.getfield 65, 3) := dk_180 0 65 (dk_at dksX1_allLoads_0 6 rfl rfl)
theorem dX1_allLoads_9 : decode cX1_allLoads 9 = .ok (.getfield 150, 3) := dk_180 0 150 (dk_at dksX1_allLoads_0 9 rfl rfl)
theorem dX1_allLoads_12 : decode cX1_allLoads 12 = .ok (.if_icmp .ge 21, 3) := dk_162 0 21 (dk_at dksX1_allLoads_0 12 rfl rfl)
theorem dX1_allLoads_15 : decode cX1_allLoads 15 = .ok (.iload_n 1, 1) := dk_27 (dk_at dksX1_allLoads_0 15 rfl rfl)
theorem dX1_allLoads_16 : decode cX1_allLoads 16 = .ok (.aload_n 0, 1) := dk_42 (dk_at dksX1_allLoads_0 16 rfl rfl)
theorem dX1_allLoads_17 : decode cX1_allLoads 17 = .ok (.getfield 65, 3) := dk_180 0 65 (dk_at dksX1_allLoads_0 17 rfl rfl)
theorem dX1_allLoads_20 : decode cX1_allLoads 20 = .ok (.getfield 407, 3) := dk_180 1 151 (dk_at dksX1_allLoads_0 20 rfl rfl)
theorem dX1_allLoads_23 : decode cX1_allLoads 23 = .ok (.iload_n 2, 1) := dk_28 (dk_at dksX1_allLoads_0 23 rfl rfl)
theorem dX1_allLoads_24 : decode cX1_allLoads 24 = .ok (.iaload, 1) := dk_46 (dk_at dksX1_allLoads_1 0 rfl rfl)
theorem dX1_allLoads_25 : decode cX1_allLoads 25 = .ok (.iadd, 1) := dk_96 (dk_at dksX1_allLoads_1 1 rfl rfl)
theorem dX1_allLoads_26 : decode cX1_allLoads 26 = .ok (.istore_n 1, 1) := dk_60 (dk_at dksX1_allLoads_1 2 rfl rfl)
theorem dX1_allLoads_27 : decode cX1_allLoads 27 = .ok (.iinc 2 1, 3) := dk_132 2 1 (dk_at dksX1_allLoads_1 3 rfl rfl)
theorem dX1_allLoads_30 : decode cX1_allLoads 30 = .ok (.goto (-26), 3) := dk_167 255 230 (dk_at dksX1_allLoads_1 6 rfl rfl)
theorem dX1_allLoads_33 : decode cX1_allLoads 33 = .ok (.iload_n 1, 1) := dk_27 (dk_at dksX1_allLoads_1 9 rfl rfl)
theorem dX1_allLoads_34 : decode cX1_allLoads 34 = .ok (.ireturn, 1) := dk_172 (dk_at dksX1_allLoads_1 10 rfl rfl)
abbrev cX1_sentShare : ByteArray := prog_1_method_74_code
def yX1_sentShare : MethodName := ⟨RX1, "sentShare", "()D"⟩
def dkwX1_sentShare_1 : List UInt8 := [180, 0, 65, 180, 0, 147, 135, 111, 175]
abbrev dktX1_sentShare_1 : List UInt8 := dkwX1_sentShare_1 ++ []
def dkwX1_sentShare_0 : List UInt8 := [42, 180, 0, 65, 180, 0, 147, 154, 0, 11, 187, 1, 235, 89, 183, 1, 237, 191, 42, 182, 1, 241, 135, 42]
abbrev dktX1_sentShare_0 : List UInt8 := dkwX1_sentShare_0 ++ dktX1_sentShare_1
theorem dksX1_sentShare_0 : cX1_sentShare.data.toList.drop 0 = dktX1_sentShare_0 := by decide +kernel
theorem dksX1_sentShare_1 : cX1_sentShare.data.toList.drop 24 = dktX1_sentShare_1 := dk_seg dksX1_sentShare_0 24 rfl rfl
theorem dX1_sentShare_0 : decode cX1_sentShare 0 = .ok (.aload_n 0, 1) := dk_42 (dk_at dksX1_sentShare_0 0 rfl rfl)
theorem dX1_sentShare_1 : decode cX1_sentShare 1 = .ok (.getfield 65, 3) := dk_180 0 65 (dk_at dksX1_sentShare_0 1 rfl rfl)
theorem dX1_sentShare_4 : decode cX1_sentShare 4 = .ok (.getfield 147, 3) := dk_180 0 147 (dk_at dksX1_sentShare_0 4 rfl rfl)
theorem dX1_sentShare_7 : decode cX1_sentShare 7 = .ok (.ifCond .ne 11, 3) := dk_154 0 11 (dk_at dksX1_sentShare_0 7 rfl rfl)
theorem dX1_sentShare_10 : decode cX1_sentShare 10 = .ok (.new 491, 3) := dk_187 1 235 (dk_at dksX1_sentShare_0 10 rfl rfl)
theorem dX1_sentShare_13 : decode cX1_sentShare 13 = .ok (.dup, 1) := dk_89 (dk_at dksX1_sentShare_0 13 rfl rfl)
theorem dX1_sentShare_14 : decode cX1_sentShare 14 = .ok (.invokespecial 493, 3) := dk_183 1 237 (dk_at dksX1_sentShare_0 14 rfl rfl)
theorem dX1_sentShare_17 : decode cX1_sentShare 17 = .ok (.athrow, 1) := dk_191 (dk_at dksX1_sentShare_0 17 rfl rfl)
theorem dX1_sentShare_18 : decode cX1_sentShare 18 = .ok (.aload_n 0, 1) := dk_42 (dk_at dksX1_sentShare_0 18 rfl rfl)
theorem dX1_sentShare_19 : decode cX1_sentShare 19 = .ok (.invokevirtual 497, 3) := dk_182 1 241 (dk_at dksX1_sentShare_0 19 rfl rfl)
theorem dX1_sentShare_22 : decode cX1_sentShare 22 = .ok (.i2d, 1) := dk_135 (dk_at dksX1_sentShare_0 22 rfl rfl)
theorem dX1_sentShare_23 : decode cX1_sentShare 23 = .ok (.aload_n 0, 1) := dk_42 (dk_at dksX1_sentShare_0 23 rfl rfl)
theorem dX1_sentShare_24 : decode cX1_sentShare 24 = .ok (.getfield 65, 3) := dk_180 0 65 (dk_at dksX1_sentShare_1 0 rfl rfl)
theorem dX1_sentShare_27 : decode cX1_sentShare 27 = .ok (.getfield 147, 3) := dk_180 0 147 (dk_at dksX1_sentShare_1 3 rfl rfl)
theorem dX1_sentShare_30 : decode cX1_sentShare 30 = .ok (.i2d, 1) := dk_135 (dk_at dksX1_sentShare_1 6 rfl rfl)
theorem dX1_sentShare_31 : decode cX1_sentShare 31 = .ok (.ddiv, 1) := dk_111 (dk_at dksX1_sentShare_1 7 rfl rfl)
theorem dX1_sentShare_32 : decode cX1_sentShare 32 = .ok (.dreturn, 1) := dk_175 (dk_at dksX1_sentShare_1 8 rfl rfl)
abbrev cX1_sentMany : ByteArray := prog_1_method_73_code
def yX1_sentMany : MethodName := ⟨RX1, "sentMany", "()I"⟩
def dkwX1_sentMany_1 : List UInt8 := [50, 180, 1, 169, 184, 1, 136, 96, 60, 132, 2, 1, 167, 255, 224, 27, 172]
abbrev dktX1_sentMany_1 : List UInt8 := dkwX1_sentMany_1 ++ []
def dkwX1_sentMany_0 : List UInt8 := [3, 60, 3, 61, 28, 42, 180, 0, 65, 180, 0, 147, 162, 0, 27, 27, 42, 180, 0, 65, 180, 0, 247, 28]
abbrev dktX1_sentMany_0 : List UInt8 := dkwX1_sentMany_0 ++ dktX1_sentMany_1
theorem dksX1_sentMany_0 : cX1_sentMany.data.toList.drop 0 = dktX1_sentMany_0 := by decide +kernel
theorem dksX1_sentMany_1 : cX1_sentMany.data.toList.drop 24 = dktX1_sentMany_1 := dk_seg dksX1_sentMany_0 24 rfl rfl
theorem dX1_sentMany_0 : decode cX1_sentMany 0 = .ok (.iconst 0, 1) := dk_3 (dk_at dksX1_sentMany_0 0 rfl rfl)
theorem dX1_sentMany_1 : decode cX1_sentMany 1 = .ok (.istore_n 1, 1) := dk_60 (dk_at dksX1_sentMany_0 1 rfl rfl)
theorem dX1_sentMany_2 : decode cX1_sentMany 2 = .ok (.iconst 0, 1) := dk_3 (dk_at dksX1_sentMany_0 2 rfl rfl)
theorem dX1_sentMany_3 : decode cX1_sentMany 3 = .ok (.istore_n 2, 1) := dk_61 (dk_at dksX1_sentMany_0 3 rfl rfl)
theorem dX1_sentMany_4 : decode cX1_sentMany 4 = .ok (.iload_n 2, 1) := dk_28 (dk_at dksX1_sentMany_0 4 rfl rfl)
theorem dX1_sentMany_5 : decode cX1_sentMany 5 = .ok (.aload_n 0, 1) := dk_42 (dk_at dksX1_sentMany_0 5 rfl rfl)
theorem dX1_sentMany_6 : decode cX1_sentMany 6 = .ok (.getfield 65, 3) := dk_180 0 65 (dk_at dksX1_sentMany_0 6 rfl rfl)
theorem dX1_sentMany_9 : decode cX1_sentMany 9 = .ok (.getfield 147, 3) := dk_180 0 147 (dk_at dksX1_sentMany_0 9 rfl rfl)
theorem dX1_sentMany_12 : decode cX1_sentMany 12 = .ok (.if_icmp .ge 27, 3) := dk_162 0 27 (dk_at dksX1_sentMany_0 12 rfl rfl)
theorem dX1_sentMany_15 : decode cX1_sentMany 15 = .ok (.iload_n 1, 1) := dk_27 (dk_at dksX1_sentMany_0 15 rfl rfl)
theorem dX1_sentMany_16 : decode cX1_sentMany 16 = .ok (.aload_n 0, 1) := dk_42 (dk_at dksX1_sentMany_0 16 rfl rfl)
theorem dX1_sentMany_17 : decode cX1_sentMany 17 = .ok (.getfield 65, 3) := dk_180 0 65 (dk_at dksX1_sentMany_0 17 rfl rfl)
theorem dX1_sentMany_20 : decode cX1_sentMany 20 = .ok (.getfield 247, 3) := dk_180 0 247 (dk_at dksX1_sentMany_0 20 rfl rfl)
theorem dX1_sentMany_23 : decode cX1_sentMany 23 = .ok (.iload_n 2, 1) := dk_28 (dk_at dksX1_sentMany_0 23 rfl rfl)
theorem dX1_sentMany_24 : decode cX1_sentMany 24 = .ok (.aaload, 1) := dk_50 (dk_at dksX1_sentMany_1 0 rfl rfl)
theorem dX1_sentMany_25 : decode cX1_sentMany 25 = .ok (.getfield 425, 3) := dk_180 1 169 (dk_at dksX1_sentMany_1 1 rfl rfl)
theorem dX1_sentMany_28 : decode cX1_sentMany 28 = .ok (.invokestatic 392, 3) := dk_184 1 136 (dk_at dksX1_sentMany_1 4 rfl rfl)
theorem dX1_sentMany_31 : decode cX1_sentMany 31 = .ok (.iadd, 1) := dk_96 (dk_at dksX1_sentMany_1 7 rfl rfl)
theorem dX1_sentMany_32 : decode cX1_sentMany 32 = .ok (.istore_n 1, 1) := dk_60 (dk_at dksX1_sentMany_1 8 rfl rfl)
theorem dX1_sentMany_33 : decode cX1_sentMany 33 = .ok (.iinc 2 1, 3) := dk_132 2 1 (dk_at dksX1_sentMany_1 9 rfl rfl)
theorem dX1_sentMany_36 : decode cX1_sentMany 36 = .ok (.goto (-32), 3) := dk_167 255 224 (dk_at dksX1_sentMany_1 12 rfl rfl)
theorem dX1_sentMany_39 : decode cX1_sentMany 39 = .ok (.iload_n 1, 1) := dk_27 (dk_at dksX1_sentMany_1 15 rfl rfl)
theorem dX1_sentMany_40 : decode cX1_sentMany 40 = .ok (.ireturn, 1) := dk_172 (dk_at dksX1_sentMany_1 16 rfl rfl)
abbrev cX1_account : ByteArray := prog_1_method_77_code
def yX1_account : MethodName := ⟨RX1, "account", "(I)I"⟩
def dkwX1_account_6 : List UInt8 := [183, 0, 14, 191]
abbrev dktX1_account_6 : List UInt8 := dkwX1_account_6 ++ []
def dkwX1_account_5 : List UInt8 := [180, 0, 65, 180, 1, 250, 172, 42, 180, 0, 91, 182, 1, 11, 172, 42, 180, 0, 112, 172, 187, 0, 12, 89]
abbrev dktX1_account_5 : List UInt8 := dkwX1_account_5 ++ dktX1_account_6
def dkwX1_account_4 : List UInt8 := [182, 1, 148, 172, 42, 182, 1, 241, 172, 42, 182, 1, 247, 172, 42, 180, 0, 65, 180, 0, 109, 172, 42]
abbrev dktX1_account_4 : List UInt8 := dkwX1_account_4 ++ dktX1_account_5
def dkwX1_account_3 : List UInt8 := [182, 0, 205, 172, 42, 180, 0, 65, 180, 0, 147, 172, 42, 182, 1, 244, 172, 42, 182, 1, 238, 172, 42, 2]
abbrev dktX1_account_3 : List UInt8 := dkwX1_account_3 ++ dktX1_account_4
def dkwX1_account_2 : List UInt8 := [42, 180, 0, 65, 180, 0, 150, 172, 42, 180, 0, 65, 182, 0, 232, 172, 42, 180, 0, 65, 180, 0, 193]
abbrev dktX1_account_2 : List UInt8 := dkwX1_account_2 ++ dktX1_account_3
def dkwX1_account_1 : List UInt8 := [170, 0, 0, 0, 0, 0, 157, 0, 0, 0, 0, 0, 0, 0, 12, 0, 0, 0, 67, 0, 0, 0, 75, 0, 0, 0, 83, 0, 0, 0, 94, 0, 0, 0, 102, 0, 0, 0, 107, 0, 0, 0, 112, 0, 0, 0, 118, 0, 0, 0, 123, 0, 0, 0, 128, 0, 0, 0, 136, 0, 0, 0, 144, 0, 0, 0, 152]
abbrev dktX1_account_1 : List UInt8 := dkwX1_account_1 ++ dktX1_account_2
def dkwX1_account_0 : List UInt8 := [27]
abbrev dktX1_account_0 : List UInt8 := dkwX1_account_0 ++ dktX1_account_1
theorem dksX1_account_0 : cX1_account.data.toList.drop 0 = dktX1_account_0 := by decide +kernel
theorem dksX1_account_1 : cX1_account.data.toList.drop 1 = dktX1_account_1 := dk_seg dksX1_account_0 1 rfl rfl
theorem dksX1_account_2 : cX1_account.data.toList.drop 68 = dktX1_account_2 := dk_seg dksX1_account_1 67 rfl rfl
theorem dksX1_account_3 : cX1_account.data.toList.drop 91 = dktX1_account_3 := dk_seg dksX1_account_2 23 rfl rfl
theorem dksX1_account_4 : cX1_account.data.toList.drop 115 = dktX1_account_4 := dk_seg dksX1_account_3 24 rfl rfl
theorem dksX1_account_5 : cX1_account.data.toList.drop 138 = dktX1_account_5 := dk_seg dksX1_account_4 23 rfl rfl
theorem dksX1_account_6 : cX1_account.data.toList.drop 162 = dktX1_account_6 := dk_seg dksX1_account_5 24 rfl rfl
theorem dX1_account_0 : decode cX1_account 0 = .ok (.iload_n 1, 1) := dk_27 (dk_at dksX1_account_0 0 rfl rfl)
theorem dX1_account_1 : decode cX1_account 1 = .ok (.tableswitch 157 0 12 #[67, 75, 83, 94, 102, 107, 112, 118, 123, 128, 136, 144, 152], 67) := by decide +kernel
theorem dX1_account_68 : decode cX1_account 68 = .ok (.aload_n 0, 1) := dk_42 (dk_at dksX1_account_2 0 rfl rfl)
theorem dX1_account_69 : decode cX1_account 69 = .ok (.getfield 65, 3) := dk_180 0 65 (dk_at dksX1_account_2 1 rfl rfl)
theorem dX1_account_72 : decode cX1_account 72 = .ok (.getfield 150, 3) := dk_180 0 150 (dk_at dksX1_account_2 4 rfl rfl)
theorem dX1_account_75 : decode cX1_account 75 = .ok (.ireturn, 1) := dk_172 (dk_at dksX1_account_2 7 rfl rfl)
theorem dX1_account_76 : decode cX1_account 76 = .ok (.aload_n 0, 1) := dk_42 (dk_at dksX1_account_2 8 rfl rfl)
theorem dX1_account_77 : decode cX1_account 77 = .ok (.getfield 65, 3) := dk_180 0 65 (dk_at dksX1_account_2 9 rfl rfl)
theorem dX1_account_80 : decode cX1_account 80 = .ok (.invokevirtual 232, 3) := dk_182 0 232 (dk_at dksX1_account_2 12 rfl rfl)
theorem dX1_account_83 : decode cX1_account 83 = .ok (.ireturn, 1) := dk_172 (dk_at dksX1_account_2 15 rfl rfl)
theorem dX1_account_84 : decode cX1_account 84 = .ok (.aload_n 0, 1) := dk_42 (dk_at dksX1_account_2 16 rfl rfl)
theorem dX1_account_85 : decode cX1_account 85 = .ok (.getfield 65, 3) := dk_180 0 65 (dk_at dksX1_account_2 17 rfl rfl)
theorem dX1_account_88 : decode cX1_account 88 = .ok (.getfield 193, 3) := dk_180 0 193 (dk_at dksX1_account_2 20 rfl rfl)
theorem dX1_account_91 : decode cX1_account 91 = .ok (.invokevirtual 205, 3) := dk_182 0 205 (dk_at dksX1_account_3 0 rfl rfl)
theorem dX1_account_94 : decode cX1_account 94 = .ok (.ireturn, 1) := dk_172 (dk_at dksX1_account_3 3 rfl rfl)
theorem dX1_account_95 : decode cX1_account 95 = .ok (.aload_n 0, 1) := dk_42 (dk_at dksX1_account_3 4 rfl rfl)
theorem dX1_account_96 : decode cX1_account 96 = .ok (.getfield 65, 3) := dk_180 0 65 (dk_at dksX1_account_3 5 rfl rfl)
theorem dX1_account_99 : decode cX1_account 99 = .ok (.getfield 147, 3) := dk_180 0 147 (dk_at dksX1_account_3 8 rfl rfl)
theorem dX1_account_102 : decode cX1_account 102 = .ok (.ireturn, 1) := dk_172 (dk_at dksX1_account_3 11 rfl rfl)
theorem dX1_account_103 : decode cX1_account 103 = .ok (.aload_n 0, 1) := dk_42 (dk_at dksX1_account_3 12 rfl rfl)
theorem dX1_account_104 : decode cX1_account 104 = .ok (.invokevirtual 500, 3) := dk_182 1 244 (dk_at dksX1_account_3 13 rfl rfl)
theorem dX1_account_107 : decode cX1_account 107 = .ok (.ireturn, 1) := dk_172 (dk_at dksX1_account_3 16 rfl rfl)
theorem dX1_account_108 : decode cX1_account 108 = .ok (.aload_n 0, 1) := dk_42 (dk_at dksX1_account_3 17 rfl rfl)
theorem dX1_account_109 : decode cX1_account 109 = .ok (.invokevirtual 494, 3) := dk_182 1 238 (dk_at dksX1_account_3 18 rfl rfl)
theorem dX1_account_112 : decode cX1_account 112 = .ok (.ireturn, 1) := dk_172 (dk_at dksX1_account_3 21 rfl rfl)
theorem dX1_account_113 : decode cX1_account 113 = .ok (.aload_n 0, 1) := dk_42 (dk_at dksX1_account_3 22 rfl rfl)
theorem dX1_account_114 : decode cX1_account 114 = .ok (.iconst (-1), 1) := dk_2 (dk_at dksX1_account_3 23 rfl rfl)
theorem dX1_account_115 : decode cX1_account 115 = .ok (.invokevirtual 404, 3) := dk_182 1 148 (dk_at dksX1_account_4 0 rfl rfl)
theorem dX1_account_118 : decode cX1_account 118 = .ok (.ireturn, 1) := dk_172 (dk_at dksX1_account_4 3 rfl rfl)
theorem dX1_account_119 : decode cX1_account 119 = .ok (.aload_n 0, 1) := dk_42 (dk_at dksX1_account_4 4 rfl rfl)
theorem dX1_account_120 : decode cX1_account 120 = .ok (.invokevirtual 497, 3) := dk_182 1 241 (dk_at dksX1_account_4 5 rfl rfl)
theorem dX1_account_123 : decode cX1_account 123 = .ok (.ireturn, 1) := dk_172 (dk_at dksX1_account_4 8 rfl rfl)
theorem dX1_account_124 : decode cX1_account 124 = .ok (.aload_n 0, 1) := dk_42 (dk_at dksX1_account_4 9 rfl rfl)
theorem dX1_account_125 : decode cX1_account 125 = .ok (.invokevirtual 503, 3) := dk_182 1 247 (dk_at dksX1_account_4 10 rfl rfl)
theorem dX1_account_128 : decode cX1_account 128 = .ok (.ireturn, 1) := dk_172 (dk_at dksX1_account_4 13 rfl rfl)
theorem dX1_account_129 : decode cX1_account 129 = .ok (.aload_n 0, 1) := dk_42 (dk_at dksX1_account_4 14 rfl rfl)
theorem dX1_account_130 : decode cX1_account 130 = .ok (.getfield 65, 3) := dk_180 0 65 (dk_at dksX1_account_4 15 rfl rfl)
theorem dX1_account_133 : decode cX1_account 133 = .ok (.getfield 109, 3) := dk_180 0 109 (dk_at dksX1_account_4 18 rfl rfl)
theorem dX1_account_136 : decode cX1_account 136 = .ok (.ireturn, 1) := dk_172 (dk_at dksX1_account_4 21 rfl rfl)
theorem dX1_account_137 : decode cX1_account 137 = .ok (.aload_n 0, 1) := dk_42 (dk_at dksX1_account_4 22 rfl rfl)
theorem dX1_account_138 : decode cX1_account 138 = .ok (.getfield 65, 3) := dk_180 0 65 (dk_at dksX1_account_5 0 rfl rfl)
theorem dX1_account_141 : decode cX1_account 141 = .ok (.getfield 506, 3) := dk_180 1 250 (dk_at dksX1_account_5 3 rfl rfl)
theorem dX1_account_144 : decode cX1_account 144 = .ok (.ireturn, 1) := dk_172 (dk_at dksX1_account_5 6 rfl rfl)
theorem dX1_account_145 : decode cX1_account 145 = .ok (.aload_n 0, 1) := dk_42 (dk_at dksX1_account_5 7 rfl rfl)
theorem dX1_account_146 : decode cX1_account 146 = .ok (.getfield 91, 3) := dk_180 0 91 (dk_at dksX1_account_5 8 rfl rfl)
theorem dX1_account_149 : decode cX1_account 149 = .ok (.invokevirtual 267, 3) := dk_182 1 11 (dk_at dksX1_account_5 11 rfl rfl)
theorem dX1_account_152 : decode cX1_account 152 = .ok (.ireturn, 1) := dk_172 (dk_at dksX1_account_5 14 rfl rfl)
theorem dX1_account_153 : decode cX1_account 153 = .ok (.aload_n 0, 1) := dk_42 (dk_at dksX1_account_5 15 rfl rfl)
theorem dX1_account_154 : decode cX1_account 154 = .ok (.getfield 112, 3) := dk_180 0 112 (dk_at dksX1_account_5 16 rfl rfl)
theorem dX1_account_157 : decode cX1_account 157 = .ok (.ireturn, 1) := dk_172 (dk_at dksX1_account_5 19 rfl rfl)
theorem dX1_account_158 : decode cX1_account 158 = .ok (.new 12, 3) := dk_187 0 12 (dk_at dksX1_account_5 20 rfl rfl)
theorem dX1_account_161 : decode cX1_account 161 = .ok (.dup, 1) := dk_89 (dk_at dksX1_account_5 23 rfl rfl)
theorem dX1_account_162 : decode cX1_account 162 = .ok (.invokespecial 14, 3) := dk_183 0 14 (dk_at dksX1_account_6 0 rfl rfl)
theorem dX1_account_165 : decode cX1_account 165 = .ok (.athrow, 1) := dk_191 (dk_at dksX1_account_6 3 rfl rfl)
abbrev cX1_allLoaves : ByteArray := prog_1_method_75_code
def yX1_allLoaves : MethodName := ⟨RX1, "allLoaves", "()I"⟩
def dkwX1_allLoaves_1 : List UInt8 := [50, 180, 1, 163, 96, 60, 132, 2, 1, 167, 255, 227, 27, 172]
abbrev dktX1_allLoaves_1 : List UInt8 := dkwX1_allLoaves_1 ++ []
def dkwX1_allLoaves_0 : List UInt8 := [3, 60, 3, 61, 28, 42, 180, 0, 65, 180, 0, 147, 162, 0, 24, 27, 42, 180, 0, 65, 180, 0, 247, 28]
abbrev dktX1_allLoaves_0 : List UInt8 := dkwX1_allLoaves_0 ++ dktX1_allLoaves_1
theorem dksX1_allLoaves_0 : cX1_allLoaves.data.toList.drop 0 = dktX1_allLoaves_0 := by decide +kernel
theorem dksX1_allLoaves_1 : cX1_allLoaves.data.toList.drop 24 = dktX1_allLoaves_1 := dk_seg dksX1_allLoaves_0 24 rfl rfl
theorem dX1_allLoaves_0 : decode cX1_allLoaves 0 = .ok (.iconst 0, 1) := dk_3 (dk_at dksX1_allLoaves_0 0 rfl rfl)
theorem dX1_allLoaves_1 : decode cX1_allLoaves 1 = .ok (.istore_n 1, 1) := dk_60 (dk_at dksX1_allLoaves_0 1 rfl rfl)
theorem dX1_allLoaves_2 : decode cX1_allLoaves 2 = .ok (.iconst 0, 1) := dk_3 (dk_at dksX1_allLoaves_0 2 rfl rfl)
theorem dX1_allLoaves_3 : decode cX1_allLoaves 3 = .ok (.istore_n 2, 1) := dk_61 (dk_at dksX1_allLoaves_0 3 rfl rfl)
theorem dX1_allLoaves_4 : decode cX1_allLoaves 4 = .ok (.iload_n 2, 1) := dk_28 (dk_at dksX1_allLoaves_0 4 rfl rfl)
theorem dX1_allLoaves_5 : decode cX1_allLoaves 5 = .ok (.aload_n 0, 1) := dk_42 (dk_at dksX1_allLoaves_0 5 rfl rfl)
theorem dX1_allLoaves_6 : decode cX1_allLoaves 6 = .ok (.getfield 65, 3) := dk_180 0 65 (dk_at dksX1_allLoaves_0 6 rfl rfl)
theorem dX1_allLoaves_9 : decode cX1_allLoaves 9 = .ok (.getfield 147, 3) := dk_180 0 147 (dk_at dksX1_allLoaves_0 9 rfl rfl)
theorem dX1_allLoaves_12 : decode cX1_allLoaves 12 = .ok (.if_icmp .ge 24, 3) := dk_162 0 24 (dk_at dksX1_allLoaves_0 12 rfl rfl)
theorem dX1_allLoaves_15 : decode cX1_allLoaves 15 = .ok (.iload_n 1, 1) := dk_27 (dk_at dksX1_allLoaves_0 15 rfl rfl)
theorem dX1_allLoaves_16 : decode cX1_allLoaves 16 = .ok (.aload_n 0, 1) := dk_42 (dk_at dksX1_allLoaves_0 16 rfl rfl)
theorem dX1_allLoaves_17 : decode cX1_allLoaves 17 = .ok (.getfield 65, 3) := dk_180 0 65 (dk_at dksX1_allLoaves_0 17 rfl rfl)
theorem dX1_allLoaves_20 : decode cX1_allLoaves 20 = .ok (.getfield 247, 3) := dk_180 0 247 (dk_at dksX1_allLoaves_0 20 rfl rfl)
theorem dX1_allLoaves_23 : decode cX1_allLoaves 23 = .ok (.iload_n 2, 1) := dk_28 (dk_at dksX1_allLoaves_0 23 rfl rfl)
theorem dX1_allLoaves_24 : decode cX1_allLoaves 24 = .ok (.aaload, 1) := dk_50 (dk_at dksX1_allLoaves_1 0 rfl rfl)
theorem dX1_allLoaves_25 : decode cX1_allLoaves 25 = .ok (.getfield 419, 3) := dk_180 1 163 (dk_at dksX1_allLoaves_1 1 rfl rfl)
theorem dX1_allLoaves_28 : decode cX1_allLoaves 28 = .ok (.iadd, 1) := dk_96 (dk_at dksX1_allLoaves_1 4 rfl rfl)
theorem dX1_allLoaves_29 : decode cX1_allLoaves 29 = .ok (.istore_n 1, 1) := dk_60 (dk_at dksX1_allLoaves_1 5 rfl rfl)
theorem dX1_allLoaves_30 : decode cX1_allLoaves 30 = .ok (.iinc 2 1, 3) := dk_132 2 1 (dk_at dksX1_allLoaves_1 6 rfl rfl)
theorem dX1_allLoaves_33 : decode cX1_allLoaves 33 = .ok (.goto (-29), 3) := dk_167 255 227 (dk_at dksX1_allLoaves_1 9 rfl rfl)
theorem dX1_allLoaves_36 : decode cX1_allLoaves 36 = .ok (.iload_n 1, 1) := dk_27 (dk_at dksX1_allLoaves_1 12 rfl rfl)
theorem dX1_allLoaves_37 : decode cX1_allLoaves 37 = .ok (.ireturn, 1) := dk_172 (dk_at dksX1_allLoaves_1 13 rfl rfl)
abbrev cX1_overloaded : ByteArray := prog_1_method_76_code
def yX1_overloaded : MethodName := ⟨RX1, "overloaded", "()I"⟩
def dkwX1_overloaded_1 : List UInt8 := [184, 1, 136, 96, 60, 132, 2, 1, 167, 255, 228, 27, 172]
abbrev dktX1_overloaded_1 : List UInt8 := dkwX1_overloaded_1 ++ []
def dkwX1_overloaded_0 : List UInt8 := [3, 60, 3, 61, 28, 42, 180, 0, 65, 180, 0, 150, 162, 0, 23, 27, 42, 180, 0, 65, 28, 182, 1, 154]
abbrev dktX1_overloaded_0 : List UInt8 := dkwX1_overloaded_0 ++ dktX1_overloaded_1
theorem dksX1_overloaded_0 : cX1_overloaded.data.toList.drop 0 = dktX1_overloaded_0 := by decide +kernel
theorem dksX1_overloaded_1 : cX1_overloaded.data.toList.drop 24 = dktX1_overloaded_1 := dk_seg dksX1_overloaded_0 24 rfl rfl
theorem dX1_overloaded_0 : decode cX1_overloaded 0 = .ok (.iconst 0, 1) := dk_3 (dk_at dksX1_overloaded_0 0 rfl rfl)
theorem dX1_overloaded_1 : decode cX1_overloaded 1 = .ok (.istore_n 1, 1) := dk_60 (dk_at dksX1_overloaded_0 1 rfl rfl)
theorem dX1_overloaded_2 : decode cX1_overloaded 2 = .ok (.iconst 0, 1) := dk_3 (dk_at dksX1_overloaded_0 2 rfl rfl)
theorem dX1_overloaded_3 : decode cX1_overloaded 3 = .ok (.istore_n 2, 1) := dk_61 (dk_at dksX1_overloaded_0 3 rfl rfl)
theorem dX1_overloaded_4 : decode cX1_overloaded 4 = .ok (.iload_n 2, 1) := dk_28 (dk_at dksX1_overloaded_0 4 rfl rfl)
theorem dX1_overloaded_5 : decode cX1_overloaded 5 = .ok (.aload_n 0, 1) := dk_42 (dk_at dksX1_overloaded_0 5 rfl rfl)
theorem dX1_overloaded_6 : decode cX1_overloaded 6 = .ok (.getfield 65, 3) := dk_180 0 65 (dk_at dksX1_overloaded_0 6 rfl rfl)
theorem dX1_overloaded_9 : decode cX1_overloaded 9 = .ok (.getfield 150, 3) := dk_180 0 150 (dk_at dksX1_overloaded_0 9 rfl rfl)
theorem dX1_overloaded_12 : decode cX1_overloaded 12 = .ok (.if_icmp .ge 23, 3) := dk_162 0 23 (dk_at dksX1_overloaded_0 12 rfl rfl)
theorem dX1_overloaded_15 : decode cX1_overloaded 15 = .ok (.iload_n 1, 1) := dk_27 (dk_at dksX1_overloaded_0 15 rfl rfl)
theorem dX1_overloaded_16 : decode cX1_overloaded 16 = .ok (.aload_n 0, 1) := dk_42 (dk_at dksX1_overloaded_0 16 rfl rfl)
theorem dX1_overloaded_17 : decode cX1_overloaded 17 = .ok (.getfield 65, 3) := dk_180 0 65 (dk_at dksX1_overloaded_0 17 rfl rfl)
theorem dX1_overloaded_20 : decode cX1_overloaded 20 = .ok (.iload_n 2, 1) := dk_28 (dk_at dksX1_overloaded_0 20 rfl rfl)
theorem dX1_overloaded_21 : decode cX1_overloaded 21 = .ok (.invokevirtual 410, 3) := dk_182 1 154 (dk_at dksX1_overloaded_0 21 rfl rfl)
theorem dX1_overloaded_24 : decode cX1_overloaded 24 = .ok (.invokestatic 392, 3) := dk_184 1 136 (dk_at dksX1_overloaded_1 0 rfl rfl)
theorem dX1_overloaded_27 : decode cX1_overloaded 27 = .ok (.iadd, 1) := dk_96 (dk_at dksX1_overloaded_1 3 rfl rfl)
theorem dX1_overloaded_28 : decode cX1_overloaded 28 = .ok (.istore_n 1, 1) := dk_60 (dk_at dksX1_overloaded_1 4 rfl rfl)
theorem dX1_overloaded_29 : decode cX1_overloaded 29 = .ok (.iinc 2 1, 3) := dk_132 2 1 (dk_at dksX1_overloaded_1 5 rfl rfl)
theorem dX1_overloaded_32 : decode cX1_overloaded 32 = .ok (.goto (-28), 3) := dk_167 255 228 (dk_at dksX1_overloaded_1 8 rfl rfl)
theorem dX1_overloaded_35 : decode cX1_overloaded 35 = .ok (.iload_n 1, 1) := dk_27 (dk_at dksX1_overloaded_1 11 rfl rfl)
theorem dX1_overloaded_36 : decode cX1_overloaded 36 = .ok (.ireturn, 1) := dk_172 (dk_at dksX1_overloaded_1 12 rfl rfl)
abbrev cX1_undo : ByteArray := prog_1_method_78_code
def yX1_undo : MethodName := ⟨RX1, "undo", "()I"⟩
def dkwX1_undo_1 : List UInt8 := [181, 0, 112, 42, 180, 0, 65, 42, 180, 0, 78, 42, 180, 0, 112, 50, 182, 0, 105, 42, 180, 0, 112, 172]
abbrev dktX1_undo_1 : List UInt8 := dkwX1_undo_1 ++ []
def dkwX1_undo_0 : List UInt8 := [42, 180, 0, 112, 154, 0, 11, 187, 1, 14, 89, 183, 1, 16, 191, 42, 89, 180, 0, 112, 4, 100]
abbrev dktX1_undo_0 : List UInt8 := dkwX1_undo_0 ++ dktX1_undo_1
theorem dksX1_undo_0 : cX1_undo.data.toList.drop 0 = dktX1_undo_0 := by decide +kernel
theorem dksX1_undo_1 : cX1_undo.data.toList.drop 22 = dktX1_undo_1 := dk_seg dksX1_undo_0 22 rfl rfl
theorem dX1_undo_0 : decode cX1_undo 0 = .ok (.aload_n 0, 1) := dk_42 (dk_at dksX1_undo_0 0 rfl rfl)
theorem dX1_undo_1 : decode cX1_undo 1 = .ok (.getfield 112, 3) := dk_180 0 112 (dk_at dksX1_undo_0 1 rfl rfl)
theorem dX1_undo_4 : decode cX1_undo 4 = .ok (.ifCond .ne 11, 3) := dk_154 0 11 (dk_at dksX1_undo_0 4 rfl rfl)
theorem dX1_undo_7 : decode cX1_undo 7 = .ok (.new 270, 3) := dk_187 1 14 (dk_at dksX1_undo_0 7 rfl rfl)
theorem dX1_undo_10 : decode cX1_undo 10 = .ok (.dup, 1) := dk_89 (dk_at dksX1_undo_0 10 rfl rfl)
theorem dX1_undo_11 : decode cX1_undo 11 = .ok (.invokespecial 272, 3) := dk_183 1 16 (dk_at dksX1_undo_0 11 rfl rfl)
theorem dX1_undo_14 : decode cX1_undo 14 = .ok (.athrow, 1) := dk_191 (dk_at dksX1_undo_0 14 rfl rfl)
theorem dX1_undo_15 : decode cX1_undo 15 = .ok (.aload_n 0, 1) := dk_42 (dk_at dksX1_undo_0 15 rfl rfl)
theorem dX1_undo_16 : decode cX1_undo 16 = .ok (.dup, 1) := dk_89 (dk_at dksX1_undo_0 16 rfl rfl)
theorem dX1_undo_17 : decode cX1_undo 17 = .ok (.getfield 112, 3) := dk_180 0 112 (dk_at dksX1_undo_0 17 rfl rfl)
theorem dX1_undo_20 : decode cX1_undo 20 = .ok (.iconst 1, 1) := dk_4 (dk_at dksX1_undo_0 20 rfl rfl)
theorem dX1_undo_21 : decode cX1_undo 21 = .ok (.isub, 1) := dk_100 (dk_at dksX1_undo_0 21 rfl rfl)
theorem dX1_undo_22 : decode cX1_undo 22 = .ok (.putfield 112, 3) := dk_181 0 112 (dk_at dksX1_undo_1 0 rfl rfl)
theorem dX1_undo_25 : decode cX1_undo 25 = .ok (.aload_n 0, 1) := dk_42 (dk_at dksX1_undo_1 3 rfl rfl)
theorem dX1_undo_26 : decode cX1_undo 26 = .ok (.getfield 65, 3) := dk_180 0 65 (dk_at dksX1_undo_1 4 rfl rfl)
theorem dX1_undo_29 : decode cX1_undo 29 = .ok (.aload_n 0, 1) := dk_42 (dk_at dksX1_undo_1 7 rfl rfl)
theorem dX1_undo_30 : decode cX1_undo 30 = .ok (.getfield 78, 3) := dk_180 0 78 (dk_at dksX1_undo_1 8 rfl rfl)
theorem dX1_undo_33 : decode cX1_undo 33 = .ok (.aload_n 0, 1) := dk_42 (dk_at dksX1_undo_1 11 rfl rfl)
theorem dX1_undo_34 : decode cX1_undo 34 = .ok (.getfield 112, 3) := dk_180 0 112 (dk_at dksX1_undo_1 12 rfl rfl)
theorem dX1_undo_37 : decode cX1_undo 37 = .ok (.aaload, 1) := dk_50 (dk_at dksX1_undo_1 15 rfl rfl)
theorem dX1_undo_38 : decode cX1_undo 38 = .ok (.invokevirtual 105, 3) := dk_182 0 105 (dk_at dksX1_undo_1 16 rfl rfl)
theorem dX1_undo_41 : decode cX1_undo 41 = .ok (.aload_n 0, 1) := dk_42 (dk_at dksX1_undo_1 19 rfl rfl)
theorem dX1_undo_42 : decode cX1_undo 42 = .ok (.getfield 112, 3) := dk_180 0 112 (dk_at dksX1_undo_1 20 rfl rfl)
theorem dX1_undo_45 : decode cX1_undo 45 = .ok (.ireturn, 1) := dk_172 (dk_at dksX1_undo_1 23 rfl rfl)
abbrev cX1_restore : ByteArray := prog_1_method_80_code
def yX1_restore : MethodName := ⟨RX1, "restore", "()I"⟩
def dkwX1_restore_1 : List UInt8 := [182, 0, 105, 42, 3, 181, 0, 112, 42, 180, 0, 65, 180, 0, 109, 172]
abbrev dktX1_restore_1 : List UInt8 := dkwX1_restore_1 ++ []
def dkwX1_restore_0 : List UInt8 := [42, 180, 1, 253, 154, 0, 11, 187, 1, 14, 89, 183, 1, 16, 191, 42, 180, 0, 65, 42, 180, 0, 75]
abbrev dktX1_restore_0 : List UInt8 := dkwX1_restore_0 ++ dktX1_restore_1
theorem dksX1_restore_0 : cX1_restore.data.toList.drop 0 = dktX1_restore_0 := by decide +kernel
theorem dksX1_restore_1 : cX1_restore.data.toList.drop 23 = dktX1_restore_1 := dk_seg dksX1_restore_0 23 rfl rfl
theorem dX1_restore_0 : decode cX1_restore 0 = .ok (.aload_n 0, 1) := dk_42 (dk_at dksX1_restore_0 0 rfl rfl)
theorem dX1_restore_1 : decode cX1_restore 1 = .ok (.getfield 509, 3) := dk_180 1 253 (dk_at dksX1_restore_0 1 rfl rfl)
theorem dX1_restore_4 : decode cX1_restore 4 = .ok (.ifCond .ne 11, 3) := dk_154 0 11 (dk_at dksX1_restore_0 4 rfl rfl)
theorem dX1_restore_7 : decode cX1_restore 7 = .ok (.new 270, 3) := dk_187 1 14 (dk_at dksX1_restore_0 7 rfl rfl)
theorem dX1_restore_10 : decode cX1_restore 10 = .ok (.dup, 1) := dk_89 (dk_at dksX1_restore_0 10 rfl rfl)
theorem dX1_restore_11 : decode cX1_restore 11 = .ok (.invokespecial 272, 3) := dk_183 1 16 (dk_at dksX1_restore_0 11 rfl rfl)
theorem dX1_restore_14 : decode cX1_restore 14 = .ok (.athrow, 1) := dk_191 (dk_at dksX1_restore_0 14 rfl rfl)
theorem dX1_restore_15 : decode cX1_restore 15 = .ok (.aload_n 0, 1) := dk_42 (dk_at dksX1_restore_0 15 rfl rfl)
theorem dX1_restore_16 : decode cX1_restore 16 = .ok (.getfield 65, 3) := dk_180 0 65 (dk_at dksX1_restore_0 16 rfl rfl)
theorem dX1_restore_19 : decode cX1_restore 19 = .ok (.aload_n 0, 1) := dk_42 (dk_at dksX1_restore_0 19 rfl rfl)
theorem dX1_restore_20 : decode cX1_restore 20 = .ok (.getfield 75, 3) := dk_180 0 75 (dk_at dksX1_restore_0 20 rfl rfl)
theorem dX1_restore_23 : decode cX1_restore 23 = .ok (.invokevirtual 105, 3) := dk_182 0 105 (dk_at dksX1_restore_1 0 rfl rfl)
theorem dX1_restore_26 : decode cX1_restore 26 = .ok (.aload_n 0, 1) := dk_42 (dk_at dksX1_restore_1 3 rfl rfl)
theorem dX1_restore_27 : decode cX1_restore 27 = .ok (.iconst 0, 1) := dk_3 (dk_at dksX1_restore_1 4 rfl rfl)
theorem dX1_restore_28 : decode cX1_restore 28 = .ok (.putfield 112, 3) := dk_181 0 112 (dk_at dksX1_restore_1 5 rfl rfl)
theorem dX1_restore_31 : decode cX1_restore 31 = .ok (.aload_n 0, 1) := dk_42 (dk_at dksX1_restore_1 8 rfl rfl)
theorem dX1_restore_32 : decode cX1_restore 32 = .ok (.getfield 65, 3) := dk_180 0 65 (dk_at dksX1_restore_1 9 rfl rfl)
theorem dX1_restore_35 : decode cX1_restore 35 = .ok (.getfield 109, 3) := dk_180 0 109 (dk_at dksX1_restore_1 12 rfl rfl)
theorem dX1_restore_38 : decode cX1_restore 38 = .ok (.ireturn, 1) := dk_172 (dk_at dksX1_restore_1 15 rfl rfl)
theorem q114 : (Jvm.Cond.initialized "BakeryRing") ∈ lw_all := lw_g (lw_at lw_m1 1 rfl) rfl
theorem q171 : (Jvm.Cond.instantiable "BakeryRing" (15 : Nat)) ∈ lw_all := lw_g (lw_at lw_m1 58 rfl) rfl
theorem q173 : (Jvm.Cond.instanceMethod ({ cls := "BakeryRing", name := "<init>", desc := "()V" } : Jvm.MethodName)) ∈ lw_all := lw_g (lw_at lw_m1 60 rfl) rfl
theorem q174 : (Jvm.Cond.code ({ cls := "BakeryRing", name := "<init>", desc := "()V" } : Jvm.MethodName) prog_1_method_8_code (2 : Nat) (Option.none : Option Jvm.ClassFile.FieldType)) ∈ lw_all := lw_g (lw_at lw_m1 61 rfl) rfl
theorem q175 : (Jvm.Cond.methodLink "BakeryRing" (20 : Nat) ({ cls := "java/lang/Object", name := "<init>", desc := "()V" } : Jvm.MethodName)) ∈ lw_all := lw_g (lw_at lw_m1 62 rfl) rfl
theorem q178 : (Jvm.Cond.classLink "BakeryRing" (23 : Nat) "BakeryRing$Plain") ∈ lw_all := lw_g (lw_at lw_m1 65 rfl) rfl
theorem q180 : (Jvm.Cond.methodLinkNest "BakeryRing" (25 : Nat) ({ cls := "BakeryRing$Plain", name := "<init>", desc := "()V" } : Jvm.MethodName) "BakeryRing") ∈ lw_tbl := lw_at lw_m1 67 rfl
theorem q188 : (Jvm.Cond.classLink "BakeryRing" (26 : Nat) "BakeryRing$Big") ∈ lw_all := lw_g (lw_at lw_m1 75 rfl) rfl
theorem q190 : (Jvm.Cond.methodLinkNest "BakeryRing" (28 : Nat) ({ cls := "BakeryRing$Big", name := "<init>", desc := "()V" } : Jvm.MethodName) "BakeryRing") ∈ lw_tbl := lw_at lw_m1 77 rfl
theorem q195 : (Jvm.Cond.classLink "BakeryRing" (29 : Nat) "BakeryRing$Stand") ∈ lw_all := lw_g (lw_at lw_m1 82 rfl) rfl
theorem q197 : (Jvm.Cond.methodLinkNest "BakeryRing" (31 : Nat) ({ cls := "BakeryRing$Stand", name := "<init>", desc := "()V" } : Jvm.MethodName) "BakeryRing") ∈ lw_tbl := lw_at lw_m1 84 rfl
theorem q202 : (Jvm.Cond.methodLink "BakeryRing" (32 : Nat) ({ cls := "java/util/List", name := "of", desc := "(Ljava/lang/Object;Ljava/lang/Object;Ljava/lang/Object;)Ljava/util/List;" } : Jvm.MethodName)) ∈ lw_all := lw_g (lw_at lw_m1 89 rfl) rfl
theorem q215 : (Jvm.Cond.selects "BakeryRing" ({ cls := "java/lang/Object", name := "getClass", desc := "()Ljava/lang/Class;" } : Jvm.MethodName) ({ cls := "java/lang/Object", name := "getClass", desc := "()Ljava/lang/Class;" } : Jvm.MethodName)) ∈ lw_all := lw_g (lw_at lw_m1 102 rfl) rfl
theorem q296 : (Jvm.Cond.stringRef "BakeryRing" (42 : Nat) "sign ") ∈ lw_tbl := lw_at lw_m1 183 rfl
theorem q297 : (Jvm.Cond.stringRef "BakeryRing" (44 : Nat) "down ") ∈ lw_tbl := lw_at lw_m1 184 rfl
theorem q298 : (Jvm.Cond.stringRef "BakeryRing" (46 : Nat) "close ") ∈ lw_tbl := lw_at lw_m1 185 rfl
theorem q299 : (Jvm.Cond.stringRef "BakeryRing" (48 : Nat) "open ") ∈ lw_tbl := lw_at lw_m1 186 rfl
theorem q300 : (Jvm.Cond.stringRef "BakeryRing" (50 : Nat) "oven ") ∈ lw_tbl := lw_at lw_m1 187 rfl
theorem q301 : (Jvm.Cond.stringRef "BakeryRing" (52 : Nat) "come ") ∈ lw_tbl := lw_at lw_m1 188 rfl
theorem q302 : (Jvm.Cond.stringRef "BakeryRing" (54 : Nat) "leave ") ∈ lw_tbl := lw_at lw_m1 189 rfl
theorem q303 : (Jvm.Cond.methodLink "BakeryRing" (56 : Nat) ({ cls := "java/util/List", name := "of", desc := "(Ljava/lang/Object;Ljava/lang/Object;Ljava/lang/Object;Ljava/lang/Object;Ljava/lang/Object;Ljava/lang/Object;Ljava/lang/Object;)Ljava/util/List;" } : Jvm.MethodName)) ∈ lw_all := lw_g (lw_at lw_m1 190 rfl) rfl
theorem q306 : (Jvm.Cond.classLink "BakeryRing" (62 : Nat) "BakeryRing$State") ∈ lw_all := lw_g (lw_at lw_m1 193 rfl) rfl
theorem q308 : (Jvm.Cond.methodLink "BakeryRing" (64 : Nat) ({ cls := "BakeryRing$State", name := "<init>", desc := "()V" } : Jvm.MethodName)) ∈ lw_all := lw_g (lw_at lw_m1 195 rfl) rfl
theorem q347 : (Jvm.Cond.fieldLinkNest "BakeryRing" (396 : Nat) "BakeryRing$Bakery" "kind" "LBakeryRing$Kind;" "BakeryRing") ∈ lw_tbl := lw_at lw_m1 234 rfl
theorem q350 : (Jvm.Cond.fieldLinkNest "BakeryRing" (241 : Nat) "BakeryRing$Bakery" "oven" "I" "BakeryRing") ∈ lw_tbl := lw_at lw_m1 237 rfl
theorem q353 : (Jvm.Cond.fieldLinkNest "BakeryRing" (228 : Nat) "BakeryRing$Bakery" "isOpen" "Z" "BakeryRing") ∈ lw_tbl := lw_at lw_m2 0 rfl
theorem q369 : (Jvm.Cond.fieldLinkNest "BakeryRing" (416 : Nat) "BakeryRing$Customer" "angle" "I" "BakeryRing") ∈ lw_tbl := lw_at lw_m2 16 rfl
theorem q372 : (Jvm.Cond.fieldLinkNest "BakeryRing" (419 : Nat) "BakeryRing$Customer" "loaves" "I" "BakeryRing") ∈ lw_tbl := lw_at lw_m2 19 rfl
theorem q375 : (Jvm.Cond.fieldLinkNest "BakeryRing" (389 : Nat) "BakeryRing$Customer" "bakery" "I" "BakeryRing") ∈ lw_tbl := lw_at lw_m2 22 rfl
theorem q378 : (Jvm.Cond.fieldLinkNest "BakeryRing" (422 : Nat) "BakeryRing$Customer" "sign" "I" "BakeryRing") ∈ lw_tbl := lw_at lw_m2 25 rfl
theorem q381 : (Jvm.Cond.fieldLinkNest "BakeryRing" (425 : Nat) "BakeryRing$Customer" "isSent" "Z" "BakeryRing") ∈ lw_tbl := lw_at lw_m2 28 rfl
theorem q384 : (Jvm.Cond.fieldLinkNest "BakeryRing" (428 : Nat) "BakeryRing$Customer" "moved" "I" "BakeryRing") ∈ lw_tbl := lw_at lw_m2 31 rfl
theorem q399 : (Jvm.Cond.fieldLinkNest "BakeryRing" (139 : Nat) "BakeryRing$State" "bakeries" "[LBakeryRing$Bakery;" "BakeryRing") ∈ lw_tbl := lw_at lw_m2 46 rfl
theorem q401 : (Jvm.Cond.fieldLinkNest "BakeryRing" (150 : Nat) "BakeryRing$State" "bakeryMany" "I" "BakeryRing") ∈ lw_tbl := lw_at lw_m2 48 rfl
theorem q403 : (Jvm.Cond.fieldLinkNest "BakeryRing" (193 : Nat) "BakeryRing$State" "signs" "Ljava/util/BitSet;" "BakeryRing") ∈ lw_tbl := lw_at lw_m2 50 rfl
theorem q405 : (Jvm.Cond.fieldLinkNest "BakeryRing" (201 : Nat) "BakeryRing$State" "owner" "[I" "BakeryRing") ∈ lw_tbl := lw_at lw_m2 52 rfl
theorem q407 : (Jvm.Cond.fieldLinkNest "BakeryRing" (247 : Nat) "BakeryRing$State" "customers" "[LBakeryRing$Customer;" "BakeryRing") ∈ lw_tbl := lw_at lw_m2 54 rfl
theorem q409 : (Jvm.Cond.fieldLinkNest "BakeryRing" (147 : Nat) "BakeryRing$State" "customerMany" "I" "BakeryRing") ∈ lw_tbl := lw_at lw_m2 56 rfl
theorem q411 : (Jvm.Cond.fieldLinkNest "BakeryRing" (407 : Nat) "BakeryRing$State" "loads" "[I" "BakeryRing") ∈ lw_tbl := lw_at lw_m2 58 rfl
theorem q413 : (Jvm.Cond.fieldLinkNest "BakeryRing" (109 : Nat) "BakeryRing$State" "changes" "I" "BakeryRing") ∈ lw_tbl := lw_at lw_m2 60 rfl
theorem q415 : (Jvm.Cond.fieldLinkNest "BakeryRing" (506 : Nat) "BakeryRing$State" "moves" "I" "BakeryRing") ∈ lw_tbl := lw_at lw_m2 62 rfl
theorem q442 : (Jvm.Cond.classLink "BakeryRing" (86 : Nat) "java/lang/StringBuilder") ∈ lw_all := lw_g (lw_at lw_m2 89 rfl) rfl
theorem q444 : (Jvm.Cond.methodLink "BakeryRing" (88 : Nat) ({ cls := "java/lang/StringBuilder", name := "<init>", desc := "(I)V" } : Jvm.MethodName)) ∈ lw_all := lw_g (lw_at lw_m2 91 rfl) rfl
theorem q474 : (Jvm.Cond.classLink "BakeryRing" (98 : Nat) "java/util/LinkedList") ∈ lw_all := lw_g (lw_at lw_m2 121 rfl) rfl
theorem q476 : (Jvm.Cond.methodLink "BakeryRing" (100 : Nat) ({ cls := "java/util/LinkedList", name := "<init>", desc := "()V" } : Jvm.MethodName)) ∈ lw_all := lw_g (lw_at lw_m2 123 rfl) rfl
theorem q504 : (Jvm.Cond.fieldLink "BakeryRing" (38 : Nat) "BakeryRing" "kinds" "Ljava/util/List;") ∈ lw_all := lw_g (lw_at lw_m2 151 rfl) rfl
theorem q505 : (Jvm.Cond.fieldLink "BakeryRing" (59 : Nat) "BakeryRing" "words" "Ljava/util/List;") ∈ lw_all := lw_g (lw_at lw_m2 152 rfl) rfl
theorem q506 : (Jvm.Cond.fieldLink "BakeryRing" (65 : Nat) "BakeryRing" "now" "LBakeryRing$State;") ∈ lw_all := lw_g (lw_at lw_m2 153 rfl) rfl
theorem q507 : (Jvm.Cond.fieldLink "BakeryRing" (69 : Nat) "BakeryRing" "before" "LBakeryRing$State;") ∈ lw_all := lw_g (lw_at lw_m2 154 rfl) rfl
theorem q508 : (Jvm.Cond.fieldLink "BakeryRing" (72 : Nat) "BakeryRing" "aside" "LBakeryRing$State;") ∈ lw_all := lw_g (lw_at lw_m2 155 rfl) rfl
theorem q509 : (Jvm.Cond.fieldLink "BakeryRing" (75 : Nat) "BakeryRing" "saved" "LBakeryRing$State;") ∈ lw_all := lw_g (lw_at lw_m2 156 rfl) rfl
theorem q510 : (Jvm.Cond.fieldLink "BakeryRing" (509 : Nat) "BakeryRing" "isSaved" "Z") ∈ lw_all := lw_g (lw_at lw_m2 157 rfl) rfl
theorem q511 : (Jvm.Cond.fieldLink "BakeryRing" (78 : Nat) "BakeryRing" "past" "[LBakeryRing$State;") ∈ lw_all := lw_g (lw_at lw_m2 158 rfl) rfl
theorem q512 : (Jvm.Cond.fieldLink "BakeryRing" (112 : Nat) "BakeryRing" "pastMany" "I") ∈ lw_all := lw_g (lw_at lw_m2 159 rfl) rfl
theorem q513 : (Jvm.Cond.fieldLink "BakeryRing" (121 : Nat) "BakeryRing" "refused" "LBakeryRing$Refused;") ∈ lw_all := lw_g (lw_at lw_m2 160 rfl) rfl
theorem q514 : (Jvm.Cond.fieldLink "BakeryRing" (82 : Nat) "BakeryRing" "faultAt" "I") ∈ lw_all := lw_g (lw_at lw_m2 161 rfl) rfl
theorem q515 : (Jvm.Cond.fieldLink "BakeryRing" (91 : Nat) "BakeryRing" "input" "Ljava/lang/StringBuilder;") ∈ lw_all := lw_g (lw_at lw_m2 162 rfl) rfl
theorem q516 : (Jvm.Cond.fieldLink "BakeryRing" (95 : Nat) "BakeryRing" "line" "Ljava/lang/StringBuilder;") ∈ lw_all := lw_g (lw_at lw_m2 163 rfl) rfl
theorem q517 : (Jvm.Cond.fieldLink "BakeryRing" (101 : Nat) "BakeryRing" "orders" "Ljava/util/LinkedList;") ∈ lw_all := lw_g (lw_at lw_m2 164 rfl) rfl
theorem q518 : (Jvm.Cond.fieldLink "BakeryRing" (280 : Nat) "BakeryRing" "readAt" "I") ∈ lw_all := lw_g (lw_at lw_m2 165 rfl) rfl
theorem q519 : (Jvm.Cond.laysFinal "BakeryRing" "BakeryRing" "kinds" "Ljava/util/List;") ∈ lw_all := lw_g (lw_at lw_m2 166 rfl) rfl
theorem q520 : (Jvm.Cond.soleField "BakeryRing" "kinds") ∈ lw_all := lw_g (lw_at lw_m2 167 rfl) rfl
theorem q521 : (Jvm.Cond.laysFinal "BakeryRing" "BakeryRing" "words" "Ljava/util/List;") ∈ lw_all := lw_g (lw_at lw_m2 168 rfl) rfl
theorem q522 : (Jvm.Cond.soleField "BakeryRing" "words") ∈ lw_all := lw_g (lw_at lw_m2 169 rfl) rfl
theorem q523 : (Jvm.Cond.laysFinal "BakeryRing" "BakeryRing" "now" "LBakeryRing$State;") ∈ lw_all := lw_g (lw_at lw_m2 170 rfl) rfl
theorem q524 : (Jvm.Cond.soleField "BakeryRing" "now") ∈ lw_all := lw_g (lw_at lw_m2 171 rfl) rfl
theorem q525 : (Jvm.Cond.laysFinal "BakeryRing" "BakeryRing" "before" "LBakeryRing$State;") ∈ lw_all := lw_g (lw_at lw_m2 172 rfl) rfl
theorem q526 : (Jvm.Cond.soleField "BakeryRing" "before") ∈ lw_all := lw_g (lw_at lw_m2 173 rfl) rfl
theorem q527 : (Jvm.Cond.laysFinal "BakeryRing" "BakeryRing" "aside" "LBakeryRing$State;") ∈ lw_all := lw_g (lw_at lw_m2 174 rfl) rfl
theorem q528 : (Jvm.Cond.soleField "BakeryRing" "aside") ∈ lw_all := lw_g (lw_at lw_m2 175 rfl) rfl
theorem q529 : (Jvm.Cond.laysFinal "BakeryRing" "BakeryRing" "saved" "LBakeryRing$State;") ∈ lw_all := lw_g (lw_at lw_m2 176 rfl) rfl
theorem q530 : (Jvm.Cond.soleField "BakeryRing" "saved") ∈ lw_all := lw_g (lw_at lw_m2 177 rfl) rfl
theorem q531 : (Jvm.Cond.lays "BakeryRing" "BakeryRing" "isSaved" "Z") ∈ lw_all := lw_g (lw_at lw_m2 178 rfl) rfl
theorem q532 : (Jvm.Cond.soleField "BakeryRing" "isSaved") ∈ lw_all := lw_g (lw_at lw_m2 179 rfl) rfl
theorem q533 : (Jvm.Cond.laysFinal "BakeryRing" "BakeryRing" "past" "[LBakeryRing$State;") ∈ lw_all := lw_g (lw_at lw_m2 180 rfl) rfl
theorem q534 : (Jvm.Cond.soleField "BakeryRing" "past") ∈ lw_all := lw_g (lw_at lw_m2 181 rfl) rfl
theorem q535 : (Jvm.Cond.lays "BakeryRing" "BakeryRing" "pastMany" "I") ∈ lw_all := lw_g (lw_at lw_m2 182 rfl) rfl
theorem q536 : (Jvm.Cond.soleField "BakeryRing" "pastMany") ∈ lw_all := lw_g (lw_at lw_m2 183 rfl) rfl
theorem q537 : (Jvm.Cond.lays "BakeryRing" "BakeryRing" "refused" "LBakeryRing$Refused;") ∈ lw_all := lw_g (lw_at lw_m2 184 rfl) rfl
theorem q538 : (Jvm.Cond.soleField "BakeryRing" "refused") ∈ lw_all := lw_g (lw_at lw_m2 185 rfl) rfl
theorem q539 : (Jvm.Cond.lays "BakeryRing" "BakeryRing" "faultAt" "I") ∈ lw_all := lw_g (lw_at lw_m2 186 rfl) rfl
theorem q540 : (Jvm.Cond.soleField "BakeryRing" "faultAt") ∈ lw_all := lw_g (lw_at lw_m2 187 rfl) rfl
theorem q541 : (Jvm.Cond.laysFinal "BakeryRing" "BakeryRing" "input" "Ljava/lang/StringBuilder;") ∈ lw_all := lw_g (lw_at lw_m2 188 rfl) rfl
theorem q542 : (Jvm.Cond.soleField "BakeryRing" "input") ∈ lw_all := lw_g (lw_at lw_m2 189 rfl) rfl
theorem q543 : (Jvm.Cond.laysFinal "BakeryRing" "BakeryRing" "line" "Ljava/lang/StringBuilder;") ∈ lw_all := lw_g (lw_at lw_m2 190 rfl) rfl
theorem q544 : (Jvm.Cond.soleField "BakeryRing" "line") ∈ lw_all := lw_g (lw_at lw_m2 191 rfl) rfl
theorem q545 : (Jvm.Cond.laysFinal "BakeryRing" "BakeryRing" "orders" "Ljava/util/LinkedList;") ∈ lw_all := lw_g (lw_at lw_m2 192 rfl) rfl
theorem q546 : (Jvm.Cond.soleField "BakeryRing" "orders") ∈ lw_all := lw_g (lw_at lw_m2 193 rfl) rfl
theorem q547 : (Jvm.Cond.lays "BakeryRing" "BakeryRing" "readAt" "I") ∈ lw_all := lw_g (lw_at lw_m2 194 rfl) rfl
theorem q548 : (Jvm.Cond.soleField "BakeryRing" "readAt") ∈ lw_all := lw_g (lw_at lw_m2 195 rfl) rfl
theorem q549 : (Jvm.Cond.superclass "BakeryRing" "java/lang/Object") ∈ lw_all := lw_g (lw_at lw_m2 196 rfl) rfl
theorem q551 : (Jvm.Cond.instanceMethod ({ cls := "BakeryRing", name := "clear", desc := "()I" } : Jvm.MethodName)) ∈ lw_all := lw_g (lw_at lw_m2 198 rfl) rfl
theorem q552 : (Jvm.Cond.selects "BakeryRing" ({ cls := "BakeryRing", name := "clear", desc := "()I" } : Jvm.MethodName) ({ cls := "BakeryRing", name := "clear", desc := "()I" } : Jvm.MethodName)) ∈ lw_all := lw_g (lw_at lw_m2 199 rfl) rfl
theorem q553 : (Jvm.Cond.code ({ cls := "BakeryRing", name := "clear", desc := "()I" } : Jvm.MethodName) prog_1_method_12_code (2 : Nat) (Option.some Jvm.ClassFile.FieldType.int)) ∈ lw_all := lw_g (lw_at lw_m2 200 rfl) rfl
theorem q554 : (Jvm.Cond.methodLink "BakeryRing" (128 : Nat) ({ cls := "BakeryRing$State", name := "empties", desc := "()V" } : Jvm.MethodName)) ∈ lw_all := lw_g (lw_at lw_m2 201 rfl) rfl
theorem q563 : (Jvm.Cond.instanceMethod ({ cls := "BakeryRing", name := "save", desc := "()I" } : Jvm.MethodName)) ∈ lw_all := lw_g (lw_at lw_m2 210 rfl) rfl
theorem q564 : (Jvm.Cond.selects "BakeryRing" ({ cls := "BakeryRing", name := "save", desc := "()I" } : Jvm.MethodName) ({ cls := "BakeryRing", name := "save", desc := "()I" } : Jvm.MethodName)) ∈ lw_all := lw_g (lw_at lw_m2 211 rfl) rfl
theorem q565 : (Jvm.Cond.code ({ cls := "BakeryRing", name := "save", desc := "()I" } : Jvm.MethodName) prog_1_method_79_code (1 : Nat) (Option.some Jvm.ClassFile.FieldType.int)) ∈ lw_all := lw_g (lw_at lw_m2 212 rfl) rfl
theorem q566 : (Jvm.Cond.methodLink "BakeryRing" (105 : Nat) ({ cls := "BakeryRing$State", name := "like", desc := "(LBakeryRing$State;)V" } : Jvm.MethodName)) ∈ lw_all := lw_g (lw_at lw_m2 213 rfl) rfl
theorem q620 : (Jvm.Cond.instanceMethod ({ cls := "BakeryRing", name := "append", desc := "(C)I" } : Jvm.MethodName)) ∈ lw_all := lw_g (lw_at lw_m3 27 rfl) rfl
theorem q621 : (Jvm.Cond.selects "BakeryRing" ({ cls := "BakeryRing", name := "append", desc := "(C)I" } : Jvm.MethodName) ({ cls := "BakeryRing", name := "append", desc := "(C)I" } : Jvm.MethodName)) ∈ lw_all := lw_g (lw_at lw_m3 28 rfl) rfl
theorem q622 : (Jvm.Cond.code ({ cls := "BakeryRing", name := "append", desc := "(C)I" } : Jvm.MethodName) prog_1_method_32_code (2 : Nat) (Option.some Jvm.ClassFile.FieldType.int)) ∈ lw_all := lw_g (lw_at lw_m3 29 rfl) rfl
theorem q623 : (Jvm.Cond.methodLink "BakeryRing" (143 : Nat) ({ cls := "BakeryRing", name := "within", desc := "(III)Z" } : Jvm.MethodName)) ∈ lw_all := lw_g (lw_at lw_m3 30 rfl) rfl
theorem q624 : (Jvm.Cond.static ({ cls := "BakeryRing", name := "within", desc := "(III)Z" } : Jvm.MethodName)) ∈ lw_all := lw_g (lw_at lw_m3 31 rfl) rfl
theorem q625 : (Jvm.Cond.code ({ cls := "BakeryRing", name := "within", desc := "(III)Z" } : Jvm.MethodName) prog_1_method_1_code (3 : Nat) (Option.some Jvm.ClassFile.FieldType.boolean)) ∈ lw_all := lw_g (lw_at lw_m3 32 rfl) rfl
theorem q626 : (Jvm.Cond.methodLink "BakeryRing" (173 : Nat) ({ cls := "BakeryRing", name := "fits", desc := "(Z)V" } : Jvm.MethodName)) ∈ lw_all := lw_g (lw_at lw_m3 33 rfl) rfl
theorem q627 : (Jvm.Cond.static ({ cls := "BakeryRing", name := "fits", desc := "(Z)V" } : Jvm.MethodName)) ∈ lw_all := lw_g (lw_at lw_m3 34 rfl) rfl
theorem q628 : (Jvm.Cond.code ({ cls := "BakeryRing", name := "fits", desc := "(Z)V" } : Jvm.MethodName) prog_1_method_5_code (1 : Nat) (Option.none : Option Jvm.ClassFile.FieldType)) ∈ lw_all := lw_g (lw_at lw_m3 35 rfl) rfl
theorem q629 : (Jvm.Cond.classLink "BakeryRing" (12 : Nat) "java/lang/IllegalArgumentException") ∈ lw_all := lw_g (lw_at lw_m3 36 rfl) rfl
theorem q677 : (Jvm.Cond.methodLink "BakeryRing" (14 : Nat) ({ cls := "java/lang/IllegalArgumentException", name := "<init>", desc := "()V" } : Jvm.MethodName)) ∈ lw_all := lw_g (lw_at lw_m3 84 rfl) rfl
theorem q700 : (Jvm.Cond.methodLink "BakeryRing" (267 : Nat) ({ cls := "java/lang/StringBuilder", name := "length", desc := "()I" } : Jvm.MethodName)) ∈ lw_all := lw_g (lw_at lw_m3 107 rfl) rfl
theorem q707 : (Jvm.Cond.classLink "BakeryRing" (270 : Nat) "java/lang/IllegalStateException") ∈ lw_all := lw_g (lw_at lw_m3 114 rfl) rfl
theorem q716 : (Jvm.Cond.methodLink "BakeryRing" (272 : Nat) ({ cls := "java/lang/IllegalStateException", name := "<init>", desc := "()V" } : Jvm.MethodName)) ∈ lw_all := lw_g (lw_at lw_m3 123 rfl) rfl
theorem q722 : (Jvm.Cond.methodLink "BakeryRing" (273 : Nat) ({ cls := "java/lang/StringBuilder", name := "append", desc := "(C)Ljava/lang/StringBuilder;" } : Jvm.MethodName)) ∈ lw_all := lw_g (lw_at lw_m3 129 rfl) rfl
theorem q812 : (Jvm.Cond.instanceMethod ({ cls := "BakeryRing", name := "bakery", desc := "(II)I" } : Jvm.MethodName)) ∈ lw_all := lw_g (lw_at lw_m3 219 rfl) rfl
theorem q813 : (Jvm.Cond.selects "BakeryRing" ({ cls := "BakeryRing", name := "bakery", desc := "(II)I" } : Jvm.MethodName) ({ cls := "BakeryRing", name := "bakery", desc := "(II)I" } : Jvm.MethodName)) ∈ lw_all := lw_g (lw_at lw_m3 220 rfl) rfl
theorem q814 : (Jvm.Cond.codeWith ({ cls := "BakeryRing", name := "bakery", desc := "(II)I" } : Jvm.MethodName) prog_1_method_17_code (4 : Nat) (Option.some Jvm.ClassFile.FieldType.int) [((31 : Nat), (41 : Nat), (42 : Nat), (1 : Nat))]) ∈ lw_all := lw_g (lw_at lw_m3 221 rfl) rfl
theorem q815 : (Jvm.Cond.classLink "BakeryRing" (1 : Nat) "BakeryRing$Refused") ∈ lw_all := lw_g (lw_at lw_m3 222 rfl) rfl
theorem q816 : (Jvm.Cond.methodLink "BakeryRing" (176 : Nat) ({ cls := "BakeryRing", name := "begins", desc := "()V" } : Jvm.MethodName)) ∈ lw_all := lw_g (lw_at lw_m3 223 rfl) rfl
theorem q817 : (Jvm.Cond.privateMethod ({ cls := "BakeryRing", name := "begins", desc := "()V" } : Jvm.MethodName)) ∈ lw_tbl := lw_at lw_m3 224 rfl
theorem q818 : (Jvm.Cond.instanceMethod ({ cls := "BakeryRing", name := "begins", desc := "()V" } : Jvm.MethodName)) ∈ lw_all := lw_g (lw_at lw_m3 225 rfl) rfl
theorem q819 : (Jvm.Cond.code ({ cls := "BakeryRing", name := "begins", desc := "()V" } : Jvm.MethodName) prog_1_method_9_code (1 : Nat) (Option.none : Option Jvm.ClassFile.FieldType)) ∈ lw_all := lw_g (lw_at lw_m3 226 rfl) rfl
theorem q820 : (Jvm.Cond.methodLink "BakeryRing" (179 : Nat) ({ cls := "BakeryRing", name := "doBakery", desc := "(II)I" } : Jvm.MethodName)) ∈ lw_all := lw_g (lw_at lw_m3 227 rfl) rfl
theorem q821 : (Jvm.Cond.privateMethod ({ cls := "BakeryRing", name := "doBakery", desc := "(II)I" } : Jvm.MethodName)) ∈ lw_tbl := lw_at lw_m3 228 rfl
theorem q822 : (Jvm.Cond.instanceMethod ({ cls := "BakeryRing", name := "doBakery", desc := "(II)I" } : Jvm.MethodName)) ∈ lw_all := lw_g (lw_at lw_m3 229 rfl) rfl
theorem q823 : (Jvm.Cond.code ({ cls := "BakeryRing", name := "doBakery", desc := "(II)I" } : Jvm.MethodName) prog_1_method_16_code (4 : Nat) (Option.some Jvm.ClassFile.FieldType.int)) ∈ lw_all := lw_g (lw_at lw_m3 230 rfl) rfl
theorem q824 : (Jvm.Cond.methodLink "BakeryRing" (153 : Nat) ({ cls := "BakeryRing", name := "allow", desc := "(ZII)V" } : Jvm.MethodName)) ∈ lw_all := lw_g (lw_at lw_m3 231 rfl) rfl
theorem q825 : (Jvm.Cond.static ({ cls := "BakeryRing", name := "allow", desc := "(ZII)V" } : Jvm.MethodName)) ∈ lw_all := lw_g (lw_at lw_m3 232 rfl) rfl
theorem q826 : (Jvm.Cond.code ({ cls := "BakeryRing", name := "allow", desc := "(ZII)V" } : Jvm.MethodName) prog_1_method_3_code (3 : Nat) (Option.none : Option Jvm.ClassFile.FieldType)) ∈ lw_all := lw_g (lw_at lw_m3 233 rfl) rfl
theorem q835 : (Jvm.Cond.methodLink "BakeryRing" (3 : Nat) ({ cls := "BakeryRing$Refused", name := "<init>", desc := "(II)V" } : Jvm.MethodName)) ∈ lw_all := lw_g (lw_at lw_m4 2 rfl) rfl
theorem q848 : (Jvm.Cond.fieldLinkNest "BakeryRing" (386 : Nat) "BakeryRing$Refused" "reason" "I" "BakeryRing") ∈ lw_tbl := lw_at lw_m4 15 rfl
theorem q850 : (Jvm.Cond.fieldLinkNest "BakeryRing" (383 : Nat) "BakeryRing$Refused" "detail" "I" "BakeryRing") ∈ lw_tbl := lw_at lw_m4 17 rfl
theorem q857 : (Jvm.Cond.interfaceEntry "BakeryRing" (157 : Nat)) ∈ lw_tbl := lw_at lw_m4 24 rfl
theorem q858 : (Jvm.Cond.methodLink "BakeryRing" (157 : Nat) ({ cls := "java/util/List", name := "get", desc := "(I)Ljava/lang/Object;" } : Jvm.MethodName)) ∈ lw_all := lw_g (lw_at lw_m4 25 rfl) rfl
theorem q1086 : (Jvm.Cond.classLink "BakeryRing" (161 : Nat) "BakeryRing$Kind") ∈ lw_all := lw_g (lw_at lw_m5 13 rfl) rfl
theorem q1087 : (Jvm.Cond.methodLink "BakeryRing" (163 : Nat) ({ cls := "BakeryRing$Bakery", name := "comes", desc := "(LBakeryRing$Kind;I)V" } : Jvm.MethodName)) ∈ lw_all := lw_g (lw_at lw_m5 14 rfl) rfl
theorem q1091 : (Jvm.Cond.methodLink "BakeryRing" (169 : Nat) ({ cls := "BakeryRing$State", name := "moveAll", desc := "(I)I" } : Jvm.MethodName)) ∈ lw_all := lw_g (lw_at lw_m5 18 rfl) rfl
theorem q1153 : (Jvm.Cond.methodLink "BakeryRing" (183 : Nat) ({ cls := "BakeryRing", name := "changed", desc := "(I)I" } : Jvm.MethodName)) ∈ lw_all := lw_g (lw_at lw_m5 80 rfl) rfl
theorem q1154 : (Jvm.Cond.privateMethod ({ cls := "BakeryRing", name := "changed", desc := "(I)I" } : Jvm.MethodName)) ∈ lw_tbl := lw_at lw_m5 81 rfl
theorem q1155 : (Jvm.Cond.instanceMethod ({ cls := "BakeryRing", name := "changed", desc := "(I)I" } : Jvm.MethodName)) ∈ lw_all := lw_g (lw_at lw_m5 82 rfl) rfl
theorem q1156 : (Jvm.Cond.code ({ cls := "BakeryRing", name := "changed", desc := "(I)I" } : Jvm.MethodName) prog_1_method_10_code (3 : Nat) (Option.some Jvm.ClassFile.FieldType.int)) ∈ lw_all := lw_g (lw_at lw_m5 83 rfl) rfl
theorem q1157 : (Jvm.Cond.methodLink "BakeryRing" (115 : Nat) ({ cls := "java/lang/System", name := "arraycopy", desc := "(Ljava/lang/Object;ILjava/lang/Object;II)V" } : Jvm.MethodName)) ∈ lw_all := lw_g (lw_at lw_m5 84 rfl) rfl
theorem q1158 : (Jvm.Cond.methodLink "BakeryRing" (186 : Nat) ({ cls := "BakeryRing", name := "refusal", desc := "(LBakeryRing$Refused;)Ljava/lang/UnsupportedOperationException;" } : Jvm.MethodName)) ∈ lw_all := lw_g (lw_at lw_m5 85 rfl) rfl
theorem q1159 : (Jvm.Cond.privateMethod ({ cls := "BakeryRing", name := "refusal", desc := "(LBakeryRing$Refused;)Ljava/lang/UnsupportedOperationException;" } : Jvm.MethodName)) ∈ lw_tbl := lw_at lw_m5 86 rfl
theorem q1160 : (Jvm.Cond.instanceMethod ({ cls := "BakeryRing", name := "refusal", desc := "(LBakeryRing$Refused;)Ljava/lang/UnsupportedOperationException;" } : Jvm.MethodName)) ∈ lw_all := lw_g (lw_at lw_m5 87 rfl) rfl
theorem q1161 : (Jvm.Cond.code ({ cls := "BakeryRing", name := "refusal", desc := "(LBakeryRing$Refused;)Ljava/lang/UnsupportedOperationException;" } : Jvm.MethodName) prog_1_method_11_code (2 : Nat) (Option.some (Jvm.ClassFile.FieldType.object "java/lang/UnsupportedOperationException"))) ∈ lw_all := lw_g (lw_at lw_m5 88 rfl) rfl
theorem q1162 : (Jvm.Cond.classLink "BakeryRing" (125 : Nat) "java/lang/UnsupportedOperationException") ∈ lw_all := lw_g (lw_at lw_m5 89 rfl) rfl
theorem q1171 : (Jvm.Cond.methodLink "BakeryRing" (127 : Nat) ({ cls := "java/lang/UnsupportedOperationException", name := "<init>", desc := "()V" } : Jvm.MethodName)) ∈ lw_all := lw_g (lw_at lw_m5 98 rfl) rfl
theorem q1197 : (Jvm.Cond.instanceMethod ({ cls := "BakeryRing", name := "sign", desc := "(II)I" } : Jvm.MethodName)) ∈ lw_all := lw_g (lw_at lw_m5 124 rfl) rfl
theorem q1198 : (Jvm.Cond.selects "BakeryRing" ({ cls := "BakeryRing", name := "sign", desc := "(II)I" } : Jvm.MethodName) ({ cls := "BakeryRing", name := "sign", desc := "(II)I" } : Jvm.MethodName)) ∈ lw_all := lw_g (lw_at lw_m5 125 rfl) rfl
theorem q1199 : (Jvm.Cond.codeWith ({ cls := "BakeryRing", name := "sign", desc := "(II)I" } : Jvm.MethodName) prog_1_method_19_code (4 : Nat) (Option.some Jvm.ClassFile.FieldType.int) [((4 : Nat), (14 : Nat), (15 : Nat), (1 : Nat))]) ∈ lw_all := lw_g (lw_at lw_m5 126 rfl) rfl
theorem q1200 : (Jvm.Cond.methodLink "BakeryRing" (215 : Nat) ({ cls := "BakeryRing", name := "doSign", desc := "(II)I" } : Jvm.MethodName)) ∈ lw_all := lw_g (lw_at lw_m5 127 rfl) rfl
theorem q1201 : (Jvm.Cond.privateMethod ({ cls := "BakeryRing", name := "doSign", desc := "(II)I" } : Jvm.MethodName)) ∈ lw_tbl := lw_at lw_m5 128 rfl
theorem q1202 : (Jvm.Cond.instanceMethod ({ cls := "BakeryRing", name := "doSign", desc := "(II)I" } : Jvm.MethodName)) ∈ lw_all := lw_g (lw_at lw_m5 129 rfl) rfl
theorem q1203 : (Jvm.Cond.code ({ cls := "BakeryRing", name := "doSign", desc := "(II)I" } : Jvm.MethodName) prog_1_method_18_code (4 : Nat) (Option.some Jvm.ClassFile.FieldType.int)) ∈ lw_all := lw_g (lw_at lw_m5 130 rfl) rfl
theorem q1204 : (Jvm.Cond.methodLink "BakeryRing" (131 : Nat) ({ cls := "BakeryRing$State", name := "isBakery", desc := "(I)Z" } : Jvm.MethodName)) ∈ lw_all := lw_g (lw_at lw_m5 131 rfl) rfl
theorem q1209 : (Jvm.Cond.methodLink "BakeryRing" (190 : Nat) ({ cls := "BakeryRing", name := "isAngle", desc := "(I)Z" } : Jvm.MethodName)) ∈ lw_all := lw_g (lw_at lw_m5 136 rfl) rfl
theorem q1210 : (Jvm.Cond.static ({ cls := "BakeryRing", name := "isAngle", desc := "(I)Z" } : Jvm.MethodName)) ∈ lw_all := lw_g (lw_at lw_m5 137 rfl) rfl
theorem q1211 : (Jvm.Cond.code ({ cls := "BakeryRing", name := "isAngle", desc := "(I)Z" } : Jvm.MethodName) prog_1_method_14_code (1 : Nat) (Option.some Jvm.ClassFile.FieldType.boolean)) ∈ lw_all := lw_g (lw_at lw_m5 138 rfl) rfl
theorem q1212 : (Jvm.Cond.methodLink "BakeryRing" (135 : Nat) ({ cls := "BakeryRing", name := "exists", desc := "(Z)V" } : Jvm.MethodName)) ∈ lw_all := lw_g (lw_at lw_m5 139 rfl) rfl
theorem q1213 : (Jvm.Cond.static ({ cls := "BakeryRing", name := "exists", desc := "(Z)V" } : Jvm.MethodName)) ∈ lw_all := lw_g (lw_at lw_m5 140 rfl) rfl
theorem q1214 : (Jvm.Cond.code ({ cls := "BakeryRing", name := "exists", desc := "(Z)V" } : Jvm.MethodName) prog_1_method_4_code (1 : Nat) (Option.none : Option Jvm.ClassFile.FieldType)) ∈ lw_all := lw_g (lw_at lw_m5 141 rfl) rfl
theorem q1215 : (Jvm.Cond.classLink "BakeryRing" (7 : Nat) "java/lang/IndexOutOfBoundsException") ∈ lw_all := lw_g (lw_at lw_m5 142 rfl) rfl
theorem q1216 : (Jvm.Cond.methodLink "BakeryRing" (9 : Nat) ({ cls := "java/lang/IndexOutOfBoundsException", name := "<init>", desc := "()V" } : Jvm.MethodName)) ∈ lw_all := lw_g (lw_at lw_m5 143 rfl) rfl
theorem q1220 : (Jvm.Cond.methodLink "BakeryRing" (197 : Nat) ({ cls := "java/util/BitSet", name := "get", desc := "(I)Z" } : Jvm.MethodName)) ∈ lw_all := lw_g (lw_at lw_m5 147 rfl) rfl
theorem q1225 : (Jvm.Cond.methodLink "BakeryRing" (205 : Nat) ({ cls := "java/util/BitSet", name := "cardinality", desc := "()I" } : Jvm.MethodName)) ∈ lw_all := lw_g (lw_at lw_m5 152 rfl) rfl
theorem q1226 : (Jvm.Cond.methodLink "BakeryRing" (209 : Nat) ({ cls := "BakeryRing$State", name := "signsOf", desc := "(I)I" } : Jvm.MethodName)) ∈ lw_all := lw_g (lw_at lw_m5 153 rfl) rfl
theorem q1231 : (Jvm.Cond.static ({ cls := "BakeryRing", name := "bit", desc := "(Z)I" } : Jvm.MethodName)) ∈ lw_all := lw_g (lw_at lw_m5 158 rfl) rfl
theorem q1232 : (Jvm.Cond.code ({ cls := "BakeryRing", name := "bit", desc := "(Z)I" } : Jvm.MethodName) prog_1_method_2_code (1 : Nat) (Option.some Jvm.ClassFile.FieldType.int)) ∈ lw_all := lw_g (lw_at lw_m5 159 rfl) rfl
theorem q1233 : (Jvm.Cond.methodLink "BakeryRing" (212 : Nat) ({ cls := "java/util/BitSet", name := "set", desc := "(I)V" } : Jvm.MethodName)) ∈ lw_all := lw_g (lw_at lw_m5 160 rfl) rfl
theorem q1245 : (Jvm.Cond.instanceMethod ({ cls := "BakeryRing", name := "down", desc := "(I)I" } : Jvm.MethodName)) ∈ lw_all := lw_g (lw_at lw_m5 172 rfl) rfl
theorem q1246 : (Jvm.Cond.selects "BakeryRing" ({ cls := "BakeryRing", name := "down", desc := "(I)I" } : Jvm.MethodName) ({ cls := "BakeryRing", name := "down", desc := "(I)I" } : Jvm.MethodName)) ∈ lw_all := lw_g (lw_at lw_m5 173 rfl) rfl
theorem q1247 : (Jvm.Cond.codeWith ({ cls := "BakeryRing", name := "down", desc := "(I)I" } : Jvm.MethodName) prog_1_method_21_code (3 : Nat) (Option.some Jvm.ClassFile.FieldType.int) [((4 : Nat), (13 : Nat), (14 : Nat), (1 : Nat))]) ∈ lw_all := lw_g (lw_at lw_m5 174 rfl) rfl
theorem q1248 : (Jvm.Cond.methodLink "BakeryRing" (221 : Nat) ({ cls := "BakeryRing", name := "doDown", desc := "(I)I" } : Jvm.MethodName)) ∈ lw_all := lw_g (lw_at lw_m5 175 rfl) rfl
theorem q1249 : (Jvm.Cond.privateMethod ({ cls := "BakeryRing", name := "doDown", desc := "(I)I" } : Jvm.MethodName)) ∈ lw_tbl := lw_at lw_m5 176 rfl
theorem q1250 : (Jvm.Cond.instanceMethod ({ cls := "BakeryRing", name := "doDown", desc := "(I)I" } : Jvm.MethodName)) ∈ lw_all := lw_g (lw_at lw_m5 177 rfl) rfl
theorem q1251 : (Jvm.Cond.code ({ cls := "BakeryRing", name := "doDown", desc := "(I)I" } : Jvm.MethodName) prog_1_method_20_code (2 : Nat) (Option.some Jvm.ClassFile.FieldType.int)) ∈ lw_all := lw_g (lw_at lw_m5 178 rfl) rfl
theorem q1252 : (Jvm.Cond.methodLink "BakeryRing" (218 : Nat) ({ cls := "java/util/BitSet", name := "clear", desc := "(I)V" } : Jvm.MethodName)) ∈ lw_all := lw_g (lw_at lw_m5 179 rfl) rfl
theorem q1264 : (Jvm.Cond.instanceMethod ({ cls := "BakeryRing", name := "close", desc := "(I)I" } : Jvm.MethodName)) ∈ lw_all := lw_g (lw_at lw_m5 191 rfl) rfl
theorem q1265 : (Jvm.Cond.selects "BakeryRing" ({ cls := "BakeryRing", name := "close", desc := "(I)I" } : Jvm.MethodName) ({ cls := "BakeryRing", name := "close", desc := "(I)I" } : Jvm.MethodName)) ∈ lw_all := lw_g (lw_at lw_m5 192 rfl) rfl
theorem q1266 : (Jvm.Cond.codeWith ({ cls := "BakeryRing", name := "close", desc := "(I)I" } : Jvm.MethodName) prog_1_method_23_code (3 : Nat) (Option.some Jvm.ClassFile.FieldType.int) [((4 : Nat), (13 : Nat), (14 : Nat), (1 : Nat))]) ∈ lw_all := lw_g (lw_at lw_m5 193 rfl) rfl
theorem q1267 : (Jvm.Cond.methodLink "BakeryRing" (235 : Nat) ({ cls := "BakeryRing", name := "doClose", desc := "(I)I" } : Jvm.MethodName)) ∈ lw_all := lw_g (lw_at lw_m5 194 rfl) rfl
theorem q1268 : (Jvm.Cond.privateMethod ({ cls := "BakeryRing", name := "doClose", desc := "(I)I" } : Jvm.MethodName)) ∈ lw_tbl := lw_at lw_m5 195 rfl
theorem q1269 : (Jvm.Cond.instanceMethod ({ cls := "BakeryRing", name := "doClose", desc := "(I)I" } : Jvm.MethodName)) ∈ lw_all := lw_g (lw_at lw_m5 196 rfl) rfl
theorem q1270 : (Jvm.Cond.code ({ cls := "BakeryRing", name := "doClose", desc := "(I)I" } : Jvm.MethodName) prog_1_method_22_code (3 : Nat) (Option.some Jvm.ClassFile.FieldType.int)) ∈ lw_all := lw_g (lw_at lw_m5 197 rfl) rfl
theorem q1271 : (Jvm.Cond.methodLink "BakeryRing" (224 : Nat) ({ cls := "BakeryRing", name := "bakeryAt", desc := "(I)LBakeryRing$Bakery;" } : Jvm.MethodName)) ∈ lw_all := lw_g (lw_at lw_m5 198 rfl) rfl
theorem q1272 : (Jvm.Cond.privateMethod ({ cls := "BakeryRing", name := "bakeryAt", desc := "(I)LBakeryRing$Bakery;" } : Jvm.MethodName)) ∈ lw_tbl := lw_at lw_m5 199 rfl
theorem q1273 : (Jvm.Cond.instanceMethod ({ cls := "BakeryRing", name := "bakeryAt", desc := "(I)LBakeryRing$Bakery;" } : Jvm.MethodName)) ∈ lw_all := lw_g (lw_at lw_m5 200 rfl) rfl
theorem q1274 : (Jvm.Cond.code ({ cls := "BakeryRing", name := "bakeryAt", desc := "(I)LBakeryRing$Bakery;" } : Jvm.MethodName) prog_1_method_13_code (2 : Nat) (Option.some (Jvm.ClassFile.FieldType.object "BakeryRing$Bakery"))) ∈ lw_all := lw_g (lw_at lw_m5 201 rfl) rfl
theorem q1275 : (Jvm.Cond.methodLink "BakeryRing" (232 : Nat) ({ cls := "BakeryRing$State", name := "openMany", desc := "()I" } : Jvm.MethodName)) ∈ lw_all := lw_g (lw_at lw_m5 202 rfl) rfl
theorem q1283 : (Jvm.Cond.instanceMethod ({ cls := "BakeryRing", name := "open", desc := "(I)I" } : Jvm.MethodName)) ∈ lw_all := lw_g (lw_at lw_m5 210 rfl) rfl
theorem q1284 : (Jvm.Cond.selects "BakeryRing" ({ cls := "BakeryRing", name := "open", desc := "(I)I" } : Jvm.MethodName) ({ cls := "BakeryRing", name := "open", desc := "(I)I" } : Jvm.MethodName)) ∈ lw_all := lw_g (lw_at lw_m5 211 rfl) rfl
theorem q1285 : (Jvm.Cond.codeWith ({ cls := "BakeryRing", name := "open", desc := "(I)I" } : Jvm.MethodName) prog_1_method_25_code (3 : Nat) (Option.some Jvm.ClassFile.FieldType.int) [((4 : Nat), (13 : Nat), (14 : Nat), (1 : Nat))]) ∈ lw_all := lw_g (lw_at lw_m5 212 rfl) rfl
theorem q1286 : (Jvm.Cond.methodLink "BakeryRing" (238 : Nat) ({ cls := "BakeryRing", name := "doOpen", desc := "(I)I" } : Jvm.MethodName)) ∈ lw_all := lw_g (lw_at lw_m5 213 rfl) rfl
theorem q1287 : (Jvm.Cond.privateMethod ({ cls := "BakeryRing", name := "doOpen", desc := "(I)I" } : Jvm.MethodName)) ∈ lw_tbl := lw_at lw_m5 214 rfl
theorem q1288 : (Jvm.Cond.instanceMethod ({ cls := "BakeryRing", name := "doOpen", desc := "(I)I" } : Jvm.MethodName)) ∈ lw_all := lw_g (lw_at lw_m5 215 rfl) rfl
theorem q1289 : (Jvm.Cond.code ({ cls := "BakeryRing", name := "doOpen", desc := "(I)I" } : Jvm.MethodName) prog_1_method_24_code (3 : Nat) (Option.some Jvm.ClassFile.FieldType.int)) ∈ lw_all := lw_g (lw_at lw_m5 216 rfl) rfl
theorem q1294 : (Jvm.Cond.instanceMethod ({ cls := "BakeryRing", name := "oven", desc := "(II)I" } : Jvm.MethodName)) ∈ lw_all := lw_g (lw_at lw_m5 221 rfl) rfl
theorem q1295 : (Jvm.Cond.selects "BakeryRing" ({ cls := "BakeryRing", name := "oven", desc := "(II)I" } : Jvm.MethodName) ({ cls := "BakeryRing", name := "oven", desc := "(II)I" } : Jvm.MethodName)) ∈ lw_all := lw_g (lw_at lw_m5 222 rfl) rfl
theorem q1296 : (Jvm.Cond.codeWith ({ cls := "BakeryRing", name := "oven", desc := "(II)I" } : Jvm.MethodName) prog_1_method_27_code (4 : Nat) (Option.some Jvm.ClassFile.FieldType.int) [((4 : Nat), (14 : Nat), (15 : Nat), (1 : Nat))]) ∈ lw_all := lw_g (lw_at lw_m5 223 rfl) rfl
theorem q1297 : (Jvm.Cond.methodLink "BakeryRing" (244 : Nat) ({ cls := "BakeryRing", name := "doOven", desc := "(II)I" } : Jvm.MethodName)) ∈ lw_all := lw_g (lw_at lw_m5 224 rfl) rfl
theorem q1298 : (Jvm.Cond.privateMethod ({ cls := "BakeryRing", name := "doOven", desc := "(II)I" } : Jvm.MethodName)) ∈ lw_tbl := lw_at lw_m5 225 rfl
theorem q1299 : (Jvm.Cond.instanceMethod ({ cls := "BakeryRing", name := "doOven", desc := "(II)I" } : Jvm.MethodName)) ∈ lw_all := lw_g (lw_at lw_m5 226 rfl) rfl
theorem q1300 : (Jvm.Cond.code ({ cls := "BakeryRing", name := "doOven", desc := "(II)I" } : Jvm.MethodName) prog_1_method_26_code (4 : Nat) (Option.some Jvm.ClassFile.FieldType.int)) ∈ lw_all := lw_g (lw_at lw_m5 227 rfl) rfl
theorem q1305 : (Jvm.Cond.instanceMethod ({ cls := "BakeryRing", name := "come", desc := "(II)I" } : Jvm.MethodName)) ∈ lw_all := lw_g (lw_at lw_m5 232 rfl) rfl
theorem q1306 : (Jvm.Cond.selects "BakeryRing" ({ cls := "BakeryRing", name := "come", desc := "(II)I" } : Jvm.MethodName) ({ cls := "BakeryRing", name := "come", desc := "(II)I" } : Jvm.MethodName)) ∈ lw_all := lw_g (lw_at lw_m5 233 rfl) rfl
theorem q1307 : (Jvm.Cond.codeWith ({ cls := "BakeryRing", name := "come", desc := "(II)I" } : Jvm.MethodName) prog_1_method_29_code (4 : Nat) (Option.some Jvm.ClassFile.FieldType.int) [((4 : Nat), (14 : Nat), (15 : Nat), (1 : Nat))]) ∈ lw_all := lw_g (lw_at lw_m5 234 rfl) rfl
theorem q1308 : (Jvm.Cond.methodLink "BakeryRing" (255 : Nat) ({ cls := "BakeryRing", name := "doCome", desc := "(II)I" } : Jvm.MethodName)) ∈ lw_all := lw_g (lw_at lw_m5 235 rfl) rfl
theorem q1309 : (Jvm.Cond.privateMethod ({ cls := "BakeryRing", name := "doCome", desc := "(II)I" } : Jvm.MethodName)) ∈ lw_tbl := lw_at lw_m5 236 rfl
theorem q1310 : (Jvm.Cond.instanceMethod ({ cls := "BakeryRing", name := "doCome", desc := "(II)I" } : Jvm.MethodName)) ∈ lw_all := lw_g (lw_at lw_m5 237 rfl) rfl
theorem q1311 : (Jvm.Cond.code ({ cls := "BakeryRing", name := "doCome", desc := "(II)I" } : Jvm.MethodName) prog_1_method_28_code (4 : Nat) (Option.some Jvm.ClassFile.FieldType.int)) ∈ lw_all := lw_g (lw_at lw_m5 238 rfl) rfl
theorem q1312 : (Jvm.Cond.methodLink "BakeryRing" (251 : Nat) ({ cls := "BakeryRing$Customer", name := "comes", desc := "(II)V" } : Jvm.MethodName)) ∈ lw_all := lw_g (lw_at lw_m5 239 rfl) rfl
theorem q1320 : (Jvm.Cond.instanceMethod ({ cls := "BakeryRing", name := "leave", desc := "(I)I" } : Jvm.MethodName)) ∈ lw_all := lw_g (lw_at lw_m6 7 rfl) rfl
theorem q1321 : (Jvm.Cond.selects "BakeryRing" ({ cls := "BakeryRing", name := "leave", desc := "(I)I" } : Jvm.MethodName) ({ cls := "BakeryRing", name := "leave", desc := "(I)I" } : Jvm.MethodName)) ∈ lw_all := lw_g (lw_at lw_m6 8 rfl) rfl
theorem q1322 : (Jvm.Cond.code ({ cls := "BakeryRing", name := "leave", desc := "(I)I" } : Jvm.MethodName) prog_1_method_31_code (2 : Nat) (Option.some Jvm.ClassFile.FieldType.int)) ∈ lw_all := lw_g (lw_at lw_m6 9 rfl) rfl
theorem q1323 : (Jvm.Cond.methodLink "BakeryRing" (264 : Nat) ({ cls := "BakeryRing", name := "doLeave", desc := "(I)I" } : Jvm.MethodName)) ∈ lw_all := lw_g (lw_at lw_m6 10 rfl) rfl
theorem q1324 : (Jvm.Cond.privateMethod ({ cls := "BakeryRing", name := "doLeave", desc := "(I)I" } : Jvm.MethodName)) ∈ lw_tbl := lw_at lw_m6 11 rfl
theorem q1325 : (Jvm.Cond.instanceMethod ({ cls := "BakeryRing", name := "doLeave", desc := "(I)I" } : Jvm.MethodName)) ∈ lw_all := lw_g (lw_at lw_m6 12 rfl) rfl
theorem q1326 : (Jvm.Cond.code ({ cls := "BakeryRing", name := "doLeave", desc := "(I)I" } : Jvm.MethodName) prog_1_method_30_code (2 : Nat) (Option.some Jvm.ClassFile.FieldType.int)) ∈ lw_all := lw_g (lw_at lw_m6 13 rfl) rfl
theorem q1327 : (Jvm.Cond.methodLink "BakeryRing" (258 : Nat) ({ cls := "BakeryRing", name := "isCustomer", desc := "(I)Z" } : Jvm.MethodName)) ∈ lw_all := lw_g (lw_at lw_m6 14 rfl) rfl
theorem q1328 : (Jvm.Cond.privateMethod ({ cls := "BakeryRing", name := "isCustomer", desc := "(I)Z" } : Jvm.MethodName)) ∈ lw_tbl := lw_at lw_m6 15 rfl
theorem q1329 : (Jvm.Cond.instanceMethod ({ cls := "BakeryRing", name := "isCustomer", desc := "(I)Z" } : Jvm.MethodName)) ∈ lw_all := lw_g (lw_at lw_m6 16 rfl) rfl
theorem q1330 : (Jvm.Cond.code ({ cls := "BakeryRing", name := "isCustomer", desc := "(I)Z" } : Jvm.MethodName) prog_1_method_15_code (2 : Nat) (Option.some Jvm.ClassFile.FieldType.boolean)) ∈ lw_all := lw_g (lw_at lw_m6 17 rfl) rfl
theorem q1331 : (Jvm.Cond.methodLink "BakeryRing" (261 : Nat) ({ cls := "BakeryRing$State", name := "leaves", desc := "(I)V" } : Jvm.MethodName)) ∈ lw_all := lw_g (lw_at lw_m6 18 rfl) rfl
theorem q1339 : (Jvm.Cond.instanceMethod ({ cls := "BakeryRing", name := "script", desc := "()I" } : Jvm.MethodName)) ∈ lw_all := lw_g (lw_at lw_m6 26 rfl) rfl
theorem q1340 : (Jvm.Cond.selects "BakeryRing" ({ cls := "BakeryRing", name := "script", desc := "()I" } : Jvm.MethodName) ({ cls := "BakeryRing", name := "script", desc := "()I" } : Jvm.MethodName)) ∈ lw_all := lw_g (lw_at lw_m6 27 rfl) rfl
theorem q1341 : (Jvm.Cond.codeWith ({ cls := "BakeryRing", name := "script", desc := "()I" } : Jvm.MethodName) prog_1_method_44_code (2 : Nat) (Option.some Jvm.ClassFile.FieldType.int) [((11 : Nat), (19 : Nat), (20 : Nat), (1 : Nat))]) ∈ lw_all := lw_g (lw_at lw_m6 28 rfl) rfl
theorem q1342 : (Jvm.Cond.methodLink "BakeryRing" (373 : Nat) ({ cls := "BakeryRing", name := "readsScript", desc := "()Z" } : Jvm.MethodName)) ∈ lw_all := lw_g (lw_at lw_m6 29 rfl) rfl
theorem q1343 : (Jvm.Cond.privateMethod ({ cls := "BakeryRing", name := "readsScript", desc := "()Z" } : Jvm.MethodName)) ∈ lw_tbl := lw_at lw_m6 30 rfl
theorem q1344 : (Jvm.Cond.instanceMethod ({ cls := "BakeryRing", name := "readsScript", desc := "()Z" } : Jvm.MethodName)) ∈ lw_all := lw_g (lw_at lw_m6 31 rfl) rfl
theorem q1345 : (Jvm.Cond.codeWith ({ cls := "BakeryRing", name := "readsScript", desc := "()Z" } : Jvm.MethodName) prog_1_method_41_code (4 : Nat) (Option.some Jvm.ClassFile.FieldType.boolean) [((12 : Nat), (82 : Nat), (92 : Nat), (291 : Nat)), ((12 : Nat), (82 : Nat), (113 : Nat), (0 : Nat)), ((92 : Nat), (103 : Nat), (113 : Nat), (0 : Nat))]) ∈ lw_all := lw_g (lw_at lw_m6 32 rfl) rfl
theorem q1346 : (Jvm.Cond.classLink "BakeryRing" (291 : Nat) "BakeryRing$Fault") ∈ lw_all := lw_g (lw_at lw_m6 33 rfl) rfl
theorem q1347 : (Jvm.Cond.methodLink "BakeryRing" (346 : Nat) ({ cls := "java/util/LinkedList", name := "clear", desc := "()V" } : Jvm.MethodName)) ∈ lw_all := lw_g (lw_at lw_m6 34 rfl) rfl
theorem q1351 : (Jvm.Cond.methodLink "BakeryRing" (348 : Nat) ({ cls := "BakeryRing", name := "order", desc := "()LBakeryRing$Order;" } : Jvm.MethodName)) ∈ lw_all := lw_g (lw_at lw_m6 38 rfl) rfl
theorem q1352 : (Jvm.Cond.privateMethod ({ cls := "BakeryRing", name := "order", desc := "()LBakeryRing$Order;" } : Jvm.MethodName)) ∈ lw_tbl := lw_at lw_m6 39 rfl
theorem q1353 : (Jvm.Cond.instanceMethod ({ cls := "BakeryRing", name := "order", desc := "()LBakeryRing$Order;" } : Jvm.MethodName)) ∈ lw_all := lw_g (lw_at lw_m6 40 rfl) rfl
theorem q1354 : (Jvm.Cond.code ({ cls := "BakeryRing", name := "order", desc := "()LBakeryRing$Order;" } : Jvm.MethodName) prog_1_method_40_code (5 : Nat) (Option.some (Jvm.ClassFile.FieldType.object "BakeryRing$Order"))) ∈ lw_all := lw_g (lw_at lw_m6 41 rfl) rfl
theorem q1355 : (Jvm.Cond.methodLink "BakeryRing" (324 : Nat) ({ cls := "BakeryRing", name := "word", desc := "()Ljava/lang/String;" } : Jvm.MethodName)) ∈ lw_all := lw_g (lw_at lw_m6 42 rfl) rfl
theorem q1356 : (Jvm.Cond.privateMethod ({ cls := "BakeryRing", name := "word", desc := "()Ljava/lang/String;" } : Jvm.MethodName)) ∈ lw_tbl := lw_at lw_m6 43 rfl
theorem q1357 : (Jvm.Cond.instanceMethod ({ cls := "BakeryRing", name := "word", desc := "()Ljava/lang/String;" } : Jvm.MethodName)) ∈ lw_all := lw_g (lw_at lw_m6 44 rfl) rfl
theorem q1358 : (Jvm.Cond.code ({ cls := "BakeryRing", name := "word", desc := "()Ljava/lang/String;" } : Jvm.MethodName) prog_1_method_39_code (5 : Nat) (Option.some (Jvm.ClassFile.FieldType.object "java/lang/String"))) ∈ lw_all := lw_g (lw_at lw_m6 45 rfl) rfl
theorem q1359 : (Jvm.Cond.interfaceEntry "BakeryRing" (301 : Nat)) ∈ lw_tbl := lw_at lw_m6 46 rfl
theorem q1360 : (Jvm.Cond.methodLink "BakeryRing" (301 : Nat) ({ cls := "java/util/List", name := "iterator", desc := "()Ljava/util/Iterator;" } : Jvm.MethodName)) ∈ lw_all := lw_g (lw_at lw_m6 47 rfl) rfl
theorem q1438 : (Jvm.Cond.interfaceEntry "BakeryRing" (305 : Nat)) ∈ lw_tbl := lw_at lw_m6 125 rfl
theorem q1439 : (Jvm.Cond.methodLink "BakeryRing" (305 : Nat) ({ cls := "java/util/Iterator", name := "hasNext", desc := "()Z" } : Jvm.MethodName)) ∈ lw_all := lw_g (lw_at lw_m6 126 rfl) rfl
theorem q1471 : (Jvm.Cond.interfaceEntry "BakeryRing" (311 : Nat)) ∈ lw_tbl := lw_at lw_m6 158 rfl
theorem q1472 : (Jvm.Cond.methodLink "BakeryRing" (311 : Nat) ({ cls := "java/util/Iterator", name := "next", desc := "()Ljava/lang/Object;" } : Jvm.MethodName)) ∈ lw_all := lw_g (lw_at lw_m6 159 rfl) rfl
theorem q1597 : (Jvm.Cond.classLink "BakeryRing" (298 : Nat) "java/lang/String") ∈ lw_all := lw_g (lw_at lw_m7 44 rfl) rfl
theorem q1598 : (Jvm.Cond.methodLink "BakeryRing" (315 : Nat) ({ cls := "BakeryRing", name := "begun", desc := "(Ljava/lang/String;)I" } : Jvm.MethodName)) ∈ lw_all := lw_g (lw_at lw_m7 45 rfl) rfl
theorem q1599 : (Jvm.Cond.privateMethod ({ cls := "BakeryRing", name := "begun", desc := "(Ljava/lang/String;)I" } : Jvm.MethodName)) ∈ lw_tbl := lw_at lw_m7 46 rfl
theorem q1600 : (Jvm.Cond.instanceMethod ({ cls := "BakeryRing", name := "begun", desc := "(Ljava/lang/String;)I" } : Jvm.MethodName)) ∈ lw_all := lw_g (lw_at lw_m7 47 rfl) rfl
theorem q1601 : (Jvm.Cond.code ({ cls := "BakeryRing", name := "begun", desc := "(Ljava/lang/String;)I" } : Jvm.MethodName) prog_1_method_38_code (3 : Nat) (Option.some Jvm.ClassFile.FieldType.int)) ∈ lw_all := lw_g (lw_at lw_m7 48 rfl) rfl
theorem q1602 : (Jvm.Cond.methodLink "BakeryRing" (297 : Nat) ({ cls := "java/lang/String", name := "length", desc := "()I" } : Jvm.MethodName)) ∈ lw_all := lw_g (lw_at lw_m7 49 rfl) rfl
theorem q1603 : (Jvm.Cond.methodLink "BakeryRing" (283 : Nat) ({ cls := "java/lang/StringBuilder", name := "charAt", desc := "(I)C" } : Jvm.MethodName)) ∈ lw_all := lw_g (lw_at lw_m7 50 rfl) rfl
theorem q1613 : (Jvm.Cond.methodLink "BakeryRing" (300 : Nat) ({ cls := "java/lang/String", name := "charAt", desc := "(I)C" } : Jvm.MethodName)) ∈ lw_all := lw_g (lw_at lw_m7 60 rfl) rfl
theorem q1628 : (Jvm.Cond.methodLink "BakeryRing" (319 : Nat) ({ cls := "java/lang/Math", name := "max", desc := "(II)I" } : Jvm.MethodName)) ∈ lw_all := lw_g (lw_at lw_m7 75 rfl) rfl
theorem q1637 : (Jvm.Cond.methodLink "BakeryRing" (293 : Nat) ({ cls := "BakeryRing$Fault", name := "<init>", desc := "()V" } : Jvm.MethodName)) ∈ lw_all := lw_g (lw_at lw_m7 84 rfl) rfl
theorem q1643 : (Jvm.Cond.methodLink "BakeryRing" (328 : Nat) ({ cls := "java/lang/String", name := "hashCode", desc := "()I" } : Jvm.MethodName)) ∈ lw_all := lw_g (lw_at lw_m7 90 rfl) rfl
theorem q1700 : (Jvm.Cond.methodLink "BakeryRing" (331 : Nat) ({ cls := "java/lang/String", name := "equals", desc := "(Ljava/lang/Object;)Z" } : Jvm.MethodName)) ∈ lw_all := lw_g (lw_at lw_m7 147 rfl) rfl
theorem q1708 : (Jvm.Cond.methodLink "BakeryRing" (294 : Nat) ({ cls := "BakeryRing", name := "digit", desc := "()I" } : Jvm.MethodName)) ∈ lw_all := lw_g (lw_at lw_m7 155 rfl) rfl
theorem q1709 : (Jvm.Cond.privateMethod ({ cls := "BakeryRing", name := "digit", desc := "()I" } : Jvm.MethodName)) ∈ lw_tbl := lw_at lw_m7 156 rfl
theorem q1710 : (Jvm.Cond.instanceMethod ({ cls := "BakeryRing", name := "digit", desc := "()I" } : Jvm.MethodName)) ∈ lw_all := lw_g (lw_at lw_m7 157 rfl) rfl
theorem q1711 : (Jvm.Cond.code ({ cls := "BakeryRing", name := "digit", desc := "()I" } : Jvm.MethodName) prog_1_method_35_code (1 : Nat) (Option.some Jvm.ClassFile.FieldType.int)) ∈ lw_all := lw_g (lw_at lw_m7 158 rfl) rfl
theorem q1712 : (Jvm.Cond.methodLink "BakeryRing" (287 : Nat) ({ cls := "BakeryRing", name := "isHere", desc := "(CC)Z" } : Jvm.MethodName)) ∈ lw_all := lw_g (lw_at lw_m7 159 rfl) rfl
theorem q1713 : (Jvm.Cond.privateMethod ({ cls := "BakeryRing", name := "isHere", desc := "(CC)Z" } : Jvm.MethodName)) ∈ lw_tbl := lw_at lw_m7 160 rfl
theorem q1714 : (Jvm.Cond.instanceMethod ({ cls := "BakeryRing", name := "isHere", desc := "(CC)Z" } : Jvm.MethodName)) ∈ lw_all := lw_g (lw_at lw_m7 161 rfl) rfl
theorem q1715 : (Jvm.Cond.code ({ cls := "BakeryRing", name := "isHere", desc := "(CC)Z" } : Jvm.MethodName) prog_1_method_34_code (3 : Nat) (Option.some Jvm.ClassFile.FieldType.boolean)) ∈ lw_all := lw_g (lw_at lw_m7 162 rfl) rfl
theorem q1716 : (Jvm.Cond.methodLink "BakeryRing" (335 : Nat) ({ cls := "BakeryRing", name := "blank", desc := "()V" } : Jvm.MethodName)) ∈ lw_all := lw_g (lw_at lw_m7 163 rfl) rfl
theorem q1717 : (Jvm.Cond.privateMethod ({ cls := "BakeryRing", name := "blank", desc := "()V" } : Jvm.MethodName)) ∈ lw_tbl := lw_at lw_m7 164 rfl
theorem q1718 : (Jvm.Cond.instanceMethod ({ cls := "BakeryRing", name := "blank", desc := "()V" } : Jvm.MethodName)) ∈ lw_all := lw_g (lw_at lw_m7 165 rfl) rfl
theorem q1719 : (Jvm.Cond.code ({ cls := "BakeryRing", name := "blank", desc := "()V" } : Jvm.MethodName) prog_1_method_37_code (1 : Nat) (Option.none : Option Jvm.ClassFile.FieldType)) ∈ lw_all := lw_g (lw_at lw_m7 166 rfl) rfl
theorem q1720 : (Jvm.Cond.classLink "BakeryRing" (338 : Nat) "BakeryRing$Order") ∈ lw_all := lw_g (lw_at lw_m7 167 rfl) rfl
theorem q1722 : (Jvm.Cond.methodLink "BakeryRing" (340 : Nat) ({ cls := "BakeryRing", name := "number", desc := "()I" } : Jvm.MethodName)) ∈ lw_all := lw_g (lw_at lw_m7 169 rfl) rfl
theorem q1723 : (Jvm.Cond.privateMethod ({ cls := "BakeryRing", name := "number", desc := "()I" } : Jvm.MethodName)) ∈ lw_tbl := lw_at lw_m7 170 rfl
theorem q1724 : (Jvm.Cond.instanceMethod ({ cls := "BakeryRing", name := "number", desc := "()I" } : Jvm.MethodName)) ∈ lw_all := lw_g (lw_at lw_m7 171 rfl) rfl
theorem q1725 : (Jvm.Cond.code ({ cls := "BakeryRing", name := "number", desc := "()I" } : Jvm.MethodName) prog_1_method_36_code (3 : Nat) (Option.some Jvm.ClassFile.FieldType.int)) ∈ lw_all := lw_g (lw_at lw_m7 172 rfl) rfl
theorem q1726 : (Jvm.Cond.methodLink "BakeryRing" (343 : Nat) ({ cls := "BakeryRing$Order", name := "<init>", desc := "(Ljava/lang/String;[I)V" } : Jvm.MethodName)) ∈ lw_all := lw_g (lw_at lw_m7 173 rfl) rfl
theorem q1731 : (Jvm.Cond.fieldLinkNest "BakeryRing" (362 : Nat) "BakeryRing$Order" "word" "Ljava/lang/String;" "BakeryRing") ∈ lw_tbl := lw_at lw_m7 178 rfl
theorem q1733 : (Jvm.Cond.fieldLinkNest "BakeryRing" (359 : Nat) "BakeryRing$Order" "numbers" "[I" "BakeryRing") ∈ lw_tbl := lw_at lw_m7 180 rfl
theorem q1739 : (Jvm.Cond.methodLink "BakeryRing" (352 : Nat) ({ cls := "java/util/LinkedList", name := "addLast", desc := "(Ljava/lang/Object;)V" } : Jvm.MethodName)) ∈ lw_all := lw_g (lw_at lw_m7 186 rfl) rfl
theorem q1768 : (Jvm.Cond.methodLink "BakeryRing" (356 : Nat) ({ cls := "java/lang/StringBuilder", name := "setLength", desc := "(I)V" } : Jvm.MethodName)) ∈ lw_all := lw_g (lw_at lw_m7 215 rfl) rfl
theorem q1820 : (Jvm.Cond.methodLink "BakeryRing" (376 : Nat) ({ cls := "BakeryRing", name := "doScript", desc := "()I" } : Jvm.MethodName)) ∈ lw_all := lw_g (lw_at lw_m8 27 rfl) rfl
theorem q1821 : (Jvm.Cond.privateMethod ({ cls := "BakeryRing", name := "doScript", desc := "()I" } : Jvm.MethodName)) ∈ lw_tbl := lw_at lw_m8 28 rfl
theorem q1822 : (Jvm.Cond.instanceMethod ({ cls := "BakeryRing", name := "doScript", desc := "()I" } : Jvm.MethodName)) ∈ lw_all := lw_g (lw_at lw_m8 29 rfl) rfl
theorem q1823 : (Jvm.Cond.codeWith ({ cls := "BakeryRing", name := "doScript", desc := "()I" } : Jvm.MethodName) prog_1_method_43_code (5 : Nat) (Option.some Jvm.ClassFile.FieldType.int) [((29 : Nat), (36 : Nat), (39 : Nat), (1 : Nat)), ((29 : Nat), (36 : Nat), (54 : Nat), (7 : Nat)), ((29 : Nat), (36 : Nat), (54 : Nat), (12 : Nat))]) ∈ lw_all := lw_g (lw_at lw_m8 30 rfl) rfl
theorem q1824 : (Jvm.Cond.methodLink "BakeryRing" (365 : Nat) ({ cls := "java/util/LinkedList", name := "iterator", desc := "()Ljava/util/Iterator;" } : Jvm.MethodName)) ∈ lw_all := lw_g (lw_at lw_m8 31 rfl) rfl
theorem q1828 : (Jvm.Cond.methodLink "BakeryRing" (366 : Nat) ({ cls := "BakeryRing", name := "doOrder", desc := "(LBakeryRing$Order;)I" } : Jvm.MethodName)) ∈ lw_all := lw_g (lw_at lw_m8 35 rfl) rfl
theorem q1829 : (Jvm.Cond.privateMethod ({ cls := "BakeryRing", name := "doOrder", desc := "(LBakeryRing$Order;)I" } : Jvm.MethodName)) ∈ lw_tbl := lw_at lw_m8 36 rfl
theorem q1830 : (Jvm.Cond.instanceMethod ({ cls := "BakeryRing", name := "doOrder", desc := "(LBakeryRing$Order;)I" } : Jvm.MethodName)) ∈ lw_all := lw_g (lw_at lw_m8 37 rfl) rfl
theorem q1831 : (Jvm.Cond.code ({ cls := "BakeryRing", name := "doOrder", desc := "(LBakeryRing$Order;)I" } : Jvm.MethodName) prog_1_method_42_code (5 : Nat) (Option.some Jvm.ClassFile.FieldType.int)) ∈ lw_all := lw_g (lw_at lw_m8 38 rfl) rfl
theorem q1832 : (Jvm.Cond.methodLink "BakeryRing" (370 : Nat) ({ cls := "BakeryRing$Refused", name := "<init>", desc := "(IILBakeryRing$Refused;)V" } : Jvm.MethodName)) ∈ lw_all := lw_g (lw_at lw_m8 39 rfl) rfl
theorem q1838 : (Jvm.Cond.instanceMethod ({ cls := "BakeryRing", name := "faultPosition", desc := "()I" } : Jvm.MethodName)) ∈ lw_all := lw_g (lw_at lw_m8 45 rfl) rfl
theorem q1839 : (Jvm.Cond.selects "BakeryRing" ({ cls := "BakeryRing", name := "faultPosition", desc := "()I" } : Jvm.MethodName) ({ cls := "BakeryRing", name := "faultPosition", desc := "()I" } : Jvm.MethodName)) ∈ lw_all := lw_g (lw_at lw_m8 46 rfl) rfl
theorem q1840 : (Jvm.Cond.code ({ cls := "BakeryRing", name := "faultPosition", desc := "()I" } : Jvm.MethodName) prog_1_method_33_code (1 : Nat) (Option.some Jvm.ClassFile.FieldType.int)) ∈ lw_all := lw_g (lw_at lw_m8 47 rfl) rfl
theorem q1841 : (Jvm.Cond.methodLink "BakeryRing" (277 : Nat) ({ cls := "BakeryRing", name := "there", desc := "(I)I" } : Jvm.MethodName)) ∈ lw_all := lw_g (lw_at lw_m8 48 rfl) rfl
theorem q1842 : (Jvm.Cond.static ({ cls := "BakeryRing", name := "there", desc := "(I)I" } : Jvm.MethodName)) ∈ lw_all := lw_g (lw_at lw_m8 49 rfl) rfl
theorem q1843 : (Jvm.Cond.code ({ cls := "BakeryRing", name := "there", desc := "(I)I" } : Jvm.MethodName) prog_1_method_6_code (1 : Nat) (Option.some Jvm.ClassFile.FieldType.int)) ∈ lw_all := lw_g (lw_at lw_m8 50 rfl) rfl
theorem q1844 : (Jvm.Cond.classLink "BakeryRing" (15 : Nat) "java/util/NoSuchElementException") ∈ lw_all := lw_g (lw_at lw_m8 51 rfl) rfl
theorem q1845 : (Jvm.Cond.methodLink "BakeryRing" (17 : Nat) ({ cls := "java/util/NoSuchElementException", name := "<init>", desc := "()V" } : Jvm.MethodName)) ∈ lw_all := lw_g (lw_at lw_m8 52 rfl) rfl
theorem q1850 : (Jvm.Cond.instanceMethod ({ cls := "BakeryRing", name := "reason", desc := "(IZ)I" } : Jvm.MethodName)) ∈ lw_all := lw_g (lw_at lw_m8 57 rfl) rfl
theorem q1851 : (Jvm.Cond.selects "BakeryRing" ({ cls := "BakeryRing", name := "reason", desc := "(IZ)I" } : Jvm.MethodName) ({ cls := "BakeryRing", name := "reason", desc := "(IZ)I" } : Jvm.MethodName)) ∈ lw_all := lw_g (lw_at lw_m8 58 rfl) rfl
theorem q1852 : (Jvm.Cond.code ({ cls := "BakeryRing", name := "reason", desc := "(IZ)I" } : Jvm.MethodName) prog_1_method_45_code (4 : Nat) (Option.some Jvm.ClassFile.FieldType.int)) ∈ lw_all := lw_g (lw_at lw_m8 59 rfl) rfl
theorem q1853 : (Jvm.Cond.methodLink "BakeryRing" (379 : Nat) ({ cls := "BakeryRing$Refused", name := "at", desc := "(I)LBakeryRing$Refused;" } : Jvm.MethodName)) ∈ lw_all := lw_g (lw_at lw_m8 60 rfl) rfl
theorem q1868 : (Jvm.Cond.instanceMethod ({ cls := "BakeryRing", name := "bakeryOf", desc := "(II)I" } : Jvm.MethodName)) ∈ lw_all := lw_g (lw_at lw_m8 75 rfl) rfl
theorem q1869 : (Jvm.Cond.selects "BakeryRing" ({ cls := "BakeryRing", name := "bakeryOf", desc := "(II)I" } : Jvm.MethodName) ({ cls := "BakeryRing", name := "bakeryOf", desc := "(II)I" } : Jvm.MethodName)) ∈ lw_all := lw_g (lw_at lw_m8 76 rfl) rfl
theorem q1870 : (Jvm.Cond.code ({ cls := "BakeryRing", name := "bakeryOf", desc := "(II)I" } : Jvm.MethodName) prog_1_method_47_code (4 : Nat) (Option.some Jvm.ClassFile.FieldType.int)) ∈ lw_all := lw_g (lw_at lw_m8 77 rfl) rfl
theorem q1871 : (Jvm.Cond.methodLink "BakeryRing" (400 : Nat) ({ cls := "BakeryRing$Kind", name := "number", desc := "()I" } : Jvm.MethodName)) ∈ lw_all := lw_g (lw_at lw_m8 78 rfl) rfl
theorem q1880 : (Jvm.Cond.methodLink "BakeryRing" (401 : Nat) ({ cls := "BakeryRing$Bakery", name := "room", desc := "()I" } : Jvm.MethodName)) ∈ lw_all := lw_g (lw_at lw_m8 87 rfl) rfl
theorem q1881 : (Jvm.Cond.methodLink "BakeryRing" (392 : Nat) ({ cls := "BakeryRing", name := "bit", desc := "(Z)I" } : Jvm.MethodName)) ∈ lw_all := lw_g (lw_at lw_m8 88 rfl) rfl
theorem q1882 : (Jvm.Cond.methodLink "BakeryRing" (404 : Nat) ({ cls := "BakeryRing", name := "customersOf", desc := "(I)I" } : Jvm.MethodName)) ∈ lw_all := lw_g (lw_at lw_m8 89 rfl) rfl
theorem q1883 : (Jvm.Cond.privateMethod ({ cls := "BakeryRing", name := "customersOf", desc := "(I)I" } : Jvm.MethodName)) ∈ lw_tbl := lw_at lw_m8 90 rfl
theorem q1884 : (Jvm.Cond.instanceMethod ({ cls := "BakeryRing", name := "customersOf", desc := "(I)I" } : Jvm.MethodName)) ∈ lw_all := lw_g (lw_at lw_m8 91 rfl) rfl
theorem q1885 : (Jvm.Cond.code ({ cls := "BakeryRing", name := "customersOf", desc := "(I)I" } : Jvm.MethodName) prog_1_method_46_code (4 : Nat) (Option.some Jvm.ClassFile.FieldType.int)) ∈ lw_all := lw_g (lw_at lw_m8 92 rfl) rfl
theorem q1886 : (Jvm.Cond.methodLink "BakeryRing" (410 : Nat) ({ cls := "BakeryRing$State", name := "isOverloaded", desc := "(I)Z" } : Jvm.MethodName)) ∈ lw_all := lw_g (lw_at lw_m8 93 rfl) rfl
theorem q1894 : (Jvm.Cond.instanceMethod ({ cls := "BakeryRing", name := "signAt", desc := "(I)I" } : Jvm.MethodName)) ∈ lw_all := lw_g (lw_at lw_m8 101 rfl) rfl
theorem q1895 : (Jvm.Cond.selects "BakeryRing" ({ cls := "BakeryRing", name := "signAt", desc := "(I)I" } : Jvm.MethodName) ({ cls := "BakeryRing", name := "signAt", desc := "(I)I" } : Jvm.MethodName)) ∈ lw_all := lw_g (lw_at lw_m8 102 rfl) rfl
theorem q1896 : (Jvm.Cond.code ({ cls := "BakeryRing", name := "signAt", desc := "(I)I" } : Jvm.MethodName) prog_1_method_48_code (4 : Nat) (Option.some Jvm.ClassFile.FieldType.int)) ∈ lw_all := lw_g (lw_at lw_m8 103 rfl) rfl
theorem q1897 : (Jvm.Cond.methodLink "BakeryRing" (413 : Nat) ({ cls := "java/util/BitSet", name := "nextSetBit", desc := "(I)I" } : Jvm.MethodName)) ∈ lw_all := lw_g (lw_at lw_m8 104 rfl) rfl
theorem q1902 : (Jvm.Cond.instanceMethod ({ cls := "BakeryRing", name := "signOf", desc := "(I)I" } : Jvm.MethodName)) ∈ lw_all := lw_g (lw_at lw_m8 109 rfl) rfl
theorem q1903 : (Jvm.Cond.selects "BakeryRing" ({ cls := "BakeryRing", name := "signOf", desc := "(I)I" } : Jvm.MethodName) ({ cls := "BakeryRing", name := "signOf", desc := "(I)I" } : Jvm.MethodName)) ∈ lw_all := lw_g (lw_at lw_m8 110 rfl) rfl
theorem q1904 : (Jvm.Cond.code ({ cls := "BakeryRing", name := "signOf", desc := "(I)I" } : Jvm.MethodName) prog_1_method_49_code (2 : Nat) (Option.some Jvm.ClassFile.FieldType.int)) ∈ lw_all := lw_g (lw_at lw_m8 111 rfl) rfl
theorem q1909 : (Jvm.Cond.instanceMethod ({ cls := "BakeryRing", name := "customerOf", desc := "(II)I" } : Jvm.MethodName)) ∈ lw_all := lw_g (lw_at lw_m8 116 rfl) rfl
theorem q1910 : (Jvm.Cond.selects "BakeryRing" ({ cls := "BakeryRing", name := "customerOf", desc := "(II)I" } : Jvm.MethodName) ({ cls := "BakeryRing", name := "customerOf", desc := "(II)I" } : Jvm.MethodName)) ∈ lw_all := lw_g (lw_at lw_m8 117 rfl) rfl
theorem q1911 : (Jvm.Cond.code ({ cls := "BakeryRing", name := "customerOf", desc := "(II)I" } : Jvm.MethodName) prog_1_method_50_code (4 : Nat) (Option.some Jvm.ClassFile.FieldType.int)) ∈ lw_all := lw_g (lw_at lw_m8 118 rfl) rfl
theorem q1916 : (Jvm.Cond.instanceMethod ({ cls := "BakeryRing", name := "way", desc := "(II)I" } : Jvm.MethodName)) ∈ lw_all := lw_g (lw_at lw_m8 123 rfl) rfl
theorem q1917 : (Jvm.Cond.selects "BakeryRing" ({ cls := "BakeryRing", name := "way", desc := "(II)I" } : Jvm.MethodName) ({ cls := "BakeryRing", name := "way", desc := "(II)I" } : Jvm.MethodName)) ∈ lw_all := lw_g (lw_at lw_m8 124 rfl) rfl
theorem q1918 : (Jvm.Cond.code ({ cls := "BakeryRing", name := "way", desc := "(II)I" } : Jvm.MethodName) prog_1_method_51_code (3 : Nat) (Option.some Jvm.ClassFile.FieldType.int)) ∈ lw_all := lw_g (lw_at lw_m8 125 rfl) rfl
theorem q1919 : (Jvm.Cond.methodLink "BakeryRing" (431 : Nat) ({ cls := "BakeryRing", name := "wayBetween", desc := "(II)I" } : Jvm.MethodName)) ∈ lw_all := lw_g (lw_at lw_m8 126 rfl) rfl
theorem q1920 : (Jvm.Cond.static ({ cls := "BakeryRing", name := "wayBetween", desc := "(II)I" } : Jvm.MethodName)) ∈ lw_all := lw_g (lw_at lw_m8 127 rfl) rfl
theorem q1921 : (Jvm.Cond.code ({ cls := "BakeryRing", name := "wayBetween", desc := "(II)I" } : Jvm.MethodName) prog_1_method_7_code (2 : Nat) (Option.some Jvm.ClassFile.FieldType.int)) ∈ lw_all := lw_g (lw_at lw_m8 128 rfl) rfl
theorem q1926 : (Jvm.Cond.instanceMethod ({ cls := "BakeryRing", name := "nearest", desc := "(I)I" } : Jvm.MethodName)) ∈ lw_all := lw_g (lw_at lw_m8 133 rfl) rfl
theorem q1927 : (Jvm.Cond.selects "BakeryRing" ({ cls := "BakeryRing", name := "nearest", desc := "(I)I" } : Jvm.MethodName) ({ cls := "BakeryRing", name := "nearest", desc := "(I)I" } : Jvm.MethodName)) ∈ lw_all := lw_g (lw_at lw_m8 134 rfl) rfl
theorem q1928 : (Jvm.Cond.code ({ cls := "BakeryRing", name := "nearest", desc := "(I)I" } : Jvm.MethodName) prog_1_method_53_code (2 : Nat) (Option.some Jvm.ClassFile.FieldType.int)) ∈ lw_all := lw_g (lw_at lw_m8 135 rfl) rfl
theorem q1929 : (Jvm.Cond.methodLink "BakeryRing" (437 : Nat) ({ cls := "BakeryRing", name := "firstOpen", desc := "(I)I" } : Jvm.MethodName)) ∈ lw_all := lw_g (lw_at lw_m8 136 rfl) rfl
theorem q1930 : (Jvm.Cond.privateMethod ({ cls := "BakeryRing", name := "firstOpen", desc := "(I)I" } : Jvm.MethodName)) ∈ lw_tbl := lw_at lw_m8 137 rfl
theorem q1931 : (Jvm.Cond.instanceMethod ({ cls := "BakeryRing", name := "firstOpen", desc := "(I)I" } : Jvm.MethodName)) ∈ lw_all := lw_g (lw_at lw_m8 138 rfl) rfl
theorem q1932 : (Jvm.Cond.code ({ cls := "BakeryRing", name := "firstOpen", desc := "(I)I" } : Jvm.MethodName) prog_1_method_52_code (4 : Nat) (Option.some Jvm.ClassFile.FieldType.int)) ∈ lw_all := lw_g (lw_at lw_m8 139 rfl) rfl
theorem q1933 : (Jvm.Cond.methodLink "BakeryRing" (434 : Nat) ({ cls := "BakeryRing$State", name := "signFrom", desc := "(I)I" } : Jvm.MethodName)) ∈ lw_all := lw_g (lw_at lw_m8 140 rfl) rfl
theorem q1938 : (Jvm.Cond.instanceMethod ({ cls := "BakeryRing", name := "nearestAgain", desc := "(I)I" } : Jvm.MethodName)) ∈ lw_all := lw_g (lw_at lw_m8 145 rfl) rfl
theorem q1939 : (Jvm.Cond.selects "BakeryRing" ({ cls := "BakeryRing", name := "nearestAgain", desc := "(I)I" } : Jvm.MethodName) ({ cls := "BakeryRing", name := "nearestAgain", desc := "(I)I" } : Jvm.MethodName)) ∈ lw_all := lw_g (lw_at lw_m8 146 rfl) rfl
theorem q1940 : (Jvm.Cond.code ({ cls := "BakeryRing", name := "nearestAgain", desc := "(I)I" } : Jvm.MethodName) prog_1_method_54_code (5 : Nat) (Option.some Jvm.ClassFile.FieldType.int)) ∈ lw_all := lw_g (lw_at lw_m8 147 rfl) rfl
theorem q1945 : (Jvm.Cond.instanceMethod ({ cls := "BakeryRing", name := "wouldGo", desc := "(II)I" } : Jvm.MethodName)) ∈ lw_all := lw_g (lw_at lw_m8 152 rfl) rfl
theorem q1946 : (Jvm.Cond.selects "BakeryRing" ({ cls := "BakeryRing", name := "wouldGo", desc := "(II)I" } : Jvm.MethodName) ({ cls := "BakeryRing", name := "wouldGo", desc := "(II)I" } : Jvm.MethodName)) ∈ lw_all := lw_g (lw_at lw_m8 153 rfl) rfl
theorem q1947 : (Jvm.Cond.code ({ cls := "BakeryRing", name := "wouldGo", desc := "(II)I" } : Jvm.MethodName) prog_1_method_55_code (3 : Nat) (Option.some Jvm.ClassFile.FieldType.int)) ∈ lw_all := lw_g (lw_at lw_m8 154 rfl) rfl
theorem q1948 : (Jvm.Cond.methodLink "BakeryRing" (440 : Nat) ({ cls := "BakeryRing$State", name := "goesFrom", desc := "(II)I" } : Jvm.MethodName)) ∈ lw_all := lw_g (lw_at lw_m8 155 rfl) rfl
theorem q1953 : (Jvm.Cond.instanceMethod ({ cls := "BakeryRing", name := "wouldMove", desc := "(I)I" } : Jvm.MethodName)) ∈ lw_all := lw_g (lw_at lw_m8 160 rfl) rfl
theorem q1954 : (Jvm.Cond.selects "BakeryRing" ({ cls := "BakeryRing", name := "wouldMove", desc := "(I)I" } : Jvm.MethodName) ({ cls := "BakeryRing", name := "wouldMove", desc := "(I)I" } : Jvm.MethodName)) ∈ lw_all := lw_g (lw_at lw_m8 161 rfl) rfl
theorem q1955 : (Jvm.Cond.code ({ cls := "BakeryRing", name := "wouldMove", desc := "(I)I" } : Jvm.MethodName) prog_1_method_56_code (3 : Nat) (Option.some Jvm.ClassFile.FieldType.int)) ∈ lw_all := lw_g (lw_at lw_m8 162 rfl) rfl
theorem q1960 : (Jvm.Cond.instanceMethod ({ cls := "BakeryRing", name := "wouldLoad", desc := "(II)I" } : Jvm.MethodName)) ∈ lw_all := lw_g (lw_at lw_m8 167 rfl) rfl
theorem q1961 : (Jvm.Cond.selects "BakeryRing" ({ cls := "BakeryRing", name := "wouldLoad", desc := "(II)I" } : Jvm.MethodName) ({ cls := "BakeryRing", name := "wouldLoad", desc := "(II)I" } : Jvm.MethodName)) ∈ lw_all := lw_g (lw_at lw_m8 168 rfl) rfl
theorem q1962 : (Jvm.Cond.code ({ cls := "BakeryRing", name := "wouldLoad", desc := "(II)I" } : Jvm.MethodName) prog_1_method_58_code (3 : Nat) (Option.some Jvm.ClassFile.FieldType.int)) ∈ lw_all := lw_g (lw_at lw_m8 169 rfl) rfl
theorem q1963 : (Jvm.Cond.methodLink "BakeryRing" (443 : Nat) ({ cls := "BakeryRing", name := "putsAside", desc := "(II)V" } : Jvm.MethodName)) ∈ lw_all := lw_g (lw_at lw_m8 170 rfl) rfl
theorem q1964 : (Jvm.Cond.privateMethod ({ cls := "BakeryRing", name := "putsAside", desc := "(II)V" } : Jvm.MethodName)) ∈ lw_tbl := lw_at lw_m8 171 rfl
theorem q1965 : (Jvm.Cond.instanceMethod ({ cls := "BakeryRing", name := "putsAside", desc := "(II)V" } : Jvm.MethodName)) ∈ lw_all := lw_g (lw_at lw_m8 172 rfl) rfl
theorem q1966 : (Jvm.Cond.code ({ cls := "BakeryRing", name := "putsAside", desc := "(II)V" } : Jvm.MethodName) prog_1_method_57_code (4 : Nat) (Option.none : Option Jvm.ClassFile.FieldType)) ∈ lw_all := lw_g (lw_at lw_m8 173 rfl) rfl
theorem q1971 : (Jvm.Cond.instanceMethod ({ cls := "BakeryRing", name := "bestAngle", desc := "(I)I" } : Jvm.MethodName)) ∈ lw_all := lw_g (lw_at lw_m8 178 rfl) rfl
theorem q1972 : (Jvm.Cond.selects "BakeryRing" ({ cls := "BakeryRing", name := "bestAngle", desc := "(I)I" } : Jvm.MethodName) ({ cls := "BakeryRing", name := "bestAngle", desc := "(I)I" } : Jvm.MethodName)) ∈ lw_all := lw_g (lw_at lw_m8 179 rfl) rfl
theorem q1973 : (Jvm.Cond.code ({ cls := "BakeryRing", name := "bestAngle", desc := "(I)I" } : Jvm.MethodName) prog_1_method_59_code (5 : Nat) (Option.some Jvm.ClassFile.FieldType.int)) ∈ lw_all := lw_g (lw_at lw_m8 180 rfl) rfl
theorem q1974 : (Jvm.Cond.constant "BakeryRing" (448 : Nat) (2147483647 : Int32)) ∈ lw_all := lw_g (lw_at lw_m8 181 rfl) rfl
theorem q1975 : (Jvm.Cond.methodLink "BakeryRing" (449 : Nat) ({ cls := "java/util/BitSet", name := "nextClearBit", desc := "(I)I" } : Jvm.MethodName)) ∈ lw_all := lw_g (lw_at lw_m8 182 rfl) rfl
theorem q1979 : (Jvm.Cond.methodLink "BakeryRing" (452 : Nat) ({ cls := "BakeryRing$State", name := "greatestLoad", desc := "()I" } : Jvm.MethodName)) ∈ lw_all := lw_g (lw_at lw_m8 186 rfl) rfl
theorem q1988 : (Jvm.Cond.instanceMethod ({ cls := "BakeryRing", name := "loadAgain", desc := "(I)I" } : Jvm.MethodName)) ∈ lw_all := lw_g (lw_at lw_m8 195 rfl) rfl
theorem q1989 : (Jvm.Cond.selects "BakeryRing" ({ cls := "BakeryRing", name := "loadAgain", desc := "(I)I" } : Jvm.MethodName) ({ cls := "BakeryRing", name := "loadAgain", desc := "(I)I" } : Jvm.MethodName)) ∈ lw_all := lw_g (lw_at lw_m8 196 rfl) rfl
theorem q1990 : (Jvm.Cond.code ({ cls := "BakeryRing", name := "loadAgain", desc := "(I)I" } : Jvm.MethodName) prog_1_method_61_code (6 : Nat) (Option.some Jvm.ClassFile.FieldType.int)) ∈ lw_all := lw_g (lw_at lw_m8 197 rfl) rfl
theorem q1991 : (Jvm.Cond.methodLink "BakeryRing" (463 : Nat) ({ cls := "BakeryRing", name := "anglesOf", desc := "(I)Ljava/util/ArrayDeque;" } : Jvm.MethodName)) ∈ lw_all := lw_g (lw_at lw_m8 198 rfl) rfl
theorem q1992 : (Jvm.Cond.privateMethod ({ cls := "BakeryRing", name := "anglesOf", desc := "(I)Ljava/util/ArrayDeque;" } : Jvm.MethodName)) ∈ lw_tbl := lw_at lw_m8 199 rfl
theorem q1993 : (Jvm.Cond.instanceMethod ({ cls := "BakeryRing", name := "anglesOf", desc := "(I)Ljava/util/ArrayDeque;" } : Jvm.MethodName)) ∈ lw_all := lw_g (lw_at lw_m8 200 rfl) rfl
theorem q1994 : (Jvm.Cond.code ({ cls := "BakeryRing", name := "anglesOf", desc := "(I)Ljava/util/ArrayDeque;" } : Jvm.MethodName) prog_1_method_60_code (4 : Nat) (Option.some (Jvm.ClassFile.FieldType.object "java/util/ArrayDeque"))) ∈ lw_all := lw_g (lw_at lw_m8 201 rfl) rfl
theorem q1995 : (Jvm.Cond.classLink "BakeryRing" (455 : Nat) "java/util/ArrayDeque") ∈ lw_all := lw_g (lw_at lw_m8 202 rfl) rfl
theorem q1997 : (Jvm.Cond.methodLink "BakeryRing" (457 : Nat) ({ cls := "java/util/ArrayDeque", name := "<init>", desc := "(I)V" } : Jvm.MethodName)) ∈ lw_all := lw_g (lw_at lw_m8 204 rfl) rfl
theorem q2015 : (Jvm.Cond.methodLink "BakeryRing" (458 : Nat) ({ cls := "java/lang/Integer", name := "valueOf", desc := "(I)Ljava/lang/Integer;" } : Jvm.MethodName)) ∈ lw_all := lw_g (lw_at lw_m8 222 rfl) rfl
theorem q2035 : (Jvm.Cond.methodLink "BakeryRing" (462 : Nat) ({ cls := "java/util/ArrayDeque", name := "addLast", desc := "(Ljava/lang/Object;)V" } : Jvm.MethodName)) ∈ lw_all := lw_g (lw_at lw_m9 2 rfl) rfl
theorem q2065 : (Jvm.Cond.methodLink "BakeryRing" (467 : Nat) ({ cls := "java/util/ArrayDeque", name := "iterator", desc := "()Ljava/util/Iterator;" } : Jvm.MethodName)) ∈ lw_all := lw_g (lw_at lw_m9 32 rfl) rfl
theorem q2095 : (Jvm.Cond.classLink "BakeryRing" (446 : Nat) "java/lang/Integer") ∈ lw_all := lw_g (lw_at lw_m9 62 rfl) rfl
theorem q2096 : (Jvm.Cond.methodLink "BakeryRing" (468 : Nat) ({ cls := "java/lang/Integer", name := "intValue", desc := "()I" } : Jvm.MethodName)) ∈ lw_all := lw_g (lw_at lw_m9 63 rfl) rfl
theorem q2104 : (Jvm.Cond.instanceMethod ({ cls := "BakeryRing", name := "span", desc := "(I)I" } : Jvm.MethodName)) ∈ lw_all := lw_g (lw_at lw_m9 71 rfl) rfl
theorem q2105 : (Jvm.Cond.selects "BakeryRing" ({ cls := "BakeryRing", name := "span", desc := "(I)I" } : Jvm.MethodName) ({ cls := "BakeryRing", name := "span", desc := "(I)I" } : Jvm.MethodName)) ∈ lw_all := lw_g (lw_at lw_m9 72 rfl) rfl
theorem q2106 : (Jvm.Cond.code ({ cls := "BakeryRing", name := "span", desc := "(I)I" } : Jvm.MethodName) prog_1_method_62_code (4 : Nat) (Option.some Jvm.ClassFile.FieldType.int)) ∈ lw_all := lw_g (lw_at lw_m9 73 rfl) rfl
theorem q2111 : (Jvm.Cond.instanceMethod ({ cls := "BakeryRing", name := "customers", desc := "(II)I" } : Jvm.MethodName)) ∈ lw_all := lw_g (lw_at lw_m9 78 rfl) rfl
theorem q2112 : (Jvm.Cond.selects "BakeryRing" ({ cls := "BakeryRing", name := "customers", desc := "(II)I" } : Jvm.MethodName) ({ cls := "BakeryRing", name := "customers", desc := "(II)I" } : Jvm.MethodName)) ∈ lw_all := lw_g (lw_at lw_m9 79 rfl) rfl
theorem q2113 : (Jvm.Cond.code ({ cls := "BakeryRing", name := "customers", desc := "(II)I" } : Jvm.MethodName) prog_1_method_64_code (6 : Nat) (Option.some Jvm.ClassFile.FieldType.int)) ∈ lw_all := lw_g (lw_at lw_m9 80 rfl) rfl
theorem q2114 : (Jvm.Cond.methodLink "BakeryRing" (471 : Nat) ({ cls := "BakeryRing", name := "listOf", desc := "(I)Ljava/util/LinkedList;" } : Jvm.MethodName)) ∈ lw_all := lw_g (lw_at lw_m9 81 rfl) rfl
theorem q2115 : (Jvm.Cond.privateMethod ({ cls := "BakeryRing", name := "listOf", desc := "(I)Ljava/util/LinkedList;" } : Jvm.MethodName)) ∈ lw_tbl := lw_at lw_m9 82 rfl
theorem q2116 : (Jvm.Cond.instanceMethod ({ cls := "BakeryRing", name := "listOf", desc := "(I)Ljava/util/LinkedList;" } : Jvm.MethodName)) ∈ lw_all := lw_g (lw_at lw_m9 83 rfl) rfl
theorem q2117 : (Jvm.Cond.code ({ cls := "BakeryRing", name := "listOf", desc := "(I)Ljava/util/LinkedList;" } : Jvm.MethodName) prog_1_method_63_code (4 : Nat) (Option.some (Jvm.ClassFile.FieldType.object "java/util/LinkedList"))) ∈ lw_all := lw_g (lw_at lw_m9 84 rfl) rfl
theorem q2122 : (Jvm.Cond.instanceMethod ({ cls := "BakeryRing", name := "ranked", desc := "(I)I" } : Jvm.MethodName)) ∈ lw_all := lw_g (lw_at lw_m9 89 rfl) rfl
theorem q2123 : (Jvm.Cond.selects "BakeryRing" ({ cls := "BakeryRing", name := "ranked", desc := "(I)I" } : Jvm.MethodName) ({ cls := "BakeryRing", name := "ranked", desc := "(I)I" } : Jvm.MethodName)) ∈ lw_all := lw_g (lw_at lw_m9 90 rfl) rfl
theorem q2124 : (Jvm.Cond.code ({ cls := "BakeryRing", name := "ranked", desc := "(I)I" } : Jvm.MethodName) prog_1_method_66_code (5 : Nat) (Option.some Jvm.ClassFile.FieldType.int)) ∈ lw_all := lw_g (lw_at lw_m9 91 rfl) rfl
theorem q2125 : (Jvm.Cond.methodLink "BakeryRing" (475 : Nat) ({ cls := "BakeryRing", name := "isAhead", desc := "(II)Z" } : Jvm.MethodName)) ∈ lw_all := lw_g (lw_at lw_m9 92 rfl) rfl
theorem q2126 : (Jvm.Cond.privateMethod ({ cls := "BakeryRing", name := "isAhead", desc := "(II)Z" } : Jvm.MethodName)) ∈ lw_tbl := lw_at lw_m9 93 rfl
theorem q2127 : (Jvm.Cond.instanceMethod ({ cls := "BakeryRing", name := "isAhead", desc := "(II)Z" } : Jvm.MethodName)) ∈ lw_all := lw_g (lw_at lw_m9 94 rfl) rfl
theorem q2128 : (Jvm.Cond.code ({ cls := "BakeryRing", name := "isAhead", desc := "(II)Z" } : Jvm.MethodName) prog_1_method_65_code (4 : Nat) (Option.some Jvm.ClassFile.FieldType.boolean)) ∈ lw_all := lw_g (lw_at lw_m9 95 rfl) rfl
theorem q2133 : (Jvm.Cond.instanceMethod ({ cls := "BakeryRing", name := "unfairness", desc := "()I" } : Jvm.MethodName)) ∈ lw_all := lw_g (lw_at lw_m9 100 rfl) rfl
theorem q2134 : (Jvm.Cond.selects "BakeryRing" ({ cls := "BakeryRing", name := "unfairness", desc := "()I" } : Jvm.MethodName) ({ cls := "BakeryRing", name := "unfairness", desc := "()I" } : Jvm.MethodName)) ∈ lw_all := lw_g (lw_at lw_m9 101 rfl) rfl
theorem q2135 : (Jvm.Cond.code ({ cls := "BakeryRing", name := "unfairness", desc := "()I" } : Jvm.MethodName) prog_1_method_67_code (3 : Nat) (Option.some Jvm.ClassFile.FieldType.int)) ∈ lw_all := lw_g (lw_at lw_m9 102 rfl) rfl
theorem q2136 : (Jvm.Cond.methodLink "BakeryRing" (479 : Nat) ({ cls := "BakeryRing", name := "ranked", desc := "(I)I" } : Jvm.MethodName)) ∈ lw_all := lw_g (lw_at lw_m9 103 rfl) rfl
theorem q2141 : (Jvm.Cond.instanceMethod ({ cls := "BakeryRing", name := "isOwn", desc := "(I)Z" } : Jvm.MethodName)) ∈ lw_all := lw_g (lw_at lw_m9 108 rfl) rfl
theorem q2142 : (Jvm.Cond.selects "BakeryRing" ({ cls := "BakeryRing", name := "isOwn", desc := "(I)Z" } : Jvm.MethodName) ({ cls := "BakeryRing", name := "isOwn", desc := "(I)Z" } : Jvm.MethodName)) ∈ lw_all := lw_g (lw_at lw_m9 109 rfl) rfl
theorem q2143 : (Jvm.Cond.code ({ cls := "BakeryRing", name := "isOwn", desc := "(I)Z" } : Jvm.MethodName) prog_1_method_68_code (6 : Nat) (Option.some Jvm.ClassFile.FieldType.boolean)) ∈ lw_all := lw_g (lw_at lw_m9 110 rfl) rfl
theorem q2148 : (Jvm.Cond.instanceMethod ({ cls := "BakeryRing", name := "describe", desc := "(I)I" } : Jvm.MethodName)) ∈ lw_all := lw_g (lw_at lw_m9 115 rfl) rfl
theorem q2149 : (Jvm.Cond.selects "BakeryRing" ({ cls := "BakeryRing", name := "describe", desc := "(I)I" } : Jvm.MethodName) ({ cls := "BakeryRing", name := "describe", desc := "(I)I" } : Jvm.MethodName)) ∈ lw_all := lw_g (lw_at lw_m9 116 rfl) rfl
theorem q2150 : (Jvm.Cond.code ({ cls := "BakeryRing", name := "describe", desc := "(I)I" } : Jvm.MethodName) prog_1_method_69_code (5 : Nat) (Option.some Jvm.ClassFile.FieldType.int)) ∈ lw_all := lw_g (lw_at lw_m9 117 rfl) rfl
theorem q2151 : (Jvm.Cond.methodLink "BakeryRing" (482 : Nat) ({ cls := "BakeryRing$Kind", name := "word", desc := "()Ljava/lang/String;" } : Jvm.MethodName)) ∈ lw_all := lw_g (lw_at lw_m9 118 rfl) rfl
theorem q2165 : (Jvm.Cond.methodLink "BakeryRing" (483 : Nat) ({ cls := "java/lang/StringBuilder", name := "append", desc := "(Ljava/lang/String;)Ljava/lang/StringBuilder;" } : Jvm.MethodName)) ∈ lw_all := lw_g (lw_at lw_m9 132 rfl) rfl
theorem q2166 : (Jvm.Cond.methodLink "BakeryRing" (486 : Nat) ({ cls := "java/lang/StringBuilder", name := "append", desc := "(I)Ljava/lang/StringBuilder;" } : Jvm.MethodName)) ∈ lw_all := lw_g (lw_at lw_m9 133 rfl) rfl
theorem q2167 : (Jvm.Cond.stringRef "BakeryRing" (489 : Nat) " shut") ∈ lw_tbl := lw_at lw_m9 134 rfl
theorem q2172 : (Jvm.Cond.instanceMethod ({ cls := "BakeryRing", name := "written", desc := "(I)C" } : Jvm.MethodName)) ∈ lw_all := lw_g (lw_at lw_m9 139 rfl) rfl
theorem q2173 : (Jvm.Cond.selects "BakeryRing" ({ cls := "BakeryRing", name := "written", desc := "(I)C" } : Jvm.MethodName) ({ cls := "BakeryRing", name := "written", desc := "(I)C" } : Jvm.MethodName)) ∈ lw_all := lw_g (lw_at lw_m9 140 rfl) rfl
theorem q2174 : (Jvm.Cond.code ({ cls := "BakeryRing", name := "written", desc := "(I)C" } : Jvm.MethodName) prog_1_method_70_code (2 : Nat) (Option.some Jvm.ClassFile.FieldType.char)) ∈ lw_all := lw_g (lw_at lw_m9 141 rfl) rfl
theorem q2193 : (Jvm.Cond.instanceMethod ({ cls := "BakeryRing", name := "meanLoad", desc := "()F" } : Jvm.MethodName)) ∈ lw_all := lw_g (lw_at lw_m9 160 rfl) rfl
theorem q2194 : (Jvm.Cond.selects "BakeryRing" ({ cls := "BakeryRing", name := "meanLoad", desc := "()F" } : Jvm.MethodName) ({ cls := "BakeryRing", name := "meanLoad", desc := "()F" } : Jvm.MethodName)) ∈ lw_all := lw_g (lw_at lw_m9 161 rfl) rfl
theorem q2195 : (Jvm.Cond.code ({ cls := "BakeryRing", name := "meanLoad", desc := "()F" } : Jvm.MethodName) prog_1_method_72_code (2 : Nat) (Option.some Jvm.ClassFile.FieldType.float)) ∈ lw_all := lw_g (lw_at lw_m9 162 rfl) rfl
theorem q2196 : (Jvm.Cond.classLink "BakeryRing" (491 : Nat) "java/lang/ArithmeticException") ∈ lw_all := lw_g (lw_at lw_m9 163 rfl) rfl
theorem q2197 : (Jvm.Cond.methodLink "BakeryRing" (493 : Nat) ({ cls := "java/lang/ArithmeticException", name := "<init>", desc := "()V" } : Jvm.MethodName)) ∈ lw_all := lw_g (lw_at lw_m9 164 rfl) rfl
theorem q2201 : (Jvm.Cond.methodLink "BakeryRing" (494 : Nat) ({ cls := "BakeryRing", name := "allLoads", desc := "()I" } : Jvm.MethodName)) ∈ lw_all := lw_g (lw_at lw_m9 168 rfl) rfl
theorem q2202 : (Jvm.Cond.privateMethod ({ cls := "BakeryRing", name := "allLoads", desc := "()I" } : Jvm.MethodName)) ∈ lw_tbl := lw_at lw_m9 169 rfl
theorem q2203 : (Jvm.Cond.instanceMethod ({ cls := "BakeryRing", name := "allLoads", desc := "()I" } : Jvm.MethodName)) ∈ lw_all := lw_g (lw_at lw_m9 170 rfl) rfl
theorem q2204 : (Jvm.Cond.code ({ cls := "BakeryRing", name := "allLoads", desc := "()I" } : Jvm.MethodName) prog_1_method_71_code (3 : Nat) (Option.some Jvm.ClassFile.FieldType.int)) ∈ lw_all := lw_g (lw_at lw_m9 171 rfl) rfl
theorem q2209 : (Jvm.Cond.instanceMethod ({ cls := "BakeryRing", name := "sentShare", desc := "()D" } : Jvm.MethodName)) ∈ lw_all := lw_g (lw_at lw_m9 176 rfl) rfl
theorem q2210 : (Jvm.Cond.selects "BakeryRing" ({ cls := "BakeryRing", name := "sentShare", desc := "()D" } : Jvm.MethodName) ({ cls := "BakeryRing", name := "sentShare", desc := "()D" } : Jvm.MethodName)) ∈ lw_all := lw_g (lw_at lw_m9 177 rfl) rfl
theorem q2211 : (Jvm.Cond.code ({ cls := "BakeryRing", name := "sentShare", desc := "()D" } : Jvm.MethodName) prog_1_method_74_code (1 : Nat) (Option.some Jvm.ClassFile.FieldType.double)) ∈ lw_all := lw_g (lw_at lw_m9 178 rfl) rfl
theorem q2212 : (Jvm.Cond.methodLink "BakeryRing" (497 : Nat) ({ cls := "BakeryRing", name := "sentMany", desc := "()I" } : Jvm.MethodName)) ∈ lw_all := lw_g (lw_at lw_m9 179 rfl) rfl
theorem q2213 : (Jvm.Cond.privateMethod ({ cls := "BakeryRing", name := "sentMany", desc := "()I" } : Jvm.MethodName)) ∈ lw_tbl := lw_at lw_m9 180 rfl
theorem q2214 : (Jvm.Cond.instanceMethod ({ cls := "BakeryRing", name := "sentMany", desc := "()I" } : Jvm.MethodName)) ∈ lw_all := lw_g (lw_at lw_m9 181 rfl) rfl
theorem q2215 : (Jvm.Cond.code ({ cls := "BakeryRing", name := "sentMany", desc := "()I" } : Jvm.MethodName) prog_1_method_73_code (3 : Nat) (Option.some Jvm.ClassFile.FieldType.int)) ∈ lw_all := lw_g (lw_at lw_m9 182 rfl) rfl
theorem q2220 : (Jvm.Cond.instanceMethod ({ cls := "BakeryRing", name := "account", desc := "(I)I" } : Jvm.MethodName)) ∈ lw_all := lw_g (lw_at lw_m9 187 rfl) rfl
theorem q2221 : (Jvm.Cond.selects "BakeryRing" ({ cls := "BakeryRing", name := "account", desc := "(I)I" } : Jvm.MethodName) ({ cls := "BakeryRing", name := "account", desc := "(I)I" } : Jvm.MethodName)) ∈ lw_all := lw_g (lw_at lw_m9 188 rfl) rfl
theorem q2222 : (Jvm.Cond.code ({ cls := "BakeryRing", name := "account", desc := "(I)I" } : Jvm.MethodName) prog_1_method_77_code (2 : Nat) (Option.some Jvm.ClassFile.FieldType.int)) ∈ lw_all := lw_g (lw_at lw_m9 189 rfl) rfl
theorem q2223 : (Jvm.Cond.methodLink "BakeryRing" (500 : Nat) ({ cls := "BakeryRing", name := "allLoaves", desc := "()I" } : Jvm.MethodName)) ∈ lw_all := lw_g (lw_at lw_m9 190 rfl) rfl
theorem q2224 : (Jvm.Cond.privateMethod ({ cls := "BakeryRing", name := "allLoaves", desc := "()I" } : Jvm.MethodName)) ∈ lw_tbl := lw_at lw_m9 191 rfl
theorem q2225 : (Jvm.Cond.instanceMethod ({ cls := "BakeryRing", name := "allLoaves", desc := "()I" } : Jvm.MethodName)) ∈ lw_all := lw_g (lw_at lw_m9 192 rfl) rfl
theorem q2226 : (Jvm.Cond.code ({ cls := "BakeryRing", name := "allLoaves", desc := "()I" } : Jvm.MethodName) prog_1_method_75_code (3 : Nat) (Option.some Jvm.ClassFile.FieldType.int)) ∈ lw_all := lw_g (lw_at lw_m9 193 rfl) rfl
theorem q2227 : (Jvm.Cond.methodLink "BakeryRing" (503 : Nat) ({ cls := "BakeryRing", name := "overloaded", desc := "()I" } : Jvm.MethodName)) ∈ lw_all := lw_g (lw_at lw_m9 194 rfl) rfl
theorem q2228 : (Jvm.Cond.privateMethod ({ cls := "BakeryRing", name := "overloaded", desc := "()I" } : Jvm.MethodName)) ∈ lw_tbl := lw_at lw_m9 195 rfl
theorem q2229 : (Jvm.Cond.instanceMethod ({ cls := "BakeryRing", name := "overloaded", desc := "()I" } : Jvm.MethodName)) ∈ lw_all := lw_g (lw_at lw_m9 196 rfl) rfl
theorem q2230 : (Jvm.Cond.code ({ cls := "BakeryRing", name := "overloaded", desc := "()I" } : Jvm.MethodName) prog_1_method_76_code (3 : Nat) (Option.some Jvm.ClassFile.FieldType.int)) ∈ lw_all := lw_g (lw_at lw_m9 197 rfl) rfl
theorem q2235 : (Jvm.Cond.instanceMethod ({ cls := "BakeryRing", name := "undo", desc := "()I" } : Jvm.MethodName)) ∈ lw_all := lw_g (lw_at lw_m9 202 rfl) rfl
theorem q2236 : (Jvm.Cond.selects "BakeryRing" ({ cls := "BakeryRing", name := "undo", desc := "()I" } : Jvm.MethodName) ({ cls := "BakeryRing", name := "undo", desc := "()I" } : Jvm.MethodName)) ∈ lw_all := lw_g (lw_at lw_m9 203 rfl) rfl
theorem q2237 : (Jvm.Cond.code ({ cls := "BakeryRing", name := "undo", desc := "()I" } : Jvm.MethodName) prog_1_method_78_code (1 : Nat) (Option.some Jvm.ClassFile.FieldType.int)) ∈ lw_all := lw_g (lw_at lw_m9 204 rfl) rfl
theorem q2242 : (Jvm.Cond.instanceMethod ({ cls := "BakeryRing", name := "restore", desc := "()I" } : Jvm.MethodName)) ∈ lw_all := lw_g (lw_at lw_m9 209 rfl) rfl
theorem q2243 : (Jvm.Cond.selects "BakeryRing" ({ cls := "BakeryRing", name := "restore", desc := "()I" } : Jvm.MethodName) ({ cls := "BakeryRing", name := "restore", desc := "()I" } : Jvm.MethodName)) ∈ lw_all := lw_g (lw_at lw_m9 210 rfl) rfl
theorem q2244 : (Jvm.Cond.code ({ cls := "BakeryRing", name := "restore", desc := "()I" } : Jvm.MethodName) prog_1_method_80_code (1 : Nat) (Option.some Jvm.ClassFile.FieldType.int)) ∈ lw_all := lw_g (lw_at lw_m9 211 rfl) rfl
theorem q2780 : (Jvm.Cond.castable "BakeryRing" "java/lang/Object") ∈ lw_tbl := lw_at lw_m12 27 rfl
theorem in_X1 : ∀ w ∈ wsX10, w ∈ lw_all := lw_in wsX10 [519, 521, 523, 525, 527, 529, 531, 533, 535, 537, 539, 541, 543, 545, 547] (by decide +kernel) (by decide +kernel)

/-! BakeryRing$Kind -/
set_option maxRecDepth 100000
def RX2 : String := "BakeryRing$Kind"
abbrev cX2_init : ByteArray := prog_6_method_1_code
def yX2_init : MethodName := ⟨RX2, "<init>", "()V"⟩
theorem dX2_init_0 : decode cX2_init 0 = .ok (.aload_n 0, 1) := by decide +kernel
theorem dX2_init_1 : decode cX2_init 1 = .ok (.invokespecial 1, 3) := by decide +kernel
theorem dX2_init_4 : decode cX2_init 4 = .ok (.return_, 1) := by decide +kernel
abbrev cX2_number : ByteArray := prog_6_method_3_code
def yX2_number : MethodName := ⟨RX2, "number", "()I"⟩
def dkwX2_number_0 : List UInt8 := [42, 193, 0, 7, 153, 0, 7, 3, 167, 0, 15, 42, 193, 0, 9, 153, 0, 7, 4, 167, 0, 4, 5, 172]
abbrev dktX2_number_0 : List UInt8 := dkwX2_number_0 ++ []
theorem dksX2_number_0 : cX2_number.data.toList.drop 0 = dktX2_number_0 := by decide +kernel
theorem dX2_number_0 : decode cX2_number 0 = .ok (.aload_n 0, 1) := dk_42 (dk_at dksX2_number_0 0 rfl rfl)
theorem dX2_number_1 : decode cX2_number 1 = .ok (.instanceof 7, 3) := dk_193 0 7 (dk_at dksX2_number_0 1 rfl rfl)
theorem dX2_number_4 : decode cX2_number 4 = .ok (.ifCond .eq 7, 3) := dk_153 0 7 (dk_at dksX2_number_0 4 rfl rfl)
theorem dX2_number_7 : decode cX2_number 7 = .ok (.iconst 0, 1) := dk_3 (dk_at dksX2_number_0 7 rfl rfl)
theorem dX2_number_8 : decode cX2_number 8 = .ok (.goto 15, 3) := dk_167 0 15 (dk_at dksX2_number_0 8 rfl rfl)
theorem dX2_number_11 : decode cX2_number 11 = .ok (.aload_n 0, 1) := dk_42 (dk_at dksX2_number_0 11 rfl rfl)
theorem dX2_number_12 : decode cX2_number 12 = .ok (.instanceof 9, 3) := dk_193 0 9 (dk_at dksX2_number_0 12 rfl rfl)
theorem dX2_number_15 : decode cX2_number 15 = .ok (.ifCond .eq 7, 3) := dk_153 0 7 (dk_at dksX2_number_0 15 rfl rfl)
theorem dX2_number_18 : decode cX2_number 18 = .ok (.iconst 1, 1) := dk_4 (dk_at dksX2_number_0 18 rfl rfl)
theorem dX2_number_19 : decode cX2_number 19 = .ok (.goto 4, 3) := dk_167 0 4 (dk_at dksX2_number_0 19 rfl rfl)
theorem dX2_number_22 : decode cX2_number 22 = .ok (.iconst 2, 1) := dk_5 (dk_at dksX2_number_0 22 rfl rfl)
theorem dX2_number_23 : decode cX2_number 23 = .ok (.ireturn, 1) := dk_172 (dk_at dksX2_number_0 23 rfl rfl)
abbrev cX2_word : ByteArray := prog_6_method_4_code
def yX2_word : MethodName := ⟨RX2, "word", "()Ljava/lang/String;"⟩
theorem dX2_word_0 : decode cX2_word 0 = .ok (.ldc 11, 2) := by decide +kernel
theorem dX2_word_2 : decode cX2_word 2 = .ok (.areturn, 1) := by decide +kernel
theorem q115 : (Jvm.Cond.initialized "BakeryRing$Kind") ∈ lw_all := lw_g (lw_at lw_m1 2 rfl) rfl
theorem q184 : (Jvm.Cond.instanceMethod ({ cls := "BakeryRing$Kind", name := "<init>", desc := "()V" } : Jvm.MethodName)) ∈ lw_all := lw_g (lw_at lw_m1 71 rfl) rfl
theorem q185 : (Jvm.Cond.code ({ cls := "BakeryRing$Kind", name := "<init>", desc := "()V" } : Jvm.MethodName) prog_6_method_1_code (1 : Nat) (Option.none : Option Jvm.ClassFile.FieldType)) ∈ lw_all := lw_g (lw_at lw_m1 72 rfl) rfl
theorem q186 : (Jvm.Cond.methodLink "BakeryRing$Kind" (1 : Nat) ({ cls := "java/lang/Object", name := "<init>", desc := "()V" } : Jvm.MethodName)) ∈ lw_all := lw_g (lw_at lw_m1 73 rfl) rfl
theorem q1142 : (Jvm.Cond.declares ({ cls := "BakeryRing$Kind", name := "room", desc := "(I)I" } : Jvm.MethodName)) ∈ lw_tbl := lw_at lw_m5 69 rfl
theorem q1143 : (Jvm.Cond.sameMethod "BakeryRing$Kind" "BakeryRing$Kind" "room" "(I)I") ∈ lw_all := lw_g (lw_at lw_m5 70 rfl) rfl
theorem q1872 : (Jvm.Cond.instanceMethod ({ cls := "BakeryRing$Kind", name := "number", desc := "()I" } : Jvm.MethodName)) ∈ lw_all := lw_g (lw_at lw_m8 79 rfl) rfl
theorem q1873 : (Jvm.Cond.sameMethod "BakeryRing$Kind" "BakeryRing$Kind" "number" "()I") ∈ lw_all := lw_g (lw_at lw_m8 80 rfl) rfl
theorem q1877 : (Jvm.Cond.code ({ cls := "BakeryRing$Kind", name := "number", desc := "()I" } : Jvm.MethodName) prog_6_method_3_code (1 : Nat) (Option.some Jvm.ClassFile.FieldType.int)) ∈ lw_all := lw_g (lw_at lw_m8 84 rfl) rfl
theorem q1878 : (Jvm.Cond.classLink "BakeryRing$Kind" (7 : Nat) "BakeryRing$Plain") ∈ lw_all := lw_g (lw_at lw_m8 85 rfl) rfl
theorem q1879 : (Jvm.Cond.classLink "BakeryRing$Kind" (9 : Nat) "BakeryRing$Big") ∈ lw_all := lw_g (lw_at lw_m8 86 rfl) rfl
theorem q2152 : (Jvm.Cond.instanceMethod ({ cls := "BakeryRing$Kind", name := "word", desc := "()Ljava/lang/String;" } : Jvm.MethodName)) ∈ lw_all := lw_g (lw_at lw_m9 119 rfl) rfl
theorem q2153 : (Jvm.Cond.sameMethod "BakeryRing$Kind" "BakeryRing$Kind" "word" "()Ljava/lang/String;") ∈ lw_all := lw_g (lw_at lw_m9 120 rfl) rfl
theorem q2163 : (Jvm.Cond.code ({ cls := "BakeryRing$Kind", name := "word", desc := "()Ljava/lang/String;" } : Jvm.MethodName) prog_6_method_4_code (1 : Nat) (Option.some (Jvm.ClassFile.FieldType.object "java/lang/String"))) ∈ lw_all := lw_g (lw_at lw_m9 130 rfl) rfl
theorem q2164 : (Jvm.Cond.stringRef "BakeryRing$Kind" (11 : Nat) "plain") ∈ lw_tbl := lw_at lw_m9 131 rfl

/-! BakeryRing$Plain -/
set_option maxRecDepth 100000
def RX3 : String := "BakeryRing$Plain"
abbrev cX3_init : ByteArray := prog_8_method_1_code
def yX3_init : MethodName := ⟨RX3, "<init>", "()V"⟩
theorem dX3_init_0 : decode cX3_init 0 = .ok (.aload_n 0, 1) := by decide +kernel
theorem dX3_init_1 : decode cX3_init 1 = .ok (.invokespecial 1, 3) := by decide +kernel
theorem dX3_init_4 : decode cX3_init 4 = .ok (.return_, 1) := by decide +kernel
abbrev cX3_room : ByteArray := prog_8_method_2_code
def yX3_room : MethodName := ⟨RX3, "room", "(I)I"⟩
theorem dX3_room_0 : decode cX3_room 0 = .ok (.iload_n 1, 1) := by decide +kernel
theorem dX3_room_1 : decode cX3_room 1 = .ok (.ireturn, 1) := by decide +kernel
theorem q116 : (Jvm.Cond.initialized "BakeryRing$Plain") ∈ lw_all := lw_g (lw_at lw_m1 3 rfl) rfl
theorem q179 : (Jvm.Cond.instantiable "BakeryRing$Plain" (0 : Nat)) ∈ lw_all := lw_g (lw_at lw_m1 66 rfl) rfl
theorem q181 : (Jvm.Cond.instanceMethod ({ cls := "BakeryRing$Plain", name := "<init>", desc := "()V" } : Jvm.MethodName)) ∈ lw_all := lw_g (lw_at lw_m1 68 rfl) rfl
theorem q182 : (Jvm.Cond.code ({ cls := "BakeryRing$Plain", name := "<init>", desc := "()V" } : Jvm.MethodName) prog_8_method_1_code (1 : Nat) (Option.none : Option Jvm.ClassFile.FieldType)) ∈ lw_all := lw_g (lw_at lw_m1 69 rfl) rfl
theorem q183 : (Jvm.Cond.methodLinkNest "BakeryRing$Plain" (1 : Nat) ({ cls := "BakeryRing$Kind", name := "<init>", desc := "()V" } : Jvm.MethodName) "BakeryRing") ∈ lw_tbl := lw_at lw_m1 70 rfl
theorem q187 : (Jvm.Cond.superclass "BakeryRing$Plain" "BakeryRing$Kind") ∈ lw_all := lw_g (lw_at lw_m1 74 rfl) rfl
theorem q221 : (Jvm.Cond.selects "BakeryRing$Plain" ({ cls := "java/lang/Object", name := "getClass", desc := "()Ljava/lang/Class;" } : Jvm.MethodName) ({ cls := "java/lang/Object", name := "getClass", desc := "()Ljava/lang/Class;" } : Jvm.MethodName)) ∈ lw_all := lw_g (lw_at lw_m1 108 rfl) rfl
theorem q1147 : (Jvm.Cond.selects "BakeryRing$Plain" ({ cls := "BakeryRing$Kind", name := "room", desc := "(I)I" } : Jvm.MethodName) ({ cls := "BakeryRing$Plain", name := "room", desc := "(I)I" } : Jvm.MethodName)) ∈ lw_all := lw_g (lw_at lw_m5 74 rfl) rfl
theorem q1148 : (Jvm.Cond.instanceMethod ({ cls := "BakeryRing$Plain", name := "room", desc := "(I)I" } : Jvm.MethodName)) ∈ lw_all := lw_g (lw_at lw_m5 75 rfl) rfl
theorem q1149 : (Jvm.Cond.code ({ cls := "BakeryRing$Plain", name := "room", desc := "(I)I" } : Jvm.MethodName) prog_8_method_2_code (2 : Nat) (Option.some Jvm.ClassFile.FieldType.int)) ∈ lw_all := lw_g (lw_at lw_m5 76 rfl) rfl
theorem q1875 : (Jvm.Cond.selects "BakeryRing$Plain" ({ cls := "BakeryRing$Kind", name := "number", desc := "()I" } : Jvm.MethodName) ({ cls := "BakeryRing$Kind", name := "number", desc := "()I" } : Jvm.MethodName)) ∈ lw_all := lw_g (lw_at lw_m8 82 rfl) rfl
theorem q2158 : (Jvm.Cond.selects "BakeryRing$Plain" ({ cls := "BakeryRing$Kind", name := "word", desc := "()Ljava/lang/String;" } : Jvm.MethodName) ({ cls := "BakeryRing$Kind", name := "word", desc := "()Ljava/lang/String;" } : Jvm.MethodName)) ∈ lw_all := lw_g (lw_at lw_m9 125 rfl) rfl
theorem q2775 : (Jvm.Cond.castable "BakeryRing$Plain" "BakeryRing$Kind") ∈ lw_tbl := lw_at lw_m12 22 rfl
theorem q2781 : (Jvm.Cond.castable "BakeryRing$Plain" "java/lang/Object") ∈ lw_tbl := lw_at lw_m12 28 rfl

/-! BakeryRing$Big -/
set_option maxRecDepth 100000
def RX4 : String := "BakeryRing$Big"
abbrev cX4_init : ByteArray := prog_3_method_1_code
def yX4_init : MethodName := ⟨RX4, "<init>", "()V"⟩
theorem dX4_init_0 : decode cX4_init 0 = .ok (.aload_n 0, 1) := by decide +kernel
theorem dX4_init_1 : decode cX4_init 1 = .ok (.invokespecial 1, 3) := by decide +kernel
theorem dX4_init_4 : decode cX4_init 4 = .ok (.return_, 1) := by decide +kernel
abbrev cX4_room : ByteArray := prog_3_method_2_code
def yX4_room : MethodName := ⟨RX4, "room", "(I)I"⟩
def dkwX4_room_0 : List UInt8 := [27, 27, 5, 108, 96, 172]
abbrev dktX4_room_0 : List UInt8 := dkwX4_room_0 ++ []
theorem dksX4_room_0 : cX4_room.data.toList.drop 0 = dktX4_room_0 := by decide +kernel
theorem dX4_room_0 : decode cX4_room 0 = .ok (.iload_n 1, 1) := dk_27 (dk_at dksX4_room_0 0 rfl rfl)
theorem dX4_room_1 : decode cX4_room 1 = .ok (.iload_n 1, 1) := dk_27 (dk_at dksX4_room_0 1 rfl rfl)
theorem dX4_room_2 : decode cX4_room 2 = .ok (.iconst 2, 1) := dk_5 (dk_at dksX4_room_0 2 rfl rfl)
theorem dX4_room_3 : decode cX4_room 3 = .ok (.idiv, 1) := dk_108 (dk_at dksX4_room_0 3 rfl rfl)
theorem dX4_room_4 : decode cX4_room 4 = .ok (.iadd, 1) := dk_96 (dk_at dksX4_room_0 4 rfl rfl)
theorem dX4_room_5 : decode cX4_room 5 = .ok (.ireturn, 1) := dk_172 (dk_at dksX4_room_0 5 rfl rfl)
abbrev cX4_word : ByteArray := prog_3_method_3_code
def yX4_word : MethodName := ⟨RX4, "word", "()Ljava/lang/String;"⟩
theorem dX4_word_0 : decode cX4_word 0 = .ok (.ldc 7, 2) := by decide +kernel
theorem dX4_word_2 : decode cX4_word 2 = .ok (.areturn, 1) := by decide +kernel
theorem q117 : (Jvm.Cond.initialized "BakeryRing$Big") ∈ lw_all := lw_g (lw_at lw_m1 4 rfl) rfl
theorem q189 : (Jvm.Cond.instantiable "BakeryRing$Big" (0 : Nat)) ∈ lw_all := lw_g (lw_at lw_m1 76 rfl) rfl
theorem q191 : (Jvm.Cond.instanceMethod ({ cls := "BakeryRing$Big", name := "<init>", desc := "()V" } : Jvm.MethodName)) ∈ lw_all := lw_g (lw_at lw_m1 78 rfl) rfl
theorem q192 : (Jvm.Cond.code ({ cls := "BakeryRing$Big", name := "<init>", desc := "()V" } : Jvm.MethodName) prog_3_method_1_code (1 : Nat) (Option.none : Option Jvm.ClassFile.FieldType)) ∈ lw_all := lw_g (lw_at lw_m1 79 rfl) rfl
theorem q193 : (Jvm.Cond.methodLinkNest "BakeryRing$Big" (1 : Nat) ({ cls := "BakeryRing$Kind", name := "<init>", desc := "()V" } : Jvm.MethodName) "BakeryRing") ∈ lw_tbl := lw_at lw_m1 80 rfl
theorem q194 : (Jvm.Cond.superclass "BakeryRing$Big" "BakeryRing$Kind") ∈ lw_all := lw_g (lw_at lw_m1 81 rfl) rfl
theorem q217 : (Jvm.Cond.selects "BakeryRing$Big" ({ cls := "java/lang/Object", name := "getClass", desc := "()Ljava/lang/Class;" } : Jvm.MethodName) ({ cls := "java/lang/Object", name := "getClass", desc := "()Ljava/lang/Class;" } : Jvm.MethodName)) ∈ lw_all := lw_g (lw_at lw_m1 104 rfl) rfl
theorem q1144 : (Jvm.Cond.selects "BakeryRing$Big" ({ cls := "BakeryRing$Kind", name := "room", desc := "(I)I" } : Jvm.MethodName) ({ cls := "BakeryRing$Big", name := "room", desc := "(I)I" } : Jvm.MethodName)) ∈ lw_all := lw_g (lw_at lw_m5 71 rfl) rfl
theorem q1145 : (Jvm.Cond.instanceMethod ({ cls := "BakeryRing$Big", name := "room", desc := "(I)I" } : Jvm.MethodName)) ∈ lw_all := lw_g (lw_at lw_m5 72 rfl) rfl
theorem q1146 : (Jvm.Cond.code ({ cls := "BakeryRing$Big", name := "room", desc := "(I)I" } : Jvm.MethodName) prog_3_method_2_code (2 : Nat) (Option.some Jvm.ClassFile.FieldType.int)) ∈ lw_all := lw_g (lw_at lw_m5 73 rfl) rfl
theorem q1874 : (Jvm.Cond.selects "BakeryRing$Big" ({ cls := "BakeryRing$Kind", name := "number", desc := "()I" } : Jvm.MethodName) ({ cls := "BakeryRing$Kind", name := "number", desc := "()I" } : Jvm.MethodName)) ∈ lw_all := lw_g (lw_at lw_m8 81 rfl) rfl
theorem q2154 : (Jvm.Cond.selects "BakeryRing$Big" ({ cls := "BakeryRing$Kind", name := "word", desc := "()Ljava/lang/String;" } : Jvm.MethodName) ({ cls := "BakeryRing$Big", name := "word", desc := "()Ljava/lang/String;" } : Jvm.MethodName)) ∈ lw_all := lw_g (lw_at lw_m9 121 rfl) rfl
theorem q2155 : (Jvm.Cond.instanceMethod ({ cls := "BakeryRing$Big", name := "word", desc := "()Ljava/lang/String;" } : Jvm.MethodName)) ∈ lw_all := lw_g (lw_at lw_m9 122 rfl) rfl
theorem q2156 : (Jvm.Cond.code ({ cls := "BakeryRing$Big", name := "word", desc := "()Ljava/lang/String;" } : Jvm.MethodName) prog_3_method_3_code (1 : Nat) (Option.some (Jvm.ClassFile.FieldType.object "java/lang/String"))) ∈ lw_all := lw_g (lw_at lw_m9 123 rfl) rfl
theorem q2157 : (Jvm.Cond.stringRef "BakeryRing$Big" (7 : Nat) "big") ∈ lw_tbl := lw_at lw_m9 124 rfl
theorem q2774 : (Jvm.Cond.castable "BakeryRing$Big" "BakeryRing$Kind") ∈ lw_tbl := lw_at lw_m12 21 rfl
theorem q2782 : (Jvm.Cond.castable "BakeryRing$Big" "java/lang/Object") ∈ lw_tbl := lw_at lw_m12 29 rfl

/-! BakeryRing$Stand -/
set_option maxRecDepth 100000
def RX5 : String := "BakeryRing$Stand"
abbrev cX5_init : ByteArray := prog_10_method_1_code
def yX5_init : MethodName := ⟨RX5, "<init>", "()V"⟩
theorem dX5_init_0 : decode cX5_init 0 = .ok (.aload_n 0, 1) := by decide +kernel
theorem dX5_init_1 : decode cX5_init 1 = .ok (.invokespecial 1, 3) := by decide +kernel
theorem dX5_init_4 : decode cX5_init 4 = .ok (.return_, 1) := by decide +kernel
abbrev cX5_room : ByteArray := prog_10_method_2_code
def yX5_room : MethodName := ⟨RX5, "room", "(I)I"⟩
def dkwX5_room_0 : List UInt8 := [27, 6, 96, 172]
abbrev dktX5_room_0 : List UInt8 := dkwX5_room_0 ++ []
theorem dksX5_room_0 : cX5_room.data.toList.drop 0 = dktX5_room_0 := by decide +kernel
theorem dX5_room_0 : decode cX5_room 0 = .ok (.iload_n 1, 1) := dk_27 (dk_at dksX5_room_0 0 rfl rfl)
theorem dX5_room_1 : decode cX5_room 1 = .ok (.iconst 3, 1) := dk_6 (dk_at dksX5_room_0 1 rfl rfl)
theorem dX5_room_2 : decode cX5_room 2 = .ok (.iadd, 1) := dk_96 (dk_at dksX5_room_0 2 rfl rfl)
theorem dX5_room_3 : decode cX5_room 3 = .ok (.ireturn, 1) := dk_172 (dk_at dksX5_room_0 3 rfl rfl)
abbrev cX5_word : ByteArray := prog_10_method_3_code
def yX5_word : MethodName := ⟨RX5, "word", "()Ljava/lang/String;"⟩
theorem dX5_word_0 : decode cX5_word 0 = .ok (.ldc 7, 2) := by decide +kernel
theorem dX5_word_2 : decode cX5_word 2 = .ok (.areturn, 1) := by decide +kernel
theorem q118 : (Jvm.Cond.initialized "BakeryRing$Stand") ∈ lw_all := lw_g (lw_at lw_m1 5 rfl) rfl
theorem q196 : (Jvm.Cond.instantiable "BakeryRing$Stand" (0 : Nat)) ∈ lw_all := lw_g (lw_at lw_m1 83 rfl) rfl
theorem q198 : (Jvm.Cond.instanceMethod ({ cls := "BakeryRing$Stand", name := "<init>", desc := "()V" } : Jvm.MethodName)) ∈ lw_all := lw_g (lw_at lw_m1 85 rfl) rfl
theorem q199 : (Jvm.Cond.code ({ cls := "BakeryRing$Stand", name := "<init>", desc := "()V" } : Jvm.MethodName) prog_10_method_1_code (1 : Nat) (Option.none : Option Jvm.ClassFile.FieldType)) ∈ lw_all := lw_g (lw_at lw_m1 86 rfl) rfl
theorem q200 : (Jvm.Cond.methodLinkNest "BakeryRing$Stand" (1 : Nat) ({ cls := "BakeryRing$Kind", name := "<init>", desc := "()V" } : Jvm.MethodName) "BakeryRing") ∈ lw_tbl := lw_at lw_m1 87 rfl
theorem q201 : (Jvm.Cond.superclass "BakeryRing$Stand" "BakeryRing$Kind") ∈ lw_all := lw_g (lw_at lw_m1 88 rfl) rfl
theorem q223 : (Jvm.Cond.selects "BakeryRing$Stand" ({ cls := "java/lang/Object", name := "getClass", desc := "()Ljava/lang/Class;" } : Jvm.MethodName) ({ cls := "java/lang/Object", name := "getClass", desc := "()Ljava/lang/Class;" } : Jvm.MethodName)) ∈ lw_all := lw_g (lw_at lw_m1 110 rfl) rfl
theorem q1150 : (Jvm.Cond.selects "BakeryRing$Stand" ({ cls := "BakeryRing$Kind", name := "room", desc := "(I)I" } : Jvm.MethodName) ({ cls := "BakeryRing$Stand", name := "room", desc := "(I)I" } : Jvm.MethodName)) ∈ lw_all := lw_g (lw_at lw_m5 77 rfl) rfl
theorem q1151 : (Jvm.Cond.instanceMethod ({ cls := "BakeryRing$Stand", name := "room", desc := "(I)I" } : Jvm.MethodName)) ∈ lw_all := lw_g (lw_at lw_m5 78 rfl) rfl
theorem q1152 : (Jvm.Cond.code ({ cls := "BakeryRing$Stand", name := "room", desc := "(I)I" } : Jvm.MethodName) prog_10_method_2_code (2 : Nat) (Option.some Jvm.ClassFile.FieldType.int)) ∈ lw_all := lw_g (lw_at lw_m5 79 rfl) rfl
theorem q1876 : (Jvm.Cond.selects "BakeryRing$Stand" ({ cls := "BakeryRing$Kind", name := "number", desc := "()I" } : Jvm.MethodName) ({ cls := "BakeryRing$Kind", name := "number", desc := "()I" } : Jvm.MethodName)) ∈ lw_all := lw_g (lw_at lw_m8 83 rfl) rfl
theorem q2159 : (Jvm.Cond.selects "BakeryRing$Stand" ({ cls := "BakeryRing$Kind", name := "word", desc := "()Ljava/lang/String;" } : Jvm.MethodName) ({ cls := "BakeryRing$Stand", name := "word", desc := "()Ljava/lang/String;" } : Jvm.MethodName)) ∈ lw_all := lw_g (lw_at lw_m9 126 rfl) rfl
theorem q2160 : (Jvm.Cond.instanceMethod ({ cls := "BakeryRing$Stand", name := "word", desc := "()Ljava/lang/String;" } : Jvm.MethodName)) ∈ lw_all := lw_g (lw_at lw_m9 127 rfl) rfl
theorem q2161 : (Jvm.Cond.code ({ cls := "BakeryRing$Stand", name := "word", desc := "()Ljava/lang/String;" } : Jvm.MethodName) prog_10_method_3_code (1 : Nat) (Option.some (Jvm.ClassFile.FieldType.object "java/lang/String"))) ∈ lw_all := lw_g (lw_at lw_m9 128 rfl) rfl
theorem q2162 : (Jvm.Cond.stringRef "BakeryRing$Stand" (7 : Nat) "stand") ∈ lw_tbl := lw_at lw_m9 129 rfl
theorem q2776 : (Jvm.Cond.castable "BakeryRing$Stand" "BakeryRing$Kind") ∈ lw_tbl := lw_at lw_m12 23 rfl
theorem q2783 : (Jvm.Cond.castable "BakeryRing$Stand" "java/lang/Object") ∈ lw_tbl := lw_at lw_m12 30 rfl

/-! BakeryRing$State -/
set_option maxRecDepth 100000
def RX6 : String := "BakeryRing$State"
def TX6 : u_T := fun k => match k with
  | 0 => ("BakeryRing$State", "bakeries", "[LBakeryRing$Bakery;", true)
  | 1 => ("BakeryRing$State", "bakeryMany", "I", false)
  | 2 => ("BakeryRing$State", "signs", "Ljava/util/BitSet;", true)
  | 3 => ("BakeryRing$State", "owner", "[I", true)
  | 4 => ("BakeryRing$State", "customers", "[LBakeryRing$Customer;", true)
  | 5 => ("BakeryRing$State", "customerMany", "I", false)
  | 6 => ("BakeryRing$State", "loads", "[I", true)
  | 7 => ("BakeryRing$State", "changes", "I", false)
  | 8 => ("BakeryRing$State", "moves", "I", false)
  | 9 => ("BakeryRing$State", "taken", "I", false)
  | _ => ("BakeryRing$State", "isPassed", "Z", false)
def tyX6 : Nat → FieldType := fun k => match k with
  | 0 => .array (.object "BakeryRing$Bakery")
  | 1 => .int
  | 2 => .object "java/util/BitSet"
  | 3 => .array .int
  | 4 => .array (.object "BakeryRing$Customer")
  | 5 => .int
  | 6 => .array .int
  | 7 => .int
  | 8 => .int
  | 9 => .int
  | _ => .boolean
abbrev wsX60 : List Cond := u_ws RX6 TX6 11
theorem nmX6 : ∀ a, a < 11 → ∀ b, b < 11 → a ≠ b → (TX6 a).2.1 ≠ (TX6 b).2.1 := by decide +kernel
theorem tyX6_ok : ∀ k, k < 11 → parseFieldDescriptor (TX6 k).2.2.1 = some (tyX6 k) := by decide +kernel
abbrev cX6_init : ByteArray := prog_11_method_1_code
def yX6_init : MethodName := ⟨RX6, "<init>", "()V"⟩
def dkwX6_init_4 : List UInt8 := [187, 0, 30, 89, 183, 0, 40, 83, 132, 1, 1, 167, 255, 234, 177]
abbrev dktX6_init_4 : List UInt8 := dkwX6_init_4 ++ []
def dkwX6_init_3 : List UInt8 := [183, 0, 39, 83, 132, 1, 1, 167, 255, 234, 3, 60, 27, 16, 20, 162, 0, 22, 42, 180, 0, 32, 27]
abbrev dktX6_init_3 : List UInt8 := dkwX6_init_3 ++ dktX6_init_4
def dkwX6_init_2 : List UInt8 := [188, 10, 181, 0, 36, 3, 60, 27, 16, 6, 162, 0, 22, 42, 180, 0, 11, 27, 187, 0, 9, 89]
abbrev dktX6_init_2 : List UInt8 := dkwX6_init_2 ++ dktX6_init_3
def dkwX6_init_1 : List UInt8 := [181, 0, 22, 42, 17, 1, 104, 188, 10, 181, 0, 26, 42, 16, 20, 189, 0, 30, 181, 0, 32, 42, 16, 6]
abbrev dktX6_init_1 : List UInt8 := dkwX6_init_1 ++ dktX6_init_2
def dkwX6_init_0 : List UInt8 := [42, 183, 0, 3, 42, 16, 6, 189, 0, 9, 181, 0, 11, 42, 187, 0, 17, 89, 17, 1, 104, 183, 0, 19]
abbrev dktX6_init_0 : List UInt8 := dkwX6_init_0 ++ dktX6_init_1
theorem dksX6_init_0 : cX6_init.data.toList.drop 0 = dktX6_init_0 := by decide +kernel
theorem dksX6_init_1 : cX6_init.data.toList.drop 24 = dktX6_init_1 := dk_seg dksX6_init_0 24 rfl rfl
theorem dksX6_init_2 : cX6_init.data.toList.drop 48 = dktX6_init_2 := dk_seg dksX6_init_1 24 rfl rfl
theorem dksX6_init_3 : cX6_init.data.toList.drop 70 = dktX6_init_3 := dk_seg dksX6_init_2 22 rfl rfl
theorem dksX6_init_4 : cX6_init.data.toList.drop 93 = dktX6_init_4 := dk_seg dksX6_init_3 23 rfl rfl
theorem dX6_init_0 : decode cX6_init 0 = .ok (.aload_n 0, 1) := dk_42 (dk_at dksX6_init_0 0 rfl rfl)
theorem dX6_init_1 : decode cX6_init 1 = .ok (.invokespecial 3, 3) := dk_183 0 3 (dk_at dksX6_init_0 1 rfl rfl)
theorem dX6_init_4 : decode cX6_init 4 = .ok (.aload_n 0, 1) := dk_42 (dk_at dksX6_init_0 4 rfl rfl)
theorem dX6_init_5 : decode cX6_init 5 = .ok (.bipush 6, 2) := dk_16 6 (dk_at dksX6_init_0 5 rfl rfl)
theorem dX6_init_7 : decode cX6_init 7 = .ok (.anewarray 9, 3) := dk_189 0 9 (dk_at dksX6_init_0 7 rfl rfl)
theorem dX6_init_10 : decode cX6_init 10 = .ok (.putfield 11, 3) := dk_181 0 11 (dk_at dksX6_init_0 10 rfl rfl)
theorem dX6_init_13 : decode cX6_init 13 = .ok (.aload_n 0, 1) := dk_42 (dk_at dksX6_init_0 13 rfl rfl)
theorem dX6_init_14 : decode cX6_init 14 = .ok (.new 17, 3) := dk_187 0 17 (dk_at dksX6_init_0 14 rfl rfl)
theorem dX6_init_17 : decode cX6_init 17 = .ok (.dup, 1) := dk_89 (dk_at dksX6_init_0 17 rfl rfl)
theorem dX6_init_18 : decode cX6_init 18 = .ok (.sipush 360, 3) := dk_17 1 104 (dk_at dksX6_init_0 18 rfl rfl)
theorem dX6_init_21 : decode cX6_init 21 = .ok (.invokespecial 19, 3) := dk_183 0 19 (dk_at dksX6_init_0 21 rfl rfl)
theorem dX6_init_24 : decode cX6_init 24 = .ok (.putfield 22, 3) := dk_181 0 22 (dk_at dksX6_init_1 0 rfl rfl)
theorem dX6_init_27 : decode cX6_init 27 = .ok (.aload_n 0, 1) := dk_42 (dk_at dksX6_init_1 3 rfl rfl)
theorem dX6_init_28 : decode cX6_init 28 = .ok (.sipush 360, 3) := dk_17 1 104 (dk_at dksX6_init_1 4 rfl rfl)
theorem dX6_init_31 : decode cX6_init 31 = .ok (.newarray .int, 2) := dk_188_10 (dk_at dksX6_init_1 7 rfl rfl)
theorem dX6_init_33 : decode cX6_init 33 = .ok (.putfield 26, 3) := dk_181 0 26 (dk_at dksX6_init_1 9 rfl rfl)
theorem dX6_init_36 : decode cX6_init 36 = .ok (.aload_n 0, 1) := dk_42 (dk_at dksX6_init_1 12 rfl rfl)
theorem dX6_init_37 : decode cX6_init 37 = .ok (.bipush 20, 2) := dk_16 20 (dk_at dksX6_init_1 13 rfl rfl)
theorem dX6_init_39 : decode cX6_init 39 = .ok (.anewarray 30, 3) := dk_189 0 30 (dk_at dksX6_init_1 15 rfl rfl)
theorem dX6_init_42 : decode cX6_init 42 = .ok (.putfield 32, 3) := dk_181 0 32 (dk_at dksX6_init_1 18 rfl rfl)
theorem dX6_init_45 : decode cX6_init 45 = .ok (.aload_n 0, 1) := dk_42 (dk_at dksX6_init_1 21 rfl rfl)
theorem dX6_init_46 : decode cX6_init 46 = .ok (.bipush 6, 2) := dk_16 6 (dk_at dksX6_init_1 22 rfl rfl)
theorem dX6_init_48 : decode cX6_init 48 = .ok (.newarray .int, 2) := dk_188_10 (dk_at dksX6_init_2 0 rfl rfl)
theorem dX6_init_50 : decode cX6_init 50 = .ok (.putfield 36, 3) := dk_181 0 36 (dk_at dksX6_init_2 2 rfl rfl)
theorem dX6_init_53 : decode cX6_init 53 = .ok (.iconst 0, 1) := dk_3 (dk_at dksX6_init_2 5 rfl rfl)
theorem dX6_init_54 : decode cX6_init 54 = .ok (.istore_n 1, 1) := dk_60 (dk_at dksX6_init_2 6 rfl rfl)
theorem dX6_init_55 : decode cX6_init 55 = .ok (.iload_n 1, 1) := dk_27 (dk_at dksX6_init_2 7 rfl rfl)
theorem dX6_init_56 : decode cX6_init 56 = .ok (.bipush 6, 2) := dk_16 6 (dk_at dksX6_init_2 8 rfl rfl)
theorem dX6_init_58 : decode cX6_init 58 = .ok (.if_icmp .ge 22, 3) := dk_162 0 22 (dk_at dksX6_init_2 10 rfl rfl)
theorem dX6_init_61 : decode cX6_init 61 = .ok (.aload_n 0, 1) := dk_42 (dk_at dksX6_init_2 13 rfl rfl)
theorem dX6_init_62 : decode cX6_init 62 = .ok (.getfield 11, 3) := dk_180 0 11 (dk_at dksX6_init_2 14 rfl rfl)
theorem dX6_init_65 : decode cX6_init 65 = .ok (.iload_n 1, 1) := dk_27 (dk_at dksX6_init_2 17 rfl rfl)
theorem dX6_init_66 : decode cX6_init 66 = .ok (.new 9, 3) := dk_187 0 9 (dk_at dksX6_init_2 18 rfl rfl)
theorem dX6_init_69 : decode cX6_init 69 = .ok (.dup, 1) := dk_89 (dk_at dksX6_init_2 21 rfl rfl)
theorem dX6_init_70 : decode cX6_init 70 = .ok (.invokespecial 39, 3) := dk_183 0 39 (dk_at dksX6_init_3 0 rfl rfl)
theorem dX6_init_73 : decode cX6_init 73 = .ok (.aastore, 1) := dk_83 (dk_at dksX6_init_3 3 rfl rfl)
theorem dX6_init_74 : decode cX6_init 74 = .ok (.iinc 1 1, 3) := dk_132 1 1 (dk_at dksX6_init_3 4 rfl rfl)
theorem dX6_init_77 : decode cX6_init 77 = .ok (.goto (-22), 3) := dk_167 255 234 (dk_at dksX6_init_3 7 rfl rfl)
theorem dX6_init_80 : decode cX6_init 80 = .ok (.iconst 0, 1) := dk_3 (dk_at dksX6_init_3 10 rfl rfl)
theorem dX6_init_81 : decode cX6_init 81 = .ok (.istore_n 1, 1) := dk_60 (dk_at dksX6_init_3 11 rfl rfl)
theorem dX6_init_82 : decode cX6_init 82 = .ok (.iload_n 1, 1) := dk_27 (dk_at dksX6_init_3 12 rfl rfl)
theorem dX6_init_83 : decode cX6_init 83 = .ok (.bipush 20, 2) := dk_16 20 (dk_at dksX6_init_3 13 rfl rfl)
theorem dX6_init_85 : decode cX6_init 85 = .ok (.if_icmp .ge 22, 3) := dk_162 0 22 (dk_at dksX6_init_3 15 rfl rfl)
theorem dX6_init_88 : decode cX6_init 88 = .ok (.aload_n 0, 1) := dk_42 (dk_at dksX6_init_3 18 rfl rfl)
theorem dX6_init_89 : decode cX6_init 89 = .ok (.getfield 32, 3) := dk_180 0 32 (dk_at dksX6_init_3 19 rfl rfl)
theorem dX6_init_92 : decode cX6_init 92 = .ok (.iload_n 1, 1) := dk_27 (dk_at dksX6_init_3 22 rfl rfl)
theorem dX6_init_93 : decode cX6_init 93 = .ok (.new 30, 3) := dk_187 0 30 (dk_at dksX6_init_4 0 rfl rfl)
theorem dX6_init_96 : decode cX6_init 96 = .ok (.dup, 1) := dk_89 (dk_at dksX6_init_4 3 rfl rfl)
theorem dX6_init_97 : decode cX6_init 97 = .ok (.invokespecial 40, 3) := dk_183 0 40 (dk_at dksX6_init_4 4 rfl rfl)
theorem dX6_init_100 : decode cX6_init 100 = .ok (.aastore, 1) := dk_83 (dk_at dksX6_init_4 7 rfl rfl)
theorem dX6_init_101 : decode cX6_init 101 = .ok (.iinc 1 1, 3) := dk_132 1 1 (dk_at dksX6_init_4 8 rfl rfl)
theorem dX6_init_104 : decode cX6_init 104 = .ok (.goto (-22), 3) := dk_167 255 234 (dk_at dksX6_init_4 11 rfl rfl)
theorem dX6_init_107 : decode cX6_init 107 = .ok (.return_, 1) := dk_177 (dk_at dksX6_init_4 14 rfl rfl)
abbrev cX6_empties : ByteArray := prog_11_method_2_code
def yX6_empties : MethodName := ⟨RX6, "empties", "()V"⟩
def dkwX6_empties_1 : List UInt8 := [181, 0, 54, 177]
abbrev dktX6_empties_1 : List UInt8 := dkwX6_empties_1 ++ []
def dkwX6_empties_0 : List UInt8 := [42, 3, 181, 0, 41, 42, 180, 0, 22, 182, 0, 45, 42, 3, 181, 0, 48, 42, 3, 181, 0, 51, 42, 3]
abbrev dktX6_empties_0 : List UInt8 := dkwX6_empties_0 ++ dktX6_empties_1
theorem dksX6_empties_0 : cX6_empties.data.toList.drop 0 = dktX6_empties_0 := by decide +kernel
theorem dksX6_empties_1 : cX6_empties.data.toList.drop 24 = dktX6_empties_1 := dk_seg dksX6_empties_0 24 rfl rfl
theorem dX6_empties_0 : decode cX6_empties 0 = .ok (.aload_n 0, 1) := dk_42 (dk_at dksX6_empties_0 0 rfl rfl)
theorem dX6_empties_1 : decode cX6_empties 1 = .ok (.iconst 0, 1) := dk_3 (dk_at dksX6_empties_0 1 rfl rfl)
theorem dX6_empties_2 : decode cX6_empties 2 = .ok (.putfield 41, 3) := dk_181 0 41 (dk_at dksX6_empties_0 2 rfl rfl)
theorem dX6_empties_5 : decode cX6_empties 5 = .ok (.aload_n 0, 1) := dk_42 (dk_at dksX6_empties_0 5 rfl rfl)
theorem dX6_empties_6 : decode cX6_empties 6 = .ok (.getfield 22, 3) := dk_180 0 22 (dk_at dksX6_empties_0 6 rfl rfl)
theorem dX6_empties_9 : decode cX6_empties 9 = .ok (.invokevirtual 45, 3) := dk_182 0 45 (dk_at dksX6_empties_0 9 rfl rfl)
theorem dX6_empties_12 : decode cX6_empties 12 = .ok (.aload_n 0, 1) := dk_42 (dk_at dksX6_empties_0 12 rfl rfl)
theorem dX6_empties_13 : decode cX6_empties 13 = .ok (.iconst 0, 1) := dk_3 (dk_at dksX6_empties_0 13 rfl rfl)
theorem dX6_empties_14 : decode cX6_empties 14 = .ok (.putfield 48, 3) := dk_181 0 48 (dk_at dksX6_empties_0 14 rfl rfl)
theorem dX6_empties_17 : decode cX6_empties 17 = .ok (.aload_n 0, 1) := dk_42 (dk_at dksX6_empties_0 17 rfl rfl)
theorem dX6_empties_18 : decode cX6_empties 18 = .ok (.iconst 0, 1) := dk_3 (dk_at dksX6_empties_0 18 rfl rfl)
theorem dX6_empties_19 : decode cX6_empties 19 = .ok (.putfield 51, 3) := dk_181 0 51 (dk_at dksX6_empties_0 19 rfl rfl)
theorem dX6_empties_22 : decode cX6_empties 22 = .ok (.aload_n 0, 1) := dk_42 (dk_at dksX6_empties_0 22 rfl rfl)
theorem dX6_empties_23 : decode cX6_empties 23 = .ok (.iconst 0, 1) := dk_3 (dk_at dksX6_empties_0 23 rfl rfl)
theorem dX6_empties_24 : decode cX6_empties 24 = .ok (.putfield 54, 3) := dk_181 0 54 (dk_at dksX6_empties_1 0 rfl rfl)
theorem dX6_empties_27 : decode cX6_empties 27 = .ok (.return_, 1) := dk_177 (dk_at dksX6_empties_1 3 rfl rfl)
abbrev cX6_like : ByteArray := prog_11_method_3_code
def yX6_like : MethodName := ⟨RX6, "like", "(LBakeryRing$State;)V"⟩
def dkwX6_like_6 : List UInt8 := [181, 0, 54, 177]
abbrev dktX6_like_6 : List UInt8 := dkwX6_like_6 ++ []
def dkwX6_like_5 : List UInt8 := [3, 42, 180, 0, 36, 3, 16, 6, 184, 0, 65, 42, 43, 180, 0, 51, 181, 0, 51, 42, 43, 180, 0, 54]
abbrev dktX6_like_5 : List UInt8 := dkwX6_like_5 ++ dktX6_like_6
def dkwX6_like_4 : List UInt8 := [180, 0, 32, 28, 50, 43, 180, 0, 32, 28, 50, 182, 0, 71, 132, 2, 1, 167, 255, 230, 43, 180, 0, 36]
abbrev dktX6_like_4 : List UInt8 := dkwX6_like_4 ++ dktX6_like_5
def dkwX6_like_3 : List UInt8 := [184, 0, 65, 42, 43, 180, 0, 48, 181, 0, 48, 3, 61, 28, 42, 180, 0, 48, 162, 0, 24, 42]
abbrev dktX6_like_3 : List UInt8 := dkwX6_like_3 ++ dktX6_like_4
def dkwX6_like_2 : List UInt8 := [180, 0, 22, 43, 180, 0, 22, 182, 0, 61, 43, 180, 0, 26, 3, 42, 180, 0, 26, 3, 17, 1, 104]
abbrev dktX6_like_2 : List UInt8 := dkwX6_like_2 ++ dktX6_like_3
def dkwX6_like_1 : List UInt8 := [43, 180, 0, 11, 28, 50, 182, 0, 57, 132, 2, 1, 167, 255, 230, 42, 180, 0, 22, 182, 0, 45, 42]
abbrev dktX6_like_1 : List UInt8 := dkwX6_like_1 ++ dktX6_like_2
def dkwX6_like_0 : List UInt8 := [42, 43, 180, 0, 41, 181, 0, 41, 3, 61, 28, 42, 180, 0, 41, 162, 0, 24, 42, 180, 0, 11, 28, 50]
abbrev dktX6_like_0 : List UInt8 := dkwX6_like_0 ++ dktX6_like_1
theorem dksX6_like_0 : cX6_like.data.toList.drop 0 = dktX6_like_0 := by decide +kernel
theorem dksX6_like_1 : cX6_like.data.toList.drop 24 = dktX6_like_1 := dk_seg dksX6_like_0 24 rfl rfl
theorem dksX6_like_2 : cX6_like.data.toList.drop 47 = dktX6_like_2 := dk_seg dksX6_like_1 23 rfl rfl
theorem dksX6_like_3 : cX6_like.data.toList.drop 70 = dktX6_like_3 := dk_seg dksX6_like_2 23 rfl rfl
theorem dksX6_like_4 : cX6_like.data.toList.drop 92 = dktX6_like_4 := dk_seg dksX6_like_3 22 rfl rfl
theorem dksX6_like_5 : cX6_like.data.toList.drop 116 = dktX6_like_5 := dk_seg dksX6_like_4 24 rfl rfl
theorem dksX6_like_6 : cX6_like.data.toList.drop 140 = dktX6_like_6 := dk_seg dksX6_like_5 24 rfl rfl
theorem dX6_like_0 : decode cX6_like 0 = .ok (.aload_n 0, 1) := dk_42 (dk_at dksX6_like_0 0 rfl rfl)
theorem dX6_like_1 : decode cX6_like 1 = .ok (.aload_n 1, 1) := dk_43 (dk_at dksX6_like_0 1 rfl rfl)
theorem dX6_like_2 : decode cX6_like 2 = .ok (.getfield 41, 3) := dk_180 0 41 (dk_at dksX6_like_0 2 rfl rfl)
theorem dX6_like_5 : decode cX6_like 5 = .ok (.putfield 41, 3) := dk_181 0 41 (dk_at dksX6_like_0 5 rfl rfl)
theorem dX6_like_8 : decode cX6_like 8 = .ok (.iconst 0, 1) := dk_3 (dk_at dksX6_like_0 8 rfl rfl)
theorem dX6_like_9 : decode cX6_like 9 = .ok (.istore_n 2, 1) := dk_61 (dk_at dksX6_like_0 9 rfl rfl)
theorem dX6_like_10 : decode cX6_like 10 = .ok (.iload_n 2, 1) := dk_28 (dk_at dksX6_like_0 10 rfl rfl)
theorem dX6_like_11 : decode cX6_like 11 = .ok (.aload_n 0, 1) := dk_42 (dk_at dksX6_like_0 11 rfl rfl)
theorem dX6_like_12 : decode cX6_like 12 = .ok (.getfield 41, 3) := dk_180 0 41 (dk_at dksX6_like_0 12 rfl rfl)
theorem dX6_like_15 : decode cX6_like 15 = .ok (.if_icmp .ge 24, 3) := dk_162 0 24 (dk_at dksX6_like_0 15 rfl rfl)
theorem dX6_like_18 : decode cX6_like 18 = .ok (.aload_n 0, 1) := dk_42 (dk_at dksX6_like_0 18 rfl rfl)
theorem dX6_like_19 : decode cX6_like 19 = .ok (.getfield 11, 3) := dk_180 0 11 (dk_at dksX6_like_0 19 rfl rfl)
theorem dX6_like_22 : decode cX6_like 22 = .ok (.iload_n 2, 1) := dk_28 (dk_at dksX6_like_0 22 rfl rfl)
theorem dX6_like_23 : decode cX6_like 23 = .ok (.aaload, 1) := dk_50 (dk_at dksX6_like_0 23 rfl rfl)
theorem dX6_like_24 : decode cX6_like 24 = .ok (.aload_n 1, 1) := dk_43 (dk_at dksX6_like_1 0 rfl rfl)
theorem dX6_like_25 : decode cX6_like 25 = .ok (.getfield 11, 3) := dk_180 0 11 (dk_at dksX6_like_1 1 rfl rfl)
theorem dX6_like_28 : decode cX6_like 28 = .ok (.iload_n 2, 1) := dk_28 (dk_at dksX6_like_1 4 rfl rfl)
theorem dX6_like_29 : decode cX6_like 29 = .ok (.aaload, 1) := dk_50 (dk_at dksX6_like_1 5 rfl rfl)
theorem dX6_like_30 : decode cX6_like 30 = .ok (.invokevirtual 57, 3) := dk_182 0 57 (dk_at dksX6_like_1 6 rfl rfl)
theorem dX6_like_33 : decode cX6_like 33 = .ok (.iinc 2 1, 3) := dk_132 2 1 (dk_at dksX6_like_1 9 rfl rfl)
theorem dX6_like_36 : decode cX6_like 36 = .ok (.goto (-26), 3) := dk_167 255 230 (dk_at dksX6_like_1 12 rfl rfl)
theorem dX6_like_39 : decode cX6_like 39 = .ok (.aload_n 0, 1) := dk_42 (dk_at dksX6_like_1 15 rfl rfl)
theorem dX6_like_40 : decode cX6_like 40 = .ok (.getfield 22, 3) := dk_180 0 22 (dk_at dksX6_like_1 16 rfl rfl)
theorem dX6_like_43 : decode cX6_like 43 = .ok (.invokevirtual 45, 3) := dk_182 0 45 (dk_at dksX6_like_1 19 rfl rfl)
theorem dX6_like_46 : decode cX6_like 46 = .ok (.aload_n 0, 1) := dk_42 (dk_at dksX6_like_1 22 rfl rfl)
theorem dX6_like_47 : decode cX6_like 47 = .ok (.getfield 22, 3) := dk_180 0 22 (dk_at dksX6_like_2 0 rfl rfl)
theorem dX6_like_50 : decode cX6_like 50 = .ok (.aload_n 1, 1) := dk_43 (dk_at dksX6_like_2 3 rfl rfl)
theorem dX6_like_51 : decode cX6_like 51 = .ok (.getfield 22, 3) := dk_180 0 22 (dk_at dksX6_like_2 4 rfl rfl)
theorem dX6_like_54 : decode cX6_like 54 = .ok (.invokevirtual 61, 3) := dk_182 0 61 (dk_at dksX6_like_2 7 rfl rfl)
theorem dX6_like_57 : decode cX6_like 57 = .ok (.aload_n 1, 1) := dk_43 (dk_at dksX6_like_2 10 rfl rfl)
theorem dX6_like_58 : decode cX6_like 58 = .ok (.getfield 26, 3) := dk_180 0 26 (dk_at dksX6_like_2 11 rfl rfl)
theorem dX6_like_61 : decode cX6_like 61 = .ok (.iconst 0, 1) := dk_3 (dk_at dksX6_like_2 14 rfl rfl)
theorem dX6_like_62 : decode cX6_like 62 = .ok (.aload_n 0, 1) := dk_42 (dk_at dksX6_like_2 15 rfl rfl)
theorem dX6_like_63 : decode cX6_like 63 = .ok (.getfield 26, 3) := dk_180 0 26 (dk_at dksX6_like_2 16 rfl rfl)
theorem dX6_like_66 : decode cX6_like 66 = .ok (.iconst 0, 1) := dk_3 (dk_at dksX6_like_2 19 rfl rfl)
theorem dX6_like_67 : decode cX6_like 67 = .ok (.sipush 360, 3) := dk_17 1 104 (dk_at dksX6_like_2 20 rfl rfl)
theorem dX6_like_70 : decode cX6_like 70 = .ok (.invokestatic 65, 3) := dk_184 0 65 (dk_at dksX6_like_3 0 rfl rfl)
theorem dX6_like_73 : decode cX6_like 73 = .ok (.aload_n 0, 1) := dk_42 (dk_at dksX6_like_3 3 rfl rfl)
theorem dX6_like_74 : decode cX6_like 74 = .ok (.aload_n 1, 1) := dk_43 (dk_at dksX6_like_3 4 rfl rfl)
theorem dX6_like_75 : decode cX6_like 75 = .ok (.getfield 48, 3) := dk_180 0 48 (dk_at dksX6_like_3 5 rfl rfl)
theorem dX6_like_78 : decode cX6_like 78 = .ok (.putfield 48, 3) := dk_181 0 48 (dk_at dksX6_like_3 8 rfl rfl)
theorem dX6_like_81 : decode cX6_like 81 = .ok (.iconst 0, 1) := dk_3 (dk_at dksX6_like_3 11 rfl rfl)
theorem dX6_like_82 : decode cX6_like 82 = .ok (.istore_n 2, 1) := dk_61 (dk_at dksX6_like_3 12 rfl rfl)
theorem dX6_like_83 : decode cX6_like 83 = .ok (.iload_n 2, 1) := dk_28 (dk_at dksX6_like_3 13 rfl rfl)
theorem dX6_like_84 : decode cX6_like 84 = .ok (.aload_n 0, 1) := dk_42 (dk_at dksX6_like_3 14 rfl rfl)
theorem dX6_like_85 : decode cX6_like 85 = .ok (.getfield 48, 3) := dk_180 0 48 (dk_at dksX6_like_3 15 rfl rfl)
theorem dX6_like_88 : decode cX6_like 88 = .ok (.if_icmp .ge 24, 3) := dk_162 0 24 (dk_at dksX6_like_3 18 rfl rfl)
theorem dX6_like_91 : decode cX6_like 91 = .ok (.aload_n 0, 1) := dk_42 (dk_at dksX6_like_3 21 rfl rfl)
theorem dX6_like_92 : decode cX6_like 92 = .ok (.getfield 32, 3) := dk_180 0 32 (dk_at dksX6_like_4 0 rfl rfl)
theorem dX6_like_95 : decode cX6_like 95 = .ok (.iload_n 2, 1) := dk_28 (dk_at dksX6_like_4 3 rfl rfl)
theorem dX6_like_96 : decode cX6_like 96 = .ok (.aaload, 1) := dk_50 (dk_at dksX6_like_4 4 rfl rfl)
theorem dX6_like_97 : decode cX6_like 97 = .ok (.aload_n 1, 1) := dk_43 (dk_at dksX6_like_4 5 rfl rfl)
theorem dX6_like_98 : decode cX6_like 98 = .ok (.getfield 32, 3) := dk_180 0 32 (dk_at dksX6_like_4 6 rfl rfl)
theorem dX6_like_101 : decode cX6_like 101 = .ok (.iload_n 2, 1) := dk_28 (dk_at dksX6_like_4 9 rfl rfl)
theorem dX6_like_102 : decode cX6_like 102 = .ok (.aaload, 1) := dk_50 (dk_at dksX6_like_4 10 rfl rfl)
theorem dX6_like_103 : decode cX6_like 103 = .ok (.invokevirtual 71, 3) := dk_182 0 71 (dk_at dksX6_like_4 11 rfl rfl)
theorem dX6_like_106 : decode cX6_like 106 = .ok (.iinc 2 1, 3) := dk_132 2 1 (dk_at dksX6_like_4 14 rfl rfl)
theorem dX6_like_109 : decode cX6_like 109 = .ok (.goto (-26), 3) := dk_167 255 230 (dk_at dksX6_like_4 17 rfl rfl)
theorem dX6_like_112 : decode cX6_like 112 = .ok (.aload_n 1, 1) := dk_43 (dk_at dksX6_like_4 20 rfl rfl)
theorem dX6_like_113 : decode cX6_like 113 = .ok (.getfield 36, 3) := dk_180 0 36 (dk_at dksX6_like_4 21 rfl rfl)
theorem dX6_like_116 : decode cX6_like 116 = .ok (.iconst 0, 1) := dk_3 (dk_at dksX6_like_5 0 rfl rfl)
theorem dX6_like_117 : decode cX6_like 117 = .ok (.aload_n 0, 1) := dk_42 (dk_at dksX6_like_5 1 rfl rfl)
theorem dX6_like_118 : decode cX6_like 118 = .ok (.getfield 36, 3) := dk_180 0 36 (dk_at dksX6_like_5 2 rfl rfl)
theorem dX6_like_121 : decode cX6_like 121 = .ok (.iconst 0, 1) := dk_3 (dk_at dksX6_like_5 5 rfl rfl)
theorem dX6_like_122 : decode cX6_like 122 = .ok (.bipush 6, 2) := dk_16 6 (dk_at dksX6_like_5 6 rfl rfl)
theorem dX6_like_124 : decode cX6_like 124 = .ok (.invokestatic 65, 3) := dk_184 0 65 (dk_at dksX6_like_5 8 rfl rfl)
theorem dX6_like_127 : decode cX6_like 127 = .ok (.aload_n 0, 1) := dk_42 (dk_at dksX6_like_5 11 rfl rfl)
theorem dX6_like_128 : decode cX6_like 128 = .ok (.aload_n 1, 1) := dk_43 (dk_at dksX6_like_5 12 rfl rfl)
theorem dX6_like_129 : decode cX6_like 129 = .ok (.getfield 51, 3) := dk_180 0 51 (dk_at dksX6_like_5 13 rfl rfl)
theorem dX6_like_132 : decode cX6_like 132 = .ok (.putfield 51, 3) := dk_181 0 51 (dk_at dksX6_like_5 16 rfl rfl)
theorem dX6_like_135 : decode cX6_like 135 = .ok (.aload_n 0, 1) := dk_42 (dk_at dksX6_like_5 19 rfl rfl)
theorem dX6_like_136 : decode cX6_like 136 = .ok (.aload_n 1, 1) := dk_43 (dk_at dksX6_like_5 20 rfl rfl)
theorem dX6_like_137 : decode cX6_like 137 = .ok (.getfield 54, 3) := dk_180 0 54 (dk_at dksX6_like_5 21 rfl rfl)
theorem dX6_like_140 : decode cX6_like 140 = .ok (.putfield 54, 3) := dk_181 0 54 (dk_at dksX6_like_6 0 rfl rfl)
theorem dX6_like_143 : decode cX6_like 143 = .ok (.return_, 1) := dk_177 (dk_at dksX6_like_6 3 rfl rfl)
abbrev cX6_moveAll : ByteArray := prog_11_method_10_code
def yX6_moveAll : MethodName := ⟨RX6, "moveAll", "(I)I"⟩
def dkwX6_moveAll_0 : List UInt8 := [42, 27, 42, 180, 0, 51, 4, 96, 182, 0, 128, 61, 42, 89, 180, 0, 54, 28, 96, 181, 0, 54, 28, 172]
abbrev dktX6_moveAll_0 : List UInt8 := dkwX6_moveAll_0 ++ []
theorem dksX6_moveAll_0 : cX6_moveAll.data.toList.drop 0 = dktX6_moveAll_0 := by decide +kernel
theorem dX6_moveAll_0 : decode cX6_moveAll 0 = .ok (.aload_n 0, 1) := dk_42 (dk_at dksX6_moveAll_0 0 rfl rfl)
theorem dX6_moveAll_1 : decode cX6_moveAll 1 = .ok (.iload_n 1, 1) := dk_27 (dk_at dksX6_moveAll_0 1 rfl rfl)
theorem dX6_moveAll_2 : decode cX6_moveAll 2 = .ok (.aload_n 0, 1) := dk_42 (dk_at dksX6_moveAll_0 2 rfl rfl)
theorem dX6_moveAll_3 : decode cX6_moveAll 3 = .ok (.getfield 51, 3) := dk_180 0 51 (dk_at dksX6_moveAll_0 3 rfl rfl)
theorem dX6_moveAll_6 : decode cX6_moveAll 6 = .ok (.iconst 1, 1) := dk_4 (dk_at dksX6_moveAll_0 6 rfl rfl)
theorem dX6_moveAll_7 : decode cX6_moveAll 7 = .ok (.iadd, 1) := dk_96 (dk_at dksX6_moveAll_0 7 rfl rfl)
theorem dX6_moveAll_8 : decode cX6_moveAll 8 = .ok (.invokevirtual 128, 3) := dk_182 0 128 (dk_at dksX6_moveAll_0 8 rfl rfl)
theorem dX6_moveAll_11 : decode cX6_moveAll 11 = .ok (.istore_n 2, 1) := dk_61 (dk_at dksX6_moveAll_0 11 rfl rfl)
theorem dX6_moveAll_12 : decode cX6_moveAll 12 = .ok (.aload_n 0, 1) := dk_42 (dk_at dksX6_moveAll_0 12 rfl rfl)
theorem dX6_moveAll_13 : decode cX6_moveAll 13 = .ok (.dup, 1) := dk_89 (dk_at dksX6_moveAll_0 13 rfl rfl)
theorem dX6_moveAll_14 : decode cX6_moveAll 14 = .ok (.getfield 54, 3) := dk_180 0 54 (dk_at dksX6_moveAll_0 14 rfl rfl)
theorem dX6_moveAll_17 : decode cX6_moveAll 17 = .ok (.iload_n 2, 1) := dk_28 (dk_at dksX6_moveAll_0 17 rfl rfl)
theorem dX6_moveAll_18 : decode cX6_moveAll 18 = .ok (.iadd, 1) := dk_96 (dk_at dksX6_moveAll_0 18 rfl rfl)
theorem dX6_moveAll_19 : decode cX6_moveAll 19 = .ok (.putfield 54, 3) := dk_181 0 54 (dk_at dksX6_moveAll_0 19 rfl rfl)
theorem dX6_moveAll_22 : decode cX6_moveAll 22 = .ok (.iload_n 2, 1) := dk_28 (dk_at dksX6_moveAll_0 22 rfl rfl)
theorem dX6_moveAll_23 : decode cX6_moveAll 23 = .ok (.ireturn, 1) := dk_172 (dk_at dksX6_moveAll_0 23 rfl rfl)
abbrev cX6_goAnew : ByteArray := prog_11_method_9_code
def yX6_goAnew : MethodName := ⟨RX6, "goAnew", "(II)I"⟩
def dkwX6_goAnew_6 : List UInt8 := [132, 4, 1, 167, 255, 140, 29, 172]
abbrev dktX6_goAnew_6 : List UInt8 := dkwX6_goAnew_6 ++ []
def dkwX6_goAnew_5 : List UInt8 := [162, 0, 22, 21, 6, 25, 5, 180, 0, 106, 159, 0, 12, 25, 5, 28, 181, 0, 125, 132, 3, 1]
abbrev dktX6_goAnew_5 : List UInt8 := dkwX6_goAnew_5 ++ dktX6_goAnew_6
def dkwX6_goAnew_4 : List UInt8 := [155, 0, 21, 42, 180, 0, 36, 25, 5, 180, 0, 106, 92, 46, 25, 5, 180, 0, 112, 96, 79, 21, 4, 27]
abbrev dktX6_goAnew_4 : List UInt8 := dkwX6_goAnew_4 ++ dktX6_goAnew_5
def dkwX6_goAnew_3 : List UInt8 := [25, 5, 42, 180, 0, 93, 181, 0, 119, 25, 5, 42, 180, 0, 90, 181, 0, 122, 25, 5, 180, 0, 106]
abbrev dktX6_goAnew_3 : List UInt8 := dkwX6_goAnew_3 ++ dktX6_goAnew_4
def dkwX6_goAnew_2 : List UInt8 := [180, 0, 106, 54, 6, 25, 5, 42, 25, 5, 180, 0, 109, 25, 5, 180, 0, 112, 182, 0, 115, 181, 0, 106]
abbrev dktX6_goAnew_2 : List UInt8 := dkwX6_goAnew_2 ++ dktX6_goAnew_3
def dkwX6_goAnew_1 : List UInt8 := [54, 4, 21, 4, 42, 180, 0, 48, 162, 0, 113, 42, 180, 0, 32, 21, 4, 50, 58, 5, 25, 5]
abbrev dktX6_goAnew_1 : List UInt8 := dkwX6_goAnew_1 ++ dktX6_goAnew_2
def dkwX6_goAnew_0 : List UInt8 := [3, 62, 29, 16, 6, 162, 0, 16, 42, 180, 0, 36, 29, 3, 79, 132, 3, 1, 167, 255, 240, 3, 62, 3]
abbrev dktX6_goAnew_0 : List UInt8 := dkwX6_goAnew_0 ++ dktX6_goAnew_1
theorem dksX6_goAnew_0 : cX6_goAnew.data.toList.drop 0 = dktX6_goAnew_0 := by decide +kernel
theorem dksX6_goAnew_1 : cX6_goAnew.data.toList.drop 24 = dktX6_goAnew_1 := dk_seg dksX6_goAnew_0 24 rfl rfl
theorem dksX6_goAnew_2 : cX6_goAnew.data.toList.drop 46 = dktX6_goAnew_2 := dk_seg dksX6_goAnew_1 22 rfl rfl
theorem dksX6_goAnew_3 : cX6_goAnew.data.toList.drop 70 = dktX6_goAnew_3 := dk_seg dksX6_goAnew_2 24 rfl rfl
theorem dksX6_goAnew_4 : cX6_goAnew.data.toList.drop 93 = dktX6_goAnew_4 := dk_seg dksX6_goAnew_3 23 rfl rfl
theorem dksX6_goAnew_5 : cX6_goAnew.data.toList.drop 117 = dktX6_goAnew_5 := dk_seg dksX6_goAnew_4 24 rfl rfl
theorem dksX6_goAnew_6 : cX6_goAnew.data.toList.drop 139 = dktX6_goAnew_6 := dk_seg dksX6_goAnew_5 22 rfl rfl
theorem dX6_goAnew_0 : decode cX6_goAnew 0 = .ok (.iconst 0, 1) := dk_3 (dk_at dksX6_goAnew_0 0 rfl rfl)
theorem dX6_goAnew_1 : decode cX6_goAnew 1 = .ok (.istore_n 3, 1) := dk_62 (dk_at dksX6_goAnew_0 1 rfl rfl)
theorem dX6_goAnew_2 : decode cX6_goAnew 2 = .ok (.iload_n 3, 1) := dk_29 (dk_at dksX6_goAnew_0 2 rfl rfl)
theorem dX6_goAnew_3 : decode cX6_goAnew 3 = .ok (.bipush 6, 2) := dk_16 6 (dk_at dksX6_goAnew_0 3 rfl rfl)
theorem dX6_goAnew_5 : decode cX6_goAnew 5 = .ok (.if_icmp .ge 16, 3) := dk_162 0 16 (dk_at dksX6_goAnew_0 5 rfl rfl)
theorem dX6_goAnew_8 : decode cX6_goAnew 8 = .ok (.aload_n 0, 1) := dk_42 (dk_at dksX6_goAnew_0 8 rfl rfl)
theorem dX6_goAnew_9 : decode cX6_goAnew 9 = .ok (.getfield 36, 3) := dk_180 0 36 (dk_at dksX6_goAnew_0 9 rfl rfl)
theorem dX6_goAnew_12 : decode cX6_goAnew 12 = .ok (.iload_n 3, 1) := dk_29 (dk_at dksX6_goAnew_0 12 rfl rfl)
theorem dX6_goAnew_13 : decode cX6_goAnew 13 = .ok (.iconst 0, 1) := dk_3 (dk_at dksX6_goAnew_0 13 rfl rfl)
theorem dX6_goAnew_14 : decode cX6_goAnew 14 = .ok (.iastore, 1) := dk_79 (dk_at dksX6_goAnew_0 14 rfl rfl)
theorem dX6_goAnew_15 : decode cX6_goAnew 15 = .ok (.iinc 3 1, 3) := dk_132 3 1 (dk_at dksX6_goAnew_0 15 rfl rfl)
theorem dX6_goAnew_18 : decode cX6_goAnew 18 = .ok (.goto (-16), 3) := dk_167 255 240 (dk_at dksX6_goAnew_0 18 rfl rfl)
theorem dX6_goAnew_21 : decode cX6_goAnew 21 = .ok (.iconst 0, 1) := dk_3 (dk_at dksX6_goAnew_0 21 rfl rfl)
theorem dX6_goAnew_22 : decode cX6_goAnew 22 = .ok (.istore_n 3, 1) := dk_62 (dk_at dksX6_goAnew_0 22 rfl rfl)
theorem dX6_goAnew_23 : decode cX6_goAnew 23 = .ok (.iconst 0, 1) := dk_3 (dk_at dksX6_goAnew_0 23 rfl rfl)
theorem dX6_goAnew_24 : decode cX6_goAnew 24 = .ok (.istore 4, 2) := dk_54 4 (dk_at dksX6_goAnew_1 0 rfl rfl)
theorem dX6_goAnew_26 : decode cX6_goAnew 26 = .ok (.iload 4, 2) := dk_21 4 (dk_at dksX6_goAnew_1 2 rfl rfl)
theorem dX6_goAnew_28 : decode cX6_goAnew 28 = .ok (.aload_n 0, 1) := dk_42 (dk_at dksX6_goAnew_1 4 rfl rfl)
theorem dX6_goAnew_29 : decode cX6_goAnew 29 = .ok (.getfield 48, 3) := dk_180 0 48 (dk_at dksX6_goAnew_1 5 rfl rfl)
theorem dX6_goAnew_32 : decode cX6_goAnew 32 = .ok (.if_icmp .ge 113, 3) := dk_162 0 113 (dk_at dksX6_goAnew_1 8 rfl rfl)
theorem dX6_goAnew_35 : decode cX6_goAnew 35 = .ok (.aload_n 0, 1) := dk_42 (dk_at dksX6_goAnew_1 11 rfl rfl)
theorem dX6_goAnew_36 : decode cX6_goAnew 36 = .ok (.getfield 32, 3) := dk_180 0 32 (dk_at dksX6_goAnew_1 12 rfl rfl)
theorem dX6_goAnew_39 : decode cX6_goAnew 39 = .ok (.iload 4, 2) := dk_21 4 (dk_at dksX6_goAnew_1 15 rfl rfl)
theorem dX6_goAnew_41 : decode cX6_goAnew 41 = .ok (.aaload, 1) := dk_50 (dk_at dksX6_goAnew_1 17 rfl rfl)
theorem dX6_goAnew_42 : decode cX6_goAnew 42 = .ok (.astore 5, 2) := dk_58 5 (dk_at dksX6_goAnew_1 18 rfl rfl)
theorem dX6_goAnew_44 : decode cX6_goAnew 44 = .ok (.aload 5, 2) := dk_25 5 (dk_at dksX6_goAnew_1 20 rfl rfl)
theorem dX6_goAnew_46 : decode cX6_goAnew 46 = .ok (.getfield 106, 3) := dk_180 0 106 (dk_at dksX6_goAnew_2 0 rfl rfl)
theorem dX6_goAnew_49 : decode cX6_goAnew 49 = .ok (.istore 6, 2) := dk_54 6 (dk_at dksX6_goAnew_2 3 rfl rfl)
theorem dX6_goAnew_51 : decode cX6_goAnew 51 = .ok (.aload 5, 2) := dk_25 5 (dk_at dksX6_goAnew_2 5 rfl rfl)
theorem dX6_goAnew_53 : decode cX6_goAnew 53 = .ok (.aload_n 0, 1) := dk_42 (dk_at dksX6_goAnew_2 7 rfl rfl)
theorem dX6_goAnew_54 : decode cX6_goAnew 54 = .ok (.aload 5, 2) := dk_25 5 (dk_at dksX6_goAnew_2 8 rfl rfl)
theorem dX6_goAnew_56 : decode cX6_goAnew 56 = .ok (.getfield 109, 3) := dk_180 0 109 (dk_at dksX6_goAnew_2 10 rfl rfl)
theorem dX6_goAnew_59 : decode cX6_goAnew 59 = .ok (.aload 5, 2) := dk_25 5 (dk_at dksX6_goAnew_2 13 rfl rfl)
theorem dX6_goAnew_61 : decode cX6_goAnew 61 = .ok (.getfield 112, 3) := dk_180 0 112 (dk_at dksX6_goAnew_2 15 rfl rfl)
theorem dX6_goAnew_64 : decode cX6_goAnew 64 = .ok (.invokevirtual 115, 3) := dk_182 0 115 (dk_at dksX6_goAnew_2 18 rfl rfl)
theorem dX6_goAnew_67 : decode cX6_goAnew 67 = .ok (.putfield 106, 3) := dk_181 0 106 (dk_at dksX6_goAnew_2 21 rfl rfl)
theorem dX6_goAnew_70 : decode cX6_goAnew 70 = .ok (.aload 5, 2) := dk_25 5 (dk_at dksX6_goAnew_3 0 rfl rfl)
theorem dX6_goAnew_72 : decode cX6_goAnew 72 = .ok (.aload_n 0, 1) := dk_42 (dk_at dksX6_goAnew_3 2 rfl rfl)
theorem dX6_goAnew_73 : decode cX6_goAnew 73 = .ok (.getfield 93, 3) := dk_180 0 93 (dk_at dksX6_goAnew_3 3 rfl rfl)
theorem dX6_goAnew_76 : decode cX6_goAnew 76 = .ok (.putfield 119, 3) := dk_181 0 119 (dk_at dksX6_goAnew_3 6 rfl rfl)
theorem dX6_goAnew_79 : decode cX6_goAnew 79 = .ok (.aload 5, 2) := dk_25 5 (dk_at dksX6_goAnew_3 9 rfl rfl)
theorem dX6_goAnew_81 : decode cX6_goAnew 81 = .ok (.aload_n 0, 1) := dk_42 (dk_at dksX6_goAnew_3 11 rfl rfl)
theorem dX6_goAnew_82 : decode cX6_goAnew 82 = .ok (.getfield 90, 3) := dk_180 0 90 (dk_at dksX6_goAnew_3 12 rfl rfl)
theorem dX6_goAnew_85 : decode cX6_goAnew 85 = .ok (.putfield 122, 3) := dk_181 0 122 (dk_at dksX6_goAnew_3 15 rfl rfl)
theorem dX6_goAnew_88 : decode cX6_goAnew 88 = .ok (.aload 5, 2) := dk_25 5 (dk_at dksX6_goAnew_3 18 rfl rfl)
theorem dX6_goAnew_90 : decode cX6_goAnew 90 = .ok (.getfield 106, 3) := dk_180 0 106 (dk_at dksX6_goAnew_3 20 rfl rfl)
theorem dX6_goAnew_93 : decode cX6_goAnew 93 = .ok (.ifCond .lt 21, 3) := dk_155 0 21 (dk_at dksX6_goAnew_4 0 rfl rfl)
theorem dX6_goAnew_96 : decode cX6_goAnew 96 = .ok (.aload_n 0, 1) := dk_42 (dk_at dksX6_goAnew_4 3 rfl rfl)
theorem dX6_goAnew_97 : decode cX6_goAnew 97 = .ok (.getfield 36, 3) := dk_180 0 36 (dk_at dksX6_goAnew_4 4 rfl rfl)
theorem dX6_goAnew_100 : decode cX6_goAnew 100 = .ok (.aload 5, 2) := dk_25 5 (dk_at dksX6_goAnew_4 7 rfl rfl)
theorem dX6_goAnew_102 : decode cX6_goAnew 102 = .ok (.getfield 106, 3) := dk_180 0 106 (dk_at dksX6_goAnew_4 9 rfl rfl)
theorem dX6_goAnew_105 : decode cX6_goAnew 105 = .ok (.dup2, 1) := dk_92 (dk_at dksX6_goAnew_4 12 rfl rfl)
theorem dX6_goAnew_106 : decode cX6_goAnew 106 = .ok (.iaload, 1) := dk_46 (dk_at dksX6_goAnew_4 13 rfl rfl)
theorem dX6_goAnew_107 : decode cX6_goAnew 107 = .ok (.aload 5, 2) := dk_25 5 (dk_at dksX6_goAnew_4 14 rfl rfl)
theorem dX6_goAnew_109 : decode cX6_goAnew 109 = .ok (.getfield 112, 3) := dk_180 0 112 (dk_at dksX6_goAnew_4 16 rfl rfl)
theorem dX6_goAnew_112 : decode cX6_goAnew 112 = .ok (.iadd, 1) := dk_96 (dk_at dksX6_goAnew_4 19 rfl rfl)
theorem dX6_goAnew_113 : decode cX6_goAnew 113 = .ok (.iastore, 1) := dk_79 (dk_at dksX6_goAnew_4 20 rfl rfl)
theorem dX6_goAnew_114 : decode cX6_goAnew 114 = .ok (.iload 4, 2) := dk_21 4 (dk_at dksX6_goAnew_4 21 rfl rfl)
theorem dX6_goAnew_116 : decode cX6_goAnew 116 = .ok (.iload_n 1, 1) := dk_27 (dk_at dksX6_goAnew_4 23 rfl rfl)
theorem dX6_goAnew_117 : decode cX6_goAnew 117 = .ok (.if_icmp .ge 22, 3) := dk_162 0 22 (dk_at dksX6_goAnew_5 0 rfl rfl)
theorem dX6_goAnew_120 : decode cX6_goAnew 120 = .ok (.iload 6, 2) := dk_21 6 (dk_at dksX6_goAnew_5 3 rfl rfl)
theorem dX6_goAnew_122 : decode cX6_goAnew 122 = .ok (.aload 5, 2) := dk_25 5 (dk_at dksX6_goAnew_5 5 rfl rfl)
theorem dX6_goAnew_124 : decode cX6_goAnew 124 = .ok (.getfield 106, 3) := dk_180 0 106 (dk_at dksX6_goAnew_5 7 rfl rfl)
theorem dX6_goAnew_127 : decode cX6_goAnew 127 = .ok (.if_icmp .eq 12, 3) := dk_159 0 12 (dk_at dksX6_goAnew_5 10 rfl rfl)
theorem dX6_goAnew_130 : decode cX6_goAnew 130 = .ok (.aload 5, 2) := dk_25 5 (dk_at dksX6_goAnew_5 13 rfl rfl)
theorem dX6_goAnew_132 : decode cX6_goAnew 132 = .ok (.iload_n 2, 1) := dk_28 (dk_at dksX6_goAnew_5 15 rfl rfl)
theorem dX6_goAnew_133 : decode cX6_goAnew 133 = .ok (.putfield 125, 3) := dk_181 0 125 (dk_at dksX6_goAnew_5 16 rfl rfl)
theorem dX6_goAnew_136 : decode cX6_goAnew 136 = .ok (.iinc 3 1, 3) := dk_132 3 1 (dk_at dksX6_goAnew_5 19 rfl rfl)
theorem dX6_goAnew_139 : decode cX6_goAnew 139 = .ok (.iinc 4 1, 3) := dk_132 4 1 (dk_at dksX6_goAnew_6 0 rfl rfl)
theorem dX6_goAnew_142 : decode cX6_goAnew 142 = .ok (.goto (-116), 3) := dk_167 255 140 (dk_at dksX6_goAnew_6 3 rfl rfl)
theorem dX6_goAnew_145 : decode cX6_goAnew 145 = .ok (.iload_n 3, 1) := dk_29 (dk_at dksX6_goAnew_6 6 rfl rfl)
theorem dX6_goAnew_146 : decode cX6_goAnew 146 = .ok (.ireturn, 1) := dk_172 (dk_at dksX6_goAnew_6 7 rfl rfl)
abbrev cX6_goesFrom : ByteArray := prog_11_method_8_code
def yX6_goesFrom : MethodName := ⟨RX6, "goesFrom", "(II)I"⟩
def dkwX6_goesFrom_4 : List UInt8 := [17, 1, 104, 112, 182, 0, 96, 62, 132, 4, 255, 167, 255, 180, 2, 172]
abbrev dktX6_goesFrom_4 : List UInt8 := dkwX6_goesFrom_4 ++ []
def dkwX6_goesFrom_3 : List UInt8 := [182, 0, 103, 163, 0, 11, 42, 29, 181, 0, 93, 21, 5, 172, 42, 4, 181, 0, 90, 42, 29, 4, 96]
abbrev dktX6_goesFrom_3 : List UInt8 := dkwX6_goesFrom_3 ++ dktX6_goesFrom_4
def dkwX6_goesFrom_2 : List UInt8 := [180, 0, 82, 153, 0, 38, 42, 180, 0, 36, 21, 5, 46, 28, 96, 42, 180, 0, 11, 21, 5, 50]
abbrev dktX6_goesFrom_2 : List UInt8 := dkwX6_goesFrom_2 ++ dktX6_goesFrom_3
def dkwX6_goesFrom_1 : List UInt8 := [54, 4, 21, 4, 158, 0, 77, 42, 180, 0, 26, 29, 46, 54, 5, 42, 180, 0, 11, 21, 5, 50]
abbrev dktX6_goesFrom_1 : List UInt8 := dkwX6_goesFrom_1 ++ dktX6_goesFrom_2
def dkwX6_goesFrom_0 : List UInt8 := [42, 3, 181, 0, 90, 42, 2, 181, 0, 93, 42, 27, 182, 0, 96, 62, 42, 180, 0, 22, 182, 0, 99]
abbrev dktX6_goesFrom_0 : List UInt8 := dkwX6_goesFrom_0 ++ dktX6_goesFrom_1
theorem dksX6_goesFrom_0 : cX6_goesFrom.data.toList.drop 0 = dktX6_goesFrom_0 := by decide +kernel
theorem dksX6_goesFrom_1 : cX6_goesFrom.data.toList.drop 23 = dktX6_goesFrom_1 := dk_seg dksX6_goesFrom_0 23 rfl rfl
theorem dksX6_goesFrom_2 : cX6_goesFrom.data.toList.drop 45 = dktX6_goesFrom_2 := dk_seg dksX6_goesFrom_1 22 rfl rfl
theorem dksX6_goesFrom_3 : cX6_goesFrom.data.toList.drop 67 = dktX6_goesFrom_3 := dk_seg dksX6_goesFrom_2 22 rfl rfl
theorem dksX6_goesFrom_4 : cX6_goesFrom.data.toList.drop 90 = dktX6_goesFrom_4 := dk_seg dksX6_goesFrom_3 23 rfl rfl
theorem dX6_goesFrom_0 : decode cX6_goesFrom 0 = .ok (.aload_n 0, 1) := dk_42 (dk_at dksX6_goesFrom_0 0 rfl rfl)
theorem dX6_goesFrom_1 : decode cX6_goesFrom 1 = .ok (.iconst 0, 1) := dk_3 (dk_at dksX6_goesFrom_0 1 rfl rfl)
theorem dX6_goesFrom_2 : decode cX6_goesFrom 2 = .ok (.putfield 90, 3) := dk_181 0 90 (dk_at dksX6_goesFrom_0 2 rfl rfl)
theorem dX6_goesFrom_5 : decode cX6_goesFrom 5 = .ok (.aload_n 0, 1) := dk_42 (dk_at dksX6_goesFrom_0 5 rfl rfl)
theorem dX6_goesFrom_6 : decode cX6_goesFrom 6 = .ok (.iconst (-1), 1) := dk_2 (dk_at dksX6_goesFrom_0 6 rfl rfl)
theorem dX6_goesFrom_7 : decode cX6_goesFrom 7 = .ok (.putfield 93, 3) := dk_181 0 93 (dk_at dksX6_goesFrom_0 7 rfl rfl)
theorem dX6_goesFrom_10 : decode cX6_goesFrom 10 = .ok (.aload_n 0, 1) := dk_42 (dk_at dksX6_goesFrom_0 10 rfl rfl)
theorem dX6_goesFrom_11 : decode cX6_goesFrom 11 = .ok (.iload_n 1, 1) := dk_27 (dk_at dksX6_goesFrom_0 11 rfl rfl)
theorem dX6_goesFrom_12 : decode cX6_goesFrom 12 = .ok (.invokevirtual 96, 3) := dk_182 0 96 (dk_at dksX6_goesFrom_0 12 rfl rfl)
theorem dX6_goesFrom_15 : decode cX6_goesFrom 15 = .ok (.istore_n 3, 1) := dk_62 (dk_at dksX6_goesFrom_0 15 rfl rfl)
theorem dX6_goesFrom_16 : decode cX6_goesFrom 16 = .ok (.aload_n 0, 1) := dk_42 (dk_at dksX6_goesFrom_0 16 rfl rfl)
theorem dX6_goesFrom_17 : decode cX6_goesFrom 17 = .ok (.getfield 22, 3) := dk_180 0 22 (dk_at dksX6_goesFrom_0 17 rfl rfl)
theorem dX6_goesFrom_20 : decode cX6_goesFrom 20 = .ok (.invokevirtual 99, 3) := dk_182 0 99 (dk_at dksX6_goesFrom_0 20 rfl rfl)
theorem dX6_goesFrom_23 : decode cX6_goesFrom 23 = .ok (.istore 4, 2) := dk_54 4 (dk_at dksX6_goesFrom_1 0 rfl rfl)
theorem dX6_goesFrom_25 : decode cX6_goesFrom 25 = .ok (.iload 4, 2) := dk_21 4 (dk_at dksX6_goesFrom_1 2 rfl rfl)
theorem dX6_goesFrom_27 : decode cX6_goesFrom 27 = .ok (.ifCond .le 77, 3) := dk_158 0 77 (dk_at dksX6_goesFrom_1 4 rfl rfl)
theorem dX6_goesFrom_30 : decode cX6_goesFrom 30 = .ok (.aload_n 0, 1) := dk_42 (dk_at dksX6_goesFrom_1 7 rfl rfl)
theorem dX6_goesFrom_31 : decode cX6_goesFrom 31 = .ok (.getfield 26, 3) := dk_180 0 26 (dk_at dksX6_goesFrom_1 8 rfl rfl)
theorem dX6_goesFrom_34 : decode cX6_goesFrom 34 = .ok (.iload_n 3, 1) := dk_29 (dk_at dksX6_goesFrom_1 11 rfl rfl)
theorem dX6_goesFrom_35 : decode cX6_goesFrom 35 = .ok (.iaload, 1) := dk_46 (dk_at dksX6_goesFrom_1 12 rfl rfl)
theorem dX6_goesFrom_36 : decode cX6_goesFrom 36 = .ok (.istore 5, 2) := dk_54 5 (dk_at dksX6_goesFrom_1 13 rfl rfl)
theorem dX6_goesFrom_38 : decode cX6_goesFrom 38 = .ok (.aload_n 0, 1) := dk_42 (dk_at dksX6_goesFrom_1 15 rfl rfl)
theorem dX6_goesFrom_39 : decode cX6_goesFrom 39 = .ok (.getfield 11, 3) := dk_180 0 11 (dk_at dksX6_goesFrom_1 16 rfl rfl)
theorem dX6_goesFrom_42 : decode cX6_goesFrom 42 = .ok (.iload 5, 2) := dk_21 5 (dk_at dksX6_goesFrom_1 19 rfl rfl)
theorem dX6_goesFrom_44 : decode cX6_goesFrom 44 = .ok (.aaload, 1) := dk_50 (dk_at dksX6_goesFrom_1 21 rfl rfl)
theorem dX6_goesFrom_45 : decode cX6_goesFrom 45 = .ok (.getfield 82, 3) := dk_180 0 82 (dk_at dksX6_goesFrom_2 0 rfl rfl)
theorem dX6_goesFrom_48 : decode cX6_goesFrom 48 = .ok (.ifCond .eq 38, 3) := dk_153 0 38 (dk_at dksX6_goesFrom_2 3 rfl rfl)
theorem dX6_goesFrom_51 : decode cX6_goesFrom 51 = .ok (.aload_n 0, 1) := dk_42 (dk_at dksX6_goesFrom_2 6 rfl rfl)
theorem dX6_goesFrom_52 : decode cX6_goesFrom 52 = .ok (.getfield 36, 3) := dk_180 0 36 (dk_at dksX6_goesFrom_2 7 rfl rfl)
theorem dX6_goesFrom_55 : decode cX6_goesFrom 55 = .ok (.iload 5, 2) := dk_21 5 (dk_at dksX6_goesFrom_2 10 rfl rfl)
theorem dX6_goesFrom_57 : decode cX6_goesFrom 57 = .ok (.iaload, 1) := dk_46 (dk_at dksX6_goesFrom_2 12 rfl rfl)
theorem dX6_goesFrom_58 : decode cX6_goesFrom 58 = .ok (.iload_n 2, 1) := dk_28 (dk_at dksX6_goesFrom_2 13 rfl rfl)
theorem dX6_goesFrom_59 : decode cX6_goesFrom 59 = .ok (.iadd, 1) := dk_96 (dk_at dksX6_goesFrom_2 14 rfl rfl)
theorem dX6_goesFrom_60 : decode cX6_goesFrom 60 = .ok (.aload_n 0, 1) := dk_42 (dk_at dksX6_goesFrom_2 15 rfl rfl)
theorem dX6_goesFrom_61 : decode cX6_goesFrom 61 = .ok (.getfield 11, 3) := dk_180 0 11 (dk_at dksX6_goesFrom_2 16 rfl rfl)
theorem dX6_goesFrom_64 : decode cX6_goesFrom 64 = .ok (.iload 5, 2) := dk_21 5 (dk_at dksX6_goesFrom_2 19 rfl rfl)
theorem dX6_goesFrom_66 : decode cX6_goesFrom 66 = .ok (.aaload, 1) := dk_50 (dk_at dksX6_goesFrom_2 21 rfl rfl)
theorem dX6_goesFrom_67 : decode cX6_goesFrom 67 = .ok (.invokevirtual 103, 3) := dk_182 0 103 (dk_at dksX6_goesFrom_3 0 rfl rfl)
theorem dX6_goesFrom_70 : decode cX6_goesFrom 70 = .ok (.if_icmp .gt 11, 3) := dk_163 0 11 (dk_at dksX6_goesFrom_3 3 rfl rfl)
theorem dX6_goesFrom_73 : decode cX6_goesFrom 73 = .ok (.aload_n 0, 1) := dk_42 (dk_at dksX6_goesFrom_3 6 rfl rfl)
theorem dX6_goesFrom_74 : decode cX6_goesFrom 74 = .ok (.iload_n 3, 1) := dk_29 (dk_at dksX6_goesFrom_3 7 rfl rfl)
theorem dX6_goesFrom_75 : decode cX6_goesFrom 75 = .ok (.putfield 93, 3) := dk_181 0 93 (dk_at dksX6_goesFrom_3 8 rfl rfl)
theorem dX6_goesFrom_78 : decode cX6_goesFrom 78 = .ok (.iload 5, 2) := dk_21 5 (dk_at dksX6_goesFrom_3 11 rfl rfl)
theorem dX6_goesFrom_80 : decode cX6_goesFrom 80 = .ok (.ireturn, 1) := dk_172 (dk_at dksX6_goesFrom_3 13 rfl rfl)
theorem dX6_goesFrom_81 : decode cX6_goesFrom 81 = .ok (.aload_n 0, 1) := dk_42 (dk_at dksX6_goesFrom_3 14 rfl rfl)
theorem dX6_goesFrom_82 : decode cX6_goesFrom 82 = .ok (.iconst 1, 1) := dk_4 (dk_at dksX6_goesFrom_3 15 rfl rfl)
theorem dX6_goesFrom_83 : decode cX6_goesFrom 83 = .ok (.putfield 90, 3) := dk_181 0 90 (dk_at dksX6_goesFrom_3 16 rfl rfl)
theorem dX6_goesFrom_86 : decode cX6_goesFrom 86 = .ok (.aload_n 0, 1) := dk_42 (dk_at dksX6_goesFrom_3 19 rfl rfl)
theorem dX6_goesFrom_87 : decode cX6_goesFrom 87 = .ok (.iload_n 3, 1) := dk_29 (dk_at dksX6_goesFrom_3 20 rfl rfl)
theorem dX6_goesFrom_88 : decode cX6_goesFrom 88 = .ok (.iconst 1, 1) := dk_4 (dk_at dksX6_goesFrom_3 21 rfl rfl)
theorem dX6_goesFrom_89 : decode cX6_goesFrom 89 = .ok (.iadd, 1) := dk_96 (dk_at dksX6_goesFrom_3 22 rfl rfl)
theorem dX6_goesFrom_90 : decode cX6_goesFrom 90 = .ok (.sipush 360, 3) := dk_17 1 104 (dk_at dksX6_goesFrom_4 0 rfl rfl)
theorem dX6_goesFrom_93 : decode cX6_goesFrom 93 = .ok (.irem, 1) := dk_112 (dk_at dksX6_goesFrom_4 3 rfl rfl)
theorem dX6_goesFrom_94 : decode cX6_goesFrom 94 = .ok (.invokevirtual 96, 3) := dk_182 0 96 (dk_at dksX6_goesFrom_4 4 rfl rfl)
theorem dX6_goesFrom_97 : decode cX6_goesFrom 97 = .ok (.istore_n 3, 1) := dk_62 (dk_at dksX6_goesFrom_4 7 rfl rfl)
theorem dX6_goesFrom_98 : decode cX6_goesFrom 98 = .ok (.iinc 4 (-1), 3) := dk_132 4 255 (dk_at dksX6_goesFrom_4 8 rfl rfl)
theorem dX6_goesFrom_101 : decode cX6_goesFrom 101 = .ok (.goto (-76), 3) := dk_167 255 180 (dk_at dksX6_goesFrom_4 11 rfl rfl)
theorem dX6_goesFrom_104 : decode cX6_goesFrom 104 = .ok (.iconst (-1), 1) := dk_2 (dk_at dksX6_goesFrom_4 14 rfl rfl)
theorem dX6_goesFrom_105 : decode cX6_goesFrom 105 = .ok (.ireturn, 1) := dk_172 (dk_at dksX6_goesFrom_4 15 rfl rfl)
abbrev cX6_signFrom : ByteArray := prog_11_method_5_code
def yX6_signFrom : MethodName := ⟨RX6, "signFrom", "(I)I"⟩
def dkwX6_signFrom_1 : List UInt8 := [28, 172]
abbrev dktX6_signFrom_1 : List UInt8 := dkwX6_signFrom_1 ++ []
def dkwX6_signFrom_0 : List UInt8 := [42, 180, 0, 22, 27, 182, 0, 78, 61, 28, 156, 0, 14, 42, 180, 0, 22, 3, 182, 0, 78, 167, 0, 4]
abbrev dktX6_signFrom_0 : List UInt8 := dkwX6_signFrom_0 ++ dktX6_signFrom_1
theorem dksX6_signFrom_0 : cX6_signFrom.data.toList.drop 0 = dktX6_signFrom_0 := by decide +kernel
theorem dksX6_signFrom_1 : cX6_signFrom.data.toList.drop 24 = dktX6_signFrom_1 := dk_seg dksX6_signFrom_0 24 rfl rfl
theorem dX6_signFrom_0 : decode cX6_signFrom 0 = .ok (.aload_n 0, 1) := dk_42 (dk_at dksX6_signFrom_0 0 rfl rfl)
theorem dX6_signFrom_1 : decode cX6_signFrom 1 = .ok (.getfield 22, 3) := dk_180 0 22 (dk_at dksX6_signFrom_0 1 rfl rfl)
theorem dX6_signFrom_4 : decode cX6_signFrom 4 = .ok (.iload_n 1, 1) := dk_27 (dk_at dksX6_signFrom_0 4 rfl rfl)
theorem dX6_signFrom_5 : decode cX6_signFrom 5 = .ok (.invokevirtual 78, 3) := dk_182 0 78 (dk_at dksX6_signFrom_0 5 rfl rfl)
theorem dX6_signFrom_8 : decode cX6_signFrom 8 = .ok (.istore_n 2, 1) := dk_61 (dk_at dksX6_signFrom_0 8 rfl rfl)
theorem dX6_signFrom_9 : decode cX6_signFrom 9 = .ok (.iload_n 2, 1) := dk_28 (dk_at dksX6_signFrom_0 9 rfl rfl)
theorem dX6_signFrom_10 : decode cX6_signFrom 10 = .ok (.ifCond .ge 14, 3) := dk_156 0 14 (dk_at dksX6_signFrom_0 10 rfl rfl)
theorem dX6_signFrom_13 : decode cX6_signFrom 13 = .ok (.aload_n 0, 1) := dk_42 (dk_at dksX6_signFrom_0 13 rfl rfl)
theorem dX6_signFrom_14 : decode cX6_signFrom 14 = .ok (.getfield 22, 3) := dk_180 0 22 (dk_at dksX6_signFrom_0 14 rfl rfl)
theorem dX6_signFrom_17 : decode cX6_signFrom 17 = .ok (.iconst 0, 1) := dk_3 (dk_at dksX6_signFrom_0 17 rfl rfl)
theorem dX6_signFrom_18 : decode cX6_signFrom 18 = .ok (.invokevirtual 78, 3) := dk_182 0 78 (dk_at dksX6_signFrom_0 18 rfl rfl)
theorem dX6_signFrom_21 : decode cX6_signFrom 21 = .ok (.goto 4, 3) := dk_167 0 4 (dk_at dksX6_signFrom_0 21 rfl rfl)
theorem dX6_signFrom_24 : decode cX6_signFrom 24 = .ok (.iload_n 2, 1) := dk_28 (dk_at dksX6_signFrom_1 0 rfl rfl)
theorem dX6_signFrom_25 : decode cX6_signFrom 25 = .ok (.ireturn, 1) := dk_172 (dk_at dksX6_signFrom_1 1 rfl rfl)
abbrev cX6_isBakery : ByteArray := prog_11_method_4_code
def yX6_isBakery : MethodName := ⟨RX6, "isBakery", "(I)Z"⟩
def dkwX6_isBakery_0 : List UInt8 := [27, 3, 42, 180, 0, 41, 4, 100, 184, 0, 74, 172]
abbrev dktX6_isBakery_0 : List UInt8 := dkwX6_isBakery_0 ++ []
theorem dksX6_isBakery_0 : cX6_isBakery.data.toList.drop 0 = dktX6_isBakery_0 := by decide +kernel
theorem dX6_isBakery_0 : decode cX6_isBakery 0 = .ok (.iload_n 1, 1) := dk_27 (dk_at dksX6_isBakery_0 0 rfl rfl)
theorem dX6_isBakery_1 : decode cX6_isBakery 1 = .ok (.iconst 0, 1) := dk_3 (dk_at dksX6_isBakery_0 1 rfl rfl)
theorem dX6_isBakery_2 : decode cX6_isBakery 2 = .ok (.aload_n 0, 1) := dk_42 (dk_at dksX6_isBakery_0 2 rfl rfl)
theorem dX6_isBakery_3 : decode cX6_isBakery 3 = .ok (.getfield 41, 3) := dk_180 0 41 (dk_at dksX6_isBakery_0 3 rfl rfl)
theorem dX6_isBakery_6 : decode cX6_isBakery 6 = .ok (.iconst 1, 1) := dk_4 (dk_at dksX6_isBakery_0 6 rfl rfl)
theorem dX6_isBakery_7 : decode cX6_isBakery 7 = .ok (.isub, 1) := dk_100 (dk_at dksX6_isBakery_0 7 rfl rfl)
theorem dX6_isBakery_8 : decode cX6_isBakery 8 = .ok (.invokestatic 74, 3) := dk_184 0 74 (dk_at dksX6_isBakery_0 8 rfl rfl)
theorem dX6_isBakery_11 : decode cX6_isBakery 11 = .ok (.ireturn, 1) := dk_172 (dk_at dksX6_isBakery_0 11 rfl rfl)
abbrev cX6_signsOf : ByteArray := prog_11_method_7_code
def yX6_signsOf : MethodName := ⟨RX6, "signsOf", "(I)I"⟩
def dkwX6_signsOf_2 : List UInt8 := [167, 255, 220, 28, 172]
abbrev dktX6_signsOf_2 : List UInt8 := dkwX6_signsOf_2 ++ []
def dkwX6_signsOf_1 : List UInt8 := [160, 0, 7, 4, 167, 0, 4, 3, 184, 0, 86, 96, 61, 42, 180, 0, 22, 29, 4, 96, 182, 0, 78, 62]
abbrev dktX6_signsOf_1 : List UInt8 := dkwX6_signsOf_1 ++ dktX6_signsOf_2
def dkwX6_signsOf_0 : List UInt8 := [3, 61, 42, 180, 0, 22, 3, 182, 0, 78, 62, 29, 155, 0, 38, 28, 42, 180, 0, 26, 29, 46, 27]
abbrev dktX6_signsOf_0 : List UInt8 := dkwX6_signsOf_0 ++ dktX6_signsOf_1
theorem dksX6_signsOf_0 : cX6_signsOf.data.toList.drop 0 = dktX6_signsOf_0 := by decide +kernel
theorem dksX6_signsOf_1 : cX6_signsOf.data.toList.drop 23 = dktX6_signsOf_1 := dk_seg dksX6_signsOf_0 23 rfl rfl
theorem dksX6_signsOf_2 : cX6_signsOf.data.toList.drop 47 = dktX6_signsOf_2 := dk_seg dksX6_signsOf_1 24 rfl rfl
theorem dX6_signsOf_0 : decode cX6_signsOf 0 = .ok (.iconst 0, 1) := dk_3 (dk_at dksX6_signsOf_0 0 rfl rfl)
theorem dX6_signsOf_1 : decode cX6_signsOf 1 = .ok (.istore_n 2, 1) := dk_61 (dk_at dksX6_signsOf_0 1 rfl rfl)
theorem dX6_signsOf_2 : decode cX6_signsOf 2 = .ok (.aload_n 0, 1) := dk_42 (dk_at dksX6_signsOf_0 2 rfl rfl)
theorem dX6_signsOf_3 : decode cX6_signsOf 3 = .ok (.getfield 22, 3) := dk_180 0 22 (dk_at dksX6_signsOf_0 3 rfl rfl)
theorem dX6_signsOf_6 : decode cX6_signsOf 6 = .ok (.iconst 0, 1) := dk_3 (dk_at dksX6_signsOf_0 6 rfl rfl)
theorem dX6_signsOf_7 : decode cX6_signsOf 7 = .ok (.invokevirtual 78, 3) := dk_182 0 78 (dk_at dksX6_signsOf_0 7 rfl rfl)
theorem dX6_signsOf_10 : decode cX6_signsOf 10 = .ok (.istore_n 3, 1) := dk_62 (dk_at dksX6_signsOf_0 10 rfl rfl)
theorem dX6_signsOf_11 : decode cX6_signsOf 11 = .ok (.iload_n 3, 1) := dk_29 (dk_at dksX6_signsOf_0 11 rfl rfl)
theorem dX6_signsOf_12 : decode cX6_signsOf 12 = .ok (.ifCond .lt 38, 3) := dk_155 0 38 (dk_at dksX6_signsOf_0 12 rfl rfl)
theorem dX6_signsOf_15 : decode cX6_signsOf 15 = .ok (.iload_n 2, 1) := dk_28 (dk_at dksX6_signsOf_0 15 rfl rfl)
theorem dX6_signsOf_16 : decode cX6_signsOf 16 = .ok (.aload_n 0, 1) := dk_42 (dk_at dksX6_signsOf_0 16 rfl rfl)
theorem dX6_signsOf_17 : decode cX6_signsOf 17 = .ok (.getfield 26, 3) := dk_180 0 26 (dk_at dksX6_signsOf_0 17 rfl rfl)
theorem dX6_signsOf_20 : decode cX6_signsOf 20 = .ok (.iload_n 3, 1) := dk_29 (dk_at dksX6_signsOf_0 20 rfl rfl)
theorem dX6_signsOf_21 : decode cX6_signsOf 21 = .ok (.iaload, 1) := dk_46 (dk_at dksX6_signsOf_0 21 rfl rfl)
theorem dX6_signsOf_22 : decode cX6_signsOf 22 = .ok (.iload_n 1, 1) := dk_27 (dk_at dksX6_signsOf_0 22 rfl rfl)
theorem dX6_signsOf_23 : decode cX6_signsOf 23 = .ok (.if_icmp .ne 7, 3) := dk_160 0 7 (dk_at dksX6_signsOf_1 0 rfl rfl)
theorem dX6_signsOf_26 : decode cX6_signsOf 26 = .ok (.iconst 1, 1) := dk_4 (dk_at dksX6_signsOf_1 3 rfl rfl)
theorem dX6_signsOf_27 : decode cX6_signsOf 27 = .ok (.goto 4, 3) := dk_167 0 4 (dk_at dksX6_signsOf_1 4 rfl rfl)
theorem dX6_signsOf_30 : decode cX6_signsOf 30 = .ok (.iconst 0, 1) := dk_3 (dk_at dksX6_signsOf_1 7 rfl rfl)
theorem dX6_signsOf_31 : decode cX6_signsOf 31 = .ok (.invokestatic 86, 3) := dk_184 0 86 (dk_at dksX6_signsOf_1 8 rfl rfl)
theorem dX6_signsOf_34 : decode cX6_signsOf 34 = .ok (.iadd, 1) := dk_96 (dk_at dksX6_signsOf_1 11 rfl rfl)
theorem dX6_signsOf_35 : decode cX6_signsOf 35 = .ok (.istore_n 2, 1) := dk_61 (dk_at dksX6_signsOf_1 12 rfl rfl)
theorem dX6_signsOf_36 : decode cX6_signsOf 36 = .ok (.aload_n 0, 1) := dk_42 (dk_at dksX6_signsOf_1 13 rfl rfl)
theorem dX6_signsOf_37 : decode cX6_signsOf 37 = .ok (.getfield 22, 3) := dk_180 0 22 (dk_at dksX6_signsOf_1 14 rfl rfl)
theorem dX6_signsOf_40 : decode cX6_signsOf 40 = .ok (.iload_n 3, 1) := dk_29 (dk_at dksX6_signsOf_1 17 rfl rfl)
theorem dX6_signsOf_41 : decode cX6_signsOf 41 = .ok (.iconst 1, 1) := dk_4 (dk_at dksX6_signsOf_1 18 rfl rfl)
theorem dX6_signsOf_42 : decode cX6_signsOf 42 = .ok (.iadd, 1) := dk_96 (dk_at dksX6_signsOf_1 19 rfl rfl)
theorem dX6_signsOf_43 : decode cX6_signsOf 43 = .ok (.invokevirtual 78, 3) := dk_182 0 78 (dk_at dksX6_signsOf_1 20 rfl rfl)
theorem dX6_signsOf_46 : decode cX6_signsOf 46 = .ok (.istore_n 3, 1) := dk_62 (dk_at dksX6_signsOf_1 23 rfl rfl)
theorem dX6_signsOf_47 : decode cX6_signsOf 47 = .ok (.goto (-36), 3) := dk_167 255 220 (dk_at dksX6_signsOf_2 0 rfl rfl)
theorem dX6_signsOf_50 : decode cX6_signsOf 50 = .ok (.iload_n 2, 1) := dk_28 (dk_at dksX6_signsOf_2 3 rfl rfl)
theorem dX6_signsOf_51 : decode cX6_signsOf 51 = .ok (.ireturn, 1) := dk_172 (dk_at dksX6_signsOf_2 4 rfl rfl)
abbrev cX6_openMany : ByteArray := prog_11_method_6_code
def yX6_openMany : MethodName := ⟨RX6, "openMany", "()I"⟩
def dkwX6_openMany_1 : List UInt8 := [184, 0, 86, 96, 60, 132, 2, 1, 167, 255, 230, 27, 172]
abbrev dktX6_openMany_1 : List UInt8 := dkwX6_openMany_1 ++ []
def dkwX6_openMany_0 : List UInt8 := [3, 60, 3, 61, 28, 42, 180, 0, 41, 162, 0, 24, 27, 42, 180, 0, 11, 28, 50, 180, 0, 82]
abbrev dktX6_openMany_0 : List UInt8 := dkwX6_openMany_0 ++ dktX6_openMany_1
theorem dksX6_openMany_0 : cX6_openMany.data.toList.drop 0 = dktX6_openMany_0 := by decide +kernel
theorem dksX6_openMany_1 : cX6_openMany.data.toList.drop 22 = dktX6_openMany_1 := dk_seg dksX6_openMany_0 22 rfl rfl
theorem dX6_openMany_0 : decode cX6_openMany 0 = .ok (.iconst 0, 1) := dk_3 (dk_at dksX6_openMany_0 0 rfl rfl)
theorem dX6_openMany_1 : decode cX6_openMany 1 = .ok (.istore_n 1, 1) := dk_60 (dk_at dksX6_openMany_0 1 rfl rfl)
theorem dX6_openMany_2 : decode cX6_openMany 2 = .ok (.iconst 0, 1) := dk_3 (dk_at dksX6_openMany_0 2 rfl rfl)
theorem dX6_openMany_3 : decode cX6_openMany 3 = .ok (.istore_n 2, 1) := dk_61 (dk_at dksX6_openMany_0 3 rfl rfl)
theorem dX6_openMany_4 : decode cX6_openMany 4 = .ok (.iload_n 2, 1) := dk_28 (dk_at dksX6_openMany_0 4 rfl rfl)
theorem dX6_openMany_5 : decode cX6_openMany 5 = .ok (.aload_n 0, 1) := dk_42 (dk_at dksX6_openMany_0 5 rfl rfl)
theorem dX6_openMany_6 : decode cX6_openMany 6 = .ok (.getfield 41, 3) := dk_180 0 41 (dk_at dksX6_openMany_0 6 rfl rfl)
theorem dX6_openMany_9 : decode cX6_openMany 9 = .ok (.if_icmp .ge 24, 3) := dk_162 0 24 (dk_at dksX6_openMany_0 9 rfl rfl)
theorem dX6_openMany_12 : decode cX6_openMany 12 = .ok (.iload_n 1, 1) := dk_27 (dk_at dksX6_openMany_0 12 rfl rfl)
theorem dX6_openMany_13 : decode cX6_openMany 13 = .ok (.aload_n 0, 1) := dk_42 (dk_at dksX6_openMany_0 13 rfl rfl)
theorem dX6_openMany_14 : decode cX6_openMany 14 = .ok (.getfield 11, 3) := dk_180 0 11 (dk_at dksX6_openMany_0 14 rfl rfl)
theorem dX6_openMany_17 : decode cX6_openMany 17 = .ok (.iload_n 2, 1) := dk_28 (dk_at dksX6_openMany_0 17 rfl rfl)
theorem dX6_openMany_18 : decode cX6_openMany 18 = .ok (.aaload, 1) := dk_50 (dk_at dksX6_openMany_0 18 rfl rfl)
theorem dX6_openMany_19 : decode cX6_openMany 19 = .ok (.getfield 82, 3) := dk_180 0 82 (dk_at dksX6_openMany_0 19 rfl rfl)
theorem dX6_openMany_22 : decode cX6_openMany 22 = .ok (.invokestatic 86, 3) := dk_184 0 86 (dk_at dksX6_openMany_1 0 rfl rfl)
theorem dX6_openMany_25 : decode cX6_openMany 25 = .ok (.iadd, 1) := dk_96 (dk_at dksX6_openMany_1 3 rfl rfl)
theorem dX6_openMany_26 : decode cX6_openMany 26 = .ok (.istore_n 1, 1) := dk_60 (dk_at dksX6_openMany_1 4 rfl rfl)
theorem dX6_openMany_27 : decode cX6_openMany 27 = .ok (.iinc 2 1, 3) := dk_132 2 1 (dk_at dksX6_openMany_1 5 rfl rfl)
theorem dX6_openMany_30 : decode cX6_openMany 30 = .ok (.goto (-26), 3) := dk_167 255 230 (dk_at dksX6_openMany_1 8 rfl rfl)
theorem dX6_openMany_33 : decode cX6_openMany 33 = .ok (.iload_n 1, 1) := dk_27 (dk_at dksX6_openMany_1 11 rfl rfl)
theorem dX6_openMany_34 : decode cX6_openMany 34 = .ok (.ireturn, 1) := dk_172 (dk_at dksX6_openMany_1 12 rfl rfl)
abbrev cX6_leaves : ByteArray := prog_11_method_11_code
def yX6_leaves : MethodName := ⟨RX6, "leaves", "(I)V"⟩
def dkwX6_leaves_1 : List UInt8 := [96, 50, 182, 0, 71, 132, 2, 1, 167, 255, 226, 42, 89, 180, 0, 48, 4, 100, 181, 0, 48, 177]
abbrev dktX6_leaves_1 : List UInt8 := dkwX6_leaves_1 ++ []
def dkwX6_leaves_0 : List UInt8 := [27, 61, 28, 4, 96, 42, 180, 0, 48, 162, 0, 26, 42, 180, 0, 32, 28, 50, 42, 180, 0, 32, 28, 4]
abbrev dktX6_leaves_0 : List UInt8 := dkwX6_leaves_0 ++ dktX6_leaves_1
theorem dksX6_leaves_0 : cX6_leaves.data.toList.drop 0 = dktX6_leaves_0 := by decide +kernel
theorem dksX6_leaves_1 : cX6_leaves.data.toList.drop 24 = dktX6_leaves_1 := dk_seg dksX6_leaves_0 24 rfl rfl
theorem dX6_leaves_0 : decode cX6_leaves 0 = .ok (.iload_n 1, 1) := dk_27 (dk_at dksX6_leaves_0 0 rfl rfl)
theorem dX6_leaves_1 : decode cX6_leaves 1 = .ok (.istore_n 2, 1) := dk_61 (dk_at dksX6_leaves_0 1 rfl rfl)
theorem dX6_leaves_2 : decode cX6_leaves 2 = .ok (.iload_n 2, 1) := dk_28 (dk_at dksX6_leaves_0 2 rfl rfl)
theorem dX6_leaves_3 : decode cX6_leaves 3 = .ok (.iconst 1, 1) := dk_4 (dk_at dksX6_leaves_0 3 rfl rfl)
theorem dX6_leaves_4 : decode cX6_leaves 4 = .ok (.iadd, 1) := dk_96 (dk_at dksX6_leaves_0 4 rfl rfl)
theorem dX6_leaves_5 : decode cX6_leaves 5 = .ok (.aload_n 0, 1) := dk_42 (dk_at dksX6_leaves_0 5 rfl rfl)
theorem dX6_leaves_6 : decode cX6_leaves 6 = .ok (.getfield 48, 3) := dk_180 0 48 (dk_at dksX6_leaves_0 6 rfl rfl)
theorem dX6_leaves_9 : decode cX6_leaves 9 = .ok (.if_icmp .ge 26, 3) := dk_162 0 26 (dk_at dksX6_leaves_0 9 rfl rfl)
theorem dX6_leaves_12 : decode cX6_leaves 12 = .ok (.aload_n 0, 1) := dk_42 (dk_at dksX6_leaves_0 12 rfl rfl)
theorem dX6_leaves_13 : decode cX6_leaves 13 = .ok (.getfield 32, 3) := dk_180 0 32 (dk_at dksX6_leaves_0 13 rfl rfl)
theorem dX6_leaves_16 : decode cX6_leaves 16 = .ok (.iload_n 2, 1) := dk_28 (dk_at dksX6_leaves_0 16 rfl rfl)
theorem dX6_leaves_17 : decode cX6_leaves 17 = .ok (.aaload, 1) := dk_50 (dk_at dksX6_leaves_0 17 rfl rfl)
theorem dX6_leaves_18 : decode cX6_leaves 18 = .ok (.aload_n 0, 1) := dk_42 (dk_at dksX6_leaves_0 18 rfl rfl)
theorem dX6_leaves_19 : decode cX6_leaves 19 = .ok (.getfield 32, 3) := dk_180 0 32 (dk_at dksX6_leaves_0 19 rfl rfl)
theorem dX6_leaves_22 : decode cX6_leaves 22 = .ok (.iload_n 2, 1) := dk_28 (dk_at dksX6_leaves_0 22 rfl rfl)
theorem dX6_leaves_23 : decode cX6_leaves 23 = .ok (.iconst 1, 1) := dk_4 (dk_at dksX6_leaves_0 23 rfl rfl)
theorem dX6_leaves_24 : decode cX6_leaves 24 = .ok (.iadd, 1) := dk_96 (dk_at dksX6_leaves_1 0 rfl rfl)
theorem dX6_leaves_25 : decode cX6_leaves 25 = .ok (.aaload, 1) := dk_50 (dk_at dksX6_leaves_1 1 rfl rfl)
theorem dX6_leaves_26 : decode cX6_leaves 26 = .ok (.invokevirtual 71, 3) := dk_182 0 71 (dk_at dksX6_leaves_1 2 rfl rfl)
theorem dX6_leaves_29 : decode cX6_leaves 29 = .ok (.iinc 2 1, 3) := dk_132 2 1 (dk_at dksX6_leaves_1 5 rfl rfl)
theorem dX6_leaves_32 : decode cX6_leaves 32 = .ok (.goto (-30), 3) := dk_167 255 226 (dk_at dksX6_leaves_1 8 rfl rfl)
theorem dX6_leaves_35 : decode cX6_leaves 35 = .ok (.aload_n 0, 1) := dk_42 (dk_at dksX6_leaves_1 11 rfl rfl)
theorem dX6_leaves_36 : decode cX6_leaves 36 = .ok (.dup, 1) := dk_89 (dk_at dksX6_leaves_1 12 rfl rfl)
theorem dX6_leaves_37 : decode cX6_leaves 37 = .ok (.getfield 48, 3) := dk_180 0 48 (dk_at dksX6_leaves_1 13 rfl rfl)
theorem dX6_leaves_40 : decode cX6_leaves 40 = .ok (.iconst 1, 1) := dk_4 (dk_at dksX6_leaves_1 16 rfl rfl)
theorem dX6_leaves_41 : decode cX6_leaves 41 = .ok (.isub, 1) := dk_100 (dk_at dksX6_leaves_1 17 rfl rfl)
theorem dX6_leaves_42 : decode cX6_leaves 42 = .ok (.putfield 48, 3) := dk_181 0 48 (dk_at dksX6_leaves_1 18 rfl rfl)
theorem dX6_leaves_45 : decode cX6_leaves 45 = .ok (.return_, 1) := dk_177 (dk_at dksX6_leaves_1 21 rfl rfl)
abbrev cX6_isOverloaded : ByteArray := prog_11_method_13_code
def yX6_isOverloaded : MethodName := ⟨RX6, "isOverloaded", "(I)Z"⟩
def dkwX6_isOverloaded_0 : List UInt8 := [42, 180, 0, 36, 27, 46, 42, 180, 0, 11, 27, 50, 180, 0, 136, 164, 0, 7, 4, 167, 0, 4, 3, 172]
abbrev dktX6_isOverloaded_0 : List UInt8 := dkwX6_isOverloaded_0 ++ []
theorem dksX6_isOverloaded_0 : cX6_isOverloaded.data.toList.drop 0 = dktX6_isOverloaded_0 := by decide +kernel
theorem dX6_isOverloaded_0 : decode cX6_isOverloaded 0 = .ok (.aload_n 0, 1) := dk_42 (dk_at dksX6_isOverloaded_0 0 rfl rfl)
theorem dX6_isOverloaded_1 : decode cX6_isOverloaded 1 = .ok (.getfield 36, 3) := dk_180 0 36 (dk_at dksX6_isOverloaded_0 1 rfl rfl)
theorem dX6_isOverloaded_4 : decode cX6_isOverloaded 4 = .ok (.iload_n 1, 1) := dk_27 (dk_at dksX6_isOverloaded_0 4 rfl rfl)
theorem dX6_isOverloaded_5 : decode cX6_isOverloaded 5 = .ok (.iaload, 1) := dk_46 (dk_at dksX6_isOverloaded_0 5 rfl rfl)
theorem dX6_isOverloaded_6 : decode cX6_isOverloaded 6 = .ok (.aload_n 0, 1) := dk_42 (dk_at dksX6_isOverloaded_0 6 rfl rfl)
theorem dX6_isOverloaded_7 : decode cX6_isOverloaded 7 = .ok (.getfield 11, 3) := dk_180 0 11 (dk_at dksX6_isOverloaded_0 7 rfl rfl)
theorem dX6_isOverloaded_10 : decode cX6_isOverloaded 10 = .ok (.iload_n 1, 1) := dk_27 (dk_at dksX6_isOverloaded_0 10 rfl rfl)
theorem dX6_isOverloaded_11 : decode cX6_isOverloaded 11 = .ok (.aaload, 1) := dk_50 (dk_at dksX6_isOverloaded_0 11 rfl rfl)
theorem dX6_isOverloaded_12 : decode cX6_isOverloaded 12 = .ok (.getfield 136, 3) := dk_180 0 136 (dk_at dksX6_isOverloaded_0 12 rfl rfl)
theorem dX6_isOverloaded_15 : decode cX6_isOverloaded 15 = .ok (.if_icmp .le 7, 3) := dk_164 0 7 (dk_at dksX6_isOverloaded_0 15 rfl rfl)
theorem dX6_isOverloaded_18 : decode cX6_isOverloaded 18 = .ok (.iconst 1, 1) := dk_4 (dk_at dksX6_isOverloaded_0 18 rfl rfl)
theorem dX6_isOverloaded_19 : decode cX6_isOverloaded 19 = .ok (.goto 4, 3) := dk_167 0 4 (dk_at dksX6_isOverloaded_0 19 rfl rfl)
theorem dX6_isOverloaded_22 : decode cX6_isOverloaded 22 = .ok (.iconst 0, 1) := dk_3 (dk_at dksX6_isOverloaded_0 22 rfl rfl)
theorem dX6_isOverloaded_23 : decode cX6_isOverloaded 23 = .ok (.ireturn, 1) := dk_172 (dk_at dksX6_isOverloaded_0 23 rfl rfl)
abbrev cX6_greatestLoad : ByteArray := prog_11_method_12_code
def yX6_greatestLoad : MethodName := ⟨RX6, "greatestLoad", "()I"⟩
def dkwX6_greatestLoad_1 : List UInt8 := [132, 2, 1, 167, 255, 234, 27, 172]
abbrev dktX6_greatestLoad_1 : List UInt8 := dkwX6_greatestLoad_1 ++ []
def dkwX6_greatestLoad_0 : List UInt8 := [3, 60, 3, 61, 28, 42, 180, 0, 41, 162, 0, 20, 27, 42, 180, 0, 36, 28, 46, 184, 0, 131, 60]
abbrev dktX6_greatestLoad_0 : List UInt8 := dkwX6_greatestLoad_0 ++ dktX6_greatestLoad_1
theorem dksX6_greatestLoad_0 : cX6_greatestLoad.data.toList.drop 0 = dktX6_greatestLoad_0 := by decide +kernel
theorem dksX6_greatestLoad_1 : cX6_greatestLoad.data.toList.drop 23 = dktX6_greatestLoad_1 := dk_seg dksX6_greatestLoad_0 23 rfl rfl
theorem dX6_greatestLoad_0 : decode cX6_greatestLoad 0 = .ok (.iconst 0, 1) := dk_3 (dk_at dksX6_greatestLoad_0 0 rfl rfl)
theorem dX6_greatestLoad_1 : decode cX6_greatestLoad 1 = .ok (.istore_n 1, 1) := dk_60 (dk_at dksX6_greatestLoad_0 1 rfl rfl)
theorem dX6_greatestLoad_2 : decode cX6_greatestLoad 2 = .ok (.iconst 0, 1) := dk_3 (dk_at dksX6_greatestLoad_0 2 rfl rfl)
theorem dX6_greatestLoad_3 : decode cX6_greatestLoad 3 = .ok (.istore_n 2, 1) := dk_61 (dk_at dksX6_greatestLoad_0 3 rfl rfl)
theorem dX6_greatestLoad_4 : decode cX6_greatestLoad 4 = .ok (.iload_n 2, 1) := dk_28 (dk_at dksX6_greatestLoad_0 4 rfl rfl)
theorem dX6_greatestLoad_5 : decode cX6_greatestLoad 5 = .ok (.aload_n 0, 1) := dk_42 (dk_at dksX6_greatestLoad_0 5 rfl rfl)
theorem dX6_greatestLoad_6 : decode cX6_greatestLoad 6 = .ok (.getfield 41, 3) := dk_180 0 41 (dk_at dksX6_greatestLoad_0 6 rfl rfl)
theorem dX6_greatestLoad_9 : decode cX6_greatestLoad 9 = .ok (.if_icmp .ge 20, 3) := dk_162 0 20 (dk_at dksX6_greatestLoad_0 9 rfl rfl)
theorem dX6_greatestLoad_12 : decode cX6_greatestLoad 12 = .ok (.iload_n 1, 1) := dk_27 (dk_at dksX6_greatestLoad_0 12 rfl rfl)
theorem dX6_greatestLoad_13 : decode cX6_greatestLoad 13 = .ok (.aload_n 0, 1) := dk_42 (dk_at dksX6_greatestLoad_0 13 rfl rfl)
theorem dX6_greatestLoad_14 : decode cX6_greatestLoad 14 = .ok (.getfield 36, 3) := dk_180 0 36 (dk_at dksX6_greatestLoad_0 14 rfl rfl)
theorem dX6_greatestLoad_17 : decode cX6_greatestLoad 17 = .ok (.iload_n 2, 1) := dk_28 (dk_at dksX6_greatestLoad_0 17 rfl rfl)
theorem dX6_greatestLoad_18 : decode cX6_greatestLoad 18 = .ok (.iaload, 1) := dk_46 (dk_at dksX6_greatestLoad_0 18 rfl rfl)
theorem dX6_greatestLoad_19 : decode cX6_greatestLoad 19 = .ok (.invokestatic 131, 3) := dk_184 0 131 (dk_at dksX6_greatestLoad_0 19 rfl rfl)
theorem dX6_greatestLoad_22 : decode cX6_greatestLoad 22 = .ok (.istore_n 1, 1) := dk_60 (dk_at dksX6_greatestLoad_0 22 rfl rfl)
theorem dX6_greatestLoad_23 : decode cX6_greatestLoad 23 = .ok (.iinc 2 1, 3) := dk_132 2 1 (dk_at dksX6_greatestLoad_1 0 rfl rfl)
theorem dX6_greatestLoad_26 : decode cX6_greatestLoad 26 = .ok (.goto (-22), 3) := dk_167 255 234 (dk_at dksX6_greatestLoad_1 3 rfl rfl)
theorem dX6_greatestLoad_29 : decode cX6_greatestLoad 29 = .ok (.iload_n 1, 1) := dk_27 (dk_at dksX6_greatestLoad_1 6 rfl rfl)
theorem dX6_greatestLoad_30 : decode cX6_greatestLoad 30 = .ok (.ireturn, 1) := dk_172 (dk_at dksX6_greatestLoad_1 7 rfl rfl)
theorem q127 : (Jvm.Cond.initialized "BakeryRing$State") ∈ lw_all := lw_g (lw_at lw_m1 14 rfl) rfl
theorem q224 : (Jvm.Cond.selects "BakeryRing$State" ({ cls := "java/lang/Object", name := "getClass", desc := "()Ljava/lang/Class;" } : Jvm.MethodName) ({ cls := "java/lang/Object", name := "getClass", desc := "()Ljava/lang/Class;" } : Jvm.MethodName)) ∈ lw_all := lw_g (lw_at lw_m1 111 rfl) rfl
theorem q307 : (Jvm.Cond.instantiable "BakeryRing$State" (11 : Nat)) ∈ lw_all := lw_g (lw_at lw_m1 194 rfl) rfl
theorem q309 : (Jvm.Cond.instanceMethod ({ cls := "BakeryRing$State", name := "<init>", desc := "()V" } : Jvm.MethodName)) ∈ lw_all := lw_g (lw_at lw_m1 196 rfl) rfl
theorem q310 : (Jvm.Cond.code ({ cls := "BakeryRing$State", name := "<init>", desc := "()V" } : Jvm.MethodName) prog_11_method_1_code (2 : Nat) (Option.none : Option Jvm.ClassFile.FieldType)) ∈ lw_all := lw_g (lw_at lw_m1 197 rfl) rfl
theorem q311 : (Jvm.Cond.methodLink "BakeryRing$State" (3 : Nat) ({ cls := "java/lang/Object", name := "<init>", desc := "()V" } : Jvm.MethodName)) ∈ lw_all := lw_g (lw_at lw_m1 198 rfl) rfl
theorem q312 : (Jvm.Cond.classLink "BakeryRing$State" (9 : Nat) "BakeryRing$Bakery") ∈ lw_all := lw_g (lw_at lw_m1 199 rfl) rfl
theorem q314 : (Jvm.Cond.classLink "BakeryRing$State" (17 : Nat) "java/util/BitSet") ∈ lw_all := lw_g (lw_at lw_m1 201 rfl) rfl
theorem q316 : (Jvm.Cond.methodLink "BakeryRing$State" (19 : Nat) ({ cls := "java/util/BitSet", name := "<init>", desc := "(I)V" } : Jvm.MethodName)) ∈ lw_all := lw_g (lw_at lw_m1 203 rfl) rfl
theorem q339 : (Jvm.Cond.classLink "BakeryRing$State" (30 : Nat) "BakeryRing$Customer") ∈ lw_all := lw_g (lw_at lw_m1 226 rfl) rfl
theorem q342 : (Jvm.Cond.methodLinkNest "BakeryRing$State" (39 : Nat) ({ cls := "BakeryRing$Bakery", name := "<init>", desc := "()V" } : Jvm.MethodName) "BakeryRing") ∈ lw_tbl := lw_at lw_m1 229 rfl
theorem q349 : (Jvm.Cond.fieldLinkNest "BakeryRing$State" (136 : Nat) "BakeryRing$Bakery" "oven" "I" "BakeryRing") ∈ lw_tbl := lw_at lw_m1 236 rfl
theorem q352 : (Jvm.Cond.fieldLinkNest "BakeryRing$State" (82 : Nat) "BakeryRing$Bakery" "isOpen" "Z" "BakeryRing") ∈ lw_tbl := lw_at lw_m1 239 rfl
theorem q363 : (Jvm.Cond.methodLinkNest "BakeryRing$State" (40 : Nat) ({ cls := "BakeryRing$Customer", name := "<init>", desc := "()V" } : Jvm.MethodName) "BakeryRing") ∈ lw_tbl := lw_at lw_m2 10 rfl
theorem q368 : (Jvm.Cond.fieldLinkNest "BakeryRing$State" (109 : Nat) "BakeryRing$Customer" "angle" "I" "BakeryRing") ∈ lw_tbl := lw_at lw_m2 15 rfl
theorem q371 : (Jvm.Cond.fieldLinkNest "BakeryRing$State" (112 : Nat) "BakeryRing$Customer" "loaves" "I" "BakeryRing") ∈ lw_tbl := lw_at lw_m2 18 rfl
theorem q374 : (Jvm.Cond.fieldLinkNest "BakeryRing$State" (106 : Nat) "BakeryRing$Customer" "bakery" "I" "BakeryRing") ∈ lw_tbl := lw_at lw_m2 21 rfl
theorem q377 : (Jvm.Cond.fieldLinkNest "BakeryRing$State" (119 : Nat) "BakeryRing$Customer" "sign" "I" "BakeryRing") ∈ lw_tbl := lw_at lw_m2 24 rfl
theorem q380 : (Jvm.Cond.fieldLinkNest "BakeryRing$State" (122 : Nat) "BakeryRing$Customer" "isSent" "Z" "BakeryRing") ∈ lw_tbl := lw_at lw_m2 27 rfl
theorem q383 : (Jvm.Cond.fieldLinkNest "BakeryRing$State" (125 : Nat) "BakeryRing$Customer" "moved" "I" "BakeryRing") ∈ lw_tbl := lw_at lw_m2 30 rfl
theorem q398 : (Jvm.Cond.fieldLink "BakeryRing$State" (11 : Nat) "BakeryRing$State" "bakeries" "[LBakeryRing$Bakery;") ∈ lw_all := lw_g (lw_at lw_m2 45 rfl) rfl
theorem q400 : (Jvm.Cond.fieldLink "BakeryRing$State" (41 : Nat) "BakeryRing$State" "bakeryMany" "I") ∈ lw_all := lw_g (lw_at lw_m2 47 rfl) rfl
theorem q402 : (Jvm.Cond.fieldLink "BakeryRing$State" (22 : Nat) "BakeryRing$State" "signs" "Ljava/util/BitSet;") ∈ lw_all := lw_g (lw_at lw_m2 49 rfl) rfl
theorem q404 : (Jvm.Cond.fieldLink "BakeryRing$State" (26 : Nat) "BakeryRing$State" "owner" "[I") ∈ lw_all := lw_g (lw_at lw_m2 51 rfl) rfl
theorem q406 : (Jvm.Cond.fieldLink "BakeryRing$State" (32 : Nat) "BakeryRing$State" "customers" "[LBakeryRing$Customer;") ∈ lw_all := lw_g (lw_at lw_m2 53 rfl) rfl
theorem q408 : (Jvm.Cond.fieldLink "BakeryRing$State" (48 : Nat) "BakeryRing$State" "customerMany" "I") ∈ lw_all := lw_g (lw_at lw_m2 55 rfl) rfl
theorem q410 : (Jvm.Cond.fieldLink "BakeryRing$State" (36 : Nat) "BakeryRing$State" "loads" "[I") ∈ lw_all := lw_g (lw_at lw_m2 57 rfl) rfl
theorem q412 : (Jvm.Cond.fieldLink "BakeryRing$State" (51 : Nat) "BakeryRing$State" "changes" "I") ∈ lw_all := lw_g (lw_at lw_m2 59 rfl) rfl
theorem q414 : (Jvm.Cond.fieldLink "BakeryRing$State" (54 : Nat) "BakeryRing$State" "moves" "I") ∈ lw_all := lw_g (lw_at lw_m2 61 rfl) rfl
theorem q416 : (Jvm.Cond.fieldLink "BakeryRing$State" (93 : Nat) "BakeryRing$State" "taken" "I") ∈ lw_all := lw_g (lw_at lw_m2 63 rfl) rfl
theorem q417 : (Jvm.Cond.fieldLink "BakeryRing$State" (90 : Nat) "BakeryRing$State" "isPassed" "Z") ∈ lw_all := lw_g (lw_at lw_m2 64 rfl) rfl
theorem q418 : (Jvm.Cond.laysFinal "BakeryRing$State" "BakeryRing$State" "bakeries" "[LBakeryRing$Bakery;") ∈ lw_all := lw_g (lw_at lw_m2 65 rfl) rfl
theorem q419 : (Jvm.Cond.soleField "BakeryRing$State" "bakeries") ∈ lw_all := lw_g (lw_at lw_m2 66 rfl) rfl
theorem q420 : (Jvm.Cond.lays "BakeryRing$State" "BakeryRing$State" "bakeryMany" "I") ∈ lw_all := lw_g (lw_at lw_m2 67 rfl) rfl
theorem q421 : (Jvm.Cond.soleField "BakeryRing$State" "bakeryMany") ∈ lw_all := lw_g (lw_at lw_m2 68 rfl) rfl
theorem q422 : (Jvm.Cond.laysFinal "BakeryRing$State" "BakeryRing$State" "signs" "Ljava/util/BitSet;") ∈ lw_all := lw_g (lw_at lw_m2 69 rfl) rfl
theorem q423 : (Jvm.Cond.soleField "BakeryRing$State" "signs") ∈ lw_all := lw_g (lw_at lw_m2 70 rfl) rfl
theorem q424 : (Jvm.Cond.laysFinal "BakeryRing$State" "BakeryRing$State" "owner" "[I") ∈ lw_all := lw_g (lw_at lw_m2 71 rfl) rfl
theorem q425 : (Jvm.Cond.soleField "BakeryRing$State" "owner") ∈ lw_all := lw_g (lw_at lw_m2 72 rfl) rfl
theorem q426 : (Jvm.Cond.laysFinal "BakeryRing$State" "BakeryRing$State" "customers" "[LBakeryRing$Customer;") ∈ lw_all := lw_g (lw_at lw_m2 73 rfl) rfl
theorem q427 : (Jvm.Cond.soleField "BakeryRing$State" "customers") ∈ lw_all := lw_g (lw_at lw_m2 74 rfl) rfl
theorem q428 : (Jvm.Cond.lays "BakeryRing$State" "BakeryRing$State" "customerMany" "I") ∈ lw_all := lw_g (lw_at lw_m2 75 rfl) rfl
theorem q429 : (Jvm.Cond.soleField "BakeryRing$State" "customerMany") ∈ lw_all := lw_g (lw_at lw_m2 76 rfl) rfl
theorem q430 : (Jvm.Cond.laysFinal "BakeryRing$State" "BakeryRing$State" "loads" "[I") ∈ lw_all := lw_g (lw_at lw_m2 77 rfl) rfl
theorem q431 : (Jvm.Cond.soleField "BakeryRing$State" "loads") ∈ lw_all := lw_g (lw_at lw_m2 78 rfl) rfl
theorem q432 : (Jvm.Cond.lays "BakeryRing$State" "BakeryRing$State" "changes" "I") ∈ lw_all := lw_g (lw_at lw_m2 79 rfl) rfl
theorem q433 : (Jvm.Cond.soleField "BakeryRing$State" "changes") ∈ lw_all := lw_g (lw_at lw_m2 80 rfl) rfl
theorem q434 : (Jvm.Cond.lays "BakeryRing$State" "BakeryRing$State" "moves" "I") ∈ lw_all := lw_g (lw_at lw_m2 81 rfl) rfl
theorem q435 : (Jvm.Cond.soleField "BakeryRing$State" "moves") ∈ lw_all := lw_g (lw_at lw_m2 82 rfl) rfl
theorem q436 : (Jvm.Cond.lays "BakeryRing$State" "BakeryRing$State" "taken" "I") ∈ lw_all := lw_g (lw_at lw_m2 83 rfl) rfl
theorem q437 : (Jvm.Cond.soleField "BakeryRing$State" "taken") ∈ lw_all := lw_g (lw_at lw_m2 84 rfl) rfl
theorem q438 : (Jvm.Cond.lays "BakeryRing$State" "BakeryRing$State" "isPassed" "Z") ∈ lw_all := lw_g (lw_at lw_m2 85 rfl) rfl
theorem q439 : (Jvm.Cond.soleField "BakeryRing$State" "isPassed") ∈ lw_all := lw_g (lw_at lw_m2 86 rfl) rfl
theorem q440 : (Jvm.Cond.superclass "BakeryRing$State" "java/lang/Object") ∈ lw_all := lw_g (lw_at lw_m2 87 rfl) rfl
theorem q555 : (Jvm.Cond.instanceMethod ({ cls := "BakeryRing$State", name := "empties", desc := "()V" } : Jvm.MethodName)) ∈ lw_all := lw_g (lw_at lw_m2 202 rfl) rfl
theorem q556 : (Jvm.Cond.selects "BakeryRing$State" ({ cls := "BakeryRing$State", name := "empties", desc := "()V" } : Jvm.MethodName) ({ cls := "BakeryRing$State", name := "empties", desc := "()V" } : Jvm.MethodName)) ∈ lw_all := lw_g (lw_at lw_m2 203 rfl) rfl
theorem q557 : (Jvm.Cond.code ({ cls := "BakeryRing$State", name := "empties", desc := "()V" } : Jvm.MethodName) prog_11_method_2_code (1 : Nat) (Option.none : Option Jvm.ClassFile.FieldType)) ∈ lw_all := lw_g (lw_at lw_m2 204 rfl) rfl
theorem q558 : (Jvm.Cond.methodLink "BakeryRing$State" (45 : Nat) ({ cls := "java/util/BitSet", name := "clear", desc := "()V" } : Jvm.MethodName)) ∈ lw_all := lw_g (lw_at lw_m2 205 rfl) rfl
theorem q567 : (Jvm.Cond.instanceMethod ({ cls := "BakeryRing$State", name := "like", desc := "(LBakeryRing$State;)V" } : Jvm.MethodName)) ∈ lw_all := lw_g (lw_at lw_m2 214 rfl) rfl
theorem q568 : (Jvm.Cond.selects "BakeryRing$State" ({ cls := "BakeryRing$State", name := "like", desc := "(LBakeryRing$State;)V" } : Jvm.MethodName) ({ cls := "BakeryRing$State", name := "like", desc := "(LBakeryRing$State;)V" } : Jvm.MethodName)) ∈ lw_all := lw_g (lw_at lw_m2 215 rfl) rfl
theorem q569 : (Jvm.Cond.code ({ cls := "BakeryRing$State", name := "like", desc := "(LBakeryRing$State;)V" } : Jvm.MethodName) prog_11_method_3_code (3 : Nat) (Option.none : Option Jvm.ClassFile.FieldType)) ∈ lw_all := lw_g (lw_at lw_m2 216 rfl) rfl
theorem q570 : (Jvm.Cond.methodLink "BakeryRing$State" (57 : Nat) ({ cls := "BakeryRing$Bakery", name := "like", desc := "(LBakeryRing$Bakery;)V" } : Jvm.MethodName)) ∈ lw_all := lw_g (lw_at lw_m2 217 rfl) rfl
theorem q574 : (Jvm.Cond.methodLink "BakeryRing$State" (61 : Nat) ({ cls := "java/util/BitSet", name := "or", desc := "(Ljava/util/BitSet;)V" } : Jvm.MethodName)) ∈ lw_all := lw_g (lw_at lw_m2 221 rfl) rfl
theorem q609 : (Jvm.Cond.methodLink "BakeryRing$State" (65 : Nat) ({ cls := "java/lang/System", name := "arraycopy", desc := "(Ljava/lang/Object;ILjava/lang/Object;II)V" } : Jvm.MethodName)) ∈ lw_all := lw_g (lw_at lw_m3 16 rfl) rfl
theorem q610 : (Jvm.Cond.methodLink "BakeryRing$State" (71 : Nat) ({ cls := "BakeryRing$Customer", name := "like", desc := "(LBakeryRing$Customer;)V" } : Jvm.MethodName)) ∈ lw_all := lw_g (lw_at lw_m3 17 rfl) rfl
theorem q1092 : (Jvm.Cond.instanceMethod ({ cls := "BakeryRing$State", name := "moveAll", desc := "(I)I" } : Jvm.MethodName)) ∈ lw_all := lw_g (lw_at lw_m5 19 rfl) rfl
theorem q1093 : (Jvm.Cond.selects "BakeryRing$State" ({ cls := "BakeryRing$State", name := "moveAll", desc := "(I)I" } : Jvm.MethodName) ({ cls := "BakeryRing$State", name := "moveAll", desc := "(I)I" } : Jvm.MethodName)) ∈ lw_all := lw_g (lw_at lw_m5 20 rfl) rfl
theorem q1094 : (Jvm.Cond.code ({ cls := "BakeryRing$State", name := "moveAll", desc := "(I)I" } : Jvm.MethodName) prog_11_method_10_code (3 : Nat) (Option.some Jvm.ClassFile.FieldType.int)) ∈ lw_all := lw_g (lw_at lw_m5 21 rfl) rfl
theorem q1095 : (Jvm.Cond.methodLink "BakeryRing$State" (128 : Nat) ({ cls := "BakeryRing$State", name := "goAnew", desc := "(II)I" } : Jvm.MethodName)) ∈ lw_all := lw_g (lw_at lw_m5 22 rfl) rfl
theorem q1096 : (Jvm.Cond.instanceMethod ({ cls := "BakeryRing$State", name := "goAnew", desc := "(II)I" } : Jvm.MethodName)) ∈ lw_all := lw_g (lw_at lw_m5 23 rfl) rfl
theorem q1097 : (Jvm.Cond.selects "BakeryRing$State" ({ cls := "BakeryRing$State", name := "goAnew", desc := "(II)I" } : Jvm.MethodName) ({ cls := "BakeryRing$State", name := "goAnew", desc := "(II)I" } : Jvm.MethodName)) ∈ lw_all := lw_g (lw_at lw_m5 24 rfl) rfl
theorem q1098 : (Jvm.Cond.code ({ cls := "BakeryRing$State", name := "goAnew", desc := "(II)I" } : Jvm.MethodName) prog_11_method_9_code (7 : Nat) (Option.some Jvm.ClassFile.FieldType.int)) ∈ lw_all := lw_g (lw_at lw_m5 25 rfl) rfl
theorem q1099 : (Jvm.Cond.methodLink "BakeryRing$State" (115 : Nat) ({ cls := "BakeryRing$State", name := "goesFrom", desc := "(II)I" } : Jvm.MethodName)) ∈ lw_all := lw_g (lw_at lw_m5 26 rfl) rfl
theorem q1100 : (Jvm.Cond.instanceMethod ({ cls := "BakeryRing$State", name := "goesFrom", desc := "(II)I" } : Jvm.MethodName)) ∈ lw_all := lw_g (lw_at lw_m5 27 rfl) rfl
theorem q1101 : (Jvm.Cond.selects "BakeryRing$State" ({ cls := "BakeryRing$State", name := "goesFrom", desc := "(II)I" } : Jvm.MethodName) ({ cls := "BakeryRing$State", name := "goesFrom", desc := "(II)I" } : Jvm.MethodName)) ∈ lw_all := lw_g (lw_at lw_m5 28 rfl) rfl
theorem q1102 : (Jvm.Cond.code ({ cls := "BakeryRing$State", name := "goesFrom", desc := "(II)I" } : Jvm.MethodName) prog_11_method_8_code (6 : Nat) (Option.some Jvm.ClassFile.FieldType.int)) ∈ lw_all := lw_g (lw_at lw_m5 29 rfl) rfl
theorem q1103 : (Jvm.Cond.methodLink "BakeryRing$State" (96 : Nat) ({ cls := "BakeryRing$State", name := "signFrom", desc := "(I)I" } : Jvm.MethodName)) ∈ lw_all := lw_g (lw_at lw_m5 30 rfl) rfl
theorem q1104 : (Jvm.Cond.instanceMethod ({ cls := "BakeryRing$State", name := "signFrom", desc := "(I)I" } : Jvm.MethodName)) ∈ lw_all := lw_g (lw_at lw_m5 31 rfl) rfl
theorem q1105 : (Jvm.Cond.selects "BakeryRing$State" ({ cls := "BakeryRing$State", name := "signFrom", desc := "(I)I" } : Jvm.MethodName) ({ cls := "BakeryRing$State", name := "signFrom", desc := "(I)I" } : Jvm.MethodName)) ∈ lw_all := lw_g (lw_at lw_m5 32 rfl) rfl
theorem q1106 : (Jvm.Cond.code ({ cls := "BakeryRing$State", name := "signFrom", desc := "(I)I" } : Jvm.MethodName) prog_11_method_5_code (3 : Nat) (Option.some Jvm.ClassFile.FieldType.int)) ∈ lw_all := lw_g (lw_at lw_m5 33 rfl) rfl
theorem q1107 : (Jvm.Cond.methodLink "BakeryRing$State" (78 : Nat) ({ cls := "java/util/BitSet", name := "nextSetBit", desc := "(I)I" } : Jvm.MethodName)) ∈ lw_all := lw_g (lw_at lw_m5 34 rfl) rfl
theorem q1127 : (Jvm.Cond.methodLink "BakeryRing$State" (99 : Nat) ({ cls := "java/util/BitSet", name := "cardinality", desc := "()I" } : Jvm.MethodName)) ∈ lw_all := lw_g (lw_at lw_m5 54 rfl) rfl
theorem q1137 : (Jvm.Cond.methodLink "BakeryRing$State" (103 : Nat) ({ cls := "BakeryRing$Bakery", name := "room", desc := "()I" } : Jvm.MethodName)) ∈ lw_all := lw_g (lw_at lw_m5 64 rfl) rfl
theorem q1205 : (Jvm.Cond.instanceMethod ({ cls := "BakeryRing$State", name := "isBakery", desc := "(I)Z" } : Jvm.MethodName)) ∈ lw_all := lw_g (lw_at lw_m5 132 rfl) rfl
theorem q1206 : (Jvm.Cond.selects "BakeryRing$State" ({ cls := "BakeryRing$State", name := "isBakery", desc := "(I)Z" } : Jvm.MethodName) ({ cls := "BakeryRing$State", name := "isBakery", desc := "(I)Z" } : Jvm.MethodName)) ∈ lw_all := lw_g (lw_at lw_m5 133 rfl) rfl
theorem q1207 : (Jvm.Cond.code ({ cls := "BakeryRing$State", name := "isBakery", desc := "(I)Z" } : Jvm.MethodName) prog_11_method_4_code (2 : Nat) (Option.some Jvm.ClassFile.FieldType.boolean)) ∈ lw_all := lw_g (lw_at lw_m5 134 rfl) rfl
theorem q1208 : (Jvm.Cond.methodLinkNest "BakeryRing$State" (74 : Nat) ({ cls := "BakeryRing", name := "within", desc := "(III)Z" } : Jvm.MethodName) "BakeryRing") ∈ lw_tbl := lw_at lw_m5 135 rfl
theorem q1227 : (Jvm.Cond.instanceMethod ({ cls := "BakeryRing$State", name := "signsOf", desc := "(I)I" } : Jvm.MethodName)) ∈ lw_all := lw_g (lw_at lw_m5 154 rfl) rfl
theorem q1228 : (Jvm.Cond.selects "BakeryRing$State" ({ cls := "BakeryRing$State", name := "signsOf", desc := "(I)I" } : Jvm.MethodName) ({ cls := "BakeryRing$State", name := "signsOf", desc := "(I)I" } : Jvm.MethodName)) ∈ lw_all := lw_g (lw_at lw_m5 155 rfl) rfl
theorem q1229 : (Jvm.Cond.code ({ cls := "BakeryRing$State", name := "signsOf", desc := "(I)I" } : Jvm.MethodName) prog_11_method_7_code (4 : Nat) (Option.some Jvm.ClassFile.FieldType.int)) ∈ lw_all := lw_g (lw_at lw_m5 156 rfl) rfl
theorem q1230 : (Jvm.Cond.methodLinkNest "BakeryRing$State" (86 : Nat) ({ cls := "BakeryRing", name := "bit", desc := "(Z)I" } : Jvm.MethodName) "BakeryRing") ∈ lw_tbl := lw_at lw_m5 157 rfl
theorem q1276 : (Jvm.Cond.instanceMethod ({ cls := "BakeryRing$State", name := "openMany", desc := "()I" } : Jvm.MethodName)) ∈ lw_all := lw_g (lw_at lw_m5 203 rfl) rfl
theorem q1277 : (Jvm.Cond.selects "BakeryRing$State" ({ cls := "BakeryRing$State", name := "openMany", desc := "()I" } : Jvm.MethodName) ({ cls := "BakeryRing$State", name := "openMany", desc := "()I" } : Jvm.MethodName)) ∈ lw_all := lw_g (lw_at lw_m5 204 rfl) rfl
theorem q1278 : (Jvm.Cond.code ({ cls := "BakeryRing$State", name := "openMany", desc := "()I" } : Jvm.MethodName) prog_11_method_6_code (3 : Nat) (Option.some Jvm.ClassFile.FieldType.int)) ∈ lw_all := lw_g (lw_at lw_m5 205 rfl) rfl
theorem q1332 : (Jvm.Cond.instanceMethod ({ cls := "BakeryRing$State", name := "leaves", desc := "(I)V" } : Jvm.MethodName)) ∈ lw_all := lw_g (lw_at lw_m6 19 rfl) rfl
theorem q1333 : (Jvm.Cond.selects "BakeryRing$State" ({ cls := "BakeryRing$State", name := "leaves", desc := "(I)V" } : Jvm.MethodName) ({ cls := "BakeryRing$State", name := "leaves", desc := "(I)V" } : Jvm.MethodName)) ∈ lw_all := lw_g (lw_at lw_m6 20 rfl) rfl
theorem q1334 : (Jvm.Cond.code ({ cls := "BakeryRing$State", name := "leaves", desc := "(I)V" } : Jvm.MethodName) prog_11_method_11_code (3 : Nat) (Option.none : Option Jvm.ClassFile.FieldType)) ∈ lw_all := lw_g (lw_at lw_m6 21 rfl) rfl
theorem q1887 : (Jvm.Cond.instanceMethod ({ cls := "BakeryRing$State", name := "isOverloaded", desc := "(I)Z" } : Jvm.MethodName)) ∈ lw_all := lw_g (lw_at lw_m8 94 rfl) rfl
theorem q1888 : (Jvm.Cond.selects "BakeryRing$State" ({ cls := "BakeryRing$State", name := "isOverloaded", desc := "(I)Z" } : Jvm.MethodName) ({ cls := "BakeryRing$State", name := "isOverloaded", desc := "(I)Z" } : Jvm.MethodName)) ∈ lw_all := lw_g (lw_at lw_m8 95 rfl) rfl
theorem q1889 : (Jvm.Cond.code ({ cls := "BakeryRing$State", name := "isOverloaded", desc := "(I)Z" } : Jvm.MethodName) prog_11_method_13_code (2 : Nat) (Option.some Jvm.ClassFile.FieldType.boolean)) ∈ lw_all := lw_g (lw_at lw_m8 96 rfl) rfl
theorem q1980 : (Jvm.Cond.instanceMethod ({ cls := "BakeryRing$State", name := "greatestLoad", desc := "()I" } : Jvm.MethodName)) ∈ lw_all := lw_g (lw_at lw_m8 187 rfl) rfl
theorem q1981 : (Jvm.Cond.selects "BakeryRing$State" ({ cls := "BakeryRing$State", name := "greatestLoad", desc := "()I" } : Jvm.MethodName) ({ cls := "BakeryRing$State", name := "greatestLoad", desc := "()I" } : Jvm.MethodName)) ∈ lw_all := lw_g (lw_at lw_m8 188 rfl) rfl
theorem q1982 : (Jvm.Cond.code ({ cls := "BakeryRing$State", name := "greatestLoad", desc := "()I" } : Jvm.MethodName) prog_11_method_12_code (3 : Nat) (Option.some Jvm.ClassFile.FieldType.int)) ∈ lw_all := lw_g (lw_at lw_m8 189 rfl) rfl
theorem q1983 : (Jvm.Cond.methodLink "BakeryRing$State" (131 : Nat) ({ cls := "java/lang/Math", name := "max", desc := "(II)I" } : Jvm.MethodName)) ∈ lw_all := lw_g (lw_at lw_m8 190 rfl) rfl
theorem q2779 : (Jvm.Cond.castable "BakeryRing$State" "java/lang/Object") ∈ lw_tbl := lw_at lw_m12 26 rfl
theorem in_X6 : ∀ w ∈ wsX60, w ∈ lw_all := lw_in wsX60 [418, 420, 422, 424, 426, 428, 430, 432, 434, 436, 438] (by decide +kernel) (by decide +kernel)

/-! BakeryRing$Bakery -/
set_option maxRecDepth 100000
def RX7 : String := "BakeryRing$Bakery"
def TX7 : u_T := fun k => match k with
  | 0 => ("BakeryRing$Bakery", "kind", "LBakeryRing$Kind;", false)
  | 1 => ("BakeryRing$Bakery", "oven", "I", false)
  | _ => ("BakeryRing$Bakery", "isOpen", "Z", false)
def tyX7 : Nat → FieldType := fun k => match k with
  | 0 => .object "BakeryRing$Kind"
  | 1 => .int
  | _ => .boolean
abbrev wsX70 : List Cond := u_ws RX7 TX7 3
theorem nmX7 : ∀ a, a < 3 → ∀ b, b < 3 → a ≠ b → (TX7 a).2.1 ≠ (TX7 b).2.1 := by decide +kernel
theorem tyX7_ok : ∀ k, k < 3 → parseFieldDescriptor (TX7 k).2.2.1 = some (tyX7 k) := by decide +kernel
abbrev cX7_init : ByteArray := prog_2_method_1_code
def yX7_init : MethodName := ⟨RX7, "<init>", "()V"⟩
theorem dX7_init_0 : decode cX7_init 0 = .ok (.aload_n 0, 1) := by decide +kernel
theorem dX7_init_1 : decode cX7_init 1 = .ok (.invokespecial 1, 3) := by decide +kernel
theorem dX7_init_4 : decode cX7_init 4 = .ok (.return_, 1) := by decide +kernel
abbrev cX7_like : ByteArray := prog_2_method_3_code
def yX7_like : MethodName := ⟨RX7, "like", "(LBakeryRing$Bakery;)V"⟩
def dkwX7_like_1 : List UInt8 := [177]
abbrev dktX7_like_1 : List UInt8 := dkwX7_like_1 ++ []
def dkwX7_like_0 : List UInt8 := [42, 43, 180, 0, 7, 181, 0, 7, 42, 43, 180, 0, 13, 181, 0, 13, 42, 43, 180, 0, 17, 181, 0, 17]
abbrev dktX7_like_0 : List UInt8 := dkwX7_like_0 ++ dktX7_like_1
theorem dksX7_like_0 : cX7_like.data.toList.drop 0 = dktX7_like_0 := by decide +kernel
theorem dksX7_like_1 : cX7_like.data.toList.drop 24 = dktX7_like_1 := dk_seg dksX7_like_0 24 rfl rfl
theorem dX7_like_0 : decode cX7_like 0 = .ok (.aload_n 0, 1) := dk_42 (dk_at dksX7_like_0 0 rfl rfl)
theorem dX7_like_1 : decode cX7_like 1 = .ok (.aload_n 1, 1) := dk_43 (dk_at dksX7_like_0 1 rfl rfl)
theorem dX7_like_2 : decode cX7_like 2 = .ok (.getfield 7, 3) := dk_180 0 7 (dk_at dksX7_like_0 2 rfl rfl)
theorem dX7_like_5 : decode cX7_like 5 = .ok (.putfield 7, 3) := dk_181 0 7 (dk_at dksX7_like_0 5 rfl rfl)
theorem dX7_like_8 : decode cX7_like 8 = .ok (.aload_n 0, 1) := dk_42 (dk_at dksX7_like_0 8 rfl rfl)
theorem dX7_like_9 : decode cX7_like 9 = .ok (.aload_n 1, 1) := dk_43 (dk_at dksX7_like_0 9 rfl rfl)
theorem dX7_like_10 : decode cX7_like 10 = .ok (.getfield 13, 3) := dk_180 0 13 (dk_at dksX7_like_0 10 rfl rfl)
theorem dX7_like_13 : decode cX7_like 13 = .ok (.putfield 13, 3) := dk_181 0 13 (dk_at dksX7_like_0 13 rfl rfl)
theorem dX7_like_16 : decode cX7_like 16 = .ok (.aload_n 0, 1) := dk_42 (dk_at dksX7_like_0 16 rfl rfl)
theorem dX7_like_17 : decode cX7_like 17 = .ok (.aload_n 1, 1) := dk_43 (dk_at dksX7_like_0 17 rfl rfl)
theorem dX7_like_18 : decode cX7_like 18 = .ok (.getfield 17, 3) := dk_180 0 17 (dk_at dksX7_like_0 18 rfl rfl)
theorem dX7_like_21 : decode cX7_like 21 = .ok (.putfield 17, 3) := dk_181 0 17 (dk_at dksX7_like_0 21 rfl rfl)
theorem dX7_like_24 : decode cX7_like 24 = .ok (.return_, 1) := dk_177 (dk_at dksX7_like_1 0 rfl rfl)
abbrev cX7_comes : ByteArray := prog_2_method_2_code
def yX7_comes : MethodName := ⟨RX7, "comes", "(LBakeryRing$Kind;I)V"⟩
def dkwX7_comes_0 : List UInt8 := [42, 43, 181, 0, 7, 42, 28, 181, 0, 13, 42, 4, 181, 0, 17, 177]
abbrev dktX7_comes_0 : List UInt8 := dkwX7_comes_0 ++ []
theorem dksX7_comes_0 : cX7_comes.data.toList.drop 0 = dktX7_comes_0 := by decide +kernel
theorem dX7_comes_0 : decode cX7_comes 0 = .ok (.aload_n 0, 1) := dk_42 (dk_at dksX7_comes_0 0 rfl rfl)
theorem dX7_comes_1 : decode cX7_comes 1 = .ok (.aload_n 1, 1) := dk_43 (dk_at dksX7_comes_0 1 rfl rfl)
theorem dX7_comes_2 : decode cX7_comes 2 = .ok (.putfield 7, 3) := dk_181 0 7 (dk_at dksX7_comes_0 2 rfl rfl)
theorem dX7_comes_5 : decode cX7_comes 5 = .ok (.aload_n 0, 1) := dk_42 (dk_at dksX7_comes_0 5 rfl rfl)
theorem dX7_comes_6 : decode cX7_comes 6 = .ok (.iload_n 2, 1) := dk_28 (dk_at dksX7_comes_0 6 rfl rfl)
theorem dX7_comes_7 : decode cX7_comes 7 = .ok (.putfield 13, 3) := dk_181 0 13 (dk_at dksX7_comes_0 7 rfl rfl)
theorem dX7_comes_10 : decode cX7_comes 10 = .ok (.aload_n 0, 1) := dk_42 (dk_at dksX7_comes_0 10 rfl rfl)
theorem dX7_comes_11 : decode cX7_comes 11 = .ok (.iconst 1, 1) := dk_4 (dk_at dksX7_comes_0 11 rfl rfl)
theorem dX7_comes_12 : decode cX7_comes 12 = .ok (.putfield 17, 3) := dk_181 0 17 (dk_at dksX7_comes_0 12 rfl rfl)
theorem dX7_comes_15 : decode cX7_comes 15 = .ok (.return_, 1) := dk_177 (dk_at dksX7_comes_0 15 rfl rfl)
abbrev cX7_room : ByteArray := prog_2_method_4_code
def yX7_room : MethodName := ⟨RX7, "room", "()I"⟩
def dkwX7_room_0 : List UInt8 := [42, 180, 0, 7, 42, 180, 0, 13, 182, 0, 21, 172]
abbrev dktX7_room_0 : List UInt8 := dkwX7_room_0 ++ []
theorem dksX7_room_0 : cX7_room.data.toList.drop 0 = dktX7_room_0 := by decide +kernel
theorem dX7_room_0 : decode cX7_room 0 = .ok (.aload_n 0, 1) := dk_42 (dk_at dksX7_room_0 0 rfl rfl)
theorem dX7_room_1 : decode cX7_room 1 = .ok (.getfield 7, 3) := dk_180 0 7 (dk_at dksX7_room_0 1 rfl rfl)
theorem dX7_room_4 : decode cX7_room 4 = .ok (.aload_n 0, 1) := dk_42 (dk_at dksX7_room_0 4 rfl rfl)
theorem dX7_room_5 : decode cX7_room 5 = .ok (.getfield 13, 3) := dk_180 0 13 (dk_at dksX7_room_0 5 rfl rfl)
theorem dX7_room_8 : decode cX7_room 8 = .ok (.invokevirtual 21, 3) := dk_182 0 21 (dk_at dksX7_room_0 8 rfl rfl)
theorem dX7_room_11 : decode cX7_room 11 = .ok (.ireturn, 1) := dk_172 (dk_at dksX7_room_0 11 rfl rfl)
theorem q129 : (Jvm.Cond.initialized "BakeryRing$Bakery") ∈ lw_all := lw_g (lw_at lw_m1 16 rfl) rfl
theorem q216 : (Jvm.Cond.selects "BakeryRing$Bakery" ({ cls := "java/lang/Object", name := "getClass", desc := "()Ljava/lang/Class;" } : Jvm.MethodName) ({ cls := "java/lang/Object", name := "getClass", desc := "()Ljava/lang/Class;" } : Jvm.MethodName)) ∈ lw_all := lw_g (lw_at lw_m1 103 rfl) rfl
theorem q341 : (Jvm.Cond.instantiable "BakeryRing$Bakery" (3 : Nat)) ∈ lw_all := lw_g (lw_at lw_m1 228 rfl) rfl
theorem q343 : (Jvm.Cond.instanceMethod ({ cls := "BakeryRing$Bakery", name := "<init>", desc := "()V" } : Jvm.MethodName)) ∈ lw_all := lw_g (lw_at lw_m1 230 rfl) rfl
theorem q344 : (Jvm.Cond.code ({ cls := "BakeryRing$Bakery", name := "<init>", desc := "()V" } : Jvm.MethodName) prog_2_method_1_code (1 : Nat) (Option.none : Option Jvm.ClassFile.FieldType)) ∈ lw_all := lw_g (lw_at lw_m1 231 rfl) rfl
theorem q345 : (Jvm.Cond.methodLink "BakeryRing$Bakery" (1 : Nat) ({ cls := "java/lang/Object", name := "<init>", desc := "()V" } : Jvm.MethodName)) ∈ lw_all := lw_g (lw_at lw_m1 232 rfl) rfl
theorem q346 : (Jvm.Cond.fieldLink "BakeryRing$Bakery" (7 : Nat) "BakeryRing$Bakery" "kind" "LBakeryRing$Kind;") ∈ lw_all := lw_g (lw_at lw_m1 233 rfl) rfl
theorem q348 : (Jvm.Cond.fieldLink "BakeryRing$Bakery" (13 : Nat) "BakeryRing$Bakery" "oven" "I") ∈ lw_all := lw_g (lw_at lw_m1 235 rfl) rfl
theorem q351 : (Jvm.Cond.fieldLink "BakeryRing$Bakery" (17 : Nat) "BakeryRing$Bakery" "isOpen" "Z") ∈ lw_all := lw_g (lw_at lw_m1 238 rfl) rfl
theorem q354 : (Jvm.Cond.lays "BakeryRing$Bakery" "BakeryRing$Bakery" "kind" "LBakeryRing$Kind;") ∈ lw_all := lw_g (lw_at lw_m2 1 rfl) rfl
theorem q355 : (Jvm.Cond.soleField "BakeryRing$Bakery" "kind") ∈ lw_all := lw_g (lw_at lw_m2 2 rfl) rfl
theorem q356 : (Jvm.Cond.lays "BakeryRing$Bakery" "BakeryRing$Bakery" "oven" "I") ∈ lw_all := lw_g (lw_at lw_m2 3 rfl) rfl
theorem q357 : (Jvm.Cond.soleField "BakeryRing$Bakery" "oven") ∈ lw_all := lw_g (lw_at lw_m2 4 rfl) rfl
theorem q358 : (Jvm.Cond.lays "BakeryRing$Bakery" "BakeryRing$Bakery" "isOpen" "Z") ∈ lw_all := lw_g (lw_at lw_m2 5 rfl) rfl
theorem q359 : (Jvm.Cond.soleField "BakeryRing$Bakery" "isOpen") ∈ lw_all := lw_g (lw_at lw_m2 6 rfl) rfl
theorem q360 : (Jvm.Cond.superclass "BakeryRing$Bakery" "java/lang/Object") ∈ lw_all := lw_g (lw_at lw_m2 7 rfl) rfl
theorem q571 : (Jvm.Cond.instanceMethod ({ cls := "BakeryRing$Bakery", name := "like", desc := "(LBakeryRing$Bakery;)V" } : Jvm.MethodName)) ∈ lw_all := lw_g (lw_at lw_m2 218 rfl) rfl
theorem q572 : (Jvm.Cond.selects "BakeryRing$Bakery" ({ cls := "BakeryRing$Bakery", name := "like", desc := "(LBakeryRing$Bakery;)V" } : Jvm.MethodName) ({ cls := "BakeryRing$Bakery", name := "like", desc := "(LBakeryRing$Bakery;)V" } : Jvm.MethodName)) ∈ lw_all := lw_g (lw_at lw_m2 219 rfl) rfl
theorem q573 : (Jvm.Cond.code ({ cls := "BakeryRing$Bakery", name := "like", desc := "(LBakeryRing$Bakery;)V" } : Jvm.MethodName) prog_2_method_3_code (2 : Nat) (Option.none : Option Jvm.ClassFile.FieldType)) ∈ lw_all := lw_g (lw_at lw_m2 220 rfl) rfl
theorem q1088 : (Jvm.Cond.instanceMethod ({ cls := "BakeryRing$Bakery", name := "comes", desc := "(LBakeryRing$Kind;I)V" } : Jvm.MethodName)) ∈ lw_all := lw_g (lw_at lw_m5 15 rfl) rfl
theorem q1089 : (Jvm.Cond.selects "BakeryRing$Bakery" ({ cls := "BakeryRing$Bakery", name := "comes", desc := "(LBakeryRing$Kind;I)V" } : Jvm.MethodName) ({ cls := "BakeryRing$Bakery", name := "comes", desc := "(LBakeryRing$Kind;I)V" } : Jvm.MethodName)) ∈ lw_all := lw_g (lw_at lw_m5 16 rfl) rfl
theorem q1090 : (Jvm.Cond.code ({ cls := "BakeryRing$Bakery", name := "comes", desc := "(LBakeryRing$Kind;I)V" } : Jvm.MethodName) prog_2_method_2_code (3 : Nat) (Option.none : Option Jvm.ClassFile.FieldType)) ∈ lw_all := lw_g (lw_at lw_m5 17 rfl) rfl
theorem q1138 : (Jvm.Cond.instanceMethod ({ cls := "BakeryRing$Bakery", name := "room", desc := "()I" } : Jvm.MethodName)) ∈ lw_all := lw_g (lw_at lw_m5 65 rfl) rfl
theorem q1139 : (Jvm.Cond.selects "BakeryRing$Bakery" ({ cls := "BakeryRing$Bakery", name := "room", desc := "()I" } : Jvm.MethodName) ({ cls := "BakeryRing$Bakery", name := "room", desc := "()I" } : Jvm.MethodName)) ∈ lw_all := lw_g (lw_at lw_m5 66 rfl) rfl
theorem q1140 : (Jvm.Cond.code ({ cls := "BakeryRing$Bakery", name := "room", desc := "()I" } : Jvm.MethodName) prog_2_method_4_code (1 : Nat) (Option.some Jvm.ClassFile.FieldType.int)) ∈ lw_all := lw_g (lw_at lw_m5 67 rfl) rfl
theorem q1141 : (Jvm.Cond.methodLink "BakeryRing$Bakery" (21 : Nat) ({ cls := "BakeryRing$Kind", name := "room", desc := "(I)I" } : Jvm.MethodName)) ∈ lw_all := lw_g (lw_at lw_m5 68 rfl) rfl
theorem q2777 : (Jvm.Cond.castable "BakeryRing$Bakery" "java/lang/Object") ∈ lw_tbl := lw_at lw_m12 24 rfl
theorem in_X7 : ∀ w ∈ wsX70, w ∈ lw_all := lw_in wsX70 [354, 356, 358] (by decide +kernel) (by decide +kernel)

/-! BakeryRing$Customer -/
set_option maxRecDepth 100000
def RX8 : String := "BakeryRing$Customer"
def TX8 : u_T := fun k => match k with
  | 0 => ("BakeryRing$Customer", "angle", "I", false)
  | 1 => ("BakeryRing$Customer", "loaves", "I", false)
  | 2 => ("BakeryRing$Customer", "bakery", "I", false)
  | 3 => ("BakeryRing$Customer", "sign", "I", false)
  | 4 => ("BakeryRing$Customer", "isSent", "Z", false)
  | _ => ("BakeryRing$Customer", "moved", "I", false)
def tyX8 : Nat → FieldType := fun k => match k with
  | 0 => .int
  | 1 => .int
  | 2 => .int
  | 3 => .int
  | 4 => .boolean
  | _ => .int
abbrev wsX80 : List Cond := u_ws RX8 TX8 6
theorem nmX8 : ∀ a, a < 6 → ∀ b, b < 6 → a ≠ b → (TX8 a).2.1 ≠ (TX8 b).2.1 := by decide +kernel
theorem tyX8_ok : ∀ k, k < 6 → parseFieldDescriptor (TX8 k).2.2.1 = some (tyX8 k) := by decide +kernel
abbrev cX8_init : ByteArray := prog_4_method_1_code
def yX8_init : MethodName := ⟨RX8, "<init>", "()V"⟩
theorem dX8_init_0 : decode cX8_init 0 = .ok (.aload_n 0, 1) := by decide +kernel
theorem dX8_init_1 : decode cX8_init 1 = .ok (.invokespecial 3, 3) := by decide +kernel
theorem dX8_init_4 : decode cX8_init 4 = .ok (.return_, 1) := by decide +kernel
abbrev cX8_like : ByteArray := prog_4_method_3_code
def yX8_like : MethodName := ⟨RX8, "like", "(LBakeryRing$Customer;)V"⟩
def dkwX8_like_2 : List UInt8 := [177]
abbrev dktX8_like_2 : List UInt8 := dkwX8_like_2 ++ []
def dkwX8_like_1 : List UInt8 := [42, 43, 180, 0, 21, 181, 0, 21, 42, 43, 180, 0, 24, 181, 0, 24, 42, 43, 180, 0, 28, 181, 0, 28]
abbrev dktX8_like_1 : List UInt8 := dkwX8_like_1 ++ dktX8_like_2
def dkwX8_like_0 : List UInt8 := [42, 43, 180, 0, 9, 181, 0, 9, 42, 43, 180, 0, 15, 181, 0, 15, 42, 43, 180, 0, 18, 181, 0, 18]
abbrev dktX8_like_0 : List UInt8 := dkwX8_like_0 ++ dktX8_like_1
theorem dksX8_like_0 : cX8_like.data.toList.drop 0 = dktX8_like_0 := by decide +kernel
theorem dksX8_like_1 : cX8_like.data.toList.drop 24 = dktX8_like_1 := dk_seg dksX8_like_0 24 rfl rfl
theorem dksX8_like_2 : cX8_like.data.toList.drop 48 = dktX8_like_2 := dk_seg dksX8_like_1 24 rfl rfl
theorem dX8_like_0 : decode cX8_like 0 = .ok (.aload_n 0, 1) := dk_42 (dk_at dksX8_like_0 0 rfl rfl)
theorem dX8_like_1 : decode cX8_like 1 = .ok (.aload_n 1, 1) := dk_43 (dk_at dksX8_like_0 1 rfl rfl)
theorem dX8_like_2 : decode cX8_like 2 = .ok (.getfield 9, 3) := dk_180 0 9 (dk_at dksX8_like_0 2 rfl rfl)
theorem dX8_like_5 : decode cX8_like 5 = .ok (.putfield 9, 3) := dk_181 0 9 (dk_at dksX8_like_0 5 rfl rfl)
theorem dX8_like_8 : decode cX8_like 8 = .ok (.aload_n 0, 1) := dk_42 (dk_at dksX8_like_0 8 rfl rfl)
theorem dX8_like_9 : decode cX8_like 9 = .ok (.aload_n 1, 1) := dk_43 (dk_at dksX8_like_0 9 rfl rfl)
theorem dX8_like_10 : decode cX8_like 10 = .ok (.getfield 15, 3) := dk_180 0 15 (dk_at dksX8_like_0 10 rfl rfl)
theorem dX8_like_13 : decode cX8_like 13 = .ok (.putfield 15, 3) := dk_181 0 15 (dk_at dksX8_like_0 13 rfl rfl)
theorem dX8_like_16 : decode cX8_like 16 = .ok (.aload_n 0, 1) := dk_42 (dk_at dksX8_like_0 16 rfl rfl)
theorem dX8_like_17 : decode cX8_like 17 = .ok (.aload_n 1, 1) := dk_43 (dk_at dksX8_like_0 17 rfl rfl)
theorem dX8_like_18 : decode cX8_like 18 = .ok (.getfield 18, 3) := dk_180 0 18 (dk_at dksX8_like_0 18 rfl rfl)
theorem dX8_like_21 : decode cX8_like 21 = .ok (.putfield 18, 3) := dk_181 0 18 (dk_at dksX8_like_0 21 rfl rfl)
theorem dX8_like_24 : decode cX8_like 24 = .ok (.aload_n 0, 1) := dk_42 (dk_at dksX8_like_1 0 rfl rfl)
theorem dX8_like_25 : decode cX8_like 25 = .ok (.aload_n 1, 1) := dk_43 (dk_at dksX8_like_1 1 rfl rfl)
theorem dX8_like_26 : decode cX8_like 26 = .ok (.getfield 21, 3) := dk_180 0 21 (dk_at dksX8_like_1 2 rfl rfl)
theorem dX8_like_29 : decode cX8_like 29 = .ok (.putfield 21, 3) := dk_181 0 21 (dk_at dksX8_like_1 5 rfl rfl)
theorem dX8_like_32 : decode cX8_like 32 = .ok (.aload_n 0, 1) := dk_42 (dk_at dksX8_like_1 8 rfl rfl)
theorem dX8_like_33 : decode cX8_like 33 = .ok (.aload_n 1, 1) := dk_43 (dk_at dksX8_like_1 9 rfl rfl)
theorem dX8_like_34 : decode cX8_like 34 = .ok (.getfield 24, 3) := dk_180 0 24 (dk_at dksX8_like_1 10 rfl rfl)
theorem dX8_like_37 : decode cX8_like 37 = .ok (.putfield 24, 3) := dk_181 0 24 (dk_at dksX8_like_1 13 rfl rfl)
theorem dX8_like_40 : decode cX8_like 40 = .ok (.aload_n 0, 1) := dk_42 (dk_at dksX8_like_1 16 rfl rfl)
theorem dX8_like_41 : decode cX8_like 41 = .ok (.aload_n 1, 1) := dk_43 (dk_at dksX8_like_1 17 rfl rfl)
theorem dX8_like_42 : decode cX8_like 42 = .ok (.getfield 28, 3) := dk_180 0 28 (dk_at dksX8_like_1 18 rfl rfl)
theorem dX8_like_45 : decode cX8_like 45 = .ok (.putfield 28, 3) := dk_181 0 28 (dk_at dksX8_like_1 21 rfl rfl)
theorem dX8_like_48 : decode cX8_like 48 = .ok (.return_, 1) := dk_177 (dk_at dksX8_like_2 0 rfl rfl)
abbrev cX8_comes : ByteArray := prog_4_method_2_code
def yX8_comes : MethodName := ⟨RX8, "comes", "(II)V"⟩
def dkwX8_comes_1 : List UInt8 := [181, 0, 24, 42, 3, 181, 0, 28, 177]
abbrev dktX8_comes_1 : List UInt8 := dkwX8_comes_1 ++ []
def dkwX8_comes_0 : List UInt8 := [42, 27, 181, 0, 9, 42, 28, 181, 0, 15, 42, 2, 181, 0, 18, 42, 2, 181, 0, 21, 42, 3]
abbrev dktX8_comes_0 : List UInt8 := dkwX8_comes_0 ++ dktX8_comes_1
theorem dksX8_comes_0 : cX8_comes.data.toList.drop 0 = dktX8_comes_0 := by decide +kernel
theorem dksX8_comes_1 : cX8_comes.data.toList.drop 22 = dktX8_comes_1 := dk_seg dksX8_comes_0 22 rfl rfl
theorem dX8_comes_0 : decode cX8_comes 0 = .ok (.aload_n 0, 1) := dk_42 (dk_at dksX8_comes_0 0 rfl rfl)
theorem dX8_comes_1 : decode cX8_comes 1 = .ok (.iload_n 1, 1) := dk_27 (dk_at dksX8_comes_0 1 rfl rfl)
theorem dX8_comes_2 : decode cX8_comes 2 = .ok (.putfield 9, 3) := dk_181 0 9 (dk_at dksX8_comes_0 2 rfl rfl)
theorem dX8_comes_5 : decode cX8_comes 5 = .ok (.aload_n 0, 1) := dk_42 (dk_at dksX8_comes_0 5 rfl rfl)
theorem dX8_comes_6 : decode cX8_comes 6 = .ok (.iload_n 2, 1) := dk_28 (dk_at dksX8_comes_0 6 rfl rfl)
theorem dX8_comes_7 : decode cX8_comes 7 = .ok (.putfield 15, 3) := dk_181 0 15 (dk_at dksX8_comes_0 7 rfl rfl)
theorem dX8_comes_10 : decode cX8_comes 10 = .ok (.aload_n 0, 1) := dk_42 (dk_at dksX8_comes_0 10 rfl rfl)
theorem dX8_comes_11 : decode cX8_comes 11 = .ok (.iconst (-1), 1) := dk_2 (dk_at dksX8_comes_0 11 rfl rfl)
theorem dX8_comes_12 : decode cX8_comes 12 = .ok (.putfield 18, 3) := dk_181 0 18 (dk_at dksX8_comes_0 12 rfl rfl)
theorem dX8_comes_15 : decode cX8_comes 15 = .ok (.aload_n 0, 1) := dk_42 (dk_at dksX8_comes_0 15 rfl rfl)
theorem dX8_comes_16 : decode cX8_comes 16 = .ok (.iconst (-1), 1) := dk_2 (dk_at dksX8_comes_0 16 rfl rfl)
theorem dX8_comes_17 : decode cX8_comes 17 = .ok (.putfield 21, 3) := dk_181 0 21 (dk_at dksX8_comes_0 17 rfl rfl)
theorem dX8_comes_20 : decode cX8_comes 20 = .ok (.aload_n 0, 1) := dk_42 (dk_at dksX8_comes_0 20 rfl rfl)
theorem dX8_comes_21 : decode cX8_comes 21 = .ok (.iconst 0, 1) := dk_3 (dk_at dksX8_comes_0 21 rfl rfl)
theorem dX8_comes_22 : decode cX8_comes 22 = .ok (.putfield 24, 3) := dk_181 0 24 (dk_at dksX8_comes_1 0 rfl rfl)
theorem dX8_comes_25 : decode cX8_comes 25 = .ok (.aload_n 0, 1) := dk_42 (dk_at dksX8_comes_1 3 rfl rfl)
theorem dX8_comes_26 : decode cX8_comes 26 = .ok (.iconst 0, 1) := dk_3 (dk_at dksX8_comes_1 4 rfl rfl)
theorem dX8_comes_27 : decode cX8_comes 27 = .ok (.putfield 28, 3) := dk_181 0 28 (dk_at dksX8_comes_1 5 rfl rfl)
theorem dX8_comes_30 : decode cX8_comes 30 = .ok (.return_, 1) := dk_177 (dk_at dksX8_comes_1 8 rfl rfl)
theorem q130 : (Jvm.Cond.initialized "BakeryRing$Customer") ∈ lw_all := lw_g (lw_at lw_m1 17 rfl) rfl
theorem q218 : (Jvm.Cond.selects "BakeryRing$Customer" ({ cls := "java/lang/Object", name := "getClass", desc := "()Ljava/lang/Class;" } : Jvm.MethodName) ({ cls := "java/lang/Object", name := "getClass", desc := "()Ljava/lang/Class;" } : Jvm.MethodName)) ∈ lw_all := lw_g (lw_at lw_m1 105 rfl) rfl
theorem q362 : (Jvm.Cond.instantiable "BakeryRing$Customer" (6 : Nat)) ∈ lw_all := lw_g (lw_at lw_m2 9 rfl) rfl
theorem q364 : (Jvm.Cond.instanceMethod ({ cls := "BakeryRing$Customer", name := "<init>", desc := "()V" } : Jvm.MethodName)) ∈ lw_all := lw_g (lw_at lw_m2 11 rfl) rfl
theorem q365 : (Jvm.Cond.code ({ cls := "BakeryRing$Customer", name := "<init>", desc := "()V" } : Jvm.MethodName) prog_4_method_1_code (1 : Nat) (Option.none : Option Jvm.ClassFile.FieldType)) ∈ lw_all := lw_g (lw_at lw_m2 12 rfl) rfl
theorem q366 : (Jvm.Cond.methodLink "BakeryRing$Customer" (3 : Nat) ({ cls := "java/lang/Object", name := "<init>", desc := "()V" } : Jvm.MethodName)) ∈ lw_all := lw_g (lw_at lw_m2 13 rfl) rfl
theorem q367 : (Jvm.Cond.fieldLink "BakeryRing$Customer" (9 : Nat) "BakeryRing$Customer" "angle" "I") ∈ lw_all := lw_g (lw_at lw_m2 14 rfl) rfl
theorem q370 : (Jvm.Cond.fieldLink "BakeryRing$Customer" (15 : Nat) "BakeryRing$Customer" "loaves" "I") ∈ lw_all := lw_g (lw_at lw_m2 17 rfl) rfl
theorem q373 : (Jvm.Cond.fieldLink "BakeryRing$Customer" (18 : Nat) "BakeryRing$Customer" "bakery" "I") ∈ lw_all := lw_g (lw_at lw_m2 20 rfl) rfl
theorem q376 : (Jvm.Cond.fieldLink "BakeryRing$Customer" (21 : Nat) "BakeryRing$Customer" "sign" "I") ∈ lw_all := lw_g (lw_at lw_m2 23 rfl) rfl
theorem q379 : (Jvm.Cond.fieldLink "BakeryRing$Customer" (24 : Nat) "BakeryRing$Customer" "isSent" "Z") ∈ lw_all := lw_g (lw_at lw_m2 26 rfl) rfl
theorem q382 : (Jvm.Cond.fieldLink "BakeryRing$Customer" (28 : Nat) "BakeryRing$Customer" "moved" "I") ∈ lw_all := lw_g (lw_at lw_m2 29 rfl) rfl
theorem q385 : (Jvm.Cond.lays "BakeryRing$Customer" "BakeryRing$Customer" "angle" "I") ∈ lw_all := lw_g (lw_at lw_m2 32 rfl) rfl
theorem q386 : (Jvm.Cond.soleField "BakeryRing$Customer" "angle") ∈ lw_all := lw_g (lw_at lw_m2 33 rfl) rfl
theorem q387 : (Jvm.Cond.lays "BakeryRing$Customer" "BakeryRing$Customer" "loaves" "I") ∈ lw_all := lw_g (lw_at lw_m2 34 rfl) rfl
theorem q388 : (Jvm.Cond.soleField "BakeryRing$Customer" "loaves") ∈ lw_all := lw_g (lw_at lw_m2 35 rfl) rfl
theorem q389 : (Jvm.Cond.lays "BakeryRing$Customer" "BakeryRing$Customer" "bakery" "I") ∈ lw_all := lw_g (lw_at lw_m2 36 rfl) rfl
theorem q390 : (Jvm.Cond.soleField "BakeryRing$Customer" "bakery") ∈ lw_all := lw_g (lw_at lw_m2 37 rfl) rfl
theorem q391 : (Jvm.Cond.lays "BakeryRing$Customer" "BakeryRing$Customer" "sign" "I") ∈ lw_all := lw_g (lw_at lw_m2 38 rfl) rfl
theorem q392 : (Jvm.Cond.soleField "BakeryRing$Customer" "sign") ∈ lw_all := lw_g (lw_at lw_m2 39 rfl) rfl
theorem q393 : (Jvm.Cond.lays "BakeryRing$Customer" "BakeryRing$Customer" "isSent" "Z") ∈ lw_all := lw_g (lw_at lw_m2 40 rfl) rfl
theorem q394 : (Jvm.Cond.soleField "BakeryRing$Customer" "isSent") ∈ lw_all := lw_g (lw_at lw_m2 41 rfl) rfl
theorem q395 : (Jvm.Cond.lays "BakeryRing$Customer" "BakeryRing$Customer" "moved" "I") ∈ lw_all := lw_g (lw_at lw_m2 42 rfl) rfl
theorem q396 : (Jvm.Cond.soleField "BakeryRing$Customer" "moved") ∈ lw_all := lw_g (lw_at lw_m2 43 rfl) rfl
theorem q397 : (Jvm.Cond.superclass "BakeryRing$Customer" "java/lang/Object") ∈ lw_all := lw_g (lw_at lw_m2 44 rfl) rfl
theorem q611 : (Jvm.Cond.instanceMethod ({ cls := "BakeryRing$Customer", name := "like", desc := "(LBakeryRing$Customer;)V" } : Jvm.MethodName)) ∈ lw_all := lw_g (lw_at lw_m3 18 rfl) rfl
theorem q612 : (Jvm.Cond.selects "BakeryRing$Customer" ({ cls := "BakeryRing$Customer", name := "like", desc := "(LBakeryRing$Customer;)V" } : Jvm.MethodName) ({ cls := "BakeryRing$Customer", name := "like", desc := "(LBakeryRing$Customer;)V" } : Jvm.MethodName)) ∈ lw_all := lw_g (lw_at lw_m3 19 rfl) rfl
theorem q613 : (Jvm.Cond.code ({ cls := "BakeryRing$Customer", name := "like", desc := "(LBakeryRing$Customer;)V" } : Jvm.MethodName) prog_4_method_3_code (2 : Nat) (Option.none : Option Jvm.ClassFile.FieldType)) ∈ lw_all := lw_g (lw_at lw_m3 20 rfl) rfl
theorem q1313 : (Jvm.Cond.instanceMethod ({ cls := "BakeryRing$Customer", name := "comes", desc := "(II)V" } : Jvm.MethodName)) ∈ lw_all := lw_g (lw_at lw_m6 0 rfl) rfl
theorem q1314 : (Jvm.Cond.selects "BakeryRing$Customer" ({ cls := "BakeryRing$Customer", name := "comes", desc := "(II)V" } : Jvm.MethodName) ({ cls := "BakeryRing$Customer", name := "comes", desc := "(II)V" } : Jvm.MethodName)) ∈ lw_all := lw_g (lw_at lw_m6 1 rfl) rfl
theorem q1315 : (Jvm.Cond.code ({ cls := "BakeryRing$Customer", name := "comes", desc := "(II)V" } : Jvm.MethodName) prog_4_method_2_code (3 : Nat) (Option.none : Option Jvm.ClassFile.FieldType)) ∈ lw_all := lw_g (lw_at lw_m6 2 rfl) rfl
theorem q2778 : (Jvm.Cond.castable "BakeryRing$Customer" "java/lang/Object") ∈ lw_tbl := lw_at lw_m12 25 rfl
theorem in_X8 : ∀ w ∈ wsX80, w ∈ lw_all := lw_in wsX80 [385, 387, 389, 391, 393, 395] (by decide +kernel) (by decide +kernel)

/-! BakeryRing$Refused -/
set_option maxRecDepth 100000
def RX10 : String := "BakeryRing$Refused"
def TX10 : u_T := fun k => match k with
  | 0 => ("java/lang/Throwable", "cause", "Ljava/lang/Throwable;", false)
  | 1 => ("java/lang/Throwable", "stackTrace", "[Ljava/lang/StackTraceElement;", false)
  | 2 => ("java/lang/Throwable", "suppressedExceptions", "Ljava/util/List;", false)
  | 3 => ("java/lang/Throwable", "detailMessage", "Ljava/lang/String;", false)
  | 4 => ("java/lang/Throwable", "backtrace", "Ljava/lang/Object;", false)
  | 5 => ("java/lang/Throwable", "depth", "I", false)
  | 6 => ("BakeryRing$Refused", "reason", "I", true)
  | _ => ("BakeryRing$Refused", "detail", "I", true)
def tyX10 : Nat → FieldType := fun k => match k with
  | 0 => .object "java/lang/Throwable"
  | 1 => .array (.object "java/lang/StackTraceElement")
  | 2 => .object "java/util/List"
  | 3 => .object "java/lang/String"
  | 4 => .object "java/lang/Object"
  | 5 => .int
  | 6 => .int
  | _ => .int
abbrev wsX100 : List Cond := u_ws RX10 TX10 8
theorem nmX10 : ∀ a, a < 8 → ∀ b, b < 8 → a ≠ b → (TX10 a).2.1 ≠ (TX10 b).2.1 := by decide +kernel
theorem tyX10_ok : ∀ k, k < 8 → parseFieldDescriptor (TX10 k).2.2.1 = some (tyX10 k) := by decide +kernel
abbrev cX10_init : ByteArray := prog_9_method_1_code
def yX10_init : MethodName := ⟨RX10, "<init>", "(II)V"⟩
def dkwX10_init_0 : List UInt8 := [42, 27, 28, 1, 183, 0, 1, 177]
abbrev dktX10_init_0 : List UInt8 := dkwX10_init_0 ++ []
theorem dksX10_init_0 : cX10_init.data.toList.drop 0 = dktX10_init_0 := by decide +kernel
theorem dX10_init_0 : decode cX10_init 0 = .ok (.aload_n 0, 1) := dk_42 (dk_at dksX10_init_0 0 rfl rfl)
theorem dX10_init_1 : decode cX10_init 1 = .ok (.iload_n 1, 1) := dk_27 (dk_at dksX10_init_0 1 rfl rfl)
theorem dX10_init_2 : decode cX10_init 2 = .ok (.iload_n 2, 1) := dk_28 (dk_at dksX10_init_0 2 rfl rfl)
theorem dX10_init_3 : decode cX10_init 3 = .ok (.aconst_null, 1) := dk_1 (dk_at dksX10_init_0 3 rfl rfl)
theorem dX10_init_4 : decode cX10_init 4 = .ok (.invokespecial 1, 3) := dk_183 0 1 (dk_at dksX10_init_0 4 rfl rfl)
theorem dX10_init_7 : decode cX10_init 7 = .ok (.return_, 1) := dk_177 (dk_at dksX10_init_0 7 rfl rfl)
abbrev cX10_init_2 : ByteArray := prog_9_method_2_code
def yX10_init_2 : MethodName := ⟨RX10, "<init>", "(IILBakeryRing$Refused;)V"⟩
def dkwX10_init_2_0 : List UInt8 := [42, 1, 45, 3, 3, 183, 0, 7, 42, 27, 181, 0, 12, 42, 28, 181, 0, 16, 177]
abbrev dktX10_init_2_0 : List UInt8 := dkwX10_init_2_0 ++ []
theorem dksX10_init_2_0 : cX10_init_2.data.toList.drop 0 = dktX10_init_2_0 := by decide +kernel
theorem dX10_init_2_0 : decode cX10_init_2 0 = .ok (.aload_n 0, 1) := dk_42 (dk_at dksX10_init_2_0 0 rfl rfl)
theorem dX10_init_2_1 : decode cX10_init_2 1 = .ok (.aconst_null, 1) := dk_1 (dk_at dksX10_init_2_0 1 rfl rfl)
theorem dX10_init_2_2 : decode cX10_init_2 2 = .ok (.aload_n 3, 1) := dk_45 (dk_at dksX10_init_2_0 2 rfl rfl)
theorem dX10_init_2_3 : decode cX10_init_2 3 = .ok (.iconst 0, 1) := dk_3 (dk_at dksX10_init_2_0 3 rfl rfl)
theorem dX10_init_2_4 : decode cX10_init_2 4 = .ok (.iconst 0, 1) := dk_3 (dk_at dksX10_init_2_0 4 rfl rfl)
theorem dX10_init_2_5 : decode cX10_init_2 5 = .ok (.invokespecial 7, 3) := dk_183 0 7 (dk_at dksX10_init_2_0 5 rfl rfl)
theorem dX10_init_2_8 : decode cX10_init_2 8 = .ok (.aload_n 0, 1) := dk_42 (dk_at dksX10_init_2_0 8 rfl rfl)
theorem dX10_init_2_9 : decode cX10_init_2 9 = .ok (.iload_n 1, 1) := dk_27 (dk_at dksX10_init_2_0 9 rfl rfl)
theorem dX10_init_2_10 : decode cX10_init_2 10 = .ok (.putfield 12, 3) := dk_181 0 12 (dk_at dksX10_init_2_0 10 rfl rfl)
theorem dX10_init_2_13 : decode cX10_init_2 13 = .ok (.aload_n 0, 1) := dk_42 (dk_at dksX10_init_2_0 13 rfl rfl)
theorem dX10_init_2_14 : decode cX10_init_2 14 = .ok (.iload_n 2, 1) := dk_28 (dk_at dksX10_init_2_0 14 rfl rfl)
theorem dX10_init_2_15 : decode cX10_init_2 15 = .ok (.putfield 16, 3) := dk_181 0 16 (dk_at dksX10_init_2_0 15 rfl rfl)
theorem dX10_init_2_18 : decode cX10_init_2 18 = .ok (.return_, 1) := dk_177 (dk_at dksX10_init_2_0 18 rfl rfl)
abbrev cX10_at : ByteArray := prog_9_method_3_code
def yX10_at : MethodName := ⟨RX10, "at", "(I)LBakeryRing$Refused;"⟩
def dkwX10_at_0 : List UInt8 := [27, 154, 0, 7, 42, 167, 0, 10, 42, 182, 0, 19, 192, 0, 2, 176]
abbrev dktX10_at_0 : List UInt8 := dkwX10_at_0 ++ []
theorem dksX10_at_0 : cX10_at.data.toList.drop 0 = dktX10_at_0 := by decide +kernel
theorem dX10_at_0 : decode cX10_at 0 = .ok (.iload_n 1, 1) := dk_27 (dk_at dksX10_at_0 0 rfl rfl)
theorem dX10_at_1 : decode cX10_at 1 = .ok (.ifCond .ne 7, 3) := dk_154 0 7 (dk_at dksX10_at_0 1 rfl rfl)
theorem dX10_at_4 : decode cX10_at 4 = .ok (.aload_n 0, 1) := dk_42 (dk_at dksX10_at_0 4 rfl rfl)
theorem dX10_at_5 : decode cX10_at 5 = .ok (.goto 10, 3) := dk_167 0 10 (dk_at dksX10_at_0 5 rfl rfl)
theorem dX10_at_8 : decode cX10_at 8 = .ok (.aload_n 0, 1) := dk_42 (dk_at dksX10_at_0 8 rfl rfl)
theorem dX10_at_9 : decode cX10_at 9 = .ok (.invokevirtual 19, 3) := dk_182 0 19 (dk_at dksX10_at_0 9 rfl rfl)
theorem dX10_at_12 : decode cX10_at 12 = .ok (.checkcast 2, 3) := dk_192 0 2 (dk_at dksX10_at_0 12 rfl rfl)
theorem dX10_at_15 : decode cX10_at 15 = .ok (.areturn, 1) := dk_176 (dk_at dksX10_at_0 15 rfl rfl)
theorem q150 : (Jvm.Cond.initialized "BakeryRing$Refused") ∈ lw_all := lw_g (lw_at lw_m1 37 rfl) rfl
theorem q222 : (Jvm.Cond.selects "BakeryRing$Refused" ({ cls := "java/lang/Object", name := "getClass", desc := "()Ljava/lang/Class;" } : Jvm.MethodName) ({ cls := "java/lang/Object", name := "getClass", desc := "()Ljava/lang/Class;" } : Jvm.MethodName)) ∈ lw_all := lw_g (lw_at lw_m1 109 rfl) rfl
theorem q663 : (Jvm.Cond.selects "BakeryRing$Refused" ({ cls := "java/lang/Throwable", name := "fillInStackTrace", desc := "()Ljava/lang/Throwable;" } : Jvm.MethodName) ({ cls := "java/lang/Throwable", name := "fillInStackTrace", desc := "()Ljava/lang/Throwable;" } : Jvm.MethodName)) ∈ lw_all := lw_g (lw_at lw_m3 70 rfl) rfl
theorem q827 : (Jvm.Cond.instantiable "BakeryRing$Refused" (8 : Nat)) ∈ lw_all := lw_g (lw_at lw_m3 234 rfl) rfl
theorem q828 : (Jvm.Cond.castable "BakeryRing$Refused" "BakeryRing$Refused") ∈ lw_tbl := lw_at lw_m3 235 rfl
theorem q829 : (Jvm.Cond.selects "BakeryRing$Refused" ({ cls := "java/lang/Throwable", name := "fillInStackTrace", desc := "(I)Ljava/lang/Throwable;" } : Jvm.MethodName) ({ cls := "java/lang/Throwable", name := "fillInStackTrace", desc := "(I)Ljava/lang/Throwable;" } : Jvm.MethodName)) ∈ lw_all := lw_g (lw_at lw_m3 236 rfl) rfl
theorem q830 : (Jvm.Cond.lays "BakeryRing$Refused" "java/lang/Throwable" "cause" "Ljava/lang/Throwable;") ∈ lw_all := lw_g (lw_at lw_m3 237 rfl) rfl
theorem q831 : (Jvm.Cond.lays "BakeryRing$Refused" "java/lang/Throwable" "stackTrace" "[Ljava/lang/StackTraceElement;") ∈ lw_all := lw_g (lw_at lw_m3 238 rfl) rfl
theorem q832 : (Jvm.Cond.lays "BakeryRing$Refused" "java/lang/Throwable" "suppressedExceptions" "Ljava/util/List;") ∈ lw_all := lw_g (lw_at lw_m3 239 rfl) rfl
theorem q833 : (Jvm.Cond.lays "BakeryRing$Refused" "java/lang/Throwable" "detailMessage" "Ljava/lang/String;") ∈ lw_all := lw_g (lw_at lw_m4 0 rfl) rfl
theorem q834 : (Jvm.Cond.lays "BakeryRing$Refused" "java/lang/Throwable" "backtrace" "Ljava/lang/Object;") ∈ lw_all := lw_g (lw_at lw_m4 1 rfl) rfl
theorem q836 : (Jvm.Cond.instanceMethod ({ cls := "BakeryRing$Refused", name := "<init>", desc := "(II)V" } : Jvm.MethodName)) ∈ lw_all := lw_g (lw_at lw_m4 3 rfl) rfl
theorem q837 : (Jvm.Cond.code ({ cls := "BakeryRing$Refused", name := "<init>", desc := "(II)V" } : Jvm.MethodName) prog_9_method_1_code (3 : Nat) (Option.none : Option Jvm.ClassFile.FieldType)) ∈ lw_all := lw_g (lw_at lw_m4 4 rfl) rfl
theorem q838 : (Jvm.Cond.methodLink "BakeryRing$Refused" (1 : Nat) ({ cls := "BakeryRing$Refused", name := "<init>", desc := "(IILBakeryRing$Refused;)V" } : Jvm.MethodName)) ∈ lw_all := lw_g (lw_at lw_m4 5 rfl) rfl
theorem q839 : (Jvm.Cond.instanceMethod ({ cls := "BakeryRing$Refused", name := "<init>", desc := "(IILBakeryRing$Refused;)V" } : Jvm.MethodName)) ∈ lw_all := lw_g (lw_at lw_m4 6 rfl) rfl
theorem q840 : (Jvm.Cond.code ({ cls := "BakeryRing$Refused", name := "<init>", desc := "(IILBakeryRing$Refused;)V" } : Jvm.MethodName) prog_9_method_2_code (4 : Nat) (Option.none : Option Jvm.ClassFile.FieldType)) ∈ lw_all := lw_g (lw_at lw_m4 7 rfl) rfl
theorem q841 : (Jvm.Cond.methodLink "BakeryRing$Refused" (7 : Nat) ({ cls := "java/lang/Exception", name := "<init>", desc := "(Ljava/lang/String;Ljava/lang/Throwable;ZZ)V" } : Jvm.MethodName)) ∈ lw_all := lw_g (lw_at lw_m4 8 rfl) rfl
theorem q847 : (Jvm.Cond.fieldLink "BakeryRing$Refused" (12 : Nat) "BakeryRing$Refused" "reason" "I") ∈ lw_all := lw_g (lw_at lw_m4 14 rfl) rfl
theorem q849 : (Jvm.Cond.fieldLink "BakeryRing$Refused" (16 : Nat) "BakeryRing$Refused" "detail" "I") ∈ lw_all := lw_g (lw_at lw_m4 16 rfl) rfl
theorem q851 : (Jvm.Cond.laysFinal "BakeryRing$Refused" "BakeryRing$Refused" "reason" "I") ∈ lw_all := lw_g (lw_at lw_m4 18 rfl) rfl
theorem q852 : (Jvm.Cond.soleField "BakeryRing$Refused" "reason") ∈ lw_all := lw_g (lw_at lw_m4 19 rfl) rfl
theorem q853 : (Jvm.Cond.laysFinal "BakeryRing$Refused" "BakeryRing$Refused" "detail" "I") ∈ lw_all := lw_g (lw_at lw_m4 20 rfl) rfl
theorem q854 : (Jvm.Cond.soleField "BakeryRing$Refused" "detail") ∈ lw_all := lw_g (lw_at lw_m4 21 rfl) rfl
theorem q855 : (Jvm.Cond.lays "BakeryRing$Refused" "java/lang/Throwable" "depth" "I") ∈ lw_all := lw_g (lw_at lw_m4 22 rfl) rfl
theorem q856 : (Jvm.Cond.superclass "BakeryRing$Refused" "java/lang/Exception") ∈ lw_all := lw_g (lw_at lw_m4 23 rfl) rfl
theorem q1514 : (Jvm.Cond.selects "BakeryRing$Refused" ({ cls := "java/lang/Throwable", name := "toString", desc := "()Ljava/lang/String;" } : Jvm.MethodName) ({ cls := "java/lang/Throwable", name := "toString", desc := "()Ljava/lang/String;" } : Jvm.MethodName)) ∈ lw_all := lw_g (lw_at lw_m6 201 rfl) rfl
theorem q1529 : (Jvm.Cond.selects "BakeryRing$Refused" ({ cls := "java/lang/Throwable", name := "getLocalizedMessage", desc := "()Ljava/lang/String;" } : Jvm.MethodName) ({ cls := "java/lang/Throwable", name := "getLocalizedMessage", desc := "()Ljava/lang/String;" } : Jvm.MethodName)) ∈ lw_all := lw_g (lw_at lw_m6 216 rfl) rfl
theorem q1543 : (Jvm.Cond.selects "BakeryRing$Refused" ({ cls := "java/lang/Throwable", name := "getMessage", desc := "()Ljava/lang/String;" } : Jvm.MethodName) ({ cls := "java/lang/Throwable", name := "getMessage", desc := "()Ljava/lang/String;" } : Jvm.MethodName)) ∈ lw_all := lw_g (lw_at lw_m6 230 rfl) rfl
theorem q1854 : (Jvm.Cond.instanceMethod ({ cls := "BakeryRing$Refused", name := "at", desc := "(I)LBakeryRing$Refused;" } : Jvm.MethodName)) ∈ lw_all := lw_g (lw_at lw_m8 61 rfl) rfl
theorem q1855 : (Jvm.Cond.selects "BakeryRing$Refused" ({ cls := "BakeryRing$Refused", name := "at", desc := "(I)LBakeryRing$Refused;" } : Jvm.MethodName) ({ cls := "BakeryRing$Refused", name := "at", desc := "(I)LBakeryRing$Refused;" } : Jvm.MethodName)) ∈ lw_all := lw_g (lw_at lw_m8 62 rfl) rfl
theorem q1856 : (Jvm.Cond.code ({ cls := "BakeryRing$Refused", name := "at", desc := "(I)LBakeryRing$Refused;" } : Jvm.MethodName) prog_9_method_3_code (2 : Nat) (Option.some (Jvm.ClassFile.FieldType.object "BakeryRing$Refused"))) ∈ lw_all := lw_g (lw_at lw_m8 63 rfl) rfl
theorem q1857 : (Jvm.Cond.methodLink "BakeryRing$Refused" (19 : Nat) ({ cls := "BakeryRing$Refused", name := "getCause", desc := "()Ljava/lang/Throwable;" } : Jvm.MethodName)) ∈ lw_all := lw_g (lw_at lw_m8 64 rfl) rfl
theorem q1858 : (Jvm.Cond.sameMethod "BakeryRing$Refused" "java/lang/Throwable" "getCause" "()Ljava/lang/Throwable;") ∈ lw_all := lw_g (lw_at lw_m8 65 rfl) rfl
theorem q1860 : (Jvm.Cond.selects "BakeryRing$Refused" ({ cls := "BakeryRing$Refused", name := "getCause", desc := "()Ljava/lang/Throwable;" } : Jvm.MethodName) ({ cls := "java/lang/Throwable", name := "getCause", desc := "()Ljava/lang/Throwable;" } : Jvm.MethodName)) ∈ lw_all := lw_g (lw_at lw_m8 67 rfl) rfl
theorem q1863 : (Jvm.Cond.classLink "BakeryRing$Refused" (2 : Nat) "BakeryRing$Refused") ∈ lw_all := lw_g (lw_at lw_m8 70 rfl) rfl
theorem q2792 : (Jvm.Cond.castable "BakeryRing$Refused" "java/lang/Object") ∈ lw_tbl := lw_at lw_m12 39 rfl
theorem in_X10 : ∀ w ∈ wsX100, w ∈ lw_all := lw_in wsX100 [830, 831, 832, 833, 834, 855, 851, 853] (by decide +kernel) (by decide +kernel)

/-! BakeryRing$Fault -/
set_option maxRecDepth 100000
def RX11 : String := "BakeryRing$Fault"
def TX11 : u_T := fun k => match k with
  | 0 => ("java/lang/Throwable", "cause", "Ljava/lang/Throwable;", false)
  | 1 => ("java/lang/Throwable", "stackTrace", "[Ljava/lang/StackTraceElement;", false)
  | 2 => ("java/lang/Throwable", "suppressedExceptions", "Ljava/util/List;", false)
  | 3 => ("java/lang/Throwable", "detailMessage", "Ljava/lang/String;", false)
  | 4 => ("java/lang/Throwable", "backtrace", "Ljava/lang/Object;", false)
  | _ => ("java/lang/Throwable", "depth", "I", false)
def tyX11 : Nat → FieldType := fun k => match k with
  | 0 => .object "java/lang/Throwable"
  | 1 => .array (.object "java/lang/StackTraceElement")
  | 2 => .object "java/util/List"
  | 3 => .object "java/lang/String"
  | 4 => .object "java/lang/Object"
  | _ => .int
abbrev wsX110 : List Cond := u_ws RX11 TX11 6
theorem nmX11 : ∀ a, a < 6 → ∀ b, b < 6 → a ≠ b → (TX11 a).2.1 ≠ (TX11 b).2.1 := by decide +kernel
theorem tyX11_ok : ∀ k, k < 6 → parseFieldDescriptor (TX11 k).2.2.1 = some (tyX11 k) := by decide +kernel
abbrev cX11_init : ByteArray := prog_5_method_1_code
def yX11_init : MethodName := ⟨RX11, "<init>", "()V"⟩
def dkwX11_init_0 : List UInt8 := [42, 1, 1, 3, 3, 183, 0, 1, 177]
abbrev dktX11_init_0 : List UInt8 := dkwX11_init_0 ++ []
theorem dksX11_init_0 : cX11_init.data.toList.drop 0 = dktX11_init_0 := by decide +kernel
theorem dX11_init_0 : decode cX11_init 0 = .ok (.aload_n 0, 1) := dk_42 (dk_at dksX11_init_0 0 rfl rfl)
theorem dX11_init_1 : decode cX11_init 1 = .ok (.aconst_null, 1) := dk_1 (dk_at dksX11_init_0 1 rfl rfl)
theorem dX11_init_2 : decode cX11_init 2 = .ok (.aconst_null, 1) := dk_1 (dk_at dksX11_init_0 2 rfl rfl)
theorem dX11_init_3 : decode cX11_init 3 = .ok (.iconst 0, 1) := dk_3 (dk_at dksX11_init_0 3 rfl rfl)
theorem dX11_init_4 : decode cX11_init 4 = .ok (.iconst 0, 1) := dk_3 (dk_at dksX11_init_0 4 rfl rfl)
theorem dX11_init_5 : decode cX11_init 5 = .ok (.invokespecial 1, 3) := dk_183 0 1 (dk_at dksX11_init_0 5 rfl rfl)
theorem dX11_init_8 : decode cX11_init 8 = .ok (.return_, 1) := dk_177 (dk_at dksX11_init_0 8 rfl rfl)
theorem q163 : (Jvm.Cond.initialized "BakeryRing$Fault") ∈ lw_all := lw_g (lw_at lw_m1 50 rfl) rfl
theorem q219 : (Jvm.Cond.selects "BakeryRing$Fault" ({ cls := "java/lang/Object", name := "getClass", desc := "()Ljava/lang/Class;" } : Jvm.MethodName) ({ cls := "java/lang/Object", name := "getClass", desc := "()Ljava/lang/Class;" } : Jvm.MethodName)) ∈ lw_all := lw_g (lw_at lw_m1 106 rfl) rfl
theorem q662 : (Jvm.Cond.selects "BakeryRing$Fault" ({ cls := "java/lang/Throwable", name := "fillInStackTrace", desc := "()Ljava/lang/Throwable;" } : Jvm.MethodName) ({ cls := "java/lang/Throwable", name := "fillInStackTrace", desc := "()Ljava/lang/Throwable;" } : Jvm.MethodName)) ∈ lw_all := lw_g (lw_at lw_m3 69 rfl) rfl
theorem q1513 : (Jvm.Cond.selects "BakeryRing$Fault" ({ cls := "java/lang/Throwable", name := "toString", desc := "()Ljava/lang/String;" } : Jvm.MethodName) ({ cls := "java/lang/Throwable", name := "toString", desc := "()Ljava/lang/String;" } : Jvm.MethodName)) ∈ lw_all := lw_g (lw_at lw_m6 200 rfl) rfl
theorem q1528 : (Jvm.Cond.selects "BakeryRing$Fault" ({ cls := "java/lang/Throwable", name := "getLocalizedMessage", desc := "()Ljava/lang/String;" } : Jvm.MethodName) ({ cls := "java/lang/Throwable", name := "getLocalizedMessage", desc := "()Ljava/lang/String;" } : Jvm.MethodName)) ∈ lw_all := lw_g (lw_at lw_m6 215 rfl) rfl
theorem q1542 : (Jvm.Cond.selects "BakeryRing$Fault" ({ cls := "java/lang/Throwable", name := "getMessage", desc := "()Ljava/lang/String;" } : Jvm.MethodName) ({ cls := "java/lang/Throwable", name := "getMessage", desc := "()Ljava/lang/String;" } : Jvm.MethodName)) ∈ lw_all := lw_g (lw_at lw_m6 229 rfl) rfl
theorem q1629 : (Jvm.Cond.instantiable "BakeryRing$Fault" (6 : Nat)) ∈ lw_all := lw_g (lw_at lw_m7 76 rfl) rfl
theorem q1630 : (Jvm.Cond.castable "BakeryRing$Fault" "BakeryRing$Fault") ∈ lw_tbl := lw_at lw_m7 77 rfl
theorem q1631 : (Jvm.Cond.selects "BakeryRing$Fault" ({ cls := "java/lang/Throwable", name := "fillInStackTrace", desc := "(I)Ljava/lang/Throwable;" } : Jvm.MethodName) ({ cls := "java/lang/Throwable", name := "fillInStackTrace", desc := "(I)Ljava/lang/Throwable;" } : Jvm.MethodName)) ∈ lw_all := lw_g (lw_at lw_m7 78 rfl) rfl
theorem q1632 : (Jvm.Cond.lays "BakeryRing$Fault" "java/lang/Throwable" "cause" "Ljava/lang/Throwable;") ∈ lw_all := lw_g (lw_at lw_m7 79 rfl) rfl
theorem q1633 : (Jvm.Cond.lays "BakeryRing$Fault" "java/lang/Throwable" "stackTrace" "[Ljava/lang/StackTraceElement;") ∈ lw_all := lw_g (lw_at lw_m7 80 rfl) rfl
theorem q1634 : (Jvm.Cond.lays "BakeryRing$Fault" "java/lang/Throwable" "suppressedExceptions" "Ljava/util/List;") ∈ lw_all := lw_g (lw_at lw_m7 81 rfl) rfl
theorem q1635 : (Jvm.Cond.lays "BakeryRing$Fault" "java/lang/Throwable" "detailMessage" "Ljava/lang/String;") ∈ lw_all := lw_g (lw_at lw_m7 82 rfl) rfl
theorem q1636 : (Jvm.Cond.lays "BakeryRing$Fault" "java/lang/Throwable" "backtrace" "Ljava/lang/Object;") ∈ lw_all := lw_g (lw_at lw_m7 83 rfl) rfl
theorem q1638 : (Jvm.Cond.instanceMethod ({ cls := "BakeryRing$Fault", name := "<init>", desc := "()V" } : Jvm.MethodName)) ∈ lw_all := lw_g (lw_at lw_m7 85 rfl) rfl
theorem q1639 : (Jvm.Cond.code ({ cls := "BakeryRing$Fault", name := "<init>", desc := "()V" } : Jvm.MethodName) prog_5_method_1_code (1 : Nat) (Option.none : Option Jvm.ClassFile.FieldType)) ∈ lw_all := lw_g (lw_at lw_m7 86 rfl) rfl
theorem q1640 : (Jvm.Cond.methodLink "BakeryRing$Fault" (1 : Nat) ({ cls := "java/lang/Exception", name := "<init>", desc := "(Ljava/lang/String;Ljava/lang/Throwable;ZZ)V" } : Jvm.MethodName)) ∈ lw_all := lw_g (lw_at lw_m7 87 rfl) rfl
theorem q1641 : (Jvm.Cond.lays "BakeryRing$Fault" "java/lang/Throwable" "depth" "I") ∈ lw_all := lw_g (lw_at lw_m7 88 rfl) rfl
theorem q1642 : (Jvm.Cond.superclass "BakeryRing$Fault" "java/lang/Exception") ∈ lw_all := lw_g (lw_at lw_m7 89 rfl) rfl
theorem q2801 : (Jvm.Cond.castable "BakeryRing$Fault" "java/lang/Object") ∈ lw_tbl := lw_at lw_m12 48 rfl
theorem in_X11 : ∀ w ∈ wsX110, w ∈ lw_all := lw_in wsX110 [1632, 1633, 1634, 1635, 1636, 1641] (by decide +kernel) (by decide +kernel)

/-! BakeryRing$Order -/
set_option maxRecDepth 100000
def RX12 : String := "BakeryRing$Order"
def TX12 : u_T := fun k => match k with
  | 0 => ("BakeryRing$Order", "word", "Ljava/lang/String;", true)
  | _ => ("BakeryRing$Order", "numbers", "[I", true)
def tyX12 : Nat → FieldType := fun k => match k with
  | 0 => .object "java/lang/String"
  | _ => .array .int
abbrev wsX120 : List Cond := u_ws RX12 TX12 2
theorem nmX12 : ∀ a, a < 2 → ∀ b, b < 2 → a ≠ b → (TX12 a).2.1 ≠ (TX12 b).2.1 := by decide +kernel
theorem tyX12_ok : ∀ k, k < 2 → parseFieldDescriptor (TX12 k).2.2.1 = some (tyX12 k) := by decide +kernel
abbrev cX12_init : ByteArray := prog_7_method_1_code
def yX12_init : MethodName := ⟨RX12, "<init>", "(Ljava/lang/String;[I)V"⟩
def dkwX12_init_0 : List UInt8 := [42, 183, 0, 1, 42, 43, 181, 0, 7, 42, 44, 181, 0, 13, 177]
abbrev dktX12_init_0 : List UInt8 := dkwX12_init_0 ++ []
theorem dksX12_init_0 : cX12_init.data.toList.drop 0 = dktX12_init_0 := by decide +kernel
theorem dX12_init_0 : decode cX12_init 0 = .ok (.aload_n 0, 1) := dk_42 (dk_at dksX12_init_0 0 rfl rfl)
theorem dX12_init_1 : decode cX12_init 1 = .ok (.invokespecial 1, 3) := dk_183 0 1 (dk_at dksX12_init_0 1 rfl rfl)
theorem dX12_init_4 : decode cX12_init 4 = .ok (.aload_n 0, 1) := dk_42 (dk_at dksX12_init_0 4 rfl rfl)
theorem dX12_init_5 : decode cX12_init 5 = .ok (.aload_n 1, 1) := dk_43 (dk_at dksX12_init_0 5 rfl rfl)
theorem dX12_init_6 : decode cX12_init 6 = .ok (.putfield 7, 3) := dk_181 0 7 (dk_at dksX12_init_0 6 rfl rfl)
theorem dX12_init_9 : decode cX12_init 9 = .ok (.aload_n 0, 1) := dk_42 (dk_at dksX12_init_0 9 rfl rfl)
theorem dX12_init_10 : decode cX12_init 10 = .ok (.aload_n 2, 1) := dk_44 (dk_at dksX12_init_0 10 rfl rfl)
theorem dX12_init_11 : decode cX12_init 11 = .ok (.putfield 13, 3) := dk_181 0 13 (dk_at dksX12_init_0 11 rfl rfl)
theorem dX12_init_14 : decode cX12_init 14 = .ok (.return_, 1) := dk_177 (dk_at dksX12_init_0 14 rfl rfl)
theorem q164 : (Jvm.Cond.initialized "BakeryRing$Order") ∈ lw_all := lw_g (lw_at lw_m1 51 rfl) rfl
theorem q220 : (Jvm.Cond.selects "BakeryRing$Order" ({ cls := "java/lang/Object", name := "getClass", desc := "()Ljava/lang/Class;" } : Jvm.MethodName) ({ cls := "java/lang/Object", name := "getClass", desc := "()Ljava/lang/Class;" } : Jvm.MethodName)) ∈ lw_all := lw_g (lw_at lw_m1 107 rfl) rfl
theorem q1721 : (Jvm.Cond.instantiable "BakeryRing$Order" (2 : Nat)) ∈ lw_all := lw_g (lw_at lw_m7 168 rfl) rfl
theorem q1727 : (Jvm.Cond.instanceMethod ({ cls := "BakeryRing$Order", name := "<init>", desc := "(Ljava/lang/String;[I)V" } : Jvm.MethodName)) ∈ lw_all := lw_g (lw_at lw_m7 174 rfl) rfl
theorem q1728 : (Jvm.Cond.code ({ cls := "BakeryRing$Order", name := "<init>", desc := "(Ljava/lang/String;[I)V" } : Jvm.MethodName) prog_7_method_1_code (3 : Nat) (Option.none : Option Jvm.ClassFile.FieldType)) ∈ lw_all := lw_g (lw_at lw_m7 175 rfl) rfl
theorem q1729 : (Jvm.Cond.methodLink "BakeryRing$Order" (1 : Nat) ({ cls := "java/lang/Object", name := "<init>", desc := "()V" } : Jvm.MethodName)) ∈ lw_all := lw_g (lw_at lw_m7 176 rfl) rfl
theorem q1730 : (Jvm.Cond.fieldLink "BakeryRing$Order" (7 : Nat) "BakeryRing$Order" "word" "Ljava/lang/String;") ∈ lw_all := lw_g (lw_at lw_m7 177 rfl) rfl
theorem q1732 : (Jvm.Cond.fieldLink "BakeryRing$Order" (13 : Nat) "BakeryRing$Order" "numbers" "[I") ∈ lw_all := lw_g (lw_at lw_m7 179 rfl) rfl
theorem q1734 : (Jvm.Cond.laysFinal "BakeryRing$Order" "BakeryRing$Order" "word" "Ljava/lang/String;") ∈ lw_all := lw_g (lw_at lw_m7 181 rfl) rfl
theorem q1735 : (Jvm.Cond.soleField "BakeryRing$Order" "word") ∈ lw_all := lw_g (lw_at lw_m7 182 rfl) rfl
theorem q1736 : (Jvm.Cond.laysFinal "BakeryRing$Order" "BakeryRing$Order" "numbers" "[I") ∈ lw_all := lw_g (lw_at lw_m7 183 rfl) rfl
theorem q1737 : (Jvm.Cond.soleField "BakeryRing$Order" "numbers") ∈ lw_all := lw_g (lw_at lw_m7 184 rfl) rfl
theorem q1738 : (Jvm.Cond.superclass "BakeryRing$Order" "java/lang/Object") ∈ lw_all := lw_g (lw_at lw_m7 185 rfl) rfl
theorem q2803 : (Jvm.Cond.castable "BakeryRing$Order" "java/lang/Object") ∈ lw_tbl := lw_at lw_m12 50 rfl
theorem in_X12 : ∀ w ∈ wsX120, w ∈ lw_all := lw_in wsX120 [1734, 1736] (by decide +kernel) (by decide +kernel)
