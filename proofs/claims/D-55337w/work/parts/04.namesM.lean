/-! BakeryRingModel -/
set_option maxRecDepth 100000
def RX9 : String := "BakeryRingModel"
def TX9 : u_T := fun k => match k with
  | 0 => ("BakeryRingModel", "thrown", "I", false)
  | 1 => ("BakeryRingModel", "whys", "[I", true)
  | 2 => ("BakeryRingModel", "details", "[I", true)
  | 3 => ("BakeryRingModel", "reasonNow", "I", false)
  | 4 => ("BakeryRingModel", "detailNow", "I", false)
  | 5 => ("BakeryRingModel", "w", "[I", true)
  | 6 => ("BakeryRingModel", "undos", "[I", true)
  | 7 => ("BakeryRingModel", "savedRow", "[I", true)
  | 8 => ("BakeryRingModel", "mind", "[I", true)
  | 9 => ("BakeryRingModel", "changes", "I", false)
  | 10 => ("BakeryRingModel", "firstChange", "I", false)
  | 11 => ("BakeryRingModel", "isSaved", "Z", false)
  | 12 => ("BakeryRingModel", "load", "[I", true)
  | 13 => ("BakeryRingModel", "passed", "Z", false)
  | 14 => ("BakeryRingModel", "input", "[C", true)
  | 15 => ("BakeryRingModel", "length", "I", false)
  | 16 => ("BakeryRingModel", "at", "I", false)
  | 17 => ("BakeryRingModel", "faultAt", "I", false)
  | 18 => ("BakeryRingModel", "numbers", "[I", true)
  | 19 => ("BakeryRingModel", "sort", "I", false)
  | 20 => ("BakeryRingModel", "done", "I", false)
  | 21 => ("BakeryRingModel", "line", "[C", true)
  | _ => ("BakeryRingModel", "lineLength", "I", false)
def tyX9 : Nat → FieldType := fun k => match k with
  | 0 => .int
  | 1 => .array .int
  | 2 => .array .int
  | 3 => .int
  | 4 => .int
  | 5 => .array .int
  | 6 => .array .int
  | 7 => .array .int
  | 8 => .array .int
  | 9 => .int
  | 10 => .int
  | 11 => .boolean
  | 12 => .array .int
  | 13 => .boolean
  | 14 => .array .char
  | 15 => .int
  | 16 => .int
  | 17 => .int
  | 18 => .array .int
  | 19 => .int
  | 20 => .int
  | 21 => .array .char
  | _ => .int
abbrev wsX90 : List Cond := u_ws RX9 TX9 23
set_option maxRecDepth 100000 in
theorem nmX9 : ∀ a, a < 23 → ∀ b, b < 23 → a ≠ b → (TX9 a).2.1 ≠ (TX9 b).2.1 := by decide +kernel
set_option maxRecDepth 100000 in
theorem tyX9_ok : ∀ k, k < 23 → parseFieldDescriptor (TX9 k).2.2.1 = some (tyX9 k) := by decide +kernel
abbrev cX9_init : ByteArray := prog_13_method_1_code
def yX9_init : MethodName := ⟨RX9, "<init>", "()V"⟩
def dkwX9_init_3 : List UInt8 := [42, 2, 181, 0, 35, 42, 5, 188, 10, 181, 0, 39, 42, 16, 80, 188, 5, 181, 0, 42, 177]
abbrev dktX9_init_3 : List UInt8 := dkwX9_init_3 ++ []
def dkwX9_init_2 : List UInt8 := [17, 0, 199, 188, 10, 181, 0, 25, 42, 16, 6, 188, 10, 181, 0, 28, 42, 16, 60, 188, 5, 181, 0, 31]
abbrev dktX9_init_2 : List UInt8 := dkwX9_init_2 ++ dktX9_init_3
def dkwX9_init_1 : List UInt8 := [181, 0, 16, 42, 17, 6, 56, 188, 10, 181, 0, 19, 42, 17, 0, 199, 188, 10, 181, 0, 22, 42]
abbrev dktX9_init_1 : List UInt8 := dkwX9_init_1 ++ dktX9_init_2
def dkwX9_init_0 : List UInt8 := [42, 183, 0, 1, 42, 5, 188, 10, 181, 0, 7, 42, 5, 188, 10, 181, 0, 13, 42, 17, 0, 199, 188, 10]
abbrev dktX9_init_0 : List UInt8 := dkwX9_init_0 ++ dktX9_init_1
theorem dksX9_init_0 : cX9_init.data.toList.drop 0 = dktX9_init_0 := by decide +kernel
theorem dksX9_init_1 : cX9_init.data.toList.drop 24 = dktX9_init_1 := dk_seg dksX9_init_0 24 rfl rfl
theorem dksX9_init_2 : cX9_init.data.toList.drop 46 = dktX9_init_2 := dk_seg dksX9_init_1 22 rfl rfl
theorem dksX9_init_3 : cX9_init.data.toList.drop 70 = dktX9_init_3 := dk_seg dksX9_init_2 24 rfl rfl
theorem dX9_init_0 : decode cX9_init 0 = .ok (.aload_n 0, 1) := dk_42 (dk_at dksX9_init_0 0 rfl rfl)
theorem dX9_init_1 : decode cX9_init 1 = .ok (.invokespecial 1, 3) := dk_183 0 1 (dk_at dksX9_init_0 1 rfl rfl)
theorem dX9_init_4 : decode cX9_init 4 = .ok (.aload_n 0, 1) := dk_42 (dk_at dksX9_init_0 4 rfl rfl)
theorem dX9_init_5 : decode cX9_init 5 = .ok (.iconst 2, 1) := dk_5 (dk_at dksX9_init_0 5 rfl rfl)
theorem dX9_init_6 : decode cX9_init 6 = .ok (.newarray .int, 2) := dk_188_10 (dk_at dksX9_init_0 6 rfl rfl)
theorem dX9_init_8 : decode cX9_init 8 = .ok (.putfield 7, 3) := dk_181 0 7 (dk_at dksX9_init_0 8 rfl rfl)
theorem dX9_init_11 : decode cX9_init 11 = .ok (.aload_n 0, 1) := dk_42 (dk_at dksX9_init_0 11 rfl rfl)
theorem dX9_init_12 : decode cX9_init 12 = .ok (.iconst 2, 1) := dk_5 (dk_at dksX9_init_0 12 rfl rfl)
theorem dX9_init_13 : decode cX9_init 13 = .ok (.newarray .int, 2) := dk_188_10 (dk_at dksX9_init_0 13 rfl rfl)
theorem dX9_init_15 : decode cX9_init 15 = .ok (.putfield 13, 3) := dk_181 0 13 (dk_at dksX9_init_0 15 rfl rfl)
theorem dX9_init_18 : decode cX9_init 18 = .ok (.aload_n 0, 1) := dk_42 (dk_at dksX9_init_0 18 rfl rfl)
theorem dX9_init_19 : decode cX9_init 19 = .ok (.sipush 199, 3) := dk_17 0 199 (dk_at dksX9_init_0 19 rfl rfl)
theorem dX9_init_22 : decode cX9_init 22 = .ok (.newarray .int, 2) := dk_188_10 (dk_at dksX9_init_0 22 rfl rfl)
theorem dX9_init_24 : decode cX9_init 24 = .ok (.putfield 16, 3) := dk_181 0 16 (dk_at dksX9_init_1 0 rfl rfl)
theorem dX9_init_27 : decode cX9_init 27 = .ok (.aload_n 0, 1) := dk_42 (dk_at dksX9_init_1 3 rfl rfl)
theorem dX9_init_28 : decode cX9_init 28 = .ok (.sipush 1592, 3) := dk_17 6 56 (dk_at dksX9_init_1 4 rfl rfl)
theorem dX9_init_31 : decode cX9_init 31 = .ok (.newarray .int, 2) := dk_188_10 (dk_at dksX9_init_1 7 rfl rfl)
theorem dX9_init_33 : decode cX9_init 33 = .ok (.putfield 19, 3) := dk_181 0 19 (dk_at dksX9_init_1 9 rfl rfl)
theorem dX9_init_36 : decode cX9_init 36 = .ok (.aload_n 0, 1) := dk_42 (dk_at dksX9_init_1 12 rfl rfl)
theorem dX9_init_37 : decode cX9_init 37 = .ok (.sipush 199, 3) := dk_17 0 199 (dk_at dksX9_init_1 13 rfl rfl)
theorem dX9_init_40 : decode cX9_init 40 = .ok (.newarray .int, 2) := dk_188_10 (dk_at dksX9_init_1 16 rfl rfl)
theorem dX9_init_42 : decode cX9_init 42 = .ok (.putfield 22, 3) := dk_181 0 22 (dk_at dksX9_init_1 18 rfl rfl)
theorem dX9_init_45 : decode cX9_init 45 = .ok (.aload_n 0, 1) := dk_42 (dk_at dksX9_init_1 21 rfl rfl)
theorem dX9_init_46 : decode cX9_init 46 = .ok (.sipush 199, 3) := dk_17 0 199 (dk_at dksX9_init_2 0 rfl rfl)
theorem dX9_init_49 : decode cX9_init 49 = .ok (.newarray .int, 2) := dk_188_10 (dk_at dksX9_init_2 3 rfl rfl)
theorem dX9_init_51 : decode cX9_init 51 = .ok (.putfield 25, 3) := dk_181 0 25 (dk_at dksX9_init_2 5 rfl rfl)
theorem dX9_init_54 : decode cX9_init 54 = .ok (.aload_n 0, 1) := dk_42 (dk_at dksX9_init_2 8 rfl rfl)
theorem dX9_init_55 : decode cX9_init 55 = .ok (.bipush 6, 2) := dk_16 6 (dk_at dksX9_init_2 9 rfl rfl)
theorem dX9_init_57 : decode cX9_init 57 = .ok (.newarray .int, 2) := dk_188_10 (dk_at dksX9_init_2 11 rfl rfl)
theorem dX9_init_59 : decode cX9_init 59 = .ok (.putfield 28, 3) := dk_181 0 28 (dk_at dksX9_init_2 13 rfl rfl)
theorem dX9_init_62 : decode cX9_init 62 = .ok (.aload_n 0, 1) := dk_42 (dk_at dksX9_init_2 16 rfl rfl)
theorem dX9_init_63 : decode cX9_init 63 = .ok (.bipush 60, 2) := dk_16 60 (dk_at dksX9_init_2 17 rfl rfl)
theorem dX9_init_65 : decode cX9_init 65 = .ok (.newarray .char, 2) := dk_188_5 (dk_at dksX9_init_2 19 rfl rfl)
theorem dX9_init_67 : decode cX9_init 67 = .ok (.putfield 31, 3) := dk_181 0 31 (dk_at dksX9_init_2 21 rfl rfl)
theorem dX9_init_70 : decode cX9_init 70 = .ok (.aload_n 0, 1) := dk_42 (dk_at dksX9_init_3 0 rfl rfl)
theorem dX9_init_71 : decode cX9_init 71 = .ok (.iconst (-1), 1) := dk_2 (dk_at dksX9_init_3 1 rfl rfl)
theorem dX9_init_72 : decode cX9_init 72 = .ok (.putfield 35, 3) := dk_181 0 35 (dk_at dksX9_init_3 2 rfl rfl)
theorem dX9_init_75 : decode cX9_init 75 = .ok (.aload_n 0, 1) := dk_42 (dk_at dksX9_init_3 5 rfl rfl)
theorem dX9_init_76 : decode cX9_init 76 = .ok (.iconst 2, 1) := dk_5 (dk_at dksX9_init_3 6 rfl rfl)
theorem dX9_init_77 : decode cX9_init 77 = .ok (.newarray .int, 2) := dk_188_10 (dk_at dksX9_init_3 7 rfl rfl)
theorem dX9_init_79 : decode cX9_init 79 = .ok (.putfield 39, 3) := dk_181 0 39 (dk_at dksX9_init_3 9 rfl rfl)
theorem dX9_init_82 : decode cX9_init 82 = .ok (.aload_n 0, 1) := dk_42 (dk_at dksX9_init_3 12 rfl rfl)
theorem dX9_init_83 : decode cX9_init 83 = .ok (.bipush 80, 2) := dk_16 80 (dk_at dksX9_init_3 13 rfl rfl)
theorem dX9_init_85 : decode cX9_init 85 = .ok (.newarray .char, 2) := dk_188_5 (dk_at dksX9_init_3 15 rfl rfl)
theorem dX9_init_87 : decode cX9_init 87 = .ok (.putfield 42, 3) := dk_181 0 42 (dk_at dksX9_init_3 17 rfl rfl)
theorem dX9_init_90 : decode cX9_init 90 = .ok (.return_, 1) := dk_177 (dk_at dksX9_init_3 20 rfl rfl)
abbrev cX9_thrown : ByteArray := prog_13_method_2_code
def yX9_thrown : MethodName := ⟨RX9, "thrown", "()I"⟩
theorem dX9_thrown_0 : decode cX9_thrown 0 = .ok (.aload_n 0, 1) := by decide +kernel
theorem dX9_thrown_1 : decode cX9_thrown 1 = .ok (.getfield 45, 3) := by decide +kernel
theorem dX9_thrown_4 : decode cX9_thrown 4 = .ok (.ireturn, 1) := by decide +kernel
abbrev cX9_clear : ByteArray := prog_13_method_13_code
def yX9_clear : MethodName := ⟨RX9, "clear", "()I"⟩
def dkwX9_clear_1 : List UInt8 := [180, 0, 16, 28, 3, 79, 132, 2, 1, 167, 255, 239, 42, 3, 181, 0, 62, 42, 3, 181, 0, 65, 27, 172]
abbrev dktX9_clear_1 : List UInt8 := dkwX9_clear_1 ++ []
def dkwX9_clear_0 : List UInt8 := [42, 3, 181, 0, 45, 42, 180, 0, 16, 5, 46, 60, 3, 61, 28, 17, 0, 199, 162, 0, 16, 42]
abbrev dktX9_clear_0 : List UInt8 := dkwX9_clear_0 ++ dktX9_clear_1
theorem dksX9_clear_0 : cX9_clear.data.toList.drop 0 = dktX9_clear_0 := by decide +kernel
theorem dksX9_clear_1 : cX9_clear.data.toList.drop 22 = dktX9_clear_1 := dk_seg dksX9_clear_0 22 rfl rfl
theorem dX9_clear_0 : decode cX9_clear 0 = .ok (.aload_n 0, 1) := dk_42 (dk_at dksX9_clear_0 0 rfl rfl)
theorem dX9_clear_1 : decode cX9_clear 1 = .ok (.iconst 0, 1) := dk_3 (dk_at dksX9_clear_0 1 rfl rfl)
theorem dX9_clear_2 : decode cX9_clear 2 = .ok (.putfield 45, 3) := dk_181 0 45 (dk_at dksX9_clear_0 2 rfl rfl)
theorem dX9_clear_5 : decode cX9_clear 5 = .ok (.aload_n 0, 1) := dk_42 (dk_at dksX9_clear_0 5 rfl rfl)
theorem dX9_clear_6 : decode cX9_clear 6 = .ok (.getfield 16, 3) := dk_180 0 16 (dk_at dksX9_clear_0 6 rfl rfl)
theorem dX9_clear_9 : decode cX9_clear 9 = .ok (.iconst 2, 1) := dk_5 (dk_at dksX9_clear_0 9 rfl rfl)
theorem dX9_clear_10 : decode cX9_clear 10 = .ok (.iaload, 1) := dk_46 (dk_at dksX9_clear_0 10 rfl rfl)
theorem dX9_clear_11 : decode cX9_clear 11 = .ok (.istore_n 1, 1) := dk_60 (dk_at dksX9_clear_0 11 rfl rfl)
theorem dX9_clear_12 : decode cX9_clear 12 = .ok (.iconst 0, 1) := dk_3 (dk_at dksX9_clear_0 12 rfl rfl)
theorem dX9_clear_13 : decode cX9_clear 13 = .ok (.istore_n 2, 1) := dk_61 (dk_at dksX9_clear_0 13 rfl rfl)
theorem dX9_clear_14 : decode cX9_clear 14 = .ok (.iload_n 2, 1) := dk_28 (dk_at dksX9_clear_0 14 rfl rfl)
theorem dX9_clear_15 : decode cX9_clear 15 = .ok (.sipush 199, 3) := dk_17 0 199 (dk_at dksX9_clear_0 15 rfl rfl)
theorem dX9_clear_18 : decode cX9_clear 18 = .ok (.if_icmp .ge 16, 3) := dk_162 0 16 (dk_at dksX9_clear_0 18 rfl rfl)
theorem dX9_clear_21 : decode cX9_clear 21 = .ok (.aload_n 0, 1) := dk_42 (dk_at dksX9_clear_0 21 rfl rfl)
theorem dX9_clear_22 : decode cX9_clear 22 = .ok (.getfield 16, 3) := dk_180 0 16 (dk_at dksX9_clear_1 0 rfl rfl)
theorem dX9_clear_25 : decode cX9_clear 25 = .ok (.iload_n 2, 1) := dk_28 (dk_at dksX9_clear_1 3 rfl rfl)
theorem dX9_clear_26 : decode cX9_clear 26 = .ok (.iconst 0, 1) := dk_3 (dk_at dksX9_clear_1 4 rfl rfl)
theorem dX9_clear_27 : decode cX9_clear 27 = .ok (.iastore, 1) := dk_79 (dk_at dksX9_clear_1 5 rfl rfl)
theorem dX9_clear_28 : decode cX9_clear 28 = .ok (.iinc 2 1, 3) := dk_132 2 1 (dk_at dksX9_clear_1 6 rfl rfl)
theorem dX9_clear_31 : decode cX9_clear 31 = .ok (.goto (-17), 3) := dk_167 255 239 (dk_at dksX9_clear_1 9 rfl rfl)
theorem dX9_clear_34 : decode cX9_clear 34 = .ok (.aload_n 0, 1) := dk_42 (dk_at dksX9_clear_1 12 rfl rfl)
theorem dX9_clear_35 : decode cX9_clear 35 = .ok (.iconst 0, 1) := dk_3 (dk_at dksX9_clear_1 13 rfl rfl)
theorem dX9_clear_36 : decode cX9_clear 36 = .ok (.putfield 62, 3) := dk_181 0 62 (dk_at dksX9_clear_1 14 rfl rfl)
theorem dX9_clear_39 : decode cX9_clear 39 = .ok (.aload_n 0, 1) := dk_42 (dk_at dksX9_clear_1 17 rfl rfl)
theorem dX9_clear_40 : decode cX9_clear 40 = .ok (.iconst 0, 1) := dk_3 (dk_at dksX9_clear_1 18 rfl rfl)
theorem dX9_clear_41 : decode cX9_clear 41 = .ok (.putfield 65, 3) := dk_181 0 65 (dk_at dksX9_clear_1 19 rfl rfl)
theorem dX9_clear_44 : decode cX9_clear 44 = .ok (.iload_n 1, 1) := dk_27 (dk_at dksX9_clear_1 22 rfl rfl)
theorem dX9_clear_45 : decode cX9_clear 45 = .ok (.ireturn, 1) := dk_172 (dk_at dksX9_clear_1 23 rfl rfl)
abbrev cX9_bakery : ByteArray := prog_13_method_36_code
def yX9_bakery : MethodName := ⟨RX9, "bakery", "(II)I"⟩
def dkwX9_bakery_3 : List UInt8 := [46, 4, 96, 79, 42, 29, 3, 27, 182, 0, 127, 42, 29, 4, 28, 182, 0, 127, 29, 172]
abbrev dktX9_bakery_3 : List UInt8 := dkwX9_bakery_3 ++ []
def dkwX9_bakery_2 : List UInt8 := [182, 0, 117, 182, 0, 121, 172, 42, 182, 0, 124, 42, 180, 0, 16, 3, 46, 62, 42, 180, 0, 16, 3, 92]
abbrev dktX9_bakery_2 : List UInt8 := dkwX9_bakery_2 ++ dktX9_bakery_3
def dkwX9_bakery_1 : List UInt8 := [42, 4, 182, 0, 58, 172, 42, 180, 0, 16, 3, 46, 16, 6, 160, 0, 16, 42, 42, 5, 4, 16, 6]
abbrev dktX9_bakery_1 : List UInt8 := dkwX9_bakery_1 ++ dktX9_bakery_2
def dkwX9_bakery_0 : List UInt8 := [42, 3, 181, 0, 45, 27, 3, 5, 184, 0, 74, 153, 0, 13, 28, 4, 16, 40, 184, 0, 74, 154, 0, 9]
abbrev dktX9_bakery_0 : List UInt8 := dkwX9_bakery_0 ++ dktX9_bakery_1
theorem dksX9_bakery_0 : cX9_bakery.data.toList.drop 0 = dktX9_bakery_0 := by decide +kernel
theorem dksX9_bakery_1 : cX9_bakery.data.toList.drop 24 = dktX9_bakery_1 := dk_seg dksX9_bakery_0 24 rfl rfl
theorem dksX9_bakery_2 : cX9_bakery.data.toList.drop 47 = dktX9_bakery_2 := dk_seg dksX9_bakery_1 23 rfl rfl
theorem dksX9_bakery_3 : cX9_bakery.data.toList.drop 71 = dktX9_bakery_3 := dk_seg dksX9_bakery_2 24 rfl rfl
theorem dX9_bakery_0 : decode cX9_bakery 0 = .ok (.aload_n 0, 1) := dk_42 (dk_at dksX9_bakery_0 0 rfl rfl)
theorem dX9_bakery_1 : decode cX9_bakery 1 = .ok (.iconst 0, 1) := dk_3 (dk_at dksX9_bakery_0 1 rfl rfl)
theorem dX9_bakery_2 : decode cX9_bakery 2 = .ok (.putfield 45, 3) := dk_181 0 45 (dk_at dksX9_bakery_0 2 rfl rfl)
theorem dX9_bakery_5 : decode cX9_bakery 5 = .ok (.iload_n 1, 1) := dk_27 (dk_at dksX9_bakery_0 5 rfl rfl)
theorem dX9_bakery_6 : decode cX9_bakery 6 = .ok (.iconst 0, 1) := dk_3 (dk_at dksX9_bakery_0 6 rfl rfl)
theorem dX9_bakery_7 : decode cX9_bakery 7 = .ok (.iconst 2, 1) := dk_5 (dk_at dksX9_bakery_0 7 rfl rfl)
theorem dX9_bakery_8 : decode cX9_bakery 8 = .ok (.invokestatic 74, 3) := dk_184 0 74 (dk_at dksX9_bakery_0 8 rfl rfl)
theorem dX9_bakery_11 : decode cX9_bakery 11 = .ok (.ifCond .eq 13, 3) := dk_153 0 13 (dk_at dksX9_bakery_0 11 rfl rfl)
theorem dX9_bakery_14 : decode cX9_bakery 14 = .ok (.iload_n 2, 1) := dk_28 (dk_at dksX9_bakery_0 14 rfl rfl)
theorem dX9_bakery_15 : decode cX9_bakery 15 = .ok (.iconst 1, 1) := dk_4 (dk_at dksX9_bakery_0 15 rfl rfl)
theorem dX9_bakery_16 : decode cX9_bakery 16 = .ok (.bipush 40, 2) := dk_16 40 (dk_at dksX9_bakery_0 16 rfl rfl)
theorem dX9_bakery_18 : decode cX9_bakery 18 = .ok (.invokestatic 74, 3) := dk_184 0 74 (dk_at dksX9_bakery_0 18 rfl rfl)
theorem dX9_bakery_21 : decode cX9_bakery 21 = .ok (.ifCond .ne 9, 3) := dk_154 0 9 (dk_at dksX9_bakery_0 21 rfl rfl)
theorem dX9_bakery_24 : decode cX9_bakery 24 = .ok (.aload_n 0, 1) := dk_42 (dk_at dksX9_bakery_1 0 rfl rfl)
theorem dX9_bakery_25 : decode cX9_bakery 25 = .ok (.iconst 1, 1) := dk_4 (dk_at dksX9_bakery_1 1 rfl rfl)
theorem dX9_bakery_26 : decode cX9_bakery 26 = .ok (.invokevirtual 58, 3) := dk_182 0 58 (dk_at dksX9_bakery_1 2 rfl rfl)
theorem dX9_bakery_29 : decode cX9_bakery 29 = .ok (.ireturn, 1) := dk_172 (dk_at dksX9_bakery_1 5 rfl rfl)
theorem dX9_bakery_30 : decode cX9_bakery 30 = .ok (.aload_n 0, 1) := dk_42 (dk_at dksX9_bakery_1 6 rfl rfl)
theorem dX9_bakery_31 : decode cX9_bakery 31 = .ok (.getfield 16, 3) := dk_180 0 16 (dk_at dksX9_bakery_1 7 rfl rfl)
theorem dX9_bakery_34 : decode cX9_bakery 34 = .ok (.iconst 0, 1) := dk_3 (dk_at dksX9_bakery_1 10 rfl rfl)
theorem dX9_bakery_35 : decode cX9_bakery 35 = .ok (.iaload, 1) := dk_46 (dk_at dksX9_bakery_1 11 rfl rfl)
theorem dX9_bakery_36 : decode cX9_bakery 36 = .ok (.bipush 6, 2) := dk_16 6 (dk_at dksX9_bakery_1 12 rfl rfl)
theorem dX9_bakery_38 : decode cX9_bakery 38 = .ok (.if_icmp .ne 16, 3) := dk_160 0 16 (dk_at dksX9_bakery_1 14 rfl rfl)
theorem dX9_bakery_41 : decode cX9_bakery 41 = .ok (.aload_n 0, 1) := dk_42 (dk_at dksX9_bakery_1 17 rfl rfl)
theorem dX9_bakery_42 : decode cX9_bakery 42 = .ok (.aload_n 0, 1) := dk_42 (dk_at dksX9_bakery_1 18 rfl rfl)
theorem dX9_bakery_43 : decode cX9_bakery 43 = .ok (.iconst 2, 1) := dk_5 (dk_at dksX9_bakery_1 19 rfl rfl)
theorem dX9_bakery_44 : decode cX9_bakery 44 = .ok (.iconst 1, 1) := dk_4 (dk_at dksX9_bakery_1 20 rfl rfl)
theorem dX9_bakery_45 : decode cX9_bakery 45 = .ok (.bipush 6, 2) := dk_16 6 (dk_at dksX9_bakery_1 21 rfl rfl)
theorem dX9_bakery_47 : decode cX9_bakery 47 = .ok (.invokevirtual 117, 3) := dk_182 0 117 (dk_at dksX9_bakery_2 0 rfl rfl)
theorem dX9_bakery_50 : decode cX9_bakery 50 = .ok (.invokevirtual 121, 3) := dk_182 0 121 (dk_at dksX9_bakery_2 3 rfl rfl)
theorem dX9_bakery_53 : decode cX9_bakery 53 = .ok (.ireturn, 1) := dk_172 (dk_at dksX9_bakery_2 6 rfl rfl)
theorem dX9_bakery_54 : decode cX9_bakery 54 = .ok (.aload_n 0, 1) := dk_42 (dk_at dksX9_bakery_2 7 rfl rfl)
theorem dX9_bakery_55 : decode cX9_bakery 55 = .ok (.invokevirtual 124, 3) := dk_182 0 124 (dk_at dksX9_bakery_2 8 rfl rfl)
theorem dX9_bakery_58 : decode cX9_bakery 58 = .ok (.aload_n 0, 1) := dk_42 (dk_at dksX9_bakery_2 11 rfl rfl)
theorem dX9_bakery_59 : decode cX9_bakery 59 = .ok (.getfield 16, 3) := dk_180 0 16 (dk_at dksX9_bakery_2 12 rfl rfl)
theorem dX9_bakery_62 : decode cX9_bakery 62 = .ok (.iconst 0, 1) := dk_3 (dk_at dksX9_bakery_2 15 rfl rfl)
theorem dX9_bakery_63 : decode cX9_bakery 63 = .ok (.iaload, 1) := dk_46 (dk_at dksX9_bakery_2 16 rfl rfl)
theorem dX9_bakery_64 : decode cX9_bakery 64 = .ok (.istore_n 3, 1) := dk_62 (dk_at dksX9_bakery_2 17 rfl rfl)
theorem dX9_bakery_65 : decode cX9_bakery 65 = .ok (.aload_n 0, 1) := dk_42 (dk_at dksX9_bakery_2 18 rfl rfl)
theorem dX9_bakery_66 : decode cX9_bakery 66 = .ok (.getfield 16, 3) := dk_180 0 16 (dk_at dksX9_bakery_2 19 rfl rfl)
theorem dX9_bakery_69 : decode cX9_bakery 69 = .ok (.iconst 0, 1) := dk_3 (dk_at dksX9_bakery_2 22 rfl rfl)
theorem dX9_bakery_70 : decode cX9_bakery 70 = .ok (.dup2, 1) := dk_92 (dk_at dksX9_bakery_2 23 rfl rfl)
theorem dX9_bakery_71 : decode cX9_bakery 71 = .ok (.iaload, 1) := dk_46 (dk_at dksX9_bakery_3 0 rfl rfl)
theorem dX9_bakery_72 : decode cX9_bakery 72 = .ok (.iconst 1, 1) := dk_4 (dk_at dksX9_bakery_3 1 rfl rfl)
theorem dX9_bakery_73 : decode cX9_bakery 73 = .ok (.iadd, 1) := dk_96 (dk_at dksX9_bakery_3 2 rfl rfl)
theorem dX9_bakery_74 : decode cX9_bakery 74 = .ok (.iastore, 1) := dk_79 (dk_at dksX9_bakery_3 3 rfl rfl)
theorem dX9_bakery_75 : decode cX9_bakery 75 = .ok (.aload_n 0, 1) := dk_42 (dk_at dksX9_bakery_3 4 rfl rfl)
theorem dX9_bakery_76 : decode cX9_bakery 76 = .ok (.iload_n 3, 1) := dk_29 (dk_at dksX9_bakery_3 5 rfl rfl)
theorem dX9_bakery_77 : decode cX9_bakery 77 = .ok (.iconst 0, 1) := dk_3 (dk_at dksX9_bakery_3 6 rfl rfl)
theorem dX9_bakery_78 : decode cX9_bakery 78 = .ok (.iload_n 1, 1) := dk_27 (dk_at dksX9_bakery_3 7 rfl rfl)
theorem dX9_bakery_79 : decode cX9_bakery 79 = .ok (.invokevirtual 127, 3) := dk_182 0 127 (dk_at dksX9_bakery_3 8 rfl rfl)
theorem dX9_bakery_82 : decode cX9_bakery 82 = .ok (.aload_n 0, 1) := dk_42 (dk_at dksX9_bakery_3 11 rfl rfl)
theorem dX9_bakery_83 : decode cX9_bakery 83 = .ok (.iload_n 3, 1) := dk_29 (dk_at dksX9_bakery_3 12 rfl rfl)
theorem dX9_bakery_84 : decode cX9_bakery 84 = .ok (.iconst 1, 1) := dk_4 (dk_at dksX9_bakery_3 13 rfl rfl)
theorem dX9_bakery_85 : decode cX9_bakery 85 = .ok (.iload_n 2, 1) := dk_28 (dk_at dksX9_bakery_3 14 rfl rfl)
theorem dX9_bakery_86 : decode cX9_bakery 86 = .ok (.invokevirtual 127, 3) := dk_182 0 127 (dk_at dksX9_bakery_3 15 rfl rfl)
theorem dX9_bakery_89 : decode cX9_bakery 89 = .ok (.iload_n 3, 1) := dk_29 (dk_at dksX9_bakery_3 18 rfl rfl)
theorem dX9_bakery_90 : decode cX9_bakery 90 = .ok (.ireturn, 1) := dk_172 (dk_at dksX9_bakery_3 19 rfl rfl)
abbrev cX9_isBetween : ByteArray := prog_13_method_4_code
def yX9_isBetween : MethodName := ⟨RX9, "isBetween", "(III)Z"⟩
def dkwX9_isBetween_0 : List UInt8 := [27, 26, 163, 0, 12, 26, 28, 163, 0, 7, 4, 167, 0, 4, 3, 172]
abbrev dktX9_isBetween_0 : List UInt8 := dkwX9_isBetween_0 ++ []
theorem dksX9_isBetween_0 : cX9_isBetween.data.toList.drop 0 = dktX9_isBetween_0 := by decide +kernel
theorem dX9_isBetween_0 : decode cX9_isBetween 0 = .ok (.iload_n 1, 1) := dk_27 (dk_at dksX9_isBetween_0 0 rfl rfl)
theorem dX9_isBetween_1 : decode cX9_isBetween 1 = .ok (.iload_n 0, 1) := dk_26 (dk_at dksX9_isBetween_0 1 rfl rfl)
theorem dX9_isBetween_2 : decode cX9_isBetween 2 = .ok (.if_icmp .gt 12, 3) := dk_163 0 12 (dk_at dksX9_isBetween_0 2 rfl rfl)
theorem dX9_isBetween_5 : decode cX9_isBetween 5 = .ok (.iload_n 0, 1) := dk_26 (dk_at dksX9_isBetween_0 5 rfl rfl)
theorem dX9_isBetween_6 : decode cX9_isBetween 6 = .ok (.iload_n 2, 1) := dk_28 (dk_at dksX9_isBetween_0 6 rfl rfl)
theorem dX9_isBetween_7 : decode cX9_isBetween 7 = .ok (.if_icmp .gt 7, 3) := dk_163 0 7 (dk_at dksX9_isBetween_0 7 rfl rfl)
theorem dX9_isBetween_10 : decode cX9_isBetween 10 = .ok (.iconst 1, 1) := dk_4 (dk_at dksX9_isBetween_0 10 rfl rfl)
theorem dX9_isBetween_11 : decode cX9_isBetween 11 = .ok (.goto 4, 3) := dk_167 0 4 (dk_at dksX9_isBetween_0 11 rfl rfl)
theorem dX9_isBetween_14 : decode cX9_isBetween 14 = .ok (.iconst 0, 1) := dk_3 (dk_at dksX9_isBetween_0 14 rfl rfl)
theorem dX9_isBetween_15 : decode cX9_isBetween 15 = .ok (.ireturn, 1) := dk_172 (dk_at dksX9_isBetween_0 15 rfl rfl)
abbrev cX9_fails : ByteArray := prog_13_method_3_code
def yX9_fails : MethodName := ⟨RX9, "fails", "(I)I"⟩
def dkwX9_fails_0 : List UInt8 := [42, 27, 181, 0, 45, 3, 172]
abbrev dktX9_fails_0 : List UInt8 := dkwX9_fails_0 ++ []
theorem dksX9_fails_0 : cX9_fails.data.toList.drop 0 = dktX9_fails_0 := by decide +kernel
theorem dX9_fails_0 : decode cX9_fails 0 = .ok (.aload_n 0, 1) := dk_42 (dk_at dksX9_fails_0 0 rfl rfl)
theorem dX9_fails_1 : decode cX9_fails 1 = .ok (.iload_n 1, 1) := dk_27 (dk_at dksX9_fails_0 1 rfl rfl)
theorem dX9_fails_2 : decode cX9_fails 2 = .ok (.putfield 45, 3) := dk_181 0 45 (dk_at dksX9_fails_0 2 rfl rfl)
theorem dX9_fails_5 : decode cX9_fails 5 = .ok (.iconst 0, 1) := dk_3 (dk_at dksX9_fails_0 5 rfl rfl)
theorem dX9_fails_6 : decode cX9_fails 6 = .ok (.ireturn, 1) := dk_172 (dk_at dksX9_fails_0 6 rfl rfl)
abbrev cX9_isNot : ByteArray := prog_13_method_5_code
def yX9_isNot : MethodName := ⟨RX9, "isNot", "(III)I"⟩
def dkwX9_isNot_0 : List UInt8 := [42, 28, 181, 0, 48, 42, 29, 181, 0, 51, 27, 172]
abbrev dktX9_isNot_0 : List UInt8 := dkwX9_isNot_0 ++ []
theorem dksX9_isNot_0 : cX9_isNot.data.toList.drop 0 = dktX9_isNot_0 := by decide +kernel
theorem dX9_isNot_0 : decode cX9_isNot 0 = .ok (.aload_n 0, 1) := dk_42 (dk_at dksX9_isNot_0 0 rfl rfl)
theorem dX9_isNot_1 : decode cX9_isNot 1 = .ok (.iload_n 2, 1) := dk_28 (dk_at dksX9_isNot_0 1 rfl rfl)
theorem dX9_isNot_2 : decode cX9_isNot 2 = .ok (.putfield 48, 3) := dk_181 0 48 (dk_at dksX9_isNot_0 2 rfl rfl)
theorem dX9_isNot_5 : decode cX9_isNot 5 = .ok (.aload_n 0, 1) := dk_42 (dk_at dksX9_isNot_0 5 rfl rfl)
theorem dX9_isNot_6 : decode cX9_isNot 6 = .ok (.iload_n 3, 1) := dk_29 (dk_at dksX9_isNot_0 6 rfl rfl)
theorem dX9_isNot_7 : decode cX9_isNot 7 = .ok (.putfield 51, 3) := dk_181 0 51 (dk_at dksX9_isNot_0 7 rfl rfl)
theorem dX9_isNot_10 : decode cX9_isNot 10 = .ok (.iload_n 1, 1) := dk_27 (dk_at dksX9_isNot_0 10 rfl rfl)
theorem dX9_isNot_11 : decode cX9_isNot 11 = .ok (.ireturn, 1) := dk_172 (dk_at dksX9_isNot_0 11 rfl rfl)
abbrev cX9_throwsNow : ByteArray := prog_13_method_8_code
def yX9_throwsNow : MethodName := ⟨RX9, "throwsNow", "(I)I"⟩
def dkwX9_throwsNow_1 : List UInt8 := [182, 0, 54, 42, 27, 182, 0, 58, 172]
abbrev dktX9_throwsNow_1 : List UInt8 := dkwX9_throwsNow_1 ++ []
def dkwX9_throwsNow_0 : List UInt8 := [42, 180, 0, 48, 158, 0, 23, 42, 3, 42, 180, 0, 48, 42, 180, 0, 51, 182, 0, 54, 42, 4, 3, 3]
abbrev dktX9_throwsNow_0 : List UInt8 := dkwX9_throwsNow_0 ++ dktX9_throwsNow_1
theorem dksX9_throwsNow_0 : cX9_throwsNow.data.toList.drop 0 = dktX9_throwsNow_0 := by decide +kernel
theorem dksX9_throwsNow_1 : cX9_throwsNow.data.toList.drop 24 = dktX9_throwsNow_1 := dk_seg dksX9_throwsNow_0 24 rfl rfl
theorem dX9_throwsNow_0 : decode cX9_throwsNow 0 = .ok (.aload_n 0, 1) := dk_42 (dk_at dksX9_throwsNow_0 0 rfl rfl)
theorem dX9_throwsNow_1 : decode cX9_throwsNow 1 = .ok (.getfield 48, 3) := dk_180 0 48 (dk_at dksX9_throwsNow_0 1 rfl rfl)
theorem dX9_throwsNow_4 : decode cX9_throwsNow 4 = .ok (.ifCond .le 23, 3) := dk_158 0 23 (dk_at dksX9_throwsNow_0 4 rfl rfl)
theorem dX9_throwsNow_7 : decode cX9_throwsNow 7 = .ok (.aload_n 0, 1) := dk_42 (dk_at dksX9_throwsNow_0 7 rfl rfl)
theorem dX9_throwsNow_8 : decode cX9_throwsNow 8 = .ok (.iconst 0, 1) := dk_3 (dk_at dksX9_throwsNow_0 8 rfl rfl)
theorem dX9_throwsNow_9 : decode cX9_throwsNow 9 = .ok (.aload_n 0, 1) := dk_42 (dk_at dksX9_throwsNow_0 9 rfl rfl)
theorem dX9_throwsNow_10 : decode cX9_throwsNow 10 = .ok (.getfield 48, 3) := dk_180 0 48 (dk_at dksX9_throwsNow_0 10 rfl rfl)
theorem dX9_throwsNow_13 : decode cX9_throwsNow 13 = .ok (.aload_n 0, 1) := dk_42 (dk_at dksX9_throwsNow_0 13 rfl rfl)
theorem dX9_throwsNow_14 : decode cX9_throwsNow 14 = .ok (.getfield 51, 3) := dk_180 0 51 (dk_at dksX9_throwsNow_0 14 rfl rfl)
theorem dX9_throwsNow_17 : decode cX9_throwsNow 17 = .ok (.invokevirtual 54, 3) := dk_182 0 54 (dk_at dksX9_throwsNow_0 17 rfl rfl)
theorem dX9_throwsNow_20 : decode cX9_throwsNow 20 = .ok (.aload_n 0, 1) := dk_42 (dk_at dksX9_throwsNow_0 20 rfl rfl)
theorem dX9_throwsNow_21 : decode cX9_throwsNow 21 = .ok (.iconst 1, 1) := dk_4 (dk_at dksX9_throwsNow_0 21 rfl rfl)
theorem dX9_throwsNow_22 : decode cX9_throwsNow 22 = .ok (.iconst 0, 1) := dk_3 (dk_at dksX9_throwsNow_0 22 rfl rfl)
theorem dX9_throwsNow_23 : decode cX9_throwsNow 23 = .ok (.iconst 0, 1) := dk_3 (dk_at dksX9_throwsNow_0 23 rfl rfl)
theorem dX9_throwsNow_24 : decode cX9_throwsNow 24 = .ok (.invokevirtual 54, 3) := dk_182 0 54 (dk_at dksX9_throwsNow_1 0 rfl rfl)
theorem dX9_throwsNow_27 : decode cX9_throwsNow 27 = .ok (.aload_n 0, 1) := dk_42 (dk_at dksX9_throwsNow_1 3 rfl rfl)
theorem dX9_throwsNow_28 : decode cX9_throwsNow 28 = .ok (.iload_n 1, 1) := dk_27 (dk_at dksX9_throwsNow_1 4 rfl rfl)
theorem dX9_throwsNow_29 : decode cX9_throwsNow 29 = .ok (.invokevirtual 58, 3) := dk_182 0 58 (dk_at dksX9_throwsNow_1 5 rfl rfl)
theorem dX9_throwsNow_32 : decode cX9_throwsNow 32 = .ok (.ireturn, 1) := dk_172 (dk_at dksX9_throwsNow_1 8 rfl rfl)
abbrev cX9_keepsAt : ByteArray := prog_13_method_7_code
def yX9_keepsAt : MethodName := ⟨RX9, "keepsAt", "(III)V"⟩
def dkwX9_keepsAt_0 : List UInt8 := [42, 180, 0, 7, 27, 28, 79, 42, 180, 0, 13, 27, 29, 79, 177]
abbrev dktX9_keepsAt_0 : List UInt8 := dkwX9_keepsAt_0 ++ []
theorem dksX9_keepsAt_0 : cX9_keepsAt.data.toList.drop 0 = dktX9_keepsAt_0 := by decide +kernel
theorem dX9_keepsAt_0 : decode cX9_keepsAt 0 = .ok (.aload_n 0, 1) := dk_42 (dk_at dksX9_keepsAt_0 0 rfl rfl)
theorem dX9_keepsAt_1 : decode cX9_keepsAt 1 = .ok (.getfield 7, 3) := dk_180 0 7 (dk_at dksX9_keepsAt_0 1 rfl rfl)
theorem dX9_keepsAt_4 : decode cX9_keepsAt 4 = .ok (.iload_n 1, 1) := dk_27 (dk_at dksX9_keepsAt_0 4 rfl rfl)
theorem dX9_keepsAt_5 : decode cX9_keepsAt 5 = .ok (.iload_n 2, 1) := dk_28 (dk_at dksX9_keepsAt_0 5 rfl rfl)
theorem dX9_keepsAt_6 : decode cX9_keepsAt 6 = .ok (.iastore, 1) := dk_79 (dk_at dksX9_keepsAt_0 6 rfl rfl)
theorem dX9_keepsAt_7 : decode cX9_keepsAt 7 = .ok (.aload_n 0, 1) := dk_42 (dk_at dksX9_keepsAt_0 7 rfl rfl)
theorem dX9_keepsAt_8 : decode cX9_keepsAt 8 = .ok (.getfield 13, 3) := dk_180 0 13 (dk_at dksX9_keepsAt_0 8 rfl rfl)
theorem dX9_keepsAt_11 : decode cX9_keepsAt 11 = .ok (.iload_n 1, 1) := dk_27 (dk_at dksX9_keepsAt_0 11 rfl rfl)
theorem dX9_keepsAt_12 : decode cX9_keepsAt 12 = .ok (.iload_n 3, 1) := dk_29 (dk_at dksX9_keepsAt_0 12 rfl rfl)
theorem dX9_keepsAt_13 : decode cX9_keepsAt 13 = .ok (.iastore, 1) := dk_79 (dk_at dksX9_keepsAt_0 13 rfl rfl)
theorem dX9_keepsAt_14 : decode cX9_keepsAt 14 = .ok (.return_, 1) := dk_177 (dk_at dksX9_keepsAt_0 14 rfl rfl)
abbrev cX9_begins : ByteArray := prog_13_method_12_code
def yX9_begins : MethodName := ⟨RX9, "begins", "()V"⟩
def dkwX9_begins_0 : List UInt8 := [42, 182, 0, 68, 42, 182, 0, 71, 42, 180, 0, 16, 5, 92, 46, 4, 96, 79, 177]
abbrev dktX9_begins_0 : List UInt8 := dkwX9_begins_0 ++ []
theorem dksX9_begins_0 : cX9_begins.data.toList.drop 0 = dktX9_begins_0 := by decide +kernel
theorem dX9_begins_0 : decode cX9_begins 0 = .ok (.aload_n 0, 1) := dk_42 (dk_at dksX9_begins_0 0 rfl rfl)
theorem dX9_begins_1 : decode cX9_begins 1 = .ok (.invokevirtual 68, 3) := dk_182 0 68 (dk_at dksX9_begins_0 1 rfl rfl)
theorem dX9_begins_4 : decode cX9_begins 4 = .ok (.aload_n 0, 1) := dk_42 (dk_at dksX9_begins_0 4 rfl rfl)
theorem dX9_begins_5 : decode cX9_begins 5 = .ok (.invokevirtual 71, 3) := dk_182 0 71 (dk_at dksX9_begins_0 5 rfl rfl)
theorem dX9_begins_8 : decode cX9_begins 8 = .ok (.aload_n 0, 1) := dk_42 (dk_at dksX9_begins_0 8 rfl rfl)
theorem dX9_begins_9 : decode cX9_begins 9 = .ok (.getfield 16, 3) := dk_180 0 16 (dk_at dksX9_begins_0 9 rfl rfl)
theorem dX9_begins_12 : decode cX9_begins 12 = .ok (.iconst 2, 1) := dk_5 (dk_at dksX9_begins_0 12 rfl rfl)
theorem dX9_begins_13 : decode cX9_begins 13 = .ok (.dup2, 1) := dk_92 (dk_at dksX9_begins_0 13 rfl rfl)
theorem dX9_begins_14 : decode cX9_begins 14 = .ok (.iaload, 1) := dk_46 (dk_at dksX9_begins_0 14 rfl rfl)
theorem dX9_begins_15 : decode cX9_begins 15 = .ok (.iconst 1, 1) := dk_4 (dk_at dksX9_begins_0 15 rfl rfl)
theorem dX9_begins_16 : decode cX9_begins 16 = .ok (.iadd, 1) := dk_96 (dk_at dksX9_begins_0 16 rfl rfl)
theorem dX9_begins_17 : decode cX9_begins 17 = .ok (.iastore, 1) := dk_79 (dk_at dksX9_begins_0 17 rfl rfl)
theorem dX9_begins_18 : decode cX9_begins 18 = .ok (.return_, 1) := dk_177 (dk_at dksX9_begins_0 18 rfl rfl)
abbrev cX9_thinks : ByteArray := prog_13_method_9_code
def yX9_thinks : MethodName := ⟨RX9, "thinks", "()V"⟩
def dkwX9_thinks_1 : List UInt8 := [167, 255, 234, 177]
abbrev dktX9_thinks_1 : List UInt8 := dkwX9_thinks_1 ++ []
def dkwX9_thinks_0 : List UInt8 := [3, 60, 27, 17, 0, 199, 162, 0, 21, 42, 180, 0, 25, 27, 42, 180, 0, 16, 27, 46, 79, 132, 1, 1]
abbrev dktX9_thinks_0 : List UInt8 := dkwX9_thinks_0 ++ dktX9_thinks_1
theorem dksX9_thinks_0 : cX9_thinks.data.toList.drop 0 = dktX9_thinks_0 := by decide +kernel
theorem dksX9_thinks_1 : cX9_thinks.data.toList.drop 24 = dktX9_thinks_1 := dk_seg dksX9_thinks_0 24 rfl rfl
theorem dX9_thinks_0 : decode cX9_thinks 0 = .ok (.iconst 0, 1) := dk_3 (dk_at dksX9_thinks_0 0 rfl rfl)
theorem dX9_thinks_1 : decode cX9_thinks 1 = .ok (.istore_n 1, 1) := dk_60 (dk_at dksX9_thinks_0 1 rfl rfl)
theorem dX9_thinks_2 : decode cX9_thinks 2 = .ok (.iload_n 1, 1) := dk_27 (dk_at dksX9_thinks_0 2 rfl rfl)
theorem dX9_thinks_3 : decode cX9_thinks 3 = .ok (.sipush 199, 3) := dk_17 0 199 (dk_at dksX9_thinks_0 3 rfl rfl)
theorem dX9_thinks_6 : decode cX9_thinks 6 = .ok (.if_icmp .ge 21, 3) := dk_162 0 21 (dk_at dksX9_thinks_0 6 rfl rfl)
theorem dX9_thinks_9 : decode cX9_thinks 9 = .ok (.aload_n 0, 1) := dk_42 (dk_at dksX9_thinks_0 9 rfl rfl)
theorem dX9_thinks_10 : decode cX9_thinks 10 = .ok (.getfield 25, 3) := dk_180 0 25 (dk_at dksX9_thinks_0 10 rfl rfl)
theorem dX9_thinks_13 : decode cX9_thinks 13 = .ok (.iload_n 1, 1) := dk_27 (dk_at dksX9_thinks_0 13 rfl rfl)
theorem dX9_thinks_14 : decode cX9_thinks 14 = .ok (.aload_n 0, 1) := dk_42 (dk_at dksX9_thinks_0 14 rfl rfl)
theorem dX9_thinks_15 : decode cX9_thinks 15 = .ok (.getfield 16, 3) := dk_180 0 16 (dk_at dksX9_thinks_0 15 rfl rfl)
theorem dX9_thinks_18 : decode cX9_thinks 18 = .ok (.iload_n 1, 1) := dk_27 (dk_at dksX9_thinks_0 18 rfl rfl)
theorem dX9_thinks_19 : decode cX9_thinks 19 = .ok (.iaload, 1) := dk_46 (dk_at dksX9_thinks_0 19 rfl rfl)
theorem dX9_thinks_20 : decode cX9_thinks 20 = .ok (.iastore, 1) := dk_79 (dk_at dksX9_thinks_0 20 rfl rfl)
theorem dX9_thinks_21 : decode cX9_thinks 21 = .ok (.iinc 1 1, 3) := dk_132 1 1 (dk_at dksX9_thinks_0 21 rfl rfl)
theorem dX9_thinks_24 : decode cX9_thinks 24 = .ok (.goto (-22), 3) := dk_167 255 234 (dk_at dksX9_thinks_1 0 rfl rfl)
theorem dX9_thinks_27 : decode cX9_thinks 27 = .ok (.return_, 1) := dk_177 (dk_at dksX9_thinks_1 3 rfl rfl)
abbrev cX9_keepsMind : ByteArray := prog_13_method_11_code
def yX9_keepsMind : MethodName := ⟨RX9, "keepsMind", "()V"⟩
def dkwX9_keepsMind_3 : List UInt8 := [132, 2, 1, 167, 255, 228, 42, 89, 180, 0, 62, 4, 96, 181, 0, 62, 177]
abbrev dktX9_keepsMind_3 : List UInt8 := dkwX9_keepsMind_3 ++ []
def dkwX9_keepsMind_2 : List UInt8 := [17, 0, 199, 162, 0, 27, 42, 180, 0, 19, 17, 0, 199, 27, 104, 28, 96, 42, 180, 0, 25, 28, 46, 79]
abbrev dktX9_keepsMind_2 : List UInt8 := dkwX9_keepsMind_2 ++ dktX9_keepsMind_3
def dkwX9_keepsMind_1 : List UInt8 := [180, 0, 62, 4, 100, 181, 0, 62, 42, 180, 0, 65, 42, 180, 0, 62, 96, 16, 8, 112, 60, 3, 61, 28]
abbrev dktX9_keepsMind_1 : List UInt8 := dkwX9_keepsMind_1 ++ dktX9_keepsMind_2
def dkwX9_keepsMind_0 : List UInt8 := [42, 180, 0, 62, 16, 8, 160, 0, 26, 42, 42, 180, 0, 65, 4, 96, 16, 8, 112, 181, 0, 65, 42, 89]
abbrev dktX9_keepsMind_0 : List UInt8 := dkwX9_keepsMind_0 ++ dktX9_keepsMind_1
theorem dksX9_keepsMind_0 : cX9_keepsMind.data.toList.drop 0 = dktX9_keepsMind_0 := by decide +kernel
theorem dksX9_keepsMind_1 : cX9_keepsMind.data.toList.drop 24 = dktX9_keepsMind_1 := dk_seg dksX9_keepsMind_0 24 rfl rfl
theorem dksX9_keepsMind_2 : cX9_keepsMind.data.toList.drop 48 = dktX9_keepsMind_2 := dk_seg dksX9_keepsMind_1 24 rfl rfl
theorem dksX9_keepsMind_3 : cX9_keepsMind.data.toList.drop 72 = dktX9_keepsMind_3 := dk_seg dksX9_keepsMind_2 24 rfl rfl
theorem dX9_keepsMind_0 : decode cX9_keepsMind 0 = .ok (.aload_n 0, 1) := dk_42 (dk_at dksX9_keepsMind_0 0 rfl rfl)
theorem dX9_keepsMind_1 : decode cX9_keepsMind 1 = .ok (.getfield 62, 3) := dk_180 0 62 (dk_at dksX9_keepsMind_0 1 rfl rfl)
theorem dX9_keepsMind_4 : decode cX9_keepsMind 4 = .ok (.bipush 8, 2) := dk_16 8 (dk_at dksX9_keepsMind_0 4 rfl rfl)
theorem dX9_keepsMind_6 : decode cX9_keepsMind 6 = .ok (.if_icmp .ne 26, 3) := dk_160 0 26 (dk_at dksX9_keepsMind_0 6 rfl rfl)
theorem dX9_keepsMind_9 : decode cX9_keepsMind 9 = .ok (.aload_n 0, 1) := dk_42 (dk_at dksX9_keepsMind_0 9 rfl rfl)
theorem dX9_keepsMind_10 : decode cX9_keepsMind 10 = .ok (.aload_n 0, 1) := dk_42 (dk_at dksX9_keepsMind_0 10 rfl rfl)
theorem dX9_keepsMind_11 : decode cX9_keepsMind 11 = .ok (.getfield 65, 3) := dk_180 0 65 (dk_at dksX9_keepsMind_0 11 rfl rfl)
theorem dX9_keepsMind_14 : decode cX9_keepsMind 14 = .ok (.iconst 1, 1) := dk_4 (dk_at dksX9_keepsMind_0 14 rfl rfl)
theorem dX9_keepsMind_15 : decode cX9_keepsMind 15 = .ok (.iadd, 1) := dk_96 (dk_at dksX9_keepsMind_0 15 rfl rfl)
theorem dX9_keepsMind_16 : decode cX9_keepsMind 16 = .ok (.bipush 8, 2) := dk_16 8 (dk_at dksX9_keepsMind_0 16 rfl rfl)
theorem dX9_keepsMind_18 : decode cX9_keepsMind 18 = .ok (.irem, 1) := dk_112 (dk_at dksX9_keepsMind_0 18 rfl rfl)
theorem dX9_keepsMind_19 : decode cX9_keepsMind 19 = .ok (.putfield 65, 3) := dk_181 0 65 (dk_at dksX9_keepsMind_0 19 rfl rfl)
theorem dX9_keepsMind_22 : decode cX9_keepsMind 22 = .ok (.aload_n 0, 1) := dk_42 (dk_at dksX9_keepsMind_0 22 rfl rfl)
theorem dX9_keepsMind_23 : decode cX9_keepsMind 23 = .ok (.dup, 1) := dk_89 (dk_at dksX9_keepsMind_0 23 rfl rfl)
theorem dX9_keepsMind_24 : decode cX9_keepsMind 24 = .ok (.getfield 62, 3) := dk_180 0 62 (dk_at dksX9_keepsMind_1 0 rfl rfl)
theorem dX9_keepsMind_27 : decode cX9_keepsMind 27 = .ok (.iconst 1, 1) := dk_4 (dk_at dksX9_keepsMind_1 3 rfl rfl)
theorem dX9_keepsMind_28 : decode cX9_keepsMind 28 = .ok (.isub, 1) := dk_100 (dk_at dksX9_keepsMind_1 4 rfl rfl)
theorem dX9_keepsMind_29 : decode cX9_keepsMind 29 = .ok (.putfield 62, 3) := dk_181 0 62 (dk_at dksX9_keepsMind_1 5 rfl rfl)
theorem dX9_keepsMind_32 : decode cX9_keepsMind 32 = .ok (.aload_n 0, 1) := dk_42 (dk_at dksX9_keepsMind_1 8 rfl rfl)
theorem dX9_keepsMind_33 : decode cX9_keepsMind 33 = .ok (.getfield 65, 3) := dk_180 0 65 (dk_at dksX9_keepsMind_1 9 rfl rfl)
theorem dX9_keepsMind_36 : decode cX9_keepsMind 36 = .ok (.aload_n 0, 1) := dk_42 (dk_at dksX9_keepsMind_1 12 rfl rfl)
theorem dX9_keepsMind_37 : decode cX9_keepsMind 37 = .ok (.getfield 62, 3) := dk_180 0 62 (dk_at dksX9_keepsMind_1 13 rfl rfl)
theorem dX9_keepsMind_40 : decode cX9_keepsMind 40 = .ok (.iadd, 1) := dk_96 (dk_at dksX9_keepsMind_1 16 rfl rfl)
theorem dX9_keepsMind_41 : decode cX9_keepsMind 41 = .ok (.bipush 8, 2) := dk_16 8 (dk_at dksX9_keepsMind_1 17 rfl rfl)
theorem dX9_keepsMind_43 : decode cX9_keepsMind 43 = .ok (.irem, 1) := dk_112 (dk_at dksX9_keepsMind_1 19 rfl rfl)
theorem dX9_keepsMind_44 : decode cX9_keepsMind 44 = .ok (.istore_n 1, 1) := dk_60 (dk_at dksX9_keepsMind_1 20 rfl rfl)
theorem dX9_keepsMind_45 : decode cX9_keepsMind 45 = .ok (.iconst 0, 1) := dk_3 (dk_at dksX9_keepsMind_1 21 rfl rfl)
theorem dX9_keepsMind_46 : decode cX9_keepsMind 46 = .ok (.istore_n 2, 1) := dk_61 (dk_at dksX9_keepsMind_1 22 rfl rfl)
theorem dX9_keepsMind_47 : decode cX9_keepsMind 47 = .ok (.iload_n 2, 1) := dk_28 (dk_at dksX9_keepsMind_1 23 rfl rfl)
theorem dX9_keepsMind_48 : decode cX9_keepsMind 48 = .ok (.sipush 199, 3) := dk_17 0 199 (dk_at dksX9_keepsMind_2 0 rfl rfl)
theorem dX9_keepsMind_51 : decode cX9_keepsMind 51 = .ok (.if_icmp .ge 27, 3) := dk_162 0 27 (dk_at dksX9_keepsMind_2 3 rfl rfl)
theorem dX9_keepsMind_54 : decode cX9_keepsMind 54 = .ok (.aload_n 0, 1) := dk_42 (dk_at dksX9_keepsMind_2 6 rfl rfl)
theorem dX9_keepsMind_55 : decode cX9_keepsMind 55 = .ok (.getfield 19, 3) := dk_180 0 19 (dk_at dksX9_keepsMind_2 7 rfl rfl)
theorem dX9_keepsMind_58 : decode cX9_keepsMind 58 = .ok (.sipush 199, 3) := dk_17 0 199 (dk_at dksX9_keepsMind_2 10 rfl rfl)
theorem dX9_keepsMind_61 : decode cX9_keepsMind 61 = .ok (.iload_n 1, 1) := dk_27 (dk_at dksX9_keepsMind_2 13 rfl rfl)
theorem dX9_keepsMind_62 : decode cX9_keepsMind 62 = .ok (.imul, 1) := dk_104 (dk_at dksX9_keepsMind_2 14 rfl rfl)
theorem dX9_keepsMind_63 : decode cX9_keepsMind 63 = .ok (.iload_n 2, 1) := dk_28 (dk_at dksX9_keepsMind_2 15 rfl rfl)
theorem dX9_keepsMind_64 : decode cX9_keepsMind 64 = .ok (.iadd, 1) := dk_96 (dk_at dksX9_keepsMind_2 16 rfl rfl)
theorem dX9_keepsMind_65 : decode cX9_keepsMind 65 = .ok (.aload_n 0, 1) := dk_42 (dk_at dksX9_keepsMind_2 17 rfl rfl)
theorem dX9_keepsMind_66 : decode cX9_keepsMind 66 = .ok (.getfield 25, 3) := dk_180 0 25 (dk_at dksX9_keepsMind_2 18 rfl rfl)
theorem dX9_keepsMind_69 : decode cX9_keepsMind 69 = .ok (.iload_n 2, 1) := dk_28 (dk_at dksX9_keepsMind_2 21 rfl rfl)
theorem dX9_keepsMind_70 : decode cX9_keepsMind 70 = .ok (.iaload, 1) := dk_46 (dk_at dksX9_keepsMind_2 22 rfl rfl)
theorem dX9_keepsMind_71 : decode cX9_keepsMind 71 = .ok (.iastore, 1) := dk_79 (dk_at dksX9_keepsMind_2 23 rfl rfl)
theorem dX9_keepsMind_72 : decode cX9_keepsMind 72 = .ok (.iinc 2 1, 3) := dk_132 2 1 (dk_at dksX9_keepsMind_3 0 rfl rfl)
theorem dX9_keepsMind_75 : decode cX9_keepsMind 75 = .ok (.goto (-28), 3) := dk_167 255 228 (dk_at dksX9_keepsMind_3 3 rfl rfl)
theorem dX9_keepsMind_78 : decode cX9_keepsMind 78 = .ok (.aload_n 0, 1) := dk_42 (dk_at dksX9_keepsMind_3 6 rfl rfl)
theorem dX9_keepsMind_79 : decode cX9_keepsMind 79 = .ok (.dup, 1) := dk_89 (dk_at dksX9_keepsMind_3 7 rfl rfl)
theorem dX9_keepsMind_80 : decode cX9_keepsMind 80 = .ok (.getfield 62, 3) := dk_180 0 62 (dk_at dksX9_keepsMind_3 8 rfl rfl)
theorem dX9_keepsMind_83 : decode cX9_keepsMind 83 = .ok (.iconst 1, 1) := dk_4 (dk_at dksX9_keepsMind_3 11 rfl rfl)
theorem dX9_keepsMind_84 : decode cX9_keepsMind 84 = .ok (.iadd, 1) := dk_96 (dk_at dksX9_keepsMind_3 12 rfl rfl)
theorem dX9_keepsMind_85 : decode cX9_keepsMind 85 = .ok (.putfield 62, 3) := dk_181 0 62 (dk_at dksX9_keepsMind_3 13 rfl rfl)
theorem dX9_keepsMind_88 : decode cX9_keepsMind 88 = .ok (.return_, 1) := dk_177 (dk_at dksX9_keepsMind_3 16 rfl rfl)
abbrev cX9_setsBakery : ByteArray := prog_13_method_18_code
def yX9_setsBakery : MethodName := ⟨RX9, "setsBakery", "(III)V"⟩
def dkwX9_setsBakery_0 : List UInt8 := [42, 180, 0, 16, 7, 7, 27, 104, 96, 28, 96, 29, 79, 177]
abbrev dktX9_setsBakery_0 : List UInt8 := dkwX9_setsBakery_0 ++ []
theorem dksX9_setsBakery_0 : cX9_setsBakery.data.toList.drop 0 = dktX9_setsBakery_0 := by decide +kernel
theorem dX9_setsBakery_0 : decode cX9_setsBakery 0 = .ok (.aload_n 0, 1) := dk_42 (dk_at dksX9_setsBakery_0 0 rfl rfl)
theorem dX9_setsBakery_1 : decode cX9_setsBakery 1 = .ok (.getfield 16, 3) := dk_180 0 16 (dk_at dksX9_setsBakery_0 1 rfl rfl)
theorem dX9_setsBakery_4 : decode cX9_setsBakery 4 = .ok (.iconst 4, 1) := dk_7 (dk_at dksX9_setsBakery_0 4 rfl rfl)
theorem dX9_setsBakery_5 : decode cX9_setsBakery 5 = .ok (.iconst 4, 1) := dk_7 (dk_at dksX9_setsBakery_0 5 rfl rfl)
theorem dX9_setsBakery_6 : decode cX9_setsBakery 6 = .ok (.iload_n 1, 1) := dk_27 (dk_at dksX9_setsBakery_0 6 rfl rfl)
theorem dX9_setsBakery_7 : decode cX9_setsBakery 7 = .ok (.imul, 1) := dk_104 (dk_at dksX9_setsBakery_0 7 rfl rfl)
theorem dX9_setsBakery_8 : decode cX9_setsBakery 8 = .ok (.iadd, 1) := dk_96 (dk_at dksX9_setsBakery_0 8 rfl rfl)
theorem dX9_setsBakery_9 : decode cX9_setsBakery 9 = .ok (.iload_n 2, 1) := dk_28 (dk_at dksX9_setsBakery_0 9 rfl rfl)
theorem dX9_setsBakery_10 : decode cX9_setsBakery 10 = .ok (.iadd, 1) := dk_96 (dk_at dksX9_setsBakery_0 10 rfl rfl)
theorem dX9_setsBakery_11 : decode cX9_setsBakery 11 = .ok (.iload_n 3, 1) := dk_29 (dk_at dksX9_setsBakery_0 11 rfl rfl)
theorem dX9_setsBakery_12 : decode cX9_setsBakery 12 = .ok (.iastore, 1) := dk_79 (dk_at dksX9_setsBakery_0 12 rfl rfl)
theorem dX9_setsBakery_13 : decode cX9_setsBakery 13 = .ok (.return_, 1) := dk_177 (dk_at dksX9_setsBakery_0 13 rfl rfl)
abbrev cX9_sign : ByteArray := prog_13_method_39_code
def yX9_sign : MethodName := ⟨RX9, "sign", "(II)I"⟩
def dkwX9_sign_1 : List UInt8 := [182, 0, 124, 42, 27, 28, 182, 0, 155, 172]
abbrev dktX9_sign_1 : List UInt8 := dkwX9_sign_1 ++ []
def dkwX9_sign_0 : List UInt8 := [42, 3, 181, 0, 45, 42, 27, 28, 182, 0, 152, 62, 29, 153, 0, 9, 42, 29, 182, 0, 121, 172, 42]
abbrev dktX9_sign_0 : List UInt8 := dkwX9_sign_0 ++ dktX9_sign_1
theorem dksX9_sign_0 : cX9_sign.data.toList.drop 0 = dktX9_sign_0 := by decide +kernel
theorem dksX9_sign_1 : cX9_sign.data.toList.drop 23 = dktX9_sign_1 := dk_seg dksX9_sign_0 23 rfl rfl
theorem dX9_sign_0 : decode cX9_sign 0 = .ok (.aload_n 0, 1) := dk_42 (dk_at dksX9_sign_0 0 rfl rfl)
theorem dX9_sign_1 : decode cX9_sign 1 = .ok (.iconst 0, 1) := dk_3 (dk_at dksX9_sign_0 1 rfl rfl)
theorem dX9_sign_2 : decode cX9_sign 2 = .ok (.putfield 45, 3) := dk_181 0 45 (dk_at dksX9_sign_0 2 rfl rfl)
theorem dX9_sign_5 : decode cX9_sign 5 = .ok (.aload_n 0, 1) := dk_42 (dk_at dksX9_sign_0 5 rfl rfl)
theorem dX9_sign_6 : decode cX9_sign 6 = .ok (.iload_n 1, 1) := dk_27 (dk_at dksX9_sign_0 6 rfl rfl)
theorem dX9_sign_7 : decode cX9_sign 7 = .ok (.iload_n 2, 1) := dk_28 (dk_at dksX9_sign_0 7 rfl rfl)
theorem dX9_sign_8 : decode cX9_sign 8 = .ok (.invokevirtual 152, 3) := dk_182 0 152 (dk_at dksX9_sign_0 8 rfl rfl)
theorem dX9_sign_11 : decode cX9_sign 11 = .ok (.istore_n 3, 1) := dk_62 (dk_at dksX9_sign_0 11 rfl rfl)
theorem dX9_sign_12 : decode cX9_sign 12 = .ok (.iload_n 3, 1) := dk_29 (dk_at dksX9_sign_0 12 rfl rfl)
theorem dX9_sign_13 : decode cX9_sign 13 = .ok (.ifCond .eq 9, 3) := dk_153 0 9 (dk_at dksX9_sign_0 13 rfl rfl)
theorem dX9_sign_16 : decode cX9_sign 16 = .ok (.aload_n 0, 1) := dk_42 (dk_at dksX9_sign_0 16 rfl rfl)
theorem dX9_sign_17 : decode cX9_sign 17 = .ok (.iload_n 3, 1) := dk_29 (dk_at dksX9_sign_0 17 rfl rfl)
theorem dX9_sign_18 : decode cX9_sign 18 = .ok (.invokevirtual 121, 3) := dk_182 0 121 (dk_at dksX9_sign_0 18 rfl rfl)
theorem dX9_sign_21 : decode cX9_sign 21 = .ok (.ireturn, 1) := dk_172 (dk_at dksX9_sign_0 21 rfl rfl)
theorem dX9_sign_22 : decode cX9_sign 22 = .ok (.aload_n 0, 1) := dk_42 (dk_at dksX9_sign_0 22 rfl rfl)
theorem dX9_sign_23 : decode cX9_sign 23 = .ok (.invokevirtual 124, 3) := dk_182 0 124 (dk_at dksX9_sign_1 0 rfl rfl)
theorem dX9_sign_26 : decode cX9_sign 26 = .ok (.aload_n 0, 1) := dk_42 (dk_at dksX9_sign_1 3 rfl rfl)
theorem dX9_sign_27 : decode cX9_sign 27 = .ok (.iload_n 1, 1) := dk_27 (dk_at dksX9_sign_1 4 rfl rfl)
theorem dX9_sign_28 : decode cX9_sign 28 = .ok (.iload_n 2, 1) := dk_28 (dk_at dksX9_sign_1 5 rfl rfl)
theorem dX9_sign_29 : decode cX9_sign 29 = .ok (.invokevirtual 155, 3) := dk_182 0 155 (dk_at dksX9_sign_1 6 rfl rfl)
theorem dX9_sign_32 : decode cX9_sign 32 = .ok (.ireturn, 1) := dk_172 (dk_at dksX9_sign_1 9 rfl rfl)
abbrev cX9_notSign : ByteArray := prog_13_method_37_code
def yX9_notSign : MethodName := ⟨RX9, "notSign", "(II)I"⟩
def dkwX9_notSign_3 : List UInt8 := [182, 0, 142, 16, 8, 160, 0, 14, 42, 5, 4, 16, 8, 182, 0, 117, 167, 0, 4, 3, 172]
abbrev dktX9_notSign_3 : List UInt8 := dkwX9_notSign_3 ++ []
def dkwX9_notSign_2 : List UInt8 := [180, 0, 16, 16, 28, 46, 16, 24, 160, 0, 12, 42, 5, 4, 16, 24, 182, 0, 117, 172, 42, 27]
abbrev dktX9_notSign_2 : List UInt8 := dkwX9_notSign_2 ++ dktX9_notSign_3
def dkwX9_notSign_1 : List UInt8 := [182, 0, 139, 155, 0, 19, 42, 5, 5, 42, 42, 28, 182, 0, 139, 182, 0, 85, 182, 0, 117, 172, 42]
abbrev dktX9_notSign_1 : List UInt8 := dkwX9_notSign_1 ++ dktX9_notSign_2
def dkwX9_notSign_0 : List UInt8 := [42, 27, 182, 0, 130, 153, 0, 10, 28, 184, 0, 133, 154, 0, 9, 42, 4, 182, 0, 136, 172, 42, 28]
abbrev dktX9_notSign_0 : List UInt8 := dkwX9_notSign_0 ++ dktX9_notSign_1
theorem dksX9_notSign_0 : cX9_notSign.data.toList.drop 0 = dktX9_notSign_0 := by decide +kernel
theorem dksX9_notSign_1 : cX9_notSign.data.toList.drop 23 = dktX9_notSign_1 := dk_seg dksX9_notSign_0 23 rfl rfl
theorem dksX9_notSign_2 : cX9_notSign.data.toList.drop 46 = dktX9_notSign_2 := dk_seg dksX9_notSign_1 23 rfl rfl
theorem dksX9_notSign_3 : cX9_notSign.data.toList.drop 68 = dktX9_notSign_3 := dk_seg dksX9_notSign_2 22 rfl rfl
theorem dX9_notSign_0 : decode cX9_notSign 0 = .ok (.aload_n 0, 1) := dk_42 (dk_at dksX9_notSign_0 0 rfl rfl)
theorem dX9_notSign_1 : decode cX9_notSign 1 = .ok (.iload_n 1, 1) := dk_27 (dk_at dksX9_notSign_0 1 rfl rfl)
theorem dX9_notSign_2 : decode cX9_notSign 2 = .ok (.invokevirtual 130, 3) := dk_182 0 130 (dk_at dksX9_notSign_0 2 rfl rfl)
theorem dX9_notSign_5 : decode cX9_notSign 5 = .ok (.ifCond .eq 10, 3) := dk_153 0 10 (dk_at dksX9_notSign_0 5 rfl rfl)
theorem dX9_notSign_8 : decode cX9_notSign 8 = .ok (.iload_n 2, 1) := dk_28 (dk_at dksX9_notSign_0 8 rfl rfl)
theorem dX9_notSign_9 : decode cX9_notSign 9 = .ok (.invokestatic 133, 3) := dk_184 0 133 (dk_at dksX9_notSign_0 9 rfl rfl)
theorem dX9_notSign_12 : decode cX9_notSign 12 = .ok (.ifCond .ne 9, 3) := dk_154 0 9 (dk_at dksX9_notSign_0 12 rfl rfl)
theorem dX9_notSign_15 : decode cX9_notSign 15 = .ok (.aload_n 0, 1) := dk_42 (dk_at dksX9_notSign_0 15 rfl rfl)
theorem dX9_notSign_16 : decode cX9_notSign 16 = .ok (.iconst 1, 1) := dk_4 (dk_at dksX9_notSign_0 16 rfl rfl)
theorem dX9_notSign_17 : decode cX9_notSign 17 = .ok (.invokevirtual 136, 3) := dk_182 0 136 (dk_at dksX9_notSign_0 17 rfl rfl)
theorem dX9_notSign_20 : decode cX9_notSign 20 = .ok (.ireturn, 1) := dk_172 (dk_at dksX9_notSign_0 20 rfl rfl)
theorem dX9_notSign_21 : decode cX9_notSign 21 = .ok (.aload_n 0, 1) := dk_42 (dk_at dksX9_notSign_0 21 rfl rfl)
theorem dX9_notSign_22 : decode cX9_notSign 22 = .ok (.iload_n 2, 1) := dk_28 (dk_at dksX9_notSign_0 22 rfl rfl)
theorem dX9_notSign_23 : decode cX9_notSign 23 = .ok (.invokevirtual 139, 3) := dk_182 0 139 (dk_at dksX9_notSign_1 0 rfl rfl)
theorem dX9_notSign_26 : decode cX9_notSign 26 = .ok (.ifCond .lt 19, 3) := dk_155 0 19 (dk_at dksX9_notSign_1 3 rfl rfl)
theorem dX9_notSign_29 : decode cX9_notSign 29 = .ok (.aload_n 0, 1) := dk_42 (dk_at dksX9_notSign_1 6 rfl rfl)
theorem dX9_notSign_30 : decode cX9_notSign 30 = .ok (.iconst 2, 1) := dk_5 (dk_at dksX9_notSign_1 7 rfl rfl)
theorem dX9_notSign_31 : decode cX9_notSign 31 = .ok (.iconst 2, 1) := dk_5 (dk_at dksX9_notSign_1 8 rfl rfl)
theorem dX9_notSign_32 : decode cX9_notSign 32 = .ok (.aload_n 0, 1) := dk_42 (dk_at dksX9_notSign_1 9 rfl rfl)
theorem dX9_notSign_33 : decode cX9_notSign 33 = .ok (.aload_n 0, 1) := dk_42 (dk_at dksX9_notSign_1 10 rfl rfl)
theorem dX9_notSign_34 : decode cX9_notSign 34 = .ok (.iload_n 2, 1) := dk_28 (dk_at dksX9_notSign_1 11 rfl rfl)
theorem dX9_notSign_35 : decode cX9_notSign 35 = .ok (.invokevirtual 139, 3) := dk_182 0 139 (dk_at dksX9_notSign_1 12 rfl rfl)
theorem dX9_notSign_38 : decode cX9_notSign 38 = .ok (.invokevirtual 85, 3) := dk_182 0 85 (dk_at dksX9_notSign_1 15 rfl rfl)
theorem dX9_notSign_41 : decode cX9_notSign 41 = .ok (.invokevirtual 117, 3) := dk_182 0 117 (dk_at dksX9_notSign_1 18 rfl rfl)
theorem dX9_notSign_44 : decode cX9_notSign 44 = .ok (.ireturn, 1) := dk_172 (dk_at dksX9_notSign_1 21 rfl rfl)
theorem dX9_notSign_45 : decode cX9_notSign 45 = .ok (.aload_n 0, 1) := dk_42 (dk_at dksX9_notSign_1 22 rfl rfl)
theorem dX9_notSign_46 : decode cX9_notSign 46 = .ok (.getfield 16, 3) := dk_180 0 16 (dk_at dksX9_notSign_2 0 rfl rfl)
theorem dX9_notSign_49 : decode cX9_notSign 49 = .ok (.bipush 28, 2) := dk_16 28 (dk_at dksX9_notSign_2 3 rfl rfl)
theorem dX9_notSign_51 : decode cX9_notSign 51 = .ok (.iaload, 1) := dk_46 (dk_at dksX9_notSign_2 5 rfl rfl)
theorem dX9_notSign_52 : decode cX9_notSign 52 = .ok (.bipush 24, 2) := dk_16 24 (dk_at dksX9_notSign_2 6 rfl rfl)
theorem dX9_notSign_54 : decode cX9_notSign 54 = .ok (.if_icmp .ne 12, 3) := dk_160 0 12 (dk_at dksX9_notSign_2 8 rfl rfl)
theorem dX9_notSign_57 : decode cX9_notSign 57 = .ok (.aload_n 0, 1) := dk_42 (dk_at dksX9_notSign_2 11 rfl rfl)
theorem dX9_notSign_58 : decode cX9_notSign 58 = .ok (.iconst 2, 1) := dk_5 (dk_at dksX9_notSign_2 12 rfl rfl)
theorem dX9_notSign_59 : decode cX9_notSign 59 = .ok (.iconst 1, 1) := dk_4 (dk_at dksX9_notSign_2 13 rfl rfl)
theorem dX9_notSign_60 : decode cX9_notSign 60 = .ok (.bipush 24, 2) := dk_16 24 (dk_at dksX9_notSign_2 14 rfl rfl)
theorem dX9_notSign_62 : decode cX9_notSign 62 = .ok (.invokevirtual 117, 3) := dk_182 0 117 (dk_at dksX9_notSign_2 16 rfl rfl)
theorem dX9_notSign_65 : decode cX9_notSign 65 = .ok (.ireturn, 1) := dk_172 (dk_at dksX9_notSign_2 19 rfl rfl)
theorem dX9_notSign_66 : decode cX9_notSign 66 = .ok (.aload_n 0, 1) := dk_42 (dk_at dksX9_notSign_2 20 rfl rfl)
theorem dX9_notSign_67 : decode cX9_notSign 67 = .ok (.iload_n 1, 1) := dk_27 (dk_at dksX9_notSign_2 21 rfl rfl)
theorem dX9_notSign_68 : decode cX9_notSign 68 = .ok (.invokevirtual 142, 3) := dk_182 0 142 (dk_at dksX9_notSign_3 0 rfl rfl)
theorem dX9_notSign_71 : decode cX9_notSign 71 = .ok (.bipush 8, 2) := dk_16 8 (dk_at dksX9_notSign_3 3 rfl rfl)
theorem dX9_notSign_73 : decode cX9_notSign 73 = .ok (.if_icmp .ne 14, 3) := dk_160 0 14 (dk_at dksX9_notSign_3 5 rfl rfl)
theorem dX9_notSign_76 : decode cX9_notSign 76 = .ok (.aload_n 0, 1) := dk_42 (dk_at dksX9_notSign_3 8 rfl rfl)
theorem dX9_notSign_77 : decode cX9_notSign 77 = .ok (.iconst 2, 1) := dk_5 (dk_at dksX9_notSign_3 9 rfl rfl)
theorem dX9_notSign_78 : decode cX9_notSign 78 = .ok (.iconst 1, 1) := dk_4 (dk_at dksX9_notSign_3 10 rfl rfl)
theorem dX9_notSign_79 : decode cX9_notSign 79 = .ok (.bipush 8, 2) := dk_16 8 (dk_at dksX9_notSign_3 11 rfl rfl)
theorem dX9_notSign_81 : decode cX9_notSign 81 = .ok (.invokevirtual 117, 3) := dk_182 0 117 (dk_at dksX9_notSign_3 13 rfl rfl)
theorem dX9_notSign_84 : decode cX9_notSign 84 = .ok (.goto 4, 3) := dk_167 0 4 (dk_at dksX9_notSign_3 16 rfl rfl)
theorem dX9_notSign_87 : decode cX9_notSign 87 = .ok (.iconst 0, 1) := dk_3 (dk_at dksX9_notSign_3 19 rfl rfl)
theorem dX9_notSign_88 : decode cX9_notSign 88 = .ok (.ireturn, 1) := dk_172 (dk_at dksX9_notSign_3 20 rfl rfl)
abbrev cX9_isBakery : ByteArray := prog_13_method_15_code
def yX9_isBakery : MethodName := ⟨RX9, "isBakery", "(I)Z"⟩
def dkwX9_isBakery_0 : List UInt8 := [27, 3, 42, 180, 0, 16, 3, 46, 4, 100, 184, 0, 74, 172]
abbrev dktX9_isBakery_0 : List UInt8 := dkwX9_isBakery_0 ++ []
theorem dksX9_isBakery_0 : cX9_isBakery.data.toList.drop 0 = dktX9_isBakery_0 := by decide +kernel
theorem dX9_isBakery_0 : decode cX9_isBakery 0 = .ok (.iload_n 1, 1) := dk_27 (dk_at dksX9_isBakery_0 0 rfl rfl)
theorem dX9_isBakery_1 : decode cX9_isBakery 1 = .ok (.iconst 0, 1) := dk_3 (dk_at dksX9_isBakery_0 1 rfl rfl)
theorem dX9_isBakery_2 : decode cX9_isBakery 2 = .ok (.aload_n 0, 1) := dk_42 (dk_at dksX9_isBakery_0 2 rfl rfl)
theorem dX9_isBakery_3 : decode cX9_isBakery 3 = .ok (.getfield 16, 3) := dk_180 0 16 (dk_at dksX9_isBakery_0 3 rfl rfl)
theorem dX9_isBakery_6 : decode cX9_isBakery 6 = .ok (.iconst 0, 1) := dk_3 (dk_at dksX9_isBakery_0 6 rfl rfl)
theorem dX9_isBakery_7 : decode cX9_isBakery 7 = .ok (.iaload, 1) := dk_46 (dk_at dksX9_isBakery_0 7 rfl rfl)
theorem dX9_isBakery_8 : decode cX9_isBakery 8 = .ok (.iconst 1, 1) := dk_4 (dk_at dksX9_isBakery_0 8 rfl rfl)
theorem dX9_isBakery_9 : decode cX9_isBakery 9 = .ok (.isub, 1) := dk_100 (dk_at dksX9_isBakery_0 9 rfl rfl)
theorem dX9_isBakery_10 : decode cX9_isBakery 10 = .ok (.invokestatic 74, 3) := dk_184 0 74 (dk_at dksX9_isBakery_0 10 rfl rfl)
theorem dX9_isBakery_13 : decode cX9_isBakery 13 = .ok (.ireturn, 1) := dk_172 (dk_at dksX9_isBakery_0 13 rfl rfl)
abbrev cX9_isAngle : ByteArray := prog_13_method_14_code
def yX9_isAngle : MethodName := ⟨RX9, "isAngle", "(I)Z"⟩
def dkwX9_isAngle_0 : List UInt8 := [26, 3, 17, 1, 103, 184, 0, 74, 172]
abbrev dktX9_isAngle_0 : List UInt8 := dkwX9_isAngle_0 ++ []
theorem dksX9_isAngle_0 : cX9_isAngle.data.toList.drop 0 = dktX9_isAngle_0 := by decide +kernel
theorem dX9_isAngle_0 : decode cX9_isAngle 0 = .ok (.iload_n 0, 1) := dk_26 (dk_at dksX9_isAngle_0 0 rfl rfl)
theorem dX9_isAngle_1 : decode cX9_isAngle 1 = .ok (.iconst 0, 1) := dk_3 (dk_at dksX9_isAngle_0 1 rfl rfl)
theorem dX9_isAngle_2 : decode cX9_isAngle 2 = .ok (.sipush 359, 3) := dk_17 1 103 (dk_at dksX9_isAngle_0 2 rfl rfl)
theorem dX9_isAngle_5 : decode cX9_isAngle 5 = .ok (.invokestatic 74, 3) := dk_184 0 74 (dk_at dksX9_isAngle_0 5 rfl rfl)
theorem dX9_isAngle_8 : decode cX9_isAngle 8 = .ok (.ireturn, 1) := dk_172 (dk_at dksX9_isAngle_0 8 rfl rfl)
abbrev cX9_isOther : ByteArray := prog_13_method_6_code
def yX9_isOther : MethodName := ⟨RX9, "isOther", "(I)I"⟩
def dkwX9_isOther_0 : List UInt8 := [42, 3, 181, 0, 48, 27, 172]
abbrev dktX9_isOther_0 : List UInt8 := dkwX9_isOther_0 ++ []
theorem dksX9_isOther_0 : cX9_isOther.data.toList.drop 0 = dktX9_isOther_0 := by decide +kernel
theorem dX9_isOther_0 : decode cX9_isOther 0 = .ok (.aload_n 0, 1) := dk_42 (dk_at dksX9_isOther_0 0 rfl rfl)
theorem dX9_isOther_1 : decode cX9_isOther 1 = .ok (.iconst 0, 1) := dk_3 (dk_at dksX9_isOther_0 1 rfl rfl)
theorem dX9_isOther_2 : decode cX9_isOther 2 = .ok (.putfield 48, 3) := dk_181 0 48 (dk_at dksX9_isOther_0 2 rfl rfl)
theorem dX9_isOther_5 : decode cX9_isOther 5 = .ok (.iload_n 1, 1) := dk_27 (dk_at dksX9_isOther_0 5 rfl rfl)
theorem dX9_isOther_6 : decode cX9_isOther 6 = .ok (.ireturn, 1) := dk_172 (dk_at dksX9_isOther_0 6 rfl rfl)
abbrev cX9_signOn : ByteArray := prog_13_method_25_code
def yX9_signOn : MethodName := ⟨RX9, "signOn", "(I)I"⟩
def dkwX9_signOn_1 : List UInt8 := [132, 2, 1, 167, 255, 231, 2, 172]
abbrev dktX9_signOn_1 : List UInt8 := dkwX9_signOn_1 ++ []
def dkwX9_signOn_0 : List UInt8 := [3, 61, 28, 42, 180, 0, 16, 16, 28, 46, 162, 0, 20, 42, 28, 182, 0, 82, 27, 160, 0, 5, 28, 172]
abbrev dktX9_signOn_0 : List UInt8 := dkwX9_signOn_0 ++ dktX9_signOn_1
theorem dksX9_signOn_0 : cX9_signOn.data.toList.drop 0 = dktX9_signOn_0 := by decide +kernel
theorem dksX9_signOn_1 : cX9_signOn.data.toList.drop 24 = dktX9_signOn_1 := dk_seg dksX9_signOn_0 24 rfl rfl
theorem dX9_signOn_0 : decode cX9_signOn 0 = .ok (.iconst 0, 1) := dk_3 (dk_at dksX9_signOn_0 0 rfl rfl)
theorem dX9_signOn_1 : decode cX9_signOn 1 = .ok (.istore_n 2, 1) := dk_61 (dk_at dksX9_signOn_0 1 rfl rfl)
theorem dX9_signOn_2 : decode cX9_signOn 2 = .ok (.iload_n 2, 1) := dk_28 (dk_at dksX9_signOn_0 2 rfl rfl)
theorem dX9_signOn_3 : decode cX9_signOn 3 = .ok (.aload_n 0, 1) := dk_42 (dk_at dksX9_signOn_0 3 rfl rfl)
theorem dX9_signOn_4 : decode cX9_signOn 4 = .ok (.getfield 16, 3) := dk_180 0 16 (dk_at dksX9_signOn_0 4 rfl rfl)
theorem dX9_signOn_7 : decode cX9_signOn 7 = .ok (.bipush 28, 2) := dk_16 28 (dk_at dksX9_signOn_0 7 rfl rfl)
theorem dX9_signOn_9 : decode cX9_signOn 9 = .ok (.iaload, 1) := dk_46 (dk_at dksX9_signOn_0 9 rfl rfl)
theorem dX9_signOn_10 : decode cX9_signOn 10 = .ok (.if_icmp .ge 20, 3) := dk_162 0 20 (dk_at dksX9_signOn_0 10 rfl rfl)
theorem dX9_signOn_13 : decode cX9_signOn 13 = .ok (.aload_n 0, 1) := dk_42 (dk_at dksX9_signOn_0 13 rfl rfl)
theorem dX9_signOn_14 : decode cX9_signOn 14 = .ok (.iload_n 2, 1) := dk_28 (dk_at dksX9_signOn_0 14 rfl rfl)
theorem dX9_signOn_15 : decode cX9_signOn 15 = .ok (.invokevirtual 82, 3) := dk_182 0 82 (dk_at dksX9_signOn_0 15 rfl rfl)
theorem dX9_signOn_18 : decode cX9_signOn 18 = .ok (.iload_n 1, 1) := dk_27 (dk_at dksX9_signOn_0 18 rfl rfl)
theorem dX9_signOn_19 : decode cX9_signOn 19 = .ok (.if_icmp .ne 5, 3) := dk_160 0 5 (dk_at dksX9_signOn_0 19 rfl rfl)
theorem dX9_signOn_22 : decode cX9_signOn 22 = .ok (.iload_n 2, 1) := dk_28 (dk_at dksX9_signOn_0 22 rfl rfl)
theorem dX9_signOn_23 : decode cX9_signOn 23 = .ok (.ireturn, 1) := dk_172 (dk_at dksX9_signOn_0 23 rfl rfl)
theorem dX9_signOn_24 : decode cX9_signOn 24 = .ok (.iinc 2 1, 3) := dk_132 2 1 (dk_at dksX9_signOn_1 0 rfl rfl)
theorem dX9_signOn_27 : decode cX9_signOn 27 = .ok (.goto (-25), 3) := dk_167 255 231 (dk_at dksX9_signOn_1 3 rfl rfl)
theorem dX9_signOn_30 : decode cX9_signOn 30 = .ok (.iconst (-1), 1) := dk_2 (dk_at dksX9_signOn_1 6 rfl rfl)
theorem dX9_signOn_31 : decode cX9_signOn 31 = .ok (.ireturn, 1) := dk_172 (dk_at dksX9_signOn_1 7 rfl rfl)
abbrev cX9_angleAt : ByteArray := prog_13_method_21_code
def yX9_angleAt : MethodName := ⟨RX9, "angleAt", "(I)I"⟩
def dkwX9_angleAt_0 : List UInt8 := [42, 180, 0, 16, 16, 29, 5, 27, 104, 96, 46, 172]
abbrev dktX9_angleAt_0 : List UInt8 := dkwX9_angleAt_0 ++ []
theorem dksX9_angleAt_0 : cX9_angleAt.data.toList.drop 0 = dktX9_angleAt_0 := by decide +kernel
theorem dX9_angleAt_0 : decode cX9_angleAt 0 = .ok (.aload_n 0, 1) := dk_42 (dk_at dksX9_angleAt_0 0 rfl rfl)
theorem dX9_angleAt_1 : decode cX9_angleAt 1 = .ok (.getfield 16, 3) := dk_180 0 16 (dk_at dksX9_angleAt_0 1 rfl rfl)
theorem dX9_angleAt_4 : decode cX9_angleAt 4 = .ok (.bipush 29, 2) := dk_16 29 (dk_at dksX9_angleAt_0 4 rfl rfl)
theorem dX9_angleAt_6 : decode cX9_angleAt 6 = .ok (.iconst 2, 1) := dk_5 (dk_at dksX9_angleAt_0 6 rfl rfl)
theorem dX9_angleAt_7 : decode cX9_angleAt 7 = .ok (.iload_n 1, 1) := dk_27 (dk_at dksX9_angleAt_0 7 rfl rfl)
theorem dX9_angleAt_8 : decode cX9_angleAt 8 = .ok (.imul, 1) := dk_104 (dk_at dksX9_angleAt_0 8 rfl rfl)
theorem dX9_angleAt_9 : decode cX9_angleAt 9 = .ok (.iadd, 1) := dk_96 (dk_at dksX9_angleAt_0 9 rfl rfl)
theorem dX9_angleAt_10 : decode cX9_angleAt 10 = .ok (.iaload, 1) := dk_46 (dk_at dksX9_angleAt_0 10 rfl rfl)
theorem dX9_angleAt_11 : decode cX9_angleAt 11 = .ok (.ireturn, 1) := dk_172 (dk_at dksX9_angleAt_0 11 rfl rfl)
abbrev cX9_ownerAt : ByteArray := prog_13_method_22_code
def yX9_ownerAt : MethodName := ⟨RX9, "ownerAt", "(I)I"⟩
def dkwX9_ownerAt_0 : List UInt8 := [42, 180, 0, 16, 16, 29, 5, 27, 104, 96, 4, 96, 46, 172]
abbrev dktX9_ownerAt_0 : List UInt8 := dkwX9_ownerAt_0 ++ []
theorem dksX9_ownerAt_0 : cX9_ownerAt.data.toList.drop 0 = dktX9_ownerAt_0 := by decide +kernel
theorem dX9_ownerAt_0 : decode cX9_ownerAt 0 = .ok (.aload_n 0, 1) := dk_42 (dk_at dksX9_ownerAt_0 0 rfl rfl)
theorem dX9_ownerAt_1 : decode cX9_ownerAt 1 = .ok (.getfield 16, 3) := dk_180 0 16 (dk_at dksX9_ownerAt_0 1 rfl rfl)
theorem dX9_ownerAt_4 : decode cX9_ownerAt 4 = .ok (.bipush 29, 2) := dk_16 29 (dk_at dksX9_ownerAt_0 4 rfl rfl)
theorem dX9_ownerAt_6 : decode cX9_ownerAt 6 = .ok (.iconst 2, 1) := dk_5 (dk_at dksX9_ownerAt_0 6 rfl rfl)
theorem dX9_ownerAt_7 : decode cX9_ownerAt 7 = .ok (.iload_n 1, 1) := dk_27 (dk_at dksX9_ownerAt_0 7 rfl rfl)
theorem dX9_ownerAt_8 : decode cX9_ownerAt 8 = .ok (.imul, 1) := dk_104 (dk_at dksX9_ownerAt_0 8 rfl rfl)
theorem dX9_ownerAt_9 : decode cX9_ownerAt 9 = .ok (.iadd, 1) := dk_96 (dk_at dksX9_ownerAt_0 9 rfl rfl)
theorem dX9_ownerAt_10 : decode cX9_ownerAt 10 = .ok (.iconst 1, 1) := dk_4 (dk_at dksX9_ownerAt_0 10 rfl rfl)
theorem dX9_ownerAt_11 : decode cX9_ownerAt 11 = .ok (.iadd, 1) := dk_96 (dk_at dksX9_ownerAt_0 11 rfl rfl)
theorem dX9_ownerAt_12 : decode cX9_ownerAt 12 = .ok (.iaload, 1) := dk_46 (dk_at dksX9_ownerAt_0 12 rfl rfl)
theorem dX9_ownerAt_13 : decode cX9_ownerAt 13 = .ok (.ireturn, 1) := dk_172 (dk_at dksX9_ownerAt_0 13 rfl rfl)
abbrev cX9_signsOf : ByteArray := prog_13_method_26_code
def yX9_signsOf : MethodName := ⟨RX9, "signsOf", "(I)I"⟩
def dkwX9_signsOf_1 : List UInt8 := [160, 0, 7, 4, 167, 0, 4, 3, 96, 61, 132, 3, 1, 167, 255, 225, 28, 172]
abbrev dktX9_signsOf_1 : List UInt8 := dkwX9_signsOf_1 ++ []
def dkwX9_signsOf_0 : List UInt8 := [3, 61, 3, 62, 29, 42, 180, 0, 16, 16, 28, 46, 162, 0, 26, 28, 42, 29, 182, 0, 85, 27]
abbrev dktX9_signsOf_0 : List UInt8 := dkwX9_signsOf_0 ++ dktX9_signsOf_1
theorem dksX9_signsOf_0 : cX9_signsOf.data.toList.drop 0 = dktX9_signsOf_0 := by decide +kernel
theorem dksX9_signsOf_1 : cX9_signsOf.data.toList.drop 22 = dktX9_signsOf_1 := dk_seg dksX9_signsOf_0 22 rfl rfl
theorem dX9_signsOf_0 : decode cX9_signsOf 0 = .ok (.iconst 0, 1) := dk_3 (dk_at dksX9_signsOf_0 0 rfl rfl)
theorem dX9_signsOf_1 : decode cX9_signsOf 1 = .ok (.istore_n 2, 1) := dk_61 (dk_at dksX9_signsOf_0 1 rfl rfl)
theorem dX9_signsOf_2 : decode cX9_signsOf 2 = .ok (.iconst 0, 1) := dk_3 (dk_at dksX9_signsOf_0 2 rfl rfl)
theorem dX9_signsOf_3 : decode cX9_signsOf 3 = .ok (.istore_n 3, 1) := dk_62 (dk_at dksX9_signsOf_0 3 rfl rfl)
theorem dX9_signsOf_4 : decode cX9_signsOf 4 = .ok (.iload_n 3, 1) := dk_29 (dk_at dksX9_signsOf_0 4 rfl rfl)
theorem dX9_signsOf_5 : decode cX9_signsOf 5 = .ok (.aload_n 0, 1) := dk_42 (dk_at dksX9_signsOf_0 5 rfl rfl)
theorem dX9_signsOf_6 : decode cX9_signsOf 6 = .ok (.getfield 16, 3) := dk_180 0 16 (dk_at dksX9_signsOf_0 6 rfl rfl)
theorem dX9_signsOf_9 : decode cX9_signsOf 9 = .ok (.bipush 28, 2) := dk_16 28 (dk_at dksX9_signsOf_0 9 rfl rfl)
theorem dX9_signsOf_11 : decode cX9_signsOf 11 = .ok (.iaload, 1) := dk_46 (dk_at dksX9_signsOf_0 11 rfl rfl)
theorem dX9_signsOf_12 : decode cX9_signsOf 12 = .ok (.if_icmp .ge 26, 3) := dk_162 0 26 (dk_at dksX9_signsOf_0 12 rfl rfl)
theorem dX9_signsOf_15 : decode cX9_signsOf 15 = .ok (.iload_n 2, 1) := dk_28 (dk_at dksX9_signsOf_0 15 rfl rfl)
theorem dX9_signsOf_16 : decode cX9_signsOf 16 = .ok (.aload_n 0, 1) := dk_42 (dk_at dksX9_signsOf_0 16 rfl rfl)
theorem dX9_signsOf_17 : decode cX9_signsOf 17 = .ok (.iload_n 3, 1) := dk_29 (dk_at dksX9_signsOf_0 17 rfl rfl)
theorem dX9_signsOf_18 : decode cX9_signsOf 18 = .ok (.invokevirtual 85, 3) := dk_182 0 85 (dk_at dksX9_signsOf_0 18 rfl rfl)
theorem dX9_signsOf_21 : decode cX9_signsOf 21 = .ok (.iload_n 1, 1) := dk_27 (dk_at dksX9_signsOf_0 21 rfl rfl)
theorem dX9_signsOf_22 : decode cX9_signsOf 22 = .ok (.if_icmp .ne 7, 3) := dk_160 0 7 (dk_at dksX9_signsOf_1 0 rfl rfl)
theorem dX9_signsOf_25 : decode cX9_signsOf 25 = .ok (.iconst 1, 1) := dk_4 (dk_at dksX9_signsOf_1 3 rfl rfl)
theorem dX9_signsOf_26 : decode cX9_signsOf 26 = .ok (.goto 4, 3) := dk_167 0 4 (dk_at dksX9_signsOf_1 4 rfl rfl)
theorem dX9_signsOf_29 : decode cX9_signsOf 29 = .ok (.iconst 0, 1) := dk_3 (dk_at dksX9_signsOf_1 7 rfl rfl)
theorem dX9_signsOf_30 : decode cX9_signsOf 30 = .ok (.iadd, 1) := dk_96 (dk_at dksX9_signsOf_1 8 rfl rfl)
theorem dX9_signsOf_31 : decode cX9_signsOf 31 = .ok (.istore_n 2, 1) := dk_61 (dk_at dksX9_signsOf_1 9 rfl rfl)
theorem dX9_signsOf_32 : decode cX9_signsOf 32 = .ok (.iinc 3 1, 3) := dk_132 3 1 (dk_at dksX9_signsOf_1 10 rfl rfl)
theorem dX9_signsOf_35 : decode cX9_signsOf 35 = .ok (.goto (-31), 3) := dk_167 255 225 (dk_at dksX9_signsOf_1 13 rfl rfl)
theorem dX9_signsOf_38 : decode cX9_signsOf 38 = .ok (.iload_n 2, 1) := dk_28 (dk_at dksX9_signsOf_1 16 rfl rfl)
theorem dX9_signsOf_39 : decode cX9_signsOf 39 = .ok (.ireturn, 1) := dk_172 (dk_at dksX9_signsOf_1 17 rfl rfl)
abbrev cX9_signs : ByteArray := prog_13_method_38_code
def yX9_signs : MethodName := ⟨RX9, "signs", "(II)I"⟩
def dkwX9_signs_0 : List UInt8 := [42, 27, 28, 182, 0, 145, 42, 2, 182, 0, 149, 87, 42, 27, 182, 0, 142, 172]
abbrev dktX9_signs_0 : List UInt8 := dkwX9_signs_0 ++ []
theorem dksX9_signs_0 : cX9_signs.data.toList.drop 0 = dktX9_signs_0 := by decide +kernel
theorem dX9_signs_0 : decode cX9_signs 0 = .ok (.aload_n 0, 1) := dk_42 (dk_at dksX9_signs_0 0 rfl rfl)
theorem dX9_signs_1 : decode cX9_signs 1 = .ok (.iload_n 1, 1) := dk_27 (dk_at dksX9_signs_0 1 rfl rfl)
theorem dX9_signs_2 : decode cX9_signs 2 = .ok (.iload_n 2, 1) := dk_28 (dk_at dksX9_signs_0 2 rfl rfl)
theorem dX9_signs_3 : decode cX9_signs 3 = .ok (.invokevirtual 145, 3) := dk_182 0 145 (dk_at dksX9_signs_0 3 rfl rfl)
theorem dX9_signs_6 : decode cX9_signs 6 = .ok (.aload_n 0, 1) := dk_42 (dk_at dksX9_signs_0 6 rfl rfl)
theorem dX9_signs_7 : decode cX9_signs 7 = .ok (.iconst (-1), 1) := dk_2 (dk_at dksX9_signs_0 7 rfl rfl)
theorem dX9_signs_8 : decode cX9_signs 8 = .ok (.invokevirtual 149, 3) := dk_182 0 149 (dk_at dksX9_signs_0 8 rfl rfl)
theorem dX9_signs_11 : decode cX9_signs 11 = .ok (.pop, 1) := dk_87 (dk_at dksX9_signs_0 11 rfl rfl)
theorem dX9_signs_12 : decode cX9_signs 12 = .ok (.aload_n 0, 1) := dk_42 (dk_at dksX9_signs_0 12 rfl rfl)
theorem dX9_signs_13 : decode cX9_signs 13 = .ok (.iload_n 1, 1) := dk_27 (dk_at dksX9_signs_0 13 rfl rfl)
theorem dX9_signs_14 : decode cX9_signs 14 = .ok (.invokevirtual 142, 3) := dk_182 0 142 (dk_at dksX9_signs_0 14 rfl rfl)
theorem dX9_signs_17 : decode cX9_signs 17 = .ok (.ireturn, 1) := dk_172 (dk_at dksX9_signs_0 17 rfl rfl)
abbrev cX9_putsUp : ByteArray := prog_13_method_28_code
def yX9_putsUp : MethodName := ⟨RX9, "putsUp", "(II)V"⟩
def dkwX9_putsUp_4 : List UInt8 := [180, 0, 16, 16, 28, 92, 46, 4, 96, 79, 177]
abbrev dktX9_putsUp_4 : List UInt8 := dkwX9_putsUp_4 ++ []
def dkwX9_putsUp_3 : List UInt8 := [16, 29, 5, 29, 104, 96, 28, 79, 42, 180, 0, 16, 16, 29, 5, 29, 104, 96, 4, 96, 27, 79, 42]
abbrev dktX9_putsUp_3 : List UInt8 := dkwX9_putsUp_3 ++ dktX9_putsUp_4
def dkwX9_putsUp_2 : List UInt8 := [29, 104, 96, 4, 96, 42, 29, 4, 100, 182, 0, 85, 79, 132, 3, 255, 167, 255, 200, 42, 180, 0, 16]
abbrev dktX9_putsUp_2 : List UInt8 := dkwX9_putsUp_2 ++ dktX9_putsUp_3
def dkwX9_putsUp_1 : List UInt8 := [180, 0, 16, 16, 29, 5, 29, 104, 96, 42, 29, 4, 100, 182, 0, 82, 79, 42, 180, 0, 16, 16, 29, 5]
abbrev dktX9_putsUp_1 : List UInt8 := dkwX9_putsUp_1 ++ dktX9_putsUp_2
def dkwX9_putsUp_0 : List UInt8 := [42, 180, 0, 16, 16, 28, 46, 62, 29, 158, 0, 58, 42, 29, 4, 100, 182, 0, 82, 28, 164, 0, 47, 42]
abbrev dktX9_putsUp_0 : List UInt8 := dkwX9_putsUp_0 ++ dktX9_putsUp_1
theorem dksX9_putsUp_0 : cX9_putsUp.data.toList.drop 0 = dktX9_putsUp_0 := by decide +kernel
theorem dksX9_putsUp_1 : cX9_putsUp.data.toList.drop 24 = dktX9_putsUp_1 := dk_seg dksX9_putsUp_0 24 rfl rfl
theorem dksX9_putsUp_2 : cX9_putsUp.data.toList.drop 48 = dktX9_putsUp_2 := dk_seg dksX9_putsUp_1 24 rfl rfl
theorem dksX9_putsUp_3 : cX9_putsUp.data.toList.drop 71 = dktX9_putsUp_3 := dk_seg dksX9_putsUp_2 23 rfl rfl
theorem dksX9_putsUp_4 : cX9_putsUp.data.toList.drop 94 = dktX9_putsUp_4 := dk_seg dksX9_putsUp_3 23 rfl rfl
theorem dX9_putsUp_0 : decode cX9_putsUp 0 = .ok (.aload_n 0, 1) := dk_42 (dk_at dksX9_putsUp_0 0 rfl rfl)
theorem dX9_putsUp_1 : decode cX9_putsUp 1 = .ok (.getfield 16, 3) := dk_180 0 16 (dk_at dksX9_putsUp_0 1 rfl rfl)
theorem dX9_putsUp_4 : decode cX9_putsUp 4 = .ok (.bipush 28, 2) := dk_16 28 (dk_at dksX9_putsUp_0 4 rfl rfl)
theorem dX9_putsUp_6 : decode cX9_putsUp 6 = .ok (.iaload, 1) := dk_46 (dk_at dksX9_putsUp_0 6 rfl rfl)
theorem dX9_putsUp_7 : decode cX9_putsUp 7 = .ok (.istore_n 3, 1) := dk_62 (dk_at dksX9_putsUp_0 7 rfl rfl)
theorem dX9_putsUp_8 : decode cX9_putsUp 8 = .ok (.iload_n 3, 1) := dk_29 (dk_at dksX9_putsUp_0 8 rfl rfl)
theorem dX9_putsUp_9 : decode cX9_putsUp 9 = .ok (.ifCond .le 58, 3) := dk_158 0 58 (dk_at dksX9_putsUp_0 9 rfl rfl)
theorem dX9_putsUp_12 : decode cX9_putsUp 12 = .ok (.aload_n 0, 1) := dk_42 (dk_at dksX9_putsUp_0 12 rfl rfl)
theorem dX9_putsUp_13 : decode cX9_putsUp 13 = .ok (.iload_n 3, 1) := dk_29 (dk_at dksX9_putsUp_0 13 rfl rfl)
theorem dX9_putsUp_14 : decode cX9_putsUp 14 = .ok (.iconst 1, 1) := dk_4 (dk_at dksX9_putsUp_0 14 rfl rfl)
theorem dX9_putsUp_15 : decode cX9_putsUp 15 = .ok (.isub, 1) := dk_100 (dk_at dksX9_putsUp_0 15 rfl rfl)
theorem dX9_putsUp_16 : decode cX9_putsUp 16 = .ok (.invokevirtual 82, 3) := dk_182 0 82 (dk_at dksX9_putsUp_0 16 rfl rfl)
theorem dX9_putsUp_19 : decode cX9_putsUp 19 = .ok (.iload_n 2, 1) := dk_28 (dk_at dksX9_putsUp_0 19 rfl rfl)
theorem dX9_putsUp_20 : decode cX9_putsUp 20 = .ok (.if_icmp .le 47, 3) := dk_164 0 47 (dk_at dksX9_putsUp_0 20 rfl rfl)
theorem dX9_putsUp_23 : decode cX9_putsUp 23 = .ok (.aload_n 0, 1) := dk_42 (dk_at dksX9_putsUp_0 23 rfl rfl)
theorem dX9_putsUp_24 : decode cX9_putsUp 24 = .ok (.getfield 16, 3) := dk_180 0 16 (dk_at dksX9_putsUp_1 0 rfl rfl)
theorem dX9_putsUp_27 : decode cX9_putsUp 27 = .ok (.bipush 29, 2) := dk_16 29 (dk_at dksX9_putsUp_1 3 rfl rfl)
theorem dX9_putsUp_29 : decode cX9_putsUp 29 = .ok (.iconst 2, 1) := dk_5 (dk_at dksX9_putsUp_1 5 rfl rfl)
theorem dX9_putsUp_30 : decode cX9_putsUp 30 = .ok (.iload_n 3, 1) := dk_29 (dk_at dksX9_putsUp_1 6 rfl rfl)
theorem dX9_putsUp_31 : decode cX9_putsUp 31 = .ok (.imul, 1) := dk_104 (dk_at dksX9_putsUp_1 7 rfl rfl)
theorem dX9_putsUp_32 : decode cX9_putsUp 32 = .ok (.iadd, 1) := dk_96 (dk_at dksX9_putsUp_1 8 rfl rfl)
theorem dX9_putsUp_33 : decode cX9_putsUp 33 = .ok (.aload_n 0, 1) := dk_42 (dk_at dksX9_putsUp_1 9 rfl rfl)
theorem dX9_putsUp_34 : decode cX9_putsUp 34 = .ok (.iload_n 3, 1) := dk_29 (dk_at dksX9_putsUp_1 10 rfl rfl)
theorem dX9_putsUp_35 : decode cX9_putsUp 35 = .ok (.iconst 1, 1) := dk_4 (dk_at dksX9_putsUp_1 11 rfl rfl)
theorem dX9_putsUp_36 : decode cX9_putsUp 36 = .ok (.isub, 1) := dk_100 (dk_at dksX9_putsUp_1 12 rfl rfl)
theorem dX9_putsUp_37 : decode cX9_putsUp 37 = .ok (.invokevirtual 82, 3) := dk_182 0 82 (dk_at dksX9_putsUp_1 13 rfl rfl)
theorem dX9_putsUp_40 : decode cX9_putsUp 40 = .ok (.iastore, 1) := dk_79 (dk_at dksX9_putsUp_1 16 rfl rfl)
theorem dX9_putsUp_41 : decode cX9_putsUp 41 = .ok (.aload_n 0, 1) := dk_42 (dk_at dksX9_putsUp_1 17 rfl rfl)
theorem dX9_putsUp_42 : decode cX9_putsUp 42 = .ok (.getfield 16, 3) := dk_180 0 16 (dk_at dksX9_putsUp_1 18 rfl rfl)
theorem dX9_putsUp_45 : decode cX9_putsUp 45 = .ok (.bipush 29, 2) := dk_16 29 (dk_at dksX9_putsUp_1 21 rfl rfl)
theorem dX9_putsUp_47 : decode cX9_putsUp 47 = .ok (.iconst 2, 1) := dk_5 (dk_at dksX9_putsUp_1 23 rfl rfl)
theorem dX9_putsUp_48 : decode cX9_putsUp 48 = .ok (.iload_n 3, 1) := dk_29 (dk_at dksX9_putsUp_2 0 rfl rfl)
theorem dX9_putsUp_49 : decode cX9_putsUp 49 = .ok (.imul, 1) := dk_104 (dk_at dksX9_putsUp_2 1 rfl rfl)
theorem dX9_putsUp_50 : decode cX9_putsUp 50 = .ok (.iadd, 1) := dk_96 (dk_at dksX9_putsUp_2 2 rfl rfl)
theorem dX9_putsUp_51 : decode cX9_putsUp 51 = .ok (.iconst 1, 1) := dk_4 (dk_at dksX9_putsUp_2 3 rfl rfl)
theorem dX9_putsUp_52 : decode cX9_putsUp 52 = .ok (.iadd, 1) := dk_96 (dk_at dksX9_putsUp_2 4 rfl rfl)
theorem dX9_putsUp_53 : decode cX9_putsUp 53 = .ok (.aload_n 0, 1) := dk_42 (dk_at dksX9_putsUp_2 5 rfl rfl)
theorem dX9_putsUp_54 : decode cX9_putsUp 54 = .ok (.iload_n 3, 1) := dk_29 (dk_at dksX9_putsUp_2 6 rfl rfl)
theorem dX9_putsUp_55 : decode cX9_putsUp 55 = .ok (.iconst 1, 1) := dk_4 (dk_at dksX9_putsUp_2 7 rfl rfl)
theorem dX9_putsUp_56 : decode cX9_putsUp 56 = .ok (.isub, 1) := dk_100 (dk_at dksX9_putsUp_2 8 rfl rfl)
theorem dX9_putsUp_57 : decode cX9_putsUp 57 = .ok (.invokevirtual 85, 3) := dk_182 0 85 (dk_at dksX9_putsUp_2 9 rfl rfl)
theorem dX9_putsUp_60 : decode cX9_putsUp 60 = .ok (.iastore, 1) := dk_79 (dk_at dksX9_putsUp_2 12 rfl rfl)
theorem dX9_putsUp_61 : decode cX9_putsUp 61 = .ok (.iinc 3 (-1), 3) := dk_132 3 255 (dk_at dksX9_putsUp_2 13 rfl rfl)
theorem dX9_putsUp_64 : decode cX9_putsUp 64 = .ok (.goto (-56), 3) := dk_167 255 200 (dk_at dksX9_putsUp_2 16 rfl rfl)
theorem dX9_putsUp_67 : decode cX9_putsUp 67 = .ok (.aload_n 0, 1) := dk_42 (dk_at dksX9_putsUp_2 19 rfl rfl)
theorem dX9_putsUp_68 : decode cX9_putsUp 68 = .ok (.getfield 16, 3) := dk_180 0 16 (dk_at dksX9_putsUp_2 20 rfl rfl)
theorem dX9_putsUp_71 : decode cX9_putsUp 71 = .ok (.bipush 29, 2) := dk_16 29 (dk_at dksX9_putsUp_3 0 rfl rfl)
theorem dX9_putsUp_73 : decode cX9_putsUp 73 = .ok (.iconst 2, 1) := dk_5 (dk_at dksX9_putsUp_3 2 rfl rfl)
theorem dX9_putsUp_74 : decode cX9_putsUp 74 = .ok (.iload_n 3, 1) := dk_29 (dk_at dksX9_putsUp_3 3 rfl rfl)
theorem dX9_putsUp_75 : decode cX9_putsUp 75 = .ok (.imul, 1) := dk_104 (dk_at dksX9_putsUp_3 4 rfl rfl)
theorem dX9_putsUp_76 : decode cX9_putsUp 76 = .ok (.iadd, 1) := dk_96 (dk_at dksX9_putsUp_3 5 rfl rfl)
theorem dX9_putsUp_77 : decode cX9_putsUp 77 = .ok (.iload_n 2, 1) := dk_28 (dk_at dksX9_putsUp_3 6 rfl rfl)
theorem dX9_putsUp_78 : decode cX9_putsUp 78 = .ok (.iastore, 1) := dk_79 (dk_at dksX9_putsUp_3 7 rfl rfl)
theorem dX9_putsUp_79 : decode cX9_putsUp 79 = .ok (.aload_n 0, 1) := dk_42 (dk_at dksX9_putsUp_3 8 rfl rfl)
theorem dX9_putsUp_80 : decode cX9_putsUp 80 = .ok (.getfield 16, 3) := dk_180 0 16 (dk_at dksX9_putsUp_3 9 rfl rfl)
theorem dX9_putsUp_83 : decode cX9_putsUp 83 = .ok (.bipush 29, 2) := dk_16 29 (dk_at dksX9_putsUp_3 12 rfl rfl)
theorem dX9_putsUp_85 : decode cX9_putsUp 85 = .ok (.iconst 2, 1) := dk_5 (dk_at dksX9_putsUp_3 14 rfl rfl)
theorem dX9_putsUp_86 : decode cX9_putsUp 86 = .ok (.iload_n 3, 1) := dk_29 (dk_at dksX9_putsUp_3 15 rfl rfl)
theorem dX9_putsUp_87 : decode cX9_putsUp 87 = .ok (.imul, 1) := dk_104 (dk_at dksX9_putsUp_3 16 rfl rfl)
theorem dX9_putsUp_88 : decode cX9_putsUp 88 = .ok (.iadd, 1) := dk_96 (dk_at dksX9_putsUp_3 17 rfl rfl)
theorem dX9_putsUp_89 : decode cX9_putsUp 89 = .ok (.iconst 1, 1) := dk_4 (dk_at dksX9_putsUp_3 18 rfl rfl)
theorem dX9_putsUp_90 : decode cX9_putsUp 90 = .ok (.iadd, 1) := dk_96 (dk_at dksX9_putsUp_3 19 rfl rfl)
theorem dX9_putsUp_91 : decode cX9_putsUp 91 = .ok (.iload_n 1, 1) := dk_27 (dk_at dksX9_putsUp_3 20 rfl rfl)
theorem dX9_putsUp_92 : decode cX9_putsUp 92 = .ok (.iastore, 1) := dk_79 (dk_at dksX9_putsUp_3 21 rfl rfl)
theorem dX9_putsUp_93 : decode cX9_putsUp 93 = .ok (.aload_n 0, 1) := dk_42 (dk_at dksX9_putsUp_3 22 rfl rfl)
theorem dX9_putsUp_94 : decode cX9_putsUp 94 = .ok (.getfield 16, 3) := dk_180 0 16 (dk_at dksX9_putsUp_4 0 rfl rfl)
theorem dX9_putsUp_97 : decode cX9_putsUp 97 = .ok (.bipush 28, 2) := dk_16 28 (dk_at dksX9_putsUp_4 3 rfl rfl)
theorem dX9_putsUp_99 : decode cX9_putsUp 99 = .ok (.dup2, 1) := dk_92 (dk_at dksX9_putsUp_4 5 rfl rfl)
theorem dX9_putsUp_100 : decode cX9_putsUp 100 = .ok (.iaload, 1) := dk_46 (dk_at dksX9_putsUp_4 6 rfl rfl)
theorem dX9_putsUp_101 : decode cX9_putsUp 101 = .ok (.iconst 1, 1) := dk_4 (dk_at dksX9_putsUp_4 7 rfl rfl)
theorem dX9_putsUp_102 : decode cX9_putsUp 102 = .ok (.iadd, 1) := dk_96 (dk_at dksX9_putsUp_4 8 rfl rfl)
theorem dX9_putsUp_103 : decode cX9_putsUp 103 = .ok (.iastore, 1) := dk_79 (dk_at dksX9_putsUp_4 9 rfl rfl)
theorem dX9_putsUp_104 : decode cX9_putsUp 104 = .ok (.return_, 1) := dk_177 (dk_at dksX9_putsUp_4 10 rfl rfl)
abbrev cX9_allGo : ByteArray := prog_13_method_33_code
def yX9_allGo : MethodName := ⟨RX9, "allGo", "(I)I"⟩
def dkwX9_allGo_7 : List UInt8 := [132, 2, 1, 132, 3, 1, 167, 255, 94, 42, 180, 0, 16, 6, 92, 46, 28, 96, 79, 28, 172]
abbrev dktX9_allGo_7 : List UInt8 := dkwX9_allGo_7 ++ []
def dkwX9_allGo_6 : List UInt8 := [159, 0, 26, 29, 27, 160, 0, 6, 167, 0, 18, 42, 29, 8, 42, 180, 0, 16, 5, 46, 182, 0, 111]
abbrev dktX9_allGo_6 : List UInt8 := dkwX9_allGo_6 ++ dktX9_allGo_7
def dkwX9_allGo_5 : List UInt8 := [21, 4, 182, 0, 85, 92, 46, 42, 29, 4, 182, 0, 105, 96, 79, 42, 29, 5, 182, 0, 105, 21, 5]
abbrev dktX9_allGo_5 : List UInt8 := dkwX9_allGo_5 ++ dktX9_allGo_6
def dkwX9_allGo_4 : List UInt8 := [167, 0, 11, 42, 21, 4, 182, 0, 82, 4, 96, 182, 0, 111, 21, 4, 155, 0, 23, 42, 180, 0, 28, 42]
abbrev dktX9_allGo_4 : List UInt8 := dkwX9_allGo_4 ++ dktX9_allGo_5
def dkwX9_allGo_3 : List UInt8 := [3, 167, 0, 11, 42, 21, 4, 182, 0, 85, 4, 96, 182, 0, 111, 42, 29, 6, 21, 4, 156, 0, 7, 3]
abbrev dktX9_allGo_3 : List UInt8 := dkwX9_allGo_3 ++ dktX9_allGo_4
def dkwX9_allGo_2 : List UInt8 := [7, 42, 180, 0, 92, 153, 0, 7, 4, 167, 0, 4, 3, 182, 0, 111, 42, 29, 5, 21, 4, 156, 0, 7]
abbrev dktX9_allGo_2 : List UInt8 := dkwX9_allGo_2 ++ dktX9_allGo_3
def dkwX9_allGo_1 : List UInt8 := [182, 0, 105, 42, 29, 4, 182, 0, 105, 182, 0, 108, 54, 4, 42, 29, 5, 182, 0, 105, 54, 5, 42, 29]
abbrev dktX9_allGo_1 : List UInt8 := dkwX9_allGo_1 ++ dktX9_allGo_2
def dkwX9_allGo_0 : List UInt8 := [42, 182, 0, 102, 3, 61, 3, 62, 29, 42, 180, 0, 16, 4, 46, 162, 0, 158, 42, 42, 29, 3]
abbrev dktX9_allGo_0 : List UInt8 := dkwX9_allGo_0 ++ dktX9_allGo_1
theorem dksX9_allGo_0 : cX9_allGo.data.toList.drop 0 = dktX9_allGo_0 := by decide +kernel
theorem dksX9_allGo_1 : cX9_allGo.data.toList.drop 22 = dktX9_allGo_1 := dk_seg dksX9_allGo_0 22 rfl rfl
theorem dksX9_allGo_2 : cX9_allGo.data.toList.drop 46 = dktX9_allGo_2 := dk_seg dksX9_allGo_1 24 rfl rfl
theorem dksX9_allGo_3 : cX9_allGo.data.toList.drop 70 = dktX9_allGo_3 := dk_seg dksX9_allGo_2 24 rfl rfl
theorem dksX9_allGo_4 : cX9_allGo.data.toList.drop 94 = dktX9_allGo_4 := dk_seg dksX9_allGo_3 24 rfl rfl
theorem dksX9_allGo_5 : cX9_allGo.data.toList.drop 118 = dktX9_allGo_5 := dk_seg dksX9_allGo_4 24 rfl rfl
theorem dksX9_allGo_6 : cX9_allGo.data.toList.drop 141 = dktX9_allGo_6 := dk_seg dksX9_allGo_5 23 rfl rfl
theorem dksX9_allGo_7 : cX9_allGo.data.toList.drop 164 = dktX9_allGo_7 := dk_seg dksX9_allGo_6 23 rfl rfl
theorem dX9_allGo_0 : decode cX9_allGo 0 = .ok (.aload_n 0, 1) := dk_42 (dk_at dksX9_allGo_0 0 rfl rfl)
theorem dX9_allGo_1 : decode cX9_allGo 1 = .ok (.invokevirtual 102, 3) := dk_182 0 102 (dk_at dksX9_allGo_0 1 rfl rfl)
theorem dX9_allGo_4 : decode cX9_allGo 4 = .ok (.iconst 0, 1) := dk_3 (dk_at dksX9_allGo_0 4 rfl rfl)
theorem dX9_allGo_5 : decode cX9_allGo 5 = .ok (.istore_n 2, 1) := dk_61 (dk_at dksX9_allGo_0 5 rfl rfl)
theorem dX9_allGo_6 : decode cX9_allGo 6 = .ok (.iconst 0, 1) := dk_3 (dk_at dksX9_allGo_0 6 rfl rfl)
theorem dX9_allGo_7 : decode cX9_allGo 7 = .ok (.istore_n 3, 1) := dk_62 (dk_at dksX9_allGo_0 7 rfl rfl)
theorem dX9_allGo_8 : decode cX9_allGo 8 = .ok (.iload_n 3, 1) := dk_29 (dk_at dksX9_allGo_0 8 rfl rfl)
theorem dX9_allGo_9 : decode cX9_allGo 9 = .ok (.aload_n 0, 1) := dk_42 (dk_at dksX9_allGo_0 9 rfl rfl)
theorem dX9_allGo_10 : decode cX9_allGo 10 = .ok (.getfield 16, 3) := dk_180 0 16 (dk_at dksX9_allGo_0 10 rfl rfl)
theorem dX9_allGo_13 : decode cX9_allGo 13 = .ok (.iconst 1, 1) := dk_4 (dk_at dksX9_allGo_0 13 rfl rfl)
theorem dX9_allGo_14 : decode cX9_allGo 14 = .ok (.iaload, 1) := dk_46 (dk_at dksX9_allGo_0 14 rfl rfl)
theorem dX9_allGo_15 : decode cX9_allGo 15 = .ok (.if_icmp .ge 158, 3) := dk_162 0 158 (dk_at dksX9_allGo_0 15 rfl rfl)
theorem dX9_allGo_18 : decode cX9_allGo 18 = .ok (.aload_n 0, 1) := dk_42 (dk_at dksX9_allGo_0 18 rfl rfl)
theorem dX9_allGo_19 : decode cX9_allGo 19 = .ok (.aload_n 0, 1) := dk_42 (dk_at dksX9_allGo_0 19 rfl rfl)
theorem dX9_allGo_20 : decode cX9_allGo 20 = .ok (.iload_n 3, 1) := dk_29 (dk_at dksX9_allGo_0 20 rfl rfl)
theorem dX9_allGo_21 : decode cX9_allGo 21 = .ok (.iconst 0, 1) := dk_3 (dk_at dksX9_allGo_0 21 rfl rfl)
theorem dX9_allGo_22 : decode cX9_allGo 22 = .ok (.invokevirtual 105, 3) := dk_182 0 105 (dk_at dksX9_allGo_1 0 rfl rfl)
theorem dX9_allGo_25 : decode cX9_allGo 25 = .ok (.aload_n 0, 1) := dk_42 (dk_at dksX9_allGo_1 3 rfl rfl)
theorem dX9_allGo_26 : decode cX9_allGo 26 = .ok (.iload_n 3, 1) := dk_29 (dk_at dksX9_allGo_1 4 rfl rfl)
theorem dX9_allGo_27 : decode cX9_allGo 27 = .ok (.iconst 1, 1) := dk_4 (dk_at dksX9_allGo_1 5 rfl rfl)
theorem dX9_allGo_28 : decode cX9_allGo 28 = .ok (.invokevirtual 105, 3) := dk_182 0 105 (dk_at dksX9_allGo_1 6 rfl rfl)
theorem dX9_allGo_31 : decode cX9_allGo 31 = .ok (.invokevirtual 108, 3) := dk_182 0 108 (dk_at dksX9_allGo_1 9 rfl rfl)
theorem dX9_allGo_34 : decode cX9_allGo 34 = .ok (.istore 4, 2) := dk_54 4 (dk_at dksX9_allGo_1 12 rfl rfl)
theorem dX9_allGo_36 : decode cX9_allGo 36 = .ok (.aload_n 0, 1) := dk_42 (dk_at dksX9_allGo_1 14 rfl rfl)
theorem dX9_allGo_37 : decode cX9_allGo 37 = .ok (.iload_n 3, 1) := dk_29 (dk_at dksX9_allGo_1 15 rfl rfl)
theorem dX9_allGo_38 : decode cX9_allGo 38 = .ok (.iconst 2, 1) := dk_5 (dk_at dksX9_allGo_1 16 rfl rfl)
theorem dX9_allGo_39 : decode cX9_allGo 39 = .ok (.invokevirtual 105, 3) := dk_182 0 105 (dk_at dksX9_allGo_1 17 rfl rfl)
theorem dX9_allGo_42 : decode cX9_allGo 42 = .ok (.istore 5, 2) := dk_54 5 (dk_at dksX9_allGo_1 20 rfl rfl)
theorem dX9_allGo_44 : decode cX9_allGo 44 = .ok (.aload_n 0, 1) := dk_42 (dk_at dksX9_allGo_1 22 rfl rfl)
theorem dX9_allGo_45 : decode cX9_allGo 45 = .ok (.iload_n 3, 1) := dk_29 (dk_at dksX9_allGo_1 23 rfl rfl)
theorem dX9_allGo_46 : decode cX9_allGo 46 = .ok (.iconst 4, 1) := dk_7 (dk_at dksX9_allGo_2 0 rfl rfl)
theorem dX9_allGo_47 : decode cX9_allGo 47 = .ok (.aload_n 0, 1) := dk_42 (dk_at dksX9_allGo_2 1 rfl rfl)
theorem dX9_allGo_48 : decode cX9_allGo 48 = .ok (.getfield 92, 3) := dk_180 0 92 (dk_at dksX9_allGo_2 2 rfl rfl)
theorem dX9_allGo_51 : decode cX9_allGo 51 = .ok (.ifCond .eq 7, 3) := dk_153 0 7 (dk_at dksX9_allGo_2 5 rfl rfl)
theorem dX9_allGo_54 : decode cX9_allGo 54 = .ok (.iconst 1, 1) := dk_4 (dk_at dksX9_allGo_2 8 rfl rfl)
theorem dX9_allGo_55 : decode cX9_allGo 55 = .ok (.goto 4, 3) := dk_167 0 4 (dk_at dksX9_allGo_2 9 rfl rfl)
theorem dX9_allGo_58 : decode cX9_allGo 58 = .ok (.iconst 0, 1) := dk_3 (dk_at dksX9_allGo_2 12 rfl rfl)
theorem dX9_allGo_59 : decode cX9_allGo 59 = .ok (.invokevirtual 111, 3) := dk_182 0 111 (dk_at dksX9_allGo_2 13 rfl rfl)
theorem dX9_allGo_62 : decode cX9_allGo 62 = .ok (.aload_n 0, 1) := dk_42 (dk_at dksX9_allGo_2 16 rfl rfl)
theorem dX9_allGo_63 : decode cX9_allGo 63 = .ok (.iload_n 3, 1) := dk_29 (dk_at dksX9_allGo_2 17 rfl rfl)
theorem dX9_allGo_64 : decode cX9_allGo 64 = .ok (.iconst 2, 1) := dk_5 (dk_at dksX9_allGo_2 18 rfl rfl)
theorem dX9_allGo_65 : decode cX9_allGo 65 = .ok (.iload 4, 2) := dk_21 4 (dk_at dksX9_allGo_2 19 rfl rfl)
theorem dX9_allGo_67 : decode cX9_allGo 67 = .ok (.ifCond .ge 7, 3) := dk_156 0 7 (dk_at dksX9_allGo_2 21 rfl rfl)
theorem dX9_allGo_70 : decode cX9_allGo 70 = .ok (.iconst 0, 1) := dk_3 (dk_at dksX9_allGo_3 0 rfl rfl)
theorem dX9_allGo_71 : decode cX9_allGo 71 = .ok (.goto 11, 3) := dk_167 0 11 (dk_at dksX9_allGo_3 1 rfl rfl)
theorem dX9_allGo_74 : decode cX9_allGo 74 = .ok (.aload_n 0, 1) := dk_42 (dk_at dksX9_allGo_3 4 rfl rfl)
theorem dX9_allGo_75 : decode cX9_allGo 75 = .ok (.iload 4, 2) := dk_21 4 (dk_at dksX9_allGo_3 5 rfl rfl)
theorem dX9_allGo_77 : decode cX9_allGo 77 = .ok (.invokevirtual 85, 3) := dk_182 0 85 (dk_at dksX9_allGo_3 7 rfl rfl)
theorem dX9_allGo_80 : decode cX9_allGo 80 = .ok (.iconst 1, 1) := dk_4 (dk_at dksX9_allGo_3 10 rfl rfl)
theorem dX9_allGo_81 : decode cX9_allGo 81 = .ok (.iadd, 1) := dk_96 (dk_at dksX9_allGo_3 11 rfl rfl)
theorem dX9_allGo_82 : decode cX9_allGo 82 = .ok (.invokevirtual 111, 3) := dk_182 0 111 (dk_at dksX9_allGo_3 12 rfl rfl)
theorem dX9_allGo_85 : decode cX9_allGo 85 = .ok (.aload_n 0, 1) := dk_42 (dk_at dksX9_allGo_3 15 rfl rfl)
theorem dX9_allGo_86 : decode cX9_allGo 86 = .ok (.iload_n 3, 1) := dk_29 (dk_at dksX9_allGo_3 16 rfl rfl)
theorem dX9_allGo_87 : decode cX9_allGo 87 = .ok (.iconst 3, 1) := dk_6 (dk_at dksX9_allGo_3 17 rfl rfl)
theorem dX9_allGo_88 : decode cX9_allGo 88 = .ok (.iload 4, 2) := dk_21 4 (dk_at dksX9_allGo_3 18 rfl rfl)
theorem dX9_allGo_90 : decode cX9_allGo 90 = .ok (.ifCond .ge 7, 3) := dk_156 0 7 (dk_at dksX9_allGo_3 20 rfl rfl)
theorem dX9_allGo_93 : decode cX9_allGo 93 = .ok (.iconst 0, 1) := dk_3 (dk_at dksX9_allGo_3 23 rfl rfl)
theorem dX9_allGo_94 : decode cX9_allGo 94 = .ok (.goto 11, 3) := dk_167 0 11 (dk_at dksX9_allGo_4 0 rfl rfl)
theorem dX9_allGo_97 : decode cX9_allGo 97 = .ok (.aload_n 0, 1) := dk_42 (dk_at dksX9_allGo_4 3 rfl rfl)
theorem dX9_allGo_98 : decode cX9_allGo 98 = .ok (.iload 4, 2) := dk_21 4 (dk_at dksX9_allGo_4 4 rfl rfl)
theorem dX9_allGo_100 : decode cX9_allGo 100 = .ok (.invokevirtual 82, 3) := dk_182 0 82 (dk_at dksX9_allGo_4 6 rfl rfl)
theorem dX9_allGo_103 : decode cX9_allGo 103 = .ok (.iconst 1, 1) := dk_4 (dk_at dksX9_allGo_4 9 rfl rfl)
theorem dX9_allGo_104 : decode cX9_allGo 104 = .ok (.iadd, 1) := dk_96 (dk_at dksX9_allGo_4 10 rfl rfl)
theorem dX9_allGo_105 : decode cX9_allGo 105 = .ok (.invokevirtual 111, 3) := dk_182 0 111 (dk_at dksX9_allGo_4 11 rfl rfl)
theorem dX9_allGo_108 : decode cX9_allGo 108 = .ok (.iload 4, 2) := dk_21 4 (dk_at dksX9_allGo_4 14 rfl rfl)
theorem dX9_allGo_110 : decode cX9_allGo 110 = .ok (.ifCond .lt 23, 3) := dk_155 0 23 (dk_at dksX9_allGo_4 16 rfl rfl)
theorem dX9_allGo_113 : decode cX9_allGo 113 = .ok (.aload_n 0, 1) := dk_42 (dk_at dksX9_allGo_4 19 rfl rfl)
theorem dX9_allGo_114 : decode cX9_allGo 114 = .ok (.getfield 28, 3) := dk_180 0 28 (dk_at dksX9_allGo_4 20 rfl rfl)
theorem dX9_allGo_117 : decode cX9_allGo 117 = .ok (.aload_n 0, 1) := dk_42 (dk_at dksX9_allGo_4 23 rfl rfl)
theorem dX9_allGo_118 : decode cX9_allGo 118 = .ok (.iload 4, 2) := dk_21 4 (dk_at dksX9_allGo_5 0 rfl rfl)
theorem dX9_allGo_120 : decode cX9_allGo 120 = .ok (.invokevirtual 85, 3) := dk_182 0 85 (dk_at dksX9_allGo_5 2 rfl rfl)
theorem dX9_allGo_123 : decode cX9_allGo 123 = .ok (.dup2, 1) := dk_92 (dk_at dksX9_allGo_5 5 rfl rfl)
theorem dX9_allGo_124 : decode cX9_allGo 124 = .ok (.iaload, 1) := dk_46 (dk_at dksX9_allGo_5 6 rfl rfl)
theorem dX9_allGo_125 : decode cX9_allGo 125 = .ok (.aload_n 0, 1) := dk_42 (dk_at dksX9_allGo_5 7 rfl rfl)
theorem dX9_allGo_126 : decode cX9_allGo 126 = .ok (.iload_n 3, 1) := dk_29 (dk_at dksX9_allGo_5 8 rfl rfl)
theorem dX9_allGo_127 : decode cX9_allGo 127 = .ok (.iconst 1, 1) := dk_4 (dk_at dksX9_allGo_5 9 rfl rfl)
theorem dX9_allGo_128 : decode cX9_allGo 128 = .ok (.invokevirtual 105, 3) := dk_182 0 105 (dk_at dksX9_allGo_5 10 rfl rfl)
theorem dX9_allGo_131 : decode cX9_allGo 131 = .ok (.iadd, 1) := dk_96 (dk_at dksX9_allGo_5 13 rfl rfl)
theorem dX9_allGo_132 : decode cX9_allGo 132 = .ok (.iastore, 1) := dk_79 (dk_at dksX9_allGo_5 14 rfl rfl)
theorem dX9_allGo_133 : decode cX9_allGo 133 = .ok (.aload_n 0, 1) := dk_42 (dk_at dksX9_allGo_5 15 rfl rfl)
theorem dX9_allGo_134 : decode cX9_allGo 134 = .ok (.iload_n 3, 1) := dk_29 (dk_at dksX9_allGo_5 16 rfl rfl)
theorem dX9_allGo_135 : decode cX9_allGo 135 = .ok (.iconst 2, 1) := dk_5 (dk_at dksX9_allGo_5 17 rfl rfl)
theorem dX9_allGo_136 : decode cX9_allGo 136 = .ok (.invokevirtual 105, 3) := dk_182 0 105 (dk_at dksX9_allGo_5 18 rfl rfl)
theorem dX9_allGo_139 : decode cX9_allGo 139 = .ok (.iload 5, 2) := dk_21 5 (dk_at dksX9_allGo_5 21 rfl rfl)
theorem dX9_allGo_141 : decode cX9_allGo 141 = .ok (.if_icmp .eq 26, 3) := dk_159 0 26 (dk_at dksX9_allGo_6 0 rfl rfl)
theorem dX9_allGo_144 : decode cX9_allGo 144 = .ok (.iload_n 3, 1) := dk_29 (dk_at dksX9_allGo_6 3 rfl rfl)
theorem dX9_allGo_145 : decode cX9_allGo 145 = .ok (.iload_n 1, 1) := dk_27 (dk_at dksX9_allGo_6 4 rfl rfl)
theorem dX9_allGo_146 : decode cX9_allGo 146 = .ok (.if_icmp .ne 6, 3) := dk_160 0 6 (dk_at dksX9_allGo_6 5 rfl rfl)
theorem dX9_allGo_149 : decode cX9_allGo 149 = .ok (.goto 18, 3) := dk_167 0 18 (dk_at dksX9_allGo_6 8 rfl rfl)
theorem dX9_allGo_152 : decode cX9_allGo 152 = .ok (.aload_n 0, 1) := dk_42 (dk_at dksX9_allGo_6 11 rfl rfl)
theorem dX9_allGo_153 : decode cX9_allGo 153 = .ok (.iload_n 3, 1) := dk_29 (dk_at dksX9_allGo_6 12 rfl rfl)
theorem dX9_allGo_154 : decode cX9_allGo 154 = .ok (.iconst 5, 1) := dk_8 (dk_at dksX9_allGo_6 13 rfl rfl)
theorem dX9_allGo_155 : decode cX9_allGo 155 = .ok (.aload_n 0, 1) := dk_42 (dk_at dksX9_allGo_6 14 rfl rfl)
theorem dX9_allGo_156 : decode cX9_allGo 156 = .ok (.getfield 16, 3) := dk_180 0 16 (dk_at dksX9_allGo_6 15 rfl rfl)
theorem dX9_allGo_159 : decode cX9_allGo 159 = .ok (.iconst 2, 1) := dk_5 (dk_at dksX9_allGo_6 18 rfl rfl)
theorem dX9_allGo_160 : decode cX9_allGo 160 = .ok (.iaload, 1) := dk_46 (dk_at dksX9_allGo_6 19 rfl rfl)
theorem dX9_allGo_161 : decode cX9_allGo 161 = .ok (.invokevirtual 111, 3) := dk_182 0 111 (dk_at dksX9_allGo_6 20 rfl rfl)
theorem dX9_allGo_164 : decode cX9_allGo 164 = .ok (.iinc 2 1, 3) := dk_132 2 1 (dk_at dksX9_allGo_7 0 rfl rfl)
theorem dX9_allGo_167 : decode cX9_allGo 167 = .ok (.iinc 3 1, 3) := dk_132 3 1 (dk_at dksX9_allGo_7 3 rfl rfl)
theorem dX9_allGo_170 : decode cX9_allGo 170 = .ok (.goto (-162), 3) := dk_167 255 94 (dk_at dksX9_allGo_7 6 rfl rfl)
theorem dX9_allGo_173 : decode cX9_allGo 173 = .ok (.aload_n 0, 1) := dk_42 (dk_at dksX9_allGo_7 9 rfl rfl)
theorem dX9_allGo_174 : decode cX9_allGo 174 = .ok (.getfield 16, 3) := dk_180 0 16 (dk_at dksX9_allGo_7 10 rfl rfl)
theorem dX9_allGo_177 : decode cX9_allGo 177 = .ok (.iconst 3, 1) := dk_6 (dk_at dksX9_allGo_7 13 rfl rfl)
theorem dX9_allGo_178 : decode cX9_allGo 178 = .ok (.dup2, 1) := dk_92 (dk_at dksX9_allGo_7 14 rfl rfl)
theorem dX9_allGo_179 : decode cX9_allGo 179 = .ok (.iaload, 1) := dk_46 (dk_at dksX9_allGo_7 15 rfl rfl)
theorem dX9_allGo_180 : decode cX9_allGo 180 = .ok (.iload_n 2, 1) := dk_28 (dk_at dksX9_allGo_7 16 rfl rfl)
theorem dX9_allGo_181 : decode cX9_allGo 181 = .ok (.iadd, 1) := dk_96 (dk_at dksX9_allGo_7 17 rfl rfl)
theorem dX9_allGo_182 : decode cX9_allGo 182 = .ok (.iastore, 1) := dk_79 (dk_at dksX9_allGo_7 18 rfl rfl)
theorem dX9_allGo_183 : decode cX9_allGo 183 = .ok (.iload_n 2, 1) := dk_28 (dk_at dksX9_allGo_7 19 rfl rfl)
theorem dX9_allGo_184 : decode cX9_allGo 184 = .ok (.ireturn, 1) := dk_172 (dk_at dksX9_allGo_7 20 rfl rfl)
abbrev cX9_clearsLoads : ByteArray := prog_13_method_32_code
def yX9_clearsLoads : MethodName := ⟨RX9, "clearsLoads", "()V"⟩
def dkwX9_clearsLoads_0 : List UInt8 := [3, 60, 27, 16, 6, 162, 0, 16, 42, 180, 0, 28, 27, 3, 79, 132, 1, 1, 167, 255, 240, 177]
abbrev dktX9_clearsLoads_0 : List UInt8 := dkwX9_clearsLoads_0 ++ []
theorem dksX9_clearsLoads_0 : cX9_clearsLoads.data.toList.drop 0 = dktX9_clearsLoads_0 := by decide +kernel
theorem dX9_clearsLoads_0 : decode cX9_clearsLoads 0 = .ok (.iconst 0, 1) := dk_3 (dk_at dksX9_clearsLoads_0 0 rfl rfl)
theorem dX9_clearsLoads_1 : decode cX9_clearsLoads 1 = .ok (.istore_n 1, 1) := dk_60 (dk_at dksX9_clearsLoads_0 1 rfl rfl)
theorem dX9_clearsLoads_2 : decode cX9_clearsLoads 2 = .ok (.iload_n 1, 1) := dk_27 (dk_at dksX9_clearsLoads_0 2 rfl rfl)
theorem dX9_clearsLoads_3 : decode cX9_clearsLoads 3 = .ok (.bipush 6, 2) := dk_16 6 (dk_at dksX9_clearsLoads_0 3 rfl rfl)
theorem dX9_clearsLoads_5 : decode cX9_clearsLoads 5 = .ok (.if_icmp .ge 16, 3) := dk_162 0 16 (dk_at dksX9_clearsLoads_0 5 rfl rfl)
theorem dX9_clearsLoads_8 : decode cX9_clearsLoads 8 = .ok (.aload_n 0, 1) := dk_42 (dk_at dksX9_clearsLoads_0 8 rfl rfl)
theorem dX9_clearsLoads_9 : decode cX9_clearsLoads 9 = .ok (.getfield 28, 3) := dk_180 0 28 (dk_at dksX9_clearsLoads_0 9 rfl rfl)
theorem dX9_clearsLoads_12 : decode cX9_clearsLoads 12 = .ok (.iload_n 1, 1) := dk_27 (dk_at dksX9_clearsLoads_0 12 rfl rfl)
theorem dX9_clearsLoads_13 : decode cX9_clearsLoads 13 = .ok (.iconst 0, 1) := dk_3 (dk_at dksX9_clearsLoads_0 13 rfl rfl)
theorem dX9_clearsLoads_14 : decode cX9_clearsLoads 14 = .ok (.iastore, 1) := dk_79 (dk_at dksX9_clearsLoads_0 14 rfl rfl)
theorem dX9_clearsLoads_15 : decode cX9_clearsLoads 15 = .ok (.iinc 1 1, 3) := dk_132 1 1 (dk_at dksX9_clearsLoads_0 15 rfl rfl)
theorem dX9_clearsLoads_18 : decode cX9_clearsLoads 18 = .ok (.goto (-16), 3) := dk_167 255 240 (dk_at dksX9_clearsLoads_0 18 rfl rfl)
theorem dX9_clearsLoads_21 : decode cX9_clearsLoads 21 = .ok (.return_, 1) := dk_177 (dk_at dksX9_clearsLoads_0 21 rfl rfl)
abbrev cX9_of : ByteArray := prog_13_method_19_code
def yX9_of : MethodName := ⟨RX9, "of", "(II)I"⟩
def dkwX9_of_0 : List UInt8 := [42, 180, 0, 16, 16, 79, 16, 6, 27, 104, 96, 28, 96, 46, 172]
abbrev dktX9_of_0 : List UInt8 := dkwX9_of_0 ++ []
theorem dksX9_of_0 : cX9_of.data.toList.drop 0 = dktX9_of_0 := by decide +kernel
theorem dX9_of_0 : decode cX9_of 0 = .ok (.aload_n 0, 1) := dk_42 (dk_at dksX9_of_0 0 rfl rfl)
theorem dX9_of_1 : decode cX9_of 1 = .ok (.getfield 16, 3) := dk_180 0 16 (dk_at dksX9_of_0 1 rfl rfl)
theorem dX9_of_4 : decode cX9_of 4 = .ok (.bipush 79, 2) := dk_16 79 (dk_at dksX9_of_0 4 rfl rfl)
theorem dX9_of_6 : decode cX9_of 6 = .ok (.bipush 6, 2) := dk_16 6 (dk_at dksX9_of_0 6 rfl rfl)
theorem dX9_of_8 : decode cX9_of 8 = .ok (.iload_n 1, 1) := dk_27 (dk_at dksX9_of_0 8 rfl rfl)
theorem dX9_of_9 : decode cX9_of 9 = .ok (.imul, 1) := dk_104 (dk_at dksX9_of_0 9 rfl rfl)
theorem dX9_of_10 : decode cX9_of 10 = .ok (.iadd, 1) := dk_96 (dk_at dksX9_of_0 10 rfl rfl)
theorem dX9_of_11 : decode cX9_of 11 = .ok (.iload_n 2, 1) := dk_28 (dk_at dksX9_of_0 11 rfl rfl)
theorem dX9_of_12 : decode cX9_of 12 = .ok (.iadd, 1) := dk_96 (dk_at dksX9_of_0 12 rfl rfl)
theorem dX9_of_13 : decode cX9_of 13 = .ok (.iaload, 1) := dk_46 (dk_at dksX9_of_0 13 rfl rfl)
theorem dX9_of_14 : decode cX9_of 14 = .ok (.ireturn, 1) := dk_172 (dk_at dksX9_of_0 14 rfl rfl)
abbrev cX9_signFor : ByteArray := prog_13_method_31_code
def yX9_signFor : MethodName := ⟨RX9, "signFor", "(II)I"⟩
def dkwX9_signFor_4 : List UInt8 := [167, 255, 177, 2, 172]
abbrev dktX9_signFor_4 : List UInt8 := dkwX9_signFor_4 ++ []
def dkwX9_signFor_3 : List UInt8 := [21, 5, 182, 0, 85, 182, 0, 99, 163, 0, 6, 21, 5, 172, 42, 4, 181, 0, 92, 132, 4, 1]
abbrev dktX9_signFor_3 : List UInt8 := dkwX9_signFor_3 ++ dktX9_signFor_4
def dkwX9_signFor_2 : List UInt8 := [182, 0, 88, 154, 0, 6, 167, 0, 37, 42, 180, 0, 28, 42, 21, 5, 182, 0, 85, 46, 28, 96, 42, 42]
abbrev dktX9_signFor_2 : List UInt8 := dkwX9_signFor_2 ++ dktX9_signFor_3
def dkwX9_signFor_1 : List UInt8 := [162, 0, 73, 29, 21, 4, 96, 42, 180, 0, 16, 16, 28, 46, 112, 54, 5, 42, 42, 21, 5, 182, 0, 85]
abbrev dktX9_signFor_1 : List UInt8 := dkwX9_signFor_1 ++ dktX9_signFor_2
def dkwX9_signFor_0 : List UInt8 := [42, 3, 181, 0, 92, 42, 27, 182, 0, 96, 62, 3, 54, 4, 21, 4, 42, 180, 0, 16, 16, 28, 46]
abbrev dktX9_signFor_0 : List UInt8 := dkwX9_signFor_0 ++ dktX9_signFor_1
theorem dksX9_signFor_0 : cX9_signFor.data.toList.drop 0 = dktX9_signFor_0 := by decide +kernel
theorem dksX9_signFor_1 : cX9_signFor.data.toList.drop 23 = dktX9_signFor_1 := dk_seg dksX9_signFor_0 23 rfl rfl
theorem dksX9_signFor_2 : cX9_signFor.data.toList.drop 47 = dktX9_signFor_2 := dk_seg dksX9_signFor_1 24 rfl rfl
theorem dksX9_signFor_3 : cX9_signFor.data.toList.drop 71 = dktX9_signFor_3 := dk_seg dksX9_signFor_2 24 rfl rfl
theorem dksX9_signFor_4 : cX9_signFor.data.toList.drop 93 = dktX9_signFor_4 := dk_seg dksX9_signFor_3 22 rfl rfl
theorem dX9_signFor_0 : decode cX9_signFor 0 = .ok (.aload_n 0, 1) := dk_42 (dk_at dksX9_signFor_0 0 rfl rfl)
theorem dX9_signFor_1 : decode cX9_signFor 1 = .ok (.iconst 0, 1) := dk_3 (dk_at dksX9_signFor_0 1 rfl rfl)
theorem dX9_signFor_2 : decode cX9_signFor 2 = .ok (.putfield 92, 3) := dk_181 0 92 (dk_at dksX9_signFor_0 2 rfl rfl)
theorem dX9_signFor_5 : decode cX9_signFor 5 = .ok (.aload_n 0, 1) := dk_42 (dk_at dksX9_signFor_0 5 rfl rfl)
theorem dX9_signFor_6 : decode cX9_signFor 6 = .ok (.iload_n 1, 1) := dk_27 (dk_at dksX9_signFor_0 6 rfl rfl)
theorem dX9_signFor_7 : decode cX9_signFor 7 = .ok (.invokevirtual 96, 3) := dk_182 0 96 (dk_at dksX9_signFor_0 7 rfl rfl)
theorem dX9_signFor_10 : decode cX9_signFor 10 = .ok (.istore_n 3, 1) := dk_62 (dk_at dksX9_signFor_0 10 rfl rfl)
theorem dX9_signFor_11 : decode cX9_signFor 11 = .ok (.iconst 0, 1) := dk_3 (dk_at dksX9_signFor_0 11 rfl rfl)
theorem dX9_signFor_12 : decode cX9_signFor 12 = .ok (.istore 4, 2) := dk_54 4 (dk_at dksX9_signFor_0 12 rfl rfl)
theorem dX9_signFor_14 : decode cX9_signFor 14 = .ok (.iload 4, 2) := dk_21 4 (dk_at dksX9_signFor_0 14 rfl rfl)
theorem dX9_signFor_16 : decode cX9_signFor 16 = .ok (.aload_n 0, 1) := dk_42 (dk_at dksX9_signFor_0 16 rfl rfl)
theorem dX9_signFor_17 : decode cX9_signFor 17 = .ok (.getfield 16, 3) := dk_180 0 16 (dk_at dksX9_signFor_0 17 rfl rfl)
theorem dX9_signFor_20 : decode cX9_signFor 20 = .ok (.bipush 28, 2) := dk_16 28 (dk_at dksX9_signFor_0 20 rfl rfl)
theorem dX9_signFor_22 : decode cX9_signFor 22 = .ok (.iaload, 1) := dk_46 (dk_at dksX9_signFor_0 22 rfl rfl)
theorem dX9_signFor_23 : decode cX9_signFor 23 = .ok (.if_icmp .ge 73, 3) := dk_162 0 73 (dk_at dksX9_signFor_1 0 rfl rfl)
theorem dX9_signFor_26 : decode cX9_signFor 26 = .ok (.iload_n 3, 1) := dk_29 (dk_at dksX9_signFor_1 3 rfl rfl)
theorem dX9_signFor_27 : decode cX9_signFor 27 = .ok (.iload 4, 2) := dk_21 4 (dk_at dksX9_signFor_1 4 rfl rfl)
theorem dX9_signFor_29 : decode cX9_signFor 29 = .ok (.iadd, 1) := dk_96 (dk_at dksX9_signFor_1 6 rfl rfl)
theorem dX9_signFor_30 : decode cX9_signFor 30 = .ok (.aload_n 0, 1) := dk_42 (dk_at dksX9_signFor_1 7 rfl rfl)
theorem dX9_signFor_31 : decode cX9_signFor 31 = .ok (.getfield 16, 3) := dk_180 0 16 (dk_at dksX9_signFor_1 8 rfl rfl)
theorem dX9_signFor_34 : decode cX9_signFor 34 = .ok (.bipush 28, 2) := dk_16 28 (dk_at dksX9_signFor_1 11 rfl rfl)
theorem dX9_signFor_36 : decode cX9_signFor 36 = .ok (.iaload, 1) := dk_46 (dk_at dksX9_signFor_1 13 rfl rfl)
theorem dX9_signFor_37 : decode cX9_signFor 37 = .ok (.irem, 1) := dk_112 (dk_at dksX9_signFor_1 14 rfl rfl)
theorem dX9_signFor_38 : decode cX9_signFor 38 = .ok (.istore 5, 2) := dk_54 5 (dk_at dksX9_signFor_1 15 rfl rfl)
theorem dX9_signFor_40 : decode cX9_signFor 40 = .ok (.aload_n 0, 1) := dk_42 (dk_at dksX9_signFor_1 17 rfl rfl)
theorem dX9_signFor_41 : decode cX9_signFor 41 = .ok (.aload_n 0, 1) := dk_42 (dk_at dksX9_signFor_1 18 rfl rfl)
theorem dX9_signFor_42 : decode cX9_signFor 42 = .ok (.iload 5, 2) := dk_21 5 (dk_at dksX9_signFor_1 19 rfl rfl)
theorem dX9_signFor_44 : decode cX9_signFor 44 = .ok (.invokevirtual 85, 3) := dk_182 0 85 (dk_at dksX9_signFor_1 21 rfl rfl)
theorem dX9_signFor_47 : decode cX9_signFor 47 = .ok (.invokevirtual 88, 3) := dk_182 0 88 (dk_at dksX9_signFor_2 0 rfl rfl)
theorem dX9_signFor_50 : decode cX9_signFor 50 = .ok (.ifCond .ne 6, 3) := dk_154 0 6 (dk_at dksX9_signFor_2 3 rfl rfl)
theorem dX9_signFor_53 : decode cX9_signFor 53 = .ok (.goto 37, 3) := dk_167 0 37 (dk_at dksX9_signFor_2 6 rfl rfl)
theorem dX9_signFor_56 : decode cX9_signFor 56 = .ok (.aload_n 0, 1) := dk_42 (dk_at dksX9_signFor_2 9 rfl rfl)
theorem dX9_signFor_57 : decode cX9_signFor 57 = .ok (.getfield 28, 3) := dk_180 0 28 (dk_at dksX9_signFor_2 10 rfl rfl)
theorem dX9_signFor_60 : decode cX9_signFor 60 = .ok (.aload_n 0, 1) := dk_42 (dk_at dksX9_signFor_2 13 rfl rfl)
theorem dX9_signFor_61 : decode cX9_signFor 61 = .ok (.iload 5, 2) := dk_21 5 (dk_at dksX9_signFor_2 14 rfl rfl)
theorem dX9_signFor_63 : decode cX9_signFor 63 = .ok (.invokevirtual 85, 3) := dk_182 0 85 (dk_at dksX9_signFor_2 16 rfl rfl)
theorem dX9_signFor_66 : decode cX9_signFor 66 = .ok (.iaload, 1) := dk_46 (dk_at dksX9_signFor_2 19 rfl rfl)
theorem dX9_signFor_67 : decode cX9_signFor 67 = .ok (.iload_n 2, 1) := dk_28 (dk_at dksX9_signFor_2 20 rfl rfl)
theorem dX9_signFor_68 : decode cX9_signFor 68 = .ok (.iadd, 1) := dk_96 (dk_at dksX9_signFor_2 21 rfl rfl)
theorem dX9_signFor_69 : decode cX9_signFor 69 = .ok (.aload_n 0, 1) := dk_42 (dk_at dksX9_signFor_2 22 rfl rfl)
theorem dX9_signFor_70 : decode cX9_signFor 70 = .ok (.aload_n 0, 1) := dk_42 (dk_at dksX9_signFor_2 23 rfl rfl)
theorem dX9_signFor_71 : decode cX9_signFor 71 = .ok (.iload 5, 2) := dk_21 5 (dk_at dksX9_signFor_3 0 rfl rfl)
theorem dX9_signFor_73 : decode cX9_signFor 73 = .ok (.invokevirtual 85, 3) := dk_182 0 85 (dk_at dksX9_signFor_3 2 rfl rfl)
theorem dX9_signFor_76 : decode cX9_signFor 76 = .ok (.invokevirtual 99, 3) := dk_182 0 99 (dk_at dksX9_signFor_3 5 rfl rfl)
theorem dX9_signFor_79 : decode cX9_signFor 79 = .ok (.if_icmp .gt 6, 3) := dk_163 0 6 (dk_at dksX9_signFor_3 8 rfl rfl)
theorem dX9_signFor_82 : decode cX9_signFor 82 = .ok (.iload 5, 2) := dk_21 5 (dk_at dksX9_signFor_3 11 rfl rfl)
theorem dX9_signFor_84 : decode cX9_signFor 84 = .ok (.ireturn, 1) := dk_172 (dk_at dksX9_signFor_3 13 rfl rfl)
theorem dX9_signFor_85 : decode cX9_signFor 85 = .ok (.aload_n 0, 1) := dk_42 (dk_at dksX9_signFor_3 14 rfl rfl)
theorem dX9_signFor_86 : decode cX9_signFor 86 = .ok (.iconst 1, 1) := dk_4 (dk_at dksX9_signFor_3 15 rfl rfl)
theorem dX9_signFor_87 : decode cX9_signFor 87 = .ok (.putfield 92, 3) := dk_181 0 92 (dk_at dksX9_signFor_3 16 rfl rfl)
theorem dX9_signFor_90 : decode cX9_signFor 90 = .ok (.iinc 4 1, 3) := dk_132 4 1 (dk_at dksX9_signFor_3 19 rfl rfl)
theorem dX9_signFor_93 : decode cX9_signFor 93 = .ok (.goto (-79), 3) := dk_167 255 177 (dk_at dksX9_signFor_4 0 rfl rfl)
theorem dX9_signFor_96 : decode cX9_signFor 96 = .ok (.iconst (-1), 1) := dk_2 (dk_at dksX9_signFor_4 3 rfl rfl)
theorem dX9_signFor_97 : decode cX9_signFor 97 = .ok (.ireturn, 1) := dk_172 (dk_at dksX9_signFor_4 4 rfl rfl)
abbrev cX9_firstFrom : ByteArray := prog_13_method_30_code
def yX9_firstFrom : MethodName := ⟨RX9, "firstFrom", "(I)I"⟩
def dkwX9_firstFrom_1 : List UInt8 := [132, 2, 1, 167, 255, 233, 28, 42, 180, 0, 16, 16, 28, 46, 160, 0, 7, 3, 167, 0, 4, 28, 172]
abbrev dktX9_firstFrom_1 : List UInt8 := dkwX9_firstFrom_1 ++ []
def dkwX9_firstFrom_0 : List UInt8 := [3, 61, 28, 42, 180, 0, 16, 16, 28, 46, 162, 0, 18, 42, 28, 182, 0, 82, 27, 162, 0, 9]
abbrev dktX9_firstFrom_0 : List UInt8 := dkwX9_firstFrom_0 ++ dktX9_firstFrom_1
theorem dksX9_firstFrom_0 : cX9_firstFrom.data.toList.drop 0 = dktX9_firstFrom_0 := by decide +kernel
theorem dksX9_firstFrom_1 : cX9_firstFrom.data.toList.drop 22 = dktX9_firstFrom_1 := dk_seg dksX9_firstFrom_0 22 rfl rfl
theorem dX9_firstFrom_0 : decode cX9_firstFrom 0 = .ok (.iconst 0, 1) := dk_3 (dk_at dksX9_firstFrom_0 0 rfl rfl)
theorem dX9_firstFrom_1 : decode cX9_firstFrom 1 = .ok (.istore_n 2, 1) := dk_61 (dk_at dksX9_firstFrom_0 1 rfl rfl)
theorem dX9_firstFrom_2 : decode cX9_firstFrom 2 = .ok (.iload_n 2, 1) := dk_28 (dk_at dksX9_firstFrom_0 2 rfl rfl)
theorem dX9_firstFrom_3 : decode cX9_firstFrom 3 = .ok (.aload_n 0, 1) := dk_42 (dk_at dksX9_firstFrom_0 3 rfl rfl)
theorem dX9_firstFrom_4 : decode cX9_firstFrom 4 = .ok (.getfield 16, 3) := dk_180 0 16 (dk_at dksX9_firstFrom_0 4 rfl rfl)
theorem dX9_firstFrom_7 : decode cX9_firstFrom 7 = .ok (.bipush 28, 2) := dk_16 28 (dk_at dksX9_firstFrom_0 7 rfl rfl)
theorem dX9_firstFrom_9 : decode cX9_firstFrom 9 = .ok (.iaload, 1) := dk_46 (dk_at dksX9_firstFrom_0 9 rfl rfl)
theorem dX9_firstFrom_10 : decode cX9_firstFrom 10 = .ok (.if_icmp .ge 18, 3) := dk_162 0 18 (dk_at dksX9_firstFrom_0 10 rfl rfl)
theorem dX9_firstFrom_13 : decode cX9_firstFrom 13 = .ok (.aload_n 0, 1) := dk_42 (dk_at dksX9_firstFrom_0 13 rfl rfl)
theorem dX9_firstFrom_14 : decode cX9_firstFrom 14 = .ok (.iload_n 2, 1) := dk_28 (dk_at dksX9_firstFrom_0 14 rfl rfl)
theorem dX9_firstFrom_15 : decode cX9_firstFrom 15 = .ok (.invokevirtual 82, 3) := dk_182 0 82 (dk_at dksX9_firstFrom_0 15 rfl rfl)
theorem dX9_firstFrom_18 : decode cX9_firstFrom 18 = .ok (.iload_n 1, 1) := dk_27 (dk_at dksX9_firstFrom_0 18 rfl rfl)
theorem dX9_firstFrom_19 : decode cX9_firstFrom 19 = .ok (.if_icmp .ge 9, 3) := dk_162 0 9 (dk_at dksX9_firstFrom_0 19 rfl rfl)
theorem dX9_firstFrom_22 : decode cX9_firstFrom 22 = .ok (.iinc 2 1, 3) := dk_132 2 1 (dk_at dksX9_firstFrom_1 0 rfl rfl)
theorem dX9_firstFrom_25 : decode cX9_firstFrom 25 = .ok (.goto (-23), 3) := dk_167 255 233 (dk_at dksX9_firstFrom_1 3 rfl rfl)
theorem dX9_firstFrom_28 : decode cX9_firstFrom 28 = .ok (.iload_n 2, 1) := dk_28 (dk_at dksX9_firstFrom_1 6 rfl rfl)
theorem dX9_firstFrom_29 : decode cX9_firstFrom 29 = .ok (.aload_n 0, 1) := dk_42 (dk_at dksX9_firstFrom_1 7 rfl rfl)
theorem dX9_firstFrom_30 : decode cX9_firstFrom 30 = .ok (.getfield 16, 3) := dk_180 0 16 (dk_at dksX9_firstFrom_1 8 rfl rfl)
theorem dX9_firstFrom_33 : decode cX9_firstFrom 33 = .ok (.bipush 28, 2) := dk_16 28 (dk_at dksX9_firstFrom_1 11 rfl rfl)
theorem dX9_firstFrom_35 : decode cX9_firstFrom 35 = .ok (.iaload, 1) := dk_46 (dk_at dksX9_firstFrom_1 13 rfl rfl)
theorem dX9_firstFrom_36 : decode cX9_firstFrom 36 = .ok (.if_icmp .ne 7, 3) := dk_160 0 7 (dk_at dksX9_firstFrom_1 14 rfl rfl)
theorem dX9_firstFrom_39 : decode cX9_firstFrom 39 = .ok (.iconst 0, 1) := dk_3 (dk_at dksX9_firstFrom_1 17 rfl rfl)
theorem dX9_firstFrom_40 : decode cX9_firstFrom 40 = .ok (.goto 4, 3) := dk_167 0 4 (dk_at dksX9_firstFrom_1 18 rfl rfl)
theorem dX9_firstFrom_43 : decode cX9_firstFrom 43 = .ok (.iload_n 2, 1) := dk_28 (dk_at dksX9_firstFrom_1 21 rfl rfl)
theorem dX9_firstFrom_44 : decode cX9_firstFrom 44 = .ok (.ireturn, 1) := dk_172 (dk_at dksX9_firstFrom_1 22 rfl rfl)
abbrev cX9_isOpen : ByteArray := prog_13_method_23_code
def yX9_isOpen : MethodName := ⟨RX9, "isOpen", "(I)Z"⟩
def dkwX9_isOpen_0 : List UInt8 := [42, 27, 5, 182, 0, 78, 154, 0, 7, 4, 167, 0, 4, 3, 172]
abbrev dktX9_isOpen_0 : List UInt8 := dkwX9_isOpen_0 ++ []
theorem dksX9_isOpen_0 : cX9_isOpen.data.toList.drop 0 = dktX9_isOpen_0 := by decide +kernel
theorem dX9_isOpen_0 : decode cX9_isOpen 0 = .ok (.aload_n 0, 1) := dk_42 (dk_at dksX9_isOpen_0 0 rfl rfl)
theorem dX9_isOpen_1 : decode cX9_isOpen 1 = .ok (.iload_n 1, 1) := dk_27 (dk_at dksX9_isOpen_0 1 rfl rfl)
theorem dX9_isOpen_2 : decode cX9_isOpen 2 = .ok (.iconst 2, 1) := dk_5 (dk_at dksX9_isOpen_0 2 rfl rfl)
theorem dX9_isOpen_3 : decode cX9_isOpen 3 = .ok (.invokevirtual 78, 3) := dk_182 0 78 (dk_at dksX9_isOpen_0 3 rfl rfl)
theorem dX9_isOpen_6 : decode cX9_isOpen 6 = .ok (.ifCond .ne 7, 3) := dk_154 0 7 (dk_at dksX9_isOpen_0 6 rfl rfl)
theorem dX9_isOpen_9 : decode cX9_isOpen 9 = .ok (.iconst 1, 1) := dk_4 (dk_at dksX9_isOpen_0 9 rfl rfl)
theorem dX9_isOpen_10 : decode cX9_isOpen 10 = .ok (.goto 4, 3) := dk_167 0 4 (dk_at dksX9_isOpen_0 10 rfl rfl)
theorem dX9_isOpen_13 : decode cX9_isOpen 13 = .ok (.iconst 0, 1) := dk_3 (dk_at dksX9_isOpen_0 13 rfl rfl)
theorem dX9_isOpen_14 : decode cX9_isOpen 14 = .ok (.ireturn, 1) := dk_172 (dk_at dksX9_isOpen_0 14 rfl rfl)
abbrev cX9_ofBakery : ByteArray := prog_13_method_17_code
def yX9_ofBakery : MethodName := ⟨RX9, "ofBakery", "(II)I"⟩
def dkwX9_ofBakery_0 : List UInt8 := [42, 180, 0, 16, 7, 7, 27, 104, 96, 28, 96, 46, 172]
abbrev dktX9_ofBakery_0 : List UInt8 := dkwX9_ofBakery_0 ++ []
theorem dksX9_ofBakery_0 : cX9_ofBakery.data.toList.drop 0 = dktX9_ofBakery_0 := by decide +kernel
theorem dX9_ofBakery_0 : decode cX9_ofBakery 0 = .ok (.aload_n 0, 1) := dk_42 (dk_at dksX9_ofBakery_0 0 rfl rfl)
theorem dX9_ofBakery_1 : decode cX9_ofBakery 1 = .ok (.getfield 16, 3) := dk_180 0 16 (dk_at dksX9_ofBakery_0 1 rfl rfl)
theorem dX9_ofBakery_4 : decode cX9_ofBakery 4 = .ok (.iconst 4, 1) := dk_7 (dk_at dksX9_ofBakery_0 4 rfl rfl)
theorem dX9_ofBakery_5 : decode cX9_ofBakery 5 = .ok (.iconst 4, 1) := dk_7 (dk_at dksX9_ofBakery_0 5 rfl rfl)
theorem dX9_ofBakery_6 : decode cX9_ofBakery 6 = .ok (.iload_n 1, 1) := dk_27 (dk_at dksX9_ofBakery_0 6 rfl rfl)
theorem dX9_ofBakery_7 : decode cX9_ofBakery 7 = .ok (.imul, 1) := dk_104 (dk_at dksX9_ofBakery_0 7 rfl rfl)
theorem dX9_ofBakery_8 : decode cX9_ofBakery 8 = .ok (.iadd, 1) := dk_96 (dk_at dksX9_ofBakery_0 8 rfl rfl)
theorem dX9_ofBakery_9 : decode cX9_ofBakery 9 = .ok (.iload_n 2, 1) := dk_28 (dk_at dksX9_ofBakery_0 9 rfl rfl)
theorem dX9_ofBakery_10 : decode cX9_ofBakery 10 = .ok (.iadd, 1) := dk_96 (dk_at dksX9_ofBakery_0 10 rfl rfl)
theorem dX9_ofBakery_11 : decode cX9_ofBakery 11 = .ok (.iaload, 1) := dk_46 (dk_at dksX9_ofBakery_0 11 rfl rfl)
theorem dX9_ofBakery_12 : decode cX9_ofBakery 12 = .ok (.ireturn, 1) := dk_172 (dk_at dksX9_ofBakery_0 12 rfl rfl)
abbrev cX9_roomOf : ByteArray := prog_13_method_24_code
def yX9_roomOf : MethodName := ⟨RX9, "roomOf", "(I)I"⟩
def dkwX9_roomOf_1 : List UInt8 := [167, 0, 20, 42, 27, 3, 182, 0, 78, 5, 160, 0, 9, 28, 6, 96, 167, 0, 4, 28, 172]
abbrev dktX9_roomOf_1 : List UInt8 := dkwX9_roomOf_1 ++ []
def dkwX9_roomOf_0 : List UInt8 := [42, 27, 4, 182, 0, 78, 61, 42, 27, 3, 182, 0, 78, 4, 160, 0, 11, 28, 28, 5, 108, 96]
abbrev dktX9_roomOf_0 : List UInt8 := dkwX9_roomOf_0 ++ dktX9_roomOf_1
theorem dksX9_roomOf_0 : cX9_roomOf.data.toList.drop 0 = dktX9_roomOf_0 := by decide +kernel
theorem dksX9_roomOf_1 : cX9_roomOf.data.toList.drop 22 = dktX9_roomOf_1 := dk_seg dksX9_roomOf_0 22 rfl rfl
theorem dX9_roomOf_0 : decode cX9_roomOf 0 = .ok (.aload_n 0, 1) := dk_42 (dk_at dksX9_roomOf_0 0 rfl rfl)
theorem dX9_roomOf_1 : decode cX9_roomOf 1 = .ok (.iload_n 1, 1) := dk_27 (dk_at dksX9_roomOf_0 1 rfl rfl)
theorem dX9_roomOf_2 : decode cX9_roomOf 2 = .ok (.iconst 1, 1) := dk_4 (dk_at dksX9_roomOf_0 2 rfl rfl)
theorem dX9_roomOf_3 : decode cX9_roomOf 3 = .ok (.invokevirtual 78, 3) := dk_182 0 78 (dk_at dksX9_roomOf_0 3 rfl rfl)
theorem dX9_roomOf_6 : decode cX9_roomOf 6 = .ok (.istore_n 2, 1) := dk_61 (dk_at dksX9_roomOf_0 6 rfl rfl)
theorem dX9_roomOf_7 : decode cX9_roomOf 7 = .ok (.aload_n 0, 1) := dk_42 (dk_at dksX9_roomOf_0 7 rfl rfl)
theorem dX9_roomOf_8 : decode cX9_roomOf 8 = .ok (.iload_n 1, 1) := dk_27 (dk_at dksX9_roomOf_0 8 rfl rfl)
theorem dX9_roomOf_9 : decode cX9_roomOf 9 = .ok (.iconst 0, 1) := dk_3 (dk_at dksX9_roomOf_0 9 rfl rfl)
theorem dX9_roomOf_10 : decode cX9_roomOf 10 = .ok (.invokevirtual 78, 3) := dk_182 0 78 (dk_at dksX9_roomOf_0 10 rfl rfl)
theorem dX9_roomOf_13 : decode cX9_roomOf 13 = .ok (.iconst 1, 1) := dk_4 (dk_at dksX9_roomOf_0 13 rfl rfl)
theorem dX9_roomOf_14 : decode cX9_roomOf 14 = .ok (.if_icmp .ne 11, 3) := dk_160 0 11 (dk_at dksX9_roomOf_0 14 rfl rfl)
theorem dX9_roomOf_17 : decode cX9_roomOf 17 = .ok (.iload_n 2, 1) := dk_28 (dk_at dksX9_roomOf_0 17 rfl rfl)
theorem dX9_roomOf_18 : decode cX9_roomOf 18 = .ok (.iload_n 2, 1) := dk_28 (dk_at dksX9_roomOf_0 18 rfl rfl)
theorem dX9_roomOf_19 : decode cX9_roomOf 19 = .ok (.iconst 2, 1) := dk_5 (dk_at dksX9_roomOf_0 19 rfl rfl)
theorem dX9_roomOf_20 : decode cX9_roomOf 20 = .ok (.idiv, 1) := dk_108 (dk_at dksX9_roomOf_0 20 rfl rfl)
theorem dX9_roomOf_21 : decode cX9_roomOf 21 = .ok (.iadd, 1) := dk_96 (dk_at dksX9_roomOf_0 21 rfl rfl)
theorem dX9_roomOf_22 : decode cX9_roomOf 22 = .ok (.goto 20, 3) := dk_167 0 20 (dk_at dksX9_roomOf_1 0 rfl rfl)
theorem dX9_roomOf_25 : decode cX9_roomOf 25 = .ok (.aload_n 0, 1) := dk_42 (dk_at dksX9_roomOf_1 3 rfl rfl)
theorem dX9_roomOf_26 : decode cX9_roomOf 26 = .ok (.iload_n 1, 1) := dk_27 (dk_at dksX9_roomOf_1 4 rfl rfl)
theorem dX9_roomOf_27 : decode cX9_roomOf 27 = .ok (.iconst 0, 1) := dk_3 (dk_at dksX9_roomOf_1 5 rfl rfl)
theorem dX9_roomOf_28 : decode cX9_roomOf 28 = .ok (.invokevirtual 78, 3) := dk_182 0 78 (dk_at dksX9_roomOf_1 6 rfl rfl)
theorem dX9_roomOf_31 : decode cX9_roomOf 31 = .ok (.iconst 2, 1) := dk_5 (dk_at dksX9_roomOf_1 9 rfl rfl)
theorem dX9_roomOf_32 : decode cX9_roomOf 32 = .ok (.if_icmp .ne 9, 3) := dk_160 0 9 (dk_at dksX9_roomOf_1 10 rfl rfl)
theorem dX9_roomOf_35 : decode cX9_roomOf 35 = .ok (.iload_n 2, 1) := dk_28 (dk_at dksX9_roomOf_1 13 rfl rfl)
theorem dX9_roomOf_36 : decode cX9_roomOf 36 = .ok (.iconst 3, 1) := dk_6 (dk_at dksX9_roomOf_1 14 rfl rfl)
theorem dX9_roomOf_37 : decode cX9_roomOf 37 = .ok (.iadd, 1) := dk_96 (dk_at dksX9_roomOf_1 15 rfl rfl)
theorem dX9_roomOf_38 : decode cX9_roomOf 38 = .ok (.goto 4, 3) := dk_167 0 4 (dk_at dksX9_roomOf_1 16 rfl rfl)
theorem dX9_roomOf_41 : decode cX9_roomOf 41 = .ok (.iload_n 2, 1) := dk_28 (dk_at dksX9_roomOf_1 19 rfl rfl)
theorem dX9_roomOf_42 : decode cX9_roomOf 42 = .ok (.ireturn, 1) := dk_172 (dk_at dksX9_roomOf_1 20 rfl rfl)
abbrev cX9_sets : ByteArray := prog_13_method_20_code
def yX9_sets : MethodName := ⟨RX9, "sets", "(III)V"⟩
def dkwX9_sets_0 : List UInt8 := [42, 180, 0, 16, 16, 79, 16, 6, 27, 104, 96, 28, 96, 29, 79, 177]
abbrev dktX9_sets_0 : List UInt8 := dkwX9_sets_0 ++ []
theorem dksX9_sets_0 : cX9_sets.data.toList.drop 0 = dktX9_sets_0 := by decide +kernel
theorem dX9_sets_0 : decode cX9_sets 0 = .ok (.aload_n 0, 1) := dk_42 (dk_at dksX9_sets_0 0 rfl rfl)
theorem dX9_sets_1 : decode cX9_sets 1 = .ok (.getfield 16, 3) := dk_180 0 16 (dk_at dksX9_sets_0 1 rfl rfl)
theorem dX9_sets_4 : decode cX9_sets 4 = .ok (.bipush 79, 2) := dk_16 79 (dk_at dksX9_sets_0 4 rfl rfl)
theorem dX9_sets_6 : decode cX9_sets 6 = .ok (.bipush 6, 2) := dk_16 6 (dk_at dksX9_sets_0 6 rfl rfl)
theorem dX9_sets_8 : decode cX9_sets 8 = .ok (.iload_n 1, 1) := dk_27 (dk_at dksX9_sets_0 8 rfl rfl)
theorem dX9_sets_9 : decode cX9_sets 9 = .ok (.imul, 1) := dk_104 (dk_at dksX9_sets_0 9 rfl rfl)
theorem dX9_sets_10 : decode cX9_sets 10 = .ok (.iadd, 1) := dk_96 (dk_at dksX9_sets_0 10 rfl rfl)
theorem dX9_sets_11 : decode cX9_sets 11 = .ok (.iload_n 2, 1) := dk_28 (dk_at dksX9_sets_0 11 rfl rfl)
theorem dX9_sets_12 : decode cX9_sets 12 = .ok (.iadd, 1) := dk_96 (dk_at dksX9_sets_0 12 rfl rfl)
theorem dX9_sets_13 : decode cX9_sets 13 = .ok (.iload_n 3, 1) := dk_29 (dk_at dksX9_sets_0 13 rfl rfl)
theorem dX9_sets_14 : decode cX9_sets 14 = .ok (.iastore, 1) := dk_79 (dk_at dksX9_sets_0 14 rfl rfl)
theorem dX9_sets_15 : decode cX9_sets 15 = .ok (.return_, 1) := dk_177 (dk_at dksX9_sets_0 15 rfl rfl)
abbrev cX9_down : ByteArray := prog_13_method_42_code
def yX9_down : MethodName := ⟨RX9, "down", "(I)I"⟩
def dkwX9_down_1 : List UInt8 := [182, 0, 124, 42, 27, 182, 0, 165, 172]
abbrev dktX9_down_1 : List UInt8 := dkwX9_down_1 ++ []
def dkwX9_down_0 : List UInt8 := [42, 3, 181, 0, 45, 42, 27, 182, 0, 162, 61, 28, 153, 0, 9, 42, 28, 182, 0, 121, 172, 42]
abbrev dktX9_down_0 : List UInt8 := dkwX9_down_0 ++ dktX9_down_1
theorem dksX9_down_0 : cX9_down.data.toList.drop 0 = dktX9_down_0 := by decide +kernel
theorem dksX9_down_1 : cX9_down.data.toList.drop 22 = dktX9_down_1 := dk_seg dksX9_down_0 22 rfl rfl
theorem dX9_down_0 : decode cX9_down 0 = .ok (.aload_n 0, 1) := dk_42 (dk_at dksX9_down_0 0 rfl rfl)
theorem dX9_down_1 : decode cX9_down 1 = .ok (.iconst 0, 1) := dk_3 (dk_at dksX9_down_0 1 rfl rfl)
theorem dX9_down_2 : decode cX9_down 2 = .ok (.putfield 45, 3) := dk_181 0 45 (dk_at dksX9_down_0 2 rfl rfl)
theorem dX9_down_5 : decode cX9_down 5 = .ok (.aload_n 0, 1) := dk_42 (dk_at dksX9_down_0 5 rfl rfl)
theorem dX9_down_6 : decode cX9_down 6 = .ok (.iload_n 1, 1) := dk_27 (dk_at dksX9_down_0 6 rfl rfl)
theorem dX9_down_7 : decode cX9_down 7 = .ok (.invokevirtual 162, 3) := dk_182 0 162 (dk_at dksX9_down_0 7 rfl rfl)
theorem dX9_down_10 : decode cX9_down 10 = .ok (.istore_n 2, 1) := dk_61 (dk_at dksX9_down_0 10 rfl rfl)
theorem dX9_down_11 : decode cX9_down 11 = .ok (.iload_n 2, 1) := dk_28 (dk_at dksX9_down_0 11 rfl rfl)
theorem dX9_down_12 : decode cX9_down 12 = .ok (.ifCond .eq 9, 3) := dk_153 0 9 (dk_at dksX9_down_0 12 rfl rfl)
theorem dX9_down_15 : decode cX9_down 15 = .ok (.aload_n 0, 1) := dk_42 (dk_at dksX9_down_0 15 rfl rfl)
theorem dX9_down_16 : decode cX9_down 16 = .ok (.iload_n 2, 1) := dk_28 (dk_at dksX9_down_0 16 rfl rfl)
theorem dX9_down_17 : decode cX9_down 17 = .ok (.invokevirtual 121, 3) := dk_182 0 121 (dk_at dksX9_down_0 17 rfl rfl)
theorem dX9_down_20 : decode cX9_down 20 = .ok (.ireturn, 1) := dk_172 (dk_at dksX9_down_0 20 rfl rfl)
theorem dX9_down_21 : decode cX9_down 21 = .ok (.aload_n 0, 1) := dk_42 (dk_at dksX9_down_0 21 rfl rfl)
theorem dX9_down_22 : decode cX9_down 22 = .ok (.invokevirtual 124, 3) := dk_182 0 124 (dk_at dksX9_down_1 0 rfl rfl)
theorem dX9_down_25 : decode cX9_down 25 = .ok (.aload_n 0, 1) := dk_42 (dk_at dksX9_down_1 3 rfl rfl)
theorem dX9_down_26 : decode cX9_down 26 = .ok (.iload_n 1, 1) := dk_27 (dk_at dksX9_down_1 4 rfl rfl)
theorem dX9_down_27 : decode cX9_down 27 = .ok (.invokevirtual 165, 3) := dk_182 0 165 (dk_at dksX9_down_1 5 rfl rfl)
theorem dX9_down_30 : decode cX9_down 30 = .ok (.ireturn, 1) := dk_172 (dk_at dksX9_down_1 8 rfl rfl)
abbrev cX9_notDown : ByteArray := prog_13_method_40_code
def yX9_notDown : MethodName := ⟨RX9, "notDown", "(I)I"⟩
def dkwX9_notDown_1 : List UInt8 := [27, 182, 0, 117, 167, 0, 4, 3, 172]
abbrev dktX9_notDown_1 : List UInt8 := dkwX9_notDown_1 ++ []
def dkwX9_notDown_0 : List UInt8 := [27, 184, 0, 133, 154, 0, 9, 42, 4, 182, 0, 136, 172, 42, 27, 182, 0, 139, 156, 0, 13, 42, 5, 6]
abbrev dktX9_notDown_0 : List UInt8 := dkwX9_notDown_0 ++ dktX9_notDown_1
theorem dksX9_notDown_0 : cX9_notDown.data.toList.drop 0 = dktX9_notDown_0 := by decide +kernel
theorem dksX9_notDown_1 : cX9_notDown.data.toList.drop 24 = dktX9_notDown_1 := dk_seg dksX9_notDown_0 24 rfl rfl
theorem dX9_notDown_0 : decode cX9_notDown 0 = .ok (.iload_n 1, 1) := dk_27 (dk_at dksX9_notDown_0 0 rfl rfl)
theorem dX9_notDown_1 : decode cX9_notDown 1 = .ok (.invokestatic 133, 3) := dk_184 0 133 (dk_at dksX9_notDown_0 1 rfl rfl)
theorem dX9_notDown_4 : decode cX9_notDown 4 = .ok (.ifCond .ne 9, 3) := dk_154 0 9 (dk_at dksX9_notDown_0 4 rfl rfl)
theorem dX9_notDown_7 : decode cX9_notDown 7 = .ok (.aload_n 0, 1) := dk_42 (dk_at dksX9_notDown_0 7 rfl rfl)
theorem dX9_notDown_8 : decode cX9_notDown 8 = .ok (.iconst 1, 1) := dk_4 (dk_at dksX9_notDown_0 8 rfl rfl)
theorem dX9_notDown_9 : decode cX9_notDown 9 = .ok (.invokevirtual 136, 3) := dk_182 0 136 (dk_at dksX9_notDown_0 9 rfl rfl)
theorem dX9_notDown_12 : decode cX9_notDown 12 = .ok (.ireturn, 1) := dk_172 (dk_at dksX9_notDown_0 12 rfl rfl)
theorem dX9_notDown_13 : decode cX9_notDown 13 = .ok (.aload_n 0, 1) := dk_42 (dk_at dksX9_notDown_0 13 rfl rfl)
theorem dX9_notDown_14 : decode cX9_notDown 14 = .ok (.iload_n 1, 1) := dk_27 (dk_at dksX9_notDown_0 14 rfl rfl)
theorem dX9_notDown_15 : decode cX9_notDown 15 = .ok (.invokevirtual 139, 3) := dk_182 0 139 (dk_at dksX9_notDown_0 15 rfl rfl)
theorem dX9_notDown_18 : decode cX9_notDown 18 = .ok (.ifCond .ge 13, 3) := dk_156 0 13 (dk_at dksX9_notDown_0 18 rfl rfl)
theorem dX9_notDown_21 : decode cX9_notDown 21 = .ok (.aload_n 0, 1) := dk_42 (dk_at dksX9_notDown_0 21 rfl rfl)
theorem dX9_notDown_22 : decode cX9_notDown 22 = .ok (.iconst 2, 1) := dk_5 (dk_at dksX9_notDown_0 22 rfl rfl)
theorem dX9_notDown_23 : decode cX9_notDown 23 = .ok (.iconst 3, 1) := dk_6 (dk_at dksX9_notDown_0 23 rfl rfl)
theorem dX9_notDown_24 : decode cX9_notDown 24 = .ok (.iload_n 1, 1) := dk_27 (dk_at dksX9_notDown_1 0 rfl rfl)
theorem dX9_notDown_25 : decode cX9_notDown 25 = .ok (.invokevirtual 117, 3) := dk_182 0 117 (dk_at dksX9_notDown_1 1 rfl rfl)
theorem dX9_notDown_28 : decode cX9_notDown 28 = .ok (.goto 4, 3) := dk_167 0 4 (dk_at dksX9_notDown_1 4 rfl rfl)
theorem dX9_notDown_31 : decode cX9_notDown 31 = .ok (.iconst 0, 1) := dk_3 (dk_at dksX9_notDown_1 7 rfl rfl)
theorem dX9_notDown_32 : decode cX9_notDown 32 = .ok (.ireturn, 1) := dk_172 (dk_at dksX9_notDown_1 8 rfl rfl)
abbrev cX9_downs : ByteArray := prog_13_method_41_code
def yX9_downs : MethodName := ⟨RX9, "downs", "(I)I"⟩
def dkwX9_downs_0 : List UInt8 := [42, 42, 27, 182, 0, 139, 182, 0, 158, 42, 2, 182, 0, 149, 172]
abbrev dktX9_downs_0 : List UInt8 := dkwX9_downs_0 ++ []
theorem dksX9_downs_0 : cX9_downs.data.toList.drop 0 = dktX9_downs_0 := by decide +kernel
theorem dX9_downs_0 : decode cX9_downs 0 = .ok (.aload_n 0, 1) := dk_42 (dk_at dksX9_downs_0 0 rfl rfl)
theorem dX9_downs_1 : decode cX9_downs 1 = .ok (.aload_n 0, 1) := dk_42 (dk_at dksX9_downs_0 1 rfl rfl)
theorem dX9_downs_2 : decode cX9_downs 2 = .ok (.iload_n 1, 1) := dk_27 (dk_at dksX9_downs_0 2 rfl rfl)
theorem dX9_downs_3 : decode cX9_downs 3 = .ok (.invokevirtual 139, 3) := dk_182 0 139 (dk_at dksX9_downs_0 3 rfl rfl)
theorem dX9_downs_6 : decode cX9_downs 6 = .ok (.invokevirtual 158, 3) := dk_182 0 158 (dk_at dksX9_downs_0 6 rfl rfl)
theorem dX9_downs_9 : decode cX9_downs 9 = .ok (.aload_n 0, 1) := dk_42 (dk_at dksX9_downs_0 9 rfl rfl)
theorem dX9_downs_10 : decode cX9_downs 10 = .ok (.iconst (-1), 1) := dk_2 (dk_at dksX9_downs_0 10 rfl rfl)
theorem dX9_downs_11 : decode cX9_downs 11 = .ok (.invokevirtual 149, 3) := dk_182 0 149 (dk_at dksX9_downs_0 11 rfl rfl)
theorem dX9_downs_14 : decode cX9_downs 14 = .ok (.ireturn, 1) := dk_172 (dk_at dksX9_downs_0 14 rfl rfl)
abbrev cX9_takesDown : ByteArray := prog_13_method_29_code
def yX9_takesDown : MethodName := ⟨RX9, "takesDown", "(I)V"⟩
def dkwX9_takesDown_4 : List UInt8 := [180, 0, 16, 16, 28, 46, 104, 96, 4, 96, 3, 79, 177]
abbrev dktX9_takesDown_4 : List UInt8 := dkwX9_takesDown_4 ++ []
def dkwX9_takesDown_3 : List UInt8 := [16, 29, 5, 42, 180, 0, 16, 16, 28, 46, 104, 96, 3, 79, 42, 180, 0, 16, 16, 29, 5, 42]
abbrev dktX9_takesDown_3 : List UInt8 := dkwX9_takesDown_3 ++ dktX9_takesDown_4
def dkwX9_takesDown_2 : List UInt8 := [5, 28, 104, 96, 4, 96, 42, 28, 4, 96, 182, 0, 85, 79, 132, 2, 1, 167, 255, 204, 42, 180, 0, 16]
abbrev dktX9_takesDown_2 : List UInt8 := dkwX9_takesDown_2 ++ dktX9_takesDown_3
def dkwX9_takesDown_1 : List UInt8 := [42, 180, 0, 16, 16, 29, 5, 28, 104, 96, 42, 28, 4, 96, 182, 0, 82, 79, 42, 180, 0, 16, 16, 29]
abbrev dktX9_takesDown_1 : List UInt8 := dkwX9_takesDown_1 ++ dktX9_takesDown_2
def dkwX9_takesDown_0 : List UInt8 := [42, 180, 0, 16, 16, 28, 92, 46, 4, 100, 79, 27, 61, 28, 42, 180, 0, 16, 16, 28, 46, 162, 0, 47]
abbrev dktX9_takesDown_0 : List UInt8 := dkwX9_takesDown_0 ++ dktX9_takesDown_1
theorem dksX9_takesDown_0 : cX9_takesDown.data.toList.drop 0 = dktX9_takesDown_0 := by decide +kernel
theorem dksX9_takesDown_1 : cX9_takesDown.data.toList.drop 24 = dktX9_takesDown_1 := dk_seg dksX9_takesDown_0 24 rfl rfl
theorem dksX9_takesDown_2 : cX9_takesDown.data.toList.drop 48 = dktX9_takesDown_2 := dk_seg dksX9_takesDown_1 24 rfl rfl
theorem dksX9_takesDown_3 : cX9_takesDown.data.toList.drop 72 = dktX9_takesDown_3 := dk_seg dksX9_takesDown_2 24 rfl rfl
theorem dksX9_takesDown_4 : cX9_takesDown.data.toList.drop 94 = dktX9_takesDown_4 := dk_seg dksX9_takesDown_3 22 rfl rfl
theorem dX9_takesDown_0 : decode cX9_takesDown 0 = .ok (.aload_n 0, 1) := dk_42 (dk_at dksX9_takesDown_0 0 rfl rfl)
theorem dX9_takesDown_1 : decode cX9_takesDown 1 = .ok (.getfield 16, 3) := dk_180 0 16 (dk_at dksX9_takesDown_0 1 rfl rfl)
theorem dX9_takesDown_4 : decode cX9_takesDown 4 = .ok (.bipush 28, 2) := dk_16 28 (dk_at dksX9_takesDown_0 4 rfl rfl)
theorem dX9_takesDown_6 : decode cX9_takesDown 6 = .ok (.dup2, 1) := dk_92 (dk_at dksX9_takesDown_0 6 rfl rfl)
theorem dX9_takesDown_7 : decode cX9_takesDown 7 = .ok (.iaload, 1) := dk_46 (dk_at dksX9_takesDown_0 7 rfl rfl)
theorem dX9_takesDown_8 : decode cX9_takesDown 8 = .ok (.iconst 1, 1) := dk_4 (dk_at dksX9_takesDown_0 8 rfl rfl)
theorem dX9_takesDown_9 : decode cX9_takesDown 9 = .ok (.isub, 1) := dk_100 (dk_at dksX9_takesDown_0 9 rfl rfl)
theorem dX9_takesDown_10 : decode cX9_takesDown 10 = .ok (.iastore, 1) := dk_79 (dk_at dksX9_takesDown_0 10 rfl rfl)
theorem dX9_takesDown_11 : decode cX9_takesDown 11 = .ok (.iload_n 1, 1) := dk_27 (dk_at dksX9_takesDown_0 11 rfl rfl)
theorem dX9_takesDown_12 : decode cX9_takesDown 12 = .ok (.istore_n 2, 1) := dk_61 (dk_at dksX9_takesDown_0 12 rfl rfl)
theorem dX9_takesDown_13 : decode cX9_takesDown 13 = .ok (.iload_n 2, 1) := dk_28 (dk_at dksX9_takesDown_0 13 rfl rfl)
theorem dX9_takesDown_14 : decode cX9_takesDown 14 = .ok (.aload_n 0, 1) := dk_42 (dk_at dksX9_takesDown_0 14 rfl rfl)
theorem dX9_takesDown_15 : decode cX9_takesDown 15 = .ok (.getfield 16, 3) := dk_180 0 16 (dk_at dksX9_takesDown_0 15 rfl rfl)
theorem dX9_takesDown_18 : decode cX9_takesDown 18 = .ok (.bipush 28, 2) := dk_16 28 (dk_at dksX9_takesDown_0 18 rfl rfl)
theorem dX9_takesDown_20 : decode cX9_takesDown 20 = .ok (.iaload, 1) := dk_46 (dk_at dksX9_takesDown_0 20 rfl rfl)
theorem dX9_takesDown_21 : decode cX9_takesDown 21 = .ok (.if_icmp .ge 47, 3) := dk_162 0 47 (dk_at dksX9_takesDown_0 21 rfl rfl)
theorem dX9_takesDown_24 : decode cX9_takesDown 24 = .ok (.aload_n 0, 1) := dk_42 (dk_at dksX9_takesDown_1 0 rfl rfl)
theorem dX9_takesDown_25 : decode cX9_takesDown 25 = .ok (.getfield 16, 3) := dk_180 0 16 (dk_at dksX9_takesDown_1 1 rfl rfl)
theorem dX9_takesDown_28 : decode cX9_takesDown 28 = .ok (.bipush 29, 2) := dk_16 29 (dk_at dksX9_takesDown_1 4 rfl rfl)
theorem dX9_takesDown_30 : decode cX9_takesDown 30 = .ok (.iconst 2, 1) := dk_5 (dk_at dksX9_takesDown_1 6 rfl rfl)
theorem dX9_takesDown_31 : decode cX9_takesDown 31 = .ok (.iload_n 2, 1) := dk_28 (dk_at dksX9_takesDown_1 7 rfl rfl)
theorem dX9_takesDown_32 : decode cX9_takesDown 32 = .ok (.imul, 1) := dk_104 (dk_at dksX9_takesDown_1 8 rfl rfl)
theorem dX9_takesDown_33 : decode cX9_takesDown 33 = .ok (.iadd, 1) := dk_96 (dk_at dksX9_takesDown_1 9 rfl rfl)
theorem dX9_takesDown_34 : decode cX9_takesDown 34 = .ok (.aload_n 0, 1) := dk_42 (dk_at dksX9_takesDown_1 10 rfl rfl)
theorem dX9_takesDown_35 : decode cX9_takesDown 35 = .ok (.iload_n 2, 1) := dk_28 (dk_at dksX9_takesDown_1 11 rfl rfl)
theorem dX9_takesDown_36 : decode cX9_takesDown 36 = .ok (.iconst 1, 1) := dk_4 (dk_at dksX9_takesDown_1 12 rfl rfl)
theorem dX9_takesDown_37 : decode cX9_takesDown 37 = .ok (.iadd, 1) := dk_96 (dk_at dksX9_takesDown_1 13 rfl rfl)
theorem dX9_takesDown_38 : decode cX9_takesDown 38 = .ok (.invokevirtual 82, 3) := dk_182 0 82 (dk_at dksX9_takesDown_1 14 rfl rfl)
theorem dX9_takesDown_41 : decode cX9_takesDown 41 = .ok (.iastore, 1) := dk_79 (dk_at dksX9_takesDown_1 17 rfl rfl)
theorem dX9_takesDown_42 : decode cX9_takesDown 42 = .ok (.aload_n 0, 1) := dk_42 (dk_at dksX9_takesDown_1 18 rfl rfl)
theorem dX9_takesDown_43 : decode cX9_takesDown 43 = .ok (.getfield 16, 3) := dk_180 0 16 (dk_at dksX9_takesDown_1 19 rfl rfl)
theorem dX9_takesDown_46 : decode cX9_takesDown 46 = .ok (.bipush 29, 2) := dk_16 29 (dk_at dksX9_takesDown_1 22 rfl rfl)
theorem dX9_takesDown_48 : decode cX9_takesDown 48 = .ok (.iconst 2, 1) := dk_5 (dk_at dksX9_takesDown_2 0 rfl rfl)
theorem dX9_takesDown_49 : decode cX9_takesDown 49 = .ok (.iload_n 2, 1) := dk_28 (dk_at dksX9_takesDown_2 1 rfl rfl)
theorem dX9_takesDown_50 : decode cX9_takesDown 50 = .ok (.imul, 1) := dk_104 (dk_at dksX9_takesDown_2 2 rfl rfl)
theorem dX9_takesDown_51 : decode cX9_takesDown 51 = .ok (.iadd, 1) := dk_96 (dk_at dksX9_takesDown_2 3 rfl rfl)
theorem dX9_takesDown_52 : decode cX9_takesDown 52 = .ok (.iconst 1, 1) := dk_4 (dk_at dksX9_takesDown_2 4 rfl rfl)
theorem dX9_takesDown_53 : decode cX9_takesDown 53 = .ok (.iadd, 1) := dk_96 (dk_at dksX9_takesDown_2 5 rfl rfl)
theorem dX9_takesDown_54 : decode cX9_takesDown 54 = .ok (.aload_n 0, 1) := dk_42 (dk_at dksX9_takesDown_2 6 rfl rfl)
theorem dX9_takesDown_55 : decode cX9_takesDown 55 = .ok (.iload_n 2, 1) := dk_28 (dk_at dksX9_takesDown_2 7 rfl rfl)
theorem dX9_takesDown_56 : decode cX9_takesDown 56 = .ok (.iconst 1, 1) := dk_4 (dk_at dksX9_takesDown_2 8 rfl rfl)
theorem dX9_takesDown_57 : decode cX9_takesDown 57 = .ok (.iadd, 1) := dk_96 (dk_at dksX9_takesDown_2 9 rfl rfl)
theorem dX9_takesDown_58 : decode cX9_takesDown 58 = .ok (.invokevirtual 85, 3) := dk_182 0 85 (dk_at dksX9_takesDown_2 10 rfl rfl)
theorem dX9_takesDown_61 : decode cX9_takesDown 61 = .ok (.iastore, 1) := dk_79 (dk_at dksX9_takesDown_2 13 rfl rfl)
theorem dX9_takesDown_62 : decode cX9_takesDown 62 = .ok (.iinc 2 1, 3) := dk_132 2 1 (dk_at dksX9_takesDown_2 14 rfl rfl)
theorem dX9_takesDown_65 : decode cX9_takesDown 65 = .ok (.goto (-52), 3) := dk_167 255 204 (dk_at dksX9_takesDown_2 17 rfl rfl)
theorem dX9_takesDown_68 : decode cX9_takesDown 68 = .ok (.aload_n 0, 1) := dk_42 (dk_at dksX9_takesDown_2 20 rfl rfl)
theorem dX9_takesDown_69 : decode cX9_takesDown 69 = .ok (.getfield 16, 3) := dk_180 0 16 (dk_at dksX9_takesDown_2 21 rfl rfl)
theorem dX9_takesDown_72 : decode cX9_takesDown 72 = .ok (.bipush 29, 2) := dk_16 29 (dk_at dksX9_takesDown_3 0 rfl rfl)
theorem dX9_takesDown_74 : decode cX9_takesDown 74 = .ok (.iconst 2, 1) := dk_5 (dk_at dksX9_takesDown_3 2 rfl rfl)
theorem dX9_takesDown_75 : decode cX9_takesDown 75 = .ok (.aload_n 0, 1) := dk_42 (dk_at dksX9_takesDown_3 3 rfl rfl)
theorem dX9_takesDown_76 : decode cX9_takesDown 76 = .ok (.getfield 16, 3) := dk_180 0 16 (dk_at dksX9_takesDown_3 4 rfl rfl)
theorem dX9_takesDown_79 : decode cX9_takesDown 79 = .ok (.bipush 28, 2) := dk_16 28 (dk_at dksX9_takesDown_3 7 rfl rfl)
theorem dX9_takesDown_81 : decode cX9_takesDown 81 = .ok (.iaload, 1) := dk_46 (dk_at dksX9_takesDown_3 9 rfl rfl)
theorem dX9_takesDown_82 : decode cX9_takesDown 82 = .ok (.imul, 1) := dk_104 (dk_at dksX9_takesDown_3 10 rfl rfl)
theorem dX9_takesDown_83 : decode cX9_takesDown 83 = .ok (.iadd, 1) := dk_96 (dk_at dksX9_takesDown_3 11 rfl rfl)
theorem dX9_takesDown_84 : decode cX9_takesDown 84 = .ok (.iconst 0, 1) := dk_3 (dk_at dksX9_takesDown_3 12 rfl rfl)
theorem dX9_takesDown_85 : decode cX9_takesDown 85 = .ok (.iastore, 1) := dk_79 (dk_at dksX9_takesDown_3 13 rfl rfl)
theorem dX9_takesDown_86 : decode cX9_takesDown 86 = .ok (.aload_n 0, 1) := dk_42 (dk_at dksX9_takesDown_3 14 rfl rfl)
theorem dX9_takesDown_87 : decode cX9_takesDown 87 = .ok (.getfield 16, 3) := dk_180 0 16 (dk_at dksX9_takesDown_3 15 rfl rfl)
theorem dX9_takesDown_90 : decode cX9_takesDown 90 = .ok (.bipush 29, 2) := dk_16 29 (dk_at dksX9_takesDown_3 18 rfl rfl)
theorem dX9_takesDown_92 : decode cX9_takesDown 92 = .ok (.iconst 2, 1) := dk_5 (dk_at dksX9_takesDown_3 20 rfl rfl)
theorem dX9_takesDown_93 : decode cX9_takesDown 93 = .ok (.aload_n 0, 1) := dk_42 (dk_at dksX9_takesDown_3 21 rfl rfl)
theorem dX9_takesDown_94 : decode cX9_takesDown 94 = .ok (.getfield 16, 3) := dk_180 0 16 (dk_at dksX9_takesDown_4 0 rfl rfl)
theorem dX9_takesDown_97 : decode cX9_takesDown 97 = .ok (.bipush 28, 2) := dk_16 28 (dk_at dksX9_takesDown_4 3 rfl rfl)
theorem dX9_takesDown_99 : decode cX9_takesDown 99 = .ok (.iaload, 1) := dk_46 (dk_at dksX9_takesDown_4 5 rfl rfl)
theorem dX9_takesDown_100 : decode cX9_takesDown 100 = .ok (.imul, 1) := dk_104 (dk_at dksX9_takesDown_4 6 rfl rfl)
theorem dX9_takesDown_101 : decode cX9_takesDown 101 = .ok (.iadd, 1) := dk_96 (dk_at dksX9_takesDown_4 7 rfl rfl)
theorem dX9_takesDown_102 : decode cX9_takesDown 102 = .ok (.iconst 1, 1) := dk_4 (dk_at dksX9_takesDown_4 8 rfl rfl)
theorem dX9_takesDown_103 : decode cX9_takesDown 103 = .ok (.iadd, 1) := dk_96 (dk_at dksX9_takesDown_4 9 rfl rfl)
theorem dX9_takesDown_104 : decode cX9_takesDown 104 = .ok (.iconst 0, 1) := dk_3 (dk_at dksX9_takesDown_4 10 rfl rfl)
theorem dX9_takesDown_105 : decode cX9_takesDown 105 = .ok (.iastore, 1) := dk_79 (dk_at dksX9_takesDown_4 11 rfl rfl)
theorem dX9_takesDown_106 : decode cX9_takesDown 106 = .ok (.return_, 1) := dk_177 (dk_at dksX9_takesDown_4 12 rfl rfl)
abbrev cX9_close : ByteArray := prog_13_method_45_code
def yX9_close : MethodName := ⟨RX9, "close", "(I)I"⟩
def dkwX9_close_1 : List UInt8 := [182, 0, 124, 42, 27, 4, 182, 0, 175, 172]
abbrev dktX9_close_1 : List UInt8 := dkwX9_close_1 ++ []
def dkwX9_close_0 : List UInt8 := [42, 3, 181, 0, 45, 42, 27, 182, 0, 172, 61, 28, 153, 0, 9, 42, 28, 182, 0, 121, 172, 42]
abbrev dktX9_close_0 : List UInt8 := dkwX9_close_0 ++ dktX9_close_1
theorem dksX9_close_0 : cX9_close.data.toList.drop 0 = dktX9_close_0 := by decide +kernel
theorem dksX9_close_1 : cX9_close.data.toList.drop 22 = dktX9_close_1 := dk_seg dksX9_close_0 22 rfl rfl
theorem dX9_close_0 : decode cX9_close 0 = .ok (.aload_n 0, 1) := dk_42 (dk_at dksX9_close_0 0 rfl rfl)
theorem dX9_close_1 : decode cX9_close 1 = .ok (.iconst 0, 1) := dk_3 (dk_at dksX9_close_0 1 rfl rfl)
theorem dX9_close_2 : decode cX9_close 2 = .ok (.putfield 45, 3) := dk_181 0 45 (dk_at dksX9_close_0 2 rfl rfl)
theorem dX9_close_5 : decode cX9_close 5 = .ok (.aload_n 0, 1) := dk_42 (dk_at dksX9_close_0 5 rfl rfl)
theorem dX9_close_6 : decode cX9_close 6 = .ok (.iload_n 1, 1) := dk_27 (dk_at dksX9_close_0 6 rfl rfl)
theorem dX9_close_7 : decode cX9_close 7 = .ok (.invokevirtual 172, 3) := dk_182 0 172 (dk_at dksX9_close_0 7 rfl rfl)
theorem dX9_close_10 : decode cX9_close 10 = .ok (.istore_n 2, 1) := dk_61 (dk_at dksX9_close_0 10 rfl rfl)
theorem dX9_close_11 : decode cX9_close 11 = .ok (.iload_n 2, 1) := dk_28 (dk_at dksX9_close_0 11 rfl rfl)
theorem dX9_close_12 : decode cX9_close 12 = .ok (.ifCond .eq 9, 3) := dk_153 0 9 (dk_at dksX9_close_0 12 rfl rfl)
theorem dX9_close_15 : decode cX9_close 15 = .ok (.aload_n 0, 1) := dk_42 (dk_at dksX9_close_0 15 rfl rfl)
theorem dX9_close_16 : decode cX9_close 16 = .ok (.iload_n 2, 1) := dk_28 (dk_at dksX9_close_0 16 rfl rfl)
theorem dX9_close_17 : decode cX9_close 17 = .ok (.invokevirtual 121, 3) := dk_182 0 121 (dk_at dksX9_close_0 17 rfl rfl)
theorem dX9_close_20 : decode cX9_close 20 = .ok (.ireturn, 1) := dk_172 (dk_at dksX9_close_0 20 rfl rfl)
theorem dX9_close_21 : decode cX9_close 21 = .ok (.aload_n 0, 1) := dk_42 (dk_at dksX9_close_0 21 rfl rfl)
theorem dX9_close_22 : decode cX9_close 22 = .ok (.invokevirtual 124, 3) := dk_182 0 124 (dk_at dksX9_close_1 0 rfl rfl)
theorem dX9_close_25 : decode cX9_close 25 = .ok (.aload_n 0, 1) := dk_42 (dk_at dksX9_close_1 3 rfl rfl)
theorem dX9_close_26 : decode cX9_close 26 = .ok (.iload_n 1, 1) := dk_27 (dk_at dksX9_close_1 4 rfl rfl)
theorem dX9_close_27 : decode cX9_close 27 = .ok (.iconst 1, 1) := dk_4 (dk_at dksX9_close_1 5 rfl rfl)
theorem dX9_close_28 : decode cX9_close 28 = .ok (.invokevirtual 175, 3) := dk_182 0 175 (dk_at dksX9_close_1 6 rfl rfl)
theorem dX9_close_31 : decode cX9_close 31 = .ok (.ireturn, 1) := dk_172 (dk_at dksX9_close_1 9 rfl rfl)
abbrev cX9_notClose : ByteArray := prog_13_method_43_code
def yX9_notClose : MethodName := ⟨RX9, "notClose", "(I)I"⟩
def dkwX9_notClose_2 : List UInt8 := [167, 0, 4, 3, 172]
abbrev dktX9_notClose_2 : List UInt8 := dkwX9_notClose_2 ++ []
def dkwX9_notClose_1 : List UInt8 := [7, 27, 182, 0, 117, 172, 42, 182, 0, 168, 4, 160, 0, 14, 42, 5, 16, 6, 27, 182, 0, 117]
abbrev dktX9_notClose_1 : List UInt8 := dkwX9_notClose_1 ++ dktX9_notClose_2
def dkwX9_notClose_0 : List UInt8 := [42, 27, 182, 0, 130, 154, 0, 9, 42, 4, 182, 0, 136, 172, 42, 27, 182, 0, 88, 154, 0, 11, 42, 5]
abbrev dktX9_notClose_0 : List UInt8 := dkwX9_notClose_0 ++ dktX9_notClose_1
theorem dksX9_notClose_0 : cX9_notClose.data.toList.drop 0 = dktX9_notClose_0 := by decide +kernel
theorem dksX9_notClose_1 : cX9_notClose.data.toList.drop 24 = dktX9_notClose_1 := dk_seg dksX9_notClose_0 24 rfl rfl
theorem dksX9_notClose_2 : cX9_notClose.data.toList.drop 46 = dktX9_notClose_2 := dk_seg dksX9_notClose_1 22 rfl rfl
theorem dX9_notClose_0 : decode cX9_notClose 0 = .ok (.aload_n 0, 1) := dk_42 (dk_at dksX9_notClose_0 0 rfl rfl)
theorem dX9_notClose_1 : decode cX9_notClose 1 = .ok (.iload_n 1, 1) := dk_27 (dk_at dksX9_notClose_0 1 rfl rfl)
theorem dX9_notClose_2 : decode cX9_notClose 2 = .ok (.invokevirtual 130, 3) := dk_182 0 130 (dk_at dksX9_notClose_0 2 rfl rfl)
theorem dX9_notClose_5 : decode cX9_notClose 5 = .ok (.ifCond .ne 9, 3) := dk_154 0 9 (dk_at dksX9_notClose_0 5 rfl rfl)
theorem dX9_notClose_8 : decode cX9_notClose 8 = .ok (.aload_n 0, 1) := dk_42 (dk_at dksX9_notClose_0 8 rfl rfl)
theorem dX9_notClose_9 : decode cX9_notClose 9 = .ok (.iconst 1, 1) := dk_4 (dk_at dksX9_notClose_0 9 rfl rfl)
theorem dX9_notClose_10 : decode cX9_notClose 10 = .ok (.invokevirtual 136, 3) := dk_182 0 136 (dk_at dksX9_notClose_0 10 rfl rfl)
theorem dX9_notClose_13 : decode cX9_notClose 13 = .ok (.ireturn, 1) := dk_172 (dk_at dksX9_notClose_0 13 rfl rfl)
theorem dX9_notClose_14 : decode cX9_notClose 14 = .ok (.aload_n 0, 1) := dk_42 (dk_at dksX9_notClose_0 14 rfl rfl)
theorem dX9_notClose_15 : decode cX9_notClose 15 = .ok (.iload_n 1, 1) := dk_27 (dk_at dksX9_notClose_0 15 rfl rfl)
theorem dX9_notClose_16 : decode cX9_notClose 16 = .ok (.invokevirtual 88, 3) := dk_182 0 88 (dk_at dksX9_notClose_0 16 rfl rfl)
theorem dX9_notClose_19 : decode cX9_notClose 19 = .ok (.ifCond .ne 11, 3) := dk_154 0 11 (dk_at dksX9_notClose_0 19 rfl rfl)
theorem dX9_notClose_22 : decode cX9_notClose 22 = .ok (.aload_n 0, 1) := dk_42 (dk_at dksX9_notClose_0 22 rfl rfl)
theorem dX9_notClose_23 : decode cX9_notClose 23 = .ok (.iconst 2, 1) := dk_5 (dk_at dksX9_notClose_0 23 rfl rfl)
theorem dX9_notClose_24 : decode cX9_notClose 24 = .ok (.iconst 4, 1) := dk_7 (dk_at dksX9_notClose_1 0 rfl rfl)
theorem dX9_notClose_25 : decode cX9_notClose 25 = .ok (.iload_n 1, 1) := dk_27 (dk_at dksX9_notClose_1 1 rfl rfl)
theorem dX9_notClose_26 : decode cX9_notClose 26 = .ok (.invokevirtual 117, 3) := dk_182 0 117 (dk_at dksX9_notClose_1 2 rfl rfl)
theorem dX9_notClose_29 : decode cX9_notClose 29 = .ok (.ireturn, 1) := dk_172 (dk_at dksX9_notClose_1 5 rfl rfl)
theorem dX9_notClose_30 : decode cX9_notClose 30 = .ok (.aload_n 0, 1) := dk_42 (dk_at dksX9_notClose_1 6 rfl rfl)
theorem dX9_notClose_31 : decode cX9_notClose 31 = .ok (.invokevirtual 168, 3) := dk_182 0 168 (dk_at dksX9_notClose_1 7 rfl rfl)
theorem dX9_notClose_34 : decode cX9_notClose 34 = .ok (.iconst 1, 1) := dk_4 (dk_at dksX9_notClose_1 10 rfl rfl)
theorem dX9_notClose_35 : decode cX9_notClose 35 = .ok (.if_icmp .ne 14, 3) := dk_160 0 14 (dk_at dksX9_notClose_1 11 rfl rfl)
theorem dX9_notClose_38 : decode cX9_notClose 38 = .ok (.aload_n 0, 1) := dk_42 (dk_at dksX9_notClose_1 14 rfl rfl)
theorem dX9_notClose_39 : decode cX9_notClose 39 = .ok (.iconst 2, 1) := dk_5 (dk_at dksX9_notClose_1 15 rfl rfl)
theorem dX9_notClose_40 : decode cX9_notClose 40 = .ok (.bipush 6, 2) := dk_16 6 (dk_at dksX9_notClose_1 16 rfl rfl)
theorem dX9_notClose_42 : decode cX9_notClose 42 = .ok (.iload_n 1, 1) := dk_27 (dk_at dksX9_notClose_1 18 rfl rfl)
theorem dX9_notClose_43 : decode cX9_notClose 43 = .ok (.invokevirtual 117, 3) := dk_182 0 117 (dk_at dksX9_notClose_1 19 rfl rfl)
theorem dX9_notClose_46 : decode cX9_notClose 46 = .ok (.goto 4, 3) := dk_167 0 4 (dk_at dksX9_notClose_2 0 rfl rfl)
theorem dX9_notClose_49 : decode cX9_notClose 49 = .ok (.iconst 0, 1) := dk_3 (dk_at dksX9_notClose_2 3 rfl rfl)
theorem dX9_notClose_50 : decode cX9_notClose 50 = .ok (.ireturn, 1) := dk_172 (dk_at dksX9_notClose_2 4 rfl rfl)
abbrev cX9_openMany : ByteArray := prog_13_method_27_code
def yX9_openMany : MethodName := ⟨RX9, "openMany", "()I"⟩
def dkwX9_openMany_1 : List UInt8 := [167, 0, 4, 3, 96, 60, 132, 2, 1, 167, 255, 227, 27, 172]
abbrev dktX9_openMany_1 : List UInt8 := dkwX9_openMany_1 ++ []
def dkwX9_openMany_0 : List UInt8 := [3, 60, 3, 61, 28, 42, 180, 0, 16, 3, 46, 162, 0, 25, 27, 42, 28, 182, 0, 88, 153, 0, 7, 4]
abbrev dktX9_openMany_0 : List UInt8 := dkwX9_openMany_0 ++ dktX9_openMany_1
theorem dksX9_openMany_0 : cX9_openMany.data.toList.drop 0 = dktX9_openMany_0 := by decide +kernel
theorem dksX9_openMany_1 : cX9_openMany.data.toList.drop 24 = dktX9_openMany_1 := dk_seg dksX9_openMany_0 24 rfl rfl
theorem dX9_openMany_0 : decode cX9_openMany 0 = .ok (.iconst 0, 1) := dk_3 (dk_at dksX9_openMany_0 0 rfl rfl)
theorem dX9_openMany_1 : decode cX9_openMany 1 = .ok (.istore_n 1, 1) := dk_60 (dk_at dksX9_openMany_0 1 rfl rfl)
theorem dX9_openMany_2 : decode cX9_openMany 2 = .ok (.iconst 0, 1) := dk_3 (dk_at dksX9_openMany_0 2 rfl rfl)
theorem dX9_openMany_3 : decode cX9_openMany 3 = .ok (.istore_n 2, 1) := dk_61 (dk_at dksX9_openMany_0 3 rfl rfl)
theorem dX9_openMany_4 : decode cX9_openMany 4 = .ok (.iload_n 2, 1) := dk_28 (dk_at dksX9_openMany_0 4 rfl rfl)
theorem dX9_openMany_5 : decode cX9_openMany 5 = .ok (.aload_n 0, 1) := dk_42 (dk_at dksX9_openMany_0 5 rfl rfl)
theorem dX9_openMany_6 : decode cX9_openMany 6 = .ok (.getfield 16, 3) := dk_180 0 16 (dk_at dksX9_openMany_0 6 rfl rfl)
theorem dX9_openMany_9 : decode cX9_openMany 9 = .ok (.iconst 0, 1) := dk_3 (dk_at dksX9_openMany_0 9 rfl rfl)
theorem dX9_openMany_10 : decode cX9_openMany 10 = .ok (.iaload, 1) := dk_46 (dk_at dksX9_openMany_0 10 rfl rfl)
theorem dX9_openMany_11 : decode cX9_openMany 11 = .ok (.if_icmp .ge 25, 3) := dk_162 0 25 (dk_at dksX9_openMany_0 11 rfl rfl)
theorem dX9_openMany_14 : decode cX9_openMany 14 = .ok (.iload_n 1, 1) := dk_27 (dk_at dksX9_openMany_0 14 rfl rfl)
theorem dX9_openMany_15 : decode cX9_openMany 15 = .ok (.aload_n 0, 1) := dk_42 (dk_at dksX9_openMany_0 15 rfl rfl)
theorem dX9_openMany_16 : decode cX9_openMany 16 = .ok (.iload_n 2, 1) := dk_28 (dk_at dksX9_openMany_0 16 rfl rfl)
theorem dX9_openMany_17 : decode cX9_openMany 17 = .ok (.invokevirtual 88, 3) := dk_182 0 88 (dk_at dksX9_openMany_0 17 rfl rfl)
theorem dX9_openMany_20 : decode cX9_openMany 20 = .ok (.ifCond .eq 7, 3) := dk_153 0 7 (dk_at dksX9_openMany_0 20 rfl rfl)
theorem dX9_openMany_23 : decode cX9_openMany 23 = .ok (.iconst 1, 1) := dk_4 (dk_at dksX9_openMany_0 23 rfl rfl)
theorem dX9_openMany_24 : decode cX9_openMany 24 = .ok (.goto 4, 3) := dk_167 0 4 (dk_at dksX9_openMany_1 0 rfl rfl)
theorem dX9_openMany_27 : decode cX9_openMany 27 = .ok (.iconst 0, 1) := dk_3 (dk_at dksX9_openMany_1 3 rfl rfl)
theorem dX9_openMany_28 : decode cX9_openMany 28 = .ok (.iadd, 1) := dk_96 (dk_at dksX9_openMany_1 4 rfl rfl)
theorem dX9_openMany_29 : decode cX9_openMany 29 = .ok (.istore_n 1, 1) := dk_60 (dk_at dksX9_openMany_1 5 rfl rfl)
theorem dX9_openMany_30 : decode cX9_openMany 30 = .ok (.iinc 2 1, 3) := dk_132 2 1 (dk_at dksX9_openMany_1 6 rfl rfl)
theorem dX9_openMany_33 : decode cX9_openMany 33 = .ok (.goto (-29), 3) := dk_167 255 227 (dk_at dksX9_openMany_1 9 rfl rfl)
theorem dX9_openMany_36 : decode cX9_openMany 36 = .ok (.iload_n 1, 1) := dk_27 (dk_at dksX9_openMany_1 12 rfl rfl)
theorem dX9_openMany_37 : decode cX9_openMany 37 = .ok (.ireturn, 1) := dk_172 (dk_at dksX9_openMany_1 13 rfl rfl)
abbrev cX9_shuts : ByteArray := prog_13_method_44_code
def yX9_shuts : MethodName := ⟨RX9, "shuts", "(II)I"⟩
def dkwX9_shuts_0 : List UInt8 := [42, 27, 5, 28, 182, 0, 127, 42, 2, 182, 0, 149, 172]
abbrev dktX9_shuts_0 : List UInt8 := dkwX9_shuts_0 ++ []
theorem dksX9_shuts_0 : cX9_shuts.data.toList.drop 0 = dktX9_shuts_0 := by decide +kernel
theorem dX9_shuts_0 : decode cX9_shuts 0 = .ok (.aload_n 0, 1) := dk_42 (dk_at dksX9_shuts_0 0 rfl rfl)
theorem dX9_shuts_1 : decode cX9_shuts 1 = .ok (.iload_n 1, 1) := dk_27 (dk_at dksX9_shuts_0 1 rfl rfl)
theorem dX9_shuts_2 : decode cX9_shuts 2 = .ok (.iconst 2, 1) := dk_5 (dk_at dksX9_shuts_0 2 rfl rfl)
theorem dX9_shuts_3 : decode cX9_shuts 3 = .ok (.iload_n 2, 1) := dk_28 (dk_at dksX9_shuts_0 3 rfl rfl)
theorem dX9_shuts_4 : decode cX9_shuts 4 = .ok (.invokevirtual 127, 3) := dk_182 0 127 (dk_at dksX9_shuts_0 4 rfl rfl)
theorem dX9_shuts_7 : decode cX9_shuts 7 = .ok (.aload_n 0, 1) := dk_42 (dk_at dksX9_shuts_0 7 rfl rfl)
theorem dX9_shuts_8 : decode cX9_shuts 8 = .ok (.iconst (-1), 1) := dk_2 (dk_at dksX9_shuts_0 8 rfl rfl)
theorem dX9_shuts_9 : decode cX9_shuts 9 = .ok (.invokevirtual 149, 3) := dk_182 0 149 (dk_at dksX9_shuts_0 9 rfl rfl)
theorem dX9_shuts_12 : decode cX9_shuts 12 = .ok (.ireturn, 1) := dk_172 (dk_at dksX9_shuts_0 12 rfl rfl)
abbrev cX9_open : ByteArray := prog_13_method_47_code
def yX9_open : MethodName := ⟨RX9, "open", "(I)I"⟩
def dkwX9_open_1 : List UInt8 := [182, 0, 124, 42, 27, 3, 182, 0, 175, 172]
abbrev dktX9_open_1 : List UInt8 := dkwX9_open_1 ++ []
def dkwX9_open_0 : List UInt8 := [42, 3, 181, 0, 45, 42, 27, 182, 0, 178, 61, 28, 153, 0, 9, 42, 28, 182, 0, 121, 172, 42]
abbrev dktX9_open_0 : List UInt8 := dkwX9_open_0 ++ dktX9_open_1
theorem dksX9_open_0 : cX9_open.data.toList.drop 0 = dktX9_open_0 := by decide +kernel
theorem dksX9_open_1 : cX9_open.data.toList.drop 22 = dktX9_open_1 := dk_seg dksX9_open_0 22 rfl rfl
theorem dX9_open_0 : decode cX9_open 0 = .ok (.aload_n 0, 1) := dk_42 (dk_at dksX9_open_0 0 rfl rfl)
theorem dX9_open_1 : decode cX9_open 1 = .ok (.iconst 0, 1) := dk_3 (dk_at dksX9_open_0 1 rfl rfl)
theorem dX9_open_2 : decode cX9_open 2 = .ok (.putfield 45, 3) := dk_181 0 45 (dk_at dksX9_open_0 2 rfl rfl)
theorem dX9_open_5 : decode cX9_open 5 = .ok (.aload_n 0, 1) := dk_42 (dk_at dksX9_open_0 5 rfl rfl)
theorem dX9_open_6 : decode cX9_open 6 = .ok (.iload_n 1, 1) := dk_27 (dk_at dksX9_open_0 6 rfl rfl)
theorem dX9_open_7 : decode cX9_open 7 = .ok (.invokevirtual 178, 3) := dk_182 0 178 (dk_at dksX9_open_0 7 rfl rfl)
theorem dX9_open_10 : decode cX9_open 10 = .ok (.istore_n 2, 1) := dk_61 (dk_at dksX9_open_0 10 rfl rfl)
theorem dX9_open_11 : decode cX9_open 11 = .ok (.iload_n 2, 1) := dk_28 (dk_at dksX9_open_0 11 rfl rfl)
theorem dX9_open_12 : decode cX9_open 12 = .ok (.ifCond .eq 9, 3) := dk_153 0 9 (dk_at dksX9_open_0 12 rfl rfl)
theorem dX9_open_15 : decode cX9_open 15 = .ok (.aload_n 0, 1) := dk_42 (dk_at dksX9_open_0 15 rfl rfl)
theorem dX9_open_16 : decode cX9_open 16 = .ok (.iload_n 2, 1) := dk_28 (dk_at dksX9_open_0 16 rfl rfl)
theorem dX9_open_17 : decode cX9_open 17 = .ok (.invokevirtual 121, 3) := dk_182 0 121 (dk_at dksX9_open_0 17 rfl rfl)
theorem dX9_open_20 : decode cX9_open 20 = .ok (.ireturn, 1) := dk_172 (dk_at dksX9_open_0 20 rfl rfl)
theorem dX9_open_21 : decode cX9_open 21 = .ok (.aload_n 0, 1) := dk_42 (dk_at dksX9_open_0 21 rfl rfl)
theorem dX9_open_22 : decode cX9_open 22 = .ok (.invokevirtual 124, 3) := dk_182 0 124 (dk_at dksX9_open_1 0 rfl rfl)
theorem dX9_open_25 : decode cX9_open 25 = .ok (.aload_n 0, 1) := dk_42 (dk_at dksX9_open_1 3 rfl rfl)
theorem dX9_open_26 : decode cX9_open 26 = .ok (.iload_n 1, 1) := dk_27 (dk_at dksX9_open_1 4 rfl rfl)
theorem dX9_open_27 : decode cX9_open 27 = .ok (.iconst 0, 1) := dk_3 (dk_at dksX9_open_1 5 rfl rfl)
theorem dX9_open_28 : decode cX9_open 28 = .ok (.invokevirtual 175, 3) := dk_182 0 175 (dk_at dksX9_open_1 6 rfl rfl)
theorem dX9_open_31 : decode cX9_open 31 = .ok (.ireturn, 1) := dk_172 (dk_at dksX9_open_1 9 rfl rfl)
abbrev cX9_notOpen : ByteArray := prog_13_method_46_code
def yX9_notOpen : MethodName := ⟨RX9, "notOpen", "(I)I"⟩
def dkwX9_notOpen_1 : List UInt8 := [8, 27, 182, 0, 117, 167, 0, 4, 3, 172]
abbrev dktX9_notOpen_1 : List UInt8 := dkwX9_notOpen_1 ++ []
def dkwX9_notOpen_0 : List UInt8 := [42, 27, 182, 0, 130, 154, 0, 9, 42, 4, 182, 0, 136, 172, 42, 27, 182, 0, 88, 153, 0, 13, 42, 5]
abbrev dktX9_notOpen_0 : List UInt8 := dkwX9_notOpen_0 ++ dktX9_notOpen_1
theorem dksX9_notOpen_0 : cX9_notOpen.data.toList.drop 0 = dktX9_notOpen_0 := by decide +kernel
theorem dksX9_notOpen_1 : cX9_notOpen.data.toList.drop 24 = dktX9_notOpen_1 := dk_seg dksX9_notOpen_0 24 rfl rfl
theorem dX9_notOpen_0 : decode cX9_notOpen 0 = .ok (.aload_n 0, 1) := dk_42 (dk_at dksX9_notOpen_0 0 rfl rfl)
theorem dX9_notOpen_1 : decode cX9_notOpen 1 = .ok (.iload_n 1, 1) := dk_27 (dk_at dksX9_notOpen_0 1 rfl rfl)
theorem dX9_notOpen_2 : decode cX9_notOpen 2 = .ok (.invokevirtual 130, 3) := dk_182 0 130 (dk_at dksX9_notOpen_0 2 rfl rfl)
theorem dX9_notOpen_5 : decode cX9_notOpen 5 = .ok (.ifCond .ne 9, 3) := dk_154 0 9 (dk_at dksX9_notOpen_0 5 rfl rfl)
theorem dX9_notOpen_8 : decode cX9_notOpen 8 = .ok (.aload_n 0, 1) := dk_42 (dk_at dksX9_notOpen_0 8 rfl rfl)
theorem dX9_notOpen_9 : decode cX9_notOpen 9 = .ok (.iconst 1, 1) := dk_4 (dk_at dksX9_notOpen_0 9 rfl rfl)
theorem dX9_notOpen_10 : decode cX9_notOpen 10 = .ok (.invokevirtual 136, 3) := dk_182 0 136 (dk_at dksX9_notOpen_0 10 rfl rfl)
theorem dX9_notOpen_13 : decode cX9_notOpen 13 = .ok (.ireturn, 1) := dk_172 (dk_at dksX9_notOpen_0 13 rfl rfl)
theorem dX9_notOpen_14 : decode cX9_notOpen 14 = .ok (.aload_n 0, 1) := dk_42 (dk_at dksX9_notOpen_0 14 rfl rfl)
theorem dX9_notOpen_15 : decode cX9_notOpen 15 = .ok (.iload_n 1, 1) := dk_27 (dk_at dksX9_notOpen_0 15 rfl rfl)
theorem dX9_notOpen_16 : decode cX9_notOpen 16 = .ok (.invokevirtual 88, 3) := dk_182 0 88 (dk_at dksX9_notOpen_0 16 rfl rfl)
theorem dX9_notOpen_19 : decode cX9_notOpen 19 = .ok (.ifCond .eq 13, 3) := dk_153 0 13 (dk_at dksX9_notOpen_0 19 rfl rfl)
theorem dX9_notOpen_22 : decode cX9_notOpen 22 = .ok (.aload_n 0, 1) := dk_42 (dk_at dksX9_notOpen_0 22 rfl rfl)
theorem dX9_notOpen_23 : decode cX9_notOpen 23 = .ok (.iconst 2, 1) := dk_5 (dk_at dksX9_notOpen_0 23 rfl rfl)
theorem dX9_notOpen_24 : decode cX9_notOpen 24 = .ok (.iconst 5, 1) := dk_8 (dk_at dksX9_notOpen_1 0 rfl rfl)
theorem dX9_notOpen_25 : decode cX9_notOpen 25 = .ok (.iload_n 1, 1) := dk_27 (dk_at dksX9_notOpen_1 1 rfl rfl)
theorem dX9_notOpen_26 : decode cX9_notOpen 26 = .ok (.invokevirtual 117, 3) := dk_182 0 117 (dk_at dksX9_notOpen_1 2 rfl rfl)
theorem dX9_notOpen_29 : decode cX9_notOpen 29 = .ok (.goto 4, 3) := dk_167 0 4 (dk_at dksX9_notOpen_1 5 rfl rfl)
theorem dX9_notOpen_32 : decode cX9_notOpen 32 = .ok (.iconst 0, 1) := dk_3 (dk_at dksX9_notOpen_1 8 rfl rfl)
theorem dX9_notOpen_33 : decode cX9_notOpen 33 = .ok (.ireturn, 1) := dk_172 (dk_at dksX9_notOpen_1 9 rfl rfl)
abbrev cX9_oven : ByteArray := prog_13_method_50_code
def yX9_oven : MethodName := ⟨RX9, "oven", "(II)I"⟩
def dkwX9_oven_1 : List UInt8 := [182, 0, 124, 42, 27, 28, 182, 0, 184, 172]
abbrev dktX9_oven_1 : List UInt8 := dkwX9_oven_1 ++ []
def dkwX9_oven_0 : List UInt8 := [42, 3, 181, 0, 45, 42, 27, 28, 182, 0, 181, 62, 29, 153, 0, 9, 42, 29, 182, 0, 121, 172, 42]
abbrev dktX9_oven_0 : List UInt8 := dkwX9_oven_0 ++ dktX9_oven_1
theorem dksX9_oven_0 : cX9_oven.data.toList.drop 0 = dktX9_oven_0 := by decide +kernel
theorem dksX9_oven_1 : cX9_oven.data.toList.drop 23 = dktX9_oven_1 := dk_seg dksX9_oven_0 23 rfl rfl
theorem dX9_oven_0 : decode cX9_oven 0 = .ok (.aload_n 0, 1) := dk_42 (dk_at dksX9_oven_0 0 rfl rfl)
theorem dX9_oven_1 : decode cX9_oven 1 = .ok (.iconst 0, 1) := dk_3 (dk_at dksX9_oven_0 1 rfl rfl)
theorem dX9_oven_2 : decode cX9_oven 2 = .ok (.putfield 45, 3) := dk_181 0 45 (dk_at dksX9_oven_0 2 rfl rfl)
theorem dX9_oven_5 : decode cX9_oven 5 = .ok (.aload_n 0, 1) := dk_42 (dk_at dksX9_oven_0 5 rfl rfl)
theorem dX9_oven_6 : decode cX9_oven 6 = .ok (.iload_n 1, 1) := dk_27 (dk_at dksX9_oven_0 6 rfl rfl)
theorem dX9_oven_7 : decode cX9_oven 7 = .ok (.iload_n 2, 1) := dk_28 (dk_at dksX9_oven_0 7 rfl rfl)
theorem dX9_oven_8 : decode cX9_oven 8 = .ok (.invokevirtual 181, 3) := dk_182 0 181 (dk_at dksX9_oven_0 8 rfl rfl)
theorem dX9_oven_11 : decode cX9_oven 11 = .ok (.istore_n 3, 1) := dk_62 (dk_at dksX9_oven_0 11 rfl rfl)
theorem dX9_oven_12 : decode cX9_oven 12 = .ok (.iload_n 3, 1) := dk_29 (dk_at dksX9_oven_0 12 rfl rfl)
theorem dX9_oven_13 : decode cX9_oven 13 = .ok (.ifCond .eq 9, 3) := dk_153 0 9 (dk_at dksX9_oven_0 13 rfl rfl)
theorem dX9_oven_16 : decode cX9_oven 16 = .ok (.aload_n 0, 1) := dk_42 (dk_at dksX9_oven_0 16 rfl rfl)
theorem dX9_oven_17 : decode cX9_oven 17 = .ok (.iload_n 3, 1) := dk_29 (dk_at dksX9_oven_0 17 rfl rfl)
theorem dX9_oven_18 : decode cX9_oven 18 = .ok (.invokevirtual 121, 3) := dk_182 0 121 (dk_at dksX9_oven_0 18 rfl rfl)
theorem dX9_oven_21 : decode cX9_oven 21 = .ok (.ireturn, 1) := dk_172 (dk_at dksX9_oven_0 21 rfl rfl)
theorem dX9_oven_22 : decode cX9_oven 22 = .ok (.aload_n 0, 1) := dk_42 (dk_at dksX9_oven_0 22 rfl rfl)
theorem dX9_oven_23 : decode cX9_oven 23 = .ok (.invokevirtual 124, 3) := dk_182 0 124 (dk_at dksX9_oven_1 0 rfl rfl)
theorem dX9_oven_26 : decode cX9_oven 26 = .ok (.aload_n 0, 1) := dk_42 (dk_at dksX9_oven_1 3 rfl rfl)
theorem dX9_oven_27 : decode cX9_oven 27 = .ok (.iload_n 1, 1) := dk_27 (dk_at dksX9_oven_1 4 rfl rfl)
theorem dX9_oven_28 : decode cX9_oven 28 = .ok (.iload_n 2, 1) := dk_28 (dk_at dksX9_oven_1 5 rfl rfl)
theorem dX9_oven_29 : decode cX9_oven 29 = .ok (.invokevirtual 184, 3) := dk_182 0 184 (dk_at dksX9_oven_1 6 rfl rfl)
theorem dX9_oven_32 : decode cX9_oven 32 = .ok (.ireturn, 1) := dk_172 (dk_at dksX9_oven_1 9 rfl rfl)
abbrev cX9_notOven : ByteArray := prog_13_method_48_code
def yX9_notOven : MethodName := ⟨RX9, "notOven", "(II)I"⟩
def dkwX9_notOven_2 : List UInt8 := [167, 0, 4, 3, 172]
abbrev dktX9_notOven_2 : List UInt8 := dkwX9_notOven_2 ++ []
def dkwX9_notOven_1 : List UInt8 := [42, 5, 182, 0, 136, 172, 42, 27, 4, 182, 0, 78, 28, 160, 0, 14, 42, 6, 16, 7, 28, 182, 0, 117]
abbrev dktX9_notOven_1 : List UInt8 := dkwX9_notOven_1 ++ dktX9_notOven_2
def dkwX9_notOven_0 : List UInt8 := [42, 27, 182, 0, 130, 154, 0, 9, 42, 4, 182, 0, 136, 172, 28, 4, 16, 40, 184, 0, 74, 154, 0, 9]
abbrev dktX9_notOven_0 : List UInt8 := dkwX9_notOven_0 ++ dktX9_notOven_1
theorem dksX9_notOven_0 : cX9_notOven.data.toList.drop 0 = dktX9_notOven_0 := by decide +kernel
theorem dksX9_notOven_1 : cX9_notOven.data.toList.drop 24 = dktX9_notOven_1 := dk_seg dksX9_notOven_0 24 rfl rfl
theorem dksX9_notOven_2 : cX9_notOven.data.toList.drop 48 = dktX9_notOven_2 := dk_seg dksX9_notOven_1 24 rfl rfl
theorem dX9_notOven_0 : decode cX9_notOven 0 = .ok (.aload_n 0, 1) := dk_42 (dk_at dksX9_notOven_0 0 rfl rfl)
theorem dX9_notOven_1 : decode cX9_notOven 1 = .ok (.iload_n 1, 1) := dk_27 (dk_at dksX9_notOven_0 1 rfl rfl)
theorem dX9_notOven_2 : decode cX9_notOven 2 = .ok (.invokevirtual 130, 3) := dk_182 0 130 (dk_at dksX9_notOven_0 2 rfl rfl)
theorem dX9_notOven_5 : decode cX9_notOven 5 = .ok (.ifCond .ne 9, 3) := dk_154 0 9 (dk_at dksX9_notOven_0 5 rfl rfl)
theorem dX9_notOven_8 : decode cX9_notOven 8 = .ok (.aload_n 0, 1) := dk_42 (dk_at dksX9_notOven_0 8 rfl rfl)
theorem dX9_notOven_9 : decode cX9_notOven 9 = .ok (.iconst 1, 1) := dk_4 (dk_at dksX9_notOven_0 9 rfl rfl)
theorem dX9_notOven_10 : decode cX9_notOven 10 = .ok (.invokevirtual 136, 3) := dk_182 0 136 (dk_at dksX9_notOven_0 10 rfl rfl)
theorem dX9_notOven_13 : decode cX9_notOven 13 = .ok (.ireturn, 1) := dk_172 (dk_at dksX9_notOven_0 13 rfl rfl)
theorem dX9_notOven_14 : decode cX9_notOven 14 = .ok (.iload_n 2, 1) := dk_28 (dk_at dksX9_notOven_0 14 rfl rfl)
theorem dX9_notOven_15 : decode cX9_notOven 15 = .ok (.iconst 1, 1) := dk_4 (dk_at dksX9_notOven_0 15 rfl rfl)
theorem dX9_notOven_16 : decode cX9_notOven 16 = .ok (.bipush 40, 2) := dk_16 40 (dk_at dksX9_notOven_0 16 rfl rfl)
theorem dX9_notOven_18 : decode cX9_notOven 18 = .ok (.invokestatic 74, 3) := dk_184 0 74 (dk_at dksX9_notOven_0 18 rfl rfl)
theorem dX9_notOven_21 : decode cX9_notOven 21 = .ok (.ifCond .ne 9, 3) := dk_154 0 9 (dk_at dksX9_notOven_0 21 rfl rfl)
theorem dX9_notOven_24 : decode cX9_notOven 24 = .ok (.aload_n 0, 1) := dk_42 (dk_at dksX9_notOven_1 0 rfl rfl)
theorem dX9_notOven_25 : decode cX9_notOven 25 = .ok (.iconst 2, 1) := dk_5 (dk_at dksX9_notOven_1 1 rfl rfl)
theorem dX9_notOven_26 : decode cX9_notOven 26 = .ok (.invokevirtual 136, 3) := dk_182 0 136 (dk_at dksX9_notOven_1 2 rfl rfl)
theorem dX9_notOven_29 : decode cX9_notOven 29 = .ok (.ireturn, 1) := dk_172 (dk_at dksX9_notOven_1 5 rfl rfl)
theorem dX9_notOven_30 : decode cX9_notOven 30 = .ok (.aload_n 0, 1) := dk_42 (dk_at dksX9_notOven_1 6 rfl rfl)
theorem dX9_notOven_31 : decode cX9_notOven 31 = .ok (.iload_n 1, 1) := dk_27 (dk_at dksX9_notOven_1 7 rfl rfl)
theorem dX9_notOven_32 : decode cX9_notOven 32 = .ok (.iconst 1, 1) := dk_4 (dk_at dksX9_notOven_1 8 rfl rfl)
theorem dX9_notOven_33 : decode cX9_notOven 33 = .ok (.invokevirtual 78, 3) := dk_182 0 78 (dk_at dksX9_notOven_1 9 rfl rfl)
theorem dX9_notOven_36 : decode cX9_notOven 36 = .ok (.iload_n 2, 1) := dk_28 (dk_at dksX9_notOven_1 12 rfl rfl)
theorem dX9_notOven_37 : decode cX9_notOven 37 = .ok (.if_icmp .ne 14, 3) := dk_160 0 14 (dk_at dksX9_notOven_1 13 rfl rfl)
theorem dX9_notOven_40 : decode cX9_notOven 40 = .ok (.aload_n 0, 1) := dk_42 (dk_at dksX9_notOven_1 16 rfl rfl)
theorem dX9_notOven_41 : decode cX9_notOven 41 = .ok (.iconst 3, 1) := dk_6 (dk_at dksX9_notOven_1 17 rfl rfl)
theorem dX9_notOven_42 : decode cX9_notOven 42 = .ok (.bipush 7, 2) := dk_16 7 (dk_at dksX9_notOven_1 18 rfl rfl)
theorem dX9_notOven_44 : decode cX9_notOven 44 = .ok (.iload_n 2, 1) := dk_28 (dk_at dksX9_notOven_1 20 rfl rfl)
theorem dX9_notOven_45 : decode cX9_notOven 45 = .ok (.invokevirtual 117, 3) := dk_182 0 117 (dk_at dksX9_notOven_1 21 rfl rfl)
theorem dX9_notOven_48 : decode cX9_notOven 48 = .ok (.goto 4, 3) := dk_167 0 4 (dk_at dksX9_notOven_2 0 rfl rfl)
theorem dX9_notOven_51 : decode cX9_notOven 51 = .ok (.iconst 0, 1) := dk_3 (dk_at dksX9_notOven_2 3 rfl rfl)
theorem dX9_notOven_52 : decode cX9_notOven 52 = .ok (.ireturn, 1) := dk_172 (dk_at dksX9_notOven_2 4 rfl rfl)
abbrev cX9_ovens : ByteArray := prog_13_method_49_code
def yX9_ovens : MethodName := ⟨RX9, "ovens", "(II)I"⟩
def dkwX9_ovens_0 : List UInt8 := [42, 27, 4, 28, 182, 0, 127, 42, 2, 182, 0, 149, 172]
abbrev dktX9_ovens_0 : List UInt8 := dkwX9_ovens_0 ++ []
theorem dksX9_ovens_0 : cX9_ovens.data.toList.drop 0 = dktX9_ovens_0 := by decide +kernel
theorem dX9_ovens_0 : decode cX9_ovens 0 = .ok (.aload_n 0, 1) := dk_42 (dk_at dksX9_ovens_0 0 rfl rfl)
theorem dX9_ovens_1 : decode cX9_ovens 1 = .ok (.iload_n 1, 1) := dk_27 (dk_at dksX9_ovens_0 1 rfl rfl)
theorem dX9_ovens_2 : decode cX9_ovens 2 = .ok (.iconst 1, 1) := dk_4 (dk_at dksX9_ovens_0 2 rfl rfl)
theorem dX9_ovens_3 : decode cX9_ovens 3 = .ok (.iload_n 2, 1) := dk_28 (dk_at dksX9_ovens_0 3 rfl rfl)
theorem dX9_ovens_4 : decode cX9_ovens 4 = .ok (.invokevirtual 127, 3) := dk_182 0 127 (dk_at dksX9_ovens_0 4 rfl rfl)
theorem dX9_ovens_7 : decode cX9_ovens 7 = .ok (.aload_n 0, 1) := dk_42 (dk_at dksX9_ovens_0 7 rfl rfl)
theorem dX9_ovens_8 : decode cX9_ovens 8 = .ok (.iconst (-1), 1) := dk_2 (dk_at dksX9_ovens_0 8 rfl rfl)
theorem dX9_ovens_9 : decode cX9_ovens 9 = .ok (.invokevirtual 149, 3) := dk_182 0 149 (dk_at dksX9_ovens_0 9 rfl rfl)
theorem dX9_ovens_12 : decode cX9_ovens 12 = .ok (.ireturn, 1) := dk_172 (dk_at dksX9_ovens_0 12 rfl rfl)
abbrev cX9_come : ByteArray := prog_13_method_53_code
def yX9_come : MethodName := ⟨RX9, "come", "(II)I"⟩
def dkwX9_come_1 : List UInt8 := [182, 0, 124, 42, 27, 28, 182, 0, 190, 172]
abbrev dktX9_come_1 : List UInt8 := dkwX9_come_1 ++ []
def dkwX9_come_0 : List UInt8 := [42, 3, 181, 0, 45, 42, 27, 28, 182, 0, 187, 62, 29, 153, 0, 9, 42, 29, 182, 0, 121, 172, 42]
abbrev dktX9_come_0 : List UInt8 := dkwX9_come_0 ++ dktX9_come_1
theorem dksX9_come_0 : cX9_come.data.toList.drop 0 = dktX9_come_0 := by decide +kernel
theorem dksX9_come_1 : cX9_come.data.toList.drop 23 = dktX9_come_1 := dk_seg dksX9_come_0 23 rfl rfl
theorem dX9_come_0 : decode cX9_come 0 = .ok (.aload_n 0, 1) := dk_42 (dk_at dksX9_come_0 0 rfl rfl)
theorem dX9_come_1 : decode cX9_come 1 = .ok (.iconst 0, 1) := dk_3 (dk_at dksX9_come_0 1 rfl rfl)
theorem dX9_come_2 : decode cX9_come 2 = .ok (.putfield 45, 3) := dk_181 0 45 (dk_at dksX9_come_0 2 rfl rfl)
theorem dX9_come_5 : decode cX9_come 5 = .ok (.aload_n 0, 1) := dk_42 (dk_at dksX9_come_0 5 rfl rfl)
theorem dX9_come_6 : decode cX9_come 6 = .ok (.iload_n 1, 1) := dk_27 (dk_at dksX9_come_0 6 rfl rfl)
theorem dX9_come_7 : decode cX9_come 7 = .ok (.iload_n 2, 1) := dk_28 (dk_at dksX9_come_0 7 rfl rfl)
theorem dX9_come_8 : decode cX9_come 8 = .ok (.invokevirtual 187, 3) := dk_182 0 187 (dk_at dksX9_come_0 8 rfl rfl)
theorem dX9_come_11 : decode cX9_come 11 = .ok (.istore_n 3, 1) := dk_62 (dk_at dksX9_come_0 11 rfl rfl)
theorem dX9_come_12 : decode cX9_come 12 = .ok (.iload_n 3, 1) := dk_29 (dk_at dksX9_come_0 12 rfl rfl)
theorem dX9_come_13 : decode cX9_come 13 = .ok (.ifCond .eq 9, 3) := dk_153 0 9 (dk_at dksX9_come_0 13 rfl rfl)
theorem dX9_come_16 : decode cX9_come 16 = .ok (.aload_n 0, 1) := dk_42 (dk_at dksX9_come_0 16 rfl rfl)
theorem dX9_come_17 : decode cX9_come 17 = .ok (.iload_n 3, 1) := dk_29 (dk_at dksX9_come_0 17 rfl rfl)
theorem dX9_come_18 : decode cX9_come 18 = .ok (.invokevirtual 121, 3) := dk_182 0 121 (dk_at dksX9_come_0 18 rfl rfl)
theorem dX9_come_21 : decode cX9_come 21 = .ok (.ireturn, 1) := dk_172 (dk_at dksX9_come_0 21 rfl rfl)
theorem dX9_come_22 : decode cX9_come 22 = .ok (.aload_n 0, 1) := dk_42 (dk_at dksX9_come_0 22 rfl rfl)
theorem dX9_come_23 : decode cX9_come 23 = .ok (.invokevirtual 124, 3) := dk_182 0 124 (dk_at dksX9_come_1 0 rfl rfl)
theorem dX9_come_26 : decode cX9_come 26 = .ok (.aload_n 0, 1) := dk_42 (dk_at dksX9_come_1 3 rfl rfl)
theorem dX9_come_27 : decode cX9_come 27 = .ok (.iload_n 1, 1) := dk_27 (dk_at dksX9_come_1 4 rfl rfl)
theorem dX9_come_28 : decode cX9_come 28 = .ok (.iload_n 2, 1) := dk_28 (dk_at dksX9_come_1 5 rfl rfl)
theorem dX9_come_29 : decode cX9_come 29 = .ok (.invokevirtual 190, 3) := dk_182 0 190 (dk_at dksX9_come_1 6 rfl rfl)
theorem dX9_come_32 : decode cX9_come 32 = .ok (.ireturn, 1) := dk_172 (dk_at dksX9_come_1 9 rfl rfl)
abbrev cX9_notCome : ByteArray := prog_13_method_51_code
def yX9_notCome : MethodName := ⟨RX9, "notCome", "(II)I"⟩
def dkwX9_notCome_2 : List UInt8 := [167, 0, 4, 3, 172]
abbrev dktX9_notCome_2 : List UInt8 := dkwX9_notCome_2 ++ []
def dkwX9_notCome_1 : List UInt8 := [5, 182, 0, 136, 172, 42, 180, 0, 16, 4, 46, 16, 20, 160, 0, 14, 42, 6, 4, 16, 20, 182, 0, 117]
abbrev dktX9_notCome_1 : List UInt8 := dkwX9_notCome_1 ++ dktX9_notCome_2
def dkwX9_notCome_0 : List UInt8 := [27, 184, 0, 133, 154, 0, 9, 42, 4, 182, 0, 136, 172, 28, 4, 16, 9, 184, 0, 74, 154, 0, 9, 42]
abbrev dktX9_notCome_0 : List UInt8 := dkwX9_notCome_0 ++ dktX9_notCome_1
theorem dksX9_notCome_0 : cX9_notCome.data.toList.drop 0 = dktX9_notCome_0 := by decide +kernel
theorem dksX9_notCome_1 : cX9_notCome.data.toList.drop 24 = dktX9_notCome_1 := dk_seg dksX9_notCome_0 24 rfl rfl
theorem dksX9_notCome_2 : cX9_notCome.data.toList.drop 48 = dktX9_notCome_2 := dk_seg dksX9_notCome_1 24 rfl rfl
theorem dX9_notCome_0 : decode cX9_notCome 0 = .ok (.iload_n 1, 1) := dk_27 (dk_at dksX9_notCome_0 0 rfl rfl)
theorem dX9_notCome_1 : decode cX9_notCome 1 = .ok (.invokestatic 133, 3) := dk_184 0 133 (dk_at dksX9_notCome_0 1 rfl rfl)
theorem dX9_notCome_4 : decode cX9_notCome 4 = .ok (.ifCond .ne 9, 3) := dk_154 0 9 (dk_at dksX9_notCome_0 4 rfl rfl)
theorem dX9_notCome_7 : decode cX9_notCome 7 = .ok (.aload_n 0, 1) := dk_42 (dk_at dksX9_notCome_0 7 rfl rfl)
theorem dX9_notCome_8 : decode cX9_notCome 8 = .ok (.iconst 1, 1) := dk_4 (dk_at dksX9_notCome_0 8 rfl rfl)
theorem dX9_notCome_9 : decode cX9_notCome 9 = .ok (.invokevirtual 136, 3) := dk_182 0 136 (dk_at dksX9_notCome_0 9 rfl rfl)
theorem dX9_notCome_12 : decode cX9_notCome 12 = .ok (.ireturn, 1) := dk_172 (dk_at dksX9_notCome_0 12 rfl rfl)
theorem dX9_notCome_13 : decode cX9_notCome 13 = .ok (.iload_n 2, 1) := dk_28 (dk_at dksX9_notCome_0 13 rfl rfl)
theorem dX9_notCome_14 : decode cX9_notCome 14 = .ok (.iconst 1, 1) := dk_4 (dk_at dksX9_notCome_0 14 rfl rfl)
theorem dX9_notCome_15 : decode cX9_notCome 15 = .ok (.bipush 9, 2) := dk_16 9 (dk_at dksX9_notCome_0 15 rfl rfl)
theorem dX9_notCome_17 : decode cX9_notCome 17 = .ok (.invokestatic 74, 3) := dk_184 0 74 (dk_at dksX9_notCome_0 17 rfl rfl)
theorem dX9_notCome_20 : decode cX9_notCome 20 = .ok (.ifCond .ne 9, 3) := dk_154 0 9 (dk_at dksX9_notCome_0 20 rfl rfl)
theorem dX9_notCome_23 : decode cX9_notCome 23 = .ok (.aload_n 0, 1) := dk_42 (dk_at dksX9_notCome_0 23 rfl rfl)
theorem dX9_notCome_24 : decode cX9_notCome 24 = .ok (.iconst 2, 1) := dk_5 (dk_at dksX9_notCome_1 0 rfl rfl)
theorem dX9_notCome_25 : decode cX9_notCome 25 = .ok (.invokevirtual 136, 3) := dk_182 0 136 (dk_at dksX9_notCome_1 1 rfl rfl)
theorem dX9_notCome_28 : decode cX9_notCome 28 = .ok (.ireturn, 1) := dk_172 (dk_at dksX9_notCome_1 4 rfl rfl)
theorem dX9_notCome_29 : decode cX9_notCome 29 = .ok (.aload_n 0, 1) := dk_42 (dk_at dksX9_notCome_1 5 rfl rfl)
theorem dX9_notCome_30 : decode cX9_notCome 30 = .ok (.getfield 16, 3) := dk_180 0 16 (dk_at dksX9_notCome_1 6 rfl rfl)
theorem dX9_notCome_33 : decode cX9_notCome 33 = .ok (.iconst 1, 1) := dk_4 (dk_at dksX9_notCome_1 9 rfl rfl)
theorem dX9_notCome_34 : decode cX9_notCome 34 = .ok (.iaload, 1) := dk_46 (dk_at dksX9_notCome_1 10 rfl rfl)
theorem dX9_notCome_35 : decode cX9_notCome 35 = .ok (.bipush 20, 2) := dk_16 20 (dk_at dksX9_notCome_1 11 rfl rfl)
theorem dX9_notCome_37 : decode cX9_notCome 37 = .ok (.if_icmp .ne 14, 3) := dk_160 0 14 (dk_at dksX9_notCome_1 13 rfl rfl)
theorem dX9_notCome_40 : decode cX9_notCome 40 = .ok (.aload_n 0, 1) := dk_42 (dk_at dksX9_notCome_1 16 rfl rfl)
theorem dX9_notCome_41 : decode cX9_notCome 41 = .ok (.iconst 3, 1) := dk_6 (dk_at dksX9_notCome_1 17 rfl rfl)
theorem dX9_notCome_42 : decode cX9_notCome 42 = .ok (.iconst 1, 1) := dk_4 (dk_at dksX9_notCome_1 18 rfl rfl)
theorem dX9_notCome_43 : decode cX9_notCome 43 = .ok (.bipush 20, 2) := dk_16 20 (dk_at dksX9_notCome_1 19 rfl rfl)
theorem dX9_notCome_45 : decode cX9_notCome 45 = .ok (.invokevirtual 117, 3) := dk_182 0 117 (dk_at dksX9_notCome_1 21 rfl rfl)
theorem dX9_notCome_48 : decode cX9_notCome 48 = .ok (.goto 4, 3) := dk_167 0 4 (dk_at dksX9_notCome_2 0 rfl rfl)
theorem dX9_notCome_51 : decode cX9_notCome 51 = .ok (.iconst 0, 1) := dk_3 (dk_at dksX9_notCome_2 3 rfl rfl)
theorem dX9_notCome_52 : decode cX9_notCome 52 = .ok (.ireturn, 1) := dk_172 (dk_at dksX9_notCome_2 4 rfl rfl)
abbrev cX9_comes : ByteArray := prog_13_method_52_code
def yX9_comes : MethodName := ⟨RX9, "comes", "(II)I"⟩
def dkwX9_comes_1 : List UInt8 := [42, 29, 4, 28, 182, 0, 111, 42, 29, 182, 0, 149, 87, 29, 172]
abbrev dktX9_comes_1 : List UInt8 := dkwX9_comes_1 ++ []
def dkwX9_comes_0 : List UInt8 := [42, 180, 0, 16, 4, 46, 62, 42, 180, 0, 16, 4, 92, 46, 4, 96, 79, 42, 29, 3, 27, 182, 0, 111]
abbrev dktX9_comes_0 : List UInt8 := dkwX9_comes_0 ++ dktX9_comes_1
theorem dksX9_comes_0 : cX9_comes.data.toList.drop 0 = dktX9_comes_0 := by decide +kernel
theorem dksX9_comes_1 : cX9_comes.data.toList.drop 24 = dktX9_comes_1 := dk_seg dksX9_comes_0 24 rfl rfl
theorem dX9_comes_0 : decode cX9_comes 0 = .ok (.aload_n 0, 1) := dk_42 (dk_at dksX9_comes_0 0 rfl rfl)
theorem dX9_comes_1 : decode cX9_comes 1 = .ok (.getfield 16, 3) := dk_180 0 16 (dk_at dksX9_comes_0 1 rfl rfl)
theorem dX9_comes_4 : decode cX9_comes 4 = .ok (.iconst 1, 1) := dk_4 (dk_at dksX9_comes_0 4 rfl rfl)
theorem dX9_comes_5 : decode cX9_comes 5 = .ok (.iaload, 1) := dk_46 (dk_at dksX9_comes_0 5 rfl rfl)
theorem dX9_comes_6 : decode cX9_comes 6 = .ok (.istore_n 3, 1) := dk_62 (dk_at dksX9_comes_0 6 rfl rfl)
theorem dX9_comes_7 : decode cX9_comes 7 = .ok (.aload_n 0, 1) := dk_42 (dk_at dksX9_comes_0 7 rfl rfl)
theorem dX9_comes_8 : decode cX9_comes 8 = .ok (.getfield 16, 3) := dk_180 0 16 (dk_at dksX9_comes_0 8 rfl rfl)
theorem dX9_comes_11 : decode cX9_comes 11 = .ok (.iconst 1, 1) := dk_4 (dk_at dksX9_comes_0 11 rfl rfl)
theorem dX9_comes_12 : decode cX9_comes 12 = .ok (.dup2, 1) := dk_92 (dk_at dksX9_comes_0 12 rfl rfl)
theorem dX9_comes_13 : decode cX9_comes 13 = .ok (.iaload, 1) := dk_46 (dk_at dksX9_comes_0 13 rfl rfl)
theorem dX9_comes_14 : decode cX9_comes 14 = .ok (.iconst 1, 1) := dk_4 (dk_at dksX9_comes_0 14 rfl rfl)
theorem dX9_comes_15 : decode cX9_comes 15 = .ok (.iadd, 1) := dk_96 (dk_at dksX9_comes_0 15 rfl rfl)
theorem dX9_comes_16 : decode cX9_comes 16 = .ok (.iastore, 1) := dk_79 (dk_at dksX9_comes_0 16 rfl rfl)
theorem dX9_comes_17 : decode cX9_comes 17 = .ok (.aload_n 0, 1) := dk_42 (dk_at dksX9_comes_0 17 rfl rfl)
theorem dX9_comes_18 : decode cX9_comes 18 = .ok (.iload_n 3, 1) := dk_29 (dk_at dksX9_comes_0 18 rfl rfl)
theorem dX9_comes_19 : decode cX9_comes 19 = .ok (.iconst 0, 1) := dk_3 (dk_at dksX9_comes_0 19 rfl rfl)
theorem dX9_comes_20 : decode cX9_comes 20 = .ok (.iload_n 1, 1) := dk_27 (dk_at dksX9_comes_0 20 rfl rfl)
theorem dX9_comes_21 : decode cX9_comes 21 = .ok (.invokevirtual 111, 3) := dk_182 0 111 (dk_at dksX9_comes_0 21 rfl rfl)
theorem dX9_comes_24 : decode cX9_comes 24 = .ok (.aload_n 0, 1) := dk_42 (dk_at dksX9_comes_1 0 rfl rfl)
theorem dX9_comes_25 : decode cX9_comes 25 = .ok (.iload_n 3, 1) := dk_29 (dk_at dksX9_comes_1 1 rfl rfl)
theorem dX9_comes_26 : decode cX9_comes 26 = .ok (.iconst 1, 1) := dk_4 (dk_at dksX9_comes_1 2 rfl rfl)
theorem dX9_comes_27 : decode cX9_comes 27 = .ok (.iload_n 2, 1) := dk_28 (dk_at dksX9_comes_1 3 rfl rfl)
theorem dX9_comes_28 : decode cX9_comes 28 = .ok (.invokevirtual 111, 3) := dk_182 0 111 (dk_at dksX9_comes_1 4 rfl rfl)
theorem dX9_comes_31 : decode cX9_comes 31 = .ok (.aload_n 0, 1) := dk_42 (dk_at dksX9_comes_1 7 rfl rfl)
theorem dX9_comes_32 : decode cX9_comes 32 = .ok (.iload_n 3, 1) := dk_29 (dk_at dksX9_comes_1 8 rfl rfl)
theorem dX9_comes_33 : decode cX9_comes 33 = .ok (.invokevirtual 149, 3) := dk_182 0 149 (dk_at dksX9_comes_1 9 rfl rfl)
theorem dX9_comes_36 : decode cX9_comes 36 = .ok (.pop, 1) := dk_87 (dk_at dksX9_comes_1 12 rfl rfl)
theorem dX9_comes_37 : decode cX9_comes 37 = .ok (.iload_n 3, 1) := dk_29 (dk_at dksX9_comes_1 13 rfl rfl)
theorem dX9_comes_38 : decode cX9_comes 38 = .ok (.ireturn, 1) := dk_172 (dk_at dksX9_comes_1 14 rfl rfl)
abbrev cX9_leave : ByteArray := prog_13_method_56_code
def yX9_leave : MethodName := ⟨RX9, "leave", "(I)I"⟩
def dkwX9_leave_1 : List UInt8 := [182, 0, 124, 42, 27, 182, 0, 199, 172]
abbrev dktX9_leave_1 : List UInt8 := dkwX9_leave_1 ++ []
def dkwX9_leave_0 : List UInt8 := [42, 3, 181, 0, 45, 42, 27, 182, 0, 196, 61, 28, 153, 0, 9, 42, 28, 182, 0, 121, 172, 42]
abbrev dktX9_leave_0 : List UInt8 := dkwX9_leave_0 ++ dktX9_leave_1
theorem dksX9_leave_0 : cX9_leave.data.toList.drop 0 = dktX9_leave_0 := by decide +kernel
theorem dksX9_leave_1 : cX9_leave.data.toList.drop 22 = dktX9_leave_1 := dk_seg dksX9_leave_0 22 rfl rfl
theorem dX9_leave_0 : decode cX9_leave 0 = .ok (.aload_n 0, 1) := dk_42 (dk_at dksX9_leave_0 0 rfl rfl)
theorem dX9_leave_1 : decode cX9_leave 1 = .ok (.iconst 0, 1) := dk_3 (dk_at dksX9_leave_0 1 rfl rfl)
theorem dX9_leave_2 : decode cX9_leave 2 = .ok (.putfield 45, 3) := dk_181 0 45 (dk_at dksX9_leave_0 2 rfl rfl)
theorem dX9_leave_5 : decode cX9_leave 5 = .ok (.aload_n 0, 1) := dk_42 (dk_at dksX9_leave_0 5 rfl rfl)
theorem dX9_leave_6 : decode cX9_leave 6 = .ok (.iload_n 1, 1) := dk_27 (dk_at dksX9_leave_0 6 rfl rfl)
theorem dX9_leave_7 : decode cX9_leave 7 = .ok (.invokevirtual 196, 3) := dk_182 0 196 (dk_at dksX9_leave_0 7 rfl rfl)
theorem dX9_leave_10 : decode cX9_leave 10 = .ok (.istore_n 2, 1) := dk_61 (dk_at dksX9_leave_0 10 rfl rfl)
theorem dX9_leave_11 : decode cX9_leave 11 = .ok (.iload_n 2, 1) := dk_28 (dk_at dksX9_leave_0 11 rfl rfl)
theorem dX9_leave_12 : decode cX9_leave 12 = .ok (.ifCond .eq 9, 3) := dk_153 0 9 (dk_at dksX9_leave_0 12 rfl rfl)
theorem dX9_leave_15 : decode cX9_leave 15 = .ok (.aload_n 0, 1) := dk_42 (dk_at dksX9_leave_0 15 rfl rfl)
theorem dX9_leave_16 : decode cX9_leave 16 = .ok (.iload_n 2, 1) := dk_28 (dk_at dksX9_leave_0 16 rfl rfl)
theorem dX9_leave_17 : decode cX9_leave 17 = .ok (.invokevirtual 121, 3) := dk_182 0 121 (dk_at dksX9_leave_0 17 rfl rfl)
theorem dX9_leave_20 : decode cX9_leave 20 = .ok (.ireturn, 1) := dk_172 (dk_at dksX9_leave_0 20 rfl rfl)
theorem dX9_leave_21 : decode cX9_leave 21 = .ok (.aload_n 0, 1) := dk_42 (dk_at dksX9_leave_0 21 rfl rfl)
theorem dX9_leave_22 : decode cX9_leave 22 = .ok (.invokevirtual 124, 3) := dk_182 0 124 (dk_at dksX9_leave_1 0 rfl rfl)
theorem dX9_leave_25 : decode cX9_leave 25 = .ok (.aload_n 0, 1) := dk_42 (dk_at dksX9_leave_1 3 rfl rfl)
theorem dX9_leave_26 : decode cX9_leave 26 = .ok (.iload_n 1, 1) := dk_27 (dk_at dksX9_leave_1 4 rfl rfl)
theorem dX9_leave_27 : decode cX9_leave 27 = .ok (.invokevirtual 199, 3) := dk_182 0 199 (dk_at dksX9_leave_1 5 rfl rfl)
theorem dX9_leave_30 : decode cX9_leave 30 = .ok (.ireturn, 1) := dk_172 (dk_at dksX9_leave_1 8 rfl rfl)
abbrev cX9_notLeave : ByteArray := prog_13_method_54_code
def yX9_notLeave : MethodName := ⟨RX9, "notLeave", "(I)I"⟩
def dkwX9_notLeave_0 : List UInt8 := [42, 27, 182, 0, 193, 153, 0, 7, 3, 167, 0, 8, 42, 4, 182, 0, 136, 172]
abbrev dktX9_notLeave_0 : List UInt8 := dkwX9_notLeave_0 ++ []
theorem dksX9_notLeave_0 : cX9_notLeave.data.toList.drop 0 = dktX9_notLeave_0 := by decide +kernel
theorem dX9_notLeave_0 : decode cX9_notLeave 0 = .ok (.aload_n 0, 1) := dk_42 (dk_at dksX9_notLeave_0 0 rfl rfl)
theorem dX9_notLeave_1 : decode cX9_notLeave 1 = .ok (.iload_n 1, 1) := dk_27 (dk_at dksX9_notLeave_0 1 rfl rfl)
theorem dX9_notLeave_2 : decode cX9_notLeave 2 = .ok (.invokevirtual 193, 3) := dk_182 0 193 (dk_at dksX9_notLeave_0 2 rfl rfl)
theorem dX9_notLeave_5 : decode cX9_notLeave 5 = .ok (.ifCond .eq 7, 3) := dk_153 0 7 (dk_at dksX9_notLeave_0 5 rfl rfl)
theorem dX9_notLeave_8 : decode cX9_notLeave 8 = .ok (.iconst 0, 1) := dk_3 (dk_at dksX9_notLeave_0 8 rfl rfl)
theorem dX9_notLeave_9 : decode cX9_notLeave 9 = .ok (.goto 8, 3) := dk_167 0 8 (dk_at dksX9_notLeave_0 9 rfl rfl)
theorem dX9_notLeave_12 : decode cX9_notLeave 12 = .ok (.aload_n 0, 1) := dk_42 (dk_at dksX9_notLeave_0 12 rfl rfl)
theorem dX9_notLeave_13 : decode cX9_notLeave 13 = .ok (.iconst 1, 1) := dk_4 (dk_at dksX9_notLeave_0 13 rfl rfl)
theorem dX9_notLeave_14 : decode cX9_notLeave 14 = .ok (.invokevirtual 136, 3) := dk_182 0 136 (dk_at dksX9_notLeave_0 14 rfl rfl)
theorem dX9_notLeave_17 : decode cX9_notLeave 17 = .ok (.ireturn, 1) := dk_172 (dk_at dksX9_notLeave_0 17 rfl rfl)
abbrev cX9_isCustomer : ByteArray := prog_13_method_16_code
def yX9_isCustomer : MethodName := ⟨RX9, "isCustomer", "(I)Z"⟩
def dkwX9_isCustomer_0 : List UInt8 := [27, 3, 42, 180, 0, 16, 4, 46, 4, 100, 184, 0, 74, 172]
abbrev dktX9_isCustomer_0 : List UInt8 := dkwX9_isCustomer_0 ++ []
theorem dksX9_isCustomer_0 : cX9_isCustomer.data.toList.drop 0 = dktX9_isCustomer_0 := by decide +kernel
theorem dX9_isCustomer_0 : decode cX9_isCustomer 0 = .ok (.iload_n 1, 1) := dk_27 (dk_at dksX9_isCustomer_0 0 rfl rfl)
theorem dX9_isCustomer_1 : decode cX9_isCustomer 1 = .ok (.iconst 0, 1) := dk_3 (dk_at dksX9_isCustomer_0 1 rfl rfl)
theorem dX9_isCustomer_2 : decode cX9_isCustomer 2 = .ok (.aload_n 0, 1) := dk_42 (dk_at dksX9_isCustomer_0 2 rfl rfl)
theorem dX9_isCustomer_3 : decode cX9_isCustomer 3 = .ok (.getfield 16, 3) := dk_180 0 16 (dk_at dksX9_isCustomer_0 3 rfl rfl)
theorem dX9_isCustomer_6 : decode cX9_isCustomer 6 = .ok (.iconst 1, 1) := dk_4 (dk_at dksX9_isCustomer_0 6 rfl rfl)
theorem dX9_isCustomer_7 : decode cX9_isCustomer 7 = .ok (.iaload, 1) := dk_46 (dk_at dksX9_isCustomer_0 7 rfl rfl)
theorem dX9_isCustomer_8 : decode cX9_isCustomer 8 = .ok (.iconst 1, 1) := dk_4 (dk_at dksX9_isCustomer_0 8 rfl rfl)
theorem dX9_isCustomer_9 : decode cX9_isCustomer 9 = .ok (.isub, 1) := dk_100 (dk_at dksX9_isCustomer_0 9 rfl rfl)
theorem dX9_isCustomer_10 : decode cX9_isCustomer 10 = .ok (.invokestatic 74, 3) := dk_184 0 74 (dk_at dksX9_isCustomer_0 10 rfl rfl)
theorem dX9_isCustomer_13 : decode cX9_isCustomer 13 = .ok (.ireturn, 1) := dk_172 (dk_at dksX9_isCustomer_0 13 rfl rfl)
abbrev cX9_leaves : ByteArray := prog_13_method_55_code
def yX9_leaves : MethodName := ⟨RX9, "leaves", "(I)I"⟩
def dkwX9_leaves_3 : List UInt8 := [182, 0, 111, 132, 2, 1, 167, 255, 235, 42, 2, 182, 0, 149, 172]
abbrev dktX9_leaves_3 : List UInt8 := dkwX9_leaves_3 ++ []
def dkwX9_leaves_2 : List UInt8 := [79, 132, 2, 1, 167, 255, 219, 3, 61, 28, 16, 6, 162, 0, 21, 42, 42, 180, 0, 16, 4, 46, 28, 3]
abbrev dktX9_leaves_2 : List UInt8 := dkwX9_leaves_2 ++ dktX9_leaves_3
def dkwX9_leaves_1 : List UInt8 := [104, 162, 0, 30, 42, 180, 0, 16, 16, 79, 28, 96, 42, 180, 0, 16, 16, 79, 28, 96, 16, 6, 96, 46]
abbrev dktX9_leaves_1 : List UInt8 := dkwX9_leaves_1 ++ dktX9_leaves_2
def dkwX9_leaves_0 : List UInt8 := [42, 180, 0, 16, 4, 92, 46, 4, 100, 79, 16, 6, 27, 104, 61, 28, 16, 6, 42, 180, 0, 16, 4, 46]
abbrev dktX9_leaves_0 : List UInt8 := dkwX9_leaves_0 ++ dktX9_leaves_1
theorem dksX9_leaves_0 : cX9_leaves.data.toList.drop 0 = dktX9_leaves_0 := by decide +kernel
theorem dksX9_leaves_1 : cX9_leaves.data.toList.drop 24 = dktX9_leaves_1 := dk_seg dksX9_leaves_0 24 rfl rfl
theorem dksX9_leaves_2 : cX9_leaves.data.toList.drop 48 = dktX9_leaves_2 := dk_seg dksX9_leaves_1 24 rfl rfl
theorem dksX9_leaves_3 : cX9_leaves.data.toList.drop 72 = dktX9_leaves_3 := dk_seg dksX9_leaves_2 24 rfl rfl
theorem dX9_leaves_0 : decode cX9_leaves 0 = .ok (.aload_n 0, 1) := dk_42 (dk_at dksX9_leaves_0 0 rfl rfl)
theorem dX9_leaves_1 : decode cX9_leaves 1 = .ok (.getfield 16, 3) := dk_180 0 16 (dk_at dksX9_leaves_0 1 rfl rfl)
theorem dX9_leaves_4 : decode cX9_leaves 4 = .ok (.iconst 1, 1) := dk_4 (dk_at dksX9_leaves_0 4 rfl rfl)
theorem dX9_leaves_5 : decode cX9_leaves 5 = .ok (.dup2, 1) := dk_92 (dk_at dksX9_leaves_0 5 rfl rfl)
theorem dX9_leaves_6 : decode cX9_leaves 6 = .ok (.iaload, 1) := dk_46 (dk_at dksX9_leaves_0 6 rfl rfl)
theorem dX9_leaves_7 : decode cX9_leaves 7 = .ok (.iconst 1, 1) := dk_4 (dk_at dksX9_leaves_0 7 rfl rfl)
theorem dX9_leaves_8 : decode cX9_leaves 8 = .ok (.isub, 1) := dk_100 (dk_at dksX9_leaves_0 8 rfl rfl)
theorem dX9_leaves_9 : decode cX9_leaves 9 = .ok (.iastore, 1) := dk_79 (dk_at dksX9_leaves_0 9 rfl rfl)
theorem dX9_leaves_10 : decode cX9_leaves 10 = .ok (.bipush 6, 2) := dk_16 6 (dk_at dksX9_leaves_0 10 rfl rfl)
theorem dX9_leaves_12 : decode cX9_leaves 12 = .ok (.iload_n 1, 1) := dk_27 (dk_at dksX9_leaves_0 12 rfl rfl)
theorem dX9_leaves_13 : decode cX9_leaves 13 = .ok (.imul, 1) := dk_104 (dk_at dksX9_leaves_0 13 rfl rfl)
theorem dX9_leaves_14 : decode cX9_leaves 14 = .ok (.istore_n 2, 1) := dk_61 (dk_at dksX9_leaves_0 14 rfl rfl)
theorem dX9_leaves_15 : decode cX9_leaves 15 = .ok (.iload_n 2, 1) := dk_28 (dk_at dksX9_leaves_0 15 rfl rfl)
theorem dX9_leaves_16 : decode cX9_leaves 16 = .ok (.bipush 6, 2) := dk_16 6 (dk_at dksX9_leaves_0 16 rfl rfl)
theorem dX9_leaves_18 : decode cX9_leaves 18 = .ok (.aload_n 0, 1) := dk_42 (dk_at dksX9_leaves_0 18 rfl rfl)
theorem dX9_leaves_19 : decode cX9_leaves 19 = .ok (.getfield 16, 3) := dk_180 0 16 (dk_at dksX9_leaves_0 19 rfl rfl)
theorem dX9_leaves_22 : decode cX9_leaves 22 = .ok (.iconst 1, 1) := dk_4 (dk_at dksX9_leaves_0 22 rfl rfl)
theorem dX9_leaves_23 : decode cX9_leaves 23 = .ok (.iaload, 1) := dk_46 (dk_at dksX9_leaves_0 23 rfl rfl)
theorem dX9_leaves_24 : decode cX9_leaves 24 = .ok (.imul, 1) := dk_104 (dk_at dksX9_leaves_1 0 rfl rfl)
theorem dX9_leaves_25 : decode cX9_leaves 25 = .ok (.if_icmp .ge 30, 3) := dk_162 0 30 (dk_at dksX9_leaves_1 1 rfl rfl)
theorem dX9_leaves_28 : decode cX9_leaves 28 = .ok (.aload_n 0, 1) := dk_42 (dk_at dksX9_leaves_1 4 rfl rfl)
theorem dX9_leaves_29 : decode cX9_leaves 29 = .ok (.getfield 16, 3) := dk_180 0 16 (dk_at dksX9_leaves_1 5 rfl rfl)
theorem dX9_leaves_32 : decode cX9_leaves 32 = .ok (.bipush 79, 2) := dk_16 79 (dk_at dksX9_leaves_1 8 rfl rfl)
theorem dX9_leaves_34 : decode cX9_leaves 34 = .ok (.iload_n 2, 1) := dk_28 (dk_at dksX9_leaves_1 10 rfl rfl)
theorem dX9_leaves_35 : decode cX9_leaves 35 = .ok (.iadd, 1) := dk_96 (dk_at dksX9_leaves_1 11 rfl rfl)
theorem dX9_leaves_36 : decode cX9_leaves 36 = .ok (.aload_n 0, 1) := dk_42 (dk_at dksX9_leaves_1 12 rfl rfl)
theorem dX9_leaves_37 : decode cX9_leaves 37 = .ok (.getfield 16, 3) := dk_180 0 16 (dk_at dksX9_leaves_1 13 rfl rfl)
theorem dX9_leaves_40 : decode cX9_leaves 40 = .ok (.bipush 79, 2) := dk_16 79 (dk_at dksX9_leaves_1 16 rfl rfl)
theorem dX9_leaves_42 : decode cX9_leaves 42 = .ok (.iload_n 2, 1) := dk_28 (dk_at dksX9_leaves_1 18 rfl rfl)
theorem dX9_leaves_43 : decode cX9_leaves 43 = .ok (.iadd, 1) := dk_96 (dk_at dksX9_leaves_1 19 rfl rfl)
theorem dX9_leaves_44 : decode cX9_leaves 44 = .ok (.bipush 6, 2) := dk_16 6 (dk_at dksX9_leaves_1 20 rfl rfl)
theorem dX9_leaves_46 : decode cX9_leaves 46 = .ok (.iadd, 1) := dk_96 (dk_at dksX9_leaves_1 22 rfl rfl)
theorem dX9_leaves_47 : decode cX9_leaves 47 = .ok (.iaload, 1) := dk_46 (dk_at dksX9_leaves_1 23 rfl rfl)
theorem dX9_leaves_48 : decode cX9_leaves 48 = .ok (.iastore, 1) := dk_79 (dk_at dksX9_leaves_2 0 rfl rfl)
theorem dX9_leaves_49 : decode cX9_leaves 49 = .ok (.iinc 2 1, 3) := dk_132 2 1 (dk_at dksX9_leaves_2 1 rfl rfl)
theorem dX9_leaves_52 : decode cX9_leaves 52 = .ok (.goto (-37), 3) := dk_167 255 219 (dk_at dksX9_leaves_2 4 rfl rfl)
theorem dX9_leaves_55 : decode cX9_leaves 55 = .ok (.iconst 0, 1) := dk_3 (dk_at dksX9_leaves_2 7 rfl rfl)
theorem dX9_leaves_56 : decode cX9_leaves 56 = .ok (.istore_n 2, 1) := dk_61 (dk_at dksX9_leaves_2 8 rfl rfl)
theorem dX9_leaves_57 : decode cX9_leaves 57 = .ok (.iload_n 2, 1) := dk_28 (dk_at dksX9_leaves_2 9 rfl rfl)
theorem dX9_leaves_58 : decode cX9_leaves 58 = .ok (.bipush 6, 2) := dk_16 6 (dk_at dksX9_leaves_2 10 rfl rfl)
theorem dX9_leaves_60 : decode cX9_leaves 60 = .ok (.if_icmp .ge 21, 3) := dk_162 0 21 (dk_at dksX9_leaves_2 12 rfl rfl)
theorem dX9_leaves_63 : decode cX9_leaves 63 = .ok (.aload_n 0, 1) := dk_42 (dk_at dksX9_leaves_2 15 rfl rfl)
theorem dX9_leaves_64 : decode cX9_leaves 64 = .ok (.aload_n 0, 1) := dk_42 (dk_at dksX9_leaves_2 16 rfl rfl)
theorem dX9_leaves_65 : decode cX9_leaves 65 = .ok (.getfield 16, 3) := dk_180 0 16 (dk_at dksX9_leaves_2 17 rfl rfl)
theorem dX9_leaves_68 : decode cX9_leaves 68 = .ok (.iconst 1, 1) := dk_4 (dk_at dksX9_leaves_2 20 rfl rfl)
theorem dX9_leaves_69 : decode cX9_leaves 69 = .ok (.iaload, 1) := dk_46 (dk_at dksX9_leaves_2 21 rfl rfl)
theorem dX9_leaves_70 : decode cX9_leaves 70 = .ok (.iload_n 2, 1) := dk_28 (dk_at dksX9_leaves_2 22 rfl rfl)
theorem dX9_leaves_71 : decode cX9_leaves 71 = .ok (.iconst 0, 1) := dk_3 (dk_at dksX9_leaves_2 23 rfl rfl)
theorem dX9_leaves_72 : decode cX9_leaves 72 = .ok (.invokevirtual 111, 3) := dk_182 0 111 (dk_at dksX9_leaves_3 0 rfl rfl)
theorem dX9_leaves_75 : decode cX9_leaves 75 = .ok (.iinc 2 1, 3) := dk_132 2 1 (dk_at dksX9_leaves_3 3 rfl rfl)
theorem dX9_leaves_78 : decode cX9_leaves 78 = .ok (.goto (-21), 3) := dk_167 255 235 (dk_at dksX9_leaves_3 6 rfl rfl)
theorem dX9_leaves_81 : decode cX9_leaves 81 = .ok (.aload_n 0, 1) := dk_42 (dk_at dksX9_leaves_3 9 rfl rfl)
theorem dX9_leaves_82 : decode cX9_leaves 82 = .ok (.iconst (-1), 1) := dk_2 (dk_at dksX9_leaves_3 10 rfl rfl)
theorem dX9_leaves_83 : decode cX9_leaves 83 = .ok (.invokevirtual 149, 3) := dk_182 0 149 (dk_at dksX9_leaves_3 11 rfl rfl)
theorem dX9_leaves_86 : decode cX9_leaves 86 = .ok (.ireturn, 1) := dk_172 (dk_at dksX9_leaves_3 14 rfl rfl)
abbrev cX9_bakeryOf : ByteArray := prog_13_method_59_code
def yX9_bakeryOf : MethodName := ⟨RX9, "bakeryOf", "(II)I"⟩
def dkwX9_bakeryOf_4 : List UInt8 := [27, 182, 0, 205, 153, 0, 7, 4, 167, 0, 4, 3, 172, 42, 5, 182, 0, 58, 172]
abbrev dktX9_bakeryOf_4 : List UInt8 := dkwX9_bakeryOf_4 ++ []
def dkwX9_bakeryOf_3 : List UInt8 := [167, 0, 4, 3, 172, 42, 27, 182, 0, 142, 172, 42, 27, 182, 0, 202, 172, 42, 27, 182, 0, 114, 172, 42]
abbrev dktX9_bakeryOf_3 : List UInt8 := dkwX9_bakeryOf_3 ++ dktX9_bakeryOf_4
def dkwX9_bakeryOf_2 : List UInt8 := [42, 27, 28, 182, 0, 78, 172, 42, 27, 182, 0, 99, 172, 42, 27, 182, 0, 88, 153, 0, 7, 4]
abbrev dktX9_bakeryOf_2 : List UInt8 := dkwX9_bakeryOf_2 ++ dktX9_bakeryOf_3
def dkwX9_bakeryOf_1 : List UInt8 := [170, 0, 0, 0, 0, 0, 0, 107, 0, 0, 0, 0, 0, 0, 0, 7, 0, 0, 0, 48, 0, 0, 0, 48, 0, 0, 0, 55, 0, 0, 0, 61, 0, 0, 0, 75, 0, 0, 0, 81, 0, 0, 0, 87, 0, 0, 0, 93]
abbrev dktX9_bakeryOf_1 : List UInt8 := dkwX9_bakeryOf_1 ++ dktX9_bakeryOf_2
def dkwX9_bakeryOf_0 : List UInt8 := [42, 3, 181, 0, 45, 42, 27, 182, 0, 130, 154, 0, 9, 42, 4, 182, 0, 58, 172, 28]
abbrev dktX9_bakeryOf_0 : List UInt8 := dkwX9_bakeryOf_0 ++ dktX9_bakeryOf_1
theorem dksX9_bakeryOf_0 : cX9_bakeryOf.data.toList.drop 0 = dktX9_bakeryOf_0 := by decide +kernel
theorem dksX9_bakeryOf_1 : cX9_bakeryOf.data.toList.drop 20 = dktX9_bakeryOf_1 := dk_seg dksX9_bakeryOf_0 20 rfl rfl
theorem dksX9_bakeryOf_2 : cX9_bakeryOf.data.toList.drop 68 = dktX9_bakeryOf_2 := dk_seg dksX9_bakeryOf_1 48 rfl rfl
theorem dksX9_bakeryOf_3 : cX9_bakeryOf.data.toList.drop 90 = dktX9_bakeryOf_3 := dk_seg dksX9_bakeryOf_2 22 rfl rfl
theorem dksX9_bakeryOf_4 : cX9_bakeryOf.data.toList.drop 114 = dktX9_bakeryOf_4 := dk_seg dksX9_bakeryOf_3 24 rfl rfl
theorem dX9_bakeryOf_0 : decode cX9_bakeryOf 0 = .ok (.aload_n 0, 1) := dk_42 (dk_at dksX9_bakeryOf_0 0 rfl rfl)
theorem dX9_bakeryOf_1 : decode cX9_bakeryOf 1 = .ok (.iconst 0, 1) := dk_3 (dk_at dksX9_bakeryOf_0 1 rfl rfl)
theorem dX9_bakeryOf_2 : decode cX9_bakeryOf 2 = .ok (.putfield 45, 3) := dk_181 0 45 (dk_at dksX9_bakeryOf_0 2 rfl rfl)
theorem dX9_bakeryOf_5 : decode cX9_bakeryOf 5 = .ok (.aload_n 0, 1) := dk_42 (dk_at dksX9_bakeryOf_0 5 rfl rfl)
theorem dX9_bakeryOf_6 : decode cX9_bakeryOf 6 = .ok (.iload_n 1, 1) := dk_27 (dk_at dksX9_bakeryOf_0 6 rfl rfl)
theorem dX9_bakeryOf_7 : decode cX9_bakeryOf 7 = .ok (.invokevirtual 130, 3) := dk_182 0 130 (dk_at dksX9_bakeryOf_0 7 rfl rfl)
theorem dX9_bakeryOf_10 : decode cX9_bakeryOf 10 = .ok (.ifCond .ne 9, 3) := dk_154 0 9 (dk_at dksX9_bakeryOf_0 10 rfl rfl)
theorem dX9_bakeryOf_13 : decode cX9_bakeryOf 13 = .ok (.aload_n 0, 1) := dk_42 (dk_at dksX9_bakeryOf_0 13 rfl rfl)
theorem dX9_bakeryOf_14 : decode cX9_bakeryOf 14 = .ok (.iconst 1, 1) := dk_4 (dk_at dksX9_bakeryOf_0 14 rfl rfl)
theorem dX9_bakeryOf_15 : decode cX9_bakeryOf 15 = .ok (.invokevirtual 58, 3) := dk_182 0 58 (dk_at dksX9_bakeryOf_0 15 rfl rfl)
theorem dX9_bakeryOf_18 : decode cX9_bakeryOf 18 = .ok (.ireturn, 1) := dk_172 (dk_at dksX9_bakeryOf_0 18 rfl rfl)
theorem dX9_bakeryOf_19 : decode cX9_bakeryOf 19 = .ok (.iload_n 2, 1) := dk_28 (dk_at dksX9_bakeryOf_0 19 rfl rfl)
theorem dX9_bakeryOf_20 : decode cX9_bakeryOf 20 = .ok (.tableswitch 107 0 7 #[48, 48, 55, 61, 75, 81, 87, 93], 48) := by decide +kernel
theorem dX9_bakeryOf_68 : decode cX9_bakeryOf 68 = .ok (.aload_n 0, 1) := dk_42 (dk_at dksX9_bakeryOf_2 0 rfl rfl)
theorem dX9_bakeryOf_69 : decode cX9_bakeryOf 69 = .ok (.iload_n 1, 1) := dk_27 (dk_at dksX9_bakeryOf_2 1 rfl rfl)
theorem dX9_bakeryOf_70 : decode cX9_bakeryOf 70 = .ok (.iload_n 2, 1) := dk_28 (dk_at dksX9_bakeryOf_2 2 rfl rfl)
theorem dX9_bakeryOf_71 : decode cX9_bakeryOf 71 = .ok (.invokevirtual 78, 3) := dk_182 0 78 (dk_at dksX9_bakeryOf_2 3 rfl rfl)
theorem dX9_bakeryOf_74 : decode cX9_bakeryOf 74 = .ok (.ireturn, 1) := dk_172 (dk_at dksX9_bakeryOf_2 6 rfl rfl)
theorem dX9_bakeryOf_75 : decode cX9_bakeryOf 75 = .ok (.aload_n 0, 1) := dk_42 (dk_at dksX9_bakeryOf_2 7 rfl rfl)
theorem dX9_bakeryOf_76 : decode cX9_bakeryOf 76 = .ok (.iload_n 1, 1) := dk_27 (dk_at dksX9_bakeryOf_2 8 rfl rfl)
theorem dX9_bakeryOf_77 : decode cX9_bakeryOf 77 = .ok (.invokevirtual 99, 3) := dk_182 0 99 (dk_at dksX9_bakeryOf_2 9 rfl rfl)
theorem dX9_bakeryOf_80 : decode cX9_bakeryOf 80 = .ok (.ireturn, 1) := dk_172 (dk_at dksX9_bakeryOf_2 12 rfl rfl)
theorem dX9_bakeryOf_81 : decode cX9_bakeryOf 81 = .ok (.aload_n 0, 1) := dk_42 (dk_at dksX9_bakeryOf_2 13 rfl rfl)
theorem dX9_bakeryOf_82 : decode cX9_bakeryOf 82 = .ok (.iload_n 1, 1) := dk_27 (dk_at dksX9_bakeryOf_2 14 rfl rfl)
theorem dX9_bakeryOf_83 : decode cX9_bakeryOf 83 = .ok (.invokevirtual 88, 3) := dk_182 0 88 (dk_at dksX9_bakeryOf_2 15 rfl rfl)
theorem dX9_bakeryOf_86 : decode cX9_bakeryOf 86 = .ok (.ifCond .eq 7, 3) := dk_153 0 7 (dk_at dksX9_bakeryOf_2 18 rfl rfl)
theorem dX9_bakeryOf_89 : decode cX9_bakeryOf 89 = .ok (.iconst 1, 1) := dk_4 (dk_at dksX9_bakeryOf_2 21 rfl rfl)
theorem dX9_bakeryOf_90 : decode cX9_bakeryOf 90 = .ok (.goto 4, 3) := dk_167 0 4 (dk_at dksX9_bakeryOf_3 0 rfl rfl)
theorem dX9_bakeryOf_93 : decode cX9_bakeryOf 93 = .ok (.iconst 0, 1) := dk_3 (dk_at dksX9_bakeryOf_3 3 rfl rfl)
theorem dX9_bakeryOf_94 : decode cX9_bakeryOf 94 = .ok (.ireturn, 1) := dk_172 (dk_at dksX9_bakeryOf_3 4 rfl rfl)
theorem dX9_bakeryOf_95 : decode cX9_bakeryOf 95 = .ok (.aload_n 0, 1) := dk_42 (dk_at dksX9_bakeryOf_3 5 rfl rfl)
theorem dX9_bakeryOf_96 : decode cX9_bakeryOf 96 = .ok (.iload_n 1, 1) := dk_27 (dk_at dksX9_bakeryOf_3 6 rfl rfl)
theorem dX9_bakeryOf_97 : decode cX9_bakeryOf 97 = .ok (.invokevirtual 142, 3) := dk_182 0 142 (dk_at dksX9_bakeryOf_3 7 rfl rfl)
theorem dX9_bakeryOf_100 : decode cX9_bakeryOf 100 = .ok (.ireturn, 1) := dk_172 (dk_at dksX9_bakeryOf_3 10 rfl rfl)
theorem dX9_bakeryOf_101 : decode cX9_bakeryOf 101 = .ok (.aload_n 0, 1) := dk_42 (dk_at dksX9_bakeryOf_3 11 rfl rfl)
theorem dX9_bakeryOf_102 : decode cX9_bakeryOf 102 = .ok (.iload_n 1, 1) := dk_27 (dk_at dksX9_bakeryOf_3 12 rfl rfl)
theorem dX9_bakeryOf_103 : decode cX9_bakeryOf 103 = .ok (.invokevirtual 202, 3) := dk_182 0 202 (dk_at dksX9_bakeryOf_3 13 rfl rfl)
theorem dX9_bakeryOf_106 : decode cX9_bakeryOf 106 = .ok (.ireturn, 1) := dk_172 (dk_at dksX9_bakeryOf_3 16 rfl rfl)
theorem dX9_bakeryOf_107 : decode cX9_bakeryOf 107 = .ok (.aload_n 0, 1) := dk_42 (dk_at dksX9_bakeryOf_3 17 rfl rfl)
theorem dX9_bakeryOf_108 : decode cX9_bakeryOf 108 = .ok (.iload_n 1, 1) := dk_27 (dk_at dksX9_bakeryOf_3 18 rfl rfl)
theorem dX9_bakeryOf_109 : decode cX9_bakeryOf 109 = .ok (.invokevirtual 114, 3) := dk_182 0 114 (dk_at dksX9_bakeryOf_3 19 rfl rfl)
theorem dX9_bakeryOf_112 : decode cX9_bakeryOf 112 = .ok (.ireturn, 1) := dk_172 (dk_at dksX9_bakeryOf_3 22 rfl rfl)
theorem dX9_bakeryOf_113 : decode cX9_bakeryOf 113 = .ok (.aload_n 0, 1) := dk_42 (dk_at dksX9_bakeryOf_3 23 rfl rfl)
theorem dX9_bakeryOf_114 : decode cX9_bakeryOf 114 = .ok (.iload_n 1, 1) := dk_27 (dk_at dksX9_bakeryOf_4 0 rfl rfl)
theorem dX9_bakeryOf_115 : decode cX9_bakeryOf 115 = .ok (.invokevirtual 205, 3) := dk_182 0 205 (dk_at dksX9_bakeryOf_4 1 rfl rfl)
theorem dX9_bakeryOf_118 : decode cX9_bakeryOf 118 = .ok (.ifCond .eq 7, 3) := dk_153 0 7 (dk_at dksX9_bakeryOf_4 4 rfl rfl)
theorem dX9_bakeryOf_121 : decode cX9_bakeryOf 121 = .ok (.iconst 1, 1) := dk_4 (dk_at dksX9_bakeryOf_4 7 rfl rfl)
theorem dX9_bakeryOf_122 : decode cX9_bakeryOf 122 = .ok (.goto 4, 3) := dk_167 0 4 (dk_at dksX9_bakeryOf_4 8 rfl rfl)
theorem dX9_bakeryOf_125 : decode cX9_bakeryOf 125 = .ok (.iconst 0, 1) := dk_3 (dk_at dksX9_bakeryOf_4 11 rfl rfl)
theorem dX9_bakeryOf_126 : decode cX9_bakeryOf 126 = .ok (.ireturn, 1) := dk_172 (dk_at dksX9_bakeryOf_4 12 rfl rfl)
theorem dX9_bakeryOf_127 : decode cX9_bakeryOf 127 = .ok (.aload_n 0, 1) := dk_42 (dk_at dksX9_bakeryOf_4 13 rfl rfl)
theorem dX9_bakeryOf_128 : decode cX9_bakeryOf 128 = .ok (.iconst 2, 1) := dk_5 (dk_at dksX9_bakeryOf_4 14 rfl rfl)
theorem dX9_bakeryOf_129 : decode cX9_bakeryOf 129 = .ok (.invokevirtual 58, 3) := dk_182 0 58 (dk_at dksX9_bakeryOf_4 15 rfl rfl)
theorem dX9_bakeryOf_132 : decode cX9_bakeryOf 132 = .ok (.ireturn, 1) := dk_172 (dk_at dksX9_bakeryOf_4 18 rfl rfl)
abbrev cX9_customersOf : ByteArray := prog_13_method_57_code
def yX9_customersOf : MethodName := ⟨RX9, "customersOf", "(I)I"⟩
def dkwX9_customersOf_1 : List UInt8 := [160, 0, 7, 4, 167, 0, 4, 3, 96, 61, 132, 3, 1, 167, 255, 223, 28, 172]
abbrev dktX9_customersOf_1 : List UInt8 := dkwX9_customersOf_1 ++ []
def dkwX9_customersOf_0 : List UInt8 := [3, 61, 3, 62, 29, 42, 180, 0, 16, 4, 46, 162, 0, 29, 28, 42, 29, 5, 182, 0, 105, 27, 4, 96]
abbrev dktX9_customersOf_0 : List UInt8 := dkwX9_customersOf_0 ++ dktX9_customersOf_1
theorem dksX9_customersOf_0 : cX9_customersOf.data.toList.drop 0 = dktX9_customersOf_0 := by decide +kernel
theorem dksX9_customersOf_1 : cX9_customersOf.data.toList.drop 24 = dktX9_customersOf_1 := dk_seg dksX9_customersOf_0 24 rfl rfl
theorem dX9_customersOf_0 : decode cX9_customersOf 0 = .ok (.iconst 0, 1) := dk_3 (dk_at dksX9_customersOf_0 0 rfl rfl)
theorem dX9_customersOf_1 : decode cX9_customersOf 1 = .ok (.istore_n 2, 1) := dk_61 (dk_at dksX9_customersOf_0 1 rfl rfl)
theorem dX9_customersOf_2 : decode cX9_customersOf 2 = .ok (.iconst 0, 1) := dk_3 (dk_at dksX9_customersOf_0 2 rfl rfl)
theorem dX9_customersOf_3 : decode cX9_customersOf 3 = .ok (.istore_n 3, 1) := dk_62 (dk_at dksX9_customersOf_0 3 rfl rfl)
theorem dX9_customersOf_4 : decode cX9_customersOf 4 = .ok (.iload_n 3, 1) := dk_29 (dk_at dksX9_customersOf_0 4 rfl rfl)
theorem dX9_customersOf_5 : decode cX9_customersOf 5 = .ok (.aload_n 0, 1) := dk_42 (dk_at dksX9_customersOf_0 5 rfl rfl)
theorem dX9_customersOf_6 : decode cX9_customersOf 6 = .ok (.getfield 16, 3) := dk_180 0 16 (dk_at dksX9_customersOf_0 6 rfl rfl)
theorem dX9_customersOf_9 : decode cX9_customersOf 9 = .ok (.iconst 1, 1) := dk_4 (dk_at dksX9_customersOf_0 9 rfl rfl)
theorem dX9_customersOf_10 : decode cX9_customersOf 10 = .ok (.iaload, 1) := dk_46 (dk_at dksX9_customersOf_0 10 rfl rfl)
theorem dX9_customersOf_11 : decode cX9_customersOf 11 = .ok (.if_icmp .ge 29, 3) := dk_162 0 29 (dk_at dksX9_customersOf_0 11 rfl rfl)
theorem dX9_customersOf_14 : decode cX9_customersOf 14 = .ok (.iload_n 2, 1) := dk_28 (dk_at dksX9_customersOf_0 14 rfl rfl)
theorem dX9_customersOf_15 : decode cX9_customersOf 15 = .ok (.aload_n 0, 1) := dk_42 (dk_at dksX9_customersOf_0 15 rfl rfl)
theorem dX9_customersOf_16 : decode cX9_customersOf 16 = .ok (.iload_n 3, 1) := dk_29 (dk_at dksX9_customersOf_0 16 rfl rfl)
theorem dX9_customersOf_17 : decode cX9_customersOf 17 = .ok (.iconst 2, 1) := dk_5 (dk_at dksX9_customersOf_0 17 rfl rfl)
theorem dX9_customersOf_18 : decode cX9_customersOf 18 = .ok (.invokevirtual 105, 3) := dk_182 0 105 (dk_at dksX9_customersOf_0 18 rfl rfl)
theorem dX9_customersOf_21 : decode cX9_customersOf 21 = .ok (.iload_n 1, 1) := dk_27 (dk_at dksX9_customersOf_0 21 rfl rfl)
theorem dX9_customersOf_22 : decode cX9_customersOf 22 = .ok (.iconst 1, 1) := dk_4 (dk_at dksX9_customersOf_0 22 rfl rfl)
theorem dX9_customersOf_23 : decode cX9_customersOf 23 = .ok (.iadd, 1) := dk_96 (dk_at dksX9_customersOf_0 23 rfl rfl)
theorem dX9_customersOf_24 : decode cX9_customersOf 24 = .ok (.if_icmp .ne 7, 3) := dk_160 0 7 (dk_at dksX9_customersOf_1 0 rfl rfl)
theorem dX9_customersOf_27 : decode cX9_customersOf 27 = .ok (.iconst 1, 1) := dk_4 (dk_at dksX9_customersOf_1 3 rfl rfl)
theorem dX9_customersOf_28 : decode cX9_customersOf 28 = .ok (.goto 4, 3) := dk_167 0 4 (dk_at dksX9_customersOf_1 4 rfl rfl)
theorem dX9_customersOf_31 : decode cX9_customersOf 31 = .ok (.iconst 0, 1) := dk_3 (dk_at dksX9_customersOf_1 7 rfl rfl)
theorem dX9_customersOf_32 : decode cX9_customersOf 32 = .ok (.iadd, 1) := dk_96 (dk_at dksX9_customersOf_1 8 rfl rfl)
theorem dX9_customersOf_33 : decode cX9_customersOf 33 = .ok (.istore_n 2, 1) := dk_61 (dk_at dksX9_customersOf_1 9 rfl rfl)
theorem dX9_customersOf_34 : decode cX9_customersOf 34 = .ok (.iinc 3 1, 3) := dk_132 3 1 (dk_at dksX9_customersOf_1 10 rfl rfl)
theorem dX9_customersOf_37 : decode cX9_customersOf 37 = .ok (.goto (-33), 3) := dk_167 255 223 (dk_at dksX9_customersOf_1 13 rfl rfl)
theorem dX9_customersOf_40 : decode cX9_customersOf 40 = .ok (.iload_n 2, 1) := dk_28 (dk_at dksX9_customersOf_1 16 rfl rfl)
theorem dX9_customersOf_41 : decode cX9_customersOf 41 = .ok (.ireturn, 1) := dk_172 (dk_at dksX9_customersOf_1 17 rfl rfl)
abbrev cX9_loadOf : ByteArray := prog_13_method_34_code
def yX9_loadOf : MethodName := ⟨RX9, "loadOf", "(I)I"⟩
def dkwX9_loadOf_1 : List UInt8 := [160, 0, 12, 42, 29, 4, 182, 0, 105, 167, 0, 4, 3, 96, 61, 132, 3, 1, 167, 255, 218, 28, 172]
abbrev dktX9_loadOf_1 : List UInt8 := dkwX9_loadOf_1 ++ []
def dkwX9_loadOf_0 : List UInt8 := [3, 61, 3, 62, 29, 42, 180, 0, 16, 4, 46, 162, 0, 34, 28, 42, 29, 5, 182, 0, 105, 27, 4, 96]
abbrev dktX9_loadOf_0 : List UInt8 := dkwX9_loadOf_0 ++ dktX9_loadOf_1
theorem dksX9_loadOf_0 : cX9_loadOf.data.toList.drop 0 = dktX9_loadOf_0 := by decide +kernel
theorem dksX9_loadOf_1 : cX9_loadOf.data.toList.drop 24 = dktX9_loadOf_1 := dk_seg dksX9_loadOf_0 24 rfl rfl
theorem dX9_loadOf_0 : decode cX9_loadOf 0 = .ok (.iconst 0, 1) := dk_3 (dk_at dksX9_loadOf_0 0 rfl rfl)
theorem dX9_loadOf_1 : decode cX9_loadOf 1 = .ok (.istore_n 2, 1) := dk_61 (dk_at dksX9_loadOf_0 1 rfl rfl)
theorem dX9_loadOf_2 : decode cX9_loadOf 2 = .ok (.iconst 0, 1) := dk_3 (dk_at dksX9_loadOf_0 2 rfl rfl)
theorem dX9_loadOf_3 : decode cX9_loadOf 3 = .ok (.istore_n 3, 1) := dk_62 (dk_at dksX9_loadOf_0 3 rfl rfl)
theorem dX9_loadOf_4 : decode cX9_loadOf 4 = .ok (.iload_n 3, 1) := dk_29 (dk_at dksX9_loadOf_0 4 rfl rfl)
theorem dX9_loadOf_5 : decode cX9_loadOf 5 = .ok (.aload_n 0, 1) := dk_42 (dk_at dksX9_loadOf_0 5 rfl rfl)
theorem dX9_loadOf_6 : decode cX9_loadOf 6 = .ok (.getfield 16, 3) := dk_180 0 16 (dk_at dksX9_loadOf_0 6 rfl rfl)
theorem dX9_loadOf_9 : decode cX9_loadOf 9 = .ok (.iconst 1, 1) := dk_4 (dk_at dksX9_loadOf_0 9 rfl rfl)
theorem dX9_loadOf_10 : decode cX9_loadOf 10 = .ok (.iaload, 1) := dk_46 (dk_at dksX9_loadOf_0 10 rfl rfl)
theorem dX9_loadOf_11 : decode cX9_loadOf 11 = .ok (.if_icmp .ge 34, 3) := dk_162 0 34 (dk_at dksX9_loadOf_0 11 rfl rfl)
theorem dX9_loadOf_14 : decode cX9_loadOf 14 = .ok (.iload_n 2, 1) := dk_28 (dk_at dksX9_loadOf_0 14 rfl rfl)
theorem dX9_loadOf_15 : decode cX9_loadOf 15 = .ok (.aload_n 0, 1) := dk_42 (dk_at dksX9_loadOf_0 15 rfl rfl)
theorem dX9_loadOf_16 : decode cX9_loadOf 16 = .ok (.iload_n 3, 1) := dk_29 (dk_at dksX9_loadOf_0 16 rfl rfl)
theorem dX9_loadOf_17 : decode cX9_loadOf 17 = .ok (.iconst 2, 1) := dk_5 (dk_at dksX9_loadOf_0 17 rfl rfl)
theorem dX9_loadOf_18 : decode cX9_loadOf 18 = .ok (.invokevirtual 105, 3) := dk_182 0 105 (dk_at dksX9_loadOf_0 18 rfl rfl)
theorem dX9_loadOf_21 : decode cX9_loadOf 21 = .ok (.iload_n 1, 1) := dk_27 (dk_at dksX9_loadOf_0 21 rfl rfl)
theorem dX9_loadOf_22 : decode cX9_loadOf 22 = .ok (.iconst 1, 1) := dk_4 (dk_at dksX9_loadOf_0 22 rfl rfl)
theorem dX9_loadOf_23 : decode cX9_loadOf 23 = .ok (.iadd, 1) := dk_96 (dk_at dksX9_loadOf_0 23 rfl rfl)
theorem dX9_loadOf_24 : decode cX9_loadOf 24 = .ok (.if_icmp .ne 12, 3) := dk_160 0 12 (dk_at dksX9_loadOf_1 0 rfl rfl)
theorem dX9_loadOf_27 : decode cX9_loadOf 27 = .ok (.aload_n 0, 1) := dk_42 (dk_at dksX9_loadOf_1 3 rfl rfl)
theorem dX9_loadOf_28 : decode cX9_loadOf 28 = .ok (.iload_n 3, 1) := dk_29 (dk_at dksX9_loadOf_1 4 rfl rfl)
theorem dX9_loadOf_29 : decode cX9_loadOf 29 = .ok (.iconst 1, 1) := dk_4 (dk_at dksX9_loadOf_1 5 rfl rfl)
theorem dX9_loadOf_30 : decode cX9_loadOf 30 = .ok (.invokevirtual 105, 3) := dk_182 0 105 (dk_at dksX9_loadOf_1 6 rfl rfl)
theorem dX9_loadOf_33 : decode cX9_loadOf 33 = .ok (.goto 4, 3) := dk_167 0 4 (dk_at dksX9_loadOf_1 9 rfl rfl)
theorem dX9_loadOf_36 : decode cX9_loadOf 36 = .ok (.iconst 0, 1) := dk_3 (dk_at dksX9_loadOf_1 12 rfl rfl)
theorem dX9_loadOf_37 : decode cX9_loadOf 37 = .ok (.iadd, 1) := dk_96 (dk_at dksX9_loadOf_1 13 rfl rfl)
theorem dX9_loadOf_38 : decode cX9_loadOf 38 = .ok (.istore_n 2, 1) := dk_61 (dk_at dksX9_loadOf_1 14 rfl rfl)
theorem dX9_loadOf_39 : decode cX9_loadOf 39 = .ok (.iinc 3 1, 3) := dk_132 3 1 (dk_at dksX9_loadOf_1 15 rfl rfl)
theorem dX9_loadOf_42 : decode cX9_loadOf 42 = .ok (.goto (-38), 3) := dk_167 255 218 (dk_at dksX9_loadOf_1 18 rfl rfl)
theorem dX9_loadOf_45 : decode cX9_loadOf 45 = .ok (.iload_n 2, 1) := dk_28 (dk_at dksX9_loadOf_1 21 rfl rfl)
theorem dX9_loadOf_46 : decode cX9_loadOf 46 = .ok (.ireturn, 1) := dk_172 (dk_at dksX9_loadOf_1 22 rfl rfl)
abbrev cX9_isOverloaded : ByteArray := prog_13_method_58_code
def yX9_isOverloaded : MethodName := ⟨RX9, "isOverloaded", "(I)Z"⟩
def dkwX9_isOverloaded_0 : List UInt8 := [42, 27, 182, 0, 114, 42, 27, 4, 182, 0, 78, 164, 0, 7, 4, 167, 0, 4, 3, 172]
abbrev dktX9_isOverloaded_0 : List UInt8 := dkwX9_isOverloaded_0 ++ []
theorem dksX9_isOverloaded_0 : cX9_isOverloaded.data.toList.drop 0 = dktX9_isOverloaded_0 := by decide +kernel
theorem dX9_isOverloaded_0 : decode cX9_isOverloaded 0 = .ok (.aload_n 0, 1) := dk_42 (dk_at dksX9_isOverloaded_0 0 rfl rfl)
theorem dX9_isOverloaded_1 : decode cX9_isOverloaded 1 = .ok (.iload_n 1, 1) := dk_27 (dk_at dksX9_isOverloaded_0 1 rfl rfl)
theorem dX9_isOverloaded_2 : decode cX9_isOverloaded 2 = .ok (.invokevirtual 114, 3) := dk_182 0 114 (dk_at dksX9_isOverloaded_0 2 rfl rfl)
theorem dX9_isOverloaded_5 : decode cX9_isOverloaded 5 = .ok (.aload_n 0, 1) := dk_42 (dk_at dksX9_isOverloaded_0 5 rfl rfl)
theorem dX9_isOverloaded_6 : decode cX9_isOverloaded 6 = .ok (.iload_n 1, 1) := dk_27 (dk_at dksX9_isOverloaded_0 6 rfl rfl)
theorem dX9_isOverloaded_7 : decode cX9_isOverloaded 7 = .ok (.iconst 1, 1) := dk_4 (dk_at dksX9_isOverloaded_0 7 rfl rfl)
theorem dX9_isOverloaded_8 : decode cX9_isOverloaded 8 = .ok (.invokevirtual 78, 3) := dk_182 0 78 (dk_at dksX9_isOverloaded_0 8 rfl rfl)
theorem dX9_isOverloaded_11 : decode cX9_isOverloaded 11 = .ok (.if_icmp .le 7, 3) := dk_164 0 7 (dk_at dksX9_isOverloaded_0 11 rfl rfl)
theorem dX9_isOverloaded_14 : decode cX9_isOverloaded 14 = .ok (.iconst 1, 1) := dk_4 (dk_at dksX9_isOverloaded_0 14 rfl rfl)
theorem dX9_isOverloaded_15 : decode cX9_isOverloaded 15 = .ok (.goto 4, 3) := dk_167 0 4 (dk_at dksX9_isOverloaded_0 15 rfl rfl)
theorem dX9_isOverloaded_18 : decode cX9_isOverloaded 18 = .ok (.iconst 0, 1) := dk_3 (dk_at dksX9_isOverloaded_0 18 rfl rfl)
theorem dX9_isOverloaded_19 : decode cX9_isOverloaded 19 = .ok (.ireturn, 1) := dk_172 (dk_at dksX9_isOverloaded_0 19 rfl rfl)
abbrev cX9_signAt : ByteArray := prog_13_method_60_code
def yX9_signAt : MethodName := ⟨RX9, "signAt", "(I)I"⟩
def dkwX9_signAt_1 : List UInt8 := [182, 0, 82, 167, 0, 8, 42, 4, 182, 0, 58, 172]
abbrev dktX9_signAt_1 : List UInt8 := dkwX9_signAt_1 ++ []
def dkwX9_signAt_0 : List UInt8 := [42, 3, 181, 0, 45, 27, 3, 42, 180, 0, 16, 16, 28, 46, 4, 100, 184, 0, 74, 153, 0, 11, 42, 27]
abbrev dktX9_signAt_0 : List UInt8 := dkwX9_signAt_0 ++ dktX9_signAt_1
theorem dksX9_signAt_0 : cX9_signAt.data.toList.drop 0 = dktX9_signAt_0 := by decide +kernel
theorem dksX9_signAt_1 : cX9_signAt.data.toList.drop 24 = dktX9_signAt_1 := dk_seg dksX9_signAt_0 24 rfl rfl
theorem dX9_signAt_0 : decode cX9_signAt 0 = .ok (.aload_n 0, 1) := dk_42 (dk_at dksX9_signAt_0 0 rfl rfl)
theorem dX9_signAt_1 : decode cX9_signAt 1 = .ok (.iconst 0, 1) := dk_3 (dk_at dksX9_signAt_0 1 rfl rfl)
theorem dX9_signAt_2 : decode cX9_signAt 2 = .ok (.putfield 45, 3) := dk_181 0 45 (dk_at dksX9_signAt_0 2 rfl rfl)
theorem dX9_signAt_5 : decode cX9_signAt 5 = .ok (.iload_n 1, 1) := dk_27 (dk_at dksX9_signAt_0 5 rfl rfl)
theorem dX9_signAt_6 : decode cX9_signAt 6 = .ok (.iconst 0, 1) := dk_3 (dk_at dksX9_signAt_0 6 rfl rfl)
theorem dX9_signAt_7 : decode cX9_signAt 7 = .ok (.aload_n 0, 1) := dk_42 (dk_at dksX9_signAt_0 7 rfl rfl)
theorem dX9_signAt_8 : decode cX9_signAt 8 = .ok (.getfield 16, 3) := dk_180 0 16 (dk_at dksX9_signAt_0 8 rfl rfl)
theorem dX9_signAt_11 : decode cX9_signAt 11 = .ok (.bipush 28, 2) := dk_16 28 (dk_at dksX9_signAt_0 11 rfl rfl)
theorem dX9_signAt_13 : decode cX9_signAt 13 = .ok (.iaload, 1) := dk_46 (dk_at dksX9_signAt_0 13 rfl rfl)
theorem dX9_signAt_14 : decode cX9_signAt 14 = .ok (.iconst 1, 1) := dk_4 (dk_at dksX9_signAt_0 14 rfl rfl)
theorem dX9_signAt_15 : decode cX9_signAt 15 = .ok (.isub, 1) := dk_100 (dk_at dksX9_signAt_0 15 rfl rfl)
theorem dX9_signAt_16 : decode cX9_signAt 16 = .ok (.invokestatic 74, 3) := dk_184 0 74 (dk_at dksX9_signAt_0 16 rfl rfl)
theorem dX9_signAt_19 : decode cX9_signAt 19 = .ok (.ifCond .eq 11, 3) := dk_153 0 11 (dk_at dksX9_signAt_0 19 rfl rfl)
theorem dX9_signAt_22 : decode cX9_signAt 22 = .ok (.aload_n 0, 1) := dk_42 (dk_at dksX9_signAt_0 22 rfl rfl)
theorem dX9_signAt_23 : decode cX9_signAt 23 = .ok (.iload_n 1, 1) := dk_27 (dk_at dksX9_signAt_0 23 rfl rfl)
theorem dX9_signAt_24 : decode cX9_signAt 24 = .ok (.invokevirtual 82, 3) := dk_182 0 82 (dk_at dksX9_signAt_1 0 rfl rfl)
theorem dX9_signAt_27 : decode cX9_signAt 27 = .ok (.goto 8, 3) := dk_167 0 8 (dk_at dksX9_signAt_1 3 rfl rfl)
theorem dX9_signAt_30 : decode cX9_signAt 30 = .ok (.aload_n 0, 1) := dk_42 (dk_at dksX9_signAt_1 6 rfl rfl)
theorem dX9_signAt_31 : decode cX9_signAt 31 = .ok (.iconst 1, 1) := dk_4 (dk_at dksX9_signAt_1 7 rfl rfl)
theorem dX9_signAt_32 : decode cX9_signAt 32 = .ok (.invokevirtual 58, 3) := dk_182 0 58 (dk_at dksX9_signAt_1 8 rfl rfl)
theorem dX9_signAt_35 : decode cX9_signAt 35 = .ok (.ireturn, 1) := dk_172 (dk_at dksX9_signAt_1 11 rfl rfl)
abbrev cX9_signOf : ByteArray := prog_13_method_61_code
def yX9_signOf : MethodName := ⟨RX9, "signOf", "(I)I"⟩
def dkwX9_signOf_1 : List UInt8 := [156, 0, 11, 42, 5, 182, 0, 58, 167, 0, 12, 42, 42, 27, 182, 0, 139, 182, 0, 85, 172]
abbrev dktX9_signOf_1 : List UInt8 := dkwX9_signOf_1 ++ []
def dkwX9_signOf_0 : List UInt8 := [42, 3, 181, 0, 45, 27, 184, 0, 133, 154, 0, 9, 42, 4, 182, 0, 58, 172, 42, 27, 182, 0, 139]
abbrev dktX9_signOf_0 : List UInt8 := dkwX9_signOf_0 ++ dktX9_signOf_1
theorem dksX9_signOf_0 : cX9_signOf.data.toList.drop 0 = dktX9_signOf_0 := by decide +kernel
theorem dksX9_signOf_1 : cX9_signOf.data.toList.drop 23 = dktX9_signOf_1 := dk_seg dksX9_signOf_0 23 rfl rfl
theorem dX9_signOf_0 : decode cX9_signOf 0 = .ok (.aload_n 0, 1) := dk_42 (dk_at dksX9_signOf_0 0 rfl rfl)
theorem dX9_signOf_1 : decode cX9_signOf 1 = .ok (.iconst 0, 1) := dk_3 (dk_at dksX9_signOf_0 1 rfl rfl)
theorem dX9_signOf_2 : decode cX9_signOf 2 = .ok (.putfield 45, 3) := dk_181 0 45 (dk_at dksX9_signOf_0 2 rfl rfl)
theorem dX9_signOf_5 : decode cX9_signOf 5 = .ok (.iload_n 1, 1) := dk_27 (dk_at dksX9_signOf_0 5 rfl rfl)
theorem dX9_signOf_6 : decode cX9_signOf 6 = .ok (.invokestatic 133, 3) := dk_184 0 133 (dk_at dksX9_signOf_0 6 rfl rfl)
theorem dX9_signOf_9 : decode cX9_signOf 9 = .ok (.ifCond .ne 9, 3) := dk_154 0 9 (dk_at dksX9_signOf_0 9 rfl rfl)
theorem dX9_signOf_12 : decode cX9_signOf 12 = .ok (.aload_n 0, 1) := dk_42 (dk_at dksX9_signOf_0 12 rfl rfl)
theorem dX9_signOf_13 : decode cX9_signOf 13 = .ok (.iconst 1, 1) := dk_4 (dk_at dksX9_signOf_0 13 rfl rfl)
theorem dX9_signOf_14 : decode cX9_signOf 14 = .ok (.invokevirtual 58, 3) := dk_182 0 58 (dk_at dksX9_signOf_0 14 rfl rfl)
theorem dX9_signOf_17 : decode cX9_signOf 17 = .ok (.ireturn, 1) := dk_172 (dk_at dksX9_signOf_0 17 rfl rfl)
theorem dX9_signOf_18 : decode cX9_signOf 18 = .ok (.aload_n 0, 1) := dk_42 (dk_at dksX9_signOf_0 18 rfl rfl)
theorem dX9_signOf_19 : decode cX9_signOf 19 = .ok (.iload_n 1, 1) := dk_27 (dk_at dksX9_signOf_0 19 rfl rfl)
theorem dX9_signOf_20 : decode cX9_signOf 20 = .ok (.invokevirtual 139, 3) := dk_182 0 139 (dk_at dksX9_signOf_0 20 rfl rfl)
theorem dX9_signOf_23 : decode cX9_signOf 23 = .ok (.ifCond .ge 11, 3) := dk_156 0 11 (dk_at dksX9_signOf_1 0 rfl rfl)
theorem dX9_signOf_26 : decode cX9_signOf 26 = .ok (.aload_n 0, 1) := dk_42 (dk_at dksX9_signOf_1 3 rfl rfl)
theorem dX9_signOf_27 : decode cX9_signOf 27 = .ok (.iconst 2, 1) := dk_5 (dk_at dksX9_signOf_1 4 rfl rfl)
theorem dX9_signOf_28 : decode cX9_signOf 28 = .ok (.invokevirtual 58, 3) := dk_182 0 58 (dk_at dksX9_signOf_1 5 rfl rfl)
theorem dX9_signOf_31 : decode cX9_signOf 31 = .ok (.goto 12, 3) := dk_167 0 12 (dk_at dksX9_signOf_1 8 rfl rfl)
theorem dX9_signOf_34 : decode cX9_signOf 34 = .ok (.aload_n 0, 1) := dk_42 (dk_at dksX9_signOf_1 11 rfl rfl)
theorem dX9_signOf_35 : decode cX9_signOf 35 = .ok (.aload_n 0, 1) := dk_42 (dk_at dksX9_signOf_1 12 rfl rfl)
theorem dX9_signOf_36 : decode cX9_signOf 36 = .ok (.iload_n 1, 1) := dk_27 (dk_at dksX9_signOf_1 13 rfl rfl)
theorem dX9_signOf_37 : decode cX9_signOf 37 = .ok (.invokevirtual 139, 3) := dk_182 0 139 (dk_at dksX9_signOf_1 14 rfl rfl)
theorem dX9_signOf_40 : decode cX9_signOf 40 = .ok (.invokevirtual 85, 3) := dk_182 0 85 (dk_at dksX9_signOf_1 17 rfl rfl)
theorem dX9_signOf_43 : decode cX9_signOf 43 = .ok (.ireturn, 1) := dk_172 (dk_at dksX9_signOf_1 20 rfl rfl)
abbrev cX9_customerOf : ByteArray := prog_13_method_62_code
def yX9_customerOf : MethodName := ⟨RX9, "customerOf", "(II)I"⟩
def dkwX9_customerOf_2 : List UInt8 := [6, 160, 0, 7, 4, 167, 0, 4, 3, 100, 172]
abbrev dktX9_customerOf_2 : List UInt8 := dkwX9_customerOf_2 ++ []
def dkwX9_customerOf_1 : List UInt8 := [184, 0, 74, 154, 0, 9, 42, 5, 182, 0, 58, 172, 42, 27, 28, 182, 0, 105, 28, 5, 159, 0, 8, 28]
abbrev dktX9_customerOf_1 : List UInt8 := dkwX9_customerOf_1 ++ dktX9_customerOf_2
def dkwX9_customerOf_0 : List UInt8 := [42, 3, 181, 0, 45, 42, 27, 182, 0, 193, 154, 0, 9, 42, 4, 182, 0, 58, 172, 28, 3, 8]
abbrev dktX9_customerOf_0 : List UInt8 := dkwX9_customerOf_0 ++ dktX9_customerOf_1
theorem dksX9_customerOf_0 : cX9_customerOf.data.toList.drop 0 = dktX9_customerOf_0 := by decide +kernel
theorem dksX9_customerOf_1 : cX9_customerOf.data.toList.drop 22 = dktX9_customerOf_1 := dk_seg dksX9_customerOf_0 22 rfl rfl
theorem dksX9_customerOf_2 : cX9_customerOf.data.toList.drop 46 = dktX9_customerOf_2 := dk_seg dksX9_customerOf_1 24 rfl rfl
theorem dX9_customerOf_0 : decode cX9_customerOf 0 = .ok (.aload_n 0, 1) := dk_42 (dk_at dksX9_customerOf_0 0 rfl rfl)
theorem dX9_customerOf_1 : decode cX9_customerOf 1 = .ok (.iconst 0, 1) := dk_3 (dk_at dksX9_customerOf_0 1 rfl rfl)
theorem dX9_customerOf_2 : decode cX9_customerOf 2 = .ok (.putfield 45, 3) := dk_181 0 45 (dk_at dksX9_customerOf_0 2 rfl rfl)
theorem dX9_customerOf_5 : decode cX9_customerOf 5 = .ok (.aload_n 0, 1) := dk_42 (dk_at dksX9_customerOf_0 5 rfl rfl)
theorem dX9_customerOf_6 : decode cX9_customerOf 6 = .ok (.iload_n 1, 1) := dk_27 (dk_at dksX9_customerOf_0 6 rfl rfl)
theorem dX9_customerOf_7 : decode cX9_customerOf 7 = .ok (.invokevirtual 193, 3) := dk_182 0 193 (dk_at dksX9_customerOf_0 7 rfl rfl)
theorem dX9_customerOf_10 : decode cX9_customerOf 10 = .ok (.ifCond .ne 9, 3) := dk_154 0 9 (dk_at dksX9_customerOf_0 10 rfl rfl)
theorem dX9_customerOf_13 : decode cX9_customerOf 13 = .ok (.aload_n 0, 1) := dk_42 (dk_at dksX9_customerOf_0 13 rfl rfl)
theorem dX9_customerOf_14 : decode cX9_customerOf 14 = .ok (.iconst 1, 1) := dk_4 (dk_at dksX9_customerOf_0 14 rfl rfl)
theorem dX9_customerOf_15 : decode cX9_customerOf 15 = .ok (.invokevirtual 58, 3) := dk_182 0 58 (dk_at dksX9_customerOf_0 15 rfl rfl)
theorem dX9_customerOf_18 : decode cX9_customerOf 18 = .ok (.ireturn, 1) := dk_172 (dk_at dksX9_customerOf_0 18 rfl rfl)
theorem dX9_customerOf_19 : decode cX9_customerOf 19 = .ok (.iload_n 2, 1) := dk_28 (dk_at dksX9_customerOf_0 19 rfl rfl)
theorem dX9_customerOf_20 : decode cX9_customerOf 20 = .ok (.iconst 0, 1) := dk_3 (dk_at dksX9_customerOf_0 20 rfl rfl)
theorem dX9_customerOf_21 : decode cX9_customerOf 21 = .ok (.iconst 5, 1) := dk_8 (dk_at dksX9_customerOf_0 21 rfl rfl)
theorem dX9_customerOf_22 : decode cX9_customerOf 22 = .ok (.invokestatic 74, 3) := dk_184 0 74 (dk_at dksX9_customerOf_1 0 rfl rfl)
theorem dX9_customerOf_25 : decode cX9_customerOf 25 = .ok (.ifCond .ne 9, 3) := dk_154 0 9 (dk_at dksX9_customerOf_1 3 rfl rfl)
theorem dX9_customerOf_28 : decode cX9_customerOf 28 = .ok (.aload_n 0, 1) := dk_42 (dk_at dksX9_customerOf_1 6 rfl rfl)
theorem dX9_customerOf_29 : decode cX9_customerOf 29 = .ok (.iconst 2, 1) := dk_5 (dk_at dksX9_customerOf_1 7 rfl rfl)
theorem dX9_customerOf_30 : decode cX9_customerOf 30 = .ok (.invokevirtual 58, 3) := dk_182 0 58 (dk_at dksX9_customerOf_1 8 rfl rfl)
theorem dX9_customerOf_33 : decode cX9_customerOf 33 = .ok (.ireturn, 1) := dk_172 (dk_at dksX9_customerOf_1 11 rfl rfl)
theorem dX9_customerOf_34 : decode cX9_customerOf 34 = .ok (.aload_n 0, 1) := dk_42 (dk_at dksX9_customerOf_1 12 rfl rfl)
theorem dX9_customerOf_35 : decode cX9_customerOf 35 = .ok (.iload_n 1, 1) := dk_27 (dk_at dksX9_customerOf_1 13 rfl rfl)
theorem dX9_customerOf_36 : decode cX9_customerOf 36 = .ok (.iload_n 2, 1) := dk_28 (dk_at dksX9_customerOf_1 14 rfl rfl)
theorem dX9_customerOf_37 : decode cX9_customerOf 37 = .ok (.invokevirtual 105, 3) := dk_182 0 105 (dk_at dksX9_customerOf_1 15 rfl rfl)
theorem dX9_customerOf_40 : decode cX9_customerOf 40 = .ok (.iload_n 2, 1) := dk_28 (dk_at dksX9_customerOf_1 18 rfl rfl)
theorem dX9_customerOf_41 : decode cX9_customerOf 41 = .ok (.iconst 2, 1) := dk_5 (dk_at dksX9_customerOf_1 19 rfl rfl)
theorem dX9_customerOf_42 : decode cX9_customerOf 42 = .ok (.if_icmp .eq 8, 3) := dk_159 0 8 (dk_at dksX9_customerOf_1 20 rfl rfl)
theorem dX9_customerOf_45 : decode cX9_customerOf 45 = .ok (.iload_n 2, 1) := dk_28 (dk_at dksX9_customerOf_1 23 rfl rfl)
theorem dX9_customerOf_46 : decode cX9_customerOf 46 = .ok (.iconst 3, 1) := dk_6 (dk_at dksX9_customerOf_2 0 rfl rfl)
theorem dX9_customerOf_47 : decode cX9_customerOf 47 = .ok (.if_icmp .ne 7, 3) := dk_160 0 7 (dk_at dksX9_customerOf_2 1 rfl rfl)
theorem dX9_customerOf_50 : decode cX9_customerOf 50 = .ok (.iconst 1, 1) := dk_4 (dk_at dksX9_customerOf_2 4 rfl rfl)
theorem dX9_customerOf_51 : decode cX9_customerOf 51 = .ok (.goto 4, 3) := dk_167 0 4 (dk_at dksX9_customerOf_2 5 rfl rfl)
theorem dX9_customerOf_54 : decode cX9_customerOf 54 = .ok (.iconst 0, 1) := dk_3 (dk_at dksX9_customerOf_2 8 rfl rfl)
theorem dX9_customerOf_55 : decode cX9_customerOf 55 = .ok (.isub, 1) := dk_100 (dk_at dksX9_customerOf_2 9 rfl rfl)
theorem dX9_customerOf_56 : decode cX9_customerOf 56 = .ok (.ireturn, 1) := dk_172 (dk_at dksX9_customerOf_2 10 rfl rfl)
abbrev cX9_way : ByteArray := prog_13_method_64_code
def yX9_way : MethodName := ⟨RX9, "way", "(II)I"⟩
def dkwX9_way_1 : List UInt8 := [167, 0, 8, 42, 4, 182, 0, 58, 172]
abbrev dktX9_way_1 : List UInt8 := dkwX9_way_1 ++ []
def dkwX9_way_0 : List UInt8 := [42, 3, 181, 0, 45, 27, 184, 0, 133, 153, 0, 18, 28, 184, 0, 133, 153, 0, 11, 27, 28, 184, 0, 208]
abbrev dktX9_way_0 : List UInt8 := dkwX9_way_0 ++ dktX9_way_1
theorem dksX9_way_0 : cX9_way.data.toList.drop 0 = dktX9_way_0 := by decide +kernel
theorem dksX9_way_1 : cX9_way.data.toList.drop 24 = dktX9_way_1 := dk_seg dksX9_way_0 24 rfl rfl
theorem dX9_way_0 : decode cX9_way 0 = .ok (.aload_n 0, 1) := dk_42 (dk_at dksX9_way_0 0 rfl rfl)
theorem dX9_way_1 : decode cX9_way 1 = .ok (.iconst 0, 1) := dk_3 (dk_at dksX9_way_0 1 rfl rfl)
theorem dX9_way_2 : decode cX9_way 2 = .ok (.putfield 45, 3) := dk_181 0 45 (dk_at dksX9_way_0 2 rfl rfl)
theorem dX9_way_5 : decode cX9_way 5 = .ok (.iload_n 1, 1) := dk_27 (dk_at dksX9_way_0 5 rfl rfl)
theorem dX9_way_6 : decode cX9_way 6 = .ok (.invokestatic 133, 3) := dk_184 0 133 (dk_at dksX9_way_0 6 rfl rfl)
theorem dX9_way_9 : decode cX9_way 9 = .ok (.ifCond .eq 18, 3) := dk_153 0 18 (dk_at dksX9_way_0 9 rfl rfl)
theorem dX9_way_12 : decode cX9_way 12 = .ok (.iload_n 2, 1) := dk_28 (dk_at dksX9_way_0 12 rfl rfl)
theorem dX9_way_13 : decode cX9_way 13 = .ok (.invokestatic 133, 3) := dk_184 0 133 (dk_at dksX9_way_0 13 rfl rfl)
theorem dX9_way_16 : decode cX9_way 16 = .ok (.ifCond .eq 11, 3) := dk_153 0 11 (dk_at dksX9_way_0 16 rfl rfl)
theorem dX9_way_19 : decode cX9_way 19 = .ok (.iload_n 1, 1) := dk_27 (dk_at dksX9_way_0 19 rfl rfl)
theorem dX9_way_20 : decode cX9_way 20 = .ok (.iload_n 2, 1) := dk_28 (dk_at dksX9_way_0 20 rfl rfl)
theorem dX9_way_21 : decode cX9_way 21 = .ok (.invokestatic 208, 3) := dk_184 0 208 (dk_at dksX9_way_0 21 rfl rfl)
theorem dX9_way_24 : decode cX9_way 24 = .ok (.goto 8, 3) := dk_167 0 8 (dk_at dksX9_way_1 0 rfl rfl)
theorem dX9_way_27 : decode cX9_way 27 = .ok (.aload_n 0, 1) := dk_42 (dk_at dksX9_way_1 3 rfl rfl)
theorem dX9_way_28 : decode cX9_way 28 = .ok (.iconst 1, 1) := dk_4 (dk_at dksX9_way_1 4 rfl rfl)
theorem dX9_way_29 : decode cX9_way 29 = .ok (.invokevirtual 58, 3) := dk_182 0 58 (dk_at dksX9_way_1 5 rfl rfl)
theorem dX9_way_32 : decode cX9_way 32 = .ok (.ireturn, 1) := dk_172 (dk_at dksX9_way_1 8 rfl rfl)
abbrev cX9_wayTo : ByteArray := prog_13_method_63_code
def yX9_wayTo : MethodName := ⟨RX9, "wayTo", "(II)I"⟩
def dkwX9_wayTo_0 : List UInt8 := [27, 26, 100, 17, 1, 104, 96, 17, 1, 104, 112, 172]
abbrev dktX9_wayTo_0 : List UInt8 := dkwX9_wayTo_0 ++ []
theorem dksX9_wayTo_0 : cX9_wayTo.data.toList.drop 0 = dktX9_wayTo_0 := by decide +kernel
theorem dX9_wayTo_0 : decode cX9_wayTo 0 = .ok (.iload_n 1, 1) := dk_27 (dk_at dksX9_wayTo_0 0 rfl rfl)
theorem dX9_wayTo_1 : decode cX9_wayTo 1 = .ok (.iload_n 0, 1) := dk_26 (dk_at dksX9_wayTo_0 1 rfl rfl)
theorem dX9_wayTo_2 : decode cX9_wayTo 2 = .ok (.isub, 1) := dk_100 (dk_at dksX9_wayTo_0 2 rfl rfl)
theorem dX9_wayTo_3 : decode cX9_wayTo 3 = .ok (.sipush 360, 3) := dk_17 1 104 (dk_at dksX9_wayTo_0 3 rfl rfl)
theorem dX9_wayTo_6 : decode cX9_wayTo 6 = .ok (.iadd, 1) := dk_96 (dk_at dksX9_wayTo_0 6 rfl rfl)
theorem dX9_wayTo_7 : decode cX9_wayTo 7 = .ok (.sipush 360, 3) := dk_17 1 104 (dk_at dksX9_wayTo_0 7 rfl rfl)
theorem dX9_wayTo_10 : decode cX9_wayTo 10 = .ok (.irem, 1) := dk_112 (dk_at dksX9_wayTo_0 10 rfl rfl)
theorem dX9_wayTo_11 : decode cX9_wayTo 11 = .ok (.ireturn, 1) := dk_172 (dk_at dksX9_wayTo_0 11 rfl rfl)
abbrev cX9_nearest : ByteArray := prog_13_method_66_code
def yX9_nearest : MethodName := ⟨RX9, "nearest", "(I)I"⟩
def dkwX9_nearest_1 : List UInt8 := [156, 0, 11, 42, 5, 182, 0, 58, 167, 0, 12, 42, 42, 27, 182, 0, 211, 182, 0, 85, 172]
abbrev dktX9_nearest_1 : List UInt8 := dkwX9_nearest_1 ++ []
def dkwX9_nearest_0 : List UInt8 := [42, 3, 181, 0, 45, 27, 184, 0, 133, 154, 0, 9, 42, 4, 182, 0, 58, 172, 42, 27, 182, 0, 211]
abbrev dktX9_nearest_0 : List UInt8 := dkwX9_nearest_0 ++ dktX9_nearest_1
theorem dksX9_nearest_0 : cX9_nearest.data.toList.drop 0 = dktX9_nearest_0 := by decide +kernel
theorem dksX9_nearest_1 : cX9_nearest.data.toList.drop 23 = dktX9_nearest_1 := dk_seg dksX9_nearest_0 23 rfl rfl
theorem dX9_nearest_0 : decode cX9_nearest 0 = .ok (.aload_n 0, 1) := dk_42 (dk_at dksX9_nearest_0 0 rfl rfl)
theorem dX9_nearest_1 : decode cX9_nearest 1 = .ok (.iconst 0, 1) := dk_3 (dk_at dksX9_nearest_0 1 rfl rfl)
theorem dX9_nearest_2 : decode cX9_nearest 2 = .ok (.putfield 45, 3) := dk_181 0 45 (dk_at dksX9_nearest_0 2 rfl rfl)
theorem dX9_nearest_5 : decode cX9_nearest 5 = .ok (.iload_n 1, 1) := dk_27 (dk_at dksX9_nearest_0 5 rfl rfl)
theorem dX9_nearest_6 : decode cX9_nearest 6 = .ok (.invokestatic 133, 3) := dk_184 0 133 (dk_at dksX9_nearest_0 6 rfl rfl)
theorem dX9_nearest_9 : decode cX9_nearest 9 = .ok (.ifCond .ne 9, 3) := dk_154 0 9 (dk_at dksX9_nearest_0 9 rfl rfl)
theorem dX9_nearest_12 : decode cX9_nearest 12 = .ok (.aload_n 0, 1) := dk_42 (dk_at dksX9_nearest_0 12 rfl rfl)
theorem dX9_nearest_13 : decode cX9_nearest 13 = .ok (.iconst 1, 1) := dk_4 (dk_at dksX9_nearest_0 13 rfl rfl)
theorem dX9_nearest_14 : decode cX9_nearest 14 = .ok (.invokevirtual 58, 3) := dk_182 0 58 (dk_at dksX9_nearest_0 14 rfl rfl)
theorem dX9_nearest_17 : decode cX9_nearest 17 = .ok (.ireturn, 1) := dk_172 (dk_at dksX9_nearest_0 17 rfl rfl)
theorem dX9_nearest_18 : decode cX9_nearest 18 = .ok (.aload_n 0, 1) := dk_42 (dk_at dksX9_nearest_0 18 rfl rfl)
theorem dX9_nearest_19 : decode cX9_nearest 19 = .ok (.iload_n 1, 1) := dk_27 (dk_at dksX9_nearest_0 19 rfl rfl)
theorem dX9_nearest_20 : decode cX9_nearest 20 = .ok (.invokevirtual 211, 3) := dk_182 0 211 (dk_at dksX9_nearest_0 20 rfl rfl)
theorem dX9_nearest_23 : decode cX9_nearest 23 = .ok (.ifCond .ge 11, 3) := dk_156 0 11 (dk_at dksX9_nearest_1 0 rfl rfl)
theorem dX9_nearest_26 : decode cX9_nearest 26 = .ok (.aload_n 0, 1) := dk_42 (dk_at dksX9_nearest_1 3 rfl rfl)
theorem dX9_nearest_27 : decode cX9_nearest 27 = .ok (.iconst 2, 1) := dk_5 (dk_at dksX9_nearest_1 4 rfl rfl)
theorem dX9_nearest_28 : decode cX9_nearest 28 = .ok (.invokevirtual 58, 3) := dk_182 0 58 (dk_at dksX9_nearest_1 5 rfl rfl)
theorem dX9_nearest_31 : decode cX9_nearest 31 = .ok (.goto 12, 3) := dk_167 0 12 (dk_at dksX9_nearest_1 8 rfl rfl)
theorem dX9_nearest_34 : decode cX9_nearest 34 = .ok (.aload_n 0, 1) := dk_42 (dk_at dksX9_nearest_1 11 rfl rfl)
theorem dX9_nearest_35 : decode cX9_nearest 35 = .ok (.aload_n 0, 1) := dk_42 (dk_at dksX9_nearest_1 12 rfl rfl)
theorem dX9_nearest_36 : decode cX9_nearest 36 = .ok (.iload_n 1, 1) := dk_27 (dk_at dksX9_nearest_1 13 rfl rfl)
theorem dX9_nearest_37 : decode cX9_nearest 37 = .ok (.invokevirtual 211, 3) := dk_182 0 211 (dk_at dksX9_nearest_1 14 rfl rfl)
theorem dX9_nearest_40 : decode cX9_nearest 40 = .ok (.invokevirtual 85, 3) := dk_182 0 85 (dk_at dksX9_nearest_1 17 rfl rfl)
theorem dX9_nearest_43 : decode cX9_nearest 43 = .ok (.ireturn, 1) := dk_172 (dk_at dksX9_nearest_1 20 rfl rfl)
abbrev cX9_openFrom : ByteArray := prog_13_method_65_code
def yX9_openFrom : MethodName := ⟨RX9, "openFrom", "(I)I"⟩
def dkwX9_openFrom_2 : List UInt8 := [172, 132, 3, 1, 167, 255, 213, 2, 172]
abbrev dktX9_openFrom_2 : List UInt8 := dkwX9_openFrom_2 ++ []
def dkwX9_openFrom_1 : List UInt8 := [180, 0, 16, 16, 28, 46, 112, 54, 4, 42, 42, 21, 4, 182, 0, 85, 182, 0, 88, 153, 0, 6, 21, 4]
abbrev dktX9_openFrom_1 : List UInt8 := dkwX9_openFrom_1 ++ dktX9_openFrom_2
def dkwX9_openFrom_0 : List UInt8 := [42, 27, 182, 0, 96, 61, 3, 62, 29, 42, 180, 0, 16, 16, 28, 46, 162, 0, 38, 28, 29, 96, 42]
abbrev dktX9_openFrom_0 : List UInt8 := dkwX9_openFrom_0 ++ dktX9_openFrom_1
theorem dksX9_openFrom_0 : cX9_openFrom.data.toList.drop 0 = dktX9_openFrom_0 := by decide +kernel
theorem dksX9_openFrom_1 : cX9_openFrom.data.toList.drop 23 = dktX9_openFrom_1 := dk_seg dksX9_openFrom_0 23 rfl rfl
theorem dksX9_openFrom_2 : cX9_openFrom.data.toList.drop 47 = dktX9_openFrom_2 := dk_seg dksX9_openFrom_1 24 rfl rfl
theorem dX9_openFrom_0 : decode cX9_openFrom 0 = .ok (.aload_n 0, 1) := dk_42 (dk_at dksX9_openFrom_0 0 rfl rfl)
theorem dX9_openFrom_1 : decode cX9_openFrom 1 = .ok (.iload_n 1, 1) := dk_27 (dk_at dksX9_openFrom_0 1 rfl rfl)
theorem dX9_openFrom_2 : decode cX9_openFrom 2 = .ok (.invokevirtual 96, 3) := dk_182 0 96 (dk_at dksX9_openFrom_0 2 rfl rfl)
theorem dX9_openFrom_5 : decode cX9_openFrom 5 = .ok (.istore_n 2, 1) := dk_61 (dk_at dksX9_openFrom_0 5 rfl rfl)
theorem dX9_openFrom_6 : decode cX9_openFrom 6 = .ok (.iconst 0, 1) := dk_3 (dk_at dksX9_openFrom_0 6 rfl rfl)
theorem dX9_openFrom_7 : decode cX9_openFrom 7 = .ok (.istore_n 3, 1) := dk_62 (dk_at dksX9_openFrom_0 7 rfl rfl)
theorem dX9_openFrom_8 : decode cX9_openFrom 8 = .ok (.iload_n 3, 1) := dk_29 (dk_at dksX9_openFrom_0 8 rfl rfl)
theorem dX9_openFrom_9 : decode cX9_openFrom 9 = .ok (.aload_n 0, 1) := dk_42 (dk_at dksX9_openFrom_0 9 rfl rfl)
theorem dX9_openFrom_10 : decode cX9_openFrom 10 = .ok (.getfield 16, 3) := dk_180 0 16 (dk_at dksX9_openFrom_0 10 rfl rfl)
theorem dX9_openFrom_13 : decode cX9_openFrom 13 = .ok (.bipush 28, 2) := dk_16 28 (dk_at dksX9_openFrom_0 13 rfl rfl)
theorem dX9_openFrom_15 : decode cX9_openFrom 15 = .ok (.iaload, 1) := dk_46 (dk_at dksX9_openFrom_0 15 rfl rfl)
theorem dX9_openFrom_16 : decode cX9_openFrom 16 = .ok (.if_icmp .ge 38, 3) := dk_162 0 38 (dk_at dksX9_openFrom_0 16 rfl rfl)
theorem dX9_openFrom_19 : decode cX9_openFrom 19 = .ok (.iload_n 2, 1) := dk_28 (dk_at dksX9_openFrom_0 19 rfl rfl)
theorem dX9_openFrom_20 : decode cX9_openFrom 20 = .ok (.iload_n 3, 1) := dk_29 (dk_at dksX9_openFrom_0 20 rfl rfl)
theorem dX9_openFrom_21 : decode cX9_openFrom 21 = .ok (.iadd, 1) := dk_96 (dk_at dksX9_openFrom_0 21 rfl rfl)
theorem dX9_openFrom_22 : decode cX9_openFrom 22 = .ok (.aload_n 0, 1) := dk_42 (dk_at dksX9_openFrom_0 22 rfl rfl)
theorem dX9_openFrom_23 : decode cX9_openFrom 23 = .ok (.getfield 16, 3) := dk_180 0 16 (dk_at dksX9_openFrom_1 0 rfl rfl)
theorem dX9_openFrom_26 : decode cX9_openFrom 26 = .ok (.bipush 28, 2) := dk_16 28 (dk_at dksX9_openFrom_1 3 rfl rfl)
theorem dX9_openFrom_28 : decode cX9_openFrom 28 = .ok (.iaload, 1) := dk_46 (dk_at dksX9_openFrom_1 5 rfl rfl)
theorem dX9_openFrom_29 : decode cX9_openFrom 29 = .ok (.irem, 1) := dk_112 (dk_at dksX9_openFrom_1 6 rfl rfl)
theorem dX9_openFrom_30 : decode cX9_openFrom 30 = .ok (.istore 4, 2) := dk_54 4 (dk_at dksX9_openFrom_1 7 rfl rfl)
theorem dX9_openFrom_32 : decode cX9_openFrom 32 = .ok (.aload_n 0, 1) := dk_42 (dk_at dksX9_openFrom_1 9 rfl rfl)
theorem dX9_openFrom_33 : decode cX9_openFrom 33 = .ok (.aload_n 0, 1) := dk_42 (dk_at dksX9_openFrom_1 10 rfl rfl)
theorem dX9_openFrom_34 : decode cX9_openFrom 34 = .ok (.iload 4, 2) := dk_21 4 (dk_at dksX9_openFrom_1 11 rfl rfl)
theorem dX9_openFrom_36 : decode cX9_openFrom 36 = .ok (.invokevirtual 85, 3) := dk_182 0 85 (dk_at dksX9_openFrom_1 13 rfl rfl)
theorem dX9_openFrom_39 : decode cX9_openFrom 39 = .ok (.invokevirtual 88, 3) := dk_182 0 88 (dk_at dksX9_openFrom_1 16 rfl rfl)
theorem dX9_openFrom_42 : decode cX9_openFrom 42 = .ok (.ifCond .eq 6, 3) := dk_153 0 6 (dk_at dksX9_openFrom_1 19 rfl rfl)
theorem dX9_openFrom_45 : decode cX9_openFrom 45 = .ok (.iload 4, 2) := dk_21 4 (dk_at dksX9_openFrom_1 22 rfl rfl)
theorem dX9_openFrom_47 : decode cX9_openFrom 47 = .ok (.ireturn, 1) := dk_172 (dk_at dksX9_openFrom_2 0 rfl rfl)
theorem dX9_openFrom_48 : decode cX9_openFrom 48 = .ok (.iinc 3 1, 3) := dk_132 3 1 (dk_at dksX9_openFrom_2 1 rfl rfl)
theorem dX9_openFrom_51 : decode cX9_openFrom 51 = .ok (.goto (-43), 3) := dk_167 255 213 (dk_at dksX9_openFrom_2 4 rfl rfl)
theorem dX9_openFrom_54 : decode cX9_openFrom 54 = .ok (.iconst (-1), 1) := dk_2 (dk_at dksX9_openFrom_2 7 rfl rfl)
theorem dX9_openFrom_55 : decode cX9_openFrom 55 = .ok (.ireturn, 1) := dk_172 (dk_at dksX9_openFrom_2 8 rfl rfl)
abbrev cX9_nearestAgain : ByteArray := prog_13_method_67_code
def yX9_nearestAgain : MethodName := ⟨RX9, "nearestAgain", "(I)I"⟩
def dkwX9_nearestAgain_4 : List UInt8 := [182, 0, 85, 172]
abbrev dktX9_nearestAgain_4 : List UInt8 := dkwX9_nearestAgain_4 ++ []
def dkwX9_nearestAgain_3 : List UInt8 := [29, 61, 132, 3, 1, 167, 255, 203, 28, 156, 0, 11, 42, 5, 182, 0, 58, 167, 0, 8, 42, 28]
abbrev dktX9_nearestAgain_3 : List UInt8 := dkwX9_nearestAgain_3 ++ dktX9_nearestAgain_4
def dkwX9_nearestAgain_2 : List UInt8 := [155, 0, 24, 27, 42, 29, 182, 0, 82, 184, 0, 208, 27, 42, 28, 182, 0, 82, 184, 0, 208, 162, 0, 5]
abbrev dktX9_nearestAgain_2 : List UInt8 := dkwX9_nearestAgain_2 ++ dktX9_nearestAgain_3
def dkwX9_nearestAgain_1 : List UInt8 := [180, 0, 16, 16, 28, 46, 162, 0, 48, 42, 42, 29, 182, 0, 85, 182, 0, 88, 153, 0, 30, 28]
abbrev dktX9_nearestAgain_1 : List UInt8 := dkwX9_nearestAgain_1 ++ dktX9_nearestAgain_2
def dkwX9_nearestAgain_0 : List UInt8 := [42, 3, 181, 0, 45, 27, 184, 0, 133, 154, 0, 9, 42, 4, 182, 0, 58, 172, 2, 61, 3, 62, 29, 42]
abbrev dktX9_nearestAgain_0 : List UInt8 := dkwX9_nearestAgain_0 ++ dktX9_nearestAgain_1
theorem dksX9_nearestAgain_0 : cX9_nearestAgain.data.toList.drop 0 = dktX9_nearestAgain_0 := by decide +kernel
theorem dksX9_nearestAgain_1 : cX9_nearestAgain.data.toList.drop 24 = dktX9_nearestAgain_1 := dk_seg dksX9_nearestAgain_0 24 rfl rfl
theorem dksX9_nearestAgain_2 : cX9_nearestAgain.data.toList.drop 46 = dktX9_nearestAgain_2 := dk_seg dksX9_nearestAgain_1 22 rfl rfl
theorem dksX9_nearestAgain_3 : cX9_nearestAgain.data.toList.drop 70 = dktX9_nearestAgain_3 := dk_seg dksX9_nearestAgain_2 24 rfl rfl
theorem dksX9_nearestAgain_4 : cX9_nearestAgain.data.toList.drop 92 = dktX9_nearestAgain_4 := dk_seg dksX9_nearestAgain_3 22 rfl rfl
theorem dX9_nearestAgain_0 : decode cX9_nearestAgain 0 = .ok (.aload_n 0, 1) := dk_42 (dk_at dksX9_nearestAgain_0 0 rfl rfl)
theorem dX9_nearestAgain_1 : decode cX9_nearestAgain 1 = .ok (.iconst 0, 1) := dk_3 (dk_at dksX9_nearestAgain_0 1 rfl rfl)
theorem dX9_nearestAgain_2 : decode cX9_nearestAgain 2 = .ok (.putfield 45, 3) := dk_181 0 45 (dk_at dksX9_nearestAgain_0 2 rfl rfl)
theorem dX9_nearestAgain_5 : decode cX9_nearestAgain 5 = .ok (.iload_n 1, 1) := dk_27 (dk_at dksX9_nearestAgain_0 5 rfl rfl)
theorem dX9_nearestAgain_6 : decode cX9_nearestAgain 6 = .ok (.invokestatic 133, 3) := dk_184 0 133 (dk_at dksX9_nearestAgain_0 6 rfl rfl)
theorem dX9_nearestAgain_9 : decode cX9_nearestAgain 9 = .ok (.ifCond .ne 9, 3) := dk_154 0 9 (dk_at dksX9_nearestAgain_0 9 rfl rfl)
theorem dX9_nearestAgain_12 : decode cX9_nearestAgain 12 = .ok (.aload_n 0, 1) := dk_42 (dk_at dksX9_nearestAgain_0 12 rfl rfl)
theorem dX9_nearestAgain_13 : decode cX9_nearestAgain 13 = .ok (.iconst 1, 1) := dk_4 (dk_at dksX9_nearestAgain_0 13 rfl rfl)
theorem dX9_nearestAgain_14 : decode cX9_nearestAgain 14 = .ok (.invokevirtual 58, 3) := dk_182 0 58 (dk_at dksX9_nearestAgain_0 14 rfl rfl)
theorem dX9_nearestAgain_17 : decode cX9_nearestAgain 17 = .ok (.ireturn, 1) := dk_172 (dk_at dksX9_nearestAgain_0 17 rfl rfl)
theorem dX9_nearestAgain_18 : decode cX9_nearestAgain 18 = .ok (.iconst (-1), 1) := dk_2 (dk_at dksX9_nearestAgain_0 18 rfl rfl)
theorem dX9_nearestAgain_19 : decode cX9_nearestAgain 19 = .ok (.istore_n 2, 1) := dk_61 (dk_at dksX9_nearestAgain_0 19 rfl rfl)
theorem dX9_nearestAgain_20 : decode cX9_nearestAgain 20 = .ok (.iconst 0, 1) := dk_3 (dk_at dksX9_nearestAgain_0 20 rfl rfl)
theorem dX9_nearestAgain_21 : decode cX9_nearestAgain 21 = .ok (.istore_n 3, 1) := dk_62 (dk_at dksX9_nearestAgain_0 21 rfl rfl)
theorem dX9_nearestAgain_22 : decode cX9_nearestAgain 22 = .ok (.iload_n 3, 1) := dk_29 (dk_at dksX9_nearestAgain_0 22 rfl rfl)
theorem dX9_nearestAgain_23 : decode cX9_nearestAgain 23 = .ok (.aload_n 0, 1) := dk_42 (dk_at dksX9_nearestAgain_0 23 rfl rfl)
theorem dX9_nearestAgain_24 : decode cX9_nearestAgain 24 = .ok (.getfield 16, 3) := dk_180 0 16 (dk_at dksX9_nearestAgain_1 0 rfl rfl)
theorem dX9_nearestAgain_27 : decode cX9_nearestAgain 27 = .ok (.bipush 28, 2) := dk_16 28 (dk_at dksX9_nearestAgain_1 3 rfl rfl)
theorem dX9_nearestAgain_29 : decode cX9_nearestAgain 29 = .ok (.iaload, 1) := dk_46 (dk_at dksX9_nearestAgain_1 5 rfl rfl)
theorem dX9_nearestAgain_30 : decode cX9_nearestAgain 30 = .ok (.if_icmp .ge 48, 3) := dk_162 0 48 (dk_at dksX9_nearestAgain_1 6 rfl rfl)
theorem dX9_nearestAgain_33 : decode cX9_nearestAgain 33 = .ok (.aload_n 0, 1) := dk_42 (dk_at dksX9_nearestAgain_1 9 rfl rfl)
theorem dX9_nearestAgain_34 : decode cX9_nearestAgain 34 = .ok (.aload_n 0, 1) := dk_42 (dk_at dksX9_nearestAgain_1 10 rfl rfl)
theorem dX9_nearestAgain_35 : decode cX9_nearestAgain 35 = .ok (.iload_n 3, 1) := dk_29 (dk_at dksX9_nearestAgain_1 11 rfl rfl)
theorem dX9_nearestAgain_36 : decode cX9_nearestAgain 36 = .ok (.invokevirtual 85, 3) := dk_182 0 85 (dk_at dksX9_nearestAgain_1 12 rfl rfl)
theorem dX9_nearestAgain_39 : decode cX9_nearestAgain 39 = .ok (.invokevirtual 88, 3) := dk_182 0 88 (dk_at dksX9_nearestAgain_1 15 rfl rfl)
theorem dX9_nearestAgain_42 : decode cX9_nearestAgain 42 = .ok (.ifCond .eq 30, 3) := dk_153 0 30 (dk_at dksX9_nearestAgain_1 18 rfl rfl)
theorem dX9_nearestAgain_45 : decode cX9_nearestAgain 45 = .ok (.iload_n 2, 1) := dk_28 (dk_at dksX9_nearestAgain_1 21 rfl rfl)
theorem dX9_nearestAgain_46 : decode cX9_nearestAgain 46 = .ok (.ifCond .lt 24, 3) := dk_155 0 24 (dk_at dksX9_nearestAgain_2 0 rfl rfl)
theorem dX9_nearestAgain_49 : decode cX9_nearestAgain 49 = .ok (.iload_n 1, 1) := dk_27 (dk_at dksX9_nearestAgain_2 3 rfl rfl)
theorem dX9_nearestAgain_50 : decode cX9_nearestAgain 50 = .ok (.aload_n 0, 1) := dk_42 (dk_at dksX9_nearestAgain_2 4 rfl rfl)
theorem dX9_nearestAgain_51 : decode cX9_nearestAgain 51 = .ok (.iload_n 3, 1) := dk_29 (dk_at dksX9_nearestAgain_2 5 rfl rfl)
theorem dX9_nearestAgain_52 : decode cX9_nearestAgain 52 = .ok (.invokevirtual 82, 3) := dk_182 0 82 (dk_at dksX9_nearestAgain_2 6 rfl rfl)
theorem dX9_nearestAgain_55 : decode cX9_nearestAgain 55 = .ok (.invokestatic 208, 3) := dk_184 0 208 (dk_at dksX9_nearestAgain_2 9 rfl rfl)
theorem dX9_nearestAgain_58 : decode cX9_nearestAgain 58 = .ok (.iload_n 1, 1) := dk_27 (dk_at dksX9_nearestAgain_2 12 rfl rfl)
theorem dX9_nearestAgain_59 : decode cX9_nearestAgain 59 = .ok (.aload_n 0, 1) := dk_42 (dk_at dksX9_nearestAgain_2 13 rfl rfl)
theorem dX9_nearestAgain_60 : decode cX9_nearestAgain 60 = .ok (.iload_n 2, 1) := dk_28 (dk_at dksX9_nearestAgain_2 14 rfl rfl)
theorem dX9_nearestAgain_61 : decode cX9_nearestAgain 61 = .ok (.invokevirtual 82, 3) := dk_182 0 82 (dk_at dksX9_nearestAgain_2 15 rfl rfl)
theorem dX9_nearestAgain_64 : decode cX9_nearestAgain 64 = .ok (.invokestatic 208, 3) := dk_184 0 208 (dk_at dksX9_nearestAgain_2 18 rfl rfl)
theorem dX9_nearestAgain_67 : decode cX9_nearestAgain 67 = .ok (.if_icmp .ge 5, 3) := dk_162 0 5 (dk_at dksX9_nearestAgain_2 21 rfl rfl)
theorem dX9_nearestAgain_70 : decode cX9_nearestAgain 70 = .ok (.iload_n 3, 1) := dk_29 (dk_at dksX9_nearestAgain_3 0 rfl rfl)
theorem dX9_nearestAgain_71 : decode cX9_nearestAgain 71 = .ok (.istore_n 2, 1) := dk_61 (dk_at dksX9_nearestAgain_3 1 rfl rfl)
theorem dX9_nearestAgain_72 : decode cX9_nearestAgain 72 = .ok (.iinc 3 1, 3) := dk_132 3 1 (dk_at dksX9_nearestAgain_3 2 rfl rfl)
theorem dX9_nearestAgain_75 : decode cX9_nearestAgain 75 = .ok (.goto (-53), 3) := dk_167 255 203 (dk_at dksX9_nearestAgain_3 5 rfl rfl)
theorem dX9_nearestAgain_78 : decode cX9_nearestAgain 78 = .ok (.iload_n 2, 1) := dk_28 (dk_at dksX9_nearestAgain_3 8 rfl rfl)
theorem dX9_nearestAgain_79 : decode cX9_nearestAgain 79 = .ok (.ifCond .ge 11, 3) := dk_156 0 11 (dk_at dksX9_nearestAgain_3 9 rfl rfl)
theorem dX9_nearestAgain_82 : decode cX9_nearestAgain 82 = .ok (.aload_n 0, 1) := dk_42 (dk_at dksX9_nearestAgain_3 12 rfl rfl)
theorem dX9_nearestAgain_83 : decode cX9_nearestAgain 83 = .ok (.iconst 2, 1) := dk_5 (dk_at dksX9_nearestAgain_3 13 rfl rfl)
theorem dX9_nearestAgain_84 : decode cX9_nearestAgain 84 = .ok (.invokevirtual 58, 3) := dk_182 0 58 (dk_at dksX9_nearestAgain_3 14 rfl rfl)
theorem dX9_nearestAgain_87 : decode cX9_nearestAgain 87 = .ok (.goto 8, 3) := dk_167 0 8 (dk_at dksX9_nearestAgain_3 17 rfl rfl)
theorem dX9_nearestAgain_90 : decode cX9_nearestAgain 90 = .ok (.aload_n 0, 1) := dk_42 (dk_at dksX9_nearestAgain_3 20 rfl rfl)
theorem dX9_nearestAgain_91 : decode cX9_nearestAgain 91 = .ok (.iload_n 2, 1) := dk_28 (dk_at dksX9_nearestAgain_3 21 rfl rfl)
theorem dX9_nearestAgain_92 : decode cX9_nearestAgain 92 = .ok (.invokevirtual 85, 3) := dk_182 0 85 (dk_at dksX9_nearestAgain_4 0 rfl rfl)
theorem dX9_nearestAgain_95 : decode cX9_nearestAgain 95 = .ok (.ireturn, 1) := dk_172 (dk_at dksX9_nearestAgain_4 3 rfl rfl)
abbrev cX9_wouldGo : ByteArray := prog_13_method_68_code
def yX9_wouldGo : MethodName := ⟨RX9, "wouldGo", "(II)I"⟩
def dkwX9_wouldGo_2 : List UInt8 := [156, 0, 11, 42, 6, 182, 0, 58, 167, 0, 8, 42, 29, 182, 0, 85, 172]
abbrev dktX9_wouldGo_2 : List UInt8 := dkwX9_wouldGo_2 ++ []
def dkwX9_wouldGo_1 : List UInt8 := [184, 0, 74, 154, 0, 9, 42, 5, 182, 0, 58, 172, 42, 182, 0, 214, 42, 27, 28, 182, 0, 108, 62, 29]
abbrev dktX9_wouldGo_1 : List UInt8 := dkwX9_wouldGo_1 ++ dktX9_wouldGo_2
def dkwX9_wouldGo_0 : List UInt8 := [42, 3, 181, 0, 45, 27, 184, 0, 133, 154, 0, 9, 42, 4, 182, 0, 58, 172, 28, 4, 16, 9]
abbrev dktX9_wouldGo_0 : List UInt8 := dkwX9_wouldGo_0 ++ dktX9_wouldGo_1
theorem dksX9_wouldGo_0 : cX9_wouldGo.data.toList.drop 0 = dktX9_wouldGo_0 := by decide +kernel
theorem dksX9_wouldGo_1 : cX9_wouldGo.data.toList.drop 22 = dktX9_wouldGo_1 := dk_seg dksX9_wouldGo_0 22 rfl rfl
theorem dksX9_wouldGo_2 : cX9_wouldGo.data.toList.drop 46 = dktX9_wouldGo_2 := dk_seg dksX9_wouldGo_1 24 rfl rfl
theorem dX9_wouldGo_0 : decode cX9_wouldGo 0 = .ok (.aload_n 0, 1) := dk_42 (dk_at dksX9_wouldGo_0 0 rfl rfl)
theorem dX9_wouldGo_1 : decode cX9_wouldGo 1 = .ok (.iconst 0, 1) := dk_3 (dk_at dksX9_wouldGo_0 1 rfl rfl)
theorem dX9_wouldGo_2 : decode cX9_wouldGo 2 = .ok (.putfield 45, 3) := dk_181 0 45 (dk_at dksX9_wouldGo_0 2 rfl rfl)
theorem dX9_wouldGo_5 : decode cX9_wouldGo 5 = .ok (.iload_n 1, 1) := dk_27 (dk_at dksX9_wouldGo_0 5 rfl rfl)
theorem dX9_wouldGo_6 : decode cX9_wouldGo 6 = .ok (.invokestatic 133, 3) := dk_184 0 133 (dk_at dksX9_wouldGo_0 6 rfl rfl)
theorem dX9_wouldGo_9 : decode cX9_wouldGo 9 = .ok (.ifCond .ne 9, 3) := dk_154 0 9 (dk_at dksX9_wouldGo_0 9 rfl rfl)
theorem dX9_wouldGo_12 : decode cX9_wouldGo 12 = .ok (.aload_n 0, 1) := dk_42 (dk_at dksX9_wouldGo_0 12 rfl rfl)
theorem dX9_wouldGo_13 : decode cX9_wouldGo 13 = .ok (.iconst 1, 1) := dk_4 (dk_at dksX9_wouldGo_0 13 rfl rfl)
theorem dX9_wouldGo_14 : decode cX9_wouldGo 14 = .ok (.invokevirtual 58, 3) := dk_182 0 58 (dk_at dksX9_wouldGo_0 14 rfl rfl)
theorem dX9_wouldGo_17 : decode cX9_wouldGo 17 = .ok (.ireturn, 1) := dk_172 (dk_at dksX9_wouldGo_0 17 rfl rfl)
theorem dX9_wouldGo_18 : decode cX9_wouldGo 18 = .ok (.iload_n 2, 1) := dk_28 (dk_at dksX9_wouldGo_0 18 rfl rfl)
theorem dX9_wouldGo_19 : decode cX9_wouldGo 19 = .ok (.iconst 1, 1) := dk_4 (dk_at dksX9_wouldGo_0 19 rfl rfl)
theorem dX9_wouldGo_20 : decode cX9_wouldGo 20 = .ok (.bipush 9, 2) := dk_16 9 (dk_at dksX9_wouldGo_0 20 rfl rfl)
theorem dX9_wouldGo_22 : decode cX9_wouldGo 22 = .ok (.invokestatic 74, 3) := dk_184 0 74 (dk_at dksX9_wouldGo_1 0 rfl rfl)
theorem dX9_wouldGo_25 : decode cX9_wouldGo 25 = .ok (.ifCond .ne 9, 3) := dk_154 0 9 (dk_at dksX9_wouldGo_1 3 rfl rfl)
theorem dX9_wouldGo_28 : decode cX9_wouldGo 28 = .ok (.aload_n 0, 1) := dk_42 (dk_at dksX9_wouldGo_1 6 rfl rfl)
theorem dX9_wouldGo_29 : decode cX9_wouldGo 29 = .ok (.iconst 2, 1) := dk_5 (dk_at dksX9_wouldGo_1 7 rfl rfl)
theorem dX9_wouldGo_30 : decode cX9_wouldGo 30 = .ok (.invokevirtual 58, 3) := dk_182 0 58 (dk_at dksX9_wouldGo_1 8 rfl rfl)
theorem dX9_wouldGo_33 : decode cX9_wouldGo 33 = .ok (.ireturn, 1) := dk_172 (dk_at dksX9_wouldGo_1 11 rfl rfl)
theorem dX9_wouldGo_34 : decode cX9_wouldGo 34 = .ok (.aload_n 0, 1) := dk_42 (dk_at dksX9_wouldGo_1 12 rfl rfl)
theorem dX9_wouldGo_35 : decode cX9_wouldGo 35 = .ok (.invokevirtual 214, 3) := dk_182 0 214 (dk_at dksX9_wouldGo_1 13 rfl rfl)
theorem dX9_wouldGo_38 : decode cX9_wouldGo 38 = .ok (.aload_n 0, 1) := dk_42 (dk_at dksX9_wouldGo_1 16 rfl rfl)
theorem dX9_wouldGo_39 : decode cX9_wouldGo 39 = .ok (.iload_n 1, 1) := dk_27 (dk_at dksX9_wouldGo_1 17 rfl rfl)
theorem dX9_wouldGo_40 : decode cX9_wouldGo 40 = .ok (.iload_n 2, 1) := dk_28 (dk_at dksX9_wouldGo_1 18 rfl rfl)
theorem dX9_wouldGo_41 : decode cX9_wouldGo 41 = .ok (.invokevirtual 108, 3) := dk_182 0 108 (dk_at dksX9_wouldGo_1 19 rfl rfl)
theorem dX9_wouldGo_44 : decode cX9_wouldGo 44 = .ok (.istore_n 3, 1) := dk_62 (dk_at dksX9_wouldGo_1 22 rfl rfl)
theorem dX9_wouldGo_45 : decode cX9_wouldGo 45 = .ok (.iload_n 3, 1) := dk_29 (dk_at dksX9_wouldGo_1 23 rfl rfl)
theorem dX9_wouldGo_46 : decode cX9_wouldGo 46 = .ok (.ifCond .ge 11, 3) := dk_156 0 11 (dk_at dksX9_wouldGo_2 0 rfl rfl)
theorem dX9_wouldGo_49 : decode cX9_wouldGo 49 = .ok (.aload_n 0, 1) := dk_42 (dk_at dksX9_wouldGo_2 3 rfl rfl)
theorem dX9_wouldGo_50 : decode cX9_wouldGo 50 = .ok (.iconst 3, 1) := dk_6 (dk_at dksX9_wouldGo_2 4 rfl rfl)
theorem dX9_wouldGo_51 : decode cX9_wouldGo 51 = .ok (.invokevirtual 58, 3) := dk_182 0 58 (dk_at dksX9_wouldGo_2 5 rfl rfl)
theorem dX9_wouldGo_54 : decode cX9_wouldGo 54 = .ok (.goto 8, 3) := dk_167 0 8 (dk_at dksX9_wouldGo_2 8 rfl rfl)
theorem dX9_wouldGo_57 : decode cX9_wouldGo 57 = .ok (.aload_n 0, 1) := dk_42 (dk_at dksX9_wouldGo_2 11 rfl rfl)
theorem dX9_wouldGo_58 : decode cX9_wouldGo 58 = .ok (.iload_n 3, 1) := dk_29 (dk_at dksX9_wouldGo_2 12 rfl rfl)
theorem dX9_wouldGo_59 : decode cX9_wouldGo 59 = .ok (.invokevirtual 85, 3) := dk_182 0 85 (dk_at dksX9_wouldGo_2 13 rfl rfl)
theorem dX9_wouldGo_62 : decode cX9_wouldGo 62 = .ok (.ireturn, 1) := dk_172 (dk_at dksX9_wouldGo_2 16 rfl rfl)
abbrev cX9_findsLoads : ByteArray := prog_13_method_35_code
def yX9_findsLoads : MethodName := ⟨RX9, "findsLoads", "()V"⟩
def dkwX9_findsLoads_1 : List UInt8 := [167, 255, 236, 177]
abbrev dktX9_findsLoads_1 : List UInt8 := dkwX9_findsLoads_1 ++ []
def dkwX9_findsLoads_0 : List UInt8 := [3, 60, 27, 16, 6, 162, 0, 20, 42, 180, 0, 28, 27, 42, 27, 182, 0, 114, 79, 132, 1, 1]
abbrev dktX9_findsLoads_0 : List UInt8 := dkwX9_findsLoads_0 ++ dktX9_findsLoads_1
theorem dksX9_findsLoads_0 : cX9_findsLoads.data.toList.drop 0 = dktX9_findsLoads_0 := by decide +kernel
theorem dksX9_findsLoads_1 : cX9_findsLoads.data.toList.drop 22 = dktX9_findsLoads_1 := dk_seg dksX9_findsLoads_0 22 rfl rfl
theorem dX9_findsLoads_0 : decode cX9_findsLoads 0 = .ok (.iconst 0, 1) := dk_3 (dk_at dksX9_findsLoads_0 0 rfl rfl)
theorem dX9_findsLoads_1 : decode cX9_findsLoads 1 = .ok (.istore_n 1, 1) := dk_60 (dk_at dksX9_findsLoads_0 1 rfl rfl)
theorem dX9_findsLoads_2 : decode cX9_findsLoads 2 = .ok (.iload_n 1, 1) := dk_27 (dk_at dksX9_findsLoads_0 2 rfl rfl)
theorem dX9_findsLoads_3 : decode cX9_findsLoads 3 = .ok (.bipush 6, 2) := dk_16 6 (dk_at dksX9_findsLoads_0 3 rfl rfl)
theorem dX9_findsLoads_5 : decode cX9_findsLoads 5 = .ok (.if_icmp .ge 20, 3) := dk_162 0 20 (dk_at dksX9_findsLoads_0 5 rfl rfl)
theorem dX9_findsLoads_8 : decode cX9_findsLoads 8 = .ok (.aload_n 0, 1) := dk_42 (dk_at dksX9_findsLoads_0 8 rfl rfl)
theorem dX9_findsLoads_9 : decode cX9_findsLoads 9 = .ok (.getfield 28, 3) := dk_180 0 28 (dk_at dksX9_findsLoads_0 9 rfl rfl)
theorem dX9_findsLoads_12 : decode cX9_findsLoads 12 = .ok (.iload_n 1, 1) := dk_27 (dk_at dksX9_findsLoads_0 12 rfl rfl)
theorem dX9_findsLoads_13 : decode cX9_findsLoads 13 = .ok (.aload_n 0, 1) := dk_42 (dk_at dksX9_findsLoads_0 13 rfl rfl)
theorem dX9_findsLoads_14 : decode cX9_findsLoads 14 = .ok (.iload_n 1, 1) := dk_27 (dk_at dksX9_findsLoads_0 14 rfl rfl)
theorem dX9_findsLoads_15 : decode cX9_findsLoads 15 = .ok (.invokevirtual 114, 3) := dk_182 0 114 (dk_at dksX9_findsLoads_0 15 rfl rfl)
theorem dX9_findsLoads_18 : decode cX9_findsLoads 18 = .ok (.iastore, 1) := dk_79 (dk_at dksX9_findsLoads_0 18 rfl rfl)
theorem dX9_findsLoads_19 : decode cX9_findsLoads 19 = .ok (.iinc 1 1, 3) := dk_132 1 1 (dk_at dksX9_findsLoads_0 19 rfl rfl)
theorem dX9_findsLoads_22 : decode cX9_findsLoads 22 = .ok (.goto (-20), 3) := dk_167 255 236 (dk_at dksX9_findsLoads_1 0 rfl rfl)
theorem dX9_findsLoads_25 : decode cX9_findsLoads 25 = .ok (.return_, 1) := dk_177 (dk_at dksX9_findsLoads_1 3 rfl rfl)
abbrev cX9_wouldMove : ByteArray := prog_13_method_69_code
def yX9_wouldMove : MethodName := ⟨RX9, "wouldMove", "(I)I"⟩
def dkwX9_wouldMove_1 : List UInt8 := [27, 42, 27, 182, 0, 88, 153, 0, 7, 4, 167, 0, 4, 3, 182, 0, 175, 61, 42, 182, 0, 217, 28, 172]
abbrev dktX9_wouldMove_1 : List UInt8 := dkwX9_wouldMove_1 ++ []
def dkwX9_wouldMove_0 : List UInt8 := [42, 3, 181, 0, 45, 42, 27, 182, 0, 130, 154, 0, 9, 42, 4, 182, 0, 58, 172, 42, 182, 0, 68, 42]
abbrev dktX9_wouldMove_0 : List UInt8 := dkwX9_wouldMove_0 ++ dktX9_wouldMove_1
theorem dksX9_wouldMove_0 : cX9_wouldMove.data.toList.drop 0 = dktX9_wouldMove_0 := by decide +kernel
theorem dksX9_wouldMove_1 : cX9_wouldMove.data.toList.drop 24 = dktX9_wouldMove_1 := dk_seg dksX9_wouldMove_0 24 rfl rfl
theorem dX9_wouldMove_0 : decode cX9_wouldMove 0 = .ok (.aload_n 0, 1) := dk_42 (dk_at dksX9_wouldMove_0 0 rfl rfl)
theorem dX9_wouldMove_1 : decode cX9_wouldMove 1 = .ok (.iconst 0, 1) := dk_3 (dk_at dksX9_wouldMove_0 1 rfl rfl)
theorem dX9_wouldMove_2 : decode cX9_wouldMove 2 = .ok (.putfield 45, 3) := dk_181 0 45 (dk_at dksX9_wouldMove_0 2 rfl rfl)
theorem dX9_wouldMove_5 : decode cX9_wouldMove 5 = .ok (.aload_n 0, 1) := dk_42 (dk_at dksX9_wouldMove_0 5 rfl rfl)
theorem dX9_wouldMove_6 : decode cX9_wouldMove 6 = .ok (.iload_n 1, 1) := dk_27 (dk_at dksX9_wouldMove_0 6 rfl rfl)
theorem dX9_wouldMove_7 : decode cX9_wouldMove 7 = .ok (.invokevirtual 130, 3) := dk_182 0 130 (dk_at dksX9_wouldMove_0 7 rfl rfl)
theorem dX9_wouldMove_10 : decode cX9_wouldMove 10 = .ok (.ifCond .ne 9, 3) := dk_154 0 9 (dk_at dksX9_wouldMove_0 10 rfl rfl)
theorem dX9_wouldMove_13 : decode cX9_wouldMove 13 = .ok (.aload_n 0, 1) := dk_42 (dk_at dksX9_wouldMove_0 13 rfl rfl)
theorem dX9_wouldMove_14 : decode cX9_wouldMove 14 = .ok (.iconst 1, 1) := dk_4 (dk_at dksX9_wouldMove_0 14 rfl rfl)
theorem dX9_wouldMove_15 : decode cX9_wouldMove 15 = .ok (.invokevirtual 58, 3) := dk_182 0 58 (dk_at dksX9_wouldMove_0 15 rfl rfl)
theorem dX9_wouldMove_18 : decode cX9_wouldMove 18 = .ok (.ireturn, 1) := dk_172 (dk_at dksX9_wouldMove_0 18 rfl rfl)
theorem dX9_wouldMove_19 : decode cX9_wouldMove 19 = .ok (.aload_n 0, 1) := dk_42 (dk_at dksX9_wouldMove_0 19 rfl rfl)
theorem dX9_wouldMove_20 : decode cX9_wouldMove 20 = .ok (.invokevirtual 68, 3) := dk_182 0 68 (dk_at dksX9_wouldMove_0 20 rfl rfl)
theorem dX9_wouldMove_23 : decode cX9_wouldMove 23 = .ok (.aload_n 0, 1) := dk_42 (dk_at dksX9_wouldMove_0 23 rfl rfl)
theorem dX9_wouldMove_24 : decode cX9_wouldMove 24 = .ok (.iload_n 1, 1) := dk_27 (dk_at dksX9_wouldMove_1 0 rfl rfl)
theorem dX9_wouldMove_25 : decode cX9_wouldMove 25 = .ok (.aload_n 0, 1) := dk_42 (dk_at dksX9_wouldMove_1 1 rfl rfl)
theorem dX9_wouldMove_26 : decode cX9_wouldMove 26 = .ok (.iload_n 1, 1) := dk_27 (dk_at dksX9_wouldMove_1 2 rfl rfl)
theorem dX9_wouldMove_27 : decode cX9_wouldMove 27 = .ok (.invokevirtual 88, 3) := dk_182 0 88 (dk_at dksX9_wouldMove_1 3 rfl rfl)
theorem dX9_wouldMove_30 : decode cX9_wouldMove 30 = .ok (.ifCond .eq 7, 3) := dk_153 0 7 (dk_at dksX9_wouldMove_1 6 rfl rfl)
theorem dX9_wouldMove_33 : decode cX9_wouldMove 33 = .ok (.iconst 1, 1) := dk_4 (dk_at dksX9_wouldMove_1 9 rfl rfl)
theorem dX9_wouldMove_34 : decode cX9_wouldMove 34 = .ok (.goto 4, 3) := dk_167 0 4 (dk_at dksX9_wouldMove_1 10 rfl rfl)
theorem dX9_wouldMove_37 : decode cX9_wouldMove 37 = .ok (.iconst 0, 1) := dk_3 (dk_at dksX9_wouldMove_1 13 rfl rfl)
theorem dX9_wouldMove_38 : decode cX9_wouldMove 38 = .ok (.invokevirtual 175, 3) := dk_182 0 175 (dk_at dksX9_wouldMove_1 14 rfl rfl)
theorem dX9_wouldMove_41 : decode cX9_wouldMove 41 = .ok (.istore_n 2, 1) := dk_61 (dk_at dksX9_wouldMove_1 17 rfl rfl)
theorem dX9_wouldMove_42 : decode cX9_wouldMove 42 = .ok (.aload_n 0, 1) := dk_42 (dk_at dksX9_wouldMove_1 18 rfl rfl)
theorem dX9_wouldMove_43 : decode cX9_wouldMove 43 = .ok (.invokevirtual 217, 3) := dk_182 0 217 (dk_at dksX9_wouldMove_1 19 rfl rfl)
theorem dX9_wouldMove_46 : decode cX9_wouldMove 46 = .ok (.iload_n 2, 1) := dk_28 (dk_at dksX9_wouldMove_1 22 rfl rfl)
theorem dX9_wouldMove_47 : decode cX9_wouldMove 47 = .ok (.ireturn, 1) := dk_172 (dk_at dksX9_wouldMove_1 23 rfl rfl)
abbrev cX9_forgets : ByteArray := prog_13_method_10_code
def yX9_forgets : MethodName := ⟨RX9, "forgets", "()V"⟩
def dkwX9_forgets_1 : List UInt8 := [167, 255, 234, 177]
abbrev dktX9_forgets_1 : List UInt8 := dkwX9_forgets_1 ++ []
def dkwX9_forgets_0 : List UInt8 := [3, 60, 27, 17, 0, 199, 162, 0, 21, 42, 180, 0, 16, 27, 42, 180, 0, 25, 27, 46, 79, 132, 1, 1]
abbrev dktX9_forgets_0 : List UInt8 := dkwX9_forgets_0 ++ dktX9_forgets_1
theorem dksX9_forgets_0 : cX9_forgets.data.toList.drop 0 = dktX9_forgets_0 := by decide +kernel
theorem dksX9_forgets_1 : cX9_forgets.data.toList.drop 24 = dktX9_forgets_1 := dk_seg dksX9_forgets_0 24 rfl rfl
theorem dX9_forgets_0 : decode cX9_forgets 0 = .ok (.iconst 0, 1) := dk_3 (dk_at dksX9_forgets_0 0 rfl rfl)
theorem dX9_forgets_1 : decode cX9_forgets 1 = .ok (.istore_n 1, 1) := dk_60 (dk_at dksX9_forgets_0 1 rfl rfl)
theorem dX9_forgets_2 : decode cX9_forgets 2 = .ok (.iload_n 1, 1) := dk_27 (dk_at dksX9_forgets_0 2 rfl rfl)
theorem dX9_forgets_3 : decode cX9_forgets 3 = .ok (.sipush 199, 3) := dk_17 0 199 (dk_at dksX9_forgets_0 3 rfl rfl)
theorem dX9_forgets_6 : decode cX9_forgets 6 = .ok (.if_icmp .ge 21, 3) := dk_162 0 21 (dk_at dksX9_forgets_0 6 rfl rfl)
theorem dX9_forgets_9 : decode cX9_forgets 9 = .ok (.aload_n 0, 1) := dk_42 (dk_at dksX9_forgets_0 9 rfl rfl)
theorem dX9_forgets_10 : decode cX9_forgets 10 = .ok (.getfield 16, 3) := dk_180 0 16 (dk_at dksX9_forgets_0 10 rfl rfl)
theorem dX9_forgets_13 : decode cX9_forgets 13 = .ok (.iload_n 1, 1) := dk_27 (dk_at dksX9_forgets_0 13 rfl rfl)
theorem dX9_forgets_14 : decode cX9_forgets 14 = .ok (.aload_n 0, 1) := dk_42 (dk_at dksX9_forgets_0 14 rfl rfl)
theorem dX9_forgets_15 : decode cX9_forgets 15 = .ok (.getfield 25, 3) := dk_180 0 25 (dk_at dksX9_forgets_0 15 rfl rfl)
theorem dX9_forgets_18 : decode cX9_forgets 18 = .ok (.iload_n 1, 1) := dk_27 (dk_at dksX9_forgets_0 18 rfl rfl)
theorem dX9_forgets_19 : decode cX9_forgets 19 = .ok (.iaload, 1) := dk_46 (dk_at dksX9_forgets_0 19 rfl rfl)
theorem dX9_forgets_20 : decode cX9_forgets 20 = .ok (.iastore, 1) := dk_79 (dk_at dksX9_forgets_0 20 rfl rfl)
theorem dX9_forgets_21 : decode cX9_forgets 21 = .ok (.iinc 1 1, 3) := dk_132 1 1 (dk_at dksX9_forgets_0 21 rfl rfl)
theorem dX9_forgets_24 : decode cX9_forgets 24 = .ok (.goto (-22), 3) := dk_167 255 234 (dk_at dksX9_forgets_1 0 rfl rfl)
theorem dX9_forgets_27 : decode cX9_forgets 27 = .ok (.return_, 1) := dk_177 (dk_at dksX9_forgets_1 3 rfl rfl)
abbrev cX9_wouldLoad : ByteArray := prog_13_method_70_code
def yX9_wouldLoad : MethodName := ⟨RX9, "wouldLoad", "(II)I"⟩
def dkwX9_wouldLoad_2 : List UInt8 := [28, 182, 0, 155, 87, 42, 27, 182, 0, 114, 62, 42, 182, 0, 217, 29, 172]
abbrev dktX9_wouldLoad_2 : List UInt8 := dkwX9_wouldLoad_2 ++ []
def dkwX9_wouldLoad_1 : List UInt8 := [182, 0, 58, 172, 42, 28, 182, 0, 139, 155, 0, 9, 42, 27, 182, 0, 114, 172, 42, 182, 0, 68, 42, 27]
abbrev dktX9_wouldLoad_1 : List UInt8 := dkwX9_wouldLoad_1 ++ dktX9_wouldLoad_2
def dkwX9_wouldLoad_0 : List UInt8 := [42, 3, 181, 0, 45, 42, 27, 182, 0, 130, 153, 0, 10, 28, 184, 0, 133, 154, 0, 9, 42, 4]
abbrev dktX9_wouldLoad_0 : List UInt8 := dkwX9_wouldLoad_0 ++ dktX9_wouldLoad_1
theorem dksX9_wouldLoad_0 : cX9_wouldLoad.data.toList.drop 0 = dktX9_wouldLoad_0 := by decide +kernel
theorem dksX9_wouldLoad_1 : cX9_wouldLoad.data.toList.drop 22 = dktX9_wouldLoad_1 := dk_seg dksX9_wouldLoad_0 22 rfl rfl
theorem dksX9_wouldLoad_2 : cX9_wouldLoad.data.toList.drop 46 = dktX9_wouldLoad_2 := dk_seg dksX9_wouldLoad_1 24 rfl rfl
theorem dX9_wouldLoad_0 : decode cX9_wouldLoad 0 = .ok (.aload_n 0, 1) := dk_42 (dk_at dksX9_wouldLoad_0 0 rfl rfl)
theorem dX9_wouldLoad_1 : decode cX9_wouldLoad 1 = .ok (.iconst 0, 1) := dk_3 (dk_at dksX9_wouldLoad_0 1 rfl rfl)
theorem dX9_wouldLoad_2 : decode cX9_wouldLoad 2 = .ok (.putfield 45, 3) := dk_181 0 45 (dk_at dksX9_wouldLoad_0 2 rfl rfl)
theorem dX9_wouldLoad_5 : decode cX9_wouldLoad 5 = .ok (.aload_n 0, 1) := dk_42 (dk_at dksX9_wouldLoad_0 5 rfl rfl)
theorem dX9_wouldLoad_6 : decode cX9_wouldLoad 6 = .ok (.iload_n 1, 1) := dk_27 (dk_at dksX9_wouldLoad_0 6 rfl rfl)
theorem dX9_wouldLoad_7 : decode cX9_wouldLoad 7 = .ok (.invokevirtual 130, 3) := dk_182 0 130 (dk_at dksX9_wouldLoad_0 7 rfl rfl)
theorem dX9_wouldLoad_10 : decode cX9_wouldLoad 10 = .ok (.ifCond .eq 10, 3) := dk_153 0 10 (dk_at dksX9_wouldLoad_0 10 rfl rfl)
theorem dX9_wouldLoad_13 : decode cX9_wouldLoad 13 = .ok (.iload_n 2, 1) := dk_28 (dk_at dksX9_wouldLoad_0 13 rfl rfl)
theorem dX9_wouldLoad_14 : decode cX9_wouldLoad 14 = .ok (.invokestatic 133, 3) := dk_184 0 133 (dk_at dksX9_wouldLoad_0 14 rfl rfl)
theorem dX9_wouldLoad_17 : decode cX9_wouldLoad 17 = .ok (.ifCond .ne 9, 3) := dk_154 0 9 (dk_at dksX9_wouldLoad_0 17 rfl rfl)
theorem dX9_wouldLoad_20 : decode cX9_wouldLoad 20 = .ok (.aload_n 0, 1) := dk_42 (dk_at dksX9_wouldLoad_0 20 rfl rfl)
theorem dX9_wouldLoad_21 : decode cX9_wouldLoad 21 = .ok (.iconst 1, 1) := dk_4 (dk_at dksX9_wouldLoad_0 21 rfl rfl)
theorem dX9_wouldLoad_22 : decode cX9_wouldLoad 22 = .ok (.invokevirtual 58, 3) := dk_182 0 58 (dk_at dksX9_wouldLoad_1 0 rfl rfl)
theorem dX9_wouldLoad_25 : decode cX9_wouldLoad 25 = .ok (.ireturn, 1) := dk_172 (dk_at dksX9_wouldLoad_1 3 rfl rfl)
theorem dX9_wouldLoad_26 : decode cX9_wouldLoad 26 = .ok (.aload_n 0, 1) := dk_42 (dk_at dksX9_wouldLoad_1 4 rfl rfl)
theorem dX9_wouldLoad_27 : decode cX9_wouldLoad 27 = .ok (.iload_n 2, 1) := dk_28 (dk_at dksX9_wouldLoad_1 5 rfl rfl)
theorem dX9_wouldLoad_28 : decode cX9_wouldLoad 28 = .ok (.invokevirtual 139, 3) := dk_182 0 139 (dk_at dksX9_wouldLoad_1 6 rfl rfl)
theorem dX9_wouldLoad_31 : decode cX9_wouldLoad 31 = .ok (.ifCond .lt 9, 3) := dk_155 0 9 (dk_at dksX9_wouldLoad_1 9 rfl rfl)
theorem dX9_wouldLoad_34 : decode cX9_wouldLoad 34 = .ok (.aload_n 0, 1) := dk_42 (dk_at dksX9_wouldLoad_1 12 rfl rfl)
theorem dX9_wouldLoad_35 : decode cX9_wouldLoad 35 = .ok (.iload_n 1, 1) := dk_27 (dk_at dksX9_wouldLoad_1 13 rfl rfl)
theorem dX9_wouldLoad_36 : decode cX9_wouldLoad 36 = .ok (.invokevirtual 114, 3) := dk_182 0 114 (dk_at dksX9_wouldLoad_1 14 rfl rfl)
theorem dX9_wouldLoad_39 : decode cX9_wouldLoad 39 = .ok (.ireturn, 1) := dk_172 (dk_at dksX9_wouldLoad_1 17 rfl rfl)
theorem dX9_wouldLoad_40 : decode cX9_wouldLoad 40 = .ok (.aload_n 0, 1) := dk_42 (dk_at dksX9_wouldLoad_1 18 rfl rfl)
theorem dX9_wouldLoad_41 : decode cX9_wouldLoad 41 = .ok (.invokevirtual 68, 3) := dk_182 0 68 (dk_at dksX9_wouldLoad_1 19 rfl rfl)
theorem dX9_wouldLoad_44 : decode cX9_wouldLoad 44 = .ok (.aload_n 0, 1) := dk_42 (dk_at dksX9_wouldLoad_1 22 rfl rfl)
theorem dX9_wouldLoad_45 : decode cX9_wouldLoad 45 = .ok (.iload_n 1, 1) := dk_27 (dk_at dksX9_wouldLoad_1 23 rfl rfl)
theorem dX9_wouldLoad_46 : decode cX9_wouldLoad 46 = .ok (.iload_n 2, 1) := dk_28 (dk_at dksX9_wouldLoad_2 0 rfl rfl)
theorem dX9_wouldLoad_47 : decode cX9_wouldLoad 47 = .ok (.invokevirtual 155, 3) := dk_182 0 155 (dk_at dksX9_wouldLoad_2 1 rfl rfl)
theorem dX9_wouldLoad_50 : decode cX9_wouldLoad 50 = .ok (.pop, 1) := dk_87 (dk_at dksX9_wouldLoad_2 4 rfl rfl)
theorem dX9_wouldLoad_51 : decode cX9_wouldLoad 51 = .ok (.aload_n 0, 1) := dk_42 (dk_at dksX9_wouldLoad_2 5 rfl rfl)
theorem dX9_wouldLoad_52 : decode cX9_wouldLoad 52 = .ok (.iload_n 1, 1) := dk_27 (dk_at dksX9_wouldLoad_2 6 rfl rfl)
theorem dX9_wouldLoad_53 : decode cX9_wouldLoad 53 = .ok (.invokevirtual 114, 3) := dk_182 0 114 (dk_at dksX9_wouldLoad_2 7 rfl rfl)
theorem dX9_wouldLoad_56 : decode cX9_wouldLoad 56 = .ok (.istore_n 3, 1) := dk_62 (dk_at dksX9_wouldLoad_2 10 rfl rfl)
theorem dX9_wouldLoad_57 : decode cX9_wouldLoad 57 = .ok (.aload_n 0, 1) := dk_42 (dk_at dksX9_wouldLoad_2 11 rfl rfl)
theorem dX9_wouldLoad_58 : decode cX9_wouldLoad 58 = .ok (.invokevirtual 217, 3) := dk_182 0 217 (dk_at dksX9_wouldLoad_2 12 rfl rfl)
theorem dX9_wouldLoad_61 : decode cX9_wouldLoad 61 = .ok (.iload_n 3, 1) := dk_29 (dk_at dksX9_wouldLoad_2 15 rfl rfl)
theorem dX9_wouldLoad_62 : decode cX9_wouldLoad 62 = .ok (.ireturn, 1) := dk_172 (dk_at dksX9_wouldLoad_2 16 rfl rfl)
abbrev cX9_bestAngle : ByteArray := prog_13_method_72_code
def yX9_bestAngle : MethodName := ⟨RX9, "bestAngle", "(I)I"⟩
def dkwX9_bestAngle_4 : List UInt8 := [28, 172]
abbrev dktX9_bestAngle_4 : List UInt8 := dkwX9_bestAngle_4 ++ []
def dkwX9_bestAngle_3 : List UInt8 := [155, 0, 12, 21, 5, 29, 161, 0, 6, 167, 0, 9, 21, 4, 61, 21, 5, 62, 132, 4, 1, 167, 255, 196]
abbrev dktX9_bestAngle_3 : List UInt8 := dkwX9_bestAngle_3 ++ dktX9_bestAngle_4
def dkwX9_bestAngle_2 : List UInt8 := [167, 0, 40, 42, 27, 21, 4, 182, 0, 155, 87, 42, 182, 0, 220, 54, 5, 42, 182, 0, 217, 28]
abbrev dktX9_bestAngle_2 : List UInt8 := dkwX9_bestAngle_2 ++ dktX9_bestAngle_3
def dkwX9_bestAngle_1 : List UInt8 := [61, 3, 62, 3, 54, 4, 21, 4, 17, 1, 104, 162, 0, 58, 42, 21, 4, 182, 0, 139, 155, 0, 6]
abbrev dktX9_bestAngle_1 : List UInt8 := dkwX9_bestAngle_1 ++ dktX9_bestAngle_2
def dkwX9_bestAngle_0 : List UInt8 := [42, 3, 181, 0, 45, 42, 27, 182, 0, 130, 154, 0, 9, 42, 4, 182, 0, 58, 172, 42, 182, 0, 68, 2]
abbrev dktX9_bestAngle_0 : List UInt8 := dkwX9_bestAngle_0 ++ dktX9_bestAngle_1
theorem dksX9_bestAngle_0 : cX9_bestAngle.data.toList.drop 0 = dktX9_bestAngle_0 := by decide +kernel
theorem dksX9_bestAngle_1 : cX9_bestAngle.data.toList.drop 24 = dktX9_bestAngle_1 := dk_seg dksX9_bestAngle_0 24 rfl rfl
theorem dksX9_bestAngle_2 : cX9_bestAngle.data.toList.drop 47 = dktX9_bestAngle_2 := dk_seg dksX9_bestAngle_1 23 rfl rfl
theorem dksX9_bestAngle_3 : cX9_bestAngle.data.toList.drop 69 = dktX9_bestAngle_3 := dk_seg dksX9_bestAngle_2 22 rfl rfl
theorem dksX9_bestAngle_4 : cX9_bestAngle.data.toList.drop 93 = dktX9_bestAngle_4 := dk_seg dksX9_bestAngle_3 24 rfl rfl
theorem dX9_bestAngle_0 : decode cX9_bestAngle 0 = .ok (.aload_n 0, 1) := dk_42 (dk_at dksX9_bestAngle_0 0 rfl rfl)
theorem dX9_bestAngle_1 : decode cX9_bestAngle 1 = .ok (.iconst 0, 1) := dk_3 (dk_at dksX9_bestAngle_0 1 rfl rfl)
theorem dX9_bestAngle_2 : decode cX9_bestAngle 2 = .ok (.putfield 45, 3) := dk_181 0 45 (dk_at dksX9_bestAngle_0 2 rfl rfl)
theorem dX9_bestAngle_5 : decode cX9_bestAngle 5 = .ok (.aload_n 0, 1) := dk_42 (dk_at dksX9_bestAngle_0 5 rfl rfl)
theorem dX9_bestAngle_6 : decode cX9_bestAngle 6 = .ok (.iload_n 1, 1) := dk_27 (dk_at dksX9_bestAngle_0 6 rfl rfl)
theorem dX9_bestAngle_7 : decode cX9_bestAngle 7 = .ok (.invokevirtual 130, 3) := dk_182 0 130 (dk_at dksX9_bestAngle_0 7 rfl rfl)
theorem dX9_bestAngle_10 : decode cX9_bestAngle 10 = .ok (.ifCond .ne 9, 3) := dk_154 0 9 (dk_at dksX9_bestAngle_0 10 rfl rfl)
theorem dX9_bestAngle_13 : decode cX9_bestAngle 13 = .ok (.aload_n 0, 1) := dk_42 (dk_at dksX9_bestAngle_0 13 rfl rfl)
theorem dX9_bestAngle_14 : decode cX9_bestAngle 14 = .ok (.iconst 1, 1) := dk_4 (dk_at dksX9_bestAngle_0 14 rfl rfl)
theorem dX9_bestAngle_15 : decode cX9_bestAngle 15 = .ok (.invokevirtual 58, 3) := dk_182 0 58 (dk_at dksX9_bestAngle_0 15 rfl rfl)
theorem dX9_bestAngle_18 : decode cX9_bestAngle 18 = .ok (.ireturn, 1) := dk_172 (dk_at dksX9_bestAngle_0 18 rfl rfl)
theorem dX9_bestAngle_19 : decode cX9_bestAngle 19 = .ok (.aload_n 0, 1) := dk_42 (dk_at dksX9_bestAngle_0 19 rfl rfl)
theorem dX9_bestAngle_20 : decode cX9_bestAngle 20 = .ok (.invokevirtual 68, 3) := dk_182 0 68 (dk_at dksX9_bestAngle_0 20 rfl rfl)
theorem dX9_bestAngle_23 : decode cX9_bestAngle 23 = .ok (.iconst (-1), 1) := dk_2 (dk_at dksX9_bestAngle_0 23 rfl rfl)
theorem dX9_bestAngle_24 : decode cX9_bestAngle 24 = .ok (.istore_n 2, 1) := dk_61 (dk_at dksX9_bestAngle_1 0 rfl rfl)
theorem dX9_bestAngle_25 : decode cX9_bestAngle 25 = .ok (.iconst 0, 1) := dk_3 (dk_at dksX9_bestAngle_1 1 rfl rfl)
theorem dX9_bestAngle_26 : decode cX9_bestAngle 26 = .ok (.istore_n 3, 1) := dk_62 (dk_at dksX9_bestAngle_1 2 rfl rfl)
theorem dX9_bestAngle_27 : decode cX9_bestAngle 27 = .ok (.iconst 0, 1) := dk_3 (dk_at dksX9_bestAngle_1 3 rfl rfl)
theorem dX9_bestAngle_28 : decode cX9_bestAngle 28 = .ok (.istore 4, 2) := dk_54 4 (dk_at dksX9_bestAngle_1 4 rfl rfl)
theorem dX9_bestAngle_30 : decode cX9_bestAngle 30 = .ok (.iload 4, 2) := dk_21 4 (dk_at dksX9_bestAngle_1 6 rfl rfl)
theorem dX9_bestAngle_32 : decode cX9_bestAngle 32 = .ok (.sipush 360, 3) := dk_17 1 104 (dk_at dksX9_bestAngle_1 8 rfl rfl)
theorem dX9_bestAngle_35 : decode cX9_bestAngle 35 = .ok (.if_icmp .ge 58, 3) := dk_162 0 58 (dk_at dksX9_bestAngle_1 11 rfl rfl)
theorem dX9_bestAngle_38 : decode cX9_bestAngle 38 = .ok (.aload_n 0, 1) := dk_42 (dk_at dksX9_bestAngle_1 14 rfl rfl)
theorem dX9_bestAngle_39 : decode cX9_bestAngle 39 = .ok (.iload 4, 2) := dk_21 4 (dk_at dksX9_bestAngle_1 15 rfl rfl)
theorem dX9_bestAngle_41 : decode cX9_bestAngle 41 = .ok (.invokevirtual 139, 3) := dk_182 0 139 (dk_at dksX9_bestAngle_1 17 rfl rfl)
theorem dX9_bestAngle_44 : decode cX9_bestAngle 44 = .ok (.ifCond .lt 6, 3) := dk_155 0 6 (dk_at dksX9_bestAngle_1 20 rfl rfl)
theorem dX9_bestAngle_47 : decode cX9_bestAngle 47 = .ok (.goto 40, 3) := dk_167 0 40 (dk_at dksX9_bestAngle_2 0 rfl rfl)
theorem dX9_bestAngle_50 : decode cX9_bestAngle 50 = .ok (.aload_n 0, 1) := dk_42 (dk_at dksX9_bestAngle_2 3 rfl rfl)
theorem dX9_bestAngle_51 : decode cX9_bestAngle 51 = .ok (.iload_n 1, 1) := dk_27 (dk_at dksX9_bestAngle_2 4 rfl rfl)
theorem dX9_bestAngle_52 : decode cX9_bestAngle 52 = .ok (.iload 4, 2) := dk_21 4 (dk_at dksX9_bestAngle_2 5 rfl rfl)
theorem dX9_bestAngle_54 : decode cX9_bestAngle 54 = .ok (.invokevirtual 155, 3) := dk_182 0 155 (dk_at dksX9_bestAngle_2 7 rfl rfl)
theorem dX9_bestAngle_57 : decode cX9_bestAngle 57 = .ok (.pop, 1) := dk_87 (dk_at dksX9_bestAngle_2 10 rfl rfl)
theorem dX9_bestAngle_58 : decode cX9_bestAngle 58 = .ok (.aload_n 0, 1) := dk_42 (dk_at dksX9_bestAngle_2 11 rfl rfl)
theorem dX9_bestAngle_59 : decode cX9_bestAngle 59 = .ok (.invokevirtual 220, 3) := dk_182 0 220 (dk_at dksX9_bestAngle_2 12 rfl rfl)
theorem dX9_bestAngle_62 : decode cX9_bestAngle 62 = .ok (.istore 5, 2) := dk_54 5 (dk_at dksX9_bestAngle_2 15 rfl rfl)
theorem dX9_bestAngle_64 : decode cX9_bestAngle 64 = .ok (.aload_n 0, 1) := dk_42 (dk_at dksX9_bestAngle_2 17 rfl rfl)
theorem dX9_bestAngle_65 : decode cX9_bestAngle 65 = .ok (.invokevirtual 217, 3) := dk_182 0 217 (dk_at dksX9_bestAngle_2 18 rfl rfl)
theorem dX9_bestAngle_68 : decode cX9_bestAngle 68 = .ok (.iload_n 2, 1) := dk_28 (dk_at dksX9_bestAngle_2 21 rfl rfl)
theorem dX9_bestAngle_69 : decode cX9_bestAngle 69 = .ok (.ifCond .lt 12, 3) := dk_155 0 12 (dk_at dksX9_bestAngle_3 0 rfl rfl)
theorem dX9_bestAngle_72 : decode cX9_bestAngle 72 = .ok (.iload 5, 2) := dk_21 5 (dk_at dksX9_bestAngle_3 3 rfl rfl)
theorem dX9_bestAngle_74 : decode cX9_bestAngle 74 = .ok (.iload_n 3, 1) := dk_29 (dk_at dksX9_bestAngle_3 5 rfl rfl)
theorem dX9_bestAngle_75 : decode cX9_bestAngle 75 = .ok (.if_icmp .lt 6, 3) := dk_161 0 6 (dk_at dksX9_bestAngle_3 6 rfl rfl)
theorem dX9_bestAngle_78 : decode cX9_bestAngle 78 = .ok (.goto 9, 3) := dk_167 0 9 (dk_at dksX9_bestAngle_3 9 rfl rfl)
theorem dX9_bestAngle_81 : decode cX9_bestAngle 81 = .ok (.iload 4, 2) := dk_21 4 (dk_at dksX9_bestAngle_3 12 rfl rfl)
theorem dX9_bestAngle_83 : decode cX9_bestAngle 83 = .ok (.istore_n 2, 1) := dk_61 (dk_at dksX9_bestAngle_3 14 rfl rfl)
theorem dX9_bestAngle_84 : decode cX9_bestAngle 84 = .ok (.iload 5, 2) := dk_21 5 (dk_at dksX9_bestAngle_3 15 rfl rfl)
theorem dX9_bestAngle_86 : decode cX9_bestAngle 86 = .ok (.istore_n 3, 1) := dk_62 (dk_at dksX9_bestAngle_3 17 rfl rfl)
theorem dX9_bestAngle_87 : decode cX9_bestAngle 87 = .ok (.iinc 4 1, 3) := dk_132 4 1 (dk_at dksX9_bestAngle_3 18 rfl rfl)
theorem dX9_bestAngle_90 : decode cX9_bestAngle 90 = .ok (.goto (-60), 3) := dk_167 255 196 (dk_at dksX9_bestAngle_3 21 rfl rfl)
theorem dX9_bestAngle_93 : decode cX9_bestAngle 93 = .ok (.iload_n 2, 1) := dk_28 (dk_at dksX9_bestAngle_4 0 rfl rfl)
theorem dX9_bestAngle_94 : decode cX9_bestAngle 94 = .ok (.ireturn, 1) := dk_172 (dk_at dksX9_bestAngle_4 1 rfl rfl)
abbrev cX9_greatestLoad : ByteArray := prog_13_method_71_code
def yX9_greatestLoad : MethodName := ⟨RX9, "greatestLoad", "()I"⟩
def dkwX9_greatestLoad_1 : List UInt8 := [28, 182, 0, 114, 167, 0, 4, 27, 60, 132, 2, 1, 167, 255, 224, 27, 172]
abbrev dktX9_greatestLoad_1 : List UInt8 := dkwX9_greatestLoad_1 ++ []
def dkwX9_greatestLoad_0 : List UInt8 := [3, 60, 3, 61, 28, 42, 180, 0, 16, 3, 46, 162, 0, 28, 42, 28, 182, 0, 114, 27, 164, 0, 11, 42]
abbrev dktX9_greatestLoad_0 : List UInt8 := dkwX9_greatestLoad_0 ++ dktX9_greatestLoad_1
theorem dksX9_greatestLoad_0 : cX9_greatestLoad.data.toList.drop 0 = dktX9_greatestLoad_0 := by decide +kernel
theorem dksX9_greatestLoad_1 : cX9_greatestLoad.data.toList.drop 24 = dktX9_greatestLoad_1 := dk_seg dksX9_greatestLoad_0 24 rfl rfl
theorem dX9_greatestLoad_0 : decode cX9_greatestLoad 0 = .ok (.iconst 0, 1) := dk_3 (dk_at dksX9_greatestLoad_0 0 rfl rfl)
theorem dX9_greatestLoad_1 : decode cX9_greatestLoad 1 = .ok (.istore_n 1, 1) := dk_60 (dk_at dksX9_greatestLoad_0 1 rfl rfl)
theorem dX9_greatestLoad_2 : decode cX9_greatestLoad 2 = .ok (.iconst 0, 1) := dk_3 (dk_at dksX9_greatestLoad_0 2 rfl rfl)
theorem dX9_greatestLoad_3 : decode cX9_greatestLoad 3 = .ok (.istore_n 2, 1) := dk_61 (dk_at dksX9_greatestLoad_0 3 rfl rfl)
theorem dX9_greatestLoad_4 : decode cX9_greatestLoad 4 = .ok (.iload_n 2, 1) := dk_28 (dk_at dksX9_greatestLoad_0 4 rfl rfl)
theorem dX9_greatestLoad_5 : decode cX9_greatestLoad 5 = .ok (.aload_n 0, 1) := dk_42 (dk_at dksX9_greatestLoad_0 5 rfl rfl)
theorem dX9_greatestLoad_6 : decode cX9_greatestLoad 6 = .ok (.getfield 16, 3) := dk_180 0 16 (dk_at dksX9_greatestLoad_0 6 rfl rfl)
theorem dX9_greatestLoad_9 : decode cX9_greatestLoad 9 = .ok (.iconst 0, 1) := dk_3 (dk_at dksX9_greatestLoad_0 9 rfl rfl)
theorem dX9_greatestLoad_10 : decode cX9_greatestLoad 10 = .ok (.iaload, 1) := dk_46 (dk_at dksX9_greatestLoad_0 10 rfl rfl)
theorem dX9_greatestLoad_11 : decode cX9_greatestLoad 11 = .ok (.if_icmp .ge 28, 3) := dk_162 0 28 (dk_at dksX9_greatestLoad_0 11 rfl rfl)
theorem dX9_greatestLoad_14 : decode cX9_greatestLoad 14 = .ok (.aload_n 0, 1) := dk_42 (dk_at dksX9_greatestLoad_0 14 rfl rfl)
theorem dX9_greatestLoad_15 : decode cX9_greatestLoad 15 = .ok (.iload_n 2, 1) := dk_28 (dk_at dksX9_greatestLoad_0 15 rfl rfl)
theorem dX9_greatestLoad_16 : decode cX9_greatestLoad 16 = .ok (.invokevirtual 114, 3) := dk_182 0 114 (dk_at dksX9_greatestLoad_0 16 rfl rfl)
theorem dX9_greatestLoad_19 : decode cX9_greatestLoad 19 = .ok (.iload_n 1, 1) := dk_27 (dk_at dksX9_greatestLoad_0 19 rfl rfl)
theorem dX9_greatestLoad_20 : decode cX9_greatestLoad 20 = .ok (.if_icmp .le 11, 3) := dk_164 0 11 (dk_at dksX9_greatestLoad_0 20 rfl rfl)
theorem dX9_greatestLoad_23 : decode cX9_greatestLoad 23 = .ok (.aload_n 0, 1) := dk_42 (dk_at dksX9_greatestLoad_0 23 rfl rfl)
theorem dX9_greatestLoad_24 : decode cX9_greatestLoad 24 = .ok (.iload_n 2, 1) := dk_28 (dk_at dksX9_greatestLoad_1 0 rfl rfl)
theorem dX9_greatestLoad_25 : decode cX9_greatestLoad 25 = .ok (.invokevirtual 114, 3) := dk_182 0 114 (dk_at dksX9_greatestLoad_1 1 rfl rfl)
theorem dX9_greatestLoad_28 : decode cX9_greatestLoad 28 = .ok (.goto 4, 3) := dk_167 0 4 (dk_at dksX9_greatestLoad_1 4 rfl rfl)
theorem dX9_greatestLoad_31 : decode cX9_greatestLoad 31 = .ok (.iload_n 1, 1) := dk_27 (dk_at dksX9_greatestLoad_1 7 rfl rfl)
theorem dX9_greatestLoad_32 : decode cX9_greatestLoad 32 = .ok (.istore_n 1, 1) := dk_60 (dk_at dksX9_greatestLoad_1 8 rfl rfl)
theorem dX9_greatestLoad_33 : decode cX9_greatestLoad 33 = .ok (.iinc 2 1, 3) := dk_132 2 1 (dk_at dksX9_greatestLoad_1 9 rfl rfl)
theorem dX9_greatestLoad_36 : decode cX9_greatestLoad 36 = .ok (.goto (-32), 3) := dk_167 255 224 (dk_at dksX9_greatestLoad_1 12 rfl rfl)
theorem dX9_greatestLoad_39 : decode cX9_greatestLoad 39 = .ok (.iload_n 1, 1) := dk_27 (dk_at dksX9_greatestLoad_1 15 rfl rfl)
theorem dX9_greatestLoad_40 : decode cX9_greatestLoad 40 = .ok (.ireturn, 1) := dk_172 (dk_at dksX9_greatestLoad_1 16 rfl rfl)
abbrev cX9_loadAgain : ByteArray := prog_13_method_73_code
def yX9_loadAgain : MethodName := ⟨RX9, "loadAgain", "(I)I"⟩
def dkwX9_loadAgain_4 : List UInt8 := [132, 3, 1, 167, 255, 182, 28, 172]
abbrev dktX9_loadAgain_4 : List UInt8 := dkwX9_loadAgain_4 ++ []
def dkwX9_loadAgain_3 : List UInt8 := [160, 0, 13, 42, 21, 4, 4, 182, 0, 105, 167, 0, 4, 3, 96, 61, 132, 4, 1, 167, 255, 202]
abbrev dktX9_loadAgain_3 : List UInt8 := dkwX9_loadAgain_3 ++ dktX9_loadAgain_4
def dkwX9_loadAgain_2 : List UInt8 := [42, 29, 182, 0, 85, 27, 160, 0, 40, 28, 42, 21, 4, 6, 182, 0, 105, 42, 29, 182, 0, 82, 4, 96]
abbrev dktX9_loadAgain_2 : List UInt8 := dkwX9_loadAgain_2 ++ dktX9_loadAgain_3
def dkwX9_loadAgain_1 : List UInt8 := [42, 180, 0, 16, 16, 28, 46, 162, 0, 69, 3, 54, 4, 21, 4, 42, 180, 0, 16, 4, 46, 162, 0, 49]
abbrev dktX9_loadAgain_1 : List UInt8 := dkwX9_loadAgain_1 ++ dktX9_loadAgain_2
def dkwX9_loadAgain_0 : List UInt8 := [42, 3, 181, 0, 45, 42, 27, 182, 0, 130, 154, 0, 9, 42, 4, 182, 0, 58, 172, 3, 61, 3, 62, 29]
abbrev dktX9_loadAgain_0 : List UInt8 := dkwX9_loadAgain_0 ++ dktX9_loadAgain_1
theorem dksX9_loadAgain_0 : cX9_loadAgain.data.toList.drop 0 = dktX9_loadAgain_0 := by decide +kernel
theorem dksX9_loadAgain_1 : cX9_loadAgain.data.toList.drop 24 = dktX9_loadAgain_1 := dk_seg dksX9_loadAgain_0 24 rfl rfl
theorem dksX9_loadAgain_2 : cX9_loadAgain.data.toList.drop 48 = dktX9_loadAgain_2 := dk_seg dksX9_loadAgain_1 24 rfl rfl
theorem dksX9_loadAgain_3 : cX9_loadAgain.data.toList.drop 72 = dktX9_loadAgain_3 := dk_seg dksX9_loadAgain_2 24 rfl rfl
theorem dksX9_loadAgain_4 : cX9_loadAgain.data.toList.drop 94 = dktX9_loadAgain_4 := dk_seg dksX9_loadAgain_3 22 rfl rfl
theorem dX9_loadAgain_0 : decode cX9_loadAgain 0 = .ok (.aload_n 0, 1) := dk_42 (dk_at dksX9_loadAgain_0 0 rfl rfl)
theorem dX9_loadAgain_1 : decode cX9_loadAgain 1 = .ok (.iconst 0, 1) := dk_3 (dk_at dksX9_loadAgain_0 1 rfl rfl)
theorem dX9_loadAgain_2 : decode cX9_loadAgain 2 = .ok (.putfield 45, 3) := dk_181 0 45 (dk_at dksX9_loadAgain_0 2 rfl rfl)
theorem dX9_loadAgain_5 : decode cX9_loadAgain 5 = .ok (.aload_n 0, 1) := dk_42 (dk_at dksX9_loadAgain_0 5 rfl rfl)
theorem dX9_loadAgain_6 : decode cX9_loadAgain 6 = .ok (.iload_n 1, 1) := dk_27 (dk_at dksX9_loadAgain_0 6 rfl rfl)
theorem dX9_loadAgain_7 : decode cX9_loadAgain 7 = .ok (.invokevirtual 130, 3) := dk_182 0 130 (dk_at dksX9_loadAgain_0 7 rfl rfl)
theorem dX9_loadAgain_10 : decode cX9_loadAgain 10 = .ok (.ifCond .ne 9, 3) := dk_154 0 9 (dk_at dksX9_loadAgain_0 10 rfl rfl)
theorem dX9_loadAgain_13 : decode cX9_loadAgain 13 = .ok (.aload_n 0, 1) := dk_42 (dk_at dksX9_loadAgain_0 13 rfl rfl)
theorem dX9_loadAgain_14 : decode cX9_loadAgain 14 = .ok (.iconst 1, 1) := dk_4 (dk_at dksX9_loadAgain_0 14 rfl rfl)
theorem dX9_loadAgain_15 : decode cX9_loadAgain 15 = .ok (.invokevirtual 58, 3) := dk_182 0 58 (dk_at dksX9_loadAgain_0 15 rfl rfl)
theorem dX9_loadAgain_18 : decode cX9_loadAgain 18 = .ok (.ireturn, 1) := dk_172 (dk_at dksX9_loadAgain_0 18 rfl rfl)
theorem dX9_loadAgain_19 : decode cX9_loadAgain 19 = .ok (.iconst 0, 1) := dk_3 (dk_at dksX9_loadAgain_0 19 rfl rfl)
theorem dX9_loadAgain_20 : decode cX9_loadAgain 20 = .ok (.istore_n 2, 1) := dk_61 (dk_at dksX9_loadAgain_0 20 rfl rfl)
theorem dX9_loadAgain_21 : decode cX9_loadAgain 21 = .ok (.iconst 0, 1) := dk_3 (dk_at dksX9_loadAgain_0 21 rfl rfl)
theorem dX9_loadAgain_22 : decode cX9_loadAgain 22 = .ok (.istore_n 3, 1) := dk_62 (dk_at dksX9_loadAgain_0 22 rfl rfl)
theorem dX9_loadAgain_23 : decode cX9_loadAgain 23 = .ok (.iload_n 3, 1) := dk_29 (dk_at dksX9_loadAgain_0 23 rfl rfl)
theorem dX9_loadAgain_24 : decode cX9_loadAgain 24 = .ok (.aload_n 0, 1) := dk_42 (dk_at dksX9_loadAgain_1 0 rfl rfl)
theorem dX9_loadAgain_25 : decode cX9_loadAgain 25 = .ok (.getfield 16, 3) := dk_180 0 16 (dk_at dksX9_loadAgain_1 1 rfl rfl)
theorem dX9_loadAgain_28 : decode cX9_loadAgain 28 = .ok (.bipush 28, 2) := dk_16 28 (dk_at dksX9_loadAgain_1 4 rfl rfl)
theorem dX9_loadAgain_30 : decode cX9_loadAgain 30 = .ok (.iaload, 1) := dk_46 (dk_at dksX9_loadAgain_1 6 rfl rfl)
theorem dX9_loadAgain_31 : decode cX9_loadAgain 31 = .ok (.if_icmp .ge 69, 3) := dk_162 0 69 (dk_at dksX9_loadAgain_1 7 rfl rfl)
theorem dX9_loadAgain_34 : decode cX9_loadAgain 34 = .ok (.iconst 0, 1) := dk_3 (dk_at dksX9_loadAgain_1 10 rfl rfl)
theorem dX9_loadAgain_35 : decode cX9_loadAgain 35 = .ok (.istore 4, 2) := dk_54 4 (dk_at dksX9_loadAgain_1 11 rfl rfl)
theorem dX9_loadAgain_37 : decode cX9_loadAgain 37 = .ok (.iload 4, 2) := dk_21 4 (dk_at dksX9_loadAgain_1 13 rfl rfl)
theorem dX9_loadAgain_39 : decode cX9_loadAgain 39 = .ok (.aload_n 0, 1) := dk_42 (dk_at dksX9_loadAgain_1 15 rfl rfl)
theorem dX9_loadAgain_40 : decode cX9_loadAgain 40 = .ok (.getfield 16, 3) := dk_180 0 16 (dk_at dksX9_loadAgain_1 16 rfl rfl)
theorem dX9_loadAgain_43 : decode cX9_loadAgain 43 = .ok (.iconst 1, 1) := dk_4 (dk_at dksX9_loadAgain_1 19 rfl rfl)
theorem dX9_loadAgain_44 : decode cX9_loadAgain 44 = .ok (.iaload, 1) := dk_46 (dk_at dksX9_loadAgain_1 20 rfl rfl)
theorem dX9_loadAgain_45 : decode cX9_loadAgain 45 = .ok (.if_icmp .ge 49, 3) := dk_162 0 49 (dk_at dksX9_loadAgain_1 21 rfl rfl)
theorem dX9_loadAgain_48 : decode cX9_loadAgain 48 = .ok (.aload_n 0, 1) := dk_42 (dk_at dksX9_loadAgain_2 0 rfl rfl)
theorem dX9_loadAgain_49 : decode cX9_loadAgain 49 = .ok (.iload_n 3, 1) := dk_29 (dk_at dksX9_loadAgain_2 1 rfl rfl)
theorem dX9_loadAgain_50 : decode cX9_loadAgain 50 = .ok (.invokevirtual 85, 3) := dk_182 0 85 (dk_at dksX9_loadAgain_2 2 rfl rfl)
theorem dX9_loadAgain_53 : decode cX9_loadAgain 53 = .ok (.iload_n 1, 1) := dk_27 (dk_at dksX9_loadAgain_2 5 rfl rfl)
theorem dX9_loadAgain_54 : decode cX9_loadAgain 54 = .ok (.if_icmp .ne 40, 3) := dk_160 0 40 (dk_at dksX9_loadAgain_2 6 rfl rfl)
theorem dX9_loadAgain_57 : decode cX9_loadAgain 57 = .ok (.iload_n 2, 1) := dk_28 (dk_at dksX9_loadAgain_2 9 rfl rfl)
theorem dX9_loadAgain_58 : decode cX9_loadAgain 58 = .ok (.aload_n 0, 1) := dk_42 (dk_at dksX9_loadAgain_2 10 rfl rfl)
theorem dX9_loadAgain_59 : decode cX9_loadAgain 59 = .ok (.iload 4, 2) := dk_21 4 (dk_at dksX9_loadAgain_2 11 rfl rfl)
theorem dX9_loadAgain_61 : decode cX9_loadAgain 61 = .ok (.iconst 3, 1) := dk_6 (dk_at dksX9_loadAgain_2 13 rfl rfl)
theorem dX9_loadAgain_62 : decode cX9_loadAgain 62 = .ok (.invokevirtual 105, 3) := dk_182 0 105 (dk_at dksX9_loadAgain_2 14 rfl rfl)
theorem dX9_loadAgain_65 : decode cX9_loadAgain 65 = .ok (.aload_n 0, 1) := dk_42 (dk_at dksX9_loadAgain_2 17 rfl rfl)
theorem dX9_loadAgain_66 : decode cX9_loadAgain 66 = .ok (.iload_n 3, 1) := dk_29 (dk_at dksX9_loadAgain_2 18 rfl rfl)
theorem dX9_loadAgain_67 : decode cX9_loadAgain 67 = .ok (.invokevirtual 82, 3) := dk_182 0 82 (dk_at dksX9_loadAgain_2 19 rfl rfl)
theorem dX9_loadAgain_70 : decode cX9_loadAgain 70 = .ok (.iconst 1, 1) := dk_4 (dk_at dksX9_loadAgain_2 22 rfl rfl)
theorem dX9_loadAgain_71 : decode cX9_loadAgain 71 = .ok (.iadd, 1) := dk_96 (dk_at dksX9_loadAgain_2 23 rfl rfl)
theorem dX9_loadAgain_72 : decode cX9_loadAgain 72 = .ok (.if_icmp .ne 13, 3) := dk_160 0 13 (dk_at dksX9_loadAgain_3 0 rfl rfl)
theorem dX9_loadAgain_75 : decode cX9_loadAgain 75 = .ok (.aload_n 0, 1) := dk_42 (dk_at dksX9_loadAgain_3 3 rfl rfl)
theorem dX9_loadAgain_76 : decode cX9_loadAgain 76 = .ok (.iload 4, 2) := dk_21 4 (dk_at dksX9_loadAgain_3 4 rfl rfl)
theorem dX9_loadAgain_78 : decode cX9_loadAgain 78 = .ok (.iconst 1, 1) := dk_4 (dk_at dksX9_loadAgain_3 6 rfl rfl)
theorem dX9_loadAgain_79 : decode cX9_loadAgain 79 = .ok (.invokevirtual 105, 3) := dk_182 0 105 (dk_at dksX9_loadAgain_3 7 rfl rfl)
theorem dX9_loadAgain_82 : decode cX9_loadAgain 82 = .ok (.goto 4, 3) := dk_167 0 4 (dk_at dksX9_loadAgain_3 10 rfl rfl)
theorem dX9_loadAgain_85 : decode cX9_loadAgain 85 = .ok (.iconst 0, 1) := dk_3 (dk_at dksX9_loadAgain_3 13 rfl rfl)
theorem dX9_loadAgain_86 : decode cX9_loadAgain 86 = .ok (.iadd, 1) := dk_96 (dk_at dksX9_loadAgain_3 14 rfl rfl)
theorem dX9_loadAgain_87 : decode cX9_loadAgain 87 = .ok (.istore_n 2, 1) := dk_61 (dk_at dksX9_loadAgain_3 15 rfl rfl)
theorem dX9_loadAgain_88 : decode cX9_loadAgain 88 = .ok (.iinc 4 1, 3) := dk_132 4 1 (dk_at dksX9_loadAgain_3 16 rfl rfl)
theorem dX9_loadAgain_91 : decode cX9_loadAgain 91 = .ok (.goto (-54), 3) := dk_167 255 202 (dk_at dksX9_loadAgain_3 19 rfl rfl)
theorem dX9_loadAgain_94 : decode cX9_loadAgain 94 = .ok (.iinc 3 1, 3) := dk_132 3 1 (dk_at dksX9_loadAgain_4 0 rfl rfl)
theorem dX9_loadAgain_97 : decode cX9_loadAgain 97 = .ok (.goto (-74), 3) := dk_167 255 182 (dk_at dksX9_loadAgain_4 3 rfl rfl)
theorem dX9_loadAgain_100 : decode cX9_loadAgain 100 = .ok (.iload_n 2, 1) := dk_28 (dk_at dksX9_loadAgain_4 6 rfl rfl)
theorem dX9_loadAgain_101 : decode cX9_loadAgain 101 = .ok (.ireturn, 1) := dk_172 (dk_at dksX9_loadAgain_4 7 rfl rfl)
abbrev cX9_span : ByteArray := prog_13_method_74_code
def yX9_span : MethodName := ⟨RX9, "span", "(I)I"⟩
def dkwX9_span_2 : List UInt8 := [27, 160, 0, 7, 4, 167, 0, 4, 3, 96, 61, 132, 3, 1, 167, 255, 217, 28, 172]
abbrev dktX9_span_2 : List UInt8 := dkwX9_span_2 ++ []
def dkwX9_span_1 : List UInt8 := [17, 1, 104, 162, 0, 38, 28, 42, 29, 182, 0, 211, 155, 0, 20, 42, 42, 29, 182, 0, 211, 182, 0, 85]
abbrev dktX9_span_1 : List UInt8 := dkwX9_span_1 ++ dktX9_span_2
def dkwX9_span_0 : List UInt8 := [42, 3, 181, 0, 45, 42, 27, 182, 0, 130, 154, 0, 9, 42, 4, 182, 0, 58, 172, 3, 61, 3, 62, 29]
abbrev dktX9_span_0 : List UInt8 := dkwX9_span_0 ++ dktX9_span_1
theorem dksX9_span_0 : cX9_span.data.toList.drop 0 = dktX9_span_0 := by decide +kernel
theorem dksX9_span_1 : cX9_span.data.toList.drop 24 = dktX9_span_1 := dk_seg dksX9_span_0 24 rfl rfl
theorem dksX9_span_2 : cX9_span.data.toList.drop 48 = dktX9_span_2 := dk_seg dksX9_span_1 24 rfl rfl
theorem dX9_span_0 : decode cX9_span 0 = .ok (.aload_n 0, 1) := dk_42 (dk_at dksX9_span_0 0 rfl rfl)
theorem dX9_span_1 : decode cX9_span 1 = .ok (.iconst 0, 1) := dk_3 (dk_at dksX9_span_0 1 rfl rfl)
theorem dX9_span_2 : decode cX9_span 2 = .ok (.putfield 45, 3) := dk_181 0 45 (dk_at dksX9_span_0 2 rfl rfl)
theorem dX9_span_5 : decode cX9_span 5 = .ok (.aload_n 0, 1) := dk_42 (dk_at dksX9_span_0 5 rfl rfl)
theorem dX9_span_6 : decode cX9_span 6 = .ok (.iload_n 1, 1) := dk_27 (dk_at dksX9_span_0 6 rfl rfl)
theorem dX9_span_7 : decode cX9_span 7 = .ok (.invokevirtual 130, 3) := dk_182 0 130 (dk_at dksX9_span_0 7 rfl rfl)
theorem dX9_span_10 : decode cX9_span 10 = .ok (.ifCond .ne 9, 3) := dk_154 0 9 (dk_at dksX9_span_0 10 rfl rfl)
theorem dX9_span_13 : decode cX9_span 13 = .ok (.aload_n 0, 1) := dk_42 (dk_at dksX9_span_0 13 rfl rfl)
theorem dX9_span_14 : decode cX9_span 14 = .ok (.iconst 1, 1) := dk_4 (dk_at dksX9_span_0 14 rfl rfl)
theorem dX9_span_15 : decode cX9_span 15 = .ok (.invokevirtual 58, 3) := dk_182 0 58 (dk_at dksX9_span_0 15 rfl rfl)
theorem dX9_span_18 : decode cX9_span 18 = .ok (.ireturn, 1) := dk_172 (dk_at dksX9_span_0 18 rfl rfl)
theorem dX9_span_19 : decode cX9_span 19 = .ok (.iconst 0, 1) := dk_3 (dk_at dksX9_span_0 19 rfl rfl)
theorem dX9_span_20 : decode cX9_span 20 = .ok (.istore_n 2, 1) := dk_61 (dk_at dksX9_span_0 20 rfl rfl)
theorem dX9_span_21 : decode cX9_span 21 = .ok (.iconst 0, 1) := dk_3 (dk_at dksX9_span_0 21 rfl rfl)
theorem dX9_span_22 : decode cX9_span 22 = .ok (.istore_n 3, 1) := dk_62 (dk_at dksX9_span_0 22 rfl rfl)
theorem dX9_span_23 : decode cX9_span 23 = .ok (.iload_n 3, 1) := dk_29 (dk_at dksX9_span_0 23 rfl rfl)
theorem dX9_span_24 : decode cX9_span 24 = .ok (.sipush 360, 3) := dk_17 1 104 (dk_at dksX9_span_1 0 rfl rfl)
theorem dX9_span_27 : decode cX9_span 27 = .ok (.if_icmp .ge 38, 3) := dk_162 0 38 (dk_at dksX9_span_1 3 rfl rfl)
theorem dX9_span_30 : decode cX9_span 30 = .ok (.iload_n 2, 1) := dk_28 (dk_at dksX9_span_1 6 rfl rfl)
theorem dX9_span_31 : decode cX9_span 31 = .ok (.aload_n 0, 1) := dk_42 (dk_at dksX9_span_1 7 rfl rfl)
theorem dX9_span_32 : decode cX9_span 32 = .ok (.iload_n 3, 1) := dk_29 (dk_at dksX9_span_1 8 rfl rfl)
theorem dX9_span_33 : decode cX9_span 33 = .ok (.invokevirtual 211, 3) := dk_182 0 211 (dk_at dksX9_span_1 9 rfl rfl)
theorem dX9_span_36 : decode cX9_span 36 = .ok (.ifCond .lt 20, 3) := dk_155 0 20 (dk_at dksX9_span_1 12 rfl rfl)
theorem dX9_span_39 : decode cX9_span 39 = .ok (.aload_n 0, 1) := dk_42 (dk_at dksX9_span_1 15 rfl rfl)
theorem dX9_span_40 : decode cX9_span 40 = .ok (.aload_n 0, 1) := dk_42 (dk_at dksX9_span_1 16 rfl rfl)
theorem dX9_span_41 : decode cX9_span 41 = .ok (.iload_n 3, 1) := dk_29 (dk_at dksX9_span_1 17 rfl rfl)
theorem dX9_span_42 : decode cX9_span 42 = .ok (.invokevirtual 211, 3) := dk_182 0 211 (dk_at dksX9_span_1 18 rfl rfl)
theorem dX9_span_45 : decode cX9_span 45 = .ok (.invokevirtual 85, 3) := dk_182 0 85 (dk_at dksX9_span_1 21 rfl rfl)
theorem dX9_span_48 : decode cX9_span 48 = .ok (.iload_n 1, 1) := dk_27 (dk_at dksX9_span_2 0 rfl rfl)
theorem dX9_span_49 : decode cX9_span 49 = .ok (.if_icmp .ne 7, 3) := dk_160 0 7 (dk_at dksX9_span_2 1 rfl rfl)
theorem dX9_span_52 : decode cX9_span 52 = .ok (.iconst 1, 1) := dk_4 (dk_at dksX9_span_2 4 rfl rfl)
theorem dX9_span_53 : decode cX9_span 53 = .ok (.goto 4, 3) := dk_167 0 4 (dk_at dksX9_span_2 5 rfl rfl)
theorem dX9_span_56 : decode cX9_span 56 = .ok (.iconst 0, 1) := dk_3 (dk_at dksX9_span_2 8 rfl rfl)
theorem dX9_span_57 : decode cX9_span 57 = .ok (.iadd, 1) := dk_96 (dk_at dksX9_span_2 9 rfl rfl)
theorem dX9_span_58 : decode cX9_span 58 = .ok (.istore_n 2, 1) := dk_61 (dk_at dksX9_span_2 10 rfl rfl)
theorem dX9_span_59 : decode cX9_span 59 = .ok (.iinc 3 1, 3) := dk_132 3 1 (dk_at dksX9_span_2 11 rfl rfl)
theorem dX9_span_62 : decode cX9_span 62 = .ok (.goto (-39), 3) := dk_167 255 217 (dk_at dksX9_span_2 14 rfl rfl)
theorem dX9_span_65 : decode cX9_span 65 = .ok (.iload_n 2, 1) := dk_28 (dk_at dksX9_span_2 17 rfl rfl)
theorem dX9_span_66 : decode cX9_span 66 = .ok (.ireturn, 1) := dk_172 (dk_at dksX9_span_2 18 rfl rfl)
abbrev cX9_customers : ByteArray := prog_13_method_75_code
def yX9_customers : MethodName := ⟨RX9, "customers", "(II)I"⟩
def dkwX9_customers_3 : List UInt8 := [5, 182, 0, 58, 172]
abbrev dktX9_customers_3 : List UInt8 := dkwX9_customers_3 ++ []
def dkwX9_customers_2 : List UInt8 := [96, 159, 0, 6, 167, 0, 13, 29, 154, 0, 6, 21, 4, 172, 132, 3, 255, 132, 4, 1, 167, 255, 212, 42]
abbrev dktX9_customers_2 : List UInt8 := dkwX9_customers_2 ++ dktX9_customers_3
def dkwX9_customers_1 : List UInt8 := [21, 4, 42, 180, 0, 16, 4, 46, 162, 0, 39, 28, 155, 0, 35, 42, 21, 4, 5, 182, 0, 105, 27, 4]
abbrev dktX9_customers_1 : List UInt8 := dkwX9_customers_1 ++ dktX9_customers_2
def dkwX9_customers_0 : List UInt8 := [42, 3, 181, 0, 45, 42, 27, 182, 0, 130, 154, 0, 9, 42, 4, 182, 0, 58, 172, 28, 62, 3, 54, 4]
abbrev dktX9_customers_0 : List UInt8 := dkwX9_customers_0 ++ dktX9_customers_1
theorem dksX9_customers_0 : cX9_customers.data.toList.drop 0 = dktX9_customers_0 := by decide +kernel
theorem dksX9_customers_1 : cX9_customers.data.toList.drop 24 = dktX9_customers_1 := dk_seg dksX9_customers_0 24 rfl rfl
theorem dksX9_customers_2 : cX9_customers.data.toList.drop 48 = dktX9_customers_2 := dk_seg dksX9_customers_1 24 rfl rfl
theorem dksX9_customers_3 : cX9_customers.data.toList.drop 72 = dktX9_customers_3 := dk_seg dksX9_customers_2 24 rfl rfl
theorem dX9_customers_0 : decode cX9_customers 0 = .ok (.aload_n 0, 1) := dk_42 (dk_at dksX9_customers_0 0 rfl rfl)
theorem dX9_customers_1 : decode cX9_customers 1 = .ok (.iconst 0, 1) := dk_3 (dk_at dksX9_customers_0 1 rfl rfl)
theorem dX9_customers_2 : decode cX9_customers 2 = .ok (.putfield 45, 3) := dk_181 0 45 (dk_at dksX9_customers_0 2 rfl rfl)
theorem dX9_customers_5 : decode cX9_customers 5 = .ok (.aload_n 0, 1) := dk_42 (dk_at dksX9_customers_0 5 rfl rfl)
theorem dX9_customers_6 : decode cX9_customers 6 = .ok (.iload_n 1, 1) := dk_27 (dk_at dksX9_customers_0 6 rfl rfl)
theorem dX9_customers_7 : decode cX9_customers 7 = .ok (.invokevirtual 130, 3) := dk_182 0 130 (dk_at dksX9_customers_0 7 rfl rfl)
theorem dX9_customers_10 : decode cX9_customers 10 = .ok (.ifCond .ne 9, 3) := dk_154 0 9 (dk_at dksX9_customers_0 10 rfl rfl)
theorem dX9_customers_13 : decode cX9_customers 13 = .ok (.aload_n 0, 1) := dk_42 (dk_at dksX9_customers_0 13 rfl rfl)
theorem dX9_customers_14 : decode cX9_customers 14 = .ok (.iconst 1, 1) := dk_4 (dk_at dksX9_customers_0 14 rfl rfl)
theorem dX9_customers_15 : decode cX9_customers 15 = .ok (.invokevirtual 58, 3) := dk_182 0 58 (dk_at dksX9_customers_0 15 rfl rfl)
theorem dX9_customers_18 : decode cX9_customers 18 = .ok (.ireturn, 1) := dk_172 (dk_at dksX9_customers_0 18 rfl rfl)
theorem dX9_customers_19 : decode cX9_customers 19 = .ok (.iload_n 2, 1) := dk_28 (dk_at dksX9_customers_0 19 rfl rfl)
theorem dX9_customers_20 : decode cX9_customers 20 = .ok (.istore_n 3, 1) := dk_62 (dk_at dksX9_customers_0 20 rfl rfl)
theorem dX9_customers_21 : decode cX9_customers 21 = .ok (.iconst 0, 1) := dk_3 (dk_at dksX9_customers_0 21 rfl rfl)
theorem dX9_customers_22 : decode cX9_customers 22 = .ok (.istore 4, 2) := dk_54 4 (dk_at dksX9_customers_0 22 rfl rfl)
theorem dX9_customers_24 : decode cX9_customers 24 = .ok (.iload 4, 2) := dk_21 4 (dk_at dksX9_customers_1 0 rfl rfl)
theorem dX9_customers_26 : decode cX9_customers 26 = .ok (.aload_n 0, 1) := dk_42 (dk_at dksX9_customers_1 2 rfl rfl)
theorem dX9_customers_27 : decode cX9_customers 27 = .ok (.getfield 16, 3) := dk_180 0 16 (dk_at dksX9_customers_1 3 rfl rfl)
theorem dX9_customers_30 : decode cX9_customers 30 = .ok (.iconst 1, 1) := dk_4 (dk_at dksX9_customers_1 6 rfl rfl)
theorem dX9_customers_31 : decode cX9_customers 31 = .ok (.iaload, 1) := dk_46 (dk_at dksX9_customers_1 7 rfl rfl)
theorem dX9_customers_32 : decode cX9_customers 32 = .ok (.if_icmp .ge 39, 3) := dk_162 0 39 (dk_at dksX9_customers_1 8 rfl rfl)
theorem dX9_customers_35 : decode cX9_customers 35 = .ok (.iload_n 2, 1) := dk_28 (dk_at dksX9_customers_1 11 rfl rfl)
theorem dX9_customers_36 : decode cX9_customers 36 = .ok (.ifCond .lt 35, 3) := dk_155 0 35 (dk_at dksX9_customers_1 12 rfl rfl)
theorem dX9_customers_39 : decode cX9_customers 39 = .ok (.aload_n 0, 1) := dk_42 (dk_at dksX9_customers_1 15 rfl rfl)
theorem dX9_customers_40 : decode cX9_customers 40 = .ok (.iload 4, 2) := dk_21 4 (dk_at dksX9_customers_1 16 rfl rfl)
theorem dX9_customers_42 : decode cX9_customers 42 = .ok (.iconst 2, 1) := dk_5 (dk_at dksX9_customers_1 18 rfl rfl)
theorem dX9_customers_43 : decode cX9_customers 43 = .ok (.invokevirtual 105, 3) := dk_182 0 105 (dk_at dksX9_customers_1 19 rfl rfl)
theorem dX9_customers_46 : decode cX9_customers 46 = .ok (.iload_n 1, 1) := dk_27 (dk_at dksX9_customers_1 22 rfl rfl)
theorem dX9_customers_47 : decode cX9_customers 47 = .ok (.iconst 1, 1) := dk_4 (dk_at dksX9_customers_1 23 rfl rfl)
theorem dX9_customers_48 : decode cX9_customers 48 = .ok (.iadd, 1) := dk_96 (dk_at dksX9_customers_2 0 rfl rfl)
theorem dX9_customers_49 : decode cX9_customers 49 = .ok (.if_icmp .eq 6, 3) := dk_159 0 6 (dk_at dksX9_customers_2 1 rfl rfl)
theorem dX9_customers_52 : decode cX9_customers 52 = .ok (.goto 13, 3) := dk_167 0 13 (dk_at dksX9_customers_2 4 rfl rfl)
theorem dX9_customers_55 : decode cX9_customers 55 = .ok (.iload_n 3, 1) := dk_29 (dk_at dksX9_customers_2 7 rfl rfl)
theorem dX9_customers_56 : decode cX9_customers 56 = .ok (.ifCond .ne 6, 3) := dk_154 0 6 (dk_at dksX9_customers_2 8 rfl rfl)
theorem dX9_customers_59 : decode cX9_customers 59 = .ok (.iload 4, 2) := dk_21 4 (dk_at dksX9_customers_2 11 rfl rfl)
theorem dX9_customers_61 : decode cX9_customers 61 = .ok (.ireturn, 1) := dk_172 (dk_at dksX9_customers_2 13 rfl rfl)
theorem dX9_customers_62 : decode cX9_customers 62 = .ok (.iinc 3 (-1), 3) := dk_132 3 255 (dk_at dksX9_customers_2 14 rfl rfl)
theorem dX9_customers_65 : decode cX9_customers 65 = .ok (.iinc 4 1, 3) := dk_132 4 1 (dk_at dksX9_customers_2 17 rfl rfl)
theorem dX9_customers_68 : decode cX9_customers 68 = .ok (.goto (-44), 3) := dk_167 255 212 (dk_at dksX9_customers_2 20 rfl rfl)
theorem dX9_customers_71 : decode cX9_customers 71 = .ok (.aload_n 0, 1) := dk_42 (dk_at dksX9_customers_2 23 rfl rfl)
theorem dX9_customers_72 : decode cX9_customers 72 = .ok (.iconst 2, 1) := dk_5 (dk_at dksX9_customers_3 0 rfl rfl)
theorem dX9_customers_73 : decode cX9_customers 73 = .ok (.invokevirtual 58, 3) := dk_182 0 58 (dk_at dksX9_customers_3 1 rfl rfl)
theorem dX9_customers_76 : decode cX9_customers 76 = .ok (.ireturn, 1) := dk_172 (dk_at dksX9_customers_3 4 rfl rfl)
abbrev cX9_ranked : ByteArray := prog_13_method_77_code
def yX9_ranked : MethodName := ⟨RX9, "ranked", "(I)I"⟩
def dkwX9_ranked_4 : List UInt8 := [167, 255, 176, 42, 4, 182, 0, 58, 172]
abbrev dktX9_ranked_4 : List UInt8 := dkwX9_ranked_4 ++ []
def dkwX9_ranked_3 : List UInt8 := [167, 0, 4, 3, 96, 62, 132, 4, 1, 167, 255, 215, 29, 27, 160, 0, 5, 28, 172, 132, 2, 1]
abbrev dktX9_ranked_3 : List UInt8 := dkwX9_ranked_3 ++ dktX9_ranked_4
def dkwX9_ranked_2 : List UInt8 := [162, 0, 36, 29, 42, 21, 4, 182, 0, 88, 153, 0, 17, 42, 21, 4, 28, 182, 0, 223, 153, 0, 7, 4]
abbrev dktX9_ranked_2 : List UInt8 := dkwX9_ranked_2 ++ dktX9_ranked_3
def dkwX9_ranked_1 : List UInt8 := [182, 0, 88, 154, 0, 6, 167, 0, 59, 3, 62, 3, 54, 4, 21, 4, 42, 180, 0, 16, 3, 46]
abbrev dktX9_ranked_1 : List UInt8 := dkwX9_ranked_1 ++ dktX9_ranked_2
def dkwX9_ranked_0 : List UInt8 := [42, 3, 181, 0, 45, 42, 182, 0, 214, 3, 61, 28, 42, 180, 0, 16, 3, 46, 162, 0, 76, 42, 28]
abbrev dktX9_ranked_0 : List UInt8 := dkwX9_ranked_0 ++ dktX9_ranked_1
theorem dksX9_ranked_0 : cX9_ranked.data.toList.drop 0 = dktX9_ranked_0 := by decide +kernel
theorem dksX9_ranked_1 : cX9_ranked.data.toList.drop 23 = dktX9_ranked_1 := dk_seg dksX9_ranked_0 23 rfl rfl
theorem dksX9_ranked_2 : cX9_ranked.data.toList.drop 45 = dktX9_ranked_2 := dk_seg dksX9_ranked_1 22 rfl rfl
theorem dksX9_ranked_3 : cX9_ranked.data.toList.drop 69 = dktX9_ranked_3 := dk_seg dksX9_ranked_2 24 rfl rfl
theorem dksX9_ranked_4 : cX9_ranked.data.toList.drop 91 = dktX9_ranked_4 := dk_seg dksX9_ranked_3 22 rfl rfl
theorem dX9_ranked_0 : decode cX9_ranked 0 = .ok (.aload_n 0, 1) := dk_42 (dk_at dksX9_ranked_0 0 rfl rfl)
theorem dX9_ranked_1 : decode cX9_ranked 1 = .ok (.iconst 0, 1) := dk_3 (dk_at dksX9_ranked_0 1 rfl rfl)
theorem dX9_ranked_2 : decode cX9_ranked 2 = .ok (.putfield 45, 3) := dk_181 0 45 (dk_at dksX9_ranked_0 2 rfl rfl)
theorem dX9_ranked_5 : decode cX9_ranked 5 = .ok (.aload_n 0, 1) := dk_42 (dk_at dksX9_ranked_0 5 rfl rfl)
theorem dX9_ranked_6 : decode cX9_ranked 6 = .ok (.invokevirtual 214, 3) := dk_182 0 214 (dk_at dksX9_ranked_0 6 rfl rfl)
theorem dX9_ranked_9 : decode cX9_ranked 9 = .ok (.iconst 0, 1) := dk_3 (dk_at dksX9_ranked_0 9 rfl rfl)
theorem dX9_ranked_10 : decode cX9_ranked 10 = .ok (.istore_n 2, 1) := dk_61 (dk_at dksX9_ranked_0 10 rfl rfl)
theorem dX9_ranked_11 : decode cX9_ranked 11 = .ok (.iload_n 2, 1) := dk_28 (dk_at dksX9_ranked_0 11 rfl rfl)
theorem dX9_ranked_12 : decode cX9_ranked 12 = .ok (.aload_n 0, 1) := dk_42 (dk_at dksX9_ranked_0 12 rfl rfl)
theorem dX9_ranked_13 : decode cX9_ranked 13 = .ok (.getfield 16, 3) := dk_180 0 16 (dk_at dksX9_ranked_0 13 rfl rfl)
theorem dX9_ranked_16 : decode cX9_ranked 16 = .ok (.iconst 0, 1) := dk_3 (dk_at dksX9_ranked_0 16 rfl rfl)
theorem dX9_ranked_17 : decode cX9_ranked 17 = .ok (.iaload, 1) := dk_46 (dk_at dksX9_ranked_0 17 rfl rfl)
theorem dX9_ranked_18 : decode cX9_ranked 18 = .ok (.if_icmp .ge 76, 3) := dk_162 0 76 (dk_at dksX9_ranked_0 18 rfl rfl)
theorem dX9_ranked_21 : decode cX9_ranked 21 = .ok (.aload_n 0, 1) := dk_42 (dk_at dksX9_ranked_0 21 rfl rfl)
theorem dX9_ranked_22 : decode cX9_ranked 22 = .ok (.iload_n 2, 1) := dk_28 (dk_at dksX9_ranked_0 22 rfl rfl)
theorem dX9_ranked_23 : decode cX9_ranked 23 = .ok (.invokevirtual 88, 3) := dk_182 0 88 (dk_at dksX9_ranked_1 0 rfl rfl)
theorem dX9_ranked_26 : decode cX9_ranked 26 = .ok (.ifCond .ne 6, 3) := dk_154 0 6 (dk_at dksX9_ranked_1 3 rfl rfl)
theorem dX9_ranked_29 : decode cX9_ranked 29 = .ok (.goto 59, 3) := dk_167 0 59 (dk_at dksX9_ranked_1 6 rfl rfl)
theorem dX9_ranked_32 : decode cX9_ranked 32 = .ok (.iconst 0, 1) := dk_3 (dk_at dksX9_ranked_1 9 rfl rfl)
theorem dX9_ranked_33 : decode cX9_ranked 33 = .ok (.istore_n 3, 1) := dk_62 (dk_at dksX9_ranked_1 10 rfl rfl)
theorem dX9_ranked_34 : decode cX9_ranked 34 = .ok (.iconst 0, 1) := dk_3 (dk_at dksX9_ranked_1 11 rfl rfl)
theorem dX9_ranked_35 : decode cX9_ranked 35 = .ok (.istore 4, 2) := dk_54 4 (dk_at dksX9_ranked_1 12 rfl rfl)
theorem dX9_ranked_37 : decode cX9_ranked 37 = .ok (.iload 4, 2) := dk_21 4 (dk_at dksX9_ranked_1 14 rfl rfl)
theorem dX9_ranked_39 : decode cX9_ranked 39 = .ok (.aload_n 0, 1) := dk_42 (dk_at dksX9_ranked_1 16 rfl rfl)
theorem dX9_ranked_40 : decode cX9_ranked 40 = .ok (.getfield 16, 3) := dk_180 0 16 (dk_at dksX9_ranked_1 17 rfl rfl)
theorem dX9_ranked_43 : decode cX9_ranked 43 = .ok (.iconst 0, 1) := dk_3 (dk_at dksX9_ranked_1 20 rfl rfl)
theorem dX9_ranked_44 : decode cX9_ranked 44 = .ok (.iaload, 1) := dk_46 (dk_at dksX9_ranked_1 21 rfl rfl)
theorem dX9_ranked_45 : decode cX9_ranked 45 = .ok (.if_icmp .ge 36, 3) := dk_162 0 36 (dk_at dksX9_ranked_2 0 rfl rfl)
theorem dX9_ranked_48 : decode cX9_ranked 48 = .ok (.iload_n 3, 1) := dk_29 (dk_at dksX9_ranked_2 3 rfl rfl)
theorem dX9_ranked_49 : decode cX9_ranked 49 = .ok (.aload_n 0, 1) := dk_42 (dk_at dksX9_ranked_2 4 rfl rfl)
theorem dX9_ranked_50 : decode cX9_ranked 50 = .ok (.iload 4, 2) := dk_21 4 (dk_at dksX9_ranked_2 5 rfl rfl)
theorem dX9_ranked_52 : decode cX9_ranked 52 = .ok (.invokevirtual 88, 3) := dk_182 0 88 (dk_at dksX9_ranked_2 7 rfl rfl)
theorem dX9_ranked_55 : decode cX9_ranked 55 = .ok (.ifCond .eq 17, 3) := dk_153 0 17 (dk_at dksX9_ranked_2 10 rfl rfl)
theorem dX9_ranked_58 : decode cX9_ranked 58 = .ok (.aload_n 0, 1) := dk_42 (dk_at dksX9_ranked_2 13 rfl rfl)
theorem dX9_ranked_59 : decode cX9_ranked 59 = .ok (.iload 4, 2) := dk_21 4 (dk_at dksX9_ranked_2 14 rfl rfl)
theorem dX9_ranked_61 : decode cX9_ranked 61 = .ok (.iload_n 2, 1) := dk_28 (dk_at dksX9_ranked_2 16 rfl rfl)
theorem dX9_ranked_62 : decode cX9_ranked 62 = .ok (.invokevirtual 223, 3) := dk_182 0 223 (dk_at dksX9_ranked_2 17 rfl rfl)
theorem dX9_ranked_65 : decode cX9_ranked 65 = .ok (.ifCond .eq 7, 3) := dk_153 0 7 (dk_at dksX9_ranked_2 20 rfl rfl)
theorem dX9_ranked_68 : decode cX9_ranked 68 = .ok (.iconst 1, 1) := dk_4 (dk_at dksX9_ranked_2 23 rfl rfl)
theorem dX9_ranked_69 : decode cX9_ranked 69 = .ok (.goto 4, 3) := dk_167 0 4 (dk_at dksX9_ranked_3 0 rfl rfl)
theorem dX9_ranked_72 : decode cX9_ranked 72 = .ok (.iconst 0, 1) := dk_3 (dk_at dksX9_ranked_3 3 rfl rfl)
theorem dX9_ranked_73 : decode cX9_ranked 73 = .ok (.iadd, 1) := dk_96 (dk_at dksX9_ranked_3 4 rfl rfl)
theorem dX9_ranked_74 : decode cX9_ranked 74 = .ok (.istore_n 3, 1) := dk_62 (dk_at dksX9_ranked_3 5 rfl rfl)
theorem dX9_ranked_75 : decode cX9_ranked 75 = .ok (.iinc 4 1, 3) := dk_132 4 1 (dk_at dksX9_ranked_3 6 rfl rfl)
theorem dX9_ranked_78 : decode cX9_ranked 78 = .ok (.goto (-41), 3) := dk_167 255 215 (dk_at dksX9_ranked_3 9 rfl rfl)
theorem dX9_ranked_81 : decode cX9_ranked 81 = .ok (.iload_n 3, 1) := dk_29 (dk_at dksX9_ranked_3 12 rfl rfl)
theorem dX9_ranked_82 : decode cX9_ranked 82 = .ok (.iload_n 1, 1) := dk_27 (dk_at dksX9_ranked_3 13 rfl rfl)
theorem dX9_ranked_83 : decode cX9_ranked 83 = .ok (.if_icmp .ne 5, 3) := dk_160 0 5 (dk_at dksX9_ranked_3 14 rfl rfl)
theorem dX9_ranked_86 : decode cX9_ranked 86 = .ok (.iload_n 2, 1) := dk_28 (dk_at dksX9_ranked_3 17 rfl rfl)
theorem dX9_ranked_87 : decode cX9_ranked 87 = .ok (.ireturn, 1) := dk_172 (dk_at dksX9_ranked_3 18 rfl rfl)
theorem dX9_ranked_88 : decode cX9_ranked 88 = .ok (.iinc 2 1, 3) := dk_132 2 1 (dk_at dksX9_ranked_3 19 rfl rfl)
theorem dX9_ranked_91 : decode cX9_ranked 91 = .ok (.goto (-80), 3) := dk_167 255 176 (dk_at dksX9_ranked_4 0 rfl rfl)
theorem dX9_ranked_94 : decode cX9_ranked 94 = .ok (.aload_n 0, 1) := dk_42 (dk_at dksX9_ranked_4 3 rfl rfl)
theorem dX9_ranked_95 : decode cX9_ranked 95 = .ok (.iconst 1, 1) := dk_4 (dk_at dksX9_ranked_4 4 rfl rfl)
theorem dX9_ranked_96 : decode cX9_ranked 96 = .ok (.invokevirtual 58, 3) := dk_182 0 58 (dk_at dksX9_ranked_4 5 rfl rfl)
theorem dX9_ranked_99 : decode cX9_ranked 99 = .ok (.ireturn, 1) := dk_172 (dk_at dksX9_ranked_4 8 rfl rfl)
abbrev cX9_isAhead : ByteArray := prog_13_method_76_code
def yX9_isAhead : MethodName := ⟨RX9, "isAhead", "(II)Z"⟩
def dkwX9_isAhead_3 : List UInt8 := [27, 28, 162, 0, 7, 4, 167, 0, 4, 3, 172]
abbrev dktX9_isAhead_3 : List UInt8 := dkwX9_isAhead_3 ++ []
def dkwX9_isAhead_2 : List UInt8 := [159, 0, 24, 42, 27, 182, 0, 99, 42, 28, 182, 0, 99, 162, 0, 7, 4, 167, 0, 17, 3, 167, 0, 13]
abbrev dktX9_isAhead_2 : List UInt8 := dkwX9_isAhead_2 ++ dktX9_isAhead_3
def dkwX9_isAhead_1 : List UInt8 := [180, 0, 28, 28, 46, 164, 0, 7, 4, 167, 0, 4, 3, 172, 42, 27, 182, 0, 99, 42, 28, 182, 0, 99]
abbrev dktX9_isAhead_1 : List UInt8 := dkwX9_isAhead_1 ++ dktX9_isAhead_2
def dkwX9_isAhead_0 : List UInt8 := [42, 180, 0, 28, 27, 46, 42, 180, 0, 28, 28, 46, 159, 0, 24, 42, 180, 0, 28, 27, 46, 42]
abbrev dktX9_isAhead_0 : List UInt8 := dkwX9_isAhead_0 ++ dktX9_isAhead_1
theorem dksX9_isAhead_0 : cX9_isAhead.data.toList.drop 0 = dktX9_isAhead_0 := by decide +kernel
theorem dksX9_isAhead_1 : cX9_isAhead.data.toList.drop 22 = dktX9_isAhead_1 := dk_seg dksX9_isAhead_0 22 rfl rfl
theorem dksX9_isAhead_2 : cX9_isAhead.data.toList.drop 46 = dktX9_isAhead_2 := dk_seg dksX9_isAhead_1 24 rfl rfl
theorem dksX9_isAhead_3 : cX9_isAhead.data.toList.drop 70 = dktX9_isAhead_3 := dk_seg dksX9_isAhead_2 24 rfl rfl
theorem dX9_isAhead_0 : decode cX9_isAhead 0 = .ok (.aload_n 0, 1) := dk_42 (dk_at dksX9_isAhead_0 0 rfl rfl)
theorem dX9_isAhead_1 : decode cX9_isAhead 1 = .ok (.getfield 28, 3) := dk_180 0 28 (dk_at dksX9_isAhead_0 1 rfl rfl)
theorem dX9_isAhead_4 : decode cX9_isAhead 4 = .ok (.iload_n 1, 1) := dk_27 (dk_at dksX9_isAhead_0 4 rfl rfl)
theorem dX9_isAhead_5 : decode cX9_isAhead 5 = .ok (.iaload, 1) := dk_46 (dk_at dksX9_isAhead_0 5 rfl rfl)
theorem dX9_isAhead_6 : decode cX9_isAhead 6 = .ok (.aload_n 0, 1) := dk_42 (dk_at dksX9_isAhead_0 6 rfl rfl)
theorem dX9_isAhead_7 : decode cX9_isAhead 7 = .ok (.getfield 28, 3) := dk_180 0 28 (dk_at dksX9_isAhead_0 7 rfl rfl)
theorem dX9_isAhead_10 : decode cX9_isAhead 10 = .ok (.iload_n 2, 1) := dk_28 (dk_at dksX9_isAhead_0 10 rfl rfl)
theorem dX9_isAhead_11 : decode cX9_isAhead 11 = .ok (.iaload, 1) := dk_46 (dk_at dksX9_isAhead_0 11 rfl rfl)
theorem dX9_isAhead_12 : decode cX9_isAhead 12 = .ok (.if_icmp .eq 24, 3) := dk_159 0 24 (dk_at dksX9_isAhead_0 12 rfl rfl)
theorem dX9_isAhead_15 : decode cX9_isAhead 15 = .ok (.aload_n 0, 1) := dk_42 (dk_at dksX9_isAhead_0 15 rfl rfl)
theorem dX9_isAhead_16 : decode cX9_isAhead 16 = .ok (.getfield 28, 3) := dk_180 0 28 (dk_at dksX9_isAhead_0 16 rfl rfl)
theorem dX9_isAhead_19 : decode cX9_isAhead 19 = .ok (.iload_n 1, 1) := dk_27 (dk_at dksX9_isAhead_0 19 rfl rfl)
theorem dX9_isAhead_20 : decode cX9_isAhead 20 = .ok (.iaload, 1) := dk_46 (dk_at dksX9_isAhead_0 20 rfl rfl)
theorem dX9_isAhead_21 : decode cX9_isAhead 21 = .ok (.aload_n 0, 1) := dk_42 (dk_at dksX9_isAhead_0 21 rfl rfl)
theorem dX9_isAhead_22 : decode cX9_isAhead 22 = .ok (.getfield 28, 3) := dk_180 0 28 (dk_at dksX9_isAhead_1 0 rfl rfl)
theorem dX9_isAhead_25 : decode cX9_isAhead 25 = .ok (.iload_n 2, 1) := dk_28 (dk_at dksX9_isAhead_1 3 rfl rfl)
theorem dX9_isAhead_26 : decode cX9_isAhead 26 = .ok (.iaload, 1) := dk_46 (dk_at dksX9_isAhead_1 4 rfl rfl)
theorem dX9_isAhead_27 : decode cX9_isAhead 27 = .ok (.if_icmp .le 7, 3) := dk_164 0 7 (dk_at dksX9_isAhead_1 5 rfl rfl)
theorem dX9_isAhead_30 : decode cX9_isAhead 30 = .ok (.iconst 1, 1) := dk_4 (dk_at dksX9_isAhead_1 8 rfl rfl)
theorem dX9_isAhead_31 : decode cX9_isAhead 31 = .ok (.goto 4, 3) := dk_167 0 4 (dk_at dksX9_isAhead_1 9 rfl rfl)
theorem dX9_isAhead_34 : decode cX9_isAhead 34 = .ok (.iconst 0, 1) := dk_3 (dk_at dksX9_isAhead_1 12 rfl rfl)
theorem dX9_isAhead_35 : decode cX9_isAhead 35 = .ok (.ireturn, 1) := dk_172 (dk_at dksX9_isAhead_1 13 rfl rfl)
theorem dX9_isAhead_36 : decode cX9_isAhead 36 = .ok (.aload_n 0, 1) := dk_42 (dk_at dksX9_isAhead_1 14 rfl rfl)
theorem dX9_isAhead_37 : decode cX9_isAhead 37 = .ok (.iload_n 1, 1) := dk_27 (dk_at dksX9_isAhead_1 15 rfl rfl)
theorem dX9_isAhead_38 : decode cX9_isAhead 38 = .ok (.invokevirtual 99, 3) := dk_182 0 99 (dk_at dksX9_isAhead_1 16 rfl rfl)
theorem dX9_isAhead_41 : decode cX9_isAhead 41 = .ok (.aload_n 0, 1) := dk_42 (dk_at dksX9_isAhead_1 19 rfl rfl)
theorem dX9_isAhead_42 : decode cX9_isAhead 42 = .ok (.iload_n 2, 1) := dk_28 (dk_at dksX9_isAhead_1 20 rfl rfl)
theorem dX9_isAhead_43 : decode cX9_isAhead 43 = .ok (.invokevirtual 99, 3) := dk_182 0 99 (dk_at dksX9_isAhead_1 21 rfl rfl)
theorem dX9_isAhead_46 : decode cX9_isAhead 46 = .ok (.if_icmp .eq 24, 3) := dk_159 0 24 (dk_at dksX9_isAhead_2 0 rfl rfl)
theorem dX9_isAhead_49 : decode cX9_isAhead 49 = .ok (.aload_n 0, 1) := dk_42 (dk_at dksX9_isAhead_2 3 rfl rfl)
theorem dX9_isAhead_50 : decode cX9_isAhead 50 = .ok (.iload_n 1, 1) := dk_27 (dk_at dksX9_isAhead_2 4 rfl rfl)
theorem dX9_isAhead_51 : decode cX9_isAhead 51 = .ok (.invokevirtual 99, 3) := dk_182 0 99 (dk_at dksX9_isAhead_2 5 rfl rfl)
theorem dX9_isAhead_54 : decode cX9_isAhead 54 = .ok (.aload_n 0, 1) := dk_42 (dk_at dksX9_isAhead_2 8 rfl rfl)
theorem dX9_isAhead_55 : decode cX9_isAhead 55 = .ok (.iload_n 2, 1) := dk_28 (dk_at dksX9_isAhead_2 9 rfl rfl)
theorem dX9_isAhead_56 : decode cX9_isAhead 56 = .ok (.invokevirtual 99, 3) := dk_182 0 99 (dk_at dksX9_isAhead_2 10 rfl rfl)
theorem dX9_isAhead_59 : decode cX9_isAhead 59 = .ok (.if_icmp .ge 7, 3) := dk_162 0 7 (dk_at dksX9_isAhead_2 13 rfl rfl)
theorem dX9_isAhead_62 : decode cX9_isAhead 62 = .ok (.iconst 1, 1) := dk_4 (dk_at dksX9_isAhead_2 16 rfl rfl)
theorem dX9_isAhead_63 : decode cX9_isAhead 63 = .ok (.goto 17, 3) := dk_167 0 17 (dk_at dksX9_isAhead_2 17 rfl rfl)
theorem dX9_isAhead_66 : decode cX9_isAhead 66 = .ok (.iconst 0, 1) := dk_3 (dk_at dksX9_isAhead_2 20 rfl rfl)
theorem dX9_isAhead_67 : decode cX9_isAhead 67 = .ok (.goto 13, 3) := dk_167 0 13 (dk_at dksX9_isAhead_2 21 rfl rfl)
theorem dX9_isAhead_70 : decode cX9_isAhead 70 = .ok (.iload_n 1, 1) := dk_27 (dk_at dksX9_isAhead_3 0 rfl rfl)
theorem dX9_isAhead_71 : decode cX9_isAhead 71 = .ok (.iload_n 2, 1) := dk_28 (dk_at dksX9_isAhead_3 1 rfl rfl)
theorem dX9_isAhead_72 : decode cX9_isAhead 72 = .ok (.if_icmp .ge 7, 3) := dk_162 0 7 (dk_at dksX9_isAhead_3 2 rfl rfl)
theorem dX9_isAhead_75 : decode cX9_isAhead 75 = .ok (.iconst 1, 1) := dk_4 (dk_at dksX9_isAhead_3 5 rfl rfl)
theorem dX9_isAhead_76 : decode cX9_isAhead 76 = .ok (.goto 4, 3) := dk_167 0 4 (dk_at dksX9_isAhead_3 6 rfl rfl)
theorem dX9_isAhead_79 : decode cX9_isAhead 79 = .ok (.iconst 0, 1) := dk_3 (dk_at dksX9_isAhead_3 9 rfl rfl)
theorem dX9_isAhead_80 : decode cX9_isAhead 80 = .ok (.ireturn, 1) := dk_172 (dk_at dksX9_isAhead_3 10 rfl rfl)
abbrev cX9_unfairness : ByteArray := prog_13_method_78_code
def yX9_unfairness : MethodName := ⟨RX9, "unfairness", "()I"⟩
def dkwX9_unfairness_3 : List UInt8 := [42, 182, 0, 220, 27, 100, 172]
abbrev dktX9_unfairness_3 : List UInt8 := dkwX9_unfairness_3 ++ []
def dkwX9_unfairness_2 : List UInt8 := [182, 0, 114, 27, 161, 0, 6, 167, 0, 11, 42, 29, 182, 0, 114, 60, 4, 61, 132, 3, 1, 167, 255, 211]
abbrev dktX9_unfairness_2 : List UInt8 := dkwX9_unfairness_2 ++ dktX9_unfairness_3
def dkwX9_unfairness_1 : List UInt8 := [29, 42, 180, 0, 16, 3, 46, 162, 0, 41, 42, 29, 182, 0, 88, 153, 0, 27, 28, 153, 0, 15, 42, 29]
abbrev dktX9_unfairness_1 : List UInt8 := dkwX9_unfairness_1 ++ dktX9_unfairness_2
def dkwX9_unfairness_0 : List UInt8 := [42, 3, 181, 0, 45, 42, 182, 0, 168, 154, 0, 9, 42, 4, 182, 0, 58, 172, 3, 60, 3, 61, 3, 62]
abbrev dktX9_unfairness_0 : List UInt8 := dkwX9_unfairness_0 ++ dktX9_unfairness_1
theorem dksX9_unfairness_0 : cX9_unfairness.data.toList.drop 0 = dktX9_unfairness_0 := by decide +kernel
theorem dksX9_unfairness_1 : cX9_unfairness.data.toList.drop 24 = dktX9_unfairness_1 := dk_seg dksX9_unfairness_0 24 rfl rfl
theorem dksX9_unfairness_2 : cX9_unfairness.data.toList.drop 48 = dktX9_unfairness_2 := dk_seg dksX9_unfairness_1 24 rfl rfl
theorem dksX9_unfairness_3 : cX9_unfairness.data.toList.drop 72 = dktX9_unfairness_3 := dk_seg dksX9_unfairness_2 24 rfl rfl
theorem dX9_unfairness_0 : decode cX9_unfairness 0 = .ok (.aload_n 0, 1) := dk_42 (dk_at dksX9_unfairness_0 0 rfl rfl)
theorem dX9_unfairness_1 : decode cX9_unfairness 1 = .ok (.iconst 0, 1) := dk_3 (dk_at dksX9_unfairness_0 1 rfl rfl)
theorem dX9_unfairness_2 : decode cX9_unfairness 2 = .ok (.putfield 45, 3) := dk_181 0 45 (dk_at dksX9_unfairness_0 2 rfl rfl)
theorem dX9_unfairness_5 : decode cX9_unfairness 5 = .ok (.aload_n 0, 1) := dk_42 (dk_at dksX9_unfairness_0 5 rfl rfl)
theorem dX9_unfairness_6 : decode cX9_unfairness 6 = .ok (.invokevirtual 168, 3) := dk_182 0 168 (dk_at dksX9_unfairness_0 6 rfl rfl)
theorem dX9_unfairness_9 : decode cX9_unfairness 9 = .ok (.ifCond .ne 9, 3) := dk_154 0 9 (dk_at dksX9_unfairness_0 9 rfl rfl)
theorem dX9_unfairness_12 : decode cX9_unfairness 12 = .ok (.aload_n 0, 1) := dk_42 (dk_at dksX9_unfairness_0 12 rfl rfl)
theorem dX9_unfairness_13 : decode cX9_unfairness 13 = .ok (.iconst 1, 1) := dk_4 (dk_at dksX9_unfairness_0 13 rfl rfl)
theorem dX9_unfairness_14 : decode cX9_unfairness 14 = .ok (.invokevirtual 58, 3) := dk_182 0 58 (dk_at dksX9_unfairness_0 14 rfl rfl)
theorem dX9_unfairness_17 : decode cX9_unfairness 17 = .ok (.ireturn, 1) := dk_172 (dk_at dksX9_unfairness_0 17 rfl rfl)
theorem dX9_unfairness_18 : decode cX9_unfairness 18 = .ok (.iconst 0, 1) := dk_3 (dk_at dksX9_unfairness_0 18 rfl rfl)
theorem dX9_unfairness_19 : decode cX9_unfairness 19 = .ok (.istore_n 1, 1) := dk_60 (dk_at dksX9_unfairness_0 19 rfl rfl)
theorem dX9_unfairness_20 : decode cX9_unfairness 20 = .ok (.iconst 0, 1) := dk_3 (dk_at dksX9_unfairness_0 20 rfl rfl)
theorem dX9_unfairness_21 : decode cX9_unfairness 21 = .ok (.istore_n 2, 1) := dk_61 (dk_at dksX9_unfairness_0 21 rfl rfl)
theorem dX9_unfairness_22 : decode cX9_unfairness 22 = .ok (.iconst 0, 1) := dk_3 (dk_at dksX9_unfairness_0 22 rfl rfl)
theorem dX9_unfairness_23 : decode cX9_unfairness 23 = .ok (.istore_n 3, 1) := dk_62 (dk_at dksX9_unfairness_0 23 rfl rfl)
theorem dX9_unfairness_24 : decode cX9_unfairness 24 = .ok (.iload_n 3, 1) := dk_29 (dk_at dksX9_unfairness_1 0 rfl rfl)
theorem dX9_unfairness_25 : decode cX9_unfairness 25 = .ok (.aload_n 0, 1) := dk_42 (dk_at dksX9_unfairness_1 1 rfl rfl)
theorem dX9_unfairness_26 : decode cX9_unfairness 26 = .ok (.getfield 16, 3) := dk_180 0 16 (dk_at dksX9_unfairness_1 2 rfl rfl)
theorem dX9_unfairness_29 : decode cX9_unfairness 29 = .ok (.iconst 0, 1) := dk_3 (dk_at dksX9_unfairness_1 5 rfl rfl)
theorem dX9_unfairness_30 : decode cX9_unfairness 30 = .ok (.iaload, 1) := dk_46 (dk_at dksX9_unfairness_1 6 rfl rfl)
theorem dX9_unfairness_31 : decode cX9_unfairness 31 = .ok (.if_icmp .ge 41, 3) := dk_162 0 41 (dk_at dksX9_unfairness_1 7 rfl rfl)
theorem dX9_unfairness_34 : decode cX9_unfairness 34 = .ok (.aload_n 0, 1) := dk_42 (dk_at dksX9_unfairness_1 10 rfl rfl)
theorem dX9_unfairness_35 : decode cX9_unfairness 35 = .ok (.iload_n 3, 1) := dk_29 (dk_at dksX9_unfairness_1 11 rfl rfl)
theorem dX9_unfairness_36 : decode cX9_unfairness 36 = .ok (.invokevirtual 88, 3) := dk_182 0 88 (dk_at dksX9_unfairness_1 12 rfl rfl)
theorem dX9_unfairness_39 : decode cX9_unfairness 39 = .ok (.ifCond .eq 27, 3) := dk_153 0 27 (dk_at dksX9_unfairness_1 15 rfl rfl)
theorem dX9_unfairness_42 : decode cX9_unfairness 42 = .ok (.iload_n 2, 1) := dk_28 (dk_at dksX9_unfairness_1 18 rfl rfl)
theorem dX9_unfairness_43 : decode cX9_unfairness 43 = .ok (.ifCond .eq 15, 3) := dk_153 0 15 (dk_at dksX9_unfairness_1 19 rfl rfl)
theorem dX9_unfairness_46 : decode cX9_unfairness 46 = .ok (.aload_n 0, 1) := dk_42 (dk_at dksX9_unfairness_1 22 rfl rfl)
theorem dX9_unfairness_47 : decode cX9_unfairness 47 = .ok (.iload_n 3, 1) := dk_29 (dk_at dksX9_unfairness_1 23 rfl rfl)
theorem dX9_unfairness_48 : decode cX9_unfairness 48 = .ok (.invokevirtual 114, 3) := dk_182 0 114 (dk_at dksX9_unfairness_2 0 rfl rfl)
theorem dX9_unfairness_51 : decode cX9_unfairness 51 = .ok (.iload_n 1, 1) := dk_27 (dk_at dksX9_unfairness_2 3 rfl rfl)
theorem dX9_unfairness_52 : decode cX9_unfairness 52 = .ok (.if_icmp .lt 6, 3) := dk_161 0 6 (dk_at dksX9_unfairness_2 4 rfl rfl)
theorem dX9_unfairness_55 : decode cX9_unfairness 55 = .ok (.goto 11, 3) := dk_167 0 11 (dk_at dksX9_unfairness_2 7 rfl rfl)
theorem dX9_unfairness_58 : decode cX9_unfairness 58 = .ok (.aload_n 0, 1) := dk_42 (dk_at dksX9_unfairness_2 10 rfl rfl)
theorem dX9_unfairness_59 : decode cX9_unfairness 59 = .ok (.iload_n 3, 1) := dk_29 (dk_at dksX9_unfairness_2 11 rfl rfl)
theorem dX9_unfairness_60 : decode cX9_unfairness 60 = .ok (.invokevirtual 114, 3) := dk_182 0 114 (dk_at dksX9_unfairness_2 12 rfl rfl)
theorem dX9_unfairness_63 : decode cX9_unfairness 63 = .ok (.istore_n 1, 1) := dk_60 (dk_at dksX9_unfairness_2 15 rfl rfl)
theorem dX9_unfairness_64 : decode cX9_unfairness 64 = .ok (.iconst 1, 1) := dk_4 (dk_at dksX9_unfairness_2 16 rfl rfl)
theorem dX9_unfairness_65 : decode cX9_unfairness 65 = .ok (.istore_n 2, 1) := dk_61 (dk_at dksX9_unfairness_2 17 rfl rfl)
theorem dX9_unfairness_66 : decode cX9_unfairness 66 = .ok (.iinc 3 1, 3) := dk_132 3 1 (dk_at dksX9_unfairness_2 18 rfl rfl)
theorem dX9_unfairness_69 : decode cX9_unfairness 69 = .ok (.goto (-45), 3) := dk_167 255 211 (dk_at dksX9_unfairness_2 21 rfl rfl)
theorem dX9_unfairness_72 : decode cX9_unfairness 72 = .ok (.aload_n 0, 1) := dk_42 (dk_at dksX9_unfairness_3 0 rfl rfl)
theorem dX9_unfairness_73 : decode cX9_unfairness 73 = .ok (.invokevirtual 220, 3) := dk_182 0 220 (dk_at dksX9_unfairness_3 1 rfl rfl)
theorem dX9_unfairness_76 : decode cX9_unfairness 76 = .ok (.iload_n 1, 1) := dk_27 (dk_at dksX9_unfairness_3 4 rfl rfl)
theorem dX9_unfairness_77 : decode cX9_unfairness 77 = .ok (.isub, 1) := dk_100 (dk_at dksX9_unfairness_3 5 rfl rfl)
theorem dX9_unfairness_78 : decode cX9_unfairness 78 = .ok (.ireturn, 1) := dk_172 (dk_at dksX9_unfairness_3 6 rfl rfl)
abbrev cX9_isOwn : ByteArray := prog_13_method_79_code
def yX9_isOwn : MethodName := ⟨RX9, "isOwn", "(I)Z"⟩
def dkwX9_isOwn_3 : List UInt8 := [172]
abbrev dktX9_isOwn_3 : List UInt8 := dkwX9_isOwn_3 ++ []
def dkwX9_isOwn_2 : List UInt8 := [182, 0, 68, 42, 27, 4, 182, 0, 175, 62, 42, 182, 0, 217, 29, 28, 160, 0, 7, 4, 167, 0, 4, 3]
abbrev dktX9_isOwn_2 : List UInt8 := dkwX9_isOwn_2 ++ dktX9_isOwn_3
def dkwX9_isOwn_1 : List UInt8 := [167, 0, 4, 3, 172, 42, 27, 182, 0, 88, 154, 0, 5, 4, 172, 42, 27, 182, 0, 202, 61, 42]
abbrev dktX9_isOwn_1 : List UInt8 := dkwX9_isOwn_1 ++ dktX9_isOwn_2
def dkwX9_isOwn_0 : List UInt8 := [42, 3, 181, 0, 45, 42, 27, 182, 0, 130, 154, 0, 17, 42, 4, 182, 0, 58, 158, 0, 7, 4]
abbrev dktX9_isOwn_0 : List UInt8 := dkwX9_isOwn_0 ++ dktX9_isOwn_1
theorem dksX9_isOwn_0 : cX9_isOwn.data.toList.drop 0 = dktX9_isOwn_0 := by decide +kernel
theorem dksX9_isOwn_1 : cX9_isOwn.data.toList.drop 22 = dktX9_isOwn_1 := dk_seg dksX9_isOwn_0 22 rfl rfl
theorem dksX9_isOwn_2 : cX9_isOwn.data.toList.drop 44 = dktX9_isOwn_2 := dk_seg dksX9_isOwn_1 22 rfl rfl
theorem dksX9_isOwn_3 : cX9_isOwn.data.toList.drop 68 = dktX9_isOwn_3 := dk_seg dksX9_isOwn_2 24 rfl rfl
theorem dX9_isOwn_0 : decode cX9_isOwn 0 = .ok (.aload_n 0, 1) := dk_42 (dk_at dksX9_isOwn_0 0 rfl rfl)
theorem dX9_isOwn_1 : decode cX9_isOwn 1 = .ok (.iconst 0, 1) := dk_3 (dk_at dksX9_isOwn_0 1 rfl rfl)
theorem dX9_isOwn_2 : decode cX9_isOwn 2 = .ok (.putfield 45, 3) := dk_181 0 45 (dk_at dksX9_isOwn_0 2 rfl rfl)
theorem dX9_isOwn_5 : decode cX9_isOwn 5 = .ok (.aload_n 0, 1) := dk_42 (dk_at dksX9_isOwn_0 5 rfl rfl)
theorem dX9_isOwn_6 : decode cX9_isOwn 6 = .ok (.iload_n 1, 1) := dk_27 (dk_at dksX9_isOwn_0 6 rfl rfl)
theorem dX9_isOwn_7 : decode cX9_isOwn 7 = .ok (.invokevirtual 130, 3) := dk_182 0 130 (dk_at dksX9_isOwn_0 7 rfl rfl)
theorem dX9_isOwn_10 : decode cX9_isOwn 10 = .ok (.ifCond .ne 17, 3) := dk_154 0 17 (dk_at dksX9_isOwn_0 10 rfl rfl)
theorem dX9_isOwn_13 : decode cX9_isOwn 13 = .ok (.aload_n 0, 1) := dk_42 (dk_at dksX9_isOwn_0 13 rfl rfl)
theorem dX9_isOwn_14 : decode cX9_isOwn 14 = .ok (.iconst 1, 1) := dk_4 (dk_at dksX9_isOwn_0 14 rfl rfl)
theorem dX9_isOwn_15 : decode cX9_isOwn 15 = .ok (.invokevirtual 58, 3) := dk_182 0 58 (dk_at dksX9_isOwn_0 15 rfl rfl)
theorem dX9_isOwn_18 : decode cX9_isOwn 18 = .ok (.ifCond .le 7, 3) := dk_158 0 7 (dk_at dksX9_isOwn_0 18 rfl rfl)
theorem dX9_isOwn_21 : decode cX9_isOwn 21 = .ok (.iconst 1, 1) := dk_4 (dk_at dksX9_isOwn_0 21 rfl rfl)
theorem dX9_isOwn_22 : decode cX9_isOwn 22 = .ok (.goto 4, 3) := dk_167 0 4 (dk_at dksX9_isOwn_1 0 rfl rfl)
theorem dX9_isOwn_25 : decode cX9_isOwn 25 = .ok (.iconst 0, 1) := dk_3 (dk_at dksX9_isOwn_1 3 rfl rfl)
theorem dX9_isOwn_26 : decode cX9_isOwn 26 = .ok (.ireturn, 1) := dk_172 (dk_at dksX9_isOwn_1 4 rfl rfl)
theorem dX9_isOwn_27 : decode cX9_isOwn 27 = .ok (.aload_n 0, 1) := dk_42 (dk_at dksX9_isOwn_1 5 rfl rfl)
theorem dX9_isOwn_28 : decode cX9_isOwn 28 = .ok (.iload_n 1, 1) := dk_27 (dk_at dksX9_isOwn_1 6 rfl rfl)
theorem dX9_isOwn_29 : decode cX9_isOwn 29 = .ok (.invokevirtual 88, 3) := dk_182 0 88 (dk_at dksX9_isOwn_1 7 rfl rfl)
theorem dX9_isOwn_32 : decode cX9_isOwn 32 = .ok (.ifCond .ne 5, 3) := dk_154 0 5 (dk_at dksX9_isOwn_1 10 rfl rfl)
theorem dX9_isOwn_35 : decode cX9_isOwn 35 = .ok (.iconst 1, 1) := dk_4 (dk_at dksX9_isOwn_1 13 rfl rfl)
theorem dX9_isOwn_36 : decode cX9_isOwn 36 = .ok (.ireturn, 1) := dk_172 (dk_at dksX9_isOwn_1 14 rfl rfl)
theorem dX9_isOwn_37 : decode cX9_isOwn 37 = .ok (.aload_n 0, 1) := dk_42 (dk_at dksX9_isOwn_1 15 rfl rfl)
theorem dX9_isOwn_38 : decode cX9_isOwn 38 = .ok (.iload_n 1, 1) := dk_27 (dk_at dksX9_isOwn_1 16 rfl rfl)
theorem dX9_isOwn_39 : decode cX9_isOwn 39 = .ok (.invokevirtual 202, 3) := dk_182 0 202 (dk_at dksX9_isOwn_1 17 rfl rfl)
theorem dX9_isOwn_42 : decode cX9_isOwn 42 = .ok (.istore_n 2, 1) := dk_61 (dk_at dksX9_isOwn_1 20 rfl rfl)
theorem dX9_isOwn_43 : decode cX9_isOwn 43 = .ok (.aload_n 0, 1) := dk_42 (dk_at dksX9_isOwn_1 21 rfl rfl)
theorem dX9_isOwn_44 : decode cX9_isOwn 44 = .ok (.invokevirtual 68, 3) := dk_182 0 68 (dk_at dksX9_isOwn_2 0 rfl rfl)
theorem dX9_isOwn_47 : decode cX9_isOwn 47 = .ok (.aload_n 0, 1) := dk_42 (dk_at dksX9_isOwn_2 3 rfl rfl)
theorem dX9_isOwn_48 : decode cX9_isOwn 48 = .ok (.iload_n 1, 1) := dk_27 (dk_at dksX9_isOwn_2 4 rfl rfl)
theorem dX9_isOwn_49 : decode cX9_isOwn 49 = .ok (.iconst 1, 1) := dk_4 (dk_at dksX9_isOwn_2 5 rfl rfl)
theorem dX9_isOwn_50 : decode cX9_isOwn 50 = .ok (.invokevirtual 175, 3) := dk_182 0 175 (dk_at dksX9_isOwn_2 6 rfl rfl)
theorem dX9_isOwn_53 : decode cX9_isOwn 53 = .ok (.istore_n 3, 1) := dk_62 (dk_at dksX9_isOwn_2 9 rfl rfl)
theorem dX9_isOwn_54 : decode cX9_isOwn 54 = .ok (.aload_n 0, 1) := dk_42 (dk_at dksX9_isOwn_2 10 rfl rfl)
theorem dX9_isOwn_55 : decode cX9_isOwn 55 = .ok (.invokevirtual 217, 3) := dk_182 0 217 (dk_at dksX9_isOwn_2 11 rfl rfl)
theorem dX9_isOwn_58 : decode cX9_isOwn 58 = .ok (.iload_n 3, 1) := dk_29 (dk_at dksX9_isOwn_2 14 rfl rfl)
theorem dX9_isOwn_59 : decode cX9_isOwn 59 = .ok (.iload_n 2, 1) := dk_28 (dk_at dksX9_isOwn_2 15 rfl rfl)
theorem dX9_isOwn_60 : decode cX9_isOwn 60 = .ok (.if_icmp .ne 7, 3) := dk_160 0 7 (dk_at dksX9_isOwn_2 16 rfl rfl)
theorem dX9_isOwn_63 : decode cX9_isOwn 63 = .ok (.iconst 1, 1) := dk_4 (dk_at dksX9_isOwn_2 19 rfl rfl)
theorem dX9_isOwn_64 : decode cX9_isOwn 64 = .ok (.goto 4, 3) := dk_167 0 4 (dk_at dksX9_isOwn_2 20 rfl rfl)
theorem dX9_isOwn_67 : decode cX9_isOwn 67 = .ok (.iconst 0, 1) := dk_3 (dk_at dksX9_isOwn_2 23 rfl rfl)
theorem dX9_isOwn_68 : decode cX9_isOwn 68 = .ok (.ireturn, 1) := dk_172 (dk_at dksX9_isOwn_3 0 rfl rfl)
abbrev cX9_append : ByteArray := prog_13_method_80_code
def yX9_append : MethodName := ⟨RX9, "append", "(C)I"⟩
def dkwX9_append_2 : List UInt8 := [42, 89, 180, 0, 227, 4, 96, 181, 0, 227, 42, 180, 0, 227, 172]
abbrev dktX9_append_2 : List UInt8 := dkwX9_append_2 ++ []
def dkwX9_append_1 : List UInt8 := [180, 0, 227, 16, 60, 160, 0, 9, 42, 5, 182, 0, 58, 172, 42, 180, 0, 31, 42, 180, 0, 227, 27, 85]
abbrev dktX9_append_1 : List UInt8 := dkwX9_append_1 ++ dktX9_append_2
def dkwX9_append_0 : List UInt8 := [42, 3, 181, 0, 45, 27, 16, 32, 16, 126, 184, 0, 74, 154, 0, 9, 42, 4, 182, 0, 58, 172, 42]
abbrev dktX9_append_0 : List UInt8 := dkwX9_append_0 ++ dktX9_append_1
theorem dksX9_append_0 : cX9_append.data.toList.drop 0 = dktX9_append_0 := by decide +kernel
theorem dksX9_append_1 : cX9_append.data.toList.drop 23 = dktX9_append_1 := dk_seg dksX9_append_0 23 rfl rfl
theorem dksX9_append_2 : cX9_append.data.toList.drop 47 = dktX9_append_2 := dk_seg dksX9_append_1 24 rfl rfl
theorem dX9_append_0 : decode cX9_append 0 = .ok (.aload_n 0, 1) := dk_42 (dk_at dksX9_append_0 0 rfl rfl)
theorem dX9_append_1 : decode cX9_append 1 = .ok (.iconst 0, 1) := dk_3 (dk_at dksX9_append_0 1 rfl rfl)
theorem dX9_append_2 : decode cX9_append 2 = .ok (.putfield 45, 3) := dk_181 0 45 (dk_at dksX9_append_0 2 rfl rfl)
theorem dX9_append_5 : decode cX9_append 5 = .ok (.iload_n 1, 1) := dk_27 (dk_at dksX9_append_0 5 rfl rfl)
theorem dX9_append_6 : decode cX9_append 6 = .ok (.bipush 32, 2) := dk_16 32 (dk_at dksX9_append_0 6 rfl rfl)
theorem dX9_append_8 : decode cX9_append 8 = .ok (.bipush 126, 2) := dk_16 126 (dk_at dksX9_append_0 8 rfl rfl)
theorem dX9_append_10 : decode cX9_append 10 = .ok (.invokestatic 74, 3) := dk_184 0 74 (dk_at dksX9_append_0 10 rfl rfl)
theorem dX9_append_13 : decode cX9_append 13 = .ok (.ifCond .ne 9, 3) := dk_154 0 9 (dk_at dksX9_append_0 13 rfl rfl)
theorem dX9_append_16 : decode cX9_append 16 = .ok (.aload_n 0, 1) := dk_42 (dk_at dksX9_append_0 16 rfl rfl)
theorem dX9_append_17 : decode cX9_append 17 = .ok (.iconst 1, 1) := dk_4 (dk_at dksX9_append_0 17 rfl rfl)
theorem dX9_append_18 : decode cX9_append 18 = .ok (.invokevirtual 58, 3) := dk_182 0 58 (dk_at dksX9_append_0 18 rfl rfl)
theorem dX9_append_21 : decode cX9_append 21 = .ok (.ireturn, 1) := dk_172 (dk_at dksX9_append_0 21 rfl rfl)
theorem dX9_append_22 : decode cX9_append 22 = .ok (.aload_n 0, 1) := dk_42 (dk_at dksX9_append_0 22 rfl rfl)
theorem dX9_append_23 : decode cX9_append 23 = .ok (.getfield 227, 3) := dk_180 0 227 (dk_at dksX9_append_1 0 rfl rfl)
theorem dX9_append_26 : decode cX9_append 26 = .ok (.bipush 60, 2) := dk_16 60 (dk_at dksX9_append_1 3 rfl rfl)
theorem dX9_append_28 : decode cX9_append 28 = .ok (.if_icmp .ne 9, 3) := dk_160 0 9 (dk_at dksX9_append_1 5 rfl rfl)
theorem dX9_append_31 : decode cX9_append 31 = .ok (.aload_n 0, 1) := dk_42 (dk_at dksX9_append_1 8 rfl rfl)
theorem dX9_append_32 : decode cX9_append 32 = .ok (.iconst 2, 1) := dk_5 (dk_at dksX9_append_1 9 rfl rfl)
theorem dX9_append_33 : decode cX9_append 33 = .ok (.invokevirtual 58, 3) := dk_182 0 58 (dk_at dksX9_append_1 10 rfl rfl)
theorem dX9_append_36 : decode cX9_append 36 = .ok (.ireturn, 1) := dk_172 (dk_at dksX9_append_1 13 rfl rfl)
theorem dX9_append_37 : decode cX9_append 37 = .ok (.aload_n 0, 1) := dk_42 (dk_at dksX9_append_1 14 rfl rfl)
theorem dX9_append_38 : decode cX9_append 38 = .ok (.getfield 31, 3) := dk_180 0 31 (dk_at dksX9_append_1 15 rfl rfl)
theorem dX9_append_41 : decode cX9_append 41 = .ok (.aload_n 0, 1) := dk_42 (dk_at dksX9_append_1 18 rfl rfl)
theorem dX9_append_42 : decode cX9_append 42 = .ok (.getfield 227, 3) := dk_180 0 227 (dk_at dksX9_append_1 19 rfl rfl)
theorem dX9_append_45 : decode cX9_append 45 = .ok (.iload_n 1, 1) := dk_27 (dk_at dksX9_append_1 22 rfl rfl)
theorem dX9_append_46 : decode cX9_append 46 = .ok (.castore, 1) := dk_85 (dk_at dksX9_append_1 23 rfl rfl)
theorem dX9_append_47 : decode cX9_append 47 = .ok (.aload_n 0, 1) := dk_42 (dk_at dksX9_append_2 0 rfl rfl)
theorem dX9_append_48 : decode cX9_append 48 = .ok (.dup, 1) := dk_89 (dk_at dksX9_append_2 1 rfl rfl)
theorem dX9_append_49 : decode cX9_append 49 = .ok (.getfield 227, 3) := dk_180 0 227 (dk_at dksX9_append_2 2 rfl rfl)
theorem dX9_append_52 : decode cX9_append 52 = .ok (.iconst 1, 1) := dk_4 (dk_at dksX9_append_2 5 rfl rfl)
theorem dX9_append_53 : decode cX9_append 53 = .ok (.iadd, 1) := dk_96 (dk_at dksX9_append_2 6 rfl rfl)
theorem dX9_append_54 : decode cX9_append 54 = .ok (.putfield 227, 3) := dk_181 0 227 (dk_at dksX9_append_2 7 rfl rfl)
theorem dX9_append_57 : decode cX9_append 57 = .ok (.aload_n 0, 1) := dk_42 (dk_at dksX9_append_2 10 rfl rfl)
theorem dX9_append_58 : decode cX9_append 58 = .ok (.getfield 227, 3) := dk_180 0 227 (dk_at dksX9_append_2 11 rfl rfl)
theorem dX9_append_61 : decode cX9_append 61 = .ok (.ireturn, 1) := dk_172 (dk_at dksX9_append_2 14 rfl rfl)
abbrev cX9_script : ByteArray := prog_13_method_92_code
def yX9_script : MethodName := ⟨RX9, "script", "()I"⟩
def dkwX9_script_4 : List UInt8 := [182, 0, 54, 42, 5, 182, 0, 58, 172]
abbrev dktX9_script_4 : List UInt8 := dkwX9_script_4 ++ []
def dkwX9_script_3 : List UInt8 := [182, 0, 217, 42, 3, 16, 8, 42, 180, 1, 2, 182, 0, 54, 42, 4, 42, 180, 0, 48, 42, 180, 0, 51]
abbrev dktX9_script_3 : List UInt8 := dkwX9_script_3 ++ dktX9_script_4
def dkwX9_script_2 : List UInt8 := [182, 1, 14, 60, 42, 3, 181, 0, 227, 27, 153, 0, 12, 42, 182, 0, 71, 42, 180, 1, 2, 172, 42]
abbrev dktX9_script_2 : List UInt8 := dkwX9_script_2 ++ dktX9_script_3
def dkwX9_script_1 : List UInt8 := [181, 0, 227, 42, 4, 182, 0, 58, 172, 42, 182, 0, 68, 42, 180, 0, 16, 5, 92, 46, 4, 96, 79, 42]
abbrev dktX9_script_1 : List UInt8 := dkwX9_script_1 ++ dktX9_script_2
def dkwX9_script_0 : List UInt8 := [42, 3, 181, 0, 45, 42, 182, 1, 11, 154, 0, 22, 42, 42, 180, 0, 230, 181, 0, 35, 42, 3]
abbrev dktX9_script_0 : List UInt8 := dkwX9_script_0 ++ dktX9_script_1
theorem dksX9_script_0 : cX9_script.data.toList.drop 0 = dktX9_script_0 := by decide +kernel
theorem dksX9_script_1 : cX9_script.data.toList.drop 22 = dktX9_script_1 := dk_seg dksX9_script_0 22 rfl rfl
theorem dksX9_script_2 : cX9_script.data.toList.drop 46 = dktX9_script_2 := dk_seg dksX9_script_1 24 rfl rfl
theorem dksX9_script_3 : cX9_script.data.toList.drop 69 = dktX9_script_3 := dk_seg dksX9_script_2 23 rfl rfl
theorem dksX9_script_4 : cX9_script.data.toList.drop 93 = dktX9_script_4 := dk_seg dksX9_script_3 24 rfl rfl
theorem dX9_script_0 : decode cX9_script 0 = .ok (.aload_n 0, 1) := dk_42 (dk_at dksX9_script_0 0 rfl rfl)
theorem dX9_script_1 : decode cX9_script 1 = .ok (.iconst 0, 1) := dk_3 (dk_at dksX9_script_0 1 rfl rfl)
theorem dX9_script_2 : decode cX9_script 2 = .ok (.putfield 45, 3) := dk_181 0 45 (dk_at dksX9_script_0 2 rfl rfl)
theorem dX9_script_5 : decode cX9_script 5 = .ok (.aload_n 0, 1) := dk_42 (dk_at dksX9_script_0 5 rfl rfl)
theorem dX9_script_6 : decode cX9_script 6 = .ok (.invokevirtual 267, 3) := dk_182 1 11 (dk_at dksX9_script_0 6 rfl rfl)
theorem dX9_script_9 : decode cX9_script 9 = .ok (.ifCond .ne 22, 3) := dk_154 0 22 (dk_at dksX9_script_0 9 rfl rfl)
theorem dX9_script_12 : decode cX9_script 12 = .ok (.aload_n 0, 1) := dk_42 (dk_at dksX9_script_0 12 rfl rfl)
theorem dX9_script_13 : decode cX9_script 13 = .ok (.aload_n 0, 1) := dk_42 (dk_at dksX9_script_0 13 rfl rfl)
theorem dX9_script_14 : decode cX9_script 14 = .ok (.getfield 230, 3) := dk_180 0 230 (dk_at dksX9_script_0 14 rfl rfl)
theorem dX9_script_17 : decode cX9_script 17 = .ok (.putfield 35, 3) := dk_181 0 35 (dk_at dksX9_script_0 17 rfl rfl)
theorem dX9_script_20 : decode cX9_script 20 = .ok (.aload_n 0, 1) := dk_42 (dk_at dksX9_script_0 20 rfl rfl)
theorem dX9_script_21 : decode cX9_script 21 = .ok (.iconst 0, 1) := dk_3 (dk_at dksX9_script_0 21 rfl rfl)
theorem dX9_script_22 : decode cX9_script 22 = .ok (.putfield 227, 3) := dk_181 0 227 (dk_at dksX9_script_1 0 rfl rfl)
theorem dX9_script_25 : decode cX9_script 25 = .ok (.aload_n 0, 1) := dk_42 (dk_at dksX9_script_1 3 rfl rfl)
theorem dX9_script_26 : decode cX9_script 26 = .ok (.iconst 1, 1) := dk_4 (dk_at dksX9_script_1 4 rfl rfl)
theorem dX9_script_27 : decode cX9_script 27 = .ok (.invokevirtual 58, 3) := dk_182 0 58 (dk_at dksX9_script_1 5 rfl rfl)
theorem dX9_script_30 : decode cX9_script 30 = .ok (.ireturn, 1) := dk_172 (dk_at dksX9_script_1 8 rfl rfl)
theorem dX9_script_31 : decode cX9_script 31 = .ok (.aload_n 0, 1) := dk_42 (dk_at dksX9_script_1 9 rfl rfl)
theorem dX9_script_32 : decode cX9_script 32 = .ok (.invokevirtual 68, 3) := dk_182 0 68 (dk_at dksX9_script_1 10 rfl rfl)
theorem dX9_script_35 : decode cX9_script 35 = .ok (.aload_n 0, 1) := dk_42 (dk_at dksX9_script_1 13 rfl rfl)
theorem dX9_script_36 : decode cX9_script 36 = .ok (.getfield 16, 3) := dk_180 0 16 (dk_at dksX9_script_1 14 rfl rfl)
theorem dX9_script_39 : decode cX9_script 39 = .ok (.iconst 2, 1) := dk_5 (dk_at dksX9_script_1 17 rfl rfl)
theorem dX9_script_40 : decode cX9_script 40 = .ok (.dup2, 1) := dk_92 (dk_at dksX9_script_1 18 rfl rfl)
theorem dX9_script_41 : decode cX9_script 41 = .ok (.iaload, 1) := dk_46 (dk_at dksX9_script_1 19 rfl rfl)
theorem dX9_script_42 : decode cX9_script 42 = .ok (.iconst 1, 1) := dk_4 (dk_at dksX9_script_1 20 rfl rfl)
theorem dX9_script_43 : decode cX9_script 43 = .ok (.iadd, 1) := dk_96 (dk_at dksX9_script_1 21 rfl rfl)
theorem dX9_script_44 : decode cX9_script 44 = .ok (.iastore, 1) := dk_79 (dk_at dksX9_script_1 22 rfl rfl)
theorem dX9_script_45 : decode cX9_script 45 = .ok (.aload_n 0, 1) := dk_42 (dk_at dksX9_script_1 23 rfl rfl)
theorem dX9_script_46 : decode cX9_script 46 = .ok (.invokevirtual 270, 3) := dk_182 1 14 (dk_at dksX9_script_2 0 rfl rfl)
theorem dX9_script_49 : decode cX9_script 49 = .ok (.istore_n 1, 1) := dk_60 (dk_at dksX9_script_2 3 rfl rfl)
theorem dX9_script_50 : decode cX9_script 50 = .ok (.aload_n 0, 1) := dk_42 (dk_at dksX9_script_2 4 rfl rfl)
theorem dX9_script_51 : decode cX9_script 51 = .ok (.iconst 0, 1) := dk_3 (dk_at dksX9_script_2 5 rfl rfl)
theorem dX9_script_52 : decode cX9_script 52 = .ok (.putfield 227, 3) := dk_181 0 227 (dk_at dksX9_script_2 6 rfl rfl)
theorem dX9_script_55 : decode cX9_script 55 = .ok (.iload_n 1, 1) := dk_27 (dk_at dksX9_script_2 9 rfl rfl)
theorem dX9_script_56 : decode cX9_script 56 = .ok (.ifCond .eq 12, 3) := dk_153 0 12 (dk_at dksX9_script_2 10 rfl rfl)
theorem dX9_script_59 : decode cX9_script 59 = .ok (.aload_n 0, 1) := dk_42 (dk_at dksX9_script_2 13 rfl rfl)
theorem dX9_script_60 : decode cX9_script 60 = .ok (.invokevirtual 71, 3) := dk_182 0 71 (dk_at dksX9_script_2 14 rfl rfl)
theorem dX9_script_63 : decode cX9_script 63 = .ok (.aload_n 0, 1) := dk_42 (dk_at dksX9_script_2 17 rfl rfl)
theorem dX9_script_64 : decode cX9_script 64 = .ok (.getfield 258, 3) := dk_180 1 2 (dk_at dksX9_script_2 18 rfl rfl)
theorem dX9_script_67 : decode cX9_script 67 = .ok (.ireturn, 1) := dk_172 (dk_at dksX9_script_2 21 rfl rfl)
theorem dX9_script_68 : decode cX9_script 68 = .ok (.aload_n 0, 1) := dk_42 (dk_at dksX9_script_2 22 rfl rfl)
theorem dX9_script_69 : decode cX9_script 69 = .ok (.invokevirtual 217, 3) := dk_182 0 217 (dk_at dksX9_script_3 0 rfl rfl)
theorem dX9_script_72 : decode cX9_script 72 = .ok (.aload_n 0, 1) := dk_42 (dk_at dksX9_script_3 3 rfl rfl)
theorem dX9_script_73 : decode cX9_script 73 = .ok (.iconst 0, 1) := dk_3 (dk_at dksX9_script_3 4 rfl rfl)
theorem dX9_script_74 : decode cX9_script 74 = .ok (.bipush 8, 2) := dk_16 8 (dk_at dksX9_script_3 5 rfl rfl)
theorem dX9_script_76 : decode cX9_script 76 = .ok (.aload_n 0, 1) := dk_42 (dk_at dksX9_script_3 7 rfl rfl)
theorem dX9_script_77 : decode cX9_script 77 = .ok (.getfield 258, 3) := dk_180 1 2 (dk_at dksX9_script_3 8 rfl rfl)
theorem dX9_script_80 : decode cX9_script 80 = .ok (.invokevirtual 54, 3) := dk_182 0 54 (dk_at dksX9_script_3 11 rfl rfl)
theorem dX9_script_83 : decode cX9_script 83 = .ok (.aload_n 0, 1) := dk_42 (dk_at dksX9_script_3 14 rfl rfl)
theorem dX9_script_84 : decode cX9_script 84 = .ok (.iconst 1, 1) := dk_4 (dk_at dksX9_script_3 15 rfl rfl)
theorem dX9_script_85 : decode cX9_script 85 = .ok (.aload_n 0, 1) := dk_42 (dk_at dksX9_script_3 16 rfl rfl)
theorem dX9_script_86 : decode cX9_script 86 = .ok (.getfield 48, 3) := dk_180 0 48 (dk_at dksX9_script_3 17 rfl rfl)
theorem dX9_script_89 : decode cX9_script 89 = .ok (.aload_n 0, 1) := dk_42 (dk_at dksX9_script_3 20 rfl rfl)
theorem dX9_script_90 : decode cX9_script 90 = .ok (.getfield 51, 3) := dk_180 0 51 (dk_at dksX9_script_3 21 rfl rfl)
theorem dX9_script_93 : decode cX9_script 93 = .ok (.invokevirtual 54, 3) := dk_182 0 54 (dk_at dksX9_script_4 0 rfl rfl)
theorem dX9_script_96 : decode cX9_script 96 = .ok (.aload_n 0, 1) := dk_42 (dk_at dksX9_script_4 3 rfl rfl)
theorem dX9_script_97 : decode cX9_script 97 = .ok (.iconst 2, 1) := dk_5 (dk_at dksX9_script_4 4 rfl rfl)
theorem dX9_script_98 : decode cX9_script 98 = .ok (.invokevirtual 58, 3) := dk_182 0 58 (dk_at dksX9_script_4 5 rfl rfl)
theorem dX9_script_101 : decode cX9_script 101 = .ok (.ireturn, 1) := dk_172 (dk_at dksX9_script_4 8 rfl rfl)
abbrev cX9_readsAll : ByteArray := prog_13_method_88_code
def yX9_readsAll : MethodName := ⟨RX9, "readsAll", "()Z"⟩
def dkwX9_readsAll_1 : List UInt8 := [182, 0, 236, 60, 167, 255, 236, 42, 180, 0, 230, 42, 180, 0, 227, 160, 0, 7, 4, 167, 0, 4, 3, 172]
abbrev dktX9_readsAll_1 : List UInt8 := dkwX9_readsAll_1 ++ []
def dkwX9_readsAll_0 : List UInt8 := [42, 3, 181, 0, 230, 4, 60, 27, 153, 0, 22, 42, 182, 0, 255, 154, 0, 5, 3, 172, 42, 16, 59]
abbrev dktX9_readsAll_0 : List UInt8 := dkwX9_readsAll_0 ++ dktX9_readsAll_1
theorem dksX9_readsAll_0 : cX9_readsAll.data.toList.drop 0 = dktX9_readsAll_0 := by decide +kernel
theorem dksX9_readsAll_1 : cX9_readsAll.data.toList.drop 23 = dktX9_readsAll_1 := dk_seg dksX9_readsAll_0 23 rfl rfl
theorem dX9_readsAll_0 : decode cX9_readsAll 0 = .ok (.aload_n 0, 1) := dk_42 (dk_at dksX9_readsAll_0 0 rfl rfl)
theorem dX9_readsAll_1 : decode cX9_readsAll 1 = .ok (.iconst 0, 1) := dk_3 (dk_at dksX9_readsAll_0 1 rfl rfl)
theorem dX9_readsAll_2 : decode cX9_readsAll 2 = .ok (.putfield 230, 3) := dk_181 0 230 (dk_at dksX9_readsAll_0 2 rfl rfl)
theorem dX9_readsAll_5 : decode cX9_readsAll 5 = .ok (.iconst 1, 1) := dk_4 (dk_at dksX9_readsAll_0 5 rfl rfl)
theorem dX9_readsAll_6 : decode cX9_readsAll 6 = .ok (.istore_n 1, 1) := dk_60 (dk_at dksX9_readsAll_0 6 rfl rfl)
theorem dX9_readsAll_7 : decode cX9_readsAll 7 = .ok (.iload_n 1, 1) := dk_27 (dk_at dksX9_readsAll_0 7 rfl rfl)
theorem dX9_readsAll_8 : decode cX9_readsAll 8 = .ok (.ifCond .eq 22, 3) := dk_153 0 22 (dk_at dksX9_readsAll_0 8 rfl rfl)
theorem dX9_readsAll_11 : decode cX9_readsAll 11 = .ok (.aload_n 0, 1) := dk_42 (dk_at dksX9_readsAll_0 11 rfl rfl)
theorem dX9_readsAll_12 : decode cX9_readsAll 12 = .ok (.invokevirtual 255, 3) := dk_182 0 255 (dk_at dksX9_readsAll_0 12 rfl rfl)
theorem dX9_readsAll_15 : decode cX9_readsAll 15 = .ok (.ifCond .ne 5, 3) := dk_154 0 5 (dk_at dksX9_readsAll_0 15 rfl rfl)
theorem dX9_readsAll_18 : decode cX9_readsAll 18 = .ok (.iconst 0, 1) := dk_3 (dk_at dksX9_readsAll_0 18 rfl rfl)
theorem dX9_readsAll_19 : decode cX9_readsAll 19 = .ok (.ireturn, 1) := dk_172 (dk_at dksX9_readsAll_0 19 rfl rfl)
theorem dX9_readsAll_20 : decode cX9_readsAll 20 = .ok (.aload_n 0, 1) := dk_42 (dk_at dksX9_readsAll_0 20 rfl rfl)
theorem dX9_readsAll_21 : decode cX9_readsAll 21 = .ok (.bipush 59, 2) := dk_16 59 (dk_at dksX9_readsAll_0 21 rfl rfl)
theorem dX9_readsAll_23 : decode cX9_readsAll 23 = .ok (.invokevirtual 236, 3) := dk_182 0 236 (dk_at dksX9_readsAll_1 0 rfl rfl)
theorem dX9_readsAll_26 : decode cX9_readsAll 26 = .ok (.istore_n 1, 1) := dk_60 (dk_at dksX9_readsAll_1 3 rfl rfl)
theorem dX9_readsAll_27 : decode cX9_readsAll 27 = .ok (.goto (-20), 3) := dk_167 255 236 (dk_at dksX9_readsAll_1 4 rfl rfl)
theorem dX9_readsAll_30 : decode cX9_readsAll 30 = .ok (.aload_n 0, 1) := dk_42 (dk_at dksX9_readsAll_1 7 rfl rfl)
theorem dX9_readsAll_31 : decode cX9_readsAll 31 = .ok (.getfield 230, 3) := dk_180 0 230 (dk_at dksX9_readsAll_1 8 rfl rfl)
theorem dX9_readsAll_34 : decode cX9_readsAll 34 = .ok (.aload_n 0, 1) := dk_42 (dk_at dksX9_readsAll_1 11 rfl rfl)
theorem dX9_readsAll_35 : decode cX9_readsAll 35 = .ok (.getfield 227, 3) := dk_180 0 227 (dk_at dksX9_readsAll_1 12 rfl rfl)
theorem dX9_readsAll_38 : decode cX9_readsAll 38 = .ok (.if_icmp .ne 7, 3) := dk_160 0 7 (dk_at dksX9_readsAll_1 15 rfl rfl)
theorem dX9_readsAll_41 : decode cX9_readsAll 41 = .ok (.iconst 1, 1) := dk_4 (dk_at dksX9_readsAll_1 18 rfl rfl)
theorem dX9_readsAll_42 : decode cX9_readsAll 42 = .ok (.goto 4, 3) := dk_167 0 4 (dk_at dksX9_readsAll_1 19 rfl rfl)
theorem dX9_readsAll_45 : decode cX9_readsAll 45 = .ok (.iconst 0, 1) := dk_3 (dk_at dksX9_readsAll_1 22 rfl rfl)
theorem dX9_readsAll_46 : decode cX9_readsAll 46 = .ok (.ireturn, 1) := dk_172 (dk_at dksX9_readsAll_1 23 rfl rfl)
abbrev cX9_readsOrder : ByteArray := prog_13_method_87_code
def yX9_readsOrder : MethodName := ⟨RX9, "readsOrder", "()Z"⟩
def dkwX9_readsOrder_8 : List UInt8 := [167, 0, 4, 3, 172]
abbrev dktX9_readsOrder_8 : List UInt8 := dkwX9_readsOrder_8 ++ []
def dkwX9_readsOrder_7 : List UInt8 := [153, 0, 27, 42, 16, 101, 182, 0, 236, 153, 0, 18, 42, 16, 6, 6, 3, 182, 0, 245, 153, 0, 7, 4]
abbrev dktX9_readsOrder_7 : List UInt8 := dkwX9_readsOrder_7 ++ dktX9_readsOrder_8
def dkwX9_readsOrder_6 : List UInt8 := [16, 101, 182, 0, 236, 153, 0, 45, 42, 16, 97, 182, 0, 236, 153, 0, 36, 42, 16, 118, 182, 0, 236]
abbrev dktX9_readsOrder_6 : List UInt8 := dkwX9_readsOrder_6 ++ dktX9_readsOrder_7
def dkwX9_readsOrder_5 : List UInt8 := [16, 111, 182, 0, 236, 153, 0, 8, 42, 182, 0, 252, 172, 42, 16, 108, 182, 0, 236, 153, 0, 54, 42]
abbrev dktX9_readsOrder_5 : List UInt8 := dkwX9_readsOrder_5 ++ dktX9_readsOrder_6
def dkwX9_readsOrder_4 : List UInt8 := [153, 0, 7, 4, 167, 0, 4, 3, 172, 42, 16, 99, 182, 0, 236, 153, 0, 8, 42, 182, 0, 248, 172, 42]
abbrev dktX9_readsOrder_4 : List UInt8 := dkwX9_readsOrder_4 ++ dktX9_readsOrder_5
def dkwX9_readsOrder_3 : List UInt8 := [16, 119, 182, 0, 236, 153, 0, 26, 42, 16, 110, 182, 0, 236, 153, 0, 17, 42, 4, 6, 3, 182, 0, 245]
abbrev dktX9_readsOrder_3 : List UInt8 := dkwX9_readsOrder_3 ++ dktX9_readsOrder_4
def dkwX9_readsOrder_2 : List UInt8 := [167, 0, 4, 3, 172, 42, 16, 100, 182, 0, 236, 153, 0, 46, 42, 16, 111, 182, 0, 236, 153, 0, 35, 42]
abbrev dktX9_readsOrder_2 : List UInt8 := dkwX9_readsOrder_2 ++ dktX9_readsOrder_3
def dkwX9_readsOrder_1 : List UInt8 := [153, 0, 26, 42, 16, 110, 182, 0, 236, 153, 0, 17, 42, 3, 4, 6, 182, 0, 245, 153, 0, 7, 4]
abbrev dktX9_readsOrder_1 : List UInt8 := dkwX9_readsOrder_1 ++ dktX9_readsOrder_2
def dkwX9_readsOrder_0 : List UInt8 := [42, 16, 115, 182, 0, 236, 153, 0, 46, 42, 16, 105, 182, 0, 236, 153, 0, 35, 42, 16, 103, 182, 0, 236]
abbrev dktX9_readsOrder_0 : List UInt8 := dkwX9_readsOrder_0 ++ dktX9_readsOrder_1
theorem dksX9_readsOrder_0 : cX9_readsOrder.data.toList.drop 0 = dktX9_readsOrder_0 := by decide +kernel
theorem dksX9_readsOrder_1 : cX9_readsOrder.data.toList.drop 24 = dktX9_readsOrder_1 := dk_seg dksX9_readsOrder_0 24 rfl rfl
theorem dksX9_readsOrder_2 : cX9_readsOrder.data.toList.drop 47 = dktX9_readsOrder_2 := dk_seg dksX9_readsOrder_1 23 rfl rfl
theorem dksX9_readsOrder_3 : cX9_readsOrder.data.toList.drop 71 = dktX9_readsOrder_3 := dk_seg dksX9_readsOrder_2 24 rfl rfl
theorem dksX9_readsOrder_4 : cX9_readsOrder.data.toList.drop 95 = dktX9_readsOrder_4 := dk_seg dksX9_readsOrder_3 24 rfl rfl
theorem dksX9_readsOrder_5 : cX9_readsOrder.data.toList.drop 119 = dktX9_readsOrder_5 := dk_seg dksX9_readsOrder_4 24 rfl rfl
theorem dksX9_readsOrder_6 : cX9_readsOrder.data.toList.drop 142 = dktX9_readsOrder_6 := dk_seg dksX9_readsOrder_5 23 rfl rfl
theorem dksX9_readsOrder_7 : cX9_readsOrder.data.toList.drop 165 = dktX9_readsOrder_7 := dk_seg dksX9_readsOrder_6 23 rfl rfl
theorem dksX9_readsOrder_8 : cX9_readsOrder.data.toList.drop 189 = dktX9_readsOrder_8 := dk_seg dksX9_readsOrder_7 24 rfl rfl
theorem dX9_readsOrder_0 : decode cX9_readsOrder 0 = .ok (.aload_n 0, 1) := dk_42 (dk_at dksX9_readsOrder_0 0 rfl rfl)
theorem dX9_readsOrder_1 : decode cX9_readsOrder 1 = .ok (.bipush 115, 2) := dk_16 115 (dk_at dksX9_readsOrder_0 1 rfl rfl)
theorem dX9_readsOrder_3 : decode cX9_readsOrder 3 = .ok (.invokevirtual 236, 3) := dk_182 0 236 (dk_at dksX9_readsOrder_0 3 rfl rfl)
theorem dX9_readsOrder_6 : decode cX9_readsOrder 6 = .ok (.ifCond .eq 46, 3) := dk_153 0 46 (dk_at dksX9_readsOrder_0 6 rfl rfl)
theorem dX9_readsOrder_9 : decode cX9_readsOrder 9 = .ok (.aload_n 0, 1) := dk_42 (dk_at dksX9_readsOrder_0 9 rfl rfl)
theorem dX9_readsOrder_10 : decode cX9_readsOrder 10 = .ok (.bipush 105, 2) := dk_16 105 (dk_at dksX9_readsOrder_0 10 rfl rfl)
theorem dX9_readsOrder_12 : decode cX9_readsOrder 12 = .ok (.invokevirtual 236, 3) := dk_182 0 236 (dk_at dksX9_readsOrder_0 12 rfl rfl)
theorem dX9_readsOrder_15 : decode cX9_readsOrder 15 = .ok (.ifCond .eq 35, 3) := dk_153 0 35 (dk_at dksX9_readsOrder_0 15 rfl rfl)
theorem dX9_readsOrder_18 : decode cX9_readsOrder 18 = .ok (.aload_n 0, 1) := dk_42 (dk_at dksX9_readsOrder_0 18 rfl rfl)
theorem dX9_readsOrder_19 : decode cX9_readsOrder 19 = .ok (.bipush 103, 2) := dk_16 103 (dk_at dksX9_readsOrder_0 19 rfl rfl)
theorem dX9_readsOrder_21 : decode cX9_readsOrder 21 = .ok (.invokevirtual 236, 3) := dk_182 0 236 (dk_at dksX9_readsOrder_0 21 rfl rfl)
theorem dX9_readsOrder_24 : decode cX9_readsOrder 24 = .ok (.ifCond .eq 26, 3) := dk_153 0 26 (dk_at dksX9_readsOrder_1 0 rfl rfl)
theorem dX9_readsOrder_27 : decode cX9_readsOrder 27 = .ok (.aload_n 0, 1) := dk_42 (dk_at dksX9_readsOrder_1 3 rfl rfl)
theorem dX9_readsOrder_28 : decode cX9_readsOrder 28 = .ok (.bipush 110, 2) := dk_16 110 (dk_at dksX9_readsOrder_1 4 rfl rfl)
theorem dX9_readsOrder_30 : decode cX9_readsOrder 30 = .ok (.invokevirtual 236, 3) := dk_182 0 236 (dk_at dksX9_readsOrder_1 6 rfl rfl)
theorem dX9_readsOrder_33 : decode cX9_readsOrder 33 = .ok (.ifCond .eq 17, 3) := dk_153 0 17 (dk_at dksX9_readsOrder_1 9 rfl rfl)
theorem dX9_readsOrder_36 : decode cX9_readsOrder 36 = .ok (.aload_n 0, 1) := dk_42 (dk_at dksX9_readsOrder_1 12 rfl rfl)
theorem dX9_readsOrder_37 : decode cX9_readsOrder 37 = .ok (.iconst 0, 1) := dk_3 (dk_at dksX9_readsOrder_1 13 rfl rfl)
theorem dX9_readsOrder_38 : decode cX9_readsOrder 38 = .ok (.iconst 1, 1) := dk_4 (dk_at dksX9_readsOrder_1 14 rfl rfl)
theorem dX9_readsOrder_39 : decode cX9_readsOrder 39 = .ok (.iconst 3, 1) := dk_6 (dk_at dksX9_readsOrder_1 15 rfl rfl)
theorem dX9_readsOrder_40 : decode cX9_readsOrder 40 = .ok (.invokevirtual 245, 3) := dk_182 0 245 (dk_at dksX9_readsOrder_1 16 rfl rfl)
theorem dX9_readsOrder_43 : decode cX9_readsOrder 43 = .ok (.ifCond .eq 7, 3) := dk_153 0 7 (dk_at dksX9_readsOrder_1 19 rfl rfl)
theorem dX9_readsOrder_46 : decode cX9_readsOrder 46 = .ok (.iconst 1, 1) := dk_4 (dk_at dksX9_readsOrder_1 22 rfl rfl)
theorem dX9_readsOrder_47 : decode cX9_readsOrder 47 = .ok (.goto 4, 3) := dk_167 0 4 (dk_at dksX9_readsOrder_2 0 rfl rfl)
theorem dX9_readsOrder_50 : decode cX9_readsOrder 50 = .ok (.iconst 0, 1) := dk_3 (dk_at dksX9_readsOrder_2 3 rfl rfl)
theorem dX9_readsOrder_51 : decode cX9_readsOrder 51 = .ok (.ireturn, 1) := dk_172 (dk_at dksX9_readsOrder_2 4 rfl rfl)
theorem dX9_readsOrder_52 : decode cX9_readsOrder 52 = .ok (.aload_n 0, 1) := dk_42 (dk_at dksX9_readsOrder_2 5 rfl rfl)
theorem dX9_readsOrder_53 : decode cX9_readsOrder 53 = .ok (.bipush 100, 2) := dk_16 100 (dk_at dksX9_readsOrder_2 6 rfl rfl)
theorem dX9_readsOrder_55 : decode cX9_readsOrder 55 = .ok (.invokevirtual 236, 3) := dk_182 0 236 (dk_at dksX9_readsOrder_2 8 rfl rfl)
theorem dX9_readsOrder_58 : decode cX9_readsOrder 58 = .ok (.ifCond .eq 46, 3) := dk_153 0 46 (dk_at dksX9_readsOrder_2 11 rfl rfl)
theorem dX9_readsOrder_61 : decode cX9_readsOrder 61 = .ok (.aload_n 0, 1) := dk_42 (dk_at dksX9_readsOrder_2 14 rfl rfl)
theorem dX9_readsOrder_62 : decode cX9_readsOrder 62 = .ok (.bipush 111, 2) := dk_16 111 (dk_at dksX9_readsOrder_2 15 rfl rfl)
theorem dX9_readsOrder_64 : decode cX9_readsOrder 64 = .ok (.invokevirtual 236, 3) := dk_182 0 236 (dk_at dksX9_readsOrder_2 17 rfl rfl)
theorem dX9_readsOrder_67 : decode cX9_readsOrder 67 = .ok (.ifCond .eq 35, 3) := dk_153 0 35 (dk_at dksX9_readsOrder_2 20 rfl rfl)
theorem dX9_readsOrder_70 : decode cX9_readsOrder 70 = .ok (.aload_n 0, 1) := dk_42 (dk_at dksX9_readsOrder_2 23 rfl rfl)
theorem dX9_readsOrder_71 : decode cX9_readsOrder 71 = .ok (.bipush 119, 2) := dk_16 119 (dk_at dksX9_readsOrder_3 0 rfl rfl)
theorem dX9_readsOrder_73 : decode cX9_readsOrder 73 = .ok (.invokevirtual 236, 3) := dk_182 0 236 (dk_at dksX9_readsOrder_3 2 rfl rfl)
theorem dX9_readsOrder_76 : decode cX9_readsOrder 76 = .ok (.ifCond .eq 26, 3) := dk_153 0 26 (dk_at dksX9_readsOrder_3 5 rfl rfl)
theorem dX9_readsOrder_79 : decode cX9_readsOrder 79 = .ok (.aload_n 0, 1) := dk_42 (dk_at dksX9_readsOrder_3 8 rfl rfl)
theorem dX9_readsOrder_80 : decode cX9_readsOrder 80 = .ok (.bipush 110, 2) := dk_16 110 (dk_at dksX9_readsOrder_3 9 rfl rfl)
theorem dX9_readsOrder_82 : decode cX9_readsOrder 82 = .ok (.invokevirtual 236, 3) := dk_182 0 236 (dk_at dksX9_readsOrder_3 11 rfl rfl)
theorem dX9_readsOrder_85 : decode cX9_readsOrder 85 = .ok (.ifCond .eq 17, 3) := dk_153 0 17 (dk_at dksX9_readsOrder_3 14 rfl rfl)
theorem dX9_readsOrder_88 : decode cX9_readsOrder 88 = .ok (.aload_n 0, 1) := dk_42 (dk_at dksX9_readsOrder_3 17 rfl rfl)
theorem dX9_readsOrder_89 : decode cX9_readsOrder 89 = .ok (.iconst 1, 1) := dk_4 (dk_at dksX9_readsOrder_3 18 rfl rfl)
theorem dX9_readsOrder_90 : decode cX9_readsOrder 90 = .ok (.iconst 3, 1) := dk_6 (dk_at dksX9_readsOrder_3 19 rfl rfl)
theorem dX9_readsOrder_91 : decode cX9_readsOrder 91 = .ok (.iconst 0, 1) := dk_3 (dk_at dksX9_readsOrder_3 20 rfl rfl)
theorem dX9_readsOrder_92 : decode cX9_readsOrder 92 = .ok (.invokevirtual 245, 3) := dk_182 0 245 (dk_at dksX9_readsOrder_3 21 rfl rfl)
theorem dX9_readsOrder_95 : decode cX9_readsOrder 95 = .ok (.ifCond .eq 7, 3) := dk_153 0 7 (dk_at dksX9_readsOrder_4 0 rfl rfl)
theorem dX9_readsOrder_98 : decode cX9_readsOrder 98 = .ok (.iconst 1, 1) := dk_4 (dk_at dksX9_readsOrder_4 3 rfl rfl)
theorem dX9_readsOrder_99 : decode cX9_readsOrder 99 = .ok (.goto 4, 3) := dk_167 0 4 (dk_at dksX9_readsOrder_4 4 rfl rfl)
theorem dX9_readsOrder_102 : decode cX9_readsOrder 102 = .ok (.iconst 0, 1) := dk_3 (dk_at dksX9_readsOrder_4 7 rfl rfl)
theorem dX9_readsOrder_103 : decode cX9_readsOrder 103 = .ok (.ireturn, 1) := dk_172 (dk_at dksX9_readsOrder_4 8 rfl rfl)
theorem dX9_readsOrder_104 : decode cX9_readsOrder 104 = .ok (.aload_n 0, 1) := dk_42 (dk_at dksX9_readsOrder_4 9 rfl rfl)
theorem dX9_readsOrder_105 : decode cX9_readsOrder 105 = .ok (.bipush 99, 2) := dk_16 99 (dk_at dksX9_readsOrder_4 10 rfl rfl)
theorem dX9_readsOrder_107 : decode cX9_readsOrder 107 = .ok (.invokevirtual 236, 3) := dk_182 0 236 (dk_at dksX9_readsOrder_4 12 rfl rfl)
theorem dX9_readsOrder_110 : decode cX9_readsOrder 110 = .ok (.ifCond .eq 8, 3) := dk_153 0 8 (dk_at dksX9_readsOrder_4 15 rfl rfl)
theorem dX9_readsOrder_113 : decode cX9_readsOrder 113 = .ok (.aload_n 0, 1) := dk_42 (dk_at dksX9_readsOrder_4 18 rfl rfl)
theorem dX9_readsOrder_114 : decode cX9_readsOrder 114 = .ok (.invokevirtual 248, 3) := dk_182 0 248 (dk_at dksX9_readsOrder_4 19 rfl rfl)
theorem dX9_readsOrder_117 : decode cX9_readsOrder 117 = .ok (.ireturn, 1) := dk_172 (dk_at dksX9_readsOrder_4 22 rfl rfl)
theorem dX9_readsOrder_118 : decode cX9_readsOrder 118 = .ok (.aload_n 0, 1) := dk_42 (dk_at dksX9_readsOrder_4 23 rfl rfl)
theorem dX9_readsOrder_119 : decode cX9_readsOrder 119 = .ok (.bipush 111, 2) := dk_16 111 (dk_at dksX9_readsOrder_5 0 rfl rfl)
theorem dX9_readsOrder_121 : decode cX9_readsOrder 121 = .ok (.invokevirtual 236, 3) := dk_182 0 236 (dk_at dksX9_readsOrder_5 2 rfl rfl)
theorem dX9_readsOrder_124 : decode cX9_readsOrder 124 = .ok (.ifCond .eq 8, 3) := dk_153 0 8 (dk_at dksX9_readsOrder_5 5 rfl rfl)
theorem dX9_readsOrder_127 : decode cX9_readsOrder 127 = .ok (.aload_n 0, 1) := dk_42 (dk_at dksX9_readsOrder_5 8 rfl rfl)
theorem dX9_readsOrder_128 : decode cX9_readsOrder 128 = .ok (.invokevirtual 252, 3) := dk_182 0 252 (dk_at dksX9_readsOrder_5 9 rfl rfl)
theorem dX9_readsOrder_131 : decode cX9_readsOrder 131 = .ok (.ireturn, 1) := dk_172 (dk_at dksX9_readsOrder_5 12 rfl rfl)
theorem dX9_readsOrder_132 : decode cX9_readsOrder 132 = .ok (.aload_n 0, 1) := dk_42 (dk_at dksX9_readsOrder_5 13 rfl rfl)
theorem dX9_readsOrder_133 : decode cX9_readsOrder 133 = .ok (.bipush 108, 2) := dk_16 108 (dk_at dksX9_readsOrder_5 14 rfl rfl)
theorem dX9_readsOrder_135 : decode cX9_readsOrder 135 = .ok (.invokevirtual 236, 3) := dk_182 0 236 (dk_at dksX9_readsOrder_5 16 rfl rfl)
theorem dX9_readsOrder_138 : decode cX9_readsOrder 138 = .ok (.ifCond .eq 54, 3) := dk_153 0 54 (dk_at dksX9_readsOrder_5 19 rfl rfl)
theorem dX9_readsOrder_141 : decode cX9_readsOrder 141 = .ok (.aload_n 0, 1) := dk_42 (dk_at dksX9_readsOrder_5 22 rfl rfl)
theorem dX9_readsOrder_142 : decode cX9_readsOrder 142 = .ok (.bipush 101, 2) := dk_16 101 (dk_at dksX9_readsOrder_6 0 rfl rfl)
theorem dX9_readsOrder_144 : decode cX9_readsOrder 144 = .ok (.invokevirtual 236, 3) := dk_182 0 236 (dk_at dksX9_readsOrder_6 2 rfl rfl)
theorem dX9_readsOrder_147 : decode cX9_readsOrder 147 = .ok (.ifCond .eq 45, 3) := dk_153 0 45 (dk_at dksX9_readsOrder_6 5 rfl rfl)
theorem dX9_readsOrder_150 : decode cX9_readsOrder 150 = .ok (.aload_n 0, 1) := dk_42 (dk_at dksX9_readsOrder_6 8 rfl rfl)
theorem dX9_readsOrder_151 : decode cX9_readsOrder 151 = .ok (.bipush 97, 2) := dk_16 97 (dk_at dksX9_readsOrder_6 9 rfl rfl)
theorem dX9_readsOrder_153 : decode cX9_readsOrder 153 = .ok (.invokevirtual 236, 3) := dk_182 0 236 (dk_at dksX9_readsOrder_6 11 rfl rfl)
theorem dX9_readsOrder_156 : decode cX9_readsOrder 156 = .ok (.ifCond .eq 36, 3) := dk_153 0 36 (dk_at dksX9_readsOrder_6 14 rfl rfl)
theorem dX9_readsOrder_159 : decode cX9_readsOrder 159 = .ok (.aload_n 0, 1) := dk_42 (dk_at dksX9_readsOrder_6 17 rfl rfl)
theorem dX9_readsOrder_160 : decode cX9_readsOrder 160 = .ok (.bipush 118, 2) := dk_16 118 (dk_at dksX9_readsOrder_6 18 rfl rfl)
theorem dX9_readsOrder_162 : decode cX9_readsOrder 162 = .ok (.invokevirtual 236, 3) := dk_182 0 236 (dk_at dksX9_readsOrder_6 20 rfl rfl)
theorem dX9_readsOrder_165 : decode cX9_readsOrder 165 = .ok (.ifCond .eq 27, 3) := dk_153 0 27 (dk_at dksX9_readsOrder_7 0 rfl rfl)
theorem dX9_readsOrder_168 : decode cX9_readsOrder 168 = .ok (.aload_n 0, 1) := dk_42 (dk_at dksX9_readsOrder_7 3 rfl rfl)
theorem dX9_readsOrder_169 : decode cX9_readsOrder 169 = .ok (.bipush 101, 2) := dk_16 101 (dk_at dksX9_readsOrder_7 4 rfl rfl)
theorem dX9_readsOrder_171 : decode cX9_readsOrder 171 = .ok (.invokevirtual 236, 3) := dk_182 0 236 (dk_at dksX9_readsOrder_7 6 rfl rfl)
theorem dX9_readsOrder_174 : decode cX9_readsOrder 174 = .ok (.ifCond .eq 18, 3) := dk_153 0 18 (dk_at dksX9_readsOrder_7 9 rfl rfl)
theorem dX9_readsOrder_177 : decode cX9_readsOrder 177 = .ok (.aload_n 0, 1) := dk_42 (dk_at dksX9_readsOrder_7 12 rfl rfl)
theorem dX9_readsOrder_178 : decode cX9_readsOrder 178 = .ok (.bipush 6, 2) := dk_16 6 (dk_at dksX9_readsOrder_7 13 rfl rfl)
theorem dX9_readsOrder_180 : decode cX9_readsOrder 180 = .ok (.iconst 3, 1) := dk_6 (dk_at dksX9_readsOrder_7 15 rfl rfl)
theorem dX9_readsOrder_181 : decode cX9_readsOrder 181 = .ok (.iconst 0, 1) := dk_3 (dk_at dksX9_readsOrder_7 16 rfl rfl)
theorem dX9_readsOrder_182 : decode cX9_readsOrder 182 = .ok (.invokevirtual 245, 3) := dk_182 0 245 (dk_at dksX9_readsOrder_7 17 rfl rfl)
theorem dX9_readsOrder_185 : decode cX9_readsOrder 185 = .ok (.ifCond .eq 7, 3) := dk_153 0 7 (dk_at dksX9_readsOrder_7 20 rfl rfl)
theorem dX9_readsOrder_188 : decode cX9_readsOrder 188 = .ok (.iconst 1, 1) := dk_4 (dk_at dksX9_readsOrder_7 23 rfl rfl)
theorem dX9_readsOrder_189 : decode cX9_readsOrder 189 = .ok (.goto 4, 3) := dk_167 0 4 (dk_at dksX9_readsOrder_8 0 rfl rfl)
theorem dX9_readsOrder_192 : decode cX9_readsOrder 192 = .ok (.iconst 0, 1) := dk_3 (dk_at dksX9_readsOrder_8 3 rfl rfl)
theorem dX9_readsOrder_193 : decode cX9_readsOrder 193 = .ok (.ireturn, 1) := dk_172 (dk_at dksX9_readsOrder_8 4 rfl rfl)
abbrev cX9_reads : ByteArray := prog_13_method_82_code
def yX9_reads : MethodName := ⟨RX9, "reads", "(I)Z"⟩
def dkwX9_reads_0 : List UInt8 := [42, 182, 0, 233, 27, 159, 0, 5, 3, 172, 42, 89, 180, 0, 230, 4, 96, 181, 0, 230, 4, 172]
abbrev dktX9_reads_0 : List UInt8 := dkwX9_reads_0 ++ []
theorem dksX9_reads_0 : cX9_reads.data.toList.drop 0 = dktX9_reads_0 := by decide +kernel
theorem dX9_reads_0 : decode cX9_reads 0 = .ok (.aload_n 0, 1) := dk_42 (dk_at dksX9_reads_0 0 rfl rfl)
theorem dX9_reads_1 : decode cX9_reads 1 = .ok (.invokevirtual 233, 3) := dk_182 0 233 (dk_at dksX9_reads_0 1 rfl rfl)
theorem dX9_reads_4 : decode cX9_reads 4 = .ok (.iload_n 1, 1) := dk_27 (dk_at dksX9_reads_0 4 rfl rfl)
theorem dX9_reads_5 : decode cX9_reads 5 = .ok (.if_icmp .eq 5, 3) := dk_159 0 5 (dk_at dksX9_reads_0 5 rfl rfl)
theorem dX9_reads_8 : decode cX9_reads 8 = .ok (.iconst 0, 1) := dk_3 (dk_at dksX9_reads_0 8 rfl rfl)
theorem dX9_reads_9 : decode cX9_reads 9 = .ok (.ireturn, 1) := dk_172 (dk_at dksX9_reads_0 9 rfl rfl)
theorem dX9_reads_10 : decode cX9_reads 10 = .ok (.aload_n 0, 1) := dk_42 (dk_at dksX9_reads_0 10 rfl rfl)
theorem dX9_reads_11 : decode cX9_reads 11 = .ok (.dup, 1) := dk_89 (dk_at dksX9_reads_0 11 rfl rfl)
theorem dX9_reads_12 : decode cX9_reads 12 = .ok (.getfield 230, 3) := dk_180 0 230 (dk_at dksX9_reads_0 12 rfl rfl)
theorem dX9_reads_15 : decode cX9_reads 15 = .ok (.iconst 1, 1) := dk_4 (dk_at dksX9_reads_0 15 rfl rfl)
theorem dX9_reads_16 : decode cX9_reads 16 = .ok (.iadd, 1) := dk_96 (dk_at dksX9_reads_0 16 rfl rfl)
theorem dX9_reads_17 : decode cX9_reads 17 = .ok (.putfield 230, 3) := dk_181 0 230 (dk_at dksX9_reads_0 17 rfl rfl)
theorem dX9_reads_20 : decode cX9_reads 20 = .ok (.iconst 1, 1) := dk_4 (dk_at dksX9_reads_0 20 rfl rfl)
theorem dX9_reads_21 : decode cX9_reads 21 = .ok (.ireturn, 1) := dk_172 (dk_at dksX9_reads_0 21 rfl rfl)
abbrev cX9_letter : ByteArray := prog_13_method_81_code
def yX9_letter : MethodName := ⟨RX9, "letter", "()I"⟩
def dkwX9_letter_1 : List UInt8 := [172]
abbrev dktX9_letter_1 : List UInt8 := dkwX9_letter_1 ++ []
def dkwX9_letter_0 : List UInt8 := [42, 180, 0, 230, 42, 180, 0, 227, 162, 0, 15, 42, 180, 0, 31, 42, 180, 0, 230, 52, 167, 0, 4, 2]
abbrev dktX9_letter_0 : List UInt8 := dkwX9_letter_0 ++ dktX9_letter_1
theorem dksX9_letter_0 : cX9_letter.data.toList.drop 0 = dktX9_letter_0 := by decide +kernel
theorem dksX9_letter_1 : cX9_letter.data.toList.drop 24 = dktX9_letter_1 := dk_seg dksX9_letter_0 24 rfl rfl
theorem dX9_letter_0 : decode cX9_letter 0 = .ok (.aload_n 0, 1) := dk_42 (dk_at dksX9_letter_0 0 rfl rfl)
theorem dX9_letter_1 : decode cX9_letter 1 = .ok (.getfield 230, 3) := dk_180 0 230 (dk_at dksX9_letter_0 1 rfl rfl)
theorem dX9_letter_4 : decode cX9_letter 4 = .ok (.aload_n 0, 1) := dk_42 (dk_at dksX9_letter_0 4 rfl rfl)
theorem dX9_letter_5 : decode cX9_letter 5 = .ok (.getfield 227, 3) := dk_180 0 227 (dk_at dksX9_letter_0 5 rfl rfl)
theorem dX9_letter_8 : decode cX9_letter 8 = .ok (.if_icmp .ge 15, 3) := dk_162 0 15 (dk_at dksX9_letter_0 8 rfl rfl)
theorem dX9_letter_11 : decode cX9_letter 11 = .ok (.aload_n 0, 1) := dk_42 (dk_at dksX9_letter_0 11 rfl rfl)
theorem dX9_letter_12 : decode cX9_letter 12 = .ok (.getfield 31, 3) := dk_180 0 31 (dk_at dksX9_letter_0 12 rfl rfl)
theorem dX9_letter_15 : decode cX9_letter 15 = .ok (.aload_n 0, 1) := dk_42 (dk_at dksX9_letter_0 15 rfl rfl)
theorem dX9_letter_16 : decode cX9_letter 16 = .ok (.getfield 230, 3) := dk_180 0 230 (dk_at dksX9_letter_0 16 rfl rfl)
theorem dX9_letter_19 : decode cX9_letter 19 = .ok (.caload, 1) := dk_52 (dk_at dksX9_letter_0 19 rfl rfl)
theorem dX9_letter_20 : decode cX9_letter 20 = .ok (.goto 4, 3) := dk_167 0 4 (dk_at dksX9_letter_0 20 rfl rfl)
theorem dX9_letter_23 : decode cX9_letter 23 = .ok (.iconst (-1), 1) := dk_2 (dk_at dksX9_letter_0 23 rfl rfl)
theorem dX9_letter_24 : decode cX9_letter 24 = .ok (.ireturn, 1) := dk_172 (dk_at dksX9_letter_1 0 rfl rfl)
abbrev cX9_readsTwo : ByteArray := prog_13_method_84_code
def yX9_readsTwo : MethodName := ⟨RX9, "readsTwo", "(III)Z"⟩
def dkwX9_readsTwo_1 : List UInt8 := [153, 0, 7, 4, 167, 0, 4, 3, 172]
abbrev dktX9_readsTwo_1 : List UInt8 := dkwX9_readsTwo_1 ++ []
def dkwX9_readsTwo_0 : List UInt8 := [42, 27, 181, 0, 239, 42, 3, 28, 182, 0, 242, 153, 0, 20, 29, 153, 0, 12, 42, 4, 29, 182, 0, 242]
abbrev dktX9_readsTwo_0 : List UInt8 := dkwX9_readsTwo_0 ++ dktX9_readsTwo_1
theorem dksX9_readsTwo_0 : cX9_readsTwo.data.toList.drop 0 = dktX9_readsTwo_0 := by decide +kernel
theorem dksX9_readsTwo_1 : cX9_readsTwo.data.toList.drop 24 = dktX9_readsTwo_1 := dk_seg dksX9_readsTwo_0 24 rfl rfl
theorem dX9_readsTwo_0 : decode cX9_readsTwo 0 = .ok (.aload_n 0, 1) := dk_42 (dk_at dksX9_readsTwo_0 0 rfl rfl)
theorem dX9_readsTwo_1 : decode cX9_readsTwo 1 = .ok (.iload_n 1, 1) := dk_27 (dk_at dksX9_readsTwo_0 1 rfl rfl)
theorem dX9_readsTwo_2 : decode cX9_readsTwo 2 = .ok (.putfield 239, 3) := dk_181 0 239 (dk_at dksX9_readsTwo_0 2 rfl rfl)
theorem dX9_readsTwo_5 : decode cX9_readsTwo 5 = .ok (.aload_n 0, 1) := dk_42 (dk_at dksX9_readsTwo_0 5 rfl rfl)
theorem dX9_readsTwo_6 : decode cX9_readsTwo 6 = .ok (.iconst 0, 1) := dk_3 (dk_at dksX9_readsTwo_0 6 rfl rfl)
theorem dX9_readsTwo_7 : decode cX9_readsTwo 7 = .ok (.iload_n 2, 1) := dk_28 (dk_at dksX9_readsTwo_0 7 rfl rfl)
theorem dX9_readsTwo_8 : decode cX9_readsTwo 8 = .ok (.invokevirtual 242, 3) := dk_182 0 242 (dk_at dksX9_readsTwo_0 8 rfl rfl)
theorem dX9_readsTwo_11 : decode cX9_readsTwo 11 = .ok (.ifCond .eq 20, 3) := dk_153 0 20 (dk_at dksX9_readsTwo_0 11 rfl rfl)
theorem dX9_readsTwo_14 : decode cX9_readsTwo 14 = .ok (.iload_n 3, 1) := dk_29 (dk_at dksX9_readsTwo_0 14 rfl rfl)
theorem dX9_readsTwo_15 : decode cX9_readsTwo 15 = .ok (.ifCond .eq 12, 3) := dk_153 0 12 (dk_at dksX9_readsTwo_0 15 rfl rfl)
theorem dX9_readsTwo_18 : decode cX9_readsTwo 18 = .ok (.aload_n 0, 1) := dk_42 (dk_at dksX9_readsTwo_0 18 rfl rfl)
theorem dX9_readsTwo_19 : decode cX9_readsTwo 19 = .ok (.iconst 1, 1) := dk_4 (dk_at dksX9_readsTwo_0 19 rfl rfl)
theorem dX9_readsTwo_20 : decode cX9_readsTwo 20 = .ok (.iload_n 3, 1) := dk_29 (dk_at dksX9_readsTwo_0 20 rfl rfl)
theorem dX9_readsTwo_21 : decode cX9_readsTwo 21 = .ok (.invokevirtual 242, 3) := dk_182 0 242 (dk_at dksX9_readsTwo_0 21 rfl rfl)
theorem dX9_readsTwo_24 : decode cX9_readsTwo 24 = .ok (.ifCond .eq 7, 3) := dk_153 0 7 (dk_at dksX9_readsTwo_1 0 rfl rfl)
theorem dX9_readsTwo_27 : decode cX9_readsTwo 27 = .ok (.iconst 1, 1) := dk_4 (dk_at dksX9_readsTwo_1 3 rfl rfl)
theorem dX9_readsTwo_28 : decode cX9_readsTwo 28 = .ok (.goto 4, 3) := dk_167 0 4 (dk_at dksX9_readsTwo_1 4 rfl rfl)
theorem dX9_readsTwo_31 : decode cX9_readsTwo 31 = .ok (.iconst 0, 1) := dk_3 (dk_at dksX9_readsTwo_1 7 rfl rfl)
theorem dX9_readsTwo_32 : decode cX9_readsTwo 32 = .ok (.ireturn, 1) := dk_172 (dk_at dksX9_readsTwo_1 8 rfl rfl)
abbrev cX9_readsNumber : ByteArray := prog_13_method_83_code
def yX9_readsNumber : MethodName := ⟨RX9, "readsNumber", "(II)Z"⟩
def dkwX9_readsNumber_3 : List UInt8 := [96, 16, 48, 100, 79, 42, 89, 180, 0, 230, 4, 96, 181, 0, 230, 132, 3, 1, 167, 255, 201, 4, 172]
abbrev dktX9_readsNumber_3 : List UInt8 := dkwX9_readsNumber_3 ++ []
def dkwX9_readsNumber_2 : List UInt8 := [184, 0, 74, 153, 0, 42, 42, 180, 0, 39, 27, 16, 10, 42, 180, 0, 39, 27, 46, 104, 42, 182, 0, 233]
abbrev dktX9_readsNumber_2 : List UInt8 := dkwX9_readsNumber_2 ++ dktX9_readsNumber_3
def dkwX9_readsNumber_1 : List UInt8 := [172, 42, 180, 0, 39, 27, 3, 79, 3, 62, 29, 28, 162, 0, 56, 42, 182, 0, 233, 16, 48, 16, 57]
abbrev dktX9_readsNumber_1 : List UInt8 := dkwX9_readsNumber_1 ++ dktX9_readsNumber_2
def dkwX9_readsNumber_0 : List UInt8 := [42, 16, 32, 182, 0, 236, 153, 0, 17, 42, 182, 0, 233, 16, 48, 16, 57, 184, 0, 74, 154, 0, 5, 3]
abbrev dktX9_readsNumber_0 : List UInt8 := dkwX9_readsNumber_0 ++ dktX9_readsNumber_1
theorem dksX9_readsNumber_0 : cX9_readsNumber.data.toList.drop 0 = dktX9_readsNumber_0 := by decide +kernel
theorem dksX9_readsNumber_1 : cX9_readsNumber.data.toList.drop 24 = dktX9_readsNumber_1 := dk_seg dksX9_readsNumber_0 24 rfl rfl
theorem dksX9_readsNumber_2 : cX9_readsNumber.data.toList.drop 47 = dktX9_readsNumber_2 := dk_seg dksX9_readsNumber_1 23 rfl rfl
theorem dksX9_readsNumber_3 : cX9_readsNumber.data.toList.drop 71 = dktX9_readsNumber_3 := dk_seg dksX9_readsNumber_2 24 rfl rfl
theorem dX9_readsNumber_0 : decode cX9_readsNumber 0 = .ok (.aload_n 0, 1) := dk_42 (dk_at dksX9_readsNumber_0 0 rfl rfl)
theorem dX9_readsNumber_1 : decode cX9_readsNumber 1 = .ok (.bipush 32, 2) := dk_16 32 (dk_at dksX9_readsNumber_0 1 rfl rfl)
theorem dX9_readsNumber_3 : decode cX9_readsNumber 3 = .ok (.invokevirtual 236, 3) := dk_182 0 236 (dk_at dksX9_readsNumber_0 3 rfl rfl)
theorem dX9_readsNumber_6 : decode cX9_readsNumber 6 = .ok (.ifCond .eq 17, 3) := dk_153 0 17 (dk_at dksX9_readsNumber_0 6 rfl rfl)
theorem dX9_readsNumber_9 : decode cX9_readsNumber 9 = .ok (.aload_n 0, 1) := dk_42 (dk_at dksX9_readsNumber_0 9 rfl rfl)
theorem dX9_readsNumber_10 : decode cX9_readsNumber 10 = .ok (.invokevirtual 233, 3) := dk_182 0 233 (dk_at dksX9_readsNumber_0 10 rfl rfl)
theorem dX9_readsNumber_13 : decode cX9_readsNumber 13 = .ok (.bipush 48, 2) := dk_16 48 (dk_at dksX9_readsNumber_0 13 rfl rfl)
theorem dX9_readsNumber_15 : decode cX9_readsNumber 15 = .ok (.bipush 57, 2) := dk_16 57 (dk_at dksX9_readsNumber_0 15 rfl rfl)
theorem dX9_readsNumber_17 : decode cX9_readsNumber 17 = .ok (.invokestatic 74, 3) := dk_184 0 74 (dk_at dksX9_readsNumber_0 17 rfl rfl)
theorem dX9_readsNumber_20 : decode cX9_readsNumber 20 = .ok (.ifCond .ne 5, 3) := dk_154 0 5 (dk_at dksX9_readsNumber_0 20 rfl rfl)
theorem dX9_readsNumber_23 : decode cX9_readsNumber 23 = .ok (.iconst 0, 1) := dk_3 (dk_at dksX9_readsNumber_0 23 rfl rfl)
theorem dX9_readsNumber_24 : decode cX9_readsNumber 24 = .ok (.ireturn, 1) := dk_172 (dk_at dksX9_readsNumber_1 0 rfl rfl)
theorem dX9_readsNumber_25 : decode cX9_readsNumber 25 = .ok (.aload_n 0, 1) := dk_42 (dk_at dksX9_readsNumber_1 1 rfl rfl)
theorem dX9_readsNumber_26 : decode cX9_readsNumber 26 = .ok (.getfield 39, 3) := dk_180 0 39 (dk_at dksX9_readsNumber_1 2 rfl rfl)
theorem dX9_readsNumber_29 : decode cX9_readsNumber 29 = .ok (.iload_n 1, 1) := dk_27 (dk_at dksX9_readsNumber_1 5 rfl rfl)
theorem dX9_readsNumber_30 : decode cX9_readsNumber 30 = .ok (.iconst 0, 1) := dk_3 (dk_at dksX9_readsNumber_1 6 rfl rfl)
theorem dX9_readsNumber_31 : decode cX9_readsNumber 31 = .ok (.iastore, 1) := dk_79 (dk_at dksX9_readsNumber_1 7 rfl rfl)
theorem dX9_readsNumber_32 : decode cX9_readsNumber 32 = .ok (.iconst 0, 1) := dk_3 (dk_at dksX9_readsNumber_1 8 rfl rfl)
theorem dX9_readsNumber_33 : decode cX9_readsNumber 33 = .ok (.istore_n 3, 1) := dk_62 (dk_at dksX9_readsNumber_1 9 rfl rfl)
theorem dX9_readsNumber_34 : decode cX9_readsNumber 34 = .ok (.iload_n 3, 1) := dk_29 (dk_at dksX9_readsNumber_1 10 rfl rfl)
theorem dX9_readsNumber_35 : decode cX9_readsNumber 35 = .ok (.iload_n 2, 1) := dk_28 (dk_at dksX9_readsNumber_1 11 rfl rfl)
theorem dX9_readsNumber_36 : decode cX9_readsNumber 36 = .ok (.if_icmp .ge 56, 3) := dk_162 0 56 (dk_at dksX9_readsNumber_1 12 rfl rfl)
theorem dX9_readsNumber_39 : decode cX9_readsNumber 39 = .ok (.aload_n 0, 1) := dk_42 (dk_at dksX9_readsNumber_1 15 rfl rfl)
theorem dX9_readsNumber_40 : decode cX9_readsNumber 40 = .ok (.invokevirtual 233, 3) := dk_182 0 233 (dk_at dksX9_readsNumber_1 16 rfl rfl)
theorem dX9_readsNumber_43 : decode cX9_readsNumber 43 = .ok (.bipush 48, 2) := dk_16 48 (dk_at dksX9_readsNumber_1 19 rfl rfl)
theorem dX9_readsNumber_45 : decode cX9_readsNumber 45 = .ok (.bipush 57, 2) := dk_16 57 (dk_at dksX9_readsNumber_1 21 rfl rfl)
theorem dX9_readsNumber_47 : decode cX9_readsNumber 47 = .ok (.invokestatic 74, 3) := dk_184 0 74 (dk_at dksX9_readsNumber_2 0 rfl rfl)
theorem dX9_readsNumber_50 : decode cX9_readsNumber 50 = .ok (.ifCond .eq 42, 3) := dk_153 0 42 (dk_at dksX9_readsNumber_2 3 rfl rfl)
theorem dX9_readsNumber_53 : decode cX9_readsNumber 53 = .ok (.aload_n 0, 1) := dk_42 (dk_at dksX9_readsNumber_2 6 rfl rfl)
theorem dX9_readsNumber_54 : decode cX9_readsNumber 54 = .ok (.getfield 39, 3) := dk_180 0 39 (dk_at dksX9_readsNumber_2 7 rfl rfl)
theorem dX9_readsNumber_57 : decode cX9_readsNumber 57 = .ok (.iload_n 1, 1) := dk_27 (dk_at dksX9_readsNumber_2 10 rfl rfl)
theorem dX9_readsNumber_58 : decode cX9_readsNumber 58 = .ok (.bipush 10, 2) := dk_16 10 (dk_at dksX9_readsNumber_2 11 rfl rfl)
theorem dX9_readsNumber_60 : decode cX9_readsNumber 60 = .ok (.aload_n 0, 1) := dk_42 (dk_at dksX9_readsNumber_2 13 rfl rfl)
theorem dX9_readsNumber_61 : decode cX9_readsNumber 61 = .ok (.getfield 39, 3) := dk_180 0 39 (dk_at dksX9_readsNumber_2 14 rfl rfl)
theorem dX9_readsNumber_64 : decode cX9_readsNumber 64 = .ok (.iload_n 1, 1) := dk_27 (dk_at dksX9_readsNumber_2 17 rfl rfl)
theorem dX9_readsNumber_65 : decode cX9_readsNumber 65 = .ok (.iaload, 1) := dk_46 (dk_at dksX9_readsNumber_2 18 rfl rfl)
theorem dX9_readsNumber_66 : decode cX9_readsNumber 66 = .ok (.imul, 1) := dk_104 (dk_at dksX9_readsNumber_2 19 rfl rfl)
theorem dX9_readsNumber_67 : decode cX9_readsNumber 67 = .ok (.aload_n 0, 1) := dk_42 (dk_at dksX9_readsNumber_2 20 rfl rfl)
theorem dX9_readsNumber_68 : decode cX9_readsNumber 68 = .ok (.invokevirtual 233, 3) := dk_182 0 233 (dk_at dksX9_readsNumber_2 21 rfl rfl)
theorem dX9_readsNumber_71 : decode cX9_readsNumber 71 = .ok (.iadd, 1) := dk_96 (dk_at dksX9_readsNumber_3 0 rfl rfl)
theorem dX9_readsNumber_72 : decode cX9_readsNumber 72 = .ok (.bipush 48, 2) := dk_16 48 (dk_at dksX9_readsNumber_3 1 rfl rfl)
theorem dX9_readsNumber_74 : decode cX9_readsNumber 74 = .ok (.isub, 1) := dk_100 (dk_at dksX9_readsNumber_3 3 rfl rfl)
theorem dX9_readsNumber_75 : decode cX9_readsNumber 75 = .ok (.iastore, 1) := dk_79 (dk_at dksX9_readsNumber_3 4 rfl rfl)
theorem dX9_readsNumber_76 : decode cX9_readsNumber 76 = .ok (.aload_n 0, 1) := dk_42 (dk_at dksX9_readsNumber_3 5 rfl rfl)
theorem dX9_readsNumber_77 : decode cX9_readsNumber 77 = .ok (.dup, 1) := dk_89 (dk_at dksX9_readsNumber_3 6 rfl rfl)
theorem dX9_readsNumber_78 : decode cX9_readsNumber 78 = .ok (.getfield 230, 3) := dk_180 0 230 (dk_at dksX9_readsNumber_3 7 rfl rfl)
theorem dX9_readsNumber_81 : decode cX9_readsNumber 81 = .ok (.iconst 1, 1) := dk_4 (dk_at dksX9_readsNumber_3 10 rfl rfl)
theorem dX9_readsNumber_82 : decode cX9_readsNumber 82 = .ok (.iadd, 1) := dk_96 (dk_at dksX9_readsNumber_3 11 rfl rfl)
theorem dX9_readsNumber_83 : decode cX9_readsNumber 83 = .ok (.putfield 230, 3) := dk_181 0 230 (dk_at dksX9_readsNumber_3 12 rfl rfl)
theorem dX9_readsNumber_86 : decode cX9_readsNumber 86 = .ok (.iinc 3 1, 3) := dk_132 3 1 (dk_at dksX9_readsNumber_3 15 rfl rfl)
theorem dX9_readsNumber_89 : decode cX9_readsNumber 89 = .ok (.goto (-55), 3) := dk_167 255 201 (dk_at dksX9_readsNumber_3 18 rfl rfl)
theorem dX9_readsNumber_92 : decode cX9_readsNumber 92 = .ok (.iconst 1, 1) := dk_4 (dk_at dksX9_readsNumber_3 21 rfl rfl)
theorem dX9_readsNumber_93 : decode cX9_readsNumber 93 = .ok (.ireturn, 1) := dk_172 (dk_at dksX9_readsNumber_3 22 rfl rfl)
abbrev cX9_readsC : ByteArray := prog_13_method_85_code
def yX9_readsC : MethodName := ⟨RX9, "readsC", "()Z"⟩
def dkwX9_readsC_3 : List UInt8 := [16, 101, 182, 0, 236, 153, 0, 17, 42, 8, 6, 4, 182, 0, 245, 153, 0, 7, 4, 167, 0, 4, 3, 172]
abbrev dktX9_readsC_3 : List UInt8 := dkwX9_readsC_3 ++ []
def dkwX9_readsC_2 : List UInt8 := [167, 0, 4, 3, 172, 42, 16, 111, 182, 0, 236, 153, 0, 35, 42, 16, 109, 182, 0, 236, 153, 0, 26, 42]
abbrev dktX9_readsC_2 : List UInt8 := dkwX9_readsC_2 ++ dktX9_readsC_3
def dkwX9_readsC_1 : List UInt8 := [153, 0, 26, 42, 16, 101, 182, 0, 236, 153, 0, 17, 42, 5, 4, 3, 182, 0, 245, 153, 0, 7, 4]
abbrev dktX9_readsC_1 : List UInt8 := dkwX9_readsC_1 ++ dktX9_readsC_2
def dkwX9_readsC_0 : List UInt8 := [42, 16, 108, 182, 0, 236, 153, 0, 46, 42, 16, 111, 182, 0, 236, 153, 0, 35, 42, 16, 115, 182, 0, 236]
abbrev dktX9_readsC_0 : List UInt8 := dkwX9_readsC_0 ++ dktX9_readsC_1
theorem dksX9_readsC_0 : cX9_readsC.data.toList.drop 0 = dktX9_readsC_0 := by decide +kernel
theorem dksX9_readsC_1 : cX9_readsC.data.toList.drop 24 = dktX9_readsC_1 := dk_seg dksX9_readsC_0 24 rfl rfl
theorem dksX9_readsC_2 : cX9_readsC.data.toList.drop 47 = dktX9_readsC_2 := dk_seg dksX9_readsC_1 23 rfl rfl
theorem dksX9_readsC_3 : cX9_readsC.data.toList.drop 71 = dktX9_readsC_3 := dk_seg dksX9_readsC_2 24 rfl rfl
theorem dX9_readsC_0 : decode cX9_readsC 0 = .ok (.aload_n 0, 1) := dk_42 (dk_at dksX9_readsC_0 0 rfl rfl)
theorem dX9_readsC_1 : decode cX9_readsC 1 = .ok (.bipush 108, 2) := dk_16 108 (dk_at dksX9_readsC_0 1 rfl rfl)
theorem dX9_readsC_3 : decode cX9_readsC 3 = .ok (.invokevirtual 236, 3) := dk_182 0 236 (dk_at dksX9_readsC_0 3 rfl rfl)
theorem dX9_readsC_6 : decode cX9_readsC 6 = .ok (.ifCond .eq 46, 3) := dk_153 0 46 (dk_at dksX9_readsC_0 6 rfl rfl)
theorem dX9_readsC_9 : decode cX9_readsC 9 = .ok (.aload_n 0, 1) := dk_42 (dk_at dksX9_readsC_0 9 rfl rfl)
theorem dX9_readsC_10 : decode cX9_readsC 10 = .ok (.bipush 111, 2) := dk_16 111 (dk_at dksX9_readsC_0 10 rfl rfl)
theorem dX9_readsC_12 : decode cX9_readsC 12 = .ok (.invokevirtual 236, 3) := dk_182 0 236 (dk_at dksX9_readsC_0 12 rfl rfl)
theorem dX9_readsC_15 : decode cX9_readsC 15 = .ok (.ifCond .eq 35, 3) := dk_153 0 35 (dk_at dksX9_readsC_0 15 rfl rfl)
theorem dX9_readsC_18 : decode cX9_readsC 18 = .ok (.aload_n 0, 1) := dk_42 (dk_at dksX9_readsC_0 18 rfl rfl)
theorem dX9_readsC_19 : decode cX9_readsC 19 = .ok (.bipush 115, 2) := dk_16 115 (dk_at dksX9_readsC_0 19 rfl rfl)
theorem dX9_readsC_21 : decode cX9_readsC 21 = .ok (.invokevirtual 236, 3) := dk_182 0 236 (dk_at dksX9_readsC_0 21 rfl rfl)
theorem dX9_readsC_24 : decode cX9_readsC 24 = .ok (.ifCond .eq 26, 3) := dk_153 0 26 (dk_at dksX9_readsC_1 0 rfl rfl)
theorem dX9_readsC_27 : decode cX9_readsC 27 = .ok (.aload_n 0, 1) := dk_42 (dk_at dksX9_readsC_1 3 rfl rfl)
theorem dX9_readsC_28 : decode cX9_readsC 28 = .ok (.bipush 101, 2) := dk_16 101 (dk_at dksX9_readsC_1 4 rfl rfl)
theorem dX9_readsC_30 : decode cX9_readsC 30 = .ok (.invokevirtual 236, 3) := dk_182 0 236 (dk_at dksX9_readsC_1 6 rfl rfl)
theorem dX9_readsC_33 : decode cX9_readsC 33 = .ok (.ifCond .eq 17, 3) := dk_153 0 17 (dk_at dksX9_readsC_1 9 rfl rfl)
theorem dX9_readsC_36 : decode cX9_readsC 36 = .ok (.aload_n 0, 1) := dk_42 (dk_at dksX9_readsC_1 12 rfl rfl)
theorem dX9_readsC_37 : decode cX9_readsC 37 = .ok (.iconst 2, 1) := dk_5 (dk_at dksX9_readsC_1 13 rfl rfl)
theorem dX9_readsC_38 : decode cX9_readsC 38 = .ok (.iconst 1, 1) := dk_4 (dk_at dksX9_readsC_1 14 rfl rfl)
theorem dX9_readsC_39 : decode cX9_readsC 39 = .ok (.iconst 0, 1) := dk_3 (dk_at dksX9_readsC_1 15 rfl rfl)
theorem dX9_readsC_40 : decode cX9_readsC 40 = .ok (.invokevirtual 245, 3) := dk_182 0 245 (dk_at dksX9_readsC_1 16 rfl rfl)
theorem dX9_readsC_43 : decode cX9_readsC 43 = .ok (.ifCond .eq 7, 3) := dk_153 0 7 (dk_at dksX9_readsC_1 19 rfl rfl)
theorem dX9_readsC_46 : decode cX9_readsC 46 = .ok (.iconst 1, 1) := dk_4 (dk_at dksX9_readsC_1 22 rfl rfl)
theorem dX9_readsC_47 : decode cX9_readsC 47 = .ok (.goto 4, 3) := dk_167 0 4 (dk_at dksX9_readsC_2 0 rfl rfl)
theorem dX9_readsC_50 : decode cX9_readsC 50 = .ok (.iconst 0, 1) := dk_3 (dk_at dksX9_readsC_2 3 rfl rfl)
theorem dX9_readsC_51 : decode cX9_readsC 51 = .ok (.ireturn, 1) := dk_172 (dk_at dksX9_readsC_2 4 rfl rfl)
theorem dX9_readsC_52 : decode cX9_readsC 52 = .ok (.aload_n 0, 1) := dk_42 (dk_at dksX9_readsC_2 5 rfl rfl)
theorem dX9_readsC_53 : decode cX9_readsC 53 = .ok (.bipush 111, 2) := dk_16 111 (dk_at dksX9_readsC_2 6 rfl rfl)
theorem dX9_readsC_55 : decode cX9_readsC 55 = .ok (.invokevirtual 236, 3) := dk_182 0 236 (dk_at dksX9_readsC_2 8 rfl rfl)
theorem dX9_readsC_58 : decode cX9_readsC 58 = .ok (.ifCond .eq 35, 3) := dk_153 0 35 (dk_at dksX9_readsC_2 11 rfl rfl)
theorem dX9_readsC_61 : decode cX9_readsC 61 = .ok (.aload_n 0, 1) := dk_42 (dk_at dksX9_readsC_2 14 rfl rfl)
theorem dX9_readsC_62 : decode cX9_readsC 62 = .ok (.bipush 109, 2) := dk_16 109 (dk_at dksX9_readsC_2 15 rfl rfl)
theorem dX9_readsC_64 : decode cX9_readsC 64 = .ok (.invokevirtual 236, 3) := dk_182 0 236 (dk_at dksX9_readsC_2 17 rfl rfl)
theorem dX9_readsC_67 : decode cX9_readsC 67 = .ok (.ifCond .eq 26, 3) := dk_153 0 26 (dk_at dksX9_readsC_2 20 rfl rfl)
theorem dX9_readsC_70 : decode cX9_readsC 70 = .ok (.aload_n 0, 1) := dk_42 (dk_at dksX9_readsC_2 23 rfl rfl)
theorem dX9_readsC_71 : decode cX9_readsC 71 = .ok (.bipush 101, 2) := dk_16 101 (dk_at dksX9_readsC_3 0 rfl rfl)
theorem dX9_readsC_73 : decode cX9_readsC 73 = .ok (.invokevirtual 236, 3) := dk_182 0 236 (dk_at dksX9_readsC_3 2 rfl rfl)
theorem dX9_readsC_76 : decode cX9_readsC 76 = .ok (.ifCond .eq 17, 3) := dk_153 0 17 (dk_at dksX9_readsC_3 5 rfl rfl)
theorem dX9_readsC_79 : decode cX9_readsC 79 = .ok (.aload_n 0, 1) := dk_42 (dk_at dksX9_readsC_3 8 rfl rfl)
theorem dX9_readsC_80 : decode cX9_readsC 80 = .ok (.iconst 5, 1) := dk_8 (dk_at dksX9_readsC_3 9 rfl rfl)
theorem dX9_readsC_81 : decode cX9_readsC 81 = .ok (.iconst 3, 1) := dk_6 (dk_at dksX9_readsC_3 10 rfl rfl)
theorem dX9_readsC_82 : decode cX9_readsC 82 = .ok (.iconst 1, 1) := dk_4 (dk_at dksX9_readsC_3 11 rfl rfl)
theorem dX9_readsC_83 : decode cX9_readsC 83 = .ok (.invokevirtual 245, 3) := dk_182 0 245 (dk_at dksX9_readsC_3 12 rfl rfl)
theorem dX9_readsC_86 : decode cX9_readsC 86 = .ok (.ifCond .eq 7, 3) := dk_153 0 7 (dk_at dksX9_readsC_3 15 rfl rfl)
theorem dX9_readsC_89 : decode cX9_readsC 89 = .ok (.iconst 1, 1) := dk_4 (dk_at dksX9_readsC_3 18 rfl rfl)
theorem dX9_readsC_90 : decode cX9_readsC 90 = .ok (.goto 4, 3) := dk_167 0 4 (dk_at dksX9_readsC_3 19 rfl rfl)
theorem dX9_readsC_93 : decode cX9_readsC 93 = .ok (.iconst 0, 1) := dk_3 (dk_at dksX9_readsC_3 22 rfl rfl)
theorem dX9_readsC_94 : decode cX9_readsC 94 = .ok (.ireturn, 1) := dk_172 (dk_at dksX9_readsC_3 23 rfl rfl)
abbrev cX9_readsO : ByteArray := prog_13_method_86_code
def yX9_readsO : MethodName := ⟨RX9, "readsO", "()Z"⟩
def dkwX9_readsO_3 : List UInt8 := [42, 7, 4, 6, 182, 0, 245, 153, 0, 7, 4, 167, 0, 4, 3, 172]
abbrev dktX9_readsO_3 : List UInt8 := dkwX9_readsO_3 ++ []
def dkwX9_readsO_2 : List UInt8 := [182, 0, 236, 153, 0, 35, 42, 16, 101, 182, 0, 236, 153, 0, 26, 42, 16, 110, 182, 0, 236, 153, 0, 17]
abbrev dktX9_readsO_2 : List UInt8 := dkwX9_readsO_2 ++ dktX9_readsO_3
def dkwX9_readsO_1 : List UInt8 := [153, 0, 17, 42, 6, 4, 3, 182, 0, 245, 153, 0, 7, 4, 167, 0, 4, 3, 172, 42, 16, 118]
abbrev dktX9_readsO_1 : List UInt8 := dkwX9_readsO_1 ++ dktX9_readsO_2
def dkwX9_readsO_0 : List UInt8 := [42, 16, 112, 182, 0, 236, 153, 0, 37, 42, 16, 101, 182, 0, 236, 153, 0, 26, 42, 16, 110, 182, 0, 236]
abbrev dktX9_readsO_0 : List UInt8 := dkwX9_readsO_0 ++ dktX9_readsO_1
theorem dksX9_readsO_0 : cX9_readsO.data.toList.drop 0 = dktX9_readsO_0 := by decide +kernel
theorem dksX9_readsO_1 : cX9_readsO.data.toList.drop 24 = dktX9_readsO_1 := dk_seg dksX9_readsO_0 24 rfl rfl
theorem dksX9_readsO_2 : cX9_readsO.data.toList.drop 46 = dktX9_readsO_2 := dk_seg dksX9_readsO_1 22 rfl rfl
theorem dksX9_readsO_3 : cX9_readsO.data.toList.drop 70 = dktX9_readsO_3 := dk_seg dksX9_readsO_2 24 rfl rfl
theorem dX9_readsO_0 : decode cX9_readsO 0 = .ok (.aload_n 0, 1) := dk_42 (dk_at dksX9_readsO_0 0 rfl rfl)
theorem dX9_readsO_1 : decode cX9_readsO 1 = .ok (.bipush 112, 2) := dk_16 112 (dk_at dksX9_readsO_0 1 rfl rfl)
theorem dX9_readsO_3 : decode cX9_readsO 3 = .ok (.invokevirtual 236, 3) := dk_182 0 236 (dk_at dksX9_readsO_0 3 rfl rfl)
theorem dX9_readsO_6 : decode cX9_readsO 6 = .ok (.ifCond .eq 37, 3) := dk_153 0 37 (dk_at dksX9_readsO_0 6 rfl rfl)
theorem dX9_readsO_9 : decode cX9_readsO 9 = .ok (.aload_n 0, 1) := dk_42 (dk_at dksX9_readsO_0 9 rfl rfl)
theorem dX9_readsO_10 : decode cX9_readsO 10 = .ok (.bipush 101, 2) := dk_16 101 (dk_at dksX9_readsO_0 10 rfl rfl)
theorem dX9_readsO_12 : decode cX9_readsO 12 = .ok (.invokevirtual 236, 3) := dk_182 0 236 (dk_at dksX9_readsO_0 12 rfl rfl)
theorem dX9_readsO_15 : decode cX9_readsO 15 = .ok (.ifCond .eq 26, 3) := dk_153 0 26 (dk_at dksX9_readsO_0 15 rfl rfl)
theorem dX9_readsO_18 : decode cX9_readsO 18 = .ok (.aload_n 0, 1) := dk_42 (dk_at dksX9_readsO_0 18 rfl rfl)
theorem dX9_readsO_19 : decode cX9_readsO 19 = .ok (.bipush 110, 2) := dk_16 110 (dk_at dksX9_readsO_0 19 rfl rfl)
theorem dX9_readsO_21 : decode cX9_readsO 21 = .ok (.invokevirtual 236, 3) := dk_182 0 236 (dk_at dksX9_readsO_0 21 rfl rfl)
theorem dX9_readsO_24 : decode cX9_readsO 24 = .ok (.ifCond .eq 17, 3) := dk_153 0 17 (dk_at dksX9_readsO_1 0 rfl rfl)
theorem dX9_readsO_27 : decode cX9_readsO 27 = .ok (.aload_n 0, 1) := dk_42 (dk_at dksX9_readsO_1 3 rfl rfl)
theorem dX9_readsO_28 : decode cX9_readsO 28 = .ok (.iconst 3, 1) := dk_6 (dk_at dksX9_readsO_1 4 rfl rfl)
theorem dX9_readsO_29 : decode cX9_readsO 29 = .ok (.iconst 1, 1) := dk_4 (dk_at dksX9_readsO_1 5 rfl rfl)
theorem dX9_readsO_30 : decode cX9_readsO 30 = .ok (.iconst 0, 1) := dk_3 (dk_at dksX9_readsO_1 6 rfl rfl)
theorem dX9_readsO_31 : decode cX9_readsO 31 = .ok (.invokevirtual 245, 3) := dk_182 0 245 (dk_at dksX9_readsO_1 7 rfl rfl)
theorem dX9_readsO_34 : decode cX9_readsO 34 = .ok (.ifCond .eq 7, 3) := dk_153 0 7 (dk_at dksX9_readsO_1 10 rfl rfl)
theorem dX9_readsO_37 : decode cX9_readsO 37 = .ok (.iconst 1, 1) := dk_4 (dk_at dksX9_readsO_1 13 rfl rfl)
theorem dX9_readsO_38 : decode cX9_readsO 38 = .ok (.goto 4, 3) := dk_167 0 4 (dk_at dksX9_readsO_1 14 rfl rfl)
theorem dX9_readsO_41 : decode cX9_readsO 41 = .ok (.iconst 0, 1) := dk_3 (dk_at dksX9_readsO_1 17 rfl rfl)
theorem dX9_readsO_42 : decode cX9_readsO 42 = .ok (.ireturn, 1) := dk_172 (dk_at dksX9_readsO_1 18 rfl rfl)
theorem dX9_readsO_43 : decode cX9_readsO 43 = .ok (.aload_n 0, 1) := dk_42 (dk_at dksX9_readsO_1 19 rfl rfl)
theorem dX9_readsO_44 : decode cX9_readsO 44 = .ok (.bipush 118, 2) := dk_16 118 (dk_at dksX9_readsO_1 20 rfl rfl)
theorem dX9_readsO_46 : decode cX9_readsO 46 = .ok (.invokevirtual 236, 3) := dk_182 0 236 (dk_at dksX9_readsO_2 0 rfl rfl)
theorem dX9_readsO_49 : decode cX9_readsO 49 = .ok (.ifCond .eq 35, 3) := dk_153 0 35 (dk_at dksX9_readsO_2 3 rfl rfl)
theorem dX9_readsO_52 : decode cX9_readsO 52 = .ok (.aload_n 0, 1) := dk_42 (dk_at dksX9_readsO_2 6 rfl rfl)
theorem dX9_readsO_53 : decode cX9_readsO 53 = .ok (.bipush 101, 2) := dk_16 101 (dk_at dksX9_readsO_2 7 rfl rfl)
theorem dX9_readsO_55 : decode cX9_readsO 55 = .ok (.invokevirtual 236, 3) := dk_182 0 236 (dk_at dksX9_readsO_2 9 rfl rfl)
theorem dX9_readsO_58 : decode cX9_readsO 58 = .ok (.ifCond .eq 26, 3) := dk_153 0 26 (dk_at dksX9_readsO_2 12 rfl rfl)
theorem dX9_readsO_61 : decode cX9_readsO 61 = .ok (.aload_n 0, 1) := dk_42 (dk_at dksX9_readsO_2 15 rfl rfl)
theorem dX9_readsO_62 : decode cX9_readsO 62 = .ok (.bipush 110, 2) := dk_16 110 (dk_at dksX9_readsO_2 16 rfl rfl)
theorem dX9_readsO_64 : decode cX9_readsO 64 = .ok (.invokevirtual 236, 3) := dk_182 0 236 (dk_at dksX9_readsO_2 18 rfl rfl)
theorem dX9_readsO_67 : decode cX9_readsO 67 = .ok (.ifCond .eq 17, 3) := dk_153 0 17 (dk_at dksX9_readsO_2 21 rfl rfl)
theorem dX9_readsO_70 : decode cX9_readsO 70 = .ok (.aload_n 0, 1) := dk_42 (dk_at dksX9_readsO_3 0 rfl rfl)
theorem dX9_readsO_71 : decode cX9_readsO 71 = .ok (.iconst 4, 1) := dk_7 (dk_at dksX9_readsO_3 1 rfl rfl)
theorem dX9_readsO_72 : decode cX9_readsO 72 = .ok (.iconst 1, 1) := dk_4 (dk_at dksX9_readsO_3 2 rfl rfl)
theorem dX9_readsO_73 : decode cX9_readsO 73 = .ok (.iconst 3, 1) := dk_6 (dk_at dksX9_readsO_3 3 rfl rfl)
theorem dX9_readsO_74 : decode cX9_readsO 74 = .ok (.invokevirtual 245, 3) := dk_182 0 245 (dk_at dksX9_readsO_3 4 rfl rfl)
theorem dX9_readsO_77 : decode cX9_readsO 77 = .ok (.ifCond .eq 7, 3) := dk_153 0 7 (dk_at dksX9_readsO_3 7 rfl rfl)
theorem dX9_readsO_80 : decode cX9_readsO 80 = .ok (.iconst 1, 1) := dk_4 (dk_at dksX9_readsO_3 10 rfl rfl)
theorem dX9_readsO_81 : decode cX9_readsO 81 = .ok (.goto 4, 3) := dk_167 0 4 (dk_at dksX9_readsO_3 11 rfl rfl)
theorem dX9_readsO_84 : decode cX9_readsO 84 = .ok (.iconst 0, 1) := dk_3 (dk_at dksX9_readsO_3 14 rfl rfl)
theorem dX9_readsO_85 : decode cX9_readsO 85 = .ok (.ireturn, 1) := dk_172 (dk_at dksX9_readsO_3 15 rfl rfl)
abbrev cX9_doesAll : ByteArray := prog_13_method_91_code
def yX9_doesAll : MethodName := ⟨RX9, "doesAll", "()Z"⟩
def dkwX9_doesAll_2 : List UInt8 := [16, 59, 182, 0, 236, 60, 167, 255, 214, 4, 172]
abbrev dktX9_doesAll_2 : List UInt8 := dkwX9_doesAll_2 ++ []
def dkwX9_doesAll_1 : List UInt8 := [182, 1, 5, 153, 0, 5, 3, 172, 42, 182, 1, 8, 87, 42, 89, 180, 1, 2, 4, 96, 181, 1, 2, 42]
abbrev dktX9_doesAll_1 : List UInt8 := dkwX9_doesAll_1 ++ dktX9_doesAll_2
def dkwX9_doesAll_0 : List UInt8 := [42, 3, 181, 1, 2, 42, 3, 181, 0, 230, 4, 60, 27, 153, 0, 44, 42, 182, 0, 255, 153, 0, 10, 42]
abbrev dktX9_doesAll_0 : List UInt8 := dkwX9_doesAll_0 ++ dktX9_doesAll_1
theorem dksX9_doesAll_0 : cX9_doesAll.data.toList.drop 0 = dktX9_doesAll_0 := by decide +kernel
theorem dksX9_doesAll_1 : cX9_doesAll.data.toList.drop 24 = dktX9_doesAll_1 := dk_seg dksX9_doesAll_0 24 rfl rfl
theorem dksX9_doesAll_2 : cX9_doesAll.data.toList.drop 48 = dktX9_doesAll_2 := dk_seg dksX9_doesAll_1 24 rfl rfl
theorem dX9_doesAll_0 : decode cX9_doesAll 0 = .ok (.aload_n 0, 1) := dk_42 (dk_at dksX9_doesAll_0 0 rfl rfl)
theorem dX9_doesAll_1 : decode cX9_doesAll 1 = .ok (.iconst 0, 1) := dk_3 (dk_at dksX9_doesAll_0 1 rfl rfl)
theorem dX9_doesAll_2 : decode cX9_doesAll 2 = .ok (.putfield 258, 3) := dk_181 1 2 (dk_at dksX9_doesAll_0 2 rfl rfl)
theorem dX9_doesAll_5 : decode cX9_doesAll 5 = .ok (.aload_n 0, 1) := dk_42 (dk_at dksX9_doesAll_0 5 rfl rfl)
theorem dX9_doesAll_6 : decode cX9_doesAll 6 = .ok (.iconst 0, 1) := dk_3 (dk_at dksX9_doesAll_0 6 rfl rfl)
theorem dX9_doesAll_7 : decode cX9_doesAll 7 = .ok (.putfield 230, 3) := dk_181 0 230 (dk_at dksX9_doesAll_0 7 rfl rfl)
theorem dX9_doesAll_10 : decode cX9_doesAll 10 = .ok (.iconst 1, 1) := dk_4 (dk_at dksX9_doesAll_0 10 rfl rfl)
theorem dX9_doesAll_11 : decode cX9_doesAll 11 = .ok (.istore_n 1, 1) := dk_60 (dk_at dksX9_doesAll_0 11 rfl rfl)
theorem dX9_doesAll_12 : decode cX9_doesAll 12 = .ok (.iload_n 1, 1) := dk_27 (dk_at dksX9_doesAll_0 12 rfl rfl)
theorem dX9_doesAll_13 : decode cX9_doesAll 13 = .ok (.ifCond .eq 44, 3) := dk_153 0 44 (dk_at dksX9_doesAll_0 13 rfl rfl)
theorem dX9_doesAll_16 : decode cX9_doesAll 16 = .ok (.aload_n 0, 1) := dk_42 (dk_at dksX9_doesAll_0 16 rfl rfl)
theorem dX9_doesAll_17 : decode cX9_doesAll 17 = .ok (.invokevirtual 255, 3) := dk_182 0 255 (dk_at dksX9_doesAll_0 17 rfl rfl)
theorem dX9_doesAll_20 : decode cX9_doesAll 20 = .ok (.ifCond .eq 10, 3) := dk_153 0 10 (dk_at dksX9_doesAll_0 20 rfl rfl)
theorem dX9_doesAll_23 : decode cX9_doesAll 23 = .ok (.aload_n 0, 1) := dk_42 (dk_at dksX9_doesAll_0 23 rfl rfl)
theorem dX9_doesAll_24 : decode cX9_doesAll 24 = .ok (.invokevirtual 261, 3) := dk_182 1 5 (dk_at dksX9_doesAll_1 0 rfl rfl)
theorem dX9_doesAll_27 : decode cX9_doesAll 27 = .ok (.ifCond .eq 5, 3) := dk_153 0 5 (dk_at dksX9_doesAll_1 3 rfl rfl)
theorem dX9_doesAll_30 : decode cX9_doesAll 30 = .ok (.iconst 0, 1) := dk_3 (dk_at dksX9_doesAll_1 6 rfl rfl)
theorem dX9_doesAll_31 : decode cX9_doesAll 31 = .ok (.ireturn, 1) := dk_172 (dk_at dksX9_doesAll_1 7 rfl rfl)
theorem dX9_doesAll_32 : decode cX9_doesAll 32 = .ok (.aload_n 0, 1) := dk_42 (dk_at dksX9_doesAll_1 8 rfl rfl)
theorem dX9_doesAll_33 : decode cX9_doesAll 33 = .ok (.invokevirtual 264, 3) := dk_182 1 8 (dk_at dksX9_doesAll_1 9 rfl rfl)
theorem dX9_doesAll_36 : decode cX9_doesAll 36 = .ok (.pop, 1) := dk_87 (dk_at dksX9_doesAll_1 12 rfl rfl)
theorem dX9_doesAll_37 : decode cX9_doesAll 37 = .ok (.aload_n 0, 1) := dk_42 (dk_at dksX9_doesAll_1 13 rfl rfl)
theorem dX9_doesAll_38 : decode cX9_doesAll 38 = .ok (.dup, 1) := dk_89 (dk_at dksX9_doesAll_1 14 rfl rfl)
theorem dX9_doesAll_39 : decode cX9_doesAll 39 = .ok (.getfield 258, 3) := dk_180 1 2 (dk_at dksX9_doesAll_1 15 rfl rfl)
theorem dX9_doesAll_42 : decode cX9_doesAll 42 = .ok (.iconst 1, 1) := dk_4 (dk_at dksX9_doesAll_1 18 rfl rfl)
theorem dX9_doesAll_43 : decode cX9_doesAll 43 = .ok (.iadd, 1) := dk_96 (dk_at dksX9_doesAll_1 19 rfl rfl)
theorem dX9_doesAll_44 : decode cX9_doesAll 44 = .ok (.putfield 258, 3) := dk_181 1 2 (dk_at dksX9_doesAll_1 20 rfl rfl)
theorem dX9_doesAll_47 : decode cX9_doesAll 47 = .ok (.aload_n 0, 1) := dk_42 (dk_at dksX9_doesAll_1 23 rfl rfl)
theorem dX9_doesAll_48 : decode cX9_doesAll 48 = .ok (.bipush 59, 2) := dk_16 59 (dk_at dksX9_doesAll_2 0 rfl rfl)
theorem dX9_doesAll_50 : decode cX9_doesAll 50 = .ok (.invokevirtual 236, 3) := dk_182 0 236 (dk_at dksX9_doesAll_2 2 rfl rfl)
theorem dX9_doesAll_53 : decode cX9_doesAll 53 = .ok (.istore_n 1, 1) := dk_60 (dk_at dksX9_doesAll_2 5 rfl rfl)
theorem dX9_doesAll_54 : decode cX9_doesAll 54 = .ok (.goto (-42), 3) := dk_167 255 214 (dk_at dksX9_doesAll_2 6 rfl rfl)
theorem dX9_doesAll_57 : decode cX9_doesAll 57 = .ok (.iconst 1, 1) := dk_4 (dk_at dksX9_doesAll_2 9 rfl rfl)
theorem dX9_doesAll_58 : decode cX9_doesAll 58 = .ok (.ireturn, 1) := dk_172 (dk_at dksX9_doesAll_2 10 rfl rfl)
abbrev cX9_notNow : ByteArray := prog_13_method_89_code
def yX9_notNow : MethodName := ⟨RX9, "notNow", "()I"⟩
def dkwX9_notNow_3 : List UInt8 := [172, 42, 27, 28, 182, 0, 181, 172, 42, 27, 28, 182, 0, 187, 172, 42, 27, 182, 0, 196, 172]
abbrev dktX9_notNow_3 : List UInt8 := dkwX9_notNow_3 ++ []
def dkwX9_notNow_2 : List UInt8 := [42, 27, 28, 182, 0, 152, 172, 42, 27, 182, 0, 162, 172, 42, 27, 182, 0, 172, 172, 42, 27, 182, 0, 178]
abbrev dktX9_notNow_2 : List UInt8 := dkwX9_notNow_2 ++ dktX9_notNow_3
def dkwX9_notNow_1 : List UInt8 := [170, 0, 0, 0, 0, 77, 0, 0, 0, 0, 0, 0, 0, 5, 0, 0, 0, 38, 0, 0, 0, 45, 0, 0, 0, 51, 0, 0, 0, 57, 0, 0, 0, 63, 0, 0, 0, 70]
abbrev dktX9_notNow_1 : List UInt8 := dkwX9_notNow_1 ++ dktX9_notNow_2
def dkwX9_notNow_0 : List UInt8 := [42, 180, 0, 39, 3, 46, 60, 42, 180, 0, 39, 4, 46, 61, 42, 180, 0, 239]
abbrev dktX9_notNow_0 : List UInt8 := dkwX9_notNow_0 ++ dktX9_notNow_1
theorem dksX9_notNow_0 : cX9_notNow.data.toList.drop 0 = dktX9_notNow_0 := by decide +kernel
theorem dksX9_notNow_1 : cX9_notNow.data.toList.drop 18 = dktX9_notNow_1 := dk_seg dksX9_notNow_0 18 rfl rfl
theorem dksX9_notNow_2 : cX9_notNow.data.toList.drop 56 = dktX9_notNow_2 := dk_seg dksX9_notNow_1 38 rfl rfl
theorem dksX9_notNow_3 : cX9_notNow.data.toList.drop 80 = dktX9_notNow_3 := dk_seg dksX9_notNow_2 24 rfl rfl
theorem dX9_notNow_0 : decode cX9_notNow 0 = .ok (.aload_n 0, 1) := dk_42 (dk_at dksX9_notNow_0 0 rfl rfl)
theorem dX9_notNow_1 : decode cX9_notNow 1 = .ok (.getfield 39, 3) := dk_180 0 39 (dk_at dksX9_notNow_0 1 rfl rfl)
theorem dX9_notNow_4 : decode cX9_notNow 4 = .ok (.iconst 0, 1) := dk_3 (dk_at dksX9_notNow_0 4 rfl rfl)
theorem dX9_notNow_5 : decode cX9_notNow 5 = .ok (.iaload, 1) := dk_46 (dk_at dksX9_notNow_0 5 rfl rfl)
theorem dX9_notNow_6 : decode cX9_notNow 6 = .ok (.istore_n 1, 1) := dk_60 (dk_at dksX9_notNow_0 6 rfl rfl)
theorem dX9_notNow_7 : decode cX9_notNow 7 = .ok (.aload_n 0, 1) := dk_42 (dk_at dksX9_notNow_0 7 rfl rfl)
theorem dX9_notNow_8 : decode cX9_notNow 8 = .ok (.getfield 39, 3) := dk_180 0 39 (dk_at dksX9_notNow_0 8 rfl rfl)
theorem dX9_notNow_11 : decode cX9_notNow 11 = .ok (.iconst 1, 1) := dk_4 (dk_at dksX9_notNow_0 11 rfl rfl)
theorem dX9_notNow_12 : decode cX9_notNow 12 = .ok (.iaload, 1) := dk_46 (dk_at dksX9_notNow_0 12 rfl rfl)
theorem dX9_notNow_13 : decode cX9_notNow 13 = .ok (.istore_n 2, 1) := dk_61 (dk_at dksX9_notNow_0 13 rfl rfl)
theorem dX9_notNow_14 : decode cX9_notNow 14 = .ok (.aload_n 0, 1) := dk_42 (dk_at dksX9_notNow_0 14 rfl rfl)
theorem dX9_notNow_15 : decode cX9_notNow 15 = .ok (.getfield 239, 3) := dk_180 0 239 (dk_at dksX9_notNow_0 15 rfl rfl)
theorem dX9_notNow_18 : decode cX9_notNow 18 = .ok (.tableswitch 77 0 5 #[38, 45, 51, 57, 63, 70], 38) := by decide +kernel
theorem dX9_notNow_56 : decode cX9_notNow 56 = .ok (.aload_n 0, 1) := dk_42 (dk_at dksX9_notNow_2 0 rfl rfl)
theorem dX9_notNow_57 : decode cX9_notNow 57 = .ok (.iload_n 1, 1) := dk_27 (dk_at dksX9_notNow_2 1 rfl rfl)
theorem dX9_notNow_58 : decode cX9_notNow 58 = .ok (.iload_n 2, 1) := dk_28 (dk_at dksX9_notNow_2 2 rfl rfl)
theorem dX9_notNow_59 : decode cX9_notNow 59 = .ok (.invokevirtual 152, 3) := dk_182 0 152 (dk_at dksX9_notNow_2 3 rfl rfl)
theorem dX9_notNow_62 : decode cX9_notNow 62 = .ok (.ireturn, 1) := dk_172 (dk_at dksX9_notNow_2 6 rfl rfl)
theorem dX9_notNow_63 : decode cX9_notNow 63 = .ok (.aload_n 0, 1) := dk_42 (dk_at dksX9_notNow_2 7 rfl rfl)
theorem dX9_notNow_64 : decode cX9_notNow 64 = .ok (.iload_n 1, 1) := dk_27 (dk_at dksX9_notNow_2 8 rfl rfl)
theorem dX9_notNow_65 : decode cX9_notNow 65 = .ok (.invokevirtual 162, 3) := dk_182 0 162 (dk_at dksX9_notNow_2 9 rfl rfl)
theorem dX9_notNow_68 : decode cX9_notNow 68 = .ok (.ireturn, 1) := dk_172 (dk_at dksX9_notNow_2 12 rfl rfl)
theorem dX9_notNow_69 : decode cX9_notNow 69 = .ok (.aload_n 0, 1) := dk_42 (dk_at dksX9_notNow_2 13 rfl rfl)
theorem dX9_notNow_70 : decode cX9_notNow 70 = .ok (.iload_n 1, 1) := dk_27 (dk_at dksX9_notNow_2 14 rfl rfl)
theorem dX9_notNow_71 : decode cX9_notNow 71 = .ok (.invokevirtual 172, 3) := dk_182 0 172 (dk_at dksX9_notNow_2 15 rfl rfl)
theorem dX9_notNow_74 : decode cX9_notNow 74 = .ok (.ireturn, 1) := dk_172 (dk_at dksX9_notNow_2 18 rfl rfl)
theorem dX9_notNow_75 : decode cX9_notNow 75 = .ok (.aload_n 0, 1) := dk_42 (dk_at dksX9_notNow_2 19 rfl rfl)
theorem dX9_notNow_76 : decode cX9_notNow 76 = .ok (.iload_n 1, 1) := dk_27 (dk_at dksX9_notNow_2 20 rfl rfl)
theorem dX9_notNow_77 : decode cX9_notNow 77 = .ok (.invokevirtual 178, 3) := dk_182 0 178 (dk_at dksX9_notNow_2 21 rfl rfl)
theorem dX9_notNow_80 : decode cX9_notNow 80 = .ok (.ireturn, 1) := dk_172 (dk_at dksX9_notNow_3 0 rfl rfl)
theorem dX9_notNow_81 : decode cX9_notNow 81 = .ok (.aload_n 0, 1) := dk_42 (dk_at dksX9_notNow_3 1 rfl rfl)
theorem dX9_notNow_82 : decode cX9_notNow 82 = .ok (.iload_n 1, 1) := dk_27 (dk_at dksX9_notNow_3 2 rfl rfl)
theorem dX9_notNow_83 : decode cX9_notNow 83 = .ok (.iload_n 2, 1) := dk_28 (dk_at dksX9_notNow_3 3 rfl rfl)
theorem dX9_notNow_84 : decode cX9_notNow 84 = .ok (.invokevirtual 181, 3) := dk_182 0 181 (dk_at dksX9_notNow_3 4 rfl rfl)
theorem dX9_notNow_87 : decode cX9_notNow 87 = .ok (.ireturn, 1) := dk_172 (dk_at dksX9_notNow_3 7 rfl rfl)
theorem dX9_notNow_88 : decode cX9_notNow 88 = .ok (.aload_n 0, 1) := dk_42 (dk_at dksX9_notNow_3 8 rfl rfl)
theorem dX9_notNow_89 : decode cX9_notNow 89 = .ok (.iload_n 1, 1) := dk_27 (dk_at dksX9_notNow_3 9 rfl rfl)
theorem dX9_notNow_90 : decode cX9_notNow 90 = .ok (.iload_n 2, 1) := dk_28 (dk_at dksX9_notNow_3 10 rfl rfl)
theorem dX9_notNow_91 : decode cX9_notNow 91 = .ok (.invokevirtual 187, 3) := dk_182 0 187 (dk_at dksX9_notNow_3 11 rfl rfl)
theorem dX9_notNow_94 : decode cX9_notNow 94 = .ok (.ireturn, 1) := dk_172 (dk_at dksX9_notNow_3 14 rfl rfl)
theorem dX9_notNow_95 : decode cX9_notNow 95 = .ok (.aload_n 0, 1) := dk_42 (dk_at dksX9_notNow_3 15 rfl rfl)
theorem dX9_notNow_96 : decode cX9_notNow 96 = .ok (.iload_n 1, 1) := dk_27 (dk_at dksX9_notNow_3 16 rfl rfl)
theorem dX9_notNow_97 : decode cX9_notNow 97 = .ok (.invokevirtual 196, 3) := dk_182 0 196 (dk_at dksX9_notNow_3 17 rfl rfl)
theorem dX9_notNow_100 : decode cX9_notNow 100 = .ok (.ireturn, 1) := dk_172 (dk_at dksX9_notNow_3 20 rfl rfl)
abbrev cX9_doesNow : ByteArray := prog_13_method_90_code
def yX9_doesNow : MethodName := ⟨RX9, "doesNow", "()I"⟩
def dkwX9_doesNow_3 : List UInt8 := [182, 0, 175, 172, 42, 27, 28, 182, 0, 184, 172, 42, 27, 28, 182, 0, 190, 172, 42, 27, 182, 0, 199, 172]
abbrev dktX9_doesNow_3 : List UInt8 := dkwX9_doesNow_3 ++ []
def dkwX9_doesNow_2 : List UInt8 := [42, 27, 28, 182, 0, 155, 172, 42, 27, 182, 0, 165, 172, 42, 27, 4, 182, 0, 175, 172, 42, 27, 3]
abbrev dktX9_doesNow_2 : List UInt8 := dkwX9_doesNow_2 ++ dktX9_doesNow_3
def dkwX9_doesNow_1 : List UInt8 := [170, 0, 0, 0, 0, 79, 0, 0, 0, 0, 0, 0, 0, 5, 0, 0, 0, 38, 0, 0, 0, 45, 0, 0, 0, 51, 0, 0, 0, 58, 0, 0, 0, 65, 0, 0, 0, 72]
abbrev dktX9_doesNow_1 : List UInt8 := dkwX9_doesNow_1 ++ dktX9_doesNow_2
def dkwX9_doesNow_0 : List UInt8 := [42, 180, 0, 39, 3, 46, 60, 42, 180, 0, 39, 4, 46, 61, 42, 180, 0, 239]
abbrev dktX9_doesNow_0 : List UInt8 := dkwX9_doesNow_0 ++ dktX9_doesNow_1
theorem dksX9_doesNow_0 : cX9_doesNow.data.toList.drop 0 = dktX9_doesNow_0 := by decide +kernel
theorem dksX9_doesNow_1 : cX9_doesNow.data.toList.drop 18 = dktX9_doesNow_1 := dk_seg dksX9_doesNow_0 18 rfl rfl
theorem dksX9_doesNow_2 : cX9_doesNow.data.toList.drop 56 = dktX9_doesNow_2 := dk_seg dksX9_doesNow_1 38 rfl rfl
theorem dksX9_doesNow_3 : cX9_doesNow.data.toList.drop 79 = dktX9_doesNow_3 := dk_seg dksX9_doesNow_2 23 rfl rfl
theorem dX9_doesNow_0 : decode cX9_doesNow 0 = .ok (.aload_n 0, 1) := dk_42 (dk_at dksX9_doesNow_0 0 rfl rfl)
theorem dX9_doesNow_1 : decode cX9_doesNow 1 = .ok (.getfield 39, 3) := dk_180 0 39 (dk_at dksX9_doesNow_0 1 rfl rfl)
theorem dX9_doesNow_4 : decode cX9_doesNow 4 = .ok (.iconst 0, 1) := dk_3 (dk_at dksX9_doesNow_0 4 rfl rfl)
theorem dX9_doesNow_5 : decode cX9_doesNow 5 = .ok (.iaload, 1) := dk_46 (dk_at dksX9_doesNow_0 5 rfl rfl)
theorem dX9_doesNow_6 : decode cX9_doesNow 6 = .ok (.istore_n 1, 1) := dk_60 (dk_at dksX9_doesNow_0 6 rfl rfl)
theorem dX9_doesNow_7 : decode cX9_doesNow 7 = .ok (.aload_n 0, 1) := dk_42 (dk_at dksX9_doesNow_0 7 rfl rfl)
theorem dX9_doesNow_8 : decode cX9_doesNow 8 = .ok (.getfield 39, 3) := dk_180 0 39 (dk_at dksX9_doesNow_0 8 rfl rfl)
theorem dX9_doesNow_11 : decode cX9_doesNow 11 = .ok (.iconst 1, 1) := dk_4 (dk_at dksX9_doesNow_0 11 rfl rfl)
theorem dX9_doesNow_12 : decode cX9_doesNow 12 = .ok (.iaload, 1) := dk_46 (dk_at dksX9_doesNow_0 12 rfl rfl)
theorem dX9_doesNow_13 : decode cX9_doesNow 13 = .ok (.istore_n 2, 1) := dk_61 (dk_at dksX9_doesNow_0 13 rfl rfl)
theorem dX9_doesNow_14 : decode cX9_doesNow 14 = .ok (.aload_n 0, 1) := dk_42 (dk_at dksX9_doesNow_0 14 rfl rfl)
theorem dX9_doesNow_15 : decode cX9_doesNow 15 = .ok (.getfield 239, 3) := dk_180 0 239 (dk_at dksX9_doesNow_0 15 rfl rfl)
theorem dX9_doesNow_18 : decode cX9_doesNow 18 = .ok (.tableswitch 79 0 5 #[38, 45, 51, 58, 65, 72], 38) := by decide +kernel
theorem dX9_doesNow_56 : decode cX9_doesNow 56 = .ok (.aload_n 0, 1) := dk_42 (dk_at dksX9_doesNow_2 0 rfl rfl)
theorem dX9_doesNow_57 : decode cX9_doesNow 57 = .ok (.iload_n 1, 1) := dk_27 (dk_at dksX9_doesNow_2 1 rfl rfl)
theorem dX9_doesNow_58 : decode cX9_doesNow 58 = .ok (.iload_n 2, 1) := dk_28 (dk_at dksX9_doesNow_2 2 rfl rfl)
theorem dX9_doesNow_59 : decode cX9_doesNow 59 = .ok (.invokevirtual 155, 3) := dk_182 0 155 (dk_at dksX9_doesNow_2 3 rfl rfl)
theorem dX9_doesNow_62 : decode cX9_doesNow 62 = .ok (.ireturn, 1) := dk_172 (dk_at dksX9_doesNow_2 6 rfl rfl)
theorem dX9_doesNow_63 : decode cX9_doesNow 63 = .ok (.aload_n 0, 1) := dk_42 (dk_at dksX9_doesNow_2 7 rfl rfl)
theorem dX9_doesNow_64 : decode cX9_doesNow 64 = .ok (.iload_n 1, 1) := dk_27 (dk_at dksX9_doesNow_2 8 rfl rfl)
theorem dX9_doesNow_65 : decode cX9_doesNow 65 = .ok (.invokevirtual 165, 3) := dk_182 0 165 (dk_at dksX9_doesNow_2 9 rfl rfl)
theorem dX9_doesNow_68 : decode cX9_doesNow 68 = .ok (.ireturn, 1) := dk_172 (dk_at dksX9_doesNow_2 12 rfl rfl)
theorem dX9_doesNow_69 : decode cX9_doesNow 69 = .ok (.aload_n 0, 1) := dk_42 (dk_at dksX9_doesNow_2 13 rfl rfl)
theorem dX9_doesNow_70 : decode cX9_doesNow 70 = .ok (.iload_n 1, 1) := dk_27 (dk_at dksX9_doesNow_2 14 rfl rfl)
theorem dX9_doesNow_71 : decode cX9_doesNow 71 = .ok (.iconst 1, 1) := dk_4 (dk_at dksX9_doesNow_2 15 rfl rfl)
theorem dX9_doesNow_72 : decode cX9_doesNow 72 = .ok (.invokevirtual 175, 3) := dk_182 0 175 (dk_at dksX9_doesNow_2 16 rfl rfl)
theorem dX9_doesNow_75 : decode cX9_doesNow 75 = .ok (.ireturn, 1) := dk_172 (dk_at dksX9_doesNow_2 19 rfl rfl)
theorem dX9_doesNow_76 : decode cX9_doesNow 76 = .ok (.aload_n 0, 1) := dk_42 (dk_at dksX9_doesNow_2 20 rfl rfl)
theorem dX9_doesNow_77 : decode cX9_doesNow 77 = .ok (.iload_n 1, 1) := dk_27 (dk_at dksX9_doesNow_2 21 rfl rfl)
theorem dX9_doesNow_78 : decode cX9_doesNow 78 = .ok (.iconst 0, 1) := dk_3 (dk_at dksX9_doesNow_2 22 rfl rfl)
theorem dX9_doesNow_79 : decode cX9_doesNow 79 = .ok (.invokevirtual 175, 3) := dk_182 0 175 (dk_at dksX9_doesNow_3 0 rfl rfl)
theorem dX9_doesNow_82 : decode cX9_doesNow 82 = .ok (.ireturn, 1) := dk_172 (dk_at dksX9_doesNow_3 3 rfl rfl)
theorem dX9_doesNow_83 : decode cX9_doesNow 83 = .ok (.aload_n 0, 1) := dk_42 (dk_at dksX9_doesNow_3 4 rfl rfl)
theorem dX9_doesNow_84 : decode cX9_doesNow 84 = .ok (.iload_n 1, 1) := dk_27 (dk_at dksX9_doesNow_3 5 rfl rfl)
theorem dX9_doesNow_85 : decode cX9_doesNow 85 = .ok (.iload_n 2, 1) := dk_28 (dk_at dksX9_doesNow_3 6 rfl rfl)
theorem dX9_doesNow_86 : decode cX9_doesNow 86 = .ok (.invokevirtual 184, 3) := dk_182 0 184 (dk_at dksX9_doesNow_3 7 rfl rfl)
theorem dX9_doesNow_89 : decode cX9_doesNow 89 = .ok (.ireturn, 1) := dk_172 (dk_at dksX9_doesNow_3 10 rfl rfl)
theorem dX9_doesNow_90 : decode cX9_doesNow 90 = .ok (.aload_n 0, 1) := dk_42 (dk_at dksX9_doesNow_3 11 rfl rfl)
theorem dX9_doesNow_91 : decode cX9_doesNow 91 = .ok (.iload_n 1, 1) := dk_27 (dk_at dksX9_doesNow_3 12 rfl rfl)
theorem dX9_doesNow_92 : decode cX9_doesNow 92 = .ok (.iload_n 2, 1) := dk_28 (dk_at dksX9_doesNow_3 13 rfl rfl)
theorem dX9_doesNow_93 : decode cX9_doesNow 93 = .ok (.invokevirtual 190, 3) := dk_182 0 190 (dk_at dksX9_doesNow_3 14 rfl rfl)
theorem dX9_doesNow_96 : decode cX9_doesNow 96 = .ok (.ireturn, 1) := dk_172 (dk_at dksX9_doesNow_3 17 rfl rfl)
theorem dX9_doesNow_97 : decode cX9_doesNow 97 = .ok (.aload_n 0, 1) := dk_42 (dk_at dksX9_doesNow_3 18 rfl rfl)
theorem dX9_doesNow_98 : decode cX9_doesNow 98 = .ok (.iload_n 1, 1) := dk_27 (dk_at dksX9_doesNow_3 19 rfl rfl)
theorem dX9_doesNow_99 : decode cX9_doesNow 99 = .ok (.invokevirtual 199, 3) := dk_182 0 199 (dk_at dksX9_doesNow_3 20 rfl rfl)
theorem dX9_doesNow_102 : decode cX9_doesNow 102 = .ok (.ireturn, 1) := dk_172 (dk_at dksX9_doesNow_3 23 rfl rfl)
abbrev cX9_faultPosition : ByteArray := prog_13_method_93_code
def yX9_faultPosition : MethodName := ⟨RX9, "faultPosition", "()I"⟩
def dkwX9_faultPosition_1 : List UInt8 := [172]
abbrev dktX9_faultPosition_1 : List UInt8 := dkwX9_faultPosition_1 ++ []
def dkwX9_faultPosition_0 : List UInt8 := [42, 3, 181, 0, 45, 42, 180, 0, 35, 156, 0, 11, 42, 4, 182, 0, 58, 167, 0, 7, 42, 180, 0, 35]
abbrev dktX9_faultPosition_0 : List UInt8 := dkwX9_faultPosition_0 ++ dktX9_faultPosition_1
theorem dksX9_faultPosition_0 : cX9_faultPosition.data.toList.drop 0 = dktX9_faultPosition_0 := by decide +kernel
theorem dksX9_faultPosition_1 : cX9_faultPosition.data.toList.drop 24 = dktX9_faultPosition_1 := dk_seg dksX9_faultPosition_0 24 rfl rfl
theorem dX9_faultPosition_0 : decode cX9_faultPosition 0 = .ok (.aload_n 0, 1) := dk_42 (dk_at dksX9_faultPosition_0 0 rfl rfl)
theorem dX9_faultPosition_1 : decode cX9_faultPosition 1 = .ok (.iconst 0, 1) := dk_3 (dk_at dksX9_faultPosition_0 1 rfl rfl)
theorem dX9_faultPosition_2 : decode cX9_faultPosition 2 = .ok (.putfield 45, 3) := dk_181 0 45 (dk_at dksX9_faultPosition_0 2 rfl rfl)
theorem dX9_faultPosition_5 : decode cX9_faultPosition 5 = .ok (.aload_n 0, 1) := dk_42 (dk_at dksX9_faultPosition_0 5 rfl rfl)
theorem dX9_faultPosition_6 : decode cX9_faultPosition 6 = .ok (.getfield 35, 3) := dk_180 0 35 (dk_at dksX9_faultPosition_0 6 rfl rfl)
theorem dX9_faultPosition_9 : decode cX9_faultPosition 9 = .ok (.ifCond .ge 11, 3) := dk_156 0 11 (dk_at dksX9_faultPosition_0 9 rfl rfl)
theorem dX9_faultPosition_12 : decode cX9_faultPosition 12 = .ok (.aload_n 0, 1) := dk_42 (dk_at dksX9_faultPosition_0 12 rfl rfl)
theorem dX9_faultPosition_13 : decode cX9_faultPosition 13 = .ok (.iconst 1, 1) := dk_4 (dk_at dksX9_faultPosition_0 13 rfl rfl)
theorem dX9_faultPosition_14 : decode cX9_faultPosition 14 = .ok (.invokevirtual 58, 3) := dk_182 0 58 (dk_at dksX9_faultPosition_0 14 rfl rfl)
theorem dX9_faultPosition_17 : decode cX9_faultPosition 17 = .ok (.goto 7, 3) := dk_167 0 7 (dk_at dksX9_faultPosition_0 17 rfl rfl)
theorem dX9_faultPosition_20 : decode cX9_faultPosition 20 = .ok (.aload_n 0, 1) := dk_42 (dk_at dksX9_faultPosition_0 20 rfl rfl)
theorem dX9_faultPosition_21 : decode cX9_faultPosition 21 = .ok (.getfield 35, 3) := dk_180 0 35 (dk_at dksX9_faultPosition_0 21 rfl rfl)
theorem dX9_faultPosition_24 : decode cX9_faultPosition 24 = .ok (.ireturn, 1) := dk_172 (dk_at dksX9_faultPosition_1 0 rfl rfl)
abbrev cX9_reason : ByteArray := prog_13_method_94_code
def yX9_reason : MethodName := ⟨RX9, "reason", "(IZ)I"⟩
def dkwX9_reason_2 : List UInt8 := [42, 180, 0, 7, 27, 46, 172]
abbrev dktX9_reason_2 : List UInt8 := dkwX9_reason_2 ++ []
def dkwX9_reason_1 : List UInt8 := [27, 46, 154, 0, 9, 42, 5, 182, 0, 58, 172, 28, 153, 0, 12, 42, 180, 0, 13, 27, 46, 167, 0, 9]
abbrev dktX9_reason_1 : List UInt8 := dkwX9_reason_1 ++ dktX9_reason_2
def dkwX9_reason_0 : List UInt8 := [42, 3, 181, 0, 45, 27, 3, 4, 184, 0, 74, 154, 0, 9, 42, 4, 182, 0, 58, 172, 42, 180, 0, 7]
abbrev dktX9_reason_0 : List UInt8 := dkwX9_reason_0 ++ dktX9_reason_1
theorem dksX9_reason_0 : cX9_reason.data.toList.drop 0 = dktX9_reason_0 := by decide +kernel
theorem dksX9_reason_1 : cX9_reason.data.toList.drop 24 = dktX9_reason_1 := dk_seg dksX9_reason_0 24 rfl rfl
theorem dksX9_reason_2 : cX9_reason.data.toList.drop 48 = dktX9_reason_2 := dk_seg dksX9_reason_1 24 rfl rfl
theorem dX9_reason_0 : decode cX9_reason 0 = .ok (.aload_n 0, 1) := dk_42 (dk_at dksX9_reason_0 0 rfl rfl)
theorem dX9_reason_1 : decode cX9_reason 1 = .ok (.iconst 0, 1) := dk_3 (dk_at dksX9_reason_0 1 rfl rfl)
theorem dX9_reason_2 : decode cX9_reason 2 = .ok (.putfield 45, 3) := dk_181 0 45 (dk_at dksX9_reason_0 2 rfl rfl)
theorem dX9_reason_5 : decode cX9_reason 5 = .ok (.iload_n 1, 1) := dk_27 (dk_at dksX9_reason_0 5 rfl rfl)
theorem dX9_reason_6 : decode cX9_reason 6 = .ok (.iconst 0, 1) := dk_3 (dk_at dksX9_reason_0 6 rfl rfl)
theorem dX9_reason_7 : decode cX9_reason 7 = .ok (.iconst 1, 1) := dk_4 (dk_at dksX9_reason_0 7 rfl rfl)
theorem dX9_reason_8 : decode cX9_reason 8 = .ok (.invokestatic 74, 3) := dk_184 0 74 (dk_at dksX9_reason_0 8 rfl rfl)
theorem dX9_reason_11 : decode cX9_reason 11 = .ok (.ifCond .ne 9, 3) := dk_154 0 9 (dk_at dksX9_reason_0 11 rfl rfl)
theorem dX9_reason_14 : decode cX9_reason 14 = .ok (.aload_n 0, 1) := dk_42 (dk_at dksX9_reason_0 14 rfl rfl)
theorem dX9_reason_15 : decode cX9_reason 15 = .ok (.iconst 1, 1) := dk_4 (dk_at dksX9_reason_0 15 rfl rfl)
theorem dX9_reason_16 : decode cX9_reason 16 = .ok (.invokevirtual 58, 3) := dk_182 0 58 (dk_at dksX9_reason_0 16 rfl rfl)
theorem dX9_reason_19 : decode cX9_reason 19 = .ok (.ireturn, 1) := dk_172 (dk_at dksX9_reason_0 19 rfl rfl)
theorem dX9_reason_20 : decode cX9_reason 20 = .ok (.aload_n 0, 1) := dk_42 (dk_at dksX9_reason_0 20 rfl rfl)
theorem dX9_reason_21 : decode cX9_reason 21 = .ok (.getfield 7, 3) := dk_180 0 7 (dk_at dksX9_reason_0 21 rfl rfl)
theorem dX9_reason_24 : decode cX9_reason 24 = .ok (.iload_n 1, 1) := dk_27 (dk_at dksX9_reason_1 0 rfl rfl)
theorem dX9_reason_25 : decode cX9_reason 25 = .ok (.iaload, 1) := dk_46 (dk_at dksX9_reason_1 1 rfl rfl)
theorem dX9_reason_26 : decode cX9_reason 26 = .ok (.ifCond .ne 9, 3) := dk_154 0 9 (dk_at dksX9_reason_1 2 rfl rfl)
theorem dX9_reason_29 : decode cX9_reason 29 = .ok (.aload_n 0, 1) := dk_42 (dk_at dksX9_reason_1 5 rfl rfl)
theorem dX9_reason_30 : decode cX9_reason 30 = .ok (.iconst 2, 1) := dk_5 (dk_at dksX9_reason_1 6 rfl rfl)
theorem dX9_reason_31 : decode cX9_reason 31 = .ok (.invokevirtual 58, 3) := dk_182 0 58 (dk_at dksX9_reason_1 7 rfl rfl)
theorem dX9_reason_34 : decode cX9_reason 34 = .ok (.ireturn, 1) := dk_172 (dk_at dksX9_reason_1 10 rfl rfl)
theorem dX9_reason_35 : decode cX9_reason 35 = .ok (.iload_n 2, 1) := dk_28 (dk_at dksX9_reason_1 11 rfl rfl)
theorem dX9_reason_36 : decode cX9_reason 36 = .ok (.ifCond .eq 12, 3) := dk_153 0 12 (dk_at dksX9_reason_1 12 rfl rfl)
theorem dX9_reason_39 : decode cX9_reason 39 = .ok (.aload_n 0, 1) := dk_42 (dk_at dksX9_reason_1 15 rfl rfl)
theorem dX9_reason_40 : decode cX9_reason 40 = .ok (.getfield 13, 3) := dk_180 0 13 (dk_at dksX9_reason_1 16 rfl rfl)
theorem dX9_reason_43 : decode cX9_reason 43 = .ok (.iload_n 1, 1) := dk_27 (dk_at dksX9_reason_1 19 rfl rfl)
theorem dX9_reason_44 : decode cX9_reason 44 = .ok (.iaload, 1) := dk_46 (dk_at dksX9_reason_1 20 rfl rfl)
theorem dX9_reason_45 : decode cX9_reason 45 = .ok (.goto 9, 3) := dk_167 0 9 (dk_at dksX9_reason_1 21 rfl rfl)
theorem dX9_reason_48 : decode cX9_reason 48 = .ok (.aload_n 0, 1) := dk_42 (dk_at dksX9_reason_2 0 rfl rfl)
theorem dX9_reason_49 : decode cX9_reason 49 = .ok (.getfield 7, 3) := dk_180 0 7 (dk_at dksX9_reason_2 1 rfl rfl)
theorem dX9_reason_52 : decode cX9_reason 52 = .ok (.iload_n 1, 1) := dk_27 (dk_at dksX9_reason_2 4 rfl rfl)
theorem dX9_reason_53 : decode cX9_reason 53 = .ok (.iaload, 1) := dk_46 (dk_at dksX9_reason_2 5 rfl rfl)
theorem dX9_reason_54 : decode cX9_reason 54 = .ok (.ireturn, 1) := dk_172 (dk_at dksX9_reason_2 6 rfl rfl)
abbrev cX9_describe : ByteArray := prog_13_method_99_code
def yX9_describe : MethodName := ⟨RX9, "describe", "(I)I"⟩
def dkwX9_describe_6 : List UInt8 := [42, 180, 1, 17, 172]
abbrev dktX9_describe_6 : List UInt8 := dkwX9_describe_6 ++ []
def dkwX9_describe_5 : List UInt8 := [167, 0, 18, 42, 16, 64, 182, 1, 20, 42, 42, 28, 182, 0, 82, 182, 1, 26, 132, 2, 1, 167, 255, 215]
abbrev dktX9_describe_5 : List UInt8 := dkwX9_describe_5 ++ dktX9_describe_6
def dkwX9_describe_4 : List UInt8 := [3, 61, 28, 42, 180, 0, 16, 16, 28, 46, 162, 0, 36, 42, 28, 182, 0, 85, 27, 159, 0, 6]
abbrev dktX9_describe_4 : List UInt8 := dkwX9_describe_4 ++ dktX9_describe_5
def dkwX9_describe_3 : List UInt8 := [182, 0, 205, 153, 0, 9, 42, 16, 33, 182, 1, 20, 42, 27, 182, 0, 88, 154, 0, 7, 42, 182, 1, 29]
abbrev dktX9_describe_3 : List UInt8 := dkwX9_describe_3 ++ dktX9_describe_4
def dkwX9_describe_2 : List UInt8 := [182, 0, 114, 182, 1, 26, 42, 16, 47, 182, 1, 20, 42, 42, 27, 4, 182, 0, 78, 182, 1, 26, 42, 27]
abbrev dktX9_describe_2 : List UInt8 := dkwX9_describe_2 ++ dktX9_describe_3
def dkwX9_describe_1 : List UInt8 := [42, 42, 27, 3, 182, 0, 78, 182, 1, 23, 42, 27, 182, 1, 26, 42, 16, 58, 182, 1, 20, 42, 42, 27]
abbrev dktX9_describe_1 : List UInt8 := dkwX9_describe_1 ++ dktX9_describe_2
def dkwX9_describe_0 : List UInt8 := [42, 3, 181, 0, 45, 42, 27, 182, 0, 130, 154, 0, 9, 42, 4, 182, 0, 58, 172, 42, 3, 181, 1, 17]
abbrev dktX9_describe_0 : List UInt8 := dkwX9_describe_0 ++ dktX9_describe_1
theorem dksX9_describe_0 : cX9_describe.data.toList.drop 0 = dktX9_describe_0 := by decide +kernel
theorem dksX9_describe_1 : cX9_describe.data.toList.drop 24 = dktX9_describe_1 := dk_seg dksX9_describe_0 24 rfl rfl
theorem dksX9_describe_2 : cX9_describe.data.toList.drop 48 = dktX9_describe_2 := dk_seg dksX9_describe_1 24 rfl rfl
theorem dksX9_describe_3 : cX9_describe.data.toList.drop 72 = dktX9_describe_3 := dk_seg dksX9_describe_2 24 rfl rfl
theorem dksX9_describe_4 : cX9_describe.data.toList.drop 96 = dktX9_describe_4 := dk_seg dksX9_describe_3 24 rfl rfl
theorem dksX9_describe_5 : cX9_describe.data.toList.drop 118 = dktX9_describe_5 := dk_seg dksX9_describe_4 22 rfl rfl
theorem dksX9_describe_6 : cX9_describe.data.toList.drop 142 = dktX9_describe_6 := dk_seg dksX9_describe_5 24 rfl rfl
theorem dX9_describe_0 : decode cX9_describe 0 = .ok (.aload_n 0, 1) := dk_42 (dk_at dksX9_describe_0 0 rfl rfl)
theorem dX9_describe_1 : decode cX9_describe 1 = .ok (.iconst 0, 1) := dk_3 (dk_at dksX9_describe_0 1 rfl rfl)
theorem dX9_describe_2 : decode cX9_describe 2 = .ok (.putfield 45, 3) := dk_181 0 45 (dk_at dksX9_describe_0 2 rfl rfl)
theorem dX9_describe_5 : decode cX9_describe 5 = .ok (.aload_n 0, 1) := dk_42 (dk_at dksX9_describe_0 5 rfl rfl)
theorem dX9_describe_6 : decode cX9_describe 6 = .ok (.iload_n 1, 1) := dk_27 (dk_at dksX9_describe_0 6 rfl rfl)
theorem dX9_describe_7 : decode cX9_describe 7 = .ok (.invokevirtual 130, 3) := dk_182 0 130 (dk_at dksX9_describe_0 7 rfl rfl)
theorem dX9_describe_10 : decode cX9_describe 10 = .ok (.ifCond .ne 9, 3) := dk_154 0 9 (dk_at dksX9_describe_0 10 rfl rfl)
theorem dX9_describe_13 : decode cX9_describe 13 = .ok (.aload_n 0, 1) := dk_42 (dk_at dksX9_describe_0 13 rfl rfl)
theorem dX9_describe_14 : decode cX9_describe 14 = .ok (.iconst 1, 1) := dk_4 (dk_at dksX9_describe_0 14 rfl rfl)
theorem dX9_describe_15 : decode cX9_describe 15 = .ok (.invokevirtual 58, 3) := dk_182 0 58 (dk_at dksX9_describe_0 15 rfl rfl)
theorem dX9_describe_18 : decode cX9_describe 18 = .ok (.ireturn, 1) := dk_172 (dk_at dksX9_describe_0 18 rfl rfl)
theorem dX9_describe_19 : decode cX9_describe 19 = .ok (.aload_n 0, 1) := dk_42 (dk_at dksX9_describe_0 19 rfl rfl)
theorem dX9_describe_20 : decode cX9_describe 20 = .ok (.iconst 0, 1) := dk_3 (dk_at dksX9_describe_0 20 rfl rfl)
theorem dX9_describe_21 : decode cX9_describe 21 = .ok (.putfield 273, 3) := dk_181 1 17 (dk_at dksX9_describe_0 21 rfl rfl)
theorem dX9_describe_24 : decode cX9_describe 24 = .ok (.aload_n 0, 1) := dk_42 (dk_at dksX9_describe_1 0 rfl rfl)
theorem dX9_describe_25 : decode cX9_describe 25 = .ok (.aload_n 0, 1) := dk_42 (dk_at dksX9_describe_1 1 rfl rfl)
theorem dX9_describe_26 : decode cX9_describe 26 = .ok (.iload_n 1, 1) := dk_27 (dk_at dksX9_describe_1 2 rfl rfl)
theorem dX9_describe_27 : decode cX9_describe 27 = .ok (.iconst 0, 1) := dk_3 (dk_at dksX9_describe_1 3 rfl rfl)
theorem dX9_describe_28 : decode cX9_describe 28 = .ok (.invokevirtual 78, 3) := dk_182 0 78 (dk_at dksX9_describe_1 4 rfl rfl)
theorem dX9_describe_31 : decode cX9_describe 31 = .ok (.invokevirtual 279, 3) := dk_182 1 23 (dk_at dksX9_describe_1 7 rfl rfl)
theorem dX9_describe_34 : decode cX9_describe 34 = .ok (.aload_n 0, 1) := dk_42 (dk_at dksX9_describe_1 10 rfl rfl)
theorem dX9_describe_35 : decode cX9_describe 35 = .ok (.iload_n 1, 1) := dk_27 (dk_at dksX9_describe_1 11 rfl rfl)
theorem dX9_describe_36 : decode cX9_describe 36 = .ok (.invokevirtual 282, 3) := dk_182 1 26 (dk_at dksX9_describe_1 12 rfl rfl)
theorem dX9_describe_39 : decode cX9_describe 39 = .ok (.aload_n 0, 1) := dk_42 (dk_at dksX9_describe_1 15 rfl rfl)
theorem dX9_describe_40 : decode cX9_describe 40 = .ok (.bipush 58, 2) := dk_16 58 (dk_at dksX9_describe_1 16 rfl rfl)
theorem dX9_describe_42 : decode cX9_describe 42 = .ok (.invokevirtual 276, 3) := dk_182 1 20 (dk_at dksX9_describe_1 18 rfl rfl)
theorem dX9_describe_45 : decode cX9_describe 45 = .ok (.aload_n 0, 1) := dk_42 (dk_at dksX9_describe_1 21 rfl rfl)
theorem dX9_describe_46 : decode cX9_describe 46 = .ok (.aload_n 0, 1) := dk_42 (dk_at dksX9_describe_1 22 rfl rfl)
theorem dX9_describe_47 : decode cX9_describe 47 = .ok (.iload_n 1, 1) := dk_27 (dk_at dksX9_describe_1 23 rfl rfl)
theorem dX9_describe_48 : decode cX9_describe 48 = .ok (.invokevirtual 114, 3) := dk_182 0 114 (dk_at dksX9_describe_2 0 rfl rfl)
theorem dX9_describe_51 : decode cX9_describe 51 = .ok (.invokevirtual 282, 3) := dk_182 1 26 (dk_at dksX9_describe_2 3 rfl rfl)
theorem dX9_describe_54 : decode cX9_describe 54 = .ok (.aload_n 0, 1) := dk_42 (dk_at dksX9_describe_2 6 rfl rfl)
theorem dX9_describe_55 : decode cX9_describe 55 = .ok (.bipush 47, 2) := dk_16 47 (dk_at dksX9_describe_2 7 rfl rfl)
theorem dX9_describe_57 : decode cX9_describe 57 = .ok (.invokevirtual 276, 3) := dk_182 1 20 (dk_at dksX9_describe_2 9 rfl rfl)
theorem dX9_describe_60 : decode cX9_describe 60 = .ok (.aload_n 0, 1) := dk_42 (dk_at dksX9_describe_2 12 rfl rfl)
theorem dX9_describe_61 : decode cX9_describe 61 = .ok (.aload_n 0, 1) := dk_42 (dk_at dksX9_describe_2 13 rfl rfl)
theorem dX9_describe_62 : decode cX9_describe 62 = .ok (.iload_n 1, 1) := dk_27 (dk_at dksX9_describe_2 14 rfl rfl)
theorem dX9_describe_63 : decode cX9_describe 63 = .ok (.iconst 1, 1) := dk_4 (dk_at dksX9_describe_2 15 rfl rfl)
theorem dX9_describe_64 : decode cX9_describe 64 = .ok (.invokevirtual 78, 3) := dk_182 0 78 (dk_at dksX9_describe_2 16 rfl rfl)
theorem dX9_describe_67 : decode cX9_describe 67 = .ok (.invokevirtual 282, 3) := dk_182 1 26 (dk_at dksX9_describe_2 19 rfl rfl)
theorem dX9_describe_70 : decode cX9_describe 70 = .ok (.aload_n 0, 1) := dk_42 (dk_at dksX9_describe_2 22 rfl rfl)
theorem dX9_describe_71 : decode cX9_describe 71 = .ok (.iload_n 1, 1) := dk_27 (dk_at dksX9_describe_2 23 rfl rfl)
theorem dX9_describe_72 : decode cX9_describe 72 = .ok (.invokevirtual 205, 3) := dk_182 0 205 (dk_at dksX9_describe_3 0 rfl rfl)
theorem dX9_describe_75 : decode cX9_describe 75 = .ok (.ifCond .eq 9, 3) := dk_153 0 9 (dk_at dksX9_describe_3 3 rfl rfl)
theorem dX9_describe_78 : decode cX9_describe 78 = .ok (.aload_n 0, 1) := dk_42 (dk_at dksX9_describe_3 6 rfl rfl)
theorem dX9_describe_79 : decode cX9_describe 79 = .ok (.bipush 33, 2) := dk_16 33 (dk_at dksX9_describe_3 7 rfl rfl)
theorem dX9_describe_81 : decode cX9_describe 81 = .ok (.invokevirtual 276, 3) := dk_182 1 20 (dk_at dksX9_describe_3 9 rfl rfl)
theorem dX9_describe_84 : decode cX9_describe 84 = .ok (.aload_n 0, 1) := dk_42 (dk_at dksX9_describe_3 12 rfl rfl)
theorem dX9_describe_85 : decode cX9_describe 85 = .ok (.iload_n 1, 1) := dk_27 (dk_at dksX9_describe_3 13 rfl rfl)
theorem dX9_describe_86 : decode cX9_describe 86 = .ok (.invokevirtual 88, 3) := dk_182 0 88 (dk_at dksX9_describe_3 14 rfl rfl)
theorem dX9_describe_89 : decode cX9_describe 89 = .ok (.ifCond .ne 7, 3) := dk_154 0 7 (dk_at dksX9_describe_3 17 rfl rfl)
theorem dX9_describe_92 : decode cX9_describe 92 = .ok (.aload_n 0, 1) := dk_42 (dk_at dksX9_describe_3 20 rfl rfl)
theorem dX9_describe_93 : decode cX9_describe 93 = .ok (.invokevirtual 285, 3) := dk_182 1 29 (dk_at dksX9_describe_3 21 rfl rfl)
theorem dX9_describe_96 : decode cX9_describe 96 = .ok (.iconst 0, 1) := dk_3 (dk_at dksX9_describe_4 0 rfl rfl)
theorem dX9_describe_97 : decode cX9_describe 97 = .ok (.istore_n 2, 1) := dk_61 (dk_at dksX9_describe_4 1 rfl rfl)
theorem dX9_describe_98 : decode cX9_describe 98 = .ok (.iload_n 2, 1) := dk_28 (dk_at dksX9_describe_4 2 rfl rfl)
theorem dX9_describe_99 : decode cX9_describe 99 = .ok (.aload_n 0, 1) := dk_42 (dk_at dksX9_describe_4 3 rfl rfl)
theorem dX9_describe_100 : decode cX9_describe 100 = .ok (.getfield 16, 3) := dk_180 0 16 (dk_at dksX9_describe_4 4 rfl rfl)
theorem dX9_describe_103 : decode cX9_describe 103 = .ok (.bipush 28, 2) := dk_16 28 (dk_at dksX9_describe_4 7 rfl rfl)
theorem dX9_describe_105 : decode cX9_describe 105 = .ok (.iaload, 1) := dk_46 (dk_at dksX9_describe_4 9 rfl rfl)
theorem dX9_describe_106 : decode cX9_describe 106 = .ok (.if_icmp .ge 36, 3) := dk_162 0 36 (dk_at dksX9_describe_4 10 rfl rfl)
theorem dX9_describe_109 : decode cX9_describe 109 = .ok (.aload_n 0, 1) := dk_42 (dk_at dksX9_describe_4 13 rfl rfl)
theorem dX9_describe_110 : decode cX9_describe 110 = .ok (.iload_n 2, 1) := dk_28 (dk_at dksX9_describe_4 14 rfl rfl)
theorem dX9_describe_111 : decode cX9_describe 111 = .ok (.invokevirtual 85, 3) := dk_182 0 85 (dk_at dksX9_describe_4 15 rfl rfl)
theorem dX9_describe_114 : decode cX9_describe 114 = .ok (.iload_n 1, 1) := dk_27 (dk_at dksX9_describe_4 18 rfl rfl)
theorem dX9_describe_115 : decode cX9_describe 115 = .ok (.if_icmp .eq 6, 3) := dk_159 0 6 (dk_at dksX9_describe_4 19 rfl rfl)
theorem dX9_describe_118 : decode cX9_describe 118 = .ok (.goto 18, 3) := dk_167 0 18 (dk_at dksX9_describe_5 0 rfl rfl)
theorem dX9_describe_121 : decode cX9_describe 121 = .ok (.aload_n 0, 1) := dk_42 (dk_at dksX9_describe_5 3 rfl rfl)
theorem dX9_describe_122 : decode cX9_describe 122 = .ok (.bipush 64, 2) := dk_16 64 (dk_at dksX9_describe_5 4 rfl rfl)
theorem dX9_describe_124 : decode cX9_describe 124 = .ok (.invokevirtual 276, 3) := dk_182 1 20 (dk_at dksX9_describe_5 6 rfl rfl)
theorem dX9_describe_127 : decode cX9_describe 127 = .ok (.aload_n 0, 1) := dk_42 (dk_at dksX9_describe_5 9 rfl rfl)
theorem dX9_describe_128 : decode cX9_describe 128 = .ok (.aload_n 0, 1) := dk_42 (dk_at dksX9_describe_5 10 rfl rfl)
theorem dX9_describe_129 : decode cX9_describe 129 = .ok (.iload_n 2, 1) := dk_28 (dk_at dksX9_describe_5 11 rfl rfl)
theorem dX9_describe_130 : decode cX9_describe 130 = .ok (.invokevirtual 82, 3) := dk_182 0 82 (dk_at dksX9_describe_5 12 rfl rfl)
theorem dX9_describe_133 : decode cX9_describe 133 = .ok (.invokevirtual 282, 3) := dk_182 1 26 (dk_at dksX9_describe_5 15 rfl rfl)
theorem dX9_describe_136 : decode cX9_describe 136 = .ok (.iinc 2 1, 3) := dk_132 2 1 (dk_at dksX9_describe_5 18 rfl rfl)
theorem dX9_describe_139 : decode cX9_describe 139 = .ok (.goto (-41), 3) := dk_167 255 215 (dk_at dksX9_describe_5 21 rfl rfl)
theorem dX9_describe_142 : decode cX9_describe 142 = .ok (.aload_n 0, 1) := dk_42 (dk_at dksX9_describe_6 0 rfl rfl)
theorem dX9_describe_143 : decode cX9_describe 143 = .ok (.getfield 273, 3) := dk_180 1 17 (dk_at dksX9_describe_6 1 rfl rfl)
theorem dX9_describe_146 : decode cX9_describe 146 = .ok (.ireturn, 1) := dk_172 (dk_at dksX9_describe_6 4 rfl rfl)
abbrev cX9_writesKind : ByteArray := prog_13_method_97_code
def yX9_writesKind : MethodName := ⟨RX9, "writesKind", "(I)V"⟩
def dkwX9_writesKind_4 : List UInt8 := [16, 110, 167, 0, 5, 16, 100, 182, 1, 20, 177]
abbrev dktX9_writesKind_4 : List UInt8 := dkwX9_writesKind_4 ++ []
def dkwX9_writesKind_3 : List UInt8 := [160, 0, 4, 177, 42, 27, 154, 0, 8, 16, 105, 167, 0, 5, 16, 110, 182, 1, 20, 42, 27, 154, 0, 8]
abbrev dktX9_writesKind_3 : List UInt8 := dkwX9_writesKind_3 ++ dktX9_writesKind_4
def dkwX9_writesKind_2 : List UInt8 := [16, 116, 182, 1, 20, 42, 27, 4, 160, 0, 8, 16, 103, 167, 0, 5, 16, 97, 182, 1, 20, 27, 4]
abbrev dktX9_writesKind_2 : List UInt8 := dkwX9_writesKind_2 ++ dktX9_writesKind_3
def dkwX9_writesKind_1 : List UInt8 := [182, 1, 20, 42, 27, 154, 0, 8, 16, 108, 167, 0, 15, 27, 4, 160, 0, 8, 16, 105, 167, 0, 5]
abbrev dktX9_writesKind_1 : List UInt8 := dkwX9_writesKind_1 ++ dktX9_writesKind_2
def dkwX9_writesKind_0 : List UInt8 := [42, 27, 154, 0, 8, 16, 112, 167, 0, 15, 27, 4, 160, 0, 8, 16, 98, 167, 0, 5, 16, 115]
abbrev dktX9_writesKind_0 : List UInt8 := dkwX9_writesKind_0 ++ dktX9_writesKind_1
theorem dksX9_writesKind_0 : cX9_writesKind.data.toList.drop 0 = dktX9_writesKind_0 := by decide +kernel
theorem dksX9_writesKind_1 : cX9_writesKind.data.toList.drop 22 = dktX9_writesKind_1 := dk_seg dksX9_writesKind_0 22 rfl rfl
theorem dksX9_writesKind_2 : cX9_writesKind.data.toList.drop 45 = dktX9_writesKind_2 := dk_seg dksX9_writesKind_1 23 rfl rfl
theorem dksX9_writesKind_3 : cX9_writesKind.data.toList.drop 68 = dktX9_writesKind_3 := dk_seg dksX9_writesKind_2 23 rfl rfl
theorem dksX9_writesKind_4 : cX9_writesKind.data.toList.drop 92 = dktX9_writesKind_4 := dk_seg dksX9_writesKind_3 24 rfl rfl
theorem dX9_writesKind_0 : decode cX9_writesKind 0 = .ok (.aload_n 0, 1) := dk_42 (dk_at dksX9_writesKind_0 0 rfl rfl)
theorem dX9_writesKind_1 : decode cX9_writesKind 1 = .ok (.iload_n 1, 1) := dk_27 (dk_at dksX9_writesKind_0 1 rfl rfl)
theorem dX9_writesKind_2 : decode cX9_writesKind 2 = .ok (.ifCond .ne 8, 3) := dk_154 0 8 (dk_at dksX9_writesKind_0 2 rfl rfl)
theorem dX9_writesKind_5 : decode cX9_writesKind 5 = .ok (.bipush 112, 2) := dk_16 112 (dk_at dksX9_writesKind_0 5 rfl rfl)
theorem dX9_writesKind_7 : decode cX9_writesKind 7 = .ok (.goto 15, 3) := dk_167 0 15 (dk_at dksX9_writesKind_0 7 rfl rfl)
theorem dX9_writesKind_10 : decode cX9_writesKind 10 = .ok (.iload_n 1, 1) := dk_27 (dk_at dksX9_writesKind_0 10 rfl rfl)
theorem dX9_writesKind_11 : decode cX9_writesKind 11 = .ok (.iconst 1, 1) := dk_4 (dk_at dksX9_writesKind_0 11 rfl rfl)
theorem dX9_writesKind_12 : decode cX9_writesKind 12 = .ok (.if_icmp .ne 8, 3) := dk_160 0 8 (dk_at dksX9_writesKind_0 12 rfl rfl)
theorem dX9_writesKind_15 : decode cX9_writesKind 15 = .ok (.bipush 98, 2) := dk_16 98 (dk_at dksX9_writesKind_0 15 rfl rfl)
theorem dX9_writesKind_17 : decode cX9_writesKind 17 = .ok (.goto 5, 3) := dk_167 0 5 (dk_at dksX9_writesKind_0 17 rfl rfl)
theorem dX9_writesKind_20 : decode cX9_writesKind 20 = .ok (.bipush 115, 2) := dk_16 115 (dk_at dksX9_writesKind_0 20 rfl rfl)
theorem dX9_writesKind_22 : decode cX9_writesKind 22 = .ok (.invokevirtual 276, 3) := dk_182 1 20 (dk_at dksX9_writesKind_1 0 rfl rfl)
theorem dX9_writesKind_25 : decode cX9_writesKind 25 = .ok (.aload_n 0, 1) := dk_42 (dk_at dksX9_writesKind_1 3 rfl rfl)
theorem dX9_writesKind_26 : decode cX9_writesKind 26 = .ok (.iload_n 1, 1) := dk_27 (dk_at dksX9_writesKind_1 4 rfl rfl)
theorem dX9_writesKind_27 : decode cX9_writesKind 27 = .ok (.ifCond .ne 8, 3) := dk_154 0 8 (dk_at dksX9_writesKind_1 5 rfl rfl)
theorem dX9_writesKind_30 : decode cX9_writesKind 30 = .ok (.bipush 108, 2) := dk_16 108 (dk_at dksX9_writesKind_1 8 rfl rfl)
theorem dX9_writesKind_32 : decode cX9_writesKind 32 = .ok (.goto 15, 3) := dk_167 0 15 (dk_at dksX9_writesKind_1 10 rfl rfl)
theorem dX9_writesKind_35 : decode cX9_writesKind 35 = .ok (.iload_n 1, 1) := dk_27 (dk_at dksX9_writesKind_1 13 rfl rfl)
theorem dX9_writesKind_36 : decode cX9_writesKind 36 = .ok (.iconst 1, 1) := dk_4 (dk_at dksX9_writesKind_1 14 rfl rfl)
theorem dX9_writesKind_37 : decode cX9_writesKind 37 = .ok (.if_icmp .ne 8, 3) := dk_160 0 8 (dk_at dksX9_writesKind_1 15 rfl rfl)
theorem dX9_writesKind_40 : decode cX9_writesKind 40 = .ok (.bipush 105, 2) := dk_16 105 (dk_at dksX9_writesKind_1 18 rfl rfl)
theorem dX9_writesKind_42 : decode cX9_writesKind 42 = .ok (.goto 5, 3) := dk_167 0 5 (dk_at dksX9_writesKind_1 20 rfl rfl)
theorem dX9_writesKind_45 : decode cX9_writesKind 45 = .ok (.bipush 116, 2) := dk_16 116 (dk_at dksX9_writesKind_2 0 rfl rfl)
theorem dX9_writesKind_47 : decode cX9_writesKind 47 = .ok (.invokevirtual 276, 3) := dk_182 1 20 (dk_at dksX9_writesKind_2 2 rfl rfl)
theorem dX9_writesKind_50 : decode cX9_writesKind 50 = .ok (.aload_n 0, 1) := dk_42 (dk_at dksX9_writesKind_2 5 rfl rfl)
theorem dX9_writesKind_51 : decode cX9_writesKind 51 = .ok (.iload_n 1, 1) := dk_27 (dk_at dksX9_writesKind_2 6 rfl rfl)
theorem dX9_writesKind_52 : decode cX9_writesKind 52 = .ok (.iconst 1, 1) := dk_4 (dk_at dksX9_writesKind_2 7 rfl rfl)
theorem dX9_writesKind_53 : decode cX9_writesKind 53 = .ok (.if_icmp .ne 8, 3) := dk_160 0 8 (dk_at dksX9_writesKind_2 8 rfl rfl)
theorem dX9_writesKind_56 : decode cX9_writesKind 56 = .ok (.bipush 103, 2) := dk_16 103 (dk_at dksX9_writesKind_2 11 rfl rfl)
theorem dX9_writesKind_58 : decode cX9_writesKind 58 = .ok (.goto 5, 3) := dk_167 0 5 (dk_at dksX9_writesKind_2 13 rfl rfl)
theorem dX9_writesKind_61 : decode cX9_writesKind 61 = .ok (.bipush 97, 2) := dk_16 97 (dk_at dksX9_writesKind_2 16 rfl rfl)
theorem dX9_writesKind_63 : decode cX9_writesKind 63 = .ok (.invokevirtual 276, 3) := dk_182 1 20 (dk_at dksX9_writesKind_2 18 rfl rfl)
theorem dX9_writesKind_66 : decode cX9_writesKind 66 = .ok (.iload_n 1, 1) := dk_27 (dk_at dksX9_writesKind_2 21 rfl rfl)
theorem dX9_writesKind_67 : decode cX9_writesKind 67 = .ok (.iconst 1, 1) := dk_4 (dk_at dksX9_writesKind_2 22 rfl rfl)
theorem dX9_writesKind_68 : decode cX9_writesKind 68 = .ok (.if_icmp .ne 4, 3) := dk_160 0 4 (dk_at dksX9_writesKind_3 0 rfl rfl)
theorem dX9_writesKind_71 : decode cX9_writesKind 71 = .ok (.return_, 1) := dk_177 (dk_at dksX9_writesKind_3 3 rfl rfl)
theorem dX9_writesKind_72 : decode cX9_writesKind 72 = .ok (.aload_n 0, 1) := dk_42 (dk_at dksX9_writesKind_3 4 rfl rfl)
theorem dX9_writesKind_73 : decode cX9_writesKind 73 = .ok (.iload_n 1, 1) := dk_27 (dk_at dksX9_writesKind_3 5 rfl rfl)
theorem dX9_writesKind_74 : decode cX9_writesKind 74 = .ok (.ifCond .ne 8, 3) := dk_154 0 8 (dk_at dksX9_writesKind_3 6 rfl rfl)
theorem dX9_writesKind_77 : decode cX9_writesKind 77 = .ok (.bipush 105, 2) := dk_16 105 (dk_at dksX9_writesKind_3 9 rfl rfl)
theorem dX9_writesKind_79 : decode cX9_writesKind 79 = .ok (.goto 5, 3) := dk_167 0 5 (dk_at dksX9_writesKind_3 11 rfl rfl)
theorem dX9_writesKind_82 : decode cX9_writesKind 82 = .ok (.bipush 110, 2) := dk_16 110 (dk_at dksX9_writesKind_3 14 rfl rfl)
theorem dX9_writesKind_84 : decode cX9_writesKind 84 = .ok (.invokevirtual 276, 3) := dk_182 1 20 (dk_at dksX9_writesKind_3 16 rfl rfl)
theorem dX9_writesKind_87 : decode cX9_writesKind 87 = .ok (.aload_n 0, 1) := dk_42 (dk_at dksX9_writesKind_3 19 rfl rfl)
theorem dX9_writesKind_88 : decode cX9_writesKind 88 = .ok (.iload_n 1, 1) := dk_27 (dk_at dksX9_writesKind_3 20 rfl rfl)
theorem dX9_writesKind_89 : decode cX9_writesKind 89 = .ok (.ifCond .ne 8, 3) := dk_154 0 8 (dk_at dksX9_writesKind_3 21 rfl rfl)
theorem dX9_writesKind_92 : decode cX9_writesKind 92 = .ok (.bipush 110, 2) := dk_16 110 (dk_at dksX9_writesKind_4 0 rfl rfl)
theorem dX9_writesKind_94 : decode cX9_writesKind 94 = .ok (.goto 5, 3) := dk_167 0 5 (dk_at dksX9_writesKind_4 2 rfl rfl)
theorem dX9_writesKind_97 : decode cX9_writesKind 97 = .ok (.bipush 100, 2) := dk_16 100 (dk_at dksX9_writesKind_4 5 rfl rfl)
theorem dX9_writesKind_99 : decode cX9_writesKind 99 = .ok (.invokevirtual 276, 3) := dk_182 1 20 (dk_at dksX9_writesKind_4 7 rfl rfl)
theorem dX9_writesKind_102 : decode cX9_writesKind 102 = .ok (.return_, 1) := dk_177 (dk_at dksX9_writesKind_4 10 rfl rfl)
abbrev cX9_writes : ByteArray := prog_13_method_95_code
def yX9_writes : MethodName := ⟨RX9, "writes", "(I)V"⟩
def dkwX9_writes_0 : List UInt8 := [42, 180, 0, 42, 42, 180, 1, 17, 27, 146, 85, 42, 89, 180, 1, 17, 4, 96, 181, 1, 17, 177]
abbrev dktX9_writes_0 : List UInt8 := dkwX9_writes_0 ++ []
theorem dksX9_writes_0 : cX9_writes.data.toList.drop 0 = dktX9_writes_0 := by decide +kernel
theorem dX9_writes_0 : decode cX9_writes 0 = .ok (.aload_n 0, 1) := dk_42 (dk_at dksX9_writes_0 0 rfl rfl)
theorem dX9_writes_1 : decode cX9_writes 1 = .ok (.getfield 42, 3) := dk_180 0 42 (dk_at dksX9_writes_0 1 rfl rfl)
theorem dX9_writes_4 : decode cX9_writes 4 = .ok (.aload_n 0, 1) := dk_42 (dk_at dksX9_writes_0 4 rfl rfl)
theorem dX9_writes_5 : decode cX9_writes 5 = .ok (.getfield 273, 3) := dk_180 1 17 (dk_at dksX9_writes_0 5 rfl rfl)
theorem dX9_writes_8 : decode cX9_writes 8 = .ok (.iload_n 1, 1) := dk_27 (dk_at dksX9_writes_0 8 rfl rfl)
theorem dX9_writes_9 : decode cX9_writes 9 = .ok (.i2c, 1) := dk_146 (dk_at dksX9_writes_0 9 rfl rfl)
theorem dX9_writes_10 : decode cX9_writes 10 = .ok (.castore, 1) := dk_85 (dk_at dksX9_writes_0 10 rfl rfl)
theorem dX9_writes_11 : decode cX9_writes 11 = .ok (.aload_n 0, 1) := dk_42 (dk_at dksX9_writes_0 11 rfl rfl)
theorem dX9_writes_12 : decode cX9_writes 12 = .ok (.dup, 1) := dk_89 (dk_at dksX9_writes_0 12 rfl rfl)
theorem dX9_writes_13 : decode cX9_writes 13 = .ok (.getfield 273, 3) := dk_180 1 17 (dk_at dksX9_writes_0 13 rfl rfl)
theorem dX9_writes_16 : decode cX9_writes 16 = .ok (.iconst 1, 1) := dk_4 (dk_at dksX9_writes_0 16 rfl rfl)
theorem dX9_writes_17 : decode cX9_writes 17 = .ok (.iadd, 1) := dk_96 (dk_at dksX9_writes_0 17 rfl rfl)
theorem dX9_writes_18 : decode cX9_writes 18 = .ok (.putfield 273, 3) := dk_181 1 17 (dk_at dksX9_writes_0 18 rfl rfl)
theorem dX9_writes_21 : decode cX9_writes 21 = .ok (.return_, 1) := dk_177 (dk_at dksX9_writes_0 21 rfl rfl)
abbrev cX9_writesNumber : ByteArray := prog_13_method_96_code
def yX9_writesNumber : MethodName := ⟨RX9, "writesNumber", "(I)V"⟩
def dkwX9_writesNumber_2 : List UInt8 := [177]
abbrev dktX9_writesNumber_2 : List UInt8 := dkwX9_writesNumber_2 ++ []
def dkwX9_writesNumber_1 : List UInt8 := [16, 48, 27, 16, 10, 108, 16, 10, 112, 96, 182, 1, 20, 42, 16, 48, 27, 16, 10, 112, 96, 182, 1, 20]
abbrev dktX9_writesNumber_1 : List UInt8 := dkwX9_writesNumber_1 ++ dktX9_writesNumber_2
def dkwX9_writesNumber_0 : List UInt8 := [27, 16, 99, 164, 0, 14, 42, 16, 48, 27, 16, 100, 108, 96, 182, 1, 20, 27, 16, 9, 164, 0, 17, 42]
abbrev dktX9_writesNumber_0 : List UInt8 := dkwX9_writesNumber_0 ++ dktX9_writesNumber_1
theorem dksX9_writesNumber_0 : cX9_writesNumber.data.toList.drop 0 = dktX9_writesNumber_0 := by decide +kernel
theorem dksX9_writesNumber_1 : cX9_writesNumber.data.toList.drop 24 = dktX9_writesNumber_1 := dk_seg dksX9_writesNumber_0 24 rfl rfl
theorem dksX9_writesNumber_2 : cX9_writesNumber.data.toList.drop 48 = dktX9_writesNumber_2 := dk_seg dksX9_writesNumber_1 24 rfl rfl
theorem dX9_writesNumber_0 : decode cX9_writesNumber 0 = .ok (.iload_n 1, 1) := dk_27 (dk_at dksX9_writesNumber_0 0 rfl rfl)
theorem dX9_writesNumber_1 : decode cX9_writesNumber 1 = .ok (.bipush 99, 2) := dk_16 99 (dk_at dksX9_writesNumber_0 1 rfl rfl)
theorem dX9_writesNumber_3 : decode cX9_writesNumber 3 = .ok (.if_icmp .le 14, 3) := dk_164 0 14 (dk_at dksX9_writesNumber_0 3 rfl rfl)
theorem dX9_writesNumber_6 : decode cX9_writesNumber 6 = .ok (.aload_n 0, 1) := dk_42 (dk_at dksX9_writesNumber_0 6 rfl rfl)
theorem dX9_writesNumber_7 : decode cX9_writesNumber 7 = .ok (.bipush 48, 2) := dk_16 48 (dk_at dksX9_writesNumber_0 7 rfl rfl)
theorem dX9_writesNumber_9 : decode cX9_writesNumber 9 = .ok (.iload_n 1, 1) := dk_27 (dk_at dksX9_writesNumber_0 9 rfl rfl)
theorem dX9_writesNumber_10 : decode cX9_writesNumber 10 = .ok (.bipush 100, 2) := dk_16 100 (dk_at dksX9_writesNumber_0 10 rfl rfl)
theorem dX9_writesNumber_12 : decode cX9_writesNumber 12 = .ok (.idiv, 1) := dk_108 (dk_at dksX9_writesNumber_0 12 rfl rfl)
theorem dX9_writesNumber_13 : decode cX9_writesNumber 13 = .ok (.iadd, 1) := dk_96 (dk_at dksX9_writesNumber_0 13 rfl rfl)
theorem dX9_writesNumber_14 : decode cX9_writesNumber 14 = .ok (.invokevirtual 276, 3) := dk_182 1 20 (dk_at dksX9_writesNumber_0 14 rfl rfl)
theorem dX9_writesNumber_17 : decode cX9_writesNumber 17 = .ok (.iload_n 1, 1) := dk_27 (dk_at dksX9_writesNumber_0 17 rfl rfl)
theorem dX9_writesNumber_18 : decode cX9_writesNumber 18 = .ok (.bipush 9, 2) := dk_16 9 (dk_at dksX9_writesNumber_0 18 rfl rfl)
theorem dX9_writesNumber_20 : decode cX9_writesNumber 20 = .ok (.if_icmp .le 17, 3) := dk_164 0 17 (dk_at dksX9_writesNumber_0 20 rfl rfl)
theorem dX9_writesNumber_23 : decode cX9_writesNumber 23 = .ok (.aload_n 0, 1) := dk_42 (dk_at dksX9_writesNumber_0 23 rfl rfl)
theorem dX9_writesNumber_24 : decode cX9_writesNumber 24 = .ok (.bipush 48, 2) := dk_16 48 (dk_at dksX9_writesNumber_1 0 rfl rfl)
theorem dX9_writesNumber_26 : decode cX9_writesNumber 26 = .ok (.iload_n 1, 1) := dk_27 (dk_at dksX9_writesNumber_1 2 rfl rfl)
theorem dX9_writesNumber_27 : decode cX9_writesNumber 27 = .ok (.bipush 10, 2) := dk_16 10 (dk_at dksX9_writesNumber_1 3 rfl rfl)
theorem dX9_writesNumber_29 : decode cX9_writesNumber 29 = .ok (.idiv, 1) := dk_108 (dk_at dksX9_writesNumber_1 5 rfl rfl)
theorem dX9_writesNumber_30 : decode cX9_writesNumber 30 = .ok (.bipush 10, 2) := dk_16 10 (dk_at dksX9_writesNumber_1 6 rfl rfl)
theorem dX9_writesNumber_32 : decode cX9_writesNumber 32 = .ok (.irem, 1) := dk_112 (dk_at dksX9_writesNumber_1 8 rfl rfl)
theorem dX9_writesNumber_33 : decode cX9_writesNumber 33 = .ok (.iadd, 1) := dk_96 (dk_at dksX9_writesNumber_1 9 rfl rfl)
theorem dX9_writesNumber_34 : decode cX9_writesNumber 34 = .ok (.invokevirtual 276, 3) := dk_182 1 20 (dk_at dksX9_writesNumber_1 10 rfl rfl)
theorem dX9_writesNumber_37 : decode cX9_writesNumber 37 = .ok (.aload_n 0, 1) := dk_42 (dk_at dksX9_writesNumber_1 13 rfl rfl)
theorem dX9_writesNumber_38 : decode cX9_writesNumber 38 = .ok (.bipush 48, 2) := dk_16 48 (dk_at dksX9_writesNumber_1 14 rfl rfl)
theorem dX9_writesNumber_40 : decode cX9_writesNumber 40 = .ok (.iload_n 1, 1) := dk_27 (dk_at dksX9_writesNumber_1 16 rfl rfl)
theorem dX9_writesNumber_41 : decode cX9_writesNumber 41 = .ok (.bipush 10, 2) := dk_16 10 (dk_at dksX9_writesNumber_1 17 rfl rfl)
theorem dX9_writesNumber_43 : decode cX9_writesNumber 43 = .ok (.irem, 1) := dk_112 (dk_at dksX9_writesNumber_1 19 rfl rfl)
theorem dX9_writesNumber_44 : decode cX9_writesNumber 44 = .ok (.iadd, 1) := dk_96 (dk_at dksX9_writesNumber_1 20 rfl rfl)
theorem dX9_writesNumber_45 : decode cX9_writesNumber 45 = .ok (.invokevirtual 276, 3) := dk_182 1 20 (dk_at dksX9_writesNumber_1 21 rfl rfl)
theorem dX9_writesNumber_48 : decode cX9_writesNumber 48 = .ok (.return_, 1) := dk_177 (dk_at dksX9_writesNumber_2 0 rfl rfl)
abbrev cX9_writesShut : ByteArray := prog_13_method_98_code
def yX9_writesShut : MethodName := ⟨RX9, "writesShut", "()V"⟩
def dkwX9_writesShut_1 : List UInt8 := [42, 16, 116, 182, 1, 20, 177]
abbrev dktX9_writesShut_1 : List UInt8 := dkwX9_writesShut_1 ++ []
def dkwX9_writesShut_0 : List UInt8 := [42, 16, 32, 182, 1, 20, 42, 16, 115, 182, 1, 20, 42, 16, 104, 182, 1, 20, 42, 16, 117, 182, 1, 20]
abbrev dktX9_writesShut_0 : List UInt8 := dkwX9_writesShut_0 ++ dktX9_writesShut_1
theorem dksX9_writesShut_0 : cX9_writesShut.data.toList.drop 0 = dktX9_writesShut_0 := by decide +kernel
theorem dksX9_writesShut_1 : cX9_writesShut.data.toList.drop 24 = dktX9_writesShut_1 := dk_seg dksX9_writesShut_0 24 rfl rfl
theorem dX9_writesShut_0 : decode cX9_writesShut 0 = .ok (.aload_n 0, 1) := dk_42 (dk_at dksX9_writesShut_0 0 rfl rfl)
theorem dX9_writesShut_1 : decode cX9_writesShut 1 = .ok (.bipush 32, 2) := dk_16 32 (dk_at dksX9_writesShut_0 1 rfl rfl)
theorem dX9_writesShut_3 : decode cX9_writesShut 3 = .ok (.invokevirtual 276, 3) := dk_182 1 20 (dk_at dksX9_writesShut_0 3 rfl rfl)
theorem dX9_writesShut_6 : decode cX9_writesShut 6 = .ok (.aload_n 0, 1) := dk_42 (dk_at dksX9_writesShut_0 6 rfl rfl)
theorem dX9_writesShut_7 : decode cX9_writesShut 7 = .ok (.bipush 115, 2) := dk_16 115 (dk_at dksX9_writesShut_0 7 rfl rfl)
theorem dX9_writesShut_9 : decode cX9_writesShut 9 = .ok (.invokevirtual 276, 3) := dk_182 1 20 (dk_at dksX9_writesShut_0 9 rfl rfl)
theorem dX9_writesShut_12 : decode cX9_writesShut 12 = .ok (.aload_n 0, 1) := dk_42 (dk_at dksX9_writesShut_0 12 rfl rfl)
theorem dX9_writesShut_13 : decode cX9_writesShut 13 = .ok (.bipush 104, 2) := dk_16 104 (dk_at dksX9_writesShut_0 13 rfl rfl)
theorem dX9_writesShut_15 : decode cX9_writesShut 15 = .ok (.invokevirtual 276, 3) := dk_182 1 20 (dk_at dksX9_writesShut_0 15 rfl rfl)
theorem dX9_writesShut_18 : decode cX9_writesShut 18 = .ok (.aload_n 0, 1) := dk_42 (dk_at dksX9_writesShut_0 18 rfl rfl)
theorem dX9_writesShut_19 : decode cX9_writesShut 19 = .ok (.bipush 117, 2) := dk_16 117 (dk_at dksX9_writesShut_0 19 rfl rfl)
theorem dX9_writesShut_21 : decode cX9_writesShut 21 = .ok (.invokevirtual 276, 3) := dk_182 1 20 (dk_at dksX9_writesShut_0 21 rfl rfl)
theorem dX9_writesShut_24 : decode cX9_writesShut 24 = .ok (.aload_n 0, 1) := dk_42 (dk_at dksX9_writesShut_1 0 rfl rfl)
theorem dX9_writesShut_25 : decode cX9_writesShut 25 = .ok (.bipush 116, 2) := dk_16 116 (dk_at dksX9_writesShut_1 1 rfl rfl)
theorem dX9_writesShut_27 : decode cX9_writesShut 27 = .ok (.invokevirtual 276, 3) := dk_182 1 20 (dk_at dksX9_writesShut_1 3 rfl rfl)
theorem dX9_writesShut_30 : decode cX9_writesShut 30 = .ok (.return_, 1) := dk_177 (dk_at dksX9_writesShut_1 6 rfl rfl)
abbrev cX9_written : ByteArray := prog_13_method_100_code
def yX9_written : MethodName := ⟨RX9, "written", "(I)C"⟩
def dkwX9_written_1 : List UInt8 := [52, 167, 0, 9, 42, 4, 182, 0, 58, 146, 172]
abbrev dktX9_written_1 : List UInt8 := dkwX9_written_1 ++ []
def dkwX9_written_0 : List UInt8 := [42, 3, 181, 0, 45, 27, 3, 42, 180, 1, 17, 4, 100, 184, 0, 74, 153, 0, 12, 42, 180, 0, 42, 27]
abbrev dktX9_written_0 : List UInt8 := dkwX9_written_0 ++ dktX9_written_1
theorem dksX9_written_0 : cX9_written.data.toList.drop 0 = dktX9_written_0 := by decide +kernel
theorem dksX9_written_1 : cX9_written.data.toList.drop 24 = dktX9_written_1 := dk_seg dksX9_written_0 24 rfl rfl
theorem dX9_written_0 : decode cX9_written 0 = .ok (.aload_n 0, 1) := dk_42 (dk_at dksX9_written_0 0 rfl rfl)
theorem dX9_written_1 : decode cX9_written 1 = .ok (.iconst 0, 1) := dk_3 (dk_at dksX9_written_0 1 rfl rfl)
theorem dX9_written_2 : decode cX9_written 2 = .ok (.putfield 45, 3) := dk_181 0 45 (dk_at dksX9_written_0 2 rfl rfl)
theorem dX9_written_5 : decode cX9_written 5 = .ok (.iload_n 1, 1) := dk_27 (dk_at dksX9_written_0 5 rfl rfl)
theorem dX9_written_6 : decode cX9_written 6 = .ok (.iconst 0, 1) := dk_3 (dk_at dksX9_written_0 6 rfl rfl)
theorem dX9_written_7 : decode cX9_written 7 = .ok (.aload_n 0, 1) := dk_42 (dk_at dksX9_written_0 7 rfl rfl)
theorem dX9_written_8 : decode cX9_written 8 = .ok (.getfield 273, 3) := dk_180 1 17 (dk_at dksX9_written_0 8 rfl rfl)
theorem dX9_written_11 : decode cX9_written 11 = .ok (.iconst 1, 1) := dk_4 (dk_at dksX9_written_0 11 rfl rfl)
theorem dX9_written_12 : decode cX9_written 12 = .ok (.isub, 1) := dk_100 (dk_at dksX9_written_0 12 rfl rfl)
theorem dX9_written_13 : decode cX9_written 13 = .ok (.invokestatic 74, 3) := dk_184 0 74 (dk_at dksX9_written_0 13 rfl rfl)
theorem dX9_written_16 : decode cX9_written 16 = .ok (.ifCond .eq 12, 3) := dk_153 0 12 (dk_at dksX9_written_0 16 rfl rfl)
theorem dX9_written_19 : decode cX9_written 19 = .ok (.aload_n 0, 1) := dk_42 (dk_at dksX9_written_0 19 rfl rfl)
theorem dX9_written_20 : decode cX9_written 20 = .ok (.getfield 42, 3) := dk_180 0 42 (dk_at dksX9_written_0 20 rfl rfl)
theorem dX9_written_23 : decode cX9_written 23 = .ok (.iload_n 1, 1) := dk_27 (dk_at dksX9_written_0 23 rfl rfl)
theorem dX9_written_24 : decode cX9_written 24 = .ok (.caload, 1) := dk_52 (dk_at dksX9_written_1 0 rfl rfl)
theorem dX9_written_25 : decode cX9_written 25 = .ok (.goto 9, 3) := dk_167 0 9 (dk_at dksX9_written_1 1 rfl rfl)
theorem dX9_written_28 : decode cX9_written 28 = .ok (.aload_n 0, 1) := dk_42 (dk_at dksX9_written_1 4 rfl rfl)
theorem dX9_written_29 : decode cX9_written 29 = .ok (.iconst 1, 1) := dk_4 (dk_at dksX9_written_1 5 rfl rfl)
theorem dX9_written_30 : decode cX9_written 30 = .ok (.invokevirtual 58, 3) := dk_182 0 58 (dk_at dksX9_written_1 6 rfl rfl)
theorem dX9_written_33 : decode cX9_written 33 = .ok (.i2c, 1) := dk_146 (dk_at dksX9_written_1 9 rfl rfl)
theorem dX9_written_34 : decode cX9_written 34 = .ok (.ireturn, 1) := dk_172 (dk_at dksX9_written_1 10 rfl rfl)
abbrev cX9_meanLoad : ByteArray := prog_13_method_105_code
def yX9_meanLoad : MethodName := ⟨RX9, "meanLoad", "()F"⟩
def dkwX9_meanLoad_1 : List UInt8 := [182, 1, 32, 134, 42, 182, 0, 168, 134, 110, 174]
abbrev dktX9_meanLoad_1 : List UInt8 := dkwX9_meanLoad_1 ++ []
def dkwX9_meanLoad_0 : List UInt8 := [42, 3, 181, 0, 45, 42, 182, 0, 168, 154, 0, 12, 42, 4, 182, 0, 58, 134, 167, 0, 14, 42]
abbrev dktX9_meanLoad_0 : List UInt8 := dkwX9_meanLoad_0 ++ dktX9_meanLoad_1
theorem dksX9_meanLoad_0 : cX9_meanLoad.data.toList.drop 0 = dktX9_meanLoad_0 := by decide +kernel
theorem dksX9_meanLoad_1 : cX9_meanLoad.data.toList.drop 22 = dktX9_meanLoad_1 := dk_seg dksX9_meanLoad_0 22 rfl rfl
theorem dX9_meanLoad_0 : decode cX9_meanLoad 0 = .ok (.aload_n 0, 1) := dk_42 (dk_at dksX9_meanLoad_0 0 rfl rfl)
theorem dX9_meanLoad_1 : decode cX9_meanLoad 1 = .ok (.iconst 0, 1) := dk_3 (dk_at dksX9_meanLoad_0 1 rfl rfl)
theorem dX9_meanLoad_2 : decode cX9_meanLoad 2 = .ok (.putfield 45, 3) := dk_181 0 45 (dk_at dksX9_meanLoad_0 2 rfl rfl)
theorem dX9_meanLoad_5 : decode cX9_meanLoad 5 = .ok (.aload_n 0, 1) := dk_42 (dk_at dksX9_meanLoad_0 5 rfl rfl)
theorem dX9_meanLoad_6 : decode cX9_meanLoad 6 = .ok (.invokevirtual 168, 3) := dk_182 0 168 (dk_at dksX9_meanLoad_0 6 rfl rfl)
theorem dX9_meanLoad_9 : decode cX9_meanLoad 9 = .ok (.ifCond .ne 12, 3) := dk_154 0 12 (dk_at dksX9_meanLoad_0 9 rfl rfl)
theorem dX9_meanLoad_12 : decode cX9_meanLoad 12 = .ok (.aload_n 0, 1) := dk_42 (dk_at dksX9_meanLoad_0 12 rfl rfl)
theorem dX9_meanLoad_13 : decode cX9_meanLoad 13 = .ok (.iconst 1, 1) := dk_4 (dk_at dksX9_meanLoad_0 13 rfl rfl)
theorem dX9_meanLoad_14 : decode cX9_meanLoad 14 = .ok (.invokevirtual 58, 3) := dk_182 0 58 (dk_at dksX9_meanLoad_0 14 rfl rfl)
theorem dX9_meanLoad_17 : decode cX9_meanLoad 17 = .ok (.i2f, 1) := dk_134 (dk_at dksX9_meanLoad_0 17 rfl rfl)
theorem dX9_meanLoad_18 : decode cX9_meanLoad 18 = .ok (.goto 14, 3) := dk_167 0 14 (dk_at dksX9_meanLoad_0 18 rfl rfl)
theorem dX9_meanLoad_21 : decode cX9_meanLoad 21 = .ok (.aload_n 0, 1) := dk_42 (dk_at dksX9_meanLoad_0 21 rfl rfl)
theorem dX9_meanLoad_22 : decode cX9_meanLoad 22 = .ok (.invokevirtual 288, 3) := dk_182 1 32 (dk_at dksX9_meanLoad_1 0 rfl rfl)
theorem dX9_meanLoad_25 : decode cX9_meanLoad 25 = .ok (.i2f, 1) := dk_134 (dk_at dksX9_meanLoad_1 3 rfl rfl)
theorem dX9_meanLoad_26 : decode cX9_meanLoad 26 = .ok (.aload_n 0, 1) := dk_42 (dk_at dksX9_meanLoad_1 4 rfl rfl)
theorem dX9_meanLoad_27 : decode cX9_meanLoad 27 = .ok (.invokevirtual 168, 3) := dk_182 0 168 (dk_at dksX9_meanLoad_1 5 rfl rfl)
theorem dX9_meanLoad_30 : decode cX9_meanLoad 30 = .ok (.i2f, 1) := dk_134 (dk_at dksX9_meanLoad_1 8 rfl rfl)
theorem dX9_meanLoad_31 : decode cX9_meanLoad 31 = .ok (.fdiv, 1) := dk_110 (dk_at dksX9_meanLoad_1 9 rfl rfl)
theorem dX9_meanLoad_32 : decode cX9_meanLoad 32 = .ok (.freturn, 1) := dk_174 (dk_at dksX9_meanLoad_1 10 rfl rfl)
abbrev cX9_loadsAll : ByteArray := prog_13_method_101_code
def yX9_loadsAll : MethodName := ⟨RX9, "loadsAll", "()I"⟩
def dkwX9_loadsAll_1 : List UInt8 := [132, 2, 1, 167, 255, 235, 27, 172]
abbrev dktX9_loadsAll_1 : List UInt8 := dkwX9_loadsAll_1 ++ []
def dkwX9_loadsAll_0 : List UInt8 := [3, 60, 3, 61, 28, 42, 180, 0, 16, 3, 46, 162, 0, 17, 27, 42, 28, 182, 0, 114, 96, 60]
abbrev dktX9_loadsAll_0 : List UInt8 := dkwX9_loadsAll_0 ++ dktX9_loadsAll_1
theorem dksX9_loadsAll_0 : cX9_loadsAll.data.toList.drop 0 = dktX9_loadsAll_0 := by decide +kernel
theorem dksX9_loadsAll_1 : cX9_loadsAll.data.toList.drop 22 = dktX9_loadsAll_1 := dk_seg dksX9_loadsAll_0 22 rfl rfl
theorem dX9_loadsAll_0 : decode cX9_loadsAll 0 = .ok (.iconst 0, 1) := dk_3 (dk_at dksX9_loadsAll_0 0 rfl rfl)
theorem dX9_loadsAll_1 : decode cX9_loadsAll 1 = .ok (.istore_n 1, 1) := dk_60 (dk_at dksX9_loadsAll_0 1 rfl rfl)
theorem dX9_loadsAll_2 : decode cX9_loadsAll 2 = .ok (.iconst 0, 1) := dk_3 (dk_at dksX9_loadsAll_0 2 rfl rfl)
theorem dX9_loadsAll_3 : decode cX9_loadsAll 3 = .ok (.istore_n 2, 1) := dk_61 (dk_at dksX9_loadsAll_0 3 rfl rfl)
theorem dX9_loadsAll_4 : decode cX9_loadsAll 4 = .ok (.iload_n 2, 1) := dk_28 (dk_at dksX9_loadsAll_0 4 rfl rfl)
theorem dX9_loadsAll_5 : decode cX9_loadsAll 5 = .ok (.aload_n 0, 1) := dk_42 (dk_at dksX9_loadsAll_0 5 rfl rfl)
theorem dX9_loadsAll_6 : decode cX9_loadsAll 6 = .ok (.getfield 16, 3) := dk_180 0 16 (dk_at dksX9_loadsAll_0 6 rfl rfl)
theorem dX9_loadsAll_9 : decode cX9_loadsAll 9 = .ok (.iconst 0, 1) := dk_3 (dk_at dksX9_loadsAll_0 9 rfl rfl)
theorem dX9_loadsAll_10 : decode cX9_loadsAll 10 = .ok (.iaload, 1) := dk_46 (dk_at dksX9_loadsAll_0 10 rfl rfl)
theorem dX9_loadsAll_11 : decode cX9_loadsAll 11 = .ok (.if_icmp .ge 17, 3) := dk_162 0 17 (dk_at dksX9_loadsAll_0 11 rfl rfl)
theorem dX9_loadsAll_14 : decode cX9_loadsAll 14 = .ok (.iload_n 1, 1) := dk_27 (dk_at dksX9_loadsAll_0 14 rfl rfl)
theorem dX9_loadsAll_15 : decode cX9_loadsAll 15 = .ok (.aload_n 0, 1) := dk_42 (dk_at dksX9_loadsAll_0 15 rfl rfl)
theorem dX9_loadsAll_16 : decode cX9_loadsAll 16 = .ok (.iload_n 2, 1) := dk_28 (dk_at dksX9_loadsAll_0 16 rfl rfl)
theorem dX9_loadsAll_17 : decode cX9_loadsAll 17 = .ok (.invokevirtual 114, 3) := dk_182 0 114 (dk_at dksX9_loadsAll_0 17 rfl rfl)
theorem dX9_loadsAll_20 : decode cX9_loadsAll 20 = .ok (.iadd, 1) := dk_96 (dk_at dksX9_loadsAll_0 20 rfl rfl)
theorem dX9_loadsAll_21 : decode cX9_loadsAll 21 = .ok (.istore_n 1, 1) := dk_60 (dk_at dksX9_loadsAll_0 21 rfl rfl)
theorem dX9_loadsAll_22 : decode cX9_loadsAll 22 = .ok (.iinc 2 1, 3) := dk_132 2 1 (dk_at dksX9_loadsAll_1 0 rfl rfl)
theorem dX9_loadsAll_25 : decode cX9_loadsAll 25 = .ok (.goto (-21), 3) := dk_167 255 235 (dk_at dksX9_loadsAll_1 3 rfl rfl)
theorem dX9_loadsAll_28 : decode cX9_loadsAll 28 = .ok (.iload_n 1, 1) := dk_27 (dk_at dksX9_loadsAll_1 6 rfl rfl)
theorem dX9_loadsAll_29 : decode cX9_loadsAll 29 = .ok (.ireturn, 1) := dk_172 (dk_at dksX9_loadsAll_1 7 rfl rfl)
abbrev cX9_sentShare : ByteArray := prog_13_method_106_code
def yX9_sentShare : MethodName := ⟨RX9, "sentShare", "()D"⟩
def dkwX9_sentShare_1 : List UInt8 := [7, 4, 182, 1, 35, 135, 42, 180, 0, 16, 4, 46, 135, 111, 175]
abbrev dktX9_sentShare_1 : List UInt8 := dkwX9_sentShare_1 ++ []
def dkwX9_sentShare_0 : List UInt8 := [42, 3, 181, 0, 45, 42, 180, 0, 16, 4, 46, 154, 0, 12, 42, 4, 182, 0, 58, 135, 167, 0, 18, 42]
abbrev dktX9_sentShare_0 : List UInt8 := dkwX9_sentShare_0 ++ dktX9_sentShare_1
theorem dksX9_sentShare_0 : cX9_sentShare.data.toList.drop 0 = dktX9_sentShare_0 := by decide +kernel
theorem dksX9_sentShare_1 : cX9_sentShare.data.toList.drop 24 = dktX9_sentShare_1 := dk_seg dksX9_sentShare_0 24 rfl rfl
theorem dX9_sentShare_0 : decode cX9_sentShare 0 = .ok (.aload_n 0, 1) := dk_42 (dk_at dksX9_sentShare_0 0 rfl rfl)
theorem dX9_sentShare_1 : decode cX9_sentShare 1 = .ok (.iconst 0, 1) := dk_3 (dk_at dksX9_sentShare_0 1 rfl rfl)
theorem dX9_sentShare_2 : decode cX9_sentShare 2 = .ok (.putfield 45, 3) := dk_181 0 45 (dk_at dksX9_sentShare_0 2 rfl rfl)
theorem dX9_sentShare_5 : decode cX9_sentShare 5 = .ok (.aload_n 0, 1) := dk_42 (dk_at dksX9_sentShare_0 5 rfl rfl)
theorem dX9_sentShare_6 : decode cX9_sentShare 6 = .ok (.getfield 16, 3) := dk_180 0 16 (dk_at dksX9_sentShare_0 6 rfl rfl)
theorem dX9_sentShare_9 : decode cX9_sentShare 9 = .ok (.iconst 1, 1) := dk_4 (dk_at dksX9_sentShare_0 9 rfl rfl)
theorem dX9_sentShare_10 : decode cX9_sentShare 10 = .ok (.iaload, 1) := dk_46 (dk_at dksX9_sentShare_0 10 rfl rfl)
theorem dX9_sentShare_11 : decode cX9_sentShare 11 = .ok (.ifCond .ne 12, 3) := dk_154 0 12 (dk_at dksX9_sentShare_0 11 rfl rfl)
theorem dX9_sentShare_14 : decode cX9_sentShare 14 = .ok (.aload_n 0, 1) := dk_42 (dk_at dksX9_sentShare_0 14 rfl rfl)
theorem dX9_sentShare_15 : decode cX9_sentShare 15 = .ok (.iconst 1, 1) := dk_4 (dk_at dksX9_sentShare_0 15 rfl rfl)
theorem dX9_sentShare_16 : decode cX9_sentShare 16 = .ok (.invokevirtual 58, 3) := dk_182 0 58 (dk_at dksX9_sentShare_0 16 rfl rfl)
theorem dX9_sentShare_19 : decode cX9_sentShare 19 = .ok (.i2d, 1) := dk_135 (dk_at dksX9_sentShare_0 19 rfl rfl)
theorem dX9_sentShare_20 : decode cX9_sentShare 20 = .ok (.goto 18, 3) := dk_167 0 18 (dk_at dksX9_sentShare_0 20 rfl rfl)
theorem dX9_sentShare_23 : decode cX9_sentShare 23 = .ok (.aload_n 0, 1) := dk_42 (dk_at dksX9_sentShare_0 23 rfl rfl)
theorem dX9_sentShare_24 : decode cX9_sentShare 24 = .ok (.iconst 4, 1) := dk_7 (dk_at dksX9_sentShare_1 0 rfl rfl)
theorem dX9_sentShare_25 : decode cX9_sentShare 25 = .ok (.iconst 1, 1) := dk_4 (dk_at dksX9_sentShare_1 1 rfl rfl)
theorem dX9_sentShare_26 : decode cX9_sentShare 26 = .ok (.invokevirtual 291, 3) := dk_182 1 35 (dk_at dksX9_sentShare_1 2 rfl rfl)
theorem dX9_sentShare_29 : decode cX9_sentShare 29 = .ok (.i2d, 1) := dk_135 (dk_at dksX9_sentShare_1 5 rfl rfl)
theorem dX9_sentShare_30 : decode cX9_sentShare 30 = .ok (.aload_n 0, 1) := dk_42 (dk_at dksX9_sentShare_1 6 rfl rfl)
theorem dX9_sentShare_31 : decode cX9_sentShare 31 = .ok (.getfield 16, 3) := dk_180 0 16 (dk_at dksX9_sentShare_1 7 rfl rfl)
theorem dX9_sentShare_34 : decode cX9_sentShare 34 = .ok (.iconst 1, 1) := dk_4 (dk_at dksX9_sentShare_1 10 rfl rfl)
theorem dX9_sentShare_35 : decode cX9_sentShare 35 = .ok (.iaload, 1) := dk_46 (dk_at dksX9_sentShare_1 11 rfl rfl)
theorem dX9_sentShare_36 : decode cX9_sentShare 36 = .ok (.i2d, 1) := dk_135 (dk_at dksX9_sentShare_1 12 rfl rfl)
theorem dX9_sentShare_37 : decode cX9_sentShare 37 = .ok (.ddiv, 1) := dk_111 (dk_at dksX9_sentShare_1 13 rfl rfl)
theorem dX9_sentShare_38 : decode cX9_sentShare 38 = .ok (.dreturn, 1) := dk_175 (dk_at dksX9_sentShare_1 14 rfl rfl)
abbrev cX9_customersThat : ByteArray := prog_13_method_102_code
def yX9_customersThat : MethodName := ⟨RX9, "customersThat", "(II)I"⟩
def dkwX9_customersThat_1 : List UInt8 := [28, 160, 0, 7, 4, 167, 0, 4, 3, 96, 62, 132, 4, 1, 167, 255, 223, 29, 172]
abbrev dktX9_customersThat_1 : List UInt8 := dkwX9_customersThat_1 ++ []
def dkwX9_customersThat_0 : List UInt8 := [3, 62, 3, 54, 4, 21, 4, 42, 180, 0, 16, 4, 46, 162, 0, 28, 29, 42, 21, 4, 27, 182, 0, 105]
abbrev dktX9_customersThat_0 : List UInt8 := dkwX9_customersThat_0 ++ dktX9_customersThat_1
theorem dksX9_customersThat_0 : cX9_customersThat.data.toList.drop 0 = dktX9_customersThat_0 := by decide +kernel
theorem dksX9_customersThat_1 : cX9_customersThat.data.toList.drop 24 = dktX9_customersThat_1 := dk_seg dksX9_customersThat_0 24 rfl rfl
theorem dX9_customersThat_0 : decode cX9_customersThat 0 = .ok (.iconst 0, 1) := dk_3 (dk_at dksX9_customersThat_0 0 rfl rfl)
theorem dX9_customersThat_1 : decode cX9_customersThat 1 = .ok (.istore_n 3, 1) := dk_62 (dk_at dksX9_customersThat_0 1 rfl rfl)
theorem dX9_customersThat_2 : decode cX9_customersThat 2 = .ok (.iconst 0, 1) := dk_3 (dk_at dksX9_customersThat_0 2 rfl rfl)
theorem dX9_customersThat_3 : decode cX9_customersThat 3 = .ok (.istore 4, 2) := dk_54 4 (dk_at dksX9_customersThat_0 3 rfl rfl)
theorem dX9_customersThat_5 : decode cX9_customersThat 5 = .ok (.iload 4, 2) := dk_21 4 (dk_at dksX9_customersThat_0 5 rfl rfl)
theorem dX9_customersThat_7 : decode cX9_customersThat 7 = .ok (.aload_n 0, 1) := dk_42 (dk_at dksX9_customersThat_0 7 rfl rfl)
theorem dX9_customersThat_8 : decode cX9_customersThat 8 = .ok (.getfield 16, 3) := dk_180 0 16 (dk_at dksX9_customersThat_0 8 rfl rfl)
theorem dX9_customersThat_11 : decode cX9_customersThat 11 = .ok (.iconst 1, 1) := dk_4 (dk_at dksX9_customersThat_0 11 rfl rfl)
theorem dX9_customersThat_12 : decode cX9_customersThat 12 = .ok (.iaload, 1) := dk_46 (dk_at dksX9_customersThat_0 12 rfl rfl)
theorem dX9_customersThat_13 : decode cX9_customersThat 13 = .ok (.if_icmp .ge 28, 3) := dk_162 0 28 (dk_at dksX9_customersThat_0 13 rfl rfl)
theorem dX9_customersThat_16 : decode cX9_customersThat 16 = .ok (.iload_n 3, 1) := dk_29 (dk_at dksX9_customersThat_0 16 rfl rfl)
theorem dX9_customersThat_17 : decode cX9_customersThat 17 = .ok (.aload_n 0, 1) := dk_42 (dk_at dksX9_customersThat_0 17 rfl rfl)
theorem dX9_customersThat_18 : decode cX9_customersThat 18 = .ok (.iload 4, 2) := dk_21 4 (dk_at dksX9_customersThat_0 18 rfl rfl)
theorem dX9_customersThat_20 : decode cX9_customersThat 20 = .ok (.iload_n 1, 1) := dk_27 (dk_at dksX9_customersThat_0 20 rfl rfl)
theorem dX9_customersThat_21 : decode cX9_customersThat 21 = .ok (.invokevirtual 105, 3) := dk_182 0 105 (dk_at dksX9_customersThat_0 21 rfl rfl)
theorem dX9_customersThat_24 : decode cX9_customersThat 24 = .ok (.iload_n 2, 1) := dk_28 (dk_at dksX9_customersThat_1 0 rfl rfl)
theorem dX9_customersThat_25 : decode cX9_customersThat 25 = .ok (.if_icmp .ne 7, 3) := dk_160 0 7 (dk_at dksX9_customersThat_1 1 rfl rfl)
theorem dX9_customersThat_28 : decode cX9_customersThat 28 = .ok (.iconst 1, 1) := dk_4 (dk_at dksX9_customersThat_1 4 rfl rfl)
theorem dX9_customersThat_29 : decode cX9_customersThat 29 = .ok (.goto 4, 3) := dk_167 0 4 (dk_at dksX9_customersThat_1 5 rfl rfl)
theorem dX9_customersThat_32 : decode cX9_customersThat 32 = .ok (.iconst 0, 1) := dk_3 (dk_at dksX9_customersThat_1 8 rfl rfl)
theorem dX9_customersThat_33 : decode cX9_customersThat 33 = .ok (.iadd, 1) := dk_96 (dk_at dksX9_customersThat_1 9 rfl rfl)
theorem dX9_customersThat_34 : decode cX9_customersThat 34 = .ok (.istore_n 3, 1) := dk_62 (dk_at dksX9_customersThat_1 10 rfl rfl)
theorem dX9_customersThat_35 : decode cX9_customersThat 35 = .ok (.iinc 4 1, 3) := dk_132 4 1 (dk_at dksX9_customersThat_1 11 rfl rfl)
theorem dX9_customersThat_38 : decode cX9_customersThat 38 = .ok (.goto (-33), 3) := dk_167 255 223 (dk_at dksX9_customersThat_1 14 rfl rfl)
theorem dX9_customersThat_41 : decode cX9_customersThat 41 = .ok (.iload_n 3, 1) := dk_29 (dk_at dksX9_customersThat_1 17 rfl rfl)
theorem dX9_customersThat_42 : decode cX9_customersThat 42 = .ok (.ireturn, 1) := dk_172 (dk_at dksX9_customersThat_1 18 rfl rfl)
abbrev cX9_account : ByteArray := prog_13_method_107_code
def yX9_account : MethodName := ⟨RX9, "account", "(I)I"⟩
def dkwX9_account_5 : List UInt8 := [180, 0, 227, 172, 42, 180, 0, 62, 172, 42, 4, 182, 0, 58, 172]
abbrev dktX9_account_5 : List UInt8 := dkwX9_account_5 ++ []
def dkwX9_account_4 : List UInt8 := [182, 1, 35, 172, 42, 182, 1, 41, 172, 42, 180, 0, 16, 5, 46, 172, 42, 180, 0, 16, 6, 46, 172, 42]
abbrev dktX9_account_4 : List UInt8 := dkwX9_account_4 ++ dktX9_account_5
def dkwX9_account_3 : List UInt8 := [4, 46, 172, 42, 182, 1, 38, 172, 42, 182, 1, 32, 172, 42, 5, 3, 182, 1, 35, 172, 42, 7, 4]
abbrev dktX9_account_3 : List UInt8 := dkwX9_account_3 ++ dktX9_account_4
def dkwX9_account_2 : List UInt8 := [42, 180, 0, 16, 3, 46, 172, 42, 182, 0, 168, 172, 42, 180, 0, 16, 16, 28, 46, 172, 42, 180, 0, 16]
abbrev dktX9_account_2 : List UInt8 := dkwX9_account_2 ++ dktX9_account_3
def dkwX9_account_1 : List UInt8 := [170, 0, 0, 0, 0, 146, 0, 0, 0, 0, 0, 0, 0, 12, 0, 0, 0, 66, 0, 0, 0, 73, 0, 0, 0, 78, 0, 0, 0, 86, 0, 0, 0, 93, 0, 0, 0, 98, 0, 0, 0, 103, 0, 0, 0, 110, 0, 0, 0, 117, 0, 0, 0, 122, 0, 0, 0, 129, 0, 0, 0, 136, 0, 0, 0, 141]
abbrev dktX9_account_1 : List UInt8 := dkwX9_account_1 ++ dktX9_account_2
def dkwX9_account_0 : List UInt8 := [42, 3, 181, 0, 45, 27]
abbrev dktX9_account_0 : List UInt8 := dkwX9_account_0 ++ dktX9_account_1
theorem dksX9_account_0 : cX9_account.data.toList.drop 0 = dktX9_account_0 := by decide +kernel
theorem dksX9_account_1 : cX9_account.data.toList.drop 6 = dktX9_account_1 := dk_seg dksX9_account_0 6 rfl rfl
theorem dksX9_account_2 : cX9_account.data.toList.drop 72 = dktX9_account_2 := dk_seg dksX9_account_1 66 rfl rfl
theorem dksX9_account_3 : cX9_account.data.toList.drop 96 = dktX9_account_3 := dk_seg dksX9_account_2 24 rfl rfl
theorem dksX9_account_4 : cX9_account.data.toList.drop 119 = dktX9_account_4 := dk_seg dksX9_account_3 23 rfl rfl
theorem dksX9_account_5 : cX9_account.data.toList.drop 143 = dktX9_account_5 := dk_seg dksX9_account_4 24 rfl rfl
theorem dX9_account_0 : decode cX9_account 0 = .ok (.aload_n 0, 1) := dk_42 (dk_at dksX9_account_0 0 rfl rfl)
theorem dX9_account_1 : decode cX9_account 1 = .ok (.iconst 0, 1) := dk_3 (dk_at dksX9_account_0 1 rfl rfl)
theorem dX9_account_2 : decode cX9_account 2 = .ok (.putfield 45, 3) := dk_181 0 45 (dk_at dksX9_account_0 2 rfl rfl)
theorem dX9_account_5 : decode cX9_account 5 = .ok (.iload_n 1, 1) := dk_27 (dk_at dksX9_account_0 5 rfl rfl)
theorem dX9_account_6 : decode cX9_account 6 = .ok (.tableswitch 146 0 12 #[66, 73, 78, 86, 93, 98, 103, 110, 117, 122, 129, 136, 141], 66) := by decide +kernel
theorem dX9_account_72 : decode cX9_account 72 = .ok (.aload_n 0, 1) := dk_42 (dk_at dksX9_account_2 0 rfl rfl)
theorem dX9_account_73 : decode cX9_account 73 = .ok (.getfield 16, 3) := dk_180 0 16 (dk_at dksX9_account_2 1 rfl rfl)
theorem dX9_account_76 : decode cX9_account 76 = .ok (.iconst 0, 1) := dk_3 (dk_at dksX9_account_2 4 rfl rfl)
theorem dX9_account_77 : decode cX9_account 77 = .ok (.iaload, 1) := dk_46 (dk_at dksX9_account_2 5 rfl rfl)
theorem dX9_account_78 : decode cX9_account 78 = .ok (.ireturn, 1) := dk_172 (dk_at dksX9_account_2 6 rfl rfl)
theorem dX9_account_79 : decode cX9_account 79 = .ok (.aload_n 0, 1) := dk_42 (dk_at dksX9_account_2 7 rfl rfl)
theorem dX9_account_80 : decode cX9_account 80 = .ok (.invokevirtual 168, 3) := dk_182 0 168 (dk_at dksX9_account_2 8 rfl rfl)
theorem dX9_account_83 : decode cX9_account 83 = .ok (.ireturn, 1) := dk_172 (dk_at dksX9_account_2 11 rfl rfl)
theorem dX9_account_84 : decode cX9_account 84 = .ok (.aload_n 0, 1) := dk_42 (dk_at dksX9_account_2 12 rfl rfl)
theorem dX9_account_85 : decode cX9_account 85 = .ok (.getfield 16, 3) := dk_180 0 16 (dk_at dksX9_account_2 13 rfl rfl)
theorem dX9_account_88 : decode cX9_account 88 = .ok (.bipush 28, 2) := dk_16 28 (dk_at dksX9_account_2 16 rfl rfl)
theorem dX9_account_90 : decode cX9_account 90 = .ok (.iaload, 1) := dk_46 (dk_at dksX9_account_2 18 rfl rfl)
theorem dX9_account_91 : decode cX9_account 91 = .ok (.ireturn, 1) := dk_172 (dk_at dksX9_account_2 19 rfl rfl)
theorem dX9_account_92 : decode cX9_account 92 = .ok (.aload_n 0, 1) := dk_42 (dk_at dksX9_account_2 20 rfl rfl)
theorem dX9_account_93 : decode cX9_account 93 = .ok (.getfield 16, 3) := dk_180 0 16 (dk_at dksX9_account_2 21 rfl rfl)
theorem dX9_account_96 : decode cX9_account 96 = .ok (.iconst 1, 1) := dk_4 (dk_at dksX9_account_3 0 rfl rfl)
theorem dX9_account_97 : decode cX9_account 97 = .ok (.iaload, 1) := dk_46 (dk_at dksX9_account_3 1 rfl rfl)
theorem dX9_account_98 : decode cX9_account 98 = .ok (.ireturn, 1) := dk_172 (dk_at dksX9_account_3 2 rfl rfl)
theorem dX9_account_99 : decode cX9_account 99 = .ok (.aload_n 0, 1) := dk_42 (dk_at dksX9_account_3 3 rfl rfl)
theorem dX9_account_100 : decode cX9_account 100 = .ok (.invokevirtual 294, 3) := dk_182 1 38 (dk_at dksX9_account_3 4 rfl rfl)
theorem dX9_account_103 : decode cX9_account 103 = .ok (.ireturn, 1) := dk_172 (dk_at dksX9_account_3 7 rfl rfl)
theorem dX9_account_104 : decode cX9_account 104 = .ok (.aload_n 0, 1) := dk_42 (dk_at dksX9_account_3 8 rfl rfl)
theorem dX9_account_105 : decode cX9_account 105 = .ok (.invokevirtual 288, 3) := dk_182 1 32 (dk_at dksX9_account_3 9 rfl rfl)
theorem dX9_account_108 : decode cX9_account 108 = .ok (.ireturn, 1) := dk_172 (dk_at dksX9_account_3 12 rfl rfl)
theorem dX9_account_109 : decode cX9_account 109 = .ok (.aload_n 0, 1) := dk_42 (dk_at dksX9_account_3 13 rfl rfl)
theorem dX9_account_110 : decode cX9_account 110 = .ok (.iconst 2, 1) := dk_5 (dk_at dksX9_account_3 14 rfl rfl)
theorem dX9_account_111 : decode cX9_account 111 = .ok (.iconst 0, 1) := dk_3 (dk_at dksX9_account_3 15 rfl rfl)
theorem dX9_account_112 : decode cX9_account 112 = .ok (.invokevirtual 291, 3) := dk_182 1 35 (dk_at dksX9_account_3 16 rfl rfl)
theorem dX9_account_115 : decode cX9_account 115 = .ok (.ireturn, 1) := dk_172 (dk_at dksX9_account_3 19 rfl rfl)
theorem dX9_account_116 : decode cX9_account 116 = .ok (.aload_n 0, 1) := dk_42 (dk_at dksX9_account_3 20 rfl rfl)
theorem dX9_account_117 : decode cX9_account 117 = .ok (.iconst 4, 1) := dk_7 (dk_at dksX9_account_3 21 rfl rfl)
theorem dX9_account_118 : decode cX9_account 118 = .ok (.iconst 1, 1) := dk_4 (dk_at dksX9_account_3 22 rfl rfl)
theorem dX9_account_119 : decode cX9_account 119 = .ok (.invokevirtual 291, 3) := dk_182 1 35 (dk_at dksX9_account_4 0 rfl rfl)
theorem dX9_account_122 : decode cX9_account 122 = .ok (.ireturn, 1) := dk_172 (dk_at dksX9_account_4 3 rfl rfl)
theorem dX9_account_123 : decode cX9_account 123 = .ok (.aload_n 0, 1) := dk_42 (dk_at dksX9_account_4 4 rfl rfl)
theorem dX9_account_124 : decode cX9_account 124 = .ok (.invokevirtual 297, 3) := dk_182 1 41 (dk_at dksX9_account_4 5 rfl rfl)
theorem dX9_account_127 : decode cX9_account 127 = .ok (.ireturn, 1) := dk_172 (dk_at dksX9_account_4 8 rfl rfl)
theorem dX9_account_128 : decode cX9_account 128 = .ok (.aload_n 0, 1) := dk_42 (dk_at dksX9_account_4 9 rfl rfl)
theorem dX9_account_129 : decode cX9_account 129 = .ok (.getfield 16, 3) := dk_180 0 16 (dk_at dksX9_account_4 10 rfl rfl)
theorem dX9_account_132 : decode cX9_account 132 = .ok (.iconst 2, 1) := dk_5 (dk_at dksX9_account_4 13 rfl rfl)
theorem dX9_account_133 : decode cX9_account 133 = .ok (.iaload, 1) := dk_46 (dk_at dksX9_account_4 14 rfl rfl)
theorem dX9_account_134 : decode cX9_account 134 = .ok (.ireturn, 1) := dk_172 (dk_at dksX9_account_4 15 rfl rfl)
theorem dX9_account_135 : decode cX9_account 135 = .ok (.aload_n 0, 1) := dk_42 (dk_at dksX9_account_4 16 rfl rfl)
theorem dX9_account_136 : decode cX9_account 136 = .ok (.getfield 16, 3) := dk_180 0 16 (dk_at dksX9_account_4 17 rfl rfl)
theorem dX9_account_139 : decode cX9_account 139 = .ok (.iconst 3, 1) := dk_6 (dk_at dksX9_account_4 20 rfl rfl)
theorem dX9_account_140 : decode cX9_account 140 = .ok (.iaload, 1) := dk_46 (dk_at dksX9_account_4 21 rfl rfl)
theorem dX9_account_141 : decode cX9_account 141 = .ok (.ireturn, 1) := dk_172 (dk_at dksX9_account_4 22 rfl rfl)
theorem dX9_account_142 : decode cX9_account 142 = .ok (.aload_n 0, 1) := dk_42 (dk_at dksX9_account_4 23 rfl rfl)
theorem dX9_account_143 : decode cX9_account 143 = .ok (.getfield 227, 3) := dk_180 0 227 (dk_at dksX9_account_5 0 rfl rfl)
theorem dX9_account_146 : decode cX9_account 146 = .ok (.ireturn, 1) := dk_172 (dk_at dksX9_account_5 3 rfl rfl)
theorem dX9_account_147 : decode cX9_account 147 = .ok (.aload_n 0, 1) := dk_42 (dk_at dksX9_account_5 4 rfl rfl)
theorem dX9_account_148 : decode cX9_account 148 = .ok (.getfield 62, 3) := dk_180 0 62 (dk_at dksX9_account_5 5 rfl rfl)
theorem dX9_account_151 : decode cX9_account 151 = .ok (.ireturn, 1) := dk_172 (dk_at dksX9_account_5 8 rfl rfl)
theorem dX9_account_152 : decode cX9_account 152 = .ok (.aload_n 0, 1) := dk_42 (dk_at dksX9_account_5 9 rfl rfl)
theorem dX9_account_153 : decode cX9_account 153 = .ok (.iconst 1, 1) := dk_4 (dk_at dksX9_account_5 10 rfl rfl)
theorem dX9_account_154 : decode cX9_account 154 = .ok (.invokevirtual 58, 3) := dk_182 0 58 (dk_at dksX9_account_5 11 rfl rfl)
theorem dX9_account_157 : decode cX9_account 157 = .ok (.ireturn, 1) := dk_172 (dk_at dksX9_account_5 14 rfl rfl)
abbrev cX9_loavesAll : ByteArray := prog_13_method_103_code
def yX9_loavesAll : MethodName := ⟨RX9, "loavesAll", "()I"⟩
def dkwX9_loavesAll_1 : List UInt8 := [132, 2, 1, 167, 255, 234, 27, 172]
abbrev dktX9_loavesAll_1 : List UInt8 := dkwX9_loavesAll_1 ++ []
def dkwX9_loavesAll_0 : List UInt8 := [3, 60, 3, 61, 28, 42, 180, 0, 16, 4, 46, 162, 0, 18, 27, 42, 28, 4, 182, 0, 105, 96, 60]
abbrev dktX9_loavesAll_0 : List UInt8 := dkwX9_loavesAll_0 ++ dktX9_loavesAll_1
theorem dksX9_loavesAll_0 : cX9_loavesAll.data.toList.drop 0 = dktX9_loavesAll_0 := by decide +kernel
theorem dksX9_loavesAll_1 : cX9_loavesAll.data.toList.drop 23 = dktX9_loavesAll_1 := dk_seg dksX9_loavesAll_0 23 rfl rfl
theorem dX9_loavesAll_0 : decode cX9_loavesAll 0 = .ok (.iconst 0, 1) := dk_3 (dk_at dksX9_loavesAll_0 0 rfl rfl)
theorem dX9_loavesAll_1 : decode cX9_loavesAll 1 = .ok (.istore_n 1, 1) := dk_60 (dk_at dksX9_loavesAll_0 1 rfl rfl)
theorem dX9_loavesAll_2 : decode cX9_loavesAll 2 = .ok (.iconst 0, 1) := dk_3 (dk_at dksX9_loavesAll_0 2 rfl rfl)
theorem dX9_loavesAll_3 : decode cX9_loavesAll 3 = .ok (.istore_n 2, 1) := dk_61 (dk_at dksX9_loavesAll_0 3 rfl rfl)
theorem dX9_loavesAll_4 : decode cX9_loavesAll 4 = .ok (.iload_n 2, 1) := dk_28 (dk_at dksX9_loavesAll_0 4 rfl rfl)
theorem dX9_loavesAll_5 : decode cX9_loavesAll 5 = .ok (.aload_n 0, 1) := dk_42 (dk_at dksX9_loavesAll_0 5 rfl rfl)
theorem dX9_loavesAll_6 : decode cX9_loavesAll 6 = .ok (.getfield 16, 3) := dk_180 0 16 (dk_at dksX9_loavesAll_0 6 rfl rfl)
theorem dX9_loavesAll_9 : decode cX9_loavesAll 9 = .ok (.iconst 1, 1) := dk_4 (dk_at dksX9_loavesAll_0 9 rfl rfl)
theorem dX9_loavesAll_10 : decode cX9_loavesAll 10 = .ok (.iaload, 1) := dk_46 (dk_at dksX9_loavesAll_0 10 rfl rfl)
theorem dX9_loavesAll_11 : decode cX9_loavesAll 11 = .ok (.if_icmp .ge 18, 3) := dk_162 0 18 (dk_at dksX9_loavesAll_0 11 rfl rfl)
theorem dX9_loavesAll_14 : decode cX9_loavesAll 14 = .ok (.iload_n 1, 1) := dk_27 (dk_at dksX9_loavesAll_0 14 rfl rfl)
theorem dX9_loavesAll_15 : decode cX9_loavesAll 15 = .ok (.aload_n 0, 1) := dk_42 (dk_at dksX9_loavesAll_0 15 rfl rfl)
theorem dX9_loavesAll_16 : decode cX9_loavesAll 16 = .ok (.iload_n 2, 1) := dk_28 (dk_at dksX9_loavesAll_0 16 rfl rfl)
theorem dX9_loavesAll_17 : decode cX9_loavesAll 17 = .ok (.iconst 1, 1) := dk_4 (dk_at dksX9_loavesAll_0 17 rfl rfl)
theorem dX9_loavesAll_18 : decode cX9_loavesAll 18 = .ok (.invokevirtual 105, 3) := dk_182 0 105 (dk_at dksX9_loavesAll_0 18 rfl rfl)
theorem dX9_loavesAll_21 : decode cX9_loavesAll 21 = .ok (.iadd, 1) := dk_96 (dk_at dksX9_loavesAll_0 21 rfl rfl)
theorem dX9_loavesAll_22 : decode cX9_loavesAll 22 = .ok (.istore_n 1, 1) := dk_60 (dk_at dksX9_loavesAll_0 22 rfl rfl)
theorem dX9_loavesAll_23 : decode cX9_loavesAll 23 = .ok (.iinc 2 1, 3) := dk_132 2 1 (dk_at dksX9_loavesAll_1 0 rfl rfl)
theorem dX9_loavesAll_26 : decode cX9_loavesAll 26 = .ok (.goto (-22), 3) := dk_167 255 234 (dk_at dksX9_loavesAll_1 3 rfl rfl)
theorem dX9_loavesAll_29 : decode cX9_loavesAll 29 = .ok (.iload_n 1, 1) := dk_27 (dk_at dksX9_loavesAll_1 6 rfl rfl)
theorem dX9_loavesAll_30 : decode cX9_loavesAll 30 = .ok (.ireturn, 1) := dk_172 (dk_at dksX9_loavesAll_1 7 rfl rfl)
abbrev cX9_overloadedMany : ByteArray := prog_13_method_104_code
def yX9_overloadedMany : MethodName := ⟨RX9, "overloadedMany", "()I"⟩
def dkwX9_overloadedMany_1 : List UInt8 := [167, 0, 4, 3, 96, 60, 132, 2, 1, 167, 255, 227, 27, 172]
abbrev dktX9_overloadedMany_1 : List UInt8 := dkwX9_overloadedMany_1 ++ []
def dkwX9_overloadedMany_0 : List UInt8 := [3, 60, 3, 61, 28, 42, 180, 0, 16, 3, 46, 162, 0, 25, 27, 42, 28, 182, 0, 205, 153, 0, 7, 4]
abbrev dktX9_overloadedMany_0 : List UInt8 := dkwX9_overloadedMany_0 ++ dktX9_overloadedMany_1
theorem dksX9_overloadedMany_0 : cX9_overloadedMany.data.toList.drop 0 = dktX9_overloadedMany_0 := by decide +kernel
theorem dksX9_overloadedMany_1 : cX9_overloadedMany.data.toList.drop 24 = dktX9_overloadedMany_1 := dk_seg dksX9_overloadedMany_0 24 rfl rfl
theorem dX9_overloadedMany_0 : decode cX9_overloadedMany 0 = .ok (.iconst 0, 1) := dk_3 (dk_at dksX9_overloadedMany_0 0 rfl rfl)
theorem dX9_overloadedMany_1 : decode cX9_overloadedMany 1 = .ok (.istore_n 1, 1) := dk_60 (dk_at dksX9_overloadedMany_0 1 rfl rfl)
theorem dX9_overloadedMany_2 : decode cX9_overloadedMany 2 = .ok (.iconst 0, 1) := dk_3 (dk_at dksX9_overloadedMany_0 2 rfl rfl)
theorem dX9_overloadedMany_3 : decode cX9_overloadedMany 3 = .ok (.istore_n 2, 1) := dk_61 (dk_at dksX9_overloadedMany_0 3 rfl rfl)
theorem dX9_overloadedMany_4 : decode cX9_overloadedMany 4 = .ok (.iload_n 2, 1) := dk_28 (dk_at dksX9_overloadedMany_0 4 rfl rfl)
theorem dX9_overloadedMany_5 : decode cX9_overloadedMany 5 = .ok (.aload_n 0, 1) := dk_42 (dk_at dksX9_overloadedMany_0 5 rfl rfl)
theorem dX9_overloadedMany_6 : decode cX9_overloadedMany 6 = .ok (.getfield 16, 3) := dk_180 0 16 (dk_at dksX9_overloadedMany_0 6 rfl rfl)
theorem dX9_overloadedMany_9 : decode cX9_overloadedMany 9 = .ok (.iconst 0, 1) := dk_3 (dk_at dksX9_overloadedMany_0 9 rfl rfl)
theorem dX9_overloadedMany_10 : decode cX9_overloadedMany 10 = .ok (.iaload, 1) := dk_46 (dk_at dksX9_overloadedMany_0 10 rfl rfl)
theorem dX9_overloadedMany_11 : decode cX9_overloadedMany 11 = .ok (.if_icmp .ge 25, 3) := dk_162 0 25 (dk_at dksX9_overloadedMany_0 11 rfl rfl)
theorem dX9_overloadedMany_14 : decode cX9_overloadedMany 14 = .ok (.iload_n 1, 1) := dk_27 (dk_at dksX9_overloadedMany_0 14 rfl rfl)
theorem dX9_overloadedMany_15 : decode cX9_overloadedMany 15 = .ok (.aload_n 0, 1) := dk_42 (dk_at dksX9_overloadedMany_0 15 rfl rfl)
theorem dX9_overloadedMany_16 : decode cX9_overloadedMany 16 = .ok (.iload_n 2, 1) := dk_28 (dk_at dksX9_overloadedMany_0 16 rfl rfl)
theorem dX9_overloadedMany_17 : decode cX9_overloadedMany 17 = .ok (.invokevirtual 205, 3) := dk_182 0 205 (dk_at dksX9_overloadedMany_0 17 rfl rfl)
theorem dX9_overloadedMany_20 : decode cX9_overloadedMany 20 = .ok (.ifCond .eq 7, 3) := dk_153 0 7 (dk_at dksX9_overloadedMany_0 20 rfl rfl)
theorem dX9_overloadedMany_23 : decode cX9_overloadedMany 23 = .ok (.iconst 1, 1) := dk_4 (dk_at dksX9_overloadedMany_0 23 rfl rfl)
theorem dX9_overloadedMany_24 : decode cX9_overloadedMany 24 = .ok (.goto 4, 3) := dk_167 0 4 (dk_at dksX9_overloadedMany_1 0 rfl rfl)
theorem dX9_overloadedMany_27 : decode cX9_overloadedMany 27 = .ok (.iconst 0, 1) := dk_3 (dk_at dksX9_overloadedMany_1 3 rfl rfl)
theorem dX9_overloadedMany_28 : decode cX9_overloadedMany 28 = .ok (.iadd, 1) := dk_96 (dk_at dksX9_overloadedMany_1 4 rfl rfl)
theorem dX9_overloadedMany_29 : decode cX9_overloadedMany 29 = .ok (.istore_n 1, 1) := dk_60 (dk_at dksX9_overloadedMany_1 5 rfl rfl)
theorem dX9_overloadedMany_30 : decode cX9_overloadedMany 30 = .ok (.iinc 2 1, 3) := dk_132 2 1 (dk_at dksX9_overloadedMany_1 6 rfl rfl)
theorem dX9_overloadedMany_33 : decode cX9_overloadedMany 33 = .ok (.goto (-29), 3) := dk_167 255 227 (dk_at dksX9_overloadedMany_1 9 rfl rfl)
theorem dX9_overloadedMany_36 : decode cX9_overloadedMany 36 = .ok (.iload_n 1, 1) := dk_27 (dk_at dksX9_overloadedMany_1 12 rfl rfl)
theorem dX9_overloadedMany_37 : decode cX9_overloadedMany 37 = .ok (.ireturn, 1) := dk_172 (dk_at dksX9_overloadedMany_1 13 rfl rfl)
abbrev cX9_undo : ByteArray := prog_13_method_108_code
def yX9_undo : MethodName := ⟨RX9, "undo", "()I"⟩
def dkwX9_undo_3 : List UInt8 := [167, 255, 228, 42, 180, 0, 62, 172]
abbrev dktX9_undo_3 : List UInt8 := dkwX9_undo_3 ++ []
def dkwX9_undo_2 : List UInt8 := [162, 0, 27, 42, 180, 0, 16, 28, 42, 180, 0, 19, 17, 0, 199, 27, 104, 28, 96, 46, 79, 132, 2, 1]
abbrev dktX9_undo_2 : List UInt8 := dkwX9_undo_2 ++ dktX9_undo_3
def dkwX9_undo_1 : List UInt8 := [100, 181, 0, 62, 42, 180, 0, 65, 42, 180, 0, 62, 96, 16, 8, 112, 60, 3, 61, 28, 17, 0, 199]
abbrev dktX9_undo_1 : List UInt8 := dkwX9_undo_1 ++ dktX9_undo_2
def dkwX9_undo_0 : List UInt8 := [42, 3, 181, 0, 45, 42, 180, 0, 62, 154, 0, 9, 42, 4, 182, 0, 58, 172, 42, 89, 180, 0, 62, 4]
abbrev dktX9_undo_0 : List UInt8 := dkwX9_undo_0 ++ dktX9_undo_1
theorem dksX9_undo_0 : cX9_undo.data.toList.drop 0 = dktX9_undo_0 := by decide +kernel
theorem dksX9_undo_1 : cX9_undo.data.toList.drop 24 = dktX9_undo_1 := dk_seg dksX9_undo_0 24 rfl rfl
theorem dksX9_undo_2 : cX9_undo.data.toList.drop 47 = dktX9_undo_2 := dk_seg dksX9_undo_1 23 rfl rfl
theorem dksX9_undo_3 : cX9_undo.data.toList.drop 71 = dktX9_undo_3 := dk_seg dksX9_undo_2 24 rfl rfl
theorem dX9_undo_0 : decode cX9_undo 0 = .ok (.aload_n 0, 1) := dk_42 (dk_at dksX9_undo_0 0 rfl rfl)
theorem dX9_undo_1 : decode cX9_undo 1 = .ok (.iconst 0, 1) := dk_3 (dk_at dksX9_undo_0 1 rfl rfl)
theorem dX9_undo_2 : decode cX9_undo 2 = .ok (.putfield 45, 3) := dk_181 0 45 (dk_at dksX9_undo_0 2 rfl rfl)
theorem dX9_undo_5 : decode cX9_undo 5 = .ok (.aload_n 0, 1) := dk_42 (dk_at dksX9_undo_0 5 rfl rfl)
theorem dX9_undo_6 : decode cX9_undo 6 = .ok (.getfield 62, 3) := dk_180 0 62 (dk_at dksX9_undo_0 6 rfl rfl)
theorem dX9_undo_9 : decode cX9_undo 9 = .ok (.ifCond .ne 9, 3) := dk_154 0 9 (dk_at dksX9_undo_0 9 rfl rfl)
theorem dX9_undo_12 : decode cX9_undo 12 = .ok (.aload_n 0, 1) := dk_42 (dk_at dksX9_undo_0 12 rfl rfl)
theorem dX9_undo_13 : decode cX9_undo 13 = .ok (.iconst 1, 1) := dk_4 (dk_at dksX9_undo_0 13 rfl rfl)
theorem dX9_undo_14 : decode cX9_undo 14 = .ok (.invokevirtual 58, 3) := dk_182 0 58 (dk_at dksX9_undo_0 14 rfl rfl)
theorem dX9_undo_17 : decode cX9_undo 17 = .ok (.ireturn, 1) := dk_172 (dk_at dksX9_undo_0 17 rfl rfl)
theorem dX9_undo_18 : decode cX9_undo 18 = .ok (.aload_n 0, 1) := dk_42 (dk_at dksX9_undo_0 18 rfl rfl)
theorem dX9_undo_19 : decode cX9_undo 19 = .ok (.dup, 1) := dk_89 (dk_at dksX9_undo_0 19 rfl rfl)
theorem dX9_undo_20 : decode cX9_undo 20 = .ok (.getfield 62, 3) := dk_180 0 62 (dk_at dksX9_undo_0 20 rfl rfl)
theorem dX9_undo_23 : decode cX9_undo 23 = .ok (.iconst 1, 1) := dk_4 (dk_at dksX9_undo_0 23 rfl rfl)
theorem dX9_undo_24 : decode cX9_undo 24 = .ok (.isub, 1) := dk_100 (dk_at dksX9_undo_1 0 rfl rfl)
theorem dX9_undo_25 : decode cX9_undo 25 = .ok (.putfield 62, 3) := dk_181 0 62 (dk_at dksX9_undo_1 1 rfl rfl)
theorem dX9_undo_28 : decode cX9_undo 28 = .ok (.aload_n 0, 1) := dk_42 (dk_at dksX9_undo_1 4 rfl rfl)
theorem dX9_undo_29 : decode cX9_undo 29 = .ok (.getfield 65, 3) := dk_180 0 65 (dk_at dksX9_undo_1 5 rfl rfl)
theorem dX9_undo_32 : decode cX9_undo 32 = .ok (.aload_n 0, 1) := dk_42 (dk_at dksX9_undo_1 8 rfl rfl)
theorem dX9_undo_33 : decode cX9_undo 33 = .ok (.getfield 62, 3) := dk_180 0 62 (dk_at dksX9_undo_1 9 rfl rfl)
theorem dX9_undo_36 : decode cX9_undo 36 = .ok (.iadd, 1) := dk_96 (dk_at dksX9_undo_1 12 rfl rfl)
theorem dX9_undo_37 : decode cX9_undo 37 = .ok (.bipush 8, 2) := dk_16 8 (dk_at dksX9_undo_1 13 rfl rfl)
theorem dX9_undo_39 : decode cX9_undo 39 = .ok (.irem, 1) := dk_112 (dk_at dksX9_undo_1 15 rfl rfl)
theorem dX9_undo_40 : decode cX9_undo 40 = .ok (.istore_n 1, 1) := dk_60 (dk_at dksX9_undo_1 16 rfl rfl)
theorem dX9_undo_41 : decode cX9_undo 41 = .ok (.iconst 0, 1) := dk_3 (dk_at dksX9_undo_1 17 rfl rfl)
theorem dX9_undo_42 : decode cX9_undo 42 = .ok (.istore_n 2, 1) := dk_61 (dk_at dksX9_undo_1 18 rfl rfl)
theorem dX9_undo_43 : decode cX9_undo 43 = .ok (.iload_n 2, 1) := dk_28 (dk_at dksX9_undo_1 19 rfl rfl)
theorem dX9_undo_44 : decode cX9_undo 44 = .ok (.sipush 199, 3) := dk_17 0 199 (dk_at dksX9_undo_1 20 rfl rfl)
theorem dX9_undo_47 : decode cX9_undo 47 = .ok (.if_icmp .ge 27, 3) := dk_162 0 27 (dk_at dksX9_undo_2 0 rfl rfl)
theorem dX9_undo_50 : decode cX9_undo 50 = .ok (.aload_n 0, 1) := dk_42 (dk_at dksX9_undo_2 3 rfl rfl)
theorem dX9_undo_51 : decode cX9_undo 51 = .ok (.getfield 16, 3) := dk_180 0 16 (dk_at dksX9_undo_2 4 rfl rfl)
theorem dX9_undo_54 : decode cX9_undo 54 = .ok (.iload_n 2, 1) := dk_28 (dk_at dksX9_undo_2 7 rfl rfl)
theorem dX9_undo_55 : decode cX9_undo 55 = .ok (.aload_n 0, 1) := dk_42 (dk_at dksX9_undo_2 8 rfl rfl)
theorem dX9_undo_56 : decode cX9_undo 56 = .ok (.getfield 19, 3) := dk_180 0 19 (dk_at dksX9_undo_2 9 rfl rfl)
theorem dX9_undo_59 : decode cX9_undo 59 = .ok (.sipush 199, 3) := dk_17 0 199 (dk_at dksX9_undo_2 12 rfl rfl)
theorem dX9_undo_62 : decode cX9_undo 62 = .ok (.iload_n 1, 1) := dk_27 (dk_at dksX9_undo_2 15 rfl rfl)
theorem dX9_undo_63 : decode cX9_undo 63 = .ok (.imul, 1) := dk_104 (dk_at dksX9_undo_2 16 rfl rfl)
theorem dX9_undo_64 : decode cX9_undo 64 = .ok (.iload_n 2, 1) := dk_28 (dk_at dksX9_undo_2 17 rfl rfl)
theorem dX9_undo_65 : decode cX9_undo 65 = .ok (.iadd, 1) := dk_96 (dk_at dksX9_undo_2 18 rfl rfl)
theorem dX9_undo_66 : decode cX9_undo 66 = .ok (.iaload, 1) := dk_46 (dk_at dksX9_undo_2 19 rfl rfl)
theorem dX9_undo_67 : decode cX9_undo 67 = .ok (.iastore, 1) := dk_79 (dk_at dksX9_undo_2 20 rfl rfl)
theorem dX9_undo_68 : decode cX9_undo 68 = .ok (.iinc 2 1, 3) := dk_132 2 1 (dk_at dksX9_undo_2 21 rfl rfl)
theorem dX9_undo_71 : decode cX9_undo 71 = .ok (.goto (-28), 3) := dk_167 255 228 (dk_at dksX9_undo_3 0 rfl rfl)
theorem dX9_undo_74 : decode cX9_undo 74 = .ok (.aload_n 0, 1) := dk_42 (dk_at dksX9_undo_3 3 rfl rfl)
theorem dX9_undo_75 : decode cX9_undo 75 = .ok (.getfield 62, 3) := dk_180 0 62 (dk_at dksX9_undo_3 4 rfl rfl)
theorem dX9_undo_78 : decode cX9_undo 78 = .ok (.ireturn, 1) := dk_172 (dk_at dksX9_undo_3 7 rfl rfl)
abbrev cX9_save : ByteArray := prog_13_method_109_code
def yX9_save : MethodName := ⟨RX9, "save", "()I"⟩
def dkwX9_save_1 : List UInt8 := [46, 79, 132, 1, 1, 167, 255, 234, 42, 4, 181, 1, 44, 42, 180, 0, 16, 5, 46, 172]
abbrev dktX9_save_1 : List UInt8 := dkwX9_save_1 ++ []
def dkwX9_save_0 : List UInt8 := [42, 3, 181, 0, 45, 3, 60, 27, 17, 0, 199, 162, 0, 21, 42, 180, 0, 22, 27, 42, 180, 0, 16, 27]
abbrev dktX9_save_0 : List UInt8 := dkwX9_save_0 ++ dktX9_save_1
theorem dksX9_save_0 : cX9_save.data.toList.drop 0 = dktX9_save_0 := by decide +kernel
theorem dksX9_save_1 : cX9_save.data.toList.drop 24 = dktX9_save_1 := dk_seg dksX9_save_0 24 rfl rfl
theorem dX9_save_0 : decode cX9_save 0 = .ok (.aload_n 0, 1) := dk_42 (dk_at dksX9_save_0 0 rfl rfl)
theorem dX9_save_1 : decode cX9_save 1 = .ok (.iconst 0, 1) := dk_3 (dk_at dksX9_save_0 1 rfl rfl)
theorem dX9_save_2 : decode cX9_save 2 = .ok (.putfield 45, 3) := dk_181 0 45 (dk_at dksX9_save_0 2 rfl rfl)
theorem dX9_save_5 : decode cX9_save 5 = .ok (.iconst 0, 1) := dk_3 (dk_at dksX9_save_0 5 rfl rfl)
theorem dX9_save_6 : decode cX9_save 6 = .ok (.istore_n 1, 1) := dk_60 (dk_at dksX9_save_0 6 rfl rfl)
theorem dX9_save_7 : decode cX9_save 7 = .ok (.iload_n 1, 1) := dk_27 (dk_at dksX9_save_0 7 rfl rfl)
theorem dX9_save_8 : decode cX9_save 8 = .ok (.sipush 199, 3) := dk_17 0 199 (dk_at dksX9_save_0 8 rfl rfl)
theorem dX9_save_11 : decode cX9_save 11 = .ok (.if_icmp .ge 21, 3) := dk_162 0 21 (dk_at dksX9_save_0 11 rfl rfl)
theorem dX9_save_14 : decode cX9_save 14 = .ok (.aload_n 0, 1) := dk_42 (dk_at dksX9_save_0 14 rfl rfl)
theorem dX9_save_15 : decode cX9_save 15 = .ok (.getfield 22, 3) := dk_180 0 22 (dk_at dksX9_save_0 15 rfl rfl)
theorem dX9_save_18 : decode cX9_save 18 = .ok (.iload_n 1, 1) := dk_27 (dk_at dksX9_save_0 18 rfl rfl)
theorem dX9_save_19 : decode cX9_save 19 = .ok (.aload_n 0, 1) := dk_42 (dk_at dksX9_save_0 19 rfl rfl)
theorem dX9_save_20 : decode cX9_save 20 = .ok (.getfield 16, 3) := dk_180 0 16 (dk_at dksX9_save_0 20 rfl rfl)
theorem dX9_save_23 : decode cX9_save 23 = .ok (.iload_n 1, 1) := dk_27 (dk_at dksX9_save_0 23 rfl rfl)
theorem dX9_save_24 : decode cX9_save 24 = .ok (.iaload, 1) := dk_46 (dk_at dksX9_save_1 0 rfl rfl)
theorem dX9_save_25 : decode cX9_save 25 = .ok (.iastore, 1) := dk_79 (dk_at dksX9_save_1 1 rfl rfl)
theorem dX9_save_26 : decode cX9_save 26 = .ok (.iinc 1 1, 3) := dk_132 1 1 (dk_at dksX9_save_1 2 rfl rfl)
theorem dX9_save_29 : decode cX9_save 29 = .ok (.goto (-22), 3) := dk_167 255 234 (dk_at dksX9_save_1 5 rfl rfl)
theorem dX9_save_32 : decode cX9_save 32 = .ok (.aload_n 0, 1) := dk_42 (dk_at dksX9_save_1 8 rfl rfl)
theorem dX9_save_33 : decode cX9_save 33 = .ok (.iconst 1, 1) := dk_4 (dk_at dksX9_save_1 9 rfl rfl)
theorem dX9_save_34 : decode cX9_save 34 = .ok (.putfield 300, 3) := dk_181 1 44 (dk_at dksX9_save_1 10 rfl rfl)
theorem dX9_save_37 : decode cX9_save 37 = .ok (.aload_n 0, 1) := dk_42 (dk_at dksX9_save_1 13 rfl rfl)
theorem dX9_save_38 : decode cX9_save 38 = .ok (.getfield 16, 3) := dk_180 0 16 (dk_at dksX9_save_1 14 rfl rfl)
theorem dX9_save_41 : decode cX9_save 41 = .ok (.iconst 2, 1) := dk_5 (dk_at dksX9_save_1 17 rfl rfl)
theorem dX9_save_42 : decode cX9_save 42 = .ok (.iaload, 1) := dk_46 (dk_at dksX9_save_1 18 rfl rfl)
theorem dX9_save_43 : decode cX9_save 43 = .ok (.ireturn, 1) := dk_172 (dk_at dksX9_save_1 19 rfl rfl)
abbrev cX9_restore : ByteArray := prog_13_method_110_code
def yX9_restore : MethodName := ⟨RX9, "restore", "()I"⟩
def dkwX9_restore_2 : List UInt8 := [181, 0, 62, 42, 3, 181, 0, 65, 42, 180, 0, 16, 5, 46, 172]
abbrev dktX9_restore_2 : List UInt8 := dkwX9_restore_2 ++ []
def dkwX9_restore_1 : List UInt8 := [162, 0, 21, 42, 180, 0, 16, 27, 42, 180, 0, 22, 27, 46, 79, 132, 1, 1, 167, 255, 234, 42, 3]
abbrev dktX9_restore_1 : List UInt8 := dkwX9_restore_1 ++ dktX9_restore_2
def dkwX9_restore_0 : List UInt8 := [42, 3, 181, 0, 45, 42, 180, 1, 44, 154, 0, 9, 42, 4, 182, 0, 58, 172, 3, 60, 27, 17, 0, 199]
abbrev dktX9_restore_0 : List UInt8 := dkwX9_restore_0 ++ dktX9_restore_1
theorem dksX9_restore_0 : cX9_restore.data.toList.drop 0 = dktX9_restore_0 := by decide +kernel
theorem dksX9_restore_1 : cX9_restore.data.toList.drop 24 = dktX9_restore_1 := dk_seg dksX9_restore_0 24 rfl rfl
theorem dksX9_restore_2 : cX9_restore.data.toList.drop 47 = dktX9_restore_2 := dk_seg dksX9_restore_1 23 rfl rfl
theorem dX9_restore_0 : decode cX9_restore 0 = .ok (.aload_n 0, 1) := dk_42 (dk_at dksX9_restore_0 0 rfl rfl)
theorem dX9_restore_1 : decode cX9_restore 1 = .ok (.iconst 0, 1) := dk_3 (dk_at dksX9_restore_0 1 rfl rfl)
theorem dX9_restore_2 : decode cX9_restore 2 = .ok (.putfield 45, 3) := dk_181 0 45 (dk_at dksX9_restore_0 2 rfl rfl)
theorem dX9_restore_5 : decode cX9_restore 5 = .ok (.aload_n 0, 1) := dk_42 (dk_at dksX9_restore_0 5 rfl rfl)
theorem dX9_restore_6 : decode cX9_restore 6 = .ok (.getfield 300, 3) := dk_180 1 44 (dk_at dksX9_restore_0 6 rfl rfl)
theorem dX9_restore_9 : decode cX9_restore 9 = .ok (.ifCond .ne 9, 3) := dk_154 0 9 (dk_at dksX9_restore_0 9 rfl rfl)
theorem dX9_restore_12 : decode cX9_restore 12 = .ok (.aload_n 0, 1) := dk_42 (dk_at dksX9_restore_0 12 rfl rfl)
theorem dX9_restore_13 : decode cX9_restore 13 = .ok (.iconst 1, 1) := dk_4 (dk_at dksX9_restore_0 13 rfl rfl)
theorem dX9_restore_14 : decode cX9_restore 14 = .ok (.invokevirtual 58, 3) := dk_182 0 58 (dk_at dksX9_restore_0 14 rfl rfl)
theorem dX9_restore_17 : decode cX9_restore 17 = .ok (.ireturn, 1) := dk_172 (dk_at dksX9_restore_0 17 rfl rfl)
theorem dX9_restore_18 : decode cX9_restore 18 = .ok (.iconst 0, 1) := dk_3 (dk_at dksX9_restore_0 18 rfl rfl)
theorem dX9_restore_19 : decode cX9_restore 19 = .ok (.istore_n 1, 1) := dk_60 (dk_at dksX9_restore_0 19 rfl rfl)
theorem dX9_restore_20 : decode cX9_restore 20 = .ok (.iload_n 1, 1) := dk_27 (dk_at dksX9_restore_0 20 rfl rfl)
theorem dX9_restore_21 : decode cX9_restore 21 = .ok (.sipush 199, 3) := dk_17 0 199 (dk_at dksX9_restore_0 21 rfl rfl)
theorem dX9_restore_24 : decode cX9_restore 24 = .ok (.if_icmp .ge 21, 3) := dk_162 0 21 (dk_at dksX9_restore_1 0 rfl rfl)
theorem dX9_restore_27 : decode cX9_restore 27 = .ok (.aload_n 0, 1) := dk_42 (dk_at dksX9_restore_1 3 rfl rfl)
theorem dX9_restore_28 : decode cX9_restore 28 = .ok (.getfield 16, 3) := dk_180 0 16 (dk_at dksX9_restore_1 4 rfl rfl)
theorem dX9_restore_31 : decode cX9_restore 31 = .ok (.iload_n 1, 1) := dk_27 (dk_at dksX9_restore_1 7 rfl rfl)
theorem dX9_restore_32 : decode cX9_restore 32 = .ok (.aload_n 0, 1) := dk_42 (dk_at dksX9_restore_1 8 rfl rfl)
theorem dX9_restore_33 : decode cX9_restore 33 = .ok (.getfield 22, 3) := dk_180 0 22 (dk_at dksX9_restore_1 9 rfl rfl)
theorem dX9_restore_36 : decode cX9_restore 36 = .ok (.iload_n 1, 1) := dk_27 (dk_at dksX9_restore_1 12 rfl rfl)
theorem dX9_restore_37 : decode cX9_restore 37 = .ok (.iaload, 1) := dk_46 (dk_at dksX9_restore_1 13 rfl rfl)
theorem dX9_restore_38 : decode cX9_restore 38 = .ok (.iastore, 1) := dk_79 (dk_at dksX9_restore_1 14 rfl rfl)
theorem dX9_restore_39 : decode cX9_restore 39 = .ok (.iinc 1 1, 3) := dk_132 1 1 (dk_at dksX9_restore_1 15 rfl rfl)
theorem dX9_restore_42 : decode cX9_restore 42 = .ok (.goto (-22), 3) := dk_167 255 234 (dk_at dksX9_restore_1 18 rfl rfl)
theorem dX9_restore_45 : decode cX9_restore 45 = .ok (.aload_n 0, 1) := dk_42 (dk_at dksX9_restore_1 21 rfl rfl)
theorem dX9_restore_46 : decode cX9_restore 46 = .ok (.iconst 0, 1) := dk_3 (dk_at dksX9_restore_1 22 rfl rfl)
theorem dX9_restore_47 : decode cX9_restore 47 = .ok (.putfield 62, 3) := dk_181 0 62 (dk_at dksX9_restore_2 0 rfl rfl)
theorem dX9_restore_50 : decode cX9_restore 50 = .ok (.aload_n 0, 1) := dk_42 (dk_at dksX9_restore_2 3 rfl rfl)
theorem dX9_restore_51 : decode cX9_restore 51 = .ok (.iconst 0, 1) := dk_3 (dk_at dksX9_restore_2 4 rfl rfl)
theorem dX9_restore_52 : decode cX9_restore 52 = .ok (.putfield 65, 3) := dk_181 0 65 (dk_at dksX9_restore_2 5 rfl rfl)
theorem dX9_restore_55 : decode cX9_restore 55 = .ok (.aload_n 0, 1) := dk_42 (dk_at dksX9_restore_2 8 rfl rfl)
theorem dX9_restore_56 : decode cX9_restore 56 = .ok (.getfield 16, 3) := dk_180 0 16 (dk_at dksX9_restore_2 9 rfl rfl)
theorem dX9_restore_59 : decode cX9_restore 59 = .ok (.iconst 2, 1) := dk_5 (dk_at dksX9_restore_2 12 rfl rfl)
theorem dX9_restore_60 : decode cX9_restore 60 = .ok (.iaload, 1) := dk_46 (dk_at dksX9_restore_2 13 rfl rfl)
theorem dX9_restore_61 : decode cX9_restore 61 = .ok (.ireturn, 1) := dk_172 (dk_at dksX9_restore_2 14 rfl rfl)
theorem q138 : (Jvm.Cond.initialized "BakeryRingModel") ∈ lw_all := lw_g (lw_at lw_m1 25 rfl) rfl
theorem q225 : (Jvm.Cond.selects "BakeryRingModel" ({ cls := "java/lang/Object", name := "getClass", desc := "()Ljava/lang/Class;" } : Jvm.MethodName) ({ cls := "java/lang/Object", name := "getClass", desc := "()Ljava/lang/Class;" } : Jvm.MethodName)) ∈ lw_all := lw_g (lw_at lw_m1 112 rfl) rfl
theorem q2246 : (Jvm.Cond.instantiable "BakeryRingModel" (23 : Nat)) ∈ lw_all := lw_g (lw_at lw_m9 213 rfl) rfl
theorem q2248 : (Jvm.Cond.instanceMethod ({ cls := "BakeryRingModel", name := "<init>", desc := "()V" } : Jvm.MethodName)) ∈ lw_all := lw_g (lw_at lw_m9 215 rfl) rfl
theorem q2249 : (Jvm.Cond.code ({ cls := "BakeryRingModel", name := "<init>", desc := "()V" } : Jvm.MethodName) prog_13_method_1_code (1 : Nat) (Option.none : Option Jvm.ClassFile.FieldType)) ∈ lw_all := lw_g (lw_at lw_m9 216 rfl) rfl
theorem q2250 : (Jvm.Cond.methodLink "BakeryRingModel" (1 : Nat) ({ cls := "java/lang/Object", name := "<init>", desc := "()V" } : Jvm.MethodName)) ∈ lw_all := lw_g (lw_at lw_m9 217 rfl) rfl
theorem q2251 : (Jvm.Cond.fieldLink "BakeryRingModel" (45 : Nat) "BakeryRingModel" "thrown" "I") ∈ lw_all := lw_g (lw_at lw_m9 218 rfl) rfl
theorem q2252 : (Jvm.Cond.fieldLink "BakeryRingModel" (7 : Nat) "BakeryRingModel" "whys" "[I") ∈ lw_all := lw_g (lw_at lw_m9 219 rfl) rfl
theorem q2253 : (Jvm.Cond.fieldLink "BakeryRingModel" (13 : Nat) "BakeryRingModel" "details" "[I") ∈ lw_all := lw_g (lw_at lw_m9 220 rfl) rfl
theorem q2254 : (Jvm.Cond.fieldLink "BakeryRingModel" (48 : Nat) "BakeryRingModel" "reasonNow" "I") ∈ lw_all := lw_g (lw_at lw_m9 221 rfl) rfl
theorem q2255 : (Jvm.Cond.fieldLink "BakeryRingModel" (51 : Nat) "BakeryRingModel" "detailNow" "I") ∈ lw_all := lw_g (lw_at lw_m9 222 rfl) rfl
theorem q2256 : (Jvm.Cond.fieldLink "BakeryRingModel" (16 : Nat) "BakeryRingModel" "w" "[I") ∈ lw_all := lw_g (lw_at lw_m9 223 rfl) rfl
theorem q2257 : (Jvm.Cond.fieldLink "BakeryRingModel" (19 : Nat) "BakeryRingModel" "undos" "[I") ∈ lw_all := lw_g (lw_at lw_m9 224 rfl) rfl
theorem q2258 : (Jvm.Cond.fieldLink "BakeryRingModel" (22 : Nat) "BakeryRingModel" "savedRow" "[I") ∈ lw_all := lw_g (lw_at lw_m9 225 rfl) rfl
theorem q2259 : (Jvm.Cond.fieldLink "BakeryRingModel" (25 : Nat) "BakeryRingModel" "mind" "[I") ∈ lw_all := lw_g (lw_at lw_m9 226 rfl) rfl
theorem q2260 : (Jvm.Cond.fieldLink "BakeryRingModel" (62 : Nat) "BakeryRingModel" "changes" "I") ∈ lw_all := lw_g (lw_at lw_m9 227 rfl) rfl
theorem q2261 : (Jvm.Cond.fieldLink "BakeryRingModel" (65 : Nat) "BakeryRingModel" "firstChange" "I") ∈ lw_all := lw_g (lw_at lw_m9 228 rfl) rfl
theorem q2262 : (Jvm.Cond.fieldLink "BakeryRingModel" (300 : Nat) "BakeryRingModel" "isSaved" "Z") ∈ lw_all := lw_g (lw_at lw_m9 229 rfl) rfl
theorem q2263 : (Jvm.Cond.fieldLink "BakeryRingModel" (28 : Nat) "BakeryRingModel" "load" "[I") ∈ lw_all := lw_g (lw_at lw_m9 230 rfl) rfl
theorem q2264 : (Jvm.Cond.fieldLink "BakeryRingModel" (92 : Nat) "BakeryRingModel" "passed" "Z") ∈ lw_all := lw_g (lw_at lw_m9 231 rfl) rfl
theorem q2265 : (Jvm.Cond.fieldLink "BakeryRingModel" (31 : Nat) "BakeryRingModel" "input" "[C") ∈ lw_all := lw_g (lw_at lw_m9 232 rfl) rfl
theorem q2266 : (Jvm.Cond.fieldLink "BakeryRingModel" (227 : Nat) "BakeryRingModel" "length" "I") ∈ lw_all := lw_g (lw_at lw_m9 233 rfl) rfl
theorem q2267 : (Jvm.Cond.fieldLink "BakeryRingModel" (230 : Nat) "BakeryRingModel" "at" "I") ∈ lw_all := lw_g (lw_at lw_m9 234 rfl) rfl
theorem q2268 : (Jvm.Cond.fieldLink "BakeryRingModel" (35 : Nat) "BakeryRingModel" "faultAt" "I") ∈ lw_all := lw_g (lw_at lw_m9 235 rfl) rfl
theorem q2269 : (Jvm.Cond.fieldLink "BakeryRingModel" (39 : Nat) "BakeryRingModel" "numbers" "[I") ∈ lw_all := lw_g (lw_at lw_m9 236 rfl) rfl
theorem q2270 : (Jvm.Cond.fieldLink "BakeryRingModel" (239 : Nat) "BakeryRingModel" "sort" "I") ∈ lw_all := lw_g (lw_at lw_m9 237 rfl) rfl
theorem q2271 : (Jvm.Cond.fieldLink "BakeryRingModel" (258 : Nat) "BakeryRingModel" "done" "I") ∈ lw_all := lw_g (lw_at lw_m9 238 rfl) rfl
theorem q2272 : (Jvm.Cond.fieldLink "BakeryRingModel" (42 : Nat) "BakeryRingModel" "line" "[C") ∈ lw_all := lw_g (lw_at lw_m9 239 rfl) rfl
theorem q2273 : (Jvm.Cond.fieldLink "BakeryRingModel" (273 : Nat) "BakeryRingModel" "lineLength" "I") ∈ lw_all := lw_g (lw_at lw_m10 0 rfl) rfl
theorem q2274 : (Jvm.Cond.lays "BakeryRingModel" "BakeryRingModel" "thrown" "I") ∈ lw_all := lw_g (lw_at lw_m10 1 rfl) rfl
theorem q2275 : (Jvm.Cond.soleField "BakeryRingModel" "thrown") ∈ lw_all := lw_g (lw_at lw_m10 2 rfl) rfl
theorem q2276 : (Jvm.Cond.laysFinal "BakeryRingModel" "BakeryRingModel" "whys" "[I") ∈ lw_all := lw_g (lw_at lw_m10 3 rfl) rfl
theorem q2277 : (Jvm.Cond.soleField "BakeryRingModel" "whys") ∈ lw_all := lw_g (lw_at lw_m10 4 rfl) rfl
theorem q2278 : (Jvm.Cond.laysFinal "BakeryRingModel" "BakeryRingModel" "details" "[I") ∈ lw_all := lw_g (lw_at lw_m10 5 rfl) rfl
theorem q2279 : (Jvm.Cond.soleField "BakeryRingModel" "details") ∈ lw_all := lw_g (lw_at lw_m10 6 rfl) rfl
theorem q2280 : (Jvm.Cond.lays "BakeryRingModel" "BakeryRingModel" "reasonNow" "I") ∈ lw_all := lw_g (lw_at lw_m10 7 rfl) rfl
theorem q2281 : (Jvm.Cond.soleField "BakeryRingModel" "reasonNow") ∈ lw_all := lw_g (lw_at lw_m10 8 rfl) rfl
theorem q2282 : (Jvm.Cond.lays "BakeryRingModel" "BakeryRingModel" "detailNow" "I") ∈ lw_all := lw_g (lw_at lw_m10 9 rfl) rfl
theorem q2283 : (Jvm.Cond.soleField "BakeryRingModel" "detailNow") ∈ lw_all := lw_g (lw_at lw_m10 10 rfl) rfl
theorem q2284 : (Jvm.Cond.laysFinal "BakeryRingModel" "BakeryRingModel" "w" "[I") ∈ lw_all := lw_g (lw_at lw_m10 11 rfl) rfl
theorem q2285 : (Jvm.Cond.soleField "BakeryRingModel" "w") ∈ lw_all := lw_g (lw_at lw_m10 12 rfl) rfl
theorem q2286 : (Jvm.Cond.laysFinal "BakeryRingModel" "BakeryRingModel" "undos" "[I") ∈ lw_all := lw_g (lw_at lw_m10 13 rfl) rfl
theorem q2287 : (Jvm.Cond.soleField "BakeryRingModel" "undos") ∈ lw_all := lw_g (lw_at lw_m10 14 rfl) rfl
theorem q2288 : (Jvm.Cond.laysFinal "BakeryRingModel" "BakeryRingModel" "savedRow" "[I") ∈ lw_all := lw_g (lw_at lw_m10 15 rfl) rfl
theorem q2289 : (Jvm.Cond.soleField "BakeryRingModel" "savedRow") ∈ lw_all := lw_g (lw_at lw_m10 16 rfl) rfl
theorem q2290 : (Jvm.Cond.laysFinal "BakeryRingModel" "BakeryRingModel" "mind" "[I") ∈ lw_all := lw_g (lw_at lw_m10 17 rfl) rfl
theorem q2291 : (Jvm.Cond.soleField "BakeryRingModel" "mind") ∈ lw_all := lw_g (lw_at lw_m10 18 rfl) rfl
theorem q2292 : (Jvm.Cond.lays "BakeryRingModel" "BakeryRingModel" "changes" "I") ∈ lw_all := lw_g (lw_at lw_m10 19 rfl) rfl
theorem q2293 : (Jvm.Cond.soleField "BakeryRingModel" "changes") ∈ lw_all := lw_g (lw_at lw_m10 20 rfl) rfl
theorem q2294 : (Jvm.Cond.lays "BakeryRingModel" "BakeryRingModel" "firstChange" "I") ∈ lw_all := lw_g (lw_at lw_m10 21 rfl) rfl
theorem q2295 : (Jvm.Cond.soleField "BakeryRingModel" "firstChange") ∈ lw_all := lw_g (lw_at lw_m10 22 rfl) rfl
theorem q2296 : (Jvm.Cond.lays "BakeryRingModel" "BakeryRingModel" "isSaved" "Z") ∈ lw_all := lw_g (lw_at lw_m10 23 rfl) rfl
theorem q2297 : (Jvm.Cond.soleField "BakeryRingModel" "isSaved") ∈ lw_all := lw_g (lw_at lw_m10 24 rfl) rfl
theorem q2298 : (Jvm.Cond.laysFinal "BakeryRingModel" "BakeryRingModel" "load" "[I") ∈ lw_all := lw_g (lw_at lw_m10 25 rfl) rfl
theorem q2299 : (Jvm.Cond.soleField "BakeryRingModel" "load") ∈ lw_all := lw_g (lw_at lw_m10 26 rfl) rfl
theorem q2300 : (Jvm.Cond.lays "BakeryRingModel" "BakeryRingModel" "passed" "Z") ∈ lw_all := lw_g (lw_at lw_m10 27 rfl) rfl
theorem q2301 : (Jvm.Cond.soleField "BakeryRingModel" "passed") ∈ lw_all := lw_g (lw_at lw_m10 28 rfl) rfl
theorem q2302 : (Jvm.Cond.laysFinal "BakeryRingModel" "BakeryRingModel" "input" "[C") ∈ lw_all := lw_g (lw_at lw_m10 29 rfl) rfl
theorem q2303 : (Jvm.Cond.soleField "BakeryRingModel" "input") ∈ lw_all := lw_g (lw_at lw_m10 30 rfl) rfl
theorem q2304 : (Jvm.Cond.lays "BakeryRingModel" "BakeryRingModel" "length" "I") ∈ lw_all := lw_g (lw_at lw_m10 31 rfl) rfl
theorem q2305 : (Jvm.Cond.soleField "BakeryRingModel" "length") ∈ lw_all := lw_g (lw_at lw_m10 32 rfl) rfl
theorem q2306 : (Jvm.Cond.lays "BakeryRingModel" "BakeryRingModel" "at" "I") ∈ lw_all := lw_g (lw_at lw_m10 33 rfl) rfl
theorem q2307 : (Jvm.Cond.soleField "BakeryRingModel" "at") ∈ lw_all := lw_g (lw_at lw_m10 34 rfl) rfl
theorem q2308 : (Jvm.Cond.lays "BakeryRingModel" "BakeryRingModel" "faultAt" "I") ∈ lw_all := lw_g (lw_at lw_m10 35 rfl) rfl
theorem q2309 : (Jvm.Cond.soleField "BakeryRingModel" "faultAt") ∈ lw_all := lw_g (lw_at lw_m10 36 rfl) rfl
theorem q2310 : (Jvm.Cond.laysFinal "BakeryRingModel" "BakeryRingModel" "numbers" "[I") ∈ lw_all := lw_g (lw_at lw_m10 37 rfl) rfl
theorem q2311 : (Jvm.Cond.soleField "BakeryRingModel" "numbers") ∈ lw_all := lw_g (lw_at lw_m10 38 rfl) rfl
theorem q2312 : (Jvm.Cond.lays "BakeryRingModel" "BakeryRingModel" "sort" "I") ∈ lw_all := lw_g (lw_at lw_m10 39 rfl) rfl
theorem q2313 : (Jvm.Cond.soleField "BakeryRingModel" "sort") ∈ lw_all := lw_g (lw_at lw_m10 40 rfl) rfl
theorem q2314 : (Jvm.Cond.lays "BakeryRingModel" "BakeryRingModel" "done" "I") ∈ lw_all := lw_g (lw_at lw_m10 41 rfl) rfl
theorem q2315 : (Jvm.Cond.soleField "BakeryRingModel" "done") ∈ lw_all := lw_g (lw_at lw_m10 42 rfl) rfl
theorem q2316 : (Jvm.Cond.laysFinal "BakeryRingModel" "BakeryRingModel" "line" "[C") ∈ lw_all := lw_g (lw_at lw_m10 43 rfl) rfl
theorem q2317 : (Jvm.Cond.soleField "BakeryRingModel" "line") ∈ lw_all := lw_g (lw_at lw_m10 44 rfl) rfl
theorem q2318 : (Jvm.Cond.lays "BakeryRingModel" "BakeryRingModel" "lineLength" "I") ∈ lw_all := lw_g (lw_at lw_m10 45 rfl) rfl
theorem q2319 : (Jvm.Cond.soleField "BakeryRingModel" "lineLength") ∈ lw_all := lw_g (lw_at lw_m10 46 rfl) rfl
theorem q2320 : (Jvm.Cond.superclass "BakeryRingModel" "java/lang/Object") ∈ lw_all := lw_g (lw_at lw_m10 47 rfl) rfl
theorem q2323 : (Jvm.Cond.instanceMethod ({ cls := "BakeryRingModel", name := "thrown", desc := "()I" } : Jvm.MethodName)) ∈ lw_all := lw_g (lw_at lw_m10 50 rfl) rfl
theorem q2324 : (Jvm.Cond.selects "BakeryRingModel" ({ cls := "BakeryRingModel", name := "thrown", desc := "()I" } : Jvm.MethodName) ({ cls := "BakeryRingModel", name := "thrown", desc := "()I" } : Jvm.MethodName)) ∈ lw_all := lw_g (lw_at lw_m10 51 rfl) rfl
theorem q2325 : (Jvm.Cond.code ({ cls := "BakeryRingModel", name := "thrown", desc := "()I" } : Jvm.MethodName) prog_13_method_2_code (1 : Nat) (Option.some Jvm.ClassFile.FieldType.int)) ∈ lw_all := lw_g (lw_at lw_m10 52 rfl) rfl
theorem q2327 : (Jvm.Cond.instanceMethod ({ cls := "BakeryRingModel", name := "clear", desc := "()I" } : Jvm.MethodName)) ∈ lw_all := lw_g (lw_at lw_m10 54 rfl) rfl
theorem q2328 : (Jvm.Cond.selects "BakeryRingModel" ({ cls := "BakeryRingModel", name := "clear", desc := "()I" } : Jvm.MethodName) ({ cls := "BakeryRingModel", name := "clear", desc := "()I" } : Jvm.MethodName)) ∈ lw_all := lw_g (lw_at lw_m10 55 rfl) rfl
theorem q2329 : (Jvm.Cond.code ({ cls := "BakeryRingModel", name := "clear", desc := "()I" } : Jvm.MethodName) prog_13_method_13_code (3 : Nat) (Option.some Jvm.ClassFile.FieldType.int)) ∈ lw_all := lw_g (lw_at lw_m10 56 rfl) rfl
theorem q2331 : (Jvm.Cond.instanceMethod ({ cls := "BakeryRingModel", name := "bakery", desc := "(II)I" } : Jvm.MethodName)) ∈ lw_all := lw_g (lw_at lw_m10 58 rfl) rfl
theorem q2332 : (Jvm.Cond.selects "BakeryRingModel" ({ cls := "BakeryRingModel", name := "bakery", desc := "(II)I" } : Jvm.MethodName) ({ cls := "BakeryRingModel", name := "bakery", desc := "(II)I" } : Jvm.MethodName)) ∈ lw_all := lw_g (lw_at lw_m10 59 rfl) rfl
theorem q2333 : (Jvm.Cond.code ({ cls := "BakeryRingModel", name := "bakery", desc := "(II)I" } : Jvm.MethodName) prog_13_method_36_code (4 : Nat) (Option.some Jvm.ClassFile.FieldType.int)) ∈ lw_all := lw_g (lw_at lw_m10 60 rfl) rfl
theorem q2334 : (Jvm.Cond.methodLink "BakeryRingModel" (74 : Nat) ({ cls := "BakeryRingModel", name := "isBetween", desc := "(III)Z" } : Jvm.MethodName)) ∈ lw_all := lw_g (lw_at lw_m10 61 rfl) rfl
theorem q2335 : (Jvm.Cond.static ({ cls := "BakeryRingModel", name := "isBetween", desc := "(III)Z" } : Jvm.MethodName)) ∈ lw_all := lw_g (lw_at lw_m10 62 rfl) rfl
theorem q2336 : (Jvm.Cond.code ({ cls := "BakeryRingModel", name := "isBetween", desc := "(III)Z" } : Jvm.MethodName) prog_13_method_4_code (3 : Nat) (Option.some Jvm.ClassFile.FieldType.boolean)) ∈ lw_all := lw_g (lw_at lw_m10 63 rfl) rfl
theorem q2337 : (Jvm.Cond.methodLink "BakeryRingModel" (58 : Nat) ({ cls := "BakeryRingModel", name := "fails", desc := "(I)I" } : Jvm.MethodName)) ∈ lw_all := lw_g (lw_at lw_m10 64 rfl) rfl
theorem q2338 : (Jvm.Cond.privateMethod ({ cls := "BakeryRingModel", name := "fails", desc := "(I)I" } : Jvm.MethodName)) ∈ lw_tbl := lw_at lw_m10 65 rfl
theorem q2339 : (Jvm.Cond.instanceMethod ({ cls := "BakeryRingModel", name := "fails", desc := "(I)I" } : Jvm.MethodName)) ∈ lw_all := lw_g (lw_at lw_m10 66 rfl) rfl
theorem q2340 : (Jvm.Cond.code ({ cls := "BakeryRingModel", name := "fails", desc := "(I)I" } : Jvm.MethodName) prog_13_method_3_code (2 : Nat) (Option.some Jvm.ClassFile.FieldType.int)) ∈ lw_all := lw_g (lw_at lw_m10 67 rfl) rfl
theorem q2341 : (Jvm.Cond.methodLink "BakeryRingModel" (117 : Nat) ({ cls := "BakeryRingModel", name := "isNot", desc := "(III)I" } : Jvm.MethodName)) ∈ lw_all := lw_g (lw_at lw_m10 68 rfl) rfl
theorem q2342 : (Jvm.Cond.privateMethod ({ cls := "BakeryRingModel", name := "isNot", desc := "(III)I" } : Jvm.MethodName)) ∈ lw_tbl := lw_at lw_m10 69 rfl
theorem q2343 : (Jvm.Cond.instanceMethod ({ cls := "BakeryRingModel", name := "isNot", desc := "(III)I" } : Jvm.MethodName)) ∈ lw_all := lw_g (lw_at lw_m10 70 rfl) rfl
theorem q2344 : (Jvm.Cond.code ({ cls := "BakeryRingModel", name := "isNot", desc := "(III)I" } : Jvm.MethodName) prog_13_method_5_code (4 : Nat) (Option.some Jvm.ClassFile.FieldType.int)) ∈ lw_all := lw_g (lw_at lw_m10 71 rfl) rfl
theorem q2345 : (Jvm.Cond.methodLink "BakeryRingModel" (121 : Nat) ({ cls := "BakeryRingModel", name := "throwsNow", desc := "(I)I" } : Jvm.MethodName)) ∈ lw_all := lw_g (lw_at lw_m10 72 rfl) rfl
theorem q2346 : (Jvm.Cond.privateMethod ({ cls := "BakeryRingModel", name := "throwsNow", desc := "(I)I" } : Jvm.MethodName)) ∈ lw_tbl := lw_at lw_m10 73 rfl
theorem q2347 : (Jvm.Cond.instanceMethod ({ cls := "BakeryRingModel", name := "throwsNow", desc := "(I)I" } : Jvm.MethodName)) ∈ lw_all := lw_g (lw_at lw_m10 74 rfl) rfl
theorem q2348 : (Jvm.Cond.code ({ cls := "BakeryRingModel", name := "throwsNow", desc := "(I)I" } : Jvm.MethodName) prog_13_method_8_code (2 : Nat) (Option.some Jvm.ClassFile.FieldType.int)) ∈ lw_all := lw_g (lw_at lw_m10 75 rfl) rfl
theorem q2349 : (Jvm.Cond.methodLink "BakeryRingModel" (54 : Nat) ({ cls := "BakeryRingModel", name := "keepsAt", desc := "(III)V" } : Jvm.MethodName)) ∈ lw_all := lw_g (lw_at lw_m10 76 rfl) rfl
theorem q2350 : (Jvm.Cond.privateMethod ({ cls := "BakeryRingModel", name := "keepsAt", desc := "(III)V" } : Jvm.MethodName)) ∈ lw_tbl := lw_at lw_m10 77 rfl
theorem q2351 : (Jvm.Cond.instanceMethod ({ cls := "BakeryRingModel", name := "keepsAt", desc := "(III)V" } : Jvm.MethodName)) ∈ lw_all := lw_g (lw_at lw_m10 78 rfl) rfl
theorem q2352 : (Jvm.Cond.code ({ cls := "BakeryRingModel", name := "keepsAt", desc := "(III)V" } : Jvm.MethodName) prog_13_method_7_code (4 : Nat) (Option.none : Option Jvm.ClassFile.FieldType)) ∈ lw_all := lw_g (lw_at lw_m10 79 rfl) rfl
theorem q2353 : (Jvm.Cond.methodLink "BakeryRingModel" (124 : Nat) ({ cls := "BakeryRingModel", name := "begins", desc := "()V" } : Jvm.MethodName)) ∈ lw_all := lw_g (lw_at lw_m10 80 rfl) rfl
theorem q2354 : (Jvm.Cond.privateMethod ({ cls := "BakeryRingModel", name := "begins", desc := "()V" } : Jvm.MethodName)) ∈ lw_tbl := lw_at lw_m10 81 rfl
theorem q2355 : (Jvm.Cond.instanceMethod ({ cls := "BakeryRingModel", name := "begins", desc := "()V" } : Jvm.MethodName)) ∈ lw_all := lw_g (lw_at lw_m10 82 rfl) rfl
theorem q2356 : (Jvm.Cond.code ({ cls := "BakeryRingModel", name := "begins", desc := "()V" } : Jvm.MethodName) prog_13_method_12_code (1 : Nat) (Option.none : Option Jvm.ClassFile.FieldType)) ∈ lw_all := lw_g (lw_at lw_m10 83 rfl) rfl
theorem q2357 : (Jvm.Cond.methodLink "BakeryRingModel" (68 : Nat) ({ cls := "BakeryRingModel", name := "thinks", desc := "()V" } : Jvm.MethodName)) ∈ lw_all := lw_g (lw_at lw_m10 84 rfl) rfl
theorem q2358 : (Jvm.Cond.privateMethod ({ cls := "BakeryRingModel", name := "thinks", desc := "()V" } : Jvm.MethodName)) ∈ lw_tbl := lw_at lw_m10 85 rfl
theorem q2359 : (Jvm.Cond.instanceMethod ({ cls := "BakeryRingModel", name := "thinks", desc := "()V" } : Jvm.MethodName)) ∈ lw_all := lw_g (lw_at lw_m10 86 rfl) rfl
theorem q2360 : (Jvm.Cond.code ({ cls := "BakeryRingModel", name := "thinks", desc := "()V" } : Jvm.MethodName) prog_13_method_9_code (2 : Nat) (Option.none : Option Jvm.ClassFile.FieldType)) ∈ lw_all := lw_g (lw_at lw_m10 87 rfl) rfl
theorem q2361 : (Jvm.Cond.methodLink "BakeryRingModel" (71 : Nat) ({ cls := "BakeryRingModel", name := "keepsMind", desc := "()V" } : Jvm.MethodName)) ∈ lw_all := lw_g (lw_at lw_m10 88 rfl) rfl
theorem q2362 : (Jvm.Cond.privateMethod ({ cls := "BakeryRingModel", name := "keepsMind", desc := "()V" } : Jvm.MethodName)) ∈ lw_tbl := lw_at lw_m10 89 rfl
theorem q2363 : (Jvm.Cond.instanceMethod ({ cls := "BakeryRingModel", name := "keepsMind", desc := "()V" } : Jvm.MethodName)) ∈ lw_all := lw_g (lw_at lw_m10 90 rfl) rfl
theorem q2364 : (Jvm.Cond.code ({ cls := "BakeryRingModel", name := "keepsMind", desc := "()V" } : Jvm.MethodName) prog_13_method_11_code (3 : Nat) (Option.none : Option Jvm.ClassFile.FieldType)) ∈ lw_all := lw_g (lw_at lw_m10 91 rfl) rfl
theorem q2365 : (Jvm.Cond.methodLink "BakeryRingModel" (127 : Nat) ({ cls := "BakeryRingModel", name := "setsBakery", desc := "(III)V" } : Jvm.MethodName)) ∈ lw_all := lw_g (lw_at lw_m10 92 rfl) rfl
theorem q2366 : (Jvm.Cond.privateMethod ({ cls := "BakeryRingModel", name := "setsBakery", desc := "(III)V" } : Jvm.MethodName)) ∈ lw_tbl := lw_at lw_m10 93 rfl
theorem q2367 : (Jvm.Cond.instanceMethod ({ cls := "BakeryRingModel", name := "setsBakery", desc := "(III)V" } : Jvm.MethodName)) ∈ lw_all := lw_g (lw_at lw_m10 94 rfl) rfl
theorem q2368 : (Jvm.Cond.code ({ cls := "BakeryRingModel", name := "setsBakery", desc := "(III)V" } : Jvm.MethodName) prog_13_method_18_code (4 : Nat) (Option.none : Option Jvm.ClassFile.FieldType)) ∈ lw_all := lw_g (lw_at lw_m10 95 rfl) rfl
theorem q2370 : (Jvm.Cond.instanceMethod ({ cls := "BakeryRingModel", name := "sign", desc := "(II)I" } : Jvm.MethodName)) ∈ lw_all := lw_g (lw_at lw_m10 97 rfl) rfl
theorem q2371 : (Jvm.Cond.selects "BakeryRingModel" ({ cls := "BakeryRingModel", name := "sign", desc := "(II)I" } : Jvm.MethodName) ({ cls := "BakeryRingModel", name := "sign", desc := "(II)I" } : Jvm.MethodName)) ∈ lw_all := lw_g (lw_at lw_m10 98 rfl) rfl
theorem q2372 : (Jvm.Cond.code ({ cls := "BakeryRingModel", name := "sign", desc := "(II)I" } : Jvm.MethodName) prog_13_method_39_code (4 : Nat) (Option.some Jvm.ClassFile.FieldType.int)) ∈ lw_all := lw_g (lw_at lw_m10 99 rfl) rfl
theorem q2373 : (Jvm.Cond.methodLink "BakeryRingModel" (152 : Nat) ({ cls := "BakeryRingModel", name := "notSign", desc := "(II)I" } : Jvm.MethodName)) ∈ lw_all := lw_g (lw_at lw_m10 100 rfl) rfl
theorem q2374 : (Jvm.Cond.privateMethod ({ cls := "BakeryRingModel", name := "notSign", desc := "(II)I" } : Jvm.MethodName)) ∈ lw_tbl := lw_at lw_m10 101 rfl
theorem q2375 : (Jvm.Cond.instanceMethod ({ cls := "BakeryRingModel", name := "notSign", desc := "(II)I" } : Jvm.MethodName)) ∈ lw_all := lw_g (lw_at lw_m10 102 rfl) rfl
theorem q2376 : (Jvm.Cond.code ({ cls := "BakeryRingModel", name := "notSign", desc := "(II)I" } : Jvm.MethodName) prog_13_method_37_code (3 : Nat) (Option.some Jvm.ClassFile.FieldType.int)) ∈ lw_all := lw_g (lw_at lw_m10 103 rfl) rfl
theorem q2377 : (Jvm.Cond.methodLink "BakeryRingModel" (130 : Nat) ({ cls := "BakeryRingModel", name := "isBakery", desc := "(I)Z" } : Jvm.MethodName)) ∈ lw_all := lw_g (lw_at lw_m10 104 rfl) rfl
theorem q2378 : (Jvm.Cond.privateMethod ({ cls := "BakeryRingModel", name := "isBakery", desc := "(I)Z" } : Jvm.MethodName)) ∈ lw_tbl := lw_at lw_m10 105 rfl
theorem q2379 : (Jvm.Cond.instanceMethod ({ cls := "BakeryRingModel", name := "isBakery", desc := "(I)Z" } : Jvm.MethodName)) ∈ lw_all := lw_g (lw_at lw_m10 106 rfl) rfl
theorem q2380 : (Jvm.Cond.code ({ cls := "BakeryRingModel", name := "isBakery", desc := "(I)Z" } : Jvm.MethodName) prog_13_method_15_code (2 : Nat) (Option.some Jvm.ClassFile.FieldType.boolean)) ∈ lw_all := lw_g (lw_at lw_m10 107 rfl) rfl
theorem q2381 : (Jvm.Cond.methodLink "BakeryRingModel" (133 : Nat) ({ cls := "BakeryRingModel", name := "isAngle", desc := "(I)Z" } : Jvm.MethodName)) ∈ lw_all := lw_g (lw_at lw_m10 108 rfl) rfl
theorem q2382 : (Jvm.Cond.static ({ cls := "BakeryRingModel", name := "isAngle", desc := "(I)Z" } : Jvm.MethodName)) ∈ lw_all := lw_g (lw_at lw_m10 109 rfl) rfl
theorem q2383 : (Jvm.Cond.code ({ cls := "BakeryRingModel", name := "isAngle", desc := "(I)Z" } : Jvm.MethodName) prog_13_method_14_code (1 : Nat) (Option.some Jvm.ClassFile.FieldType.boolean)) ∈ lw_all := lw_g (lw_at lw_m10 110 rfl) rfl
theorem q2384 : (Jvm.Cond.methodLink "BakeryRingModel" (136 : Nat) ({ cls := "BakeryRingModel", name := "isOther", desc := "(I)I" } : Jvm.MethodName)) ∈ lw_all := lw_g (lw_at lw_m10 111 rfl) rfl
theorem q2385 : (Jvm.Cond.privateMethod ({ cls := "BakeryRingModel", name := "isOther", desc := "(I)I" } : Jvm.MethodName)) ∈ lw_tbl := lw_at lw_m10 112 rfl
theorem q2386 : (Jvm.Cond.instanceMethod ({ cls := "BakeryRingModel", name := "isOther", desc := "(I)I" } : Jvm.MethodName)) ∈ lw_all := lw_g (lw_at lw_m10 113 rfl) rfl
theorem q2387 : (Jvm.Cond.code ({ cls := "BakeryRingModel", name := "isOther", desc := "(I)I" } : Jvm.MethodName) prog_13_method_6_code (2 : Nat) (Option.some Jvm.ClassFile.FieldType.int)) ∈ lw_all := lw_g (lw_at lw_m10 114 rfl) rfl
theorem q2388 : (Jvm.Cond.methodLink "BakeryRingModel" (139 : Nat) ({ cls := "BakeryRingModel", name := "signOn", desc := "(I)I" } : Jvm.MethodName)) ∈ lw_all := lw_g (lw_at lw_m10 115 rfl) rfl
theorem q2389 : (Jvm.Cond.privateMethod ({ cls := "BakeryRingModel", name := "signOn", desc := "(I)I" } : Jvm.MethodName)) ∈ lw_tbl := lw_at lw_m10 116 rfl
theorem q2390 : (Jvm.Cond.instanceMethod ({ cls := "BakeryRingModel", name := "signOn", desc := "(I)I" } : Jvm.MethodName)) ∈ lw_all := lw_g (lw_at lw_m10 117 rfl) rfl
theorem q2391 : (Jvm.Cond.code ({ cls := "BakeryRingModel", name := "signOn", desc := "(I)I" } : Jvm.MethodName) prog_13_method_25_code (3 : Nat) (Option.some Jvm.ClassFile.FieldType.int)) ∈ lw_all := lw_g (lw_at lw_m10 118 rfl) rfl
theorem q2392 : (Jvm.Cond.methodLink "BakeryRingModel" (82 : Nat) ({ cls := "BakeryRingModel", name := "angleAt", desc := "(I)I" } : Jvm.MethodName)) ∈ lw_all := lw_g (lw_at lw_m10 119 rfl) rfl
theorem q2393 : (Jvm.Cond.privateMethod ({ cls := "BakeryRingModel", name := "angleAt", desc := "(I)I" } : Jvm.MethodName)) ∈ lw_tbl := lw_at lw_m10 120 rfl
theorem q2394 : (Jvm.Cond.instanceMethod ({ cls := "BakeryRingModel", name := "angleAt", desc := "(I)I" } : Jvm.MethodName)) ∈ lw_all := lw_g (lw_at lw_m10 121 rfl) rfl
theorem q2395 : (Jvm.Cond.code ({ cls := "BakeryRingModel", name := "angleAt", desc := "(I)I" } : Jvm.MethodName) prog_13_method_21_code (2 : Nat) (Option.some Jvm.ClassFile.FieldType.int)) ∈ lw_all := lw_g (lw_at lw_m10 122 rfl) rfl
theorem q2396 : (Jvm.Cond.methodLink "BakeryRingModel" (85 : Nat) ({ cls := "BakeryRingModel", name := "ownerAt", desc := "(I)I" } : Jvm.MethodName)) ∈ lw_all := lw_g (lw_at lw_m10 123 rfl) rfl
theorem q2397 : (Jvm.Cond.privateMethod ({ cls := "BakeryRingModel", name := "ownerAt", desc := "(I)I" } : Jvm.MethodName)) ∈ lw_tbl := lw_at lw_m10 124 rfl
theorem q2398 : (Jvm.Cond.instanceMethod ({ cls := "BakeryRingModel", name := "ownerAt", desc := "(I)I" } : Jvm.MethodName)) ∈ lw_all := lw_g (lw_at lw_m10 125 rfl) rfl
theorem q2399 : (Jvm.Cond.code ({ cls := "BakeryRingModel", name := "ownerAt", desc := "(I)I" } : Jvm.MethodName) prog_13_method_22_code (2 : Nat) (Option.some Jvm.ClassFile.FieldType.int)) ∈ lw_all := lw_g (lw_at lw_m10 126 rfl) rfl
theorem q2400 : (Jvm.Cond.methodLink "BakeryRingModel" (142 : Nat) ({ cls := "BakeryRingModel", name := "signsOf", desc := "(I)I" } : Jvm.MethodName)) ∈ lw_all := lw_g (lw_at lw_m10 127 rfl) rfl
theorem q2401 : (Jvm.Cond.privateMethod ({ cls := "BakeryRingModel", name := "signsOf", desc := "(I)I" } : Jvm.MethodName)) ∈ lw_tbl := lw_at lw_m10 128 rfl
theorem q2402 : (Jvm.Cond.instanceMethod ({ cls := "BakeryRingModel", name := "signsOf", desc := "(I)I" } : Jvm.MethodName)) ∈ lw_all := lw_g (lw_at lw_m10 129 rfl) rfl
theorem q2403 : (Jvm.Cond.code ({ cls := "BakeryRingModel", name := "signsOf", desc := "(I)I" } : Jvm.MethodName) prog_13_method_26_code (4 : Nat) (Option.some Jvm.ClassFile.FieldType.int)) ∈ lw_all := lw_g (lw_at lw_m10 130 rfl) rfl
theorem q2404 : (Jvm.Cond.methodLink "BakeryRingModel" (155 : Nat) ({ cls := "BakeryRingModel", name := "signs", desc := "(II)I" } : Jvm.MethodName)) ∈ lw_all := lw_g (lw_at lw_m10 131 rfl) rfl
theorem q2405 : (Jvm.Cond.privateMethod ({ cls := "BakeryRingModel", name := "signs", desc := "(II)I" } : Jvm.MethodName)) ∈ lw_tbl := lw_at lw_m10 132 rfl
theorem q2406 : (Jvm.Cond.instanceMethod ({ cls := "BakeryRingModel", name := "signs", desc := "(II)I" } : Jvm.MethodName)) ∈ lw_all := lw_g (lw_at lw_m10 133 rfl) rfl
theorem q2407 : (Jvm.Cond.code ({ cls := "BakeryRingModel", name := "signs", desc := "(II)I" } : Jvm.MethodName) prog_13_method_38_code (3 : Nat) (Option.some Jvm.ClassFile.FieldType.int)) ∈ lw_all := lw_g (lw_at lw_m10 134 rfl) rfl
theorem q2408 : (Jvm.Cond.methodLink "BakeryRingModel" (145 : Nat) ({ cls := "BakeryRingModel", name := "putsUp", desc := "(II)V" } : Jvm.MethodName)) ∈ lw_all := lw_g (lw_at lw_m10 135 rfl) rfl
theorem q2409 : (Jvm.Cond.privateMethod ({ cls := "BakeryRingModel", name := "putsUp", desc := "(II)V" } : Jvm.MethodName)) ∈ lw_tbl := lw_at lw_m10 136 rfl
theorem q2410 : (Jvm.Cond.instanceMethod ({ cls := "BakeryRingModel", name := "putsUp", desc := "(II)V" } : Jvm.MethodName)) ∈ lw_all := lw_g (lw_at lw_m10 137 rfl) rfl
theorem q2411 : (Jvm.Cond.code ({ cls := "BakeryRingModel", name := "putsUp", desc := "(II)V" } : Jvm.MethodName) prog_13_method_28_code (4 : Nat) (Option.none : Option Jvm.ClassFile.FieldType)) ∈ lw_all := lw_g (lw_at lw_m10 138 rfl) rfl
theorem q2412 : (Jvm.Cond.methodLink "BakeryRingModel" (149 : Nat) ({ cls := "BakeryRingModel", name := "allGo", desc := "(I)I" } : Jvm.MethodName)) ∈ lw_all := lw_g (lw_at lw_m10 139 rfl) rfl
theorem q2413 : (Jvm.Cond.privateMethod ({ cls := "BakeryRingModel", name := "allGo", desc := "(I)I" } : Jvm.MethodName)) ∈ lw_tbl := lw_at lw_m10 140 rfl
theorem q2414 : (Jvm.Cond.instanceMethod ({ cls := "BakeryRingModel", name := "allGo", desc := "(I)I" } : Jvm.MethodName)) ∈ lw_all := lw_g (lw_at lw_m10 141 rfl) rfl
theorem q2415 : (Jvm.Cond.code ({ cls := "BakeryRingModel", name := "allGo", desc := "(I)I" } : Jvm.MethodName) prog_13_method_33_code (6 : Nat) (Option.some Jvm.ClassFile.FieldType.int)) ∈ lw_all := lw_g (lw_at lw_m10 142 rfl) rfl
theorem q2416 : (Jvm.Cond.methodLink "BakeryRingModel" (102 : Nat) ({ cls := "BakeryRingModel", name := "clearsLoads", desc := "()V" } : Jvm.MethodName)) ∈ lw_all := lw_g (lw_at lw_m10 143 rfl) rfl
theorem q2417 : (Jvm.Cond.privateMethod ({ cls := "BakeryRingModel", name := "clearsLoads", desc := "()V" } : Jvm.MethodName)) ∈ lw_tbl := lw_at lw_m10 144 rfl
theorem q2418 : (Jvm.Cond.instanceMethod ({ cls := "BakeryRingModel", name := "clearsLoads", desc := "()V" } : Jvm.MethodName)) ∈ lw_all := lw_g (lw_at lw_m10 145 rfl) rfl
theorem q2419 : (Jvm.Cond.code ({ cls := "BakeryRingModel", name := "clearsLoads", desc := "()V" } : Jvm.MethodName) prog_13_method_32_code (2 : Nat) (Option.none : Option Jvm.ClassFile.FieldType)) ∈ lw_all := lw_g (lw_at lw_m10 146 rfl) rfl
theorem q2420 : (Jvm.Cond.methodLink "BakeryRingModel" (105 : Nat) ({ cls := "BakeryRingModel", name := "of", desc := "(II)I" } : Jvm.MethodName)) ∈ lw_all := lw_g (lw_at lw_m10 147 rfl) rfl
theorem q2421 : (Jvm.Cond.privateMethod ({ cls := "BakeryRingModel", name := "of", desc := "(II)I" } : Jvm.MethodName)) ∈ lw_tbl := lw_at lw_m10 148 rfl
theorem q2422 : (Jvm.Cond.instanceMethod ({ cls := "BakeryRingModel", name := "of", desc := "(II)I" } : Jvm.MethodName)) ∈ lw_all := lw_g (lw_at lw_m10 149 rfl) rfl
theorem q2423 : (Jvm.Cond.code ({ cls := "BakeryRingModel", name := "of", desc := "(II)I" } : Jvm.MethodName) prog_13_method_19_code (3 : Nat) (Option.some Jvm.ClassFile.FieldType.int)) ∈ lw_all := lw_g (lw_at lw_m10 150 rfl) rfl
theorem q2424 : (Jvm.Cond.methodLink "BakeryRingModel" (108 : Nat) ({ cls := "BakeryRingModel", name := "signFor", desc := "(II)I" } : Jvm.MethodName)) ∈ lw_all := lw_g (lw_at lw_m10 151 rfl) rfl
theorem q2425 : (Jvm.Cond.privateMethod ({ cls := "BakeryRingModel", name := "signFor", desc := "(II)I" } : Jvm.MethodName)) ∈ lw_tbl := lw_at lw_m10 152 rfl
theorem q2426 : (Jvm.Cond.instanceMethod ({ cls := "BakeryRingModel", name := "signFor", desc := "(II)I" } : Jvm.MethodName)) ∈ lw_all := lw_g (lw_at lw_m10 153 rfl) rfl
theorem q2427 : (Jvm.Cond.code ({ cls := "BakeryRingModel", name := "signFor", desc := "(II)I" } : Jvm.MethodName) prog_13_method_31_code (6 : Nat) (Option.some Jvm.ClassFile.FieldType.int)) ∈ lw_all := lw_g (lw_at lw_m10 154 rfl) rfl
theorem q2428 : (Jvm.Cond.methodLink "BakeryRingModel" (96 : Nat) ({ cls := "BakeryRingModel", name := "firstFrom", desc := "(I)I" } : Jvm.MethodName)) ∈ lw_all := lw_g (lw_at lw_m10 155 rfl) rfl
theorem q2429 : (Jvm.Cond.privateMethod ({ cls := "BakeryRingModel", name := "firstFrom", desc := "(I)I" } : Jvm.MethodName)) ∈ lw_tbl := lw_at lw_m10 156 rfl
theorem q2430 : (Jvm.Cond.instanceMethod ({ cls := "BakeryRingModel", name := "firstFrom", desc := "(I)I" } : Jvm.MethodName)) ∈ lw_all := lw_g (lw_at lw_m10 157 rfl) rfl
theorem q2431 : (Jvm.Cond.code ({ cls := "BakeryRingModel", name := "firstFrom", desc := "(I)I" } : Jvm.MethodName) prog_13_method_30_code (3 : Nat) (Option.some Jvm.ClassFile.FieldType.int)) ∈ lw_all := lw_g (lw_at lw_m10 158 rfl) rfl
theorem q2432 : (Jvm.Cond.methodLink "BakeryRingModel" (88 : Nat) ({ cls := "BakeryRingModel", name := "isOpen", desc := "(I)Z" } : Jvm.MethodName)) ∈ lw_all := lw_g (lw_at lw_m10 159 rfl) rfl
theorem q2433 : (Jvm.Cond.privateMethod ({ cls := "BakeryRingModel", name := "isOpen", desc := "(I)Z" } : Jvm.MethodName)) ∈ lw_tbl := lw_at lw_m10 160 rfl
theorem q2434 : (Jvm.Cond.instanceMethod ({ cls := "BakeryRingModel", name := "isOpen", desc := "(I)Z" } : Jvm.MethodName)) ∈ lw_all := lw_g (lw_at lw_m10 161 rfl) rfl
theorem q2435 : (Jvm.Cond.code ({ cls := "BakeryRingModel", name := "isOpen", desc := "(I)Z" } : Jvm.MethodName) prog_13_method_23_code (2 : Nat) (Option.some Jvm.ClassFile.FieldType.boolean)) ∈ lw_all := lw_g (lw_at lw_m10 162 rfl) rfl
theorem q2436 : (Jvm.Cond.methodLink "BakeryRingModel" (78 : Nat) ({ cls := "BakeryRingModel", name := "ofBakery", desc := "(II)I" } : Jvm.MethodName)) ∈ lw_all := lw_g (lw_at lw_m10 163 rfl) rfl
theorem q2437 : (Jvm.Cond.privateMethod ({ cls := "BakeryRingModel", name := "ofBakery", desc := "(II)I" } : Jvm.MethodName)) ∈ lw_tbl := lw_at lw_m10 164 rfl
theorem q2438 : (Jvm.Cond.instanceMethod ({ cls := "BakeryRingModel", name := "ofBakery", desc := "(II)I" } : Jvm.MethodName)) ∈ lw_all := lw_g (lw_at lw_m10 165 rfl) rfl
theorem q2439 : (Jvm.Cond.code ({ cls := "BakeryRingModel", name := "ofBakery", desc := "(II)I" } : Jvm.MethodName) prog_13_method_17_code (3 : Nat) (Option.some Jvm.ClassFile.FieldType.int)) ∈ lw_all := lw_g (lw_at lw_m10 166 rfl) rfl
theorem q2440 : (Jvm.Cond.methodLink "BakeryRingModel" (99 : Nat) ({ cls := "BakeryRingModel", name := "roomOf", desc := "(I)I" } : Jvm.MethodName)) ∈ lw_all := lw_g (lw_at lw_m10 167 rfl) rfl
theorem q2441 : (Jvm.Cond.privateMethod ({ cls := "BakeryRingModel", name := "roomOf", desc := "(I)I" } : Jvm.MethodName)) ∈ lw_tbl := lw_at lw_m10 168 rfl
theorem q2442 : (Jvm.Cond.instanceMethod ({ cls := "BakeryRingModel", name := "roomOf", desc := "(I)I" } : Jvm.MethodName)) ∈ lw_all := lw_g (lw_at lw_m10 169 rfl) rfl
theorem q2443 : (Jvm.Cond.code ({ cls := "BakeryRingModel", name := "roomOf", desc := "(I)I" } : Jvm.MethodName) prog_13_method_24_code (3 : Nat) (Option.some Jvm.ClassFile.FieldType.int)) ∈ lw_all := lw_g (lw_at lw_m10 170 rfl) rfl
theorem q2444 : (Jvm.Cond.methodLink "BakeryRingModel" (111 : Nat) ({ cls := "BakeryRingModel", name := "sets", desc := "(III)V" } : Jvm.MethodName)) ∈ lw_all := lw_g (lw_at lw_m10 171 rfl) rfl
theorem q2445 : (Jvm.Cond.privateMethod ({ cls := "BakeryRingModel", name := "sets", desc := "(III)V" } : Jvm.MethodName)) ∈ lw_tbl := lw_at lw_m10 172 rfl
theorem q2446 : (Jvm.Cond.instanceMethod ({ cls := "BakeryRingModel", name := "sets", desc := "(III)V" } : Jvm.MethodName)) ∈ lw_all := lw_g (lw_at lw_m10 173 rfl) rfl
theorem q2447 : (Jvm.Cond.code ({ cls := "BakeryRingModel", name := "sets", desc := "(III)V" } : Jvm.MethodName) prog_13_method_20_code (4 : Nat) (Option.none : Option Jvm.ClassFile.FieldType)) ∈ lw_all := lw_g (lw_at lw_m10 174 rfl) rfl
theorem q2449 : (Jvm.Cond.instanceMethod ({ cls := "BakeryRingModel", name := "down", desc := "(I)I" } : Jvm.MethodName)) ∈ lw_all := lw_g (lw_at lw_m10 176 rfl) rfl
theorem q2450 : (Jvm.Cond.selects "BakeryRingModel" ({ cls := "BakeryRingModel", name := "down", desc := "(I)I" } : Jvm.MethodName) ({ cls := "BakeryRingModel", name := "down", desc := "(I)I" } : Jvm.MethodName)) ∈ lw_all := lw_g (lw_at lw_m10 177 rfl) rfl
theorem q2451 : (Jvm.Cond.code ({ cls := "BakeryRingModel", name := "down", desc := "(I)I" } : Jvm.MethodName) prog_13_method_42_code (3 : Nat) (Option.some Jvm.ClassFile.FieldType.int)) ∈ lw_all := lw_g (lw_at lw_m10 178 rfl) rfl
theorem q2452 : (Jvm.Cond.methodLink "BakeryRingModel" (162 : Nat) ({ cls := "BakeryRingModel", name := "notDown", desc := "(I)I" } : Jvm.MethodName)) ∈ lw_all := lw_g (lw_at lw_m10 179 rfl) rfl
theorem q2453 : (Jvm.Cond.privateMethod ({ cls := "BakeryRingModel", name := "notDown", desc := "(I)I" } : Jvm.MethodName)) ∈ lw_tbl := lw_at lw_m10 180 rfl
theorem q2454 : (Jvm.Cond.instanceMethod ({ cls := "BakeryRingModel", name := "notDown", desc := "(I)I" } : Jvm.MethodName)) ∈ lw_all := lw_g (lw_at lw_m10 181 rfl) rfl
theorem q2455 : (Jvm.Cond.code ({ cls := "BakeryRingModel", name := "notDown", desc := "(I)I" } : Jvm.MethodName) prog_13_method_40_code (2 : Nat) (Option.some Jvm.ClassFile.FieldType.int)) ∈ lw_all := lw_g (lw_at lw_m10 182 rfl) rfl
theorem q2456 : (Jvm.Cond.methodLink "BakeryRingModel" (165 : Nat) ({ cls := "BakeryRingModel", name := "downs", desc := "(I)I" } : Jvm.MethodName)) ∈ lw_all := lw_g (lw_at lw_m10 183 rfl) rfl
theorem q2457 : (Jvm.Cond.privateMethod ({ cls := "BakeryRingModel", name := "downs", desc := "(I)I" } : Jvm.MethodName)) ∈ lw_tbl := lw_at lw_m10 184 rfl
theorem q2458 : (Jvm.Cond.instanceMethod ({ cls := "BakeryRingModel", name := "downs", desc := "(I)I" } : Jvm.MethodName)) ∈ lw_all := lw_g (lw_at lw_m10 185 rfl) rfl
theorem q2459 : (Jvm.Cond.code ({ cls := "BakeryRingModel", name := "downs", desc := "(I)I" } : Jvm.MethodName) prog_13_method_41_code (2 : Nat) (Option.some Jvm.ClassFile.FieldType.int)) ∈ lw_all := lw_g (lw_at lw_m10 186 rfl) rfl
theorem q2460 : (Jvm.Cond.methodLink "BakeryRingModel" (158 : Nat) ({ cls := "BakeryRingModel", name := "takesDown", desc := "(I)V" } : Jvm.MethodName)) ∈ lw_all := lw_g (lw_at lw_m10 187 rfl) rfl
theorem q2461 : (Jvm.Cond.privateMethod ({ cls := "BakeryRingModel", name := "takesDown", desc := "(I)V" } : Jvm.MethodName)) ∈ lw_tbl := lw_at lw_m10 188 rfl
theorem q2462 : (Jvm.Cond.instanceMethod ({ cls := "BakeryRingModel", name := "takesDown", desc := "(I)V" } : Jvm.MethodName)) ∈ lw_all := lw_g (lw_at lw_m10 189 rfl) rfl
theorem q2463 : (Jvm.Cond.code ({ cls := "BakeryRingModel", name := "takesDown", desc := "(I)V" } : Jvm.MethodName) prog_13_method_29_code (3 : Nat) (Option.none : Option Jvm.ClassFile.FieldType)) ∈ lw_all := lw_g (lw_at lw_m10 190 rfl) rfl
theorem q2465 : (Jvm.Cond.instanceMethod ({ cls := "BakeryRingModel", name := "close", desc := "(I)I" } : Jvm.MethodName)) ∈ lw_all := lw_g (lw_at lw_m10 192 rfl) rfl
theorem q2466 : (Jvm.Cond.selects "BakeryRingModel" ({ cls := "BakeryRingModel", name := "close", desc := "(I)I" } : Jvm.MethodName) ({ cls := "BakeryRingModel", name := "close", desc := "(I)I" } : Jvm.MethodName)) ∈ lw_all := lw_g (lw_at lw_m10 193 rfl) rfl
theorem q2467 : (Jvm.Cond.code ({ cls := "BakeryRingModel", name := "close", desc := "(I)I" } : Jvm.MethodName) prog_13_method_45_code (3 : Nat) (Option.some Jvm.ClassFile.FieldType.int)) ∈ lw_all := lw_g (lw_at lw_m10 194 rfl) rfl
theorem q2468 : (Jvm.Cond.methodLink "BakeryRingModel" (172 : Nat) ({ cls := "BakeryRingModel", name := "notClose", desc := "(I)I" } : Jvm.MethodName)) ∈ lw_all := lw_g (lw_at lw_m10 195 rfl) rfl
theorem q2469 : (Jvm.Cond.privateMethod ({ cls := "BakeryRingModel", name := "notClose", desc := "(I)I" } : Jvm.MethodName)) ∈ lw_tbl := lw_at lw_m10 196 rfl
theorem q2470 : (Jvm.Cond.instanceMethod ({ cls := "BakeryRingModel", name := "notClose", desc := "(I)I" } : Jvm.MethodName)) ∈ lw_all := lw_g (lw_at lw_m10 197 rfl) rfl
theorem q2471 : (Jvm.Cond.code ({ cls := "BakeryRingModel", name := "notClose", desc := "(I)I" } : Jvm.MethodName) prog_13_method_43_code (2 : Nat) (Option.some Jvm.ClassFile.FieldType.int)) ∈ lw_all := lw_g (lw_at lw_m10 198 rfl) rfl
theorem q2472 : (Jvm.Cond.methodLink "BakeryRingModel" (168 : Nat) ({ cls := "BakeryRingModel", name := "openMany", desc := "()I" } : Jvm.MethodName)) ∈ lw_all := lw_g (lw_at lw_m10 199 rfl) rfl
theorem q2473 : (Jvm.Cond.privateMethod ({ cls := "BakeryRingModel", name := "openMany", desc := "()I" } : Jvm.MethodName)) ∈ lw_tbl := lw_at lw_m10 200 rfl
theorem q2474 : (Jvm.Cond.instanceMethod ({ cls := "BakeryRingModel", name := "openMany", desc := "()I" } : Jvm.MethodName)) ∈ lw_all := lw_g (lw_at lw_m10 201 rfl) rfl
theorem q2475 : (Jvm.Cond.code ({ cls := "BakeryRingModel", name := "openMany", desc := "()I" } : Jvm.MethodName) prog_13_method_27_code (3 : Nat) (Option.some Jvm.ClassFile.FieldType.int)) ∈ lw_all := lw_g (lw_at lw_m10 202 rfl) rfl
theorem q2476 : (Jvm.Cond.methodLink "BakeryRingModel" (175 : Nat) ({ cls := "BakeryRingModel", name := "shuts", desc := "(II)I" } : Jvm.MethodName)) ∈ lw_all := lw_g (lw_at lw_m10 203 rfl) rfl
theorem q2477 : (Jvm.Cond.privateMethod ({ cls := "BakeryRingModel", name := "shuts", desc := "(II)I" } : Jvm.MethodName)) ∈ lw_tbl := lw_at lw_m10 204 rfl
theorem q2478 : (Jvm.Cond.instanceMethod ({ cls := "BakeryRingModel", name := "shuts", desc := "(II)I" } : Jvm.MethodName)) ∈ lw_all := lw_g (lw_at lw_m10 205 rfl) rfl
theorem q2479 : (Jvm.Cond.code ({ cls := "BakeryRingModel", name := "shuts", desc := "(II)I" } : Jvm.MethodName) prog_13_method_44_code (3 : Nat) (Option.some Jvm.ClassFile.FieldType.int)) ∈ lw_all := lw_g (lw_at lw_m10 206 rfl) rfl
theorem q2481 : (Jvm.Cond.instanceMethod ({ cls := "BakeryRingModel", name := "open", desc := "(I)I" } : Jvm.MethodName)) ∈ lw_all := lw_g (lw_at lw_m10 208 rfl) rfl
theorem q2482 : (Jvm.Cond.selects "BakeryRingModel" ({ cls := "BakeryRingModel", name := "open", desc := "(I)I" } : Jvm.MethodName) ({ cls := "BakeryRingModel", name := "open", desc := "(I)I" } : Jvm.MethodName)) ∈ lw_all := lw_g (lw_at lw_m10 209 rfl) rfl
theorem q2483 : (Jvm.Cond.code ({ cls := "BakeryRingModel", name := "open", desc := "(I)I" } : Jvm.MethodName) prog_13_method_47_code (3 : Nat) (Option.some Jvm.ClassFile.FieldType.int)) ∈ lw_all := lw_g (lw_at lw_m10 210 rfl) rfl
theorem q2484 : (Jvm.Cond.methodLink "BakeryRingModel" (178 : Nat) ({ cls := "BakeryRingModel", name := "notOpen", desc := "(I)I" } : Jvm.MethodName)) ∈ lw_all := lw_g (lw_at lw_m10 211 rfl) rfl
theorem q2485 : (Jvm.Cond.privateMethod ({ cls := "BakeryRingModel", name := "notOpen", desc := "(I)I" } : Jvm.MethodName)) ∈ lw_tbl := lw_at lw_m10 212 rfl
theorem q2486 : (Jvm.Cond.instanceMethod ({ cls := "BakeryRingModel", name := "notOpen", desc := "(I)I" } : Jvm.MethodName)) ∈ lw_all := lw_g (lw_at lw_m10 213 rfl) rfl
theorem q2487 : (Jvm.Cond.code ({ cls := "BakeryRingModel", name := "notOpen", desc := "(I)I" } : Jvm.MethodName) prog_13_method_46_code (2 : Nat) (Option.some Jvm.ClassFile.FieldType.int)) ∈ lw_all := lw_g (lw_at lw_m10 214 rfl) rfl
theorem q2489 : (Jvm.Cond.instanceMethod ({ cls := "BakeryRingModel", name := "oven", desc := "(II)I" } : Jvm.MethodName)) ∈ lw_all := lw_g (lw_at lw_m10 216 rfl) rfl
theorem q2490 : (Jvm.Cond.selects "BakeryRingModel" ({ cls := "BakeryRingModel", name := "oven", desc := "(II)I" } : Jvm.MethodName) ({ cls := "BakeryRingModel", name := "oven", desc := "(II)I" } : Jvm.MethodName)) ∈ lw_all := lw_g (lw_at lw_m10 217 rfl) rfl
theorem q2491 : (Jvm.Cond.code ({ cls := "BakeryRingModel", name := "oven", desc := "(II)I" } : Jvm.MethodName) prog_13_method_50_code (4 : Nat) (Option.some Jvm.ClassFile.FieldType.int)) ∈ lw_all := lw_g (lw_at lw_m10 218 rfl) rfl
theorem q2492 : (Jvm.Cond.methodLink "BakeryRingModel" (181 : Nat) ({ cls := "BakeryRingModel", name := "notOven", desc := "(II)I" } : Jvm.MethodName)) ∈ lw_all := lw_g (lw_at lw_m10 219 rfl) rfl
theorem q2493 : (Jvm.Cond.privateMethod ({ cls := "BakeryRingModel", name := "notOven", desc := "(II)I" } : Jvm.MethodName)) ∈ lw_tbl := lw_at lw_m10 220 rfl
theorem q2494 : (Jvm.Cond.instanceMethod ({ cls := "BakeryRingModel", name := "notOven", desc := "(II)I" } : Jvm.MethodName)) ∈ lw_all := lw_g (lw_at lw_m10 221 rfl) rfl
theorem q2495 : (Jvm.Cond.code ({ cls := "BakeryRingModel", name := "notOven", desc := "(II)I" } : Jvm.MethodName) prog_13_method_48_code (3 : Nat) (Option.some Jvm.ClassFile.FieldType.int)) ∈ lw_all := lw_g (lw_at lw_m10 222 rfl) rfl
theorem q2496 : (Jvm.Cond.methodLink "BakeryRingModel" (184 : Nat) ({ cls := "BakeryRingModel", name := "ovens", desc := "(II)I" } : Jvm.MethodName)) ∈ lw_all := lw_g (lw_at lw_m10 223 rfl) rfl
theorem q2497 : (Jvm.Cond.privateMethod ({ cls := "BakeryRingModel", name := "ovens", desc := "(II)I" } : Jvm.MethodName)) ∈ lw_tbl := lw_at lw_m10 224 rfl
theorem q2498 : (Jvm.Cond.instanceMethod ({ cls := "BakeryRingModel", name := "ovens", desc := "(II)I" } : Jvm.MethodName)) ∈ lw_all := lw_g (lw_at lw_m10 225 rfl) rfl
theorem q2499 : (Jvm.Cond.code ({ cls := "BakeryRingModel", name := "ovens", desc := "(II)I" } : Jvm.MethodName) prog_13_method_49_code (3 : Nat) (Option.some Jvm.ClassFile.FieldType.int)) ∈ lw_all := lw_g (lw_at lw_m10 226 rfl) rfl
theorem q2501 : (Jvm.Cond.instanceMethod ({ cls := "BakeryRingModel", name := "come", desc := "(II)I" } : Jvm.MethodName)) ∈ lw_all := lw_g (lw_at lw_m10 228 rfl) rfl
theorem q2502 : (Jvm.Cond.selects "BakeryRingModel" ({ cls := "BakeryRingModel", name := "come", desc := "(II)I" } : Jvm.MethodName) ({ cls := "BakeryRingModel", name := "come", desc := "(II)I" } : Jvm.MethodName)) ∈ lw_all := lw_g (lw_at lw_m10 229 rfl) rfl
theorem q2503 : (Jvm.Cond.code ({ cls := "BakeryRingModel", name := "come", desc := "(II)I" } : Jvm.MethodName) prog_13_method_53_code (4 : Nat) (Option.some Jvm.ClassFile.FieldType.int)) ∈ lw_all := lw_g (lw_at lw_m10 230 rfl) rfl
theorem q2504 : (Jvm.Cond.methodLink "BakeryRingModel" (187 : Nat) ({ cls := "BakeryRingModel", name := "notCome", desc := "(II)I" } : Jvm.MethodName)) ∈ lw_all := lw_g (lw_at lw_m10 231 rfl) rfl
theorem q2505 : (Jvm.Cond.privateMethod ({ cls := "BakeryRingModel", name := "notCome", desc := "(II)I" } : Jvm.MethodName)) ∈ lw_tbl := lw_at lw_m10 232 rfl
theorem q2506 : (Jvm.Cond.instanceMethod ({ cls := "BakeryRingModel", name := "notCome", desc := "(II)I" } : Jvm.MethodName)) ∈ lw_all := lw_g (lw_at lw_m10 233 rfl) rfl
theorem q2507 : (Jvm.Cond.code ({ cls := "BakeryRingModel", name := "notCome", desc := "(II)I" } : Jvm.MethodName) prog_13_method_51_code (3 : Nat) (Option.some Jvm.ClassFile.FieldType.int)) ∈ lw_all := lw_g (lw_at lw_m10 234 rfl) rfl
theorem q2508 : (Jvm.Cond.methodLink "BakeryRingModel" (190 : Nat) ({ cls := "BakeryRingModel", name := "comes", desc := "(II)I" } : Jvm.MethodName)) ∈ lw_all := lw_g (lw_at lw_m10 235 rfl) rfl
theorem q2509 : (Jvm.Cond.privateMethod ({ cls := "BakeryRingModel", name := "comes", desc := "(II)I" } : Jvm.MethodName)) ∈ lw_tbl := lw_at lw_m10 236 rfl
theorem q2510 : (Jvm.Cond.instanceMethod ({ cls := "BakeryRingModel", name := "comes", desc := "(II)I" } : Jvm.MethodName)) ∈ lw_all := lw_g (lw_at lw_m10 237 rfl) rfl
theorem q2511 : (Jvm.Cond.code ({ cls := "BakeryRingModel", name := "comes", desc := "(II)I" } : Jvm.MethodName) prog_13_method_52_code (4 : Nat) (Option.some Jvm.ClassFile.FieldType.int)) ∈ lw_all := lw_g (lw_at lw_m10 238 rfl) rfl
theorem q2513 : (Jvm.Cond.instanceMethod ({ cls := "BakeryRingModel", name := "leave", desc := "(I)I" } : Jvm.MethodName)) ∈ lw_all := lw_g (lw_at lw_m11 0 rfl) rfl
theorem q2514 : (Jvm.Cond.selects "BakeryRingModel" ({ cls := "BakeryRingModel", name := "leave", desc := "(I)I" } : Jvm.MethodName) ({ cls := "BakeryRingModel", name := "leave", desc := "(I)I" } : Jvm.MethodName)) ∈ lw_all := lw_g (lw_at lw_m11 1 rfl) rfl
theorem q2515 : (Jvm.Cond.code ({ cls := "BakeryRingModel", name := "leave", desc := "(I)I" } : Jvm.MethodName) prog_13_method_56_code (3 : Nat) (Option.some Jvm.ClassFile.FieldType.int)) ∈ lw_all := lw_g (lw_at lw_m11 2 rfl) rfl
theorem q2516 : (Jvm.Cond.methodLink "BakeryRingModel" (196 : Nat) ({ cls := "BakeryRingModel", name := "notLeave", desc := "(I)I" } : Jvm.MethodName)) ∈ lw_all := lw_g (lw_at lw_m11 3 rfl) rfl
theorem q2517 : (Jvm.Cond.privateMethod ({ cls := "BakeryRingModel", name := "notLeave", desc := "(I)I" } : Jvm.MethodName)) ∈ lw_tbl := lw_at lw_m11 4 rfl
theorem q2518 : (Jvm.Cond.instanceMethod ({ cls := "BakeryRingModel", name := "notLeave", desc := "(I)I" } : Jvm.MethodName)) ∈ lw_all := lw_g (lw_at lw_m11 5 rfl) rfl
theorem q2519 : (Jvm.Cond.code ({ cls := "BakeryRingModel", name := "notLeave", desc := "(I)I" } : Jvm.MethodName) prog_13_method_54_code (2 : Nat) (Option.some Jvm.ClassFile.FieldType.int)) ∈ lw_all := lw_g (lw_at lw_m11 6 rfl) rfl
theorem q2520 : (Jvm.Cond.methodLink "BakeryRingModel" (193 : Nat) ({ cls := "BakeryRingModel", name := "isCustomer", desc := "(I)Z" } : Jvm.MethodName)) ∈ lw_all := lw_g (lw_at lw_m11 7 rfl) rfl
theorem q2521 : (Jvm.Cond.privateMethod ({ cls := "BakeryRingModel", name := "isCustomer", desc := "(I)Z" } : Jvm.MethodName)) ∈ lw_tbl := lw_at lw_m11 8 rfl
theorem q2522 : (Jvm.Cond.instanceMethod ({ cls := "BakeryRingModel", name := "isCustomer", desc := "(I)Z" } : Jvm.MethodName)) ∈ lw_all := lw_g (lw_at lw_m11 9 rfl) rfl
theorem q2523 : (Jvm.Cond.code ({ cls := "BakeryRingModel", name := "isCustomer", desc := "(I)Z" } : Jvm.MethodName) prog_13_method_16_code (2 : Nat) (Option.some Jvm.ClassFile.FieldType.boolean)) ∈ lw_all := lw_g (lw_at lw_m11 10 rfl) rfl
theorem q2524 : (Jvm.Cond.methodLink "BakeryRingModel" (199 : Nat) ({ cls := "BakeryRingModel", name := "leaves", desc := "(I)I" } : Jvm.MethodName)) ∈ lw_all := lw_g (lw_at lw_m11 11 rfl) rfl
theorem q2525 : (Jvm.Cond.privateMethod ({ cls := "BakeryRingModel", name := "leaves", desc := "(I)I" } : Jvm.MethodName)) ∈ lw_tbl := lw_at lw_m11 12 rfl
theorem q2526 : (Jvm.Cond.instanceMethod ({ cls := "BakeryRingModel", name := "leaves", desc := "(I)I" } : Jvm.MethodName)) ∈ lw_all := lw_g (lw_at lw_m11 13 rfl) rfl
theorem q2527 : (Jvm.Cond.code ({ cls := "BakeryRingModel", name := "leaves", desc := "(I)I" } : Jvm.MethodName) prog_13_method_55_code (3 : Nat) (Option.some Jvm.ClassFile.FieldType.int)) ∈ lw_all := lw_g (lw_at lw_m11 14 rfl) rfl
theorem q2529 : (Jvm.Cond.instanceMethod ({ cls := "BakeryRingModel", name := "bakeryOf", desc := "(II)I" } : Jvm.MethodName)) ∈ lw_all := lw_g (lw_at lw_m11 16 rfl) rfl
theorem q2530 : (Jvm.Cond.selects "BakeryRingModel" ({ cls := "BakeryRingModel", name := "bakeryOf", desc := "(II)I" } : Jvm.MethodName) ({ cls := "BakeryRingModel", name := "bakeryOf", desc := "(II)I" } : Jvm.MethodName)) ∈ lw_all := lw_g (lw_at lw_m11 17 rfl) rfl
theorem q2531 : (Jvm.Cond.code ({ cls := "BakeryRingModel", name := "bakeryOf", desc := "(II)I" } : Jvm.MethodName) prog_13_method_59_code (3 : Nat) (Option.some Jvm.ClassFile.FieldType.int)) ∈ lw_all := lw_g (lw_at lw_m11 18 rfl) rfl
theorem q2532 : (Jvm.Cond.methodLink "BakeryRingModel" (202 : Nat) ({ cls := "BakeryRingModel", name := "customersOf", desc := "(I)I" } : Jvm.MethodName)) ∈ lw_all := lw_g (lw_at lw_m11 19 rfl) rfl
theorem q2533 : (Jvm.Cond.privateMethod ({ cls := "BakeryRingModel", name := "customersOf", desc := "(I)I" } : Jvm.MethodName)) ∈ lw_tbl := lw_at lw_m11 20 rfl
theorem q2534 : (Jvm.Cond.instanceMethod ({ cls := "BakeryRingModel", name := "customersOf", desc := "(I)I" } : Jvm.MethodName)) ∈ lw_all := lw_g (lw_at lw_m11 21 rfl) rfl
theorem q2535 : (Jvm.Cond.code ({ cls := "BakeryRingModel", name := "customersOf", desc := "(I)I" } : Jvm.MethodName) prog_13_method_57_code (4 : Nat) (Option.some Jvm.ClassFile.FieldType.int)) ∈ lw_all := lw_g (lw_at lw_m11 22 rfl) rfl
theorem q2536 : (Jvm.Cond.methodLink "BakeryRingModel" (114 : Nat) ({ cls := "BakeryRingModel", name := "loadOf", desc := "(I)I" } : Jvm.MethodName)) ∈ lw_all := lw_g (lw_at lw_m11 23 rfl) rfl
theorem q2537 : (Jvm.Cond.privateMethod ({ cls := "BakeryRingModel", name := "loadOf", desc := "(I)I" } : Jvm.MethodName)) ∈ lw_tbl := lw_at lw_m11 24 rfl
theorem q2538 : (Jvm.Cond.instanceMethod ({ cls := "BakeryRingModel", name := "loadOf", desc := "(I)I" } : Jvm.MethodName)) ∈ lw_all := lw_g (lw_at lw_m11 25 rfl) rfl
theorem q2539 : (Jvm.Cond.code ({ cls := "BakeryRingModel", name := "loadOf", desc := "(I)I" } : Jvm.MethodName) prog_13_method_34_code (4 : Nat) (Option.some Jvm.ClassFile.FieldType.int)) ∈ lw_all := lw_g (lw_at lw_m11 26 rfl) rfl
theorem q2540 : (Jvm.Cond.methodLink "BakeryRingModel" (205 : Nat) ({ cls := "BakeryRingModel", name := "isOverloaded", desc := "(I)Z" } : Jvm.MethodName)) ∈ lw_all := lw_g (lw_at lw_m11 27 rfl) rfl
theorem q2541 : (Jvm.Cond.privateMethod ({ cls := "BakeryRingModel", name := "isOverloaded", desc := "(I)Z" } : Jvm.MethodName)) ∈ lw_tbl := lw_at lw_m11 28 rfl
theorem q2542 : (Jvm.Cond.instanceMethod ({ cls := "BakeryRingModel", name := "isOverloaded", desc := "(I)Z" } : Jvm.MethodName)) ∈ lw_all := lw_g (lw_at lw_m11 29 rfl) rfl
theorem q2543 : (Jvm.Cond.code ({ cls := "BakeryRingModel", name := "isOverloaded", desc := "(I)Z" } : Jvm.MethodName) prog_13_method_58_code (2 : Nat) (Option.some Jvm.ClassFile.FieldType.boolean)) ∈ lw_all := lw_g (lw_at lw_m11 30 rfl) rfl
theorem q2545 : (Jvm.Cond.instanceMethod ({ cls := "BakeryRingModel", name := "signAt", desc := "(I)I" } : Jvm.MethodName)) ∈ lw_all := lw_g (lw_at lw_m11 32 rfl) rfl
theorem q2546 : (Jvm.Cond.selects "BakeryRingModel" ({ cls := "BakeryRingModel", name := "signAt", desc := "(I)I" } : Jvm.MethodName) ({ cls := "BakeryRingModel", name := "signAt", desc := "(I)I" } : Jvm.MethodName)) ∈ lw_all := lw_g (lw_at lw_m11 33 rfl) rfl
theorem q2547 : (Jvm.Cond.code ({ cls := "BakeryRingModel", name := "signAt", desc := "(I)I" } : Jvm.MethodName) prog_13_method_60_code (2 : Nat) (Option.some Jvm.ClassFile.FieldType.int)) ∈ lw_all := lw_g (lw_at lw_m11 34 rfl) rfl
theorem q2549 : (Jvm.Cond.instanceMethod ({ cls := "BakeryRingModel", name := "signOf", desc := "(I)I" } : Jvm.MethodName)) ∈ lw_all := lw_g (lw_at lw_m11 36 rfl) rfl
theorem q2550 : (Jvm.Cond.selects "BakeryRingModel" ({ cls := "BakeryRingModel", name := "signOf", desc := "(I)I" } : Jvm.MethodName) ({ cls := "BakeryRingModel", name := "signOf", desc := "(I)I" } : Jvm.MethodName)) ∈ lw_all := lw_g (lw_at lw_m11 37 rfl) rfl
theorem q2551 : (Jvm.Cond.code ({ cls := "BakeryRingModel", name := "signOf", desc := "(I)I" } : Jvm.MethodName) prog_13_method_61_code (2 : Nat) (Option.some Jvm.ClassFile.FieldType.int)) ∈ lw_all := lw_g (lw_at lw_m11 38 rfl) rfl
theorem q2553 : (Jvm.Cond.instanceMethod ({ cls := "BakeryRingModel", name := "customerOf", desc := "(II)I" } : Jvm.MethodName)) ∈ lw_all := lw_g (lw_at lw_m11 40 rfl) rfl
theorem q2554 : (Jvm.Cond.selects "BakeryRingModel" ({ cls := "BakeryRingModel", name := "customerOf", desc := "(II)I" } : Jvm.MethodName) ({ cls := "BakeryRingModel", name := "customerOf", desc := "(II)I" } : Jvm.MethodName)) ∈ lw_all := lw_g (lw_at lw_m11 41 rfl) rfl
theorem q2555 : (Jvm.Cond.code ({ cls := "BakeryRingModel", name := "customerOf", desc := "(II)I" } : Jvm.MethodName) prog_13_method_62_code (3 : Nat) (Option.some Jvm.ClassFile.FieldType.int)) ∈ lw_all := lw_g (lw_at lw_m11 42 rfl) rfl
theorem q2557 : (Jvm.Cond.instanceMethod ({ cls := "BakeryRingModel", name := "way", desc := "(II)I" } : Jvm.MethodName)) ∈ lw_all := lw_g (lw_at lw_m11 44 rfl) rfl
theorem q2558 : (Jvm.Cond.selects "BakeryRingModel" ({ cls := "BakeryRingModel", name := "way", desc := "(II)I" } : Jvm.MethodName) ({ cls := "BakeryRingModel", name := "way", desc := "(II)I" } : Jvm.MethodName)) ∈ lw_all := lw_g (lw_at lw_m11 45 rfl) rfl
theorem q2559 : (Jvm.Cond.code ({ cls := "BakeryRingModel", name := "way", desc := "(II)I" } : Jvm.MethodName) prog_13_method_64_code (3 : Nat) (Option.some Jvm.ClassFile.FieldType.int)) ∈ lw_all := lw_g (lw_at lw_m11 46 rfl) rfl
theorem q2560 : (Jvm.Cond.methodLink "BakeryRingModel" (208 : Nat) ({ cls := "BakeryRingModel", name := "wayTo", desc := "(II)I" } : Jvm.MethodName)) ∈ lw_all := lw_g (lw_at lw_m11 47 rfl) rfl
theorem q2561 : (Jvm.Cond.static ({ cls := "BakeryRingModel", name := "wayTo", desc := "(II)I" } : Jvm.MethodName)) ∈ lw_all := lw_g (lw_at lw_m11 48 rfl) rfl
theorem q2562 : (Jvm.Cond.code ({ cls := "BakeryRingModel", name := "wayTo", desc := "(II)I" } : Jvm.MethodName) prog_13_method_63_code (2 : Nat) (Option.some Jvm.ClassFile.FieldType.int)) ∈ lw_all := lw_g (lw_at lw_m11 49 rfl) rfl
theorem q2564 : (Jvm.Cond.instanceMethod ({ cls := "BakeryRingModel", name := "nearest", desc := "(I)I" } : Jvm.MethodName)) ∈ lw_all := lw_g (lw_at lw_m11 51 rfl) rfl
theorem q2565 : (Jvm.Cond.selects "BakeryRingModel" ({ cls := "BakeryRingModel", name := "nearest", desc := "(I)I" } : Jvm.MethodName) ({ cls := "BakeryRingModel", name := "nearest", desc := "(I)I" } : Jvm.MethodName)) ∈ lw_all := lw_g (lw_at lw_m11 52 rfl) rfl
theorem q2566 : (Jvm.Cond.code ({ cls := "BakeryRingModel", name := "nearest", desc := "(I)I" } : Jvm.MethodName) prog_13_method_66_code (2 : Nat) (Option.some Jvm.ClassFile.FieldType.int)) ∈ lw_all := lw_g (lw_at lw_m11 53 rfl) rfl
theorem q2567 : (Jvm.Cond.methodLink "BakeryRingModel" (211 : Nat) ({ cls := "BakeryRingModel", name := "openFrom", desc := "(I)I" } : Jvm.MethodName)) ∈ lw_all := lw_g (lw_at lw_m11 54 rfl) rfl
theorem q2568 : (Jvm.Cond.privateMethod ({ cls := "BakeryRingModel", name := "openFrom", desc := "(I)I" } : Jvm.MethodName)) ∈ lw_tbl := lw_at lw_m11 55 rfl
theorem q2569 : (Jvm.Cond.instanceMethod ({ cls := "BakeryRingModel", name := "openFrom", desc := "(I)I" } : Jvm.MethodName)) ∈ lw_all := lw_g (lw_at lw_m11 56 rfl) rfl
theorem q2570 : (Jvm.Cond.code ({ cls := "BakeryRingModel", name := "openFrom", desc := "(I)I" } : Jvm.MethodName) prog_13_method_65_code (5 : Nat) (Option.some Jvm.ClassFile.FieldType.int)) ∈ lw_all := lw_g (lw_at lw_m11 57 rfl) rfl
theorem q2572 : (Jvm.Cond.instanceMethod ({ cls := "BakeryRingModel", name := "nearestAgain", desc := "(I)I" } : Jvm.MethodName)) ∈ lw_all := lw_g (lw_at lw_m11 59 rfl) rfl
theorem q2573 : (Jvm.Cond.selects "BakeryRingModel" ({ cls := "BakeryRingModel", name := "nearestAgain", desc := "(I)I" } : Jvm.MethodName) ({ cls := "BakeryRingModel", name := "nearestAgain", desc := "(I)I" } : Jvm.MethodName)) ∈ lw_all := lw_g (lw_at lw_m11 60 rfl) rfl
theorem q2574 : (Jvm.Cond.code ({ cls := "BakeryRingModel", name := "nearestAgain", desc := "(I)I" } : Jvm.MethodName) prog_13_method_67_code (4 : Nat) (Option.some Jvm.ClassFile.FieldType.int)) ∈ lw_all := lw_g (lw_at lw_m11 61 rfl) rfl
theorem q2576 : (Jvm.Cond.instanceMethod ({ cls := "BakeryRingModel", name := "wouldGo", desc := "(II)I" } : Jvm.MethodName)) ∈ lw_all := lw_g (lw_at lw_m11 63 rfl) rfl
theorem q2577 : (Jvm.Cond.selects "BakeryRingModel" ({ cls := "BakeryRingModel", name := "wouldGo", desc := "(II)I" } : Jvm.MethodName) ({ cls := "BakeryRingModel", name := "wouldGo", desc := "(II)I" } : Jvm.MethodName)) ∈ lw_all := lw_g (lw_at lw_m11 64 rfl) rfl
theorem q2578 : (Jvm.Cond.code ({ cls := "BakeryRingModel", name := "wouldGo", desc := "(II)I" } : Jvm.MethodName) prog_13_method_68_code (4 : Nat) (Option.some Jvm.ClassFile.FieldType.int)) ∈ lw_all := lw_g (lw_at lw_m11 65 rfl) rfl
theorem q2579 : (Jvm.Cond.methodLink "BakeryRingModel" (214 : Nat) ({ cls := "BakeryRingModel", name := "findsLoads", desc := "()V" } : Jvm.MethodName)) ∈ lw_all := lw_g (lw_at lw_m11 66 rfl) rfl
theorem q2580 : (Jvm.Cond.privateMethod ({ cls := "BakeryRingModel", name := "findsLoads", desc := "()V" } : Jvm.MethodName)) ∈ lw_tbl := lw_at lw_m11 67 rfl
theorem q2581 : (Jvm.Cond.instanceMethod ({ cls := "BakeryRingModel", name := "findsLoads", desc := "()V" } : Jvm.MethodName)) ∈ lw_all := lw_g (lw_at lw_m11 68 rfl) rfl
theorem q2582 : (Jvm.Cond.code ({ cls := "BakeryRingModel", name := "findsLoads", desc := "()V" } : Jvm.MethodName) prog_13_method_35_code (2 : Nat) (Option.none : Option Jvm.ClassFile.FieldType)) ∈ lw_all := lw_g (lw_at lw_m11 69 rfl) rfl
theorem q2584 : (Jvm.Cond.instanceMethod ({ cls := "BakeryRingModel", name := "wouldMove", desc := "(I)I" } : Jvm.MethodName)) ∈ lw_all := lw_g (lw_at lw_m11 71 rfl) rfl
theorem q2585 : (Jvm.Cond.selects "BakeryRingModel" ({ cls := "BakeryRingModel", name := "wouldMove", desc := "(I)I" } : Jvm.MethodName) ({ cls := "BakeryRingModel", name := "wouldMove", desc := "(I)I" } : Jvm.MethodName)) ∈ lw_all := lw_g (lw_at lw_m11 72 rfl) rfl
theorem q2586 : (Jvm.Cond.code ({ cls := "BakeryRingModel", name := "wouldMove", desc := "(I)I" } : Jvm.MethodName) prog_13_method_69_code (3 : Nat) (Option.some Jvm.ClassFile.FieldType.int)) ∈ lw_all := lw_g (lw_at lw_m11 73 rfl) rfl
theorem q2587 : (Jvm.Cond.methodLink "BakeryRingModel" (217 : Nat) ({ cls := "BakeryRingModel", name := "forgets", desc := "()V" } : Jvm.MethodName)) ∈ lw_all := lw_g (lw_at lw_m11 74 rfl) rfl
theorem q2588 : (Jvm.Cond.privateMethod ({ cls := "BakeryRingModel", name := "forgets", desc := "()V" } : Jvm.MethodName)) ∈ lw_tbl := lw_at lw_m11 75 rfl
theorem q2589 : (Jvm.Cond.instanceMethod ({ cls := "BakeryRingModel", name := "forgets", desc := "()V" } : Jvm.MethodName)) ∈ lw_all := lw_g (lw_at lw_m11 76 rfl) rfl
theorem q2590 : (Jvm.Cond.code ({ cls := "BakeryRingModel", name := "forgets", desc := "()V" } : Jvm.MethodName) prog_13_method_10_code (2 : Nat) (Option.none : Option Jvm.ClassFile.FieldType)) ∈ lw_all := lw_g (lw_at lw_m11 77 rfl) rfl
theorem q2592 : (Jvm.Cond.instanceMethod ({ cls := "BakeryRingModel", name := "wouldLoad", desc := "(II)I" } : Jvm.MethodName)) ∈ lw_all := lw_g (lw_at lw_m11 79 rfl) rfl
theorem q2593 : (Jvm.Cond.selects "BakeryRingModel" ({ cls := "BakeryRingModel", name := "wouldLoad", desc := "(II)I" } : Jvm.MethodName) ({ cls := "BakeryRingModel", name := "wouldLoad", desc := "(II)I" } : Jvm.MethodName)) ∈ lw_all := lw_g (lw_at lw_m11 80 rfl) rfl
theorem q2594 : (Jvm.Cond.code ({ cls := "BakeryRingModel", name := "wouldLoad", desc := "(II)I" } : Jvm.MethodName) prog_13_method_70_code (4 : Nat) (Option.some Jvm.ClassFile.FieldType.int)) ∈ lw_all := lw_g (lw_at lw_m11 81 rfl) rfl
theorem q2596 : (Jvm.Cond.instanceMethod ({ cls := "BakeryRingModel", name := "bestAngle", desc := "(I)I" } : Jvm.MethodName)) ∈ lw_all := lw_g (lw_at lw_m11 83 rfl) rfl
theorem q2597 : (Jvm.Cond.selects "BakeryRingModel" ({ cls := "BakeryRingModel", name := "bestAngle", desc := "(I)I" } : Jvm.MethodName) ({ cls := "BakeryRingModel", name := "bestAngle", desc := "(I)I" } : Jvm.MethodName)) ∈ lw_all := lw_g (lw_at lw_m11 84 rfl) rfl
theorem q2598 : (Jvm.Cond.code ({ cls := "BakeryRingModel", name := "bestAngle", desc := "(I)I" } : Jvm.MethodName) prog_13_method_72_code (6 : Nat) (Option.some Jvm.ClassFile.FieldType.int)) ∈ lw_all := lw_g (lw_at lw_m11 85 rfl) rfl
theorem q2599 : (Jvm.Cond.methodLink "BakeryRingModel" (220 : Nat) ({ cls := "BakeryRingModel", name := "greatestLoad", desc := "()I" } : Jvm.MethodName)) ∈ lw_all := lw_g (lw_at lw_m11 86 rfl) rfl
theorem q2600 : (Jvm.Cond.privateMethod ({ cls := "BakeryRingModel", name := "greatestLoad", desc := "()I" } : Jvm.MethodName)) ∈ lw_tbl := lw_at lw_m11 87 rfl
theorem q2601 : (Jvm.Cond.instanceMethod ({ cls := "BakeryRingModel", name := "greatestLoad", desc := "()I" } : Jvm.MethodName)) ∈ lw_all := lw_g (lw_at lw_m11 88 rfl) rfl
theorem q2602 : (Jvm.Cond.code ({ cls := "BakeryRingModel", name := "greatestLoad", desc := "()I" } : Jvm.MethodName) prog_13_method_71_code (3 : Nat) (Option.some Jvm.ClassFile.FieldType.int)) ∈ lw_all := lw_g (lw_at lw_m11 89 rfl) rfl
theorem q2604 : (Jvm.Cond.instanceMethod ({ cls := "BakeryRingModel", name := "loadAgain", desc := "(I)I" } : Jvm.MethodName)) ∈ lw_all := lw_g (lw_at lw_m11 91 rfl) rfl
theorem q2605 : (Jvm.Cond.selects "BakeryRingModel" ({ cls := "BakeryRingModel", name := "loadAgain", desc := "(I)I" } : Jvm.MethodName) ({ cls := "BakeryRingModel", name := "loadAgain", desc := "(I)I" } : Jvm.MethodName)) ∈ lw_all := lw_g (lw_at lw_m11 92 rfl) rfl
theorem q2606 : (Jvm.Cond.code ({ cls := "BakeryRingModel", name := "loadAgain", desc := "(I)I" } : Jvm.MethodName) prog_13_method_73_code (5 : Nat) (Option.some Jvm.ClassFile.FieldType.int)) ∈ lw_all := lw_g (lw_at lw_m11 93 rfl) rfl
theorem q2608 : (Jvm.Cond.instanceMethod ({ cls := "BakeryRingModel", name := "span", desc := "(I)I" } : Jvm.MethodName)) ∈ lw_all := lw_g (lw_at lw_m11 95 rfl) rfl
theorem q2609 : (Jvm.Cond.selects "BakeryRingModel" ({ cls := "BakeryRingModel", name := "span", desc := "(I)I" } : Jvm.MethodName) ({ cls := "BakeryRingModel", name := "span", desc := "(I)I" } : Jvm.MethodName)) ∈ lw_all := lw_g (lw_at lw_m11 96 rfl) rfl
theorem q2610 : (Jvm.Cond.code ({ cls := "BakeryRingModel", name := "span", desc := "(I)I" } : Jvm.MethodName) prog_13_method_74_code (4 : Nat) (Option.some Jvm.ClassFile.FieldType.int)) ∈ lw_all := lw_g (lw_at lw_m11 97 rfl) rfl
theorem q2612 : (Jvm.Cond.instanceMethod ({ cls := "BakeryRingModel", name := "customers", desc := "(II)I" } : Jvm.MethodName)) ∈ lw_all := lw_g (lw_at lw_m11 99 rfl) rfl
theorem q2613 : (Jvm.Cond.selects "BakeryRingModel" ({ cls := "BakeryRingModel", name := "customers", desc := "(II)I" } : Jvm.MethodName) ({ cls := "BakeryRingModel", name := "customers", desc := "(II)I" } : Jvm.MethodName)) ∈ lw_all := lw_g (lw_at lw_m11 100 rfl) rfl
theorem q2614 : (Jvm.Cond.code ({ cls := "BakeryRingModel", name := "customers", desc := "(II)I" } : Jvm.MethodName) prog_13_method_75_code (5 : Nat) (Option.some Jvm.ClassFile.FieldType.int)) ∈ lw_all := lw_g (lw_at lw_m11 101 rfl) rfl
theorem q2616 : (Jvm.Cond.instanceMethod ({ cls := "BakeryRingModel", name := "ranked", desc := "(I)I" } : Jvm.MethodName)) ∈ lw_all := lw_g (lw_at lw_m11 103 rfl) rfl
theorem q2617 : (Jvm.Cond.selects "BakeryRingModel" ({ cls := "BakeryRingModel", name := "ranked", desc := "(I)I" } : Jvm.MethodName) ({ cls := "BakeryRingModel", name := "ranked", desc := "(I)I" } : Jvm.MethodName)) ∈ lw_all := lw_g (lw_at lw_m11 104 rfl) rfl
theorem q2618 : (Jvm.Cond.code ({ cls := "BakeryRingModel", name := "ranked", desc := "(I)I" } : Jvm.MethodName) prog_13_method_77_code (5 : Nat) (Option.some Jvm.ClassFile.FieldType.int)) ∈ lw_all := lw_g (lw_at lw_m11 105 rfl) rfl
theorem q2619 : (Jvm.Cond.methodLink "BakeryRingModel" (223 : Nat) ({ cls := "BakeryRingModel", name := "isAhead", desc := "(II)Z" } : Jvm.MethodName)) ∈ lw_all := lw_g (lw_at lw_m11 106 rfl) rfl
theorem q2620 : (Jvm.Cond.privateMethod ({ cls := "BakeryRingModel", name := "isAhead", desc := "(II)Z" } : Jvm.MethodName)) ∈ lw_tbl := lw_at lw_m11 107 rfl
theorem q2621 : (Jvm.Cond.instanceMethod ({ cls := "BakeryRingModel", name := "isAhead", desc := "(II)Z" } : Jvm.MethodName)) ∈ lw_all := lw_g (lw_at lw_m11 108 rfl) rfl
theorem q2622 : (Jvm.Cond.code ({ cls := "BakeryRingModel", name := "isAhead", desc := "(II)Z" } : Jvm.MethodName) prog_13_method_76_code (3 : Nat) (Option.some Jvm.ClassFile.FieldType.boolean)) ∈ lw_all := lw_g (lw_at lw_m11 109 rfl) rfl
theorem q2624 : (Jvm.Cond.instanceMethod ({ cls := "BakeryRingModel", name := "unfairness", desc := "()I" } : Jvm.MethodName)) ∈ lw_all := lw_g (lw_at lw_m11 111 rfl) rfl
theorem q2625 : (Jvm.Cond.selects "BakeryRingModel" ({ cls := "BakeryRingModel", name := "unfairness", desc := "()I" } : Jvm.MethodName) ({ cls := "BakeryRingModel", name := "unfairness", desc := "()I" } : Jvm.MethodName)) ∈ lw_all := lw_g (lw_at lw_m11 112 rfl) rfl
theorem q2626 : (Jvm.Cond.code ({ cls := "BakeryRingModel", name := "unfairness", desc := "()I" } : Jvm.MethodName) prog_13_method_78_code (4 : Nat) (Option.some Jvm.ClassFile.FieldType.int)) ∈ lw_all := lw_g (lw_at lw_m11 113 rfl) rfl
theorem q2628 : (Jvm.Cond.instanceMethod ({ cls := "BakeryRingModel", name := "isOwn", desc := "(I)Z" } : Jvm.MethodName)) ∈ lw_all := lw_g (lw_at lw_m11 115 rfl) rfl
theorem q2629 : (Jvm.Cond.selects "BakeryRingModel" ({ cls := "BakeryRingModel", name := "isOwn", desc := "(I)Z" } : Jvm.MethodName) ({ cls := "BakeryRingModel", name := "isOwn", desc := "(I)Z" } : Jvm.MethodName)) ∈ lw_all := lw_g (lw_at lw_m11 116 rfl) rfl
theorem q2630 : (Jvm.Cond.code ({ cls := "BakeryRingModel", name := "isOwn", desc := "(I)Z" } : Jvm.MethodName) prog_13_method_79_code (4 : Nat) (Option.some Jvm.ClassFile.FieldType.boolean)) ∈ lw_all := lw_g (lw_at lw_m11 117 rfl) rfl
theorem q2632 : (Jvm.Cond.instanceMethod ({ cls := "BakeryRingModel", name := "append", desc := "(C)I" } : Jvm.MethodName)) ∈ lw_all := lw_g (lw_at lw_m11 119 rfl) rfl
theorem q2633 : (Jvm.Cond.selects "BakeryRingModel" ({ cls := "BakeryRingModel", name := "append", desc := "(C)I" } : Jvm.MethodName) ({ cls := "BakeryRingModel", name := "append", desc := "(C)I" } : Jvm.MethodName)) ∈ lw_all := lw_g (lw_at lw_m11 120 rfl) rfl
theorem q2634 : (Jvm.Cond.code ({ cls := "BakeryRingModel", name := "append", desc := "(C)I" } : Jvm.MethodName) prog_13_method_80_code (2 : Nat) (Option.some Jvm.ClassFile.FieldType.int)) ∈ lw_all := lw_g (lw_at lw_m11 121 rfl) rfl
theorem q2636 : (Jvm.Cond.instanceMethod ({ cls := "BakeryRingModel", name := "script", desc := "()I" } : Jvm.MethodName)) ∈ lw_all := lw_g (lw_at lw_m11 123 rfl) rfl
theorem q2637 : (Jvm.Cond.selects "BakeryRingModel" ({ cls := "BakeryRingModel", name := "script", desc := "()I" } : Jvm.MethodName) ({ cls := "BakeryRingModel", name := "script", desc := "()I" } : Jvm.MethodName)) ∈ lw_all := lw_g (lw_at lw_m11 124 rfl) rfl
theorem q2638 : (Jvm.Cond.code ({ cls := "BakeryRingModel", name := "script", desc := "()I" } : Jvm.MethodName) prog_13_method_92_code (2 : Nat) (Option.some Jvm.ClassFile.FieldType.int)) ∈ lw_all := lw_g (lw_at lw_m11 125 rfl) rfl
theorem q2639 : (Jvm.Cond.methodLink "BakeryRingModel" (267 : Nat) ({ cls := "BakeryRingModel", name := "readsAll", desc := "()Z" } : Jvm.MethodName)) ∈ lw_all := lw_g (lw_at lw_m11 126 rfl) rfl
theorem q2640 : (Jvm.Cond.privateMethod ({ cls := "BakeryRingModel", name := "readsAll", desc := "()Z" } : Jvm.MethodName)) ∈ lw_tbl := lw_at lw_m11 127 rfl
theorem q2641 : (Jvm.Cond.instanceMethod ({ cls := "BakeryRingModel", name := "readsAll", desc := "()Z" } : Jvm.MethodName)) ∈ lw_all := lw_g (lw_at lw_m11 128 rfl) rfl
theorem q2642 : (Jvm.Cond.code ({ cls := "BakeryRingModel", name := "readsAll", desc := "()Z" } : Jvm.MethodName) prog_13_method_88_code (2 : Nat) (Option.some Jvm.ClassFile.FieldType.boolean)) ∈ lw_all := lw_g (lw_at lw_m11 129 rfl) rfl
theorem q2643 : (Jvm.Cond.methodLink "BakeryRingModel" (255 : Nat) ({ cls := "BakeryRingModel", name := "readsOrder", desc := "()Z" } : Jvm.MethodName)) ∈ lw_all := lw_g (lw_at lw_m11 130 rfl) rfl
theorem q2644 : (Jvm.Cond.privateMethod ({ cls := "BakeryRingModel", name := "readsOrder", desc := "()Z" } : Jvm.MethodName)) ∈ lw_tbl := lw_at lw_m11 131 rfl
theorem q2645 : (Jvm.Cond.instanceMethod ({ cls := "BakeryRingModel", name := "readsOrder", desc := "()Z" } : Jvm.MethodName)) ∈ lw_all := lw_g (lw_at lw_m11 132 rfl) rfl
theorem q2646 : (Jvm.Cond.code ({ cls := "BakeryRingModel", name := "readsOrder", desc := "()Z" } : Jvm.MethodName) prog_13_method_87_code (1 : Nat) (Option.some Jvm.ClassFile.FieldType.boolean)) ∈ lw_all := lw_g (lw_at lw_m11 133 rfl) rfl
theorem q2647 : (Jvm.Cond.methodLink "BakeryRingModel" (236 : Nat) ({ cls := "BakeryRingModel", name := "reads", desc := "(I)Z" } : Jvm.MethodName)) ∈ lw_all := lw_g (lw_at lw_m11 134 rfl) rfl
theorem q2648 : (Jvm.Cond.privateMethod ({ cls := "BakeryRingModel", name := "reads", desc := "(I)Z" } : Jvm.MethodName)) ∈ lw_tbl := lw_at lw_m11 135 rfl
theorem q2649 : (Jvm.Cond.instanceMethod ({ cls := "BakeryRingModel", name := "reads", desc := "(I)Z" } : Jvm.MethodName)) ∈ lw_all := lw_g (lw_at lw_m11 136 rfl) rfl
theorem q2650 : (Jvm.Cond.code ({ cls := "BakeryRingModel", name := "reads", desc := "(I)Z" } : Jvm.MethodName) prog_13_method_82_code (2 : Nat) (Option.some Jvm.ClassFile.FieldType.boolean)) ∈ lw_all := lw_g (lw_at lw_m11 137 rfl) rfl
theorem q2651 : (Jvm.Cond.methodLink "BakeryRingModel" (233 : Nat) ({ cls := "BakeryRingModel", name := "letter", desc := "()I" } : Jvm.MethodName)) ∈ lw_all := lw_g (lw_at lw_m11 138 rfl) rfl
theorem q2652 : (Jvm.Cond.privateMethod ({ cls := "BakeryRingModel", name := "letter", desc := "()I" } : Jvm.MethodName)) ∈ lw_tbl := lw_at lw_m11 139 rfl
theorem q2653 : (Jvm.Cond.instanceMethod ({ cls := "BakeryRingModel", name := "letter", desc := "()I" } : Jvm.MethodName)) ∈ lw_all := lw_g (lw_at lw_m11 140 rfl) rfl
theorem q2654 : (Jvm.Cond.code ({ cls := "BakeryRingModel", name := "letter", desc := "()I" } : Jvm.MethodName) prog_13_method_81_code (1 : Nat) (Option.some Jvm.ClassFile.FieldType.int)) ∈ lw_all := lw_g (lw_at lw_m11 141 rfl) rfl
theorem q2655 : (Jvm.Cond.methodLink "BakeryRingModel" (245 : Nat) ({ cls := "BakeryRingModel", name := "readsTwo", desc := "(III)Z" } : Jvm.MethodName)) ∈ lw_all := lw_g (lw_at lw_m11 142 rfl) rfl
theorem q2656 : (Jvm.Cond.privateMethod ({ cls := "BakeryRingModel", name := "readsTwo", desc := "(III)Z" } : Jvm.MethodName)) ∈ lw_tbl := lw_at lw_m11 143 rfl
theorem q2657 : (Jvm.Cond.instanceMethod ({ cls := "BakeryRingModel", name := "readsTwo", desc := "(III)Z" } : Jvm.MethodName)) ∈ lw_all := lw_g (lw_at lw_m11 144 rfl) rfl
theorem q2658 : (Jvm.Cond.code ({ cls := "BakeryRingModel", name := "readsTwo", desc := "(III)Z" } : Jvm.MethodName) prog_13_method_84_code (4 : Nat) (Option.some Jvm.ClassFile.FieldType.boolean)) ∈ lw_all := lw_g (lw_at lw_m11 145 rfl) rfl
theorem q2659 : (Jvm.Cond.methodLink "BakeryRingModel" (242 : Nat) ({ cls := "BakeryRingModel", name := "readsNumber", desc := "(II)Z" } : Jvm.MethodName)) ∈ lw_all := lw_g (lw_at lw_m11 146 rfl) rfl
theorem q2660 : (Jvm.Cond.privateMethod ({ cls := "BakeryRingModel", name := "readsNumber", desc := "(II)Z" } : Jvm.MethodName)) ∈ lw_tbl := lw_at lw_m11 147 rfl
theorem q2661 : (Jvm.Cond.instanceMethod ({ cls := "BakeryRingModel", name := "readsNumber", desc := "(II)Z" } : Jvm.MethodName)) ∈ lw_all := lw_g (lw_at lw_m11 148 rfl) rfl
theorem q2662 : (Jvm.Cond.code ({ cls := "BakeryRingModel", name := "readsNumber", desc := "(II)Z" } : Jvm.MethodName) prog_13_method_83_code (4 : Nat) (Option.some Jvm.ClassFile.FieldType.boolean)) ∈ lw_all := lw_g (lw_at lw_m11 149 rfl) rfl
theorem q2663 : (Jvm.Cond.methodLink "BakeryRingModel" (248 : Nat) ({ cls := "BakeryRingModel", name := "readsC", desc := "()Z" } : Jvm.MethodName)) ∈ lw_all := lw_g (lw_at lw_m11 150 rfl) rfl
theorem q2664 : (Jvm.Cond.privateMethod ({ cls := "BakeryRingModel", name := "readsC", desc := "()Z" } : Jvm.MethodName)) ∈ lw_tbl := lw_at lw_m11 151 rfl
theorem q2665 : (Jvm.Cond.instanceMethod ({ cls := "BakeryRingModel", name := "readsC", desc := "()Z" } : Jvm.MethodName)) ∈ lw_all := lw_g (lw_at lw_m11 152 rfl) rfl
theorem q2666 : (Jvm.Cond.code ({ cls := "BakeryRingModel", name := "readsC", desc := "()Z" } : Jvm.MethodName) prog_13_method_85_code (1 : Nat) (Option.some Jvm.ClassFile.FieldType.boolean)) ∈ lw_all := lw_g (lw_at lw_m11 153 rfl) rfl
theorem q2667 : (Jvm.Cond.methodLink "BakeryRingModel" (252 : Nat) ({ cls := "BakeryRingModel", name := "readsO", desc := "()Z" } : Jvm.MethodName)) ∈ lw_all := lw_g (lw_at lw_m11 154 rfl) rfl
theorem q2668 : (Jvm.Cond.privateMethod ({ cls := "BakeryRingModel", name := "readsO", desc := "()Z" } : Jvm.MethodName)) ∈ lw_tbl := lw_at lw_m11 155 rfl
theorem q2669 : (Jvm.Cond.instanceMethod ({ cls := "BakeryRingModel", name := "readsO", desc := "()Z" } : Jvm.MethodName)) ∈ lw_all := lw_g (lw_at lw_m11 156 rfl) rfl
theorem q2670 : (Jvm.Cond.code ({ cls := "BakeryRingModel", name := "readsO", desc := "()Z" } : Jvm.MethodName) prog_13_method_86_code (1 : Nat) (Option.some Jvm.ClassFile.FieldType.boolean)) ∈ lw_all := lw_g (lw_at lw_m11 157 rfl) rfl
theorem q2671 : (Jvm.Cond.methodLink "BakeryRingModel" (270 : Nat) ({ cls := "BakeryRingModel", name := "doesAll", desc := "()Z" } : Jvm.MethodName)) ∈ lw_all := lw_g (lw_at lw_m11 158 rfl) rfl
theorem q2672 : (Jvm.Cond.privateMethod ({ cls := "BakeryRingModel", name := "doesAll", desc := "()Z" } : Jvm.MethodName)) ∈ lw_tbl := lw_at lw_m11 159 rfl
theorem q2673 : (Jvm.Cond.instanceMethod ({ cls := "BakeryRingModel", name := "doesAll", desc := "()Z" } : Jvm.MethodName)) ∈ lw_all := lw_g (lw_at lw_m11 160 rfl) rfl
theorem q2674 : (Jvm.Cond.code ({ cls := "BakeryRingModel", name := "doesAll", desc := "()Z" } : Jvm.MethodName) prog_13_method_91_code (2 : Nat) (Option.some Jvm.ClassFile.FieldType.boolean)) ∈ lw_all := lw_g (lw_at lw_m11 161 rfl) rfl
theorem q2675 : (Jvm.Cond.methodLink "BakeryRingModel" (261 : Nat) ({ cls := "BakeryRingModel", name := "notNow", desc := "()I" } : Jvm.MethodName)) ∈ lw_all := lw_g (lw_at lw_m11 162 rfl) rfl
theorem q2676 : (Jvm.Cond.privateMethod ({ cls := "BakeryRingModel", name := "notNow", desc := "()I" } : Jvm.MethodName)) ∈ lw_tbl := lw_at lw_m11 163 rfl
theorem q2677 : (Jvm.Cond.instanceMethod ({ cls := "BakeryRingModel", name := "notNow", desc := "()I" } : Jvm.MethodName)) ∈ lw_all := lw_g (lw_at lw_m11 164 rfl) rfl
theorem q2678 : (Jvm.Cond.code ({ cls := "BakeryRingModel", name := "notNow", desc := "()I" } : Jvm.MethodName) prog_13_method_89_code (3 : Nat) (Option.some Jvm.ClassFile.FieldType.int)) ∈ lw_all := lw_g (lw_at lw_m11 165 rfl) rfl
theorem q2679 : (Jvm.Cond.methodLink "BakeryRingModel" (264 : Nat) ({ cls := "BakeryRingModel", name := "doesNow", desc := "()I" } : Jvm.MethodName)) ∈ lw_all := lw_g (lw_at lw_m11 166 rfl) rfl
theorem q2680 : (Jvm.Cond.privateMethod ({ cls := "BakeryRingModel", name := "doesNow", desc := "()I" } : Jvm.MethodName)) ∈ lw_tbl := lw_at lw_m11 167 rfl
theorem q2681 : (Jvm.Cond.instanceMethod ({ cls := "BakeryRingModel", name := "doesNow", desc := "()I" } : Jvm.MethodName)) ∈ lw_all := lw_g (lw_at lw_m11 168 rfl) rfl
theorem q2682 : (Jvm.Cond.code ({ cls := "BakeryRingModel", name := "doesNow", desc := "()I" } : Jvm.MethodName) prog_13_method_90_code (3 : Nat) (Option.some Jvm.ClassFile.FieldType.int)) ∈ lw_all := lw_g (lw_at lw_m11 169 rfl) rfl
theorem q2684 : (Jvm.Cond.instanceMethod ({ cls := "BakeryRingModel", name := "faultPosition", desc := "()I" } : Jvm.MethodName)) ∈ lw_all := lw_g (lw_at lw_m11 171 rfl) rfl
theorem q2685 : (Jvm.Cond.selects "BakeryRingModel" ({ cls := "BakeryRingModel", name := "faultPosition", desc := "()I" } : Jvm.MethodName) ({ cls := "BakeryRingModel", name := "faultPosition", desc := "()I" } : Jvm.MethodName)) ∈ lw_all := lw_g (lw_at lw_m11 172 rfl) rfl
theorem q2686 : (Jvm.Cond.code ({ cls := "BakeryRingModel", name := "faultPosition", desc := "()I" } : Jvm.MethodName) prog_13_method_93_code (1 : Nat) (Option.some Jvm.ClassFile.FieldType.int)) ∈ lw_all := lw_g (lw_at lw_m11 173 rfl) rfl
theorem q2688 : (Jvm.Cond.instanceMethod ({ cls := "BakeryRingModel", name := "reason", desc := "(IZ)I" } : Jvm.MethodName)) ∈ lw_all := lw_g (lw_at lw_m11 175 rfl) rfl
theorem q2689 : (Jvm.Cond.selects "BakeryRingModel" ({ cls := "BakeryRingModel", name := "reason", desc := "(IZ)I" } : Jvm.MethodName) ({ cls := "BakeryRingModel", name := "reason", desc := "(IZ)I" } : Jvm.MethodName)) ∈ lw_all := lw_g (lw_at lw_m11 176 rfl) rfl
theorem q2690 : (Jvm.Cond.code ({ cls := "BakeryRingModel", name := "reason", desc := "(IZ)I" } : Jvm.MethodName) prog_13_method_94_code (3 : Nat) (Option.some Jvm.ClassFile.FieldType.int)) ∈ lw_all := lw_g (lw_at lw_m11 177 rfl) rfl
theorem q2692 : (Jvm.Cond.instanceMethod ({ cls := "BakeryRingModel", name := "describe", desc := "(I)I" } : Jvm.MethodName)) ∈ lw_all := lw_g (lw_at lw_m11 179 rfl) rfl
theorem q2693 : (Jvm.Cond.selects "BakeryRingModel" ({ cls := "BakeryRingModel", name := "describe", desc := "(I)I" } : Jvm.MethodName) ({ cls := "BakeryRingModel", name := "describe", desc := "(I)I" } : Jvm.MethodName)) ∈ lw_all := lw_g (lw_at lw_m11 180 rfl) rfl
theorem q2694 : (Jvm.Cond.code ({ cls := "BakeryRingModel", name := "describe", desc := "(I)I" } : Jvm.MethodName) prog_13_method_99_code (3 : Nat) (Option.some Jvm.ClassFile.FieldType.int)) ∈ lw_all := lw_g (lw_at lw_m11 181 rfl) rfl
theorem q2695 : (Jvm.Cond.methodLink "BakeryRingModel" (279 : Nat) ({ cls := "BakeryRingModel", name := "writesKind", desc := "(I)V" } : Jvm.MethodName)) ∈ lw_all := lw_g (lw_at lw_m11 182 rfl) rfl
theorem q2696 : (Jvm.Cond.privateMethod ({ cls := "BakeryRingModel", name := "writesKind", desc := "(I)V" } : Jvm.MethodName)) ∈ lw_tbl := lw_at lw_m11 183 rfl
theorem q2697 : (Jvm.Cond.instanceMethod ({ cls := "BakeryRingModel", name := "writesKind", desc := "(I)V" } : Jvm.MethodName)) ∈ lw_all := lw_g (lw_at lw_m11 184 rfl) rfl
theorem q2698 : (Jvm.Cond.code ({ cls := "BakeryRingModel", name := "writesKind", desc := "(I)V" } : Jvm.MethodName) prog_13_method_97_code (2 : Nat) (Option.none : Option Jvm.ClassFile.FieldType)) ∈ lw_all := lw_g (lw_at lw_m11 185 rfl) rfl
theorem q2699 : (Jvm.Cond.methodLink "BakeryRingModel" (276 : Nat) ({ cls := "BakeryRingModel", name := "writes", desc := "(I)V" } : Jvm.MethodName)) ∈ lw_all := lw_g (lw_at lw_m11 186 rfl) rfl
theorem q2700 : (Jvm.Cond.privateMethod ({ cls := "BakeryRingModel", name := "writes", desc := "(I)V" } : Jvm.MethodName)) ∈ lw_tbl := lw_at lw_m11 187 rfl
theorem q2701 : (Jvm.Cond.instanceMethod ({ cls := "BakeryRingModel", name := "writes", desc := "(I)V" } : Jvm.MethodName)) ∈ lw_all := lw_g (lw_at lw_m11 188 rfl) rfl
theorem q2702 : (Jvm.Cond.code ({ cls := "BakeryRingModel", name := "writes", desc := "(I)V" } : Jvm.MethodName) prog_13_method_95_code (2 : Nat) (Option.none : Option Jvm.ClassFile.FieldType)) ∈ lw_all := lw_g (lw_at lw_m11 189 rfl) rfl
theorem q2703 : (Jvm.Cond.methodLink "BakeryRingModel" (282 : Nat) ({ cls := "BakeryRingModel", name := "writesNumber", desc := "(I)V" } : Jvm.MethodName)) ∈ lw_all := lw_g (lw_at lw_m11 190 rfl) rfl
theorem q2704 : (Jvm.Cond.privateMethod ({ cls := "BakeryRingModel", name := "writesNumber", desc := "(I)V" } : Jvm.MethodName)) ∈ lw_tbl := lw_at lw_m11 191 rfl
theorem q2705 : (Jvm.Cond.instanceMethod ({ cls := "BakeryRingModel", name := "writesNumber", desc := "(I)V" } : Jvm.MethodName)) ∈ lw_all := lw_g (lw_at lw_m11 192 rfl) rfl
theorem q2706 : (Jvm.Cond.code ({ cls := "BakeryRingModel", name := "writesNumber", desc := "(I)V" } : Jvm.MethodName) prog_13_method_96_code (2 : Nat) (Option.none : Option Jvm.ClassFile.FieldType)) ∈ lw_all := lw_g (lw_at lw_m11 193 rfl) rfl
theorem q2707 : (Jvm.Cond.methodLink "BakeryRingModel" (285 : Nat) ({ cls := "BakeryRingModel", name := "writesShut", desc := "()V" } : Jvm.MethodName)) ∈ lw_all := lw_g (lw_at lw_m11 194 rfl) rfl
theorem q2708 : (Jvm.Cond.privateMethod ({ cls := "BakeryRingModel", name := "writesShut", desc := "()V" } : Jvm.MethodName)) ∈ lw_tbl := lw_at lw_m11 195 rfl
theorem q2709 : (Jvm.Cond.instanceMethod ({ cls := "BakeryRingModel", name := "writesShut", desc := "()V" } : Jvm.MethodName)) ∈ lw_all := lw_g (lw_at lw_m11 196 rfl) rfl
theorem q2710 : (Jvm.Cond.code ({ cls := "BakeryRingModel", name := "writesShut", desc := "()V" } : Jvm.MethodName) prog_13_method_98_code (1 : Nat) (Option.none : Option Jvm.ClassFile.FieldType)) ∈ lw_all := lw_g (lw_at lw_m11 197 rfl) rfl
theorem q2712 : (Jvm.Cond.instanceMethod ({ cls := "BakeryRingModel", name := "written", desc := "(I)C" } : Jvm.MethodName)) ∈ lw_all := lw_g (lw_at lw_m11 199 rfl) rfl
theorem q2713 : (Jvm.Cond.selects "BakeryRingModel" ({ cls := "BakeryRingModel", name := "written", desc := "(I)C" } : Jvm.MethodName) ({ cls := "BakeryRingModel", name := "written", desc := "(I)C" } : Jvm.MethodName)) ∈ lw_all := lw_g (lw_at lw_m11 200 rfl) rfl
theorem q2714 : (Jvm.Cond.code ({ cls := "BakeryRingModel", name := "written", desc := "(I)C" } : Jvm.MethodName) prog_13_method_100_code (2 : Nat) (Option.some Jvm.ClassFile.FieldType.char)) ∈ lw_all := lw_g (lw_at lw_m11 201 rfl) rfl
theorem q2716 : (Jvm.Cond.instanceMethod ({ cls := "BakeryRingModel", name := "meanLoad", desc := "()F" } : Jvm.MethodName)) ∈ lw_all := lw_g (lw_at lw_m11 203 rfl) rfl
theorem q2717 : (Jvm.Cond.selects "BakeryRingModel" ({ cls := "BakeryRingModel", name := "meanLoad", desc := "()F" } : Jvm.MethodName) ({ cls := "BakeryRingModel", name := "meanLoad", desc := "()F" } : Jvm.MethodName)) ∈ lw_all := lw_g (lw_at lw_m11 204 rfl) rfl
theorem q2718 : (Jvm.Cond.code ({ cls := "BakeryRingModel", name := "meanLoad", desc := "()F" } : Jvm.MethodName) prog_13_method_105_code (1 : Nat) (Option.some Jvm.ClassFile.FieldType.float)) ∈ lw_all := lw_g (lw_at lw_m11 205 rfl) rfl
theorem q2719 : (Jvm.Cond.methodLink "BakeryRingModel" (288 : Nat) ({ cls := "BakeryRingModel", name := "loadsAll", desc := "()I" } : Jvm.MethodName)) ∈ lw_all := lw_g (lw_at lw_m11 206 rfl) rfl
theorem q2720 : (Jvm.Cond.privateMethod ({ cls := "BakeryRingModel", name := "loadsAll", desc := "()I" } : Jvm.MethodName)) ∈ lw_tbl := lw_at lw_m11 207 rfl
theorem q2721 : (Jvm.Cond.instanceMethod ({ cls := "BakeryRingModel", name := "loadsAll", desc := "()I" } : Jvm.MethodName)) ∈ lw_all := lw_g (lw_at lw_m11 208 rfl) rfl
theorem q2722 : (Jvm.Cond.code ({ cls := "BakeryRingModel", name := "loadsAll", desc := "()I" } : Jvm.MethodName) prog_13_method_101_code (3 : Nat) (Option.some Jvm.ClassFile.FieldType.int)) ∈ lw_all := lw_g (lw_at lw_m11 209 rfl) rfl
theorem q2724 : (Jvm.Cond.instanceMethod ({ cls := "BakeryRingModel", name := "sentShare", desc := "()D" } : Jvm.MethodName)) ∈ lw_all := lw_g (lw_at lw_m11 211 rfl) rfl
theorem q2725 : (Jvm.Cond.selects "BakeryRingModel" ({ cls := "BakeryRingModel", name := "sentShare", desc := "()D" } : Jvm.MethodName) ({ cls := "BakeryRingModel", name := "sentShare", desc := "()D" } : Jvm.MethodName)) ∈ lw_all := lw_g (lw_at lw_m11 212 rfl) rfl
theorem q2726 : (Jvm.Cond.code ({ cls := "BakeryRingModel", name := "sentShare", desc := "()D" } : Jvm.MethodName) prog_13_method_106_code (1 : Nat) (Option.some Jvm.ClassFile.FieldType.double)) ∈ lw_all := lw_g (lw_at lw_m11 213 rfl) rfl
theorem q2727 : (Jvm.Cond.methodLink "BakeryRingModel" (291 : Nat) ({ cls := "BakeryRingModel", name := "customersThat", desc := "(II)I" } : Jvm.MethodName)) ∈ lw_all := lw_g (lw_at lw_m11 214 rfl) rfl
theorem q2728 : (Jvm.Cond.privateMethod ({ cls := "BakeryRingModel", name := "customersThat", desc := "(II)I" } : Jvm.MethodName)) ∈ lw_tbl := lw_at lw_m11 215 rfl
theorem q2729 : (Jvm.Cond.instanceMethod ({ cls := "BakeryRingModel", name := "customersThat", desc := "(II)I" } : Jvm.MethodName)) ∈ lw_all := lw_g (lw_at lw_m11 216 rfl) rfl
theorem q2730 : (Jvm.Cond.code ({ cls := "BakeryRingModel", name := "customersThat", desc := "(II)I" } : Jvm.MethodName) prog_13_method_102_code (5 : Nat) (Option.some Jvm.ClassFile.FieldType.int)) ∈ lw_all := lw_g (lw_at lw_m11 217 rfl) rfl
theorem q2732 : (Jvm.Cond.instanceMethod ({ cls := "BakeryRingModel", name := "account", desc := "(I)I" } : Jvm.MethodName)) ∈ lw_all := lw_g (lw_at lw_m11 219 rfl) rfl
theorem q2733 : (Jvm.Cond.selects "BakeryRingModel" ({ cls := "BakeryRingModel", name := "account", desc := "(I)I" } : Jvm.MethodName) ({ cls := "BakeryRingModel", name := "account", desc := "(I)I" } : Jvm.MethodName)) ∈ lw_all := lw_g (lw_at lw_m11 220 rfl) rfl
theorem q2734 : (Jvm.Cond.code ({ cls := "BakeryRingModel", name := "account", desc := "(I)I" } : Jvm.MethodName) prog_13_method_107_code (2 : Nat) (Option.some Jvm.ClassFile.FieldType.int)) ∈ lw_all := lw_g (lw_at lw_m11 221 rfl) rfl
theorem q2735 : (Jvm.Cond.methodLink "BakeryRingModel" (294 : Nat) ({ cls := "BakeryRingModel", name := "loavesAll", desc := "()I" } : Jvm.MethodName)) ∈ lw_all := lw_g (lw_at lw_m11 222 rfl) rfl
theorem q2736 : (Jvm.Cond.privateMethod ({ cls := "BakeryRingModel", name := "loavesAll", desc := "()I" } : Jvm.MethodName)) ∈ lw_tbl := lw_at lw_m11 223 rfl
theorem q2737 : (Jvm.Cond.instanceMethod ({ cls := "BakeryRingModel", name := "loavesAll", desc := "()I" } : Jvm.MethodName)) ∈ lw_all := lw_g (lw_at lw_m11 224 rfl) rfl
theorem q2738 : (Jvm.Cond.code ({ cls := "BakeryRingModel", name := "loavesAll", desc := "()I" } : Jvm.MethodName) prog_13_method_103_code (3 : Nat) (Option.some Jvm.ClassFile.FieldType.int)) ∈ lw_all := lw_g (lw_at lw_m11 225 rfl) rfl
theorem q2739 : (Jvm.Cond.methodLink "BakeryRingModel" (297 : Nat) ({ cls := "BakeryRingModel", name := "overloadedMany", desc := "()I" } : Jvm.MethodName)) ∈ lw_all := lw_g (lw_at lw_m11 226 rfl) rfl
theorem q2740 : (Jvm.Cond.privateMethod ({ cls := "BakeryRingModel", name := "overloadedMany", desc := "()I" } : Jvm.MethodName)) ∈ lw_tbl := lw_at lw_m11 227 rfl
theorem q2741 : (Jvm.Cond.instanceMethod ({ cls := "BakeryRingModel", name := "overloadedMany", desc := "()I" } : Jvm.MethodName)) ∈ lw_all := lw_g (lw_at lw_m11 228 rfl) rfl
theorem q2742 : (Jvm.Cond.code ({ cls := "BakeryRingModel", name := "overloadedMany", desc := "()I" } : Jvm.MethodName) prog_13_method_104_code (3 : Nat) (Option.some Jvm.ClassFile.FieldType.int)) ∈ lw_all := lw_g (lw_at lw_m11 229 rfl) rfl
theorem q2744 : (Jvm.Cond.instanceMethod ({ cls := "BakeryRingModel", name := "undo", desc := "()I" } : Jvm.MethodName)) ∈ lw_all := lw_g (lw_at lw_m11 231 rfl) rfl
theorem q2745 : (Jvm.Cond.selects "BakeryRingModel" ({ cls := "BakeryRingModel", name := "undo", desc := "()I" } : Jvm.MethodName) ({ cls := "BakeryRingModel", name := "undo", desc := "()I" } : Jvm.MethodName)) ∈ lw_all := lw_g (lw_at lw_m11 232 rfl) rfl
theorem q2746 : (Jvm.Cond.code ({ cls := "BakeryRingModel", name := "undo", desc := "()I" } : Jvm.MethodName) prog_13_method_108_code (3 : Nat) (Option.some Jvm.ClassFile.FieldType.int)) ∈ lw_all := lw_g (lw_at lw_m11 233 rfl) rfl
theorem q2748 : (Jvm.Cond.instanceMethod ({ cls := "BakeryRingModel", name := "save", desc := "()I" } : Jvm.MethodName)) ∈ lw_all := lw_g (lw_at lw_m11 235 rfl) rfl
theorem q2749 : (Jvm.Cond.selects "BakeryRingModel" ({ cls := "BakeryRingModel", name := "save", desc := "()I" } : Jvm.MethodName) ({ cls := "BakeryRingModel", name := "save", desc := "()I" } : Jvm.MethodName)) ∈ lw_all := lw_g (lw_at lw_m11 236 rfl) rfl
theorem q2750 : (Jvm.Cond.code ({ cls := "BakeryRingModel", name := "save", desc := "()I" } : Jvm.MethodName) prog_13_method_109_code (2 : Nat) (Option.some Jvm.ClassFile.FieldType.int)) ∈ lw_all := lw_g (lw_at lw_m11 237 rfl) rfl
theorem q2752 : (Jvm.Cond.instanceMethod ({ cls := "BakeryRingModel", name := "restore", desc := "()I" } : Jvm.MethodName)) ∈ lw_all := lw_g (lw_at lw_m11 239 rfl) rfl
theorem q2753 : (Jvm.Cond.selects "BakeryRingModel" ({ cls := "BakeryRingModel", name := "restore", desc := "()I" } : Jvm.MethodName) ({ cls := "BakeryRingModel", name := "restore", desc := "()I" } : Jvm.MethodName)) ∈ lw_all := lw_g (lw_at lw_m12 0 rfl) rfl
theorem q2754 : (Jvm.Cond.code ({ cls := "BakeryRingModel", name := "restore", desc := "()I" } : Jvm.MethodName) prog_13_method_110_code (2 : Nat) (Option.some Jvm.ClassFile.FieldType.int)) ∈ lw_all := lw_g (lw_at lw_m12 1 rfl) rfl
theorem q2789 : (Jvm.Cond.castable "BakeryRingModel" "java/lang/Object") ∈ lw_tbl := lw_at lw_m12 36 rfl
theorem in_X9 : ∀ w ∈ wsX90, w ∈ lw_all := lw_in wsX90 [2274, 2276, 2278, 2280, 2282, 2284, 2286, 2288, 2290, 2292, 2294, 2296, 2298, 2300, 2302, 2304, 2306, 2308, 2310, 2312, 2314, 2316, 2318] (by decide +kernel) (by decide +kernel)
