/-! java/util/List -/
set_option maxRecDepth 100000
def RJ0 : String := "java/util/List"
abbrev cJ0_of : ByteArray := prog_66_method_39_code
def yJ0_of : MethodName := ⟨RJ0, "of", "(Ljava/lang/Object;Ljava/lang/Object;Ljava/lang/Object;)Ljava/util/List;"⟩
def dkwJ0_of_0 : List UInt8 := [6, 189, 0, 103, 89, 3, 42, 83, 89, 4, 43, 83, 89, 5, 44, 83, 184, 0, 105, 176]
abbrev dktJ0_of_0 : List UInt8 := dkwJ0_of_0 ++ []
theorem dksJ0_of_0 : cJ0_of.data.toList.drop 0 = dktJ0_of_0 := by decide +kernel
theorem dJ0_of_0 : decode cJ0_of 0 = .ok (.iconst 3, 1) := dk_6 (dk_at dksJ0_of_0 0 rfl rfl)
theorem dJ0_of_1 : decode cJ0_of 1 = .ok (.anewarray 103, 3) := dk_189 0 103 (dk_at dksJ0_of_0 1 rfl rfl)
theorem dJ0_of_4 : decode cJ0_of 4 = .ok (.dup, 1) := dk_89 (dk_at dksJ0_of_0 4 rfl rfl)
theorem dJ0_of_5 : decode cJ0_of 5 = .ok (.iconst 0, 1) := dk_3 (dk_at dksJ0_of_0 5 rfl rfl)
theorem dJ0_of_6 : decode cJ0_of 6 = .ok (.aload_n 0, 1) := dk_42 (dk_at dksJ0_of_0 6 rfl rfl)
theorem dJ0_of_7 : decode cJ0_of 7 = .ok (.aastore, 1) := dk_83 (dk_at dksJ0_of_0 7 rfl rfl)
theorem dJ0_of_8 : decode cJ0_of 8 = .ok (.dup, 1) := dk_89 (dk_at dksJ0_of_0 8 rfl rfl)
theorem dJ0_of_9 : decode cJ0_of 9 = .ok (.iconst 1, 1) := dk_4 (dk_at dksJ0_of_0 9 rfl rfl)
theorem dJ0_of_10 : decode cJ0_of 10 = .ok (.aload_n 1, 1) := dk_43 (dk_at dksJ0_of_0 10 rfl rfl)
theorem dJ0_of_11 : decode cJ0_of 11 = .ok (.aastore, 1) := dk_83 (dk_at dksJ0_of_0 11 rfl rfl)
theorem dJ0_of_12 : decode cJ0_of 12 = .ok (.dup, 1) := dk_89 (dk_at dksJ0_of_0 12 rfl rfl)
theorem dJ0_of_13 : decode cJ0_of 13 = .ok (.iconst 2, 1) := dk_5 (dk_at dksJ0_of_0 13 rfl rfl)
theorem dJ0_of_14 : decode cJ0_of 14 = .ok (.aload_n 2, 1) := dk_44 (dk_at dksJ0_of_0 14 rfl rfl)
theorem dJ0_of_15 : decode cJ0_of 15 = .ok (.aastore, 1) := dk_83 (dk_at dksJ0_of_0 15 rfl rfl)
theorem dJ0_of_16 : decode cJ0_of 16 = .ok (.invokestatic 105, 3) := dk_184 0 105 (dk_at dksJ0_of_0 16 rfl rfl)
theorem dJ0_of_19 : decode cJ0_of 19 = .ok (.areturn, 1) := dk_176 (dk_at dksJ0_of_0 19 rfl rfl)
abbrev cJ0_of_2 : ByteArray := prog_66_method_43_code
def yJ0_of_2 : MethodName := ⟨RJ0, "of", "(Ljava/lang/Object;Ljava/lang/Object;Ljava/lang/Object;Ljava/lang/Object;Ljava/lang/Object;Ljava/lang/Object;Ljava/lang/Object;)Ljava/util/List;"⟩
def dkwJ0_of_2_1 : List UInt8 := [25, 4, 83, 89, 8, 25, 5, 83, 89, 16, 6, 25, 6, 83, 184, 0, 105, 176]
abbrev dktJ0_of_2_1 : List UInt8 := dkwJ0_of_2_1 ++ []
def dkwJ0_of_2_0 : List UInt8 := [16, 7, 189, 0, 103, 89, 3, 42, 83, 89, 4, 43, 83, 89, 5, 44, 83, 89, 6, 45, 83, 89, 7]
abbrev dktJ0_of_2_0 : List UInt8 := dkwJ0_of_2_0 ++ dktJ0_of_2_1
theorem dksJ0_of_2_0 : cJ0_of_2.data.toList.drop 0 = dktJ0_of_2_0 := by decide +kernel
theorem dksJ0_of_2_1 : cJ0_of_2.data.toList.drop 23 = dktJ0_of_2_1 := dk_seg dksJ0_of_2_0 23 rfl rfl
theorem dJ0_of_2_0 : decode cJ0_of_2 0 = .ok (.bipush 7, 2) := dk_16 7 (dk_at dksJ0_of_2_0 0 rfl rfl)
theorem dJ0_of_2_2 : decode cJ0_of_2 2 = .ok (.anewarray 103, 3) := dk_189 0 103 (dk_at dksJ0_of_2_0 2 rfl rfl)
theorem dJ0_of_2_5 : decode cJ0_of_2 5 = .ok (.dup, 1) := dk_89 (dk_at dksJ0_of_2_0 5 rfl rfl)
theorem dJ0_of_2_6 : decode cJ0_of_2 6 = .ok (.iconst 0, 1) := dk_3 (dk_at dksJ0_of_2_0 6 rfl rfl)
theorem dJ0_of_2_7 : decode cJ0_of_2 7 = .ok (.aload_n 0, 1) := dk_42 (dk_at dksJ0_of_2_0 7 rfl rfl)
theorem dJ0_of_2_8 : decode cJ0_of_2 8 = .ok (.aastore, 1) := dk_83 (dk_at dksJ0_of_2_0 8 rfl rfl)
theorem dJ0_of_2_9 : decode cJ0_of_2 9 = .ok (.dup, 1) := dk_89 (dk_at dksJ0_of_2_0 9 rfl rfl)
theorem dJ0_of_2_10 : decode cJ0_of_2 10 = .ok (.iconst 1, 1) := dk_4 (dk_at dksJ0_of_2_0 10 rfl rfl)
theorem dJ0_of_2_11 : decode cJ0_of_2 11 = .ok (.aload_n 1, 1) := dk_43 (dk_at dksJ0_of_2_0 11 rfl rfl)
theorem dJ0_of_2_12 : decode cJ0_of_2 12 = .ok (.aastore, 1) := dk_83 (dk_at dksJ0_of_2_0 12 rfl rfl)
theorem dJ0_of_2_13 : decode cJ0_of_2 13 = .ok (.dup, 1) := dk_89 (dk_at dksJ0_of_2_0 13 rfl rfl)
theorem dJ0_of_2_14 : decode cJ0_of_2 14 = .ok (.iconst 2, 1) := dk_5 (dk_at dksJ0_of_2_0 14 rfl rfl)
theorem dJ0_of_2_15 : decode cJ0_of_2 15 = .ok (.aload_n 2, 1) := dk_44 (dk_at dksJ0_of_2_0 15 rfl rfl)
theorem dJ0_of_2_16 : decode cJ0_of_2 16 = .ok (.aastore, 1) := dk_83 (dk_at dksJ0_of_2_0 16 rfl rfl)
theorem dJ0_of_2_17 : decode cJ0_of_2 17 = .ok (.dup, 1) := dk_89 (dk_at dksJ0_of_2_0 17 rfl rfl)
theorem dJ0_of_2_18 : decode cJ0_of_2 18 = .ok (.iconst 3, 1) := dk_6 (dk_at dksJ0_of_2_0 18 rfl rfl)
theorem dJ0_of_2_19 : decode cJ0_of_2 19 = .ok (.aload_n 3, 1) := dk_45 (dk_at dksJ0_of_2_0 19 rfl rfl)
theorem dJ0_of_2_20 : decode cJ0_of_2 20 = .ok (.aastore, 1) := dk_83 (dk_at dksJ0_of_2_0 20 rfl rfl)
theorem dJ0_of_2_21 : decode cJ0_of_2 21 = .ok (.dup, 1) := dk_89 (dk_at dksJ0_of_2_0 21 rfl rfl)
theorem dJ0_of_2_22 : decode cJ0_of_2 22 = .ok (.iconst 4, 1) := dk_7 (dk_at dksJ0_of_2_0 22 rfl rfl)
theorem dJ0_of_2_23 : decode cJ0_of_2 23 = .ok (.aload 4, 2) := dk_25 4 (dk_at dksJ0_of_2_1 0 rfl rfl)
theorem dJ0_of_2_25 : decode cJ0_of_2 25 = .ok (.aastore, 1) := dk_83 (dk_at dksJ0_of_2_1 2 rfl rfl)
theorem dJ0_of_2_26 : decode cJ0_of_2 26 = .ok (.dup, 1) := dk_89 (dk_at dksJ0_of_2_1 3 rfl rfl)
theorem dJ0_of_2_27 : decode cJ0_of_2 27 = .ok (.iconst 5, 1) := dk_8 (dk_at dksJ0_of_2_1 4 rfl rfl)
theorem dJ0_of_2_28 : decode cJ0_of_2 28 = .ok (.aload 5, 2) := dk_25 5 (dk_at dksJ0_of_2_1 5 rfl rfl)
theorem dJ0_of_2_30 : decode cJ0_of_2 30 = .ok (.aastore, 1) := dk_83 (dk_at dksJ0_of_2_1 7 rfl rfl)
theorem dJ0_of_2_31 : decode cJ0_of_2 31 = .ok (.dup, 1) := dk_89 (dk_at dksJ0_of_2_1 8 rfl rfl)
theorem dJ0_of_2_32 : decode cJ0_of_2 32 = .ok (.bipush 6, 2) := dk_16 6 (dk_at dksJ0_of_2_1 9 rfl rfl)
theorem dJ0_of_2_34 : decode cJ0_of_2 34 = .ok (.aload 6, 2) := dk_25 6 (dk_at dksJ0_of_2_1 11 rfl rfl)
theorem dJ0_of_2_36 : decode cJ0_of_2 36 = .ok (.aastore, 1) := dk_83 (dk_at dksJ0_of_2_1 13 rfl rfl)
theorem dJ0_of_2_37 : decode cJ0_of_2 37 = .ok (.invokestatic 105, 3) := dk_184 0 105 (dk_at dksJ0_of_2_1 14 rfl rfl)
theorem dJ0_of_2_40 : decode cJ0_of_2 40 = .ok (.areturn, 1) := dk_176 (dk_at dksJ0_of_2_1 17 rfl rfl)
theorem q119 : (Jvm.Cond.initialized "java/util/List") ∈ lw_all := lw_g (lw_at lw_m1 6 rfl) rfl
theorem q203 : (Jvm.Cond.static ({ cls := "java/util/List", name := "of", desc := "(Ljava/lang/Object;Ljava/lang/Object;Ljava/lang/Object;)Ljava/util/List;" } : Jvm.MethodName)) ∈ lw_all := lw_g (lw_at lw_m1 90 rfl) rfl
theorem q204 : (Jvm.Cond.code ({ cls := "java/util/List", name := "of", desc := "(Ljava/lang/Object;Ljava/lang/Object;Ljava/lang/Object;)Ljava/util/List;" } : Jvm.MethodName) prog_66_method_39_code (3 : Nat) (Option.some (Jvm.ClassFile.FieldType.object "java/util/List"))) ∈ lw_all := lw_g (lw_at lw_m1 91 rfl) rfl
theorem q205 : (Jvm.Cond.classLink "java/util/List" (103 : Nat) "java/lang/Object") ∈ lw_all := lw_g (lw_at lw_m1 92 rfl) rfl
theorem q207 : (Jvm.Cond.methodLink "java/util/List" (105 : Nat) ({ cls := "java/util/ImmutableCollections", name := "listFromTrustedArray", desc := "([Ljava/lang/Object;)Ljava/util/List;" } : Jvm.MethodName)) ∈ lw_all := lw_g (lw_at lw_m1 94 rfl) rfl
theorem q304 : (Jvm.Cond.static ({ cls := "java/util/List", name := "of", desc := "(Ljava/lang/Object;Ljava/lang/Object;Ljava/lang/Object;Ljava/lang/Object;Ljava/lang/Object;Ljava/lang/Object;Ljava/lang/Object;)Ljava/util/List;" } : Jvm.MethodName)) ∈ lw_all := lw_g (lw_at lw_m1 191 rfl) rfl
theorem q305 : (Jvm.Cond.code ({ cls := "java/util/List", name := "of", desc := "(Ljava/lang/Object;Ljava/lang/Object;Ljava/lang/Object;Ljava/lang/Object;Ljava/lang/Object;Ljava/lang/Object;Ljava/lang/Object;)Ljava/util/List;" } : Jvm.MethodName) prog_66_method_43_code (7 : Nat) (Option.some (Jvm.ClassFile.FieldType.object "java/util/List"))) ∈ lw_all := lw_g (lw_at lw_m1 192 rfl) rfl
theorem q859 : (Jvm.Cond.interfaceMethod "java/util/List" "java/util/List" "get" "(I)Ljava/lang/Object;") ∈ lw_tbl := lw_at lw_m4 26 rfl
theorem q860 : (Jvm.Cond.declares ({ cls := "java/util/List", name := "get", desc := "(I)Ljava/lang/Object;" } : Jvm.MethodName)) ∈ lw_tbl := lw_at lw_m4 27 rfl
theorem q1361 : (Jvm.Cond.interfaceMethod "java/util/List" "java/util/List" "iterator" "()Ljava/util/Iterator;") ∈ lw_tbl := lw_at lw_m6 48 rfl
theorem q1362 : (Jvm.Cond.declares ({ cls := "java/util/List", name := "iterator", desc := "()Ljava/util/Iterator;" } : Jvm.MethodName)) ∈ lw_tbl := lw_at lw_m6 49 rfl

/-! java/util/ImmutableCollections -/
set_option maxRecDepth 100000
def RJ1 : String := "java/util/ImmutableCollections"
abbrev cJ1_listFromTrustedArray : ByteArray := prog_56_method_5_code
def yJ1_listFromTrustedArray : MethodName := ⟨RJ1, "listFromTrustedArray", "([Ljava/lang/Object;)Ljava/util/List;"⟩
def dkwJ1_listFromTrustedArray_5 : List UInt8 := [3, 50, 42, 4, 50, 183, 0, 67, 167, 0, 12, 187, 0, 12, 89, 42, 3, 183, 0, 43, 176]
abbrev dktJ1_listFromTrustedArray_5 : List UInt8 := dkwJ1_listFromTrustedArray_5 ++ []
def dkwJ1_listFromTrustedArray_4 : List UInt8 := [178, 0, 60, 167, 0, 41, 187, 0, 10, 89, 42, 3, 50, 183, 0, 64, 167, 0, 28, 187, 0, 10, 89, 42]
abbrev dktJ1_listFromTrustedArray_4 : List UInt8 := dkwJ1_listFromTrustedArray_4 ++ dktJ1_listFromTrustedArray_5
def dkwJ1_listFromTrustedArray_3 : List UInt8 := [170, 0, 0, 0, 0, 61, 0, 0, 0, 0, 0, 0, 0, 2, 0, 0, 0, 26, 0, 0, 0, 32, 0, 0, 0, 45]
abbrev dktJ1_listFromTrustedArray_3 : List UInt8 := dkwJ1_listFromTrustedArray_3 ++ dktJ1_listFromTrustedArray_4
def dkwJ1_listFromTrustedArray_2 : List UInt8 := [132, 3, 1, 167, 255, 237, 42, 190]
abbrev dktJ1_listFromTrustedArray_2 : List UInt8 := dkwJ1_listFromTrustedArray_2 ++ dktJ1_listFromTrustedArray_3
def dkwJ1_listFromTrustedArray_1 : List UInt8 := [76, 43, 190, 61, 3, 62, 29, 28, 162, 0, 20, 43, 29, 50, 58, 4, 25, 4, 184, 0, 37, 87]
abbrev dktJ1_listFromTrustedArray_1 : List UInt8 := dkwJ1_listFromTrustedArray_1 ++ dktJ1_listFromTrustedArray_2
def dkwJ1_listFromTrustedArray_0 : List UInt8 := [178, 0, 46, 154, 0, 20, 42, 182, 0, 51, 18, 55, 165, 0, 11, 187, 0, 57, 89, 183, 0, 59, 191, 42]
abbrev dktJ1_listFromTrustedArray_0 : List UInt8 := dkwJ1_listFromTrustedArray_0 ++ dktJ1_listFromTrustedArray_1
theorem dksJ1_listFromTrustedArray_0 : cJ1_listFromTrustedArray.data.toList.drop 0 = dktJ1_listFromTrustedArray_0 := by decide +kernel
theorem dksJ1_listFromTrustedArray_1 : cJ1_listFromTrustedArray.data.toList.drop 24 = dktJ1_listFromTrustedArray_1 := dk_seg dksJ1_listFromTrustedArray_0 24 rfl rfl
theorem dksJ1_listFromTrustedArray_2 : cJ1_listFromTrustedArray.data.toList.drop 46 = dktJ1_listFromTrustedArray_2 := dk_seg dksJ1_listFromTrustedArray_1 22 rfl rfl
theorem dksJ1_listFromTrustedArray_3 : cJ1_listFromTrustedArray.data.toList.drop 54 = dktJ1_listFromTrustedArray_3 := dk_seg dksJ1_listFromTrustedArray_2 8 rfl rfl
theorem dksJ1_listFromTrustedArray_4 : cJ1_listFromTrustedArray.data.toList.drop 80 = dktJ1_listFromTrustedArray_4 := dk_seg dksJ1_listFromTrustedArray_3 26 rfl rfl
theorem dksJ1_listFromTrustedArray_5 : cJ1_listFromTrustedArray.data.toList.drop 104 = dktJ1_listFromTrustedArray_5 := dk_seg dksJ1_listFromTrustedArray_4 24 rfl rfl
theorem dJ1_listFromTrustedArray_0 : decode cJ1_listFromTrustedArray 0 = .ok (.getstatic 46, 3) := dk_178 0 46 (dk_at dksJ1_listFromTrustedArray_0 0 rfl rfl)
theorem dJ1_listFromTrustedArray_3 : decode cJ1_listFromTrustedArray 3 = .ok (.ifCond .ne 20, 3) := dk_154 0 20 (dk_at dksJ1_listFromTrustedArray_0 3 rfl rfl)
theorem dJ1_listFromTrustedArray_6 : decode cJ1_listFromTrustedArray 6 = .ok (.aload_n 0, 1) := dk_42 (dk_at dksJ1_listFromTrustedArray_0 6 rfl rfl)
theorem dJ1_listFromTrustedArray_7 : decode cJ1_listFromTrustedArray 7 = .ok (.invokevirtual 51, 3) := dk_182 0 51 (dk_at dksJ1_listFromTrustedArray_0 7 rfl rfl)
theorem dJ1_listFromTrustedArray_10 : decode cJ1_listFromTrustedArray 10 = .ok (.ldc 55, 2) := dk_18 55 (dk_at dksJ1_listFromTrustedArray_0 10 rfl rfl)
theorem dJ1_listFromTrustedArray_12 : decode cJ1_listFromTrustedArray 12 = .ok (.if_acmp .eq 11, 3) := dk_165 0 11 (dk_at dksJ1_listFromTrustedArray_0 12 rfl rfl)
theorem dJ1_listFromTrustedArray_15 : decode cJ1_listFromTrustedArray 15 = .ok (.new 57, 3) := dk_187 0 57 (dk_at dksJ1_listFromTrustedArray_0 15 rfl rfl)
theorem dJ1_listFromTrustedArray_18 : decode cJ1_listFromTrustedArray 18 = .ok (.dup, 1) := dk_89 (dk_at dksJ1_listFromTrustedArray_0 18 rfl rfl)
theorem dJ1_listFromTrustedArray_19 : decode cJ1_listFromTrustedArray 19 = .ok (.invokespecial 59, 3) := dk_183 0 59 (dk_at dksJ1_listFromTrustedArray_0 19 rfl rfl)
theorem dJ1_listFromTrustedArray_22 : decode cJ1_listFromTrustedArray 22 = .ok (.athrow, 1) := dk_191 (dk_at dksJ1_listFromTrustedArray_0 22 rfl rfl)
theorem dJ1_listFromTrustedArray_23 : decode cJ1_listFromTrustedArray 23 = .ok (.aload_n 0, 1) := dk_42 (dk_at dksJ1_listFromTrustedArray_0 23 rfl rfl)
theorem dJ1_listFromTrustedArray_24 : decode cJ1_listFromTrustedArray 24 = .ok (.astore_n 1, 1) := dk_76 (dk_at dksJ1_listFromTrustedArray_1 0 rfl rfl)
theorem dJ1_listFromTrustedArray_25 : decode cJ1_listFromTrustedArray 25 = .ok (.aload_n 1, 1) := dk_43 (dk_at dksJ1_listFromTrustedArray_1 1 rfl rfl)
theorem dJ1_listFromTrustedArray_26 : decode cJ1_listFromTrustedArray 26 = .ok (.arraylength, 1) := dk_190 (dk_at dksJ1_listFromTrustedArray_1 2 rfl rfl)
theorem dJ1_listFromTrustedArray_27 : decode cJ1_listFromTrustedArray 27 = .ok (.istore_n 2, 1) := dk_61 (dk_at dksJ1_listFromTrustedArray_1 3 rfl rfl)
theorem dJ1_listFromTrustedArray_28 : decode cJ1_listFromTrustedArray 28 = .ok (.iconst 0, 1) := dk_3 (dk_at dksJ1_listFromTrustedArray_1 4 rfl rfl)
theorem dJ1_listFromTrustedArray_29 : decode cJ1_listFromTrustedArray 29 = .ok (.istore_n 3, 1) := dk_62 (dk_at dksJ1_listFromTrustedArray_1 5 rfl rfl)
theorem dJ1_listFromTrustedArray_30 : decode cJ1_listFromTrustedArray 30 = .ok (.iload_n 3, 1) := dk_29 (dk_at dksJ1_listFromTrustedArray_1 6 rfl rfl)
theorem dJ1_listFromTrustedArray_31 : decode cJ1_listFromTrustedArray 31 = .ok (.iload_n 2, 1) := dk_28 (dk_at dksJ1_listFromTrustedArray_1 7 rfl rfl)
theorem dJ1_listFromTrustedArray_32 : decode cJ1_listFromTrustedArray 32 = .ok (.if_icmp .ge 20, 3) := dk_162 0 20 (dk_at dksJ1_listFromTrustedArray_1 8 rfl rfl)
theorem dJ1_listFromTrustedArray_35 : decode cJ1_listFromTrustedArray 35 = .ok (.aload_n 1, 1) := dk_43 (dk_at dksJ1_listFromTrustedArray_1 11 rfl rfl)
theorem dJ1_listFromTrustedArray_36 : decode cJ1_listFromTrustedArray 36 = .ok (.iload_n 3, 1) := dk_29 (dk_at dksJ1_listFromTrustedArray_1 12 rfl rfl)
theorem dJ1_listFromTrustedArray_37 : decode cJ1_listFromTrustedArray 37 = .ok (.aaload, 1) := dk_50 (dk_at dksJ1_listFromTrustedArray_1 13 rfl rfl)
theorem dJ1_listFromTrustedArray_38 : decode cJ1_listFromTrustedArray 38 = .ok (.astore 4, 2) := dk_58 4 (dk_at dksJ1_listFromTrustedArray_1 14 rfl rfl)
theorem dJ1_listFromTrustedArray_40 : decode cJ1_listFromTrustedArray 40 = .ok (.aload 4, 2) := dk_25 4 (dk_at dksJ1_listFromTrustedArray_1 16 rfl rfl)
theorem dJ1_listFromTrustedArray_42 : decode cJ1_listFromTrustedArray 42 = .ok (.invokestatic 37, 3) := dk_184 0 37 (dk_at dksJ1_listFromTrustedArray_1 18 rfl rfl)
theorem dJ1_listFromTrustedArray_45 : decode cJ1_listFromTrustedArray 45 = .ok (.pop, 1) := dk_87 (dk_at dksJ1_listFromTrustedArray_1 21 rfl rfl)
theorem dJ1_listFromTrustedArray_46 : decode cJ1_listFromTrustedArray 46 = .ok (.iinc 3 1, 3) := dk_132 3 1 (dk_at dksJ1_listFromTrustedArray_2 0 rfl rfl)
theorem dJ1_listFromTrustedArray_49 : decode cJ1_listFromTrustedArray 49 = .ok (.goto (-19), 3) := dk_167 255 237 (dk_at dksJ1_listFromTrustedArray_2 3 rfl rfl)
theorem dJ1_listFromTrustedArray_52 : decode cJ1_listFromTrustedArray 52 = .ok (.aload_n 0, 1) := dk_42 (dk_at dksJ1_listFromTrustedArray_2 6 rfl rfl)
theorem dJ1_listFromTrustedArray_53 : decode cJ1_listFromTrustedArray 53 = .ok (.arraylength, 1) := dk_190 (dk_at dksJ1_listFromTrustedArray_2 7 rfl rfl)
theorem dJ1_listFromTrustedArray_54 : decode cJ1_listFromTrustedArray 54 = .ok (.tableswitch 61 0 2 #[26, 32, 45], 26) := by decide +kernel
theorem dJ1_listFromTrustedArray_80 : decode cJ1_listFromTrustedArray 80 = .ok (.getstatic 60, 3) := dk_178 0 60 (dk_at dksJ1_listFromTrustedArray_4 0 rfl rfl)
theorem dJ1_listFromTrustedArray_83 : decode cJ1_listFromTrustedArray 83 = .ok (.goto 41, 3) := dk_167 0 41 (dk_at dksJ1_listFromTrustedArray_4 3 rfl rfl)
theorem dJ1_listFromTrustedArray_86 : decode cJ1_listFromTrustedArray 86 = .ok (.new 10, 3) := dk_187 0 10 (dk_at dksJ1_listFromTrustedArray_4 6 rfl rfl)
theorem dJ1_listFromTrustedArray_89 : decode cJ1_listFromTrustedArray 89 = .ok (.dup, 1) := dk_89 (dk_at dksJ1_listFromTrustedArray_4 9 rfl rfl)
theorem dJ1_listFromTrustedArray_90 : decode cJ1_listFromTrustedArray 90 = .ok (.aload_n 0, 1) := dk_42 (dk_at dksJ1_listFromTrustedArray_4 10 rfl rfl)
theorem dJ1_listFromTrustedArray_91 : decode cJ1_listFromTrustedArray 91 = .ok (.iconst 0, 1) := dk_3 (dk_at dksJ1_listFromTrustedArray_4 11 rfl rfl)
theorem dJ1_listFromTrustedArray_92 : decode cJ1_listFromTrustedArray 92 = .ok (.aaload, 1) := dk_50 (dk_at dksJ1_listFromTrustedArray_4 12 rfl rfl)
theorem dJ1_listFromTrustedArray_93 : decode cJ1_listFromTrustedArray 93 = .ok (.invokespecial 64, 3) := dk_183 0 64 (dk_at dksJ1_listFromTrustedArray_4 13 rfl rfl)
theorem dJ1_listFromTrustedArray_96 : decode cJ1_listFromTrustedArray 96 = .ok (.goto 28, 3) := dk_167 0 28 (dk_at dksJ1_listFromTrustedArray_4 16 rfl rfl)
theorem dJ1_listFromTrustedArray_99 : decode cJ1_listFromTrustedArray 99 = .ok (.new 10, 3) := dk_187 0 10 (dk_at dksJ1_listFromTrustedArray_4 19 rfl rfl)
theorem dJ1_listFromTrustedArray_102 : decode cJ1_listFromTrustedArray 102 = .ok (.dup, 1) := dk_89 (dk_at dksJ1_listFromTrustedArray_4 22 rfl rfl)
theorem dJ1_listFromTrustedArray_103 : decode cJ1_listFromTrustedArray 103 = .ok (.aload_n 0, 1) := dk_42 (dk_at dksJ1_listFromTrustedArray_4 23 rfl rfl)
theorem dJ1_listFromTrustedArray_104 : decode cJ1_listFromTrustedArray 104 = .ok (.iconst 0, 1) := dk_3 (dk_at dksJ1_listFromTrustedArray_5 0 rfl rfl)
theorem dJ1_listFromTrustedArray_105 : decode cJ1_listFromTrustedArray 105 = .ok (.aaload, 1) := dk_50 (dk_at dksJ1_listFromTrustedArray_5 1 rfl rfl)
theorem dJ1_listFromTrustedArray_106 : decode cJ1_listFromTrustedArray 106 = .ok (.aload_n 0, 1) := dk_42 (dk_at dksJ1_listFromTrustedArray_5 2 rfl rfl)
theorem dJ1_listFromTrustedArray_107 : decode cJ1_listFromTrustedArray 107 = .ok (.iconst 1, 1) := dk_4 (dk_at dksJ1_listFromTrustedArray_5 3 rfl rfl)
theorem dJ1_listFromTrustedArray_108 : decode cJ1_listFromTrustedArray 108 = .ok (.aaload, 1) := dk_50 (dk_at dksJ1_listFromTrustedArray_5 4 rfl rfl)
theorem dJ1_listFromTrustedArray_109 : decode cJ1_listFromTrustedArray 109 = .ok (.invokespecial 67, 3) := dk_183 0 67 (dk_at dksJ1_listFromTrustedArray_5 5 rfl rfl)
theorem dJ1_listFromTrustedArray_112 : decode cJ1_listFromTrustedArray 112 = .ok (.goto 12, 3) := dk_167 0 12 (dk_at dksJ1_listFromTrustedArray_5 8 rfl rfl)
theorem dJ1_listFromTrustedArray_115 : decode cJ1_listFromTrustedArray 115 = .ok (.new 12, 3) := dk_187 0 12 (dk_at dksJ1_listFromTrustedArray_5 11 rfl rfl)
theorem dJ1_listFromTrustedArray_118 : decode cJ1_listFromTrustedArray 118 = .ok (.dup, 1) := dk_89 (dk_at dksJ1_listFromTrustedArray_5 14 rfl rfl)
theorem dJ1_listFromTrustedArray_119 : decode cJ1_listFromTrustedArray 119 = .ok (.aload_n 0, 1) := dk_42 (dk_at dksJ1_listFromTrustedArray_5 15 rfl rfl)
theorem dJ1_listFromTrustedArray_120 : decode cJ1_listFromTrustedArray 120 = .ok (.iconst 0, 1) := dk_3 (dk_at dksJ1_listFromTrustedArray_5 16 rfl rfl)
theorem dJ1_listFromTrustedArray_121 : decode cJ1_listFromTrustedArray 121 = .ok (.invokespecial 43, 3) := dk_183 0 43 (dk_at dksJ1_listFromTrustedArray_5 17 rfl rfl)
theorem dJ1_listFromTrustedArray_124 : decode cJ1_listFromTrustedArray 124 = .ok (.areturn, 1) := dk_176 (dk_at dksJ1_listFromTrustedArray_5 20 rfl rfl)
theorem q120 : (Jvm.Cond.initialized "java/util/ImmutableCollections") ∈ lw_all := lw_g (lw_at lw_m1 7 rfl) rfl
theorem q208 : (Jvm.Cond.static ({ cls := "java/util/ImmutableCollections", name := "listFromTrustedArray", desc := "([Ljava/lang/Object;)Ljava/util/List;" } : Jvm.MethodName)) ∈ lw_all := lw_g (lw_at lw_m1 95 rfl) rfl
theorem q209 : (Jvm.Cond.code ({ cls := "java/util/ImmutableCollections", name := "listFromTrustedArray", desc := "([Ljava/lang/Object;)Ljava/util/List;" } : Jvm.MethodName) prog_56_method_5_code (5 : Nat) (Option.some (Jvm.ClassFile.FieldType.object "java/util/List"))) ∈ lw_all := lw_g (lw_at lw_m1 96 rfl) rfl
theorem q210 : (Jvm.Cond.fieldLink "java/util/ImmutableCollections" (46 : Nat) "java/util/ImmutableCollections" "$assertionsDisabled" "Z") ∈ lw_all := lw_g (lw_at lw_m1 97 rfl) rfl
theorem q211 : (Jvm.Cond.laysStatic "java/util/ImmutableCollections" "$assertionsDisabled" "Z") ∈ lw_tbl := lw_at lw_m1 98 rfl
theorem q212 : (Jvm.Cond.methodLink "java/util/ImmutableCollections" (51 : Nat) ({ cls := "java/lang/Object", name := "getClass", desc := "()Ljava/lang/Class;" } : Jvm.MethodName)) ∈ lw_all := lw_g (lw_at lw_m1 99 rfl) rfl
theorem q249 : (Jvm.Cond.classLink "java/util/ImmutableCollections" (55 : Nat) "[Ljava/lang/Object;") ∈ lw_all := lw_g (lw_at lw_m1 136 rfl) rfl
theorem q250 : (Jvm.Cond.methodLink "java/util/ImmutableCollections" (37 : Nat) ({ cls := "java/util/Objects", name := "requireNonNull", desc := "(Ljava/lang/Object;)Ljava/lang/Object;" } : Jvm.MethodName)) ∈ lw_all := lw_g (lw_at lw_m1 137 rfl) rfl
theorem q253 : (Jvm.Cond.fieldLink "java/util/ImmutableCollections" (60 : Nat) "java/util/ImmutableCollections" "EMPTY_LIST" "Ljava/util/ImmutableCollections$ListN;") ∈ lw_all := lw_g (lw_at lw_m1 140 rfl) rfl
theorem q254 : (Jvm.Cond.laysStatic "java/util/ImmutableCollections" "EMPTY_LIST" "Ljava/util/ImmutableCollections$ListN;") ∈ lw_tbl := lw_at lw_m1 141 rfl
theorem q255 : (Jvm.Cond.classLink "java/util/ImmutableCollections" (10 : Nat) "java/util/ImmutableCollections$List12") ∈ lw_all := lw_g (lw_at lw_m1 142 rfl) rfl
theorem q257 : (Jvm.Cond.methodLink "java/util/ImmutableCollections" (64 : Nat) ({ cls := "java/util/ImmutableCollections$List12", name := "<init>", desc := "(Ljava/lang/Object;)V" } : Jvm.MethodName)) ∈ lw_all := lw_g (lw_at lw_m1 144 rfl) rfl
theorem q272 : (Jvm.Cond.laysStatic "java/util/ImmutableCollections" "EMPTY" "Ljava/lang/Object;") ∈ lw_tbl := lw_at lw_m1 159 rfl
theorem q280 : (Jvm.Cond.methodLink "java/util/ImmutableCollections" (67 : Nat) ({ cls := "java/util/ImmutableCollections$List12", name := "<init>", desc := "(Ljava/lang/Object;Ljava/lang/Object;)V" } : Jvm.MethodName)) ∈ lw_all := lw_g (lw_at lw_m1 167 rfl) rfl
theorem q283 : (Jvm.Cond.classLink "java/util/ImmutableCollections" (12 : Nat) "java/util/ImmutableCollections$ListN") ∈ lw_all := lw_g (lw_at lw_m1 170 rfl) rfl
theorem q285 : (Jvm.Cond.methodLinkNest "java/util/ImmutableCollections" (43 : Nat) ({ cls := "java/util/ImmutableCollections$ListN", name := "<init>", desc := "([Ljava/lang/Object;Z)V" } : Jvm.MethodName) "java/util/ImmutableCollections") ∈ lw_tbl := lw_at lw_m1 172 rfl

/-! java/util/Objects -/
set_option maxRecDepth 100000
def RJ2 : String := "java/util/Objects"
abbrev cJ2_requireNonNull : ByteArray := prog_69_method_10_code
def yJ2_requireNonNull : MethodName := ⟨RJ2, "requireNonNull", "(Ljava/lang/Object;)Ljava/lang/Object;"⟩
def dkwJ2_requireNonNull_0 : List UInt8 := [42, 199, 0, 11, 187, 0, 84, 89, 183, 0, 86, 191, 42, 176]
abbrev dktJ2_requireNonNull_0 : List UInt8 := dkwJ2_requireNonNull_0 ++ []
theorem dksJ2_requireNonNull_0 : cJ2_requireNonNull.data.toList.drop 0 = dktJ2_requireNonNull_0 := by decide +kernel
theorem dJ2_requireNonNull_0 : decode cJ2_requireNonNull 0 = .ok (.aload_n 0, 1) := dk_42 (dk_at dksJ2_requireNonNull_0 0 rfl rfl)
theorem dJ2_requireNonNull_1 : decode cJ2_requireNonNull 1 = .ok (.ifnonnull 11, 3) := dk_199 0 11 (dk_at dksJ2_requireNonNull_0 1 rfl rfl)
theorem dJ2_requireNonNull_4 : decode cJ2_requireNonNull 4 = .ok (.new 84, 3) := dk_187 0 84 (dk_at dksJ2_requireNonNull_0 4 rfl rfl)
theorem dJ2_requireNonNull_7 : decode cJ2_requireNonNull 7 = .ok (.dup, 1) := dk_89 (dk_at dksJ2_requireNonNull_0 7 rfl rfl)
theorem dJ2_requireNonNull_8 : decode cJ2_requireNonNull 8 = .ok (.invokespecial 86, 3) := dk_183 0 86 (dk_at dksJ2_requireNonNull_0 8 rfl rfl)
theorem dJ2_requireNonNull_11 : decode cJ2_requireNonNull 11 = .ok (.athrow, 1) := dk_191 (dk_at dksJ2_requireNonNull_0 11 rfl rfl)
theorem dJ2_requireNonNull_12 : decode cJ2_requireNonNull 12 = .ok (.aload_n 0, 1) := dk_42 (dk_at dksJ2_requireNonNull_0 12 rfl rfl)
theorem dJ2_requireNonNull_13 : decode cJ2_requireNonNull 13 = .ok (.areturn, 1) := dk_176 (dk_at dksJ2_requireNonNull_0 13 rfl rfl)
theorem q121 : (Jvm.Cond.initialized "java/util/Objects") ∈ lw_all := lw_g (lw_at lw_m1 8 rfl) rfl
theorem q251 : (Jvm.Cond.static ({ cls := "java/util/Objects", name := "requireNonNull", desc := "(Ljava/lang/Object;)Ljava/lang/Object;" } : Jvm.MethodName)) ∈ lw_all := lw_g (lw_at lw_m1 138 rfl) rfl
theorem q252 : (Jvm.Cond.code ({ cls := "java/util/Objects", name := "requireNonNull", desc := "(Ljava/lang/Object;)Ljava/lang/Object;" } : Jvm.MethodName) prog_69_method_10_code (1 : Nat) (Option.some (Jvm.ClassFile.FieldType.object "java/lang/Object"))) ∈ lw_all := lw_g (lw_at lw_m1 139 rfl) rfl

/-! java/util/AbstractCollection -/
set_option maxRecDepth 100000
def RJ3 : String := "java/util/AbstractCollection"
abbrev cJ3_init : ByteArray := prog_44_method_1_code
def yJ3_init : MethodName := ⟨RJ3, "<init>", "()V"⟩
theorem dJ3_init_0 : decode cJ3_init 0 = .ok (.aload_n 0, 1) := by decide +kernel
theorem dJ3_init_1 : decode cJ3_init 1 = .ok (.invokespecial 1, 3) := by decide +kernel
theorem dJ3_init_4 : decode cJ3_init 4 = .ok (.return_, 1) := by decide +kernel
theorem q122 : (Jvm.Cond.initialized "java/util/AbstractCollection") ∈ lw_all := lw_g (lw_at lw_m1 9 rfl) rfl
theorem q267 : (Jvm.Cond.instanceMethod ({ cls := "java/util/AbstractCollection", name := "<init>", desc := "()V" } : Jvm.MethodName)) ∈ lw_all := lw_g (lw_at lw_m1 154 rfl) rfl
theorem q268 : (Jvm.Cond.code ({ cls := "java/util/AbstractCollection", name := "<init>", desc := "()V" } : Jvm.MethodName) prog_44_method_1_code (1 : Nat) (Option.none : Option Jvm.ClassFile.FieldType)) ∈ lw_all := lw_g (lw_at lw_m1 155 rfl) rfl
theorem q269 : (Jvm.Cond.methodLink "java/util/AbstractCollection" (1 : Nat) ({ cls := "java/lang/Object", name := "<init>", desc := "()V" } : Jvm.MethodName)) ∈ lw_all := lw_g (lw_at lw_m1 156 rfl) rfl
theorem q962 : (Jvm.Cond.declares ({ cls := "java/util/AbstractCollection", name := "size", desc := "()I" } : Jvm.MethodName)) ∈ lw_tbl := lw_at lw_m4 129 rfl

/-! java/util/ImmutableCollections$AbstractImmutableCollection -/
set_option maxRecDepth 100000
def RJ4 : String := "java/util/ImmutableCollections$AbstractImmutableCollection"
abbrev cJ4_init : ByteArray := prog_57_method_1_code
def yJ4_init : MethodName := ⟨RJ4, "<init>", "()V"⟩
theorem dJ4_init_0 : decode cJ4_init 0 = .ok (.aload_n 0, 1) := by decide +kernel
theorem dJ4_init_1 : decode cJ4_init 1 = .ok (.invokespecial 1, 3) := by decide +kernel
theorem dJ4_init_4 : decode cJ4_init 4 = .ok (.return_, 1) := by decide +kernel
theorem q123 : (Jvm.Cond.initialized "java/util/ImmutableCollections$AbstractImmutableCollection") ∈ lw_all := lw_g (lw_at lw_m1 10 rfl) rfl
theorem q264 : (Jvm.Cond.instanceMethod ({ cls := "java/util/ImmutableCollections$AbstractImmutableCollection", name := "<init>", desc := "()V" } : Jvm.MethodName)) ∈ lw_all := lw_g (lw_at lw_m1 151 rfl) rfl
theorem q265 : (Jvm.Cond.code ({ cls := "java/util/ImmutableCollections$AbstractImmutableCollection", name := "<init>", desc := "()V" } : Jvm.MethodName) prog_57_method_1_code (1 : Nat) (Option.none : Option Jvm.ClassFile.FieldType)) ∈ lw_all := lw_g (lw_at lw_m1 152 rfl) rfl
theorem q266 : (Jvm.Cond.methodLink "java/util/ImmutableCollections$AbstractImmutableCollection" (1 : Nat) ({ cls := "java/util/AbstractCollection", name := "<init>", desc := "()V" } : Jvm.MethodName)) ∈ lw_all := lw_g (lw_at lw_m1 153 rfl) rfl

/-! java/util/ImmutableCollections$AbstractImmutableList -/
set_option maxRecDepth 100000
def RJ5 : String := "java/util/ImmutableCollections$AbstractImmutableList"
abbrev cJ5_init : ByteArray := prog_58_method_1_code
def yJ5_init : MethodName := ⟨RJ5, "<init>", "()V"⟩
theorem dJ5_init_0 : decode cJ5_init 0 = .ok (.aload_n 0, 1) := by decide +kernel
theorem dJ5_init_1 : decode cJ5_init 1 = .ok (.invokespecial 1, 3) := by decide +kernel
theorem dJ5_init_4 : decode cJ5_init 4 = .ok (.return_, 1) := by decide +kernel
abbrev cJ5_outOfBounds : ByteArray := prog_58_method_17_code
def yJ5_outOfBounds : MethodName := ⟨RJ5, "outOfBounds", "(I)Ljava/lang/IndexOutOfBoundsException;"⟩
def dkwJ5_outOfBounds_1 : List UInt8 := [182, 0, 36, 42, 182, 0, 13, 182, 0, 40, 182, 0, 43, 183, 0, 47, 176]
abbrev dktJ5_outOfBounds_1 : List UInt8 := dkwJ5_outOfBounds_1 ++ []
def dkwJ5_outOfBounds_0 : List UInt8 := [187, 0, 29, 89, 187, 0, 31, 89, 183, 0, 33, 18, 116, 182, 0, 36, 27, 182, 0, 40, 18, 118]
abbrev dktJ5_outOfBounds_0 : List UInt8 := dkwJ5_outOfBounds_0 ++ dktJ5_outOfBounds_1
theorem dksJ5_outOfBounds_0 : cJ5_outOfBounds.data.toList.drop 0 = dktJ5_outOfBounds_0 := by decide +kernel
theorem dksJ5_outOfBounds_1 : cJ5_outOfBounds.data.toList.drop 22 = dktJ5_outOfBounds_1 := dk_seg dksJ5_outOfBounds_0 22 rfl rfl
theorem dJ5_outOfBounds_0 : decode cJ5_outOfBounds 0 = .ok (.new 29, 3) := dk_187 0 29 (dk_at dksJ5_outOfBounds_0 0 rfl rfl)
theorem dJ5_outOfBounds_3 : decode cJ5_outOfBounds 3 = .ok (.dup, 1) := dk_89 (dk_at dksJ5_outOfBounds_0 3 rfl rfl)
theorem dJ5_outOfBounds_4 : decode cJ5_outOfBounds 4 = .ok (.new 31, 3) := dk_187 0 31 (dk_at dksJ5_outOfBounds_0 4 rfl rfl)
theorem dJ5_outOfBounds_7 : decode cJ5_outOfBounds 7 = .ok (.dup, 1) := dk_89 (dk_at dksJ5_outOfBounds_0 7 rfl rfl)
theorem dJ5_outOfBounds_8 : decode cJ5_outOfBounds 8 = .ok (.invokespecial 33, 3) := dk_183 0 33 (dk_at dksJ5_outOfBounds_0 8 rfl rfl)
theorem dJ5_outOfBounds_11 : decode cJ5_outOfBounds 11 = .ok (.ldc 116, 2) := dk_18 116 (dk_at dksJ5_outOfBounds_0 11 rfl rfl)
theorem dJ5_outOfBounds_13 : decode cJ5_outOfBounds 13 = .ok (.invokevirtual 36, 3) := dk_182 0 36 (dk_at dksJ5_outOfBounds_0 13 rfl rfl)
theorem dJ5_outOfBounds_16 : decode cJ5_outOfBounds 16 = .ok (.iload_n 1, 1) := dk_27 (dk_at dksJ5_outOfBounds_0 16 rfl rfl)
theorem dJ5_outOfBounds_17 : decode cJ5_outOfBounds 17 = .ok (.invokevirtual 40, 3) := dk_182 0 40 (dk_at dksJ5_outOfBounds_0 17 rfl rfl)
theorem dJ5_outOfBounds_20 : decode cJ5_outOfBounds 20 = .ok (.ldc 118, 2) := dk_18 118 (dk_at dksJ5_outOfBounds_0 20 rfl rfl)
theorem dJ5_outOfBounds_22 : decode cJ5_outOfBounds 22 = .ok (.invokevirtual 36, 3) := dk_182 0 36 (dk_at dksJ5_outOfBounds_1 0 rfl rfl)
theorem dJ5_outOfBounds_25 : decode cJ5_outOfBounds 25 = .ok (.aload_n 0, 1) := dk_42 (dk_at dksJ5_outOfBounds_1 3 rfl rfl)
theorem dJ5_outOfBounds_26 : decode cJ5_outOfBounds 26 = .ok (.invokevirtual 13, 3) := dk_182 0 13 (dk_at dksJ5_outOfBounds_1 4 rfl rfl)
theorem dJ5_outOfBounds_29 : decode cJ5_outOfBounds 29 = .ok (.invokevirtual 40, 3) := dk_182 0 40 (dk_at dksJ5_outOfBounds_1 7 rfl rfl)
theorem dJ5_outOfBounds_32 : decode cJ5_outOfBounds 32 = .ok (.invokevirtual 43, 3) := dk_182 0 43 (dk_at dksJ5_outOfBounds_1 10 rfl rfl)
theorem dJ5_outOfBounds_35 : decode cJ5_outOfBounds 35 = .ok (.invokespecial 47, 3) := dk_183 0 47 (dk_at dksJ5_outOfBounds_1 13 rfl rfl)
theorem dJ5_outOfBounds_38 : decode cJ5_outOfBounds 38 = .ok (.areturn, 1) := dk_176 (dk_at dksJ5_outOfBounds_1 16 rfl rfl)
abbrev cJ5_iterator : ByteArray := prog_58_method_10_code
def yJ5_iterator : MethodName := ⟨RJ5, "iterator", "()Ljava/util/Iterator;"⟩
def dkwJ5_iterator_0 : List UInt8 := [187, 0, 61, 89, 42, 42, 182, 0, 13, 183, 0, 63, 176]
abbrev dktJ5_iterator_0 : List UInt8 := dkwJ5_iterator_0 ++ []
theorem dksJ5_iterator_0 : cJ5_iterator.data.toList.drop 0 = dktJ5_iterator_0 := by decide +kernel
theorem dJ5_iterator_0 : decode cJ5_iterator 0 = .ok (.new 61, 3) := dk_187 0 61 (dk_at dksJ5_iterator_0 0 rfl rfl)
theorem dJ5_iterator_3 : decode cJ5_iterator 3 = .ok (.dup, 1) := dk_89 (dk_at dksJ5_iterator_0 3 rfl rfl)
theorem dJ5_iterator_4 : decode cJ5_iterator 4 = .ok (.aload_n 0, 1) := dk_42 (dk_at dksJ5_iterator_0 4 rfl rfl)
theorem dJ5_iterator_5 : decode cJ5_iterator 5 = .ok (.aload_n 0, 1) := dk_42 (dk_at dksJ5_iterator_0 5 rfl rfl)
theorem dJ5_iterator_6 : decode cJ5_iterator 6 = .ok (.invokevirtual 13, 3) := dk_182 0 13 (dk_at dksJ5_iterator_0 6 rfl rfl)
theorem dJ5_iterator_9 : decode cJ5_iterator 9 = .ok (.invokespecial 63, 3) := dk_183 0 63 (dk_at dksJ5_iterator_0 9 rfl rfl)
theorem dJ5_iterator_12 : decode cJ5_iterator 12 = .ok (.areturn, 1) := dk_176 (dk_at dksJ5_iterator_0 12 rfl rfl)
theorem q124 : (Jvm.Cond.initialized "java/util/ImmutableCollections$AbstractImmutableList") ∈ lw_all := lw_g (lw_at lw_m1 11 rfl) rfl
theorem q261 : (Jvm.Cond.instanceMethod ({ cls := "java/util/ImmutableCollections$AbstractImmutableList", name := "<init>", desc := "()V" } : Jvm.MethodName)) ∈ lw_all := lw_g (lw_at lw_m1 148 rfl) rfl
theorem q262 : (Jvm.Cond.code ({ cls := "java/util/ImmutableCollections$AbstractImmutableList", name := "<init>", desc := "()V" } : Jvm.MethodName) prog_58_method_1_code (1 : Nat) (Option.none : Option Jvm.ClassFile.FieldType)) ∈ lw_all := lw_g (lw_at lw_m1 149 rfl) rfl
theorem q263 : (Jvm.Cond.methodLink "java/util/ImmutableCollections$AbstractImmutableList" (1 : Nat) ({ cls := "java/util/ImmutableCollections$AbstractImmutableCollection", name := "<init>", desc := "()V" } : Jvm.MethodName)) ∈ lw_all := lw_g (lw_at lw_m1 150 rfl) rfl
theorem q869 : (Jvm.Cond.declares ({ cls := "java/util/ImmutableCollections$AbstractImmutableList", name := "outOfBounds", desc := "(I)Ljava/lang/IndexOutOfBoundsException;" } : Jvm.MethodName)) ∈ lw_tbl := lw_at lw_m4 36 rfl
theorem q871 : (Jvm.Cond.instanceMethod ({ cls := "java/util/ImmutableCollections$AbstractImmutableList", name := "outOfBounds", desc := "(I)Ljava/lang/IndexOutOfBoundsException;" } : Jvm.MethodName)) ∈ lw_all := lw_g (lw_at lw_m4 38 rfl) rfl
theorem q872 : (Jvm.Cond.code ({ cls := "java/util/ImmutableCollections$AbstractImmutableList", name := "outOfBounds", desc := "(I)Ljava/lang/IndexOutOfBoundsException;" } : Jvm.MethodName) prog_58_method_17_code (2 : Nat) (Option.some (Jvm.ClassFile.FieldType.object "java/lang/IndexOutOfBoundsException"))) ∈ lw_all := lw_g (lw_at lw_m4 39 rfl) rfl
theorem q873 : (Jvm.Cond.classLink "java/util/ImmutableCollections$AbstractImmutableList" (29 : Nat) "java/lang/IndexOutOfBoundsException") ∈ lw_all := lw_g (lw_at lw_m4 40 rfl) rfl
theorem q882 : (Jvm.Cond.classLink "java/util/ImmutableCollections$AbstractImmutableList" (31 : Nat) "java/lang/StringBuilder") ∈ lw_all := lw_g (lw_at lw_m4 49 rfl) rfl
theorem q883 : (Jvm.Cond.methodLink "java/util/ImmutableCollections$AbstractImmutableList" (33 : Nat) ({ cls := "java/lang/StringBuilder", name := "<init>", desc := "()V" } : Jvm.MethodName)) ∈ lw_all := lw_g (lw_at lw_m4 50 rfl) rfl
theorem q886 : (Jvm.Cond.stringRef "java/util/ImmutableCollections$AbstractImmutableList" (116 : Nat) "Index: ") ∈ lw_tbl := lw_at lw_m4 53 rfl
theorem q887 : (Jvm.Cond.methodLink "java/util/ImmutableCollections$AbstractImmutableList" (36 : Nat) ({ cls := "java/lang/StringBuilder", name := "append", desc := "(Ljava/lang/String;)Ljava/lang/StringBuilder;" } : Jvm.MethodName)) ∈ lw_all := lw_g (lw_at lw_m4 54 rfl) rfl
theorem q934 : (Jvm.Cond.methodLink "java/util/ImmutableCollections$AbstractImmutableList" (40 : Nat) ({ cls := "java/lang/StringBuilder", name := "append", desc := "(I)Ljava/lang/StringBuilder;" } : Jvm.MethodName)) ∈ lw_all := lw_g (lw_at lw_m4 101 rfl) rfl
theorem q959 : (Jvm.Cond.stringRef "java/util/ImmutableCollections$AbstractImmutableList" (118 : Nat) " Size: ") ∈ lw_tbl := lw_at lw_m4 126 rfl
theorem q960 : (Jvm.Cond.methodLink "java/util/ImmutableCollections$AbstractImmutableList" (13 : Nat) ({ cls := "java/util/ImmutableCollections$AbstractImmutableList", name := "size", desc := "()I" } : Jvm.MethodName)) ∈ lw_all := lw_g (lw_at lw_m4 127 rfl) rfl
theorem q961 : (Jvm.Cond.sameMethod "java/util/ImmutableCollections$AbstractImmutableList" "java/util/AbstractCollection" "size" "()I") ∈ lw_all := lw_g (lw_at lw_m4 128 rfl) rfl
theorem q969 : (Jvm.Cond.methodLink "java/util/ImmutableCollections$AbstractImmutableList" (43 : Nat) ({ cls := "java/lang/StringBuilder", name := "toString", desc := "()Ljava/lang/String;" } : Jvm.MethodName)) ∈ lw_all := lw_g (lw_at lw_m4 136 rfl) rfl
theorem q1043 : (Jvm.Cond.methodLink "java/util/ImmutableCollections$AbstractImmutableList" (47 : Nat) ({ cls := "java/lang/IndexOutOfBoundsException", name := "<init>", desc := "(Ljava/lang/String;)V" } : Jvm.MethodName)) ∈ lw_all := lw_g (lw_at lw_m4 210 rfl) rfl
theorem q1365 : (Jvm.Cond.instanceMethod ({ cls := "java/util/ImmutableCollections$AbstractImmutableList", name := "iterator", desc := "()Ljava/util/Iterator;" } : Jvm.MethodName)) ∈ lw_all := lw_g (lw_at lw_m6 52 rfl) rfl
theorem q1366 : (Jvm.Cond.publicMethod ({ cls := "java/util/ImmutableCollections$AbstractImmutableList", name := "iterator", desc := "()Ljava/util/Iterator;" } : Jvm.MethodName)) ∈ lw_tbl := lw_at lw_m6 53 rfl
theorem q1367 : (Jvm.Cond.code ({ cls := "java/util/ImmutableCollections$AbstractImmutableList", name := "iterator", desc := "()Ljava/util/Iterator;" } : Jvm.MethodName) prog_58_method_10_code (1 : Nat) (Option.some (Jvm.ClassFile.FieldType.object "java/util/Iterator"))) ∈ lw_all := lw_g (lw_at lw_m6 54 rfl) rfl
theorem q1368 : (Jvm.Cond.classLink "java/util/ImmutableCollections$AbstractImmutableList" (61 : Nat) "java/util/ImmutableCollections$ListItr") ∈ lw_all := lw_g (lw_at lw_m6 55 rfl) rfl
theorem q1370 : (Jvm.Cond.methodLink "java/util/ImmutableCollections$AbstractImmutableList" (63 : Nat) ({ cls := "java/util/ImmutableCollections$ListItr", name := "<init>", desc := "(Ljava/util/List;I)V" } : Jvm.MethodName)) ∈ lw_all := lw_g (lw_at lw_m6 57 rfl) rfl

/-! java/util/ImmutableCollections$List12 -/
set_option maxRecDepth 100000
def RJ6 : String := "java/util/ImmutableCollections$List12"
def TJ6 : u_T := fun k => match k with
  | 0 => ("java/util/ImmutableCollections$List12", "e0", "Ljava/lang/Object;", true)
  | _ => ("java/util/ImmutableCollections$List12", "e1", "Ljava/lang/Object;", true)
def tyJ6 : Nat → FieldType := fun k => match k with
  | 0 => .object "java/lang/Object"
  | _ => .object "java/lang/Object"
abbrev wsJ60 : List Cond := u_ws RJ6 TJ6 2
theorem nmJ6 : ∀ a, a < 2 → ∀ b, b < 2 → a ≠ b → (TJ6 a).2.1 ≠ (TJ6 b).2.1 := by decide +kernel
theorem tyJ6_ok : ∀ k, k < 2 → parseFieldDescriptor (TJ6 k).2.2.1 = some (tyJ6 k) := by decide +kernel
abbrev cJ6_init : ByteArray := prog_59_method_1_code
def yJ6_init : MethodName := ⟨RJ6, "<init>", "(Ljava/lang/Object;)V"⟩
def dkwJ6_init_0 : List UInt8 := [42, 183, 0, 1, 42, 43, 184, 0, 7, 181, 0, 13, 42, 178, 0, 19, 181, 0, 24, 177]
abbrev dktJ6_init_0 : List UInt8 := dkwJ6_init_0 ++ []
theorem dksJ6_init_0 : cJ6_init.data.toList.drop 0 = dktJ6_init_0 := by decide +kernel
theorem dJ6_init_0 : decode cJ6_init 0 = .ok (.aload_n 0, 1) := dk_42 (dk_at dksJ6_init_0 0 rfl rfl)
theorem dJ6_init_1 : decode cJ6_init 1 = .ok (.invokespecial 1, 3) := dk_183 0 1 (dk_at dksJ6_init_0 1 rfl rfl)
theorem dJ6_init_4 : decode cJ6_init 4 = .ok (.aload_n 0, 1) := dk_42 (dk_at dksJ6_init_0 4 rfl rfl)
theorem dJ6_init_5 : decode cJ6_init 5 = .ok (.aload_n 1, 1) := dk_43 (dk_at dksJ6_init_0 5 rfl rfl)
theorem dJ6_init_6 : decode cJ6_init 6 = .ok (.invokestatic 7, 3) := dk_184 0 7 (dk_at dksJ6_init_0 6 rfl rfl)
theorem dJ6_init_9 : decode cJ6_init 9 = .ok (.putfield 13, 3) := dk_181 0 13 (dk_at dksJ6_init_0 9 rfl rfl)
theorem dJ6_init_12 : decode cJ6_init 12 = .ok (.aload_n 0, 1) := dk_42 (dk_at dksJ6_init_0 12 rfl rfl)
theorem dJ6_init_13 : decode cJ6_init 13 = .ok (.getstatic 19, 3) := dk_178 0 19 (dk_at dksJ6_init_0 13 rfl rfl)
theorem dJ6_init_16 : decode cJ6_init 16 = .ok (.putfield 24, 3) := dk_181 0 24 (dk_at dksJ6_init_0 16 rfl rfl)
theorem dJ6_init_19 : decode cJ6_init 19 = .ok (.return_, 1) := dk_177 (dk_at dksJ6_init_0 19 rfl rfl)
abbrev cJ6_init_2 : ByteArray := prog_59_method_2_code
def yJ6_init_2 : MethodName := ⟨RJ6, "<init>", "(Ljava/lang/Object;Ljava/lang/Object;)V"⟩
def dkwJ6_init_2_0 : List UInt8 := [42, 183, 0, 1, 42, 43, 184, 0, 7, 181, 0, 13, 42, 44, 184, 0, 7, 181, 0, 24, 177]
abbrev dktJ6_init_2_0 : List UInt8 := dkwJ6_init_2_0 ++ []
theorem dksJ6_init_2_0 : cJ6_init_2.data.toList.drop 0 = dktJ6_init_2_0 := by decide +kernel
theorem dJ6_init_2_0 : decode cJ6_init_2 0 = .ok (.aload_n 0, 1) := dk_42 (dk_at dksJ6_init_2_0 0 rfl rfl)
theorem dJ6_init_2_1 : decode cJ6_init_2 1 = .ok (.invokespecial 1, 3) := dk_183 0 1 (dk_at dksJ6_init_2_0 1 rfl rfl)
theorem dJ6_init_2_4 : decode cJ6_init_2 4 = .ok (.aload_n 0, 1) := dk_42 (dk_at dksJ6_init_2_0 4 rfl rfl)
theorem dJ6_init_2_5 : decode cJ6_init_2 5 = .ok (.aload_n 1, 1) := dk_43 (dk_at dksJ6_init_2_0 5 rfl rfl)
theorem dJ6_init_2_6 : decode cJ6_init_2 6 = .ok (.invokestatic 7, 3) := dk_184 0 7 (dk_at dksJ6_init_2_0 6 rfl rfl)
theorem dJ6_init_2_9 : decode cJ6_init_2 9 = .ok (.putfield 13, 3) := dk_181 0 13 (dk_at dksJ6_init_2_0 9 rfl rfl)
theorem dJ6_init_2_12 : decode cJ6_init_2 12 = .ok (.aload_n 0, 1) := dk_42 (dk_at dksJ6_init_2_0 12 rfl rfl)
theorem dJ6_init_2_13 : decode cJ6_init_2 13 = .ok (.aload_n 2, 1) := dk_44 (dk_at dksJ6_init_2_0 13 rfl rfl)
theorem dJ6_init_2_14 : decode cJ6_init_2 14 = .ok (.invokestatic 7, 3) := dk_184 0 7 (dk_at dksJ6_init_2_0 14 rfl rfl)
theorem dJ6_init_2_17 : decode cJ6_init_2 17 = .ok (.putfield 24, 3) := dk_181 0 24 (dk_at dksJ6_init_2_0 17 rfl rfl)
theorem dJ6_init_2_20 : decode cJ6_init_2 20 = .ok (.return_, 1) := dk_177 (dk_at dksJ6_init_2_0 20 rfl rfl)
abbrev cJ6_get : ByteArray := prog_59_method_5_code
def yJ6_get : MethodName := ⟨RJ6, "get", "(I)Ljava/lang/Object;"⟩
def dkwJ6_get_1 : List UInt8 := [42, 180, 0, 24, 176, 42, 27, 182, 0, 27, 191]
abbrev dktJ6_get_1 : List UInt8 := dkwJ6_get_1 ++ []
def dkwJ6_get_0 : List UInt8 := [27, 154, 0, 8, 42, 180, 0, 13, 176, 27, 4, 160, 0, 18, 42, 180, 0, 24, 178, 0, 19, 165, 0, 8]
abbrev dktJ6_get_0 : List UInt8 := dkwJ6_get_0 ++ dktJ6_get_1
theorem dksJ6_get_0 : cJ6_get.data.toList.drop 0 = dktJ6_get_0 := by decide +kernel
theorem dksJ6_get_1 : cJ6_get.data.toList.drop 24 = dktJ6_get_1 := dk_seg dksJ6_get_0 24 rfl rfl
theorem dJ6_get_0 : decode cJ6_get 0 = .ok (.iload_n 1, 1) := dk_27 (dk_at dksJ6_get_0 0 rfl rfl)
theorem dJ6_get_1 : decode cJ6_get 1 = .ok (.ifCond .ne 8, 3) := dk_154 0 8 (dk_at dksJ6_get_0 1 rfl rfl)
theorem dJ6_get_4 : decode cJ6_get 4 = .ok (.aload_n 0, 1) := dk_42 (dk_at dksJ6_get_0 4 rfl rfl)
theorem dJ6_get_5 : decode cJ6_get 5 = .ok (.getfield 13, 3) := dk_180 0 13 (dk_at dksJ6_get_0 5 rfl rfl)
theorem dJ6_get_8 : decode cJ6_get 8 = .ok (.areturn, 1) := dk_176 (dk_at dksJ6_get_0 8 rfl rfl)
theorem dJ6_get_9 : decode cJ6_get 9 = .ok (.iload_n 1, 1) := dk_27 (dk_at dksJ6_get_0 9 rfl rfl)
theorem dJ6_get_10 : decode cJ6_get 10 = .ok (.iconst 1, 1) := dk_4 (dk_at dksJ6_get_0 10 rfl rfl)
theorem dJ6_get_11 : decode cJ6_get 11 = .ok (.if_icmp .ne 18, 3) := dk_160 0 18 (dk_at dksJ6_get_0 11 rfl rfl)
theorem dJ6_get_14 : decode cJ6_get 14 = .ok (.aload_n 0, 1) := dk_42 (dk_at dksJ6_get_0 14 rfl rfl)
theorem dJ6_get_15 : decode cJ6_get 15 = .ok (.getfield 24, 3) := dk_180 0 24 (dk_at dksJ6_get_0 15 rfl rfl)
theorem dJ6_get_18 : decode cJ6_get 18 = .ok (.getstatic 19, 3) := dk_178 0 19 (dk_at dksJ6_get_0 18 rfl rfl)
theorem dJ6_get_21 : decode cJ6_get 21 = .ok (.if_acmp .eq 8, 3) := dk_165 0 8 (dk_at dksJ6_get_0 21 rfl rfl)
theorem dJ6_get_24 : decode cJ6_get 24 = .ok (.aload_n 0, 1) := dk_42 (dk_at dksJ6_get_1 0 rfl rfl)
theorem dJ6_get_25 : decode cJ6_get 25 = .ok (.getfield 24, 3) := dk_180 0 24 (dk_at dksJ6_get_1 1 rfl rfl)
theorem dJ6_get_28 : decode cJ6_get 28 = .ok (.areturn, 1) := dk_176 (dk_at dksJ6_get_1 4 rfl rfl)
theorem dJ6_get_29 : decode cJ6_get 29 = .ok (.aload_n 0, 1) := dk_42 (dk_at dksJ6_get_1 5 rfl rfl)
theorem dJ6_get_30 : decode cJ6_get 30 = .ok (.iload_n 1, 1) := dk_27 (dk_at dksJ6_get_1 6 rfl rfl)
theorem dJ6_get_31 : decode cJ6_get 31 = .ok (.invokevirtual 27, 3) := dk_182 0 27 (dk_at dksJ6_get_1 7 rfl rfl)
theorem dJ6_get_34 : decode cJ6_get 34 = .ok (.athrow, 1) := dk_191 (dk_at dksJ6_get_1 10 rfl rfl)
abbrev cJ6_size : ByteArray := prog_59_method_3_code
def yJ6_size : MethodName := ⟨RJ6, "size", "()I"⟩
def dkwJ6_size_0 : List UInt8 := [42, 180, 0, 24, 178, 0, 19, 165, 0, 7, 5, 167, 0, 4, 4, 172]
abbrev dktJ6_size_0 : List UInt8 := dkwJ6_size_0 ++ []
theorem dksJ6_size_0 : cJ6_size.data.toList.drop 0 = dktJ6_size_0 := by decide +kernel
theorem dJ6_size_0 : decode cJ6_size 0 = .ok (.aload_n 0, 1) := dk_42 (dk_at dksJ6_size_0 0 rfl rfl)
theorem dJ6_size_1 : decode cJ6_size 1 = .ok (.getfield 24, 3) := dk_180 0 24 (dk_at dksJ6_size_0 1 rfl rfl)
theorem dJ6_size_4 : decode cJ6_size 4 = .ok (.getstatic 19, 3) := dk_178 0 19 (dk_at dksJ6_size_0 4 rfl rfl)
theorem dJ6_size_7 : decode cJ6_size 7 = .ok (.if_acmp .eq 7, 3) := dk_165 0 7 (dk_at dksJ6_size_0 7 rfl rfl)
theorem dJ6_size_10 : decode cJ6_size 10 = .ok (.iconst 2, 1) := dk_5 (dk_at dksJ6_size_0 10 rfl rfl)
theorem dJ6_size_11 : decode cJ6_size 11 = .ok (.goto 4, 3) := dk_167 0 4 (dk_at dksJ6_size_0 11 rfl rfl)
theorem dJ6_size_14 : decode cJ6_size 14 = .ok (.iconst 1, 1) := dk_4 (dk_at dksJ6_size_0 14 rfl rfl)
theorem dJ6_size_15 : decode cJ6_size 15 = .ok (.ireturn, 1) := dk_172 (dk_at dksJ6_size_0 15 rfl rfl)
theorem q125 : (Jvm.Cond.initialized "java/util/ImmutableCollections$List12") ∈ lw_all := lw_g (lw_at lw_m1 12 rfl) rfl
theorem q241 : (Jvm.Cond.selects "java/util/ImmutableCollections$List12" ({ cls := "java/lang/Object", name := "getClass", desc := "()Ljava/lang/Class;" } : Jvm.MethodName) ({ cls := "java/lang/Object", name := "getClass", desc := "()Ljava/lang/Class;" } : Jvm.MethodName)) ∈ lw_all := lw_g (lw_at lw_m1 128 rfl) rfl
theorem q256 : (Jvm.Cond.instantiable "java/util/ImmutableCollections$List12" (2 : Nat)) ∈ lw_all := lw_g (lw_at lw_m1 143 rfl) rfl
theorem q258 : (Jvm.Cond.instanceMethod ({ cls := "java/util/ImmutableCollections$List12", name := "<init>", desc := "(Ljava/lang/Object;)V" } : Jvm.MethodName)) ∈ lw_all := lw_g (lw_at lw_m1 145 rfl) rfl
theorem q259 : (Jvm.Cond.code ({ cls := "java/util/ImmutableCollections$List12", name := "<init>", desc := "(Ljava/lang/Object;)V" } : Jvm.MethodName) prog_59_method_1_code (2 : Nat) (Option.none : Option Jvm.ClassFile.FieldType)) ∈ lw_all := lw_g (lw_at lw_m1 146 rfl) rfl
theorem q260 : (Jvm.Cond.methodLink "java/util/ImmutableCollections$List12" (1 : Nat) ({ cls := "java/util/ImmutableCollections$AbstractImmutableList", name := "<init>", desc := "()V" } : Jvm.MethodName)) ∈ lw_all := lw_g (lw_at lw_m1 147 rfl) rfl
theorem q270 : (Jvm.Cond.methodLink "java/util/ImmutableCollections$List12" (7 : Nat) ({ cls := "java/util/Objects", name := "requireNonNull", desc := "(Ljava/lang/Object;)Ljava/lang/Object;" } : Jvm.MethodName)) ∈ lw_all := lw_g (lw_at lw_m1 157 rfl) rfl
theorem q271 : (Jvm.Cond.fieldLinkNest "java/util/ImmutableCollections$List12" (19 : Nat) "java/util/ImmutableCollections" "EMPTY" "Ljava/lang/Object;" "java/util/ImmutableCollections") ∈ lw_tbl := lw_at lw_m1 158 rfl
theorem q273 : (Jvm.Cond.fieldLink "java/util/ImmutableCollections$List12" (13 : Nat) "java/util/ImmutableCollections$List12" "e0" "Ljava/lang/Object;") ∈ lw_all := lw_g (lw_at lw_m1 160 rfl) rfl
theorem q274 : (Jvm.Cond.fieldLink "java/util/ImmutableCollections$List12" (24 : Nat) "java/util/ImmutableCollections$List12" "e1" "Ljava/lang/Object;") ∈ lw_all := lw_g (lw_at lw_m1 161 rfl) rfl
theorem q275 : (Jvm.Cond.laysFinal "java/util/ImmutableCollections$List12" "java/util/ImmutableCollections$List12" "e0" "Ljava/lang/Object;") ∈ lw_all := lw_g (lw_at lw_m1 162 rfl) rfl
theorem q276 : (Jvm.Cond.soleField "java/util/ImmutableCollections$List12" "e0") ∈ lw_all := lw_g (lw_at lw_m1 163 rfl) rfl
theorem q277 : (Jvm.Cond.laysFinal "java/util/ImmutableCollections$List12" "java/util/ImmutableCollections$List12" "e1" "Ljava/lang/Object;") ∈ lw_all := lw_g (lw_at lw_m1 164 rfl) rfl
theorem q278 : (Jvm.Cond.soleField "java/util/ImmutableCollections$List12" "e1") ∈ lw_all := lw_g (lw_at lw_m1 165 rfl) rfl
theorem q279 : (Jvm.Cond.superclass "java/util/ImmutableCollections$List12" "java/util/ImmutableCollections$AbstractImmutableList") ∈ lw_all := lw_g (lw_at lw_m1 166 rfl) rfl
theorem q281 : (Jvm.Cond.instanceMethod ({ cls := "java/util/ImmutableCollections$List12", name := "<init>", desc := "(Ljava/lang/Object;Ljava/lang/Object;)V" } : Jvm.MethodName)) ∈ lw_all := lw_g (lw_at lw_m1 168 rfl) rfl
theorem q282 : (Jvm.Cond.code ({ cls := "java/util/ImmutableCollections$List12", name := "<init>", desc := "(Ljava/lang/Object;Ljava/lang/Object;)V" } : Jvm.MethodName) prog_59_method_2_code (3 : Nat) (Option.none : Option Jvm.ClassFile.FieldType)) ∈ lw_all := lw_g (lw_at lw_m1 169 rfl) rfl
theorem q861 : (Jvm.Cond.castable "java/util/ImmutableCollections$List12" "java/util/List") ∈ lw_tbl := lw_at lw_m4 28 rfl
theorem q862 : (Jvm.Cond.selects "java/util/ImmutableCollections$List12" ({ cls := "java/util/List", name := "get", desc := "(I)Ljava/lang/Object;" } : Jvm.MethodName) ({ cls := "java/util/ImmutableCollections$List12", name := "get", desc := "(I)Ljava/lang/Object;" } : Jvm.MethodName)) ∈ lw_all := lw_g (lw_at lw_m4 29 rfl) rfl
theorem q863 : (Jvm.Cond.unhidden "java/util/ImmutableCollections$List12" "get" "(I)Ljava/lang/Object;") ∈ lw_tbl := lw_at lw_m4 30 rfl
theorem q864 : (Jvm.Cond.instanceMethod ({ cls := "java/util/ImmutableCollections$List12", name := "get", desc := "(I)Ljava/lang/Object;" } : Jvm.MethodName)) ∈ lw_all := lw_g (lw_at lw_m4 31 rfl) rfl
theorem q865 : (Jvm.Cond.publicMethod ({ cls := "java/util/ImmutableCollections$List12", name := "get", desc := "(I)Ljava/lang/Object;" } : Jvm.MethodName)) ∈ lw_tbl := lw_at lw_m4 32 rfl
theorem q866 : (Jvm.Cond.code ({ cls := "java/util/ImmutableCollections$List12", name := "get", desc := "(I)Ljava/lang/Object;" } : Jvm.MethodName) prog_59_method_5_code (2 : Nat) (Option.some (Jvm.ClassFile.FieldType.object "java/lang/Object"))) ∈ lw_all := lw_g (lw_at lw_m4 33 rfl) rfl
theorem q867 : (Jvm.Cond.methodLink "java/util/ImmutableCollections$List12" (27 : Nat) ({ cls := "java/util/ImmutableCollections$List12", name := "outOfBounds", desc := "(I)Ljava/lang/IndexOutOfBoundsException;" } : Jvm.MethodName)) ∈ lw_all := lw_g (lw_at lw_m4 34 rfl) rfl
theorem q868 : (Jvm.Cond.sameMethod "java/util/ImmutableCollections$List12" "java/util/ImmutableCollections$AbstractImmutableList" "outOfBounds" "(I)Ljava/lang/IndexOutOfBoundsException;") ∈ lw_all := lw_g (lw_at lw_m4 35 rfl) rfl
theorem q870 : (Jvm.Cond.selects "java/util/ImmutableCollections$List12" ({ cls := "java/util/ImmutableCollections$List12", name := "outOfBounds", desc := "(I)Ljava/lang/IndexOutOfBoundsException;" } : Jvm.MethodName) ({ cls := "java/util/ImmutableCollections$AbstractImmutableList", name := "outOfBounds", desc := "(I)Ljava/lang/IndexOutOfBoundsException;" } : Jvm.MethodName)) ∈ lw_all := lw_g (lw_at lw_m4 37 rfl) rfl
theorem q963 : (Jvm.Cond.selects "java/util/ImmutableCollections$List12" ({ cls := "java/util/ImmutableCollections$AbstractImmutableList", name := "size", desc := "()I" } : Jvm.MethodName) ({ cls := "java/util/ImmutableCollections$List12", name := "size", desc := "()I" } : Jvm.MethodName)) ∈ lw_all := lw_g (lw_at lw_m4 130 rfl) rfl
theorem q964 : (Jvm.Cond.instanceMethod ({ cls := "java/util/ImmutableCollections$List12", name := "size", desc := "()I" } : Jvm.MethodName)) ∈ lw_all := lw_g (lw_at lw_m4 131 rfl) rfl
theorem q965 : (Jvm.Cond.code ({ cls := "java/util/ImmutableCollections$List12", name := "size", desc := "()I" } : Jvm.MethodName) prog_59_method_3_code (1 : Nat) (Option.some Jvm.ClassFile.FieldType.int)) ∈ lw_all := lw_g (lw_at lw_m4 132 rfl) rfl
theorem q1363 : (Jvm.Cond.selects "java/util/ImmutableCollections$List12" ({ cls := "java/util/List", name := "iterator", desc := "()Ljava/util/Iterator;" } : Jvm.MethodName) ({ cls := "java/util/ImmutableCollections$AbstractImmutableList", name := "iterator", desc := "()Ljava/util/Iterator;" } : Jvm.MethodName)) ∈ lw_all := lw_g (lw_at lw_m6 50 rfl) rfl
theorem q1364 : (Jvm.Cond.unhidden "java/util/ImmutableCollections$List12" "iterator" "()Ljava/util/Iterator;") ∈ lw_tbl := lw_at lw_m6 51 rfl
theorem q2785 : (Jvm.Cond.castable "java/util/ImmutableCollections$List12" "java/lang/Object") ∈ lw_tbl := lw_at lw_m12 32 rfl
theorem in_J6 : ∀ w ∈ wsJ60, w ∈ lw_all := lw_in wsJ60 [275, 277] (by decide +kernel) (by decide +kernel)

/-! java/util/ImmutableCollections$ListN -/
set_option maxRecDepth 100000
def RJ7 : String := "java/util/ImmutableCollections$ListN"
def TJ7 : u_T := fun k => match k with
  | 0 => ("java/util/ImmutableCollections$ListN", "elements", "[Ljava/lang/Object;", true)
  | _ => ("java/util/ImmutableCollections$ListN", "allowNulls", "Z", true)
def tyJ7 : Nat → FieldType := fun k => match k with
  | 0 => .array (.object "java/lang/Object")
  | _ => .boolean
abbrev wsJ70 : List Cond := u_ws RJ7 TJ7 2
theorem nmJ7 : ∀ a, a < 2 → ∀ b, b < 2 → a ≠ b → (TJ7 a).2.1 ≠ (TJ7 b).2.1 := by decide +kernel
theorem tyJ7_ok : ∀ k, k < 2 → parseFieldDescriptor (TJ7 k).2.2.1 = some (tyJ7 k) := by decide +kernel
abbrev cJ7_init : ByteArray := prog_61_method_1_code
def yJ7_init : MethodName := ⟨RJ7, "<init>", "([Ljava/lang/Object;Z)V"⟩
def dkwJ7_init_0 : List UInt8 := [42, 183, 0, 1, 42, 43, 181, 0, 7, 42, 28, 181, 0, 13, 177]
abbrev dktJ7_init_0 : List UInt8 := dkwJ7_init_0 ++ []
theorem dksJ7_init_0 : cJ7_init.data.toList.drop 0 = dktJ7_init_0 := by decide +kernel
theorem dJ7_init_0 : decode cJ7_init 0 = .ok (.aload_n 0, 1) := dk_42 (dk_at dksJ7_init_0 0 rfl rfl)
theorem dJ7_init_1 : decode cJ7_init 1 = .ok (.invokespecial 1, 3) := dk_183 0 1 (dk_at dksJ7_init_0 1 rfl rfl)
theorem dJ7_init_4 : decode cJ7_init 4 = .ok (.aload_n 0, 1) := dk_42 (dk_at dksJ7_init_0 4 rfl rfl)
theorem dJ7_init_5 : decode cJ7_init 5 = .ok (.aload_n 1, 1) := dk_43 (dk_at dksJ7_init_0 5 rfl rfl)
theorem dJ7_init_6 : decode cJ7_init 6 = .ok (.putfield 7, 3) := dk_181 0 7 (dk_at dksJ7_init_0 6 rfl rfl)
theorem dJ7_init_9 : decode cJ7_init 9 = .ok (.aload_n 0, 1) := dk_42 (dk_at dksJ7_init_0 9 rfl rfl)
theorem dJ7_init_10 : decode cJ7_init 10 = .ok (.iload_n 2, 1) := dk_28 (dk_at dksJ7_init_0 10 rfl rfl)
theorem dJ7_init_11 : decode cJ7_init 11 = .ok (.putfield 13, 3) := dk_181 0 13 (dk_at dksJ7_init_0 11 rfl rfl)
theorem dJ7_init_14 : decode cJ7_init 14 = .ok (.return_, 1) := dk_177 (dk_at dksJ7_init_0 14 rfl rfl)
abbrev cJ7_size : ByteArray := prog_61_method_3_code
def yJ7_size : MethodName := ⟨RJ7, "size", "()I"⟩
def dkwJ7_size_0 : List UInt8 := [42, 180, 0, 7, 190, 172]
abbrev dktJ7_size_0 : List UInt8 := dkwJ7_size_0 ++ []
theorem dksJ7_size_0 : cJ7_size.data.toList.drop 0 = dktJ7_size_0 := by decide +kernel
theorem dJ7_size_0 : decode cJ7_size 0 = .ok (.aload_n 0, 1) := dk_42 (dk_at dksJ7_size_0 0 rfl rfl)
theorem dJ7_size_1 : decode cJ7_size 1 = .ok (.getfield 7, 3) := dk_180 0 7 (dk_at dksJ7_size_0 1 rfl rfl)
theorem dJ7_size_4 : decode cJ7_size 4 = .ok (.arraylength, 1) := dk_190 (dk_at dksJ7_size_0 4 rfl rfl)
theorem dJ7_size_5 : decode cJ7_size 5 = .ok (.ireturn, 1) := dk_172 (dk_at dksJ7_size_0 5 rfl rfl)
abbrev cJ7_get : ByteArray := prog_61_method_4_code
def yJ7_get : MethodName := ⟨RJ7, "get", "(I)Ljava/lang/Object;"⟩
def dkwJ7_get_0 : List UInt8 := [42, 180, 0, 7, 27, 50, 176]
abbrev dktJ7_get_0 : List UInt8 := dkwJ7_get_0 ++ []
theorem dksJ7_get_0 : cJ7_get.data.toList.drop 0 = dktJ7_get_0 := by decide +kernel
theorem dJ7_get_0 : decode cJ7_get 0 = .ok (.aload_n 0, 1) := dk_42 (dk_at dksJ7_get_0 0 rfl rfl)
theorem dJ7_get_1 : decode cJ7_get 1 = .ok (.getfield 7, 3) := dk_180 0 7 (dk_at dksJ7_get_0 1 rfl rfl)
theorem dJ7_get_4 : decode cJ7_get 4 = .ok (.iload_n 1, 1) := dk_27 (dk_at dksJ7_get_0 4 rfl rfl)
theorem dJ7_get_5 : decode cJ7_get 5 = .ok (.aaload, 1) := dk_50 (dk_at dksJ7_get_0 5 rfl rfl)
theorem dJ7_get_6 : decode cJ7_get 6 = .ok (.areturn, 1) := dk_176 (dk_at dksJ7_get_0 6 rfl rfl)
theorem q126 : (Jvm.Cond.initialized "java/util/ImmutableCollections$ListN") ∈ lw_all := lw_g (lw_at lw_m1 13 rfl) rfl
theorem q243 : (Jvm.Cond.selects "java/util/ImmutableCollections$ListN" ({ cls := "java/lang/Object", name := "getClass", desc := "()Ljava/lang/Class;" } : Jvm.MethodName) ({ cls := "java/lang/Object", name := "getClass", desc := "()Ljava/lang/Class;" } : Jvm.MethodName)) ∈ lw_all := lw_g (lw_at lw_m1 130 rfl) rfl
theorem q284 : (Jvm.Cond.instantiable "java/util/ImmutableCollections$ListN" (2 : Nat)) ∈ lw_all := lw_g (lw_at lw_m1 171 rfl) rfl
theorem q286 : (Jvm.Cond.instanceMethod ({ cls := "java/util/ImmutableCollections$ListN", name := "<init>", desc := "([Ljava/lang/Object;Z)V" } : Jvm.MethodName)) ∈ lw_all := lw_g (lw_at lw_m1 173 rfl) rfl
theorem q287 : (Jvm.Cond.code ({ cls := "java/util/ImmutableCollections$ListN", name := "<init>", desc := "([Ljava/lang/Object;Z)V" } : Jvm.MethodName) prog_61_method_1_code (3 : Nat) (Option.none : Option Jvm.ClassFile.FieldType)) ∈ lw_all := lw_g (lw_at lw_m1 174 rfl) rfl
theorem q288 : (Jvm.Cond.methodLink "java/util/ImmutableCollections$ListN" (1 : Nat) ({ cls := "java/util/ImmutableCollections$AbstractImmutableList", name := "<init>", desc := "()V" } : Jvm.MethodName)) ∈ lw_all := lw_g (lw_at lw_m1 175 rfl) rfl
theorem q289 : (Jvm.Cond.fieldLink "java/util/ImmutableCollections$ListN" (7 : Nat) "java/util/ImmutableCollections$ListN" "elements" "[Ljava/lang/Object;") ∈ lw_all := lw_g (lw_at lw_m1 176 rfl) rfl
theorem q290 : (Jvm.Cond.fieldLink "java/util/ImmutableCollections$ListN" (13 : Nat) "java/util/ImmutableCollections$ListN" "allowNulls" "Z") ∈ lw_all := lw_g (lw_at lw_m1 177 rfl) rfl
theorem q291 : (Jvm.Cond.laysFinal "java/util/ImmutableCollections$ListN" "java/util/ImmutableCollections$ListN" "elements" "[Ljava/lang/Object;") ∈ lw_all := lw_g (lw_at lw_m1 178 rfl) rfl
theorem q292 : (Jvm.Cond.soleField "java/util/ImmutableCollections$ListN" "elements") ∈ lw_all := lw_g (lw_at lw_m1 179 rfl) rfl
theorem q293 : (Jvm.Cond.laysFinal "java/util/ImmutableCollections$ListN" "java/util/ImmutableCollections$ListN" "allowNulls" "Z") ∈ lw_all := lw_g (lw_at lw_m1 180 rfl) rfl
theorem q294 : (Jvm.Cond.soleField "java/util/ImmutableCollections$ListN" "allowNulls") ∈ lw_all := lw_g (lw_at lw_m1 181 rfl) rfl
theorem q295 : (Jvm.Cond.superclass "java/util/ImmutableCollections$ListN" "java/util/ImmutableCollections$AbstractImmutableList") ∈ lw_all := lw_g (lw_at lw_m1 182 rfl) rfl
theorem q966 : (Jvm.Cond.selects "java/util/ImmutableCollections$ListN" ({ cls := "java/util/ImmutableCollections$AbstractImmutableList", name := "size", desc := "()I" } : Jvm.MethodName) ({ cls := "java/util/ImmutableCollections$ListN", name := "size", desc := "()I" } : Jvm.MethodName)) ∈ lw_all := lw_g (lw_at lw_m4 133 rfl) rfl
theorem q967 : (Jvm.Cond.instanceMethod ({ cls := "java/util/ImmutableCollections$ListN", name := "size", desc := "()I" } : Jvm.MethodName)) ∈ lw_all := lw_g (lw_at lw_m4 134 rfl) rfl
theorem q968 : (Jvm.Cond.code ({ cls := "java/util/ImmutableCollections$ListN", name := "size", desc := "()I" } : Jvm.MethodName) prog_61_method_3_code (1 : Nat) (Option.some Jvm.ClassFile.FieldType.int)) ∈ lw_all := lw_g (lw_at lw_m4 135 rfl) rfl
theorem q1049 : (Jvm.Cond.castable "java/util/ImmutableCollections$ListN" "java/util/List") ∈ lw_tbl := lw_at lw_m4 216 rfl
theorem q1050 : (Jvm.Cond.selects "java/util/ImmutableCollections$ListN" ({ cls := "java/util/List", name := "get", desc := "(I)Ljava/lang/Object;" } : Jvm.MethodName) ({ cls := "java/util/ImmutableCollections$ListN", name := "get", desc := "(I)Ljava/lang/Object;" } : Jvm.MethodName)) ∈ lw_all := lw_g (lw_at lw_m4 217 rfl) rfl
theorem q1051 : (Jvm.Cond.unhidden "java/util/ImmutableCollections$ListN" "get" "(I)Ljava/lang/Object;") ∈ lw_tbl := lw_at lw_m4 218 rfl
theorem q1052 : (Jvm.Cond.instanceMethod ({ cls := "java/util/ImmutableCollections$ListN", name := "get", desc := "(I)Ljava/lang/Object;" } : Jvm.MethodName)) ∈ lw_all := lw_g (lw_at lw_m4 219 rfl) rfl
theorem q1053 : (Jvm.Cond.publicMethod ({ cls := "java/util/ImmutableCollections$ListN", name := "get", desc := "(I)Ljava/lang/Object;" } : Jvm.MethodName)) ∈ lw_tbl := lw_at lw_m4 220 rfl
theorem q1054 : (Jvm.Cond.code ({ cls := "java/util/ImmutableCollections$ListN", name := "get", desc := "(I)Ljava/lang/Object;" } : Jvm.MethodName) prog_61_method_4_code (2 : Nat) (Option.some (Jvm.ClassFile.FieldType.object "java/lang/Object"))) ∈ lw_all := lw_g (lw_at lw_m4 221 rfl) rfl
theorem q1387 : (Jvm.Cond.selects "java/util/ImmutableCollections$ListN" ({ cls := "java/util/List", name := "iterator", desc := "()Ljava/util/Iterator;" } : Jvm.MethodName) ({ cls := "java/util/ImmutableCollections$AbstractImmutableList", name := "iterator", desc := "()Ljava/util/Iterator;" } : Jvm.MethodName)) ∈ lw_all := lw_g (lw_at lw_m6 74 rfl) rfl
theorem q1388 : (Jvm.Cond.unhidden "java/util/ImmutableCollections$ListN" "iterator" "()Ljava/util/Iterator;") ∈ lw_tbl := lw_at lw_m6 75 rfl
theorem q2784 : (Jvm.Cond.castable "java/util/ImmutableCollections$ListN" "java/lang/Object") ∈ lw_tbl := lw_at lw_m12 31 rfl
theorem in_J7 : ∀ w ∈ wsJ70, w ∈ lw_all := lw_in wsJ70 [291, 293] (by decide +kernel) (by decide +kernel)

/-! java/util/BitSet -/
set_option maxRecDepth 100000
def RJ8 : String := "java/util/BitSet"
def TJ8 : u_T := fun k => match k with
  | 0 => ("java/util/BitSet", "words", "[J", false)
  | 1 => ("java/util/BitSet", "wordsInUse", "I", false)
  | _ => ("java/util/BitSet", "sizeIsSticky", "Z", false)
def tyJ8 : Nat → FieldType := fun k => match k with
  | 0 => .array .long
  | 1 => .int
  | _ => .boolean
abbrev wsJ80 : List Cond := u_ws RJ8 TJ8 3
theorem nmJ8 : ∀ a, a < 3 → ∀ b, b < 3 → a ≠ b → (TJ8 a).2.1 ≠ (TJ8 b).2.1 := by decide +kernel
theorem tyJ8_ok : ∀ k, k < 3 → parseFieldDescriptor (TJ8 k).2.2.1 = some (tyJ8 k) := by decide +kernel
abbrev cJ8_init : ByteArray := prog_53_method_5_code
def yJ8_init : MethodName := ⟨RJ8, "<init>", "(I)V"⟩
def dkwJ8_init_2 : List UInt8 := [27, 182, 0, 27, 42, 4, 181, 0, 24, 177]
abbrev dktJ8_init_2 : List UInt8 := dkwJ8_init_2 ++ []
def dkwJ8_init_1 : List UInt8 := [187, 0, 33, 89, 183, 0, 35, 18, 36, 182, 0, 38, 27, 182, 0, 42, 182, 0, 45, 183, 0, 49, 191, 42]
abbrev dktJ8_init_1 : List UInt8 := dkwJ8_init_1 ++ dktJ8_init_2
def dkwJ8_init_0 : List UInt8 := [42, 183, 0, 21, 42, 3, 181, 0, 7, 42, 3, 181, 0, 24, 27, 156, 0, 30, 187, 0, 31, 89]
abbrev dktJ8_init_0 : List UInt8 := dkwJ8_init_0 ++ dktJ8_init_1
theorem dksJ8_init_0 : cJ8_init.data.toList.drop 0 = dktJ8_init_0 := by decide +kernel
theorem dksJ8_init_1 : cJ8_init.data.toList.drop 22 = dktJ8_init_1 := dk_seg dksJ8_init_0 22 rfl rfl
theorem dksJ8_init_2 : cJ8_init.data.toList.drop 46 = dktJ8_init_2 := dk_seg dksJ8_init_1 24 rfl rfl
theorem dJ8_init_0 : decode cJ8_init 0 = .ok (.aload_n 0, 1) := dk_42 (dk_at dksJ8_init_0 0 rfl rfl)
theorem dJ8_init_1 : decode cJ8_init 1 = .ok (.invokespecial 21, 3) := dk_183 0 21 (dk_at dksJ8_init_0 1 rfl rfl)
theorem dJ8_init_4 : decode cJ8_init 4 = .ok (.aload_n 0, 1) := dk_42 (dk_at dksJ8_init_0 4 rfl rfl)
theorem dJ8_init_5 : decode cJ8_init 5 = .ok (.iconst 0, 1) := dk_3 (dk_at dksJ8_init_0 5 rfl rfl)
theorem dJ8_init_6 : decode cJ8_init 6 = .ok (.putfield 7, 3) := dk_181 0 7 (dk_at dksJ8_init_0 6 rfl rfl)
theorem dJ8_init_9 : decode cJ8_init 9 = .ok (.aload_n 0, 1) := dk_42 (dk_at dksJ8_init_0 9 rfl rfl)
theorem dJ8_init_10 : decode cJ8_init 10 = .ok (.iconst 0, 1) := dk_3 (dk_at dksJ8_init_0 10 rfl rfl)
theorem dJ8_init_11 : decode cJ8_init 11 = .ok (.putfield 24, 3) := dk_181 0 24 (dk_at dksJ8_init_0 11 rfl rfl)
theorem dJ8_init_14 : decode cJ8_init 14 = .ok (.iload_n 1, 1) := dk_27 (dk_at dksJ8_init_0 14 rfl rfl)
theorem dJ8_init_15 : decode cJ8_init 15 = .ok (.ifCond .ge 30, 3) := dk_156 0 30 (dk_at dksJ8_init_0 15 rfl rfl)
theorem dJ8_init_18 : decode cJ8_init 18 = .ok (.new 31, 3) := dk_187 0 31 (dk_at dksJ8_init_0 18 rfl rfl)
theorem dJ8_init_21 : decode cJ8_init 21 = .ok (.dup, 1) := dk_89 (dk_at dksJ8_init_0 21 rfl rfl)
theorem dJ8_init_22 : decode cJ8_init 22 = .ok (.new 33, 3) := dk_187 0 33 (dk_at dksJ8_init_1 0 rfl rfl)
theorem dJ8_init_25 : decode cJ8_init 25 = .ok (.dup, 1) := dk_89 (dk_at dksJ8_init_1 3 rfl rfl)
theorem dJ8_init_26 : decode cJ8_init 26 = .ok (.invokespecial 35, 3) := dk_183 0 35 (dk_at dksJ8_init_1 4 rfl rfl)
theorem dJ8_init_29 : decode cJ8_init 29 = .ok (.ldc 36, 2) := dk_18 36 (dk_at dksJ8_init_1 7 rfl rfl)
theorem dJ8_init_31 : decode cJ8_init 31 = .ok (.invokevirtual 38, 3) := dk_182 0 38 (dk_at dksJ8_init_1 9 rfl rfl)
theorem dJ8_init_34 : decode cJ8_init 34 = .ok (.iload_n 1, 1) := dk_27 (dk_at dksJ8_init_1 12 rfl rfl)
theorem dJ8_init_35 : decode cJ8_init 35 = .ok (.invokevirtual 42, 3) := dk_182 0 42 (dk_at dksJ8_init_1 13 rfl rfl)
theorem dJ8_init_38 : decode cJ8_init 38 = .ok (.invokevirtual 45, 3) := dk_182 0 45 (dk_at dksJ8_init_1 16 rfl rfl)
theorem dJ8_init_41 : decode cJ8_init 41 = .ok (.invokespecial 49, 3) := dk_183 0 49 (dk_at dksJ8_init_1 19 rfl rfl)
theorem dJ8_init_44 : decode cJ8_init 44 = .ok (.athrow, 1) := dk_191 (dk_at dksJ8_init_1 22 rfl rfl)
theorem dJ8_init_45 : decode cJ8_init 45 = .ok (.aload_n 0, 1) := dk_42 (dk_at dksJ8_init_1 23 rfl rfl)
theorem dJ8_init_46 : decode cJ8_init 46 = .ok (.iload_n 1, 1) := dk_27 (dk_at dksJ8_init_2 0 rfl rfl)
theorem dJ8_init_47 : decode cJ8_init 47 = .ok (.invokevirtual 27, 3) := dk_182 0 27 (dk_at dksJ8_init_2 1 rfl rfl)
theorem dJ8_init_50 : decode cJ8_init 50 = .ok (.aload_n 0, 1) := dk_42 (dk_at dksJ8_init_2 4 rfl rfl)
theorem dJ8_init_51 : decode cJ8_init 51 = .ok (.iconst 1, 1) := dk_4 (dk_at dksJ8_init_2 5 rfl rfl)
theorem dJ8_init_52 : decode cJ8_init 52 = .ok (.putfield 24, 3) := dk_181 0 24 (dk_at dksJ8_init_2 6 rfl rfl)
theorem dJ8_init_55 : decode cJ8_init 55 = .ok (.return_, 1) := dk_177 (dk_at dksJ8_init_2 9 rfl rfl)
abbrev cJ8_initWords : ByteArray := prog_53_method_6_code
def yJ8_initWords : MethodName := ⟨RJ8, "initWords", "(I)V"⟩
def dkwJ8_initWords_0 : List UInt8 := [42, 27, 4, 100, 184, 0, 52, 4, 96, 188, 11, 181, 0, 11, 177]
abbrev dktJ8_initWords_0 : List UInt8 := dkwJ8_initWords_0 ++ []
theorem dksJ8_initWords_0 : cJ8_initWords.data.toList.drop 0 = dktJ8_initWords_0 := by decide +kernel
theorem dJ8_initWords_0 : decode cJ8_initWords 0 = .ok (.aload_n 0, 1) := dk_42 (dk_at dksJ8_initWords_0 0 rfl rfl)
theorem dJ8_initWords_1 : decode cJ8_initWords 1 = .ok (.iload_n 1, 1) := dk_27 (dk_at dksJ8_initWords_0 1 rfl rfl)
theorem dJ8_initWords_2 : decode cJ8_initWords 2 = .ok (.iconst 1, 1) := dk_4 (dk_at dksJ8_initWords_0 2 rfl rfl)
theorem dJ8_initWords_3 : decode cJ8_initWords 3 = .ok (.isub, 1) := dk_100 (dk_at dksJ8_initWords_0 3 rfl rfl)
theorem dJ8_initWords_4 : decode cJ8_initWords 4 = .ok (.invokestatic 52, 3) := dk_184 0 52 (dk_at dksJ8_initWords_0 4 rfl rfl)
theorem dJ8_initWords_7 : decode cJ8_initWords 7 = .ok (.iconst 1, 1) := dk_4 (dk_at dksJ8_initWords_0 7 rfl rfl)
theorem dJ8_initWords_8 : decode cJ8_initWords 8 = .ok (.iadd, 1) := dk_96 (dk_at dksJ8_initWords_0 8 rfl rfl)
theorem dJ8_initWords_9 : decode cJ8_initWords 9 = .ok (.newarray .long, 2) := dk_188_11 (dk_at dksJ8_initWords_0 9 rfl rfl)
theorem dJ8_initWords_11 : decode cJ8_initWords 11 = .ok (.putfield 11, 3) := dk_181 0 11 (dk_at dksJ8_initWords_0 11 rfl rfl)
theorem dJ8_initWords_14 : decode cJ8_initWords 14 = .ok (.return_, 1) := dk_177 (dk_at dksJ8_initWords_0 14 rfl rfl)
abbrev cJ8_wordIndex : ByteArray := prog_53_method_1_code
def yJ8_wordIndex : MethodName := ⟨RJ8, "wordIndex", "(I)I"⟩
def dkwJ8_wordIndex_0 : List UInt8 := [26, 16, 6, 122, 172]
abbrev dktJ8_wordIndex_0 : List UInt8 := dkwJ8_wordIndex_0 ++ []
theorem dksJ8_wordIndex_0 : cJ8_wordIndex.data.toList.drop 0 = dktJ8_wordIndex_0 := by decide +kernel
theorem dJ8_wordIndex_0 : decode cJ8_wordIndex 0 = .ok (.iload_n 0, 1) := dk_26 (dk_at dksJ8_wordIndex_0 0 rfl rfl)
theorem dJ8_wordIndex_1 : decode cJ8_wordIndex 1 = .ok (.bipush 6, 2) := dk_16 6 (dk_at dksJ8_wordIndex_0 1 rfl rfl)
theorem dJ8_wordIndex_3 : decode cJ8_wordIndex 3 = .ok (.ishr, 1) := dk_122 (dk_at dksJ8_wordIndex_0 3 rfl rfl)
theorem dJ8_wordIndex_4 : decode cJ8_wordIndex 4 = .ok (.ireturn, 1) := dk_172 (dk_at dksJ8_wordIndex_0 4 rfl rfl)
abbrev cJ8_clear : ByteArray := prog_53_method_25_code
def yJ8_clear : MethodName := ⟨RJ8, "clear", "()V"⟩
def dkwJ8_clear_1 : List UInt8 := [167, 255, 232, 177]
abbrev dktJ8_clear_1 : List UInt8 := dkwJ8_clear_1 ++ []
def dkwJ8_clear_0 : List UInt8 := [42, 180, 0, 7, 158, 0, 23, 42, 180, 0, 11, 42, 89, 180, 0, 7, 4, 100, 90, 181, 0, 7, 9, 80]
abbrev dktJ8_clear_0 : List UInt8 := dkwJ8_clear_0 ++ dktJ8_clear_1
theorem dksJ8_clear_0 : cJ8_clear.data.toList.drop 0 = dktJ8_clear_0 := by decide +kernel
theorem dksJ8_clear_1 : cJ8_clear.data.toList.drop 24 = dktJ8_clear_1 := dk_seg dksJ8_clear_0 24 rfl rfl
theorem dJ8_clear_0 : decode cJ8_clear 0 = .ok (.aload_n 0, 1) := dk_42 (dk_at dksJ8_clear_0 0 rfl rfl)
theorem dJ8_clear_1 : decode cJ8_clear 1 = .ok (.getfield 7, 3) := dk_180 0 7 (dk_at dksJ8_clear_0 1 rfl rfl)
theorem dJ8_clear_4 : decode cJ8_clear 4 = .ok (.ifCond .le 23, 3) := dk_158 0 23 (dk_at dksJ8_clear_0 4 rfl rfl)
theorem dJ8_clear_7 : decode cJ8_clear 7 = .ok (.aload_n 0, 1) := dk_42 (dk_at dksJ8_clear_0 7 rfl rfl)
theorem dJ8_clear_8 : decode cJ8_clear 8 = .ok (.getfield 11, 3) := dk_180 0 11 (dk_at dksJ8_clear_0 8 rfl rfl)
theorem dJ8_clear_11 : decode cJ8_clear 11 = .ok (.aload_n 0, 1) := dk_42 (dk_at dksJ8_clear_0 11 rfl rfl)
theorem dJ8_clear_12 : decode cJ8_clear 12 = .ok (.dup, 1) := dk_89 (dk_at dksJ8_clear_0 12 rfl rfl)
theorem dJ8_clear_13 : decode cJ8_clear 13 = .ok (.getfield 7, 3) := dk_180 0 7 (dk_at dksJ8_clear_0 13 rfl rfl)
theorem dJ8_clear_16 : decode cJ8_clear 16 = .ok (.iconst 1, 1) := dk_4 (dk_at dksJ8_clear_0 16 rfl rfl)
theorem dJ8_clear_17 : decode cJ8_clear 17 = .ok (.isub, 1) := dk_100 (dk_at dksJ8_clear_0 17 rfl rfl)
theorem dJ8_clear_18 : decode cJ8_clear 18 = .ok (.dup_x1, 1) := dk_90 (dk_at dksJ8_clear_0 18 rfl rfl)
theorem dJ8_clear_19 : decode cJ8_clear 19 = .ok (.putfield 7, 3) := dk_181 0 7 (dk_at dksJ8_clear_0 19 rfl rfl)
theorem dJ8_clear_22 : decode cJ8_clear 22 = .ok (.lconst 0, 1) := dk_9 (dk_at dksJ8_clear_0 22 rfl rfl)
theorem dJ8_clear_23 : decode cJ8_clear 23 = .ok (.lastore, 1) := dk_80 (dk_at dksJ8_clear_0 23 rfl rfl)
theorem dJ8_clear_24 : decode cJ8_clear 24 = .ok (.goto (-24), 3) := dk_167 255 232 (dk_at dksJ8_clear_1 0 rfl rfl)
theorem dJ8_clear_27 : decode cJ8_clear 27 = .ok (.return_, 1) := dk_177 (dk_at dksJ8_clear_1 3 rfl rfl)
abbrev cJ8_or : ByteArray := prog_53_method_37_code
def yJ8_or : MethodName := ⟨RJ8, "or", "(Ljava/util/BitSet;)V"⟩
def dkwJ8_or_4 : List UInt8 := [180, 0, 7, 28, 100, 184, 0, 199, 42, 182, 0, 56, 177]
abbrev dktJ8_or_4 : List UInt8 := dkwJ8_or_4 ++ []
def dkwJ8_or_3 : List UInt8 := [167, 255, 233, 28, 43, 180, 0, 7, 162, 0, 22, 43, 180, 0, 11, 28, 42, 180, 0, 11, 28, 42]
abbrev dktJ8_or_3 : List UInt8 := dkwJ8_or_3 ++ dktJ8_or_4
def dkwJ8_or_2 : List UInt8 := [29, 28, 162, 0, 24, 42, 180, 0, 11, 29, 92, 47, 43, 180, 0, 11, 29, 47, 129, 80, 132, 3, 1]
abbrev dktJ8_or_2 : List UInt8 := dkwJ8_or_2 ++ dktJ8_or_3
def dkwJ8_or_1 : List UInt8 := [180, 0, 7, 162, 0, 19, 42, 43, 180, 0, 7, 182, 0, 139, 42, 43, 180, 0, 7, 181, 0, 7, 3, 62]
abbrev dktJ8_or_1 : List UInt8 := dkwJ8_or_1 ++ dktJ8_or_2
def dkwJ8_or_0 : List UInt8 := [42, 43, 166, 0, 4, 177, 42, 180, 0, 7, 43, 180, 0, 7, 184, 0, 193, 61, 42, 180, 0, 7, 43]
abbrev dktJ8_or_0 : List UInt8 := dkwJ8_or_0 ++ dktJ8_or_1
theorem dksJ8_or_0 : cJ8_or.data.toList.drop 0 = dktJ8_or_0 := by decide +kernel
theorem dksJ8_or_1 : cJ8_or.data.toList.drop 23 = dktJ8_or_1 := dk_seg dksJ8_or_0 23 rfl rfl
theorem dksJ8_or_2 : cJ8_or.data.toList.drop 47 = dktJ8_or_2 := dk_seg dksJ8_or_1 24 rfl rfl
theorem dksJ8_or_3 : cJ8_or.data.toList.drop 70 = dktJ8_or_3 := dk_seg dksJ8_or_2 23 rfl rfl
theorem dksJ8_or_4 : cJ8_or.data.toList.drop 92 = dktJ8_or_4 := dk_seg dksJ8_or_3 22 rfl rfl
theorem dJ8_or_0 : decode cJ8_or 0 = .ok (.aload_n 0, 1) := dk_42 (dk_at dksJ8_or_0 0 rfl rfl)
theorem dJ8_or_1 : decode cJ8_or 1 = .ok (.aload_n 1, 1) := dk_43 (dk_at dksJ8_or_0 1 rfl rfl)
theorem dJ8_or_2 : decode cJ8_or 2 = .ok (.if_acmp .ne 4, 3) := dk_166 0 4 (dk_at dksJ8_or_0 2 rfl rfl)
theorem dJ8_or_5 : decode cJ8_or 5 = .ok (.return_, 1) := dk_177 (dk_at dksJ8_or_0 5 rfl rfl)
theorem dJ8_or_6 : decode cJ8_or 6 = .ok (.aload_n 0, 1) := dk_42 (dk_at dksJ8_or_0 6 rfl rfl)
theorem dJ8_or_7 : decode cJ8_or 7 = .ok (.getfield 7, 3) := dk_180 0 7 (dk_at dksJ8_or_0 7 rfl rfl)
theorem dJ8_or_10 : decode cJ8_or 10 = .ok (.aload_n 1, 1) := dk_43 (dk_at dksJ8_or_0 10 rfl rfl)
theorem dJ8_or_11 : decode cJ8_or 11 = .ok (.getfield 7, 3) := dk_180 0 7 (dk_at dksJ8_or_0 11 rfl rfl)
theorem dJ8_or_14 : decode cJ8_or 14 = .ok (.invokestatic 193, 3) := dk_184 0 193 (dk_at dksJ8_or_0 14 rfl rfl)
theorem dJ8_or_17 : decode cJ8_or 17 = .ok (.istore_n 2, 1) := dk_61 (dk_at dksJ8_or_0 17 rfl rfl)
theorem dJ8_or_18 : decode cJ8_or 18 = .ok (.aload_n 0, 1) := dk_42 (dk_at dksJ8_or_0 18 rfl rfl)
theorem dJ8_or_19 : decode cJ8_or 19 = .ok (.getfield 7, 3) := dk_180 0 7 (dk_at dksJ8_or_0 19 rfl rfl)
theorem dJ8_or_22 : decode cJ8_or 22 = .ok (.aload_n 1, 1) := dk_43 (dk_at dksJ8_or_0 22 rfl rfl)
theorem dJ8_or_23 : decode cJ8_or 23 = .ok (.getfield 7, 3) := dk_180 0 7 (dk_at dksJ8_or_1 0 rfl rfl)
theorem dJ8_or_26 : decode cJ8_or 26 = .ok (.if_icmp .ge 19, 3) := dk_162 0 19 (dk_at dksJ8_or_1 3 rfl rfl)
theorem dJ8_or_29 : decode cJ8_or 29 = .ok (.aload_n 0, 1) := dk_42 (dk_at dksJ8_or_1 6 rfl rfl)
theorem dJ8_or_30 : decode cJ8_or 30 = .ok (.aload_n 1, 1) := dk_43 (dk_at dksJ8_or_1 7 rfl rfl)
theorem dJ8_or_31 : decode cJ8_or 31 = .ok (.getfield 7, 3) := dk_180 0 7 (dk_at dksJ8_or_1 8 rfl rfl)
theorem dJ8_or_34 : decode cJ8_or 34 = .ok (.invokevirtual 139, 3) := dk_182 0 139 (dk_at dksJ8_or_1 11 rfl rfl)
theorem dJ8_or_37 : decode cJ8_or 37 = .ok (.aload_n 0, 1) := dk_42 (dk_at dksJ8_or_1 14 rfl rfl)
theorem dJ8_or_38 : decode cJ8_or 38 = .ok (.aload_n 1, 1) := dk_43 (dk_at dksJ8_or_1 15 rfl rfl)
theorem dJ8_or_39 : decode cJ8_or 39 = .ok (.getfield 7, 3) := dk_180 0 7 (dk_at dksJ8_or_1 16 rfl rfl)
theorem dJ8_or_42 : decode cJ8_or 42 = .ok (.putfield 7, 3) := dk_181 0 7 (dk_at dksJ8_or_1 19 rfl rfl)
theorem dJ8_or_45 : decode cJ8_or 45 = .ok (.iconst 0, 1) := dk_3 (dk_at dksJ8_or_1 22 rfl rfl)
theorem dJ8_or_46 : decode cJ8_or 46 = .ok (.istore_n 3, 1) := dk_62 (dk_at dksJ8_or_1 23 rfl rfl)
theorem dJ8_or_47 : decode cJ8_or 47 = .ok (.iload_n 3, 1) := dk_29 (dk_at dksJ8_or_2 0 rfl rfl)
theorem dJ8_or_48 : decode cJ8_or 48 = .ok (.iload_n 2, 1) := dk_28 (dk_at dksJ8_or_2 1 rfl rfl)
theorem dJ8_or_49 : decode cJ8_or 49 = .ok (.if_icmp .ge 24, 3) := dk_162 0 24 (dk_at dksJ8_or_2 2 rfl rfl)
theorem dJ8_or_52 : decode cJ8_or 52 = .ok (.aload_n 0, 1) := dk_42 (dk_at dksJ8_or_2 5 rfl rfl)
theorem dJ8_or_53 : decode cJ8_or 53 = .ok (.getfield 11, 3) := dk_180 0 11 (dk_at dksJ8_or_2 6 rfl rfl)
theorem dJ8_or_56 : decode cJ8_or 56 = .ok (.iload_n 3, 1) := dk_29 (dk_at dksJ8_or_2 9 rfl rfl)
theorem dJ8_or_57 : decode cJ8_or 57 = .ok (.dup2, 1) := dk_92 (dk_at dksJ8_or_2 10 rfl rfl)
theorem dJ8_or_58 : decode cJ8_or 58 = .ok (.laload, 1) := dk_47 (dk_at dksJ8_or_2 11 rfl rfl)
theorem dJ8_or_59 : decode cJ8_or 59 = .ok (.aload_n 1, 1) := dk_43 (dk_at dksJ8_or_2 12 rfl rfl)
theorem dJ8_or_60 : decode cJ8_or 60 = .ok (.getfield 11, 3) := dk_180 0 11 (dk_at dksJ8_or_2 13 rfl rfl)
theorem dJ8_or_63 : decode cJ8_or 63 = .ok (.iload_n 3, 1) := dk_29 (dk_at dksJ8_or_2 16 rfl rfl)
theorem dJ8_or_64 : decode cJ8_or 64 = .ok (.laload, 1) := dk_47 (dk_at dksJ8_or_2 17 rfl rfl)
theorem dJ8_or_65 : decode cJ8_or 65 = .ok (.lor, 1) := dk_129 (dk_at dksJ8_or_2 18 rfl rfl)
theorem dJ8_or_66 : decode cJ8_or 66 = .ok (.lastore, 1) := dk_80 (dk_at dksJ8_or_2 19 rfl rfl)
theorem dJ8_or_67 : decode cJ8_or 67 = .ok (.iinc 3 1, 3) := dk_132 3 1 (dk_at dksJ8_or_2 20 rfl rfl)
theorem dJ8_or_70 : decode cJ8_or 70 = .ok (.goto (-23), 3) := dk_167 255 233 (dk_at dksJ8_or_3 0 rfl rfl)
theorem dJ8_or_73 : decode cJ8_or 73 = .ok (.iload_n 2, 1) := dk_28 (dk_at dksJ8_or_3 3 rfl rfl)
theorem dJ8_or_74 : decode cJ8_or 74 = .ok (.aload_n 1, 1) := dk_43 (dk_at dksJ8_or_3 4 rfl rfl)
theorem dJ8_or_75 : decode cJ8_or 75 = .ok (.getfield 7, 3) := dk_180 0 7 (dk_at dksJ8_or_3 5 rfl rfl)
theorem dJ8_or_78 : decode cJ8_or 78 = .ok (.if_icmp .ge 22, 3) := dk_162 0 22 (dk_at dksJ8_or_3 8 rfl rfl)
theorem dJ8_or_81 : decode cJ8_or 81 = .ok (.aload_n 1, 1) := dk_43 (dk_at dksJ8_or_3 11 rfl rfl)
theorem dJ8_or_82 : decode cJ8_or 82 = .ok (.getfield 11, 3) := dk_180 0 11 (dk_at dksJ8_or_3 12 rfl rfl)
theorem dJ8_or_85 : decode cJ8_or 85 = .ok (.iload_n 2, 1) := dk_28 (dk_at dksJ8_or_3 15 rfl rfl)
theorem dJ8_or_86 : decode cJ8_or 86 = .ok (.aload_n 0, 1) := dk_42 (dk_at dksJ8_or_3 16 rfl rfl)
theorem dJ8_or_87 : decode cJ8_or 87 = .ok (.getfield 11, 3) := dk_180 0 11 (dk_at dksJ8_or_3 17 rfl rfl)
theorem dJ8_or_90 : decode cJ8_or 90 = .ok (.iload_n 2, 1) := dk_28 (dk_at dksJ8_or_3 20 rfl rfl)
theorem dJ8_or_91 : decode cJ8_or 91 = .ok (.aload_n 0, 1) := dk_42 (dk_at dksJ8_or_3 21 rfl rfl)
theorem dJ8_or_92 : decode cJ8_or 92 = .ok (.getfield 7, 3) := dk_180 0 7 (dk_at dksJ8_or_4 0 rfl rfl)
theorem dJ8_or_95 : decode cJ8_or 95 = .ok (.iload_n 2, 1) := dk_28 (dk_at dksJ8_or_4 3 rfl rfl)
theorem dJ8_or_96 : decode cJ8_or 96 = .ok (.isub, 1) := dk_100 (dk_at dksJ8_or_4 4 rfl rfl)
theorem dJ8_or_97 : decode cJ8_or 97 = .ok (.invokestatic 199, 3) := dk_184 0 199 (dk_at dksJ8_or_4 5 rfl rfl)
theorem dJ8_or_100 : decode cJ8_or 100 = .ok (.aload_n 0, 1) := dk_42 (dk_at dksJ8_or_4 8 rfl rfl)
theorem dJ8_or_101 : decode cJ8_or 101 = .ok (.invokevirtual 56, 3) := dk_182 0 56 (dk_at dksJ8_or_4 9 rfl rfl)
theorem dJ8_or_104 : decode cJ8_or 104 = .ok (.return_, 1) := dk_177 (dk_at dksJ8_or_4 12 rfl rfl)
abbrev cJ8_ensureCapacity : ByteArray := prog_53_method_14_code
def yJ8_ensureCapacity : MethodName := ⟨RJ8, "ensureCapacity", "(I)V"⟩
def dkwJ8_ensureCapacity_1 : List UInt8 := [180, 0, 11, 28, 184, 0, 59, 181, 0, 11, 42, 3, 181, 0, 24, 177]
abbrev dktJ8_ensureCapacity_1 : List UInt8 := dkwJ8_ensureCapacity_1 ++ []
def dkwJ8_ensureCapacity_0 : List UInt8 := [42, 180, 0, 11, 190, 27, 162, 0, 32, 5, 42, 180, 0, 11, 190, 104, 27, 184, 0, 133, 61, 42, 42]
abbrev dktJ8_ensureCapacity_0 : List UInt8 := dkwJ8_ensureCapacity_0 ++ dktJ8_ensureCapacity_1
theorem dksJ8_ensureCapacity_0 : cJ8_ensureCapacity.data.toList.drop 0 = dktJ8_ensureCapacity_0 := by decide +kernel
theorem dksJ8_ensureCapacity_1 : cJ8_ensureCapacity.data.toList.drop 23 = dktJ8_ensureCapacity_1 := dk_seg dksJ8_ensureCapacity_0 23 rfl rfl
theorem dJ8_ensureCapacity_0 : decode cJ8_ensureCapacity 0 = .ok (.aload_n 0, 1) := dk_42 (dk_at dksJ8_ensureCapacity_0 0 rfl rfl)
theorem dJ8_ensureCapacity_1 : decode cJ8_ensureCapacity 1 = .ok (.getfield 11, 3) := dk_180 0 11 (dk_at dksJ8_ensureCapacity_0 1 rfl rfl)
theorem dJ8_ensureCapacity_4 : decode cJ8_ensureCapacity 4 = .ok (.arraylength, 1) := dk_190 (dk_at dksJ8_ensureCapacity_0 4 rfl rfl)
theorem dJ8_ensureCapacity_5 : decode cJ8_ensureCapacity 5 = .ok (.iload_n 1, 1) := dk_27 (dk_at dksJ8_ensureCapacity_0 5 rfl rfl)
theorem dJ8_ensureCapacity_6 : decode cJ8_ensureCapacity 6 = .ok (.if_icmp .ge 32, 3) := dk_162 0 32 (dk_at dksJ8_ensureCapacity_0 6 rfl rfl)
theorem dJ8_ensureCapacity_9 : decode cJ8_ensureCapacity 9 = .ok (.iconst 2, 1) := dk_5 (dk_at dksJ8_ensureCapacity_0 9 rfl rfl)
theorem dJ8_ensureCapacity_10 : decode cJ8_ensureCapacity 10 = .ok (.aload_n 0, 1) := dk_42 (dk_at dksJ8_ensureCapacity_0 10 rfl rfl)
theorem dJ8_ensureCapacity_11 : decode cJ8_ensureCapacity 11 = .ok (.getfield 11, 3) := dk_180 0 11 (dk_at dksJ8_ensureCapacity_0 11 rfl rfl)
theorem dJ8_ensureCapacity_14 : decode cJ8_ensureCapacity 14 = .ok (.arraylength, 1) := dk_190 (dk_at dksJ8_ensureCapacity_0 14 rfl rfl)
theorem dJ8_ensureCapacity_15 : decode cJ8_ensureCapacity 15 = .ok (.imul, 1) := dk_104 (dk_at dksJ8_ensureCapacity_0 15 rfl rfl)
theorem dJ8_ensureCapacity_16 : decode cJ8_ensureCapacity 16 = .ok (.iload_n 1, 1) := dk_27 (dk_at dksJ8_ensureCapacity_0 16 rfl rfl)
theorem dJ8_ensureCapacity_17 : decode cJ8_ensureCapacity 17 = .ok (.invokestatic 133, 3) := dk_184 0 133 (dk_at dksJ8_ensureCapacity_0 17 rfl rfl)
theorem dJ8_ensureCapacity_20 : decode cJ8_ensureCapacity 20 = .ok (.istore_n 2, 1) := dk_61 (dk_at dksJ8_ensureCapacity_0 20 rfl rfl)
theorem dJ8_ensureCapacity_21 : decode cJ8_ensureCapacity 21 = .ok (.aload_n 0, 1) := dk_42 (dk_at dksJ8_ensureCapacity_0 21 rfl rfl)
theorem dJ8_ensureCapacity_22 : decode cJ8_ensureCapacity 22 = .ok (.aload_n 0, 1) := dk_42 (dk_at dksJ8_ensureCapacity_0 22 rfl rfl)
theorem dJ8_ensureCapacity_23 : decode cJ8_ensureCapacity 23 = .ok (.getfield 11, 3) := dk_180 0 11 (dk_at dksJ8_ensureCapacity_1 0 rfl rfl)
theorem dJ8_ensureCapacity_26 : decode cJ8_ensureCapacity 26 = .ok (.iload_n 2, 1) := dk_28 (dk_at dksJ8_ensureCapacity_1 3 rfl rfl)
theorem dJ8_ensureCapacity_27 : decode cJ8_ensureCapacity 27 = .ok (.invokestatic 59, 3) := dk_184 0 59 (dk_at dksJ8_ensureCapacity_1 4 rfl rfl)
theorem dJ8_ensureCapacity_30 : decode cJ8_ensureCapacity 30 = .ok (.putfield 11, 3) := dk_181 0 11 (dk_at dksJ8_ensureCapacity_1 7 rfl rfl)
theorem dJ8_ensureCapacity_33 : decode cJ8_ensureCapacity 33 = .ok (.aload_n 0, 1) := dk_42 (dk_at dksJ8_ensureCapacity_1 10 rfl rfl)
theorem dJ8_ensureCapacity_34 : decode cJ8_ensureCapacity 34 = .ok (.iconst 0, 1) := dk_3 (dk_at dksJ8_ensureCapacity_1 11 rfl rfl)
theorem dJ8_ensureCapacity_35 : decode cJ8_ensureCapacity 35 = .ok (.putfield 24, 3) := dk_181 0 24 (dk_at dksJ8_ensureCapacity_1 12 rfl rfl)
theorem dJ8_ensureCapacity_38 : decode cJ8_ensureCapacity 38 = .ok (.return_, 1) := dk_177 (dk_at dksJ8_ensureCapacity_1 15 rfl rfl)
abbrev cJ8_checkInvariants : ByteArray := prog_53_method_2_code
def yJ8_checkInvariants : MethodName := ⟨RJ8, "checkInvariants", "()V"⟩
def dkwJ8_checkInvariants_4 : List UInt8 := [180, 0, 7, 47, 9, 148, 153, 0, 11, 187, 0, 15, 89, 183, 0, 17, 191, 177]
abbrev dktJ8_checkInvariants_4 : List UInt8 := dkwJ8_checkInvariants_4 ++ []
def dkwJ8_checkInvariants_3 : List UInt8 := [178, 0, 3, 154, 0, 37, 42, 180, 0, 7, 42, 180, 0, 11, 190, 159, 0, 25, 42, 180, 0, 11, 42]
abbrev dktJ8_checkInvariants_3 : List UInt8 := dkwJ8_checkInvariants_3 ++ dktJ8_checkInvariants_4
def dkwJ8_checkInvariants_2 : List UInt8 := [155, 0, 15, 42, 180, 0, 7, 42, 180, 0, 11, 190, 164, 0, 11, 187, 0, 15, 89, 183, 0, 17, 191]
abbrev dktJ8_checkInvariants_2 : List UInt8 := dkwJ8_checkInvariants_2 ++ dktJ8_checkInvariants_3
def dkwJ8_checkInvariants_1 : List UInt8 := [9, 148, 154, 0, 11, 187, 0, 15, 89, 183, 0, 17, 191, 178, 0, 3, 154, 0, 30, 42, 180, 0, 7]
abbrev dktJ8_checkInvariants_1 : List UInt8 := dkwJ8_checkInvariants_1 ++ dktJ8_checkInvariants_2
def dkwJ8_checkInvariants_0 : List UInt8 := [178, 0, 3, 154, 0, 34, 42, 180, 0, 7, 153, 0, 27, 42, 180, 0, 11, 42, 180, 0, 7, 4, 100, 47]
abbrev dktJ8_checkInvariants_0 : List UInt8 := dkwJ8_checkInvariants_0 ++ dktJ8_checkInvariants_1
theorem dksJ8_checkInvariants_0 : cJ8_checkInvariants.data.toList.drop 0 = dktJ8_checkInvariants_0 := by decide +kernel
theorem dksJ8_checkInvariants_1 : cJ8_checkInvariants.data.toList.drop 24 = dktJ8_checkInvariants_1 := dk_seg dksJ8_checkInvariants_0 24 rfl rfl
theorem dksJ8_checkInvariants_2 : cJ8_checkInvariants.data.toList.drop 47 = dktJ8_checkInvariants_2 := dk_seg dksJ8_checkInvariants_1 23 rfl rfl
theorem dksJ8_checkInvariants_3 : cJ8_checkInvariants.data.toList.drop 70 = dktJ8_checkInvariants_3 := dk_seg dksJ8_checkInvariants_2 23 rfl rfl
theorem dksJ8_checkInvariants_4 : cJ8_checkInvariants.data.toList.drop 93 = dktJ8_checkInvariants_4 := dk_seg dksJ8_checkInvariants_3 23 rfl rfl
theorem dJ8_checkInvariants_0 : decode cJ8_checkInvariants 0 = .ok (.getstatic 3, 3) := dk_178 0 3 (dk_at dksJ8_checkInvariants_0 0 rfl rfl)
theorem dJ8_checkInvariants_3 : decode cJ8_checkInvariants 3 = .ok (.ifCond .ne 34, 3) := dk_154 0 34 (dk_at dksJ8_checkInvariants_0 3 rfl rfl)
theorem dJ8_checkInvariants_6 : decode cJ8_checkInvariants 6 = .ok (.aload_n 0, 1) := dk_42 (dk_at dksJ8_checkInvariants_0 6 rfl rfl)
theorem dJ8_checkInvariants_7 : decode cJ8_checkInvariants 7 = .ok (.getfield 7, 3) := dk_180 0 7 (dk_at dksJ8_checkInvariants_0 7 rfl rfl)
theorem dJ8_checkInvariants_10 : decode cJ8_checkInvariants 10 = .ok (.ifCond .eq 27, 3) := dk_153 0 27 (dk_at dksJ8_checkInvariants_0 10 rfl rfl)
theorem dJ8_checkInvariants_13 : decode cJ8_checkInvariants 13 = .ok (.aload_n 0, 1) := dk_42 (dk_at dksJ8_checkInvariants_0 13 rfl rfl)
theorem dJ8_checkInvariants_14 : decode cJ8_checkInvariants 14 = .ok (.getfield 11, 3) := dk_180 0 11 (dk_at dksJ8_checkInvariants_0 14 rfl rfl)
theorem dJ8_checkInvariants_17 : decode cJ8_checkInvariants 17 = .ok (.aload_n 0, 1) := dk_42 (dk_at dksJ8_checkInvariants_0 17 rfl rfl)
theorem dJ8_checkInvariants_18 : decode cJ8_checkInvariants 18 = .ok (.getfield 7, 3) := dk_180 0 7 (dk_at dksJ8_checkInvariants_0 18 rfl rfl)
theorem dJ8_checkInvariants_21 : decode cJ8_checkInvariants 21 = .ok (.iconst 1, 1) := dk_4 (dk_at dksJ8_checkInvariants_0 21 rfl rfl)
theorem dJ8_checkInvariants_22 : decode cJ8_checkInvariants 22 = .ok (.isub, 1) := dk_100 (dk_at dksJ8_checkInvariants_0 22 rfl rfl)
theorem dJ8_checkInvariants_23 : decode cJ8_checkInvariants 23 = .ok (.laload, 1) := dk_47 (dk_at dksJ8_checkInvariants_0 23 rfl rfl)
theorem dJ8_checkInvariants_24 : decode cJ8_checkInvariants 24 = .ok (.lconst 0, 1) := dk_9 (dk_at dksJ8_checkInvariants_1 0 rfl rfl)
theorem dJ8_checkInvariants_25 : decode cJ8_checkInvariants 25 = .ok (.lcmp, 1) := dk_148 (dk_at dksJ8_checkInvariants_1 1 rfl rfl)
theorem dJ8_checkInvariants_26 : decode cJ8_checkInvariants 26 = .ok (.ifCond .ne 11, 3) := dk_154 0 11 (dk_at dksJ8_checkInvariants_1 2 rfl rfl)
theorem dJ8_checkInvariants_29 : decode cJ8_checkInvariants 29 = .ok (.new 15, 3) := dk_187 0 15 (dk_at dksJ8_checkInvariants_1 5 rfl rfl)
theorem dJ8_checkInvariants_32 : decode cJ8_checkInvariants 32 = .ok (.dup, 1) := dk_89 (dk_at dksJ8_checkInvariants_1 8 rfl rfl)
theorem dJ8_checkInvariants_33 : decode cJ8_checkInvariants 33 = .ok (.invokespecial 17, 3) := dk_183 0 17 (dk_at dksJ8_checkInvariants_1 9 rfl rfl)
theorem dJ8_checkInvariants_36 : decode cJ8_checkInvariants 36 = .ok (.athrow, 1) := dk_191 (dk_at dksJ8_checkInvariants_1 12 rfl rfl)
theorem dJ8_checkInvariants_37 : decode cJ8_checkInvariants 37 = .ok (.getstatic 3, 3) := dk_178 0 3 (dk_at dksJ8_checkInvariants_1 13 rfl rfl)
theorem dJ8_checkInvariants_40 : decode cJ8_checkInvariants 40 = .ok (.ifCond .ne 30, 3) := dk_154 0 30 (dk_at dksJ8_checkInvariants_1 16 rfl rfl)
theorem dJ8_checkInvariants_43 : decode cJ8_checkInvariants 43 = .ok (.aload_n 0, 1) := dk_42 (dk_at dksJ8_checkInvariants_1 19 rfl rfl)
theorem dJ8_checkInvariants_44 : decode cJ8_checkInvariants 44 = .ok (.getfield 7, 3) := dk_180 0 7 (dk_at dksJ8_checkInvariants_1 20 rfl rfl)
theorem dJ8_checkInvariants_47 : decode cJ8_checkInvariants 47 = .ok (.ifCond .lt 15, 3) := dk_155 0 15 (dk_at dksJ8_checkInvariants_2 0 rfl rfl)
theorem dJ8_checkInvariants_50 : decode cJ8_checkInvariants 50 = .ok (.aload_n 0, 1) := dk_42 (dk_at dksJ8_checkInvariants_2 3 rfl rfl)
theorem dJ8_checkInvariants_51 : decode cJ8_checkInvariants 51 = .ok (.getfield 7, 3) := dk_180 0 7 (dk_at dksJ8_checkInvariants_2 4 rfl rfl)
theorem dJ8_checkInvariants_54 : decode cJ8_checkInvariants 54 = .ok (.aload_n 0, 1) := dk_42 (dk_at dksJ8_checkInvariants_2 7 rfl rfl)
theorem dJ8_checkInvariants_55 : decode cJ8_checkInvariants 55 = .ok (.getfield 11, 3) := dk_180 0 11 (dk_at dksJ8_checkInvariants_2 8 rfl rfl)
theorem dJ8_checkInvariants_58 : decode cJ8_checkInvariants 58 = .ok (.arraylength, 1) := dk_190 (dk_at dksJ8_checkInvariants_2 11 rfl rfl)
theorem dJ8_checkInvariants_59 : decode cJ8_checkInvariants 59 = .ok (.if_icmp .le 11, 3) := dk_164 0 11 (dk_at dksJ8_checkInvariants_2 12 rfl rfl)
theorem dJ8_checkInvariants_62 : decode cJ8_checkInvariants 62 = .ok (.new 15, 3) := dk_187 0 15 (dk_at dksJ8_checkInvariants_2 15 rfl rfl)
theorem dJ8_checkInvariants_65 : decode cJ8_checkInvariants 65 = .ok (.dup, 1) := dk_89 (dk_at dksJ8_checkInvariants_2 18 rfl rfl)
theorem dJ8_checkInvariants_66 : decode cJ8_checkInvariants 66 = .ok (.invokespecial 17, 3) := dk_183 0 17 (dk_at dksJ8_checkInvariants_2 19 rfl rfl)
theorem dJ8_checkInvariants_69 : decode cJ8_checkInvariants 69 = .ok (.athrow, 1) := dk_191 (dk_at dksJ8_checkInvariants_2 22 rfl rfl)
theorem dJ8_checkInvariants_70 : decode cJ8_checkInvariants 70 = .ok (.getstatic 3, 3) := dk_178 0 3 (dk_at dksJ8_checkInvariants_3 0 rfl rfl)
theorem dJ8_checkInvariants_73 : decode cJ8_checkInvariants 73 = .ok (.ifCond .ne 37, 3) := dk_154 0 37 (dk_at dksJ8_checkInvariants_3 3 rfl rfl)
theorem dJ8_checkInvariants_76 : decode cJ8_checkInvariants 76 = .ok (.aload_n 0, 1) := dk_42 (dk_at dksJ8_checkInvariants_3 6 rfl rfl)
theorem dJ8_checkInvariants_77 : decode cJ8_checkInvariants 77 = .ok (.getfield 7, 3) := dk_180 0 7 (dk_at dksJ8_checkInvariants_3 7 rfl rfl)
theorem dJ8_checkInvariants_80 : decode cJ8_checkInvariants 80 = .ok (.aload_n 0, 1) := dk_42 (dk_at dksJ8_checkInvariants_3 10 rfl rfl)
theorem dJ8_checkInvariants_81 : decode cJ8_checkInvariants 81 = .ok (.getfield 11, 3) := dk_180 0 11 (dk_at dksJ8_checkInvariants_3 11 rfl rfl)
theorem dJ8_checkInvariants_84 : decode cJ8_checkInvariants 84 = .ok (.arraylength, 1) := dk_190 (dk_at dksJ8_checkInvariants_3 14 rfl rfl)
theorem dJ8_checkInvariants_85 : decode cJ8_checkInvariants 85 = .ok (.if_icmp .eq 25, 3) := dk_159 0 25 (dk_at dksJ8_checkInvariants_3 15 rfl rfl)
theorem dJ8_checkInvariants_88 : decode cJ8_checkInvariants 88 = .ok (.aload_n 0, 1) := dk_42 (dk_at dksJ8_checkInvariants_3 18 rfl rfl)
theorem dJ8_checkInvariants_89 : decode cJ8_checkInvariants 89 = .ok (.getfield 11, 3) := dk_180 0 11 (dk_at dksJ8_checkInvariants_3 19 rfl rfl)
theorem dJ8_checkInvariants_92 : decode cJ8_checkInvariants 92 = .ok (.aload_n 0, 1) := dk_42 (dk_at dksJ8_checkInvariants_3 22 rfl rfl)
theorem dJ8_checkInvariants_93 : decode cJ8_checkInvariants 93 = .ok (.getfield 7, 3) := dk_180 0 7 (dk_at dksJ8_checkInvariants_4 0 rfl rfl)
theorem dJ8_checkInvariants_96 : decode cJ8_checkInvariants 96 = .ok (.laload, 1) := dk_47 (dk_at dksJ8_checkInvariants_4 3 rfl rfl)
theorem dJ8_checkInvariants_97 : decode cJ8_checkInvariants 97 = .ok (.lconst 0, 1) := dk_9 (dk_at dksJ8_checkInvariants_4 4 rfl rfl)
theorem dJ8_checkInvariants_98 : decode cJ8_checkInvariants 98 = .ok (.lcmp, 1) := dk_148 (dk_at dksJ8_checkInvariants_4 5 rfl rfl)
theorem dJ8_checkInvariants_99 : decode cJ8_checkInvariants 99 = .ok (.ifCond .eq 11, 3) := dk_153 0 11 (dk_at dksJ8_checkInvariants_4 6 rfl rfl)
theorem dJ8_checkInvariants_102 : decode cJ8_checkInvariants 102 = .ok (.new 15, 3) := dk_187 0 15 (dk_at dksJ8_checkInvariants_4 9 rfl rfl)
theorem dJ8_checkInvariants_105 : decode cJ8_checkInvariants 105 = .ok (.dup, 1) := dk_89 (dk_at dksJ8_checkInvariants_4 12 rfl rfl)
theorem dJ8_checkInvariants_106 : decode cJ8_checkInvariants 106 = .ok (.invokespecial 17, 3) := dk_183 0 17 (dk_at dksJ8_checkInvariants_4 13 rfl rfl)
theorem dJ8_checkInvariants_109 : decode cJ8_checkInvariants 109 = .ok (.athrow, 1) := dk_191 (dk_at dksJ8_checkInvariants_4 16 rfl rfl)
theorem dJ8_checkInvariants_110 : decode cJ8_checkInvariants 110 = .ok (.return_, 1) := dk_177 (dk_at dksJ8_checkInvariants_4 17 rfl rfl)
abbrev cJ8_nextSetBit : ByteArray := prog_53_method_28_code
def yJ8_nextSetBit : MethodName := ⟨RJ8, "nextSetBit", "(I)I"⟩
def dkwJ8_nextSetBit_4 : List UInt8 := [28, 47, 66, 167, 255, 220]
abbrev dktJ8_nextSetBit_4 : List UInt8 := dkwJ8_nextSetBit_4 ++ []
def dkwJ8_nextSetBit_3 : List UInt8 := [104, 33, 184, 0, 182, 96, 172, 132, 2, 1, 28, 42, 180, 0, 7, 160, 0, 5, 2, 172, 42, 180, 0, 11]
abbrev dktJ8_nextSetBit_3 : List UInt8 := dkwJ8_nextSetBit_3 ++ dktJ8_nextSetBit_4
def dkwJ8_nextSetBit_2 : List UInt8 := [2, 172, 42, 180, 0, 11, 28, 47, 20, 0, 165, 27, 121, 127, 66, 33, 9, 148, 153, 0, 13, 28, 16, 64]
abbrev dktJ8_nextSetBit_2 : List UInt8 := dkwJ8_nextSetBit_2 ++ dktJ8_nextSetBit_3
def dkwJ8_nextSetBit_1 : List UInt8 := [182, 0, 45, 183, 0, 146, 191, 42, 182, 0, 56, 27, 184, 0, 52, 61, 28, 42, 180, 0, 7, 161, 0, 5]
abbrev dktJ8_nextSetBit_1 : List UInt8 := dkwJ8_nextSetBit_1 ++ dktJ8_nextSetBit_2
def dkwJ8_nextSetBit_0 : List UInt8 := [27, 156, 0, 30, 187, 0, 142, 89, 187, 0, 33, 89, 183, 0, 35, 18, 144, 182, 0, 38, 27, 182, 0, 42]
abbrev dktJ8_nextSetBit_0 : List UInt8 := dkwJ8_nextSetBit_0 ++ dktJ8_nextSetBit_1
theorem dksJ8_nextSetBit_0 : cJ8_nextSetBit.data.toList.drop 0 = dktJ8_nextSetBit_0 := by decide +kernel
theorem dksJ8_nextSetBit_1 : cJ8_nextSetBit.data.toList.drop 24 = dktJ8_nextSetBit_1 := dk_seg dksJ8_nextSetBit_0 24 rfl rfl
theorem dksJ8_nextSetBit_2 : cJ8_nextSetBit.data.toList.drop 48 = dktJ8_nextSetBit_2 := dk_seg dksJ8_nextSetBit_1 24 rfl rfl
theorem dksJ8_nextSetBit_3 : cJ8_nextSetBit.data.toList.drop 72 = dktJ8_nextSetBit_3 := dk_seg dksJ8_nextSetBit_2 24 rfl rfl
theorem dksJ8_nextSetBit_4 : cJ8_nextSetBit.data.toList.drop 96 = dktJ8_nextSetBit_4 := dk_seg dksJ8_nextSetBit_3 24 rfl rfl
theorem dJ8_nextSetBit_0 : decode cJ8_nextSetBit 0 = .ok (.iload_n 1, 1) := dk_27 (dk_at dksJ8_nextSetBit_0 0 rfl rfl)
theorem dJ8_nextSetBit_1 : decode cJ8_nextSetBit 1 = .ok (.ifCond .ge 30, 3) := dk_156 0 30 (dk_at dksJ8_nextSetBit_0 1 rfl rfl)
theorem dJ8_nextSetBit_4 : decode cJ8_nextSetBit 4 = .ok (.new 142, 3) := dk_187 0 142 (dk_at dksJ8_nextSetBit_0 4 rfl rfl)
theorem dJ8_nextSetBit_7 : decode cJ8_nextSetBit 7 = .ok (.dup, 1) := dk_89 (dk_at dksJ8_nextSetBit_0 7 rfl rfl)
theorem dJ8_nextSetBit_8 : decode cJ8_nextSetBit 8 = .ok (.new 33, 3) := dk_187 0 33 (dk_at dksJ8_nextSetBit_0 8 rfl rfl)
theorem dJ8_nextSetBit_11 : decode cJ8_nextSetBit 11 = .ok (.dup, 1) := dk_89 (dk_at dksJ8_nextSetBit_0 11 rfl rfl)
theorem dJ8_nextSetBit_12 : decode cJ8_nextSetBit 12 = .ok (.invokespecial 35, 3) := dk_183 0 35 (dk_at dksJ8_nextSetBit_0 12 rfl rfl)
theorem dJ8_nextSetBit_15 : decode cJ8_nextSetBit 15 = .ok (.ldc 144, 2) := dk_18 144 (dk_at dksJ8_nextSetBit_0 15 rfl rfl)
theorem dJ8_nextSetBit_17 : decode cJ8_nextSetBit 17 = .ok (.invokevirtual 38, 3) := dk_182 0 38 (dk_at dksJ8_nextSetBit_0 17 rfl rfl)
theorem dJ8_nextSetBit_20 : decode cJ8_nextSetBit 20 = .ok (.iload_n 1, 1) := dk_27 (dk_at dksJ8_nextSetBit_0 20 rfl rfl)
theorem dJ8_nextSetBit_21 : decode cJ8_nextSetBit 21 = .ok (.invokevirtual 42, 3) := dk_182 0 42 (dk_at dksJ8_nextSetBit_0 21 rfl rfl)
theorem dJ8_nextSetBit_24 : decode cJ8_nextSetBit 24 = .ok (.invokevirtual 45, 3) := dk_182 0 45 (dk_at dksJ8_nextSetBit_1 0 rfl rfl)
theorem dJ8_nextSetBit_27 : decode cJ8_nextSetBit 27 = .ok (.invokespecial 146, 3) := dk_183 0 146 (dk_at dksJ8_nextSetBit_1 3 rfl rfl)
theorem dJ8_nextSetBit_30 : decode cJ8_nextSetBit 30 = .ok (.athrow, 1) := dk_191 (dk_at dksJ8_nextSetBit_1 6 rfl rfl)
theorem dJ8_nextSetBit_31 : decode cJ8_nextSetBit 31 = .ok (.aload_n 0, 1) := dk_42 (dk_at dksJ8_nextSetBit_1 7 rfl rfl)
theorem dJ8_nextSetBit_32 : decode cJ8_nextSetBit 32 = .ok (.invokevirtual 56, 3) := dk_182 0 56 (dk_at dksJ8_nextSetBit_1 8 rfl rfl)
theorem dJ8_nextSetBit_35 : decode cJ8_nextSetBit 35 = .ok (.iload_n 1, 1) := dk_27 (dk_at dksJ8_nextSetBit_1 11 rfl rfl)
theorem dJ8_nextSetBit_36 : decode cJ8_nextSetBit 36 = .ok (.invokestatic 52, 3) := dk_184 0 52 (dk_at dksJ8_nextSetBit_1 12 rfl rfl)
theorem dJ8_nextSetBit_39 : decode cJ8_nextSetBit 39 = .ok (.istore_n 2, 1) := dk_61 (dk_at dksJ8_nextSetBit_1 15 rfl rfl)
theorem dJ8_nextSetBit_40 : decode cJ8_nextSetBit 40 = .ok (.iload_n 2, 1) := dk_28 (dk_at dksJ8_nextSetBit_1 16 rfl rfl)
theorem dJ8_nextSetBit_41 : decode cJ8_nextSetBit 41 = .ok (.aload_n 0, 1) := dk_42 (dk_at dksJ8_nextSetBit_1 17 rfl rfl)
theorem dJ8_nextSetBit_42 : decode cJ8_nextSetBit 42 = .ok (.getfield 7, 3) := dk_180 0 7 (dk_at dksJ8_nextSetBit_1 18 rfl rfl)
theorem dJ8_nextSetBit_45 : decode cJ8_nextSetBit 45 = .ok (.if_icmp .lt 5, 3) := dk_161 0 5 (dk_at dksJ8_nextSetBit_1 21 rfl rfl)
theorem dJ8_nextSetBit_48 : decode cJ8_nextSetBit 48 = .ok (.iconst (-1), 1) := dk_2 (dk_at dksJ8_nextSetBit_2 0 rfl rfl)
theorem dJ8_nextSetBit_49 : decode cJ8_nextSetBit 49 = .ok (.ireturn, 1) := dk_172 (dk_at dksJ8_nextSetBit_2 1 rfl rfl)
theorem dJ8_nextSetBit_50 : decode cJ8_nextSetBit 50 = .ok (.aload_n 0, 1) := dk_42 (dk_at dksJ8_nextSetBit_2 2 rfl rfl)
theorem dJ8_nextSetBit_51 : decode cJ8_nextSetBit 51 = .ok (.getfield 11, 3) := dk_180 0 11 (dk_at dksJ8_nextSetBit_2 3 rfl rfl)
theorem dJ8_nextSetBit_54 : decode cJ8_nextSetBit 54 = .ok (.iload_n 2, 1) := dk_28 (dk_at dksJ8_nextSetBit_2 6 rfl rfl)
theorem dJ8_nextSetBit_55 : decode cJ8_nextSetBit 55 = .ok (.laload, 1) := dk_47 (dk_at dksJ8_nextSetBit_2 7 rfl rfl)
theorem dJ8_nextSetBit_56 : decode cJ8_nextSetBit 56 = .ok (.ldc2_w 165, 3) := dk_20 0 165 (dk_at dksJ8_nextSetBit_2 8 rfl rfl)
theorem dJ8_nextSetBit_59 : decode cJ8_nextSetBit 59 = .ok (.iload_n 1, 1) := dk_27 (dk_at dksJ8_nextSetBit_2 11 rfl rfl)
theorem dJ8_nextSetBit_60 : decode cJ8_nextSetBit 60 = .ok (.lshl, 1) := dk_121 (dk_at dksJ8_nextSetBit_2 12 rfl rfl)
theorem dJ8_nextSetBit_61 : decode cJ8_nextSetBit 61 = .ok (.land, 1) := dk_127 (dk_at dksJ8_nextSetBit_2 13 rfl rfl)
theorem dJ8_nextSetBit_62 : decode cJ8_nextSetBit 62 = .ok (.lstore_n 3, 1) := dk_66 (dk_at dksJ8_nextSetBit_2 14 rfl rfl)
theorem dJ8_nextSetBit_63 : decode cJ8_nextSetBit 63 = .ok (.lload_n 3, 1) := dk_33 (dk_at dksJ8_nextSetBit_2 15 rfl rfl)
theorem dJ8_nextSetBit_64 : decode cJ8_nextSetBit 64 = .ok (.lconst 0, 1) := dk_9 (dk_at dksJ8_nextSetBit_2 16 rfl rfl)
theorem dJ8_nextSetBit_65 : decode cJ8_nextSetBit 65 = .ok (.lcmp, 1) := dk_148 (dk_at dksJ8_nextSetBit_2 17 rfl rfl)
theorem dJ8_nextSetBit_66 : decode cJ8_nextSetBit 66 = .ok (.ifCond .eq 13, 3) := dk_153 0 13 (dk_at dksJ8_nextSetBit_2 18 rfl rfl)
theorem dJ8_nextSetBit_69 : decode cJ8_nextSetBit 69 = .ok (.iload_n 2, 1) := dk_28 (dk_at dksJ8_nextSetBit_2 21 rfl rfl)
theorem dJ8_nextSetBit_70 : decode cJ8_nextSetBit 70 = .ok (.bipush 64, 2) := dk_16 64 (dk_at dksJ8_nextSetBit_2 22 rfl rfl)
theorem dJ8_nextSetBit_72 : decode cJ8_nextSetBit 72 = .ok (.imul, 1) := dk_104 (dk_at dksJ8_nextSetBit_3 0 rfl rfl)
theorem dJ8_nextSetBit_73 : decode cJ8_nextSetBit 73 = .ok (.lload_n 3, 1) := dk_33 (dk_at dksJ8_nextSetBit_3 1 rfl rfl)
theorem dJ8_nextSetBit_74 : decode cJ8_nextSetBit 74 = .ok (.invokestatic 182, 3) := dk_184 0 182 (dk_at dksJ8_nextSetBit_3 2 rfl rfl)
theorem dJ8_nextSetBit_77 : decode cJ8_nextSetBit 77 = .ok (.iadd, 1) := dk_96 (dk_at dksJ8_nextSetBit_3 5 rfl rfl)
theorem dJ8_nextSetBit_78 : decode cJ8_nextSetBit 78 = .ok (.ireturn, 1) := dk_172 (dk_at dksJ8_nextSetBit_3 6 rfl rfl)
theorem dJ8_nextSetBit_79 : decode cJ8_nextSetBit 79 = .ok (.iinc 2 1, 3) := dk_132 2 1 (dk_at dksJ8_nextSetBit_3 7 rfl rfl)
theorem dJ8_nextSetBit_82 : decode cJ8_nextSetBit 82 = .ok (.iload_n 2, 1) := dk_28 (dk_at dksJ8_nextSetBit_3 10 rfl rfl)
theorem dJ8_nextSetBit_83 : decode cJ8_nextSetBit 83 = .ok (.aload_n 0, 1) := dk_42 (dk_at dksJ8_nextSetBit_3 11 rfl rfl)
theorem dJ8_nextSetBit_84 : decode cJ8_nextSetBit 84 = .ok (.getfield 7, 3) := dk_180 0 7 (dk_at dksJ8_nextSetBit_3 12 rfl rfl)
theorem dJ8_nextSetBit_87 : decode cJ8_nextSetBit 87 = .ok (.if_icmp .ne 5, 3) := dk_160 0 5 (dk_at dksJ8_nextSetBit_3 15 rfl rfl)
theorem dJ8_nextSetBit_90 : decode cJ8_nextSetBit 90 = .ok (.iconst (-1), 1) := dk_2 (dk_at dksJ8_nextSetBit_3 18 rfl rfl)
theorem dJ8_nextSetBit_91 : decode cJ8_nextSetBit 91 = .ok (.ireturn, 1) := dk_172 (dk_at dksJ8_nextSetBit_3 19 rfl rfl)
theorem dJ8_nextSetBit_92 : decode cJ8_nextSetBit 92 = .ok (.aload_n 0, 1) := dk_42 (dk_at dksJ8_nextSetBit_3 20 rfl rfl)
theorem dJ8_nextSetBit_93 : decode cJ8_nextSetBit 93 = .ok (.getfield 11, 3) := dk_180 0 11 (dk_at dksJ8_nextSetBit_3 21 rfl rfl)
theorem dJ8_nextSetBit_96 : decode cJ8_nextSetBit 96 = .ok (.iload_n 2, 1) := dk_28 (dk_at dksJ8_nextSetBit_4 0 rfl rfl)
theorem dJ8_nextSetBit_97 : decode cJ8_nextSetBit 97 = .ok (.laload, 1) := dk_47 (dk_at dksJ8_nextSetBit_4 1 rfl rfl)
theorem dJ8_nextSetBit_98 : decode cJ8_nextSetBit 98 = .ok (.lstore_n 3, 1) := dk_66 (dk_at dksJ8_nextSetBit_4 2 rfl rfl)
theorem dJ8_nextSetBit_99 : decode cJ8_nextSetBit 99 = .ok (.goto (-36), 3) := dk_167 255 220 (dk_at dksJ8_nextSetBit_4 3 rfl rfl)
abbrev cJ8_cardinality : ByteArray := prog_53_method_35_code
def yJ8_cardinality : MethodName := ⟨RJ8, "cardinality", "()I"⟩
def dkwJ8_cardinality_1 : List UInt8 := [132, 2, 1, 167, 255, 233, 27, 172]
abbrev dktJ8_cardinality_1 : List UInt8 := dkwJ8_cardinality_1 ++ []
def dkwJ8_cardinality_0 : List UInt8 := [3, 60, 3, 61, 28, 42, 180, 0, 7, 162, 0, 21, 27, 42, 180, 0, 11, 28, 47, 184, 0, 196, 96, 60]
abbrev dktJ8_cardinality_0 : List UInt8 := dkwJ8_cardinality_0 ++ dktJ8_cardinality_1
theorem dksJ8_cardinality_0 : cJ8_cardinality.data.toList.drop 0 = dktJ8_cardinality_0 := by decide +kernel
theorem dksJ8_cardinality_1 : cJ8_cardinality.data.toList.drop 24 = dktJ8_cardinality_1 := dk_seg dksJ8_cardinality_0 24 rfl rfl
theorem dJ8_cardinality_0 : decode cJ8_cardinality 0 = .ok (.iconst 0, 1) := dk_3 (dk_at dksJ8_cardinality_0 0 rfl rfl)
theorem dJ8_cardinality_1 : decode cJ8_cardinality 1 = .ok (.istore_n 1, 1) := dk_60 (dk_at dksJ8_cardinality_0 1 rfl rfl)
theorem dJ8_cardinality_2 : decode cJ8_cardinality 2 = .ok (.iconst 0, 1) := dk_3 (dk_at dksJ8_cardinality_0 2 rfl rfl)
theorem dJ8_cardinality_3 : decode cJ8_cardinality 3 = .ok (.istore_n 2, 1) := dk_61 (dk_at dksJ8_cardinality_0 3 rfl rfl)
theorem dJ8_cardinality_4 : decode cJ8_cardinality 4 = .ok (.iload_n 2, 1) := dk_28 (dk_at dksJ8_cardinality_0 4 rfl rfl)
theorem dJ8_cardinality_5 : decode cJ8_cardinality 5 = .ok (.aload_n 0, 1) := dk_42 (dk_at dksJ8_cardinality_0 5 rfl rfl)
theorem dJ8_cardinality_6 : decode cJ8_cardinality 6 = .ok (.getfield 7, 3) := dk_180 0 7 (dk_at dksJ8_cardinality_0 6 rfl rfl)
theorem dJ8_cardinality_9 : decode cJ8_cardinality 9 = .ok (.if_icmp .ge 21, 3) := dk_162 0 21 (dk_at dksJ8_cardinality_0 9 rfl rfl)
theorem dJ8_cardinality_12 : decode cJ8_cardinality 12 = .ok (.iload_n 1, 1) := dk_27 (dk_at dksJ8_cardinality_0 12 rfl rfl)
theorem dJ8_cardinality_13 : decode cJ8_cardinality 13 = .ok (.aload_n 0, 1) := dk_42 (dk_at dksJ8_cardinality_0 13 rfl rfl)
theorem dJ8_cardinality_14 : decode cJ8_cardinality 14 = .ok (.getfield 11, 3) := dk_180 0 11 (dk_at dksJ8_cardinality_0 14 rfl rfl)
theorem dJ8_cardinality_17 : decode cJ8_cardinality 17 = .ok (.iload_n 2, 1) := dk_28 (dk_at dksJ8_cardinality_0 17 rfl rfl)
theorem dJ8_cardinality_18 : decode cJ8_cardinality 18 = .ok (.laload, 1) := dk_47 (dk_at dksJ8_cardinality_0 18 rfl rfl)
theorem dJ8_cardinality_19 : decode cJ8_cardinality 19 = .ok (.invokestatic 196, 3) := dk_184 0 196 (dk_at dksJ8_cardinality_0 19 rfl rfl)
theorem dJ8_cardinality_22 : decode cJ8_cardinality 22 = .ok (.iadd, 1) := dk_96 (dk_at dksJ8_cardinality_0 22 rfl rfl)
theorem dJ8_cardinality_23 : decode cJ8_cardinality 23 = .ok (.istore_n 1, 1) := dk_60 (dk_at dksJ8_cardinality_0 23 rfl rfl)
theorem dJ8_cardinality_24 : decode cJ8_cardinality 24 = .ok (.iinc 2 1, 3) := dk_132 2 1 (dk_at dksJ8_cardinality_1 0 rfl rfl)
theorem dJ8_cardinality_27 : decode cJ8_cardinality 27 = .ok (.goto (-23), 3) := dk_167 255 233 (dk_at dksJ8_cardinality_1 3 rfl rfl)
theorem dJ8_cardinality_30 : decode cJ8_cardinality 30 = .ok (.iload_n 1, 1) := dk_27 (dk_at dksJ8_cardinality_1 6 rfl rfl)
theorem dJ8_cardinality_31 : decode cJ8_cardinality 31 = .ok (.ireturn, 1) := dk_172 (dk_at dksJ8_cardinality_1 7 rfl rfl)
abbrev cJ8_get : ByteArray := prog_53_method_26_code
def yJ8_get : MethodName := ⟨RJ8, "get", "(I)Z"⟩
def dkwJ8_get_2 : List UInt8 := [42, 180, 0, 11, 28, 47, 10, 27, 121, 127, 9, 148, 153, 0, 7, 4, 167, 0, 4, 3, 172]
abbrev dktJ8_get_2 : List UInt8 := dkwJ8_get_2 ++ []
def dkwJ8_get_1 : List UInt8 := [182, 0, 45, 183, 0, 146, 191, 42, 182, 0, 56, 27, 184, 0, 52, 61, 28, 42, 180, 0, 7, 162, 0, 22]
abbrev dktJ8_get_1 : List UInt8 := dkwJ8_get_1 ++ dktJ8_get_2
def dkwJ8_get_0 : List UInt8 := [27, 156, 0, 30, 187, 0, 142, 89, 187, 0, 33, 89, 183, 0, 35, 18, 153, 182, 0, 38, 27, 182, 0, 42]
abbrev dktJ8_get_0 : List UInt8 := dkwJ8_get_0 ++ dktJ8_get_1
theorem dksJ8_get_0 : cJ8_get.data.toList.drop 0 = dktJ8_get_0 := by decide +kernel
theorem dksJ8_get_1 : cJ8_get.data.toList.drop 24 = dktJ8_get_1 := dk_seg dksJ8_get_0 24 rfl rfl
theorem dksJ8_get_2 : cJ8_get.data.toList.drop 48 = dktJ8_get_2 := dk_seg dksJ8_get_1 24 rfl rfl
theorem dJ8_get_0 : decode cJ8_get 0 = .ok (.iload_n 1, 1) := dk_27 (dk_at dksJ8_get_0 0 rfl rfl)
theorem dJ8_get_1 : decode cJ8_get 1 = .ok (.ifCond .ge 30, 3) := dk_156 0 30 (dk_at dksJ8_get_0 1 rfl rfl)
theorem dJ8_get_4 : decode cJ8_get 4 = .ok (.new 142, 3) := dk_187 0 142 (dk_at dksJ8_get_0 4 rfl rfl)
theorem dJ8_get_7 : decode cJ8_get 7 = .ok (.dup, 1) := dk_89 (dk_at dksJ8_get_0 7 rfl rfl)
theorem dJ8_get_8 : decode cJ8_get 8 = .ok (.new 33, 3) := dk_187 0 33 (dk_at dksJ8_get_0 8 rfl rfl)
theorem dJ8_get_11 : decode cJ8_get 11 = .ok (.dup, 1) := dk_89 (dk_at dksJ8_get_0 11 rfl rfl)
theorem dJ8_get_12 : decode cJ8_get 12 = .ok (.invokespecial 35, 3) := dk_183 0 35 (dk_at dksJ8_get_0 12 rfl rfl)
theorem dJ8_get_15 : decode cJ8_get 15 = .ok (.ldc 153, 2) := dk_18 153 (dk_at dksJ8_get_0 15 rfl rfl)
theorem dJ8_get_17 : decode cJ8_get 17 = .ok (.invokevirtual 38, 3) := dk_182 0 38 (dk_at dksJ8_get_0 17 rfl rfl)
theorem dJ8_get_20 : decode cJ8_get 20 = .ok (.iload_n 1, 1) := dk_27 (dk_at dksJ8_get_0 20 rfl rfl)
theorem dJ8_get_21 : decode cJ8_get 21 = .ok (.invokevirtual 42, 3) := dk_182 0 42 (dk_at dksJ8_get_0 21 rfl rfl)
theorem dJ8_get_24 : decode cJ8_get 24 = .ok (.invokevirtual 45, 3) := dk_182 0 45 (dk_at dksJ8_get_1 0 rfl rfl)
theorem dJ8_get_27 : decode cJ8_get 27 = .ok (.invokespecial 146, 3) := dk_183 0 146 (dk_at dksJ8_get_1 3 rfl rfl)
theorem dJ8_get_30 : decode cJ8_get 30 = .ok (.athrow, 1) := dk_191 (dk_at dksJ8_get_1 6 rfl rfl)
theorem dJ8_get_31 : decode cJ8_get 31 = .ok (.aload_n 0, 1) := dk_42 (dk_at dksJ8_get_1 7 rfl rfl)
theorem dJ8_get_32 : decode cJ8_get 32 = .ok (.invokevirtual 56, 3) := dk_182 0 56 (dk_at dksJ8_get_1 8 rfl rfl)
theorem dJ8_get_35 : decode cJ8_get 35 = .ok (.iload_n 1, 1) := dk_27 (dk_at dksJ8_get_1 11 rfl rfl)
theorem dJ8_get_36 : decode cJ8_get 36 = .ok (.invokestatic 52, 3) := dk_184 0 52 (dk_at dksJ8_get_1 12 rfl rfl)
theorem dJ8_get_39 : decode cJ8_get 39 = .ok (.istore_n 2, 1) := dk_61 (dk_at dksJ8_get_1 15 rfl rfl)
theorem dJ8_get_40 : decode cJ8_get 40 = .ok (.iload_n 2, 1) := dk_28 (dk_at dksJ8_get_1 16 rfl rfl)
theorem dJ8_get_41 : decode cJ8_get 41 = .ok (.aload_n 0, 1) := dk_42 (dk_at dksJ8_get_1 17 rfl rfl)
theorem dJ8_get_42 : decode cJ8_get 42 = .ok (.getfield 7, 3) := dk_180 0 7 (dk_at dksJ8_get_1 18 rfl rfl)
theorem dJ8_get_45 : decode cJ8_get 45 = .ok (.if_icmp .ge 22, 3) := dk_162 0 22 (dk_at dksJ8_get_1 21 rfl rfl)
theorem dJ8_get_48 : decode cJ8_get 48 = .ok (.aload_n 0, 1) := dk_42 (dk_at dksJ8_get_2 0 rfl rfl)
theorem dJ8_get_49 : decode cJ8_get 49 = .ok (.getfield 11, 3) := dk_180 0 11 (dk_at dksJ8_get_2 1 rfl rfl)
theorem dJ8_get_52 : decode cJ8_get 52 = .ok (.iload_n 2, 1) := dk_28 (dk_at dksJ8_get_2 4 rfl rfl)
theorem dJ8_get_53 : decode cJ8_get 53 = .ok (.laload, 1) := dk_47 (dk_at dksJ8_get_2 5 rfl rfl)
theorem dJ8_get_54 : decode cJ8_get 54 = .ok (.lconst 1, 1) := dk_10 (dk_at dksJ8_get_2 6 rfl rfl)
theorem dJ8_get_55 : decode cJ8_get 55 = .ok (.iload_n 1, 1) := dk_27 (dk_at dksJ8_get_2 7 rfl rfl)
theorem dJ8_get_56 : decode cJ8_get 56 = .ok (.lshl, 1) := dk_121 (dk_at dksJ8_get_2 8 rfl rfl)
theorem dJ8_get_57 : decode cJ8_get 57 = .ok (.land, 1) := dk_127 (dk_at dksJ8_get_2 9 rfl rfl)
theorem dJ8_get_58 : decode cJ8_get 58 = .ok (.lconst 0, 1) := dk_9 (dk_at dksJ8_get_2 10 rfl rfl)
theorem dJ8_get_59 : decode cJ8_get 59 = .ok (.lcmp, 1) := dk_148 (dk_at dksJ8_get_2 11 rfl rfl)
theorem dJ8_get_60 : decode cJ8_get 60 = .ok (.ifCond .eq 7, 3) := dk_153 0 7 (dk_at dksJ8_get_2 12 rfl rfl)
theorem dJ8_get_63 : decode cJ8_get 63 = .ok (.iconst 1, 1) := dk_4 (dk_at dksJ8_get_2 15 rfl rfl)
theorem dJ8_get_64 : decode cJ8_get 64 = .ok (.goto 4, 3) := dk_167 0 4 (dk_at dksJ8_get_2 16 rfl rfl)
theorem dJ8_get_67 : decode cJ8_get 67 = .ok (.iconst 0, 1) := dk_3 (dk_at dksJ8_get_2 19 rfl rfl)
theorem dJ8_get_68 : decode cJ8_get 68 = .ok (.ireturn, 1) := dk_172 (dk_at dksJ8_get_2 20 rfl rfl)
abbrev cJ8_set : ByteArray := prog_53_method_19_code
def yJ8_set : MethodName := ⟨RJ8, "set", "(I)V"⟩
def dkwJ8_set_2 : List UInt8 := [10, 27, 121, 129, 80, 42, 182, 0, 56, 177]
abbrev dktJ8_set_2 : List UInt8 := dkwJ8_set_2 ++ []
def dkwJ8_set_1 : List UInt8 := [182, 0, 45, 183, 0, 146, 191, 27, 184, 0, 52, 61, 42, 28, 182, 0, 155, 42, 180, 0, 11, 28, 92, 47]
abbrev dktJ8_set_1 : List UInt8 := dkwJ8_set_1 ++ dktJ8_set_2
def dkwJ8_set_0 : List UInt8 := [27, 156, 0, 30, 187, 0, 142, 89, 187, 0, 33, 89, 183, 0, 35, 18, 153, 182, 0, 38, 27, 182, 0, 42]
abbrev dktJ8_set_0 : List UInt8 := dkwJ8_set_0 ++ dktJ8_set_1
theorem dksJ8_set_0 : cJ8_set.data.toList.drop 0 = dktJ8_set_0 := by decide +kernel
theorem dksJ8_set_1 : cJ8_set.data.toList.drop 24 = dktJ8_set_1 := dk_seg dksJ8_set_0 24 rfl rfl
theorem dksJ8_set_2 : cJ8_set.data.toList.drop 48 = dktJ8_set_2 := dk_seg dksJ8_set_1 24 rfl rfl
theorem dJ8_set_0 : decode cJ8_set 0 = .ok (.iload_n 1, 1) := dk_27 (dk_at dksJ8_set_0 0 rfl rfl)
theorem dJ8_set_1 : decode cJ8_set 1 = .ok (.ifCond .ge 30, 3) := dk_156 0 30 (dk_at dksJ8_set_0 1 rfl rfl)
theorem dJ8_set_4 : decode cJ8_set 4 = .ok (.new 142, 3) := dk_187 0 142 (dk_at dksJ8_set_0 4 rfl rfl)
theorem dJ8_set_7 : decode cJ8_set 7 = .ok (.dup, 1) := dk_89 (dk_at dksJ8_set_0 7 rfl rfl)
theorem dJ8_set_8 : decode cJ8_set 8 = .ok (.new 33, 3) := dk_187 0 33 (dk_at dksJ8_set_0 8 rfl rfl)
theorem dJ8_set_11 : decode cJ8_set 11 = .ok (.dup, 1) := dk_89 (dk_at dksJ8_set_0 11 rfl rfl)
theorem dJ8_set_12 : decode cJ8_set 12 = .ok (.invokespecial 35, 3) := dk_183 0 35 (dk_at dksJ8_set_0 12 rfl rfl)
theorem dJ8_set_15 : decode cJ8_set 15 = .ok (.ldc 153, 2) := dk_18 153 (dk_at dksJ8_set_0 15 rfl rfl)
theorem dJ8_set_17 : decode cJ8_set 17 = .ok (.invokevirtual 38, 3) := dk_182 0 38 (dk_at dksJ8_set_0 17 rfl rfl)
theorem dJ8_set_20 : decode cJ8_set 20 = .ok (.iload_n 1, 1) := dk_27 (dk_at dksJ8_set_0 20 rfl rfl)
theorem dJ8_set_21 : decode cJ8_set 21 = .ok (.invokevirtual 42, 3) := dk_182 0 42 (dk_at dksJ8_set_0 21 rfl rfl)
theorem dJ8_set_24 : decode cJ8_set 24 = .ok (.invokevirtual 45, 3) := dk_182 0 45 (dk_at dksJ8_set_1 0 rfl rfl)
theorem dJ8_set_27 : decode cJ8_set 27 = .ok (.invokespecial 146, 3) := dk_183 0 146 (dk_at dksJ8_set_1 3 rfl rfl)
theorem dJ8_set_30 : decode cJ8_set 30 = .ok (.athrow, 1) := dk_191 (dk_at dksJ8_set_1 6 rfl rfl)
theorem dJ8_set_31 : decode cJ8_set 31 = .ok (.iload_n 1, 1) := dk_27 (dk_at dksJ8_set_1 7 rfl rfl)
theorem dJ8_set_32 : decode cJ8_set 32 = .ok (.invokestatic 52, 3) := dk_184 0 52 (dk_at dksJ8_set_1 8 rfl rfl)
theorem dJ8_set_35 : decode cJ8_set 35 = .ok (.istore_n 2, 1) := dk_61 (dk_at dksJ8_set_1 11 rfl rfl)
theorem dJ8_set_36 : decode cJ8_set 36 = .ok (.aload_n 0, 1) := dk_42 (dk_at dksJ8_set_1 12 rfl rfl)
theorem dJ8_set_37 : decode cJ8_set 37 = .ok (.iload_n 2, 1) := dk_28 (dk_at dksJ8_set_1 13 rfl rfl)
theorem dJ8_set_38 : decode cJ8_set 38 = .ok (.invokevirtual 155, 3) := dk_182 0 155 (dk_at dksJ8_set_1 14 rfl rfl)
theorem dJ8_set_41 : decode cJ8_set 41 = .ok (.aload_n 0, 1) := dk_42 (dk_at dksJ8_set_1 17 rfl rfl)
theorem dJ8_set_42 : decode cJ8_set 42 = .ok (.getfield 11, 3) := dk_180 0 11 (dk_at dksJ8_set_1 18 rfl rfl)
theorem dJ8_set_45 : decode cJ8_set 45 = .ok (.iload_n 2, 1) := dk_28 (dk_at dksJ8_set_1 21 rfl rfl)
theorem dJ8_set_46 : decode cJ8_set 46 = .ok (.dup2, 1) := dk_92 (dk_at dksJ8_set_1 22 rfl rfl)
theorem dJ8_set_47 : decode cJ8_set 47 = .ok (.laload, 1) := dk_47 (dk_at dksJ8_set_1 23 rfl rfl)
theorem dJ8_set_48 : decode cJ8_set 48 = .ok (.lconst 1, 1) := dk_10 (dk_at dksJ8_set_2 0 rfl rfl)
theorem dJ8_set_49 : decode cJ8_set 49 = .ok (.iload_n 1, 1) := dk_27 (dk_at dksJ8_set_2 1 rfl rfl)
theorem dJ8_set_50 : decode cJ8_set 50 = .ok (.lshl, 1) := dk_121 (dk_at dksJ8_set_2 2 rfl rfl)
theorem dJ8_set_51 : decode cJ8_set 51 = .ok (.lor, 1) := dk_129 (dk_at dksJ8_set_2 3 rfl rfl)
theorem dJ8_set_52 : decode cJ8_set 52 = .ok (.lastore, 1) := dk_80 (dk_at dksJ8_set_2 4 rfl rfl)
theorem dJ8_set_53 : decode cJ8_set 53 = .ok (.aload_n 0, 1) := dk_42 (dk_at dksJ8_set_2 5 rfl rfl)
theorem dJ8_set_54 : decode cJ8_set 54 = .ok (.invokevirtual 56, 3) := dk_182 0 56 (dk_at dksJ8_set_2 6 rfl rfl)
theorem dJ8_set_57 : decode cJ8_set 57 = .ok (.return_, 1) := dk_177 (dk_at dksJ8_set_2 9 rfl rfl)
abbrev cJ8_expandTo : ByteArray := prog_53_method_15_code
def yJ8_expandTo : MethodName := ⟨RJ8, "expandTo", "(I)V"⟩
def dkwJ8_expandTo_0 : List UInt8 := [27, 4, 96, 61, 42, 180, 0, 7, 28, 162, 0, 13, 42, 28, 182, 0, 139, 42, 28, 181, 0, 7, 177]
abbrev dktJ8_expandTo_0 : List UInt8 := dkwJ8_expandTo_0 ++ []
theorem dksJ8_expandTo_0 : cJ8_expandTo.data.toList.drop 0 = dktJ8_expandTo_0 := by decide +kernel
theorem dJ8_expandTo_0 : decode cJ8_expandTo 0 = .ok (.iload_n 1, 1) := dk_27 (dk_at dksJ8_expandTo_0 0 rfl rfl)
theorem dJ8_expandTo_1 : decode cJ8_expandTo 1 = .ok (.iconst 1, 1) := dk_4 (dk_at dksJ8_expandTo_0 1 rfl rfl)
theorem dJ8_expandTo_2 : decode cJ8_expandTo 2 = .ok (.iadd, 1) := dk_96 (dk_at dksJ8_expandTo_0 2 rfl rfl)
theorem dJ8_expandTo_3 : decode cJ8_expandTo 3 = .ok (.istore_n 2, 1) := dk_61 (dk_at dksJ8_expandTo_0 3 rfl rfl)
theorem dJ8_expandTo_4 : decode cJ8_expandTo 4 = .ok (.aload_n 0, 1) := dk_42 (dk_at dksJ8_expandTo_0 4 rfl rfl)
theorem dJ8_expandTo_5 : decode cJ8_expandTo 5 = .ok (.getfield 7, 3) := dk_180 0 7 (dk_at dksJ8_expandTo_0 5 rfl rfl)
theorem dJ8_expandTo_8 : decode cJ8_expandTo 8 = .ok (.iload_n 2, 1) := dk_28 (dk_at dksJ8_expandTo_0 8 rfl rfl)
theorem dJ8_expandTo_9 : decode cJ8_expandTo 9 = .ok (.if_icmp .ge 13, 3) := dk_162 0 13 (dk_at dksJ8_expandTo_0 9 rfl rfl)
theorem dJ8_expandTo_12 : decode cJ8_expandTo 12 = .ok (.aload_n 0, 1) := dk_42 (dk_at dksJ8_expandTo_0 12 rfl rfl)
theorem dJ8_expandTo_13 : decode cJ8_expandTo 13 = .ok (.iload_n 2, 1) := dk_28 (dk_at dksJ8_expandTo_0 13 rfl rfl)
theorem dJ8_expandTo_14 : decode cJ8_expandTo 14 = .ok (.invokevirtual 139, 3) := dk_182 0 139 (dk_at dksJ8_expandTo_0 14 rfl rfl)
theorem dJ8_expandTo_17 : decode cJ8_expandTo 17 = .ok (.aload_n 0, 1) := dk_42 (dk_at dksJ8_expandTo_0 17 rfl rfl)
theorem dJ8_expandTo_18 : decode cJ8_expandTo 18 = .ok (.iload_n 2, 1) := dk_28 (dk_at dksJ8_expandTo_0 18 rfl rfl)
theorem dJ8_expandTo_19 : decode cJ8_expandTo 19 = .ok (.putfield 7, 3) := dk_181 0 7 (dk_at dksJ8_expandTo_0 19 rfl rfl)
theorem dJ8_expandTo_22 : decode cJ8_expandTo 22 = .ok (.return_, 1) := dk_177 (dk_at dksJ8_expandTo_0 22 rfl rfl)
abbrev cJ8_clear_2 : ByteArray := prog_53_method_23_code
def yJ8_clear_2 : MethodName := ⟨RJ8, "clear", "(I)V"⟩
def dkwJ8_clear_2_2 : List UInt8 := [180, 0, 11, 28, 92, 47, 10, 27, 121, 20, 0, 165, 131, 127, 80, 42, 182, 0, 158, 42, 182, 0, 56, 177]
abbrev dktJ8_clear_2_2 : List UInt8 := dkwJ8_clear_2_2 ++ []
def dkwJ8_clear_2_1 : List UInt8 := [182, 0, 45, 183, 0, 146, 191, 27, 184, 0, 52, 61, 28, 42, 180, 0, 7, 161, 0, 4, 177, 42]
abbrev dktJ8_clear_2_1 : List UInt8 := dkwJ8_clear_2_1 ++ dktJ8_clear_2_2
def dkwJ8_clear_2_0 : List UInt8 := [27, 156, 0, 30, 187, 0, 142, 89, 187, 0, 33, 89, 183, 0, 35, 18, 153, 182, 0, 38, 27, 182, 0, 42]
abbrev dktJ8_clear_2_0 : List UInt8 := dkwJ8_clear_2_0 ++ dktJ8_clear_2_1
theorem dksJ8_clear_2_0 : cJ8_clear_2.data.toList.drop 0 = dktJ8_clear_2_0 := by decide +kernel
theorem dksJ8_clear_2_1 : cJ8_clear_2.data.toList.drop 24 = dktJ8_clear_2_1 := dk_seg dksJ8_clear_2_0 24 rfl rfl
theorem dksJ8_clear_2_2 : cJ8_clear_2.data.toList.drop 46 = dktJ8_clear_2_2 := dk_seg dksJ8_clear_2_1 22 rfl rfl
theorem dJ8_clear_2_0 : decode cJ8_clear_2 0 = .ok (.iload_n 1, 1) := dk_27 (dk_at dksJ8_clear_2_0 0 rfl rfl)
theorem dJ8_clear_2_1 : decode cJ8_clear_2 1 = .ok (.ifCond .ge 30, 3) := dk_156 0 30 (dk_at dksJ8_clear_2_0 1 rfl rfl)
theorem dJ8_clear_2_4 : decode cJ8_clear_2 4 = .ok (.new 142, 3) := dk_187 0 142 (dk_at dksJ8_clear_2_0 4 rfl rfl)
theorem dJ8_clear_2_7 : decode cJ8_clear_2 7 = .ok (.dup, 1) := dk_89 (dk_at dksJ8_clear_2_0 7 rfl rfl)
theorem dJ8_clear_2_8 : decode cJ8_clear_2 8 = .ok (.new 33, 3) := dk_187 0 33 (dk_at dksJ8_clear_2_0 8 rfl rfl)
theorem dJ8_clear_2_11 : decode cJ8_clear_2 11 = .ok (.dup, 1) := dk_89 (dk_at dksJ8_clear_2_0 11 rfl rfl)
theorem dJ8_clear_2_12 : decode cJ8_clear_2 12 = .ok (.invokespecial 35, 3) := dk_183 0 35 (dk_at dksJ8_clear_2_0 12 rfl rfl)
theorem dJ8_clear_2_15 : decode cJ8_clear_2 15 = .ok (.ldc 153, 2) := dk_18 153 (dk_at dksJ8_clear_2_0 15 rfl rfl)
theorem dJ8_clear_2_17 : decode cJ8_clear_2 17 = .ok (.invokevirtual 38, 3) := dk_182 0 38 (dk_at dksJ8_clear_2_0 17 rfl rfl)
theorem dJ8_clear_2_20 : decode cJ8_clear_2 20 = .ok (.iload_n 1, 1) := dk_27 (dk_at dksJ8_clear_2_0 20 rfl rfl)
theorem dJ8_clear_2_21 : decode cJ8_clear_2 21 = .ok (.invokevirtual 42, 3) := dk_182 0 42 (dk_at dksJ8_clear_2_0 21 rfl rfl)
theorem dJ8_clear_2_24 : decode cJ8_clear_2 24 = .ok (.invokevirtual 45, 3) := dk_182 0 45 (dk_at dksJ8_clear_2_1 0 rfl rfl)
theorem dJ8_clear_2_27 : decode cJ8_clear_2 27 = .ok (.invokespecial 146, 3) := dk_183 0 146 (dk_at dksJ8_clear_2_1 3 rfl rfl)
theorem dJ8_clear_2_30 : decode cJ8_clear_2 30 = .ok (.athrow, 1) := dk_191 (dk_at dksJ8_clear_2_1 6 rfl rfl)
theorem dJ8_clear_2_31 : decode cJ8_clear_2 31 = .ok (.iload_n 1, 1) := dk_27 (dk_at dksJ8_clear_2_1 7 rfl rfl)
theorem dJ8_clear_2_32 : decode cJ8_clear_2 32 = .ok (.invokestatic 52, 3) := dk_184 0 52 (dk_at dksJ8_clear_2_1 8 rfl rfl)
theorem dJ8_clear_2_35 : decode cJ8_clear_2 35 = .ok (.istore_n 2, 1) := dk_61 (dk_at dksJ8_clear_2_1 11 rfl rfl)
theorem dJ8_clear_2_36 : decode cJ8_clear_2 36 = .ok (.iload_n 2, 1) := dk_28 (dk_at dksJ8_clear_2_1 12 rfl rfl)
theorem dJ8_clear_2_37 : decode cJ8_clear_2 37 = .ok (.aload_n 0, 1) := dk_42 (dk_at dksJ8_clear_2_1 13 rfl rfl)
theorem dJ8_clear_2_38 : decode cJ8_clear_2 38 = .ok (.getfield 7, 3) := dk_180 0 7 (dk_at dksJ8_clear_2_1 14 rfl rfl)
theorem dJ8_clear_2_41 : decode cJ8_clear_2 41 = .ok (.if_icmp .lt 4, 3) := dk_161 0 4 (dk_at dksJ8_clear_2_1 17 rfl rfl)
theorem dJ8_clear_2_44 : decode cJ8_clear_2 44 = .ok (.return_, 1) := dk_177 (dk_at dksJ8_clear_2_1 20 rfl rfl)
theorem dJ8_clear_2_45 : decode cJ8_clear_2 45 = .ok (.aload_n 0, 1) := dk_42 (dk_at dksJ8_clear_2_1 21 rfl rfl)
theorem dJ8_clear_2_46 : decode cJ8_clear_2 46 = .ok (.getfield 11, 3) := dk_180 0 11 (dk_at dksJ8_clear_2_2 0 rfl rfl)
theorem dJ8_clear_2_49 : decode cJ8_clear_2 49 = .ok (.iload_n 2, 1) := dk_28 (dk_at dksJ8_clear_2_2 3 rfl rfl)
theorem dJ8_clear_2_50 : decode cJ8_clear_2 50 = .ok (.dup2, 1) := dk_92 (dk_at dksJ8_clear_2_2 4 rfl rfl)
theorem dJ8_clear_2_51 : decode cJ8_clear_2 51 = .ok (.laload, 1) := dk_47 (dk_at dksJ8_clear_2_2 5 rfl rfl)
theorem dJ8_clear_2_52 : decode cJ8_clear_2 52 = .ok (.lconst 1, 1) := dk_10 (dk_at dksJ8_clear_2_2 6 rfl rfl)
theorem dJ8_clear_2_53 : decode cJ8_clear_2 53 = .ok (.iload_n 1, 1) := dk_27 (dk_at dksJ8_clear_2_2 7 rfl rfl)
theorem dJ8_clear_2_54 : decode cJ8_clear_2 54 = .ok (.lshl, 1) := dk_121 (dk_at dksJ8_clear_2_2 8 rfl rfl)
theorem dJ8_clear_2_55 : decode cJ8_clear_2 55 = .ok (.ldc2_w 165, 3) := dk_20 0 165 (dk_at dksJ8_clear_2_2 9 rfl rfl)
theorem dJ8_clear_2_58 : decode cJ8_clear_2 58 = .ok (.lxor, 1) := dk_131 (dk_at dksJ8_clear_2_2 12 rfl rfl)
theorem dJ8_clear_2_59 : decode cJ8_clear_2 59 = .ok (.land, 1) := dk_127 (dk_at dksJ8_clear_2_2 13 rfl rfl)
theorem dJ8_clear_2_60 : decode cJ8_clear_2 60 = .ok (.lastore, 1) := dk_80 (dk_at dksJ8_clear_2_2 14 rfl rfl)
theorem dJ8_clear_2_61 : decode cJ8_clear_2 61 = .ok (.aload_n 0, 1) := dk_42 (dk_at dksJ8_clear_2_2 15 rfl rfl)
theorem dJ8_clear_2_62 : decode cJ8_clear_2 62 = .ok (.invokevirtual 158, 3) := dk_182 0 158 (dk_at dksJ8_clear_2_2 16 rfl rfl)
theorem dJ8_clear_2_65 : decode cJ8_clear_2 65 = .ok (.aload_n 0, 1) := dk_42 (dk_at dksJ8_clear_2_2 19 rfl rfl)
theorem dJ8_clear_2_66 : decode cJ8_clear_2 66 = .ok (.invokevirtual 56, 3) := dk_182 0 56 (dk_at dksJ8_clear_2_2 20 rfl rfl)
theorem dJ8_clear_2_69 : decode cJ8_clear_2 69 = .ok (.return_, 1) := dk_177 (dk_at dksJ8_clear_2_2 23 rfl rfl)
abbrev cJ8_recalculateWordsInUse : ByteArray := prog_53_method_3_code
def yJ8_recalculateWordsInUse : MethodName := ⟨RJ8, "recalculateWordsInUse", "()V"⟩
def dkwJ8_recalculateWordsInUse_1 : List UInt8 := [167, 0, 9, 132, 1, 255, 167, 255, 235, 42, 27, 4, 96, 181, 0, 7, 177]
abbrev dktJ8_recalculateWordsInUse_1 : List UInt8 := dkwJ8_recalculateWordsInUse_1 ++ []
def dkwJ8_recalculateWordsInUse_0 : List UInt8 := [42, 180, 0, 7, 4, 100, 60, 27, 155, 0, 23, 42, 180, 0, 11, 27, 47, 9, 148, 153, 0, 6]
abbrev dktJ8_recalculateWordsInUse_0 : List UInt8 := dkwJ8_recalculateWordsInUse_0 ++ dktJ8_recalculateWordsInUse_1
theorem dksJ8_recalculateWordsInUse_0 : cJ8_recalculateWordsInUse.data.toList.drop 0 = dktJ8_recalculateWordsInUse_0 := by decide +kernel
theorem dksJ8_recalculateWordsInUse_1 : cJ8_recalculateWordsInUse.data.toList.drop 22 = dktJ8_recalculateWordsInUse_1 := dk_seg dksJ8_recalculateWordsInUse_0 22 rfl rfl
theorem dJ8_recalculateWordsInUse_0 : decode cJ8_recalculateWordsInUse 0 = .ok (.aload_n 0, 1) := dk_42 (dk_at dksJ8_recalculateWordsInUse_0 0 rfl rfl)
theorem dJ8_recalculateWordsInUse_1 : decode cJ8_recalculateWordsInUse 1 = .ok (.getfield 7, 3) := dk_180 0 7 (dk_at dksJ8_recalculateWordsInUse_0 1 rfl rfl)
theorem dJ8_recalculateWordsInUse_4 : decode cJ8_recalculateWordsInUse 4 = .ok (.iconst 1, 1) := dk_4 (dk_at dksJ8_recalculateWordsInUse_0 4 rfl rfl)
theorem dJ8_recalculateWordsInUse_5 : decode cJ8_recalculateWordsInUse 5 = .ok (.isub, 1) := dk_100 (dk_at dksJ8_recalculateWordsInUse_0 5 rfl rfl)
theorem dJ8_recalculateWordsInUse_6 : decode cJ8_recalculateWordsInUse 6 = .ok (.istore_n 1, 1) := dk_60 (dk_at dksJ8_recalculateWordsInUse_0 6 rfl rfl)
theorem dJ8_recalculateWordsInUse_7 : decode cJ8_recalculateWordsInUse 7 = .ok (.iload_n 1, 1) := dk_27 (dk_at dksJ8_recalculateWordsInUse_0 7 rfl rfl)
theorem dJ8_recalculateWordsInUse_8 : decode cJ8_recalculateWordsInUse 8 = .ok (.ifCond .lt 23, 3) := dk_155 0 23 (dk_at dksJ8_recalculateWordsInUse_0 8 rfl rfl)
theorem dJ8_recalculateWordsInUse_11 : decode cJ8_recalculateWordsInUse 11 = .ok (.aload_n 0, 1) := dk_42 (dk_at dksJ8_recalculateWordsInUse_0 11 rfl rfl)
theorem dJ8_recalculateWordsInUse_12 : decode cJ8_recalculateWordsInUse 12 = .ok (.getfield 11, 3) := dk_180 0 11 (dk_at dksJ8_recalculateWordsInUse_0 12 rfl rfl)
theorem dJ8_recalculateWordsInUse_15 : decode cJ8_recalculateWordsInUse 15 = .ok (.iload_n 1, 1) := dk_27 (dk_at dksJ8_recalculateWordsInUse_0 15 rfl rfl)
theorem dJ8_recalculateWordsInUse_16 : decode cJ8_recalculateWordsInUse 16 = .ok (.laload, 1) := dk_47 (dk_at dksJ8_recalculateWordsInUse_0 16 rfl rfl)
theorem dJ8_recalculateWordsInUse_17 : decode cJ8_recalculateWordsInUse 17 = .ok (.lconst 0, 1) := dk_9 (dk_at dksJ8_recalculateWordsInUse_0 17 rfl rfl)
theorem dJ8_recalculateWordsInUse_18 : decode cJ8_recalculateWordsInUse 18 = .ok (.lcmp, 1) := dk_148 (dk_at dksJ8_recalculateWordsInUse_0 18 rfl rfl)
theorem dJ8_recalculateWordsInUse_19 : decode cJ8_recalculateWordsInUse 19 = .ok (.ifCond .eq 6, 3) := dk_153 0 6 (dk_at dksJ8_recalculateWordsInUse_0 19 rfl rfl)
theorem dJ8_recalculateWordsInUse_22 : decode cJ8_recalculateWordsInUse 22 = .ok (.goto 9, 3) := dk_167 0 9 (dk_at dksJ8_recalculateWordsInUse_1 0 rfl rfl)
theorem dJ8_recalculateWordsInUse_25 : decode cJ8_recalculateWordsInUse 25 = .ok (.iinc 1 (-1), 3) := dk_132 1 255 (dk_at dksJ8_recalculateWordsInUse_1 3 rfl rfl)
theorem dJ8_recalculateWordsInUse_28 : decode cJ8_recalculateWordsInUse 28 = .ok (.goto (-21), 3) := dk_167 255 235 (dk_at dksJ8_recalculateWordsInUse_1 6 rfl rfl)
theorem dJ8_recalculateWordsInUse_31 : decode cJ8_recalculateWordsInUse 31 = .ok (.aload_n 0, 1) := dk_42 (dk_at dksJ8_recalculateWordsInUse_1 9 rfl rfl)
theorem dJ8_recalculateWordsInUse_32 : decode cJ8_recalculateWordsInUse 32 = .ok (.iload_n 1, 1) := dk_27 (dk_at dksJ8_recalculateWordsInUse_1 10 rfl rfl)
theorem dJ8_recalculateWordsInUse_33 : decode cJ8_recalculateWordsInUse 33 = .ok (.iconst 1, 1) := dk_4 (dk_at dksJ8_recalculateWordsInUse_1 11 rfl rfl)
theorem dJ8_recalculateWordsInUse_34 : decode cJ8_recalculateWordsInUse 34 = .ok (.iadd, 1) := dk_96 (dk_at dksJ8_recalculateWordsInUse_1 12 rfl rfl)
theorem dJ8_recalculateWordsInUse_35 : decode cJ8_recalculateWordsInUse 35 = .ok (.putfield 7, 3) := dk_181 0 7 (dk_at dksJ8_recalculateWordsInUse_1 13 rfl rfl)
theorem dJ8_recalculateWordsInUse_38 : decode cJ8_recalculateWordsInUse 38 = .ok (.return_, 1) := dk_177 (dk_at dksJ8_recalculateWordsInUse_1 16 rfl rfl)
abbrev cJ8_nextClearBit : ByteArray := prog_53_method_29_code
def yJ8_nextClearBit : MethodName := ⟨RJ8, "nextClearBit", "(I)I"⟩
def dkwJ8_nextClearBit_4 : List UInt8 := [42, 180, 0, 7, 16, 64, 104, 172, 42, 180, 0, 11, 28, 47, 20, 0, 165, 131, 66, 167, 255, 210]
abbrev dktJ8_nextClearBit_4 : List UInt8 := dkwJ8_nextClearBit_4 ++ []
def dkwJ8_nextClearBit_3 : List UInt8 := [153, 0, 13, 28, 16, 64, 104, 33, 184, 0, 182, 96, 172, 132, 2, 1, 28, 42, 180, 0, 7, 160, 0, 11]
abbrev dktJ8_nextClearBit_3 : List UInt8 := dkwJ8_nextClearBit_3 ++ dktJ8_nextClearBit_4
def dkwJ8_nextClearBit_2 : List UInt8 := [27, 172, 42, 180, 0, 11, 28, 47, 20, 0, 165, 131, 20, 0, 165, 27, 121, 127, 66, 33, 9, 148]
abbrev dktJ8_nextClearBit_2 : List UInt8 := dkwJ8_nextClearBit_2 ++ dktJ8_nextClearBit_3
def dkwJ8_nextClearBit_1 : List UInt8 := [182, 0, 45, 183, 0, 146, 191, 42, 182, 0, 56, 27, 184, 0, 52, 61, 28, 42, 180, 0, 7, 161, 0, 5]
abbrev dktJ8_nextClearBit_1 : List UInt8 := dkwJ8_nextClearBit_1 ++ dktJ8_nextClearBit_2
def dkwJ8_nextClearBit_0 : List UInt8 := [27, 156, 0, 30, 187, 0, 142, 89, 187, 0, 33, 89, 183, 0, 35, 18, 144, 182, 0, 38, 27, 182, 0, 42]
abbrev dktJ8_nextClearBit_0 : List UInt8 := dkwJ8_nextClearBit_0 ++ dktJ8_nextClearBit_1
theorem dksJ8_nextClearBit_0 : cJ8_nextClearBit.data.toList.drop 0 = dktJ8_nextClearBit_0 := by decide +kernel
theorem dksJ8_nextClearBit_1 : cJ8_nextClearBit.data.toList.drop 24 = dktJ8_nextClearBit_1 := dk_seg dksJ8_nextClearBit_0 24 rfl rfl
theorem dksJ8_nextClearBit_2 : cJ8_nextClearBit.data.toList.drop 48 = dktJ8_nextClearBit_2 := dk_seg dksJ8_nextClearBit_1 24 rfl rfl
theorem dksJ8_nextClearBit_3 : cJ8_nextClearBit.data.toList.drop 70 = dktJ8_nextClearBit_3 := dk_seg dksJ8_nextClearBit_2 22 rfl rfl
theorem dksJ8_nextClearBit_4 : cJ8_nextClearBit.data.toList.drop 94 = dktJ8_nextClearBit_4 := dk_seg dksJ8_nextClearBit_3 24 rfl rfl
theorem dJ8_nextClearBit_0 : decode cJ8_nextClearBit 0 = .ok (.iload_n 1, 1) := dk_27 (dk_at dksJ8_nextClearBit_0 0 rfl rfl)
theorem dJ8_nextClearBit_1 : decode cJ8_nextClearBit 1 = .ok (.ifCond .ge 30, 3) := dk_156 0 30 (dk_at dksJ8_nextClearBit_0 1 rfl rfl)
theorem dJ8_nextClearBit_4 : decode cJ8_nextClearBit 4 = .ok (.new 142, 3) := dk_187 0 142 (dk_at dksJ8_nextClearBit_0 4 rfl rfl)
theorem dJ8_nextClearBit_7 : decode cJ8_nextClearBit 7 = .ok (.dup, 1) := dk_89 (dk_at dksJ8_nextClearBit_0 7 rfl rfl)
theorem dJ8_nextClearBit_8 : decode cJ8_nextClearBit 8 = .ok (.new 33, 3) := dk_187 0 33 (dk_at dksJ8_nextClearBit_0 8 rfl rfl)
theorem dJ8_nextClearBit_11 : decode cJ8_nextClearBit 11 = .ok (.dup, 1) := dk_89 (dk_at dksJ8_nextClearBit_0 11 rfl rfl)
theorem dJ8_nextClearBit_12 : decode cJ8_nextClearBit 12 = .ok (.invokespecial 35, 3) := dk_183 0 35 (dk_at dksJ8_nextClearBit_0 12 rfl rfl)
theorem dJ8_nextClearBit_15 : decode cJ8_nextClearBit 15 = .ok (.ldc 144, 2) := dk_18 144 (dk_at dksJ8_nextClearBit_0 15 rfl rfl)
theorem dJ8_nextClearBit_17 : decode cJ8_nextClearBit 17 = .ok (.invokevirtual 38, 3) := dk_182 0 38 (dk_at dksJ8_nextClearBit_0 17 rfl rfl)
theorem dJ8_nextClearBit_20 : decode cJ8_nextClearBit 20 = .ok (.iload_n 1, 1) := dk_27 (dk_at dksJ8_nextClearBit_0 20 rfl rfl)
theorem dJ8_nextClearBit_21 : decode cJ8_nextClearBit 21 = .ok (.invokevirtual 42, 3) := dk_182 0 42 (dk_at dksJ8_nextClearBit_0 21 rfl rfl)
theorem dJ8_nextClearBit_24 : decode cJ8_nextClearBit 24 = .ok (.invokevirtual 45, 3) := dk_182 0 45 (dk_at dksJ8_nextClearBit_1 0 rfl rfl)
theorem dJ8_nextClearBit_27 : decode cJ8_nextClearBit 27 = .ok (.invokespecial 146, 3) := dk_183 0 146 (dk_at dksJ8_nextClearBit_1 3 rfl rfl)
theorem dJ8_nextClearBit_30 : decode cJ8_nextClearBit 30 = .ok (.athrow, 1) := dk_191 (dk_at dksJ8_nextClearBit_1 6 rfl rfl)
theorem dJ8_nextClearBit_31 : decode cJ8_nextClearBit 31 = .ok (.aload_n 0, 1) := dk_42 (dk_at dksJ8_nextClearBit_1 7 rfl rfl)
theorem dJ8_nextClearBit_32 : decode cJ8_nextClearBit 32 = .ok (.invokevirtual 56, 3) := dk_182 0 56 (dk_at dksJ8_nextClearBit_1 8 rfl rfl)
theorem dJ8_nextClearBit_35 : decode cJ8_nextClearBit 35 = .ok (.iload_n 1, 1) := dk_27 (dk_at dksJ8_nextClearBit_1 11 rfl rfl)
theorem dJ8_nextClearBit_36 : decode cJ8_nextClearBit 36 = .ok (.invokestatic 52, 3) := dk_184 0 52 (dk_at dksJ8_nextClearBit_1 12 rfl rfl)
theorem dJ8_nextClearBit_39 : decode cJ8_nextClearBit 39 = .ok (.istore_n 2, 1) := dk_61 (dk_at dksJ8_nextClearBit_1 15 rfl rfl)
theorem dJ8_nextClearBit_40 : decode cJ8_nextClearBit 40 = .ok (.iload_n 2, 1) := dk_28 (dk_at dksJ8_nextClearBit_1 16 rfl rfl)
theorem dJ8_nextClearBit_41 : decode cJ8_nextClearBit 41 = .ok (.aload_n 0, 1) := dk_42 (dk_at dksJ8_nextClearBit_1 17 rfl rfl)
theorem dJ8_nextClearBit_42 : decode cJ8_nextClearBit 42 = .ok (.getfield 7, 3) := dk_180 0 7 (dk_at dksJ8_nextClearBit_1 18 rfl rfl)
theorem dJ8_nextClearBit_45 : decode cJ8_nextClearBit 45 = .ok (.if_icmp .lt 5, 3) := dk_161 0 5 (dk_at dksJ8_nextClearBit_1 21 rfl rfl)
theorem dJ8_nextClearBit_48 : decode cJ8_nextClearBit 48 = .ok (.iload_n 1, 1) := dk_27 (dk_at dksJ8_nextClearBit_2 0 rfl rfl)
theorem dJ8_nextClearBit_49 : decode cJ8_nextClearBit 49 = .ok (.ireturn, 1) := dk_172 (dk_at dksJ8_nextClearBit_2 1 rfl rfl)
theorem dJ8_nextClearBit_50 : decode cJ8_nextClearBit 50 = .ok (.aload_n 0, 1) := dk_42 (dk_at dksJ8_nextClearBit_2 2 rfl rfl)
theorem dJ8_nextClearBit_51 : decode cJ8_nextClearBit 51 = .ok (.getfield 11, 3) := dk_180 0 11 (dk_at dksJ8_nextClearBit_2 3 rfl rfl)
theorem dJ8_nextClearBit_54 : decode cJ8_nextClearBit 54 = .ok (.iload_n 2, 1) := dk_28 (dk_at dksJ8_nextClearBit_2 6 rfl rfl)
theorem dJ8_nextClearBit_55 : decode cJ8_nextClearBit 55 = .ok (.laload, 1) := dk_47 (dk_at dksJ8_nextClearBit_2 7 rfl rfl)
theorem dJ8_nextClearBit_56 : decode cJ8_nextClearBit 56 = .ok (.ldc2_w 165, 3) := dk_20 0 165 (dk_at dksJ8_nextClearBit_2 8 rfl rfl)
theorem dJ8_nextClearBit_59 : decode cJ8_nextClearBit 59 = .ok (.lxor, 1) := dk_131 (dk_at dksJ8_nextClearBit_2 11 rfl rfl)
theorem dJ8_nextClearBit_60 : decode cJ8_nextClearBit 60 = .ok (.ldc2_w 165, 3) := dk_20 0 165 (dk_at dksJ8_nextClearBit_2 12 rfl rfl)
theorem dJ8_nextClearBit_63 : decode cJ8_nextClearBit 63 = .ok (.iload_n 1, 1) := dk_27 (dk_at dksJ8_nextClearBit_2 15 rfl rfl)
theorem dJ8_nextClearBit_64 : decode cJ8_nextClearBit 64 = .ok (.lshl, 1) := dk_121 (dk_at dksJ8_nextClearBit_2 16 rfl rfl)
theorem dJ8_nextClearBit_65 : decode cJ8_nextClearBit 65 = .ok (.land, 1) := dk_127 (dk_at dksJ8_nextClearBit_2 17 rfl rfl)
theorem dJ8_nextClearBit_66 : decode cJ8_nextClearBit 66 = .ok (.lstore_n 3, 1) := dk_66 (dk_at dksJ8_nextClearBit_2 18 rfl rfl)
theorem dJ8_nextClearBit_67 : decode cJ8_nextClearBit 67 = .ok (.lload_n 3, 1) := dk_33 (dk_at dksJ8_nextClearBit_2 19 rfl rfl)
theorem dJ8_nextClearBit_68 : decode cJ8_nextClearBit 68 = .ok (.lconst 0, 1) := dk_9 (dk_at dksJ8_nextClearBit_2 20 rfl rfl)
theorem dJ8_nextClearBit_69 : decode cJ8_nextClearBit 69 = .ok (.lcmp, 1) := dk_148 (dk_at dksJ8_nextClearBit_2 21 rfl rfl)
theorem dJ8_nextClearBit_70 : decode cJ8_nextClearBit 70 = .ok (.ifCond .eq 13, 3) := dk_153 0 13 (dk_at dksJ8_nextClearBit_3 0 rfl rfl)
theorem dJ8_nextClearBit_73 : decode cJ8_nextClearBit 73 = .ok (.iload_n 2, 1) := dk_28 (dk_at dksJ8_nextClearBit_3 3 rfl rfl)
theorem dJ8_nextClearBit_74 : decode cJ8_nextClearBit 74 = .ok (.bipush 64, 2) := dk_16 64 (dk_at dksJ8_nextClearBit_3 4 rfl rfl)
theorem dJ8_nextClearBit_76 : decode cJ8_nextClearBit 76 = .ok (.imul, 1) := dk_104 (dk_at dksJ8_nextClearBit_3 6 rfl rfl)
theorem dJ8_nextClearBit_77 : decode cJ8_nextClearBit 77 = .ok (.lload_n 3, 1) := dk_33 (dk_at dksJ8_nextClearBit_3 7 rfl rfl)
theorem dJ8_nextClearBit_78 : decode cJ8_nextClearBit 78 = .ok (.invokestatic 182, 3) := dk_184 0 182 (dk_at dksJ8_nextClearBit_3 8 rfl rfl)
theorem dJ8_nextClearBit_81 : decode cJ8_nextClearBit 81 = .ok (.iadd, 1) := dk_96 (dk_at dksJ8_nextClearBit_3 11 rfl rfl)
theorem dJ8_nextClearBit_82 : decode cJ8_nextClearBit 82 = .ok (.ireturn, 1) := dk_172 (dk_at dksJ8_nextClearBit_3 12 rfl rfl)
theorem dJ8_nextClearBit_83 : decode cJ8_nextClearBit 83 = .ok (.iinc 2 1, 3) := dk_132 2 1 (dk_at dksJ8_nextClearBit_3 13 rfl rfl)
theorem dJ8_nextClearBit_86 : decode cJ8_nextClearBit 86 = .ok (.iload_n 2, 1) := dk_28 (dk_at dksJ8_nextClearBit_3 16 rfl rfl)
theorem dJ8_nextClearBit_87 : decode cJ8_nextClearBit 87 = .ok (.aload_n 0, 1) := dk_42 (dk_at dksJ8_nextClearBit_3 17 rfl rfl)
theorem dJ8_nextClearBit_88 : decode cJ8_nextClearBit 88 = .ok (.getfield 7, 3) := dk_180 0 7 (dk_at dksJ8_nextClearBit_3 18 rfl rfl)
theorem dJ8_nextClearBit_91 : decode cJ8_nextClearBit 91 = .ok (.if_icmp .ne 11, 3) := dk_160 0 11 (dk_at dksJ8_nextClearBit_3 21 rfl rfl)
theorem dJ8_nextClearBit_94 : decode cJ8_nextClearBit 94 = .ok (.aload_n 0, 1) := dk_42 (dk_at dksJ8_nextClearBit_4 0 rfl rfl)
theorem dJ8_nextClearBit_95 : decode cJ8_nextClearBit 95 = .ok (.getfield 7, 3) := dk_180 0 7 (dk_at dksJ8_nextClearBit_4 1 rfl rfl)
theorem dJ8_nextClearBit_98 : decode cJ8_nextClearBit 98 = .ok (.bipush 64, 2) := dk_16 64 (dk_at dksJ8_nextClearBit_4 4 rfl rfl)
theorem dJ8_nextClearBit_100 : decode cJ8_nextClearBit 100 = .ok (.imul, 1) := dk_104 (dk_at dksJ8_nextClearBit_4 6 rfl rfl)
theorem dJ8_nextClearBit_101 : decode cJ8_nextClearBit 101 = .ok (.ireturn, 1) := dk_172 (dk_at dksJ8_nextClearBit_4 7 rfl rfl)
theorem dJ8_nextClearBit_102 : decode cJ8_nextClearBit 102 = .ok (.aload_n 0, 1) := dk_42 (dk_at dksJ8_nextClearBit_4 8 rfl rfl)
theorem dJ8_nextClearBit_103 : decode cJ8_nextClearBit 103 = .ok (.getfield 11, 3) := dk_180 0 11 (dk_at dksJ8_nextClearBit_4 9 rfl rfl)
theorem dJ8_nextClearBit_106 : decode cJ8_nextClearBit 106 = .ok (.iload_n 2, 1) := dk_28 (dk_at dksJ8_nextClearBit_4 12 rfl rfl)
theorem dJ8_nextClearBit_107 : decode cJ8_nextClearBit 107 = .ok (.laload, 1) := dk_47 (dk_at dksJ8_nextClearBit_4 13 rfl rfl)
theorem dJ8_nextClearBit_108 : decode cJ8_nextClearBit 108 = .ok (.ldc2_w 165, 3) := dk_20 0 165 (dk_at dksJ8_nextClearBit_4 14 rfl rfl)
theorem dJ8_nextClearBit_111 : decode cJ8_nextClearBit 111 = .ok (.lxor, 1) := dk_131 (dk_at dksJ8_nextClearBit_4 17 rfl rfl)
theorem dJ8_nextClearBit_112 : decode cJ8_nextClearBit 112 = .ok (.lstore_n 3, 1) := dk_66 (dk_at dksJ8_nextClearBit_4 18 rfl rfl)
theorem dJ8_nextClearBit_113 : decode cJ8_nextClearBit 113 = .ok (.goto (-46), 3) := dk_167 255 210 (dk_at dksJ8_nextClearBit_4 19 rfl rfl)
theorem q128 : (Jvm.Cond.initialized "java/util/BitSet") ∈ lw_all := lw_g (lw_at lw_m1 15 rfl) rfl
theorem q240 : (Jvm.Cond.selects "java/util/BitSet" ({ cls := "java/lang/Object", name := "getClass", desc := "()Ljava/lang/Class;" } : Jvm.MethodName) ({ cls := "java/lang/Object", name := "getClass", desc := "()Ljava/lang/Class;" } : Jvm.MethodName)) ∈ lw_all := lw_g (lw_at lw_m1 127 rfl) rfl
theorem q315 : (Jvm.Cond.instantiable "java/util/BitSet" (3 : Nat)) ∈ lw_all := lw_g (lw_at lw_m1 202 rfl) rfl
theorem q317 : (Jvm.Cond.instanceMethod ({ cls := "java/util/BitSet", name := "<init>", desc := "(I)V" } : Jvm.MethodName)) ∈ lw_all := lw_g (lw_at lw_m1 204 rfl) rfl
theorem q318 : (Jvm.Cond.code ({ cls := "java/util/BitSet", name := "<init>", desc := "(I)V" } : Jvm.MethodName) prog_53_method_5_code (2 : Nat) (Option.none : Option Jvm.ClassFile.FieldType)) ∈ lw_all := lw_g (lw_at lw_m1 205 rfl) rfl
theorem q319 : (Jvm.Cond.methodLink "java/util/BitSet" (21 : Nat) ({ cls := "java/lang/Object", name := "<init>", desc := "()V" } : Jvm.MethodName)) ∈ lw_all := lw_g (lw_at lw_m1 206 rfl) rfl
theorem q320 : (Jvm.Cond.methodLink "java/util/BitSet" (27 : Nat) ({ cls := "java/util/BitSet", name := "initWords", desc := "(I)V" } : Jvm.MethodName)) ∈ lw_all := lw_g (lw_at lw_m1 207 rfl) rfl
theorem q321 : (Jvm.Cond.privateMethod ({ cls := "java/util/BitSet", name := "initWords", desc := "(I)V" } : Jvm.MethodName)) ∈ lw_tbl := lw_at lw_m1 208 rfl
theorem q322 : (Jvm.Cond.instanceMethod ({ cls := "java/util/BitSet", name := "initWords", desc := "(I)V" } : Jvm.MethodName)) ∈ lw_all := lw_g (lw_at lw_m1 209 rfl) rfl
theorem q323 : (Jvm.Cond.code ({ cls := "java/util/BitSet", name := "initWords", desc := "(I)V" } : Jvm.MethodName) prog_53_method_6_code (2 : Nat) (Option.none : Option Jvm.ClassFile.FieldType)) ∈ lw_all := lw_g (lw_at lw_m1 210 rfl) rfl
theorem q324 : (Jvm.Cond.methodLink "java/util/BitSet" (52 : Nat) ({ cls := "java/util/BitSet", name := "wordIndex", desc := "(I)I" } : Jvm.MethodName)) ∈ lw_all := lw_g (lw_at lw_m1 211 rfl) rfl
theorem q325 : (Jvm.Cond.static ({ cls := "java/util/BitSet", name := "wordIndex", desc := "(I)I" } : Jvm.MethodName)) ∈ lw_all := lw_g (lw_at lw_m1 212 rfl) rfl
theorem q326 : (Jvm.Cond.code ({ cls := "java/util/BitSet", name := "wordIndex", desc := "(I)I" } : Jvm.MethodName) prog_53_method_1_code (1 : Nat) (Option.some Jvm.ClassFile.FieldType.int)) ∈ lw_all := lw_g (lw_at lw_m1 213 rfl) rfl
theorem q327 : (Jvm.Cond.fieldLink "java/util/BitSet" (11 : Nat) "java/util/BitSet" "words" "[J") ∈ lw_all := lw_g (lw_at lw_m1 214 rfl) rfl
theorem q328 : (Jvm.Cond.fieldLink "java/util/BitSet" (7 : Nat) "java/util/BitSet" "wordsInUse" "I") ∈ lw_all := lw_g (lw_at lw_m1 215 rfl) rfl
theorem q329 : (Jvm.Cond.fieldLink "java/util/BitSet" (24 : Nat) "java/util/BitSet" "sizeIsSticky" "Z") ∈ lw_all := lw_g (lw_at lw_m1 216 rfl) rfl
theorem q330 : (Jvm.Cond.lays "java/util/BitSet" "java/util/BitSet" "words" "[J") ∈ lw_all := lw_g (lw_at lw_m1 217 rfl) rfl
theorem q331 : (Jvm.Cond.soleField "java/util/BitSet" "words") ∈ lw_all := lw_g (lw_at lw_m1 218 rfl) rfl
theorem q332 : (Jvm.Cond.lays "java/util/BitSet" "java/util/BitSet" "wordsInUse" "I") ∈ lw_all := lw_g (lw_at lw_m1 219 rfl) rfl
theorem q333 : (Jvm.Cond.soleField "java/util/BitSet" "wordsInUse") ∈ lw_all := lw_g (lw_at lw_m1 220 rfl) rfl
theorem q334 : (Jvm.Cond.lays "java/util/BitSet" "java/util/BitSet" "sizeIsSticky" "Z") ∈ lw_all := lw_g (lw_at lw_m1 221 rfl) rfl
theorem q335 : (Jvm.Cond.soleField "java/util/BitSet" "sizeIsSticky") ∈ lw_all := lw_g (lw_at lw_m1 222 rfl) rfl
theorem q336 : (Jvm.Cond.superclass "java/util/BitSet" "java/lang/Object") ∈ lw_all := lw_g (lw_at lw_m1 223 rfl) rfl
theorem q559 : (Jvm.Cond.instanceMethod ({ cls := "java/util/BitSet", name := "clear", desc := "()V" } : Jvm.MethodName)) ∈ lw_all := lw_g (lw_at lw_m2 206 rfl) rfl
theorem q560 : (Jvm.Cond.selects "java/util/BitSet" ({ cls := "java/util/BitSet", name := "clear", desc := "()V" } : Jvm.MethodName) ({ cls := "java/util/BitSet", name := "clear", desc := "()V" } : Jvm.MethodName)) ∈ lw_all := lw_g (lw_at lw_m2 207 rfl) rfl
theorem q561 : (Jvm.Cond.code ({ cls := "java/util/BitSet", name := "clear", desc := "()V" } : Jvm.MethodName) prog_53_method_25_code (1 : Nat) (Option.none : Option Jvm.ClassFile.FieldType)) ∈ lw_all := lw_g (lw_at lw_m2 208 rfl) rfl
theorem q575 : (Jvm.Cond.instanceMethod ({ cls := "java/util/BitSet", name := "or", desc := "(Ljava/util/BitSet;)V" } : Jvm.MethodName)) ∈ lw_all := lw_g (lw_at lw_m2 222 rfl) rfl
theorem q576 : (Jvm.Cond.selects "java/util/BitSet" ({ cls := "java/util/BitSet", name := "or", desc := "(Ljava/util/BitSet;)V" } : Jvm.MethodName) ({ cls := "java/util/BitSet", name := "or", desc := "(Ljava/util/BitSet;)V" } : Jvm.MethodName)) ∈ lw_all := lw_g (lw_at lw_m2 223 rfl) rfl
theorem q577 : (Jvm.Cond.code ({ cls := "java/util/BitSet", name := "or", desc := "(Ljava/util/BitSet;)V" } : Jvm.MethodName) prog_53_method_37_code (4 : Nat) (Option.none : Option Jvm.ClassFile.FieldType)) ∈ lw_all := lw_g (lw_at lw_m2 224 rfl) rfl
theorem q578 : (Jvm.Cond.methodLink "java/util/BitSet" (193 : Nat) ({ cls := "java/lang/Math", name := "min", desc := "(II)I" } : Jvm.MethodName)) ∈ lw_all := lw_g (lw_at lw_m2 225 rfl) rfl
theorem q581 : (Jvm.Cond.methodLink "java/util/BitSet" (139 : Nat) ({ cls := "java/util/BitSet", name := "ensureCapacity", desc := "(I)V" } : Jvm.MethodName)) ∈ lw_all := lw_g (lw_at lw_m2 228 rfl) rfl
theorem q582 : (Jvm.Cond.privateMethod ({ cls := "java/util/BitSet", name := "ensureCapacity", desc := "(I)V" } : Jvm.MethodName)) ∈ lw_tbl := lw_at lw_m2 229 rfl
theorem q583 : (Jvm.Cond.instanceMethod ({ cls := "java/util/BitSet", name := "ensureCapacity", desc := "(I)V" } : Jvm.MethodName)) ∈ lw_all := lw_g (lw_at lw_m2 230 rfl) rfl
theorem q584 : (Jvm.Cond.code ({ cls := "java/util/BitSet", name := "ensureCapacity", desc := "(I)V" } : Jvm.MethodName) prog_53_method_14_code (3 : Nat) (Option.none : Option Jvm.ClassFile.FieldType)) ∈ lw_all := lw_g (lw_at lw_m2 231 rfl) rfl
theorem q585 : (Jvm.Cond.methodLink "java/util/BitSet" (133 : Nat) ({ cls := "java/lang/Math", name := "max", desc := "(II)I" } : Jvm.MethodName)) ∈ lw_all := lw_g (lw_at lw_m2 232 rfl) rfl
theorem q588 : (Jvm.Cond.methodLink "java/util/BitSet" (59 : Nat) ({ cls := "java/util/Arrays", name := "copyOf", desc := "([JI)[J" } : Jvm.MethodName)) ∈ lw_all := lw_g (lw_at lw_m2 235 rfl) rfl
theorem q602 : (Jvm.Cond.methodLink "java/util/BitSet" (199 : Nat) ({ cls := "java/lang/System", name := "arraycopy", desc := "(Ljava/lang/Object;ILjava/lang/Object;II)V" } : Jvm.MethodName)) ∈ lw_all := lw_g (lw_at lw_m3 9 rfl) rfl
theorem q603 : (Jvm.Cond.methodLink "java/util/BitSet" (56 : Nat) ({ cls := "java/util/BitSet", name := "checkInvariants", desc := "()V" } : Jvm.MethodName)) ∈ lw_all := lw_g (lw_at lw_m3 10 rfl) rfl
theorem q604 : (Jvm.Cond.privateMethod ({ cls := "java/util/BitSet", name := "checkInvariants", desc := "()V" } : Jvm.MethodName)) ∈ lw_tbl := lw_at lw_m3 11 rfl
theorem q605 : (Jvm.Cond.instanceMethod ({ cls := "java/util/BitSet", name := "checkInvariants", desc := "()V" } : Jvm.MethodName)) ∈ lw_all := lw_g (lw_at lw_m3 12 rfl) rfl
theorem q606 : (Jvm.Cond.code ({ cls := "java/util/BitSet", name := "checkInvariants", desc := "()V" } : Jvm.MethodName) prog_53_method_2_code (1 : Nat) (Option.none : Option Jvm.ClassFile.FieldType)) ∈ lw_all := lw_g (lw_at lw_m3 13 rfl) rfl
theorem q607 : (Jvm.Cond.fieldLink "java/util/BitSet" (3 : Nat) "java/util/BitSet" "$assertionsDisabled" "Z") ∈ lw_all := lw_g (lw_at lw_m3 14 rfl) rfl
theorem q608 : (Jvm.Cond.laysStatic "java/util/BitSet" "$assertionsDisabled" "Z") ∈ lw_tbl := lw_at lw_m3 15 rfl
theorem q1108 : (Jvm.Cond.instanceMethod ({ cls := "java/util/BitSet", name := "nextSetBit", desc := "(I)I" } : Jvm.MethodName)) ∈ lw_all := lw_g (lw_at lw_m5 35 rfl) rfl
theorem q1109 : (Jvm.Cond.selects "java/util/BitSet" ({ cls := "java/util/BitSet", name := "nextSetBit", desc := "(I)I" } : Jvm.MethodName) ({ cls := "java/util/BitSet", name := "nextSetBit", desc := "(I)I" } : Jvm.MethodName)) ∈ lw_all := lw_g (lw_at lw_m5 36 rfl) rfl
theorem q1110 : (Jvm.Cond.code ({ cls := "java/util/BitSet", name := "nextSetBit", desc := "(I)I" } : Jvm.MethodName) prog_53_method_28_code (5 : Nat) (Option.some Jvm.ClassFile.FieldType.int)) ∈ lw_all := lw_g (lw_at lw_m5 37 rfl) rfl
theorem q1111 : (Jvm.Cond.classLink "java/util/BitSet" (142 : Nat) "java/lang/IndexOutOfBoundsException") ∈ lw_all := lw_g (lw_at lw_m5 38 rfl) rfl
theorem q1112 : (Jvm.Cond.classLink "java/util/BitSet" (33 : Nat) "java/lang/StringBuilder") ∈ lw_all := lw_g (lw_at lw_m5 39 rfl) rfl
theorem q1113 : (Jvm.Cond.methodLink "java/util/BitSet" (35 : Nat) ({ cls := "java/lang/StringBuilder", name := "<init>", desc := "()V" } : Jvm.MethodName)) ∈ lw_all := lw_g (lw_at lw_m5 40 rfl) rfl
theorem q1114 : (Jvm.Cond.stringRef "java/util/BitSet" (144 : Nat) "fromIndex < 0: ") ∈ lw_tbl := lw_at lw_m5 41 rfl
theorem q1115 : (Jvm.Cond.methodLink "java/util/BitSet" (38 : Nat) ({ cls := "java/lang/StringBuilder", name := "append", desc := "(Ljava/lang/String;)Ljava/lang/StringBuilder;" } : Jvm.MethodName)) ∈ lw_all := lw_g (lw_at lw_m5 42 rfl) rfl
theorem q1116 : (Jvm.Cond.methodLink "java/util/BitSet" (42 : Nat) ({ cls := "java/lang/StringBuilder", name := "append", desc := "(I)Ljava/lang/StringBuilder;" } : Jvm.MethodName)) ∈ lw_all := lw_g (lw_at lw_m5 43 rfl) rfl
theorem q1117 : (Jvm.Cond.methodLink "java/util/BitSet" (45 : Nat) ({ cls := "java/lang/StringBuilder", name := "toString", desc := "()Ljava/lang/String;" } : Jvm.MethodName)) ∈ lw_all := lw_g (lw_at lw_m5 44 rfl) rfl
theorem q1118 : (Jvm.Cond.methodLink "java/util/BitSet" (146 : Nat) ({ cls := "java/lang/IndexOutOfBoundsException", name := "<init>", desc := "(Ljava/lang/String;)V" } : Jvm.MethodName)) ∈ lw_all := lw_g (lw_at lw_m5 45 rfl) rfl
theorem q1119 : (Jvm.Cond.constantLong "java/util/BitSet" (165 : Nat) (-1 : Int64)) ∈ lw_all := lw_g (lw_at lw_m5 46 rfl) rfl
theorem q1120 : (Jvm.Cond.methodLink "java/util/BitSet" (182 : Nat) ({ cls := "java/lang/Long", name := "numberOfTrailingZeros", desc := "(J)I" } : Jvm.MethodName)) ∈ lw_all := lw_g (lw_at lw_m5 47 rfl) rfl
theorem q1128 : (Jvm.Cond.instanceMethod ({ cls := "java/util/BitSet", name := "cardinality", desc := "()I" } : Jvm.MethodName)) ∈ lw_all := lw_g (lw_at lw_m5 55 rfl) rfl
theorem q1129 : (Jvm.Cond.selects "java/util/BitSet" ({ cls := "java/util/BitSet", name := "cardinality", desc := "()I" } : Jvm.MethodName) ({ cls := "java/util/BitSet", name := "cardinality", desc := "()I" } : Jvm.MethodName)) ∈ lw_all := lw_g (lw_at lw_m5 56 rfl) rfl
theorem q1130 : (Jvm.Cond.code ({ cls := "java/util/BitSet", name := "cardinality", desc := "()I" } : Jvm.MethodName) prog_53_method_35_code (3 : Nat) (Option.some Jvm.ClassFile.FieldType.int)) ∈ lw_all := lw_g (lw_at lw_m5 57 rfl) rfl
theorem q1131 : (Jvm.Cond.methodLink "java/util/BitSet" (196 : Nat) ({ cls := "java/lang/Long", name := "bitCount", desc := "(J)I" } : Jvm.MethodName)) ∈ lw_all := lw_g (lw_at lw_m5 58 rfl) rfl
theorem q1221 : (Jvm.Cond.instanceMethod ({ cls := "java/util/BitSet", name := "get", desc := "(I)Z" } : Jvm.MethodName)) ∈ lw_all := lw_g (lw_at lw_m5 148 rfl) rfl
theorem q1222 : (Jvm.Cond.selects "java/util/BitSet" ({ cls := "java/util/BitSet", name := "get", desc := "(I)Z" } : Jvm.MethodName) ({ cls := "java/util/BitSet", name := "get", desc := "(I)Z" } : Jvm.MethodName)) ∈ lw_all := lw_g (lw_at lw_m5 149 rfl) rfl
theorem q1223 : (Jvm.Cond.code ({ cls := "java/util/BitSet", name := "get", desc := "(I)Z" } : Jvm.MethodName) prog_53_method_26_code (3 : Nat) (Option.some Jvm.ClassFile.FieldType.boolean)) ∈ lw_all := lw_g (lw_at lw_m5 150 rfl) rfl
theorem q1224 : (Jvm.Cond.stringRef "java/util/BitSet" (153 : Nat) "bitIndex < 0: ") ∈ lw_tbl := lw_at lw_m5 151 rfl
theorem q1234 : (Jvm.Cond.instanceMethod ({ cls := "java/util/BitSet", name := "set", desc := "(I)V" } : Jvm.MethodName)) ∈ lw_all := lw_g (lw_at lw_m5 161 rfl) rfl
theorem q1235 : (Jvm.Cond.selects "java/util/BitSet" ({ cls := "java/util/BitSet", name := "set", desc := "(I)V" } : Jvm.MethodName) ({ cls := "java/util/BitSet", name := "set", desc := "(I)V" } : Jvm.MethodName)) ∈ lw_all := lw_g (lw_at lw_m5 162 rfl) rfl
theorem q1236 : (Jvm.Cond.code ({ cls := "java/util/BitSet", name := "set", desc := "(I)V" } : Jvm.MethodName) prog_53_method_19_code (3 : Nat) (Option.none : Option Jvm.ClassFile.FieldType)) ∈ lw_all := lw_g (lw_at lw_m5 163 rfl) rfl
theorem q1237 : (Jvm.Cond.methodLink "java/util/BitSet" (155 : Nat) ({ cls := "java/util/BitSet", name := "expandTo", desc := "(I)V" } : Jvm.MethodName)) ∈ lw_all := lw_g (lw_at lw_m5 164 rfl) rfl
theorem q1238 : (Jvm.Cond.privateMethod ({ cls := "java/util/BitSet", name := "expandTo", desc := "(I)V" } : Jvm.MethodName)) ∈ lw_tbl := lw_at lw_m5 165 rfl
theorem q1239 : (Jvm.Cond.instanceMethod ({ cls := "java/util/BitSet", name := "expandTo", desc := "(I)V" } : Jvm.MethodName)) ∈ lw_all := lw_g (lw_at lw_m5 166 rfl) rfl
theorem q1240 : (Jvm.Cond.code ({ cls := "java/util/BitSet", name := "expandTo", desc := "(I)V" } : Jvm.MethodName) prog_53_method_15_code (3 : Nat) (Option.none : Option Jvm.ClassFile.FieldType)) ∈ lw_all := lw_g (lw_at lw_m5 167 rfl) rfl
theorem q1253 : (Jvm.Cond.instanceMethod ({ cls := "java/util/BitSet", name := "clear", desc := "(I)V" } : Jvm.MethodName)) ∈ lw_all := lw_g (lw_at lw_m5 180 rfl) rfl
theorem q1254 : (Jvm.Cond.selects "java/util/BitSet" ({ cls := "java/util/BitSet", name := "clear", desc := "(I)V" } : Jvm.MethodName) ({ cls := "java/util/BitSet", name := "clear", desc := "(I)V" } : Jvm.MethodName)) ∈ lw_all := lw_g (lw_at lw_m5 181 rfl) rfl
theorem q1255 : (Jvm.Cond.code ({ cls := "java/util/BitSet", name := "clear", desc := "(I)V" } : Jvm.MethodName) prog_53_method_23_code (3 : Nat) (Option.none : Option Jvm.ClassFile.FieldType)) ∈ lw_all := lw_g (lw_at lw_m5 182 rfl) rfl
theorem q1256 : (Jvm.Cond.methodLink "java/util/BitSet" (158 : Nat) ({ cls := "java/util/BitSet", name := "recalculateWordsInUse", desc := "()V" } : Jvm.MethodName)) ∈ lw_all := lw_g (lw_at lw_m5 183 rfl) rfl
theorem q1257 : (Jvm.Cond.privateMethod ({ cls := "java/util/BitSet", name := "recalculateWordsInUse", desc := "()V" } : Jvm.MethodName)) ∈ lw_tbl := lw_at lw_m5 184 rfl
theorem q1258 : (Jvm.Cond.instanceMethod ({ cls := "java/util/BitSet", name := "recalculateWordsInUse", desc := "()V" } : Jvm.MethodName)) ∈ lw_all := lw_g (lw_at lw_m5 185 rfl) rfl
theorem q1259 : (Jvm.Cond.code ({ cls := "java/util/BitSet", name := "recalculateWordsInUse", desc := "()V" } : Jvm.MethodName) prog_53_method_3_code (2 : Nat) (Option.none : Option Jvm.ClassFile.FieldType)) ∈ lw_all := lw_g (lw_at lw_m5 186 rfl) rfl
theorem q1976 : (Jvm.Cond.instanceMethod ({ cls := "java/util/BitSet", name := "nextClearBit", desc := "(I)I" } : Jvm.MethodName)) ∈ lw_all := lw_g (lw_at lw_m8 183 rfl) rfl
theorem q1977 : (Jvm.Cond.selects "java/util/BitSet" ({ cls := "java/util/BitSet", name := "nextClearBit", desc := "(I)I" } : Jvm.MethodName) ({ cls := "java/util/BitSet", name := "nextClearBit", desc := "(I)I" } : Jvm.MethodName)) ∈ lw_all := lw_g (lw_at lw_m8 184 rfl) rfl
theorem q1978 : (Jvm.Cond.code ({ cls := "java/util/BitSet", name := "nextClearBit", desc := "(I)I" } : Jvm.MethodName) prog_53_method_29_code (5 : Nat) (Option.some Jvm.ClassFile.FieldType.int)) ∈ lw_all := lw_g (lw_at lw_m8 185 rfl) rfl
theorem q2786 : (Jvm.Cond.castable "java/util/BitSet" "java/lang/Object") ∈ lw_tbl := lw_at lw_m12 33 rfl
theorem in_J8 : ∀ w ∈ wsJ80, w ∈ lw_all := lw_in wsJ80 [330, 332, 334] (by decide +kernel) (by decide +kernel)

/-! java/lang/AbstractStringBuilder -/
set_option maxRecDepth 100000
def RJ9 : String := "java/lang/AbstractStringBuilder"
abbrev cJ9_init : ByteArray := prog_15_method_2_code
def yJ9_init : MethodName := ⟨RJ9, "<init>", "(I)V"⟩
def dkwJ9_init_1 : List UInt8 := [167, 0, 16, 42, 27, 184, 0, 26, 181, 0, 15, 42, 4, 181, 0, 22, 177]
abbrev dktJ9_init_1 : List UInt8 := dkwJ9_init_1 ++ []
def dkwJ9_init_0 : List UInt8 := [42, 183, 0, 3, 178, 0, 18, 153, 0, 18, 42, 27, 188, 8, 181, 0, 15, 42, 3, 181, 0, 22]
abbrev dktJ9_init_0 : List UInt8 := dkwJ9_init_0 ++ dktJ9_init_1
theorem dksJ9_init_0 : cJ9_init.data.toList.drop 0 = dktJ9_init_0 := by decide +kernel
theorem dksJ9_init_1 : cJ9_init.data.toList.drop 22 = dktJ9_init_1 := dk_seg dksJ9_init_0 22 rfl rfl
theorem dJ9_init_0 : decode cJ9_init 0 = .ok (.aload_n 0, 1) := dk_42 (dk_at dksJ9_init_0 0 rfl rfl)
theorem dJ9_init_1 : decode cJ9_init 1 = .ok (.invokespecial 3, 3) := dk_183 0 3 (dk_at dksJ9_init_0 1 rfl rfl)
theorem dJ9_init_4 : decode cJ9_init 4 = .ok (.getstatic 18, 3) := dk_178 0 18 (dk_at dksJ9_init_0 4 rfl rfl)
theorem dJ9_init_7 : decode cJ9_init 7 = .ok (.ifCond .eq 18, 3) := dk_153 0 18 (dk_at dksJ9_init_0 7 rfl rfl)
theorem dJ9_init_10 : decode cJ9_init 10 = .ok (.aload_n 0, 1) := dk_42 (dk_at dksJ9_init_0 10 rfl rfl)
theorem dJ9_init_11 : decode cJ9_init 11 = .ok (.iload_n 1, 1) := dk_27 (dk_at dksJ9_init_0 11 rfl rfl)
theorem dJ9_init_12 : decode cJ9_init 12 = .ok (.newarray .byte, 2) := dk_188_8 (dk_at dksJ9_init_0 12 rfl rfl)
theorem dJ9_init_14 : decode cJ9_init 14 = .ok (.putfield 15, 3) := dk_181 0 15 (dk_at dksJ9_init_0 14 rfl rfl)
theorem dJ9_init_17 : decode cJ9_init 17 = .ok (.aload_n 0, 1) := dk_42 (dk_at dksJ9_init_0 17 rfl rfl)
theorem dJ9_init_18 : decode cJ9_init 18 = .ok (.iconst 0, 1) := dk_3 (dk_at dksJ9_init_0 18 rfl rfl)
theorem dJ9_init_19 : decode cJ9_init 19 = .ok (.putfield 22, 3) := dk_181 0 22 (dk_at dksJ9_init_0 19 rfl rfl)
theorem dJ9_init_22 : decode cJ9_init 22 = .ok (.goto 16, 3) := dk_167 0 16 (dk_at dksJ9_init_1 0 rfl rfl)
theorem dJ9_init_25 : decode cJ9_init 25 = .ok (.aload_n 0, 1) := dk_42 (dk_at dksJ9_init_1 3 rfl rfl)
theorem dJ9_init_26 : decode cJ9_init 26 = .ok (.iload_n 1, 1) := dk_27 (dk_at dksJ9_init_1 4 rfl rfl)
theorem dJ9_init_27 : decode cJ9_init 27 = .ok (.invokestatic 26, 3) := dk_184 0 26 (dk_at dksJ9_init_1 5 rfl rfl)
theorem dJ9_init_30 : decode cJ9_init 30 = .ok (.putfield 15, 3) := dk_181 0 15 (dk_at dksJ9_init_1 8 rfl rfl)
theorem dJ9_init_33 : decode cJ9_init 33 = .ok (.aload_n 0, 1) := dk_42 (dk_at dksJ9_init_1 11 rfl rfl)
theorem dJ9_init_34 : decode cJ9_init 34 = .ok (.iconst 1, 1) := dk_4 (dk_at dksJ9_init_1 12 rfl rfl)
theorem dJ9_init_35 : decode cJ9_init 35 = .ok (.putfield 22, 3) := dk_181 0 22 (dk_at dksJ9_init_1 13 rfl rfl)
theorem dJ9_init_38 : decode cJ9_init 38 = .ok (.return_, 1) := dk_177 (dk_at dksJ9_init_1 16 rfl rfl)
abbrev cJ9_length : ByteArray := prog_15_method_6_code
def yJ9_length : MethodName := ⟨RJ9, "length", "()I"⟩
theorem dJ9_length_0 : decode cJ9_length 0 = .ok (.aload_n 0, 1) := by decide +kernel
theorem dJ9_length_1 : decode cJ9_length 1 = .ok (.getfield 79, 3) := by decide +kernel
theorem dJ9_length_4 : decode cJ9_length 4 = .ok (.ireturn, 1) := by decide +kernel
abbrev cJ9_append : ByteArray := prog_15_method_31_code
def yJ9_append : MethodName := ⟨RJ9, "append", "(C)Ljava/lang/AbstractStringBuilder;"⟩
def dkwJ9_append_3 : List UInt8 := [181, 0, 79, 27, 184, 0, 197, 42, 176]
abbrev dktJ9_append_3 : List UInt8 := dkwJ9_append_3 ++ []
def dkwJ9_append_2 : List UInt8 := [182, 0, 83, 153, 0, 7, 42, 182, 0, 195, 42, 180, 0, 15, 42, 89, 180, 0, 79, 90, 4, 96]
abbrev dktJ9_append_2 : List UInt8 := dkwJ9_append_2 ++ dktJ9_append_3
def dkwJ9_append_1 : List UInt8 := [42, 180, 0, 15, 42, 89, 180, 0, 79, 90, 4, 96, 181, 0, 79, 27, 145, 84, 167, 0, 33, 42]
abbrev dktJ9_append_1 : List UInt8 := dkwJ9_append_1 ++ dktJ9_append_2
def dkwJ9_append_0 : List UInt8 := [42, 42, 180, 0, 79, 4, 96, 182, 0, 100, 42, 182, 0, 83, 153, 0, 31, 27, 184, 0, 191, 153, 0, 24]
abbrev dktJ9_append_0 : List UInt8 := dkwJ9_append_0 ++ dktJ9_append_1
theorem dksJ9_append_0 : cJ9_append.data.toList.drop 0 = dktJ9_append_0 := by decide +kernel
theorem dksJ9_append_1 : cJ9_append.data.toList.drop 24 = dktJ9_append_1 := dk_seg dksJ9_append_0 24 rfl rfl
theorem dksJ9_append_2 : cJ9_append.data.toList.drop 46 = dktJ9_append_2 := dk_seg dksJ9_append_1 22 rfl rfl
theorem dksJ9_append_3 : cJ9_append.data.toList.drop 68 = dktJ9_append_3 := dk_seg dksJ9_append_2 22 rfl rfl
theorem dJ9_append_0 : decode cJ9_append 0 = .ok (.aload_n 0, 1) := dk_42 (dk_at dksJ9_append_0 0 rfl rfl)
theorem dJ9_append_1 : decode cJ9_append 1 = .ok (.aload_n 0, 1) := dk_42 (dk_at dksJ9_append_0 1 rfl rfl)
theorem dJ9_append_2 : decode cJ9_append 2 = .ok (.getfield 79, 3) := dk_180 0 79 (dk_at dksJ9_append_0 2 rfl rfl)
theorem dJ9_append_5 : decode cJ9_append 5 = .ok (.iconst 1, 1) := dk_4 (dk_at dksJ9_append_0 5 rfl rfl)
theorem dJ9_append_6 : decode cJ9_append 6 = .ok (.iadd, 1) := dk_96 (dk_at dksJ9_append_0 6 rfl rfl)
theorem dJ9_append_7 : decode cJ9_append 7 = .ok (.invokevirtual 100, 3) := dk_182 0 100 (dk_at dksJ9_append_0 7 rfl rfl)
theorem dJ9_append_10 : decode cJ9_append 10 = .ok (.aload_n 0, 1) := dk_42 (dk_at dksJ9_append_0 10 rfl rfl)
theorem dJ9_append_11 : decode cJ9_append 11 = .ok (.invokevirtual 83, 3) := dk_182 0 83 (dk_at dksJ9_append_0 11 rfl rfl)
theorem dJ9_append_14 : decode cJ9_append 14 = .ok (.ifCond .eq 31, 3) := dk_153 0 31 (dk_at dksJ9_append_0 14 rfl rfl)
theorem dJ9_append_17 : decode cJ9_append 17 = .ok (.iload_n 1, 1) := dk_27 (dk_at dksJ9_append_0 17 rfl rfl)
theorem dJ9_append_18 : decode cJ9_append 18 = .ok (.invokestatic 191, 3) := dk_184 0 191 (dk_at dksJ9_append_0 18 rfl rfl)
theorem dJ9_append_21 : decode cJ9_append 21 = .ok (.ifCond .eq 24, 3) := dk_153 0 24 (dk_at dksJ9_append_0 21 rfl rfl)
theorem dJ9_append_24 : decode cJ9_append 24 = .ok (.aload_n 0, 1) := dk_42 (dk_at dksJ9_append_1 0 rfl rfl)
theorem dJ9_append_25 : decode cJ9_append 25 = .ok (.getfield 15, 3) := dk_180 0 15 (dk_at dksJ9_append_1 1 rfl rfl)
theorem dJ9_append_28 : decode cJ9_append 28 = .ok (.aload_n 0, 1) := dk_42 (dk_at dksJ9_append_1 4 rfl rfl)
theorem dJ9_append_29 : decode cJ9_append 29 = .ok (.dup, 1) := dk_89 (dk_at dksJ9_append_1 5 rfl rfl)
theorem dJ9_append_30 : decode cJ9_append 30 = .ok (.getfield 79, 3) := dk_180 0 79 (dk_at dksJ9_append_1 6 rfl rfl)
theorem dJ9_append_33 : decode cJ9_append 33 = .ok (.dup_x1, 1) := dk_90 (dk_at dksJ9_append_1 9 rfl rfl)
theorem dJ9_append_34 : decode cJ9_append 34 = .ok (.iconst 1, 1) := dk_4 (dk_at dksJ9_append_1 10 rfl rfl)
theorem dJ9_append_35 : decode cJ9_append 35 = .ok (.iadd, 1) := dk_96 (dk_at dksJ9_append_1 11 rfl rfl)
theorem dJ9_append_36 : decode cJ9_append 36 = .ok (.putfield 79, 3) := dk_181 0 79 (dk_at dksJ9_append_1 12 rfl rfl)
theorem dJ9_append_39 : decode cJ9_append 39 = .ok (.iload_n 1, 1) := dk_27 (dk_at dksJ9_append_1 15 rfl rfl)
theorem dJ9_append_40 : decode cJ9_append 40 = .ok (.i2b, 1) := dk_145 (dk_at dksJ9_append_1 16 rfl rfl)
theorem dJ9_append_41 : decode cJ9_append 41 = .ok (.bastore, 1) := dk_84 (dk_at dksJ9_append_1 17 rfl rfl)
theorem dJ9_append_42 : decode cJ9_append 42 = .ok (.goto 33, 3) := dk_167 0 33 (dk_at dksJ9_append_1 18 rfl rfl)
theorem dJ9_append_45 : decode cJ9_append 45 = .ok (.aload_n 0, 1) := dk_42 (dk_at dksJ9_append_1 21 rfl rfl)
theorem dJ9_append_46 : decode cJ9_append 46 = .ok (.invokevirtual 83, 3) := dk_182 0 83 (dk_at dksJ9_append_2 0 rfl rfl)
theorem dJ9_append_49 : decode cJ9_append 49 = .ok (.ifCond .eq 7, 3) := dk_153 0 7 (dk_at dksJ9_append_2 3 rfl rfl)
theorem dJ9_append_52 : decode cJ9_append 52 = .ok (.aload_n 0, 1) := dk_42 (dk_at dksJ9_append_2 6 rfl rfl)
theorem dJ9_append_53 : decode cJ9_append 53 = .ok (.invokevirtual 195, 3) := dk_182 0 195 (dk_at dksJ9_append_2 7 rfl rfl)
theorem dJ9_append_56 : decode cJ9_append 56 = .ok (.aload_n 0, 1) := dk_42 (dk_at dksJ9_append_2 10 rfl rfl)
theorem dJ9_append_57 : decode cJ9_append 57 = .ok (.getfield 15, 3) := dk_180 0 15 (dk_at dksJ9_append_2 11 rfl rfl)
theorem dJ9_append_60 : decode cJ9_append 60 = .ok (.aload_n 0, 1) := dk_42 (dk_at dksJ9_append_2 14 rfl rfl)
theorem dJ9_append_61 : decode cJ9_append 61 = .ok (.dup, 1) := dk_89 (dk_at dksJ9_append_2 15 rfl rfl)
theorem dJ9_append_62 : decode cJ9_append 62 = .ok (.getfield 79, 3) := dk_180 0 79 (dk_at dksJ9_append_2 16 rfl rfl)
theorem dJ9_append_65 : decode cJ9_append 65 = .ok (.dup_x1, 1) := dk_90 (dk_at dksJ9_append_2 19 rfl rfl)
theorem dJ9_append_66 : decode cJ9_append 66 = .ok (.iconst 1, 1) := dk_4 (dk_at dksJ9_append_2 20 rfl rfl)
theorem dJ9_append_67 : decode cJ9_append 67 = .ok (.iadd, 1) := dk_96 (dk_at dksJ9_append_2 21 rfl rfl)
theorem dJ9_append_68 : decode cJ9_append 68 = .ok (.putfield 79, 3) := dk_181 0 79 (dk_at dksJ9_append_3 0 rfl rfl)
theorem dJ9_append_71 : decode cJ9_append 71 = .ok (.iload_n 1, 1) := dk_27 (dk_at dksJ9_append_3 3 rfl rfl)
theorem dJ9_append_72 : decode cJ9_append 72 = .ok (.invokestatic 197, 3) := dk_184 0 197 (dk_at dksJ9_append_3 4 rfl rfl)
theorem dJ9_append_75 : decode cJ9_append 75 = .ok (.aload_n 0, 1) := dk_42 (dk_at dksJ9_append_3 7 rfl rfl)
theorem dJ9_append_76 : decode cJ9_append 76 = .ok (.areturn, 1) := dk_176 (dk_at dksJ9_append_3 8 rfl rfl)
abbrev cJ9_ensureCapacityInternal : ByteArray := prog_15_method_9_code
def yJ9_ensureCapacityInternal : MethodName := ⟨RJ9, "ensureCapacityInternal", "(I)V"⟩
def dkwJ9_ensureCapacityInternal_1 : List UInt8 := [182, 0, 104, 42, 180, 0, 22, 120, 184, 0, 108, 181, 0, 15, 177]
abbrev dktJ9_ensureCapacityInternal_1 : List UInt8 := dkwJ9_ensureCapacityInternal_1 ++ []
def dkwJ9_ensureCapacityInternal_0 : List UInt8 := [42, 180, 0, 15, 190, 42, 180, 0, 22, 122, 61, 27, 28, 100, 158, 0, 24, 42, 42, 180, 0, 15, 42, 27]
abbrev dktJ9_ensureCapacityInternal_0 : List UInt8 := dkwJ9_ensureCapacityInternal_0 ++ dktJ9_ensureCapacityInternal_1
theorem dksJ9_ensureCapacityInternal_0 : cJ9_ensureCapacityInternal.data.toList.drop 0 = dktJ9_ensureCapacityInternal_0 := by decide +kernel
theorem dksJ9_ensureCapacityInternal_1 : cJ9_ensureCapacityInternal.data.toList.drop 24 = dktJ9_ensureCapacityInternal_1 := dk_seg dksJ9_ensureCapacityInternal_0 24 rfl rfl
theorem dJ9_ensureCapacityInternal_0 : decode cJ9_ensureCapacityInternal 0 = .ok (.aload_n 0, 1) := dk_42 (dk_at dksJ9_ensureCapacityInternal_0 0 rfl rfl)
theorem dJ9_ensureCapacityInternal_1 : decode cJ9_ensureCapacityInternal 1 = .ok (.getfield 15, 3) := dk_180 0 15 (dk_at dksJ9_ensureCapacityInternal_0 1 rfl rfl)
theorem dJ9_ensureCapacityInternal_4 : decode cJ9_ensureCapacityInternal 4 = .ok (.arraylength, 1) := dk_190 (dk_at dksJ9_ensureCapacityInternal_0 4 rfl rfl)
theorem dJ9_ensureCapacityInternal_5 : decode cJ9_ensureCapacityInternal 5 = .ok (.aload_n 0, 1) := dk_42 (dk_at dksJ9_ensureCapacityInternal_0 5 rfl rfl)
theorem dJ9_ensureCapacityInternal_6 : decode cJ9_ensureCapacityInternal 6 = .ok (.getfield 22, 3) := dk_180 0 22 (dk_at dksJ9_ensureCapacityInternal_0 6 rfl rfl)
theorem dJ9_ensureCapacityInternal_9 : decode cJ9_ensureCapacityInternal 9 = .ok (.ishr, 1) := dk_122 (dk_at dksJ9_ensureCapacityInternal_0 9 rfl rfl)
theorem dJ9_ensureCapacityInternal_10 : decode cJ9_ensureCapacityInternal 10 = .ok (.istore_n 2, 1) := dk_61 (dk_at dksJ9_ensureCapacityInternal_0 10 rfl rfl)
theorem dJ9_ensureCapacityInternal_11 : decode cJ9_ensureCapacityInternal 11 = .ok (.iload_n 1, 1) := dk_27 (dk_at dksJ9_ensureCapacityInternal_0 11 rfl rfl)
theorem dJ9_ensureCapacityInternal_12 : decode cJ9_ensureCapacityInternal 12 = .ok (.iload_n 2, 1) := dk_28 (dk_at dksJ9_ensureCapacityInternal_0 12 rfl rfl)
theorem dJ9_ensureCapacityInternal_13 : decode cJ9_ensureCapacityInternal 13 = .ok (.isub, 1) := dk_100 (dk_at dksJ9_ensureCapacityInternal_0 13 rfl rfl)
theorem dJ9_ensureCapacityInternal_14 : decode cJ9_ensureCapacityInternal 14 = .ok (.ifCond .le 24, 3) := dk_158 0 24 (dk_at dksJ9_ensureCapacityInternal_0 14 rfl rfl)
theorem dJ9_ensureCapacityInternal_17 : decode cJ9_ensureCapacityInternal 17 = .ok (.aload_n 0, 1) := dk_42 (dk_at dksJ9_ensureCapacityInternal_0 17 rfl rfl)
theorem dJ9_ensureCapacityInternal_18 : decode cJ9_ensureCapacityInternal 18 = .ok (.aload_n 0, 1) := dk_42 (dk_at dksJ9_ensureCapacityInternal_0 18 rfl rfl)
theorem dJ9_ensureCapacityInternal_19 : decode cJ9_ensureCapacityInternal 19 = .ok (.getfield 15, 3) := dk_180 0 15 (dk_at dksJ9_ensureCapacityInternal_0 19 rfl rfl)
theorem dJ9_ensureCapacityInternal_22 : decode cJ9_ensureCapacityInternal 22 = .ok (.aload_n 0, 1) := dk_42 (dk_at dksJ9_ensureCapacityInternal_0 22 rfl rfl)
theorem dJ9_ensureCapacityInternal_23 : decode cJ9_ensureCapacityInternal 23 = .ok (.iload_n 1, 1) := dk_27 (dk_at dksJ9_ensureCapacityInternal_0 23 rfl rfl)
theorem dJ9_ensureCapacityInternal_24 : decode cJ9_ensureCapacityInternal 24 = .ok (.invokevirtual 104, 3) := dk_182 0 104 (dk_at dksJ9_ensureCapacityInternal_1 0 rfl rfl)
theorem dJ9_ensureCapacityInternal_27 : decode cJ9_ensureCapacityInternal 27 = .ok (.aload_n 0, 1) := dk_42 (dk_at dksJ9_ensureCapacityInternal_1 3 rfl rfl)
theorem dJ9_ensureCapacityInternal_28 : decode cJ9_ensureCapacityInternal 28 = .ok (.getfield 22, 3) := dk_180 0 22 (dk_at dksJ9_ensureCapacityInternal_1 4 rfl rfl)
theorem dJ9_ensureCapacityInternal_31 : decode cJ9_ensureCapacityInternal 31 = .ok (.ishl, 1) := dk_120 (dk_at dksJ9_ensureCapacityInternal_1 7 rfl rfl)
theorem dJ9_ensureCapacityInternal_32 : decode cJ9_ensureCapacityInternal 32 = .ok (.invokestatic 108, 3) := dk_184 0 108 (dk_at dksJ9_ensureCapacityInternal_1 8 rfl rfl)
theorem dJ9_ensureCapacityInternal_35 : decode cJ9_ensureCapacityInternal 35 = .ok (.putfield 15, 3) := dk_181 0 15 (dk_at dksJ9_ensureCapacityInternal_1 11 rfl rfl)
theorem dJ9_ensureCapacityInternal_38 : decode cJ9_ensureCapacityInternal 38 = .ok (.return_, 1) := dk_177 (dk_at dksJ9_ensureCapacityInternal_1 14 rfl rfl)
abbrev cJ9_newCapacity : ByteArray := prog_15_method_10_code
def yJ9_newCapacity : MethodName := ⟨RJ9, "newCapacity", "(I)I"⟩
def dkwJ9_newCapacity_2 : List UInt8 := [183, 0, 124, 191, 21, 5, 42, 180, 0, 22, 122, 172]
abbrev dktJ9_newCapacity_2 : List UInt8 := dkwJ9_newCapacity_2 ++ []
def dkwJ9_newCapacity_1 : List UInt8 := [180, 0, 22, 120, 96, 184, 0, 114, 54, 5, 21, 5, 18, 39, 160, 0, 13, 187, 0, 120, 89, 18, 122]
abbrev dktJ9_newCapacity_1 : List UInt8 := dkwJ9_newCapacity_1 ++ dktJ9_newCapacity_2
def dkwJ9_newCapacity_0 : List UInt8 := [42, 180, 0, 15, 190, 61, 27, 42, 180, 0, 22, 120, 62, 29, 28, 100, 54, 4, 28, 21, 4, 28, 5, 42]
abbrev dktJ9_newCapacity_0 : List UInt8 := dkwJ9_newCapacity_0 ++ dktJ9_newCapacity_1
theorem dksJ9_newCapacity_0 : cJ9_newCapacity.data.toList.drop 0 = dktJ9_newCapacity_0 := by decide +kernel
theorem dksJ9_newCapacity_1 : cJ9_newCapacity.data.toList.drop 24 = dktJ9_newCapacity_1 := dk_seg dksJ9_newCapacity_0 24 rfl rfl
theorem dksJ9_newCapacity_2 : cJ9_newCapacity.data.toList.drop 47 = dktJ9_newCapacity_2 := dk_seg dksJ9_newCapacity_1 23 rfl rfl
theorem dJ9_newCapacity_0 : decode cJ9_newCapacity 0 = .ok (.aload_n 0, 1) := dk_42 (dk_at dksJ9_newCapacity_0 0 rfl rfl)
theorem dJ9_newCapacity_1 : decode cJ9_newCapacity 1 = .ok (.getfield 15, 3) := dk_180 0 15 (dk_at dksJ9_newCapacity_0 1 rfl rfl)
theorem dJ9_newCapacity_4 : decode cJ9_newCapacity 4 = .ok (.arraylength, 1) := dk_190 (dk_at dksJ9_newCapacity_0 4 rfl rfl)
theorem dJ9_newCapacity_5 : decode cJ9_newCapacity 5 = .ok (.istore_n 2, 1) := dk_61 (dk_at dksJ9_newCapacity_0 5 rfl rfl)
theorem dJ9_newCapacity_6 : decode cJ9_newCapacity 6 = .ok (.iload_n 1, 1) := dk_27 (dk_at dksJ9_newCapacity_0 6 rfl rfl)
theorem dJ9_newCapacity_7 : decode cJ9_newCapacity 7 = .ok (.aload_n 0, 1) := dk_42 (dk_at dksJ9_newCapacity_0 7 rfl rfl)
theorem dJ9_newCapacity_8 : decode cJ9_newCapacity 8 = .ok (.getfield 22, 3) := dk_180 0 22 (dk_at dksJ9_newCapacity_0 8 rfl rfl)
theorem dJ9_newCapacity_11 : decode cJ9_newCapacity 11 = .ok (.ishl, 1) := dk_120 (dk_at dksJ9_newCapacity_0 11 rfl rfl)
theorem dJ9_newCapacity_12 : decode cJ9_newCapacity 12 = .ok (.istore_n 3, 1) := dk_62 (dk_at dksJ9_newCapacity_0 12 rfl rfl)
theorem dJ9_newCapacity_13 : decode cJ9_newCapacity 13 = .ok (.iload_n 3, 1) := dk_29 (dk_at dksJ9_newCapacity_0 13 rfl rfl)
theorem dJ9_newCapacity_14 : decode cJ9_newCapacity 14 = .ok (.iload_n 2, 1) := dk_28 (dk_at dksJ9_newCapacity_0 14 rfl rfl)
theorem dJ9_newCapacity_15 : decode cJ9_newCapacity 15 = .ok (.isub, 1) := dk_100 (dk_at dksJ9_newCapacity_0 15 rfl rfl)
theorem dJ9_newCapacity_16 : decode cJ9_newCapacity 16 = .ok (.istore 4, 2) := dk_54 4 (dk_at dksJ9_newCapacity_0 16 rfl rfl)
theorem dJ9_newCapacity_18 : decode cJ9_newCapacity 18 = .ok (.iload_n 2, 1) := dk_28 (dk_at dksJ9_newCapacity_0 18 rfl rfl)
theorem dJ9_newCapacity_19 : decode cJ9_newCapacity 19 = .ok (.iload 4, 2) := dk_21 4 (dk_at dksJ9_newCapacity_0 19 rfl rfl)
theorem dJ9_newCapacity_21 : decode cJ9_newCapacity 21 = .ok (.iload_n 2, 1) := dk_28 (dk_at dksJ9_newCapacity_0 21 rfl rfl)
theorem dJ9_newCapacity_22 : decode cJ9_newCapacity 22 = .ok (.iconst 2, 1) := dk_5 (dk_at dksJ9_newCapacity_0 22 rfl rfl)
theorem dJ9_newCapacity_23 : decode cJ9_newCapacity 23 = .ok (.aload_n 0, 1) := dk_42 (dk_at dksJ9_newCapacity_0 23 rfl rfl)
theorem dJ9_newCapacity_24 : decode cJ9_newCapacity 24 = .ok (.getfield 22, 3) := dk_180 0 22 (dk_at dksJ9_newCapacity_1 0 rfl rfl)
theorem dJ9_newCapacity_27 : decode cJ9_newCapacity 27 = .ok (.ishl, 1) := dk_120 (dk_at dksJ9_newCapacity_1 3 rfl rfl)
theorem dJ9_newCapacity_28 : decode cJ9_newCapacity 28 = .ok (.iadd, 1) := dk_96 (dk_at dksJ9_newCapacity_1 4 rfl rfl)
theorem dJ9_newCapacity_29 : decode cJ9_newCapacity 29 = .ok (.invokestatic 114, 3) := dk_184 0 114 (dk_at dksJ9_newCapacity_1 5 rfl rfl)
theorem dJ9_newCapacity_32 : decode cJ9_newCapacity 32 = .ok (.istore 5, 2) := dk_54 5 (dk_at dksJ9_newCapacity_1 8 rfl rfl)
theorem dJ9_newCapacity_34 : decode cJ9_newCapacity 34 = .ok (.iload 5, 2) := dk_21 5 (dk_at dksJ9_newCapacity_1 10 rfl rfl)
theorem dJ9_newCapacity_36 : decode cJ9_newCapacity 36 = .ok (.ldc 39, 2) := dk_18 39 (dk_at dksJ9_newCapacity_1 12 rfl rfl)
theorem dJ9_newCapacity_38 : decode cJ9_newCapacity 38 = .ok (.if_icmp .ne 13, 3) := dk_160 0 13 (dk_at dksJ9_newCapacity_1 14 rfl rfl)
theorem dJ9_newCapacity_41 : decode cJ9_newCapacity 41 = .ok (.new 120, 3) := dk_187 0 120 (dk_at dksJ9_newCapacity_1 17 rfl rfl)
theorem dJ9_newCapacity_44 : decode cJ9_newCapacity 44 = .ok (.dup, 1) := dk_89 (dk_at dksJ9_newCapacity_1 20 rfl rfl)
theorem dJ9_newCapacity_45 : decode cJ9_newCapacity 45 = .ok (.ldc 122, 2) := dk_18 122 (dk_at dksJ9_newCapacity_1 21 rfl rfl)
theorem dJ9_newCapacity_47 : decode cJ9_newCapacity 47 = .ok (.invokespecial 124, 3) := dk_183 0 124 (dk_at dksJ9_newCapacity_2 0 rfl rfl)
theorem dJ9_newCapacity_50 : decode cJ9_newCapacity 50 = .ok (.athrow, 1) := dk_191 (dk_at dksJ9_newCapacity_2 3 rfl rfl)
theorem dJ9_newCapacity_51 : decode cJ9_newCapacity 51 = .ok (.iload 5, 2) := dk_21 5 (dk_at dksJ9_newCapacity_2 4 rfl rfl)
theorem dJ9_newCapacity_53 : decode cJ9_newCapacity 53 = .ok (.aload_n 0, 1) := dk_42 (dk_at dksJ9_newCapacity_2 6 rfl rfl)
theorem dJ9_newCapacity_54 : decode cJ9_newCapacity 54 = .ok (.getfield 22, 3) := dk_180 0 22 (dk_at dksJ9_newCapacity_2 7 rfl rfl)
theorem dJ9_newCapacity_57 : decode cJ9_newCapacity 57 = .ok (.ishr, 1) := dk_122 (dk_at dksJ9_newCapacity_2 10 rfl rfl)
theorem dJ9_newCapacity_58 : decode cJ9_newCapacity 58 = .ok (.ireturn, 1) := dk_172 (dk_at dksJ9_newCapacity_2 11 rfl rfl)
abbrev cJ9_isLatin1 : ByteArray := prog_15_method_68_code
def yJ9_isLatin1 : MethodName := ⟨RJ9, "isLatin1", "()Z"⟩
def dkwJ9_isLatin1_0 : List UInt8 := [178, 0, 18, 153, 0, 14, 42, 180, 0, 22, 154, 0, 7, 4, 167, 0, 4, 3, 172]
abbrev dktJ9_isLatin1_0 : List UInt8 := dkwJ9_isLatin1_0 ++ []
theorem dksJ9_isLatin1_0 : cJ9_isLatin1.data.toList.drop 0 = dktJ9_isLatin1_0 := by decide +kernel
theorem dJ9_isLatin1_0 : decode cJ9_isLatin1 0 = .ok (.getstatic 18, 3) := dk_178 0 18 (dk_at dksJ9_isLatin1_0 0 rfl rfl)
theorem dJ9_isLatin1_3 : decode cJ9_isLatin1 3 = .ok (.ifCond .eq 14, 3) := dk_153 0 14 (dk_at dksJ9_isLatin1_0 3 rfl rfl)
theorem dJ9_isLatin1_6 : decode cJ9_isLatin1 6 = .ok (.aload_n 0, 1) := dk_42 (dk_at dksJ9_isLatin1_0 6 rfl rfl)
theorem dJ9_isLatin1_7 : decode cJ9_isLatin1 7 = .ok (.getfield 22, 3) := dk_180 0 22 (dk_at dksJ9_isLatin1_0 7 rfl rfl)
theorem dJ9_isLatin1_10 : decode cJ9_isLatin1 10 = .ok (.ifCond .ne 7, 3) := dk_154 0 7 (dk_at dksJ9_isLatin1_0 10 rfl rfl)
theorem dJ9_isLatin1_13 : decode cJ9_isLatin1 13 = .ok (.iconst 1, 1) := dk_4 (dk_at dksJ9_isLatin1_0 13 rfl rfl)
theorem dJ9_isLatin1_14 : decode cJ9_isLatin1 14 = .ok (.goto 4, 3) := dk_167 0 4 (dk_at dksJ9_isLatin1_0 14 rfl rfl)
theorem dJ9_isLatin1_17 : decode cJ9_isLatin1 17 = .ok (.iconst 0, 1) := dk_3 (dk_at dksJ9_isLatin1_0 17 rfl rfl)
theorem dJ9_isLatin1_18 : decode cJ9_isLatin1 18 = .ok (.ireturn, 1) := dk_172 (dk_at dksJ9_isLatin1_0 18 rfl rfl)
abbrev cJ9_inflate : ByteArray := prog_15_method_11_code
def yJ9_inflate : MethodName := ⟨RJ9, "inflate", "()V"⟩
def dkwJ9_inflate_1 : List UInt8 := [42, 180, 0, 79, 184, 0, 125, 42, 43, 181, 0, 15, 42, 4, 181, 0, 22, 177]
abbrev dktJ9_inflate_1 : List UInt8 := dkwJ9_inflate_1 ++ []
def dkwJ9_inflate_0 : List UInt8 := [42, 182, 0, 83, 154, 0, 4, 177, 42, 180, 0, 15, 190, 184, 0, 26, 76, 42, 180, 0, 15, 3, 43, 3]
abbrev dktJ9_inflate_0 : List UInt8 := dkwJ9_inflate_0 ++ dktJ9_inflate_1
theorem dksJ9_inflate_0 : cJ9_inflate.data.toList.drop 0 = dktJ9_inflate_0 := by decide +kernel
theorem dksJ9_inflate_1 : cJ9_inflate.data.toList.drop 24 = dktJ9_inflate_1 := dk_seg dksJ9_inflate_0 24 rfl rfl
theorem dJ9_inflate_0 : decode cJ9_inflate 0 = .ok (.aload_n 0, 1) := dk_42 (dk_at dksJ9_inflate_0 0 rfl rfl)
theorem dJ9_inflate_1 : decode cJ9_inflate 1 = .ok (.invokevirtual 83, 3) := dk_182 0 83 (dk_at dksJ9_inflate_0 1 rfl rfl)
theorem dJ9_inflate_4 : decode cJ9_inflate 4 = .ok (.ifCond .ne 4, 3) := dk_154 0 4 (dk_at dksJ9_inflate_0 4 rfl rfl)
theorem dJ9_inflate_7 : decode cJ9_inflate 7 = .ok (.return_, 1) := dk_177 (dk_at dksJ9_inflate_0 7 rfl rfl)
theorem dJ9_inflate_8 : decode cJ9_inflate 8 = .ok (.aload_n 0, 1) := dk_42 (dk_at dksJ9_inflate_0 8 rfl rfl)
theorem dJ9_inflate_9 : decode cJ9_inflate 9 = .ok (.getfield 15, 3) := dk_180 0 15 (dk_at dksJ9_inflate_0 9 rfl rfl)
theorem dJ9_inflate_12 : decode cJ9_inflate 12 = .ok (.arraylength, 1) := dk_190 (dk_at dksJ9_inflate_0 12 rfl rfl)
theorem dJ9_inflate_13 : decode cJ9_inflate 13 = .ok (.invokestatic 26, 3) := dk_184 0 26 (dk_at dksJ9_inflate_0 13 rfl rfl)
theorem dJ9_inflate_16 : decode cJ9_inflate 16 = .ok (.astore_n 1, 1) := dk_76 (dk_at dksJ9_inflate_0 16 rfl rfl)
theorem dJ9_inflate_17 : decode cJ9_inflate 17 = .ok (.aload_n 0, 1) := dk_42 (dk_at dksJ9_inflate_0 17 rfl rfl)
theorem dJ9_inflate_18 : decode cJ9_inflate 18 = .ok (.getfield 15, 3) := dk_180 0 15 (dk_at dksJ9_inflate_0 18 rfl rfl)
theorem dJ9_inflate_21 : decode cJ9_inflate 21 = .ok (.iconst 0, 1) := dk_3 (dk_at dksJ9_inflate_0 21 rfl rfl)
theorem dJ9_inflate_22 : decode cJ9_inflate 22 = .ok (.aload_n 1, 1) := dk_43 (dk_at dksJ9_inflate_0 22 rfl rfl)
theorem dJ9_inflate_23 : decode cJ9_inflate 23 = .ok (.iconst 0, 1) := dk_3 (dk_at dksJ9_inflate_0 23 rfl rfl)
theorem dJ9_inflate_24 : decode cJ9_inflate 24 = .ok (.aload_n 0, 1) := dk_42 (dk_at dksJ9_inflate_1 0 rfl rfl)
theorem dJ9_inflate_25 : decode cJ9_inflate 25 = .ok (.getfield 79, 3) := dk_180 0 79 (dk_at dksJ9_inflate_1 1 rfl rfl)
theorem dJ9_inflate_28 : decode cJ9_inflate 28 = .ok (.invokestatic 125, 3) := dk_184 0 125 (dk_at dksJ9_inflate_1 4 rfl rfl)
theorem dJ9_inflate_31 : decode cJ9_inflate 31 = .ok (.aload_n 0, 1) := dk_42 (dk_at dksJ9_inflate_1 7 rfl rfl)
theorem dJ9_inflate_32 : decode cJ9_inflate 32 = .ok (.aload_n 1, 1) := dk_43 (dk_at dksJ9_inflate_1 8 rfl rfl)
theorem dJ9_inflate_33 : decode cJ9_inflate 33 = .ok (.putfield 15, 3) := dk_181 0 15 (dk_at dksJ9_inflate_1 9 rfl rfl)
theorem dJ9_inflate_36 : decode cJ9_inflate 36 = .ok (.aload_n 0, 1) := dk_42 (dk_at dksJ9_inflate_1 12 rfl rfl)
theorem dJ9_inflate_37 : decode cJ9_inflate 37 = .ok (.iconst 1, 1) := dk_4 (dk_at dksJ9_inflate_1 13 rfl rfl)
theorem dJ9_inflate_38 : decode cJ9_inflate 38 = .ok (.putfield 22, 3) := dk_181 0 22 (dk_at dksJ9_inflate_1 14 rfl rfl)
theorem dJ9_inflate_41 : decode cJ9_inflate 41 = .ok (.return_, 1) := dk_177 (dk_at dksJ9_inflate_1 17 rfl rfl)
abbrev cJ9_append_2 : ByteArray := prog_15_method_22_code
def yJ9_append_2 : MethodName := ⟨RJ9, "append", "(Ljava/lang/String;)Ljava/lang/AbstractStringBuilder;"⟩
def dkwJ9_append_2_1 : List UInt8 := [42, 42, 180, 0, 79, 43, 182, 0, 208, 42, 89, 180, 0, 79, 28, 96, 181, 0, 79, 42, 176]
abbrev dktJ9_append_2_1 : List UInt8 := dkwJ9_append_2_1 ++ []
def dkwJ9_append_2_0 : List UInt8 := [43, 199, 0, 8, 42, 182, 0, 204, 176, 43, 182, 0, 32, 61, 42, 42, 180, 0, 79, 28, 96, 182, 0, 100]
abbrev dktJ9_append_2_0 : List UInt8 := dkwJ9_append_2_0 ++ dktJ9_append_2_1
theorem dksJ9_append_2_0 : cJ9_append_2.data.toList.drop 0 = dktJ9_append_2_0 := by decide +kernel
theorem dksJ9_append_2_1 : cJ9_append_2.data.toList.drop 24 = dktJ9_append_2_1 := dk_seg dksJ9_append_2_0 24 rfl rfl
theorem dJ9_append_2_0 : decode cJ9_append_2 0 = .ok (.aload_n 1, 1) := dk_43 (dk_at dksJ9_append_2_0 0 rfl rfl)
theorem dJ9_append_2_1 : decode cJ9_append_2 1 = .ok (.ifnonnull 8, 3) := dk_199 0 8 (dk_at dksJ9_append_2_0 1 rfl rfl)
theorem dJ9_append_2_4 : decode cJ9_append_2 4 = .ok (.aload_n 0, 1) := dk_42 (dk_at dksJ9_append_2_0 4 rfl rfl)
theorem dJ9_append_2_5 : decode cJ9_append_2 5 = .ok (.invokevirtual 204, 3) := dk_182 0 204 (dk_at dksJ9_append_2_0 5 rfl rfl)
theorem dJ9_append_2_8 : decode cJ9_append_2 8 = .ok (.areturn, 1) := dk_176 (dk_at dksJ9_append_2_0 8 rfl rfl)
theorem dJ9_append_2_9 : decode cJ9_append_2 9 = .ok (.aload_n 1, 1) := dk_43 (dk_at dksJ9_append_2_0 9 rfl rfl)
theorem dJ9_append_2_10 : decode cJ9_append_2 10 = .ok (.invokevirtual 32, 3) := dk_182 0 32 (dk_at dksJ9_append_2_0 10 rfl rfl)
theorem dJ9_append_2_13 : decode cJ9_append_2 13 = .ok (.istore_n 2, 1) := dk_61 (dk_at dksJ9_append_2_0 13 rfl rfl)
theorem dJ9_append_2_14 : decode cJ9_append_2 14 = .ok (.aload_n 0, 1) := dk_42 (dk_at dksJ9_append_2_0 14 rfl rfl)
theorem dJ9_append_2_15 : decode cJ9_append_2 15 = .ok (.aload_n 0, 1) := dk_42 (dk_at dksJ9_append_2_0 15 rfl rfl)
theorem dJ9_append_2_16 : decode cJ9_append_2 16 = .ok (.getfield 79, 3) := dk_180 0 79 (dk_at dksJ9_append_2_0 16 rfl rfl)
theorem dJ9_append_2_19 : decode cJ9_append_2 19 = .ok (.iload_n 2, 1) := dk_28 (dk_at dksJ9_append_2_0 19 rfl rfl)
theorem dJ9_append_2_20 : decode cJ9_append_2 20 = .ok (.iadd, 1) := dk_96 (dk_at dksJ9_append_2_0 20 rfl rfl)
theorem dJ9_append_2_21 : decode cJ9_append_2 21 = .ok (.invokevirtual 100, 3) := dk_182 0 100 (dk_at dksJ9_append_2_0 21 rfl rfl)
theorem dJ9_append_2_24 : decode cJ9_append_2 24 = .ok (.aload_n 0, 1) := dk_42 (dk_at dksJ9_append_2_1 0 rfl rfl)
theorem dJ9_append_2_25 : decode cJ9_append_2 25 = .ok (.aload_n 0, 1) := dk_42 (dk_at dksJ9_append_2_1 1 rfl rfl)
theorem dJ9_append_2_26 : decode cJ9_append_2 26 = .ok (.getfield 79, 3) := dk_180 0 79 (dk_at dksJ9_append_2_1 2 rfl rfl)
theorem dJ9_append_2_29 : decode cJ9_append_2 29 = .ok (.aload_n 1, 1) := dk_43 (dk_at dksJ9_append_2_1 5 rfl rfl)
theorem dJ9_append_2_30 : decode cJ9_append_2 30 = .ok (.invokevirtual 208, 3) := dk_182 0 208 (dk_at dksJ9_append_2_1 6 rfl rfl)
theorem dJ9_append_2_33 : decode cJ9_append_2 33 = .ok (.aload_n 0, 1) := dk_42 (dk_at dksJ9_append_2_1 9 rfl rfl)
theorem dJ9_append_2_34 : decode cJ9_append_2 34 = .ok (.dup, 1) := dk_89 (dk_at dksJ9_append_2_1 10 rfl rfl)
theorem dJ9_append_2_35 : decode cJ9_append_2 35 = .ok (.getfield 79, 3) := dk_180 0 79 (dk_at dksJ9_append_2_1 11 rfl rfl)
theorem dJ9_append_2_38 : decode cJ9_append_2 38 = .ok (.iload_n 2, 1) := dk_28 (dk_at dksJ9_append_2_1 14 rfl rfl)
theorem dJ9_append_2_39 : decode cJ9_append_2 39 = .ok (.iadd, 1) := dk_96 (dk_at dksJ9_append_2_1 15 rfl rfl)
theorem dJ9_append_2_40 : decode cJ9_append_2 40 = .ok (.putfield 79, 3) := dk_181 0 79 (dk_at dksJ9_append_2_1 16 rfl rfl)
theorem dJ9_append_2_43 : decode cJ9_append_2 43 = .ok (.aload_n 0, 1) := dk_42 (dk_at dksJ9_append_2_1 19 rfl rfl)
theorem dJ9_append_2_44 : decode cJ9_append_2 44 = .ok (.areturn, 1) := dk_176 (dk_at dksJ9_append_2_1 20 rfl rfl)
abbrev cJ9_appendNull : ByteArray := prog_15_method_26_code
def yJ9_appendNull : MethodName := ⟨RJ9, "appendNull", "()Ljava/lang/AbstractStringBuilder;"⟩
def dkwJ9_appendNull_3 : List UInt8 := [184, 0, 226, 60, 42, 27, 181, 0, 79, 42, 176]
abbrev dktJ9_appendNull_3 : List UInt8 := dkwJ9_appendNull_3 ++ []
def dkwJ9_appendNull_2 : List UInt8 := [16, 108, 84, 44, 27, 132, 1, 1, 16, 108, 84, 167, 0, 17, 44, 27, 16, 110, 16, 117, 16, 108, 16, 108]
abbrev dktJ9_appendNull_2 : List UInt8 := dkwJ9_appendNull_2 ++ dktJ9_appendNull_3
def dkwJ9_appendNull_1 : List UInt8 := [153, 0, 38, 44, 27, 132, 1, 1, 16, 110, 84, 44, 27, 132, 1, 1, 16, 117, 84, 44, 27, 132, 1, 1]
abbrev dktJ9_appendNull_1 : List UInt8 := dkwJ9_appendNull_1 ++ dktJ9_appendNull_2
def dkwJ9_appendNull_0 : List UInt8 := [42, 42, 180, 0, 79, 7, 96, 182, 0, 100, 42, 180, 0, 79, 60, 42, 180, 0, 15, 77, 42, 182, 0, 83]
abbrev dktJ9_appendNull_0 : List UInt8 := dkwJ9_appendNull_0 ++ dktJ9_appendNull_1
theorem dksJ9_appendNull_0 : cJ9_appendNull.data.toList.drop 0 = dktJ9_appendNull_0 := by decide +kernel
theorem dksJ9_appendNull_1 : cJ9_appendNull.data.toList.drop 24 = dktJ9_appendNull_1 := dk_seg dksJ9_appendNull_0 24 rfl rfl
theorem dksJ9_appendNull_2 : cJ9_appendNull.data.toList.drop 48 = dktJ9_appendNull_2 := dk_seg dksJ9_appendNull_1 24 rfl rfl
theorem dksJ9_appendNull_3 : cJ9_appendNull.data.toList.drop 72 = dktJ9_appendNull_3 := dk_seg dksJ9_appendNull_2 24 rfl rfl
theorem dJ9_appendNull_0 : decode cJ9_appendNull 0 = .ok (.aload_n 0, 1) := dk_42 (dk_at dksJ9_appendNull_0 0 rfl rfl)
theorem dJ9_appendNull_1 : decode cJ9_appendNull 1 = .ok (.aload_n 0, 1) := dk_42 (dk_at dksJ9_appendNull_0 1 rfl rfl)
theorem dJ9_appendNull_2 : decode cJ9_appendNull 2 = .ok (.getfield 79, 3) := dk_180 0 79 (dk_at dksJ9_appendNull_0 2 rfl rfl)
theorem dJ9_appendNull_5 : decode cJ9_appendNull 5 = .ok (.iconst 4, 1) := dk_7 (dk_at dksJ9_appendNull_0 5 rfl rfl)
theorem dJ9_appendNull_6 : decode cJ9_appendNull 6 = .ok (.iadd, 1) := dk_96 (dk_at dksJ9_appendNull_0 6 rfl rfl)
theorem dJ9_appendNull_7 : decode cJ9_appendNull 7 = .ok (.invokevirtual 100, 3) := dk_182 0 100 (dk_at dksJ9_appendNull_0 7 rfl rfl)
theorem dJ9_appendNull_10 : decode cJ9_appendNull 10 = .ok (.aload_n 0, 1) := dk_42 (dk_at dksJ9_appendNull_0 10 rfl rfl)
theorem dJ9_appendNull_11 : decode cJ9_appendNull 11 = .ok (.getfield 79, 3) := dk_180 0 79 (dk_at dksJ9_appendNull_0 11 rfl rfl)
theorem dJ9_appendNull_14 : decode cJ9_appendNull 14 = .ok (.istore_n 1, 1) := dk_60 (dk_at dksJ9_appendNull_0 14 rfl rfl)
theorem dJ9_appendNull_15 : decode cJ9_appendNull 15 = .ok (.aload_n 0, 1) := dk_42 (dk_at dksJ9_appendNull_0 15 rfl rfl)
theorem dJ9_appendNull_16 : decode cJ9_appendNull 16 = .ok (.getfield 15, 3) := dk_180 0 15 (dk_at dksJ9_appendNull_0 16 rfl rfl)
theorem dJ9_appendNull_19 : decode cJ9_appendNull 19 = .ok (.astore_n 2, 1) := dk_77 (dk_at dksJ9_appendNull_0 19 rfl rfl)
theorem dJ9_appendNull_20 : decode cJ9_appendNull 20 = .ok (.aload_n 0, 1) := dk_42 (dk_at dksJ9_appendNull_0 20 rfl rfl)
theorem dJ9_appendNull_21 : decode cJ9_appendNull 21 = .ok (.invokevirtual 83, 3) := dk_182 0 83 (dk_at dksJ9_appendNull_0 21 rfl rfl)
theorem dJ9_appendNull_24 : decode cJ9_appendNull 24 = .ok (.ifCond .eq 38, 3) := dk_153 0 38 (dk_at dksJ9_appendNull_1 0 rfl rfl)
theorem dJ9_appendNull_27 : decode cJ9_appendNull 27 = .ok (.aload_n 2, 1) := dk_44 (dk_at dksJ9_appendNull_1 3 rfl rfl)
theorem dJ9_appendNull_28 : decode cJ9_appendNull 28 = .ok (.iload_n 1, 1) := dk_27 (dk_at dksJ9_appendNull_1 4 rfl rfl)
theorem dJ9_appendNull_29 : decode cJ9_appendNull 29 = .ok (.iinc 1 1, 3) := dk_132 1 1 (dk_at dksJ9_appendNull_1 5 rfl rfl)
theorem dJ9_appendNull_32 : decode cJ9_appendNull 32 = .ok (.bipush 110, 2) := dk_16 110 (dk_at dksJ9_appendNull_1 8 rfl rfl)
theorem dJ9_appendNull_34 : decode cJ9_appendNull 34 = .ok (.bastore, 1) := dk_84 (dk_at dksJ9_appendNull_1 10 rfl rfl)
theorem dJ9_appendNull_35 : decode cJ9_appendNull 35 = .ok (.aload_n 2, 1) := dk_44 (dk_at dksJ9_appendNull_1 11 rfl rfl)
theorem dJ9_appendNull_36 : decode cJ9_appendNull 36 = .ok (.iload_n 1, 1) := dk_27 (dk_at dksJ9_appendNull_1 12 rfl rfl)
theorem dJ9_appendNull_37 : decode cJ9_appendNull 37 = .ok (.iinc 1 1, 3) := dk_132 1 1 (dk_at dksJ9_appendNull_1 13 rfl rfl)
theorem dJ9_appendNull_40 : decode cJ9_appendNull 40 = .ok (.bipush 117, 2) := dk_16 117 (dk_at dksJ9_appendNull_1 16 rfl rfl)
theorem dJ9_appendNull_42 : decode cJ9_appendNull 42 = .ok (.bastore, 1) := dk_84 (dk_at dksJ9_appendNull_1 18 rfl rfl)
theorem dJ9_appendNull_43 : decode cJ9_appendNull 43 = .ok (.aload_n 2, 1) := dk_44 (dk_at dksJ9_appendNull_1 19 rfl rfl)
theorem dJ9_appendNull_44 : decode cJ9_appendNull 44 = .ok (.iload_n 1, 1) := dk_27 (dk_at dksJ9_appendNull_1 20 rfl rfl)
theorem dJ9_appendNull_45 : decode cJ9_appendNull 45 = .ok (.iinc 1 1, 3) := dk_132 1 1 (dk_at dksJ9_appendNull_1 21 rfl rfl)
theorem dJ9_appendNull_48 : decode cJ9_appendNull 48 = .ok (.bipush 108, 2) := dk_16 108 (dk_at dksJ9_appendNull_2 0 rfl rfl)
theorem dJ9_appendNull_50 : decode cJ9_appendNull 50 = .ok (.bastore, 1) := dk_84 (dk_at dksJ9_appendNull_2 2 rfl rfl)
theorem dJ9_appendNull_51 : decode cJ9_appendNull 51 = .ok (.aload_n 2, 1) := dk_44 (dk_at dksJ9_appendNull_2 3 rfl rfl)
theorem dJ9_appendNull_52 : decode cJ9_appendNull 52 = .ok (.iload_n 1, 1) := dk_27 (dk_at dksJ9_appendNull_2 4 rfl rfl)
theorem dJ9_appendNull_53 : decode cJ9_appendNull 53 = .ok (.iinc 1 1, 3) := dk_132 1 1 (dk_at dksJ9_appendNull_2 5 rfl rfl)
theorem dJ9_appendNull_56 : decode cJ9_appendNull 56 = .ok (.bipush 108, 2) := dk_16 108 (dk_at dksJ9_appendNull_2 8 rfl rfl)
theorem dJ9_appendNull_58 : decode cJ9_appendNull 58 = .ok (.bastore, 1) := dk_84 (dk_at dksJ9_appendNull_2 10 rfl rfl)
theorem dJ9_appendNull_59 : decode cJ9_appendNull 59 = .ok (.goto 17, 3) := dk_167 0 17 (dk_at dksJ9_appendNull_2 11 rfl rfl)
theorem dJ9_appendNull_62 : decode cJ9_appendNull 62 = .ok (.aload_n 2, 1) := dk_44 (dk_at dksJ9_appendNull_2 14 rfl rfl)
theorem dJ9_appendNull_63 : decode cJ9_appendNull 63 = .ok (.iload_n 1, 1) := dk_27 (dk_at dksJ9_appendNull_2 15 rfl rfl)
theorem dJ9_appendNull_64 : decode cJ9_appendNull 64 = .ok (.bipush 110, 2) := dk_16 110 (dk_at dksJ9_appendNull_2 16 rfl rfl)
theorem dJ9_appendNull_66 : decode cJ9_appendNull 66 = .ok (.bipush 117, 2) := dk_16 117 (dk_at dksJ9_appendNull_2 18 rfl rfl)
theorem dJ9_appendNull_68 : decode cJ9_appendNull 68 = .ok (.bipush 108, 2) := dk_16 108 (dk_at dksJ9_appendNull_2 20 rfl rfl)
theorem dJ9_appendNull_70 : decode cJ9_appendNull 70 = .ok (.bipush 108, 2) := dk_16 108 (dk_at dksJ9_appendNull_2 22 rfl rfl)
theorem dJ9_appendNull_72 : decode cJ9_appendNull 72 = .ok (.invokestatic 226, 3) := dk_184 0 226 (dk_at dksJ9_appendNull_3 0 rfl rfl)
theorem dJ9_appendNull_75 : decode cJ9_appendNull 75 = .ok (.istore_n 1, 1) := dk_60 (dk_at dksJ9_appendNull_3 3 rfl rfl)
theorem dJ9_appendNull_76 : decode cJ9_appendNull 76 = .ok (.aload_n 0, 1) := dk_42 (dk_at dksJ9_appendNull_3 4 rfl rfl)
theorem dJ9_appendNull_77 : decode cJ9_appendNull 77 = .ok (.iload_n 1, 1) := dk_27 (dk_at dksJ9_appendNull_3 5 rfl rfl)
theorem dJ9_appendNull_78 : decode cJ9_appendNull 78 = .ok (.putfield 79, 3) := dk_181 0 79 (dk_at dksJ9_appendNull_3 6 rfl rfl)
theorem dJ9_appendNull_81 : decode cJ9_appendNull 81 = .ok (.aload_n 0, 1) := dk_42 (dk_at dksJ9_appendNull_3 9 rfl rfl)
theorem dJ9_appendNull_82 : decode cJ9_appendNull 82 = .ok (.areturn, 1) := dk_176 (dk_at dksJ9_appendNull_3 10 rfl rfl)
abbrev cJ9_putStringAt : ByteArray := prog_15_method_73_code
def yJ9_putStringAt : MethodName := ⟨RJ9, "putStringAt", "(ILjava/lang/String;)V"⟩
def dkwJ9_putStringAt_0 : List UInt8 := [42, 44, 182, 1, 141, 44, 42, 180, 0, 15, 27, 42, 180, 0, 22, 182, 1, 143, 177]
abbrev dktJ9_putStringAt_0 : List UInt8 := dkwJ9_putStringAt_0 ++ []
theorem dksJ9_putStringAt_0 : cJ9_putStringAt.data.toList.drop 0 = dktJ9_putStringAt_0 := by decide +kernel
theorem dJ9_putStringAt_0 : decode cJ9_putStringAt 0 = .ok (.aload_n 0, 1) := dk_42 (dk_at dksJ9_putStringAt_0 0 rfl rfl)
theorem dJ9_putStringAt_1 : decode cJ9_putStringAt 1 = .ok (.aload_n 2, 1) := dk_44 (dk_at dksJ9_putStringAt_0 1 rfl rfl)
theorem dJ9_putStringAt_2 : decode cJ9_putStringAt 2 = .ok (.invokevirtual 397, 3) := dk_182 1 141 (dk_at dksJ9_putStringAt_0 2 rfl rfl)
theorem dJ9_putStringAt_5 : decode cJ9_putStringAt 5 = .ok (.aload_n 2, 1) := dk_44 (dk_at dksJ9_putStringAt_0 5 rfl rfl)
theorem dJ9_putStringAt_6 : decode cJ9_putStringAt 6 = .ok (.aload_n 0, 1) := dk_42 (dk_at dksJ9_putStringAt_0 6 rfl rfl)
theorem dJ9_putStringAt_7 : decode cJ9_putStringAt 7 = .ok (.getfield 15, 3) := dk_180 0 15 (dk_at dksJ9_putStringAt_0 7 rfl rfl)
theorem dJ9_putStringAt_10 : decode cJ9_putStringAt 10 = .ok (.iload_n 1, 1) := dk_27 (dk_at dksJ9_putStringAt_0 10 rfl rfl)
theorem dJ9_putStringAt_11 : decode cJ9_putStringAt 11 = .ok (.aload_n 0, 1) := dk_42 (dk_at dksJ9_putStringAt_0 11 rfl rfl)
theorem dJ9_putStringAt_12 : decode cJ9_putStringAt 12 = .ok (.getfield 22, 3) := dk_180 0 22 (dk_at dksJ9_putStringAt_0 12 rfl rfl)
theorem dJ9_putStringAt_15 : decode cJ9_putStringAt 15 = .ok (.invokevirtual 399, 3) := dk_182 1 143 (dk_at dksJ9_putStringAt_0 15 rfl rfl)
theorem dJ9_putStringAt_18 : decode cJ9_putStringAt 18 = .ok (.return_, 1) := dk_177 (dk_at dksJ9_putStringAt_0 18 rfl rfl)
abbrev cJ9_inflateIfNeededFor : ByteArray := prog_15_method_71_code
def yJ9_inflateIfNeededFor : MethodName := ⟨RJ9, "inflateIfNeededFor", "(Ljava/lang/String;)V"⟩
def dkwJ9_inflateIfNeededFor_0 : List UInt8 := [178, 0, 18, 153, 0, 18, 42, 180, 0, 22, 43, 182, 0, 40, 159, 0, 7, 42, 182, 0, 195, 177]
abbrev dktJ9_inflateIfNeededFor_0 : List UInt8 := dkwJ9_inflateIfNeededFor_0 ++ []
theorem dksJ9_inflateIfNeededFor_0 : cJ9_inflateIfNeededFor.data.toList.drop 0 = dktJ9_inflateIfNeededFor_0 := by decide +kernel
theorem dJ9_inflateIfNeededFor_0 : decode cJ9_inflateIfNeededFor 0 = .ok (.getstatic 18, 3) := dk_178 0 18 (dk_at dksJ9_inflateIfNeededFor_0 0 rfl rfl)
theorem dJ9_inflateIfNeededFor_3 : decode cJ9_inflateIfNeededFor 3 = .ok (.ifCond .eq 18, 3) := dk_153 0 18 (dk_at dksJ9_inflateIfNeededFor_0 3 rfl rfl)
theorem dJ9_inflateIfNeededFor_6 : decode cJ9_inflateIfNeededFor 6 = .ok (.aload_n 0, 1) := dk_42 (dk_at dksJ9_inflateIfNeededFor_0 6 rfl rfl)
theorem dJ9_inflateIfNeededFor_7 : decode cJ9_inflateIfNeededFor 7 = .ok (.getfield 22, 3) := dk_180 0 22 (dk_at dksJ9_inflateIfNeededFor_0 7 rfl rfl)
theorem dJ9_inflateIfNeededFor_10 : decode cJ9_inflateIfNeededFor 10 = .ok (.aload_n 1, 1) := dk_43 (dk_at dksJ9_inflateIfNeededFor_0 10 rfl rfl)
theorem dJ9_inflateIfNeededFor_11 : decode cJ9_inflateIfNeededFor 11 = .ok (.invokevirtual 40, 3) := dk_182 0 40 (dk_at dksJ9_inflateIfNeededFor_0 11 rfl rfl)
theorem dJ9_inflateIfNeededFor_14 : decode cJ9_inflateIfNeededFor 14 = .ok (.if_icmp .eq 7, 3) := dk_159 0 7 (dk_at dksJ9_inflateIfNeededFor_0 14 rfl rfl)
theorem dJ9_inflateIfNeededFor_17 : decode cJ9_inflateIfNeededFor 17 = .ok (.aload_n 0, 1) := dk_42 (dk_at dksJ9_inflateIfNeededFor_0 17 rfl rfl)
theorem dJ9_inflateIfNeededFor_18 : decode cJ9_inflateIfNeededFor 18 = .ok (.invokevirtual 195, 3) := dk_182 0 195 (dk_at dksJ9_inflateIfNeededFor_0 18 rfl rfl)
theorem dJ9_inflateIfNeededFor_21 : decode cJ9_inflateIfNeededFor 21 = .ok (.return_, 1) := dk_177 (dk_at dksJ9_inflateIfNeededFor_0 21 rfl rfl)
abbrev cJ9_append_3 : ByteArray := prog_15_method_32_code
def yJ9_append_3 : MethodName := ⟨RJ9, "append", "(I)Ljava/lang/AbstractStringBuilder;"⟩
def dkwJ9_append_3_2 : List UInt8 := [42, 29, 181, 0, 79, 42, 176]
abbrev dktJ9_append_3_2 : List UInt8 := dkwJ9_append_3_2 ++ []
def dkwJ9_append_3_1 : List UInt8 := [27, 29, 42, 180, 0, 15, 184, 0, 248, 87, 167, 0, 14, 27, 28, 29, 42, 180, 0, 15, 184, 0, 251, 87]
abbrev dktJ9_append_3_1 : List UInt8 := dkwJ9_append_3_1 ++ dktJ9_append_3_2
def dkwJ9_append_3_0 : List UInt8 := [42, 180, 0, 79, 61, 28, 27, 184, 0, 245, 96, 62, 42, 29, 182, 0, 100, 42, 182, 0, 83, 153, 0, 16]
abbrev dktJ9_append_3_0 : List UInt8 := dkwJ9_append_3_0 ++ dktJ9_append_3_1
theorem dksJ9_append_3_0 : cJ9_append_3.data.toList.drop 0 = dktJ9_append_3_0 := by decide +kernel
theorem dksJ9_append_3_1 : cJ9_append_3.data.toList.drop 24 = dktJ9_append_3_1 := dk_seg dksJ9_append_3_0 24 rfl rfl
theorem dksJ9_append_3_2 : cJ9_append_3.data.toList.drop 48 = dktJ9_append_3_2 := dk_seg dksJ9_append_3_1 24 rfl rfl
theorem dJ9_append_3_0 : decode cJ9_append_3 0 = .ok (.aload_n 0, 1) := dk_42 (dk_at dksJ9_append_3_0 0 rfl rfl)
theorem dJ9_append_3_1 : decode cJ9_append_3 1 = .ok (.getfield 79, 3) := dk_180 0 79 (dk_at dksJ9_append_3_0 1 rfl rfl)
theorem dJ9_append_3_4 : decode cJ9_append_3 4 = .ok (.istore_n 2, 1) := dk_61 (dk_at dksJ9_append_3_0 4 rfl rfl)
theorem dJ9_append_3_5 : decode cJ9_append_3 5 = .ok (.iload_n 2, 1) := dk_28 (dk_at dksJ9_append_3_0 5 rfl rfl)
theorem dJ9_append_3_6 : decode cJ9_append_3 6 = .ok (.iload_n 1, 1) := dk_27 (dk_at dksJ9_append_3_0 6 rfl rfl)
theorem dJ9_append_3_7 : decode cJ9_append_3 7 = .ok (.invokestatic 245, 3) := dk_184 0 245 (dk_at dksJ9_append_3_0 7 rfl rfl)
theorem dJ9_append_3_10 : decode cJ9_append_3 10 = .ok (.iadd, 1) := dk_96 (dk_at dksJ9_append_3_0 10 rfl rfl)
theorem dJ9_append_3_11 : decode cJ9_append_3 11 = .ok (.istore_n 3, 1) := dk_62 (dk_at dksJ9_append_3_0 11 rfl rfl)
theorem dJ9_append_3_12 : decode cJ9_append_3 12 = .ok (.aload_n 0, 1) := dk_42 (dk_at dksJ9_append_3_0 12 rfl rfl)
theorem dJ9_append_3_13 : decode cJ9_append_3 13 = .ok (.iload_n 3, 1) := dk_29 (dk_at dksJ9_append_3_0 13 rfl rfl)
theorem dJ9_append_3_14 : decode cJ9_append_3 14 = .ok (.invokevirtual 100, 3) := dk_182 0 100 (dk_at dksJ9_append_3_0 14 rfl rfl)
theorem dJ9_append_3_17 : decode cJ9_append_3 17 = .ok (.aload_n 0, 1) := dk_42 (dk_at dksJ9_append_3_0 17 rfl rfl)
theorem dJ9_append_3_18 : decode cJ9_append_3 18 = .ok (.invokevirtual 83, 3) := dk_182 0 83 (dk_at dksJ9_append_3_0 18 rfl rfl)
theorem dJ9_append_3_21 : decode cJ9_append_3 21 = .ok (.ifCond .eq 16, 3) := dk_153 0 16 (dk_at dksJ9_append_3_0 21 rfl rfl)
theorem dJ9_append_3_24 : decode cJ9_append_3 24 = .ok (.iload_n 1, 1) := dk_27 (dk_at dksJ9_append_3_1 0 rfl rfl)
theorem dJ9_append_3_25 : decode cJ9_append_3 25 = .ok (.iload_n 3, 1) := dk_29 (dk_at dksJ9_append_3_1 1 rfl rfl)
theorem dJ9_append_3_26 : decode cJ9_append_3 26 = .ok (.aload_n 0, 1) := dk_42 (dk_at dksJ9_append_3_1 2 rfl rfl)
theorem dJ9_append_3_27 : decode cJ9_append_3 27 = .ok (.getfield 15, 3) := dk_180 0 15 (dk_at dksJ9_append_3_1 3 rfl rfl)
theorem dJ9_append_3_30 : decode cJ9_append_3 30 = .ok (.invokestatic 248, 3) := dk_184 0 248 (dk_at dksJ9_append_3_1 6 rfl rfl)
theorem dJ9_append_3_33 : decode cJ9_append_3 33 = .ok (.pop, 1) := dk_87 (dk_at dksJ9_append_3_1 9 rfl rfl)
theorem dJ9_append_3_34 : decode cJ9_append_3 34 = .ok (.goto 14, 3) := dk_167 0 14 (dk_at dksJ9_append_3_1 10 rfl rfl)
theorem dJ9_append_3_37 : decode cJ9_append_3 37 = .ok (.iload_n 1, 1) := dk_27 (dk_at dksJ9_append_3_1 13 rfl rfl)
theorem dJ9_append_3_38 : decode cJ9_append_3 38 = .ok (.iload_n 2, 1) := dk_28 (dk_at dksJ9_append_3_1 14 rfl rfl)
theorem dJ9_append_3_39 : decode cJ9_append_3 39 = .ok (.iload_n 3, 1) := dk_29 (dk_at dksJ9_append_3_1 15 rfl rfl)
theorem dJ9_append_3_40 : decode cJ9_append_3 40 = .ok (.aload_n 0, 1) := dk_42 (dk_at dksJ9_append_3_1 16 rfl rfl)
theorem dJ9_append_3_41 : decode cJ9_append_3 41 = .ok (.getfield 15, 3) := dk_180 0 15 (dk_at dksJ9_append_3_1 17 rfl rfl)
theorem dJ9_append_3_44 : decode cJ9_append_3 44 = .ok (.invokestatic 251, 3) := dk_184 0 251 (dk_at dksJ9_append_3_1 20 rfl rfl)
theorem dJ9_append_3_47 : decode cJ9_append_3 47 = .ok (.pop, 1) := dk_87 (dk_at dksJ9_append_3_1 23 rfl rfl)
theorem dJ9_append_3_48 : decode cJ9_append_3 48 = .ok (.aload_n 0, 1) := dk_42 (dk_at dksJ9_append_3_2 0 rfl rfl)
theorem dJ9_append_3_49 : decode cJ9_append_3 49 = .ok (.iload_n 3, 1) := dk_29 (dk_at dksJ9_append_3_2 1 rfl rfl)
theorem dJ9_append_3_50 : decode cJ9_append_3 50 = .ok (.putfield 79, 3) := dk_181 0 79 (dk_at dksJ9_append_3_2 2 rfl rfl)
theorem dJ9_append_3_53 : decode cJ9_append_3 53 = .ok (.aload_n 0, 1) := dk_42 (dk_at dksJ9_append_3_2 5 rfl rfl)
theorem dJ9_append_3_54 : decode cJ9_append_3 54 = .ok (.areturn, 1) := dk_176 (dk_at dksJ9_append_3_2 6 rfl rfl)
abbrev cJ9_getValue : ByteArray := prog_15_method_64_code
def yJ9_getValue : MethodName := ⟨RJ9, "getValue", "()[B"⟩
theorem dJ9_getValue_0 : decode cJ9_getValue 0 = .ok (.aload_n 0, 1) := by decide +kernel
theorem dJ9_getValue_1 : decode cJ9_getValue 1 = .ok (.getfield 15, 3) := by decide +kernel
theorem dJ9_getValue_4 : decode cJ9_getValue 4 = .ok (.areturn, 1) := by decide +kernel
abbrev cJ9_charAt : ByteArray := prog_15_method_14_code
def yJ9_charAt : MethodName := ⟨RJ9, "charAt", "(I)C"⟩
def dkwJ9_charAt_1 : List UInt8 := [21, 4, 184, 0, 144, 28, 154, 0, 12, 45, 27, 51, 17, 0, 255, 126, 146, 172, 45, 27, 184, 0, 148, 172]
abbrev dktJ9_charAt_1 : List UInt8 := dkwJ9_charAt_1 ++ []
def dkwJ9_charAt_0 : List UInt8 := [42, 180, 0, 22, 61, 42, 180, 0, 15, 78, 42, 180, 0, 79, 45, 190, 28, 122, 184, 0, 138, 54, 4, 27]
abbrev dktJ9_charAt_0 : List UInt8 := dkwJ9_charAt_0 ++ dktJ9_charAt_1
theorem dksJ9_charAt_0 : cJ9_charAt.data.toList.drop 0 = dktJ9_charAt_0 := by decide +kernel
theorem dksJ9_charAt_1 : cJ9_charAt.data.toList.drop 24 = dktJ9_charAt_1 := dk_seg dksJ9_charAt_0 24 rfl rfl
theorem dJ9_charAt_0 : decode cJ9_charAt 0 = .ok (.aload_n 0, 1) := dk_42 (dk_at dksJ9_charAt_0 0 rfl rfl)
theorem dJ9_charAt_1 : decode cJ9_charAt 1 = .ok (.getfield 22, 3) := dk_180 0 22 (dk_at dksJ9_charAt_0 1 rfl rfl)
theorem dJ9_charAt_4 : decode cJ9_charAt 4 = .ok (.istore_n 2, 1) := dk_61 (dk_at dksJ9_charAt_0 4 rfl rfl)
theorem dJ9_charAt_5 : decode cJ9_charAt 5 = .ok (.aload_n 0, 1) := dk_42 (dk_at dksJ9_charAt_0 5 rfl rfl)
theorem dJ9_charAt_6 : decode cJ9_charAt 6 = .ok (.getfield 15, 3) := dk_180 0 15 (dk_at dksJ9_charAt_0 6 rfl rfl)
theorem dJ9_charAt_9 : decode cJ9_charAt 9 = .ok (.astore_n 3, 1) := dk_78 (dk_at dksJ9_charAt_0 9 rfl rfl)
theorem dJ9_charAt_10 : decode cJ9_charAt 10 = .ok (.aload_n 0, 1) := dk_42 (dk_at dksJ9_charAt_0 10 rfl rfl)
theorem dJ9_charAt_11 : decode cJ9_charAt 11 = .ok (.getfield 79, 3) := dk_180 0 79 (dk_at dksJ9_charAt_0 11 rfl rfl)
theorem dJ9_charAt_14 : decode cJ9_charAt 14 = .ok (.aload_n 3, 1) := dk_45 (dk_at dksJ9_charAt_0 14 rfl rfl)
theorem dJ9_charAt_15 : decode cJ9_charAt 15 = .ok (.arraylength, 1) := dk_190 (dk_at dksJ9_charAt_0 15 rfl rfl)
theorem dJ9_charAt_16 : decode cJ9_charAt 16 = .ok (.iload_n 2, 1) := dk_28 (dk_at dksJ9_charAt_0 16 rfl rfl)
theorem dJ9_charAt_17 : decode cJ9_charAt 17 = .ok (.ishr, 1) := dk_122 (dk_at dksJ9_charAt_0 17 rfl rfl)
theorem dJ9_charAt_18 : decode cJ9_charAt 18 = .ok (.invokestatic 138, 3) := dk_184 0 138 (dk_at dksJ9_charAt_0 18 rfl rfl)
theorem dJ9_charAt_21 : decode cJ9_charAt 21 = .ok (.istore 4, 2) := dk_54 4 (dk_at dksJ9_charAt_0 21 rfl rfl)
theorem dJ9_charAt_23 : decode cJ9_charAt 23 = .ok (.iload_n 1, 1) := dk_27 (dk_at dksJ9_charAt_0 23 rfl rfl)
theorem dJ9_charAt_24 : decode cJ9_charAt 24 = .ok (.iload 4, 2) := dk_21 4 (dk_at dksJ9_charAt_1 0 rfl rfl)
theorem dJ9_charAt_26 : decode cJ9_charAt 26 = .ok (.invokestatic 144, 3) := dk_184 0 144 (dk_at dksJ9_charAt_1 2 rfl rfl)
theorem dJ9_charAt_29 : decode cJ9_charAt 29 = .ok (.iload_n 2, 1) := dk_28 (dk_at dksJ9_charAt_1 5 rfl rfl)
theorem dJ9_charAt_30 : decode cJ9_charAt 30 = .ok (.ifCond .ne 12, 3) := dk_154 0 12 (dk_at dksJ9_charAt_1 6 rfl rfl)
theorem dJ9_charAt_33 : decode cJ9_charAt 33 = .ok (.aload_n 3, 1) := dk_45 (dk_at dksJ9_charAt_1 9 rfl rfl)
theorem dJ9_charAt_34 : decode cJ9_charAt 34 = .ok (.iload_n 1, 1) := dk_27 (dk_at dksJ9_charAt_1 10 rfl rfl)
theorem dJ9_charAt_35 : decode cJ9_charAt 35 = .ok (.baload, 1) := dk_51 (dk_at dksJ9_charAt_1 11 rfl rfl)
theorem dJ9_charAt_36 : decode cJ9_charAt 36 = .ok (.sipush 255, 3) := dk_17 0 255 (dk_at dksJ9_charAt_1 12 rfl rfl)
theorem dJ9_charAt_39 : decode cJ9_charAt 39 = .ok (.iand, 1) := dk_126 (dk_at dksJ9_charAt_1 15 rfl rfl)
theorem dJ9_charAt_40 : decode cJ9_charAt 40 = .ok (.i2c, 1) := dk_146 (dk_at dksJ9_charAt_1 16 rfl rfl)
theorem dJ9_charAt_41 : decode cJ9_charAt 41 = .ok (.ireturn, 1) := dk_172 (dk_at dksJ9_charAt_1 17 rfl rfl)
theorem dJ9_charAt_42 : decode cJ9_charAt 42 = .ok (.aload_n 3, 1) := dk_45 (dk_at dksJ9_charAt_1 18 rfl rfl)
theorem dJ9_charAt_43 : decode cJ9_charAt 43 = .ok (.iload_n 1, 1) := dk_27 (dk_at dksJ9_charAt_1 19 rfl rfl)
theorem dJ9_charAt_44 : decode cJ9_charAt 44 = .ok (.invokestatic 148, 3) := dk_184 0 148 (dk_at dksJ9_charAt_1 20 rfl rfl)
theorem dJ9_charAt_47 : decode cJ9_charAt 47 = .ok (.ireturn, 1) := dk_172 (dk_at dksJ9_charAt_1 23 rfl rfl)
abbrev cJ9_setLength : ByteArray := prog_15_method_13_code
def yJ9_setLength : MethodName := ⟨RJ9, "setLength", "(I)V"⟩
def dkwJ9_setLength_3 : List UInt8 := [164, 0, 8, 42, 4, 181, 0, 73, 42, 27, 181, 0, 79, 177]
abbrev dktJ9_setLength_3 : List UInt8 := dkwJ9_setLength_3 ++ []
def dkwJ9_setLength_2 : List UInt8 := [167, 0, 31, 42, 180, 0, 15, 42, 180, 0, 79, 27, 184, 0, 137, 167, 0, 16, 42, 180, 0, 79, 27]
abbrev dktJ9_setLength_2 : List UInt8 := dkwJ9_setLength_2 ++ dktJ9_setLength_3
def dkwJ9_setLength_1 : List UInt8 := [162, 0, 40, 42, 182, 0, 83, 153, 0, 18, 42, 180, 0, 15, 42, 180, 0, 79, 27, 184, 0, 133]
abbrev dktJ9_setLength_1 : List UInt8 := dkwJ9_setLength_1 ++ dktJ9_setLength_2
def dkwJ9_setLength_0 : List UInt8 := [27, 156, 0, 12, 187, 0, 129, 89, 27, 183, 0, 131, 191, 42, 27, 182, 0, 100, 42, 180, 0, 79, 27]
abbrev dktJ9_setLength_0 : List UInt8 := dkwJ9_setLength_0 ++ dktJ9_setLength_1
theorem dksJ9_setLength_0 : cJ9_setLength.data.toList.drop 0 = dktJ9_setLength_0 := by decide +kernel
theorem dksJ9_setLength_1 : cJ9_setLength.data.toList.drop 23 = dktJ9_setLength_1 := dk_seg dksJ9_setLength_0 23 rfl rfl
theorem dksJ9_setLength_2 : cJ9_setLength.data.toList.drop 45 = dktJ9_setLength_2 := dk_seg dksJ9_setLength_1 22 rfl rfl
theorem dksJ9_setLength_3 : cJ9_setLength.data.toList.drop 68 = dktJ9_setLength_3 := dk_seg dksJ9_setLength_2 23 rfl rfl
theorem dJ9_setLength_0 : decode cJ9_setLength 0 = .ok (.iload_n 1, 1) := dk_27 (dk_at dksJ9_setLength_0 0 rfl rfl)
theorem dJ9_setLength_1 : decode cJ9_setLength 1 = .ok (.ifCond .ge 12, 3) := dk_156 0 12 (dk_at dksJ9_setLength_0 1 rfl rfl)
theorem dJ9_setLength_4 : decode cJ9_setLength 4 = .ok (.new 129, 3) := dk_187 0 129 (dk_at dksJ9_setLength_0 4 rfl rfl)
theorem dJ9_setLength_7 : decode cJ9_setLength 7 = .ok (.dup, 1) := dk_89 (dk_at dksJ9_setLength_0 7 rfl rfl)
theorem dJ9_setLength_8 : decode cJ9_setLength 8 = .ok (.iload_n 1, 1) := dk_27 (dk_at dksJ9_setLength_0 8 rfl rfl)
theorem dJ9_setLength_9 : decode cJ9_setLength 9 = .ok (.invokespecial 131, 3) := dk_183 0 131 (dk_at dksJ9_setLength_0 9 rfl rfl)
theorem dJ9_setLength_12 : decode cJ9_setLength 12 = .ok (.athrow, 1) := dk_191 (dk_at dksJ9_setLength_0 12 rfl rfl)
theorem dJ9_setLength_13 : decode cJ9_setLength 13 = .ok (.aload_n 0, 1) := dk_42 (dk_at dksJ9_setLength_0 13 rfl rfl)
theorem dJ9_setLength_14 : decode cJ9_setLength 14 = .ok (.iload_n 1, 1) := dk_27 (dk_at dksJ9_setLength_0 14 rfl rfl)
theorem dJ9_setLength_15 : decode cJ9_setLength 15 = .ok (.invokevirtual 100, 3) := dk_182 0 100 (dk_at dksJ9_setLength_0 15 rfl rfl)
theorem dJ9_setLength_18 : decode cJ9_setLength 18 = .ok (.aload_n 0, 1) := dk_42 (dk_at dksJ9_setLength_0 18 rfl rfl)
theorem dJ9_setLength_19 : decode cJ9_setLength 19 = .ok (.getfield 79, 3) := dk_180 0 79 (dk_at dksJ9_setLength_0 19 rfl rfl)
theorem dJ9_setLength_22 : decode cJ9_setLength 22 = .ok (.iload_n 1, 1) := dk_27 (dk_at dksJ9_setLength_0 22 rfl rfl)
theorem dJ9_setLength_23 : decode cJ9_setLength 23 = .ok (.if_icmp .ge 40, 3) := dk_162 0 40 (dk_at dksJ9_setLength_1 0 rfl rfl)
theorem dJ9_setLength_26 : decode cJ9_setLength 26 = .ok (.aload_n 0, 1) := dk_42 (dk_at dksJ9_setLength_1 3 rfl rfl)
theorem dJ9_setLength_27 : decode cJ9_setLength 27 = .ok (.invokevirtual 83, 3) := dk_182 0 83 (dk_at dksJ9_setLength_1 4 rfl rfl)
theorem dJ9_setLength_30 : decode cJ9_setLength 30 = .ok (.ifCond .eq 18, 3) := dk_153 0 18 (dk_at dksJ9_setLength_1 7 rfl rfl)
theorem dJ9_setLength_33 : decode cJ9_setLength 33 = .ok (.aload_n 0, 1) := dk_42 (dk_at dksJ9_setLength_1 10 rfl rfl)
theorem dJ9_setLength_34 : decode cJ9_setLength 34 = .ok (.getfield 15, 3) := dk_180 0 15 (dk_at dksJ9_setLength_1 11 rfl rfl)
theorem dJ9_setLength_37 : decode cJ9_setLength 37 = .ok (.aload_n 0, 1) := dk_42 (dk_at dksJ9_setLength_1 14 rfl rfl)
theorem dJ9_setLength_38 : decode cJ9_setLength 38 = .ok (.getfield 79, 3) := dk_180 0 79 (dk_at dksJ9_setLength_1 15 rfl rfl)
theorem dJ9_setLength_41 : decode cJ9_setLength 41 = .ok (.iload_n 1, 1) := dk_27 (dk_at dksJ9_setLength_1 18 rfl rfl)
theorem dJ9_setLength_42 : decode cJ9_setLength 42 = .ok (.invokestatic 133, 3) := dk_184 0 133 (dk_at dksJ9_setLength_1 19 rfl rfl)
theorem dJ9_setLength_45 : decode cJ9_setLength 45 = .ok (.goto 31, 3) := dk_167 0 31 (dk_at dksJ9_setLength_2 0 rfl rfl)
theorem dJ9_setLength_48 : decode cJ9_setLength 48 = .ok (.aload_n 0, 1) := dk_42 (dk_at dksJ9_setLength_2 3 rfl rfl)
theorem dJ9_setLength_49 : decode cJ9_setLength 49 = .ok (.getfield 15, 3) := dk_180 0 15 (dk_at dksJ9_setLength_2 4 rfl rfl)
theorem dJ9_setLength_52 : decode cJ9_setLength 52 = .ok (.aload_n 0, 1) := dk_42 (dk_at dksJ9_setLength_2 7 rfl rfl)
theorem dJ9_setLength_53 : decode cJ9_setLength 53 = .ok (.getfield 79, 3) := dk_180 0 79 (dk_at dksJ9_setLength_2 8 rfl rfl)
theorem dJ9_setLength_56 : decode cJ9_setLength 56 = .ok (.iload_n 1, 1) := dk_27 (dk_at dksJ9_setLength_2 11 rfl rfl)
theorem dJ9_setLength_57 : decode cJ9_setLength 57 = .ok (.invokestatic 137, 3) := dk_184 0 137 (dk_at dksJ9_setLength_2 12 rfl rfl)
theorem dJ9_setLength_60 : decode cJ9_setLength 60 = .ok (.goto 16, 3) := dk_167 0 16 (dk_at dksJ9_setLength_2 15 rfl rfl)
theorem dJ9_setLength_63 : decode cJ9_setLength 63 = .ok (.aload_n 0, 1) := dk_42 (dk_at dksJ9_setLength_2 18 rfl rfl)
theorem dJ9_setLength_64 : decode cJ9_setLength 64 = .ok (.getfield 79, 3) := dk_180 0 79 (dk_at dksJ9_setLength_2 19 rfl rfl)
theorem dJ9_setLength_67 : decode cJ9_setLength 67 = .ok (.iload_n 1, 1) := dk_27 (dk_at dksJ9_setLength_2 22 rfl rfl)
theorem dJ9_setLength_68 : decode cJ9_setLength 68 = .ok (.if_icmp .le 8, 3) := dk_164 0 8 (dk_at dksJ9_setLength_3 0 rfl rfl)
theorem dJ9_setLength_71 : decode cJ9_setLength 71 = .ok (.aload_n 0, 1) := dk_42 (dk_at dksJ9_setLength_3 3 rfl rfl)
theorem dJ9_setLength_72 : decode cJ9_setLength 72 = .ok (.iconst 1, 1) := dk_4 (dk_at dksJ9_setLength_3 4 rfl rfl)
theorem dJ9_setLength_73 : decode cJ9_setLength 73 = .ok (.putfield 73, 3) := dk_181 0 73 (dk_at dksJ9_setLength_3 5 rfl rfl)
theorem dJ9_setLength_76 : decode cJ9_setLength 76 = .ok (.aload_n 0, 1) := dk_42 (dk_at dksJ9_setLength_3 8 rfl rfl)
theorem dJ9_setLength_77 : decode cJ9_setLength 77 = .ok (.iload_n 1, 1) := dk_27 (dk_at dksJ9_setLength_3 9 rfl rfl)
theorem dJ9_setLength_78 : decode cJ9_setLength 78 = .ok (.putfield 79, 3) := dk_181 0 79 (dk_at dksJ9_setLength_3 10 rfl rfl)
theorem dJ9_setLength_81 : decode cJ9_setLength 81 = .ok (.return_, 1) := dk_177 (dk_at dksJ9_setLength_3 13 rfl rfl)
theorem q131 : (Jvm.Cond.initialized "java/lang/AbstractStringBuilder") ∈ lw_all := lw_g (lw_at lw_m1 18 rfl) rfl
theorem q448 : (Jvm.Cond.instanceMethod ({ cls := "java/lang/AbstractStringBuilder", name := "<init>", desc := "(I)V" } : Jvm.MethodName)) ∈ lw_all := lw_g (lw_at lw_m2 95 rfl) rfl
theorem q449 : (Jvm.Cond.code ({ cls := "java/lang/AbstractStringBuilder", name := "<init>", desc := "(I)V" } : Jvm.MethodName) prog_15_method_2_code (2 : Nat) (Option.none : Option Jvm.ClassFile.FieldType)) ∈ lw_all := lw_g (lw_at lw_m2 96 rfl) rfl
theorem q450 : (Jvm.Cond.methodLink "java/lang/AbstractStringBuilder" (3 : Nat) ({ cls := "java/lang/Object", name := "<init>", desc := "()V" } : Jvm.MethodName)) ∈ lw_all := lw_g (lw_at lw_m2 97 rfl) rfl
theorem q451 : (Jvm.Cond.fieldLink "java/lang/AbstractStringBuilder" (18 : Nat) "java/lang/String" "COMPACT_STRINGS" "Z") ∈ lw_all := lw_g (lw_at lw_m2 98 rfl) rfl
theorem q453 : (Jvm.Cond.methodLink "java/lang/AbstractStringBuilder" (26 : Nat) ({ cls := "java/lang/StringUTF16", name := "newBytesFor", desc := "(I)[B" } : Jvm.MethodName)) ∈ lw_all := lw_g (lw_at lw_m2 100 rfl) rfl
theorem q460 : (Jvm.Cond.fieldLink "java/lang/AbstractStringBuilder" (15 : Nat) "java/lang/AbstractStringBuilder" "value" "[B") ∈ lw_all := lw_g (lw_at lw_m2 107 rfl) rfl
theorem q461 : (Jvm.Cond.fieldLink "java/lang/AbstractStringBuilder" (22 : Nat) "java/lang/AbstractStringBuilder" "coder" "B") ∈ lw_all := lw_g (lw_at lw_m2 108 rfl) rfl
theorem q462 : (Jvm.Cond.fieldLink "java/lang/AbstractStringBuilder" (73 : Nat) "java/lang/AbstractStringBuilder" "maybeLatin1" "Z") ∈ lw_all := lw_g (lw_at lw_m2 109 rfl) rfl
theorem q464 : (Jvm.Cond.fieldLink "java/lang/AbstractStringBuilder" (79 : Nat) "java/lang/AbstractStringBuilder" "count" "I") ∈ lw_all := lw_g (lw_at lw_m2 111 rfl) rfl
theorem q466 : (Jvm.Cond.soleField "java/lang/AbstractStringBuilder" "value") ∈ lw_all := lw_g (lw_at lw_m2 113 rfl) rfl
theorem q468 : (Jvm.Cond.soleField "java/lang/AbstractStringBuilder" "coder") ∈ lw_all := lw_g (lw_at lw_m2 115 rfl) rfl
theorem q470 : (Jvm.Cond.soleField "java/lang/AbstractStringBuilder" "maybeLatin1") ∈ lw_all := lw_g (lw_at lw_m2 117 rfl) rfl
theorem q472 : (Jvm.Cond.soleField "java/lang/AbstractStringBuilder" "count") ∈ lw_all := lw_g (lw_at lw_m2 119 rfl) rfl
theorem q705 : (Jvm.Cond.instanceMethod ({ cls := "java/lang/AbstractStringBuilder", name := "length", desc := "()I" } : Jvm.MethodName)) ∈ lw_all := lw_g (lw_at lw_m3 112 rfl) rfl
theorem q706 : (Jvm.Cond.code ({ cls := "java/lang/AbstractStringBuilder", name := "length", desc := "()I" } : Jvm.MethodName) prog_15_method_6_code (1 : Nat) (Option.some Jvm.ClassFile.FieldType.int)) ∈ lw_all := lw_g (lw_at lw_m3 113 rfl) rfl
theorem q727 : (Jvm.Cond.instanceMethod ({ cls := "java/lang/AbstractStringBuilder", name := "append", desc := "(C)Ljava/lang/AbstractStringBuilder;" } : Jvm.MethodName)) ∈ lw_all := lw_g (lw_at lw_m3 134 rfl) rfl
theorem q728 : (Jvm.Cond.code ({ cls := "java/lang/AbstractStringBuilder", name := "append", desc := "(C)Ljava/lang/AbstractStringBuilder;" } : Jvm.MethodName) prog_15_method_31_code (2 : Nat) (Option.some (Jvm.ClassFile.FieldType.object "java/lang/AbstractStringBuilder"))) ∈ lw_all := lw_g (lw_at lw_m3 135 rfl) rfl
theorem q729 : (Jvm.Cond.methodLink "java/lang/AbstractStringBuilder" (100 : Nat) ({ cls := "java/lang/AbstractStringBuilder", name := "ensureCapacityInternal", desc := "(I)V" } : Jvm.MethodName)) ∈ lw_all := lw_g (lw_at lw_m3 136 rfl) rfl
theorem q730 : (Jvm.Cond.privateMethod ({ cls := "java/lang/AbstractStringBuilder", name := "ensureCapacityInternal", desc := "(I)V" } : Jvm.MethodName)) ∈ lw_tbl := lw_at lw_m3 137 rfl
theorem q731 : (Jvm.Cond.instanceMethod ({ cls := "java/lang/AbstractStringBuilder", name := "ensureCapacityInternal", desc := "(I)V" } : Jvm.MethodName)) ∈ lw_all := lw_g (lw_at lw_m3 138 rfl) rfl
theorem q732 : (Jvm.Cond.code ({ cls := "java/lang/AbstractStringBuilder", name := "ensureCapacityInternal", desc := "(I)V" } : Jvm.MethodName) prog_15_method_9_code (3 : Nat) (Option.none : Option Jvm.ClassFile.FieldType)) ∈ lw_all := lw_g (lw_at lw_m3 139 rfl) rfl
theorem q733 : (Jvm.Cond.methodLink "java/lang/AbstractStringBuilder" (104 : Nat) ({ cls := "java/lang/AbstractStringBuilder", name := "newCapacity", desc := "(I)I" } : Jvm.MethodName)) ∈ lw_all := lw_g (lw_at lw_m3 140 rfl) rfl
theorem q734 : (Jvm.Cond.privateMethod ({ cls := "java/lang/AbstractStringBuilder", name := "newCapacity", desc := "(I)I" } : Jvm.MethodName)) ∈ lw_tbl := lw_at lw_m3 141 rfl
theorem q735 : (Jvm.Cond.instanceMethod ({ cls := "java/lang/AbstractStringBuilder", name := "newCapacity", desc := "(I)I" } : Jvm.MethodName)) ∈ lw_all := lw_g (lw_at lw_m3 142 rfl) rfl
theorem q736 : (Jvm.Cond.code ({ cls := "java/lang/AbstractStringBuilder", name := "newCapacity", desc := "(I)I" } : Jvm.MethodName) prog_15_method_10_code (6 : Nat) (Option.some Jvm.ClassFile.FieldType.int)) ∈ lw_all := lw_g (lw_at lw_m3 143 rfl) rfl
theorem q737 : (Jvm.Cond.methodLink "java/lang/AbstractStringBuilder" (114 : Nat) ({ cls := "jdk/internal/util/ArraysSupport", name := "newLength", desc := "(III)I" } : Jvm.MethodName)) ∈ lw_all := lw_g (lw_at lw_m3 144 rfl) rfl
theorem q745 : (Jvm.Cond.constant "java/lang/AbstractStringBuilder" (39 : Nat) (2147483647 : Int32)) ∈ lw_all := lw_g (lw_at lw_m3 152 rfl) rfl
theorem q746 : (Jvm.Cond.methodLink "java/lang/AbstractStringBuilder" (108 : Nat) ({ cls := "java/util/Arrays", name := "copyOf", desc := "([BI)[B" } : Jvm.MethodName)) ∈ lw_all := lw_g (lw_at lw_m3 153 rfl) rfl
theorem q754 : (Jvm.Cond.methodLink "java/lang/AbstractStringBuilder" (83 : Nat) ({ cls := "java/lang/AbstractStringBuilder", name := "isLatin1", desc := "()Z" } : Jvm.MethodName)) ∈ lw_all := lw_g (lw_at lw_m3 161 rfl) rfl
theorem q755 : (Jvm.Cond.instanceMethod ({ cls := "java/lang/AbstractStringBuilder", name := "isLatin1", desc := "()Z" } : Jvm.MethodName)) ∈ lw_all := lw_g (lw_at lw_m3 162 rfl) rfl
theorem q756 : (Jvm.Cond.sameMethod "java/lang/AbstractStringBuilder" "java/lang/AbstractStringBuilder" "isLatin1" "()Z") ∈ lw_all := lw_g (lw_at lw_m3 163 rfl) rfl
theorem q758 : (Jvm.Cond.code ({ cls := "java/lang/AbstractStringBuilder", name := "isLatin1", desc := "()Z" } : Jvm.MethodName) prog_15_method_68_code (1 : Nat) (Option.some Jvm.ClassFile.FieldType.boolean)) ∈ lw_all := lw_g (lw_at lw_m3 165 rfl) rfl
theorem q759 : (Jvm.Cond.methodLink "java/lang/AbstractStringBuilder" (191 : Nat) ({ cls := "java/lang/StringLatin1", name := "canEncode", desc := "(C)Z" } : Jvm.MethodName)) ∈ lw_all := lw_g (lw_at lw_m3 166 rfl) rfl
theorem q762 : (Jvm.Cond.methodLink "java/lang/AbstractStringBuilder" (195 : Nat) ({ cls := "java/lang/AbstractStringBuilder", name := "inflate", desc := "()V" } : Jvm.MethodName)) ∈ lw_all := lw_g (lw_at lw_m3 169 rfl) rfl
theorem q763 : (Jvm.Cond.privateMethod ({ cls := "java/lang/AbstractStringBuilder", name := "inflate", desc := "()V" } : Jvm.MethodName)) ∈ lw_tbl := lw_at lw_m3 170 rfl
theorem q764 : (Jvm.Cond.instanceMethod ({ cls := "java/lang/AbstractStringBuilder", name := "inflate", desc := "()V" } : Jvm.MethodName)) ∈ lw_all := lw_g (lw_at lw_m3 171 rfl) rfl
theorem q765 : (Jvm.Cond.code ({ cls := "java/lang/AbstractStringBuilder", name := "inflate", desc := "()V" } : Jvm.MethodName) prog_15_method_11_code (2 : Nat) (Option.none : Option Jvm.ClassFile.FieldType)) ∈ lw_all := lw_g (lw_at lw_m3 172 rfl) rfl
theorem q766 : (Jvm.Cond.methodLink "java/lang/AbstractStringBuilder" (125 : Nat) ({ cls := "java/lang/StringLatin1", name := "inflate", desc := "([BI[BII)V" } : Jvm.MethodName)) ∈ lw_all := lw_g (lw_at lw_m3 173 rfl) rfl
theorem q795 : (Jvm.Cond.methodLink "java/lang/AbstractStringBuilder" (197 : Nat) ({ cls := "java/lang/StringUTF16", name := "putCharSB", desc := "([BII)V" } : Jvm.MethodName)) ∈ lw_all := lw_g (lw_at lw_m3 202 rfl) rfl
theorem q892 : (Jvm.Cond.instanceMethod ({ cls := "java/lang/AbstractStringBuilder", name := "append", desc := "(Ljava/lang/String;)Ljava/lang/AbstractStringBuilder;" } : Jvm.MethodName)) ∈ lw_all := lw_g (lw_at lw_m4 59 rfl) rfl
theorem q893 : (Jvm.Cond.code ({ cls := "java/lang/AbstractStringBuilder", name := "append", desc := "(Ljava/lang/String;)Ljava/lang/AbstractStringBuilder;" } : Jvm.MethodName) prog_15_method_22_code (3 : Nat) (Option.some (Jvm.ClassFile.FieldType.object "java/lang/AbstractStringBuilder"))) ∈ lw_all := lw_g (lw_at lw_m4 60 rfl) rfl
theorem q894 : (Jvm.Cond.methodLink "java/lang/AbstractStringBuilder" (204 : Nat) ({ cls := "java/lang/AbstractStringBuilder", name := "appendNull", desc := "()Ljava/lang/AbstractStringBuilder;" } : Jvm.MethodName)) ∈ lw_all := lw_g (lw_at lw_m4 61 rfl) rfl
theorem q895 : (Jvm.Cond.privateMethod ({ cls := "java/lang/AbstractStringBuilder", name := "appendNull", desc := "()Ljava/lang/AbstractStringBuilder;" } : Jvm.MethodName)) ∈ lw_tbl := lw_at lw_m4 62 rfl
theorem q896 : (Jvm.Cond.instanceMethod ({ cls := "java/lang/AbstractStringBuilder", name := "appendNull", desc := "()Ljava/lang/AbstractStringBuilder;" } : Jvm.MethodName)) ∈ lw_all := lw_g (lw_at lw_m4 63 rfl) rfl
theorem q897 : (Jvm.Cond.code ({ cls := "java/lang/AbstractStringBuilder", name := "appendNull", desc := "()Ljava/lang/AbstractStringBuilder;" } : Jvm.MethodName) prog_15_method_26_code (3 : Nat) (Option.some (Jvm.ClassFile.FieldType.object "java/lang/AbstractStringBuilder"))) ∈ lw_all := lw_g (lw_at lw_m4 64 rfl) rfl
theorem q898 : (Jvm.Cond.methodLink "java/lang/AbstractStringBuilder" (226 : Nat) ({ cls := "java/lang/StringUTF16", name := "putCharsAt", desc := "([BICCCC)I" } : Jvm.MethodName)) ∈ lw_all := lw_g (lw_at lw_m4 65 rfl) rfl
theorem q910 : (Jvm.Cond.methodLink "java/lang/AbstractStringBuilder" (32 : Nat) ({ cls := "java/lang/String", name := "length", desc := "()I" } : Jvm.MethodName)) ∈ lw_all := lw_g (lw_at lw_m4 77 rfl) rfl
theorem q919 : (Jvm.Cond.methodLink "java/lang/AbstractStringBuilder" (208 : Nat) ({ cls := "java/lang/AbstractStringBuilder", name := "putStringAt", desc := "(ILjava/lang/String;)V" } : Jvm.MethodName)) ∈ lw_all := lw_g (lw_at lw_m4 86 rfl) rfl
theorem q920 : (Jvm.Cond.privateMethod ({ cls := "java/lang/AbstractStringBuilder", name := "putStringAt", desc := "(ILjava/lang/String;)V" } : Jvm.MethodName)) ∈ lw_tbl := lw_at lw_m4 87 rfl
theorem q921 : (Jvm.Cond.instanceMethod ({ cls := "java/lang/AbstractStringBuilder", name := "putStringAt", desc := "(ILjava/lang/String;)V" } : Jvm.MethodName)) ∈ lw_all := lw_g (lw_at lw_m4 88 rfl) rfl
theorem q922 : (Jvm.Cond.code ({ cls := "java/lang/AbstractStringBuilder", name := "putStringAt", desc := "(ILjava/lang/String;)V" } : Jvm.MethodName) prog_15_method_73_code (3 : Nat) (Option.none : Option Jvm.ClassFile.FieldType)) ∈ lw_all := lw_g (lw_at lw_m4 89 rfl) rfl
theorem q923 : (Jvm.Cond.methodLink "java/lang/AbstractStringBuilder" (397 : Nat) ({ cls := "java/lang/AbstractStringBuilder", name := "inflateIfNeededFor", desc := "(Ljava/lang/String;)V" } : Jvm.MethodName)) ∈ lw_all := lw_g (lw_at lw_m4 90 rfl) rfl
theorem q924 : (Jvm.Cond.privateMethod ({ cls := "java/lang/AbstractStringBuilder", name := "inflateIfNeededFor", desc := "(Ljava/lang/String;)V" } : Jvm.MethodName)) ∈ lw_tbl := lw_at lw_m4 91 rfl
theorem q925 : (Jvm.Cond.instanceMethod ({ cls := "java/lang/AbstractStringBuilder", name := "inflateIfNeededFor", desc := "(Ljava/lang/String;)V" } : Jvm.MethodName)) ∈ lw_all := lw_g (lw_at lw_m4 92 rfl) rfl
theorem q926 : (Jvm.Cond.code ({ cls := "java/lang/AbstractStringBuilder", name := "inflateIfNeededFor", desc := "(Ljava/lang/String;)V" } : Jvm.MethodName) prog_15_method_71_code (2 : Nat) (Option.none : Option Jvm.ClassFile.FieldType)) ∈ lw_all := lw_g (lw_at lw_m4 93 rfl) rfl
theorem q927 : (Jvm.Cond.methodLink "java/lang/AbstractStringBuilder" (40 : Nat) ({ cls := "java/lang/String", name := "coder", desc := "()B" } : Jvm.MethodName)) ∈ lw_all := lw_g (lw_at lw_m4 94 rfl) rfl
theorem q928 : (Jvm.Cond.methodLink "java/lang/AbstractStringBuilder" (399 : Nat) ({ cls := "java/lang/String", name := "getBytes", desc := "([BIB)V" } : Jvm.MethodName)) ∈ lw_all := lw_g (lw_at lw_m4 95 rfl) rfl
theorem q939 : (Jvm.Cond.instanceMethod ({ cls := "java/lang/AbstractStringBuilder", name := "append", desc := "(I)Ljava/lang/AbstractStringBuilder;" } : Jvm.MethodName)) ∈ lw_all := lw_g (lw_at lw_m4 106 rfl) rfl
theorem q940 : (Jvm.Cond.code ({ cls := "java/lang/AbstractStringBuilder", name := "append", desc := "(I)Ljava/lang/AbstractStringBuilder;" } : Jvm.MethodName) prog_15_method_32_code (4 : Nat) (Option.some (Jvm.ClassFile.FieldType.object "java/lang/AbstractStringBuilder"))) ∈ lw_all := lw_g (lw_at lw_m4 107 rfl) rfl
theorem q941 : (Jvm.Cond.methodLink "java/lang/AbstractStringBuilder" (245 : Nat) ({ cls := "java/lang/Integer", name := "stringSize", desc := "(I)I" } : Jvm.MethodName)) ∈ lw_all := lw_g (lw_at lw_m4 108 rfl) rfl
theorem q944 : (Jvm.Cond.methodLink "java/lang/AbstractStringBuilder" (248 : Nat) ({ cls := "java/lang/Integer", name := "getChars", desc := "(II[B)I" } : Jvm.MethodName)) ∈ lw_all := lw_g (lw_at lw_m4 111 rfl) rfl
theorem q951 : (Jvm.Cond.methodLink "java/lang/AbstractStringBuilder" (251 : Nat) ({ cls := "java/lang/StringUTF16", name := "getChars", desc := "(III[B)I" } : Jvm.MethodName)) ∈ lw_all := lw_g (lw_at lw_m4 118 rfl) rfl
theorem q983 : (Jvm.Cond.instanceMethod ({ cls := "java/lang/AbstractStringBuilder", name := "getValue", desc := "()[B" } : Jvm.MethodName)) ∈ lw_all := lw_g (lw_at lw_m4 150 rfl) rfl
theorem q984 : (Jvm.Cond.sameMethod "java/lang/AbstractStringBuilder" "java/lang/AbstractStringBuilder" "getValue" "()[B") ∈ lw_all := lw_g (lw_at lw_m4 151 rfl) rfl
theorem q986 : (Jvm.Cond.code ({ cls := "java/lang/AbstractStringBuilder", name := "getValue", desc := "()[B" } : Jvm.MethodName) prog_15_method_64_code (1 : Nat) (Option.some (Jvm.ClassFile.FieldType.array Jvm.ClassFile.FieldType.byte))) ∈ lw_all := lw_g (lw_at lw_m4 153 rfl) rfl
theorem q1608 : (Jvm.Cond.instanceMethod ({ cls := "java/lang/AbstractStringBuilder", name := "charAt", desc := "(I)C" } : Jvm.MethodName)) ∈ lw_all := lw_g (lw_at lw_m7 55 rfl) rfl
theorem q1609 : (Jvm.Cond.code ({ cls := "java/lang/AbstractStringBuilder", name := "charAt", desc := "(I)C" } : Jvm.MethodName) prog_15_method_14_code (5 : Nat) (Option.some Jvm.ClassFile.FieldType.char)) ∈ lw_all := lw_g (lw_at lw_m7 56 rfl) rfl
theorem q1610 : (Jvm.Cond.methodLink "java/lang/AbstractStringBuilder" (138 : Nat) ({ cls := "java/lang/Math", name := "min", desc := "(II)I" } : Jvm.MethodName)) ∈ lw_all := lw_g (lw_at lw_m7 57 rfl) rfl
theorem q1611 : (Jvm.Cond.methodLink "java/lang/AbstractStringBuilder" (144 : Nat) ({ cls := "java/lang/String", name := "checkIndex", desc := "(II)V" } : Jvm.MethodName)) ∈ lw_all := lw_g (lw_at lw_m7 58 rfl) rfl
theorem q1612 : (Jvm.Cond.methodLink "java/lang/AbstractStringBuilder" (148 : Nat) ({ cls := "java/lang/StringUTF16", name := "getChar", desc := "([BI)C" } : Jvm.MethodName)) ∈ lw_all := lw_g (lw_at lw_m7 59 rfl) rfl
theorem q1773 : (Jvm.Cond.instanceMethod ({ cls := "java/lang/AbstractStringBuilder", name := "setLength", desc := "(I)V" } : Jvm.MethodName)) ∈ lw_all := lw_g (lw_at lw_m7 220 rfl) rfl
theorem q1774 : (Jvm.Cond.code ({ cls := "java/lang/AbstractStringBuilder", name := "setLength", desc := "(I)V" } : Jvm.MethodName) prog_15_method_13_code (2 : Nat) (Option.none : Option Jvm.ClassFile.FieldType)) ∈ lw_all := lw_g (lw_at lw_m7 221 rfl) rfl
theorem q1775 : (Jvm.Cond.classLink "java/lang/AbstractStringBuilder" (129 : Nat) "java/lang/StringIndexOutOfBoundsException") ∈ lw_all := lw_g (lw_at lw_m7 222 rfl) rfl
theorem q1777 : (Jvm.Cond.methodLink "java/lang/AbstractStringBuilder" (131 : Nat) ({ cls := "java/lang/StringIndexOutOfBoundsException", name := "<init>", desc := "(I)V" } : Jvm.MethodName)) ∈ lw_all := lw_g (lw_at lw_m7 224 rfl) rfl
theorem q1794 : (Jvm.Cond.methodLink "java/lang/AbstractStringBuilder" (133 : Nat) ({ cls := "java/lang/StringLatin1", name := "fillNull", desc := "([BII)V" } : Jvm.MethodName)) ∈ lw_all := lw_g (lw_at lw_m8 1 rfl) rfl
theorem q1816 : (Jvm.Cond.methodLink "java/lang/AbstractStringBuilder" (137 : Nat) ({ cls := "java/lang/StringUTF16", name := "fillNull", desc := "([BII)V" } : Jvm.MethodName)) ∈ lw_all := lw_g (lw_at lw_m8 23 rfl) rfl
theorem q2757 : (Jvm.Cond.sameMethod "java/lang/AbstractStringBuilder" "java/lang/AbstractStringBuilder" "length" "()I") ∈ lw_all := lw_g (lw_at lw_m12 4 rfl) rfl
theorem q2758 : (Jvm.Cond.sameMethod "java/lang/AbstractStringBuilder" "java/lang/AbstractStringBuilder" "append" "(C)Ljava/lang/AbstractStringBuilder;") ∈ lw_all := lw_g (lw_at lw_m12 5 rfl) rfl
theorem q2759 : (Jvm.Cond.sameMethod "java/lang/AbstractStringBuilder" "java/lang/AbstractStringBuilder" "ensureCapacityInternal" "(I)V") ∈ lw_all := lw_g (lw_at lw_m12 6 rfl) rfl
theorem q2760 : (Jvm.Cond.sameMethod "java/lang/AbstractStringBuilder" "java/lang/AbstractStringBuilder" "newCapacity" "(I)I") ∈ lw_all := lw_g (lw_at lw_m12 7 rfl) rfl
theorem q2761 : (Jvm.Cond.sameMethod "java/lang/AbstractStringBuilder" "java/lang/AbstractStringBuilder" "inflate" "()V") ∈ lw_all := lw_g (lw_at lw_m12 8 rfl) rfl
theorem q2762 : (Jvm.Cond.sameMethod "java/lang/AbstractStringBuilder" "java/lang/AbstractStringBuilder" "append" "(Ljava/lang/String;)Ljava/lang/AbstractStringBuilder;") ∈ lw_all := lw_g (lw_at lw_m12 9 rfl) rfl
theorem q2763 : (Jvm.Cond.sameMethod "java/lang/AbstractStringBuilder" "java/lang/AbstractStringBuilder" "appendNull" "()Ljava/lang/AbstractStringBuilder;") ∈ lw_all := lw_g (lw_at lw_m12 10 rfl) rfl
theorem q2764 : (Jvm.Cond.sameMethod "java/lang/AbstractStringBuilder" "java/lang/AbstractStringBuilder" "putStringAt" "(ILjava/lang/String;)V") ∈ lw_all := lw_g (lw_at lw_m12 11 rfl) rfl
theorem q2765 : (Jvm.Cond.sameMethod "java/lang/AbstractStringBuilder" "java/lang/AbstractStringBuilder" "inflateIfNeededFor" "(Ljava/lang/String;)V") ∈ lw_all := lw_g (lw_at lw_m12 12 rfl) rfl
theorem q2766 : (Jvm.Cond.sameMethod "java/lang/AbstractStringBuilder" "java/lang/AbstractStringBuilder" "append" "(I)Ljava/lang/AbstractStringBuilder;") ∈ lw_all := lw_g (lw_at lw_m12 13 rfl) rfl
theorem q2769 : (Jvm.Cond.sameMethod "java/lang/AbstractStringBuilder" "java/lang/AbstractStringBuilder" "charAt" "(I)C") ∈ lw_all := lw_g (lw_at lw_m12 16 rfl) rfl
theorem q2770 : (Jvm.Cond.sameMethod "java/lang/AbstractStringBuilder" "java/lang/AbstractStringBuilder" "setLength" "(I)V") ∈ lw_all := lw_g (lw_at lw_m12 17 rfl) rfl

/-! java/lang/StringBuilder -/
set_option maxRecDepth 100000
def RJ10 : String := "java/lang/StringBuilder"
def TJ10 : u_T := fun k => match k with
  | 0 => ("java/lang/AbstractStringBuilder", "value", "[B", false)
  | 1 => ("java/lang/AbstractStringBuilder", "coder", "B", false)
  | 2 => ("java/lang/AbstractStringBuilder", "maybeLatin1", "Z", false)
  | _ => ("java/lang/AbstractStringBuilder", "count", "I", false)
def tyJ10 : Nat → FieldType := fun k => match k with
  | 0 => .array .byte
  | 1 => .byte
  | 2 => .boolean
  | _ => .int
abbrev wsJ100 : List Cond := u_ws RJ10 TJ10 4
theorem nmJ10 : ∀ a, a < 4 → ∀ b, b < 4 → a ≠ b → (TJ10 a).2.1 ≠ (TJ10 b).2.1 := by decide +kernel
theorem tyJ10_ok : ∀ k, k < 4 → parseFieldDescriptor (TJ10 k).2.2.1 = some (tyJ10 k) := by decide +kernel
abbrev cJ10_init : ByteArray := prog_34_method_2_code
def yJ10_init : MethodName := ⟨RJ10, "<init>", "(I)V"⟩
def dkwJ10_init_0 : List UInt8 := [42, 27, 183, 0, 1, 177]
abbrev dktJ10_init_0 : List UInt8 := dkwJ10_init_0 ++ []
theorem dksJ10_init_0 : cJ10_init.data.toList.drop 0 = dktJ10_init_0 := by decide +kernel
theorem dJ10_init_0 : decode cJ10_init 0 = .ok (.aload_n 0, 1) := dk_42 (dk_at dksJ10_init_0 0 rfl rfl)
theorem dJ10_init_1 : decode cJ10_init 1 = .ok (.iload_n 1, 1) := dk_27 (dk_at dksJ10_init_0 1 rfl rfl)
theorem dJ10_init_2 : decode cJ10_init 2 = .ok (.invokespecial 1, 3) := dk_183 0 1 (dk_at dksJ10_init_0 2 rfl rfl)
theorem dJ10_init_5 : decode cJ10_init 5 = .ok (.return_, 1) := dk_177 (dk_at dksJ10_init_0 5 rfl rfl)
abbrev cJ10_length : ByteArray := prog_34_method_93_code
def yJ10_length : MethodName := ⟨RJ10, "length", "()I"⟩
theorem dJ10_length_0 : decode cJ10_length 0 = .ok (.aload_n 0, 1) := by decide +kernel
theorem dJ10_length_1 : decode cJ10_length 1 = .ok (.invokespecial 343, 3) := by decide +kernel
theorem dJ10_length_4 : decode cJ10_length 4 = .ok (.ireturn, 1) := by decide +kernel
abbrev cJ10_append : ByteArray := prog_34_method_14_code
def yJ10_append : MethodName := ⟨RJ10, "append", "(C)Ljava/lang/StringBuilder;"⟩
def dkwJ10_append_0 : List UInt8 := [42, 27, 183, 0, 50, 87, 42, 176]
abbrev dktJ10_append_0 : List UInt8 := dkwJ10_append_0 ++ []
theorem dksJ10_append_0 : cJ10_append.data.toList.drop 0 = dktJ10_append_0 := by decide +kernel
theorem dJ10_append_0 : decode cJ10_append 0 = .ok (.aload_n 0, 1) := dk_42 (dk_at dksJ10_append_0 0 rfl rfl)
theorem dJ10_append_1 : decode cJ10_append 1 = .ok (.iload_n 1, 1) := dk_27 (dk_at dksJ10_append_0 1 rfl rfl)
theorem dJ10_append_2 : decode cJ10_append 2 = .ok (.invokespecial 50, 3) := dk_183 0 50 (dk_at dksJ10_append_0 2 rfl rfl)
theorem dJ10_append_5 : decode cJ10_append 5 = .ok (.pop, 1) := dk_87 (dk_at dksJ10_append_0 5 rfl rfl)
theorem dJ10_append_6 : decode cJ10_append 6 = .ok (.aload_n 0, 1) := dk_42 (dk_at dksJ10_append_0 6 rfl rfl)
theorem dJ10_append_7 : decode cJ10_append 7 = .ok (.areturn, 1) := dk_176 (dk_at dksJ10_append_0 7 rfl rfl)
abbrev cJ10_init_2 : ByteArray := prog_34_method_1_code
def yJ10_init_2 : MethodName := ⟨RJ10, "<init>", "()V"⟩
def dkwJ10_init_2_0 : List UInt8 := [42, 16, 16, 183, 0, 1, 177]
abbrev dktJ10_init_2_0 : List UInt8 := dkwJ10_init_2_0 ++ []
theorem dksJ10_init_2_0 : cJ10_init_2.data.toList.drop 0 = dktJ10_init_2_0 := by decide +kernel
theorem dJ10_init_2_0 : decode cJ10_init_2 0 = .ok (.aload_n 0, 1) := dk_42 (dk_at dksJ10_init_2_0 0 rfl rfl)
theorem dJ10_init_2_1 : decode cJ10_init_2 1 = .ok (.bipush 16, 2) := dk_16 16 (dk_at dksJ10_init_2_0 1 rfl rfl)
theorem dJ10_init_2_3 : decode cJ10_init_2 3 = .ok (.invokespecial 1, 3) := dk_183 0 1 (dk_at dksJ10_init_2_0 3 rfl rfl)
theorem dJ10_init_2_6 : decode cJ10_init_2 6 = .ok (.return_, 1) := dk_177 (dk_at dksJ10_init_2_0 6 rfl rfl)
abbrev cJ10_append_2 : ByteArray := prog_34_method_7_code
def yJ10_append_2 : MethodName := ⟨RJ10, "append", "(Ljava/lang/String;)Ljava/lang/StringBuilder;"⟩
def dkwJ10_append_2_0 : List UInt8 := [42, 43, 183, 0, 29, 87, 42, 176]
abbrev dktJ10_append_2_0 : List UInt8 := dkwJ10_append_2_0 ++ []
theorem dksJ10_append_2_0 : cJ10_append_2.data.toList.drop 0 = dktJ10_append_2_0 := by decide +kernel
theorem dJ10_append_2_0 : decode cJ10_append_2 0 = .ok (.aload_n 0, 1) := dk_42 (dk_at dksJ10_append_2_0 0 rfl rfl)
theorem dJ10_append_2_1 : decode cJ10_append_2 1 = .ok (.aload_n 1, 1) := dk_43 (dk_at dksJ10_append_2_0 1 rfl rfl)
theorem dJ10_append_2_2 : decode cJ10_append_2 2 = .ok (.invokespecial 29, 3) := dk_183 0 29 (dk_at dksJ10_append_2_0 2 rfl rfl)
theorem dJ10_append_2_5 : decode cJ10_append_2 5 = .ok (.pop, 1) := dk_87 (dk_at dksJ10_append_2_0 5 rfl rfl)
theorem dJ10_append_2_6 : decode cJ10_append_2 6 = .ok (.aload_n 0, 1) := dk_42 (dk_at dksJ10_append_2_0 6 rfl rfl)
theorem dJ10_append_2_7 : decode cJ10_append_2 7 = .ok (.areturn, 1) := dk_176 (dk_at dksJ10_append_2_0 7 rfl rfl)
abbrev cJ10_append_3 : ByteArray := prog_34_method_15_code
def yJ10_append_3 : MethodName := ⟨RJ10, "append", "(I)Ljava/lang/StringBuilder;"⟩
def dkwJ10_append_3_0 : List UInt8 := [42, 27, 183, 0, 53, 87, 42, 176]
abbrev dktJ10_append_3_0 : List UInt8 := dkwJ10_append_3_0 ++ []
theorem dksJ10_append_3_0 : cJ10_append_3.data.toList.drop 0 = dktJ10_append_3_0 := by decide +kernel
theorem dJ10_append_3_0 : decode cJ10_append_3 0 = .ok (.aload_n 0, 1) := dk_42 (dk_at dksJ10_append_3_0 0 rfl rfl)
theorem dJ10_append_3_1 : decode cJ10_append_3 1 = .ok (.iload_n 1, 1) := dk_27 (dk_at dksJ10_append_3_0 1 rfl rfl)
theorem dJ10_append_3_2 : decode cJ10_append_3 2 = .ok (.invokespecial 53, 3) := dk_183 0 53 (dk_at dksJ10_append_3_0 2 rfl rfl)
theorem dJ10_append_3_5 : decode cJ10_append_3 5 = .ok (.pop, 1) := dk_87 (dk_at dksJ10_append_3_0 5 rfl rfl)
theorem dJ10_append_3_6 : decode cJ10_append_3 6 = .ok (.aload_n 0, 1) := dk_42 (dk_at dksJ10_append_3_0 6 rfl rfl)
theorem dJ10_append_3_7 : decode cJ10_append_3 7 = .ok (.areturn, 1) := dk_176 (dk_at dksJ10_append_3_0 7 rfl rfl)
abbrev cJ10_toString : ByteArray := prog_34_method_42_code
def yJ10_toString : MethodName := ⟨RJ10, "toString", "()Ljava/lang/String;"⟩
def dkwJ10_toString_0 : List UInt8 := [187, 0, 18, 89, 42, 183, 0, 137, 176]
abbrev dktJ10_toString_0 : List UInt8 := dkwJ10_toString_0 ++ []
theorem dksJ10_toString_0 : cJ10_toString.data.toList.drop 0 = dktJ10_toString_0 := by decide +kernel
theorem dJ10_toString_0 : decode cJ10_toString 0 = .ok (.new 18, 3) := dk_187 0 18 (dk_at dksJ10_toString_0 0 rfl rfl)
theorem dJ10_toString_3 : decode cJ10_toString 3 = .ok (.dup, 1) := dk_89 (dk_at dksJ10_toString_0 3 rfl rfl)
theorem dJ10_toString_4 : decode cJ10_toString 4 = .ok (.aload_n 0, 1) := dk_42 (dk_at dksJ10_toString_0 4 rfl rfl)
theorem dJ10_toString_5 : decode cJ10_toString 5 = .ok (.invokespecial 137, 3) := dk_183 0 137 (dk_at dksJ10_toString_0 5 rfl rfl)
theorem dJ10_toString_8 : decode cJ10_toString 8 = .ok (.areturn, 1) := dk_176 (dk_at dksJ10_toString_0 8 rfl rfl)
abbrev cJ10_charAt : ByteArray := prog_34_method_88_code
def yJ10_charAt : MethodName := ⟨RJ10, "charAt", "(I)C"⟩
def dkwJ10_charAt_0 : List UInt8 := [42, 27, 183, 1, 73, 172]
abbrev dktJ10_charAt_0 : List UInt8 := dkwJ10_charAt_0 ++ []
theorem dksJ10_charAt_0 : cJ10_charAt.data.toList.drop 0 = dktJ10_charAt_0 := by decide +kernel
theorem dJ10_charAt_0 : decode cJ10_charAt 0 = .ok (.aload_n 0, 1) := dk_42 (dk_at dksJ10_charAt_0 0 rfl rfl)
theorem dJ10_charAt_1 : decode cJ10_charAt 1 = .ok (.iload_n 1, 1) := dk_27 (dk_at dksJ10_charAt_0 1 rfl rfl)
theorem dJ10_charAt_2 : decode cJ10_charAt 2 = .ok (.invokespecial 329, 3) := dk_183 1 73 (dk_at dksJ10_charAt_0 2 rfl rfl)
theorem dJ10_charAt_5 : decode cJ10_charAt 5 = .ok (.ireturn, 1) := dk_172 (dk_at dksJ10_charAt_0 5 rfl rfl)
abbrev cJ10_setLength : ByteArray := prog_34_method_89_code
def yJ10_setLength : MethodName := ⟨RJ10, "setLength", "(I)V"⟩
def dkwJ10_setLength_0 : List UInt8 := [42, 27, 183, 1, 77, 177]
abbrev dktJ10_setLength_0 : List UInt8 := dkwJ10_setLength_0 ++ []
theorem dksJ10_setLength_0 : cJ10_setLength.data.toList.drop 0 = dktJ10_setLength_0 := by decide +kernel
theorem dJ10_setLength_0 : decode cJ10_setLength 0 = .ok (.aload_n 0, 1) := dk_42 (dk_at dksJ10_setLength_0 0 rfl rfl)
theorem dJ10_setLength_1 : decode cJ10_setLength 1 = .ok (.iload_n 1, 1) := dk_27 (dk_at dksJ10_setLength_0 1 rfl rfl)
theorem dJ10_setLength_2 : decode cJ10_setLength 2 = .ok (.invokespecial 333, 3) := dk_183 1 77 (dk_at dksJ10_setLength_0 2 rfl rfl)
theorem dJ10_setLength_5 : decode cJ10_setLength 5 = .ok (.return_, 1) := dk_177 (dk_at dksJ10_setLength_0 5 rfl rfl)
theorem q132 : (Jvm.Cond.initialized "java/lang/StringBuilder") ∈ lw_all := lw_g (lw_at lw_m1 19 rfl) rfl
theorem q233 : (Jvm.Cond.selects "java/lang/StringBuilder" ({ cls := "java/lang/Object", name := "getClass", desc := "()Ljava/lang/Class;" } : Jvm.MethodName) ({ cls := "java/lang/Object", name := "getClass", desc := "()Ljava/lang/Class;" } : Jvm.MethodName)) ∈ lw_all := lw_g (lw_at lw_m1 120 rfl) rfl
theorem q443 : (Jvm.Cond.instantiable "java/lang/StringBuilder" (4 : Nat)) ∈ lw_all := lw_g (lw_at lw_m2 90 rfl) rfl
theorem q445 : (Jvm.Cond.instanceMethod ({ cls := "java/lang/StringBuilder", name := "<init>", desc := "(I)V" } : Jvm.MethodName)) ∈ lw_all := lw_g (lw_at lw_m2 92 rfl) rfl
theorem q446 : (Jvm.Cond.code ({ cls := "java/lang/StringBuilder", name := "<init>", desc := "(I)V" } : Jvm.MethodName) prog_34_method_2_code (2 : Nat) (Option.none : Option Jvm.ClassFile.FieldType)) ∈ lw_all := lw_g (lw_at lw_m2 93 rfl) rfl
theorem q447 : (Jvm.Cond.methodLink "java/lang/StringBuilder" (1 : Nat) ({ cls := "java/lang/AbstractStringBuilder", name := "<init>", desc := "(I)V" } : Jvm.MethodName)) ∈ lw_all := lw_g (lw_at lw_m2 94 rfl) rfl
theorem q465 : (Jvm.Cond.lays "java/lang/StringBuilder" "java/lang/AbstractStringBuilder" "value" "[B") ∈ lw_all := lw_g (lw_at lw_m2 112 rfl) rfl
theorem q467 : (Jvm.Cond.lays "java/lang/StringBuilder" "java/lang/AbstractStringBuilder" "coder" "B") ∈ lw_all := lw_g (lw_at lw_m2 114 rfl) rfl
theorem q469 : (Jvm.Cond.lays "java/lang/StringBuilder" "java/lang/AbstractStringBuilder" "maybeLatin1" "Z") ∈ lw_all := lw_g (lw_at lw_m2 116 rfl) rfl
theorem q471 : (Jvm.Cond.lays "java/lang/StringBuilder" "java/lang/AbstractStringBuilder" "count" "I") ∈ lw_all := lw_g (lw_at lw_m2 118 rfl) rfl
theorem q473 : (Jvm.Cond.superclass "java/lang/StringBuilder" "java/lang/AbstractStringBuilder") ∈ lw_all := lw_g (lw_at lw_m2 120 rfl) rfl
theorem q701 : (Jvm.Cond.instanceMethod ({ cls := "java/lang/StringBuilder", name := "length", desc := "()I" } : Jvm.MethodName)) ∈ lw_all := lw_g (lw_at lw_m3 108 rfl) rfl
theorem q702 : (Jvm.Cond.selects "java/lang/StringBuilder" ({ cls := "java/lang/StringBuilder", name := "length", desc := "()I" } : Jvm.MethodName) ({ cls := "java/lang/StringBuilder", name := "length", desc := "()I" } : Jvm.MethodName)) ∈ lw_all := lw_g (lw_at lw_m3 109 rfl) rfl
theorem q703 : (Jvm.Cond.code ({ cls := "java/lang/StringBuilder", name := "length", desc := "()I" } : Jvm.MethodName) prog_34_method_93_code (1 : Nat) (Option.some Jvm.ClassFile.FieldType.int)) ∈ lw_all := lw_g (lw_at lw_m3 110 rfl) rfl
theorem q704 : (Jvm.Cond.methodLink "java/lang/StringBuilder" (343 : Nat) ({ cls := "java/lang/AbstractStringBuilder", name := "length", desc := "()I" } : Jvm.MethodName)) ∈ lw_all := lw_g (lw_at lw_m3 111 rfl) rfl
theorem q723 : (Jvm.Cond.instanceMethod ({ cls := "java/lang/StringBuilder", name := "append", desc := "(C)Ljava/lang/StringBuilder;" } : Jvm.MethodName)) ∈ lw_all := lw_g (lw_at lw_m3 130 rfl) rfl
theorem q724 : (Jvm.Cond.selects "java/lang/StringBuilder" ({ cls := "java/lang/StringBuilder", name := "append", desc := "(C)Ljava/lang/StringBuilder;" } : Jvm.MethodName) ({ cls := "java/lang/StringBuilder", name := "append", desc := "(C)Ljava/lang/StringBuilder;" } : Jvm.MethodName)) ∈ lw_all := lw_g (lw_at lw_m3 131 rfl) rfl
theorem q725 : (Jvm.Cond.code ({ cls := "java/lang/StringBuilder", name := "append", desc := "(C)Ljava/lang/StringBuilder;" } : Jvm.MethodName) prog_34_method_14_code (2 : Nat) (Option.some (Jvm.ClassFile.FieldType.object "java/lang/StringBuilder"))) ∈ lw_all := lw_g (lw_at lw_m3 132 rfl) rfl
theorem q726 : (Jvm.Cond.methodLink "java/lang/StringBuilder" (50 : Nat) ({ cls := "java/lang/AbstractStringBuilder", name := "append", desc := "(C)Ljava/lang/AbstractStringBuilder;" } : Jvm.MethodName)) ∈ lw_all := lw_g (lw_at lw_m3 133 rfl) rfl
theorem q757 : (Jvm.Cond.selects "java/lang/StringBuilder" ({ cls := "java/lang/AbstractStringBuilder", name := "isLatin1", desc := "()Z" } : Jvm.MethodName) ({ cls := "java/lang/AbstractStringBuilder", name := "isLatin1", desc := "()Z" } : Jvm.MethodName)) ∈ lw_all := lw_g (lw_at lw_m3 164 rfl) rfl
theorem q884 : (Jvm.Cond.instanceMethod ({ cls := "java/lang/StringBuilder", name := "<init>", desc := "()V" } : Jvm.MethodName)) ∈ lw_all := lw_g (lw_at lw_m4 51 rfl) rfl
theorem q885 : (Jvm.Cond.code ({ cls := "java/lang/StringBuilder", name := "<init>", desc := "()V" } : Jvm.MethodName) prog_34_method_1_code (1 : Nat) (Option.none : Option Jvm.ClassFile.FieldType)) ∈ lw_all := lw_g (lw_at lw_m4 52 rfl) rfl
theorem q888 : (Jvm.Cond.instanceMethod ({ cls := "java/lang/StringBuilder", name := "append", desc := "(Ljava/lang/String;)Ljava/lang/StringBuilder;" } : Jvm.MethodName)) ∈ lw_all := lw_g (lw_at lw_m4 55 rfl) rfl
theorem q889 : (Jvm.Cond.selects "java/lang/StringBuilder" ({ cls := "java/lang/StringBuilder", name := "append", desc := "(Ljava/lang/String;)Ljava/lang/StringBuilder;" } : Jvm.MethodName) ({ cls := "java/lang/StringBuilder", name := "append", desc := "(Ljava/lang/String;)Ljava/lang/StringBuilder;" } : Jvm.MethodName)) ∈ lw_all := lw_g (lw_at lw_m4 56 rfl) rfl
theorem q890 : (Jvm.Cond.code ({ cls := "java/lang/StringBuilder", name := "append", desc := "(Ljava/lang/String;)Ljava/lang/StringBuilder;" } : Jvm.MethodName) prog_34_method_7_code (2 : Nat) (Option.some (Jvm.ClassFile.FieldType.object "java/lang/StringBuilder"))) ∈ lw_all := lw_g (lw_at lw_m4 57 rfl) rfl
theorem q891 : (Jvm.Cond.methodLink "java/lang/StringBuilder" (29 : Nat) ({ cls := "java/lang/AbstractStringBuilder", name := "append", desc := "(Ljava/lang/String;)Ljava/lang/AbstractStringBuilder;" } : Jvm.MethodName)) ∈ lw_all := lw_g (lw_at lw_m4 58 rfl) rfl
theorem q935 : (Jvm.Cond.instanceMethod ({ cls := "java/lang/StringBuilder", name := "append", desc := "(I)Ljava/lang/StringBuilder;" } : Jvm.MethodName)) ∈ lw_all := lw_g (lw_at lw_m4 102 rfl) rfl
theorem q936 : (Jvm.Cond.selects "java/lang/StringBuilder" ({ cls := "java/lang/StringBuilder", name := "append", desc := "(I)Ljava/lang/StringBuilder;" } : Jvm.MethodName) ({ cls := "java/lang/StringBuilder", name := "append", desc := "(I)Ljava/lang/StringBuilder;" } : Jvm.MethodName)) ∈ lw_all := lw_g (lw_at lw_m4 103 rfl) rfl
theorem q937 : (Jvm.Cond.code ({ cls := "java/lang/StringBuilder", name := "append", desc := "(I)Ljava/lang/StringBuilder;" } : Jvm.MethodName) prog_34_method_15_code (2 : Nat) (Option.some (Jvm.ClassFile.FieldType.object "java/lang/StringBuilder"))) ∈ lw_all := lw_g (lw_at lw_m4 104 rfl) rfl
theorem q938 : (Jvm.Cond.methodLink "java/lang/StringBuilder" (53 : Nat) ({ cls := "java/lang/AbstractStringBuilder", name := "append", desc := "(I)Ljava/lang/AbstractStringBuilder;" } : Jvm.MethodName)) ∈ lw_all := lw_g (lw_at lw_m4 105 rfl) rfl
theorem q970 : (Jvm.Cond.instanceMethod ({ cls := "java/lang/StringBuilder", name := "toString", desc := "()Ljava/lang/String;" } : Jvm.MethodName)) ∈ lw_all := lw_g (lw_at lw_m4 137 rfl) rfl
theorem q971 : (Jvm.Cond.selects "java/lang/StringBuilder" ({ cls := "java/lang/StringBuilder", name := "toString", desc := "()Ljava/lang/String;" } : Jvm.MethodName) ({ cls := "java/lang/StringBuilder", name := "toString", desc := "()Ljava/lang/String;" } : Jvm.MethodName)) ∈ lw_all := lw_g (lw_at lw_m4 138 rfl) rfl
theorem q972 : (Jvm.Cond.code ({ cls := "java/lang/StringBuilder", name := "toString", desc := "()Ljava/lang/String;" } : Jvm.MethodName) prog_34_method_42_code (1 : Nat) (Option.some (Jvm.ClassFile.FieldType.object "java/lang/String"))) ∈ lw_all := lw_g (lw_at lw_m4 139 rfl) rfl
theorem q973 : (Jvm.Cond.classLink "java/lang/StringBuilder" (18 : Nat) "java/lang/String") ∈ lw_all := lw_g (lw_at lw_m4 140 rfl) rfl
theorem q975 : (Jvm.Cond.methodLink "java/lang/StringBuilder" (137 : Nat) ({ cls := "java/lang/String", name := "<init>", desc := "(Ljava/lang/StringBuilder;)V" } : Jvm.MethodName)) ∈ lw_all := lw_g (lw_at lw_m4 142 rfl) rfl
theorem q985 : (Jvm.Cond.selects "java/lang/StringBuilder" ({ cls := "java/lang/AbstractStringBuilder", name := "getValue", desc := "()[B" } : Jvm.MethodName) ({ cls := "java/lang/AbstractStringBuilder", name := "getValue", desc := "()[B" } : Jvm.MethodName)) ∈ lw_all := lw_g (lw_at lw_m4 152 rfl) rfl
theorem q1604 : (Jvm.Cond.instanceMethod ({ cls := "java/lang/StringBuilder", name := "charAt", desc := "(I)C" } : Jvm.MethodName)) ∈ lw_all := lw_g (lw_at lw_m7 51 rfl) rfl
theorem q1605 : (Jvm.Cond.selects "java/lang/StringBuilder" ({ cls := "java/lang/StringBuilder", name := "charAt", desc := "(I)C" } : Jvm.MethodName) ({ cls := "java/lang/StringBuilder", name := "charAt", desc := "(I)C" } : Jvm.MethodName)) ∈ lw_all := lw_g (lw_at lw_m7 52 rfl) rfl
theorem q1606 : (Jvm.Cond.code ({ cls := "java/lang/StringBuilder", name := "charAt", desc := "(I)C" } : Jvm.MethodName) prog_34_method_88_code (2 : Nat) (Option.some Jvm.ClassFile.FieldType.char)) ∈ lw_all := lw_g (lw_at lw_m7 53 rfl) rfl
theorem q1607 : (Jvm.Cond.methodLink "java/lang/StringBuilder" (329 : Nat) ({ cls := "java/lang/AbstractStringBuilder", name := "charAt", desc := "(I)C" } : Jvm.MethodName)) ∈ lw_all := lw_g (lw_at lw_m7 54 rfl) rfl
theorem q1769 : (Jvm.Cond.instanceMethod ({ cls := "java/lang/StringBuilder", name := "setLength", desc := "(I)V" } : Jvm.MethodName)) ∈ lw_all := lw_g (lw_at lw_m7 216 rfl) rfl
theorem q1770 : (Jvm.Cond.selects "java/lang/StringBuilder" ({ cls := "java/lang/StringBuilder", name := "setLength", desc := "(I)V" } : Jvm.MethodName) ({ cls := "java/lang/StringBuilder", name := "setLength", desc := "(I)V" } : Jvm.MethodName)) ∈ lw_all := lw_g (lw_at lw_m7 217 rfl) rfl
theorem q1771 : (Jvm.Cond.code ({ cls := "java/lang/StringBuilder", name := "setLength", desc := "(I)V" } : Jvm.MethodName) prog_34_method_89_code (2 : Nat) (Option.none : Option Jvm.ClassFile.FieldType)) ∈ lw_all := lw_g (lw_at lw_m7 218 rfl) rfl
theorem q1772 : (Jvm.Cond.methodLink "java/lang/StringBuilder" (333 : Nat) ({ cls := "java/lang/AbstractStringBuilder", name := "setLength", desc := "(I)V" } : Jvm.MethodName)) ∈ lw_all := lw_g (lw_at lw_m7 219 rfl) rfl
theorem q2767 : (Jvm.Cond.selects "java/lang/StringBuilder" ({ cls := "java/lang/AbstractStringBuilder", name := "length", desc := "()I" } : Jvm.MethodName) ({ cls := "java/lang/StringBuilder", name := "length", desc := "()I" } : Jvm.MethodName)) ∈ lw_all := lw_g (lw_at lw_m12 14 rfl) rfl
theorem q2787 : (Jvm.Cond.castable "java/lang/StringBuilder" "java/lang/Object") ∈ lw_tbl := lw_at lw_m12 34 rfl
theorem in_J10 : ∀ w ∈ wsJ100, w ∈ lw_all := lw_in wsJ100 [465, 467, 469, 471] (by decide +kernel) (by decide +kernel)

/-! java/lang/String -/
set_option maxRecDepth 100000
def RJ11 : String := "java/lang/String"
def TJ11 : u_T := fun k => match k with
  | 0 => ("java/lang/String", "value", "[B", true)
  | 1 => ("java/lang/String", "coder", "B", true)
  | 2 => ("java/lang/String", "hash", "I", false)
  | _ => ("java/lang/String", "hashIsZero", "Z", false)
def tyJ11 : Nat → FieldType := fun k => match k with
  | 0 => .array .byte
  | 1 => .byte
  | 2 => .int
  | _ => .boolean
abbrev wsJ110 : List Cond := u_ws RJ11 TJ11 4
theorem nmJ11 : ∀ a, a < 4 → ∀ b, b < 4 → a ≠ b → (TJ11 a).2.1 ≠ (TJ11 b).2.1 := by decide +kernel
theorem tyJ11_ok : ∀ k, k < 4 → parseFieldDescriptor (TJ11 k).2.2.1 = some (tyJ11 k) := by decide +kernel
abbrev cJ11_checkBoundsOffCount : ByteArray := prog_33_method_157_code
def yJ11_checkBoundsOffCount : MethodName := ⟨RJ11, "checkBoundsOffCount", "(III)I"⟩
def dkwJ11_checkBoundsOffCount_0 : List UInt8 := [26, 27, 28, 178, 4, 29, 184, 4, 41, 172]
abbrev dktJ11_checkBoundsOffCount_0 : List UInt8 := dkwJ11_checkBoundsOffCount_0 ++ []
theorem dksJ11_checkBoundsOffCount_0 : cJ11_checkBoundsOffCount.data.toList.drop 0 = dktJ11_checkBoundsOffCount_0 := by decide +kernel
theorem dJ11_checkBoundsOffCount_0 : decode cJ11_checkBoundsOffCount 0 = .ok (.iload_n 0, 1) := dk_26 (dk_at dksJ11_checkBoundsOffCount_0 0 rfl rfl)
theorem dJ11_checkBoundsOffCount_1 : decode cJ11_checkBoundsOffCount 1 = .ok (.iload_n 1, 1) := dk_27 (dk_at dksJ11_checkBoundsOffCount_0 1 rfl rfl)
theorem dJ11_checkBoundsOffCount_2 : decode cJ11_checkBoundsOffCount 2 = .ok (.iload_n 2, 1) := dk_28 (dk_at dksJ11_checkBoundsOffCount_0 2 rfl rfl)
theorem dJ11_checkBoundsOffCount_3 : decode cJ11_checkBoundsOffCount 3 = .ok (.getstatic 1053, 3) := dk_178 4 29 (dk_at dksJ11_checkBoundsOffCount_0 3 rfl rfl)
theorem dJ11_checkBoundsOffCount_6 : decode cJ11_checkBoundsOffCount 6 = .ok (.invokestatic 1065, 3) := dk_184 4 41 (dk_at dksJ11_checkBoundsOffCount_0 6 rfl rfl)
theorem dJ11_checkBoundsOffCount_9 : decode cJ11_checkBoundsOffCount 9 = .ok (.ireturn, 1) := dk_172 (dk_at dksJ11_checkBoundsOffCount_0 9 rfl rfl)
abbrev cJ11_checkIndex : ByteArray := prog_33_method_155_code
def yJ11_checkIndex : MethodName := ⟨RJ11, "checkIndex", "(II)V"⟩
def dkwJ11_checkIndex_0 : List UInt8 := [26, 27, 178, 4, 29, 184, 4, 35, 87, 177]
abbrev dktJ11_checkIndex_0 : List UInt8 := dkwJ11_checkIndex_0 ++ []
theorem dksJ11_checkIndex_0 : cJ11_checkIndex.data.toList.drop 0 = dktJ11_checkIndex_0 := by decide +kernel
theorem dJ11_checkIndex_0 : decode cJ11_checkIndex 0 = .ok (.iload_n 0, 1) := dk_26 (dk_at dksJ11_checkIndex_0 0 rfl rfl)
theorem dJ11_checkIndex_1 : decode cJ11_checkIndex 1 = .ok (.iload_n 1, 1) := dk_27 (dk_at dksJ11_checkIndex_0 1 rfl rfl)
theorem dJ11_checkIndex_2 : decode cJ11_checkIndex 2 = .ok (.getstatic 1053, 3) := dk_178 4 29 (dk_at dksJ11_checkIndex_0 2 rfl rfl)
theorem dJ11_checkIndex_5 : decode cJ11_checkIndex 5 = .ok (.invokestatic 1059, 3) := dk_184 4 35 (dk_at dksJ11_checkIndex_0 5 rfl rfl)
theorem dJ11_checkIndex_8 : decode cJ11_checkIndex 8 = .ok (.pop, 1) := dk_87 (dk_at dksJ11_checkIndex_0 8 rfl rfl)
theorem dJ11_checkIndex_9 : decode cJ11_checkIndex 9 = .ok (.return_, 1) := dk_177 (dk_at dksJ11_checkIndex_0 9 rfl rfl)
abbrev cJ11_checkBoundsBeginEnd : ByteArray := prog_33_method_158_code
def yJ11_checkBoundsBeginEnd : MethodName := ⟨RJ11, "checkBoundsBeginEnd", "(III)V"⟩
def dkwJ11_checkBoundsBeginEnd_0 : List UInt8 := [26, 27, 28, 178, 4, 29, 184, 4, 38, 87, 177]
abbrev dktJ11_checkBoundsBeginEnd_0 : List UInt8 := dkwJ11_checkBoundsBeginEnd_0 ++ []
theorem dksJ11_checkBoundsBeginEnd_0 : cJ11_checkBoundsBeginEnd.data.toList.drop 0 = dktJ11_checkBoundsBeginEnd_0 := by decide +kernel
theorem dJ11_checkBoundsBeginEnd_0 : decode cJ11_checkBoundsBeginEnd 0 = .ok (.iload_n 0, 1) := dk_26 (dk_at dksJ11_checkBoundsBeginEnd_0 0 rfl rfl)
theorem dJ11_checkBoundsBeginEnd_1 : decode cJ11_checkBoundsBeginEnd 1 = .ok (.iload_n 1, 1) := dk_27 (dk_at dksJ11_checkBoundsBeginEnd_0 1 rfl rfl)
theorem dJ11_checkBoundsBeginEnd_2 : decode cJ11_checkBoundsBeginEnd 2 = .ok (.iload_n 2, 1) := dk_28 (dk_at dksJ11_checkBoundsBeginEnd_0 2 rfl rfl)
theorem dJ11_checkBoundsBeginEnd_3 : decode cJ11_checkBoundsBeginEnd 3 = .ok (.getstatic 1053, 3) := dk_178 4 29 (dk_at dksJ11_checkBoundsBeginEnd_0 3 rfl rfl)
theorem dJ11_checkBoundsBeginEnd_6 : decode cJ11_checkBoundsBeginEnd 6 = .ok (.invokestatic 1062, 3) := dk_184 4 38 (dk_at dksJ11_checkBoundsBeginEnd_0 6 rfl rfl)
theorem dJ11_checkBoundsBeginEnd_9 : decode cJ11_checkBoundsBeginEnd 9 = .ok (.pop, 1) := dk_87 (dk_at dksJ11_checkBoundsBeginEnd_0 9 rfl rfl)
theorem dJ11_checkBoundsBeginEnd_10 : decode cJ11_checkBoundsBeginEnd 10 = .ok (.return_, 1) := dk_177 (dk_at dksJ11_checkBoundsBeginEnd_0 10 rfl rfl)
abbrev cJ11_length : ByteArray := prog_33_method_54_code
def yJ11_length : MethodName := ⟨RJ11, "length", "()I"⟩
def dkwJ11_length_0 : List UInt8 := [42, 180, 0, 9, 190, 42, 182, 1, 79, 122, 172]
abbrev dktJ11_length_0 : List UInt8 := dkwJ11_length_0 ++ []
theorem dksJ11_length_0 : cJ11_length.data.toList.drop 0 = dktJ11_length_0 := by decide +kernel
theorem dJ11_length_0 : decode cJ11_length 0 = .ok (.aload_n 0, 1) := dk_42 (dk_at dksJ11_length_0 0 rfl rfl)
theorem dJ11_length_1 : decode cJ11_length 1 = .ok (.getfield 9, 3) := dk_180 0 9 (dk_at dksJ11_length_0 1 rfl rfl)
theorem dJ11_length_4 : decode cJ11_length 4 = .ok (.arraylength, 1) := dk_190 (dk_at dksJ11_length_0 4 rfl rfl)
theorem dJ11_length_5 : decode cJ11_length 5 = .ok (.aload_n 0, 1) := dk_42 (dk_at dksJ11_length_0 5 rfl rfl)
theorem dJ11_length_6 : decode cJ11_length 6 = .ok (.invokevirtual 335, 3) := dk_182 1 79 (dk_at dksJ11_length_0 6 rfl rfl)
theorem dJ11_length_9 : decode cJ11_length 9 = .ok (.ishr, 1) := dk_122 (dk_at dksJ11_length_0 9 rfl rfl)
theorem dJ11_length_10 : decode cJ11_length 10 = .ok (.ireturn, 1) := dk_172 (dk_at dksJ11_length_0 10 rfl rfl)
abbrev cJ11_coder : ByteArray := prog_33_method_152_code
def yJ11_coder : MethodName := ⟨RJ11, "coder", "()B"⟩
def dkwJ11_coder_0 : List UInt8 := [178, 0, 38, 153, 0, 10, 42, 180, 0, 15, 167, 0, 4, 4, 172]
abbrev dktJ11_coder_0 : List UInt8 := dkwJ11_coder_0 ++ []
theorem dksJ11_coder_0 : cJ11_coder.data.toList.drop 0 = dktJ11_coder_0 := by decide +kernel
theorem dJ11_coder_0 : decode cJ11_coder 0 = .ok (.getstatic 38, 3) := dk_178 0 38 (dk_at dksJ11_coder_0 0 rfl rfl)
theorem dJ11_coder_3 : decode cJ11_coder 3 = .ok (.ifCond .eq 10, 3) := dk_153 0 10 (dk_at dksJ11_coder_0 3 rfl rfl)
theorem dJ11_coder_6 : decode cJ11_coder 6 = .ok (.aload_n 0, 1) := dk_42 (dk_at dksJ11_coder_0 6 rfl rfl)
theorem dJ11_coder_7 : decode cJ11_coder 7 = .ok (.getfield 15, 3) := dk_180 0 15 (dk_at dksJ11_coder_0 7 rfl rfl)
theorem dJ11_coder_10 : decode cJ11_coder 10 = .ok (.goto 4, 3) := dk_167 0 4 (dk_at dksJ11_coder_0 10 rfl rfl)
theorem dJ11_coder_13 : decode cJ11_coder 13 = .ok (.iconst 1, 1) := dk_4 (dk_at dksJ11_coder_0 13 rfl rfl)
theorem dJ11_coder_14 : decode cJ11_coder 14 = .ok (.ireturn, 1) := dk_172 (dk_at dksJ11_coder_0 14 rfl rfl)
abbrev cJ11_getBytes : ByteArray := prog_33_method_147_code
def yJ11_getBytes : MethodName := ⟨RJ11, "getBytes", "([BIB)V"⟩
def dkwJ11_getBytes_1 : List UInt8 := [184, 0, 212, 167, 0, 18, 42, 180, 0, 9, 3, 43, 28, 42, 180, 0, 9, 190, 184, 0, 106, 177]
abbrev dktJ11_getBytes_1 : List UInt8 := dkwJ11_getBytes_1 ++ []
def dkwJ11_getBytes_0 : List UInt8 := [42, 182, 1, 79, 29, 160, 0, 23, 42, 180, 0, 9, 3, 43, 28, 29, 120, 42, 180, 0, 9, 190]
abbrev dktJ11_getBytes_0 : List UInt8 := dkwJ11_getBytes_0 ++ dktJ11_getBytes_1
theorem dksJ11_getBytes_0 : cJ11_getBytes.data.toList.drop 0 = dktJ11_getBytes_0 := by decide +kernel
theorem dksJ11_getBytes_1 : cJ11_getBytes.data.toList.drop 22 = dktJ11_getBytes_1 := dk_seg dksJ11_getBytes_0 22 rfl rfl
theorem dJ11_getBytes_0 : decode cJ11_getBytes 0 = .ok (.aload_n 0, 1) := dk_42 (dk_at dksJ11_getBytes_0 0 rfl rfl)
theorem dJ11_getBytes_1 : decode cJ11_getBytes 1 = .ok (.invokevirtual 335, 3) := dk_182 1 79 (dk_at dksJ11_getBytes_0 1 rfl rfl)
theorem dJ11_getBytes_4 : decode cJ11_getBytes 4 = .ok (.iload_n 3, 1) := dk_29 (dk_at dksJ11_getBytes_0 4 rfl rfl)
theorem dJ11_getBytes_5 : decode cJ11_getBytes 5 = .ok (.if_icmp .ne 23, 3) := dk_160 0 23 (dk_at dksJ11_getBytes_0 5 rfl rfl)
theorem dJ11_getBytes_8 : decode cJ11_getBytes 8 = .ok (.aload_n 0, 1) := dk_42 (dk_at dksJ11_getBytes_0 8 rfl rfl)
theorem dJ11_getBytes_9 : decode cJ11_getBytes 9 = .ok (.getfield 9, 3) := dk_180 0 9 (dk_at dksJ11_getBytes_0 9 rfl rfl)
theorem dJ11_getBytes_12 : decode cJ11_getBytes 12 = .ok (.iconst 0, 1) := dk_3 (dk_at dksJ11_getBytes_0 12 rfl rfl)
theorem dJ11_getBytes_13 : decode cJ11_getBytes 13 = .ok (.aload_n 1, 1) := dk_43 (dk_at dksJ11_getBytes_0 13 rfl rfl)
theorem dJ11_getBytes_14 : decode cJ11_getBytes 14 = .ok (.iload_n 2, 1) := dk_28 (dk_at dksJ11_getBytes_0 14 rfl rfl)
theorem dJ11_getBytes_15 : decode cJ11_getBytes 15 = .ok (.iload_n 3, 1) := dk_29 (dk_at dksJ11_getBytes_0 15 rfl rfl)
theorem dJ11_getBytes_16 : decode cJ11_getBytes 16 = .ok (.ishl, 1) := dk_120 (dk_at dksJ11_getBytes_0 16 rfl rfl)
theorem dJ11_getBytes_17 : decode cJ11_getBytes 17 = .ok (.aload_n 0, 1) := dk_42 (dk_at dksJ11_getBytes_0 17 rfl rfl)
theorem dJ11_getBytes_18 : decode cJ11_getBytes 18 = .ok (.getfield 9, 3) := dk_180 0 9 (dk_at dksJ11_getBytes_0 18 rfl rfl)
theorem dJ11_getBytes_21 : decode cJ11_getBytes 21 = .ok (.arraylength, 1) := dk_190 (dk_at dksJ11_getBytes_0 21 rfl rfl)
theorem dJ11_getBytes_22 : decode cJ11_getBytes 22 = .ok (.invokestatic 212, 3) := dk_184 0 212 (dk_at dksJ11_getBytes_1 0 rfl rfl)
theorem dJ11_getBytes_25 : decode cJ11_getBytes 25 = .ok (.goto 18, 3) := dk_167 0 18 (dk_at dksJ11_getBytes_1 3 rfl rfl)
theorem dJ11_getBytes_28 : decode cJ11_getBytes 28 = .ok (.aload_n 0, 1) := dk_42 (dk_at dksJ11_getBytes_1 6 rfl rfl)
theorem dJ11_getBytes_29 : decode cJ11_getBytes 29 = .ok (.getfield 9, 3) := dk_180 0 9 (dk_at dksJ11_getBytes_1 7 rfl rfl)
theorem dJ11_getBytes_32 : decode cJ11_getBytes 32 = .ok (.iconst 0, 1) := dk_3 (dk_at dksJ11_getBytes_1 10 rfl rfl)
theorem dJ11_getBytes_33 : decode cJ11_getBytes 33 = .ok (.aload_n 1, 1) := dk_43 (dk_at dksJ11_getBytes_1 11 rfl rfl)
theorem dJ11_getBytes_34 : decode cJ11_getBytes 34 = .ok (.iload_n 2, 1) := dk_28 (dk_at dksJ11_getBytes_1 12 rfl rfl)
theorem dJ11_getBytes_35 : decode cJ11_getBytes 35 = .ok (.aload_n 0, 1) := dk_42 (dk_at dksJ11_getBytes_1 13 rfl rfl)
theorem dJ11_getBytes_36 : decode cJ11_getBytes 36 = .ok (.getfield 9, 3) := dk_180 0 9 (dk_at dksJ11_getBytes_1 14 rfl rfl)
theorem dJ11_getBytes_39 : decode cJ11_getBytes 39 = .ok (.arraylength, 1) := dk_190 (dk_at dksJ11_getBytes_1 17 rfl rfl)
theorem dJ11_getBytes_40 : decode cJ11_getBytes 40 = .ok (.invokestatic 106, 3) := dk_184 0 106 (dk_at dksJ11_getBytes_1 18 rfl rfl)
theorem dJ11_getBytes_43 : decode cJ11_getBytes 43 = .ok (.return_, 1) := dk_177 (dk_at dksJ11_getBytes_1 21 rfl rfl)
abbrev cJ11_init : ByteArray := prog_33_method_53_code
def yJ11_init : MethodName := ⟨RJ11, "<init>", "(Ljava/lang/StringBuilder;)V"⟩
def dkwJ11_init_0 : List UInt8 := [42, 43, 1, 183, 1, 233, 177]
abbrev dktJ11_init_0 : List UInt8 := dkwJ11_init_0 ++ []
theorem dksJ11_init_0 : cJ11_init.data.toList.drop 0 = dktJ11_init_0 := by decide +kernel
theorem dJ11_init_0 : decode cJ11_init 0 = .ok (.aload_n 0, 1) := dk_42 (dk_at dksJ11_init_0 0 rfl rfl)
theorem dJ11_init_1 : decode cJ11_init 1 = .ok (.aload_n 1, 1) := dk_43 (dk_at dksJ11_init_0 1 rfl rfl)
theorem dJ11_init_2 : decode cJ11_init 2 = .ok (.aconst_null, 1) := dk_1 (dk_at dksJ11_init_0 2 rfl rfl)
theorem dJ11_init_3 : decode cJ11_init 3 = .ok (.invokespecial 489, 3) := dk_183 1 233 (dk_at dksJ11_init_0 3 rfl rfl)
theorem dJ11_init_6 : decode cJ11_init 6 = .ok (.return_, 1) := dk_177 (dk_at dksJ11_init_0 6 rfl rfl)
abbrev cJ11_init_2 : ByteArray := prog_33_method_150_code
def yJ11_init_2 : MethodName := ⟨RJ11, "<init>", "(Ljava/lang/AbstractStringBuilder;Ljava/lang/Void;)V"⟩
def dkwJ11_init_2_4 : List UInt8 := [181, 0, 9, 177]
abbrev dktJ11_init_2_4 : List UInt8 := dkwJ11_init_2_4 ++ []
def dkwJ11_init_2_3 : List UInt8 := [184, 0, 47, 181, 0, 15, 177, 42, 4, 181, 0, 15, 42, 45, 3, 21, 4, 4, 120, 184, 0, 54]
abbrev dktJ11_init_2_3 : List UInt8 := dkwJ11_init_2_3 ++ dktJ11_init_2_4
def dkwJ11_init_2_2 : List UInt8 := [180, 4, 24, 153, 0, 28, 42, 45, 3, 21, 4, 184, 4, 27, 181, 0, 9, 42, 42, 180, 0, 9, 21, 4]
abbrev dktJ11_init_2_2 : List UInt8 := dkwJ11_init_2_2 ++ dktJ11_init_2_3
def dkwJ11_init_2_1 : List UInt8 := [181, 0, 15, 42, 45, 3, 21, 4, 184, 0, 54, 181, 0, 9, 167, 0, 59, 178, 0, 38, 153, 0, 35, 43]
abbrev dktJ11_init_2_1 : List UInt8 := dkwJ11_init_2_1 ++ dktJ11_init_2_2
def dkwJ11_init_2_0 : List UInt8 := [42, 183, 0, 1, 43, 182, 2, 40, 78, 43, 182, 2, 37, 54, 4, 43, 182, 4, 23, 153, 0, 22, 42, 3]
abbrev dktJ11_init_2_0 : List UInt8 := dkwJ11_init_2_0 ++ dktJ11_init_2_1
theorem dksJ11_init_2_0 : cJ11_init_2.data.toList.drop 0 = dktJ11_init_2_0 := by decide +kernel
theorem dksJ11_init_2_1 : cJ11_init_2.data.toList.drop 24 = dktJ11_init_2_1 := dk_seg dksJ11_init_2_0 24 rfl rfl
theorem dksJ11_init_2_2 : cJ11_init_2.data.toList.drop 48 = dktJ11_init_2_2 := dk_seg dksJ11_init_2_1 24 rfl rfl
theorem dksJ11_init_2_3 : cJ11_init_2.data.toList.drop 72 = dktJ11_init_2_3 := dk_seg dksJ11_init_2_2 24 rfl rfl
theorem dksJ11_init_2_4 : cJ11_init_2.data.toList.drop 94 = dktJ11_init_2_4 := dk_seg dksJ11_init_2_3 22 rfl rfl
theorem dJ11_init_2_0 : decode cJ11_init_2 0 = .ok (.aload_n 0, 1) := dk_42 (dk_at dksJ11_init_2_0 0 rfl rfl)
theorem dJ11_init_2_1 : decode cJ11_init_2 1 = .ok (.invokespecial 1, 3) := dk_183 0 1 (dk_at dksJ11_init_2_0 1 rfl rfl)
theorem dJ11_init_2_4 : decode cJ11_init_2 4 = .ok (.aload_n 1, 1) := dk_43 (dk_at dksJ11_init_2_0 4 rfl rfl)
theorem dJ11_init_2_5 : decode cJ11_init_2 5 = .ok (.invokevirtual 552, 3) := dk_182 2 40 (dk_at dksJ11_init_2_0 5 rfl rfl)
theorem dJ11_init_2_8 : decode cJ11_init_2 8 = .ok (.astore_n 3, 1) := dk_78 (dk_at dksJ11_init_2_0 8 rfl rfl)
theorem dJ11_init_2_9 : decode cJ11_init_2 9 = .ok (.aload_n 1, 1) := dk_43 (dk_at dksJ11_init_2_0 9 rfl rfl)
theorem dJ11_init_2_10 : decode cJ11_init_2 10 = .ok (.invokevirtual 549, 3) := dk_182 2 37 (dk_at dksJ11_init_2_0 10 rfl rfl)
theorem dJ11_init_2_13 : decode cJ11_init_2 13 = .ok (.istore 4, 2) := dk_54 4 (dk_at dksJ11_init_2_0 13 rfl rfl)
theorem dJ11_init_2_15 : decode cJ11_init_2 15 = .ok (.aload_n 1, 1) := dk_43 (dk_at dksJ11_init_2_0 15 rfl rfl)
theorem dJ11_init_2_16 : decode cJ11_init_2 16 = .ok (.invokevirtual 1047, 3) := dk_182 4 23 (dk_at dksJ11_init_2_0 16 rfl rfl)
theorem dJ11_init_2_19 : decode cJ11_init_2 19 = .ok (.ifCond .eq 22, 3) := dk_153 0 22 (dk_at dksJ11_init_2_0 19 rfl rfl)
theorem dJ11_init_2_22 : decode cJ11_init_2 22 = .ok (.aload_n 0, 1) := dk_42 (dk_at dksJ11_init_2_0 22 rfl rfl)
theorem dJ11_init_2_23 : decode cJ11_init_2 23 = .ok (.iconst 0, 1) := dk_3 (dk_at dksJ11_init_2_0 23 rfl rfl)
theorem dJ11_init_2_24 : decode cJ11_init_2 24 = .ok (.putfield 15, 3) := dk_181 0 15 (dk_at dksJ11_init_2_1 0 rfl rfl)
theorem dJ11_init_2_27 : decode cJ11_init_2 27 = .ok (.aload_n 0, 1) := dk_42 (dk_at dksJ11_init_2_1 3 rfl rfl)
theorem dJ11_init_2_28 : decode cJ11_init_2 28 = .ok (.aload_n 3, 1) := dk_45 (dk_at dksJ11_init_2_1 4 rfl rfl)
theorem dJ11_init_2_29 : decode cJ11_init_2 29 = .ok (.iconst 0, 1) := dk_3 (dk_at dksJ11_init_2_1 5 rfl rfl)
theorem dJ11_init_2_30 : decode cJ11_init_2 30 = .ok (.iload 4, 2) := dk_21 4 (dk_at dksJ11_init_2_1 6 rfl rfl)
theorem dJ11_init_2_32 : decode cJ11_init_2 32 = .ok (.invokestatic 54, 3) := dk_184 0 54 (dk_at dksJ11_init_2_1 8 rfl rfl)
theorem dJ11_init_2_35 : decode cJ11_init_2 35 = .ok (.putfield 9, 3) := dk_181 0 9 (dk_at dksJ11_init_2_1 11 rfl rfl)
theorem dJ11_init_2_38 : decode cJ11_init_2 38 = .ok (.goto 59, 3) := dk_167 0 59 (dk_at dksJ11_init_2_1 14 rfl rfl)
theorem dJ11_init_2_41 : decode cJ11_init_2 41 = .ok (.getstatic 38, 3) := dk_178 0 38 (dk_at dksJ11_init_2_1 17 rfl rfl)
theorem dJ11_init_2_44 : decode cJ11_init_2 44 = .ok (.ifCond .eq 35, 3) := dk_153 0 35 (dk_at dksJ11_init_2_1 20 rfl rfl)
theorem dJ11_init_2_47 : decode cJ11_init_2 47 = .ok (.aload_n 1, 1) := dk_43 (dk_at dksJ11_init_2_1 23 rfl rfl)
theorem dJ11_init_2_48 : decode cJ11_init_2 48 = .ok (.getfield 1048, 3) := dk_180 4 24 (dk_at dksJ11_init_2_2 0 rfl rfl)
theorem dJ11_init_2_51 : decode cJ11_init_2 51 = .ok (.ifCond .eq 28, 3) := dk_153 0 28 (dk_at dksJ11_init_2_2 3 rfl rfl)
theorem dJ11_init_2_54 : decode cJ11_init_2 54 = .ok (.aload_n 0, 1) := dk_42 (dk_at dksJ11_init_2_2 6 rfl rfl)
theorem dJ11_init_2_55 : decode cJ11_init_2 55 = .ok (.aload_n 3, 1) := dk_45 (dk_at dksJ11_init_2_2 7 rfl rfl)
theorem dJ11_init_2_56 : decode cJ11_init_2 56 = .ok (.iconst 0, 1) := dk_3 (dk_at dksJ11_init_2_2 8 rfl rfl)
theorem dJ11_init_2_57 : decode cJ11_init_2 57 = .ok (.iload 4, 2) := dk_21 4 (dk_at dksJ11_init_2_2 9 rfl rfl)
theorem dJ11_init_2_59 : decode cJ11_init_2 59 = .ok (.invokestatic 1051, 3) := dk_184 4 27 (dk_at dksJ11_init_2_2 11 rfl rfl)
theorem dJ11_init_2_62 : decode cJ11_init_2 62 = .ok (.putfield 9, 3) := dk_181 0 9 (dk_at dksJ11_init_2_2 14 rfl rfl)
theorem dJ11_init_2_65 : decode cJ11_init_2 65 = .ok (.aload_n 0, 1) := dk_42 (dk_at dksJ11_init_2_2 17 rfl rfl)
theorem dJ11_init_2_66 : decode cJ11_init_2 66 = .ok (.aload_n 0, 1) := dk_42 (dk_at dksJ11_init_2_2 18 rfl rfl)
theorem dJ11_init_2_67 : decode cJ11_init_2 67 = .ok (.getfield 9, 3) := dk_180 0 9 (dk_at dksJ11_init_2_2 19 rfl rfl)
theorem dJ11_init_2_70 : decode cJ11_init_2 70 = .ok (.iload 4, 2) := dk_21 4 (dk_at dksJ11_init_2_2 22 rfl rfl)
theorem dJ11_init_2_72 : decode cJ11_init_2 72 = .ok (.invokestatic 47, 3) := dk_184 0 47 (dk_at dksJ11_init_2_3 0 rfl rfl)
theorem dJ11_init_2_75 : decode cJ11_init_2 75 = .ok (.putfield 15, 3) := dk_181 0 15 (dk_at dksJ11_init_2_3 3 rfl rfl)
theorem dJ11_init_2_78 : decode cJ11_init_2 78 = .ok (.return_, 1) := dk_177 (dk_at dksJ11_init_2_3 6 rfl rfl)
theorem dJ11_init_2_79 : decode cJ11_init_2 79 = .ok (.aload_n 0, 1) := dk_42 (dk_at dksJ11_init_2_3 7 rfl rfl)
theorem dJ11_init_2_80 : decode cJ11_init_2 80 = .ok (.iconst 1, 1) := dk_4 (dk_at dksJ11_init_2_3 8 rfl rfl)
theorem dJ11_init_2_81 : decode cJ11_init_2 81 = .ok (.putfield 15, 3) := dk_181 0 15 (dk_at dksJ11_init_2_3 9 rfl rfl)
theorem dJ11_init_2_84 : decode cJ11_init_2 84 = .ok (.aload_n 0, 1) := dk_42 (dk_at dksJ11_init_2_3 12 rfl rfl)
theorem dJ11_init_2_85 : decode cJ11_init_2 85 = .ok (.aload_n 3, 1) := dk_45 (dk_at dksJ11_init_2_3 13 rfl rfl)
theorem dJ11_init_2_86 : decode cJ11_init_2 86 = .ok (.iconst 0, 1) := dk_3 (dk_at dksJ11_init_2_3 14 rfl rfl)
theorem dJ11_init_2_87 : decode cJ11_init_2 87 = .ok (.iload 4, 2) := dk_21 4 (dk_at dksJ11_init_2_3 15 rfl rfl)
theorem dJ11_init_2_89 : decode cJ11_init_2 89 = .ok (.iconst 1, 1) := dk_4 (dk_at dksJ11_init_2_3 17 rfl rfl)
theorem dJ11_init_2_90 : decode cJ11_init_2 90 = .ok (.ishl, 1) := dk_120 (dk_at dksJ11_init_2_3 18 rfl rfl)
theorem dJ11_init_2_91 : decode cJ11_init_2 91 = .ok (.invokestatic 54, 3) := dk_184 0 54 (dk_at dksJ11_init_2_3 19 rfl rfl)
theorem dJ11_init_2_94 : decode cJ11_init_2 94 = .ok (.putfield 9, 3) := dk_181 0 9 (dk_at dksJ11_init_2_4 0 rfl rfl)
theorem dJ11_init_2_97 : decode cJ11_init_2 97 = .ok (.return_, 1) := dk_177 (dk_at dksJ11_init_2_4 3 rfl rfl)
abbrev cJ11_charAt : ByteArray := prog_33_method_56_code
def yJ11_charAt : MethodName := ⟨RJ11, "charAt", "(I)C"⟩
def dkwJ11_charAt_1 : List UInt8 := [172]
abbrev dktJ11_charAt_1 : List UInt8 := dkwJ11_charAt_1 ++ []
def dkwJ11_charAt_0 : List UInt8 := [42, 182, 1, 236, 153, 0, 12, 42, 180, 0, 9, 27, 184, 1, 239, 172, 42, 180, 0, 9, 27, 184, 1, 242]
abbrev dktJ11_charAt_0 : List UInt8 := dkwJ11_charAt_0 ++ dktJ11_charAt_1
theorem dksJ11_charAt_0 : cJ11_charAt.data.toList.drop 0 = dktJ11_charAt_0 := by decide +kernel
theorem dksJ11_charAt_1 : cJ11_charAt.data.toList.drop 24 = dktJ11_charAt_1 := dk_seg dksJ11_charAt_0 24 rfl rfl
theorem dJ11_charAt_0 : decode cJ11_charAt 0 = .ok (.aload_n 0, 1) := dk_42 (dk_at dksJ11_charAt_0 0 rfl rfl)
theorem dJ11_charAt_1 : decode cJ11_charAt 1 = .ok (.invokevirtual 492, 3) := dk_182 1 236 (dk_at dksJ11_charAt_0 1 rfl rfl)
theorem dJ11_charAt_4 : decode cJ11_charAt 4 = .ok (.ifCond .eq 12, 3) := dk_153 0 12 (dk_at dksJ11_charAt_0 4 rfl rfl)
theorem dJ11_charAt_7 : decode cJ11_charAt 7 = .ok (.aload_n 0, 1) := dk_42 (dk_at dksJ11_charAt_0 7 rfl rfl)
theorem dJ11_charAt_8 : decode cJ11_charAt 8 = .ok (.getfield 9, 3) := dk_180 0 9 (dk_at dksJ11_charAt_0 8 rfl rfl)
theorem dJ11_charAt_11 : decode cJ11_charAt 11 = .ok (.iload_n 1, 1) := dk_27 (dk_at dksJ11_charAt_0 11 rfl rfl)
theorem dJ11_charAt_12 : decode cJ11_charAt 12 = .ok (.invokestatic 495, 3) := dk_184 1 239 (dk_at dksJ11_charAt_0 12 rfl rfl)
theorem dJ11_charAt_15 : decode cJ11_charAt 15 = .ok (.ireturn, 1) := dk_172 (dk_at dksJ11_charAt_0 15 rfl rfl)
theorem dJ11_charAt_16 : decode cJ11_charAt 16 = .ok (.aload_n 0, 1) := dk_42 (dk_at dksJ11_charAt_0 16 rfl rfl)
theorem dJ11_charAt_17 : decode cJ11_charAt 17 = .ok (.getfield 9, 3) := dk_180 0 9 (dk_at dksJ11_charAt_0 17 rfl rfl)
theorem dJ11_charAt_20 : decode cJ11_charAt 20 = .ok (.iload_n 1, 1) := dk_27 (dk_at dksJ11_charAt_0 20 rfl rfl)
theorem dJ11_charAt_21 : decode cJ11_charAt 21 = .ok (.invokestatic 498, 3) := dk_184 1 242 (dk_at dksJ11_charAt_0 21 rfl rfl)
theorem dJ11_charAt_24 : decode cJ11_charAt 24 = .ok (.ireturn, 1) := dk_172 (dk_at dksJ11_charAt_1 0 rfl rfl)
abbrev cJ11_isLatin1 : ByteArray := prog_33_method_154_code
def yJ11_isLatin1 : MethodName := ⟨RJ11, "isLatin1", "()Z"⟩
def dkwJ11_isLatin1_0 : List UInt8 := [178, 0, 38, 153, 0, 14, 42, 180, 0, 15, 154, 0, 7, 4, 167, 0, 4, 3, 172]
abbrev dktJ11_isLatin1_0 : List UInt8 := dkwJ11_isLatin1_0 ++ []
theorem dksJ11_isLatin1_0 : cJ11_isLatin1.data.toList.drop 0 = dktJ11_isLatin1_0 := by decide +kernel
theorem dJ11_isLatin1_0 : decode cJ11_isLatin1 0 = .ok (.getstatic 38, 3) := dk_178 0 38 (dk_at dksJ11_isLatin1_0 0 rfl rfl)
theorem dJ11_isLatin1_3 : decode cJ11_isLatin1 3 = .ok (.ifCond .eq 14, 3) := dk_153 0 14 (dk_at dksJ11_isLatin1_0 3 rfl rfl)
theorem dJ11_isLatin1_6 : decode cJ11_isLatin1 6 = .ok (.aload_n 0, 1) := dk_42 (dk_at dksJ11_isLatin1_0 6 rfl rfl)
theorem dJ11_isLatin1_7 : decode cJ11_isLatin1 7 = .ok (.getfield 15, 3) := dk_180 0 15 (dk_at dksJ11_isLatin1_0 7 rfl rfl)
theorem dJ11_isLatin1_10 : decode cJ11_isLatin1 10 = .ok (.ifCond .ne 7, 3) := dk_154 0 7 (dk_at dksJ11_isLatin1_0 10 rfl rfl)
theorem dJ11_isLatin1_13 : decode cJ11_isLatin1 13 = .ok (.iconst 1, 1) := dk_4 (dk_at dksJ11_isLatin1_0 13 rfl rfl)
theorem dJ11_isLatin1_14 : decode cJ11_isLatin1 14 = .ok (.goto 4, 3) := dk_167 0 4 (dk_at dksJ11_isLatin1_0 14 rfl rfl)
theorem dJ11_isLatin1_17 : decode cJ11_isLatin1 17 = .ok (.iconst 0, 1) := dk_3 (dk_at dksJ11_isLatin1_0 17 rfl rfl)
theorem dJ11_isLatin1_18 : decode cJ11_isLatin1 18 = .ok (.ireturn, 1) := dk_172 (dk_at dksJ11_isLatin1_0 18 rfl rfl)
abbrev cJ11_hashCode : ByteArray := prog_33_method_78_code
def yJ11_hashCode : MethodName := ⟨RJ11, "hashCode", "()I"⟩
def dkwJ11_hashCode_2 : List UInt8 := [181, 0, 23, 167, 0, 8, 42, 27, 181, 0, 19, 27, 172]
abbrev dktJ11_hashCode_2 : List UInt8 := dkwJ11_hashCode_2 ++ []
def dkwJ11_hashCode_1 : List UInt8 := [180, 0, 9, 184, 2, 116, 167, 0, 10, 42, 180, 0, 9, 184, 2, 120, 60, 27, 154, 0, 11, 42, 4]
abbrev dktJ11_hashCode_1 : List UInt8 := dkwJ11_hashCode_1 ++ dktJ11_hashCode_2
def dkwJ11_hashCode_0 : List UInt8 := [42, 180, 0, 19, 60, 27, 154, 0, 52, 42, 180, 0, 23, 154, 0, 45, 42, 182, 1, 236, 153, 0, 13, 42]
abbrev dktJ11_hashCode_0 : List UInt8 := dkwJ11_hashCode_0 ++ dktJ11_hashCode_1
theorem dksJ11_hashCode_0 : cJ11_hashCode.data.toList.drop 0 = dktJ11_hashCode_0 := by decide +kernel
theorem dksJ11_hashCode_1 : cJ11_hashCode.data.toList.drop 24 = dktJ11_hashCode_1 := dk_seg dksJ11_hashCode_0 24 rfl rfl
theorem dksJ11_hashCode_2 : cJ11_hashCode.data.toList.drop 47 = dktJ11_hashCode_2 := dk_seg dksJ11_hashCode_1 23 rfl rfl
theorem dJ11_hashCode_0 : decode cJ11_hashCode 0 = .ok (.aload_n 0, 1) := dk_42 (dk_at dksJ11_hashCode_0 0 rfl rfl)
theorem dJ11_hashCode_1 : decode cJ11_hashCode 1 = .ok (.getfield 19, 3) := dk_180 0 19 (dk_at dksJ11_hashCode_0 1 rfl rfl)
theorem dJ11_hashCode_4 : decode cJ11_hashCode 4 = .ok (.istore_n 1, 1) := dk_60 (dk_at dksJ11_hashCode_0 4 rfl rfl)
theorem dJ11_hashCode_5 : decode cJ11_hashCode 5 = .ok (.iload_n 1, 1) := dk_27 (dk_at dksJ11_hashCode_0 5 rfl rfl)
theorem dJ11_hashCode_6 : decode cJ11_hashCode 6 = .ok (.ifCond .ne 52, 3) := dk_154 0 52 (dk_at dksJ11_hashCode_0 6 rfl rfl)
theorem dJ11_hashCode_9 : decode cJ11_hashCode 9 = .ok (.aload_n 0, 1) := dk_42 (dk_at dksJ11_hashCode_0 9 rfl rfl)
theorem dJ11_hashCode_10 : decode cJ11_hashCode 10 = .ok (.getfield 23, 3) := dk_180 0 23 (dk_at dksJ11_hashCode_0 10 rfl rfl)
theorem dJ11_hashCode_13 : decode cJ11_hashCode 13 = .ok (.ifCond .ne 45, 3) := dk_154 0 45 (dk_at dksJ11_hashCode_0 13 rfl rfl)
theorem dJ11_hashCode_16 : decode cJ11_hashCode 16 = .ok (.aload_n 0, 1) := dk_42 (dk_at dksJ11_hashCode_0 16 rfl rfl)
theorem dJ11_hashCode_17 : decode cJ11_hashCode 17 = .ok (.invokevirtual 492, 3) := dk_182 1 236 (dk_at dksJ11_hashCode_0 17 rfl rfl)
theorem dJ11_hashCode_20 : decode cJ11_hashCode 20 = .ok (.ifCond .eq 13, 3) := dk_153 0 13 (dk_at dksJ11_hashCode_0 20 rfl rfl)
theorem dJ11_hashCode_23 : decode cJ11_hashCode 23 = .ok (.aload_n 0, 1) := dk_42 (dk_at dksJ11_hashCode_0 23 rfl rfl)
theorem dJ11_hashCode_24 : decode cJ11_hashCode 24 = .ok (.getfield 9, 3) := dk_180 0 9 (dk_at dksJ11_hashCode_1 0 rfl rfl)
theorem dJ11_hashCode_27 : decode cJ11_hashCode 27 = .ok (.invokestatic 628, 3) := dk_184 2 116 (dk_at dksJ11_hashCode_1 3 rfl rfl)
theorem dJ11_hashCode_30 : decode cJ11_hashCode 30 = .ok (.goto 10, 3) := dk_167 0 10 (dk_at dksJ11_hashCode_1 6 rfl rfl)
theorem dJ11_hashCode_33 : decode cJ11_hashCode 33 = .ok (.aload_n 0, 1) := dk_42 (dk_at dksJ11_hashCode_1 9 rfl rfl)
theorem dJ11_hashCode_34 : decode cJ11_hashCode 34 = .ok (.getfield 9, 3) := dk_180 0 9 (dk_at dksJ11_hashCode_1 10 rfl rfl)
theorem dJ11_hashCode_37 : decode cJ11_hashCode 37 = .ok (.invokestatic 632, 3) := dk_184 2 120 (dk_at dksJ11_hashCode_1 13 rfl rfl)
theorem dJ11_hashCode_40 : decode cJ11_hashCode 40 = .ok (.istore_n 1, 1) := dk_60 (dk_at dksJ11_hashCode_1 16 rfl rfl)
theorem dJ11_hashCode_41 : decode cJ11_hashCode 41 = .ok (.iload_n 1, 1) := dk_27 (dk_at dksJ11_hashCode_1 17 rfl rfl)
theorem dJ11_hashCode_42 : decode cJ11_hashCode 42 = .ok (.ifCond .ne 11, 3) := dk_154 0 11 (dk_at dksJ11_hashCode_1 18 rfl rfl)
theorem dJ11_hashCode_45 : decode cJ11_hashCode 45 = .ok (.aload_n 0, 1) := dk_42 (dk_at dksJ11_hashCode_1 21 rfl rfl)
theorem dJ11_hashCode_46 : decode cJ11_hashCode 46 = .ok (.iconst 1, 1) := dk_4 (dk_at dksJ11_hashCode_1 22 rfl rfl)
theorem dJ11_hashCode_47 : decode cJ11_hashCode 47 = .ok (.putfield 23, 3) := dk_181 0 23 (dk_at dksJ11_hashCode_2 0 rfl rfl)
theorem dJ11_hashCode_50 : decode cJ11_hashCode 50 = .ok (.goto 8, 3) := dk_167 0 8 (dk_at dksJ11_hashCode_2 3 rfl rfl)
theorem dJ11_hashCode_53 : decode cJ11_hashCode 53 = .ok (.aload_n 0, 1) := dk_42 (dk_at dksJ11_hashCode_2 6 rfl rfl)
theorem dJ11_hashCode_54 : decode cJ11_hashCode 54 = .ok (.iload_n 1, 1) := dk_27 (dk_at dksJ11_hashCode_2 7 rfl rfl)
theorem dJ11_hashCode_55 : decode cJ11_hashCode 55 = .ok (.putfield 19, 3) := dk_181 0 19 (dk_at dksJ11_hashCode_2 8 rfl rfl)
theorem dJ11_hashCode_58 : decode cJ11_hashCode 58 = .ok (.iload_n 1, 1) := dk_27 (dk_at dksJ11_hashCode_2 11 rfl rfl)
theorem dJ11_hashCode_59 : decode cJ11_hashCode 59 = .ok (.ireturn, 1) := dk_172 (dk_at dksJ11_hashCode_2 12 rfl rfl)
abbrev cJ11_equals : ByteArray := prog_33_method_66_code
def yJ11_equals : MethodName := ⟨RJ11, "equals", "(Ljava/lang/Object;)Z"⟩
def dkwJ11_equals_2 : List UInt8 := [184, 2, 29, 153, 0, 7, 4, 167, 0, 4, 3, 172]
abbrev dktJ11_equals_2 : List UInt8 := dkwJ11_equals_2 ++ []
def dkwJ11_equals_1 : List UInt8 := [153, 0, 14, 42, 180, 0, 15, 44, 180, 0, 15, 160, 0, 21, 42, 180, 0, 9, 44, 180, 0, 9]
abbrev dktJ11_equals_1 : List UInt8 := dkwJ11_equals_1 ++ dktJ11_equals_2
def dkwJ11_equals_0 : List UInt8 := [42, 43, 166, 0, 5, 4, 172, 43, 193, 0, 10, 153, 0, 43, 43, 192, 0, 10, 77, 178, 0, 38]
abbrev dktJ11_equals_0 : List UInt8 := dkwJ11_equals_0 ++ dktJ11_equals_1
theorem dksJ11_equals_0 : cJ11_equals.data.toList.drop 0 = dktJ11_equals_0 := by decide +kernel
theorem dksJ11_equals_1 : cJ11_equals.data.toList.drop 22 = dktJ11_equals_1 := dk_seg dksJ11_equals_0 22 rfl rfl
theorem dksJ11_equals_2 : cJ11_equals.data.toList.drop 44 = dktJ11_equals_2 := dk_seg dksJ11_equals_1 22 rfl rfl
theorem dJ11_equals_0 : decode cJ11_equals 0 = .ok (.aload_n 0, 1) := dk_42 (dk_at dksJ11_equals_0 0 rfl rfl)
theorem dJ11_equals_1 : decode cJ11_equals 1 = .ok (.aload_n 1, 1) := dk_43 (dk_at dksJ11_equals_0 1 rfl rfl)
theorem dJ11_equals_2 : decode cJ11_equals 2 = .ok (.if_acmp .ne 5, 3) := dk_166 0 5 (dk_at dksJ11_equals_0 2 rfl rfl)
theorem dJ11_equals_5 : decode cJ11_equals 5 = .ok (.iconst 1, 1) := dk_4 (dk_at dksJ11_equals_0 5 rfl rfl)
theorem dJ11_equals_6 : decode cJ11_equals 6 = .ok (.ireturn, 1) := dk_172 (dk_at dksJ11_equals_0 6 rfl rfl)
theorem dJ11_equals_7 : decode cJ11_equals 7 = .ok (.aload_n 1, 1) := dk_43 (dk_at dksJ11_equals_0 7 rfl rfl)
theorem dJ11_equals_8 : decode cJ11_equals 8 = .ok (.instanceof 10, 3) := dk_193 0 10 (dk_at dksJ11_equals_0 8 rfl rfl)
theorem dJ11_equals_11 : decode cJ11_equals 11 = .ok (.ifCond .eq 43, 3) := dk_153 0 43 (dk_at dksJ11_equals_0 11 rfl rfl)
theorem dJ11_equals_14 : decode cJ11_equals 14 = .ok (.aload_n 1, 1) := dk_43 (dk_at dksJ11_equals_0 14 rfl rfl)
theorem dJ11_equals_15 : decode cJ11_equals 15 = .ok (.checkcast 10, 3) := dk_192 0 10 (dk_at dksJ11_equals_0 15 rfl rfl)
theorem dJ11_equals_18 : decode cJ11_equals 18 = .ok (.astore_n 2, 1) := dk_77 (dk_at dksJ11_equals_0 18 rfl rfl)
theorem dJ11_equals_19 : decode cJ11_equals 19 = .ok (.getstatic 38, 3) := dk_178 0 38 (dk_at dksJ11_equals_0 19 rfl rfl)
theorem dJ11_equals_22 : decode cJ11_equals 22 = .ok (.ifCond .eq 14, 3) := dk_153 0 14 (dk_at dksJ11_equals_1 0 rfl rfl)
theorem dJ11_equals_25 : decode cJ11_equals 25 = .ok (.aload_n 0, 1) := dk_42 (dk_at dksJ11_equals_1 3 rfl rfl)
theorem dJ11_equals_26 : decode cJ11_equals 26 = .ok (.getfield 15, 3) := dk_180 0 15 (dk_at dksJ11_equals_1 4 rfl rfl)
theorem dJ11_equals_29 : decode cJ11_equals 29 = .ok (.aload_n 2, 1) := dk_44 (dk_at dksJ11_equals_1 7 rfl rfl)
theorem dJ11_equals_30 : decode cJ11_equals 30 = .ok (.getfield 15, 3) := dk_180 0 15 (dk_at dksJ11_equals_1 8 rfl rfl)
theorem dJ11_equals_33 : decode cJ11_equals 33 = .ok (.if_icmp .ne 21, 3) := dk_160 0 21 (dk_at dksJ11_equals_1 11 rfl rfl)
theorem dJ11_equals_36 : decode cJ11_equals 36 = .ok (.aload_n 0, 1) := dk_42 (dk_at dksJ11_equals_1 14 rfl rfl)
theorem dJ11_equals_37 : decode cJ11_equals 37 = .ok (.getfield 9, 3) := dk_180 0 9 (dk_at dksJ11_equals_1 15 rfl rfl)
theorem dJ11_equals_40 : decode cJ11_equals 40 = .ok (.aload_n 2, 1) := dk_44 (dk_at dksJ11_equals_1 18 rfl rfl)
theorem dJ11_equals_41 : decode cJ11_equals 41 = .ok (.getfield 9, 3) := dk_180 0 9 (dk_at dksJ11_equals_1 19 rfl rfl)
theorem dJ11_equals_44 : decode cJ11_equals 44 = .ok (.invokestatic 541, 3) := dk_184 2 29 (dk_at dksJ11_equals_2 0 rfl rfl)
theorem dJ11_equals_47 : decode cJ11_equals 47 = .ok (.ifCond .eq 7, 3) := dk_153 0 7 (dk_at dksJ11_equals_2 3 rfl rfl)
theorem dJ11_equals_50 : decode cJ11_equals 50 = .ok (.iconst 1, 1) := dk_4 (dk_at dksJ11_equals_2 6 rfl rfl)
theorem dJ11_equals_51 : decode cJ11_equals 51 = .ok (.goto 4, 3) := dk_167 0 4 (dk_at dksJ11_equals_2 7 rfl rfl)
theorem dJ11_equals_54 : decode cJ11_equals 54 = .ok (.iconst 0, 1) := dk_3 (dk_at dksJ11_equals_2 10 rfl rfl)
theorem dJ11_equals_55 : decode cJ11_equals 55 = .ok (.ireturn, 1) := dk_172 (dk_at dksJ11_equals_2 11 rfl rfl)
theorem q133 : (Jvm.Cond.initialized "java/lang/String") ∈ lw_all := lw_g (lw_at lw_m1 20 rfl) rfl
theorem q232 : (Jvm.Cond.selects "java/lang/String" ({ cls := "java/lang/Object", name := "getClass", desc := "()Ljava/lang/Class;" } : Jvm.MethodName) ({ cls := "java/lang/Object", name := "getClass", desc := "()Ljava/lang/Class;" } : Jvm.MethodName)) ∈ lw_all := lw_g (lw_at lw_m1 119 rfl) rfl
theorem q452 : (Jvm.Cond.laysStatic "java/lang/String" "COMPACT_STRINGS" "Z") ∈ lw_tbl := lw_at lw_m2 99 rfl
theorem q463 : (Jvm.Cond.fieldLink "java/lang/String" (1048 : Nat) "java/lang/AbstractStringBuilder" "maybeLatin1" "Z") ∈ lw_all := lw_g (lw_at lw_m2 110 rfl) rfl
theorem q779 : (Jvm.Cond.static ({ cls := "java/lang/String", name := "checkBoundsOffCount", desc := "(III)I" } : Jvm.MethodName)) ∈ lw_all := lw_g (lw_at lw_m3 186 rfl) rfl
theorem q780 : (Jvm.Cond.code ({ cls := "java/lang/String", name := "checkBoundsOffCount", desc := "(III)I" } : Jvm.MethodName) prog_33_method_157_code (3 : Nat) (Option.some Jvm.ClassFile.FieldType.int)) ∈ lw_all := lw_g (lw_at lw_m3 187 rfl) rfl
theorem q781 : (Jvm.Cond.fieldLink "java/lang/String" (1053 : Nat) "jdk/internal/util/Preconditions" "SIOOBE_FORMATTER" "Ljava/util/function/BiFunction;") ∈ lw_all := lw_g (lw_at lw_m3 188 rfl) rfl
theorem q783 : (Jvm.Cond.methodLink "java/lang/String" (1065 : Nat) ({ cls := "jdk/internal/util/Preconditions", name := "checkFromIndexSize", desc := "(IIILjava/util/function/BiFunction;)I" } : Jvm.MethodName)) ∈ lw_all := lw_g (lw_at lw_m3 190 rfl) rfl
theorem q802 : (Jvm.Cond.static ({ cls := "java/lang/String", name := "checkIndex", desc := "(II)V" } : Jvm.MethodName)) ∈ lw_all := lw_g (lw_at lw_m3 209 rfl) rfl
theorem q803 : (Jvm.Cond.code ({ cls := "java/lang/String", name := "checkIndex", desc := "(II)V" } : Jvm.MethodName) prog_33_method_155_code (2 : Nat) (Option.none : Option Jvm.ClassFile.FieldType)) ∈ lw_all := lw_g (lw_at lw_m3 210 rfl) rfl
theorem q804 : (Jvm.Cond.methodLink "java/lang/String" (1059 : Nat) ({ cls := "jdk/internal/util/Preconditions", name := "checkIndex", desc := "(IILjava/util/function/BiFunction;)I" } : Jvm.MethodName)) ∈ lw_all := lw_g (lw_at lw_m3 211 rfl) rfl
theorem q905 : (Jvm.Cond.static ({ cls := "java/lang/String", name := "checkBoundsBeginEnd", desc := "(III)V" } : Jvm.MethodName)) ∈ lw_all := lw_g (lw_at lw_m4 72 rfl) rfl
theorem q906 : (Jvm.Cond.code ({ cls := "java/lang/String", name := "checkBoundsBeginEnd", desc := "(III)V" } : Jvm.MethodName) prog_33_method_158_code (3 : Nat) (Option.none : Option Jvm.ClassFile.FieldType)) ∈ lw_all := lw_g (lw_at lw_m4 73 rfl) rfl
theorem q907 : (Jvm.Cond.methodLink "java/lang/String" (1062 : Nat) ({ cls := "jdk/internal/util/Preconditions", name := "checkFromToIndex", desc := "(IIILjava/util/function/BiFunction;)I" } : Jvm.MethodName)) ∈ lw_all := lw_g (lw_at lw_m4 74 rfl) rfl
theorem q911 : (Jvm.Cond.instanceMethod ({ cls := "java/lang/String", name := "length", desc := "()I" } : Jvm.MethodName)) ∈ lw_all := lw_g (lw_at lw_m4 78 rfl) rfl
theorem q912 : (Jvm.Cond.selects "java/lang/String" ({ cls := "java/lang/String", name := "length", desc := "()I" } : Jvm.MethodName) ({ cls := "java/lang/String", name := "length", desc := "()I" } : Jvm.MethodName)) ∈ lw_all := lw_g (lw_at lw_m4 79 rfl) rfl
theorem q913 : (Jvm.Cond.code ({ cls := "java/lang/String", name := "length", desc := "()I" } : Jvm.MethodName) prog_33_method_54_code (1 : Nat) (Option.some Jvm.ClassFile.FieldType.int)) ∈ lw_all := lw_g (lw_at lw_m4 80 rfl) rfl
theorem q914 : (Jvm.Cond.methodLink "java/lang/String" (335 : Nat) ({ cls := "java/lang/String", name := "coder", desc := "()B" } : Jvm.MethodName)) ∈ lw_all := lw_g (lw_at lw_m4 81 rfl) rfl
theorem q915 : (Jvm.Cond.instanceMethod ({ cls := "java/lang/String", name := "coder", desc := "()B" } : Jvm.MethodName)) ∈ lw_all := lw_g (lw_at lw_m4 82 rfl) rfl
theorem q916 : (Jvm.Cond.selects "java/lang/String" ({ cls := "java/lang/String", name := "coder", desc := "()B" } : Jvm.MethodName) ({ cls := "java/lang/String", name := "coder", desc := "()B" } : Jvm.MethodName)) ∈ lw_all := lw_g (lw_at lw_m4 83 rfl) rfl
theorem q917 : (Jvm.Cond.code ({ cls := "java/lang/String", name := "coder", desc := "()B" } : Jvm.MethodName) prog_33_method_152_code (1 : Nat) (Option.some Jvm.ClassFile.FieldType.byte)) ∈ lw_all := lw_g (lw_at lw_m4 84 rfl) rfl
theorem q918 : (Jvm.Cond.fieldLink "java/lang/String" (38 : Nat) "java/lang/String" "COMPACT_STRINGS" "Z") ∈ lw_all := lw_g (lw_at lw_m4 85 rfl) rfl
theorem q929 : (Jvm.Cond.instanceMethod ({ cls := "java/lang/String", name := "getBytes", desc := "([BIB)V" } : Jvm.MethodName)) ∈ lw_all := lw_g (lw_at lw_m4 96 rfl) rfl
theorem q930 : (Jvm.Cond.selects "java/lang/String" ({ cls := "java/lang/String", name := "getBytes", desc := "([BIB)V" } : Jvm.MethodName) ({ cls := "java/lang/String", name := "getBytes", desc := "([BIB)V" } : Jvm.MethodName)) ∈ lw_all := lw_g (lw_at lw_m4 97 rfl) rfl
theorem q931 : (Jvm.Cond.code ({ cls := "java/lang/String", name := "getBytes", desc := "([BIB)V" } : Jvm.MethodName) prog_33_method_147_code (4 : Nat) (Option.none : Option Jvm.ClassFile.FieldType)) ∈ lw_all := lw_g (lw_at lw_m4 98 rfl) rfl
theorem q932 : (Jvm.Cond.methodLink "java/lang/String" (212 : Nat) ({ cls := "java/lang/System", name := "arraycopy", desc := "(Ljava/lang/Object;ILjava/lang/Object;II)V" } : Jvm.MethodName)) ∈ lw_all := lw_g (lw_at lw_m4 99 rfl) rfl
theorem q933 : (Jvm.Cond.methodLink "java/lang/String" (106 : Nat) ({ cls := "java/lang/StringLatin1", name := "inflate", desc := "([BI[BII)V" } : Jvm.MethodName)) ∈ lw_all := lw_g (lw_at lw_m4 100 rfl) rfl
theorem q974 : (Jvm.Cond.instantiable "java/lang/String" (4 : Nat)) ∈ lw_all := lw_g (lw_at lw_m4 141 rfl) rfl
theorem q976 : (Jvm.Cond.instanceMethod ({ cls := "java/lang/String", name := "<init>", desc := "(Ljava/lang/StringBuilder;)V" } : Jvm.MethodName)) ∈ lw_all := lw_g (lw_at lw_m4 143 rfl) rfl
theorem q977 : (Jvm.Cond.code ({ cls := "java/lang/String", name := "<init>", desc := "(Ljava/lang/StringBuilder;)V" } : Jvm.MethodName) prog_33_method_53_code (2 : Nat) (Option.none : Option Jvm.ClassFile.FieldType)) ∈ lw_all := lw_g (lw_at lw_m4 144 rfl) rfl
theorem q978 : (Jvm.Cond.methodLink "java/lang/String" (489 : Nat) ({ cls := "java/lang/String", name := "<init>", desc := "(Ljava/lang/AbstractStringBuilder;Ljava/lang/Void;)V" } : Jvm.MethodName)) ∈ lw_all := lw_g (lw_at lw_m4 145 rfl) rfl
theorem q979 : (Jvm.Cond.instanceMethod ({ cls := "java/lang/String", name := "<init>", desc := "(Ljava/lang/AbstractStringBuilder;Ljava/lang/Void;)V" } : Jvm.MethodName)) ∈ lw_all := lw_g (lw_at lw_m4 146 rfl) rfl
theorem q980 : (Jvm.Cond.code ({ cls := "java/lang/String", name := "<init>", desc := "(Ljava/lang/AbstractStringBuilder;Ljava/lang/Void;)V" } : Jvm.MethodName) prog_33_method_150_code (5 : Nat) (Option.none : Option Jvm.ClassFile.FieldType)) ∈ lw_all := lw_g (lw_at lw_m4 147 rfl) rfl
theorem q981 : (Jvm.Cond.methodLink "java/lang/String" (1 : Nat) ({ cls := "java/lang/Object", name := "<init>", desc := "()V" } : Jvm.MethodName)) ∈ lw_all := lw_g (lw_at lw_m4 148 rfl) rfl
theorem q982 : (Jvm.Cond.methodLink "java/lang/String" (552 : Nat) ({ cls := "java/lang/AbstractStringBuilder", name := "getValue", desc := "()[B" } : Jvm.MethodName)) ∈ lw_all := lw_g (lw_at lw_m4 149 rfl) rfl
theorem q987 : (Jvm.Cond.methodLink "java/lang/String" (549 : Nat) ({ cls := "java/lang/AbstractStringBuilder", name := "length", desc := "()I" } : Jvm.MethodName)) ∈ lw_all := lw_g (lw_at lw_m4 154 rfl) rfl
theorem q988 : (Jvm.Cond.methodLink "java/lang/String" (1047 : Nat) ({ cls := "java/lang/AbstractStringBuilder", name := "isLatin1", desc := "()Z" } : Jvm.MethodName)) ∈ lw_all := lw_g (lw_at lw_m4 155 rfl) rfl
theorem q989 : (Jvm.Cond.methodLink "java/lang/String" (54 : Nat) ({ cls := "java/util/Arrays", name := "copyOfRange", desc := "([BII)[B" } : Jvm.MethodName)) ∈ lw_all := lw_g (lw_at lw_m4 156 rfl) rfl
theorem q1017 : (Jvm.Cond.methodLink "java/lang/String" (1051 : Nat) ({ cls := "java/lang/StringUTF16", name := "compress", desc := "([BII)[B" } : Jvm.MethodName)) ∈ lw_all := lw_g (lw_at lw_m4 184 rfl) rfl
theorem q1027 : (Jvm.Cond.methodLink "java/lang/String" (47 : Nat) ({ cls := "java/lang/StringUTF16", name := "coderFromArrayLen", desc := "([BI)B" } : Jvm.MethodName)) ∈ lw_all := lw_g (lw_at lw_m4 194 rfl) rfl
theorem q1030 : (Jvm.Cond.fieldLink "java/lang/String" (9 : Nat) "java/lang/String" "value" "[B") ∈ lw_all := lw_g (lw_at lw_m4 197 rfl) rfl
theorem q1031 : (Jvm.Cond.fieldLink "java/lang/String" (15 : Nat) "java/lang/String" "coder" "B") ∈ lw_all := lw_g (lw_at lw_m4 198 rfl) rfl
theorem q1032 : (Jvm.Cond.fieldLink "java/lang/String" (19 : Nat) "java/lang/String" "hash" "I") ∈ lw_all := lw_g (lw_at lw_m4 199 rfl) rfl
theorem q1033 : (Jvm.Cond.fieldLink "java/lang/String" (23 : Nat) "java/lang/String" "hashIsZero" "Z") ∈ lw_all := lw_g (lw_at lw_m4 200 rfl) rfl
theorem q1034 : (Jvm.Cond.laysFinal "java/lang/String" "java/lang/String" "value" "[B") ∈ lw_all := lw_g (lw_at lw_m4 201 rfl) rfl
theorem q1035 : (Jvm.Cond.soleField "java/lang/String" "value") ∈ lw_all := lw_g (lw_at lw_m4 202 rfl) rfl
theorem q1036 : (Jvm.Cond.laysFinal "java/lang/String" "java/lang/String" "coder" "B") ∈ lw_all := lw_g (lw_at lw_m4 203 rfl) rfl
theorem q1037 : (Jvm.Cond.soleField "java/lang/String" "coder") ∈ lw_all := lw_g (lw_at lw_m4 204 rfl) rfl
theorem q1038 : (Jvm.Cond.lays "java/lang/String" "java/lang/String" "hash" "I") ∈ lw_all := lw_g (lw_at lw_m4 205 rfl) rfl
theorem q1039 : (Jvm.Cond.soleField "java/lang/String" "hash") ∈ lw_all := lw_g (lw_at lw_m4 206 rfl) rfl
theorem q1040 : (Jvm.Cond.lays "java/lang/String" "java/lang/String" "hashIsZero" "Z") ∈ lw_all := lw_g (lw_at lw_m4 207 rfl) rfl
theorem q1041 : (Jvm.Cond.soleField "java/lang/String" "hashIsZero") ∈ lw_all := lw_g (lw_at lw_m4 208 rfl) rfl
theorem q1042 : (Jvm.Cond.superclass "java/lang/String" "java/lang/Object") ∈ lw_all := lw_g (lw_at lw_m4 209 rfl) rfl
theorem q1614 : (Jvm.Cond.instanceMethod ({ cls := "java/lang/String", name := "charAt", desc := "(I)C" } : Jvm.MethodName)) ∈ lw_all := lw_g (lw_at lw_m7 61 rfl) rfl
theorem q1615 : (Jvm.Cond.selects "java/lang/String" ({ cls := "java/lang/String", name := "charAt", desc := "(I)C" } : Jvm.MethodName) ({ cls := "java/lang/String", name := "charAt", desc := "(I)C" } : Jvm.MethodName)) ∈ lw_all := lw_g (lw_at lw_m7 62 rfl) rfl
theorem q1616 : (Jvm.Cond.code ({ cls := "java/lang/String", name := "charAt", desc := "(I)C" } : Jvm.MethodName) prog_33_method_56_code (2 : Nat) (Option.some Jvm.ClassFile.FieldType.char)) ∈ lw_all := lw_g (lw_at lw_m7 63 rfl) rfl
theorem q1617 : (Jvm.Cond.methodLink "java/lang/String" (492 : Nat) ({ cls := "java/lang/String", name := "isLatin1", desc := "()Z" } : Jvm.MethodName)) ∈ lw_all := lw_g (lw_at lw_m7 64 rfl) rfl
theorem q1618 : (Jvm.Cond.instanceMethod ({ cls := "java/lang/String", name := "isLatin1", desc := "()Z" } : Jvm.MethodName)) ∈ lw_all := lw_g (lw_at lw_m7 65 rfl) rfl
theorem q1619 : (Jvm.Cond.selects "java/lang/String" ({ cls := "java/lang/String", name := "isLatin1", desc := "()Z" } : Jvm.MethodName) ({ cls := "java/lang/String", name := "isLatin1", desc := "()Z" } : Jvm.MethodName)) ∈ lw_all := lw_g (lw_at lw_m7 66 rfl) rfl
theorem q1620 : (Jvm.Cond.code ({ cls := "java/lang/String", name := "isLatin1", desc := "()Z" } : Jvm.MethodName) prog_33_method_154_code (1 : Nat) (Option.some Jvm.ClassFile.FieldType.boolean)) ∈ lw_all := lw_g (lw_at lw_m7 67 rfl) rfl
theorem q1621 : (Jvm.Cond.methodLink "java/lang/String" (495 : Nat) ({ cls := "java/lang/StringLatin1", name := "charAt", desc := "([BI)C" } : Jvm.MethodName)) ∈ lw_all := lw_g (lw_at lw_m7 68 rfl) rfl
theorem q1625 : (Jvm.Cond.methodLink "java/lang/String" (498 : Nat) ({ cls := "java/lang/StringUTF16", name := "charAt", desc := "([BI)C" } : Jvm.MethodName)) ∈ lw_all := lw_g (lw_at lw_m7 72 rfl) rfl
theorem q1644 : (Jvm.Cond.instanceMethod ({ cls := "java/lang/String", name := "hashCode", desc := "()I" } : Jvm.MethodName)) ∈ lw_all := lw_g (lw_at lw_m7 91 rfl) rfl
theorem q1645 : (Jvm.Cond.selects "java/lang/String" ({ cls := "java/lang/String", name := "hashCode", desc := "()I" } : Jvm.MethodName) ({ cls := "java/lang/String", name := "hashCode", desc := "()I" } : Jvm.MethodName)) ∈ lw_all := lw_g (lw_at lw_m7 92 rfl) rfl
theorem q1646 : (Jvm.Cond.code ({ cls := "java/lang/String", name := "hashCode", desc := "()I" } : Jvm.MethodName) prog_33_method_78_code (2 : Nat) (Option.some Jvm.ClassFile.FieldType.int)) ∈ lw_all := lw_g (lw_at lw_m7 93 rfl) rfl
theorem q1647 : (Jvm.Cond.methodLink "java/lang/String" (628 : Nat) ({ cls := "java/lang/StringLatin1", name := "hashCode", desc := "([B)I" } : Jvm.MethodName)) ∈ lw_all := lw_g (lw_at lw_m7 94 rfl) rfl
theorem q1696 : (Jvm.Cond.methodLink "java/lang/String" (632 : Nat) ({ cls := "java/lang/StringUTF16", name := "hashCode", desc := "([B)I" } : Jvm.MethodName)) ∈ lw_all := lw_g (lw_at lw_m7 143 rfl) rfl
theorem q1701 : (Jvm.Cond.instanceMethod ({ cls := "java/lang/String", name := "equals", desc := "(Ljava/lang/Object;)Z" } : Jvm.MethodName)) ∈ lw_all := lw_g (lw_at lw_m7 148 rfl) rfl
theorem q1702 : (Jvm.Cond.selects "java/lang/String" ({ cls := "java/lang/String", name := "equals", desc := "(Ljava/lang/Object;)Z" } : Jvm.MethodName) ({ cls := "java/lang/String", name := "equals", desc := "(Ljava/lang/Object;)Z" } : Jvm.MethodName)) ∈ lw_all := lw_g (lw_at lw_m7 149 rfl) rfl
theorem q1703 : (Jvm.Cond.code ({ cls := "java/lang/String", name := "equals", desc := "(Ljava/lang/Object;)Z" } : Jvm.MethodName) prog_33_method_66_code (3 : Nat) (Option.some Jvm.ClassFile.FieldType.boolean)) ∈ lw_all := lw_g (lw_at lw_m7 150 rfl) rfl
theorem q1704 : (Jvm.Cond.classLink "java/lang/String" (10 : Nat) "java/lang/String") ∈ lw_all := lw_g (lw_at lw_m7 151 rfl) rfl
theorem q1705 : (Jvm.Cond.methodLink "java/lang/String" (541 : Nat) ({ cls := "java/lang/StringLatin1", name := "equals", desc := "([B[B)Z" } : Jvm.MethodName)) ∈ lw_all := lw_g (lw_at lw_m7 152 rfl) rfl
theorem q2794 : (Jvm.Cond.castable "java/lang/String" "java/lang/Object") ∈ lw_tbl := lw_at lw_m12 41 rfl
theorem in_J11 : ∀ w ∈ wsJ110, w ∈ lw_all := lw_in wsJ110 [1034, 1036, 1038, 1040] (by decide +kernel) (by decide +kernel)

/-! java/lang/StringUTF16 -/
set_option maxRecDepth 100000
def RJ12 : String := "java/lang/StringUTF16"
abbrev cJ12_newBytesFor : ByteArray := prog_37_method_2_code
def yJ12_newBytesFor : MethodName := ⟨RJ12, "newBytesFor", "(I)[B"⟩
def dkwJ12_newBytesFor_0 : List UInt8 := [26, 184, 0, 11, 188, 8, 176]
abbrev dktJ12_newBytesFor_0 : List UInt8 := dkwJ12_newBytesFor_0 ++ []
theorem dksJ12_newBytesFor_0 : cJ12_newBytesFor.data.toList.drop 0 = dktJ12_newBytesFor_0 := by decide +kernel
theorem dJ12_newBytesFor_0 : decode cJ12_newBytesFor 0 = .ok (.iload_n 0, 1) := dk_26 (dk_at dksJ12_newBytesFor_0 0 rfl rfl)
theorem dJ12_newBytesFor_1 : decode cJ12_newBytesFor 1 = .ok (.invokestatic 11, 3) := dk_184 0 11 (dk_at dksJ12_newBytesFor_0 1 rfl rfl)
theorem dJ12_newBytesFor_4 : decode cJ12_newBytesFor 4 = .ok (.newarray .byte, 2) := dk_188_8 (dk_at dksJ12_newBytesFor_0 4 rfl rfl)
theorem dJ12_newBytesFor_6 : decode cJ12_newBytesFor 6 = .ok (.areturn, 1) := dk_176 (dk_at dksJ12_newBytesFor_0 6 rfl rfl)
abbrev cJ12_newBytesLength : ByteArray := prog_37_method_3_code
def yJ12_newBytesLength : MethodName := ⟨RJ12, "newBytesLength", "(I)I"⟩
def dkwJ12_newBytesLength_2 : List UInt8 := [182, 0, 32, 182, 0, 37, 183, 0, 41, 191, 26, 4, 120, 172]
abbrev dktJ12_newBytesLength_2 : List UInt8 := dkwJ12_newBytesLength_2 ++ []
def dkwJ12_newBytesLength_1 : List UInt8 := [187, 0, 23, 89, 183, 0, 25, 18, 26, 182, 0, 28, 26, 182, 0, 32, 18, 35, 182, 0, 28, 18, 20]
abbrev dktJ12_newBytesLength_1 : List UInt8 := dkwJ12_newBytesLength_1 ++ dktJ12_newBytesLength_2
def dkwJ12_newBytesLength_0 : List UInt8 := [26, 156, 0, 11, 187, 0, 17, 89, 183, 0, 19, 191, 26, 18, 20, 161, 0, 40, 187, 0, 21, 89]
abbrev dktJ12_newBytesLength_0 : List UInt8 := dkwJ12_newBytesLength_0 ++ dktJ12_newBytesLength_1
theorem dksJ12_newBytesLength_0 : cJ12_newBytesLength.data.toList.drop 0 = dktJ12_newBytesLength_0 := by decide +kernel
theorem dksJ12_newBytesLength_1 : cJ12_newBytesLength.data.toList.drop 22 = dktJ12_newBytesLength_1 := dk_seg dksJ12_newBytesLength_0 22 rfl rfl
theorem dksJ12_newBytesLength_2 : cJ12_newBytesLength.data.toList.drop 45 = dktJ12_newBytesLength_2 := dk_seg dksJ12_newBytesLength_1 23 rfl rfl
theorem dJ12_newBytesLength_0 : decode cJ12_newBytesLength 0 = .ok (.iload_n 0, 1) := dk_26 (dk_at dksJ12_newBytesLength_0 0 rfl rfl)
theorem dJ12_newBytesLength_1 : decode cJ12_newBytesLength 1 = .ok (.ifCond .ge 11, 3) := dk_156 0 11 (dk_at dksJ12_newBytesLength_0 1 rfl rfl)
theorem dJ12_newBytesLength_4 : decode cJ12_newBytesLength 4 = .ok (.new 17, 3) := dk_187 0 17 (dk_at dksJ12_newBytesLength_0 4 rfl rfl)
theorem dJ12_newBytesLength_7 : decode cJ12_newBytesLength 7 = .ok (.dup, 1) := dk_89 (dk_at dksJ12_newBytesLength_0 7 rfl rfl)
theorem dJ12_newBytesLength_8 : decode cJ12_newBytesLength 8 = .ok (.invokespecial 19, 3) := dk_183 0 19 (dk_at dksJ12_newBytesLength_0 8 rfl rfl)
theorem dJ12_newBytesLength_11 : decode cJ12_newBytesLength 11 = .ok (.athrow, 1) := dk_191 (dk_at dksJ12_newBytesLength_0 11 rfl rfl)
theorem dJ12_newBytesLength_12 : decode cJ12_newBytesLength 12 = .ok (.iload_n 0, 1) := dk_26 (dk_at dksJ12_newBytesLength_0 12 rfl rfl)
theorem dJ12_newBytesLength_13 : decode cJ12_newBytesLength 13 = .ok (.ldc 20, 2) := dk_18 20 (dk_at dksJ12_newBytesLength_0 13 rfl rfl)
theorem dJ12_newBytesLength_15 : decode cJ12_newBytesLength 15 = .ok (.if_icmp .lt 40, 3) := dk_161 0 40 (dk_at dksJ12_newBytesLength_0 15 rfl rfl)
theorem dJ12_newBytesLength_18 : decode cJ12_newBytesLength 18 = .ok (.new 21, 3) := dk_187 0 21 (dk_at dksJ12_newBytesLength_0 18 rfl rfl)
theorem dJ12_newBytesLength_21 : decode cJ12_newBytesLength 21 = .ok (.dup, 1) := dk_89 (dk_at dksJ12_newBytesLength_0 21 rfl rfl)
theorem dJ12_newBytesLength_22 : decode cJ12_newBytesLength 22 = .ok (.new 23, 3) := dk_187 0 23 (dk_at dksJ12_newBytesLength_1 0 rfl rfl)
theorem dJ12_newBytesLength_25 : decode cJ12_newBytesLength 25 = .ok (.dup, 1) := dk_89 (dk_at dksJ12_newBytesLength_1 3 rfl rfl)
theorem dJ12_newBytesLength_26 : decode cJ12_newBytesLength 26 = .ok (.invokespecial 25, 3) := dk_183 0 25 (dk_at dksJ12_newBytesLength_1 4 rfl rfl)
theorem dJ12_newBytesLength_29 : decode cJ12_newBytesLength 29 = .ok (.ldc 26, 2) := dk_18 26 (dk_at dksJ12_newBytesLength_1 7 rfl rfl)
theorem dJ12_newBytesLength_31 : decode cJ12_newBytesLength 31 = .ok (.invokevirtual 28, 3) := dk_182 0 28 (dk_at dksJ12_newBytesLength_1 9 rfl rfl)
theorem dJ12_newBytesLength_34 : decode cJ12_newBytesLength 34 = .ok (.iload_n 0, 1) := dk_26 (dk_at dksJ12_newBytesLength_1 12 rfl rfl)
theorem dJ12_newBytesLength_35 : decode cJ12_newBytesLength 35 = .ok (.invokevirtual 32, 3) := dk_182 0 32 (dk_at dksJ12_newBytesLength_1 13 rfl rfl)
theorem dJ12_newBytesLength_38 : decode cJ12_newBytesLength 38 = .ok (.ldc 35, 2) := dk_18 35 (dk_at dksJ12_newBytesLength_1 16 rfl rfl)
theorem dJ12_newBytesLength_40 : decode cJ12_newBytesLength 40 = .ok (.invokevirtual 28, 3) := dk_182 0 28 (dk_at dksJ12_newBytesLength_1 18 rfl rfl)
theorem dJ12_newBytesLength_43 : decode cJ12_newBytesLength 43 = .ok (.ldc 20, 2) := dk_18 20 (dk_at dksJ12_newBytesLength_1 21 rfl rfl)
theorem dJ12_newBytesLength_45 : decode cJ12_newBytesLength 45 = .ok (.invokevirtual 32, 3) := dk_182 0 32 (dk_at dksJ12_newBytesLength_2 0 rfl rfl)
theorem dJ12_newBytesLength_48 : decode cJ12_newBytesLength 48 = .ok (.invokevirtual 37, 3) := dk_182 0 37 (dk_at dksJ12_newBytesLength_2 3 rfl rfl)
theorem dJ12_newBytesLength_51 : decode cJ12_newBytesLength 51 = .ok (.invokespecial 41, 3) := dk_183 0 41 (dk_at dksJ12_newBytesLength_2 6 rfl rfl)
theorem dJ12_newBytesLength_54 : decode cJ12_newBytesLength 54 = .ok (.athrow, 1) := dk_191 (dk_at dksJ12_newBytesLength_2 9 rfl rfl)
theorem dJ12_newBytesLength_55 : decode cJ12_newBytesLength 55 = .ok (.iload_n 0, 1) := dk_26 (dk_at dksJ12_newBytesLength_2 10 rfl rfl)
theorem dJ12_newBytesLength_56 : decode cJ12_newBytesLength 56 = .ok (.iconst 1, 1) := dk_4 (dk_at dksJ12_newBytesLength_2 11 rfl rfl)
theorem dJ12_newBytesLength_57 : decode cJ12_newBytesLength 57 = .ok (.ishl, 1) := dk_120 (dk_at dksJ12_newBytesLength_2 12 rfl rfl)
theorem dJ12_newBytesLength_58 : decode cJ12_newBytesLength 58 = .ok (.ireturn, 1) := dk_172 (dk_at dksJ12_newBytesLength_2 13 rfl rfl)
abbrev cJ12_inflate : ByteArray := prog_37_method_86_code
def yJ12_inflate : MethodName := ⟨RJ12, "inflate", "([BI[BII)V"⟩
def dkwJ12_inflate_1 : List UInt8 := [132, 1, 1, 51, 17, 0, 255, 126, 184, 0, 111, 132, 5, 1, 167, 255, 228, 177]
abbrev dktJ12_inflate_1 : List UInt8 := dkwJ12_inflate_1 ++ []
def dkwJ12_inflate_0 : List UInt8 := [29, 21, 4, 44, 184, 0, 173, 3, 54, 5, 21, 5, 21, 4, 162, 0, 27, 44, 29, 132, 3, 1, 42, 27]
abbrev dktJ12_inflate_0 : List UInt8 := dkwJ12_inflate_0 ++ dktJ12_inflate_1
theorem dksJ12_inflate_0 : cJ12_inflate.data.toList.drop 0 = dktJ12_inflate_0 := by decide +kernel
theorem dksJ12_inflate_1 : cJ12_inflate.data.toList.drop 24 = dktJ12_inflate_1 := dk_seg dksJ12_inflate_0 24 rfl rfl
theorem dJ12_inflate_0 : decode cJ12_inflate 0 = .ok (.iload_n 3, 1) := dk_29 (dk_at dksJ12_inflate_0 0 rfl rfl)
theorem dJ12_inflate_1 : decode cJ12_inflate 1 = .ok (.iload 4, 2) := dk_21 4 (dk_at dksJ12_inflate_0 1 rfl rfl)
theorem dJ12_inflate_3 : decode cJ12_inflate 3 = .ok (.aload_n 2, 1) := dk_44 (dk_at dksJ12_inflate_0 3 rfl rfl)
theorem dJ12_inflate_4 : decode cJ12_inflate 4 = .ok (.invokestatic 173, 3) := dk_184 0 173 (dk_at dksJ12_inflate_0 4 rfl rfl)
theorem dJ12_inflate_7 : decode cJ12_inflate 7 = .ok (.iconst 0, 1) := dk_3 (dk_at dksJ12_inflate_0 7 rfl rfl)
theorem dJ12_inflate_8 : decode cJ12_inflate 8 = .ok (.istore 5, 2) := dk_54 5 (dk_at dksJ12_inflate_0 8 rfl rfl)
theorem dJ12_inflate_10 : decode cJ12_inflate 10 = .ok (.iload 5, 2) := dk_21 5 (dk_at dksJ12_inflate_0 10 rfl rfl)
theorem dJ12_inflate_12 : decode cJ12_inflate 12 = .ok (.iload 4, 2) := dk_21 4 (dk_at dksJ12_inflate_0 12 rfl rfl)
theorem dJ12_inflate_14 : decode cJ12_inflate 14 = .ok (.if_icmp .ge 27, 3) := dk_162 0 27 (dk_at dksJ12_inflate_0 14 rfl rfl)
theorem dJ12_inflate_17 : decode cJ12_inflate 17 = .ok (.aload_n 2, 1) := dk_44 (dk_at dksJ12_inflate_0 17 rfl rfl)
theorem dJ12_inflate_18 : decode cJ12_inflate 18 = .ok (.iload_n 3, 1) := dk_29 (dk_at dksJ12_inflate_0 18 rfl rfl)
theorem dJ12_inflate_19 : decode cJ12_inflate 19 = .ok (.iinc 3 1, 3) := dk_132 3 1 (dk_at dksJ12_inflate_0 19 rfl rfl)
theorem dJ12_inflate_22 : decode cJ12_inflate 22 = .ok (.aload_n 0, 1) := dk_42 (dk_at dksJ12_inflate_0 22 rfl rfl)
theorem dJ12_inflate_23 : decode cJ12_inflate 23 = .ok (.iload_n 1, 1) := dk_27 (dk_at dksJ12_inflate_0 23 rfl rfl)
theorem dJ12_inflate_24 : decode cJ12_inflate 24 = .ok (.iinc 1 1, 3) := dk_132 1 1 (dk_at dksJ12_inflate_1 0 rfl rfl)
theorem dJ12_inflate_27 : decode cJ12_inflate 27 = .ok (.baload, 1) := dk_51 (dk_at dksJ12_inflate_1 3 rfl rfl)
theorem dJ12_inflate_28 : decode cJ12_inflate 28 = .ok (.sipush 255, 3) := dk_17 0 255 (dk_at dksJ12_inflate_1 4 rfl rfl)
theorem dJ12_inflate_31 : decode cJ12_inflate 31 = .ok (.iand, 1) := dk_126 (dk_at dksJ12_inflate_1 7 rfl rfl)
theorem dJ12_inflate_32 : decode cJ12_inflate 32 = .ok (.invokestatic 111, 3) := dk_184 0 111 (dk_at dksJ12_inflate_1 8 rfl rfl)
theorem dJ12_inflate_35 : decode cJ12_inflate 35 = .ok (.iinc 5 1, 3) := dk_132 5 1 (dk_at dksJ12_inflate_1 11 rfl rfl)
theorem dJ12_inflate_38 : decode cJ12_inflate 38 = .ok (.goto (-28), 3) := dk_167 255 228 (dk_at dksJ12_inflate_1 14 rfl rfl)
theorem dJ12_inflate_41 : decode cJ12_inflate 41 = .ok (.return_, 1) := dk_177 (dk_at dksJ12_inflate_1 17 rfl rfl)
abbrev cJ12_checkBoundsOffCount : ByteArray := prog_37_method_94_code
def yJ12_checkBoundsOffCount : MethodName := ⟨RJ12, "checkBoundsOffCount", "(II[B)V"⟩
def dkwJ12_checkBoundsOffCount_0 : List UInt8 := [26, 27, 44, 184, 0, 48, 184, 1, 163, 87, 177]
abbrev dktJ12_checkBoundsOffCount_0 : List UInt8 := dkwJ12_checkBoundsOffCount_0 ++ []
theorem dksJ12_checkBoundsOffCount_0 : cJ12_checkBoundsOffCount.data.toList.drop 0 = dktJ12_checkBoundsOffCount_0 := by decide +kernel
theorem dJ12_checkBoundsOffCount_0 : decode cJ12_checkBoundsOffCount 0 = .ok (.iload_n 0, 1) := dk_26 (dk_at dksJ12_checkBoundsOffCount_0 0 rfl rfl)
theorem dJ12_checkBoundsOffCount_1 : decode cJ12_checkBoundsOffCount 1 = .ok (.iload_n 1, 1) := dk_27 (dk_at dksJ12_checkBoundsOffCount_0 1 rfl rfl)
theorem dJ12_checkBoundsOffCount_2 : decode cJ12_checkBoundsOffCount 2 = .ok (.aload_n 2, 1) := dk_44 (dk_at dksJ12_checkBoundsOffCount_0 2 rfl rfl)
theorem dJ12_checkBoundsOffCount_3 : decode cJ12_checkBoundsOffCount 3 = .ok (.invokestatic 48, 3) := dk_184 0 48 (dk_at dksJ12_checkBoundsOffCount_0 3 rfl rfl)
theorem dJ12_checkBoundsOffCount_6 : decode cJ12_checkBoundsOffCount 6 = .ok (.invokestatic 419, 3) := dk_184 1 163 (dk_at dksJ12_checkBoundsOffCount_0 6 rfl rfl)
theorem dJ12_checkBoundsOffCount_9 : decode cJ12_checkBoundsOffCount 9 = .ok (.pop, 1) := dk_87 (dk_at dksJ12_checkBoundsOffCount_0 9 rfl rfl)
theorem dJ12_checkBoundsOffCount_10 : decode cJ12_checkBoundsOffCount 10 = .ok (.return_, 1) := dk_177 (dk_at dksJ12_checkBoundsOffCount_0 10 rfl rfl)
abbrev cJ12_length : ByteArray := prog_37_method_6_code
def yJ12_length : MethodName := ⟨RJ12, "length", "([B)I"⟩
def dkwJ12_length_0 : List UInt8 := [42, 190, 4, 122, 172]
abbrev dktJ12_length_0 : List UInt8 := dkwJ12_length_0 ++ []
theorem dksJ12_length_0 : cJ12_length.data.toList.drop 0 = dktJ12_length_0 := by decide +kernel
theorem dJ12_length_0 : decode cJ12_length 0 = .ok (.aload_n 0, 1) := dk_42 (dk_at dksJ12_length_0 0 rfl rfl)
theorem dJ12_length_1 : decode cJ12_length 1 = .ok (.arraylength, 1) := dk_190 (dk_at dksJ12_length_0 1 rfl rfl)
theorem dJ12_length_2 : decode cJ12_length 2 = .ok (.iconst 1, 1) := dk_4 (dk_at dksJ12_length_0 2 rfl rfl)
theorem dJ12_length_3 : decode cJ12_length 3 = .ok (.ishr, 1) := dk_122 (dk_at dksJ12_length_0 3 rfl rfl)
theorem dJ12_length_4 : decode cJ12_length 4 = .ok (.ireturn, 1) := dk_172 (dk_at dksJ12_length_0 4 rfl rfl)
abbrev cJ12_putChar : ByteArray := prog_37_method_4_code
def yJ12_putChar : MethodName := ⟨RJ12, "putChar", "([BII)V"⟩
def dkwJ12_putChar_2 : List UInt8 := [178, 0, 63, 122, 145, 84, 177]
abbrev dktJ12_putChar_2 : List UInt8 := dkwJ12_putChar_2 ++ []
def dkwJ12_putChar_1 : List UInt8 := [183, 0, 56, 191, 27, 4, 120, 60, 42, 27, 132, 1, 1, 28, 178, 0, 59, 122, 145, 84, 42, 27, 28]
abbrev dktJ12_putChar_1 : List UInt8 := dkwJ12_putChar_1 ++ dktJ12_putChar_2
def dkwJ12_putChar_0 : List UInt8 := [178, 0, 44, 154, 0, 25, 27, 155, 0, 11, 27, 42, 184, 0, 48, 161, 0, 13, 187, 0, 52, 89, 18, 54]
abbrev dktJ12_putChar_0 : List UInt8 := dkwJ12_putChar_0 ++ dktJ12_putChar_1
theorem dksJ12_putChar_0 : cJ12_putChar.data.toList.drop 0 = dktJ12_putChar_0 := by decide +kernel
theorem dksJ12_putChar_1 : cJ12_putChar.data.toList.drop 24 = dktJ12_putChar_1 := dk_seg dksJ12_putChar_0 24 rfl rfl
theorem dksJ12_putChar_2 : cJ12_putChar.data.toList.drop 47 = dktJ12_putChar_2 := dk_seg dksJ12_putChar_1 23 rfl rfl
theorem dJ12_putChar_0 : decode cJ12_putChar 0 = .ok (.getstatic 44, 3) := dk_178 0 44 (dk_at dksJ12_putChar_0 0 rfl rfl)
theorem dJ12_putChar_3 : decode cJ12_putChar 3 = .ok (.ifCond .ne 25, 3) := dk_154 0 25 (dk_at dksJ12_putChar_0 3 rfl rfl)
theorem dJ12_putChar_6 : decode cJ12_putChar 6 = .ok (.iload_n 1, 1) := dk_27 (dk_at dksJ12_putChar_0 6 rfl rfl)
theorem dJ12_putChar_7 : decode cJ12_putChar 7 = .ok (.ifCond .lt 11, 3) := dk_155 0 11 (dk_at dksJ12_putChar_0 7 rfl rfl)
theorem dJ12_putChar_10 : decode cJ12_putChar 10 = .ok (.iload_n 1, 1) := dk_27 (dk_at dksJ12_putChar_0 10 rfl rfl)
theorem dJ12_putChar_11 : decode cJ12_putChar 11 = .ok (.aload_n 0, 1) := dk_42 (dk_at dksJ12_putChar_0 11 rfl rfl)
theorem dJ12_putChar_12 : decode cJ12_putChar 12 = .ok (.invokestatic 48, 3) := dk_184 0 48 (dk_at dksJ12_putChar_0 12 rfl rfl)
theorem dJ12_putChar_15 : decode cJ12_putChar 15 = .ok (.if_icmp .lt 13, 3) := dk_161 0 13 (dk_at dksJ12_putChar_0 15 rfl rfl)
theorem dJ12_putChar_18 : decode cJ12_putChar 18 = .ok (.new 52, 3) := dk_187 0 52 (dk_at dksJ12_putChar_0 18 rfl rfl)
theorem dJ12_putChar_21 : decode cJ12_putChar 21 = .ok (.dup, 1) := dk_89 (dk_at dksJ12_putChar_0 21 rfl rfl)
theorem dJ12_putChar_22 : decode cJ12_putChar 22 = .ok (.ldc 54, 2) := dk_18 54 (dk_at dksJ12_putChar_0 22 rfl rfl)
theorem dJ12_putChar_24 : decode cJ12_putChar 24 = .ok (.invokespecial 56, 3) := dk_183 0 56 (dk_at dksJ12_putChar_1 0 rfl rfl)
theorem dJ12_putChar_27 : decode cJ12_putChar 27 = .ok (.athrow, 1) := dk_191 (dk_at dksJ12_putChar_1 3 rfl rfl)
theorem dJ12_putChar_28 : decode cJ12_putChar 28 = .ok (.iload_n 1, 1) := dk_27 (dk_at dksJ12_putChar_1 4 rfl rfl)
theorem dJ12_putChar_29 : decode cJ12_putChar 29 = .ok (.iconst 1, 1) := dk_4 (dk_at dksJ12_putChar_1 5 rfl rfl)
theorem dJ12_putChar_30 : decode cJ12_putChar 30 = .ok (.ishl, 1) := dk_120 (dk_at dksJ12_putChar_1 6 rfl rfl)
theorem dJ12_putChar_31 : decode cJ12_putChar 31 = .ok (.istore_n 1, 1) := dk_60 (dk_at dksJ12_putChar_1 7 rfl rfl)
theorem dJ12_putChar_32 : decode cJ12_putChar 32 = .ok (.aload_n 0, 1) := dk_42 (dk_at dksJ12_putChar_1 8 rfl rfl)
theorem dJ12_putChar_33 : decode cJ12_putChar 33 = .ok (.iload_n 1, 1) := dk_27 (dk_at dksJ12_putChar_1 9 rfl rfl)
theorem dJ12_putChar_34 : decode cJ12_putChar 34 = .ok (.iinc 1 1, 3) := dk_132 1 1 (dk_at dksJ12_putChar_1 10 rfl rfl)
theorem dJ12_putChar_37 : decode cJ12_putChar 37 = .ok (.iload_n 2, 1) := dk_28 (dk_at dksJ12_putChar_1 13 rfl rfl)
theorem dJ12_putChar_38 : decode cJ12_putChar 38 = .ok (.getstatic 59, 3) := dk_178 0 59 (dk_at dksJ12_putChar_1 14 rfl rfl)
theorem dJ12_putChar_41 : decode cJ12_putChar 41 = .ok (.ishr, 1) := dk_122 (dk_at dksJ12_putChar_1 17 rfl rfl)
theorem dJ12_putChar_42 : decode cJ12_putChar 42 = .ok (.i2b, 1) := dk_145 (dk_at dksJ12_putChar_1 18 rfl rfl)
theorem dJ12_putChar_43 : decode cJ12_putChar 43 = .ok (.bastore, 1) := dk_84 (dk_at dksJ12_putChar_1 19 rfl rfl)
theorem dJ12_putChar_44 : decode cJ12_putChar 44 = .ok (.aload_n 0, 1) := dk_42 (dk_at dksJ12_putChar_1 20 rfl rfl)
theorem dJ12_putChar_45 : decode cJ12_putChar 45 = .ok (.iload_n 1, 1) := dk_27 (dk_at dksJ12_putChar_1 21 rfl rfl)
theorem dJ12_putChar_46 : decode cJ12_putChar 46 = .ok (.iload_n 2, 1) := dk_28 (dk_at dksJ12_putChar_1 22 rfl rfl)
theorem dJ12_putChar_47 : decode cJ12_putChar 47 = .ok (.getstatic 63, 3) := dk_178 0 63 (dk_at dksJ12_putChar_2 0 rfl rfl)
theorem dJ12_putChar_50 : decode cJ12_putChar 50 = .ok (.ishr, 1) := dk_122 (dk_at dksJ12_putChar_2 3 rfl rfl)
theorem dJ12_putChar_51 : decode cJ12_putChar 51 = .ok (.i2b, 1) := dk_145 (dk_at dksJ12_putChar_2 4 rfl rfl)
theorem dJ12_putChar_52 : decode cJ12_putChar 52 = .ok (.bastore, 1) := dk_84 (dk_at dksJ12_putChar_2 5 rfl rfl)
theorem dJ12_putChar_53 : decode cJ12_putChar 53 = .ok (.return_, 1) := dk_177 (dk_at dksJ12_putChar_2 6 rfl rfl)
abbrev cJ12_putCharSB : ByteArray := prog_37_method_71_code
def yJ12_putCharSB : MethodName := ⟨RJ12, "putCharSB", "([BII)V"⟩
def dkwJ12_putCharSB_0 : List UInt8 := [27, 42, 184, 0, 67, 42, 27, 28, 184, 0, 111, 177]
abbrev dktJ12_putCharSB_0 : List UInt8 := dkwJ12_putCharSB_0 ++ []
theorem dksJ12_putCharSB_0 : cJ12_putCharSB.data.toList.drop 0 = dktJ12_putCharSB_0 := by decide +kernel
theorem dJ12_putCharSB_0 : decode cJ12_putCharSB 0 = .ok (.iload_n 1, 1) := dk_27 (dk_at dksJ12_putCharSB_0 0 rfl rfl)
theorem dJ12_putCharSB_1 : decode cJ12_putCharSB 1 = .ok (.aload_n 0, 1) := dk_42 (dk_at dksJ12_putCharSB_0 1 rfl rfl)
theorem dJ12_putCharSB_2 : decode cJ12_putCharSB 2 = .ok (.invokestatic 67, 3) := dk_184 0 67 (dk_at dksJ12_putCharSB_0 2 rfl rfl)
theorem dJ12_putCharSB_5 : decode cJ12_putCharSB 5 = .ok (.aload_n 0, 1) := dk_42 (dk_at dksJ12_putCharSB_0 5 rfl rfl)
theorem dJ12_putCharSB_6 : decode cJ12_putCharSB 6 = .ok (.iload_n 1, 1) := dk_27 (dk_at dksJ12_putCharSB_0 6 rfl rfl)
theorem dJ12_putCharSB_7 : decode cJ12_putCharSB 7 = .ok (.iload_n 2, 1) := dk_28 (dk_at dksJ12_putCharSB_0 7 rfl rfl)
theorem dJ12_putCharSB_8 : decode cJ12_putCharSB 8 = .ok (.invokestatic 111, 3) := dk_184 0 111 (dk_at dksJ12_putCharSB_0 8 rfl rfl)
theorem dJ12_putCharSB_11 : decode cJ12_putCharSB 11 = .ok (.return_, 1) := dk_177 (dk_at dksJ12_putCharSB_0 11 rfl rfl)
abbrev cJ12_checkIndex : ByteArray := prog_37_method_91_code
def yJ12_checkIndex : MethodName := ⟨RJ12, "checkIndex", "(I[B)V"⟩
def dkwJ12_checkIndex_0 : List UInt8 := [26, 43, 184, 0, 48, 184, 1, 158, 177]
abbrev dktJ12_checkIndex_0 : List UInt8 := dkwJ12_checkIndex_0 ++ []
theorem dksJ12_checkIndex_0 : cJ12_checkIndex.data.toList.drop 0 = dktJ12_checkIndex_0 := by decide +kernel
theorem dJ12_checkIndex_0 : decode cJ12_checkIndex 0 = .ok (.iload_n 0, 1) := dk_26 (dk_at dksJ12_checkIndex_0 0 rfl rfl)
theorem dJ12_checkIndex_1 : decode cJ12_checkIndex 1 = .ok (.aload_n 1, 1) := dk_43 (dk_at dksJ12_checkIndex_0 1 rfl rfl)
theorem dJ12_checkIndex_2 : decode cJ12_checkIndex 2 = .ok (.invokestatic 48, 3) := dk_184 0 48 (dk_at dksJ12_checkIndex_0 2 rfl rfl)
theorem dJ12_checkIndex_5 : decode cJ12_checkIndex 5 = .ok (.invokestatic 414, 3) := dk_184 1 158 (dk_at dksJ12_checkIndex_0 5 rfl rfl)
theorem dJ12_checkIndex_8 : decode cJ12_checkIndex 8 = .ok (.return_, 1) := dk_177 (dk_at dksJ12_checkIndex_0 8 rfl rfl)
abbrev cJ12_putCharsAt : ByteArray := prog_37_method_81_code
def yJ12_putCharsAt : MethodName := ⟨RJ12, "putCharsAt", "([BICCCC)I"⟩
def dkwJ12_putCharsAt_3 : List UInt8 := [21, 6, 172]
abbrev dktJ12_putCharsAt_3 : List UInt8 := dkwJ12_putCharsAt_3 ++ []
def dkwJ12_putCharsAt_2 : List UInt8 := [184, 0, 111, 178, 0, 44, 154, 0, 17, 27, 21, 6, 159, 0, 11, 187, 0, 52, 89, 183, 0, 66, 191]
abbrev dktJ12_putCharsAt_2 : List UInt8 := dkwJ12_putCharsAt_2 ++ dktJ12_putCharsAt_3
def dkwJ12_putCharsAt_1 : List UInt8 := [132, 1, 1, 29, 184, 0, 111, 42, 27, 132, 1, 1, 21, 4, 184, 0, 111, 42, 27, 132, 1, 1, 21, 5]
abbrev dktJ12_putCharsAt_1 : List UInt8 := dkwJ12_putCharsAt_1 ++ dktJ12_putCharsAt_2
def dkwJ12_putCharsAt_0 : List UInt8 := [27, 7, 96, 54, 6, 27, 21, 6, 42, 184, 0, 96, 42, 27, 132, 1, 1, 28, 184, 0, 111, 42, 27]
abbrev dktJ12_putCharsAt_0 : List UInt8 := dkwJ12_putCharsAt_0 ++ dktJ12_putCharsAt_1
theorem dksJ12_putCharsAt_0 : cJ12_putCharsAt.data.toList.drop 0 = dktJ12_putCharsAt_0 := by decide +kernel
theorem dksJ12_putCharsAt_1 : cJ12_putCharsAt.data.toList.drop 23 = dktJ12_putCharsAt_1 := dk_seg dksJ12_putCharsAt_0 23 rfl rfl
theorem dksJ12_putCharsAt_2 : cJ12_putCharsAt.data.toList.drop 47 = dktJ12_putCharsAt_2 := dk_seg dksJ12_putCharsAt_1 24 rfl rfl
theorem dksJ12_putCharsAt_3 : cJ12_putCharsAt.data.toList.drop 70 = dktJ12_putCharsAt_3 := dk_seg dksJ12_putCharsAt_2 23 rfl rfl
theorem dJ12_putCharsAt_0 : decode cJ12_putCharsAt 0 = .ok (.iload_n 1, 1) := dk_27 (dk_at dksJ12_putCharsAt_0 0 rfl rfl)
theorem dJ12_putCharsAt_1 : decode cJ12_putCharsAt 1 = .ok (.iconst 4, 1) := dk_7 (dk_at dksJ12_putCharsAt_0 1 rfl rfl)
theorem dJ12_putCharsAt_2 : decode cJ12_putCharsAt 2 = .ok (.iadd, 1) := dk_96 (dk_at dksJ12_putCharsAt_0 2 rfl rfl)
theorem dJ12_putCharsAt_3 : decode cJ12_putCharsAt 3 = .ok (.istore 6, 2) := dk_54 6 (dk_at dksJ12_putCharsAt_0 3 rfl rfl)
theorem dJ12_putCharsAt_5 : decode cJ12_putCharsAt 5 = .ok (.iload_n 1, 1) := dk_27 (dk_at dksJ12_putCharsAt_0 5 rfl rfl)
theorem dJ12_putCharsAt_6 : decode cJ12_putCharsAt 6 = .ok (.iload 6, 2) := dk_21 6 (dk_at dksJ12_putCharsAt_0 6 rfl rfl)
theorem dJ12_putCharsAt_8 : decode cJ12_putCharsAt 8 = .ok (.aload_n 0, 1) := dk_42 (dk_at dksJ12_putCharsAt_0 8 rfl rfl)
theorem dJ12_putCharsAt_9 : decode cJ12_putCharsAt 9 = .ok (.invokestatic 96, 3) := dk_184 0 96 (dk_at dksJ12_putCharsAt_0 9 rfl rfl)
theorem dJ12_putCharsAt_12 : decode cJ12_putCharsAt 12 = .ok (.aload_n 0, 1) := dk_42 (dk_at dksJ12_putCharsAt_0 12 rfl rfl)
theorem dJ12_putCharsAt_13 : decode cJ12_putCharsAt 13 = .ok (.iload_n 1, 1) := dk_27 (dk_at dksJ12_putCharsAt_0 13 rfl rfl)
theorem dJ12_putCharsAt_14 : decode cJ12_putCharsAt 14 = .ok (.iinc 1 1, 3) := dk_132 1 1 (dk_at dksJ12_putCharsAt_0 14 rfl rfl)
theorem dJ12_putCharsAt_17 : decode cJ12_putCharsAt 17 = .ok (.iload_n 2, 1) := dk_28 (dk_at dksJ12_putCharsAt_0 17 rfl rfl)
theorem dJ12_putCharsAt_18 : decode cJ12_putCharsAt 18 = .ok (.invokestatic 111, 3) := dk_184 0 111 (dk_at dksJ12_putCharsAt_0 18 rfl rfl)
theorem dJ12_putCharsAt_21 : decode cJ12_putCharsAt 21 = .ok (.aload_n 0, 1) := dk_42 (dk_at dksJ12_putCharsAt_0 21 rfl rfl)
theorem dJ12_putCharsAt_22 : decode cJ12_putCharsAt 22 = .ok (.iload_n 1, 1) := dk_27 (dk_at dksJ12_putCharsAt_0 22 rfl rfl)
theorem dJ12_putCharsAt_23 : decode cJ12_putCharsAt 23 = .ok (.iinc 1 1, 3) := dk_132 1 1 (dk_at dksJ12_putCharsAt_1 0 rfl rfl)
theorem dJ12_putCharsAt_26 : decode cJ12_putCharsAt 26 = .ok (.iload_n 3, 1) := dk_29 (dk_at dksJ12_putCharsAt_1 3 rfl rfl)
theorem dJ12_putCharsAt_27 : decode cJ12_putCharsAt 27 = .ok (.invokestatic 111, 3) := dk_184 0 111 (dk_at dksJ12_putCharsAt_1 4 rfl rfl)
theorem dJ12_putCharsAt_30 : decode cJ12_putCharsAt 30 = .ok (.aload_n 0, 1) := dk_42 (dk_at dksJ12_putCharsAt_1 7 rfl rfl)
theorem dJ12_putCharsAt_31 : decode cJ12_putCharsAt 31 = .ok (.iload_n 1, 1) := dk_27 (dk_at dksJ12_putCharsAt_1 8 rfl rfl)
theorem dJ12_putCharsAt_32 : decode cJ12_putCharsAt 32 = .ok (.iinc 1 1, 3) := dk_132 1 1 (dk_at dksJ12_putCharsAt_1 9 rfl rfl)
theorem dJ12_putCharsAt_35 : decode cJ12_putCharsAt 35 = .ok (.iload 4, 2) := dk_21 4 (dk_at dksJ12_putCharsAt_1 12 rfl rfl)
theorem dJ12_putCharsAt_37 : decode cJ12_putCharsAt 37 = .ok (.invokestatic 111, 3) := dk_184 0 111 (dk_at dksJ12_putCharsAt_1 14 rfl rfl)
theorem dJ12_putCharsAt_40 : decode cJ12_putCharsAt 40 = .ok (.aload_n 0, 1) := dk_42 (dk_at dksJ12_putCharsAt_1 17 rfl rfl)
theorem dJ12_putCharsAt_41 : decode cJ12_putCharsAt 41 = .ok (.iload_n 1, 1) := dk_27 (dk_at dksJ12_putCharsAt_1 18 rfl rfl)
theorem dJ12_putCharsAt_42 : decode cJ12_putCharsAt 42 = .ok (.iinc 1 1, 3) := dk_132 1 1 (dk_at dksJ12_putCharsAt_1 19 rfl rfl)
theorem dJ12_putCharsAt_45 : decode cJ12_putCharsAt 45 = .ok (.iload 5, 2) := dk_21 5 (dk_at dksJ12_putCharsAt_1 22 rfl rfl)
theorem dJ12_putCharsAt_47 : decode cJ12_putCharsAt 47 = .ok (.invokestatic 111, 3) := dk_184 0 111 (dk_at dksJ12_putCharsAt_2 0 rfl rfl)
theorem dJ12_putCharsAt_50 : decode cJ12_putCharsAt 50 = .ok (.getstatic 44, 3) := dk_178 0 44 (dk_at dksJ12_putCharsAt_2 3 rfl rfl)
theorem dJ12_putCharsAt_53 : decode cJ12_putCharsAt 53 = .ok (.ifCond .ne 17, 3) := dk_154 0 17 (dk_at dksJ12_putCharsAt_2 6 rfl rfl)
theorem dJ12_putCharsAt_56 : decode cJ12_putCharsAt 56 = .ok (.iload_n 1, 1) := dk_27 (dk_at dksJ12_putCharsAt_2 9 rfl rfl)
theorem dJ12_putCharsAt_57 : decode cJ12_putCharsAt 57 = .ok (.iload 6, 2) := dk_21 6 (dk_at dksJ12_putCharsAt_2 10 rfl rfl)
theorem dJ12_putCharsAt_59 : decode cJ12_putCharsAt 59 = .ok (.if_icmp .eq 11, 3) := dk_159 0 11 (dk_at dksJ12_putCharsAt_2 12 rfl rfl)
theorem dJ12_putCharsAt_62 : decode cJ12_putCharsAt 62 = .ok (.new 52, 3) := dk_187 0 52 (dk_at dksJ12_putCharsAt_2 15 rfl rfl)
theorem dJ12_putCharsAt_65 : decode cJ12_putCharsAt 65 = .ok (.dup, 1) := dk_89 (dk_at dksJ12_putCharsAt_2 18 rfl rfl)
theorem dJ12_putCharsAt_66 : decode cJ12_putCharsAt 66 = .ok (.invokespecial 66, 3) := dk_183 0 66 (dk_at dksJ12_putCharsAt_2 19 rfl rfl)
theorem dJ12_putCharsAt_69 : decode cJ12_putCharsAt 69 = .ok (.athrow, 1) := dk_191 (dk_at dksJ12_putCharsAt_2 22 rfl rfl)
theorem dJ12_putCharsAt_70 : decode cJ12_putCharsAt 70 = .ok (.iload 6, 2) := dk_21 6 (dk_at dksJ12_putCharsAt_3 0 rfl rfl)
theorem dJ12_putCharsAt_72 : decode cJ12_putCharsAt 72 = .ok (.ireturn, 1) := dk_172 (dk_at dksJ12_putCharsAt_3 2 rfl rfl)
abbrev cJ12_checkBoundsBeginEnd : ByteArray := prog_37_method_93_code
def yJ12_checkBoundsBeginEnd : MethodName := ⟨RJ12, "checkBoundsBeginEnd", "(II[B)V"⟩
def dkwJ12_checkBoundsBeginEnd_0 : List UInt8 := [26, 27, 44, 184, 0, 48, 184, 0, 241, 177]
abbrev dktJ12_checkBoundsBeginEnd_0 : List UInt8 := dkwJ12_checkBoundsBeginEnd_0 ++ []
theorem dksJ12_checkBoundsBeginEnd_0 : cJ12_checkBoundsBeginEnd.data.toList.drop 0 = dktJ12_checkBoundsBeginEnd_0 := by decide +kernel
theorem dJ12_checkBoundsBeginEnd_0 : decode cJ12_checkBoundsBeginEnd 0 = .ok (.iload_n 0, 1) := dk_26 (dk_at dksJ12_checkBoundsBeginEnd_0 0 rfl rfl)
theorem dJ12_checkBoundsBeginEnd_1 : decode cJ12_checkBoundsBeginEnd 1 = .ok (.iload_n 1, 1) := dk_27 (dk_at dksJ12_checkBoundsBeginEnd_0 1 rfl rfl)
theorem dJ12_checkBoundsBeginEnd_2 : decode cJ12_checkBoundsBeginEnd 2 = .ok (.aload_n 2, 1) := dk_44 (dk_at dksJ12_checkBoundsBeginEnd_0 2 rfl rfl)
theorem dJ12_checkBoundsBeginEnd_3 : decode cJ12_checkBoundsBeginEnd 3 = .ok (.invokestatic 48, 3) := dk_184 0 48 (dk_at dksJ12_checkBoundsBeginEnd_0 3 rfl rfl)
theorem dJ12_checkBoundsBeginEnd_6 : decode cJ12_checkBoundsBeginEnd 6 = .ok (.invokestatic 241, 3) := dk_184 0 241 (dk_at dksJ12_checkBoundsBeginEnd_0 6 rfl rfl)
theorem dJ12_checkBoundsBeginEnd_9 : decode cJ12_checkBoundsBeginEnd 9 = .ok (.return_, 1) := dk_177 (dk_at dksJ12_checkBoundsBeginEnd_0 9 rfl rfl)
abbrev cJ12_getChars : ByteArray := prog_37_method_77_code
def yJ12_getChars : MethodName := ⟨RJ12, "getChars", "(III[B)I"⟩
def dkwJ12_getChars_1 : List UInt8 := [159, 0, 11, 187, 0, 52, 89, 183, 0, 66, 191, 21, 4, 172]
abbrev dktJ12_getChars_1 : List UInt8 := dkwJ12_getChars_1 ++ []
def dkwJ12_getChars_0 : List UInt8 := [27, 28, 45, 184, 0, 96, 26, 28, 45, 184, 1, 137, 54, 4, 178, 0, 44, 154, 0, 17, 27, 21, 4]
abbrev dktJ12_getChars_0 : List UInt8 := dkwJ12_getChars_0 ++ dktJ12_getChars_1
theorem dksJ12_getChars_0 : cJ12_getChars.data.toList.drop 0 = dktJ12_getChars_0 := by decide +kernel
theorem dksJ12_getChars_1 : cJ12_getChars.data.toList.drop 23 = dktJ12_getChars_1 := dk_seg dksJ12_getChars_0 23 rfl rfl
theorem dJ12_getChars_0 : decode cJ12_getChars 0 = .ok (.iload_n 1, 1) := dk_27 (dk_at dksJ12_getChars_0 0 rfl rfl)
theorem dJ12_getChars_1 : decode cJ12_getChars 1 = .ok (.iload_n 2, 1) := dk_28 (dk_at dksJ12_getChars_0 1 rfl rfl)
theorem dJ12_getChars_2 : decode cJ12_getChars 2 = .ok (.aload_n 3, 1) := dk_45 (dk_at dksJ12_getChars_0 2 rfl rfl)
theorem dJ12_getChars_3 : decode cJ12_getChars 3 = .ok (.invokestatic 96, 3) := dk_184 0 96 (dk_at dksJ12_getChars_0 3 rfl rfl)
theorem dJ12_getChars_6 : decode cJ12_getChars 6 = .ok (.iload_n 0, 1) := dk_26 (dk_at dksJ12_getChars_0 6 rfl rfl)
theorem dJ12_getChars_7 : decode cJ12_getChars 7 = .ok (.iload_n 2, 1) := dk_28 (dk_at dksJ12_getChars_0 7 rfl rfl)
theorem dJ12_getChars_8 : decode cJ12_getChars 8 = .ok (.aload_n 3, 1) := dk_45 (dk_at dksJ12_getChars_0 8 rfl rfl)
theorem dJ12_getChars_9 : decode cJ12_getChars 9 = .ok (.invokestatic 393, 3) := dk_184 1 137 (dk_at dksJ12_getChars_0 9 rfl rfl)
theorem dJ12_getChars_12 : decode cJ12_getChars 12 = .ok (.istore 4, 2) := dk_54 4 (dk_at dksJ12_getChars_0 12 rfl rfl)
theorem dJ12_getChars_14 : decode cJ12_getChars 14 = .ok (.getstatic 44, 3) := dk_178 0 44 (dk_at dksJ12_getChars_0 14 rfl rfl)
theorem dJ12_getChars_17 : decode cJ12_getChars 17 = .ok (.ifCond .ne 17, 3) := dk_154 0 17 (dk_at dksJ12_getChars_0 17 rfl rfl)
theorem dJ12_getChars_20 : decode cJ12_getChars 20 = .ok (.iload_n 1, 1) := dk_27 (dk_at dksJ12_getChars_0 20 rfl rfl)
theorem dJ12_getChars_21 : decode cJ12_getChars 21 = .ok (.iload 4, 2) := dk_21 4 (dk_at dksJ12_getChars_0 21 rfl rfl)
theorem dJ12_getChars_23 : decode cJ12_getChars 23 = .ok (.if_icmp .eq 11, 3) := dk_159 0 11 (dk_at dksJ12_getChars_1 0 rfl rfl)
theorem dJ12_getChars_26 : decode cJ12_getChars 26 = .ok (.new 52, 3) := dk_187 0 52 (dk_at dksJ12_getChars_1 3 rfl rfl)
theorem dJ12_getChars_29 : decode cJ12_getChars 29 = .ok (.dup, 1) := dk_89 (dk_at dksJ12_getChars_1 6 rfl rfl)
theorem dJ12_getChars_30 : decode cJ12_getChars 30 = .ok (.invokespecial 66, 3) := dk_183 0 66 (dk_at dksJ12_getChars_1 7 rfl rfl)
theorem dJ12_getChars_33 : decode cJ12_getChars 33 = .ok (.athrow, 1) := dk_191 (dk_at dksJ12_getChars_1 10 rfl rfl)
theorem dJ12_getChars_34 : decode cJ12_getChars 34 = .ok (.iload 4, 2) := dk_21 4 (dk_at dksJ12_getChars_1 11 rfl rfl)
theorem dJ12_getChars_36 : decode cJ12_getChars 36 = .ok (.ireturn, 1) := dk_172 (dk_at dksJ12_getChars_1 13 rfl rfl)
abbrev cJ12_getChars_2 : ByteArray := prog_37_method_89_code
def yJ12_getChars_2 : MethodName := ⟨RJ12, "getChars", "(II[B)I"⟩
def dkwJ12_getChars_2_5 : List UInt8 := [132, 5, 255, 21, 5, 16, 45, 184, 0, 111, 21, 5, 172]
abbrev dktJ12_getChars_2_5 : List UInt8 := dkwJ12_getChars_2_5 ++ []
def dkwJ12_getChars_2_4 : List UInt8 := [162, 0, 18, 44, 132, 5, 255, 21, 5, 178, 1, 151, 26, 116, 51, 184, 0, 111, 21, 6, 153, 0, 14, 44]
abbrev dktJ12_getChars_2_4 : List UInt8 := dkwJ12_getChars_2_4 ++ dktJ12_getChars_2_5
def dkwJ12_getChars_2_3 : List UInt8 := [184, 0, 111, 167, 255, 205, 44, 132, 5, 255, 21, 5, 178, 1, 147, 26, 116, 51, 184, 0, 111, 26, 16, 247]
abbrev dktJ12_getChars_2_3 : List UInt8 := dkwJ12_getChars_2_3 ++ dktJ12_getChars_2_4
def dkwJ12_getChars_2_2 : List UInt8 := [21, 5, 178, 1, 147, 21, 4, 51, 184, 0, 111, 44, 132, 5, 255, 21, 5, 178, 1, 151, 21, 4, 51]
abbrev dktJ12_getChars_2_2 : List UInt8 := dkwJ12_getChars_2_2 ++ dktJ12_getChars_2_3
def dkwJ12_getChars_2_1 : List UInt8 := [16, 156, 163, 0, 51, 26, 16, 100, 108, 62, 29, 16, 100, 104, 26, 100, 54, 4, 29, 59, 44, 132, 5, 255]
abbrev dktJ12_getChars_2_1 : List UInt8 := dkwJ12_getChars_2_1 ++ dktJ12_getChars_2_2
def dkwJ12_getChars_2_0 : List UInt8 := [27, 54, 5, 26, 156, 0, 7, 4, 167, 0, 4, 3, 54, 6, 21, 6, 154, 0, 6, 26, 116, 59, 26]
abbrev dktJ12_getChars_2_0 : List UInt8 := dkwJ12_getChars_2_0 ++ dktJ12_getChars_2_1
theorem dksJ12_getChars_2_0 : cJ12_getChars_2.data.toList.drop 0 = dktJ12_getChars_2_0 := by decide +kernel
theorem dksJ12_getChars_2_1 : cJ12_getChars_2.data.toList.drop 23 = dktJ12_getChars_2_1 := dk_seg dksJ12_getChars_2_0 23 rfl rfl
theorem dksJ12_getChars_2_2 : cJ12_getChars_2.data.toList.drop 47 = dktJ12_getChars_2_2 := dk_seg dksJ12_getChars_2_1 24 rfl rfl
theorem dksJ12_getChars_2_3 : cJ12_getChars_2.data.toList.drop 70 = dktJ12_getChars_2_3 := dk_seg dksJ12_getChars_2_2 23 rfl rfl
theorem dksJ12_getChars_2_4 : cJ12_getChars_2.data.toList.drop 94 = dktJ12_getChars_2_4 := dk_seg dksJ12_getChars_2_3 24 rfl rfl
theorem dksJ12_getChars_2_5 : cJ12_getChars_2.data.toList.drop 118 = dktJ12_getChars_2_5 := dk_seg dksJ12_getChars_2_4 24 rfl rfl
theorem dJ12_getChars_2_0 : decode cJ12_getChars_2 0 = .ok (.iload_n 1, 1) := dk_27 (dk_at dksJ12_getChars_2_0 0 rfl rfl)
theorem dJ12_getChars_2_1 : decode cJ12_getChars_2 1 = .ok (.istore 5, 2) := dk_54 5 (dk_at dksJ12_getChars_2_0 1 rfl rfl)
theorem dJ12_getChars_2_3 : decode cJ12_getChars_2 3 = .ok (.iload_n 0, 1) := dk_26 (dk_at dksJ12_getChars_2_0 3 rfl rfl)
theorem dJ12_getChars_2_4 : decode cJ12_getChars_2 4 = .ok (.ifCond .ge 7, 3) := dk_156 0 7 (dk_at dksJ12_getChars_2_0 4 rfl rfl)
theorem dJ12_getChars_2_7 : decode cJ12_getChars_2 7 = .ok (.iconst 1, 1) := dk_4 (dk_at dksJ12_getChars_2_0 7 rfl rfl)
theorem dJ12_getChars_2_8 : decode cJ12_getChars_2 8 = .ok (.goto 4, 3) := dk_167 0 4 (dk_at dksJ12_getChars_2_0 8 rfl rfl)
theorem dJ12_getChars_2_11 : decode cJ12_getChars_2 11 = .ok (.iconst 0, 1) := dk_3 (dk_at dksJ12_getChars_2_0 11 rfl rfl)
theorem dJ12_getChars_2_12 : decode cJ12_getChars_2 12 = .ok (.istore 6, 2) := dk_54 6 (dk_at dksJ12_getChars_2_0 12 rfl rfl)
theorem dJ12_getChars_2_14 : decode cJ12_getChars_2 14 = .ok (.iload 6, 2) := dk_21 6 (dk_at dksJ12_getChars_2_0 14 rfl rfl)
theorem dJ12_getChars_2_16 : decode cJ12_getChars_2 16 = .ok (.ifCond .ne 6, 3) := dk_154 0 6 (dk_at dksJ12_getChars_2_0 16 rfl rfl)
theorem dJ12_getChars_2_19 : decode cJ12_getChars_2 19 = .ok (.iload_n 0, 1) := dk_26 (dk_at dksJ12_getChars_2_0 19 rfl rfl)
theorem dJ12_getChars_2_20 : decode cJ12_getChars_2 20 = .ok (.ineg, 1) := dk_116 (dk_at dksJ12_getChars_2_0 20 rfl rfl)
theorem dJ12_getChars_2_21 : decode cJ12_getChars_2 21 = .ok (.istore_n 0, 1) := dk_59 (dk_at dksJ12_getChars_2_0 21 rfl rfl)
theorem dJ12_getChars_2_22 : decode cJ12_getChars_2 22 = .ok (.iload_n 0, 1) := dk_26 (dk_at dksJ12_getChars_2_0 22 rfl rfl)
theorem dJ12_getChars_2_23 : decode cJ12_getChars_2 23 = .ok (.bipush (-100), 2) := dk_16 156 (dk_at dksJ12_getChars_2_1 0 rfl rfl)
theorem dJ12_getChars_2_25 : decode cJ12_getChars_2 25 = .ok (.if_icmp .gt 51, 3) := dk_163 0 51 (dk_at dksJ12_getChars_2_1 2 rfl rfl)
theorem dJ12_getChars_2_28 : decode cJ12_getChars_2 28 = .ok (.iload_n 0, 1) := dk_26 (dk_at dksJ12_getChars_2_1 5 rfl rfl)
theorem dJ12_getChars_2_29 : decode cJ12_getChars_2 29 = .ok (.bipush 100, 2) := dk_16 100 (dk_at dksJ12_getChars_2_1 6 rfl rfl)
theorem dJ12_getChars_2_31 : decode cJ12_getChars_2 31 = .ok (.idiv, 1) := dk_108 (dk_at dksJ12_getChars_2_1 8 rfl rfl)
theorem dJ12_getChars_2_32 : decode cJ12_getChars_2 32 = .ok (.istore_n 3, 1) := dk_62 (dk_at dksJ12_getChars_2_1 9 rfl rfl)
theorem dJ12_getChars_2_33 : decode cJ12_getChars_2 33 = .ok (.iload_n 3, 1) := dk_29 (dk_at dksJ12_getChars_2_1 10 rfl rfl)
theorem dJ12_getChars_2_34 : decode cJ12_getChars_2 34 = .ok (.bipush 100, 2) := dk_16 100 (dk_at dksJ12_getChars_2_1 11 rfl rfl)
theorem dJ12_getChars_2_36 : decode cJ12_getChars_2 36 = .ok (.imul, 1) := dk_104 (dk_at dksJ12_getChars_2_1 13 rfl rfl)
theorem dJ12_getChars_2_37 : decode cJ12_getChars_2 37 = .ok (.iload_n 0, 1) := dk_26 (dk_at dksJ12_getChars_2_1 14 rfl rfl)
theorem dJ12_getChars_2_38 : decode cJ12_getChars_2 38 = .ok (.isub, 1) := dk_100 (dk_at dksJ12_getChars_2_1 15 rfl rfl)
theorem dJ12_getChars_2_39 : decode cJ12_getChars_2 39 = .ok (.istore 4, 2) := dk_54 4 (dk_at dksJ12_getChars_2_1 16 rfl rfl)
theorem dJ12_getChars_2_41 : decode cJ12_getChars_2 41 = .ok (.iload_n 3, 1) := dk_29 (dk_at dksJ12_getChars_2_1 18 rfl rfl)
theorem dJ12_getChars_2_42 : decode cJ12_getChars_2 42 = .ok (.istore_n 0, 1) := dk_59 (dk_at dksJ12_getChars_2_1 19 rfl rfl)
theorem dJ12_getChars_2_43 : decode cJ12_getChars_2 43 = .ok (.aload_n 2, 1) := dk_44 (dk_at dksJ12_getChars_2_1 20 rfl rfl)
theorem dJ12_getChars_2_44 : decode cJ12_getChars_2 44 = .ok (.iinc 5 (-1), 3) := dk_132 5 255 (dk_at dksJ12_getChars_2_1 21 rfl rfl)
theorem dJ12_getChars_2_47 : decode cJ12_getChars_2 47 = .ok (.iload 5, 2) := dk_21 5 (dk_at dksJ12_getChars_2_2 0 rfl rfl)
theorem dJ12_getChars_2_49 : decode cJ12_getChars_2 49 = .ok (.getstatic 403, 3) := dk_178 1 147 (dk_at dksJ12_getChars_2_2 2 rfl rfl)
theorem dJ12_getChars_2_52 : decode cJ12_getChars_2 52 = .ok (.iload 4, 2) := dk_21 4 (dk_at dksJ12_getChars_2_2 5 rfl rfl)
theorem dJ12_getChars_2_54 : decode cJ12_getChars_2 54 = .ok (.baload, 1) := dk_51 (dk_at dksJ12_getChars_2_2 7 rfl rfl)
theorem dJ12_getChars_2_55 : decode cJ12_getChars_2 55 = .ok (.invokestatic 111, 3) := dk_184 0 111 (dk_at dksJ12_getChars_2_2 8 rfl rfl)
theorem dJ12_getChars_2_58 : decode cJ12_getChars_2 58 = .ok (.aload_n 2, 1) := dk_44 (dk_at dksJ12_getChars_2_2 11 rfl rfl)
theorem dJ12_getChars_2_59 : decode cJ12_getChars_2 59 = .ok (.iinc 5 (-1), 3) := dk_132 5 255 (dk_at dksJ12_getChars_2_2 12 rfl rfl)
theorem dJ12_getChars_2_62 : decode cJ12_getChars_2 62 = .ok (.iload 5, 2) := dk_21 5 (dk_at dksJ12_getChars_2_2 15 rfl rfl)
theorem dJ12_getChars_2_64 : decode cJ12_getChars_2 64 = .ok (.getstatic 407, 3) := dk_178 1 151 (dk_at dksJ12_getChars_2_2 17 rfl rfl)
theorem dJ12_getChars_2_67 : decode cJ12_getChars_2 67 = .ok (.iload 4, 2) := dk_21 4 (dk_at dksJ12_getChars_2_2 20 rfl rfl)
theorem dJ12_getChars_2_69 : decode cJ12_getChars_2 69 = .ok (.baload, 1) := dk_51 (dk_at dksJ12_getChars_2_2 22 rfl rfl)
theorem dJ12_getChars_2_70 : decode cJ12_getChars_2 70 = .ok (.invokestatic 111, 3) := dk_184 0 111 (dk_at dksJ12_getChars_2_3 0 rfl rfl)
theorem dJ12_getChars_2_73 : decode cJ12_getChars_2 73 = .ok (.goto (-51), 3) := dk_167 255 205 (dk_at dksJ12_getChars_2_3 3 rfl rfl)
theorem dJ12_getChars_2_76 : decode cJ12_getChars_2 76 = .ok (.aload_n 2, 1) := dk_44 (dk_at dksJ12_getChars_2_3 6 rfl rfl)
theorem dJ12_getChars_2_77 : decode cJ12_getChars_2 77 = .ok (.iinc 5 (-1), 3) := dk_132 5 255 (dk_at dksJ12_getChars_2_3 7 rfl rfl)
theorem dJ12_getChars_2_80 : decode cJ12_getChars_2 80 = .ok (.iload 5, 2) := dk_21 5 (dk_at dksJ12_getChars_2_3 10 rfl rfl)
theorem dJ12_getChars_2_82 : decode cJ12_getChars_2 82 = .ok (.getstatic 403, 3) := dk_178 1 147 (dk_at dksJ12_getChars_2_3 12 rfl rfl)
theorem dJ12_getChars_2_85 : decode cJ12_getChars_2 85 = .ok (.iload_n 0, 1) := dk_26 (dk_at dksJ12_getChars_2_3 15 rfl rfl)
theorem dJ12_getChars_2_86 : decode cJ12_getChars_2 86 = .ok (.ineg, 1) := dk_116 (dk_at dksJ12_getChars_2_3 16 rfl rfl)
theorem dJ12_getChars_2_87 : decode cJ12_getChars_2 87 = .ok (.baload, 1) := dk_51 (dk_at dksJ12_getChars_2_3 17 rfl rfl)
theorem dJ12_getChars_2_88 : decode cJ12_getChars_2 88 = .ok (.invokestatic 111, 3) := dk_184 0 111 (dk_at dksJ12_getChars_2_3 18 rfl rfl)
theorem dJ12_getChars_2_91 : decode cJ12_getChars_2 91 = .ok (.iload_n 0, 1) := dk_26 (dk_at dksJ12_getChars_2_3 21 rfl rfl)
theorem dJ12_getChars_2_92 : decode cJ12_getChars_2 92 = .ok (.bipush (-9), 2) := dk_16 247 (dk_at dksJ12_getChars_2_3 22 rfl rfl)
theorem dJ12_getChars_2_94 : decode cJ12_getChars_2 94 = .ok (.if_icmp .ge 18, 3) := dk_162 0 18 (dk_at dksJ12_getChars_2_4 0 rfl rfl)
theorem dJ12_getChars_2_97 : decode cJ12_getChars_2 97 = .ok (.aload_n 2, 1) := dk_44 (dk_at dksJ12_getChars_2_4 3 rfl rfl)
theorem dJ12_getChars_2_98 : decode cJ12_getChars_2 98 = .ok (.iinc 5 (-1), 3) := dk_132 5 255 (dk_at dksJ12_getChars_2_4 4 rfl rfl)
theorem dJ12_getChars_2_101 : decode cJ12_getChars_2 101 = .ok (.iload 5, 2) := dk_21 5 (dk_at dksJ12_getChars_2_4 7 rfl rfl)
theorem dJ12_getChars_2_103 : decode cJ12_getChars_2 103 = .ok (.getstatic 407, 3) := dk_178 1 151 (dk_at dksJ12_getChars_2_4 9 rfl rfl)
theorem dJ12_getChars_2_106 : decode cJ12_getChars_2 106 = .ok (.iload_n 0, 1) := dk_26 (dk_at dksJ12_getChars_2_4 12 rfl rfl)
theorem dJ12_getChars_2_107 : decode cJ12_getChars_2 107 = .ok (.ineg, 1) := dk_116 (dk_at dksJ12_getChars_2_4 13 rfl rfl)
theorem dJ12_getChars_2_108 : decode cJ12_getChars_2 108 = .ok (.baload, 1) := dk_51 (dk_at dksJ12_getChars_2_4 14 rfl rfl)
theorem dJ12_getChars_2_109 : decode cJ12_getChars_2 109 = .ok (.invokestatic 111, 3) := dk_184 0 111 (dk_at dksJ12_getChars_2_4 15 rfl rfl)
theorem dJ12_getChars_2_112 : decode cJ12_getChars_2 112 = .ok (.iload 6, 2) := dk_21 6 (dk_at dksJ12_getChars_2_4 18 rfl rfl)
theorem dJ12_getChars_2_114 : decode cJ12_getChars_2 114 = .ok (.ifCond .eq 14, 3) := dk_153 0 14 (dk_at dksJ12_getChars_2_4 20 rfl rfl)
theorem dJ12_getChars_2_117 : decode cJ12_getChars_2 117 = .ok (.aload_n 2, 1) := dk_44 (dk_at dksJ12_getChars_2_4 23 rfl rfl)
theorem dJ12_getChars_2_118 : decode cJ12_getChars_2 118 = .ok (.iinc 5 (-1), 3) := dk_132 5 255 (dk_at dksJ12_getChars_2_5 0 rfl rfl)
theorem dJ12_getChars_2_121 : decode cJ12_getChars_2 121 = .ok (.iload 5, 2) := dk_21 5 (dk_at dksJ12_getChars_2_5 3 rfl rfl)
theorem dJ12_getChars_2_123 : decode cJ12_getChars_2 123 = .ok (.bipush 45, 2) := dk_16 45 (dk_at dksJ12_getChars_2_5 5 rfl rfl)
theorem dJ12_getChars_2_125 : decode cJ12_getChars_2 125 = .ok (.invokestatic 111, 3) := dk_184 0 111 (dk_at dksJ12_getChars_2_5 7 rfl rfl)
theorem dJ12_getChars_2_128 : decode cJ12_getChars_2 128 = .ok (.iload 5, 2) := dk_21 5 (dk_at dksJ12_getChars_2_5 10 rfl rfl)
theorem dJ12_getChars_2_130 : decode cJ12_getChars_2 130 = .ok (.ireturn, 1) := dk_172 (dk_at dksJ12_getChars_2_5 12 rfl rfl)
abbrev cJ12_compress : ByteArray := prog_37_method_17_code
def yJ12_compress : MethodName := ⟨RJ12, "compress", "([BII)[B"⟩
def dkwJ12_compress_2 : List UInt8 := [25, 5, 3, 45, 3, 28, 184, 0, 123, 28, 159, 0, 6, 25, 5, 176, 45, 176]
abbrev dktJ12_compress_2 : List UInt8 := dkwJ12_compress_2 ++ []
def dkwJ12_compress_1 : List UInt8 := [27, 28, 96, 184, 0, 11, 184, 0, 126, 58, 5, 25, 5, 21, 4, 184, 0, 71, 17, 0, 255, 163, 0, 16]
abbrev dktJ12_compress_1 : List UInt8 := dkwJ12_compress_1 ++ dktJ12_compress_2
def dkwJ12_compress_0 : List UInt8 := [28, 188, 8, 78, 42, 27, 45, 3, 28, 184, 0, 123, 54, 4, 21, 4, 28, 159, 0, 47, 42, 27, 4, 120]
abbrev dktJ12_compress_0 : List UInt8 := dkwJ12_compress_0 ++ dktJ12_compress_1
theorem dksJ12_compress_0 : cJ12_compress.data.toList.drop 0 = dktJ12_compress_0 := by decide +kernel
theorem dksJ12_compress_1 : cJ12_compress.data.toList.drop 24 = dktJ12_compress_1 := dk_seg dksJ12_compress_0 24 rfl rfl
theorem dksJ12_compress_2 : cJ12_compress.data.toList.drop 48 = dktJ12_compress_2 := dk_seg dksJ12_compress_1 24 rfl rfl
theorem dJ12_compress_0 : decode cJ12_compress 0 = .ok (.iload_n 2, 1) := dk_28 (dk_at dksJ12_compress_0 0 rfl rfl)
theorem dJ12_compress_1 : decode cJ12_compress 1 = .ok (.newarray .byte, 2) := dk_188_8 (dk_at dksJ12_compress_0 1 rfl rfl)
theorem dJ12_compress_3 : decode cJ12_compress 3 = .ok (.astore_n 3, 1) := dk_78 (dk_at dksJ12_compress_0 3 rfl rfl)
theorem dJ12_compress_4 : decode cJ12_compress 4 = .ok (.aload_n 0, 1) := dk_42 (dk_at dksJ12_compress_0 4 rfl rfl)
theorem dJ12_compress_5 : decode cJ12_compress 5 = .ok (.iload_n 1, 1) := dk_27 (dk_at dksJ12_compress_0 5 rfl rfl)
theorem dJ12_compress_6 : decode cJ12_compress 6 = .ok (.aload_n 3, 1) := dk_45 (dk_at dksJ12_compress_0 6 rfl rfl)
theorem dJ12_compress_7 : decode cJ12_compress 7 = .ok (.iconst 0, 1) := dk_3 (dk_at dksJ12_compress_0 7 rfl rfl)
theorem dJ12_compress_8 : decode cJ12_compress 8 = .ok (.iload_n 2, 1) := dk_28 (dk_at dksJ12_compress_0 8 rfl rfl)
theorem dJ12_compress_9 : decode cJ12_compress 9 = .ok (.invokestatic 123, 3) := dk_184 0 123 (dk_at dksJ12_compress_0 9 rfl rfl)
theorem dJ12_compress_12 : decode cJ12_compress 12 = .ok (.istore 4, 2) := dk_54 4 (dk_at dksJ12_compress_0 12 rfl rfl)
theorem dJ12_compress_14 : decode cJ12_compress 14 = .ok (.iload 4, 2) := dk_21 4 (dk_at dksJ12_compress_0 14 rfl rfl)
theorem dJ12_compress_16 : decode cJ12_compress 16 = .ok (.iload_n 2, 1) := dk_28 (dk_at dksJ12_compress_0 16 rfl rfl)
theorem dJ12_compress_17 : decode cJ12_compress 17 = .ok (.if_icmp .eq 47, 3) := dk_159 0 47 (dk_at dksJ12_compress_0 17 rfl rfl)
theorem dJ12_compress_20 : decode cJ12_compress 20 = .ok (.aload_n 0, 1) := dk_42 (dk_at dksJ12_compress_0 20 rfl rfl)
theorem dJ12_compress_21 : decode cJ12_compress 21 = .ok (.iload_n 1, 1) := dk_27 (dk_at dksJ12_compress_0 21 rfl rfl)
theorem dJ12_compress_22 : decode cJ12_compress 22 = .ok (.iconst 1, 1) := dk_4 (dk_at dksJ12_compress_0 22 rfl rfl)
theorem dJ12_compress_23 : decode cJ12_compress 23 = .ok (.ishl, 1) := dk_120 (dk_at dksJ12_compress_0 23 rfl rfl)
theorem dJ12_compress_24 : decode cJ12_compress 24 = .ok (.iload_n 1, 1) := dk_27 (dk_at dksJ12_compress_1 0 rfl rfl)
theorem dJ12_compress_25 : decode cJ12_compress 25 = .ok (.iload_n 2, 1) := dk_28 (dk_at dksJ12_compress_1 1 rfl rfl)
theorem dJ12_compress_26 : decode cJ12_compress 26 = .ok (.iadd, 1) := dk_96 (dk_at dksJ12_compress_1 2 rfl rfl)
theorem dJ12_compress_27 : decode cJ12_compress 27 = .ok (.invokestatic 11, 3) := dk_184 0 11 (dk_at dksJ12_compress_1 3 rfl rfl)
theorem dJ12_compress_30 : decode cJ12_compress 30 = .ok (.invokestatic 126, 3) := dk_184 0 126 (dk_at dksJ12_compress_1 6 rfl rfl)
theorem dJ12_compress_33 : decode cJ12_compress 33 = .ok (.astore 5, 2) := dk_58 5 (dk_at dksJ12_compress_1 9 rfl rfl)
theorem dJ12_compress_35 : decode cJ12_compress 35 = .ok (.aload 5, 2) := dk_25 5 (dk_at dksJ12_compress_1 11 rfl rfl)
theorem dJ12_compress_37 : decode cJ12_compress 37 = .ok (.iload 4, 2) := dk_21 4 (dk_at dksJ12_compress_1 13 rfl rfl)
theorem dJ12_compress_39 : decode cJ12_compress 39 = .ok (.invokestatic 71, 3) := dk_184 0 71 (dk_at dksJ12_compress_1 15 rfl rfl)
theorem dJ12_compress_42 : decode cJ12_compress 42 = .ok (.sipush 255, 3) := dk_17 0 255 (dk_at dksJ12_compress_1 18 rfl rfl)
theorem dJ12_compress_45 : decode cJ12_compress 45 = .ok (.if_icmp .gt 16, 3) := dk_163 0 16 (dk_at dksJ12_compress_1 21 rfl rfl)
theorem dJ12_compress_48 : decode cJ12_compress 48 = .ok (.aload 5, 2) := dk_25 5 (dk_at dksJ12_compress_2 0 rfl rfl)
theorem dJ12_compress_50 : decode cJ12_compress 50 = .ok (.iconst 0, 1) := dk_3 (dk_at dksJ12_compress_2 2 rfl rfl)
theorem dJ12_compress_51 : decode cJ12_compress 51 = .ok (.aload_n 3, 1) := dk_45 (dk_at dksJ12_compress_2 3 rfl rfl)
theorem dJ12_compress_52 : decode cJ12_compress 52 = .ok (.iconst 0, 1) := dk_3 (dk_at dksJ12_compress_2 4 rfl rfl)
theorem dJ12_compress_53 : decode cJ12_compress 53 = .ok (.iload_n 2, 1) := dk_28 (dk_at dksJ12_compress_2 5 rfl rfl)
theorem dJ12_compress_54 : decode cJ12_compress 54 = .ok (.invokestatic 123, 3) := dk_184 0 123 (dk_at dksJ12_compress_2 6 rfl rfl)
theorem dJ12_compress_57 : decode cJ12_compress 57 = .ok (.iload_n 2, 1) := dk_28 (dk_at dksJ12_compress_2 9 rfl rfl)
theorem dJ12_compress_58 : decode cJ12_compress 58 = .ok (.if_icmp .eq 6, 3) := dk_159 0 6 (dk_at dksJ12_compress_2 10 rfl rfl)
theorem dJ12_compress_61 : decode cJ12_compress 61 = .ok (.aload 5, 2) := dk_25 5 (dk_at dksJ12_compress_2 13 rfl rfl)
theorem dJ12_compress_63 : decode cJ12_compress 63 = .ok (.areturn, 1) := dk_176 (dk_at dksJ12_compress_2 15 rfl rfl)
theorem dJ12_compress_64 : decode cJ12_compress 64 = .ok (.aload_n 3, 1) := dk_45 (dk_at dksJ12_compress_2 16 rfl rfl)
theorem dJ12_compress_65 : decode cJ12_compress 65 = .ok (.areturn, 1) := dk_176 (dk_at dksJ12_compress_2 17 rfl rfl)
abbrev cJ12_compress_2 : ByteArray := prog_37_method_22_code
def yJ12_compress_2 : MethodName := ⟨RJ12, "compress", "([BI[BII)I"⟩
def dkwJ12_compress_2_2 : List UInt8 := [132, 5, 1, 167, 255, 216, 21, 4, 172]
abbrev dktJ12_compress_2_2 : List UInt8 := dkwJ12_compress_2_2 ++ []
def dkwJ12_compress_2_1 : List UInt8 := [21, 6, 17, 0, 255, 164, 0, 6, 21, 5, 172, 44, 29, 21, 6, 145, 84, 132, 1, 1, 132, 3, 1]
abbrev dktJ12_compress_2_1 : List UInt8 := dkwJ12_compress_2_1 ++ dktJ12_compress_2_2
def dkwJ12_compress_2_0 : List UInt8 := [27, 21, 4, 42, 184, 0, 173, 3, 54, 5, 21, 5, 21, 4, 162, 0, 39, 42, 27, 184, 0, 71, 54, 6]
abbrev dktJ12_compress_2_0 : List UInt8 := dkwJ12_compress_2_0 ++ dktJ12_compress_2_1
theorem dksJ12_compress_2_0 : cJ12_compress_2.data.toList.drop 0 = dktJ12_compress_2_0 := by decide +kernel
theorem dksJ12_compress_2_1 : cJ12_compress_2.data.toList.drop 24 = dktJ12_compress_2_1 := dk_seg dksJ12_compress_2_0 24 rfl rfl
theorem dksJ12_compress_2_2 : cJ12_compress_2.data.toList.drop 47 = dktJ12_compress_2_2 := dk_seg dksJ12_compress_2_1 23 rfl rfl
theorem dJ12_compress_2_0 : decode cJ12_compress_2 0 = .ok (.iload_n 1, 1) := dk_27 (dk_at dksJ12_compress_2_0 0 rfl rfl)
theorem dJ12_compress_2_1 : decode cJ12_compress_2 1 = .ok (.iload 4, 2) := dk_21 4 (dk_at dksJ12_compress_2_0 1 rfl rfl)
theorem dJ12_compress_2_3 : decode cJ12_compress_2 3 = .ok (.aload_n 0, 1) := dk_42 (dk_at dksJ12_compress_2_0 3 rfl rfl)
theorem dJ12_compress_2_4 : decode cJ12_compress_2 4 = .ok (.invokestatic 173, 3) := dk_184 0 173 (dk_at dksJ12_compress_2_0 4 rfl rfl)
theorem dJ12_compress_2_7 : decode cJ12_compress_2 7 = .ok (.iconst 0, 1) := dk_3 (dk_at dksJ12_compress_2_0 7 rfl rfl)
theorem dJ12_compress_2_8 : decode cJ12_compress_2 8 = .ok (.istore 5, 2) := dk_54 5 (dk_at dksJ12_compress_2_0 8 rfl rfl)
theorem dJ12_compress_2_10 : decode cJ12_compress_2 10 = .ok (.iload 5, 2) := dk_21 5 (dk_at dksJ12_compress_2_0 10 rfl rfl)
theorem dJ12_compress_2_12 : decode cJ12_compress_2 12 = .ok (.iload 4, 2) := dk_21 4 (dk_at dksJ12_compress_2_0 12 rfl rfl)
theorem dJ12_compress_2_14 : decode cJ12_compress_2 14 = .ok (.if_icmp .ge 39, 3) := dk_162 0 39 (dk_at dksJ12_compress_2_0 14 rfl rfl)
theorem dJ12_compress_2_17 : decode cJ12_compress_2 17 = .ok (.aload_n 0, 1) := dk_42 (dk_at dksJ12_compress_2_0 17 rfl rfl)
theorem dJ12_compress_2_18 : decode cJ12_compress_2 18 = .ok (.iload_n 1, 1) := dk_27 (dk_at dksJ12_compress_2_0 18 rfl rfl)
theorem dJ12_compress_2_19 : decode cJ12_compress_2 19 = .ok (.invokestatic 71, 3) := dk_184 0 71 (dk_at dksJ12_compress_2_0 19 rfl rfl)
theorem dJ12_compress_2_22 : decode cJ12_compress_2 22 = .ok (.istore 6, 2) := dk_54 6 (dk_at dksJ12_compress_2_0 22 rfl rfl)
theorem dJ12_compress_2_24 : decode cJ12_compress_2 24 = .ok (.iload 6, 2) := dk_21 6 (dk_at dksJ12_compress_2_1 0 rfl rfl)
theorem dJ12_compress_2_26 : decode cJ12_compress_2 26 = .ok (.sipush 255, 3) := dk_17 0 255 (dk_at dksJ12_compress_2_1 2 rfl rfl)
theorem dJ12_compress_2_29 : decode cJ12_compress_2 29 = .ok (.if_icmp .le 6, 3) := dk_164 0 6 (dk_at dksJ12_compress_2_1 5 rfl rfl)
theorem dJ12_compress_2_32 : decode cJ12_compress_2 32 = .ok (.iload 5, 2) := dk_21 5 (dk_at dksJ12_compress_2_1 8 rfl rfl)
theorem dJ12_compress_2_34 : decode cJ12_compress_2 34 = .ok (.ireturn, 1) := dk_172 (dk_at dksJ12_compress_2_1 10 rfl rfl)
theorem dJ12_compress_2_35 : decode cJ12_compress_2 35 = .ok (.aload_n 2, 1) := dk_44 (dk_at dksJ12_compress_2_1 11 rfl rfl)
theorem dJ12_compress_2_36 : decode cJ12_compress_2 36 = .ok (.iload_n 3, 1) := dk_29 (dk_at dksJ12_compress_2_1 12 rfl rfl)
theorem dJ12_compress_2_37 : decode cJ12_compress_2 37 = .ok (.iload 6, 2) := dk_21 6 (dk_at dksJ12_compress_2_1 13 rfl rfl)
theorem dJ12_compress_2_39 : decode cJ12_compress_2 39 = .ok (.i2b, 1) := dk_145 (dk_at dksJ12_compress_2_1 15 rfl rfl)
theorem dJ12_compress_2_40 : decode cJ12_compress_2 40 = .ok (.bastore, 1) := dk_84 (dk_at dksJ12_compress_2_1 16 rfl rfl)
theorem dJ12_compress_2_41 : decode cJ12_compress_2 41 = .ok (.iinc 1 1, 3) := dk_132 1 1 (dk_at dksJ12_compress_2_1 17 rfl rfl)
theorem dJ12_compress_2_44 : decode cJ12_compress_2 44 = .ok (.iinc 3 1, 3) := dk_132 3 1 (dk_at dksJ12_compress_2_1 20 rfl rfl)
theorem dJ12_compress_2_47 : decode cJ12_compress_2 47 = .ok (.iinc 5 1, 3) := dk_132 5 1 (dk_at dksJ12_compress_2_2 0 rfl rfl)
theorem dJ12_compress_2_50 : decode cJ12_compress_2 50 = .ok (.goto (-40), 3) := dk_167 255 216 (dk_at dksJ12_compress_2_2 3 rfl rfl)
theorem dJ12_compress_2_53 : decode cJ12_compress_2 53 = .ok (.iload 4, 2) := dk_21 4 (dk_at dksJ12_compress_2_2 6 rfl rfl)
theorem dJ12_compress_2_55 : decode cJ12_compress_2 55 = .ok (.ireturn, 1) := dk_172 (dk_at dksJ12_compress_2_2 8 rfl rfl)
abbrev cJ12_getChar : ByteArray := prog_37_method_5_code
def yJ12_getChar : MethodName := ⟨RJ12, "getChar", "([BI)C"⟩
def dkwJ12_getChar_2 : List UInt8 := [51, 17, 0, 255, 126, 178, 0, 63, 120, 128, 146, 172]
abbrev dktJ12_getChar_2 : List UInt8 := dkwJ12_getChar_2 ++ []
def dkwJ12_getChar_1 : List UInt8 := [183, 0, 56, 191, 27, 4, 120, 60, 42, 27, 132, 1, 1, 51, 17, 0, 255, 126, 178, 0, 59, 120, 42, 27]
abbrev dktJ12_getChar_1 : List UInt8 := dkwJ12_getChar_1 ++ dktJ12_getChar_2
def dkwJ12_getChar_0 : List UInt8 := [178, 0, 44, 154, 0, 25, 27, 155, 0, 11, 27, 42, 184, 0, 48, 161, 0, 13, 187, 0, 52, 89, 18, 54]
abbrev dktJ12_getChar_0 : List UInt8 := dkwJ12_getChar_0 ++ dktJ12_getChar_1
theorem dksJ12_getChar_0 : cJ12_getChar.data.toList.drop 0 = dktJ12_getChar_0 := by decide +kernel
theorem dksJ12_getChar_1 : cJ12_getChar.data.toList.drop 24 = dktJ12_getChar_1 := dk_seg dksJ12_getChar_0 24 rfl rfl
theorem dksJ12_getChar_2 : cJ12_getChar.data.toList.drop 48 = dktJ12_getChar_2 := dk_seg dksJ12_getChar_1 24 rfl rfl
theorem dJ12_getChar_0 : decode cJ12_getChar 0 = .ok (.getstatic 44, 3) := dk_178 0 44 (dk_at dksJ12_getChar_0 0 rfl rfl)
theorem dJ12_getChar_3 : decode cJ12_getChar 3 = .ok (.ifCond .ne 25, 3) := dk_154 0 25 (dk_at dksJ12_getChar_0 3 rfl rfl)
theorem dJ12_getChar_6 : decode cJ12_getChar 6 = .ok (.iload_n 1, 1) := dk_27 (dk_at dksJ12_getChar_0 6 rfl rfl)
theorem dJ12_getChar_7 : decode cJ12_getChar 7 = .ok (.ifCond .lt 11, 3) := dk_155 0 11 (dk_at dksJ12_getChar_0 7 rfl rfl)
theorem dJ12_getChar_10 : decode cJ12_getChar 10 = .ok (.iload_n 1, 1) := dk_27 (dk_at dksJ12_getChar_0 10 rfl rfl)
theorem dJ12_getChar_11 : decode cJ12_getChar 11 = .ok (.aload_n 0, 1) := dk_42 (dk_at dksJ12_getChar_0 11 rfl rfl)
theorem dJ12_getChar_12 : decode cJ12_getChar 12 = .ok (.invokestatic 48, 3) := dk_184 0 48 (dk_at dksJ12_getChar_0 12 rfl rfl)
theorem dJ12_getChar_15 : decode cJ12_getChar 15 = .ok (.if_icmp .lt 13, 3) := dk_161 0 13 (dk_at dksJ12_getChar_0 15 rfl rfl)
theorem dJ12_getChar_18 : decode cJ12_getChar 18 = .ok (.new 52, 3) := dk_187 0 52 (dk_at dksJ12_getChar_0 18 rfl rfl)
theorem dJ12_getChar_21 : decode cJ12_getChar 21 = .ok (.dup, 1) := dk_89 (dk_at dksJ12_getChar_0 21 rfl rfl)
theorem dJ12_getChar_22 : decode cJ12_getChar 22 = .ok (.ldc 54, 2) := dk_18 54 (dk_at dksJ12_getChar_0 22 rfl rfl)
theorem dJ12_getChar_24 : decode cJ12_getChar 24 = .ok (.invokespecial 56, 3) := dk_183 0 56 (dk_at dksJ12_getChar_1 0 rfl rfl)
theorem dJ12_getChar_27 : decode cJ12_getChar 27 = .ok (.athrow, 1) := dk_191 (dk_at dksJ12_getChar_1 3 rfl rfl)
theorem dJ12_getChar_28 : decode cJ12_getChar 28 = .ok (.iload_n 1, 1) := dk_27 (dk_at dksJ12_getChar_1 4 rfl rfl)
theorem dJ12_getChar_29 : decode cJ12_getChar 29 = .ok (.iconst 1, 1) := dk_4 (dk_at dksJ12_getChar_1 5 rfl rfl)
theorem dJ12_getChar_30 : decode cJ12_getChar 30 = .ok (.ishl, 1) := dk_120 (dk_at dksJ12_getChar_1 6 rfl rfl)
theorem dJ12_getChar_31 : decode cJ12_getChar 31 = .ok (.istore_n 1, 1) := dk_60 (dk_at dksJ12_getChar_1 7 rfl rfl)
theorem dJ12_getChar_32 : decode cJ12_getChar 32 = .ok (.aload_n 0, 1) := dk_42 (dk_at dksJ12_getChar_1 8 rfl rfl)
theorem dJ12_getChar_33 : decode cJ12_getChar 33 = .ok (.iload_n 1, 1) := dk_27 (dk_at dksJ12_getChar_1 9 rfl rfl)
theorem dJ12_getChar_34 : decode cJ12_getChar 34 = .ok (.iinc 1 1, 3) := dk_132 1 1 (dk_at dksJ12_getChar_1 10 rfl rfl)
theorem dJ12_getChar_37 : decode cJ12_getChar 37 = .ok (.baload, 1) := dk_51 (dk_at dksJ12_getChar_1 13 rfl rfl)
theorem dJ12_getChar_38 : decode cJ12_getChar 38 = .ok (.sipush 255, 3) := dk_17 0 255 (dk_at dksJ12_getChar_1 14 rfl rfl)
theorem dJ12_getChar_41 : decode cJ12_getChar 41 = .ok (.iand, 1) := dk_126 (dk_at dksJ12_getChar_1 17 rfl rfl)
theorem dJ12_getChar_42 : decode cJ12_getChar 42 = .ok (.getstatic 59, 3) := dk_178 0 59 (dk_at dksJ12_getChar_1 18 rfl rfl)
theorem dJ12_getChar_45 : decode cJ12_getChar 45 = .ok (.ishl, 1) := dk_120 (dk_at dksJ12_getChar_1 21 rfl rfl)
theorem dJ12_getChar_46 : decode cJ12_getChar 46 = .ok (.aload_n 0, 1) := dk_42 (dk_at dksJ12_getChar_1 22 rfl rfl)
theorem dJ12_getChar_47 : decode cJ12_getChar 47 = .ok (.iload_n 1, 1) := dk_27 (dk_at dksJ12_getChar_1 23 rfl rfl)
theorem dJ12_getChar_48 : decode cJ12_getChar 48 = .ok (.baload, 1) := dk_51 (dk_at dksJ12_getChar_2 0 rfl rfl)
theorem dJ12_getChar_49 : decode cJ12_getChar 49 = .ok (.sipush 255, 3) := dk_17 0 255 (dk_at dksJ12_getChar_2 1 rfl rfl)
theorem dJ12_getChar_52 : decode cJ12_getChar 52 = .ok (.iand, 1) := dk_126 (dk_at dksJ12_getChar_2 4 rfl rfl)
theorem dJ12_getChar_53 : decode cJ12_getChar 53 = .ok (.getstatic 63, 3) := dk_178 0 63 (dk_at dksJ12_getChar_2 5 rfl rfl)
theorem dJ12_getChar_56 : decode cJ12_getChar 56 = .ok (.ishl, 1) := dk_120 (dk_at dksJ12_getChar_2 8 rfl rfl)
theorem dJ12_getChar_57 : decode cJ12_getChar 57 = .ok (.ior, 1) := dk_128 (dk_at dksJ12_getChar_2 9 rfl rfl)
theorem dJ12_getChar_58 : decode cJ12_getChar 58 = .ok (.i2c, 1) := dk_146 (dk_at dksJ12_getChar_2 10 rfl rfl)
theorem dJ12_getChar_59 : decode cJ12_getChar 59 = .ok (.ireturn, 1) := dk_172 (dk_at dksJ12_getChar_2 11 rfl rfl)
abbrev cJ12_coderFromArrayLen : ByteArray := prog_37_method_15_code
def yJ12_coderFromArrayLen : MethodName := ⟨RJ12, "coderFromArrayLen", "([BI)B"⟩
def dkwJ12_coderFromArrayLen_0 : List UInt8 := [27, 42, 190, 100, 16, 31, 124, 145, 172]
abbrev dktJ12_coderFromArrayLen_0 : List UInt8 := dkwJ12_coderFromArrayLen_0 ++ []
theorem dksJ12_coderFromArrayLen_0 : cJ12_coderFromArrayLen.data.toList.drop 0 = dktJ12_coderFromArrayLen_0 := by decide +kernel
theorem dJ12_coderFromArrayLen_0 : decode cJ12_coderFromArrayLen 0 = .ok (.iload_n 1, 1) := dk_27 (dk_at dksJ12_coderFromArrayLen_0 0 rfl rfl)
theorem dJ12_coderFromArrayLen_1 : decode cJ12_coderFromArrayLen 1 = .ok (.aload_n 0, 1) := dk_42 (dk_at dksJ12_coderFromArrayLen_0 1 rfl rfl)
theorem dJ12_coderFromArrayLen_2 : decode cJ12_coderFromArrayLen 2 = .ok (.arraylength, 1) := dk_190 (dk_at dksJ12_coderFromArrayLen_0 2 rfl rfl)
theorem dJ12_coderFromArrayLen_3 : decode cJ12_coderFromArrayLen 3 = .ok (.isub, 1) := dk_100 (dk_at dksJ12_coderFromArrayLen_0 3 rfl rfl)
theorem dJ12_coderFromArrayLen_4 : decode cJ12_coderFromArrayLen 4 = .ok (.bipush 31, 2) := dk_16 31 (dk_at dksJ12_coderFromArrayLen_0 4 rfl rfl)
theorem dJ12_coderFromArrayLen_6 : decode cJ12_coderFromArrayLen 6 = .ok (.iushr, 1) := dk_124 (dk_at dksJ12_coderFromArrayLen_0 6 rfl rfl)
theorem dJ12_coderFromArrayLen_7 : decode cJ12_coderFromArrayLen 7 = .ok (.i2b, 1) := dk_145 (dk_at dksJ12_coderFromArrayLen_0 7 rfl rfl)
theorem dJ12_coderFromArrayLen_8 : decode cJ12_coderFromArrayLen 8 = .ok (.ireturn, 1) := dk_172 (dk_at dksJ12_coderFromArrayLen_0 8 rfl rfl)
abbrev cJ12_charAt : ByteArray := prog_37_method_83_code
def yJ12_charAt : MethodName := ⟨RJ12, "charAt", "([BI)C"⟩
def dkwJ12_charAt_0 : List UInt8 := [27, 42, 184, 0, 67, 42, 27, 184, 0, 71, 172]
abbrev dktJ12_charAt_0 : List UInt8 := dkwJ12_charAt_0 ++ []
theorem dksJ12_charAt_0 : cJ12_charAt.data.toList.drop 0 = dktJ12_charAt_0 := by decide +kernel
theorem dJ12_charAt_0 : decode cJ12_charAt 0 = .ok (.iload_n 1, 1) := dk_27 (dk_at dksJ12_charAt_0 0 rfl rfl)
theorem dJ12_charAt_1 : decode cJ12_charAt 1 = .ok (.aload_n 0, 1) := dk_42 (dk_at dksJ12_charAt_0 1 rfl rfl)
theorem dJ12_charAt_2 : decode cJ12_charAt 2 = .ok (.invokestatic 67, 3) := dk_184 0 67 (dk_at dksJ12_charAt_0 2 rfl rfl)
theorem dJ12_charAt_5 : decode cJ12_charAt 5 = .ok (.aload_n 0, 1) := dk_42 (dk_at dksJ12_charAt_0 5 rfl rfl)
theorem dJ12_charAt_6 : decode cJ12_charAt 6 = .ok (.iload_n 1, 1) := dk_27 (dk_at dksJ12_charAt_0 6 rfl rfl)
theorem dJ12_charAt_7 : decode cJ12_charAt 7 = .ok (.invokestatic 71, 3) := dk_184 0 71 (dk_at dksJ12_charAt_0 7 rfl rfl)
theorem dJ12_charAt_10 : decode cJ12_charAt 10 = .ok (.ireturn, 1) := dk_172 (dk_at dksJ12_charAt_0 10 rfl rfl)
abbrev cJ12_hashCode : ByteArray := prog_37_method_39_code
def yJ12_hashCode : MethodName := ⟨RJ12, "hashCode", "([B)I"⟩
def dkwJ12_hashCode_2 : List UInt8 := [3, 167, 0, 22, 42, 3, 184, 0, 71, 167, 0, 14, 42, 3, 42, 190, 4, 122, 3, 8, 184, 0, 220, 172]
abbrev dktJ12_hashCode_2 : List UInt8 := dkwJ12_hashCode_2 ++ []
def dkwJ12_hashCode_1 : List UInt8 := [171, 0, 0, 0, 0, 38, 0, 0, 0, 2, 0, 0, 0, 0, 0, 0, 0, 26, 0, 0, 0, 2, 0, 0, 0, 30]
abbrev dktJ12_hashCode_1 : List UInt8 := dkwJ12_hashCode_1 ++ dktJ12_hashCode_2
def dkwJ12_hashCode_0 : List UInt8 := [42, 190]
abbrev dktJ12_hashCode_0 : List UInt8 := dkwJ12_hashCode_0 ++ dktJ12_hashCode_1
theorem dksJ12_hashCode_0 : cJ12_hashCode.data.toList.drop 0 = dktJ12_hashCode_0 := by decide +kernel
theorem dksJ12_hashCode_1 : cJ12_hashCode.data.toList.drop 2 = dktJ12_hashCode_1 := dk_seg dksJ12_hashCode_0 2 rfl rfl
theorem dksJ12_hashCode_2 : cJ12_hashCode.data.toList.drop 28 = dktJ12_hashCode_2 := dk_seg dksJ12_hashCode_1 26 rfl rfl
theorem dJ12_hashCode_0 : decode cJ12_hashCode 0 = .ok (.aload_n 0, 1) := dk_42 (dk_at dksJ12_hashCode_0 0 rfl rfl)
theorem dJ12_hashCode_1 : decode cJ12_hashCode 1 = .ok (.arraylength, 1) := dk_190 (dk_at dksJ12_hashCode_0 1 rfl rfl)
theorem dJ12_hashCode_2 : decode cJ12_hashCode 2 = .ok (.lookupswitch 38 #[(0, 26), (2, 30)], 26) := by decide +kernel
theorem dJ12_hashCode_28 : decode cJ12_hashCode 28 = .ok (.iconst 0, 1) := dk_3 (dk_at dksJ12_hashCode_2 0 rfl rfl)
theorem dJ12_hashCode_29 : decode cJ12_hashCode 29 = .ok (.goto 22, 3) := dk_167 0 22 (dk_at dksJ12_hashCode_2 1 rfl rfl)
theorem dJ12_hashCode_32 : decode cJ12_hashCode 32 = .ok (.aload_n 0, 1) := dk_42 (dk_at dksJ12_hashCode_2 4 rfl rfl)
theorem dJ12_hashCode_33 : decode cJ12_hashCode 33 = .ok (.iconst 0, 1) := dk_3 (dk_at dksJ12_hashCode_2 5 rfl rfl)
theorem dJ12_hashCode_34 : decode cJ12_hashCode 34 = .ok (.invokestatic 71, 3) := dk_184 0 71 (dk_at dksJ12_hashCode_2 6 rfl rfl)
theorem dJ12_hashCode_37 : decode cJ12_hashCode 37 = .ok (.goto 14, 3) := dk_167 0 14 (dk_at dksJ12_hashCode_2 9 rfl rfl)
theorem dJ12_hashCode_40 : decode cJ12_hashCode 40 = .ok (.aload_n 0, 1) := dk_42 (dk_at dksJ12_hashCode_2 12 rfl rfl)
theorem dJ12_hashCode_41 : decode cJ12_hashCode 41 = .ok (.iconst 0, 1) := dk_3 (dk_at dksJ12_hashCode_2 13 rfl rfl)
theorem dJ12_hashCode_42 : decode cJ12_hashCode 42 = .ok (.aload_n 0, 1) := dk_42 (dk_at dksJ12_hashCode_2 14 rfl rfl)
theorem dJ12_hashCode_43 : decode cJ12_hashCode 43 = .ok (.arraylength, 1) := dk_190 (dk_at dksJ12_hashCode_2 15 rfl rfl)
theorem dJ12_hashCode_44 : decode cJ12_hashCode 44 = .ok (.iconst 1, 1) := dk_4 (dk_at dksJ12_hashCode_2 16 rfl rfl)
theorem dJ12_hashCode_45 : decode cJ12_hashCode 45 = .ok (.ishr, 1) := dk_122 (dk_at dksJ12_hashCode_2 17 rfl rfl)
theorem dJ12_hashCode_46 : decode cJ12_hashCode 46 = .ok (.iconst 0, 1) := dk_3 (dk_at dksJ12_hashCode_2 18 rfl rfl)
theorem dJ12_hashCode_47 : decode cJ12_hashCode 47 = .ok (.iconst 5, 1) := dk_8 (dk_at dksJ12_hashCode_2 19 rfl rfl)
theorem dJ12_hashCode_48 : decode cJ12_hashCode 48 = .ok (.invokestatic 220, 3) := dk_184 0 220 (dk_at dksJ12_hashCode_2 20 rfl rfl)
theorem dJ12_hashCode_51 : decode cJ12_hashCode 51 = .ok (.ireturn, 1) := dk_172 (dk_at dksJ12_hashCode_2 23 rfl rfl)
abbrev cJ12_fillNull : ByteArray := prog_37_method_70_code
def yJ12_fillNull : MethodName := ⟨RJ12, "fillNull", "([BII)V"⟩
def dkwJ12_fillNull_0 : List UInt8 := [42, 27, 4, 120, 28, 4, 120, 3, 184, 1, 124, 177]
abbrev dktJ12_fillNull_0 : List UInt8 := dkwJ12_fillNull_0 ++ []
theorem dksJ12_fillNull_0 : cJ12_fillNull.data.toList.drop 0 = dktJ12_fillNull_0 := by decide +kernel
theorem dJ12_fillNull_0 : decode cJ12_fillNull 0 = .ok (.aload_n 0, 1) := dk_42 (dk_at dksJ12_fillNull_0 0 rfl rfl)
theorem dJ12_fillNull_1 : decode cJ12_fillNull 1 = .ok (.iload_n 1, 1) := dk_27 (dk_at dksJ12_fillNull_0 1 rfl rfl)
theorem dJ12_fillNull_2 : decode cJ12_fillNull 2 = .ok (.iconst 1, 1) := dk_4 (dk_at dksJ12_fillNull_0 2 rfl rfl)
theorem dJ12_fillNull_3 : decode cJ12_fillNull 3 = .ok (.ishl, 1) := dk_120 (dk_at dksJ12_fillNull_0 3 rfl rfl)
theorem dJ12_fillNull_4 : decode cJ12_fillNull 4 = .ok (.iload_n 2, 1) := dk_28 (dk_at dksJ12_fillNull_0 4 rfl rfl)
theorem dJ12_fillNull_5 : decode cJ12_fillNull 5 = .ok (.iconst 1, 1) := dk_4 (dk_at dksJ12_fillNull_0 5 rfl rfl)
theorem dJ12_fillNull_6 : decode cJ12_fillNull 6 = .ok (.ishl, 1) := dk_120 (dk_at dksJ12_fillNull_0 6 rfl rfl)
theorem dJ12_fillNull_7 : decode cJ12_fillNull 7 = .ok (.iconst 0, 1) := dk_3 (dk_at dksJ12_fillNull_0 7 rfl rfl)
theorem dJ12_fillNull_8 : decode cJ12_fillNull 8 = .ok (.invokestatic 380, 3) := dk_184 1 124 (dk_at dksJ12_fillNull_0 8 rfl rfl)
theorem dJ12_fillNull_11 : decode cJ12_fillNull 11 = .ok (.return_, 1) := dk_177 (dk_at dksJ12_fillNull_0 11 rfl rfl)
theorem q134 : (Jvm.Cond.initialized "java/lang/StringUTF16") ∈ lw_all := lw_g (lw_at lw_m1 21 rfl) rfl
theorem q454 : (Jvm.Cond.static ({ cls := "java/lang/StringUTF16", name := "newBytesFor", desc := "(I)[B" } : Jvm.MethodName)) ∈ lw_all := lw_g (lw_at lw_m2 101 rfl) rfl
theorem q455 : (Jvm.Cond.code ({ cls := "java/lang/StringUTF16", name := "newBytesFor", desc := "(I)[B" } : Jvm.MethodName) prog_37_method_2_code (1 : Nat) (Option.some (Jvm.ClassFile.FieldType.array Jvm.ClassFile.FieldType.byte))) ∈ lw_all := lw_g (lw_at lw_m2 102 rfl) rfl
theorem q456 : (Jvm.Cond.methodLink "java/lang/StringUTF16" (11 : Nat) ({ cls := "java/lang/StringUTF16", name := "newBytesLength", desc := "(I)I" } : Jvm.MethodName)) ∈ lw_all := lw_g (lw_at lw_m2 103 rfl) rfl
theorem q457 : (Jvm.Cond.static ({ cls := "java/lang/StringUTF16", name := "newBytesLength", desc := "(I)I" } : Jvm.MethodName)) ∈ lw_all := lw_g (lw_at lw_m2 104 rfl) rfl
theorem q458 : (Jvm.Cond.code ({ cls := "java/lang/StringUTF16", name := "newBytesLength", desc := "(I)I" } : Jvm.MethodName) prog_37_method_3_code (1 : Nat) (Option.some Jvm.ClassFile.FieldType.int)) ∈ lw_all := lw_g (lw_at lw_m2 105 rfl) rfl
theorem q459 : (Jvm.Cond.constant "java/lang/StringUTF16" (20 : Nat) (1073741823 : Int32)) ∈ lw_all := lw_g (lw_at lw_m2 106 rfl) rfl
theorem q770 : (Jvm.Cond.static ({ cls := "java/lang/StringUTF16", name := "inflate", desc := "([BI[BII)V" } : Jvm.MethodName)) ∈ lw_all := lw_g (lw_at lw_m3 177 rfl) rfl
theorem q771 : (Jvm.Cond.code ({ cls := "java/lang/StringUTF16", name := "inflate", desc := "([BI[BII)V" } : Jvm.MethodName) prog_37_method_86_code (6 : Nat) (Option.none : Option Jvm.ClassFile.FieldType)) ∈ lw_all := lw_g (lw_at lw_m3 178 rfl) rfl
theorem q772 : (Jvm.Cond.methodLink "java/lang/StringUTF16" (173 : Nat) ({ cls := "java/lang/StringUTF16", name := "checkBoundsOffCount", desc := "(II[B)V" } : Jvm.MethodName)) ∈ lw_all := lw_g (lw_at lw_m3 179 rfl) rfl
theorem q773 : (Jvm.Cond.static ({ cls := "java/lang/StringUTF16", name := "checkBoundsOffCount", desc := "(II[B)V" } : Jvm.MethodName)) ∈ lw_all := lw_g (lw_at lw_m3 180 rfl) rfl
theorem q774 : (Jvm.Cond.code ({ cls := "java/lang/StringUTF16", name := "checkBoundsOffCount", desc := "(II[B)V" } : Jvm.MethodName) prog_37_method_94_code (3 : Nat) (Option.none : Option Jvm.ClassFile.FieldType)) ∈ lw_all := lw_g (lw_at lw_m3 181 rfl) rfl
theorem q775 : (Jvm.Cond.methodLink "java/lang/StringUTF16" (48 : Nat) ({ cls := "java/lang/StringUTF16", name := "length", desc := "([B)I" } : Jvm.MethodName)) ∈ lw_all := lw_g (lw_at lw_m3 182 rfl) rfl
theorem q776 : (Jvm.Cond.static ({ cls := "java/lang/StringUTF16", name := "length", desc := "([B)I" } : Jvm.MethodName)) ∈ lw_all := lw_g (lw_at lw_m3 183 rfl) rfl
theorem q777 : (Jvm.Cond.code ({ cls := "java/lang/StringUTF16", name := "length", desc := "([B)I" } : Jvm.MethodName) prog_37_method_6_code (1 : Nat) (Option.some Jvm.ClassFile.FieldType.int)) ∈ lw_all := lw_g (lw_at lw_m3 184 rfl) rfl
theorem q778 : (Jvm.Cond.methodLink "java/lang/StringUTF16" (419 : Nat) ({ cls := "java/lang/String", name := "checkBoundsOffCount", desc := "(III)I" } : Jvm.MethodName)) ∈ lw_all := lw_g (lw_at lw_m3 185 rfl) rfl
theorem q786 : (Jvm.Cond.methodLink "java/lang/StringUTF16" (111 : Nat) ({ cls := "java/lang/StringUTF16", name := "putChar", desc := "([BII)V" } : Jvm.MethodName)) ∈ lw_all := lw_g (lw_at lw_m3 193 rfl) rfl
theorem q787 : (Jvm.Cond.static ({ cls := "java/lang/StringUTF16", name := "putChar", desc := "([BII)V" } : Jvm.MethodName)) ∈ lw_all := lw_g (lw_at lw_m3 194 rfl) rfl
theorem q788 : (Jvm.Cond.code ({ cls := "java/lang/StringUTF16", name := "putChar", desc := "([BII)V" } : Jvm.MethodName) prog_37_method_4_code (3 : Nat) (Option.none : Option Jvm.ClassFile.FieldType)) ∈ lw_all := lw_g (lw_at lw_m3 195 rfl) rfl
theorem q789 : (Jvm.Cond.fieldLink "java/lang/StringUTF16" (44 : Nat) "java/lang/StringUTF16" "$assertionsDisabled" "Z") ∈ lw_all := lw_g (lw_at lw_m3 196 rfl) rfl
theorem q790 : (Jvm.Cond.laysStatic "java/lang/StringUTF16" "$assertionsDisabled" "Z") ∈ lw_tbl := lw_at lw_m3 197 rfl
theorem q791 : (Jvm.Cond.fieldLink "java/lang/StringUTF16" (59 : Nat) "java/lang/StringUTF16" "HI_BYTE_SHIFT" "I") ∈ lw_all := lw_g (lw_at lw_m3 198 rfl) rfl
theorem q792 : (Jvm.Cond.laysStatic "java/lang/StringUTF16" "HI_BYTE_SHIFT" "I") ∈ lw_tbl := lw_at lw_m3 199 rfl
theorem q793 : (Jvm.Cond.fieldLink "java/lang/StringUTF16" (63 : Nat) "java/lang/StringUTF16" "LO_BYTE_SHIFT" "I") ∈ lw_all := lw_g (lw_at lw_m3 200 rfl) rfl
theorem q794 : (Jvm.Cond.laysStatic "java/lang/StringUTF16" "LO_BYTE_SHIFT" "I") ∈ lw_tbl := lw_at lw_m3 201 rfl
theorem q796 : (Jvm.Cond.static ({ cls := "java/lang/StringUTF16", name := "putCharSB", desc := "([BII)V" } : Jvm.MethodName)) ∈ lw_all := lw_g (lw_at lw_m3 203 rfl) rfl
theorem q797 : (Jvm.Cond.code ({ cls := "java/lang/StringUTF16", name := "putCharSB", desc := "([BII)V" } : Jvm.MethodName) prog_37_method_71_code (3 : Nat) (Option.none : Option Jvm.ClassFile.FieldType)) ∈ lw_all := lw_g (lw_at lw_m3 204 rfl) rfl
theorem q798 : (Jvm.Cond.methodLink "java/lang/StringUTF16" (67 : Nat) ({ cls := "java/lang/StringUTF16", name := "checkIndex", desc := "(I[B)V" } : Jvm.MethodName)) ∈ lw_all := lw_g (lw_at lw_m3 205 rfl) rfl
theorem q799 : (Jvm.Cond.static ({ cls := "java/lang/StringUTF16", name := "checkIndex", desc := "(I[B)V" } : Jvm.MethodName)) ∈ lw_all := lw_g (lw_at lw_m3 206 rfl) rfl
theorem q800 : (Jvm.Cond.code ({ cls := "java/lang/StringUTF16", name := "checkIndex", desc := "(I[B)V" } : Jvm.MethodName) prog_37_method_91_code (2 : Nat) (Option.none : Option Jvm.ClassFile.FieldType)) ∈ lw_all := lw_g (lw_at lw_m3 207 rfl) rfl
theorem q801 : (Jvm.Cond.methodLink "java/lang/StringUTF16" (414 : Nat) ({ cls := "java/lang/String", name := "checkIndex", desc := "(II)V" } : Jvm.MethodName)) ∈ lw_all := lw_g (lw_at lw_m3 208 rfl) rfl
theorem q899 : (Jvm.Cond.static ({ cls := "java/lang/StringUTF16", name := "putCharsAt", desc := "([BICCCC)I" } : Jvm.MethodName)) ∈ lw_all := lw_g (lw_at lw_m4 66 rfl) rfl
theorem q900 : (Jvm.Cond.code ({ cls := "java/lang/StringUTF16", name := "putCharsAt", desc := "([BICCCC)I" } : Jvm.MethodName) prog_37_method_81_code (7 : Nat) (Option.some Jvm.ClassFile.FieldType.int)) ∈ lw_all := lw_g (lw_at lw_m4 67 rfl) rfl
theorem q901 : (Jvm.Cond.methodLink "java/lang/StringUTF16" (96 : Nat) ({ cls := "java/lang/StringUTF16", name := "checkBoundsBeginEnd", desc := "(II[B)V" } : Jvm.MethodName)) ∈ lw_all := lw_g (lw_at lw_m4 68 rfl) rfl
theorem q902 : (Jvm.Cond.static ({ cls := "java/lang/StringUTF16", name := "checkBoundsBeginEnd", desc := "(II[B)V" } : Jvm.MethodName)) ∈ lw_all := lw_g (lw_at lw_m4 69 rfl) rfl
theorem q903 : (Jvm.Cond.code ({ cls := "java/lang/StringUTF16", name := "checkBoundsBeginEnd", desc := "(II[B)V" } : Jvm.MethodName) prog_37_method_93_code (3 : Nat) (Option.none : Option Jvm.ClassFile.FieldType)) ∈ lw_all := lw_g (lw_at lw_m4 70 rfl) rfl
theorem q904 : (Jvm.Cond.methodLink "java/lang/StringUTF16" (241 : Nat) ({ cls := "java/lang/String", name := "checkBoundsBeginEnd", desc := "(III)V" } : Jvm.MethodName)) ∈ lw_all := lw_g (lw_at lw_m4 71 rfl) rfl
theorem q952 : (Jvm.Cond.static ({ cls := "java/lang/StringUTF16", name := "getChars", desc := "(III[B)I" } : Jvm.MethodName)) ∈ lw_all := lw_g (lw_at lw_m4 119 rfl) rfl
theorem q953 : (Jvm.Cond.code ({ cls := "java/lang/StringUTF16", name := "getChars", desc := "(III[B)I" } : Jvm.MethodName) prog_37_method_77_code (5 : Nat) (Option.some Jvm.ClassFile.FieldType.int)) ∈ lw_all := lw_g (lw_at lw_m4 120 rfl) rfl
theorem q954 : (Jvm.Cond.methodLink "java/lang/StringUTF16" (393 : Nat) ({ cls := "java/lang/StringUTF16", name := "getChars", desc := "(II[B)I" } : Jvm.MethodName)) ∈ lw_all := lw_g (lw_at lw_m4 121 rfl) rfl
theorem q955 : (Jvm.Cond.static ({ cls := "java/lang/StringUTF16", name := "getChars", desc := "(II[B)I" } : Jvm.MethodName)) ∈ lw_all := lw_g (lw_at lw_m4 122 rfl) rfl
theorem q956 : (Jvm.Cond.code ({ cls := "java/lang/StringUTF16", name := "getChars", desc := "(II[B)I" } : Jvm.MethodName) prog_37_method_89_code (7 : Nat) (Option.some Jvm.ClassFile.FieldType.int)) ∈ lw_all := lw_g (lw_at lw_m4 123 rfl) rfl
theorem q957 : (Jvm.Cond.fieldLink "java/lang/StringUTF16" (403 : Nat) "java/lang/Integer" "DigitOnes" "[B") ∈ lw_all := lw_g (lw_at lw_m4 124 rfl) rfl
theorem q958 : (Jvm.Cond.fieldLink "java/lang/StringUTF16" (407 : Nat) "java/lang/Integer" "DigitTens" "[B") ∈ lw_all := lw_g (lw_at lw_m4 125 rfl) rfl
theorem q1018 : (Jvm.Cond.static ({ cls := "java/lang/StringUTF16", name := "compress", desc := "([BII)[B" } : Jvm.MethodName)) ∈ lw_all := lw_g (lw_at lw_m4 185 rfl) rfl
theorem q1019 : (Jvm.Cond.code ({ cls := "java/lang/StringUTF16", name := "compress", desc := "([BII)[B" } : Jvm.MethodName) prog_37_method_17_code (6 : Nat) (Option.some (Jvm.ClassFile.FieldType.array Jvm.ClassFile.FieldType.byte))) ∈ lw_all := lw_g (lw_at lw_m4 186 rfl) rfl
theorem q1020 : (Jvm.Cond.methodLink "java/lang/StringUTF16" (123 : Nat) ({ cls := "java/lang/StringUTF16", name := "compress", desc := "([BI[BII)I" } : Jvm.MethodName)) ∈ lw_all := lw_g (lw_at lw_m4 187 rfl) rfl
theorem q1021 : (Jvm.Cond.static ({ cls := "java/lang/StringUTF16", name := "compress", desc := "([BI[BII)I" } : Jvm.MethodName)) ∈ lw_all := lw_g (lw_at lw_m4 188 rfl) rfl
theorem q1022 : (Jvm.Cond.code ({ cls := "java/lang/StringUTF16", name := "compress", desc := "([BI[BII)I" } : Jvm.MethodName) prog_37_method_22_code (7 : Nat) (Option.some Jvm.ClassFile.FieldType.int)) ∈ lw_all := lw_g (lw_at lw_m4 189 rfl) rfl
theorem q1023 : (Jvm.Cond.methodLink "java/lang/StringUTF16" (71 : Nat) ({ cls := "java/lang/StringUTF16", name := "getChar", desc := "([BI)C" } : Jvm.MethodName)) ∈ lw_all := lw_g (lw_at lw_m4 190 rfl) rfl
theorem q1024 : (Jvm.Cond.static ({ cls := "java/lang/StringUTF16", name := "getChar", desc := "([BI)C" } : Jvm.MethodName)) ∈ lw_all := lw_g (lw_at lw_m4 191 rfl) rfl
theorem q1025 : (Jvm.Cond.code ({ cls := "java/lang/StringUTF16", name := "getChar", desc := "([BI)C" } : Jvm.MethodName) prog_37_method_5_code (2 : Nat) (Option.some Jvm.ClassFile.FieldType.char)) ∈ lw_all := lw_g (lw_at lw_m4 192 rfl) rfl
theorem q1026 : (Jvm.Cond.methodLink "java/lang/StringUTF16" (126 : Nat) ({ cls := "java/util/Arrays", name := "copyOfRange", desc := "([BII)[B" } : Jvm.MethodName)) ∈ lw_all := lw_g (lw_at lw_m4 193 rfl) rfl
theorem q1028 : (Jvm.Cond.static ({ cls := "java/lang/StringUTF16", name := "coderFromArrayLen", desc := "([BI)B" } : Jvm.MethodName)) ∈ lw_all := lw_g (lw_at lw_m4 195 rfl) rfl
theorem q1029 : (Jvm.Cond.code ({ cls := "java/lang/StringUTF16", name := "coderFromArrayLen", desc := "([BI)B" } : Jvm.MethodName) prog_37_method_15_code (2 : Nat) (Option.some Jvm.ClassFile.FieldType.byte)) ∈ lw_all := lw_g (lw_at lw_m4 196 rfl) rfl
theorem q1626 : (Jvm.Cond.static ({ cls := "java/lang/StringUTF16", name := "charAt", desc := "([BI)C" } : Jvm.MethodName)) ∈ lw_all := lw_g (lw_at lw_m7 73 rfl) rfl
theorem q1627 : (Jvm.Cond.code ({ cls := "java/lang/StringUTF16", name := "charAt", desc := "([BI)C" } : Jvm.MethodName) prog_37_method_83_code (2 : Nat) (Option.some Jvm.ClassFile.FieldType.char)) ∈ lw_all := lw_g (lw_at lw_m7 74 rfl) rfl
theorem q1697 : (Jvm.Cond.static ({ cls := "java/lang/StringUTF16", name := "hashCode", desc := "([B)I" } : Jvm.MethodName)) ∈ lw_all := lw_g (lw_at lw_m7 144 rfl) rfl
theorem q1698 : (Jvm.Cond.code ({ cls := "java/lang/StringUTF16", name := "hashCode", desc := "([B)I" } : Jvm.MethodName) prog_37_method_39_code (1 : Nat) (Option.some Jvm.ClassFile.FieldType.int)) ∈ lw_all := lw_g (lw_at lw_m7 145 rfl) rfl
theorem q1699 : (Jvm.Cond.methodLink "java/lang/StringUTF16" (220 : Nat) ({ cls := "jdk/internal/util/ArraysSupport", name := "vectorizedHashCode", desc := "(Ljava/lang/Object;IIII)I" } : Jvm.MethodName)) ∈ lw_all := lw_g (lw_at lw_m7 146 rfl) rfl
theorem q1817 : (Jvm.Cond.static ({ cls := "java/lang/StringUTF16", name := "fillNull", desc := "([BII)V" } : Jvm.MethodName)) ∈ lw_all := lw_g (lw_at lw_m8 24 rfl) rfl
theorem q1818 : (Jvm.Cond.code ({ cls := "java/lang/StringUTF16", name := "fillNull", desc := "([BII)V" } : Jvm.MethodName) prog_37_method_70_code (3 : Nat) (Option.none : Option Jvm.ClassFile.FieldType)) ∈ lw_all := lw_g (lw_at lw_m8 25 rfl) rfl
theorem q1819 : (Jvm.Cond.methodLink "java/lang/StringUTF16" (380 : Nat) ({ cls := "java/util/Arrays", name := "fill", desc := "([BIIB)V" } : Jvm.MethodName)) ∈ lw_all := lw_g (lw_at lw_m8 26 rfl) rfl

/-! java/util/AbstractList -/
set_option maxRecDepth 100000
def RJ13 : String := "java/util/AbstractList"
abbrev cJ13_init : ByteArray := prog_45_method_1_code
def yJ13_init : MethodName := ⟨RJ13, "<init>", "()V"⟩
def dkwJ13_init_0 : List UInt8 := [42, 183, 0, 1, 42, 3, 181, 0, 7, 177]
abbrev dktJ13_init_0 : List UInt8 := dkwJ13_init_0 ++ []
theorem dksJ13_init_0 : cJ13_init.data.toList.drop 0 = dktJ13_init_0 := by decide +kernel
theorem dJ13_init_0 : decode cJ13_init 0 = .ok (.aload_n 0, 1) := dk_42 (dk_at dksJ13_init_0 0 rfl rfl)
theorem dJ13_init_1 : decode cJ13_init 1 = .ok (.invokespecial 1, 3) := dk_183 0 1 (dk_at dksJ13_init_0 1 rfl rfl)
theorem dJ13_init_4 : decode cJ13_init 4 = .ok (.aload_n 0, 1) := dk_42 (dk_at dksJ13_init_0 4 rfl rfl)
theorem dJ13_init_5 : decode cJ13_init 5 = .ok (.iconst 0, 1) := dk_3 (dk_at dksJ13_init_0 5 rfl rfl)
theorem dJ13_init_6 : decode cJ13_init 6 = .ok (.putfield 7, 3) := dk_181 0 7 (dk_at dksJ13_init_0 6 rfl rfl)
theorem dJ13_init_9 : decode cJ13_init 9 = .ok (.return_, 1) := dk_177 (dk_at dksJ13_init_0 9 rfl rfl)
abbrev cJ13_listIterator : ByteArray := prog_45_method_12_code
def yJ13_listIterator : MethodName := ⟨RJ13, "listIterator", "()Ljava/util/ListIterator;"⟩
def dkwJ13_listIterator_0 : List UInt8 := [42, 3, 182, 0, 47, 176]
abbrev dktJ13_listIterator_0 : List UInt8 := dkwJ13_listIterator_0 ++ []
theorem dksJ13_listIterator_0 : cJ13_listIterator.data.toList.drop 0 = dktJ13_listIterator_0 := by decide +kernel
theorem dJ13_listIterator_0 : decode cJ13_listIterator 0 = .ok (.aload_n 0, 1) := dk_42 (dk_at dksJ13_listIterator_0 0 rfl rfl)
theorem dJ13_listIterator_1 : decode cJ13_listIterator 1 = .ok (.iconst 0, 1) := dk_3 (dk_at dksJ13_listIterator_0 1 rfl rfl)
theorem dJ13_listIterator_2 : decode cJ13_listIterator 2 = .ok (.invokevirtual 47, 3) := dk_182 0 47 (dk_at dksJ13_listIterator_0 2 rfl rfl)
theorem dJ13_listIterator_5 : decode cJ13_listIterator 5 = .ok (.areturn, 1) := dk_176 (dk_at dksJ13_listIterator_0 5 rfl rfl)
theorem q135 : (Jvm.Cond.initialized "java/util/AbstractList") ∈ lw_all := lw_g (lw_at lw_m1 22 rfl) rfl
theorem q483 : (Jvm.Cond.instanceMethod ({ cls := "java/util/AbstractList", name := "<init>", desc := "()V" } : Jvm.MethodName)) ∈ lw_all := lw_g (lw_at lw_m2 130 rfl) rfl
theorem q484 : (Jvm.Cond.code ({ cls := "java/util/AbstractList", name := "<init>", desc := "()V" } : Jvm.MethodName) prog_45_method_1_code (1 : Nat) (Option.none : Option Jvm.ClassFile.FieldType)) ∈ lw_all := lw_g (lw_at lw_m2 131 rfl) rfl
theorem q485 : (Jvm.Cond.methodLink "java/util/AbstractList" (1 : Nat) ({ cls := "java/util/AbstractCollection", name := "<init>", desc := "()V" } : Jvm.MethodName)) ∈ lw_all := lw_g (lw_at lw_m2 132 rfl) rfl
theorem q490 : (Jvm.Cond.fieldLink "java/util/AbstractList" (7 : Nat) "java/util/AbstractList" "modCount" "I") ∈ lw_all := lw_g (lw_at lw_m2 137 rfl) rfl
theorem q502 : (Jvm.Cond.soleField "java/util/AbstractList" "modCount") ∈ lw_all := lw_g (lw_at lw_m2 149 rfl) rfl
theorem q1396 : (Jvm.Cond.declares ({ cls := "java/util/AbstractList", name := "listIterator", desc := "()Ljava/util/ListIterator;" } : Jvm.MethodName)) ∈ lw_tbl := lw_at lw_m6 83 rfl
theorem q1398 : (Jvm.Cond.instanceMethod ({ cls := "java/util/AbstractList", name := "listIterator", desc := "()Ljava/util/ListIterator;" } : Jvm.MethodName)) ∈ lw_all := lw_g (lw_at lw_m6 85 rfl) rfl
theorem q1399 : (Jvm.Cond.code ({ cls := "java/util/AbstractList", name := "listIterator", desc := "()Ljava/util/ListIterator;" } : Jvm.MethodName) prog_45_method_12_code (1 : Nat) (Option.some (Jvm.ClassFile.FieldType.object "java/util/ListIterator"))) ∈ lw_all := lw_g (lw_at lw_m6 86 rfl) rfl
theorem q1400 : (Jvm.Cond.methodLink "java/util/AbstractList" (47 : Nat) ({ cls := "java/util/AbstractList", name := "listIterator", desc := "(I)Ljava/util/ListIterator;" } : Jvm.MethodName)) ∈ lw_all := lw_g (lw_at lw_m6 87 rfl) rfl
theorem q1401 : (Jvm.Cond.instanceMethod ({ cls := "java/util/AbstractList", name := "listIterator", desc := "(I)Ljava/util/ListIterator;" } : Jvm.MethodName)) ∈ lw_all := lw_g (lw_at lw_m6 88 rfl) rfl
theorem q1402 : (Jvm.Cond.sameMethod "java/util/AbstractList" "java/util/AbstractList" "listIterator" "(I)Ljava/util/ListIterator;") ∈ lw_all := lw_g (lw_at lw_m6 89 rfl) rfl
theorem q1437 : (Jvm.Cond.declares ({ cls := "java/util/AbstractList", name := "listIterator", desc := "(I)Ljava/util/ListIterator;" } : Jvm.MethodName)) ∈ lw_tbl := lw_at lw_m6 124 rfl
theorem q1449 : (Jvm.Cond.sameMethod "java/util/AbstractList" "java/util/AbstractCollection" "size" "()I") ∈ lw_all := lw_g (lw_at lw_m6 136 rfl) rfl
theorem q1486 : (Jvm.Cond.declares ({ cls := "java/util/AbstractList", name := "get", desc := "(I)Ljava/lang/Object;" } : Jvm.MethodName)) ∈ lw_tbl := lw_at lw_m6 173 rfl
theorem q1487 : (Jvm.Cond.sameMethod "java/util/AbstractList" "java/util/AbstractList" "get" "(I)Ljava/lang/Object;") ∈ lw_all := lw_g (lw_at lw_m6 174 rfl) rfl

/-! java/util/AbstractSequentialList -/
set_option maxRecDepth 100000
def RJ14 : String := "java/util/AbstractSequentialList"
abbrev cJ14_init : ByteArray := prog_48_method_1_code
def yJ14_init : MethodName := ⟨RJ14, "<init>", "()V"⟩
theorem dJ14_init_0 : decode cJ14_init 0 = .ok (.aload_n 0, 1) := by decide +kernel
theorem dJ14_init_1 : decode cJ14_init 1 = .ok (.invokespecial 1, 3) := by decide +kernel
theorem dJ14_init_4 : decode cJ14_init 4 = .ok (.return_, 1) := by decide +kernel
abbrev cJ14_iterator : ByteArray := prog_48_method_7_code
def yJ14_iterator : MethodName := ⟨RJ14, "iterator", "()Ljava/util/Iterator;"⟩
theorem dJ14_iterator_0 : decode cJ14_iterator 0 = .ok (.aload_n 0, 1) := by decide +kernel
theorem dJ14_iterator_1 : decode cJ14_iterator 1 = .ok (.invokevirtual 65, 3) := by decide +kernel
theorem dJ14_iterator_4 : decode cJ14_iterator 4 = .ok (.areturn, 1) := by decide +kernel
theorem q136 : (Jvm.Cond.initialized "java/util/AbstractSequentialList") ∈ lw_all := lw_g (lw_at lw_m1 23 rfl) rfl
theorem q480 : (Jvm.Cond.instanceMethod ({ cls := "java/util/AbstractSequentialList", name := "<init>", desc := "()V" } : Jvm.MethodName)) ∈ lw_all := lw_g (lw_at lw_m2 127 rfl) rfl
theorem q481 : (Jvm.Cond.code ({ cls := "java/util/AbstractSequentialList", name := "<init>", desc := "()V" } : Jvm.MethodName) prog_48_method_1_code (1 : Nat) (Option.none : Option Jvm.ClassFile.FieldType)) ∈ lw_all := lw_g (lw_at lw_m2 128 rfl) rfl
theorem q482 : (Jvm.Cond.methodLink "java/util/AbstractSequentialList" (1 : Nat) ({ cls := "java/util/AbstractList", name := "<init>", desc := "()V" } : Jvm.MethodName)) ∈ lw_all := lw_g (lw_at lw_m2 129 rfl) rfl
theorem q1391 : (Jvm.Cond.instanceMethod ({ cls := "java/util/AbstractSequentialList", name := "iterator", desc := "()Ljava/util/Iterator;" } : Jvm.MethodName)) ∈ lw_all := lw_g (lw_at lw_m6 78 rfl) rfl
theorem q1392 : (Jvm.Cond.publicMethod ({ cls := "java/util/AbstractSequentialList", name := "iterator", desc := "()Ljava/util/Iterator;" } : Jvm.MethodName)) ∈ lw_tbl := lw_at lw_m6 79 rfl
theorem q1393 : (Jvm.Cond.code ({ cls := "java/util/AbstractSequentialList", name := "iterator", desc := "()Ljava/util/Iterator;" } : Jvm.MethodName) prog_48_method_7_code (1 : Nat) (Option.some (Jvm.ClassFile.FieldType.object "java/util/Iterator"))) ∈ lw_all := lw_g (lw_at lw_m6 80 rfl) rfl
theorem q1394 : (Jvm.Cond.methodLink "java/util/AbstractSequentialList" (65 : Nat) ({ cls := "java/util/AbstractSequentialList", name := "listIterator", desc := "()Ljava/util/ListIterator;" } : Jvm.MethodName)) ∈ lw_all := lw_g (lw_at lw_m6 81 rfl) rfl
theorem q1395 : (Jvm.Cond.sameMethod "java/util/AbstractSequentialList" "java/util/AbstractList" "listIterator" "()Ljava/util/ListIterator;") ∈ lw_all := lw_g (lw_at lw_m6 82 rfl) rfl
theorem q1826 : (Jvm.Cond.declares ({ cls := "java/util/AbstractSequentialList", name := "iterator", desc := "()Ljava/util/Iterator;" } : Jvm.MethodName)) ∈ lw_tbl := lw_at lw_m8 33 rfl

/-! java/util/LinkedList -/
set_option maxRecDepth 100000
def RJ15 : String := "java/util/LinkedList"
def TJ15 : u_T := fun k => match k with
  | 0 => ("java/util/AbstractList", "modCount", "I", false)
  | 1 => ("java/util/LinkedList", "size", "I", false)
  | 2 => ("java/util/LinkedList", "first", "Ljava/util/LinkedList$Node;", false)
  | _ => ("java/util/LinkedList", "last", "Ljava/util/LinkedList$Node;", false)
def tyJ15 : Nat → FieldType := fun k => match k with
  | 0 => .int
  | 1 => .int
  | 2 => .object "java/util/LinkedList$Node"
  | _ => .object "java/util/LinkedList$Node"
abbrev wsJ150 : List Cond := u_ws RJ15 TJ15 4
theorem nmJ15 : ∀ a, a < 4 → ∀ b, b < 4 → a ≠ b → (TJ15 a).2.1 ≠ (TJ15 b).2.1 := by decide +kernel
theorem tyJ15_ok : ∀ k, k < 4 → parseFieldDescriptor (TJ15 k).2.2.1 = some (tyJ15 k) := by decide +kernel
abbrev cJ15_init : ByteArray := prog_63_method_1_code
def yJ15_init : MethodName := ⟨RJ15, "<init>", "()V"⟩
def dkwJ15_init_0 : List UInt8 := [42, 183, 0, 1, 42, 3, 181, 0, 7, 177]
abbrev dktJ15_init_0 : List UInt8 := dkwJ15_init_0 ++ []
theorem dksJ15_init_0 : cJ15_init.data.toList.drop 0 = dktJ15_init_0 := by decide +kernel
theorem dJ15_init_0 : decode cJ15_init 0 = .ok (.aload_n 0, 1) := dk_42 (dk_at dksJ15_init_0 0 rfl rfl)
theorem dJ15_init_1 : decode cJ15_init 1 = .ok (.invokespecial 1, 3) := dk_183 0 1 (dk_at dksJ15_init_0 1 rfl rfl)
theorem dJ15_init_4 : decode cJ15_init 4 = .ok (.aload_n 0, 1) := dk_42 (dk_at dksJ15_init_0 4 rfl rfl)
theorem dJ15_init_5 : decode cJ15_init 5 = .ok (.iconst 0, 1) := dk_3 (dk_at dksJ15_init_0 5 rfl rfl)
theorem dJ15_init_6 : decode cJ15_init 6 = .ok (.putfield 7, 3) := dk_181 0 7 (dk_at dksJ15_init_0 6 rfl rfl)
theorem dJ15_init_9 : decode cJ15_init 9 = .ok (.return_, 1) := dk_177 (dk_at dksJ15_init_0 9 rfl rfl)
abbrev cJ15_get : ByteArray := prog_63_method_22_code
def yJ15_get : MethodName := ⟨RJ15, "get", "(I)Ljava/lang/Object;"⟩
def dkwJ15_get_0 : List UInt8 := [42, 27, 182, 0, 90, 42, 27, 182, 0, 86, 180, 0, 39, 176]
abbrev dktJ15_get_0 : List UInt8 := dkwJ15_get_0 ++ []
theorem dksJ15_get_0 : cJ15_get.data.toList.drop 0 = dktJ15_get_0 := by decide +kernel
theorem dJ15_get_0 : decode cJ15_get 0 = .ok (.aload_n 0, 1) := dk_42 (dk_at dksJ15_get_0 0 rfl rfl)
theorem dJ15_get_1 : decode cJ15_get 1 = .ok (.iload_n 1, 1) := dk_27 (dk_at dksJ15_get_0 1 rfl rfl)
theorem dJ15_get_2 : decode cJ15_get 2 = .ok (.invokevirtual 90, 3) := dk_182 0 90 (dk_at dksJ15_get_0 2 rfl rfl)
theorem dJ15_get_5 : decode cJ15_get 5 = .ok (.aload_n 0, 1) := dk_42 (dk_at dksJ15_get_0 5 rfl rfl)
theorem dJ15_get_6 : decode cJ15_get 6 = .ok (.iload_n 1, 1) := dk_27 (dk_at dksJ15_get_0 6 rfl rfl)
theorem dJ15_get_7 : decode cJ15_get 7 = .ok (.invokevirtual 86, 3) := dk_182 0 86 (dk_at dksJ15_get_0 7 rfl rfl)
theorem dJ15_get_10 : decode cJ15_get 10 = .ok (.getfield 39, 3) := dk_180 0 39 (dk_at dksJ15_get_0 10 rfl rfl)
theorem dJ15_get_13 : decode cJ15_get 13 = .ok (.areturn, 1) := dk_176 (dk_at dksJ15_get_0 13 rfl rfl)
abbrev cJ15_checkElementIndex : ByteArray := prog_63_method_29_code
def yJ15_checkElementIndex : MethodName := ⟨RJ15, "checkElementIndex", "(I)V"⟩
def dkwJ15_checkElementIndex_0 : List UInt8 := [42, 27, 182, 0, 115, 154, 0, 16, 187, 0, 119, 89, 42, 27, 182, 0, 121, 183, 0, 125, 191, 177]
abbrev dktJ15_checkElementIndex_0 : List UInt8 := dkwJ15_checkElementIndex_0 ++ []
theorem dksJ15_checkElementIndex_0 : cJ15_checkElementIndex.data.toList.drop 0 = dktJ15_checkElementIndex_0 := by decide +kernel
theorem dJ15_checkElementIndex_0 : decode cJ15_checkElementIndex 0 = .ok (.aload_n 0, 1) := dk_42 (dk_at dksJ15_checkElementIndex_0 0 rfl rfl)
theorem dJ15_checkElementIndex_1 : decode cJ15_checkElementIndex 1 = .ok (.iload_n 1, 1) := dk_27 (dk_at dksJ15_checkElementIndex_0 1 rfl rfl)
theorem dJ15_checkElementIndex_2 : decode cJ15_checkElementIndex 2 = .ok (.invokevirtual 115, 3) := dk_182 0 115 (dk_at dksJ15_checkElementIndex_0 2 rfl rfl)
theorem dJ15_checkElementIndex_5 : decode cJ15_checkElementIndex 5 = .ok (.ifCond .ne 16, 3) := dk_154 0 16 (dk_at dksJ15_checkElementIndex_0 5 rfl rfl)
theorem dJ15_checkElementIndex_8 : decode cJ15_checkElementIndex 8 = .ok (.new 119, 3) := dk_187 0 119 (dk_at dksJ15_checkElementIndex_0 8 rfl rfl)
theorem dJ15_checkElementIndex_11 : decode cJ15_checkElementIndex 11 = .ok (.dup, 1) := dk_89 (dk_at dksJ15_checkElementIndex_0 11 rfl rfl)
theorem dJ15_checkElementIndex_12 : decode cJ15_checkElementIndex 12 = .ok (.aload_n 0, 1) := dk_42 (dk_at dksJ15_checkElementIndex_0 12 rfl rfl)
theorem dJ15_checkElementIndex_13 : decode cJ15_checkElementIndex 13 = .ok (.iload_n 1, 1) := dk_27 (dk_at dksJ15_checkElementIndex_0 13 rfl rfl)
theorem dJ15_checkElementIndex_14 : decode cJ15_checkElementIndex 14 = .ok (.invokevirtual 121, 3) := dk_182 0 121 (dk_at dksJ15_checkElementIndex_0 14 rfl rfl)
theorem dJ15_checkElementIndex_17 : decode cJ15_checkElementIndex 17 = .ok (.invokespecial 125, 3) := dk_183 0 125 (dk_at dksJ15_checkElementIndex_0 17 rfl rfl)
theorem dJ15_checkElementIndex_20 : decode cJ15_checkElementIndex 20 = .ok (.athrow, 1) := dk_191 (dk_at dksJ15_checkElementIndex_0 20 rfl rfl)
theorem dJ15_checkElementIndex_21 : decode cJ15_checkElementIndex 21 = .ok (.return_, 1) := dk_177 (dk_at dksJ15_checkElementIndex_0 21 rfl rfl)
abbrev cJ15_isElementIndex : ByteArray := prog_63_method_26_code
def yJ15_isElementIndex : MethodName := ⟨RJ15, "isElementIndex", "(I)Z"⟩
def dkwJ15_isElementIndex_0 : List UInt8 := [27, 155, 0, 15, 27, 42, 180, 0, 7, 162, 0, 7, 4, 167, 0, 4, 3, 172]
abbrev dktJ15_isElementIndex_0 : List UInt8 := dkwJ15_isElementIndex_0 ++ []
theorem dksJ15_isElementIndex_0 : cJ15_isElementIndex.data.toList.drop 0 = dktJ15_isElementIndex_0 := by decide +kernel
theorem dJ15_isElementIndex_0 : decode cJ15_isElementIndex 0 = .ok (.iload_n 1, 1) := dk_27 (dk_at dksJ15_isElementIndex_0 0 rfl rfl)
theorem dJ15_isElementIndex_1 : decode cJ15_isElementIndex 1 = .ok (.ifCond .lt 15, 3) := dk_155 0 15 (dk_at dksJ15_isElementIndex_0 1 rfl rfl)
theorem dJ15_isElementIndex_4 : decode cJ15_isElementIndex 4 = .ok (.iload_n 1, 1) := dk_27 (dk_at dksJ15_isElementIndex_0 4 rfl rfl)
theorem dJ15_isElementIndex_5 : decode cJ15_isElementIndex 5 = .ok (.aload_n 0, 1) := dk_42 (dk_at dksJ15_isElementIndex_0 5 rfl rfl)
theorem dJ15_isElementIndex_6 : decode cJ15_isElementIndex 6 = .ok (.getfield 7, 3) := dk_180 0 7 (dk_at dksJ15_isElementIndex_0 6 rfl rfl)
theorem dJ15_isElementIndex_9 : decode cJ15_isElementIndex 9 = .ok (.if_icmp .ge 7, 3) := dk_162 0 7 (dk_at dksJ15_isElementIndex_0 9 rfl rfl)
theorem dJ15_isElementIndex_12 : decode cJ15_isElementIndex 12 = .ok (.iconst 1, 1) := dk_4 (dk_at dksJ15_isElementIndex_0 12 rfl rfl)
theorem dJ15_isElementIndex_13 : decode cJ15_isElementIndex 13 = .ok (.goto 4, 3) := dk_167 0 4 (dk_at dksJ15_isElementIndex_0 13 rfl rfl)
theorem dJ15_isElementIndex_16 : decode cJ15_isElementIndex 16 = .ok (.iconst 0, 1) := dk_3 (dk_at dksJ15_isElementIndex_0 16 rfl rfl)
theorem dJ15_isElementIndex_17 : decode cJ15_isElementIndex 17 = .ok (.ireturn, 1) := dk_172 (dk_at dksJ15_isElementIndex_0 17 rfl rfl)
abbrev cJ15_outOfBoundsMsg : ByteArray := prog_63_method_28_code
def yJ15_outOfBoundsMsg : MethodName := ⟨RJ15, "outOfBoundsMsg", "(I)Ljava/lang/String;"⟩
def dkwJ15_outOfBoundsMsg_1 : List UInt8 := [180, 0, 7, 182, 0, 106, 182, 0, 111, 176]
abbrev dktJ15_outOfBoundsMsg_1 : List UInt8 := dkwJ15_outOfBoundsMsg_1 ++ []
def dkwJ15_outOfBoundsMsg_0 : List UInt8 := [187, 0, 97, 89, 183, 0, 99, 18, 100, 182, 0, 102, 27, 182, 0, 106, 18, 109, 182, 0, 102, 42]
abbrev dktJ15_outOfBoundsMsg_0 : List UInt8 := dkwJ15_outOfBoundsMsg_0 ++ dktJ15_outOfBoundsMsg_1
theorem dksJ15_outOfBoundsMsg_0 : cJ15_outOfBoundsMsg.data.toList.drop 0 = dktJ15_outOfBoundsMsg_0 := by decide +kernel
theorem dksJ15_outOfBoundsMsg_1 : cJ15_outOfBoundsMsg.data.toList.drop 22 = dktJ15_outOfBoundsMsg_1 := dk_seg dksJ15_outOfBoundsMsg_0 22 rfl rfl
theorem dJ15_outOfBoundsMsg_0 : decode cJ15_outOfBoundsMsg 0 = .ok (.new 97, 3) := dk_187 0 97 (dk_at dksJ15_outOfBoundsMsg_0 0 rfl rfl)
theorem dJ15_outOfBoundsMsg_3 : decode cJ15_outOfBoundsMsg 3 = .ok (.dup, 1) := dk_89 (dk_at dksJ15_outOfBoundsMsg_0 3 rfl rfl)
theorem dJ15_outOfBoundsMsg_4 : decode cJ15_outOfBoundsMsg 4 = .ok (.invokespecial 99, 3) := dk_183 0 99 (dk_at dksJ15_outOfBoundsMsg_0 4 rfl rfl)
theorem dJ15_outOfBoundsMsg_7 : decode cJ15_outOfBoundsMsg 7 = .ok (.ldc 100, 2) := dk_18 100 (dk_at dksJ15_outOfBoundsMsg_0 7 rfl rfl)
theorem dJ15_outOfBoundsMsg_9 : decode cJ15_outOfBoundsMsg 9 = .ok (.invokevirtual 102, 3) := dk_182 0 102 (dk_at dksJ15_outOfBoundsMsg_0 9 rfl rfl)
theorem dJ15_outOfBoundsMsg_12 : decode cJ15_outOfBoundsMsg 12 = .ok (.iload_n 1, 1) := dk_27 (dk_at dksJ15_outOfBoundsMsg_0 12 rfl rfl)
theorem dJ15_outOfBoundsMsg_13 : decode cJ15_outOfBoundsMsg 13 = .ok (.invokevirtual 106, 3) := dk_182 0 106 (dk_at dksJ15_outOfBoundsMsg_0 13 rfl rfl)
theorem dJ15_outOfBoundsMsg_16 : decode cJ15_outOfBoundsMsg 16 = .ok (.ldc 109, 2) := dk_18 109 (dk_at dksJ15_outOfBoundsMsg_0 16 rfl rfl)
theorem dJ15_outOfBoundsMsg_18 : decode cJ15_outOfBoundsMsg 18 = .ok (.invokevirtual 102, 3) := dk_182 0 102 (dk_at dksJ15_outOfBoundsMsg_0 18 rfl rfl)
theorem dJ15_outOfBoundsMsg_21 : decode cJ15_outOfBoundsMsg 21 = .ok (.aload_n 0, 1) := dk_42 (dk_at dksJ15_outOfBoundsMsg_0 21 rfl rfl)
theorem dJ15_outOfBoundsMsg_22 : decode cJ15_outOfBoundsMsg 22 = .ok (.getfield 7, 3) := dk_180 0 7 (dk_at dksJ15_outOfBoundsMsg_1 0 rfl rfl)
theorem dJ15_outOfBoundsMsg_25 : decode cJ15_outOfBoundsMsg 25 = .ok (.invokevirtual 106, 3) := dk_182 0 106 (dk_at dksJ15_outOfBoundsMsg_1 3 rfl rfl)
theorem dJ15_outOfBoundsMsg_28 : decode cJ15_outOfBoundsMsg 28 = .ok (.invokevirtual 111, 3) := dk_182 0 111 (dk_at dksJ15_outOfBoundsMsg_1 6 rfl rfl)
theorem dJ15_outOfBoundsMsg_31 : decode cJ15_outOfBoundsMsg 31 = .ok (.areturn, 1) := dk_176 (dk_at dksJ15_outOfBoundsMsg_1 9 rfl rfl)
abbrev cJ15_node : ByteArray := prog_63_method_31_code
def yJ15_node : MethodName := ⟨RJ15, "node", "(I)Ljava/util/LinkedList$Node;"⟩
def dkwJ15_node_2 : List UInt8 := [29, 27, 164, 0, 14, 44, 180, 0, 30, 77, 132, 3, 255, 167, 255, 243, 44, 176]
abbrev dktJ15_node_2 : List UInt8 := dkwJ15_node_2 ++ []
def dkwJ15_node_1 : List UInt8 := [180, 0, 36, 77, 132, 3, 1, 167, 255, 243, 44, 176, 42, 180, 0, 27, 77, 42, 180, 0, 7, 4, 100, 62]
abbrev dktJ15_node_1 : List UInt8 := dkwJ15_node_1 ++ dktJ15_node_2
def dkwJ15_node_0 : List UInt8 := [27, 42, 180, 0, 7, 4, 122, 162, 0, 28, 42, 180, 0, 18, 77, 3, 62, 29, 27, 162, 0, 14, 44]
abbrev dktJ15_node_0 : List UInt8 := dkwJ15_node_0 ++ dktJ15_node_1
theorem dksJ15_node_0 : cJ15_node.data.toList.drop 0 = dktJ15_node_0 := by decide +kernel
theorem dksJ15_node_1 : cJ15_node.data.toList.drop 23 = dktJ15_node_1 := dk_seg dksJ15_node_0 23 rfl rfl
theorem dksJ15_node_2 : cJ15_node.data.toList.drop 47 = dktJ15_node_2 := dk_seg dksJ15_node_1 24 rfl rfl
theorem dJ15_node_0 : decode cJ15_node 0 = .ok (.iload_n 1, 1) := dk_27 (dk_at dksJ15_node_0 0 rfl rfl)
theorem dJ15_node_1 : decode cJ15_node 1 = .ok (.aload_n 0, 1) := dk_42 (dk_at dksJ15_node_0 1 rfl rfl)
theorem dJ15_node_2 : decode cJ15_node 2 = .ok (.getfield 7, 3) := dk_180 0 7 (dk_at dksJ15_node_0 2 rfl rfl)
theorem dJ15_node_5 : decode cJ15_node 5 = .ok (.iconst 1, 1) := dk_4 (dk_at dksJ15_node_0 5 rfl rfl)
theorem dJ15_node_6 : decode cJ15_node 6 = .ok (.ishr, 1) := dk_122 (dk_at dksJ15_node_0 6 rfl rfl)
theorem dJ15_node_7 : decode cJ15_node 7 = .ok (.if_icmp .ge 28, 3) := dk_162 0 28 (dk_at dksJ15_node_0 7 rfl rfl)
theorem dJ15_node_10 : decode cJ15_node 10 = .ok (.aload_n 0, 1) := dk_42 (dk_at dksJ15_node_0 10 rfl rfl)
theorem dJ15_node_11 : decode cJ15_node 11 = .ok (.getfield 18, 3) := dk_180 0 18 (dk_at dksJ15_node_0 11 rfl rfl)
theorem dJ15_node_14 : decode cJ15_node 14 = .ok (.astore_n 2, 1) := dk_77 (dk_at dksJ15_node_0 14 rfl rfl)
theorem dJ15_node_15 : decode cJ15_node 15 = .ok (.iconst 0, 1) := dk_3 (dk_at dksJ15_node_0 15 rfl rfl)
theorem dJ15_node_16 : decode cJ15_node 16 = .ok (.istore_n 3, 1) := dk_62 (dk_at dksJ15_node_0 16 rfl rfl)
theorem dJ15_node_17 : decode cJ15_node 17 = .ok (.iload_n 3, 1) := dk_29 (dk_at dksJ15_node_0 17 rfl rfl)
theorem dJ15_node_18 : decode cJ15_node 18 = .ok (.iload_n 1, 1) := dk_27 (dk_at dksJ15_node_0 18 rfl rfl)
theorem dJ15_node_19 : decode cJ15_node 19 = .ok (.if_icmp .ge 14, 3) := dk_162 0 14 (dk_at dksJ15_node_0 19 rfl rfl)
theorem dJ15_node_22 : decode cJ15_node 22 = .ok (.aload_n 2, 1) := dk_44 (dk_at dksJ15_node_0 22 rfl rfl)
theorem dJ15_node_23 : decode cJ15_node 23 = .ok (.getfield 36, 3) := dk_180 0 36 (dk_at dksJ15_node_1 0 rfl rfl)
theorem dJ15_node_26 : decode cJ15_node 26 = .ok (.astore_n 2, 1) := dk_77 (dk_at dksJ15_node_1 3 rfl rfl)
theorem dJ15_node_27 : decode cJ15_node 27 = .ok (.iinc 3 1, 3) := dk_132 3 1 (dk_at dksJ15_node_1 4 rfl rfl)
theorem dJ15_node_30 : decode cJ15_node 30 = .ok (.goto (-13), 3) := dk_167 255 243 (dk_at dksJ15_node_1 7 rfl rfl)
theorem dJ15_node_33 : decode cJ15_node 33 = .ok (.aload_n 2, 1) := dk_44 (dk_at dksJ15_node_1 10 rfl rfl)
theorem dJ15_node_34 : decode cJ15_node 34 = .ok (.areturn, 1) := dk_176 (dk_at dksJ15_node_1 11 rfl rfl)
theorem dJ15_node_35 : decode cJ15_node 35 = .ok (.aload_n 0, 1) := dk_42 (dk_at dksJ15_node_1 12 rfl rfl)
theorem dJ15_node_36 : decode cJ15_node 36 = .ok (.getfield 27, 3) := dk_180 0 27 (dk_at dksJ15_node_1 13 rfl rfl)
theorem dJ15_node_39 : decode cJ15_node 39 = .ok (.astore_n 2, 1) := dk_77 (dk_at dksJ15_node_1 16 rfl rfl)
theorem dJ15_node_40 : decode cJ15_node 40 = .ok (.aload_n 0, 1) := dk_42 (dk_at dksJ15_node_1 17 rfl rfl)
theorem dJ15_node_41 : decode cJ15_node 41 = .ok (.getfield 7, 3) := dk_180 0 7 (dk_at dksJ15_node_1 18 rfl rfl)
theorem dJ15_node_44 : decode cJ15_node 44 = .ok (.iconst 1, 1) := dk_4 (dk_at dksJ15_node_1 21 rfl rfl)
theorem dJ15_node_45 : decode cJ15_node 45 = .ok (.isub, 1) := dk_100 (dk_at dksJ15_node_1 22 rfl rfl)
theorem dJ15_node_46 : decode cJ15_node 46 = .ok (.istore_n 3, 1) := dk_62 (dk_at dksJ15_node_1 23 rfl rfl)
theorem dJ15_node_47 : decode cJ15_node 47 = .ok (.iload_n 3, 1) := dk_29 (dk_at dksJ15_node_2 0 rfl rfl)
theorem dJ15_node_48 : decode cJ15_node 48 = .ok (.iload_n 1, 1) := dk_27 (dk_at dksJ15_node_2 1 rfl rfl)
theorem dJ15_node_49 : decode cJ15_node 49 = .ok (.if_icmp .le 14, 3) := dk_164 0 14 (dk_at dksJ15_node_2 2 rfl rfl)
theorem dJ15_node_52 : decode cJ15_node 52 = .ok (.aload_n 2, 1) := dk_44 (dk_at dksJ15_node_2 5 rfl rfl)
theorem dJ15_node_53 : decode cJ15_node 53 = .ok (.getfield 30, 3) := dk_180 0 30 (dk_at dksJ15_node_2 6 rfl rfl)
theorem dJ15_node_56 : decode cJ15_node 56 = .ok (.astore_n 2, 1) := dk_77 (dk_at dksJ15_node_2 9 rfl rfl)
theorem dJ15_node_57 : decode cJ15_node 57 = .ok (.iinc 3 (-1), 3) := dk_132 3 255 (dk_at dksJ15_node_2 10 rfl rfl)
theorem dJ15_node_60 : decode cJ15_node 60 = .ok (.goto (-13), 3) := dk_167 255 243 (dk_at dksJ15_node_2 13 rfl rfl)
theorem dJ15_node_63 : decode cJ15_node 63 = .ok (.aload_n 2, 1) := dk_44 (dk_at dksJ15_node_2 16 rfl rfl)
theorem dJ15_node_64 : decode cJ15_node 64 = .ok (.areturn, 1) := dk_176 (dk_at dksJ15_node_2 17 rfl rfl)
abbrev cJ15_clear : ByteArray := prog_63_method_21_code
def yJ15_clear : MethodName := ⟨RJ15, "clear", "()V"⟩
def dkwJ15_clear_2 : List UInt8 := [181, 0, 7, 42, 89, 180, 0, 33, 4, 96, 181, 0, 33, 177]
abbrev dktJ15_clear_2 : List UInt8 := dkwJ15_clear_2 ++ []
def dkwJ15_clear_1 : List UInt8 := [43, 1, 181, 0, 30, 44, 76, 167, 255, 230, 42, 42, 1, 90, 181, 0, 27, 181, 0, 18, 42, 3]
abbrev dktJ15_clear_1 : List UInt8 := dkwJ15_clear_1 ++ dktJ15_clear_2
def dkwJ15_clear_0 : List UInt8 := [42, 180, 0, 18, 76, 43, 198, 0, 28, 43, 180, 0, 36, 77, 43, 1, 181, 0, 39, 43, 1, 181, 0, 36]
abbrev dktJ15_clear_0 : List UInt8 := dkwJ15_clear_0 ++ dktJ15_clear_1
theorem dksJ15_clear_0 : cJ15_clear.data.toList.drop 0 = dktJ15_clear_0 := by decide +kernel
theorem dksJ15_clear_1 : cJ15_clear.data.toList.drop 24 = dktJ15_clear_1 := dk_seg dksJ15_clear_0 24 rfl rfl
theorem dksJ15_clear_2 : cJ15_clear.data.toList.drop 46 = dktJ15_clear_2 := dk_seg dksJ15_clear_1 22 rfl rfl
theorem dJ15_clear_0 : decode cJ15_clear 0 = .ok (.aload_n 0, 1) := dk_42 (dk_at dksJ15_clear_0 0 rfl rfl)
theorem dJ15_clear_1 : decode cJ15_clear 1 = .ok (.getfield 18, 3) := dk_180 0 18 (dk_at dksJ15_clear_0 1 rfl rfl)
theorem dJ15_clear_4 : decode cJ15_clear 4 = .ok (.astore_n 1, 1) := dk_76 (dk_at dksJ15_clear_0 4 rfl rfl)
theorem dJ15_clear_5 : decode cJ15_clear 5 = .ok (.aload_n 1, 1) := dk_43 (dk_at dksJ15_clear_0 5 rfl rfl)
theorem dJ15_clear_6 : decode cJ15_clear 6 = .ok (.ifnull 28, 3) := dk_198 0 28 (dk_at dksJ15_clear_0 6 rfl rfl)
theorem dJ15_clear_9 : decode cJ15_clear 9 = .ok (.aload_n 1, 1) := dk_43 (dk_at dksJ15_clear_0 9 rfl rfl)
theorem dJ15_clear_10 : decode cJ15_clear 10 = .ok (.getfield 36, 3) := dk_180 0 36 (dk_at dksJ15_clear_0 10 rfl rfl)
theorem dJ15_clear_13 : decode cJ15_clear 13 = .ok (.astore_n 2, 1) := dk_77 (dk_at dksJ15_clear_0 13 rfl rfl)
theorem dJ15_clear_14 : decode cJ15_clear 14 = .ok (.aload_n 1, 1) := dk_43 (dk_at dksJ15_clear_0 14 rfl rfl)
theorem dJ15_clear_15 : decode cJ15_clear 15 = .ok (.aconst_null, 1) := dk_1 (dk_at dksJ15_clear_0 15 rfl rfl)
theorem dJ15_clear_16 : decode cJ15_clear 16 = .ok (.putfield 39, 3) := dk_181 0 39 (dk_at dksJ15_clear_0 16 rfl rfl)
theorem dJ15_clear_19 : decode cJ15_clear 19 = .ok (.aload_n 1, 1) := dk_43 (dk_at dksJ15_clear_0 19 rfl rfl)
theorem dJ15_clear_20 : decode cJ15_clear 20 = .ok (.aconst_null, 1) := dk_1 (dk_at dksJ15_clear_0 20 rfl rfl)
theorem dJ15_clear_21 : decode cJ15_clear 21 = .ok (.putfield 36, 3) := dk_181 0 36 (dk_at dksJ15_clear_0 21 rfl rfl)
theorem dJ15_clear_24 : decode cJ15_clear 24 = .ok (.aload_n 1, 1) := dk_43 (dk_at dksJ15_clear_1 0 rfl rfl)
theorem dJ15_clear_25 : decode cJ15_clear 25 = .ok (.aconst_null, 1) := dk_1 (dk_at dksJ15_clear_1 1 rfl rfl)
theorem dJ15_clear_26 : decode cJ15_clear 26 = .ok (.putfield 30, 3) := dk_181 0 30 (dk_at dksJ15_clear_1 2 rfl rfl)
theorem dJ15_clear_29 : decode cJ15_clear 29 = .ok (.aload_n 2, 1) := dk_44 (dk_at dksJ15_clear_1 5 rfl rfl)
theorem dJ15_clear_30 : decode cJ15_clear 30 = .ok (.astore_n 1, 1) := dk_76 (dk_at dksJ15_clear_1 6 rfl rfl)
theorem dJ15_clear_31 : decode cJ15_clear 31 = .ok (.goto (-26), 3) := dk_167 255 230 (dk_at dksJ15_clear_1 7 rfl rfl)
theorem dJ15_clear_34 : decode cJ15_clear 34 = .ok (.aload_n 0, 1) := dk_42 (dk_at dksJ15_clear_1 10 rfl rfl)
theorem dJ15_clear_35 : decode cJ15_clear 35 = .ok (.aload_n 0, 1) := dk_42 (dk_at dksJ15_clear_1 11 rfl rfl)
theorem dJ15_clear_36 : decode cJ15_clear 36 = .ok (.aconst_null, 1) := dk_1 (dk_at dksJ15_clear_1 12 rfl rfl)
theorem dJ15_clear_37 : decode cJ15_clear 37 = .ok (.dup_x1, 1) := dk_90 (dk_at dksJ15_clear_1 13 rfl rfl)
theorem dJ15_clear_38 : decode cJ15_clear 38 = .ok (.putfield 27, 3) := dk_181 0 27 (dk_at dksJ15_clear_1 14 rfl rfl)
theorem dJ15_clear_41 : decode cJ15_clear 41 = .ok (.putfield 18, 3) := dk_181 0 18 (dk_at dksJ15_clear_1 17 rfl rfl)
theorem dJ15_clear_44 : decode cJ15_clear 44 = .ok (.aload_n 0, 1) := dk_42 (dk_at dksJ15_clear_1 20 rfl rfl)
theorem dJ15_clear_45 : decode cJ15_clear 45 = .ok (.iconst 0, 1) := dk_3 (dk_at dksJ15_clear_1 21 rfl rfl)
theorem dJ15_clear_46 : decode cJ15_clear 46 = .ok (.putfield 7, 3) := dk_181 0 7 (dk_at dksJ15_clear_2 0 rfl rfl)
theorem dJ15_clear_49 : decode cJ15_clear 49 = .ok (.aload_n 0, 1) := dk_42 (dk_at dksJ15_clear_2 3 rfl rfl)
theorem dJ15_clear_50 : decode cJ15_clear 50 = .ok (.dup, 1) := dk_89 (dk_at dksJ15_clear_2 4 rfl rfl)
theorem dJ15_clear_51 : decode cJ15_clear 51 = .ok (.getfield 33, 3) := dk_180 0 33 (dk_at dksJ15_clear_2 5 rfl rfl)
theorem dJ15_clear_54 : decode cJ15_clear 54 = .ok (.iconst 1, 1) := dk_4 (dk_at dksJ15_clear_2 8 rfl rfl)
theorem dJ15_clear_55 : decode cJ15_clear 55 = .ok (.iadd, 1) := dk_96 (dk_at dksJ15_clear_2 9 rfl rfl)
theorem dJ15_clear_56 : decode cJ15_clear 56 = .ok (.putfield 33, 3) := dk_181 0 33 (dk_at dksJ15_clear_2 10 rfl rfl)
theorem dJ15_clear_59 : decode cJ15_clear 59 = .ok (.return_, 1) := dk_177 (dk_at dksJ15_clear_2 13 rfl rfl)
abbrev cJ15_listIterator : ByteArray := prog_63_method_49_code
def yJ15_listIterator : MethodName := ⟨RJ15, "listIterator", "(I)Ljava/util/ListIterator;"⟩
def dkwJ15_listIterator_0 : List UInt8 := [42, 27, 182, 0, 76, 187, 0, 150, 89, 42, 27, 183, 0, 152, 176]
abbrev dktJ15_listIterator_0 : List UInt8 := dkwJ15_listIterator_0 ++ []
theorem dksJ15_listIterator_0 : cJ15_listIterator.data.toList.drop 0 = dktJ15_listIterator_0 := by decide +kernel
theorem dJ15_listIterator_0 : decode cJ15_listIterator 0 = .ok (.aload_n 0, 1) := dk_42 (dk_at dksJ15_listIterator_0 0 rfl rfl)
theorem dJ15_listIterator_1 : decode cJ15_listIterator 1 = .ok (.iload_n 1, 1) := dk_27 (dk_at dksJ15_listIterator_0 1 rfl rfl)
theorem dJ15_listIterator_2 : decode cJ15_listIterator 2 = .ok (.invokevirtual 76, 3) := dk_182 0 76 (dk_at dksJ15_listIterator_0 2 rfl rfl)
theorem dJ15_listIterator_5 : decode cJ15_listIterator 5 = .ok (.new 150, 3) := dk_187 0 150 (dk_at dksJ15_listIterator_0 5 rfl rfl)
theorem dJ15_listIterator_8 : decode cJ15_listIterator 8 = .ok (.dup, 1) := dk_89 (dk_at dksJ15_listIterator_0 8 rfl rfl)
theorem dJ15_listIterator_9 : decode cJ15_listIterator 9 = .ok (.aload_n 0, 1) := dk_42 (dk_at dksJ15_listIterator_0 9 rfl rfl)
theorem dJ15_listIterator_10 : decode cJ15_listIterator 10 = .ok (.iload_n 1, 1) := dk_27 (dk_at dksJ15_listIterator_0 10 rfl rfl)
theorem dJ15_listIterator_11 : decode cJ15_listIterator 11 = .ok (.invokespecial 152, 3) := dk_183 0 152 (dk_at dksJ15_listIterator_0 11 rfl rfl)
theorem dJ15_listIterator_14 : decode cJ15_listIterator 14 = .ok (.areturn, 1) := dk_176 (dk_at dksJ15_listIterator_0 14 rfl rfl)
abbrev cJ15_checkPositionIndex : ByteArray := prog_63_method_30_code
def yJ15_checkPositionIndex : MethodName := ⟨RJ15, "checkPositionIndex", "(I)V"⟩
def dkwJ15_checkPositionIndex_0 : List UInt8 := [42, 27, 182, 0, 128, 154, 0, 16, 187, 0, 119, 89, 42, 27, 182, 0, 121, 183, 0, 125, 191, 177]
abbrev dktJ15_checkPositionIndex_0 : List UInt8 := dkwJ15_checkPositionIndex_0 ++ []
theorem dksJ15_checkPositionIndex_0 : cJ15_checkPositionIndex.data.toList.drop 0 = dktJ15_checkPositionIndex_0 := by decide +kernel
theorem dJ15_checkPositionIndex_0 : decode cJ15_checkPositionIndex 0 = .ok (.aload_n 0, 1) := dk_42 (dk_at dksJ15_checkPositionIndex_0 0 rfl rfl)
theorem dJ15_checkPositionIndex_1 : decode cJ15_checkPositionIndex 1 = .ok (.iload_n 1, 1) := dk_27 (dk_at dksJ15_checkPositionIndex_0 1 rfl rfl)
theorem dJ15_checkPositionIndex_2 : decode cJ15_checkPositionIndex 2 = .ok (.invokevirtual 128, 3) := dk_182 0 128 (dk_at dksJ15_checkPositionIndex_0 2 rfl rfl)
theorem dJ15_checkPositionIndex_5 : decode cJ15_checkPositionIndex 5 = .ok (.ifCond .ne 16, 3) := dk_154 0 16 (dk_at dksJ15_checkPositionIndex_0 5 rfl rfl)
theorem dJ15_checkPositionIndex_8 : decode cJ15_checkPositionIndex 8 = .ok (.new 119, 3) := dk_187 0 119 (dk_at dksJ15_checkPositionIndex_0 8 rfl rfl)
theorem dJ15_checkPositionIndex_11 : decode cJ15_checkPositionIndex 11 = .ok (.dup, 1) := dk_89 (dk_at dksJ15_checkPositionIndex_0 11 rfl rfl)
theorem dJ15_checkPositionIndex_12 : decode cJ15_checkPositionIndex 12 = .ok (.aload_n 0, 1) := dk_42 (dk_at dksJ15_checkPositionIndex_0 12 rfl rfl)
theorem dJ15_checkPositionIndex_13 : decode cJ15_checkPositionIndex 13 = .ok (.iload_n 1, 1) := dk_27 (dk_at dksJ15_checkPositionIndex_0 13 rfl rfl)
theorem dJ15_checkPositionIndex_14 : decode cJ15_checkPositionIndex 14 = .ok (.invokevirtual 121, 3) := dk_182 0 121 (dk_at dksJ15_checkPositionIndex_0 14 rfl rfl)
theorem dJ15_checkPositionIndex_17 : decode cJ15_checkPositionIndex 17 = .ok (.invokespecial 125, 3) := dk_183 0 125 (dk_at dksJ15_checkPositionIndex_0 17 rfl rfl)
theorem dJ15_checkPositionIndex_20 : decode cJ15_checkPositionIndex 20 = .ok (.athrow, 1) := dk_191 (dk_at dksJ15_checkPositionIndex_0 20 rfl rfl)
theorem dJ15_checkPositionIndex_21 : decode cJ15_checkPositionIndex 21 = .ok (.return_, 1) := dk_177 (dk_at dksJ15_checkPositionIndex_0 21 rfl rfl)
abbrev cJ15_isPositionIndex : ByteArray := prog_63_method_27_code
def yJ15_isPositionIndex : MethodName := ⟨RJ15, "isPositionIndex", "(I)Z"⟩
def dkwJ15_isPositionIndex_0 : List UInt8 := [27, 155, 0, 15, 27, 42, 180, 0, 7, 163, 0, 7, 4, 167, 0, 4, 3, 172]
abbrev dktJ15_isPositionIndex_0 : List UInt8 := dkwJ15_isPositionIndex_0 ++ []
theorem dksJ15_isPositionIndex_0 : cJ15_isPositionIndex.data.toList.drop 0 = dktJ15_isPositionIndex_0 := by decide +kernel
theorem dJ15_isPositionIndex_0 : decode cJ15_isPositionIndex 0 = .ok (.iload_n 1, 1) := dk_27 (dk_at dksJ15_isPositionIndex_0 0 rfl rfl)
theorem dJ15_isPositionIndex_1 : decode cJ15_isPositionIndex 1 = .ok (.ifCond .lt 15, 3) := dk_155 0 15 (dk_at dksJ15_isPositionIndex_0 1 rfl rfl)
theorem dJ15_isPositionIndex_4 : decode cJ15_isPositionIndex 4 = .ok (.iload_n 1, 1) := dk_27 (dk_at dksJ15_isPositionIndex_0 4 rfl rfl)
theorem dJ15_isPositionIndex_5 : decode cJ15_isPositionIndex 5 = .ok (.aload_n 0, 1) := dk_42 (dk_at dksJ15_isPositionIndex_0 5 rfl rfl)
theorem dJ15_isPositionIndex_6 : decode cJ15_isPositionIndex 6 = .ok (.getfield 7, 3) := dk_180 0 7 (dk_at dksJ15_isPositionIndex_0 6 rfl rfl)
theorem dJ15_isPositionIndex_9 : decode cJ15_isPositionIndex 9 = .ok (.if_icmp .gt 7, 3) := dk_163 0 7 (dk_at dksJ15_isPositionIndex_0 9 rfl rfl)
theorem dJ15_isPositionIndex_12 : decode cJ15_isPositionIndex 12 = .ok (.iconst 1, 1) := dk_4 (dk_at dksJ15_isPositionIndex_0 12 rfl rfl)
theorem dJ15_isPositionIndex_13 : decode cJ15_isPositionIndex 13 = .ok (.goto 4, 3) := dk_167 0 4 (dk_at dksJ15_isPositionIndex_0 13 rfl rfl)
theorem dJ15_isPositionIndex_16 : decode cJ15_isPositionIndex 16 = .ok (.iconst 0, 1) := dk_3 (dk_at dksJ15_isPositionIndex_0 16 rfl rfl)
theorem dJ15_isPositionIndex_17 : decode cJ15_isPositionIndex 17 = .ok (.ireturn, 1) := dk_172 (dk_at dksJ15_isPositionIndex_0 17 rfl rfl)
abbrev cJ15_size : ByteArray := prog_63_method_16_code
def yJ15_size : MethodName := ⟨RJ15, "size", "()I"⟩
theorem dJ15_size_0 : decode cJ15_size 0 = .ok (.aload_n 0, 1) := by decide +kernel
theorem dJ15_size_1 : decode cJ15_size 1 = .ok (.getfield 7, 3) := by decide +kernel
theorem dJ15_size_4 : decode cJ15_size 4 = .ok (.ireturn, 1) := by decide +kernel
abbrev cJ15_addLast : ByteArray := prog_63_method_14_code
def yJ15_addLast : MethodName := ⟨RJ15, "addLast", "(Ljava/lang/Object;)V"⟩
def dkwJ15_addLast_0 : List UInt8 := [42, 43, 182, 0, 57, 177]
abbrev dktJ15_addLast_0 : List UInt8 := dkwJ15_addLast_0 ++ []
theorem dksJ15_addLast_0 : cJ15_addLast.data.toList.drop 0 = dktJ15_addLast_0 := by decide +kernel
theorem dJ15_addLast_0 : decode cJ15_addLast 0 = .ok (.aload_n 0, 1) := dk_42 (dk_at dksJ15_addLast_0 0 rfl rfl)
theorem dJ15_addLast_1 : decode cJ15_addLast 1 = .ok (.aload_n 1, 1) := dk_43 (dk_at dksJ15_addLast_0 1 rfl rfl)
theorem dJ15_addLast_2 : decode cJ15_addLast 2 = .ok (.invokevirtual 57, 3) := dk_182 0 57 (dk_at dksJ15_addLast_0 2 rfl rfl)
theorem dJ15_addLast_5 : decode cJ15_addLast 5 = .ok (.return_, 1) := dk_177 (dk_at dksJ15_addLast_0 5 rfl rfl)
abbrev cJ15_linkLast : ByteArray := prog_63_method_4_code
def yJ15_linkLast : MethodName := ⟨RJ15, "linkLast", "(Ljava/lang/Object;)V"⟩
def dkwJ15_linkLast_2 : List UInt8 := [181, 0, 7, 42, 89, 180, 0, 33, 4, 96, 181, 0, 33, 177]
abbrev dktJ15_linkLast_2 : List UInt8 := dkwJ15_linkLast_2 ++ []
def dkwJ15_linkLast_1 : List UInt8 := [199, 0, 11, 42, 45, 181, 0, 18, 167, 0, 8, 44, 45, 181, 0, 36, 42, 89, 180, 0, 7, 4, 96]
abbrev dktJ15_linkLast_1 : List UInt8 := dkwJ15_linkLast_1 ++ dktJ15_linkLast_2
def dkwJ15_linkLast_0 : List UInt8 := [42, 180, 0, 27, 77, 187, 0, 22, 89, 44, 43, 1, 183, 0, 24, 78, 42, 45, 181, 0, 27, 44]
abbrev dktJ15_linkLast_0 : List UInt8 := dkwJ15_linkLast_0 ++ dktJ15_linkLast_1
theorem dksJ15_linkLast_0 : cJ15_linkLast.data.toList.drop 0 = dktJ15_linkLast_0 := by decide +kernel
theorem dksJ15_linkLast_1 : cJ15_linkLast.data.toList.drop 22 = dktJ15_linkLast_1 := dk_seg dksJ15_linkLast_0 22 rfl rfl
theorem dksJ15_linkLast_2 : cJ15_linkLast.data.toList.drop 45 = dktJ15_linkLast_2 := dk_seg dksJ15_linkLast_1 23 rfl rfl
theorem dJ15_linkLast_0 : decode cJ15_linkLast 0 = .ok (.aload_n 0, 1) := dk_42 (dk_at dksJ15_linkLast_0 0 rfl rfl)
theorem dJ15_linkLast_1 : decode cJ15_linkLast 1 = .ok (.getfield 27, 3) := dk_180 0 27 (dk_at dksJ15_linkLast_0 1 rfl rfl)
theorem dJ15_linkLast_4 : decode cJ15_linkLast 4 = .ok (.astore_n 2, 1) := dk_77 (dk_at dksJ15_linkLast_0 4 rfl rfl)
theorem dJ15_linkLast_5 : decode cJ15_linkLast 5 = .ok (.new 22, 3) := dk_187 0 22 (dk_at dksJ15_linkLast_0 5 rfl rfl)
theorem dJ15_linkLast_8 : decode cJ15_linkLast 8 = .ok (.dup, 1) := dk_89 (dk_at dksJ15_linkLast_0 8 rfl rfl)
theorem dJ15_linkLast_9 : decode cJ15_linkLast 9 = .ok (.aload_n 2, 1) := dk_44 (dk_at dksJ15_linkLast_0 9 rfl rfl)
theorem dJ15_linkLast_10 : decode cJ15_linkLast 10 = .ok (.aload_n 1, 1) := dk_43 (dk_at dksJ15_linkLast_0 10 rfl rfl)
theorem dJ15_linkLast_11 : decode cJ15_linkLast 11 = .ok (.aconst_null, 1) := dk_1 (dk_at dksJ15_linkLast_0 11 rfl rfl)
theorem dJ15_linkLast_12 : decode cJ15_linkLast 12 = .ok (.invokespecial 24, 3) := dk_183 0 24 (dk_at dksJ15_linkLast_0 12 rfl rfl)
theorem dJ15_linkLast_15 : decode cJ15_linkLast 15 = .ok (.astore_n 3, 1) := dk_78 (dk_at dksJ15_linkLast_0 15 rfl rfl)
theorem dJ15_linkLast_16 : decode cJ15_linkLast 16 = .ok (.aload_n 0, 1) := dk_42 (dk_at dksJ15_linkLast_0 16 rfl rfl)
theorem dJ15_linkLast_17 : decode cJ15_linkLast 17 = .ok (.aload_n 3, 1) := dk_45 (dk_at dksJ15_linkLast_0 17 rfl rfl)
theorem dJ15_linkLast_18 : decode cJ15_linkLast 18 = .ok (.putfield 27, 3) := dk_181 0 27 (dk_at dksJ15_linkLast_0 18 rfl rfl)
theorem dJ15_linkLast_21 : decode cJ15_linkLast 21 = .ok (.aload_n 2, 1) := dk_44 (dk_at dksJ15_linkLast_0 21 rfl rfl)
theorem dJ15_linkLast_22 : decode cJ15_linkLast 22 = .ok (.ifnonnull 11, 3) := dk_199 0 11 (dk_at dksJ15_linkLast_1 0 rfl rfl)
theorem dJ15_linkLast_25 : decode cJ15_linkLast 25 = .ok (.aload_n 0, 1) := dk_42 (dk_at dksJ15_linkLast_1 3 rfl rfl)
theorem dJ15_linkLast_26 : decode cJ15_linkLast 26 = .ok (.aload_n 3, 1) := dk_45 (dk_at dksJ15_linkLast_1 4 rfl rfl)
theorem dJ15_linkLast_27 : decode cJ15_linkLast 27 = .ok (.putfield 18, 3) := dk_181 0 18 (dk_at dksJ15_linkLast_1 5 rfl rfl)
theorem dJ15_linkLast_30 : decode cJ15_linkLast 30 = .ok (.goto 8, 3) := dk_167 0 8 (dk_at dksJ15_linkLast_1 8 rfl rfl)
theorem dJ15_linkLast_33 : decode cJ15_linkLast 33 = .ok (.aload_n 2, 1) := dk_44 (dk_at dksJ15_linkLast_1 11 rfl rfl)
theorem dJ15_linkLast_34 : decode cJ15_linkLast 34 = .ok (.aload_n 3, 1) := dk_45 (dk_at dksJ15_linkLast_1 12 rfl rfl)
theorem dJ15_linkLast_35 : decode cJ15_linkLast 35 = .ok (.putfield 36, 3) := dk_181 0 36 (dk_at dksJ15_linkLast_1 13 rfl rfl)
theorem dJ15_linkLast_38 : decode cJ15_linkLast 38 = .ok (.aload_n 0, 1) := dk_42 (dk_at dksJ15_linkLast_1 16 rfl rfl)
theorem dJ15_linkLast_39 : decode cJ15_linkLast 39 = .ok (.dup, 1) := dk_89 (dk_at dksJ15_linkLast_1 17 rfl rfl)
theorem dJ15_linkLast_40 : decode cJ15_linkLast 40 = .ok (.getfield 7, 3) := dk_180 0 7 (dk_at dksJ15_linkLast_1 18 rfl rfl)
theorem dJ15_linkLast_43 : decode cJ15_linkLast 43 = .ok (.iconst 1, 1) := dk_4 (dk_at dksJ15_linkLast_1 21 rfl rfl)
theorem dJ15_linkLast_44 : decode cJ15_linkLast 44 = .ok (.iadd, 1) := dk_96 (dk_at dksJ15_linkLast_1 22 rfl rfl)
theorem dJ15_linkLast_45 : decode cJ15_linkLast 45 = .ok (.putfield 7, 3) := dk_181 0 7 (dk_at dksJ15_linkLast_2 0 rfl rfl)
theorem dJ15_linkLast_48 : decode cJ15_linkLast 48 = .ok (.aload_n 0, 1) := dk_42 (dk_at dksJ15_linkLast_2 3 rfl rfl)
theorem dJ15_linkLast_49 : decode cJ15_linkLast 49 = .ok (.dup, 1) := dk_89 (dk_at dksJ15_linkLast_2 4 rfl rfl)
theorem dJ15_linkLast_50 : decode cJ15_linkLast 50 = .ok (.getfield 33, 3) := dk_180 0 33 (dk_at dksJ15_linkLast_2 5 rfl rfl)
theorem dJ15_linkLast_53 : decode cJ15_linkLast 53 = .ok (.iconst 1, 1) := dk_4 (dk_at dksJ15_linkLast_2 8 rfl rfl)
theorem dJ15_linkLast_54 : decode cJ15_linkLast 54 = .ok (.iadd, 1) := dk_96 (dk_at dksJ15_linkLast_2 9 rfl rfl)
theorem dJ15_linkLast_55 : decode cJ15_linkLast 55 = .ok (.putfield 33, 3) := dk_181 0 33 (dk_at dksJ15_linkLast_2 10 rfl rfl)
theorem dJ15_linkLast_58 : decode cJ15_linkLast 58 = .ok (.return_, 1) := dk_177 (dk_at dksJ15_linkLast_2 13 rfl rfl)
theorem q137 : (Jvm.Cond.initialized "java/util/LinkedList") ∈ lw_all := lw_g (lw_at lw_m1 24 rfl) rfl
theorem q244 : (Jvm.Cond.selects "java/util/LinkedList" ({ cls := "java/lang/Object", name := "getClass", desc := "()Ljava/lang/Class;" } : Jvm.MethodName) ({ cls := "java/lang/Object", name := "getClass", desc := "()Ljava/lang/Class;" } : Jvm.MethodName)) ∈ lw_all := lw_g (lw_at lw_m1 131 rfl) rfl
theorem q475 : (Jvm.Cond.instantiable "java/util/LinkedList" (4 : Nat)) ∈ lw_all := lw_g (lw_at lw_m2 122 rfl) rfl
theorem q477 : (Jvm.Cond.instanceMethod ({ cls := "java/util/LinkedList", name := "<init>", desc := "()V" } : Jvm.MethodName)) ∈ lw_all := lw_g (lw_at lw_m2 124 rfl) rfl
theorem q478 : (Jvm.Cond.code ({ cls := "java/util/LinkedList", name := "<init>", desc := "()V" } : Jvm.MethodName) prog_63_method_1_code (1 : Nat) (Option.none : Option Jvm.ClassFile.FieldType)) ∈ lw_all := lw_g (lw_at lw_m2 125 rfl) rfl
theorem q479 : (Jvm.Cond.methodLink "java/util/LinkedList" (1 : Nat) ({ cls := "java/util/AbstractSequentialList", name := "<init>", desc := "()V" } : Jvm.MethodName)) ∈ lw_all := lw_g (lw_at lw_m2 126 rfl) rfl
theorem q486 : (Jvm.Cond.fieldLink "java/util/LinkedList" (7 : Nat) "java/util/LinkedList" "size" "I") ∈ lw_all := lw_g (lw_at lw_m2 133 rfl) rfl
theorem q488 : (Jvm.Cond.fieldLink "java/util/LinkedList" (18 : Nat) "java/util/LinkedList" "first" "Ljava/util/LinkedList$Node;") ∈ lw_all := lw_g (lw_at lw_m2 135 rfl) rfl
theorem q489 : (Jvm.Cond.fieldLink "java/util/LinkedList" (27 : Nat) "java/util/LinkedList" "last" "Ljava/util/LinkedList$Node;") ∈ lw_all := lw_g (lw_at lw_m2 136 rfl) rfl
theorem q492 : (Jvm.Cond.sameField "java/util/LinkedList" "java/util/AbstractList" "modCount" "I") ∈ lw_all := lw_g (lw_at lw_m2 139 rfl) rfl
theorem q494 : (Jvm.Cond.fieldLink "java/util/LinkedList" (33 : Nat) "java/util/LinkedList" "modCount" "I") ∈ lw_all := lw_g (lw_at lw_m2 141 rfl) rfl
theorem q495 : (Jvm.Cond.lays "java/util/LinkedList" "java/util/LinkedList" "size" "I") ∈ lw_all := lw_g (lw_at lw_m2 142 rfl) rfl
theorem q496 : (Jvm.Cond.soleField "java/util/LinkedList" "size") ∈ lw_all := lw_g (lw_at lw_m2 143 rfl) rfl
theorem q497 : (Jvm.Cond.lays "java/util/LinkedList" "java/util/LinkedList" "first" "Ljava/util/LinkedList$Node;") ∈ lw_all := lw_g (lw_at lw_m2 144 rfl) rfl
theorem q498 : (Jvm.Cond.soleField "java/util/LinkedList" "first") ∈ lw_all := lw_g (lw_at lw_m2 145 rfl) rfl
theorem q499 : (Jvm.Cond.lays "java/util/LinkedList" "java/util/LinkedList" "last" "Ljava/util/LinkedList$Node;") ∈ lw_all := lw_g (lw_at lw_m2 146 rfl) rfl
theorem q500 : (Jvm.Cond.soleField "java/util/LinkedList" "last") ∈ lw_all := lw_g (lw_at lw_m2 147 rfl) rfl
theorem q501 : (Jvm.Cond.lays "java/util/LinkedList" "java/util/AbstractList" "modCount" "I") ∈ lw_all := lw_g (lw_at lw_m2 148 rfl) rfl
theorem q503 : (Jvm.Cond.superclass "java/util/LinkedList" "java/util/AbstractSequentialList") ∈ lw_all := lw_g (lw_at lw_m2 150 rfl) rfl
theorem q1055 : (Jvm.Cond.castable "java/util/LinkedList" "java/util/List") ∈ lw_tbl := lw_at lw_m4 222 rfl
theorem q1056 : (Jvm.Cond.selects "java/util/LinkedList" ({ cls := "java/util/List", name := "get", desc := "(I)Ljava/lang/Object;" } : Jvm.MethodName) ({ cls := "java/util/LinkedList", name := "get", desc := "(I)Ljava/lang/Object;" } : Jvm.MethodName)) ∈ lw_all := lw_g (lw_at lw_m4 223 rfl) rfl
theorem q1057 : (Jvm.Cond.unhidden "java/util/LinkedList" "get" "(I)Ljava/lang/Object;") ∈ lw_tbl := lw_at lw_m4 224 rfl
theorem q1058 : (Jvm.Cond.instanceMethod ({ cls := "java/util/LinkedList", name := "get", desc := "(I)Ljava/lang/Object;" } : Jvm.MethodName)) ∈ lw_all := lw_g (lw_at lw_m4 225 rfl) rfl
theorem q1059 : (Jvm.Cond.publicMethod ({ cls := "java/util/LinkedList", name := "get", desc := "(I)Ljava/lang/Object;" } : Jvm.MethodName)) ∈ lw_tbl := lw_at lw_m4 226 rfl
theorem q1060 : (Jvm.Cond.code ({ cls := "java/util/LinkedList", name := "get", desc := "(I)Ljava/lang/Object;" } : Jvm.MethodName) prog_63_method_22_code (2 : Nat) (Option.some (Jvm.ClassFile.FieldType.object "java/lang/Object"))) ∈ lw_all := lw_g (lw_at lw_m4 227 rfl) rfl
theorem q1061 : (Jvm.Cond.methodLink "java/util/LinkedList" (90 : Nat) ({ cls := "java/util/LinkedList", name := "checkElementIndex", desc := "(I)V" } : Jvm.MethodName)) ∈ lw_all := lw_g (lw_at lw_m4 228 rfl) rfl
theorem q1062 : (Jvm.Cond.privateMethod ({ cls := "java/util/LinkedList", name := "checkElementIndex", desc := "(I)V" } : Jvm.MethodName)) ∈ lw_tbl := lw_at lw_m4 229 rfl
theorem q1063 : (Jvm.Cond.instanceMethod ({ cls := "java/util/LinkedList", name := "checkElementIndex", desc := "(I)V" } : Jvm.MethodName)) ∈ lw_all := lw_g (lw_at lw_m4 230 rfl) rfl
theorem q1064 : (Jvm.Cond.code ({ cls := "java/util/LinkedList", name := "checkElementIndex", desc := "(I)V" } : Jvm.MethodName) prog_63_method_29_code (2 : Nat) (Option.none : Option Jvm.ClassFile.FieldType)) ∈ lw_all := lw_g (lw_at lw_m4 231 rfl) rfl
theorem q1065 : (Jvm.Cond.methodLink "java/util/LinkedList" (115 : Nat) ({ cls := "java/util/LinkedList", name := "isElementIndex", desc := "(I)Z" } : Jvm.MethodName)) ∈ lw_all := lw_g (lw_at lw_m4 232 rfl) rfl
theorem q1066 : (Jvm.Cond.privateMethod ({ cls := "java/util/LinkedList", name := "isElementIndex", desc := "(I)Z" } : Jvm.MethodName)) ∈ lw_tbl := lw_at lw_m4 233 rfl
theorem q1067 : (Jvm.Cond.instanceMethod ({ cls := "java/util/LinkedList", name := "isElementIndex", desc := "(I)Z" } : Jvm.MethodName)) ∈ lw_all := lw_g (lw_at lw_m4 234 rfl) rfl
theorem q1068 : (Jvm.Cond.code ({ cls := "java/util/LinkedList", name := "isElementIndex", desc := "(I)Z" } : Jvm.MethodName) prog_63_method_26_code (2 : Nat) (Option.some Jvm.ClassFile.FieldType.boolean)) ∈ lw_all := lw_g (lw_at lw_m4 235 rfl) rfl
theorem q1069 : (Jvm.Cond.classLink "java/util/LinkedList" (119 : Nat) "java/lang/IndexOutOfBoundsException") ∈ lw_all := lw_g (lw_at lw_m4 236 rfl) rfl
theorem q1070 : (Jvm.Cond.methodLink "java/util/LinkedList" (121 : Nat) ({ cls := "java/util/LinkedList", name := "outOfBoundsMsg", desc := "(I)Ljava/lang/String;" } : Jvm.MethodName)) ∈ lw_all := lw_g (lw_at lw_m4 237 rfl) rfl
theorem q1071 : (Jvm.Cond.privateMethod ({ cls := "java/util/LinkedList", name := "outOfBoundsMsg", desc := "(I)Ljava/lang/String;" } : Jvm.MethodName)) ∈ lw_tbl := lw_at lw_m4 238 rfl
theorem q1072 : (Jvm.Cond.instanceMethod ({ cls := "java/util/LinkedList", name := "outOfBoundsMsg", desc := "(I)Ljava/lang/String;" } : Jvm.MethodName)) ∈ lw_all := lw_g (lw_at lw_m4 239 rfl) rfl
theorem q1073 : (Jvm.Cond.code ({ cls := "java/util/LinkedList", name := "outOfBoundsMsg", desc := "(I)Ljava/lang/String;" } : Jvm.MethodName) prog_63_method_28_code (2 : Nat) (Option.some (Jvm.ClassFile.FieldType.object "java/lang/String"))) ∈ lw_all := lw_g (lw_at lw_m5 0 rfl) rfl
theorem q1074 : (Jvm.Cond.classLink "java/util/LinkedList" (97 : Nat) "java/lang/StringBuilder") ∈ lw_all := lw_g (lw_at lw_m5 1 rfl) rfl
theorem q1075 : (Jvm.Cond.methodLink "java/util/LinkedList" (99 : Nat) ({ cls := "java/lang/StringBuilder", name := "<init>", desc := "()V" } : Jvm.MethodName)) ∈ lw_all := lw_g (lw_at lw_m5 2 rfl) rfl
theorem q1076 : (Jvm.Cond.stringRef "java/util/LinkedList" (100 : Nat) "Index: ") ∈ lw_tbl := lw_at lw_m5 3 rfl
theorem q1077 : (Jvm.Cond.methodLink "java/util/LinkedList" (102 : Nat) ({ cls := "java/lang/StringBuilder", name := "append", desc := "(Ljava/lang/String;)Ljava/lang/StringBuilder;" } : Jvm.MethodName)) ∈ lw_all := lw_g (lw_at lw_m5 4 rfl) rfl
theorem q1078 : (Jvm.Cond.methodLink "java/util/LinkedList" (106 : Nat) ({ cls := "java/lang/StringBuilder", name := "append", desc := "(I)Ljava/lang/StringBuilder;" } : Jvm.MethodName)) ∈ lw_all := lw_g (lw_at lw_m5 5 rfl) rfl
theorem q1079 : (Jvm.Cond.stringRef "java/util/LinkedList" (109 : Nat) ", Size: ") ∈ lw_tbl := lw_at lw_m5 6 rfl
theorem q1080 : (Jvm.Cond.methodLink "java/util/LinkedList" (111 : Nat) ({ cls := "java/lang/StringBuilder", name := "toString", desc := "()Ljava/lang/String;" } : Jvm.MethodName)) ∈ lw_all := lw_g (lw_at lw_m5 7 rfl) rfl
theorem q1081 : (Jvm.Cond.methodLink "java/util/LinkedList" (125 : Nat) ({ cls := "java/lang/IndexOutOfBoundsException", name := "<init>", desc := "(Ljava/lang/String;)V" } : Jvm.MethodName)) ∈ lw_all := lw_g (lw_at lw_m5 8 rfl) rfl
theorem q1082 : (Jvm.Cond.methodLink "java/util/LinkedList" (86 : Nat) ({ cls := "java/util/LinkedList", name := "node", desc := "(I)Ljava/util/LinkedList$Node;" } : Jvm.MethodName)) ∈ lw_all := lw_g (lw_at lw_m5 9 rfl) rfl
theorem q1083 : (Jvm.Cond.instanceMethod ({ cls := "java/util/LinkedList", name := "node", desc := "(I)Ljava/util/LinkedList$Node;" } : Jvm.MethodName)) ∈ lw_all := lw_g (lw_at lw_m5 10 rfl) rfl
theorem q1084 : (Jvm.Cond.selects "java/util/LinkedList" ({ cls := "java/util/LinkedList", name := "node", desc := "(I)Ljava/util/LinkedList$Node;" } : Jvm.MethodName) ({ cls := "java/util/LinkedList", name := "node", desc := "(I)Ljava/util/LinkedList$Node;" } : Jvm.MethodName)) ∈ lw_all := lw_g (lw_at lw_m5 11 rfl) rfl
theorem q1085 : (Jvm.Cond.code ({ cls := "java/util/LinkedList", name := "node", desc := "(I)Ljava/util/LinkedList$Node;" } : Jvm.MethodName) prog_63_method_31_code (4 : Nat) (Option.some (Jvm.ClassFile.FieldType.object "java/util/LinkedList$Node"))) ∈ lw_all := lw_g (lw_at lw_m5 12 rfl) rfl
theorem q1348 : (Jvm.Cond.instanceMethod ({ cls := "java/util/LinkedList", name := "clear", desc := "()V" } : Jvm.MethodName)) ∈ lw_all := lw_g (lw_at lw_m6 35 rfl) rfl
theorem q1349 : (Jvm.Cond.selects "java/util/LinkedList" ({ cls := "java/util/LinkedList", name := "clear", desc := "()V" } : Jvm.MethodName) ({ cls := "java/util/LinkedList", name := "clear", desc := "()V" } : Jvm.MethodName)) ∈ lw_all := lw_g (lw_at lw_m6 36 rfl) rfl
theorem q1350 : (Jvm.Cond.code ({ cls := "java/util/LinkedList", name := "clear", desc := "()V" } : Jvm.MethodName) prog_63_method_21_code (3 : Nat) (Option.none : Option Jvm.ClassFile.FieldType)) ∈ lw_all := lw_g (lw_at lw_m6 37 rfl) rfl
theorem q1389 : (Jvm.Cond.selects "java/util/LinkedList" ({ cls := "java/util/List", name := "iterator", desc := "()Ljava/util/Iterator;" } : Jvm.MethodName) ({ cls := "java/util/AbstractSequentialList", name := "iterator", desc := "()Ljava/util/Iterator;" } : Jvm.MethodName)) ∈ lw_all := lw_g (lw_at lw_m6 76 rfl) rfl
theorem q1390 : (Jvm.Cond.unhidden "java/util/LinkedList" "iterator" "()Ljava/util/Iterator;") ∈ lw_tbl := lw_at lw_m6 77 rfl
theorem q1397 : (Jvm.Cond.selects "java/util/LinkedList" ({ cls := "java/util/AbstractSequentialList", name := "listIterator", desc := "()Ljava/util/ListIterator;" } : Jvm.MethodName) ({ cls := "java/util/AbstractList", name := "listIterator", desc := "()Ljava/util/ListIterator;" } : Jvm.MethodName)) ∈ lw_all := lw_g (lw_at lw_m6 84 rfl) rfl
theorem q1403 : (Jvm.Cond.selects "java/util/LinkedList" ({ cls := "java/util/AbstractList", name := "listIterator", desc := "(I)Ljava/util/ListIterator;" } : Jvm.MethodName) ({ cls := "java/util/LinkedList", name := "listIterator", desc := "(I)Ljava/util/ListIterator;" } : Jvm.MethodName)) ∈ lw_all := lw_g (lw_at lw_m6 90 rfl) rfl
theorem q1404 : (Jvm.Cond.instanceMethod ({ cls := "java/util/LinkedList", name := "listIterator", desc := "(I)Ljava/util/ListIterator;" } : Jvm.MethodName)) ∈ lw_all := lw_g (lw_at lw_m6 91 rfl) rfl
theorem q1405 : (Jvm.Cond.code ({ cls := "java/util/LinkedList", name := "listIterator", desc := "(I)Ljava/util/ListIterator;" } : Jvm.MethodName) prog_63_method_49_code (2 : Nat) (Option.some (Jvm.ClassFile.FieldType.object "java/util/ListIterator"))) ∈ lw_all := lw_g (lw_at lw_m6 92 rfl) rfl
theorem q1406 : (Jvm.Cond.methodLink "java/util/LinkedList" (76 : Nat) ({ cls := "java/util/LinkedList", name := "checkPositionIndex", desc := "(I)V" } : Jvm.MethodName)) ∈ lw_all := lw_g (lw_at lw_m6 93 rfl) rfl
theorem q1407 : (Jvm.Cond.privateMethod ({ cls := "java/util/LinkedList", name := "checkPositionIndex", desc := "(I)V" } : Jvm.MethodName)) ∈ lw_tbl := lw_at lw_m6 94 rfl
theorem q1408 : (Jvm.Cond.instanceMethod ({ cls := "java/util/LinkedList", name := "checkPositionIndex", desc := "(I)V" } : Jvm.MethodName)) ∈ lw_all := lw_g (lw_at lw_m6 95 rfl) rfl
theorem q1409 : (Jvm.Cond.code ({ cls := "java/util/LinkedList", name := "checkPositionIndex", desc := "(I)V" } : Jvm.MethodName) prog_63_method_30_code (2 : Nat) (Option.none : Option Jvm.ClassFile.FieldType)) ∈ lw_all := lw_g (lw_at lw_m6 96 rfl) rfl
theorem q1410 : (Jvm.Cond.methodLink "java/util/LinkedList" (128 : Nat) ({ cls := "java/util/LinkedList", name := "isPositionIndex", desc := "(I)Z" } : Jvm.MethodName)) ∈ lw_all := lw_g (lw_at lw_m6 97 rfl) rfl
theorem q1411 : (Jvm.Cond.privateMethod ({ cls := "java/util/LinkedList", name := "isPositionIndex", desc := "(I)Z" } : Jvm.MethodName)) ∈ lw_tbl := lw_at lw_m6 98 rfl
theorem q1412 : (Jvm.Cond.instanceMethod ({ cls := "java/util/LinkedList", name := "isPositionIndex", desc := "(I)Z" } : Jvm.MethodName)) ∈ lw_all := lw_g (lw_at lw_m6 99 rfl) rfl
theorem q1413 : (Jvm.Cond.code ({ cls := "java/util/LinkedList", name := "isPositionIndex", desc := "(I)Z" } : Jvm.MethodName) prog_63_method_27_code (2 : Nat) (Option.some Jvm.ClassFile.FieldType.boolean)) ∈ lw_all := lw_g (lw_at lw_m6 100 rfl) rfl
theorem q1414 : (Jvm.Cond.classLink "java/util/LinkedList" (150 : Nat) "java/util/LinkedList$ListItr") ∈ lw_all := lw_g (lw_at lw_m6 101 rfl) rfl
theorem q1416 : (Jvm.Cond.methodLink "java/util/LinkedList" (152 : Nat) ({ cls := "java/util/LinkedList$ListItr", name := "<init>", desc := "(Ljava/util/LinkedList;I)V" } : Jvm.MethodName)) ∈ lw_all := lw_g (lw_at lw_m6 103 rfl) rfl
theorem q1450 : (Jvm.Cond.selects "java/util/LinkedList" ({ cls := "java/util/AbstractList", name := "size", desc := "()I" } : Jvm.MethodName) ({ cls := "java/util/LinkedList", name := "size", desc := "()I" } : Jvm.MethodName)) ∈ lw_all := lw_g (lw_at lw_m6 137 rfl) rfl
theorem q1451 : (Jvm.Cond.instanceMethod ({ cls := "java/util/LinkedList", name := "size", desc := "()I" } : Jvm.MethodName)) ∈ lw_all := lw_g (lw_at lw_m6 138 rfl) rfl
theorem q1452 : (Jvm.Cond.code ({ cls := "java/util/LinkedList", name := "size", desc := "()I" } : Jvm.MethodName) prog_63_method_16_code (1 : Nat) (Option.some Jvm.ClassFile.FieldType.int)) ∈ lw_all := lw_g (lw_at lw_m6 139 rfl) rfl
theorem q1488 : (Jvm.Cond.selects "java/util/LinkedList" ({ cls := "java/util/AbstractList", name := "get", desc := "(I)Ljava/lang/Object;" } : Jvm.MethodName) ({ cls := "java/util/LinkedList", name := "get", desc := "(I)Ljava/lang/Object;" } : Jvm.MethodName)) ∈ lw_all := lw_g (lw_at lw_m6 175 rfl) rfl
theorem q1740 : (Jvm.Cond.instanceMethod ({ cls := "java/util/LinkedList", name := "addLast", desc := "(Ljava/lang/Object;)V" } : Jvm.MethodName)) ∈ lw_all := lw_g (lw_at lw_m7 187 rfl) rfl
theorem q1741 : (Jvm.Cond.selects "java/util/LinkedList" ({ cls := "java/util/LinkedList", name := "addLast", desc := "(Ljava/lang/Object;)V" } : Jvm.MethodName) ({ cls := "java/util/LinkedList", name := "addLast", desc := "(Ljava/lang/Object;)V" } : Jvm.MethodName)) ∈ lw_all := lw_g (lw_at lw_m7 188 rfl) rfl
theorem q1742 : (Jvm.Cond.code ({ cls := "java/util/LinkedList", name := "addLast", desc := "(Ljava/lang/Object;)V" } : Jvm.MethodName) prog_63_method_14_code (2 : Nat) (Option.none : Option Jvm.ClassFile.FieldType)) ∈ lw_all := lw_g (lw_at lw_m7 189 rfl) rfl
theorem q1743 : (Jvm.Cond.methodLink "java/util/LinkedList" (57 : Nat) ({ cls := "java/util/LinkedList", name := "linkLast", desc := "(Ljava/lang/Object;)V" } : Jvm.MethodName)) ∈ lw_all := lw_g (lw_at lw_m7 190 rfl) rfl
theorem q1744 : (Jvm.Cond.instanceMethod ({ cls := "java/util/LinkedList", name := "linkLast", desc := "(Ljava/lang/Object;)V" } : Jvm.MethodName)) ∈ lw_all := lw_g (lw_at lw_m7 191 rfl) rfl
theorem q1745 : (Jvm.Cond.selects "java/util/LinkedList" ({ cls := "java/util/LinkedList", name := "linkLast", desc := "(Ljava/lang/Object;)V" } : Jvm.MethodName) ({ cls := "java/util/LinkedList", name := "linkLast", desc := "(Ljava/lang/Object;)V" } : Jvm.MethodName)) ∈ lw_all := lw_g (lw_at lw_m7 192 rfl) rfl
theorem q1746 : (Jvm.Cond.code ({ cls := "java/util/LinkedList", name := "linkLast", desc := "(Ljava/lang/Object;)V" } : Jvm.MethodName) prog_63_method_4_code (4 : Nat) (Option.none : Option Jvm.ClassFile.FieldType)) ∈ lw_all := lw_g (lw_at lw_m7 193 rfl) rfl
theorem q1747 : (Jvm.Cond.classLink "java/util/LinkedList" (22 : Nat) "java/util/LinkedList$Node") ∈ lw_all := lw_g (lw_at lw_m7 194 rfl) rfl
theorem q1749 : (Jvm.Cond.methodLink "java/util/LinkedList" (24 : Nat) ({ cls := "java/util/LinkedList$Node", name := "<init>", desc := "(Ljava/util/LinkedList$Node;Ljava/lang/Object;Ljava/util/LinkedList$Node;)V" } : Jvm.MethodName)) ∈ lw_all := lw_g (lw_at lw_m7 196 rfl) rfl
theorem q1755 : (Jvm.Cond.fieldLink "java/util/LinkedList" (39 : Nat) "java/util/LinkedList$Node" "item" "Ljava/lang/Object;") ∈ lw_all := lw_g (lw_at lw_m7 202 rfl) rfl
theorem q1758 : (Jvm.Cond.fieldLink "java/util/LinkedList" (36 : Nat) "java/util/LinkedList$Node" "next" "Ljava/util/LinkedList$Node;") ∈ lw_all := lw_g (lw_at lw_m7 205 rfl) rfl
theorem q1760 : (Jvm.Cond.fieldLink "java/util/LinkedList" (30 : Nat) "java/util/LinkedList$Node" "prev" "Ljava/util/LinkedList$Node;") ∈ lw_all := lw_g (lw_at lw_m7 207 rfl) rfl
theorem q1825 : (Jvm.Cond.sameMethod "java/util/LinkedList" "java/util/AbstractSequentialList" "iterator" "()Ljava/util/Iterator;") ∈ lw_all := lw_g (lw_at lw_m8 32 rfl) rfl
theorem q1827 : (Jvm.Cond.selects "java/util/LinkedList" ({ cls := "java/util/LinkedList", name := "iterator", desc := "()Ljava/util/Iterator;" } : Jvm.MethodName) ({ cls := "java/util/AbstractSequentialList", name := "iterator", desc := "()Ljava/util/Iterator;" } : Jvm.MethodName)) ∈ lw_all := lw_g (lw_at lw_m8 34 rfl) rfl
theorem q2788 : (Jvm.Cond.castable "java/util/LinkedList" "java/lang/Object") ∈ lw_tbl := lw_at lw_m12 35 rfl
theorem in_J15 : ∀ w ∈ wsJ150, w ∈ lw_all := lw_in wsJ150 [501, 495, 497, 499] (by decide +kernel) (by decide +kernel)

/-! java/lang/Throwable -/
set_option maxRecDepth 100000
def RJ16 : String := "java/lang/Throwable"
def TJ16 : u_T := fun k => match k with
  | 0 => ("java/lang/Throwable", "cause", "Ljava/lang/Throwable;", false)
  | 1 => ("java/lang/Throwable", "stackTrace", "[Ljava/lang/StackTraceElement;", false)
  | 2 => ("java/lang/Throwable", "suppressedExceptions", "Ljava/util/List;", false)
  | 3 => ("java/lang/Throwable", "detailMessage", "Ljava/lang/String;", false)
  | _ => ("java/lang/Throwable", "backtrace", "Ljava/lang/Object;", false)
def tyJ16 : Nat → FieldType := fun k => match k with
  | 0 => .object "java/lang/Throwable"
  | 1 => .array (.object "java/lang/StackTraceElement")
  | 2 => .object "java/util/List"
  | 3 => .object "java/lang/String"
  | _ => .object "java/lang/Object"
abbrev wsJ160 : List Cond := u_ws RJ16 TJ16 5
theorem nmJ16 : ∀ a, a < 5 → ∀ b, b < 5 → a ≠ b → (TJ16 a).2.1 ≠ (TJ16 b).2.1 := by decide +kernel
theorem tyJ16_ok : ∀ k, k < 5 → parseFieldDescriptor (TJ16 k).2.2.1 = some (tyJ16 k) := by decide +kernel
abbrev cJ16_init : ByteArray := prog_40_method_1_code
def yJ16_init : MethodName := ⟨RJ16, "<init>", "()V"⟩
def dkwJ16_init_1 : List UInt8 := [182, 0, 27, 87, 177]
abbrev dktJ16_init_1 : List UInt8 := dkwJ16_init_1 ++ []
def dkwJ16_init_0 : List UInt8 := [42, 183, 0, 1, 42, 42, 181, 0, 7, 42, 178, 0, 13, 181, 0, 17, 42, 178, 0, 20, 181, 0, 24, 42]
abbrev dktJ16_init_0 : List UInt8 := dkwJ16_init_0 ++ dktJ16_init_1
theorem dksJ16_init_0 : cJ16_init.data.toList.drop 0 = dktJ16_init_0 := by decide +kernel
theorem dksJ16_init_1 : cJ16_init.data.toList.drop 24 = dktJ16_init_1 := dk_seg dksJ16_init_0 24 rfl rfl
theorem dJ16_init_0 : decode cJ16_init 0 = .ok (.aload_n 0, 1) := dk_42 (dk_at dksJ16_init_0 0 rfl rfl)
theorem dJ16_init_1 : decode cJ16_init 1 = .ok (.invokespecial 1, 3) := dk_183 0 1 (dk_at dksJ16_init_0 1 rfl rfl)
theorem dJ16_init_4 : decode cJ16_init 4 = .ok (.aload_n 0, 1) := dk_42 (dk_at dksJ16_init_0 4 rfl rfl)
theorem dJ16_init_5 : decode cJ16_init 5 = .ok (.aload_n 0, 1) := dk_42 (dk_at dksJ16_init_0 5 rfl rfl)
theorem dJ16_init_6 : decode cJ16_init 6 = .ok (.putfield 7, 3) := dk_181 0 7 (dk_at dksJ16_init_0 6 rfl rfl)
theorem dJ16_init_9 : decode cJ16_init 9 = .ok (.aload_n 0, 1) := dk_42 (dk_at dksJ16_init_0 9 rfl rfl)
theorem dJ16_init_10 : decode cJ16_init 10 = .ok (.getstatic 13, 3) := dk_178 0 13 (dk_at dksJ16_init_0 10 rfl rfl)
theorem dJ16_init_13 : decode cJ16_init 13 = .ok (.putfield 17, 3) := dk_181 0 17 (dk_at dksJ16_init_0 13 rfl rfl)
theorem dJ16_init_16 : decode cJ16_init 16 = .ok (.aload_n 0, 1) := dk_42 (dk_at dksJ16_init_0 16 rfl rfl)
theorem dJ16_init_17 : decode cJ16_init 17 = .ok (.getstatic 20, 3) := dk_178 0 20 (dk_at dksJ16_init_0 17 rfl rfl)
theorem dJ16_init_20 : decode cJ16_init 20 = .ok (.putfield 24, 3) := dk_181 0 24 (dk_at dksJ16_init_0 20 rfl rfl)
theorem dJ16_init_23 : decode cJ16_init 23 = .ok (.aload_n 0, 1) := dk_42 (dk_at dksJ16_init_0 23 rfl rfl)
theorem dJ16_init_24 : decode cJ16_init 24 = .ok (.invokevirtual 27, 3) := dk_182 0 27 (dk_at dksJ16_init_1 0 rfl rfl)
theorem dJ16_init_27 : decode cJ16_init 27 = .ok (.pop, 1) := dk_87 (dk_at dksJ16_init_1 3 rfl rfl)
theorem dJ16_init_28 : decode cJ16_init 28 = .ok (.return_, 1) := dk_177 (dk_at dksJ16_init_1 4 rfl rfl)
abbrev cJ16_init_2 : ByteArray := prog_40_method_5_code
def yJ16_init_2 : MethodName := ⟨RJ16, "<init>", "(Ljava/lang/String;Ljava/lang/Throwable;ZZ)V"⟩
def dkwJ16_init_2_2 : List UInt8 := [44, 181, 0, 7, 29, 154, 0, 8, 42, 1, 181, 0, 24, 177]
abbrev dktJ16_init_2_2 : List UInt8 := dkwJ16_init_2_2 ++ []
def dkwJ16_init_2_1 : List UInt8 := [21, 4, 153, 0, 11, 42, 182, 0, 27, 87, 167, 0, 8, 42, 1, 181, 0, 17, 42, 43, 181, 0, 31, 42]
abbrev dktJ16_init_2_1 : List UInt8 := dkwJ16_init_2_1 ++ dktJ16_init_2_2
def dkwJ16_init_2_0 : List UInt8 := [42, 183, 0, 1, 42, 42, 181, 0, 7, 42, 178, 0, 13, 181, 0, 17, 42, 178, 0, 20, 181, 0, 24]
abbrev dktJ16_init_2_0 : List UInt8 := dkwJ16_init_2_0 ++ dktJ16_init_2_1
theorem dksJ16_init_2_0 : cJ16_init_2.data.toList.drop 0 = dktJ16_init_2_0 := by decide +kernel
theorem dksJ16_init_2_1 : cJ16_init_2.data.toList.drop 23 = dktJ16_init_2_1 := dk_seg dksJ16_init_2_0 23 rfl rfl
theorem dksJ16_init_2_2 : cJ16_init_2.data.toList.drop 47 = dktJ16_init_2_2 := dk_seg dksJ16_init_2_1 24 rfl rfl
theorem dJ16_init_2_0 : decode cJ16_init_2 0 = .ok (.aload_n 0, 1) := dk_42 (dk_at dksJ16_init_2_0 0 rfl rfl)
theorem dJ16_init_2_1 : decode cJ16_init_2 1 = .ok (.invokespecial 1, 3) := dk_183 0 1 (dk_at dksJ16_init_2_0 1 rfl rfl)
theorem dJ16_init_2_4 : decode cJ16_init_2 4 = .ok (.aload_n 0, 1) := dk_42 (dk_at dksJ16_init_2_0 4 rfl rfl)
theorem dJ16_init_2_5 : decode cJ16_init_2 5 = .ok (.aload_n 0, 1) := dk_42 (dk_at dksJ16_init_2_0 5 rfl rfl)
theorem dJ16_init_2_6 : decode cJ16_init_2 6 = .ok (.putfield 7, 3) := dk_181 0 7 (dk_at dksJ16_init_2_0 6 rfl rfl)
theorem dJ16_init_2_9 : decode cJ16_init_2 9 = .ok (.aload_n 0, 1) := dk_42 (dk_at dksJ16_init_2_0 9 rfl rfl)
theorem dJ16_init_2_10 : decode cJ16_init_2 10 = .ok (.getstatic 13, 3) := dk_178 0 13 (dk_at dksJ16_init_2_0 10 rfl rfl)
theorem dJ16_init_2_13 : decode cJ16_init_2 13 = .ok (.putfield 17, 3) := dk_181 0 17 (dk_at dksJ16_init_2_0 13 rfl rfl)
theorem dJ16_init_2_16 : decode cJ16_init_2 16 = .ok (.aload_n 0, 1) := dk_42 (dk_at dksJ16_init_2_0 16 rfl rfl)
theorem dJ16_init_2_17 : decode cJ16_init_2 17 = .ok (.getstatic 20, 3) := dk_178 0 20 (dk_at dksJ16_init_2_0 17 rfl rfl)
theorem dJ16_init_2_20 : decode cJ16_init_2 20 = .ok (.putfield 24, 3) := dk_181 0 24 (dk_at dksJ16_init_2_0 20 rfl rfl)
theorem dJ16_init_2_23 : decode cJ16_init_2 23 = .ok (.iload 4, 2) := dk_21 4 (dk_at dksJ16_init_2_1 0 rfl rfl)
theorem dJ16_init_2_25 : decode cJ16_init_2 25 = .ok (.ifCond .eq 11, 3) := dk_153 0 11 (dk_at dksJ16_init_2_1 2 rfl rfl)
theorem dJ16_init_2_28 : decode cJ16_init_2 28 = .ok (.aload_n 0, 1) := dk_42 (dk_at dksJ16_init_2_1 5 rfl rfl)
theorem dJ16_init_2_29 : decode cJ16_init_2 29 = .ok (.invokevirtual 27, 3) := dk_182 0 27 (dk_at dksJ16_init_2_1 6 rfl rfl)
theorem dJ16_init_2_32 : decode cJ16_init_2 32 = .ok (.pop, 1) := dk_87 (dk_at dksJ16_init_2_1 9 rfl rfl)
theorem dJ16_init_2_33 : decode cJ16_init_2 33 = .ok (.goto 8, 3) := dk_167 0 8 (dk_at dksJ16_init_2_1 10 rfl rfl)
theorem dJ16_init_2_36 : decode cJ16_init_2 36 = .ok (.aload_n 0, 1) := dk_42 (dk_at dksJ16_init_2_1 13 rfl rfl)
theorem dJ16_init_2_37 : decode cJ16_init_2 37 = .ok (.aconst_null, 1) := dk_1 (dk_at dksJ16_init_2_1 14 rfl rfl)
theorem dJ16_init_2_38 : decode cJ16_init_2 38 = .ok (.putfield 17, 3) := dk_181 0 17 (dk_at dksJ16_init_2_1 15 rfl rfl)
theorem dJ16_init_2_41 : decode cJ16_init_2 41 = .ok (.aload_n 0, 1) := dk_42 (dk_at dksJ16_init_2_1 18 rfl rfl)
theorem dJ16_init_2_42 : decode cJ16_init_2 42 = .ok (.aload_n 1, 1) := dk_43 (dk_at dksJ16_init_2_1 19 rfl rfl)
theorem dJ16_init_2_43 : decode cJ16_init_2 43 = .ok (.putfield 31, 3) := dk_181 0 31 (dk_at dksJ16_init_2_1 20 rfl rfl)
theorem dJ16_init_2_46 : decode cJ16_init_2 46 = .ok (.aload_n 0, 1) := dk_42 (dk_at dksJ16_init_2_1 23 rfl rfl)
theorem dJ16_init_2_47 : decode cJ16_init_2 47 = .ok (.aload_n 2, 1) := dk_44 (dk_at dksJ16_init_2_2 0 rfl rfl)
theorem dJ16_init_2_48 : decode cJ16_init_2 48 = .ok (.putfield 7, 3) := dk_181 0 7 (dk_at dksJ16_init_2_2 1 rfl rfl)
theorem dJ16_init_2_51 : decode cJ16_init_2 51 = .ok (.iload_n 3, 1) := dk_29 (dk_at dksJ16_init_2_2 4 rfl rfl)
theorem dJ16_init_2_52 : decode cJ16_init_2 52 = .ok (.ifCond .ne 8, 3) := dk_154 0 8 (dk_at dksJ16_init_2_2 5 rfl rfl)
theorem dJ16_init_2_55 : decode cJ16_init_2 55 = .ok (.aload_n 0, 1) := dk_42 (dk_at dksJ16_init_2_2 8 rfl rfl)
theorem dJ16_init_2_56 : decode cJ16_init_2 56 = .ok (.aconst_null, 1) := dk_1 (dk_at dksJ16_init_2_2 9 rfl rfl)
theorem dJ16_init_2_57 : decode cJ16_init_2 57 = .ok (.putfield 24, 3) := dk_181 0 24 (dk_at dksJ16_init_2_2 10 rfl rfl)
theorem dJ16_init_2_60 : decode cJ16_init_2 60 = .ok (.return_, 1) := dk_177 (dk_at dksJ16_init_2_2 13 rfl rfl)
abbrev cJ16_init_3 : ByteArray := prog_40_method_2_code
def yJ16_init_3 : MethodName := ⟨RJ16, "<init>", "(Ljava/lang/String;)V"⟩
def dkwJ16_init_3_1 : List UInt8 := [182, 0, 27, 87, 42, 43, 181, 0, 31, 177]
abbrev dktJ16_init_3_1 : List UInt8 := dkwJ16_init_3_1 ++ []
def dkwJ16_init_3_0 : List UInt8 := [42, 183, 0, 1, 42, 42, 181, 0, 7, 42, 178, 0, 13, 181, 0, 17, 42, 178, 0, 20, 181, 0, 24, 42]
abbrev dktJ16_init_3_0 : List UInt8 := dkwJ16_init_3_0 ++ dktJ16_init_3_1
theorem dksJ16_init_3_0 : cJ16_init_3.data.toList.drop 0 = dktJ16_init_3_0 := by decide +kernel
theorem dksJ16_init_3_1 : cJ16_init_3.data.toList.drop 24 = dktJ16_init_3_1 := dk_seg dksJ16_init_3_0 24 rfl rfl
theorem dJ16_init_3_0 : decode cJ16_init_3 0 = .ok (.aload_n 0, 1) := dk_42 (dk_at dksJ16_init_3_0 0 rfl rfl)
theorem dJ16_init_3_1 : decode cJ16_init_3 1 = .ok (.invokespecial 1, 3) := dk_183 0 1 (dk_at dksJ16_init_3_0 1 rfl rfl)
theorem dJ16_init_3_4 : decode cJ16_init_3 4 = .ok (.aload_n 0, 1) := dk_42 (dk_at dksJ16_init_3_0 4 rfl rfl)
theorem dJ16_init_3_5 : decode cJ16_init_3 5 = .ok (.aload_n 0, 1) := dk_42 (dk_at dksJ16_init_3_0 5 rfl rfl)
theorem dJ16_init_3_6 : decode cJ16_init_3 6 = .ok (.putfield 7, 3) := dk_181 0 7 (dk_at dksJ16_init_3_0 6 rfl rfl)
theorem dJ16_init_3_9 : decode cJ16_init_3 9 = .ok (.aload_n 0, 1) := dk_42 (dk_at dksJ16_init_3_0 9 rfl rfl)
theorem dJ16_init_3_10 : decode cJ16_init_3 10 = .ok (.getstatic 13, 3) := dk_178 0 13 (dk_at dksJ16_init_3_0 10 rfl rfl)
theorem dJ16_init_3_13 : decode cJ16_init_3 13 = .ok (.putfield 17, 3) := dk_181 0 17 (dk_at dksJ16_init_3_0 13 rfl rfl)
theorem dJ16_init_3_16 : decode cJ16_init_3 16 = .ok (.aload_n 0, 1) := dk_42 (dk_at dksJ16_init_3_0 16 rfl rfl)
theorem dJ16_init_3_17 : decode cJ16_init_3 17 = .ok (.getstatic 20, 3) := dk_178 0 20 (dk_at dksJ16_init_3_0 17 rfl rfl)
theorem dJ16_init_3_20 : decode cJ16_init_3 20 = .ok (.putfield 24, 3) := dk_181 0 24 (dk_at dksJ16_init_3_0 20 rfl rfl)
theorem dJ16_init_3_23 : decode cJ16_init_3 23 = .ok (.aload_n 0, 1) := dk_42 (dk_at dksJ16_init_3_0 23 rfl rfl)
theorem dJ16_init_3_24 : decode cJ16_init_3 24 = .ok (.invokevirtual 27, 3) := dk_182 0 27 (dk_at dksJ16_init_3_1 0 rfl rfl)
theorem dJ16_init_3_27 : decode cJ16_init_3 27 = .ok (.pop, 1) := dk_87 (dk_at dksJ16_init_3_1 3 rfl rfl)
theorem dJ16_init_3_28 : decode cJ16_init_3 28 = .ok (.aload_n 0, 1) := dk_42 (dk_at dksJ16_init_3_1 4 rfl rfl)
theorem dJ16_init_3_29 : decode cJ16_init_3 29 = .ok (.aload_n 1, 1) := dk_43 (dk_at dksJ16_init_3_1 5 rfl rfl)
theorem dJ16_init_3_30 : decode cJ16_init_3 30 = .ok (.putfield 31, 3) := dk_181 0 31 (dk_at dksJ16_init_3_1 6 rfl rfl)
theorem dJ16_init_3_33 : decode cJ16_init_3 33 = .ok (.return_, 1) := dk_177 (dk_at dksJ16_init_3_1 9 rfl rfl)
abbrev cJ16_init_4 : ByteArray := prog_40_method_4_code
def yJ16_init_4 : MethodName := ⟨RJ16, "<init>", "(Ljava/lang/Throwable;)V"⟩
def dkwJ16_init_4_2 : List UInt8 := [181, 0, 7, 177]
abbrev dktJ16_init_4_2 : List UInt8 := dkwJ16_init_4_2 ++ []
def dkwJ16_init_4_1 : List UInt8 := [182, 0, 27, 87, 42, 43, 199, 0, 7, 1, 167, 0, 7, 43, 182, 0, 35, 181, 0, 31, 42, 43]
abbrev dktJ16_init_4_1 : List UInt8 := dkwJ16_init_4_1 ++ dktJ16_init_4_2
def dkwJ16_init_4_0 : List UInt8 := [42, 183, 0, 1, 42, 42, 181, 0, 7, 42, 178, 0, 13, 181, 0, 17, 42, 178, 0, 20, 181, 0, 24, 42]
abbrev dktJ16_init_4_0 : List UInt8 := dkwJ16_init_4_0 ++ dktJ16_init_4_1
theorem dksJ16_init_4_0 : cJ16_init_4.data.toList.drop 0 = dktJ16_init_4_0 := by decide +kernel
theorem dksJ16_init_4_1 : cJ16_init_4.data.toList.drop 24 = dktJ16_init_4_1 := dk_seg dksJ16_init_4_0 24 rfl rfl
theorem dksJ16_init_4_2 : cJ16_init_4.data.toList.drop 46 = dktJ16_init_4_2 := dk_seg dksJ16_init_4_1 22 rfl rfl
theorem dJ16_init_4_0 : decode cJ16_init_4 0 = .ok (.aload_n 0, 1) := dk_42 (dk_at dksJ16_init_4_0 0 rfl rfl)
theorem dJ16_init_4_1 : decode cJ16_init_4 1 = .ok (.invokespecial 1, 3) := dk_183 0 1 (dk_at dksJ16_init_4_0 1 rfl rfl)
theorem dJ16_init_4_4 : decode cJ16_init_4 4 = .ok (.aload_n 0, 1) := dk_42 (dk_at dksJ16_init_4_0 4 rfl rfl)
theorem dJ16_init_4_5 : decode cJ16_init_4 5 = .ok (.aload_n 0, 1) := dk_42 (dk_at dksJ16_init_4_0 5 rfl rfl)
theorem dJ16_init_4_6 : decode cJ16_init_4 6 = .ok (.putfield 7, 3) := dk_181 0 7 (dk_at dksJ16_init_4_0 6 rfl rfl)
theorem dJ16_init_4_9 : decode cJ16_init_4 9 = .ok (.aload_n 0, 1) := dk_42 (dk_at dksJ16_init_4_0 9 rfl rfl)
theorem dJ16_init_4_10 : decode cJ16_init_4 10 = .ok (.getstatic 13, 3) := dk_178 0 13 (dk_at dksJ16_init_4_0 10 rfl rfl)
theorem dJ16_init_4_13 : decode cJ16_init_4 13 = .ok (.putfield 17, 3) := dk_181 0 17 (dk_at dksJ16_init_4_0 13 rfl rfl)
theorem dJ16_init_4_16 : decode cJ16_init_4 16 = .ok (.aload_n 0, 1) := dk_42 (dk_at dksJ16_init_4_0 16 rfl rfl)
theorem dJ16_init_4_17 : decode cJ16_init_4 17 = .ok (.getstatic 20, 3) := dk_178 0 20 (dk_at dksJ16_init_4_0 17 rfl rfl)
theorem dJ16_init_4_20 : decode cJ16_init_4 20 = .ok (.putfield 24, 3) := dk_181 0 24 (dk_at dksJ16_init_4_0 20 rfl rfl)
theorem dJ16_init_4_23 : decode cJ16_init_4 23 = .ok (.aload_n 0, 1) := dk_42 (dk_at dksJ16_init_4_0 23 rfl rfl)
theorem dJ16_init_4_24 : decode cJ16_init_4 24 = .ok (.invokevirtual 27, 3) := dk_182 0 27 (dk_at dksJ16_init_4_1 0 rfl rfl)
theorem dJ16_init_4_27 : decode cJ16_init_4 27 = .ok (.pop, 1) := dk_87 (dk_at dksJ16_init_4_1 3 rfl rfl)
theorem dJ16_init_4_28 : decode cJ16_init_4 28 = .ok (.aload_n 0, 1) := dk_42 (dk_at dksJ16_init_4_1 4 rfl rfl)
theorem dJ16_init_4_29 : decode cJ16_init_4 29 = .ok (.aload_n 1, 1) := dk_43 (dk_at dksJ16_init_4_1 5 rfl rfl)
theorem dJ16_init_4_30 : decode cJ16_init_4 30 = .ok (.ifnonnull 7, 3) := dk_199 0 7 (dk_at dksJ16_init_4_1 6 rfl rfl)
theorem dJ16_init_4_33 : decode cJ16_init_4 33 = .ok (.aconst_null, 1) := dk_1 (dk_at dksJ16_init_4_1 9 rfl rfl)
theorem dJ16_init_4_34 : decode cJ16_init_4 34 = .ok (.goto 7, 3) := dk_167 0 7 (dk_at dksJ16_init_4_1 10 rfl rfl)
theorem dJ16_init_4_37 : decode cJ16_init_4 37 = .ok (.aload_n 1, 1) := dk_43 (dk_at dksJ16_init_4_1 13 rfl rfl)
theorem dJ16_init_4_38 : decode cJ16_init_4 38 = .ok (.invokevirtual 35, 3) := dk_182 0 35 (dk_at dksJ16_init_4_1 14 rfl rfl)
theorem dJ16_init_4_41 : decode cJ16_init_4 41 = .ok (.putfield 31, 3) := dk_181 0 31 (dk_at dksJ16_init_4_1 17 rfl rfl)
theorem dJ16_init_4_44 : decode cJ16_init_4 44 = .ok (.aload_n 0, 1) := dk_42 (dk_at dksJ16_init_4_1 20 rfl rfl)
theorem dJ16_init_4_45 : decode cJ16_init_4 45 = .ok (.aload_n 1, 1) := dk_43 (dk_at dksJ16_init_4_1 21 rfl rfl)
theorem dJ16_init_4_46 : decode cJ16_init_4 46 = .ok (.putfield 7, 3) := dk_181 0 7 (dk_at dksJ16_init_4_2 0 rfl rfl)
theorem dJ16_init_4_49 : decode cJ16_init_4 49 = .ok (.return_, 1) := dk_177 (dk_at dksJ16_init_4_2 3 rfl rfl)
abbrev cJ16_toString : ByteArray := prog_40_method_11_code
def yJ16_toString : MethodName := ⟨RJ16, "toString", "()Ljava/lang/String;"⟩
def dkwJ16_toString_1 : List UInt8 := [43, 182, 0, 49, 18, 81, 182, 0, 49, 44, 182, 0, 49, 182, 0, 60, 167, 0, 4, 43, 176]
abbrev dktJ16_toString_1 : List UInt8 := dkwJ16_toString_1 ++ []
def dkwJ16_toString_0 : List UInt8 := [42, 182, 0, 69, 182, 0, 73, 76, 42, 182, 0, 78, 77, 44, 198, 0, 29, 187, 0, 44, 89, 183, 0, 46]
abbrev dktJ16_toString_0 : List UInt8 := dkwJ16_toString_0 ++ dktJ16_toString_1
theorem dksJ16_toString_0 : cJ16_toString.data.toList.drop 0 = dktJ16_toString_0 := by decide +kernel
theorem dksJ16_toString_1 : cJ16_toString.data.toList.drop 24 = dktJ16_toString_1 := dk_seg dksJ16_toString_0 24 rfl rfl
theorem dJ16_toString_0 : decode cJ16_toString 0 = .ok (.aload_n 0, 1) := dk_42 (dk_at dksJ16_toString_0 0 rfl rfl)
theorem dJ16_toString_1 : decode cJ16_toString 1 = .ok (.invokevirtual 69, 3) := dk_182 0 69 (dk_at dksJ16_toString_0 1 rfl rfl)
theorem dJ16_toString_4 : decode cJ16_toString 4 = .ok (.invokevirtual 73, 3) := dk_182 0 73 (dk_at dksJ16_toString_0 4 rfl rfl)
theorem dJ16_toString_7 : decode cJ16_toString 7 = .ok (.astore_n 1, 1) := dk_76 (dk_at dksJ16_toString_0 7 rfl rfl)
theorem dJ16_toString_8 : decode cJ16_toString 8 = .ok (.aload_n 0, 1) := dk_42 (dk_at dksJ16_toString_0 8 rfl rfl)
theorem dJ16_toString_9 : decode cJ16_toString 9 = .ok (.invokevirtual 78, 3) := dk_182 0 78 (dk_at dksJ16_toString_0 9 rfl rfl)
theorem dJ16_toString_12 : decode cJ16_toString 12 = .ok (.astore_n 2, 1) := dk_77 (dk_at dksJ16_toString_0 12 rfl rfl)
theorem dJ16_toString_13 : decode cJ16_toString 13 = .ok (.aload_n 2, 1) := dk_44 (dk_at dksJ16_toString_0 13 rfl rfl)
theorem dJ16_toString_14 : decode cJ16_toString 14 = .ok (.ifnull 29, 3) := dk_198 0 29 (dk_at dksJ16_toString_0 14 rfl rfl)
theorem dJ16_toString_17 : decode cJ16_toString 17 = .ok (.new 44, 3) := dk_187 0 44 (dk_at dksJ16_toString_0 17 rfl rfl)
theorem dJ16_toString_20 : decode cJ16_toString 20 = .ok (.dup, 1) := dk_89 (dk_at dksJ16_toString_0 20 rfl rfl)
theorem dJ16_toString_21 : decode cJ16_toString 21 = .ok (.invokespecial 46, 3) := dk_183 0 46 (dk_at dksJ16_toString_0 21 rfl rfl)
theorem dJ16_toString_24 : decode cJ16_toString 24 = .ok (.aload_n 1, 1) := dk_43 (dk_at dksJ16_toString_1 0 rfl rfl)
theorem dJ16_toString_25 : decode cJ16_toString 25 = .ok (.invokevirtual 49, 3) := dk_182 0 49 (dk_at dksJ16_toString_1 1 rfl rfl)
theorem dJ16_toString_28 : decode cJ16_toString 28 = .ok (.ldc 81, 2) := dk_18 81 (dk_at dksJ16_toString_1 4 rfl rfl)
theorem dJ16_toString_30 : decode cJ16_toString 30 = .ok (.invokevirtual 49, 3) := dk_182 0 49 (dk_at dksJ16_toString_1 6 rfl rfl)
theorem dJ16_toString_33 : decode cJ16_toString 33 = .ok (.aload_n 2, 1) := dk_44 (dk_at dksJ16_toString_1 9 rfl rfl)
theorem dJ16_toString_34 : decode cJ16_toString 34 = .ok (.invokevirtual 49, 3) := dk_182 0 49 (dk_at dksJ16_toString_1 10 rfl rfl)
theorem dJ16_toString_37 : decode cJ16_toString 37 = .ok (.invokevirtual 60, 3) := dk_182 0 60 (dk_at dksJ16_toString_1 13 rfl rfl)
theorem dJ16_toString_40 : decode cJ16_toString 40 = .ok (.goto 4, 3) := dk_167 0 4 (dk_at dksJ16_toString_1 16 rfl rfl)
theorem dJ16_toString_43 : decode cJ16_toString 43 = .ok (.aload_n 1, 1) := dk_43 (dk_at dksJ16_toString_1 19 rfl rfl)
theorem dJ16_toString_44 : decode cJ16_toString 44 = .ok (.areturn, 1) := dk_176 (dk_at dksJ16_toString_1 20 rfl rfl)
abbrev cJ16_getLocalizedMessage : ByteArray := prog_40_method_7_code
def yJ16_getLocalizedMessage : MethodName := ⟨RJ16, "getLocalizedMessage", "()Ljava/lang/String;"⟩
theorem dJ16_getLocalizedMessage_0 : decode cJ16_getLocalizedMessage 0 = .ok (.aload_n 0, 1) := by decide +kernel
theorem dJ16_getLocalizedMessage_1 : decode cJ16_getLocalizedMessage 1 = .ok (.invokevirtual 39, 3) := by decide +kernel
theorem dJ16_getLocalizedMessage_4 : decode cJ16_getLocalizedMessage 4 = .ok (.areturn, 1) := by decide +kernel
abbrev cJ16_getMessage : ByteArray := prog_40_method_6_code
def yJ16_getMessage : MethodName := ⟨RJ16, "getMessage", "()Ljava/lang/String;"⟩
theorem dJ16_getMessage_0 : decode cJ16_getMessage 0 = .ok (.aload_n 0, 1) := by decide +kernel
theorem dJ16_getMessage_1 : decode cJ16_getMessage 1 = .ok (.getfield 31, 3) := by decide +kernel
theorem dJ16_getMessage_4 : decode cJ16_getMessage 4 = .ok (.areturn, 1) := by decide +kernel
theorem q139 : (Jvm.Cond.initialized "java/lang/Throwable") ∈ lw_all := lw_g (lw_at lw_m1 26 rfl) rfl
theorem q636 : (Jvm.Cond.declares ({ cls := "java/lang/Throwable", name := "<init>", desc := "()V" } : Jvm.MethodName)) ∈ lw_tbl := lw_at lw_m3 43 rfl
theorem q637 : (Jvm.Cond.declares ({ cls := "java/lang/Throwable", name := "<init>", desc := "(Ljava/lang/String;)V" } : Jvm.MethodName)) ∈ lw_tbl := lw_at lw_m3 44 rfl
theorem q641 : (Jvm.Cond.lays "java/lang/Throwable" "java/lang/Throwable" "cause" "Ljava/lang/Throwable;") ∈ lw_all := lw_g (lw_at lw_m3 48 rfl) rfl
theorem q643 : (Jvm.Cond.lays "java/lang/Throwable" "java/lang/Throwable" "stackTrace" "[Ljava/lang/StackTraceElement;") ∈ lw_all := lw_g (lw_at lw_m3 50 rfl) rfl
theorem q645 : (Jvm.Cond.lays "java/lang/Throwable" "java/lang/Throwable" "suppressedExceptions" "Ljava/util/List;") ∈ lw_all := lw_g (lw_at lw_m3 52 rfl) rfl
theorem q647 : (Jvm.Cond.lays "java/lang/Throwable" "java/lang/Throwable" "detailMessage" "Ljava/lang/String;") ∈ lw_all := lw_g (lw_at lw_m3 54 rfl) rfl
theorem q649 : (Jvm.Cond.lays "java/lang/Throwable" "java/lang/Throwable" "backtrace" "Ljava/lang/Object;") ∈ lw_all := lw_g (lw_at lw_m3 56 rfl) rfl
theorem q650 : (Jvm.Cond.fieldLink "java/lang/Throwable" (198 : Nat) "java/lang/Throwable" "backtrace" "Ljava/lang/Object;") ∈ lw_all := lw_g (lw_at lw_m3 57 rfl) rfl
theorem q651 : (Jvm.Cond.superclass "java/lang/Throwable" "java/lang/Object") ∈ lw_all := lw_g (lw_at lw_m3 58 rfl) rfl
theorem q652 : (Jvm.Cond.instanceMethod ({ cls := "java/lang/Throwable", name := "<init>", desc := "()V" } : Jvm.MethodName)) ∈ lw_all := lw_g (lw_at lw_m3 59 rfl) rfl
theorem q653 : (Jvm.Cond.code ({ cls := "java/lang/Throwable", name := "<init>", desc := "()V" } : Jvm.MethodName) prog_40_method_1_code (1 : Nat) (Option.none : Option Jvm.ClassFile.FieldType)) ∈ lw_all := lw_g (lw_at lw_m3 60 rfl) rfl
theorem q654 : (Jvm.Cond.methodLink "java/lang/Throwable" (1 : Nat) ({ cls := "java/lang/Object", name := "<init>", desc := "()V" } : Jvm.MethodName)) ∈ lw_all := lw_g (lw_at lw_m3 61 rfl) rfl
theorem q655 : (Jvm.Cond.fieldLink "java/lang/Throwable" (13 : Nat) "java/lang/Throwable" "UNASSIGNED_STACK" "[Ljava/lang/StackTraceElement;") ∈ lw_all := lw_g (lw_at lw_m3 62 rfl) rfl
theorem q656 : (Jvm.Cond.laysStatic "java/lang/Throwable" "UNASSIGNED_STACK" "[Ljava/lang/StackTraceElement;") ∈ lw_tbl := lw_at lw_m3 63 rfl
theorem q657 : (Jvm.Cond.fieldLink "java/lang/Throwable" (20 : Nat) "java/lang/Throwable" "SUPPRESSED_SENTINEL" "Ljava/util/List;") ∈ lw_all := lw_g (lw_at lw_m3 64 rfl) rfl
theorem q658 : (Jvm.Cond.laysStatic "java/lang/Throwable" "SUPPRESSED_SENTINEL" "Ljava/util/List;") ∈ lw_tbl := lw_at lw_m3 65 rfl
theorem q659 : (Jvm.Cond.methodLink "java/lang/Throwable" (27 : Nat) ({ cls := "java/lang/Throwable", name := "fillInStackTrace", desc := "()Ljava/lang/Throwable;" } : Jvm.MethodName)) ∈ lw_all := lw_g (lw_at lw_m3 66 rfl) rfl
theorem q660 : (Jvm.Cond.instanceMethod ({ cls := "java/lang/Throwable", name := "fillInStackTrace", desc := "()Ljava/lang/Throwable;" } : Jvm.MethodName)) ∈ lw_all := lw_g (lw_at lw_m3 67 rfl) rfl
theorem q661 : (Jvm.Cond.sameMethod "java/lang/Throwable" "java/lang/Throwable" "fillInStackTrace" "()Ljava/lang/Throwable;") ∈ lw_all := lw_g (lw_at lw_m3 68 rfl) rfl
theorem q671 : (Jvm.Cond.codeSync ({ cls := "java/lang/Throwable", name := "fillInStackTrace", desc := "()Ljava/lang/Throwable;" } : Jvm.MethodName) prog_40_method_18_code (1 : Nat) (Option.some (Jvm.ClassFile.FieldType.object "java/lang/Throwable"))) ∈ lw_all := lw_g (lw_at lw_m3 78 rfl) rfl
theorem q672 : (Jvm.Cond.methodLink "java/lang/Throwable" (202 : Nat) ({ cls := "java/lang/Throwable", name := "fillInStackTrace", desc := "(I)Ljava/lang/Throwable;" } : Jvm.MethodName)) ∈ lw_all := lw_g (lw_at lw_m3 79 rfl) rfl
theorem q673 : (Jvm.Cond.privateMethod ({ cls := "java/lang/Throwable", name := "fillInStackTrace", desc := "(I)Ljava/lang/Throwable;" } : Jvm.MethodName)) ∈ lw_tbl := lw_at lw_m3 80 rfl
theorem q674 : (Jvm.Cond.instanceMethod ({ cls := "java/lang/Throwable", name := "fillInStackTrace", desc := "(I)Ljava/lang/Throwable;" } : Jvm.MethodName)) ∈ lw_all := lw_g (lw_at lw_m3 81 rfl) rfl
theorem q675 : (Jvm.Cond.instantiable "java/lang/Throwable" (6 : Nat)) ∈ lw_all := lw_g (lw_at lw_m3 82 rfl) rfl
theorem q676 : (Jvm.Cond.native ({ cls := "java/lang/Throwable", name := "fillInStackTrace", desc := "(I)Ljava/lang/Throwable;" } : Jvm.MethodName)) ∈ lw_all := lw_g (lw_at lw_m3 83 rfl) rfl
theorem q687 : (Jvm.Cond.fieldLink "java/lang/Throwable" (198 : Nat) "java/lang/Throwable" "backtrace" "Ljava/lang/Object;") ∈ lw_all := lw_g (lw_at lw_m3 94 rfl) rfl
theorem q688 : (Jvm.Cond.fieldLink "java/lang/Throwable" (31 : Nat) "java/lang/Throwable" "detailMessage" "Ljava/lang/String;") ∈ lw_all := lw_g (lw_at lw_m3 95 rfl) rfl
theorem q689 : (Jvm.Cond.fieldLink "java/lang/Throwable" (7 : Nat) "java/lang/Throwable" "cause" "Ljava/lang/Throwable;") ∈ lw_all := lw_g (lw_at lw_m3 96 rfl) rfl
theorem q690 : (Jvm.Cond.fieldLink "java/lang/Throwable" (17 : Nat) "java/lang/Throwable" "stackTrace" "[Ljava/lang/StackTraceElement;") ∈ lw_all := lw_g (lw_at lw_m3 97 rfl) rfl
theorem q691 : (Jvm.Cond.fieldLink "java/lang/Throwable" (24 : Nat) "java/lang/Throwable" "suppressedExceptions" "Ljava/util/List;") ∈ lw_all := lw_g (lw_at lw_m3 98 rfl) rfl
theorem q692 : (Jvm.Cond.soleField "java/lang/Throwable" "backtrace") ∈ lw_all := lw_g (lw_at lw_m3 99 rfl) rfl
theorem q693 : (Jvm.Cond.soleField "java/lang/Throwable" "detailMessage") ∈ lw_all := lw_g (lw_at lw_m3 100 rfl) rfl
theorem q694 : (Jvm.Cond.soleField "java/lang/Throwable" "cause") ∈ lw_all := lw_g (lw_at lw_m3 101 rfl) rfl
theorem q695 : (Jvm.Cond.soleField "java/lang/Throwable" "stackTrace") ∈ lw_all := lw_g (lw_at lw_m3 102 rfl) rfl
theorem q697 : (Jvm.Cond.soleField "java/lang/Throwable" "depth") ∈ lw_all := lw_g (lw_at lw_m3 104 rfl) rfl
theorem q698 : (Jvm.Cond.soleField "java/lang/Throwable" "suppressedExceptions") ∈ lw_all := lw_g (lw_at lw_m3 105 rfl) rfl
theorem q845 : (Jvm.Cond.instanceMethod ({ cls := "java/lang/Throwable", name := "<init>", desc := "(Ljava/lang/String;Ljava/lang/Throwable;ZZ)V" } : Jvm.MethodName)) ∈ lw_all := lw_g (lw_at lw_m4 12 rfl) rfl
theorem q846 : (Jvm.Cond.code ({ cls := "java/lang/Throwable", name := "<init>", desc := "(Ljava/lang/String;Ljava/lang/Throwable;ZZ)V" } : Jvm.MethodName) prog_40_method_5_code (5 : Nat) (Option.none : Option Jvm.ClassFile.FieldType)) ∈ lw_all := lw_g (lw_at lw_m4 13 rfl) rfl
theorem q1015 : (Jvm.Cond.instanceMethod ({ cls := "java/lang/Throwable", name := "<init>", desc := "(Ljava/lang/String;)V" } : Jvm.MethodName)) ∈ lw_all := lw_g (lw_at lw_m4 182 rfl) rfl
theorem q1016 : (Jvm.Cond.code ({ cls := "java/lang/Throwable", name := "<init>", desc := "(Ljava/lang/String;)V" } : Jvm.MethodName) prog_40_method_2_code (2 : Nat) (Option.none : Option Jvm.ClassFile.FieldType)) ∈ lw_all := lw_g (lw_at lw_m4 183 rfl) rfl
theorem q1508 : (Jvm.Cond.instanceMethod ({ cls := "java/lang/Throwable", name := "<init>", desc := "(Ljava/lang/Throwable;)V" } : Jvm.MethodName)) ∈ lw_all := lw_g (lw_at lw_m6 195 rfl) rfl
theorem q1509 : (Jvm.Cond.code ({ cls := "java/lang/Throwable", name := "<init>", desc := "(Ljava/lang/Throwable;)V" } : Jvm.MethodName) prog_40_method_4_code (2 : Nat) (Option.none : Option Jvm.ClassFile.FieldType)) ∈ lw_all := lw_g (lw_at lw_m6 196 rfl) rfl
theorem q1510 : (Jvm.Cond.methodLink "java/lang/Throwable" (35 : Nat) ({ cls := "java/lang/Throwable", name := "toString", desc := "()Ljava/lang/String;" } : Jvm.MethodName)) ∈ lw_all := lw_g (lw_at lw_m6 197 rfl) rfl
theorem q1511 : (Jvm.Cond.instanceMethod ({ cls := "java/lang/Throwable", name := "toString", desc := "()Ljava/lang/String;" } : Jvm.MethodName)) ∈ lw_all := lw_g (lw_at lw_m6 198 rfl) rfl
theorem q1512 : (Jvm.Cond.sameMethod "java/lang/Throwable" "java/lang/Throwable" "toString" "()Ljava/lang/String;") ∈ lw_all := lw_g (lw_at lw_m6 199 rfl) rfl
theorem q1523 : (Jvm.Cond.code ({ cls := "java/lang/Throwable", name := "toString", desc := "()Ljava/lang/String;" } : Jvm.MethodName) prog_40_method_11_code (3 : Nat) (Option.some (Jvm.ClassFile.FieldType.object "java/lang/String"))) ∈ lw_all := lw_g (lw_at lw_m6 210 rfl) rfl
theorem q1524 : (Jvm.Cond.methodLink "java/lang/Throwable" (69 : Nat) ({ cls := "java/lang/Object", name := "getClass", desc := "()Ljava/lang/Class;" } : Jvm.MethodName)) ∈ lw_all := lw_g (lw_at lw_m6 211 rfl) rfl
theorem q1525 : (Jvm.Cond.methodLink "java/lang/Throwable" (78 : Nat) ({ cls := "java/lang/Throwable", name := "getLocalizedMessage", desc := "()Ljava/lang/String;" } : Jvm.MethodName)) ∈ lw_all := lw_g (lw_at lw_m6 212 rfl) rfl
theorem q1526 : (Jvm.Cond.instanceMethod ({ cls := "java/lang/Throwable", name := "getLocalizedMessage", desc := "()Ljava/lang/String;" } : Jvm.MethodName)) ∈ lw_all := lw_g (lw_at lw_m6 213 rfl) rfl
theorem q1527 : (Jvm.Cond.sameMethod "java/lang/Throwable" "java/lang/Throwable" "getLocalizedMessage" "()Ljava/lang/String;") ∈ lw_all := lw_g (lw_at lw_m6 214 rfl) rfl
theorem q1538 : (Jvm.Cond.code ({ cls := "java/lang/Throwable", name := "getLocalizedMessage", desc := "()Ljava/lang/String;" } : Jvm.MethodName) prog_40_method_7_code (1 : Nat) (Option.some (Jvm.ClassFile.FieldType.object "java/lang/String"))) ∈ lw_all := lw_g (lw_at lw_m6 225 rfl) rfl
theorem q1539 : (Jvm.Cond.methodLink "java/lang/Throwable" (39 : Nat) ({ cls := "java/lang/Throwable", name := "getMessage", desc := "()Ljava/lang/String;" } : Jvm.MethodName)) ∈ lw_all := lw_g (lw_at lw_m6 226 rfl) rfl
theorem q1540 : (Jvm.Cond.instanceMethod ({ cls := "java/lang/Throwable", name := "getMessage", desc := "()Ljava/lang/String;" } : Jvm.MethodName)) ∈ lw_all := lw_g (lw_at lw_m6 227 rfl) rfl
theorem q1541 : (Jvm.Cond.sameMethod "java/lang/Throwable" "java/lang/Throwable" "getMessage" "()Ljava/lang/String;") ∈ lw_all := lw_g (lw_at lw_m6 228 rfl) rfl
theorem q1552 : (Jvm.Cond.code ({ cls := "java/lang/Throwable", name := "getMessage", desc := "()Ljava/lang/String;" } : Jvm.MethodName) prog_40_method_6_code (1 : Nat) (Option.some (Jvm.ClassFile.FieldType.object "java/lang/String"))) ∈ lw_all := lw_g (lw_at lw_m6 239 rfl) rfl
theorem q1553 : (Jvm.Cond.classLink "java/lang/Throwable" (44 : Nat) "java/lang/StringBuilder") ∈ lw_all := lw_g (lw_at lw_m7 0 rfl) rfl
theorem q1554 : (Jvm.Cond.methodLink "java/lang/Throwable" (46 : Nat) ({ cls := "java/lang/StringBuilder", name := "<init>", desc := "()V" } : Jvm.MethodName)) ∈ lw_all := lw_g (lw_at lw_m7 1 rfl) rfl
theorem q1555 : (Jvm.Cond.methodLink "java/lang/Throwable" (49 : Nat) ({ cls := "java/lang/StringBuilder", name := "append", desc := "(Ljava/lang/String;)Ljava/lang/StringBuilder;" } : Jvm.MethodName)) ∈ lw_all := lw_g (lw_at lw_m7 2 rfl) rfl
theorem q1556 : (Jvm.Cond.stringRef "java/lang/Throwable" (81 : Nat) ": ") ∈ lw_tbl := lw_at lw_m7 3 rfl
theorem q1557 : (Jvm.Cond.methodLink "java/lang/Throwable" (60 : Nat) ({ cls := "java/lang/StringBuilder", name := "toString", desc := "()Ljava/lang/String;" } : Jvm.MethodName)) ∈ lw_all := lw_g (lw_at lw_m7 4 rfl) rfl
theorem q1859 : (Jvm.Cond.declares ({ cls := "java/lang/Throwable", name := "getCause", desc := "()Ljava/lang/Throwable;" } : Jvm.MethodName)) ∈ lw_tbl := lw_at lw_m8 66 rfl
theorem q1861 : (Jvm.Cond.instanceMethod ({ cls := "java/lang/Throwable", name := "getCause", desc := "()Ljava/lang/Throwable;" } : Jvm.MethodName)) ∈ lw_all := lw_g (lw_at lw_m8 68 rfl) rfl
theorem q1862 : (Jvm.Cond.codeSync ({ cls := "java/lang/Throwable", name := "getCause", desc := "()Ljava/lang/Throwable;" } : Jvm.MethodName) prog_40_method_8_code (1 : Nat) (Option.some (Jvm.ClassFile.FieldType.object "java/lang/Throwable"))) ∈ lw_all := lw_g (lw_at lw_m8 69 rfl) rfl
theorem q2756 : (Jvm.Cond.sameMethod "java/lang/Throwable" "java/lang/Throwable" "fillInStackTrace" "(I)Ljava/lang/Throwable;") ∈ lw_all := lw_g (lw_at lw_m12 3 rfl) rfl
theorem q2810 : (Jvm.Cond.castable "java/lang/Throwable" "java/lang/Object") ∈ lw_tbl := lw_at lw_m12 57 rfl
theorem in_J16 : ∀ w ∈ wsJ160, w ∈ lw_all := lw_in wsJ160 [641, 643, 645, 647, 649] (by decide +kernel) (by decide +kernel)

/-! java/lang/Exception -/
set_option maxRecDepth 100000
def RJ17 : String := "java/lang/Exception"
abbrev cJ17_init : ByteArray := prog_22_method_1_code
def yJ17_init : MethodName := ⟨RJ17, "<init>", "()V"⟩
theorem dJ17_init_0 : decode cJ17_init 0 = .ok (.aload_n 0, 1) := by decide +kernel
theorem dJ17_init_1 : decode cJ17_init 1 = .ok (.invokespecial 1, 3) := by decide +kernel
theorem dJ17_init_4 : decode cJ17_init 4 = .ok (.return_, 1) := by decide +kernel
abbrev cJ17_init_2 : ByteArray := prog_22_method_5_code
def yJ17_init_2 : MethodName := ⟨RJ17, "<init>", "(Ljava/lang/String;Ljava/lang/Throwable;ZZ)V"⟩
def dkwJ17_init_2_0 : List UInt8 := [42, 43, 44, 29, 21, 4, 183, 0, 16, 177]
abbrev dktJ17_init_2_0 : List UInt8 := dkwJ17_init_2_0 ++ []
theorem dksJ17_init_2_0 : cJ17_init_2.data.toList.drop 0 = dktJ17_init_2_0 := by decide +kernel
theorem dJ17_init_2_0 : decode cJ17_init_2 0 = .ok (.aload_n 0, 1) := dk_42 (dk_at dksJ17_init_2_0 0 rfl rfl)
theorem dJ17_init_2_1 : decode cJ17_init_2 1 = .ok (.aload_n 1, 1) := dk_43 (dk_at dksJ17_init_2_0 1 rfl rfl)
theorem dJ17_init_2_2 : decode cJ17_init_2 2 = .ok (.aload_n 2, 1) := dk_44 (dk_at dksJ17_init_2_0 2 rfl rfl)
theorem dJ17_init_2_3 : decode cJ17_init_2 3 = .ok (.iload_n 3, 1) := dk_29 (dk_at dksJ17_init_2_0 3 rfl rfl)
theorem dJ17_init_2_4 : decode cJ17_init_2 4 = .ok (.iload 4, 2) := dk_21 4 (dk_at dksJ17_init_2_0 4 rfl rfl)
theorem dJ17_init_2_6 : decode cJ17_init_2 6 = .ok (.invokespecial 16, 3) := dk_183 0 16 (dk_at dksJ17_init_2_0 6 rfl rfl)
theorem dJ17_init_2_9 : decode cJ17_init_2 9 = .ok (.return_, 1) := dk_177 (dk_at dksJ17_init_2_0 9 rfl rfl)
abbrev cJ17_init_3 : ByteArray := prog_22_method_2_code
def yJ17_init_3 : MethodName := ⟨RJ17, "<init>", "(Ljava/lang/String;)V"⟩
def dkwJ17_init_3_0 : List UInt8 := [42, 43, 183, 0, 7, 177]
abbrev dktJ17_init_3_0 : List UInt8 := dkwJ17_init_3_0 ++ []
theorem dksJ17_init_3_0 : cJ17_init_3.data.toList.drop 0 = dktJ17_init_3_0 := by decide +kernel
theorem dJ17_init_3_0 : decode cJ17_init_3 0 = .ok (.aload_n 0, 1) := dk_42 (dk_at dksJ17_init_3_0 0 rfl rfl)
theorem dJ17_init_3_1 : decode cJ17_init_3 1 = .ok (.aload_n 1, 1) := dk_43 (dk_at dksJ17_init_3_0 1 rfl rfl)
theorem dJ17_init_3_2 : decode cJ17_init_3 2 = .ok (.invokespecial 7, 3) := dk_183 0 7 (dk_at dksJ17_init_3_0 2 rfl rfl)
theorem dJ17_init_3_5 : decode cJ17_init_3 5 = .ok (.return_, 1) := dk_177 (dk_at dksJ17_init_3_0 5 rfl rfl)
abbrev cJ17_init_4 : ByteArray := prog_22_method_4_code
def yJ17_init_4 : MethodName := ⟨RJ17, "<init>", "(Ljava/lang/Throwable;)V"⟩
def dkwJ17_init_4_0 : List UInt8 := [42, 43, 183, 0, 13, 177]
abbrev dktJ17_init_4_0 : List UInt8 := dkwJ17_init_4_0 ++ []
theorem dksJ17_init_4_0 : cJ17_init_4.data.toList.drop 0 = dktJ17_init_4_0 := by decide +kernel
theorem dJ17_init_4_0 : decode cJ17_init_4 0 = .ok (.aload_n 0, 1) := dk_42 (dk_at dksJ17_init_4_0 0 rfl rfl)
theorem dJ17_init_4_1 : decode cJ17_init_4 1 = .ok (.aload_n 1, 1) := dk_43 (dk_at dksJ17_init_4_0 1 rfl rfl)
theorem dJ17_init_4_2 : decode cJ17_init_4 2 = .ok (.invokespecial 13, 3) := dk_183 0 13 (dk_at dksJ17_init_4_0 2 rfl rfl)
theorem dJ17_init_4_5 : decode cJ17_init_4 5 = .ok (.return_, 1) := dk_177 (dk_at dksJ17_init_4_0 5 rfl rfl)
theorem q140 : (Jvm.Cond.initialized "java/lang/Exception") ∈ lw_all := lw_g (lw_at lw_m1 27 rfl) rfl
theorem q634 : (Jvm.Cond.declares ({ cls := "java/lang/Exception", name := "<init>", desc := "()V" } : Jvm.MethodName)) ∈ lw_tbl := lw_at lw_m3 41 rfl
theorem q635 : (Jvm.Cond.declares ({ cls := "java/lang/Exception", name := "<init>", desc := "(Ljava/lang/String;)V" } : Jvm.MethodName)) ∈ lw_tbl := lw_at lw_m3 42 rfl
theorem q684 : (Jvm.Cond.instanceMethod ({ cls := "java/lang/Exception", name := "<init>", desc := "()V" } : Jvm.MethodName)) ∈ lw_all := lw_g (lw_at lw_m3 91 rfl) rfl
theorem q685 : (Jvm.Cond.code ({ cls := "java/lang/Exception", name := "<init>", desc := "()V" } : Jvm.MethodName) prog_22_method_1_code (1 : Nat) (Option.none : Option Jvm.ClassFile.FieldType)) ∈ lw_all := lw_g (lw_at lw_m3 92 rfl) rfl
theorem q686 : (Jvm.Cond.methodLink "java/lang/Exception" (1 : Nat) ({ cls := "java/lang/Throwable", name := "<init>", desc := "()V" } : Jvm.MethodName)) ∈ lw_all := lw_g (lw_at lw_m3 93 rfl) rfl
theorem q842 : (Jvm.Cond.instanceMethod ({ cls := "java/lang/Exception", name := "<init>", desc := "(Ljava/lang/String;Ljava/lang/Throwable;ZZ)V" } : Jvm.MethodName)) ∈ lw_all := lw_g (lw_at lw_m4 9 rfl) rfl
theorem q843 : (Jvm.Cond.code ({ cls := "java/lang/Exception", name := "<init>", desc := "(Ljava/lang/String;Ljava/lang/Throwable;ZZ)V" } : Jvm.MethodName) prog_22_method_5_code (5 : Nat) (Option.none : Option Jvm.ClassFile.FieldType)) ∈ lw_all := lw_g (lw_at lw_m4 10 rfl) rfl
theorem q844 : (Jvm.Cond.methodLink "java/lang/Exception" (16 : Nat) ({ cls := "java/lang/Throwable", name := "<init>", desc := "(Ljava/lang/String;Ljava/lang/Throwable;ZZ)V" } : Jvm.MethodName)) ∈ lw_all := lw_g (lw_at lw_m4 11 rfl) rfl
theorem q1012 : (Jvm.Cond.instanceMethod ({ cls := "java/lang/Exception", name := "<init>", desc := "(Ljava/lang/String;)V" } : Jvm.MethodName)) ∈ lw_all := lw_g (lw_at lw_m4 179 rfl) rfl
theorem q1013 : (Jvm.Cond.code ({ cls := "java/lang/Exception", name := "<init>", desc := "(Ljava/lang/String;)V" } : Jvm.MethodName) prog_22_method_2_code (2 : Nat) (Option.none : Option Jvm.ClassFile.FieldType)) ∈ lw_all := lw_g (lw_at lw_m4 180 rfl) rfl
theorem q1014 : (Jvm.Cond.methodLink "java/lang/Exception" (7 : Nat) ({ cls := "java/lang/Throwable", name := "<init>", desc := "(Ljava/lang/String;)V" } : Jvm.MethodName)) ∈ lw_all := lw_g (lw_at lw_m4 181 rfl) rfl
theorem q1505 : (Jvm.Cond.instanceMethod ({ cls := "java/lang/Exception", name := "<init>", desc := "(Ljava/lang/Throwable;)V" } : Jvm.MethodName)) ∈ lw_all := lw_g (lw_at lw_m6 192 rfl) rfl
theorem q1506 : (Jvm.Cond.code ({ cls := "java/lang/Exception", name := "<init>", desc := "(Ljava/lang/Throwable;)V" } : Jvm.MethodName) prog_22_method_4_code (2 : Nat) (Option.none : Option Jvm.ClassFile.FieldType)) ∈ lw_all := lw_g (lw_at lw_m6 193 rfl) rfl
theorem q1507 : (Jvm.Cond.methodLink "java/lang/Exception" (13 : Nat) ({ cls := "java/lang/Throwable", name := "<init>", desc := "(Ljava/lang/Throwable;)V" } : Jvm.MethodName)) ∈ lw_all := lw_g (lw_at lw_m6 194 rfl) rfl

/-! java/lang/RuntimeException -/
set_option maxRecDepth 100000
def RJ18 : String := "java/lang/RuntimeException"
abbrev cJ18_init : ByteArray := prog_32_method_1_code
def yJ18_init : MethodName := ⟨RJ18, "<init>", "()V"⟩
theorem dJ18_init_0 : decode cJ18_init 0 = .ok (.aload_n 0, 1) := by decide +kernel
theorem dJ18_init_1 : decode cJ18_init 1 = .ok (.invokespecial 1, 3) := by decide +kernel
theorem dJ18_init_4 : decode cJ18_init 4 = .ok (.return_, 1) := by decide +kernel
abbrev cJ18_init_2 : ByteArray := prog_32_method_2_code
def yJ18_init_2 : MethodName := ⟨RJ18, "<init>", "(Ljava/lang/String;)V"⟩
def dkwJ18_init_2_0 : List UInt8 := [42, 43, 183, 0, 7, 177]
abbrev dktJ18_init_2_0 : List UInt8 := dkwJ18_init_2_0 ++ []
theorem dksJ18_init_2_0 : cJ18_init_2.data.toList.drop 0 = dktJ18_init_2_0 := by decide +kernel
theorem dJ18_init_2_0 : decode cJ18_init_2 0 = .ok (.aload_n 0, 1) := dk_42 (dk_at dksJ18_init_2_0 0 rfl rfl)
theorem dJ18_init_2_1 : decode cJ18_init_2 1 = .ok (.aload_n 1, 1) := dk_43 (dk_at dksJ18_init_2_0 1 rfl rfl)
theorem dJ18_init_2_2 : decode cJ18_init_2 2 = .ok (.invokespecial 7, 3) := dk_183 0 7 (dk_at dksJ18_init_2_0 2 rfl rfl)
theorem dJ18_init_2_5 : decode cJ18_init_2 5 = .ok (.return_, 1) := dk_177 (dk_at dksJ18_init_2_0 5 rfl rfl)
abbrev cJ18_init_3 : ByteArray := prog_32_method_4_code
def yJ18_init_3 : MethodName := ⟨RJ18, "<init>", "(Ljava/lang/Throwable;)V"⟩
def dkwJ18_init_3_0 : List UInt8 := [42, 43, 183, 0, 13, 177]
abbrev dktJ18_init_3_0 : List UInt8 := dkwJ18_init_3_0 ++ []
theorem dksJ18_init_3_0 : cJ18_init_3.data.toList.drop 0 = dktJ18_init_3_0 := by decide +kernel
theorem dJ18_init_3_0 : decode cJ18_init_3 0 = .ok (.aload_n 0, 1) := dk_42 (dk_at dksJ18_init_3_0 0 rfl rfl)
theorem dJ18_init_3_1 : decode cJ18_init_3 1 = .ok (.aload_n 1, 1) := dk_43 (dk_at dksJ18_init_3_0 1 rfl rfl)
theorem dJ18_init_3_2 : decode cJ18_init_3 2 = .ok (.invokespecial 13, 3) := dk_183 0 13 (dk_at dksJ18_init_3_0 2 rfl rfl)
theorem dJ18_init_3_5 : decode cJ18_init_3 5 = .ok (.return_, 1) := dk_177 (dk_at dksJ18_init_3_0 5 rfl rfl)
theorem q141 : (Jvm.Cond.initialized "java/lang/RuntimeException") ∈ lw_all := lw_g (lw_at lw_m1 28 rfl) rfl
theorem q632 : (Jvm.Cond.declares ({ cls := "java/lang/RuntimeException", name := "<init>", desc := "()V" } : Jvm.MethodName)) ∈ lw_tbl := lw_at lw_m3 39 rfl
theorem q633 : (Jvm.Cond.declares ({ cls := "java/lang/RuntimeException", name := "<init>", desc := "(Ljava/lang/String;)V" } : Jvm.MethodName)) ∈ lw_tbl := lw_at lw_m3 40 rfl
theorem q681 : (Jvm.Cond.instanceMethod ({ cls := "java/lang/RuntimeException", name := "<init>", desc := "()V" } : Jvm.MethodName)) ∈ lw_all := lw_g (lw_at lw_m3 88 rfl) rfl
theorem q682 : (Jvm.Cond.code ({ cls := "java/lang/RuntimeException", name := "<init>", desc := "()V" } : Jvm.MethodName) prog_32_method_1_code (1 : Nat) (Option.none : Option Jvm.ClassFile.FieldType)) ∈ lw_all := lw_g (lw_at lw_m3 89 rfl) rfl
theorem q683 : (Jvm.Cond.methodLink "java/lang/RuntimeException" (1 : Nat) ({ cls := "java/lang/Exception", name := "<init>", desc := "()V" } : Jvm.MethodName)) ∈ lw_all := lw_g (lw_at lw_m3 90 rfl) rfl
theorem q1009 : (Jvm.Cond.instanceMethod ({ cls := "java/lang/RuntimeException", name := "<init>", desc := "(Ljava/lang/String;)V" } : Jvm.MethodName)) ∈ lw_all := lw_g (lw_at lw_m4 176 rfl) rfl
theorem q1010 : (Jvm.Cond.code ({ cls := "java/lang/RuntimeException", name := "<init>", desc := "(Ljava/lang/String;)V" } : Jvm.MethodName) prog_32_method_2_code (2 : Nat) (Option.none : Option Jvm.ClassFile.FieldType)) ∈ lw_all := lw_g (lw_at lw_m4 177 rfl) rfl
theorem q1011 : (Jvm.Cond.methodLink "java/lang/RuntimeException" (7 : Nat) ({ cls := "java/lang/Exception", name := "<init>", desc := "(Ljava/lang/String;)V" } : Jvm.MethodName)) ∈ lw_all := lw_g (lw_at lw_m4 178 rfl) rfl
theorem q1502 : (Jvm.Cond.instanceMethod ({ cls := "java/lang/RuntimeException", name := "<init>", desc := "(Ljava/lang/Throwable;)V" } : Jvm.MethodName)) ∈ lw_all := lw_g (lw_at lw_m6 189 rfl) rfl
theorem q1503 : (Jvm.Cond.code ({ cls := "java/lang/RuntimeException", name := "<init>", desc := "(Ljava/lang/Throwable;)V" } : Jvm.MethodName) prog_32_method_4_code (2 : Nat) (Option.none : Option Jvm.ClassFile.FieldType)) ∈ lw_all := lw_g (lw_at lw_m6 190 rfl) rfl
theorem q1504 : (Jvm.Cond.methodLink "java/lang/RuntimeException" (13 : Nat) ({ cls := "java/lang/Exception", name := "<init>", desc := "(Ljava/lang/Throwable;)V" } : Jvm.MethodName)) ∈ lw_all := lw_g (lw_at lw_m6 191 rfl) rfl

/-! java/lang/IllegalArgumentException -/
set_option maxRecDepth 100000
def RJ19 : String := "java/lang/IllegalArgumentException"
def TJ19 : u_T := fun k => match k with
  | 0 => ("java/lang/Throwable", "cause", "Ljava/lang/Throwable;", false)
  | 1 => ("java/lang/Throwable", "stackTrace", "[Ljava/lang/StackTraceElement;", false)
  | 2 => ("java/lang/Throwable", "suppressedExceptions", "Ljava/util/List;", false)
  | 3 => ("java/lang/Throwable", "detailMessage", "Ljava/lang/String;", false)
  | 4 => ("java/lang/Throwable", "backtrace", "Ljava/lang/Object;", false)
  | _ => ("java/lang/Throwable", "depth", "I", false)
def tyJ19 : Nat → FieldType := fun k => match k with
  | 0 => .object "java/lang/Throwable"
  | 1 => .array (.object "java/lang/StackTraceElement")
  | 2 => .object "java/util/List"
  | 3 => .object "java/lang/String"
  | 4 => .object "java/lang/Object"
  | _ => .int
abbrev wsJ190 : List Cond := u_ws RJ19 TJ19 6
theorem nmJ19 : ∀ a, a < 6 → ∀ b, b < 6 → a ≠ b → (TJ19 a).2.1 ≠ (TJ19 b).2.1 := by decide +kernel
theorem tyJ19_ok : ∀ k, k < 6 → parseFieldDescriptor (TJ19 k).2.2.1 = some (tyJ19 k) := by decide +kernel
abbrev cJ19_init : ByteArray := prog_23_method_1_code
def yJ19_init : MethodName := ⟨RJ19, "<init>", "()V"⟩
theorem dJ19_init_0 : decode cJ19_init 0 = .ok (.aload_n 0, 1) := by decide +kernel
theorem dJ19_init_1 : decode cJ19_init 1 = .ok (.invokespecial 1, 3) := by decide +kernel
theorem dJ19_init_4 : decode cJ19_init 4 = .ok (.return_, 1) := by decide +kernel
abbrev cJ19_init_2 : ByteArray := prog_23_method_2_code
def yJ19_init_2 : MethodName := ⟨RJ19, "<init>", "(Ljava/lang/String;)V"⟩
def dkwJ19_init_2_0 : List UInt8 := [42, 43, 183, 0, 7, 177]
abbrev dktJ19_init_2_0 : List UInt8 := dkwJ19_init_2_0 ++ []
theorem dksJ19_init_2_0 : cJ19_init_2.data.toList.drop 0 = dktJ19_init_2_0 := by decide +kernel
theorem dJ19_init_2_0 : decode cJ19_init_2 0 = .ok (.aload_n 0, 1) := dk_42 (dk_at dksJ19_init_2_0 0 rfl rfl)
theorem dJ19_init_2_1 : decode cJ19_init_2 1 = .ok (.aload_n 1, 1) := dk_43 (dk_at dksJ19_init_2_0 1 rfl rfl)
theorem dJ19_init_2_2 : decode cJ19_init_2 2 = .ok (.invokespecial 7, 3) := dk_183 0 7 (dk_at dksJ19_init_2_0 2 rfl rfl)
theorem dJ19_init_2_5 : decode cJ19_init_2 5 = .ok (.return_, 1) := dk_177 (dk_at dksJ19_init_2_0 5 rfl rfl)
theorem q142 : (Jvm.Cond.initialized "java/lang/IllegalArgumentException") ∈ lw_all := lw_g (lw_at lw_m1 29 rfl) rfl
theorem q228 : (Jvm.Cond.selects "java/lang/IllegalArgumentException" ({ cls := "java/lang/Object", name := "getClass", desc := "()Ljava/lang/Class;" } : Jvm.MethodName) ({ cls := "java/lang/Object", name := "getClass", desc := "()Ljava/lang/Class;" } : Jvm.MethodName)) ∈ lw_all := lw_g (lw_at lw_m1 115 rfl) rfl
theorem q630 : (Jvm.Cond.instantiable "java/lang/IllegalArgumentException" (6 : Nat)) ∈ lw_all := lw_g (lw_at lw_m3 37 rfl) rfl
theorem q631 : (Jvm.Cond.castable "java/lang/IllegalArgumentException" "java/lang/IllegalArgumentException") ∈ lw_tbl := lw_at lw_m3 38 rfl
theorem q638 : (Jvm.Cond.selects "java/lang/IllegalArgumentException" ({ cls := "java/lang/Throwable", name := "fillInStackTrace", desc := "(I)Ljava/lang/Throwable;" } : Jvm.MethodName) ({ cls := "java/lang/Throwable", name := "fillInStackTrace", desc := "(I)Ljava/lang/Throwable;" } : Jvm.MethodName)) ∈ lw_all := lw_g (lw_at lw_m3 45 rfl) rfl
theorem q639 : (Jvm.Cond.selects "java/lang/IllegalArgumentException" ({ cls := "java/lang/Throwable", name := "fillInStackTrace", desc := "()Ljava/lang/Throwable;" } : Jvm.MethodName) ({ cls := "java/lang/Throwable", name := "fillInStackTrace", desc := "()Ljava/lang/Throwable;" } : Jvm.MethodName)) ∈ lw_all := lw_g (lw_at lw_m3 46 rfl) rfl
theorem q640 : (Jvm.Cond.lays "java/lang/IllegalArgumentException" "java/lang/Throwable" "cause" "Ljava/lang/Throwable;") ∈ lw_all := lw_g (lw_at lw_m3 47 rfl) rfl
theorem q642 : (Jvm.Cond.lays "java/lang/IllegalArgumentException" "java/lang/Throwable" "stackTrace" "[Ljava/lang/StackTraceElement;") ∈ lw_all := lw_g (lw_at lw_m3 49 rfl) rfl
theorem q644 : (Jvm.Cond.lays "java/lang/IllegalArgumentException" "java/lang/Throwable" "suppressedExceptions" "Ljava/util/List;") ∈ lw_all := lw_g (lw_at lw_m3 51 rfl) rfl
theorem q646 : (Jvm.Cond.lays "java/lang/IllegalArgumentException" "java/lang/Throwable" "detailMessage" "Ljava/lang/String;") ∈ lw_all := lw_g (lw_at lw_m3 53 rfl) rfl
theorem q648 : (Jvm.Cond.lays "java/lang/IllegalArgumentException" "java/lang/Throwable" "backtrace" "Ljava/lang/Object;") ∈ lw_all := lw_g (lw_at lw_m3 55 rfl) rfl
theorem q678 : (Jvm.Cond.instanceMethod ({ cls := "java/lang/IllegalArgumentException", name := "<init>", desc := "()V" } : Jvm.MethodName)) ∈ lw_all := lw_g (lw_at lw_m3 85 rfl) rfl
theorem q679 : (Jvm.Cond.code ({ cls := "java/lang/IllegalArgumentException", name := "<init>", desc := "()V" } : Jvm.MethodName) prog_23_method_1_code (1 : Nat) (Option.none : Option Jvm.ClassFile.FieldType)) ∈ lw_all := lw_g (lw_at lw_m3 86 rfl) rfl
theorem q680 : (Jvm.Cond.methodLink "java/lang/IllegalArgumentException" (1 : Nat) ({ cls := "java/lang/RuntimeException", name := "<init>", desc := "()V" } : Jvm.MethodName)) ∈ lw_all := lw_g (lw_at lw_m3 87 rfl) rfl
theorem q696 : (Jvm.Cond.lays "java/lang/IllegalArgumentException" "java/lang/Throwable" "depth" "I") ∈ lw_all := lw_g (lw_at lw_m3 103 rfl) rfl
theorem q699 : (Jvm.Cond.superclass "java/lang/IllegalArgumentException" "java/lang/RuntimeException") ∈ lw_all := lw_g (lw_at lw_m3 106 rfl) rfl
theorem q1006 : (Jvm.Cond.instanceMethod ({ cls := "java/lang/IllegalArgumentException", name := "<init>", desc := "(Ljava/lang/String;)V" } : Jvm.MethodName)) ∈ lw_all := lw_g (lw_at lw_m4 173 rfl) rfl
theorem q1007 : (Jvm.Cond.code ({ cls := "java/lang/IllegalArgumentException", name := "<init>", desc := "(Ljava/lang/String;)V" } : Jvm.MethodName) prog_23_method_2_code (2 : Nat) (Option.none : Option Jvm.ClassFile.FieldType)) ∈ lw_all := lw_g (lw_at lw_m4 174 rfl) rfl
theorem q1008 : (Jvm.Cond.methodLink "java/lang/IllegalArgumentException" (7 : Nat) ({ cls := "java/lang/RuntimeException", name := "<init>", desc := "(Ljava/lang/String;)V" } : Jvm.MethodName)) ∈ lw_all := lw_g (lw_at lw_m4 175 rfl) rfl
theorem q1517 : (Jvm.Cond.selects "java/lang/IllegalArgumentException" ({ cls := "java/lang/Throwable", name := "toString", desc := "()Ljava/lang/String;" } : Jvm.MethodName) ({ cls := "java/lang/Throwable", name := "toString", desc := "()Ljava/lang/String;" } : Jvm.MethodName)) ∈ lw_all := lw_g (lw_at lw_m6 204 rfl) rfl
theorem q1532 : (Jvm.Cond.selects "java/lang/IllegalArgumentException" ({ cls := "java/lang/Throwable", name := "getLocalizedMessage", desc := "()Ljava/lang/String;" } : Jvm.MethodName) ({ cls := "java/lang/Throwable", name := "getLocalizedMessage", desc := "()Ljava/lang/String;" } : Jvm.MethodName)) ∈ lw_all := lw_g (lw_at lw_m6 219 rfl) rfl
theorem q1546 : (Jvm.Cond.selects "java/lang/IllegalArgumentException" ({ cls := "java/lang/Throwable", name := "getMessage", desc := "()Ljava/lang/String;" } : Jvm.MethodName) ({ cls := "java/lang/Throwable", name := "getMessage", desc := "()Ljava/lang/String;" } : Jvm.MethodName)) ∈ lw_all := lw_g (lw_at lw_m6 233 rfl) rfl
theorem q2790 : (Jvm.Cond.castable "java/lang/IllegalArgumentException" "java/lang/Object") ∈ lw_tbl := lw_at lw_m12 37 rfl
theorem in_J19 : ∀ w ∈ wsJ190, w ∈ lw_all := lw_in wsJ190 [640, 642, 644, 646, 648, 696] (by decide +kernel) (by decide +kernel)

/-! java/lang/IllegalStateException -/
set_option maxRecDepth 100000
def RJ20 : String := "java/lang/IllegalStateException"
def TJ20 : u_T := fun k => match k with
  | 0 => ("java/lang/Throwable", "cause", "Ljava/lang/Throwable;", false)
  | 1 => ("java/lang/Throwable", "stackTrace", "[Ljava/lang/StackTraceElement;", false)
  | 2 => ("java/lang/Throwable", "suppressedExceptions", "Ljava/util/List;", false)
  | 3 => ("java/lang/Throwable", "detailMessage", "Ljava/lang/String;", false)
  | 4 => ("java/lang/Throwable", "backtrace", "Ljava/lang/Object;", false)
  | _ => ("java/lang/Throwable", "depth", "I", false)
def tyJ20 : Nat → FieldType := fun k => match k with
  | 0 => .object "java/lang/Throwable"
  | 1 => .array (.object "java/lang/StackTraceElement")
  | 2 => .object "java/util/List"
  | 3 => .object "java/lang/String"
  | 4 => .object "java/lang/Object"
  | _ => .int
abbrev wsJ200 : List Cond := u_ws RJ20 TJ20 6
theorem nmJ20 : ∀ a, a < 6 → ∀ b, b < 6 → a ≠ b → (TJ20 a).2.1 ≠ (TJ20 b).2.1 := by decide +kernel
theorem tyJ20_ok : ∀ k, k < 6 → parseFieldDescriptor (TJ20 k).2.2.1 = some (tyJ20 k) := by decide +kernel
abbrev cJ20_init : ByteArray := prog_24_method_1_code
def yJ20_init : MethodName := ⟨RJ20, "<init>", "()V"⟩
theorem dJ20_init_0 : decode cJ20_init 0 = .ok (.aload_n 0, 1) := by decide +kernel
theorem dJ20_init_1 : decode cJ20_init 1 = .ok (.invokespecial 1, 3) := by decide +kernel
theorem dJ20_init_4 : decode cJ20_init 4 = .ok (.return_, 1) := by decide +kernel
abbrev cJ20_init_2 : ByteArray := prog_24_method_2_code
def yJ20_init_2 : MethodName := ⟨RJ20, "<init>", "(Ljava/lang/String;)V"⟩
def dkwJ20_init_2_0 : List UInt8 := [42, 43, 183, 0, 7, 177]
abbrev dktJ20_init_2_0 : List UInt8 := dkwJ20_init_2_0 ++ []
theorem dksJ20_init_2_0 : cJ20_init_2.data.toList.drop 0 = dktJ20_init_2_0 := by decide +kernel
theorem dJ20_init_2_0 : decode cJ20_init_2 0 = .ok (.aload_n 0, 1) := dk_42 (dk_at dksJ20_init_2_0 0 rfl rfl)
theorem dJ20_init_2_1 : decode cJ20_init_2 1 = .ok (.aload_n 1, 1) := dk_43 (dk_at dksJ20_init_2_0 1 rfl rfl)
theorem dJ20_init_2_2 : decode cJ20_init_2 2 = .ok (.invokespecial 7, 3) := dk_183 0 7 (dk_at dksJ20_init_2_0 2 rfl rfl)
theorem dJ20_init_2_5 : decode cJ20_init_2 5 = .ok (.return_, 1) := dk_177 (dk_at dksJ20_init_2_0 5 rfl rfl)
theorem q143 : (Jvm.Cond.initialized "java/lang/IllegalStateException") ∈ lw_all := lw_g (lw_at lw_m1 30 rfl) rfl
theorem q229 : (Jvm.Cond.selects "java/lang/IllegalStateException" ({ cls := "java/lang/Object", name := "getClass", desc := "()Ljava/lang/Class;" } : Jvm.MethodName) ({ cls := "java/lang/Object", name := "getClass", desc := "()Ljava/lang/Class;" } : Jvm.MethodName)) ∈ lw_all := lw_g (lw_at lw_m1 116 rfl) rfl
theorem q666 : (Jvm.Cond.selects "java/lang/IllegalStateException" ({ cls := "java/lang/Throwable", name := "fillInStackTrace", desc := "()Ljava/lang/Throwable;" } : Jvm.MethodName) ({ cls := "java/lang/Throwable", name := "fillInStackTrace", desc := "()Ljava/lang/Throwable;" } : Jvm.MethodName)) ∈ lw_all := lw_g (lw_at lw_m3 73 rfl) rfl
theorem q708 : (Jvm.Cond.instantiable "java/lang/IllegalStateException" (6 : Nat)) ∈ lw_all := lw_g (lw_at lw_m3 115 rfl) rfl
theorem q709 : (Jvm.Cond.castable "java/lang/IllegalStateException" "java/lang/IllegalStateException") ∈ lw_tbl := lw_at lw_m3 116 rfl
theorem q710 : (Jvm.Cond.selects "java/lang/IllegalStateException" ({ cls := "java/lang/Throwable", name := "fillInStackTrace", desc := "(I)Ljava/lang/Throwable;" } : Jvm.MethodName) ({ cls := "java/lang/Throwable", name := "fillInStackTrace", desc := "(I)Ljava/lang/Throwable;" } : Jvm.MethodName)) ∈ lw_all := lw_g (lw_at lw_m3 117 rfl) rfl
theorem q711 : (Jvm.Cond.lays "java/lang/IllegalStateException" "java/lang/Throwable" "cause" "Ljava/lang/Throwable;") ∈ lw_all := lw_g (lw_at lw_m3 118 rfl) rfl
theorem q712 : (Jvm.Cond.lays "java/lang/IllegalStateException" "java/lang/Throwable" "stackTrace" "[Ljava/lang/StackTraceElement;") ∈ lw_all := lw_g (lw_at lw_m3 119 rfl) rfl
theorem q713 : (Jvm.Cond.lays "java/lang/IllegalStateException" "java/lang/Throwable" "suppressedExceptions" "Ljava/util/List;") ∈ lw_all := lw_g (lw_at lw_m3 120 rfl) rfl
theorem q714 : (Jvm.Cond.lays "java/lang/IllegalStateException" "java/lang/Throwable" "detailMessage" "Ljava/lang/String;") ∈ lw_all := lw_g (lw_at lw_m3 121 rfl) rfl
theorem q715 : (Jvm.Cond.lays "java/lang/IllegalStateException" "java/lang/Throwable" "backtrace" "Ljava/lang/Object;") ∈ lw_all := lw_g (lw_at lw_m3 122 rfl) rfl
theorem q717 : (Jvm.Cond.instanceMethod ({ cls := "java/lang/IllegalStateException", name := "<init>", desc := "()V" } : Jvm.MethodName)) ∈ lw_all := lw_g (lw_at lw_m3 124 rfl) rfl
theorem q718 : (Jvm.Cond.code ({ cls := "java/lang/IllegalStateException", name := "<init>", desc := "()V" } : Jvm.MethodName) prog_24_method_1_code (1 : Nat) (Option.none : Option Jvm.ClassFile.FieldType)) ∈ lw_all := lw_g (lw_at lw_m3 125 rfl) rfl
theorem q719 : (Jvm.Cond.methodLink "java/lang/IllegalStateException" (1 : Nat) ({ cls := "java/lang/RuntimeException", name := "<init>", desc := "()V" } : Jvm.MethodName)) ∈ lw_all := lw_g (lw_at lw_m3 126 rfl) rfl
theorem q720 : (Jvm.Cond.lays "java/lang/IllegalStateException" "java/lang/Throwable" "depth" "I") ∈ lw_all := lw_g (lw_at lw_m3 127 rfl) rfl
theorem q721 : (Jvm.Cond.superclass "java/lang/IllegalStateException" "java/lang/RuntimeException") ∈ lw_all := lw_g (lw_at lw_m3 128 rfl) rfl
theorem q1518 : (Jvm.Cond.selects "java/lang/IllegalStateException" ({ cls := "java/lang/Throwable", name := "toString", desc := "()Ljava/lang/String;" } : Jvm.MethodName) ({ cls := "java/lang/Throwable", name := "toString", desc := "()Ljava/lang/String;" } : Jvm.MethodName)) ∈ lw_all := lw_g (lw_at lw_m6 205 rfl) rfl
theorem q1533 : (Jvm.Cond.selects "java/lang/IllegalStateException" ({ cls := "java/lang/Throwable", name := "getLocalizedMessage", desc := "()Ljava/lang/String;" } : Jvm.MethodName) ({ cls := "java/lang/Throwable", name := "getLocalizedMessage", desc := "()Ljava/lang/String;" } : Jvm.MethodName)) ∈ lw_all := lw_g (lw_at lw_m6 220 rfl) rfl
theorem q1547 : (Jvm.Cond.selects "java/lang/IllegalStateException" ({ cls := "java/lang/Throwable", name := "getMessage", desc := "()Ljava/lang/String;" } : Jvm.MethodName) ({ cls := "java/lang/Throwable", name := "getMessage", desc := "()Ljava/lang/String;" } : Jvm.MethodName)) ∈ lw_all := lw_g (lw_at lw_m6 234 rfl) rfl
theorem q2052 : (Jvm.Cond.instanceMethod ({ cls := "java/lang/IllegalStateException", name := "<init>", desc := "(Ljava/lang/String;)V" } : Jvm.MethodName)) ∈ lw_all := lw_g (lw_at lw_m9 19 rfl) rfl
theorem q2053 : (Jvm.Cond.code ({ cls := "java/lang/IllegalStateException", name := "<init>", desc := "(Ljava/lang/String;)V" } : Jvm.MethodName) prog_24_method_2_code (2 : Nat) (Option.none : Option Jvm.ClassFile.FieldType)) ∈ lw_all := lw_g (lw_at lw_m9 20 rfl) rfl
theorem q2054 : (Jvm.Cond.methodLink "java/lang/IllegalStateException" (7 : Nat) ({ cls := "java/lang/RuntimeException", name := "<init>", desc := "(Ljava/lang/String;)V" } : Jvm.MethodName)) ∈ lw_all := lw_g (lw_at lw_m9 21 rfl) rfl
theorem q2791 : (Jvm.Cond.castable "java/lang/IllegalStateException" "java/lang/Object") ∈ lw_tbl := lw_at lw_m12 38 rfl
theorem in_J20 : ∀ w ∈ wsJ200, w ∈ lw_all := lw_in wsJ200 [711, 712, 713, 714, 715, 720] (by decide +kernel) (by decide +kernel)

/-! jdk/internal/util/ArraysSupport -/
set_option maxRecDepth 100000
def RJ21 : String := "jdk/internal/util/ArraysSupport"
abbrev cJ21_newLength : ByteArray := prog_74_method_27_code
def yJ21_newLength : MethodName := ⟨RJ21, "newLength", "(III)I"⟩
def dkwJ21_newLength_1 : List UInt8 := [184, 0, 201, 172]
abbrev dktJ21_newLength_1 : List UInt8 := dkwJ21_newLength_1 ++ []
def dkwJ21_newLength_0 : List UInt8 := [26, 27, 28, 184, 0, 194, 96, 62, 3, 29, 162, 0, 11, 29, 18, 200, 163, 0, 5, 29, 172, 26, 27]
abbrev dktJ21_newLength_0 : List UInt8 := dkwJ21_newLength_0 ++ dktJ21_newLength_1
theorem dksJ21_newLength_0 : cJ21_newLength.data.toList.drop 0 = dktJ21_newLength_0 := by decide +kernel
theorem dksJ21_newLength_1 : cJ21_newLength.data.toList.drop 23 = dktJ21_newLength_1 := dk_seg dksJ21_newLength_0 23 rfl rfl
theorem dJ21_newLength_0 : decode cJ21_newLength 0 = .ok (.iload_n 0, 1) := dk_26 (dk_at dksJ21_newLength_0 0 rfl rfl)
theorem dJ21_newLength_1 : decode cJ21_newLength 1 = .ok (.iload_n 1, 1) := dk_27 (dk_at dksJ21_newLength_0 1 rfl rfl)
theorem dJ21_newLength_2 : decode cJ21_newLength 2 = .ok (.iload_n 2, 1) := dk_28 (dk_at dksJ21_newLength_0 2 rfl rfl)
theorem dJ21_newLength_3 : decode cJ21_newLength 3 = .ok (.invokestatic 194, 3) := dk_184 0 194 (dk_at dksJ21_newLength_0 3 rfl rfl)
theorem dJ21_newLength_6 : decode cJ21_newLength 6 = .ok (.iadd, 1) := dk_96 (dk_at dksJ21_newLength_0 6 rfl rfl)
theorem dJ21_newLength_7 : decode cJ21_newLength 7 = .ok (.istore_n 3, 1) := dk_62 (dk_at dksJ21_newLength_0 7 rfl rfl)
theorem dJ21_newLength_8 : decode cJ21_newLength 8 = .ok (.iconst 0, 1) := dk_3 (dk_at dksJ21_newLength_0 8 rfl rfl)
theorem dJ21_newLength_9 : decode cJ21_newLength 9 = .ok (.iload_n 3, 1) := dk_29 (dk_at dksJ21_newLength_0 9 rfl rfl)
theorem dJ21_newLength_10 : decode cJ21_newLength 10 = .ok (.if_icmp .ge 11, 3) := dk_162 0 11 (dk_at dksJ21_newLength_0 10 rfl rfl)
theorem dJ21_newLength_13 : decode cJ21_newLength 13 = .ok (.iload_n 3, 1) := dk_29 (dk_at dksJ21_newLength_0 13 rfl rfl)
theorem dJ21_newLength_14 : decode cJ21_newLength 14 = .ok (.ldc 200, 2) := dk_18 200 (dk_at dksJ21_newLength_0 14 rfl rfl)
theorem dJ21_newLength_16 : decode cJ21_newLength 16 = .ok (.if_icmp .gt 5, 3) := dk_163 0 5 (dk_at dksJ21_newLength_0 16 rfl rfl)
theorem dJ21_newLength_19 : decode cJ21_newLength 19 = .ok (.iload_n 3, 1) := dk_29 (dk_at dksJ21_newLength_0 19 rfl rfl)
theorem dJ21_newLength_20 : decode cJ21_newLength 20 = .ok (.ireturn, 1) := dk_172 (dk_at dksJ21_newLength_0 20 rfl rfl)
theorem dJ21_newLength_21 : decode cJ21_newLength 21 = .ok (.iload_n 0, 1) := dk_26 (dk_at dksJ21_newLength_0 21 rfl rfl)
theorem dJ21_newLength_22 : decode cJ21_newLength 22 = .ok (.iload_n 1, 1) := dk_27 (dk_at dksJ21_newLength_0 22 rfl rfl)
theorem dJ21_newLength_23 : decode cJ21_newLength 23 = .ok (.invokestatic 201, 3) := dk_184 0 201 (dk_at dksJ21_newLength_1 0 rfl rfl)
theorem dJ21_newLength_26 : decode cJ21_newLength 26 = .ok (.ireturn, 1) := dk_172 (dk_at dksJ21_newLength_1 3 rfl rfl)
abbrev cJ21_hugeLength : ByteArray := prog_74_method_28_code
def yJ21_hugeLength : MethodName := ⟨RJ21, "hugeLength", "(II)I"⟩
def dkwJ21_hugeLength_2 : List UInt8 := [191, 28, 18, 200, 163, 0, 6, 18, 200, 172, 28, 172]
abbrev dktJ21_hugeLength_2 : List UInt8 := dkwJ21_hugeLength_2 ++ []
def dkwJ21_hugeLength_1 : List UInt8 := [26, 182, 0, 98, 18, 208, 182, 0, 94, 27, 182, 0, 98, 18, 210, 182, 0, 94, 182, 0, 101, 183, 0, 212]
abbrev dktJ21_hugeLength_1 : List UInt8 := dkwJ21_hugeLength_1 ++ dktJ21_hugeLength_2
def dkwJ21_hugeLength_0 : List UInt8 := [26, 27, 96, 61, 28, 156, 0, 44, 187, 0, 204, 89, 187, 0, 89, 89, 183, 0, 91, 18, 206, 182, 0, 94]
abbrev dktJ21_hugeLength_0 : List UInt8 := dkwJ21_hugeLength_0 ++ dktJ21_hugeLength_1
theorem dksJ21_hugeLength_0 : cJ21_hugeLength.data.toList.drop 0 = dktJ21_hugeLength_0 := by decide +kernel
theorem dksJ21_hugeLength_1 : cJ21_hugeLength.data.toList.drop 24 = dktJ21_hugeLength_1 := dk_seg dksJ21_hugeLength_0 24 rfl rfl
theorem dksJ21_hugeLength_2 : cJ21_hugeLength.data.toList.drop 48 = dktJ21_hugeLength_2 := dk_seg dksJ21_hugeLength_1 24 rfl rfl
theorem dJ21_hugeLength_0 : decode cJ21_hugeLength 0 = .ok (.iload_n 0, 1) := dk_26 (dk_at dksJ21_hugeLength_0 0 rfl rfl)
theorem dJ21_hugeLength_1 : decode cJ21_hugeLength 1 = .ok (.iload_n 1, 1) := dk_27 (dk_at dksJ21_hugeLength_0 1 rfl rfl)
theorem dJ21_hugeLength_2 : decode cJ21_hugeLength 2 = .ok (.iadd, 1) := dk_96 (dk_at dksJ21_hugeLength_0 2 rfl rfl)
theorem dJ21_hugeLength_3 : decode cJ21_hugeLength 3 = .ok (.istore_n 2, 1) := dk_61 (dk_at dksJ21_hugeLength_0 3 rfl rfl)
theorem dJ21_hugeLength_4 : decode cJ21_hugeLength 4 = .ok (.iload_n 2, 1) := dk_28 (dk_at dksJ21_hugeLength_0 4 rfl rfl)
theorem dJ21_hugeLength_5 : decode cJ21_hugeLength 5 = .ok (.ifCond .ge 44, 3) := dk_156 0 44 (dk_at dksJ21_hugeLength_0 5 rfl rfl)
theorem dJ21_hugeLength_8 : decode cJ21_hugeLength 8 = .ok (.new 204, 3) := dk_187 0 204 (dk_at dksJ21_hugeLength_0 8 rfl rfl)
theorem dJ21_hugeLength_11 : decode cJ21_hugeLength 11 = .ok (.dup, 1) := dk_89 (dk_at dksJ21_hugeLength_0 11 rfl rfl)
theorem dJ21_hugeLength_12 : decode cJ21_hugeLength 12 = .ok (.new 89, 3) := dk_187 0 89 (dk_at dksJ21_hugeLength_0 12 rfl rfl)
theorem dJ21_hugeLength_15 : decode cJ21_hugeLength 15 = .ok (.dup, 1) := dk_89 (dk_at dksJ21_hugeLength_0 15 rfl rfl)
theorem dJ21_hugeLength_16 : decode cJ21_hugeLength 16 = .ok (.invokespecial 91, 3) := dk_183 0 91 (dk_at dksJ21_hugeLength_0 16 rfl rfl)
theorem dJ21_hugeLength_19 : decode cJ21_hugeLength 19 = .ok (.ldc 206, 2) := dk_18 206 (dk_at dksJ21_hugeLength_0 19 rfl rfl)
theorem dJ21_hugeLength_21 : decode cJ21_hugeLength 21 = .ok (.invokevirtual 94, 3) := dk_182 0 94 (dk_at dksJ21_hugeLength_0 21 rfl rfl)
theorem dJ21_hugeLength_24 : decode cJ21_hugeLength 24 = .ok (.iload_n 0, 1) := dk_26 (dk_at dksJ21_hugeLength_1 0 rfl rfl)
theorem dJ21_hugeLength_25 : decode cJ21_hugeLength 25 = .ok (.invokevirtual 98, 3) := dk_182 0 98 (dk_at dksJ21_hugeLength_1 1 rfl rfl)
theorem dJ21_hugeLength_28 : decode cJ21_hugeLength 28 = .ok (.ldc 208, 2) := dk_18 208 (dk_at dksJ21_hugeLength_1 4 rfl rfl)
theorem dJ21_hugeLength_30 : decode cJ21_hugeLength 30 = .ok (.invokevirtual 94, 3) := dk_182 0 94 (dk_at dksJ21_hugeLength_1 6 rfl rfl)
theorem dJ21_hugeLength_33 : decode cJ21_hugeLength 33 = .ok (.iload_n 1, 1) := dk_27 (dk_at dksJ21_hugeLength_1 9 rfl rfl)
theorem dJ21_hugeLength_34 : decode cJ21_hugeLength 34 = .ok (.invokevirtual 98, 3) := dk_182 0 98 (dk_at dksJ21_hugeLength_1 10 rfl rfl)
theorem dJ21_hugeLength_37 : decode cJ21_hugeLength 37 = .ok (.ldc 210, 2) := dk_18 210 (dk_at dksJ21_hugeLength_1 13 rfl rfl)
theorem dJ21_hugeLength_39 : decode cJ21_hugeLength 39 = .ok (.invokevirtual 94, 3) := dk_182 0 94 (dk_at dksJ21_hugeLength_1 15 rfl rfl)
theorem dJ21_hugeLength_42 : decode cJ21_hugeLength 42 = .ok (.invokevirtual 101, 3) := dk_182 0 101 (dk_at dksJ21_hugeLength_1 18 rfl rfl)
theorem dJ21_hugeLength_45 : decode cJ21_hugeLength 45 = .ok (.invokespecial 212, 3) := dk_183 0 212 (dk_at dksJ21_hugeLength_1 21 rfl rfl)
theorem dJ21_hugeLength_48 : decode cJ21_hugeLength 48 = .ok (.athrow, 1) := dk_191 (dk_at dksJ21_hugeLength_2 0 rfl rfl)
theorem dJ21_hugeLength_49 : decode cJ21_hugeLength 49 = .ok (.iload_n 2, 1) := dk_28 (dk_at dksJ21_hugeLength_2 1 rfl rfl)
theorem dJ21_hugeLength_50 : decode cJ21_hugeLength 50 = .ok (.ldc 200, 2) := dk_18 200 (dk_at dksJ21_hugeLength_2 2 rfl rfl)
theorem dJ21_hugeLength_52 : decode cJ21_hugeLength 52 = .ok (.if_icmp .gt 6, 3) := dk_163 0 6 (dk_at dksJ21_hugeLength_2 4 rfl rfl)
theorem dJ21_hugeLength_55 : decode cJ21_hugeLength 55 = .ok (.ldc 200, 2) := dk_18 200 (dk_at dksJ21_hugeLength_2 7 rfl rfl)
theorem dJ21_hugeLength_57 : decode cJ21_hugeLength 57 = .ok (.ireturn, 1) := dk_172 (dk_at dksJ21_hugeLength_2 9 rfl rfl)
theorem dJ21_hugeLength_58 : decode cJ21_hugeLength 58 = .ok (.iload_n 2, 1) := dk_28 (dk_at dksJ21_hugeLength_2 10 rfl rfl)
theorem dJ21_hugeLength_59 : decode cJ21_hugeLength 59 = .ok (.ireturn, 1) := dk_172 (dk_at dksJ21_hugeLength_2 11 rfl rfl)
abbrev cJ21_vectorizedHashCode : ByteArray := prog_74_method_4_code
def yJ21_vectorizedHashCode : MethodName := ⟨RJ21, "vectorizedHashCode", "(Ljava/lang/Object;IIII)I"⟩
def dkwJ21_vectorizedHashCode_6 : List UInt8 := [183, 0, 91, 18, 92, 182, 0, 94, 21, 4, 182, 0, 98, 182, 0, 101, 183, 0, 105, 191, 172]
abbrev dktJ21_vectorizedHashCode_6 : List UInt8 := dkwJ21_vectorizedHashCode_6 ++ []
def dkwJ21_vectorizedHashCode_5 : List UInt8 := [167, 0, 44, 29, 42, 192, 0, 82, 27, 28, 184, 0, 84, 167, 0, 31, 187, 0, 87, 89, 187, 0, 89, 89]
abbrev dktJ21_vectorizedHashCode_5 : List UInt8 := dkwJ21_vectorizedHashCode_5 ++ dktJ21_vectorizedHashCode_6
def dkwJ21_vectorizedHashCode_4 : List UInt8 := [29, 42, 192, 0, 60, 27, 28, 184, 0, 75, 167, 0, 57, 29, 42, 192, 0, 77, 27, 28, 184, 0, 79]
abbrev dktJ21_vectorizedHashCode_4 : List UInt8 := dkwJ21_vectorizedHashCode_4 ++ dktJ21_vectorizedHashCode_5
def dkwJ21_vectorizedHashCode_3 : List UInt8 := [192, 0, 60, 27, 28, 184, 0, 66, 167, 0, 83, 29, 42, 192, 0, 69, 27, 28, 184, 0, 71, 167, 0, 70]
abbrev dktJ21_vectorizedHashCode_3 : List UInt8 := dkwJ21_vectorizedHashCode_3 ++ dktJ21_vectorizedHashCode_4
def dkwJ21_vectorizedHashCode_2 : List UInt8 := [29, 42, 192, 0, 60, 27, 28, 184, 0, 62, 167, 0, 103, 42, 193, 0, 60, 153, 0, 16, 29, 42]
abbrev dktJ21_vectorizedHashCode_2 : List UInt8 := dkwJ21_vectorizedHashCode_2 ++ dktJ21_vectorizedHashCode_3
def dkwJ21_vectorizedHashCode_1 : List UInt8 := [170, 0, 0, 0, 0, 127, 0, 0, 0, 4, 0, 0, 0, 10, 0, 0, 0, 42, 0, 0, 0, 55, 0, 0, 0, 127, 0, 0, 0, 127, 0, 0, 0, 88, 0, 0, 0, 101, 0, 0, 0, 114]
abbrev dktJ21_vectorizedHashCode_1 : List UInt8 := dkwJ21_vectorizedHashCode_1 ++ dktJ21_vectorizedHashCode_2
def dkwJ21_vectorizedHashCode_0 : List UInt8 := [21, 4]
abbrev dktJ21_vectorizedHashCode_0 : List UInt8 := dkwJ21_vectorizedHashCode_0 ++ dktJ21_vectorizedHashCode_1
theorem dksJ21_vectorizedHashCode_0 : cJ21_vectorizedHashCode.data.toList.drop 0 = dktJ21_vectorizedHashCode_0 := by decide +kernel
theorem dksJ21_vectorizedHashCode_1 : cJ21_vectorizedHashCode.data.toList.drop 2 = dktJ21_vectorizedHashCode_1 := dk_seg dksJ21_vectorizedHashCode_0 2 rfl rfl
theorem dksJ21_vectorizedHashCode_2 : cJ21_vectorizedHashCode.data.toList.drop 44 = dktJ21_vectorizedHashCode_2 := dk_seg dksJ21_vectorizedHashCode_1 42 rfl rfl
theorem dksJ21_vectorizedHashCode_3 : cJ21_vectorizedHashCode.data.toList.drop 66 = dktJ21_vectorizedHashCode_3 := dk_seg dksJ21_vectorizedHashCode_2 22 rfl rfl
theorem dksJ21_vectorizedHashCode_4 : cJ21_vectorizedHashCode.data.toList.drop 90 = dktJ21_vectorizedHashCode_4 := dk_seg dksJ21_vectorizedHashCode_3 24 rfl rfl
theorem dksJ21_vectorizedHashCode_5 : cJ21_vectorizedHashCode.data.toList.drop 113 = dktJ21_vectorizedHashCode_5 := dk_seg dksJ21_vectorizedHashCode_4 23 rfl rfl
theorem dksJ21_vectorizedHashCode_6 : cJ21_vectorizedHashCode.data.toList.drop 137 = dktJ21_vectorizedHashCode_6 := dk_seg dksJ21_vectorizedHashCode_5 24 rfl rfl
theorem dJ21_vectorizedHashCode_0 : decode cJ21_vectorizedHashCode 0 = .ok (.iload 4, 2) := dk_21 4 (dk_at dksJ21_vectorizedHashCode_0 0 rfl rfl)
theorem dJ21_vectorizedHashCode_2 : decode cJ21_vectorizedHashCode 2 = .ok (.tableswitch 127 4 10 #[42, 55, 127, 127, 88, 101, 114], 42) := by decide +kernel
theorem dJ21_vectorizedHashCode_44 : decode cJ21_vectorizedHashCode 44 = .ok (.iload_n 3, 1) := dk_29 (dk_at dksJ21_vectorizedHashCode_2 0 rfl rfl)
theorem dJ21_vectorizedHashCode_45 : decode cJ21_vectorizedHashCode 45 = .ok (.aload_n 0, 1) := dk_42 (dk_at dksJ21_vectorizedHashCode_2 1 rfl rfl)
theorem dJ21_vectorizedHashCode_46 : decode cJ21_vectorizedHashCode 46 = .ok (.checkcast 60, 3) := dk_192 0 60 (dk_at dksJ21_vectorizedHashCode_2 2 rfl rfl)
theorem dJ21_vectorizedHashCode_49 : decode cJ21_vectorizedHashCode 49 = .ok (.iload_n 1, 1) := dk_27 (dk_at dksJ21_vectorizedHashCode_2 5 rfl rfl)
theorem dJ21_vectorizedHashCode_50 : decode cJ21_vectorizedHashCode 50 = .ok (.iload_n 2, 1) := dk_28 (dk_at dksJ21_vectorizedHashCode_2 6 rfl rfl)
theorem dJ21_vectorizedHashCode_51 : decode cJ21_vectorizedHashCode 51 = .ok (.invokestatic 62, 3) := dk_184 0 62 (dk_at dksJ21_vectorizedHashCode_2 7 rfl rfl)
theorem dJ21_vectorizedHashCode_54 : decode cJ21_vectorizedHashCode 54 = .ok (.goto 103, 3) := dk_167 0 103 (dk_at dksJ21_vectorizedHashCode_2 10 rfl rfl)
theorem dJ21_vectorizedHashCode_57 : decode cJ21_vectorizedHashCode 57 = .ok (.aload_n 0, 1) := dk_42 (dk_at dksJ21_vectorizedHashCode_2 13 rfl rfl)
theorem dJ21_vectorizedHashCode_58 : decode cJ21_vectorizedHashCode 58 = .ok (.instanceof 60, 3) := dk_193 0 60 (dk_at dksJ21_vectorizedHashCode_2 14 rfl rfl)
theorem dJ21_vectorizedHashCode_61 : decode cJ21_vectorizedHashCode 61 = .ok (.ifCond .eq 16, 3) := dk_153 0 16 (dk_at dksJ21_vectorizedHashCode_2 17 rfl rfl)
theorem dJ21_vectorizedHashCode_64 : decode cJ21_vectorizedHashCode 64 = .ok (.iload_n 3, 1) := dk_29 (dk_at dksJ21_vectorizedHashCode_2 20 rfl rfl)
theorem dJ21_vectorizedHashCode_65 : decode cJ21_vectorizedHashCode 65 = .ok (.aload_n 0, 1) := dk_42 (dk_at dksJ21_vectorizedHashCode_2 21 rfl rfl)
theorem dJ21_vectorizedHashCode_66 : decode cJ21_vectorizedHashCode 66 = .ok (.checkcast 60, 3) := dk_192 0 60 (dk_at dksJ21_vectorizedHashCode_3 0 rfl rfl)
theorem dJ21_vectorizedHashCode_69 : decode cJ21_vectorizedHashCode 69 = .ok (.iload_n 1, 1) := dk_27 (dk_at dksJ21_vectorizedHashCode_3 3 rfl rfl)
theorem dJ21_vectorizedHashCode_70 : decode cJ21_vectorizedHashCode 70 = .ok (.iload_n 2, 1) := dk_28 (dk_at dksJ21_vectorizedHashCode_3 4 rfl rfl)
theorem dJ21_vectorizedHashCode_71 : decode cJ21_vectorizedHashCode 71 = .ok (.invokestatic 66, 3) := dk_184 0 66 (dk_at dksJ21_vectorizedHashCode_3 5 rfl rfl)
theorem dJ21_vectorizedHashCode_74 : decode cJ21_vectorizedHashCode 74 = .ok (.goto 83, 3) := dk_167 0 83 (dk_at dksJ21_vectorizedHashCode_3 8 rfl rfl)
theorem dJ21_vectorizedHashCode_77 : decode cJ21_vectorizedHashCode 77 = .ok (.iload_n 3, 1) := dk_29 (dk_at dksJ21_vectorizedHashCode_3 11 rfl rfl)
theorem dJ21_vectorizedHashCode_78 : decode cJ21_vectorizedHashCode 78 = .ok (.aload_n 0, 1) := dk_42 (dk_at dksJ21_vectorizedHashCode_3 12 rfl rfl)
theorem dJ21_vectorizedHashCode_79 : decode cJ21_vectorizedHashCode 79 = .ok (.checkcast 69, 3) := dk_192 0 69 (dk_at dksJ21_vectorizedHashCode_3 13 rfl rfl)
theorem dJ21_vectorizedHashCode_82 : decode cJ21_vectorizedHashCode 82 = .ok (.iload_n 1, 1) := dk_27 (dk_at dksJ21_vectorizedHashCode_3 16 rfl rfl)
theorem dJ21_vectorizedHashCode_83 : decode cJ21_vectorizedHashCode 83 = .ok (.iload_n 2, 1) := dk_28 (dk_at dksJ21_vectorizedHashCode_3 17 rfl rfl)
theorem dJ21_vectorizedHashCode_84 : decode cJ21_vectorizedHashCode 84 = .ok (.invokestatic 71, 3) := dk_184 0 71 (dk_at dksJ21_vectorizedHashCode_3 18 rfl rfl)
theorem dJ21_vectorizedHashCode_87 : decode cJ21_vectorizedHashCode 87 = .ok (.goto 70, 3) := dk_167 0 70 (dk_at dksJ21_vectorizedHashCode_3 21 rfl rfl)
theorem dJ21_vectorizedHashCode_90 : decode cJ21_vectorizedHashCode 90 = .ok (.iload_n 3, 1) := dk_29 (dk_at dksJ21_vectorizedHashCode_4 0 rfl rfl)
theorem dJ21_vectorizedHashCode_91 : decode cJ21_vectorizedHashCode 91 = .ok (.aload_n 0, 1) := dk_42 (dk_at dksJ21_vectorizedHashCode_4 1 rfl rfl)
theorem dJ21_vectorizedHashCode_92 : decode cJ21_vectorizedHashCode 92 = .ok (.checkcast 60, 3) := dk_192 0 60 (dk_at dksJ21_vectorizedHashCode_4 2 rfl rfl)
theorem dJ21_vectorizedHashCode_95 : decode cJ21_vectorizedHashCode 95 = .ok (.iload_n 1, 1) := dk_27 (dk_at dksJ21_vectorizedHashCode_4 5 rfl rfl)
theorem dJ21_vectorizedHashCode_96 : decode cJ21_vectorizedHashCode 96 = .ok (.iload_n 2, 1) := dk_28 (dk_at dksJ21_vectorizedHashCode_4 6 rfl rfl)
theorem dJ21_vectorizedHashCode_97 : decode cJ21_vectorizedHashCode 97 = .ok (.invokestatic 75, 3) := dk_184 0 75 (dk_at dksJ21_vectorizedHashCode_4 7 rfl rfl)
theorem dJ21_vectorizedHashCode_100 : decode cJ21_vectorizedHashCode 100 = .ok (.goto 57, 3) := dk_167 0 57 (dk_at dksJ21_vectorizedHashCode_4 10 rfl rfl)
theorem dJ21_vectorizedHashCode_103 : decode cJ21_vectorizedHashCode 103 = .ok (.iload_n 3, 1) := dk_29 (dk_at dksJ21_vectorizedHashCode_4 13 rfl rfl)
theorem dJ21_vectorizedHashCode_104 : decode cJ21_vectorizedHashCode 104 = .ok (.aload_n 0, 1) := dk_42 (dk_at dksJ21_vectorizedHashCode_4 14 rfl rfl)
theorem dJ21_vectorizedHashCode_105 : decode cJ21_vectorizedHashCode 105 = .ok (.checkcast 77, 3) := dk_192 0 77 (dk_at dksJ21_vectorizedHashCode_4 15 rfl rfl)
theorem dJ21_vectorizedHashCode_108 : decode cJ21_vectorizedHashCode 108 = .ok (.iload_n 1, 1) := dk_27 (dk_at dksJ21_vectorizedHashCode_4 18 rfl rfl)
theorem dJ21_vectorizedHashCode_109 : decode cJ21_vectorizedHashCode 109 = .ok (.iload_n 2, 1) := dk_28 (dk_at dksJ21_vectorizedHashCode_4 19 rfl rfl)
theorem dJ21_vectorizedHashCode_110 : decode cJ21_vectorizedHashCode 110 = .ok (.invokestatic 79, 3) := dk_184 0 79 (dk_at dksJ21_vectorizedHashCode_4 20 rfl rfl)
theorem dJ21_vectorizedHashCode_113 : decode cJ21_vectorizedHashCode 113 = .ok (.goto 44, 3) := dk_167 0 44 (dk_at dksJ21_vectorizedHashCode_5 0 rfl rfl)
theorem dJ21_vectorizedHashCode_116 : decode cJ21_vectorizedHashCode 116 = .ok (.iload_n 3, 1) := dk_29 (dk_at dksJ21_vectorizedHashCode_5 3 rfl rfl)
theorem dJ21_vectorizedHashCode_117 : decode cJ21_vectorizedHashCode 117 = .ok (.aload_n 0, 1) := dk_42 (dk_at dksJ21_vectorizedHashCode_5 4 rfl rfl)
theorem dJ21_vectorizedHashCode_118 : decode cJ21_vectorizedHashCode 118 = .ok (.checkcast 82, 3) := dk_192 0 82 (dk_at dksJ21_vectorizedHashCode_5 5 rfl rfl)
theorem dJ21_vectorizedHashCode_121 : decode cJ21_vectorizedHashCode 121 = .ok (.iload_n 1, 1) := dk_27 (dk_at dksJ21_vectorizedHashCode_5 8 rfl rfl)
theorem dJ21_vectorizedHashCode_122 : decode cJ21_vectorizedHashCode 122 = .ok (.iload_n 2, 1) := dk_28 (dk_at dksJ21_vectorizedHashCode_5 9 rfl rfl)
theorem dJ21_vectorizedHashCode_123 : decode cJ21_vectorizedHashCode 123 = .ok (.invokestatic 84, 3) := dk_184 0 84 (dk_at dksJ21_vectorizedHashCode_5 10 rfl rfl)
theorem dJ21_vectorizedHashCode_126 : decode cJ21_vectorizedHashCode 126 = .ok (.goto 31, 3) := dk_167 0 31 (dk_at dksJ21_vectorizedHashCode_5 13 rfl rfl)
theorem dJ21_vectorizedHashCode_129 : decode cJ21_vectorizedHashCode 129 = .ok (.new 87, 3) := dk_187 0 87 (dk_at dksJ21_vectorizedHashCode_5 16 rfl rfl)
theorem dJ21_vectorizedHashCode_132 : decode cJ21_vectorizedHashCode 132 = .ok (.dup, 1) := dk_89 (dk_at dksJ21_vectorizedHashCode_5 19 rfl rfl)
theorem dJ21_vectorizedHashCode_133 : decode cJ21_vectorizedHashCode 133 = .ok (.new 89, 3) := dk_187 0 89 (dk_at dksJ21_vectorizedHashCode_5 20 rfl rfl)
theorem dJ21_vectorizedHashCode_136 : decode cJ21_vectorizedHashCode 136 = .ok (.dup, 1) := dk_89 (dk_at dksJ21_vectorizedHashCode_5 23 rfl rfl)
theorem dJ21_vectorizedHashCode_137 : decode cJ21_vectorizedHashCode 137 = .ok (.invokespecial 91, 3) := dk_183 0 91 (dk_at dksJ21_vectorizedHashCode_6 0 rfl rfl)
theorem dJ21_vectorizedHashCode_140 : decode cJ21_vectorizedHashCode 140 = .ok (.ldc 92, 2) := dk_18 92 (dk_at dksJ21_vectorizedHashCode_6 3 rfl rfl)
theorem dJ21_vectorizedHashCode_142 : decode cJ21_vectorizedHashCode 142 = .ok (.invokevirtual 94, 3) := dk_182 0 94 (dk_at dksJ21_vectorizedHashCode_6 5 rfl rfl)
theorem dJ21_vectorizedHashCode_145 : decode cJ21_vectorizedHashCode 145 = .ok (.iload 4, 2) := dk_21 4 (dk_at dksJ21_vectorizedHashCode_6 8 rfl rfl)
theorem dJ21_vectorizedHashCode_147 : decode cJ21_vectorizedHashCode 147 = .ok (.invokevirtual 98, 3) := dk_182 0 98 (dk_at dksJ21_vectorizedHashCode_6 10 rfl rfl)
theorem dJ21_vectorizedHashCode_150 : decode cJ21_vectorizedHashCode 150 = .ok (.invokevirtual 101, 3) := dk_182 0 101 (dk_at dksJ21_vectorizedHashCode_6 13 rfl rfl)
theorem dJ21_vectorizedHashCode_153 : decode cJ21_vectorizedHashCode 153 = .ok (.invokespecial 105, 3) := dk_183 0 105 (dk_at dksJ21_vectorizedHashCode_6 16 rfl rfl)
theorem dJ21_vectorizedHashCode_156 : decode cJ21_vectorizedHashCode 156 = .ok (.athrow, 1) := dk_191 (dk_at dksJ21_vectorizedHashCode_6 19 rfl rfl)
theorem dJ21_vectorizedHashCode_157 : decode cJ21_vectorizedHashCode 157 = .ok (.ireturn, 1) := dk_172 (dk_at dksJ21_vectorizedHashCode_6 20 rfl rfl)
abbrev cJ21_signedHashCode : ByteArray := prog_74_method_5_code
def yJ21_signedHashCode : MethodName := ⟨RJ21, "signedHashCode", "(I[BII)I"⟩
def dkwJ21_signedHashCode_1 : List UInt8 := [17, 0, 255, 126, 96, 59, 132, 5, 1, 167, 255, 232, 26, 172]
abbrev dktJ21_signedHashCode_1 : List UInt8 := dkwJ21_signedHashCode_1 ++ []
def dkwJ21_signedHashCode_0 : List UInt8 := [28, 29, 96, 54, 4, 28, 54, 5, 21, 5, 21, 4, 162, 0, 23, 16, 31, 26, 104, 43, 21, 5, 51]
abbrev dktJ21_signedHashCode_0 : List UInt8 := dkwJ21_signedHashCode_0 ++ dktJ21_signedHashCode_1
theorem dksJ21_signedHashCode_0 : cJ21_signedHashCode.data.toList.drop 0 = dktJ21_signedHashCode_0 := by decide +kernel
theorem dksJ21_signedHashCode_1 : cJ21_signedHashCode.data.toList.drop 23 = dktJ21_signedHashCode_1 := dk_seg dksJ21_signedHashCode_0 23 rfl rfl
theorem dJ21_signedHashCode_0 : decode cJ21_signedHashCode 0 = .ok (.iload_n 2, 1) := dk_28 (dk_at dksJ21_signedHashCode_0 0 rfl rfl)
theorem dJ21_signedHashCode_1 : decode cJ21_signedHashCode 1 = .ok (.iload_n 3, 1) := dk_29 (dk_at dksJ21_signedHashCode_0 1 rfl rfl)
theorem dJ21_signedHashCode_2 : decode cJ21_signedHashCode 2 = .ok (.iadd, 1) := dk_96 (dk_at dksJ21_signedHashCode_0 2 rfl rfl)
theorem dJ21_signedHashCode_3 : decode cJ21_signedHashCode 3 = .ok (.istore 4, 2) := dk_54 4 (dk_at dksJ21_signedHashCode_0 3 rfl rfl)
theorem dJ21_signedHashCode_5 : decode cJ21_signedHashCode 5 = .ok (.iload_n 2, 1) := dk_28 (dk_at dksJ21_signedHashCode_0 5 rfl rfl)
theorem dJ21_signedHashCode_6 : decode cJ21_signedHashCode 6 = .ok (.istore 5, 2) := dk_54 5 (dk_at dksJ21_signedHashCode_0 6 rfl rfl)
theorem dJ21_signedHashCode_8 : decode cJ21_signedHashCode 8 = .ok (.iload 5, 2) := dk_21 5 (dk_at dksJ21_signedHashCode_0 8 rfl rfl)
theorem dJ21_signedHashCode_10 : decode cJ21_signedHashCode 10 = .ok (.iload 4, 2) := dk_21 4 (dk_at dksJ21_signedHashCode_0 10 rfl rfl)
theorem dJ21_signedHashCode_12 : decode cJ21_signedHashCode 12 = .ok (.if_icmp .ge 23, 3) := dk_162 0 23 (dk_at dksJ21_signedHashCode_0 12 rfl rfl)
theorem dJ21_signedHashCode_15 : decode cJ21_signedHashCode 15 = .ok (.bipush 31, 2) := dk_16 31 (dk_at dksJ21_signedHashCode_0 15 rfl rfl)
theorem dJ21_signedHashCode_17 : decode cJ21_signedHashCode 17 = .ok (.iload_n 0, 1) := dk_26 (dk_at dksJ21_signedHashCode_0 17 rfl rfl)
theorem dJ21_signedHashCode_18 : decode cJ21_signedHashCode 18 = .ok (.imul, 1) := dk_104 (dk_at dksJ21_signedHashCode_0 18 rfl rfl)
theorem dJ21_signedHashCode_19 : decode cJ21_signedHashCode 19 = .ok (.aload_n 1, 1) := dk_43 (dk_at dksJ21_signedHashCode_0 19 rfl rfl)
theorem dJ21_signedHashCode_20 : decode cJ21_signedHashCode 20 = .ok (.iload 5, 2) := dk_21 5 (dk_at dksJ21_signedHashCode_0 20 rfl rfl)
theorem dJ21_signedHashCode_22 : decode cJ21_signedHashCode 22 = .ok (.baload, 1) := dk_51 (dk_at dksJ21_signedHashCode_0 22 rfl rfl)
theorem dJ21_signedHashCode_23 : decode cJ21_signedHashCode 23 = .ok (.sipush 255, 3) := dk_17 0 255 (dk_at dksJ21_signedHashCode_1 0 rfl rfl)
theorem dJ21_signedHashCode_26 : decode cJ21_signedHashCode 26 = .ok (.iand, 1) := dk_126 (dk_at dksJ21_signedHashCode_1 3 rfl rfl)
theorem dJ21_signedHashCode_27 : decode cJ21_signedHashCode 27 = .ok (.iadd, 1) := dk_96 (dk_at dksJ21_signedHashCode_1 4 rfl rfl)
theorem dJ21_signedHashCode_28 : decode cJ21_signedHashCode 28 = .ok (.istore_n 0, 1) := dk_59 (dk_at dksJ21_signedHashCode_1 5 rfl rfl)
theorem dJ21_signedHashCode_29 : decode cJ21_signedHashCode 29 = .ok (.iinc 5 1, 3) := dk_132 5 1 (dk_at dksJ21_signedHashCode_1 6 rfl rfl)
theorem dJ21_signedHashCode_32 : decode cJ21_signedHashCode 32 = .ok (.goto (-24), 3) := dk_167 255 232 (dk_at dksJ21_signedHashCode_1 9 rfl rfl)
theorem dJ21_signedHashCode_35 : decode cJ21_signedHashCode 35 = .ok (.iload_n 0, 1) := dk_26 (dk_at dksJ21_signedHashCode_1 12 rfl rfl)
theorem dJ21_signedHashCode_36 : decode cJ21_signedHashCode 36 = .ok (.ireturn, 1) := dk_172 (dk_at dksJ21_signedHashCode_1 13 rfl rfl)
abbrev cJ21_utf16hashCode : ByteArray := prog_74_method_10_code
def yJ21_utf16hashCode : MethodName := ⟨RJ21, "utf16hashCode", "(I[BII)I"⟩
def dkwJ21_utf16hashCode_1 : List UInt8 := [21, 5, 185, 0, 110, 3, 0, 96, 59, 132, 5, 1, 167, 255, 229, 26, 172]
abbrev dktJ21_utf16hashCode_1 : List UInt8 := dkwJ21_utf16hashCode_1 ++ []
def dkwJ21_utf16hashCode_0 : List UInt8 := [28, 29, 96, 54, 4, 28, 54, 5, 21, 5, 21, 4, 162, 0, 26, 16, 31, 26, 104, 178, 0, 106, 43]
abbrev dktJ21_utf16hashCode_0 : List UInt8 := dkwJ21_utf16hashCode_0 ++ dktJ21_utf16hashCode_1
theorem dksJ21_utf16hashCode_0 : cJ21_utf16hashCode.data.toList.drop 0 = dktJ21_utf16hashCode_0 := by decide +kernel
theorem dksJ21_utf16hashCode_1 : cJ21_utf16hashCode.data.toList.drop 23 = dktJ21_utf16hashCode_1 := dk_seg dksJ21_utf16hashCode_0 23 rfl rfl
theorem dJ21_utf16hashCode_0 : decode cJ21_utf16hashCode 0 = .ok (.iload_n 2, 1) := dk_28 (dk_at dksJ21_utf16hashCode_0 0 rfl rfl)
theorem dJ21_utf16hashCode_1 : decode cJ21_utf16hashCode 1 = .ok (.iload_n 3, 1) := dk_29 (dk_at dksJ21_utf16hashCode_0 1 rfl rfl)
theorem dJ21_utf16hashCode_2 : decode cJ21_utf16hashCode 2 = .ok (.iadd, 1) := dk_96 (dk_at dksJ21_utf16hashCode_0 2 rfl rfl)
theorem dJ21_utf16hashCode_3 : decode cJ21_utf16hashCode 3 = .ok (.istore 4, 2) := dk_54 4 (dk_at dksJ21_utf16hashCode_0 3 rfl rfl)
theorem dJ21_utf16hashCode_5 : decode cJ21_utf16hashCode 5 = .ok (.iload_n 2, 1) := dk_28 (dk_at dksJ21_utf16hashCode_0 5 rfl rfl)
theorem dJ21_utf16hashCode_6 : decode cJ21_utf16hashCode 6 = .ok (.istore 5, 2) := dk_54 5 (dk_at dksJ21_utf16hashCode_0 6 rfl rfl)
theorem dJ21_utf16hashCode_8 : decode cJ21_utf16hashCode 8 = .ok (.iload 5, 2) := dk_21 5 (dk_at dksJ21_utf16hashCode_0 8 rfl rfl)
theorem dJ21_utf16hashCode_10 : decode cJ21_utf16hashCode 10 = .ok (.iload 4, 2) := dk_21 4 (dk_at dksJ21_utf16hashCode_0 10 rfl rfl)
theorem dJ21_utf16hashCode_12 : decode cJ21_utf16hashCode 12 = .ok (.if_icmp .ge 26, 3) := dk_162 0 26 (dk_at dksJ21_utf16hashCode_0 12 rfl rfl)
theorem dJ21_utf16hashCode_15 : decode cJ21_utf16hashCode 15 = .ok (.bipush 31, 2) := dk_16 31 (dk_at dksJ21_utf16hashCode_0 15 rfl rfl)
theorem dJ21_utf16hashCode_17 : decode cJ21_utf16hashCode 17 = .ok (.iload_n 0, 1) := dk_26 (dk_at dksJ21_utf16hashCode_0 17 rfl rfl)
theorem dJ21_utf16hashCode_18 : decode cJ21_utf16hashCode 18 = .ok (.imul, 1) := dk_104 (dk_at dksJ21_utf16hashCode_0 18 rfl rfl)
theorem dJ21_utf16hashCode_19 : decode cJ21_utf16hashCode 19 = .ok (.getstatic 106, 3) := dk_178 0 106 (dk_at dksJ21_utf16hashCode_0 19 rfl rfl)
theorem dJ21_utf16hashCode_22 : decode cJ21_utf16hashCode 22 = .ok (.aload_n 1, 1) := dk_43 (dk_at dksJ21_utf16hashCode_0 22 rfl rfl)
theorem dJ21_utf16hashCode_23 : decode cJ21_utf16hashCode 23 = .ok (.iload 5, 2) := dk_21 5 (dk_at dksJ21_utf16hashCode_1 0 rfl rfl)
theorem dJ21_utf16hashCode_25 : decode cJ21_utf16hashCode 25 = .ok (.invokeinterface 110 3, 5) := by decide +kernel
theorem dJ21_utf16hashCode_30 : decode cJ21_utf16hashCode 30 = .ok (.iadd, 1) := dk_96 (dk_at dksJ21_utf16hashCode_1 7 rfl rfl)
theorem dJ21_utf16hashCode_31 : decode cJ21_utf16hashCode 31 = .ok (.istore_n 0, 1) := dk_59 (dk_at dksJ21_utf16hashCode_1 8 rfl rfl)
theorem dJ21_utf16hashCode_32 : decode cJ21_utf16hashCode 32 = .ok (.iinc 5 1, 3) := dk_132 5 1 (dk_at dksJ21_utf16hashCode_1 9 rfl rfl)
theorem dJ21_utf16hashCode_35 : decode cJ21_utf16hashCode 35 = .ok (.goto (-27), 3) := dk_167 255 229 (dk_at dksJ21_utf16hashCode_1 12 rfl rfl)
theorem dJ21_utf16hashCode_38 : decode cJ21_utf16hashCode 38 = .ok (.iload_n 0, 1) := dk_26 (dk_at dksJ21_utf16hashCode_1 15 rfl rfl)
theorem dJ21_utf16hashCode_39 : decode cJ21_utf16hashCode 39 = .ok (.ireturn, 1) := dk_172 (dk_at dksJ21_utf16hashCode_1 16 rfl rfl)
abbrev cJ21_hashCode : ByteArray := prog_74_method_7_code
def yJ21_hashCode : MethodName := ⟨RJ21, "hashCode", "(I[CII)I"⟩
def dkwJ21_hashCode_1 : List UInt8 := [59, 132, 5, 1, 167, 255, 236, 26, 172]
abbrev dktJ21_hashCode_1 : List UInt8 := dkwJ21_hashCode_1 ++ []
def dkwJ21_hashCode_0 : List UInt8 := [28, 29, 96, 54, 4, 28, 54, 5, 21, 5, 21, 4, 162, 0, 19, 16, 31, 26, 104, 43, 21, 5, 52, 96]
abbrev dktJ21_hashCode_0 : List UInt8 := dkwJ21_hashCode_0 ++ dktJ21_hashCode_1
theorem dksJ21_hashCode_0 : cJ21_hashCode.data.toList.drop 0 = dktJ21_hashCode_0 := by decide +kernel
theorem dksJ21_hashCode_1 : cJ21_hashCode.data.toList.drop 24 = dktJ21_hashCode_1 := dk_seg dksJ21_hashCode_0 24 rfl rfl
theorem dJ21_hashCode_0 : decode cJ21_hashCode 0 = .ok (.iload_n 2, 1) := dk_28 (dk_at dksJ21_hashCode_0 0 rfl rfl)
theorem dJ21_hashCode_1 : decode cJ21_hashCode 1 = .ok (.iload_n 3, 1) := dk_29 (dk_at dksJ21_hashCode_0 1 rfl rfl)
theorem dJ21_hashCode_2 : decode cJ21_hashCode 2 = .ok (.iadd, 1) := dk_96 (dk_at dksJ21_hashCode_0 2 rfl rfl)
theorem dJ21_hashCode_3 : decode cJ21_hashCode 3 = .ok (.istore 4, 2) := dk_54 4 (dk_at dksJ21_hashCode_0 3 rfl rfl)
theorem dJ21_hashCode_5 : decode cJ21_hashCode 5 = .ok (.iload_n 2, 1) := dk_28 (dk_at dksJ21_hashCode_0 5 rfl rfl)
theorem dJ21_hashCode_6 : decode cJ21_hashCode 6 = .ok (.istore 5, 2) := dk_54 5 (dk_at dksJ21_hashCode_0 6 rfl rfl)
theorem dJ21_hashCode_8 : decode cJ21_hashCode 8 = .ok (.iload 5, 2) := dk_21 5 (dk_at dksJ21_hashCode_0 8 rfl rfl)
theorem dJ21_hashCode_10 : decode cJ21_hashCode 10 = .ok (.iload 4, 2) := dk_21 4 (dk_at dksJ21_hashCode_0 10 rfl rfl)
theorem dJ21_hashCode_12 : decode cJ21_hashCode 12 = .ok (.if_icmp .ge 19, 3) := dk_162 0 19 (dk_at dksJ21_hashCode_0 12 rfl rfl)
theorem dJ21_hashCode_15 : decode cJ21_hashCode 15 = .ok (.bipush 31, 2) := dk_16 31 (dk_at dksJ21_hashCode_0 15 rfl rfl)
theorem dJ21_hashCode_17 : decode cJ21_hashCode 17 = .ok (.iload_n 0, 1) := dk_26 (dk_at dksJ21_hashCode_0 17 rfl rfl)
theorem dJ21_hashCode_18 : decode cJ21_hashCode 18 = .ok (.imul, 1) := dk_104 (dk_at dksJ21_hashCode_0 18 rfl rfl)
theorem dJ21_hashCode_19 : decode cJ21_hashCode 19 = .ok (.aload_n 1, 1) := dk_43 (dk_at dksJ21_hashCode_0 19 rfl rfl)
theorem dJ21_hashCode_20 : decode cJ21_hashCode 20 = .ok (.iload 5, 2) := dk_21 5 (dk_at dksJ21_hashCode_0 20 rfl rfl)
theorem dJ21_hashCode_22 : decode cJ21_hashCode 22 = .ok (.caload, 1) := dk_52 (dk_at dksJ21_hashCode_0 22 rfl rfl)
theorem dJ21_hashCode_23 : decode cJ21_hashCode 23 = .ok (.iadd, 1) := dk_96 (dk_at dksJ21_hashCode_0 23 rfl rfl)
theorem dJ21_hashCode_24 : decode cJ21_hashCode 24 = .ok (.istore_n 0, 1) := dk_59 (dk_at dksJ21_hashCode_1 0 rfl rfl)
theorem dJ21_hashCode_25 : decode cJ21_hashCode 25 = .ok (.iinc 5 1, 3) := dk_132 5 1 (dk_at dksJ21_hashCode_1 1 rfl rfl)
theorem dJ21_hashCode_28 : decode cJ21_hashCode 28 = .ok (.goto (-20), 3) := dk_167 255 236 (dk_at dksJ21_hashCode_1 4 rfl rfl)
theorem dJ21_hashCode_31 : decode cJ21_hashCode 31 = .ok (.iload_n 0, 1) := dk_26 (dk_at dksJ21_hashCode_1 7 rfl rfl)
theorem dJ21_hashCode_32 : decode cJ21_hashCode 32 = .ok (.ireturn, 1) := dk_172 (dk_at dksJ21_hashCode_1 8 rfl rfl)
abbrev cJ21_hashCode_2 : ByteArray := prog_74_method_6_code
def yJ21_hashCode_2 : MethodName := ⟨RJ21, "hashCode", "(I[BII)I"⟩
def dkwJ21_hashCode_2_1 : List UInt8 := [59, 132, 5, 1, 167, 255, 236, 26, 172]
abbrev dktJ21_hashCode_2_1 : List UInt8 := dkwJ21_hashCode_2_1 ++ []
def dkwJ21_hashCode_2_0 : List UInt8 := [28, 29, 96, 54, 4, 28, 54, 5, 21, 5, 21, 4, 162, 0, 19, 16, 31, 26, 104, 43, 21, 5, 51, 96]
abbrev dktJ21_hashCode_2_0 : List UInt8 := dkwJ21_hashCode_2_0 ++ dktJ21_hashCode_2_1
theorem dksJ21_hashCode_2_0 : cJ21_hashCode_2.data.toList.drop 0 = dktJ21_hashCode_2_0 := by decide +kernel
theorem dksJ21_hashCode_2_1 : cJ21_hashCode_2.data.toList.drop 24 = dktJ21_hashCode_2_1 := dk_seg dksJ21_hashCode_2_0 24 rfl rfl
theorem dJ21_hashCode_2_0 : decode cJ21_hashCode_2 0 = .ok (.iload_n 2, 1) := dk_28 (dk_at dksJ21_hashCode_2_0 0 rfl rfl)
theorem dJ21_hashCode_2_1 : decode cJ21_hashCode_2 1 = .ok (.iload_n 3, 1) := dk_29 (dk_at dksJ21_hashCode_2_0 1 rfl rfl)
theorem dJ21_hashCode_2_2 : decode cJ21_hashCode_2 2 = .ok (.iadd, 1) := dk_96 (dk_at dksJ21_hashCode_2_0 2 rfl rfl)
theorem dJ21_hashCode_2_3 : decode cJ21_hashCode_2 3 = .ok (.istore 4, 2) := dk_54 4 (dk_at dksJ21_hashCode_2_0 3 rfl rfl)
theorem dJ21_hashCode_2_5 : decode cJ21_hashCode_2 5 = .ok (.iload_n 2, 1) := dk_28 (dk_at dksJ21_hashCode_2_0 5 rfl rfl)
theorem dJ21_hashCode_2_6 : decode cJ21_hashCode_2 6 = .ok (.istore 5, 2) := dk_54 5 (dk_at dksJ21_hashCode_2_0 6 rfl rfl)
theorem dJ21_hashCode_2_8 : decode cJ21_hashCode_2 8 = .ok (.iload 5, 2) := dk_21 5 (dk_at dksJ21_hashCode_2_0 8 rfl rfl)
theorem dJ21_hashCode_2_10 : decode cJ21_hashCode_2 10 = .ok (.iload 4, 2) := dk_21 4 (dk_at dksJ21_hashCode_2_0 10 rfl rfl)
theorem dJ21_hashCode_2_12 : decode cJ21_hashCode_2 12 = .ok (.if_icmp .ge 19, 3) := dk_162 0 19 (dk_at dksJ21_hashCode_2_0 12 rfl rfl)
theorem dJ21_hashCode_2_15 : decode cJ21_hashCode_2 15 = .ok (.bipush 31, 2) := dk_16 31 (dk_at dksJ21_hashCode_2_0 15 rfl rfl)
theorem dJ21_hashCode_2_17 : decode cJ21_hashCode_2 17 = .ok (.iload_n 0, 1) := dk_26 (dk_at dksJ21_hashCode_2_0 17 rfl rfl)
theorem dJ21_hashCode_2_18 : decode cJ21_hashCode_2 18 = .ok (.imul, 1) := dk_104 (dk_at dksJ21_hashCode_2_0 18 rfl rfl)
theorem dJ21_hashCode_2_19 : decode cJ21_hashCode_2 19 = .ok (.aload_n 1, 1) := dk_43 (dk_at dksJ21_hashCode_2_0 19 rfl rfl)
theorem dJ21_hashCode_2_20 : decode cJ21_hashCode_2 20 = .ok (.iload 5, 2) := dk_21 5 (dk_at dksJ21_hashCode_2_0 20 rfl rfl)
theorem dJ21_hashCode_2_22 : decode cJ21_hashCode_2 22 = .ok (.baload, 1) := dk_51 (dk_at dksJ21_hashCode_2_0 22 rfl rfl)
theorem dJ21_hashCode_2_23 : decode cJ21_hashCode_2 23 = .ok (.iadd, 1) := dk_96 (dk_at dksJ21_hashCode_2_0 23 rfl rfl)
theorem dJ21_hashCode_2_24 : decode cJ21_hashCode_2 24 = .ok (.istore_n 0, 1) := dk_59 (dk_at dksJ21_hashCode_2_1 0 rfl rfl)
theorem dJ21_hashCode_2_25 : decode cJ21_hashCode_2 25 = .ok (.iinc 5 1, 3) := dk_132 5 1 (dk_at dksJ21_hashCode_2_1 1 rfl rfl)
theorem dJ21_hashCode_2_28 : decode cJ21_hashCode_2 28 = .ok (.goto (-20), 3) := dk_167 255 236 (dk_at dksJ21_hashCode_2_1 4 rfl rfl)
theorem dJ21_hashCode_2_31 : decode cJ21_hashCode_2 31 = .ok (.iload_n 0, 1) := dk_26 (dk_at dksJ21_hashCode_2_1 7 rfl rfl)
theorem dJ21_hashCode_2_32 : decode cJ21_hashCode_2 32 = .ok (.ireturn, 1) := dk_172 (dk_at dksJ21_hashCode_2_1 8 rfl rfl)
abbrev cJ21_hashCode_3 : ByteArray := prog_74_method_8_code
def yJ21_hashCode_3 : MethodName := ⟨RJ21, "hashCode", "(I[SII)I"⟩
def dkwJ21_hashCode_3_1 : List UInt8 := [59, 132, 5, 1, 167, 255, 236, 26, 172]
abbrev dktJ21_hashCode_3_1 : List UInt8 := dkwJ21_hashCode_3_1 ++ []
def dkwJ21_hashCode_3_0 : List UInt8 := [28, 29, 96, 54, 4, 28, 54, 5, 21, 5, 21, 4, 162, 0, 19, 16, 31, 26, 104, 43, 21, 5, 53, 96]
abbrev dktJ21_hashCode_3_0 : List UInt8 := dkwJ21_hashCode_3_0 ++ dktJ21_hashCode_3_1
theorem dksJ21_hashCode_3_0 : cJ21_hashCode_3.data.toList.drop 0 = dktJ21_hashCode_3_0 := by decide +kernel
theorem dksJ21_hashCode_3_1 : cJ21_hashCode_3.data.toList.drop 24 = dktJ21_hashCode_3_1 := dk_seg dksJ21_hashCode_3_0 24 rfl rfl
theorem dJ21_hashCode_3_0 : decode cJ21_hashCode_3 0 = .ok (.iload_n 2, 1) := dk_28 (dk_at dksJ21_hashCode_3_0 0 rfl rfl)
theorem dJ21_hashCode_3_1 : decode cJ21_hashCode_3 1 = .ok (.iload_n 3, 1) := dk_29 (dk_at dksJ21_hashCode_3_0 1 rfl rfl)
theorem dJ21_hashCode_3_2 : decode cJ21_hashCode_3 2 = .ok (.iadd, 1) := dk_96 (dk_at dksJ21_hashCode_3_0 2 rfl rfl)
theorem dJ21_hashCode_3_3 : decode cJ21_hashCode_3 3 = .ok (.istore 4, 2) := dk_54 4 (dk_at dksJ21_hashCode_3_0 3 rfl rfl)
theorem dJ21_hashCode_3_5 : decode cJ21_hashCode_3 5 = .ok (.iload_n 2, 1) := dk_28 (dk_at dksJ21_hashCode_3_0 5 rfl rfl)
theorem dJ21_hashCode_3_6 : decode cJ21_hashCode_3 6 = .ok (.istore 5, 2) := dk_54 5 (dk_at dksJ21_hashCode_3_0 6 rfl rfl)
theorem dJ21_hashCode_3_8 : decode cJ21_hashCode_3 8 = .ok (.iload 5, 2) := dk_21 5 (dk_at dksJ21_hashCode_3_0 8 rfl rfl)
theorem dJ21_hashCode_3_10 : decode cJ21_hashCode_3 10 = .ok (.iload 4, 2) := dk_21 4 (dk_at dksJ21_hashCode_3_0 10 rfl rfl)
theorem dJ21_hashCode_3_12 : decode cJ21_hashCode_3 12 = .ok (.if_icmp .ge 19, 3) := dk_162 0 19 (dk_at dksJ21_hashCode_3_0 12 rfl rfl)
theorem dJ21_hashCode_3_15 : decode cJ21_hashCode_3 15 = .ok (.bipush 31, 2) := dk_16 31 (dk_at dksJ21_hashCode_3_0 15 rfl rfl)
theorem dJ21_hashCode_3_17 : decode cJ21_hashCode_3 17 = .ok (.iload_n 0, 1) := dk_26 (dk_at dksJ21_hashCode_3_0 17 rfl rfl)
theorem dJ21_hashCode_3_18 : decode cJ21_hashCode_3 18 = .ok (.imul, 1) := dk_104 (dk_at dksJ21_hashCode_3_0 18 rfl rfl)
theorem dJ21_hashCode_3_19 : decode cJ21_hashCode_3 19 = .ok (.aload_n 1, 1) := dk_43 (dk_at dksJ21_hashCode_3_0 19 rfl rfl)
theorem dJ21_hashCode_3_20 : decode cJ21_hashCode_3 20 = .ok (.iload 5, 2) := dk_21 5 (dk_at dksJ21_hashCode_3_0 20 rfl rfl)
theorem dJ21_hashCode_3_22 : decode cJ21_hashCode_3 22 = .ok (.saload, 1) := dk_53 (dk_at dksJ21_hashCode_3_0 22 rfl rfl)
theorem dJ21_hashCode_3_23 : decode cJ21_hashCode_3 23 = .ok (.iadd, 1) := dk_96 (dk_at dksJ21_hashCode_3_0 23 rfl rfl)
theorem dJ21_hashCode_3_24 : decode cJ21_hashCode_3 24 = .ok (.istore_n 0, 1) := dk_59 (dk_at dksJ21_hashCode_3_1 0 rfl rfl)
theorem dJ21_hashCode_3_25 : decode cJ21_hashCode_3 25 = .ok (.iinc 5 1, 3) := dk_132 5 1 (dk_at dksJ21_hashCode_3_1 1 rfl rfl)
theorem dJ21_hashCode_3_28 : decode cJ21_hashCode_3 28 = .ok (.goto (-20), 3) := dk_167 255 236 (dk_at dksJ21_hashCode_3_1 4 rfl rfl)
theorem dJ21_hashCode_3_31 : decode cJ21_hashCode_3 31 = .ok (.iload_n 0, 1) := dk_26 (dk_at dksJ21_hashCode_3_1 7 rfl rfl)
theorem dJ21_hashCode_3_32 : decode cJ21_hashCode_3 32 = .ok (.ireturn, 1) := dk_172 (dk_at dksJ21_hashCode_3_1 8 rfl rfl)
abbrev cJ21_hashCode_4 : ByteArray := prog_74_method_9_code
def yJ21_hashCode_4 : MethodName := ⟨RJ21, "hashCode", "(I[III)I"⟩
def dkwJ21_hashCode_4_1 : List UInt8 := [59, 132, 5, 1, 167, 255, 236, 26, 172]
abbrev dktJ21_hashCode_4_1 : List UInt8 := dkwJ21_hashCode_4_1 ++ []
def dkwJ21_hashCode_4_0 : List UInt8 := [28, 29, 96, 54, 4, 28, 54, 5, 21, 5, 21, 4, 162, 0, 19, 16, 31, 26, 104, 43, 21, 5, 46, 96]
abbrev dktJ21_hashCode_4_0 : List UInt8 := dkwJ21_hashCode_4_0 ++ dktJ21_hashCode_4_1
theorem dksJ21_hashCode_4_0 : cJ21_hashCode_4.data.toList.drop 0 = dktJ21_hashCode_4_0 := by decide +kernel
theorem dksJ21_hashCode_4_1 : cJ21_hashCode_4.data.toList.drop 24 = dktJ21_hashCode_4_1 := dk_seg dksJ21_hashCode_4_0 24 rfl rfl
theorem dJ21_hashCode_4_0 : decode cJ21_hashCode_4 0 = .ok (.iload_n 2, 1) := dk_28 (dk_at dksJ21_hashCode_4_0 0 rfl rfl)
theorem dJ21_hashCode_4_1 : decode cJ21_hashCode_4 1 = .ok (.iload_n 3, 1) := dk_29 (dk_at dksJ21_hashCode_4_0 1 rfl rfl)
theorem dJ21_hashCode_4_2 : decode cJ21_hashCode_4 2 = .ok (.iadd, 1) := dk_96 (dk_at dksJ21_hashCode_4_0 2 rfl rfl)
theorem dJ21_hashCode_4_3 : decode cJ21_hashCode_4 3 = .ok (.istore 4, 2) := dk_54 4 (dk_at dksJ21_hashCode_4_0 3 rfl rfl)
theorem dJ21_hashCode_4_5 : decode cJ21_hashCode_4 5 = .ok (.iload_n 2, 1) := dk_28 (dk_at dksJ21_hashCode_4_0 5 rfl rfl)
theorem dJ21_hashCode_4_6 : decode cJ21_hashCode_4 6 = .ok (.istore 5, 2) := dk_54 5 (dk_at dksJ21_hashCode_4_0 6 rfl rfl)
theorem dJ21_hashCode_4_8 : decode cJ21_hashCode_4 8 = .ok (.iload 5, 2) := dk_21 5 (dk_at dksJ21_hashCode_4_0 8 rfl rfl)
theorem dJ21_hashCode_4_10 : decode cJ21_hashCode_4 10 = .ok (.iload 4, 2) := dk_21 4 (dk_at dksJ21_hashCode_4_0 10 rfl rfl)
theorem dJ21_hashCode_4_12 : decode cJ21_hashCode_4 12 = .ok (.if_icmp .ge 19, 3) := dk_162 0 19 (dk_at dksJ21_hashCode_4_0 12 rfl rfl)
theorem dJ21_hashCode_4_15 : decode cJ21_hashCode_4 15 = .ok (.bipush 31, 2) := dk_16 31 (dk_at dksJ21_hashCode_4_0 15 rfl rfl)
theorem dJ21_hashCode_4_17 : decode cJ21_hashCode_4 17 = .ok (.iload_n 0, 1) := dk_26 (dk_at dksJ21_hashCode_4_0 17 rfl rfl)
theorem dJ21_hashCode_4_18 : decode cJ21_hashCode_4 18 = .ok (.imul, 1) := dk_104 (dk_at dksJ21_hashCode_4_0 18 rfl rfl)
theorem dJ21_hashCode_4_19 : decode cJ21_hashCode_4 19 = .ok (.aload_n 1, 1) := dk_43 (dk_at dksJ21_hashCode_4_0 19 rfl rfl)
theorem dJ21_hashCode_4_20 : decode cJ21_hashCode_4 20 = .ok (.iload 5, 2) := dk_21 5 (dk_at dksJ21_hashCode_4_0 20 rfl rfl)
theorem dJ21_hashCode_4_22 : decode cJ21_hashCode_4 22 = .ok (.iaload, 1) := dk_46 (dk_at dksJ21_hashCode_4_0 22 rfl rfl)
theorem dJ21_hashCode_4_23 : decode cJ21_hashCode_4 23 = .ok (.iadd, 1) := dk_96 (dk_at dksJ21_hashCode_4_0 23 rfl rfl)
theorem dJ21_hashCode_4_24 : decode cJ21_hashCode_4 24 = .ok (.istore_n 0, 1) := dk_59 (dk_at dksJ21_hashCode_4_1 0 rfl rfl)
theorem dJ21_hashCode_4_25 : decode cJ21_hashCode_4 25 = .ok (.iinc 5 1, 3) := dk_132 5 1 (dk_at dksJ21_hashCode_4_1 1 rfl rfl)
theorem dJ21_hashCode_4_28 : decode cJ21_hashCode_4 28 = .ok (.goto (-20), 3) := dk_167 255 236 (dk_at dksJ21_hashCode_4_1 4 rfl rfl)
theorem dJ21_hashCode_4_31 : decode cJ21_hashCode_4 31 = .ok (.iload_n 0, 1) := dk_26 (dk_at dksJ21_hashCode_4_1 7 rfl rfl)
theorem dJ21_hashCode_4_32 : decode cJ21_hashCode_4 32 = .ok (.ireturn, 1) := dk_172 (dk_at dksJ21_hashCode_4_1 8 rfl rfl)
theorem q144 : (Jvm.Cond.initialized "jdk/internal/util/ArraysSupport") ∈ lw_all := lw_g (lw_at lw_m1 31 rfl) rfl
theorem q738 : (Jvm.Cond.static ({ cls := "jdk/internal/util/ArraysSupport", name := "newLength", desc := "(III)I" } : Jvm.MethodName)) ∈ lw_all := lw_g (lw_at lw_m3 145 rfl) rfl
theorem q739 : (Jvm.Cond.code ({ cls := "jdk/internal/util/ArraysSupport", name := "newLength", desc := "(III)I" } : Jvm.MethodName) prog_74_method_27_code (4 : Nat) (Option.some Jvm.ClassFile.FieldType.int)) ∈ lw_all := lw_g (lw_at lw_m3 146 rfl) rfl
theorem q740 : (Jvm.Cond.methodLink "jdk/internal/util/ArraysSupport" (194 : Nat) ({ cls := "java/lang/Math", name := "max", desc := "(II)I" } : Jvm.MethodName)) ∈ lw_all := lw_g (lw_at lw_m3 147 rfl) rfl
theorem q741 : (Jvm.Cond.constant "jdk/internal/util/ArraysSupport" (200 : Nat) (2147483639 : Int32)) ∈ lw_all := lw_g (lw_at lw_m3 148 rfl) rfl
theorem q742 : (Jvm.Cond.methodLink "jdk/internal/util/ArraysSupport" (201 : Nat) ({ cls := "jdk/internal/util/ArraysSupport", name := "hugeLength", desc := "(II)I" } : Jvm.MethodName)) ∈ lw_all := lw_g (lw_at lw_m3 149 rfl) rfl
theorem q743 : (Jvm.Cond.static ({ cls := "jdk/internal/util/ArraysSupport", name := "hugeLength", desc := "(II)I" } : Jvm.MethodName)) ∈ lw_all := lw_g (lw_at lw_m3 150 rfl) rfl
theorem q744 : (Jvm.Cond.code ({ cls := "jdk/internal/util/ArraysSupport", name := "hugeLength", desc := "(II)I" } : Jvm.MethodName) prog_74_method_28_code (3 : Nat) (Option.some Jvm.ClassFile.FieldType.int)) ∈ lw_all := lw_g (lw_at lw_m3 151 rfl) rfl
theorem q1651 : (Jvm.Cond.static ({ cls := "jdk/internal/util/ArraysSupport", name := "vectorizedHashCode", desc := "(Ljava/lang/Object;IIII)I" } : Jvm.MethodName)) ∈ lw_all := lw_g (lw_at lw_m7 98 rfl) rfl
theorem q1652 : (Jvm.Cond.code ({ cls := "jdk/internal/util/ArraysSupport", name := "vectorizedHashCode", desc := "(Ljava/lang/Object;IIII)I" } : Jvm.MethodName) prog_74_method_4_code (5 : Nat) (Option.some Jvm.ClassFile.FieldType.int)) ∈ lw_all := lw_g (lw_at lw_m7 99 rfl) rfl
theorem q1653 : (Jvm.Cond.classLink "jdk/internal/util/ArraysSupport" (60 : Nat) "[B") ∈ lw_all := lw_g (lw_at lw_m7 100 rfl) rfl
theorem q1654 : (Jvm.Cond.methodLink "jdk/internal/util/ArraysSupport" (62 : Nat) ({ cls := "jdk/internal/util/ArraysSupport", name := "signedHashCode", desc := "(I[BII)I" } : Jvm.MethodName)) ∈ lw_all := lw_g (lw_at lw_m7 101 rfl) rfl
theorem q1655 : (Jvm.Cond.static ({ cls := "jdk/internal/util/ArraysSupport", name := "signedHashCode", desc := "(I[BII)I" } : Jvm.MethodName)) ∈ lw_all := lw_g (lw_at lw_m7 102 rfl) rfl
theorem q1656 : (Jvm.Cond.code ({ cls := "jdk/internal/util/ArraysSupport", name := "signedHashCode", desc := "(I[BII)I" } : Jvm.MethodName) prog_74_method_5_code (6 : Nat) (Option.some Jvm.ClassFile.FieldType.int)) ∈ lw_all := lw_g (lw_at lw_m7 103 rfl) rfl
theorem q1657 : (Jvm.Cond.methodLink "jdk/internal/util/ArraysSupport" (66 : Nat) ({ cls := "jdk/internal/util/ArraysSupport", name := "utf16hashCode", desc := "(I[BII)I" } : Jvm.MethodName)) ∈ lw_all := lw_g (lw_at lw_m7 104 rfl) rfl
theorem q1658 : (Jvm.Cond.static ({ cls := "jdk/internal/util/ArraysSupport", name := "utf16hashCode", desc := "(I[BII)I" } : Jvm.MethodName)) ∈ lw_all := lw_g (lw_at lw_m7 105 rfl) rfl
theorem q1659 : (Jvm.Cond.code ({ cls := "jdk/internal/util/ArraysSupport", name := "utf16hashCode", desc := "(I[BII)I" } : Jvm.MethodName) prog_74_method_10_code (6 : Nat) (Option.some Jvm.ClassFile.FieldType.int)) ∈ lw_all := lw_g (lw_at lw_m7 106 rfl) rfl
theorem q1660 : (Jvm.Cond.fieldLink "jdk/internal/util/ArraysSupport" (106 : Nat) "jdk/internal/util/ArraysSupport" "JLA" "Ljdk/internal/access/JavaLangAccess;") ∈ lw_all := lw_g (lw_at lw_m7 107 rfl) rfl
theorem q1661 : (Jvm.Cond.laysStatic "jdk/internal/util/ArraysSupport" "JLA" "Ljdk/internal/access/JavaLangAccess;") ∈ lw_tbl := lw_at lw_m7 108 rfl
theorem q1662 : (Jvm.Cond.interfaceEntry "jdk/internal/util/ArraysSupport" (110 : Nat)) ∈ lw_tbl := lw_at lw_m7 109 rfl
theorem q1663 : (Jvm.Cond.methodLink "jdk/internal/util/ArraysSupport" (110 : Nat) ({ cls := "jdk/internal/access/JavaLangAccess", name := "getUTF16Char", desc := "([BI)C" } : Jvm.MethodName)) ∈ lw_all := lw_g (lw_at lw_m7 110 rfl) rfl
theorem q1673 : (Jvm.Cond.classLink "jdk/internal/util/ArraysSupport" (69 : Nat) "[C") ∈ lw_all := lw_g (lw_at lw_m7 120 rfl) rfl
theorem q1674 : (Jvm.Cond.methodLink "jdk/internal/util/ArraysSupport" (71 : Nat) ({ cls := "jdk/internal/util/ArraysSupport", name := "hashCode", desc := "(I[CII)I" } : Jvm.MethodName)) ∈ lw_all := lw_g (lw_at lw_m7 121 rfl) rfl
theorem q1675 : (Jvm.Cond.static ({ cls := "jdk/internal/util/ArraysSupport", name := "hashCode", desc := "(I[CII)I" } : Jvm.MethodName)) ∈ lw_all := lw_g (lw_at lw_m7 122 rfl) rfl
theorem q1676 : (Jvm.Cond.code ({ cls := "jdk/internal/util/ArraysSupport", name := "hashCode", desc := "(I[CII)I" } : Jvm.MethodName) prog_74_method_7_code (6 : Nat) (Option.some Jvm.ClassFile.FieldType.int)) ∈ lw_all := lw_g (lw_at lw_m7 123 rfl) rfl
theorem q1677 : (Jvm.Cond.methodLink "jdk/internal/util/ArraysSupport" (75 : Nat) ({ cls := "jdk/internal/util/ArraysSupport", name := "hashCode", desc := "(I[BII)I" } : Jvm.MethodName)) ∈ lw_all := lw_g (lw_at lw_m7 124 rfl) rfl
theorem q1678 : (Jvm.Cond.static ({ cls := "jdk/internal/util/ArraysSupport", name := "hashCode", desc := "(I[BII)I" } : Jvm.MethodName)) ∈ lw_all := lw_g (lw_at lw_m7 125 rfl) rfl
theorem q1679 : (Jvm.Cond.code ({ cls := "jdk/internal/util/ArraysSupport", name := "hashCode", desc := "(I[BII)I" } : Jvm.MethodName) prog_74_method_6_code (6 : Nat) (Option.some Jvm.ClassFile.FieldType.int)) ∈ lw_all := lw_g (lw_at lw_m7 126 rfl) rfl
theorem q1680 : (Jvm.Cond.classLink "jdk/internal/util/ArraysSupport" (77 : Nat) "[S") ∈ lw_all := lw_g (lw_at lw_m7 127 rfl) rfl
theorem q1681 : (Jvm.Cond.methodLink "jdk/internal/util/ArraysSupport" (79 : Nat) ({ cls := "jdk/internal/util/ArraysSupport", name := "hashCode", desc := "(I[SII)I" } : Jvm.MethodName)) ∈ lw_all := lw_g (lw_at lw_m7 128 rfl) rfl
theorem q1682 : (Jvm.Cond.static ({ cls := "jdk/internal/util/ArraysSupport", name := "hashCode", desc := "(I[SII)I" } : Jvm.MethodName)) ∈ lw_all := lw_g (lw_at lw_m7 129 rfl) rfl
theorem q1683 : (Jvm.Cond.code ({ cls := "jdk/internal/util/ArraysSupport", name := "hashCode", desc := "(I[SII)I" } : Jvm.MethodName) prog_74_method_8_code (6 : Nat) (Option.some Jvm.ClassFile.FieldType.int)) ∈ lw_all := lw_g (lw_at lw_m7 130 rfl) rfl
theorem q1684 : (Jvm.Cond.classLink "jdk/internal/util/ArraysSupport" (82 : Nat) "[I") ∈ lw_all := lw_g (lw_at lw_m7 131 rfl) rfl
theorem q1685 : (Jvm.Cond.methodLink "jdk/internal/util/ArraysSupport" (84 : Nat) ({ cls := "jdk/internal/util/ArraysSupport", name := "hashCode", desc := "(I[III)I" } : Jvm.MethodName)) ∈ lw_all := lw_g (lw_at lw_m7 132 rfl) rfl
theorem q1686 : (Jvm.Cond.static ({ cls := "jdk/internal/util/ArraysSupport", name := "hashCode", desc := "(I[III)I" } : Jvm.MethodName)) ∈ lw_all := lw_g (lw_at lw_m7 133 rfl) rfl
theorem q1687 : (Jvm.Cond.code ({ cls := "jdk/internal/util/ArraysSupport", name := "hashCode", desc := "(I[III)I" } : Jvm.MethodName) prog_74_method_9_code (6 : Nat) (Option.some Jvm.ClassFile.FieldType.int)) ∈ lw_all := lw_g (lw_at lw_m7 134 rfl) rfl
theorem q1688 : (Jvm.Cond.classLink "jdk/internal/util/ArraysSupport" (87 : Nat) "java/lang/IllegalArgumentException") ∈ lw_all := lw_g (lw_at lw_m7 135 rfl) rfl
theorem q1689 : (Jvm.Cond.classLink "jdk/internal/util/ArraysSupport" (89 : Nat) "java/lang/StringBuilder") ∈ lw_all := lw_g (lw_at lw_m7 136 rfl) rfl
theorem q1690 : (Jvm.Cond.methodLink "jdk/internal/util/ArraysSupport" (91 : Nat) ({ cls := "java/lang/StringBuilder", name := "<init>", desc := "()V" } : Jvm.MethodName)) ∈ lw_all := lw_g (lw_at lw_m7 137 rfl) rfl
theorem q1691 : (Jvm.Cond.stringRef "jdk/internal/util/ArraysSupport" (92 : Nat) "unrecognized basic type: ") ∈ lw_tbl := lw_at lw_m7 138 rfl
theorem q1692 : (Jvm.Cond.methodLink "jdk/internal/util/ArraysSupport" (94 : Nat) ({ cls := "java/lang/StringBuilder", name := "append", desc := "(Ljava/lang/String;)Ljava/lang/StringBuilder;" } : Jvm.MethodName)) ∈ lw_all := lw_g (lw_at lw_m7 139 rfl) rfl
theorem q1693 : (Jvm.Cond.methodLink "jdk/internal/util/ArraysSupport" (98 : Nat) ({ cls := "java/lang/StringBuilder", name := "append", desc := "(I)Ljava/lang/StringBuilder;" } : Jvm.MethodName)) ∈ lw_all := lw_g (lw_at lw_m7 140 rfl) rfl
theorem q1694 : (Jvm.Cond.methodLink "jdk/internal/util/ArraysSupport" (101 : Nat) ({ cls := "java/lang/StringBuilder", name := "toString", desc := "()Ljava/lang/String;" } : Jvm.MethodName)) ∈ lw_all := lw_g (lw_at lw_m7 141 rfl) rfl
theorem q1695 : (Jvm.Cond.methodLink "jdk/internal/util/ArraysSupport" (105 : Nat) ({ cls := "java/lang/IllegalArgumentException", name := "<init>", desc := "(Ljava/lang/String;)V" } : Jvm.MethodName)) ∈ lw_all := lw_g (lw_at lw_m7 142 rfl) rfl

/-! java/lang/Math -/
set_option maxRecDepth 100000
def RJ22 : String := "java/lang/Math"
abbrev cJ22_min : ByteArray := prog_30_method_69_code
def yJ22_min : MethodName := ⟨RJ22, "min", "(II)I"⟩
def dkwJ22_min_0 : List UInt8 := [26, 27, 163, 0, 7, 26, 167, 0, 4, 27, 172]
abbrev dktJ22_min_0 : List UInt8 := dkwJ22_min_0 ++ []
theorem dksJ22_min_0 : cJ22_min.data.toList.drop 0 = dktJ22_min_0 := by decide +kernel
theorem dJ22_min_0 : decode cJ22_min 0 = .ok (.iload_n 0, 1) := dk_26 (dk_at dksJ22_min_0 0 rfl rfl)
theorem dJ22_min_1 : decode cJ22_min 1 = .ok (.iload_n 1, 1) := dk_27 (dk_at dksJ22_min_0 1 rfl rfl)
theorem dJ22_min_2 : decode cJ22_min 2 = .ok (.if_icmp .gt 7, 3) := dk_163 0 7 (dk_at dksJ22_min_0 2 rfl rfl)
theorem dJ22_min_5 : decode cJ22_min 5 = .ok (.iload_n 0, 1) := dk_26 (dk_at dksJ22_min_0 5 rfl rfl)
theorem dJ22_min_6 : decode cJ22_min 6 = .ok (.goto 4, 3) := dk_167 0 4 (dk_at dksJ22_min_0 6 rfl rfl)
theorem dJ22_min_9 : decode cJ22_min 9 = .ok (.iload_n 1, 1) := dk_27 (dk_at dksJ22_min_0 9 rfl rfl)
theorem dJ22_min_10 : decode cJ22_min 10 = .ok (.ireturn, 1) := dk_172 (dk_at dksJ22_min_0 10 rfl rfl)
abbrev cJ22_max : ByteArray := prog_30_method_65_code
def yJ22_max : MethodName := ⟨RJ22, "max", "(II)I"⟩
def dkwJ22_max_0 : List UInt8 := [26, 27, 161, 0, 7, 26, 167, 0, 4, 27, 172]
abbrev dktJ22_max_0 : List UInt8 := dkwJ22_max_0 ++ []
theorem dksJ22_max_0 : cJ22_max.data.toList.drop 0 = dktJ22_max_0 := by decide +kernel
theorem dJ22_max_0 : decode cJ22_max 0 = .ok (.iload_n 0, 1) := dk_26 (dk_at dksJ22_max_0 0 rfl rfl)
theorem dJ22_max_1 : decode cJ22_max 1 = .ok (.iload_n 1, 1) := dk_27 (dk_at dksJ22_max_0 1 rfl rfl)
theorem dJ22_max_2 : decode cJ22_max 2 = .ok (.if_icmp .lt 7, 3) := dk_161 0 7 (dk_at dksJ22_max_0 2 rfl rfl)
theorem dJ22_max_5 : decode cJ22_max 5 = .ok (.iload_n 0, 1) := dk_26 (dk_at dksJ22_max_0 5 rfl rfl)
theorem dJ22_max_6 : decode cJ22_max 6 = .ok (.goto 4, 3) := dk_167 0 4 (dk_at dksJ22_max_0 6 rfl rfl)
theorem dJ22_max_9 : decode cJ22_max 9 = .ok (.iload_n 1, 1) := dk_27 (dk_at dksJ22_max_0 9 rfl rfl)
theorem dJ22_max_10 : decode cJ22_max 10 = .ok (.ireturn, 1) := dk_172 (dk_at dksJ22_max_0 10 rfl rfl)
theorem q145 : (Jvm.Cond.initialized "java/lang/Math") ∈ lw_all := lw_g (lw_at lw_m1 32 rfl) rfl
theorem q579 : (Jvm.Cond.static ({ cls := "java/lang/Math", name := "min", desc := "(II)I" } : Jvm.MethodName)) ∈ lw_all := lw_g (lw_at lw_m2 226 rfl) rfl
theorem q580 : (Jvm.Cond.code ({ cls := "java/lang/Math", name := "min", desc := "(II)I" } : Jvm.MethodName) prog_30_method_69_code (2 : Nat) (Option.some Jvm.ClassFile.FieldType.int)) ∈ lw_all := lw_g (lw_at lw_m2 227 rfl) rfl
theorem q586 : (Jvm.Cond.static ({ cls := "java/lang/Math", name := "max", desc := "(II)I" } : Jvm.MethodName)) ∈ lw_all := lw_g (lw_at lw_m2 233 rfl) rfl
theorem q587 : (Jvm.Cond.code ({ cls := "java/lang/Math", name := "max", desc := "(II)I" } : Jvm.MethodName) prog_30_method_65_code (2 : Nat) (Option.some Jvm.ClassFile.FieldType.int)) ∈ lw_all := lw_g (lw_at lw_m2 234 rfl) rfl

/-! java/util/Arrays -/
set_option maxRecDepth 100000
def RJ23 : String := "java/util/Arrays"
abbrev cJ23_copyOf : ByteArray := prog_52_method_124_code
def yJ23_copyOf : MethodName := ⟨RJ23, "copyOf", "([JI)[J"⟩
def dkwJ23_copyOf_1 : List UInt8 := [27, 184, 1, 48, 184, 0, 150, 44, 176]
abbrev dktJ23_copyOf_1 : List UInt8 := dkwJ23_copyOf_1 ++ []
def dkwJ23_copyOf_0 : List UInt8 := [27, 42, 190, 160, 0, 11, 42, 182, 1, 63, 192, 1, 64, 176, 27, 188, 11, 77, 42, 3, 44, 3, 42, 190]
abbrev dktJ23_copyOf_0 : List UInt8 := dkwJ23_copyOf_0 ++ dktJ23_copyOf_1
theorem dksJ23_copyOf_0 : cJ23_copyOf.data.toList.drop 0 = dktJ23_copyOf_0 := by decide +kernel
theorem dksJ23_copyOf_1 : cJ23_copyOf.data.toList.drop 24 = dktJ23_copyOf_1 := dk_seg dksJ23_copyOf_0 24 rfl rfl
theorem dJ23_copyOf_0 : decode cJ23_copyOf 0 = .ok (.iload_n 1, 1) := dk_27 (dk_at dksJ23_copyOf_0 0 rfl rfl)
theorem dJ23_copyOf_1 : decode cJ23_copyOf 1 = .ok (.aload_n 0, 1) := dk_42 (dk_at dksJ23_copyOf_0 1 rfl rfl)
theorem dJ23_copyOf_2 : decode cJ23_copyOf 2 = .ok (.arraylength, 1) := dk_190 (dk_at dksJ23_copyOf_0 2 rfl rfl)
theorem dJ23_copyOf_3 : decode cJ23_copyOf 3 = .ok (.if_icmp .ne 11, 3) := dk_160 0 11 (dk_at dksJ23_copyOf_0 3 rfl rfl)
theorem dJ23_copyOf_6 : decode cJ23_copyOf 6 = .ok (.aload_n 0, 1) := dk_42 (dk_at dksJ23_copyOf_0 6 rfl rfl)
theorem dJ23_copyOf_7 : decode cJ23_copyOf 7 = .ok (.invokevirtual 319, 3) := dk_182 1 63 (dk_at dksJ23_copyOf_0 7 rfl rfl)
theorem dJ23_copyOf_10 : decode cJ23_copyOf 10 = .ok (.checkcast 320, 3) := dk_192 1 64 (dk_at dksJ23_copyOf_0 10 rfl rfl)
theorem dJ23_copyOf_13 : decode cJ23_copyOf 13 = .ok (.areturn, 1) := dk_176 (dk_at dksJ23_copyOf_0 13 rfl rfl)
theorem dJ23_copyOf_14 : decode cJ23_copyOf 14 = .ok (.iload_n 1, 1) := dk_27 (dk_at dksJ23_copyOf_0 14 rfl rfl)
theorem dJ23_copyOf_15 : decode cJ23_copyOf 15 = .ok (.newarray .long, 2) := dk_188_11 (dk_at dksJ23_copyOf_0 15 rfl rfl)
theorem dJ23_copyOf_17 : decode cJ23_copyOf 17 = .ok (.astore_n 2, 1) := dk_77 (dk_at dksJ23_copyOf_0 17 rfl rfl)
theorem dJ23_copyOf_18 : decode cJ23_copyOf 18 = .ok (.aload_n 0, 1) := dk_42 (dk_at dksJ23_copyOf_0 18 rfl rfl)
theorem dJ23_copyOf_19 : decode cJ23_copyOf 19 = .ok (.iconst 0, 1) := dk_3 (dk_at dksJ23_copyOf_0 19 rfl rfl)
theorem dJ23_copyOf_20 : decode cJ23_copyOf 20 = .ok (.aload_n 2, 1) := dk_44 (dk_at dksJ23_copyOf_0 20 rfl rfl)
theorem dJ23_copyOf_21 : decode cJ23_copyOf 21 = .ok (.iconst 0, 1) := dk_3 (dk_at dksJ23_copyOf_0 21 rfl rfl)
theorem dJ23_copyOf_22 : decode cJ23_copyOf 22 = .ok (.aload_n 0, 1) := dk_42 (dk_at dksJ23_copyOf_0 22 rfl rfl)
theorem dJ23_copyOf_23 : decode cJ23_copyOf 23 = .ok (.arraylength, 1) := dk_190 (dk_at dksJ23_copyOf_0 23 rfl rfl)
theorem dJ23_copyOf_24 : decode cJ23_copyOf 24 = .ok (.iload_n 1, 1) := dk_27 (dk_at dksJ23_copyOf_1 0 rfl rfl)
theorem dJ23_copyOf_25 : decode cJ23_copyOf 25 = .ok (.invokestatic 304, 3) := dk_184 1 48 (dk_at dksJ23_copyOf_1 1 rfl rfl)
theorem dJ23_copyOf_28 : decode cJ23_copyOf 28 = .ok (.invokestatic 150, 3) := dk_184 0 150 (dk_at dksJ23_copyOf_1 4 rfl rfl)
theorem dJ23_copyOf_31 : decode cJ23_copyOf 31 = .ok (.aload_n 2, 1) := dk_44 (dk_at dksJ23_copyOf_1 7 rfl rfl)
theorem dJ23_copyOf_32 : decode cJ23_copyOf 32 = .ok (.areturn, 1) := dk_176 (dk_at dksJ23_copyOf_1 8 rfl rfl)
abbrev cJ23_copyOf_2 : ByteArray := prog_52_method_121_code
def yJ23_copyOf_2 : MethodName := ⟨RJ23, "copyOf", "([BI)[B"⟩
def dkwJ23_copyOf_2_1 : List UInt8 := [27, 184, 1, 48, 184, 0, 150, 44, 176]
abbrev dktJ23_copyOf_2_1 : List UInt8 := dkwJ23_copyOf_2_1 ++ []
def dkwJ23_copyOf_2_0 : List UInt8 := [27, 42, 190, 160, 0, 11, 42, 182, 1, 54, 192, 1, 55, 176, 27, 188, 8, 77, 42, 3, 44, 3, 42, 190]
abbrev dktJ23_copyOf_2_0 : List UInt8 := dkwJ23_copyOf_2_0 ++ dktJ23_copyOf_2_1
theorem dksJ23_copyOf_2_0 : cJ23_copyOf_2.data.toList.drop 0 = dktJ23_copyOf_2_0 := by decide +kernel
theorem dksJ23_copyOf_2_1 : cJ23_copyOf_2.data.toList.drop 24 = dktJ23_copyOf_2_1 := dk_seg dksJ23_copyOf_2_0 24 rfl rfl
theorem dJ23_copyOf_2_0 : decode cJ23_copyOf_2 0 = .ok (.iload_n 1, 1) := dk_27 (dk_at dksJ23_copyOf_2_0 0 rfl rfl)
theorem dJ23_copyOf_2_1 : decode cJ23_copyOf_2 1 = .ok (.aload_n 0, 1) := dk_42 (dk_at dksJ23_copyOf_2_0 1 rfl rfl)
theorem dJ23_copyOf_2_2 : decode cJ23_copyOf_2 2 = .ok (.arraylength, 1) := dk_190 (dk_at dksJ23_copyOf_2_0 2 rfl rfl)
theorem dJ23_copyOf_2_3 : decode cJ23_copyOf_2 3 = .ok (.if_icmp .ne 11, 3) := dk_160 0 11 (dk_at dksJ23_copyOf_2_0 3 rfl rfl)
theorem dJ23_copyOf_2_6 : decode cJ23_copyOf_2 6 = .ok (.aload_n 0, 1) := dk_42 (dk_at dksJ23_copyOf_2_0 6 rfl rfl)
theorem dJ23_copyOf_2_7 : decode cJ23_copyOf_2 7 = .ok (.invokevirtual 310, 3) := dk_182 1 54 (dk_at dksJ23_copyOf_2_0 7 rfl rfl)
theorem dJ23_copyOf_2_10 : decode cJ23_copyOf_2 10 = .ok (.checkcast 311, 3) := dk_192 1 55 (dk_at dksJ23_copyOf_2_0 10 rfl rfl)
theorem dJ23_copyOf_2_13 : decode cJ23_copyOf_2 13 = .ok (.areturn, 1) := dk_176 (dk_at dksJ23_copyOf_2_0 13 rfl rfl)
theorem dJ23_copyOf_2_14 : decode cJ23_copyOf_2 14 = .ok (.iload_n 1, 1) := dk_27 (dk_at dksJ23_copyOf_2_0 14 rfl rfl)
theorem dJ23_copyOf_2_15 : decode cJ23_copyOf_2 15 = .ok (.newarray .byte, 2) := dk_188_8 (dk_at dksJ23_copyOf_2_0 15 rfl rfl)
theorem dJ23_copyOf_2_17 : decode cJ23_copyOf_2 17 = .ok (.astore_n 2, 1) := dk_77 (dk_at dksJ23_copyOf_2_0 17 rfl rfl)
theorem dJ23_copyOf_2_18 : decode cJ23_copyOf_2 18 = .ok (.aload_n 0, 1) := dk_42 (dk_at dksJ23_copyOf_2_0 18 rfl rfl)
theorem dJ23_copyOf_2_19 : decode cJ23_copyOf_2 19 = .ok (.iconst 0, 1) := dk_3 (dk_at dksJ23_copyOf_2_0 19 rfl rfl)
theorem dJ23_copyOf_2_20 : decode cJ23_copyOf_2 20 = .ok (.aload_n 2, 1) := dk_44 (dk_at dksJ23_copyOf_2_0 20 rfl rfl)
theorem dJ23_copyOf_2_21 : decode cJ23_copyOf_2 21 = .ok (.iconst 0, 1) := dk_3 (dk_at dksJ23_copyOf_2_0 21 rfl rfl)
theorem dJ23_copyOf_2_22 : decode cJ23_copyOf_2 22 = .ok (.aload_n 0, 1) := dk_42 (dk_at dksJ23_copyOf_2_0 22 rfl rfl)
theorem dJ23_copyOf_2_23 : decode cJ23_copyOf_2 23 = .ok (.arraylength, 1) := dk_190 (dk_at dksJ23_copyOf_2_0 23 rfl rfl)
theorem dJ23_copyOf_2_24 : decode cJ23_copyOf_2 24 = .ok (.iload_n 1, 1) := dk_27 (dk_at dksJ23_copyOf_2_1 0 rfl rfl)
theorem dJ23_copyOf_2_25 : decode cJ23_copyOf_2 25 = .ok (.invokestatic 304, 3) := dk_184 1 48 (dk_at dksJ23_copyOf_2_1 1 rfl rfl)
theorem dJ23_copyOf_2_28 : decode cJ23_copyOf_2 28 = .ok (.invokestatic 150, 3) := dk_184 0 150 (dk_at dksJ23_copyOf_2_1 4 rfl rfl)
theorem dJ23_copyOf_2_31 : decode cJ23_copyOf_2 31 = .ok (.aload_n 2, 1) := dk_44 (dk_at dksJ23_copyOf_2_1 7 rfl rfl)
theorem dJ23_copyOf_2_32 : decode cJ23_copyOf_2 32 = .ok (.areturn, 1) := dk_176 (dk_at dksJ23_copyOf_2_1 8 rfl rfl)
abbrev cJ23_copyOfRange : ByteArray := prog_52_method_132_code
def yJ23_copyOfRange : MethodName := ⟨RJ23, "copyOfRange", "([BII)[B"⟩
def dkwJ23_copyOfRange_1 : List UInt8 := [176]
abbrev dktJ23_copyOfRange_1 : List UInt8 := dkwJ23_copyOfRange_1 ++ []
def dkwJ23_copyOfRange_0 : List UInt8 := [27, 154, 0, 9, 28, 42, 190, 159, 0, 10, 42, 27, 28, 184, 1, 83, 176, 42, 182, 1, 54, 192, 1, 55]
abbrev dktJ23_copyOfRange_0 : List UInt8 := dkwJ23_copyOfRange_0 ++ dktJ23_copyOfRange_1
theorem dksJ23_copyOfRange_0 : cJ23_copyOfRange.data.toList.drop 0 = dktJ23_copyOfRange_0 := by decide +kernel
theorem dksJ23_copyOfRange_1 : cJ23_copyOfRange.data.toList.drop 24 = dktJ23_copyOfRange_1 := dk_seg dksJ23_copyOfRange_0 24 rfl rfl
theorem dJ23_copyOfRange_0 : decode cJ23_copyOfRange 0 = .ok (.iload_n 1, 1) := dk_27 (dk_at dksJ23_copyOfRange_0 0 rfl rfl)
theorem dJ23_copyOfRange_1 : decode cJ23_copyOfRange 1 = .ok (.ifCond .ne 9, 3) := dk_154 0 9 (dk_at dksJ23_copyOfRange_0 1 rfl rfl)
theorem dJ23_copyOfRange_4 : decode cJ23_copyOfRange 4 = .ok (.iload_n 2, 1) := dk_28 (dk_at dksJ23_copyOfRange_0 4 rfl rfl)
theorem dJ23_copyOfRange_5 : decode cJ23_copyOfRange 5 = .ok (.aload_n 0, 1) := dk_42 (dk_at dksJ23_copyOfRange_0 5 rfl rfl)
theorem dJ23_copyOfRange_6 : decode cJ23_copyOfRange 6 = .ok (.arraylength, 1) := dk_190 (dk_at dksJ23_copyOfRange_0 6 rfl rfl)
theorem dJ23_copyOfRange_7 : decode cJ23_copyOfRange 7 = .ok (.if_icmp .eq 10, 3) := dk_159 0 10 (dk_at dksJ23_copyOfRange_0 7 rfl rfl)
theorem dJ23_copyOfRange_10 : decode cJ23_copyOfRange 10 = .ok (.aload_n 0, 1) := dk_42 (dk_at dksJ23_copyOfRange_0 10 rfl rfl)
theorem dJ23_copyOfRange_11 : decode cJ23_copyOfRange 11 = .ok (.iload_n 1, 1) := dk_27 (dk_at dksJ23_copyOfRange_0 11 rfl rfl)
theorem dJ23_copyOfRange_12 : decode cJ23_copyOfRange 12 = .ok (.iload_n 2, 1) := dk_28 (dk_at dksJ23_copyOfRange_0 12 rfl rfl)
theorem dJ23_copyOfRange_13 : decode cJ23_copyOfRange 13 = .ok (.invokestatic 339, 3) := dk_184 1 83 (dk_at dksJ23_copyOfRange_0 13 rfl rfl)
theorem dJ23_copyOfRange_16 : decode cJ23_copyOfRange 16 = .ok (.areturn, 1) := dk_176 (dk_at dksJ23_copyOfRange_0 16 rfl rfl)
theorem dJ23_copyOfRange_17 : decode cJ23_copyOfRange 17 = .ok (.aload_n 0, 1) := dk_42 (dk_at dksJ23_copyOfRange_0 17 rfl rfl)
theorem dJ23_copyOfRange_18 : decode cJ23_copyOfRange 18 = .ok (.invokevirtual 310, 3) := dk_182 1 54 (dk_at dksJ23_copyOfRange_0 18 rfl rfl)
theorem dJ23_copyOfRange_21 : decode cJ23_copyOfRange 21 = .ok (.checkcast 311, 3) := dk_192 1 55 (dk_at dksJ23_copyOfRange_0 21 rfl rfl)
theorem dJ23_copyOfRange_24 : decode cJ23_copyOfRange 24 = .ok (.areturn, 1) := dk_176 (dk_at dksJ23_copyOfRange_1 0 rfl rfl)
abbrev cJ23_copyOfRangeByte : ByteArray := prog_52_method_133_code
def yJ23_copyOfRangeByte : MethodName := ⟨RJ23, "copyOfRangeByte", "([BII)[B"⟩
def dkwJ23_copyOfRangeByte_1 : List UInt8 := [184, 1, 48, 184, 0, 150, 25, 4, 176]
abbrev dktJ23_copyOfRangeByte_1 : List UInt8 := dkwJ23_copyOfRangeByte_1 ++ []
def dkwJ23_copyOfRangeByte_0 : List UInt8 := [27, 28, 184, 1, 87, 28, 27, 100, 62, 29, 188, 8, 58, 4, 42, 27, 25, 4, 3, 42, 190, 27, 100, 29]
abbrev dktJ23_copyOfRangeByte_0 : List UInt8 := dkwJ23_copyOfRangeByte_0 ++ dktJ23_copyOfRangeByte_1
theorem dksJ23_copyOfRangeByte_0 : cJ23_copyOfRangeByte.data.toList.drop 0 = dktJ23_copyOfRangeByte_0 := by decide +kernel
theorem dksJ23_copyOfRangeByte_1 : cJ23_copyOfRangeByte.data.toList.drop 24 = dktJ23_copyOfRangeByte_1 := dk_seg dksJ23_copyOfRangeByte_0 24 rfl rfl
theorem dJ23_copyOfRangeByte_0 : decode cJ23_copyOfRangeByte 0 = .ok (.iload_n 1, 1) := dk_27 (dk_at dksJ23_copyOfRangeByte_0 0 rfl rfl)
theorem dJ23_copyOfRangeByte_1 : decode cJ23_copyOfRangeByte 1 = .ok (.iload_n 2, 1) := dk_28 (dk_at dksJ23_copyOfRangeByte_0 1 rfl rfl)
theorem dJ23_copyOfRangeByte_2 : decode cJ23_copyOfRangeByte 2 = .ok (.invokestatic 343, 3) := dk_184 1 87 (dk_at dksJ23_copyOfRangeByte_0 2 rfl rfl)
theorem dJ23_copyOfRangeByte_5 : decode cJ23_copyOfRangeByte 5 = .ok (.iload_n 2, 1) := dk_28 (dk_at dksJ23_copyOfRangeByte_0 5 rfl rfl)
theorem dJ23_copyOfRangeByte_6 : decode cJ23_copyOfRangeByte 6 = .ok (.iload_n 1, 1) := dk_27 (dk_at dksJ23_copyOfRangeByte_0 6 rfl rfl)
theorem dJ23_copyOfRangeByte_7 : decode cJ23_copyOfRangeByte 7 = .ok (.isub, 1) := dk_100 (dk_at dksJ23_copyOfRangeByte_0 7 rfl rfl)
theorem dJ23_copyOfRangeByte_8 : decode cJ23_copyOfRangeByte 8 = .ok (.istore_n 3, 1) := dk_62 (dk_at dksJ23_copyOfRangeByte_0 8 rfl rfl)
theorem dJ23_copyOfRangeByte_9 : decode cJ23_copyOfRangeByte 9 = .ok (.iload_n 3, 1) := dk_29 (dk_at dksJ23_copyOfRangeByte_0 9 rfl rfl)
theorem dJ23_copyOfRangeByte_10 : decode cJ23_copyOfRangeByte 10 = .ok (.newarray .byte, 2) := dk_188_8 (dk_at dksJ23_copyOfRangeByte_0 10 rfl rfl)
theorem dJ23_copyOfRangeByte_12 : decode cJ23_copyOfRangeByte 12 = .ok (.astore 4, 2) := dk_58 4 (dk_at dksJ23_copyOfRangeByte_0 12 rfl rfl)
theorem dJ23_copyOfRangeByte_14 : decode cJ23_copyOfRangeByte 14 = .ok (.aload_n 0, 1) := dk_42 (dk_at dksJ23_copyOfRangeByte_0 14 rfl rfl)
theorem dJ23_copyOfRangeByte_15 : decode cJ23_copyOfRangeByte 15 = .ok (.iload_n 1, 1) := dk_27 (dk_at dksJ23_copyOfRangeByte_0 15 rfl rfl)
theorem dJ23_copyOfRangeByte_16 : decode cJ23_copyOfRangeByte 16 = .ok (.aload 4, 2) := dk_25 4 (dk_at dksJ23_copyOfRangeByte_0 16 rfl rfl)
theorem dJ23_copyOfRangeByte_18 : decode cJ23_copyOfRangeByte 18 = .ok (.iconst 0, 1) := dk_3 (dk_at dksJ23_copyOfRangeByte_0 18 rfl rfl)
theorem dJ23_copyOfRangeByte_19 : decode cJ23_copyOfRangeByte 19 = .ok (.aload_n 0, 1) := dk_42 (dk_at dksJ23_copyOfRangeByte_0 19 rfl rfl)
theorem dJ23_copyOfRangeByte_20 : decode cJ23_copyOfRangeByte 20 = .ok (.arraylength, 1) := dk_190 (dk_at dksJ23_copyOfRangeByte_0 20 rfl rfl)
theorem dJ23_copyOfRangeByte_21 : decode cJ23_copyOfRangeByte 21 = .ok (.iload_n 1, 1) := dk_27 (dk_at dksJ23_copyOfRangeByte_0 21 rfl rfl)
theorem dJ23_copyOfRangeByte_22 : decode cJ23_copyOfRangeByte 22 = .ok (.isub, 1) := dk_100 (dk_at dksJ23_copyOfRangeByte_0 22 rfl rfl)
theorem dJ23_copyOfRangeByte_23 : decode cJ23_copyOfRangeByte 23 = .ok (.iload_n 3, 1) := dk_29 (dk_at dksJ23_copyOfRangeByte_0 23 rfl rfl)
theorem dJ23_copyOfRangeByte_24 : decode cJ23_copyOfRangeByte 24 = .ok (.invokestatic 304, 3) := dk_184 1 48 (dk_at dksJ23_copyOfRangeByte_1 0 rfl rfl)
theorem dJ23_copyOfRangeByte_27 : decode cJ23_copyOfRangeByte 27 = .ok (.invokestatic 150, 3) := dk_184 0 150 (dk_at dksJ23_copyOfRangeByte_1 3 rfl rfl)
theorem dJ23_copyOfRangeByte_30 : decode cJ23_copyOfRangeByte 30 = .ok (.aload 4, 2) := dk_25 4 (dk_at dksJ23_copyOfRangeByte_1 6 rfl rfl)
theorem dJ23_copyOfRangeByte_32 : decode cJ23_copyOfRangeByte 32 = .ok (.areturn, 1) := dk_176 (dk_at dksJ23_copyOfRangeByte_1 8 rfl rfl)
abbrev cJ23_checkLength : ByteArray := prog_52_method_131_code
def yJ23_checkLength : MethodName := ⟨RJ23, "checkLength", "(II)V"⟩
def dkwJ23_checkLength_1 : List UInt8 := [182, 0, 50, 27, 182, 0, 54, 182, 0, 61, 183, 0, 65, 191, 177]
abbrev dktJ23_checkLength_1 : List UInt8 := dkwJ23_checkLength_1 ++ []
def dkwJ23_checkLength_0 : List UInt8 := [27, 26, 162, 0, 35, 187, 0, 43, 89, 187, 0, 45, 89, 183, 0, 47, 26, 182, 0, 54, 19, 1, 81]
abbrev dktJ23_checkLength_0 : List UInt8 := dkwJ23_checkLength_0 ++ dktJ23_checkLength_1
theorem dksJ23_checkLength_0 : cJ23_checkLength.data.toList.drop 0 = dktJ23_checkLength_0 := by decide +kernel
theorem dksJ23_checkLength_1 : cJ23_checkLength.data.toList.drop 23 = dktJ23_checkLength_1 := dk_seg dksJ23_checkLength_0 23 rfl rfl
theorem dJ23_checkLength_0 : decode cJ23_checkLength 0 = .ok (.iload_n 1, 1) := dk_27 (dk_at dksJ23_checkLength_0 0 rfl rfl)
theorem dJ23_checkLength_1 : decode cJ23_checkLength 1 = .ok (.iload_n 0, 1) := dk_26 (dk_at dksJ23_checkLength_0 1 rfl rfl)
theorem dJ23_checkLength_2 : decode cJ23_checkLength 2 = .ok (.if_icmp .ge 35, 3) := dk_162 0 35 (dk_at dksJ23_checkLength_0 2 rfl rfl)
theorem dJ23_checkLength_5 : decode cJ23_checkLength 5 = .ok (.new 43, 3) := dk_187 0 43 (dk_at dksJ23_checkLength_0 5 rfl rfl)
theorem dJ23_checkLength_8 : decode cJ23_checkLength 8 = .ok (.dup, 1) := dk_89 (dk_at dksJ23_checkLength_0 8 rfl rfl)
theorem dJ23_checkLength_9 : decode cJ23_checkLength 9 = .ok (.new 45, 3) := dk_187 0 45 (dk_at dksJ23_checkLength_0 9 rfl rfl)
theorem dJ23_checkLength_12 : decode cJ23_checkLength 12 = .ok (.dup, 1) := dk_89 (dk_at dksJ23_checkLength_0 12 rfl rfl)
theorem dJ23_checkLength_13 : decode cJ23_checkLength 13 = .ok (.invokespecial 47, 3) := dk_183 0 47 (dk_at dksJ23_checkLength_0 13 rfl rfl)
theorem dJ23_checkLength_16 : decode cJ23_checkLength 16 = .ok (.iload_n 0, 1) := dk_26 (dk_at dksJ23_checkLength_0 16 rfl rfl)
theorem dJ23_checkLength_17 : decode cJ23_checkLength 17 = .ok (.invokevirtual 54, 3) := dk_182 0 54 (dk_at dksJ23_checkLength_0 17 rfl rfl)
theorem dJ23_checkLength_20 : decode cJ23_checkLength 20 = .ok (.ldc_w 337, 3) := dk_19 1 81 (dk_at dksJ23_checkLength_0 20 rfl rfl)
theorem dJ23_checkLength_23 : decode cJ23_checkLength 23 = .ok (.invokevirtual 50, 3) := dk_182 0 50 (dk_at dksJ23_checkLength_1 0 rfl rfl)
theorem dJ23_checkLength_26 : decode cJ23_checkLength 26 = .ok (.iload_n 1, 1) := dk_27 (dk_at dksJ23_checkLength_1 3 rfl rfl)
theorem dJ23_checkLength_27 : decode cJ23_checkLength 27 = .ok (.invokevirtual 54, 3) := dk_182 0 54 (dk_at dksJ23_checkLength_1 4 rfl rfl)
theorem dJ23_checkLength_30 : decode cJ23_checkLength 30 = .ok (.invokevirtual 61, 3) := dk_182 0 61 (dk_at dksJ23_checkLength_1 7 rfl rfl)
theorem dJ23_checkLength_33 : decode cJ23_checkLength 33 = .ok (.invokespecial 65, 3) := dk_183 0 65 (dk_at dksJ23_checkLength_1 10 rfl rfl)
theorem dJ23_checkLength_36 : decode cJ23_checkLength 36 = .ok (.athrow, 1) := dk_191 (dk_at dksJ23_checkLength_1 13 rfl rfl)
theorem dJ23_checkLength_37 : decode cJ23_checkLength 37 = .ok (.return_, 1) := dk_177 (dk_at dksJ23_checkLength_1 14 rfl rfl)
abbrev cJ23_fill : ByteArray := prog_52_method_110_code
def yJ23_fill : MethodName := ⟨RJ23, "fill", "([BIIB)V"⟩
def dkwJ23_fill_1 : List UInt8 := [167, 255, 242, 177]
abbrev dktJ23_fill_1 : List UInt8 := dkwJ23_fill_1 ++ []
def dkwJ23_fill_0 : List UInt8 := [42, 190, 27, 28, 184, 0, 13, 27, 54, 4, 21, 4, 28, 162, 0, 14, 42, 21, 4, 29, 84, 132, 4, 1]
abbrev dktJ23_fill_0 : List UInt8 := dkwJ23_fill_0 ++ dktJ23_fill_1
theorem dksJ23_fill_0 : cJ23_fill.data.toList.drop 0 = dktJ23_fill_0 := by decide +kernel
theorem dksJ23_fill_1 : cJ23_fill.data.toList.drop 24 = dktJ23_fill_1 := dk_seg dksJ23_fill_0 24 rfl rfl
theorem dJ23_fill_0 : decode cJ23_fill 0 = .ok (.aload_n 0, 1) := dk_42 (dk_at dksJ23_fill_0 0 rfl rfl)
theorem dJ23_fill_1 : decode cJ23_fill 1 = .ok (.arraylength, 1) := dk_190 (dk_at dksJ23_fill_0 1 rfl rfl)
theorem dJ23_fill_2 : decode cJ23_fill 2 = .ok (.iload_n 1, 1) := dk_27 (dk_at dksJ23_fill_0 2 rfl rfl)
theorem dJ23_fill_3 : decode cJ23_fill 3 = .ok (.iload_n 2, 1) := dk_28 (dk_at dksJ23_fill_0 3 rfl rfl)
theorem dJ23_fill_4 : decode cJ23_fill 4 = .ok (.invokestatic 13, 3) := dk_184 0 13 (dk_at dksJ23_fill_0 4 rfl rfl)
theorem dJ23_fill_7 : decode cJ23_fill 7 = .ok (.iload_n 1, 1) := dk_27 (dk_at dksJ23_fill_0 7 rfl rfl)
theorem dJ23_fill_8 : decode cJ23_fill 8 = .ok (.istore 4, 2) := dk_54 4 (dk_at dksJ23_fill_0 8 rfl rfl)
theorem dJ23_fill_10 : decode cJ23_fill 10 = .ok (.iload 4, 2) := dk_21 4 (dk_at dksJ23_fill_0 10 rfl rfl)
theorem dJ23_fill_12 : decode cJ23_fill 12 = .ok (.iload_n 2, 1) := dk_28 (dk_at dksJ23_fill_0 12 rfl rfl)
theorem dJ23_fill_13 : decode cJ23_fill 13 = .ok (.if_icmp .ge 14, 3) := dk_162 0 14 (dk_at dksJ23_fill_0 13 rfl rfl)
theorem dJ23_fill_16 : decode cJ23_fill 16 = .ok (.aload_n 0, 1) := dk_42 (dk_at dksJ23_fill_0 16 rfl rfl)
theorem dJ23_fill_17 : decode cJ23_fill 17 = .ok (.iload 4, 2) := dk_21 4 (dk_at dksJ23_fill_0 17 rfl rfl)
theorem dJ23_fill_19 : decode cJ23_fill 19 = .ok (.iload_n 3, 1) := dk_29 (dk_at dksJ23_fill_0 19 rfl rfl)
theorem dJ23_fill_20 : decode cJ23_fill 20 = .ok (.bastore, 1) := dk_84 (dk_at dksJ23_fill_0 20 rfl rfl)
theorem dJ23_fill_21 : decode cJ23_fill 21 = .ok (.iinc 4 1, 3) := dk_132 4 1 (dk_at dksJ23_fill_0 21 rfl rfl)
theorem dJ23_fill_24 : decode cJ23_fill 24 = .ok (.goto (-14), 3) := dk_167 255 242 (dk_at dksJ23_fill_1 0 rfl rfl)
theorem dJ23_fill_27 : decode cJ23_fill 27 = .ok (.return_, 1) := dk_177 (dk_at dksJ23_fill_1 3 rfl rfl)
abbrev cJ23_rangeCheck : ByteArray := prog_52_method_30_code
def yJ23_rangeCheck : MethodName := ⟨RJ23, "rangeCheck", "(III)V"⟩
def dkwJ23_rangeCheck_3 : List UInt8 := [183, 0, 70, 191, 177]
abbrev dktJ23_rangeCheck_3 : List UInt8 := dkwJ23_rangeCheck_3 ++ []
def dkwJ23_rangeCheck_2 : List UInt8 := [27, 156, 0, 12, 187, 0, 68, 89, 27, 183, 0, 70, 191, 28, 26, 164, 0, 12, 187, 0, 68, 89, 28]
abbrev dktJ23_rangeCheck_2 : List UInt8 := dkwJ23_rangeCheck_2 ++ dktJ23_rangeCheck_3
def dkwJ23_rangeCheck_1 : List UInt8 := [182, 0, 54, 18, 57, 182, 0, 50, 28, 182, 0, 54, 18, 59, 182, 0, 50, 182, 0, 61, 183, 0, 65, 191]
abbrev dktJ23_rangeCheck_1 : List UInt8 := dkwJ23_rangeCheck_1 ++ dktJ23_rangeCheck_2
def dkwJ23_rangeCheck_0 : List UInt8 := [27, 28, 164, 0, 44, 187, 0, 43, 89, 187, 0, 45, 89, 183, 0, 47, 18, 48, 182, 0, 50, 27]
abbrev dktJ23_rangeCheck_0 : List UInt8 := dkwJ23_rangeCheck_0 ++ dktJ23_rangeCheck_1
theorem dksJ23_rangeCheck_0 : cJ23_rangeCheck.data.toList.drop 0 = dktJ23_rangeCheck_0 := by decide +kernel
theorem dksJ23_rangeCheck_1 : cJ23_rangeCheck.data.toList.drop 22 = dktJ23_rangeCheck_1 := dk_seg dksJ23_rangeCheck_0 22 rfl rfl
theorem dksJ23_rangeCheck_2 : cJ23_rangeCheck.data.toList.drop 46 = dktJ23_rangeCheck_2 := dk_seg dksJ23_rangeCheck_1 24 rfl rfl
theorem dksJ23_rangeCheck_3 : cJ23_rangeCheck.data.toList.drop 69 = dktJ23_rangeCheck_3 := dk_seg dksJ23_rangeCheck_2 23 rfl rfl
theorem dJ23_rangeCheck_0 : decode cJ23_rangeCheck 0 = .ok (.iload_n 1, 1) := dk_27 (dk_at dksJ23_rangeCheck_0 0 rfl rfl)
theorem dJ23_rangeCheck_1 : decode cJ23_rangeCheck 1 = .ok (.iload_n 2, 1) := dk_28 (dk_at dksJ23_rangeCheck_0 1 rfl rfl)
theorem dJ23_rangeCheck_2 : decode cJ23_rangeCheck 2 = .ok (.if_icmp .le 44, 3) := dk_164 0 44 (dk_at dksJ23_rangeCheck_0 2 rfl rfl)
theorem dJ23_rangeCheck_5 : decode cJ23_rangeCheck 5 = .ok (.new 43, 3) := dk_187 0 43 (dk_at dksJ23_rangeCheck_0 5 rfl rfl)
theorem dJ23_rangeCheck_8 : decode cJ23_rangeCheck 8 = .ok (.dup, 1) := dk_89 (dk_at dksJ23_rangeCheck_0 8 rfl rfl)
theorem dJ23_rangeCheck_9 : decode cJ23_rangeCheck 9 = .ok (.new 45, 3) := dk_187 0 45 (dk_at dksJ23_rangeCheck_0 9 rfl rfl)
theorem dJ23_rangeCheck_12 : decode cJ23_rangeCheck 12 = .ok (.dup, 1) := dk_89 (dk_at dksJ23_rangeCheck_0 12 rfl rfl)
theorem dJ23_rangeCheck_13 : decode cJ23_rangeCheck 13 = .ok (.invokespecial 47, 3) := dk_183 0 47 (dk_at dksJ23_rangeCheck_0 13 rfl rfl)
theorem dJ23_rangeCheck_16 : decode cJ23_rangeCheck 16 = .ok (.ldc 48, 2) := dk_18 48 (dk_at dksJ23_rangeCheck_0 16 rfl rfl)
theorem dJ23_rangeCheck_18 : decode cJ23_rangeCheck 18 = .ok (.invokevirtual 50, 3) := dk_182 0 50 (dk_at dksJ23_rangeCheck_0 18 rfl rfl)
theorem dJ23_rangeCheck_21 : decode cJ23_rangeCheck 21 = .ok (.iload_n 1, 1) := dk_27 (dk_at dksJ23_rangeCheck_0 21 rfl rfl)
theorem dJ23_rangeCheck_22 : decode cJ23_rangeCheck 22 = .ok (.invokevirtual 54, 3) := dk_182 0 54 (dk_at dksJ23_rangeCheck_1 0 rfl rfl)
theorem dJ23_rangeCheck_25 : decode cJ23_rangeCheck 25 = .ok (.ldc 57, 2) := dk_18 57 (dk_at dksJ23_rangeCheck_1 3 rfl rfl)
theorem dJ23_rangeCheck_27 : decode cJ23_rangeCheck 27 = .ok (.invokevirtual 50, 3) := dk_182 0 50 (dk_at dksJ23_rangeCheck_1 5 rfl rfl)
theorem dJ23_rangeCheck_30 : decode cJ23_rangeCheck 30 = .ok (.iload_n 2, 1) := dk_28 (dk_at dksJ23_rangeCheck_1 8 rfl rfl)
theorem dJ23_rangeCheck_31 : decode cJ23_rangeCheck 31 = .ok (.invokevirtual 54, 3) := dk_182 0 54 (dk_at dksJ23_rangeCheck_1 9 rfl rfl)
theorem dJ23_rangeCheck_34 : decode cJ23_rangeCheck 34 = .ok (.ldc 59, 2) := dk_18 59 (dk_at dksJ23_rangeCheck_1 12 rfl rfl)
theorem dJ23_rangeCheck_36 : decode cJ23_rangeCheck 36 = .ok (.invokevirtual 50, 3) := dk_182 0 50 (dk_at dksJ23_rangeCheck_1 14 rfl rfl)
theorem dJ23_rangeCheck_39 : decode cJ23_rangeCheck 39 = .ok (.invokevirtual 61, 3) := dk_182 0 61 (dk_at dksJ23_rangeCheck_1 17 rfl rfl)
theorem dJ23_rangeCheck_42 : decode cJ23_rangeCheck 42 = .ok (.invokespecial 65, 3) := dk_183 0 65 (dk_at dksJ23_rangeCheck_1 20 rfl rfl)
theorem dJ23_rangeCheck_45 : decode cJ23_rangeCheck 45 = .ok (.athrow, 1) := dk_191 (dk_at dksJ23_rangeCheck_1 23 rfl rfl)
theorem dJ23_rangeCheck_46 : decode cJ23_rangeCheck 46 = .ok (.iload_n 1, 1) := dk_27 (dk_at dksJ23_rangeCheck_2 0 rfl rfl)
theorem dJ23_rangeCheck_47 : decode cJ23_rangeCheck 47 = .ok (.ifCond .ge 12, 3) := dk_156 0 12 (dk_at dksJ23_rangeCheck_2 1 rfl rfl)
theorem dJ23_rangeCheck_50 : decode cJ23_rangeCheck 50 = .ok (.new 68, 3) := dk_187 0 68 (dk_at dksJ23_rangeCheck_2 4 rfl rfl)
theorem dJ23_rangeCheck_53 : decode cJ23_rangeCheck 53 = .ok (.dup, 1) := dk_89 (dk_at dksJ23_rangeCheck_2 7 rfl rfl)
theorem dJ23_rangeCheck_54 : decode cJ23_rangeCheck 54 = .ok (.iload_n 1, 1) := dk_27 (dk_at dksJ23_rangeCheck_2 8 rfl rfl)
theorem dJ23_rangeCheck_55 : decode cJ23_rangeCheck 55 = .ok (.invokespecial 70, 3) := dk_183 0 70 (dk_at dksJ23_rangeCheck_2 9 rfl rfl)
theorem dJ23_rangeCheck_58 : decode cJ23_rangeCheck 58 = .ok (.athrow, 1) := dk_191 (dk_at dksJ23_rangeCheck_2 12 rfl rfl)
theorem dJ23_rangeCheck_59 : decode cJ23_rangeCheck 59 = .ok (.iload_n 2, 1) := dk_28 (dk_at dksJ23_rangeCheck_2 13 rfl rfl)
theorem dJ23_rangeCheck_60 : decode cJ23_rangeCheck 60 = .ok (.iload_n 0, 1) := dk_26 (dk_at dksJ23_rangeCheck_2 14 rfl rfl)
theorem dJ23_rangeCheck_61 : decode cJ23_rangeCheck 61 = .ok (.if_icmp .le 12, 3) := dk_164 0 12 (dk_at dksJ23_rangeCheck_2 15 rfl rfl)
theorem dJ23_rangeCheck_64 : decode cJ23_rangeCheck 64 = .ok (.new 68, 3) := dk_187 0 68 (dk_at dksJ23_rangeCheck_2 18 rfl rfl)
theorem dJ23_rangeCheck_67 : decode cJ23_rangeCheck 67 = .ok (.dup, 1) := dk_89 (dk_at dksJ23_rangeCheck_2 21 rfl rfl)
theorem dJ23_rangeCheck_68 : decode cJ23_rangeCheck 68 = .ok (.iload_n 2, 1) := dk_28 (dk_at dksJ23_rangeCheck_2 22 rfl rfl)
theorem dJ23_rangeCheck_69 : decode cJ23_rangeCheck 69 = .ok (.invokespecial 70, 3) := dk_183 0 70 (dk_at dksJ23_rangeCheck_3 0 rfl rfl)
theorem dJ23_rangeCheck_72 : decode cJ23_rangeCheck 72 = .ok (.athrow, 1) := dk_191 (dk_at dksJ23_rangeCheck_3 3 rfl rfl)
theorem dJ23_rangeCheck_73 : decode cJ23_rangeCheck 73 = .ok (.return_, 1) := dk_177 (dk_at dksJ23_rangeCheck_3 4 rfl rfl)
abbrev cJ23_copyOf_3 : ByteArray := prog_52_method_119_code
def yJ23_copyOf_3 : MethodName := ⟨RJ23, "copyOf", "([Ljava/lang/Object;I)[Ljava/lang/Object;"⟩
def dkwJ23_copyOf_3_0 : List UInt8 := [42, 27, 42, 182, 0, 86, 184, 1, 44, 176]
abbrev dktJ23_copyOf_3_0 : List UInt8 := dkwJ23_copyOf_3_0 ++ []
theorem dksJ23_copyOf_3_0 : cJ23_copyOf_3.data.toList.drop 0 = dktJ23_copyOf_3_0 := by decide +kernel
theorem dJ23_copyOf_3_0 : decode cJ23_copyOf_3 0 = .ok (.aload_n 0, 1) := dk_42 (dk_at dksJ23_copyOf_3_0 0 rfl rfl)
theorem dJ23_copyOf_3_1 : decode cJ23_copyOf_3 1 = .ok (.iload_n 1, 1) := dk_27 (dk_at dksJ23_copyOf_3_0 1 rfl rfl)
theorem dJ23_copyOf_3_2 : decode cJ23_copyOf_3 2 = .ok (.aload_n 0, 1) := dk_42 (dk_at dksJ23_copyOf_3_0 2 rfl rfl)
theorem dJ23_copyOf_3_3 : decode cJ23_copyOf_3 3 = .ok (.invokevirtual 86, 3) := dk_182 0 86 (dk_at dksJ23_copyOf_3_0 3 rfl rfl)
theorem dJ23_copyOf_3_6 : decode cJ23_copyOf_3 6 = .ok (.invokestatic 300, 3) := dk_184 1 44 (dk_at dksJ23_copyOf_3_0 6 rfl rfl)
theorem dJ23_copyOf_3_9 : decode cJ23_copyOf_3 9 = .ok (.areturn, 1) := dk_176 (dk_at dksJ23_copyOf_3_0 9 rfl rfl)
abbrev cJ23_copyOf_4 : ByteArray := prog_52_method_120_code
def yJ23_copyOf_4 : MethodName := ⟨RJ23, "copyOf", "([Ljava/lang/Object;ILjava/lang/Class;)[Ljava/lang/Object;"⟩
def dkwJ23_copyOf_4_1 : List UInt8 := [78, 42, 3, 45, 3, 42, 190, 27, 184, 1, 48, 184, 0, 150, 45, 176]
abbrev dktJ23_copyOf_4_1 : List UInt8 := dkwJ23_copyOf_4_1 ++ []
def dkwJ23_copyOf_4_0 : List UInt8 := [44, 18, 110, 166, 0, 10, 27, 189, 0, 2, 167, 0, 14, 44, 182, 0, 90, 27, 184, 0, 95, 192, 0, 110]
abbrev dktJ23_copyOf_4_0 : List UInt8 := dkwJ23_copyOf_4_0 ++ dktJ23_copyOf_4_1
theorem dksJ23_copyOf_4_0 : cJ23_copyOf_4.data.toList.drop 0 = dktJ23_copyOf_4_0 := by decide +kernel
theorem dksJ23_copyOf_4_1 : cJ23_copyOf_4.data.toList.drop 24 = dktJ23_copyOf_4_1 := dk_seg dksJ23_copyOf_4_0 24 rfl rfl
theorem dJ23_copyOf_4_0 : decode cJ23_copyOf_4 0 = .ok (.aload_n 2, 1) := dk_44 (dk_at dksJ23_copyOf_4_0 0 rfl rfl)
theorem dJ23_copyOf_4_1 : decode cJ23_copyOf_4 1 = .ok (.ldc 110, 2) := dk_18 110 (dk_at dksJ23_copyOf_4_0 1 rfl rfl)
theorem dJ23_copyOf_4_3 : decode cJ23_copyOf_4 3 = .ok (.if_acmp .ne 10, 3) := dk_166 0 10 (dk_at dksJ23_copyOf_4_0 3 rfl rfl)
theorem dJ23_copyOf_4_6 : decode cJ23_copyOf_4 6 = .ok (.iload_n 1, 1) := dk_27 (dk_at dksJ23_copyOf_4_0 6 rfl rfl)
theorem dJ23_copyOf_4_7 : decode cJ23_copyOf_4 7 = .ok (.anewarray 2, 3) := dk_189 0 2 (dk_at dksJ23_copyOf_4_0 7 rfl rfl)
theorem dJ23_copyOf_4_10 : decode cJ23_copyOf_4 10 = .ok (.goto 14, 3) := dk_167 0 14 (dk_at dksJ23_copyOf_4_0 10 rfl rfl)
theorem dJ23_copyOf_4_13 : decode cJ23_copyOf_4 13 = .ok (.aload_n 2, 1) := dk_44 (dk_at dksJ23_copyOf_4_0 13 rfl rfl)
theorem dJ23_copyOf_4_14 : decode cJ23_copyOf_4 14 = .ok (.invokevirtual 90, 3) := dk_182 0 90 (dk_at dksJ23_copyOf_4_0 14 rfl rfl)
theorem dJ23_copyOf_4_17 : decode cJ23_copyOf_4 17 = .ok (.iload_n 1, 1) := dk_27 (dk_at dksJ23_copyOf_4_0 17 rfl rfl)
theorem dJ23_copyOf_4_18 : decode cJ23_copyOf_4 18 = .ok (.invokestatic 95, 3) := dk_184 0 95 (dk_at dksJ23_copyOf_4_0 18 rfl rfl)
theorem dJ23_copyOf_4_21 : decode cJ23_copyOf_4 21 = .ok (.checkcast 110, 3) := dk_192 0 110 (dk_at dksJ23_copyOf_4_0 21 rfl rfl)
theorem dJ23_copyOf_4_24 : decode cJ23_copyOf_4 24 = .ok (.astore_n 3, 1) := dk_78 (dk_at dksJ23_copyOf_4_1 0 rfl rfl)
theorem dJ23_copyOf_4_25 : decode cJ23_copyOf_4 25 = .ok (.aload_n 0, 1) := dk_42 (dk_at dksJ23_copyOf_4_1 1 rfl rfl)
theorem dJ23_copyOf_4_26 : decode cJ23_copyOf_4 26 = .ok (.iconst 0, 1) := dk_3 (dk_at dksJ23_copyOf_4_1 2 rfl rfl)
theorem dJ23_copyOf_4_27 : decode cJ23_copyOf_4 27 = .ok (.aload_n 3, 1) := dk_45 (dk_at dksJ23_copyOf_4_1 3 rfl rfl)
theorem dJ23_copyOf_4_28 : decode cJ23_copyOf_4 28 = .ok (.iconst 0, 1) := dk_3 (dk_at dksJ23_copyOf_4_1 4 rfl rfl)
theorem dJ23_copyOf_4_29 : decode cJ23_copyOf_4 29 = .ok (.aload_n 0, 1) := dk_42 (dk_at dksJ23_copyOf_4_1 5 rfl rfl)
theorem dJ23_copyOf_4_30 : decode cJ23_copyOf_4 30 = .ok (.arraylength, 1) := dk_190 (dk_at dksJ23_copyOf_4_1 6 rfl rfl)
theorem dJ23_copyOf_4_31 : decode cJ23_copyOf_4 31 = .ok (.iload_n 1, 1) := dk_27 (dk_at dksJ23_copyOf_4_1 7 rfl rfl)
theorem dJ23_copyOf_4_32 : decode cJ23_copyOf_4 32 = .ok (.invokestatic 304, 3) := dk_184 1 48 (dk_at dksJ23_copyOf_4_1 8 rfl rfl)
theorem dJ23_copyOf_4_35 : decode cJ23_copyOf_4 35 = .ok (.invokestatic 150, 3) := dk_184 0 150 (dk_at dksJ23_copyOf_4_1 11 rfl rfl)
theorem dJ23_copyOf_4_38 : decode cJ23_copyOf_4 38 = .ok (.aload_n 3, 1) := dk_45 (dk_at dksJ23_copyOf_4_1 14 rfl rfl)
theorem dJ23_copyOf_4_39 : decode cJ23_copyOf_4 39 = .ok (.areturn, 1) := dk_176 (dk_at dksJ23_copyOf_4_1 15 rfl rfl)
theorem q146 : (Jvm.Cond.initialized "java/util/Arrays") ∈ lw_all := lw_g (lw_at lw_m1 33 rfl) rfl
theorem q589 : (Jvm.Cond.static ({ cls := "java/util/Arrays", name := "copyOf", desc := "([JI)[J" } : Jvm.MethodName)) ∈ lw_all := lw_g (lw_at lw_m2 236 rfl) rfl
theorem q590 : (Jvm.Cond.code ({ cls := "java/util/Arrays", name := "copyOf", desc := "([JI)[J" } : Jvm.MethodName) prog_52_method_124_code (3 : Nat) (Option.some (Jvm.ClassFile.FieldType.array Jvm.ClassFile.FieldType.long))) ∈ lw_all := lw_g (lw_at lw_m2 237 rfl) rfl
theorem q591 : (Jvm.Cond.methodLink "java/util/Arrays" (319 : Nat) ({ cls := "[J", name := "clone", desc := "()Ljava/lang/Object;" } : Jvm.MethodName)) ∈ lw_all := lw_g (lw_at lw_m2 238 rfl) rfl
theorem q597 : (Jvm.Cond.classLink "java/util/Arrays" (320 : Nat) "[J") ∈ lw_all := lw_g (lw_at lw_m3 4 rfl) rfl
theorem q598 : (Jvm.Cond.methodLink "java/util/Arrays" (304 : Nat) ({ cls := "java/lang/Math", name := "min", desc := "(II)I" } : Jvm.MethodName)) ∈ lw_all := lw_g (lw_at lw_m3 5 rfl) rfl
theorem q599 : (Jvm.Cond.methodLink "java/util/Arrays" (150 : Nat) ({ cls := "java/lang/System", name := "arraycopy", desc := "(Ljava/lang/Object;ILjava/lang/Object;II)V" } : Jvm.MethodName)) ∈ lw_all := lw_g (lw_at lw_m3 6 rfl) rfl
theorem q747 : (Jvm.Cond.static ({ cls := "java/util/Arrays", name := "copyOf", desc := "([BI)[B" } : Jvm.MethodName)) ∈ lw_all := lw_g (lw_at lw_m3 154 rfl) rfl
theorem q748 : (Jvm.Cond.code ({ cls := "java/util/Arrays", name := "copyOf", desc := "([BI)[B" } : Jvm.MethodName) prog_52_method_121_code (3 : Nat) (Option.some (Jvm.ClassFile.FieldType.array Jvm.ClassFile.FieldType.byte))) ∈ lw_all := lw_g (lw_at lw_m3 155 rfl) rfl
theorem q749 : (Jvm.Cond.methodLink "java/util/Arrays" (310 : Nat) ({ cls := "[B", name := "clone", desc := "()Ljava/lang/Object;" } : Jvm.MethodName)) ∈ lw_all := lw_g (lw_at lw_m3 156 rfl) rfl
theorem q753 : (Jvm.Cond.classLink "java/util/Arrays" (311 : Nat) "[B") ∈ lw_all := lw_g (lw_at lw_m3 160 rfl) rfl
theorem q990 : (Jvm.Cond.static ({ cls := "java/util/Arrays", name := "copyOfRange", desc := "([BII)[B" } : Jvm.MethodName)) ∈ lw_all := lw_g (lw_at lw_m4 157 rfl) rfl
theorem q991 : (Jvm.Cond.code ({ cls := "java/util/Arrays", name := "copyOfRange", desc := "([BII)[B" } : Jvm.MethodName) prog_52_method_132_code (3 : Nat) (Option.some (Jvm.ClassFile.FieldType.array Jvm.ClassFile.FieldType.byte))) ∈ lw_all := lw_g (lw_at lw_m4 158 rfl) rfl
theorem q992 : (Jvm.Cond.methodLink "java/util/Arrays" (339 : Nat) ({ cls := "java/util/Arrays", name := "copyOfRangeByte", desc := "([BII)[B" } : Jvm.MethodName)) ∈ lw_all := lw_g (lw_at lw_m4 159 rfl) rfl
theorem q993 : (Jvm.Cond.static ({ cls := "java/util/Arrays", name := "copyOfRangeByte", desc := "([BII)[B" } : Jvm.MethodName)) ∈ lw_all := lw_g (lw_at lw_m4 160 rfl) rfl
theorem q994 : (Jvm.Cond.code ({ cls := "java/util/Arrays", name := "copyOfRangeByte", desc := "([BII)[B" } : Jvm.MethodName) prog_52_method_133_code (5 : Nat) (Option.some (Jvm.ClassFile.FieldType.array Jvm.ClassFile.FieldType.byte))) ∈ lw_all := lw_g (lw_at lw_m4 161 rfl) rfl
theorem q995 : (Jvm.Cond.methodLink "java/util/Arrays" (343 : Nat) ({ cls := "java/util/Arrays", name := "checkLength", desc := "(II)V" } : Jvm.MethodName)) ∈ lw_all := lw_g (lw_at lw_m4 162 rfl) rfl
theorem q996 : (Jvm.Cond.static ({ cls := "java/util/Arrays", name := "checkLength", desc := "(II)V" } : Jvm.MethodName)) ∈ lw_all := lw_g (lw_at lw_m4 163 rfl) rfl
theorem q997 : (Jvm.Cond.code ({ cls := "java/util/Arrays", name := "checkLength", desc := "(II)V" } : Jvm.MethodName) prog_52_method_131_code (2 : Nat) (Option.none : Option Jvm.ClassFile.FieldType)) ∈ lw_all := lw_g (lw_at lw_m4 164 rfl) rfl
theorem q998 : (Jvm.Cond.classLink "java/util/Arrays" (43 : Nat) "java/lang/IllegalArgumentException") ∈ lw_all := lw_g (lw_at lw_m4 165 rfl) rfl
theorem q999 : (Jvm.Cond.classLink "java/util/Arrays" (45 : Nat) "java/lang/StringBuilder") ∈ lw_all := lw_g (lw_at lw_m4 166 rfl) rfl
theorem q1000 : (Jvm.Cond.methodLink "java/util/Arrays" (47 : Nat) ({ cls := "java/lang/StringBuilder", name := "<init>", desc := "()V" } : Jvm.MethodName)) ∈ lw_all := lw_g (lw_at lw_m4 167 rfl) rfl
theorem q1001 : (Jvm.Cond.methodLink "java/util/Arrays" (54 : Nat) ({ cls := "java/lang/StringBuilder", name := "append", desc := "(I)Ljava/lang/StringBuilder;" } : Jvm.MethodName)) ∈ lw_all := lw_g (lw_at lw_m4 168 rfl) rfl
theorem q1002 : (Jvm.Cond.stringRef "java/util/Arrays" (337 : Nat) " > ") ∈ lw_tbl := lw_at lw_m4 169 rfl
theorem q1003 : (Jvm.Cond.methodLink "java/util/Arrays" (50 : Nat) ({ cls := "java/lang/StringBuilder", name := "append", desc := "(Ljava/lang/String;)Ljava/lang/StringBuilder;" } : Jvm.MethodName)) ∈ lw_all := lw_g (lw_at lw_m4 170 rfl) rfl
theorem q1004 : (Jvm.Cond.methodLink "java/util/Arrays" (61 : Nat) ({ cls := "java/lang/StringBuilder", name := "toString", desc := "()Ljava/lang/String;" } : Jvm.MethodName)) ∈ lw_all := lw_g (lw_at lw_m4 171 rfl) rfl
theorem q1005 : (Jvm.Cond.methodLink "java/util/Arrays" (65 : Nat) ({ cls := "java/lang/IllegalArgumentException", name := "<init>", desc := "(Ljava/lang/String;)V" } : Jvm.MethodName)) ∈ lw_all := lw_g (lw_at lw_m4 172 rfl) rfl
theorem q1798 : (Jvm.Cond.static ({ cls := "java/util/Arrays", name := "fill", desc := "([BIIB)V" } : Jvm.MethodName)) ∈ lw_all := lw_g (lw_at lw_m8 5 rfl) rfl
theorem q1799 : (Jvm.Cond.code ({ cls := "java/util/Arrays", name := "fill", desc := "([BIIB)V" } : Jvm.MethodName) prog_52_method_110_code (5 : Nat) (Option.none : Option Jvm.ClassFile.FieldType)) ∈ lw_all := lw_g (lw_at lw_m8 6 rfl) rfl
theorem q1800 : (Jvm.Cond.methodLink "java/util/Arrays" (13 : Nat) ({ cls := "java/util/Arrays", name := "rangeCheck", desc := "(III)V" } : Jvm.MethodName)) ∈ lw_all := lw_g (lw_at lw_m8 7 rfl) rfl
theorem q1801 : (Jvm.Cond.static ({ cls := "java/util/Arrays", name := "rangeCheck", desc := "(III)V" } : Jvm.MethodName)) ∈ lw_all := lw_g (lw_at lw_m8 8 rfl) rfl
theorem q1802 : (Jvm.Cond.code ({ cls := "java/util/Arrays", name := "rangeCheck", desc := "(III)V" } : Jvm.MethodName) prog_52_method_30_code (3 : Nat) (Option.none : Option Jvm.ClassFile.FieldType)) ∈ lw_all := lw_g (lw_at lw_m8 9 rfl) rfl
theorem q1803 : (Jvm.Cond.stringRef "java/util/Arrays" (48 : Nat) "fromIndex(") ∈ lw_tbl := lw_at lw_m8 10 rfl
theorem q1804 : (Jvm.Cond.stringRef "java/util/Arrays" (57 : Nat) ") > toIndex(") ∈ lw_tbl := lw_at lw_m8 11 rfl
theorem q1805 : (Jvm.Cond.stringRef "java/util/Arrays" (59 : Nat) ")") ∈ lw_tbl := lw_at lw_m8 12 rfl
theorem q1806 : (Jvm.Cond.classLink "java/util/Arrays" (68 : Nat) "java/lang/ArrayIndexOutOfBoundsException") ∈ lw_all := lw_g (lw_at lw_m8 13 rfl) rfl
theorem q1807 : (Jvm.Cond.methodLink "java/util/Arrays" (70 : Nat) ({ cls := "java/lang/ArrayIndexOutOfBoundsException", name := "<init>", desc := "(I)V" } : Jvm.MethodName)) ∈ lw_all := lw_g (lw_at lw_m8 14 rfl) rfl
theorem q2056 : (Jvm.Cond.static ({ cls := "java/util/Arrays", name := "copyOf", desc := "([Ljava/lang/Object;I)[Ljava/lang/Object;" } : Jvm.MethodName)) ∈ lw_all := lw_g (lw_at lw_m9 23 rfl) rfl
theorem q2057 : (Jvm.Cond.code ({ cls := "java/util/Arrays", name := "copyOf", desc := "([Ljava/lang/Object;I)[Ljava/lang/Object;" } : Jvm.MethodName) prog_52_method_119_code (2 : Nat) (Option.some (Jvm.ClassFile.FieldType.array (Jvm.ClassFile.FieldType.object "java/lang/Object")))) ∈ lw_all := lw_g (lw_at lw_m9 24 rfl) rfl
theorem q2058 : (Jvm.Cond.methodLink "java/util/Arrays" (86 : Nat) ({ cls := "java/lang/Object", name := "getClass", desc := "()Ljava/lang/Class;" } : Jvm.MethodName)) ∈ lw_all := lw_g (lw_at lw_m9 25 rfl) rfl
theorem q2059 : (Jvm.Cond.methodLink "java/util/Arrays" (300 : Nat) ({ cls := "java/util/Arrays", name := "copyOf", desc := "([Ljava/lang/Object;ILjava/lang/Class;)[Ljava/lang/Object;" } : Jvm.MethodName)) ∈ lw_all := lw_g (lw_at lw_m9 26 rfl) rfl
theorem q2060 : (Jvm.Cond.static ({ cls := "java/util/Arrays", name := "copyOf", desc := "([Ljava/lang/Object;ILjava/lang/Class;)[Ljava/lang/Object;" } : Jvm.MethodName)) ∈ lw_all := lw_g (lw_at lw_m9 27 rfl) rfl
theorem q2061 : (Jvm.Cond.code ({ cls := "java/util/Arrays", name := "copyOf", desc := "([Ljava/lang/Object;ILjava/lang/Class;)[Ljava/lang/Object;" } : Jvm.MethodName) prog_52_method_120_code (4 : Nat) (Option.some (Jvm.ClassFile.FieldType.array (Jvm.ClassFile.FieldType.object "java/lang/Object")))) ∈ lw_all := lw_g (lw_at lw_m9 28 rfl) rfl
theorem q2062 : (Jvm.Cond.classLink "java/util/Arrays" (110 : Nat) "[Ljava/lang/Object;") ∈ lw_all := lw_g (lw_at lw_m9 29 rfl) rfl
theorem q2063 : (Jvm.Cond.classLink "java/util/Arrays" (2 : Nat) "java/lang/Object") ∈ lw_all := lw_g (lw_at lw_m9 30 rfl) rfl

/-! java/lang/StringLatin1 -/
set_option maxRecDepth 100000
def RJ24 : String := "java/lang/StringLatin1"
abbrev cJ24_canEncode : ByteArray := prog_36_method_3_code
def yJ24_canEncode : MethodName := ⟨RJ24, "canEncode", "(C)Z"⟩
def dkwJ24_canEncode_0 : List UInt8 := [26, 17, 0, 255, 163, 0, 7, 4, 167, 0, 4, 3, 172]
abbrev dktJ24_canEncode_0 : List UInt8 := dkwJ24_canEncode_0 ++ []
theorem dksJ24_canEncode_0 : cJ24_canEncode.data.toList.drop 0 = dktJ24_canEncode_0 := by decide +kernel
theorem dJ24_canEncode_0 : decode cJ24_canEncode 0 = .ok (.iload_n 0, 1) := dk_26 (dk_at dksJ24_canEncode_0 0 rfl rfl)
theorem dJ24_canEncode_1 : decode cJ24_canEncode 1 = .ok (.sipush 255, 3) := dk_17 0 255 (dk_at dksJ24_canEncode_0 1 rfl rfl)
theorem dJ24_canEncode_4 : decode cJ24_canEncode 4 = .ok (.if_icmp .gt 7, 3) := dk_163 0 7 (dk_at dksJ24_canEncode_0 4 rfl rfl)
theorem dJ24_canEncode_7 : decode cJ24_canEncode 7 = .ok (.iconst 1, 1) := dk_4 (dk_at dksJ24_canEncode_0 7 rfl rfl)
theorem dJ24_canEncode_8 : decode cJ24_canEncode 8 = .ok (.goto 4, 3) := dk_167 0 4 (dk_at dksJ24_canEncode_0 8 rfl rfl)
theorem dJ24_canEncode_11 : decode cJ24_canEncode 11 = .ok (.iconst 0, 1) := dk_3 (dk_at dksJ24_canEncode_0 11 rfl rfl)
theorem dJ24_canEncode_12 : decode cJ24_canEncode 12 = .ok (.ireturn, 1) := dk_172 (dk_at dksJ24_canEncode_0 12 rfl rfl)
abbrev cJ24_inflate : ByteArray := prog_36_method_50_code
def yJ24_inflate : MethodName := ⟨RJ24, "inflate", "([BI[BII)V"⟩
def dkwJ24_inflate_0 : List UInt8 := [42, 27, 44, 29, 21, 4, 184, 0, 240, 177]
abbrev dktJ24_inflate_0 : List UInt8 := dkwJ24_inflate_0 ++ []
theorem dksJ24_inflate_0 : cJ24_inflate.data.toList.drop 0 = dktJ24_inflate_0 := by decide +kernel
theorem dJ24_inflate_0 : decode cJ24_inflate 0 = .ok (.aload_n 0, 1) := dk_42 (dk_at dksJ24_inflate_0 0 rfl rfl)
theorem dJ24_inflate_1 : decode cJ24_inflate 1 = .ok (.iload_n 1, 1) := dk_27 (dk_at dksJ24_inflate_0 1 rfl rfl)
theorem dJ24_inflate_2 : decode cJ24_inflate 2 = .ok (.aload_n 2, 1) := dk_44 (dk_at dksJ24_inflate_0 2 rfl rfl)
theorem dJ24_inflate_3 : decode cJ24_inflate 3 = .ok (.iload_n 3, 1) := dk_29 (dk_at dksJ24_inflate_0 3 rfl rfl)
theorem dJ24_inflate_4 : decode cJ24_inflate 4 = .ok (.iload 4, 2) := dk_21 4 (dk_at dksJ24_inflate_0 4 rfl rfl)
theorem dJ24_inflate_6 : decode cJ24_inflate 6 = .ok (.invokestatic 240, 3) := dk_184 0 240 (dk_at dksJ24_inflate_0 6 rfl rfl)
theorem dJ24_inflate_9 : decode cJ24_inflate 9 = .ok (.return_, 1) := dk_177 (dk_at dksJ24_inflate_0 9 rfl rfl)
abbrev cJ24_charAt : ByteArray := prog_36_method_2_code
def yJ24_charAt : MethodName := ⟨RJ24, "charAt", "([BI)C"⟩
def dkwJ24_charAt_0 : List UInt8 := [27, 42, 190, 184, 0, 9, 42, 27, 51, 17, 0, 255, 126, 146, 172]
abbrev dktJ24_charAt_0 : List UInt8 := dkwJ24_charAt_0 ++ []
theorem dksJ24_charAt_0 : cJ24_charAt.data.toList.drop 0 = dktJ24_charAt_0 := by decide +kernel
theorem dJ24_charAt_0 : decode cJ24_charAt 0 = .ok (.iload_n 1, 1) := dk_27 (dk_at dksJ24_charAt_0 0 rfl rfl)
theorem dJ24_charAt_1 : decode cJ24_charAt 1 = .ok (.aload_n 0, 1) := dk_42 (dk_at dksJ24_charAt_0 1 rfl rfl)
theorem dJ24_charAt_2 : decode cJ24_charAt 2 = .ok (.arraylength, 1) := dk_190 (dk_at dksJ24_charAt_0 2 rfl rfl)
theorem dJ24_charAt_3 : decode cJ24_charAt 3 = .ok (.invokestatic 9, 3) := dk_184 0 9 (dk_at dksJ24_charAt_0 3 rfl rfl)
theorem dJ24_charAt_6 : decode cJ24_charAt 6 = .ok (.aload_n 0, 1) := dk_42 (dk_at dksJ24_charAt_0 6 rfl rfl)
theorem dJ24_charAt_7 : decode cJ24_charAt 7 = .ok (.iload_n 1, 1) := dk_27 (dk_at dksJ24_charAt_0 7 rfl rfl)
theorem dJ24_charAt_8 : decode cJ24_charAt 8 = .ok (.baload, 1) := dk_51 (dk_at dksJ24_charAt_0 8 rfl rfl)
theorem dJ24_charAt_9 : decode cJ24_charAt 9 = .ok (.sipush 255, 3) := dk_17 0 255 (dk_at dksJ24_charAt_0 9 rfl rfl)
theorem dJ24_charAt_12 : decode cJ24_charAt 12 = .ok (.iand, 1) := dk_126 (dk_at dksJ24_charAt_0 12 rfl rfl)
theorem dJ24_charAt_13 : decode cJ24_charAt 13 = .ok (.i2c, 1) := dk_146 (dk_at dksJ24_charAt_0 13 rfl rfl)
theorem dJ24_charAt_14 : decode cJ24_charAt 14 = .ok (.ireturn, 1) := dk_172 (dk_at dksJ24_charAt_0 14 rfl rfl)
abbrev cJ24_hashCode : ByteArray := prog_36_method_21_code
def yJ24_hashCode : MethodName := ⟨RJ24, "hashCode", "([B)I"⟩
def dkwJ24_hashCode_2 : List UInt8 := [3, 167, 0, 22, 42, 3, 51, 17, 0, 255, 126, 167, 0, 12, 42, 3, 42, 190, 3, 7, 184, 0, 84, 172]
abbrev dktJ24_hashCode_2 : List UInt8 := dkwJ24_hashCode_2 ++ []
def dkwJ24_hashCode_1 : List UInt8 := [171, 0, 0, 0, 0, 40, 0, 0, 0, 2, 0, 0, 0, 0, 0, 0, 0, 26, 0, 0, 0, 1, 0, 0, 0, 30]
abbrev dktJ24_hashCode_1 : List UInt8 := dkwJ24_hashCode_1 ++ dktJ24_hashCode_2
def dkwJ24_hashCode_0 : List UInt8 := [42, 190]
abbrev dktJ24_hashCode_0 : List UInt8 := dkwJ24_hashCode_0 ++ dktJ24_hashCode_1
theorem dksJ24_hashCode_0 : cJ24_hashCode.data.toList.drop 0 = dktJ24_hashCode_0 := by decide +kernel
theorem dksJ24_hashCode_1 : cJ24_hashCode.data.toList.drop 2 = dktJ24_hashCode_1 := dk_seg dksJ24_hashCode_0 2 rfl rfl
theorem dksJ24_hashCode_2 : cJ24_hashCode.data.toList.drop 28 = dktJ24_hashCode_2 := dk_seg dksJ24_hashCode_1 26 rfl rfl
theorem dJ24_hashCode_0 : decode cJ24_hashCode 0 = .ok (.aload_n 0, 1) := dk_42 (dk_at dksJ24_hashCode_0 0 rfl rfl)
theorem dJ24_hashCode_1 : decode cJ24_hashCode 1 = .ok (.arraylength, 1) := dk_190 (dk_at dksJ24_hashCode_0 1 rfl rfl)
theorem dJ24_hashCode_2 : decode cJ24_hashCode 2 = .ok (.lookupswitch 40 #[(0, 26), (1, 30)], 26) := by decide +kernel
theorem dJ24_hashCode_28 : decode cJ24_hashCode 28 = .ok (.iconst 0, 1) := dk_3 (dk_at dksJ24_hashCode_2 0 rfl rfl)
theorem dJ24_hashCode_29 : decode cJ24_hashCode 29 = .ok (.goto 22, 3) := dk_167 0 22 (dk_at dksJ24_hashCode_2 1 rfl rfl)
theorem dJ24_hashCode_32 : decode cJ24_hashCode 32 = .ok (.aload_n 0, 1) := dk_42 (dk_at dksJ24_hashCode_2 4 rfl rfl)
theorem dJ24_hashCode_33 : decode cJ24_hashCode 33 = .ok (.iconst 0, 1) := dk_3 (dk_at dksJ24_hashCode_2 5 rfl rfl)
theorem dJ24_hashCode_34 : decode cJ24_hashCode 34 = .ok (.baload, 1) := dk_51 (dk_at dksJ24_hashCode_2 6 rfl rfl)
theorem dJ24_hashCode_35 : decode cJ24_hashCode 35 = .ok (.sipush 255, 3) := dk_17 0 255 (dk_at dksJ24_hashCode_2 7 rfl rfl)
theorem dJ24_hashCode_38 : decode cJ24_hashCode 38 = .ok (.iand, 1) := dk_126 (dk_at dksJ24_hashCode_2 10 rfl rfl)
theorem dJ24_hashCode_39 : decode cJ24_hashCode 39 = .ok (.goto 12, 3) := dk_167 0 12 (dk_at dksJ24_hashCode_2 11 rfl rfl)
theorem dJ24_hashCode_42 : decode cJ24_hashCode 42 = .ok (.aload_n 0, 1) := dk_42 (dk_at dksJ24_hashCode_2 14 rfl rfl)
theorem dJ24_hashCode_43 : decode cJ24_hashCode 43 = .ok (.iconst 0, 1) := dk_3 (dk_at dksJ24_hashCode_2 15 rfl rfl)
theorem dJ24_hashCode_44 : decode cJ24_hashCode 44 = .ok (.aload_n 0, 1) := dk_42 (dk_at dksJ24_hashCode_2 16 rfl rfl)
theorem dJ24_hashCode_45 : decode cJ24_hashCode 45 = .ok (.arraylength, 1) := dk_190 (dk_at dksJ24_hashCode_2 17 rfl rfl)
theorem dJ24_hashCode_46 : decode cJ24_hashCode 46 = .ok (.iconst 0, 1) := dk_3 (dk_at dksJ24_hashCode_2 18 rfl rfl)
theorem dJ24_hashCode_47 : decode cJ24_hashCode 47 = .ok (.iconst 4, 1) := dk_7 (dk_at dksJ24_hashCode_2 19 rfl rfl)
theorem dJ24_hashCode_48 : decode cJ24_hashCode 48 = .ok (.invokestatic 84, 3) := dk_184 0 84 (dk_at dksJ24_hashCode_2 20 rfl rfl)
theorem dJ24_hashCode_51 : decode cJ24_hashCode 51 = .ok (.ireturn, 1) := dk_172 (dk_at dksJ24_hashCode_2 23 rfl rfl)
abbrev cJ24_equals : ByteArray := prog_36_method_13_code
def yJ24_equals : MethodName := ⟨RJ24, "equals", "([B[B)Z"⟩
def dkwJ24_equals_1 : List UInt8 := [3, 172, 132, 2, 1, 167, 255, 236, 4, 172, 3, 172]
abbrev dktJ24_equals_1 : List UInt8 := dkwJ24_equals_1 ++ []
def dkwJ24_equals_0 : List UInt8 := [42, 190, 43, 190, 160, 0, 30, 3, 61, 28, 42, 190, 162, 0, 20, 42, 28, 51, 43, 28, 51, 159, 0, 5]
abbrev dktJ24_equals_0 : List UInt8 := dkwJ24_equals_0 ++ dktJ24_equals_1
theorem dksJ24_equals_0 : cJ24_equals.data.toList.drop 0 = dktJ24_equals_0 := by decide +kernel
theorem dksJ24_equals_1 : cJ24_equals.data.toList.drop 24 = dktJ24_equals_1 := dk_seg dksJ24_equals_0 24 rfl rfl
theorem dJ24_equals_0 : decode cJ24_equals 0 = .ok (.aload_n 0, 1) := dk_42 (dk_at dksJ24_equals_0 0 rfl rfl)
theorem dJ24_equals_1 : decode cJ24_equals 1 = .ok (.arraylength, 1) := dk_190 (dk_at dksJ24_equals_0 1 rfl rfl)
theorem dJ24_equals_2 : decode cJ24_equals 2 = .ok (.aload_n 1, 1) := dk_43 (dk_at dksJ24_equals_0 2 rfl rfl)
theorem dJ24_equals_3 : decode cJ24_equals 3 = .ok (.arraylength, 1) := dk_190 (dk_at dksJ24_equals_0 3 rfl rfl)
theorem dJ24_equals_4 : decode cJ24_equals 4 = .ok (.if_icmp .ne 30, 3) := dk_160 0 30 (dk_at dksJ24_equals_0 4 rfl rfl)
theorem dJ24_equals_7 : decode cJ24_equals 7 = .ok (.iconst 0, 1) := dk_3 (dk_at dksJ24_equals_0 7 rfl rfl)
theorem dJ24_equals_8 : decode cJ24_equals 8 = .ok (.istore_n 2, 1) := dk_61 (dk_at dksJ24_equals_0 8 rfl rfl)
theorem dJ24_equals_9 : decode cJ24_equals 9 = .ok (.iload_n 2, 1) := dk_28 (dk_at dksJ24_equals_0 9 rfl rfl)
theorem dJ24_equals_10 : decode cJ24_equals 10 = .ok (.aload_n 0, 1) := dk_42 (dk_at dksJ24_equals_0 10 rfl rfl)
theorem dJ24_equals_11 : decode cJ24_equals 11 = .ok (.arraylength, 1) := dk_190 (dk_at dksJ24_equals_0 11 rfl rfl)
theorem dJ24_equals_12 : decode cJ24_equals 12 = .ok (.if_icmp .ge 20, 3) := dk_162 0 20 (dk_at dksJ24_equals_0 12 rfl rfl)
theorem dJ24_equals_15 : decode cJ24_equals 15 = .ok (.aload_n 0, 1) := dk_42 (dk_at dksJ24_equals_0 15 rfl rfl)
theorem dJ24_equals_16 : decode cJ24_equals 16 = .ok (.iload_n 2, 1) := dk_28 (dk_at dksJ24_equals_0 16 rfl rfl)
theorem dJ24_equals_17 : decode cJ24_equals 17 = .ok (.baload, 1) := dk_51 (dk_at dksJ24_equals_0 17 rfl rfl)
theorem dJ24_equals_18 : decode cJ24_equals 18 = .ok (.aload_n 1, 1) := dk_43 (dk_at dksJ24_equals_0 18 rfl rfl)
theorem dJ24_equals_19 : decode cJ24_equals 19 = .ok (.iload_n 2, 1) := dk_28 (dk_at dksJ24_equals_0 19 rfl rfl)
theorem dJ24_equals_20 : decode cJ24_equals 20 = .ok (.baload, 1) := dk_51 (dk_at dksJ24_equals_0 20 rfl rfl)
theorem dJ24_equals_21 : decode cJ24_equals 21 = .ok (.if_icmp .eq 5, 3) := dk_159 0 5 (dk_at dksJ24_equals_0 21 rfl rfl)
theorem dJ24_equals_24 : decode cJ24_equals 24 = .ok (.iconst 0, 1) := dk_3 (dk_at dksJ24_equals_1 0 rfl rfl)
theorem dJ24_equals_25 : decode cJ24_equals 25 = .ok (.ireturn, 1) := dk_172 (dk_at dksJ24_equals_1 1 rfl rfl)
theorem dJ24_equals_26 : decode cJ24_equals 26 = .ok (.iinc 2 1, 3) := dk_132 2 1 (dk_at dksJ24_equals_1 2 rfl rfl)
theorem dJ24_equals_29 : decode cJ24_equals 29 = .ok (.goto (-20), 3) := dk_167 255 236 (dk_at dksJ24_equals_1 5 rfl rfl)
theorem dJ24_equals_32 : decode cJ24_equals 32 = .ok (.iconst 1, 1) := dk_4 (dk_at dksJ24_equals_1 8 rfl rfl)
theorem dJ24_equals_33 : decode cJ24_equals 33 = .ok (.ireturn, 1) := dk_172 (dk_at dksJ24_equals_1 9 rfl rfl)
theorem dJ24_equals_34 : decode cJ24_equals 34 = .ok (.iconst 0, 1) := dk_3 (dk_at dksJ24_equals_1 10 rfl rfl)
theorem dJ24_equals_35 : decode cJ24_equals 35 = .ok (.ireturn, 1) := dk_172 (dk_at dksJ24_equals_1 11 rfl rfl)
abbrev cJ24_fillNull : ByteArray := prog_36_method_48_code
def yJ24_fillNull : MethodName := ⟨RJ24, "fillNull", "([BII)V"⟩
def dkwJ24_fillNull_0 : List UInt8 := [42, 27, 28, 3, 184, 0, 236, 177]
abbrev dktJ24_fillNull_0 : List UInt8 := dkwJ24_fillNull_0 ++ []
theorem dksJ24_fillNull_0 : cJ24_fillNull.data.toList.drop 0 = dktJ24_fillNull_0 := by decide +kernel
theorem dJ24_fillNull_0 : decode cJ24_fillNull 0 = .ok (.aload_n 0, 1) := dk_42 (dk_at dksJ24_fillNull_0 0 rfl rfl)
theorem dJ24_fillNull_1 : decode cJ24_fillNull 1 = .ok (.iload_n 1, 1) := dk_27 (dk_at dksJ24_fillNull_0 1 rfl rfl)
theorem dJ24_fillNull_2 : decode cJ24_fillNull 2 = .ok (.iload_n 2, 1) := dk_28 (dk_at dksJ24_fillNull_0 2 rfl rfl)
theorem dJ24_fillNull_3 : decode cJ24_fillNull 3 = .ok (.iconst 0, 1) := dk_3 (dk_at dksJ24_fillNull_0 3 rfl rfl)
theorem dJ24_fillNull_4 : decode cJ24_fillNull 4 = .ok (.invokestatic 236, 3) := dk_184 0 236 (dk_at dksJ24_fillNull_0 4 rfl rfl)
theorem dJ24_fillNull_7 : decode cJ24_fillNull 7 = .ok (.return_, 1) := dk_177 (dk_at dksJ24_fillNull_0 7 rfl rfl)
theorem q148 : (Jvm.Cond.initialized "java/lang/StringLatin1") ∈ lw_all := lw_g (lw_at lw_m1 35 rfl) rfl
theorem q760 : (Jvm.Cond.static ({ cls := "java/lang/StringLatin1", name := "canEncode", desc := "(C)Z" } : Jvm.MethodName)) ∈ lw_all := lw_g (lw_at lw_m3 167 rfl) rfl
theorem q761 : (Jvm.Cond.code ({ cls := "java/lang/StringLatin1", name := "canEncode", desc := "(C)Z" } : Jvm.MethodName) prog_36_method_3_code (1 : Nat) (Option.some Jvm.ClassFile.FieldType.boolean)) ∈ lw_all := lw_g (lw_at lw_m3 168 rfl) rfl
theorem q767 : (Jvm.Cond.static ({ cls := "java/lang/StringLatin1", name := "inflate", desc := "([BI[BII)V" } : Jvm.MethodName)) ∈ lw_all := lw_g (lw_at lw_m3 174 rfl) rfl
theorem q768 : (Jvm.Cond.code ({ cls := "java/lang/StringLatin1", name := "inflate", desc := "([BI[BII)V" } : Jvm.MethodName) prog_36_method_50_code (5 : Nat) (Option.none : Option Jvm.ClassFile.FieldType)) ∈ lw_all := lw_g (lw_at lw_m3 175 rfl) rfl
theorem q769 : (Jvm.Cond.methodLink "java/lang/StringLatin1" (240 : Nat) ({ cls := "java/lang/StringUTF16", name := "inflate", desc := "([BI[BII)V" } : Jvm.MethodName)) ∈ lw_all := lw_g (lw_at lw_m3 176 rfl) rfl
theorem q1622 : (Jvm.Cond.static ({ cls := "java/lang/StringLatin1", name := "charAt", desc := "([BI)C" } : Jvm.MethodName)) ∈ lw_all := lw_g (lw_at lw_m7 69 rfl) rfl
theorem q1623 : (Jvm.Cond.code ({ cls := "java/lang/StringLatin1", name := "charAt", desc := "([BI)C" } : Jvm.MethodName) prog_36_method_2_code (2 : Nat) (Option.some Jvm.ClassFile.FieldType.char)) ∈ lw_all := lw_g (lw_at lw_m7 70 rfl) rfl
theorem q1624 : (Jvm.Cond.methodLink "java/lang/StringLatin1" (9 : Nat) ({ cls := "java/lang/String", name := "checkIndex", desc := "(II)V" } : Jvm.MethodName)) ∈ lw_all := lw_g (lw_at lw_m7 71 rfl) rfl
theorem q1648 : (Jvm.Cond.static ({ cls := "java/lang/StringLatin1", name := "hashCode", desc := "([B)I" } : Jvm.MethodName)) ∈ lw_all := lw_g (lw_at lw_m7 95 rfl) rfl
theorem q1649 : (Jvm.Cond.code ({ cls := "java/lang/StringLatin1", name := "hashCode", desc := "([B)I" } : Jvm.MethodName) prog_36_method_21_code (1 : Nat) (Option.some Jvm.ClassFile.FieldType.int)) ∈ lw_all := lw_g (lw_at lw_m7 96 rfl) rfl
theorem q1650 : (Jvm.Cond.methodLink "java/lang/StringLatin1" (84 : Nat) ({ cls := "jdk/internal/util/ArraysSupport", name := "vectorizedHashCode", desc := "(Ljava/lang/Object;IIII)I" } : Jvm.MethodName)) ∈ lw_all := lw_g (lw_at lw_m7 97 rfl) rfl
theorem q1706 : (Jvm.Cond.static ({ cls := "java/lang/StringLatin1", name := "equals", desc := "([B[B)Z" } : Jvm.MethodName)) ∈ lw_all := lw_g (lw_at lw_m7 153 rfl) rfl
theorem q1707 : (Jvm.Cond.code ({ cls := "java/lang/StringLatin1", name := "equals", desc := "([B[B)Z" } : Jvm.MethodName) prog_36_method_13_code (3 : Nat) (Option.some Jvm.ClassFile.FieldType.boolean)) ∈ lw_all := lw_g (lw_at lw_m7 154 rfl) rfl
theorem q1795 : (Jvm.Cond.static ({ cls := "java/lang/StringLatin1", name := "fillNull", desc := "([BII)V" } : Jvm.MethodName)) ∈ lw_all := lw_g (lw_at lw_m8 2 rfl) rfl
theorem q1796 : (Jvm.Cond.code ({ cls := "java/lang/StringLatin1", name := "fillNull", desc := "([BII)V" } : Jvm.MethodName) prog_36_method_48_code (3 : Nat) (Option.none : Option Jvm.ClassFile.FieldType)) ∈ lw_all := lw_g (lw_at lw_m8 3 rfl) rfl
theorem q1797 : (Jvm.Cond.methodLink "java/lang/StringLatin1" (236 : Nat) ({ cls := "java/util/Arrays", name := "fill", desc := "([BIIB)V" } : Jvm.MethodName)) ∈ lw_all := lw_g (lw_at lw_m8 4 rfl) rfl

/-! jdk/internal/util/Preconditions -/
set_option maxRecDepth 100000
def RJ25 : String := "jdk/internal/util/Preconditions"
abbrev cJ25_checkFromIndexSize : ByteArray := prog_75_method_13_code
def yJ25_checkFromIndexSize : MethodName := ⟨RJ25, "checkFromIndexSize", "(IIILjava/util/function/BiFunction;)I"⟩
def dkwJ25_checkFromIndexSize_1 : List UInt8 := [172]
abbrev dktJ25_checkFromIndexSize_1 : List UInt8 := dkwJ25_checkFromIndexSize_1 ++ []
def dkwJ25_checkFromIndexSize_0 : List UInt8 := [28, 26, 128, 27, 128, 155, 0, 10, 27, 28, 26, 100, 164, 0, 11, 45, 26, 27, 28, 184, 0, 103, 191, 26]
abbrev dktJ25_checkFromIndexSize_0 : List UInt8 := dkwJ25_checkFromIndexSize_0 ++ dktJ25_checkFromIndexSize_1
theorem dksJ25_checkFromIndexSize_0 : cJ25_checkFromIndexSize.data.toList.drop 0 = dktJ25_checkFromIndexSize_0 := by decide +kernel
theorem dksJ25_checkFromIndexSize_1 : cJ25_checkFromIndexSize.data.toList.drop 24 = dktJ25_checkFromIndexSize_1 := dk_seg dksJ25_checkFromIndexSize_0 24 rfl rfl
theorem dJ25_checkFromIndexSize_0 : decode cJ25_checkFromIndexSize 0 = .ok (.iload_n 2, 1) := dk_28 (dk_at dksJ25_checkFromIndexSize_0 0 rfl rfl)
theorem dJ25_checkFromIndexSize_1 : decode cJ25_checkFromIndexSize 1 = .ok (.iload_n 0, 1) := dk_26 (dk_at dksJ25_checkFromIndexSize_0 1 rfl rfl)
theorem dJ25_checkFromIndexSize_2 : decode cJ25_checkFromIndexSize 2 = .ok (.ior, 1) := dk_128 (dk_at dksJ25_checkFromIndexSize_0 2 rfl rfl)
theorem dJ25_checkFromIndexSize_3 : decode cJ25_checkFromIndexSize 3 = .ok (.iload_n 1, 1) := dk_27 (dk_at dksJ25_checkFromIndexSize_0 3 rfl rfl)
theorem dJ25_checkFromIndexSize_4 : decode cJ25_checkFromIndexSize 4 = .ok (.ior, 1) := dk_128 (dk_at dksJ25_checkFromIndexSize_0 4 rfl rfl)
theorem dJ25_checkFromIndexSize_5 : decode cJ25_checkFromIndexSize 5 = .ok (.ifCond .lt 10, 3) := dk_155 0 10 (dk_at dksJ25_checkFromIndexSize_0 5 rfl rfl)
theorem dJ25_checkFromIndexSize_8 : decode cJ25_checkFromIndexSize 8 = .ok (.iload_n 1, 1) := dk_27 (dk_at dksJ25_checkFromIndexSize_0 8 rfl rfl)
theorem dJ25_checkFromIndexSize_9 : decode cJ25_checkFromIndexSize 9 = .ok (.iload_n 2, 1) := dk_28 (dk_at dksJ25_checkFromIndexSize_0 9 rfl rfl)
theorem dJ25_checkFromIndexSize_10 : decode cJ25_checkFromIndexSize 10 = .ok (.iload_n 0, 1) := dk_26 (dk_at dksJ25_checkFromIndexSize_0 10 rfl rfl)
theorem dJ25_checkFromIndexSize_11 : decode cJ25_checkFromIndexSize 11 = .ok (.isub, 1) := dk_100 (dk_at dksJ25_checkFromIndexSize_0 11 rfl rfl)
theorem dJ25_checkFromIndexSize_12 : decode cJ25_checkFromIndexSize 12 = .ok (.if_icmp .le 11, 3) := dk_164 0 11 (dk_at dksJ25_checkFromIndexSize_0 12 rfl rfl)
theorem dJ25_checkFromIndexSize_15 : decode cJ25_checkFromIndexSize 15 = .ok (.aload_n 3, 1) := dk_45 (dk_at dksJ25_checkFromIndexSize_0 15 rfl rfl)
theorem dJ25_checkFromIndexSize_16 : decode cJ25_checkFromIndexSize 16 = .ok (.iload_n 0, 1) := dk_26 (dk_at dksJ25_checkFromIndexSize_0 16 rfl rfl)
theorem dJ25_checkFromIndexSize_17 : decode cJ25_checkFromIndexSize 17 = .ok (.iload_n 1, 1) := dk_27 (dk_at dksJ25_checkFromIndexSize_0 17 rfl rfl)
theorem dJ25_checkFromIndexSize_18 : decode cJ25_checkFromIndexSize 18 = .ok (.iload_n 2, 1) := dk_28 (dk_at dksJ25_checkFromIndexSize_0 18 rfl rfl)
theorem dJ25_checkFromIndexSize_19 : decode cJ25_checkFromIndexSize 19 = .ok (.invokestatic 103, 3) := dk_184 0 103 (dk_at dksJ25_checkFromIndexSize_0 19 rfl rfl)
theorem dJ25_checkFromIndexSize_22 : decode cJ25_checkFromIndexSize 22 = .ok (.athrow, 1) := dk_191 (dk_at dksJ25_checkFromIndexSize_0 22 rfl rfl)
theorem dJ25_checkFromIndexSize_23 : decode cJ25_checkFromIndexSize 23 = .ok (.iload_n 0, 1) := dk_26 (dk_at dksJ25_checkFromIndexSize_0 23 rfl rfl)
theorem dJ25_checkFromIndexSize_24 : decode cJ25_checkFromIndexSize 24 = .ok (.ireturn, 1) := dk_172 (dk_at dksJ25_checkFromIndexSize_1 0 rfl rfl)
abbrev cJ25_checkIndex : ByteArray := prog_75_method_11_code
def yJ25_checkIndex : MethodName := ⟨RJ25, "checkIndex", "(IILjava/util/function/BiFunction;)I"⟩
def dkwJ25_checkIndex_0 : List UInt8 := [26, 155, 0, 8, 26, 27, 161, 0, 10, 44, 26, 27, 184, 0, 95, 191, 26, 172]
abbrev dktJ25_checkIndex_0 : List UInt8 := dkwJ25_checkIndex_0 ++ []
theorem dksJ25_checkIndex_0 : cJ25_checkIndex.data.toList.drop 0 = dktJ25_checkIndex_0 := by decide +kernel
theorem dJ25_checkIndex_0 : decode cJ25_checkIndex 0 = .ok (.iload_n 0, 1) := dk_26 (dk_at dksJ25_checkIndex_0 0 rfl rfl)
theorem dJ25_checkIndex_1 : decode cJ25_checkIndex 1 = .ok (.ifCond .lt 8, 3) := dk_155 0 8 (dk_at dksJ25_checkIndex_0 1 rfl rfl)
theorem dJ25_checkIndex_4 : decode cJ25_checkIndex 4 = .ok (.iload_n 0, 1) := dk_26 (dk_at dksJ25_checkIndex_0 4 rfl rfl)
theorem dJ25_checkIndex_5 : decode cJ25_checkIndex 5 = .ok (.iload_n 1, 1) := dk_27 (dk_at dksJ25_checkIndex_0 5 rfl rfl)
theorem dJ25_checkIndex_6 : decode cJ25_checkIndex 6 = .ok (.if_icmp .lt 10, 3) := dk_161 0 10 (dk_at dksJ25_checkIndex_0 6 rfl rfl)
theorem dJ25_checkIndex_9 : decode cJ25_checkIndex 9 = .ok (.aload_n 2, 1) := dk_44 (dk_at dksJ25_checkIndex_0 9 rfl rfl)
theorem dJ25_checkIndex_10 : decode cJ25_checkIndex 10 = .ok (.iload_n 0, 1) := dk_26 (dk_at dksJ25_checkIndex_0 10 rfl rfl)
theorem dJ25_checkIndex_11 : decode cJ25_checkIndex 11 = .ok (.iload_n 1, 1) := dk_27 (dk_at dksJ25_checkIndex_0 11 rfl rfl)
theorem dJ25_checkIndex_12 : decode cJ25_checkIndex 12 = .ok (.invokestatic 95, 3) := dk_184 0 95 (dk_at dksJ25_checkIndex_0 12 rfl rfl)
theorem dJ25_checkIndex_15 : decode cJ25_checkIndex 15 = .ok (.athrow, 1) := dk_191 (dk_at dksJ25_checkIndex_0 15 rfl rfl)
theorem dJ25_checkIndex_16 : decode cJ25_checkIndex 16 = .ok (.iload_n 0, 1) := dk_26 (dk_at dksJ25_checkIndex_0 16 rfl rfl)
theorem dJ25_checkIndex_17 : decode cJ25_checkIndex 17 = .ok (.ireturn, 1) := dk_172 (dk_at dksJ25_checkIndex_0 17 rfl rfl)
abbrev cJ25_checkFromToIndex : ByteArray := prog_75_method_12_code
def yJ25_checkFromToIndex : MethodName := ⟨RJ25, "checkFromToIndex", "(IIILjava/util/function/BiFunction;)I"⟩
def dkwJ25_checkFromToIndex_0 : List UInt8 := [26, 155, 0, 13, 26, 27, 163, 0, 8, 27, 28, 164, 0, 11, 45, 26, 27, 28, 184, 0, 99, 191, 26, 172]
abbrev dktJ25_checkFromToIndex_0 : List UInt8 := dkwJ25_checkFromToIndex_0 ++ []
theorem dksJ25_checkFromToIndex_0 : cJ25_checkFromToIndex.data.toList.drop 0 = dktJ25_checkFromToIndex_0 := by decide +kernel
theorem dJ25_checkFromToIndex_0 : decode cJ25_checkFromToIndex 0 = .ok (.iload_n 0, 1) := dk_26 (dk_at dksJ25_checkFromToIndex_0 0 rfl rfl)
theorem dJ25_checkFromToIndex_1 : decode cJ25_checkFromToIndex 1 = .ok (.ifCond .lt 13, 3) := dk_155 0 13 (dk_at dksJ25_checkFromToIndex_0 1 rfl rfl)
theorem dJ25_checkFromToIndex_4 : decode cJ25_checkFromToIndex 4 = .ok (.iload_n 0, 1) := dk_26 (dk_at dksJ25_checkFromToIndex_0 4 rfl rfl)
theorem dJ25_checkFromToIndex_5 : decode cJ25_checkFromToIndex 5 = .ok (.iload_n 1, 1) := dk_27 (dk_at dksJ25_checkFromToIndex_0 5 rfl rfl)
theorem dJ25_checkFromToIndex_6 : decode cJ25_checkFromToIndex 6 = .ok (.if_icmp .gt 8, 3) := dk_163 0 8 (dk_at dksJ25_checkFromToIndex_0 6 rfl rfl)
theorem dJ25_checkFromToIndex_9 : decode cJ25_checkFromToIndex 9 = .ok (.iload_n 1, 1) := dk_27 (dk_at dksJ25_checkFromToIndex_0 9 rfl rfl)
theorem dJ25_checkFromToIndex_10 : decode cJ25_checkFromToIndex 10 = .ok (.iload_n 2, 1) := dk_28 (dk_at dksJ25_checkFromToIndex_0 10 rfl rfl)
theorem dJ25_checkFromToIndex_11 : decode cJ25_checkFromToIndex 11 = .ok (.if_icmp .le 11, 3) := dk_164 0 11 (dk_at dksJ25_checkFromToIndex_0 11 rfl rfl)
theorem dJ25_checkFromToIndex_14 : decode cJ25_checkFromToIndex 14 = .ok (.aload_n 3, 1) := dk_45 (dk_at dksJ25_checkFromToIndex_0 14 rfl rfl)
theorem dJ25_checkFromToIndex_15 : decode cJ25_checkFromToIndex 15 = .ok (.iload_n 0, 1) := dk_26 (dk_at dksJ25_checkFromToIndex_0 15 rfl rfl)
theorem dJ25_checkFromToIndex_16 : decode cJ25_checkFromToIndex 16 = .ok (.iload_n 1, 1) := dk_27 (dk_at dksJ25_checkFromToIndex_0 16 rfl rfl)
theorem dJ25_checkFromToIndex_17 : decode cJ25_checkFromToIndex 17 = .ok (.iload_n 2, 1) := dk_28 (dk_at dksJ25_checkFromToIndex_0 17 rfl rfl)
theorem dJ25_checkFromToIndex_18 : decode cJ25_checkFromToIndex 18 = .ok (.invokestatic 99, 3) := dk_184 0 99 (dk_at dksJ25_checkFromToIndex_0 18 rfl rfl)
theorem dJ25_checkFromToIndex_21 : decode cJ25_checkFromToIndex 21 = .ok (.athrow, 1) := dk_191 (dk_at dksJ25_checkFromToIndex_0 21 rfl rfl)
theorem dJ25_checkFromToIndex_22 : decode cJ25_checkFromToIndex 22 = .ok (.iload_n 0, 1) := dk_26 (dk_at dksJ25_checkFromToIndex_0 22 rfl rfl)
theorem dJ25_checkFromToIndex_23 : decode cJ25_checkFromToIndex 23 = .ok (.ireturn, 1) := dk_172 (dk_at dksJ25_checkFromToIndex_0 23 rfl rfl)
theorem q149 : (Jvm.Cond.initialized "jdk/internal/util/Preconditions") ∈ lw_all := lw_g (lw_at lw_m1 36 rfl) rfl
theorem q782 : (Jvm.Cond.laysStatic "jdk/internal/util/Preconditions" "SIOOBE_FORMATTER" "Ljava/util/function/BiFunction;") ∈ lw_tbl := lw_at lw_m3 189 rfl
theorem q784 : (Jvm.Cond.static ({ cls := "jdk/internal/util/Preconditions", name := "checkFromIndexSize", desc := "(IIILjava/util/function/BiFunction;)I" } : Jvm.MethodName)) ∈ lw_all := lw_g (lw_at lw_m3 191 rfl) rfl
theorem q785 : (Jvm.Cond.code ({ cls := "jdk/internal/util/Preconditions", name := "checkFromIndexSize", desc := "(IIILjava/util/function/BiFunction;)I" } : Jvm.MethodName) prog_75_method_13_code (4 : Nat) (Option.some Jvm.ClassFile.FieldType.int)) ∈ lw_all := lw_g (lw_at lw_m3 192 rfl) rfl
theorem q805 : (Jvm.Cond.static ({ cls := "jdk/internal/util/Preconditions", name := "checkIndex", desc := "(IILjava/util/function/BiFunction;)I" } : Jvm.MethodName)) ∈ lw_all := lw_g (lw_at lw_m3 212 rfl) rfl
theorem q806 : (Jvm.Cond.code ({ cls := "jdk/internal/util/Preconditions", name := "checkIndex", desc := "(IILjava/util/function/BiFunction;)I" } : Jvm.MethodName) prog_75_method_11_code (3 : Nat) (Option.some Jvm.ClassFile.FieldType.int)) ∈ lw_all := lw_g (lw_at lw_m3 213 rfl) rfl
theorem q908 : (Jvm.Cond.static ({ cls := "jdk/internal/util/Preconditions", name := "checkFromToIndex", desc := "(IIILjava/util/function/BiFunction;)I" } : Jvm.MethodName)) ∈ lw_all := lw_g (lw_at lw_m4 75 rfl) rfl
theorem q909 : (Jvm.Cond.code ({ cls := "jdk/internal/util/Preconditions", name := "checkFromToIndex", desc := "(IIILjava/util/function/BiFunction;)I" } : Jvm.MethodName) prog_75_method_12_code (4 : Nat) (Option.some Jvm.ClassFile.FieldType.int)) ∈ lw_all := lw_g (lw_at lw_m4 76 rfl) rfl

/-! java/lang/IndexOutOfBoundsException -/
set_option maxRecDepth 100000
def RJ26 : String := "java/lang/IndexOutOfBoundsException"
def TJ26 : u_T := fun k => match k with
  | 0 => ("java/lang/Throwable", "cause", "Ljava/lang/Throwable;", false)
  | 1 => ("java/lang/Throwable", "stackTrace", "[Ljava/lang/StackTraceElement;", false)
  | 2 => ("java/lang/Throwable", "suppressedExceptions", "Ljava/util/List;", false)
  | 3 => ("java/lang/Throwable", "detailMessage", "Ljava/lang/String;", false)
  | 4 => ("java/lang/Throwable", "backtrace", "Ljava/lang/Object;", false)
  | _ => ("java/lang/Throwable", "depth", "I", false)
def tyJ26 : Nat → FieldType := fun k => match k with
  | 0 => .object "java/lang/Throwable"
  | 1 => .array (.object "java/lang/StackTraceElement")
  | 2 => .object "java/util/List"
  | 3 => .object "java/lang/String"
  | 4 => .object "java/lang/Object"
  | _ => .int
abbrev wsJ260 : List Cond := u_ws RJ26 TJ26 6
theorem nmJ26 : ∀ a, a < 6 → ∀ b, b < 6 → a ≠ b → (TJ26 a).2.1 ≠ (TJ26 b).2.1 := by decide +kernel
theorem tyJ26_ok : ∀ k, k < 6 → parseFieldDescriptor (TJ26 k).2.2.1 = some (tyJ26 k) := by decide +kernel
abbrev cJ26_init : ByteArray := prog_25_method_2_code
def yJ26_init : MethodName := ⟨RJ26, "<init>", "(Ljava/lang/String;)V"⟩
def dkwJ26_init_0 : List UInt8 := [42, 43, 183, 0, 7, 177]
abbrev dktJ26_init_0 : List UInt8 := dkwJ26_init_0 ++ []
theorem dksJ26_init_0 : cJ26_init.data.toList.drop 0 = dktJ26_init_0 := by decide +kernel
theorem dJ26_init_0 : decode cJ26_init 0 = .ok (.aload_n 0, 1) := dk_42 (dk_at dksJ26_init_0 0 rfl rfl)
theorem dJ26_init_1 : decode cJ26_init 1 = .ok (.aload_n 1, 1) := dk_43 (dk_at dksJ26_init_0 1 rfl rfl)
theorem dJ26_init_2 : decode cJ26_init 2 = .ok (.invokespecial 7, 3) := dk_183 0 7 (dk_at dksJ26_init_0 2 rfl rfl)
theorem dJ26_init_5 : decode cJ26_init 5 = .ok (.return_, 1) := dk_177 (dk_at dksJ26_init_0 5 rfl rfl)
abbrev cJ26_init_2 : ByteArray := prog_25_method_1_code
def yJ26_init_2 : MethodName := ⟨RJ26, "<init>", "()V"⟩
theorem dJ26_init_2_0 : decode cJ26_init_2 0 = .ok (.aload_n 0, 1) := by decide +kernel
theorem dJ26_init_2_1 : decode cJ26_init_2 1 = .ok (.invokespecial 1, 3) := by decide +kernel
theorem dJ26_init_2_4 : decode cJ26_init_2 4 = .ok (.return_, 1) := by decide +kernel
theorem q151 : (Jvm.Cond.initialized "java/lang/IndexOutOfBoundsException") ∈ lw_all := lw_g (lw_at lw_m1 38 rfl) rfl
theorem q230 : (Jvm.Cond.selects "java/lang/IndexOutOfBoundsException" ({ cls := "java/lang/Object", name := "getClass", desc := "()Ljava/lang/Class;" } : Jvm.MethodName) ({ cls := "java/lang/Object", name := "getClass", desc := "()Ljava/lang/Class;" } : Jvm.MethodName)) ∈ lw_all := lw_g (lw_at lw_m1 117 rfl) rfl
theorem q667 : (Jvm.Cond.selects "java/lang/IndexOutOfBoundsException" ({ cls := "java/lang/Throwable", name := "fillInStackTrace", desc := "()Ljava/lang/Throwable;" } : Jvm.MethodName) ({ cls := "java/lang/Throwable", name := "fillInStackTrace", desc := "()Ljava/lang/Throwable;" } : Jvm.MethodName)) ∈ lw_all := lw_g (lw_at lw_m3 74 rfl) rfl
theorem q874 : (Jvm.Cond.instantiable "java/lang/IndexOutOfBoundsException" (6 : Nat)) ∈ lw_all := lw_g (lw_at lw_m4 41 rfl) rfl
theorem q875 : (Jvm.Cond.castable "java/lang/IndexOutOfBoundsException" "java/lang/IndexOutOfBoundsException") ∈ lw_tbl := lw_at lw_m4 42 rfl
theorem q876 : (Jvm.Cond.selects "java/lang/IndexOutOfBoundsException" ({ cls := "java/lang/Throwable", name := "fillInStackTrace", desc := "(I)Ljava/lang/Throwable;" } : Jvm.MethodName) ({ cls := "java/lang/Throwable", name := "fillInStackTrace", desc := "(I)Ljava/lang/Throwable;" } : Jvm.MethodName)) ∈ lw_all := lw_g (lw_at lw_m4 43 rfl) rfl
theorem q877 : (Jvm.Cond.lays "java/lang/IndexOutOfBoundsException" "java/lang/Throwable" "cause" "Ljava/lang/Throwable;") ∈ lw_all := lw_g (lw_at lw_m4 44 rfl) rfl
theorem q878 : (Jvm.Cond.lays "java/lang/IndexOutOfBoundsException" "java/lang/Throwable" "stackTrace" "[Ljava/lang/StackTraceElement;") ∈ lw_all := lw_g (lw_at lw_m4 45 rfl) rfl
theorem q879 : (Jvm.Cond.lays "java/lang/IndexOutOfBoundsException" "java/lang/Throwable" "suppressedExceptions" "Ljava/util/List;") ∈ lw_all := lw_g (lw_at lw_m4 46 rfl) rfl
theorem q880 : (Jvm.Cond.lays "java/lang/IndexOutOfBoundsException" "java/lang/Throwable" "detailMessage" "Ljava/lang/String;") ∈ lw_all := lw_g (lw_at lw_m4 47 rfl) rfl
theorem q881 : (Jvm.Cond.lays "java/lang/IndexOutOfBoundsException" "java/lang/Throwable" "backtrace" "Ljava/lang/Object;") ∈ lw_all := lw_g (lw_at lw_m4 48 rfl) rfl
theorem q1044 : (Jvm.Cond.instanceMethod ({ cls := "java/lang/IndexOutOfBoundsException", name := "<init>", desc := "(Ljava/lang/String;)V" } : Jvm.MethodName)) ∈ lw_all := lw_g (lw_at lw_m4 211 rfl) rfl
theorem q1045 : (Jvm.Cond.code ({ cls := "java/lang/IndexOutOfBoundsException", name := "<init>", desc := "(Ljava/lang/String;)V" } : Jvm.MethodName) prog_25_method_2_code (2 : Nat) (Option.none : Option Jvm.ClassFile.FieldType)) ∈ lw_all := lw_g (lw_at lw_m4 212 rfl) rfl
theorem q1046 : (Jvm.Cond.methodLink "java/lang/IndexOutOfBoundsException" (7 : Nat) ({ cls := "java/lang/RuntimeException", name := "<init>", desc := "(Ljava/lang/String;)V" } : Jvm.MethodName)) ∈ lw_all := lw_g (lw_at lw_m4 213 rfl) rfl
theorem q1047 : (Jvm.Cond.lays "java/lang/IndexOutOfBoundsException" "java/lang/Throwable" "depth" "I") ∈ lw_all := lw_g (lw_at lw_m4 214 rfl) rfl
theorem q1048 : (Jvm.Cond.superclass "java/lang/IndexOutOfBoundsException" "java/lang/RuntimeException") ∈ lw_all := lw_g (lw_at lw_m4 215 rfl) rfl
theorem q1193 : (Jvm.Cond.declares ({ cls := "java/lang/IndexOutOfBoundsException", name := "<init>", desc := "()V" } : Jvm.MethodName)) ∈ lw_tbl := lw_at lw_m5 120 rfl
theorem q1194 : (Jvm.Cond.declares ({ cls := "java/lang/IndexOutOfBoundsException", name := "<init>", desc := "(Ljava/lang/String;)V" } : Jvm.MethodName)) ∈ lw_tbl := lw_at lw_m5 121 rfl
theorem q1217 : (Jvm.Cond.instanceMethod ({ cls := "java/lang/IndexOutOfBoundsException", name := "<init>", desc := "()V" } : Jvm.MethodName)) ∈ lw_all := lw_g (lw_at lw_m5 144 rfl) rfl
theorem q1218 : (Jvm.Cond.code ({ cls := "java/lang/IndexOutOfBoundsException", name := "<init>", desc := "()V" } : Jvm.MethodName) prog_25_method_1_code (1 : Nat) (Option.none : Option Jvm.ClassFile.FieldType)) ∈ lw_all := lw_g (lw_at lw_m5 145 rfl) rfl
theorem q1219 : (Jvm.Cond.methodLink "java/lang/IndexOutOfBoundsException" (1 : Nat) ({ cls := "java/lang/RuntimeException", name := "<init>", desc := "()V" } : Jvm.MethodName)) ∈ lw_all := lw_g (lw_at lw_m5 146 rfl) rfl
theorem q1519 : (Jvm.Cond.selects "java/lang/IndexOutOfBoundsException" ({ cls := "java/lang/Throwable", name := "toString", desc := "()Ljava/lang/String;" } : Jvm.MethodName) ({ cls := "java/lang/Throwable", name := "toString", desc := "()Ljava/lang/String;" } : Jvm.MethodName)) ∈ lw_all := lw_g (lw_at lw_m6 206 rfl) rfl
theorem q1534 : (Jvm.Cond.selects "java/lang/IndexOutOfBoundsException" ({ cls := "java/lang/Throwable", name := "getLocalizedMessage", desc := "()Ljava/lang/String;" } : Jvm.MethodName) ({ cls := "java/lang/Throwable", name := "getLocalizedMessage", desc := "()Ljava/lang/String;" } : Jvm.MethodName)) ∈ lw_all := lw_g (lw_at lw_m6 221 rfl) rfl
theorem q1548 : (Jvm.Cond.selects "java/lang/IndexOutOfBoundsException" ({ cls := "java/lang/Throwable", name := "getMessage", desc := "()Ljava/lang/String;" } : Jvm.MethodName) ({ cls := "java/lang/Throwable", name := "getMessage", desc := "()Ljava/lang/String;" } : Jvm.MethodName)) ∈ lw_all := lw_g (lw_at lw_m6 235 rfl) rfl
theorem q2793 : (Jvm.Cond.castable "java/lang/IndexOutOfBoundsException" "java/lang/Object") ∈ lw_tbl := lw_at lw_m12 40 rfl
theorem in_J26 : ∀ w ∈ wsJ260, w ∈ lw_all := lw_in wsJ260 [877, 878, 879, 880, 881, 1047] (by decide +kernel) (by decide +kernel)

/-! java/lang/Number -/
set_option maxRecDepth 100000
def RJ27 : String := "java/lang/Number"
abbrev cJ27_init : ByteArray := prog_31_method_1_code
def yJ27_init : MethodName := ⟨RJ27, "<init>", "()V"⟩
theorem dJ27_init_0 : decode cJ27_init 0 = .ok (.aload_n 0, 1) := by decide +kernel
theorem dJ27_init_1 : decode cJ27_init 1 = .ok (.invokespecial 1, 3) := by decide +kernel
theorem dJ27_init_4 : decode cJ27_init 4 = .ok (.return_, 1) := by decide +kernel
theorem q152 : (Jvm.Cond.initialized "java/lang/Number") ∈ lw_all := lw_g (lw_at lw_m1 39 rfl) rfl
theorem q2028 : (Jvm.Cond.instanceMethod ({ cls := "java/lang/Number", name := "<init>", desc := "()V" } : Jvm.MethodName)) ∈ lw_all := lw_g (lw_at lw_m8 235 rfl) rfl
theorem q2029 : (Jvm.Cond.code ({ cls := "java/lang/Number", name := "<init>", desc := "()V" } : Jvm.MethodName) prog_31_method_1_code (1 : Nat) (Option.none : Option Jvm.ClassFile.FieldType)) ∈ lw_all := lw_g (lw_at lw_m8 236 rfl) rfl
theorem q2030 : (Jvm.Cond.methodLink "java/lang/Number" (1 : Nat) ({ cls := "java/lang/Object", name := "<init>", desc := "()V" } : Jvm.MethodName)) ∈ lw_all := lw_g (lw_at lw_m8 237 rfl) rfl

/-! java/lang/Integer -/
set_option maxRecDepth 100000
def RJ28 : String := "java/lang/Integer"
def TJ28 : u_T := fun k => match k with
  | _ => ("java/lang/Integer", "value", "I", true)
def tyJ28 : Nat → FieldType := fun k => match k with
  | _ => .int
abbrev wsJ280 : List Cond := u_ws RJ28 TJ28 1
theorem nmJ28 : ∀ a, a < 1 → ∀ b, b < 1 → a ≠ b → (TJ28 a).2.1 ≠ (TJ28 b).2.1 := by decide +kernel
theorem tyJ28_ok : ∀ k, k < 1 → parseFieldDescriptor (TJ28 k).2.2.1 = some (tyJ28 k) := by decide +kernel
abbrev cJ28_stringSize : ByteArray := prog_26_method_13_code
def yJ28_stringSize : MethodName := ⟨RJ28, "stringSize", "(I)I"⟩
def dkwJ28_stringSize_1 : List UInt8 := [164, 0, 7, 29, 27, 96, 172, 16, 10, 28, 104, 61, 132, 3, 1, 167, 255, 233, 16, 10, 27, 96, 172]
abbrev dktJ28_stringSize_1 : List UInt8 := dkwJ28_stringSize_1 ++ []
def dkwJ28_stringSize_0 : List UInt8 := [4, 60, 26, 155, 0, 8, 3, 60, 26, 116, 59, 16, 246, 61, 4, 62, 29, 16, 10, 162, 0, 23, 26, 28]
abbrev dktJ28_stringSize_0 : List UInt8 := dkwJ28_stringSize_0 ++ dktJ28_stringSize_1
theorem dksJ28_stringSize_0 : cJ28_stringSize.data.toList.drop 0 = dktJ28_stringSize_0 := by decide +kernel
theorem dksJ28_stringSize_1 : cJ28_stringSize.data.toList.drop 24 = dktJ28_stringSize_1 := dk_seg dksJ28_stringSize_0 24 rfl rfl
theorem dJ28_stringSize_0 : decode cJ28_stringSize 0 = .ok (.iconst 1, 1) := dk_4 (dk_at dksJ28_stringSize_0 0 rfl rfl)
theorem dJ28_stringSize_1 : decode cJ28_stringSize 1 = .ok (.istore_n 1, 1) := dk_60 (dk_at dksJ28_stringSize_0 1 rfl rfl)
theorem dJ28_stringSize_2 : decode cJ28_stringSize 2 = .ok (.iload_n 0, 1) := dk_26 (dk_at dksJ28_stringSize_0 2 rfl rfl)
theorem dJ28_stringSize_3 : decode cJ28_stringSize 3 = .ok (.ifCond .lt 8, 3) := dk_155 0 8 (dk_at dksJ28_stringSize_0 3 rfl rfl)
theorem dJ28_stringSize_6 : decode cJ28_stringSize 6 = .ok (.iconst 0, 1) := dk_3 (dk_at dksJ28_stringSize_0 6 rfl rfl)
theorem dJ28_stringSize_7 : decode cJ28_stringSize 7 = .ok (.istore_n 1, 1) := dk_60 (dk_at dksJ28_stringSize_0 7 rfl rfl)
theorem dJ28_stringSize_8 : decode cJ28_stringSize 8 = .ok (.iload_n 0, 1) := dk_26 (dk_at dksJ28_stringSize_0 8 rfl rfl)
theorem dJ28_stringSize_9 : decode cJ28_stringSize 9 = .ok (.ineg, 1) := dk_116 (dk_at dksJ28_stringSize_0 9 rfl rfl)
theorem dJ28_stringSize_10 : decode cJ28_stringSize 10 = .ok (.istore_n 0, 1) := dk_59 (dk_at dksJ28_stringSize_0 10 rfl rfl)
theorem dJ28_stringSize_11 : decode cJ28_stringSize 11 = .ok (.bipush (-10), 2) := dk_16 246 (dk_at dksJ28_stringSize_0 11 rfl rfl)
theorem dJ28_stringSize_13 : decode cJ28_stringSize 13 = .ok (.istore_n 2, 1) := dk_61 (dk_at dksJ28_stringSize_0 13 rfl rfl)
theorem dJ28_stringSize_14 : decode cJ28_stringSize 14 = .ok (.iconst 1, 1) := dk_4 (dk_at dksJ28_stringSize_0 14 rfl rfl)
theorem dJ28_stringSize_15 : decode cJ28_stringSize 15 = .ok (.istore_n 3, 1) := dk_62 (dk_at dksJ28_stringSize_0 15 rfl rfl)
theorem dJ28_stringSize_16 : decode cJ28_stringSize 16 = .ok (.iload_n 3, 1) := dk_29 (dk_at dksJ28_stringSize_0 16 rfl rfl)
theorem dJ28_stringSize_17 : decode cJ28_stringSize 17 = .ok (.bipush 10, 2) := dk_16 10 (dk_at dksJ28_stringSize_0 17 rfl rfl)
theorem dJ28_stringSize_19 : decode cJ28_stringSize 19 = .ok (.if_icmp .ge 23, 3) := dk_162 0 23 (dk_at dksJ28_stringSize_0 19 rfl rfl)
theorem dJ28_stringSize_22 : decode cJ28_stringSize 22 = .ok (.iload_n 0, 1) := dk_26 (dk_at dksJ28_stringSize_0 22 rfl rfl)
theorem dJ28_stringSize_23 : decode cJ28_stringSize 23 = .ok (.iload_n 2, 1) := dk_28 (dk_at dksJ28_stringSize_0 23 rfl rfl)
theorem dJ28_stringSize_24 : decode cJ28_stringSize 24 = .ok (.if_icmp .le 7, 3) := dk_164 0 7 (dk_at dksJ28_stringSize_1 0 rfl rfl)
theorem dJ28_stringSize_27 : decode cJ28_stringSize 27 = .ok (.iload_n 3, 1) := dk_29 (dk_at dksJ28_stringSize_1 3 rfl rfl)
theorem dJ28_stringSize_28 : decode cJ28_stringSize 28 = .ok (.iload_n 1, 1) := dk_27 (dk_at dksJ28_stringSize_1 4 rfl rfl)
theorem dJ28_stringSize_29 : decode cJ28_stringSize 29 = .ok (.iadd, 1) := dk_96 (dk_at dksJ28_stringSize_1 5 rfl rfl)
theorem dJ28_stringSize_30 : decode cJ28_stringSize 30 = .ok (.ireturn, 1) := dk_172 (dk_at dksJ28_stringSize_1 6 rfl rfl)
theorem dJ28_stringSize_31 : decode cJ28_stringSize 31 = .ok (.bipush 10, 2) := dk_16 10 (dk_at dksJ28_stringSize_1 7 rfl rfl)
theorem dJ28_stringSize_33 : decode cJ28_stringSize 33 = .ok (.iload_n 2, 1) := dk_28 (dk_at dksJ28_stringSize_1 9 rfl rfl)
theorem dJ28_stringSize_34 : decode cJ28_stringSize 34 = .ok (.imul, 1) := dk_104 (dk_at dksJ28_stringSize_1 10 rfl rfl)
theorem dJ28_stringSize_35 : decode cJ28_stringSize 35 = .ok (.istore_n 2, 1) := dk_61 (dk_at dksJ28_stringSize_1 11 rfl rfl)
theorem dJ28_stringSize_36 : decode cJ28_stringSize 36 = .ok (.iinc 3 1, 3) := dk_132 3 1 (dk_at dksJ28_stringSize_1 12 rfl rfl)
theorem dJ28_stringSize_39 : decode cJ28_stringSize 39 = .ok (.goto (-23), 3) := dk_167 255 233 (dk_at dksJ28_stringSize_1 15 rfl rfl)
theorem dJ28_stringSize_42 : decode cJ28_stringSize 42 = .ok (.bipush 10, 2) := dk_16 10 (dk_at dksJ28_stringSize_1 18 rfl rfl)
theorem dJ28_stringSize_44 : decode cJ28_stringSize 44 = .ok (.iload_n 1, 1) := dk_27 (dk_at dksJ28_stringSize_1 20 rfl rfl)
theorem dJ28_stringSize_45 : decode cJ28_stringSize 45 = .ok (.iadd, 1) := dk_96 (dk_at dksJ28_stringSize_1 21 rfl rfl)
theorem dJ28_stringSize_46 : decode cJ28_stringSize 46 = .ok (.ireturn, 1) := dk_172 (dk_at dksJ28_stringSize_1 22 rfl rfl)
abbrev cJ28_getChars : ByteArray := prog_26_method_12_code
def yJ28_getChars : MethodName := ⟨RJ28, "getChars", "(II[B)I"⟩
def dkwJ28_getChars_5 : List UInt8 := [16, 45, 84, 21, 5, 172]
abbrev dktJ28_getChars_5 : List UInt8 := dkwJ28_getChars_5 ++ []
def dkwJ28_getChars_4 : List UInt8 := [132, 5, 255, 21, 5, 178, 0, 87, 26, 116, 51, 84, 21, 6, 153, 0, 12, 44, 132, 5, 255, 21, 5]
abbrev dktJ28_getChars_4 : List UInt8 := dkwJ28_getChars_4 ++ dktJ28_getChars_5
def dkwJ28_getChars_3 : List UInt8 := [167, 255, 209, 44, 132, 5, 255, 21, 5, 178, 0, 83, 26, 116, 51, 84, 26, 16, 247, 162, 0, 16, 44]
abbrev dktJ28_getChars_3 : List UInt8 := dkwJ28_getChars_3 ++ dktJ28_getChars_4
def dkwJ28_getChars_2 : List UInt8 := [21, 5, 178, 0, 83, 21, 4, 51, 84, 44, 132, 5, 255, 21, 5, 178, 0, 87, 21, 4, 51, 84]
abbrev dktJ28_getChars_2 : List UInt8 := dkwJ28_getChars_2 ++ dktJ28_getChars_3
def dkwJ28_getChars_1 : List UInt8 := [16, 156, 163, 0, 47, 26, 16, 100, 108, 62, 29, 16, 100, 104, 26, 100, 54, 4, 29, 59, 44, 132, 5, 255]
abbrev dktJ28_getChars_1 : List UInt8 := dkwJ28_getChars_1 ++ dktJ28_getChars_2
def dkwJ28_getChars_0 : List UInt8 := [27, 54, 5, 26, 156, 0, 7, 4, 167, 0, 4, 3, 54, 6, 21, 6, 154, 0, 6, 26, 116, 59, 26]
abbrev dktJ28_getChars_0 : List UInt8 := dkwJ28_getChars_0 ++ dktJ28_getChars_1
theorem dksJ28_getChars_0 : cJ28_getChars.data.toList.drop 0 = dktJ28_getChars_0 := by decide +kernel
theorem dksJ28_getChars_1 : cJ28_getChars.data.toList.drop 23 = dktJ28_getChars_1 := dk_seg dksJ28_getChars_0 23 rfl rfl
theorem dksJ28_getChars_2 : cJ28_getChars.data.toList.drop 47 = dktJ28_getChars_2 := dk_seg dksJ28_getChars_1 24 rfl rfl
theorem dksJ28_getChars_3 : cJ28_getChars.data.toList.drop 69 = dktJ28_getChars_3 := dk_seg dksJ28_getChars_2 22 rfl rfl
theorem dksJ28_getChars_4 : cJ28_getChars.data.toList.drop 92 = dktJ28_getChars_4 := dk_seg dksJ28_getChars_3 23 rfl rfl
theorem dksJ28_getChars_5 : cJ28_getChars.data.toList.drop 115 = dktJ28_getChars_5 := dk_seg dksJ28_getChars_4 23 rfl rfl
theorem dJ28_getChars_0 : decode cJ28_getChars 0 = .ok (.iload_n 1, 1) := dk_27 (dk_at dksJ28_getChars_0 0 rfl rfl)
theorem dJ28_getChars_1 : decode cJ28_getChars 1 = .ok (.istore 5, 2) := dk_54 5 (dk_at dksJ28_getChars_0 1 rfl rfl)
theorem dJ28_getChars_3 : decode cJ28_getChars 3 = .ok (.iload_n 0, 1) := dk_26 (dk_at dksJ28_getChars_0 3 rfl rfl)
theorem dJ28_getChars_4 : decode cJ28_getChars 4 = .ok (.ifCond .ge 7, 3) := dk_156 0 7 (dk_at dksJ28_getChars_0 4 rfl rfl)
theorem dJ28_getChars_7 : decode cJ28_getChars 7 = .ok (.iconst 1, 1) := dk_4 (dk_at dksJ28_getChars_0 7 rfl rfl)
theorem dJ28_getChars_8 : decode cJ28_getChars 8 = .ok (.goto 4, 3) := dk_167 0 4 (dk_at dksJ28_getChars_0 8 rfl rfl)
theorem dJ28_getChars_11 : decode cJ28_getChars 11 = .ok (.iconst 0, 1) := dk_3 (dk_at dksJ28_getChars_0 11 rfl rfl)
theorem dJ28_getChars_12 : decode cJ28_getChars 12 = .ok (.istore 6, 2) := dk_54 6 (dk_at dksJ28_getChars_0 12 rfl rfl)
theorem dJ28_getChars_14 : decode cJ28_getChars 14 = .ok (.iload 6, 2) := dk_21 6 (dk_at dksJ28_getChars_0 14 rfl rfl)
theorem dJ28_getChars_16 : decode cJ28_getChars 16 = .ok (.ifCond .ne 6, 3) := dk_154 0 6 (dk_at dksJ28_getChars_0 16 rfl rfl)
theorem dJ28_getChars_19 : decode cJ28_getChars 19 = .ok (.iload_n 0, 1) := dk_26 (dk_at dksJ28_getChars_0 19 rfl rfl)
theorem dJ28_getChars_20 : decode cJ28_getChars 20 = .ok (.ineg, 1) := dk_116 (dk_at dksJ28_getChars_0 20 rfl rfl)
theorem dJ28_getChars_21 : decode cJ28_getChars 21 = .ok (.istore_n 0, 1) := dk_59 (dk_at dksJ28_getChars_0 21 rfl rfl)
theorem dJ28_getChars_22 : decode cJ28_getChars 22 = .ok (.iload_n 0, 1) := dk_26 (dk_at dksJ28_getChars_0 22 rfl rfl)
theorem dJ28_getChars_23 : decode cJ28_getChars 23 = .ok (.bipush (-100), 2) := dk_16 156 (dk_at dksJ28_getChars_1 0 rfl rfl)
theorem dJ28_getChars_25 : decode cJ28_getChars 25 = .ok (.if_icmp .gt 47, 3) := dk_163 0 47 (dk_at dksJ28_getChars_1 2 rfl rfl)
theorem dJ28_getChars_28 : decode cJ28_getChars 28 = .ok (.iload_n 0, 1) := dk_26 (dk_at dksJ28_getChars_1 5 rfl rfl)
theorem dJ28_getChars_29 : decode cJ28_getChars 29 = .ok (.bipush 100, 2) := dk_16 100 (dk_at dksJ28_getChars_1 6 rfl rfl)
theorem dJ28_getChars_31 : decode cJ28_getChars 31 = .ok (.idiv, 1) := dk_108 (dk_at dksJ28_getChars_1 8 rfl rfl)
theorem dJ28_getChars_32 : decode cJ28_getChars 32 = .ok (.istore_n 3, 1) := dk_62 (dk_at dksJ28_getChars_1 9 rfl rfl)
theorem dJ28_getChars_33 : decode cJ28_getChars 33 = .ok (.iload_n 3, 1) := dk_29 (dk_at dksJ28_getChars_1 10 rfl rfl)
theorem dJ28_getChars_34 : decode cJ28_getChars 34 = .ok (.bipush 100, 2) := dk_16 100 (dk_at dksJ28_getChars_1 11 rfl rfl)
theorem dJ28_getChars_36 : decode cJ28_getChars 36 = .ok (.imul, 1) := dk_104 (dk_at dksJ28_getChars_1 13 rfl rfl)
theorem dJ28_getChars_37 : decode cJ28_getChars 37 = .ok (.iload_n 0, 1) := dk_26 (dk_at dksJ28_getChars_1 14 rfl rfl)
theorem dJ28_getChars_38 : decode cJ28_getChars 38 = .ok (.isub, 1) := dk_100 (dk_at dksJ28_getChars_1 15 rfl rfl)
theorem dJ28_getChars_39 : decode cJ28_getChars 39 = .ok (.istore 4, 2) := dk_54 4 (dk_at dksJ28_getChars_1 16 rfl rfl)
theorem dJ28_getChars_41 : decode cJ28_getChars 41 = .ok (.iload_n 3, 1) := dk_29 (dk_at dksJ28_getChars_1 18 rfl rfl)
theorem dJ28_getChars_42 : decode cJ28_getChars 42 = .ok (.istore_n 0, 1) := dk_59 (dk_at dksJ28_getChars_1 19 rfl rfl)
theorem dJ28_getChars_43 : decode cJ28_getChars 43 = .ok (.aload_n 2, 1) := dk_44 (dk_at dksJ28_getChars_1 20 rfl rfl)
theorem dJ28_getChars_44 : decode cJ28_getChars 44 = .ok (.iinc 5 (-1), 3) := dk_132 5 255 (dk_at dksJ28_getChars_1 21 rfl rfl)
theorem dJ28_getChars_47 : decode cJ28_getChars 47 = .ok (.iload 5, 2) := dk_21 5 (dk_at dksJ28_getChars_2 0 rfl rfl)
theorem dJ28_getChars_49 : decode cJ28_getChars 49 = .ok (.getstatic 83, 3) := dk_178 0 83 (dk_at dksJ28_getChars_2 2 rfl rfl)
theorem dJ28_getChars_52 : decode cJ28_getChars 52 = .ok (.iload 4, 2) := dk_21 4 (dk_at dksJ28_getChars_2 5 rfl rfl)
theorem dJ28_getChars_54 : decode cJ28_getChars 54 = .ok (.baload, 1) := dk_51 (dk_at dksJ28_getChars_2 7 rfl rfl)
theorem dJ28_getChars_55 : decode cJ28_getChars 55 = .ok (.bastore, 1) := dk_84 (dk_at dksJ28_getChars_2 8 rfl rfl)
theorem dJ28_getChars_56 : decode cJ28_getChars 56 = .ok (.aload_n 2, 1) := dk_44 (dk_at dksJ28_getChars_2 9 rfl rfl)
theorem dJ28_getChars_57 : decode cJ28_getChars 57 = .ok (.iinc 5 (-1), 3) := dk_132 5 255 (dk_at dksJ28_getChars_2 10 rfl rfl)
theorem dJ28_getChars_60 : decode cJ28_getChars 60 = .ok (.iload 5, 2) := dk_21 5 (dk_at dksJ28_getChars_2 13 rfl rfl)
theorem dJ28_getChars_62 : decode cJ28_getChars 62 = .ok (.getstatic 87, 3) := dk_178 0 87 (dk_at dksJ28_getChars_2 15 rfl rfl)
theorem dJ28_getChars_65 : decode cJ28_getChars 65 = .ok (.iload 4, 2) := dk_21 4 (dk_at dksJ28_getChars_2 18 rfl rfl)
theorem dJ28_getChars_67 : decode cJ28_getChars 67 = .ok (.baload, 1) := dk_51 (dk_at dksJ28_getChars_2 20 rfl rfl)
theorem dJ28_getChars_68 : decode cJ28_getChars 68 = .ok (.bastore, 1) := dk_84 (dk_at dksJ28_getChars_2 21 rfl rfl)
theorem dJ28_getChars_69 : decode cJ28_getChars 69 = .ok (.goto (-47), 3) := dk_167 255 209 (dk_at dksJ28_getChars_3 0 rfl rfl)
theorem dJ28_getChars_72 : decode cJ28_getChars 72 = .ok (.aload_n 2, 1) := dk_44 (dk_at dksJ28_getChars_3 3 rfl rfl)
theorem dJ28_getChars_73 : decode cJ28_getChars 73 = .ok (.iinc 5 (-1), 3) := dk_132 5 255 (dk_at dksJ28_getChars_3 4 rfl rfl)
theorem dJ28_getChars_76 : decode cJ28_getChars 76 = .ok (.iload 5, 2) := dk_21 5 (dk_at dksJ28_getChars_3 7 rfl rfl)
theorem dJ28_getChars_78 : decode cJ28_getChars 78 = .ok (.getstatic 83, 3) := dk_178 0 83 (dk_at dksJ28_getChars_3 9 rfl rfl)
theorem dJ28_getChars_81 : decode cJ28_getChars 81 = .ok (.iload_n 0, 1) := dk_26 (dk_at dksJ28_getChars_3 12 rfl rfl)
theorem dJ28_getChars_82 : decode cJ28_getChars 82 = .ok (.ineg, 1) := dk_116 (dk_at dksJ28_getChars_3 13 rfl rfl)
theorem dJ28_getChars_83 : decode cJ28_getChars 83 = .ok (.baload, 1) := dk_51 (dk_at dksJ28_getChars_3 14 rfl rfl)
theorem dJ28_getChars_84 : decode cJ28_getChars 84 = .ok (.bastore, 1) := dk_84 (dk_at dksJ28_getChars_3 15 rfl rfl)
theorem dJ28_getChars_85 : decode cJ28_getChars 85 = .ok (.iload_n 0, 1) := dk_26 (dk_at dksJ28_getChars_3 16 rfl rfl)
theorem dJ28_getChars_86 : decode cJ28_getChars 86 = .ok (.bipush (-9), 2) := dk_16 247 (dk_at dksJ28_getChars_3 17 rfl rfl)
theorem dJ28_getChars_88 : decode cJ28_getChars 88 = .ok (.if_icmp .ge 16, 3) := dk_162 0 16 (dk_at dksJ28_getChars_3 19 rfl rfl)
theorem dJ28_getChars_91 : decode cJ28_getChars 91 = .ok (.aload_n 2, 1) := dk_44 (dk_at dksJ28_getChars_3 22 rfl rfl)
theorem dJ28_getChars_92 : decode cJ28_getChars 92 = .ok (.iinc 5 (-1), 3) := dk_132 5 255 (dk_at dksJ28_getChars_4 0 rfl rfl)
theorem dJ28_getChars_95 : decode cJ28_getChars 95 = .ok (.iload 5, 2) := dk_21 5 (dk_at dksJ28_getChars_4 3 rfl rfl)
theorem dJ28_getChars_97 : decode cJ28_getChars 97 = .ok (.getstatic 87, 3) := dk_178 0 87 (dk_at dksJ28_getChars_4 5 rfl rfl)
theorem dJ28_getChars_100 : decode cJ28_getChars 100 = .ok (.iload_n 0, 1) := dk_26 (dk_at dksJ28_getChars_4 8 rfl rfl)
theorem dJ28_getChars_101 : decode cJ28_getChars 101 = .ok (.ineg, 1) := dk_116 (dk_at dksJ28_getChars_4 9 rfl rfl)
theorem dJ28_getChars_102 : decode cJ28_getChars 102 = .ok (.baload, 1) := dk_51 (dk_at dksJ28_getChars_4 10 rfl rfl)
theorem dJ28_getChars_103 : decode cJ28_getChars 103 = .ok (.bastore, 1) := dk_84 (dk_at dksJ28_getChars_4 11 rfl rfl)
theorem dJ28_getChars_104 : decode cJ28_getChars 104 = .ok (.iload 6, 2) := dk_21 6 (dk_at dksJ28_getChars_4 12 rfl rfl)
theorem dJ28_getChars_106 : decode cJ28_getChars 106 = .ok (.ifCond .eq 12, 3) := dk_153 0 12 (dk_at dksJ28_getChars_4 14 rfl rfl)
theorem dJ28_getChars_109 : decode cJ28_getChars 109 = .ok (.aload_n 2, 1) := dk_44 (dk_at dksJ28_getChars_4 17 rfl rfl)
theorem dJ28_getChars_110 : decode cJ28_getChars 110 = .ok (.iinc 5 (-1), 3) := dk_132 5 255 (dk_at dksJ28_getChars_4 18 rfl rfl)
theorem dJ28_getChars_113 : decode cJ28_getChars 113 = .ok (.iload 5, 2) := dk_21 5 (dk_at dksJ28_getChars_4 21 rfl rfl)
theorem dJ28_getChars_115 : decode cJ28_getChars 115 = .ok (.bipush 45, 2) := dk_16 45 (dk_at dksJ28_getChars_5 0 rfl rfl)
theorem dJ28_getChars_117 : decode cJ28_getChars 117 = .ok (.bastore, 1) := dk_84 (dk_at dksJ28_getChars_5 2 rfl rfl)
theorem dJ28_getChars_118 : decode cJ28_getChars 118 = .ok (.iload 5, 2) := dk_21 5 (dk_at dksJ28_getChars_5 3 rfl rfl)
theorem dJ28_getChars_120 : decode cJ28_getChars 120 = .ok (.ireturn, 1) := dk_172 (dk_at dksJ28_getChars_5 5 rfl rfl)
abbrev cJ28_numberOfTrailingZeros : ByteArray := prog_26_method_48_code
def yJ28_numberOfTrailingZeros : MethodName := ⟨RJ28, "numberOfTrailingZeros", "(I)I"⟩
def dkwJ28_numberOfTrailingZeros_3 : List UInt8 := [5, 124, 59, 27, 26, 4, 124, 96, 172]
abbrev dktJ28_numberOfTrailingZeros_3 : List UInt8 := dkwJ28_numberOfTrailingZeros_3 ++ []
def dkwJ28_numberOfTrailingZeros_2 : List UInt8 := [124, 59, 26, 16, 16, 164, 0, 10, 132, 1, 4, 26, 7, 124, 59, 26, 7, 164, 0, 10, 132, 1, 2, 26]
abbrev dktJ28_numberOfTrailingZeros_2 : List UInt8 := dkwJ28_numberOfTrailingZeros_2 ++ dktJ28_numberOfTrailingZeros_3
def dkwJ28_numberOfTrailingZeros_1 : List UInt8 := [164, 0, 11, 132, 1, 16, 26, 16, 16, 124, 59, 26, 17, 1, 0, 164, 0, 11, 132, 1, 8, 26, 16, 8]
abbrev dktJ28_numberOfTrailingZeros_1 : List UInt8 := dkwJ28_numberOfTrailingZeros_1 ++ dktJ28_numberOfTrailingZeros_2
def dkwJ28_numberOfTrailingZeros_0 : List UInt8 := [26, 2, 130, 26, 4, 100, 126, 59, 26, 157, 0, 8, 26, 16, 32, 126, 172, 4, 60, 26, 19, 1, 8]
abbrev dktJ28_numberOfTrailingZeros_0 : List UInt8 := dkwJ28_numberOfTrailingZeros_0 ++ dktJ28_numberOfTrailingZeros_1
theorem dksJ28_numberOfTrailingZeros_0 : cJ28_numberOfTrailingZeros.data.toList.drop 0 = dktJ28_numberOfTrailingZeros_0 := by decide +kernel
theorem dksJ28_numberOfTrailingZeros_1 : cJ28_numberOfTrailingZeros.data.toList.drop 23 = dktJ28_numberOfTrailingZeros_1 := dk_seg dksJ28_numberOfTrailingZeros_0 23 rfl rfl
theorem dksJ28_numberOfTrailingZeros_2 : cJ28_numberOfTrailingZeros.data.toList.drop 47 = dktJ28_numberOfTrailingZeros_2 := dk_seg dksJ28_numberOfTrailingZeros_1 24 rfl rfl
theorem dksJ28_numberOfTrailingZeros_3 : cJ28_numberOfTrailingZeros.data.toList.drop 71 = dktJ28_numberOfTrailingZeros_3 := dk_seg dksJ28_numberOfTrailingZeros_2 24 rfl rfl
theorem dJ28_numberOfTrailingZeros_0 : decode cJ28_numberOfTrailingZeros 0 = .ok (.iload_n 0, 1) := dk_26 (dk_at dksJ28_numberOfTrailingZeros_0 0 rfl rfl)
theorem dJ28_numberOfTrailingZeros_1 : decode cJ28_numberOfTrailingZeros 1 = .ok (.iconst (-1), 1) := dk_2 (dk_at dksJ28_numberOfTrailingZeros_0 1 rfl rfl)
theorem dJ28_numberOfTrailingZeros_2 : decode cJ28_numberOfTrailingZeros 2 = .ok (.ixor, 1) := dk_130 (dk_at dksJ28_numberOfTrailingZeros_0 2 rfl rfl)
theorem dJ28_numberOfTrailingZeros_3 : decode cJ28_numberOfTrailingZeros 3 = .ok (.iload_n 0, 1) := dk_26 (dk_at dksJ28_numberOfTrailingZeros_0 3 rfl rfl)
theorem dJ28_numberOfTrailingZeros_4 : decode cJ28_numberOfTrailingZeros 4 = .ok (.iconst 1, 1) := dk_4 (dk_at dksJ28_numberOfTrailingZeros_0 4 rfl rfl)
theorem dJ28_numberOfTrailingZeros_5 : decode cJ28_numberOfTrailingZeros 5 = .ok (.isub, 1) := dk_100 (dk_at dksJ28_numberOfTrailingZeros_0 5 rfl rfl)
theorem dJ28_numberOfTrailingZeros_6 : decode cJ28_numberOfTrailingZeros 6 = .ok (.iand, 1) := dk_126 (dk_at dksJ28_numberOfTrailingZeros_0 6 rfl rfl)
theorem dJ28_numberOfTrailingZeros_7 : decode cJ28_numberOfTrailingZeros 7 = .ok (.istore_n 0, 1) := dk_59 (dk_at dksJ28_numberOfTrailingZeros_0 7 rfl rfl)
theorem dJ28_numberOfTrailingZeros_8 : decode cJ28_numberOfTrailingZeros 8 = .ok (.iload_n 0, 1) := dk_26 (dk_at dksJ28_numberOfTrailingZeros_0 8 rfl rfl)
theorem dJ28_numberOfTrailingZeros_9 : decode cJ28_numberOfTrailingZeros 9 = .ok (.ifCond .gt 8, 3) := dk_157 0 8 (dk_at dksJ28_numberOfTrailingZeros_0 9 rfl rfl)
theorem dJ28_numberOfTrailingZeros_12 : decode cJ28_numberOfTrailingZeros 12 = .ok (.iload_n 0, 1) := dk_26 (dk_at dksJ28_numberOfTrailingZeros_0 12 rfl rfl)
theorem dJ28_numberOfTrailingZeros_13 : decode cJ28_numberOfTrailingZeros 13 = .ok (.bipush 32, 2) := dk_16 32 (dk_at dksJ28_numberOfTrailingZeros_0 13 rfl rfl)
theorem dJ28_numberOfTrailingZeros_15 : decode cJ28_numberOfTrailingZeros 15 = .ok (.iand, 1) := dk_126 (dk_at dksJ28_numberOfTrailingZeros_0 15 rfl rfl)
theorem dJ28_numberOfTrailingZeros_16 : decode cJ28_numberOfTrailingZeros 16 = .ok (.ireturn, 1) := dk_172 (dk_at dksJ28_numberOfTrailingZeros_0 16 rfl rfl)
theorem dJ28_numberOfTrailingZeros_17 : decode cJ28_numberOfTrailingZeros 17 = .ok (.iconst 1, 1) := dk_4 (dk_at dksJ28_numberOfTrailingZeros_0 17 rfl rfl)
theorem dJ28_numberOfTrailingZeros_18 : decode cJ28_numberOfTrailingZeros 18 = .ok (.istore_n 1, 1) := dk_60 (dk_at dksJ28_numberOfTrailingZeros_0 18 rfl rfl)
theorem dJ28_numberOfTrailingZeros_19 : decode cJ28_numberOfTrailingZeros 19 = .ok (.iload_n 0, 1) := dk_26 (dk_at dksJ28_numberOfTrailingZeros_0 19 rfl rfl)
theorem dJ28_numberOfTrailingZeros_20 : decode cJ28_numberOfTrailingZeros 20 = .ok (.ldc_w 264, 3) := dk_19 1 8 (dk_at dksJ28_numberOfTrailingZeros_0 20 rfl rfl)
theorem dJ28_numberOfTrailingZeros_23 : decode cJ28_numberOfTrailingZeros 23 = .ok (.if_icmp .le 11, 3) := dk_164 0 11 (dk_at dksJ28_numberOfTrailingZeros_1 0 rfl rfl)
theorem dJ28_numberOfTrailingZeros_26 : decode cJ28_numberOfTrailingZeros 26 = .ok (.iinc 1 16, 3) := dk_132 1 16 (dk_at dksJ28_numberOfTrailingZeros_1 3 rfl rfl)
theorem dJ28_numberOfTrailingZeros_29 : decode cJ28_numberOfTrailingZeros 29 = .ok (.iload_n 0, 1) := dk_26 (dk_at dksJ28_numberOfTrailingZeros_1 6 rfl rfl)
theorem dJ28_numberOfTrailingZeros_30 : decode cJ28_numberOfTrailingZeros 30 = .ok (.bipush 16, 2) := dk_16 16 (dk_at dksJ28_numberOfTrailingZeros_1 7 rfl rfl)
theorem dJ28_numberOfTrailingZeros_32 : decode cJ28_numberOfTrailingZeros 32 = .ok (.iushr, 1) := dk_124 (dk_at dksJ28_numberOfTrailingZeros_1 9 rfl rfl)
theorem dJ28_numberOfTrailingZeros_33 : decode cJ28_numberOfTrailingZeros 33 = .ok (.istore_n 0, 1) := dk_59 (dk_at dksJ28_numberOfTrailingZeros_1 10 rfl rfl)
theorem dJ28_numberOfTrailingZeros_34 : decode cJ28_numberOfTrailingZeros 34 = .ok (.iload_n 0, 1) := dk_26 (dk_at dksJ28_numberOfTrailingZeros_1 11 rfl rfl)
theorem dJ28_numberOfTrailingZeros_35 : decode cJ28_numberOfTrailingZeros 35 = .ok (.sipush 256, 3) := dk_17 1 0 (dk_at dksJ28_numberOfTrailingZeros_1 12 rfl rfl)
theorem dJ28_numberOfTrailingZeros_38 : decode cJ28_numberOfTrailingZeros 38 = .ok (.if_icmp .le 11, 3) := dk_164 0 11 (dk_at dksJ28_numberOfTrailingZeros_1 15 rfl rfl)
theorem dJ28_numberOfTrailingZeros_41 : decode cJ28_numberOfTrailingZeros 41 = .ok (.iinc 1 8, 3) := dk_132 1 8 (dk_at dksJ28_numberOfTrailingZeros_1 18 rfl rfl)
theorem dJ28_numberOfTrailingZeros_44 : decode cJ28_numberOfTrailingZeros 44 = .ok (.iload_n 0, 1) := dk_26 (dk_at dksJ28_numberOfTrailingZeros_1 21 rfl rfl)
theorem dJ28_numberOfTrailingZeros_45 : decode cJ28_numberOfTrailingZeros 45 = .ok (.bipush 8, 2) := dk_16 8 (dk_at dksJ28_numberOfTrailingZeros_1 22 rfl rfl)
theorem dJ28_numberOfTrailingZeros_47 : decode cJ28_numberOfTrailingZeros 47 = .ok (.iushr, 1) := dk_124 (dk_at dksJ28_numberOfTrailingZeros_2 0 rfl rfl)
theorem dJ28_numberOfTrailingZeros_48 : decode cJ28_numberOfTrailingZeros 48 = .ok (.istore_n 0, 1) := dk_59 (dk_at dksJ28_numberOfTrailingZeros_2 1 rfl rfl)
theorem dJ28_numberOfTrailingZeros_49 : decode cJ28_numberOfTrailingZeros 49 = .ok (.iload_n 0, 1) := dk_26 (dk_at dksJ28_numberOfTrailingZeros_2 2 rfl rfl)
theorem dJ28_numberOfTrailingZeros_50 : decode cJ28_numberOfTrailingZeros 50 = .ok (.bipush 16, 2) := dk_16 16 (dk_at dksJ28_numberOfTrailingZeros_2 3 rfl rfl)
theorem dJ28_numberOfTrailingZeros_52 : decode cJ28_numberOfTrailingZeros 52 = .ok (.if_icmp .le 10, 3) := dk_164 0 10 (dk_at dksJ28_numberOfTrailingZeros_2 5 rfl rfl)
theorem dJ28_numberOfTrailingZeros_55 : decode cJ28_numberOfTrailingZeros 55 = .ok (.iinc 1 4, 3) := dk_132 1 4 (dk_at dksJ28_numberOfTrailingZeros_2 8 rfl rfl)
theorem dJ28_numberOfTrailingZeros_58 : decode cJ28_numberOfTrailingZeros 58 = .ok (.iload_n 0, 1) := dk_26 (dk_at dksJ28_numberOfTrailingZeros_2 11 rfl rfl)
theorem dJ28_numberOfTrailingZeros_59 : decode cJ28_numberOfTrailingZeros 59 = .ok (.iconst 4, 1) := dk_7 (dk_at dksJ28_numberOfTrailingZeros_2 12 rfl rfl)
theorem dJ28_numberOfTrailingZeros_60 : decode cJ28_numberOfTrailingZeros 60 = .ok (.iushr, 1) := dk_124 (dk_at dksJ28_numberOfTrailingZeros_2 13 rfl rfl)
theorem dJ28_numberOfTrailingZeros_61 : decode cJ28_numberOfTrailingZeros 61 = .ok (.istore_n 0, 1) := dk_59 (dk_at dksJ28_numberOfTrailingZeros_2 14 rfl rfl)
theorem dJ28_numberOfTrailingZeros_62 : decode cJ28_numberOfTrailingZeros 62 = .ok (.iload_n 0, 1) := dk_26 (dk_at dksJ28_numberOfTrailingZeros_2 15 rfl rfl)
theorem dJ28_numberOfTrailingZeros_63 : decode cJ28_numberOfTrailingZeros 63 = .ok (.iconst 4, 1) := dk_7 (dk_at dksJ28_numberOfTrailingZeros_2 16 rfl rfl)
theorem dJ28_numberOfTrailingZeros_64 : decode cJ28_numberOfTrailingZeros 64 = .ok (.if_icmp .le 10, 3) := dk_164 0 10 (dk_at dksJ28_numberOfTrailingZeros_2 17 rfl rfl)
theorem dJ28_numberOfTrailingZeros_67 : decode cJ28_numberOfTrailingZeros 67 = .ok (.iinc 1 2, 3) := dk_132 1 2 (dk_at dksJ28_numberOfTrailingZeros_2 20 rfl rfl)
theorem dJ28_numberOfTrailingZeros_70 : decode cJ28_numberOfTrailingZeros 70 = .ok (.iload_n 0, 1) := dk_26 (dk_at dksJ28_numberOfTrailingZeros_2 23 rfl rfl)
theorem dJ28_numberOfTrailingZeros_71 : decode cJ28_numberOfTrailingZeros 71 = .ok (.iconst 2, 1) := dk_5 (dk_at dksJ28_numberOfTrailingZeros_3 0 rfl rfl)
theorem dJ28_numberOfTrailingZeros_72 : decode cJ28_numberOfTrailingZeros 72 = .ok (.iushr, 1) := dk_124 (dk_at dksJ28_numberOfTrailingZeros_3 1 rfl rfl)
theorem dJ28_numberOfTrailingZeros_73 : decode cJ28_numberOfTrailingZeros 73 = .ok (.istore_n 0, 1) := dk_59 (dk_at dksJ28_numberOfTrailingZeros_3 2 rfl rfl)
theorem dJ28_numberOfTrailingZeros_74 : decode cJ28_numberOfTrailingZeros 74 = .ok (.iload_n 1, 1) := dk_27 (dk_at dksJ28_numberOfTrailingZeros_3 3 rfl rfl)
theorem dJ28_numberOfTrailingZeros_75 : decode cJ28_numberOfTrailingZeros 75 = .ok (.iload_n 0, 1) := dk_26 (dk_at dksJ28_numberOfTrailingZeros_3 4 rfl rfl)
theorem dJ28_numberOfTrailingZeros_76 : decode cJ28_numberOfTrailingZeros 76 = .ok (.iconst 1, 1) := dk_4 (dk_at dksJ28_numberOfTrailingZeros_3 5 rfl rfl)
theorem dJ28_numberOfTrailingZeros_77 : decode cJ28_numberOfTrailingZeros 77 = .ok (.iushr, 1) := dk_124 (dk_at dksJ28_numberOfTrailingZeros_3 6 rfl rfl)
theorem dJ28_numberOfTrailingZeros_78 : decode cJ28_numberOfTrailingZeros 78 = .ok (.iadd, 1) := dk_96 (dk_at dksJ28_numberOfTrailingZeros_3 7 rfl rfl)
theorem dJ28_numberOfTrailingZeros_79 : decode cJ28_numberOfTrailingZeros 79 = .ok (.ireturn, 1) := dk_172 (dk_at dksJ28_numberOfTrailingZeros_3 8 rfl rfl)
abbrev cJ28_valueOf : ByteArray := prog_26_method_22_code
def yJ28_valueOf : MethodName := ⟨RJ28, "valueOf", "(I)Ljava/lang/Integer;"⟩
def dkwJ28_valueOf_1 : List UInt8 := [187, 0, 1, 89, 26, 183, 0, 199, 176]
abbrev dktJ28_valueOf_1 : List UInt8 := dkwJ28_valueOf_1 ++ []
def dkwJ28_valueOf_0 : List UInt8 := [26, 16, 128, 161, 0, 20, 26, 178, 0, 191, 163, 0, 13, 178, 0, 195, 26, 17, 0, 128, 96, 50, 176]
abbrev dktJ28_valueOf_0 : List UInt8 := dkwJ28_valueOf_0 ++ dktJ28_valueOf_1
theorem dksJ28_valueOf_0 : cJ28_valueOf.data.toList.drop 0 = dktJ28_valueOf_0 := by decide +kernel
theorem dksJ28_valueOf_1 : cJ28_valueOf.data.toList.drop 23 = dktJ28_valueOf_1 := dk_seg dksJ28_valueOf_0 23 rfl rfl
theorem dJ28_valueOf_0 : decode cJ28_valueOf 0 = .ok (.iload_n 0, 1) := dk_26 (dk_at dksJ28_valueOf_0 0 rfl rfl)
theorem dJ28_valueOf_1 : decode cJ28_valueOf 1 = .ok (.bipush (-128), 2) := dk_16 128 (dk_at dksJ28_valueOf_0 1 rfl rfl)
theorem dJ28_valueOf_3 : decode cJ28_valueOf 3 = .ok (.if_icmp .lt 20, 3) := dk_161 0 20 (dk_at dksJ28_valueOf_0 3 rfl rfl)
theorem dJ28_valueOf_6 : decode cJ28_valueOf 6 = .ok (.iload_n 0, 1) := dk_26 (dk_at dksJ28_valueOf_0 6 rfl rfl)
theorem dJ28_valueOf_7 : decode cJ28_valueOf 7 = .ok (.getstatic 191, 3) := dk_178 0 191 (dk_at dksJ28_valueOf_0 7 rfl rfl)
theorem dJ28_valueOf_10 : decode cJ28_valueOf 10 = .ok (.if_icmp .gt 13, 3) := dk_163 0 13 (dk_at dksJ28_valueOf_0 10 rfl rfl)
theorem dJ28_valueOf_13 : decode cJ28_valueOf 13 = .ok (.getstatic 195, 3) := dk_178 0 195 (dk_at dksJ28_valueOf_0 13 rfl rfl)
theorem dJ28_valueOf_16 : decode cJ28_valueOf 16 = .ok (.iload_n 0, 1) := dk_26 (dk_at dksJ28_valueOf_0 16 rfl rfl)
theorem dJ28_valueOf_17 : decode cJ28_valueOf 17 = .ok (.sipush 128, 3) := dk_17 0 128 (dk_at dksJ28_valueOf_0 17 rfl rfl)
theorem dJ28_valueOf_20 : decode cJ28_valueOf 20 = .ok (.iadd, 1) := dk_96 (dk_at dksJ28_valueOf_0 20 rfl rfl)
theorem dJ28_valueOf_21 : decode cJ28_valueOf 21 = .ok (.aaload, 1) := dk_50 (dk_at dksJ28_valueOf_0 21 rfl rfl)
theorem dJ28_valueOf_22 : decode cJ28_valueOf 22 = .ok (.areturn, 1) := dk_176 (dk_at dksJ28_valueOf_0 22 rfl rfl)
theorem dJ28_valueOf_23 : decode cJ28_valueOf 23 = .ok (.new 1, 3) := dk_187 0 1 (dk_at dksJ28_valueOf_1 0 rfl rfl)
theorem dJ28_valueOf_26 : decode cJ28_valueOf 26 = .ok (.dup, 1) := dk_89 (dk_at dksJ28_valueOf_1 3 rfl rfl)
theorem dJ28_valueOf_27 : decode cJ28_valueOf 27 = .ok (.iload_n 0, 1) := dk_26 (dk_at dksJ28_valueOf_1 4 rfl rfl)
theorem dJ28_valueOf_28 : decode cJ28_valueOf 28 = .ok (.invokespecial 199, 3) := dk_183 0 199 (dk_at dksJ28_valueOf_1 5 rfl rfl)
theorem dJ28_valueOf_31 : decode cJ28_valueOf 31 = .ok (.areturn, 1) := dk_176 (dk_at dksJ28_valueOf_1 8 rfl rfl)
abbrev cJ28_init : ByteArray := prog_26_method_23_code
def yJ28_init : MethodName := ⟨RJ28, "<init>", "(I)V"⟩
def dkwJ28_init_0 : List UInt8 := [42, 183, 0, 202, 42, 27, 181, 0, 205, 177]
abbrev dktJ28_init_0 : List UInt8 := dkwJ28_init_0 ++ []
theorem dksJ28_init_0 : cJ28_init.data.toList.drop 0 = dktJ28_init_0 := by decide +kernel
theorem dJ28_init_0 : decode cJ28_init 0 = .ok (.aload_n 0, 1) := dk_42 (dk_at dksJ28_init_0 0 rfl rfl)
theorem dJ28_init_1 : decode cJ28_init 1 = .ok (.invokespecial 202, 3) := dk_183 0 202 (dk_at dksJ28_init_0 1 rfl rfl)
theorem dJ28_init_4 : decode cJ28_init 4 = .ok (.aload_n 0, 1) := dk_42 (dk_at dksJ28_init_0 4 rfl rfl)
theorem dJ28_init_5 : decode cJ28_init 5 = .ok (.iload_n 1, 1) := dk_27 (dk_at dksJ28_init_0 5 rfl rfl)
theorem dJ28_init_6 : decode cJ28_init 6 = .ok (.putfield 205, 3) := dk_181 0 205 (dk_at dksJ28_init_0 6 rfl rfl)
theorem dJ28_init_9 : decode cJ28_init 9 = .ok (.return_, 1) := dk_177 (dk_at dksJ28_init_0 9 rfl rfl)
abbrev cJ28_intValue : ByteArray := prog_26_method_27_code
def yJ28_intValue : MethodName := ⟨RJ28, "intValue", "()I"⟩
theorem dJ28_intValue_0 : decode cJ28_intValue 0 = .ok (.aload_n 0, 1) := by decide +kernel
theorem dJ28_intValue_1 : decode cJ28_intValue 1 = .ok (.getfield 205, 3) := by decide +kernel
theorem dJ28_intValue_4 : decode cJ28_intValue 4 = .ok (.ireturn, 1) := by decide +kernel
theorem q153 : (Jvm.Cond.initialized "java/lang/Integer") ∈ lw_all := lw_g (lw_at lw_m1 40 rfl) rfl
theorem q231 : (Jvm.Cond.selects "java/lang/Integer" ({ cls := "java/lang/Object", name := "getClass", desc := "()Ljava/lang/Class;" } : Jvm.MethodName) ({ cls := "java/lang/Object", name := "getClass", desc := "()Ljava/lang/Class;" } : Jvm.MethodName)) ∈ lw_all := lw_g (lw_at lw_m1 118 rfl) rfl
theorem q942 : (Jvm.Cond.static ({ cls := "java/lang/Integer", name := "stringSize", desc := "(I)I" } : Jvm.MethodName)) ∈ lw_all := lw_g (lw_at lw_m4 109 rfl) rfl
theorem q943 : (Jvm.Cond.code ({ cls := "java/lang/Integer", name := "stringSize", desc := "(I)I" } : Jvm.MethodName) prog_26_method_13_code (4 : Nat) (Option.some Jvm.ClassFile.FieldType.int)) ∈ lw_all := lw_g (lw_at lw_m4 110 rfl) rfl
theorem q945 : (Jvm.Cond.static ({ cls := "java/lang/Integer", name := "getChars", desc := "(II[B)I" } : Jvm.MethodName)) ∈ lw_all := lw_g (lw_at lw_m4 112 rfl) rfl
theorem q946 : (Jvm.Cond.code ({ cls := "java/lang/Integer", name := "getChars", desc := "(II[B)I" } : Jvm.MethodName) prog_26_method_12_code (7 : Nat) (Option.some Jvm.ClassFile.FieldType.int)) ∈ lw_all := lw_g (lw_at lw_m4 113 rfl) rfl
theorem q947 : (Jvm.Cond.fieldLink "java/lang/Integer" (83 : Nat) "java/lang/Integer" "DigitOnes" "[B") ∈ lw_all := lw_g (lw_at lw_m4 114 rfl) rfl
theorem q948 : (Jvm.Cond.laysStatic "java/lang/Integer" "DigitOnes" "[B") ∈ lw_tbl := lw_at lw_m4 115 rfl
theorem q949 : (Jvm.Cond.fieldLink "java/lang/Integer" (87 : Nat) "java/lang/Integer" "DigitTens" "[B") ∈ lw_all := lw_g (lw_at lw_m4 116 rfl) rfl
theorem q950 : (Jvm.Cond.laysStatic "java/lang/Integer" "DigitTens" "[B") ∈ lw_tbl := lw_at lw_m4 117 rfl
theorem q1124 : (Jvm.Cond.static ({ cls := "java/lang/Integer", name := "numberOfTrailingZeros", desc := "(I)I" } : Jvm.MethodName)) ∈ lw_all := lw_g (lw_at lw_m5 51 rfl) rfl
theorem q1125 : (Jvm.Cond.code ({ cls := "java/lang/Integer", name := "numberOfTrailingZeros", desc := "(I)I" } : Jvm.MethodName) prog_26_method_48_code (2 : Nat) (Option.some Jvm.ClassFile.FieldType.int)) ∈ lw_all := lw_g (lw_at lw_m5 52 rfl) rfl
theorem q1126 : (Jvm.Cond.constant "java/lang/Integer" (264 : Nat) (65536 : Int32)) ∈ lw_all := lw_g (lw_at lw_m5 53 rfl) rfl
theorem q2016 : (Jvm.Cond.static ({ cls := "java/lang/Integer", name := "valueOf", desc := "(I)Ljava/lang/Integer;" } : Jvm.MethodName)) ∈ lw_all := lw_g (lw_at lw_m8 223 rfl) rfl
theorem q2017 : (Jvm.Cond.code ({ cls := "java/lang/Integer", name := "valueOf", desc := "(I)Ljava/lang/Integer;" } : Jvm.MethodName) prog_26_method_22_code (1 : Nat) (Option.some (Jvm.ClassFile.FieldType.object "java/lang/Integer"))) ∈ lw_all := lw_g (lw_at lw_m8 224 rfl) rfl
theorem q2018 : (Jvm.Cond.fieldLink "java/lang/Integer" (191 : Nat) "java/lang/Integer$IntegerCache" "high" "I") ∈ lw_all := lw_g (lw_at lw_m8 225 rfl) rfl
theorem q2020 : (Jvm.Cond.fieldLink "java/lang/Integer" (195 : Nat) "java/lang/Integer$IntegerCache" "cache" "[Ljava/lang/Integer;") ∈ lw_all := lw_g (lw_at lw_m8 227 rfl) rfl
theorem q2022 : (Jvm.Cond.classLink "java/lang/Integer" (1 : Nat) "java/lang/Integer") ∈ lw_all := lw_g (lw_at lw_m8 229 rfl) rfl
theorem q2023 : (Jvm.Cond.instantiable "java/lang/Integer" (1 : Nat)) ∈ lw_all := lw_g (lw_at lw_m8 230 rfl) rfl
theorem q2024 : (Jvm.Cond.methodLink "java/lang/Integer" (199 : Nat) ({ cls := "java/lang/Integer", name := "<init>", desc := "(I)V" } : Jvm.MethodName)) ∈ lw_all := lw_g (lw_at lw_m8 231 rfl) rfl
theorem q2025 : (Jvm.Cond.instanceMethod ({ cls := "java/lang/Integer", name := "<init>", desc := "(I)V" } : Jvm.MethodName)) ∈ lw_all := lw_g (lw_at lw_m8 232 rfl) rfl
theorem q2026 : (Jvm.Cond.code ({ cls := "java/lang/Integer", name := "<init>", desc := "(I)V" } : Jvm.MethodName) prog_26_method_23_code (2 : Nat) (Option.none : Option Jvm.ClassFile.FieldType)) ∈ lw_all := lw_g (lw_at lw_m8 233 rfl) rfl
theorem q2027 : (Jvm.Cond.methodLink "java/lang/Integer" (202 : Nat) ({ cls := "java/lang/Number", name := "<init>", desc := "()V" } : Jvm.MethodName)) ∈ lw_all := lw_g (lw_at lw_m8 234 rfl) rfl
theorem q2031 : (Jvm.Cond.fieldLink "java/lang/Integer" (205 : Nat) "java/lang/Integer" "value" "I") ∈ lw_all := lw_g (lw_at lw_m8 238 rfl) rfl
theorem q2032 : (Jvm.Cond.laysFinal "java/lang/Integer" "java/lang/Integer" "value" "I") ∈ lw_all := lw_g (lw_at lw_m8 239 rfl) rfl
theorem q2033 : (Jvm.Cond.soleField "java/lang/Integer" "value") ∈ lw_all := lw_g (lw_at lw_m9 0 rfl) rfl
theorem q2034 : (Jvm.Cond.superclass "java/lang/Integer" "java/lang/Number") ∈ lw_all := lw_g (lw_at lw_m9 1 rfl) rfl
theorem q2097 : (Jvm.Cond.instanceMethod ({ cls := "java/lang/Integer", name := "intValue", desc := "()I" } : Jvm.MethodName)) ∈ lw_all := lw_g (lw_at lw_m9 64 rfl) rfl
theorem q2098 : (Jvm.Cond.selects "java/lang/Integer" ({ cls := "java/lang/Integer", name := "intValue", desc := "()I" } : Jvm.MethodName) ({ cls := "java/lang/Integer", name := "intValue", desc := "()I" } : Jvm.MethodName)) ∈ lw_all := lw_g (lw_at lw_m9 65 rfl) rfl
theorem q2099 : (Jvm.Cond.code ({ cls := "java/lang/Integer", name := "intValue", desc := "()I" } : Jvm.MethodName) prog_26_method_27_code (1 : Nat) (Option.some Jvm.ClassFile.FieldType.int)) ∈ lw_all := lw_g (lw_at lw_m9 66 rfl) rfl
theorem q2807 : (Jvm.Cond.castable "java/lang/Integer" "java/lang/Object") ∈ lw_tbl := lw_at lw_m12 54 rfl
theorem in_J28 : ∀ w ∈ wsJ280, w ∈ lw_all := lw_in wsJ280 [2032] (by decide +kernel) (by decide +kernel)

/-! java/lang/Long -/
set_option maxRecDepth 100000
def RJ29 : String := "java/lang/Long"
abbrev cJ29_numberOfTrailingZeros : ByteArray := prog_29_method_49_code
def yJ29_numberOfTrailingZeros : MethodName := ⟨RJ29, "numberOfTrailingZeros", "(J)I"⟩
def dkwJ29_numberOfTrailingZeros_1 : List UInt8 := [184, 1, 55, 172]
abbrev dktJ29_numberOfTrailingZeros_1 : List UInt8 := dkwJ29_numberOfTrailingZeros_1 ++ []
def dkwJ29_numberOfTrailingZeros_0 : List UInt8 := [30, 136, 61, 28, 154, 0, 17, 16, 32, 30, 16, 32, 125, 136, 184, 1, 55, 96, 167, 0, 7, 28]
abbrev dktJ29_numberOfTrailingZeros_0 : List UInt8 := dkwJ29_numberOfTrailingZeros_0 ++ dktJ29_numberOfTrailingZeros_1
theorem dksJ29_numberOfTrailingZeros_0 : cJ29_numberOfTrailingZeros.data.toList.drop 0 = dktJ29_numberOfTrailingZeros_0 := by decide +kernel
theorem dksJ29_numberOfTrailingZeros_1 : cJ29_numberOfTrailingZeros.data.toList.drop 22 = dktJ29_numberOfTrailingZeros_1 := dk_seg dksJ29_numberOfTrailingZeros_0 22 rfl rfl
theorem dJ29_numberOfTrailingZeros_0 : decode cJ29_numberOfTrailingZeros 0 = .ok (.lload_n 0, 1) := dk_30 (dk_at dksJ29_numberOfTrailingZeros_0 0 rfl rfl)
theorem dJ29_numberOfTrailingZeros_1 : decode cJ29_numberOfTrailingZeros 1 = .ok (.l2i, 1) := dk_136 (dk_at dksJ29_numberOfTrailingZeros_0 1 rfl rfl)
theorem dJ29_numberOfTrailingZeros_2 : decode cJ29_numberOfTrailingZeros 2 = .ok (.istore_n 2, 1) := dk_61 (dk_at dksJ29_numberOfTrailingZeros_0 2 rfl rfl)
theorem dJ29_numberOfTrailingZeros_3 : decode cJ29_numberOfTrailingZeros 3 = .ok (.iload_n 2, 1) := dk_28 (dk_at dksJ29_numberOfTrailingZeros_0 3 rfl rfl)
theorem dJ29_numberOfTrailingZeros_4 : decode cJ29_numberOfTrailingZeros 4 = .ok (.ifCond .ne 17, 3) := dk_154 0 17 (dk_at dksJ29_numberOfTrailingZeros_0 4 rfl rfl)
theorem dJ29_numberOfTrailingZeros_7 : decode cJ29_numberOfTrailingZeros 7 = .ok (.bipush 32, 2) := dk_16 32 (dk_at dksJ29_numberOfTrailingZeros_0 7 rfl rfl)
theorem dJ29_numberOfTrailingZeros_9 : decode cJ29_numberOfTrailingZeros 9 = .ok (.lload_n 0, 1) := dk_30 (dk_at dksJ29_numberOfTrailingZeros_0 9 rfl rfl)
theorem dJ29_numberOfTrailingZeros_10 : decode cJ29_numberOfTrailingZeros 10 = .ok (.bipush 32, 2) := dk_16 32 (dk_at dksJ29_numberOfTrailingZeros_0 10 rfl rfl)
theorem dJ29_numberOfTrailingZeros_12 : decode cJ29_numberOfTrailingZeros 12 = .ok (.lushr, 1) := dk_125 (dk_at dksJ29_numberOfTrailingZeros_0 12 rfl rfl)
theorem dJ29_numberOfTrailingZeros_13 : decode cJ29_numberOfTrailingZeros 13 = .ok (.l2i, 1) := dk_136 (dk_at dksJ29_numberOfTrailingZeros_0 13 rfl rfl)
theorem dJ29_numberOfTrailingZeros_14 : decode cJ29_numberOfTrailingZeros 14 = .ok (.invokestatic 311, 3) := dk_184 1 55 (dk_at dksJ29_numberOfTrailingZeros_0 14 rfl rfl)
theorem dJ29_numberOfTrailingZeros_17 : decode cJ29_numberOfTrailingZeros 17 = .ok (.iadd, 1) := dk_96 (dk_at dksJ29_numberOfTrailingZeros_0 17 rfl rfl)
theorem dJ29_numberOfTrailingZeros_18 : decode cJ29_numberOfTrailingZeros 18 = .ok (.goto 7, 3) := dk_167 0 7 (dk_at dksJ29_numberOfTrailingZeros_0 18 rfl rfl)
theorem dJ29_numberOfTrailingZeros_21 : decode cJ29_numberOfTrailingZeros 21 = .ok (.iload_n 2, 1) := dk_28 (dk_at dksJ29_numberOfTrailingZeros_0 21 rfl rfl)
theorem dJ29_numberOfTrailingZeros_22 : decode cJ29_numberOfTrailingZeros 22 = .ok (.invokestatic 311, 3) := dk_184 1 55 (dk_at dksJ29_numberOfTrailingZeros_1 0 rfl rfl)
theorem dJ29_numberOfTrailingZeros_25 : decode cJ29_numberOfTrailingZeros 25 = .ok (.ireturn, 1) := dk_172 (dk_at dksJ29_numberOfTrailingZeros_1 3 rfl rfl)
abbrev cJ29_bitCount : ByteArray := prog_29_method_50_code
def yJ29_bitCount : MethodName := ⟨RJ29, "bitCount", "(J)I"⟩
def dkwJ29_bitCount_2 : List UInt8 := [30, 30, 16, 32, 125, 97, 63, 30, 136, 16, 127, 126, 172]
abbrev dktJ29_bitCount_2 : List UInt8 := dkwJ29_bitCount_2 ++ []
def dkwJ29_bitCount_1 : List UInt8 := [30, 30, 7, 125, 97, 20, 1, 62, 127, 63, 30, 30, 16, 8, 125, 97, 63, 30, 30, 16, 16, 125, 97, 63]
abbrev dktJ29_bitCount_1 : List UInt8 := dkwJ29_bitCount_1 ++ dktJ29_bitCount_2
def dkwJ29_bitCount_0 : List UInt8 := [30, 30, 4, 125, 20, 1, 58, 127, 101, 63, 30, 20, 1, 60, 127, 30, 5, 125, 20, 1, 60, 127, 97, 63]
abbrev dktJ29_bitCount_0 : List UInt8 := dkwJ29_bitCount_0 ++ dktJ29_bitCount_1
theorem dksJ29_bitCount_0 : cJ29_bitCount.data.toList.drop 0 = dktJ29_bitCount_0 := by decide +kernel
theorem dksJ29_bitCount_1 : cJ29_bitCount.data.toList.drop 24 = dktJ29_bitCount_1 := dk_seg dksJ29_bitCount_0 24 rfl rfl
theorem dksJ29_bitCount_2 : cJ29_bitCount.data.toList.drop 48 = dktJ29_bitCount_2 := dk_seg dksJ29_bitCount_1 24 rfl rfl
theorem dJ29_bitCount_0 : decode cJ29_bitCount 0 = .ok (.lload_n 0, 1) := dk_30 (dk_at dksJ29_bitCount_0 0 rfl rfl)
theorem dJ29_bitCount_1 : decode cJ29_bitCount 1 = .ok (.lload_n 0, 1) := dk_30 (dk_at dksJ29_bitCount_0 1 rfl rfl)
theorem dJ29_bitCount_2 : decode cJ29_bitCount 2 = .ok (.iconst 1, 1) := dk_4 (dk_at dksJ29_bitCount_0 2 rfl rfl)
theorem dJ29_bitCount_3 : decode cJ29_bitCount 3 = .ok (.lushr, 1) := dk_125 (dk_at dksJ29_bitCount_0 3 rfl rfl)
theorem dJ29_bitCount_4 : decode cJ29_bitCount 4 = .ok (.ldc2_w 314, 3) := dk_20 1 58 (dk_at dksJ29_bitCount_0 4 rfl rfl)
theorem dJ29_bitCount_7 : decode cJ29_bitCount 7 = .ok (.land, 1) := dk_127 (dk_at dksJ29_bitCount_0 7 rfl rfl)
theorem dJ29_bitCount_8 : decode cJ29_bitCount 8 = .ok (.lsub, 1) := dk_101 (dk_at dksJ29_bitCount_0 8 rfl rfl)
theorem dJ29_bitCount_9 : decode cJ29_bitCount 9 = .ok (.lstore_n 0, 1) := dk_63 (dk_at dksJ29_bitCount_0 9 rfl rfl)
theorem dJ29_bitCount_10 : decode cJ29_bitCount 10 = .ok (.lload_n 0, 1) := dk_30 (dk_at dksJ29_bitCount_0 10 rfl rfl)
theorem dJ29_bitCount_11 : decode cJ29_bitCount 11 = .ok (.ldc2_w 316, 3) := dk_20 1 60 (dk_at dksJ29_bitCount_0 11 rfl rfl)
theorem dJ29_bitCount_14 : decode cJ29_bitCount 14 = .ok (.land, 1) := dk_127 (dk_at dksJ29_bitCount_0 14 rfl rfl)
theorem dJ29_bitCount_15 : decode cJ29_bitCount 15 = .ok (.lload_n 0, 1) := dk_30 (dk_at dksJ29_bitCount_0 15 rfl rfl)
theorem dJ29_bitCount_16 : decode cJ29_bitCount 16 = .ok (.iconst 2, 1) := dk_5 (dk_at dksJ29_bitCount_0 16 rfl rfl)
theorem dJ29_bitCount_17 : decode cJ29_bitCount 17 = .ok (.lushr, 1) := dk_125 (dk_at dksJ29_bitCount_0 17 rfl rfl)
theorem dJ29_bitCount_18 : decode cJ29_bitCount 18 = .ok (.ldc2_w 316, 3) := dk_20 1 60 (dk_at dksJ29_bitCount_0 18 rfl rfl)
theorem dJ29_bitCount_21 : decode cJ29_bitCount 21 = .ok (.land, 1) := dk_127 (dk_at dksJ29_bitCount_0 21 rfl rfl)
theorem dJ29_bitCount_22 : decode cJ29_bitCount 22 = .ok (.ladd, 1) := dk_97 (dk_at dksJ29_bitCount_0 22 rfl rfl)
theorem dJ29_bitCount_23 : decode cJ29_bitCount 23 = .ok (.lstore_n 0, 1) := dk_63 (dk_at dksJ29_bitCount_0 23 rfl rfl)
theorem dJ29_bitCount_24 : decode cJ29_bitCount 24 = .ok (.lload_n 0, 1) := dk_30 (dk_at dksJ29_bitCount_1 0 rfl rfl)
theorem dJ29_bitCount_25 : decode cJ29_bitCount 25 = .ok (.lload_n 0, 1) := dk_30 (dk_at dksJ29_bitCount_1 1 rfl rfl)
theorem dJ29_bitCount_26 : decode cJ29_bitCount 26 = .ok (.iconst 4, 1) := dk_7 (dk_at dksJ29_bitCount_1 2 rfl rfl)
theorem dJ29_bitCount_27 : decode cJ29_bitCount 27 = .ok (.lushr, 1) := dk_125 (dk_at dksJ29_bitCount_1 3 rfl rfl)
theorem dJ29_bitCount_28 : decode cJ29_bitCount 28 = .ok (.ladd, 1) := dk_97 (dk_at dksJ29_bitCount_1 4 rfl rfl)
theorem dJ29_bitCount_29 : decode cJ29_bitCount 29 = .ok (.ldc2_w 318, 3) := dk_20 1 62 (dk_at dksJ29_bitCount_1 5 rfl rfl)
theorem dJ29_bitCount_32 : decode cJ29_bitCount 32 = .ok (.land, 1) := dk_127 (dk_at dksJ29_bitCount_1 8 rfl rfl)
theorem dJ29_bitCount_33 : decode cJ29_bitCount 33 = .ok (.lstore_n 0, 1) := dk_63 (dk_at dksJ29_bitCount_1 9 rfl rfl)
theorem dJ29_bitCount_34 : decode cJ29_bitCount 34 = .ok (.lload_n 0, 1) := dk_30 (dk_at dksJ29_bitCount_1 10 rfl rfl)
theorem dJ29_bitCount_35 : decode cJ29_bitCount 35 = .ok (.lload_n 0, 1) := dk_30 (dk_at dksJ29_bitCount_1 11 rfl rfl)
theorem dJ29_bitCount_36 : decode cJ29_bitCount 36 = .ok (.bipush 8, 2) := dk_16 8 (dk_at dksJ29_bitCount_1 12 rfl rfl)
theorem dJ29_bitCount_38 : decode cJ29_bitCount 38 = .ok (.lushr, 1) := dk_125 (dk_at dksJ29_bitCount_1 14 rfl rfl)
theorem dJ29_bitCount_39 : decode cJ29_bitCount 39 = .ok (.ladd, 1) := dk_97 (dk_at dksJ29_bitCount_1 15 rfl rfl)
theorem dJ29_bitCount_40 : decode cJ29_bitCount 40 = .ok (.lstore_n 0, 1) := dk_63 (dk_at dksJ29_bitCount_1 16 rfl rfl)
theorem dJ29_bitCount_41 : decode cJ29_bitCount 41 = .ok (.lload_n 0, 1) := dk_30 (dk_at dksJ29_bitCount_1 17 rfl rfl)
theorem dJ29_bitCount_42 : decode cJ29_bitCount 42 = .ok (.lload_n 0, 1) := dk_30 (dk_at dksJ29_bitCount_1 18 rfl rfl)
theorem dJ29_bitCount_43 : decode cJ29_bitCount 43 = .ok (.bipush 16, 2) := dk_16 16 (dk_at dksJ29_bitCount_1 19 rfl rfl)
theorem dJ29_bitCount_45 : decode cJ29_bitCount 45 = .ok (.lushr, 1) := dk_125 (dk_at dksJ29_bitCount_1 21 rfl rfl)
theorem dJ29_bitCount_46 : decode cJ29_bitCount 46 = .ok (.ladd, 1) := dk_97 (dk_at dksJ29_bitCount_1 22 rfl rfl)
theorem dJ29_bitCount_47 : decode cJ29_bitCount 47 = .ok (.lstore_n 0, 1) := dk_63 (dk_at dksJ29_bitCount_1 23 rfl rfl)
theorem dJ29_bitCount_48 : decode cJ29_bitCount 48 = .ok (.lload_n 0, 1) := dk_30 (dk_at dksJ29_bitCount_2 0 rfl rfl)
theorem dJ29_bitCount_49 : decode cJ29_bitCount 49 = .ok (.lload_n 0, 1) := dk_30 (dk_at dksJ29_bitCount_2 1 rfl rfl)
theorem dJ29_bitCount_50 : decode cJ29_bitCount 50 = .ok (.bipush 32, 2) := dk_16 32 (dk_at dksJ29_bitCount_2 2 rfl rfl)
theorem dJ29_bitCount_52 : decode cJ29_bitCount 52 = .ok (.lushr, 1) := dk_125 (dk_at dksJ29_bitCount_2 4 rfl rfl)
theorem dJ29_bitCount_53 : decode cJ29_bitCount 53 = .ok (.ladd, 1) := dk_97 (dk_at dksJ29_bitCount_2 5 rfl rfl)
theorem dJ29_bitCount_54 : decode cJ29_bitCount 54 = .ok (.lstore_n 0, 1) := dk_63 (dk_at dksJ29_bitCount_2 6 rfl rfl)
theorem dJ29_bitCount_55 : decode cJ29_bitCount 55 = .ok (.lload_n 0, 1) := dk_30 (dk_at dksJ29_bitCount_2 7 rfl rfl)
theorem dJ29_bitCount_56 : decode cJ29_bitCount 56 = .ok (.l2i, 1) := dk_136 (dk_at dksJ29_bitCount_2 8 rfl rfl)
theorem dJ29_bitCount_57 : decode cJ29_bitCount 57 = .ok (.bipush 127, 2) := dk_16 127 (dk_at dksJ29_bitCount_2 9 rfl rfl)
theorem dJ29_bitCount_59 : decode cJ29_bitCount 59 = .ok (.iand, 1) := dk_126 (dk_at dksJ29_bitCount_2 11 rfl rfl)
theorem dJ29_bitCount_60 : decode cJ29_bitCount 60 = .ok (.ireturn, 1) := dk_172 (dk_at dksJ29_bitCount_2 12 rfl rfl)
theorem q154 : (Jvm.Cond.initialized "java/lang/Long") ∈ lw_all := lw_g (lw_at lw_m1 41 rfl) rfl
theorem q1121 : (Jvm.Cond.static ({ cls := "java/lang/Long", name := "numberOfTrailingZeros", desc := "(J)I" } : Jvm.MethodName)) ∈ lw_all := lw_g (lw_at lw_m5 48 rfl) rfl
theorem q1122 : (Jvm.Cond.code ({ cls := "java/lang/Long", name := "numberOfTrailingZeros", desc := "(J)I" } : Jvm.MethodName) prog_29_method_49_code (3 : Nat) (Option.some Jvm.ClassFile.FieldType.int)) ∈ lw_all := lw_g (lw_at lw_m5 49 rfl) rfl
theorem q1123 : (Jvm.Cond.methodLink "java/lang/Long" (311 : Nat) ({ cls := "java/lang/Integer", name := "numberOfTrailingZeros", desc := "(I)I" } : Jvm.MethodName)) ∈ lw_all := lw_g (lw_at lw_m5 50 rfl) rfl
theorem q1132 : (Jvm.Cond.static ({ cls := "java/lang/Long", name := "bitCount", desc := "(J)I" } : Jvm.MethodName)) ∈ lw_all := lw_g (lw_at lw_m5 59 rfl) rfl
theorem q1133 : (Jvm.Cond.code ({ cls := "java/lang/Long", name := "bitCount", desc := "(J)I" } : Jvm.MethodName) prog_29_method_50_code (2 : Nat) (Option.some Jvm.ClassFile.FieldType.int)) ∈ lw_all := lw_g (lw_at lw_m5 60 rfl) rfl
theorem q1134 : (Jvm.Cond.constantLong "java/lang/Long" (314 : Nat) (6148914691236517205 : Int64)) ∈ lw_all := lw_g (lw_at lw_m5 61 rfl) rfl
theorem q1135 : (Jvm.Cond.constantLong "java/lang/Long" (316 : Nat) (3689348814741910323 : Int64)) ∈ lw_all := lw_g (lw_at lw_m5 62 rfl) rfl
theorem q1136 : (Jvm.Cond.constantLong "java/lang/Long" (318 : Nat) (1085102592571150095 : Int64)) ∈ lw_all := lw_g (lw_at lw_m5 63 rfl) rfl

/-! java/lang/UnsupportedOperationException -/
set_option maxRecDepth 100000
def RJ30 : String := "java/lang/UnsupportedOperationException"
def TJ30 : u_T := fun k => match k with
  | 0 => ("java/lang/Throwable", "cause", "Ljava/lang/Throwable;", false)
  | 1 => ("java/lang/Throwable", "stackTrace", "[Ljava/lang/StackTraceElement;", false)
  | 2 => ("java/lang/Throwable", "suppressedExceptions", "Ljava/util/List;", false)
  | 3 => ("java/lang/Throwable", "detailMessage", "Ljava/lang/String;", false)
  | 4 => ("java/lang/Throwable", "backtrace", "Ljava/lang/Object;", false)
  | _ => ("java/lang/Throwable", "depth", "I", false)
def tyJ30 : Nat → FieldType := fun k => match k with
  | 0 => .object "java/lang/Throwable"
  | 1 => .array (.object "java/lang/StackTraceElement")
  | 2 => .object "java/util/List"
  | 3 => .object "java/lang/String"
  | 4 => .object "java/lang/Object"
  | _ => .int
abbrev wsJ300 : List Cond := u_ws RJ30 TJ30 6
theorem nmJ30 : ∀ a, a < 6 → ∀ b, b < 6 → a ≠ b → (TJ30 a).2.1 ≠ (TJ30 b).2.1 := by decide +kernel
theorem tyJ30_ok : ∀ k, k < 6 → parseFieldDescriptor (TJ30 k).2.2.1 = some (tyJ30 k) := by decide +kernel
abbrev cJ30_init : ByteArray := prog_41_method_1_code
def yJ30_init : MethodName := ⟨RJ30, "<init>", "()V"⟩
theorem dJ30_init_0 : decode cJ30_init 0 = .ok (.aload_n 0, 1) := by decide +kernel
theorem dJ30_init_1 : decode cJ30_init 1 = .ok (.invokespecial 1, 3) := by decide +kernel
theorem dJ30_init_4 : decode cJ30_init 4 = .ok (.return_, 1) := by decide +kernel
theorem q155 : (Jvm.Cond.initialized "java/lang/UnsupportedOperationException") ∈ lw_all := lw_g (lw_at lw_m1 42 rfl) rfl
theorem q236 : (Jvm.Cond.selects "java/lang/UnsupportedOperationException" ({ cls := "java/lang/Object", name := "getClass", desc := "()Ljava/lang/Class;" } : Jvm.MethodName) ({ cls := "java/lang/Object", name := "getClass", desc := "()Ljava/lang/Class;" } : Jvm.MethodName)) ∈ lw_all := lw_g (lw_at lw_m1 123 rfl) rfl
theorem q669 : (Jvm.Cond.selects "java/lang/UnsupportedOperationException" ({ cls := "java/lang/Throwable", name := "fillInStackTrace", desc := "()Ljava/lang/Throwable;" } : Jvm.MethodName) ({ cls := "java/lang/Throwable", name := "fillInStackTrace", desc := "()Ljava/lang/Throwable;" } : Jvm.MethodName)) ∈ lw_all := lw_g (lw_at lw_m3 76 rfl) rfl
theorem q1163 : (Jvm.Cond.instantiable "java/lang/UnsupportedOperationException" (6 : Nat)) ∈ lw_all := lw_g (lw_at lw_m5 90 rfl) rfl
theorem q1164 : (Jvm.Cond.castable "java/lang/UnsupportedOperationException" "java/lang/UnsupportedOperationException") ∈ lw_tbl := lw_at lw_m5 91 rfl
theorem q1165 : (Jvm.Cond.selects "java/lang/UnsupportedOperationException" ({ cls := "java/lang/Throwable", name := "fillInStackTrace", desc := "(I)Ljava/lang/Throwable;" } : Jvm.MethodName) ({ cls := "java/lang/Throwable", name := "fillInStackTrace", desc := "(I)Ljava/lang/Throwable;" } : Jvm.MethodName)) ∈ lw_all := lw_g (lw_at lw_m5 92 rfl) rfl
theorem q1166 : (Jvm.Cond.lays "java/lang/UnsupportedOperationException" "java/lang/Throwable" "cause" "Ljava/lang/Throwable;") ∈ lw_all := lw_g (lw_at lw_m5 93 rfl) rfl
theorem q1167 : (Jvm.Cond.lays "java/lang/UnsupportedOperationException" "java/lang/Throwable" "stackTrace" "[Ljava/lang/StackTraceElement;") ∈ lw_all := lw_g (lw_at lw_m5 94 rfl) rfl
theorem q1168 : (Jvm.Cond.lays "java/lang/UnsupportedOperationException" "java/lang/Throwable" "suppressedExceptions" "Ljava/util/List;") ∈ lw_all := lw_g (lw_at lw_m5 95 rfl) rfl
theorem q1169 : (Jvm.Cond.lays "java/lang/UnsupportedOperationException" "java/lang/Throwable" "detailMessage" "Ljava/lang/String;") ∈ lw_all := lw_g (lw_at lw_m5 96 rfl) rfl
theorem q1170 : (Jvm.Cond.lays "java/lang/UnsupportedOperationException" "java/lang/Throwable" "backtrace" "Ljava/lang/Object;") ∈ lw_all := lw_g (lw_at lw_m5 97 rfl) rfl
theorem q1172 : (Jvm.Cond.instanceMethod ({ cls := "java/lang/UnsupportedOperationException", name := "<init>", desc := "()V" } : Jvm.MethodName)) ∈ lw_all := lw_g (lw_at lw_m5 99 rfl) rfl
theorem q1173 : (Jvm.Cond.code ({ cls := "java/lang/UnsupportedOperationException", name := "<init>", desc := "()V" } : Jvm.MethodName) prog_41_method_1_code (1 : Nat) (Option.none : Option Jvm.ClassFile.FieldType)) ∈ lw_all := lw_g (lw_at lw_m5 100 rfl) rfl
theorem q1174 : (Jvm.Cond.methodLink "java/lang/UnsupportedOperationException" (1 : Nat) ({ cls := "java/lang/RuntimeException", name := "<init>", desc := "()V" } : Jvm.MethodName)) ∈ lw_all := lw_g (lw_at lw_m5 101 rfl) rfl
theorem q1175 : (Jvm.Cond.lays "java/lang/UnsupportedOperationException" "java/lang/Throwable" "depth" "I") ∈ lw_all := lw_g (lw_at lw_m5 102 rfl) rfl
theorem q1176 : (Jvm.Cond.superclass "java/lang/UnsupportedOperationException" "java/lang/RuntimeException") ∈ lw_all := lw_g (lw_at lw_m5 103 rfl) rfl
theorem q1521 : (Jvm.Cond.selects "java/lang/UnsupportedOperationException" ({ cls := "java/lang/Throwable", name := "toString", desc := "()Ljava/lang/String;" } : Jvm.MethodName) ({ cls := "java/lang/Throwable", name := "toString", desc := "()Ljava/lang/String;" } : Jvm.MethodName)) ∈ lw_all := lw_g (lw_at lw_m6 208 rfl) rfl
theorem q1536 : (Jvm.Cond.selects "java/lang/UnsupportedOperationException" ({ cls := "java/lang/Throwable", name := "getLocalizedMessage", desc := "()Ljava/lang/String;" } : Jvm.MethodName) ({ cls := "java/lang/Throwable", name := "getLocalizedMessage", desc := "()Ljava/lang/String;" } : Jvm.MethodName)) ∈ lw_all := lw_g (lw_at lw_m6 223 rfl) rfl
theorem q1550 : (Jvm.Cond.selects "java/lang/UnsupportedOperationException" ({ cls := "java/lang/Throwable", name := "getMessage", desc := "()Ljava/lang/String;" } : Jvm.MethodName) ({ cls := "java/lang/Throwable", name := "getMessage", desc := "()Ljava/lang/String;" } : Jvm.MethodName)) ∈ lw_all := lw_g (lw_at lw_m6 237 rfl) rfl
theorem q2795 : (Jvm.Cond.castable "java/lang/UnsupportedOperationException" "java/lang/Object") ∈ lw_tbl := lw_at lw_m12 42 rfl
theorem in_J30 : ∀ w ∈ wsJ300, w ∈ lw_all := lw_in wsJ300 [1166, 1167, 1168, 1169, 1170, 1175] (by decide +kernel) (by decide +kernel)

/-! java/lang/ArrayIndexOutOfBoundsException -/
set_option maxRecDepth 100000
def RJ31 : String := "java/lang/ArrayIndexOutOfBoundsException"
def TJ31 : u_T := fun k => match k with
  | 0 => ("java/lang/Throwable", "backtrace", "Ljava/lang/Object;", false)
  | 1 => ("java/lang/Throwable", "detailMessage", "Ljava/lang/String;", false)
  | 2 => ("java/lang/Throwable", "cause", "Ljava/lang/Throwable;", false)
  | 3 => ("java/lang/Throwable", "stackTrace", "[Ljava/lang/StackTraceElement;", false)
  | 4 => ("java/lang/Throwable", "depth", "I", false)
  | _ => ("java/lang/Throwable", "suppressedExceptions", "Ljava/util/List;", false)
def tyJ31 : Nat → FieldType := fun k => match k with
  | 0 => .object "java/lang/Object"
  | 1 => .object "java/lang/String"
  | 2 => .object "java/lang/Throwable"
  | 3 => .array (.object "java/lang/StackTraceElement")
  | 4 => .int
  | _ => .object "java/util/List"
abbrev wsJ310 : List Cond := u_ws RJ31 TJ31 6
theorem nmJ31 : ∀ a, a < 6 → ∀ b, b < 6 → a ≠ b → (TJ31 a).2.1 ≠ (TJ31 b).2.1 := by decide +kernel
theorem tyJ31_ok : ∀ k, k < 6 → parseFieldDescriptor (TJ31 k).2.2.1 = some (tyJ31 k) := by decide +kernel
abbrev cJ31_init : ByteArray := prog_18_method_2_code
def yJ31_init : MethodName := ⟨RJ31, "<init>", "(Ljava/lang/String;)V"⟩
def dkwJ31_init_0 : List UInt8 := [42, 43, 183, 0, 7, 177]
abbrev dktJ31_init_0 : List UInt8 := dkwJ31_init_0 ++ []
theorem dksJ31_init_0 : cJ31_init.data.toList.drop 0 = dktJ31_init_0 := by decide +kernel
theorem dJ31_init_0 : decode cJ31_init 0 = .ok (.aload_n 0, 1) := dk_42 (dk_at dksJ31_init_0 0 rfl rfl)
theorem dJ31_init_1 : decode cJ31_init 1 = .ok (.aload_n 1, 1) := dk_43 (dk_at dksJ31_init_0 1 rfl rfl)
theorem dJ31_init_2 : decode cJ31_init 2 = .ok (.invokespecial 7, 3) := dk_183 0 7 (dk_at dksJ31_init_0 2 rfl rfl)
theorem dJ31_init_5 : decode cJ31_init 5 = .ok (.return_, 1) := dk_177 (dk_at dksJ31_init_0 5 rfl rfl)
abbrev cJ31_init_2 : ByteArray := prog_18_method_3_code
def yJ31_init_2 : MethodName := ⟨RJ31, "<init>", "(I)V"⟩
def dkwJ31_init_2_0 : List UInt8 := [42, 187, 0, 10, 89, 183, 0, 12, 18, 13, 182, 0, 15, 27, 182, 0, 19, 182, 0, 22, 183, 0, 7, 177]
abbrev dktJ31_init_2_0 : List UInt8 := dkwJ31_init_2_0 ++ []
theorem dksJ31_init_2_0 : cJ31_init_2.data.toList.drop 0 = dktJ31_init_2_0 := by decide +kernel
theorem dJ31_init_2_0 : decode cJ31_init_2 0 = .ok (.aload_n 0, 1) := dk_42 (dk_at dksJ31_init_2_0 0 rfl rfl)
theorem dJ31_init_2_1 : decode cJ31_init_2 1 = .ok (.new 10, 3) := dk_187 0 10 (dk_at dksJ31_init_2_0 1 rfl rfl)
theorem dJ31_init_2_4 : decode cJ31_init_2 4 = .ok (.dup, 1) := dk_89 (dk_at dksJ31_init_2_0 4 rfl rfl)
theorem dJ31_init_2_5 : decode cJ31_init_2 5 = .ok (.invokespecial 12, 3) := dk_183 0 12 (dk_at dksJ31_init_2_0 5 rfl rfl)
theorem dJ31_init_2_8 : decode cJ31_init_2 8 = .ok (.ldc 13, 2) := dk_18 13 (dk_at dksJ31_init_2_0 8 rfl rfl)
theorem dJ31_init_2_10 : decode cJ31_init_2 10 = .ok (.invokevirtual 15, 3) := dk_182 0 15 (dk_at dksJ31_init_2_0 10 rfl rfl)
theorem dJ31_init_2_13 : decode cJ31_init_2 13 = .ok (.iload_n 1, 1) := dk_27 (dk_at dksJ31_init_2_0 13 rfl rfl)
theorem dJ31_init_2_14 : decode cJ31_init_2 14 = .ok (.invokevirtual 19, 3) := dk_182 0 19 (dk_at dksJ31_init_2_0 14 rfl rfl)
theorem dJ31_init_2_17 : decode cJ31_init_2 17 = .ok (.invokevirtual 22, 3) := dk_182 0 22 (dk_at dksJ31_init_2_0 17 rfl rfl)
theorem dJ31_init_2_20 : decode cJ31_init_2 20 = .ok (.invokespecial 7, 3) := dk_183 0 7 (dk_at dksJ31_init_2_0 20 rfl rfl)
theorem dJ31_init_2_23 : decode cJ31_init_2 23 = .ok (.return_, 1) := dk_177 (dk_at dksJ31_init_2_0 23 rfl rfl)
theorem q156 : (Jvm.Cond.initialized "java/lang/ArrayIndexOutOfBoundsException") ∈ lw_all := lw_g (lw_at lw_m1 43 rfl) rfl
theorem q227 : (Jvm.Cond.selects "java/lang/ArrayIndexOutOfBoundsException" ({ cls := "java/lang/Object", name := "getClass", desc := "()Ljava/lang/Class;" } : Jvm.MethodName) ({ cls := "java/lang/Object", name := "getClass", desc := "()Ljava/lang/Class;" } : Jvm.MethodName)) ∈ lw_all := lw_g (lw_at lw_m1 114 rfl) rfl
theorem q665 : (Jvm.Cond.selects "java/lang/ArrayIndexOutOfBoundsException" ({ cls := "java/lang/Throwable", name := "fillInStackTrace", desc := "()Ljava/lang/Throwable;" } : Jvm.MethodName) ({ cls := "java/lang/Throwable", name := "fillInStackTrace", desc := "()Ljava/lang/Throwable;" } : Jvm.MethodName)) ∈ lw_all := lw_g (lw_at lw_m3 72 rfl) rfl
theorem q1181 : (Jvm.Cond.instantiable "java/lang/ArrayIndexOutOfBoundsException" (6 : Nat)) ∈ lw_all := lw_g (lw_at lw_m5 108 rfl) rfl
theorem q1182 : (Jvm.Cond.instanceMethod ({ cls := "java/lang/ArrayIndexOutOfBoundsException", name := "<init>", desc := "(Ljava/lang/String;)V" } : Jvm.MethodName)) ∈ lw_all := lw_g (lw_at lw_m5 109 rfl) rfl
theorem q1183 : (Jvm.Cond.code ({ cls := "java/lang/ArrayIndexOutOfBoundsException", name := "<init>", desc := "(Ljava/lang/String;)V" } : Jvm.MethodName) prog_18_method_2_code (2 : Nat) (Option.none : Option Jvm.ClassFile.FieldType)) ∈ lw_all := lw_g (lw_at lw_m5 110 rfl) rfl
theorem q1184 : (Jvm.Cond.methodLink "java/lang/ArrayIndexOutOfBoundsException" (7 : Nat) ({ cls := "java/lang/IndexOutOfBoundsException", name := "<init>", desc := "(Ljava/lang/String;)V" } : Jvm.MethodName)) ∈ lw_all := lw_g (lw_at lw_m5 111 rfl) rfl
theorem q1185 : (Jvm.Cond.lays "java/lang/ArrayIndexOutOfBoundsException" "java/lang/Throwable" "backtrace" "Ljava/lang/Object;") ∈ lw_all := lw_g (lw_at lw_m5 112 rfl) rfl
theorem q1186 : (Jvm.Cond.lays "java/lang/ArrayIndexOutOfBoundsException" "java/lang/Throwable" "detailMessage" "Ljava/lang/String;") ∈ lw_all := lw_g (lw_at lw_m5 113 rfl) rfl
theorem q1187 : (Jvm.Cond.lays "java/lang/ArrayIndexOutOfBoundsException" "java/lang/Throwable" "cause" "Ljava/lang/Throwable;") ∈ lw_all := lw_g (lw_at lw_m5 114 rfl) rfl
theorem q1188 : (Jvm.Cond.lays "java/lang/ArrayIndexOutOfBoundsException" "java/lang/Throwable" "stackTrace" "[Ljava/lang/StackTraceElement;") ∈ lw_all := lw_g (lw_at lw_m5 115 rfl) rfl
theorem q1189 : (Jvm.Cond.lays "java/lang/ArrayIndexOutOfBoundsException" "java/lang/Throwable" "depth" "I") ∈ lw_all := lw_g (lw_at lw_m5 116 rfl) rfl
theorem q1190 : (Jvm.Cond.lays "java/lang/ArrayIndexOutOfBoundsException" "java/lang/Throwable" "suppressedExceptions" "Ljava/util/List;") ∈ lw_all := lw_g (lw_at lw_m5 117 rfl) rfl
theorem q1191 : (Jvm.Cond.superclass "java/lang/ArrayIndexOutOfBoundsException" "java/lang/IndexOutOfBoundsException") ∈ lw_all := lw_g (lw_at lw_m5 118 rfl) rfl
theorem q1192 : (Jvm.Cond.castable "java/lang/ArrayIndexOutOfBoundsException" "java/lang/ArrayIndexOutOfBoundsException") ∈ lw_tbl := lw_at lw_m5 119 rfl
theorem q1195 : (Jvm.Cond.selects "java/lang/ArrayIndexOutOfBoundsException" ({ cls := "java/lang/Throwable", name := "fillInStackTrace", desc := "(I)Ljava/lang/Throwable;" } : Jvm.MethodName) ({ cls := "java/lang/Throwable", name := "fillInStackTrace", desc := "(I)Ljava/lang/Throwable;" } : Jvm.MethodName)) ∈ lw_all := lw_g (lw_at lw_m5 122 rfl) rfl
theorem q1516 : (Jvm.Cond.selects "java/lang/ArrayIndexOutOfBoundsException" ({ cls := "java/lang/Throwable", name := "toString", desc := "()Ljava/lang/String;" } : Jvm.MethodName) ({ cls := "java/lang/Throwable", name := "toString", desc := "()Ljava/lang/String;" } : Jvm.MethodName)) ∈ lw_all := lw_g (lw_at lw_m6 203 rfl) rfl
theorem q1531 : (Jvm.Cond.selects "java/lang/ArrayIndexOutOfBoundsException" ({ cls := "java/lang/Throwable", name := "getLocalizedMessage", desc := "()Ljava/lang/String;" } : Jvm.MethodName) ({ cls := "java/lang/Throwable", name := "getLocalizedMessage", desc := "()Ljava/lang/String;" } : Jvm.MethodName)) ∈ lw_all := lw_g (lw_at lw_m6 218 rfl) rfl
theorem q1545 : (Jvm.Cond.selects "java/lang/ArrayIndexOutOfBoundsException" ({ cls := "java/lang/Throwable", name := "getMessage", desc := "()Ljava/lang/String;" } : Jvm.MethodName) ({ cls := "java/lang/Throwable", name := "getMessage", desc := "()Ljava/lang/String;" } : Jvm.MethodName)) ∈ lw_all := lw_g (lw_at lw_m6 232 rfl) rfl
theorem q1808 : (Jvm.Cond.instanceMethod ({ cls := "java/lang/ArrayIndexOutOfBoundsException", name := "<init>", desc := "(I)V" } : Jvm.MethodName)) ∈ lw_all := lw_g (lw_at lw_m8 15 rfl) rfl
theorem q1809 : (Jvm.Cond.code ({ cls := "java/lang/ArrayIndexOutOfBoundsException", name := "<init>", desc := "(I)V" } : Jvm.MethodName) prog_18_method_3_code (2 : Nat) (Option.none : Option Jvm.ClassFile.FieldType)) ∈ lw_all := lw_g (lw_at lw_m8 16 rfl) rfl
theorem q1810 : (Jvm.Cond.classLink "java/lang/ArrayIndexOutOfBoundsException" (10 : Nat) "java/lang/StringBuilder") ∈ lw_all := lw_g (lw_at lw_m8 17 rfl) rfl
theorem q1811 : (Jvm.Cond.methodLink "java/lang/ArrayIndexOutOfBoundsException" (12 : Nat) ({ cls := "java/lang/StringBuilder", name := "<init>", desc := "()V" } : Jvm.MethodName)) ∈ lw_all := lw_g (lw_at lw_m8 18 rfl) rfl
theorem q1812 : (Jvm.Cond.stringRef "java/lang/ArrayIndexOutOfBoundsException" (13 : Nat) "Array index out of range: ") ∈ lw_tbl := lw_at lw_m8 19 rfl
theorem q1813 : (Jvm.Cond.methodLink "java/lang/ArrayIndexOutOfBoundsException" (15 : Nat) ({ cls := "java/lang/StringBuilder", name := "append", desc := "(Ljava/lang/String;)Ljava/lang/StringBuilder;" } : Jvm.MethodName)) ∈ lw_all := lw_g (lw_at lw_m8 20 rfl) rfl
theorem q1814 : (Jvm.Cond.methodLink "java/lang/ArrayIndexOutOfBoundsException" (19 : Nat) ({ cls := "java/lang/StringBuilder", name := "append", desc := "(I)Ljava/lang/StringBuilder;" } : Jvm.MethodName)) ∈ lw_all := lw_g (lw_at lw_m8 21 rfl) rfl
theorem q1815 : (Jvm.Cond.methodLink "java/lang/ArrayIndexOutOfBoundsException" (22 : Nat) ({ cls := "java/lang/StringBuilder", name := "toString", desc := "()Ljava/lang/String;" } : Jvm.MethodName)) ∈ lw_all := lw_g (lw_at lw_m8 22 rfl) rfl
theorem q2772 : (Jvm.Cond.castable "java/lang/ArrayIndexOutOfBoundsException" "java/lang/IndexOutOfBoundsException") ∈ lw_tbl := lw_at lw_m12 19 rfl
theorem q2796 : (Jvm.Cond.castable "java/lang/ArrayIndexOutOfBoundsException" "java/lang/Object") ∈ lw_tbl := lw_at lw_m12 43 rfl
theorem in_J31 : ∀ w ∈ wsJ310, w ∈ lw_all := lw_in wsJ310 [1185, 1186, 1187, 1188, 1189, 1190] (by decide +kernel) (by decide +kernel)

/-! java/util/ImmutableCollections$ListItr -/
set_option maxRecDepth 100000
def RJ32 : String := "java/util/ImmutableCollections$ListItr"
def TJ32 : u_T := fun k => match k with
  | 0 => ("java/util/ImmutableCollections$ListItr", "list", "Ljava/util/List;", true)
  | 1 => ("java/util/ImmutableCollections$ListItr", "size", "I", true)
  | 2 => ("java/util/ImmutableCollections$ListItr", "isListIterator", "Z", true)
  | _ => ("java/util/ImmutableCollections$ListItr", "cursor", "I", false)
def tyJ32 : Nat → FieldType := fun k => match k with
  | 0 => .object "java/util/List"
  | 1 => .int
  | 2 => .boolean
  | _ => .int
abbrev wsJ320 : List Cond := u_ws RJ32 TJ32 4
theorem nmJ32 : ∀ a, a < 4 → ∀ b, b < 4 → a ≠ b → (TJ32 a).2.1 ≠ (TJ32 b).2.1 := by decide +kernel
theorem tyJ32_ok : ∀ k, k < 4 → parseFieldDescriptor (TJ32 k).2.2.1 = some (tyJ32 k) := by decide +kernel
abbrev cJ32_init : ByteArray := prog_60_method_1_code
def yJ32_init : MethodName := ⟨RJ32, "<init>", "(Ljava/util/List;I)V"⟩
def dkwJ32_init_1 : List UInt8 := [177]
abbrev dktJ32_init_1 : List UInt8 := dkwJ32_init_1 ++ []
def dkwJ32_init_0 : List UInt8 := [42, 183, 0, 1, 42, 43, 181, 0, 7, 42, 28, 181, 0, 13, 42, 3, 181, 0, 17, 42, 3, 181, 0, 20]
abbrev dktJ32_init_0 : List UInt8 := dkwJ32_init_0 ++ dktJ32_init_1
theorem dksJ32_init_0 : cJ32_init.data.toList.drop 0 = dktJ32_init_0 := by decide +kernel
theorem dksJ32_init_1 : cJ32_init.data.toList.drop 24 = dktJ32_init_1 := dk_seg dksJ32_init_0 24 rfl rfl
theorem dJ32_init_0 : decode cJ32_init 0 = .ok (.aload_n 0, 1) := dk_42 (dk_at dksJ32_init_0 0 rfl rfl)
theorem dJ32_init_1 : decode cJ32_init 1 = .ok (.invokespecial 1, 3) := dk_183 0 1 (dk_at dksJ32_init_0 1 rfl rfl)
theorem dJ32_init_4 : decode cJ32_init 4 = .ok (.aload_n 0, 1) := dk_42 (dk_at dksJ32_init_0 4 rfl rfl)
theorem dJ32_init_5 : decode cJ32_init 5 = .ok (.aload_n 1, 1) := dk_43 (dk_at dksJ32_init_0 5 rfl rfl)
theorem dJ32_init_6 : decode cJ32_init 6 = .ok (.putfield 7, 3) := dk_181 0 7 (dk_at dksJ32_init_0 6 rfl rfl)
theorem dJ32_init_9 : decode cJ32_init 9 = .ok (.aload_n 0, 1) := dk_42 (dk_at dksJ32_init_0 9 rfl rfl)
theorem dJ32_init_10 : decode cJ32_init 10 = .ok (.iload_n 2, 1) := dk_28 (dk_at dksJ32_init_0 10 rfl rfl)
theorem dJ32_init_11 : decode cJ32_init 11 = .ok (.putfield 13, 3) := dk_181 0 13 (dk_at dksJ32_init_0 11 rfl rfl)
theorem dJ32_init_14 : decode cJ32_init 14 = .ok (.aload_n 0, 1) := dk_42 (dk_at dksJ32_init_0 14 rfl rfl)
theorem dJ32_init_15 : decode cJ32_init 15 = .ok (.iconst 0, 1) := dk_3 (dk_at dksJ32_init_0 15 rfl rfl)
theorem dJ32_init_16 : decode cJ32_init 16 = .ok (.putfield 17, 3) := dk_181 0 17 (dk_at dksJ32_init_0 16 rfl rfl)
theorem dJ32_init_19 : decode cJ32_init 19 = .ok (.aload_n 0, 1) := dk_42 (dk_at dksJ32_init_0 19 rfl rfl)
theorem dJ32_init_20 : decode cJ32_init 20 = .ok (.iconst 0, 1) := dk_3 (dk_at dksJ32_init_0 20 rfl rfl)
theorem dJ32_init_21 : decode cJ32_init 21 = .ok (.putfield 20, 3) := dk_181 0 20 (dk_at dksJ32_init_0 21 rfl rfl)
theorem dJ32_init_24 : decode cJ32_init 24 = .ok (.return_, 1) := dk_177 (dk_at dksJ32_init_1 0 rfl rfl)
abbrev cJ32_hasNext : ByteArray := prog_60_method_3_code
def yJ32_hasNext : MethodName := ⟨RJ32, "hasNext", "()Z"⟩
def dkwJ32_hasNext_0 : List UInt8 := [42, 180, 0, 17, 42, 180, 0, 13, 159, 0, 7, 4, 167, 0, 4, 3, 172]
abbrev dktJ32_hasNext_0 : List UInt8 := dkwJ32_hasNext_0 ++ []
theorem dksJ32_hasNext_0 : cJ32_hasNext.data.toList.drop 0 = dktJ32_hasNext_0 := by decide +kernel
theorem dJ32_hasNext_0 : decode cJ32_hasNext 0 = .ok (.aload_n 0, 1) := dk_42 (dk_at dksJ32_hasNext_0 0 rfl rfl)
theorem dJ32_hasNext_1 : decode cJ32_hasNext 1 = .ok (.getfield 17, 3) := dk_180 0 17 (dk_at dksJ32_hasNext_0 1 rfl rfl)
theorem dJ32_hasNext_4 : decode cJ32_hasNext 4 = .ok (.aload_n 0, 1) := dk_42 (dk_at dksJ32_hasNext_0 4 rfl rfl)
theorem dJ32_hasNext_5 : decode cJ32_hasNext 5 = .ok (.getfield 13, 3) := dk_180 0 13 (dk_at dksJ32_hasNext_0 5 rfl rfl)
theorem dJ32_hasNext_8 : decode cJ32_hasNext 8 = .ok (.if_icmp .eq 7, 3) := dk_159 0 7 (dk_at dksJ32_hasNext_0 8 rfl rfl)
theorem dJ32_hasNext_11 : decode cJ32_hasNext 11 = .ok (.iconst 1, 1) := dk_4 (dk_at dksJ32_hasNext_0 11 rfl rfl)
theorem dJ32_hasNext_12 : decode cJ32_hasNext 12 = .ok (.goto 4, 3) := dk_167 0 4 (dk_at dksJ32_hasNext_0 12 rfl rfl)
theorem dJ32_hasNext_15 : decode cJ32_hasNext 15 = .ok (.iconst 0, 1) := dk_3 (dk_at dksJ32_hasNext_0 15 rfl rfl)
theorem dJ32_hasNext_16 : decode cJ32_hasNext 16 = .ok (.ireturn, 1) := dk_172 (dk_at dksJ32_hasNext_0 16 rfl rfl)
abbrev cJ32_next : ByteArray := prog_60_method_4_code
def yJ32_next : MethodName := ⟨RJ32, "next", "()Ljava/lang/Object;"⟩
def dkwJ32_next_1 : List UInt8 := [176, 76, 187, 0, 32, 89, 183, 0, 34, 191]
abbrev dktJ32_next_1 : List UInt8 := dkwJ32_next_1 ++ []
def dkwJ32_next_0 : List UInt8 := [42, 180, 0, 17, 60, 42, 180, 0, 7, 27, 185, 0, 24, 2, 0, 77, 42, 27, 4, 96, 181, 0, 17, 44]
abbrev dktJ32_next_0 : List UInt8 := dkwJ32_next_0 ++ dktJ32_next_1
theorem dksJ32_next_0 : cJ32_next.data.toList.drop 0 = dktJ32_next_0 := by decide +kernel
theorem dksJ32_next_1 : cJ32_next.data.toList.drop 24 = dktJ32_next_1 := dk_seg dksJ32_next_0 24 rfl rfl
theorem dJ32_next_0 : decode cJ32_next 0 = .ok (.aload_n 0, 1) := dk_42 (dk_at dksJ32_next_0 0 rfl rfl)
theorem dJ32_next_1 : decode cJ32_next 1 = .ok (.getfield 17, 3) := dk_180 0 17 (dk_at dksJ32_next_0 1 rfl rfl)
theorem dJ32_next_4 : decode cJ32_next 4 = .ok (.istore_n 1, 1) := dk_60 (dk_at dksJ32_next_0 4 rfl rfl)
theorem dJ32_next_5 : decode cJ32_next 5 = .ok (.aload_n 0, 1) := dk_42 (dk_at dksJ32_next_0 5 rfl rfl)
theorem dJ32_next_6 : decode cJ32_next 6 = .ok (.getfield 7, 3) := dk_180 0 7 (dk_at dksJ32_next_0 6 rfl rfl)
theorem dJ32_next_9 : decode cJ32_next 9 = .ok (.iload_n 1, 1) := dk_27 (dk_at dksJ32_next_0 9 rfl rfl)
theorem dJ32_next_10 : decode cJ32_next 10 = .ok (.invokeinterface 24 2, 5) := by decide +kernel
theorem dJ32_next_15 : decode cJ32_next 15 = .ok (.astore_n 2, 1) := dk_77 (dk_at dksJ32_next_0 15 rfl rfl)
theorem dJ32_next_16 : decode cJ32_next 16 = .ok (.aload_n 0, 1) := dk_42 (dk_at dksJ32_next_0 16 rfl rfl)
theorem dJ32_next_17 : decode cJ32_next 17 = .ok (.iload_n 1, 1) := dk_27 (dk_at dksJ32_next_0 17 rfl rfl)
theorem dJ32_next_18 : decode cJ32_next 18 = .ok (.iconst 1, 1) := dk_4 (dk_at dksJ32_next_0 18 rfl rfl)
theorem dJ32_next_19 : decode cJ32_next 19 = .ok (.iadd, 1) := dk_96 (dk_at dksJ32_next_0 19 rfl rfl)
theorem dJ32_next_20 : decode cJ32_next 20 = .ok (.putfield 17, 3) := dk_181 0 17 (dk_at dksJ32_next_0 20 rfl rfl)
theorem dJ32_next_23 : decode cJ32_next 23 = .ok (.aload_n 2, 1) := dk_44 (dk_at dksJ32_next_0 23 rfl rfl)
theorem dJ32_next_24 : decode cJ32_next 24 = .ok (.areturn, 1) := dk_176 (dk_at dksJ32_next_1 0 rfl rfl)
theorem dJ32_next_25 : decode cJ32_next 25 = .ok (.astore_n 1, 1) := dk_76 (dk_at dksJ32_next_1 1 rfl rfl)
theorem dJ32_next_26 : decode cJ32_next 26 = .ok (.new 32, 3) := dk_187 0 32 (dk_at dksJ32_next_1 2 rfl rfl)
theorem dJ32_next_29 : decode cJ32_next 29 = .ok (.dup, 1) := dk_89 (dk_at dksJ32_next_1 5 rfl rfl)
theorem dJ32_next_30 : decode cJ32_next 30 = .ok (.invokespecial 34, 3) := dk_183 0 34 (dk_at dksJ32_next_1 6 rfl rfl)
theorem dJ32_next_33 : decode cJ32_next 33 = .ok (.athrow, 1) := dk_191 (dk_at dksJ32_next_1 9 rfl rfl)
theorem q157 : (Jvm.Cond.initialized "java/util/ImmutableCollections$ListItr") ∈ lw_all := lw_g (lw_at lw_m1 44 rfl) rfl
theorem q242 : (Jvm.Cond.selects "java/util/ImmutableCollections$ListItr" ({ cls := "java/lang/Object", name := "getClass", desc := "()Ljava/lang/Class;" } : Jvm.MethodName) ({ cls := "java/lang/Object", name := "getClass", desc := "()Ljava/lang/Class;" } : Jvm.MethodName)) ∈ lw_all := lw_g (lw_at lw_m1 129 rfl) rfl
theorem q1369 : (Jvm.Cond.instantiable "java/util/ImmutableCollections$ListItr" (4 : Nat)) ∈ lw_all := lw_g (lw_at lw_m6 56 rfl) rfl
theorem q1371 : (Jvm.Cond.instanceMethod ({ cls := "java/util/ImmutableCollections$ListItr", name := "<init>", desc := "(Ljava/util/List;I)V" } : Jvm.MethodName)) ∈ lw_all := lw_g (lw_at lw_m6 58 rfl) rfl
theorem q1372 : (Jvm.Cond.code ({ cls := "java/util/ImmutableCollections$ListItr", name := "<init>", desc := "(Ljava/util/List;I)V" } : Jvm.MethodName) prog_60_method_1_code (3 : Nat) (Option.none : Option Jvm.ClassFile.FieldType)) ∈ lw_all := lw_g (lw_at lw_m6 59 rfl) rfl
theorem q1373 : (Jvm.Cond.methodLink "java/util/ImmutableCollections$ListItr" (1 : Nat) ({ cls := "java/lang/Object", name := "<init>", desc := "()V" } : Jvm.MethodName)) ∈ lw_all := lw_g (lw_at lw_m6 60 rfl) rfl
theorem q1374 : (Jvm.Cond.fieldLink "java/util/ImmutableCollections$ListItr" (7 : Nat) "java/util/ImmutableCollections$ListItr" "list" "Ljava/util/List;") ∈ lw_all := lw_g (lw_at lw_m6 61 rfl) rfl
theorem q1375 : (Jvm.Cond.fieldLink "java/util/ImmutableCollections$ListItr" (13 : Nat) "java/util/ImmutableCollections$ListItr" "size" "I") ∈ lw_all := lw_g (lw_at lw_m6 62 rfl) rfl
theorem q1376 : (Jvm.Cond.fieldLink "java/util/ImmutableCollections$ListItr" (20 : Nat) "java/util/ImmutableCollections$ListItr" "isListIterator" "Z") ∈ lw_all := lw_g (lw_at lw_m6 63 rfl) rfl
theorem q1377 : (Jvm.Cond.fieldLink "java/util/ImmutableCollections$ListItr" (17 : Nat) "java/util/ImmutableCollections$ListItr" "cursor" "I") ∈ lw_all := lw_g (lw_at lw_m6 64 rfl) rfl
theorem q1378 : (Jvm.Cond.laysFinal "java/util/ImmutableCollections$ListItr" "java/util/ImmutableCollections$ListItr" "list" "Ljava/util/List;") ∈ lw_all := lw_g (lw_at lw_m6 65 rfl) rfl
theorem q1379 : (Jvm.Cond.soleField "java/util/ImmutableCollections$ListItr" "list") ∈ lw_all := lw_g (lw_at lw_m6 66 rfl) rfl
theorem q1380 : (Jvm.Cond.laysFinal "java/util/ImmutableCollections$ListItr" "java/util/ImmutableCollections$ListItr" "size" "I") ∈ lw_all := lw_g (lw_at lw_m6 67 rfl) rfl
theorem q1381 : (Jvm.Cond.soleField "java/util/ImmutableCollections$ListItr" "size") ∈ lw_all := lw_g (lw_at lw_m6 68 rfl) rfl
theorem q1382 : (Jvm.Cond.laysFinal "java/util/ImmutableCollections$ListItr" "java/util/ImmutableCollections$ListItr" "isListIterator" "Z") ∈ lw_all := lw_g (lw_at lw_m6 69 rfl) rfl
theorem q1383 : (Jvm.Cond.soleField "java/util/ImmutableCollections$ListItr" "isListIterator") ∈ lw_all := lw_g (lw_at lw_m6 70 rfl) rfl
theorem q1384 : (Jvm.Cond.lays "java/util/ImmutableCollections$ListItr" "java/util/ImmutableCollections$ListItr" "cursor" "I") ∈ lw_all := lw_g (lw_at lw_m6 71 rfl) rfl
theorem q1385 : (Jvm.Cond.soleField "java/util/ImmutableCollections$ListItr" "cursor") ∈ lw_all := lw_g (lw_at lw_m6 72 rfl) rfl
theorem q1386 : (Jvm.Cond.superclass "java/util/ImmutableCollections$ListItr" "java/lang/Object") ∈ lw_all := lw_g (lw_at lw_m6 73 rfl) rfl
theorem q1459 : (Jvm.Cond.castable "java/util/ImmutableCollections$ListItr" "java/util/Iterator") ∈ lw_tbl := lw_at lw_m6 146 rfl
theorem q1460 : (Jvm.Cond.selects "java/util/ImmutableCollections$ListItr" ({ cls := "java/util/Iterator", name := "hasNext", desc := "()Z" } : Jvm.MethodName) ({ cls := "java/util/ImmutableCollections$ListItr", name := "hasNext", desc := "()Z" } : Jvm.MethodName)) ∈ lw_all := lw_g (lw_at lw_m6 147 rfl) rfl
theorem q1461 : (Jvm.Cond.unhidden "java/util/ImmutableCollections$ListItr" "hasNext" "()Z") ∈ lw_tbl := lw_at lw_m6 148 rfl
theorem q1462 : (Jvm.Cond.instanceMethod ({ cls := "java/util/ImmutableCollections$ListItr", name := "hasNext", desc := "()Z" } : Jvm.MethodName)) ∈ lw_all := lw_g (lw_at lw_m6 149 rfl) rfl
theorem q1463 : (Jvm.Cond.publicMethod ({ cls := "java/util/ImmutableCollections$ListItr", name := "hasNext", desc := "()Z" } : Jvm.MethodName)) ∈ lw_tbl := lw_at lw_m6 150 rfl
theorem q1464 : (Jvm.Cond.code ({ cls := "java/util/ImmutableCollections$ListItr", name := "hasNext", desc := "()Z" } : Jvm.MethodName) prog_60_method_3_code (1 : Nat) (Option.some Jvm.ClassFile.FieldType.boolean)) ∈ lw_all := lw_g (lw_at lw_m6 151 rfl) rfl
theorem q1576 : (Jvm.Cond.selects "java/util/ImmutableCollections$ListItr" ({ cls := "java/util/Iterator", name := "next", desc := "()Ljava/lang/Object;" } : Jvm.MethodName) ({ cls := "java/util/ImmutableCollections$ListItr", name := "next", desc := "()Ljava/lang/Object;" } : Jvm.MethodName)) ∈ lw_all := lw_g (lw_at lw_m7 23 rfl) rfl
theorem q1577 : (Jvm.Cond.unhidden "java/util/ImmutableCollections$ListItr" "next" "()Ljava/lang/Object;") ∈ lw_tbl := lw_at lw_m7 24 rfl
theorem q1578 : (Jvm.Cond.instanceMethod ({ cls := "java/util/ImmutableCollections$ListItr", name := "next", desc := "()Ljava/lang/Object;" } : Jvm.MethodName)) ∈ lw_all := lw_g (lw_at lw_m7 25 rfl) rfl
theorem q1579 : (Jvm.Cond.publicMethod ({ cls := "java/util/ImmutableCollections$ListItr", name := "next", desc := "()Ljava/lang/Object;" } : Jvm.MethodName)) ∈ lw_tbl := lw_at lw_m7 26 rfl
theorem q1580 : (Jvm.Cond.codeWith ({ cls := "java/util/ImmutableCollections$ListItr", name := "next", desc := "()Ljava/lang/Object;" } : Jvm.MethodName) prog_60_method_4_code (3 : Nat) (Option.some (Jvm.ClassFile.FieldType.object "java/lang/Object")) [((0 : Nat), (24 : Nat), (25 : Nat), (30 : Nat))]) ∈ lw_all := lw_g (lw_at lw_m7 27 rfl) rfl
theorem q1581 : (Jvm.Cond.interfaceEntry "java/util/ImmutableCollections$ListItr" (24 : Nat)) ∈ lw_tbl := lw_at lw_m7 28 rfl
theorem q1582 : (Jvm.Cond.methodLink "java/util/ImmutableCollections$ListItr" (24 : Nat) ({ cls := "java/util/List", name := "get", desc := "(I)Ljava/lang/Object;" } : Jvm.MethodName)) ∈ lw_all := lw_g (lw_at lw_m7 29 rfl) rfl
theorem q1583 : (Jvm.Cond.classLink "java/util/ImmutableCollections$ListItr" (32 : Nat) "java/util/NoSuchElementException") ∈ lw_all := lw_g (lw_at lw_m7 30 rfl) rfl
theorem q1584 : (Jvm.Cond.methodLink "java/util/ImmutableCollections$ListItr" (34 : Nat) ({ cls := "java/util/NoSuchElementException", name := "<init>", desc := "()V" } : Jvm.MethodName)) ∈ lw_all := lw_g (lw_at lw_m7 31 rfl) rfl
theorem q2797 : (Jvm.Cond.castable "java/util/ImmutableCollections$ListItr" "java/lang/Object") ∈ lw_tbl := lw_at lw_m12 44 rfl
theorem in_J32 : ∀ w ∈ wsJ320, w ∈ lw_all := lw_in wsJ320 [1378, 1380, 1382, 1384] (by decide +kernel) (by decide +kernel)

/-! java/util/AbstractList$Itr -/
set_option maxRecDepth 100000
def RJ33 : String := "java/util/AbstractList$Itr"
abbrev cJ33_hasNext : ByteArray := prog_46_method_2_code
def yJ33_hasNext : MethodName := ⟨RJ33, "hasNext", "()Z"⟩
def dkwJ33_hasNext_0 : List UInt8 := [42, 180, 0, 13, 42, 180, 0, 1, 182, 0, 28, 159, 0, 7, 4, 167, 0, 4, 3, 172]
abbrev dktJ33_hasNext_0 : List UInt8 := dkwJ33_hasNext_0 ++ []
theorem dksJ33_hasNext_0 : cJ33_hasNext.data.toList.drop 0 = dktJ33_hasNext_0 := by decide +kernel
theorem dJ33_hasNext_0 : decode cJ33_hasNext 0 = .ok (.aload_n 0, 1) := dk_42 (dk_at dksJ33_hasNext_0 0 rfl rfl)
theorem dJ33_hasNext_1 : decode cJ33_hasNext 1 = .ok (.getfield 13, 3) := dk_180 0 13 (dk_at dksJ33_hasNext_0 1 rfl rfl)
theorem dJ33_hasNext_4 : decode cJ33_hasNext 4 = .ok (.aload_n 0, 1) := dk_42 (dk_at dksJ33_hasNext_0 4 rfl rfl)
theorem dJ33_hasNext_5 : decode cJ33_hasNext 5 = .ok (.getfield 1, 3) := dk_180 0 1 (dk_at dksJ33_hasNext_0 5 rfl rfl)
theorem dJ33_hasNext_8 : decode cJ33_hasNext 8 = .ok (.invokevirtual 28, 3) := dk_182 0 28 (dk_at dksJ33_hasNext_0 8 rfl rfl)
theorem dJ33_hasNext_11 : decode cJ33_hasNext 11 = .ok (.if_icmp .eq 7, 3) := dk_159 0 7 (dk_at dksJ33_hasNext_0 11 rfl rfl)
theorem dJ33_hasNext_14 : decode cJ33_hasNext 14 = .ok (.iconst 1, 1) := dk_4 (dk_at dksJ33_hasNext_0 14 rfl rfl)
theorem dJ33_hasNext_15 : decode cJ33_hasNext 15 = .ok (.goto 4, 3) := dk_167 0 4 (dk_at dksJ33_hasNext_0 15 rfl rfl)
theorem dJ33_hasNext_18 : decode cJ33_hasNext 18 = .ok (.iconst 0, 1) := dk_3 (dk_at dksJ33_hasNext_0 18 rfl rfl)
theorem dJ33_hasNext_19 : decode cJ33_hasNext 19 = .ok (.ireturn, 1) := dk_172 (dk_at dksJ33_hasNext_0 19 rfl rfl)
abbrev cJ33_next : ByteArray := prog_46_method_3_code
def yJ33_next : MethodName := ⟨RJ33, "next", "()Ljava/lang/Object;"⟩
def dkwJ33_next_1 : List UInt8 := [27, 4, 96, 181, 0, 13, 44, 176, 76, 42, 182, 0, 32, 187, 0, 41, 89, 43, 183, 0, 43, 191]
abbrev dktJ33_next_1 : List UInt8 := dkwJ33_next_1 ++ []
def dkwJ33_next_0 : List UInt8 := [42, 182, 0, 32, 42, 180, 0, 13, 60, 42, 180, 0, 1, 27, 182, 0, 35, 77, 42, 27, 181, 0, 17, 42]
abbrev dktJ33_next_0 : List UInt8 := dkwJ33_next_0 ++ dktJ33_next_1
theorem dksJ33_next_0 : cJ33_next.data.toList.drop 0 = dktJ33_next_0 := by decide +kernel
theorem dksJ33_next_1 : cJ33_next.data.toList.drop 24 = dktJ33_next_1 := dk_seg dksJ33_next_0 24 rfl rfl
theorem dJ33_next_0 : decode cJ33_next 0 = .ok (.aload_n 0, 1) := dk_42 (dk_at dksJ33_next_0 0 rfl rfl)
theorem dJ33_next_1 : decode cJ33_next 1 = .ok (.invokevirtual 32, 3) := dk_182 0 32 (dk_at dksJ33_next_0 1 rfl rfl)
theorem dJ33_next_4 : decode cJ33_next 4 = .ok (.aload_n 0, 1) := dk_42 (dk_at dksJ33_next_0 4 rfl rfl)
theorem dJ33_next_5 : decode cJ33_next 5 = .ok (.getfield 13, 3) := dk_180 0 13 (dk_at dksJ33_next_0 5 rfl rfl)
theorem dJ33_next_8 : decode cJ33_next 8 = .ok (.istore_n 1, 1) := dk_60 (dk_at dksJ33_next_0 8 rfl rfl)
theorem dJ33_next_9 : decode cJ33_next 9 = .ok (.aload_n 0, 1) := dk_42 (dk_at dksJ33_next_0 9 rfl rfl)
theorem dJ33_next_10 : decode cJ33_next 10 = .ok (.getfield 1, 3) := dk_180 0 1 (dk_at dksJ33_next_0 10 rfl rfl)
theorem dJ33_next_13 : decode cJ33_next 13 = .ok (.iload_n 1, 1) := dk_27 (dk_at dksJ33_next_0 13 rfl rfl)
theorem dJ33_next_14 : decode cJ33_next 14 = .ok (.invokevirtual 35, 3) := dk_182 0 35 (dk_at dksJ33_next_0 14 rfl rfl)
theorem dJ33_next_17 : decode cJ33_next 17 = .ok (.astore_n 2, 1) := dk_77 (dk_at dksJ33_next_0 17 rfl rfl)
theorem dJ33_next_18 : decode cJ33_next 18 = .ok (.aload_n 0, 1) := dk_42 (dk_at dksJ33_next_0 18 rfl rfl)
theorem dJ33_next_19 : decode cJ33_next 19 = .ok (.iload_n 1, 1) := dk_27 (dk_at dksJ33_next_0 19 rfl rfl)
theorem dJ33_next_20 : decode cJ33_next 20 = .ok (.putfield 17, 3) := dk_181 0 17 (dk_at dksJ33_next_0 20 rfl rfl)
theorem dJ33_next_23 : decode cJ33_next 23 = .ok (.aload_n 0, 1) := dk_42 (dk_at dksJ33_next_0 23 rfl rfl)
theorem dJ33_next_24 : decode cJ33_next 24 = .ok (.iload_n 1, 1) := dk_27 (dk_at dksJ33_next_1 0 rfl rfl)
theorem dJ33_next_25 : decode cJ33_next 25 = .ok (.iconst 1, 1) := dk_4 (dk_at dksJ33_next_1 1 rfl rfl)
theorem dJ33_next_26 : decode cJ33_next 26 = .ok (.iadd, 1) := dk_96 (dk_at dksJ33_next_1 2 rfl rfl)
theorem dJ33_next_27 : decode cJ33_next 27 = .ok (.putfield 13, 3) := dk_181 0 13 (dk_at dksJ33_next_1 3 rfl rfl)
theorem dJ33_next_30 : decode cJ33_next 30 = .ok (.aload_n 2, 1) := dk_44 (dk_at dksJ33_next_1 6 rfl rfl)
theorem dJ33_next_31 : decode cJ33_next 31 = .ok (.areturn, 1) := dk_176 (dk_at dksJ33_next_1 7 rfl rfl)
theorem dJ33_next_32 : decode cJ33_next 32 = .ok (.astore_n 1, 1) := dk_76 (dk_at dksJ33_next_1 8 rfl rfl)
theorem dJ33_next_33 : decode cJ33_next 33 = .ok (.aload_n 0, 1) := dk_42 (dk_at dksJ33_next_1 9 rfl rfl)
theorem dJ33_next_34 : decode cJ33_next 34 = .ok (.invokevirtual 32, 3) := dk_182 0 32 (dk_at dksJ33_next_1 10 rfl rfl)
theorem dJ33_next_37 : decode cJ33_next 37 = .ok (.new 41, 3) := dk_187 0 41 (dk_at dksJ33_next_1 13 rfl rfl)
theorem dJ33_next_40 : decode cJ33_next 40 = .ok (.dup, 1) := dk_89 (dk_at dksJ33_next_1 16 rfl rfl)
theorem dJ33_next_41 : decode cJ33_next 41 = .ok (.aload_n 1, 1) := dk_43 (dk_at dksJ33_next_1 17 rfl rfl)
theorem dJ33_next_42 : decode cJ33_next 42 = .ok (.invokespecial 43, 3) := dk_183 0 43 (dk_at dksJ33_next_1 18 rfl rfl)
theorem dJ33_next_45 : decode cJ33_next 45 = .ok (.athrow, 1) := dk_191 (dk_at dksJ33_next_1 21 rfl rfl)
abbrev cJ33_checkForComodification : ByteArray := prog_46_method_5_code
def yJ33_checkForComodification : MethodName := ⟨RJ33, "checkForComodification", "()V"⟩
def dkwJ33_checkForComodification_0 : List UInt8 := [42, 180, 0, 1, 180, 0, 20, 42, 180, 0, 25, 159, 0, 11, 187, 0, 52, 89, 183, 0, 54, 191, 177]
abbrev dktJ33_checkForComodification_0 : List UInt8 := dkwJ33_checkForComodification_0 ++ []
theorem dksJ33_checkForComodification_0 : cJ33_checkForComodification.data.toList.drop 0 = dktJ33_checkForComodification_0 := by decide +kernel
theorem dJ33_checkForComodification_0 : decode cJ33_checkForComodification 0 = .ok (.aload_n 0, 1) := dk_42 (dk_at dksJ33_checkForComodification_0 0 rfl rfl)
theorem dJ33_checkForComodification_1 : decode cJ33_checkForComodification 1 = .ok (.getfield 1, 3) := dk_180 0 1 (dk_at dksJ33_checkForComodification_0 1 rfl rfl)
theorem dJ33_checkForComodification_4 : decode cJ33_checkForComodification 4 = .ok (.getfield 20, 3) := dk_180 0 20 (dk_at dksJ33_checkForComodification_0 4 rfl rfl)
theorem dJ33_checkForComodification_7 : decode cJ33_checkForComodification 7 = .ok (.aload_n 0, 1) := dk_42 (dk_at dksJ33_checkForComodification_0 7 rfl rfl)
theorem dJ33_checkForComodification_8 : decode cJ33_checkForComodification 8 = .ok (.getfield 25, 3) := dk_180 0 25 (dk_at dksJ33_checkForComodification_0 8 rfl rfl)
theorem dJ33_checkForComodification_11 : decode cJ33_checkForComodification 11 = .ok (.if_icmp .eq 11, 3) := dk_159 0 11 (dk_at dksJ33_checkForComodification_0 11 rfl rfl)
theorem dJ33_checkForComodification_14 : decode cJ33_checkForComodification 14 = .ok (.new 52, 3) := dk_187 0 52 (dk_at dksJ33_checkForComodification_0 14 rfl rfl)
theorem dJ33_checkForComodification_17 : decode cJ33_checkForComodification 17 = .ok (.dup, 1) := dk_89 (dk_at dksJ33_checkForComodification_0 17 rfl rfl)
theorem dJ33_checkForComodification_18 : decode cJ33_checkForComodification 18 = .ok (.invokespecial 54, 3) := dk_183 0 54 (dk_at dksJ33_checkForComodification_0 18 rfl rfl)
theorem dJ33_checkForComodification_21 : decode cJ33_checkForComodification 21 = .ok (.athrow, 1) := dk_191 (dk_at dksJ33_checkForComodification_0 21 rfl rfl)
theorem dJ33_checkForComodification_22 : decode cJ33_checkForComodification 22 = .ok (.return_, 1) := dk_177 (dk_at dksJ33_checkForComodification_0 22 rfl rfl)
theorem q158 : (Jvm.Cond.initialized "java/util/AbstractList$Itr") ∈ lw_all := lw_g (lw_at lw_m1 45 rfl) rfl
theorem q493 : (Jvm.Cond.fieldLink "java/util/AbstractList$Itr" (20 : Nat) "java/util/AbstractList" "modCount" "I") ∈ lw_all := lw_g (lw_at lw_m2 140 rfl) rfl
theorem q1445 : (Jvm.Cond.instanceMethod ({ cls := "java/util/AbstractList$Itr", name := "hasNext", desc := "()Z" } : Jvm.MethodName)) ∈ lw_all := lw_g (lw_at lw_m6 132 rfl) rfl
theorem q1446 : (Jvm.Cond.publicMethod ({ cls := "java/util/AbstractList$Itr", name := "hasNext", desc := "()Z" } : Jvm.MethodName)) ∈ lw_tbl := lw_at lw_m6 133 rfl
theorem q1447 : (Jvm.Cond.code ({ cls := "java/util/AbstractList$Itr", name := "hasNext", desc := "()Z" } : Jvm.MethodName) prog_46_method_2_code (1 : Nat) (Option.some Jvm.ClassFile.FieldType.boolean)) ∈ lw_all := lw_g (lw_at lw_m6 134 rfl) rfl
theorem q1448 : (Jvm.Cond.methodLink "java/util/AbstractList$Itr" (28 : Nat) ({ cls := "java/util/AbstractList", name := "size", desc := "()I" } : Jvm.MethodName)) ∈ lw_all := lw_g (lw_at lw_m6 135 rfl) rfl
theorem q1477 : (Jvm.Cond.instanceMethod ({ cls := "java/util/AbstractList$Itr", name := "next", desc := "()Ljava/lang/Object;" } : Jvm.MethodName)) ∈ lw_all := lw_g (lw_at lw_m6 164 rfl) rfl
theorem q1478 : (Jvm.Cond.publicMethod ({ cls := "java/util/AbstractList$Itr", name := "next", desc := "()Ljava/lang/Object;" } : Jvm.MethodName)) ∈ lw_tbl := lw_at lw_m6 165 rfl
theorem q1479 : (Jvm.Cond.codeWith ({ cls := "java/util/AbstractList$Itr", name := "next", desc := "()Ljava/lang/Object;" } : Jvm.MethodName) prog_46_method_3_code (3 : Nat) (Option.some (Jvm.ClassFile.FieldType.object "java/lang/Object")) [((4 : Nat), (31 : Nat), (32 : Nat), (39 : Nat))]) ∈ lw_all := lw_g (lw_at lw_m6 166 rfl) rfl
theorem q1480 : (Jvm.Cond.methodLink "java/util/AbstractList$Itr" (32 : Nat) ({ cls := "java/util/AbstractList$Itr", name := "checkForComodification", desc := "()V" } : Jvm.MethodName)) ∈ lw_all := lw_g (lw_at lw_m6 167 rfl) rfl
theorem q1481 : (Jvm.Cond.instanceMethod ({ cls := "java/util/AbstractList$Itr", name := "checkForComodification", desc := "()V" } : Jvm.MethodName)) ∈ lw_all := lw_g (lw_at lw_m6 168 rfl) rfl
theorem q1482 : (Jvm.Cond.sameMethod "java/util/AbstractList$Itr" "java/util/AbstractList$Itr" "checkForComodification" "()V") ∈ lw_all := lw_g (lw_at lw_m6 169 rfl) rfl
theorem q1484 : (Jvm.Cond.code ({ cls := "java/util/AbstractList$Itr", name := "checkForComodification", desc := "()V" } : Jvm.MethodName) prog_46_method_5_code (1 : Nat) (Option.none : Option Jvm.ClassFile.FieldType)) ∈ lw_all := lw_g (lw_at lw_m6 171 rfl) rfl
theorem q1485 : (Jvm.Cond.methodLink "java/util/AbstractList$Itr" (35 : Nat) ({ cls := "java/util/AbstractList", name := "get", desc := "(I)Ljava/lang/Object;" } : Jvm.MethodName)) ∈ lw_all := lw_g (lw_at lw_m6 172 rfl) rfl
theorem q1489 : (Jvm.Cond.classLink "java/util/AbstractList$Itr" (41 : Nat) "java/util/NoSuchElementException") ∈ lw_all := lw_g (lw_at lw_m6 176 rfl) rfl
theorem q1498 : (Jvm.Cond.methodLink "java/util/AbstractList$Itr" (43 : Nat) ({ cls := "java/util/NoSuchElementException", name := "<init>", desc := "(Ljava/lang/Throwable;)V" } : Jvm.MethodName)) ∈ lw_all := lw_g (lw_at lw_m6 185 rfl) rfl
theorem q2825 : (Jvm.Cond.fieldLink "java/util/AbstractList$Itr" (1 : Nat) "java/util/AbstractList$Itr" "this$0" "Ljava/util/AbstractList;") ∈ lw_all := lw_g (lw_at lw_m12 72 rfl) rfl
theorem q2826 : (Jvm.Cond.fieldLink "java/util/AbstractList$Itr" (13 : Nat) "java/util/AbstractList$Itr" "cursor" "I") ∈ lw_all := lw_g (lw_at lw_m12 73 rfl) rfl
theorem q2827 : (Jvm.Cond.fieldLink "java/util/AbstractList$Itr" (17 : Nat) "java/util/AbstractList$Itr" "lastRet" "I") ∈ lw_all := lw_g (lw_at lw_m12 74 rfl) rfl
theorem q2828 : (Jvm.Cond.fieldLink "java/util/AbstractList$Itr" (25 : Nat) "java/util/AbstractList$Itr" "expectedModCount" "I") ∈ lw_all := lw_g (lw_at lw_m12 75 rfl) rfl

/-! java/util/LinkedList$ListItr -/
set_option maxRecDepth 100000
def RJ34 : String := "java/util/LinkedList$ListItr"
def TJ34 : u_T := fun k => match k with
  | 0 => ("java/util/LinkedList$ListItr", "lastReturned", "Ljava/util/LinkedList$Node;", false)
  | 1 => ("java/util/LinkedList$ListItr", "next", "Ljava/util/LinkedList$Node;", false)
  | 2 => ("java/util/LinkedList$ListItr", "nextIndex", "I", false)
  | 3 => ("java/util/LinkedList$ListItr", "expectedModCount", "I", false)
  | _ => ("java/util/LinkedList$ListItr", "this$0", "Ljava/util/LinkedList;", true)
def tyJ34 : Nat → FieldType := fun k => match k with
  | 0 => .object "java/util/LinkedList$Node"
  | 1 => .object "java/util/LinkedList$Node"
  | 2 => .int
  | 3 => .int
  | _ => .object "java/util/LinkedList"
abbrev wsJ340 : List Cond := u_ws RJ34 TJ34 5
theorem nmJ34 : ∀ a, a < 5 → ∀ b, b < 5 → a ≠ b → (TJ34 a).2.1 ≠ (TJ34 b).2.1 := by decide +kernel
theorem tyJ34_ok : ∀ k, k < 5 → parseFieldDescriptor (TJ34 k).2.2.1 = some (tyJ34 k) := by decide +kernel
abbrev cJ34_init : ByteArray := prog_64_method_1_code
def yJ34_init : MethodName := ⟨RJ34, "<init>", "(Ljava/util/LinkedList;I)V"⟩
def dkwJ34_init_1 : List UInt8 := [180, 0, 22, 160, 0, 7, 1, 167, 0, 8, 43, 28, 182, 0, 25, 181, 0, 29, 42, 28, 181, 0, 33, 177]
abbrev dktJ34_init_1 : List UInt8 := dkwJ34_init_1 ++ []
def dkwJ34_init_0 : List UInt8 := [42, 43, 181, 0, 1, 42, 183, 0, 7, 42, 42, 180, 0, 1, 180, 0, 13, 181, 0, 19, 42, 28, 43]
abbrev dktJ34_init_0 : List UInt8 := dkwJ34_init_0 ++ dktJ34_init_1
theorem dksJ34_init_0 : cJ34_init.data.toList.drop 0 = dktJ34_init_0 := by decide +kernel
theorem dksJ34_init_1 : cJ34_init.data.toList.drop 23 = dktJ34_init_1 := dk_seg dksJ34_init_0 23 rfl rfl
theorem dJ34_init_0 : decode cJ34_init 0 = .ok (.aload_n 0, 1) := dk_42 (dk_at dksJ34_init_0 0 rfl rfl)
theorem dJ34_init_1 : decode cJ34_init 1 = .ok (.aload_n 1, 1) := dk_43 (dk_at dksJ34_init_0 1 rfl rfl)
theorem dJ34_init_2 : decode cJ34_init 2 = .ok (.putfield 1, 3) := dk_181 0 1 (dk_at dksJ34_init_0 2 rfl rfl)
theorem dJ34_init_5 : decode cJ34_init 5 = .ok (.aload_n 0, 1) := dk_42 (dk_at dksJ34_init_0 5 rfl rfl)
theorem dJ34_init_6 : decode cJ34_init 6 = .ok (.invokespecial 7, 3) := dk_183 0 7 (dk_at dksJ34_init_0 6 rfl rfl)
theorem dJ34_init_9 : decode cJ34_init 9 = .ok (.aload_n 0, 1) := dk_42 (dk_at dksJ34_init_0 9 rfl rfl)
theorem dJ34_init_10 : decode cJ34_init 10 = .ok (.aload_n 0, 1) := dk_42 (dk_at dksJ34_init_0 10 rfl rfl)
theorem dJ34_init_11 : decode cJ34_init 11 = .ok (.getfield 1, 3) := dk_180 0 1 (dk_at dksJ34_init_0 11 rfl rfl)
theorem dJ34_init_14 : decode cJ34_init 14 = .ok (.getfield 13, 3) := dk_180 0 13 (dk_at dksJ34_init_0 14 rfl rfl)
theorem dJ34_init_17 : decode cJ34_init 17 = .ok (.putfield 19, 3) := dk_181 0 19 (dk_at dksJ34_init_0 17 rfl rfl)
theorem dJ34_init_20 : decode cJ34_init 20 = .ok (.aload_n 0, 1) := dk_42 (dk_at dksJ34_init_0 20 rfl rfl)
theorem dJ34_init_21 : decode cJ34_init 21 = .ok (.iload_n 2, 1) := dk_28 (dk_at dksJ34_init_0 21 rfl rfl)
theorem dJ34_init_22 : decode cJ34_init 22 = .ok (.aload_n 1, 1) := dk_43 (dk_at dksJ34_init_0 22 rfl rfl)
theorem dJ34_init_23 : decode cJ34_init 23 = .ok (.getfield 22, 3) := dk_180 0 22 (dk_at dksJ34_init_1 0 rfl rfl)
theorem dJ34_init_26 : decode cJ34_init 26 = .ok (.if_icmp .ne 7, 3) := dk_160 0 7 (dk_at dksJ34_init_1 3 rfl rfl)
theorem dJ34_init_29 : decode cJ34_init 29 = .ok (.aconst_null, 1) := dk_1 (dk_at dksJ34_init_1 6 rfl rfl)
theorem dJ34_init_30 : decode cJ34_init 30 = .ok (.goto 8, 3) := dk_167 0 8 (dk_at dksJ34_init_1 7 rfl rfl)
theorem dJ34_init_33 : decode cJ34_init 33 = .ok (.aload_n 1, 1) := dk_43 (dk_at dksJ34_init_1 10 rfl rfl)
theorem dJ34_init_34 : decode cJ34_init 34 = .ok (.iload_n 2, 1) := dk_28 (dk_at dksJ34_init_1 11 rfl rfl)
theorem dJ34_init_35 : decode cJ34_init 35 = .ok (.invokevirtual 25, 3) := dk_182 0 25 (dk_at dksJ34_init_1 12 rfl rfl)
theorem dJ34_init_38 : decode cJ34_init 38 = .ok (.putfield 29, 3) := dk_181 0 29 (dk_at dksJ34_init_1 15 rfl rfl)
theorem dJ34_init_41 : decode cJ34_init 41 = .ok (.aload_n 0, 1) := dk_42 (dk_at dksJ34_init_1 18 rfl rfl)
theorem dJ34_init_42 : decode cJ34_init 42 = .ok (.iload_n 2, 1) := dk_28 (dk_at dksJ34_init_1 19 rfl rfl)
theorem dJ34_init_43 : decode cJ34_init 43 = .ok (.putfield 33, 3) := dk_181 0 33 (dk_at dksJ34_init_1 20 rfl rfl)
theorem dJ34_init_46 : decode cJ34_init 46 = .ok (.return_, 1) := dk_177 (dk_at dksJ34_init_1 23 rfl rfl)
abbrev cJ34_hasNext : ByteArray := prog_64_method_2_code
def yJ34_hasNext : MethodName := ⟨RJ34, "hasNext", "()Z"⟩
def dkwJ34_hasNext_0 : List UInt8 := [42, 180, 0, 33, 42, 180, 0, 1, 180, 0, 22, 162, 0, 7, 4, 167, 0, 4, 3, 172]
abbrev dktJ34_hasNext_0 : List UInt8 := dkwJ34_hasNext_0 ++ []
theorem dksJ34_hasNext_0 : cJ34_hasNext.data.toList.drop 0 = dktJ34_hasNext_0 := by decide +kernel
theorem dJ34_hasNext_0 : decode cJ34_hasNext 0 = .ok (.aload_n 0, 1) := dk_42 (dk_at dksJ34_hasNext_0 0 rfl rfl)
theorem dJ34_hasNext_1 : decode cJ34_hasNext 1 = .ok (.getfield 33, 3) := dk_180 0 33 (dk_at dksJ34_hasNext_0 1 rfl rfl)
theorem dJ34_hasNext_4 : decode cJ34_hasNext 4 = .ok (.aload_n 0, 1) := dk_42 (dk_at dksJ34_hasNext_0 4 rfl rfl)
theorem dJ34_hasNext_5 : decode cJ34_hasNext 5 = .ok (.getfield 1, 3) := dk_180 0 1 (dk_at dksJ34_hasNext_0 5 rfl rfl)
theorem dJ34_hasNext_8 : decode cJ34_hasNext 8 = .ok (.getfield 22, 3) := dk_180 0 22 (dk_at dksJ34_hasNext_0 8 rfl rfl)
theorem dJ34_hasNext_11 : decode cJ34_hasNext 11 = .ok (.if_icmp .ge 7, 3) := dk_162 0 7 (dk_at dksJ34_hasNext_0 11 rfl rfl)
theorem dJ34_hasNext_14 : decode cJ34_hasNext 14 = .ok (.iconst 1, 1) := dk_4 (dk_at dksJ34_hasNext_0 14 rfl rfl)
theorem dJ34_hasNext_15 : decode cJ34_hasNext 15 = .ok (.goto 4, 3) := dk_167 0 4 (dk_at dksJ34_hasNext_0 15 rfl rfl)
theorem dJ34_hasNext_18 : decode cJ34_hasNext 18 = .ok (.iconst 0, 1) := dk_3 (dk_at dksJ34_hasNext_0 18 rfl rfl)
theorem dJ34_hasNext_19 : decode cJ34_hasNext 19 = .ok (.ireturn, 1) := dk_172 (dk_at dksJ34_hasNext_0 19 rfl rfl)
abbrev cJ34_next : ByteArray := prog_64_method_3_code
def yJ34_next : MethodName := ⟨RJ34, "next", "()Ljava/lang/Object;"⟩
def dkwJ34_next_2 : List UInt8 := [42, 180, 0, 46, 180, 0, 52, 176]
abbrev dktJ34_next_2 : List UInt8 := dkwJ34_next_2 ++ []
def dkwJ34_next_1 : List UInt8 := [181, 0, 46, 42, 42, 180, 0, 29, 180, 0, 49, 181, 0, 29, 42, 89, 180, 0, 33, 4, 96, 181, 0, 33]
abbrev dktJ34_next_1 : List UInt8 := dkwJ34_next_1 ++ dktJ34_next_2
def dkwJ34_next_0 : List UInt8 := [42, 182, 0, 36, 42, 182, 0, 39, 154, 0, 11, 187, 0, 43, 89, 183, 0, 45, 191, 42, 42, 180, 0, 29]
abbrev dktJ34_next_0 : List UInt8 := dkwJ34_next_0 ++ dktJ34_next_1
theorem dksJ34_next_0 : cJ34_next.data.toList.drop 0 = dktJ34_next_0 := by decide +kernel
theorem dksJ34_next_1 : cJ34_next.data.toList.drop 24 = dktJ34_next_1 := dk_seg dksJ34_next_0 24 rfl rfl
theorem dksJ34_next_2 : cJ34_next.data.toList.drop 48 = dktJ34_next_2 := dk_seg dksJ34_next_1 24 rfl rfl
theorem dJ34_next_0 : decode cJ34_next 0 = .ok (.aload_n 0, 1) := dk_42 (dk_at dksJ34_next_0 0 rfl rfl)
theorem dJ34_next_1 : decode cJ34_next 1 = .ok (.invokevirtual 36, 3) := dk_182 0 36 (dk_at dksJ34_next_0 1 rfl rfl)
theorem dJ34_next_4 : decode cJ34_next 4 = .ok (.aload_n 0, 1) := dk_42 (dk_at dksJ34_next_0 4 rfl rfl)
theorem dJ34_next_5 : decode cJ34_next 5 = .ok (.invokevirtual 39, 3) := dk_182 0 39 (dk_at dksJ34_next_0 5 rfl rfl)
theorem dJ34_next_8 : decode cJ34_next 8 = .ok (.ifCond .ne 11, 3) := dk_154 0 11 (dk_at dksJ34_next_0 8 rfl rfl)
theorem dJ34_next_11 : decode cJ34_next 11 = .ok (.new 43, 3) := dk_187 0 43 (dk_at dksJ34_next_0 11 rfl rfl)
theorem dJ34_next_14 : decode cJ34_next 14 = .ok (.dup, 1) := dk_89 (dk_at dksJ34_next_0 14 rfl rfl)
theorem dJ34_next_15 : decode cJ34_next 15 = .ok (.invokespecial 45, 3) := dk_183 0 45 (dk_at dksJ34_next_0 15 rfl rfl)
theorem dJ34_next_18 : decode cJ34_next 18 = .ok (.athrow, 1) := dk_191 (dk_at dksJ34_next_0 18 rfl rfl)
theorem dJ34_next_19 : decode cJ34_next 19 = .ok (.aload_n 0, 1) := dk_42 (dk_at dksJ34_next_0 19 rfl rfl)
theorem dJ34_next_20 : decode cJ34_next 20 = .ok (.aload_n 0, 1) := dk_42 (dk_at dksJ34_next_0 20 rfl rfl)
theorem dJ34_next_21 : decode cJ34_next 21 = .ok (.getfield 29, 3) := dk_180 0 29 (dk_at dksJ34_next_0 21 rfl rfl)
theorem dJ34_next_24 : decode cJ34_next 24 = .ok (.putfield 46, 3) := dk_181 0 46 (dk_at dksJ34_next_1 0 rfl rfl)
theorem dJ34_next_27 : decode cJ34_next 27 = .ok (.aload_n 0, 1) := dk_42 (dk_at dksJ34_next_1 3 rfl rfl)
theorem dJ34_next_28 : decode cJ34_next 28 = .ok (.aload_n 0, 1) := dk_42 (dk_at dksJ34_next_1 4 rfl rfl)
theorem dJ34_next_29 : decode cJ34_next 29 = .ok (.getfield 29, 3) := dk_180 0 29 (dk_at dksJ34_next_1 5 rfl rfl)
theorem dJ34_next_32 : decode cJ34_next 32 = .ok (.getfield 49, 3) := dk_180 0 49 (dk_at dksJ34_next_1 8 rfl rfl)
theorem dJ34_next_35 : decode cJ34_next 35 = .ok (.putfield 29, 3) := dk_181 0 29 (dk_at dksJ34_next_1 11 rfl rfl)
theorem dJ34_next_38 : decode cJ34_next 38 = .ok (.aload_n 0, 1) := dk_42 (dk_at dksJ34_next_1 14 rfl rfl)
theorem dJ34_next_39 : decode cJ34_next 39 = .ok (.dup, 1) := dk_89 (dk_at dksJ34_next_1 15 rfl rfl)
theorem dJ34_next_40 : decode cJ34_next 40 = .ok (.getfield 33, 3) := dk_180 0 33 (dk_at dksJ34_next_1 16 rfl rfl)
theorem dJ34_next_43 : decode cJ34_next 43 = .ok (.iconst 1, 1) := dk_4 (dk_at dksJ34_next_1 19 rfl rfl)
theorem dJ34_next_44 : decode cJ34_next 44 = .ok (.iadd, 1) := dk_96 (dk_at dksJ34_next_1 20 rfl rfl)
theorem dJ34_next_45 : decode cJ34_next 45 = .ok (.putfield 33, 3) := dk_181 0 33 (dk_at dksJ34_next_1 21 rfl rfl)
theorem dJ34_next_48 : decode cJ34_next 48 = .ok (.aload_n 0, 1) := dk_42 (dk_at dksJ34_next_2 0 rfl rfl)
theorem dJ34_next_49 : decode cJ34_next 49 = .ok (.getfield 46, 3) := dk_180 0 46 (dk_at dksJ34_next_2 1 rfl rfl)
theorem dJ34_next_52 : decode cJ34_next 52 = .ok (.getfield 52, 3) := dk_180 0 52 (dk_at dksJ34_next_2 4 rfl rfl)
theorem dJ34_next_55 : decode cJ34_next 55 = .ok (.areturn, 1) := dk_176 (dk_at dksJ34_next_2 7 rfl rfl)
abbrev cJ34_checkForComodification : ByteArray := prog_64_method_12_code
def yJ34_checkForComodification : MethodName := ⟨RJ34, "checkForComodification", "()V"⟩
def dkwJ34_checkForComodification_0 : List UInt8 := [42, 180, 0, 1, 180, 0, 13, 42, 180, 0, 19, 159, 0, 11, 187, 0, 91, 89, 183, 0, 93, 191, 177]
abbrev dktJ34_checkForComodification_0 : List UInt8 := dkwJ34_checkForComodification_0 ++ []
theorem dksJ34_checkForComodification_0 : cJ34_checkForComodification.data.toList.drop 0 = dktJ34_checkForComodification_0 := by decide +kernel
theorem dJ34_checkForComodification_0 : decode cJ34_checkForComodification 0 = .ok (.aload_n 0, 1) := dk_42 (dk_at dksJ34_checkForComodification_0 0 rfl rfl)
theorem dJ34_checkForComodification_1 : decode cJ34_checkForComodification 1 = .ok (.getfield 1, 3) := dk_180 0 1 (dk_at dksJ34_checkForComodification_0 1 rfl rfl)
theorem dJ34_checkForComodification_4 : decode cJ34_checkForComodification 4 = .ok (.getfield 13, 3) := dk_180 0 13 (dk_at dksJ34_checkForComodification_0 4 rfl rfl)
theorem dJ34_checkForComodification_7 : decode cJ34_checkForComodification 7 = .ok (.aload_n 0, 1) := dk_42 (dk_at dksJ34_checkForComodification_0 7 rfl rfl)
theorem dJ34_checkForComodification_8 : decode cJ34_checkForComodification 8 = .ok (.getfield 19, 3) := dk_180 0 19 (dk_at dksJ34_checkForComodification_0 8 rfl rfl)
theorem dJ34_checkForComodification_11 : decode cJ34_checkForComodification 11 = .ok (.if_icmp .eq 11, 3) := dk_159 0 11 (dk_at dksJ34_checkForComodification_0 11 rfl rfl)
theorem dJ34_checkForComodification_14 : decode cJ34_checkForComodification 14 = .ok (.new 91, 3) := dk_187 0 91 (dk_at dksJ34_checkForComodification_0 14 rfl rfl)
theorem dJ34_checkForComodification_17 : decode cJ34_checkForComodification 17 = .ok (.dup, 1) := dk_89 (dk_at dksJ34_checkForComodification_0 17 rfl rfl)
theorem dJ34_checkForComodification_18 : decode cJ34_checkForComodification 18 = .ok (.invokespecial 93, 3) := dk_183 0 93 (dk_at dksJ34_checkForComodification_0 18 rfl rfl)
theorem dJ34_checkForComodification_21 : decode cJ34_checkForComodification 21 = .ok (.athrow, 1) := dk_191 (dk_at dksJ34_checkForComodification_0 21 rfl rfl)
theorem dJ34_checkForComodification_22 : decode cJ34_checkForComodification 22 = .ok (.return_, 1) := dk_177 (dk_at dksJ34_checkForComodification_0 22 rfl rfl)
theorem q160 : (Jvm.Cond.initialized "java/util/LinkedList$ListItr") ∈ lw_all := lw_g (lw_at lw_m1 47 rfl) rfl
theorem q245 : (Jvm.Cond.selects "java/util/LinkedList$ListItr" ({ cls := "java/lang/Object", name := "getClass", desc := "()Ljava/lang/Class;" } : Jvm.MethodName) ({ cls := "java/lang/Object", name := "getClass", desc := "()Ljava/lang/Class;" } : Jvm.MethodName)) ∈ lw_all := lw_g (lw_at lw_m1 132 rfl) rfl
theorem q487 : (Jvm.Cond.fieldLink "java/util/LinkedList$ListItr" (22 : Nat) "java/util/LinkedList" "size" "I") ∈ lw_all := lw_g (lw_at lw_m2 134 rfl) rfl
theorem q491 : (Jvm.Cond.fieldLink "java/util/LinkedList$ListItr" (13 : Nat) "java/util/LinkedList" "modCount" "I") ∈ lw_all := lw_g (lw_at lw_m2 138 rfl) rfl
theorem q1415 : (Jvm.Cond.instantiable "java/util/LinkedList$ListItr" (5 : Nat)) ∈ lw_all := lw_g (lw_at lw_m6 102 rfl) rfl
theorem q1417 : (Jvm.Cond.instanceMethod ({ cls := "java/util/LinkedList$ListItr", name := "<init>", desc := "(Ljava/util/LinkedList;I)V" } : Jvm.MethodName)) ∈ lw_all := lw_g (lw_at lw_m6 104 rfl) rfl
theorem q1418 : (Jvm.Cond.code ({ cls := "java/util/LinkedList$ListItr", name := "<init>", desc := "(Ljava/util/LinkedList;I)V" } : Jvm.MethodName) prog_64_method_1_code (3 : Nat) (Option.none : Option Jvm.ClassFile.FieldType)) ∈ lw_all := lw_g (lw_at lw_m6 105 rfl) rfl
theorem q1419 : (Jvm.Cond.methodLink "java/util/LinkedList$ListItr" (7 : Nat) ({ cls := "java/lang/Object", name := "<init>", desc := "()V" } : Jvm.MethodName)) ∈ lw_all := lw_g (lw_at lw_m6 106 rfl) rfl
theorem q1420 : (Jvm.Cond.methodLink "java/util/LinkedList$ListItr" (25 : Nat) ({ cls := "java/util/LinkedList", name := "node", desc := "(I)Ljava/util/LinkedList$Node;" } : Jvm.MethodName)) ∈ lw_all := lw_g (lw_at lw_m6 107 rfl) rfl
theorem q1421 : (Jvm.Cond.fieldLink "java/util/LinkedList$ListItr" (46 : Nat) "java/util/LinkedList$ListItr" "lastReturned" "Ljava/util/LinkedList$Node;") ∈ lw_all := lw_g (lw_at lw_m6 108 rfl) rfl
theorem q1422 : (Jvm.Cond.fieldLink "java/util/LinkedList$ListItr" (29 : Nat) "java/util/LinkedList$ListItr" "next" "Ljava/util/LinkedList$Node;") ∈ lw_all := lw_g (lw_at lw_m6 109 rfl) rfl
theorem q1423 : (Jvm.Cond.fieldLink "java/util/LinkedList$ListItr" (33 : Nat) "java/util/LinkedList$ListItr" "nextIndex" "I") ∈ lw_all := lw_g (lw_at lw_m6 110 rfl) rfl
theorem q1424 : (Jvm.Cond.fieldLink "java/util/LinkedList$ListItr" (19 : Nat) "java/util/LinkedList$ListItr" "expectedModCount" "I") ∈ lw_all := lw_g (lw_at lw_m6 111 rfl) rfl
theorem q1425 : (Jvm.Cond.fieldLink "java/util/LinkedList$ListItr" (1 : Nat) "java/util/LinkedList$ListItr" "this$0" "Ljava/util/LinkedList;") ∈ lw_all := lw_g (lw_at lw_m6 112 rfl) rfl
theorem q1426 : (Jvm.Cond.lays "java/util/LinkedList$ListItr" "java/util/LinkedList$ListItr" "lastReturned" "Ljava/util/LinkedList$Node;") ∈ lw_all := lw_g (lw_at lw_m6 113 rfl) rfl
theorem q1427 : (Jvm.Cond.soleField "java/util/LinkedList$ListItr" "lastReturned") ∈ lw_all := lw_g (lw_at lw_m6 114 rfl) rfl
theorem q1428 : (Jvm.Cond.lays "java/util/LinkedList$ListItr" "java/util/LinkedList$ListItr" "next" "Ljava/util/LinkedList$Node;") ∈ lw_all := lw_g (lw_at lw_m6 115 rfl) rfl
theorem q1429 : (Jvm.Cond.soleField "java/util/LinkedList$ListItr" "next") ∈ lw_all := lw_g (lw_at lw_m6 116 rfl) rfl
theorem q1430 : (Jvm.Cond.lays "java/util/LinkedList$ListItr" "java/util/LinkedList$ListItr" "nextIndex" "I") ∈ lw_all := lw_g (lw_at lw_m6 117 rfl) rfl
theorem q1431 : (Jvm.Cond.soleField "java/util/LinkedList$ListItr" "nextIndex") ∈ lw_all := lw_g (lw_at lw_m6 118 rfl) rfl
theorem q1432 : (Jvm.Cond.lays "java/util/LinkedList$ListItr" "java/util/LinkedList$ListItr" "expectedModCount" "I") ∈ lw_all := lw_g (lw_at lw_m6 119 rfl) rfl
theorem q1433 : (Jvm.Cond.soleField "java/util/LinkedList$ListItr" "expectedModCount") ∈ lw_all := lw_g (lw_at lw_m6 120 rfl) rfl
theorem q1434 : (Jvm.Cond.laysFinal "java/util/LinkedList$ListItr" "java/util/LinkedList$ListItr" "this$0" "Ljava/util/LinkedList;") ∈ lw_all := lw_g (lw_at lw_m6 121 rfl) rfl
theorem q1435 : (Jvm.Cond.soleField "java/util/LinkedList$ListItr" "this$0") ∈ lw_all := lw_g (lw_at lw_m6 122 rfl) rfl
theorem q1436 : (Jvm.Cond.superclass "java/util/LinkedList$ListItr" "java/lang/Object") ∈ lw_all := lw_g (lw_at lw_m6 123 rfl) rfl
theorem q1465 : (Jvm.Cond.castable "java/util/LinkedList$ListItr" "java/util/Iterator") ∈ lw_tbl := lw_at lw_m6 152 rfl
theorem q1466 : (Jvm.Cond.selects "java/util/LinkedList$ListItr" ({ cls := "java/util/Iterator", name := "hasNext", desc := "()Z" } : Jvm.MethodName) ({ cls := "java/util/LinkedList$ListItr", name := "hasNext", desc := "()Z" } : Jvm.MethodName)) ∈ lw_all := lw_g (lw_at lw_m6 153 rfl) rfl
theorem q1467 : (Jvm.Cond.unhidden "java/util/LinkedList$ListItr" "hasNext" "()Z") ∈ lw_tbl := lw_at lw_m6 154 rfl
theorem q1468 : (Jvm.Cond.instanceMethod ({ cls := "java/util/LinkedList$ListItr", name := "hasNext", desc := "()Z" } : Jvm.MethodName)) ∈ lw_all := lw_g (lw_at lw_m6 155 rfl) rfl
theorem q1469 : (Jvm.Cond.publicMethod ({ cls := "java/util/LinkedList$ListItr", name := "hasNext", desc := "()Z" } : Jvm.MethodName)) ∈ lw_tbl := lw_at lw_m6 156 rfl
theorem q1470 : (Jvm.Cond.code ({ cls := "java/util/LinkedList$ListItr", name := "hasNext", desc := "()Z" } : Jvm.MethodName) prog_64_method_2_code (1 : Nat) (Option.some Jvm.ClassFile.FieldType.boolean)) ∈ lw_all := lw_g (lw_at lw_m6 157 rfl) rfl
theorem q1585 : (Jvm.Cond.selects "java/util/LinkedList$ListItr" ({ cls := "java/util/Iterator", name := "next", desc := "()Ljava/lang/Object;" } : Jvm.MethodName) ({ cls := "java/util/LinkedList$ListItr", name := "next", desc := "()Ljava/lang/Object;" } : Jvm.MethodName)) ∈ lw_all := lw_g (lw_at lw_m7 32 rfl) rfl
theorem q1586 : (Jvm.Cond.unhidden "java/util/LinkedList$ListItr" "next" "()Ljava/lang/Object;") ∈ lw_tbl := lw_at lw_m7 33 rfl
theorem q1587 : (Jvm.Cond.instanceMethod ({ cls := "java/util/LinkedList$ListItr", name := "next", desc := "()Ljava/lang/Object;" } : Jvm.MethodName)) ∈ lw_all := lw_g (lw_at lw_m7 34 rfl) rfl
theorem q1588 : (Jvm.Cond.publicMethod ({ cls := "java/util/LinkedList$ListItr", name := "next", desc := "()Ljava/lang/Object;" } : Jvm.MethodName)) ∈ lw_tbl := lw_at lw_m7 35 rfl
theorem q1589 : (Jvm.Cond.code ({ cls := "java/util/LinkedList$ListItr", name := "next", desc := "()Ljava/lang/Object;" } : Jvm.MethodName) prog_64_method_3_code (1 : Nat) (Option.some (Jvm.ClassFile.FieldType.object "java/lang/Object"))) ∈ lw_all := lw_g (lw_at lw_m7 36 rfl) rfl
theorem q1590 : (Jvm.Cond.methodLink "java/util/LinkedList$ListItr" (36 : Nat) ({ cls := "java/util/LinkedList$ListItr", name := "checkForComodification", desc := "()V" } : Jvm.MethodName)) ∈ lw_all := lw_g (lw_at lw_m7 37 rfl) rfl
theorem q1591 : (Jvm.Cond.instanceMethod ({ cls := "java/util/LinkedList$ListItr", name := "checkForComodification", desc := "()V" } : Jvm.MethodName)) ∈ lw_all := lw_g (lw_at lw_m7 38 rfl) rfl
theorem q1592 : (Jvm.Cond.selects "java/util/LinkedList$ListItr" ({ cls := "java/util/LinkedList$ListItr", name := "checkForComodification", desc := "()V" } : Jvm.MethodName) ({ cls := "java/util/LinkedList$ListItr", name := "checkForComodification", desc := "()V" } : Jvm.MethodName)) ∈ lw_all := lw_g (lw_at lw_m7 39 rfl) rfl
theorem q1593 : (Jvm.Cond.code ({ cls := "java/util/LinkedList$ListItr", name := "checkForComodification", desc := "()V" } : Jvm.MethodName) prog_64_method_12_code (1 : Nat) (Option.none : Option Jvm.ClassFile.FieldType)) ∈ lw_all := lw_g (lw_at lw_m7 40 rfl) rfl
theorem q1594 : (Jvm.Cond.methodLink "java/util/LinkedList$ListItr" (39 : Nat) ({ cls := "java/util/LinkedList$ListItr", name := "hasNext", desc := "()Z" } : Jvm.MethodName)) ∈ lw_all := lw_g (lw_at lw_m7 41 rfl) rfl
theorem q1595 : (Jvm.Cond.classLink "java/util/LinkedList$ListItr" (43 : Nat) "java/util/NoSuchElementException") ∈ lw_all := lw_g (lw_at lw_m7 42 rfl) rfl
theorem q1596 : (Jvm.Cond.methodLink "java/util/LinkedList$ListItr" (45 : Nat) ({ cls := "java/util/NoSuchElementException", name := "<init>", desc := "()V" } : Jvm.MethodName)) ∈ lw_all := lw_g (lw_at lw_m7 43 rfl) rfl
theorem q1754 : (Jvm.Cond.fieldLink "java/util/LinkedList$ListItr" (52 : Nat) "java/util/LinkedList$Node" "item" "Ljava/lang/Object;") ∈ lw_all := lw_g (lw_at lw_m7 201 rfl) rfl
theorem q1757 : (Jvm.Cond.fieldLink "java/util/LinkedList$ListItr" (49 : Nat) "java/util/LinkedList$Node" "next" "Ljava/util/LinkedList$Node;") ∈ lw_all := lw_g (lw_at lw_m7 204 rfl) rfl
theorem q2768 : (Jvm.Cond.selects "java/util/LinkedList$ListItr" ({ cls := "java/util/LinkedList$ListItr", name := "hasNext", desc := "()Z" } : Jvm.MethodName) ({ cls := "java/util/LinkedList$ListItr", name := "hasNext", desc := "()Z" } : Jvm.MethodName)) ∈ lw_all := lw_g (lw_at lw_m12 15 rfl) rfl
theorem q2799 : (Jvm.Cond.castable "java/util/LinkedList$ListItr" "java/lang/Object") ∈ lw_tbl := lw_at lw_m12 46 rfl
theorem in_J34 : ∀ w ∈ wsJ340, w ∈ lw_all := lw_in wsJ340 [1426, 1428, 1430, 1432, 1434] (by decide +kernel) (by decide +kernel)

/-! java/util/NoSuchElementException -/
set_option maxRecDepth 100000
def RJ35 : String := "java/util/NoSuchElementException"
def TJ35 : u_T := fun k => match k with
  | 0 => ("java/lang/Throwable", "cause", "Ljava/lang/Throwable;", false)
  | 1 => ("java/lang/Throwable", "stackTrace", "[Ljava/lang/StackTraceElement;", false)
  | 2 => ("java/lang/Throwable", "suppressedExceptions", "Ljava/util/List;", false)
  | 3 => ("java/lang/Throwable", "detailMessage", "Ljava/lang/String;", false)
  | 4 => ("java/lang/Throwable", "backtrace", "Ljava/lang/Object;", false)
  | _ => ("java/lang/Throwable", "depth", "I", false)
def tyJ35 : Nat → FieldType := fun k => match k with
  | 0 => .object "java/lang/Throwable"
  | 1 => .array (.object "java/lang/StackTraceElement")
  | 2 => .object "java/util/List"
  | 3 => .object "java/lang/String"
  | 4 => .object "java/lang/Object"
  | _ => .int
abbrev wsJ350 : List Cond := u_ws RJ35 TJ35 6
theorem nmJ35 : ∀ a, a < 6 → ∀ b, b < 6 → a ≠ b → (TJ35 a).2.1 ≠ (TJ35 b).2.1 := by decide +kernel
theorem tyJ35_ok : ∀ k, k < 6 → parseFieldDescriptor (TJ35 k).2.2.1 = some (tyJ35 k) := by decide +kernel
abbrev cJ35_init : ByteArray := prog_68_method_3_code
def yJ35_init : MethodName := ⟨RJ35, "<init>", "(Ljava/lang/Throwable;)V"⟩
def dkwJ35_init_0 : List UInt8 := [42, 43, 183, 0, 10, 177]
abbrev dktJ35_init_0 : List UInt8 := dkwJ35_init_0 ++ []
theorem dksJ35_init_0 : cJ35_init.data.toList.drop 0 = dktJ35_init_0 := by decide +kernel
theorem dJ35_init_0 : decode cJ35_init 0 = .ok (.aload_n 0, 1) := dk_42 (dk_at dksJ35_init_0 0 rfl rfl)
theorem dJ35_init_1 : decode cJ35_init 1 = .ok (.aload_n 1, 1) := dk_43 (dk_at dksJ35_init_0 1 rfl rfl)
theorem dJ35_init_2 : decode cJ35_init 2 = .ok (.invokespecial 10, 3) := dk_183 0 10 (dk_at dksJ35_init_0 2 rfl rfl)
theorem dJ35_init_5 : decode cJ35_init 5 = .ok (.return_, 1) := dk_177 (dk_at dksJ35_init_0 5 rfl rfl)
abbrev cJ35_init_2 : ByteArray := prog_68_method_1_code
def yJ35_init_2 : MethodName := ⟨RJ35, "<init>", "()V"⟩
theorem dJ35_init_2_0 : decode cJ35_init_2 0 = .ok (.aload_n 0, 1) := by decide +kernel
theorem dJ35_init_2_1 : decode cJ35_init_2 1 = .ok (.invokespecial 1, 3) := by decide +kernel
theorem dJ35_init_2_4 : decode cJ35_init_2 4 = .ok (.return_, 1) := by decide +kernel
theorem q161 : (Jvm.Cond.initialized "java/util/NoSuchElementException") ∈ lw_all := lw_g (lw_at lw_m1 48 rfl) rfl
theorem q247 : (Jvm.Cond.selects "java/util/NoSuchElementException" ({ cls := "java/lang/Object", name := "getClass", desc := "()Ljava/lang/Class;" } : Jvm.MethodName) ({ cls := "java/lang/Object", name := "getClass", desc := "()Ljava/lang/Class;" } : Jvm.MethodName)) ∈ lw_all := lw_g (lw_at lw_m1 134 rfl) rfl
theorem q670 : (Jvm.Cond.selects "java/util/NoSuchElementException" ({ cls := "java/lang/Throwable", name := "fillInStackTrace", desc := "()Ljava/lang/Throwable;" } : Jvm.MethodName) ({ cls := "java/lang/Throwable", name := "fillInStackTrace", desc := "()Ljava/lang/Throwable;" } : Jvm.MethodName)) ∈ lw_all := lw_g (lw_at lw_m3 77 rfl) rfl
theorem q1490 : (Jvm.Cond.instantiable "java/util/NoSuchElementException" (6 : Nat)) ∈ lw_all := lw_g (lw_at lw_m6 177 rfl) rfl
theorem q1491 : (Jvm.Cond.castable "java/util/NoSuchElementException" "java/util/NoSuchElementException") ∈ lw_tbl := lw_at lw_m6 178 rfl
theorem q1492 : (Jvm.Cond.selects "java/util/NoSuchElementException" ({ cls := "java/lang/Throwable", name := "fillInStackTrace", desc := "(I)Ljava/lang/Throwable;" } : Jvm.MethodName) ({ cls := "java/lang/Throwable", name := "fillInStackTrace", desc := "(I)Ljava/lang/Throwable;" } : Jvm.MethodName)) ∈ lw_all := lw_g (lw_at lw_m6 179 rfl) rfl
theorem q1493 : (Jvm.Cond.lays "java/util/NoSuchElementException" "java/lang/Throwable" "cause" "Ljava/lang/Throwable;") ∈ lw_all := lw_g (lw_at lw_m6 180 rfl) rfl
theorem q1494 : (Jvm.Cond.lays "java/util/NoSuchElementException" "java/lang/Throwable" "stackTrace" "[Ljava/lang/StackTraceElement;") ∈ lw_all := lw_g (lw_at lw_m6 181 rfl) rfl
theorem q1495 : (Jvm.Cond.lays "java/util/NoSuchElementException" "java/lang/Throwable" "suppressedExceptions" "Ljava/util/List;") ∈ lw_all := lw_g (lw_at lw_m6 182 rfl) rfl
theorem q1496 : (Jvm.Cond.lays "java/util/NoSuchElementException" "java/lang/Throwable" "detailMessage" "Ljava/lang/String;") ∈ lw_all := lw_g (lw_at lw_m6 183 rfl) rfl
theorem q1497 : (Jvm.Cond.lays "java/util/NoSuchElementException" "java/lang/Throwable" "backtrace" "Ljava/lang/Object;") ∈ lw_all := lw_g (lw_at lw_m6 184 rfl) rfl
theorem q1499 : (Jvm.Cond.instanceMethod ({ cls := "java/util/NoSuchElementException", name := "<init>", desc := "(Ljava/lang/Throwable;)V" } : Jvm.MethodName)) ∈ lw_all := lw_g (lw_at lw_m6 186 rfl) rfl
theorem q1500 : (Jvm.Cond.code ({ cls := "java/util/NoSuchElementException", name := "<init>", desc := "(Ljava/lang/Throwable;)V" } : Jvm.MethodName) prog_68_method_3_code (2 : Nat) (Option.none : Option Jvm.ClassFile.FieldType)) ∈ lw_all := lw_g (lw_at lw_m6 187 rfl) rfl
theorem q1501 : (Jvm.Cond.methodLink "java/util/NoSuchElementException" (10 : Nat) ({ cls := "java/lang/RuntimeException", name := "<init>", desc := "(Ljava/lang/Throwable;)V" } : Jvm.MethodName)) ∈ lw_all := lw_g (lw_at lw_m6 188 rfl) rfl
theorem q1522 : (Jvm.Cond.selects "java/util/NoSuchElementException" ({ cls := "java/lang/Throwable", name := "toString", desc := "()Ljava/lang/String;" } : Jvm.MethodName) ({ cls := "java/lang/Throwable", name := "toString", desc := "()Ljava/lang/String;" } : Jvm.MethodName)) ∈ lw_all := lw_g (lw_at lw_m6 209 rfl) rfl
theorem q1537 : (Jvm.Cond.selects "java/util/NoSuchElementException" ({ cls := "java/lang/Throwable", name := "getLocalizedMessage", desc := "()Ljava/lang/String;" } : Jvm.MethodName) ({ cls := "java/lang/Throwable", name := "getLocalizedMessage", desc := "()Ljava/lang/String;" } : Jvm.MethodName)) ∈ lw_all := lw_g (lw_at lw_m6 224 rfl) rfl
theorem q1551 : (Jvm.Cond.selects "java/util/NoSuchElementException" ({ cls := "java/lang/Throwable", name := "getMessage", desc := "()Ljava/lang/String;" } : Jvm.MethodName) ({ cls := "java/lang/Throwable", name := "getMessage", desc := "()Ljava/lang/String;" } : Jvm.MethodName)) ∈ lw_all := lw_g (lw_at lw_m6 238 rfl) rfl
theorem q1558 : (Jvm.Cond.lays "java/util/NoSuchElementException" "java/lang/Throwable" "depth" "I") ∈ lw_all := lw_g (lw_at lw_m7 5 rfl) rfl
theorem q1559 : (Jvm.Cond.superclass "java/util/NoSuchElementException" "java/lang/RuntimeException") ∈ lw_all := lw_g (lw_at lw_m7 6 rfl) rfl
theorem q1567 : (Jvm.Cond.instanceMethod ({ cls := "java/util/NoSuchElementException", name := "<init>", desc := "()V" } : Jvm.MethodName)) ∈ lw_all := lw_g (lw_at lw_m7 14 rfl) rfl
theorem q1568 : (Jvm.Cond.code ({ cls := "java/util/NoSuchElementException", name := "<init>", desc := "()V" } : Jvm.MethodName) prog_68_method_1_code (1 : Nat) (Option.none : Option Jvm.ClassFile.FieldType)) ∈ lw_all := lw_g (lw_at lw_m7 15 rfl) rfl
theorem q1569 : (Jvm.Cond.methodLink "java/util/NoSuchElementException" (1 : Nat) ({ cls := "java/lang/RuntimeException", name := "<init>", desc := "()V" } : Jvm.MethodName)) ∈ lw_all := lw_g (lw_at lw_m7 16 rfl) rfl
theorem q2800 : (Jvm.Cond.castable "java/util/NoSuchElementException" "java/lang/Object") ∈ lw_tbl := lw_at lw_m12 47 rfl
theorem in_J35 : ∀ w ∈ wsJ350, w ∈ lw_all := lw_in wsJ350 [1493, 1494, 1495, 1496, 1497, 1558] (by decide +kernel) (by decide +kernel)

/-! java/util/ArrayDeque -/
set_option maxRecDepth 100000
def RJ36 : String := "java/util/ArrayDeque"
def TJ36 : u_T := fun k => match k with
  | 0 => ("java/util/ArrayDeque", "elements", "[Ljava/lang/Object;", false)
  | 1 => ("java/util/ArrayDeque", "head", "I", false)
  | _ => ("java/util/ArrayDeque", "tail", "I", false)
def tyJ36 : Nat → FieldType := fun k => match k with
  | 0 => .array (.object "java/lang/Object")
  | 1 => .int
  | _ => .int
abbrev wsJ360 : List Cond := u_ws RJ36 TJ36 3
theorem nmJ36 : ∀ a, a < 3 → ∀ b, b < 3 → a ≠ b → (TJ36 a).2.1 ≠ (TJ36 b).2.1 := by decide +kernel
theorem tyJ36_ok : ∀ k, k < 3 → parseFieldDescriptor (TJ36 k).2.2.1 = some (tyJ36 k) := by decide +kernel
abbrev cJ36_nonNullElementAt : ByteArray := prog_49_method_11_code
def yJ36_nonNullElementAt : MethodName := ⟨RJ36, "nonNullElementAt", "([Ljava/lang/Object;I)Ljava/lang/Object;"⟩
def dkwJ36_nonNullElementAt_0 : List UInt8 := [42, 27, 50, 77, 44, 199, 0, 11, 187, 0, 62, 89, 183, 0, 64, 191, 44, 176]
abbrev dktJ36_nonNullElementAt_0 : List UInt8 := dkwJ36_nonNullElementAt_0 ++ []
theorem dksJ36_nonNullElementAt_0 : cJ36_nonNullElementAt.data.toList.drop 0 = dktJ36_nonNullElementAt_0 := by decide +kernel
theorem dJ36_nonNullElementAt_0 : decode cJ36_nonNullElementAt 0 = .ok (.aload_n 0, 1) := dk_42 (dk_at dksJ36_nonNullElementAt_0 0 rfl rfl)
theorem dJ36_nonNullElementAt_1 : decode cJ36_nonNullElementAt 1 = .ok (.iload_n 1, 1) := dk_27 (dk_at dksJ36_nonNullElementAt_0 1 rfl rfl)
theorem dJ36_nonNullElementAt_2 : decode cJ36_nonNullElementAt 2 = .ok (.aaload, 1) := dk_50 (dk_at dksJ36_nonNullElementAt_0 2 rfl rfl)
theorem dJ36_nonNullElementAt_3 : decode cJ36_nonNullElementAt 3 = .ok (.astore_n 2, 1) := dk_77 (dk_at dksJ36_nonNullElementAt_0 3 rfl rfl)
theorem dJ36_nonNullElementAt_4 : decode cJ36_nonNullElementAt 4 = .ok (.aload_n 2, 1) := dk_44 (dk_at dksJ36_nonNullElementAt_0 4 rfl rfl)
theorem dJ36_nonNullElementAt_5 : decode cJ36_nonNullElementAt 5 = .ok (.ifnonnull 11, 3) := dk_199 0 11 (dk_at dksJ36_nonNullElementAt_0 5 rfl rfl)
theorem dJ36_nonNullElementAt_8 : decode cJ36_nonNullElementAt 8 = .ok (.new 62, 3) := dk_187 0 62 (dk_at dksJ36_nonNullElementAt_0 8 rfl rfl)
theorem dJ36_nonNullElementAt_11 : decode cJ36_nonNullElementAt 11 = .ok (.dup, 1) := dk_89 (dk_at dksJ36_nonNullElementAt_0 11 rfl rfl)
theorem dJ36_nonNullElementAt_12 : decode cJ36_nonNullElementAt 12 = .ok (.invokespecial 64, 3) := dk_183 0 64 (dk_at dksJ36_nonNullElementAt_0 12 rfl rfl)
theorem dJ36_nonNullElementAt_15 : decode cJ36_nonNullElementAt 15 = .ok (.athrow, 1) := dk_191 (dk_at dksJ36_nonNullElementAt_0 15 rfl rfl)
theorem dJ36_nonNullElementAt_16 : decode cJ36_nonNullElementAt 16 = .ok (.aload_n 2, 1) := dk_44 (dk_at dksJ36_nonNullElementAt_0 16 rfl rfl)
theorem dJ36_nonNullElementAt_17 : decode cJ36_nonNullElementAt 17 = .ok (.areturn, 1) := dk_176 (dk_at dksJ36_nonNullElementAt_0 17 rfl rfl)
abbrev cJ36_inc : ByteArray := prog_49_method_6_code
def yJ36_inc : MethodName := ⟨RJ36, "inc", "(II)I"⟩
def dkwJ36_inc_0 : List UInt8 := [132, 0, 1, 26, 27, 161, 0, 5, 3, 59, 26, 172]
abbrev dktJ36_inc_0 : List UInt8 := dkwJ36_inc_0 ++ []
theorem dksJ36_inc_0 : cJ36_inc.data.toList.drop 0 = dktJ36_inc_0 := by decide +kernel
theorem dJ36_inc_0 : decode cJ36_inc 0 = .ok (.iinc 0 1, 3) := dk_132 0 1 (dk_at dksJ36_inc_0 0 rfl rfl)
theorem dJ36_inc_3 : decode cJ36_inc 3 = .ok (.iload_n 0, 1) := dk_26 (dk_at dksJ36_inc_0 3 rfl rfl)
theorem dJ36_inc_4 : decode cJ36_inc 4 = .ok (.iload_n 1, 1) := dk_27 (dk_at dksJ36_inc_0 4 rfl rfl)
theorem dJ36_inc_5 : decode cJ36_inc 5 = .ok (.if_icmp .lt 5, 3) := dk_161 0 5 (dk_at dksJ36_inc_0 5 rfl rfl)
theorem dJ36_inc_8 : decode cJ36_inc 8 = .ok (.iconst 0, 1) := dk_3 (dk_at dksJ36_inc_0 8 rfl rfl)
theorem dJ36_inc_9 : decode cJ36_inc 9 = .ok (.istore_n 0, 1) := dk_59 (dk_at dksJ36_inc_0 9 rfl rfl)
theorem dJ36_inc_10 : decode cJ36_inc 10 = .ok (.iload_n 0, 1) := dk_26 (dk_at dksJ36_inc_0 10 rfl rfl)
theorem dJ36_inc_11 : decode cJ36_inc 11 = .ok (.ireturn, 1) := dk_172 (dk_at dksJ36_inc_0 11 rfl rfl)
abbrev cJ36_init : ByteArray := prog_49_method_4_code
def yJ36_init : MethodName := ⟨RJ36, "<init>", "(I)V"⟩
def dkwJ36_init_1 : List UInt8 := [167, 0, 6, 27, 4, 96, 189, 0, 47, 181, 0, 3, 177]
abbrev dktJ36_init_1 : List UInt8 := dkwJ36_init_1 ++ []
def dkwJ36_init_0 : List UInt8 := [42, 183, 0, 42, 42, 27, 4, 162, 0, 7, 4, 167, 0, 17, 27, 18, 41, 160, 0, 8, 18, 41]
abbrev dktJ36_init_0 : List UInt8 := dkwJ36_init_0 ++ dktJ36_init_1
theorem dksJ36_init_0 : cJ36_init.data.toList.drop 0 = dktJ36_init_0 := by decide +kernel
theorem dksJ36_init_1 : cJ36_init.data.toList.drop 22 = dktJ36_init_1 := dk_seg dksJ36_init_0 22 rfl rfl
theorem dJ36_init_0 : decode cJ36_init 0 = .ok (.aload_n 0, 1) := dk_42 (dk_at dksJ36_init_0 0 rfl rfl)
theorem dJ36_init_1 : decode cJ36_init 1 = .ok (.invokespecial 42, 3) := dk_183 0 42 (dk_at dksJ36_init_0 1 rfl rfl)
theorem dJ36_init_4 : decode cJ36_init 4 = .ok (.aload_n 0, 1) := dk_42 (dk_at dksJ36_init_0 4 rfl rfl)
theorem dJ36_init_5 : decode cJ36_init 5 = .ok (.iload_n 1, 1) := dk_27 (dk_at dksJ36_init_0 5 rfl rfl)
theorem dJ36_init_6 : decode cJ36_init 6 = .ok (.iconst 1, 1) := dk_4 (dk_at dksJ36_init_0 6 rfl rfl)
theorem dJ36_init_7 : decode cJ36_init 7 = .ok (.if_icmp .ge 7, 3) := dk_162 0 7 (dk_at dksJ36_init_0 7 rfl rfl)
theorem dJ36_init_10 : decode cJ36_init 10 = .ok (.iconst 1, 1) := dk_4 (dk_at dksJ36_init_0 10 rfl rfl)
theorem dJ36_init_11 : decode cJ36_init 11 = .ok (.goto 17, 3) := dk_167 0 17 (dk_at dksJ36_init_0 11 rfl rfl)
theorem dJ36_init_14 : decode cJ36_init 14 = .ok (.iload_n 1, 1) := dk_27 (dk_at dksJ36_init_0 14 rfl rfl)
theorem dJ36_init_15 : decode cJ36_init 15 = .ok (.ldc 41, 2) := dk_18 41 (dk_at dksJ36_init_0 15 rfl rfl)
theorem dJ36_init_17 : decode cJ36_init 17 = .ok (.if_icmp .ne 8, 3) := dk_160 0 8 (dk_at dksJ36_init_0 17 rfl rfl)
theorem dJ36_init_20 : decode cJ36_init 20 = .ok (.ldc 41, 2) := dk_18 41 (dk_at dksJ36_init_0 20 rfl rfl)
theorem dJ36_init_22 : decode cJ36_init 22 = .ok (.goto 6, 3) := dk_167 0 6 (dk_at dksJ36_init_1 0 rfl rfl)
theorem dJ36_init_25 : decode cJ36_init 25 = .ok (.iload_n 1, 1) := dk_27 (dk_at dksJ36_init_1 3 rfl rfl)
theorem dJ36_init_26 : decode cJ36_init 26 = .ok (.iconst 1, 1) := dk_4 (dk_at dksJ36_init_1 4 rfl rfl)
theorem dJ36_init_27 : decode cJ36_init 27 = .ok (.iadd, 1) := dk_96 (dk_at dksJ36_init_1 5 rfl rfl)
theorem dJ36_init_28 : decode cJ36_init 28 = .ok (.anewarray 47, 3) := dk_189 0 47 (dk_at dksJ36_init_1 6 rfl rfl)
theorem dJ36_init_31 : decode cJ36_init 31 = .ok (.putfield 3, 3) := dk_181 0 3 (dk_at dksJ36_init_1 9 rfl rfl)
theorem dJ36_init_34 : decode cJ36_init 34 = .ok (.return_, 1) := dk_177 (dk_at dksJ36_init_1 12 rfl rfl)
abbrev cJ36_addLast : ByteArray := prog_49_method_13_code
def yJ36_addLast : MethodName := ⟨RJ36, "addLast", "(Ljava/lang/Object;)V"⟩
def dkwJ36_addLast_2 : List UInt8 := [182, 0, 71, 177]
abbrev dktJ36_addLast_2 : List UInt8 := dkwJ36_addLast_2 ++ []
def dkwJ36_addLast_1 : List UInt8 := [42, 180, 0, 24, 42, 42, 180, 0, 20, 44, 190, 184, 0, 74, 90, 181, 0, 20, 160, 0, 8, 42, 4]
abbrev dktJ36_addLast_1 : List UInt8 := dkwJ36_addLast_1 ++ dktJ36_addLast_2
def dkwJ36_addLast_0 : List UInt8 := [43, 199, 0, 11, 187, 0, 65, 89, 183, 0, 67, 191, 42, 180, 0, 3, 77, 44, 42, 180, 0, 20, 43, 83]
abbrev dktJ36_addLast_0 : List UInt8 := dkwJ36_addLast_0 ++ dktJ36_addLast_1
theorem dksJ36_addLast_0 : cJ36_addLast.data.toList.drop 0 = dktJ36_addLast_0 := by decide +kernel
theorem dksJ36_addLast_1 : cJ36_addLast.data.toList.drop 24 = dktJ36_addLast_1 := dk_seg dksJ36_addLast_0 24 rfl rfl
theorem dksJ36_addLast_2 : cJ36_addLast.data.toList.drop 47 = dktJ36_addLast_2 := dk_seg dksJ36_addLast_1 23 rfl rfl
theorem dJ36_addLast_0 : decode cJ36_addLast 0 = .ok (.aload_n 1, 1) := dk_43 (dk_at dksJ36_addLast_0 0 rfl rfl)
theorem dJ36_addLast_1 : decode cJ36_addLast 1 = .ok (.ifnonnull 11, 3) := dk_199 0 11 (dk_at dksJ36_addLast_0 1 rfl rfl)
theorem dJ36_addLast_4 : decode cJ36_addLast 4 = .ok (.new 65, 3) := dk_187 0 65 (dk_at dksJ36_addLast_0 4 rfl rfl)
theorem dJ36_addLast_7 : decode cJ36_addLast 7 = .ok (.dup, 1) := dk_89 (dk_at dksJ36_addLast_0 7 rfl rfl)
theorem dJ36_addLast_8 : decode cJ36_addLast 8 = .ok (.invokespecial 67, 3) := dk_183 0 67 (dk_at dksJ36_addLast_0 8 rfl rfl)
theorem dJ36_addLast_11 : decode cJ36_addLast 11 = .ok (.athrow, 1) := dk_191 (dk_at dksJ36_addLast_0 11 rfl rfl)
theorem dJ36_addLast_12 : decode cJ36_addLast 12 = .ok (.aload_n 0, 1) := dk_42 (dk_at dksJ36_addLast_0 12 rfl rfl)
theorem dJ36_addLast_13 : decode cJ36_addLast 13 = .ok (.getfield 3, 3) := dk_180 0 3 (dk_at dksJ36_addLast_0 13 rfl rfl)
theorem dJ36_addLast_16 : decode cJ36_addLast 16 = .ok (.astore_n 2, 1) := dk_77 (dk_at dksJ36_addLast_0 16 rfl rfl)
theorem dJ36_addLast_17 : decode cJ36_addLast 17 = .ok (.aload_n 2, 1) := dk_44 (dk_at dksJ36_addLast_0 17 rfl rfl)
theorem dJ36_addLast_18 : decode cJ36_addLast 18 = .ok (.aload_n 0, 1) := dk_42 (dk_at dksJ36_addLast_0 18 rfl rfl)
theorem dJ36_addLast_19 : decode cJ36_addLast 19 = .ok (.getfield 20, 3) := dk_180 0 20 (dk_at dksJ36_addLast_0 19 rfl rfl)
theorem dJ36_addLast_22 : decode cJ36_addLast 22 = .ok (.aload_n 1, 1) := dk_43 (dk_at dksJ36_addLast_0 22 rfl rfl)
theorem dJ36_addLast_23 : decode cJ36_addLast 23 = .ok (.aastore, 1) := dk_83 (dk_at dksJ36_addLast_0 23 rfl rfl)
theorem dJ36_addLast_24 : decode cJ36_addLast 24 = .ok (.aload_n 0, 1) := dk_42 (dk_at dksJ36_addLast_1 0 rfl rfl)
theorem dJ36_addLast_25 : decode cJ36_addLast 25 = .ok (.getfield 24, 3) := dk_180 0 24 (dk_at dksJ36_addLast_1 1 rfl rfl)
theorem dJ36_addLast_28 : decode cJ36_addLast 28 = .ok (.aload_n 0, 1) := dk_42 (dk_at dksJ36_addLast_1 4 rfl rfl)
theorem dJ36_addLast_29 : decode cJ36_addLast 29 = .ok (.aload_n 0, 1) := dk_42 (dk_at dksJ36_addLast_1 5 rfl rfl)
theorem dJ36_addLast_30 : decode cJ36_addLast 30 = .ok (.getfield 20, 3) := dk_180 0 20 (dk_at dksJ36_addLast_1 6 rfl rfl)
theorem dJ36_addLast_33 : decode cJ36_addLast 33 = .ok (.aload_n 2, 1) := dk_44 (dk_at dksJ36_addLast_1 9 rfl rfl)
theorem dJ36_addLast_34 : decode cJ36_addLast 34 = .ok (.arraylength, 1) := dk_190 (dk_at dksJ36_addLast_1 10 rfl rfl)
theorem dJ36_addLast_35 : decode cJ36_addLast 35 = .ok (.invokestatic 74, 3) := dk_184 0 74 (dk_at dksJ36_addLast_1 11 rfl rfl)
theorem dJ36_addLast_38 : decode cJ36_addLast 38 = .ok (.dup_x1, 1) := dk_90 (dk_at dksJ36_addLast_1 14 rfl rfl)
theorem dJ36_addLast_39 : decode cJ36_addLast 39 = .ok (.putfield 20, 3) := dk_181 0 20 (dk_at dksJ36_addLast_1 15 rfl rfl)
theorem dJ36_addLast_42 : decode cJ36_addLast 42 = .ok (.if_icmp .ne 8, 3) := dk_160 0 8 (dk_at dksJ36_addLast_1 18 rfl rfl)
theorem dJ36_addLast_45 : decode cJ36_addLast 45 = .ok (.aload_n 0, 1) := dk_42 (dk_at dksJ36_addLast_1 21 rfl rfl)
theorem dJ36_addLast_46 : decode cJ36_addLast 46 = .ok (.iconst 1, 1) := dk_4 (dk_at dksJ36_addLast_1 22 rfl rfl)
theorem dJ36_addLast_47 : decode cJ36_addLast 47 = .ok (.invokevirtual 71, 3) := dk_182 0 71 (dk_at dksJ36_addLast_2 0 rfl rfl)
theorem dJ36_addLast_50 : decode cJ36_addLast 50 = .ok (.return_, 1) := dk_177 (dk_at dksJ36_addLast_2 3 rfl rfl)
abbrev cJ36_grow : ByteArray := prog_49_method_1_code
def yJ36_grow : MethodName := ⟨RJ36, "grow", "(I)V"⟩
def dkwJ36_grow_7 : List UInt8 := [177]
abbrev dktJ36_grow_7 : List UInt8 := dkwJ36_grow_7 ++ []
def dkwJ36_grow_6 : List UInt8 := [181, 0, 24, 54, 8, 21, 7, 21, 8, 162, 0, 15, 25, 5, 21, 7, 1, 83, 132, 7, 1, 167, 255, 240]
abbrev dktJ36_grow_6 : List UInt8 := dkwJ36_grow_6 ++ dktJ36_grow_7
def dkwJ36_grow_5 : List UInt8 := [42, 180, 0, 24, 100, 184, 0, 27, 42, 180, 0, 24, 54, 7, 42, 89, 180, 0, 24, 21, 6, 96, 90]
abbrev dktJ36_grow_5 : List UInt8 := dkwJ36_grow_5 ++ dktJ36_grow_6
def dkwJ36_grow_4 : List UInt8 := [198, 0, 71, 29, 28, 100, 54, 6, 25, 5, 42, 180, 0, 24, 25, 5, 42, 180, 0, 24, 21, 6, 96, 28]
abbrev dktJ36_grow_4 : List UInt8 := dkwJ36_grow_4 ++ dktJ36_grow_5
def dkwJ36_grow_3 : List UInt8 := [180, 0, 24, 161, 0, 24, 42, 180, 0, 20, 42, 180, 0, 24, 160, 0, 81, 25, 5, 42, 180, 0, 24, 50]
abbrev dktJ36_grow_3 : List UInt8 := dkwJ36_grow_3 ++ dktJ36_grow_4
def dkwJ36_grow_2 : List UInt8 := [182, 0, 10, 62, 42, 42, 180, 0, 3, 29, 184, 0, 14, 90, 181, 0, 3, 58, 5, 42, 180, 0, 20, 42]
abbrev dktJ36_grow_2 : List UInt8 := dkwJ36_grow_2 ++ dktJ36_grow_3
def dkwJ36_grow_1 : List UInt8 := [21, 4, 27, 161, 0, 15, 28, 21, 4, 96, 89, 62, 18, 9, 100, 158, 0, 11, 42, 27, 21, 4]
abbrev dktJ36_grow_1 : List UInt8 := dkwJ36_grow_1 ++ dktJ36_grow_2
def dkwJ36_grow_0 : List UInt8 := [42, 180, 0, 3, 190, 61, 28, 16, 64, 162, 0, 9, 28, 5, 96, 167, 0, 6, 28, 4, 122, 54, 4]
abbrev dktJ36_grow_0 : List UInt8 := dkwJ36_grow_0 ++ dktJ36_grow_1
theorem dksJ36_grow_0 : cJ36_grow.data.toList.drop 0 = dktJ36_grow_0 := by decide +kernel
theorem dksJ36_grow_1 : cJ36_grow.data.toList.drop 23 = dktJ36_grow_1 := dk_seg dksJ36_grow_0 23 rfl rfl
theorem dksJ36_grow_2 : cJ36_grow.data.toList.drop 45 = dktJ36_grow_2 := dk_seg dksJ36_grow_1 22 rfl rfl
theorem dksJ36_grow_3 : cJ36_grow.data.toList.drop 69 = dktJ36_grow_3 := dk_seg dksJ36_grow_2 24 rfl rfl
theorem dksJ36_grow_4 : cJ36_grow.data.toList.drop 93 = dktJ36_grow_4 := dk_seg dksJ36_grow_3 24 rfl rfl
theorem dksJ36_grow_5 : cJ36_grow.data.toList.drop 117 = dktJ36_grow_5 := dk_seg dksJ36_grow_4 24 rfl rfl
theorem dksJ36_grow_6 : cJ36_grow.data.toList.drop 140 = dktJ36_grow_6 := dk_seg dksJ36_grow_5 23 rfl rfl
theorem dksJ36_grow_7 : cJ36_grow.data.toList.drop 164 = dktJ36_grow_7 := dk_seg dksJ36_grow_6 24 rfl rfl
theorem dJ36_grow_0 : decode cJ36_grow 0 = .ok (.aload_n 0, 1) := dk_42 (dk_at dksJ36_grow_0 0 rfl rfl)
theorem dJ36_grow_1 : decode cJ36_grow 1 = .ok (.getfield 3, 3) := dk_180 0 3 (dk_at dksJ36_grow_0 1 rfl rfl)
theorem dJ36_grow_4 : decode cJ36_grow 4 = .ok (.arraylength, 1) := dk_190 (dk_at dksJ36_grow_0 4 rfl rfl)
theorem dJ36_grow_5 : decode cJ36_grow 5 = .ok (.istore_n 2, 1) := dk_61 (dk_at dksJ36_grow_0 5 rfl rfl)
theorem dJ36_grow_6 : decode cJ36_grow 6 = .ok (.iload_n 2, 1) := dk_28 (dk_at dksJ36_grow_0 6 rfl rfl)
theorem dJ36_grow_7 : decode cJ36_grow 7 = .ok (.bipush 64, 2) := dk_16 64 (dk_at dksJ36_grow_0 7 rfl rfl)
theorem dJ36_grow_9 : decode cJ36_grow 9 = .ok (.if_icmp .ge 9, 3) := dk_162 0 9 (dk_at dksJ36_grow_0 9 rfl rfl)
theorem dJ36_grow_12 : decode cJ36_grow 12 = .ok (.iload_n 2, 1) := dk_28 (dk_at dksJ36_grow_0 12 rfl rfl)
theorem dJ36_grow_13 : decode cJ36_grow 13 = .ok (.iconst 2, 1) := dk_5 (dk_at dksJ36_grow_0 13 rfl rfl)
theorem dJ36_grow_14 : decode cJ36_grow 14 = .ok (.iadd, 1) := dk_96 (dk_at dksJ36_grow_0 14 rfl rfl)
theorem dJ36_grow_15 : decode cJ36_grow 15 = .ok (.goto 6, 3) := dk_167 0 6 (dk_at dksJ36_grow_0 15 rfl rfl)
theorem dJ36_grow_18 : decode cJ36_grow 18 = .ok (.iload_n 2, 1) := dk_28 (dk_at dksJ36_grow_0 18 rfl rfl)
theorem dJ36_grow_19 : decode cJ36_grow 19 = .ok (.iconst 1, 1) := dk_4 (dk_at dksJ36_grow_0 19 rfl rfl)
theorem dJ36_grow_20 : decode cJ36_grow 20 = .ok (.ishr, 1) := dk_122 (dk_at dksJ36_grow_0 20 rfl rfl)
theorem dJ36_grow_21 : decode cJ36_grow 21 = .ok (.istore 4, 2) := dk_54 4 (dk_at dksJ36_grow_0 21 rfl rfl)
theorem dJ36_grow_23 : decode cJ36_grow 23 = .ok (.iload 4, 2) := dk_21 4 (dk_at dksJ36_grow_1 0 rfl rfl)
theorem dJ36_grow_25 : decode cJ36_grow 25 = .ok (.iload_n 1, 1) := dk_27 (dk_at dksJ36_grow_1 2 rfl rfl)
theorem dJ36_grow_26 : decode cJ36_grow 26 = .ok (.if_icmp .lt 15, 3) := dk_161 0 15 (dk_at dksJ36_grow_1 3 rfl rfl)
theorem dJ36_grow_29 : decode cJ36_grow 29 = .ok (.iload_n 2, 1) := dk_28 (dk_at dksJ36_grow_1 6 rfl rfl)
theorem dJ36_grow_30 : decode cJ36_grow 30 = .ok (.iload 4, 2) := dk_21 4 (dk_at dksJ36_grow_1 7 rfl rfl)
theorem dJ36_grow_32 : decode cJ36_grow 32 = .ok (.iadd, 1) := dk_96 (dk_at dksJ36_grow_1 9 rfl rfl)
theorem dJ36_grow_33 : decode cJ36_grow 33 = .ok (.dup, 1) := dk_89 (dk_at dksJ36_grow_1 10 rfl rfl)
theorem dJ36_grow_34 : decode cJ36_grow 34 = .ok (.istore_n 3, 1) := dk_62 (dk_at dksJ36_grow_1 11 rfl rfl)
theorem dJ36_grow_35 : decode cJ36_grow 35 = .ok (.ldc 9, 2) := dk_18 9 (dk_at dksJ36_grow_1 12 rfl rfl)
theorem dJ36_grow_37 : decode cJ36_grow 37 = .ok (.isub, 1) := dk_100 (dk_at dksJ36_grow_1 14 rfl rfl)
theorem dJ36_grow_38 : decode cJ36_grow 38 = .ok (.ifCond .le 11, 3) := dk_158 0 11 (dk_at dksJ36_grow_1 15 rfl rfl)
theorem dJ36_grow_41 : decode cJ36_grow 41 = .ok (.aload_n 0, 1) := dk_42 (dk_at dksJ36_grow_1 18 rfl rfl)
theorem dJ36_grow_42 : decode cJ36_grow 42 = .ok (.iload_n 1, 1) := dk_27 (dk_at dksJ36_grow_1 19 rfl rfl)
theorem dJ36_grow_43 : decode cJ36_grow 43 = .ok (.iload 4, 2) := dk_21 4 (dk_at dksJ36_grow_1 20 rfl rfl)
theorem dJ36_grow_45 : decode cJ36_grow 45 = .ok (.invokevirtual 10, 3) := dk_182 0 10 (dk_at dksJ36_grow_2 0 rfl rfl)
theorem dJ36_grow_48 : decode cJ36_grow 48 = .ok (.istore_n 3, 1) := dk_62 (dk_at dksJ36_grow_2 3 rfl rfl)
theorem dJ36_grow_49 : decode cJ36_grow 49 = .ok (.aload_n 0, 1) := dk_42 (dk_at dksJ36_grow_2 4 rfl rfl)
theorem dJ36_grow_50 : decode cJ36_grow 50 = .ok (.aload_n 0, 1) := dk_42 (dk_at dksJ36_grow_2 5 rfl rfl)
theorem dJ36_grow_51 : decode cJ36_grow 51 = .ok (.getfield 3, 3) := dk_180 0 3 (dk_at dksJ36_grow_2 6 rfl rfl)
theorem dJ36_grow_54 : decode cJ36_grow 54 = .ok (.iload_n 3, 1) := dk_29 (dk_at dksJ36_grow_2 9 rfl rfl)
theorem dJ36_grow_55 : decode cJ36_grow 55 = .ok (.invokestatic 14, 3) := dk_184 0 14 (dk_at dksJ36_grow_2 10 rfl rfl)
theorem dJ36_grow_58 : decode cJ36_grow 58 = .ok (.dup_x1, 1) := dk_90 (dk_at dksJ36_grow_2 13 rfl rfl)
theorem dJ36_grow_59 : decode cJ36_grow 59 = .ok (.putfield 3, 3) := dk_181 0 3 (dk_at dksJ36_grow_2 14 rfl rfl)
theorem dJ36_grow_62 : decode cJ36_grow 62 = .ok (.astore 5, 2) := dk_58 5 (dk_at dksJ36_grow_2 17 rfl rfl)
theorem dJ36_grow_64 : decode cJ36_grow 64 = .ok (.aload_n 0, 1) := dk_42 (dk_at dksJ36_grow_2 19 rfl rfl)
theorem dJ36_grow_65 : decode cJ36_grow 65 = .ok (.getfield 20, 3) := dk_180 0 20 (dk_at dksJ36_grow_2 20 rfl rfl)
theorem dJ36_grow_68 : decode cJ36_grow 68 = .ok (.aload_n 0, 1) := dk_42 (dk_at dksJ36_grow_2 23 rfl rfl)
theorem dJ36_grow_69 : decode cJ36_grow 69 = .ok (.getfield 24, 3) := dk_180 0 24 (dk_at dksJ36_grow_3 0 rfl rfl)
theorem dJ36_grow_72 : decode cJ36_grow 72 = .ok (.if_icmp .lt 24, 3) := dk_161 0 24 (dk_at dksJ36_grow_3 3 rfl rfl)
theorem dJ36_grow_75 : decode cJ36_grow 75 = .ok (.aload_n 0, 1) := dk_42 (dk_at dksJ36_grow_3 6 rfl rfl)
theorem dJ36_grow_76 : decode cJ36_grow 76 = .ok (.getfield 20, 3) := dk_180 0 20 (dk_at dksJ36_grow_3 7 rfl rfl)
theorem dJ36_grow_79 : decode cJ36_grow 79 = .ok (.aload_n 0, 1) := dk_42 (dk_at dksJ36_grow_3 10 rfl rfl)
theorem dJ36_grow_80 : decode cJ36_grow 80 = .ok (.getfield 24, 3) := dk_180 0 24 (dk_at dksJ36_grow_3 11 rfl rfl)
theorem dJ36_grow_83 : decode cJ36_grow 83 = .ok (.if_icmp .ne 81, 3) := dk_160 0 81 (dk_at dksJ36_grow_3 14 rfl rfl)
theorem dJ36_grow_86 : decode cJ36_grow 86 = .ok (.aload 5, 2) := dk_25 5 (dk_at dksJ36_grow_3 17 rfl rfl)
theorem dJ36_grow_88 : decode cJ36_grow 88 = .ok (.aload_n 0, 1) := dk_42 (dk_at dksJ36_grow_3 19 rfl rfl)
theorem dJ36_grow_89 : decode cJ36_grow 89 = .ok (.getfield 24, 3) := dk_180 0 24 (dk_at dksJ36_grow_3 20 rfl rfl)
theorem dJ36_grow_92 : decode cJ36_grow 92 = .ok (.aaload, 1) := dk_50 (dk_at dksJ36_grow_3 23 rfl rfl)
theorem dJ36_grow_93 : decode cJ36_grow 93 = .ok (.ifnull 71, 3) := dk_198 0 71 (dk_at dksJ36_grow_4 0 rfl rfl)
theorem dJ36_grow_96 : decode cJ36_grow 96 = .ok (.iload_n 3, 1) := dk_29 (dk_at dksJ36_grow_4 3 rfl rfl)
theorem dJ36_grow_97 : decode cJ36_grow 97 = .ok (.iload_n 2, 1) := dk_28 (dk_at dksJ36_grow_4 4 rfl rfl)
theorem dJ36_grow_98 : decode cJ36_grow 98 = .ok (.isub, 1) := dk_100 (dk_at dksJ36_grow_4 5 rfl rfl)
theorem dJ36_grow_99 : decode cJ36_grow 99 = .ok (.istore 6, 2) := dk_54 6 (dk_at dksJ36_grow_4 6 rfl rfl)
theorem dJ36_grow_101 : decode cJ36_grow 101 = .ok (.aload 5, 2) := dk_25 5 (dk_at dksJ36_grow_4 8 rfl rfl)
theorem dJ36_grow_103 : decode cJ36_grow 103 = .ok (.aload_n 0, 1) := dk_42 (dk_at dksJ36_grow_4 10 rfl rfl)
theorem dJ36_grow_104 : decode cJ36_grow 104 = .ok (.getfield 24, 3) := dk_180 0 24 (dk_at dksJ36_grow_4 11 rfl rfl)
theorem dJ36_grow_107 : decode cJ36_grow 107 = .ok (.aload 5, 2) := dk_25 5 (dk_at dksJ36_grow_4 14 rfl rfl)
theorem dJ36_grow_109 : decode cJ36_grow 109 = .ok (.aload_n 0, 1) := dk_42 (dk_at dksJ36_grow_4 16 rfl rfl)
theorem dJ36_grow_110 : decode cJ36_grow 110 = .ok (.getfield 24, 3) := dk_180 0 24 (dk_at dksJ36_grow_4 17 rfl rfl)
theorem dJ36_grow_113 : decode cJ36_grow 113 = .ok (.iload 6, 2) := dk_21 6 (dk_at dksJ36_grow_4 20 rfl rfl)
theorem dJ36_grow_115 : decode cJ36_grow 115 = .ok (.iadd, 1) := dk_96 (dk_at dksJ36_grow_4 22 rfl rfl)
theorem dJ36_grow_116 : decode cJ36_grow 116 = .ok (.iload_n 2, 1) := dk_28 (dk_at dksJ36_grow_4 23 rfl rfl)
theorem dJ36_grow_117 : decode cJ36_grow 117 = .ok (.aload_n 0, 1) := dk_42 (dk_at dksJ36_grow_5 0 rfl rfl)
theorem dJ36_grow_118 : decode cJ36_grow 118 = .ok (.getfield 24, 3) := dk_180 0 24 (dk_at dksJ36_grow_5 1 rfl rfl)
theorem dJ36_grow_121 : decode cJ36_grow 121 = .ok (.isub, 1) := dk_100 (dk_at dksJ36_grow_5 4 rfl rfl)
theorem dJ36_grow_122 : decode cJ36_grow 122 = .ok (.invokestatic 27, 3) := dk_184 0 27 (dk_at dksJ36_grow_5 5 rfl rfl)
theorem dJ36_grow_125 : decode cJ36_grow 125 = .ok (.aload_n 0, 1) := dk_42 (dk_at dksJ36_grow_5 8 rfl rfl)
theorem dJ36_grow_126 : decode cJ36_grow 126 = .ok (.getfield 24, 3) := dk_180 0 24 (dk_at dksJ36_grow_5 9 rfl rfl)
theorem dJ36_grow_129 : decode cJ36_grow 129 = .ok (.istore 7, 2) := dk_54 7 (dk_at dksJ36_grow_5 12 rfl rfl)
theorem dJ36_grow_131 : decode cJ36_grow 131 = .ok (.aload_n 0, 1) := dk_42 (dk_at dksJ36_grow_5 14 rfl rfl)
theorem dJ36_grow_132 : decode cJ36_grow 132 = .ok (.dup, 1) := dk_89 (dk_at dksJ36_grow_5 15 rfl rfl)
theorem dJ36_grow_133 : decode cJ36_grow 133 = .ok (.getfield 24, 3) := dk_180 0 24 (dk_at dksJ36_grow_5 16 rfl rfl)
theorem dJ36_grow_136 : decode cJ36_grow 136 = .ok (.iload 6, 2) := dk_21 6 (dk_at dksJ36_grow_5 19 rfl rfl)
theorem dJ36_grow_138 : decode cJ36_grow 138 = .ok (.iadd, 1) := dk_96 (dk_at dksJ36_grow_5 21 rfl rfl)
theorem dJ36_grow_139 : decode cJ36_grow 139 = .ok (.dup_x1, 1) := dk_90 (dk_at dksJ36_grow_5 22 rfl rfl)
theorem dJ36_grow_140 : decode cJ36_grow 140 = .ok (.putfield 24, 3) := dk_181 0 24 (dk_at dksJ36_grow_6 0 rfl rfl)
theorem dJ36_grow_143 : decode cJ36_grow 143 = .ok (.istore 8, 2) := dk_54 8 (dk_at dksJ36_grow_6 3 rfl rfl)
theorem dJ36_grow_145 : decode cJ36_grow 145 = .ok (.iload 7, 2) := dk_21 7 (dk_at dksJ36_grow_6 5 rfl rfl)
theorem dJ36_grow_147 : decode cJ36_grow 147 = .ok (.iload 8, 2) := dk_21 8 (dk_at dksJ36_grow_6 7 rfl rfl)
theorem dJ36_grow_149 : decode cJ36_grow 149 = .ok (.if_icmp .ge 15, 3) := dk_162 0 15 (dk_at dksJ36_grow_6 9 rfl rfl)
theorem dJ36_grow_152 : decode cJ36_grow 152 = .ok (.aload 5, 2) := dk_25 5 (dk_at dksJ36_grow_6 12 rfl rfl)
theorem dJ36_grow_154 : decode cJ36_grow 154 = .ok (.iload 7, 2) := dk_21 7 (dk_at dksJ36_grow_6 14 rfl rfl)
theorem dJ36_grow_156 : decode cJ36_grow 156 = .ok (.aconst_null, 1) := dk_1 (dk_at dksJ36_grow_6 16 rfl rfl)
theorem dJ36_grow_157 : decode cJ36_grow 157 = .ok (.aastore, 1) := dk_83 (dk_at dksJ36_grow_6 17 rfl rfl)
theorem dJ36_grow_158 : decode cJ36_grow 158 = .ok (.iinc 7 1, 3) := dk_132 7 1 (dk_at dksJ36_grow_6 18 rfl rfl)
theorem dJ36_grow_161 : decode cJ36_grow 161 = .ok (.goto (-16), 3) := dk_167 255 240 (dk_at dksJ36_grow_6 21 rfl rfl)
theorem dJ36_grow_164 : decode cJ36_grow 164 = .ok (.return_, 1) := dk_177 (dk_at dksJ36_grow_7 0 rfl rfl)
abbrev cJ36_newCapacity : ByteArray := prog_49_method_2_code
def yJ36_newCapacity : MethodName := ⟨RJ36, "newCapacity", "(II)I"⟩
def dkwJ36_newCapacity_2 : List UInt8 := [18, 9, 100, 156, 0, 9, 29, 28, 96, 167, 0, 5, 18, 9, 172]
abbrev dktJ36_newCapacity_2 : List UInt8 := dkwJ36_newCapacity_2 ++ []
def dkwJ36_newCapacity_1 : List UInt8 := [187, 0, 33, 89, 18, 35, 183, 0, 37, 191, 18, 41, 172, 27, 28, 164, 0, 6, 21, 4, 172, 29, 28, 96]
abbrev dktJ36_newCapacity_1 : List UInt8 := dkwJ36_newCapacity_1 ++ dktJ36_newCapacity_2
def dkwJ36_newCapacity_0 : List UInt8 := [42, 180, 0, 3, 190, 62, 29, 27, 96, 89, 54, 4, 18, 9, 100, 158, 0, 21, 21, 4, 156, 0, 13]
abbrev dktJ36_newCapacity_0 : List UInt8 := dkwJ36_newCapacity_0 ++ dktJ36_newCapacity_1
theorem dksJ36_newCapacity_0 : cJ36_newCapacity.data.toList.drop 0 = dktJ36_newCapacity_0 := by decide +kernel
theorem dksJ36_newCapacity_1 : cJ36_newCapacity.data.toList.drop 23 = dktJ36_newCapacity_1 := dk_seg dksJ36_newCapacity_0 23 rfl rfl
theorem dksJ36_newCapacity_2 : cJ36_newCapacity.data.toList.drop 47 = dktJ36_newCapacity_2 := dk_seg dksJ36_newCapacity_1 24 rfl rfl
theorem dJ36_newCapacity_0 : decode cJ36_newCapacity 0 = .ok (.aload_n 0, 1) := dk_42 (dk_at dksJ36_newCapacity_0 0 rfl rfl)
theorem dJ36_newCapacity_1 : decode cJ36_newCapacity 1 = .ok (.getfield 3, 3) := dk_180 0 3 (dk_at dksJ36_newCapacity_0 1 rfl rfl)
theorem dJ36_newCapacity_4 : decode cJ36_newCapacity 4 = .ok (.arraylength, 1) := dk_190 (dk_at dksJ36_newCapacity_0 4 rfl rfl)
theorem dJ36_newCapacity_5 : decode cJ36_newCapacity 5 = .ok (.istore_n 3, 1) := dk_62 (dk_at dksJ36_newCapacity_0 5 rfl rfl)
theorem dJ36_newCapacity_6 : decode cJ36_newCapacity 6 = .ok (.iload_n 3, 1) := dk_29 (dk_at dksJ36_newCapacity_0 6 rfl rfl)
theorem dJ36_newCapacity_7 : decode cJ36_newCapacity 7 = .ok (.iload_n 1, 1) := dk_27 (dk_at dksJ36_newCapacity_0 7 rfl rfl)
theorem dJ36_newCapacity_8 : decode cJ36_newCapacity 8 = .ok (.iadd, 1) := dk_96 (dk_at dksJ36_newCapacity_0 8 rfl rfl)
theorem dJ36_newCapacity_9 : decode cJ36_newCapacity 9 = .ok (.dup, 1) := dk_89 (dk_at dksJ36_newCapacity_0 9 rfl rfl)
theorem dJ36_newCapacity_10 : decode cJ36_newCapacity 10 = .ok (.istore 4, 2) := dk_54 4 (dk_at dksJ36_newCapacity_0 10 rfl rfl)
theorem dJ36_newCapacity_12 : decode cJ36_newCapacity 12 = .ok (.ldc 9, 2) := dk_18 9 (dk_at dksJ36_newCapacity_0 12 rfl rfl)
theorem dJ36_newCapacity_14 : decode cJ36_newCapacity 14 = .ok (.isub, 1) := dk_100 (dk_at dksJ36_newCapacity_0 14 rfl rfl)
theorem dJ36_newCapacity_15 : decode cJ36_newCapacity 15 = .ok (.ifCond .le 21, 3) := dk_158 0 21 (dk_at dksJ36_newCapacity_0 15 rfl rfl)
theorem dJ36_newCapacity_18 : decode cJ36_newCapacity 18 = .ok (.iload 4, 2) := dk_21 4 (dk_at dksJ36_newCapacity_0 18 rfl rfl)
theorem dJ36_newCapacity_20 : decode cJ36_newCapacity 20 = .ok (.ifCond .ge 13, 3) := dk_156 0 13 (dk_at dksJ36_newCapacity_0 20 rfl rfl)
theorem dJ36_newCapacity_23 : decode cJ36_newCapacity 23 = .ok (.new 33, 3) := dk_187 0 33 (dk_at dksJ36_newCapacity_1 0 rfl rfl)
theorem dJ36_newCapacity_26 : decode cJ36_newCapacity 26 = .ok (.dup, 1) := dk_89 (dk_at dksJ36_newCapacity_1 3 rfl rfl)
theorem dJ36_newCapacity_27 : decode cJ36_newCapacity 27 = .ok (.ldc 35, 2) := dk_18 35 (dk_at dksJ36_newCapacity_1 4 rfl rfl)
theorem dJ36_newCapacity_29 : decode cJ36_newCapacity 29 = .ok (.invokespecial 37, 3) := dk_183 0 37 (dk_at dksJ36_newCapacity_1 6 rfl rfl)
theorem dJ36_newCapacity_32 : decode cJ36_newCapacity 32 = .ok (.athrow, 1) := dk_191 (dk_at dksJ36_newCapacity_1 9 rfl rfl)
theorem dJ36_newCapacity_33 : decode cJ36_newCapacity 33 = .ok (.ldc 41, 2) := dk_18 41 (dk_at dksJ36_newCapacity_1 10 rfl rfl)
theorem dJ36_newCapacity_35 : decode cJ36_newCapacity 35 = .ok (.ireturn, 1) := dk_172 (dk_at dksJ36_newCapacity_1 12 rfl rfl)
theorem dJ36_newCapacity_36 : decode cJ36_newCapacity 36 = .ok (.iload_n 1, 1) := dk_27 (dk_at dksJ36_newCapacity_1 13 rfl rfl)
theorem dJ36_newCapacity_37 : decode cJ36_newCapacity 37 = .ok (.iload_n 2, 1) := dk_28 (dk_at dksJ36_newCapacity_1 14 rfl rfl)
theorem dJ36_newCapacity_38 : decode cJ36_newCapacity 38 = .ok (.if_icmp .le 6, 3) := dk_164 0 6 (dk_at dksJ36_newCapacity_1 15 rfl rfl)
theorem dJ36_newCapacity_41 : decode cJ36_newCapacity 41 = .ok (.iload 4, 2) := dk_21 4 (dk_at dksJ36_newCapacity_1 18 rfl rfl)
theorem dJ36_newCapacity_43 : decode cJ36_newCapacity 43 = .ok (.ireturn, 1) := dk_172 (dk_at dksJ36_newCapacity_1 20 rfl rfl)
theorem dJ36_newCapacity_44 : decode cJ36_newCapacity 44 = .ok (.iload_n 3, 1) := dk_29 (dk_at dksJ36_newCapacity_1 21 rfl rfl)
theorem dJ36_newCapacity_45 : decode cJ36_newCapacity 45 = .ok (.iload_n 2, 1) := dk_28 (dk_at dksJ36_newCapacity_1 22 rfl rfl)
theorem dJ36_newCapacity_46 : decode cJ36_newCapacity 46 = .ok (.iadd, 1) := dk_96 (dk_at dksJ36_newCapacity_1 23 rfl rfl)
theorem dJ36_newCapacity_47 : decode cJ36_newCapacity 47 = .ok (.ldc 9, 2) := dk_18 9 (dk_at dksJ36_newCapacity_2 0 rfl rfl)
theorem dJ36_newCapacity_49 : decode cJ36_newCapacity 49 = .ok (.isub, 1) := dk_100 (dk_at dksJ36_newCapacity_2 2 rfl rfl)
theorem dJ36_newCapacity_50 : decode cJ36_newCapacity 50 = .ok (.ifCond .ge 9, 3) := dk_156 0 9 (dk_at dksJ36_newCapacity_2 3 rfl rfl)
theorem dJ36_newCapacity_53 : decode cJ36_newCapacity 53 = .ok (.iload_n 3, 1) := dk_29 (dk_at dksJ36_newCapacity_2 6 rfl rfl)
theorem dJ36_newCapacity_54 : decode cJ36_newCapacity 54 = .ok (.iload_n 2, 1) := dk_28 (dk_at dksJ36_newCapacity_2 7 rfl rfl)
theorem dJ36_newCapacity_55 : decode cJ36_newCapacity 55 = .ok (.iadd, 1) := dk_96 (dk_at dksJ36_newCapacity_2 8 rfl rfl)
theorem dJ36_newCapacity_56 : decode cJ36_newCapacity 56 = .ok (.goto 5, 3) := dk_167 0 5 (dk_at dksJ36_newCapacity_2 9 rfl rfl)
theorem dJ36_newCapacity_59 : decode cJ36_newCapacity 59 = .ok (.ldc 9, 2) := dk_18 9 (dk_at dksJ36_newCapacity_2 12 rfl rfl)
theorem dJ36_newCapacity_61 : decode cJ36_newCapacity 61 = .ok (.ireturn, 1) := dk_172 (dk_at dksJ36_newCapacity_2 14 rfl rfl)
abbrev cJ36_iterator : ByteArray := prog_49_method_39_code
def yJ36_iterator : MethodName := ⟨RJ36, "iterator", "()Ljava/util/Iterator;"⟩
def dkwJ36_iterator_0 : List UInt8 := [187, 0, 131, 89, 42, 183, 0, 133, 176]
abbrev dktJ36_iterator_0 : List UInt8 := dkwJ36_iterator_0 ++ []
theorem dksJ36_iterator_0 : cJ36_iterator.data.toList.drop 0 = dktJ36_iterator_0 := by decide +kernel
theorem dJ36_iterator_0 : decode cJ36_iterator 0 = .ok (.new 131, 3) := dk_187 0 131 (dk_at dksJ36_iterator_0 0 rfl rfl)
theorem dJ36_iterator_3 : decode cJ36_iterator 3 = .ok (.dup, 1) := dk_89 (dk_at dksJ36_iterator_0 3 rfl rfl)
theorem dJ36_iterator_4 : decode cJ36_iterator 4 = .ok (.aload_n 0, 1) := dk_42 (dk_at dksJ36_iterator_0 4 rfl rfl)
theorem dJ36_iterator_5 : decode cJ36_iterator 5 = .ok (.invokespecial 133, 3) := dk_183 0 133 (dk_at dksJ36_iterator_0 5 rfl rfl)
theorem dJ36_iterator_8 : decode cJ36_iterator 8 = .ok (.areturn, 1) := dk_176 (dk_at dksJ36_iterator_0 8 rfl rfl)
abbrev cJ36_size : ByteArray := prog_49_method_37_code
def yJ36_size : MethodName := ⟨RJ36, "size", "()I"⟩
def dkwJ36_size_0 : List UInt8 := [42, 180, 0, 20, 42, 180, 0, 24, 42, 180, 0, 3, 190, 184, 0, 127, 172]
abbrev dktJ36_size_0 : List UInt8 := dkwJ36_size_0 ++ []
theorem dksJ36_size_0 : cJ36_size.data.toList.drop 0 = dktJ36_size_0 := by decide +kernel
theorem dJ36_size_0 : decode cJ36_size 0 = .ok (.aload_n 0, 1) := dk_42 (dk_at dksJ36_size_0 0 rfl rfl)
theorem dJ36_size_1 : decode cJ36_size 1 = .ok (.getfield 20, 3) := dk_180 0 20 (dk_at dksJ36_size_0 1 rfl rfl)
theorem dJ36_size_4 : decode cJ36_size 4 = .ok (.aload_n 0, 1) := dk_42 (dk_at dksJ36_size_0 4 rfl rfl)
theorem dJ36_size_5 : decode cJ36_size 5 = .ok (.getfield 24, 3) := dk_180 0 24 (dk_at dksJ36_size_0 5 rfl rfl)
theorem dJ36_size_8 : decode cJ36_size 8 = .ok (.aload_n 0, 1) := dk_42 (dk_at dksJ36_size_0 8 rfl rfl)
theorem dJ36_size_9 : decode cJ36_size 9 = .ok (.getfield 3, 3) := dk_180 0 3 (dk_at dksJ36_size_0 9 rfl rfl)
theorem dJ36_size_12 : decode cJ36_size 12 = .ok (.arraylength, 1) := dk_190 (dk_at dksJ36_size_0 12 rfl rfl)
theorem dJ36_size_13 : decode cJ36_size 13 = .ok (.invokestatic 127, 3) := dk_184 0 127 (dk_at dksJ36_size_0 13 rfl rfl)
theorem dJ36_size_16 : decode cJ36_size 16 = .ok (.ireturn, 1) := dk_172 (dk_at dksJ36_size_0 16 rfl rfl)
abbrev cJ36_sub : ByteArray := prog_49_method_9_code
def yJ36_sub : MethodName := ⟨RJ36, "sub", "(III)I"⟩
def dkwJ36_sub_0 : List UInt8 := [26, 27, 100, 89, 59, 156, 0, 7, 26, 28, 96, 59, 26, 172]
abbrev dktJ36_sub_0 : List UInt8 := dkwJ36_sub_0 ++ []
theorem dksJ36_sub_0 : cJ36_sub.data.toList.drop 0 = dktJ36_sub_0 := by decide +kernel
theorem dJ36_sub_0 : decode cJ36_sub 0 = .ok (.iload_n 0, 1) := dk_26 (dk_at dksJ36_sub_0 0 rfl rfl)
theorem dJ36_sub_1 : decode cJ36_sub 1 = .ok (.iload_n 1, 1) := dk_27 (dk_at dksJ36_sub_0 1 rfl rfl)
theorem dJ36_sub_2 : decode cJ36_sub 2 = .ok (.isub, 1) := dk_100 (dk_at dksJ36_sub_0 2 rfl rfl)
theorem dJ36_sub_3 : decode cJ36_sub 3 = .ok (.dup, 1) := dk_89 (dk_at dksJ36_sub_0 3 rfl rfl)
theorem dJ36_sub_4 : decode cJ36_sub 4 = .ok (.istore_n 0, 1) := dk_59 (dk_at dksJ36_sub_0 4 rfl rfl)
theorem dJ36_sub_5 : decode cJ36_sub 5 = .ok (.ifCond .ge 7, 3) := dk_156 0 7 (dk_at dksJ36_sub_0 5 rfl rfl)
theorem dJ36_sub_8 : decode cJ36_sub 8 = .ok (.iload_n 0, 1) := dk_26 (dk_at dksJ36_sub_0 8 rfl rfl)
theorem dJ36_sub_9 : decode cJ36_sub 9 = .ok (.iload_n 2, 1) := dk_28 (dk_at dksJ36_sub_0 9 rfl rfl)
theorem dJ36_sub_10 : decode cJ36_sub 10 = .ok (.iadd, 1) := dk_96 (dk_at dksJ36_sub_0 10 rfl rfl)
theorem dJ36_sub_11 : decode cJ36_sub 11 = .ok (.istore_n 0, 1) := dk_59 (dk_at dksJ36_sub_0 11 rfl rfl)
theorem dJ36_sub_12 : decode cJ36_sub 12 = .ok (.iload_n 0, 1) := dk_26 (dk_at dksJ36_sub_0 12 rfl rfl)
theorem dJ36_sub_13 : decode cJ36_sub 13 = .ok (.ireturn, 1) := dk_172 (dk_at dksJ36_sub_0 13 rfl rfl)
theorem q162 : (Jvm.Cond.initialized "java/util/ArrayDeque") ∈ lw_all := lw_g (lw_at lw_m1 49 rfl) rfl
theorem q238 : (Jvm.Cond.selects "java/util/ArrayDeque" ({ cls := "java/lang/Object", name := "getClass", desc := "()Ljava/lang/Class;" } : Jvm.MethodName) ({ cls := "java/lang/Object", name := "getClass", desc := "()Ljava/lang/Class;" } : Jvm.MethodName)) ∈ lw_all := lw_g (lw_at lw_m1 125 rfl) rfl
theorem q1571 : (Jvm.Cond.static ({ cls := "java/util/ArrayDeque", name := "nonNullElementAt", desc := "([Ljava/lang/Object;I)Ljava/lang/Object;" } : Jvm.MethodName)) ∈ lw_all := lw_g (lw_at lw_m7 18 rfl) rfl
theorem q1572 : (Jvm.Cond.code ({ cls := "java/util/ArrayDeque", name := "nonNullElementAt", desc := "([Ljava/lang/Object;I)Ljava/lang/Object;" } : Jvm.MethodName) prog_49_method_11_code (3 : Nat) (Option.some (Jvm.ClassFile.FieldType.object "java/lang/Object"))) ∈ lw_all := lw_g (lw_at lw_m7 19 rfl) rfl
theorem q1574 : (Jvm.Cond.static ({ cls := "java/util/ArrayDeque", name := "inc", desc := "(II)I" } : Jvm.MethodName)) ∈ lw_all := lw_g (lw_at lw_m7 21 rfl) rfl
theorem q1575 : (Jvm.Cond.code ({ cls := "java/util/ArrayDeque", name := "inc", desc := "(II)I" } : Jvm.MethodName) prog_49_method_6_code (2 : Nat) (Option.some Jvm.ClassFile.FieldType.int)) ∈ lw_all := lw_g (lw_at lw_m7 22 rfl) rfl
theorem q1996 : (Jvm.Cond.instantiable "java/util/ArrayDeque" (3 : Nat)) ∈ lw_all := lw_g (lw_at lw_m8 203 rfl) rfl
theorem q1998 : (Jvm.Cond.instanceMethod ({ cls := "java/util/ArrayDeque", name := "<init>", desc := "(I)V" } : Jvm.MethodName)) ∈ lw_all := lw_g (lw_at lw_m8 205 rfl) rfl
theorem q1999 : (Jvm.Cond.code ({ cls := "java/util/ArrayDeque", name := "<init>", desc := "(I)V" } : Jvm.MethodName) prog_49_method_4_code (2 : Nat) (Option.none : Option Jvm.ClassFile.FieldType)) ∈ lw_all := lw_g (lw_at lw_m8 206 rfl) rfl
theorem q2000 : (Jvm.Cond.methodLink "java/util/ArrayDeque" (42 : Nat) ({ cls := "java/util/AbstractCollection", name := "<init>", desc := "()V" } : Jvm.MethodName)) ∈ lw_all := lw_g (lw_at lw_m8 207 rfl) rfl
theorem q2001 : (Jvm.Cond.constant "java/util/ArrayDeque" (41 : Nat) (2147483647 : Int32)) ∈ lw_all := lw_g (lw_at lw_m8 208 rfl) rfl
theorem q2002 : (Jvm.Cond.classLink "java/util/ArrayDeque" (47 : Nat) "java/lang/Object") ∈ lw_all := lw_g (lw_at lw_m8 209 rfl) rfl
theorem q2003 : (Jvm.Cond.fieldLink "java/util/ArrayDeque" (3 : Nat) "java/util/ArrayDeque" "elements" "[Ljava/lang/Object;") ∈ lw_all := lw_g (lw_at lw_m8 210 rfl) rfl
theorem q2006 : (Jvm.Cond.fieldLink "java/util/ArrayDeque" (24 : Nat) "java/util/ArrayDeque" "head" "I") ∈ lw_all := lw_g (lw_at lw_m8 213 rfl) rfl
theorem q2007 : (Jvm.Cond.fieldLink "java/util/ArrayDeque" (20 : Nat) "java/util/ArrayDeque" "tail" "I") ∈ lw_all := lw_g (lw_at lw_m8 214 rfl) rfl
theorem q2008 : (Jvm.Cond.lays "java/util/ArrayDeque" "java/util/ArrayDeque" "elements" "[Ljava/lang/Object;") ∈ lw_all := lw_g (lw_at lw_m8 215 rfl) rfl
theorem q2009 : (Jvm.Cond.soleField "java/util/ArrayDeque" "elements") ∈ lw_all := lw_g (lw_at lw_m8 216 rfl) rfl
theorem q2010 : (Jvm.Cond.lays "java/util/ArrayDeque" "java/util/ArrayDeque" "head" "I") ∈ lw_all := lw_g (lw_at lw_m8 217 rfl) rfl
theorem q2011 : (Jvm.Cond.soleField "java/util/ArrayDeque" "head") ∈ lw_all := lw_g (lw_at lw_m8 218 rfl) rfl
theorem q2012 : (Jvm.Cond.lays "java/util/ArrayDeque" "java/util/ArrayDeque" "tail" "I") ∈ lw_all := lw_g (lw_at lw_m8 219 rfl) rfl
theorem q2013 : (Jvm.Cond.soleField "java/util/ArrayDeque" "tail") ∈ lw_all := lw_g (lw_at lw_m8 220 rfl) rfl
theorem q2014 : (Jvm.Cond.superclass "java/util/ArrayDeque" "java/util/AbstractCollection") ∈ lw_all := lw_g (lw_at lw_m8 221 rfl) rfl
theorem q2036 : (Jvm.Cond.instanceMethod ({ cls := "java/util/ArrayDeque", name := "addLast", desc := "(Ljava/lang/Object;)V" } : Jvm.MethodName)) ∈ lw_all := lw_g (lw_at lw_m9 3 rfl) rfl
theorem q2037 : (Jvm.Cond.selects "java/util/ArrayDeque" ({ cls := "java/util/ArrayDeque", name := "addLast", desc := "(Ljava/lang/Object;)V" } : Jvm.MethodName) ({ cls := "java/util/ArrayDeque", name := "addLast", desc := "(Ljava/lang/Object;)V" } : Jvm.MethodName)) ∈ lw_all := lw_g (lw_at lw_m9 4 rfl) rfl
theorem q2038 : (Jvm.Cond.code ({ cls := "java/util/ArrayDeque", name := "addLast", desc := "(Ljava/lang/Object;)V" } : Jvm.MethodName) prog_49_method_13_code (3 : Nat) (Option.none : Option Jvm.ClassFile.FieldType)) ∈ lw_all := lw_g (lw_at lw_m9 5 rfl) rfl
theorem q2039 : (Jvm.Cond.methodLink "java/util/ArrayDeque" (74 : Nat) ({ cls := "java/util/ArrayDeque", name := "inc", desc := "(II)I" } : Jvm.MethodName)) ∈ lw_all := lw_g (lw_at lw_m9 6 rfl) rfl
theorem q2040 : (Jvm.Cond.methodLink "java/util/ArrayDeque" (71 : Nat) ({ cls := "java/util/ArrayDeque", name := "grow", desc := "(I)V" } : Jvm.MethodName)) ∈ lw_all := lw_g (lw_at lw_m9 7 rfl) rfl
theorem q2041 : (Jvm.Cond.privateMethod ({ cls := "java/util/ArrayDeque", name := "grow", desc := "(I)V" } : Jvm.MethodName)) ∈ lw_tbl := lw_at lw_m9 8 rfl
theorem q2042 : (Jvm.Cond.instanceMethod ({ cls := "java/util/ArrayDeque", name := "grow", desc := "(I)V" } : Jvm.MethodName)) ∈ lw_all := lw_g (lw_at lw_m9 9 rfl) rfl
theorem q2043 : (Jvm.Cond.code ({ cls := "java/util/ArrayDeque", name := "grow", desc := "(I)V" } : Jvm.MethodName) prog_49_method_1_code (9 : Nat) (Option.none : Option Jvm.ClassFile.FieldType)) ∈ lw_all := lw_g (lw_at lw_m9 10 rfl) rfl
theorem q2044 : (Jvm.Cond.constant "java/util/ArrayDeque" (9 : Nat) (2147483639 : Int32)) ∈ lw_all := lw_g (lw_at lw_m9 11 rfl) rfl
theorem q2045 : (Jvm.Cond.methodLink "java/util/ArrayDeque" (10 : Nat) ({ cls := "java/util/ArrayDeque", name := "newCapacity", desc := "(II)I" } : Jvm.MethodName)) ∈ lw_all := lw_g (lw_at lw_m9 12 rfl) rfl
theorem q2046 : (Jvm.Cond.privateMethod ({ cls := "java/util/ArrayDeque", name := "newCapacity", desc := "(II)I" } : Jvm.MethodName)) ∈ lw_tbl := lw_at lw_m9 13 rfl
theorem q2047 : (Jvm.Cond.instanceMethod ({ cls := "java/util/ArrayDeque", name := "newCapacity", desc := "(II)I" } : Jvm.MethodName)) ∈ lw_all := lw_g (lw_at lw_m9 14 rfl) rfl
theorem q2048 : (Jvm.Cond.code ({ cls := "java/util/ArrayDeque", name := "newCapacity", desc := "(II)I" } : Jvm.MethodName) prog_49_method_2_code (5 : Nat) (Option.some Jvm.ClassFile.FieldType.int)) ∈ lw_all := lw_g (lw_at lw_m9 15 rfl) rfl
theorem q2049 : (Jvm.Cond.classLink "java/util/ArrayDeque" (33 : Nat) "java/lang/IllegalStateException") ∈ lw_all := lw_g (lw_at lw_m9 16 rfl) rfl
theorem q2050 : (Jvm.Cond.stringRef "java/util/ArrayDeque" (35 : Nat) "Sorry, deque too big") ∈ lw_tbl := lw_at lw_m9 17 rfl
theorem q2051 : (Jvm.Cond.methodLink "java/util/ArrayDeque" (37 : Nat) ({ cls := "java/lang/IllegalStateException", name := "<init>", desc := "(Ljava/lang/String;)V" } : Jvm.MethodName)) ∈ lw_all := lw_g (lw_at lw_m9 18 rfl) rfl
theorem q2055 : (Jvm.Cond.methodLink "java/util/ArrayDeque" (14 : Nat) ({ cls := "java/util/Arrays", name := "copyOf", desc := "([Ljava/lang/Object;I)[Ljava/lang/Object;" } : Jvm.MethodName)) ∈ lw_all := lw_g (lw_at lw_m9 22 rfl) rfl
theorem q2064 : (Jvm.Cond.methodLink "java/util/ArrayDeque" (27 : Nat) ({ cls := "java/lang/System", name := "arraycopy", desc := "(Ljava/lang/Object;ILjava/lang/Object;II)V" } : Jvm.MethodName)) ∈ lw_all := lw_g (lw_at lw_m9 31 rfl) rfl
theorem q2066 : (Jvm.Cond.instanceMethod ({ cls := "java/util/ArrayDeque", name := "iterator", desc := "()Ljava/util/Iterator;" } : Jvm.MethodName)) ∈ lw_all := lw_g (lw_at lw_m9 33 rfl) rfl
theorem q2067 : (Jvm.Cond.selects "java/util/ArrayDeque" ({ cls := "java/util/ArrayDeque", name := "iterator", desc := "()Ljava/util/Iterator;" } : Jvm.MethodName) ({ cls := "java/util/ArrayDeque", name := "iterator", desc := "()Ljava/util/Iterator;" } : Jvm.MethodName)) ∈ lw_all := lw_g (lw_at lw_m9 34 rfl) rfl
theorem q2068 : (Jvm.Cond.code ({ cls := "java/util/ArrayDeque", name := "iterator", desc := "()Ljava/util/Iterator;" } : Jvm.MethodName) prog_49_method_39_code (1 : Nat) (Option.some (Jvm.ClassFile.FieldType.object "java/util/Iterator"))) ∈ lw_all := lw_g (lw_at lw_m9 35 rfl) rfl
theorem q2069 : (Jvm.Cond.classLink "java/util/ArrayDeque" (131 : Nat) "java/util/ArrayDeque$DeqIterator") ∈ lw_all := lw_g (lw_at lw_m9 36 rfl) rfl
theorem q2071 : (Jvm.Cond.methodLink "java/util/ArrayDeque" (133 : Nat) ({ cls := "java/util/ArrayDeque$DeqIterator", name := "<init>", desc := "(Ljava/util/ArrayDeque;)V" } : Jvm.MethodName)) ∈ lw_all := lw_g (lw_at lw_m9 38 rfl) rfl
theorem q2076 : (Jvm.Cond.instanceMethod ({ cls := "java/util/ArrayDeque", name := "size", desc := "()I" } : Jvm.MethodName)) ∈ lw_all := lw_g (lw_at lw_m9 43 rfl) rfl
theorem q2077 : (Jvm.Cond.selects "java/util/ArrayDeque" ({ cls := "java/util/ArrayDeque", name := "size", desc := "()I" } : Jvm.MethodName) ({ cls := "java/util/ArrayDeque", name := "size", desc := "()I" } : Jvm.MethodName)) ∈ lw_all := lw_g (lw_at lw_m9 44 rfl) rfl
theorem q2078 : (Jvm.Cond.code ({ cls := "java/util/ArrayDeque", name := "size", desc := "()I" } : Jvm.MethodName) prog_49_method_37_code (1 : Nat) (Option.some Jvm.ClassFile.FieldType.int)) ∈ lw_all := lw_g (lw_at lw_m9 45 rfl) rfl
theorem q2079 : (Jvm.Cond.methodLink "java/util/ArrayDeque" (127 : Nat) ({ cls := "java/util/ArrayDeque", name := "sub", desc := "(III)I" } : Jvm.MethodName)) ∈ lw_all := lw_g (lw_at lw_m9 46 rfl) rfl
theorem q2080 : (Jvm.Cond.static ({ cls := "java/util/ArrayDeque", name := "sub", desc := "(III)I" } : Jvm.MethodName)) ∈ lw_all := lw_g (lw_at lw_m9 47 rfl) rfl
theorem q2081 : (Jvm.Cond.code ({ cls := "java/util/ArrayDeque", name := "sub", desc := "(III)I" } : Jvm.MethodName) prog_49_method_9_code (3 : Nat) (Option.some Jvm.ClassFile.FieldType.int)) ∈ lw_all := lw_g (lw_at lw_m9 48 rfl) rfl
theorem q2806 : (Jvm.Cond.castable "java/util/ArrayDeque" "java/lang/Object") ∈ lw_tbl := lw_at lw_m12 53 rfl
theorem in_J36 : ∀ w ∈ wsJ360, w ∈ lw_all := lw_in wsJ360 [2008, 2010, 2012] (by decide +kernel) (by decide +kernel)

/-! java/util/LinkedList$Node -/
set_option maxRecDepth 100000
def RJ37 : String := "java/util/LinkedList$Node"
def TJ37 : u_T := fun k => match k with
  | 0 => ("java/util/LinkedList$Node", "item", "Ljava/lang/Object;", false)
  | 1 => ("java/util/LinkedList$Node", "next", "Ljava/util/LinkedList$Node;", false)
  | _ => ("java/util/LinkedList$Node", "prev", "Ljava/util/LinkedList$Node;", false)
def tyJ37 : Nat → FieldType := fun k => match k with
  | 0 => .object "java/lang/Object"
  | 1 => .object "java/util/LinkedList$Node"
  | _ => .object "java/util/LinkedList$Node"
abbrev wsJ370 : List Cond := u_ws RJ37 TJ37 3
theorem nmJ37 : ∀ a, a < 3 → ∀ b, b < 3 → a ≠ b → (TJ37 a).2.1 ≠ (TJ37 b).2.1 := by decide +kernel
theorem tyJ37_ok : ∀ k, k < 3 → parseFieldDescriptor (TJ37 k).2.2.1 = some (tyJ37 k) := by decide +kernel
abbrev cJ37_init : ByteArray := prog_65_method_1_code
def yJ37_init : MethodName := ⟨RJ37, "<init>", "(Ljava/util/LinkedList$Node;Ljava/lang/Object;Ljava/util/LinkedList$Node;)V"⟩
def dkwJ37_init_0 : List UInt8 := [42, 183, 0, 1, 42, 44, 181, 0, 7, 42, 45, 181, 0, 13, 42, 43, 181, 0, 17, 177]
abbrev dktJ37_init_0 : List UInt8 := dkwJ37_init_0 ++ []
theorem dksJ37_init_0 : cJ37_init.data.toList.drop 0 = dktJ37_init_0 := by decide +kernel
theorem dJ37_init_0 : decode cJ37_init 0 = .ok (.aload_n 0, 1) := dk_42 (dk_at dksJ37_init_0 0 rfl rfl)
theorem dJ37_init_1 : decode cJ37_init 1 = .ok (.invokespecial 1, 3) := dk_183 0 1 (dk_at dksJ37_init_0 1 rfl rfl)
theorem dJ37_init_4 : decode cJ37_init 4 = .ok (.aload_n 0, 1) := dk_42 (dk_at dksJ37_init_0 4 rfl rfl)
theorem dJ37_init_5 : decode cJ37_init 5 = .ok (.aload_n 2, 1) := dk_44 (dk_at dksJ37_init_0 5 rfl rfl)
theorem dJ37_init_6 : decode cJ37_init 6 = .ok (.putfield 7, 3) := dk_181 0 7 (dk_at dksJ37_init_0 6 rfl rfl)
theorem dJ37_init_9 : decode cJ37_init 9 = .ok (.aload_n 0, 1) := dk_42 (dk_at dksJ37_init_0 9 rfl rfl)
theorem dJ37_init_10 : decode cJ37_init 10 = .ok (.aload_n 3, 1) := dk_45 (dk_at dksJ37_init_0 10 rfl rfl)
theorem dJ37_init_11 : decode cJ37_init 11 = .ok (.putfield 13, 3) := dk_181 0 13 (dk_at dksJ37_init_0 11 rfl rfl)
theorem dJ37_init_14 : decode cJ37_init 14 = .ok (.aload_n 0, 1) := dk_42 (dk_at dksJ37_init_0 14 rfl rfl)
theorem dJ37_init_15 : decode cJ37_init 15 = .ok (.aload_n 1, 1) := dk_43 (dk_at dksJ37_init_0 15 rfl rfl)
theorem dJ37_init_16 : decode cJ37_init 16 = .ok (.putfield 17, 3) := dk_181 0 17 (dk_at dksJ37_init_0 16 rfl rfl)
theorem dJ37_init_19 : decode cJ37_init 19 = .ok (.return_, 1) := dk_177 (dk_at dksJ37_init_0 19 rfl rfl)
theorem q165 : (Jvm.Cond.initialized "java/util/LinkedList$Node") ∈ lw_all := lw_g (lw_at lw_m1 52 rfl) rfl
theorem q246 : (Jvm.Cond.selects "java/util/LinkedList$Node" ({ cls := "java/lang/Object", name := "getClass", desc := "()Ljava/lang/Class;" } : Jvm.MethodName) ({ cls := "java/lang/Object", name := "getClass", desc := "()Ljava/lang/Class;" } : Jvm.MethodName)) ∈ lw_all := lw_g (lw_at lw_m1 133 rfl) rfl
theorem q1748 : (Jvm.Cond.instantiable "java/util/LinkedList$Node" (3 : Nat)) ∈ lw_all := lw_g (lw_at lw_m7 195 rfl) rfl
theorem q1750 : (Jvm.Cond.instanceMethod ({ cls := "java/util/LinkedList$Node", name := "<init>", desc := "(Ljava/util/LinkedList$Node;Ljava/lang/Object;Ljava/util/LinkedList$Node;)V" } : Jvm.MethodName)) ∈ lw_all := lw_g (lw_at lw_m7 197 rfl) rfl
theorem q1751 : (Jvm.Cond.code ({ cls := "java/util/LinkedList$Node", name := "<init>", desc := "(Ljava/util/LinkedList$Node;Ljava/lang/Object;Ljava/util/LinkedList$Node;)V" } : Jvm.MethodName) prog_65_method_1_code (4 : Nat) (Option.none : Option Jvm.ClassFile.FieldType)) ∈ lw_all := lw_g (lw_at lw_m7 198 rfl) rfl
theorem q1752 : (Jvm.Cond.methodLink "java/util/LinkedList$Node" (1 : Nat) ({ cls := "java/lang/Object", name := "<init>", desc := "()V" } : Jvm.MethodName)) ∈ lw_all := lw_g (lw_at lw_m7 199 rfl) rfl
theorem q1753 : (Jvm.Cond.fieldLink "java/util/LinkedList$Node" (7 : Nat) "java/util/LinkedList$Node" "item" "Ljava/lang/Object;") ∈ lw_all := lw_g (lw_at lw_m7 200 rfl) rfl
theorem q1756 : (Jvm.Cond.fieldLink "java/util/LinkedList$Node" (13 : Nat) "java/util/LinkedList$Node" "next" "Ljava/util/LinkedList$Node;") ∈ lw_all := lw_g (lw_at lw_m7 203 rfl) rfl
theorem q1759 : (Jvm.Cond.fieldLink "java/util/LinkedList$Node" (17 : Nat) "java/util/LinkedList$Node" "prev" "Ljava/util/LinkedList$Node;") ∈ lw_all := lw_g (lw_at lw_m7 206 rfl) rfl
theorem q1761 : (Jvm.Cond.lays "java/util/LinkedList$Node" "java/util/LinkedList$Node" "item" "Ljava/lang/Object;") ∈ lw_all := lw_g (lw_at lw_m7 208 rfl) rfl
theorem q1762 : (Jvm.Cond.soleField "java/util/LinkedList$Node" "item") ∈ lw_all := lw_g (lw_at lw_m7 209 rfl) rfl
theorem q1763 : (Jvm.Cond.lays "java/util/LinkedList$Node" "java/util/LinkedList$Node" "next" "Ljava/util/LinkedList$Node;") ∈ lw_all := lw_g (lw_at lw_m7 210 rfl) rfl
theorem q1764 : (Jvm.Cond.soleField "java/util/LinkedList$Node" "next") ∈ lw_all := lw_g (lw_at lw_m7 211 rfl) rfl
theorem q1765 : (Jvm.Cond.lays "java/util/LinkedList$Node" "java/util/LinkedList$Node" "prev" "Ljava/util/LinkedList$Node;") ∈ lw_all := lw_g (lw_at lw_m7 212 rfl) rfl
theorem q1766 : (Jvm.Cond.soleField "java/util/LinkedList$Node" "prev") ∈ lw_all := lw_g (lw_at lw_m7 213 rfl) rfl
theorem q1767 : (Jvm.Cond.superclass "java/util/LinkedList$Node" "java/lang/Object") ∈ lw_all := lw_g (lw_at lw_m7 214 rfl) rfl
theorem q2804 : (Jvm.Cond.castable "java/util/LinkedList$Node" "java/lang/Object") ∈ lw_tbl := lw_at lw_m12 51 rfl
theorem in_J37 : ∀ w ∈ wsJ370, w ∈ lw_all := lw_in wsJ370 [1761, 1763, 1765] (by decide +kernel) (by decide +kernel)

/-! java/lang/StringIndexOutOfBoundsException -/
set_option maxRecDepth 100000
def RJ38 : String := "java/lang/StringIndexOutOfBoundsException"
def TJ38 : u_T := fun k => match k with
  | 0 => ("java/lang/Throwable", "backtrace", "Ljava/lang/Object;", false)
  | 1 => ("java/lang/Throwable", "detailMessage", "Ljava/lang/String;", false)
  | 2 => ("java/lang/Throwable", "cause", "Ljava/lang/Throwable;", false)
  | 3 => ("java/lang/Throwable", "stackTrace", "[Ljava/lang/StackTraceElement;", false)
  | 4 => ("java/lang/Throwable", "depth", "I", false)
  | _ => ("java/lang/Throwable", "suppressedExceptions", "Ljava/util/List;", false)
def tyJ38 : Nat → FieldType := fun k => match k with
  | 0 => .object "java/lang/Object"
  | 1 => .object "java/lang/String"
  | 2 => .object "java/lang/Throwable"
  | 3 => .array (.object "java/lang/StackTraceElement")
  | 4 => .int
  | _ => .object "java/util/List"
abbrev wsJ380 : List Cond := u_ws RJ38 TJ38 6
theorem nmJ38 : ∀ a, a < 6 → ∀ b, b < 6 → a ≠ b → (TJ38 a).2.1 ≠ (TJ38 b).2.1 := by decide +kernel
theorem tyJ38_ok : ∀ k, k < 6 → parseFieldDescriptor (TJ38 k).2.2.1 = some (tyJ38 k) := by decide +kernel
abbrev cJ38_init : ByteArray := prog_35_method_3_code
def yJ38_init : MethodName := ⟨RJ38, "<init>", "(I)V"⟩
def dkwJ38_init_0 : List UInt8 := [42, 187, 0, 10, 89, 183, 0, 12, 18, 13, 182, 0, 15, 27, 182, 0, 19, 182, 0, 22, 183, 0, 7, 177]
abbrev dktJ38_init_0 : List UInt8 := dkwJ38_init_0 ++ []
theorem dksJ38_init_0 : cJ38_init.data.toList.drop 0 = dktJ38_init_0 := by decide +kernel
theorem dJ38_init_0 : decode cJ38_init 0 = .ok (.aload_n 0, 1) := dk_42 (dk_at dksJ38_init_0 0 rfl rfl)
theorem dJ38_init_1 : decode cJ38_init 1 = .ok (.new 10, 3) := dk_187 0 10 (dk_at dksJ38_init_0 1 rfl rfl)
theorem dJ38_init_4 : decode cJ38_init 4 = .ok (.dup, 1) := dk_89 (dk_at dksJ38_init_0 4 rfl rfl)
theorem dJ38_init_5 : decode cJ38_init 5 = .ok (.invokespecial 12, 3) := dk_183 0 12 (dk_at dksJ38_init_0 5 rfl rfl)
theorem dJ38_init_8 : decode cJ38_init 8 = .ok (.ldc 13, 2) := dk_18 13 (dk_at dksJ38_init_0 8 rfl rfl)
theorem dJ38_init_10 : decode cJ38_init 10 = .ok (.invokevirtual 15, 3) := dk_182 0 15 (dk_at dksJ38_init_0 10 rfl rfl)
theorem dJ38_init_13 : decode cJ38_init 13 = .ok (.iload_n 1, 1) := dk_27 (dk_at dksJ38_init_0 13 rfl rfl)
theorem dJ38_init_14 : decode cJ38_init 14 = .ok (.invokevirtual 19, 3) := dk_182 0 19 (dk_at dksJ38_init_0 14 rfl rfl)
theorem dJ38_init_17 : decode cJ38_init 17 = .ok (.invokevirtual 22, 3) := dk_182 0 22 (dk_at dksJ38_init_0 17 rfl rfl)
theorem dJ38_init_20 : decode cJ38_init 20 = .ok (.invokespecial 7, 3) := dk_183 0 7 (dk_at dksJ38_init_0 20 rfl rfl)
theorem dJ38_init_23 : decode cJ38_init 23 = .ok (.return_, 1) := dk_177 (dk_at dksJ38_init_0 23 rfl rfl)
theorem q166 : (Jvm.Cond.initialized "java/lang/StringIndexOutOfBoundsException") ∈ lw_all := lw_g (lw_at lw_m1 53 rfl) rfl
theorem q234 : (Jvm.Cond.selects "java/lang/StringIndexOutOfBoundsException" ({ cls := "java/lang/Object", name := "getClass", desc := "()Ljava/lang/Class;" } : Jvm.MethodName) ({ cls := "java/lang/Object", name := "getClass", desc := "()Ljava/lang/Class;" } : Jvm.MethodName)) ∈ lw_all := lw_g (lw_at lw_m1 121 rfl) rfl
theorem q668 : (Jvm.Cond.selects "java/lang/StringIndexOutOfBoundsException" ({ cls := "java/lang/Throwable", name := "fillInStackTrace", desc := "()Ljava/lang/Throwable;" } : Jvm.MethodName) ({ cls := "java/lang/Throwable", name := "fillInStackTrace", desc := "()Ljava/lang/Throwable;" } : Jvm.MethodName)) ∈ lw_all := lw_g (lw_at lw_m3 75 rfl) rfl
theorem q1520 : (Jvm.Cond.selects "java/lang/StringIndexOutOfBoundsException" ({ cls := "java/lang/Throwable", name := "toString", desc := "()Ljava/lang/String;" } : Jvm.MethodName) ({ cls := "java/lang/Throwable", name := "toString", desc := "()Ljava/lang/String;" } : Jvm.MethodName)) ∈ lw_all := lw_g (lw_at lw_m6 207 rfl) rfl
theorem q1535 : (Jvm.Cond.selects "java/lang/StringIndexOutOfBoundsException" ({ cls := "java/lang/Throwable", name := "getLocalizedMessage", desc := "()Ljava/lang/String;" } : Jvm.MethodName) ({ cls := "java/lang/Throwable", name := "getLocalizedMessage", desc := "()Ljava/lang/String;" } : Jvm.MethodName)) ∈ lw_all := lw_g (lw_at lw_m6 222 rfl) rfl
theorem q1549 : (Jvm.Cond.selects "java/lang/StringIndexOutOfBoundsException" ({ cls := "java/lang/Throwable", name := "getMessage", desc := "()Ljava/lang/String;" } : Jvm.MethodName) ({ cls := "java/lang/Throwable", name := "getMessage", desc := "()Ljava/lang/String;" } : Jvm.MethodName)) ∈ lw_all := lw_g (lw_at lw_m6 236 rfl) rfl
theorem q1776 : (Jvm.Cond.instantiable "java/lang/StringIndexOutOfBoundsException" (6 : Nat)) ∈ lw_all := lw_g (lw_at lw_m7 223 rfl) rfl
theorem q1778 : (Jvm.Cond.instanceMethod ({ cls := "java/lang/StringIndexOutOfBoundsException", name := "<init>", desc := "(I)V" } : Jvm.MethodName)) ∈ lw_all := lw_g (lw_at lw_m7 225 rfl) rfl
theorem q1779 : (Jvm.Cond.code ({ cls := "java/lang/StringIndexOutOfBoundsException", name := "<init>", desc := "(I)V" } : Jvm.MethodName) prog_35_method_3_code (2 : Nat) (Option.none : Option Jvm.ClassFile.FieldType)) ∈ lw_all := lw_g (lw_at lw_m7 226 rfl) rfl
theorem q1780 : (Jvm.Cond.classLink "java/lang/StringIndexOutOfBoundsException" (10 : Nat) "java/lang/StringBuilder") ∈ lw_all := lw_g (lw_at lw_m7 227 rfl) rfl
theorem q1781 : (Jvm.Cond.methodLink "java/lang/StringIndexOutOfBoundsException" (12 : Nat) ({ cls := "java/lang/StringBuilder", name := "<init>", desc := "()V" } : Jvm.MethodName)) ∈ lw_all := lw_g (lw_at lw_m7 228 rfl) rfl
theorem q1782 : (Jvm.Cond.stringRef "java/lang/StringIndexOutOfBoundsException" (13 : Nat) "String index out of range: ") ∈ lw_tbl := lw_at lw_m7 229 rfl
theorem q1783 : (Jvm.Cond.methodLink "java/lang/StringIndexOutOfBoundsException" (15 : Nat) ({ cls := "java/lang/StringBuilder", name := "append", desc := "(Ljava/lang/String;)Ljava/lang/StringBuilder;" } : Jvm.MethodName)) ∈ lw_all := lw_g (lw_at lw_m7 230 rfl) rfl
theorem q1784 : (Jvm.Cond.methodLink "java/lang/StringIndexOutOfBoundsException" (19 : Nat) ({ cls := "java/lang/StringBuilder", name := "append", desc := "(I)Ljava/lang/StringBuilder;" } : Jvm.MethodName)) ∈ lw_all := lw_g (lw_at lw_m7 231 rfl) rfl
theorem q1785 : (Jvm.Cond.methodLink "java/lang/StringIndexOutOfBoundsException" (22 : Nat) ({ cls := "java/lang/StringBuilder", name := "toString", desc := "()Ljava/lang/String;" } : Jvm.MethodName)) ∈ lw_all := lw_g (lw_at lw_m7 232 rfl) rfl
theorem q1786 : (Jvm.Cond.methodLink "java/lang/StringIndexOutOfBoundsException" (7 : Nat) ({ cls := "java/lang/IndexOutOfBoundsException", name := "<init>", desc := "(Ljava/lang/String;)V" } : Jvm.MethodName)) ∈ lw_all := lw_g (lw_at lw_m7 233 rfl) rfl
theorem q1787 : (Jvm.Cond.lays "java/lang/StringIndexOutOfBoundsException" "java/lang/Throwable" "backtrace" "Ljava/lang/Object;") ∈ lw_all := lw_g (lw_at lw_m7 234 rfl) rfl
theorem q1788 : (Jvm.Cond.lays "java/lang/StringIndexOutOfBoundsException" "java/lang/Throwable" "detailMessage" "Ljava/lang/String;") ∈ lw_all := lw_g (lw_at lw_m7 235 rfl) rfl
theorem q1789 : (Jvm.Cond.lays "java/lang/StringIndexOutOfBoundsException" "java/lang/Throwable" "cause" "Ljava/lang/Throwable;") ∈ lw_all := lw_g (lw_at lw_m7 236 rfl) rfl
theorem q1790 : (Jvm.Cond.lays "java/lang/StringIndexOutOfBoundsException" "java/lang/Throwable" "stackTrace" "[Ljava/lang/StackTraceElement;") ∈ lw_all := lw_g (lw_at lw_m7 237 rfl) rfl
theorem q1791 : (Jvm.Cond.lays "java/lang/StringIndexOutOfBoundsException" "java/lang/Throwable" "depth" "I") ∈ lw_all := lw_g (lw_at lw_m7 238 rfl) rfl
theorem q1792 : (Jvm.Cond.lays "java/lang/StringIndexOutOfBoundsException" "java/lang/Throwable" "suppressedExceptions" "Ljava/util/List;") ∈ lw_all := lw_g (lw_at lw_m7 239 rfl) rfl
theorem q1793 : (Jvm.Cond.superclass "java/lang/StringIndexOutOfBoundsException" "java/lang/IndexOutOfBoundsException") ∈ lw_all := lw_g (lw_at lw_m8 0 rfl) rfl
theorem q2773 : (Jvm.Cond.castable "java/lang/StringIndexOutOfBoundsException" "java/lang/IndexOutOfBoundsException") ∈ lw_tbl := lw_at lw_m12 20 rfl
theorem q2805 : (Jvm.Cond.castable "java/lang/StringIndexOutOfBoundsException" "java/lang/Object") ∈ lw_tbl := lw_at lw_m12 52 rfl
theorem in_J38 : ∀ w ∈ wsJ380, w ∈ lw_all := lw_in wsJ380 [1787, 1788, 1789, 1790, 1791, 1792] (by decide +kernel) (by decide +kernel)

/-! java/util/ArrayDeque$DeqIterator -/
set_option maxRecDepth 100000
def RJ39 : String := "java/util/ArrayDeque$DeqIterator"
def TJ39 : u_T := fun k => match k with
  | 0 => ("java/util/ArrayDeque$DeqIterator", "cursor", "I", false)
  | 1 => ("java/util/ArrayDeque$DeqIterator", "remaining", "I", false)
  | 2 => ("java/util/ArrayDeque$DeqIterator", "lastRet", "I", false)
  | _ => ("java/util/ArrayDeque$DeqIterator", "this$0", "Ljava/util/ArrayDeque;", true)
def tyJ39 : Nat → FieldType := fun k => match k with
  | 0 => .int
  | 1 => .int
  | 2 => .int
  | _ => .object "java/util/ArrayDeque"
abbrev wsJ390 : List Cond := u_ws RJ39 TJ39 4
theorem nmJ39 : ∀ a, a < 4 → ∀ b, b < 4 → a ≠ b → (TJ39 a).2.1 ≠ (TJ39 b).2.1 := by decide +kernel
theorem tyJ39_ok : ∀ k, k < 4 → parseFieldDescriptor (TJ39 k).2.2.1 = some (tyJ39 k) := by decide +kernel
abbrev cJ39_hasNext : ByteArray := prog_50_method_2_code
def yJ39_hasNext : MethodName := ⟨RJ39, "hasNext", "()Z"⟩
def dkwJ39_hasNext_0 : List UInt8 := [42, 180, 0, 19, 158, 0, 7, 4, 167, 0, 4, 3, 172]
abbrev dktJ39_hasNext_0 : List UInt8 := dkwJ39_hasNext_0 ++ []
theorem dksJ39_hasNext_0 : cJ39_hasNext.data.toList.drop 0 = dktJ39_hasNext_0 := by decide +kernel
theorem dJ39_hasNext_0 : decode cJ39_hasNext 0 = .ok (.aload_n 0, 1) := dk_42 (dk_at dksJ39_hasNext_0 0 rfl rfl)
theorem dJ39_hasNext_1 : decode cJ39_hasNext 1 = .ok (.getfield 19, 3) := dk_180 0 19 (dk_at dksJ39_hasNext_0 1 rfl rfl)
theorem dJ39_hasNext_4 : decode cJ39_hasNext 4 = .ok (.ifCond .le 7, 3) := dk_158 0 7 (dk_at dksJ39_hasNext_0 4 rfl rfl)
theorem dJ39_hasNext_7 : decode cJ39_hasNext 7 = .ok (.iconst 1, 1) := dk_4 (dk_at dksJ39_hasNext_0 7 rfl rfl)
theorem dJ39_hasNext_8 : decode cJ39_hasNext 8 = .ok (.goto 4, 3) := dk_167 0 4 (dk_at dksJ39_hasNext_0 8 rfl rfl)
theorem dJ39_hasNext_11 : decode cJ39_hasNext 11 = .ok (.iconst 0, 1) := dk_3 (dk_at dksJ39_hasNext_0 11 rfl rfl)
theorem dJ39_hasNext_12 : decode cJ39_hasNext 12 = .ok (.ireturn, 1) := dk_172 (dk_at dksJ39_hasNext_0 12 rfl rfl)
abbrev cJ39_next : ByteArray := prog_50_method_3_code
def yJ39_next : MethodName := ⟨RJ39, "next", "()Ljava/lang/Object;"⟩
def dkwJ39_next_2 : List UInt8 := [181, 0, 29, 42, 89, 180, 0, 19, 4, 100, 181, 0, 19, 44, 176]
abbrev dktJ39_next_2 : List UInt8 := dkwJ39_next_2 ++ []
def dkwJ39_next_1 : List UInt8 := [42, 180, 0, 29, 184, 0, 39, 77, 42, 42, 42, 180, 0, 29, 90, 181, 0, 23, 43, 190, 184, 0, 43]
abbrev dktJ39_next_1 : List UInt8 := dkwJ39_next_1 ++ dktJ39_next_2
def dkwJ39_next_0 : List UInt8 := [42, 180, 0, 19, 157, 0, 11, 187, 0, 32, 89, 183, 0, 34, 191, 42, 180, 0, 1, 180, 0, 35, 76, 43]
abbrev dktJ39_next_0 : List UInt8 := dkwJ39_next_0 ++ dktJ39_next_1
theorem dksJ39_next_0 : cJ39_next.data.toList.drop 0 = dktJ39_next_0 := by decide +kernel
theorem dksJ39_next_1 : cJ39_next.data.toList.drop 24 = dktJ39_next_1 := dk_seg dksJ39_next_0 24 rfl rfl
theorem dksJ39_next_2 : cJ39_next.data.toList.drop 47 = dktJ39_next_2 := dk_seg dksJ39_next_1 23 rfl rfl
theorem dJ39_next_0 : decode cJ39_next 0 = .ok (.aload_n 0, 1) := dk_42 (dk_at dksJ39_next_0 0 rfl rfl)
theorem dJ39_next_1 : decode cJ39_next 1 = .ok (.getfield 19, 3) := dk_180 0 19 (dk_at dksJ39_next_0 1 rfl rfl)
theorem dJ39_next_4 : decode cJ39_next 4 = .ok (.ifCond .gt 11, 3) := dk_157 0 11 (dk_at dksJ39_next_0 4 rfl rfl)
theorem dJ39_next_7 : decode cJ39_next 7 = .ok (.new 32, 3) := dk_187 0 32 (dk_at dksJ39_next_0 7 rfl rfl)
theorem dJ39_next_10 : decode cJ39_next 10 = .ok (.dup, 1) := dk_89 (dk_at dksJ39_next_0 10 rfl rfl)
theorem dJ39_next_11 : decode cJ39_next 11 = .ok (.invokespecial 34, 3) := dk_183 0 34 (dk_at dksJ39_next_0 11 rfl rfl)
theorem dJ39_next_14 : decode cJ39_next 14 = .ok (.athrow, 1) := dk_191 (dk_at dksJ39_next_0 14 rfl rfl)
theorem dJ39_next_15 : decode cJ39_next 15 = .ok (.aload_n 0, 1) := dk_42 (dk_at dksJ39_next_0 15 rfl rfl)
theorem dJ39_next_16 : decode cJ39_next 16 = .ok (.getfield 1, 3) := dk_180 0 1 (dk_at dksJ39_next_0 16 rfl rfl)
theorem dJ39_next_19 : decode cJ39_next 19 = .ok (.getfield 35, 3) := dk_180 0 35 (dk_at dksJ39_next_0 19 rfl rfl)
theorem dJ39_next_22 : decode cJ39_next 22 = .ok (.astore_n 1, 1) := dk_76 (dk_at dksJ39_next_0 22 rfl rfl)
theorem dJ39_next_23 : decode cJ39_next 23 = .ok (.aload_n 1, 1) := dk_43 (dk_at dksJ39_next_0 23 rfl rfl)
theorem dJ39_next_24 : decode cJ39_next 24 = .ok (.aload_n 0, 1) := dk_42 (dk_at dksJ39_next_1 0 rfl rfl)
theorem dJ39_next_25 : decode cJ39_next 25 = .ok (.getfield 29, 3) := dk_180 0 29 (dk_at dksJ39_next_1 1 rfl rfl)
theorem dJ39_next_28 : decode cJ39_next 28 = .ok (.invokestatic 39, 3) := dk_184 0 39 (dk_at dksJ39_next_1 4 rfl rfl)
theorem dJ39_next_31 : decode cJ39_next 31 = .ok (.astore_n 2, 1) := dk_77 (dk_at dksJ39_next_1 7 rfl rfl)
theorem dJ39_next_32 : decode cJ39_next 32 = .ok (.aload_n 0, 1) := dk_42 (dk_at dksJ39_next_1 8 rfl rfl)
theorem dJ39_next_33 : decode cJ39_next 33 = .ok (.aload_n 0, 1) := dk_42 (dk_at dksJ39_next_1 9 rfl rfl)
theorem dJ39_next_34 : decode cJ39_next 34 = .ok (.aload_n 0, 1) := dk_42 (dk_at dksJ39_next_1 10 rfl rfl)
theorem dJ39_next_35 : decode cJ39_next 35 = .ok (.getfield 29, 3) := dk_180 0 29 (dk_at dksJ39_next_1 11 rfl rfl)
theorem dJ39_next_38 : decode cJ39_next 38 = .ok (.dup_x1, 1) := dk_90 (dk_at dksJ39_next_1 14 rfl rfl)
theorem dJ39_next_39 : decode cJ39_next 39 = .ok (.putfield 23, 3) := dk_181 0 23 (dk_at dksJ39_next_1 15 rfl rfl)
theorem dJ39_next_42 : decode cJ39_next 42 = .ok (.aload_n 1, 1) := dk_43 (dk_at dksJ39_next_1 18 rfl rfl)
theorem dJ39_next_43 : decode cJ39_next 43 = .ok (.arraylength, 1) := dk_190 (dk_at dksJ39_next_1 19 rfl rfl)
theorem dJ39_next_44 : decode cJ39_next 44 = .ok (.invokestatic 43, 3) := dk_184 0 43 (dk_at dksJ39_next_1 20 rfl rfl)
theorem dJ39_next_47 : decode cJ39_next 47 = .ok (.putfield 29, 3) := dk_181 0 29 (dk_at dksJ39_next_2 0 rfl rfl)
theorem dJ39_next_50 : decode cJ39_next 50 = .ok (.aload_n 0, 1) := dk_42 (dk_at dksJ39_next_2 3 rfl rfl)
theorem dJ39_next_51 : decode cJ39_next 51 = .ok (.dup, 1) := dk_89 (dk_at dksJ39_next_2 4 rfl rfl)
theorem dJ39_next_52 : decode cJ39_next 52 = .ok (.getfield 19, 3) := dk_180 0 19 (dk_at dksJ39_next_2 5 rfl rfl)
theorem dJ39_next_55 : decode cJ39_next 55 = .ok (.iconst 1, 1) := dk_4 (dk_at dksJ39_next_2 8 rfl rfl)
theorem dJ39_next_56 : decode cJ39_next 56 = .ok (.isub, 1) := dk_100 (dk_at dksJ39_next_2 9 rfl rfl)
theorem dJ39_next_57 : decode cJ39_next 57 = .ok (.putfield 19, 3) := dk_181 0 19 (dk_at dksJ39_next_2 10 rfl rfl)
theorem dJ39_next_60 : decode cJ39_next 60 = .ok (.aload_n 2, 1) := dk_44 (dk_at dksJ39_next_2 13 rfl rfl)
theorem dJ39_next_61 : decode cJ39_next 61 = .ok (.areturn, 1) := dk_176 (dk_at dksJ39_next_2 14 rfl rfl)
abbrev cJ39_init : ByteArray := prog_50_method_1_code
def yJ39_init : MethodName := ⟨RJ39, "<init>", "(Ljava/util/ArrayDeque;)V"⟩
def dkwJ39_init_1 : List UInt8 := [181, 0, 23, 42, 43, 180, 0, 26, 181, 0, 29, 177]
abbrev dktJ39_init_1 : List UInt8 := dkwJ39_init_1 ++ []
def dkwJ39_init_0 : List UInt8 := [42, 43, 181, 0, 1, 42, 183, 0, 7, 42, 42, 180, 0, 1, 182, 0, 13, 181, 0, 19, 42, 2]
abbrev dktJ39_init_0 : List UInt8 := dkwJ39_init_0 ++ dktJ39_init_1
theorem dksJ39_init_0 : cJ39_init.data.toList.drop 0 = dktJ39_init_0 := by decide +kernel
theorem dksJ39_init_1 : cJ39_init.data.toList.drop 22 = dktJ39_init_1 := dk_seg dksJ39_init_0 22 rfl rfl
theorem dJ39_init_0 : decode cJ39_init 0 = .ok (.aload_n 0, 1) := dk_42 (dk_at dksJ39_init_0 0 rfl rfl)
theorem dJ39_init_1 : decode cJ39_init 1 = .ok (.aload_n 1, 1) := dk_43 (dk_at dksJ39_init_0 1 rfl rfl)
theorem dJ39_init_2 : decode cJ39_init 2 = .ok (.putfield 1, 3) := dk_181 0 1 (dk_at dksJ39_init_0 2 rfl rfl)
theorem dJ39_init_5 : decode cJ39_init 5 = .ok (.aload_n 0, 1) := dk_42 (dk_at dksJ39_init_0 5 rfl rfl)
theorem dJ39_init_6 : decode cJ39_init 6 = .ok (.invokespecial 7, 3) := dk_183 0 7 (dk_at dksJ39_init_0 6 rfl rfl)
theorem dJ39_init_9 : decode cJ39_init 9 = .ok (.aload_n 0, 1) := dk_42 (dk_at dksJ39_init_0 9 rfl rfl)
theorem dJ39_init_10 : decode cJ39_init 10 = .ok (.aload_n 0, 1) := dk_42 (dk_at dksJ39_init_0 10 rfl rfl)
theorem dJ39_init_11 : decode cJ39_init 11 = .ok (.getfield 1, 3) := dk_180 0 1 (dk_at dksJ39_init_0 11 rfl rfl)
theorem dJ39_init_14 : decode cJ39_init 14 = .ok (.invokevirtual 13, 3) := dk_182 0 13 (dk_at dksJ39_init_0 14 rfl rfl)
theorem dJ39_init_17 : decode cJ39_init 17 = .ok (.putfield 19, 3) := dk_181 0 19 (dk_at dksJ39_init_0 17 rfl rfl)
theorem dJ39_init_20 : decode cJ39_init 20 = .ok (.aload_n 0, 1) := dk_42 (dk_at dksJ39_init_0 20 rfl rfl)
theorem dJ39_init_21 : decode cJ39_init 21 = .ok (.iconst (-1), 1) := dk_2 (dk_at dksJ39_init_0 21 rfl rfl)
theorem dJ39_init_22 : decode cJ39_init 22 = .ok (.putfield 23, 3) := dk_181 0 23 (dk_at dksJ39_init_1 0 rfl rfl)
theorem dJ39_init_25 : decode cJ39_init 25 = .ok (.aload_n 0, 1) := dk_42 (dk_at dksJ39_init_1 3 rfl rfl)
theorem dJ39_init_26 : decode cJ39_init 26 = .ok (.aload_n 1, 1) := dk_43 (dk_at dksJ39_init_1 4 rfl rfl)
theorem dJ39_init_27 : decode cJ39_init 27 = .ok (.getfield 26, 3) := dk_180 0 26 (dk_at dksJ39_init_1 5 rfl rfl)
theorem dJ39_init_30 : decode cJ39_init 30 = .ok (.putfield 29, 3) := dk_181 0 29 (dk_at dksJ39_init_1 8 rfl rfl)
theorem dJ39_init_33 : decode cJ39_init 33 = .ok (.return_, 1) := dk_177 (dk_at dksJ39_init_1 11 rfl rfl)
theorem q168 : (Jvm.Cond.initialized "java/util/ArrayDeque$DeqIterator") ∈ lw_all := lw_g (lw_at lw_m1 55 rfl) rfl
theorem q239 : (Jvm.Cond.selects "java/util/ArrayDeque$DeqIterator" ({ cls := "java/lang/Object", name := "getClass", desc := "()Ljava/lang/Class;" } : Jvm.MethodName) ({ cls := "java/lang/Object", name := "getClass", desc := "()Ljava/lang/Class;" } : Jvm.MethodName)) ∈ lw_all := lw_g (lw_at lw_m1 126 rfl) rfl
theorem q1453 : (Jvm.Cond.castable "java/util/ArrayDeque$DeqIterator" "java/util/Iterator") ∈ lw_tbl := lw_at lw_m6 140 rfl
theorem q1454 : (Jvm.Cond.selects "java/util/ArrayDeque$DeqIterator" ({ cls := "java/util/Iterator", name := "hasNext", desc := "()Z" } : Jvm.MethodName) ({ cls := "java/util/ArrayDeque$DeqIterator", name := "hasNext", desc := "()Z" } : Jvm.MethodName)) ∈ lw_all := lw_g (lw_at lw_m6 141 rfl) rfl
theorem q1455 : (Jvm.Cond.unhidden "java/util/ArrayDeque$DeqIterator" "hasNext" "()Z") ∈ lw_tbl := lw_at lw_m6 142 rfl
theorem q1456 : (Jvm.Cond.instanceMethod ({ cls := "java/util/ArrayDeque$DeqIterator", name := "hasNext", desc := "()Z" } : Jvm.MethodName)) ∈ lw_all := lw_g (lw_at lw_m6 143 rfl) rfl
theorem q1457 : (Jvm.Cond.publicMethod ({ cls := "java/util/ArrayDeque$DeqIterator", name := "hasNext", desc := "()Z" } : Jvm.MethodName)) ∈ lw_tbl := lw_at lw_m6 144 rfl
theorem q1458 : (Jvm.Cond.code ({ cls := "java/util/ArrayDeque$DeqIterator", name := "hasNext", desc := "()Z" } : Jvm.MethodName) prog_50_method_2_code (1 : Nat) (Option.some Jvm.ClassFile.FieldType.boolean)) ∈ lw_all := lw_g (lw_at lw_m6 145 rfl) rfl
theorem q1560 : (Jvm.Cond.selects "java/util/ArrayDeque$DeqIterator" ({ cls := "java/util/Iterator", name := "next", desc := "()Ljava/lang/Object;" } : Jvm.MethodName) ({ cls := "java/util/ArrayDeque$DeqIterator", name := "next", desc := "()Ljava/lang/Object;" } : Jvm.MethodName)) ∈ lw_all := lw_g (lw_at lw_m7 7 rfl) rfl
theorem q1561 : (Jvm.Cond.unhidden "java/util/ArrayDeque$DeqIterator" "next" "()Ljava/lang/Object;") ∈ lw_tbl := lw_at lw_m7 8 rfl
theorem q1562 : (Jvm.Cond.instanceMethod ({ cls := "java/util/ArrayDeque$DeqIterator", name := "next", desc := "()Ljava/lang/Object;" } : Jvm.MethodName)) ∈ lw_all := lw_g (lw_at lw_m7 9 rfl) rfl
theorem q1563 : (Jvm.Cond.publicMethod ({ cls := "java/util/ArrayDeque$DeqIterator", name := "next", desc := "()Ljava/lang/Object;" } : Jvm.MethodName)) ∈ lw_tbl := lw_at lw_m7 10 rfl
theorem q1564 : (Jvm.Cond.code ({ cls := "java/util/ArrayDeque$DeqIterator", name := "next", desc := "()Ljava/lang/Object;" } : Jvm.MethodName) prog_50_method_3_code (3 : Nat) (Option.some (Jvm.ClassFile.FieldType.object "java/lang/Object"))) ∈ lw_all := lw_g (lw_at lw_m7 11 rfl) rfl
theorem q1565 : (Jvm.Cond.classLink "java/util/ArrayDeque$DeqIterator" (32 : Nat) "java/util/NoSuchElementException") ∈ lw_all := lw_g (lw_at lw_m7 12 rfl) rfl
theorem q1566 : (Jvm.Cond.methodLink "java/util/ArrayDeque$DeqIterator" (34 : Nat) ({ cls := "java/util/NoSuchElementException", name := "<init>", desc := "()V" } : Jvm.MethodName)) ∈ lw_all := lw_g (lw_at lw_m7 13 rfl) rfl
theorem q1570 : (Jvm.Cond.methodLink "java/util/ArrayDeque$DeqIterator" (39 : Nat) ({ cls := "java/util/ArrayDeque", name := "nonNullElementAt", desc := "([Ljava/lang/Object;I)Ljava/lang/Object;" } : Jvm.MethodName)) ∈ lw_all := lw_g (lw_at lw_m7 17 rfl) rfl
theorem q1573 : (Jvm.Cond.methodLink "java/util/ArrayDeque$DeqIterator" (43 : Nat) ({ cls := "java/util/ArrayDeque", name := "inc", desc := "(II)I" } : Jvm.MethodName)) ∈ lw_all := lw_g (lw_at lw_m7 20 rfl) rfl
theorem q2004 : (Jvm.Cond.fieldLink "java/util/ArrayDeque$DeqIterator" (35 : Nat) "java/util/ArrayDeque" "elements" "[Ljava/lang/Object;") ∈ lw_all := lw_g (lw_at lw_m8 211 rfl) rfl
theorem q2005 : (Jvm.Cond.fieldLink "java/util/ArrayDeque$DeqIterator" (26 : Nat) "java/util/ArrayDeque" "head" "I") ∈ lw_all := lw_g (lw_at lw_m8 212 rfl) rfl
theorem q2070 : (Jvm.Cond.instantiable "java/util/ArrayDeque$DeqIterator" (4 : Nat)) ∈ lw_all := lw_g (lw_at lw_m9 37 rfl) rfl
theorem q2072 : (Jvm.Cond.instanceMethod ({ cls := "java/util/ArrayDeque$DeqIterator", name := "<init>", desc := "(Ljava/util/ArrayDeque;)V" } : Jvm.MethodName)) ∈ lw_all := lw_g (lw_at lw_m9 39 rfl) rfl
theorem q2073 : (Jvm.Cond.code ({ cls := "java/util/ArrayDeque$DeqIterator", name := "<init>", desc := "(Ljava/util/ArrayDeque;)V" } : Jvm.MethodName) prog_50_method_1_code (2 : Nat) (Option.none : Option Jvm.ClassFile.FieldType)) ∈ lw_all := lw_g (lw_at lw_m9 40 rfl) rfl
theorem q2074 : (Jvm.Cond.methodLink "java/util/ArrayDeque$DeqIterator" (7 : Nat) ({ cls := "java/lang/Object", name := "<init>", desc := "()V" } : Jvm.MethodName)) ∈ lw_all := lw_g (lw_at lw_m9 41 rfl) rfl
theorem q2075 : (Jvm.Cond.methodLink "java/util/ArrayDeque$DeqIterator" (13 : Nat) ({ cls := "java/util/ArrayDeque", name := "size", desc := "()I" } : Jvm.MethodName)) ∈ lw_all := lw_g (lw_at lw_m9 42 rfl) rfl
theorem q2082 : (Jvm.Cond.fieldLink "java/util/ArrayDeque$DeqIterator" (29 : Nat) "java/util/ArrayDeque$DeqIterator" "cursor" "I") ∈ lw_all := lw_g (lw_at lw_m9 49 rfl) rfl
theorem q2083 : (Jvm.Cond.fieldLink "java/util/ArrayDeque$DeqIterator" (19 : Nat) "java/util/ArrayDeque$DeqIterator" "remaining" "I") ∈ lw_all := lw_g (lw_at lw_m9 50 rfl) rfl
theorem q2084 : (Jvm.Cond.fieldLink "java/util/ArrayDeque$DeqIterator" (23 : Nat) "java/util/ArrayDeque$DeqIterator" "lastRet" "I") ∈ lw_all := lw_g (lw_at lw_m9 51 rfl) rfl
theorem q2085 : (Jvm.Cond.fieldLink "java/util/ArrayDeque$DeqIterator" (1 : Nat) "java/util/ArrayDeque$DeqIterator" "this$0" "Ljava/util/ArrayDeque;") ∈ lw_all := lw_g (lw_at lw_m9 52 rfl) rfl
theorem q2086 : (Jvm.Cond.lays "java/util/ArrayDeque$DeqIterator" "java/util/ArrayDeque$DeqIterator" "cursor" "I") ∈ lw_all := lw_g (lw_at lw_m9 53 rfl) rfl
theorem q2087 : (Jvm.Cond.soleField "java/util/ArrayDeque$DeqIterator" "cursor") ∈ lw_all := lw_g (lw_at lw_m9 54 rfl) rfl
theorem q2088 : (Jvm.Cond.lays "java/util/ArrayDeque$DeqIterator" "java/util/ArrayDeque$DeqIterator" "remaining" "I") ∈ lw_all := lw_g (lw_at lw_m9 55 rfl) rfl
theorem q2089 : (Jvm.Cond.soleField "java/util/ArrayDeque$DeqIterator" "remaining") ∈ lw_all := lw_g (lw_at lw_m9 56 rfl) rfl
theorem q2090 : (Jvm.Cond.lays "java/util/ArrayDeque$DeqIterator" "java/util/ArrayDeque$DeqIterator" "lastRet" "I") ∈ lw_all := lw_g (lw_at lw_m9 57 rfl) rfl
theorem q2091 : (Jvm.Cond.soleField "java/util/ArrayDeque$DeqIterator" "lastRet") ∈ lw_all := lw_g (lw_at lw_m9 58 rfl) rfl
theorem q2092 : (Jvm.Cond.laysFinal "java/util/ArrayDeque$DeqIterator" "java/util/ArrayDeque$DeqIterator" "this$0" "Ljava/util/ArrayDeque;") ∈ lw_all := lw_g (lw_at lw_m9 59 rfl) rfl
theorem q2093 : (Jvm.Cond.soleField "java/util/ArrayDeque$DeqIterator" "this$0") ∈ lw_all := lw_g (lw_at lw_m9 60 rfl) rfl
theorem q2094 : (Jvm.Cond.superclass "java/util/ArrayDeque$DeqIterator" "java/lang/Object") ∈ lw_all := lw_g (lw_at lw_m9 61 rfl) rfl
theorem q2808 : (Jvm.Cond.castable "java/util/ArrayDeque$DeqIterator" "java/lang/Object") ∈ lw_tbl := lw_at lw_m12 55 rfl
theorem in_J39 : ∀ w ∈ wsJ390, w ∈ lw_all := lw_in wsJ390 [2086, 2088, 2090, 2092] (by decide +kernel) (by decide +kernel)

/-! java/lang/ArithmeticException -/
set_option maxRecDepth 100000
def RJ40 : String := "java/lang/ArithmeticException"
def TJ40 : u_T := fun k => match k with
  | 0 => ("java/lang/Throwable", "backtrace", "Ljava/lang/Object;", false)
  | 1 => ("java/lang/Throwable", "detailMessage", "Ljava/lang/String;", false)
  | 2 => ("java/lang/Throwable", "cause", "Ljava/lang/Throwable;", false)
  | 3 => ("java/lang/Throwable", "stackTrace", "[Ljava/lang/StackTraceElement;", false)
  | 4 => ("java/lang/Throwable", "depth", "I", false)
  | _ => ("java/lang/Throwable", "suppressedExceptions", "Ljava/util/List;", false)
def tyJ40 : Nat → FieldType := fun k => match k with
  | 0 => .object "java/lang/Object"
  | 1 => .object "java/lang/String"
  | 2 => .object "java/lang/Throwable"
  | 3 => .array (.object "java/lang/StackTraceElement")
  | 4 => .int
  | _ => .object "java/util/List"
abbrev wsJ400 : List Cond := u_ws RJ40 TJ40 6
theorem nmJ40 : ∀ a, a < 6 → ∀ b, b < 6 → a ≠ b → (TJ40 a).2.1 ≠ (TJ40 b).2.1 := by decide +kernel
theorem tyJ40_ok : ∀ k, k < 6 → parseFieldDescriptor (TJ40 k).2.2.1 = some (tyJ40 k) := by decide +kernel
abbrev cJ40_init : ByteArray := prog_17_method_2_code
def yJ40_init : MethodName := ⟨RJ40, "<init>", "(Ljava/lang/String;)V"⟩
def dkwJ40_init_0 : List UInt8 := [42, 43, 183, 0, 7, 177]
abbrev dktJ40_init_0 : List UInt8 := dkwJ40_init_0 ++ []
theorem dksJ40_init_0 : cJ40_init.data.toList.drop 0 = dktJ40_init_0 := by decide +kernel
theorem dJ40_init_0 : decode cJ40_init 0 = .ok (.aload_n 0, 1) := dk_42 (dk_at dksJ40_init_0 0 rfl rfl)
theorem dJ40_init_1 : decode cJ40_init 1 = .ok (.aload_n 1, 1) := dk_43 (dk_at dksJ40_init_0 1 rfl rfl)
theorem dJ40_init_2 : decode cJ40_init 2 = .ok (.invokespecial 7, 3) := dk_183 0 7 (dk_at dksJ40_init_0 2 rfl rfl)
theorem dJ40_init_5 : decode cJ40_init 5 = .ok (.return_, 1) := dk_177 (dk_at dksJ40_init_0 5 rfl rfl)
abbrev cJ40_init_2 : ByteArray := prog_17_method_1_code
def yJ40_init_2 : MethodName := ⟨RJ40, "<init>", "()V"⟩
theorem dJ40_init_2_0 : decode cJ40_init_2 0 = .ok (.aload_n 0, 1) := by decide +kernel
theorem dJ40_init_2_1 : decode cJ40_init_2 1 = .ok (.invokespecial 1, 3) := by decide +kernel
theorem dJ40_init_2_4 : decode cJ40_init_2 4 = .ok (.return_, 1) := by decide +kernel
theorem q169 : (Jvm.Cond.initialized "java/lang/ArithmeticException") ∈ lw_all := lw_g (lw_at lw_m1 56 rfl) rfl
theorem q226 : (Jvm.Cond.selects "java/lang/ArithmeticException" ({ cls := "java/lang/Object", name := "getClass", desc := "()Ljava/lang/Class;" } : Jvm.MethodName) ({ cls := "java/lang/Object", name := "getClass", desc := "()Ljava/lang/Class;" } : Jvm.MethodName)) ∈ lw_all := lw_g (lw_at lw_m1 113 rfl) rfl
theorem q664 : (Jvm.Cond.selects "java/lang/ArithmeticException" ({ cls := "java/lang/Throwable", name := "fillInStackTrace", desc := "()Ljava/lang/Throwable;" } : Jvm.MethodName) ({ cls := "java/lang/Throwable", name := "fillInStackTrace", desc := "()Ljava/lang/Throwable;" } : Jvm.MethodName)) ∈ lw_all := lw_g (lw_at lw_m3 71 rfl) rfl
theorem q1515 : (Jvm.Cond.selects "java/lang/ArithmeticException" ({ cls := "java/lang/Throwable", name := "toString", desc := "()Ljava/lang/String;" } : Jvm.MethodName) ({ cls := "java/lang/Throwable", name := "toString", desc := "()Ljava/lang/String;" } : Jvm.MethodName)) ∈ lw_all := lw_g (lw_at lw_m6 202 rfl) rfl
theorem q1530 : (Jvm.Cond.selects "java/lang/ArithmeticException" ({ cls := "java/lang/Throwable", name := "getLocalizedMessage", desc := "()Ljava/lang/String;" } : Jvm.MethodName) ({ cls := "java/lang/Throwable", name := "getLocalizedMessage", desc := "()Ljava/lang/String;" } : Jvm.MethodName)) ∈ lw_all := lw_g (lw_at lw_m6 217 rfl) rfl
theorem q1544 : (Jvm.Cond.selects "java/lang/ArithmeticException" ({ cls := "java/lang/Throwable", name := "getMessage", desc := "()Ljava/lang/String;" } : Jvm.MethodName) ({ cls := "java/lang/Throwable", name := "getMessage", desc := "()Ljava/lang/String;" } : Jvm.MethodName)) ∈ lw_all := lw_g (lw_at lw_m6 231 rfl) rfl
theorem q2179 : (Jvm.Cond.instantiable "java/lang/ArithmeticException" (6 : Nat)) ∈ lw_all := lw_g (lw_at lw_m9 146 rfl) rfl
theorem q2180 : (Jvm.Cond.instanceMethod ({ cls := "java/lang/ArithmeticException", name := "<init>", desc := "(Ljava/lang/String;)V" } : Jvm.MethodName)) ∈ lw_all := lw_g (lw_at lw_m9 147 rfl) rfl
theorem q2181 : (Jvm.Cond.code ({ cls := "java/lang/ArithmeticException", name := "<init>", desc := "(Ljava/lang/String;)V" } : Jvm.MethodName) prog_17_method_2_code (2 : Nat) (Option.none : Option Jvm.ClassFile.FieldType)) ∈ lw_all := lw_g (lw_at lw_m9 148 rfl) rfl
theorem q2182 : (Jvm.Cond.methodLink "java/lang/ArithmeticException" (7 : Nat) ({ cls := "java/lang/RuntimeException", name := "<init>", desc := "(Ljava/lang/String;)V" } : Jvm.MethodName)) ∈ lw_all := lw_g (lw_at lw_m9 149 rfl) rfl
theorem q2183 : (Jvm.Cond.lays "java/lang/ArithmeticException" "java/lang/Throwable" "backtrace" "Ljava/lang/Object;") ∈ lw_all := lw_g (lw_at lw_m9 150 rfl) rfl
theorem q2184 : (Jvm.Cond.lays "java/lang/ArithmeticException" "java/lang/Throwable" "detailMessage" "Ljava/lang/String;") ∈ lw_all := lw_g (lw_at lw_m9 151 rfl) rfl
theorem q2185 : (Jvm.Cond.lays "java/lang/ArithmeticException" "java/lang/Throwable" "cause" "Ljava/lang/Throwable;") ∈ lw_all := lw_g (lw_at lw_m9 152 rfl) rfl
theorem q2186 : (Jvm.Cond.lays "java/lang/ArithmeticException" "java/lang/Throwable" "stackTrace" "[Ljava/lang/StackTraceElement;") ∈ lw_all := lw_g (lw_at lw_m9 153 rfl) rfl
theorem q2187 : (Jvm.Cond.lays "java/lang/ArithmeticException" "java/lang/Throwable" "depth" "I") ∈ lw_all := lw_g (lw_at lw_m9 154 rfl) rfl
theorem q2188 : (Jvm.Cond.lays "java/lang/ArithmeticException" "java/lang/Throwable" "suppressedExceptions" "Ljava/util/List;") ∈ lw_all := lw_g (lw_at lw_m9 155 rfl) rfl
theorem q2189 : (Jvm.Cond.superclass "java/lang/ArithmeticException" "java/lang/RuntimeException") ∈ lw_all := lw_g (lw_at lw_m9 156 rfl) rfl
theorem q2190 : (Jvm.Cond.castable "java/lang/ArithmeticException" "java/lang/ArithmeticException") ∈ lw_tbl := lw_at lw_m9 157 rfl
theorem q2191 : (Jvm.Cond.selects "java/lang/ArithmeticException" ({ cls := "java/lang/Throwable", name := "fillInStackTrace", desc := "(I)Ljava/lang/Throwable;" } : Jvm.MethodName) ({ cls := "java/lang/Throwable", name := "fillInStackTrace", desc := "(I)Ljava/lang/Throwable;" } : Jvm.MethodName)) ∈ lw_all := lw_g (lw_at lw_m9 158 rfl) rfl
theorem q2198 : (Jvm.Cond.instanceMethod ({ cls := "java/lang/ArithmeticException", name := "<init>", desc := "()V" } : Jvm.MethodName)) ∈ lw_all := lw_g (lw_at lw_m9 165 rfl) rfl
theorem q2199 : (Jvm.Cond.code ({ cls := "java/lang/ArithmeticException", name := "<init>", desc := "()V" } : Jvm.MethodName) prog_17_method_1_code (1 : Nat) (Option.none : Option Jvm.ClassFile.FieldType)) ∈ lw_all := lw_g (lw_at lw_m9 166 rfl) rfl
theorem q2200 : (Jvm.Cond.methodLink "java/lang/ArithmeticException" (1 : Nat) ({ cls := "java/lang/RuntimeException", name := "<init>", desc := "()V" } : Jvm.MethodName)) ∈ lw_all := lw_g (lw_at lw_m9 167 rfl) rfl
theorem q2809 : (Jvm.Cond.castable "java/lang/ArithmeticException" "java/lang/Object") ∈ lw_tbl := lw_at lw_m12 56 rfl
theorem in_J40 : ∀ w ∈ wsJ400, w ∈ lw_all := lw_in wsJ400 [2183, 2184, 2185, 2186, 2187, 2188] (by decide +kernel) (by decide +kernel)

/-! java/lang/Object -/
set_option maxRecDepth 100000
def RJ41 : String := "java/lang/Object"
abbrev cJ41_init : ByteArray := object_method_1_code
def yJ41_init : MethodName := ⟨RJ41, "<init>", "()V"⟩
theorem dJ41_init_0 : decode cJ41_init 0 = .ok (.return_, 1) := by decide +kernel
theorem q176 : (Jvm.Cond.instanceMethod ({ cls := "java/lang/Object", name := "<init>", desc := "()V" } : Jvm.MethodName)) ∈ lw_all := lw_g (lw_at lw_m1 63 rfl) rfl
theorem q177 : (Jvm.Cond.code ({ cls := "java/lang/Object", name := "<init>", desc := "()V" } : Jvm.MethodName) object_method_1_code (1 : Nat) (Option.none : Option Jvm.ClassFile.FieldType)) ∈ lw_all := lw_g (lw_at lw_m1 64 rfl) rfl
theorem q213 : (Jvm.Cond.instanceMethod ({ cls := "java/lang/Object", name := "getClass", desc := "()Ljava/lang/Class;" } : Jvm.MethodName)) ∈ lw_all := lw_g (lw_at lw_m1 100 rfl) rfl
theorem q214 : (Jvm.Cond.sameMethod "java/lang/Object" "java/lang/Object" "getClass" "()Ljava/lang/Class;") ∈ lw_all := lw_g (lw_at lw_m1 101 rfl) rfl
theorem q248 : (Jvm.Cond.native ({ cls := "java/lang/Object", name := "getClass", desc := "()Ljava/lang/Class;" } : Jvm.MethodName)) ∈ lw_all := lw_g (lw_at lw_m1 135 rfl) rfl
theorem q593 : (Jvm.Cond.native ({ cls := "java/lang/Object", name := "clone", desc := "()Ljava/lang/Object;" } : Jvm.MethodName)) ∈ lw_all := lw_g (lw_at lw_m3 0 rfl) rfl
theorem q594 : (Jvm.Cond.instanceMethod ({ cls := "java/lang/Object", name := "clone", desc := "()Ljava/lang/Object;" } : Jvm.MethodName)) ∈ lw_all := lw_g (lw_at lw_m3 1 rfl) rfl
theorem q2771 : (Jvm.Cond.initialized "java/lang/Object") ∈ lw_all := lw_g (lw_at lw_m12 18 rfl) rfl
theorem q2813 : (Jvm.Cond.declares ({ cls := "java/lang/Object", name := "getClass", desc := "()Ljava/lang/Class;" } : Jvm.MethodName)) ∈ lw_tbl := lw_at lw_m12 60 rfl

/-! java/lang/System$2 -/
set_option maxRecDepth 100000
def RJ42 : String := "java/lang/System$2"
abbrev cJ42_getUTF16Char : ByteArray := prog_39_method_45_code
def yJ42_getUTF16Char : MethodName := ⟨RJ42, "getUTF16Char", "([BI)C"⟩
def dkwJ42_getUTF16Char_0 : List UInt8 := [43, 28, 184, 0, 185, 172]
abbrev dktJ42_getUTF16Char_0 : List UInt8 := dkwJ42_getUTF16Char_0 ++ []
theorem dksJ42_getUTF16Char_0 : cJ42_getUTF16Char.data.toList.drop 0 = dktJ42_getUTF16Char_0 := by decide +kernel
theorem dJ42_getUTF16Char_0 : decode cJ42_getUTF16Char 0 = .ok (.aload_n 1, 1) := dk_43 (dk_at dksJ42_getUTF16Char_0 0 rfl rfl)
theorem dJ42_getUTF16Char_1 : decode cJ42_getUTF16Char 1 = .ok (.iload_n 2, 1) := dk_28 (dk_at dksJ42_getUTF16Char_0 1 rfl rfl)
theorem dJ42_getUTF16Char_2 : decode cJ42_getUTF16Char 2 = .ok (.invokestatic 185, 3) := dk_184 0 185 (dk_at dksJ42_getUTF16Char_0 2 rfl rfl)
theorem dJ42_getUTF16Char_5 : decode cJ42_getUTF16Char 5 = .ok (.ireturn, 1) := dk_172 (dk_at dksJ42_getUTF16Char_0 5 rfl rfl)
theorem q235 : (Jvm.Cond.selects "java/lang/System$2" ({ cls := "java/lang/Object", name := "getClass", desc := "()Ljava/lang/Class;" } : Jvm.MethodName) ({ cls := "java/lang/Object", name := "getClass", desc := "()Ljava/lang/Class;" } : Jvm.MethodName)) ∈ lw_all := lw_g (lw_at lw_m1 122 rfl) rfl
theorem q1666 : (Jvm.Cond.castable "java/lang/System$2" "jdk/internal/access/JavaLangAccess") ∈ lw_tbl := lw_at lw_m7 113 rfl
theorem q1667 : (Jvm.Cond.selects "java/lang/System$2" ({ cls := "jdk/internal/access/JavaLangAccess", name := "getUTF16Char", desc := "([BI)C" } : Jvm.MethodName) ({ cls := "java/lang/System$2", name := "getUTF16Char", desc := "([BI)C" } : Jvm.MethodName)) ∈ lw_all := lw_g (lw_at lw_m7 114 rfl) rfl
theorem q1668 : (Jvm.Cond.unhidden "java/lang/System$2" "getUTF16Char" "([BI)C") ∈ lw_tbl := lw_at lw_m7 115 rfl
theorem q1669 : (Jvm.Cond.instanceMethod ({ cls := "java/lang/System$2", name := "getUTF16Char", desc := "([BI)C" } : Jvm.MethodName)) ∈ lw_all := lw_g (lw_at lw_m7 116 rfl) rfl
theorem q1670 : (Jvm.Cond.publicMethod ({ cls := "java/lang/System$2", name := "getUTF16Char", desc := "([BI)C" } : Jvm.MethodName)) ∈ lw_tbl := lw_at lw_m7 117 rfl
theorem q1671 : (Jvm.Cond.code ({ cls := "java/lang/System$2", name := "getUTF16Char", desc := "([BI)C" } : Jvm.MethodName) prog_39_method_45_code (3 : Nat) (Option.some Jvm.ClassFile.FieldType.char)) ∈ lw_all := lw_g (lw_at lw_m7 118 rfl) rfl
theorem q1672 : (Jvm.Cond.methodLink "java/lang/System$2" (185 : Nat) ({ cls := "java/lang/StringUTF16", name := "getChar", desc := "([BI)C" } : Jvm.MethodName)) ∈ lw_all := lw_g (lw_at lw_m7 119 rfl) rfl
theorem q2802 : (Jvm.Cond.castable "java/lang/System$2" "java/lang/Object") ∈ lw_tbl := lw_at lw_m12 49 rfl

theorem q750 : (Jvm.Cond.sameMethod "[B" "java/lang/Object" "clone" "()Ljava/lang/Object;") ∈ lw_all := lw_g (lw_at lw_m3 157 rfl) rfl
set_option maxRecDepth 100000
theorem q751 : (Jvm.Cond.selects "[B" ({ cls := "[B", name := "clone", desc := "()Ljava/lang/Object;" } : Jvm.MethodName) ({ cls := "java/lang/Object", name := "clone", desc := "()Ljava/lang/Object;" } : Jvm.MethodName)) ∈ lw_all := lw_g (lw_at lw_m3 158 rfl) rfl
theorem q752 : (Jvm.Cond.castable "[B" "java/lang/Cloneable") ∈ lw_tbl := lw_at lw_m3 159 rfl
theorem q2816 : (Jvm.Cond.castable "[B" "java/lang/Object") ∈ lw_tbl := lw_at lw_m12 63 rfl

theorem q2821 : (Jvm.Cond.castable "[C" "java/lang/Object") ∈ lw_tbl := lw_at lw_m12 68 rfl
set_option maxRecDepth 100000

theorem q2822 : (Jvm.Cond.castable "[D" "java/lang/Object") ∈ lw_tbl := lw_at lw_m12 69 rfl
set_option maxRecDepth 100000

theorem q2819 : (Jvm.Cond.castable "[I" "java/lang/Object") ∈ lw_tbl := lw_at lw_m12 66 rfl
set_option maxRecDepth 100000

theorem q592 : (Jvm.Cond.sameMethod "[J" "java/lang/Object" "clone" "()Ljava/lang/Object;") ∈ lw_all := lw_g (lw_at lw_m2 239 rfl) rfl
set_option maxRecDepth 100000
theorem q595 : (Jvm.Cond.selects "[J" ({ cls := "[J", name := "clone", desc := "()Ljava/lang/Object;" } : Jvm.MethodName) ({ cls := "java/lang/Object", name := "clone", desc := "()Ljava/lang/Object;" } : Jvm.MethodName)) ∈ lw_all := lw_g (lw_at lw_m3 2 rfl) rfl
theorem q596 : (Jvm.Cond.castable "[J" "java/lang/Cloneable") ∈ lw_tbl := lw_at lw_m3 3 rfl
theorem q2817 : (Jvm.Cond.castable "[J" "java/lang/Object") ∈ lw_tbl := lw_at lw_m12 64 rfl

theorem q2815 : (Jvm.Cond.castable "[LBakeryRing$Bakery;" "java/lang/Object") ∈ lw_tbl := lw_at lw_m12 62 rfl
set_option maxRecDepth 100000

theorem q2818 : (Jvm.Cond.castable "[LBakeryRing$Customer;" "java/lang/Object") ∈ lw_tbl := lw_at lw_m12 65 rfl
set_option maxRecDepth 100000

theorem q2820 : (Jvm.Cond.castable "[LBakeryRing$State;" "java/lang/Object") ∈ lw_tbl := lw_at lw_m12 67 rfl
set_option maxRecDepth 100000

theorem q2811 : (Jvm.Cond.sameMethod "[Ljava/lang/Object;" "java/lang/Object" "getClass" "()Ljava/lang/Class;") ∈ lw_all := lw_g (lw_at lw_m12 58 rfl) rfl
set_option maxRecDepth 100000
theorem q2812 : (Jvm.Cond.selects "[Ljava/lang/Object;" ({ cls := "java/lang/Object", name := "getClass", desc := "()Ljava/lang/Class;" } : Jvm.MethodName) ({ cls := "java/lang/Object", name := "getClass", desc := "()Ljava/lang/Class;" } : Jvm.MethodName)) ∈ lw_all := lw_g (lw_at lw_m12 59 rfl) rfl
theorem q2814 : (Jvm.Cond.castable "[Ljava/lang/Object;" "java/lang/Object") ∈ lw_tbl := lw_at lw_m12 61 rfl

theorem q167 : (Jvm.Cond.initialized "java/lang/Integer$IntegerCache") ∈ lw_all := lw_g (lw_at lw_m1 54 rfl) rfl
set_option maxRecDepth 100000
theorem q2019 : (Jvm.Cond.laysStatic "java/lang/Integer$IntegerCache" "high" "I") ∈ lw_tbl := lw_at lw_m8 226 rfl
theorem q2021 : (Jvm.Cond.laysStatic "java/lang/Integer$IntegerCache" "cache" "[Ljava/lang/Integer;") ∈ lw_tbl := lw_at lw_m8 228 rfl

theorem q147 : (Jvm.Cond.initialized "java/lang/System") ∈ lw_all := lw_g (lw_at lw_m1 34 rfl) rfl
set_option maxRecDepth 100000
theorem q600 : (Jvm.Cond.static ({ cls := "java/lang/System", name := "arraycopy", desc := "(Ljava/lang/Object;ILjava/lang/Object;II)V" } : Jvm.MethodName)) ∈ lw_all := lw_g (lw_at lw_m3 7 rfl) rfl
theorem q601 : (Jvm.Cond.native ({ cls := "java/lang/System", name := "arraycopy", desc := "(Ljava/lang/Object;ILjava/lang/Object;II)V" } : Jvm.MethodName)) ∈ lw_all := lw_g (lw_at lw_m3 8 rfl) rfl

theorem q159 : (Jvm.Cond.initialized "java/util/AbstractList$ListItr") ∈ lw_all := lw_g (lw_at lw_m1 46 rfl) rfl
set_option maxRecDepth 100000
theorem q237 : (Jvm.Cond.selects "java/util/AbstractList$ListItr" ({ cls := "java/lang/Object", name := "getClass", desc := "()Ljava/lang/Class;" } : Jvm.MethodName) ({ cls := "java/lang/Object", name := "getClass", desc := "()Ljava/lang/Class;" } : Jvm.MethodName)) ∈ lw_all := lw_g (lw_at lw_m1 124 rfl) rfl
theorem q1442 : (Jvm.Cond.castable "java/util/AbstractList$ListItr" "java/util/Iterator") ∈ lw_tbl := lw_at lw_m6 129 rfl
theorem q1443 : (Jvm.Cond.selects "java/util/AbstractList$ListItr" ({ cls := "java/util/Iterator", name := "hasNext", desc := "()Z" } : Jvm.MethodName) ({ cls := "java/util/AbstractList$Itr", name := "hasNext", desc := "()Z" } : Jvm.MethodName)) ∈ lw_all := lw_g (lw_at lw_m6 130 rfl) rfl
theorem q1444 : (Jvm.Cond.unhidden "java/util/AbstractList$ListItr" "hasNext" "()Z") ∈ lw_tbl := lw_at lw_m6 131 rfl
theorem q1475 : (Jvm.Cond.selects "java/util/AbstractList$ListItr" ({ cls := "java/util/Iterator", name := "next", desc := "()Ljava/lang/Object;" } : Jvm.MethodName) ({ cls := "java/util/AbstractList$Itr", name := "next", desc := "()Ljava/lang/Object;" } : Jvm.MethodName)) ∈ lw_all := lw_g (lw_at lw_m6 162 rfl) rfl
theorem q1476 : (Jvm.Cond.unhidden "java/util/AbstractList$ListItr" "next" "()Ljava/lang/Object;") ∈ lw_tbl := lw_at lw_m6 163 rfl
theorem q1483 : (Jvm.Cond.selects "java/util/AbstractList$ListItr" ({ cls := "java/util/AbstractList$Itr", name := "checkForComodification", desc := "()V" } : Jvm.MethodName) ({ cls := "java/util/AbstractList$Itr", name := "checkForComodification", desc := "()V" } : Jvm.MethodName)) ∈ lw_all := lw_g (lw_at lw_m6 170 rfl) rfl
theorem q2798 : (Jvm.Cond.castable "java/util/AbstractList$ListItr" "java/lang/Object") ∈ lw_tbl := lw_at lw_m12 45 rfl
theorem q2824 : (Jvm.Cond.fieldLink "java/util/AbstractList$ListItr" (1 : Nat) "java/util/AbstractList$ListItr" "this$0" "Ljava/util/AbstractList;") ∈ lw_all := lw_g (lw_at lw_m12 71 rfl) rfl
theorem q2829 : (Jvm.Cond.fieldLink "java/util/AbstractList$ListItr" (13 : Nat) "java/util/AbstractList$ListItr" "cursor" "I") ∈ lw_all := lw_g (lw_at lw_m12 76 rfl) rfl
theorem q2830 : (Jvm.Cond.sameField "java/util/AbstractList$ListItr" "java/util/AbstractList$Itr" "cursor" "I") ∈ lw_all := lw_g (lw_at lw_m12 77 rfl) rfl

theorem q1440 : (Jvm.Cond.interfaceMethod "java/util/Iterator" "java/util/Iterator" "hasNext" "()Z") ∈ lw_tbl := lw_at lw_m6 127 rfl
set_option maxRecDepth 100000
theorem q1441 : (Jvm.Cond.declares ({ cls := "java/util/Iterator", name := "hasNext", desc := "()Z" } : Jvm.MethodName)) ∈ lw_tbl := lw_at lw_m6 128 rfl
theorem q1473 : (Jvm.Cond.interfaceMethod "java/util/Iterator" "java/util/Iterator" "next" "()Ljava/lang/Object;") ∈ lw_tbl := lw_at lw_m6 160 rfl
theorem q1474 : (Jvm.Cond.declares ({ cls := "java/util/Iterator", name := "next", desc := "()Ljava/lang/Object;" } : Jvm.MethodName)) ∈ lw_tbl := lw_at lw_m6 161 rfl

theorem q1664 : (Jvm.Cond.interfaceMethod "jdk/internal/access/JavaLangAccess" "jdk/internal/access/JavaLangAccess" "getUTF16Char" "([BI)C") ∈ lw_tbl := lw_at lw_m7 111 rfl
set_option maxRecDepth 100000
theorem q1665 : (Jvm.Cond.declares ({ cls := "jdk/internal/access/JavaLangAccess", name := "getUTF16Char", desc := "([BI)C" } : Jvm.MethodName)) ∈ lw_tbl := lw_at lw_m7 112 rfl

theorem q206 : (Jvm.Cond.arrayOver (Jvm.ClassFile.FieldType.object "java/lang/Object")) ∈ lw_tbl := lw_at lw_m1 93 rfl
set_option maxRecDepth 100000
theorem q313 : (Jvm.Cond.arrayOver (Jvm.ClassFile.FieldType.object "BakeryRing$Bakery")) ∈ lw_tbl := lw_at lw_m1 200 rfl
theorem q337 : (Jvm.Cond.arrayClass Jvm.ClassFile.FieldType.byte) ∈ lw_all := lw_g (lw_at lw_m1 224 rfl) rfl
theorem q338 : (Jvm.Cond.arrayClass Jvm.ClassFile.FieldType.long) ∈ lw_all := lw_g (lw_at lw_m1 225 rfl) rfl
theorem q340 : (Jvm.Cond.arrayOver (Jvm.ClassFile.FieldType.object "BakeryRing$Customer")) ∈ lw_tbl := lw_at lw_m1 227 rfl
theorem q361 : (Jvm.Cond.arrayClass Jvm.ClassFile.FieldType.int) ∈ lw_all := lw_g (lw_at lw_m2 8 rfl) rfl
theorem q441 : (Jvm.Cond.arrayOver (Jvm.ClassFile.FieldType.object "BakeryRing$State")) ∈ lw_tbl := lw_at lw_m2 88 rfl
theorem q2321 : (Jvm.Cond.arrayClass Jvm.ClassFile.FieldType.char) ∈ lw_all := lw_g (lw_at lw_m10 48 rfl) rfl
theorem q2755 : (Jvm.Cond.arrayClass Jvm.ClassFile.FieldType.double) ∈ lw_all := lw_g (lw_at lw_m12 2 rfl) rfl
theorem q2823 : (Jvm.Cond.arrayClass Jvm.ClassFile.FieldType.short) ∈ lw_all := lw_g (lw_at lw_m12 70 rfl) rfl
