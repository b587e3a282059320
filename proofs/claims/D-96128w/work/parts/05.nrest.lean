/-! java/util/AbstractCollection -/
set_option maxRecDepth 100000
def RJ0 : String := "java/util/AbstractCollection"
abbrev cJ0_init : ByteArray := prog_35_method_1_code
def yJ0_init : MethodName := ⟨RJ0, "<init>", "()V"⟩
theorem dJ0_init_0 : decode cJ0_init 0 = .ok (.aload_n 0, 1) := by decide +kernel
theorem dJ0_init_1 : decode cJ0_init 1 = .ok (.invokespecial 1, 3) := by decide +kernel
theorem dJ0_init_4 : decode cJ0_init 4 = .ok (.return_, 1) := by decide +kernel
theorem q83 : (Jvm.Cond.initialized "java/util/AbstractCollection") ∈ lw_all := lw_g (lw_at lw_m1 3 rfl) rfl
theorem q136 : (Jvm.Cond.instanceMethod ({ cls := "java/util/AbstractCollection", name := "<init>", desc := "()V" } : Jvm.MethodName)) ∈ lw_all := lw_g (lw_at lw_m1 56 rfl) rfl
theorem q137 : (Jvm.Cond.code ({ cls := "java/util/AbstractCollection", name := "<init>", desc := "()V" } : Jvm.MethodName) prog_35_method_1_code (1 : Nat) (Option.none : Option Jvm.ClassFile.FieldType)) ∈ lw_all := lw_g (lw_at lw_m1 57 rfl) rfl
theorem q138 : (Jvm.Cond.methodLink "java/util/AbstractCollection" (1 : Nat) ({ cls := "java/lang/Object", name := "<init>", desc := "()V" } : Jvm.MethodName)) ∈ lw_all := lw_g (lw_at lw_m1 58 rfl) rfl

/-! java/util/AbstractList -/
set_option maxRecDepth 100000
def RJ1 : String := "java/util/AbstractList"
abbrev cJ1_init : ByteArray := prog_36_method_1_code
def yJ1_init : MethodName := ⟨RJ1, "<init>", "()V"⟩
def dkwJ1_init_0 : List UInt8 := [42, 183, 0, 1, 42, 3, 181, 0, 7, 177]
abbrev dktJ1_init_0 : List UInt8 := dkwJ1_init_0 ++ []
theorem dksJ1_init_0 : cJ1_init.data.toList.drop 0 = dktJ1_init_0 := by decide +kernel
theorem dJ1_init_0 : decode cJ1_init 0 = .ok (.aload_n 0, 1) := dk_42 (dk_at dksJ1_init_0 0 rfl rfl)
theorem dJ1_init_1 : decode cJ1_init 1 = .ok (.invokespecial 1, 3) := dk_183 0 1 (dk_at dksJ1_init_0 1 rfl rfl)
theorem dJ1_init_4 : decode cJ1_init 4 = .ok (.aload_n 0, 1) := dk_42 (dk_at dksJ1_init_0 4 rfl rfl)
theorem dJ1_init_5 : decode cJ1_init 5 = .ok (.iconst 0, 1) := dk_3 (dk_at dksJ1_init_0 5 rfl rfl)
theorem dJ1_init_6 : decode cJ1_init 6 = .ok (.putfield 7, 3) := dk_181 0 7 (dk_at dksJ1_init_0 6 rfl rfl)
theorem dJ1_init_9 : decode cJ1_init 9 = .ok (.return_, 1) := dk_177 (dk_at dksJ1_init_0 9 rfl rfl)
theorem q84 : (Jvm.Cond.initialized "java/util/AbstractList") ∈ lw_all := lw_g (lw_at lw_m1 4 rfl) rfl
theorem q133 : (Jvm.Cond.instanceMethod ({ cls := "java/util/AbstractList", name := "<init>", desc := "()V" } : Jvm.MethodName)) ∈ lw_all := lw_g (lw_at lw_m1 53 rfl) rfl
theorem q134 : (Jvm.Cond.code ({ cls := "java/util/AbstractList", name := "<init>", desc := "()V" } : Jvm.MethodName) prog_36_method_1_code (1 : Nat) (Option.none : Option Jvm.ClassFile.FieldType)) ∈ lw_all := lw_g (lw_at lw_m1 54 rfl) rfl
theorem q135 : (Jvm.Cond.methodLink "java/util/AbstractList" (1 : Nat) ({ cls := "java/util/AbstractCollection", name := "<init>", desc := "()V" } : Jvm.MethodName)) ∈ lw_all := lw_g (lw_at lw_m1 55 rfl) rfl
theorem q143 : (Jvm.Cond.fieldLink "java/util/AbstractList" (7 : Nat) "java/util/AbstractList" "modCount" "I") ∈ lw_all := lw_g (lw_at lw_m1 63 rfl) rfl
theorem q151 : (Jvm.Cond.soleField "java/util/AbstractList" "modCount") ∈ lw_all := lw_g (lw_at lw_m1 71 rfl) rfl

/-! jdk/internal/util/Preconditions -/
set_option maxRecDepth 100000
def RJ10 : String := "jdk/internal/util/Preconditions"
abbrev cJ10_checkIndex : ByteArray := prog_45_method_11_code
def yJ10_checkIndex : MethodName := ⟨RJ10, "checkIndex", "(IILjava/util/function/BiFunction;)I"⟩
def dkwJ10_checkIndex_0 : List UInt8 := [26, 155, 0, 8, 26, 27, 161, 0, 10, 44, 26, 27, 184, 0, 95, 191, 26, 172]
abbrev dktJ10_checkIndex_0 : List UInt8 := dkwJ10_checkIndex_0 ++ []
theorem dksJ10_checkIndex_0 : cJ10_checkIndex.data.toList.drop 0 = dktJ10_checkIndex_0 := by decide +kernel
theorem dJ10_checkIndex_0 : decode cJ10_checkIndex 0 = .ok (.iload_n 0, 1) := dk_26 (dk_at dksJ10_checkIndex_0 0 rfl rfl)
theorem dJ10_checkIndex_1 : decode cJ10_checkIndex 1 = .ok (.ifCond .lt 8, 3) := dk_155 0 8 (dk_at dksJ10_checkIndex_0 1 rfl rfl)
theorem dJ10_checkIndex_4 : decode cJ10_checkIndex 4 = .ok (.iload_n 0, 1) := dk_26 (dk_at dksJ10_checkIndex_0 4 rfl rfl)
theorem dJ10_checkIndex_5 : decode cJ10_checkIndex 5 = .ok (.iload_n 1, 1) := dk_27 (dk_at dksJ10_checkIndex_0 5 rfl rfl)
theorem dJ10_checkIndex_6 : decode cJ10_checkIndex 6 = .ok (.if_icmp .lt 10, 3) := dk_161 0 10 (dk_at dksJ10_checkIndex_0 6 rfl rfl)
theorem dJ10_checkIndex_9 : decode cJ10_checkIndex 9 = .ok (.aload_n 2, 1) := dk_44 (dk_at dksJ10_checkIndex_0 9 rfl rfl)
theorem dJ10_checkIndex_10 : decode cJ10_checkIndex 10 = .ok (.iload_n 0, 1) := dk_26 (dk_at dksJ10_checkIndex_0 10 rfl rfl)
theorem dJ10_checkIndex_11 : decode cJ10_checkIndex 11 = .ok (.iload_n 1, 1) := dk_27 (dk_at dksJ10_checkIndex_0 11 rfl rfl)
theorem dJ10_checkIndex_12 : decode cJ10_checkIndex 12 = .ok (.invokestatic 95, 3) := dk_184 0 95 (dk_at dksJ10_checkIndex_0 12 rfl rfl)
theorem dJ10_checkIndex_15 : decode cJ10_checkIndex 15 = .ok (.athrow, 1) := dk_191 (dk_at dksJ10_checkIndex_0 15 rfl rfl)
theorem dJ10_checkIndex_16 : decode cJ10_checkIndex 16 = .ok (.iload_n 0, 1) := dk_26 (dk_at dksJ10_checkIndex_0 16 rfl rfl)
theorem dJ10_checkIndex_17 : decode cJ10_checkIndex 17 = .ok (.ireturn, 1) := dk_172 (dk_at dksJ10_checkIndex_0 17 rfl rfl)
theorem q101 : (Jvm.Cond.initialized "jdk/internal/util/Preconditions") ∈ lw_all := lw_g (lw_at lw_m1 21 rfl) rfl
theorem q718 : (Jvm.Cond.static ({ cls := "jdk/internal/util/Preconditions", name := "checkIndex", desc := "(IILjava/util/function/BiFunction;)I" } : Jvm.MethodName)) ∈ lw_all := lw_g (lw_at lw_m3 158 rfl) rfl
theorem q719 : (Jvm.Cond.code ({ cls := "jdk/internal/util/Preconditions", name := "checkIndex", desc := "(IILjava/util/function/BiFunction;)I" } : Jvm.MethodName) prog_45_method_11_code (3 : Nat) (Option.some Jvm.ClassFile.FieldType.int)) ∈ lw_all := lw_g (lw_at lw_m3 159 rfl) rfl
theorem q1376 : (Jvm.Cond.laysStatic "jdk/internal/util/Preconditions" "SIOOBE_FORMATTER" "Ljava/util/function/BiFunction;") ∈ lw_tbl := lw_at lw_m6 96 rfl

/-! java/lang/StringUTF16 -/
set_option maxRecDepth 100000
def RJ11 : String := "java/lang/StringUTF16"
abbrev cJ11_charAt : ByteArray := prog_30_method_83_code
def yJ11_charAt : MethodName := ⟨RJ11, "charAt", "([BI)C"⟩
def dkwJ11_charAt_0 : List UInt8 := [27, 42, 184, 0, 67, 42, 27, 184, 0, 71, 172]
abbrev dktJ11_charAt_0 : List UInt8 := dkwJ11_charAt_0 ++ []
theorem dksJ11_charAt_0 : cJ11_charAt.data.toList.drop 0 = dktJ11_charAt_0 := by decide +kernel
theorem dJ11_charAt_0 : decode cJ11_charAt 0 = .ok (.iload_n 1, 1) := dk_27 (dk_at dksJ11_charAt_0 0 rfl rfl)
theorem dJ11_charAt_1 : decode cJ11_charAt 1 = .ok (.aload_n 0, 1) := dk_42 (dk_at dksJ11_charAt_0 1 rfl rfl)
theorem dJ11_charAt_2 : decode cJ11_charAt 2 = .ok (.invokestatic 67, 3) := dk_184 0 67 (dk_at dksJ11_charAt_0 2 rfl rfl)
theorem dJ11_charAt_5 : decode cJ11_charAt 5 = .ok (.aload_n 0, 1) := dk_42 (dk_at dksJ11_charAt_0 5 rfl rfl)
theorem dJ11_charAt_6 : decode cJ11_charAt 6 = .ok (.iload_n 1, 1) := dk_27 (dk_at dksJ11_charAt_0 6 rfl rfl)
theorem dJ11_charAt_7 : decode cJ11_charAt 7 = .ok (.invokestatic 71, 3) := dk_184 0 71 (dk_at dksJ11_charAt_0 7 rfl rfl)
theorem dJ11_charAt_10 : decode cJ11_charAt 10 = .ok (.ireturn, 1) := dk_172 (dk_at dksJ11_charAt_0 10 rfl rfl)
abbrev cJ11_checkIndex : ByteArray := prog_30_method_91_code
def yJ11_checkIndex : MethodName := ⟨RJ11, "checkIndex", "(I[B)V"⟩
def dkwJ11_checkIndex_0 : List UInt8 := [26, 43, 184, 0, 48, 184, 1, 158, 177]
abbrev dktJ11_checkIndex_0 : List UInt8 := dkwJ11_checkIndex_0 ++ []
theorem dksJ11_checkIndex_0 : cJ11_checkIndex.data.toList.drop 0 = dktJ11_checkIndex_0 := by decide +kernel
theorem dJ11_checkIndex_0 : decode cJ11_checkIndex 0 = .ok (.iload_n 0, 1) := dk_26 (dk_at dksJ11_checkIndex_0 0 rfl rfl)
theorem dJ11_checkIndex_1 : decode cJ11_checkIndex 1 = .ok (.aload_n 1, 1) := dk_43 (dk_at dksJ11_checkIndex_0 1 rfl rfl)
theorem dJ11_checkIndex_2 : decode cJ11_checkIndex 2 = .ok (.invokestatic 48, 3) := dk_184 0 48 (dk_at dksJ11_checkIndex_0 2 rfl rfl)
theorem dJ11_checkIndex_5 : decode cJ11_checkIndex 5 = .ok (.invokestatic 414, 3) := dk_184 1 158 (dk_at dksJ11_checkIndex_0 5 rfl rfl)
theorem dJ11_checkIndex_8 : decode cJ11_checkIndex 8 = .ok (.return_, 1) := dk_177 (dk_at dksJ11_checkIndex_0 8 rfl rfl)
abbrev cJ11_length : ByteArray := prog_30_method_6_code
def yJ11_length : MethodName := ⟨RJ11, "length", "([B)I"⟩
def dkwJ11_length_0 : List UInt8 := [42, 190, 4, 122, 172]
abbrev dktJ11_length_0 : List UInt8 := dkwJ11_length_0 ++ []
theorem dksJ11_length_0 : cJ11_length.data.toList.drop 0 = dktJ11_length_0 := by decide +kernel
theorem dJ11_length_0 : decode cJ11_length 0 = .ok (.aload_n 0, 1) := dk_42 (dk_at dksJ11_length_0 0 rfl rfl)
theorem dJ11_length_1 : decode cJ11_length 1 = .ok (.arraylength, 1) := dk_190 (dk_at dksJ11_length_0 1 rfl rfl)
theorem dJ11_length_2 : decode cJ11_length 2 = .ok (.iconst 1, 1) := dk_4 (dk_at dksJ11_length_0 2 rfl rfl)
theorem dJ11_length_3 : decode cJ11_length 3 = .ok (.ishr, 1) := dk_122 (dk_at dksJ11_length_0 3 rfl rfl)
theorem dJ11_length_4 : decode cJ11_length 4 = .ok (.ireturn, 1) := dk_172 (dk_at dksJ11_length_0 4 rfl rfl)
abbrev cJ11_getChar : ByteArray := prog_30_method_5_code
def yJ11_getChar : MethodName := ⟨RJ11, "getChar", "([BI)C"⟩
def dkwJ11_getChar_2 : List UInt8 := [51, 17, 0, 255, 126, 178, 0, 63, 120, 128, 146, 172]
abbrev dktJ11_getChar_2 : List UInt8 := dkwJ11_getChar_2 ++ []
def dkwJ11_getChar_1 : List UInt8 := [183, 0, 56, 191, 27, 4, 120, 60, 42, 27, 132, 1, 1, 51, 17, 0, 255, 126, 178, 0, 59, 120, 42, 27]
abbrev dktJ11_getChar_1 : List UInt8 := dkwJ11_getChar_1 ++ dktJ11_getChar_2
def dkwJ11_getChar_0 : List UInt8 := [178, 0, 44, 154, 0, 25, 27, 155, 0, 11, 27, 42, 184, 0, 48, 161, 0, 13, 187, 0, 52, 89, 18, 54]
abbrev dktJ11_getChar_0 : List UInt8 := dkwJ11_getChar_0 ++ dktJ11_getChar_1
theorem dksJ11_getChar_0 : cJ11_getChar.data.toList.drop 0 = dktJ11_getChar_0 := by decide +kernel
theorem dksJ11_getChar_1 : cJ11_getChar.data.toList.drop 24 = dktJ11_getChar_1 := dk_seg dksJ11_getChar_0 24 rfl rfl
theorem dksJ11_getChar_2 : cJ11_getChar.data.toList.drop 48 = dktJ11_getChar_2 := dk_seg dksJ11_getChar_1 24 rfl rfl
theorem dJ11_getChar_0 : decode cJ11_getChar 0 = .ok (.getstatic 44, 3) := dk_178 0 44 (dk_at dksJ11_getChar_0 0 rfl rfl)
theorem dJ11_getChar_3 : decode cJ11_getChar 3 = .ok (.ifCond .ne 25, 3) := dk_154 0 25 (dk_at dksJ11_getChar_0 3 rfl rfl)
theorem dJ11_getChar_6 : decode cJ11_getChar 6 = .ok (.iload_n 1, 1) := dk_27 (dk_at dksJ11_getChar_0 6 rfl rfl)
theorem dJ11_getChar_7 : decode cJ11_getChar 7 = .ok (.ifCond .lt 11, 3) := dk_155 0 11 (dk_at dksJ11_getChar_0 7 rfl rfl)
theorem dJ11_getChar_10 : decode cJ11_getChar 10 = .ok (.iload_n 1, 1) := dk_27 (dk_at dksJ11_getChar_0 10 rfl rfl)
theorem dJ11_getChar_11 : decode cJ11_getChar 11 = .ok (.aload_n 0, 1) := dk_42 (dk_at dksJ11_getChar_0 11 rfl rfl)
theorem dJ11_getChar_12 : decode cJ11_getChar 12 = .ok (.invokestatic 48, 3) := dk_184 0 48 (dk_at dksJ11_getChar_0 12 rfl rfl)
theorem dJ11_getChar_15 : decode cJ11_getChar 15 = .ok (.if_icmp .lt 13, 3) := dk_161 0 13 (dk_at dksJ11_getChar_0 15 rfl rfl)
theorem dJ11_getChar_18 : decode cJ11_getChar 18 = .ok (.new 52, 3) := dk_187 0 52 (dk_at dksJ11_getChar_0 18 rfl rfl)
theorem dJ11_getChar_21 : decode cJ11_getChar 21 = .ok (.dup, 1) := dk_89 (dk_at dksJ11_getChar_0 21 rfl rfl)
theorem dJ11_getChar_22 : decode cJ11_getChar 22 = .ok (.ldc 54, 2) := dk_18 54 (dk_at dksJ11_getChar_0 22 rfl rfl)
theorem dJ11_getChar_24 : decode cJ11_getChar 24 = .ok (.invokespecial 56, 3) := dk_183 0 56 (dk_at dksJ11_getChar_1 0 rfl rfl)
theorem dJ11_getChar_27 : decode cJ11_getChar 27 = .ok (.athrow, 1) := dk_191 (dk_at dksJ11_getChar_1 3 rfl rfl)
theorem dJ11_getChar_28 : decode cJ11_getChar 28 = .ok (.iload_n 1, 1) := dk_27 (dk_at dksJ11_getChar_1 4 rfl rfl)
theorem dJ11_getChar_29 : decode cJ11_getChar 29 = .ok (.iconst 1, 1) := dk_4 (dk_at dksJ11_getChar_1 5 rfl rfl)
theorem dJ11_getChar_30 : decode cJ11_getChar 30 = .ok (.ishl, 1) := dk_120 (dk_at dksJ11_getChar_1 6 rfl rfl)
theorem dJ11_getChar_31 : decode cJ11_getChar 31 = .ok (.istore_n 1, 1) := dk_60 (dk_at dksJ11_getChar_1 7 rfl rfl)
theorem dJ11_getChar_32 : decode cJ11_getChar 32 = .ok (.aload_n 0, 1) := dk_42 (dk_at dksJ11_getChar_1 8 rfl rfl)
theorem dJ11_getChar_33 : decode cJ11_getChar 33 = .ok (.iload_n 1, 1) := dk_27 (dk_at dksJ11_getChar_1 9 rfl rfl)
theorem dJ11_getChar_34 : decode cJ11_getChar 34 = .ok (.iinc 1 1, 3) := dk_132 1 1 (dk_at dksJ11_getChar_1 10 rfl rfl)
theorem dJ11_getChar_37 : decode cJ11_getChar 37 = .ok (.baload, 1) := dk_51 (dk_at dksJ11_getChar_1 13 rfl rfl)
theorem dJ11_getChar_38 : decode cJ11_getChar 38 = .ok (.sipush 255, 3) := dk_17 0 255 (dk_at dksJ11_getChar_1 14 rfl rfl)
theorem dJ11_getChar_41 : decode cJ11_getChar 41 = .ok (.iand, 1) := dk_126 (dk_at dksJ11_getChar_1 17 rfl rfl)
theorem dJ11_getChar_42 : decode cJ11_getChar 42 = .ok (.getstatic 59, 3) := dk_178 0 59 (dk_at dksJ11_getChar_1 18 rfl rfl)
theorem dJ11_getChar_45 : decode cJ11_getChar 45 = .ok (.ishl, 1) := dk_120 (dk_at dksJ11_getChar_1 21 rfl rfl)
theorem dJ11_getChar_46 : decode cJ11_getChar 46 = .ok (.aload_n 0, 1) := dk_42 (dk_at dksJ11_getChar_1 22 rfl rfl)
theorem dJ11_getChar_47 : decode cJ11_getChar 47 = .ok (.iload_n 1, 1) := dk_27 (dk_at dksJ11_getChar_1 23 rfl rfl)
theorem dJ11_getChar_48 : decode cJ11_getChar 48 = .ok (.baload, 1) := dk_51 (dk_at dksJ11_getChar_2 0 rfl rfl)
theorem dJ11_getChar_49 : decode cJ11_getChar 49 = .ok (.sipush 255, 3) := dk_17 0 255 (dk_at dksJ11_getChar_2 1 rfl rfl)
theorem dJ11_getChar_52 : decode cJ11_getChar 52 = .ok (.iand, 1) := dk_126 (dk_at dksJ11_getChar_2 4 rfl rfl)
theorem dJ11_getChar_53 : decode cJ11_getChar 53 = .ok (.getstatic 63, 3) := dk_178 0 63 (dk_at dksJ11_getChar_2 5 rfl rfl)
theorem dJ11_getChar_56 : decode cJ11_getChar 56 = .ok (.ishl, 1) := dk_120 (dk_at dksJ11_getChar_2 8 rfl rfl)
theorem dJ11_getChar_57 : decode cJ11_getChar 57 = .ok (.ior, 1) := dk_128 (dk_at dksJ11_getChar_2 9 rfl rfl)
theorem dJ11_getChar_58 : decode cJ11_getChar 58 = .ok (.i2c, 1) := dk_146 (dk_at dksJ11_getChar_2 10 rfl rfl)
theorem dJ11_getChar_59 : decode cJ11_getChar 59 = .ok (.ireturn, 1) := dk_172 (dk_at dksJ11_getChar_2 11 rfl rfl)
theorem q102 : (Jvm.Cond.initialized "java/lang/StringUTF16") ∈ lw_all := lw_g (lw_at lw_m1 22 rfl) rfl
theorem q1379 : (Jvm.Cond.static ({ cls := "java/lang/StringUTF16", name := "charAt", desc := "([BI)C" } : Jvm.MethodName)) ∈ lw_all := lw_g (lw_at lw_m6 99 rfl) rfl
theorem q1380 : (Jvm.Cond.code ({ cls := "java/lang/StringUTF16", name := "charAt", desc := "([BI)C" } : Jvm.MethodName) prog_30_method_83_code (2 : Nat) (Option.some Jvm.ClassFile.FieldType.char)) ∈ lw_all := lw_g (lw_at lw_m6 100 rfl) rfl
theorem q1381 : (Jvm.Cond.methodLink "java/lang/StringUTF16" (67 : Nat) ({ cls := "java/lang/StringUTF16", name := "checkIndex", desc := "(I[B)V" } : Jvm.MethodName)) ∈ lw_all := lw_g (lw_at lw_m6 101 rfl) rfl
theorem q1382 : (Jvm.Cond.static ({ cls := "java/lang/StringUTF16", name := "checkIndex", desc := "(I[B)V" } : Jvm.MethodName)) ∈ lw_all := lw_g (lw_at lw_m6 102 rfl) rfl
theorem q1383 : (Jvm.Cond.code ({ cls := "java/lang/StringUTF16", name := "checkIndex", desc := "(I[B)V" } : Jvm.MethodName) prog_30_method_91_code (2 : Nat) (Option.none : Option Jvm.ClassFile.FieldType)) ∈ lw_all := lw_g (lw_at lw_m6 103 rfl) rfl
theorem q1384 : (Jvm.Cond.methodLink "java/lang/StringUTF16" (48 : Nat) ({ cls := "java/lang/StringUTF16", name := "length", desc := "([B)I" } : Jvm.MethodName)) ∈ lw_all := lw_g (lw_at lw_m6 104 rfl) rfl
theorem q1385 : (Jvm.Cond.static ({ cls := "java/lang/StringUTF16", name := "length", desc := "([B)I" } : Jvm.MethodName)) ∈ lw_all := lw_g (lw_at lw_m6 105 rfl) rfl
theorem q1386 : (Jvm.Cond.code ({ cls := "java/lang/StringUTF16", name := "length", desc := "([B)I" } : Jvm.MethodName) prog_30_method_6_code (1 : Nat) (Option.some Jvm.ClassFile.FieldType.int)) ∈ lw_all := lw_g (lw_at lw_m6 106 rfl) rfl
theorem q1387 : (Jvm.Cond.methodLink "java/lang/StringUTF16" (414 : Nat) ({ cls := "java/lang/String", name := "checkIndex", desc := "(II)V" } : Jvm.MethodName)) ∈ lw_all := lw_g (lw_at lw_m6 107 rfl) rfl
theorem q1388 : (Jvm.Cond.methodLink "java/lang/StringUTF16" (71 : Nat) ({ cls := "java/lang/StringUTF16", name := "getChar", desc := "([BI)C" } : Jvm.MethodName)) ∈ lw_all := lw_g (lw_at lw_m6 108 rfl) rfl
theorem q1389 : (Jvm.Cond.static ({ cls := "java/lang/StringUTF16", name := "getChar", desc := "([BI)C" } : Jvm.MethodName)) ∈ lw_all := lw_g (lw_at lw_m6 109 rfl) rfl
theorem q1390 : (Jvm.Cond.code ({ cls := "java/lang/StringUTF16", name := "getChar", desc := "([BI)C" } : Jvm.MethodName) prog_30_method_5_code (2 : Nat) (Option.some Jvm.ClassFile.FieldType.char)) ∈ lw_all := lw_g (lw_at lw_m6 110 rfl) rfl
theorem q1391 : (Jvm.Cond.fieldLink "java/lang/StringUTF16" (44 : Nat) "java/lang/StringUTF16" "$assertionsDisabled" "Z") ∈ lw_all := lw_g (lw_at lw_m6 111 rfl) rfl
theorem q1392 : (Jvm.Cond.laysStatic "java/lang/StringUTF16" "$assertionsDisabled" "Z") ∈ lw_tbl := lw_at lw_m6 112 rfl
theorem q1393 : (Jvm.Cond.fieldLink "java/lang/StringUTF16" (59 : Nat) "java/lang/StringUTF16" "HI_BYTE_SHIFT" "I") ∈ lw_all := lw_g (lw_at lw_m6 113 rfl) rfl
theorem q1394 : (Jvm.Cond.laysStatic "java/lang/StringUTF16" "HI_BYTE_SHIFT" "I") ∈ lw_tbl := lw_at lw_m6 114 rfl
theorem q1395 : (Jvm.Cond.fieldLink "java/lang/StringUTF16" (63 : Nat) "java/lang/StringUTF16" "LO_BYTE_SHIFT" "I") ∈ lw_all := lw_g (lw_at lw_m6 115 rfl) rfl
theorem q1396 : (Jvm.Cond.laysStatic "java/lang/StringUTF16" "LO_BYTE_SHIFT" "I") ∈ lw_tbl := lw_at lw_m6 116 rfl

/-! java/util/Objects -/
set_option maxRecDepth 100000
def RJ12 : String := "java/util/Objects"
abbrev cJ12_checkIndex : ByteArray := prog_41_method_17_code
def yJ12_checkIndex : MethodName := ⟨RJ12, "checkIndex", "(II)I"⟩
def dkwJ12_checkIndex_0 : List UInt8 := [26, 27, 1, 184, 0, 105, 172]
abbrev dktJ12_checkIndex_0 : List UInt8 := dkwJ12_checkIndex_0 ++ []
theorem dksJ12_checkIndex_0 : cJ12_checkIndex.data.toList.drop 0 = dktJ12_checkIndex_0 := by decide +kernel
theorem dJ12_checkIndex_0 : decode cJ12_checkIndex 0 = .ok (.iload_n 0, 1) := dk_26 (dk_at dksJ12_checkIndex_0 0 rfl rfl)
theorem dJ12_checkIndex_1 : decode cJ12_checkIndex 1 = .ok (.iload_n 1, 1) := dk_27 (dk_at dksJ12_checkIndex_0 1 rfl rfl)
theorem dJ12_checkIndex_2 : decode cJ12_checkIndex 2 = .ok (.aconst_null, 1) := dk_1 (dk_at dksJ12_checkIndex_0 2 rfl rfl)
theorem dJ12_checkIndex_3 : decode cJ12_checkIndex 3 = .ok (.invokestatic 105, 3) := dk_184 0 105 (dk_at dksJ12_checkIndex_0 3 rfl rfl)
theorem dJ12_checkIndex_6 : decode cJ12_checkIndex 6 = .ok (.ireturn, 1) := dk_172 (dk_at dksJ12_checkIndex_0 6 rfl rfl)
theorem q110 : (Jvm.Cond.initialized "java/util/Objects") ∈ lw_all := lw_g (lw_at lw_m1 30 rfl) rfl
theorem q715 : (Jvm.Cond.static ({ cls := "java/util/Objects", name := "checkIndex", desc := "(II)I" } : Jvm.MethodName)) ∈ lw_all := lw_g (lw_at lw_m3 155 rfl) rfl
theorem q716 : (Jvm.Cond.code ({ cls := "java/util/Objects", name := "checkIndex", desc := "(II)I" } : Jvm.MethodName) prog_41_method_17_code (2 : Nat) (Option.some Jvm.ClassFile.FieldType.int)) ∈ lw_all := lw_g (lw_at lw_m3 156 rfl) rfl
theorem q717 : (Jvm.Cond.methodLink "java/util/Objects" (105 : Nat) ({ cls := "jdk/internal/util/Preconditions", name := "checkIndex", desc := "(IILjava/util/function/BiFunction;)I" } : Jvm.MethodName)) ∈ lw_all := lw_g (lw_at lw_m3 157 rfl) rfl

/-! java/lang/Integer -/
set_option maxRecDepth 100000
def RJ13 : String := "java/lang/Integer"
abbrev cJ13_bitCount : ByteArray := prog_25_method_49_code
def yJ13_bitCount : MethodName := ⟨RJ13, "bitCount", "(I)I"⟩
def dkwJ13_bitCount_2 : List UInt8 := [26, 16, 63, 126, 172]
abbrev dktJ13_bitCount_2 : List UInt8 := dkwJ13_bitCount_2 ++ []
def dkwJ13_bitCount_1 : List UInt8 := [26, 26, 7, 124, 96, 19, 1, 11, 126, 59, 26, 26, 16, 8, 124, 96, 59, 26, 26, 16, 16, 124, 96, 59]
abbrev dktJ13_bitCount_1 : List UInt8 := dkwJ13_bitCount_1 ++ dktJ13_bitCount_2
def dkwJ13_bitCount_0 : List UInt8 := [26, 26, 4, 124, 19, 1, 9, 126, 100, 59, 26, 19, 1, 10, 126, 26, 5, 124, 19, 1, 10, 126, 96, 59]
abbrev dktJ13_bitCount_0 : List UInt8 := dkwJ13_bitCount_0 ++ dktJ13_bitCount_1
theorem dksJ13_bitCount_0 : cJ13_bitCount.data.toList.drop 0 = dktJ13_bitCount_0 := by decide +kernel
theorem dksJ13_bitCount_1 : cJ13_bitCount.data.toList.drop 24 = dktJ13_bitCount_1 := dk_seg dksJ13_bitCount_0 24 rfl rfl
theorem dksJ13_bitCount_2 : cJ13_bitCount.data.toList.drop 48 = dktJ13_bitCount_2 := dk_seg dksJ13_bitCount_1 24 rfl rfl
theorem dJ13_bitCount_0 : decode cJ13_bitCount 0 = .ok (.iload_n 0, 1) := dk_26 (dk_at dksJ13_bitCount_0 0 rfl rfl)
theorem dJ13_bitCount_1 : decode cJ13_bitCount 1 = .ok (.iload_n 0, 1) := dk_26 (dk_at dksJ13_bitCount_0 1 rfl rfl)
theorem dJ13_bitCount_2 : decode cJ13_bitCount 2 = .ok (.iconst 1, 1) := dk_4 (dk_at dksJ13_bitCount_0 2 rfl rfl)
theorem dJ13_bitCount_3 : decode cJ13_bitCount 3 = .ok (.iushr, 1) := dk_124 (dk_at dksJ13_bitCount_0 3 rfl rfl)
theorem dJ13_bitCount_4 : decode cJ13_bitCount 4 = .ok (.ldc_w 265, 3) := dk_19 1 9 (dk_at dksJ13_bitCount_0 4 rfl rfl)
theorem dJ13_bitCount_7 : decode cJ13_bitCount 7 = .ok (.iand, 1) := dk_126 (dk_at dksJ13_bitCount_0 7 rfl rfl)
theorem dJ13_bitCount_8 : decode cJ13_bitCount 8 = .ok (.isub, 1) := dk_100 (dk_at dksJ13_bitCount_0 8 rfl rfl)
theorem dJ13_bitCount_9 : decode cJ13_bitCount 9 = .ok (.istore_n 0, 1) := dk_59 (dk_at dksJ13_bitCount_0 9 rfl rfl)
theorem dJ13_bitCount_10 : decode cJ13_bitCount 10 = .ok (.iload_n 0, 1) := dk_26 (dk_at dksJ13_bitCount_0 10 rfl rfl)
theorem dJ13_bitCount_11 : decode cJ13_bitCount 11 = .ok (.ldc_w 266, 3) := dk_19 1 10 (dk_at dksJ13_bitCount_0 11 rfl rfl)
theorem dJ13_bitCount_14 : decode cJ13_bitCount 14 = .ok (.iand, 1) := dk_126 (dk_at dksJ13_bitCount_0 14 rfl rfl)
theorem dJ13_bitCount_15 : decode cJ13_bitCount 15 = .ok (.iload_n 0, 1) := dk_26 (dk_at dksJ13_bitCount_0 15 rfl rfl)
theorem dJ13_bitCount_16 : decode cJ13_bitCount 16 = .ok (.iconst 2, 1) := dk_5 (dk_at dksJ13_bitCount_0 16 rfl rfl)
theorem dJ13_bitCount_17 : decode cJ13_bitCount 17 = .ok (.iushr, 1) := dk_124 (dk_at dksJ13_bitCount_0 17 rfl rfl)
theorem dJ13_bitCount_18 : decode cJ13_bitCount 18 = .ok (.ldc_w 266, 3) := dk_19 1 10 (dk_at dksJ13_bitCount_0 18 rfl rfl)
theorem dJ13_bitCount_21 : decode cJ13_bitCount 21 = .ok (.iand, 1) := dk_126 (dk_at dksJ13_bitCount_0 21 rfl rfl)
theorem dJ13_bitCount_22 : decode cJ13_bitCount 22 = .ok (.iadd, 1) := dk_96 (dk_at dksJ13_bitCount_0 22 rfl rfl)
theorem dJ13_bitCount_23 : decode cJ13_bitCount 23 = .ok (.istore_n 0, 1) := dk_59 (dk_at dksJ13_bitCount_0 23 rfl rfl)
theorem dJ13_bitCount_24 : decode cJ13_bitCount 24 = .ok (.iload_n 0, 1) := dk_26 (dk_at dksJ13_bitCount_1 0 rfl rfl)
theorem dJ13_bitCount_25 : decode cJ13_bitCount 25 = .ok (.iload_n 0, 1) := dk_26 (dk_at dksJ13_bitCount_1 1 rfl rfl)
theorem dJ13_bitCount_26 : decode cJ13_bitCount 26 = .ok (.iconst 4, 1) := dk_7 (dk_at dksJ13_bitCount_1 2 rfl rfl)
theorem dJ13_bitCount_27 : decode cJ13_bitCount 27 = .ok (.iushr, 1) := dk_124 (dk_at dksJ13_bitCount_1 3 rfl rfl)
theorem dJ13_bitCount_28 : decode cJ13_bitCount 28 = .ok (.iadd, 1) := dk_96 (dk_at dksJ13_bitCount_1 4 rfl rfl)
theorem dJ13_bitCount_29 : decode cJ13_bitCount 29 = .ok (.ldc_w 267, 3) := dk_19 1 11 (dk_at dksJ13_bitCount_1 5 rfl rfl)
theorem dJ13_bitCount_32 : decode cJ13_bitCount 32 = .ok (.iand, 1) := dk_126 (dk_at dksJ13_bitCount_1 8 rfl rfl)
theorem dJ13_bitCount_33 : decode cJ13_bitCount 33 = .ok (.istore_n 0, 1) := dk_59 (dk_at dksJ13_bitCount_1 9 rfl rfl)
theorem dJ13_bitCount_34 : decode cJ13_bitCount 34 = .ok (.iload_n 0, 1) := dk_26 (dk_at dksJ13_bitCount_1 10 rfl rfl)
theorem dJ13_bitCount_35 : decode cJ13_bitCount 35 = .ok (.iload_n 0, 1) := dk_26 (dk_at dksJ13_bitCount_1 11 rfl rfl)
theorem dJ13_bitCount_36 : decode cJ13_bitCount 36 = .ok (.bipush 8, 2) := dk_16 8 (dk_at dksJ13_bitCount_1 12 rfl rfl)
theorem dJ13_bitCount_38 : decode cJ13_bitCount 38 = .ok (.iushr, 1) := dk_124 (dk_at dksJ13_bitCount_1 14 rfl rfl)
theorem dJ13_bitCount_39 : decode cJ13_bitCount 39 = .ok (.iadd, 1) := dk_96 (dk_at dksJ13_bitCount_1 15 rfl rfl)
theorem dJ13_bitCount_40 : decode cJ13_bitCount 40 = .ok (.istore_n 0, 1) := dk_59 (dk_at dksJ13_bitCount_1 16 rfl rfl)
theorem dJ13_bitCount_41 : decode cJ13_bitCount 41 = .ok (.iload_n 0, 1) := dk_26 (dk_at dksJ13_bitCount_1 17 rfl rfl)
theorem dJ13_bitCount_42 : decode cJ13_bitCount 42 = .ok (.iload_n 0, 1) := dk_26 (dk_at dksJ13_bitCount_1 18 rfl rfl)
theorem dJ13_bitCount_43 : decode cJ13_bitCount 43 = .ok (.bipush 16, 2) := dk_16 16 (dk_at dksJ13_bitCount_1 19 rfl rfl)
theorem dJ13_bitCount_45 : decode cJ13_bitCount 45 = .ok (.iushr, 1) := dk_124 (dk_at dksJ13_bitCount_1 21 rfl rfl)
theorem dJ13_bitCount_46 : decode cJ13_bitCount 46 = .ok (.iadd, 1) := dk_96 (dk_at dksJ13_bitCount_1 22 rfl rfl)
theorem dJ13_bitCount_47 : decode cJ13_bitCount 47 = .ok (.istore_n 0, 1) := dk_59 (dk_at dksJ13_bitCount_1 23 rfl rfl)
theorem dJ13_bitCount_48 : decode cJ13_bitCount 48 = .ok (.iload_n 0, 1) := dk_26 (dk_at dksJ13_bitCount_2 0 rfl rfl)
theorem dJ13_bitCount_49 : decode cJ13_bitCount 49 = .ok (.bipush 63, 2) := dk_16 63 (dk_at dksJ13_bitCount_2 1 rfl rfl)
theorem dJ13_bitCount_51 : decode cJ13_bitCount 51 = .ok (.iand, 1) := dk_126 (dk_at dksJ13_bitCount_2 3 rfl rfl)
theorem dJ13_bitCount_52 : decode cJ13_bitCount 52 = .ok (.ireturn, 1) := dk_172 (dk_at dksJ13_bitCount_2 4 rfl rfl)
theorem q111 : (Jvm.Cond.initialized "java/lang/Integer") ∈ lw_all := lw_g (lw_at lw_m1 31 rfl) rfl
theorem q940 : (Jvm.Cond.static ({ cls := "java/lang/Integer", name := "bitCount", desc := "(I)I" } : Jvm.MethodName)) ∈ lw_all := lw_g (lw_at lw_m4 140 rfl) rfl
theorem q941 : (Jvm.Cond.code ({ cls := "java/lang/Integer", name := "bitCount", desc := "(I)I" } : Jvm.MethodName) prog_25_method_49_code (1 : Nat) (Option.some Jvm.ClassFile.FieldType.int)) ∈ lw_all := lw_g (lw_at lw_m4 141 rfl) rfl
theorem q942 : (Jvm.Cond.constant "java/lang/Integer" (265 : Nat) (1431655765 : Int32)) ∈ lw_all := lw_g (lw_at lw_m4 142 rfl) rfl
theorem q943 : (Jvm.Cond.constant "java/lang/Integer" (266 : Nat) (858993459 : Int32)) ∈ lw_all := lw_g (lw_at lw_m4 143 rfl) rfl
theorem q944 : (Jvm.Cond.constant "java/lang/Integer" (267 : Nat) (252645135 : Int32)) ∈ lw_all := lw_g (lw_at lw_m4 144 rfl) rfl

/-! java/lang/Object -/
set_option maxRecDepth 100000
def RJ14 : String := "java/lang/Object"
abbrev cJ14_init : ByteArray := object_method_1_code
def yJ14_init : MethodName := ⟨RJ14, "<init>", "()V"⟩
theorem dJ14_init_0 : decode cJ14_init 0 = .ok (.return_, 1) := by decide +kernel
theorem q119 : (Jvm.Cond.instanceMethod ({ cls := "java/lang/Object", name := "<init>", desc := "()V" } : Jvm.MethodName)) ∈ lw_all := lw_g (lw_at lw_m1 39 rfl) rfl
theorem q120 : (Jvm.Cond.code ({ cls := "java/lang/Object", name := "<init>", desc := "()V" } : Jvm.MethodName) object_method_1_code (1 : Nat) (Option.none : Option Jvm.ClassFile.FieldType)) ∈ lw_all := lw_g (lw_at lw_m1 40 rfl) rfl
theorem q528 : (Jvm.Cond.instanceMethod ({ cls := "java/lang/Object", name := "getClass", desc := "()Ljava/lang/Class;" } : Jvm.MethodName)) ∈ lw_all := lw_g (lw_at lw_m2 208 rfl) rfl
theorem q529 : (Jvm.Cond.sameMethod "java/lang/Object" "java/lang/Object" "getClass" "()Ljava/lang/Class;") ∈ lw_all := lw_g (lw_at lw_m2 209 rfl) rfl
theorem q548 : (Jvm.Cond.native ({ cls := "java/lang/Object", name := "getClass", desc := "()Ljava/lang/Class;" } : Jvm.MethodName)) ∈ lw_all := lw_g (lw_at lw_m2 228 rfl) rfl
theorem q1150 : (Jvm.Cond.native ({ cls := "java/lang/Object", name := "clone", desc := "()Ljava/lang/Object;" } : Jvm.MethodName)) ∈ lw_all := lw_g (lw_at lw_m5 110 rfl) rfl
theorem q1151 : (Jvm.Cond.instanceMethod ({ cls := "java/lang/Object", name := "clone", desc := "()Ljava/lang/Object;" } : Jvm.MethodName)) ∈ lw_all := lw_g (lw_at lw_m5 111 rfl) rfl
theorem q1689 : (Jvm.Cond.initialized "java/lang/Object") ∈ lw_all := lw_g (lw_at lw_m7 169 rfl) rfl
theorem q1718 : (Jvm.Cond.declares ({ cls := "java/lang/Object", name := "getClass", desc := "()Ljava/lang/Class;" } : Jvm.MethodName)) ∈ lw_tbl := lw_at lw_m7 198 rfl

/-! java/util/ArrayList -/
set_option maxRecDepth 100000
def RJ2 : String := "java/util/ArrayList"
def TJ2 : u_T := fun k => match k with
  | 0 => ("java/util/AbstractList", "modCount", "I", false)
  | 1 => ("java/util/ArrayList", "elementData", "[Ljava/lang/Object;", false)
  | _ => ("java/util/ArrayList", "size", "I", false)
def tyJ2 : Nat → FieldType := fun k => match k with
  | 0 => .int
  | 1 => .array (.object "java/lang/Object")
  | _ => .int
abbrev wsJ20 : List Cond := u_ws RJ2 TJ2 3
theorem nmJ2 : ∀ a, a < 3 → ∀ b, b < 3 → a ≠ b → (TJ2 a).2.1 ≠ (TJ2 b).2.1 := by decide +kernel
theorem tyJ2_ok : ∀ k, k < 3 → parseFieldDescriptor (TJ2 k).2.2.1 = some (tyJ2 k) := by decide +kernel
abbrev cJ2_init : ByteArray := prog_37_method_2_code
def yJ2_init : MethodName := ⟨RJ2, "<init>", "()V"⟩
def dkwJ2_init_0 : List UInt8 := [42, 183, 0, 1, 42, 178, 0, 39, 181, 0, 9, 177]
abbrev dktJ2_init_0 : List UInt8 := dkwJ2_init_0 ++ []
theorem dksJ2_init_0 : cJ2_init.data.toList.drop 0 = dktJ2_init_0 := by decide +kernel
theorem dJ2_init_0 : decode cJ2_init 0 = .ok (.aload_n 0, 1) := dk_42 (dk_at dksJ2_init_0 0 rfl rfl)
theorem dJ2_init_1 : decode cJ2_init 1 = .ok (.invokespecial 1, 3) := dk_183 0 1 (dk_at dksJ2_init_0 1 rfl rfl)
theorem dJ2_init_4 : decode cJ2_init 4 = .ok (.aload_n 0, 1) := dk_42 (dk_at dksJ2_init_0 4 rfl rfl)
theorem dJ2_init_5 : decode cJ2_init 5 = .ok (.getstatic 39, 3) := dk_178 0 39 (dk_at dksJ2_init_0 5 rfl rfl)
theorem dJ2_init_8 : decode cJ2_init 8 = .ok (.putfield 9, 3) := dk_181 0 9 (dk_at dksJ2_init_0 8 rfl rfl)
theorem dJ2_init_11 : decode cJ2_init 11 = .ok (.return_, 1) := dk_177 (dk_at dksJ2_init_0 11 rfl rfl)
abbrev cJ2_size : ByteArray := prog_37_method_8_code
def yJ2_size : MethodName := ⟨RJ2, "size", "()I"⟩
theorem dJ2_size_0 : decode cJ2_size 0 = .ok (.aload_n 0, 1) := by decide +kernel
theorem dJ2_size_1 : decode cJ2_size 1 = .ok (.getfield 48, 3) := by decide +kernel
theorem dJ2_size_4 : decode cJ2_size 4 = .ok (.ireturn, 1) := by decide +kernel
abbrev cJ2_add : ByteArray := prog_37_method_25_code
def yJ2_add : MethodName := ⟨RJ2, "add", "(Ljava/lang/Object;)Z"⟩
def dkwJ2_add_1 : List UInt8 := [172]
abbrev dktJ2_add_1 : List UInt8 := dkwJ2_add_1 ++ []
def dkwJ2_add_0 : List UInt8 := [42, 89, 180, 0, 63, 4, 96, 181, 0, 63, 42, 43, 42, 180, 0, 9, 42, 180, 0, 48, 182, 0, 131, 4]
abbrev dktJ2_add_0 : List UInt8 := dkwJ2_add_0 ++ dktJ2_add_1
theorem dksJ2_add_0 : cJ2_add.data.toList.drop 0 = dktJ2_add_0 := by decide +kernel
theorem dksJ2_add_1 : cJ2_add.data.toList.drop 24 = dktJ2_add_1 := dk_seg dksJ2_add_0 24 rfl rfl
theorem dJ2_add_0 : decode cJ2_add 0 = .ok (.aload_n 0, 1) := dk_42 (dk_at dksJ2_add_0 0 rfl rfl)
theorem dJ2_add_1 : decode cJ2_add 1 = .ok (.dup, 1) := dk_89 (dk_at dksJ2_add_0 1 rfl rfl)
theorem dJ2_add_2 : decode cJ2_add 2 = .ok (.getfield 63, 3) := dk_180 0 63 (dk_at dksJ2_add_0 2 rfl rfl)
theorem dJ2_add_5 : decode cJ2_add 5 = .ok (.iconst 1, 1) := dk_4 (dk_at dksJ2_add_0 5 rfl rfl)
theorem dJ2_add_6 : decode cJ2_add 6 = .ok (.iadd, 1) := dk_96 (dk_at dksJ2_add_0 6 rfl rfl)
theorem dJ2_add_7 : decode cJ2_add 7 = .ok (.putfield 63, 3) := dk_181 0 63 (dk_at dksJ2_add_0 7 rfl rfl)
theorem dJ2_add_10 : decode cJ2_add 10 = .ok (.aload_n 0, 1) := dk_42 (dk_at dksJ2_add_0 10 rfl rfl)
theorem dJ2_add_11 : decode cJ2_add 11 = .ok (.aload_n 1, 1) := dk_43 (dk_at dksJ2_add_0 11 rfl rfl)
theorem dJ2_add_12 : decode cJ2_add 12 = .ok (.aload_n 0, 1) := dk_42 (dk_at dksJ2_add_0 12 rfl rfl)
theorem dJ2_add_13 : decode cJ2_add 13 = .ok (.getfield 9, 3) := dk_180 0 9 (dk_at dksJ2_add_0 13 rfl rfl)
theorem dJ2_add_16 : decode cJ2_add 16 = .ok (.aload_n 0, 1) := dk_42 (dk_at dksJ2_add_0 16 rfl rfl)
theorem dJ2_add_17 : decode cJ2_add 17 = .ok (.getfield 48, 3) := dk_180 0 48 (dk_at dksJ2_add_0 17 rfl rfl)
theorem dJ2_add_20 : decode cJ2_add 20 = .ok (.invokevirtual 131, 3) := dk_182 0 131 (dk_at dksJ2_add_0 20 rfl rfl)
theorem dJ2_add_23 : decode cJ2_add 23 = .ok (.iconst 1, 1) := dk_4 (dk_at dksJ2_add_0 23 rfl rfl)
theorem dJ2_add_24 : decode cJ2_add 24 = .ok (.ireturn, 1) := dk_172 (dk_at dksJ2_add_1 0 rfl rfl)
abbrev cJ2_add_2 : ByteArray := prog_37_method_24_code
def yJ2_add_2 : MethodName := ⟨RJ2, "add", "(Ljava/lang/Object;[Ljava/lang/Object;I)V"⟩
def dkwJ2_add_2_0 : List UInt8 := [29, 44, 190, 160, 0, 8, 42, 182, 0, 129, 77, 44, 29, 43, 83, 42, 29, 4, 96, 181, 0, 48, 177]
abbrev dktJ2_add_2_0 : List UInt8 := dkwJ2_add_2_0 ++ []
theorem dksJ2_add_2_0 : cJ2_add_2.data.toList.drop 0 = dktJ2_add_2_0 := by decide +kernel
theorem dJ2_add_2_0 : decode cJ2_add_2 0 = .ok (.iload_n 3, 1) := dk_29 (dk_at dksJ2_add_2_0 0 rfl rfl)
theorem dJ2_add_2_1 : decode cJ2_add_2 1 = .ok (.aload_n 2, 1) := dk_44 (dk_at dksJ2_add_2_0 1 rfl rfl)
theorem dJ2_add_2_2 : decode cJ2_add_2 2 = .ok (.arraylength, 1) := dk_190 (dk_at dksJ2_add_2_0 2 rfl rfl)
theorem dJ2_add_2_3 : decode cJ2_add_2 3 = .ok (.if_icmp .ne 8, 3) := dk_160 0 8 (dk_at dksJ2_add_2_0 3 rfl rfl)
theorem dJ2_add_2_6 : decode cJ2_add_2 6 = .ok (.aload_n 0, 1) := dk_42 (dk_at dksJ2_add_2_0 6 rfl rfl)
theorem dJ2_add_2_7 : decode cJ2_add_2 7 = .ok (.invokevirtual 129, 3) := dk_182 0 129 (dk_at dksJ2_add_2_0 7 rfl rfl)
theorem dJ2_add_2_10 : decode cJ2_add_2 10 = .ok (.astore_n 2, 1) := dk_77 (dk_at dksJ2_add_2_0 10 rfl rfl)
theorem dJ2_add_2_11 : decode cJ2_add_2 11 = .ok (.aload_n 2, 1) := dk_44 (dk_at dksJ2_add_2_0 11 rfl rfl)
theorem dJ2_add_2_12 : decode cJ2_add_2 12 = .ok (.iload_n 3, 1) := dk_29 (dk_at dksJ2_add_2_0 12 rfl rfl)
theorem dJ2_add_2_13 : decode cJ2_add_2 13 = .ok (.aload_n 1, 1) := dk_43 (dk_at dksJ2_add_2_0 13 rfl rfl)
theorem dJ2_add_2_14 : decode cJ2_add_2 14 = .ok (.aastore, 1) := dk_83 (dk_at dksJ2_add_2_0 14 rfl rfl)
theorem dJ2_add_2_15 : decode cJ2_add_2 15 = .ok (.aload_n 0, 1) := dk_42 (dk_at dksJ2_add_2_0 15 rfl rfl)
theorem dJ2_add_2_16 : decode cJ2_add_2 16 = .ok (.iload_n 3, 1) := dk_29 (dk_at dksJ2_add_2_0 16 rfl rfl)
theorem dJ2_add_2_17 : decode cJ2_add_2 17 = .ok (.iconst 1, 1) := dk_4 (dk_at dksJ2_add_2_0 17 rfl rfl)
theorem dJ2_add_2_18 : decode cJ2_add_2 18 = .ok (.iadd, 1) := dk_96 (dk_at dksJ2_add_2_0 18 rfl rfl)
theorem dJ2_add_2_19 : decode cJ2_add_2 19 = .ok (.putfield 48, 3) := dk_181 0 48 (dk_at dksJ2_add_2_0 19 rfl rfl)
theorem dJ2_add_2_22 : decode cJ2_add_2 22 = .ok (.return_, 1) := dk_177 (dk_at dksJ2_add_2_0 22 rfl rfl)
abbrev cJ2_grow : ByteArray := prog_37_method_7_code
def yJ2_grow : MethodName := ⟨RJ2, "grow", "()[Ljava/lang/Object;"⟩
def dkwJ2_grow_0 : List UInt8 := [42, 42, 180, 0, 48, 4, 96, 182, 0, 69, 176]
abbrev dktJ2_grow_0 : List UInt8 := dkwJ2_grow_0 ++ []
theorem dksJ2_grow_0 : cJ2_grow.data.toList.drop 0 = dktJ2_grow_0 := by decide +kernel
theorem dJ2_grow_0 : decode cJ2_grow 0 = .ok (.aload_n 0, 1) := dk_42 (dk_at dksJ2_grow_0 0 rfl rfl)
theorem dJ2_grow_1 : decode cJ2_grow 1 = .ok (.aload_n 0, 1) := dk_42 (dk_at dksJ2_grow_0 1 rfl rfl)
theorem dJ2_grow_2 : decode cJ2_grow 2 = .ok (.getfield 48, 3) := dk_180 0 48 (dk_at dksJ2_grow_0 2 rfl rfl)
theorem dJ2_grow_5 : decode cJ2_grow 5 = .ok (.iconst 1, 1) := dk_4 (dk_at dksJ2_grow_0 5 rfl rfl)
theorem dJ2_grow_6 : decode cJ2_grow 6 = .ok (.iadd, 1) := dk_96 (dk_at dksJ2_grow_0 6 rfl rfl)
theorem dJ2_grow_7 : decode cJ2_grow 7 = .ok (.invokevirtual 69, 3) := dk_182 0 69 (dk_at dksJ2_grow_0 7 rfl rfl)
theorem dJ2_grow_10 : decode cJ2_grow 10 = .ok (.areturn, 1) := dk_176 (dk_at dksJ2_grow_0 10 rfl rfl)
abbrev cJ2_grow_2 : ByteArray := prog_37_method_6_code
def yJ2_grow_2 : MethodName := ⟨RJ2, "grow", "(I)[Ljava/lang/Object;"⟩
def dkwJ2_grow_2_2 : List UInt8 := [27, 184, 0, 79, 189, 0, 7, 90, 181, 0, 9, 176]
abbrev dktJ2_grow_2_2 : List UInt8 := dkwJ2_grow_2_2 ++ []
def dkwJ2_grow_2_1 : List UInt8 := [28, 4, 122, 184, 0, 73, 62, 42, 42, 180, 0, 9, 29, 184, 0, 66, 90, 181, 0, 9, 176, 42, 16, 10]
abbrev dktJ2_grow_2_1 : List UInt8 := dkwJ2_grow_2_1 ++ dktJ2_grow_2_2
def dkwJ2_grow_2_0 : List UInt8 := [42, 180, 0, 9, 190, 61, 28, 157, 0, 13, 42, 180, 0, 9, 178, 0, 39, 165, 0, 28, 28, 27, 28, 100]
abbrev dktJ2_grow_2_0 : List UInt8 := dkwJ2_grow_2_0 ++ dktJ2_grow_2_1
theorem dksJ2_grow_2_0 : cJ2_grow_2.data.toList.drop 0 = dktJ2_grow_2_0 := by decide +kernel
theorem dksJ2_grow_2_1 : cJ2_grow_2.data.toList.drop 24 = dktJ2_grow_2_1 := dk_seg dksJ2_grow_2_0 24 rfl rfl
theorem dksJ2_grow_2_2 : cJ2_grow_2.data.toList.drop 48 = dktJ2_grow_2_2 := dk_seg dksJ2_grow_2_1 24 rfl rfl
theorem dJ2_grow_2_0 : decode cJ2_grow_2 0 = .ok (.aload_n 0, 1) := dk_42 (dk_at dksJ2_grow_2_0 0 rfl rfl)
theorem dJ2_grow_2_1 : decode cJ2_grow_2 1 = .ok (.getfield 9, 3) := dk_180 0 9 (dk_at dksJ2_grow_2_0 1 rfl rfl)
theorem dJ2_grow_2_4 : decode cJ2_grow_2 4 = .ok (.arraylength, 1) := dk_190 (dk_at dksJ2_grow_2_0 4 rfl rfl)
theorem dJ2_grow_2_5 : decode cJ2_grow_2 5 = .ok (.istore_n 2, 1) := dk_61 (dk_at dksJ2_grow_2_0 5 rfl rfl)
theorem dJ2_grow_2_6 : decode cJ2_grow_2 6 = .ok (.iload_n 2, 1) := dk_28 (dk_at dksJ2_grow_2_0 6 rfl rfl)
theorem dJ2_grow_2_7 : decode cJ2_grow_2 7 = .ok (.ifCond .gt 13, 3) := dk_157 0 13 (dk_at dksJ2_grow_2_0 7 rfl rfl)
theorem dJ2_grow_2_10 : decode cJ2_grow_2 10 = .ok (.aload_n 0, 1) := dk_42 (dk_at dksJ2_grow_2_0 10 rfl rfl)
theorem dJ2_grow_2_11 : decode cJ2_grow_2 11 = .ok (.getfield 9, 3) := dk_180 0 9 (dk_at dksJ2_grow_2_0 11 rfl rfl)
theorem dJ2_grow_2_14 : decode cJ2_grow_2 14 = .ok (.getstatic 39, 3) := dk_178 0 39 (dk_at dksJ2_grow_2_0 14 rfl rfl)
theorem dJ2_grow_2_17 : decode cJ2_grow_2 17 = .ok (.if_acmp .eq 28, 3) := dk_165 0 28 (dk_at dksJ2_grow_2_0 17 rfl rfl)
theorem dJ2_grow_2_20 : decode cJ2_grow_2 20 = .ok (.iload_n 2, 1) := dk_28 (dk_at dksJ2_grow_2_0 20 rfl rfl)
theorem dJ2_grow_2_21 : decode cJ2_grow_2 21 = .ok (.iload_n 1, 1) := dk_27 (dk_at dksJ2_grow_2_0 21 rfl rfl)
theorem dJ2_grow_2_22 : decode cJ2_grow_2 22 = .ok (.iload_n 2, 1) := dk_28 (dk_at dksJ2_grow_2_0 22 rfl rfl)
theorem dJ2_grow_2_23 : decode cJ2_grow_2 23 = .ok (.isub, 1) := dk_100 (dk_at dksJ2_grow_2_0 23 rfl rfl)
theorem dJ2_grow_2_24 : decode cJ2_grow_2 24 = .ok (.iload_n 2, 1) := dk_28 (dk_at dksJ2_grow_2_1 0 rfl rfl)
theorem dJ2_grow_2_25 : decode cJ2_grow_2 25 = .ok (.iconst 1, 1) := dk_4 (dk_at dksJ2_grow_2_1 1 rfl rfl)
theorem dJ2_grow_2_26 : decode cJ2_grow_2 26 = .ok (.ishr, 1) := dk_122 (dk_at dksJ2_grow_2_1 2 rfl rfl)
theorem dJ2_grow_2_27 : decode cJ2_grow_2 27 = .ok (.invokestatic 73, 3) := dk_184 0 73 (dk_at dksJ2_grow_2_1 3 rfl rfl)
theorem dJ2_grow_2_30 : decode cJ2_grow_2 30 = .ok (.istore_n 3, 1) := dk_62 (dk_at dksJ2_grow_2_1 6 rfl rfl)
theorem dJ2_grow_2_31 : decode cJ2_grow_2 31 = .ok (.aload_n 0, 1) := dk_42 (dk_at dksJ2_grow_2_1 7 rfl rfl)
theorem dJ2_grow_2_32 : decode cJ2_grow_2 32 = .ok (.aload_n 0, 1) := dk_42 (dk_at dksJ2_grow_2_1 8 rfl rfl)
theorem dJ2_grow_2_33 : decode cJ2_grow_2 33 = .ok (.getfield 9, 3) := dk_180 0 9 (dk_at dksJ2_grow_2_1 9 rfl rfl)
theorem dJ2_grow_2_36 : decode cJ2_grow_2 36 = .ok (.iload_n 3, 1) := dk_29 (dk_at dksJ2_grow_2_1 12 rfl rfl)
theorem dJ2_grow_2_37 : decode cJ2_grow_2 37 = .ok (.invokestatic 66, 3) := dk_184 0 66 (dk_at dksJ2_grow_2_1 13 rfl rfl)
theorem dJ2_grow_2_40 : decode cJ2_grow_2 40 = .ok (.dup_x1, 1) := dk_90 (dk_at dksJ2_grow_2_1 16 rfl rfl)
theorem dJ2_grow_2_41 : decode cJ2_grow_2 41 = .ok (.putfield 9, 3) := dk_181 0 9 (dk_at dksJ2_grow_2_1 17 rfl rfl)
theorem dJ2_grow_2_44 : decode cJ2_grow_2 44 = .ok (.areturn, 1) := dk_176 (dk_at dksJ2_grow_2_1 20 rfl rfl)
theorem dJ2_grow_2_45 : decode cJ2_grow_2 45 = .ok (.aload_n 0, 1) := dk_42 (dk_at dksJ2_grow_2_1 21 rfl rfl)
theorem dJ2_grow_2_46 : decode cJ2_grow_2 46 = .ok (.bipush 10, 2) := dk_16 10 (dk_at dksJ2_grow_2_1 22 rfl rfl)
theorem dJ2_grow_2_48 : decode cJ2_grow_2 48 = .ok (.iload_n 1, 1) := dk_27 (dk_at dksJ2_grow_2_2 0 rfl rfl)
theorem dJ2_grow_2_49 : decode cJ2_grow_2 49 = .ok (.invokestatic 79, 3) := dk_184 0 79 (dk_at dksJ2_grow_2_2 1 rfl rfl)
theorem dJ2_grow_2_52 : decode cJ2_grow_2 52 = .ok (.anewarray 7, 3) := dk_189 0 7 (dk_at dksJ2_grow_2_2 4 rfl rfl)
theorem dJ2_grow_2_55 : decode cJ2_grow_2 55 = .ok (.dup_x1, 1) := dk_90 (dk_at dksJ2_grow_2_2 7 rfl rfl)
theorem dJ2_grow_2_56 : decode cJ2_grow_2 56 = .ok (.putfield 9, 3) := dk_181 0 9 (dk_at dksJ2_grow_2_2 8 rfl rfl)
theorem dJ2_grow_2_59 : decode cJ2_grow_2 59 = .ok (.areturn, 1) := dk_176 (dk_at dksJ2_grow_2_2 11 rfl rfl)
abbrev cJ2_get : ByteArray := prog_37_method_20_code
def yJ2_get : MethodName := ⟨RJ2, "get", "(I)Ljava/lang/Object;"⟩
def dkwJ2_get_0 : List UInt8 := [27, 42, 180, 0, 48, 184, 0, 118, 87, 42, 27, 182, 0, 123, 176]
abbrev dktJ2_get_0 : List UInt8 := dkwJ2_get_0 ++ []
theorem dksJ2_get_0 : cJ2_get.data.toList.drop 0 = dktJ2_get_0 := by decide +kernel
theorem dJ2_get_0 : decode cJ2_get 0 = .ok (.iload_n 1, 1) := dk_27 (dk_at dksJ2_get_0 0 rfl rfl)
theorem dJ2_get_1 : decode cJ2_get 1 = .ok (.aload_n 0, 1) := dk_42 (dk_at dksJ2_get_0 1 rfl rfl)
theorem dJ2_get_2 : decode cJ2_get 2 = .ok (.getfield 48, 3) := dk_180 0 48 (dk_at dksJ2_get_0 2 rfl rfl)
theorem dJ2_get_5 : decode cJ2_get 5 = .ok (.invokestatic 118, 3) := dk_184 0 118 (dk_at dksJ2_get_0 5 rfl rfl)
theorem dJ2_get_8 : decode cJ2_get 8 = .ok (.pop, 1) := dk_87 (dk_at dksJ2_get_0 8 rfl rfl)
theorem dJ2_get_9 : decode cJ2_get 9 = .ok (.aload_n 0, 1) := dk_42 (dk_at dksJ2_get_0 9 rfl rfl)
theorem dJ2_get_10 : decode cJ2_get 10 = .ok (.iload_n 1, 1) := dk_27 (dk_at dksJ2_get_0 10 rfl rfl)
theorem dJ2_get_11 : decode cJ2_get 11 = .ok (.invokevirtual 123, 3) := dk_182 0 123 (dk_at dksJ2_get_0 11 rfl rfl)
theorem dJ2_get_14 : decode cJ2_get 14 = .ok (.areturn, 1) := dk_176 (dk_at dksJ2_get_0 14 rfl rfl)
abbrev cJ2_elementData : ByteArray := prog_37_method_18_code
def yJ2_elementData : MethodName := ⟨RJ2, "elementData", "(I)Ljava/lang/Object;"⟩
def dkwJ2_elementData_0 : List UInt8 := [42, 180, 0, 9, 27, 50, 176]
abbrev dktJ2_elementData_0 : List UInt8 := dkwJ2_elementData_0 ++ []
theorem dksJ2_elementData_0 : cJ2_elementData.data.toList.drop 0 = dktJ2_elementData_0 := by decide +kernel
theorem dJ2_elementData_0 : decode cJ2_elementData 0 = .ok (.aload_n 0, 1) := dk_42 (dk_at dksJ2_elementData_0 0 rfl rfl)
theorem dJ2_elementData_1 : decode cJ2_elementData 1 = .ok (.getfield 9, 3) := dk_180 0 9 (dk_at dksJ2_elementData_0 1 rfl rfl)
theorem dJ2_elementData_4 : decode cJ2_elementData 4 = .ok (.iload_n 1, 1) := dk_27 (dk_at dksJ2_elementData_0 4 rfl rfl)
theorem dJ2_elementData_5 : decode cJ2_elementData 5 = .ok (.aaload, 1) := dk_50 (dk_at dksJ2_elementData_0 5 rfl rfl)
theorem dJ2_elementData_6 : decode cJ2_elementData 6 = .ok (.areturn, 1) := dk_176 (dk_at dksJ2_elementData_0 6 rfl rfl)
abbrev cJ2_isEmpty : ByteArray := prog_37_method_9_code
def yJ2_isEmpty : MethodName := ⟨RJ2, "isEmpty", "()Z"⟩
def dkwJ2_isEmpty_0 : List UInt8 := [42, 180, 0, 48, 154, 0, 7, 4, 167, 0, 4, 3, 172]
abbrev dktJ2_isEmpty_0 : List UInt8 := dkwJ2_isEmpty_0 ++ []
theorem dksJ2_isEmpty_0 : cJ2_isEmpty.data.toList.drop 0 = dktJ2_isEmpty_0 := by decide +kernel
theorem dJ2_isEmpty_0 : decode cJ2_isEmpty 0 = .ok (.aload_n 0, 1) := dk_42 (dk_at dksJ2_isEmpty_0 0 rfl rfl)
theorem dJ2_isEmpty_1 : decode cJ2_isEmpty 1 = .ok (.getfield 48, 3) := dk_180 0 48 (dk_at dksJ2_isEmpty_0 1 rfl rfl)
theorem dJ2_isEmpty_4 : decode cJ2_isEmpty 4 = .ok (.ifCond .ne 7, 3) := dk_154 0 7 (dk_at dksJ2_isEmpty_0 4 rfl rfl)
theorem dJ2_isEmpty_7 : decode cJ2_isEmpty 7 = .ok (.iconst 1, 1) := dk_4 (dk_at dksJ2_isEmpty_0 7 rfl rfl)
theorem dJ2_isEmpty_8 : decode cJ2_isEmpty 8 = .ok (.goto 4, 3) := dk_167 0 4 (dk_at dksJ2_isEmpty_0 8 rfl rfl)
theorem dJ2_isEmpty_11 : decode cJ2_isEmpty 11 = .ok (.iconst 0, 1) := dk_3 (dk_at dksJ2_isEmpty_0 11 rfl rfl)
theorem dJ2_isEmpty_12 : decode cJ2_isEmpty 12 = .ok (.ireturn, 1) := dk_172 (dk_at dksJ2_isEmpty_0 12 rfl rfl)
abbrev cJ2_remove : ByteArray := prog_37_method_29_code
def yJ2_remove : MethodName := ⟨RJ2, "remove", "(I)Ljava/lang/Object;"⟩
def dkwJ2_remove_1 : List UInt8 := [45, 176]
abbrev dktJ2_remove_1 : List UInt8 := dkwJ2_remove_1 ++ []
def dkwJ2_remove_0 : List UInt8 := [27, 42, 180, 0, 48, 184, 0, 118, 87, 42, 180, 0, 9, 77, 44, 27, 50, 78, 42, 44, 27, 182, 0, 144]
abbrev dktJ2_remove_0 : List UInt8 := dkwJ2_remove_0 ++ dktJ2_remove_1
theorem dksJ2_remove_0 : cJ2_remove.data.toList.drop 0 = dktJ2_remove_0 := by decide +kernel
theorem dksJ2_remove_1 : cJ2_remove.data.toList.drop 24 = dktJ2_remove_1 := dk_seg dksJ2_remove_0 24 rfl rfl
theorem dJ2_remove_0 : decode cJ2_remove 0 = .ok (.iload_n 1, 1) := dk_27 (dk_at dksJ2_remove_0 0 rfl rfl)
theorem dJ2_remove_1 : decode cJ2_remove 1 = .ok (.aload_n 0, 1) := dk_42 (dk_at dksJ2_remove_0 1 rfl rfl)
theorem dJ2_remove_2 : decode cJ2_remove 2 = .ok (.getfield 48, 3) := dk_180 0 48 (dk_at dksJ2_remove_0 2 rfl rfl)
theorem dJ2_remove_5 : decode cJ2_remove 5 = .ok (.invokestatic 118, 3) := dk_184 0 118 (dk_at dksJ2_remove_0 5 rfl rfl)
theorem dJ2_remove_8 : decode cJ2_remove 8 = .ok (.pop, 1) := dk_87 (dk_at dksJ2_remove_0 8 rfl rfl)
theorem dJ2_remove_9 : decode cJ2_remove 9 = .ok (.aload_n 0, 1) := dk_42 (dk_at dksJ2_remove_0 9 rfl rfl)
theorem dJ2_remove_10 : decode cJ2_remove 10 = .ok (.getfield 9, 3) := dk_180 0 9 (dk_at dksJ2_remove_0 10 rfl rfl)
theorem dJ2_remove_13 : decode cJ2_remove 13 = .ok (.astore_n 2, 1) := dk_77 (dk_at dksJ2_remove_0 13 rfl rfl)
theorem dJ2_remove_14 : decode cJ2_remove 14 = .ok (.aload_n 2, 1) := dk_44 (dk_at dksJ2_remove_0 14 rfl rfl)
theorem dJ2_remove_15 : decode cJ2_remove 15 = .ok (.iload_n 1, 1) := dk_27 (dk_at dksJ2_remove_0 15 rfl rfl)
theorem dJ2_remove_16 : decode cJ2_remove 16 = .ok (.aaload, 1) := dk_50 (dk_at dksJ2_remove_0 16 rfl rfl)
theorem dJ2_remove_17 : decode cJ2_remove 17 = .ok (.astore_n 3, 1) := dk_78 (dk_at dksJ2_remove_0 17 rfl rfl)
theorem dJ2_remove_18 : decode cJ2_remove 18 = .ok (.aload_n 0, 1) := dk_42 (dk_at dksJ2_remove_0 18 rfl rfl)
theorem dJ2_remove_19 : decode cJ2_remove 19 = .ok (.aload_n 2, 1) := dk_44 (dk_at dksJ2_remove_0 19 rfl rfl)
theorem dJ2_remove_20 : decode cJ2_remove 20 = .ok (.iload_n 1, 1) := dk_27 (dk_at dksJ2_remove_0 20 rfl rfl)
theorem dJ2_remove_21 : decode cJ2_remove 21 = .ok (.invokevirtual 144, 3) := dk_182 0 144 (dk_at dksJ2_remove_0 21 rfl rfl)
theorem dJ2_remove_24 : decode cJ2_remove 24 = .ok (.aload_n 3, 1) := dk_45 (dk_at dksJ2_remove_1 0 rfl rfl)
theorem dJ2_remove_25 : decode cJ2_remove 25 = .ok (.areturn, 1) := dk_176 (dk_at dksJ2_remove_1 1 rfl rfl)
abbrev cJ2_fastRemove : ByteArray := prog_37_method_39_code
def yJ2_fastRemove : MethodName := ⟨RJ2, "fastRemove", "([Ljava/lang/Object;I)V"⟩
def dkwJ2_fastRemove_1 : List UInt8 := [4, 96, 43, 28, 29, 28, 100, 184, 0, 112, 43, 42, 29, 90, 181, 0, 48, 1, 83, 177]
abbrev dktJ2_fastRemove_1 : List UInt8 := dkwJ2_fastRemove_1 ++ []
def dkwJ2_fastRemove_0 : List UInt8 := [42, 89, 180, 0, 63, 4, 96, 181, 0, 63, 42, 180, 0, 48, 4, 100, 89, 62, 28, 164, 0, 15, 43, 28]
abbrev dktJ2_fastRemove_0 : List UInt8 := dkwJ2_fastRemove_0 ++ dktJ2_fastRemove_1
theorem dksJ2_fastRemove_0 : cJ2_fastRemove.data.toList.drop 0 = dktJ2_fastRemove_0 := by decide +kernel
theorem dksJ2_fastRemove_1 : cJ2_fastRemove.data.toList.drop 24 = dktJ2_fastRemove_1 := dk_seg dksJ2_fastRemove_0 24 rfl rfl
theorem dJ2_fastRemove_0 : decode cJ2_fastRemove 0 = .ok (.aload_n 0, 1) := dk_42 (dk_at dksJ2_fastRemove_0 0 rfl rfl)
theorem dJ2_fastRemove_1 : decode cJ2_fastRemove 1 = .ok (.dup, 1) := dk_89 (dk_at dksJ2_fastRemove_0 1 rfl rfl)
theorem dJ2_fastRemove_2 : decode cJ2_fastRemove 2 = .ok (.getfield 63, 3) := dk_180 0 63 (dk_at dksJ2_fastRemove_0 2 rfl rfl)
theorem dJ2_fastRemove_5 : decode cJ2_fastRemove 5 = .ok (.iconst 1, 1) := dk_4 (dk_at dksJ2_fastRemove_0 5 rfl rfl)
theorem dJ2_fastRemove_6 : decode cJ2_fastRemove 6 = .ok (.iadd, 1) := dk_96 (dk_at dksJ2_fastRemove_0 6 rfl rfl)
theorem dJ2_fastRemove_7 : decode cJ2_fastRemove 7 = .ok (.putfield 63, 3) := dk_181 0 63 (dk_at dksJ2_fastRemove_0 7 rfl rfl)
theorem dJ2_fastRemove_10 : decode cJ2_fastRemove 10 = .ok (.aload_n 0, 1) := dk_42 (dk_at dksJ2_fastRemove_0 10 rfl rfl)
theorem dJ2_fastRemove_11 : decode cJ2_fastRemove 11 = .ok (.getfield 48, 3) := dk_180 0 48 (dk_at dksJ2_fastRemove_0 11 rfl rfl)
theorem dJ2_fastRemove_14 : decode cJ2_fastRemove 14 = .ok (.iconst 1, 1) := dk_4 (dk_at dksJ2_fastRemove_0 14 rfl rfl)
theorem dJ2_fastRemove_15 : decode cJ2_fastRemove 15 = .ok (.isub, 1) := dk_100 (dk_at dksJ2_fastRemove_0 15 rfl rfl)
theorem dJ2_fastRemove_16 : decode cJ2_fastRemove 16 = .ok (.dup, 1) := dk_89 (dk_at dksJ2_fastRemove_0 16 rfl rfl)
theorem dJ2_fastRemove_17 : decode cJ2_fastRemove 17 = .ok (.istore_n 3, 1) := dk_62 (dk_at dksJ2_fastRemove_0 17 rfl rfl)
theorem dJ2_fastRemove_18 : decode cJ2_fastRemove 18 = .ok (.iload_n 2, 1) := dk_28 (dk_at dksJ2_fastRemove_0 18 rfl rfl)
theorem dJ2_fastRemove_19 : decode cJ2_fastRemove 19 = .ok (.if_icmp .le 15, 3) := dk_164 0 15 (dk_at dksJ2_fastRemove_0 19 rfl rfl)
theorem dJ2_fastRemove_22 : decode cJ2_fastRemove 22 = .ok (.aload_n 1, 1) := dk_43 (dk_at dksJ2_fastRemove_0 22 rfl rfl)
theorem dJ2_fastRemove_23 : decode cJ2_fastRemove 23 = .ok (.iload_n 2, 1) := dk_28 (dk_at dksJ2_fastRemove_0 23 rfl rfl)
theorem dJ2_fastRemove_24 : decode cJ2_fastRemove 24 = .ok (.iconst 1, 1) := dk_4 (dk_at dksJ2_fastRemove_1 0 rfl rfl)
theorem dJ2_fastRemove_25 : decode cJ2_fastRemove 25 = .ok (.iadd, 1) := dk_96 (dk_at dksJ2_fastRemove_1 1 rfl rfl)
theorem dJ2_fastRemove_26 : decode cJ2_fastRemove 26 = .ok (.aload_n 1, 1) := dk_43 (dk_at dksJ2_fastRemove_1 2 rfl rfl)
theorem dJ2_fastRemove_27 : decode cJ2_fastRemove 27 = .ok (.iload_n 2, 1) := dk_28 (dk_at dksJ2_fastRemove_1 3 rfl rfl)
theorem dJ2_fastRemove_28 : decode cJ2_fastRemove 28 = .ok (.iload_n 3, 1) := dk_29 (dk_at dksJ2_fastRemove_1 4 rfl rfl)
theorem dJ2_fastRemove_29 : decode cJ2_fastRemove 29 = .ok (.iload_n 2, 1) := dk_28 (dk_at dksJ2_fastRemove_1 5 rfl rfl)
theorem dJ2_fastRemove_30 : decode cJ2_fastRemove 30 = .ok (.isub, 1) := dk_100 (dk_at dksJ2_fastRemove_1 6 rfl rfl)
theorem dJ2_fastRemove_31 : decode cJ2_fastRemove 31 = .ok (.invokestatic 112, 3) := dk_184 0 112 (dk_at dksJ2_fastRemove_1 7 rfl rfl)
theorem dJ2_fastRemove_34 : decode cJ2_fastRemove 34 = .ok (.aload_n 1, 1) := dk_43 (dk_at dksJ2_fastRemove_1 10 rfl rfl)
theorem dJ2_fastRemove_35 : decode cJ2_fastRemove 35 = .ok (.aload_n 0, 1) := dk_42 (dk_at dksJ2_fastRemove_1 11 rfl rfl)
theorem dJ2_fastRemove_36 : decode cJ2_fastRemove 36 = .ok (.iload_n 3, 1) := dk_29 (dk_at dksJ2_fastRemove_1 12 rfl rfl)
theorem dJ2_fastRemove_37 : decode cJ2_fastRemove 37 = .ok (.dup_x1, 1) := dk_90 (dk_at dksJ2_fastRemove_1 13 rfl rfl)
theorem dJ2_fastRemove_38 : decode cJ2_fastRemove 38 = .ok (.putfield 48, 3) := dk_181 0 48 (dk_at dksJ2_fastRemove_1 14 rfl rfl)
theorem dJ2_fastRemove_41 : decode cJ2_fastRemove 41 = .ok (.aconst_null, 1) := dk_1 (dk_at dksJ2_fastRemove_1 17 rfl rfl)
theorem dJ2_fastRemove_42 : decode cJ2_fastRemove 42 = .ok (.aastore, 1) := dk_83 (dk_at dksJ2_fastRemove_1 18 rfl rfl)
theorem dJ2_fastRemove_43 : decode cJ2_fastRemove 43 = .ok (.return_, 1) := dk_177 (dk_at dksJ2_fastRemove_1 19 rfl rfl)
theorem q85 : (Jvm.Cond.initialized "java/util/ArrayList") ∈ lw_all := lw_g (lw_at lw_m1 5 rfl) rfl
theorem q128 : (Jvm.Cond.instantiable "java/util/ArrayList" (3 : Nat)) ∈ lw_all := lw_g (lw_at lw_m1 48 rfl) rfl
theorem q130 : (Jvm.Cond.instanceMethod ({ cls := "java/util/ArrayList", name := "<init>", desc := "()V" } : Jvm.MethodName)) ∈ lw_all := lw_g (lw_at lw_m1 50 rfl) rfl
theorem q131 : (Jvm.Cond.code ({ cls := "java/util/ArrayList", name := "<init>", desc := "()V" } : Jvm.MethodName) prog_37_method_2_code (1 : Nat) (Option.none : Option Jvm.ClassFile.FieldType)) ∈ lw_all := lw_g (lw_at lw_m1 51 rfl) rfl
theorem q132 : (Jvm.Cond.methodLink "java/util/ArrayList" (1 : Nat) ({ cls := "java/util/AbstractList", name := "<init>", desc := "()V" } : Jvm.MethodName)) ∈ lw_all := lw_g (lw_at lw_m1 52 rfl) rfl
theorem q139 : (Jvm.Cond.fieldLink "java/util/ArrayList" (39 : Nat) "java/util/ArrayList" "DEFAULTCAPACITY_EMPTY_ELEMENTDATA" "[Ljava/lang/Object;") ∈ lw_all := lw_g (lw_at lw_m1 59 rfl) rfl
theorem q140 : (Jvm.Cond.laysStatic "java/util/ArrayList" "DEFAULTCAPACITY_EMPTY_ELEMENTDATA" "[Ljava/lang/Object;") ∈ lw_tbl := lw_at lw_m1 60 rfl
theorem q141 : (Jvm.Cond.fieldLink "java/util/ArrayList" (9 : Nat) "java/util/ArrayList" "elementData" "[Ljava/lang/Object;") ∈ lw_all := lw_g (lw_at lw_m1 61 rfl) rfl
theorem q142 : (Jvm.Cond.fieldLink "java/util/ArrayList" (48 : Nat) "java/util/ArrayList" "size" "I") ∈ lw_all := lw_g (lw_at lw_m1 62 rfl) rfl
theorem q144 : (Jvm.Cond.fieldLink "java/util/ArrayList" (63 : Nat) "java/util/ArrayList" "modCount" "I") ∈ lw_all := lw_g (lw_at lw_m1 64 rfl) rfl
theorem q145 : (Jvm.Cond.sameField "java/util/ArrayList" "java/util/AbstractList" "modCount" "I") ∈ lw_all := lw_g (lw_at lw_m1 65 rfl) rfl
theorem q146 : (Jvm.Cond.lays "java/util/ArrayList" "java/util/ArrayList" "elementData" "[Ljava/lang/Object;") ∈ lw_all := lw_g (lw_at lw_m1 66 rfl) rfl
theorem q147 : (Jvm.Cond.soleField "java/util/ArrayList" "elementData") ∈ lw_all := lw_g (lw_at lw_m1 67 rfl) rfl
theorem q148 : (Jvm.Cond.lays "java/util/ArrayList" "java/util/ArrayList" "size" "I") ∈ lw_all := lw_g (lw_at lw_m1 68 rfl) rfl
theorem q149 : (Jvm.Cond.soleField "java/util/ArrayList" "size") ∈ lw_all := lw_g (lw_at lw_m1 69 rfl) rfl
theorem q150 : (Jvm.Cond.lays "java/util/ArrayList" "java/util/AbstractList" "modCount" "I") ∈ lw_all := lw_g (lw_at lw_m1 70 rfl) rfl
theorem q152 : (Jvm.Cond.superclass "java/util/ArrayList" "java/util/AbstractList") ∈ lw_all := lw_g (lw_at lw_m1 72 rfl) rfl
theorem q437 : (Jvm.Cond.instanceMethod ({ cls := "java/util/ArrayList", name := "size", desc := "()I" } : Jvm.MethodName)) ∈ lw_all := lw_g (lw_at lw_m2 117 rfl) rfl
theorem q438 : (Jvm.Cond.selects "java/util/ArrayList" ({ cls := "java/util/ArrayList", name := "size", desc := "()I" } : Jvm.MethodName) ({ cls := "java/util/ArrayList", name := "size", desc := "()I" } : Jvm.MethodName)) ∈ lw_all := lw_g (lw_at lw_m2 118 rfl) rfl
theorem q439 : (Jvm.Cond.code ({ cls := "java/util/ArrayList", name := "size", desc := "()I" } : Jvm.MethodName) prog_37_method_8_code (1 : Nat) (Option.some Jvm.ClassFile.FieldType.int)) ∈ lw_all := lw_g (lw_at lw_m2 119 rfl) rfl
theorem q499 : (Jvm.Cond.instanceMethod ({ cls := "java/util/ArrayList", name := "add", desc := "(Ljava/lang/Object;)Z" } : Jvm.MethodName)) ∈ lw_all := lw_g (lw_at lw_m2 179 rfl) rfl
theorem q500 : (Jvm.Cond.selects "java/util/ArrayList" ({ cls := "java/util/ArrayList", name := "add", desc := "(Ljava/lang/Object;)Z" } : Jvm.MethodName) ({ cls := "java/util/ArrayList", name := "add", desc := "(Ljava/lang/Object;)Z" } : Jvm.MethodName)) ∈ lw_all := lw_g (lw_at lw_m2 180 rfl) rfl
theorem q501 : (Jvm.Cond.code ({ cls := "java/util/ArrayList", name := "add", desc := "(Ljava/lang/Object;)Z" } : Jvm.MethodName) prog_37_method_25_code (2 : Nat) (Option.some Jvm.ClassFile.FieldType.boolean)) ∈ lw_all := lw_g (lw_at lw_m2 181 rfl) rfl
theorem q502 : (Jvm.Cond.methodLink "java/util/ArrayList" (131 : Nat) ({ cls := "java/util/ArrayList", name := "add", desc := "(Ljava/lang/Object;[Ljava/lang/Object;I)V" } : Jvm.MethodName)) ∈ lw_all := lw_g (lw_at lw_m2 182 rfl) rfl
theorem q503 : (Jvm.Cond.privateMethod ({ cls := "java/util/ArrayList", name := "add", desc := "(Ljava/lang/Object;[Ljava/lang/Object;I)V" } : Jvm.MethodName)) ∈ lw_tbl := lw_at lw_m2 183 rfl
theorem q504 : (Jvm.Cond.instanceMethod ({ cls := "java/util/ArrayList", name := "add", desc := "(Ljava/lang/Object;[Ljava/lang/Object;I)V" } : Jvm.MethodName)) ∈ lw_all := lw_g (lw_at lw_m2 184 rfl) rfl
theorem q505 : (Jvm.Cond.code ({ cls := "java/util/ArrayList", name := "add", desc := "(Ljava/lang/Object;[Ljava/lang/Object;I)V" } : Jvm.MethodName) prog_37_method_24_code (4 : Nat) (Option.none : Option Jvm.ClassFile.FieldType)) ∈ lw_all := lw_g (lw_at lw_m2 185 rfl) rfl
theorem q506 : (Jvm.Cond.methodLink "java/util/ArrayList" (129 : Nat) ({ cls := "java/util/ArrayList", name := "grow", desc := "()[Ljava/lang/Object;" } : Jvm.MethodName)) ∈ lw_all := lw_g (lw_at lw_m2 186 rfl) rfl
theorem q507 : (Jvm.Cond.privateMethod ({ cls := "java/util/ArrayList", name := "grow", desc := "()[Ljava/lang/Object;" } : Jvm.MethodName)) ∈ lw_tbl := lw_at lw_m2 187 rfl
theorem q508 : (Jvm.Cond.instanceMethod ({ cls := "java/util/ArrayList", name := "grow", desc := "()[Ljava/lang/Object;" } : Jvm.MethodName)) ∈ lw_all := lw_g (lw_at lw_m2 188 rfl) rfl
theorem q509 : (Jvm.Cond.code ({ cls := "java/util/ArrayList", name := "grow", desc := "()[Ljava/lang/Object;" } : Jvm.MethodName) prog_37_method_7_code (1 : Nat) (Option.some (Jvm.ClassFile.FieldType.array (Jvm.ClassFile.FieldType.object "java/lang/Object")))) ∈ lw_all := lw_g (lw_at lw_m2 189 rfl) rfl
theorem q510 : (Jvm.Cond.methodLink "java/util/ArrayList" (69 : Nat) ({ cls := "java/util/ArrayList", name := "grow", desc := "(I)[Ljava/lang/Object;" } : Jvm.MethodName)) ∈ lw_all := lw_g (lw_at lw_m2 190 rfl) rfl
theorem q511 : (Jvm.Cond.privateMethod ({ cls := "java/util/ArrayList", name := "grow", desc := "(I)[Ljava/lang/Object;" } : Jvm.MethodName)) ∈ lw_tbl := lw_at lw_m2 191 rfl
theorem q512 : (Jvm.Cond.instanceMethod ({ cls := "java/util/ArrayList", name := "grow", desc := "(I)[Ljava/lang/Object;" } : Jvm.MethodName)) ∈ lw_all := lw_g (lw_at lw_m2 192 rfl) rfl
theorem q513 : (Jvm.Cond.code ({ cls := "java/util/ArrayList", name := "grow", desc := "(I)[Ljava/lang/Object;" } : Jvm.MethodName) prog_37_method_6_code (4 : Nat) (Option.some (Jvm.ClassFile.FieldType.array (Jvm.ClassFile.FieldType.object "java/lang/Object")))) ∈ lw_all := lw_g (lw_at lw_m2 193 rfl) rfl
theorem q514 : (Jvm.Cond.methodLink "java/util/ArrayList" (73 : Nat) ({ cls := "jdk/internal/util/ArraysSupport", name := "newLength", desc := "(III)I" } : Jvm.MethodName)) ∈ lw_all := lw_g (lw_at lw_m2 194 rfl) rfl
theorem q524 : (Jvm.Cond.methodLink "java/util/ArrayList" (66 : Nat) ({ cls := "java/util/Arrays", name := "copyOf", desc := "([Ljava/lang/Object;I)[Ljava/lang/Object;" } : Jvm.MethodName)) ∈ lw_all := lw_g (lw_at lw_m2 204 rfl) rfl
theorem q547 : (Jvm.Cond.selects "java/util/ArrayList" ({ cls := "java/lang/Object", name := "getClass", desc := "()Ljava/lang/Class;" } : Jvm.MethodName) ({ cls := "java/lang/Object", name := "getClass", desc := "()Ljava/lang/Class;" } : Jvm.MethodName)) ∈ lw_all := lw_g (lw_at lw_m2 227 rfl) rfl
theorem q561 : (Jvm.Cond.methodLink "java/util/ArrayList" (79 : Nat) ({ cls := "java/lang/Math", name := "max", desc := "(II)I" } : Jvm.MethodName)) ∈ lw_all := lw_g (lw_at lw_m3 1 rfl) rfl
theorem q562 : (Jvm.Cond.classLink "java/util/ArrayList" (7 : Nat) "java/lang/Object") ∈ lw_all := lw_g (lw_at lw_m3 2 rfl) rfl
theorem q711 : (Jvm.Cond.instanceMethod ({ cls := "java/util/ArrayList", name := "get", desc := "(I)Ljava/lang/Object;" } : Jvm.MethodName)) ∈ lw_all := lw_g (lw_at lw_m3 151 rfl) rfl
theorem q712 : (Jvm.Cond.selects "java/util/ArrayList" ({ cls := "java/util/ArrayList", name := "get", desc := "(I)Ljava/lang/Object;" } : Jvm.MethodName) ({ cls := "java/util/ArrayList", name := "get", desc := "(I)Ljava/lang/Object;" } : Jvm.MethodName)) ∈ lw_all := lw_g (lw_at lw_m3 152 rfl) rfl
theorem q713 : (Jvm.Cond.code ({ cls := "java/util/ArrayList", name := "get", desc := "(I)Ljava/lang/Object;" } : Jvm.MethodName) prog_37_method_20_code (2 : Nat) (Option.some (Jvm.ClassFile.FieldType.object "java/lang/Object"))) ∈ lw_all := lw_g (lw_at lw_m3 153 rfl) rfl
theorem q714 : (Jvm.Cond.methodLink "java/util/ArrayList" (118 : Nat) ({ cls := "java/util/Objects", name := "checkIndex", desc := "(II)I" } : Jvm.MethodName)) ∈ lw_all := lw_g (lw_at lw_m3 154 rfl) rfl
theorem q720 : (Jvm.Cond.methodLink "java/util/ArrayList" (123 : Nat) ({ cls := "java/util/ArrayList", name := "elementData", desc := "(I)Ljava/lang/Object;" } : Jvm.MethodName)) ∈ lw_all := lw_g (lw_at lw_m3 160 rfl) rfl
theorem q721 : (Jvm.Cond.instanceMethod ({ cls := "java/util/ArrayList", name := "elementData", desc := "(I)Ljava/lang/Object;" } : Jvm.MethodName)) ∈ lw_all := lw_g (lw_at lw_m3 161 rfl) rfl
theorem q722 : (Jvm.Cond.selects "java/util/ArrayList" ({ cls := "java/util/ArrayList", name := "elementData", desc := "(I)Ljava/lang/Object;" } : Jvm.MethodName) ({ cls := "java/util/ArrayList", name := "elementData", desc := "(I)Ljava/lang/Object;" } : Jvm.MethodName)) ∈ lw_all := lw_g (lw_at lw_m3 162 rfl) rfl
theorem q723 : (Jvm.Cond.code ({ cls := "java/util/ArrayList", name := "elementData", desc := "(I)Ljava/lang/Object;" } : Jvm.MethodName) prog_37_method_18_code (2 : Nat) (Option.some (Jvm.ClassFile.FieldType.object "java/lang/Object"))) ∈ lw_all := lw_g (lw_at lw_m3 163 rfl) rfl
theorem q1020 : (Jvm.Cond.instanceMethod ({ cls := "java/util/ArrayList", name := "isEmpty", desc := "()Z" } : Jvm.MethodName)) ∈ lw_all := lw_g (lw_at lw_m4 220 rfl) rfl
theorem q1021 : (Jvm.Cond.selects "java/util/ArrayList" ({ cls := "java/util/ArrayList", name := "isEmpty", desc := "()Z" } : Jvm.MethodName) ({ cls := "java/util/ArrayList", name := "isEmpty", desc := "()Z" } : Jvm.MethodName)) ∈ lw_all := lw_g (lw_at lw_m4 221 rfl) rfl
theorem q1022 : (Jvm.Cond.code ({ cls := "java/util/ArrayList", name := "isEmpty", desc := "()Z" } : Jvm.MethodName) prog_37_method_9_code (1 : Nat) (Option.some Jvm.ClassFile.FieldType.boolean)) ∈ lw_all := lw_g (lw_at lw_m4 222 rfl) rfl
theorem q1224 : (Jvm.Cond.instanceMethod ({ cls := "java/util/ArrayList", name := "remove", desc := "(I)Ljava/lang/Object;" } : Jvm.MethodName)) ∈ lw_all := lw_g (lw_at lw_m5 184 rfl) rfl
theorem q1225 : (Jvm.Cond.selects "java/util/ArrayList" ({ cls := "java/util/ArrayList", name := "remove", desc := "(I)Ljava/lang/Object;" } : Jvm.MethodName) ({ cls := "java/util/ArrayList", name := "remove", desc := "(I)Ljava/lang/Object;" } : Jvm.MethodName)) ∈ lw_all := lw_g (lw_at lw_m5 185 rfl) rfl
theorem q1226 : (Jvm.Cond.code ({ cls := "java/util/ArrayList", name := "remove", desc := "(I)Ljava/lang/Object;" } : Jvm.MethodName) prog_37_method_29_code (4 : Nat) (Option.some (Jvm.ClassFile.FieldType.object "java/lang/Object"))) ∈ lw_all := lw_g (lw_at lw_m5 186 rfl) rfl
theorem q1227 : (Jvm.Cond.methodLink "java/util/ArrayList" (144 : Nat) ({ cls := "java/util/ArrayList", name := "fastRemove", desc := "([Ljava/lang/Object;I)V" } : Jvm.MethodName)) ∈ lw_all := lw_g (lw_at lw_m5 187 rfl) rfl
theorem q1228 : (Jvm.Cond.privateMethod ({ cls := "java/util/ArrayList", name := "fastRemove", desc := "([Ljava/lang/Object;I)V" } : Jvm.MethodName)) ∈ lw_tbl := lw_at lw_m5 188 rfl
theorem q1229 : (Jvm.Cond.instanceMethod ({ cls := "java/util/ArrayList", name := "fastRemove", desc := "([Ljava/lang/Object;I)V" } : Jvm.MethodName)) ∈ lw_all := lw_g (lw_at lw_m5 189 rfl) rfl
theorem q1230 : (Jvm.Cond.code ({ cls := "java/util/ArrayList", name := "fastRemove", desc := "([Ljava/lang/Object;I)V" } : Jvm.MethodName) prog_37_method_39_code (4 : Nat) (Option.none : Option Jvm.ClassFile.FieldType)) ∈ lw_all := lw_g (lw_at lw_m5 190 rfl) rfl
theorem q1231 : (Jvm.Cond.methodLink "java/util/ArrayList" (112 : Nat) ({ cls := "java/lang/System", name := "arraycopy", desc := "(Ljava/lang/Object;ILjava/lang/Object;II)V" } : Jvm.MethodName)) ∈ lw_all := lw_g (lw_at lw_m5 191 rfl) rfl
theorem q1698 : (Jvm.Cond.castable "java/util/ArrayList" "java/lang/Object") ∈ lw_tbl := lw_at lw_m7 178 rfl
theorem in_J2 : ∀ w ∈ wsJ20, w ∈ lw_all := lw_in wsJ20 [150, 146, 148] (by decide +kernel) (by decide +kernel)

/-! java/lang/Throwable -/
set_option maxRecDepth 100000
def RJ3 : String := "java/lang/Throwable"
def TJ3 : u_T := fun k => match k with
  | 0 => ("java/lang/Throwable", "cause", "Ljava/lang/Throwable;", false)
  | 1 => ("java/lang/Throwable", "stackTrace", "[Ljava/lang/StackTraceElement;", false)
  | 2 => ("java/lang/Throwable", "suppressedExceptions", "Ljava/util/List;", false)
  | 3 => ("java/lang/Throwable", "detailMessage", "Ljava/lang/String;", false)
  | _ => ("java/lang/Throwable", "backtrace", "Ljava/lang/Object;", false)
def tyJ3 : Nat → FieldType := fun k => match k with
  | 0 => .object "java/lang/Throwable"
  | 1 => .array (.object "java/lang/StackTraceElement")
  | 2 => .object "java/util/List"
  | 3 => .object "java/lang/String"
  | _ => .object "java/lang/Object"
abbrev wsJ30 : List Cond := u_ws RJ3 TJ3 5
theorem nmJ3 : ∀ a, a < 5 → ∀ b, b < 5 → a ≠ b → (TJ3 a).2.1 ≠ (TJ3 b).2.1 := by decide +kernel
theorem tyJ3_ok : ∀ k, k < 5 → parseFieldDescriptor (TJ3 k).2.2.1 = some (tyJ3 k) := by decide +kernel
abbrev cJ3_init : ByteArray := prog_32_method_1_code
def yJ3_init : MethodName := ⟨RJ3, "<init>", "()V"⟩
def dkwJ3_init_1 : List UInt8 := [182, 0, 27, 87, 177]
abbrev dktJ3_init_1 : List UInt8 := dkwJ3_init_1 ++ []
def dkwJ3_init_0 : List UInt8 := [42, 183, 0, 1, 42, 42, 181, 0, 7, 42, 178, 0, 13, 181, 0, 17, 42, 178, 0, 20, 181, 0, 24, 42]
abbrev dktJ3_init_0 : List UInt8 := dkwJ3_init_0 ++ dktJ3_init_1
theorem dksJ3_init_0 : cJ3_init.data.toList.drop 0 = dktJ3_init_0 := by decide +kernel
theorem dksJ3_init_1 : cJ3_init.data.toList.drop 24 = dktJ3_init_1 := dk_seg dksJ3_init_0 24 rfl rfl
theorem dJ3_init_0 : decode cJ3_init 0 = .ok (.aload_n 0, 1) := dk_42 (dk_at dksJ3_init_0 0 rfl rfl)
theorem dJ3_init_1 : decode cJ3_init 1 = .ok (.invokespecial 1, 3) := dk_183 0 1 (dk_at dksJ3_init_0 1 rfl rfl)
theorem dJ3_init_4 : decode cJ3_init 4 = .ok (.aload_n 0, 1) := dk_42 (dk_at dksJ3_init_0 4 rfl rfl)
theorem dJ3_init_5 : decode cJ3_init 5 = .ok (.aload_n 0, 1) := dk_42 (dk_at dksJ3_init_0 5 rfl rfl)
theorem dJ3_init_6 : decode cJ3_init 6 = .ok (.putfield 7, 3) := dk_181 0 7 (dk_at dksJ3_init_0 6 rfl rfl)
theorem dJ3_init_9 : decode cJ3_init 9 = .ok (.aload_n 0, 1) := dk_42 (dk_at dksJ3_init_0 9 rfl rfl)
theorem dJ3_init_10 : decode cJ3_init 10 = .ok (.getstatic 13, 3) := dk_178 0 13 (dk_at dksJ3_init_0 10 rfl rfl)
theorem dJ3_init_13 : decode cJ3_init 13 = .ok (.putfield 17, 3) := dk_181 0 17 (dk_at dksJ3_init_0 13 rfl rfl)
theorem dJ3_init_16 : decode cJ3_init 16 = .ok (.aload_n 0, 1) := dk_42 (dk_at dksJ3_init_0 16 rfl rfl)
theorem dJ3_init_17 : decode cJ3_init 17 = .ok (.getstatic 20, 3) := dk_178 0 20 (dk_at dksJ3_init_0 17 rfl rfl)
theorem dJ3_init_20 : decode cJ3_init 20 = .ok (.putfield 24, 3) := dk_181 0 24 (dk_at dksJ3_init_0 20 rfl rfl)
theorem dJ3_init_23 : decode cJ3_init 23 = .ok (.aload_n 0, 1) := dk_42 (dk_at dksJ3_init_0 23 rfl rfl)
theorem dJ3_init_24 : decode cJ3_init 24 = .ok (.invokevirtual 27, 3) := dk_182 0 27 (dk_at dksJ3_init_1 0 rfl rfl)
theorem dJ3_init_27 : decode cJ3_init 27 = .ok (.pop, 1) := dk_87 (dk_at dksJ3_init_1 3 rfl rfl)
theorem dJ3_init_28 : decode cJ3_init 28 = .ok (.return_, 1) := dk_177 (dk_at dksJ3_init_1 4 rfl rfl)
abbrev cJ3_init_2 : ByteArray := prog_32_method_5_code
def yJ3_init_2 : MethodName := ⟨RJ3, "<init>", "(Ljava/lang/String;Ljava/lang/Throwable;ZZ)V"⟩
def dkwJ3_init_2_2 : List UInt8 := [44, 181, 0, 7, 29, 154, 0, 8, 42, 1, 181, 0, 24, 177]
abbrev dktJ3_init_2_2 : List UInt8 := dkwJ3_init_2_2 ++ []
def dkwJ3_init_2_1 : List UInt8 := [21, 4, 153, 0, 11, 42, 182, 0, 27, 87, 167, 0, 8, 42, 1, 181, 0, 17, 42, 43, 181, 0, 31, 42]
abbrev dktJ3_init_2_1 : List UInt8 := dkwJ3_init_2_1 ++ dktJ3_init_2_2
def dkwJ3_init_2_0 : List UInt8 := [42, 183, 0, 1, 42, 42, 181, 0, 7, 42, 178, 0, 13, 181, 0, 17, 42, 178, 0, 20, 181, 0, 24]
abbrev dktJ3_init_2_0 : List UInt8 := dkwJ3_init_2_0 ++ dktJ3_init_2_1
theorem dksJ3_init_2_0 : cJ3_init_2.data.toList.drop 0 = dktJ3_init_2_0 := by decide +kernel
theorem dksJ3_init_2_1 : cJ3_init_2.data.toList.drop 23 = dktJ3_init_2_1 := dk_seg dksJ3_init_2_0 23 rfl rfl
theorem dksJ3_init_2_2 : cJ3_init_2.data.toList.drop 47 = dktJ3_init_2_2 := dk_seg dksJ3_init_2_1 24 rfl rfl
theorem dJ3_init_2_0 : decode cJ3_init_2 0 = .ok (.aload_n 0, 1) := dk_42 (dk_at dksJ3_init_2_0 0 rfl rfl)
theorem dJ3_init_2_1 : decode cJ3_init_2 1 = .ok (.invokespecial 1, 3) := dk_183 0 1 (dk_at dksJ3_init_2_0 1 rfl rfl)
theorem dJ3_init_2_4 : decode cJ3_init_2 4 = .ok (.aload_n 0, 1) := dk_42 (dk_at dksJ3_init_2_0 4 rfl rfl)
theorem dJ3_init_2_5 : decode cJ3_init_2 5 = .ok (.aload_n 0, 1) := dk_42 (dk_at dksJ3_init_2_0 5 rfl rfl)
theorem dJ3_init_2_6 : decode cJ3_init_2 6 = .ok (.putfield 7, 3) := dk_181 0 7 (dk_at dksJ3_init_2_0 6 rfl rfl)
theorem dJ3_init_2_9 : decode cJ3_init_2 9 = .ok (.aload_n 0, 1) := dk_42 (dk_at dksJ3_init_2_0 9 rfl rfl)
theorem dJ3_init_2_10 : decode cJ3_init_2 10 = .ok (.getstatic 13, 3) := dk_178 0 13 (dk_at dksJ3_init_2_0 10 rfl rfl)
theorem dJ3_init_2_13 : decode cJ3_init_2 13 = .ok (.putfield 17, 3) := dk_181 0 17 (dk_at dksJ3_init_2_0 13 rfl rfl)
theorem dJ3_init_2_16 : decode cJ3_init_2 16 = .ok (.aload_n 0, 1) := dk_42 (dk_at dksJ3_init_2_0 16 rfl rfl)
theorem dJ3_init_2_17 : decode cJ3_init_2 17 = .ok (.getstatic 20, 3) := dk_178 0 20 (dk_at dksJ3_init_2_0 17 rfl rfl)
theorem dJ3_init_2_20 : decode cJ3_init_2 20 = .ok (.putfield 24, 3) := dk_181 0 24 (dk_at dksJ3_init_2_0 20 rfl rfl)
theorem dJ3_init_2_23 : decode cJ3_init_2 23 = .ok (.iload 4, 2) := dk_21 4 (dk_at dksJ3_init_2_1 0 rfl rfl)
theorem dJ3_init_2_25 : decode cJ3_init_2 25 = .ok (.ifCond .eq 11, 3) := dk_153 0 11 (dk_at dksJ3_init_2_1 2 rfl rfl)
theorem dJ3_init_2_28 : decode cJ3_init_2 28 = .ok (.aload_n 0, 1) := dk_42 (dk_at dksJ3_init_2_1 5 rfl rfl)
theorem dJ3_init_2_29 : decode cJ3_init_2 29 = .ok (.invokevirtual 27, 3) := dk_182 0 27 (dk_at dksJ3_init_2_1 6 rfl rfl)
theorem dJ3_init_2_32 : decode cJ3_init_2 32 = .ok (.pop, 1) := dk_87 (dk_at dksJ3_init_2_1 9 rfl rfl)
theorem dJ3_init_2_33 : decode cJ3_init_2 33 = .ok (.goto 8, 3) := dk_167 0 8 (dk_at dksJ3_init_2_1 10 rfl rfl)
theorem dJ3_init_2_36 : decode cJ3_init_2 36 = .ok (.aload_n 0, 1) := dk_42 (dk_at dksJ3_init_2_1 13 rfl rfl)
theorem dJ3_init_2_37 : decode cJ3_init_2 37 = .ok (.aconst_null, 1) := dk_1 (dk_at dksJ3_init_2_1 14 rfl rfl)
theorem dJ3_init_2_38 : decode cJ3_init_2 38 = .ok (.putfield 17, 3) := dk_181 0 17 (dk_at dksJ3_init_2_1 15 rfl rfl)
theorem dJ3_init_2_41 : decode cJ3_init_2 41 = .ok (.aload_n 0, 1) := dk_42 (dk_at dksJ3_init_2_1 18 rfl rfl)
theorem dJ3_init_2_42 : decode cJ3_init_2 42 = .ok (.aload_n 1, 1) := dk_43 (dk_at dksJ3_init_2_1 19 rfl rfl)
theorem dJ3_init_2_43 : decode cJ3_init_2 43 = .ok (.putfield 31, 3) := dk_181 0 31 (dk_at dksJ3_init_2_1 20 rfl rfl)
theorem dJ3_init_2_46 : decode cJ3_init_2 46 = .ok (.aload_n 0, 1) := dk_42 (dk_at dksJ3_init_2_1 23 rfl rfl)
theorem dJ3_init_2_47 : decode cJ3_init_2 47 = .ok (.aload_n 2, 1) := dk_44 (dk_at dksJ3_init_2_2 0 rfl rfl)
theorem dJ3_init_2_48 : decode cJ3_init_2 48 = .ok (.putfield 7, 3) := dk_181 0 7 (dk_at dksJ3_init_2_2 1 rfl rfl)
theorem dJ3_init_2_51 : decode cJ3_init_2 51 = .ok (.iload_n 3, 1) := dk_29 (dk_at dksJ3_init_2_2 4 rfl rfl)
theorem dJ3_init_2_52 : decode cJ3_init_2 52 = .ok (.ifCond .ne 8, 3) := dk_154 0 8 (dk_at dksJ3_init_2_2 5 rfl rfl)
theorem dJ3_init_2_55 : decode cJ3_init_2 55 = .ok (.aload_n 0, 1) := dk_42 (dk_at dksJ3_init_2_2 8 rfl rfl)
theorem dJ3_init_2_56 : decode cJ3_init_2 56 = .ok (.aconst_null, 1) := dk_1 (dk_at dksJ3_init_2_2 9 rfl rfl)
theorem dJ3_init_2_57 : decode cJ3_init_2 57 = .ok (.putfield 24, 3) := dk_181 0 24 (dk_at dksJ3_init_2_2 10 rfl rfl)
theorem dJ3_init_2_60 : decode cJ3_init_2 60 = .ok (.return_, 1) := dk_177 (dk_at dksJ3_init_2_2 13 rfl rfl)
theorem q89 : (Jvm.Cond.initialized "java/lang/Throwable") ∈ lw_all := lw_g (lw_at lw_m1 9 rfl) rfl
theorem q370 : (Jvm.Cond.declares ({ cls := "java/lang/Throwable", name := "<init>", desc := "()V" } : Jvm.MethodName)) ∈ lw_tbl := lw_at lw_m2 50 rfl
theorem q371 : (Jvm.Cond.declares ({ cls := "java/lang/Throwable", name := "<init>", desc := "(Ljava/lang/String;)V" } : Jvm.MethodName)) ∈ lw_tbl := lw_at lw_m2 51 rfl
theorem q375 : (Jvm.Cond.lays "java/lang/Throwable" "java/lang/Throwable" "cause" "Ljava/lang/Throwable;") ∈ lw_all := lw_g (lw_at lw_m2 55 rfl) rfl
theorem q377 : (Jvm.Cond.lays "java/lang/Throwable" "java/lang/Throwable" "stackTrace" "[Ljava/lang/StackTraceElement;") ∈ lw_all := lw_g (lw_at lw_m2 57 rfl) rfl
theorem q379 : (Jvm.Cond.lays "java/lang/Throwable" "java/lang/Throwable" "suppressedExceptions" "Ljava/util/List;") ∈ lw_all := lw_g (lw_at lw_m2 59 rfl) rfl
theorem q381 : (Jvm.Cond.lays "java/lang/Throwable" "java/lang/Throwable" "detailMessage" "Ljava/lang/String;") ∈ lw_all := lw_g (lw_at lw_m2 61 rfl) rfl
theorem q383 : (Jvm.Cond.lays "java/lang/Throwable" "java/lang/Throwable" "backtrace" "Ljava/lang/Object;") ∈ lw_all := lw_g (lw_at lw_m2 63 rfl) rfl
theorem q384 : (Jvm.Cond.fieldLink "java/lang/Throwable" (198 : Nat) "java/lang/Throwable" "backtrace" "Ljava/lang/Object;") ∈ lw_all := lw_g (lw_at lw_m2 64 rfl) rfl
theorem q385 : (Jvm.Cond.superclass "java/lang/Throwable" "java/lang/Object") ∈ lw_all := lw_g (lw_at lw_m2 65 rfl) rfl
theorem q386 : (Jvm.Cond.instanceMethod ({ cls := "java/lang/Throwable", name := "<init>", desc := "()V" } : Jvm.MethodName)) ∈ lw_all := lw_g (lw_at lw_m2 66 rfl) rfl
theorem q387 : (Jvm.Cond.code ({ cls := "java/lang/Throwable", name := "<init>", desc := "()V" } : Jvm.MethodName) prog_32_method_1_code (1 : Nat) (Option.none : Option Jvm.ClassFile.FieldType)) ∈ lw_all := lw_g (lw_at lw_m2 67 rfl) rfl
theorem q388 : (Jvm.Cond.methodLink "java/lang/Throwable" (1 : Nat) ({ cls := "java/lang/Object", name := "<init>", desc := "()V" } : Jvm.MethodName)) ∈ lw_all := lw_g (lw_at lw_m2 68 rfl) rfl
theorem q389 : (Jvm.Cond.fieldLink "java/lang/Throwable" (13 : Nat) "java/lang/Throwable" "UNASSIGNED_STACK" "[Ljava/lang/StackTraceElement;") ∈ lw_all := lw_g (lw_at lw_m2 69 rfl) rfl
theorem q390 : (Jvm.Cond.laysStatic "java/lang/Throwable" "UNASSIGNED_STACK" "[Ljava/lang/StackTraceElement;") ∈ lw_tbl := lw_at lw_m2 70 rfl
theorem q391 : (Jvm.Cond.fieldLink "java/lang/Throwable" (20 : Nat) "java/lang/Throwable" "SUPPRESSED_SENTINEL" "Ljava/util/List;") ∈ lw_all := lw_g (lw_at lw_m2 71 rfl) rfl
theorem q392 : (Jvm.Cond.laysStatic "java/lang/Throwable" "SUPPRESSED_SENTINEL" "Ljava/util/List;") ∈ lw_tbl := lw_at lw_m2 72 rfl
theorem q393 : (Jvm.Cond.methodLink "java/lang/Throwable" (27 : Nat) ({ cls := "java/lang/Throwable", name := "fillInStackTrace", desc := "()Ljava/lang/Throwable;" } : Jvm.MethodName)) ∈ lw_all := lw_g (lw_at lw_m2 73 rfl) rfl
theorem q394 : (Jvm.Cond.instanceMethod ({ cls := "java/lang/Throwable", name := "fillInStackTrace", desc := "()Ljava/lang/Throwable;" } : Jvm.MethodName)) ∈ lw_all := lw_g (lw_at lw_m2 74 rfl) rfl
theorem q395 : (Jvm.Cond.sameMethod "java/lang/Throwable" "java/lang/Throwable" "fillInStackTrace" "()Ljava/lang/Throwable;") ∈ lw_all := lw_g (lw_at lw_m2 75 rfl) rfl
theorem q396 : (Jvm.Cond.codeSync ({ cls := "java/lang/Throwable", name := "fillInStackTrace", desc := "()Ljava/lang/Throwable;" } : Jvm.MethodName) prog_32_method_18_code (1 : Nat) (Option.some (Jvm.ClassFile.FieldType.object "java/lang/Throwable"))) ∈ lw_all := lw_g (lw_at lw_m2 76 rfl) rfl
theorem q397 : (Jvm.Cond.methodLink "java/lang/Throwable" (202 : Nat) ({ cls := "java/lang/Throwable", name := "fillInStackTrace", desc := "(I)Ljava/lang/Throwable;" } : Jvm.MethodName)) ∈ lw_all := lw_g (lw_at lw_m2 77 rfl) rfl
theorem q398 : (Jvm.Cond.privateMethod ({ cls := "java/lang/Throwable", name := "fillInStackTrace", desc := "(I)Ljava/lang/Throwable;" } : Jvm.MethodName)) ∈ lw_tbl := lw_at lw_m2 78 rfl
theorem q399 : (Jvm.Cond.instanceMethod ({ cls := "java/lang/Throwable", name := "fillInStackTrace", desc := "(I)Ljava/lang/Throwable;" } : Jvm.MethodName)) ∈ lw_all := lw_g (lw_at lw_m2 79 rfl) rfl
theorem q400 : (Jvm.Cond.instantiable "java/lang/Throwable" (6 : Nat)) ∈ lw_all := lw_g (lw_at lw_m2 80 rfl) rfl
theorem q401 : (Jvm.Cond.native ({ cls := "java/lang/Throwable", name := "fillInStackTrace", desc := "(I)Ljava/lang/Throwable;" } : Jvm.MethodName)) ∈ lw_all := lw_g (lw_at lw_m2 81 rfl) rfl
theorem q409 : (Jvm.Cond.instanceMethod ({ cls := "java/lang/Throwable", name := "<init>", desc := "(Ljava/lang/String;Ljava/lang/Throwable;ZZ)V" } : Jvm.MethodName)) ∈ lw_all := lw_g (lw_at lw_m2 89 rfl) rfl
theorem q410 : (Jvm.Cond.code ({ cls := "java/lang/Throwable", name := "<init>", desc := "(Ljava/lang/String;Ljava/lang/Throwable;ZZ)V" } : Jvm.MethodName) prog_32_method_5_code (5 : Nat) (Option.none : Option Jvm.ClassFile.FieldType)) ∈ lw_all := lw_g (lw_at lw_m2 90 rfl) rfl
theorem q413 : (Jvm.Cond.fieldLink "java/lang/Throwable" (198 : Nat) "java/lang/Throwable" "backtrace" "Ljava/lang/Object;") ∈ lw_all := lw_g (lw_at lw_m2 93 rfl) rfl
theorem q414 : (Jvm.Cond.fieldLink "java/lang/Throwable" (31 : Nat) "java/lang/Throwable" "detailMessage" "Ljava/lang/String;") ∈ lw_all := lw_g (lw_at lw_m2 94 rfl) rfl
theorem q415 : (Jvm.Cond.fieldLink "java/lang/Throwable" (7 : Nat) "java/lang/Throwable" "cause" "Ljava/lang/Throwable;") ∈ lw_all := lw_g (lw_at lw_m2 95 rfl) rfl
theorem q416 : (Jvm.Cond.fieldLink "java/lang/Throwable" (17 : Nat) "java/lang/Throwable" "stackTrace" "[Ljava/lang/StackTraceElement;") ∈ lw_all := lw_g (lw_at lw_m2 96 rfl) rfl
theorem q417 : (Jvm.Cond.fieldLink "java/lang/Throwable" (24 : Nat) "java/lang/Throwable" "suppressedExceptions" "Ljava/util/List;") ∈ lw_all := lw_g (lw_at lw_m2 97 rfl) rfl
theorem q420 : (Jvm.Cond.soleField "java/lang/Throwable" "backtrace") ∈ lw_all := lw_g (lw_at lw_m2 100 rfl) rfl
theorem q421 : (Jvm.Cond.soleField "java/lang/Throwable" "detailMessage") ∈ lw_all := lw_g (lw_at lw_m2 101 rfl) rfl
theorem q422 : (Jvm.Cond.soleField "java/lang/Throwable" "cause") ∈ lw_all := lw_g (lw_at lw_m2 102 rfl) rfl
theorem q423 : (Jvm.Cond.soleField "java/lang/Throwable" "stackTrace") ∈ lw_all := lw_g (lw_at lw_m2 103 rfl) rfl
theorem q425 : (Jvm.Cond.soleField "java/lang/Throwable" "depth") ∈ lw_all := lw_g (lw_at lw_m2 105 rfl) rfl
theorem q426 : (Jvm.Cond.soleField "java/lang/Throwable" "suppressedExceptions") ∈ lw_all := lw_g (lw_at lw_m2 106 rfl) rfl
theorem q1682 : (Jvm.Cond.sameMethod "java/lang/Throwable" "java/lang/Throwable" "fillInStackTrace" "(I)Ljava/lang/Throwable;") ∈ lw_all := lw_g (lw_at lw_m7 162 rfl) rfl
theorem q1714 : (Jvm.Cond.castable "java/lang/Throwable" "java/lang/Object") ∈ lw_tbl := lw_at lw_m7 194 rfl
theorem in_J3 : ∀ w ∈ wsJ30, w ∈ lw_all := lw_in wsJ30 [375, 377, 379, 381, 383] (by decide +kernel) (by decide +kernel)

/-! java/lang/Exception -/
set_option maxRecDepth 100000
def RJ4 : String := "java/lang/Exception"
abbrev cJ4_init : ByteArray := prog_24_method_5_code
def yJ4_init : MethodName := ⟨RJ4, "<init>", "(Ljava/lang/String;Ljava/lang/Throwable;ZZ)V"⟩
def dkwJ4_init_0 : List UInt8 := [42, 43, 44, 29, 21, 4, 183, 0, 16, 177]
abbrev dktJ4_init_0 : List UInt8 := dkwJ4_init_0 ++ []
theorem dksJ4_init_0 : cJ4_init.data.toList.drop 0 = dktJ4_init_0 := by decide +kernel
theorem dJ4_init_0 : decode cJ4_init 0 = .ok (.aload_n 0, 1) := dk_42 (dk_at dksJ4_init_0 0 rfl rfl)
theorem dJ4_init_1 : decode cJ4_init 1 = .ok (.aload_n 1, 1) := dk_43 (dk_at dksJ4_init_0 1 rfl rfl)
theorem dJ4_init_2 : decode cJ4_init 2 = .ok (.aload_n 2, 1) := dk_44 (dk_at dksJ4_init_0 2 rfl rfl)
theorem dJ4_init_3 : decode cJ4_init 3 = .ok (.iload_n 3, 1) := dk_29 (dk_at dksJ4_init_0 3 rfl rfl)
theorem dJ4_init_4 : decode cJ4_init 4 = .ok (.iload 4, 2) := dk_21 4 (dk_at dksJ4_init_0 4 rfl rfl)
theorem dJ4_init_6 : decode cJ4_init 6 = .ok (.invokespecial 16, 3) := dk_183 0 16 (dk_at dksJ4_init_0 6 rfl rfl)
theorem dJ4_init_9 : decode cJ4_init 9 = .ok (.return_, 1) := dk_177 (dk_at dksJ4_init_0 9 rfl rfl)
theorem q90 : (Jvm.Cond.initialized "java/lang/Exception") ∈ lw_all := lw_g (lw_at lw_m1 10 rfl) rfl
theorem q368 : (Jvm.Cond.declares ({ cls := "java/lang/Exception", name := "<init>", desc := "()V" } : Jvm.MethodName)) ∈ lw_tbl := lw_at lw_m2 48 rfl
theorem q369 : (Jvm.Cond.declares ({ cls := "java/lang/Exception", name := "<init>", desc := "(Ljava/lang/String;)V" } : Jvm.MethodName)) ∈ lw_tbl := lw_at lw_m2 49 rfl
theorem q406 : (Jvm.Cond.instanceMethod ({ cls := "java/lang/Exception", name := "<init>", desc := "(Ljava/lang/String;Ljava/lang/Throwable;ZZ)V" } : Jvm.MethodName)) ∈ lw_all := lw_g (lw_at lw_m2 86 rfl) rfl
theorem q407 : (Jvm.Cond.code ({ cls := "java/lang/Exception", name := "<init>", desc := "(Ljava/lang/String;Ljava/lang/Throwable;ZZ)V" } : Jvm.MethodName) prog_24_method_5_code (5 : Nat) (Option.none : Option Jvm.ClassFile.FieldType)) ∈ lw_all := lw_g (lw_at lw_m2 87 rfl) rfl
theorem q408 : (Jvm.Cond.methodLink "java/lang/Exception" (16 : Nat) ({ cls := "java/lang/Throwable", name := "<init>", desc := "(Ljava/lang/String;Ljava/lang/Throwable;ZZ)V" } : Jvm.MethodName)) ∈ lw_all := lw_g (lw_at lw_m2 88 rfl) rfl

/-! jdk/internal/util/ArraysSupport -/
set_option maxRecDepth 100000
def RJ5 : String := "jdk/internal/util/ArraysSupport"
abbrev cJ5_newLength : ByteArray := prog_44_method_27_code
def yJ5_newLength : MethodName := ⟨RJ5, "newLength", "(III)I"⟩
def dkwJ5_newLength_1 : List UInt8 := [184, 0, 201, 172]
abbrev dktJ5_newLength_1 : List UInt8 := dkwJ5_newLength_1 ++ []
def dkwJ5_newLength_0 : List UInt8 := [26, 27, 28, 184, 0, 194, 96, 62, 3, 29, 162, 0, 11, 29, 18, 200, 163, 0, 5, 29, 172, 26, 27]
abbrev dktJ5_newLength_0 : List UInt8 := dkwJ5_newLength_0 ++ dktJ5_newLength_1
theorem dksJ5_newLength_0 : cJ5_newLength.data.toList.drop 0 = dktJ5_newLength_0 := by decide +kernel
theorem dksJ5_newLength_1 : cJ5_newLength.data.toList.drop 23 = dktJ5_newLength_1 := dk_seg dksJ5_newLength_0 23 rfl rfl
theorem dJ5_newLength_0 : decode cJ5_newLength 0 = .ok (.iload_n 0, 1) := dk_26 (dk_at dksJ5_newLength_0 0 rfl rfl)
theorem dJ5_newLength_1 : decode cJ5_newLength 1 = .ok (.iload_n 1, 1) := dk_27 (dk_at dksJ5_newLength_0 1 rfl rfl)
theorem dJ5_newLength_2 : decode cJ5_newLength 2 = .ok (.iload_n 2, 1) := dk_28 (dk_at dksJ5_newLength_0 2 rfl rfl)
theorem dJ5_newLength_3 : decode cJ5_newLength 3 = .ok (.invokestatic 194, 3) := dk_184 0 194 (dk_at dksJ5_newLength_0 3 rfl rfl)
theorem dJ5_newLength_6 : decode cJ5_newLength 6 = .ok (.iadd, 1) := dk_96 (dk_at dksJ5_newLength_0 6 rfl rfl)
theorem dJ5_newLength_7 : decode cJ5_newLength 7 = .ok (.istore_n 3, 1) := dk_62 (dk_at dksJ5_newLength_0 7 rfl rfl)
theorem dJ5_newLength_8 : decode cJ5_newLength 8 = .ok (.iconst 0, 1) := dk_3 (dk_at dksJ5_newLength_0 8 rfl rfl)
theorem dJ5_newLength_9 : decode cJ5_newLength 9 = .ok (.iload_n 3, 1) := dk_29 (dk_at dksJ5_newLength_0 9 rfl rfl)
theorem dJ5_newLength_10 : decode cJ5_newLength 10 = .ok (.if_icmp .ge 11, 3) := dk_162 0 11 (dk_at dksJ5_newLength_0 10 rfl rfl)
theorem dJ5_newLength_13 : decode cJ5_newLength 13 = .ok (.iload_n 3, 1) := dk_29 (dk_at dksJ5_newLength_0 13 rfl rfl)
theorem dJ5_newLength_14 : decode cJ5_newLength 14 = .ok (.ldc 200, 2) := dk_18 200 (dk_at dksJ5_newLength_0 14 rfl rfl)
theorem dJ5_newLength_16 : decode cJ5_newLength 16 = .ok (.if_icmp .gt 5, 3) := dk_163 0 5 (dk_at dksJ5_newLength_0 16 rfl rfl)
theorem dJ5_newLength_19 : decode cJ5_newLength 19 = .ok (.iload_n 3, 1) := dk_29 (dk_at dksJ5_newLength_0 19 rfl rfl)
theorem dJ5_newLength_20 : decode cJ5_newLength 20 = .ok (.ireturn, 1) := dk_172 (dk_at dksJ5_newLength_0 20 rfl rfl)
theorem dJ5_newLength_21 : decode cJ5_newLength 21 = .ok (.iload_n 0, 1) := dk_26 (dk_at dksJ5_newLength_0 21 rfl rfl)
theorem dJ5_newLength_22 : decode cJ5_newLength 22 = .ok (.iload_n 1, 1) := dk_27 (dk_at dksJ5_newLength_0 22 rfl rfl)
theorem dJ5_newLength_23 : decode cJ5_newLength 23 = .ok (.invokestatic 201, 3) := dk_184 0 201 (dk_at dksJ5_newLength_1 0 rfl rfl)
theorem dJ5_newLength_26 : decode cJ5_newLength 26 = .ok (.ireturn, 1) := dk_172 (dk_at dksJ5_newLength_1 3 rfl rfl)
abbrev cJ5_hugeLength : ByteArray := prog_44_method_28_code
def yJ5_hugeLength : MethodName := ⟨RJ5, "hugeLength", "(II)I"⟩
def dkwJ5_hugeLength_2 : List UInt8 := [191, 28, 18, 200, 163, 0, 6, 18, 200, 172, 28, 172]
abbrev dktJ5_hugeLength_2 : List UInt8 := dkwJ5_hugeLength_2 ++ []
def dkwJ5_hugeLength_1 : List UInt8 := [26, 182, 0, 98, 18, 208, 182, 0, 94, 27, 182, 0, 98, 18, 210, 182, 0, 94, 182, 0, 101, 183, 0, 212]
abbrev dktJ5_hugeLength_1 : List UInt8 := dkwJ5_hugeLength_1 ++ dktJ5_hugeLength_2
def dkwJ5_hugeLength_0 : List UInt8 := [26, 27, 96, 61, 28, 156, 0, 44, 187, 0, 204, 89, 187, 0, 89, 89, 183, 0, 91, 18, 206, 182, 0, 94]
abbrev dktJ5_hugeLength_0 : List UInt8 := dkwJ5_hugeLength_0 ++ dktJ5_hugeLength_1
theorem dksJ5_hugeLength_0 : cJ5_hugeLength.data.toList.drop 0 = dktJ5_hugeLength_0 := by decide +kernel
theorem dksJ5_hugeLength_1 : cJ5_hugeLength.data.toList.drop 24 = dktJ5_hugeLength_1 := dk_seg dksJ5_hugeLength_0 24 rfl rfl
theorem dksJ5_hugeLength_2 : cJ5_hugeLength.data.toList.drop 48 = dktJ5_hugeLength_2 := dk_seg dksJ5_hugeLength_1 24 rfl rfl
theorem dJ5_hugeLength_0 : decode cJ5_hugeLength 0 = .ok (.iload_n 0, 1) := dk_26 (dk_at dksJ5_hugeLength_0 0 rfl rfl)
theorem dJ5_hugeLength_1 : decode cJ5_hugeLength 1 = .ok (.iload_n 1, 1) := dk_27 (dk_at dksJ5_hugeLength_0 1 rfl rfl)
theorem dJ5_hugeLength_2 : decode cJ5_hugeLength 2 = .ok (.iadd, 1) := dk_96 (dk_at dksJ5_hugeLength_0 2 rfl rfl)
theorem dJ5_hugeLength_3 : decode cJ5_hugeLength 3 = .ok (.istore_n 2, 1) := dk_61 (dk_at dksJ5_hugeLength_0 3 rfl rfl)
theorem dJ5_hugeLength_4 : decode cJ5_hugeLength 4 = .ok (.iload_n 2, 1) := dk_28 (dk_at dksJ5_hugeLength_0 4 rfl rfl)
theorem dJ5_hugeLength_5 : decode cJ5_hugeLength 5 = .ok (.ifCond .ge 44, 3) := dk_156 0 44 (dk_at dksJ5_hugeLength_0 5 rfl rfl)
theorem dJ5_hugeLength_8 : decode cJ5_hugeLength 8 = .ok (.new 204, 3) := dk_187 0 204 (dk_at dksJ5_hugeLength_0 8 rfl rfl)
theorem dJ5_hugeLength_11 : decode cJ5_hugeLength 11 = .ok (.dup, 1) := dk_89 (dk_at dksJ5_hugeLength_0 11 rfl rfl)
theorem dJ5_hugeLength_12 : decode cJ5_hugeLength 12 = .ok (.new 89, 3) := dk_187 0 89 (dk_at dksJ5_hugeLength_0 12 rfl rfl)
theorem dJ5_hugeLength_15 : decode cJ5_hugeLength 15 = .ok (.dup, 1) := dk_89 (dk_at dksJ5_hugeLength_0 15 rfl rfl)
theorem dJ5_hugeLength_16 : decode cJ5_hugeLength 16 = .ok (.invokespecial 91, 3) := dk_183 0 91 (dk_at dksJ5_hugeLength_0 16 rfl rfl)
theorem dJ5_hugeLength_19 : decode cJ5_hugeLength 19 = .ok (.ldc 206, 2) := dk_18 206 (dk_at dksJ5_hugeLength_0 19 rfl rfl)
theorem dJ5_hugeLength_21 : decode cJ5_hugeLength 21 = .ok (.invokevirtual 94, 3) := dk_182 0 94 (dk_at dksJ5_hugeLength_0 21 rfl rfl)
theorem dJ5_hugeLength_24 : decode cJ5_hugeLength 24 = .ok (.iload_n 0, 1) := dk_26 (dk_at dksJ5_hugeLength_1 0 rfl rfl)
theorem dJ5_hugeLength_25 : decode cJ5_hugeLength 25 = .ok (.invokevirtual 98, 3) := dk_182 0 98 (dk_at dksJ5_hugeLength_1 1 rfl rfl)
theorem dJ5_hugeLength_28 : decode cJ5_hugeLength 28 = .ok (.ldc 208, 2) := dk_18 208 (dk_at dksJ5_hugeLength_1 4 rfl rfl)
theorem dJ5_hugeLength_30 : decode cJ5_hugeLength 30 = .ok (.invokevirtual 94, 3) := dk_182 0 94 (dk_at dksJ5_hugeLength_1 6 rfl rfl)
theorem dJ5_hugeLength_33 : decode cJ5_hugeLength 33 = .ok (.iload_n 1, 1) := dk_27 (dk_at dksJ5_hugeLength_1 9 rfl rfl)
theorem dJ5_hugeLength_34 : decode cJ5_hugeLength 34 = .ok (.invokevirtual 98, 3) := dk_182 0 98 (dk_at dksJ5_hugeLength_1 10 rfl rfl)
theorem dJ5_hugeLength_37 : decode cJ5_hugeLength 37 = .ok (.ldc 210, 2) := dk_18 210 (dk_at dksJ5_hugeLength_1 13 rfl rfl)
theorem dJ5_hugeLength_39 : decode cJ5_hugeLength 39 = .ok (.invokevirtual 94, 3) := dk_182 0 94 (dk_at dksJ5_hugeLength_1 15 rfl rfl)
theorem dJ5_hugeLength_42 : decode cJ5_hugeLength 42 = .ok (.invokevirtual 101, 3) := dk_182 0 101 (dk_at dksJ5_hugeLength_1 18 rfl rfl)
theorem dJ5_hugeLength_45 : decode cJ5_hugeLength 45 = .ok (.invokespecial 212, 3) := dk_183 0 212 (dk_at dksJ5_hugeLength_1 21 rfl rfl)
theorem dJ5_hugeLength_48 : decode cJ5_hugeLength 48 = .ok (.athrow, 1) := dk_191 (dk_at dksJ5_hugeLength_2 0 rfl rfl)
theorem dJ5_hugeLength_49 : decode cJ5_hugeLength 49 = .ok (.iload_n 2, 1) := dk_28 (dk_at dksJ5_hugeLength_2 1 rfl rfl)
theorem dJ5_hugeLength_50 : decode cJ5_hugeLength 50 = .ok (.ldc 200, 2) := dk_18 200 (dk_at dksJ5_hugeLength_2 2 rfl rfl)
theorem dJ5_hugeLength_52 : decode cJ5_hugeLength 52 = .ok (.if_icmp .gt 6, 3) := dk_163 0 6 (dk_at dksJ5_hugeLength_2 4 rfl rfl)
theorem dJ5_hugeLength_55 : decode cJ5_hugeLength 55 = .ok (.ldc 200, 2) := dk_18 200 (dk_at dksJ5_hugeLength_2 7 rfl rfl)
theorem dJ5_hugeLength_57 : decode cJ5_hugeLength 57 = .ok (.ireturn, 1) := dk_172 (dk_at dksJ5_hugeLength_2 9 rfl rfl)
theorem dJ5_hugeLength_58 : decode cJ5_hugeLength 58 = .ok (.iload_n 2, 1) := dk_28 (dk_at dksJ5_hugeLength_2 10 rfl rfl)
theorem dJ5_hugeLength_59 : decode cJ5_hugeLength 59 = .ok (.ireturn, 1) := dk_172 (dk_at dksJ5_hugeLength_2 11 rfl rfl)
theorem q95 : (Jvm.Cond.initialized "jdk/internal/util/ArraysSupport") ∈ lw_all := lw_g (lw_at lw_m1 15 rfl) rfl
theorem q515 : (Jvm.Cond.static ({ cls := "jdk/internal/util/ArraysSupport", name := "newLength", desc := "(III)I" } : Jvm.MethodName)) ∈ lw_all := lw_g (lw_at lw_m2 195 rfl) rfl
theorem q516 : (Jvm.Cond.code ({ cls := "jdk/internal/util/ArraysSupport", name := "newLength", desc := "(III)I" } : Jvm.MethodName) prog_44_method_27_code (4 : Nat) (Option.some Jvm.ClassFile.FieldType.int)) ∈ lw_all := lw_g (lw_at lw_m2 196 rfl) rfl
theorem q517 : (Jvm.Cond.methodLink "jdk/internal/util/ArraysSupport" (194 : Nat) ({ cls := "java/lang/Math", name := "max", desc := "(II)I" } : Jvm.MethodName)) ∈ lw_all := lw_g (lw_at lw_m2 197 rfl) rfl
theorem q520 : (Jvm.Cond.constant "jdk/internal/util/ArraysSupport" (200 : Nat) (2147483639 : Int32)) ∈ lw_all := lw_g (lw_at lw_m2 200 rfl) rfl
theorem q521 : (Jvm.Cond.methodLink "jdk/internal/util/ArraysSupport" (201 : Nat) ({ cls := "jdk/internal/util/ArraysSupport", name := "hugeLength", desc := "(II)I" } : Jvm.MethodName)) ∈ lw_all := lw_g (lw_at lw_m2 201 rfl) rfl
theorem q522 : (Jvm.Cond.static ({ cls := "jdk/internal/util/ArraysSupport", name := "hugeLength", desc := "(II)I" } : Jvm.MethodName)) ∈ lw_all := lw_g (lw_at lw_m2 202 rfl) rfl
theorem q523 : (Jvm.Cond.code ({ cls := "jdk/internal/util/ArraysSupport", name := "hugeLength", desc := "(II)I" } : Jvm.MethodName) prog_44_method_28_code (3 : Nat) (Option.some Jvm.ClassFile.FieldType.int)) ∈ lw_all := lw_g (lw_at lw_m2 203 rfl) rfl

/-! java/lang/Math -/
set_option maxRecDepth 100000
def RJ6 : String := "java/lang/Math"
abbrev cJ6_max : ByteArray := prog_27_method_65_code
def yJ6_max : MethodName := ⟨RJ6, "max", "(II)I"⟩
def dkwJ6_max_0 : List UInt8 := [26, 27, 161, 0, 7, 26, 167, 0, 4, 27, 172]
abbrev dktJ6_max_0 : List UInt8 := dkwJ6_max_0 ++ []
theorem dksJ6_max_0 : cJ6_max.data.toList.drop 0 = dktJ6_max_0 := by decide +kernel
theorem dJ6_max_0 : decode cJ6_max 0 = .ok (.iload_n 0, 1) := dk_26 (dk_at dksJ6_max_0 0 rfl rfl)
theorem dJ6_max_1 : decode cJ6_max 1 = .ok (.iload_n 1, 1) := dk_27 (dk_at dksJ6_max_0 1 rfl rfl)
theorem dJ6_max_2 : decode cJ6_max 2 = .ok (.if_icmp .lt 7, 3) := dk_161 0 7 (dk_at dksJ6_max_0 2 rfl rfl)
theorem dJ6_max_5 : decode cJ6_max 5 = .ok (.iload_n 0, 1) := dk_26 (dk_at dksJ6_max_0 5 rfl rfl)
theorem dJ6_max_6 : decode cJ6_max 6 = .ok (.goto 4, 3) := dk_167 0 4 (dk_at dksJ6_max_0 6 rfl rfl)
theorem dJ6_max_9 : decode cJ6_max 9 = .ok (.iload_n 1, 1) := dk_27 (dk_at dksJ6_max_0 9 rfl rfl)
theorem dJ6_max_10 : decode cJ6_max 10 = .ok (.ireturn, 1) := dk_172 (dk_at dksJ6_max_0 10 rfl rfl)
abbrev cJ6_min : ByteArray := prog_27_method_69_code
def yJ6_min : MethodName := ⟨RJ6, "min", "(II)I"⟩
def dkwJ6_min_0 : List UInt8 := [26, 27, 163, 0, 7, 26, 167, 0, 4, 27, 172]
abbrev dktJ6_min_0 : List UInt8 := dkwJ6_min_0 ++ []
theorem dksJ6_min_0 : cJ6_min.data.toList.drop 0 = dktJ6_min_0 := by decide +kernel
theorem dJ6_min_0 : decode cJ6_min 0 = .ok (.iload_n 0, 1) := dk_26 (dk_at dksJ6_min_0 0 rfl rfl)
theorem dJ6_min_1 : decode cJ6_min 1 = .ok (.iload_n 1, 1) := dk_27 (dk_at dksJ6_min_0 1 rfl rfl)
theorem dJ6_min_2 : decode cJ6_min 2 = .ok (.if_icmp .gt 7, 3) := dk_163 0 7 (dk_at dksJ6_min_0 2 rfl rfl)
theorem dJ6_min_5 : decode cJ6_min 5 = .ok (.iload_n 0, 1) := dk_26 (dk_at dksJ6_min_0 5 rfl rfl)
theorem dJ6_min_6 : decode cJ6_min 6 = .ok (.goto 4, 3) := dk_167 0 4 (dk_at dksJ6_min_0 6 rfl rfl)
theorem dJ6_min_9 : decode cJ6_min 9 = .ok (.iload_n 1, 1) := dk_27 (dk_at dksJ6_min_0 9 rfl rfl)
theorem dJ6_min_10 : decode cJ6_min 10 = .ok (.ireturn, 1) := dk_172 (dk_at dksJ6_min_0 10 rfl rfl)
abbrev cJ6_abs : ByteArray := prog_27_method_61_code
def yJ6_abs : MethodName := ⟨RJ6, "abs", "(J)J"⟩
def dkwJ6_abs_0 : List UInt8 := [30, 9, 148, 156, 0, 8, 30, 117, 167, 0, 4, 30, 173]
abbrev dktJ6_abs_0 : List UInt8 := dkwJ6_abs_0 ++ []
theorem dksJ6_abs_0 : cJ6_abs.data.toList.drop 0 = dktJ6_abs_0 := by decide +kernel
theorem dJ6_abs_0 : decode cJ6_abs 0 = .ok (.lload_n 0, 1) := dk_30 (dk_at dksJ6_abs_0 0 rfl rfl)
theorem dJ6_abs_1 : decode cJ6_abs 1 = .ok (.lconst 0, 1) := dk_9 (dk_at dksJ6_abs_0 1 rfl rfl)
theorem dJ6_abs_2 : decode cJ6_abs 2 = .ok (.lcmp, 1) := dk_148 (dk_at dksJ6_abs_0 2 rfl rfl)
theorem dJ6_abs_3 : decode cJ6_abs 3 = .ok (.ifCond .ge 8, 3) := dk_156 0 8 (dk_at dksJ6_abs_0 3 rfl rfl)
theorem dJ6_abs_6 : decode cJ6_abs 6 = .ok (.lload_n 0, 1) := dk_30 (dk_at dksJ6_abs_0 6 rfl rfl)
theorem dJ6_abs_7 : decode cJ6_abs 7 = .ok (.lneg, 1) := dk_117 (dk_at dksJ6_abs_0 7 rfl rfl)
theorem dJ6_abs_8 : decode cJ6_abs 8 = .ok (.goto 4, 3) := dk_167 0 4 (dk_at dksJ6_abs_0 8 rfl rfl)
theorem dJ6_abs_11 : decode cJ6_abs 11 = .ok (.lload_n 0, 1) := dk_30 (dk_at dksJ6_abs_0 11 rfl rfl)
theorem dJ6_abs_12 : decode cJ6_abs 12 = .ok (.lreturn, 1) := dk_173 (dk_at dksJ6_abs_0 12 rfl rfl)
abbrev cJ6_abs_2 : ByteArray := prog_27_method_59_code
def yJ6_abs_2 : MethodName := ⟨RJ6, "abs", "(I)I"⟩
def dkwJ6_abs_2_0 : List UInt8 := [26, 156, 0, 8, 26, 116, 167, 0, 4, 26, 172]
abbrev dktJ6_abs_2_0 : List UInt8 := dkwJ6_abs_2_0 ++ []
theorem dksJ6_abs_2_0 : cJ6_abs_2.data.toList.drop 0 = dktJ6_abs_2_0 := by decide +kernel
theorem dJ6_abs_2_0 : decode cJ6_abs_2 0 = .ok (.iload_n 0, 1) := dk_26 (dk_at dksJ6_abs_2_0 0 rfl rfl)
theorem dJ6_abs_2_1 : decode cJ6_abs_2 1 = .ok (.ifCond .ge 8, 3) := dk_156 0 8 (dk_at dksJ6_abs_2_0 1 rfl rfl)
theorem dJ6_abs_2_4 : decode cJ6_abs_2 4 = .ok (.iload_n 0, 1) := dk_26 (dk_at dksJ6_abs_2_0 4 rfl rfl)
theorem dJ6_abs_2_5 : decode cJ6_abs_2 5 = .ok (.ineg, 1) := dk_116 (dk_at dksJ6_abs_2_0 5 rfl rfl)
theorem dJ6_abs_2_6 : decode cJ6_abs_2 6 = .ok (.goto 4, 3) := dk_167 0 4 (dk_at dksJ6_abs_2_0 6 rfl rfl)
theorem dJ6_abs_2_9 : decode cJ6_abs_2 9 = .ok (.iload_n 0, 1) := dk_26 (dk_at dksJ6_abs_2_0 9 rfl rfl)
theorem dJ6_abs_2_10 : decode cJ6_abs_2 10 = .ok (.ireturn, 1) := dk_172 (dk_at dksJ6_abs_2_0 10 rfl rfl)
theorem q96 : (Jvm.Cond.initialized "java/lang/Math") ∈ lw_all := lw_g (lw_at lw_m1 16 rfl) rfl
theorem q518 : (Jvm.Cond.static ({ cls := "java/lang/Math", name := "max", desc := "(II)I" } : Jvm.MethodName)) ∈ lw_all := lw_g (lw_at lw_m2 198 rfl) rfl
theorem q519 : (Jvm.Cond.code ({ cls := "java/lang/Math", name := "max", desc := "(II)I" } : Jvm.MethodName) prog_27_method_65_code (2 : Nat) (Option.some Jvm.ClassFile.FieldType.int)) ∈ lw_all := lw_g (lw_at lw_m2 199 rfl) rfl
theorem q556 : (Jvm.Cond.static ({ cls := "java/lang/Math", name := "min", desc := "(II)I" } : Jvm.MethodName)) ∈ lw_all := lw_g (lw_at lw_m2 236 rfl) rfl
theorem q557 : (Jvm.Cond.code ({ cls := "java/lang/Math", name := "min", desc := "(II)I" } : Jvm.MethodName) prog_27_method_69_code (2 : Nat) (Option.some Jvm.ClassFile.FieldType.int)) ∈ lw_all := lw_g (lw_at lw_m2 237 rfl) rfl
theorem q891 : (Jvm.Cond.static ({ cls := "java/lang/Math", name := "abs", desc := "(J)J" } : Jvm.MethodName)) ∈ lw_all := lw_g (lw_at lw_m4 91 rfl) rfl
theorem q892 : (Jvm.Cond.code ({ cls := "java/lang/Math", name := "abs", desc := "(J)J" } : Jvm.MethodName) prog_27_method_61_code (2 : Nat) (Option.some Jvm.ClassFile.FieldType.long)) ∈ lw_all := lw_g (lw_at lw_m4 92 rfl) rfl
theorem q914 : (Jvm.Cond.static ({ cls := "java/lang/Math", name := "abs", desc := "(I)I" } : Jvm.MethodName)) ∈ lw_all := lw_g (lw_at lw_m4 114 rfl) rfl
theorem q915 : (Jvm.Cond.code ({ cls := "java/lang/Math", name := "abs", desc := "(I)I" } : Jvm.MethodName) prog_27_method_59_code (1 : Nat) (Option.some Jvm.ClassFile.FieldType.int)) ∈ lw_all := lw_g (lw_at lw_m4 115 rfl) rfl

/-! java/util/Arrays -/
set_option maxRecDepth 100000
def RJ7 : String := "java/util/Arrays"
abbrev cJ7_copyOf : ByteArray := prog_38_method_119_code
def yJ7_copyOf : MethodName := ⟨RJ7, "copyOf", "([Ljava/lang/Object;I)[Ljava/lang/Object;"⟩
def dkwJ7_copyOf_0 : List UInt8 := [42, 27, 42, 182, 0, 86, 184, 1, 44, 176]
abbrev dktJ7_copyOf_0 : List UInt8 := dkwJ7_copyOf_0 ++ []
theorem dksJ7_copyOf_0 : cJ7_copyOf.data.toList.drop 0 = dktJ7_copyOf_0 := by decide +kernel
theorem dJ7_copyOf_0 : decode cJ7_copyOf 0 = .ok (.aload_n 0, 1) := dk_42 (dk_at dksJ7_copyOf_0 0 rfl rfl)
theorem dJ7_copyOf_1 : decode cJ7_copyOf 1 = .ok (.iload_n 1, 1) := dk_27 (dk_at dksJ7_copyOf_0 1 rfl rfl)
theorem dJ7_copyOf_2 : decode cJ7_copyOf 2 = .ok (.aload_n 0, 1) := dk_42 (dk_at dksJ7_copyOf_0 2 rfl rfl)
theorem dJ7_copyOf_3 : decode cJ7_copyOf 3 = .ok (.invokevirtual 86, 3) := dk_182 0 86 (dk_at dksJ7_copyOf_0 3 rfl rfl)
theorem dJ7_copyOf_6 : decode cJ7_copyOf 6 = .ok (.invokestatic 300, 3) := dk_184 1 44 (dk_at dksJ7_copyOf_0 6 rfl rfl)
theorem dJ7_copyOf_9 : decode cJ7_copyOf 9 = .ok (.areturn, 1) := dk_176 (dk_at dksJ7_copyOf_0 9 rfl rfl)
abbrev cJ7_copyOf_2 : ByteArray := prog_38_method_120_code
def yJ7_copyOf_2 : MethodName := ⟨RJ7, "copyOf", "([Ljava/lang/Object;ILjava/lang/Class;)[Ljava/lang/Object;"⟩
def dkwJ7_copyOf_2_1 : List UInt8 := [78, 42, 3, 45, 3, 42, 190, 27, 184, 1, 48, 184, 0, 150, 45, 176]
abbrev dktJ7_copyOf_2_1 : List UInt8 := dkwJ7_copyOf_2_1 ++ []
def dkwJ7_copyOf_2_0 : List UInt8 := [44, 18, 110, 166, 0, 10, 27, 189, 0, 2, 167, 0, 14, 44, 182, 0, 90, 27, 184, 0, 95, 192, 0, 110]
abbrev dktJ7_copyOf_2_0 : List UInt8 := dkwJ7_copyOf_2_0 ++ dktJ7_copyOf_2_1
theorem dksJ7_copyOf_2_0 : cJ7_copyOf_2.data.toList.drop 0 = dktJ7_copyOf_2_0 := by decide +kernel
theorem dksJ7_copyOf_2_1 : cJ7_copyOf_2.data.toList.drop 24 = dktJ7_copyOf_2_1 := dk_seg dksJ7_copyOf_2_0 24 rfl rfl
theorem dJ7_copyOf_2_0 : decode cJ7_copyOf_2 0 = .ok (.aload_n 2, 1) := dk_44 (dk_at dksJ7_copyOf_2_0 0 rfl rfl)
theorem dJ7_copyOf_2_1 : decode cJ7_copyOf_2 1 = .ok (.ldc 110, 2) := dk_18 110 (dk_at dksJ7_copyOf_2_0 1 rfl rfl)
theorem dJ7_copyOf_2_3 : decode cJ7_copyOf_2 3 = .ok (.if_acmp .ne 10, 3) := dk_166 0 10 (dk_at dksJ7_copyOf_2_0 3 rfl rfl)
theorem dJ7_copyOf_2_6 : decode cJ7_copyOf_2 6 = .ok (.iload_n 1, 1) := dk_27 (dk_at dksJ7_copyOf_2_0 6 rfl rfl)
theorem dJ7_copyOf_2_7 : decode cJ7_copyOf_2 7 = .ok (.anewarray 2, 3) := dk_189 0 2 (dk_at dksJ7_copyOf_2_0 7 rfl rfl)
theorem dJ7_copyOf_2_10 : decode cJ7_copyOf_2 10 = .ok (.goto 14, 3) := dk_167 0 14 (dk_at dksJ7_copyOf_2_0 10 rfl rfl)
theorem dJ7_copyOf_2_13 : decode cJ7_copyOf_2 13 = .ok (.aload_n 2, 1) := dk_44 (dk_at dksJ7_copyOf_2_0 13 rfl rfl)
theorem dJ7_copyOf_2_14 : decode cJ7_copyOf_2 14 = .ok (.invokevirtual 90, 3) := dk_182 0 90 (dk_at dksJ7_copyOf_2_0 14 rfl rfl)
theorem dJ7_copyOf_2_17 : decode cJ7_copyOf_2 17 = .ok (.iload_n 1, 1) := dk_27 (dk_at dksJ7_copyOf_2_0 17 rfl rfl)
theorem dJ7_copyOf_2_18 : decode cJ7_copyOf_2 18 = .ok (.invokestatic 95, 3) := dk_184 0 95 (dk_at dksJ7_copyOf_2_0 18 rfl rfl)
theorem dJ7_copyOf_2_21 : decode cJ7_copyOf_2 21 = .ok (.checkcast 110, 3) := dk_192 0 110 (dk_at dksJ7_copyOf_2_0 21 rfl rfl)
theorem dJ7_copyOf_2_24 : decode cJ7_copyOf_2 24 = .ok (.astore_n 3, 1) := dk_78 (dk_at dksJ7_copyOf_2_1 0 rfl rfl)
theorem dJ7_copyOf_2_25 : decode cJ7_copyOf_2 25 = .ok (.aload_n 0, 1) := dk_42 (dk_at dksJ7_copyOf_2_1 1 rfl rfl)
theorem dJ7_copyOf_2_26 : decode cJ7_copyOf_2 26 = .ok (.iconst 0, 1) := dk_3 (dk_at dksJ7_copyOf_2_1 2 rfl rfl)
theorem dJ7_copyOf_2_27 : decode cJ7_copyOf_2 27 = .ok (.aload_n 3, 1) := dk_45 (dk_at dksJ7_copyOf_2_1 3 rfl rfl)
theorem dJ7_copyOf_2_28 : decode cJ7_copyOf_2 28 = .ok (.iconst 0, 1) := dk_3 (dk_at dksJ7_copyOf_2_1 4 rfl rfl)
theorem dJ7_copyOf_2_29 : decode cJ7_copyOf_2 29 = .ok (.aload_n 0, 1) := dk_42 (dk_at dksJ7_copyOf_2_1 5 rfl rfl)
theorem dJ7_copyOf_2_30 : decode cJ7_copyOf_2 30 = .ok (.arraylength, 1) := dk_190 (dk_at dksJ7_copyOf_2_1 6 rfl rfl)
theorem dJ7_copyOf_2_31 : decode cJ7_copyOf_2 31 = .ok (.iload_n 1, 1) := dk_27 (dk_at dksJ7_copyOf_2_1 7 rfl rfl)
theorem dJ7_copyOf_2_32 : decode cJ7_copyOf_2 32 = .ok (.invokestatic 304, 3) := dk_184 1 48 (dk_at dksJ7_copyOf_2_1 8 rfl rfl)
theorem dJ7_copyOf_2_35 : decode cJ7_copyOf_2 35 = .ok (.invokestatic 150, 3) := dk_184 0 150 (dk_at dksJ7_copyOf_2_1 11 rfl rfl)
theorem dJ7_copyOf_2_38 : decode cJ7_copyOf_2 38 = .ok (.aload_n 3, 1) := dk_45 (dk_at dksJ7_copyOf_2_1 14 rfl rfl)
theorem dJ7_copyOf_2_39 : decode cJ7_copyOf_2 39 = .ok (.areturn, 1) := dk_176 (dk_at dksJ7_copyOf_2_1 15 rfl rfl)
theorem q97 : (Jvm.Cond.initialized "java/util/Arrays") ∈ lw_all := lw_g (lw_at lw_m1 17 rfl) rfl
theorem q525 : (Jvm.Cond.static ({ cls := "java/util/Arrays", name := "copyOf", desc := "([Ljava/lang/Object;I)[Ljava/lang/Object;" } : Jvm.MethodName)) ∈ lw_all := lw_g (lw_at lw_m2 205 rfl) rfl
theorem q526 : (Jvm.Cond.code ({ cls := "java/util/Arrays", name := "copyOf", desc := "([Ljava/lang/Object;I)[Ljava/lang/Object;" } : Jvm.MethodName) prog_38_method_119_code (2 : Nat) (Option.some (Jvm.ClassFile.FieldType.array (Jvm.ClassFile.FieldType.object "java/lang/Object")))) ∈ lw_all := lw_g (lw_at lw_m2 206 rfl) rfl
theorem q527 : (Jvm.Cond.methodLink "java/util/Arrays" (86 : Nat) ({ cls := "java/lang/Object", name := "getClass", desc := "()Ljava/lang/Class;" } : Jvm.MethodName)) ∈ lw_all := lw_g (lw_at lw_m2 207 rfl) rfl
theorem q549 : (Jvm.Cond.methodLink "java/util/Arrays" (300 : Nat) ({ cls := "java/util/Arrays", name := "copyOf", desc := "([Ljava/lang/Object;ILjava/lang/Class;)[Ljava/lang/Object;" } : Jvm.MethodName)) ∈ lw_all := lw_g (lw_at lw_m2 229 rfl) rfl
theorem q550 : (Jvm.Cond.static ({ cls := "java/util/Arrays", name := "copyOf", desc := "([Ljava/lang/Object;ILjava/lang/Class;)[Ljava/lang/Object;" } : Jvm.MethodName)) ∈ lw_all := lw_g (lw_at lw_m2 230 rfl) rfl
theorem q551 : (Jvm.Cond.code ({ cls := "java/util/Arrays", name := "copyOf", desc := "([Ljava/lang/Object;ILjava/lang/Class;)[Ljava/lang/Object;" } : Jvm.MethodName) prog_38_method_120_code (4 : Nat) (Option.some (Jvm.ClassFile.FieldType.array (Jvm.ClassFile.FieldType.object "java/lang/Object")))) ∈ lw_all := lw_g (lw_at lw_m2 231 rfl) rfl
theorem q552 : (Jvm.Cond.classLink "java/util/Arrays" (110 : Nat) "[Ljava/lang/Object;") ∈ lw_all := lw_g (lw_at lw_m2 232 rfl) rfl
theorem q554 : (Jvm.Cond.classLink "java/util/Arrays" (2 : Nat) "java/lang/Object") ∈ lw_all := lw_g (lw_at lw_m2 234 rfl) rfl
theorem q555 : (Jvm.Cond.methodLink "java/util/Arrays" (304 : Nat) ({ cls := "java/lang/Math", name := "min", desc := "(II)I" } : Jvm.MethodName)) ∈ lw_all := lw_g (lw_at lw_m2 235 rfl) rfl
theorem q558 : (Jvm.Cond.methodLink "java/util/Arrays" (150 : Nat) ({ cls := "java/lang/System", name := "arraycopy", desc := "(Ljava/lang/Object;ILjava/lang/Object;II)V" } : Jvm.MethodName)) ∈ lw_all := lw_g (lw_at lw_m2 238 rfl) rfl

/-! java/lang/String -/
set_option maxRecDepth 100000
def RJ8 : String := "java/lang/String"
abbrev cJ8_length : ByteArray := prog_28_method_54_code
def yJ8_length : MethodName := ⟨RJ8, "length", "()I"⟩
def dkwJ8_length_0 : List UInt8 := [42, 180, 0, 9, 190, 42, 182, 1, 79, 122, 172]
abbrev dktJ8_length_0 : List UInt8 := dkwJ8_length_0 ++ []
theorem dksJ8_length_0 : cJ8_length.data.toList.drop 0 = dktJ8_length_0 := by decide +kernel
theorem dJ8_length_0 : decode cJ8_length 0 = .ok (.aload_n 0, 1) := dk_42 (dk_at dksJ8_length_0 0 rfl rfl)
theorem dJ8_length_1 : decode cJ8_length 1 = .ok (.getfield 9, 3) := dk_180 0 9 (dk_at dksJ8_length_0 1 rfl rfl)
theorem dJ8_length_4 : decode cJ8_length 4 = .ok (.arraylength, 1) := dk_190 (dk_at dksJ8_length_0 4 rfl rfl)
theorem dJ8_length_5 : decode cJ8_length 5 = .ok (.aload_n 0, 1) := dk_42 (dk_at dksJ8_length_0 5 rfl rfl)
theorem dJ8_length_6 : decode cJ8_length 6 = .ok (.invokevirtual 335, 3) := dk_182 1 79 (dk_at dksJ8_length_0 6 rfl rfl)
theorem dJ8_length_9 : decode cJ8_length 9 = .ok (.ishr, 1) := dk_122 (dk_at dksJ8_length_0 9 rfl rfl)
theorem dJ8_length_10 : decode cJ8_length 10 = .ok (.ireturn, 1) := dk_172 (dk_at dksJ8_length_0 10 rfl rfl)
abbrev cJ8_coder : ByteArray := prog_28_method_152_code
def yJ8_coder : MethodName := ⟨RJ8, "coder", "()B"⟩
def dkwJ8_coder_0 : List UInt8 := [178, 0, 38, 153, 0, 10, 42, 180, 0, 15, 167, 0, 4, 4, 172]
abbrev dktJ8_coder_0 : List UInt8 := dkwJ8_coder_0 ++ []
theorem dksJ8_coder_0 : cJ8_coder.data.toList.drop 0 = dktJ8_coder_0 := by decide +kernel
theorem dJ8_coder_0 : decode cJ8_coder 0 = .ok (.getstatic 38, 3) := dk_178 0 38 (dk_at dksJ8_coder_0 0 rfl rfl)
theorem dJ8_coder_3 : decode cJ8_coder 3 = .ok (.ifCond .eq 10, 3) := dk_153 0 10 (dk_at dksJ8_coder_0 3 rfl rfl)
theorem dJ8_coder_6 : decode cJ8_coder 6 = .ok (.aload_n 0, 1) := dk_42 (dk_at dksJ8_coder_0 6 rfl rfl)
theorem dJ8_coder_7 : decode cJ8_coder 7 = .ok (.getfield 15, 3) := dk_180 0 15 (dk_at dksJ8_coder_0 7 rfl rfl)
theorem dJ8_coder_10 : decode cJ8_coder 10 = .ok (.goto 4, 3) := dk_167 0 4 (dk_at dksJ8_coder_0 10 rfl rfl)
theorem dJ8_coder_13 : decode cJ8_coder 13 = .ok (.iconst 1, 1) := dk_4 (dk_at dksJ8_coder_0 13 rfl rfl)
theorem dJ8_coder_14 : decode cJ8_coder 14 = .ok (.ireturn, 1) := dk_172 (dk_at dksJ8_coder_0 14 rfl rfl)
abbrev cJ8_charAt : ByteArray := prog_28_method_56_code
def yJ8_charAt : MethodName := ⟨RJ8, "charAt", "(I)C"⟩
def dkwJ8_charAt_1 : List UInt8 := [172]
abbrev dktJ8_charAt_1 : List UInt8 := dkwJ8_charAt_1 ++ []
def dkwJ8_charAt_0 : List UInt8 := [42, 182, 1, 236, 153, 0, 12, 42, 180, 0, 9, 27, 184, 1, 239, 172, 42, 180, 0, 9, 27, 184, 1, 242]
abbrev dktJ8_charAt_0 : List UInt8 := dkwJ8_charAt_0 ++ dktJ8_charAt_1
theorem dksJ8_charAt_0 : cJ8_charAt.data.toList.drop 0 = dktJ8_charAt_0 := by decide +kernel
theorem dksJ8_charAt_1 : cJ8_charAt.data.toList.drop 24 = dktJ8_charAt_1 := dk_seg dksJ8_charAt_0 24 rfl rfl
theorem dJ8_charAt_0 : decode cJ8_charAt 0 = .ok (.aload_n 0, 1) := dk_42 (dk_at dksJ8_charAt_0 0 rfl rfl)
theorem dJ8_charAt_1 : decode cJ8_charAt 1 = .ok (.invokevirtual 492, 3) := dk_182 1 236 (dk_at dksJ8_charAt_0 1 rfl rfl)
theorem dJ8_charAt_4 : decode cJ8_charAt 4 = .ok (.ifCond .eq 12, 3) := dk_153 0 12 (dk_at dksJ8_charAt_0 4 rfl rfl)
theorem dJ8_charAt_7 : decode cJ8_charAt 7 = .ok (.aload_n 0, 1) := dk_42 (dk_at dksJ8_charAt_0 7 rfl rfl)
theorem dJ8_charAt_8 : decode cJ8_charAt 8 = .ok (.getfield 9, 3) := dk_180 0 9 (dk_at dksJ8_charAt_0 8 rfl rfl)
theorem dJ8_charAt_11 : decode cJ8_charAt 11 = .ok (.iload_n 1, 1) := dk_27 (dk_at dksJ8_charAt_0 11 rfl rfl)
theorem dJ8_charAt_12 : decode cJ8_charAt 12 = .ok (.invokestatic 495, 3) := dk_184 1 239 (dk_at dksJ8_charAt_0 12 rfl rfl)
theorem dJ8_charAt_15 : decode cJ8_charAt 15 = .ok (.ireturn, 1) := dk_172 (dk_at dksJ8_charAt_0 15 rfl rfl)
theorem dJ8_charAt_16 : decode cJ8_charAt 16 = .ok (.aload_n 0, 1) := dk_42 (dk_at dksJ8_charAt_0 16 rfl rfl)
theorem dJ8_charAt_17 : decode cJ8_charAt 17 = .ok (.getfield 9, 3) := dk_180 0 9 (dk_at dksJ8_charAt_0 17 rfl rfl)
theorem dJ8_charAt_20 : decode cJ8_charAt 20 = .ok (.iload_n 1, 1) := dk_27 (dk_at dksJ8_charAt_0 20 rfl rfl)
theorem dJ8_charAt_21 : decode cJ8_charAt 21 = .ok (.invokestatic 498, 3) := dk_184 1 242 (dk_at dksJ8_charAt_0 21 rfl rfl)
theorem dJ8_charAt_24 : decode cJ8_charAt 24 = .ok (.ireturn, 1) := dk_172 (dk_at dksJ8_charAt_1 0 rfl rfl)
abbrev cJ8_isLatin1 : ByteArray := prog_28_method_154_code
def yJ8_isLatin1 : MethodName := ⟨RJ8, "isLatin1", "()Z"⟩
def dkwJ8_isLatin1_0 : List UInt8 := [178, 0, 38, 153, 0, 14, 42, 180, 0, 15, 154, 0, 7, 4, 167, 0, 4, 3, 172]
abbrev dktJ8_isLatin1_0 : List UInt8 := dkwJ8_isLatin1_0 ++ []
theorem dksJ8_isLatin1_0 : cJ8_isLatin1.data.toList.drop 0 = dktJ8_isLatin1_0 := by decide +kernel
theorem dJ8_isLatin1_0 : decode cJ8_isLatin1 0 = .ok (.getstatic 38, 3) := dk_178 0 38 (dk_at dksJ8_isLatin1_0 0 rfl rfl)
theorem dJ8_isLatin1_3 : decode cJ8_isLatin1 3 = .ok (.ifCond .eq 14, 3) := dk_153 0 14 (dk_at dksJ8_isLatin1_0 3 rfl rfl)
theorem dJ8_isLatin1_6 : decode cJ8_isLatin1 6 = .ok (.aload_n 0, 1) := dk_42 (dk_at dksJ8_isLatin1_0 6 rfl rfl)
theorem dJ8_isLatin1_7 : decode cJ8_isLatin1 7 = .ok (.getfield 15, 3) := dk_180 0 15 (dk_at dksJ8_isLatin1_0 7 rfl rfl)
theorem dJ8_isLatin1_10 : decode cJ8_isLatin1 10 = .ok (.ifCond .ne 7, 3) := dk_154 0 7 (dk_at dksJ8_isLatin1_0 10 rfl rfl)
theorem dJ8_isLatin1_13 : decode cJ8_isLatin1 13 = .ok (.iconst 1, 1) := dk_4 (dk_at dksJ8_isLatin1_0 13 rfl rfl)
theorem dJ8_isLatin1_14 : decode cJ8_isLatin1 14 = .ok (.goto 4, 3) := dk_167 0 4 (dk_at dksJ8_isLatin1_0 14 rfl rfl)
theorem dJ8_isLatin1_17 : decode cJ8_isLatin1 17 = .ok (.iconst 0, 1) := dk_3 (dk_at dksJ8_isLatin1_0 17 rfl rfl)
theorem dJ8_isLatin1_18 : decode cJ8_isLatin1 18 = .ok (.ireturn, 1) := dk_172 (dk_at dksJ8_isLatin1_0 18 rfl rfl)
abbrev cJ8_checkIndex : ByteArray := prog_28_method_155_code
def yJ8_checkIndex : MethodName := ⟨RJ8, "checkIndex", "(II)V"⟩
def dkwJ8_checkIndex_0 : List UInt8 := [26, 27, 178, 4, 29, 184, 4, 35, 87, 177]
abbrev dktJ8_checkIndex_0 : List UInt8 := dkwJ8_checkIndex_0 ++ []
theorem dksJ8_checkIndex_0 : cJ8_checkIndex.data.toList.drop 0 = dktJ8_checkIndex_0 := by decide +kernel
theorem dJ8_checkIndex_0 : decode cJ8_checkIndex 0 = .ok (.iload_n 0, 1) := dk_26 (dk_at dksJ8_checkIndex_0 0 rfl rfl)
theorem dJ8_checkIndex_1 : decode cJ8_checkIndex 1 = .ok (.iload_n 1, 1) := dk_27 (dk_at dksJ8_checkIndex_0 1 rfl rfl)
theorem dJ8_checkIndex_2 : decode cJ8_checkIndex 2 = .ok (.getstatic 1053, 3) := dk_178 4 29 (dk_at dksJ8_checkIndex_0 2 rfl rfl)
theorem dJ8_checkIndex_5 : decode cJ8_checkIndex 5 = .ok (.invokestatic 1059, 3) := dk_184 4 35 (dk_at dksJ8_checkIndex_0 5 rfl rfl)
theorem dJ8_checkIndex_8 : decode cJ8_checkIndex 8 = .ok (.pop, 1) := dk_87 (dk_at dksJ8_checkIndex_0 8 rfl rfl)
theorem dJ8_checkIndex_9 : decode cJ8_checkIndex 9 = .ok (.return_, 1) := dk_177 (dk_at dksJ8_checkIndex_0 9 rfl rfl)
theorem q99 : (Jvm.Cond.initialized "java/lang/String") ∈ lw_all := lw_g (lw_at lw_m1 19 rfl) rfl
theorem q1352 : (Jvm.Cond.instanceMethod ({ cls := "java/lang/String", name := "length", desc := "()I" } : Jvm.MethodName)) ∈ lw_all := lw_g (lw_at lw_m6 72 rfl) rfl
theorem q1353 : (Jvm.Cond.selects "java/lang/String" ({ cls := "java/lang/String", name := "length", desc := "()I" } : Jvm.MethodName) ({ cls := "java/lang/String", name := "length", desc := "()I" } : Jvm.MethodName)) ∈ lw_all := lw_g (lw_at lw_m6 73 rfl) rfl
theorem q1354 : (Jvm.Cond.code ({ cls := "java/lang/String", name := "length", desc := "()I" } : Jvm.MethodName) prog_28_method_54_code (1 : Nat) (Option.some Jvm.ClassFile.FieldType.int)) ∈ lw_all := lw_g (lw_at lw_m6 74 rfl) rfl
theorem q1355 : (Jvm.Cond.methodLink "java/lang/String" (335 : Nat) ({ cls := "java/lang/String", name := "coder", desc := "()B" } : Jvm.MethodName)) ∈ lw_all := lw_g (lw_at lw_m6 75 rfl) rfl
theorem q1356 : (Jvm.Cond.instanceMethod ({ cls := "java/lang/String", name := "coder", desc := "()B" } : Jvm.MethodName)) ∈ lw_all := lw_g (lw_at lw_m6 76 rfl) rfl
theorem q1357 : (Jvm.Cond.selects "java/lang/String" ({ cls := "java/lang/String", name := "coder", desc := "()B" } : Jvm.MethodName) ({ cls := "java/lang/String", name := "coder", desc := "()B" } : Jvm.MethodName)) ∈ lw_all := lw_g (lw_at lw_m6 77 rfl) rfl
theorem q1358 : (Jvm.Cond.code ({ cls := "java/lang/String", name := "coder", desc := "()B" } : Jvm.MethodName) prog_28_method_152_code (1 : Nat) (Option.some Jvm.ClassFile.FieldType.byte)) ∈ lw_all := lw_g (lw_at lw_m6 78 rfl) rfl
theorem q1359 : (Jvm.Cond.fieldLink "java/lang/String" (38 : Nat) "java/lang/String" "COMPACT_STRINGS" "Z") ∈ lw_all := lw_g (lw_at lw_m6 79 rfl) rfl
theorem q1360 : (Jvm.Cond.laysStatic "java/lang/String" "COMPACT_STRINGS" "Z") ∈ lw_tbl := lw_at lw_m6 80 rfl
theorem q1362 : (Jvm.Cond.instanceMethod ({ cls := "java/lang/String", name := "charAt", desc := "(I)C" } : Jvm.MethodName)) ∈ lw_all := lw_g (lw_at lw_m6 82 rfl) rfl
theorem q1363 : (Jvm.Cond.selects "java/lang/String" ({ cls := "java/lang/String", name := "charAt", desc := "(I)C" } : Jvm.MethodName) ({ cls := "java/lang/String", name := "charAt", desc := "(I)C" } : Jvm.MethodName)) ∈ lw_all := lw_g (lw_at lw_m6 83 rfl) rfl
theorem q1364 : (Jvm.Cond.code ({ cls := "java/lang/String", name := "charAt", desc := "(I)C" } : Jvm.MethodName) prog_28_method_56_code (2 : Nat) (Option.some Jvm.ClassFile.FieldType.char)) ∈ lw_all := lw_g (lw_at lw_m6 84 rfl) rfl
theorem q1365 : (Jvm.Cond.methodLink "java/lang/String" (492 : Nat) ({ cls := "java/lang/String", name := "isLatin1", desc := "()Z" } : Jvm.MethodName)) ∈ lw_all := lw_g (lw_at lw_m6 85 rfl) rfl
theorem q1366 : (Jvm.Cond.instanceMethod ({ cls := "java/lang/String", name := "isLatin1", desc := "()Z" } : Jvm.MethodName)) ∈ lw_all := lw_g (lw_at lw_m6 86 rfl) rfl
theorem q1367 : (Jvm.Cond.selects "java/lang/String" ({ cls := "java/lang/String", name := "isLatin1", desc := "()Z" } : Jvm.MethodName) ({ cls := "java/lang/String", name := "isLatin1", desc := "()Z" } : Jvm.MethodName)) ∈ lw_all := lw_g (lw_at lw_m6 87 rfl) rfl
theorem q1368 : (Jvm.Cond.code ({ cls := "java/lang/String", name := "isLatin1", desc := "()Z" } : Jvm.MethodName) prog_28_method_154_code (1 : Nat) (Option.some Jvm.ClassFile.FieldType.boolean)) ∈ lw_all := lw_g (lw_at lw_m6 88 rfl) rfl
theorem q1369 : (Jvm.Cond.methodLink "java/lang/String" (495 : Nat) ({ cls := "java/lang/StringLatin1", name := "charAt", desc := "([BI)C" } : Jvm.MethodName)) ∈ lw_all := lw_g (lw_at lw_m6 89 rfl) rfl
theorem q1373 : (Jvm.Cond.static ({ cls := "java/lang/String", name := "checkIndex", desc := "(II)V" } : Jvm.MethodName)) ∈ lw_all := lw_g (lw_at lw_m6 93 rfl) rfl
theorem q1374 : (Jvm.Cond.code ({ cls := "java/lang/String", name := "checkIndex", desc := "(II)V" } : Jvm.MethodName) prog_28_method_155_code (2 : Nat) (Option.none : Option Jvm.ClassFile.FieldType)) ∈ lw_all := lw_g (lw_at lw_m6 94 rfl) rfl
theorem q1375 : (Jvm.Cond.fieldLink "java/lang/String" (1053 : Nat) "jdk/internal/util/Preconditions" "SIOOBE_FORMATTER" "Ljava/util/function/BiFunction;") ∈ lw_all := lw_g (lw_at lw_m6 95 rfl) rfl
theorem q1377 : (Jvm.Cond.methodLink "java/lang/String" (1059 : Nat) ({ cls := "jdk/internal/util/Preconditions", name := "checkIndex", desc := "(IILjava/util/function/BiFunction;)I" } : Jvm.MethodName)) ∈ lw_all := lw_g (lw_at lw_m6 97 rfl) rfl
theorem q1378 : (Jvm.Cond.methodLink "java/lang/String" (498 : Nat) ({ cls := "java/lang/StringUTF16", name := "charAt", desc := "([BI)C" } : Jvm.MethodName)) ∈ lw_all := lw_g (lw_at lw_m6 98 rfl) rfl
theorem q1715 : (Jvm.Cond.castable "java/lang/String" "java/lang/Object") ∈ lw_tbl := lw_at lw_m7 195 rfl
theorem q1727 : (Jvm.Cond.fieldLink "java/lang/String" (9 : Nat) "java/lang/String" "value" "[B") ∈ lw_all := lw_g (lw_at lw_m7 207 rfl) rfl
theorem q1728 : (Jvm.Cond.fieldLink "java/lang/String" (15 : Nat) "java/lang/String" "coder" "B") ∈ lw_all := lw_g (lw_at lw_m7 208 rfl) rfl

/-! java/lang/StringLatin1 -/
set_option maxRecDepth 100000
def RJ9 : String := "java/lang/StringLatin1"
abbrev cJ9_charAt : ByteArray := prog_29_method_2_code
def yJ9_charAt : MethodName := ⟨RJ9, "charAt", "([BI)C"⟩
def dkwJ9_charAt_0 : List UInt8 := [27, 42, 190, 184, 0, 9, 42, 27, 51, 17, 0, 255, 126, 146, 172]
abbrev dktJ9_charAt_0 : List UInt8 := dkwJ9_charAt_0 ++ []
theorem dksJ9_charAt_0 : cJ9_charAt.data.toList.drop 0 = dktJ9_charAt_0 := by decide +kernel
theorem dJ9_charAt_0 : decode cJ9_charAt 0 = .ok (.iload_n 1, 1) := dk_27 (dk_at dksJ9_charAt_0 0 rfl rfl)
theorem dJ9_charAt_1 : decode cJ9_charAt 1 = .ok (.aload_n 0, 1) := dk_42 (dk_at dksJ9_charAt_0 1 rfl rfl)
theorem dJ9_charAt_2 : decode cJ9_charAt 2 = .ok (.arraylength, 1) := dk_190 (dk_at dksJ9_charAt_0 2 rfl rfl)
theorem dJ9_charAt_3 : decode cJ9_charAt 3 = .ok (.invokestatic 9, 3) := dk_184 0 9 (dk_at dksJ9_charAt_0 3 rfl rfl)
theorem dJ9_charAt_6 : decode cJ9_charAt 6 = .ok (.aload_n 0, 1) := dk_42 (dk_at dksJ9_charAt_0 6 rfl rfl)
theorem dJ9_charAt_7 : decode cJ9_charAt 7 = .ok (.iload_n 1, 1) := dk_27 (dk_at dksJ9_charAt_0 7 rfl rfl)
theorem dJ9_charAt_8 : decode cJ9_charAt 8 = .ok (.baload, 1) := dk_51 (dk_at dksJ9_charAt_0 8 rfl rfl)
theorem dJ9_charAt_9 : decode cJ9_charAt 9 = .ok (.sipush 255, 3) := dk_17 0 255 (dk_at dksJ9_charAt_0 9 rfl rfl)
theorem dJ9_charAt_12 : decode cJ9_charAt 12 = .ok (.iand, 1) := dk_126 (dk_at dksJ9_charAt_0 12 rfl rfl)
theorem dJ9_charAt_13 : decode cJ9_charAt 13 = .ok (.i2c, 1) := dk_146 (dk_at dksJ9_charAt_0 13 rfl rfl)
theorem dJ9_charAt_14 : decode cJ9_charAt 14 = .ok (.ireturn, 1) := dk_172 (dk_at dksJ9_charAt_0 14 rfl rfl)
theorem q100 : (Jvm.Cond.initialized "java/lang/StringLatin1") ∈ lw_all := lw_g (lw_at lw_m1 20 rfl) rfl
theorem q1370 : (Jvm.Cond.static ({ cls := "java/lang/StringLatin1", name := "charAt", desc := "([BI)C" } : Jvm.MethodName)) ∈ lw_all := lw_g (lw_at lw_m6 90 rfl) rfl
theorem q1371 : (Jvm.Cond.code ({ cls := "java/lang/StringLatin1", name := "charAt", desc := "([BI)C" } : Jvm.MethodName) prog_29_method_2_code (2 : Nat) (Option.some Jvm.ClassFile.FieldType.char)) ∈ lw_all := lw_g (lw_at lw_m6 91 rfl) rfl
theorem q1372 : (Jvm.Cond.methodLink "java/lang/StringLatin1" (9 : Nat) ({ cls := "java/lang/String", name := "checkIndex", desc := "(II)V" } : Jvm.MethodName)) ∈ lw_all := lw_g (lw_at lw_m6 92 rfl) rfl

/-! FewerMan$Inn -/
set_option maxRecDepth 100000
def RX1 : String := "FewerMan$Inn"
def TX1 : u_T := fun k => match k with
  | 0 => ("FewerMan$Inn", "clauses", "I", false)
  | 1 => ("FewerMan$Inn", "numbers", "[I", true)
  | 2 => ("FewerMan$Inn", "by", "[I", true)
  | _ => ("FewerMan$Inn", "tests", "Ljava/util/ArrayList;", true)
def tyX1 : Nat → FieldType := fun k => match k with
  | 0 => .int
  | 1 => .array .int
  | 2 => .array .int
  | _ => .object "java/util/ArrayList"
abbrev wsX10 : List Cond := u_ws RX1 TX1 4
theorem nmX1 : ∀ a, a < 4 → ∀ b, b < 4 → a ≠ b → (TX1 a).2.1 ≠ (TX1 b).2.1 := by decide +kernel
theorem tyX1_ok : ∀ k, k < 4 → parseFieldDescriptor (TX1 k).2.2.1 = some (tyX1 k) := by decide +kernel
abbrev cX1_init : ByteArray := prog_6_method_1_code
def yX1_init : MethodName := ⟨RX1, "<init>", "()V"⟩
def dkwX1_init_1 : List UInt8 := [181, 0, 15, 42, 187, 0, 18, 89, 183, 0, 20, 181, 0, 21, 177]
abbrev dktX1_init_1 : List UInt8 := dkwX1_init_1 ++ []
def dkwX1_init_0 : List UInt8 := [42, 183, 0, 3, 42, 5, 188, 10, 89, 3, 4, 79, 89, 4, 4, 79, 181, 0, 9, 42, 16, 10, 188, 10]
abbrev dktX1_init_0 : List UInt8 := dkwX1_init_0 ++ dktX1_init_1
theorem dksX1_init_0 : cX1_init.data.toList.drop 0 = dktX1_init_0 := by decide +kernel
theorem dksX1_init_1 : cX1_init.data.toList.drop 24 = dktX1_init_1 := dk_seg dksX1_init_0 24 rfl rfl
theorem dX1_init_0 : decode cX1_init 0 = .ok (.aload_n 0, 1) := dk_42 (dk_at dksX1_init_0 0 rfl rfl)
theorem dX1_init_1 : decode cX1_init 1 = .ok (.invokespecial 3, 3) := dk_183 0 3 (dk_at dksX1_init_0 1 rfl rfl)
theorem dX1_init_4 : decode cX1_init 4 = .ok (.aload_n 0, 1) := dk_42 (dk_at dksX1_init_0 4 rfl rfl)
theorem dX1_init_5 : decode cX1_init 5 = .ok (.iconst 2, 1) := dk_5 (dk_at dksX1_init_0 5 rfl rfl)
theorem dX1_init_6 : decode cX1_init 6 = .ok (.newarray .int, 2) := dk_188_10 (dk_at dksX1_init_0 6 rfl rfl)
theorem dX1_init_8 : decode cX1_init 8 = .ok (.dup, 1) := dk_89 (dk_at dksX1_init_0 8 rfl rfl)
theorem dX1_init_9 : decode cX1_init 9 = .ok (.iconst 0, 1) := dk_3 (dk_at dksX1_init_0 9 rfl rfl)
theorem dX1_init_10 : decode cX1_init 10 = .ok (.iconst 1, 1) := dk_4 (dk_at dksX1_init_0 10 rfl rfl)
theorem dX1_init_11 : decode cX1_init 11 = .ok (.iastore, 1) := dk_79 (dk_at dksX1_init_0 11 rfl rfl)
theorem dX1_init_12 : decode cX1_init 12 = .ok (.dup, 1) := dk_89 (dk_at dksX1_init_0 12 rfl rfl)
theorem dX1_init_13 : decode cX1_init 13 = .ok (.iconst 1, 1) := dk_4 (dk_at dksX1_init_0 13 rfl rfl)
theorem dX1_init_14 : decode cX1_init 14 = .ok (.iconst 1, 1) := dk_4 (dk_at dksX1_init_0 14 rfl rfl)
theorem dX1_init_15 : decode cX1_init 15 = .ok (.iastore, 1) := dk_79 (dk_at dksX1_init_0 15 rfl rfl)
theorem dX1_init_16 : decode cX1_init 16 = .ok (.putfield 9, 3) := dk_181 0 9 (dk_at dksX1_init_0 16 rfl rfl)
theorem dX1_init_19 : decode cX1_init 19 = .ok (.aload_n 0, 1) := dk_42 (dk_at dksX1_init_0 19 rfl rfl)
theorem dX1_init_20 : decode cX1_init 20 = .ok (.bipush 10, 2) := dk_16 10 (dk_at dksX1_init_0 20 rfl rfl)
theorem dX1_init_22 : decode cX1_init 22 = .ok (.newarray .int, 2) := dk_188_10 (dk_at dksX1_init_0 22 rfl rfl)
theorem dX1_init_24 : decode cX1_init 24 = .ok (.putfield 15, 3) := dk_181 0 15 (dk_at dksX1_init_1 0 rfl rfl)
theorem dX1_init_27 : decode cX1_init 27 = .ok (.aload_n 0, 1) := dk_42 (dk_at dksX1_init_1 3 rfl rfl)
theorem dX1_init_28 : decode cX1_init 28 = .ok (.new 18, 3) := dk_187 0 18 (dk_at dksX1_init_1 4 rfl rfl)
theorem dX1_init_31 : decode cX1_init 31 = .ok (.dup, 1) := dk_89 (dk_at dksX1_init_1 7 rfl rfl)
theorem dX1_init_32 : decode cX1_init 32 = .ok (.invokespecial 20, 3) := dk_183 0 20 (dk_at dksX1_init_1 8 rfl rfl)
theorem dX1_init_35 : decode cX1_init 35 = .ok (.putfield 21, 3) := dk_181 0 21 (dk_at dksX1_init_1 11 rfl rfl)
theorem dX1_init_38 : decode cX1_init 38 = .ok (.return_, 1) := dk_177 (dk_at dksX1_init_1 14 rfl rfl)
abbrev cX1_lifts : ByteArray := prog_6_method_2_code
def yX1_lifts : MethodName := ⟨RX1, "lifts", "(LFewerMan$Moment;)I"⟩
def dkwX1_lifts_2 : List UInt8 := [132, 3, 1, 167, 255, 209, 28, 172]
abbrev dktX1_lifts_2 : List UInt8 := dkwX1_lifts_2 ++ []
def dkwX1_lifts_1 : List UInt8 := [192, 0, 33, 43, 185, 0, 35, 2, 0, 153, 0, 12, 42, 180, 0, 15, 29, 46, 167, 0, 4, 3, 96, 61]
abbrev dktX1_lifts_1 : List UInt8 := dkwX1_lifts_1 ++ dktX1_lifts_2
def dkwX1_lifts_0 : List UInt8 := [3, 61, 3, 62, 29, 42, 180, 0, 21, 182, 0, 25, 162, 0, 42, 28, 42, 180, 0, 21, 29, 182, 0, 29]
abbrev dktX1_lifts_0 : List UInt8 := dkwX1_lifts_0 ++ dktX1_lifts_1
theorem dksX1_lifts_0 : cX1_lifts.data.toList.drop 0 = dktX1_lifts_0 := by decide +kernel
theorem dksX1_lifts_1 : cX1_lifts.data.toList.drop 24 = dktX1_lifts_1 := dk_seg dksX1_lifts_0 24 rfl rfl
theorem dksX1_lifts_2 : cX1_lifts.data.toList.drop 48 = dktX1_lifts_2 := dk_seg dksX1_lifts_1 24 rfl rfl
theorem dX1_lifts_0 : decode cX1_lifts 0 = .ok (.iconst 0, 1) := dk_3 (dk_at dksX1_lifts_0 0 rfl rfl)
theorem dX1_lifts_1 : decode cX1_lifts 1 = .ok (.istore_n 2, 1) := dk_61 (dk_at dksX1_lifts_0 1 rfl rfl)
theorem dX1_lifts_2 : decode cX1_lifts 2 = .ok (.iconst 0, 1) := dk_3 (dk_at dksX1_lifts_0 2 rfl rfl)
theorem dX1_lifts_3 : decode cX1_lifts 3 = .ok (.istore_n 3, 1) := dk_62 (dk_at dksX1_lifts_0 3 rfl rfl)
theorem dX1_lifts_4 : decode cX1_lifts 4 = .ok (.iload_n 3, 1) := dk_29 (dk_at dksX1_lifts_0 4 rfl rfl)
theorem dX1_lifts_5 : decode cX1_lifts 5 = .ok (.aload_n 0, 1) := dk_42 (dk_at dksX1_lifts_0 5 rfl rfl)
theorem dX1_lifts_6 : decode cX1_lifts 6 = .ok (.getfield 21, 3) := dk_180 0 21 (dk_at dksX1_lifts_0 6 rfl rfl)
theorem dX1_lifts_9 : decode cX1_lifts 9 = .ok (.invokevirtual 25, 3) := dk_182 0 25 (dk_at dksX1_lifts_0 9 rfl rfl)
theorem dX1_lifts_12 : decode cX1_lifts 12 = .ok (.if_icmp .ge 42, 3) := dk_162 0 42 (dk_at dksX1_lifts_0 12 rfl rfl)
theorem dX1_lifts_15 : decode cX1_lifts 15 = .ok (.iload_n 2, 1) := dk_28 (dk_at dksX1_lifts_0 15 rfl rfl)
theorem dX1_lifts_16 : decode cX1_lifts 16 = .ok (.aload_n 0, 1) := dk_42 (dk_at dksX1_lifts_0 16 rfl rfl)
theorem dX1_lifts_17 : decode cX1_lifts 17 = .ok (.getfield 21, 3) := dk_180 0 21 (dk_at dksX1_lifts_0 17 rfl rfl)
theorem dX1_lifts_20 : decode cX1_lifts 20 = .ok (.iload_n 3, 1) := dk_29 (dk_at dksX1_lifts_0 20 rfl rfl)
theorem dX1_lifts_21 : decode cX1_lifts 21 = .ok (.invokevirtual 29, 3) := dk_182 0 29 (dk_at dksX1_lifts_0 21 rfl rfl)
theorem dX1_lifts_24 : decode cX1_lifts 24 = .ok (.checkcast 33, 3) := dk_192 0 33 (dk_at dksX1_lifts_1 0 rfl rfl)
theorem dX1_lifts_27 : decode cX1_lifts 27 = .ok (.aload_n 1, 1) := dk_43 (dk_at dksX1_lifts_1 3 rfl rfl)
theorem dX1_lifts_28 : decode cX1_lifts 28 = .ok (.invokeinterface 35 2, 5) := by decide +kernel
theorem dX1_lifts_33 : decode cX1_lifts 33 = .ok (.ifCond .eq 12, 3) := dk_153 0 12 (dk_at dksX1_lifts_1 9 rfl rfl)
theorem dX1_lifts_36 : decode cX1_lifts 36 = .ok (.aload_n 0, 1) := dk_42 (dk_at dksX1_lifts_1 12 rfl rfl)
theorem dX1_lifts_37 : decode cX1_lifts 37 = .ok (.getfield 15, 3) := dk_180 0 15 (dk_at dksX1_lifts_1 13 rfl rfl)
theorem dX1_lifts_40 : decode cX1_lifts 40 = .ok (.iload_n 3, 1) := dk_29 (dk_at dksX1_lifts_1 16 rfl rfl)
theorem dX1_lifts_41 : decode cX1_lifts 41 = .ok (.iaload, 1) := dk_46 (dk_at dksX1_lifts_1 17 rfl rfl)
theorem dX1_lifts_42 : decode cX1_lifts 42 = .ok (.goto 4, 3) := dk_167 0 4 (dk_at dksX1_lifts_1 18 rfl rfl)
theorem dX1_lifts_45 : decode cX1_lifts 45 = .ok (.iconst 0, 1) := dk_3 (dk_at dksX1_lifts_1 21 rfl rfl)
theorem dX1_lifts_46 : decode cX1_lifts 46 = .ok (.iadd, 1) := dk_96 (dk_at dksX1_lifts_1 22 rfl rfl)
theorem dX1_lifts_47 : decode cX1_lifts 47 = .ok (.istore_n 2, 1) := dk_61 (dk_at dksX1_lifts_1 23 rfl rfl)
theorem dX1_lifts_48 : decode cX1_lifts 48 = .ok (.iinc 3 1, 3) := dk_132 3 1 (dk_at dksX1_lifts_2 0 rfl rfl)
theorem dX1_lifts_51 : decode cX1_lifts 51 = .ok (.goto (-47), 3) := dk_167 255 209 (dk_at dksX1_lifts_2 3 rfl rfl)
theorem dX1_lifts_54 : decode cX1_lifts 54 = .ok (.iload_n 2, 1) := dk_28 (dk_at dksX1_lifts_2 6 rfl rfl)
theorem dX1_lifts_55 : decode cX1_lifts 55 = .ok (.ireturn, 1) := dk_172 (dk_at dksX1_lifts_2 7 rfl rfl)
theorem q82 : (Jvm.Cond.initialized "FewerMan$Inn") ∈ lw_all := lw_g (lw_at lw_m1 2 rfl) rfl
theorem q122 : (Jvm.Cond.instantiable "FewerMan$Inn" (4 : Nat)) ∈ lw_all := lw_g (lw_at lw_m1 42 rfl) rfl
theorem q124 : (Jvm.Cond.instanceMethod ({ cls := "FewerMan$Inn", name := "<init>", desc := "()V" } : Jvm.MethodName)) ∈ lw_all := lw_g (lw_at lw_m1 44 rfl) rfl
theorem q125 : (Jvm.Cond.code ({ cls := "FewerMan$Inn", name := "<init>", desc := "()V" } : Jvm.MethodName) prog_6_method_1_code (1 : Nat) (Option.none : Option Jvm.ClassFile.FieldType)) ∈ lw_all := lw_g (lw_at lw_m1 45 rfl) rfl
theorem q126 : (Jvm.Cond.methodLink "FewerMan$Inn" (3 : Nat) ({ cls := "java/lang/Object", name := "<init>", desc := "()V" } : Jvm.MethodName)) ∈ lw_all := lw_g (lw_at lw_m1 46 rfl) rfl
theorem q127 : (Jvm.Cond.classLink "FewerMan$Inn" (18 : Nat) "java/util/ArrayList") ∈ lw_all := lw_g (lw_at lw_m1 47 rfl) rfl
theorem q129 : (Jvm.Cond.methodLink "FewerMan$Inn" (20 : Nat) ({ cls := "java/util/ArrayList", name := "<init>", desc := "()V" } : Jvm.MethodName)) ∈ lw_all := lw_g (lw_at lw_m1 49 rfl) rfl
theorem q156 : (Jvm.Cond.fieldLink "FewerMan$Inn" (9 : Nat) "FewerMan$Inn" "numbers" "[I") ∈ lw_all := lw_g (lw_at lw_m1 76 rfl) rfl
theorem q159 : (Jvm.Cond.fieldLink "FewerMan$Inn" (15 : Nat) "FewerMan$Inn" "by" "[I") ∈ lw_all := lw_g (lw_at lw_m1 79 rfl) rfl
theorem q161 : (Jvm.Cond.fieldLink "FewerMan$Inn" (21 : Nat) "FewerMan$Inn" "tests" "Ljava/util/ArrayList;") ∈ lw_all := lw_g (lw_at lw_m1 81 rfl) rfl
theorem q163 : (Jvm.Cond.lays "FewerMan$Inn" "FewerMan$Inn" "clauses" "I") ∈ lw_all := lw_g (lw_at lw_m1 83 rfl) rfl
theorem q164 : (Jvm.Cond.soleField "FewerMan$Inn" "clauses") ∈ lw_all := lw_g (lw_at lw_m1 84 rfl) rfl
theorem q165 : (Jvm.Cond.laysFinal "FewerMan$Inn" "FewerMan$Inn" "numbers" "[I") ∈ lw_all := lw_g (lw_at lw_m1 85 rfl) rfl
theorem q166 : (Jvm.Cond.soleField "FewerMan$Inn" "numbers") ∈ lw_all := lw_g (lw_at lw_m1 86 rfl) rfl
theorem q167 : (Jvm.Cond.laysFinal "FewerMan$Inn" "FewerMan$Inn" "by" "[I") ∈ lw_all := lw_g (lw_at lw_m1 87 rfl) rfl
theorem q168 : (Jvm.Cond.soleField "FewerMan$Inn" "by") ∈ lw_all := lw_g (lw_at lw_m1 88 rfl) rfl
theorem q169 : (Jvm.Cond.laysFinal "FewerMan$Inn" "FewerMan$Inn" "tests" "Ljava/util/ArrayList;") ∈ lw_all := lw_g (lw_at lw_m1 89 rfl) rfl
theorem q170 : (Jvm.Cond.soleField "FewerMan$Inn" "tests") ∈ lw_all := lw_g (lw_at lw_m1 90 rfl) rfl
theorem q171 : (Jvm.Cond.superclass "FewerMan$Inn" "java/lang/Object") ∈ lw_all := lw_g (lw_at lw_m1 91 rfl) rfl
theorem q535 : (Jvm.Cond.selects "FewerMan$Inn" ({ cls := "java/lang/Object", name := "getClass", desc := "()Ljava/lang/Class;" } : Jvm.MethodName) ({ cls := "java/lang/Object", name := "getClass", desc := "()Ljava/lang/Class;" } : Jvm.MethodName)) ∈ lw_all := lw_g (lw_at lw_m2 215 rfl) rfl
theorem q776 : (Jvm.Cond.instanceMethod ({ cls := "FewerMan$Inn", name := "lifts", desc := "(LFewerMan$Moment;)I" } : Jvm.MethodName)) ∈ lw_all := lw_g (lw_at lw_m3 216 rfl) rfl
theorem q777 : (Jvm.Cond.selects "FewerMan$Inn" ({ cls := "FewerMan$Inn", name := "lifts", desc := "(LFewerMan$Moment;)I" } : Jvm.MethodName) ({ cls := "FewerMan$Inn", name := "lifts", desc := "(LFewerMan$Moment;)I" } : Jvm.MethodName)) ∈ lw_all := lw_g (lw_at lw_m3 217 rfl) rfl
theorem q778 : (Jvm.Cond.code ({ cls := "FewerMan$Inn", name := "lifts", desc := "(LFewerMan$Moment;)I" } : Jvm.MethodName) prog_6_method_2_code (4 : Nat) (Option.some Jvm.ClassFile.FieldType.int)) ∈ lw_all := lw_g (lw_at lw_m3 218 rfl) rfl
theorem q779 : (Jvm.Cond.methodLink "FewerMan$Inn" (25 : Nat) ({ cls := "java/util/ArrayList", name := "size", desc := "()I" } : Jvm.MethodName)) ∈ lw_all := lw_g (lw_at lw_m3 219 rfl) rfl
theorem q780 : (Jvm.Cond.methodLink "FewerMan$Inn" (29 : Nat) ({ cls := "java/util/ArrayList", name := "get", desc := "(I)Ljava/lang/Object;" } : Jvm.MethodName)) ∈ lw_all := lw_g (lw_at lw_m3 220 rfl) rfl
theorem q781 : (Jvm.Cond.classLink "FewerMan$Inn" (33 : Nat) "FewerMan$Test") ∈ lw_all := lw_g (lw_at lw_m3 221 rfl) rfl
theorem q782 : (Jvm.Cond.interfaceEntry "FewerMan$Inn" (35 : Nat)) ∈ lw_tbl := lw_at lw_m3 222 rfl
theorem q783 : (Jvm.Cond.methodLink "FewerMan$Inn" (35 : Nat) ({ cls := "FewerMan$Test", name := "holds", desc := "(LFewerMan$Moment;)Z" } : Jvm.MethodName)) ∈ lw_all := lw_g (lw_at lw_m3 223 rfl) rfl
theorem q1697 : (Jvm.Cond.castable "FewerMan$Inn" "java/lang/Object") ∈ lw_tbl := lw_at lw_m7 177 rfl
theorem in_X1 : ∀ w ∈ wsX10, w ∈ lw_all := lw_in wsX10 [163, 165, 167, 169] (by decide +kernel) (by decide +kernel)

/-! FewerMan$Master -/
set_option maxRecDepth 100000
def RX10 : String := "FewerMan$Master"
def TX10 : u_T := fun k => match k with
  | 0 => ("FewerMan$Player", "number", "I", true)
  | 1 => ("FewerMan$Player", "v", "I", false)
  | 2 => ("FewerMan$Player", "men", "I", false)
  | 3 => ("FewerMan$Player", "this$0", "LFewerMan;", true)
  | _ => ("FewerMan$Master", "this$0", "LFewerMan;", true)
def tyX10 : Nat → FieldType := fun k => match k with
  | 0 => .int
  | 1 => .int
  | 2 => .int
  | 3 => .object "FewerMan"
  | _ => .object "FewerMan"
abbrev wsX100 : List Cond := u_ws RX10 TX10 5
-- two fields of one name: no nmX10
theorem tyX10_ok : ∀ k, k < 5 → parseFieldDescriptor (TX10 k).2.2.1 = some (tyX10 k) := by decide +kernel
abbrev cX10_init : ByteArray := prog_7_method_1_code
def yX10_init : MethodName := ⟨RX10, "<init>", "(LFewerMan;II)V"⟩
def dkwX10_init_0 : List UInt8 := [42, 43, 181, 0, 1, 42, 43, 28, 29, 183, 0, 7, 177]
abbrev dktX10_init_0 : List UInt8 := dkwX10_init_0 ++ []
theorem dksX10_init_0 : cX10_init.data.toList.drop 0 = dktX10_init_0 := by decide +kernel
theorem dX10_init_0 : decode cX10_init 0 = .ok (.aload_n 0, 1) := dk_42 (dk_at dksX10_init_0 0 rfl rfl)
theorem dX10_init_1 : decode cX10_init 1 = .ok (.aload_n 1, 1) := dk_43 (dk_at dksX10_init_0 1 rfl rfl)
theorem dX10_init_2 : decode cX10_init 2 = .ok (.putfield 1, 3) := dk_181 0 1 (dk_at dksX10_init_0 2 rfl rfl)
theorem dX10_init_5 : decode cX10_init 5 = .ok (.aload_n 0, 1) := dk_42 (dk_at dksX10_init_0 5 rfl rfl)
theorem dX10_init_6 : decode cX10_init 6 = .ok (.aload_n 1, 1) := dk_43 (dk_at dksX10_init_0 6 rfl rfl)
theorem dX10_init_7 : decode cX10_init 7 = .ok (.iload_n 2, 1) := dk_28 (dk_at dksX10_init_0 7 rfl rfl)
theorem dX10_init_8 : decode cX10_init 8 = .ok (.iload_n 3, 1) := dk_29 (dk_at dksX10_init_0 8 rfl rfl)
theorem dX10_init_9 : decode cX10_init 9 = .ok (.invokespecial 7, 3) := dk_183 0 7 (dk_at dksX10_init_0 9 rfl rfl)
theorem dX10_init_12 : decode cX10_init 12 = .ok (.return_, 1) := dk_177 (dk_at dksX10_init_0 12 rfl rfl)
abbrev cX10_kind : ByteArray := prog_7_method_2_code
def yX10_kind : MethodName := ⟨RX10, "kind", "()I"⟩
theorem dX10_kind_0 : decode cX10_kind 0 = .ok (.iconst 1, 1) := by decide +kernel
theorem dX10_kind_1 : decode cX10_kind 1 = .ok (.ireturn, 1) := by decide +kernel
abbrev cX10_pushes : ByteArray := prog_7_method_4_code
def yX10_pushes : MethodName := ⟨RX10, "pushes", "(LFewerMan$Player;)I"⟩
def dkwX10_pushes_0 : List UInt8 := [42, 180, 0, 17, 43, 180, 0, 21, 162, 0, 7, 5, 167, 0, 4, 3, 172]
abbrev dktX10_pushes_0 : List UInt8 := dkwX10_pushes_0 ++ []
theorem dksX10_pushes_0 : cX10_pushes.data.toList.drop 0 = dktX10_pushes_0 := by decide +kernel
theorem dX10_pushes_0 : decode cX10_pushes 0 = .ok (.aload_n 0, 1) := dk_42 (dk_at dksX10_pushes_0 0 rfl rfl)
theorem dX10_pushes_1 : decode cX10_pushes 1 = .ok (.getfield 17, 3) := dk_180 0 17 (dk_at dksX10_pushes_0 1 rfl rfl)
theorem dX10_pushes_4 : decode cX10_pushes 4 = .ok (.aload_n 1, 1) := dk_43 (dk_at dksX10_pushes_0 4 rfl rfl)
theorem dX10_pushes_5 : decode cX10_pushes 5 = .ok (.getfield 21, 3) := dk_180 0 21 (dk_at dksX10_pushes_0 5 rfl rfl)
theorem dX10_pushes_8 : decode cX10_pushes 8 = .ok (.if_icmp .ge 7, 3) := dk_162 0 7 (dk_at dksX10_pushes_0 8 rfl rfl)
theorem dX10_pushes_11 : decode cX10_pushes 11 = .ok (.iconst 2, 1) := dk_5 (dk_at dksX10_pushes_0 11 rfl rfl)
theorem dX10_pushes_12 : decode cX10_pushes 12 = .ok (.goto 4, 3) := dk_167 0 4 (dk_at dksX10_pushes_0 12 rfl rfl)
theorem dX10_pushes_15 : decode cX10_pushes 15 = .ok (.iconst 0, 1) := dk_3 (dk_at dksX10_pushes_0 15 rfl rfl)
theorem dX10_pushes_16 : decode cX10_pushes 16 = .ok (.ireturn, 1) := dk_172 (dk_at dksX10_pushes_0 16 rfl rfl)
abbrev cX10_moves : ByteArray := prog_7_method_5_code
def yX10_moves : MethodName := ⟨RX10, "moves", "(I)I"⟩
def dkwX10_moves_0 : List UInt8 := [42, 180, 0, 1, 16, 11, 182, 0, 22, 42, 27, 6, 104, 183, 0, 28, 172]
abbrev dktX10_moves_0 : List UInt8 := dkwX10_moves_0 ++ []
theorem dksX10_moves_0 : cX10_moves.data.toList.drop 0 = dktX10_moves_0 := by decide +kernel
theorem dX10_moves_0 : decode cX10_moves 0 = .ok (.aload_n 0, 1) := dk_42 (dk_at dksX10_moves_0 0 rfl rfl)
theorem dX10_moves_1 : decode cX10_moves 1 = .ok (.getfield 1, 3) := dk_180 0 1 (dk_at dksX10_moves_0 1 rfl rfl)
theorem dX10_moves_4 : decode cX10_moves 4 = .ok (.bipush 11, 2) := dk_16 11 (dk_at dksX10_moves_0 4 rfl rfl)
theorem dX10_moves_6 : decode cX10_moves 6 = .ok (.invokevirtual 22, 3) := dk_182 0 22 (dk_at dksX10_moves_0 6 rfl rfl)
theorem dX10_moves_9 : decode cX10_moves 9 = .ok (.aload_n 0, 1) := dk_42 (dk_at dksX10_moves_0 9 rfl rfl)
theorem dX10_moves_10 : decode cX10_moves 10 = .ok (.iload_n 1, 1) := dk_27 (dk_at dksX10_moves_0 10 rfl rfl)
theorem dX10_moves_11 : decode cX10_moves 11 = .ok (.iconst 3, 1) := dk_6 (dk_at dksX10_moves_0 11 rfl rfl)
theorem dX10_moves_12 : decode cX10_moves 12 = .ok (.imul, 1) := dk_104 (dk_at dksX10_moves_0 12 rfl rfl)
theorem dX10_moves_13 : decode cX10_moves 13 = .ok (.invokespecial 28, 3) := dk_183 0 28 (dk_at dksX10_moves_0 13 rfl rfl)
theorem dX10_moves_16 : decode cX10_moves 16 = .ok (.ireturn, 1) := dk_172 (dk_at dksX10_moves_0 16 rfl rfl)
abbrev cX10_isUnder : ByteArray := prog_7_method_3_code
def yX10_isUnder : MethodName := ⟨RX10, "isUnder", "(I)Z"⟩
def dkwX10_isUnder_0 : List UInt8 := [27, 4, 159, 0, 11, 42, 27, 183, 0, 13, 153, 0, 7, 4, 167, 0, 4, 3, 172]
abbrev dktX10_isUnder_0 : List UInt8 := dkwX10_isUnder_0 ++ []
theorem dksX10_isUnder_0 : cX10_isUnder.data.toList.drop 0 = dktX10_isUnder_0 := by decide +kernel
theorem dX10_isUnder_0 : decode cX10_isUnder 0 = .ok (.iload_n 1, 1) := dk_27 (dk_at dksX10_isUnder_0 0 rfl rfl)
theorem dX10_isUnder_1 : decode cX10_isUnder 1 = .ok (.iconst 1, 1) := dk_4 (dk_at dksX10_isUnder_0 1 rfl rfl)
theorem dX10_isUnder_2 : decode cX10_isUnder 2 = .ok (.if_icmp .eq 11, 3) := dk_159 0 11 (dk_at dksX10_isUnder_0 2 rfl rfl)
theorem dX10_isUnder_5 : decode cX10_isUnder 5 = .ok (.aload_n 0, 1) := dk_42 (dk_at dksX10_isUnder_0 5 rfl rfl)
theorem dX10_isUnder_6 : decode cX10_isUnder 6 = .ok (.iload_n 1, 1) := dk_27 (dk_at dksX10_isUnder_0 6 rfl rfl)
theorem dX10_isUnder_7 : decode cX10_isUnder 7 = .ok (.invokespecial 13, 3) := dk_183 0 13 (dk_at dksX10_isUnder_0 7 rfl rfl)
theorem dX10_isUnder_10 : decode cX10_isUnder 10 = .ok (.ifCond .eq 7, 3) := dk_153 0 7 (dk_at dksX10_isUnder_0 10 rfl rfl)
theorem dX10_isUnder_13 : decode cX10_isUnder 13 = .ok (.iconst 1, 1) := dk_4 (dk_at dksX10_isUnder_0 13 rfl rfl)
theorem dX10_isUnder_14 : decode cX10_isUnder 14 = .ok (.goto 4, 3) := dk_167 0 4 (dk_at dksX10_isUnder_0 14 rfl rfl)
theorem dX10_isUnder_17 : decode cX10_isUnder 17 = .ok (.iconst 0, 1) := dk_3 (dk_at dksX10_isUnder_0 17 rfl rfl)
theorem dX10_isUnder_18 : decode cX10_isUnder 18 = .ok (.ireturn, 1) := dk_172 (dk_at dksX10_isUnder_0 18 rfl rfl)
theorem q104 : (Jvm.Cond.initialized "FewerMan$Master") ∈ lw_all := lw_g (lw_at lw_m1 24 rfl) rfl
theorem q536 : (Jvm.Cond.selects "FewerMan$Master" ({ cls := "java/lang/Object", name := "getClass", desc := "()Ljava/lang/Class;" } : Jvm.MethodName) ({ cls := "java/lang/Object", name := "getClass", desc := "()Ljava/lang/Class;" } : Jvm.MethodName)) ∈ lw_all := lw_g (lw_at lw_m2 216 rfl) rfl
theorem q593 : (Jvm.Cond.fieldLink "FewerMan$Master" (17 : Nat) "FewerMan$Master" "men" "I") ∈ lw_all := lw_g (lw_at lw_m3 33 rfl) rfl
theorem q594 : (Jvm.Cond.sameField "FewerMan$Master" "FewerMan$Player" "men" "I") ∈ lw_all := lw_g (lw_at lw_m3 34 rfl) rfl
theorem q597 : (Jvm.Cond.fieldLink "FewerMan$Master" (21 : Nat) "FewerMan$Player" "men" "I") ∈ lw_all := lw_g (lw_at lw_m3 37 rfl) rfl
theorem q610 : (Jvm.Cond.instantiable "FewerMan$Master" (5 : Nat)) ∈ lw_all := lw_g (lw_at lw_m3 50 rfl) rfl
theorem q612 : (Jvm.Cond.instanceMethod ({ cls := "FewerMan$Master", name := "<init>", desc := "(LFewerMan;II)V" } : Jvm.MethodName)) ∈ lw_all := lw_g (lw_at lw_m3 52 rfl) rfl
theorem q613 : (Jvm.Cond.code ({ cls := "FewerMan$Master", name := "<init>", desc := "(LFewerMan;II)V" } : Jvm.MethodName) prog_7_method_1_code (4 : Nat) (Option.none : Option Jvm.ClassFile.FieldType)) ∈ lw_all := lw_g (lw_at lw_m3 53 rfl) rfl
theorem q614 : (Jvm.Cond.methodLink "FewerMan$Master" (7 : Nat) ({ cls := "FewerMan$Player", name := "<init>", desc := "(LFewerMan;II)V" } : Jvm.MethodName)) ∈ lw_all := lw_g (lw_at lw_m3 54 rfl) rfl
theorem q615 : (Jvm.Cond.fieldLink "FewerMan$Master" (1 : Nat) "FewerMan$Master" "this$0" "LFewerMan;") ∈ lw_all := lw_g (lw_at lw_m3 55 rfl) rfl
theorem q616 : (Jvm.Cond.laysFinal "FewerMan$Master" "FewerMan$Master" "this$0" "LFewerMan;") ∈ lw_all := lw_g (lw_at lw_m3 56 rfl) rfl
theorem q617 : (Jvm.Cond.soleField "FewerMan$Master" "this$0") ∈ lw_all := lw_g (lw_at lw_m3 57 rfl) rfl
theorem q618 : (Jvm.Cond.laysFinal "FewerMan$Master" "FewerMan$Player" "number" "I") ∈ lw_all := lw_g (lw_at lw_m3 58 rfl) rfl
theorem q619 : (Jvm.Cond.lays "FewerMan$Master" "FewerMan$Player" "v" "I") ∈ lw_all := lw_g (lw_at lw_m3 59 rfl) rfl
theorem q620 : (Jvm.Cond.lays "FewerMan$Master" "FewerMan$Player" "men" "I") ∈ lw_all := lw_g (lw_at lw_m3 60 rfl) rfl
theorem q621 : (Jvm.Cond.laysFinal "FewerMan$Master" "FewerMan$Player" "this$0" "LFewerMan;") ∈ lw_all := lw_g (lw_at lw_m3 61 rfl) rfl
theorem q622 : (Jvm.Cond.superclass "FewerMan$Master" "FewerMan$Player") ∈ lw_all := lw_g (lw_at lw_m3 62 rfl) rfl
theorem q734 : (Jvm.Cond.selects "FewerMan$Master" ({ cls := "FewerMan$Player", name := "kind", desc := "()I" } : Jvm.MethodName) ({ cls := "FewerMan$Master", name := "kind", desc := "()I" } : Jvm.MethodName)) ∈ lw_all := lw_g (lw_at lw_m3 174 rfl) rfl
theorem q735 : (Jvm.Cond.instanceMethod ({ cls := "FewerMan$Master", name := "kind", desc := "()I" } : Jvm.MethodName)) ∈ lw_all := lw_g (lw_at lw_m3 175 rfl) rfl
theorem q736 : (Jvm.Cond.code ({ cls := "FewerMan$Master", name := "kind", desc := "()I" } : Jvm.MethodName) prog_7_method_2_code (1 : Nat) (Option.some Jvm.ClassFile.FieldType.int)) ∈ lw_all := lw_g (lw_at lw_m3 176 rfl) rfl
theorem q769 : (Jvm.Cond.selects "FewerMan$Master" ({ cls := "FewerMan$Player", name := "push", desc := "(LFewerMan$Player;)I" } : Jvm.MethodName) ({ cls := "FewerMan$Player", name := "push", desc := "(LFewerMan$Player;)I" } : Jvm.MethodName)) ∈ lw_all := lw_g (lw_at lw_m3 209 rfl) rfl
theorem q823 : (Jvm.Cond.instanceMethod ({ cls := "FewerMan$Master", name := "pushes", desc := "(LFewerMan$Player;)I" } : Jvm.MethodName)) ∈ lw_all := lw_g (lw_at lw_m4 23 rfl) rfl
theorem q824 : (Jvm.Cond.code ({ cls := "FewerMan$Master", name := "pushes", desc := "(LFewerMan$Player;)I" } : Jvm.MethodName) prog_7_method_4_code (2 : Nat) (Option.some Jvm.ClassFile.FieldType.int)) ∈ lw_all := lw_g (lw_at lw_m4 24 rfl) rfl
theorem q825 : (Jvm.Cond.selects "FewerMan$Master" ({ cls := "FewerMan$Player", name := "pushes", desc := "(LFewerMan$Player;)I" } : Jvm.MethodName) ({ cls := "FewerMan$Master", name := "pushes", desc := "(LFewerMan$Player;)I" } : Jvm.MethodName)) ∈ lw_all := lw_g (lw_at lw_m4 25 rfl) rfl
theorem q848 : (Jvm.Cond.selects "FewerMan$Master" ({ cls := "FewerMan$Player", name := "odds", desc := "(LFewerMan$Player;)I" } : Jvm.MethodName) ({ cls := "FewerMan$Player", name := "odds", desc := "(LFewerMan$Player;)I" } : Jvm.MethodName)) ∈ lw_all := lw_g (lw_at lw_m4 48 rfl) rfl
theorem q1033 : (Jvm.Cond.instanceMethod ({ cls := "FewerMan$Master", name := "moves", desc := "(I)I" } : Jvm.MethodName)) ∈ lw_all := lw_g (lw_at lw_m4 233 rfl) rfl
theorem q1034 : (Jvm.Cond.code ({ cls := "FewerMan$Master", name := "moves", desc := "(I)I" } : Jvm.MethodName) prog_7_method_5_code (2 : Nat) (Option.some Jvm.ClassFile.FieldType.int)) ∈ lw_all := lw_g (lw_at lw_m4 234 rfl) rfl
theorem q1035 : (Jvm.Cond.methodLinkNest "FewerMan$Master" (22 : Nat) ({ cls := "FewerMan", name := "body", desc := "(I)V" } : Jvm.MethodName) "FewerMan") ∈ lw_tbl := lw_at lw_m4 235 rfl
theorem q1039 : (Jvm.Cond.methodLink "FewerMan$Master" (28 : Nat) ({ cls := "FewerMan$Player", name := "moves", desc := "(I)I" } : Jvm.MethodName)) ∈ lw_all := lw_g (lw_at lw_m4 239 rfl) rfl
theorem q1042 : (Jvm.Cond.selects "FewerMan$Master" ({ cls := "FewerMan$Player", name := "moves", desc := "(I)I" } : Jvm.MethodName) ({ cls := "FewerMan$Master", name := "moves", desc := "(I)I" } : Jvm.MethodName)) ∈ lw_all := lw_g (lw_at lw_m5 2 rfl) rfl
theorem q1058 : (Jvm.Cond.selects "FewerMan$Master" ({ cls := "FewerMan$Player", name := "bets", desc := "(I)I" } : Jvm.MethodName) ({ cls := "FewerMan$Player", name := "bets", desc := "(I)I" } : Jvm.MethodName)) ∈ lw_all := lw_g (lw_at lw_m5 18 rfl) rfl
theorem q1090 : (Jvm.Cond.sameMethod "FewerMan$Master" "FewerMan$Player" "tells" "(I)I") ∈ lw_all := lw_g (lw_at lw_m5 50 rfl) rfl
theorem q1094 : (Jvm.Cond.declares ({ cls := "FewerMan$Master", name := "moves", desc := "(I)I" } : Jvm.MethodName)) ∈ lw_tbl := lw_at lw_m5 54 rfl
theorem q1096 : (Jvm.Cond.selects "FewerMan$Master" ({ cls := "FewerMan$Player", name := "tells", desc := "(I)I" } : Jvm.MethodName) ({ cls := "FewerMan$Player", name := "tells", desc := "(I)I" } : Jvm.MethodName)) ∈ lw_all := lw_g (lw_at lw_m5 56 rfl) rfl
theorem q1121 : (Jvm.Cond.instanceMethod ({ cls := "FewerMan$Master", name := "isUnder", desc := "(I)Z" } : Jvm.MethodName)) ∈ lw_all := lw_g (lw_at lw_m5 81 rfl) rfl
theorem q1122 : (Jvm.Cond.code ({ cls := "FewerMan$Master", name := "isUnder", desc := "(I)Z" } : Jvm.MethodName) prog_7_method_3_code (2 : Nat) (Option.some Jvm.ClassFile.FieldType.boolean)) ∈ lw_all := lw_g (lw_at lw_m5 82 rfl) rfl
theorem q1123 : (Jvm.Cond.methodLink "FewerMan$Master" (13 : Nat) ({ cls := "FewerMan$Player", name := "isUnder", desc := "(I)Z" } : Jvm.MethodName)) ∈ lw_all := lw_g (lw_at lw_m5 83 rfl) rfl
theorem q1124 : (Jvm.Cond.selects "FewerMan$Master" ({ cls := "FewerMan$Player", name := "isUnder", desc := "(I)Z" } : Jvm.MethodName) ({ cls := "FewerMan$Master", name := "isUnder", desc := "(I)Z" } : Jvm.MethodName)) ∈ lw_all := lw_g (lw_at lw_m5 84 rfl) rfl
theorem q1683 : (Jvm.Cond.sameMethod "FewerMan$Master" "FewerMan$Master" "pushes" "(LFewerMan$Player;)I") ∈ lw_all := lw_g (lw_at lw_m7 163 rfl) rfl
theorem q1686 : (Jvm.Cond.sameMethod "FewerMan$Master" "FewerMan$Master" "isUnder" "(I)Z") ∈ lw_all := lw_g (lw_at lw_m7 166 rfl) rfl
theorem q1692 : (Jvm.Cond.castable "FewerMan$Master" "FewerMan$Player") ∈ lw_tbl := lw_at lw_m7 172 rfl
theorem q1707 : (Jvm.Cond.castable "FewerMan$Master" "java/lang/Object") ∈ lw_tbl := lw_at lw_m7 187 rfl
theorem in_X10 : ∀ w ∈ wsX100, w ∈ lw_all := lw_in wsX100 [618, 619, 620, 621, 616] (by decide +kernel) (by decide +kernel)

/-! FewerMan$Sly -/
set_option maxRecDepth 100000
def RX11 : String := "FewerMan$Sly"
def TX11 : u_T := fun k => match k with
  | 0 => ("FewerMan$Player", "number", "I", true)
  | 1 => ("FewerMan$Player", "v", "I", false)
  | 2 => ("FewerMan$Player", "men", "I", false)
  | 3 => ("FewerMan$Player", "this$0", "LFewerMan;", true)
  | _ => ("FewerMan$Sly", "this$0", "LFewerMan;", true)
def tyX11 : Nat → FieldType := fun k => match k with
  | 0 => .int
  | 1 => .int
  | 2 => .int
  | 3 => .object "FewerMan"
  | _ => .object "FewerMan"
abbrev wsX110 : List Cond := u_ws RX11 TX11 5
-- two fields of one name: no nmX11
theorem tyX11_ok : ∀ k, k < 5 → parseFieldDescriptor (TX11 k).2.2.1 = some (tyX11 k) := by decide +kernel
abbrev cX11_init : ByteArray := prog_13_method_1_code
def yX11_init : MethodName := ⟨RX11, "<init>", "(LFewerMan;II)V"⟩
def dkwX11_init_0 : List UInt8 := [42, 43, 181, 0, 1, 42, 43, 28, 29, 183, 0, 7, 177]
abbrev dktX11_init_0 : List UInt8 := dkwX11_init_0 ++ []
theorem dksX11_init_0 : cX11_init.data.toList.drop 0 = dktX11_init_0 := by decide +kernel
theorem dX11_init_0 : decode cX11_init 0 = .ok (.aload_n 0, 1) := dk_42 (dk_at dksX11_init_0 0 rfl rfl)
theorem dX11_init_1 : decode cX11_init 1 = .ok (.aload_n 1, 1) := dk_43 (dk_at dksX11_init_0 1 rfl rfl)
theorem dX11_init_2 : decode cX11_init 2 = .ok (.putfield 1, 3) := dk_181 0 1 (dk_at dksX11_init_0 2 rfl rfl)
theorem dX11_init_5 : decode cX11_init 5 = .ok (.aload_n 0, 1) := dk_42 (dk_at dksX11_init_0 5 rfl rfl)
theorem dX11_init_6 : decode cX11_init 6 = .ok (.aload_n 1, 1) := dk_43 (dk_at dksX11_init_0 6 rfl rfl)
theorem dX11_init_7 : decode cX11_init 7 = .ok (.iload_n 2, 1) := dk_28 (dk_at dksX11_init_0 7 rfl rfl)
theorem dX11_init_8 : decode cX11_init 8 = .ok (.iload_n 3, 1) := dk_29 (dk_at dksX11_init_0 8 rfl rfl)
theorem dX11_init_9 : decode cX11_init 9 = .ok (.invokespecial 7, 3) := dk_183 0 7 (dk_at dksX11_init_0 9 rfl rfl)
theorem dX11_init_12 : decode cX11_init 12 = .ok (.return_, 1) := dk_177 (dk_at dksX11_init_0 12 rfl rfl)
abbrev cX11_kind : ByteArray := prog_13_method_2_code
def yX11_kind : MethodName := ⟨RX11, "kind", "()I"⟩
theorem dX11_kind_0 : decode cX11_kind 0 = .ok (.iconst 2, 1) := by decide +kernel
theorem dX11_kind_1 : decode cX11_kind 1 = .ok (.ireturn, 1) := by decide +kernel
abbrev cX11_pushes : ByteArray := prog_13_method_4_code
def yX11_pushes : MethodName := ⟨RX11, "pushes", "(LFewerMan$Player;)I"⟩
def dkwX11_pushes_0 : List UInt8 := [42, 180, 0, 17, 7, 162, 0, 8, 16, 247, 167, 0, 4, 3, 172]
abbrev dktX11_pushes_0 : List UInt8 := dkwX11_pushes_0 ++ []
theorem dksX11_pushes_0 : cX11_pushes.data.toList.drop 0 = dktX11_pushes_0 := by decide +kernel
theorem dX11_pushes_0 : decode cX11_pushes 0 = .ok (.aload_n 0, 1) := dk_42 (dk_at dksX11_pushes_0 0 rfl rfl)
theorem dX11_pushes_1 : decode cX11_pushes 1 = .ok (.getfield 17, 3) := dk_180 0 17 (dk_at dksX11_pushes_0 1 rfl rfl)
theorem dX11_pushes_4 : decode cX11_pushes 4 = .ok (.iconst 4, 1) := dk_7 (dk_at dksX11_pushes_0 4 rfl rfl)
theorem dX11_pushes_5 : decode cX11_pushes 5 = .ok (.if_icmp .ge 8, 3) := dk_162 0 8 (dk_at dksX11_pushes_0 5 rfl rfl)
theorem dX11_pushes_8 : decode cX11_pushes 8 = .ok (.bipush (-9), 2) := dk_16 247 (dk_at dksX11_pushes_0 8 rfl rfl)
theorem dX11_pushes_10 : decode cX11_pushes 10 = .ok (.goto 4, 3) := dk_167 0 4 (dk_at dksX11_pushes_0 10 rfl rfl)
theorem dX11_pushes_13 : decode cX11_pushes 13 = .ok (.iconst 0, 1) := dk_3 (dk_at dksX11_pushes_0 13 rfl rfl)
theorem dX11_pushes_14 : decode cX11_pushes 14 = .ok (.ireturn, 1) := dk_172 (dk_at dksX11_pushes_0 14 rfl rfl)
abbrev cX11_bets : ByteArray := prog_13_method_5_code
def yX11_bets : MethodName := ⟨RX11, "bets", "(I)I"⟩
def dkwX11_bets_0 : List UInt8 := [42, 180, 0, 1, 16, 21, 182, 0, 21, 42, 27, 183, 0, 27, 116, 172]
abbrev dktX11_bets_0 : List UInt8 := dkwX11_bets_0 ++ []
theorem dksX11_bets_0 : cX11_bets.data.toList.drop 0 = dktX11_bets_0 := by decide +kernel
theorem dX11_bets_0 : decode cX11_bets 0 = .ok (.aload_n 0, 1) := dk_42 (dk_at dksX11_bets_0 0 rfl rfl)
theorem dX11_bets_1 : decode cX11_bets 1 = .ok (.getfield 1, 3) := dk_180 0 1 (dk_at dksX11_bets_0 1 rfl rfl)
theorem dX11_bets_4 : decode cX11_bets 4 = .ok (.bipush 21, 2) := dk_16 21 (dk_at dksX11_bets_0 4 rfl rfl)
theorem dX11_bets_6 : decode cX11_bets 6 = .ok (.invokevirtual 21, 3) := dk_182 0 21 (dk_at dksX11_bets_0 6 rfl rfl)
theorem dX11_bets_9 : decode cX11_bets 9 = .ok (.aload_n 0, 1) := dk_42 (dk_at dksX11_bets_0 9 rfl rfl)
theorem dX11_bets_10 : decode cX11_bets 10 = .ok (.iload_n 1, 1) := dk_27 (dk_at dksX11_bets_0 10 rfl rfl)
theorem dX11_bets_11 : decode cX11_bets 11 = .ok (.invokespecial 27, 3) := dk_183 0 27 (dk_at dksX11_bets_0 11 rfl rfl)
theorem dX11_bets_14 : decode cX11_bets 14 = .ok (.ineg, 1) := dk_116 (dk_at dksX11_bets_0 14 rfl rfl)
theorem dX11_bets_15 : decode cX11_bets 15 = .ok (.ireturn, 1) := dk_172 (dk_at dksX11_bets_0 15 rfl rfl)
abbrev cX11_isUnder : ByteArray := prog_13_method_3_code
def yX11_isUnder : MethodName := ⟨RX11, "isUnder", "(I)Z"⟩
def dkwX11_isUnder_0 : List UInt8 := [27, 5, 159, 0, 11, 42, 27, 183, 0, 13, 153, 0, 7, 4, 167, 0, 4, 3, 172]
abbrev dktX11_isUnder_0 : List UInt8 := dkwX11_isUnder_0 ++ []
theorem dksX11_isUnder_0 : cX11_isUnder.data.toList.drop 0 = dktX11_isUnder_0 := by decide +kernel
theorem dX11_isUnder_0 : decode cX11_isUnder 0 = .ok (.iload_n 1, 1) := dk_27 (dk_at dksX11_isUnder_0 0 rfl rfl)
theorem dX11_isUnder_1 : decode cX11_isUnder 1 = .ok (.iconst 2, 1) := dk_5 (dk_at dksX11_isUnder_0 1 rfl rfl)
theorem dX11_isUnder_2 : decode cX11_isUnder 2 = .ok (.if_icmp .eq 11, 3) := dk_159 0 11 (dk_at dksX11_isUnder_0 2 rfl rfl)
theorem dX11_isUnder_5 : decode cX11_isUnder 5 = .ok (.aload_n 0, 1) := dk_42 (dk_at dksX11_isUnder_0 5 rfl rfl)
theorem dX11_isUnder_6 : decode cX11_isUnder 6 = .ok (.iload_n 1, 1) := dk_27 (dk_at dksX11_isUnder_0 6 rfl rfl)
theorem dX11_isUnder_7 : decode cX11_isUnder 7 = .ok (.invokespecial 13, 3) := dk_183 0 13 (dk_at dksX11_isUnder_0 7 rfl rfl)
theorem dX11_isUnder_10 : decode cX11_isUnder 10 = .ok (.ifCond .eq 7, 3) := dk_153 0 7 (dk_at dksX11_isUnder_0 10 rfl rfl)
theorem dX11_isUnder_13 : decode cX11_isUnder 13 = .ok (.iconst 1, 1) := dk_4 (dk_at dksX11_isUnder_0 13 rfl rfl)
theorem dX11_isUnder_14 : decode cX11_isUnder 14 = .ok (.goto 4, 3) := dk_167 0 4 (dk_at dksX11_isUnder_0 14 rfl rfl)
theorem dX11_isUnder_17 : decode cX11_isUnder 17 = .ok (.iconst 0, 1) := dk_3 (dk_at dksX11_isUnder_0 17 rfl rfl)
theorem dX11_isUnder_18 : decode cX11_isUnder 18 = .ok (.ireturn, 1) := dk_172 (dk_at dksX11_isUnder_0 18 rfl rfl)
theorem q105 : (Jvm.Cond.initialized "FewerMan$Sly") ∈ lw_all := lw_g (lw_at lw_m1 25 rfl) rfl
theorem q542 : (Jvm.Cond.selects "FewerMan$Sly" ({ cls := "java/lang/Object", name := "getClass", desc := "()Ljava/lang/Class;" } : Jvm.MethodName) ({ cls := "java/lang/Object", name := "getClass", desc := "()Ljava/lang/Class;" } : Jvm.MethodName)) ∈ lw_all := lw_g (lw_at lw_m2 222 rfl) rfl
theorem q595 : (Jvm.Cond.fieldLink "FewerMan$Sly" (17 : Nat) "FewerMan$Sly" "men" "I") ∈ lw_all := lw_g (lw_at lw_m3 35 rfl) rfl
theorem q596 : (Jvm.Cond.sameField "FewerMan$Sly" "FewerMan$Player" "men" "I") ∈ lw_all := lw_g (lw_at lw_m3 36 rfl) rfl
theorem q624 : (Jvm.Cond.instantiable "FewerMan$Sly" (5 : Nat)) ∈ lw_all := lw_g (lw_at lw_m3 64 rfl) rfl
theorem q626 : (Jvm.Cond.instanceMethod ({ cls := "FewerMan$Sly", name := "<init>", desc := "(LFewerMan;II)V" } : Jvm.MethodName)) ∈ lw_all := lw_g (lw_at lw_m3 66 rfl) rfl
theorem q627 : (Jvm.Cond.code ({ cls := "FewerMan$Sly", name := "<init>", desc := "(LFewerMan;II)V" } : Jvm.MethodName) prog_13_method_1_code (4 : Nat) (Option.none : Option Jvm.ClassFile.FieldType)) ∈ lw_all := lw_g (lw_at lw_m3 67 rfl) rfl
theorem q628 : (Jvm.Cond.methodLink "FewerMan$Sly" (7 : Nat) ({ cls := "FewerMan$Player", name := "<init>", desc := "(LFewerMan;II)V" } : Jvm.MethodName)) ∈ lw_all := lw_g (lw_at lw_m3 68 rfl) rfl
theorem q629 : (Jvm.Cond.fieldLink "FewerMan$Sly" (1 : Nat) "FewerMan$Sly" "this$0" "LFewerMan;") ∈ lw_all := lw_g (lw_at lw_m3 69 rfl) rfl
theorem q630 : (Jvm.Cond.laysFinal "FewerMan$Sly" "FewerMan$Sly" "this$0" "LFewerMan;") ∈ lw_all := lw_g (lw_at lw_m3 70 rfl) rfl
theorem q631 : (Jvm.Cond.soleField "FewerMan$Sly" "this$0") ∈ lw_all := lw_g (lw_at lw_m3 71 rfl) rfl
theorem q632 : (Jvm.Cond.laysFinal "FewerMan$Sly" "FewerMan$Player" "number" "I") ∈ lw_all := lw_g (lw_at lw_m3 72 rfl) rfl
theorem q633 : (Jvm.Cond.lays "FewerMan$Sly" "FewerMan$Player" "v" "I") ∈ lw_all := lw_g (lw_at lw_m3 73 rfl) rfl
theorem q634 : (Jvm.Cond.lays "FewerMan$Sly" "FewerMan$Player" "men" "I") ∈ lw_all := lw_g (lw_at lw_m3 74 rfl) rfl
theorem q635 : (Jvm.Cond.laysFinal "FewerMan$Sly" "FewerMan$Player" "this$0" "LFewerMan;") ∈ lw_all := lw_g (lw_at lw_m3 75 rfl) rfl
theorem q636 : (Jvm.Cond.superclass "FewerMan$Sly" "FewerMan$Player") ∈ lw_all := lw_g (lw_at lw_m3 76 rfl) rfl
theorem q740 : (Jvm.Cond.selects "FewerMan$Sly" ({ cls := "FewerMan$Player", name := "kind", desc := "()I" } : Jvm.MethodName) ({ cls := "FewerMan$Sly", name := "kind", desc := "()I" } : Jvm.MethodName)) ∈ lw_all := lw_g (lw_at lw_m3 180 rfl) rfl
theorem q741 : (Jvm.Cond.instanceMethod ({ cls := "FewerMan$Sly", name := "kind", desc := "()I" } : Jvm.MethodName)) ∈ lw_all := lw_g (lw_at lw_m3 181 rfl) rfl
theorem q742 : (Jvm.Cond.code ({ cls := "FewerMan$Sly", name := "kind", desc := "()I" } : Jvm.MethodName) prog_13_method_2_code (1 : Nat) (Option.some Jvm.ClassFile.FieldType.int)) ∈ lw_all := lw_g (lw_at lw_m3 182 rfl) rfl
theorem q771 : (Jvm.Cond.selects "FewerMan$Sly" ({ cls := "FewerMan$Player", name := "push", desc := "(LFewerMan$Player;)I" } : Jvm.MethodName) ({ cls := "FewerMan$Player", name := "push", desc := "(LFewerMan$Player;)I" } : Jvm.MethodName)) ∈ lw_all := lw_g (lw_at lw_m3 211 rfl) rfl
theorem q830 : (Jvm.Cond.instanceMethod ({ cls := "FewerMan$Sly", name := "pushes", desc := "(LFewerMan$Player;)I" } : Jvm.MethodName)) ∈ lw_all := lw_g (lw_at lw_m4 30 rfl) rfl
theorem q831 : (Jvm.Cond.code ({ cls := "FewerMan$Sly", name := "pushes", desc := "(LFewerMan$Player;)I" } : Jvm.MethodName) prog_13_method_4_code (2 : Nat) (Option.some Jvm.ClassFile.FieldType.int)) ∈ lw_all := lw_g (lw_at lw_m4 31 rfl) rfl
theorem q832 : (Jvm.Cond.selects "FewerMan$Sly" ({ cls := "FewerMan$Player", name := "pushes", desc := "(LFewerMan$Player;)I" } : Jvm.MethodName) ({ cls := "FewerMan$Sly", name := "pushes", desc := "(LFewerMan$Player;)I" } : Jvm.MethodName)) ∈ lw_all := lw_g (lw_at lw_m4 32 rfl) rfl
theorem q850 : (Jvm.Cond.selects "FewerMan$Sly" ({ cls := "FewerMan$Player", name := "odds", desc := "(LFewerMan$Player;)I" } : Jvm.MethodName) ({ cls := "FewerMan$Player", name := "odds", desc := "(LFewerMan$Player;)I" } : Jvm.MethodName)) ∈ lw_all := lw_g (lw_at lw_m4 50 rfl) rfl
theorem q1048 : (Jvm.Cond.sameMethod "FewerMan$Sly" "FewerMan$Player" "moves" "(I)I") ∈ lw_all := lw_g (lw_at lw_m5 8 rfl) rfl
theorem q1050 : (Jvm.Cond.selects "FewerMan$Sly" ({ cls := "FewerMan$Player", name := "moves", desc := "(I)I" } : Jvm.MethodName) ({ cls := "FewerMan$Player", name := "moves", desc := "(I)I" } : Jvm.MethodName)) ∈ lw_all := lw_g (lw_at lw_m5 10 rfl) rfl
theorem q1060 : (Jvm.Cond.instanceMethod ({ cls := "FewerMan$Sly", name := "bets", desc := "(I)I" } : Jvm.MethodName)) ∈ lw_all := lw_g (lw_at lw_m5 20 rfl) rfl
theorem q1061 : (Jvm.Cond.code ({ cls := "FewerMan$Sly", name := "bets", desc := "(I)I" } : Jvm.MethodName) prog_13_method_5_code (2 : Nat) (Option.some Jvm.ClassFile.FieldType.int)) ∈ lw_all := lw_g (lw_at lw_m5 21 rfl) rfl
theorem q1062 : (Jvm.Cond.methodLinkNest "FewerMan$Sly" (21 : Nat) ({ cls := "FewerMan", name := "body", desc := "(I)V" } : Jvm.MethodName) "FewerMan") ∈ lw_tbl := lw_at lw_m5 22 rfl
theorem q1063 : (Jvm.Cond.methodLink "FewerMan$Sly" (27 : Nat) ({ cls := "FewerMan$Player", name := "bets", desc := "(I)I" } : Jvm.MethodName)) ∈ lw_all := lw_g (lw_at lw_m5 23 rfl) rfl
theorem q1066 : (Jvm.Cond.selects "FewerMan$Sly" ({ cls := "FewerMan$Player", name := "bets", desc := "(I)I" } : Jvm.MethodName) ({ cls := "FewerMan$Sly", name := "bets", desc := "(I)I" } : Jvm.MethodName)) ∈ lw_all := lw_g (lw_at lw_m5 26 rfl) rfl
theorem q1098 : (Jvm.Cond.selects "FewerMan$Sly" ({ cls := "FewerMan$Player", name := "tells", desc := "(I)I" } : Jvm.MethodName) ({ cls := "FewerMan$Player", name := "tells", desc := "(I)I" } : Jvm.MethodName)) ∈ lw_all := lw_g (lw_at lw_m5 58 rfl) rfl
theorem q1129 : (Jvm.Cond.instanceMethod ({ cls := "FewerMan$Sly", name := "isUnder", desc := "(I)Z" } : Jvm.MethodName)) ∈ lw_all := lw_g (lw_at lw_m5 89 rfl) rfl
theorem q1130 : (Jvm.Cond.code ({ cls := "FewerMan$Sly", name := "isUnder", desc := "(I)Z" } : Jvm.MethodName) prog_13_method_3_code (2 : Nat) (Option.some Jvm.ClassFile.FieldType.boolean)) ∈ lw_all := lw_g (lw_at lw_m5 90 rfl) rfl
theorem q1131 : (Jvm.Cond.methodLink "FewerMan$Sly" (13 : Nat) ({ cls := "FewerMan$Player", name := "isUnder", desc := "(I)Z" } : Jvm.MethodName)) ∈ lw_all := lw_g (lw_at lw_m5 91 rfl) rfl
theorem q1132 : (Jvm.Cond.selects "FewerMan$Sly" ({ cls := "FewerMan$Player", name := "isUnder", desc := "(I)Z" } : Jvm.MethodName) ({ cls := "FewerMan$Sly", name := "isUnder", desc := "(I)Z" } : Jvm.MethodName)) ∈ lw_all := lw_g (lw_at lw_m5 92 rfl) rfl
theorem q1684 : (Jvm.Cond.sameMethod "FewerMan$Sly" "FewerMan$Sly" "pushes" "(LFewerMan$Player;)I") ∈ lw_all := lw_g (lw_at lw_m7 164 rfl) rfl
theorem q1687 : (Jvm.Cond.sameMethod "FewerMan$Sly" "FewerMan$Sly" "isUnder" "(I)Z") ∈ lw_all := lw_g (lw_at lw_m7 167 rfl) rfl
theorem q1694 : (Jvm.Cond.castable "FewerMan$Sly" "FewerMan$Player") ∈ lw_tbl := lw_at lw_m7 174 rfl
theorem q1708 : (Jvm.Cond.castable "FewerMan$Sly" "java/lang/Object") ∈ lw_tbl := lw_at lw_m7 188 rfl
theorem in_X11 : ∀ w ∈ wsX110, w ∈ lw_all := lw_in wsX110 [632, 633, 634, 635, 630] (by decide +kernel) (by decide +kernel)

/-! FewerMan$Fresh -/
set_option maxRecDepth 100000
def RX12 : String := "FewerMan$Fresh"
def TX12 : u_T := fun k => match k with
  | 0 => ("FewerMan$Player", "number", "I", true)
  | 1 => ("FewerMan$Player", "v", "I", false)
  | 2 => ("FewerMan$Player", "men", "I", false)
  | 3 => ("FewerMan$Player", "this$0", "LFewerMan;", true)
  | _ => ("FewerMan$Fresh", "this$0", "LFewerMan;", true)
def tyX12 : Nat → FieldType := fun k => match k with
  | 0 => .int
  | 1 => .int
  | 2 => .int
  | 3 => .object "FewerMan"
  | _ => .object "FewerMan"
abbrev wsX120 : List Cond := u_ws RX12 TX12 5
-- two fields of one name: no nmX12
theorem tyX12_ok : ∀ k, k < 5 → parseFieldDescriptor (TX12 k).2.2.1 = some (tyX12 k) := by decide +kernel
abbrev cX12_init : ByteArray := prog_3_method_1_code
def yX12_init : MethodName := ⟨RX12, "<init>", "(LFewerMan;II)V"⟩
def dkwX12_init_0 : List UInt8 := [42, 43, 181, 0, 1, 42, 43, 28, 29, 183, 0, 7, 177]
abbrev dktX12_init_0 : List UInt8 := dkwX12_init_0 ++ []
theorem dksX12_init_0 : cX12_init.data.toList.drop 0 = dktX12_init_0 := by decide +kernel
theorem dX12_init_0 : decode cX12_init 0 = .ok (.aload_n 0, 1) := dk_42 (dk_at dksX12_init_0 0 rfl rfl)
theorem dX12_init_1 : decode cX12_init 1 = .ok (.aload_n 1, 1) := dk_43 (dk_at dksX12_init_0 1 rfl rfl)
theorem dX12_init_2 : decode cX12_init 2 = .ok (.putfield 1, 3) := dk_181 0 1 (dk_at dksX12_init_0 2 rfl rfl)
theorem dX12_init_5 : decode cX12_init 5 = .ok (.aload_n 0, 1) := dk_42 (dk_at dksX12_init_0 5 rfl rfl)
theorem dX12_init_6 : decode cX12_init 6 = .ok (.aload_n 1, 1) := dk_43 (dk_at dksX12_init_0 6 rfl rfl)
theorem dX12_init_7 : decode cX12_init 7 = .ok (.iload_n 2, 1) := dk_28 (dk_at dksX12_init_0 7 rfl rfl)
theorem dX12_init_8 : decode cX12_init 8 = .ok (.iload_n 3, 1) := dk_29 (dk_at dksX12_init_0 8 rfl rfl)
theorem dX12_init_9 : decode cX12_init 9 = .ok (.invokespecial 7, 3) := dk_183 0 7 (dk_at dksX12_init_0 9 rfl rfl)
theorem dX12_init_12 : decode cX12_init 12 = .ok (.return_, 1) := dk_177 (dk_at dksX12_init_0 12 rfl rfl)
abbrev cX12_kind : ByteArray := prog_3_method_2_code
def yX12_kind : MethodName := ⟨RX12, "kind", "()I"⟩
theorem dX12_kind_0 : decode cX12_kind 0 = .ok (.iconst 3, 1) := by decide +kernel
theorem dX12_kind_1 : decode cX12_kind 1 = .ok (.ireturn, 1) := by decide +kernel
abbrev cX12_pushes : ByteArray := prog_3_method_4_code
def yX12_pushes : MethodName := ⟨RX12, "pushes", "(LFewerMan$Player;)I"⟩
def dkwX12_pushes_0 : List UInt8 := [42, 180, 0, 1, 180, 0, 17, 6, 162, 0, 7, 2, 167, 0, 4, 3, 172]
abbrev dktX12_pushes_0 : List UInt8 := dkwX12_pushes_0 ++ []
theorem dksX12_pushes_0 : cX12_pushes.data.toList.drop 0 = dktX12_pushes_0 := by decide +kernel
theorem dX12_pushes_0 : decode cX12_pushes 0 = .ok (.aload_n 0, 1) := dk_42 (dk_at dksX12_pushes_0 0 rfl rfl)
theorem dX12_pushes_1 : decode cX12_pushes 1 = .ok (.getfield 1, 3) := dk_180 0 1 (dk_at dksX12_pushes_0 1 rfl rfl)
theorem dX12_pushes_4 : decode cX12_pushes 4 = .ok (.getfield 17, 3) := dk_180 0 17 (dk_at dksX12_pushes_0 4 rfl rfl)
theorem dX12_pushes_7 : decode cX12_pushes 7 = .ok (.iconst 3, 1) := dk_6 (dk_at dksX12_pushes_0 7 rfl rfl)
theorem dX12_pushes_8 : decode cX12_pushes 8 = .ok (.if_icmp .ge 7, 3) := dk_162 0 7 (dk_at dksX12_pushes_0 8 rfl rfl)
theorem dX12_pushes_11 : decode cX12_pushes 11 = .ok (.iconst (-1), 1) := dk_2 (dk_at dksX12_pushes_0 11 rfl rfl)
theorem dX12_pushes_12 : decode cX12_pushes 12 = .ok (.goto 4, 3) := dk_167 0 4 (dk_at dksX12_pushes_0 12 rfl rfl)
theorem dX12_pushes_15 : decode cX12_pushes 15 = .ok (.iconst 0, 1) := dk_3 (dk_at dksX12_pushes_0 15 rfl rfl)
theorem dX12_pushes_16 : decode cX12_pushes 16 = .ok (.ireturn, 1) := dk_172 (dk_at dksX12_pushes_0 16 rfl rfl)
abbrev cX12_tells : ByteArray := prog_3_method_5_code
def yX12_tells : MethodName := ⟨RX12, "tells", "(I)I"⟩
def dkwX12_tells_0 : List UInt8 := [42, 180, 0, 1, 16, 31, 182, 0, 23, 42, 27, 183, 0, 27, 16, 7, 130, 172]
abbrev dktX12_tells_0 : List UInt8 := dkwX12_tells_0 ++ []
theorem dksX12_tells_0 : cX12_tells.data.toList.drop 0 = dktX12_tells_0 := by decide +kernel
theorem dX12_tells_0 : decode cX12_tells 0 = .ok (.aload_n 0, 1) := dk_42 (dk_at dksX12_tells_0 0 rfl rfl)
theorem dX12_tells_1 : decode cX12_tells 1 = .ok (.getfield 1, 3) := dk_180 0 1 (dk_at dksX12_tells_0 1 rfl rfl)
theorem dX12_tells_4 : decode cX12_tells 4 = .ok (.bipush 31, 2) := dk_16 31 (dk_at dksX12_tells_0 4 rfl rfl)
theorem dX12_tells_6 : decode cX12_tells 6 = .ok (.invokevirtual 23, 3) := dk_182 0 23 (dk_at dksX12_tells_0 6 rfl rfl)
theorem dX12_tells_9 : decode cX12_tells 9 = .ok (.aload_n 0, 1) := dk_42 (dk_at dksX12_tells_0 9 rfl rfl)
theorem dX12_tells_10 : decode cX12_tells 10 = .ok (.iload_n 1, 1) := dk_27 (dk_at dksX12_tells_0 10 rfl rfl)
theorem dX12_tells_11 : decode cX12_tells 11 = .ok (.invokespecial 27, 3) := dk_183 0 27 (dk_at dksX12_tells_0 11 rfl rfl)
theorem dX12_tells_14 : decode cX12_tells 14 = .ok (.bipush 7, 2) := dk_16 7 (dk_at dksX12_tells_0 14 rfl rfl)
theorem dX12_tells_16 : decode cX12_tells 16 = .ok (.ixor, 1) := dk_130 (dk_at dksX12_tells_0 16 rfl rfl)
theorem dX12_tells_17 : decode cX12_tells 17 = .ok (.ireturn, 1) := dk_172 (dk_at dksX12_tells_0 17 rfl rfl)
abbrev cX12_isUnder : ByteArray := prog_3_method_3_code
def yX12_isUnder : MethodName := ⟨RX12, "isUnder", "(I)Z"⟩
def dkwX12_isUnder_0 : List UInt8 := [27, 6, 159, 0, 11, 42, 27, 183, 0, 13, 153, 0, 7, 4, 167, 0, 4, 3, 172]
abbrev dktX12_isUnder_0 : List UInt8 := dkwX12_isUnder_0 ++ []
theorem dksX12_isUnder_0 : cX12_isUnder.data.toList.drop 0 = dktX12_isUnder_0 := by decide +kernel
theorem dX12_isUnder_0 : decode cX12_isUnder 0 = .ok (.iload_n 1, 1) := dk_27 (dk_at dksX12_isUnder_0 0 rfl rfl)
theorem dX12_isUnder_1 : decode cX12_isUnder 1 = .ok (.iconst 3, 1) := dk_6 (dk_at dksX12_isUnder_0 1 rfl rfl)
theorem dX12_isUnder_2 : decode cX12_isUnder 2 = .ok (.if_icmp .eq 11, 3) := dk_159 0 11 (dk_at dksX12_isUnder_0 2 rfl rfl)
theorem dX12_isUnder_5 : decode cX12_isUnder 5 = .ok (.aload_n 0, 1) := dk_42 (dk_at dksX12_isUnder_0 5 rfl rfl)
theorem dX12_isUnder_6 : decode cX12_isUnder 6 = .ok (.iload_n 1, 1) := dk_27 (dk_at dksX12_isUnder_0 6 rfl rfl)
theorem dX12_isUnder_7 : decode cX12_isUnder 7 = .ok (.invokespecial 13, 3) := dk_183 0 13 (dk_at dksX12_isUnder_0 7 rfl rfl)
theorem dX12_isUnder_10 : decode cX12_isUnder 10 = .ok (.ifCond .eq 7, 3) := dk_153 0 7 (dk_at dksX12_isUnder_0 10 rfl rfl)
theorem dX12_isUnder_13 : decode cX12_isUnder 13 = .ok (.iconst 1, 1) := dk_4 (dk_at dksX12_isUnder_0 13 rfl rfl)
theorem dX12_isUnder_14 : decode cX12_isUnder 14 = .ok (.goto 4, 3) := dk_167 0 4 (dk_at dksX12_isUnder_0 14 rfl rfl)
theorem dX12_isUnder_17 : decode cX12_isUnder 17 = .ok (.iconst 0, 1) := dk_3 (dk_at dksX12_isUnder_0 17 rfl rfl)
theorem dX12_isUnder_18 : decode cX12_isUnder 18 = .ok (.ireturn, 1) := dk_172 (dk_at dksX12_isUnder_0 18 rfl rfl)
theorem q106 : (Jvm.Cond.initialized "FewerMan$Fresh") ∈ lw_all := lw_g (lw_at lw_m1 26 rfl) rfl
theorem q232 : (Jvm.Cond.fieldLinkNest "FewerMan$Fresh" (17 : Nat) "FewerMan" "game" "I" "FewerMan") ∈ lw_tbl := lw_at lw_m1 152 rfl
theorem q532 : (Jvm.Cond.selects "FewerMan$Fresh" ({ cls := "java/lang/Object", name := "getClass", desc := "()Ljava/lang/Class;" } : Jvm.MethodName) ({ cls := "java/lang/Object", name := "getClass", desc := "()Ljava/lang/Class;" } : Jvm.MethodName)) ∈ lw_all := lw_g (lw_at lw_m2 212 rfl) rfl
theorem q638 : (Jvm.Cond.instantiable "FewerMan$Fresh" (5 : Nat)) ∈ lw_all := lw_g (lw_at lw_m3 78 rfl) rfl
theorem q640 : (Jvm.Cond.instanceMethod ({ cls := "FewerMan$Fresh", name := "<init>", desc := "(LFewerMan;II)V" } : Jvm.MethodName)) ∈ lw_all := lw_g (lw_at lw_m3 80 rfl) rfl
theorem q641 : (Jvm.Cond.code ({ cls := "FewerMan$Fresh", name := "<init>", desc := "(LFewerMan;II)V" } : Jvm.MethodName) prog_3_method_1_code (4 : Nat) (Option.none : Option Jvm.ClassFile.FieldType)) ∈ lw_all := lw_g (lw_at lw_m3 81 rfl) rfl
theorem q642 : (Jvm.Cond.methodLink "FewerMan$Fresh" (7 : Nat) ({ cls := "FewerMan$Player", name := "<init>", desc := "(LFewerMan;II)V" } : Jvm.MethodName)) ∈ lw_all := lw_g (lw_at lw_m3 82 rfl) rfl
theorem q643 : (Jvm.Cond.fieldLink "FewerMan$Fresh" (1 : Nat) "FewerMan$Fresh" "this$0" "LFewerMan;") ∈ lw_all := lw_g (lw_at lw_m3 83 rfl) rfl
theorem q644 : (Jvm.Cond.laysFinal "FewerMan$Fresh" "FewerMan$Fresh" "this$0" "LFewerMan;") ∈ lw_all := lw_g (lw_at lw_m3 84 rfl) rfl
theorem q645 : (Jvm.Cond.soleField "FewerMan$Fresh" "this$0") ∈ lw_all := lw_g (lw_at lw_m3 85 rfl) rfl
theorem q646 : (Jvm.Cond.laysFinal "FewerMan$Fresh" "FewerMan$Player" "number" "I") ∈ lw_all := lw_g (lw_at lw_m3 86 rfl) rfl
theorem q647 : (Jvm.Cond.lays "FewerMan$Fresh" "FewerMan$Player" "v" "I") ∈ lw_all := lw_g (lw_at lw_m3 87 rfl) rfl
theorem q648 : (Jvm.Cond.lays "FewerMan$Fresh" "FewerMan$Player" "men" "I") ∈ lw_all := lw_g (lw_at lw_m3 88 rfl) rfl
theorem q649 : (Jvm.Cond.laysFinal "FewerMan$Fresh" "FewerMan$Player" "this$0" "LFewerMan;") ∈ lw_all := lw_g (lw_at lw_m3 89 rfl) rfl
theorem q650 : (Jvm.Cond.superclass "FewerMan$Fresh" "FewerMan$Player") ∈ lw_all := lw_g (lw_at lw_m3 90 rfl) rfl
theorem q728 : (Jvm.Cond.selects "FewerMan$Fresh" ({ cls := "FewerMan$Player", name := "kind", desc := "()I" } : Jvm.MethodName) ({ cls := "FewerMan$Fresh", name := "kind", desc := "()I" } : Jvm.MethodName)) ∈ lw_all := lw_g (lw_at lw_m3 168 rfl) rfl
theorem q729 : (Jvm.Cond.instanceMethod ({ cls := "FewerMan$Fresh", name := "kind", desc := "()I" } : Jvm.MethodName)) ∈ lw_all := lw_g (lw_at lw_m3 169 rfl) rfl
theorem q730 : (Jvm.Cond.code ({ cls := "FewerMan$Fresh", name := "kind", desc := "()I" } : Jvm.MethodName) prog_3_method_2_code (1 : Nat) (Option.some Jvm.ClassFile.FieldType.int)) ∈ lw_all := lw_g (lw_at lw_m3 170 rfl) rfl
theorem q767 : (Jvm.Cond.selects "FewerMan$Fresh" ({ cls := "FewerMan$Player", name := "push", desc := "(LFewerMan$Player;)I" } : Jvm.MethodName) ({ cls := "FewerMan$Player", name := "push", desc := "(LFewerMan$Player;)I" } : Jvm.MethodName)) ∈ lw_all := lw_g (lw_at lw_m3 207 rfl) rfl
theorem q816 : (Jvm.Cond.selects "FewerMan$Fresh" ({ cls := "FewerMan$Player", name := "pushes", desc := "(LFewerMan$Player;)I" } : Jvm.MethodName) ({ cls := "FewerMan$Fresh", name := "pushes", desc := "(LFewerMan$Player;)I" } : Jvm.MethodName)) ∈ lw_all := lw_g (lw_at lw_m4 16 rfl) rfl
theorem q817 : (Jvm.Cond.instanceMethod ({ cls := "FewerMan$Fresh", name := "pushes", desc := "(LFewerMan$Player;)I" } : Jvm.MethodName)) ∈ lw_all := lw_g (lw_at lw_m4 17 rfl) rfl
theorem q818 : (Jvm.Cond.code ({ cls := "FewerMan$Fresh", name := "pushes", desc := "(LFewerMan$Player;)I" } : Jvm.MethodName) prog_3_method_4_code (2 : Nat) (Option.some Jvm.ClassFile.FieldType.int)) ∈ lw_all := lw_g (lw_at lw_m4 18 rfl) rfl
theorem q846 : (Jvm.Cond.selects "FewerMan$Fresh" ({ cls := "FewerMan$Player", name := "odds", desc := "(LFewerMan$Player;)I" } : Jvm.MethodName) ({ cls := "FewerMan$Player", name := "odds", desc := "(LFewerMan$Player;)I" } : Jvm.MethodName)) ∈ lw_all := lw_g (lw_at lw_m4 46 rfl) rfl
theorem q1031 : (Jvm.Cond.selects "FewerMan$Fresh" ({ cls := "FewerMan$Player", name := "moves", desc := "(I)I" } : Jvm.MethodName) ({ cls := "FewerMan$Player", name := "moves", desc := "(I)I" } : Jvm.MethodName)) ∈ lw_all := lw_g (lw_at lw_m4 231 rfl) rfl
theorem q1056 : (Jvm.Cond.selects "FewerMan$Fresh" ({ cls := "FewerMan$Player", name := "bets", desc := "(I)I" } : Jvm.MethodName) ({ cls := "FewerMan$Player", name := "bets", desc := "(I)I" } : Jvm.MethodName)) ∈ lw_all := lw_g (lw_at lw_m5 16 rfl) rfl
theorem q1072 : (Jvm.Cond.sameMethod "FewerMan$Fresh" "FewerMan$Player" "bets" "(I)I") ∈ lw_all := lw_g (lw_at lw_m5 32 rfl) rfl
theorem q1078 : (Jvm.Cond.selects "FewerMan$Fresh" ({ cls := "FewerMan$Player", name := "tells", desc := "(I)I" } : Jvm.MethodName) ({ cls := "FewerMan$Fresh", name := "tells", desc := "(I)I" } : Jvm.MethodName)) ∈ lw_all := lw_g (lw_at lw_m5 38 rfl) rfl
theorem q1079 : (Jvm.Cond.instanceMethod ({ cls := "FewerMan$Fresh", name := "tells", desc := "(I)I" } : Jvm.MethodName)) ∈ lw_all := lw_g (lw_at lw_m5 39 rfl) rfl
theorem q1080 : (Jvm.Cond.code ({ cls := "FewerMan$Fresh", name := "tells", desc := "(I)I" } : Jvm.MethodName) prog_3_method_5_code (2 : Nat) (Option.some Jvm.ClassFile.FieldType.int)) ∈ lw_all := lw_g (lw_at lw_m5 40 rfl) rfl
theorem q1081 : (Jvm.Cond.methodLinkNest "FewerMan$Fresh" (23 : Nat) ({ cls := "FewerMan", name := "body", desc := "(I)V" } : Jvm.MethodName) "FewerMan") ∈ lw_tbl := lw_at lw_m5 41 rfl
theorem q1082 : (Jvm.Cond.methodLink "FewerMan$Fresh" (27 : Nat) ({ cls := "FewerMan$Player", name := "tells", desc := "(I)I" } : Jvm.MethodName)) ∈ lw_all := lw_g (lw_at lw_m5 42 rfl) rfl
theorem q1112 : (Jvm.Cond.selects "FewerMan$Fresh" ({ cls := "FewerMan$Player", name := "isUnder", desc := "(I)Z" } : Jvm.MethodName) ({ cls := "FewerMan$Fresh", name := "isUnder", desc := "(I)Z" } : Jvm.MethodName)) ∈ lw_all := lw_g (lw_at lw_m5 72 rfl) rfl
theorem q1113 : (Jvm.Cond.instanceMethod ({ cls := "FewerMan$Fresh", name := "isUnder", desc := "(I)Z" } : Jvm.MethodName)) ∈ lw_all := lw_g (lw_at lw_m5 73 rfl) rfl
theorem q1114 : (Jvm.Cond.code ({ cls := "FewerMan$Fresh", name := "isUnder", desc := "(I)Z" } : Jvm.MethodName) prog_3_method_3_code (2 : Nat) (Option.some Jvm.ClassFile.FieldType.boolean)) ∈ lw_all := lw_g (lw_at lw_m5 74 rfl) rfl
theorem q1115 : (Jvm.Cond.methodLink "FewerMan$Fresh" (13 : Nat) ({ cls := "FewerMan$Player", name := "isUnder", desc := "(I)Z" } : Jvm.MethodName)) ∈ lw_all := lw_g (lw_at lw_m5 75 rfl) rfl
theorem q1685 : (Jvm.Cond.sameMethod "FewerMan$Fresh" "FewerMan$Fresh" "pushes" "(LFewerMan$Player;)I") ∈ lw_all := lw_g (lw_at lw_m7 165 rfl) rfl
theorem q1688 : (Jvm.Cond.sameMethod "FewerMan$Fresh" "FewerMan$Fresh" "isUnder" "(I)Z") ∈ lw_all := lw_g (lw_at lw_m7 168 rfl) rfl
theorem q1690 : (Jvm.Cond.castable "FewerMan$Fresh" "FewerMan$Player") ∈ lw_tbl := lw_at lw_m7 170 rfl
theorem q1709 : (Jvm.Cond.castable "FewerMan$Fresh" "java/lang/Object") ∈ lw_tbl := lw_at lw_m7 189 rfl
theorem in_X12 : ∀ w ∈ wsX120, w ∈ lw_all := lw_in wsX120 [646, 647, 648, 649, 644] (by decide +kernel) (by decide +kernel)

/-! FewerMan$Grand -/
set_option maxRecDepth 100000
def RX13 : String := "FewerMan$Grand"
def TX13 : u_T := fun k => match k with
  | 0 => ("FewerMan$Player", "number", "I", true)
  | 1 => ("FewerMan$Player", "v", "I", false)
  | 2 => ("FewerMan$Player", "men", "I", false)
  | 3 => ("FewerMan$Player", "this$0", "LFewerMan;", true)
  | 4 => ("FewerMan$Master", "this$0", "LFewerMan;", true)
  | _ => ("FewerMan$Grand", "this$0", "LFewerMan;", true)
def tyX13 : Nat → FieldType := fun k => match k with
  | 0 => .int
  | 1 => .int
  | 2 => .int
  | 3 => .object "FewerMan"
  | 4 => .object "FewerMan"
  | _ => .object "FewerMan"
abbrev wsX130 : List Cond := u_ws RX13 TX13 6
-- two fields of one name: no nmX13
theorem tyX13_ok : ∀ k, k < 6 → parseFieldDescriptor (TX13 k).2.2.1 = some (tyX13 k) := by decide +kernel
abbrev cX13_init : ByteArray := prog_4_method_1_code
def yX13_init : MethodName := ⟨RX13, "<init>", "(LFewerMan;II)V"⟩
def dkwX13_init_0 : List UInt8 := [42, 43, 181, 0, 1, 42, 43, 28, 29, 183, 0, 7, 177]
abbrev dktX13_init_0 : List UInt8 := dkwX13_init_0 ++ []
theorem dksX13_init_0 : cX13_init.data.toList.drop 0 = dktX13_init_0 := by decide +kernel
theorem dX13_init_0 : decode cX13_init 0 = .ok (.aload_n 0, 1) := dk_42 (dk_at dksX13_init_0 0 rfl rfl)
theorem dX13_init_1 : decode cX13_init 1 = .ok (.aload_n 1, 1) := dk_43 (dk_at dksX13_init_0 1 rfl rfl)
theorem dX13_init_2 : decode cX13_init 2 = .ok (.putfield 1, 3) := dk_181 0 1 (dk_at dksX13_init_0 2 rfl rfl)
theorem dX13_init_5 : decode cX13_init 5 = .ok (.aload_n 0, 1) := dk_42 (dk_at dksX13_init_0 5 rfl rfl)
theorem dX13_init_6 : decode cX13_init 6 = .ok (.aload_n 1, 1) := dk_43 (dk_at dksX13_init_0 6 rfl rfl)
theorem dX13_init_7 : decode cX13_init 7 = .ok (.iload_n 2, 1) := dk_28 (dk_at dksX13_init_0 7 rfl rfl)
theorem dX13_init_8 : decode cX13_init 8 = .ok (.iload_n 3, 1) := dk_29 (dk_at dksX13_init_0 8 rfl rfl)
theorem dX13_init_9 : decode cX13_init 9 = .ok (.invokespecial 7, 3) := dk_183 0 7 (dk_at dksX13_init_0 9 rfl rfl)
theorem dX13_init_12 : decode cX13_init 12 = .ok (.return_, 1) := dk_177 (dk_at dksX13_init_0 12 rfl rfl)
abbrev cX13_kind : ByteArray := prog_4_method_2_code
def yX13_kind : MethodName := ⟨RX13, "kind", "()I"⟩
theorem dX13_kind_0 : decode cX13_kind 0 = .ok (.iconst 4, 1) := by decide +kernel
theorem dX13_kind_1 : decode cX13_kind 1 = .ok (.ireturn, 1) := by decide +kernel
abbrev cX13_pushes : ByteArray := prog_4_method_4_code
def yX13_pushes : MethodName := ⟨RX13, "pushes", "(LFewerMan$Player;)I"⟩
def dkwX13_pushes_0 : List UInt8 := [42, 43, 183, 0, 17, 4, 96, 172]
abbrev dktX13_pushes_0 : List UInt8 := dkwX13_pushes_0 ++ []
theorem dksX13_pushes_0 : cX13_pushes.data.toList.drop 0 = dktX13_pushes_0 := by decide +kernel
theorem dX13_pushes_0 : decode cX13_pushes 0 = .ok (.aload_n 0, 1) := dk_42 (dk_at dksX13_pushes_0 0 rfl rfl)
theorem dX13_pushes_1 : decode cX13_pushes 1 = .ok (.aload_n 1, 1) := dk_43 (dk_at dksX13_pushes_0 1 rfl rfl)
theorem dX13_pushes_2 : decode cX13_pushes 2 = .ok (.invokespecial 17, 3) := dk_183 0 17 (dk_at dksX13_pushes_0 2 rfl rfl)
theorem dX13_pushes_5 : decode cX13_pushes 5 = .ok (.iconst 1, 1) := dk_4 (dk_at dksX13_pushes_0 5 rfl rfl)
theorem dX13_pushes_6 : decode cX13_pushes 6 = .ok (.iadd, 1) := dk_96 (dk_at dksX13_pushes_0 6 rfl rfl)
theorem dX13_pushes_7 : decode cX13_pushes 7 = .ok (.ireturn, 1) := dk_172 (dk_at dksX13_pushes_0 7 rfl rfl)
abbrev cX13_tells : ByteArray := prog_4_method_5_code
def yX13_tells : MethodName := ⟨RX13, "tells", "(I)I"⟩
def dkwX13_tells_1 : List UInt8 := [172]
abbrev dktX13_tells_1 : List UInt8 := dkwX13_tells_1 ++ []
def dkwX13_tells_0 : List UInt8 := [42, 180, 0, 1, 16, 41, 182, 0, 21, 42, 27, 4, 100, 183, 0, 27, 61, 28, 42, 5, 182, 0, 31, 96]
abbrev dktX13_tells_0 : List UInt8 := dkwX13_tells_0 ++ dktX13_tells_1
theorem dksX13_tells_0 : cX13_tells.data.toList.drop 0 = dktX13_tells_0 := by decide +kernel
theorem dksX13_tells_1 : cX13_tells.data.toList.drop 24 = dktX13_tells_1 := dk_seg dksX13_tells_0 24 rfl rfl
theorem dX13_tells_0 : decode cX13_tells 0 = .ok (.aload_n 0, 1) := dk_42 (dk_at dksX13_tells_0 0 rfl rfl)
theorem dX13_tells_1 : decode cX13_tells 1 = .ok (.getfield 1, 3) := dk_180 0 1 (dk_at dksX13_tells_0 1 rfl rfl)
theorem dX13_tells_4 : decode cX13_tells 4 = .ok (.bipush 41, 2) := dk_16 41 (dk_at dksX13_tells_0 4 rfl rfl)
theorem dX13_tells_6 : decode cX13_tells 6 = .ok (.invokevirtual 21, 3) := dk_182 0 21 (dk_at dksX13_tells_0 6 rfl rfl)
theorem dX13_tells_9 : decode cX13_tells 9 = .ok (.aload_n 0, 1) := dk_42 (dk_at dksX13_tells_0 9 rfl rfl)
theorem dX13_tells_10 : decode cX13_tells 10 = .ok (.iload_n 1, 1) := dk_27 (dk_at dksX13_tells_0 10 rfl rfl)
theorem dX13_tells_11 : decode cX13_tells 11 = .ok (.iconst 1, 1) := dk_4 (dk_at dksX13_tells_0 11 rfl rfl)
theorem dX13_tells_12 : decode cX13_tells 12 = .ok (.isub, 1) := dk_100 (dk_at dksX13_tells_0 12 rfl rfl)
theorem dX13_tells_13 : decode cX13_tells 13 = .ok (.invokespecial 27, 3) := dk_183 0 27 (dk_at dksX13_tells_0 13 rfl rfl)
theorem dX13_tells_16 : decode cX13_tells 16 = .ok (.istore_n 2, 1) := dk_61 (dk_at dksX13_tells_0 16 rfl rfl)
theorem dX13_tells_17 : decode cX13_tells 17 = .ok (.iload_n 2, 1) := dk_28 (dk_at dksX13_tells_0 17 rfl rfl)
theorem dX13_tells_18 : decode cX13_tells 18 = .ok (.aload_n 0, 1) := dk_42 (dk_at dksX13_tells_0 18 rfl rfl)
theorem dX13_tells_19 : decode cX13_tells 19 = .ok (.iconst 2, 1) := dk_5 (dk_at dksX13_tells_0 19 rfl rfl)
theorem dX13_tells_20 : decode cX13_tells 20 = .ok (.invokevirtual 31, 3) := dk_182 0 31 (dk_at dksX13_tells_0 20 rfl rfl)
theorem dX13_tells_23 : decode cX13_tells 23 = .ok (.iadd, 1) := dk_96 (dk_at dksX13_tells_0 23 rfl rfl)
theorem dX13_tells_24 : decode cX13_tells 24 = .ok (.ireturn, 1) := dk_172 (dk_at dksX13_tells_1 0 rfl rfl)
abbrev cX13_isUnder : ByteArray := prog_4_method_3_code
def yX13_isUnder : MethodName := ⟨RX13, "isUnder", "(I)Z"⟩
def dkwX13_isUnder_0 : List UInt8 := [27, 7, 159, 0, 11, 42, 27, 183, 0, 13, 153, 0, 7, 4, 167, 0, 4, 3, 172]
abbrev dktX13_isUnder_0 : List UInt8 := dkwX13_isUnder_0 ++ []
theorem dksX13_isUnder_0 : cX13_isUnder.data.toList.drop 0 = dktX13_isUnder_0 := by decide +kernel
theorem dX13_isUnder_0 : decode cX13_isUnder 0 = .ok (.iload_n 1, 1) := dk_27 (dk_at dksX13_isUnder_0 0 rfl rfl)
theorem dX13_isUnder_1 : decode cX13_isUnder 1 = .ok (.iconst 4, 1) := dk_7 (dk_at dksX13_isUnder_0 1 rfl rfl)
theorem dX13_isUnder_2 : decode cX13_isUnder 2 = .ok (.if_icmp .eq 11, 3) := dk_159 0 11 (dk_at dksX13_isUnder_0 2 rfl rfl)
theorem dX13_isUnder_5 : decode cX13_isUnder 5 = .ok (.aload_n 0, 1) := dk_42 (dk_at dksX13_isUnder_0 5 rfl rfl)
theorem dX13_isUnder_6 : decode cX13_isUnder 6 = .ok (.iload_n 1, 1) := dk_27 (dk_at dksX13_isUnder_0 6 rfl rfl)
theorem dX13_isUnder_7 : decode cX13_isUnder 7 = .ok (.invokespecial 13, 3) := dk_183 0 13 (dk_at dksX13_isUnder_0 7 rfl rfl)
theorem dX13_isUnder_10 : decode cX13_isUnder 10 = .ok (.ifCond .eq 7, 3) := dk_153 0 7 (dk_at dksX13_isUnder_0 10 rfl rfl)
theorem dX13_isUnder_13 : decode cX13_isUnder 13 = .ok (.iconst 1, 1) := dk_4 (dk_at dksX13_isUnder_0 13 rfl rfl)
theorem dX13_isUnder_14 : decode cX13_isUnder 14 = .ok (.goto 4, 3) := dk_167 0 4 (dk_at dksX13_isUnder_0 14 rfl rfl)
theorem dX13_isUnder_17 : decode cX13_isUnder 17 = .ok (.iconst 0, 1) := dk_3 (dk_at dksX13_isUnder_0 17 rfl rfl)
theorem dX13_isUnder_18 : decode cX13_isUnder 18 = .ok (.ireturn, 1) := dk_172 (dk_at dksX13_isUnder_0 18 rfl rfl)
theorem q107 : (Jvm.Cond.initialized "FewerMan$Grand") ∈ lw_all := lw_g (lw_at lw_m1 27 rfl) rfl
theorem q533 : (Jvm.Cond.selects "FewerMan$Grand" ({ cls := "java/lang/Object", name := "getClass", desc := "()Ljava/lang/Class;" } : Jvm.MethodName) ({ cls := "java/lang/Object", name := "getClass", desc := "()Ljava/lang/Class;" } : Jvm.MethodName)) ∈ lw_all := lw_g (lw_at lw_m2 213 rfl) rfl
theorem q652 : (Jvm.Cond.instantiable "FewerMan$Grand" (6 : Nat)) ∈ lw_all := lw_g (lw_at lw_m3 92 rfl) rfl
theorem q654 : (Jvm.Cond.instanceMethod ({ cls := "FewerMan$Grand", name := "<init>", desc := "(LFewerMan;II)V" } : Jvm.MethodName)) ∈ lw_all := lw_g (lw_at lw_m3 94 rfl) rfl
theorem q655 : (Jvm.Cond.code ({ cls := "FewerMan$Grand", name := "<init>", desc := "(LFewerMan;II)V" } : Jvm.MethodName) prog_4_method_1_code (4 : Nat) (Option.none : Option Jvm.ClassFile.FieldType)) ∈ lw_all := lw_g (lw_at lw_m3 95 rfl) rfl
theorem q656 : (Jvm.Cond.methodLink "FewerMan$Grand" (7 : Nat) ({ cls := "FewerMan$Master", name := "<init>", desc := "(LFewerMan;II)V" } : Jvm.MethodName)) ∈ lw_all := lw_g (lw_at lw_m3 96 rfl) rfl
theorem q657 : (Jvm.Cond.fieldLink "FewerMan$Grand" (1 : Nat) "FewerMan$Grand" "this$0" "LFewerMan;") ∈ lw_all := lw_g (lw_at lw_m3 97 rfl) rfl
theorem q658 : (Jvm.Cond.laysFinal "FewerMan$Grand" "FewerMan$Grand" "this$0" "LFewerMan;") ∈ lw_all := lw_g (lw_at lw_m3 98 rfl) rfl
theorem q659 : (Jvm.Cond.soleField "FewerMan$Grand" "this$0") ∈ lw_all := lw_g (lw_at lw_m3 99 rfl) rfl
theorem q660 : (Jvm.Cond.laysFinal "FewerMan$Grand" "FewerMan$Master" "this$0" "LFewerMan;") ∈ lw_all := lw_g (lw_at lw_m3 100 rfl) rfl
theorem q661 : (Jvm.Cond.laysFinal "FewerMan$Grand" "FewerMan$Player" "number" "I") ∈ lw_all := lw_g (lw_at lw_m3 101 rfl) rfl
theorem q662 : (Jvm.Cond.lays "FewerMan$Grand" "FewerMan$Player" "v" "I") ∈ lw_all := lw_g (lw_at lw_m3 102 rfl) rfl
theorem q663 : (Jvm.Cond.lays "FewerMan$Grand" "FewerMan$Player" "men" "I") ∈ lw_all := lw_g (lw_at lw_m3 103 rfl) rfl
theorem q664 : (Jvm.Cond.laysFinal "FewerMan$Grand" "FewerMan$Player" "this$0" "LFewerMan;") ∈ lw_all := lw_g (lw_at lw_m3 104 rfl) rfl
theorem q665 : (Jvm.Cond.superclass "FewerMan$Grand" "FewerMan$Master") ∈ lw_all := lw_g (lw_at lw_m3 105 rfl) rfl
theorem q731 : (Jvm.Cond.selects "FewerMan$Grand" ({ cls := "FewerMan$Player", name := "kind", desc := "()I" } : Jvm.MethodName) ({ cls := "FewerMan$Grand", name := "kind", desc := "()I" } : Jvm.MethodName)) ∈ lw_all := lw_g (lw_at lw_m3 171 rfl) rfl
theorem q732 : (Jvm.Cond.instanceMethod ({ cls := "FewerMan$Grand", name := "kind", desc := "()I" } : Jvm.MethodName)) ∈ lw_all := lw_g (lw_at lw_m3 172 rfl) rfl
theorem q733 : (Jvm.Cond.code ({ cls := "FewerMan$Grand", name := "kind", desc := "()I" } : Jvm.MethodName) prog_4_method_2_code (1 : Nat) (Option.some Jvm.ClassFile.FieldType.int)) ∈ lw_all := lw_g (lw_at lw_m3 173 rfl) rfl
theorem q768 : (Jvm.Cond.selects "FewerMan$Grand" ({ cls := "FewerMan$Player", name := "push", desc := "(LFewerMan$Player;)I" } : Jvm.MethodName) ({ cls := "FewerMan$Player", name := "push", desc := "(LFewerMan$Player;)I" } : Jvm.MethodName)) ∈ lw_all := lw_g (lw_at lw_m3 208 rfl) rfl
theorem q819 : (Jvm.Cond.selects "FewerMan$Grand" ({ cls := "FewerMan$Player", name := "pushes", desc := "(LFewerMan$Player;)I" } : Jvm.MethodName) ({ cls := "FewerMan$Grand", name := "pushes", desc := "(LFewerMan$Player;)I" } : Jvm.MethodName)) ∈ lw_all := lw_g (lw_at lw_m4 19 rfl) rfl
theorem q820 : (Jvm.Cond.instanceMethod ({ cls := "FewerMan$Grand", name := "pushes", desc := "(LFewerMan$Player;)I" } : Jvm.MethodName)) ∈ lw_all := lw_g (lw_at lw_m4 20 rfl) rfl
theorem q821 : (Jvm.Cond.code ({ cls := "FewerMan$Grand", name := "pushes", desc := "(LFewerMan$Player;)I" } : Jvm.MethodName) prog_4_method_4_code (2 : Nat) (Option.some Jvm.ClassFile.FieldType.int)) ∈ lw_all := lw_g (lw_at lw_m4 21 rfl) rfl
theorem q822 : (Jvm.Cond.methodLink "FewerMan$Grand" (17 : Nat) ({ cls := "FewerMan$Master", name := "pushes", desc := "(LFewerMan$Player;)I" } : Jvm.MethodName)) ∈ lw_all := lw_g (lw_at lw_m4 22 rfl) rfl
theorem q847 : (Jvm.Cond.selects "FewerMan$Grand" ({ cls := "FewerMan$Player", name := "odds", desc := "(LFewerMan$Player;)I" } : Jvm.MethodName) ({ cls := "FewerMan$Player", name := "odds", desc := "(LFewerMan$Player;)I" } : Jvm.MethodName)) ∈ lw_all := lw_g (lw_at lw_m4 47 rfl) rfl
theorem q1032 : (Jvm.Cond.selects "FewerMan$Grand" ({ cls := "FewerMan$Player", name := "moves", desc := "(I)I" } : Jvm.MethodName) ({ cls := "FewerMan$Master", name := "moves", desc := "(I)I" } : Jvm.MethodName)) ∈ lw_all := lw_g (lw_at lw_m4 232 rfl) rfl
theorem q1057 : (Jvm.Cond.selects "FewerMan$Grand" ({ cls := "FewerMan$Player", name := "bets", desc := "(I)I" } : Jvm.MethodName) ({ cls := "FewerMan$Player", name := "bets", desc := "(I)I" } : Jvm.MethodName)) ∈ lw_all := lw_g (lw_at lw_m5 17 rfl) rfl
theorem q1085 : (Jvm.Cond.selects "FewerMan$Grand" ({ cls := "FewerMan$Player", name := "tells", desc := "(I)I" } : Jvm.MethodName) ({ cls := "FewerMan$Grand", name := "tells", desc := "(I)I" } : Jvm.MethodName)) ∈ lw_all := lw_g (lw_at lw_m5 45 rfl) rfl
theorem q1086 : (Jvm.Cond.instanceMethod ({ cls := "FewerMan$Grand", name := "tells", desc := "(I)I" } : Jvm.MethodName)) ∈ lw_all := lw_g (lw_at lw_m5 46 rfl) rfl
theorem q1087 : (Jvm.Cond.code ({ cls := "FewerMan$Grand", name := "tells", desc := "(I)I" } : Jvm.MethodName) prog_4_method_5_code (3 : Nat) (Option.some Jvm.ClassFile.FieldType.int)) ∈ lw_all := lw_g (lw_at lw_m5 47 rfl) rfl
theorem q1088 : (Jvm.Cond.methodLinkNest "FewerMan$Grand" (21 : Nat) ({ cls := "FewerMan", name := "body", desc := "(I)V" } : Jvm.MethodName) "FewerMan") ∈ lw_tbl := lw_at lw_m5 48 rfl
theorem q1089 : (Jvm.Cond.methodLink "FewerMan$Grand" (27 : Nat) ({ cls := "FewerMan$Master", name := "tells", desc := "(I)I" } : Jvm.MethodName)) ∈ lw_all := lw_g (lw_at lw_m5 49 rfl) rfl
theorem q1092 : (Jvm.Cond.methodLink "FewerMan$Grand" (31 : Nat) ({ cls := "FewerMan$Grand", name := "moves", desc := "(I)I" } : Jvm.MethodName)) ∈ lw_all := lw_g (lw_at lw_m5 52 rfl) rfl
theorem q1093 : (Jvm.Cond.sameMethod "FewerMan$Grand" "FewerMan$Master" "moves" "(I)I") ∈ lw_all := lw_g (lw_at lw_m5 53 rfl) rfl
theorem q1095 : (Jvm.Cond.selects "FewerMan$Grand" ({ cls := "FewerMan$Grand", name := "moves", desc := "(I)I" } : Jvm.MethodName) ({ cls := "FewerMan$Master", name := "moves", desc := "(I)I" } : Jvm.MethodName)) ∈ lw_all := lw_g (lw_at lw_m5 55 rfl) rfl
theorem q1117 : (Jvm.Cond.selects "FewerMan$Grand" ({ cls := "FewerMan$Player", name := "isUnder", desc := "(I)Z" } : Jvm.MethodName) ({ cls := "FewerMan$Grand", name := "isUnder", desc := "(I)Z" } : Jvm.MethodName)) ∈ lw_all := lw_g (lw_at lw_m5 77 rfl) rfl
theorem q1118 : (Jvm.Cond.instanceMethod ({ cls := "FewerMan$Grand", name := "isUnder", desc := "(I)Z" } : Jvm.MethodName)) ∈ lw_all := lw_g (lw_at lw_m5 78 rfl) rfl
theorem q1119 : (Jvm.Cond.code ({ cls := "FewerMan$Grand", name := "isUnder", desc := "(I)Z" } : Jvm.MethodName) prog_4_method_3_code (2 : Nat) (Option.some Jvm.ClassFile.FieldType.boolean)) ∈ lw_all := lw_g (lw_at lw_m5 79 rfl) rfl
theorem q1120 : (Jvm.Cond.methodLink "FewerMan$Grand" (13 : Nat) ({ cls := "FewerMan$Master", name := "isUnder", desc := "(I)Z" } : Jvm.MethodName)) ∈ lw_all := lw_g (lw_at lw_m5 80 rfl) rfl
theorem q1691 : (Jvm.Cond.castable "FewerMan$Grand" "FewerMan$Player") ∈ lw_tbl := lw_at lw_m7 171 rfl
theorem q1710 : (Jvm.Cond.castable "FewerMan$Grand" "java/lang/Object") ∈ lw_tbl := lw_at lw_m7 190 rfl
theorem in_X13 : ∀ w ∈ wsX130, w ∈ lw_all := lw_in wsX130 [661, 662, 663, 664, 660, 658] (by decide +kernel) (by decide +kernel)

/-! FewerMan$Prize -/
set_option maxRecDepth 100000
def RX14 : String := "FewerMan$Prize"
def TX14 : u_T := fun k => match k with
  | 0 => ("FewerMan$Player", "number", "I", true)
  | 1 => ("FewerMan$Player", "v", "I", false)
  | 2 => ("FewerMan$Player", "men", "I", false)
  | 3 => ("FewerMan$Player", "this$0", "LFewerMan;", true)
  | 4 => ("FewerMan$Sly", "this$0", "LFewerMan;", true)
  | _ => ("FewerMan$Prize", "this$0", "LFewerMan;", true)
def tyX14 : Nat → FieldType := fun k => match k with
  | 0 => .int
  | 1 => .int
  | 2 => .int
  | 3 => .object "FewerMan"
  | 4 => .object "FewerMan"
  | _ => .object "FewerMan"
abbrev wsX140 : List Cond := u_ws RX14 TX14 6
-- two fields of one name: no nmX14
theorem tyX14_ok : ∀ k, k < 6 → parseFieldDescriptor (TX14 k).2.2.1 = some (tyX14 k) := by decide +kernel
abbrev cX14_init : ByteArray := prog_11_method_1_code
def yX14_init : MethodName := ⟨RX14, "<init>", "(LFewerMan;II)V"⟩
def dkwX14_init_0 : List UInt8 := [42, 43, 181, 0, 1, 42, 43, 28, 29, 183, 0, 7, 177]
abbrev dktX14_init_0 : List UInt8 := dkwX14_init_0 ++ []
theorem dksX14_init_0 : cX14_init.data.toList.drop 0 = dktX14_init_0 := by decide +kernel
theorem dX14_init_0 : decode cX14_init 0 = .ok (.aload_n 0, 1) := dk_42 (dk_at dksX14_init_0 0 rfl rfl)
theorem dX14_init_1 : decode cX14_init 1 = .ok (.aload_n 1, 1) := dk_43 (dk_at dksX14_init_0 1 rfl rfl)
theorem dX14_init_2 : decode cX14_init 2 = .ok (.putfield 1, 3) := dk_181 0 1 (dk_at dksX14_init_0 2 rfl rfl)
theorem dX14_init_5 : decode cX14_init 5 = .ok (.aload_n 0, 1) := dk_42 (dk_at dksX14_init_0 5 rfl rfl)
theorem dX14_init_6 : decode cX14_init 6 = .ok (.aload_n 1, 1) := dk_43 (dk_at dksX14_init_0 6 rfl rfl)
theorem dX14_init_7 : decode cX14_init 7 = .ok (.iload_n 2, 1) := dk_28 (dk_at dksX14_init_0 7 rfl rfl)
theorem dX14_init_8 : decode cX14_init 8 = .ok (.iload_n 3, 1) := dk_29 (dk_at dksX14_init_0 8 rfl rfl)
theorem dX14_init_9 : decode cX14_init 9 = .ok (.invokespecial 7, 3) := dk_183 0 7 (dk_at dksX14_init_0 9 rfl rfl)
theorem dX14_init_12 : decode cX14_init 12 = .ok (.return_, 1) := dk_177 (dk_at dksX14_init_0 12 rfl rfl)
abbrev cX14_kind : ByteArray := prog_11_method_2_code
def yX14_kind : MethodName := ⟨RX14, "kind", "()I"⟩
theorem dX14_kind_0 : decode cX14_kind 0 = .ok (.iconst 5, 1) := by decide +kernel
theorem dX14_kind_1 : decode cX14_kind 1 = .ok (.ireturn, 1) := by decide +kernel
abbrev cX14_pushes : ByteArray := prog_11_method_4_code
def yX14_pushes : MethodName := ⟨RX14, "pushes", "(LFewerMan$Player;)I"⟩
def dkwX14_pushes_1 : List UInt8 := [183, 0, 26, 172]
abbrev dktX14_pushes_1 : List UInt8 := dkwX14_pushes_1 ++ []
def dkwX14_pushes_0 : List UInt8 := [42, 180, 0, 1, 180, 0, 17, 42, 180, 0, 23, 5, 96, 161, 0, 7, 3, 167, 0, 8, 42, 43]
abbrev dktX14_pushes_0 : List UInt8 := dkwX14_pushes_0 ++ dktX14_pushes_1
theorem dksX14_pushes_0 : cX14_pushes.data.toList.drop 0 = dktX14_pushes_0 := by decide +kernel
theorem dksX14_pushes_1 : cX14_pushes.data.toList.drop 22 = dktX14_pushes_1 := dk_seg dksX14_pushes_0 22 rfl rfl
theorem dX14_pushes_0 : decode cX14_pushes 0 = .ok (.aload_n 0, 1) := dk_42 (dk_at dksX14_pushes_0 0 rfl rfl)
theorem dX14_pushes_1 : decode cX14_pushes 1 = .ok (.getfield 1, 3) := dk_180 0 1 (dk_at dksX14_pushes_0 1 rfl rfl)
theorem dX14_pushes_4 : decode cX14_pushes 4 = .ok (.getfield 17, 3) := dk_180 0 17 (dk_at dksX14_pushes_0 4 rfl rfl)
theorem dX14_pushes_7 : decode cX14_pushes 7 = .ok (.aload_n 0, 1) := dk_42 (dk_at dksX14_pushes_0 7 rfl rfl)
theorem dX14_pushes_8 : decode cX14_pushes 8 = .ok (.getfield 23, 3) := dk_180 0 23 (dk_at dksX14_pushes_0 8 rfl rfl)
theorem dX14_pushes_11 : decode cX14_pushes 11 = .ok (.iconst 2, 1) := dk_5 (dk_at dksX14_pushes_0 11 rfl rfl)
theorem dX14_pushes_12 : decode cX14_pushes 12 = .ok (.iadd, 1) := dk_96 (dk_at dksX14_pushes_0 12 rfl rfl)
theorem dX14_pushes_13 : decode cX14_pushes 13 = .ok (.if_icmp .lt 7, 3) := dk_161 0 7 (dk_at dksX14_pushes_0 13 rfl rfl)
theorem dX14_pushes_16 : decode cX14_pushes 16 = .ok (.iconst 0, 1) := dk_3 (dk_at dksX14_pushes_0 16 rfl rfl)
theorem dX14_pushes_17 : decode cX14_pushes 17 = .ok (.goto 8, 3) := dk_167 0 8 (dk_at dksX14_pushes_0 17 rfl rfl)
theorem dX14_pushes_20 : decode cX14_pushes 20 = .ok (.aload_n 0, 1) := dk_42 (dk_at dksX14_pushes_0 20 rfl rfl)
theorem dX14_pushes_21 : decode cX14_pushes 21 = .ok (.aload_n 1, 1) := dk_43 (dk_at dksX14_pushes_0 21 rfl rfl)
theorem dX14_pushes_22 : decode cX14_pushes 22 = .ok (.invokespecial 26, 3) := dk_183 0 26 (dk_at dksX14_pushes_1 0 rfl rfl)
theorem dX14_pushes_25 : decode cX14_pushes 25 = .ok (.ireturn, 1) := dk_172 (dk_at dksX14_pushes_1 3 rfl rfl)
abbrev cX14_moves : ByteArray := prog_11_method_5_code
def yX14_moves : MethodName := ⟨RX14, "moves", "(I)I"⟩
def dkwX14_moves_0 : List UInt8 := [42, 180, 0, 1, 16, 51, 182, 0, 30, 42, 27, 183, 0, 34, 42, 180, 0, 38, 130, 172]
abbrev dktX14_moves_0 : List UInt8 := dkwX14_moves_0 ++ []
theorem dksX14_moves_0 : cX14_moves.data.toList.drop 0 = dktX14_moves_0 := by decide +kernel
theorem dX14_moves_0 : decode cX14_moves 0 = .ok (.aload_n 0, 1) := dk_42 (dk_at dksX14_moves_0 0 rfl rfl)
theorem dX14_moves_1 : decode cX14_moves 1 = .ok (.getfield 1, 3) := dk_180 0 1 (dk_at dksX14_moves_0 1 rfl rfl)
theorem dX14_moves_4 : decode cX14_moves 4 = .ok (.bipush 51, 2) := dk_16 51 (dk_at dksX14_moves_0 4 rfl rfl)
theorem dX14_moves_6 : decode cX14_moves 6 = .ok (.invokevirtual 30, 3) := dk_182 0 30 (dk_at dksX14_moves_0 6 rfl rfl)
theorem dX14_moves_9 : decode cX14_moves 9 = .ok (.aload_n 0, 1) := dk_42 (dk_at dksX14_moves_0 9 rfl rfl)
theorem dX14_moves_10 : decode cX14_moves 10 = .ok (.iload_n 1, 1) := dk_27 (dk_at dksX14_moves_0 10 rfl rfl)
theorem dX14_moves_11 : decode cX14_moves 11 = .ok (.invokespecial 34, 3) := dk_183 0 34 (dk_at dksX14_moves_0 11 rfl rfl)
theorem dX14_moves_14 : decode cX14_moves 14 = .ok (.aload_n 0, 1) := dk_42 (dk_at dksX14_moves_0 14 rfl rfl)
theorem dX14_moves_15 : decode cX14_moves 15 = .ok (.getfield 38, 3) := dk_180 0 38 (dk_at dksX14_moves_0 15 rfl rfl)
theorem dX14_moves_18 : decode cX14_moves 18 = .ok (.ixor, 1) := dk_130 (dk_at dksX14_moves_0 18 rfl rfl)
theorem dX14_moves_19 : decode cX14_moves 19 = .ok (.ireturn, 1) := dk_172 (dk_at dksX14_moves_0 19 rfl rfl)
abbrev cX14_isUnder : ByteArray := prog_11_method_3_code
def yX14_isUnder : MethodName := ⟨RX14, "isUnder", "(I)Z"⟩
def dkwX14_isUnder_0 : List UInt8 := [27, 8, 159, 0, 11, 42, 27, 183, 0, 13, 153, 0, 7, 4, 167, 0, 4, 3, 172]
abbrev dktX14_isUnder_0 : List UInt8 := dkwX14_isUnder_0 ++ []
theorem dksX14_isUnder_0 : cX14_isUnder.data.toList.drop 0 = dktX14_isUnder_0 := by decide +kernel
theorem dX14_isUnder_0 : decode cX14_isUnder 0 = .ok (.iload_n 1, 1) := dk_27 (dk_at dksX14_isUnder_0 0 rfl rfl)
theorem dX14_isUnder_1 : decode cX14_isUnder 1 = .ok (.iconst 5, 1) := dk_8 (dk_at dksX14_isUnder_0 1 rfl rfl)
theorem dX14_isUnder_2 : decode cX14_isUnder 2 = .ok (.if_icmp .eq 11, 3) := dk_159 0 11 (dk_at dksX14_isUnder_0 2 rfl rfl)
theorem dX14_isUnder_5 : decode cX14_isUnder 5 = .ok (.aload_n 0, 1) := dk_42 (dk_at dksX14_isUnder_0 5 rfl rfl)
theorem dX14_isUnder_6 : decode cX14_isUnder 6 = .ok (.iload_n 1, 1) := dk_27 (dk_at dksX14_isUnder_0 6 rfl rfl)
theorem dX14_isUnder_7 : decode cX14_isUnder 7 = .ok (.invokespecial 13, 3) := dk_183 0 13 (dk_at dksX14_isUnder_0 7 rfl rfl)
theorem dX14_isUnder_10 : decode cX14_isUnder 10 = .ok (.ifCond .eq 7, 3) := dk_153 0 7 (dk_at dksX14_isUnder_0 10 rfl rfl)
theorem dX14_isUnder_13 : decode cX14_isUnder 13 = .ok (.iconst 1, 1) := dk_4 (dk_at dksX14_isUnder_0 13 rfl rfl)
theorem dX14_isUnder_14 : decode cX14_isUnder 14 = .ok (.goto 4, 3) := dk_167 0 4 (dk_at dksX14_isUnder_0 14 rfl rfl)
theorem dX14_isUnder_17 : decode cX14_isUnder 17 = .ok (.iconst 0, 1) := dk_3 (dk_at dksX14_isUnder_0 17 rfl rfl)
theorem dX14_isUnder_18 : decode cX14_isUnder 18 = .ok (.ireturn, 1) := dk_172 (dk_at dksX14_isUnder_0 18 rfl rfl)
theorem q108 : (Jvm.Cond.initialized "FewerMan$Prize") ∈ lw_all := lw_g (lw_at lw_m1 28 rfl) rfl
theorem q233 : (Jvm.Cond.fieldLinkNest "FewerMan$Prize" (17 : Nat) "FewerMan" "game" "I" "FewerMan") ∈ lw_tbl := lw_at lw_m1 153 rfl
theorem q540 : (Jvm.Cond.selects "FewerMan$Prize" ({ cls := "java/lang/Object", name := "getClass", desc := "()Ljava/lang/Class;" } : Jvm.MethodName) ({ cls := "java/lang/Object", name := "getClass", desc := "()Ljava/lang/Class;" } : Jvm.MethodName)) ∈ lw_all := lw_g (lw_at lw_m2 220 rfl) rfl
theorem q583 : (Jvm.Cond.fieldLink "FewerMan$Prize" (38 : Nat) "FewerMan$Prize" "number" "I") ∈ lw_all := lw_g (lw_at lw_m3 23 rfl) rfl
theorem q584 : (Jvm.Cond.sameField "FewerMan$Prize" "FewerMan$Player" "number" "I") ∈ lw_all := lw_g (lw_at lw_m3 24 rfl) rfl
theorem q586 : (Jvm.Cond.fieldLink "FewerMan$Prize" (23 : Nat) "FewerMan$Prize" "v" "I") ∈ lw_all := lw_g (lw_at lw_m3 26 rfl) rfl
theorem q587 : (Jvm.Cond.sameField "FewerMan$Prize" "FewerMan$Player" "v" "I") ∈ lw_all := lw_g (lw_at lw_m3 27 rfl) rfl
theorem q667 : (Jvm.Cond.instantiable "FewerMan$Prize" (6 : Nat)) ∈ lw_all := lw_g (lw_at lw_m3 107 rfl) rfl
theorem q669 : (Jvm.Cond.instanceMethod ({ cls := "FewerMan$Prize", name := "<init>", desc := "(LFewerMan;II)V" } : Jvm.MethodName)) ∈ lw_all := lw_g (lw_at lw_m3 109 rfl) rfl
theorem q670 : (Jvm.Cond.code ({ cls := "FewerMan$Prize", name := "<init>", desc := "(LFewerMan;II)V" } : Jvm.MethodName) prog_11_method_1_code (4 : Nat) (Option.none : Option Jvm.ClassFile.FieldType)) ∈ lw_all := lw_g (lw_at lw_m3 110 rfl) rfl
theorem q671 : (Jvm.Cond.methodLink "FewerMan$Prize" (7 : Nat) ({ cls := "FewerMan$Sly", name := "<init>", desc := "(LFewerMan;II)V" } : Jvm.MethodName)) ∈ lw_all := lw_g (lw_at lw_m3 111 rfl) rfl
theorem q672 : (Jvm.Cond.fieldLink "FewerMan$Prize" (1 : Nat) "FewerMan$Prize" "this$0" "LFewerMan;") ∈ lw_all := lw_g (lw_at lw_m3 112 rfl) rfl
theorem q673 : (Jvm.Cond.laysFinal "FewerMan$Prize" "FewerMan$Prize" "this$0" "LFewerMan;") ∈ lw_all := lw_g (lw_at lw_m3 113 rfl) rfl
theorem q674 : (Jvm.Cond.soleField "FewerMan$Prize" "this$0") ∈ lw_all := lw_g (lw_at lw_m3 114 rfl) rfl
theorem q675 : (Jvm.Cond.laysFinal "FewerMan$Prize" "FewerMan$Sly" "this$0" "LFewerMan;") ∈ lw_all := lw_g (lw_at lw_m3 115 rfl) rfl
theorem q676 : (Jvm.Cond.laysFinal "FewerMan$Prize" "FewerMan$Player" "number" "I") ∈ lw_all := lw_g (lw_at lw_m3 116 rfl) rfl
theorem q677 : (Jvm.Cond.lays "FewerMan$Prize" "FewerMan$Player" "v" "I") ∈ lw_all := lw_g (lw_at lw_m3 117 rfl) rfl
theorem q678 : (Jvm.Cond.lays "FewerMan$Prize" "FewerMan$Player" "men" "I") ∈ lw_all := lw_g (lw_at lw_m3 118 rfl) rfl
theorem q679 : (Jvm.Cond.laysFinal "FewerMan$Prize" "FewerMan$Player" "this$0" "LFewerMan;") ∈ lw_all := lw_g (lw_at lw_m3 119 rfl) rfl
theorem q680 : (Jvm.Cond.superclass "FewerMan$Prize" "FewerMan$Sly") ∈ lw_all := lw_g (lw_at lw_m3 120 rfl) rfl
theorem q737 : (Jvm.Cond.selects "FewerMan$Prize" ({ cls := "FewerMan$Player", name := "kind", desc := "()I" } : Jvm.MethodName) ({ cls := "FewerMan$Prize", name := "kind", desc := "()I" } : Jvm.MethodName)) ∈ lw_all := lw_g (lw_at lw_m3 177 rfl) rfl
theorem q738 : (Jvm.Cond.instanceMethod ({ cls := "FewerMan$Prize", name := "kind", desc := "()I" } : Jvm.MethodName)) ∈ lw_all := lw_g (lw_at lw_m3 178 rfl) rfl
theorem q739 : (Jvm.Cond.code ({ cls := "FewerMan$Prize", name := "kind", desc := "()I" } : Jvm.MethodName) prog_11_method_2_code (1 : Nat) (Option.some Jvm.ClassFile.FieldType.int)) ∈ lw_all := lw_g (lw_at lw_m3 179 rfl) rfl
theorem q770 : (Jvm.Cond.selects "FewerMan$Prize" ({ cls := "FewerMan$Player", name := "push", desc := "(LFewerMan$Player;)I" } : Jvm.MethodName) ({ cls := "FewerMan$Player", name := "push", desc := "(LFewerMan$Player;)I" } : Jvm.MethodName)) ∈ lw_all := lw_g (lw_at lw_m3 210 rfl) rfl
theorem q826 : (Jvm.Cond.selects "FewerMan$Prize" ({ cls := "FewerMan$Player", name := "pushes", desc := "(LFewerMan$Player;)I" } : Jvm.MethodName) ({ cls := "FewerMan$Prize", name := "pushes", desc := "(LFewerMan$Player;)I" } : Jvm.MethodName)) ∈ lw_all := lw_g (lw_at lw_m4 26 rfl) rfl
theorem q827 : (Jvm.Cond.instanceMethod ({ cls := "FewerMan$Prize", name := "pushes", desc := "(LFewerMan$Player;)I" } : Jvm.MethodName)) ∈ lw_all := lw_g (lw_at lw_m4 27 rfl) rfl
theorem q828 : (Jvm.Cond.code ({ cls := "FewerMan$Prize", name := "pushes", desc := "(LFewerMan$Player;)I" } : Jvm.MethodName) prog_11_method_4_code (2 : Nat) (Option.some Jvm.ClassFile.FieldType.int)) ∈ lw_all := lw_g (lw_at lw_m4 28 rfl) rfl
theorem q829 : (Jvm.Cond.methodLink "FewerMan$Prize" (26 : Nat) ({ cls := "FewerMan$Sly", name := "pushes", desc := "(LFewerMan$Player;)I" } : Jvm.MethodName)) ∈ lw_all := lw_g (lw_at lw_m4 29 rfl) rfl
theorem q849 : (Jvm.Cond.selects "FewerMan$Prize" ({ cls := "FewerMan$Player", name := "odds", desc := "(LFewerMan$Player;)I" } : Jvm.MethodName) ({ cls := "FewerMan$Player", name := "odds", desc := "(LFewerMan$Player;)I" } : Jvm.MethodName)) ∈ lw_all := lw_g (lw_at lw_m4 49 rfl) rfl
theorem q1043 : (Jvm.Cond.selects "FewerMan$Prize" ({ cls := "FewerMan$Player", name := "moves", desc := "(I)I" } : Jvm.MethodName) ({ cls := "FewerMan$Prize", name := "moves", desc := "(I)I" } : Jvm.MethodName)) ∈ lw_all := lw_g (lw_at lw_m5 3 rfl) rfl
theorem q1044 : (Jvm.Cond.instanceMethod ({ cls := "FewerMan$Prize", name := "moves", desc := "(I)I" } : Jvm.MethodName)) ∈ lw_all := lw_g (lw_at lw_m5 4 rfl) rfl
theorem q1045 : (Jvm.Cond.code ({ cls := "FewerMan$Prize", name := "moves", desc := "(I)I" } : Jvm.MethodName) prog_11_method_5_code (2 : Nat) (Option.some Jvm.ClassFile.FieldType.int)) ∈ lw_all := lw_g (lw_at lw_m5 5 rfl) rfl
theorem q1046 : (Jvm.Cond.methodLinkNest "FewerMan$Prize" (30 : Nat) ({ cls := "FewerMan", name := "body", desc := "(I)V" } : Jvm.MethodName) "FewerMan") ∈ lw_tbl := lw_at lw_m5 6 rfl
theorem q1047 : (Jvm.Cond.methodLink "FewerMan$Prize" (34 : Nat) ({ cls := "FewerMan$Sly", name := "moves", desc := "(I)I" } : Jvm.MethodName)) ∈ lw_all := lw_g (lw_at lw_m5 7 rfl) rfl
theorem q1059 : (Jvm.Cond.selects "FewerMan$Prize" ({ cls := "FewerMan$Player", name := "bets", desc := "(I)I" } : Jvm.MethodName) ({ cls := "FewerMan$Sly", name := "bets", desc := "(I)I" } : Jvm.MethodName)) ∈ lw_all := lw_g (lw_at lw_m5 19 rfl) rfl
theorem q1097 : (Jvm.Cond.selects "FewerMan$Prize" ({ cls := "FewerMan$Player", name := "tells", desc := "(I)I" } : Jvm.MethodName) ({ cls := "FewerMan$Player", name := "tells", desc := "(I)I" } : Jvm.MethodName)) ∈ lw_all := lw_g (lw_at lw_m5 57 rfl) rfl
theorem q1125 : (Jvm.Cond.selects "FewerMan$Prize" ({ cls := "FewerMan$Player", name := "isUnder", desc := "(I)Z" } : Jvm.MethodName) ({ cls := "FewerMan$Prize", name := "isUnder", desc := "(I)Z" } : Jvm.MethodName)) ∈ lw_all := lw_g (lw_at lw_m5 85 rfl) rfl
theorem q1126 : (Jvm.Cond.instanceMethod ({ cls := "FewerMan$Prize", name := "isUnder", desc := "(I)Z" } : Jvm.MethodName)) ∈ lw_all := lw_g (lw_at lw_m5 86 rfl) rfl
theorem q1127 : (Jvm.Cond.code ({ cls := "FewerMan$Prize", name := "isUnder", desc := "(I)Z" } : Jvm.MethodName) prog_11_method_3_code (2 : Nat) (Option.some Jvm.ClassFile.FieldType.boolean)) ∈ lw_all := lw_g (lw_at lw_m5 87 rfl) rfl
theorem q1128 : (Jvm.Cond.methodLink "FewerMan$Prize" (13 : Nat) ({ cls := "FewerMan$Sly", name := "isUnder", desc := "(I)Z" } : Jvm.MethodName)) ∈ lw_all := lw_g (lw_at lw_m5 88 rfl) rfl
theorem q1693 : (Jvm.Cond.castable "FewerMan$Prize" "FewerMan$Player") ∈ lw_tbl := lw_at lw_m7 173 rfl
theorem q1711 : (Jvm.Cond.castable "FewerMan$Prize" "java/lang/Object") ∈ lw_tbl := lw_at lw_m7 191 rfl
theorem in_X14 : ∀ w ∈ wsX140, w ∈ lw_all := lw_in wsX140 [676, 677, 678, 679, 675, 673] (by decide +kernel) (by decide +kernel)

/-! FewerMan$Told -/
set_option maxRecDepth 100000
def RX15 : String := "FewerMan$Told"
def TX15 : u_T := fun k => match k with
  | 0 => ("FewerMan$Player", "number", "I", true)
  | 1 => ("FewerMan$Player", "v", "I", false)
  | 2 => ("FewerMan$Player", "men", "I", false)
  | 3 => ("FewerMan$Player", "this$0", "LFewerMan;", true)
  | 4 => ("FewerMan$Fresh", "this$0", "LFewerMan;", true)
  | 5 => ("FewerMan$Told", "row", "[I", true)
  | _ => ("FewerMan$Told", "this$0", "LFewerMan;", true)
def tyX15 : Nat → FieldType := fun k => match k with
  | 0 => .int
  | 1 => .int
  | 2 => .int
  | 3 => .object "FewerMan"
  | 4 => .object "FewerMan"
  | 5 => .array .int
  | _ => .object "FewerMan"
abbrev wsX150 : List Cond := u_ws RX15 TX15 7
-- two fields of one name: no nmX15
theorem tyX15_ok : ∀ k, k < 7 → parseFieldDescriptor (TX15 k).2.2.1 = some (tyX15 k) := by decide +kernel
abbrev cX15_init : ByteArray := prog_15_method_1_code
def yX15_init : MethodName := ⟨RX15, "<init>", "(LFewerMan;II)V"⟩
def dkwX15_init_1 : List UInt8 := [89, 5, 7, 79, 89, 6, 7, 79, 181, 0, 15, 177]
abbrev dktX15_init_1 : List UInt8 := dkwX15_init_1 ++ []
def dkwX15_init_0 : List UInt8 := [42, 43, 181, 0, 3, 42, 43, 28, 29, 183, 0, 9, 42, 7, 188, 10, 89, 3, 7, 79, 89, 4, 7, 79]
abbrev dktX15_init_0 : List UInt8 := dkwX15_init_0 ++ dktX15_init_1
theorem dksX15_init_0 : cX15_init.data.toList.drop 0 = dktX15_init_0 := by decide +kernel
theorem dksX15_init_1 : cX15_init.data.toList.drop 24 = dktX15_init_1 := dk_seg dksX15_init_0 24 rfl rfl
theorem dX15_init_0 : decode cX15_init 0 = .ok (.aload_n 0, 1) := dk_42 (dk_at dksX15_init_0 0 rfl rfl)
theorem dX15_init_1 : decode cX15_init 1 = .ok (.aload_n 1, 1) := dk_43 (dk_at dksX15_init_0 1 rfl rfl)
theorem dX15_init_2 : decode cX15_init 2 = .ok (.putfield 3, 3) := dk_181 0 3 (dk_at dksX15_init_0 2 rfl rfl)
theorem dX15_init_5 : decode cX15_init 5 = .ok (.aload_n 0, 1) := dk_42 (dk_at dksX15_init_0 5 rfl rfl)
theorem dX15_init_6 : decode cX15_init 6 = .ok (.aload_n 1, 1) := dk_43 (dk_at dksX15_init_0 6 rfl rfl)
theorem dX15_init_7 : decode cX15_init 7 = .ok (.iload_n 2, 1) := dk_28 (dk_at dksX15_init_0 7 rfl rfl)
theorem dX15_init_8 : decode cX15_init 8 = .ok (.iload_n 3, 1) := dk_29 (dk_at dksX15_init_0 8 rfl rfl)
theorem dX15_init_9 : decode cX15_init 9 = .ok (.invokespecial 9, 3) := dk_183 0 9 (dk_at dksX15_init_0 9 rfl rfl)
theorem dX15_init_12 : decode cX15_init 12 = .ok (.aload_n 0, 1) := dk_42 (dk_at dksX15_init_0 12 rfl rfl)
theorem dX15_init_13 : decode cX15_init 13 = .ok (.iconst 4, 1) := dk_7 (dk_at dksX15_init_0 13 rfl rfl)
theorem dX15_init_14 : decode cX15_init 14 = .ok (.newarray .int, 2) := dk_188_10 (dk_at dksX15_init_0 14 rfl rfl)
theorem dX15_init_16 : decode cX15_init 16 = .ok (.dup, 1) := dk_89 (dk_at dksX15_init_0 16 rfl rfl)
theorem dX15_init_17 : decode cX15_init 17 = .ok (.iconst 0, 1) := dk_3 (dk_at dksX15_init_0 17 rfl rfl)
theorem dX15_init_18 : decode cX15_init 18 = .ok (.iconst 4, 1) := dk_7 (dk_at dksX15_init_0 18 rfl rfl)
theorem dX15_init_19 : decode cX15_init 19 = .ok (.iastore, 1) := dk_79 (dk_at dksX15_init_0 19 rfl rfl)
theorem dX15_init_20 : decode cX15_init 20 = .ok (.dup, 1) := dk_89 (dk_at dksX15_init_0 20 rfl rfl)
theorem dX15_init_21 : decode cX15_init 21 = .ok (.iconst 1, 1) := dk_4 (dk_at dksX15_init_0 21 rfl rfl)
theorem dX15_init_22 : decode cX15_init 22 = .ok (.iconst 4, 1) := dk_7 (dk_at dksX15_init_0 22 rfl rfl)
theorem dX15_init_23 : decode cX15_init 23 = .ok (.iastore, 1) := dk_79 (dk_at dksX15_init_0 23 rfl rfl)
theorem dX15_init_24 : decode cX15_init 24 = .ok (.dup, 1) := dk_89 (dk_at dksX15_init_1 0 rfl rfl)
theorem dX15_init_25 : decode cX15_init 25 = .ok (.iconst 2, 1) := dk_5 (dk_at dksX15_init_1 1 rfl rfl)
theorem dX15_init_26 : decode cX15_init 26 = .ok (.iconst 4, 1) := dk_7 (dk_at dksX15_init_1 2 rfl rfl)
theorem dX15_init_27 : decode cX15_init 27 = .ok (.iastore, 1) := dk_79 (dk_at dksX15_init_1 3 rfl rfl)
theorem dX15_init_28 : decode cX15_init 28 = .ok (.dup, 1) := dk_89 (dk_at dksX15_init_1 4 rfl rfl)
theorem dX15_init_29 : decode cX15_init 29 = .ok (.iconst 3, 1) := dk_6 (dk_at dksX15_init_1 5 rfl rfl)
theorem dX15_init_30 : decode cX15_init 30 = .ok (.iconst 4, 1) := dk_7 (dk_at dksX15_init_1 6 rfl rfl)
theorem dX15_init_31 : decode cX15_init 31 = .ok (.iastore, 1) := dk_79 (dk_at dksX15_init_1 7 rfl rfl)
theorem dX15_init_32 : decode cX15_init 32 = .ok (.putfield 15, 3) := dk_181 0 15 (dk_at dksX15_init_1 8 rfl rfl)
theorem dX15_init_35 : decode cX15_init 35 = .ok (.return_, 1) := dk_177 (dk_at dksX15_init_1 11 rfl rfl)
abbrev cX15_kind : ByteArray := prog_15_method_2_code
def yX15_kind : MethodName := ⟨RX15, "kind", "()I"⟩
theorem dX15_kind_0 : decode cX15_kind 0 = .ok (.bipush 6, 2) := by decide +kernel
theorem dX15_kind_2 : decode cX15_kind 2 = .ok (.ireturn, 1) := by decide +kernel
abbrev cX15_pushes : ByteArray := prog_15_method_4_code
def yX15_pushes : MethodName := ⟨RX15, "pushes", "(LFewerMan$Player;)I"⟩
def dkwX15_pushes_0 : List UInt8 := [42, 43, 183, 0, 23, 42, 180, 0, 15, 42, 180, 0, 3, 180, 0, 27, 7, 112, 46, 96, 7, 100, 172]
abbrev dktX15_pushes_0 : List UInt8 := dkwX15_pushes_0 ++ []
theorem dksX15_pushes_0 : cX15_pushes.data.toList.drop 0 = dktX15_pushes_0 := by decide +kernel
theorem dX15_pushes_0 : decode cX15_pushes 0 = .ok (.aload_n 0, 1) := dk_42 (dk_at dksX15_pushes_0 0 rfl rfl)
theorem dX15_pushes_1 : decode cX15_pushes 1 = .ok (.aload_n 1, 1) := dk_43 (dk_at dksX15_pushes_0 1 rfl rfl)
theorem dX15_pushes_2 : decode cX15_pushes 2 = .ok (.invokespecial 23, 3) := dk_183 0 23 (dk_at dksX15_pushes_0 2 rfl rfl)
theorem dX15_pushes_5 : decode cX15_pushes 5 = .ok (.aload_n 0, 1) := dk_42 (dk_at dksX15_pushes_0 5 rfl rfl)
theorem dX15_pushes_6 : decode cX15_pushes 6 = .ok (.getfield 15, 3) := dk_180 0 15 (dk_at dksX15_pushes_0 6 rfl rfl)
theorem dX15_pushes_9 : decode cX15_pushes 9 = .ok (.aload_n 0, 1) := dk_42 (dk_at dksX15_pushes_0 9 rfl rfl)
theorem dX15_pushes_10 : decode cX15_pushes 10 = .ok (.getfield 3, 3) := dk_180 0 3 (dk_at dksX15_pushes_0 10 rfl rfl)
theorem dX15_pushes_13 : decode cX15_pushes 13 = .ok (.getfield 27, 3) := dk_180 0 27 (dk_at dksX15_pushes_0 13 rfl rfl)
theorem dX15_pushes_16 : decode cX15_pushes 16 = .ok (.iconst 4, 1) := dk_7 (dk_at dksX15_pushes_0 16 rfl rfl)
theorem dX15_pushes_17 : decode cX15_pushes 17 = .ok (.irem, 1) := dk_112 (dk_at dksX15_pushes_0 17 rfl rfl)
theorem dX15_pushes_18 : decode cX15_pushes 18 = .ok (.iaload, 1) := dk_46 (dk_at dksX15_pushes_0 18 rfl rfl)
theorem dX15_pushes_19 : decode cX15_pushes 19 = .ok (.iadd, 1) := dk_96 (dk_at dksX15_pushes_0 19 rfl rfl)
theorem dX15_pushes_20 : decode cX15_pushes 20 = .ok (.iconst 4, 1) := dk_7 (dk_at dksX15_pushes_0 20 rfl rfl)
theorem dX15_pushes_21 : decode cX15_pushes 21 = .ok (.isub, 1) := dk_100 (dk_at dksX15_pushes_0 21 rfl rfl)
theorem dX15_pushes_22 : decode cX15_pushes 22 = .ok (.ireturn, 1) := dk_172 (dk_at dksX15_pushes_0 22 rfl rfl)
abbrev cX15_bets : ByteArray := prog_15_method_5_code
def yX15_bets : MethodName := ⟨RX15, "bets", "(I)I"⟩
def dkwX15_bets_0 : List UInt8 := [42, 180, 0, 3, 16, 61, 182, 0, 31, 42, 27, 183, 0, 35, 42, 180, 0, 39, 96, 172]
abbrev dktX15_bets_0 : List UInt8 := dkwX15_bets_0 ++ []
theorem dksX15_bets_0 : cX15_bets.data.toList.drop 0 = dktX15_bets_0 := by decide +kernel
theorem dX15_bets_0 : decode cX15_bets 0 = .ok (.aload_n 0, 1) := dk_42 (dk_at dksX15_bets_0 0 rfl rfl)
theorem dX15_bets_1 : decode cX15_bets 1 = .ok (.getfield 3, 3) := dk_180 0 3 (dk_at dksX15_bets_0 1 rfl rfl)
theorem dX15_bets_4 : decode cX15_bets 4 = .ok (.bipush 61, 2) := dk_16 61 (dk_at dksX15_bets_0 4 rfl rfl)
theorem dX15_bets_6 : decode cX15_bets 6 = .ok (.invokevirtual 31, 3) := dk_182 0 31 (dk_at dksX15_bets_0 6 rfl rfl)
theorem dX15_bets_9 : decode cX15_bets 9 = .ok (.aload_n 0, 1) := dk_42 (dk_at dksX15_bets_0 9 rfl rfl)
theorem dX15_bets_10 : decode cX15_bets 10 = .ok (.iload_n 1, 1) := dk_27 (dk_at dksX15_bets_0 10 rfl rfl)
theorem dX15_bets_11 : decode cX15_bets 11 = .ok (.invokespecial 35, 3) := dk_183 0 35 (dk_at dksX15_bets_0 11 rfl rfl)
theorem dX15_bets_14 : decode cX15_bets 14 = .ok (.aload_n 0, 1) := dk_42 (dk_at dksX15_bets_0 14 rfl rfl)
theorem dX15_bets_15 : decode cX15_bets 15 = .ok (.getfield 39, 3) := dk_180 0 39 (dk_at dksX15_bets_0 15 rfl rfl)
theorem dX15_bets_18 : decode cX15_bets 18 = .ok (.iadd, 1) := dk_96 (dk_at dksX15_bets_0 18 rfl rfl)
theorem dX15_bets_19 : decode cX15_bets 19 = .ok (.ireturn, 1) := dk_172 (dk_at dksX15_bets_0 19 rfl rfl)
abbrev cX15_isUnder : ByteArray := prog_15_method_3_code
def yX15_isUnder : MethodName := ⟨RX15, "isUnder", "(I)Z"⟩
def dkwX15_isUnder_0 : List UInt8 := [27, 16, 6, 159, 0, 11, 42, 27, 183, 0, 19, 153, 0, 7, 4, 167, 0, 4, 3, 172]
abbrev dktX15_isUnder_0 : List UInt8 := dkwX15_isUnder_0 ++ []
theorem dksX15_isUnder_0 : cX15_isUnder.data.toList.drop 0 = dktX15_isUnder_0 := by decide +kernel
theorem dX15_isUnder_0 : decode cX15_isUnder 0 = .ok (.iload_n 1, 1) := dk_27 (dk_at dksX15_isUnder_0 0 rfl rfl)
theorem dX15_isUnder_1 : decode cX15_isUnder 1 = .ok (.bipush 6, 2) := dk_16 6 (dk_at dksX15_isUnder_0 1 rfl rfl)
theorem dX15_isUnder_3 : decode cX15_isUnder 3 = .ok (.if_icmp .eq 11, 3) := dk_159 0 11 (dk_at dksX15_isUnder_0 3 rfl rfl)
theorem dX15_isUnder_6 : decode cX15_isUnder 6 = .ok (.aload_n 0, 1) := dk_42 (dk_at dksX15_isUnder_0 6 rfl rfl)
theorem dX15_isUnder_7 : decode cX15_isUnder 7 = .ok (.iload_n 1, 1) := dk_27 (dk_at dksX15_isUnder_0 7 rfl rfl)
theorem dX15_isUnder_8 : decode cX15_isUnder 8 = .ok (.invokespecial 19, 3) := dk_183 0 19 (dk_at dksX15_isUnder_0 8 rfl rfl)
theorem dX15_isUnder_11 : decode cX15_isUnder 11 = .ok (.ifCond .eq 7, 3) := dk_153 0 7 (dk_at dksX15_isUnder_0 11 rfl rfl)
theorem dX15_isUnder_14 : decode cX15_isUnder 14 = .ok (.iconst 1, 1) := dk_4 (dk_at dksX15_isUnder_0 14 rfl rfl)
theorem dX15_isUnder_15 : decode cX15_isUnder 15 = .ok (.goto 4, 3) := dk_167 0 4 (dk_at dksX15_isUnder_0 15 rfl rfl)
theorem dX15_isUnder_18 : decode cX15_isUnder 18 = .ok (.iconst 0, 1) := dk_3 (dk_at dksX15_isUnder_0 18 rfl rfl)
theorem dX15_isUnder_19 : decode cX15_isUnder 19 = .ok (.ireturn, 1) := dk_172 (dk_at dksX15_isUnder_0 19 rfl rfl)
theorem q109 : (Jvm.Cond.initialized "FewerMan$Told") ∈ lw_all := lw_g (lw_at lw_m1 29 rfl) rfl
theorem q234 : (Jvm.Cond.fieldLinkNest "FewerMan$Told" (27 : Nat) "FewerMan" "game" "I" "FewerMan") ∈ lw_tbl := lw_at lw_m1 154 rfl
theorem q543 : (Jvm.Cond.selects "FewerMan$Told" ({ cls := "java/lang/Object", name := "getClass", desc := "()Ljava/lang/Class;" } : Jvm.MethodName) ({ cls := "java/lang/Object", name := "getClass", desc := "()Ljava/lang/Class;" } : Jvm.MethodName)) ∈ lw_all := lw_g (lw_at lw_m2 223 rfl) rfl
theorem q588 : (Jvm.Cond.fieldLink "FewerMan$Told" (39 : Nat) "FewerMan$Told" "v" "I") ∈ lw_all := lw_g (lw_at lw_m3 28 rfl) rfl
theorem q589 : (Jvm.Cond.sameField "FewerMan$Told" "FewerMan$Player" "v" "I") ∈ lw_all := lw_g (lw_at lw_m3 29 rfl) rfl
theorem q682 : (Jvm.Cond.instantiable "FewerMan$Told" (7 : Nat)) ∈ lw_all := lw_g (lw_at lw_m3 122 rfl) rfl
theorem q684 : (Jvm.Cond.instanceMethod ({ cls := "FewerMan$Told", name := "<init>", desc := "(LFewerMan;II)V" } : Jvm.MethodName)) ∈ lw_all := lw_g (lw_at lw_m3 124 rfl) rfl
theorem q685 : (Jvm.Cond.code ({ cls := "FewerMan$Told", name := "<init>", desc := "(LFewerMan;II)V" } : Jvm.MethodName) prog_15_method_1_code (4 : Nat) (Option.none : Option Jvm.ClassFile.FieldType)) ∈ lw_all := lw_g (lw_at lw_m3 125 rfl) rfl
theorem q686 : (Jvm.Cond.methodLink "FewerMan$Told" (9 : Nat) ({ cls := "FewerMan$Fresh", name := "<init>", desc := "(LFewerMan;II)V" } : Jvm.MethodName)) ∈ lw_all := lw_g (lw_at lw_m3 126 rfl) rfl
theorem q687 : (Jvm.Cond.fieldLink "FewerMan$Told" (15 : Nat) "FewerMan$Told" "row" "[I") ∈ lw_all := lw_g (lw_at lw_m3 127 rfl) rfl
theorem q690 : (Jvm.Cond.fieldLink "FewerMan$Told" (3 : Nat) "FewerMan$Told" "this$0" "LFewerMan;") ∈ lw_all := lw_g (lw_at lw_m3 130 rfl) rfl
theorem q691 : (Jvm.Cond.laysFinal "FewerMan$Told" "FewerMan$Told" "row" "[I") ∈ lw_all := lw_g (lw_at lw_m3 131 rfl) rfl
theorem q692 : (Jvm.Cond.soleField "FewerMan$Told" "row") ∈ lw_all := lw_g (lw_at lw_m3 132 rfl) rfl
theorem q693 : (Jvm.Cond.laysFinal "FewerMan$Told" "FewerMan$Told" "this$0" "LFewerMan;") ∈ lw_all := lw_g (lw_at lw_m3 133 rfl) rfl
theorem q694 : (Jvm.Cond.soleField "FewerMan$Told" "this$0") ∈ lw_all := lw_g (lw_at lw_m3 134 rfl) rfl
theorem q695 : (Jvm.Cond.laysFinal "FewerMan$Told" "FewerMan$Fresh" "this$0" "LFewerMan;") ∈ lw_all := lw_g (lw_at lw_m3 135 rfl) rfl
theorem q696 : (Jvm.Cond.laysFinal "FewerMan$Told" "FewerMan$Player" "number" "I") ∈ lw_all := lw_g (lw_at lw_m3 136 rfl) rfl
theorem q697 : (Jvm.Cond.lays "FewerMan$Told" "FewerMan$Player" "v" "I") ∈ lw_all := lw_g (lw_at lw_m3 137 rfl) rfl
theorem q698 : (Jvm.Cond.lays "FewerMan$Told" "FewerMan$Player" "men" "I") ∈ lw_all := lw_g (lw_at lw_m3 138 rfl) rfl
theorem q699 : (Jvm.Cond.laysFinal "FewerMan$Told" "FewerMan$Player" "this$0" "LFewerMan;") ∈ lw_all := lw_g (lw_at lw_m3 139 rfl) rfl
theorem q700 : (Jvm.Cond.superclass "FewerMan$Told" "FewerMan$Fresh") ∈ lw_all := lw_g (lw_at lw_m3 140 rfl) rfl
theorem q743 : (Jvm.Cond.selects "FewerMan$Told" ({ cls := "FewerMan$Player", name := "kind", desc := "()I" } : Jvm.MethodName) ({ cls := "FewerMan$Told", name := "kind", desc := "()I" } : Jvm.MethodName)) ∈ lw_all := lw_g (lw_at lw_m3 183 rfl) rfl
theorem q744 : (Jvm.Cond.instanceMethod ({ cls := "FewerMan$Told", name := "kind", desc := "()I" } : Jvm.MethodName)) ∈ lw_all := lw_g (lw_at lw_m3 184 rfl) rfl
theorem q745 : (Jvm.Cond.code ({ cls := "FewerMan$Told", name := "kind", desc := "()I" } : Jvm.MethodName) prog_15_method_2_code (1 : Nat) (Option.some Jvm.ClassFile.FieldType.int)) ∈ lw_all := lw_g (lw_at lw_m3 185 rfl) rfl
theorem q772 : (Jvm.Cond.selects "FewerMan$Told" ({ cls := "FewerMan$Player", name := "push", desc := "(LFewerMan$Player;)I" } : Jvm.MethodName) ({ cls := "FewerMan$Player", name := "push", desc := "(LFewerMan$Player;)I" } : Jvm.MethodName)) ∈ lw_all := lw_g (lw_at lw_m3 212 rfl) rfl
theorem q833 : (Jvm.Cond.selects "FewerMan$Told" ({ cls := "FewerMan$Player", name := "pushes", desc := "(LFewerMan$Player;)I" } : Jvm.MethodName) ({ cls := "FewerMan$Told", name := "pushes", desc := "(LFewerMan$Player;)I" } : Jvm.MethodName)) ∈ lw_all := lw_g (lw_at lw_m4 33 rfl) rfl
theorem q834 : (Jvm.Cond.instanceMethod ({ cls := "FewerMan$Told", name := "pushes", desc := "(LFewerMan$Player;)I" } : Jvm.MethodName)) ∈ lw_all := lw_g (lw_at lw_m4 34 rfl) rfl
theorem q835 : (Jvm.Cond.code ({ cls := "FewerMan$Told", name := "pushes", desc := "(LFewerMan$Player;)I" } : Jvm.MethodName) prog_15_method_4_code (2 : Nat) (Option.some Jvm.ClassFile.FieldType.int)) ∈ lw_all := lw_g (lw_at lw_m4 35 rfl) rfl
theorem q836 : (Jvm.Cond.methodLink "FewerMan$Told" (23 : Nat) ({ cls := "FewerMan$Fresh", name := "pushes", desc := "(LFewerMan$Player;)I" } : Jvm.MethodName)) ∈ lw_all := lw_g (lw_at lw_m4 36 rfl) rfl
theorem q851 : (Jvm.Cond.selects "FewerMan$Told" ({ cls := "FewerMan$Player", name := "odds", desc := "(LFewerMan$Player;)I" } : Jvm.MethodName) ({ cls := "FewerMan$Player", name := "odds", desc := "(LFewerMan$Player;)I" } : Jvm.MethodName)) ∈ lw_all := lw_g (lw_at lw_m4 51 rfl) rfl
theorem q1051 : (Jvm.Cond.selects "FewerMan$Told" ({ cls := "FewerMan$Player", name := "moves", desc := "(I)I" } : Jvm.MethodName) ({ cls := "FewerMan$Player", name := "moves", desc := "(I)I" } : Jvm.MethodName)) ∈ lw_all := lw_g (lw_at lw_m5 11 rfl) rfl
theorem q1067 : (Jvm.Cond.selects "FewerMan$Told" ({ cls := "FewerMan$Player", name := "bets", desc := "(I)I" } : Jvm.MethodName) ({ cls := "FewerMan$Told", name := "bets", desc := "(I)I" } : Jvm.MethodName)) ∈ lw_all := lw_g (lw_at lw_m5 27 rfl) rfl
theorem q1068 : (Jvm.Cond.instanceMethod ({ cls := "FewerMan$Told", name := "bets", desc := "(I)I" } : Jvm.MethodName)) ∈ lw_all := lw_g (lw_at lw_m5 28 rfl) rfl
theorem q1069 : (Jvm.Cond.code ({ cls := "FewerMan$Told", name := "bets", desc := "(I)I" } : Jvm.MethodName) prog_15_method_5_code (2 : Nat) (Option.some Jvm.ClassFile.FieldType.int)) ∈ lw_all := lw_g (lw_at lw_m5 29 rfl) rfl
theorem q1070 : (Jvm.Cond.methodLinkNest "FewerMan$Told" (31 : Nat) ({ cls := "FewerMan", name := "body", desc := "(I)V" } : Jvm.MethodName) "FewerMan") ∈ lw_tbl := lw_at lw_m5 30 rfl
theorem q1071 : (Jvm.Cond.methodLink "FewerMan$Told" (35 : Nat) ({ cls := "FewerMan$Fresh", name := "bets", desc := "(I)I" } : Jvm.MethodName)) ∈ lw_all := lw_g (lw_at lw_m5 31 rfl) rfl
theorem q1099 : (Jvm.Cond.selects "FewerMan$Told" ({ cls := "FewerMan$Player", name := "tells", desc := "(I)I" } : Jvm.MethodName) ({ cls := "FewerMan$Fresh", name := "tells", desc := "(I)I" } : Jvm.MethodName)) ∈ lw_all := lw_g (lw_at lw_m5 59 rfl) rfl
theorem q1133 : (Jvm.Cond.selects "FewerMan$Told" ({ cls := "FewerMan$Player", name := "isUnder", desc := "(I)Z" } : Jvm.MethodName) ({ cls := "FewerMan$Told", name := "isUnder", desc := "(I)Z" } : Jvm.MethodName)) ∈ lw_all := lw_g (lw_at lw_m5 93 rfl) rfl
theorem q1134 : (Jvm.Cond.instanceMethod ({ cls := "FewerMan$Told", name := "isUnder", desc := "(I)Z" } : Jvm.MethodName)) ∈ lw_all := lw_g (lw_at lw_m5 94 rfl) rfl
theorem q1135 : (Jvm.Cond.code ({ cls := "FewerMan$Told", name := "isUnder", desc := "(I)Z" } : Jvm.MethodName) prog_15_method_3_code (2 : Nat) (Option.some Jvm.ClassFile.FieldType.boolean)) ∈ lw_all := lw_g (lw_at lw_m5 95 rfl) rfl
theorem q1136 : (Jvm.Cond.methodLink "FewerMan$Told" (19 : Nat) ({ cls := "FewerMan$Fresh", name := "isUnder", desc := "(I)Z" } : Jvm.MethodName)) ∈ lw_all := lw_g (lw_at lw_m5 96 rfl) rfl
theorem q1695 : (Jvm.Cond.castable "FewerMan$Told" "FewerMan$Player") ∈ lw_tbl := lw_at lw_m7 175 rfl
theorem q1712 : (Jvm.Cond.castable "FewerMan$Told" "java/lang/Object") ∈ lw_tbl := lw_at lw_m7 192 rfl
theorem in_X15 : ∀ w ∈ wsX150, w ∈ lw_all := lw_in wsX150 [696, 697, 698, 699, 695, 691, 693] (by decide +kernel) (by decide +kernel)

/-! FewerMan$Image -/
set_option maxRecDepth 100000
def RX16 : String := "FewerMan$Image"
def TX16 : u_T := fun k => match k with
  | 0 => ("FewerMan$Image", "n", "I", true)
  | 1 => ("FewerMan$Image", "innsWere", "I", true)
  | 2 => ("FewerMan$Image", "gameWas", "I", true)
  | 3 => ("FewerMan$Image", "booksWere", "I", true)
  | 4 => ("FewerMan$Image", "talesWere", "I", true)
  | 5 => ("FewerMan$Image", "tapedWas", "I", true)
  | 6 => ("FewerMan$Image", "mens", "[I", true)
  | 7 => ("FewerMan$Image", "ones", "[I", true)
  | 8 => ("FewerMan$Image", "others", "[I", true)
  | 9 => ("FewerMan$Image", "talesOf", "[I", true)
  | 10 => ("FewerMan$Image", "rows", "[[I", true)
  | 11 => ("FewerMan$Image", "wons", "[Z", true)
  | 12 => ("FewerMan$Image", "tapeWas", "[B", true)
  | 13 => ("FewerMan$Image", "innWas", "LFewerMan$Inn;", true)
  | _ => ("FewerMan$Image", "this$0", "LFewerMan;", true)
def tyX16 : Nat → FieldType := fun k => match k with
  | 0 => .int
  | 1 => .int
  | 2 => .int
  | 3 => .int
  | 4 => .int
  | 5 => .int
  | 6 => .array .int
  | 7 => .array .int
  | 8 => .array .int
  | 9 => .array .int
  | 10 => .array (.array .int)
  | 11 => .array .boolean
  | 12 => .array .byte
  | 13 => .object "FewerMan$Inn"
  | _ => .object "FewerMan"
abbrev wsX160 : List Cond := u_ws RX16 TX16 15
set_option maxRecDepth 100000 in
theorem nmX16 : ∀ a, a < 15 → ∀ b, b < 15 → a ≠ b → (TX16 a).2.1 ≠ (TX16 b).2.1 := by decide +kernel
set_option maxRecDepth 100000 in
theorem tyX16_ok : ∀ k, k < 15 → parseFieldDescriptor (TX16 k).2.2.1 = some (tyX16 k) := by decide +kernel
abbrev cX16_init : ByteArray := prog_5_method_1_code
def yX16_init : MethodName := ⟨RX16, "<init>", "(LFewerMan;)V"⟩
def dkwX16_init_11 : List UInt8 := [180, 0, 126, 182, 0, 66, 192, 0, 67, 83, 132, 2, 1, 167, 255, 185, 177]
abbrev dktX16_init_11 : List UInt8 := dkwX16_init_11 ++ []
def dkwX16_init_10 : List UInt8 := [193, 0, 124, 153, 0, 29, 42, 180, 0, 86, 28, 43, 180, 0, 15, 28, 182, 0, 115, 192, 0, 124]
abbrev dktX16_init_10 : List UInt8 := dkwX16_init_10 ++ dktX16_init_11
def dkwX16_init_9 : List UInt8 := [43, 180, 0, 15, 28, 182, 0, 115, 192, 0, 119, 180, 0, 121, 79, 43, 180, 0, 15, 28, 182, 0, 115]
abbrev dktX16_init_9 : List UInt8 := dkwX16_init_9 ++ dktX16_init_10
def dkwX16_init_8 : List UInt8 := [180, 0, 3, 180, 0, 108, 181, 0, 112, 3, 61, 28, 42, 180, 0, 25, 162, 0, 69, 42, 180, 0, 59, 28]
abbrev dktX16_init_8 : List UInt8 := dkwX16_init_8 ++ dktX16_init_9
def dkwX16_init_7 : List UInt8 := [181, 0, 96, 42, 42, 180, 0, 3, 180, 0, 99, 182, 0, 103, 192, 0, 104, 181, 0, 105, 42, 42]
abbrev dktX16_init_7 : List UInt8 := dkwX16_init_7 ++ dktX16_init_8
def dkwX16_init_6 : List UInt8 := [42, 180, 0, 25, 189, 0, 67, 181, 0, 86, 42, 42, 180, 0, 3, 180, 0, 90, 182, 0, 94, 192, 0, 95]
abbrev dktX16_init_6 : List UInt8 := dkwX16_init_6 ++ dktX16_init_7
def dkwX16_init_5 : List UInt8 := [192, 0, 67, 181, 0, 77, 42, 42, 180, 0, 3, 180, 0, 80, 182, 0, 66, 192, 0, 67, 181, 0, 83, 42]
abbrev dktX16_init_5 : List UInt8 := dkwX16_init_5 ++ dktX16_init_6
def dkwX16_init_4 : List UInt8 := [180, 0, 63, 182, 0, 66, 192, 0, 67, 181, 0, 71, 42, 42, 180, 0, 3, 180, 0, 74, 182, 0, 66]
abbrev dktX16_init_4 : List UInt8 := dkwX16_init_4 ++ dktX16_init_5
def dkwX16_init_3 : List UInt8 := [180, 0, 3, 180, 0, 53, 181, 0, 56, 42, 42, 180, 0, 25, 188, 10, 181, 0, 59, 42, 42, 180, 0, 3]
abbrev dktX16_init_3 : List UInt8 := dkwX16_init_3 ++ dktX16_init_4
def dkwX16_init_2 : List UInt8 := [180, 0, 3, 180, 0, 41, 181, 0, 44, 42, 42, 180, 0, 3, 180, 0, 47, 181, 0, 50, 42, 42]
abbrev dktX16_init_2 : List UInt8 := dkwX16_init_2 ++ dktX16_init_3
def dkwX16_init_1 : List UInt8 := [42, 180, 0, 3, 180, 0, 29, 181, 0, 32, 42, 42, 180, 0, 3, 180, 0, 35, 181, 0, 38, 42, 42]
abbrev dktX16_init_1 : List UInt8 := dkwX16_init_1 ++ dktX16_init_2
def dkwX16_init_0 : List UInt8 := [42, 43, 181, 0, 3, 42, 183, 0, 9, 42, 42, 180, 0, 3, 180, 0, 15, 182, 0, 19, 181, 0, 25, 42]
abbrev dktX16_init_0 : List UInt8 := dkwX16_init_0 ++ dktX16_init_1
theorem dksX16_init_0 : cX16_init.data.toList.drop 0 = dktX16_init_0 := by decide +kernel
theorem dksX16_init_1 : cX16_init.data.toList.drop 24 = dktX16_init_1 := dk_seg dksX16_init_0 24 rfl rfl
theorem dksX16_init_2 : cX16_init.data.toList.drop 47 = dktX16_init_2 := dk_seg dksX16_init_1 23 rfl rfl
theorem dksX16_init_3 : cX16_init.data.toList.drop 69 = dktX16_init_3 := dk_seg dksX16_init_2 22 rfl rfl
theorem dksX16_init_4 : cX16_init.data.toList.drop 93 = dktX16_init_4 := dk_seg dksX16_init_3 24 rfl rfl
theorem dksX16_init_5 : cX16_init.data.toList.drop 116 = dktX16_init_5 := dk_seg dksX16_init_4 23 rfl rfl
theorem dksX16_init_6 : cX16_init.data.toList.drop 140 = dktX16_init_6 := dk_seg dksX16_init_5 24 rfl rfl
theorem dksX16_init_7 : cX16_init.data.toList.drop 164 = dktX16_init_7 := dk_seg dksX16_init_6 24 rfl rfl
theorem dksX16_init_8 : cX16_init.data.toList.drop 186 = dktX16_init_8 := dk_seg dksX16_init_7 22 rfl rfl
theorem dksX16_init_9 : cX16_init.data.toList.drop 210 = dktX16_init_9 := dk_seg dksX16_init_8 24 rfl rfl
theorem dksX16_init_10 : cX16_init.data.toList.drop 233 = dktX16_init_10 := dk_seg dksX16_init_9 23 rfl rfl
theorem dksX16_init_11 : cX16_init.data.toList.drop 255 = dktX16_init_11 := dk_seg dksX16_init_10 22 rfl rfl
theorem dX16_init_0 : decode cX16_init 0 = .ok (.aload_n 0, 1) := dk_42 (dk_at dksX16_init_0 0 rfl rfl)
theorem dX16_init_1 : decode cX16_init 1 = .ok (.aload_n 1, 1) := dk_43 (dk_at dksX16_init_0 1 rfl rfl)
theorem dX16_init_2 : decode cX16_init 2 = .ok (.putfield 3, 3) := dk_181 0 3 (dk_at dksX16_init_0 2 rfl rfl)
theorem dX16_init_5 : decode cX16_init 5 = .ok (.aload_n 0, 1) := dk_42 (dk_at dksX16_init_0 5 rfl rfl)
theorem dX16_init_6 : decode cX16_init 6 = .ok (.invokespecial 9, 3) := dk_183 0 9 (dk_at dksX16_init_0 6 rfl rfl)
theorem dX16_init_9 : decode cX16_init 9 = .ok (.aload_n 0, 1) := dk_42 (dk_at dksX16_init_0 9 rfl rfl)
theorem dX16_init_10 : decode cX16_init 10 = .ok (.aload_n 0, 1) := dk_42 (dk_at dksX16_init_0 10 rfl rfl)
theorem dX16_init_11 : decode cX16_init 11 = .ok (.getfield 3, 3) := dk_180 0 3 (dk_at dksX16_init_0 11 rfl rfl)
theorem dX16_init_14 : decode cX16_init 14 = .ok (.getfield 15, 3) := dk_180 0 15 (dk_at dksX16_init_0 14 rfl rfl)
theorem dX16_init_17 : decode cX16_init 17 = .ok (.invokevirtual 19, 3) := dk_182 0 19 (dk_at dksX16_init_0 17 rfl rfl)
theorem dX16_init_20 : decode cX16_init 20 = .ok (.putfield 25, 3) := dk_181 0 25 (dk_at dksX16_init_0 20 rfl rfl)
theorem dX16_init_23 : decode cX16_init 23 = .ok (.aload_n 0, 1) := dk_42 (dk_at dksX16_init_0 23 rfl rfl)
theorem dX16_init_24 : decode cX16_init 24 = .ok (.aload_n 0, 1) := dk_42 (dk_at dksX16_init_1 0 rfl rfl)
theorem dX16_init_25 : decode cX16_init 25 = .ok (.getfield 3, 3) := dk_180 0 3 (dk_at dksX16_init_1 1 rfl rfl)
theorem dX16_init_28 : decode cX16_init 28 = .ok (.getfield 29, 3) := dk_180 0 29 (dk_at dksX16_init_1 4 rfl rfl)
theorem dX16_init_31 : decode cX16_init 31 = .ok (.putfield 32, 3) := dk_181 0 32 (dk_at dksX16_init_1 7 rfl rfl)
theorem dX16_init_34 : decode cX16_init 34 = .ok (.aload_n 0, 1) := dk_42 (dk_at dksX16_init_1 10 rfl rfl)
theorem dX16_init_35 : decode cX16_init 35 = .ok (.aload_n 0, 1) := dk_42 (dk_at dksX16_init_1 11 rfl rfl)
theorem dX16_init_36 : decode cX16_init 36 = .ok (.getfield 3, 3) := dk_180 0 3 (dk_at dksX16_init_1 12 rfl rfl)
theorem dX16_init_39 : decode cX16_init 39 = .ok (.getfield 35, 3) := dk_180 0 35 (dk_at dksX16_init_1 15 rfl rfl)
theorem dX16_init_42 : decode cX16_init 42 = .ok (.putfield 38, 3) := dk_181 0 38 (dk_at dksX16_init_1 18 rfl rfl)
theorem dX16_init_45 : decode cX16_init 45 = .ok (.aload_n 0, 1) := dk_42 (dk_at dksX16_init_1 21 rfl rfl)
theorem dX16_init_46 : decode cX16_init 46 = .ok (.aload_n 0, 1) := dk_42 (dk_at dksX16_init_1 22 rfl rfl)
theorem dX16_init_47 : decode cX16_init 47 = .ok (.getfield 3, 3) := dk_180 0 3 (dk_at dksX16_init_2 0 rfl rfl)
theorem dX16_init_50 : decode cX16_init 50 = .ok (.getfield 41, 3) := dk_180 0 41 (dk_at dksX16_init_2 3 rfl rfl)
theorem dX16_init_53 : decode cX16_init 53 = .ok (.putfield 44, 3) := dk_181 0 44 (dk_at dksX16_init_2 6 rfl rfl)
theorem dX16_init_56 : decode cX16_init 56 = .ok (.aload_n 0, 1) := dk_42 (dk_at dksX16_init_2 9 rfl rfl)
theorem dX16_init_57 : decode cX16_init 57 = .ok (.aload_n 0, 1) := dk_42 (dk_at dksX16_init_2 10 rfl rfl)
theorem dX16_init_58 : decode cX16_init 58 = .ok (.getfield 3, 3) := dk_180 0 3 (dk_at dksX16_init_2 11 rfl rfl)
theorem dX16_init_61 : decode cX16_init 61 = .ok (.getfield 47, 3) := dk_180 0 47 (dk_at dksX16_init_2 14 rfl rfl)
theorem dX16_init_64 : decode cX16_init 64 = .ok (.putfield 50, 3) := dk_181 0 50 (dk_at dksX16_init_2 17 rfl rfl)
theorem dX16_init_67 : decode cX16_init 67 = .ok (.aload_n 0, 1) := dk_42 (dk_at dksX16_init_2 20 rfl rfl)
theorem dX16_init_68 : decode cX16_init 68 = .ok (.aload_n 0, 1) := dk_42 (dk_at dksX16_init_2 21 rfl rfl)
theorem dX16_init_69 : decode cX16_init 69 = .ok (.getfield 3, 3) := dk_180 0 3 (dk_at dksX16_init_3 0 rfl rfl)
theorem dX16_init_72 : decode cX16_init 72 = .ok (.getfield 53, 3) := dk_180 0 53 (dk_at dksX16_init_3 3 rfl rfl)
theorem dX16_init_75 : decode cX16_init 75 = .ok (.putfield 56, 3) := dk_181 0 56 (dk_at dksX16_init_3 6 rfl rfl)
theorem dX16_init_78 : decode cX16_init 78 = .ok (.aload_n 0, 1) := dk_42 (dk_at dksX16_init_3 9 rfl rfl)
theorem dX16_init_79 : decode cX16_init 79 = .ok (.aload_n 0, 1) := dk_42 (dk_at dksX16_init_3 10 rfl rfl)
theorem dX16_init_80 : decode cX16_init 80 = .ok (.getfield 25, 3) := dk_180 0 25 (dk_at dksX16_init_3 11 rfl rfl)
theorem dX16_init_83 : decode cX16_init 83 = .ok (.newarray .int, 2) := dk_188_10 (dk_at dksX16_init_3 14 rfl rfl)
theorem dX16_init_85 : decode cX16_init 85 = .ok (.putfield 59, 3) := dk_181 0 59 (dk_at dksX16_init_3 16 rfl rfl)
theorem dX16_init_88 : decode cX16_init 88 = .ok (.aload_n 0, 1) := dk_42 (dk_at dksX16_init_3 19 rfl rfl)
theorem dX16_init_89 : decode cX16_init 89 = .ok (.aload_n 0, 1) := dk_42 (dk_at dksX16_init_3 20 rfl rfl)
theorem dX16_init_90 : decode cX16_init 90 = .ok (.getfield 3, 3) := dk_180 0 3 (dk_at dksX16_init_3 21 rfl rfl)
theorem dX16_init_93 : decode cX16_init 93 = .ok (.getfield 63, 3) := dk_180 0 63 (dk_at dksX16_init_4 0 rfl rfl)
theorem dX16_init_96 : decode cX16_init 96 = .ok (.invokevirtual 66, 3) := dk_182 0 66 (dk_at dksX16_init_4 3 rfl rfl)
theorem dX16_init_99 : decode cX16_init 99 = .ok (.checkcast 67, 3) := dk_192 0 67 (dk_at dksX16_init_4 6 rfl rfl)
theorem dX16_init_102 : decode cX16_init 102 = .ok (.putfield 71, 3) := dk_181 0 71 (dk_at dksX16_init_4 9 rfl rfl)
theorem dX16_init_105 : decode cX16_init 105 = .ok (.aload_n 0, 1) := dk_42 (dk_at dksX16_init_4 12 rfl rfl)
theorem dX16_init_106 : decode cX16_init 106 = .ok (.aload_n 0, 1) := dk_42 (dk_at dksX16_init_4 13 rfl rfl)
theorem dX16_init_107 : decode cX16_init 107 = .ok (.getfield 3, 3) := dk_180 0 3 (dk_at dksX16_init_4 14 rfl rfl)
theorem dX16_init_110 : decode cX16_init 110 = .ok (.getfield 74, 3) := dk_180 0 74 (dk_at dksX16_init_4 17 rfl rfl)
theorem dX16_init_113 : decode cX16_init 113 = .ok (.invokevirtual 66, 3) := dk_182 0 66 (dk_at dksX16_init_4 20 rfl rfl)
theorem dX16_init_116 : decode cX16_init 116 = .ok (.checkcast 67, 3) := dk_192 0 67 (dk_at dksX16_init_5 0 rfl rfl)
theorem dX16_init_119 : decode cX16_init 119 = .ok (.putfield 77, 3) := dk_181 0 77 (dk_at dksX16_init_5 3 rfl rfl)
theorem dX16_init_122 : decode cX16_init 122 = .ok (.aload_n 0, 1) := dk_42 (dk_at dksX16_init_5 6 rfl rfl)
theorem dX16_init_123 : decode cX16_init 123 = .ok (.aload_n 0, 1) := dk_42 (dk_at dksX16_init_5 7 rfl rfl)
theorem dX16_init_124 : decode cX16_init 124 = .ok (.getfield 3, 3) := dk_180 0 3 (dk_at dksX16_init_5 8 rfl rfl)
theorem dX16_init_127 : decode cX16_init 127 = .ok (.getfield 80, 3) := dk_180 0 80 (dk_at dksX16_init_5 11 rfl rfl)
theorem dX16_init_130 : decode cX16_init 130 = .ok (.invokevirtual 66, 3) := dk_182 0 66 (dk_at dksX16_init_5 14 rfl rfl)
theorem dX16_init_133 : decode cX16_init 133 = .ok (.checkcast 67, 3) := dk_192 0 67 (dk_at dksX16_init_5 17 rfl rfl)
theorem dX16_init_136 : decode cX16_init 136 = .ok (.putfield 83, 3) := dk_181 0 83 (dk_at dksX16_init_5 20 rfl rfl)
theorem dX16_init_139 : decode cX16_init 139 = .ok (.aload_n 0, 1) := dk_42 (dk_at dksX16_init_5 23 rfl rfl)
theorem dX16_init_140 : decode cX16_init 140 = .ok (.aload_n 0, 1) := dk_42 (dk_at dksX16_init_6 0 rfl rfl)
theorem dX16_init_141 : decode cX16_init 141 = .ok (.getfield 25, 3) := dk_180 0 25 (dk_at dksX16_init_6 1 rfl rfl)
theorem dX16_init_144 : decode cX16_init 144 = .ok (.anewarray 67, 3) := dk_189 0 67 (dk_at dksX16_init_6 4 rfl rfl)
theorem dX16_init_147 : decode cX16_init 147 = .ok (.putfield 86, 3) := dk_181 0 86 (dk_at dksX16_init_6 7 rfl rfl)
theorem dX16_init_150 : decode cX16_init 150 = .ok (.aload_n 0, 1) := dk_42 (dk_at dksX16_init_6 10 rfl rfl)
theorem dX16_init_151 : decode cX16_init 151 = .ok (.aload_n 0, 1) := dk_42 (dk_at dksX16_init_6 11 rfl rfl)
theorem dX16_init_152 : decode cX16_init 152 = .ok (.getfield 3, 3) := dk_180 0 3 (dk_at dksX16_init_6 12 rfl rfl)
theorem dX16_init_155 : decode cX16_init 155 = .ok (.getfield 90, 3) := dk_180 0 90 (dk_at dksX16_init_6 15 rfl rfl)
theorem dX16_init_158 : decode cX16_init 158 = .ok (.invokevirtual 94, 3) := dk_182 0 94 (dk_at dksX16_init_6 18 rfl rfl)
theorem dX16_init_161 : decode cX16_init 161 = .ok (.checkcast 95, 3) := dk_192 0 95 (dk_at dksX16_init_6 21 rfl rfl)
theorem dX16_init_164 : decode cX16_init 164 = .ok (.putfield 96, 3) := dk_181 0 96 (dk_at dksX16_init_7 0 rfl rfl)
theorem dX16_init_167 : decode cX16_init 167 = .ok (.aload_n 0, 1) := dk_42 (dk_at dksX16_init_7 3 rfl rfl)
theorem dX16_init_168 : decode cX16_init 168 = .ok (.aload_n 0, 1) := dk_42 (dk_at dksX16_init_7 4 rfl rfl)
theorem dX16_init_169 : decode cX16_init 169 = .ok (.getfield 3, 3) := dk_180 0 3 (dk_at dksX16_init_7 5 rfl rfl)
theorem dX16_init_172 : decode cX16_init 172 = .ok (.getfield 99, 3) := dk_180 0 99 (dk_at dksX16_init_7 8 rfl rfl)
theorem dX16_init_175 : decode cX16_init 175 = .ok (.invokevirtual 103, 3) := dk_182 0 103 (dk_at dksX16_init_7 11 rfl rfl)
theorem dX16_init_178 : decode cX16_init 178 = .ok (.checkcast 104, 3) := dk_192 0 104 (dk_at dksX16_init_7 14 rfl rfl)
theorem dX16_init_181 : decode cX16_init 181 = .ok (.putfield 105, 3) := dk_181 0 105 (dk_at dksX16_init_7 17 rfl rfl)
theorem dX16_init_184 : decode cX16_init 184 = .ok (.aload_n 0, 1) := dk_42 (dk_at dksX16_init_7 20 rfl rfl)
theorem dX16_init_185 : decode cX16_init 185 = .ok (.aload_n 0, 1) := dk_42 (dk_at dksX16_init_7 21 rfl rfl)
theorem dX16_init_186 : decode cX16_init 186 = .ok (.getfield 3, 3) := dk_180 0 3 (dk_at dksX16_init_8 0 rfl rfl)
theorem dX16_init_189 : decode cX16_init 189 = .ok (.getfield 108, 3) := dk_180 0 108 (dk_at dksX16_init_8 3 rfl rfl)
theorem dX16_init_192 : decode cX16_init 192 = .ok (.putfield 112, 3) := dk_181 0 112 (dk_at dksX16_init_8 6 rfl rfl)
theorem dX16_init_195 : decode cX16_init 195 = .ok (.iconst 0, 1) := dk_3 (dk_at dksX16_init_8 9 rfl rfl)
theorem dX16_init_196 : decode cX16_init 196 = .ok (.istore_n 2, 1) := dk_61 (dk_at dksX16_init_8 10 rfl rfl)
theorem dX16_init_197 : decode cX16_init 197 = .ok (.iload_n 2, 1) := dk_28 (dk_at dksX16_init_8 11 rfl rfl)
theorem dX16_init_198 : decode cX16_init 198 = .ok (.aload_n 0, 1) := dk_42 (dk_at dksX16_init_8 12 rfl rfl)
theorem dX16_init_199 : decode cX16_init 199 = .ok (.getfield 25, 3) := dk_180 0 25 (dk_at dksX16_init_8 13 rfl rfl)
theorem dX16_init_202 : decode cX16_init 202 = .ok (.if_icmp .ge 69, 3) := dk_162 0 69 (dk_at dksX16_init_8 16 rfl rfl)
theorem dX16_init_205 : decode cX16_init 205 = .ok (.aload_n 0, 1) := dk_42 (dk_at dksX16_init_8 19 rfl rfl)
theorem dX16_init_206 : decode cX16_init 206 = .ok (.getfield 59, 3) := dk_180 0 59 (dk_at dksX16_init_8 20 rfl rfl)
theorem dX16_init_209 : decode cX16_init 209 = .ok (.iload_n 2, 1) := dk_28 (dk_at dksX16_init_8 23 rfl rfl)
theorem dX16_init_210 : decode cX16_init 210 = .ok (.aload_n 1, 1) := dk_43 (dk_at dksX16_init_9 0 rfl rfl)
theorem dX16_init_211 : decode cX16_init 211 = .ok (.getfield 15, 3) := dk_180 0 15 (dk_at dksX16_init_9 1 rfl rfl)
theorem dX16_init_214 : decode cX16_init 214 = .ok (.iload_n 2, 1) := dk_28 (dk_at dksX16_init_9 4 rfl rfl)
theorem dX16_init_215 : decode cX16_init 215 = .ok (.invokevirtual 115, 3) := dk_182 0 115 (dk_at dksX16_init_9 5 rfl rfl)
theorem dX16_init_218 : decode cX16_init 218 = .ok (.checkcast 119, 3) := dk_192 0 119 (dk_at dksX16_init_9 8 rfl rfl)
theorem dX16_init_221 : decode cX16_init 221 = .ok (.getfield 121, 3) := dk_180 0 121 (dk_at dksX16_init_9 11 rfl rfl)
theorem dX16_init_224 : decode cX16_init 224 = .ok (.iastore, 1) := dk_79 (dk_at dksX16_init_9 14 rfl rfl)
theorem dX16_init_225 : decode cX16_init 225 = .ok (.aload_n 1, 1) := dk_43 (dk_at dksX16_init_9 15 rfl rfl)
theorem dX16_init_226 : decode cX16_init 226 = .ok (.getfield 15, 3) := dk_180 0 15 (dk_at dksX16_init_9 16 rfl rfl)
theorem dX16_init_229 : decode cX16_init 229 = .ok (.iload_n 2, 1) := dk_28 (dk_at dksX16_init_9 19 rfl rfl)
theorem dX16_init_230 : decode cX16_init 230 = .ok (.invokevirtual 115, 3) := dk_182 0 115 (dk_at dksX16_init_9 20 rfl rfl)
theorem dX16_init_233 : decode cX16_init 233 = .ok (.instanceof 124, 3) := dk_193 0 124 (dk_at dksX16_init_10 0 rfl rfl)
theorem dX16_init_236 : decode cX16_init 236 = .ok (.ifCond .eq 29, 3) := dk_153 0 29 (dk_at dksX16_init_10 3 rfl rfl)
theorem dX16_init_239 : decode cX16_init 239 = .ok (.aload_n 0, 1) := dk_42 (dk_at dksX16_init_10 6 rfl rfl)
theorem dX16_init_240 : decode cX16_init 240 = .ok (.getfield 86, 3) := dk_180 0 86 (dk_at dksX16_init_10 7 rfl rfl)
theorem dX16_init_243 : decode cX16_init 243 = .ok (.iload_n 2, 1) := dk_28 (dk_at dksX16_init_10 10 rfl rfl)
theorem dX16_init_244 : decode cX16_init 244 = .ok (.aload_n 1, 1) := dk_43 (dk_at dksX16_init_10 11 rfl rfl)
theorem dX16_init_245 : decode cX16_init 245 = .ok (.getfield 15, 3) := dk_180 0 15 (dk_at dksX16_init_10 12 rfl rfl)
theorem dX16_init_248 : decode cX16_init 248 = .ok (.iload_n 2, 1) := dk_28 (dk_at dksX16_init_10 15 rfl rfl)
theorem dX16_init_249 : decode cX16_init 249 = .ok (.invokevirtual 115, 3) := dk_182 0 115 (dk_at dksX16_init_10 16 rfl rfl)
theorem dX16_init_252 : decode cX16_init 252 = .ok (.checkcast 124, 3) := dk_192 0 124 (dk_at dksX16_init_10 19 rfl rfl)
theorem dX16_init_255 : decode cX16_init 255 = .ok (.getfield 126, 3) := dk_180 0 126 (dk_at dksX16_init_11 0 rfl rfl)
theorem dX16_init_258 : decode cX16_init 258 = .ok (.invokevirtual 66, 3) := dk_182 0 66 (dk_at dksX16_init_11 3 rfl rfl)
theorem dX16_init_261 : decode cX16_init 261 = .ok (.checkcast 67, 3) := dk_192 0 67 (dk_at dksX16_init_11 6 rfl rfl)
theorem dX16_init_264 : decode cX16_init 264 = .ok (.aastore, 1) := dk_83 (dk_at dksX16_init_11 9 rfl rfl)
theorem dX16_init_265 : decode cX16_init 265 = .ok (.iinc 2 1, 3) := dk_132 2 1 (dk_at dksX16_init_11 10 rfl rfl)
theorem dX16_init_268 : decode cX16_init 268 = .ok (.goto (-71), 3) := dk_167 255 185 (dk_at dksX16_init_11 13 rfl rfl)
theorem dX16_init_271 : decode cX16_init 271 = .ok (.return_, 1) := dk_177 (dk_at dksX16_init_11 16 rfl rfl)
abbrev cX16_restore : ByteArray := prog_5_method_2_code
def yX16_restore : MethodName := ⟨RX16, "restore", "()V"⟩
def dkwX16_restore_11 : List UInt8 := [180, 0, 3, 42, 180, 0, 50, 181, 0, 47, 42, 180, 0, 3, 42, 180, 0, 56, 181, 0, 53, 177]
abbrev dktX16_restore_11 : List UInt8 := dkwX16_restore_11 ++ []
def dkwX16_restore_10 : List UInt8 := [180, 0, 3, 42, 180, 0, 38, 181, 0, 35, 42, 180, 0, 3, 42, 180, 0, 44, 181, 0, 41, 42]
abbrev dktX16_restore_10 : List UInt8 := dkwX16_restore_10 ++ dktX16_restore_11
def dkwX16_restore_9 : List UInt8 := [42, 180, 0, 3, 42, 180, 0, 112, 181, 0, 108, 42, 180, 0, 3, 42, 180, 0, 32, 181, 0, 29, 42]
abbrev dktX16_restore_9 : List UInt8 := dkwX16_restore_9 ++ dktX16_restore_10
def dkwX16_restore_8 : List UInt8 := [3, 16, 8, 184, 0, 132, 42, 180, 0, 105, 3, 42, 180, 0, 3, 180, 0, 99, 3, 16, 100, 184, 0, 132]
abbrev dktX16_restore_8 : List UInt8 := dkwX16_restore_8 ++ dktX16_restore_9
def dkwX16_restore_7 : List UInt8 := [180, 0, 3, 180, 0, 90, 3, 16, 8, 184, 0, 132, 42, 180, 0, 83, 3, 42, 180, 0, 3, 180, 0, 80]
abbrev dktX16_restore_7 : List UInt8 := dkwX16_restore_7 ++ dktX16_restore_8
def dkwX16_restore_6 : List UInt8 := [180, 0, 77, 3, 42, 180, 0, 3, 180, 0, 74, 3, 16, 8, 184, 0, 132, 42, 180, 0, 96, 3, 42]
abbrev dktX16_restore_6 : List UInt8 := dkwX16_restore_6 ++ dktX16_restore_7
def dkwX16_restore_5 : List UInt8 := [167, 255, 184, 42, 180, 0, 71, 3, 42, 180, 0, 3, 180, 0, 63, 3, 16, 8, 184, 0, 132, 42]
abbrev dktX16_restore_5 : List UInt8 := dkwX16_restore_5 ++ dktX16_restore_6
def dkwX16_restore_4 : List UInt8 := [180, 0, 3, 180, 0, 15, 27, 182, 0, 115, 192, 0, 124, 180, 0, 126, 3, 7, 184, 0, 132, 132, 1, 1]
abbrev dktX16_restore_4 : List UInt8 := dkwX16_restore_4 ++ dktX16_restore_5
def dkwX16_restore_3 : List UInt8 := [27, 46, 181, 0, 121, 42, 180, 0, 86, 27, 50, 198, 0, 32, 42, 180, 0, 86, 27, 50, 3, 42]
abbrev dktX16_restore_3 : List UInt8 := dkwX16_restore_3 ++ dktX16_restore_4
def dkwX16_restore_2 : List UInt8 := [180, 0, 25, 162, 0, 70, 42, 180, 0, 3, 180, 0, 15, 27, 182, 0, 115, 192, 0, 119, 42, 180, 0, 59]
abbrev dktX16_restore_2 : List UInt8 := dkwX16_restore_2 ++ dktX16_restore_3
def dkwX16_restore_1 : List UInt8 := [42, 180, 0, 3, 180, 0, 15, 182, 0, 19, 4, 100, 182, 0, 129, 87, 167, 255, 216, 3, 60, 27, 42]
abbrev dktX16_restore_1 : List UInt8 := dkwX16_restore_1 ++ dktX16_restore_2
def dkwX16_restore_0 : List UInt8 := [42, 180, 0, 3, 180, 0, 15, 182, 0, 19, 42, 180, 0, 25, 164, 0, 29, 42, 180, 0, 3, 180, 0, 15]
abbrev dktX16_restore_0 : List UInt8 := dkwX16_restore_0 ++ dktX16_restore_1
theorem dksX16_restore_0 : cX16_restore.data.toList.drop 0 = dktX16_restore_0 := by decide +kernel
theorem dksX16_restore_1 : cX16_restore.data.toList.drop 24 = dktX16_restore_1 := dk_seg dksX16_restore_0 24 rfl rfl
theorem dksX16_restore_2 : cX16_restore.data.toList.drop 47 = dktX16_restore_2 := dk_seg dksX16_restore_1 23 rfl rfl
theorem dksX16_restore_3 : cX16_restore.data.toList.drop 71 = dktX16_restore_3 := dk_seg dksX16_restore_2 24 rfl rfl
theorem dksX16_restore_4 : cX16_restore.data.toList.drop 93 = dktX16_restore_4 := dk_seg dksX16_restore_3 22 rfl rfl
theorem dksX16_restore_5 : cX16_restore.data.toList.drop 117 = dktX16_restore_5 := dk_seg dksX16_restore_4 24 rfl rfl
theorem dksX16_restore_6 : cX16_restore.data.toList.drop 139 = dktX16_restore_6 := dk_seg dksX16_restore_5 22 rfl rfl
theorem dksX16_restore_7 : cX16_restore.data.toList.drop 162 = dktX16_restore_7 := dk_seg dksX16_restore_6 23 rfl rfl
theorem dksX16_restore_8 : cX16_restore.data.toList.drop 186 = dktX16_restore_8 := dk_seg dksX16_restore_7 24 rfl rfl
theorem dksX16_restore_9 : cX16_restore.data.toList.drop 210 = dktX16_restore_9 := dk_seg dksX16_restore_8 24 rfl rfl
theorem dksX16_restore_10 : cX16_restore.data.toList.drop 233 = dktX16_restore_10 := dk_seg dksX16_restore_9 23 rfl rfl
theorem dksX16_restore_11 : cX16_restore.data.toList.drop 255 = dktX16_restore_11 := dk_seg dksX16_restore_10 22 rfl rfl
theorem dX16_restore_0 : decode cX16_restore 0 = .ok (.aload_n 0, 1) := dk_42 (dk_at dksX16_restore_0 0 rfl rfl)
theorem dX16_restore_1 : decode cX16_restore 1 = .ok (.getfield 3, 3) := dk_180 0 3 (dk_at dksX16_restore_0 1 rfl rfl)
theorem dX16_restore_4 : decode cX16_restore 4 = .ok (.getfield 15, 3) := dk_180 0 15 (dk_at dksX16_restore_0 4 rfl rfl)
theorem dX16_restore_7 : decode cX16_restore 7 = .ok (.invokevirtual 19, 3) := dk_182 0 19 (dk_at dksX16_restore_0 7 rfl rfl)
theorem dX16_restore_10 : decode cX16_restore 10 = .ok (.aload_n 0, 1) := dk_42 (dk_at dksX16_restore_0 10 rfl rfl)
theorem dX16_restore_11 : decode cX16_restore 11 = .ok (.getfield 25, 3) := dk_180 0 25 (dk_at dksX16_restore_0 11 rfl rfl)
theorem dX16_restore_14 : decode cX16_restore 14 = .ok (.if_icmp .le 29, 3) := dk_164 0 29 (dk_at dksX16_restore_0 14 rfl rfl)
theorem dX16_restore_17 : decode cX16_restore 17 = .ok (.aload_n 0, 1) := dk_42 (dk_at dksX16_restore_0 17 rfl rfl)
theorem dX16_restore_18 : decode cX16_restore 18 = .ok (.getfield 3, 3) := dk_180 0 3 (dk_at dksX16_restore_0 18 rfl rfl)
theorem dX16_restore_21 : decode cX16_restore 21 = .ok (.getfield 15, 3) := dk_180 0 15 (dk_at dksX16_restore_0 21 rfl rfl)
theorem dX16_restore_24 : decode cX16_restore 24 = .ok (.aload_n 0, 1) := dk_42 (dk_at dksX16_restore_1 0 rfl rfl)
theorem dX16_restore_25 : decode cX16_restore 25 = .ok (.getfield 3, 3) := dk_180 0 3 (dk_at dksX16_restore_1 1 rfl rfl)
theorem dX16_restore_28 : decode cX16_restore 28 = .ok (.getfield 15, 3) := dk_180 0 15 (dk_at dksX16_restore_1 4 rfl rfl)
theorem dX16_restore_31 : decode cX16_restore 31 = .ok (.invokevirtual 19, 3) := dk_182 0 19 (dk_at dksX16_restore_1 7 rfl rfl)
theorem dX16_restore_34 : decode cX16_restore 34 = .ok (.iconst 1, 1) := dk_4 (dk_at dksX16_restore_1 10 rfl rfl)
theorem dX16_restore_35 : decode cX16_restore 35 = .ok (.isub, 1) := dk_100 (dk_at dksX16_restore_1 11 rfl rfl)
theorem dX16_restore_36 : decode cX16_restore 36 = .ok (.invokevirtual 129, 3) := dk_182 0 129 (dk_at dksX16_restore_1 12 rfl rfl)
theorem dX16_restore_39 : decode cX16_restore 39 = .ok (.pop, 1) := dk_87 (dk_at dksX16_restore_1 15 rfl rfl)
theorem dX16_restore_40 : decode cX16_restore 40 = .ok (.goto (-40), 3) := dk_167 255 216 (dk_at dksX16_restore_1 16 rfl rfl)
theorem dX16_restore_43 : decode cX16_restore 43 = .ok (.iconst 0, 1) := dk_3 (dk_at dksX16_restore_1 19 rfl rfl)
theorem dX16_restore_44 : decode cX16_restore 44 = .ok (.istore_n 1, 1) := dk_60 (dk_at dksX16_restore_1 20 rfl rfl)
theorem dX16_restore_45 : decode cX16_restore 45 = .ok (.iload_n 1, 1) := dk_27 (dk_at dksX16_restore_1 21 rfl rfl)
theorem dX16_restore_46 : decode cX16_restore 46 = .ok (.aload_n 0, 1) := dk_42 (dk_at dksX16_restore_1 22 rfl rfl)
theorem dX16_restore_47 : decode cX16_restore 47 = .ok (.getfield 25, 3) := dk_180 0 25 (dk_at dksX16_restore_2 0 rfl rfl)
theorem dX16_restore_50 : decode cX16_restore 50 = .ok (.if_icmp .ge 70, 3) := dk_162 0 70 (dk_at dksX16_restore_2 3 rfl rfl)
theorem dX16_restore_53 : decode cX16_restore 53 = .ok (.aload_n 0, 1) := dk_42 (dk_at dksX16_restore_2 6 rfl rfl)
theorem dX16_restore_54 : decode cX16_restore 54 = .ok (.getfield 3, 3) := dk_180 0 3 (dk_at dksX16_restore_2 7 rfl rfl)
theorem dX16_restore_57 : decode cX16_restore 57 = .ok (.getfield 15, 3) := dk_180 0 15 (dk_at dksX16_restore_2 10 rfl rfl)
theorem dX16_restore_60 : decode cX16_restore 60 = .ok (.iload_n 1, 1) := dk_27 (dk_at dksX16_restore_2 13 rfl rfl)
theorem dX16_restore_61 : decode cX16_restore 61 = .ok (.invokevirtual 115, 3) := dk_182 0 115 (dk_at dksX16_restore_2 14 rfl rfl)
theorem dX16_restore_64 : decode cX16_restore 64 = .ok (.checkcast 119, 3) := dk_192 0 119 (dk_at dksX16_restore_2 17 rfl rfl)
theorem dX16_restore_67 : decode cX16_restore 67 = .ok (.aload_n 0, 1) := dk_42 (dk_at dksX16_restore_2 20 rfl rfl)
theorem dX16_restore_68 : decode cX16_restore 68 = .ok (.getfield 59, 3) := dk_180 0 59 (dk_at dksX16_restore_2 21 rfl rfl)
theorem dX16_restore_71 : decode cX16_restore 71 = .ok (.iload_n 1, 1) := dk_27 (dk_at dksX16_restore_3 0 rfl rfl)
theorem dX16_restore_72 : decode cX16_restore 72 = .ok (.iaload, 1) := dk_46 (dk_at dksX16_restore_3 1 rfl rfl)
theorem dX16_restore_73 : decode cX16_restore 73 = .ok (.putfield 121, 3) := dk_181 0 121 (dk_at dksX16_restore_3 2 rfl rfl)
theorem dX16_restore_76 : decode cX16_restore 76 = .ok (.aload_n 0, 1) := dk_42 (dk_at dksX16_restore_3 5 rfl rfl)
theorem dX16_restore_77 : decode cX16_restore 77 = .ok (.getfield 86, 3) := dk_180 0 86 (dk_at dksX16_restore_3 6 rfl rfl)
theorem dX16_restore_80 : decode cX16_restore 80 = .ok (.iload_n 1, 1) := dk_27 (dk_at dksX16_restore_3 9 rfl rfl)
theorem dX16_restore_81 : decode cX16_restore 81 = .ok (.aaload, 1) := dk_50 (dk_at dksX16_restore_3 10 rfl rfl)
theorem dX16_restore_82 : decode cX16_restore 82 = .ok (.ifnull 32, 3) := dk_198 0 32 (dk_at dksX16_restore_3 11 rfl rfl)
theorem dX16_restore_85 : decode cX16_restore 85 = .ok (.aload_n 0, 1) := dk_42 (dk_at dksX16_restore_3 14 rfl rfl)
theorem dX16_restore_86 : decode cX16_restore 86 = .ok (.getfield 86, 3) := dk_180 0 86 (dk_at dksX16_restore_3 15 rfl rfl)
theorem dX16_restore_89 : decode cX16_restore 89 = .ok (.iload_n 1, 1) := dk_27 (dk_at dksX16_restore_3 18 rfl rfl)
theorem dX16_restore_90 : decode cX16_restore 90 = .ok (.aaload, 1) := dk_50 (dk_at dksX16_restore_3 19 rfl rfl)
theorem dX16_restore_91 : decode cX16_restore 91 = .ok (.iconst 0, 1) := dk_3 (dk_at dksX16_restore_3 20 rfl rfl)
theorem dX16_restore_92 : decode cX16_restore 92 = .ok (.aload_n 0, 1) := dk_42 (dk_at dksX16_restore_3 21 rfl rfl)
theorem dX16_restore_93 : decode cX16_restore 93 = .ok (.getfield 3, 3) := dk_180 0 3 (dk_at dksX16_restore_4 0 rfl rfl)
theorem dX16_restore_96 : decode cX16_restore 96 = .ok (.getfield 15, 3) := dk_180 0 15 (dk_at dksX16_restore_4 3 rfl rfl)
theorem dX16_restore_99 : decode cX16_restore 99 = .ok (.iload_n 1, 1) := dk_27 (dk_at dksX16_restore_4 6 rfl rfl)
theorem dX16_restore_100 : decode cX16_restore 100 = .ok (.invokevirtual 115, 3) := dk_182 0 115 (dk_at dksX16_restore_4 7 rfl rfl)
theorem dX16_restore_103 : decode cX16_restore 103 = .ok (.checkcast 124, 3) := dk_192 0 124 (dk_at dksX16_restore_4 10 rfl rfl)
theorem dX16_restore_106 : decode cX16_restore 106 = .ok (.getfield 126, 3) := dk_180 0 126 (dk_at dksX16_restore_4 13 rfl rfl)
theorem dX16_restore_109 : decode cX16_restore 109 = .ok (.iconst 0, 1) := dk_3 (dk_at dksX16_restore_4 16 rfl rfl)
theorem dX16_restore_110 : decode cX16_restore 110 = .ok (.iconst 4, 1) := dk_7 (dk_at dksX16_restore_4 17 rfl rfl)
theorem dX16_restore_111 : decode cX16_restore 111 = .ok (.invokestatic 132, 3) := dk_184 0 132 (dk_at dksX16_restore_4 18 rfl rfl)
theorem dX16_restore_114 : decode cX16_restore 114 = .ok (.iinc 1 1, 3) := dk_132 1 1 (dk_at dksX16_restore_4 21 rfl rfl)
theorem dX16_restore_117 : decode cX16_restore 117 = .ok (.goto (-72), 3) := dk_167 255 184 (dk_at dksX16_restore_5 0 rfl rfl)
theorem dX16_restore_120 : decode cX16_restore 120 = .ok (.aload_n 0, 1) := dk_42 (dk_at dksX16_restore_5 3 rfl rfl)
theorem dX16_restore_121 : decode cX16_restore 121 = .ok (.getfield 71, 3) := dk_180 0 71 (dk_at dksX16_restore_5 4 rfl rfl)
theorem dX16_restore_124 : decode cX16_restore 124 = .ok (.iconst 0, 1) := dk_3 (dk_at dksX16_restore_5 7 rfl rfl)
theorem dX16_restore_125 : decode cX16_restore 125 = .ok (.aload_n 0, 1) := dk_42 (dk_at dksX16_restore_5 8 rfl rfl)
theorem dX16_restore_126 : decode cX16_restore 126 = .ok (.getfield 3, 3) := dk_180 0 3 (dk_at dksX16_restore_5 9 rfl rfl)
theorem dX16_restore_129 : decode cX16_restore 129 = .ok (.getfield 63, 3) := dk_180 0 63 (dk_at dksX16_restore_5 12 rfl rfl)
theorem dX16_restore_132 : decode cX16_restore 132 = .ok (.iconst 0, 1) := dk_3 (dk_at dksX16_restore_5 15 rfl rfl)
theorem dX16_restore_133 : decode cX16_restore 133 = .ok (.bipush 8, 2) := dk_16 8 (dk_at dksX16_restore_5 16 rfl rfl)
theorem dX16_restore_135 : decode cX16_restore 135 = .ok (.invokestatic 132, 3) := dk_184 0 132 (dk_at dksX16_restore_5 18 rfl rfl)
theorem dX16_restore_138 : decode cX16_restore 138 = .ok (.aload_n 0, 1) := dk_42 (dk_at dksX16_restore_5 21 rfl rfl)
theorem dX16_restore_139 : decode cX16_restore 139 = .ok (.getfield 77, 3) := dk_180 0 77 (dk_at dksX16_restore_6 0 rfl rfl)
theorem dX16_restore_142 : decode cX16_restore 142 = .ok (.iconst 0, 1) := dk_3 (dk_at dksX16_restore_6 3 rfl rfl)
theorem dX16_restore_143 : decode cX16_restore 143 = .ok (.aload_n 0, 1) := dk_42 (dk_at dksX16_restore_6 4 rfl rfl)
theorem dX16_restore_144 : decode cX16_restore 144 = .ok (.getfield 3, 3) := dk_180 0 3 (dk_at dksX16_restore_6 5 rfl rfl)
theorem dX16_restore_147 : decode cX16_restore 147 = .ok (.getfield 74, 3) := dk_180 0 74 (dk_at dksX16_restore_6 8 rfl rfl)
theorem dX16_restore_150 : decode cX16_restore 150 = .ok (.iconst 0, 1) := dk_3 (dk_at dksX16_restore_6 11 rfl rfl)
theorem dX16_restore_151 : decode cX16_restore 151 = .ok (.bipush 8, 2) := dk_16 8 (dk_at dksX16_restore_6 12 rfl rfl)
theorem dX16_restore_153 : decode cX16_restore 153 = .ok (.invokestatic 132, 3) := dk_184 0 132 (dk_at dksX16_restore_6 14 rfl rfl)
theorem dX16_restore_156 : decode cX16_restore 156 = .ok (.aload_n 0, 1) := dk_42 (dk_at dksX16_restore_6 17 rfl rfl)
theorem dX16_restore_157 : decode cX16_restore 157 = .ok (.getfield 96, 3) := dk_180 0 96 (dk_at dksX16_restore_6 18 rfl rfl)
theorem dX16_restore_160 : decode cX16_restore 160 = .ok (.iconst 0, 1) := dk_3 (dk_at dksX16_restore_6 21 rfl rfl)
theorem dX16_restore_161 : decode cX16_restore 161 = .ok (.aload_n 0, 1) := dk_42 (dk_at dksX16_restore_6 22 rfl rfl)
theorem dX16_restore_162 : decode cX16_restore 162 = .ok (.getfield 3, 3) := dk_180 0 3 (dk_at dksX16_restore_7 0 rfl rfl)
theorem dX16_restore_165 : decode cX16_restore 165 = .ok (.getfield 90, 3) := dk_180 0 90 (dk_at dksX16_restore_7 3 rfl rfl)
theorem dX16_restore_168 : decode cX16_restore 168 = .ok (.iconst 0, 1) := dk_3 (dk_at dksX16_restore_7 6 rfl rfl)
theorem dX16_restore_169 : decode cX16_restore 169 = .ok (.bipush 8, 2) := dk_16 8 (dk_at dksX16_restore_7 7 rfl rfl)
theorem dX16_restore_171 : decode cX16_restore 171 = .ok (.invokestatic 132, 3) := dk_184 0 132 (dk_at dksX16_restore_7 9 rfl rfl)
theorem dX16_restore_174 : decode cX16_restore 174 = .ok (.aload_n 0, 1) := dk_42 (dk_at dksX16_restore_7 12 rfl rfl)
theorem dX16_restore_175 : decode cX16_restore 175 = .ok (.getfield 83, 3) := dk_180 0 83 (dk_at dksX16_restore_7 13 rfl rfl)
theorem dX16_restore_178 : decode cX16_restore 178 = .ok (.iconst 0, 1) := dk_3 (dk_at dksX16_restore_7 16 rfl rfl)
theorem dX16_restore_179 : decode cX16_restore 179 = .ok (.aload_n 0, 1) := dk_42 (dk_at dksX16_restore_7 17 rfl rfl)
theorem dX16_restore_180 : decode cX16_restore 180 = .ok (.getfield 3, 3) := dk_180 0 3 (dk_at dksX16_restore_7 18 rfl rfl)
theorem dX16_restore_183 : decode cX16_restore 183 = .ok (.getfield 80, 3) := dk_180 0 80 (dk_at dksX16_restore_7 21 rfl rfl)
theorem dX16_restore_186 : decode cX16_restore 186 = .ok (.iconst 0, 1) := dk_3 (dk_at dksX16_restore_8 0 rfl rfl)
theorem dX16_restore_187 : decode cX16_restore 187 = .ok (.bipush 8, 2) := dk_16 8 (dk_at dksX16_restore_8 1 rfl rfl)
theorem dX16_restore_189 : decode cX16_restore 189 = .ok (.invokestatic 132, 3) := dk_184 0 132 (dk_at dksX16_restore_8 3 rfl rfl)
theorem dX16_restore_192 : decode cX16_restore 192 = .ok (.aload_n 0, 1) := dk_42 (dk_at dksX16_restore_8 6 rfl rfl)
theorem dX16_restore_193 : decode cX16_restore 193 = .ok (.getfield 105, 3) := dk_180 0 105 (dk_at dksX16_restore_8 7 rfl rfl)
theorem dX16_restore_196 : decode cX16_restore 196 = .ok (.iconst 0, 1) := dk_3 (dk_at dksX16_restore_8 10 rfl rfl)
theorem dX16_restore_197 : decode cX16_restore 197 = .ok (.aload_n 0, 1) := dk_42 (dk_at dksX16_restore_8 11 rfl rfl)
theorem dX16_restore_198 : decode cX16_restore 198 = .ok (.getfield 3, 3) := dk_180 0 3 (dk_at dksX16_restore_8 12 rfl rfl)
theorem dX16_restore_201 : decode cX16_restore 201 = .ok (.getfield 99, 3) := dk_180 0 99 (dk_at dksX16_restore_8 15 rfl rfl)
theorem dX16_restore_204 : decode cX16_restore 204 = .ok (.iconst 0, 1) := dk_3 (dk_at dksX16_restore_8 18 rfl rfl)
theorem dX16_restore_205 : decode cX16_restore 205 = .ok (.bipush 100, 2) := dk_16 100 (dk_at dksX16_restore_8 19 rfl rfl)
theorem dX16_restore_207 : decode cX16_restore 207 = .ok (.invokestatic 132, 3) := dk_184 0 132 (dk_at dksX16_restore_8 21 rfl rfl)
theorem dX16_restore_210 : decode cX16_restore 210 = .ok (.aload_n 0, 1) := dk_42 (dk_at dksX16_restore_9 0 rfl rfl)
theorem dX16_restore_211 : decode cX16_restore 211 = .ok (.getfield 3, 3) := dk_180 0 3 (dk_at dksX16_restore_9 1 rfl rfl)
theorem dX16_restore_214 : decode cX16_restore 214 = .ok (.aload_n 0, 1) := dk_42 (dk_at dksX16_restore_9 4 rfl rfl)
theorem dX16_restore_215 : decode cX16_restore 215 = .ok (.getfield 112, 3) := dk_180 0 112 (dk_at dksX16_restore_9 5 rfl rfl)
theorem dX16_restore_218 : decode cX16_restore 218 = .ok (.putfield 108, 3) := dk_181 0 108 (dk_at dksX16_restore_9 8 rfl rfl)
theorem dX16_restore_221 : decode cX16_restore 221 = .ok (.aload_n 0, 1) := dk_42 (dk_at dksX16_restore_9 11 rfl rfl)
theorem dX16_restore_222 : decode cX16_restore 222 = .ok (.getfield 3, 3) := dk_180 0 3 (dk_at dksX16_restore_9 12 rfl rfl)
theorem dX16_restore_225 : decode cX16_restore 225 = .ok (.aload_n 0, 1) := dk_42 (dk_at dksX16_restore_9 15 rfl rfl)
theorem dX16_restore_226 : decode cX16_restore 226 = .ok (.getfield 32, 3) := dk_180 0 32 (dk_at dksX16_restore_9 16 rfl rfl)
theorem dX16_restore_229 : decode cX16_restore 229 = .ok (.putfield 29, 3) := dk_181 0 29 (dk_at dksX16_restore_9 19 rfl rfl)
theorem dX16_restore_232 : decode cX16_restore 232 = .ok (.aload_n 0, 1) := dk_42 (dk_at dksX16_restore_9 22 rfl rfl)
theorem dX16_restore_233 : decode cX16_restore 233 = .ok (.getfield 3, 3) := dk_180 0 3 (dk_at dksX16_restore_10 0 rfl rfl)
theorem dX16_restore_236 : decode cX16_restore 236 = .ok (.aload_n 0, 1) := dk_42 (dk_at dksX16_restore_10 3 rfl rfl)
theorem dX16_restore_237 : decode cX16_restore 237 = .ok (.getfield 38, 3) := dk_180 0 38 (dk_at dksX16_restore_10 4 rfl rfl)
theorem dX16_restore_240 : decode cX16_restore 240 = .ok (.putfield 35, 3) := dk_181 0 35 (dk_at dksX16_restore_10 7 rfl rfl)
theorem dX16_restore_243 : decode cX16_restore 243 = .ok (.aload_n 0, 1) := dk_42 (dk_at dksX16_restore_10 10 rfl rfl)
theorem dX16_restore_244 : decode cX16_restore 244 = .ok (.getfield 3, 3) := dk_180 0 3 (dk_at dksX16_restore_10 11 rfl rfl)
theorem dX16_restore_247 : decode cX16_restore 247 = .ok (.aload_n 0, 1) := dk_42 (dk_at dksX16_restore_10 14 rfl rfl)
theorem dX16_restore_248 : decode cX16_restore 248 = .ok (.getfield 44, 3) := dk_180 0 44 (dk_at dksX16_restore_10 15 rfl rfl)
theorem dX16_restore_251 : decode cX16_restore 251 = .ok (.putfield 41, 3) := dk_181 0 41 (dk_at dksX16_restore_10 18 rfl rfl)
theorem dX16_restore_254 : decode cX16_restore 254 = .ok (.aload_n 0, 1) := dk_42 (dk_at dksX16_restore_10 21 rfl rfl)
theorem dX16_restore_255 : decode cX16_restore 255 = .ok (.getfield 3, 3) := dk_180 0 3 (dk_at dksX16_restore_11 0 rfl rfl)
theorem dX16_restore_258 : decode cX16_restore 258 = .ok (.aload_n 0, 1) := dk_42 (dk_at dksX16_restore_11 3 rfl rfl)
theorem dX16_restore_259 : decode cX16_restore 259 = .ok (.getfield 50, 3) := dk_180 0 50 (dk_at dksX16_restore_11 4 rfl rfl)
theorem dX16_restore_262 : decode cX16_restore 262 = .ok (.putfield 47, 3) := dk_181 0 47 (dk_at dksX16_restore_11 7 rfl rfl)
theorem dX16_restore_265 : decode cX16_restore 265 = .ok (.aload_n 0, 1) := dk_42 (dk_at dksX16_restore_11 10 rfl rfl)
theorem dX16_restore_266 : decode cX16_restore 266 = .ok (.getfield 3, 3) := dk_180 0 3 (dk_at dksX16_restore_11 11 rfl rfl)
theorem dX16_restore_269 : decode cX16_restore 269 = .ok (.aload_n 0, 1) := dk_42 (dk_at dksX16_restore_11 14 rfl rfl)
theorem dX16_restore_270 : decode cX16_restore 270 = .ok (.getfield 56, 3) := dk_180 0 56 (dk_at dksX16_restore_11 15 rfl rfl)
theorem dX16_restore_273 : decode cX16_restore 273 = .ok (.putfield 53, 3) := dk_181 0 53 (dk_at dksX16_restore_11 18 rfl rfl)
theorem dX16_restore_276 : decode cX16_restore 276 = .ok (.return_, 1) := dk_177 (dk_at dksX16_restore_11 21 rfl rfl)
theorem q112 : (Jvm.Cond.initialized "FewerMan$Image") ∈ lw_all := lw_g (lw_at lw_m1 32 rfl) rfl
theorem q223 : (Jvm.Cond.fieldLinkNest "FewerMan$Image" (99 : Nat) "FewerMan" "tape" "[B" "FewerMan") ∈ lw_tbl := lw_at lw_m1 143 rfl
theorem q226 : (Jvm.Cond.fieldLinkNest "FewerMan$Image" (53 : Nat) "FewerMan" "taped" "I" "FewerMan") ∈ lw_tbl := lw_at lw_m1 146 rfl
theorem q229 : (Jvm.Cond.fieldLinkNest "FewerMan$Image" (29 : Nat) "FewerMan" "inns" "I" "FewerMan") ∈ lw_tbl := lw_at lw_m1 149 rfl
theorem q231 : (Jvm.Cond.fieldLinkNest "FewerMan$Image" (35 : Nat) "FewerMan" "game" "I" "FewerMan") ∈ lw_tbl := lw_at lw_m1 151 rfl
theorem q237 : (Jvm.Cond.fieldLinkNest "FewerMan$Image" (108 : Nat) "FewerMan" "inn" "LFewerMan$Inn;" "FewerMan") ∈ lw_tbl := lw_at lw_m1 157 rfl
theorem q245 : (Jvm.Cond.fieldLinkNest "FewerMan$Image" (15 : Nat) "FewerMan" "players" "Ljava/util/ArrayList;" "FewerMan") ∈ lw_tbl := lw_at lw_m1 165 rfl
theorem q255 : (Jvm.Cond.fieldLinkNest "FewerMan$Image" (63 : Nat) "FewerMan" "bookOne" "[I" "FewerMan") ∈ lw_tbl := lw_at lw_m1 175 rfl
theorem q257 : (Jvm.Cond.fieldLinkNest "FewerMan$Image" (74 : Nat) "FewerMan" "bookOther" "[I" "FewerMan") ∈ lw_tbl := lw_at lw_m1 177 rfl
theorem q260 : (Jvm.Cond.fieldLinkNest "FewerMan$Image" (80 : Nat) "FewerMan" "tales" "[I" "FewerMan") ∈ lw_tbl := lw_at lw_m1 180 rfl
theorem q262 : (Jvm.Cond.fieldLinkNest "FewerMan$Image" (90 : Nat) "FewerMan" "bookWon" "[Z" "FewerMan") ∈ lw_tbl := lw_at lw_m1 182 rfl
theorem q264 : (Jvm.Cond.fieldLinkNest "FewerMan$Image" (41 : Nat) "FewerMan" "books" "I" "FewerMan") ∈ lw_tbl := lw_at lw_m1 184 rfl
theorem q266 : (Jvm.Cond.fieldLinkNest "FewerMan$Image" (47 : Nat) "FewerMan" "taleMany" "I" "FewerMan") ∈ lw_tbl := lw_at lw_m1 186 rfl
theorem q534 : (Jvm.Cond.selects "FewerMan$Image" ({ cls := "java/lang/Object", name := "getClass", desc := "()Ljava/lang/Class;" } : Jvm.MethodName) ({ cls := "java/lang/Object", name := "getClass", desc := "()Ljava/lang/Class;" } : Jvm.MethodName)) ∈ lw_all := lw_g (lw_at lw_m2 214 rfl) rfl
theorem q592 : (Jvm.Cond.fieldLink "FewerMan$Image" (121 : Nat) "FewerMan$Player" "men" "I") ∈ lw_all := lw_g (lw_at lw_m3 32 rfl) rfl
theorem q688 : (Jvm.Cond.fieldLinkNest "FewerMan$Image" (126 : Nat) "FewerMan$Told" "row" "[I" "FewerMan") ∈ lw_tbl := lw_at lw_m3 128 rfl
theorem q1142 : (Jvm.Cond.instantiable "FewerMan$Image" (15 : Nat)) ∈ lw_all := lw_g (lw_at lw_m5 102 rfl) rfl
theorem q1144 : (Jvm.Cond.instanceMethod ({ cls := "FewerMan$Image", name := "<init>", desc := "(LFewerMan;)V" } : Jvm.MethodName)) ∈ lw_all := lw_g (lw_at lw_m5 104 rfl) rfl
theorem q1145 : (Jvm.Cond.code ({ cls := "FewerMan$Image", name := "<init>", desc := "(LFewerMan;)V" } : Jvm.MethodName) prog_5_method_1_code (3 : Nat) (Option.none : Option Jvm.ClassFile.FieldType)) ∈ lw_all := lw_g (lw_at lw_m5 105 rfl) rfl
theorem q1146 : (Jvm.Cond.methodLink "FewerMan$Image" (9 : Nat) ({ cls := "java/lang/Object", name := "<init>", desc := "()V" } : Jvm.MethodName)) ∈ lw_all := lw_g (lw_at lw_m5 106 rfl) rfl
theorem q1147 : (Jvm.Cond.methodLink "FewerMan$Image" (19 : Nat) ({ cls := "java/util/ArrayList", name := "size", desc := "()I" } : Jvm.MethodName)) ∈ lw_all := lw_g (lw_at lw_m5 107 rfl) rfl
theorem q1148 : (Jvm.Cond.methodLink "FewerMan$Image" (66 : Nat) ({ cls := "[I", name := "clone", desc := "()Ljava/lang/Object;" } : Jvm.MethodName)) ∈ lw_all := lw_g (lw_at lw_m5 108 rfl) rfl
theorem q1154 : (Jvm.Cond.classLink "FewerMan$Image" (67 : Nat) "[I") ∈ lw_all := lw_g (lw_at lw_m5 114 rfl) rfl
theorem q1156 : (Jvm.Cond.methodLink "FewerMan$Image" (94 : Nat) ({ cls := "[Z", name := "clone", desc := "()Ljava/lang/Object;" } : Jvm.MethodName)) ∈ lw_all := lw_g (lw_at lw_m5 116 rfl) rfl
theorem q1160 : (Jvm.Cond.classLink "FewerMan$Image" (95 : Nat) "[Z") ∈ lw_all := lw_g (lw_at lw_m5 120 rfl) rfl
theorem q1161 : (Jvm.Cond.methodLink "FewerMan$Image" (103 : Nat) ({ cls := "[B", name := "clone", desc := "()Ljava/lang/Object;" } : Jvm.MethodName)) ∈ lw_all := lw_g (lw_at lw_m5 121 rfl) rfl
theorem q1165 : (Jvm.Cond.classLink "FewerMan$Image" (104 : Nat) "[B") ∈ lw_all := lw_g (lw_at lw_m5 125 rfl) rfl
theorem q1166 : (Jvm.Cond.methodLink "FewerMan$Image" (115 : Nat) ({ cls := "java/util/ArrayList", name := "get", desc := "(I)Ljava/lang/Object;" } : Jvm.MethodName)) ∈ lw_all := lw_g (lw_at lw_m5 126 rfl) rfl
theorem q1167 : (Jvm.Cond.classLink "FewerMan$Image" (119 : Nat) "FewerMan$Player") ∈ lw_all := lw_g (lw_at lw_m5 127 rfl) rfl
theorem q1168 : (Jvm.Cond.classLink "FewerMan$Image" (124 : Nat) "FewerMan$Told") ∈ lw_all := lw_g (lw_at lw_m5 128 rfl) rfl
theorem q1169 : (Jvm.Cond.fieldLink "FewerMan$Image" (25 : Nat) "FewerMan$Image" "n" "I") ∈ lw_all := lw_g (lw_at lw_m5 129 rfl) rfl
theorem q1170 : (Jvm.Cond.fieldLink "FewerMan$Image" (32 : Nat) "FewerMan$Image" "innsWere" "I") ∈ lw_all := lw_g (lw_at lw_m5 130 rfl) rfl
theorem q1171 : (Jvm.Cond.fieldLink "FewerMan$Image" (38 : Nat) "FewerMan$Image" "gameWas" "I") ∈ lw_all := lw_g (lw_at lw_m5 131 rfl) rfl
theorem q1172 : (Jvm.Cond.fieldLink "FewerMan$Image" (44 : Nat) "FewerMan$Image" "booksWere" "I") ∈ lw_all := lw_g (lw_at lw_m5 132 rfl) rfl
theorem q1173 : (Jvm.Cond.fieldLink "FewerMan$Image" (50 : Nat) "FewerMan$Image" "talesWere" "I") ∈ lw_all := lw_g (lw_at lw_m5 133 rfl) rfl
theorem q1174 : (Jvm.Cond.fieldLink "FewerMan$Image" (56 : Nat) "FewerMan$Image" "tapedWas" "I") ∈ lw_all := lw_g (lw_at lw_m5 134 rfl) rfl
theorem q1175 : (Jvm.Cond.fieldLink "FewerMan$Image" (59 : Nat) "FewerMan$Image" "mens" "[I") ∈ lw_all := lw_g (lw_at lw_m5 135 rfl) rfl
theorem q1176 : (Jvm.Cond.fieldLink "FewerMan$Image" (71 : Nat) "FewerMan$Image" "ones" "[I") ∈ lw_all := lw_g (lw_at lw_m5 136 rfl) rfl
theorem q1177 : (Jvm.Cond.fieldLink "FewerMan$Image" (77 : Nat) "FewerMan$Image" "others" "[I") ∈ lw_all := lw_g (lw_at lw_m5 137 rfl) rfl
theorem q1178 : (Jvm.Cond.fieldLink "FewerMan$Image" (83 : Nat) "FewerMan$Image" "talesOf" "[I") ∈ lw_all := lw_g (lw_at lw_m5 138 rfl) rfl
theorem q1179 : (Jvm.Cond.fieldLink "FewerMan$Image" (86 : Nat) "FewerMan$Image" "rows" "[[I") ∈ lw_all := lw_g (lw_at lw_m5 139 rfl) rfl
theorem q1180 : (Jvm.Cond.fieldLink "FewerMan$Image" (96 : Nat) "FewerMan$Image" "wons" "[Z") ∈ lw_all := lw_g (lw_at lw_m5 140 rfl) rfl
theorem q1181 : (Jvm.Cond.fieldLink "FewerMan$Image" (105 : Nat) "FewerMan$Image" "tapeWas" "[B") ∈ lw_all := lw_g (lw_at lw_m5 141 rfl) rfl
theorem q1182 : (Jvm.Cond.fieldLink "FewerMan$Image" (112 : Nat) "FewerMan$Image" "innWas" "LFewerMan$Inn;") ∈ lw_all := lw_g (lw_at lw_m5 142 rfl) rfl
theorem q1183 : (Jvm.Cond.fieldLink "FewerMan$Image" (3 : Nat) "FewerMan$Image" "this$0" "LFewerMan;") ∈ lw_all := lw_g (lw_at lw_m5 143 rfl) rfl
theorem q1184 : (Jvm.Cond.laysFinal "FewerMan$Image" "FewerMan$Image" "n" "I") ∈ lw_all := lw_g (lw_at lw_m5 144 rfl) rfl
theorem q1185 : (Jvm.Cond.soleField "FewerMan$Image" "n") ∈ lw_all := lw_g (lw_at lw_m5 145 rfl) rfl
theorem q1186 : (Jvm.Cond.laysFinal "FewerMan$Image" "FewerMan$Image" "innsWere" "I") ∈ lw_all := lw_g (lw_at lw_m5 146 rfl) rfl
theorem q1187 : (Jvm.Cond.soleField "FewerMan$Image" "innsWere") ∈ lw_all := lw_g (lw_at lw_m5 147 rfl) rfl
theorem q1188 : (Jvm.Cond.laysFinal "FewerMan$Image" "FewerMan$Image" "gameWas" "I") ∈ lw_all := lw_g (lw_at lw_m5 148 rfl) rfl
theorem q1189 : (Jvm.Cond.soleField "FewerMan$Image" "gameWas") ∈ lw_all := lw_g (lw_at lw_m5 149 rfl) rfl
theorem q1190 : (Jvm.Cond.laysFinal "FewerMan$Image" "FewerMan$Image" "booksWere" "I") ∈ lw_all := lw_g (lw_at lw_m5 150 rfl) rfl
theorem q1191 : (Jvm.Cond.soleField "FewerMan$Image" "booksWere") ∈ lw_all := lw_g (lw_at lw_m5 151 rfl) rfl
theorem q1192 : (Jvm.Cond.laysFinal "FewerMan$Image" "FewerMan$Image" "talesWere" "I") ∈ lw_all := lw_g (lw_at lw_m5 152 rfl) rfl
theorem q1193 : (Jvm.Cond.soleField "FewerMan$Image" "talesWere") ∈ lw_all := lw_g (lw_at lw_m5 153 rfl) rfl
theorem q1194 : (Jvm.Cond.laysFinal "FewerMan$Image" "FewerMan$Image" "tapedWas" "I") ∈ lw_all := lw_g (lw_at lw_m5 154 rfl) rfl
theorem q1195 : (Jvm.Cond.soleField "FewerMan$Image" "tapedWas") ∈ lw_all := lw_g (lw_at lw_m5 155 rfl) rfl
theorem q1196 : (Jvm.Cond.laysFinal "FewerMan$Image" "FewerMan$Image" "mens" "[I") ∈ lw_all := lw_g (lw_at lw_m5 156 rfl) rfl
theorem q1197 : (Jvm.Cond.soleField "FewerMan$Image" "mens") ∈ lw_all := lw_g (lw_at lw_m5 157 rfl) rfl
theorem q1198 : (Jvm.Cond.laysFinal "FewerMan$Image" "FewerMan$Image" "ones" "[I") ∈ lw_all := lw_g (lw_at lw_m5 158 rfl) rfl
theorem q1199 : (Jvm.Cond.soleField "FewerMan$Image" "ones") ∈ lw_all := lw_g (lw_at lw_m5 159 rfl) rfl
theorem q1200 : (Jvm.Cond.laysFinal "FewerMan$Image" "FewerMan$Image" "others" "[I") ∈ lw_all := lw_g (lw_at lw_m5 160 rfl) rfl
theorem q1201 : (Jvm.Cond.soleField "FewerMan$Image" "others") ∈ lw_all := lw_g (lw_at lw_m5 161 rfl) rfl
theorem q1202 : (Jvm.Cond.laysFinal "FewerMan$Image" "FewerMan$Image" "talesOf" "[I") ∈ lw_all := lw_g (lw_at lw_m5 162 rfl) rfl
theorem q1203 : (Jvm.Cond.soleField "FewerMan$Image" "talesOf") ∈ lw_all := lw_g (lw_at lw_m5 163 rfl) rfl
theorem q1204 : (Jvm.Cond.laysFinal "FewerMan$Image" "FewerMan$Image" "rows" "[[I") ∈ lw_all := lw_g (lw_at lw_m5 164 rfl) rfl
theorem q1205 : (Jvm.Cond.soleField "FewerMan$Image" "rows") ∈ lw_all := lw_g (lw_at lw_m5 165 rfl) rfl
theorem q1206 : (Jvm.Cond.laysFinal "FewerMan$Image" "FewerMan$Image" "wons" "[Z") ∈ lw_all := lw_g (lw_at lw_m5 166 rfl) rfl
theorem q1207 : (Jvm.Cond.soleField "FewerMan$Image" "wons") ∈ lw_all := lw_g (lw_at lw_m5 167 rfl) rfl
theorem q1208 : (Jvm.Cond.laysFinal "FewerMan$Image" "FewerMan$Image" "tapeWas" "[B") ∈ lw_all := lw_g (lw_at lw_m5 168 rfl) rfl
theorem q1209 : (Jvm.Cond.soleField "FewerMan$Image" "tapeWas") ∈ lw_all := lw_g (lw_at lw_m5 169 rfl) rfl
theorem q1210 : (Jvm.Cond.laysFinal "FewerMan$Image" "FewerMan$Image" "innWas" "LFewerMan$Inn;") ∈ lw_all := lw_g (lw_at lw_m5 170 rfl) rfl
theorem q1211 : (Jvm.Cond.soleField "FewerMan$Image" "innWas") ∈ lw_all := lw_g (lw_at lw_m5 171 rfl) rfl
theorem q1212 : (Jvm.Cond.laysFinal "FewerMan$Image" "FewerMan$Image" "this$0" "LFewerMan;") ∈ lw_all := lw_g (lw_at lw_m5 172 rfl) rfl
theorem q1213 : (Jvm.Cond.soleField "FewerMan$Image" "this$0") ∈ lw_all := lw_g (lw_at lw_m5 173 rfl) rfl
theorem q1214 : (Jvm.Cond.superclass "FewerMan$Image" "java/lang/Object") ∈ lw_all := lw_g (lw_at lw_m5 174 rfl) rfl
theorem q1220 : (Jvm.Cond.instanceMethod ({ cls := "FewerMan$Image", name := "restore", desc := "()V" } : Jvm.MethodName)) ∈ lw_all := lw_g (lw_at lw_m5 180 rfl) rfl
theorem q1221 : (Jvm.Cond.selects "FewerMan$Image" ({ cls := "FewerMan$Image", name := "restore", desc := "()V" } : Jvm.MethodName) ({ cls := "FewerMan$Image", name := "restore", desc := "()V" } : Jvm.MethodName)) ∈ lw_all := lw_g (lw_at lw_m5 181 rfl) rfl
theorem q1222 : (Jvm.Cond.code ({ cls := "FewerMan$Image", name := "restore", desc := "()V" } : Jvm.MethodName) prog_5_method_2_code (2 : Nat) (Option.none : Option Jvm.ClassFile.FieldType)) ∈ lw_all := lw_g (lw_at lw_m5 182 rfl) rfl
theorem q1223 : (Jvm.Cond.methodLink "FewerMan$Image" (129 : Nat) ({ cls := "java/util/ArrayList", name := "remove", desc := "(I)Ljava/lang/Object;" } : Jvm.MethodName)) ∈ lw_all := lw_g (lw_at lw_m5 183 rfl) rfl
theorem q1232 : (Jvm.Cond.methodLink "FewerMan$Image" (132 : Nat) ({ cls := "java/lang/System", name := "arraycopy", desc := "(Ljava/lang/Object;ILjava/lang/Object;II)V" } : Jvm.MethodName)) ∈ lw_all := lw_g (lw_at lw_m5 192 rfl) rfl
theorem q1713 : (Jvm.Cond.castable "FewerMan$Image" "java/lang/Object") ∈ lw_tbl := lw_at lw_m7 193 rfl
theorem in_X16 : ∀ w ∈ wsX160, w ∈ lw_all := lw_in wsX160 [1184, 1186, 1188, 1190, 1192, 1194, 1196, 1198, 1200, 1202, 1204, 1206, 1208, 1210, 1212] (by decide +kernel) (by decide +kernel)

/-! FewerMan$Reader -/
set_option maxRecDepth 100000
def RX2 : String := "FewerMan$Reader"
def TX2 : u_T := fun k => match k with
  | 0 => ("FewerMan$Reader", "heads", "[[C", true)
  | 1 => ("FewerMan$Reader", "at", "I", false)
  | 2 => ("FewerMan$Reader", "open", "I", false)
  | _ => ("FewerMan$Reader", "this$0", "LFewerMan;", true)
def tyX2 : Nat → FieldType := fun k => match k with
  | 0 => .array (.array .char)
  | 1 => .int
  | 2 => .int
  | _ => .object "FewerMan"
abbrev wsX20 : List Cond := u_ws RX2 TX2 4
theorem nmX2 : ∀ a, a < 4 → ∀ b, b < 4 → a ≠ b → (TX2 a).2.1 ≠ (TX2 b).2.1 := by decide +kernel
theorem tyX2_ok : ∀ k, k < 4 → parseFieldDescriptor (TX2 k).2.2.1 = some (tyX2 k) := by decide +kernel
abbrev cX2_init : ByteArray := prog_12_method_1_code
def yX2_init : MethodName := ⟨RX2, "<init>", "(LFewerMan;)V"⟩
def dkwX2_init_5 : List UInt8 := [16, 117, 85, 89, 5, 16, 99, 85, 89, 6, 16, 107, 85, 89, 7, 16, 32, 85, 83, 181, 0, 17, 177]
abbrev dktX2_init_5 : List UInt8 := dkwX2_init_5 ++ []
def dkwX2_init_4 : List UInt8 := [89, 6, 16, 116, 85, 89, 7, 16, 32, 85, 83, 89, 6, 8, 188, 5, 89, 3, 16, 100, 85, 89, 4]
abbrev dktX2_init_4 : List UInt8 := dkwX2_init_4 ++ dktX2_init_5
def dkwX2_init_3 : List UInt8 := [16, 32, 85, 83, 89, 5, 8, 188, 5, 89, 3, 16, 108, 85, 89, 4, 16, 105, 85, 89, 5, 16, 102, 85]
abbrev dktX2_init_3 : List UInt8 := dkwX2_init_3 ++ dktX2_init_4
def dkwX2_init_2 : List UInt8 := [188, 5, 89, 3, 16, 109, 85, 89, 4, 16, 111, 85, 89, 5, 16, 114, 85, 89, 6, 16, 101, 85, 89, 7]
abbrev dktX2_init_2 : List UInt8 := dkwX2_init_2 ++ dktX2_init_3
def dkwX2_init_1 : List UInt8 := [89, 4, 16, 101, 85, 89, 5, 16, 115, 85, 89, 6, 16, 115, 85, 89, 7, 16, 32, 85, 83, 89, 4, 8]
abbrev dktX2_init_1 : List UInt8 := dkwX2_init_1 ++ dktX2_init_2
def dkwX2_init_0 : List UInt8 := [42, 43, 181, 0, 3, 42, 183, 0, 9, 42, 7, 189, 0, 15, 89, 3, 8, 188, 5, 89, 3, 16, 108, 85]
abbrev dktX2_init_0 : List UInt8 := dkwX2_init_0 ++ dktX2_init_1
theorem dksX2_init_0 : cX2_init.data.toList.drop 0 = dktX2_init_0 := by decide +kernel
theorem dksX2_init_1 : cX2_init.data.toList.drop 24 = dktX2_init_1 := dk_seg dksX2_init_0 24 rfl rfl
theorem dksX2_init_2 : cX2_init.data.toList.drop 48 = dktX2_init_2 := dk_seg dksX2_init_1 24 rfl rfl
theorem dksX2_init_3 : cX2_init.data.toList.drop 72 = dktX2_init_3 := dk_seg dksX2_init_2 24 rfl rfl
theorem dksX2_init_4 : cX2_init.data.toList.drop 96 = dktX2_init_4 := dk_seg dksX2_init_3 24 rfl rfl
theorem dksX2_init_5 : cX2_init.data.toList.drop 119 = dktX2_init_5 := dk_seg dksX2_init_4 23 rfl rfl
theorem dX2_init_0 : decode cX2_init 0 = .ok (.aload_n 0, 1) := dk_42 (dk_at dksX2_init_0 0 rfl rfl)
theorem dX2_init_1 : decode cX2_init 1 = .ok (.aload_n 1, 1) := dk_43 (dk_at dksX2_init_0 1 rfl rfl)
theorem dX2_init_2 : decode cX2_init 2 = .ok (.putfield 3, 3) := dk_181 0 3 (dk_at dksX2_init_0 2 rfl rfl)
theorem dX2_init_5 : decode cX2_init 5 = .ok (.aload_n 0, 1) := dk_42 (dk_at dksX2_init_0 5 rfl rfl)
theorem dX2_init_6 : decode cX2_init 6 = .ok (.invokespecial 9, 3) := dk_183 0 9 (dk_at dksX2_init_0 6 rfl rfl)
theorem dX2_init_9 : decode cX2_init 9 = .ok (.aload_n 0, 1) := dk_42 (dk_at dksX2_init_0 9 rfl rfl)
theorem dX2_init_10 : decode cX2_init 10 = .ok (.iconst 4, 1) := dk_7 (dk_at dksX2_init_0 10 rfl rfl)
theorem dX2_init_11 : decode cX2_init 11 = .ok (.anewarray 15, 3) := dk_189 0 15 (dk_at dksX2_init_0 11 rfl rfl)
theorem dX2_init_14 : decode cX2_init 14 = .ok (.dup, 1) := dk_89 (dk_at dksX2_init_0 14 rfl rfl)
theorem dX2_init_15 : decode cX2_init 15 = .ok (.iconst 0, 1) := dk_3 (dk_at dksX2_init_0 15 rfl rfl)
theorem dX2_init_16 : decode cX2_init 16 = .ok (.iconst 5, 1) := dk_8 (dk_at dksX2_init_0 16 rfl rfl)
theorem dX2_init_17 : decode cX2_init 17 = .ok (.newarray .char, 2) := dk_188_5 (dk_at dksX2_init_0 17 rfl rfl)
theorem dX2_init_19 : decode cX2_init 19 = .ok (.dup, 1) := dk_89 (dk_at dksX2_init_0 19 rfl rfl)
theorem dX2_init_20 : decode cX2_init 20 = .ok (.iconst 0, 1) := dk_3 (dk_at dksX2_init_0 20 rfl rfl)
theorem dX2_init_21 : decode cX2_init 21 = .ok (.bipush 108, 2) := dk_16 108 (dk_at dksX2_init_0 21 rfl rfl)
theorem dX2_init_23 : decode cX2_init 23 = .ok (.castore, 1) := dk_85 (dk_at dksX2_init_0 23 rfl rfl)
theorem dX2_init_24 : decode cX2_init 24 = .ok (.dup, 1) := dk_89 (dk_at dksX2_init_1 0 rfl rfl)
theorem dX2_init_25 : decode cX2_init 25 = .ok (.iconst 1, 1) := dk_4 (dk_at dksX2_init_1 1 rfl rfl)
theorem dX2_init_26 : decode cX2_init 26 = .ok (.bipush 101, 2) := dk_16 101 (dk_at dksX2_init_1 2 rfl rfl)
theorem dX2_init_28 : decode cX2_init 28 = .ok (.castore, 1) := dk_85 (dk_at dksX2_init_1 4 rfl rfl)
theorem dX2_init_29 : decode cX2_init 29 = .ok (.dup, 1) := dk_89 (dk_at dksX2_init_1 5 rfl rfl)
theorem dX2_init_30 : decode cX2_init 30 = .ok (.iconst 2, 1) := dk_5 (dk_at dksX2_init_1 6 rfl rfl)
theorem dX2_init_31 : decode cX2_init 31 = .ok (.bipush 115, 2) := dk_16 115 (dk_at dksX2_init_1 7 rfl rfl)
theorem dX2_init_33 : decode cX2_init 33 = .ok (.castore, 1) := dk_85 (dk_at dksX2_init_1 9 rfl rfl)
theorem dX2_init_34 : decode cX2_init 34 = .ok (.dup, 1) := dk_89 (dk_at dksX2_init_1 10 rfl rfl)
theorem dX2_init_35 : decode cX2_init 35 = .ok (.iconst 3, 1) := dk_6 (dk_at dksX2_init_1 11 rfl rfl)
theorem dX2_init_36 : decode cX2_init 36 = .ok (.bipush 115, 2) := dk_16 115 (dk_at dksX2_init_1 12 rfl rfl)
theorem dX2_init_38 : decode cX2_init 38 = .ok (.castore, 1) := dk_85 (dk_at dksX2_init_1 14 rfl rfl)
theorem dX2_init_39 : decode cX2_init 39 = .ok (.dup, 1) := dk_89 (dk_at dksX2_init_1 15 rfl rfl)
theorem dX2_init_40 : decode cX2_init 40 = .ok (.iconst 4, 1) := dk_7 (dk_at dksX2_init_1 16 rfl rfl)
theorem dX2_init_41 : decode cX2_init 41 = .ok (.bipush 32, 2) := dk_16 32 (dk_at dksX2_init_1 17 rfl rfl)
theorem dX2_init_43 : decode cX2_init 43 = .ok (.castore, 1) := dk_85 (dk_at dksX2_init_1 19 rfl rfl)
theorem dX2_init_44 : decode cX2_init 44 = .ok (.aastore, 1) := dk_83 (dk_at dksX2_init_1 20 rfl rfl)
theorem dX2_init_45 : decode cX2_init 45 = .ok (.dup, 1) := dk_89 (dk_at dksX2_init_1 21 rfl rfl)
theorem dX2_init_46 : decode cX2_init 46 = .ok (.iconst 1, 1) := dk_4 (dk_at dksX2_init_1 22 rfl rfl)
theorem dX2_init_47 : decode cX2_init 47 = .ok (.iconst 5, 1) := dk_8 (dk_at dksX2_init_1 23 rfl rfl)
theorem dX2_init_48 : decode cX2_init 48 = .ok (.newarray .char, 2) := dk_188_5 (dk_at dksX2_init_2 0 rfl rfl)
theorem dX2_init_50 : decode cX2_init 50 = .ok (.dup, 1) := dk_89 (dk_at dksX2_init_2 2 rfl rfl)
theorem dX2_init_51 : decode cX2_init 51 = .ok (.iconst 0, 1) := dk_3 (dk_at dksX2_init_2 3 rfl rfl)
theorem dX2_init_52 : decode cX2_init 52 = .ok (.bipush 109, 2) := dk_16 109 (dk_at dksX2_init_2 4 rfl rfl)
theorem dX2_init_54 : decode cX2_init 54 = .ok (.castore, 1) := dk_85 (dk_at dksX2_init_2 6 rfl rfl)
theorem dX2_init_55 : decode cX2_init 55 = .ok (.dup, 1) := dk_89 (dk_at dksX2_init_2 7 rfl rfl)
theorem dX2_init_56 : decode cX2_init 56 = .ok (.iconst 1, 1) := dk_4 (dk_at dksX2_init_2 8 rfl rfl)
theorem dX2_init_57 : decode cX2_init 57 = .ok (.bipush 111, 2) := dk_16 111 (dk_at dksX2_init_2 9 rfl rfl)
theorem dX2_init_59 : decode cX2_init 59 = .ok (.castore, 1) := dk_85 (dk_at dksX2_init_2 11 rfl rfl)
theorem dX2_init_60 : decode cX2_init 60 = .ok (.dup, 1) := dk_89 (dk_at dksX2_init_2 12 rfl rfl)
theorem dX2_init_61 : decode cX2_init 61 = .ok (.iconst 2, 1) := dk_5 (dk_at dksX2_init_2 13 rfl rfl)
theorem dX2_init_62 : decode cX2_init 62 = .ok (.bipush 114, 2) := dk_16 114 (dk_at dksX2_init_2 14 rfl rfl)
theorem dX2_init_64 : decode cX2_init 64 = .ok (.castore, 1) := dk_85 (dk_at dksX2_init_2 16 rfl rfl)
theorem dX2_init_65 : decode cX2_init 65 = .ok (.dup, 1) := dk_89 (dk_at dksX2_init_2 17 rfl rfl)
theorem dX2_init_66 : decode cX2_init 66 = .ok (.iconst 3, 1) := dk_6 (dk_at dksX2_init_2 18 rfl rfl)
theorem dX2_init_67 : decode cX2_init 67 = .ok (.bipush 101, 2) := dk_16 101 (dk_at dksX2_init_2 19 rfl rfl)
theorem dX2_init_69 : decode cX2_init 69 = .ok (.castore, 1) := dk_85 (dk_at dksX2_init_2 21 rfl rfl)
theorem dX2_init_70 : decode cX2_init 70 = .ok (.dup, 1) := dk_89 (dk_at dksX2_init_2 22 rfl rfl)
theorem dX2_init_71 : decode cX2_init 71 = .ok (.iconst 4, 1) := dk_7 (dk_at dksX2_init_2 23 rfl rfl)
theorem dX2_init_72 : decode cX2_init 72 = .ok (.bipush 32, 2) := dk_16 32 (dk_at dksX2_init_3 0 rfl rfl)
theorem dX2_init_74 : decode cX2_init 74 = .ok (.castore, 1) := dk_85 (dk_at dksX2_init_3 2 rfl rfl)
theorem dX2_init_75 : decode cX2_init 75 = .ok (.aastore, 1) := dk_83 (dk_at dksX2_init_3 3 rfl rfl)
theorem dX2_init_76 : decode cX2_init 76 = .ok (.dup, 1) := dk_89 (dk_at dksX2_init_3 4 rfl rfl)
theorem dX2_init_77 : decode cX2_init 77 = .ok (.iconst 2, 1) := dk_5 (dk_at dksX2_init_3 5 rfl rfl)
theorem dX2_init_78 : decode cX2_init 78 = .ok (.iconst 5, 1) := dk_8 (dk_at dksX2_init_3 6 rfl rfl)
theorem dX2_init_79 : decode cX2_init 79 = .ok (.newarray .char, 2) := dk_188_5 (dk_at dksX2_init_3 7 rfl rfl)
theorem dX2_init_81 : decode cX2_init 81 = .ok (.dup, 1) := dk_89 (dk_at dksX2_init_3 9 rfl rfl)
theorem dX2_init_82 : decode cX2_init 82 = .ok (.iconst 0, 1) := dk_3 (dk_at dksX2_init_3 10 rfl rfl)
theorem dX2_init_83 : decode cX2_init 83 = .ok (.bipush 108, 2) := dk_16 108 (dk_at dksX2_init_3 11 rfl rfl)
theorem dX2_init_85 : decode cX2_init 85 = .ok (.castore, 1) := dk_85 (dk_at dksX2_init_3 13 rfl rfl)
theorem dX2_init_86 : decode cX2_init 86 = .ok (.dup, 1) := dk_89 (dk_at dksX2_init_3 14 rfl rfl)
theorem dX2_init_87 : decode cX2_init 87 = .ok (.iconst 1, 1) := dk_4 (dk_at dksX2_init_3 15 rfl rfl)
theorem dX2_init_88 : decode cX2_init 88 = .ok (.bipush 105, 2) := dk_16 105 (dk_at dksX2_init_3 16 rfl rfl)
theorem dX2_init_90 : decode cX2_init 90 = .ok (.castore, 1) := dk_85 (dk_at dksX2_init_3 18 rfl rfl)
theorem dX2_init_91 : decode cX2_init 91 = .ok (.dup, 1) := dk_89 (dk_at dksX2_init_3 19 rfl rfl)
theorem dX2_init_92 : decode cX2_init 92 = .ok (.iconst 2, 1) := dk_5 (dk_at dksX2_init_3 20 rfl rfl)
theorem dX2_init_93 : decode cX2_init 93 = .ok (.bipush 102, 2) := dk_16 102 (dk_at dksX2_init_3 21 rfl rfl)
theorem dX2_init_95 : decode cX2_init 95 = .ok (.castore, 1) := dk_85 (dk_at dksX2_init_3 23 rfl rfl)
theorem dX2_init_96 : decode cX2_init 96 = .ok (.dup, 1) := dk_89 (dk_at dksX2_init_4 0 rfl rfl)
theorem dX2_init_97 : decode cX2_init 97 = .ok (.iconst 3, 1) := dk_6 (dk_at dksX2_init_4 1 rfl rfl)
theorem dX2_init_98 : decode cX2_init 98 = .ok (.bipush 116, 2) := dk_16 116 (dk_at dksX2_init_4 2 rfl rfl)
theorem dX2_init_100 : decode cX2_init 100 = .ok (.castore, 1) := dk_85 (dk_at dksX2_init_4 4 rfl rfl)
theorem dX2_init_101 : decode cX2_init 101 = .ok (.dup, 1) := dk_89 (dk_at dksX2_init_4 5 rfl rfl)
theorem dX2_init_102 : decode cX2_init 102 = .ok (.iconst 4, 1) := dk_7 (dk_at dksX2_init_4 6 rfl rfl)
theorem dX2_init_103 : decode cX2_init 103 = .ok (.bipush 32, 2) := dk_16 32 (dk_at dksX2_init_4 7 rfl rfl)
theorem dX2_init_105 : decode cX2_init 105 = .ok (.castore, 1) := dk_85 (dk_at dksX2_init_4 9 rfl rfl)
theorem dX2_init_106 : decode cX2_init 106 = .ok (.aastore, 1) := dk_83 (dk_at dksX2_init_4 10 rfl rfl)
theorem dX2_init_107 : decode cX2_init 107 = .ok (.dup, 1) := dk_89 (dk_at dksX2_init_4 11 rfl rfl)
theorem dX2_init_108 : decode cX2_init 108 = .ok (.iconst 3, 1) := dk_6 (dk_at dksX2_init_4 12 rfl rfl)
theorem dX2_init_109 : decode cX2_init 109 = .ok (.iconst 5, 1) := dk_8 (dk_at dksX2_init_4 13 rfl rfl)
theorem dX2_init_110 : decode cX2_init 110 = .ok (.newarray .char, 2) := dk_188_5 (dk_at dksX2_init_4 14 rfl rfl)
theorem dX2_init_112 : decode cX2_init 112 = .ok (.dup, 1) := dk_89 (dk_at dksX2_init_4 16 rfl rfl)
theorem dX2_init_113 : decode cX2_init 113 = .ok (.iconst 0, 1) := dk_3 (dk_at dksX2_init_4 17 rfl rfl)
theorem dX2_init_114 : decode cX2_init 114 = .ok (.bipush 100, 2) := dk_16 100 (dk_at dksX2_init_4 18 rfl rfl)
theorem dX2_init_116 : decode cX2_init 116 = .ok (.castore, 1) := dk_85 (dk_at dksX2_init_4 20 rfl rfl)
theorem dX2_init_117 : decode cX2_init 117 = .ok (.dup, 1) := dk_89 (dk_at dksX2_init_4 21 rfl rfl)
theorem dX2_init_118 : decode cX2_init 118 = .ok (.iconst 1, 1) := dk_4 (dk_at dksX2_init_4 22 rfl rfl)
theorem dX2_init_119 : decode cX2_init 119 = .ok (.bipush 117, 2) := dk_16 117 (dk_at dksX2_init_5 0 rfl rfl)
theorem dX2_init_121 : decode cX2_init 121 = .ok (.castore, 1) := dk_85 (dk_at dksX2_init_5 2 rfl rfl)
theorem dX2_init_122 : decode cX2_init 122 = .ok (.dup, 1) := dk_89 (dk_at dksX2_init_5 3 rfl rfl)
theorem dX2_init_123 : decode cX2_init 123 = .ok (.iconst 2, 1) := dk_5 (dk_at dksX2_init_5 4 rfl rfl)
theorem dX2_init_124 : decode cX2_init 124 = .ok (.bipush 99, 2) := dk_16 99 (dk_at dksX2_init_5 5 rfl rfl)
theorem dX2_init_126 : decode cX2_init 126 = .ok (.castore, 1) := dk_85 (dk_at dksX2_init_5 7 rfl rfl)
theorem dX2_init_127 : decode cX2_init 127 = .ok (.dup, 1) := dk_89 (dk_at dksX2_init_5 8 rfl rfl)
theorem dX2_init_128 : decode cX2_init 128 = .ok (.iconst 3, 1) := dk_6 (dk_at dksX2_init_5 9 rfl rfl)
theorem dX2_init_129 : decode cX2_init 129 = .ok (.bipush 107, 2) := dk_16 107 (dk_at dksX2_init_5 10 rfl rfl)
theorem dX2_init_131 : decode cX2_init 131 = .ok (.castore, 1) := dk_85 (dk_at dksX2_init_5 12 rfl rfl)
theorem dX2_init_132 : decode cX2_init 132 = .ok (.dup, 1) := dk_89 (dk_at dksX2_init_5 13 rfl rfl)
theorem dX2_init_133 : decode cX2_init 133 = .ok (.iconst 4, 1) := dk_7 (dk_at dksX2_init_5 14 rfl rfl)
theorem dX2_init_134 : decode cX2_init 134 = .ok (.bipush 32, 2) := dk_16 32 (dk_at dksX2_init_5 15 rfl rfl)
theorem dX2_init_136 : decode cX2_init 136 = .ok (.castore, 1) := dk_85 (dk_at dksX2_init_5 17 rfl rfl)
theorem dX2_init_137 : decode cX2_init 137 = .ok (.aastore, 1) := dk_83 (dk_at dksX2_init_5 18 rfl rfl)
theorem dX2_init_138 : decode cX2_init 138 = .ok (.putfield 17, 3) := dk_181 0 17 (dk_at dksX2_init_5 19 rfl rfl)
theorem dX2_init_141 : decode cX2_init 141 = .ok (.return_, 1) := dk_177 (dk_at dksX2_init_5 22 rfl rfl)
abbrev cX2_read : ByteArray := prog_12_method_13_code
def yX2_read : MethodName := ⟨RX2, "read", "()LFewerMan$Inn;"⟩
def dkwX2_read_3 : List UInt8 := [181, 0, 21, 42, 43, 182, 0, 113, 167, 255, 197, 43, 176]
abbrev dktX2_read_3 : List UInt8 := dkwX2_read_3 ++ []
def dkwX2_read_2 : List UInt8 := [160, 0, 15, 187, 0, 36, 89, 42, 180, 0, 21, 183, 0, 38, 191, 42, 89, 180, 0, 21, 4, 96]
abbrev dktX2_read_2 : List UInt8 := dkwX2_read_2 ++ dktX2_read_3
def dkwX2_read_1 : List UInt8 := [180, 0, 3, 180, 0, 25, 162, 0, 51, 42, 182, 0, 32, 16, 59, 160, 0, 12, 43, 180, 0, 84, 16, 10]
abbrev dktX2_read_1 : List UInt8 := dkwX2_read_1 ++ dktX2_read_2
def dkwX2_read_0 : List UInt8 := [42, 3, 181, 0, 21, 187, 0, 85, 89, 183, 0, 112, 76, 42, 43, 182, 0, 113, 42, 180, 0, 21, 42]
abbrev dktX2_read_0 : List UInt8 := dkwX2_read_0 ++ dktX2_read_1
theorem dksX2_read_0 : cX2_read.data.toList.drop 0 = dktX2_read_0 := by decide +kernel
theorem dksX2_read_1 : cX2_read.data.toList.drop 23 = dktX2_read_1 := dk_seg dksX2_read_0 23 rfl rfl
theorem dksX2_read_2 : cX2_read.data.toList.drop 47 = dktX2_read_2 := dk_seg dksX2_read_1 24 rfl rfl
theorem dksX2_read_3 : cX2_read.data.toList.drop 69 = dktX2_read_3 := dk_seg dksX2_read_2 22 rfl rfl
theorem dX2_read_0 : decode cX2_read 0 = .ok (.aload_n 0, 1) := dk_42 (dk_at dksX2_read_0 0 rfl rfl)
theorem dX2_read_1 : decode cX2_read 1 = .ok (.iconst 0, 1) := dk_3 (dk_at dksX2_read_0 1 rfl rfl)
theorem dX2_read_2 : decode cX2_read 2 = .ok (.putfield 21, 3) := dk_181 0 21 (dk_at dksX2_read_0 2 rfl rfl)
theorem dX2_read_5 : decode cX2_read 5 = .ok (.new 85, 3) := dk_187 0 85 (dk_at dksX2_read_0 5 rfl rfl)
theorem dX2_read_8 : decode cX2_read 8 = .ok (.dup, 1) := dk_89 (dk_at dksX2_read_0 8 rfl rfl)
theorem dX2_read_9 : decode cX2_read 9 = .ok (.invokespecial 112, 3) := dk_183 0 112 (dk_at dksX2_read_0 9 rfl rfl)
theorem dX2_read_12 : decode cX2_read 12 = .ok (.astore_n 1, 1) := dk_76 (dk_at dksX2_read_0 12 rfl rfl)
theorem dX2_read_13 : decode cX2_read 13 = .ok (.aload_n 0, 1) := dk_42 (dk_at dksX2_read_0 13 rfl rfl)
theorem dX2_read_14 : decode cX2_read 14 = .ok (.aload_n 1, 1) := dk_43 (dk_at dksX2_read_0 14 rfl rfl)
theorem dX2_read_15 : decode cX2_read 15 = .ok (.invokevirtual 113, 3) := dk_182 0 113 (dk_at dksX2_read_0 15 rfl rfl)
theorem dX2_read_18 : decode cX2_read 18 = .ok (.aload_n 0, 1) := dk_42 (dk_at dksX2_read_0 18 rfl rfl)
theorem dX2_read_19 : decode cX2_read 19 = .ok (.getfield 21, 3) := dk_180 0 21 (dk_at dksX2_read_0 19 rfl rfl)
theorem dX2_read_22 : decode cX2_read 22 = .ok (.aload_n 0, 1) := dk_42 (dk_at dksX2_read_0 22 rfl rfl)
theorem dX2_read_23 : decode cX2_read 23 = .ok (.getfield 3, 3) := dk_180 0 3 (dk_at dksX2_read_1 0 rfl rfl)
theorem dX2_read_26 : decode cX2_read 26 = .ok (.getfield 25, 3) := dk_180 0 25 (dk_at dksX2_read_1 3 rfl rfl)
theorem dX2_read_29 : decode cX2_read 29 = .ok (.if_icmp .ge 51, 3) := dk_162 0 51 (dk_at dksX2_read_1 6 rfl rfl)
theorem dX2_read_32 : decode cX2_read 32 = .ok (.aload_n 0, 1) := dk_42 (dk_at dksX2_read_1 9 rfl rfl)
theorem dX2_read_33 : decode cX2_read 33 = .ok (.invokevirtual 32, 3) := dk_182 0 32 (dk_at dksX2_read_1 10 rfl rfl)
theorem dX2_read_36 : decode cX2_read 36 = .ok (.bipush 59, 2) := dk_16 59 (dk_at dksX2_read_1 13 rfl rfl)
theorem dX2_read_38 : decode cX2_read 38 = .ok (.if_icmp .ne 12, 3) := dk_160 0 12 (dk_at dksX2_read_1 15 rfl rfl)
theorem dX2_read_41 : decode cX2_read 41 = .ok (.aload_n 1, 1) := dk_43 (dk_at dksX2_read_1 18 rfl rfl)
theorem dX2_read_42 : decode cX2_read 42 = .ok (.getfield 84, 3) := dk_180 0 84 (dk_at dksX2_read_1 19 rfl rfl)
theorem dX2_read_45 : decode cX2_read 45 = .ok (.bipush 10, 2) := dk_16 10 (dk_at dksX2_read_1 22 rfl rfl)
theorem dX2_read_47 : decode cX2_read 47 = .ok (.if_icmp .ne 15, 3) := dk_160 0 15 (dk_at dksX2_read_2 0 rfl rfl)
theorem dX2_read_50 : decode cX2_read 50 = .ok (.new 36, 3) := dk_187 0 36 (dk_at dksX2_read_2 3 rfl rfl)
theorem dX2_read_53 : decode cX2_read 53 = .ok (.dup, 1) := dk_89 (dk_at dksX2_read_2 6 rfl rfl)
theorem dX2_read_54 : decode cX2_read 54 = .ok (.aload_n 0, 1) := dk_42 (dk_at dksX2_read_2 7 rfl rfl)
theorem dX2_read_55 : decode cX2_read 55 = .ok (.getfield 21, 3) := dk_180 0 21 (dk_at dksX2_read_2 8 rfl rfl)
theorem dX2_read_58 : decode cX2_read 58 = .ok (.invokespecial 38, 3) := dk_183 0 38 (dk_at dksX2_read_2 11 rfl rfl)
theorem dX2_read_61 : decode cX2_read 61 = .ok (.athrow, 1) := dk_191 (dk_at dksX2_read_2 14 rfl rfl)
theorem dX2_read_62 : decode cX2_read 62 = .ok (.aload_n 0, 1) := dk_42 (dk_at dksX2_read_2 15 rfl rfl)
theorem dX2_read_63 : decode cX2_read 63 = .ok (.dup, 1) := dk_89 (dk_at dksX2_read_2 16 rfl rfl)
theorem dX2_read_64 : decode cX2_read 64 = .ok (.getfield 21, 3) := dk_180 0 21 (dk_at dksX2_read_2 17 rfl rfl)
theorem dX2_read_67 : decode cX2_read 67 = .ok (.iconst 1, 1) := dk_4 (dk_at dksX2_read_2 20 rfl rfl)
theorem dX2_read_68 : decode cX2_read 68 = .ok (.iadd, 1) := dk_96 (dk_at dksX2_read_2 21 rfl rfl)
theorem dX2_read_69 : decode cX2_read 69 = .ok (.putfield 21, 3) := dk_181 0 21 (dk_at dksX2_read_3 0 rfl rfl)
theorem dX2_read_72 : decode cX2_read 72 = .ok (.aload_n 0, 1) := dk_42 (dk_at dksX2_read_3 3 rfl rfl)
theorem dX2_read_73 : decode cX2_read 73 = .ok (.aload_n 1, 1) := dk_43 (dk_at dksX2_read_3 4 rfl rfl)
theorem dX2_read_74 : decode cX2_read 74 = .ok (.invokevirtual 113, 3) := dk_182 0 113 (dk_at dksX2_read_3 5 rfl rfl)
theorem dX2_read_77 : decode cX2_read 77 = .ok (.goto (-59), 3) := dk_167 255 197 (dk_at dksX2_read_3 8 rfl rfl)
theorem dX2_read_80 : decode cX2_read 80 = .ok (.aload_n 1, 1) := dk_43 (dk_at dksX2_read_3 11 rfl rfl)
theorem dX2_read_81 : decode cX2_read 81 = .ok (.areturn, 1) := dk_176 (dk_at dksX2_read_3 12 rfl rfl)
abbrev cX2_clause : ByteArray := prog_12_method_12_code
def yX2_clause : MethodName := ⟨RX2, "clause", "(LFewerMan$Inn;)V"⟩
def dkwX2_clause_3 : List UInt8 := [182, 0, 65, 182, 0, 108, 87, 177]
abbrev dktX2_clause_3 : List UInt8 := dkwX2_clause_3 ++ []
def dkwX2_clause_2 : List UInt8 := [43, 180, 0, 99, 182, 0, 103, 28, 6, 160, 0, 8, 29, 116, 167, 0, 4, 29, 79, 43, 180, 0, 99, 42]
abbrev dktX2_clause_2 : List UInt8 := dkwX2_clause_2 ++ dktX2_clause_3
def dkwX2_clause_1 : List UInt8 := [62, 28, 5, 162, 0, 11, 43, 180, 0, 92, 28, 29, 79, 177, 42, 16, 32, 182, 0, 47, 43, 180, 0, 96]
abbrev dktX2_clause_1 : List UInt8 := dkwX2_clause_1 ++ dktX2_clause_2
def dkwX2_clause_0 : List UInt8 := [43, 89, 180, 0, 84, 4, 96, 181, 0, 84, 42, 3, 181, 0, 50, 42, 182, 0, 89, 61, 42, 182, 0, 70]
abbrev dktX2_clause_0 : List UInt8 := dkwX2_clause_0 ++ dktX2_clause_1
theorem dksX2_clause_0 : cX2_clause.data.toList.drop 0 = dktX2_clause_0 := by decide +kernel
theorem dksX2_clause_1 : cX2_clause.data.toList.drop 24 = dktX2_clause_1 := dk_seg dksX2_clause_0 24 rfl rfl
theorem dksX2_clause_2 : cX2_clause.data.toList.drop 48 = dktX2_clause_2 := dk_seg dksX2_clause_1 24 rfl rfl
theorem dksX2_clause_3 : cX2_clause.data.toList.drop 72 = dktX2_clause_3 := dk_seg dksX2_clause_2 24 rfl rfl
theorem dX2_clause_0 : decode cX2_clause 0 = .ok (.aload_n 1, 1) := dk_43 (dk_at dksX2_clause_0 0 rfl rfl)
theorem dX2_clause_1 : decode cX2_clause 1 = .ok (.dup, 1) := dk_89 (dk_at dksX2_clause_0 1 rfl rfl)
theorem dX2_clause_2 : decode cX2_clause 2 = .ok (.getfield 84, 3) := dk_180 0 84 (dk_at dksX2_clause_0 2 rfl rfl)
theorem dX2_clause_5 : decode cX2_clause 5 = .ok (.iconst 1, 1) := dk_4 (dk_at dksX2_clause_0 5 rfl rfl)
theorem dX2_clause_6 : decode cX2_clause 6 = .ok (.iadd, 1) := dk_96 (dk_at dksX2_clause_0 6 rfl rfl)
theorem dX2_clause_7 : decode cX2_clause 7 = .ok (.putfield 84, 3) := dk_181 0 84 (dk_at dksX2_clause_0 7 rfl rfl)
theorem dX2_clause_10 : decode cX2_clause 10 = .ok (.aload_n 0, 1) := dk_42 (dk_at dksX2_clause_0 10 rfl rfl)
theorem dX2_clause_11 : decode cX2_clause 11 = .ok (.iconst 0, 1) := dk_3 (dk_at dksX2_clause_0 11 rfl rfl)
theorem dX2_clause_12 : decode cX2_clause 12 = .ok (.putfield 50, 3) := dk_181 0 50 (dk_at dksX2_clause_0 12 rfl rfl)
theorem dX2_clause_15 : decode cX2_clause 15 = .ok (.aload_n 0, 1) := dk_42 (dk_at dksX2_clause_0 15 rfl rfl)
theorem dX2_clause_16 : decode cX2_clause 16 = .ok (.invokevirtual 89, 3) := dk_182 0 89 (dk_at dksX2_clause_0 16 rfl rfl)
theorem dX2_clause_19 : decode cX2_clause 19 = .ok (.istore_n 2, 1) := dk_61 (dk_at dksX2_clause_0 19 rfl rfl)
theorem dX2_clause_20 : decode cX2_clause 20 = .ok (.aload_n 0, 1) := dk_42 (dk_at dksX2_clause_0 20 rfl rfl)
theorem dX2_clause_21 : decode cX2_clause 21 = .ok (.invokevirtual 70, 3) := dk_182 0 70 (dk_at dksX2_clause_0 21 rfl rfl)
theorem dX2_clause_24 : decode cX2_clause 24 = .ok (.istore_n 3, 1) := dk_62 (dk_at dksX2_clause_1 0 rfl rfl)
theorem dX2_clause_25 : decode cX2_clause 25 = .ok (.iload_n 2, 1) := dk_28 (dk_at dksX2_clause_1 1 rfl rfl)
theorem dX2_clause_26 : decode cX2_clause 26 = .ok (.iconst 2, 1) := dk_5 (dk_at dksX2_clause_1 2 rfl rfl)
theorem dX2_clause_27 : decode cX2_clause 27 = .ok (.if_icmp .ge 11, 3) := dk_162 0 11 (dk_at dksX2_clause_1 3 rfl rfl)
theorem dX2_clause_30 : decode cX2_clause 30 = .ok (.aload_n 1, 1) := dk_43 (dk_at dksX2_clause_1 6 rfl rfl)
theorem dX2_clause_31 : decode cX2_clause 31 = .ok (.getfield 92, 3) := dk_180 0 92 (dk_at dksX2_clause_1 7 rfl rfl)
theorem dX2_clause_34 : decode cX2_clause 34 = .ok (.iload_n 2, 1) := dk_28 (dk_at dksX2_clause_1 10 rfl rfl)
theorem dX2_clause_35 : decode cX2_clause 35 = .ok (.iload_n 3, 1) := dk_29 (dk_at dksX2_clause_1 11 rfl rfl)
theorem dX2_clause_36 : decode cX2_clause 36 = .ok (.iastore, 1) := dk_79 (dk_at dksX2_clause_1 12 rfl rfl)
theorem dX2_clause_37 : decode cX2_clause 37 = .ok (.return_, 1) := dk_177 (dk_at dksX2_clause_1 13 rfl rfl)
theorem dX2_clause_38 : decode cX2_clause 38 = .ok (.aload_n 0, 1) := dk_42 (dk_at dksX2_clause_1 14 rfl rfl)
theorem dX2_clause_39 : decode cX2_clause 39 = .ok (.bipush 32, 2) := dk_16 32 (dk_at dksX2_clause_1 15 rfl rfl)
theorem dX2_clause_41 : decode cX2_clause 41 = .ok (.invokevirtual 47, 3) := dk_182 0 47 (dk_at dksX2_clause_1 17 rfl rfl)
theorem dX2_clause_44 : decode cX2_clause 44 = .ok (.aload_n 1, 1) := dk_43 (dk_at dksX2_clause_1 20 rfl rfl)
theorem dX2_clause_45 : decode cX2_clause 45 = .ok (.getfield 96, 3) := dk_180 0 96 (dk_at dksX2_clause_1 21 rfl rfl)
theorem dX2_clause_48 : decode cX2_clause 48 = .ok (.aload_n 1, 1) := dk_43 (dk_at dksX2_clause_2 0 rfl rfl)
theorem dX2_clause_49 : decode cX2_clause 49 = .ok (.getfield 99, 3) := dk_180 0 99 (dk_at dksX2_clause_2 1 rfl rfl)
theorem dX2_clause_52 : decode cX2_clause 52 = .ok (.invokevirtual 103, 3) := dk_182 0 103 (dk_at dksX2_clause_2 4 rfl rfl)
theorem dX2_clause_55 : decode cX2_clause 55 = .ok (.iload_n 2, 1) := dk_28 (dk_at dksX2_clause_2 7 rfl rfl)
theorem dX2_clause_56 : decode cX2_clause 56 = .ok (.iconst 3, 1) := dk_6 (dk_at dksX2_clause_2 8 rfl rfl)
theorem dX2_clause_57 : decode cX2_clause 57 = .ok (.if_icmp .ne 8, 3) := dk_160 0 8 (dk_at dksX2_clause_2 9 rfl rfl)
theorem dX2_clause_60 : decode cX2_clause 60 = .ok (.iload_n 3, 1) := dk_29 (dk_at dksX2_clause_2 12 rfl rfl)
theorem dX2_clause_61 : decode cX2_clause 61 = .ok (.ineg, 1) := dk_116 (dk_at dksX2_clause_2 13 rfl rfl)
theorem dX2_clause_62 : decode cX2_clause 62 = .ok (.goto 4, 3) := dk_167 0 4 (dk_at dksX2_clause_2 14 rfl rfl)
theorem dX2_clause_65 : decode cX2_clause 65 = .ok (.iload_n 3, 1) := dk_29 (dk_at dksX2_clause_2 17 rfl rfl)
theorem dX2_clause_66 : decode cX2_clause 66 = .ok (.iastore, 1) := dk_79 (dk_at dksX2_clause_2 18 rfl rfl)
theorem dX2_clause_67 : decode cX2_clause 67 = .ok (.aload_n 1, 1) := dk_43 (dk_at dksX2_clause_2 19 rfl rfl)
theorem dX2_clause_68 : decode cX2_clause 68 = .ok (.getfield 99, 3) := dk_180 0 99 (dk_at dksX2_clause_2 20 rfl rfl)
theorem dX2_clause_71 : decode cX2_clause 71 = .ok (.aload_n 0, 1) := dk_42 (dk_at dksX2_clause_2 23 rfl rfl)
theorem dX2_clause_72 : decode cX2_clause 72 = .ok (.invokevirtual 65, 3) := dk_182 0 65 (dk_at dksX2_clause_3 0 rfl rfl)
theorem dX2_clause_75 : decode cX2_clause 75 = .ok (.invokevirtual 108, 3) := dk_182 0 108 (dk_at dksX2_clause_3 3 rfl rfl)
theorem dX2_clause_78 : decode cX2_clause 78 = .ok (.pop, 1) := dk_87 (dk_at dksX2_clause_3 6 rfl rfl)
theorem dX2_clause_79 : decode cX2_clause 79 = .ok (.return_, 1) := dk_177 (dk_at dksX2_clause_3 7 rfl rfl)
abbrev cX2_head : ByteArray := prog_12_method_6_code
def yX2_head : MethodName := ⟨RX2, "head", "()I"⟩
def dkwX2_head_2 : List UInt8 := [42, 21, 5, 182, 0, 47, 132, 4, 1, 167, 255, 235, 27, 172]
abbrev dktX2_head_2 : List UInt8 := dkwX2_head_2 ++ []
def dkwX2_head_1 : List UInt8 := [180, 0, 17, 27, 50, 77, 44, 190, 62, 3, 54, 4, 21, 4, 29, 162, 0, 21, 44, 21, 4, 52, 54, 5]
abbrev dktX2_head_1 : List UInt8 := dkwX2_head_1 ++ dktX2_head_2
def dkwX2_head_0 : List UInt8 := [42, 182, 0, 44, 60, 27, 2, 160, 0, 15, 187, 0, 36, 89, 42, 180, 0, 21, 183, 0, 38, 191, 42]
abbrev dktX2_head_0 : List UInt8 := dkwX2_head_0 ++ dktX2_head_1
theorem dksX2_head_0 : cX2_head.data.toList.drop 0 = dktX2_head_0 := by decide +kernel
theorem dksX2_head_1 : cX2_head.data.toList.drop 23 = dktX2_head_1 := dk_seg dksX2_head_0 23 rfl rfl
theorem dksX2_head_2 : cX2_head.data.toList.drop 47 = dktX2_head_2 := dk_seg dksX2_head_1 24 rfl rfl
theorem dX2_head_0 : decode cX2_head 0 = .ok (.aload_n 0, 1) := dk_42 (dk_at dksX2_head_0 0 rfl rfl)
theorem dX2_head_1 : decode cX2_head 1 = .ok (.invokevirtual 44, 3) := dk_182 0 44 (dk_at dksX2_head_0 1 rfl rfl)
theorem dX2_head_4 : decode cX2_head 4 = .ok (.istore_n 1, 1) := dk_60 (dk_at dksX2_head_0 4 rfl rfl)
theorem dX2_head_5 : decode cX2_head 5 = .ok (.iload_n 1, 1) := dk_27 (dk_at dksX2_head_0 5 rfl rfl)
theorem dX2_head_6 : decode cX2_head 6 = .ok (.iconst (-1), 1) := dk_2 (dk_at dksX2_head_0 6 rfl rfl)
theorem dX2_head_7 : decode cX2_head 7 = .ok (.if_icmp .ne 15, 3) := dk_160 0 15 (dk_at dksX2_head_0 7 rfl rfl)
theorem dX2_head_10 : decode cX2_head 10 = .ok (.new 36, 3) := dk_187 0 36 (dk_at dksX2_head_0 10 rfl rfl)
theorem dX2_head_13 : decode cX2_head 13 = .ok (.dup, 1) := dk_89 (dk_at dksX2_head_0 13 rfl rfl)
theorem dX2_head_14 : decode cX2_head 14 = .ok (.aload_n 0, 1) := dk_42 (dk_at dksX2_head_0 14 rfl rfl)
theorem dX2_head_15 : decode cX2_head 15 = .ok (.getfield 21, 3) := dk_180 0 21 (dk_at dksX2_head_0 15 rfl rfl)
theorem dX2_head_18 : decode cX2_head 18 = .ok (.invokespecial 38, 3) := dk_183 0 38 (dk_at dksX2_head_0 18 rfl rfl)
theorem dX2_head_21 : decode cX2_head 21 = .ok (.athrow, 1) := dk_191 (dk_at dksX2_head_0 21 rfl rfl)
theorem dX2_head_22 : decode cX2_head 22 = .ok (.aload_n 0, 1) := dk_42 (dk_at dksX2_head_0 22 rfl rfl)
theorem dX2_head_23 : decode cX2_head 23 = .ok (.getfield 17, 3) := dk_180 0 17 (dk_at dksX2_head_1 0 rfl rfl)
theorem dX2_head_26 : decode cX2_head 26 = .ok (.iload_n 1, 1) := dk_27 (dk_at dksX2_head_1 3 rfl rfl)
theorem dX2_head_27 : decode cX2_head 27 = .ok (.aaload, 1) := dk_50 (dk_at dksX2_head_1 4 rfl rfl)
theorem dX2_head_28 : decode cX2_head 28 = .ok (.astore_n 2, 1) := dk_77 (dk_at dksX2_head_1 5 rfl rfl)
theorem dX2_head_29 : decode cX2_head 29 = .ok (.aload_n 2, 1) := dk_44 (dk_at dksX2_head_1 6 rfl rfl)
theorem dX2_head_30 : decode cX2_head 30 = .ok (.arraylength, 1) := dk_190 (dk_at dksX2_head_1 7 rfl rfl)
theorem dX2_head_31 : decode cX2_head 31 = .ok (.istore_n 3, 1) := dk_62 (dk_at dksX2_head_1 8 rfl rfl)
theorem dX2_head_32 : decode cX2_head 32 = .ok (.iconst 0, 1) := dk_3 (dk_at dksX2_head_1 9 rfl rfl)
theorem dX2_head_33 : decode cX2_head 33 = .ok (.istore 4, 2) := dk_54 4 (dk_at dksX2_head_1 10 rfl rfl)
theorem dX2_head_35 : decode cX2_head 35 = .ok (.iload 4, 2) := dk_21 4 (dk_at dksX2_head_1 12 rfl rfl)
theorem dX2_head_37 : decode cX2_head 37 = .ok (.iload_n 3, 1) := dk_29 (dk_at dksX2_head_1 14 rfl rfl)
theorem dX2_head_38 : decode cX2_head 38 = .ok (.if_icmp .ge 21, 3) := dk_162 0 21 (dk_at dksX2_head_1 15 rfl rfl)
theorem dX2_head_41 : decode cX2_head 41 = .ok (.aload_n 2, 1) := dk_44 (dk_at dksX2_head_1 18 rfl rfl)
theorem dX2_head_42 : decode cX2_head 42 = .ok (.iload 4, 2) := dk_21 4 (dk_at dksX2_head_1 19 rfl rfl)
theorem dX2_head_44 : decode cX2_head 44 = .ok (.caload, 1) := dk_52 (dk_at dksX2_head_1 21 rfl rfl)
theorem dX2_head_45 : decode cX2_head 45 = .ok (.istore 5, 2) := dk_54 5 (dk_at dksX2_head_1 22 rfl rfl)
theorem dX2_head_47 : decode cX2_head 47 = .ok (.aload_n 0, 1) := dk_42 (dk_at dksX2_head_2 0 rfl rfl)
theorem dX2_head_48 : decode cX2_head 48 = .ok (.iload 5, 2) := dk_21 5 (dk_at dksX2_head_2 1 rfl rfl)
theorem dX2_head_50 : decode cX2_head 50 = .ok (.invokevirtual 47, 3) := dk_182 0 47 (dk_at dksX2_head_2 3 rfl rfl)
theorem dX2_head_53 : decode cX2_head 53 = .ok (.iinc 4 1, 3) := dk_132 4 1 (dk_at dksX2_head_2 6 rfl rfl)
theorem dX2_head_56 : decode cX2_head 56 = .ok (.goto (-21), 3) := dk_167 255 235 (dk_at dksX2_head_2 9 rfl rfl)
theorem dX2_head_59 : decode cX2_head 59 = .ok (.iload_n 1, 1) := dk_27 (dk_at dksX2_head_2 12 rfl rfl)
theorem dX2_head_60 : decode cX2_head 60 = .ok (.ireturn, 1) := dk_172 (dk_at dksX2_head_2 13 rfl rfl)
abbrev cX2_word : ByteArray := prog_12_method_5_code
def yX2_word : MethodName := ⟨RX2, "word", "()I"⟩
def dkwX2_word_2 : List UInt8 := [42, 182, 0, 41, 16, 105, 160, 0, 7, 5, 167, 0, 4, 3, 172, 4, 172, 6, 172, 2, 172]
abbrev dktX2_word_2 : List UInt8 := dkwX2_word_2 ++ []
def dkwX2_word_1 : List UInt8 := [171, 0, 0, 0, 0, 0, 0, 55, 0, 0, 0, 3, 0, 0, 0, 100, 0, 0, 0, 53, 0, 0, 0, 108, 0, 0, 0, 36, 0, 0, 0, 109, 0, 0, 0, 51]
abbrev dktX2_word_1 : List UInt8 := dkwX2_word_1 ++ dktX2_word_2
def dkwX2_word_0 : List UInt8 := [42, 182, 0, 32]
abbrev dktX2_word_0 : List UInt8 := dkwX2_word_0 ++ dktX2_word_1
theorem dksX2_word_0 : cX2_word.data.toList.drop 0 = dktX2_word_0 := by decide +kernel
theorem dksX2_word_1 : cX2_word.data.toList.drop 4 = dktX2_word_1 := dk_seg dksX2_word_0 4 rfl rfl
theorem dksX2_word_2 : cX2_word.data.toList.drop 40 = dktX2_word_2 := dk_seg dksX2_word_1 36 rfl rfl
theorem dX2_word_0 : decode cX2_word 0 = .ok (.aload_n 0, 1) := dk_42 (dk_at dksX2_word_0 0 rfl rfl)
theorem dX2_word_1 : decode cX2_word 1 = .ok (.invokevirtual 32, 3) := dk_182 0 32 (dk_at dksX2_word_0 1 rfl rfl)
theorem dX2_word_4 : decode cX2_word 4 = .ok (.lookupswitch 55 #[(100, 53), (108, 36), (109, 51)], 36) := by decide +kernel
theorem dX2_word_40 : decode cX2_word 40 = .ok (.aload_n 0, 1) := dk_42 (dk_at dksX2_word_2 0 rfl rfl)
theorem dX2_word_41 : decode cX2_word 41 = .ok (.invokevirtual 41, 3) := dk_182 0 41 (dk_at dksX2_word_2 1 rfl rfl)
theorem dX2_word_44 : decode cX2_word 44 = .ok (.bipush 105, 2) := dk_16 105 (dk_at dksX2_word_2 4 rfl rfl)
theorem dX2_word_46 : decode cX2_word 46 = .ok (.if_icmp .ne 7, 3) := dk_160 0 7 (dk_at dksX2_word_2 6 rfl rfl)
theorem dX2_word_49 : decode cX2_word 49 = .ok (.iconst 2, 1) := dk_5 (dk_at dksX2_word_2 9 rfl rfl)
theorem dX2_word_50 : decode cX2_word 50 = .ok (.goto 4, 3) := dk_167 0 4 (dk_at dksX2_word_2 10 rfl rfl)
theorem dX2_word_53 : decode cX2_word 53 = .ok (.iconst 0, 1) := dk_3 (dk_at dksX2_word_2 13 rfl rfl)
theorem dX2_word_54 : decode cX2_word 54 = .ok (.ireturn, 1) := dk_172 (dk_at dksX2_word_2 14 rfl rfl)
theorem dX2_word_55 : decode cX2_word 55 = .ok (.iconst 1, 1) := dk_4 (dk_at dksX2_word_2 15 rfl rfl)
theorem dX2_word_56 : decode cX2_word 56 = .ok (.ireturn, 1) := dk_172 (dk_at dksX2_word_2 16 rfl rfl)
theorem dX2_word_57 : decode cX2_word 57 = .ok (.iconst 3, 1) := dk_6 (dk_at dksX2_word_2 17 rfl rfl)
theorem dX2_word_58 : decode cX2_word 58 = .ok (.ireturn, 1) := dk_172 (dk_at dksX2_word_2 18 rfl rfl)
theorem dX2_word_59 : decode cX2_word 59 = .ok (.iconst (-1), 1) := dk_2 (dk_at dksX2_word_2 19 rfl rfl)
theorem dX2_word_60 : decode cX2_word 60 = .ok (.ireturn, 1) := dk_172 (dk_at dksX2_word_2 20 rfl rfl)
abbrev cX2_next : ByteArray := prog_12_method_2_code
def yX2_next : MethodName := ⟨RX2, "next", "()I"⟩
def dkwX2_next_1 : List UInt8 := [180, 0, 21, 51, 167, 0, 4, 2, 172]
abbrev dktX2_next_1 : List UInt8 := dkwX2_next_1 ++ []
def dkwX2_next_0 : List UInt8 := [42, 180, 0, 21, 42, 180, 0, 3, 180, 0, 25, 162, 0, 18, 42, 180, 0, 3, 180, 0, 28, 42]
abbrev dktX2_next_0 : List UInt8 := dkwX2_next_0 ++ dktX2_next_1
theorem dksX2_next_0 : cX2_next.data.toList.drop 0 = dktX2_next_0 := by decide +kernel
theorem dksX2_next_1 : cX2_next.data.toList.drop 22 = dktX2_next_1 := dk_seg dksX2_next_0 22 rfl rfl
theorem dX2_next_0 : decode cX2_next 0 = .ok (.aload_n 0, 1) := dk_42 (dk_at dksX2_next_0 0 rfl rfl)
theorem dX2_next_1 : decode cX2_next 1 = .ok (.getfield 21, 3) := dk_180 0 21 (dk_at dksX2_next_0 1 rfl rfl)
theorem dX2_next_4 : decode cX2_next 4 = .ok (.aload_n 0, 1) := dk_42 (dk_at dksX2_next_0 4 rfl rfl)
theorem dX2_next_5 : decode cX2_next 5 = .ok (.getfield 3, 3) := dk_180 0 3 (dk_at dksX2_next_0 5 rfl rfl)
theorem dX2_next_8 : decode cX2_next 8 = .ok (.getfield 25, 3) := dk_180 0 25 (dk_at dksX2_next_0 8 rfl rfl)
theorem dX2_next_11 : decode cX2_next 11 = .ok (.if_icmp .ge 18, 3) := dk_162 0 18 (dk_at dksX2_next_0 11 rfl rfl)
theorem dX2_next_14 : decode cX2_next 14 = .ok (.aload_n 0, 1) := dk_42 (dk_at dksX2_next_0 14 rfl rfl)
theorem dX2_next_15 : decode cX2_next 15 = .ok (.getfield 3, 3) := dk_180 0 3 (dk_at dksX2_next_0 15 rfl rfl)
theorem dX2_next_18 : decode cX2_next 18 = .ok (.getfield 28, 3) := dk_180 0 28 (dk_at dksX2_next_0 18 rfl rfl)
theorem dX2_next_21 : decode cX2_next 21 = .ok (.aload_n 0, 1) := dk_42 (dk_at dksX2_next_0 21 rfl rfl)
theorem dX2_next_22 : decode cX2_next 22 = .ok (.getfield 21, 3) := dk_180 0 21 (dk_at dksX2_next_1 0 rfl rfl)
theorem dX2_next_25 : decode cX2_next 25 = .ok (.baload, 1) := dk_51 (dk_at dksX2_next_1 3 rfl rfl)
theorem dX2_next_26 : decode cX2_next 26 = .ok (.goto 4, 3) := dk_167 0 4 (dk_at dksX2_next_1 4 rfl rfl)
theorem dX2_next_29 : decode cX2_next 29 = .ok (.iconst (-1), 1) := dk_2 (dk_at dksX2_next_1 7 rfl rfl)
theorem dX2_next_30 : decode cX2_next 30 = .ok (.ireturn, 1) := dk_172 (dk_at dksX2_next_1 8 rfl rfl)
abbrev cX2_second : ByteArray := prog_12_method_3_code
def yX2_second : MethodName := ⟨RX2, "second", "()I"⟩
def dkwX2_second_1 : List UInt8 := [180, 0, 21, 4, 96, 51, 167, 0, 4, 2, 172]
abbrev dktX2_second_1 : List UInt8 := dkwX2_second_1 ++ []
def dkwX2_second_0 : List UInt8 := [42, 180, 0, 21, 4, 96, 42, 180, 0, 3, 180, 0, 25, 162, 0, 20, 42, 180, 0, 3, 180, 0, 28, 42]
abbrev dktX2_second_0 : List UInt8 := dkwX2_second_0 ++ dktX2_second_1
theorem dksX2_second_0 : cX2_second.data.toList.drop 0 = dktX2_second_0 := by decide +kernel
theorem dksX2_second_1 : cX2_second.data.toList.drop 24 = dktX2_second_1 := dk_seg dksX2_second_0 24 rfl rfl
theorem dX2_second_0 : decode cX2_second 0 = .ok (.aload_n 0, 1) := dk_42 (dk_at dksX2_second_0 0 rfl rfl)
theorem dX2_second_1 : decode cX2_second 1 = .ok (.getfield 21, 3) := dk_180 0 21 (dk_at dksX2_second_0 1 rfl rfl)
theorem dX2_second_4 : decode cX2_second 4 = .ok (.iconst 1, 1) := dk_4 (dk_at dksX2_second_0 4 rfl rfl)
theorem dX2_second_5 : decode cX2_second 5 = .ok (.iadd, 1) := dk_96 (dk_at dksX2_second_0 5 rfl rfl)
theorem dX2_second_6 : decode cX2_second 6 = .ok (.aload_n 0, 1) := dk_42 (dk_at dksX2_second_0 6 rfl rfl)
theorem dX2_second_7 : decode cX2_second 7 = .ok (.getfield 3, 3) := dk_180 0 3 (dk_at dksX2_second_0 7 rfl rfl)
theorem dX2_second_10 : decode cX2_second 10 = .ok (.getfield 25, 3) := dk_180 0 25 (dk_at dksX2_second_0 10 rfl rfl)
theorem dX2_second_13 : decode cX2_second 13 = .ok (.if_icmp .ge 20, 3) := dk_162 0 20 (dk_at dksX2_second_0 13 rfl rfl)
theorem dX2_second_16 : decode cX2_second 16 = .ok (.aload_n 0, 1) := dk_42 (dk_at dksX2_second_0 16 rfl rfl)
theorem dX2_second_17 : decode cX2_second 17 = .ok (.getfield 3, 3) := dk_180 0 3 (dk_at dksX2_second_0 17 rfl rfl)
theorem dX2_second_20 : decode cX2_second 20 = .ok (.getfield 28, 3) := dk_180 0 28 (dk_at dksX2_second_0 20 rfl rfl)
theorem dX2_second_23 : decode cX2_second 23 = .ok (.aload_n 0, 1) := dk_42 (dk_at dksX2_second_0 23 rfl rfl)
theorem dX2_second_24 : decode cX2_second 24 = .ok (.getfield 21, 3) := dk_180 0 21 (dk_at dksX2_second_1 0 rfl rfl)
theorem dX2_second_27 : decode cX2_second 27 = .ok (.iconst 1, 1) := dk_4 (dk_at dksX2_second_1 3 rfl rfl)
theorem dX2_second_28 : decode cX2_second 28 = .ok (.iadd, 1) := dk_96 (dk_at dksX2_second_1 4 rfl rfl)
theorem dX2_second_29 : decode cX2_second 29 = .ok (.baload, 1) := dk_51 (dk_at dksX2_second_1 5 rfl rfl)
theorem dX2_second_30 : decode cX2_second 30 = .ok (.goto 4, 3) := dk_167 0 4 (dk_at dksX2_second_1 6 rfl rfl)
theorem dX2_second_33 : decode cX2_second 33 = .ok (.iconst (-1), 1) := dk_2 (dk_at dksX2_second_1 9 rfl rfl)
theorem dX2_second_34 : decode cX2_second 34 = .ok (.ireturn, 1) := dk_172 (dk_at dksX2_second_1 10 rfl rfl)
abbrev cX2_sign : ByteArray := prog_12_method_4_code
def yX2_sign : MethodName := ⟨RX2, "sign", "(I)V"⟩
def dkwX2_sign_1 : List UInt8 := [180, 0, 21, 4, 96, 181, 0, 21, 177]
abbrev dktX2_sign_1 : List UInt8 := dkwX2_sign_1 ++ []
def dkwX2_sign_0 : List UInt8 := [42, 182, 0, 32, 27, 159, 0, 15, 187, 0, 36, 89, 42, 180, 0, 21, 183, 0, 38, 191, 42, 89]
abbrev dktX2_sign_0 : List UInt8 := dkwX2_sign_0 ++ dktX2_sign_1
theorem dksX2_sign_0 : cX2_sign.data.toList.drop 0 = dktX2_sign_0 := by decide +kernel
theorem dksX2_sign_1 : cX2_sign.data.toList.drop 22 = dktX2_sign_1 := dk_seg dksX2_sign_0 22 rfl rfl
theorem dX2_sign_0 : decode cX2_sign 0 = .ok (.aload_n 0, 1) := dk_42 (dk_at dksX2_sign_0 0 rfl rfl)
theorem dX2_sign_1 : decode cX2_sign 1 = .ok (.invokevirtual 32, 3) := dk_182 0 32 (dk_at dksX2_sign_0 1 rfl rfl)
theorem dX2_sign_4 : decode cX2_sign 4 = .ok (.iload_n 1, 1) := dk_27 (dk_at dksX2_sign_0 4 rfl rfl)
theorem dX2_sign_5 : decode cX2_sign 5 = .ok (.if_icmp .eq 15, 3) := dk_159 0 15 (dk_at dksX2_sign_0 5 rfl rfl)
theorem dX2_sign_8 : decode cX2_sign 8 = .ok (.new 36, 3) := dk_187 0 36 (dk_at dksX2_sign_0 8 rfl rfl)
theorem dX2_sign_11 : decode cX2_sign 11 = .ok (.dup, 1) := dk_89 (dk_at dksX2_sign_0 11 rfl rfl)
theorem dX2_sign_12 : decode cX2_sign 12 = .ok (.aload_n 0, 1) := dk_42 (dk_at dksX2_sign_0 12 rfl rfl)
theorem dX2_sign_13 : decode cX2_sign 13 = .ok (.getfield 21, 3) := dk_180 0 21 (dk_at dksX2_sign_0 13 rfl rfl)
theorem dX2_sign_16 : decode cX2_sign 16 = .ok (.invokespecial 38, 3) := dk_183 0 38 (dk_at dksX2_sign_0 16 rfl rfl)
theorem dX2_sign_19 : decode cX2_sign 19 = .ok (.athrow, 1) := dk_191 (dk_at dksX2_sign_0 19 rfl rfl)
theorem dX2_sign_20 : decode cX2_sign 20 = .ok (.aload_n 0, 1) := dk_42 (dk_at dksX2_sign_0 20 rfl rfl)
theorem dX2_sign_21 : decode cX2_sign 21 = .ok (.dup, 1) := dk_89 (dk_at dksX2_sign_0 21 rfl rfl)
theorem dX2_sign_22 : decode cX2_sign 22 = .ok (.getfield 21, 3) := dk_180 0 21 (dk_at dksX2_sign_1 0 rfl rfl)
theorem dX2_sign_25 : decode cX2_sign 25 = .ok (.iconst 1, 1) := dk_4 (dk_at dksX2_sign_1 3 rfl rfl)
theorem dX2_sign_26 : decode cX2_sign 26 = .ok (.iadd, 1) := dk_96 (dk_at dksX2_sign_1 4 rfl rfl)
theorem dX2_sign_27 : decode cX2_sign 27 = .ok (.putfield 21, 3) := dk_181 0 21 (dk_at dksX2_sign_1 5 rfl rfl)
theorem dX2_sign_30 : decode cX2_sign 30 = .ok (.return_, 1) := dk_177 (dk_at dksX2_sign_1 8 rfl rfl)
abbrev cX2_number : ByteArray := prog_12_method_7_code
def yX2_number : MethodName := ⟨RX2, "number", "()I"⟩
def dkwX2_number_4 : List UInt8 := [90, 4, 96, 181, 0, 21, 51, 96, 16, 48, 100, 167, 0, 4, 27, 172]
abbrev dktX2_number_4 : List UInt8 := dkwX2_number_4 ++ []
def dkwX2_number_3 : List UInt8 := [182, 0, 32, 16, 57, 163, 0, 33, 16, 10, 27, 104, 42, 180, 0, 3, 180, 0, 28, 42, 89, 180, 0, 21]
abbrev dktX2_number_3 : List UInt8 := dkwX2_number_3 ++ dktX2_number_4
def dkwX2_number_2 : List UInt8 := [181, 0, 21, 51, 16, 48, 100, 60, 27, 158, 0, 51, 42, 182, 0, 32, 16, 48, 161, 0, 42, 42]
abbrev dktX2_number_2 : List UInt8 := dkwX2_number_2 ++ dktX2_number_3
def dkwX2_number_1 : List UInt8 := [180, 0, 21, 183, 0, 38, 191, 42, 180, 0, 3, 180, 0, 28, 42, 89, 180, 0, 21, 90, 4, 96]
abbrev dktX2_number_1 : List UInt8 := dkwX2_number_1 ++ dktX2_number_2
def dkwX2_number_0 : List UInt8 := [42, 182, 0, 32, 16, 48, 161, 0, 12, 42, 182, 0, 32, 16, 57, 164, 0, 15, 187, 0, 36, 89, 42]
abbrev dktX2_number_0 : List UInt8 := dkwX2_number_0 ++ dktX2_number_1
theorem dksX2_number_0 : cX2_number.data.toList.drop 0 = dktX2_number_0 := by decide +kernel
theorem dksX2_number_1 : cX2_number.data.toList.drop 23 = dktX2_number_1 := dk_seg dksX2_number_0 23 rfl rfl
theorem dksX2_number_2 : cX2_number.data.toList.drop 45 = dktX2_number_2 := dk_seg dksX2_number_1 22 rfl rfl
theorem dksX2_number_3 : cX2_number.data.toList.drop 67 = dktX2_number_3 := dk_seg dksX2_number_2 22 rfl rfl
theorem dksX2_number_4 : cX2_number.data.toList.drop 91 = dktX2_number_4 := dk_seg dksX2_number_3 24 rfl rfl
theorem dX2_number_0 : decode cX2_number 0 = .ok (.aload_n 0, 1) := dk_42 (dk_at dksX2_number_0 0 rfl rfl)
theorem dX2_number_1 : decode cX2_number 1 = .ok (.invokevirtual 32, 3) := dk_182 0 32 (dk_at dksX2_number_0 1 rfl rfl)
theorem dX2_number_4 : decode cX2_number 4 = .ok (.bipush 48, 2) := dk_16 48 (dk_at dksX2_number_0 4 rfl rfl)
theorem dX2_number_6 : decode cX2_number 6 = .ok (.if_icmp .lt 12, 3) := dk_161 0 12 (dk_at dksX2_number_0 6 rfl rfl)
theorem dX2_number_9 : decode cX2_number 9 = .ok (.aload_n 0, 1) := dk_42 (dk_at dksX2_number_0 9 rfl rfl)
theorem dX2_number_10 : decode cX2_number 10 = .ok (.invokevirtual 32, 3) := dk_182 0 32 (dk_at dksX2_number_0 10 rfl rfl)
theorem dX2_number_13 : decode cX2_number 13 = .ok (.bipush 57, 2) := dk_16 57 (dk_at dksX2_number_0 13 rfl rfl)
theorem dX2_number_15 : decode cX2_number 15 = .ok (.if_icmp .le 15, 3) := dk_164 0 15 (dk_at dksX2_number_0 15 rfl rfl)
theorem dX2_number_18 : decode cX2_number 18 = .ok (.new 36, 3) := dk_187 0 36 (dk_at dksX2_number_0 18 rfl rfl)
theorem dX2_number_21 : decode cX2_number 21 = .ok (.dup, 1) := dk_89 (dk_at dksX2_number_0 21 rfl rfl)
theorem dX2_number_22 : decode cX2_number 22 = .ok (.aload_n 0, 1) := dk_42 (dk_at dksX2_number_0 22 rfl rfl)
theorem dX2_number_23 : decode cX2_number 23 = .ok (.getfield 21, 3) := dk_180 0 21 (dk_at dksX2_number_1 0 rfl rfl)
theorem dX2_number_26 : decode cX2_number 26 = .ok (.invokespecial 38, 3) := dk_183 0 38 (dk_at dksX2_number_1 3 rfl rfl)
theorem dX2_number_29 : decode cX2_number 29 = .ok (.athrow, 1) := dk_191 (dk_at dksX2_number_1 6 rfl rfl)
theorem dX2_number_30 : decode cX2_number 30 = .ok (.aload_n 0, 1) := dk_42 (dk_at dksX2_number_1 7 rfl rfl)
theorem dX2_number_31 : decode cX2_number 31 = .ok (.getfield 3, 3) := dk_180 0 3 (dk_at dksX2_number_1 8 rfl rfl)
theorem dX2_number_34 : decode cX2_number 34 = .ok (.getfield 28, 3) := dk_180 0 28 (dk_at dksX2_number_1 11 rfl rfl)
theorem dX2_number_37 : decode cX2_number 37 = .ok (.aload_n 0, 1) := dk_42 (dk_at dksX2_number_1 14 rfl rfl)
theorem dX2_number_38 : decode cX2_number 38 = .ok (.dup, 1) := dk_89 (dk_at dksX2_number_1 15 rfl rfl)
theorem dX2_number_39 : decode cX2_number 39 = .ok (.getfield 21, 3) := dk_180 0 21 (dk_at dksX2_number_1 16 rfl rfl)
theorem dX2_number_42 : decode cX2_number 42 = .ok (.dup_x1, 1) := dk_90 (dk_at dksX2_number_1 19 rfl rfl)
theorem dX2_number_43 : decode cX2_number 43 = .ok (.iconst 1, 1) := dk_4 (dk_at dksX2_number_1 20 rfl rfl)
theorem dX2_number_44 : decode cX2_number 44 = .ok (.iadd, 1) := dk_96 (dk_at dksX2_number_1 21 rfl rfl)
theorem dX2_number_45 : decode cX2_number 45 = .ok (.putfield 21, 3) := dk_181 0 21 (dk_at dksX2_number_2 0 rfl rfl)
theorem dX2_number_48 : decode cX2_number 48 = .ok (.baload, 1) := dk_51 (dk_at dksX2_number_2 3 rfl rfl)
theorem dX2_number_49 : decode cX2_number 49 = .ok (.bipush 48, 2) := dk_16 48 (dk_at dksX2_number_2 4 rfl rfl)
theorem dX2_number_51 : decode cX2_number 51 = .ok (.isub, 1) := dk_100 (dk_at dksX2_number_2 6 rfl rfl)
theorem dX2_number_52 : decode cX2_number 52 = .ok (.istore_n 1, 1) := dk_60 (dk_at dksX2_number_2 7 rfl rfl)
theorem dX2_number_53 : decode cX2_number 53 = .ok (.iload_n 1, 1) := dk_27 (dk_at dksX2_number_2 8 rfl rfl)
theorem dX2_number_54 : decode cX2_number 54 = .ok (.ifCond .le 51, 3) := dk_158 0 51 (dk_at dksX2_number_2 9 rfl rfl)
theorem dX2_number_57 : decode cX2_number 57 = .ok (.aload_n 0, 1) := dk_42 (dk_at dksX2_number_2 12 rfl rfl)
theorem dX2_number_58 : decode cX2_number 58 = .ok (.invokevirtual 32, 3) := dk_182 0 32 (dk_at dksX2_number_2 13 rfl rfl)
theorem dX2_number_61 : decode cX2_number 61 = .ok (.bipush 48, 2) := dk_16 48 (dk_at dksX2_number_2 16 rfl rfl)
theorem dX2_number_63 : decode cX2_number 63 = .ok (.if_icmp .lt 42, 3) := dk_161 0 42 (dk_at dksX2_number_2 18 rfl rfl)
theorem dX2_number_66 : decode cX2_number 66 = .ok (.aload_n 0, 1) := dk_42 (dk_at dksX2_number_2 21 rfl rfl)
theorem dX2_number_67 : decode cX2_number 67 = .ok (.invokevirtual 32, 3) := dk_182 0 32 (dk_at dksX2_number_3 0 rfl rfl)
theorem dX2_number_70 : decode cX2_number 70 = .ok (.bipush 57, 2) := dk_16 57 (dk_at dksX2_number_3 3 rfl rfl)
theorem dX2_number_72 : decode cX2_number 72 = .ok (.if_icmp .gt 33, 3) := dk_163 0 33 (dk_at dksX2_number_3 5 rfl rfl)
theorem dX2_number_75 : decode cX2_number 75 = .ok (.bipush 10, 2) := dk_16 10 (dk_at dksX2_number_3 8 rfl rfl)
theorem dX2_number_77 : decode cX2_number 77 = .ok (.iload_n 1, 1) := dk_27 (dk_at dksX2_number_3 10 rfl rfl)
theorem dX2_number_78 : decode cX2_number 78 = .ok (.imul, 1) := dk_104 (dk_at dksX2_number_3 11 rfl rfl)
theorem dX2_number_79 : decode cX2_number 79 = .ok (.aload_n 0, 1) := dk_42 (dk_at dksX2_number_3 12 rfl rfl)
theorem dX2_number_80 : decode cX2_number 80 = .ok (.getfield 3, 3) := dk_180 0 3 (dk_at dksX2_number_3 13 rfl rfl)
theorem dX2_number_83 : decode cX2_number 83 = .ok (.getfield 28, 3) := dk_180 0 28 (dk_at dksX2_number_3 16 rfl rfl)
theorem dX2_number_86 : decode cX2_number 86 = .ok (.aload_n 0, 1) := dk_42 (dk_at dksX2_number_3 19 rfl rfl)
theorem dX2_number_87 : decode cX2_number 87 = .ok (.dup, 1) := dk_89 (dk_at dksX2_number_3 20 rfl rfl)
theorem dX2_number_88 : decode cX2_number 88 = .ok (.getfield 21, 3) := dk_180 0 21 (dk_at dksX2_number_3 21 rfl rfl)
theorem dX2_number_91 : decode cX2_number 91 = .ok (.dup_x1, 1) := dk_90 (dk_at dksX2_number_4 0 rfl rfl)
theorem dX2_number_92 : decode cX2_number 92 = .ok (.iconst 1, 1) := dk_4 (dk_at dksX2_number_4 1 rfl rfl)
theorem dX2_number_93 : decode cX2_number 93 = .ok (.iadd, 1) := dk_96 (dk_at dksX2_number_4 2 rfl rfl)
theorem dX2_number_94 : decode cX2_number 94 = .ok (.putfield 21, 3) := dk_181 0 21 (dk_at dksX2_number_4 3 rfl rfl)
theorem dX2_number_97 : decode cX2_number 97 = .ok (.baload, 1) := dk_51 (dk_at dksX2_number_4 6 rfl rfl)
theorem dX2_number_98 : decode cX2_number 98 = .ok (.iadd, 1) := dk_96 (dk_at dksX2_number_4 7 rfl rfl)
theorem dX2_number_99 : decode cX2_number 99 = .ok (.bipush 48, 2) := dk_16 48 (dk_at dksX2_number_4 8 rfl rfl)
theorem dX2_number_101 : decode cX2_number 101 = .ok (.isub, 1) := dk_100 (dk_at dksX2_number_4 10 rfl rfl)
theorem dX2_number_102 : decode cX2_number 102 = .ok (.goto 4, 3) := dk_167 0 4 (dk_at dksX2_number_4 11 rfl rfl)
theorem dX2_number_105 : decode cX2_number 105 = .ok (.iload_n 1, 1) := dk_27 (dk_at dksX2_number_4 14 rfl rfl)
theorem dX2_number_106 : decode cX2_number 106 = .ok (.ireturn, 1) := dk_172 (dk_at dksX2_number_4 15 rfl rfl)
abbrev cX2_some : ByteArray := prog_12_method_11_code
def yX2_some : MethodName := ⟨RX2, "some", "()LFewerMan$Test;"⟩
def dkwX2_some_1 : List UInt8 := [187, 0, 76, 89, 43, 42, 182, 0, 81, 3, 183, 0, 78, 76, 167, 255, 223, 43, 176]
abbrev dktX2_some_1 : List UInt8 := dkwX2_some_1 ++ []
def dkwX2_some_0 : List UInt8 := [42, 182, 0, 81, 76, 42, 182, 0, 32, 16, 124, 160, 0, 30, 42, 89, 180, 0, 21, 4, 96, 181, 0, 21]
abbrev dktX2_some_0 : List UInt8 := dkwX2_some_0 ++ dktX2_some_1
theorem dksX2_some_0 : cX2_some.data.toList.drop 0 = dktX2_some_0 := by decide +kernel
theorem dksX2_some_1 : cX2_some.data.toList.drop 24 = dktX2_some_1 := dk_seg dksX2_some_0 24 rfl rfl
theorem dX2_some_0 : decode cX2_some 0 = .ok (.aload_n 0, 1) := dk_42 (dk_at dksX2_some_0 0 rfl rfl)
theorem dX2_some_1 : decode cX2_some 1 = .ok (.invokevirtual 81, 3) := dk_182 0 81 (dk_at dksX2_some_0 1 rfl rfl)
theorem dX2_some_4 : decode cX2_some 4 = .ok (.astore_n 1, 1) := dk_76 (dk_at dksX2_some_0 4 rfl rfl)
theorem dX2_some_5 : decode cX2_some 5 = .ok (.aload_n 0, 1) := dk_42 (dk_at dksX2_some_0 5 rfl rfl)
theorem dX2_some_6 : decode cX2_some 6 = .ok (.invokevirtual 32, 3) := dk_182 0 32 (dk_at dksX2_some_0 6 rfl rfl)
theorem dX2_some_9 : decode cX2_some 9 = .ok (.bipush 124, 2) := dk_16 124 (dk_at dksX2_some_0 9 rfl rfl)
theorem dX2_some_11 : decode cX2_some 11 = .ok (.if_icmp .ne 30, 3) := dk_160 0 30 (dk_at dksX2_some_0 11 rfl rfl)
theorem dX2_some_14 : decode cX2_some 14 = .ok (.aload_n 0, 1) := dk_42 (dk_at dksX2_some_0 14 rfl rfl)
theorem dX2_some_15 : decode cX2_some 15 = .ok (.dup, 1) := dk_89 (dk_at dksX2_some_0 15 rfl rfl)
theorem dX2_some_16 : decode cX2_some 16 = .ok (.getfield 21, 3) := dk_180 0 21 (dk_at dksX2_some_0 16 rfl rfl)
theorem dX2_some_19 : decode cX2_some 19 = .ok (.iconst 1, 1) := dk_4 (dk_at dksX2_some_0 19 rfl rfl)
theorem dX2_some_20 : decode cX2_some 20 = .ok (.iadd, 1) := dk_96 (dk_at dksX2_some_0 20 rfl rfl)
theorem dX2_some_21 : decode cX2_some 21 = .ok (.putfield 21, 3) := dk_181 0 21 (dk_at dksX2_some_0 21 rfl rfl)
theorem dX2_some_24 : decode cX2_some 24 = .ok (.new 76, 3) := dk_187 0 76 (dk_at dksX2_some_1 0 rfl rfl)
theorem dX2_some_27 : decode cX2_some 27 = .ok (.dup, 1) := dk_89 (dk_at dksX2_some_1 3 rfl rfl)
theorem dX2_some_28 : decode cX2_some 28 = .ok (.aload_n 1, 1) := dk_43 (dk_at dksX2_some_1 4 rfl rfl)
theorem dX2_some_29 : decode cX2_some 29 = .ok (.aload_n 0, 1) := dk_42 (dk_at dksX2_some_1 5 rfl rfl)
theorem dX2_some_30 : decode cX2_some 30 = .ok (.invokevirtual 81, 3) := dk_182 0 81 (dk_at dksX2_some_1 6 rfl rfl)
theorem dX2_some_33 : decode cX2_some 33 = .ok (.iconst 0, 1) := dk_3 (dk_at dksX2_some_1 9 rfl rfl)
theorem dX2_some_34 : decode cX2_some 34 = .ok (.invokespecial 78, 3) := dk_183 0 78 (dk_at dksX2_some_1 10 rfl rfl)
theorem dX2_some_37 : decode cX2_some 37 = .ok (.astore_n 1, 1) := dk_76 (dk_at dksX2_some_1 13 rfl rfl)
theorem dX2_some_38 : decode cX2_some 38 = .ok (.goto (-33), 3) := dk_167 255 223 (dk_at dksX2_some_1 14 rfl rfl)
theorem dX2_some_41 : decode cX2_some 41 = .ok (.aload_n 1, 1) := dk_43 (dk_at dksX2_some_1 17 rfl rfl)
theorem dX2_some_42 : decode cX2_some 42 = .ok (.areturn, 1) := dk_176 (dk_at dksX2_some_1 18 rfl rfl)
abbrev cX2_both : ByteArray := prog_12_method_10_code
def yX2_both : MethodName := ⟨RX2, "both", "()LFewerMan$Test;"⟩
def dkwX2_both_1 : List UInt8 := [187, 0, 76, 89, 43, 42, 182, 0, 56, 4, 183, 0, 78, 76, 167, 255, 223, 43, 176]
abbrev dktX2_both_1 : List UInt8 := dkwX2_both_1 ++ []
def dkwX2_both_0 : List UInt8 := [42, 182, 0, 56, 76, 42, 182, 0, 32, 16, 38, 160, 0, 30, 42, 89, 180, 0, 21, 4, 96, 181, 0, 21]
abbrev dktX2_both_0 : List UInt8 := dkwX2_both_0 ++ dktX2_both_1
theorem dksX2_both_0 : cX2_both.data.toList.drop 0 = dktX2_both_0 := by decide +kernel
theorem dksX2_both_1 : cX2_both.data.toList.drop 24 = dktX2_both_1 := dk_seg dksX2_both_0 24 rfl rfl
theorem dX2_both_0 : decode cX2_both 0 = .ok (.aload_n 0, 1) := dk_42 (dk_at dksX2_both_0 0 rfl rfl)
theorem dX2_both_1 : decode cX2_both 1 = .ok (.invokevirtual 56, 3) := dk_182 0 56 (dk_at dksX2_both_0 1 rfl rfl)
theorem dX2_both_4 : decode cX2_both 4 = .ok (.astore_n 1, 1) := dk_76 (dk_at dksX2_both_0 4 rfl rfl)
theorem dX2_both_5 : decode cX2_both 5 = .ok (.aload_n 0, 1) := dk_42 (dk_at dksX2_both_0 5 rfl rfl)
theorem dX2_both_6 : decode cX2_both 6 = .ok (.invokevirtual 32, 3) := dk_182 0 32 (dk_at dksX2_both_0 6 rfl rfl)
theorem dX2_both_9 : decode cX2_both 9 = .ok (.bipush 38, 2) := dk_16 38 (dk_at dksX2_both_0 9 rfl rfl)
theorem dX2_both_11 : decode cX2_both 11 = .ok (.if_icmp .ne 30, 3) := dk_160 0 30 (dk_at dksX2_both_0 11 rfl rfl)
theorem dX2_both_14 : decode cX2_both 14 = .ok (.aload_n 0, 1) := dk_42 (dk_at dksX2_both_0 14 rfl rfl)
theorem dX2_both_15 : decode cX2_both 15 = .ok (.dup, 1) := dk_89 (dk_at dksX2_both_0 15 rfl rfl)
theorem dX2_both_16 : decode cX2_both 16 = .ok (.getfield 21, 3) := dk_180 0 21 (dk_at dksX2_both_0 16 rfl rfl)
theorem dX2_both_19 : decode cX2_both 19 = .ok (.iconst 1, 1) := dk_4 (dk_at dksX2_both_0 19 rfl rfl)
theorem dX2_both_20 : decode cX2_both 20 = .ok (.iadd, 1) := dk_96 (dk_at dksX2_both_0 20 rfl rfl)
theorem dX2_both_21 : decode cX2_both 21 = .ok (.putfield 21, 3) := dk_181 0 21 (dk_at dksX2_both_0 21 rfl rfl)
theorem dX2_both_24 : decode cX2_both 24 = .ok (.new 76, 3) := dk_187 0 76 (dk_at dksX2_both_1 0 rfl rfl)
theorem dX2_both_27 : decode cX2_both 27 = .ok (.dup, 1) := dk_89 (dk_at dksX2_both_1 3 rfl rfl)
theorem dX2_both_28 : decode cX2_both 28 = .ok (.aload_n 1, 1) := dk_43 (dk_at dksX2_both_1 4 rfl rfl)
theorem dX2_both_29 : decode cX2_both 29 = .ok (.aload_n 0, 1) := dk_42 (dk_at dksX2_both_1 5 rfl rfl)
theorem dX2_both_30 : decode cX2_both 30 = .ok (.invokevirtual 56, 3) := dk_182 0 56 (dk_at dksX2_both_1 6 rfl rfl)
theorem dX2_both_33 : decode cX2_both 33 = .ok (.iconst 1, 1) := dk_4 (dk_at dksX2_both_1 9 rfl rfl)
theorem dX2_both_34 : decode cX2_both 34 = .ok (.invokespecial 78, 3) := dk_183 0 78 (dk_at dksX2_both_1 10 rfl rfl)
theorem dX2_both_37 : decode cX2_both 37 = .ok (.astore_n 1, 1) := dk_76 (dk_at dksX2_both_1 13 rfl rfl)
theorem dX2_both_38 : decode cX2_both 38 = .ok (.goto (-33), 3) := dk_167 255 223 (dk_at dksX2_both_1 14 rfl rfl)
theorem dX2_both_41 : decode cX2_both 41 = .ok (.aload_n 1, 1) := dk_43 (dk_at dksX2_both_1 17 rfl rfl)
theorem dX2_both_42 : decode cX2_both 42 = .ok (.areturn, 1) := dk_176 (dk_at dksX2_both_1 18 rfl rfl)
abbrev cX2_fact : ByteArray := prog_12_method_9_code
def yX2_fact : MethodName := ⟨RX2, "fact", "()LFewerMan$Test;"⟩
def dkwX2_fact_7 : List UInt8 := [21, 4, 42, 182, 0, 70, 183, 0, 73, 176, 187, 0, 36, 89, 42, 180, 0, 21, 183, 0, 38, 191]
abbrev dktX2_fact_7 : List UInt8 := dkwX2_fact_7 ++ []
def dkwX2_fact_6 : List UInt8 := [89, 42, 180, 0, 21, 183, 0, 38, 191, 42, 89, 180, 0, 21, 4, 96, 181, 0, 21, 187, 0, 68, 89, 27]
abbrev dktX2_fact_6 : List UInt8 := dkwX2_fact_6 ++ dktX2_fact_7
def dkwX2_fact_5 : List UInt8 := [21, 4, 16, 60, 159, 0, 29, 21, 4, 16, 61, 159, 0, 22, 21, 4, 16, 62, 159, 0, 15, 187, 0, 36]
abbrev dktX2_fact_5 : List UInt8 := dkwX2_fact_5 ++ dktX2_fact_6
def dkwX2_fact_4 : List UInt8 := [4, 100, 181, 0, 50, 45, 176, 42, 89, 180, 0, 21, 4, 96, 181, 0, 21, 42, 182, 0, 32, 54, 4]
abbrev dktX2_fact_4 : List UInt8 := dkwX2_fact_4 ++ dktX2_fact_5
def dkwX2_fact_3 : List UInt8 := [183, 0, 62, 176, 42, 182, 0, 53, 42, 182, 0, 65, 78, 42, 16, 41, 182, 0, 47, 42, 89, 180, 0, 50]
abbrev dktX2_fact_3 : List UInt8 := dkwX2_fact_3 ++ dktX2_fact_4
def dkwX2_fact_2 : List UInt8 := [42, 182, 0, 53, 42, 182, 0, 56, 77, 42, 89, 180, 0, 50, 4, 100, 181, 0, 50, 187, 0, 60, 89, 44]
abbrev dktX2_fact_2 : List UInt8 := dkwX2_fact_2 ++ dktX2_fact_3
def dkwX2_fact_1 : List UInt8 := [171, 0, 0, 0, 0, 195, 0, 0, 0, 7, 0, 0, 0, 33, 0, 0, 0, 66, 0, 0, 0, 40, 0, 0, 0, 94, 0, 0, 0, 103, 0, 0, 0, 121, 0, 0, 0, 107, 0, 0, 0, 121, 0, 0, 0, 109, 0, 0, 0, 121, 0, 0, 0, 111, 0, 0, 0, 121, 0, 0, 0, 112, 0, 0, 0, 121]
abbrev dktX2_fact_1 : List UInt8 := dkwX2_fact_1 ++ dktX2_fact_2
def dkwX2_fact_0 : List UInt8 := [42, 182, 0, 32, 60, 27]
abbrev dktX2_fact_0 : List UInt8 := dkwX2_fact_0 ++ dktX2_fact_1
theorem dksX2_fact_0 : cX2_fact.data.toList.drop 0 = dktX2_fact_0 := by decide +kernel
theorem dksX2_fact_1 : cX2_fact.data.toList.drop 6 = dktX2_fact_1 := dk_seg dksX2_fact_0 6 rfl rfl
theorem dksX2_fact_2 : cX2_fact.data.toList.drop 72 = dktX2_fact_2 := dk_seg dksX2_fact_1 66 rfl rfl
theorem dksX2_fact_3 : cX2_fact.data.toList.drop 96 = dktX2_fact_3 := dk_seg dksX2_fact_2 24 rfl rfl
theorem dksX2_fact_4 : cX2_fact.data.toList.drop 120 = dktX2_fact_4 := dk_seg dksX2_fact_3 24 rfl rfl
theorem dksX2_fact_5 : cX2_fact.data.toList.drop 143 = dktX2_fact_5 := dk_seg dksX2_fact_4 23 rfl rfl
theorem dksX2_fact_6 : cX2_fact.data.toList.drop 167 = dktX2_fact_6 := dk_seg dksX2_fact_5 24 rfl rfl
theorem dksX2_fact_7 : cX2_fact.data.toList.drop 191 = dktX2_fact_7 := dk_seg dksX2_fact_6 24 rfl rfl
theorem dX2_fact_0 : decode cX2_fact 0 = .ok (.aload_n 0, 1) := dk_42 (dk_at dksX2_fact_0 0 rfl rfl)
theorem dX2_fact_1 : decode cX2_fact 1 = .ok (.invokevirtual 32, 3) := dk_182 0 32 (dk_at dksX2_fact_0 1 rfl rfl)
theorem dX2_fact_4 : decode cX2_fact 4 = .ok (.istore_n 1, 1) := dk_60 (dk_at dksX2_fact_0 4 rfl rfl)
theorem dX2_fact_5 : decode cX2_fact 5 = .ok (.iload_n 1, 1) := dk_27 (dk_at dksX2_fact_0 5 rfl rfl)
theorem dX2_fact_6 : decode cX2_fact 6 = .ok (.lookupswitch 195 #[(33, 66), (40, 94), (103, 121), (107, 121), (109, 121), (111, 121), (112, 121)], 66) := by decide +kernel
theorem dX2_fact_72 : decode cX2_fact 72 = .ok (.aload_n 0, 1) := dk_42 (dk_at dksX2_fact_2 0 rfl rfl)
theorem dX2_fact_73 : decode cX2_fact 73 = .ok (.invokevirtual 53, 3) := dk_182 0 53 (dk_at dksX2_fact_2 1 rfl rfl)
theorem dX2_fact_76 : decode cX2_fact 76 = .ok (.aload_n 0, 1) := dk_42 (dk_at dksX2_fact_2 4 rfl rfl)
theorem dX2_fact_77 : decode cX2_fact 77 = .ok (.invokevirtual 56, 3) := dk_182 0 56 (dk_at dksX2_fact_2 5 rfl rfl)
theorem dX2_fact_80 : decode cX2_fact 80 = .ok (.astore_n 2, 1) := dk_77 (dk_at dksX2_fact_2 8 rfl rfl)
theorem dX2_fact_81 : decode cX2_fact 81 = .ok (.aload_n 0, 1) := dk_42 (dk_at dksX2_fact_2 9 rfl rfl)
theorem dX2_fact_82 : decode cX2_fact 82 = .ok (.dup, 1) := dk_89 (dk_at dksX2_fact_2 10 rfl rfl)
theorem dX2_fact_83 : decode cX2_fact 83 = .ok (.getfield 50, 3) := dk_180 0 50 (dk_at dksX2_fact_2 11 rfl rfl)
theorem dX2_fact_86 : decode cX2_fact 86 = .ok (.iconst 1, 1) := dk_4 (dk_at dksX2_fact_2 14 rfl rfl)
theorem dX2_fact_87 : decode cX2_fact 87 = .ok (.isub, 1) := dk_100 (dk_at dksX2_fact_2 15 rfl rfl)
theorem dX2_fact_88 : decode cX2_fact 88 = .ok (.putfield 50, 3) := dk_181 0 50 (dk_at dksX2_fact_2 16 rfl rfl)
theorem dX2_fact_91 : decode cX2_fact 91 = .ok (.new 60, 3) := dk_187 0 60 (dk_at dksX2_fact_2 19 rfl rfl)
theorem dX2_fact_94 : decode cX2_fact 94 = .ok (.dup, 1) := dk_89 (dk_at dksX2_fact_2 22 rfl rfl)
theorem dX2_fact_95 : decode cX2_fact 95 = .ok (.aload_n 2, 1) := dk_44 (dk_at dksX2_fact_2 23 rfl rfl)
theorem dX2_fact_96 : decode cX2_fact 96 = .ok (.invokespecial 62, 3) := dk_183 0 62 (dk_at dksX2_fact_3 0 rfl rfl)
theorem dX2_fact_99 : decode cX2_fact 99 = .ok (.areturn, 1) := dk_176 (dk_at dksX2_fact_3 3 rfl rfl)
theorem dX2_fact_100 : decode cX2_fact 100 = .ok (.aload_n 0, 1) := dk_42 (dk_at dksX2_fact_3 4 rfl rfl)
theorem dX2_fact_101 : decode cX2_fact 101 = .ok (.invokevirtual 53, 3) := dk_182 0 53 (dk_at dksX2_fact_3 5 rfl rfl)
theorem dX2_fact_104 : decode cX2_fact 104 = .ok (.aload_n 0, 1) := dk_42 (dk_at dksX2_fact_3 8 rfl rfl)
theorem dX2_fact_105 : decode cX2_fact 105 = .ok (.invokevirtual 65, 3) := dk_182 0 65 (dk_at dksX2_fact_3 9 rfl rfl)
theorem dX2_fact_108 : decode cX2_fact 108 = .ok (.astore_n 3, 1) := dk_78 (dk_at dksX2_fact_3 12 rfl rfl)
theorem dX2_fact_109 : decode cX2_fact 109 = .ok (.aload_n 0, 1) := dk_42 (dk_at dksX2_fact_3 13 rfl rfl)
theorem dX2_fact_110 : decode cX2_fact 110 = .ok (.bipush 41, 2) := dk_16 41 (dk_at dksX2_fact_3 14 rfl rfl)
theorem dX2_fact_112 : decode cX2_fact 112 = .ok (.invokevirtual 47, 3) := dk_182 0 47 (dk_at dksX2_fact_3 16 rfl rfl)
theorem dX2_fact_115 : decode cX2_fact 115 = .ok (.aload_n 0, 1) := dk_42 (dk_at dksX2_fact_3 19 rfl rfl)
theorem dX2_fact_116 : decode cX2_fact 116 = .ok (.dup, 1) := dk_89 (dk_at dksX2_fact_3 20 rfl rfl)
theorem dX2_fact_117 : decode cX2_fact 117 = .ok (.getfield 50, 3) := dk_180 0 50 (dk_at dksX2_fact_3 21 rfl rfl)
theorem dX2_fact_120 : decode cX2_fact 120 = .ok (.iconst 1, 1) := dk_4 (dk_at dksX2_fact_4 0 rfl rfl)
theorem dX2_fact_121 : decode cX2_fact 121 = .ok (.isub, 1) := dk_100 (dk_at dksX2_fact_4 1 rfl rfl)
theorem dX2_fact_122 : decode cX2_fact 122 = .ok (.putfield 50, 3) := dk_181 0 50 (dk_at dksX2_fact_4 2 rfl rfl)
theorem dX2_fact_125 : decode cX2_fact 125 = .ok (.aload_n 3, 1) := dk_45 (dk_at dksX2_fact_4 5 rfl rfl)
theorem dX2_fact_126 : decode cX2_fact 126 = .ok (.areturn, 1) := dk_176 (dk_at dksX2_fact_4 6 rfl rfl)
theorem dX2_fact_127 : decode cX2_fact 127 = .ok (.aload_n 0, 1) := dk_42 (dk_at dksX2_fact_4 7 rfl rfl)
theorem dX2_fact_128 : decode cX2_fact 128 = .ok (.dup, 1) := dk_89 (dk_at dksX2_fact_4 8 rfl rfl)
theorem dX2_fact_129 : decode cX2_fact 129 = .ok (.getfield 21, 3) := dk_180 0 21 (dk_at dksX2_fact_4 9 rfl rfl)
theorem dX2_fact_132 : decode cX2_fact 132 = .ok (.iconst 1, 1) := dk_4 (dk_at dksX2_fact_4 12 rfl rfl)
theorem dX2_fact_133 : decode cX2_fact 133 = .ok (.iadd, 1) := dk_96 (dk_at dksX2_fact_4 13 rfl rfl)
theorem dX2_fact_134 : decode cX2_fact 134 = .ok (.putfield 21, 3) := dk_181 0 21 (dk_at dksX2_fact_4 14 rfl rfl)
theorem dX2_fact_137 : decode cX2_fact 137 = .ok (.aload_n 0, 1) := dk_42 (dk_at dksX2_fact_4 17 rfl rfl)
theorem dX2_fact_138 : decode cX2_fact 138 = .ok (.invokevirtual 32, 3) := dk_182 0 32 (dk_at dksX2_fact_4 18 rfl rfl)
theorem dX2_fact_141 : decode cX2_fact 141 = .ok (.istore 4, 2) := dk_54 4 (dk_at dksX2_fact_4 21 rfl rfl)
theorem dX2_fact_143 : decode cX2_fact 143 = .ok (.iload 4, 2) := dk_21 4 (dk_at dksX2_fact_5 0 rfl rfl)
theorem dX2_fact_145 : decode cX2_fact 145 = .ok (.bipush 60, 2) := dk_16 60 (dk_at dksX2_fact_5 2 rfl rfl)
theorem dX2_fact_147 : decode cX2_fact 147 = .ok (.if_icmp .eq 29, 3) := dk_159 0 29 (dk_at dksX2_fact_5 4 rfl rfl)
theorem dX2_fact_150 : decode cX2_fact 150 = .ok (.iload 4, 2) := dk_21 4 (dk_at dksX2_fact_5 7 rfl rfl)
theorem dX2_fact_152 : decode cX2_fact 152 = .ok (.bipush 61, 2) := dk_16 61 (dk_at dksX2_fact_5 9 rfl rfl)
theorem dX2_fact_154 : decode cX2_fact 154 = .ok (.if_icmp .eq 22, 3) := dk_159 0 22 (dk_at dksX2_fact_5 11 rfl rfl)
theorem dX2_fact_157 : decode cX2_fact 157 = .ok (.iload 4, 2) := dk_21 4 (dk_at dksX2_fact_5 14 rfl rfl)
theorem dX2_fact_159 : decode cX2_fact 159 = .ok (.bipush 62, 2) := dk_16 62 (dk_at dksX2_fact_5 16 rfl rfl)
theorem dX2_fact_161 : decode cX2_fact 161 = .ok (.if_icmp .eq 15, 3) := dk_159 0 15 (dk_at dksX2_fact_5 18 rfl rfl)
theorem dX2_fact_164 : decode cX2_fact 164 = .ok (.new 36, 3) := dk_187 0 36 (dk_at dksX2_fact_5 21 rfl rfl)
theorem dX2_fact_167 : decode cX2_fact 167 = .ok (.dup, 1) := dk_89 (dk_at dksX2_fact_6 0 rfl rfl)
theorem dX2_fact_168 : decode cX2_fact 168 = .ok (.aload_n 0, 1) := dk_42 (dk_at dksX2_fact_6 1 rfl rfl)
theorem dX2_fact_169 : decode cX2_fact 169 = .ok (.getfield 21, 3) := dk_180 0 21 (dk_at dksX2_fact_6 2 rfl rfl)
theorem dX2_fact_172 : decode cX2_fact 172 = .ok (.invokespecial 38, 3) := dk_183 0 38 (dk_at dksX2_fact_6 5 rfl rfl)
theorem dX2_fact_175 : decode cX2_fact 175 = .ok (.athrow, 1) := dk_191 (dk_at dksX2_fact_6 8 rfl rfl)
theorem dX2_fact_176 : decode cX2_fact 176 = .ok (.aload_n 0, 1) := dk_42 (dk_at dksX2_fact_6 9 rfl rfl)
theorem dX2_fact_177 : decode cX2_fact 177 = .ok (.dup, 1) := dk_89 (dk_at dksX2_fact_6 10 rfl rfl)
theorem dX2_fact_178 : decode cX2_fact 178 = .ok (.getfield 21, 3) := dk_180 0 21 (dk_at dksX2_fact_6 11 rfl rfl)
theorem dX2_fact_181 : decode cX2_fact 181 = .ok (.iconst 1, 1) := dk_4 (dk_at dksX2_fact_6 14 rfl rfl)
theorem dX2_fact_182 : decode cX2_fact 182 = .ok (.iadd, 1) := dk_96 (dk_at dksX2_fact_6 15 rfl rfl)
theorem dX2_fact_183 : decode cX2_fact 183 = .ok (.putfield 21, 3) := dk_181 0 21 (dk_at dksX2_fact_6 16 rfl rfl)
theorem dX2_fact_186 : decode cX2_fact 186 = .ok (.new 68, 3) := dk_187 0 68 (dk_at dksX2_fact_6 19 rfl rfl)
theorem dX2_fact_189 : decode cX2_fact 189 = .ok (.dup, 1) := dk_89 (dk_at dksX2_fact_6 22 rfl rfl)
theorem dX2_fact_190 : decode cX2_fact 190 = .ok (.iload_n 1, 1) := dk_27 (dk_at dksX2_fact_6 23 rfl rfl)
theorem dX2_fact_191 : decode cX2_fact 191 = .ok (.iload 4, 2) := dk_21 4 (dk_at dksX2_fact_7 0 rfl rfl)
theorem dX2_fact_193 : decode cX2_fact 193 = .ok (.aload_n 0, 1) := dk_42 (dk_at dksX2_fact_7 2 rfl rfl)
theorem dX2_fact_194 : decode cX2_fact 194 = .ok (.invokevirtual 70, 3) := dk_182 0 70 (dk_at dksX2_fact_7 3 rfl rfl)
theorem dX2_fact_197 : decode cX2_fact 197 = .ok (.invokespecial 73, 3) := dk_183 0 73 (dk_at dksX2_fact_7 6 rfl rfl)
theorem dX2_fact_200 : decode cX2_fact 200 = .ok (.areturn, 1) := dk_176 (dk_at dksX2_fact_7 9 rfl rfl)
theorem dX2_fact_201 : decode cX2_fact 201 = .ok (.new 36, 3) := dk_187 0 36 (dk_at dksX2_fact_7 10 rfl rfl)
theorem dX2_fact_204 : decode cX2_fact 204 = .ok (.dup, 1) := dk_89 (dk_at dksX2_fact_7 13 rfl rfl)
theorem dX2_fact_205 : decode cX2_fact 205 = .ok (.aload_n 0, 1) := dk_42 (dk_at dksX2_fact_7 14 rfl rfl)
theorem dX2_fact_206 : decode cX2_fact 206 = .ok (.getfield 21, 3) := dk_180 0 21 (dk_at dksX2_fact_7 15 rfl rfl)
theorem dX2_fact_209 : decode cX2_fact 209 = .ok (.invokespecial 38, 3) := dk_183 0 38 (dk_at dksX2_fact_7 18 rfl rfl)
theorem dX2_fact_212 : decode cX2_fact 212 = .ok (.athrow, 1) := dk_191 (dk_at dksX2_fact_7 21 rfl rfl)
abbrev cX2_opens : ByteArray := prog_12_method_8_code
def yX2_opens : MethodName := ⟨RX2, "opens", "()V"⟩
def dkwX2_opens_1 : List UInt8 := [180, 0, 50, 4, 96, 181, 0, 50, 42, 89, 180, 0, 21, 4, 96, 181, 0, 21, 177]
abbrev dktX2_opens_1 : List UInt8 := dkwX2_opens_1 ++ []
def dkwX2_opens_0 : List UInt8 := [42, 180, 0, 50, 8, 160, 0, 15, 187, 0, 36, 89, 42, 180, 0, 21, 183, 0, 38, 191, 42, 89]
abbrev dktX2_opens_0 : List UInt8 := dkwX2_opens_0 ++ dktX2_opens_1
theorem dksX2_opens_0 : cX2_opens.data.toList.drop 0 = dktX2_opens_0 := by decide +kernel
theorem dksX2_opens_1 : cX2_opens.data.toList.drop 22 = dktX2_opens_1 := dk_seg dksX2_opens_0 22 rfl rfl
theorem dX2_opens_0 : decode cX2_opens 0 = .ok (.aload_n 0, 1) := dk_42 (dk_at dksX2_opens_0 0 rfl rfl)
theorem dX2_opens_1 : decode cX2_opens 1 = .ok (.getfield 50, 3) := dk_180 0 50 (dk_at dksX2_opens_0 1 rfl rfl)
theorem dX2_opens_4 : decode cX2_opens 4 = .ok (.iconst 5, 1) := dk_8 (dk_at dksX2_opens_0 4 rfl rfl)
theorem dX2_opens_5 : decode cX2_opens 5 = .ok (.if_icmp .ne 15, 3) := dk_160 0 15 (dk_at dksX2_opens_0 5 rfl rfl)
theorem dX2_opens_8 : decode cX2_opens 8 = .ok (.new 36, 3) := dk_187 0 36 (dk_at dksX2_opens_0 8 rfl rfl)
theorem dX2_opens_11 : decode cX2_opens 11 = .ok (.dup, 1) := dk_89 (dk_at dksX2_opens_0 11 rfl rfl)
theorem dX2_opens_12 : decode cX2_opens 12 = .ok (.aload_n 0, 1) := dk_42 (dk_at dksX2_opens_0 12 rfl rfl)
theorem dX2_opens_13 : decode cX2_opens 13 = .ok (.getfield 21, 3) := dk_180 0 21 (dk_at dksX2_opens_0 13 rfl rfl)
theorem dX2_opens_16 : decode cX2_opens 16 = .ok (.invokespecial 38, 3) := dk_183 0 38 (dk_at dksX2_opens_0 16 rfl rfl)
theorem dX2_opens_19 : decode cX2_opens 19 = .ok (.athrow, 1) := dk_191 (dk_at dksX2_opens_0 19 rfl rfl)
theorem dX2_opens_20 : decode cX2_opens 20 = .ok (.aload_n 0, 1) := dk_42 (dk_at dksX2_opens_0 20 rfl rfl)
theorem dX2_opens_21 : decode cX2_opens 21 = .ok (.dup, 1) := dk_89 (dk_at dksX2_opens_0 21 rfl rfl)
theorem dX2_opens_22 : decode cX2_opens 22 = .ok (.getfield 50, 3) := dk_180 0 50 (dk_at dksX2_opens_1 0 rfl rfl)
theorem dX2_opens_25 : decode cX2_opens 25 = .ok (.iconst 1, 1) := dk_4 (dk_at dksX2_opens_1 3 rfl rfl)
theorem dX2_opens_26 : decode cX2_opens 26 = .ok (.iadd, 1) := dk_96 (dk_at dksX2_opens_1 4 rfl rfl)
theorem dX2_opens_27 : decode cX2_opens 27 = .ok (.putfield 50, 3) := dk_181 0 50 (dk_at dksX2_opens_1 5 rfl rfl)
theorem dX2_opens_30 : decode cX2_opens 30 = .ok (.aload_n 0, 1) := dk_42 (dk_at dksX2_opens_1 8 rfl rfl)
theorem dX2_opens_31 : decode cX2_opens 31 = .ok (.dup, 1) := dk_89 (dk_at dksX2_opens_1 9 rfl rfl)
theorem dX2_opens_32 : decode cX2_opens 32 = .ok (.getfield 21, 3) := dk_180 0 21 (dk_at dksX2_opens_1 10 rfl rfl)
theorem dX2_opens_35 : decode cX2_opens 35 = .ok (.iconst 1, 1) := dk_4 (dk_at dksX2_opens_1 13 rfl rfl)
theorem dX2_opens_36 : decode cX2_opens 36 = .ok (.iadd, 1) := dk_96 (dk_at dksX2_opens_1 14 rfl rfl)
theorem dX2_opens_37 : decode cX2_opens 37 = .ok (.putfield 21, 3) := dk_181 0 21 (dk_at dksX2_opens_1 15 rfl rfl)
theorem dX2_opens_40 : decode cX2_opens 40 = .ok (.return_, 1) := dk_177 (dk_at dksX2_opens_1 18 rfl rfl)
theorem q86 : (Jvm.Cond.initialized "FewerMan$Reader") ∈ lw_all := lw_g (lw_at lw_m1 6 rfl) rfl
theorem q155 : (Jvm.Cond.fieldLinkNest "FewerMan$Reader" (84 : Nat) "FewerMan$Inn" "clauses" "I" "FewerMan") ∈ lw_tbl := lw_at lw_m1 75 rfl
theorem q158 : (Jvm.Cond.fieldLinkNest "FewerMan$Reader" (92 : Nat) "FewerMan$Inn" "numbers" "[I" "FewerMan") ∈ lw_tbl := lw_at lw_m1 78 rfl
theorem q160 : (Jvm.Cond.fieldLinkNest "FewerMan$Reader" (96 : Nat) "FewerMan$Inn" "by" "[I" "FewerMan") ∈ lw_tbl := lw_at lw_m1 80 rfl
theorem q162 : (Jvm.Cond.fieldLinkNest "FewerMan$Reader" (99 : Nat) "FewerMan$Inn" "tests" "Ljava/util/ArrayList;" "FewerMan") ∈ lw_tbl := lw_at lw_m1 82 rfl
theorem q173 : (Jvm.Cond.instantiable "FewerMan$Reader" (4 : Nat)) ∈ lw_all := lw_g (lw_at lw_m1 93 rfl) rfl
theorem q175 : (Jvm.Cond.instanceMethod ({ cls := "FewerMan$Reader", name := "<init>", desc := "(LFewerMan;)V" } : Jvm.MethodName)) ∈ lw_all := lw_g (lw_at lw_m1 95 rfl) rfl
theorem q176 : (Jvm.Cond.code ({ cls := "FewerMan$Reader", name := "<init>", desc := "(LFewerMan;)V" } : Jvm.MethodName) prog_12_method_1_code (2 : Nat) (Option.none : Option Jvm.ClassFile.FieldType)) ∈ lw_all := lw_g (lw_at lw_m1 96 rfl) rfl
theorem q177 : (Jvm.Cond.methodLink "FewerMan$Reader" (9 : Nat) ({ cls := "java/lang/Object", name := "<init>", desc := "()V" } : Jvm.MethodName)) ∈ lw_all := lw_g (lw_at lw_m1 97 rfl) rfl
theorem q178 : (Jvm.Cond.classLink "FewerMan$Reader" (15 : Nat) "[C") ∈ lw_all := lw_g (lw_at lw_m1 98 rfl) rfl
theorem q180 : (Jvm.Cond.fieldLink "FewerMan$Reader" (17 : Nat) "FewerMan$Reader" "heads" "[[C") ∈ lw_all := lw_g (lw_at lw_m1 100 rfl) rfl
theorem q181 : (Jvm.Cond.fieldLink "FewerMan$Reader" (21 : Nat) "FewerMan$Reader" "at" "I") ∈ lw_all := lw_g (lw_at lw_m1 101 rfl) rfl
theorem q182 : (Jvm.Cond.fieldLink "FewerMan$Reader" (50 : Nat) "FewerMan$Reader" "open" "I") ∈ lw_all := lw_g (lw_at lw_m1 102 rfl) rfl
theorem q183 : (Jvm.Cond.fieldLink "FewerMan$Reader" (3 : Nat) "FewerMan$Reader" "this$0" "LFewerMan;") ∈ lw_all := lw_g (lw_at lw_m1 103 rfl) rfl
theorem q184 : (Jvm.Cond.laysFinal "FewerMan$Reader" "FewerMan$Reader" "heads" "[[C") ∈ lw_all := lw_g (lw_at lw_m1 104 rfl) rfl
theorem q185 : (Jvm.Cond.soleField "FewerMan$Reader" "heads") ∈ lw_all := lw_g (lw_at lw_m1 105 rfl) rfl
theorem q186 : (Jvm.Cond.lays "FewerMan$Reader" "FewerMan$Reader" "at" "I") ∈ lw_all := lw_g (lw_at lw_m1 106 rfl) rfl
theorem q187 : (Jvm.Cond.soleField "FewerMan$Reader" "at") ∈ lw_all := lw_g (lw_at lw_m1 107 rfl) rfl
theorem q188 : (Jvm.Cond.lays "FewerMan$Reader" "FewerMan$Reader" "open" "I") ∈ lw_all := lw_g (lw_at lw_m1 108 rfl) rfl
theorem q189 : (Jvm.Cond.soleField "FewerMan$Reader" "open") ∈ lw_all := lw_g (lw_at lw_m1 109 rfl) rfl
theorem q190 : (Jvm.Cond.laysFinal "FewerMan$Reader" "FewerMan$Reader" "this$0" "LFewerMan;") ∈ lw_all := lw_g (lw_at lw_m1 110 rfl) rfl
theorem q191 : (Jvm.Cond.soleField "FewerMan$Reader" "this$0") ∈ lw_all := lw_g (lw_at lw_m1 111 rfl) rfl
theorem q192 : (Jvm.Cond.superclass "FewerMan$Reader" "java/lang/Object") ∈ lw_all := lw_g (lw_at lw_m1 112 rfl) rfl
theorem q224 : (Jvm.Cond.fieldLinkNest "FewerMan$Reader" (28 : Nat) "FewerMan" "tape" "[B" "FewerMan") ∈ lw_tbl := lw_at lw_m1 144 rfl
theorem q227 : (Jvm.Cond.fieldLinkNest "FewerMan$Reader" (25 : Nat) "FewerMan" "taped" "I" "FewerMan") ∈ lw_tbl := lw_at lw_m1 147 rfl
theorem q340 : (Jvm.Cond.instanceMethod ({ cls := "FewerMan$Reader", name := "read", desc := "()LFewerMan$Inn;" } : Jvm.MethodName)) ∈ lw_all := lw_g (lw_at lw_m2 20 rfl) rfl
theorem q341 : (Jvm.Cond.selects "FewerMan$Reader" ({ cls := "FewerMan$Reader", name := "read", desc := "()LFewerMan$Inn;" } : Jvm.MethodName) ({ cls := "FewerMan$Reader", name := "read", desc := "()LFewerMan$Inn;" } : Jvm.MethodName)) ∈ lw_all := lw_g (lw_at lw_m2 21 rfl) rfl
theorem q342 : (Jvm.Cond.code ({ cls := "FewerMan$Reader", name := "read", desc := "()LFewerMan$Inn;" } : Jvm.MethodName) prog_12_method_13_code (2 : Nat) (Option.some (Jvm.ClassFile.FieldType.object "FewerMan$Inn"))) ∈ lw_all := lw_g (lw_at lw_m2 22 rfl) rfl
theorem q343 : (Jvm.Cond.classLink "FewerMan$Reader" (85 : Nat) "FewerMan$Inn") ∈ lw_all := lw_g (lw_at lw_m2 23 rfl) rfl
theorem q344 : (Jvm.Cond.methodLinkNest "FewerMan$Reader" (112 : Nat) ({ cls := "FewerMan$Inn", name := "<init>", desc := "()V" } : Jvm.MethodName) "FewerMan") ∈ lw_tbl := lw_at lw_m2 24 rfl
theorem q345 : (Jvm.Cond.methodLink "FewerMan$Reader" (113 : Nat) ({ cls := "FewerMan$Reader", name := "clause", desc := "(LFewerMan$Inn;)V" } : Jvm.MethodName)) ∈ lw_all := lw_g (lw_at lw_m2 25 rfl) rfl
theorem q346 : (Jvm.Cond.privateMethod ({ cls := "FewerMan$Reader", name := "clause", desc := "(LFewerMan$Inn;)V" } : Jvm.MethodName)) ∈ lw_tbl := lw_at lw_m2 26 rfl
theorem q347 : (Jvm.Cond.instanceMethod ({ cls := "FewerMan$Reader", name := "clause", desc := "(LFewerMan$Inn;)V" } : Jvm.MethodName)) ∈ lw_all := lw_g (lw_at lw_m2 27 rfl) rfl
theorem q348 : (Jvm.Cond.code ({ cls := "FewerMan$Reader", name := "clause", desc := "(LFewerMan$Inn;)V" } : Jvm.MethodName) prog_12_method_12_code (4 : Nat) (Option.none : Option Jvm.ClassFile.FieldType)) ∈ lw_all := lw_g (lw_at lw_m2 28 rfl) rfl
theorem q349 : (Jvm.Cond.methodLink "FewerMan$Reader" (89 : Nat) ({ cls := "FewerMan$Reader", name := "head", desc := "()I" } : Jvm.MethodName)) ∈ lw_all := lw_g (lw_at lw_m2 29 rfl) rfl
theorem q350 : (Jvm.Cond.privateMethod ({ cls := "FewerMan$Reader", name := "head", desc := "()I" } : Jvm.MethodName)) ∈ lw_tbl := lw_at lw_m2 30 rfl
theorem q351 : (Jvm.Cond.instanceMethod ({ cls := "FewerMan$Reader", name := "head", desc := "()I" } : Jvm.MethodName)) ∈ lw_all := lw_g (lw_at lw_m2 31 rfl) rfl
theorem q352 : (Jvm.Cond.code ({ cls := "FewerMan$Reader", name := "head", desc := "()I" } : Jvm.MethodName) prog_12_method_6_code (6 : Nat) (Option.some Jvm.ClassFile.FieldType.int)) ∈ lw_all := lw_g (lw_at lw_m2 32 rfl) rfl
theorem q353 : (Jvm.Cond.methodLink "FewerMan$Reader" (44 : Nat) ({ cls := "FewerMan$Reader", name := "word", desc := "()I" } : Jvm.MethodName)) ∈ lw_all := lw_g (lw_at lw_m2 33 rfl) rfl
theorem q354 : (Jvm.Cond.privateMethod ({ cls := "FewerMan$Reader", name := "word", desc := "()I" } : Jvm.MethodName)) ∈ lw_tbl := lw_at lw_m2 34 rfl
theorem q355 : (Jvm.Cond.instanceMethod ({ cls := "FewerMan$Reader", name := "word", desc := "()I" } : Jvm.MethodName)) ∈ lw_all := lw_g (lw_at lw_m2 35 rfl) rfl
theorem q356 : (Jvm.Cond.code ({ cls := "FewerMan$Reader", name := "word", desc := "()I" } : Jvm.MethodName) prog_12_method_5_code (1 : Nat) (Option.some Jvm.ClassFile.FieldType.int)) ∈ lw_all := lw_g (lw_at lw_m2 36 rfl) rfl
theorem q357 : (Jvm.Cond.methodLink "FewerMan$Reader" (32 : Nat) ({ cls := "FewerMan$Reader", name := "next", desc := "()I" } : Jvm.MethodName)) ∈ lw_all := lw_g (lw_at lw_m2 37 rfl) rfl
theorem q358 : (Jvm.Cond.privateMethod ({ cls := "FewerMan$Reader", name := "next", desc := "()I" } : Jvm.MethodName)) ∈ lw_tbl := lw_at lw_m2 38 rfl
theorem q359 : (Jvm.Cond.instanceMethod ({ cls := "FewerMan$Reader", name := "next", desc := "()I" } : Jvm.MethodName)) ∈ lw_all := lw_g (lw_at lw_m2 39 rfl) rfl
theorem q360 : (Jvm.Cond.code ({ cls := "FewerMan$Reader", name := "next", desc := "()I" } : Jvm.MethodName) prog_12_method_2_code (1 : Nat) (Option.some Jvm.ClassFile.FieldType.int)) ∈ lw_all := lw_g (lw_at lw_m2 40 rfl) rfl
theorem q361 : (Jvm.Cond.methodLink "FewerMan$Reader" (41 : Nat) ({ cls := "FewerMan$Reader", name := "second", desc := "()I" } : Jvm.MethodName)) ∈ lw_all := lw_g (lw_at lw_m2 41 rfl) rfl
theorem q362 : (Jvm.Cond.privateMethod ({ cls := "FewerMan$Reader", name := "second", desc := "()I" } : Jvm.MethodName)) ∈ lw_tbl := lw_at lw_m2 42 rfl
theorem q363 : (Jvm.Cond.instanceMethod ({ cls := "FewerMan$Reader", name := "second", desc := "()I" } : Jvm.MethodName)) ∈ lw_all := lw_g (lw_at lw_m2 43 rfl) rfl
theorem q364 : (Jvm.Cond.code ({ cls := "FewerMan$Reader", name := "second", desc := "()I" } : Jvm.MethodName) prog_12_method_3_code (1 : Nat) (Option.some Jvm.ClassFile.FieldType.int)) ∈ lw_all := lw_g (lw_at lw_m2 44 rfl) rfl
theorem q365 : (Jvm.Cond.classLink "FewerMan$Reader" (36 : Nat) "FewerMan$Wrong") ∈ lw_all := lw_g (lw_at lw_m2 45 rfl) rfl
theorem q402 : (Jvm.Cond.methodLink "FewerMan$Reader" (38 : Nat) ({ cls := "FewerMan$Wrong", name := "<init>", desc := "(I)V" } : Jvm.MethodName)) ∈ lw_all := lw_g (lw_at lw_m2 82 rfl) rfl
theorem q428 : (Jvm.Cond.methodLink "FewerMan$Reader" (47 : Nat) ({ cls := "FewerMan$Reader", name := "sign", desc := "(I)V" } : Jvm.MethodName)) ∈ lw_all := lw_g (lw_at lw_m2 108 rfl) rfl
theorem q429 : (Jvm.Cond.privateMethod ({ cls := "FewerMan$Reader", name := "sign", desc := "(I)V" } : Jvm.MethodName)) ∈ lw_tbl := lw_at lw_m2 109 rfl
theorem q430 : (Jvm.Cond.instanceMethod ({ cls := "FewerMan$Reader", name := "sign", desc := "(I)V" } : Jvm.MethodName)) ∈ lw_all := lw_g (lw_at lw_m2 110 rfl) rfl
theorem q431 : (Jvm.Cond.code ({ cls := "FewerMan$Reader", name := "sign", desc := "(I)V" } : Jvm.MethodName) prog_12_method_4_code (2 : Nat) (Option.none : Option Jvm.ClassFile.FieldType)) ∈ lw_all := lw_g (lw_at lw_m2 111 rfl) rfl
theorem q432 : (Jvm.Cond.methodLink "FewerMan$Reader" (70 : Nat) ({ cls := "FewerMan$Reader", name := "number", desc := "()I" } : Jvm.MethodName)) ∈ lw_all := lw_g (lw_at lw_m2 112 rfl) rfl
theorem q433 : (Jvm.Cond.privateMethod ({ cls := "FewerMan$Reader", name := "number", desc := "()I" } : Jvm.MethodName)) ∈ lw_tbl := lw_at lw_m2 113 rfl
theorem q434 : (Jvm.Cond.instanceMethod ({ cls := "FewerMan$Reader", name := "number", desc := "()I" } : Jvm.MethodName)) ∈ lw_all := lw_g (lw_at lw_m2 114 rfl) rfl
theorem q435 : (Jvm.Cond.code ({ cls := "FewerMan$Reader", name := "number", desc := "()I" } : Jvm.MethodName) prog_12_method_7_code (2 : Nat) (Option.some Jvm.ClassFile.FieldType.int)) ∈ lw_all := lw_g (lw_at lw_m2 115 rfl) rfl
theorem q436 : (Jvm.Cond.methodLink "FewerMan$Reader" (103 : Nat) ({ cls := "java/util/ArrayList", name := "size", desc := "()I" } : Jvm.MethodName)) ∈ lw_all := lw_g (lw_at lw_m2 116 rfl) rfl
theorem q440 : (Jvm.Cond.methodLink "FewerMan$Reader" (65 : Nat) ({ cls := "FewerMan$Reader", name := "some", desc := "()LFewerMan$Test;" } : Jvm.MethodName)) ∈ lw_all := lw_g (lw_at lw_m2 120 rfl) rfl
theorem q441 : (Jvm.Cond.privateMethod ({ cls := "FewerMan$Reader", name := "some", desc := "()LFewerMan$Test;" } : Jvm.MethodName)) ∈ lw_tbl := lw_at lw_m2 121 rfl
theorem q442 : (Jvm.Cond.instanceMethod ({ cls := "FewerMan$Reader", name := "some", desc := "()LFewerMan$Test;" } : Jvm.MethodName)) ∈ lw_all := lw_g (lw_at lw_m2 122 rfl) rfl
theorem q443 : (Jvm.Cond.code ({ cls := "FewerMan$Reader", name := "some", desc := "()LFewerMan$Test;" } : Jvm.MethodName) prog_12_method_11_code (2 : Nat) (Option.some (Jvm.ClassFile.FieldType.object "FewerMan$Test"))) ∈ lw_all := lw_g (lw_at lw_m2 123 rfl) rfl
theorem q444 : (Jvm.Cond.methodLink "FewerMan$Reader" (81 : Nat) ({ cls := "FewerMan$Reader", name := "both", desc := "()LFewerMan$Test;" } : Jvm.MethodName)) ∈ lw_all := lw_g (lw_at lw_m2 124 rfl) rfl
theorem q445 : (Jvm.Cond.privateMethod ({ cls := "FewerMan$Reader", name := "both", desc := "()LFewerMan$Test;" } : Jvm.MethodName)) ∈ lw_tbl := lw_at lw_m2 125 rfl
theorem q446 : (Jvm.Cond.instanceMethod ({ cls := "FewerMan$Reader", name := "both", desc := "()LFewerMan$Test;" } : Jvm.MethodName)) ∈ lw_all := lw_g (lw_at lw_m2 126 rfl) rfl
theorem q447 : (Jvm.Cond.code ({ cls := "FewerMan$Reader", name := "both", desc := "()LFewerMan$Test;" } : Jvm.MethodName) prog_12_method_10_code (2 : Nat) (Option.some (Jvm.ClassFile.FieldType.object "FewerMan$Test"))) ∈ lw_all := lw_g (lw_at lw_m2 127 rfl) rfl
theorem q448 : (Jvm.Cond.methodLink "FewerMan$Reader" (56 : Nat) ({ cls := "FewerMan$Reader", name := "fact", desc := "()LFewerMan$Test;" } : Jvm.MethodName)) ∈ lw_all := lw_g (lw_at lw_m2 128 rfl) rfl
theorem q449 : (Jvm.Cond.privateMethod ({ cls := "FewerMan$Reader", name := "fact", desc := "()LFewerMan$Test;" } : Jvm.MethodName)) ∈ lw_tbl := lw_at lw_m2 129 rfl
theorem q450 : (Jvm.Cond.instanceMethod ({ cls := "FewerMan$Reader", name := "fact", desc := "()LFewerMan$Test;" } : Jvm.MethodName)) ∈ lw_all := lw_g (lw_at lw_m2 130 rfl) rfl
theorem q451 : (Jvm.Cond.code ({ cls := "FewerMan$Reader", name := "fact", desc := "()LFewerMan$Test;" } : Jvm.MethodName) prog_12_method_9_code (5 : Nat) (Option.some (Jvm.ClassFile.FieldType.object "FewerMan$Test"))) ∈ lw_all := lw_g (lw_at lw_m2 131 rfl) rfl
theorem q452 : (Jvm.Cond.methodLink "FewerMan$Reader" (53 : Nat) ({ cls := "FewerMan$Reader", name := "opens", desc := "()V" } : Jvm.MethodName)) ∈ lw_all := lw_g (lw_at lw_m2 132 rfl) rfl
theorem q453 : (Jvm.Cond.privateMethod ({ cls := "FewerMan$Reader", name := "opens", desc := "()V" } : Jvm.MethodName)) ∈ lw_tbl := lw_at lw_m2 133 rfl
theorem q454 : (Jvm.Cond.instanceMethod ({ cls := "FewerMan$Reader", name := "opens", desc := "()V" } : Jvm.MethodName)) ∈ lw_all := lw_g (lw_at lw_m2 134 rfl) rfl
theorem q455 : (Jvm.Cond.code ({ cls := "FewerMan$Reader", name := "opens", desc := "()V" } : Jvm.MethodName) prog_12_method_8_code (1 : Nat) (Option.none : Option Jvm.ClassFile.FieldType)) ∈ lw_all := lw_g (lw_at lw_m2 135 rfl) rfl
theorem q456 : (Jvm.Cond.classLink "FewerMan$Reader" (60 : Nat) "FewerMan$Not") ∈ lw_all := lw_g (lw_at lw_m2 136 rfl) rfl
theorem q458 : (Jvm.Cond.methodLink "FewerMan$Reader" (62 : Nat) ({ cls := "FewerMan$Not", name := "<init>", desc := "(LFewerMan$Test;)V" } : Jvm.MethodName)) ∈ lw_all := lw_g (lw_at lw_m2 138 rfl) rfl
theorem q466 : (Jvm.Cond.classLink "FewerMan$Reader" (68 : Nat) "FewerMan$Fact") ∈ lw_all := lw_g (lw_at lw_m2 146 rfl) rfl
theorem q468 : (Jvm.Cond.methodLink "FewerMan$Reader" (73 : Nat) ({ cls := "FewerMan$Fact", name := "<init>", desc := "(III)V" } : Jvm.MethodName)) ∈ lw_all := lw_g (lw_at lw_m2 148 rfl) rfl
theorem q482 : (Jvm.Cond.classLink "FewerMan$Reader" (76 : Nat) "FewerMan$Two") ∈ lw_all := lw_g (lw_at lw_m2 162 rfl) rfl
theorem q484 : (Jvm.Cond.methodLink "FewerMan$Reader" (78 : Nat) ({ cls := "FewerMan$Two", name := "<init>", desc := "(LFewerMan$Test;LFewerMan$Test;Z)V" } : Jvm.MethodName)) ∈ lw_all := lw_g (lw_at lw_m2 164 rfl) rfl
theorem q498 : (Jvm.Cond.methodLink "FewerMan$Reader" (108 : Nat) ({ cls := "java/util/ArrayList", name := "add", desc := "(Ljava/lang/Object;)Z" } : Jvm.MethodName)) ∈ lw_all := lw_g (lw_at lw_m2 178 rfl) rfl
theorem q541 : (Jvm.Cond.selects "FewerMan$Reader" ({ cls := "java/lang/Object", name := "getClass", desc := "()Ljava/lang/Class;" } : Jvm.MethodName) ({ cls := "java/lang/Object", name := "getClass", desc := "()Ljava/lang/Class;" } : Jvm.MethodName)) ∈ lw_all := lw_g (lw_at lw_m2 221 rfl) rfl
theorem q1699 : (Jvm.Cond.castable "FewerMan$Reader" "java/lang/Object") ∈ lw_tbl := lw_at lw_m7 179 rfl
theorem in_X2 : ∀ w ∈ wsX20, w ∈ lw_all := lw_in wsX20 [184, 186, 188, 190] (by decide +kernel) (by decide +kernel)

/-! FewerMan$Moment -/
set_option maxRecDepth 100000
def RX3 : String := "FewerMan$Moment"
def TX3 : u_T := fun k => match k with
  | 0 => ("FewerMan$Moment", "player", "I", false)
  | 1 => ("FewerMan$Moment", "kind", "I", false)
  | 2 => ("FewerMan$Moment", "men", "I", false)
  | 3 => ("FewerMan$Moment", "others", "I", false)
  | _ => ("FewerMan$Moment", "game", "I", false)
def tyX3 : Nat → FieldType := fun k => match k with
  | 0 => .int
  | 1 => .int
  | 2 => .int
  | 3 => .int
  | _ => .int
abbrev wsX30 : List Cond := u_ws RX3 TX3 5
theorem nmX3 : ∀ a, a < 5 → ∀ b, b < 5 → a ≠ b → (TX3 a).2.1 ≠ (TX3 b).2.1 := by decide +kernel
theorem tyX3_ok : ∀ k, k < 5 → parseFieldDescriptor (TX3 k).2.2.1 = some (tyX3 k) := by decide +kernel
abbrev cX3_init : ByteArray := prog_8_method_1_code
def yX3_init : MethodName := ⟨RX3, "<init>", "()V"⟩
theorem dX3_init_0 : decode cX3_init 0 = .ok (.aload_n 0, 1) := by decide +kernel
theorem dX3_init_1 : decode cX3_init 1 = .ok (.invokespecial 1, 3) := by decide +kernel
theorem dX3_init_4 : decode cX3_init 4 = .ok (.return_, 1) := by decide +kernel
abbrev cX3_fact : ByteArray := prog_8_method_2_code
def yX3_fact : MethodName := ⟨RX3, "fact", "(I)I"⟩
def dkwX3_fact_3 : List UInt8 := [172]
abbrev dktX3_fact_3 : List UInt8 := dkwX3_fact_3 ++ []
def dkwX3_fact_2 : List UInt8 := [42, 180, 0, 7, 172, 42, 180, 0, 13, 172, 42, 180, 0, 16, 172, 42, 180, 0, 19, 172, 42, 180, 0, 22]
abbrev dktX3_fact_2 : List UInt8 := dkwX3_fact_2 ++ dktX3_fact_3
def dkwX3_fact_1 : List UInt8 := [170, 0, 0, 0, 0, 0, 59, 0, 0, 0, 107, 0, 0, 0, 112, 0, 0, 0, 44, 0, 0, 0, 59, 0, 0, 0, 49, 0, 0, 0, 59, 0, 0, 0, 54, 0, 0, 0, 39]
abbrev dktX3_fact_1 : List UInt8 := dkwX3_fact_1 ++ dktX3_fact_2
def dkwX3_fact_0 : List UInt8 := [27]
abbrev dktX3_fact_0 : List UInt8 := dkwX3_fact_0 ++ dktX3_fact_1
theorem dksX3_fact_0 : cX3_fact.data.toList.drop 0 = dktX3_fact_0 := by decide +kernel
theorem dksX3_fact_1 : cX3_fact.data.toList.drop 1 = dktX3_fact_1 := dk_seg dksX3_fact_0 1 rfl rfl
theorem dksX3_fact_2 : cX3_fact.data.toList.drop 40 = dktX3_fact_2 := dk_seg dksX3_fact_1 39 rfl rfl
theorem dksX3_fact_3 : cX3_fact.data.toList.drop 64 = dktX3_fact_3 := dk_seg dksX3_fact_2 24 rfl rfl
theorem dX3_fact_0 : decode cX3_fact 0 = .ok (.iload_n 1, 1) := dk_27 (dk_at dksX3_fact_0 0 rfl rfl)
theorem dX3_fact_1 : decode cX3_fact 1 = .ok (.tableswitch 59 107 112 #[44, 59, 49, 59, 54, 39], 39) := by decide +kernel
theorem dX3_fact_40 : decode cX3_fact 40 = .ok (.aload_n 0, 1) := dk_42 (dk_at dksX3_fact_2 0 rfl rfl)
theorem dX3_fact_41 : decode cX3_fact 41 = .ok (.getfield 7, 3) := dk_180 0 7 (dk_at dksX3_fact_2 1 rfl rfl)
theorem dX3_fact_44 : decode cX3_fact 44 = .ok (.ireturn, 1) := dk_172 (dk_at dksX3_fact_2 4 rfl rfl)
theorem dX3_fact_45 : decode cX3_fact 45 = .ok (.aload_n 0, 1) := dk_42 (dk_at dksX3_fact_2 5 rfl rfl)
theorem dX3_fact_46 : decode cX3_fact 46 = .ok (.getfield 13, 3) := dk_180 0 13 (dk_at dksX3_fact_2 6 rfl rfl)
theorem dX3_fact_49 : decode cX3_fact 49 = .ok (.ireturn, 1) := dk_172 (dk_at dksX3_fact_2 9 rfl rfl)
theorem dX3_fact_50 : decode cX3_fact 50 = .ok (.aload_n 0, 1) := dk_42 (dk_at dksX3_fact_2 10 rfl rfl)
theorem dX3_fact_51 : decode cX3_fact 51 = .ok (.getfield 16, 3) := dk_180 0 16 (dk_at dksX3_fact_2 11 rfl rfl)
theorem dX3_fact_54 : decode cX3_fact 54 = .ok (.ireturn, 1) := dk_172 (dk_at dksX3_fact_2 14 rfl rfl)
theorem dX3_fact_55 : decode cX3_fact 55 = .ok (.aload_n 0, 1) := dk_42 (dk_at dksX3_fact_2 15 rfl rfl)
theorem dX3_fact_56 : decode cX3_fact 56 = .ok (.getfield 19, 3) := dk_180 0 19 (dk_at dksX3_fact_2 16 rfl rfl)
theorem dX3_fact_59 : decode cX3_fact 59 = .ok (.ireturn, 1) := dk_172 (dk_at dksX3_fact_2 19 rfl rfl)
theorem dX3_fact_60 : decode cX3_fact 60 = .ok (.aload_n 0, 1) := dk_42 (dk_at dksX3_fact_2 20 rfl rfl)
theorem dX3_fact_61 : decode cX3_fact 61 = .ok (.getfield 22, 3) := dk_180 0 22 (dk_at dksX3_fact_2 21 rfl rfl)
theorem dX3_fact_64 : decode cX3_fact 64 = .ok (.ireturn, 1) := dk_172 (dk_at dksX3_fact_3 0 rfl rfl)
theorem q87 : (Jvm.Cond.initialized "FewerMan$Moment") ∈ lw_all := lw_g (lw_at lw_m1 7 rfl) rfl
theorem q195 : (Jvm.Cond.instantiable "FewerMan$Moment" (5 : Nat)) ∈ lw_all := lw_g (lw_at lw_m1 115 rfl) rfl
theorem q197 : (Jvm.Cond.instanceMethod ({ cls := "FewerMan$Moment", name := "<init>", desc := "()V" } : Jvm.MethodName)) ∈ lw_all := lw_g (lw_at lw_m1 117 rfl) rfl
theorem q198 : (Jvm.Cond.code ({ cls := "FewerMan$Moment", name := "<init>", desc := "()V" } : Jvm.MethodName) prog_8_method_1_code (1 : Nat) (Option.none : Option Jvm.ClassFile.FieldType)) ∈ lw_all := lw_g (lw_at lw_m1 118 rfl) rfl
theorem q199 : (Jvm.Cond.methodLink "FewerMan$Moment" (1 : Nat) ({ cls := "java/lang/Object", name := "<init>", desc := "()V" } : Jvm.MethodName)) ∈ lw_all := lw_g (lw_at lw_m1 119 rfl) rfl
theorem q200 : (Jvm.Cond.fieldLink "FewerMan$Moment" (7 : Nat) "FewerMan$Moment" "player" "I") ∈ lw_all := lw_g (lw_at lw_m1 120 rfl) rfl
theorem q202 : (Jvm.Cond.fieldLink "FewerMan$Moment" (13 : Nat) "FewerMan$Moment" "kind" "I") ∈ lw_all := lw_g (lw_at lw_m1 122 rfl) rfl
theorem q204 : (Jvm.Cond.fieldLink "FewerMan$Moment" (16 : Nat) "FewerMan$Moment" "men" "I") ∈ lw_all := lw_g (lw_at lw_m1 124 rfl) rfl
theorem q206 : (Jvm.Cond.fieldLink "FewerMan$Moment" (19 : Nat) "FewerMan$Moment" "others" "I") ∈ lw_all := lw_g (lw_at lw_m1 126 rfl) rfl
theorem q208 : (Jvm.Cond.fieldLink "FewerMan$Moment" (22 : Nat) "FewerMan$Moment" "game" "I") ∈ lw_all := lw_g (lw_at lw_m1 128 rfl) rfl
theorem q210 : (Jvm.Cond.lays "FewerMan$Moment" "FewerMan$Moment" "player" "I") ∈ lw_all := lw_g (lw_at lw_m1 130 rfl) rfl
theorem q211 : (Jvm.Cond.soleField "FewerMan$Moment" "player") ∈ lw_all := lw_g (lw_at lw_m1 131 rfl) rfl
theorem q212 : (Jvm.Cond.lays "FewerMan$Moment" "FewerMan$Moment" "kind" "I") ∈ lw_all := lw_g (lw_at lw_m1 132 rfl) rfl
theorem q213 : (Jvm.Cond.soleField "FewerMan$Moment" "kind") ∈ lw_all := lw_g (lw_at lw_m1 133 rfl) rfl
theorem q214 : (Jvm.Cond.lays "FewerMan$Moment" "FewerMan$Moment" "men" "I") ∈ lw_all := lw_g (lw_at lw_m1 134 rfl) rfl
theorem q215 : (Jvm.Cond.soleField "FewerMan$Moment" "men") ∈ lw_all := lw_g (lw_at lw_m1 135 rfl) rfl
theorem q216 : (Jvm.Cond.lays "FewerMan$Moment" "FewerMan$Moment" "others" "I") ∈ lw_all := lw_g (lw_at lw_m1 136 rfl) rfl
theorem q217 : (Jvm.Cond.soleField "FewerMan$Moment" "others") ∈ lw_all := lw_g (lw_at lw_m1 137 rfl) rfl
theorem q218 : (Jvm.Cond.lays "FewerMan$Moment" "FewerMan$Moment" "game" "I") ∈ lw_all := lw_g (lw_at lw_m1 138 rfl) rfl
theorem q219 : (Jvm.Cond.soleField "FewerMan$Moment" "game") ∈ lw_all := lw_g (lw_at lw_m1 139 rfl) rfl
theorem q220 : (Jvm.Cond.superclass "FewerMan$Moment" "java/lang/Object") ∈ lw_all := lw_g (lw_at lw_m1 140 rfl) rfl
theorem q537 : (Jvm.Cond.selects "FewerMan$Moment" ({ cls := "java/lang/Object", name := "getClass", desc := "()Ljava/lang/Class;" } : Jvm.MethodName) ({ cls := "java/lang/Object", name := "getClass", desc := "()Ljava/lang/Class;" } : Jvm.MethodName)) ∈ lw_all := lw_g (lw_at lw_m2 217 rfl) rfl
theorem q793 : (Jvm.Cond.instanceMethod ({ cls := "FewerMan$Moment", name := "fact", desc := "(I)I" } : Jvm.MethodName)) ∈ lw_all := lw_g (lw_at lw_m3 233 rfl) rfl
theorem q794 : (Jvm.Cond.selects "FewerMan$Moment" ({ cls := "FewerMan$Moment", name := "fact", desc := "(I)I" } : Jvm.MethodName) ({ cls := "FewerMan$Moment", name := "fact", desc := "(I)I" } : Jvm.MethodName)) ∈ lw_all := lw_g (lw_at lw_m3 234 rfl) rfl
theorem q795 : (Jvm.Cond.code ({ cls := "FewerMan$Moment", name := "fact", desc := "(I)I" } : Jvm.MethodName) prog_8_method_2_code (2 : Nat) (Option.some Jvm.ClassFile.FieldType.int)) ∈ lw_all := lw_g (lw_at lw_m3 235 rfl) rfl
theorem q1700 : (Jvm.Cond.castable "FewerMan$Moment" "java/lang/Object") ∈ lw_tbl := lw_at lw_m7 180 rfl
theorem in_X3 : ∀ w ∈ wsX30, w ∈ lw_all := lw_in wsX30 [210, 212, 214, 216, 218] (by decide +kernel) (by decide +kernel)

/-! FewerMan$Wrong -/
set_option maxRecDepth 100000
def RX5 : String := "FewerMan$Wrong"
def TX5 : u_T := fun k => match k with
  | 0 => ("java/lang/Throwable", "cause", "Ljava/lang/Throwable;", false)
  | 1 => ("java/lang/Throwable", "stackTrace", "[Ljava/lang/StackTraceElement;", false)
  | 2 => ("java/lang/Throwable", "suppressedExceptions", "Ljava/util/List;", false)
  | 3 => ("java/lang/Throwable", "detailMessage", "Ljava/lang/String;", false)
  | 4 => ("java/lang/Throwable", "backtrace", "Ljava/lang/Object;", false)
  | 5 => ("java/lang/Throwable", "depth", "I", false)
  | _ => ("FewerMan$Wrong", "place", "I", true)
def tyX5 : Nat → FieldType := fun k => match k with
  | 0 => .object "java/lang/Throwable"
  | 1 => .array (.object "java/lang/StackTraceElement")
  | 2 => .object "java/util/List"
  | 3 => .object "java/lang/String"
  | 4 => .object "java/lang/Object"
  | 5 => .int
  | _ => .int
abbrev wsX50 : List Cond := u_ws RX5 TX5 7
theorem nmX5 : ∀ a, a < 7 → ∀ b, b < 7 → a ≠ b → (TX5 a).2.1 ≠ (TX5 b).2.1 := by decide +kernel
theorem tyX5_ok : ∀ k, k < 7 → parseFieldDescriptor (TX5 k).2.2.1 = some (tyX5 k) := by decide +kernel
abbrev cX5_init : ByteArray := prog_17_method_1_code
def yX5_init : MethodName := ⟨RX5, "<init>", "(I)V"⟩
def dkwX5_init_0 : List UInt8 := [42, 1, 1, 3, 3, 183, 0, 1, 42, 27, 181, 0, 7, 177]
abbrev dktX5_init_0 : List UInt8 := dkwX5_init_0 ++ []
theorem dksX5_init_0 : cX5_init.data.toList.drop 0 = dktX5_init_0 := by decide +kernel
theorem dX5_init_0 : decode cX5_init 0 = .ok (.aload_n 0, 1) := dk_42 (dk_at dksX5_init_0 0 rfl rfl)
theorem dX5_init_1 : decode cX5_init 1 = .ok (.aconst_null, 1) := dk_1 (dk_at dksX5_init_0 1 rfl rfl)
theorem dX5_init_2 : decode cX5_init 2 = .ok (.aconst_null, 1) := dk_1 (dk_at dksX5_init_0 2 rfl rfl)
theorem dX5_init_3 : decode cX5_init 3 = .ok (.iconst 0, 1) := dk_3 (dk_at dksX5_init_0 3 rfl rfl)
theorem dX5_init_4 : decode cX5_init 4 = .ok (.iconst 0, 1) := dk_3 (dk_at dksX5_init_0 4 rfl rfl)
theorem dX5_init_5 : decode cX5_init 5 = .ok (.invokespecial 1, 3) := dk_183 0 1 (dk_at dksX5_init_0 5 rfl rfl)
theorem dX5_init_8 : decode cX5_init 8 = .ok (.aload_n 0, 1) := dk_42 (dk_at dksX5_init_0 8 rfl rfl)
theorem dX5_init_9 : decode cX5_init 9 = .ok (.iload_n 1, 1) := dk_27 (dk_at dksX5_init_0 9 rfl rfl)
theorem dX5_init_10 : decode cX5_init 10 = .ok (.putfield 7, 3) := dk_181 0 7 (dk_at dksX5_init_0 10 rfl rfl)
theorem dX5_init_13 : decode cX5_init 13 = .ok (.return_, 1) := dk_177 (dk_at dksX5_init_0 13 rfl rfl)
theorem q91 : (Jvm.Cond.initialized "FewerMan$Wrong") ∈ lw_all := lw_g (lw_at lw_m1 11 rfl) rfl
theorem q366 : (Jvm.Cond.instantiable "FewerMan$Wrong" (7 : Nat)) ∈ lw_all := lw_g (lw_at lw_m2 46 rfl) rfl
theorem q367 : (Jvm.Cond.castable "FewerMan$Wrong" "FewerMan$Wrong") ∈ lw_tbl := lw_at lw_m2 47 rfl
theorem q372 : (Jvm.Cond.selects "FewerMan$Wrong" ({ cls := "java/lang/Throwable", name := "fillInStackTrace", desc := "(I)Ljava/lang/Throwable;" } : Jvm.MethodName) ({ cls := "java/lang/Throwable", name := "fillInStackTrace", desc := "(I)Ljava/lang/Throwable;" } : Jvm.MethodName)) ∈ lw_all := lw_g (lw_at lw_m2 52 rfl) rfl
theorem q373 : (Jvm.Cond.selects "FewerMan$Wrong" ({ cls := "java/lang/Throwable", name := "fillInStackTrace", desc := "()Ljava/lang/Throwable;" } : Jvm.MethodName) ({ cls := "java/lang/Throwable", name := "fillInStackTrace", desc := "()Ljava/lang/Throwable;" } : Jvm.MethodName)) ∈ lw_all := lw_g (lw_at lw_m2 53 rfl) rfl
theorem q374 : (Jvm.Cond.lays "FewerMan$Wrong" "java/lang/Throwable" "cause" "Ljava/lang/Throwable;") ∈ lw_all := lw_g (lw_at lw_m2 54 rfl) rfl
theorem q376 : (Jvm.Cond.lays "FewerMan$Wrong" "java/lang/Throwable" "stackTrace" "[Ljava/lang/StackTraceElement;") ∈ lw_all := lw_g (lw_at lw_m2 56 rfl) rfl
theorem q378 : (Jvm.Cond.lays "FewerMan$Wrong" "java/lang/Throwable" "suppressedExceptions" "Ljava/util/List;") ∈ lw_all := lw_g (lw_at lw_m2 58 rfl) rfl
theorem q380 : (Jvm.Cond.lays "FewerMan$Wrong" "java/lang/Throwable" "detailMessage" "Ljava/lang/String;") ∈ lw_all := lw_g (lw_at lw_m2 60 rfl) rfl
theorem q382 : (Jvm.Cond.lays "FewerMan$Wrong" "java/lang/Throwable" "backtrace" "Ljava/lang/Object;") ∈ lw_all := lw_g (lw_at lw_m2 62 rfl) rfl
theorem q403 : (Jvm.Cond.instanceMethod ({ cls := "FewerMan$Wrong", name := "<init>", desc := "(I)V" } : Jvm.MethodName)) ∈ lw_all := lw_g (lw_at lw_m2 83 rfl) rfl
theorem q404 : (Jvm.Cond.code ({ cls := "FewerMan$Wrong", name := "<init>", desc := "(I)V" } : Jvm.MethodName) prog_17_method_1_code (2 : Nat) (Option.none : Option Jvm.ClassFile.FieldType)) ∈ lw_all := lw_g (lw_at lw_m2 84 rfl) rfl
theorem q405 : (Jvm.Cond.methodLink "FewerMan$Wrong" (1 : Nat) ({ cls := "java/lang/Exception", name := "<init>", desc := "(Ljava/lang/String;Ljava/lang/Throwable;ZZ)V" } : Jvm.MethodName)) ∈ lw_all := lw_g (lw_at lw_m2 85 rfl) rfl
theorem q411 : (Jvm.Cond.fieldLink "FewerMan$Wrong" (7 : Nat) "FewerMan$Wrong" "place" "I") ∈ lw_all := lw_g (lw_at lw_m2 91 rfl) rfl
theorem q418 : (Jvm.Cond.laysFinal "FewerMan$Wrong" "FewerMan$Wrong" "place" "I") ∈ lw_all := lw_g (lw_at lw_m2 98 rfl) rfl
theorem q419 : (Jvm.Cond.soleField "FewerMan$Wrong" "place") ∈ lw_all := lw_g (lw_at lw_m2 99 rfl) rfl
theorem q424 : (Jvm.Cond.lays "FewerMan$Wrong" "java/lang/Throwable" "depth" "I") ∈ lw_all := lw_g (lw_at lw_m2 104 rfl) rfl
theorem q427 : (Jvm.Cond.superclass "FewerMan$Wrong" "java/lang/Exception") ∈ lw_all := lw_g (lw_at lw_m2 107 rfl) rfl
theorem q545 : (Jvm.Cond.selects "FewerMan$Wrong" ({ cls := "java/lang/Object", name := "getClass", desc := "()Ljava/lang/Class;" } : Jvm.MethodName) ({ cls := "java/lang/Object", name := "getClass", desc := "()Ljava/lang/Class;" } : Jvm.MethodName)) ∈ lw_all := lw_g (lw_at lw_m2 225 rfl) rfl
theorem q1702 : (Jvm.Cond.castable "FewerMan$Wrong" "java/lang/Object") ∈ lw_tbl := lw_at lw_m7 182 rfl
theorem in_X5 : ∀ w ∈ wsX50, w ∈ lw_all := lw_in wsX50 [374, 376, 378, 380, 382, 424, 418] (by decide +kernel) (by decide +kernel)

/-! FewerMan$Not -/
set_option maxRecDepth 100000
def RX6 : String := "FewerMan$Not"
def TX6 : u_T := fun k => match k with
  | _ => ("FewerMan$Not", "of", "LFewerMan$Test;", true)
def tyX6 : Nat → FieldType := fun k => match k with
  | _ => .object "FewerMan$Test"
abbrev wsX60 : List Cond := u_ws RX6 TX6 1
theorem nmX6 : ∀ a, a < 1 → ∀ b, b < 1 → a ≠ b → (TX6 a).2.1 ≠ (TX6 b).2.1 := by decide +kernel
theorem tyX6_ok : ∀ k, k < 1 → parseFieldDescriptor (TX6 k).2.2.1 = some (tyX6 k) := by decide +kernel
abbrev cX6_init : ByteArray := prog_9_method_1_code
def yX6_init : MethodName := ⟨RX6, "<init>", "(LFewerMan$Test;)V"⟩
def dkwX6_init_0 : List UInt8 := [42, 183, 0, 1, 42, 43, 181, 0, 7, 177]
abbrev dktX6_init_0 : List UInt8 := dkwX6_init_0 ++ []
theorem dksX6_init_0 : cX6_init.data.toList.drop 0 = dktX6_init_0 := by decide +kernel
theorem dX6_init_0 : decode cX6_init 0 = .ok (.aload_n 0, 1) := dk_42 (dk_at dksX6_init_0 0 rfl rfl)
theorem dX6_init_1 : decode cX6_init 1 = .ok (.invokespecial 1, 3) := dk_183 0 1 (dk_at dksX6_init_0 1 rfl rfl)
theorem dX6_init_4 : decode cX6_init 4 = .ok (.aload_n 0, 1) := dk_42 (dk_at dksX6_init_0 4 rfl rfl)
theorem dX6_init_5 : decode cX6_init 5 = .ok (.aload_n 1, 1) := dk_43 (dk_at dksX6_init_0 5 rfl rfl)
theorem dX6_init_6 : decode cX6_init 6 = .ok (.putfield 7, 3) := dk_181 0 7 (dk_at dksX6_init_0 6 rfl rfl)
theorem dX6_init_9 : decode cX6_init 9 = .ok (.return_, 1) := dk_177 (dk_at dksX6_init_0 9 rfl rfl)
abbrev cX6_holds : ByteArray := prog_9_method_2_code
def yX6_holds : MethodName := ⟨RX6, "holds", "(LFewerMan$Moment;)Z"⟩
def dkwX6_holds_0 : List UInt8 := [42, 180, 0, 7, 43, 185, 0, 13, 2, 0, 154, 0, 7, 4, 167, 0, 4, 3, 172]
abbrev dktX6_holds_0 : List UInt8 := dkwX6_holds_0 ++ []
theorem dksX6_holds_0 : cX6_holds.data.toList.drop 0 = dktX6_holds_0 := by decide +kernel
theorem dX6_holds_0 : decode cX6_holds 0 = .ok (.aload_n 0, 1) := dk_42 (dk_at dksX6_holds_0 0 rfl rfl)
theorem dX6_holds_1 : decode cX6_holds 1 = .ok (.getfield 7, 3) := dk_180 0 7 (dk_at dksX6_holds_0 1 rfl rfl)
theorem dX6_holds_4 : decode cX6_holds 4 = .ok (.aload_n 1, 1) := dk_43 (dk_at dksX6_holds_0 4 rfl rfl)
theorem dX6_holds_5 : decode cX6_holds 5 = .ok (.invokeinterface 13 2, 5) := by decide +kernel
theorem dX6_holds_10 : decode cX6_holds 10 = .ok (.ifCond .ne 7, 3) := dk_154 0 7 (dk_at dksX6_holds_0 10 rfl rfl)
theorem dX6_holds_13 : decode cX6_holds 13 = .ok (.iconst 1, 1) := dk_4 (dk_at dksX6_holds_0 13 rfl rfl)
theorem dX6_holds_14 : decode cX6_holds 14 = .ok (.goto 4, 3) := dk_167 0 4 (dk_at dksX6_holds_0 14 rfl rfl)
theorem dX6_holds_17 : decode cX6_holds 17 = .ok (.iconst 0, 1) := dk_3 (dk_at dksX6_holds_0 17 rfl rfl)
theorem dX6_holds_18 : decode cX6_holds 18 = .ok (.ireturn, 1) := dk_172 (dk_at dksX6_holds_0 18 rfl rfl)
theorem q92 : (Jvm.Cond.initialized "FewerMan$Not") ∈ lw_all := lw_g (lw_at lw_m1 12 rfl) rfl
theorem q457 : (Jvm.Cond.instantiable "FewerMan$Not" (1 : Nat)) ∈ lw_all := lw_g (lw_at lw_m2 137 rfl) rfl
theorem q459 : (Jvm.Cond.instanceMethod ({ cls := "FewerMan$Not", name := "<init>", desc := "(LFewerMan$Test;)V" } : Jvm.MethodName)) ∈ lw_all := lw_g (lw_at lw_m2 139 rfl) rfl
theorem q460 : (Jvm.Cond.code ({ cls := "FewerMan$Not", name := "<init>", desc := "(LFewerMan$Test;)V" } : Jvm.MethodName) prog_9_method_1_code (2 : Nat) (Option.none : Option Jvm.ClassFile.FieldType)) ∈ lw_all := lw_g (lw_at lw_m2 140 rfl) rfl
theorem q461 : (Jvm.Cond.methodLink "FewerMan$Not" (1 : Nat) ({ cls := "java/lang/Object", name := "<init>", desc := "()V" } : Jvm.MethodName)) ∈ lw_all := lw_g (lw_at lw_m2 141 rfl) rfl
theorem q462 : (Jvm.Cond.fieldLink "FewerMan$Not" (7 : Nat) "FewerMan$Not" "of" "LFewerMan$Test;") ∈ lw_all := lw_g (lw_at lw_m2 142 rfl) rfl
theorem q463 : (Jvm.Cond.laysFinal "FewerMan$Not" "FewerMan$Not" "of" "LFewerMan$Test;") ∈ lw_all := lw_g (lw_at lw_m2 143 rfl) rfl
theorem q464 : (Jvm.Cond.soleField "FewerMan$Not" "of") ∈ lw_all := lw_g (lw_at lw_m2 144 rfl) rfl
theorem q465 : (Jvm.Cond.superclass "FewerMan$Not" "java/lang/Object") ∈ lw_all := lw_g (lw_at lw_m2 145 rfl) rfl
theorem q538 : (Jvm.Cond.selects "FewerMan$Not" ({ cls := "java/lang/Object", name := "getClass", desc := "()Ljava/lang/Class;" } : Jvm.MethodName) ({ cls := "java/lang/Object", name := "getClass", desc := "()Ljava/lang/Class;" } : Jvm.MethodName)) ∈ lw_all := lw_g (lw_at lw_m2 218 rfl) rfl
theorem q796 : (Jvm.Cond.castable "FewerMan$Not" "FewerMan$Test") ∈ lw_tbl := lw_at lw_m3 236 rfl
theorem q797 : (Jvm.Cond.selects "FewerMan$Not" ({ cls := "FewerMan$Test", name := "holds", desc := "(LFewerMan$Moment;)Z" } : Jvm.MethodName) ({ cls := "FewerMan$Not", name := "holds", desc := "(LFewerMan$Moment;)Z" } : Jvm.MethodName)) ∈ lw_all := lw_g (lw_at lw_m3 237 rfl) rfl
theorem q798 : (Jvm.Cond.unhidden "FewerMan$Not" "holds" "(LFewerMan$Moment;)Z") ∈ lw_tbl := lw_at lw_m3 238 rfl
theorem q799 : (Jvm.Cond.instanceMethod ({ cls := "FewerMan$Not", name := "holds", desc := "(LFewerMan$Moment;)Z" } : Jvm.MethodName)) ∈ lw_all := lw_g (lw_at lw_m3 239 rfl) rfl
theorem q800 : (Jvm.Cond.publicMethod ({ cls := "FewerMan$Not", name := "holds", desc := "(LFewerMan$Moment;)Z" } : Jvm.MethodName)) ∈ lw_tbl := lw_at lw_m4 0 rfl
theorem q801 : (Jvm.Cond.code ({ cls := "FewerMan$Not", name := "holds", desc := "(LFewerMan$Moment;)Z" } : Jvm.MethodName) prog_9_method_2_code (2 : Nat) (Option.some Jvm.ClassFile.FieldType.boolean)) ∈ lw_all := lw_g (lw_at lw_m4 1 rfl) rfl
theorem q802 : (Jvm.Cond.interfaceEntry "FewerMan$Not" (13 : Nat)) ∈ lw_tbl := lw_at lw_m4 2 rfl
theorem q803 : (Jvm.Cond.methodLink "FewerMan$Not" (13 : Nat) ({ cls := "FewerMan$Test", name := "holds", desc := "(LFewerMan$Moment;)Z" } : Jvm.MethodName)) ∈ lw_all := lw_g (lw_at lw_m4 3 rfl) rfl
theorem q1703 : (Jvm.Cond.castable "FewerMan$Not" "java/lang/Object") ∈ lw_tbl := lw_at lw_m7 183 rfl
theorem in_X6 : ∀ w ∈ wsX60, w ∈ lw_all := lw_in wsX60 [463] (by decide +kernel) (by decide +kernel)

/-! FewerMan$Fact -/
set_option maxRecDepth 100000
def RX7 : String := "FewerMan$Fact"
def TX7 : u_T := fun k => match k with
  | 0 => ("FewerMan$Fact", "letter", "I", true)
  | 1 => ("FewerMan$Fact", "op", "I", true)
  | _ => ("FewerMan$Fact", "number", "I", true)
def tyX7 : Nat → FieldType := fun k => match k with
  | 0 => .int
  | 1 => .int
  | _ => .int
abbrev wsX70 : List Cond := u_ws RX7 TX7 3
theorem nmX7 : ∀ a, a < 3 → ∀ b, b < 3 → a ≠ b → (TX7 a).2.1 ≠ (TX7 b).2.1 := by decide +kernel
theorem tyX7_ok : ∀ k, k < 3 → parseFieldDescriptor (TX7 k).2.2.1 = some (tyX7 k) := by decide +kernel
abbrev cX7_init : ByteArray := prog_2_method_1_code
def yX7_init : MethodName := ⟨RX7, "<init>", "(III)V"⟩
def dkwX7_init_0 : List UInt8 := [42, 183, 0, 1, 42, 27, 181, 0, 7, 42, 28, 181, 0, 13, 42, 29, 181, 0, 16, 177]
abbrev dktX7_init_0 : List UInt8 := dkwX7_init_0 ++ []
theorem dksX7_init_0 : cX7_init.data.toList.drop 0 = dktX7_init_0 := by decide +kernel
theorem dX7_init_0 : decode cX7_init 0 = .ok (.aload_n 0, 1) := dk_42 (dk_at dksX7_init_0 0 rfl rfl)
theorem dX7_init_1 : decode cX7_init 1 = .ok (.invokespecial 1, 3) := dk_183 0 1 (dk_at dksX7_init_0 1 rfl rfl)
theorem dX7_init_4 : decode cX7_init 4 = .ok (.aload_n 0, 1) := dk_42 (dk_at dksX7_init_0 4 rfl rfl)
theorem dX7_init_5 : decode cX7_init 5 = .ok (.iload_n 1, 1) := dk_27 (dk_at dksX7_init_0 5 rfl rfl)
theorem dX7_init_6 : decode cX7_init 6 = .ok (.putfield 7, 3) := dk_181 0 7 (dk_at dksX7_init_0 6 rfl rfl)
theorem dX7_init_9 : decode cX7_init 9 = .ok (.aload_n 0, 1) := dk_42 (dk_at dksX7_init_0 9 rfl rfl)
theorem dX7_init_10 : decode cX7_init 10 = .ok (.iload_n 2, 1) := dk_28 (dk_at dksX7_init_0 10 rfl rfl)
theorem dX7_init_11 : decode cX7_init 11 = .ok (.putfield 13, 3) := dk_181 0 13 (dk_at dksX7_init_0 11 rfl rfl)
theorem dX7_init_14 : decode cX7_init 14 = .ok (.aload_n 0, 1) := dk_42 (dk_at dksX7_init_0 14 rfl rfl)
theorem dX7_init_15 : decode cX7_init 15 = .ok (.iload_n 3, 1) := dk_29 (dk_at dksX7_init_0 15 rfl rfl)
theorem dX7_init_16 : decode cX7_init 16 = .ok (.putfield 16, 3) := dk_181 0 16 (dk_at dksX7_init_0 16 rfl rfl)
theorem dX7_init_19 : decode cX7_init 19 = .ok (.return_, 1) := dk_177 (dk_at dksX7_init_0 19 rfl rfl)
abbrev cX7_holds : ByteArray := prog_2_method_2_code
def yX7_holds : MethodName := ⟨RX7, "holds", "(LFewerMan$Moment;)Z"⟩
def dkwX7_holds_3 : List UInt8 := [167, 0, 4, 3, 172]
abbrev dktX7_holds_3 : List UInt8 := dkwX7_holds_3 ++ []
def dkwX7_holds_2 : List UInt8 := [180, 0, 16, 160, 0, 7, 4, 167, 0, 20, 3, 167, 0, 16, 28, 42, 180, 0, 16, 164, 0, 7, 4]
abbrev dktX7_holds_2 : List UInt8 := dkwX7_holds_2 ++ dktX7_holds_3
def dkwX7_holds_1 : List UInt8 := [162, 0, 7, 4, 167, 0, 45, 3, 167, 0, 41, 42, 180, 0, 13, 16, 61, 160, 0, 19, 28, 42]
abbrev dktX7_holds_1 : List UInt8 := dkwX7_holds_1 ++ dktX7_holds_2
def dkwX7_holds_0 : List UInt8 := [43, 42, 180, 0, 7, 182, 0, 19, 61, 42, 180, 0, 13, 16, 60, 160, 0, 19, 28, 42, 180, 0, 16]
abbrev dktX7_holds_0 : List UInt8 := dkwX7_holds_0 ++ dktX7_holds_1
theorem dksX7_holds_0 : cX7_holds.data.toList.drop 0 = dktX7_holds_0 := by decide +kernel
theorem dksX7_holds_1 : cX7_holds.data.toList.drop 23 = dktX7_holds_1 := dk_seg dksX7_holds_0 23 rfl rfl
theorem dksX7_holds_2 : cX7_holds.data.toList.drop 45 = dktX7_holds_2 := dk_seg dksX7_holds_1 22 rfl rfl
theorem dksX7_holds_3 : cX7_holds.data.toList.drop 68 = dktX7_holds_3 := dk_seg dksX7_holds_2 23 rfl rfl
theorem dX7_holds_0 : decode cX7_holds 0 = .ok (.aload_n 1, 1) := dk_43 (dk_at dksX7_holds_0 0 rfl rfl)
theorem dX7_holds_1 : decode cX7_holds 1 = .ok (.aload_n 0, 1) := dk_42 (dk_at dksX7_holds_0 1 rfl rfl)
theorem dX7_holds_2 : decode cX7_holds 2 = .ok (.getfield 7, 3) := dk_180 0 7 (dk_at dksX7_holds_0 2 rfl rfl)
theorem dX7_holds_5 : decode cX7_holds 5 = .ok (.invokevirtual 19, 3) := dk_182 0 19 (dk_at dksX7_holds_0 5 rfl rfl)
theorem dX7_holds_8 : decode cX7_holds 8 = .ok (.istore_n 2, 1) := dk_61 (dk_at dksX7_holds_0 8 rfl rfl)
theorem dX7_holds_9 : decode cX7_holds 9 = .ok (.aload_n 0, 1) := dk_42 (dk_at dksX7_holds_0 9 rfl rfl)
theorem dX7_holds_10 : decode cX7_holds 10 = .ok (.getfield 13, 3) := dk_180 0 13 (dk_at dksX7_holds_0 10 rfl rfl)
theorem dX7_holds_13 : decode cX7_holds 13 = .ok (.bipush 60, 2) := dk_16 60 (dk_at dksX7_holds_0 13 rfl rfl)
theorem dX7_holds_15 : decode cX7_holds 15 = .ok (.if_icmp .ne 19, 3) := dk_160 0 19 (dk_at dksX7_holds_0 15 rfl rfl)
theorem dX7_holds_18 : decode cX7_holds 18 = .ok (.iload_n 2, 1) := dk_28 (dk_at dksX7_holds_0 18 rfl rfl)
theorem dX7_holds_19 : decode cX7_holds 19 = .ok (.aload_n 0, 1) := dk_42 (dk_at dksX7_holds_0 19 rfl rfl)
theorem dX7_holds_20 : decode cX7_holds 20 = .ok (.getfield 16, 3) := dk_180 0 16 (dk_at dksX7_holds_0 20 rfl rfl)
theorem dX7_holds_23 : decode cX7_holds 23 = .ok (.if_icmp .ge 7, 3) := dk_162 0 7 (dk_at dksX7_holds_1 0 rfl rfl)
theorem dX7_holds_26 : decode cX7_holds 26 = .ok (.iconst 1, 1) := dk_4 (dk_at dksX7_holds_1 3 rfl rfl)
theorem dX7_holds_27 : decode cX7_holds 27 = .ok (.goto 45, 3) := dk_167 0 45 (dk_at dksX7_holds_1 4 rfl rfl)
theorem dX7_holds_30 : decode cX7_holds 30 = .ok (.iconst 0, 1) := dk_3 (dk_at dksX7_holds_1 7 rfl rfl)
theorem dX7_holds_31 : decode cX7_holds 31 = .ok (.goto 41, 3) := dk_167 0 41 (dk_at dksX7_holds_1 8 rfl rfl)
theorem dX7_holds_34 : decode cX7_holds 34 = .ok (.aload_n 0, 1) := dk_42 (dk_at dksX7_holds_1 11 rfl rfl)
theorem dX7_holds_35 : decode cX7_holds 35 = .ok (.getfield 13, 3) := dk_180 0 13 (dk_at dksX7_holds_1 12 rfl rfl)
theorem dX7_holds_38 : decode cX7_holds 38 = .ok (.bipush 61, 2) := dk_16 61 (dk_at dksX7_holds_1 15 rfl rfl)
theorem dX7_holds_40 : decode cX7_holds 40 = .ok (.if_icmp .ne 19, 3) := dk_160 0 19 (dk_at dksX7_holds_1 17 rfl rfl)
theorem dX7_holds_43 : decode cX7_holds 43 = .ok (.iload_n 2, 1) := dk_28 (dk_at dksX7_holds_1 20 rfl rfl)
theorem dX7_holds_44 : decode cX7_holds 44 = .ok (.aload_n 0, 1) := dk_42 (dk_at dksX7_holds_1 21 rfl rfl)
theorem dX7_holds_45 : decode cX7_holds 45 = .ok (.getfield 16, 3) := dk_180 0 16 (dk_at dksX7_holds_2 0 rfl rfl)
theorem dX7_holds_48 : decode cX7_holds 48 = .ok (.if_icmp .ne 7, 3) := dk_160 0 7 (dk_at dksX7_holds_2 3 rfl rfl)
theorem dX7_holds_51 : decode cX7_holds 51 = .ok (.iconst 1, 1) := dk_4 (dk_at dksX7_holds_2 6 rfl rfl)
theorem dX7_holds_52 : decode cX7_holds 52 = .ok (.goto 20, 3) := dk_167 0 20 (dk_at dksX7_holds_2 7 rfl rfl)
theorem dX7_holds_55 : decode cX7_holds 55 = .ok (.iconst 0, 1) := dk_3 (dk_at dksX7_holds_2 10 rfl rfl)
theorem dX7_holds_56 : decode cX7_holds 56 = .ok (.goto 16, 3) := dk_167 0 16 (dk_at dksX7_holds_2 11 rfl rfl)
theorem dX7_holds_59 : decode cX7_holds 59 = .ok (.iload_n 2, 1) := dk_28 (dk_at dksX7_holds_2 14 rfl rfl)
theorem dX7_holds_60 : decode cX7_holds 60 = .ok (.aload_n 0, 1) := dk_42 (dk_at dksX7_holds_2 15 rfl rfl)
theorem dX7_holds_61 : decode cX7_holds 61 = .ok (.getfield 16, 3) := dk_180 0 16 (dk_at dksX7_holds_2 16 rfl rfl)
theorem dX7_holds_64 : decode cX7_holds 64 = .ok (.if_icmp .le 7, 3) := dk_164 0 7 (dk_at dksX7_holds_2 19 rfl rfl)
theorem dX7_holds_67 : decode cX7_holds 67 = .ok (.iconst 1, 1) := dk_4 (dk_at dksX7_holds_2 22 rfl rfl)
theorem dX7_holds_68 : decode cX7_holds 68 = .ok (.goto 4, 3) := dk_167 0 4 (dk_at dksX7_holds_3 0 rfl rfl)
theorem dX7_holds_71 : decode cX7_holds 71 = .ok (.iconst 0, 1) := dk_3 (dk_at dksX7_holds_3 3 rfl rfl)
theorem dX7_holds_72 : decode cX7_holds 72 = .ok (.ireturn, 1) := dk_172 (dk_at dksX7_holds_3 4 rfl rfl)
theorem q93 : (Jvm.Cond.initialized "FewerMan$Fact") ∈ lw_all := lw_g (lw_at lw_m1 13 rfl) rfl
theorem q467 : (Jvm.Cond.instantiable "FewerMan$Fact" (3 : Nat)) ∈ lw_all := lw_g (lw_at lw_m2 147 rfl) rfl
theorem q469 : (Jvm.Cond.instanceMethod ({ cls := "FewerMan$Fact", name := "<init>", desc := "(III)V" } : Jvm.MethodName)) ∈ lw_all := lw_g (lw_at lw_m2 149 rfl) rfl
theorem q470 : (Jvm.Cond.code ({ cls := "FewerMan$Fact", name := "<init>", desc := "(III)V" } : Jvm.MethodName) prog_2_method_1_code (4 : Nat) (Option.none : Option Jvm.ClassFile.FieldType)) ∈ lw_all := lw_g (lw_at lw_m2 150 rfl) rfl
theorem q471 : (Jvm.Cond.methodLink "FewerMan$Fact" (1 : Nat) ({ cls := "java/lang/Object", name := "<init>", desc := "()V" } : Jvm.MethodName)) ∈ lw_all := lw_g (lw_at lw_m2 151 rfl) rfl
theorem q472 : (Jvm.Cond.fieldLink "FewerMan$Fact" (7 : Nat) "FewerMan$Fact" "letter" "I") ∈ lw_all := lw_g (lw_at lw_m2 152 rfl) rfl
theorem q473 : (Jvm.Cond.fieldLink "FewerMan$Fact" (13 : Nat) "FewerMan$Fact" "op" "I") ∈ lw_all := lw_g (lw_at lw_m2 153 rfl) rfl
theorem q474 : (Jvm.Cond.fieldLink "FewerMan$Fact" (16 : Nat) "FewerMan$Fact" "number" "I") ∈ lw_all := lw_g (lw_at lw_m2 154 rfl) rfl
theorem q475 : (Jvm.Cond.laysFinal "FewerMan$Fact" "FewerMan$Fact" "letter" "I") ∈ lw_all := lw_g (lw_at lw_m2 155 rfl) rfl
theorem q476 : (Jvm.Cond.soleField "FewerMan$Fact" "letter") ∈ lw_all := lw_g (lw_at lw_m2 156 rfl) rfl
theorem q477 : (Jvm.Cond.laysFinal "FewerMan$Fact" "FewerMan$Fact" "op" "I") ∈ lw_all := lw_g (lw_at lw_m2 157 rfl) rfl
theorem q478 : (Jvm.Cond.soleField "FewerMan$Fact" "op") ∈ lw_all := lw_g (lw_at lw_m2 158 rfl) rfl
theorem q479 : (Jvm.Cond.laysFinal "FewerMan$Fact" "FewerMan$Fact" "number" "I") ∈ lw_all := lw_g (lw_at lw_m2 159 rfl) rfl
theorem q480 : (Jvm.Cond.soleField "FewerMan$Fact" "number") ∈ lw_all := lw_g (lw_at lw_m2 160 rfl) rfl
theorem q481 : (Jvm.Cond.superclass "FewerMan$Fact" "java/lang/Object") ∈ lw_all := lw_g (lw_at lw_m2 161 rfl) rfl
theorem q531 : (Jvm.Cond.selects "FewerMan$Fact" ({ cls := "java/lang/Object", name := "getClass", desc := "()Ljava/lang/Class;" } : Jvm.MethodName) ({ cls := "java/lang/Object", name := "getClass", desc := "()Ljava/lang/Class;" } : Jvm.MethodName)) ∈ lw_all := lw_g (lw_at lw_m2 211 rfl) rfl
theorem q786 : (Jvm.Cond.castable "FewerMan$Fact" "FewerMan$Test") ∈ lw_tbl := lw_at lw_m3 226 rfl
theorem q787 : (Jvm.Cond.selects "FewerMan$Fact" ({ cls := "FewerMan$Test", name := "holds", desc := "(LFewerMan$Moment;)Z" } : Jvm.MethodName) ({ cls := "FewerMan$Fact", name := "holds", desc := "(LFewerMan$Moment;)Z" } : Jvm.MethodName)) ∈ lw_all := lw_g (lw_at lw_m3 227 rfl) rfl
theorem q788 : (Jvm.Cond.unhidden "FewerMan$Fact" "holds" "(LFewerMan$Moment;)Z") ∈ lw_tbl := lw_at lw_m3 228 rfl
theorem q789 : (Jvm.Cond.instanceMethod ({ cls := "FewerMan$Fact", name := "holds", desc := "(LFewerMan$Moment;)Z" } : Jvm.MethodName)) ∈ lw_all := lw_g (lw_at lw_m3 229 rfl) rfl
theorem q790 : (Jvm.Cond.publicMethod ({ cls := "FewerMan$Fact", name := "holds", desc := "(LFewerMan$Moment;)Z" } : Jvm.MethodName)) ∈ lw_tbl := lw_at lw_m3 230 rfl
theorem q791 : (Jvm.Cond.code ({ cls := "FewerMan$Fact", name := "holds", desc := "(LFewerMan$Moment;)Z" } : Jvm.MethodName) prog_2_method_2_code (3 : Nat) (Option.some Jvm.ClassFile.FieldType.boolean)) ∈ lw_all := lw_g (lw_at lw_m3 231 rfl) rfl
theorem q792 : (Jvm.Cond.methodLink "FewerMan$Fact" (19 : Nat) ({ cls := "FewerMan$Moment", name := "fact", desc := "(I)I" } : Jvm.MethodName)) ∈ lw_all := lw_g (lw_at lw_m3 232 rfl) rfl
theorem q1704 : (Jvm.Cond.castable "FewerMan$Fact" "java/lang/Object") ∈ lw_tbl := lw_at lw_m7 184 rfl
theorem in_X7 : ∀ w ∈ wsX70, w ∈ lw_all := lw_in wsX70 [475, 477, 479] (by decide +kernel) (by decide +kernel)

/-! FewerMan$Two -/
set_option maxRecDepth 100000
def RX8 : String := "FewerMan$Two"
def TX8 : u_T := fun k => match k with
  | 0 => ("FewerMan$Two", "first", "LFewerMan$Test;", true)
  | 1 => ("FewerMan$Two", "second", "LFewerMan$Test;", true)
  | _ => ("FewerMan$Two", "both", "Z", true)
def tyX8 : Nat → FieldType := fun k => match k with
  | 0 => .object "FewerMan$Test"
  | 1 => .object "FewerMan$Test"
  | _ => .boolean
abbrev wsX80 : List Cond := u_ws RX8 TX8 3
theorem nmX8 : ∀ a, a < 3 → ∀ b, b < 3 → a ≠ b → (TX8 a).2.1 ≠ (TX8 b).2.1 := by decide +kernel
theorem tyX8_ok : ∀ k, k < 3 → parseFieldDescriptor (TX8 k).2.2.1 = some (tyX8 k) := by decide +kernel
abbrev cX8_init : ByteArray := prog_16_method_1_code
def yX8_init : MethodName := ⟨RX8, "<init>", "(LFewerMan$Test;LFewerMan$Test;Z)V"⟩
def dkwX8_init_0 : List UInt8 := [42, 183, 0, 1, 42, 43, 181, 0, 7, 42, 44, 181, 0, 13, 42, 29, 181, 0, 16, 177]
abbrev dktX8_init_0 : List UInt8 := dkwX8_init_0 ++ []
theorem dksX8_init_0 : cX8_init.data.toList.drop 0 = dktX8_init_0 := by decide +kernel
theorem dX8_init_0 : decode cX8_init 0 = .ok (.aload_n 0, 1) := dk_42 (dk_at dksX8_init_0 0 rfl rfl)
theorem dX8_init_1 : decode cX8_init 1 = .ok (.invokespecial 1, 3) := dk_183 0 1 (dk_at dksX8_init_0 1 rfl rfl)
theorem dX8_init_4 : decode cX8_init 4 = .ok (.aload_n 0, 1) := dk_42 (dk_at dksX8_init_0 4 rfl rfl)
theorem dX8_init_5 : decode cX8_init 5 = .ok (.aload_n 1, 1) := dk_43 (dk_at dksX8_init_0 5 rfl rfl)
theorem dX8_init_6 : decode cX8_init 6 = .ok (.putfield 7, 3) := dk_181 0 7 (dk_at dksX8_init_0 6 rfl rfl)
theorem dX8_init_9 : decode cX8_init 9 = .ok (.aload_n 0, 1) := dk_42 (dk_at dksX8_init_0 9 rfl rfl)
theorem dX8_init_10 : decode cX8_init 10 = .ok (.aload_n 2, 1) := dk_44 (dk_at dksX8_init_0 10 rfl rfl)
theorem dX8_init_11 : decode cX8_init 11 = .ok (.putfield 13, 3) := dk_181 0 13 (dk_at dksX8_init_0 11 rfl rfl)
theorem dX8_init_14 : decode cX8_init 14 = .ok (.aload_n 0, 1) := dk_42 (dk_at dksX8_init_0 14 rfl rfl)
theorem dX8_init_15 : decode cX8_init 15 = .ok (.iload_n 3, 1) := dk_29 (dk_at dksX8_init_0 15 rfl rfl)
theorem dX8_init_16 : decode cX8_init 16 = .ok (.putfield 16, 3) := dk_181 0 16 (dk_at dksX8_init_0 16 rfl rfl)
theorem dX8_init_19 : decode cX8_init 19 = .ok (.return_, 1) := dk_177 (dk_at dksX8_init_0 19 rfl rfl)
abbrev cX8_holds : ByteArray := prog_16_method_2_code
def yX8_holds : MethodName := ⟨RX8, "holds", "(LFewerMan$Moment;)Z"⟩
def dkwX8_holds_3 : List UInt8 := [167, 0, 4, 3, 172]
abbrev dktX8_holds_3 : List UInt8 := dkwX8_holds_3 ++ []
def dkwX8_holds_2 : List UInt8 := [185, 0, 20, 2, 0, 154, 0, 16, 42, 180, 0, 13, 43, 185, 0, 20, 2, 0, 153, 0, 7, 4]
abbrev dktX8_holds_2 : List UInt8 := dkwX8_holds_2 ++ dktX8_holds_3
def dkwX8_holds_1 : List UInt8 := [43, 185, 0, 20, 2, 0, 153, 0, 7, 4, 167, 0, 38, 3, 167, 0, 34, 42, 180, 0, 7, 43]
abbrev dktX8_holds_1 : List UInt8 := dkwX8_holds_1 ++ dktX8_holds_2
def dkwX8_holds_0 : List UInt8 := [42, 180, 0, 16, 153, 0, 37, 42, 180, 0, 7, 43, 185, 0, 20, 2, 0, 153, 0, 20, 42, 180, 0, 13]
abbrev dktX8_holds_0 : List UInt8 := dkwX8_holds_0 ++ dktX8_holds_1
theorem dksX8_holds_0 : cX8_holds.data.toList.drop 0 = dktX8_holds_0 := by decide +kernel
theorem dksX8_holds_1 : cX8_holds.data.toList.drop 24 = dktX8_holds_1 := dk_seg dksX8_holds_0 24 rfl rfl
theorem dksX8_holds_2 : cX8_holds.data.toList.drop 46 = dktX8_holds_2 := dk_seg dksX8_holds_1 22 rfl rfl
theorem dksX8_holds_3 : cX8_holds.data.toList.drop 68 = dktX8_holds_3 := dk_seg dksX8_holds_2 22 rfl rfl
theorem dX8_holds_0 : decode cX8_holds 0 = .ok (.aload_n 0, 1) := dk_42 (dk_at dksX8_holds_0 0 rfl rfl)
theorem dX8_holds_1 : decode cX8_holds 1 = .ok (.getfield 16, 3) := dk_180 0 16 (dk_at dksX8_holds_0 1 rfl rfl)
theorem dX8_holds_4 : decode cX8_holds 4 = .ok (.ifCond .eq 37, 3) := dk_153 0 37 (dk_at dksX8_holds_0 4 rfl rfl)
theorem dX8_holds_7 : decode cX8_holds 7 = .ok (.aload_n 0, 1) := dk_42 (dk_at dksX8_holds_0 7 rfl rfl)
theorem dX8_holds_8 : decode cX8_holds 8 = .ok (.getfield 7, 3) := dk_180 0 7 (dk_at dksX8_holds_0 8 rfl rfl)
theorem dX8_holds_11 : decode cX8_holds 11 = .ok (.aload_n 1, 1) := dk_43 (dk_at dksX8_holds_0 11 rfl rfl)
theorem dX8_holds_12 : decode cX8_holds 12 = .ok (.invokeinterface 20 2, 5) := by decide +kernel
theorem dX8_holds_17 : decode cX8_holds 17 = .ok (.ifCond .eq 20, 3) := dk_153 0 20 (dk_at dksX8_holds_0 17 rfl rfl)
theorem dX8_holds_20 : decode cX8_holds 20 = .ok (.aload_n 0, 1) := dk_42 (dk_at dksX8_holds_0 20 rfl rfl)
theorem dX8_holds_21 : decode cX8_holds 21 = .ok (.getfield 13, 3) := dk_180 0 13 (dk_at dksX8_holds_0 21 rfl rfl)
theorem dX8_holds_24 : decode cX8_holds 24 = .ok (.aload_n 1, 1) := dk_43 (dk_at dksX8_holds_1 0 rfl rfl)
theorem dX8_holds_25 : decode cX8_holds 25 = .ok (.invokeinterface 20 2, 5) := by decide +kernel
theorem dX8_holds_30 : decode cX8_holds 30 = .ok (.ifCond .eq 7, 3) := dk_153 0 7 (dk_at dksX8_holds_1 6 rfl rfl)
theorem dX8_holds_33 : decode cX8_holds 33 = .ok (.iconst 1, 1) := dk_4 (dk_at dksX8_holds_1 9 rfl rfl)
theorem dX8_holds_34 : decode cX8_holds 34 = .ok (.goto 38, 3) := dk_167 0 38 (dk_at dksX8_holds_1 10 rfl rfl)
theorem dX8_holds_37 : decode cX8_holds 37 = .ok (.iconst 0, 1) := dk_3 (dk_at dksX8_holds_1 13 rfl rfl)
theorem dX8_holds_38 : decode cX8_holds 38 = .ok (.goto 34, 3) := dk_167 0 34 (dk_at dksX8_holds_1 14 rfl rfl)
theorem dX8_holds_41 : decode cX8_holds 41 = .ok (.aload_n 0, 1) := dk_42 (dk_at dksX8_holds_1 17 rfl rfl)
theorem dX8_holds_42 : decode cX8_holds 42 = .ok (.getfield 7, 3) := dk_180 0 7 (dk_at dksX8_holds_1 18 rfl rfl)
theorem dX8_holds_45 : decode cX8_holds 45 = .ok (.aload_n 1, 1) := dk_43 (dk_at dksX8_holds_1 21 rfl rfl)
theorem dX8_holds_46 : decode cX8_holds 46 = .ok (.invokeinterface 20 2, 5) := by decide +kernel
theorem dX8_holds_51 : decode cX8_holds 51 = .ok (.ifCond .ne 16, 3) := dk_154 0 16 (dk_at dksX8_holds_2 5 rfl rfl)
theorem dX8_holds_54 : decode cX8_holds 54 = .ok (.aload_n 0, 1) := dk_42 (dk_at dksX8_holds_2 8 rfl rfl)
theorem dX8_holds_55 : decode cX8_holds 55 = .ok (.getfield 13, 3) := dk_180 0 13 (dk_at dksX8_holds_2 9 rfl rfl)
theorem dX8_holds_58 : decode cX8_holds 58 = .ok (.aload_n 1, 1) := dk_43 (dk_at dksX8_holds_2 12 rfl rfl)
theorem dX8_holds_59 : decode cX8_holds 59 = .ok (.invokeinterface 20 2, 5) := by decide +kernel
theorem dX8_holds_64 : decode cX8_holds 64 = .ok (.ifCond .eq 7, 3) := dk_153 0 7 (dk_at dksX8_holds_2 18 rfl rfl)
theorem dX8_holds_67 : decode cX8_holds 67 = .ok (.iconst 1, 1) := dk_4 (dk_at dksX8_holds_2 21 rfl rfl)
theorem dX8_holds_68 : decode cX8_holds 68 = .ok (.goto 4, 3) := dk_167 0 4 (dk_at dksX8_holds_3 0 rfl rfl)
theorem dX8_holds_71 : decode cX8_holds 71 = .ok (.iconst 0, 1) := dk_3 (dk_at dksX8_holds_3 3 rfl rfl)
theorem dX8_holds_72 : decode cX8_holds 72 = .ok (.ireturn, 1) := dk_172 (dk_at dksX8_holds_3 4 rfl rfl)
theorem q94 : (Jvm.Cond.initialized "FewerMan$Two") ∈ lw_all := lw_g (lw_at lw_m1 14 rfl) rfl
theorem q483 : (Jvm.Cond.instantiable "FewerMan$Two" (3 : Nat)) ∈ lw_all := lw_g (lw_at lw_m2 163 rfl) rfl
theorem q485 : (Jvm.Cond.instanceMethod ({ cls := "FewerMan$Two", name := "<init>", desc := "(LFewerMan$Test;LFewerMan$Test;Z)V" } : Jvm.MethodName)) ∈ lw_all := lw_g (lw_at lw_m2 165 rfl) rfl
theorem q486 : (Jvm.Cond.code ({ cls := "FewerMan$Two", name := "<init>", desc := "(LFewerMan$Test;LFewerMan$Test;Z)V" } : Jvm.MethodName) prog_16_method_1_code (4 : Nat) (Option.none : Option Jvm.ClassFile.FieldType)) ∈ lw_all := lw_g (lw_at lw_m2 166 rfl) rfl
theorem q487 : (Jvm.Cond.methodLink "FewerMan$Two" (1 : Nat) ({ cls := "java/lang/Object", name := "<init>", desc := "()V" } : Jvm.MethodName)) ∈ lw_all := lw_g (lw_at lw_m2 167 rfl) rfl
theorem q488 : (Jvm.Cond.fieldLink "FewerMan$Two" (7 : Nat) "FewerMan$Two" "first" "LFewerMan$Test;") ∈ lw_all := lw_g (lw_at lw_m2 168 rfl) rfl
theorem q489 : (Jvm.Cond.fieldLink "FewerMan$Two" (13 : Nat) "FewerMan$Two" "second" "LFewerMan$Test;") ∈ lw_all := lw_g (lw_at lw_m2 169 rfl) rfl
theorem q490 : (Jvm.Cond.fieldLink "FewerMan$Two" (16 : Nat) "FewerMan$Two" "both" "Z") ∈ lw_all := lw_g (lw_at lw_m2 170 rfl) rfl
theorem q491 : (Jvm.Cond.laysFinal "FewerMan$Two" "FewerMan$Two" "first" "LFewerMan$Test;") ∈ lw_all := lw_g (lw_at lw_m2 171 rfl) rfl
theorem q492 : (Jvm.Cond.soleField "FewerMan$Two" "first") ∈ lw_all := lw_g (lw_at lw_m2 172 rfl) rfl
theorem q493 : (Jvm.Cond.laysFinal "FewerMan$Two" "FewerMan$Two" "second" "LFewerMan$Test;") ∈ lw_all := lw_g (lw_at lw_m2 173 rfl) rfl
theorem q494 : (Jvm.Cond.soleField "FewerMan$Two" "second") ∈ lw_all := lw_g (lw_at lw_m2 174 rfl) rfl
theorem q495 : (Jvm.Cond.laysFinal "FewerMan$Two" "FewerMan$Two" "both" "Z") ∈ lw_all := lw_g (lw_at lw_m2 175 rfl) rfl
theorem q496 : (Jvm.Cond.soleField "FewerMan$Two" "both") ∈ lw_all := lw_g (lw_at lw_m2 176 rfl) rfl
theorem q497 : (Jvm.Cond.superclass "FewerMan$Two" "java/lang/Object") ∈ lw_all := lw_g (lw_at lw_m2 177 rfl) rfl
theorem q544 : (Jvm.Cond.selects "FewerMan$Two" ({ cls := "java/lang/Object", name := "getClass", desc := "()Ljava/lang/Class;" } : Jvm.MethodName) ({ cls := "java/lang/Object", name := "getClass", desc := "()Ljava/lang/Class;" } : Jvm.MethodName)) ∈ lw_all := lw_g (lw_at lw_m2 224 rfl) rfl
theorem q804 : (Jvm.Cond.castable "FewerMan$Two" "FewerMan$Test") ∈ lw_tbl := lw_at lw_m4 4 rfl
theorem q805 : (Jvm.Cond.selects "FewerMan$Two" ({ cls := "FewerMan$Test", name := "holds", desc := "(LFewerMan$Moment;)Z" } : Jvm.MethodName) ({ cls := "FewerMan$Two", name := "holds", desc := "(LFewerMan$Moment;)Z" } : Jvm.MethodName)) ∈ lw_all := lw_g (lw_at lw_m4 5 rfl) rfl
theorem q806 : (Jvm.Cond.unhidden "FewerMan$Two" "holds" "(LFewerMan$Moment;)Z") ∈ lw_tbl := lw_at lw_m4 6 rfl
theorem q807 : (Jvm.Cond.instanceMethod ({ cls := "FewerMan$Two", name := "holds", desc := "(LFewerMan$Moment;)Z" } : Jvm.MethodName)) ∈ lw_all := lw_g (lw_at lw_m4 7 rfl) rfl
theorem q808 : (Jvm.Cond.publicMethod ({ cls := "FewerMan$Two", name := "holds", desc := "(LFewerMan$Moment;)Z" } : Jvm.MethodName)) ∈ lw_tbl := lw_at lw_m4 8 rfl
theorem q809 : (Jvm.Cond.code ({ cls := "FewerMan$Two", name := "holds", desc := "(LFewerMan$Moment;)Z" } : Jvm.MethodName) prog_16_method_2_code (2 : Nat) (Option.some Jvm.ClassFile.FieldType.boolean)) ∈ lw_all := lw_g (lw_at lw_m4 9 rfl) rfl
theorem q810 : (Jvm.Cond.interfaceEntry "FewerMan$Two" (20 : Nat)) ∈ lw_tbl := lw_at lw_m4 10 rfl
theorem q811 : (Jvm.Cond.methodLink "FewerMan$Two" (20 : Nat) ({ cls := "FewerMan$Test", name := "holds", desc := "(LFewerMan$Moment;)Z" } : Jvm.MethodName)) ∈ lw_all := lw_g (lw_at lw_m4 11 rfl) rfl
theorem q1705 : (Jvm.Cond.castable "FewerMan$Two" "java/lang/Object") ∈ lw_tbl := lw_at lw_m7 185 rfl
theorem in_X8 : ∀ w ∈ wsX80, w ∈ lw_all := lw_in wsX80 [491, 493, 495] (by decide +kernel) (by decide +kernel)

/-! FewerMan$Player -/
set_option maxRecDepth 100000
def RX9 : String := "FewerMan$Player"
def TX9 : u_T := fun k => match k with
  | 0 => ("FewerMan$Player", "number", "I", true)
  | 1 => ("FewerMan$Player", "v", "I", false)
  | 2 => ("FewerMan$Player", "men", "I", false)
  | _ => ("FewerMan$Player", "this$0", "LFewerMan;", true)
def tyX9 : Nat → FieldType := fun k => match k with
  | 0 => .int
  | 1 => .int
  | 2 => .int
  | _ => .object "FewerMan"
abbrev wsX90 : List Cond := u_ws RX9 TX9 4
theorem nmX9 : ∀ a, a < 4 → ∀ b, b < 4 → a ≠ b → (TX9 a).2.1 ≠ (TX9 b).2.1 := by decide +kernel
theorem tyX9_ok : ∀ k, k < 4 → parseFieldDescriptor (TX9 k).2.2.1 = some (tyX9 k) := by decide +kernel
abbrev cX9_init : ByteArray := prog_10_method_1_code
def yX9_init : MethodName := ⟨RX9, "<init>", "(LFewerMan;II)V"⟩
def dkwX9_init_1 : List UInt8 := [181, 0, 22, 177]
abbrev dktX9_init_1 : List UInt8 := dkwX9_init_1 ++ []
def dkwX9_init_0 : List UInt8 := [42, 43, 181, 0, 3, 42, 183, 0, 9, 42, 16, 8, 181, 0, 15, 42, 28, 181, 0, 19, 42, 29]
abbrev dktX9_init_0 : List UInt8 := dkwX9_init_0 ++ dktX9_init_1
theorem dksX9_init_0 : cX9_init.data.toList.drop 0 = dktX9_init_0 := by decide +kernel
theorem dksX9_init_1 : cX9_init.data.toList.drop 22 = dktX9_init_1 := dk_seg dksX9_init_0 22 rfl rfl
theorem dX9_init_0 : decode cX9_init 0 = .ok (.aload_n 0, 1) := dk_42 (dk_at dksX9_init_0 0 rfl rfl)
theorem dX9_init_1 : decode cX9_init 1 = .ok (.aload_n 1, 1) := dk_43 (dk_at dksX9_init_0 1 rfl rfl)
theorem dX9_init_2 : decode cX9_init 2 = .ok (.putfield 3, 3) := dk_181 0 3 (dk_at dksX9_init_0 2 rfl rfl)
theorem dX9_init_5 : decode cX9_init 5 = .ok (.aload_n 0, 1) := dk_42 (dk_at dksX9_init_0 5 rfl rfl)
theorem dX9_init_6 : decode cX9_init 6 = .ok (.invokespecial 9, 3) := dk_183 0 9 (dk_at dksX9_init_0 6 rfl rfl)
theorem dX9_init_9 : decode cX9_init 9 = .ok (.aload_n 0, 1) := dk_42 (dk_at dksX9_init_0 9 rfl rfl)
theorem dX9_init_10 : decode cX9_init 10 = .ok (.bipush 8, 2) := dk_16 8 (dk_at dksX9_init_0 10 rfl rfl)
theorem dX9_init_12 : decode cX9_init 12 = .ok (.putfield 15, 3) := dk_181 0 15 (dk_at dksX9_init_0 12 rfl rfl)
theorem dX9_init_15 : decode cX9_init 15 = .ok (.aload_n 0, 1) := dk_42 (dk_at dksX9_init_0 15 rfl rfl)
theorem dX9_init_16 : decode cX9_init 16 = .ok (.iload_n 2, 1) := dk_28 (dk_at dksX9_init_0 16 rfl rfl)
theorem dX9_init_17 : decode cX9_init 17 = .ok (.putfield 19, 3) := dk_181 0 19 (dk_at dksX9_init_0 17 rfl rfl)
theorem dX9_init_20 : decode cX9_init 20 = .ok (.aload_n 0, 1) := dk_42 (dk_at dksX9_init_0 20 rfl rfl)
theorem dX9_init_21 : decode cX9_init 21 = .ok (.iload_n 3, 1) := dk_29 (dk_at dksX9_init_0 21 rfl rfl)
theorem dX9_init_22 : decode cX9_init 22 = .ok (.putfield 22, 3) := dk_181 0 22 (dk_at dksX9_init_1 0 rfl rfl)
theorem dX9_init_25 : decode cX9_init 25 = .ok (.return_, 1) := dk_177 (dk_at dksX9_init_1 3 rfl rfl)
abbrev cX9_kind : ByteArray := prog_10_method_2_code
def yX9_kind : MethodName := ⟨RX9, "kind", "()I"⟩
theorem dX9_kind_0 : decode cX9_kind 0 = .ok (.iconst 0, 1) := by decide +kernel
theorem dX9_kind_1 : decode cX9_kind 1 = .ok (.ireturn, 1) := by decide +kernel
abbrev cX9_push : ByteArray := prog_10_method_5_code
def yX9_push : MethodName := ⟨RX9, "push", "(LFewerMan$Player;)I"⟩
def dkwX9_push_4 : List UInt8 := [182, 0, 52, 96, 42, 43, 182, 0, 58, 96, 172]
abbrev dktX9_push_4 : List UInt8 := dkwX9_push_4 ++ []
def dkwX9_push_3 : List UInt8 := [16, 10, 112, 181, 0, 47, 42, 180, 0, 22, 42, 180, 0, 3, 180, 0, 48, 42, 180, 0, 3, 180, 0, 25]
abbrev dktX9_push_3 : List UInt8 := dkwX9_push_3 ++ dktX9_push_4
def dkwX9_push_2 : List UInt8 := [180, 0, 25, 43, 180, 0, 15, 181, 0, 41, 42, 180, 0, 3, 180, 0, 25, 42, 180, 0, 3, 180, 0, 44]
abbrev dktX9_push_2 : List UInt8 := dkwX9_push_2 ++ dktX9_push_3
def dkwX9_push_1 : List UInt8 := [182, 0, 34, 181, 0, 38, 42, 180, 0, 3, 180, 0, 25, 42, 180, 0, 15, 181, 0, 40, 42, 180, 0, 3]
abbrev dktX9_push_1 : List UInt8 := dkwX9_push_1 ++ dktX9_push_2
def dkwX9_push_0 : List UInt8 := [42, 180, 0, 3, 180, 0, 25, 42, 180, 0, 19, 181, 0, 29, 42, 180, 0, 3, 180, 0, 25, 42]
abbrev dktX9_push_0 : List UInt8 := dkwX9_push_0 ++ dktX9_push_1
theorem dksX9_push_0 : cX9_push.data.toList.drop 0 = dktX9_push_0 := by decide +kernel
theorem dksX9_push_1 : cX9_push.data.toList.drop 22 = dktX9_push_1 := dk_seg dksX9_push_0 22 rfl rfl
theorem dksX9_push_2 : cX9_push.data.toList.drop 46 = dktX9_push_2 := dk_seg dksX9_push_1 24 rfl rfl
theorem dksX9_push_3 : cX9_push.data.toList.drop 70 = dktX9_push_3 := dk_seg dksX9_push_2 24 rfl rfl
theorem dksX9_push_4 : cX9_push.data.toList.drop 94 = dktX9_push_4 := dk_seg dksX9_push_3 24 rfl rfl
theorem dX9_push_0 : decode cX9_push 0 = .ok (.aload_n 0, 1) := dk_42 (dk_at dksX9_push_0 0 rfl rfl)
theorem dX9_push_1 : decode cX9_push 1 = .ok (.getfield 3, 3) := dk_180 0 3 (dk_at dksX9_push_0 1 rfl rfl)
theorem dX9_push_4 : decode cX9_push 4 = .ok (.getfield 25, 3) := dk_180 0 25 (dk_at dksX9_push_0 4 rfl rfl)
theorem dX9_push_7 : decode cX9_push 7 = .ok (.aload_n 0, 1) := dk_42 (dk_at dksX9_push_0 7 rfl rfl)
theorem dX9_push_8 : decode cX9_push 8 = .ok (.getfield 19, 3) := dk_180 0 19 (dk_at dksX9_push_0 8 rfl rfl)
theorem dX9_push_11 : decode cX9_push 11 = .ok (.putfield 29, 3) := dk_181 0 29 (dk_at dksX9_push_0 11 rfl rfl)
theorem dX9_push_14 : decode cX9_push 14 = .ok (.aload_n 0, 1) := dk_42 (dk_at dksX9_push_0 14 rfl rfl)
theorem dX9_push_15 : decode cX9_push 15 = .ok (.getfield 3, 3) := dk_180 0 3 (dk_at dksX9_push_0 15 rfl rfl)
theorem dX9_push_18 : decode cX9_push 18 = .ok (.getfield 25, 3) := dk_180 0 25 (dk_at dksX9_push_0 18 rfl rfl)
theorem dX9_push_21 : decode cX9_push 21 = .ok (.aload_n 0, 1) := dk_42 (dk_at dksX9_push_0 21 rfl rfl)
theorem dX9_push_22 : decode cX9_push 22 = .ok (.invokevirtual 34, 3) := dk_182 0 34 (dk_at dksX9_push_1 0 rfl rfl)
theorem dX9_push_25 : decode cX9_push 25 = .ok (.putfield 38, 3) := dk_181 0 38 (dk_at dksX9_push_1 3 rfl rfl)
theorem dX9_push_28 : decode cX9_push 28 = .ok (.aload_n 0, 1) := dk_42 (dk_at dksX9_push_1 6 rfl rfl)
theorem dX9_push_29 : decode cX9_push 29 = .ok (.getfield 3, 3) := dk_180 0 3 (dk_at dksX9_push_1 7 rfl rfl)
theorem dX9_push_32 : decode cX9_push 32 = .ok (.getfield 25, 3) := dk_180 0 25 (dk_at dksX9_push_1 10 rfl rfl)
theorem dX9_push_35 : decode cX9_push 35 = .ok (.aload_n 0, 1) := dk_42 (dk_at dksX9_push_1 13 rfl rfl)
theorem dX9_push_36 : decode cX9_push 36 = .ok (.getfield 15, 3) := dk_180 0 15 (dk_at dksX9_push_1 14 rfl rfl)
theorem dX9_push_39 : decode cX9_push 39 = .ok (.putfield 40, 3) := dk_181 0 40 (dk_at dksX9_push_1 17 rfl rfl)
theorem dX9_push_42 : decode cX9_push 42 = .ok (.aload_n 0, 1) := dk_42 (dk_at dksX9_push_1 20 rfl rfl)
theorem dX9_push_43 : decode cX9_push 43 = .ok (.getfield 3, 3) := dk_180 0 3 (dk_at dksX9_push_1 21 rfl rfl)
theorem dX9_push_46 : decode cX9_push 46 = .ok (.getfield 25, 3) := dk_180 0 25 (dk_at dksX9_push_2 0 rfl rfl)
theorem dX9_push_49 : decode cX9_push 49 = .ok (.aload_n 1, 1) := dk_43 (dk_at dksX9_push_2 3 rfl rfl)
theorem dX9_push_50 : decode cX9_push 50 = .ok (.getfield 15, 3) := dk_180 0 15 (dk_at dksX9_push_2 4 rfl rfl)
theorem dX9_push_53 : decode cX9_push 53 = .ok (.putfield 41, 3) := dk_181 0 41 (dk_at dksX9_push_2 7 rfl rfl)
theorem dX9_push_56 : decode cX9_push 56 = .ok (.aload_n 0, 1) := dk_42 (dk_at dksX9_push_2 10 rfl rfl)
theorem dX9_push_57 : decode cX9_push 57 = .ok (.getfield 3, 3) := dk_180 0 3 (dk_at dksX9_push_2 11 rfl rfl)
theorem dX9_push_60 : decode cX9_push 60 = .ok (.getfield 25, 3) := dk_180 0 25 (dk_at dksX9_push_2 14 rfl rfl)
theorem dX9_push_63 : decode cX9_push 63 = .ok (.aload_n 0, 1) := dk_42 (dk_at dksX9_push_2 17 rfl rfl)
theorem dX9_push_64 : decode cX9_push 64 = .ok (.getfield 3, 3) := dk_180 0 3 (dk_at dksX9_push_2 18 rfl rfl)
theorem dX9_push_67 : decode cX9_push 67 = .ok (.getfield 44, 3) := dk_180 0 44 (dk_at dksX9_push_2 21 rfl rfl)
theorem dX9_push_70 : decode cX9_push 70 = .ok (.bipush 10, 2) := dk_16 10 (dk_at dksX9_push_3 0 rfl rfl)
theorem dX9_push_72 : decode cX9_push 72 = .ok (.irem, 1) := dk_112 (dk_at dksX9_push_3 2 rfl rfl)
theorem dX9_push_73 : decode cX9_push 73 = .ok (.putfield 47, 3) := dk_181 0 47 (dk_at dksX9_push_3 3 rfl rfl)
theorem dX9_push_76 : decode cX9_push 76 = .ok (.aload_n 0, 1) := dk_42 (dk_at dksX9_push_3 6 rfl rfl)
theorem dX9_push_77 : decode cX9_push 77 = .ok (.getfield 22, 3) := dk_180 0 22 (dk_at dksX9_push_3 7 rfl rfl)
theorem dX9_push_80 : decode cX9_push 80 = .ok (.aload_n 0, 1) := dk_42 (dk_at dksX9_push_3 10 rfl rfl)
theorem dX9_push_81 : decode cX9_push 81 = .ok (.getfield 3, 3) := dk_180 0 3 (dk_at dksX9_push_3 11 rfl rfl)
theorem dX9_push_84 : decode cX9_push 84 = .ok (.getfield 48, 3) := dk_180 0 48 (dk_at dksX9_push_3 14 rfl rfl)
theorem dX9_push_87 : decode cX9_push 87 = .ok (.aload_n 0, 1) := dk_42 (dk_at dksX9_push_3 17 rfl rfl)
theorem dX9_push_88 : decode cX9_push 88 = .ok (.getfield 3, 3) := dk_180 0 3 (dk_at dksX9_push_3 18 rfl rfl)
theorem dX9_push_91 : decode cX9_push 91 = .ok (.getfield 25, 3) := dk_180 0 25 (dk_at dksX9_push_3 21 rfl rfl)
theorem dX9_push_94 : decode cX9_push 94 = .ok (.invokevirtual 52, 3) := dk_182 0 52 (dk_at dksX9_push_4 0 rfl rfl)
theorem dX9_push_97 : decode cX9_push 97 = .ok (.iadd, 1) := dk_96 (dk_at dksX9_push_4 3 rfl rfl)
theorem dX9_push_98 : decode cX9_push 98 = .ok (.aload_n 0, 1) := dk_42 (dk_at dksX9_push_4 4 rfl rfl)
theorem dX9_push_99 : decode cX9_push 99 = .ok (.aload_n 1, 1) := dk_43 (dk_at dksX9_push_4 5 rfl rfl)
theorem dX9_push_100 : decode cX9_push 100 = .ok (.invokevirtual 58, 3) := dk_182 0 58 (dk_at dksX9_push_4 6 rfl rfl)
theorem dX9_push_103 : decode cX9_push 103 = .ok (.iadd, 1) := dk_96 (dk_at dksX9_push_4 9 rfl rfl)
theorem dX9_push_104 : decode cX9_push 104 = .ok (.ireturn, 1) := dk_172 (dk_at dksX9_push_4 10 rfl rfl)
abbrev cX9_pushes : ByteArray := prog_10_method_4_code
def yX9_pushes : MethodName := ⟨RX9, "pushes", "(LFewerMan$Player;)I"⟩
theorem dX9_pushes_0 : decode cX9_pushes 0 = .ok (.iconst 0, 1) := by decide +kernel
theorem dX9_pushes_1 : decode cX9_pushes 1 = .ok (.ireturn, 1) := by decide +kernel
abbrev cX9_odds : ByteArray := prog_10_method_6_code
def yX9_odds : MethodName := ⟨RX9, "odds", "(LFewerMan$Player;)I"⟩
def dkwX9_odds_1 : List UInt8 := [100, 5, 108, 96, 184, 0, 65, 184, 0, 71, 172]
abbrev dktX9_odds_1 : List UInt8 := dkwX9_odds_1 ++ []
def dkwX9_odds_0 : List UInt8 := [4, 16, 9, 8, 42, 43, 182, 0, 62, 96, 43, 42, 182, 0, 62, 100, 42, 180, 0, 15, 43, 180, 0, 15]
abbrev dktX9_odds_0 : List UInt8 := dkwX9_odds_0 ++ dktX9_odds_1
theorem dksX9_odds_0 : cX9_odds.data.toList.drop 0 = dktX9_odds_0 := by decide +kernel
theorem dksX9_odds_1 : cX9_odds.data.toList.drop 24 = dktX9_odds_1 := dk_seg dksX9_odds_0 24 rfl rfl
theorem dX9_odds_0 : decode cX9_odds 0 = .ok (.iconst 1, 1) := dk_4 (dk_at dksX9_odds_0 0 rfl rfl)
theorem dX9_odds_1 : decode cX9_odds 1 = .ok (.bipush 9, 2) := dk_16 9 (dk_at dksX9_odds_0 1 rfl rfl)
theorem dX9_odds_3 : decode cX9_odds 3 = .ok (.iconst 5, 1) := dk_8 (dk_at dksX9_odds_0 3 rfl rfl)
theorem dX9_odds_4 : decode cX9_odds 4 = .ok (.aload_n 0, 1) := dk_42 (dk_at dksX9_odds_0 4 rfl rfl)
theorem dX9_odds_5 : decode cX9_odds 5 = .ok (.aload_n 1, 1) := dk_43 (dk_at dksX9_odds_0 5 rfl rfl)
theorem dX9_odds_6 : decode cX9_odds 6 = .ok (.invokevirtual 62, 3) := dk_182 0 62 (dk_at dksX9_odds_0 6 rfl rfl)
theorem dX9_odds_9 : decode cX9_odds 9 = .ok (.iadd, 1) := dk_96 (dk_at dksX9_odds_0 9 rfl rfl)
theorem dX9_odds_10 : decode cX9_odds 10 = .ok (.aload_n 1, 1) := dk_43 (dk_at dksX9_odds_0 10 rfl rfl)
theorem dX9_odds_11 : decode cX9_odds 11 = .ok (.aload_n 0, 1) := dk_42 (dk_at dksX9_odds_0 11 rfl rfl)
theorem dX9_odds_12 : decode cX9_odds 12 = .ok (.invokevirtual 62, 3) := dk_182 0 62 (dk_at dksX9_odds_0 12 rfl rfl)
theorem dX9_odds_15 : decode cX9_odds 15 = .ok (.isub, 1) := dk_100 (dk_at dksX9_odds_0 15 rfl rfl)
theorem dX9_odds_16 : decode cX9_odds 16 = .ok (.aload_n 0, 1) := dk_42 (dk_at dksX9_odds_0 16 rfl rfl)
theorem dX9_odds_17 : decode cX9_odds 17 = .ok (.getfield 15, 3) := dk_180 0 15 (dk_at dksX9_odds_0 17 rfl rfl)
theorem dX9_odds_20 : decode cX9_odds 20 = .ok (.aload_n 1, 1) := dk_43 (dk_at dksX9_odds_0 20 rfl rfl)
theorem dX9_odds_21 : decode cX9_odds 21 = .ok (.getfield 15, 3) := dk_180 0 15 (dk_at dksX9_odds_0 21 rfl rfl)
theorem dX9_odds_24 : decode cX9_odds 24 = .ok (.isub, 1) := dk_100 (dk_at dksX9_odds_1 0 rfl rfl)
theorem dX9_odds_25 : decode cX9_odds 25 = .ok (.iconst 2, 1) := dk_5 (dk_at dksX9_odds_1 1 rfl rfl)
theorem dX9_odds_26 : decode cX9_odds 26 = .ok (.idiv, 1) := dk_108 (dk_at dksX9_odds_1 2 rfl rfl)
theorem dX9_odds_27 : decode cX9_odds 27 = .ok (.iadd, 1) := dk_96 (dk_at dksX9_odds_1 3 rfl rfl)
theorem dX9_odds_28 : decode cX9_odds 28 = .ok (.invokestatic 65, 3) := dk_184 0 65 (dk_at dksX9_odds_1 4 rfl rfl)
theorem dX9_odds_31 : decode cX9_odds 31 = .ok (.invokestatic 71, 3) := dk_184 0 71 (dk_at dksX9_odds_1 7 rfl rfl)
theorem dX9_odds_34 : decode cX9_odds 34 = .ok (.ireturn, 1) := dk_172 (dk_at dksX9_odds_1 10 rfl rfl)
abbrev cX9_moves : ByteArray := prog_10_method_7_code
def yX9_moves : MethodName := ⟨RX9, "moves", "(I)I"⟩
def dkwX9_moves_0 : List UInt8 := [42, 180, 0, 3, 4, 182, 0, 74, 27, 42, 180, 0, 19, 96, 172]
abbrev dktX9_moves_0 : List UInt8 := dkwX9_moves_0 ++ []
theorem dksX9_moves_0 : cX9_moves.data.toList.drop 0 = dktX9_moves_0 := by decide +kernel
theorem dX9_moves_0 : decode cX9_moves 0 = .ok (.aload_n 0, 1) := dk_42 (dk_at dksX9_moves_0 0 rfl rfl)
theorem dX9_moves_1 : decode cX9_moves 1 = .ok (.getfield 3, 3) := dk_180 0 3 (dk_at dksX9_moves_0 1 rfl rfl)
theorem dX9_moves_4 : decode cX9_moves 4 = .ok (.iconst 1, 1) := dk_4 (dk_at dksX9_moves_0 4 rfl rfl)
theorem dX9_moves_5 : decode cX9_moves 5 = .ok (.invokevirtual 74, 3) := dk_182 0 74 (dk_at dksX9_moves_0 5 rfl rfl)
theorem dX9_moves_8 : decode cX9_moves 8 = .ok (.iload_n 1, 1) := dk_27 (dk_at dksX9_moves_0 8 rfl rfl)
theorem dX9_moves_9 : decode cX9_moves 9 = .ok (.aload_n 0, 1) := dk_42 (dk_at dksX9_moves_0 9 rfl rfl)
theorem dX9_moves_10 : decode cX9_moves 10 = .ok (.getfield 19, 3) := dk_180 0 19 (dk_at dksX9_moves_0 10 rfl rfl)
theorem dX9_moves_13 : decode cX9_moves 13 = .ok (.iadd, 1) := dk_96 (dk_at dksX9_moves_0 13 rfl rfl)
theorem dX9_moves_14 : decode cX9_moves 14 = .ok (.ireturn, 1) := dk_172 (dk_at dksX9_moves_0 14 rfl rfl)
abbrev cX9_bets : ByteArray := prog_10_method_8_code
def yX9_bets : MethodName := ⟨RX9, "bets", "(I)I"⟩
def dkwX9_bets_0 : List UInt8 := [42, 180, 0, 3, 5, 182, 0, 74, 42, 27, 182, 0, 78, 42, 180, 0, 22, 100, 172]
abbrev dktX9_bets_0 : List UInt8 := dkwX9_bets_0 ++ []
theorem dksX9_bets_0 : cX9_bets.data.toList.drop 0 = dktX9_bets_0 := by decide +kernel
theorem dX9_bets_0 : decode cX9_bets 0 = .ok (.aload_n 0, 1) := dk_42 (dk_at dksX9_bets_0 0 rfl rfl)
theorem dX9_bets_1 : decode cX9_bets 1 = .ok (.getfield 3, 3) := dk_180 0 3 (dk_at dksX9_bets_0 1 rfl rfl)
theorem dX9_bets_4 : decode cX9_bets 4 = .ok (.iconst 2, 1) := dk_5 (dk_at dksX9_bets_0 4 rfl rfl)
theorem dX9_bets_5 : decode cX9_bets 5 = .ok (.invokevirtual 74, 3) := dk_182 0 74 (dk_at dksX9_bets_0 5 rfl rfl)
theorem dX9_bets_8 : decode cX9_bets 8 = .ok (.aload_n 0, 1) := dk_42 (dk_at dksX9_bets_0 8 rfl rfl)
theorem dX9_bets_9 : decode cX9_bets 9 = .ok (.iload_n 1, 1) := dk_27 (dk_at dksX9_bets_0 9 rfl rfl)
theorem dX9_bets_10 : decode cX9_bets 10 = .ok (.invokevirtual 78, 3) := dk_182 0 78 (dk_at dksX9_bets_0 10 rfl rfl)
theorem dX9_bets_13 : decode cX9_bets 13 = .ok (.aload_n 0, 1) := dk_42 (dk_at dksX9_bets_0 13 rfl rfl)
theorem dX9_bets_14 : decode cX9_bets 14 = .ok (.getfield 22, 3) := dk_180 0 22 (dk_at dksX9_bets_0 14 rfl rfl)
theorem dX9_bets_17 : decode cX9_bets 17 = .ok (.isub, 1) := dk_100 (dk_at dksX9_bets_0 17 rfl rfl)
theorem dX9_bets_18 : decode cX9_bets 18 = .ok (.ireturn, 1) := dk_172 (dk_at dksX9_bets_0 18 rfl rfl)
abbrev cX9_tells : ByteArray := prog_10_method_9_code
def yX9_tells : MethodName := ⟨RX9, "tells", "(I)I"⟩
def dkwX9_tells_0 : List UInt8 := [42, 180, 0, 3, 6, 182, 0, 74, 42, 27, 182, 0, 82, 5, 104, 172]
abbrev dktX9_tells_0 : List UInt8 := dkwX9_tells_0 ++ []
theorem dksX9_tells_0 : cX9_tells.data.toList.drop 0 = dktX9_tells_0 := by decide +kernel
theorem dX9_tells_0 : decode cX9_tells 0 = .ok (.aload_n 0, 1) := dk_42 (dk_at dksX9_tells_0 0 rfl rfl)
theorem dX9_tells_1 : decode cX9_tells 1 = .ok (.getfield 3, 3) := dk_180 0 3 (dk_at dksX9_tells_0 1 rfl rfl)
theorem dX9_tells_4 : decode cX9_tells 4 = .ok (.iconst 3, 1) := dk_6 (dk_at dksX9_tells_0 4 rfl rfl)
theorem dX9_tells_5 : decode cX9_tells 5 = .ok (.invokevirtual 74, 3) := dk_182 0 74 (dk_at dksX9_tells_0 5 rfl rfl)
theorem dX9_tells_8 : decode cX9_tells 8 = .ok (.aload_n 0, 1) := dk_42 (dk_at dksX9_tells_0 8 rfl rfl)
theorem dX9_tells_9 : decode cX9_tells 9 = .ok (.iload_n 1, 1) := dk_27 (dk_at dksX9_tells_0 9 rfl rfl)
theorem dX9_tells_10 : decode cX9_tells 10 = .ok (.invokevirtual 82, 3) := dk_182 0 82 (dk_at dksX9_tells_0 10 rfl rfl)
theorem dX9_tells_13 : decode cX9_tells 13 = .ok (.iconst 2, 1) := dk_5 (dk_at dksX9_tells_0 13 rfl rfl)
theorem dX9_tells_14 : decode cX9_tells 14 = .ok (.imul, 1) := dk_104 (dk_at dksX9_tells_0 14 rfl rfl)
theorem dX9_tells_15 : decode cX9_tells 15 = .ok (.ireturn, 1) := dk_172 (dk_at dksX9_tells_0 15 rfl rfl)
abbrev cX9_isUnder : ByteArray := prog_10_method_3_code
def yX9_isUnder : MethodName := ⟨RX9, "isUnder", "(I)Z"⟩
def dkwX9_isUnder_0 : List UInt8 := [27, 154, 0, 7, 4, 167, 0, 4, 3, 172]
abbrev dktX9_isUnder_0 : List UInt8 := dkwX9_isUnder_0 ++ []
theorem dksX9_isUnder_0 : cX9_isUnder.data.toList.drop 0 = dktX9_isUnder_0 := by decide +kernel
theorem dX9_isUnder_0 : decode cX9_isUnder 0 = .ok (.iload_n 1, 1) := dk_27 (dk_at dksX9_isUnder_0 0 rfl rfl)
theorem dX9_isUnder_1 : decode cX9_isUnder 1 = .ok (.ifCond .ne 7, 3) := dk_154 0 7 (dk_at dksX9_isUnder_0 1 rfl rfl)
theorem dX9_isUnder_4 : decode cX9_isUnder 4 = .ok (.iconst 1, 1) := dk_4 (dk_at dksX9_isUnder_0 4 rfl rfl)
theorem dX9_isUnder_5 : decode cX9_isUnder 5 = .ok (.goto 4, 3) := dk_167 0 4 (dk_at dksX9_isUnder_0 5 rfl rfl)
theorem dX9_isUnder_8 : decode cX9_isUnder 8 = .ok (.iconst 0, 1) := dk_3 (dk_at dksX9_isUnder_0 8 rfl rfl)
theorem dX9_isUnder_9 : decode cX9_isUnder 9 = .ok (.ireturn, 1) := dk_172 (dk_at dksX9_isUnder_0 9 rfl rfl)
theorem q103 : (Jvm.Cond.initialized "FewerMan$Player") ∈ lw_all := lw_g (lw_at lw_m1 23 rfl) rfl
theorem q201 : (Jvm.Cond.fieldLinkNest "FewerMan$Player" (29 : Nat) "FewerMan$Moment" "player" "I" "FewerMan") ∈ lw_tbl := lw_at lw_m1 121 rfl
theorem q203 : (Jvm.Cond.fieldLinkNest "FewerMan$Player" (38 : Nat) "FewerMan$Moment" "kind" "I" "FewerMan") ∈ lw_tbl := lw_at lw_m1 123 rfl
theorem q205 : (Jvm.Cond.fieldLinkNest "FewerMan$Player" (40 : Nat) "FewerMan$Moment" "men" "I" "FewerMan") ∈ lw_tbl := lw_at lw_m1 125 rfl
theorem q207 : (Jvm.Cond.fieldLinkNest "FewerMan$Player" (41 : Nat) "FewerMan$Moment" "others" "I" "FewerMan") ∈ lw_tbl := lw_at lw_m1 127 rfl
theorem q209 : (Jvm.Cond.fieldLinkNest "FewerMan$Player" (47 : Nat) "FewerMan$Moment" "game" "I" "FewerMan") ∈ lw_tbl := lw_at lw_m1 129 rfl
theorem q235 : (Jvm.Cond.fieldLinkNest "FewerMan$Player" (44 : Nat) "FewerMan" "game" "I" "FewerMan") ∈ lw_tbl := lw_at lw_m1 155 rfl
theorem q239 : (Jvm.Cond.fieldLinkNest "FewerMan$Player" (48 : Nat) "FewerMan" "inn" "LFewerMan$Inn;" "FewerMan") ∈ lw_tbl := lw_at lw_m1 159 rfl
theorem q242 : (Jvm.Cond.fieldLinkNest "FewerMan$Player" (25 : Nat) "FewerMan" "moment" "LFewerMan$Moment;" "FewerMan") ∈ lw_tbl := lw_at lw_m1 162 rfl
theorem q539 : (Jvm.Cond.selects "FewerMan$Player" ({ cls := "java/lang/Object", name := "getClass", desc := "()Ljava/lang/Class;" } : Jvm.MethodName) ({ cls := "java/lang/Object", name := "getClass", desc := "()Ljava/lang/Class;" } : Jvm.MethodName)) ∈ lw_all := lw_g (lw_at lw_m2 219 rfl) rfl
theorem q577 : (Jvm.Cond.instantiable "FewerMan$Player" (4 : Nat)) ∈ lw_all := lw_g (lw_at lw_m3 17 rfl) rfl
theorem q579 : (Jvm.Cond.instanceMethod ({ cls := "FewerMan$Player", name := "<init>", desc := "(LFewerMan;II)V" } : Jvm.MethodName)) ∈ lw_all := lw_g (lw_at lw_m3 19 rfl) rfl
theorem q580 : (Jvm.Cond.code ({ cls := "FewerMan$Player", name := "<init>", desc := "(LFewerMan;II)V" } : Jvm.MethodName) prog_10_method_1_code (4 : Nat) (Option.none : Option Jvm.ClassFile.FieldType)) ∈ lw_all := lw_g (lw_at lw_m3 20 rfl) rfl
theorem q581 : (Jvm.Cond.methodLink "FewerMan$Player" (9 : Nat) ({ cls := "java/lang/Object", name := "<init>", desc := "()V" } : Jvm.MethodName)) ∈ lw_all := lw_g (lw_at lw_m3 21 rfl) rfl
theorem q582 : (Jvm.Cond.fieldLink "FewerMan$Player" (19 : Nat) "FewerMan$Player" "number" "I") ∈ lw_all := lw_g (lw_at lw_m3 22 rfl) rfl
theorem q585 : (Jvm.Cond.fieldLink "FewerMan$Player" (22 : Nat) "FewerMan$Player" "v" "I") ∈ lw_all := lw_g (lw_at lw_m3 25 rfl) rfl
theorem q591 : (Jvm.Cond.fieldLink "FewerMan$Player" (15 : Nat) "FewerMan$Player" "men" "I") ∈ lw_all := lw_g (lw_at lw_m3 31 rfl) rfl
theorem q599 : (Jvm.Cond.fieldLink "FewerMan$Player" (3 : Nat) "FewerMan$Player" "this$0" "LFewerMan;") ∈ lw_all := lw_g (lw_at lw_m3 39 rfl) rfl
theorem q600 : (Jvm.Cond.laysFinal "FewerMan$Player" "FewerMan$Player" "number" "I") ∈ lw_all := lw_g (lw_at lw_m3 40 rfl) rfl
theorem q601 : (Jvm.Cond.soleField "FewerMan$Player" "number") ∈ lw_all := lw_g (lw_at lw_m3 41 rfl) rfl
theorem q602 : (Jvm.Cond.lays "FewerMan$Player" "FewerMan$Player" "v" "I") ∈ lw_all := lw_g (lw_at lw_m3 42 rfl) rfl
theorem q603 : (Jvm.Cond.soleField "FewerMan$Player" "v") ∈ lw_all := lw_g (lw_at lw_m3 43 rfl) rfl
theorem q604 : (Jvm.Cond.lays "FewerMan$Player" "FewerMan$Player" "men" "I") ∈ lw_all := lw_g (lw_at lw_m3 44 rfl) rfl
theorem q605 : (Jvm.Cond.soleField "FewerMan$Player" "men") ∈ lw_all := lw_g (lw_at lw_m3 45 rfl) rfl
theorem q606 : (Jvm.Cond.laysFinal "FewerMan$Player" "FewerMan$Player" "this$0" "LFewerMan;") ∈ lw_all := lw_g (lw_at lw_m3 46 rfl) rfl
theorem q607 : (Jvm.Cond.soleField "FewerMan$Player" "this$0") ∈ lw_all := lw_g (lw_at lw_m3 47 rfl) rfl
theorem q608 : (Jvm.Cond.superclass "FewerMan$Player" "java/lang/Object") ∈ lw_all := lw_g (lw_at lw_m3 48 rfl) rfl
theorem q725 : (Jvm.Cond.instanceMethod ({ cls := "FewerMan$Player", name := "kind", desc := "()I" } : Jvm.MethodName)) ∈ lw_all := lw_g (lw_at lw_m3 165 rfl) rfl
theorem q726 : (Jvm.Cond.selects "FewerMan$Player" ({ cls := "FewerMan$Player", name := "kind", desc := "()I" } : Jvm.MethodName) ({ cls := "FewerMan$Player", name := "kind", desc := "()I" } : Jvm.MethodName)) ∈ lw_all := lw_g (lw_at lw_m3 166 rfl) rfl
theorem q727 : (Jvm.Cond.sameMethod "FewerMan$Player" "FewerMan$Player" "kind" "()I") ∈ lw_all := lw_g (lw_at lw_m3 167 rfl) rfl
theorem q746 : (Jvm.Cond.code ({ cls := "FewerMan$Player", name := "kind", desc := "()I" } : Jvm.MethodName) prog_10_method_2_code (1 : Nat) (Option.some Jvm.ClassFile.FieldType.int)) ∈ lw_all := lw_g (lw_at lw_m3 186 rfl) rfl
theorem q764 : (Jvm.Cond.instanceMethod ({ cls := "FewerMan$Player", name := "push", desc := "(LFewerMan$Player;)I" } : Jvm.MethodName)) ∈ lw_all := lw_g (lw_at lw_m3 204 rfl) rfl
theorem q765 : (Jvm.Cond.selects "FewerMan$Player" ({ cls := "FewerMan$Player", name := "push", desc := "(LFewerMan$Player;)I" } : Jvm.MethodName) ({ cls := "FewerMan$Player", name := "push", desc := "(LFewerMan$Player;)I" } : Jvm.MethodName)) ∈ lw_all := lw_g (lw_at lw_m3 205 rfl) rfl
theorem q766 : (Jvm.Cond.sameMethod "FewerMan$Player" "FewerMan$Player" "push" "(LFewerMan$Player;)I") ∈ lw_all := lw_g (lw_at lw_m3 206 rfl) rfl
theorem q773 : (Jvm.Cond.code ({ cls := "FewerMan$Player", name := "push", desc := "(LFewerMan$Player;)I" } : Jvm.MethodName) prog_10_method_5_code (2 : Nat) (Option.some Jvm.ClassFile.FieldType.int)) ∈ lw_all := lw_g (lw_at lw_m3 213 rfl) rfl
theorem q774 : (Jvm.Cond.methodLink "FewerMan$Player" (34 : Nat) ({ cls := "FewerMan$Player", name := "kind", desc := "()I" } : Jvm.MethodName)) ∈ lw_all := lw_g (lw_at lw_m3 214 rfl) rfl
theorem q775 : (Jvm.Cond.methodLink "FewerMan$Player" (52 : Nat) ({ cls := "FewerMan$Inn", name := "lifts", desc := "(LFewerMan$Moment;)I" } : Jvm.MethodName)) ∈ lw_all := lw_g (lw_at lw_m3 215 rfl) rfl
theorem q812 : (Jvm.Cond.methodLink "FewerMan$Player" (58 : Nat) ({ cls := "FewerMan$Player", name := "pushes", desc := "(LFewerMan$Player;)I" } : Jvm.MethodName)) ∈ lw_all := lw_g (lw_at lw_m4 12 rfl) rfl
theorem q813 : (Jvm.Cond.instanceMethod ({ cls := "FewerMan$Player", name := "pushes", desc := "(LFewerMan$Player;)I" } : Jvm.MethodName)) ∈ lw_all := lw_g (lw_at lw_m4 13 rfl) rfl
theorem q814 : (Jvm.Cond.selects "FewerMan$Player" ({ cls := "FewerMan$Player", name := "pushes", desc := "(LFewerMan$Player;)I" } : Jvm.MethodName) ({ cls := "FewerMan$Player", name := "pushes", desc := "(LFewerMan$Player;)I" } : Jvm.MethodName)) ∈ lw_all := lw_g (lw_at lw_m4 14 rfl) rfl
theorem q815 : (Jvm.Cond.sameMethod "FewerMan$Player" "FewerMan$Player" "pushes" "(LFewerMan$Player;)I") ∈ lw_all := lw_g (lw_at lw_m4 15 rfl) rfl
theorem q837 : (Jvm.Cond.code ({ cls := "FewerMan$Player", name := "pushes", desc := "(LFewerMan$Player;)I" } : Jvm.MethodName) prog_10_method_4_code (2 : Nat) (Option.some Jvm.ClassFile.FieldType.int)) ∈ lw_all := lw_g (lw_at lw_m4 37 rfl) rfl
theorem q843 : (Jvm.Cond.instanceMethod ({ cls := "FewerMan$Player", name := "odds", desc := "(LFewerMan$Player;)I" } : Jvm.MethodName)) ∈ lw_all := lw_g (lw_at lw_m4 43 rfl) rfl
theorem q844 : (Jvm.Cond.selects "FewerMan$Player" ({ cls := "FewerMan$Player", name := "odds", desc := "(LFewerMan$Player;)I" } : Jvm.MethodName) ({ cls := "FewerMan$Player", name := "odds", desc := "(LFewerMan$Player;)I" } : Jvm.MethodName)) ∈ lw_all := lw_g (lw_at lw_m4 44 rfl) rfl
theorem q845 : (Jvm.Cond.sameMethod "FewerMan$Player" "FewerMan$Player" "odds" "(LFewerMan$Player;)I") ∈ lw_all := lw_g (lw_at lw_m4 45 rfl) rfl
theorem q852 : (Jvm.Cond.code ({ cls := "FewerMan$Player", name := "odds", desc := "(LFewerMan$Player;)I" } : Jvm.MethodName) prog_10_method_6_code (2 : Nat) (Option.some Jvm.ClassFile.FieldType.int)) ∈ lw_all := lw_g (lw_at lw_m4 52 rfl) rfl
theorem q853 : (Jvm.Cond.methodLink "FewerMan$Player" (62 : Nat) ({ cls := "FewerMan$Player", name := "push", desc := "(LFewerMan$Player;)I" } : Jvm.MethodName)) ∈ lw_all := lw_g (lw_at lw_m4 53 rfl) rfl
theorem q854 : (Jvm.Cond.methodLink "FewerMan$Player" (65 : Nat) ({ cls := "java/lang/Math", name := "min", desc := "(II)I" } : Jvm.MethodName)) ∈ lw_all := lw_g (lw_at lw_m4 54 rfl) rfl
theorem q855 : (Jvm.Cond.methodLink "FewerMan$Player" (71 : Nat) ({ cls := "java/lang/Math", name := "max", desc := "(II)I" } : Jvm.MethodName)) ∈ lw_all := lw_g (lw_at lw_m4 55 rfl) rfl
theorem q1028 : (Jvm.Cond.instanceMethod ({ cls := "FewerMan$Player", name := "moves", desc := "(I)I" } : Jvm.MethodName)) ∈ lw_all := lw_g (lw_at lw_m4 228 rfl) rfl
theorem q1029 : (Jvm.Cond.selects "FewerMan$Player" ({ cls := "FewerMan$Player", name := "moves", desc := "(I)I" } : Jvm.MethodName) ({ cls := "FewerMan$Player", name := "moves", desc := "(I)I" } : Jvm.MethodName)) ∈ lw_all := lw_g (lw_at lw_m4 229 rfl) rfl
theorem q1030 : (Jvm.Cond.sameMethod "FewerMan$Player" "FewerMan$Player" "moves" "(I)I") ∈ lw_all := lw_g (lw_at lw_m4 230 rfl) rfl
theorem q1040 : (Jvm.Cond.code ({ cls := "FewerMan$Player", name := "moves", desc := "(I)I" } : Jvm.MethodName) prog_10_method_7_code (2 : Nat) (Option.some Jvm.ClassFile.FieldType.int)) ∈ lw_all := lw_g (lw_at lw_m5 0 rfl) rfl
theorem q1041 : (Jvm.Cond.methodLinkNest "FewerMan$Player" (74 : Nat) ({ cls := "FewerMan", name := "body", desc := "(I)V" } : Jvm.MethodName) "FewerMan") ∈ lw_tbl := lw_at lw_m5 1 rfl
theorem q1049 : (Jvm.Cond.declares ({ cls := "FewerMan$Player", name := "moves", desc := "(I)I" } : Jvm.MethodName)) ∈ lw_tbl := lw_at lw_m5 9 rfl
theorem q1053 : (Jvm.Cond.instanceMethod ({ cls := "FewerMan$Player", name := "bets", desc := "(I)I" } : Jvm.MethodName)) ∈ lw_all := lw_g (lw_at lw_m5 13 rfl) rfl
theorem q1054 : (Jvm.Cond.selects "FewerMan$Player" ({ cls := "FewerMan$Player", name := "bets", desc := "(I)I" } : Jvm.MethodName) ({ cls := "FewerMan$Player", name := "bets", desc := "(I)I" } : Jvm.MethodName)) ∈ lw_all := lw_g (lw_at lw_m5 14 rfl) rfl
theorem q1055 : (Jvm.Cond.sameMethod "FewerMan$Player" "FewerMan$Player" "bets" "(I)I") ∈ lw_all := lw_g (lw_at lw_m5 15 rfl) rfl
theorem q1064 : (Jvm.Cond.code ({ cls := "FewerMan$Player", name := "bets", desc := "(I)I" } : Jvm.MethodName) prog_10_method_8_code (2 : Nat) (Option.some Jvm.ClassFile.FieldType.int)) ∈ lw_all := lw_g (lw_at lw_m5 24 rfl) rfl
theorem q1065 : (Jvm.Cond.methodLink "FewerMan$Player" (78 : Nat) ({ cls := "FewerMan$Player", name := "moves", desc := "(I)I" } : Jvm.MethodName)) ∈ lw_all := lw_g (lw_at lw_m5 25 rfl) rfl
theorem q1073 : (Jvm.Cond.declares ({ cls := "FewerMan$Player", name := "bets", desc := "(I)I" } : Jvm.MethodName)) ∈ lw_tbl := lw_at lw_m5 33 rfl
theorem q1075 : (Jvm.Cond.instanceMethod ({ cls := "FewerMan$Player", name := "tells", desc := "(I)I" } : Jvm.MethodName)) ∈ lw_all := lw_g (lw_at lw_m5 35 rfl) rfl
theorem q1076 : (Jvm.Cond.selects "FewerMan$Player" ({ cls := "FewerMan$Player", name := "tells", desc := "(I)I" } : Jvm.MethodName) ({ cls := "FewerMan$Player", name := "tells", desc := "(I)I" } : Jvm.MethodName)) ∈ lw_all := lw_g (lw_at lw_m5 36 rfl) rfl
theorem q1077 : (Jvm.Cond.sameMethod "FewerMan$Player" "FewerMan$Player" "tells" "(I)I") ∈ lw_all := lw_g (lw_at lw_m5 37 rfl) rfl
theorem q1083 : (Jvm.Cond.code ({ cls := "FewerMan$Player", name := "tells", desc := "(I)I" } : Jvm.MethodName) prog_10_method_9_code (2 : Nat) (Option.some Jvm.ClassFile.FieldType.int)) ∈ lw_all := lw_g (lw_at lw_m5 43 rfl) rfl
theorem q1084 : (Jvm.Cond.methodLink "FewerMan$Player" (82 : Nat) ({ cls := "FewerMan$Player", name := "bets", desc := "(I)I" } : Jvm.MethodName)) ∈ lw_all := lw_g (lw_at lw_m5 44 rfl) rfl
theorem q1091 : (Jvm.Cond.declares ({ cls := "FewerMan$Player", name := "tells", desc := "(I)I" } : Jvm.MethodName)) ∈ lw_tbl := lw_at lw_m5 51 rfl
theorem q1109 : (Jvm.Cond.instanceMethod ({ cls := "FewerMan$Player", name := "isUnder", desc := "(I)Z" } : Jvm.MethodName)) ∈ lw_all := lw_g (lw_at lw_m5 69 rfl) rfl
theorem q1110 : (Jvm.Cond.selects "FewerMan$Player" ({ cls := "FewerMan$Player", name := "isUnder", desc := "(I)Z" } : Jvm.MethodName) ({ cls := "FewerMan$Player", name := "isUnder", desc := "(I)Z" } : Jvm.MethodName)) ∈ lw_all := lw_g (lw_at lw_m5 70 rfl) rfl
theorem q1111 : (Jvm.Cond.sameMethod "FewerMan$Player" "FewerMan$Player" "isUnder" "(I)Z") ∈ lw_all := lw_g (lw_at lw_m5 71 rfl) rfl
theorem q1116 : (Jvm.Cond.code ({ cls := "FewerMan$Player", name := "isUnder", desc := "(I)Z" } : Jvm.MethodName) prog_10_method_3_code (2 : Nat) (Option.some Jvm.ClassFile.FieldType.boolean)) ∈ lw_all := lw_g (lw_at lw_m5 76 rfl) rfl
theorem q1706 : (Jvm.Cond.castable "FewerMan$Player" "java/lang/Object") ∈ lw_tbl := lw_at lw_m7 186 rfl
theorem in_X9 : ∀ w ∈ wsX90, w ∈ lw_all := lw_in wsX90 [600, 602, 604, 606] (by decide +kernel) (by decide +kernel)

theorem q80 : (Jvm.Cond.initialized "FewerManLaw") ∈ lw_all := lw_g (lw_at lw_m1 0 rfl) rfl
set_option maxRecDepth 100000
theorem q113 : (Jvm.Cond.classLink "FewerManLaw" (7 : Nat) "FewerMan") ∈ lw_all := lw_g (lw_at lw_m1 33 rfl) rfl
theorem q115 : (Jvm.Cond.methodLink "FewerManLaw" (9 : Nat) ({ cls := "FewerMan", name := "<init>", desc := "()V" } : Jvm.MethodName)) ∈ lw_all := lw_g (lw_at lw_m1 35 rfl) rfl
theorem q327 : (Jvm.Cond.methodLink "FewerManLaw" (13 : Nat) ({ cls := "FewerMan", name := "feed", desc := "(I)I" } : Jvm.MethodName)) ∈ lw_all := lw_g (lw_at lw_m2 7 rfl) rfl
theorem q334 : (Jvm.Cond.methodLink "FewerManLaw" (18 : Nat) ({ cls := "FewerMan", name := "inn", desc := "()I" } : Jvm.MethodName)) ∈ lw_all := lw_g (lw_at lw_m2 14 rfl) rfl
theorem q563 : (Jvm.Cond.methodLink "FewerManLaw" (41 : Nat) ({ cls := "FewerMan", name := "told", desc := "(I)I" } : Jvm.MethodName)) ∈ lw_all := lw_g (lw_at lw_m3 3 rfl) rfl
theorem q567 : (Jvm.Cond.methodLink "FewerManLaw" (23 : Nat) ({ cls := "FewerMan", name := "player", desc := "(II)I" } : Jvm.MethodName)) ∈ lw_all := lw_g (lw_at lw_m3 7 rfl) rfl
theorem q702 : (Jvm.Cond.methodLink "FewerManLaw" (28 : Nat) ({ cls := "FewerMan", name := "of", desc := "(II)I" } : Jvm.MethodName)) ∈ lw_all := lw_g (lw_at lw_m3 142 rfl) rfl
theorem q747 : (Jvm.Cond.methodLink "FewerManLaw" (32 : Nat) ({ cls := "FewerMan", name := "men", desc := "(II)I" } : Jvm.MethodName)) ∈ lw_all := lw_g (lw_at lw_m3 187 rfl) rfl
theorem q751 : (Jvm.Cond.methodLink "FewerManLaw" (36 : Nat) ({ cls := "FewerMan", name := "row", desc := "(III)I" } : Jvm.MethodName)) ∈ lw_all := lw_g (lw_at lw_m3 191 rfl) rfl
theorem q755 : (Jvm.Cond.methodLink "FewerManLaw" (45 : Nat) ({ cls := "FewerMan", name := "push", desc := "(II)I" } : Jvm.MethodName)) ∈ lw_all := lw_g (lw_at lw_m3 195 rfl) rfl
theorem q838 : (Jvm.Cond.methodLink "FewerManLaw" (49 : Nat) ({ cls := "FewerMan", name := "odds", desc := "(II)I" } : Jvm.MethodName)) ∈ lw_all := lw_g (lw_at lw_m4 38 rfl) rfl
theorem q856 : (Jvm.Cond.methodLink "FewerManLaw" (53 : Nat) ({ cls := "FewerMan", name := "play", desc := "(IIZ)I" } : Jvm.MethodName)) ∈ lw_all := lw_g (lw_at lw_m4 56 rfl) rfl
theorem q866 : (Jvm.Cond.methodLink "FewerManLaw" (58 : Nat) ({ cls := "FewerMan", name := "wins", desc := "(IIIII)J" } : Jvm.MethodName)) ∈ lw_all := lw_g (lw_at lw_m4 66 rfl) rfl
theorem q893 : (Jvm.Cond.methodLink "FewerManLaw" (63 : Nat) ({ cls := "FewerMan", name := "mean", desc := "(IIII)J" } : Jvm.MethodName)) ∈ lw_all := lw_g (lw_at lw_m4 93 rfl) rfl
theorem q897 : (Jvm.Cond.methodLink "FewerManLaw" (72 : Nat) ({ cls := "FewerMan", name := "ends", desc := "(IIII)J" } : Jvm.MethodName)) ∈ lw_all := lw_g (lw_at lw_m4 97 rfl) rfl
theorem q901 : (Jvm.Cond.methodLink "FewerManLaw" (68 : Nat) ({ cls := "FewerMan", name := "series", desc := "(IIII)J" } : Jvm.MethodName)) ∈ lw_all := lw_g (lw_at lw_m4 101 rfl) rfl
theorem q909 : (Jvm.Cond.methodLink "FewerManLaw" (76 : Nat) ({ cls := "FewerMan", name := "even", desc := "(II)I" } : Jvm.MethodName)) ∈ lw_all := lw_g (lw_at lw_m4 109 rfl) rfl
theorem q916 : (Jvm.Cond.methodLink "FewerManLaw" (80 : Nat) ({ cls := "FewerMan", name := "purpose", desc := "(IIII)J" } : Jvm.MethodName)) ∈ lw_all := lw_g (lw_at lw_m4 116 rfl) rfl
theorem q924 : (Jvm.Cond.methodLink "FewerManLaw" (84 : Nat) ({ cls := "FewerMan", name := "loses", desc := "(III)I" } : Jvm.MethodName)) ∈ lw_all := lw_g (lw_at lw_m4 124 rfl) rfl
theorem q928 : (Jvm.Cond.methodLink "FewerManLaw" (88 : Nat) ({ cls := "FewerMan", name := "order", desc := "(III)I" } : Jvm.MethodName)) ∈ lw_all := lw_g (lw_at lw_m4 128 rfl) rfl
theorem q959 : (Jvm.Cond.methodLink "FewerManLaw" (92 : Nat) ({ cls := "FewerMan", name := "orderMean", desc := "(III)J" } : Jvm.MethodName)) ∈ lw_all := lw_g (lw_at lw_m4 159 rfl) rfl
theorem q963 : (Jvm.Cond.methodLink "FewerManLaw" (97 : Nat) ({ cls := "FewerMan", name := "stakes", desc := "(IIII)J" } : Jvm.MethodName)) ∈ lw_all := lw_g (lw_at lw_m4 163 rfl) rfl
theorem q971 : (Jvm.Cond.methodLink "FewerManLaw" (101 : Nat) ({ cls := "FewerMan", name := "table", desc := "(III)J" } : Jvm.MethodName)) ∈ lw_all := lw_g (lw_at lw_m4 171 rfl) rfl
theorem q983 : (Jvm.Cond.methodLink "FewerManLaw" (105 : Nat) ({ cls := "FewerMan", name := "book", desc := "(IIZ)I" } : Jvm.MethodName)) ∈ lw_all := lw_g (lw_at lw_m4 183 rfl) rfl
theorem q987 : (Jvm.Cond.methodLink "FewerManLaw" (109 : Nat) ({ cls := "FewerMan", name := "likely", desc := "(I)I" } : Jvm.MethodName)) ∈ lw_all := lw_g (lw_at lw_m4 187 rfl) rfl
theorem q1007 : (Jvm.Cond.methodLink "FewerManLaw" (113 : Nat) ({ cls := "FewerMan", name := "says", desc := "(I)I" } : Jvm.MethodName)) ∈ lw_all := lw_g (lw_at lw_m4 207 rfl) rfl
theorem q1011 : (Jvm.Cond.methodLink "FewerManLaw" (117 : Nat) ({ cls := "FewerMan", name := "tale", desc := "(I)I" } : Jvm.MethodName)) ∈ lw_all := lw_g (lw_at lw_m4 211 rfl) rfl
theorem q1015 : (Jvm.Cond.methodLink "FewerManLaw" (121 : Nat) ({ cls := "FewerMan", name := "looked", desc := "()I" } : Jvm.MethodName)) ∈ lw_all := lw_g (lw_at lw_m4 215 rfl) rfl
theorem q1023 : (Jvm.Cond.methodLink "FewerManLaw" (125 : Nat) ({ cls := "FewerMan", name := "act", desc := "(III)I" } : Jvm.MethodName)) ∈ lw_all := lw_g (lw_at lw_m4 223 rfl) rfl
theorem q1100 : (Jvm.Cond.methodLink "FewerManLaw" (129 : Nat) ({ cls := "FewerMan", name := "trace", desc := "(I)I" } : Jvm.MethodName)) ∈ lw_all := lw_g (lw_at lw_m5 60 rfl) rfl
theorem q1104 : (Jvm.Cond.methodLink "FewerManLaw" (133 : Nat) ({ cls := "FewerMan", name := "as", desc := "(II)I" } : Jvm.MethodName)) ∈ lw_all := lw_g (lw_at lw_m5 64 rfl) rfl
theorem q1137 : (Jvm.Cond.methodLink "FewerManLaw" (137 : Nat) ({ cls := "FewerMan", name := "image", desc := "()I" } : Jvm.MethodName)) ∈ lw_all := lw_g (lw_at lw_m5 97 rfl) rfl
theorem q1215 : (Jvm.Cond.methodLink "FewerManLaw" (141 : Nat) ({ cls := "FewerMan", name := "undo", desc := "()I" } : Jvm.MethodName)) ∈ lw_all := lw_g (lw_at lw_m5 175 rfl) rfl
theorem q1233 : (Jvm.Cond.methodLink "FewerManLaw" (145 : Nat) ({ cls := "FewerMan", name := "count", desc := "(I)I" } : Jvm.MethodName)) ∈ lw_all := lw_g (lw_at lw_m5 193 rfl) rfl
theorem q1237 : (Jvm.Cond.classLink "FewerManLaw" (10 : Nat) "FewerManModel") ∈ lw_all := lw_g (lw_at lw_m5 197 rfl) rfl
theorem q1239 : (Jvm.Cond.methodLink "FewerManLaw" (12 : Nat) ({ cls := "FewerManModel", name := "<init>", desc := "()V" } : Jvm.MethodName)) ∈ lw_all := lw_g (lw_at lw_m5 199 rfl) rfl
theorem q1315 : (Jvm.Cond.methodLink "FewerManLaw" (17 : Nat) ({ cls := "FewerManModel", name := "feed", desc := "(I)I" } : Jvm.MethodName)) ∈ lw_all := lw_g (lw_at lw_m6 35 rfl) rfl
theorem q1322 : (Jvm.Cond.methodLink "FewerManLaw" (22 : Nat) ({ cls := "FewerManModel", name := "inn", desc := "()I" } : Jvm.MethodName)) ∈ lw_all := lw_g (lw_at lw_m6 42 rfl) rfl
theorem q1430 : (Jvm.Cond.methodLink "FewerManLaw" (27 : Nat) ({ cls := "FewerManModel", name := "player", desc := "(II)I" } : Jvm.MethodName)) ∈ lw_all := lw_g (lw_at lw_m6 150 rfl) rfl
theorem q1434 : (Jvm.Cond.methodLink "FewerManLaw" (31 : Nat) ({ cls := "FewerManModel", name := "of", desc := "(II)I" } : Jvm.MethodName)) ∈ lw_all := lw_g (lw_at lw_m6 154 rfl) rfl
theorem q1442 : (Jvm.Cond.methodLink "FewerManLaw" (35 : Nat) ({ cls := "FewerManModel", name := "men", desc := "(II)I" } : Jvm.MethodName)) ∈ lw_all := lw_g (lw_at lw_m6 162 rfl) rfl
theorem q1446 : (Jvm.Cond.methodLink "FewerManLaw" (40 : Nat) ({ cls := "FewerManModel", name := "row", desc := "(III)I" } : Jvm.MethodName)) ∈ lw_all := lw_g (lw_at lw_m6 166 rfl) rfl
theorem q1450 : (Jvm.Cond.methodLink "FewerManLaw" (44 : Nat) ({ cls := "FewerManModel", name := "told", desc := "(I)I" } : Jvm.MethodName)) ∈ lw_all := lw_g (lw_at lw_m6 170 rfl) rfl
theorem q1458 : (Jvm.Cond.methodLink "FewerManLaw" (48 : Nat) ({ cls := "FewerManModel", name := "push", desc := "(II)I" } : Jvm.MethodName)) ∈ lw_all := lw_g (lw_at lw_m6 178 rfl) rfl
theorem q1470 : (Jvm.Cond.methodLink "FewerManLaw" (52 : Nat) ({ cls := "FewerManModel", name := "odds", desc := "(II)I" } : Jvm.MethodName)) ∈ lw_all := lw_g (lw_at lw_m6 190 rfl) rfl
theorem q1478 : (Jvm.Cond.methodLink "FewerManLaw" (57 : Nat) ({ cls := "FewerManModel", name := "play", desc := "(IIZ)I" } : Jvm.MethodName)) ∈ lw_all := lw_g (lw_at lw_m6 198 rfl) rfl
theorem q1494 : (Jvm.Cond.methodLink "FewerManLaw" (62 : Nat) ({ cls := "FewerManModel", name := "wins", desc := "(IIIII)J" } : Jvm.MethodName)) ∈ lw_all := lw_g (lw_at lw_m6 214 rfl) rfl
theorem q1530 : (Jvm.Cond.methodLink "FewerManLaw" (67 : Nat) ({ cls := "FewerManModel", name := "mean", desc := "(IIII)J" } : Jvm.MethodName)) ∈ lw_all := lw_g (lw_at lw_m7 10 rfl) rfl
theorem q1534 : (Jvm.Cond.methodLink "FewerManLaw" (71 : Nat) ({ cls := "FewerManModel", name := "series", desc := "(IIII)J" } : Jvm.MethodName)) ∈ lw_all := lw_g (lw_at lw_m7 14 rfl) rfl
theorem q1542 : (Jvm.Cond.methodLink "FewerManLaw" (75 : Nat) ({ cls := "FewerManModel", name := "ends", desc := "(IIII)J" } : Jvm.MethodName)) ∈ lw_all := lw_g (lw_at lw_m7 22 rfl) rfl
theorem q1546 : (Jvm.Cond.methodLink "FewerManLaw" (100 : Nat) ({ cls := "FewerManModel", name := "stakes", desc := "(IIII)J" } : Jvm.MethodName)) ∈ lw_all := lw_g (lw_at lw_m7 26 rfl) rfl
theorem q1550 : (Jvm.Cond.methodLink "FewerManLaw" (79 : Nat) ({ cls := "FewerManModel", name := "even", desc := "(II)I" } : Jvm.MethodName)) ∈ lw_all := lw_g (lw_at lw_m7 30 rfl) rfl
theorem q1554 : (Jvm.Cond.methodLink "FewerManLaw" (83 : Nat) ({ cls := "FewerManModel", name := "purpose", desc := "(IIII)J" } : Jvm.MethodName)) ∈ lw_all := lw_g (lw_at lw_m7 34 rfl) rfl
theorem q1562 : (Jvm.Cond.methodLink "FewerManLaw" (87 : Nat) ({ cls := "FewerManModel", name := "loses", desc := "(III)I" } : Jvm.MethodName)) ∈ lw_all := lw_g (lw_at lw_m7 42 rfl) rfl
theorem q1566 : (Jvm.Cond.methodLink "FewerManLaw" (91 : Nat) ({ cls := "FewerManModel", name := "order", desc := "(III)I" } : Jvm.MethodName)) ∈ lw_all := lw_g (lw_at lw_m7 46 rfl) rfl
theorem q1587 : (Jvm.Cond.methodLink "FewerManLaw" (96 : Nat) ({ cls := "FewerManModel", name := "orderMean", desc := "(III)J" } : Jvm.MethodName)) ∈ lw_all := lw_g (lw_at lw_m7 67 rfl) rfl
theorem q1591 : (Jvm.Cond.methodLink "FewerManLaw" (104 : Nat) ({ cls := "FewerManModel", name := "table", desc := "(III)J" } : Jvm.MethodName)) ∈ lw_all := lw_g (lw_at lw_m7 71 rfl) rfl
theorem q1603 : (Jvm.Cond.methodLink "FewerManLaw" (108 : Nat) ({ cls := "FewerManModel", name := "book", desc := "(IIZ)I" } : Jvm.MethodName)) ∈ lw_all := lw_g (lw_at lw_m7 83 rfl) rfl
theorem q1607 : (Jvm.Cond.methodLink "FewerManLaw" (112 : Nat) ({ cls := "FewerManModel", name := "likely", desc := "(I)I" } : Jvm.MethodName)) ∈ lw_all := lw_g (lw_at lw_m7 87 rfl) rfl
theorem q1615 : (Jvm.Cond.methodLink "FewerManLaw" (116 : Nat) ({ cls := "FewerManModel", name := "says", desc := "(I)I" } : Jvm.MethodName)) ∈ lw_all := lw_g (lw_at lw_m7 95 rfl) rfl
theorem q1619 : (Jvm.Cond.methodLink "FewerManLaw" (120 : Nat) ({ cls := "FewerManModel", name := "tale", desc := "(I)I" } : Jvm.MethodName)) ∈ lw_all := lw_g (lw_at lw_m7 99 rfl) rfl
theorem q1623 : (Jvm.Cond.methodLink "FewerManLaw" (124 : Nat) ({ cls := "FewerManModel", name := "looked", desc := "()I" } : Jvm.MethodName)) ∈ lw_all := lw_g (lw_at lw_m7 103 rfl) rfl
theorem q1627 : (Jvm.Cond.methodLink "FewerManLaw" (128 : Nat) ({ cls := "FewerManModel", name := "act", desc := "(III)I" } : Jvm.MethodName)) ∈ lw_all := lw_g (lw_at lw_m7 107 rfl) rfl
theorem q1662 : (Jvm.Cond.methodLink "FewerManLaw" (132 : Nat) ({ cls := "FewerManModel", name := "trace", desc := "(I)I" } : Jvm.MethodName)) ∈ lw_all := lw_g (lw_at lw_m7 142 rfl) rfl
theorem q1666 : (Jvm.Cond.methodLink "FewerManLaw" (136 : Nat) ({ cls := "FewerManModel", name := "as", desc := "(II)I" } : Jvm.MethodName)) ∈ lw_all := lw_g (lw_at lw_m7 146 rfl) rfl
theorem q1670 : (Jvm.Cond.methodLink "FewerManLaw" (140 : Nat) ({ cls := "FewerManModel", name := "image", desc := "()I" } : Jvm.MethodName)) ∈ lw_all := lw_g (lw_at lw_m7 150 rfl) rfl
theorem q1674 : (Jvm.Cond.methodLink "FewerManLaw" (144 : Nat) ({ cls := "FewerManModel", name := "undo", desc := "()I" } : Jvm.MethodName)) ∈ lw_all := lw_g (lw_at lw_m7 154 rfl) rfl
theorem q1678 : (Jvm.Cond.methodLink "FewerManLaw" (148 : Nat) ({ cls := "FewerManModel", name := "count", desc := "(I)I" } : Jvm.MethodName)) ∈ lw_all := lw_g (lw_at lw_m7 158 rfl) rfl

theorem q784 : (Jvm.Cond.interfaceMethod "FewerMan$Test" "FewerMan$Test" "holds" "(LFewerMan$Moment;)Z") ∈ lw_tbl := lw_at lw_m3 224 rfl
set_option maxRecDepth 100000
theorem q785 : (Jvm.Cond.declares ({ cls := "FewerMan$Test", name := "holds", desc := "(LFewerMan$Moment;)Z" } : Jvm.MethodName)) ∈ lw_tbl := lw_at lw_m3 225 rfl

theorem q1162 : (Jvm.Cond.sameMethod "[B" "java/lang/Object" "clone" "()Ljava/lang/Object;") ∈ lw_all := lw_g (lw_at lw_m5 122 rfl) rfl
set_option maxRecDepth 100000
theorem q1163 : (Jvm.Cond.selects "[B" ({ cls := "[B", name := "clone", desc := "()Ljava/lang/Object;" } : Jvm.MethodName) ({ cls := "java/lang/Object", name := "clone", desc := "()Ljava/lang/Object;" } : Jvm.MethodName)) ∈ lw_all := lw_g (lw_at lw_m5 123 rfl) rfl
theorem q1164 : (Jvm.Cond.castable "[B" "java/lang/Cloneable") ∈ lw_tbl := lw_at lw_m5 124 rfl
theorem q1719 : (Jvm.Cond.castable "[B" "java/lang/Object") ∈ lw_tbl := lw_at lw_m7 199 rfl

theorem q1722 : (Jvm.Cond.castable "[C" "java/lang/Object") ∈ lw_tbl := lw_at lw_m7 202 rfl
set_option maxRecDepth 100000

theorem q1149 : (Jvm.Cond.sameMethod "[I" "java/lang/Object" "clone" "()Ljava/lang/Object;") ∈ lw_all := lw_g (lw_at lw_m5 109 rfl) rfl
set_option maxRecDepth 100000
theorem q1152 : (Jvm.Cond.selects "[I" ({ cls := "[I", name := "clone", desc := "()Ljava/lang/Object;" } : Jvm.MethodName) ({ cls := "java/lang/Object", name := "clone", desc := "()Ljava/lang/Object;" } : Jvm.MethodName)) ∈ lw_all := lw_g (lw_at lw_m5 112 rfl) rfl
theorem q1153 : (Jvm.Cond.castable "[I" "java/lang/Cloneable") ∈ lw_tbl := lw_at lw_m5 113 rfl
theorem q1720 : (Jvm.Cond.castable "[I" "java/lang/Object") ∈ lw_tbl := lw_at lw_m7 200 rfl

theorem q1723 : (Jvm.Cond.castable "[J" "java/lang/Object") ∈ lw_tbl := lw_at lw_m7 203 rfl
set_option maxRecDepth 100000

theorem q1716 : (Jvm.Cond.sameMethod "[Ljava/lang/Object;" "java/lang/Object" "getClass" "()Ljava/lang/Class;") ∈ lw_all := lw_g (lw_at lw_m7 196 rfl) rfl
set_option maxRecDepth 100000
theorem q1717 : (Jvm.Cond.selects "[Ljava/lang/Object;" ({ cls := "java/lang/Object", name := "getClass", desc := "()Ljava/lang/Class;" } : Jvm.MethodName) ({ cls := "java/lang/Object", name := "getClass", desc := "()Ljava/lang/Class;" } : Jvm.MethodName)) ∈ lw_all := lw_g (lw_at lw_m7 197 rfl) rfl
theorem q1725 : (Jvm.Cond.castable "[Ljava/lang/Object;" "java/lang/Object") ∈ lw_tbl := lw_at lw_m7 205 rfl

theorem q1157 : (Jvm.Cond.sameMethod "[Z" "java/lang/Object" "clone" "()Ljava/lang/Object;") ∈ lw_all := lw_g (lw_at lw_m5 117 rfl) rfl
set_option maxRecDepth 100000
theorem q1158 : (Jvm.Cond.selects "[Z" ({ cls := "[Z", name := "clone", desc := "()Ljava/lang/Object;" } : Jvm.MethodName) ({ cls := "java/lang/Object", name := "clone", desc := "()Ljava/lang/Object;" } : Jvm.MethodName)) ∈ lw_all := lw_g (lw_at lw_m5 118 rfl) rfl
theorem q1159 : (Jvm.Cond.castable "[Z" "java/lang/Cloneable") ∈ lw_tbl := lw_at lw_m5 119 rfl
theorem q1724 : (Jvm.Cond.castable "[Z" "java/lang/Object") ∈ lw_tbl := lw_at lw_m7 204 rfl

theorem q1721 : (Jvm.Cond.castable "[[C" "java/lang/Object") ∈ lw_tbl := lw_at lw_m7 201 rfl
set_option maxRecDepth 100000

theorem q1726 : (Jvm.Cond.castable "[[I" "java/lang/Object") ∈ lw_tbl := lw_at lw_m7 206 rfl
set_option maxRecDepth 100000

theorem q98 : (Jvm.Cond.initialized "java/lang/System") ∈ lw_all := lw_g (lw_at lw_m1 18 rfl) rfl
set_option maxRecDepth 100000
theorem q559 : (Jvm.Cond.static ({ cls := "java/lang/System", name := "arraycopy", desc := "(Ljava/lang/Object;ILjava/lang/Object;II)V" } : Jvm.MethodName)) ∈ lw_all := lw_g (lw_at lw_m2 239 rfl) rfl
theorem q560 : (Jvm.Cond.native ({ cls := "java/lang/System", name := "arraycopy", desc := "(Ljava/lang/Object;ILjava/lang/Object;II)V" } : Jvm.MethodName)) ∈ lw_all := lw_g (lw_at lw_m3 0 rfl) rfl

theorem q153 : (Jvm.Cond.arrayClass Jvm.ClassFile.FieldType.byte) ∈ lw_all := lw_g (lw_at lw_m1 73 rfl) rfl
set_option maxRecDepth 100000
theorem q154 : (Jvm.Cond.arrayClass Jvm.ClassFile.FieldType.int) ∈ lw_all := lw_g (lw_at lw_m1 74 rfl) rfl
theorem q179 : (Jvm.Cond.arrayOver (Jvm.ClassFile.FieldType.array Jvm.ClassFile.FieldType.char)) ∈ lw_tbl := lw_at lw_m1 99 rfl
theorem q193 : (Jvm.Cond.arrayClass Jvm.ClassFile.FieldType.char) ∈ lw_all := lw_g (lw_at lw_m1 113 rfl) rfl
theorem q325 : (Jvm.Cond.arrayClass Jvm.ClassFile.FieldType.long) ∈ lw_all := lw_g (lw_at lw_m2 5 rfl) rfl
theorem q326 : (Jvm.Cond.arrayClass Jvm.ClassFile.FieldType.boolean) ∈ lw_all := lw_g (lw_at lw_m2 6 rfl) rfl
theorem q553 : (Jvm.Cond.arrayOver (Jvm.ClassFile.FieldType.object "java/lang/Object")) ∈ lw_tbl := lw_at lw_m2 233 rfl
theorem q1155 : (Jvm.Cond.arrayOver (Jvm.ClassFile.FieldType.array Jvm.ClassFile.FieldType.int)) ∈ lw_tbl := lw_at lw_m5 115 rfl
