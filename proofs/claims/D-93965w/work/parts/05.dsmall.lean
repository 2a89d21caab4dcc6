set_option maxRecDepth 100000
abbrev cJ0_init : ByteArray := prog_49_method_2_code
def yJ0_init : MethodName := ⟨RJ0, "<init>", "(Ljava/lang/String;)V"⟩
def dkwJ0_init_1 : List UInt8 := [182, 0, 27, 87, 42, 43, 181, 0, 31, 177]
abbrev dktJ0_init_1 : List UInt8 := dkwJ0_init_1 ++ []
def dkwJ0_init_0 : List UInt8 := [42, 183, 0, 1, 42, 42, 181, 0, 7, 42, 178, 0, 13, 181, 0, 17, 42, 178, 0, 20, 181, 0, 24, 42]
abbrev dktJ0_init_0 : List UInt8 := dkwJ0_init_0 ++ dktJ0_init_1
theorem dksJ0_init_0 : cJ0_init.data.toList.drop 0 = dktJ0_init_0 := by decide +kernel
theorem dksJ0_init_1 : cJ0_init.data.toList.drop 24 = dktJ0_init_1 := dk_seg dksJ0_init_0 24 rfl rfl
theorem dJ0_init_0 : decode cJ0_init 0 = .ok (.aload_n 0, 1) := dk_42 (dk_at dksJ0_init_0 0 rfl rfl)
theorem dJ0_init_1 : decode cJ0_init 1 = .ok (.invokespecial 1, 3) := dk_183 0 1 (dk_at dksJ0_init_0 1 rfl rfl)
theorem dJ0_init_4 : decode cJ0_init 4 = .ok (.aload_n 0, 1) := dk_42 (dk_at dksJ0_init_0 4 rfl rfl)
theorem dJ0_init_5 : decode cJ0_init 5 = .ok (.aload_n 0, 1) := dk_42 (dk_at dksJ0_init_0 5 rfl rfl)
theorem dJ0_init_6 : decode cJ0_init 6 = .ok (.putfield 7, 3) := dk_181 0 7 (dk_at dksJ0_init_0 6 rfl rfl)
theorem dJ0_init_9 : decode cJ0_init 9 = .ok (.aload_n 0, 1) := dk_42 (dk_at dksJ0_init_0 9 rfl rfl)
theorem dJ0_init_10 : decode cJ0_init 10 = .ok (.getstatic 13, 3) := dk_178 0 13 (dk_at dksJ0_init_0 10 rfl rfl)
theorem dJ0_init_13 : decode cJ0_init 13 = .ok (.putfield 17, 3) := dk_181 0 17 (dk_at dksJ0_init_0 13 rfl rfl)
theorem dJ0_init_16 : decode cJ0_init 16 = .ok (.aload_n 0, 1) := dk_42 (dk_at dksJ0_init_0 16 rfl rfl)
theorem dJ0_init_17 : decode cJ0_init 17 = .ok (.getstatic 20, 3) := dk_178 0 20 (dk_at dksJ0_init_0 17 rfl rfl)
theorem dJ0_init_20 : decode cJ0_init 20 = .ok (.putfield 24, 3) := dk_181 0 24 (dk_at dksJ0_init_0 20 rfl rfl)
theorem dJ0_init_23 : decode cJ0_init 23 = .ok (.aload_n 0, 1) := dk_42 (dk_at dksJ0_init_0 23 rfl rfl)
theorem dJ0_init_24 : decode cJ0_init 24 = .ok (.invokevirtual 27, 3) := dk_182 0 27 (dk_at dksJ0_init_1 0 rfl rfl)
theorem dJ0_init_27 : decode cJ0_init 27 = .ok (.pop, 1) := dk_87 (dk_at dksJ0_init_1 3 rfl rfl)
theorem dJ0_init_28 : decode cJ0_init 28 = .ok (.aload_n 0, 1) := dk_42 (dk_at dksJ0_init_1 4 rfl rfl)
theorem dJ0_init_29 : decode cJ0_init 29 = .ok (.aload_n 1, 1) := dk_43 (dk_at dksJ0_init_1 5 rfl rfl)
theorem dJ0_init_30 : decode cJ0_init 30 = .ok (.putfield 31, 3) := dk_181 0 31 (dk_at dksJ0_init_1 6 rfl rfl)
theorem dJ0_init_33 : decode cJ0_init 33 = .ok (.return_, 1) := dk_177 (dk_at dksJ0_init_1 9 rfl rfl)
abbrev cJ0_init_2 : ByteArray := prog_49_method_1_code
def yJ0_init_2 : MethodName := ⟨RJ0, "<init>", "()V"⟩
def dkwJ0_init_2_1 : List UInt8 := [182, 0, 27, 87, 177]
abbrev dktJ0_init_2_1 : List UInt8 := dkwJ0_init_2_1 ++ []
def dkwJ0_init_2_0 : List UInt8 := [42, 183, 0, 1, 42, 42, 181, 0, 7, 42, 178, 0, 13, 181, 0, 17, 42, 178, 0, 20, 181, 0, 24, 42]
abbrev dktJ0_init_2_0 : List UInt8 := dkwJ0_init_2_0 ++ dktJ0_init_2_1
theorem dksJ0_init_2_0 : cJ0_init_2.data.toList.drop 0 = dktJ0_init_2_0 := by decide +kernel
theorem dksJ0_init_2_1 : cJ0_init_2.data.toList.drop 24 = dktJ0_init_2_1 := dk_seg dksJ0_init_2_0 24 rfl rfl
theorem dJ0_init_2_0 : decode cJ0_init_2 0 = .ok (.aload_n 0, 1) := dk_42 (dk_at dksJ0_init_2_0 0 rfl rfl)
theorem dJ0_init_2_1 : decode cJ0_init_2 1 = .ok (.invokespecial 1, 3) := dk_183 0 1 (dk_at dksJ0_init_2_0 1 rfl rfl)
theorem dJ0_init_2_4 : decode cJ0_init_2 4 = .ok (.aload_n 0, 1) := dk_42 (dk_at dksJ0_init_2_0 4 rfl rfl)
theorem dJ0_init_2_5 : decode cJ0_init_2 5 = .ok (.aload_n 0, 1) := dk_42 (dk_at dksJ0_init_2_0 5 rfl rfl)
theorem dJ0_init_2_6 : decode cJ0_init_2 6 = .ok (.putfield 7, 3) := dk_181 0 7 (dk_at dksJ0_init_2_0 6 rfl rfl)
theorem dJ0_init_2_9 : decode cJ0_init_2 9 = .ok (.aload_n 0, 1) := dk_42 (dk_at dksJ0_init_2_0 9 rfl rfl)
theorem dJ0_init_2_10 : decode cJ0_init_2 10 = .ok (.getstatic 13, 3) := dk_178 0 13 (dk_at dksJ0_init_2_0 10 rfl rfl)
theorem dJ0_init_2_13 : decode cJ0_init_2 13 = .ok (.putfield 17, 3) := dk_181 0 17 (dk_at dksJ0_init_2_0 13 rfl rfl)
theorem dJ0_init_2_16 : decode cJ0_init_2 16 = .ok (.aload_n 0, 1) := dk_42 (dk_at dksJ0_init_2_0 16 rfl rfl)
theorem dJ0_init_2_17 : decode cJ0_init_2 17 = .ok (.getstatic 20, 3) := dk_178 0 20 (dk_at dksJ0_init_2_0 17 rfl rfl)
theorem dJ0_init_2_20 : decode cJ0_init_2 20 = .ok (.putfield 24, 3) := dk_181 0 24 (dk_at dksJ0_init_2_0 20 rfl rfl)
theorem dJ0_init_2_23 : decode cJ0_init_2 23 = .ok (.aload_n 0, 1) := dk_42 (dk_at dksJ0_init_2_0 23 rfl rfl)
theorem dJ0_init_2_24 : decode cJ0_init_2 24 = .ok (.invokevirtual 27, 3) := dk_182 0 27 (dk_at dksJ0_init_2_1 0 rfl rfl)
theorem dJ0_init_2_27 : decode cJ0_init_2 27 = .ok (.pop, 1) := dk_87 (dk_at dksJ0_init_2_1 3 rfl rfl)
theorem dJ0_init_2_28 : decode cJ0_init_2 28 = .ok (.return_, 1) := dk_177 (dk_at dksJ0_init_2_1 4 rfl rfl)
abbrev cJ1_init : ByteArray := prog_38_method_2_code
def yJ1_init : MethodName := ⟨RJ1, "<init>", "(Ljava/lang/String;)V"⟩
def dkwJ1_init_0 : List UInt8 := [42, 43, 183, 0, 7, 177]
abbrev dktJ1_init_0 : List UInt8 := dkwJ1_init_0 ++ []
theorem dksJ1_init_0 : cJ1_init.data.toList.drop 0 = dktJ1_init_0 := by decide +kernel
theorem dJ1_init_0 : decode cJ1_init 0 = .ok (.aload_n 0, 1) := dk_42 (dk_at dksJ1_init_0 0 rfl rfl)
theorem dJ1_init_1 : decode cJ1_init 1 = .ok (.aload_n 1, 1) := dk_43 (dk_at dksJ1_init_0 1 rfl rfl)
theorem dJ1_init_2 : decode cJ1_init 2 = .ok (.invokespecial 7, 3) := dk_183 0 7 (dk_at dksJ1_init_0 2 rfl rfl)
theorem dJ1_init_5 : decode cJ1_init 5 = .ok (.return_, 1) := dk_177 (dk_at dksJ1_init_0 5 rfl rfl)
abbrev cJ1_init_2 : ByteArray := prog_38_method_1_code
def yJ1_init_2 : MethodName := ⟨RJ1, "<init>", "()V"⟩
theorem dJ1_init_2_0 : decode cJ1_init_2 0 = .ok (.aload_n 0, 1) := by decide +kernel
theorem dJ1_init_2_1 : decode cJ1_init_2 1 = .ok (.invokespecial 1, 3) := by decide +kernel
theorem dJ1_init_2_4 : decode cJ1_init_2 4 = .ok (.return_, 1) := by decide +kernel
abbrev cJ10_indexOf : ByteArray := prog_47_method_40_code
def yJ10_indexOf : MethodName := ⟨RJ10, "indexOf", "([BIII)I"⟩
def dkwJ10_indexOf_1 : List UInt8 := [18, 227, 162, 0, 11, 42, 27, 28, 29, 184, 0, 228, 172, 42, 27, 28, 29, 184, 0, 232, 172]
abbrev dktJ10_indexOf_1 : List UInt8 := dkwJ10_indexOf_1 ++ []
def dkwJ10_indexOf_0 : List UInt8 := [28, 3, 184, 0, 224, 61, 29, 42, 190, 4, 122, 184, 0, 183, 62, 28, 29, 161, 0, 5, 2, 172, 27]
abbrev dktJ10_indexOf_0 : List UInt8 := dkwJ10_indexOf_0 ++ dktJ10_indexOf_1
theorem dksJ10_indexOf_0 : cJ10_indexOf.data.toList.drop 0 = dktJ10_indexOf_0 := by decide +kernel
theorem dksJ10_indexOf_1 : cJ10_indexOf.data.toList.drop 23 = dktJ10_indexOf_1 := dk_seg dksJ10_indexOf_0 23 rfl rfl
theorem dJ10_indexOf_0 : decode cJ10_indexOf 0 = .ok (.iload_n 2, 1) := dk_28 (dk_at dksJ10_indexOf_0 0 rfl rfl)
theorem dJ10_indexOf_1 : decode cJ10_indexOf 1 = .ok (.iconst 0, 1) := dk_3 (dk_at dksJ10_indexOf_0 1 rfl rfl)
theorem dJ10_indexOf_2 : decode cJ10_indexOf 2 = .ok (.invokestatic 224, 3) := dk_184 0 224 (dk_at dksJ10_indexOf_0 2 rfl rfl)
theorem dJ10_indexOf_5 : decode cJ10_indexOf 5 = .ok (.istore_n 2, 1) := dk_61 (dk_at dksJ10_indexOf_0 5 rfl rfl)
theorem dJ10_indexOf_6 : decode cJ10_indexOf 6 = .ok (.iload_n 3, 1) := dk_29 (dk_at dksJ10_indexOf_0 6 rfl rfl)
theorem dJ10_indexOf_7 : decode cJ10_indexOf 7 = .ok (.aload_n 0, 1) := dk_42 (dk_at dksJ10_indexOf_0 7 rfl rfl)
theorem dJ10_indexOf_8 : decode cJ10_indexOf 8 = .ok (.arraylength, 1) := dk_190 (dk_at dksJ10_indexOf_0 8 rfl rfl)
theorem dJ10_indexOf_9 : decode cJ10_indexOf 9 = .ok (.iconst 1, 1) := dk_4 (dk_at dksJ10_indexOf_0 9 rfl rfl)
theorem dJ10_indexOf_10 : decode cJ10_indexOf 10 = .ok (.ishr, 1) := dk_122 (dk_at dksJ10_indexOf_0 10 rfl rfl)
theorem dJ10_indexOf_11 : decode cJ10_indexOf 11 = .ok (.invokestatic 183, 3) := dk_184 0 183 (dk_at dksJ10_indexOf_0 11 rfl rfl)
theorem dJ10_indexOf_14 : decode cJ10_indexOf 14 = .ok (.istore_n 3, 1) := dk_62 (dk_at dksJ10_indexOf_0 14 rfl rfl)
theorem dJ10_indexOf_15 : decode cJ10_indexOf 15 = .ok (.iload_n 2, 1) := dk_28 (dk_at dksJ10_indexOf_0 15 rfl rfl)
theorem dJ10_indexOf_16 : decode cJ10_indexOf 16 = .ok (.iload_n 3, 1) := dk_29 (dk_at dksJ10_indexOf_0 16 rfl rfl)
theorem dJ10_indexOf_17 : decode cJ10_indexOf 17 = .ok (.if_icmp .lt 5, 3) := dk_161 0 5 (dk_at dksJ10_indexOf_0 17 rfl rfl)
theorem dJ10_indexOf_20 : decode cJ10_indexOf 20 = .ok (.iconst (-1), 1) := dk_2 (dk_at dksJ10_indexOf_0 20 rfl rfl)
theorem dJ10_indexOf_21 : decode cJ10_indexOf 21 = .ok (.ireturn, 1) := dk_172 (dk_at dksJ10_indexOf_0 21 rfl rfl)
theorem dJ10_indexOf_22 : decode cJ10_indexOf 22 = .ok (.iload_n 1, 1) := dk_27 (dk_at dksJ10_indexOf_0 22 rfl rfl)
theorem dJ10_indexOf_23 : decode cJ10_indexOf 23 = .ok (.ldc 227, 2) := dk_18 227 (dk_at dksJ10_indexOf_1 0 rfl rfl)
theorem dJ10_indexOf_25 : decode cJ10_indexOf 25 = .ok (.if_icmp .ge 11, 3) := dk_162 0 11 (dk_at dksJ10_indexOf_1 2 rfl rfl)
theorem dJ10_indexOf_28 : decode cJ10_indexOf 28 = .ok (.aload_n 0, 1) := dk_42 (dk_at dksJ10_indexOf_1 5 rfl rfl)
theorem dJ10_indexOf_29 : decode cJ10_indexOf 29 = .ok (.iload_n 1, 1) := dk_27 (dk_at dksJ10_indexOf_1 6 rfl rfl)
theorem dJ10_indexOf_30 : decode cJ10_indexOf 30 = .ok (.iload_n 2, 1) := dk_28 (dk_at dksJ10_indexOf_1 7 rfl rfl)
theorem dJ10_indexOf_31 : decode cJ10_indexOf 31 = .ok (.iload_n 3, 1) := dk_29 (dk_at dksJ10_indexOf_1 8 rfl rfl)
theorem dJ10_indexOf_32 : decode cJ10_indexOf 32 = .ok (.invokestatic 228, 3) := dk_184 0 228 (dk_at dksJ10_indexOf_1 9 rfl rfl)
theorem dJ10_indexOf_35 : decode cJ10_indexOf 35 = .ok (.ireturn, 1) := dk_172 (dk_at dksJ10_indexOf_1 12 rfl rfl)
theorem dJ10_indexOf_36 : decode cJ10_indexOf 36 = .ok (.aload_n 0, 1) := dk_42 (dk_at dksJ10_indexOf_1 13 rfl rfl)
theorem dJ10_indexOf_37 : decode cJ10_indexOf 37 = .ok (.iload_n 1, 1) := dk_27 (dk_at dksJ10_indexOf_1 14 rfl rfl)
theorem dJ10_indexOf_38 : decode cJ10_indexOf 38 = .ok (.iload_n 2, 1) := dk_28 (dk_at dksJ10_indexOf_1 15 rfl rfl)
theorem dJ10_indexOf_39 : decode cJ10_indexOf 39 = .ok (.iload_n 3, 1) := dk_29 (dk_at dksJ10_indexOf_1 16 rfl rfl)
theorem dJ10_indexOf_40 : decode cJ10_indexOf 40 = .ok (.invokestatic 232, 3) := dk_184 0 232 (dk_at dksJ10_indexOf_1 17 rfl rfl)
theorem dJ10_indexOf_43 : decode cJ10_indexOf 43 = .ok (.ireturn, 1) := dk_172 (dk_at dksJ10_indexOf_1 20 rfl rfl)
abbrev cJ10_indexOfChar : ByteArray := prog_47_method_47_code
def yJ10_indexOfChar : MethodName := ⟨RJ10, "indexOfChar", "([BIII)I"⟩
def dkwJ10_indexOfChar_0 : List UInt8 := [28, 29, 42, 184, 0, 96, 42, 27, 28, 29, 184, 0, 244, 172]
abbrev dktJ10_indexOfChar_0 : List UInt8 := dkwJ10_indexOfChar_0 ++ []
theorem dksJ10_indexOfChar_0 : cJ10_indexOfChar.data.toList.drop 0 = dktJ10_indexOfChar_0 := by decide +kernel
theorem dJ10_indexOfChar_0 : decode cJ10_indexOfChar 0 = .ok (.iload_n 2, 1) := dk_28 (dk_at dksJ10_indexOfChar_0 0 rfl rfl)
theorem dJ10_indexOfChar_1 : decode cJ10_indexOfChar 1 = .ok (.iload_n 3, 1) := dk_29 (dk_at dksJ10_indexOfChar_0 1 rfl rfl)
theorem dJ10_indexOfChar_2 : decode cJ10_indexOfChar 2 = .ok (.aload_n 0, 1) := dk_42 (dk_at dksJ10_indexOfChar_0 2 rfl rfl)
theorem dJ10_indexOfChar_3 : decode cJ10_indexOfChar 3 = .ok (.invokestatic 96, 3) := dk_184 0 96 (dk_at dksJ10_indexOfChar_0 3 rfl rfl)
theorem dJ10_indexOfChar_6 : decode cJ10_indexOfChar 6 = .ok (.aload_n 0, 1) := dk_42 (dk_at dksJ10_indexOfChar_0 6 rfl rfl)
theorem dJ10_indexOfChar_7 : decode cJ10_indexOfChar 7 = .ok (.iload_n 1, 1) := dk_27 (dk_at dksJ10_indexOfChar_0 7 rfl rfl)
theorem dJ10_indexOfChar_8 : decode cJ10_indexOfChar 8 = .ok (.iload_n 2, 1) := dk_28 (dk_at dksJ10_indexOfChar_0 8 rfl rfl)
theorem dJ10_indexOfChar_9 : decode cJ10_indexOfChar 9 = .ok (.iload_n 3, 1) := dk_29 (dk_at dksJ10_indexOfChar_0 9 rfl rfl)
theorem dJ10_indexOfChar_10 : decode cJ10_indexOfChar 10 = .ok (.invokestatic 244, 3) := dk_184 0 244 (dk_at dksJ10_indexOfChar_0 10 rfl rfl)
theorem dJ10_indexOfChar_13 : decode cJ10_indexOfChar 13 = .ok (.ireturn, 1) := dk_172 (dk_at dksJ10_indexOfChar_0 13 rfl rfl)
abbrev cJ10_checkBoundsBeginEnd : ByteArray := prog_47_method_93_code
def yJ10_checkBoundsBeginEnd : MethodName := ⟨RJ10, "checkBoundsBeginEnd", "(II[B)V"⟩
def dkwJ10_checkBoundsBeginEnd_0 : List UInt8 := [26, 27, 44, 184, 0, 48, 184, 0, 241, 177]
abbrev dktJ10_checkBoundsBeginEnd_0 : List UInt8 := dkwJ10_checkBoundsBeginEnd_0 ++ []
theorem dksJ10_checkBoundsBeginEnd_0 : cJ10_checkBoundsBeginEnd.data.toList.drop 0 = dktJ10_checkBoundsBeginEnd_0 := by decide +kernel
theorem dJ10_checkBoundsBeginEnd_0 : decode cJ10_checkBoundsBeginEnd 0 = .ok (.iload_n 0, 1) := dk_26 (dk_at dksJ10_checkBoundsBeginEnd_0 0 rfl rfl)
theorem dJ10_checkBoundsBeginEnd_1 : decode cJ10_checkBoundsBeginEnd 1 = .ok (.iload_n 1, 1) := dk_27 (dk_at dksJ10_checkBoundsBeginEnd_0 1 rfl rfl)
theorem dJ10_checkBoundsBeginEnd_2 : decode cJ10_checkBoundsBeginEnd 2 = .ok (.aload_n 2, 1) := dk_44 (dk_at dksJ10_checkBoundsBeginEnd_0 2 rfl rfl)
theorem dJ10_checkBoundsBeginEnd_3 : decode cJ10_checkBoundsBeginEnd 3 = .ok (.invokestatic 48, 3) := dk_184 0 48 (dk_at dksJ10_checkBoundsBeginEnd_0 3 rfl rfl)
theorem dJ10_checkBoundsBeginEnd_6 : decode cJ10_checkBoundsBeginEnd 6 = .ok (.invokestatic 241, 3) := dk_184 0 241 (dk_at dksJ10_checkBoundsBeginEnd_0 6 rfl rfl)
theorem dJ10_checkBoundsBeginEnd_9 : decode cJ10_checkBoundsBeginEnd 9 = .ok (.return_, 1) := dk_177 (dk_at dksJ10_checkBoundsBeginEnd_0 9 rfl rfl)
abbrev cJ10_length : ByteArray := prog_47_method_6_code
def yJ10_length : MethodName := ⟨RJ10, "length", "([B)I"⟩
def dkwJ10_length_0 : List UInt8 := [42, 190, 4, 122, 172]
abbrev dktJ10_length_0 : List UInt8 := dkwJ10_length_0 ++ []
theorem dksJ10_length_0 : cJ10_length.data.toList.drop 0 = dktJ10_length_0 := by decide +kernel
theorem dJ10_length_0 : decode cJ10_length 0 = .ok (.aload_n 0, 1) := dk_42 (dk_at dksJ10_length_0 0 rfl rfl)
theorem dJ10_length_1 : decode cJ10_length 1 = .ok (.arraylength, 1) := dk_190 (dk_at dksJ10_length_0 1 rfl rfl)
theorem dJ10_length_2 : decode cJ10_length 2 = .ok (.iconst 1, 1) := dk_4 (dk_at dksJ10_length_0 2 rfl rfl)
theorem dJ10_length_3 : decode cJ10_length 3 = .ok (.ishr, 1) := dk_122 (dk_at dksJ10_length_0 3 rfl rfl)
theorem dJ10_length_4 : decode cJ10_length 4 = .ok (.ireturn, 1) := dk_172 (dk_at dksJ10_length_0 4 rfl rfl)
abbrev cJ10_indexOfCharUnsafe : ByteArray := prog_47_method_48_code
def yJ10_indexOfCharUnsafe : MethodName := ⟨RJ10, "indexOfCharUnsafe", "([BIII)I"⟩
def dkwJ10_indexOfCharUnsafe_1 : List UInt8 := [132, 4, 1, 167, 255, 234, 2, 172]
abbrev dktJ10_indexOfCharUnsafe_1 : List UInt8 := dkwJ10_indexOfCharUnsafe_1 ++ []
def dkwJ10_indexOfCharUnsafe_0 : List UInt8 := [28, 54, 4, 21, 4, 29, 162, 0, 22, 42, 21, 4, 184, 0, 71, 27, 160, 0, 6, 21, 4, 172]
abbrev dktJ10_indexOfCharUnsafe_0 : List UInt8 := dkwJ10_indexOfCharUnsafe_0 ++ dktJ10_indexOfCharUnsafe_1
theorem dksJ10_indexOfCharUnsafe_0 : cJ10_indexOfCharUnsafe.data.toList.drop 0 = dktJ10_indexOfCharUnsafe_0 := by decide +kernel
theorem dksJ10_indexOfCharUnsafe_1 : cJ10_indexOfCharUnsafe.data.toList.drop 22 = dktJ10_indexOfCharUnsafe_1 := dk_seg dksJ10_indexOfCharUnsafe_0 22 rfl rfl
theorem dJ10_indexOfCharUnsafe_0 : decode cJ10_indexOfCharUnsafe 0 = .ok (.iload_n 2, 1) := dk_28 (dk_at dksJ10_indexOfCharUnsafe_0 0 rfl rfl)
theorem dJ10_indexOfCharUnsafe_1 : decode cJ10_indexOfCharUnsafe 1 = .ok (.istore 4, 2) := dk_54 4 (dk_at dksJ10_indexOfCharUnsafe_0 1 rfl rfl)
theorem dJ10_indexOfCharUnsafe_3 : decode cJ10_indexOfCharUnsafe 3 = .ok (.iload 4, 2) := dk_21 4 (dk_at dksJ10_indexOfCharUnsafe_0 3 rfl rfl)
theorem dJ10_indexOfCharUnsafe_5 : decode cJ10_indexOfCharUnsafe 5 = .ok (.iload_n 3, 1) := dk_29 (dk_at dksJ10_indexOfCharUnsafe_0 5 rfl rfl)
theorem dJ10_indexOfCharUnsafe_6 : decode cJ10_indexOfCharUnsafe 6 = .ok (.if_icmp .ge 22, 3) := dk_162 0 22 (dk_at dksJ10_indexOfCharUnsafe_0 6 rfl rfl)
theorem dJ10_indexOfCharUnsafe_9 : decode cJ10_indexOfCharUnsafe 9 = .ok (.aload_n 0, 1) := dk_42 (dk_at dksJ10_indexOfCharUnsafe_0 9 rfl rfl)
theorem dJ10_indexOfCharUnsafe_10 : decode cJ10_indexOfCharUnsafe 10 = .ok (.iload 4, 2) := dk_21 4 (dk_at dksJ10_indexOfCharUnsafe_0 10 rfl rfl)
theorem dJ10_indexOfCharUnsafe_12 : decode cJ10_indexOfCharUnsafe 12 = .ok (.invokestatic 71, 3) := dk_184 0 71 (dk_at dksJ10_indexOfCharUnsafe_0 12 rfl rfl)
theorem dJ10_indexOfCharUnsafe_15 : decode cJ10_indexOfCharUnsafe 15 = .ok (.iload_n 1, 1) := dk_27 (dk_at dksJ10_indexOfCharUnsafe_0 15 rfl rfl)
theorem dJ10_indexOfCharUnsafe_16 : decode cJ10_indexOfCharUnsafe 16 = .ok (.if_icmp .ne 6, 3) := dk_160 0 6 (dk_at dksJ10_indexOfCharUnsafe_0 16 rfl rfl)
theorem dJ10_indexOfCharUnsafe_19 : decode cJ10_indexOfCharUnsafe 19 = .ok (.iload 4, 2) := dk_21 4 (dk_at dksJ10_indexOfCharUnsafe_0 19 rfl rfl)
theorem dJ10_indexOfCharUnsafe_21 : decode cJ10_indexOfCharUnsafe 21 = .ok (.ireturn, 1) := dk_172 (dk_at dksJ10_indexOfCharUnsafe_0 21 rfl rfl)
theorem dJ10_indexOfCharUnsafe_22 : decode cJ10_indexOfCharUnsafe 22 = .ok (.iinc 4 1, 3) := dk_132 4 1 (dk_at dksJ10_indexOfCharUnsafe_1 0 rfl rfl)
theorem dJ10_indexOfCharUnsafe_25 : decode cJ10_indexOfCharUnsafe 25 = .ok (.goto (-22), 3) := dk_167 255 234 (dk_at dksJ10_indexOfCharUnsafe_1 3 rfl rfl)
theorem dJ10_indexOfCharUnsafe_28 : decode cJ10_indexOfCharUnsafe 28 = .ok (.iconst (-1), 1) := dk_2 (dk_at dksJ10_indexOfCharUnsafe_1 6 rfl rfl)
theorem dJ10_indexOfCharUnsafe_29 : decode cJ10_indexOfCharUnsafe 29 = .ok (.ireturn, 1) := dk_172 (dk_at dksJ10_indexOfCharUnsafe_1 7 rfl rfl)
abbrev cJ10_getChar : ByteArray := prog_47_method_5_code
def yJ10_getChar : MethodName := ⟨RJ10, "getChar", "([BI)C"⟩
def dkwJ10_getChar_2 : List UInt8 := [51, 17, 0, 255, 126, 178, 0, 63, 120, 128, 146, 172]
abbrev dktJ10_getChar_2 : List UInt8 := dkwJ10_getChar_2 ++ []
def dkwJ10_getChar_1 : List UInt8 := [183, 0, 56, 191, 27, 4, 120, 60, 42, 27, 132, 1, 1, 51, 17, 0, 255, 126, 178, 0, 59, 120, 42, 27]
abbrev dktJ10_getChar_1 : List UInt8 := dkwJ10_getChar_1 ++ dktJ10_getChar_2
def dkwJ10_getChar_0 : List UInt8 := [178, 0, 44, 154, 0, 25, 27, 155, 0, 11, 27, 42, 184, 0, 48, 161, 0, 13, 187, 0, 52, 89, 18, 54]
abbrev dktJ10_getChar_0 : List UInt8 := dkwJ10_getChar_0 ++ dktJ10_getChar_1
theorem dksJ10_getChar_0 : cJ10_getChar.data.toList.drop 0 = dktJ10_getChar_0 := by decide +kernel
theorem dksJ10_getChar_1 : cJ10_getChar.data.toList.drop 24 = dktJ10_getChar_1 := dk_seg dksJ10_getChar_0 24 rfl rfl
theorem dksJ10_getChar_2 : cJ10_getChar.data.toList.drop 48 = dktJ10_getChar_2 := dk_seg dksJ10_getChar_1 24 rfl rfl
theorem dJ10_getChar_0 : decode cJ10_getChar 0 = .ok (.getstatic 44, 3) := dk_178 0 44 (dk_at dksJ10_getChar_0 0 rfl rfl)
theorem dJ10_getChar_3 : decode cJ10_getChar 3 = .ok (.ifCond .ne 25, 3) := dk_154 0 25 (dk_at dksJ10_getChar_0 3 rfl rfl)
theorem dJ10_getChar_6 : decode cJ10_getChar 6 = .ok (.iload_n 1, 1) := dk_27 (dk_at dksJ10_getChar_0 6 rfl rfl)
theorem dJ10_getChar_7 : decode cJ10_getChar 7 = .ok (.ifCond .lt 11, 3) := dk_155 0 11 (dk_at dksJ10_getChar_0 7 rfl rfl)
theorem dJ10_getChar_10 : decode cJ10_getChar 10 = .ok (.iload_n 1, 1) := dk_27 (dk_at dksJ10_getChar_0 10 rfl rfl)
theorem dJ10_getChar_11 : decode cJ10_getChar 11 = .ok (.aload_n 0, 1) := dk_42 (dk_at dksJ10_getChar_0 11 rfl rfl)
theorem dJ10_getChar_12 : decode cJ10_getChar 12 = .ok (.invokestatic 48, 3) := dk_184 0 48 (dk_at dksJ10_getChar_0 12 rfl rfl)
theorem dJ10_getChar_15 : decode cJ10_getChar 15 = .ok (.if_icmp .lt 13, 3) := dk_161 0 13 (dk_at dksJ10_getChar_0 15 rfl rfl)
theorem dJ10_getChar_18 : decode cJ10_getChar 18 = .ok (.new 52, 3) := dk_187 0 52 (dk_at dksJ10_getChar_0 18 rfl rfl)
theorem dJ10_getChar_21 : decode cJ10_getChar 21 = .ok (.dup, 1) := dk_89 (dk_at dksJ10_getChar_0 21 rfl rfl)
theorem dJ10_getChar_22 : decode cJ10_getChar 22 = .ok (.ldc 54, 2) := dk_18 54 (dk_at dksJ10_getChar_0 22 rfl rfl)
theorem dJ10_getChar_24 : decode cJ10_getChar 24 = .ok (.invokespecial 56, 3) := dk_183 0 56 (dk_at dksJ10_getChar_1 0 rfl rfl)
theorem dJ10_getChar_27 : decode cJ10_getChar 27 = .ok (.athrow, 1) := dk_191 (dk_at dksJ10_getChar_1 3 rfl rfl)
theorem dJ10_getChar_28 : decode cJ10_getChar 28 = .ok (.iload_n 1, 1) := dk_27 (dk_at dksJ10_getChar_1 4 rfl rfl)
theorem dJ10_getChar_29 : decode cJ10_getChar 29 = .ok (.iconst 1, 1) := dk_4 (dk_at dksJ10_getChar_1 5 rfl rfl)
theorem dJ10_getChar_30 : decode cJ10_getChar 30 = .ok (.ishl, 1) := dk_120 (dk_at dksJ10_getChar_1 6 rfl rfl)
theorem dJ10_getChar_31 : decode cJ10_getChar 31 = .ok (.istore_n 1, 1) := dk_60 (dk_at dksJ10_getChar_1 7 rfl rfl)
theorem dJ10_getChar_32 : decode cJ10_getChar 32 = .ok (.aload_n 0, 1) := dk_42 (dk_at dksJ10_getChar_1 8 rfl rfl)
theorem dJ10_getChar_33 : decode cJ10_getChar 33 = .ok (.iload_n 1, 1) := dk_27 (dk_at dksJ10_getChar_1 9 rfl rfl)
theorem dJ10_getChar_34 : decode cJ10_getChar 34 = .ok (.iinc 1 1, 3) := dk_132 1 1 (dk_at dksJ10_getChar_1 10 rfl rfl)
theorem dJ10_getChar_37 : decode cJ10_getChar 37 = .ok (.baload, 1) := dk_51 (dk_at dksJ10_getChar_1 13 rfl rfl)
theorem dJ10_getChar_38 : decode cJ10_getChar 38 = .ok (.sipush 255, 3) := dk_17 0 255 (dk_at dksJ10_getChar_1 14 rfl rfl)
theorem dJ10_getChar_41 : decode cJ10_getChar 41 = .ok (.iand, 1) := dk_126 (dk_at dksJ10_getChar_1 17 rfl rfl)
theorem dJ10_getChar_42 : decode cJ10_getChar 42 = .ok (.getstatic 59, 3) := dk_178 0 59 (dk_at dksJ10_getChar_1 18 rfl rfl)
theorem dJ10_getChar_45 : decode cJ10_getChar 45 = .ok (.ishl, 1) := dk_120 (dk_at dksJ10_getChar_1 21 rfl rfl)
theorem dJ10_getChar_46 : decode cJ10_getChar 46 = .ok (.aload_n 0, 1) := dk_42 (dk_at dksJ10_getChar_1 22 rfl rfl)
theorem dJ10_getChar_47 : decode cJ10_getChar 47 = .ok (.iload_n 1, 1) := dk_27 (dk_at dksJ10_getChar_1 23 rfl rfl)
theorem dJ10_getChar_48 : decode cJ10_getChar 48 = .ok (.baload, 1) := dk_51 (dk_at dksJ10_getChar_2 0 rfl rfl)
theorem dJ10_getChar_49 : decode cJ10_getChar 49 = .ok (.sipush 255, 3) := dk_17 0 255 (dk_at dksJ10_getChar_2 1 rfl rfl)
theorem dJ10_getChar_52 : decode cJ10_getChar 52 = .ok (.iand, 1) := dk_126 (dk_at dksJ10_getChar_2 4 rfl rfl)
theorem dJ10_getChar_53 : decode cJ10_getChar 53 = .ok (.getstatic 63, 3) := dk_178 0 63 (dk_at dksJ10_getChar_2 5 rfl rfl)
theorem dJ10_getChar_56 : decode cJ10_getChar 56 = .ok (.ishl, 1) := dk_120 (dk_at dksJ10_getChar_2 8 rfl rfl)
theorem dJ10_getChar_57 : decode cJ10_getChar 57 = .ok (.ior, 1) := dk_128 (dk_at dksJ10_getChar_2 9 rfl rfl)
theorem dJ10_getChar_58 : decode cJ10_getChar 58 = .ok (.i2c, 1) := dk_146 (dk_at dksJ10_getChar_2 10 rfl rfl)
theorem dJ10_getChar_59 : decode cJ10_getChar 59 = .ok (.ireturn, 1) := dk_172 (dk_at dksJ10_getChar_2 11 rfl rfl)
abbrev cJ10_indexOfSupplementary : ByteArray := prog_47_method_49_code
def yJ10_indexOfSupplementary : MethodName := ⟨RJ10, "indexOfSupplementary", "([BIII)I"⟩
def dkwJ10_indexOfSupplementary_3 : List UInt8 := [167, 255, 218, 2, 172]
abbrev dktJ10_indexOfSupplementary_3 : List UInt8 := dkwJ10_indexOfSupplementary_3 ++ []
def dkwJ10_indexOfSupplementary_2 : List UInt8 := [160, 0, 19, 42, 21, 6, 4, 96, 184, 0, 71, 21, 5, 160, 0, 6, 21, 6, 172, 132, 6, 1]
abbrev dktJ10_indexOfSupplementary_2 : List UInt8 := dkwJ10_indexOfSupplementary_2 ++ dktJ10_indexOfSupplementary_3
def dkwJ10_indexOfSupplementary_1 : List UInt8 := [184, 0, 96, 28, 54, 6, 21, 6, 29, 4, 100, 162, 0, 36, 42, 21, 6, 184, 0, 71, 21, 4]
abbrev dktJ10_indexOfSupplementary_1 : List UInt8 := dkwJ10_indexOfSupplementary_1 ++ dktJ10_indexOfSupplementary_2
def dkwJ10_indexOfSupplementary_0 : List UInt8 := [27, 184, 0, 164, 153, 0, 65, 27, 184, 0, 157, 54, 4, 27, 184, 0, 161, 54, 5, 28, 29, 42]
abbrev dktJ10_indexOfSupplementary_0 : List UInt8 := dkwJ10_indexOfSupplementary_0 ++ dktJ10_indexOfSupplementary_1
theorem dksJ10_indexOfSupplementary_0 : cJ10_indexOfSupplementary.data.toList.drop 0 = dktJ10_indexOfSupplementary_0 := by decide +kernel
theorem dksJ10_indexOfSupplementary_1 : cJ10_indexOfSupplementary.data.toList.drop 22 = dktJ10_indexOfSupplementary_1 := dk_seg dksJ10_indexOfSupplementary_0 22 rfl rfl
theorem dksJ10_indexOfSupplementary_2 : cJ10_indexOfSupplementary.data.toList.drop 44 = dktJ10_indexOfSupplementary_2 := dk_seg dksJ10_indexOfSupplementary_1 22 rfl rfl
theorem dksJ10_indexOfSupplementary_3 : cJ10_indexOfSupplementary.data.toList.drop 66 = dktJ10_indexOfSupplementary_3 := dk_seg dksJ10_indexOfSupplementary_2 22 rfl rfl
theorem dJ10_indexOfSupplementary_0 : decode cJ10_indexOfSupplementary 0 = .ok (.iload_n 1, 1) := dk_27 (dk_at dksJ10_indexOfSupplementary_0 0 rfl rfl)
theorem dJ10_indexOfSupplementary_1 : decode cJ10_indexOfSupplementary 1 = .ok (.invokestatic 164, 3) := dk_184 0 164 (dk_at dksJ10_indexOfSupplementary_0 1 rfl rfl)
theorem dJ10_indexOfSupplementary_4 : decode cJ10_indexOfSupplementary 4 = .ok (.ifCond .eq 65, 3) := dk_153 0 65 (dk_at dksJ10_indexOfSupplementary_0 4 rfl rfl)
theorem dJ10_indexOfSupplementary_7 : decode cJ10_indexOfSupplementary 7 = .ok (.iload_n 1, 1) := dk_27 (dk_at dksJ10_indexOfSupplementary_0 7 rfl rfl)
theorem dJ10_indexOfSupplementary_8 : decode cJ10_indexOfSupplementary 8 = .ok (.invokestatic 157, 3) := dk_184 0 157 (dk_at dksJ10_indexOfSupplementary_0 8 rfl rfl)
theorem dJ10_indexOfSupplementary_11 : decode cJ10_indexOfSupplementary 11 = .ok (.istore 4, 2) := dk_54 4 (dk_at dksJ10_indexOfSupplementary_0 11 rfl rfl)
theorem dJ10_indexOfSupplementary_13 : decode cJ10_indexOfSupplementary 13 = .ok (.iload_n 1, 1) := dk_27 (dk_at dksJ10_indexOfSupplementary_0 13 rfl rfl)
theorem dJ10_indexOfSupplementary_14 : decode cJ10_indexOfSupplementary 14 = .ok (.invokestatic 161, 3) := dk_184 0 161 (dk_at dksJ10_indexOfSupplementary_0 14 rfl rfl)
theorem dJ10_indexOfSupplementary_17 : decode cJ10_indexOfSupplementary 17 = .ok (.istore 5, 2) := dk_54 5 (dk_at dksJ10_indexOfSupplementary_0 17 rfl rfl)
theorem dJ10_indexOfSupplementary_19 : decode cJ10_indexOfSupplementary 19 = .ok (.iload_n 2, 1) := dk_28 (dk_at dksJ10_indexOfSupplementary_0 19 rfl rfl)
theorem dJ10_indexOfSupplementary_20 : decode cJ10_indexOfSupplementary 20 = .ok (.iload_n 3, 1) := dk_29 (dk_at dksJ10_indexOfSupplementary_0 20 rfl rfl)
theorem dJ10_indexOfSupplementary_21 : decode cJ10_indexOfSupplementary 21 = .ok (.aload_n 0, 1) := dk_42 (dk_at dksJ10_indexOfSupplementary_0 21 rfl rfl)
theorem dJ10_indexOfSupplementary_22 : decode cJ10_indexOfSupplementary 22 = .ok (.invokestatic 96, 3) := dk_184 0 96 (dk_at dksJ10_indexOfSupplementary_1 0 rfl rfl)
theorem dJ10_indexOfSupplementary_25 : decode cJ10_indexOfSupplementary 25 = .ok (.iload_n 2, 1) := dk_28 (dk_at dksJ10_indexOfSupplementary_1 3 rfl rfl)
theorem dJ10_indexOfSupplementary_26 : decode cJ10_indexOfSupplementary 26 = .ok (.istore 6, 2) := dk_54 6 (dk_at dksJ10_indexOfSupplementary_1 4 rfl rfl)
theorem dJ10_indexOfSupplementary_28 : decode cJ10_indexOfSupplementary 28 = .ok (.iload 6, 2) := dk_21 6 (dk_at dksJ10_indexOfSupplementary_1 6 rfl rfl)
theorem dJ10_indexOfSupplementary_30 : decode cJ10_indexOfSupplementary 30 = .ok (.iload_n 3, 1) := dk_29 (dk_at dksJ10_indexOfSupplementary_1 8 rfl rfl)
theorem dJ10_indexOfSupplementary_31 : decode cJ10_indexOfSupplementary 31 = .ok (.iconst 1, 1) := dk_4 (dk_at dksJ10_indexOfSupplementary_1 9 rfl rfl)
theorem dJ10_indexOfSupplementary_32 : decode cJ10_indexOfSupplementary 32 = .ok (.isub, 1) := dk_100 (dk_at dksJ10_indexOfSupplementary_1 10 rfl rfl)
theorem dJ10_indexOfSupplementary_33 : decode cJ10_indexOfSupplementary 33 = .ok (.if_icmp .ge 36, 3) := dk_162 0 36 (dk_at dksJ10_indexOfSupplementary_1 11 rfl rfl)
theorem dJ10_indexOfSupplementary_36 : decode cJ10_indexOfSupplementary 36 = .ok (.aload_n 0, 1) := dk_42 (dk_at dksJ10_indexOfSupplementary_1 14 rfl rfl)
theorem dJ10_indexOfSupplementary_37 : decode cJ10_indexOfSupplementary 37 = .ok (.iload 6, 2) := dk_21 6 (dk_at dksJ10_indexOfSupplementary_1 15 rfl rfl)
theorem dJ10_indexOfSupplementary_39 : decode cJ10_indexOfSupplementary 39 = .ok (.invokestatic 71, 3) := dk_184 0 71 (dk_at dksJ10_indexOfSupplementary_1 17 rfl rfl)
theorem dJ10_indexOfSupplementary_42 : decode cJ10_indexOfSupplementary 42 = .ok (.iload 4, 2) := dk_21 4 (dk_at dksJ10_indexOfSupplementary_1 20 rfl rfl)
theorem dJ10_indexOfSupplementary_44 : decode cJ10_indexOfSupplementary 44 = .ok (.if_icmp .ne 19, 3) := dk_160 0 19 (dk_at dksJ10_indexOfSupplementary_2 0 rfl rfl)
theorem dJ10_indexOfSupplementary_47 : decode cJ10_indexOfSupplementary 47 = .ok (.aload_n 0, 1) := dk_42 (dk_at dksJ10_indexOfSupplementary_2 3 rfl rfl)
theorem dJ10_indexOfSupplementary_48 : decode cJ10_indexOfSupplementary 48 = .ok (.iload 6, 2) := dk_21 6 (dk_at dksJ10_indexOfSupplementary_2 4 rfl rfl)
theorem dJ10_indexOfSupplementary_50 : decode cJ10_indexOfSupplementary 50 = .ok (.iconst 1, 1) := dk_4 (dk_at dksJ10_indexOfSupplementary_2 6 rfl rfl)
theorem dJ10_indexOfSupplementary_51 : decode cJ10_indexOfSupplementary 51 = .ok (.iadd, 1) := dk_96 (dk_at dksJ10_indexOfSupplementary_2 7 rfl rfl)
theorem dJ10_indexOfSupplementary_52 : decode cJ10_indexOfSupplementary 52 = .ok (.invokestatic 71, 3) := dk_184 0 71 (dk_at dksJ10_indexOfSupplementary_2 8 rfl rfl)
theorem dJ10_indexOfSupplementary_55 : decode cJ10_indexOfSupplementary 55 = .ok (.iload 5, 2) := dk_21 5 (dk_at dksJ10_indexOfSupplementary_2 11 rfl rfl)
theorem dJ10_indexOfSupplementary_57 : decode cJ10_indexOfSupplementary 57 = .ok (.if_icmp .ne 6, 3) := dk_160 0 6 (dk_at dksJ10_indexOfSupplementary_2 13 rfl rfl)
theorem dJ10_indexOfSupplementary_60 : decode cJ10_indexOfSupplementary 60 = .ok (.iload 6, 2) := dk_21 6 (dk_at dksJ10_indexOfSupplementary_2 16 rfl rfl)
theorem dJ10_indexOfSupplementary_62 : decode cJ10_indexOfSupplementary 62 = .ok (.ireturn, 1) := dk_172 (dk_at dksJ10_indexOfSupplementary_2 18 rfl rfl)
theorem dJ10_indexOfSupplementary_63 : decode cJ10_indexOfSupplementary 63 = .ok (.iinc 6 1, 3) := dk_132 6 1 (dk_at dksJ10_indexOfSupplementary_2 19 rfl rfl)
theorem dJ10_indexOfSupplementary_66 : decode cJ10_indexOfSupplementary 66 = .ok (.goto (-38), 3) := dk_167 255 218 (dk_at dksJ10_indexOfSupplementary_3 0 rfl rfl)
theorem dJ10_indexOfSupplementary_69 : decode cJ10_indexOfSupplementary 69 = .ok (.iconst (-1), 1) := dk_2 (dk_at dksJ10_indexOfSupplementary_3 3 rfl rfl)
theorem dJ10_indexOfSupplementary_70 : decode cJ10_indexOfSupplementary 70 = .ok (.ireturn, 1) := dk_172 (dk_at dksJ10_indexOfSupplementary_3 4 rfl rfl)
abbrev cJ11_checkFromToIndex : ByteArray := prog_50_method_12_code
def yJ11_checkFromToIndex : MethodName := ⟨RJ11, "checkFromToIndex", "(IIILjava/util/function/BiFunction;)I"⟩
def dkwJ11_checkFromToIndex_0 : List UInt8 := [26, 155, 0, 13, 26, 27, 163, 0, 8, 27, 28, 164, 0, 11, 45, 26, 27, 28, 184, 0, 99, 191, 26, 172]
abbrev dktJ11_checkFromToIndex_0 : List UInt8 := dkwJ11_checkFromToIndex_0 ++ []
theorem dksJ11_checkFromToIndex_0 : cJ11_checkFromToIndex.data.toList.drop 0 = dktJ11_checkFromToIndex_0 := by decide +kernel
theorem dJ11_checkFromToIndex_0 : decode cJ11_checkFromToIndex 0 = .ok (.iload_n 0, 1) := dk_26 (dk_at dksJ11_checkFromToIndex_0 0 rfl rfl)
theorem dJ11_checkFromToIndex_1 : decode cJ11_checkFromToIndex 1 = .ok (.ifCond .lt 13, 3) := dk_155 0 13 (dk_at dksJ11_checkFromToIndex_0 1 rfl rfl)
theorem dJ11_checkFromToIndex_4 : decode cJ11_checkFromToIndex 4 = .ok (.iload_n 0, 1) := dk_26 (dk_at dksJ11_checkFromToIndex_0 4 rfl rfl)
theorem dJ11_checkFromToIndex_5 : decode cJ11_checkFromToIndex 5 = .ok (.iload_n 1, 1) := dk_27 (dk_at dksJ11_checkFromToIndex_0 5 rfl rfl)
theorem dJ11_checkFromToIndex_6 : decode cJ11_checkFromToIndex 6 = .ok (.if_icmp .gt 8, 3) := dk_163 0 8 (dk_at dksJ11_checkFromToIndex_0 6 rfl rfl)
theorem dJ11_checkFromToIndex_9 : decode cJ11_checkFromToIndex 9 = .ok (.iload_n 1, 1) := dk_27 (dk_at dksJ11_checkFromToIndex_0 9 rfl rfl)
theorem dJ11_checkFromToIndex_10 : decode cJ11_checkFromToIndex 10 = .ok (.iload_n 2, 1) := dk_28 (dk_at dksJ11_checkFromToIndex_0 10 rfl rfl)
theorem dJ11_checkFromToIndex_11 : decode cJ11_checkFromToIndex 11 = .ok (.if_icmp .le 11, 3) := dk_164 0 11 (dk_at dksJ11_checkFromToIndex_0 11 rfl rfl)
theorem dJ11_checkFromToIndex_14 : decode cJ11_checkFromToIndex 14 = .ok (.aload_n 3, 1) := dk_45 (dk_at dksJ11_checkFromToIndex_0 14 rfl rfl)
theorem dJ11_checkFromToIndex_15 : decode cJ11_checkFromToIndex 15 = .ok (.iload_n 0, 1) := dk_26 (dk_at dksJ11_checkFromToIndex_0 15 rfl rfl)
theorem dJ11_checkFromToIndex_16 : decode cJ11_checkFromToIndex 16 = .ok (.iload_n 1, 1) := dk_27 (dk_at dksJ11_checkFromToIndex_0 16 rfl rfl)
theorem dJ11_checkFromToIndex_17 : decode cJ11_checkFromToIndex 17 = .ok (.iload_n 2, 1) := dk_28 (dk_at dksJ11_checkFromToIndex_0 17 rfl rfl)
theorem dJ11_checkFromToIndex_18 : decode cJ11_checkFromToIndex 18 = .ok (.invokestatic 99, 3) := dk_184 0 99 (dk_at dksJ11_checkFromToIndex_0 18 rfl rfl)
theorem dJ11_checkFromToIndex_21 : decode cJ11_checkFromToIndex 21 = .ok (.athrow, 1) := dk_191 (dk_at dksJ11_checkFromToIndex_0 21 rfl rfl)
theorem dJ11_checkFromToIndex_22 : decode cJ11_checkFromToIndex 22 = .ok (.iload_n 0, 1) := dk_26 (dk_at dksJ11_checkFromToIndex_0 22 rfl rfl)
theorem dJ11_checkFromToIndex_23 : decode cJ11_checkFromToIndex 23 = .ok (.ireturn, 1) := dk_172 (dk_at dksJ11_checkFromToIndex_0 23 rfl rfl)
abbrev cJ12_isValidCodePoint : ByteArray := prog_36_method_11_code
def yJ12_isValidCodePoint : MethodName := ⟨RJ12, "isValidCodePoint", "(I)Z"⟩
def dkwJ12_isValidCodePoint_0 : List UInt8 := [26, 16, 16, 124, 60, 27, 16, 17, 162, 0, 7, 4, 167, 0, 4, 3, 172]
abbrev dktJ12_isValidCodePoint_0 : List UInt8 := dkwJ12_isValidCodePoint_0 ++ []
theorem dksJ12_isValidCodePoint_0 : cJ12_isValidCodePoint.data.toList.drop 0 = dktJ12_isValidCodePoint_0 := by decide +kernel
theorem dJ12_isValidCodePoint_0 : decode cJ12_isValidCodePoint 0 = .ok (.iload_n 0, 1) := dk_26 (dk_at dksJ12_isValidCodePoint_0 0 rfl rfl)
theorem dJ12_isValidCodePoint_1 : decode cJ12_isValidCodePoint 1 = .ok (.bipush 16, 2) := dk_16 16 (dk_at dksJ12_isValidCodePoint_0 1 rfl rfl)
theorem dJ12_isValidCodePoint_3 : decode cJ12_isValidCodePoint 3 = .ok (.iushr, 1) := dk_124 (dk_at dksJ12_isValidCodePoint_0 3 rfl rfl)
theorem dJ12_isValidCodePoint_4 : decode cJ12_isValidCodePoint 4 = .ok (.istore_n 1, 1) := dk_60 (dk_at dksJ12_isValidCodePoint_0 4 rfl rfl)
theorem dJ12_isValidCodePoint_5 : decode cJ12_isValidCodePoint 5 = .ok (.iload_n 1, 1) := dk_27 (dk_at dksJ12_isValidCodePoint_0 5 rfl rfl)
theorem dJ12_isValidCodePoint_6 : decode cJ12_isValidCodePoint 6 = .ok (.bipush 17, 2) := dk_16 17 (dk_at dksJ12_isValidCodePoint_0 6 rfl rfl)
theorem dJ12_isValidCodePoint_8 : decode cJ12_isValidCodePoint 8 = .ok (.if_icmp .ge 7, 3) := dk_162 0 7 (dk_at dksJ12_isValidCodePoint_0 8 rfl rfl)
theorem dJ12_isValidCodePoint_11 : decode cJ12_isValidCodePoint 11 = .ok (.iconst 1, 1) := dk_4 (dk_at dksJ12_isValidCodePoint_0 11 rfl rfl)
theorem dJ12_isValidCodePoint_12 : decode cJ12_isValidCodePoint 12 = .ok (.goto 4, 3) := dk_167 0 4 (dk_at dksJ12_isValidCodePoint_0 12 rfl rfl)
theorem dJ12_isValidCodePoint_15 : decode cJ12_isValidCodePoint 15 = .ok (.iconst 0, 1) := dk_3 (dk_at dksJ12_isValidCodePoint_0 15 rfl rfl)
theorem dJ12_isValidCodePoint_16 : decode cJ12_isValidCodePoint 16 = .ok (.ireturn, 1) := dk_172 (dk_at dksJ12_isValidCodePoint_0 16 rfl rfl)
abbrev cJ12_highSurrogate : ByteArray := prog_36_method_28_code
def yJ12_highSurrogate : MethodName := ⟨RJ12, "highSurrogate", "(I)C"⟩
def dkwJ12_highSurrogate_0 : List UInt8 := [26, 16, 10, 124, 18, 110, 96, 146, 172]
abbrev dktJ12_highSurrogate_0 : List UInt8 := dkwJ12_highSurrogate_0 ++ []
theorem dksJ12_highSurrogate_0 : cJ12_highSurrogate.data.toList.drop 0 = dktJ12_highSurrogate_0 := by decide +kernel
theorem dJ12_highSurrogate_0 : decode cJ12_highSurrogate 0 = .ok (.iload_n 0, 1) := dk_26 (dk_at dksJ12_highSurrogate_0 0 rfl rfl)
theorem dJ12_highSurrogate_1 : decode cJ12_highSurrogate 1 = .ok (.bipush 10, 2) := dk_16 10 (dk_at dksJ12_highSurrogate_0 1 rfl rfl)
theorem dJ12_highSurrogate_3 : decode cJ12_highSurrogate 3 = .ok (.iushr, 1) := dk_124 (dk_at dksJ12_highSurrogate_0 3 rfl rfl)
theorem dJ12_highSurrogate_4 : decode cJ12_highSurrogate 4 = .ok (.ldc 110, 2) := dk_18 110 (dk_at dksJ12_highSurrogate_0 4 rfl rfl)
theorem dJ12_highSurrogate_6 : decode cJ12_highSurrogate 6 = .ok (.iadd, 1) := dk_96 (dk_at dksJ12_highSurrogate_0 6 rfl rfl)
theorem dJ12_highSurrogate_7 : decode cJ12_highSurrogate 7 = .ok (.i2c, 1) := dk_146 (dk_at dksJ12_highSurrogate_0 7 rfl rfl)
theorem dJ12_highSurrogate_8 : decode cJ12_highSurrogate 8 = .ok (.ireturn, 1) := dk_172 (dk_at dksJ12_highSurrogate_0 8 rfl rfl)
abbrev cJ12_lowSurrogate : ByteArray := prog_36_method_29_code
def yJ12_lowSurrogate : MethodName := ⟨RJ12, "lowSurrogate", "(I)C"⟩
def dkwJ12_lowSurrogate_0 : List UInt8 := [26, 17, 3, 255, 126, 18, 76, 96, 146, 172]
abbrev dktJ12_lowSurrogate_0 : List UInt8 := dkwJ12_lowSurrogate_0 ++ []
theorem dksJ12_lowSurrogate_0 : cJ12_lowSurrogate.data.toList.drop 0 = dktJ12_lowSurrogate_0 := by decide +kernel
theorem dJ12_lowSurrogate_0 : decode cJ12_lowSurrogate 0 = .ok (.iload_n 0, 1) := dk_26 (dk_at dksJ12_lowSurrogate_0 0 rfl rfl)
theorem dJ12_lowSurrogate_1 : decode cJ12_lowSurrogate 1 = .ok (.sipush 1023, 3) := dk_17 3 255 (dk_at dksJ12_lowSurrogate_0 1 rfl rfl)
theorem dJ12_lowSurrogate_4 : decode cJ12_lowSurrogate 4 = .ok (.iand, 1) := dk_126 (dk_at dksJ12_lowSurrogate_0 4 rfl rfl)
theorem dJ12_lowSurrogate_5 : decode cJ12_lowSurrogate 5 = .ok (.ldc 76, 2) := dk_18 76 (dk_at dksJ12_lowSurrogate_0 5 rfl rfl)
theorem dJ12_lowSurrogate_7 : decode cJ12_lowSurrogate 7 = .ok (.iadd, 1) := dk_96 (dk_at dksJ12_lowSurrogate_0 7 rfl rfl)
theorem dJ12_lowSurrogate_8 : decode cJ12_lowSurrogate 8 = .ok (.i2c, 1) := dk_146 (dk_at dksJ12_lowSurrogate_0 8 rfl rfl)
theorem dJ12_lowSurrogate_9 : decode cJ12_lowSurrogate 9 = .ok (.ireturn, 1) := dk_172 (dk_at dksJ12_lowSurrogate_0 9 rfl rfl)
abbrev cJ13_bitCount : ByteArray := prog_40_method_49_code
def yJ13_bitCount : MethodName := ⟨RJ13, "bitCount", "(I)I"⟩
def dkwJ13_bitCount_2 : List UInt8 := [26, 16, 63, 126, 172]
abbrev dktJ13_bitCount_2 : List UInt8 := dkwJ13_bitCount_2 ++ []
def dkwJ13_bitCount_1 : List UInt8 := [26, 26, 7, 124, 96, 19, 1, 11, 126, 59, 26, 26, 16, 8, 124, 96, 59, 26, 26, 16, 16, 124, 96, 59]
abbrev dktJ13_bitCount_1 : List UInt8 := dkwJ13_bitCount_1 ++ dktJ13_bitCount_2
def dkwJ13_bitCount_0 : List UInt8 := [26, 26, 4, 124, 19, 1, 9, 126, 100, 59, 26, 19, 1, 10, 126, 26, 5, 124, 19, 1, 10, 126, 96, 59]
abbrev dktJ13_bitCount_0 : List UInt8 := dkwJ13_bitCount_0 ++ dktJ13_bitCount_1
theorem dksJ13_bitCount_0 : cJ13_bitCount.data.toList.drop 0 = dktJ13_bitCount_0 := by decide +kernel
theorem dksJ13_bitCount_1 : cJ13_bitCount.data.toList.drop 24 = dktJ13_bitCount_1 := dk_seg dksJ13_bitCount_0 24 rfl rfl
theorem dksJ13_bitCount_2 : cJ13_bitCount.data.toList.drop 48 = dktJ13_bitCount_2 := dk_seg dksJ13_bitCount_1 24 rfl rfl
theorem dJ13_bitCount_0 : decode cJ13_bitCount 0 = .ok (.iload_n 0, 1) := dk_26 (dk_at dksJ13_bitCount_0 0 rfl rfl)
theorem dJ13_bitCount_1 : decode cJ13_bitCount 1 = .ok (.iload_n 0, 1) := dk_26 (dk_at dksJ13_bitCount_0 1 rfl rfl)
theorem dJ13_bitCount_2 : decode cJ13_bitCount 2 = .ok (.iconst 1, 1) := dk_4 (dk_at dksJ13_bitCount_0 2 rfl rfl)
theorem dJ13_bitCount_3 : decode cJ13_bitCount 3 = .ok (.iushr, 1) := dk_124 (dk_at dksJ13_bitCount_0 3 rfl rfl)
theorem dJ13_bitCount_4 : decode cJ13_bitCount 4 = .ok (.ldc_w 265, 3) := dk_19 1 9 (dk_at dksJ13_bitCount_0 4 rfl rfl)
theorem dJ13_bitCount_7 : decode cJ13_bitCount 7 = .ok (.iand, 1) := dk_126 (dk_at dksJ13_bitCount_0 7 rfl rfl)
theorem dJ13_bitCount_8 : decode cJ13_bitCount 8 = .ok (.isub, 1) := dk_100 (dk_at dksJ13_bitCount_0 8 rfl rfl)
theorem dJ13_bitCount_9 : decode cJ13_bitCount 9 = .ok (.istore_n 0, 1) := dk_59 (dk_at dksJ13_bitCount_0 9 rfl rfl)
theorem dJ13_bitCount_10 : decode cJ13_bitCount 10 = .ok (.iload_n 0, 1) := dk_26 (dk_at dksJ13_bitCount_0 10 rfl rfl)
theorem dJ13_bitCount_11 : decode cJ13_bitCount 11 = .ok (.ldc_w 266, 3) := dk_19 1 10 (dk_at dksJ13_bitCount_0 11 rfl rfl)
theorem dJ13_bitCount_14 : decode cJ13_bitCount 14 = .ok (.iand, 1) := dk_126 (dk_at dksJ13_bitCount_0 14 rfl rfl)
theorem dJ13_bitCount_15 : decode cJ13_bitCount 15 = .ok (.iload_n 0, 1) := dk_26 (dk_at dksJ13_bitCount_0 15 rfl rfl)
theorem dJ13_bitCount_16 : decode cJ13_bitCount 16 = .ok (.iconst 2, 1) := dk_5 (dk_at dksJ13_bitCount_0 16 rfl rfl)
theorem dJ13_bitCount_17 : decode cJ13_bitCount 17 = .ok (.iushr, 1) := dk_124 (dk_at dksJ13_bitCount_0 17 rfl rfl)
theorem dJ13_bitCount_18 : decode cJ13_bitCount 18 = .ok (.ldc_w 266, 3) := dk_19 1 10 (dk_at dksJ13_bitCount_0 18 rfl rfl)
theorem dJ13_bitCount_21 : decode cJ13_bitCount 21 = .ok (.iand, 1) := dk_126 (dk_at dksJ13_bitCount_0 21 rfl rfl)
theorem dJ13_bitCount_22 : decode cJ13_bitCount 22 = .ok (.iadd, 1) := dk_96 (dk_at dksJ13_bitCount_0 22 rfl rfl)
theorem dJ13_bitCount_23 : decode cJ13_bitCount 23 = .ok (.istore_n 0, 1) := dk_59 (dk_at dksJ13_bitCount_0 23 rfl rfl)
theorem dJ13_bitCount_24 : decode cJ13_bitCount 24 = .ok (.iload_n 0, 1) := dk_26 (dk_at dksJ13_bitCount_1 0 rfl rfl)
theorem dJ13_bitCount_25 : decode cJ13_bitCount 25 = .ok (.iload_n 0, 1) := dk_26 (dk_at dksJ13_bitCount_1 1 rfl rfl)
theorem dJ13_bitCount_26 : decode cJ13_bitCount 26 = .ok (.iconst 4, 1) := dk_7 (dk_at dksJ13_bitCount_1 2 rfl rfl)
theorem dJ13_bitCount_27 : decode cJ13_bitCount 27 = .ok (.iushr, 1) := dk_124 (dk_at dksJ13_bitCount_1 3 rfl rfl)
theorem dJ13_bitCount_28 : decode cJ13_bitCount 28 = .ok (.iadd, 1) := dk_96 (dk_at dksJ13_bitCount_1 4 rfl rfl)
theorem dJ13_bitCount_29 : decode cJ13_bitCount 29 = .ok (.ldc_w 267, 3) := dk_19 1 11 (dk_at dksJ13_bitCount_1 5 rfl rfl)
theorem dJ13_bitCount_32 : decode cJ13_bitCount 32 = .ok (.iand, 1) := dk_126 (dk_at dksJ13_bitCount_1 8 rfl rfl)
theorem dJ13_bitCount_33 : decode cJ13_bitCount 33 = .ok (.istore_n 0, 1) := dk_59 (dk_at dksJ13_bitCount_1 9 rfl rfl)
theorem dJ13_bitCount_34 : decode cJ13_bitCount 34 = .ok (.iload_n 0, 1) := dk_26 (dk_at dksJ13_bitCount_1 10 rfl rfl)
theorem dJ13_bitCount_35 : decode cJ13_bitCount 35 = .ok (.iload_n 0, 1) := dk_26 (dk_at dksJ13_bitCount_1 11 rfl rfl)
theorem dJ13_bitCount_36 : decode cJ13_bitCount 36 = .ok (.bipush 8, 2) := dk_16 8 (dk_at dksJ13_bitCount_1 12 rfl rfl)
theorem dJ13_bitCount_38 : decode cJ13_bitCount 38 = .ok (.iushr, 1) := dk_124 (dk_at dksJ13_bitCount_1 14 rfl rfl)
theorem dJ13_bitCount_39 : decode cJ13_bitCount 39 = .ok (.iadd, 1) := dk_96 (dk_at dksJ13_bitCount_1 15 rfl rfl)
theorem dJ13_bitCount_40 : decode cJ13_bitCount 40 = .ok (.istore_n 0, 1) := dk_59 (dk_at dksJ13_bitCount_1 16 rfl rfl)
theorem dJ13_bitCount_41 : decode cJ13_bitCount 41 = .ok (.iload_n 0, 1) := dk_26 (dk_at dksJ13_bitCount_1 17 rfl rfl)
theorem dJ13_bitCount_42 : decode cJ13_bitCount 42 = .ok (.iload_n 0, 1) := dk_26 (dk_at dksJ13_bitCount_1 18 rfl rfl)
theorem dJ13_bitCount_43 : decode cJ13_bitCount 43 = .ok (.bipush 16, 2) := dk_16 16 (dk_at dksJ13_bitCount_1 19 rfl rfl)
theorem dJ13_bitCount_45 : decode cJ13_bitCount 45 = .ok (.iushr, 1) := dk_124 (dk_at dksJ13_bitCount_1 21 rfl rfl)
theorem dJ13_bitCount_46 : decode cJ13_bitCount 46 = .ok (.iadd, 1) := dk_96 (dk_at dksJ13_bitCount_1 22 rfl rfl)
theorem dJ13_bitCount_47 : decode cJ13_bitCount 47 = .ok (.istore_n 0, 1) := dk_59 (dk_at dksJ13_bitCount_1 23 rfl rfl)
theorem dJ13_bitCount_48 : decode cJ13_bitCount 48 = .ok (.iload_n 0, 1) := dk_26 (dk_at dksJ13_bitCount_2 0 rfl rfl)
theorem dJ13_bitCount_49 : decode cJ13_bitCount 49 = .ok (.bipush 63, 2) := dk_16 63 (dk_at dksJ13_bitCount_2 1 rfl rfl)
theorem dJ13_bitCount_51 : decode cJ13_bitCount 51 = .ok (.iand, 1) := dk_126 (dk_at dksJ13_bitCount_2 3 rfl rfl)
theorem dJ13_bitCount_52 : decode cJ13_bitCount 52 = .ok (.ireturn, 1) := dk_172 (dk_at dksJ13_bitCount_2 4 rfl rfl)
abbrev cJ14_init : ByteArray := prog_42_method_2_code
def yJ14_init : MethodName := ⟨RJ14, "<init>", "(Ljava/lang/String;)V"⟩
def dkwJ14_init_0 : List UInt8 := [42, 43, 183, 0, 7, 177]
abbrev dktJ14_init_0 : List UInt8 := dkwJ14_init_0 ++ []
theorem dksJ14_init_0 : cJ14_init.data.toList.drop 0 = dktJ14_init_0 := by decide +kernel
theorem dJ14_init_0 : decode cJ14_init 0 = .ok (.aload_n 0, 1) := dk_42 (dk_at dksJ14_init_0 0 rfl rfl)
theorem dJ14_init_1 : decode cJ14_init 1 = .ok (.aload_n 1, 1) := dk_43 (dk_at dksJ14_init_0 1 rfl rfl)
theorem dJ14_init_2 : decode cJ14_init 2 = .ok (.invokespecial 7, 3) := dk_183 0 7 (dk_at dksJ14_init_0 2 rfl rfl)
theorem dJ14_init_5 : decode cJ14_init 5 = .ok (.return_, 1) := dk_177 (dk_at dksJ14_init_0 5 rfl rfl)
abbrev cJ15_init : ByteArray := object_method_1_code
def yJ15_init : MethodName := ⟨RJ15, "<init>", "()V"⟩
theorem dJ15_init_0 : decode cJ15_init 0 = .ok (.return_, 1) := by decide +kernel
abbrev cJ2_init : ByteArray := prog_44_method_2_code
def yJ2_init : MethodName := ⟨RJ2, "<init>", "(Ljava/lang/String;)V"⟩
def dkwJ2_init_0 : List UInt8 := [42, 43, 183, 0, 7, 177]
abbrev dktJ2_init_0 : List UInt8 := dkwJ2_init_0 ++ []
theorem dksJ2_init_0 : cJ2_init.data.toList.drop 0 = dktJ2_init_0 := by decide +kernel
theorem dJ2_init_0 : decode cJ2_init 0 = .ok (.aload_n 0, 1) := dk_42 (dk_at dksJ2_init_0 0 rfl rfl)
theorem dJ2_init_1 : decode cJ2_init 1 = .ok (.aload_n 1, 1) := dk_43 (dk_at dksJ2_init_0 1 rfl rfl)
theorem dJ2_init_2 : decode cJ2_init 2 = .ok (.invokespecial 7, 3) := dk_183 0 7 (dk_at dksJ2_init_0 2 rfl rfl)
theorem dJ2_init_5 : decode cJ2_init 5 = .ok (.return_, 1) := dk_177 (dk_at dksJ2_init_0 5 rfl rfl)
abbrev cJ2_init_2 : ByteArray := prog_44_method_1_code
def yJ2_init_2 : MethodName := ⟨RJ2, "<init>", "()V"⟩
theorem dJ2_init_2_0 : decode cJ2_init_2 0 = .ok (.aload_n 0, 1) := by decide +kernel
theorem dJ2_init_2_1 : decode cJ2_init_2 1 = .ok (.invokespecial 1, 3) := by decide +kernel
theorem dJ2_init_2_4 : decode cJ2_init_2 4 = .ok (.return_, 1) := by decide +kernel
abbrev cJ3_init : ByteArray := prog_37_method_2_code
def yJ3_init : MethodName := ⟨RJ3, "<init>", "(Ljava/lang/String;)V"⟩
def dkwJ3_init_0 : List UInt8 := [42, 43, 183, 0, 7, 177]
abbrev dktJ3_init_0 : List UInt8 := dkwJ3_init_0 ++ []
theorem dksJ3_init_0 : cJ3_init.data.toList.drop 0 = dktJ3_init_0 := by decide +kernel
theorem dJ3_init_0 : decode cJ3_init 0 = .ok (.aload_n 0, 1) := dk_42 (dk_at dksJ3_init_0 0 rfl rfl)
theorem dJ3_init_1 : decode cJ3_init 1 = .ok (.aload_n 1, 1) := dk_43 (dk_at dksJ3_init_0 1 rfl rfl)
theorem dJ3_init_2 : decode cJ3_init 2 = .ok (.invokespecial 7, 3) := dk_183 0 7 (dk_at dksJ3_init_0 2 rfl rfl)
theorem dJ3_init_5 : decode cJ3_init 5 = .ok (.return_, 1) := dk_177 (dk_at dksJ3_init_0 5 rfl rfl)
abbrev cJ4_indexOf : ByteArray := prog_45_method_79_code
def yJ4_indexOf : MethodName := ⟨RJ4, "indexOf", "(I)I"⟩
def dkwJ4_indexOf_0 : List UInt8 := [42, 27, 3, 182, 2, 121, 172]
abbrev dktJ4_indexOf_0 : List UInt8 := dkwJ4_indexOf_0 ++ []
theorem dksJ4_indexOf_0 : cJ4_indexOf.data.toList.drop 0 = dktJ4_indexOf_0 := by decide +kernel
theorem dJ4_indexOf_0 : decode cJ4_indexOf 0 = .ok (.aload_n 0, 1) := dk_42 (dk_at dksJ4_indexOf_0 0 rfl rfl)
theorem dJ4_indexOf_1 : decode cJ4_indexOf 1 = .ok (.iload_n 1, 1) := dk_27 (dk_at dksJ4_indexOf_0 1 rfl rfl)
theorem dJ4_indexOf_2 : decode cJ4_indexOf 2 = .ok (.iconst 0, 1) := dk_3 (dk_at dksJ4_indexOf_0 2 rfl rfl)
theorem dJ4_indexOf_3 : decode cJ4_indexOf 3 = .ok (.invokevirtual 633, 3) := dk_182 2 121 (dk_at dksJ4_indexOf_0 3 rfl rfl)
theorem dJ4_indexOf_6 : decode cJ4_indexOf 6 = .ok (.ireturn, 1) := dk_172 (dk_at dksJ4_indexOf_0 6 rfl rfl)
abbrev cJ4_indexOf_2 : ByteArray := prog_45_method_80_code
def yJ4_indexOf_2 : MethodName := ⟨RJ4, "indexOf", "(II)I"⟩
def dkwJ4_indexOf_2_1 : List UInt8 := [180, 0, 9, 27, 28, 42, 182, 1, 249, 184, 2, 128, 172]
abbrev dktJ4_indexOf_2_1 : List UInt8 := dkwJ4_indexOf_2_1 ++ []
def dkwJ4_indexOf_2_0 : List UInt8 := [42, 182, 1, 236, 153, 0, 19, 42, 180, 0, 9, 27, 28, 42, 182, 1, 249, 184, 2, 125, 167, 0, 16, 42]
abbrev dktJ4_indexOf_2_0 : List UInt8 := dkwJ4_indexOf_2_0 ++ dktJ4_indexOf_2_1
theorem dksJ4_indexOf_2_0 : cJ4_indexOf_2.data.toList.drop 0 = dktJ4_indexOf_2_0 := by decide +kernel
theorem dksJ4_indexOf_2_1 : cJ4_indexOf_2.data.toList.drop 24 = dktJ4_indexOf_2_1 := dk_seg dksJ4_indexOf_2_0 24 rfl rfl
theorem dJ4_indexOf_2_0 : decode cJ4_indexOf_2 0 = .ok (.aload_n 0, 1) := dk_42 (dk_at dksJ4_indexOf_2_0 0 rfl rfl)
theorem dJ4_indexOf_2_1 : decode cJ4_indexOf_2 1 = .ok (.invokevirtual 492, 3) := dk_182 1 236 (dk_at dksJ4_indexOf_2_0 1 rfl rfl)
theorem dJ4_indexOf_2_4 : decode cJ4_indexOf_2 4 = .ok (.ifCond .eq 19, 3) := dk_153 0 19 (dk_at dksJ4_indexOf_2_0 4 rfl rfl)
theorem dJ4_indexOf_2_7 : decode cJ4_indexOf_2 7 = .ok (.aload_n 0, 1) := dk_42 (dk_at dksJ4_indexOf_2_0 7 rfl rfl)
theorem dJ4_indexOf_2_8 : decode cJ4_indexOf_2 8 = .ok (.getfield 9, 3) := dk_180 0 9 (dk_at dksJ4_indexOf_2_0 8 rfl rfl)
theorem dJ4_indexOf_2_11 : decode cJ4_indexOf_2 11 = .ok (.iload_n 1, 1) := dk_27 (dk_at dksJ4_indexOf_2_0 11 rfl rfl)
theorem dJ4_indexOf_2_12 : decode cJ4_indexOf_2 12 = .ok (.iload_n 2, 1) := dk_28 (dk_at dksJ4_indexOf_2_0 12 rfl rfl)
theorem dJ4_indexOf_2_13 : decode cJ4_indexOf_2 13 = .ok (.aload_n 0, 1) := dk_42 (dk_at dksJ4_indexOf_2_0 13 rfl rfl)
theorem dJ4_indexOf_2_14 : decode cJ4_indexOf_2 14 = .ok (.invokevirtual 505, 3) := dk_182 1 249 (dk_at dksJ4_indexOf_2_0 14 rfl rfl)
theorem dJ4_indexOf_2_17 : decode cJ4_indexOf_2 17 = .ok (.invokestatic 637, 3) := dk_184 2 125 (dk_at dksJ4_indexOf_2_0 17 rfl rfl)
theorem dJ4_indexOf_2_20 : decode cJ4_indexOf_2 20 = .ok (.goto 16, 3) := dk_167 0 16 (dk_at dksJ4_indexOf_2_0 20 rfl rfl)
theorem dJ4_indexOf_2_23 : decode cJ4_indexOf_2 23 = .ok (.aload_n 0, 1) := dk_42 (dk_at dksJ4_indexOf_2_0 23 rfl rfl)
theorem dJ4_indexOf_2_24 : decode cJ4_indexOf_2 24 = .ok (.getfield 9, 3) := dk_180 0 9 (dk_at dksJ4_indexOf_2_1 0 rfl rfl)
theorem dJ4_indexOf_2_27 : decode cJ4_indexOf_2 27 = .ok (.iload_n 1, 1) := dk_27 (dk_at dksJ4_indexOf_2_1 3 rfl rfl)
theorem dJ4_indexOf_2_28 : decode cJ4_indexOf_2 28 = .ok (.iload_n 2, 1) := dk_28 (dk_at dksJ4_indexOf_2_1 4 rfl rfl)
theorem dJ4_indexOf_2_29 : decode cJ4_indexOf_2 29 = .ok (.aload_n 0, 1) := dk_42 (dk_at dksJ4_indexOf_2_1 5 rfl rfl)
theorem dJ4_indexOf_2_30 : decode cJ4_indexOf_2 30 = .ok (.invokevirtual 505, 3) := dk_182 1 249 (dk_at dksJ4_indexOf_2_1 6 rfl rfl)
theorem dJ4_indexOf_2_33 : decode cJ4_indexOf_2 33 = .ok (.invokestatic 640, 3) := dk_184 2 128 (dk_at dksJ4_indexOf_2_1 9 rfl rfl)
theorem dJ4_indexOf_2_36 : decode cJ4_indexOf_2 36 = .ok (.ireturn, 1) := dk_172 (dk_at dksJ4_indexOf_2_1 12 rfl rfl)
abbrev cJ4_isLatin1 : ByteArray := prog_45_method_154_code
def yJ4_isLatin1 : MethodName := ⟨RJ4, "isLatin1", "()Z"⟩
def dkwJ4_isLatin1_0 : List UInt8 := [178, 0, 38, 153, 0, 14, 42, 180, 0, 15, 154, 0, 7, 4, 167, 0, 4, 3, 172]
abbrev dktJ4_isLatin1_0 : List UInt8 := dkwJ4_isLatin1_0 ++ []
theorem dksJ4_isLatin1_0 : cJ4_isLatin1.data.toList.drop 0 = dktJ4_isLatin1_0 := by decide +kernel
theorem dJ4_isLatin1_0 : decode cJ4_isLatin1 0 = .ok (.getstatic 38, 3) := dk_178 0 38 (dk_at dksJ4_isLatin1_0 0 rfl rfl)
theorem dJ4_isLatin1_3 : decode cJ4_isLatin1 3 = .ok (.ifCond .eq 14, 3) := dk_153 0 14 (dk_at dksJ4_isLatin1_0 3 rfl rfl)
theorem dJ4_isLatin1_6 : decode cJ4_isLatin1 6 = .ok (.aload_n 0, 1) := dk_42 (dk_at dksJ4_isLatin1_0 6 rfl rfl)
theorem dJ4_isLatin1_7 : decode cJ4_isLatin1 7 = .ok (.getfield 15, 3) := dk_180 0 15 (dk_at dksJ4_isLatin1_0 7 rfl rfl)
theorem dJ4_isLatin1_10 : decode cJ4_isLatin1 10 = .ok (.ifCond .ne 7, 3) := dk_154 0 7 (dk_at dksJ4_isLatin1_0 10 rfl rfl)
theorem dJ4_isLatin1_13 : decode cJ4_isLatin1 13 = .ok (.iconst 1, 1) := dk_4 (dk_at dksJ4_isLatin1_0 13 rfl rfl)
theorem dJ4_isLatin1_14 : decode cJ4_isLatin1 14 = .ok (.goto 4, 3) := dk_167 0 4 (dk_at dksJ4_isLatin1_0 14 rfl rfl)
theorem dJ4_isLatin1_17 : decode cJ4_isLatin1 17 = .ok (.iconst 0, 1) := dk_3 (dk_at dksJ4_isLatin1_0 17 rfl rfl)
theorem dJ4_isLatin1_18 : decode cJ4_isLatin1 18 = .ok (.ireturn, 1) := dk_172 (dk_at dksJ4_isLatin1_0 18 rfl rfl)
abbrev cJ4_length : ByteArray := prog_45_method_54_code
def yJ4_length : MethodName := ⟨RJ4, "length", "()I"⟩
def dkwJ4_length_0 : List UInt8 := [42, 180, 0, 9, 190, 42, 182, 1, 79, 122, 172]
abbrev dktJ4_length_0 : List UInt8 := dkwJ4_length_0 ++ []
theorem dksJ4_length_0 : cJ4_length.data.toList.drop 0 = dktJ4_length_0 := by decide +kernel
theorem dJ4_length_0 : decode cJ4_length 0 = .ok (.aload_n 0, 1) := dk_42 (dk_at dksJ4_length_0 0 rfl rfl)
theorem dJ4_length_1 : decode cJ4_length 1 = .ok (.getfield 9, 3) := dk_180 0 9 (dk_at dksJ4_length_0 1 rfl rfl)
theorem dJ4_length_4 : decode cJ4_length 4 = .ok (.arraylength, 1) := dk_190 (dk_at dksJ4_length_0 4 rfl rfl)
theorem dJ4_length_5 : decode cJ4_length 5 = .ok (.aload_n 0, 1) := dk_42 (dk_at dksJ4_length_0 5 rfl rfl)
theorem dJ4_length_6 : decode cJ4_length 6 = .ok (.invokevirtual 335, 3) := dk_182 1 79 (dk_at dksJ4_length_0 6 rfl rfl)
theorem dJ4_length_9 : decode cJ4_length 9 = .ok (.ishr, 1) := dk_122 (dk_at dksJ4_length_0 9 rfl rfl)
theorem dJ4_length_10 : decode cJ4_length 10 = .ok (.ireturn, 1) := dk_172 (dk_at dksJ4_length_0 10 rfl rfl)
abbrev cJ4_coder : ByteArray := prog_45_method_152_code
def yJ4_coder : MethodName := ⟨RJ4, "coder", "()B"⟩
def dkwJ4_coder_0 : List UInt8 := [178, 0, 38, 153, 0, 10, 42, 180, 0, 15, 167, 0, 4, 4, 172]
abbrev dktJ4_coder_0 : List UInt8 := dkwJ4_coder_0 ++ []
theorem dksJ4_coder_0 : cJ4_coder.data.toList.drop 0 = dktJ4_coder_0 := by decide +kernel
theorem dJ4_coder_0 : decode cJ4_coder 0 = .ok (.getstatic 38, 3) := dk_178 0 38 (dk_at dksJ4_coder_0 0 rfl rfl)
theorem dJ4_coder_3 : decode cJ4_coder 3 = .ok (.ifCond .eq 10, 3) := dk_153 0 10 (dk_at dksJ4_coder_0 3 rfl rfl)
theorem dJ4_coder_6 : decode cJ4_coder 6 = .ok (.aload_n 0, 1) := dk_42 (dk_at dksJ4_coder_0 6 rfl rfl)
theorem dJ4_coder_7 : decode cJ4_coder 7 = .ok (.getfield 15, 3) := dk_180 0 15 (dk_at dksJ4_coder_0 7 rfl rfl)
theorem dJ4_coder_10 : decode cJ4_coder 10 = .ok (.goto 4, 3) := dk_167 0 4 (dk_at dksJ4_coder_0 10 rfl rfl)
theorem dJ4_coder_13 : decode cJ4_coder 13 = .ok (.iconst 1, 1) := dk_4 (dk_at dksJ4_coder_0 13 rfl rfl)
theorem dJ4_coder_14 : decode cJ4_coder 14 = .ok (.ireturn, 1) := dk_172 (dk_at dksJ4_coder_0 14 rfl rfl)
abbrev cJ4_checkBoundsBeginEnd : ByteArray := prog_45_method_158_code
def yJ4_checkBoundsBeginEnd : MethodName := ⟨RJ4, "checkBoundsBeginEnd", "(III)V"⟩
def dkwJ4_checkBoundsBeginEnd_0 : List UInt8 := [26, 27, 28, 178, 4, 29, 184, 4, 38, 87, 177]
abbrev dktJ4_checkBoundsBeginEnd_0 : List UInt8 := dkwJ4_checkBoundsBeginEnd_0 ++ []
theorem dksJ4_checkBoundsBeginEnd_0 : cJ4_checkBoundsBeginEnd.data.toList.drop 0 = dktJ4_checkBoundsBeginEnd_0 := by decide +kernel
theorem dJ4_checkBoundsBeginEnd_0 : decode cJ4_checkBoundsBeginEnd 0 = .ok (.iload_n 0, 1) := dk_26 (dk_at dksJ4_checkBoundsBeginEnd_0 0 rfl rfl)
theorem dJ4_checkBoundsBeginEnd_1 : decode cJ4_checkBoundsBeginEnd 1 = .ok (.iload_n 1, 1) := dk_27 (dk_at dksJ4_checkBoundsBeginEnd_0 1 rfl rfl)
theorem dJ4_checkBoundsBeginEnd_2 : decode cJ4_checkBoundsBeginEnd 2 = .ok (.iload_n 2, 1) := dk_28 (dk_at dksJ4_checkBoundsBeginEnd_0 2 rfl rfl)
theorem dJ4_checkBoundsBeginEnd_3 : decode cJ4_checkBoundsBeginEnd 3 = .ok (.getstatic 1053, 3) := dk_178 4 29 (dk_at dksJ4_checkBoundsBeginEnd_0 3 rfl rfl)
theorem dJ4_checkBoundsBeginEnd_6 : decode cJ4_checkBoundsBeginEnd 6 = .ok (.invokestatic 1062, 3) := dk_184 4 38 (dk_at dksJ4_checkBoundsBeginEnd_0 6 rfl rfl)
theorem dJ4_checkBoundsBeginEnd_9 : decode cJ4_checkBoundsBeginEnd 9 = .ok (.pop, 1) := dk_87 (dk_at dksJ4_checkBoundsBeginEnd_0 9 rfl rfl)
theorem dJ4_checkBoundsBeginEnd_10 : decode cJ4_checkBoundsBeginEnd 10 = .ok (.return_, 1) := dk_177 (dk_at dksJ4_checkBoundsBeginEnd_0 10 rfl rfl)
abbrev cJ5_init : ByteArray := prog_43_method_1_code
def yJ5_init : MethodName := ⟨RJ5, "<init>", "()V"⟩
theorem dJ5_init_0 : decode cJ5_init 0 = .ok (.aload_n 0, 1) := by decide +kernel
theorem dJ5_init_1 : decode cJ5_init 1 = .ok (.invokespecial 1, 3) := by decide +kernel
theorem dJ5_init_4 : decode cJ5_init 4 = .ok (.return_, 1) := by decide +kernel
abbrev cJ6_init : ByteArray := prog_39_method_2_code
def yJ6_init : MethodName := ⟨RJ6, "<init>", "(Ljava/lang/String;)V"⟩
def dkwJ6_init_0 : List UInt8 := [42, 43, 183, 0, 7, 177]
abbrev dktJ6_init_0 : List UInt8 := dkwJ6_init_0 ++ []
theorem dksJ6_init_0 : cJ6_init.data.toList.drop 0 = dktJ6_init_0 := by decide +kernel
theorem dJ6_init_0 : decode cJ6_init 0 = .ok (.aload_n 0, 1) := dk_42 (dk_at dksJ6_init_0 0 rfl rfl)
theorem dJ6_init_1 : decode cJ6_init 1 = .ok (.aload_n 1, 1) := dk_43 (dk_at dksJ6_init_0 1 rfl rfl)
theorem dJ6_init_2 : decode cJ6_init 2 = .ok (.invokespecial 7, 3) := dk_183 0 7 (dk_at dksJ6_init_0 2 rfl rfl)
theorem dJ6_init_5 : decode cJ6_init 5 = .ok (.return_, 1) := dk_177 (dk_at dksJ6_init_0 5 rfl rfl)
abbrev cJ7_init : ByteArray := prog_35_method_2_code
def yJ7_init : MethodName := ⟨RJ7, "<init>", "(Ljava/lang/String;)V"⟩
def dkwJ7_init_0 : List UInt8 := [42, 43, 183, 0, 7, 177]
abbrev dktJ7_init_0 : List UInt8 := dkwJ7_init_0 ++ []
theorem dksJ7_init_0 : cJ7_init.data.toList.drop 0 = dktJ7_init_0 := by decide +kernel
theorem dJ7_init_0 : decode cJ7_init 0 = .ok (.aload_n 0, 1) := dk_42 (dk_at dksJ7_init_0 0 rfl rfl)
theorem dJ7_init_1 : decode cJ7_init 1 = .ok (.aload_n 1, 1) := dk_43 (dk_at dksJ7_init_0 1 rfl rfl)
theorem dJ7_init_2 : decode cJ7_init 2 = .ok (.invokespecial 7, 3) := dk_183 0 7 (dk_at dksJ7_init_0 2 rfl rfl)
theorem dJ7_init_5 : decode cJ7_init 5 = .ok (.return_, 1) := dk_177 (dk_at dksJ7_init_0 5 rfl rfl)
abbrev cJ8_indexOf : ByteArray := prog_46_method_22_code
def yJ8_indexOf : MethodName := ⟨RJ8, "indexOf", "([BIII)I"⟩
def dkwJ8_indexOf_1 : List UInt8 := [161, 0, 5, 2, 172, 42, 27, 28, 29, 184, 0, 95, 172]
abbrev dktJ8_indexOf_1 : List UInt8 := dkwJ8_indexOf_1 ++ []
def dkwJ8_indexOf_0 : List UInt8 := [27, 184, 0, 88, 154, 0, 5, 2, 172, 28, 3, 184, 0, 92, 61, 29, 42, 190, 184, 0, 38, 62, 28, 29]
abbrev dktJ8_indexOf_0 : List UInt8 := dkwJ8_indexOf_0 ++ dktJ8_indexOf_1
theorem dksJ8_indexOf_0 : cJ8_indexOf.data.toList.drop 0 = dktJ8_indexOf_0 := by decide +kernel
theorem dksJ8_indexOf_1 : cJ8_indexOf.data.toList.drop 24 = dktJ8_indexOf_1 := dk_seg dksJ8_indexOf_0 24 rfl rfl
theorem dJ8_indexOf_0 : decode cJ8_indexOf 0 = .ok (.iload_n 1, 1) := dk_27 (dk_at dksJ8_indexOf_0 0 rfl rfl)
theorem dJ8_indexOf_1 : decode cJ8_indexOf 1 = .ok (.invokestatic 88, 3) := dk_184 0 88 (dk_at dksJ8_indexOf_0 1 rfl rfl)
theorem dJ8_indexOf_4 : decode cJ8_indexOf 4 = .ok (.ifCond .ne 5, 3) := dk_154 0 5 (dk_at dksJ8_indexOf_0 4 rfl rfl)
theorem dJ8_indexOf_7 : decode cJ8_indexOf 7 = .ok (.iconst (-1), 1) := dk_2 (dk_at dksJ8_indexOf_0 7 rfl rfl)
theorem dJ8_indexOf_8 : decode cJ8_indexOf 8 = .ok (.ireturn, 1) := dk_172 (dk_at dksJ8_indexOf_0 8 rfl rfl)
theorem dJ8_indexOf_9 : decode cJ8_indexOf 9 = .ok (.iload_n 2, 1) := dk_28 (dk_at dksJ8_indexOf_0 9 rfl rfl)
theorem dJ8_indexOf_10 : decode cJ8_indexOf 10 = .ok (.iconst 0, 1) := dk_3 (dk_at dksJ8_indexOf_0 10 rfl rfl)
theorem dJ8_indexOf_11 : decode cJ8_indexOf 11 = .ok (.invokestatic 92, 3) := dk_184 0 92 (dk_at dksJ8_indexOf_0 11 rfl rfl)
theorem dJ8_indexOf_14 : decode cJ8_indexOf 14 = .ok (.istore_n 2, 1) := dk_61 (dk_at dksJ8_indexOf_0 14 rfl rfl)
theorem dJ8_indexOf_15 : decode cJ8_indexOf 15 = .ok (.iload_n 3, 1) := dk_29 (dk_at dksJ8_indexOf_0 15 rfl rfl)
theorem dJ8_indexOf_16 : decode cJ8_indexOf 16 = .ok (.aload_n 0, 1) := dk_42 (dk_at dksJ8_indexOf_0 16 rfl rfl)
theorem dJ8_indexOf_17 : decode cJ8_indexOf 17 = .ok (.arraylength, 1) := dk_190 (dk_at dksJ8_indexOf_0 17 rfl rfl)
theorem dJ8_indexOf_18 : decode cJ8_indexOf 18 = .ok (.invokestatic 38, 3) := dk_184 0 38 (dk_at dksJ8_indexOf_0 18 rfl rfl)
theorem dJ8_indexOf_21 : decode cJ8_indexOf 21 = .ok (.istore_n 3, 1) := dk_62 (dk_at dksJ8_indexOf_0 21 rfl rfl)
theorem dJ8_indexOf_22 : decode cJ8_indexOf 22 = .ok (.iload_n 2, 1) := dk_28 (dk_at dksJ8_indexOf_0 22 rfl rfl)
theorem dJ8_indexOf_23 : decode cJ8_indexOf 23 = .ok (.iload_n 3, 1) := dk_29 (dk_at dksJ8_indexOf_0 23 rfl rfl)
theorem dJ8_indexOf_24 : decode cJ8_indexOf 24 = .ok (.if_icmp .lt 5, 3) := dk_161 0 5 (dk_at dksJ8_indexOf_1 0 rfl rfl)
theorem dJ8_indexOf_27 : decode cJ8_indexOf 27 = .ok (.iconst (-1), 1) := dk_2 (dk_at dksJ8_indexOf_1 3 rfl rfl)
theorem dJ8_indexOf_28 : decode cJ8_indexOf 28 = .ok (.ireturn, 1) := dk_172 (dk_at dksJ8_indexOf_1 4 rfl rfl)
theorem dJ8_indexOf_29 : decode cJ8_indexOf 29 = .ok (.aload_n 0, 1) := dk_42 (dk_at dksJ8_indexOf_1 5 rfl rfl)
theorem dJ8_indexOf_30 : decode cJ8_indexOf 30 = .ok (.iload_n 1, 1) := dk_27 (dk_at dksJ8_indexOf_1 6 rfl rfl)
theorem dJ8_indexOf_31 : decode cJ8_indexOf 31 = .ok (.iload_n 2, 1) := dk_28 (dk_at dksJ8_indexOf_1 7 rfl rfl)
theorem dJ8_indexOf_32 : decode cJ8_indexOf 32 = .ok (.iload_n 3, 1) := dk_29 (dk_at dksJ8_indexOf_1 8 rfl rfl)
theorem dJ8_indexOf_33 : decode cJ8_indexOf 33 = .ok (.invokestatic 95, 3) := dk_184 0 95 (dk_at dksJ8_indexOf_1 9 rfl rfl)
theorem dJ8_indexOf_36 : decode cJ8_indexOf 36 = .ok (.ireturn, 1) := dk_172 (dk_at dksJ8_indexOf_1 12 rfl rfl)
abbrev cJ8_canEncode : ByteArray := prog_46_method_4_code
def yJ8_canEncode : MethodName := ⟨RJ8, "canEncode", "(I)Z"⟩
def dkwJ8_canEncode_0 : List UInt8 := [26, 155, 0, 14, 26, 17, 0, 255, 163, 0, 7, 4, 167, 0, 4, 3, 172]
abbrev dktJ8_canEncode_0 : List UInt8 := dkwJ8_canEncode_0 ++ []
theorem dksJ8_canEncode_0 : cJ8_canEncode.data.toList.drop 0 = dktJ8_canEncode_0 := by decide +kernel
theorem dJ8_canEncode_0 : decode cJ8_canEncode 0 = .ok (.iload_n 0, 1) := dk_26 (dk_at dksJ8_canEncode_0 0 rfl rfl)
theorem dJ8_canEncode_1 : decode cJ8_canEncode 1 = .ok (.ifCond .lt 14, 3) := dk_155 0 14 (dk_at dksJ8_canEncode_0 1 rfl rfl)
theorem dJ8_canEncode_4 : decode cJ8_canEncode 4 = .ok (.iload_n 0, 1) := dk_26 (dk_at dksJ8_canEncode_0 4 rfl rfl)
theorem dJ8_canEncode_5 : decode cJ8_canEncode 5 = .ok (.sipush 255, 3) := dk_17 0 255 (dk_at dksJ8_canEncode_0 5 rfl rfl)
theorem dJ8_canEncode_8 : decode cJ8_canEncode 8 = .ok (.if_icmp .gt 7, 3) := dk_163 0 7 (dk_at dksJ8_canEncode_0 8 rfl rfl)
theorem dJ8_canEncode_11 : decode cJ8_canEncode 11 = .ok (.iconst 1, 1) := dk_4 (dk_at dksJ8_canEncode_0 11 rfl rfl)
theorem dJ8_canEncode_12 : decode cJ8_canEncode 12 = .ok (.goto 4, 3) := dk_167 0 4 (dk_at dksJ8_canEncode_0 12 rfl rfl)
theorem dJ8_canEncode_15 : decode cJ8_canEncode 15 = .ok (.iconst 0, 1) := dk_3 (dk_at dksJ8_canEncode_0 15 rfl rfl)
theorem dJ8_canEncode_16 : decode cJ8_canEncode 16 = .ok (.ireturn, 1) := dk_172 (dk_at dksJ8_canEncode_0 16 rfl rfl)
abbrev cJ8_indexOfChar : ByteArray := prog_46_method_23_code
def yJ8_indexOfChar : MethodName := ⟨RJ8, "indexOfChar", "([BIII)I"⟩
def dkwJ8_indexOfChar_1 : List UInt8 := [172, 132, 5, 1, 167, 255, 235, 2, 172]
abbrev dktJ8_indexOfChar_1 : List UInt8 := dkwJ8_indexOfChar_1 ++ []
def dkwJ8_indexOfChar_0 : List UInt8 := [27, 145, 54, 4, 28, 54, 5, 21, 5, 29, 162, 0, 21, 42, 21, 5, 51, 21, 4, 160, 0, 6, 21, 5]
abbrev dktJ8_indexOfChar_0 : List UInt8 := dkwJ8_indexOfChar_0 ++ dktJ8_indexOfChar_1
theorem dksJ8_indexOfChar_0 : cJ8_indexOfChar.data.toList.drop 0 = dktJ8_indexOfChar_0 := by decide +kernel
theorem dksJ8_indexOfChar_1 : cJ8_indexOfChar.data.toList.drop 24 = dktJ8_indexOfChar_1 := dk_seg dksJ8_indexOfChar_0 24 rfl rfl
theorem dJ8_indexOfChar_0 : decode cJ8_indexOfChar 0 = .ok (.iload_n 1, 1) := dk_27 (dk_at dksJ8_indexOfChar_0 0 rfl rfl)
theorem dJ8_indexOfChar_1 : decode cJ8_indexOfChar 1 = .ok (.i2b, 1) := dk_145 (dk_at dksJ8_indexOfChar_0 1 rfl rfl)
theorem dJ8_indexOfChar_2 : decode cJ8_indexOfChar 2 = .ok (.istore 4, 2) := dk_54 4 (dk_at dksJ8_indexOfChar_0 2 rfl rfl)
theorem dJ8_indexOfChar_4 : decode cJ8_indexOfChar 4 = .ok (.iload_n 2, 1) := dk_28 (dk_at dksJ8_indexOfChar_0 4 rfl rfl)
theorem dJ8_indexOfChar_5 : decode cJ8_indexOfChar 5 = .ok (.istore 5, 2) := dk_54 5 (dk_at dksJ8_indexOfChar_0 5 rfl rfl)
theorem dJ8_indexOfChar_7 : decode cJ8_indexOfChar 7 = .ok (.iload 5, 2) := dk_21 5 (dk_at dksJ8_indexOfChar_0 7 rfl rfl)
theorem dJ8_indexOfChar_9 : decode cJ8_indexOfChar 9 = .ok (.iload_n 3, 1) := dk_29 (dk_at dksJ8_indexOfChar_0 9 rfl rfl)
theorem dJ8_indexOfChar_10 : decode cJ8_indexOfChar 10 = .ok (.if_icmp .ge 21, 3) := dk_162 0 21 (dk_at dksJ8_indexOfChar_0 10 rfl rfl)
theorem dJ8_indexOfChar_13 : decode cJ8_indexOfChar 13 = .ok (.aload_n 0, 1) := dk_42 (dk_at dksJ8_indexOfChar_0 13 rfl rfl)
theorem dJ8_indexOfChar_14 : decode cJ8_indexOfChar 14 = .ok (.iload 5, 2) := dk_21 5 (dk_at dksJ8_indexOfChar_0 14 rfl rfl)
theorem dJ8_indexOfChar_16 : decode cJ8_indexOfChar 16 = .ok (.baload, 1) := dk_51 (dk_at dksJ8_indexOfChar_0 16 rfl rfl)
theorem dJ8_indexOfChar_17 : decode cJ8_indexOfChar 17 = .ok (.iload 4, 2) := dk_21 4 (dk_at dksJ8_indexOfChar_0 17 rfl rfl)
theorem dJ8_indexOfChar_19 : decode cJ8_indexOfChar 19 = .ok (.if_icmp .ne 6, 3) := dk_160 0 6 (dk_at dksJ8_indexOfChar_0 19 rfl rfl)
theorem dJ8_indexOfChar_22 : decode cJ8_indexOfChar 22 = .ok (.iload 5, 2) := dk_21 5 (dk_at dksJ8_indexOfChar_0 22 rfl rfl)
theorem dJ8_indexOfChar_24 : decode cJ8_indexOfChar 24 = .ok (.ireturn, 1) := dk_172 (dk_at dksJ8_indexOfChar_1 0 rfl rfl)
theorem dJ8_indexOfChar_25 : decode cJ8_indexOfChar 25 = .ok (.iinc 5 1, 3) := dk_132 5 1 (dk_at dksJ8_indexOfChar_1 1 rfl rfl)
theorem dJ8_indexOfChar_28 : decode cJ8_indexOfChar 28 = .ok (.goto (-21), 3) := dk_167 255 235 (dk_at dksJ8_indexOfChar_1 4 rfl rfl)
theorem dJ8_indexOfChar_31 : decode cJ8_indexOfChar 31 = .ok (.iconst (-1), 1) := dk_2 (dk_at dksJ8_indexOfChar_1 7 rfl rfl)
theorem dJ8_indexOfChar_32 : decode cJ8_indexOfChar 32 = .ok (.ireturn, 1) := dk_172 (dk_at dksJ8_indexOfChar_1 8 rfl rfl)
abbrev cJ9_max : ByteArray := prog_41_method_65_code
def yJ9_max : MethodName := ⟨RJ9, "max", "(II)I"⟩
def dkwJ9_max_0 : List UInt8 := [26, 27, 161, 0, 7, 26, 167, 0, 4, 27, 172]
abbrev dktJ9_max_0 : List UInt8 := dkwJ9_max_0 ++ []
theorem dksJ9_max_0 : cJ9_max.data.toList.drop 0 = dktJ9_max_0 := by decide +kernel
theorem dJ9_max_0 : decode cJ9_max 0 = .ok (.iload_n 0, 1) := dk_26 (dk_at dksJ9_max_0 0 rfl rfl)
theorem dJ9_max_1 : decode cJ9_max 1 = .ok (.iload_n 1, 1) := dk_27 (dk_at dksJ9_max_0 1 rfl rfl)
theorem dJ9_max_2 : decode cJ9_max 2 = .ok (.if_icmp .lt 7, 3) := dk_161 0 7 (dk_at dksJ9_max_0 2 rfl rfl)
theorem dJ9_max_5 : decode cJ9_max 5 = .ok (.iload_n 0, 1) := dk_26 (dk_at dksJ9_max_0 5 rfl rfl)
theorem dJ9_max_6 : decode cJ9_max 6 = .ok (.goto 4, 3) := dk_167 0 4 (dk_at dksJ9_max_0 6 rfl rfl)
theorem dJ9_max_9 : decode cJ9_max 9 = .ok (.iload_n 1, 1) := dk_27 (dk_at dksJ9_max_0 9 rfl rfl)
theorem dJ9_max_10 : decode cJ9_max 10 = .ok (.ireturn, 1) := dk_172 (dk_at dksJ9_max_0 10 rfl rfl)
abbrev cJ9_min : ByteArray := prog_41_method_69_code
def yJ9_min : MethodName := ⟨RJ9, "min", "(II)I"⟩
def dkwJ9_min_0 : List UInt8 := [26, 27, 163, 0, 7, 26, 167, 0, 4, 27, 172]
abbrev dktJ9_min_0 : List UInt8 := dkwJ9_min_0 ++ []
theorem dksJ9_min_0 : cJ9_min.data.toList.drop 0 = dktJ9_min_0 := by decide +kernel
theorem dJ9_min_0 : decode cJ9_min 0 = .ok (.iload_n 0, 1) := dk_26 (dk_at dksJ9_min_0 0 rfl rfl)
theorem dJ9_min_1 : decode cJ9_min 1 = .ok (.iload_n 1, 1) := dk_27 (dk_at dksJ9_min_0 1 rfl rfl)
theorem dJ9_min_2 : decode cJ9_min 2 = .ok (.if_icmp .gt 7, 3) := dk_163 0 7 (dk_at dksJ9_min_0 2 rfl rfl)
theorem dJ9_min_5 : decode cJ9_min 5 = .ok (.iload_n 0, 1) := dk_26 (dk_at dksJ9_min_0 5 rfl rfl)
theorem dJ9_min_6 : decode cJ9_min 6 = .ok (.goto 4, 3) := dk_167 0 4 (dk_at dksJ9_min_0 6 rfl rfl)
theorem dJ9_min_9 : decode cJ9_min 9 = .ok (.iload_n 1, 1) := dk_27 (dk_at dksJ9_min_0 9 rfl rfl)
theorem dJ9_min_10 : decode cJ9_min 10 = .ok (.ireturn, 1) := dk_172 (dk_at dksJ9_min_0 10 rfl rfl)
abbrev cJ9_abs : ByteArray := prog_41_method_59_code
def yJ9_abs : MethodName := ⟨RJ9, "abs", "(I)I"⟩
def dkwJ9_abs_0 : List UInt8 := [26, 156, 0, 8, 26, 116, 167, 0, 4, 26, 172]
abbrev dktJ9_abs_0 : List UInt8 := dkwJ9_abs_0 ++ []
theorem dksJ9_abs_0 : cJ9_abs.data.toList.drop 0 = dktJ9_abs_0 := by decide +kernel
theorem dJ9_abs_0 : decode cJ9_abs 0 = .ok (.iload_n 0, 1) := dk_26 (dk_at dksJ9_abs_0 0 rfl rfl)
theorem dJ9_abs_1 : decode cJ9_abs 1 = .ok (.ifCond .ge 8, 3) := dk_156 0 8 (dk_at dksJ9_abs_0 1 rfl rfl)
theorem dJ9_abs_4 : decode cJ9_abs 4 = .ok (.iload_n 0, 1) := dk_26 (dk_at dksJ9_abs_0 4 rfl rfl)
theorem dJ9_abs_5 : decode cJ9_abs 5 = .ok (.ineg, 1) := dk_116 (dk_at dksJ9_abs_0 5 rfl rfl)
theorem dJ9_abs_6 : decode cJ9_abs 6 = .ok (.goto 4, 3) := dk_167 0 4 (dk_at dksJ9_abs_0 6 rfl rfl)
theorem dJ9_abs_9 : decode cJ9_abs 9 = .ok (.iload_n 0, 1) := dk_26 (dk_at dksJ9_abs_0 9 rfl rfl)
theorem dJ9_abs_10 : decode cJ9_abs 10 = .ok (.ireturn, 1) := dk_172 (dk_at dksJ9_abs_0 10 rfl rfl)
abbrev cX1_init : ByteArray := prog_9_method_1_code
def yX1_init : MethodName := ⟨RX1, "<init>", "()V"⟩
def dkwX1_init_0 : List UInt8 := [42, 183, 0, 1, 42, 17, 0, 128, 188, 10, 181, 0, 7, 177]
abbrev dktX1_init_0 : List UInt8 := dkwX1_init_0 ++ []
theorem dksX1_init_0 : cX1_init.data.toList.drop 0 = dktX1_init_0 := by decide +kernel
theorem dX1_init_0 : decode cX1_init 0 = .ok (.aload_n 0, 1) := dk_42 (dk_at dksX1_init_0 0 rfl rfl)
theorem dX1_init_1 : decode cX1_init 1 = .ok (.invokespecial 1, 3) := dk_183 0 1 (dk_at dksX1_init_0 1 rfl rfl)
theorem dX1_init_4 : decode cX1_init 4 = .ok (.aload_n 0, 1) := dk_42 (dk_at dksX1_init_0 4 rfl rfl)
theorem dX1_init_5 : decode cX1_init 5 = .ok (.sipush 128, 3) := dk_17 0 128 (dk_at dksX1_init_0 5 rfl rfl)
theorem dX1_init_8 : decode cX1_init 8 = .ok (.newarray .int, 2) := dk_188_10 (dk_at dksX1_init_0 8 rfl rfl)
theorem dX1_init_10 : decode cX1_init 10 = .ok (.putfield 7, 3) := dk_181 0 7 (dk_at dksX1_init_0 10 rfl rfl)
theorem dX1_init_13 : decode cX1_init 13 = .ok (.return_, 1) := dk_177 (dk_at dksX1_init_0 13 rfl rfl)
abbrev cX1_clear : ByteArray := prog_9_method_2_code
def yX1_clear : MethodName := ⟨RX1, "clear", "()V"⟩
def dkwX1_clear_1 : List UInt8 := [177]
abbrev dktX1_clear_1 : List UInt8 := dkwX1_clear_1 ++ []
def dkwX1_clear_0 : List UInt8 := [3, 60, 27, 42, 180, 0, 7, 190, 162, 0, 16, 42, 180, 0, 7, 27, 3, 79, 132, 1, 1, 167, 255, 237]
abbrev dktX1_clear_0 : List UInt8 := dkwX1_clear_0 ++ dktX1_clear_1
theorem dksX1_clear_0 : cX1_clear.data.toList.drop 0 = dktX1_clear_0 := by decide +kernel
theorem dksX1_clear_1 : cX1_clear.data.toList.drop 24 = dktX1_clear_1 := dk_seg dksX1_clear_0 24 rfl rfl
theorem dX1_clear_0 : decode cX1_clear 0 = .ok (.iconst 0, 1) := dk_3 (dk_at dksX1_clear_0 0 rfl rfl)
theorem dX1_clear_1 : decode cX1_clear 1 = .ok (.istore_n 1, 1) := dk_60 (dk_at dksX1_clear_0 1 rfl rfl)
theorem dX1_clear_2 : decode cX1_clear 2 = .ok (.iload_n 1, 1) := dk_27 (dk_at dksX1_clear_0 2 rfl rfl)
theorem dX1_clear_3 : decode cX1_clear 3 = .ok (.aload_n 0, 1) := dk_42 (dk_at dksX1_clear_0 3 rfl rfl)
theorem dX1_clear_4 : decode cX1_clear 4 = .ok (.getfield 7, 3) := dk_180 0 7 (dk_at dksX1_clear_0 4 rfl rfl)
theorem dX1_clear_7 : decode cX1_clear 7 = .ok (.arraylength, 1) := dk_190 (dk_at dksX1_clear_0 7 rfl rfl)
theorem dX1_clear_8 : decode cX1_clear 8 = .ok (.if_icmp .ge 16, 3) := dk_162 0 16 (dk_at dksX1_clear_0 8 rfl rfl)
theorem dX1_clear_11 : decode cX1_clear 11 = .ok (.aload_n 0, 1) := dk_42 (dk_at dksX1_clear_0 11 rfl rfl)
theorem dX1_clear_12 : decode cX1_clear 12 = .ok (.getfield 7, 3) := dk_180 0 7 (dk_at dksX1_clear_0 12 rfl rfl)
theorem dX1_clear_15 : decode cX1_clear 15 = .ok (.iload_n 1, 1) := dk_27 (dk_at dksX1_clear_0 15 rfl rfl)
theorem dX1_clear_16 : decode cX1_clear 16 = .ok (.iconst 0, 1) := dk_3 (dk_at dksX1_clear_0 16 rfl rfl)
theorem dX1_clear_17 : decode cX1_clear 17 = .ok (.iastore, 1) := dk_79 (dk_at dksX1_clear_0 17 rfl rfl)
theorem dX1_clear_18 : decode cX1_clear 18 = .ok (.iinc 1 1, 3) := dk_132 1 1 (dk_at dksX1_clear_0 18 rfl rfl)
theorem dX1_clear_21 : decode cX1_clear 21 = .ok (.goto (-19), 3) := dk_167 255 237 (dk_at dksX1_clear_0 21 rfl rfl)
theorem dX1_clear_24 : decode cX1_clear 24 = .ok (.return_, 1) := dk_177 (dk_at dksX1_clear_1 0 rfl rfl)
abbrev cX10_init : ByteArray := prog_17_method_1_code
def yX10_init : MethodName := ⟨RX10, "<init>", "(I)V"⟩
def dkwX10_init_0 : List UInt8 := [42, 183, 0, 1, 42, 27, 181, 0, 7, 177]
abbrev dktX10_init_0 : List UInt8 := dkwX10_init_0 ++ []
theorem dksX10_init_0 : cX10_init.data.toList.drop 0 = dktX10_init_0 := by decide +kernel
theorem dX10_init_0 : decode cX10_init 0 = .ok (.aload_n 0, 1) := dk_42 (dk_at dksX10_init_0 0 rfl rfl)
theorem dX10_init_1 : decode cX10_init 1 = .ok (.invokespecial 1, 3) := dk_183 0 1 (dk_at dksX10_init_0 1 rfl rfl)
theorem dX10_init_4 : decode cX10_init 4 = .ok (.aload_n 0, 1) := dk_42 (dk_at dksX10_init_0 4 rfl rfl)
theorem dX10_init_5 : decode cX10_init 5 = .ok (.iload_n 1, 1) := dk_27 (dk_at dksX10_init_0 5 rfl rfl)
theorem dX10_init_6 : decode cX10_init 6 = .ok (.putfield 7, 3) := dk_181 0 7 (dk_at dksX10_init_0 6 rfl rfl)
theorem dX10_init_9 : decode cX10_init 9 = .ok (.return_, 1) := dk_177 (dk_at dksX10_init_0 9 rfl rfl)
abbrev cX10_value : ByteArray := prog_17_method_2_code
def yX10_value : MethodName := ⟨RX10, "value", "(LSpeaksInTurn$Facts;)I"⟩
def dkwX10_value_0 : List UInt8 := [43, 180, 0, 13, 42, 180, 0, 7, 46, 172]
abbrev dktX10_value_0 : List UInt8 := dkwX10_value_0 ++ []
theorem dksX10_value_0 : cX10_value.data.toList.drop 0 = dktX10_value_0 := by decide +kernel
theorem dX10_value_0 : decode cX10_value 0 = .ok (.aload_n 1, 1) := dk_43 (dk_at dksX10_value_0 0 rfl rfl)
theorem dX10_value_1 : decode cX10_value 1 = .ok (.getfield 13, 3) := dk_180 0 13 (dk_at dksX10_value_0 1 rfl rfl)
theorem dX10_value_4 : decode cX10_value 4 = .ok (.aload_n 0, 1) := dk_42 (dk_at dksX10_value_0 4 rfl rfl)
theorem dX10_value_5 : decode cX10_value 5 = .ok (.getfield 7, 3) := dk_180 0 7 (dk_at dksX10_value_0 5 rfl rfl)
theorem dX10_value_8 : decode cX10_value 8 = .ok (.iaload, 1) := dk_46 (dk_at dksX10_value_0 8 rfl rfl)
theorem dX10_value_9 : decode cX10_value 9 = .ok (.ireturn, 1) := dk_172 (dk_at dksX10_value_0 9 rfl rfl)
abbrev cX11_init : ByteArray := prog_7_method_1_code
def yX11_init : MethodName := ⟨RX11, "<init>", "(LSpeaksInTurn$Node;)V"⟩
def dkwX11_init_0 : List UInt8 := [42, 183, 0, 1, 42, 43, 181, 0, 7, 177]
abbrev dktX11_init_0 : List UInt8 := dkwX11_init_0 ++ []
theorem dksX11_init_0 : cX11_init.data.toList.drop 0 = dktX11_init_0 := by decide +kernel
theorem dX11_init_0 : decode cX11_init 0 = .ok (.aload_n 0, 1) := dk_42 (dk_at dksX11_init_0 0 rfl rfl)
theorem dX11_init_1 : decode cX11_init 1 = .ok (.invokespecial 1, 3) := dk_183 0 1 (dk_at dksX11_init_0 1 rfl rfl)
theorem dX11_init_4 : decode cX11_init 4 = .ok (.aload_n 0, 1) := dk_42 (dk_at dksX11_init_0 4 rfl rfl)
theorem dX11_init_5 : decode cX11_init 5 = .ok (.aload_n 1, 1) := dk_43 (dk_at dksX11_init_0 5 rfl rfl)
theorem dX11_init_6 : decode cX11_init 6 = .ok (.putfield 7, 3) := dk_181 0 7 (dk_at dksX11_init_0 6 rfl rfl)
theorem dX11_init_9 : decode cX11_init 9 = .ok (.return_, 1) := dk_177 (dk_at dksX11_init_0 9 rfl rfl)
abbrev cX11_value : ByteArray := prog_7_method_2_code
def yX11_value : MethodName := ⟨RX11, "value", "(LSpeaksInTurn$Facts;)I"⟩
def dkwX11_value_0 : List UInt8 := [42, 180, 0, 7, 43, 182, 0, 13, 154, 0, 7, 4, 167, 0, 4, 3, 172]
abbrev dktX11_value_0 : List UInt8 := dkwX11_value_0 ++ []
theorem dksX11_value_0 : cX11_value.data.toList.drop 0 = dktX11_value_0 := by decide +kernel
theorem dX11_value_0 : decode cX11_value 0 = .ok (.aload_n 0, 1) := dk_42 (dk_at dksX11_value_0 0 rfl rfl)
theorem dX11_value_1 : decode cX11_value 1 = .ok (.getfield 7, 3) := dk_180 0 7 (dk_at dksX11_value_0 1 rfl rfl)
theorem dX11_value_4 : decode cX11_value 4 = .ok (.aload_n 1, 1) := dk_43 (dk_at dksX11_value_0 4 rfl rfl)
theorem dX11_value_5 : decode cX11_value 5 = .ok (.invokevirtual 13, 3) := dk_182 0 13 (dk_at dksX11_value_0 5 rfl rfl)
theorem dX11_value_8 : decode cX11_value 8 = .ok (.ifCond .ne 7, 3) := dk_154 0 7 (dk_at dksX11_value_0 8 rfl rfl)
theorem dX11_value_11 : decode cX11_value 11 = .ok (.iconst 1, 1) := dk_4 (dk_at dksX11_value_0 11 rfl rfl)
theorem dX11_value_12 : decode cX11_value 12 = .ok (.goto 4, 3) := dk_167 0 4 (dk_at dksX11_value_0 12 rfl rfl)
theorem dX11_value_15 : decode cX11_value 15 = .ok (.iconst 0, 1) := dk_3 (dk_at dksX11_value_0 15 rfl rfl)
theorem dX11_value_16 : decode cX11_value 16 = .ok (.ireturn, 1) := dk_172 (dk_at dksX11_value_0 16 rfl rfl)
abbrev cX12_init : ByteArray := prog_31_method_1_code
def yX12_init : MethodName := ⟨RX12, "<init>", "(LSpeaksInTurn$Node;)V"⟩
def dkwX12_init_0 : List UInt8 := [42, 183, 0, 1, 42, 43, 181, 0, 7, 177]
abbrev dktX12_init_0 : List UInt8 := dkwX12_init_0 ++ []
theorem dksX12_init_0 : cX12_init.data.toList.drop 0 = dktX12_init_0 := by decide +kernel
theorem dX12_init_0 : decode cX12_init 0 = .ok (.aload_n 0, 1) := dk_42 (dk_at dksX12_init_0 0 rfl rfl)
theorem dX12_init_1 : decode cX12_init 1 = .ok (.invokespecial 1, 3) := dk_183 0 1 (dk_at dksX12_init_0 1 rfl rfl)
theorem dX12_init_4 : decode cX12_init 4 = .ok (.aload_n 0, 1) := dk_42 (dk_at dksX12_init_0 4 rfl rfl)
theorem dX12_init_5 : decode cX12_init 5 = .ok (.aload_n 1, 1) := dk_43 (dk_at dksX12_init_0 5 rfl rfl)
theorem dX12_init_6 : decode cX12_init 6 = .ok (.putfield 7, 3) := dk_181 0 7 (dk_at dksX12_init_0 6 rfl rfl)
theorem dX12_init_9 : decode cX12_init 9 = .ok (.return_, 1) := dk_177 (dk_at dksX12_init_0 9 rfl rfl)
abbrev cX12_value : ByteArray := prog_31_method_2_code
def yX12_value : MethodName := ⟨RX12, "value", "(LSpeaksInTurn$Facts;)I"⟩
def dkwX12_value_0 : List UInt8 := [42, 180, 0, 7, 43, 182, 0, 13, 116, 172]
abbrev dktX12_value_0 : List UInt8 := dkwX12_value_0 ++ []
theorem dksX12_value_0 : cX12_value.data.toList.drop 0 = dktX12_value_0 := by decide +kernel
theorem dX12_value_0 : decode cX12_value 0 = .ok (.aload_n 0, 1) := dk_42 (dk_at dksX12_value_0 0 rfl rfl)
theorem dX12_value_1 : decode cX12_value 1 = .ok (.getfield 7, 3) := dk_180 0 7 (dk_at dksX12_value_0 1 rfl rfl)
theorem dX12_value_4 : decode cX12_value 4 = .ok (.aload_n 1, 1) := dk_43 (dk_at dksX12_value_0 4 rfl rfl)
theorem dX12_value_5 : decode cX12_value 5 = .ok (.invokevirtual 13, 3) := dk_182 0 13 (dk_at dksX12_value_0 5 rfl rfl)
theorem dX12_value_8 : decode cX12_value 8 = .ok (.ineg, 1) := dk_116 (dk_at dksX12_value_0 8 rfl rfl)
theorem dX12_value_9 : decode cX12_value 9 = .ok (.ireturn, 1) := dk_172 (dk_at dksX12_value_0 9 rfl rfl)
abbrev cX13_init : ByteArray := prog_13_method_1_code
def yX13_init : MethodName := ⟨RX13, "<init>", "(I)V"⟩
def dkwX13_init_0 : List UInt8 := [42, 183, 0, 1, 42, 27, 181, 0, 7, 177]
abbrev dktX13_init_0 : List UInt8 := dkwX13_init_0 ++ []
theorem dksX13_init_0 : cX13_init.data.toList.drop 0 = dktX13_init_0 := by decide +kernel
theorem dX13_init_0 : decode cX13_init 0 = .ok (.aload_n 0, 1) := dk_42 (dk_at dksX13_init_0 0 rfl rfl)
theorem dX13_init_1 : decode cX13_init 1 = .ok (.invokespecial 1, 3) := dk_183 0 1 (dk_at dksX13_init_0 1 rfl rfl)
theorem dX13_init_4 : decode cX13_init 4 = .ok (.aload_n 0, 1) := dk_42 (dk_at dksX13_init_0 4 rfl rfl)
theorem dX13_init_5 : decode cX13_init 5 = .ok (.iload_n 1, 1) := dk_27 (dk_at dksX13_init_0 5 rfl rfl)
theorem dX13_init_6 : decode cX13_init 6 = .ok (.putfield 7, 3) := dk_181 0 7 (dk_at dksX13_init_0 6 rfl rfl)
theorem dX13_init_9 : decode cX13_init 9 = .ok (.return_, 1) := dk_177 (dk_at dksX13_init_0 9 rfl rfl)
abbrev cX13_value : ByteArray := prog_13_method_2_code
def yX13_value : MethodName := ⟨RX13, "value", "(LSpeaksInTurn$Facts;)I"⟩
theorem dX13_value_0 : decode cX13_value 0 = .ok (.aload_n 0, 1) := by decide +kernel
theorem dX13_value_1 : decode cX13_value 1 = .ok (.getfield 7, 3) := by decide +kernel
theorem dX13_value_4 : decode cX13_value 4 = .ok (.ireturn, 1) := by decide +kernel
abbrev cX14_init : ByteArray := prog_20_method_1_code
def yX14_init : MethodName := ⟨RX14, "<init>", "(ILSpeaksInTurn$Node;LSpeaksInTurn$Node;)V"⟩
def dkwX14_init_0 : List UInt8 := [42, 183, 0, 1, 42, 27, 181, 0, 7, 42, 44, 181, 0, 13, 42, 45, 181, 0, 17, 177]
abbrev dktX14_init_0 : List UInt8 := dkwX14_init_0 ++ []
theorem dksX14_init_0 : cX14_init.data.toList.drop 0 = dktX14_init_0 := by decide +kernel
theorem dX14_init_0 : decode cX14_init 0 = .ok (.aload_n 0, 1) := dk_42 (dk_at dksX14_init_0 0 rfl rfl)
theorem dX14_init_1 : decode cX14_init 1 = .ok (.invokespecial 1, 3) := dk_183 0 1 (dk_at dksX14_init_0 1 rfl rfl)
theorem dX14_init_4 : decode cX14_init 4 = .ok (.aload_n 0, 1) := dk_42 (dk_at dksX14_init_0 4 rfl rfl)
theorem dX14_init_5 : decode cX14_init 5 = .ok (.iload_n 1, 1) := dk_27 (dk_at dksX14_init_0 5 rfl rfl)
theorem dX14_init_6 : decode cX14_init 6 = .ok (.putfield 7, 3) := dk_181 0 7 (dk_at dksX14_init_0 6 rfl rfl)
theorem dX14_init_9 : decode cX14_init 9 = .ok (.aload_n 0, 1) := dk_42 (dk_at dksX14_init_0 9 rfl rfl)
theorem dX14_init_10 : decode cX14_init 10 = .ok (.aload_n 2, 1) := dk_44 (dk_at dksX14_init_0 10 rfl rfl)
theorem dX14_init_11 : decode cX14_init 11 = .ok (.putfield 13, 3) := dk_181 0 13 (dk_at dksX14_init_0 11 rfl rfl)
theorem dX14_init_14 : decode cX14_init 14 = .ok (.aload_n 0, 1) := dk_42 (dk_at dksX14_init_0 14 rfl rfl)
theorem dX14_init_15 : decode cX14_init 15 = .ok (.aload_n 3, 1) := dk_45 (dk_at dksX14_init_0 15 rfl rfl)
theorem dX14_init_16 : decode cX14_init 16 = .ok (.putfield 17, 3) := dk_181 0 17 (dk_at dksX14_init_0 16 rfl rfl)
theorem dX14_init_19 : decode cX14_init 19 = .ok (.return_, 1) := dk_177 (dk_at dksX14_init_0 19 rfl rfl)
abbrev cX14_value : ByteArray := prog_20_method_3_code
def yX14_value : MethodName := ⟨RX14, "value", "(LSpeaksInTurn$Facts;)I"⟩
def dkwX14_value_7 : List UInt8 := [154, 0, 7, 29, 153, 0, 7, 4, 167, 0, 4, 3, 184, 0, 24, 172]
abbrev dktX14_value_7 : List UInt8 := dkwX14_value_7 ++ []
def dkwX14_value_6 : List UInt8 := [184, 0, 24, 172, 28, 153, 0, 11, 29, 153, 0, 7, 4, 167, 0, 4, 3, 184, 0, 24, 172, 28]
abbrev dktX14_value_6 : List UInt8 := dkwX14_value_6 ++ dktX14_value_7
def dkwX14_value_5 : List UInt8 := [160, 0, 7, 4, 167, 0, 4, 3, 184, 0, 24, 172, 28, 29, 164, 0, 7, 4, 167, 0, 4, 3]
abbrev dktX14_value_5 : List UInt8 := dkwX14_value_5 ++ dktX14_value_6
def dkwX14_value_4 : List UInt8 := [167, 0, 6, 28, 29, 112, 172, 28, 29, 162, 0, 7, 4, 167, 0, 4, 3, 184, 0, 24, 172, 28, 29]
abbrev dktX14_value_4 : List UInt8 := dkwX14_value_4 ++ dktX14_value_5
def dkwX14_value_3 : List UInt8 := [160, 0, 8, 28, 116, 167, 0, 6, 28, 29, 108, 172, 29, 153, 0, 8, 29, 2, 160, 0, 7, 3]
abbrev dktX14_value_3 : List UInt8 := dkwX14_value_3 ++ dktX14_value_4
def dkwX14_value_2 : List UInt8 := [28, 29, 96, 172, 28, 29, 100, 172, 28, 29, 104, 172, 29, 154, 0, 7, 3, 167, 0, 16, 29, 2]
abbrev dktX14_value_2 : List UInt8 := dkwX14_value_2 ++ dktX14_value_3
def dkwX14_value_1 : List UInt8 := [170, 0, 0, 0, 0, 228, 0, 0, 0, 37, 0, 0, 0, 62, 0, 0, 0, 152, 0, 0, 0, 211, 0, 0, 0, 228, 0, 0, 0, 228, 0, 0, 0, 228, 0, 0, 0, 126, 0, 0, 0, 118, 0, 0, 0, 228, 0, 0, 0, 122, 0, 0, 0, 228, 0, 0, 0, 130, 0, 0, 0, 228, 0, 0, 0, 228, 0, 0, 0, 228, 0, 0, 0, 228, 0, 0, 0, 228, 0, 0, 0, 228, 0, 0, 0, 228, 0, 0, 0, 228, 0, 0, 0, 228, 0, 0, 0, 228, 0, 0, 0, 228, 0, 0, 0, 228, 0, 0, 0, 169, 0, 0, 0, 183, 0, 0, 0, 197]
abbrev dktX14_value_1 : List UInt8 := dkwX14_value_1 ++ dktX14_value_2
def dkwX14_value_0 : List UInt8 := [42, 180, 0, 13, 43, 182, 0, 20, 61, 42, 180, 0, 17, 43, 182, 0, 20, 62, 42, 180, 0, 7]
abbrev dktX14_value_0 : List UInt8 := dkwX14_value_0 ++ dktX14_value_1
theorem dksX14_value_0 : cX14_value.data.toList.drop 0 = dktX14_value_0 := by decide +kernel
theorem dksX14_value_1 : cX14_value.data.toList.drop 22 = dktX14_value_1 := dk_seg dksX14_value_0 22 rfl rfl
theorem dksX14_value_2 : cX14_value.data.toList.drop 140 = dktX14_value_2 := dk_seg dksX14_value_1 118 rfl rfl
theorem dksX14_value_3 : cX14_value.data.toList.drop 162 = dktX14_value_3 := dk_seg dksX14_value_2 22 rfl rfl
theorem dksX14_value_4 : cX14_value.data.toList.drop 184 = dktX14_value_4 := dk_seg dksX14_value_3 22 rfl rfl
theorem dksX14_value_5 : cX14_value.data.toList.drop 207 = dktX14_value_5 := dk_seg dksX14_value_4 23 rfl rfl
theorem dksX14_value_6 : cX14_value.data.toList.drop 229 = dktX14_value_6 := dk_seg dksX14_value_5 22 rfl rfl
theorem dksX14_value_7 : cX14_value.data.toList.drop 251 = dktX14_value_7 := dk_seg dksX14_value_6 22 rfl rfl
theorem dX14_value_0 : decode cX14_value 0 = .ok (.aload_n 0, 1) := dk_42 (dk_at dksX14_value_0 0 rfl rfl)
theorem dX14_value_1 : decode cX14_value 1 = .ok (.getfield 13, 3) := dk_180 0 13 (dk_at dksX14_value_0 1 rfl rfl)
theorem dX14_value_4 : decode cX14_value 4 = .ok (.aload_n 1, 1) := dk_43 (dk_at dksX14_value_0 4 rfl rfl)
theorem dX14_value_5 : decode cX14_value 5 = .ok (.invokevirtual 20, 3) := dk_182 0 20 (dk_at dksX14_value_0 5 rfl rfl)
theorem dX14_value_8 : decode cX14_value 8 = .ok (.istore_n 2, 1) := dk_61 (dk_at dksX14_value_0 8 rfl rfl)
theorem dX14_value_9 : decode cX14_value 9 = .ok (.aload_n 0, 1) := dk_42 (dk_at dksX14_value_0 9 rfl rfl)
theorem dX14_value_10 : decode cX14_value 10 = .ok (.getfield 17, 3) := dk_180 0 17 (dk_at dksX14_value_0 10 rfl rfl)
theorem dX14_value_13 : decode cX14_value 13 = .ok (.aload_n 1, 1) := dk_43 (dk_at dksX14_value_0 13 rfl rfl)
theorem dX14_value_14 : decode cX14_value 14 = .ok (.invokevirtual 20, 3) := dk_182 0 20 (dk_at dksX14_value_0 14 rfl rfl)
theorem dX14_value_17 : decode cX14_value 17 = .ok (.istore_n 3, 1) := dk_62 (dk_at dksX14_value_0 17 rfl rfl)
theorem dX14_value_18 : decode cX14_value 18 = .ok (.aload_n 0, 1) := dk_42 (dk_at dksX14_value_0 18 rfl rfl)
theorem dX14_value_19 : decode cX14_value 19 = .ok (.getfield 7, 3) := dk_180 0 7 (dk_at dksX14_value_0 19 rfl rfl)
theorem dX14_value_22 : decode cX14_value 22 = .ok (.tableswitch 228 37 62 #[152, 211, 228, 228, 228, 126, 118, 228, 122, 228, 130, 228, 228, 228, 228, 228, 228, 228, 228, 228, 228, 228, 228, 169, 183, 197], 118) := by decide +kernel
theorem dX14_value_140 : decode cX14_value 140 = .ok (.iload_n 2, 1) := dk_28 (dk_at dksX14_value_2 0 rfl rfl)
theorem dX14_value_141 : decode cX14_value 141 = .ok (.iload_n 3, 1) := dk_29 (dk_at dksX14_value_2 1 rfl rfl)
theorem dX14_value_142 : decode cX14_value 142 = .ok (.iadd, 1) := dk_96 (dk_at dksX14_value_2 2 rfl rfl)
theorem dX14_value_143 : decode cX14_value 143 = .ok (.ireturn, 1) := dk_172 (dk_at dksX14_value_2 3 rfl rfl)
theorem dX14_value_144 : decode cX14_value 144 = .ok (.iload_n 2, 1) := dk_28 (dk_at dksX14_value_2 4 rfl rfl)
theorem dX14_value_145 : decode cX14_value 145 = .ok (.iload_n 3, 1) := dk_29 (dk_at dksX14_value_2 5 rfl rfl)
theorem dX14_value_146 : decode cX14_value 146 = .ok (.isub, 1) := dk_100 (dk_at dksX14_value_2 6 rfl rfl)
theorem dX14_value_147 : decode cX14_value 147 = .ok (.ireturn, 1) := dk_172 (dk_at dksX14_value_2 7 rfl rfl)
theorem dX14_value_148 : decode cX14_value 148 = .ok (.iload_n 2, 1) := dk_28 (dk_at dksX14_value_2 8 rfl rfl)
theorem dX14_value_149 : decode cX14_value 149 = .ok (.iload_n 3, 1) := dk_29 (dk_at dksX14_value_2 9 rfl rfl)
theorem dX14_value_150 : decode cX14_value 150 = .ok (.imul, 1) := dk_104 (dk_at dksX14_value_2 10 rfl rfl)
theorem dX14_value_151 : decode cX14_value 151 = .ok (.ireturn, 1) := dk_172 (dk_at dksX14_value_2 11 rfl rfl)
theorem dX14_value_152 : decode cX14_value 152 = .ok (.iload_n 3, 1) := dk_29 (dk_at dksX14_value_2 12 rfl rfl)
theorem dX14_value_153 : decode cX14_value 153 = .ok (.ifCond .ne 7, 3) := dk_154 0 7 (dk_at dksX14_value_2 13 rfl rfl)
theorem dX14_value_156 : decode cX14_value 156 = .ok (.iconst 0, 1) := dk_3 (dk_at dksX14_value_2 16 rfl rfl)
theorem dX14_value_157 : decode cX14_value 157 = .ok (.goto 16, 3) := dk_167 0 16 (dk_at dksX14_value_2 17 rfl rfl)
theorem dX14_value_160 : decode cX14_value 160 = .ok (.iload_n 3, 1) := dk_29 (dk_at dksX14_value_2 20 rfl rfl)
theorem dX14_value_161 : decode cX14_value 161 = .ok (.iconst (-1), 1) := dk_2 (dk_at dksX14_value_2 21 rfl rfl)
theorem dX14_value_162 : decode cX14_value 162 = .ok (.if_icmp .ne 8, 3) := dk_160 0 8 (dk_at dksX14_value_3 0 rfl rfl)
theorem dX14_value_165 : decode cX14_value 165 = .ok (.iload_n 2, 1) := dk_28 (dk_at dksX14_value_3 3 rfl rfl)
theorem dX14_value_166 : decode cX14_value 166 = .ok (.ineg, 1) := dk_116 (dk_at dksX14_value_3 4 rfl rfl)
theorem dX14_value_167 : decode cX14_value 167 = .ok (.goto 6, 3) := dk_167 0 6 (dk_at dksX14_value_3 5 rfl rfl)
theorem dX14_value_170 : decode cX14_value 170 = .ok (.iload_n 2, 1) := dk_28 (dk_at dksX14_value_3 8 rfl rfl)
theorem dX14_value_171 : decode cX14_value 171 = .ok (.iload_n 3, 1) := dk_29 (dk_at dksX14_value_3 9 rfl rfl)
theorem dX14_value_172 : decode cX14_value 172 = .ok (.idiv, 1) := dk_108 (dk_at dksX14_value_3 10 rfl rfl)
theorem dX14_value_173 : decode cX14_value 173 = .ok (.ireturn, 1) := dk_172 (dk_at dksX14_value_3 11 rfl rfl)
theorem dX14_value_174 : decode cX14_value 174 = .ok (.iload_n 3, 1) := dk_29 (dk_at dksX14_value_3 12 rfl rfl)
theorem dX14_value_175 : decode cX14_value 175 = .ok (.ifCond .eq 8, 3) := dk_153 0 8 (dk_at dksX14_value_3 13 rfl rfl)
theorem dX14_value_178 : decode cX14_value 178 = .ok (.iload_n 3, 1) := dk_29 (dk_at dksX14_value_3 16 rfl rfl)
theorem dX14_value_179 : decode cX14_value 179 = .ok (.iconst (-1), 1) := dk_2 (dk_at dksX14_value_3 17 rfl rfl)
theorem dX14_value_180 : decode cX14_value 180 = .ok (.if_icmp .ne 7, 3) := dk_160 0 7 (dk_at dksX14_value_3 18 rfl rfl)
theorem dX14_value_183 : decode cX14_value 183 = .ok (.iconst 0, 1) := dk_3 (dk_at dksX14_value_3 21 rfl rfl)
theorem dX14_value_184 : decode cX14_value 184 = .ok (.goto 6, 3) := dk_167 0 6 (dk_at dksX14_value_4 0 rfl rfl)
theorem dX14_value_187 : decode cX14_value 187 = .ok (.iload_n 2, 1) := dk_28 (dk_at dksX14_value_4 3 rfl rfl)
theorem dX14_value_188 : decode cX14_value 188 = .ok (.iload_n 3, 1) := dk_29 (dk_at dksX14_value_4 4 rfl rfl)
theorem dX14_value_189 : decode cX14_value 189 = .ok (.irem, 1) := dk_112 (dk_at dksX14_value_4 5 rfl rfl)
theorem dX14_value_190 : decode cX14_value 190 = .ok (.ireturn, 1) := dk_172 (dk_at dksX14_value_4 6 rfl rfl)
theorem dX14_value_191 : decode cX14_value 191 = .ok (.iload_n 2, 1) := dk_28 (dk_at dksX14_value_4 7 rfl rfl)
theorem dX14_value_192 : decode cX14_value 192 = .ok (.iload_n 3, 1) := dk_29 (dk_at dksX14_value_4 8 rfl rfl)
theorem dX14_value_193 : decode cX14_value 193 = .ok (.if_icmp .ge 7, 3) := dk_162 0 7 (dk_at dksX14_value_4 9 rfl rfl)
theorem dX14_value_196 : decode cX14_value 196 = .ok (.iconst 1, 1) := dk_4 (dk_at dksX14_value_4 12 rfl rfl)
theorem dX14_value_197 : decode cX14_value 197 = .ok (.goto 4, 3) := dk_167 0 4 (dk_at dksX14_value_4 13 rfl rfl)
theorem dX14_value_200 : decode cX14_value 200 = .ok (.iconst 0, 1) := dk_3 (dk_at dksX14_value_4 16 rfl rfl)
theorem dX14_value_201 : decode cX14_value 201 = .ok (.invokestatic 24, 3) := dk_184 0 24 (dk_at dksX14_value_4 17 rfl rfl)
theorem dX14_value_204 : decode cX14_value 204 = .ok (.ireturn, 1) := dk_172 (dk_at dksX14_value_4 20 rfl rfl)
theorem dX14_value_205 : decode cX14_value 205 = .ok (.iload_n 2, 1) := dk_28 (dk_at dksX14_value_4 21 rfl rfl)
theorem dX14_value_206 : decode cX14_value 206 = .ok (.iload_n 3, 1) := dk_29 (dk_at dksX14_value_4 22 rfl rfl)
theorem dX14_value_207 : decode cX14_value 207 = .ok (.if_icmp .ne 7, 3) := dk_160 0 7 (dk_at dksX14_value_5 0 rfl rfl)
theorem dX14_value_210 : decode cX14_value 210 = .ok (.iconst 1, 1) := dk_4 (dk_at dksX14_value_5 3 rfl rfl)
theorem dX14_value_211 : decode cX14_value 211 = .ok (.goto 4, 3) := dk_167 0 4 (dk_at dksX14_value_5 4 rfl rfl)
theorem dX14_value_214 : decode cX14_value 214 = .ok (.iconst 0, 1) := dk_3 (dk_at dksX14_value_5 7 rfl rfl)
theorem dX14_value_215 : decode cX14_value 215 = .ok (.invokestatic 24, 3) := dk_184 0 24 (dk_at dksX14_value_5 8 rfl rfl)
theorem dX14_value_218 : decode cX14_value 218 = .ok (.ireturn, 1) := dk_172 (dk_at dksX14_value_5 11 rfl rfl)
theorem dX14_value_219 : decode cX14_value 219 = .ok (.iload_n 2, 1) := dk_28 (dk_at dksX14_value_5 12 rfl rfl)
theorem dX14_value_220 : decode cX14_value 220 = .ok (.iload_n 3, 1) := dk_29 (dk_at dksX14_value_5 13 rfl rfl)
theorem dX14_value_221 : decode cX14_value 221 = .ok (.if_icmp .le 7, 3) := dk_164 0 7 (dk_at dksX14_value_5 14 rfl rfl)
theorem dX14_value_224 : decode cX14_value 224 = .ok (.iconst 1, 1) := dk_4 (dk_at dksX14_value_5 17 rfl rfl)
theorem dX14_value_225 : decode cX14_value 225 = .ok (.goto 4, 3) := dk_167 0 4 (dk_at dksX14_value_5 18 rfl rfl)
theorem dX14_value_228 : decode cX14_value 228 = .ok (.iconst 0, 1) := dk_3 (dk_at dksX14_value_5 21 rfl rfl)
theorem dX14_value_229 : decode cX14_value 229 = .ok (.invokestatic 24, 3) := dk_184 0 24 (dk_at dksX14_value_6 0 rfl rfl)
theorem dX14_value_232 : decode cX14_value 232 = .ok (.ireturn, 1) := dk_172 (dk_at dksX14_value_6 3 rfl rfl)
theorem dX14_value_233 : decode cX14_value 233 = .ok (.iload_n 2, 1) := dk_28 (dk_at dksX14_value_6 4 rfl rfl)
theorem dX14_value_234 : decode cX14_value 234 = .ok (.ifCond .eq 11, 3) := dk_153 0 11 (dk_at dksX14_value_6 5 rfl rfl)
theorem dX14_value_237 : decode cX14_value 237 = .ok (.iload_n 3, 1) := dk_29 (dk_at dksX14_value_6 8 rfl rfl)
theorem dX14_value_238 : decode cX14_value 238 = .ok (.ifCond .eq 7, 3) := dk_153 0 7 (dk_at dksX14_value_6 9 rfl rfl)
theorem dX14_value_241 : decode cX14_value 241 = .ok (.iconst 1, 1) := dk_4 (dk_at dksX14_value_6 12 rfl rfl)
theorem dX14_value_242 : decode cX14_value 242 = .ok (.goto 4, 3) := dk_167 0 4 (dk_at dksX14_value_6 13 rfl rfl)
theorem dX14_value_245 : decode cX14_value 245 = .ok (.iconst 0, 1) := dk_3 (dk_at dksX14_value_6 16 rfl rfl)
theorem dX14_value_246 : decode cX14_value 246 = .ok (.invokestatic 24, 3) := dk_184 0 24 (dk_at dksX14_value_6 17 rfl rfl)
theorem dX14_value_249 : decode cX14_value 249 = .ok (.ireturn, 1) := dk_172 (dk_at dksX14_value_6 20 rfl rfl)
theorem dX14_value_250 : decode cX14_value 250 = .ok (.iload_n 2, 1) := dk_28 (dk_at dksX14_value_6 21 rfl rfl)
theorem dX14_value_251 : decode cX14_value 251 = .ok (.ifCond .ne 7, 3) := dk_154 0 7 (dk_at dksX14_value_7 0 rfl rfl)
theorem dX14_value_254 : decode cX14_value 254 = .ok (.iload_n 3, 1) := dk_29 (dk_at dksX14_value_7 3 rfl rfl)
theorem dX14_value_255 : decode cX14_value 255 = .ok (.ifCond .eq 7, 3) := dk_153 0 7 (dk_at dksX14_value_7 4 rfl rfl)
theorem dX14_value_258 : decode cX14_value 258 = .ok (.iconst 1, 1) := dk_4 (dk_at dksX14_value_7 7 rfl rfl)
theorem dX14_value_259 : decode cX14_value 259 = .ok (.goto 4, 3) := dk_167 0 4 (dk_at dksX14_value_7 8 rfl rfl)
theorem dX14_value_262 : decode cX14_value 262 = .ok (.iconst 0, 1) := dk_3 (dk_at dksX14_value_7 11 rfl rfl)
theorem dX14_value_263 : decode cX14_value 263 = .ok (.invokestatic 24, 3) := dk_184 0 24 (dk_at dksX14_value_7 12 rfl rfl)
theorem dX14_value_266 : decode cX14_value 266 = .ok (.ireturn, 1) := dk_172 (dk_at dksX14_value_7 15 rfl rfl)
abbrev cX14_is : ByteArray := prog_20_method_2_code
def yX14_is : MethodName := ⟨RX14, "is", "(Z)I"⟩
def dkwX14_is_0 : List UInt8 := [26, 153, 0, 7, 4, 167, 0, 4, 3, 172]
abbrev dktX14_is_0 : List UInt8 := dkwX14_is_0 ++ []
theorem dksX14_is_0 : cX14_is.data.toList.drop 0 = dktX14_is_0 := by decide +kernel
theorem dX14_is_0 : decode cX14_is 0 = .ok (.iload_n 0, 1) := dk_26 (dk_at dksX14_is_0 0 rfl rfl)
theorem dX14_is_1 : decode cX14_is 1 = .ok (.ifCond .eq 7, 3) := dk_153 0 7 (dk_at dksX14_is_0 1 rfl rfl)
theorem dX14_is_4 : decode cX14_is 4 = .ok (.iconst 1, 1) := dk_4 (dk_at dksX14_is_0 4 rfl rfl)
theorem dX14_is_5 : decode cX14_is 5 = .ok (.goto 4, 3) := dk_167 0 4 (dk_at dksX14_is_0 5 rfl rfl)
theorem dX14_is_8 : decode cX14_is 8 = .ok (.iconst 0, 1) := dk_3 (dk_at dksX14_is_0 8 rfl rfl)
theorem dX14_is_9 : decode cX14_is 9 = .ok (.ireturn, 1) := dk_172 (dk_at dksX14_is_0 9 rfl rfl)
abbrev cX15_init : ByteArray := prog_6_method_1_code
def yX15_init : MethodName := ⟨RX15, "<init>", "(IIII)V"⟩
def dkwX15_init_1 : List UInt8 := [181, 0, 19, 177]
abbrev dktX15_init_1 : List UInt8 := dkwX15_init_1 ++ []
def dkwX15_init_0 : List UInt8 := [42, 183, 0, 1, 42, 27, 181, 0, 7, 42, 28, 181, 0, 13, 42, 29, 181, 0, 16, 42, 21, 4]
abbrev dktX15_init_0 : List UInt8 := dkwX15_init_0 ++ dktX15_init_1
theorem dksX15_init_0 : cX15_init.data.toList.drop 0 = dktX15_init_0 := by decide +kernel
theorem dksX15_init_1 : cX15_init.data.toList.drop 22 = dktX15_init_1 := dk_seg dksX15_init_0 22 rfl rfl
theorem dX15_init_0 : decode cX15_init 0 = .ok (.aload_n 0, 1) := dk_42 (dk_at dksX15_init_0 0 rfl rfl)
theorem dX15_init_1 : decode cX15_init 1 = .ok (.invokespecial 1, 3) := dk_183 0 1 (dk_at dksX15_init_0 1 rfl rfl)
theorem dX15_init_4 : decode cX15_init 4 = .ok (.aload_n 0, 1) := dk_42 (dk_at dksX15_init_0 4 rfl rfl)
theorem dX15_init_5 : decode cX15_init 5 = .ok (.iload_n 1, 1) := dk_27 (dk_at dksX15_init_0 5 rfl rfl)
theorem dX15_init_6 : decode cX15_init 6 = .ok (.putfield 7, 3) := dk_181 0 7 (dk_at dksX15_init_0 6 rfl rfl)
theorem dX15_init_9 : decode cX15_init 9 = .ok (.aload_n 0, 1) := dk_42 (dk_at dksX15_init_0 9 rfl rfl)
theorem dX15_init_10 : decode cX15_init 10 = .ok (.iload_n 2, 1) := dk_28 (dk_at dksX15_init_0 10 rfl rfl)
theorem dX15_init_11 : decode cX15_init 11 = .ok (.putfield 13, 3) := dk_181 0 13 (dk_at dksX15_init_0 11 rfl rfl)
theorem dX15_init_14 : decode cX15_init 14 = .ok (.aload_n 0, 1) := dk_42 (dk_at dksX15_init_0 14 rfl rfl)
theorem dX15_init_15 : decode cX15_init 15 = .ok (.iload_n 3, 1) := dk_29 (dk_at dksX15_init_0 15 rfl rfl)
theorem dX15_init_16 : decode cX15_init 16 = .ok (.putfield 16, 3) := dk_181 0 16 (dk_at dksX15_init_0 16 rfl rfl)
theorem dX15_init_19 : decode cX15_init 19 = .ok (.aload_n 0, 1) := dk_42 (dk_at dksX15_init_0 19 rfl rfl)
theorem dX15_init_20 : decode cX15_init 20 = .ok (.iload 4, 2) := dk_21 4 (dk_at dksX15_init_0 20 rfl rfl)
theorem dX15_init_22 : decode cX15_init 22 = .ok (.putfield 19, 3) := dk_181 0 19 (dk_at dksX15_init_1 0 rfl rfl)
theorem dX15_init_25 : decode cX15_init 25 = .ok (.return_, 1) := dk_177 (dk_at dksX15_init_1 3 rfl rfl)
abbrev cX16_init : ByteArray := prog_10_method_1_code
def yX16_init : MethodName := ⟨RX16, "<init>", "()V"⟩
theorem dX16_init_0 : decode cX16_init 0 = .ok (.aload_n 0, 1) := by decide +kernel
theorem dX16_init_1 : decode cX16_init 1 = .ok (.invokespecial 1, 3) := by decide +kernel
theorem dX16_init_4 : decode cX16_init 4 = .ok (.return_, 1) := by decide +kernel
abbrev cX17_init : ByteArray := prog_22_method_1_code
def yX17_init : MethodName := ⟨RX17, "<init>", "(LSpeaksInTurn;I)V"⟩
def dkwX17_init_0 : List UInt8 := [42, 43, 181, 0, 3, 42, 183, 0, 9, 42, 28, 181, 0, 15, 177]
abbrev dktX17_init_0 : List UInt8 := dkwX17_init_0 ++ []
theorem dksX17_init_0 : cX17_init.data.toList.drop 0 = dktX17_init_0 := by decide +kernel
theorem dX17_init_0 : decode cX17_init 0 = .ok (.aload_n 0, 1) := dk_42 (dk_at dksX17_init_0 0 rfl rfl)
theorem dX17_init_1 : decode cX17_init 1 = .ok (.aload_n 1, 1) := dk_43 (dk_at dksX17_init_0 1 rfl rfl)
theorem dX17_init_2 : decode cX17_init 2 = .ok (.putfield 3, 3) := dk_181 0 3 (dk_at dksX17_init_0 2 rfl rfl)
theorem dX17_init_5 : decode cX17_init 5 = .ok (.aload_n 0, 1) := dk_42 (dk_at dksX17_init_0 5 rfl rfl)
theorem dX17_init_6 : decode cX17_init 6 = .ok (.invokespecial 9, 3) := dk_183 0 9 (dk_at dksX17_init_0 6 rfl rfl)
theorem dX17_init_9 : decode cX17_init 9 = .ok (.aload_n 0, 1) := dk_42 (dk_at dksX17_init_0 9 rfl rfl)
theorem dX17_init_10 : decode cX17_init 10 = .ok (.iload_n 2, 1) := dk_28 (dk_at dksX17_init_0 10 rfl rfl)
theorem dX17_init_11 : decode cX17_init 11 = .ok (.putfield 15, 3) := dk_181 0 15 (dk_at dksX17_init_0 11 rfl rfl)
theorem dX17_init_14 : decode cX17_init 14 = .ok (.return_, 1) := dk_177 (dk_at dksX17_init_0 14 rfl rfl)
abbrev cX17_knows : ByteArray := prog_22_method_5_code
def yX17_knows : MethodName := ⟨RX17, "knows", "(I)I"⟩
def dkwX17_knows_0 : List UInt8 := [42, 180, 0, 3, 4, 182, 0, 23, 27, 42, 180, 0, 15, 96, 172]
abbrev dktX17_knows_0 : List UInt8 := dkwX17_knows_0 ++ []
theorem dksX17_knows_0 : cX17_knows.data.toList.drop 0 = dktX17_knows_0 := by decide +kernel
theorem dX17_knows_0 : decode cX17_knows 0 = .ok (.aload_n 0, 1) := dk_42 (dk_at dksX17_knows_0 0 rfl rfl)
theorem dX17_knows_1 : decode cX17_knows 1 = .ok (.getfield 3, 3) := dk_180 0 3 (dk_at dksX17_knows_0 1 rfl rfl)
theorem dX17_knows_4 : decode cX17_knows 4 = .ok (.iconst 1, 1) := dk_4 (dk_at dksX17_knows_0 4 rfl rfl)
theorem dX17_knows_5 : decode cX17_knows 5 = .ok (.invokevirtual 23, 3) := dk_182 0 23 (dk_at dksX17_knows_0 5 rfl rfl)
theorem dX17_knows_8 : decode cX17_knows 8 = .ok (.iload_n 1, 1) := dk_27 (dk_at dksX17_knows_0 8 rfl rfl)
theorem dX17_knows_9 : decode cX17_knows 9 = .ok (.aload_n 0, 1) := dk_42 (dk_at dksX17_knows_0 9 rfl rfl)
theorem dX17_knows_10 : decode cX17_knows 10 = .ok (.getfield 15, 3) := dk_180 0 15 (dk_at dksX17_knows_0 10 rfl rfl)
theorem dX17_knows_13 : decode cX17_knows 13 = .ok (.iadd, 1) := dk_96 (dk_at dksX17_knows_0 13 rfl rfl)
theorem dX17_knows_14 : decode cX17_knows 14 = .ok (.ireturn, 1) := dk_172 (dk_at dksX17_knows_0 14 rfl rfl)
abbrev cX17_tells : ByteArray := prog_22_method_8_code
def yX17_tells : MethodName := ⟨RX17, "tells", "(I)I"⟩
def dkwX17_tells_0 : List UInt8 := [42, 180, 0, 3, 5, 182, 0, 23, 42, 27, 182, 0, 31, 61, 28, 42, 4, 182, 0, 34, 100, 172]
abbrev dktX17_tells_0 : List UInt8 := dkwX17_tells_0 ++ []
theorem dksX17_tells_0 : cX17_tells.data.toList.drop 0 = dktX17_tells_0 := by decide +kernel
theorem dX17_tells_0 : decode cX17_tells 0 = .ok (.aload_n 0, 1) := dk_42 (dk_at dksX17_tells_0 0 rfl rfl)
theorem dX17_tells_1 : decode cX17_tells 1 = .ok (.getfield 3, 3) := dk_180 0 3 (dk_at dksX17_tells_0 1 rfl rfl)
theorem dX17_tells_4 : decode cX17_tells 4 = .ok (.iconst 2, 1) := dk_5 (dk_at dksX17_tells_0 4 rfl rfl)
theorem dX17_tells_5 : decode cX17_tells 5 = .ok (.invokevirtual 23, 3) := dk_182 0 23 (dk_at dksX17_tells_0 5 rfl rfl)
theorem dX17_tells_8 : decode cX17_tells 8 = .ok (.aload_n 0, 1) := dk_42 (dk_at dksX17_tells_0 8 rfl rfl)
theorem dX17_tells_9 : decode cX17_tells 9 = .ok (.iload_n 1, 1) := dk_27 (dk_at dksX17_tells_0 9 rfl rfl)
theorem dX17_tells_10 : decode cX17_tells 10 = .ok (.invokevirtual 31, 3) := dk_182 0 31 (dk_at dksX17_tells_0 10 rfl rfl)
theorem dX17_tells_13 : decode cX17_tells 13 = .ok (.istore_n 2, 1) := dk_61 (dk_at dksX17_tells_0 13 rfl rfl)
theorem dX17_tells_14 : decode cX17_tells 14 = .ok (.iload_n 2, 1) := dk_28 (dk_at dksX17_tells_0 14 rfl rfl)
theorem dX17_tells_15 : decode cX17_tells 15 = .ok (.aload_n 0, 1) := dk_42 (dk_at dksX17_tells_0 15 rfl rfl)
theorem dX17_tells_16 : decode cX17_tells 16 = .ok (.iconst 1, 1) := dk_4 (dk_at dksX17_tells_0 16 rfl rfl)
theorem dX17_tells_17 : decode cX17_tells 17 = .ok (.invokevirtual 34, 3) := dk_182 0 34 (dk_at dksX17_tells_0 17 rfl rfl)
theorem dX17_tells_20 : decode cX17_tells 20 = .ok (.isub, 1) := dk_100 (dk_at dksX17_tells_0 20 rfl rfl)
theorem dX17_tells_21 : decode cX17_tells 21 = .ok (.ireturn, 1) := dk_172 (dk_at dksX17_tells_0 21 rfl rfl)
abbrev cX17_stops : ByteArray := prog_22_method_7_code
def yX17_stops : MethodName := ⟨RX17, "stops", "(I)I"⟩
def dkwX17_stops_0 : List UInt8 := [42, 180, 0, 3, 16, 11, 182, 0, 23, 27, 42, 180, 0, 15, 130, 172]
abbrev dktX17_stops_0 : List UInt8 := dkwX17_stops_0 ++ []
theorem dksX17_stops_0 : cX17_stops.data.toList.drop 0 = dktX17_stops_0 := by decide +kernel
theorem dX17_stops_0 : decode cX17_stops 0 = .ok (.aload_n 0, 1) := dk_42 (dk_at dksX17_stops_0 0 rfl rfl)
theorem dX17_stops_1 : decode cX17_stops 1 = .ok (.getfield 3, 3) := dk_180 0 3 (dk_at dksX17_stops_0 1 rfl rfl)
theorem dX17_stops_4 : decode cX17_stops 4 = .ok (.bipush 11, 2) := dk_16 11 (dk_at dksX17_stops_0 4 rfl rfl)
theorem dX17_stops_6 : decode cX17_stops 6 = .ok (.invokevirtual 23, 3) := dk_182 0 23 (dk_at dksX17_stops_0 6 rfl rfl)
theorem dX17_stops_9 : decode cX17_stops 9 = .ok (.iload_n 1, 1) := dk_27 (dk_at dksX17_stops_0 9 rfl rfl)
theorem dX17_stops_10 : decode cX17_stops 10 = .ok (.aload_n 0, 1) := dk_42 (dk_at dksX17_stops_0 10 rfl rfl)
theorem dX17_stops_11 : decode cX17_stops 11 = .ok (.getfield 15, 3) := dk_180 0 15 (dk_at dksX17_stops_0 11 rfl rfl)
theorem dX17_stops_14 : decode cX17_stops 14 = .ok (.ixor, 1) := dk_130 (dk_at dksX17_stops_0 14 rfl rfl)
theorem dX17_stops_15 : decode cX17_stops 15 = .ok (.ireturn, 1) := dk_172 (dk_at dksX17_stops_0 15 rfl rfl)
abbrev cX17_speaks : ByteArray := prog_22_method_6_code
def yX17_speaks : MethodName := ⟨RX17, "speaks", "(I)I"⟩
def dkwX17_speaks_0 : List UInt8 := [42, 180, 0, 3, 16, 10, 182, 0, 23, 42, 27, 182, 0, 27, 5, 104, 172]
abbrev dktX17_speaks_0 : List UInt8 := dkwX17_speaks_0 ++ []
theorem dksX17_speaks_0 : cX17_speaks.data.toList.drop 0 = dktX17_speaks_0 := by decide +kernel
theorem dX17_speaks_0 : decode cX17_speaks 0 = .ok (.aload_n 0, 1) := dk_42 (dk_at dksX17_speaks_0 0 rfl rfl)
theorem dX17_speaks_1 : decode cX17_speaks 1 = .ok (.getfield 3, 3) := dk_180 0 3 (dk_at dksX17_speaks_0 1 rfl rfl)
theorem dX17_speaks_4 : decode cX17_speaks 4 = .ok (.bipush 10, 2) := dk_16 10 (dk_at dksX17_speaks_0 4 rfl rfl)
theorem dX17_speaks_6 : decode cX17_speaks 6 = .ok (.invokevirtual 23, 3) := dk_182 0 23 (dk_at dksX17_speaks_0 6 rfl rfl)
theorem dX17_speaks_9 : decode cX17_speaks 9 = .ok (.aload_n 0, 1) := dk_42 (dk_at dksX17_speaks_0 9 rfl rfl)
theorem dX17_speaks_10 : decode cX17_speaks 10 = .ok (.iload_n 1, 1) := dk_27 (dk_at dksX17_speaks_0 10 rfl rfl)
theorem dX17_speaks_11 : decode cX17_speaks 11 = .ok (.invokevirtual 27, 3) := dk_182 0 27 (dk_at dksX17_speaks_0 11 rfl rfl)
theorem dX17_speaks_14 : decode cX17_speaks 14 = .ok (.iconst 2, 1) := dk_5 (dk_at dksX17_speaks_0 14 rfl rfl)
theorem dX17_speaks_15 : decode cX17_speaks 15 = .ok (.imul, 1) := dk_104 (dk_at dksX17_speaks_0 15 rfl rfl)
theorem dX17_speaks_16 : decode cX17_speaks 16 = .ok (.ireturn, 1) := dk_172 (dk_at dksX17_speaks_0 16 rfl rfl)
abbrev cX17_isUnder : ByteArray := prog_22_method_4_code
def yX17_isUnder : MethodName := ⟨RX17, "isUnder", "(I)Z"⟩
def dkwX17_isUnder_0 : List UInt8 := [27, 153, 0, 11, 27, 42, 182, 0, 19, 160, 0, 7, 4, 167, 0, 4, 3, 172]
abbrev dktX17_isUnder_0 : List UInt8 := dkwX17_isUnder_0 ++ []
theorem dksX17_isUnder_0 : cX17_isUnder.data.toList.drop 0 = dktX17_isUnder_0 := by decide +kernel
theorem dX17_isUnder_0 : decode cX17_isUnder 0 = .ok (.iload_n 1, 1) := dk_27 (dk_at dksX17_isUnder_0 0 rfl rfl)
theorem dX17_isUnder_1 : decode cX17_isUnder 1 = .ok (.ifCond .eq 11, 3) := dk_153 0 11 (dk_at dksX17_isUnder_0 1 rfl rfl)
theorem dX17_isUnder_4 : decode cX17_isUnder 4 = .ok (.iload_n 1, 1) := dk_27 (dk_at dksX17_isUnder_0 4 rfl rfl)
theorem dX17_isUnder_5 : decode cX17_isUnder 5 = .ok (.aload_n 0, 1) := dk_42 (dk_at dksX17_isUnder_0 5 rfl rfl)
theorem dX17_isUnder_6 : decode cX17_isUnder 6 = .ok (.invokevirtual 19, 3) := dk_182 0 19 (dk_at dksX17_isUnder_0 6 rfl rfl)
theorem dX17_isUnder_9 : decode cX17_isUnder 9 = .ok (.if_icmp .ne 7, 3) := dk_160 0 7 (dk_at dksX17_isUnder_0 9 rfl rfl)
theorem dX17_isUnder_12 : decode cX17_isUnder 12 = .ok (.iconst 1, 1) := dk_4 (dk_at dksX17_isUnder_0 12 rfl rfl)
theorem dX17_isUnder_13 : decode cX17_isUnder 13 = .ok (.goto 4, 3) := dk_167 0 4 (dk_at dksX17_isUnder_0 13 rfl rfl)
theorem dX17_isUnder_16 : decode cX17_isUnder 16 = .ok (.iconst 0, 1) := dk_3 (dk_at dksX17_isUnder_0 16 rfl rfl)
theorem dX17_isUnder_17 : decode cX17_isUnder 17 = .ok (.ireturn, 1) := dk_172 (dk_at dksX17_isUnder_0 17 rfl rfl)
abbrev cX17_kind : ByteArray := prog_22_method_3_code
def yX17_kind : MethodName := ⟨RX17, "kind", "()I"⟩
theorem dX17_kind_0 : decode cX17_kind 0 = .ok (.iconst 0, 1) := by decide +kernel
theorem dX17_kind_1 : decode cX17_kind 1 = .ok (.ireturn, 1) := by decide +kernel
-- two fields of one name: no nmX18
abbrev cX18_init : ByteArray := prog_18_method_1_code
def yX18_init : MethodName := ⟨RX18, "<init>", "(LSpeaksInTurn;I)V"⟩
def dkwX18_init_0 : List UInt8 := [42, 43, 181, 0, 1, 42, 43, 28, 183, 0, 7, 177]
abbrev dktX18_init_0 : List UInt8 := dkwX18_init_0 ++ []
theorem dksX18_init_0 : cX18_init.data.toList.drop 0 = dktX18_init_0 := by decide +kernel
theorem dX18_init_0 : decode cX18_init 0 = .ok (.aload_n 0, 1) := dk_42 (dk_at dksX18_init_0 0 rfl rfl)
theorem dX18_init_1 : decode cX18_init 1 = .ok (.aload_n 1, 1) := dk_43 (dk_at dksX18_init_0 1 rfl rfl)
theorem dX18_init_2 : decode cX18_init 2 = .ok (.putfield 1, 3) := dk_181 0 1 (dk_at dksX18_init_0 2 rfl rfl)
theorem dX18_init_5 : decode cX18_init 5 = .ok (.aload_n 0, 1) := dk_42 (dk_at dksX18_init_0 5 rfl rfl)
theorem dX18_init_6 : decode cX18_init 6 = .ok (.aload_n 1, 1) := dk_43 (dk_at dksX18_init_0 6 rfl rfl)
theorem dX18_init_7 : decode cX18_init 7 = .ok (.iload_n 2, 1) := dk_28 (dk_at dksX18_init_0 7 rfl rfl)
theorem dX18_init_8 : decode cX18_init 8 = .ok (.invokespecial 7, 3) := dk_183 0 7 (dk_at dksX18_init_0 8 rfl rfl)
theorem dX18_init_11 : decode cX18_init 11 = .ok (.return_, 1) := dk_177 (dk_at dksX18_init_0 11 rfl rfl)
abbrev cX18_knows : ByteArray := prog_18_method_3_code
def yX18_knows : MethodName := ⟨RX18, "knows", "(I)I"⟩
def dkwX18_knows_0 : List UInt8 := [42, 180, 0, 1, 16, 20, 182, 0, 13, 42, 27, 183, 0, 19, 6, 96, 172]
abbrev dktX18_knows_0 : List UInt8 := dkwX18_knows_0 ++ []
theorem dksX18_knows_0 : cX18_knows.data.toList.drop 0 = dktX18_knows_0 := by decide +kernel
theorem dX18_knows_0 : decode cX18_knows 0 = .ok (.aload_n 0, 1) := dk_42 (dk_at dksX18_knows_0 0 rfl rfl)
theorem dX18_knows_1 : decode cX18_knows 1 = .ok (.getfield 1, 3) := dk_180 0 1 (dk_at dksX18_knows_0 1 rfl rfl)
theorem dX18_knows_4 : decode cX18_knows 4 = .ok (.bipush 20, 2) := dk_16 20 (dk_at dksX18_knows_0 4 rfl rfl)
theorem dX18_knows_6 : decode cX18_knows 6 = .ok (.invokevirtual 13, 3) := dk_182 0 13 (dk_at dksX18_knows_0 6 rfl rfl)
theorem dX18_knows_9 : decode cX18_knows 9 = .ok (.aload_n 0, 1) := dk_42 (dk_at dksX18_knows_0 9 rfl rfl)
theorem dX18_knows_10 : decode cX18_knows 10 = .ok (.iload_n 1, 1) := dk_27 (dk_at dksX18_knows_0 10 rfl rfl)
theorem dX18_knows_11 : decode cX18_knows 11 = .ok (.invokespecial 19, 3) := dk_183 0 19 (dk_at dksX18_knows_0 11 rfl rfl)
theorem dX18_knows_14 : decode cX18_knows 14 = .ok (.iconst 3, 1) := dk_6 (dk_at dksX18_knows_0 14 rfl rfl)
theorem dX18_knows_15 : decode cX18_knows 15 = .ok (.iadd, 1) := dk_96 (dk_at dksX18_knows_0 15 rfl rfl)
theorem dX18_knows_16 : decode cX18_knows 16 = .ok (.ireturn, 1) := dk_172 (dk_at dksX18_knows_0 16 rfl rfl)
abbrev cX18_kind : ByteArray := prog_18_method_2_code
def yX18_kind : MethodName := ⟨RX18, "kind", "()I"⟩
theorem dX18_kind_0 : decode cX18_kind 0 = .ok (.iconst 1, 1) := by decide +kernel
theorem dX18_kind_1 : decode cX18_kind 1 = .ok (.ireturn, 1) := by decide +kernel
-- two fields of one name: no nmX19
abbrev cX19_init : ByteArray := prog_25_method_1_code
def yX19_init : MethodName := ⟨RX19, "<init>", "(LSpeaksInTurn;I)V"⟩
def dkwX19_init_0 : List UInt8 := [42, 43, 181, 0, 1, 42, 43, 28, 183, 0, 7, 177]
abbrev dktX19_init_0 : List UInt8 := dkwX19_init_0 ++ []
theorem dksX19_init_0 : cX19_init.data.toList.drop 0 = dktX19_init_0 := by decide +kernel
theorem dX19_init_0 : decode cX19_init 0 = .ok (.aload_n 0, 1) := dk_42 (dk_at dksX19_init_0 0 rfl rfl)
theorem dX19_init_1 : decode cX19_init 1 = .ok (.aload_n 1, 1) := dk_43 (dk_at dksX19_init_0 1 rfl rfl)
theorem dX19_init_2 : decode cX19_init 2 = .ok (.putfield 1, 3) := dk_181 0 1 (dk_at dksX19_init_0 2 rfl rfl)
theorem dX19_init_5 : decode cX19_init 5 = .ok (.aload_n 0, 1) := dk_42 (dk_at dksX19_init_0 5 rfl rfl)
theorem dX19_init_6 : decode cX19_init 6 = .ok (.aload_n 1, 1) := dk_43 (dk_at dksX19_init_0 6 rfl rfl)
theorem dX19_init_7 : decode cX19_init 7 = .ok (.iload_n 2, 1) := dk_28 (dk_at dksX19_init_0 7 rfl rfl)
theorem dX19_init_8 : decode cX19_init 8 = .ok (.invokespecial 7, 3) := dk_183 0 7 (dk_at dksX19_init_0 8 rfl rfl)
theorem dX19_init_11 : decode cX19_init 11 = .ok (.return_, 1) := dk_177 (dk_at dksX19_init_0 11 rfl rfl)
abbrev cX19_speaks : ByteArray := prog_25_method_4_code
def yX19_speaks : MethodName := ⟨RX19, "speaks", "(I)I"⟩
def dkwX19_speaks_0 : List UInt8 := [42, 180, 0, 1, 16, 30, 182, 0, 17, 42, 27, 183, 0, 23, 116, 172]
abbrev dktX19_speaks_0 : List UInt8 := dkwX19_speaks_0 ++ []
theorem dksX19_speaks_0 : cX19_speaks.data.toList.drop 0 = dktX19_speaks_0 := by decide +kernel
theorem dX19_speaks_0 : decode cX19_speaks 0 = .ok (.aload_n 0, 1) := dk_42 (dk_at dksX19_speaks_0 0 rfl rfl)
theorem dX19_speaks_1 : decode cX19_speaks 1 = .ok (.getfield 1, 3) := dk_180 0 1 (dk_at dksX19_speaks_0 1 rfl rfl)
theorem dX19_speaks_4 : decode cX19_speaks 4 = .ok (.bipush 30, 2) := dk_16 30 (dk_at dksX19_speaks_0 4 rfl rfl)
theorem dX19_speaks_6 : decode cX19_speaks 6 = .ok (.invokevirtual 17, 3) := dk_182 0 17 (dk_at dksX19_speaks_0 6 rfl rfl)
theorem dX19_speaks_9 : decode cX19_speaks 9 = .ok (.aload_n 0, 1) := dk_42 (dk_at dksX19_speaks_0 9 rfl rfl)
theorem dX19_speaks_10 : decode cX19_speaks 10 = .ok (.iload_n 1, 1) := dk_27 (dk_at dksX19_speaks_0 10 rfl rfl)
theorem dX19_speaks_11 : decode cX19_speaks 11 = .ok (.invokespecial 23, 3) := dk_183 0 23 (dk_at dksX19_speaks_0 11 rfl rfl)
theorem dX19_speaks_14 : decode cX19_speaks 14 = .ok (.ineg, 1) := dk_116 (dk_at dksX19_speaks_0 14 rfl rfl)
theorem dX19_speaks_15 : decode cX19_speaks 15 = .ok (.ireturn, 1) := dk_172 (dk_at dksX19_speaks_0 15 rfl rfl)
abbrev cX19_isUnder : ByteArray := prog_25_method_3_code
def yX19_isUnder : MethodName := ⟨RX19, "isUnder", "(I)Z"⟩
def dkwX19_isUnder_0 : List UInt8 := [27, 5, 159, 0, 11, 42, 27, 183, 0, 13, 153, 0, 7, 4, 167, 0, 4, 3, 172]
abbrev dktX19_isUnder_0 : List UInt8 := dkwX19_isUnder_0 ++ []
theorem dksX19_isUnder_0 : cX19_isUnder.data.toList.drop 0 = dktX19_isUnder_0 := by decide +kernel
theorem dX19_isUnder_0 : decode cX19_isUnder 0 = .ok (.iload_n 1, 1) := dk_27 (dk_at dksX19_isUnder_0 0 rfl rfl)
theorem dX19_isUnder_1 : decode cX19_isUnder 1 = .ok (.iconst 2, 1) := dk_5 (dk_at dksX19_isUnder_0 1 rfl rfl)
theorem dX19_isUnder_2 : decode cX19_isUnder 2 = .ok (.if_icmp .eq 11, 3) := dk_159 0 11 (dk_at dksX19_isUnder_0 2 rfl rfl)
theorem dX19_isUnder_5 : decode cX19_isUnder 5 = .ok (.aload_n 0, 1) := dk_42 (dk_at dksX19_isUnder_0 5 rfl rfl)
theorem dX19_isUnder_6 : decode cX19_isUnder 6 = .ok (.iload_n 1, 1) := dk_27 (dk_at dksX19_isUnder_0 6 rfl rfl)
theorem dX19_isUnder_7 : decode cX19_isUnder 7 = .ok (.invokespecial 13, 3) := dk_183 0 13 (dk_at dksX19_isUnder_0 7 rfl rfl)
theorem dX19_isUnder_10 : decode cX19_isUnder 10 = .ok (.ifCond .eq 7, 3) := dk_153 0 7 (dk_at dksX19_isUnder_0 10 rfl rfl)
theorem dX19_isUnder_13 : decode cX19_isUnder 13 = .ok (.iconst 1, 1) := dk_4 (dk_at dksX19_isUnder_0 13 rfl rfl)
theorem dX19_isUnder_14 : decode cX19_isUnder 14 = .ok (.goto 4, 3) := dk_167 0 4 (dk_at dksX19_isUnder_0 14 rfl rfl)
theorem dX19_isUnder_17 : decode cX19_isUnder 17 = .ok (.iconst 0, 1) := dk_3 (dk_at dksX19_isUnder_0 17 rfl rfl)
theorem dX19_isUnder_18 : decode cX19_isUnder 18 = .ok (.ireturn, 1) := dk_172 (dk_at dksX19_isUnder_0 18 rfl rfl)
abbrev cX19_kind : ByteArray := prog_25_method_2_code
def yX19_kind : MethodName := ⟨RX19, "kind", "()I"⟩
theorem dX19_kind_0 : decode cX19_kind 0 = .ok (.iconst 2, 1) := by decide +kernel
theorem dX19_kind_1 : decode cX19_kind 1 = .ok (.ireturn, 1) := by decide +kernel
-- two fields of one name: no nmX20
abbrev cX20_init : ByteArray := prog_2_method_1_code
def yX20_init : MethodName := ⟨RX20, "<init>", "(LSpeaksInTurn;I)V"⟩
def dkwX20_init_0 : List UInt8 := [42, 43, 181, 0, 1, 42, 43, 28, 183, 0, 7, 177]
abbrev dktX20_init_0 : List UInt8 := dkwX20_init_0 ++ []
theorem dksX20_init_0 : cX20_init.data.toList.drop 0 = dktX20_init_0 := by decide +kernel
theorem dX20_init_0 : decode cX20_init 0 = .ok (.aload_n 0, 1) := dk_42 (dk_at dksX20_init_0 0 rfl rfl)
theorem dX20_init_1 : decode cX20_init 1 = .ok (.aload_n 1, 1) := dk_43 (dk_at dksX20_init_0 1 rfl rfl)
theorem dX20_init_2 : decode cX20_init 2 = .ok (.putfield 1, 3) := dk_181 0 1 (dk_at dksX20_init_0 2 rfl rfl)
theorem dX20_init_5 : decode cX20_init 5 = .ok (.aload_n 0, 1) := dk_42 (dk_at dksX20_init_0 5 rfl rfl)
theorem dX20_init_6 : decode cX20_init 6 = .ok (.aload_n 1, 1) := dk_43 (dk_at dksX20_init_0 6 rfl rfl)
theorem dX20_init_7 : decode cX20_init 7 = .ok (.iload_n 2, 1) := dk_28 (dk_at dksX20_init_0 7 rfl rfl)
theorem dX20_init_8 : decode cX20_init 8 = .ok (.invokespecial 7, 3) := dk_183 0 7 (dk_at dksX20_init_0 8 rfl rfl)
theorem dX20_init_11 : decode cX20_init 11 = .ok (.return_, 1) := dk_177 (dk_at dksX20_init_0 11 rfl rfl)
abbrev cX20_speaks : ByteArray := prog_2_method_5_code
def yX20_speaks : MethodName := ⟨RX20, "speaks", "(I)I"⟩
def dkwX20_speaks_0 : List UInt8 := [42, 180, 0, 1, 16, 41, 182, 0, 17, 42, 27, 4, 96, 183, 0, 27, 172]
abbrev dktX20_speaks_0 : List UInt8 := dkwX20_speaks_0 ++ []
theorem dksX20_speaks_0 : cX20_speaks.data.toList.drop 0 = dktX20_speaks_0 := by decide +kernel
theorem dX20_speaks_0 : decode cX20_speaks 0 = .ok (.aload_n 0, 1) := dk_42 (dk_at dksX20_speaks_0 0 rfl rfl)
theorem dX20_speaks_1 : decode cX20_speaks 1 = .ok (.getfield 1, 3) := dk_180 0 1 (dk_at dksX20_speaks_0 1 rfl rfl)
theorem dX20_speaks_4 : decode cX20_speaks 4 = .ok (.bipush 41, 2) := dk_16 41 (dk_at dksX20_speaks_0 4 rfl rfl)
theorem dX20_speaks_6 : decode cX20_speaks 6 = .ok (.invokevirtual 17, 3) := dk_182 0 17 (dk_at dksX20_speaks_0 6 rfl rfl)
theorem dX20_speaks_9 : decode cX20_speaks 9 = .ok (.aload_n 0, 1) := dk_42 (dk_at dksX20_speaks_0 9 rfl rfl)
theorem dX20_speaks_10 : decode cX20_speaks 10 = .ok (.iload_n 1, 1) := dk_27 (dk_at dksX20_speaks_0 10 rfl rfl)
theorem dX20_speaks_11 : decode cX20_speaks 11 = .ok (.iconst 1, 1) := dk_4 (dk_at dksX20_speaks_0 11 rfl rfl)
theorem dX20_speaks_12 : decode cX20_speaks 12 = .ok (.iadd, 1) := dk_96 (dk_at dksX20_speaks_0 12 rfl rfl)
theorem dX20_speaks_13 : decode cX20_speaks 13 = .ok (.invokespecial 27, 3) := dk_183 0 27 (dk_at dksX20_speaks_0 13 rfl rfl)
theorem dX20_speaks_16 : decode cX20_speaks 16 = .ok (.ireturn, 1) := dk_172 (dk_at dksX20_speaks_0 16 rfl rfl)
abbrev cX20_stops : ByteArray := prog_2_method_4_code
def yX20_stops : MethodName := ⟨RX20, "stops", "(I)I"⟩
def dkwX20_stops_0 : List UInt8 := [42, 180, 0, 1, 16, 40, 182, 0, 17, 42, 27, 183, 0, 23, 6, 104, 172]
abbrev dktX20_stops_0 : List UInt8 := dkwX20_stops_0 ++ []
theorem dksX20_stops_0 : cX20_stops.data.toList.drop 0 = dktX20_stops_0 := by decide +kernel
theorem dX20_stops_0 : decode cX20_stops 0 = .ok (.aload_n 0, 1) := dk_42 (dk_at dksX20_stops_0 0 rfl rfl)
theorem dX20_stops_1 : decode cX20_stops 1 = .ok (.getfield 1, 3) := dk_180 0 1 (dk_at dksX20_stops_0 1 rfl rfl)
theorem dX20_stops_4 : decode cX20_stops 4 = .ok (.bipush 40, 2) := dk_16 40 (dk_at dksX20_stops_0 4 rfl rfl)
theorem dX20_stops_6 : decode cX20_stops 6 = .ok (.invokevirtual 17, 3) := dk_182 0 17 (dk_at dksX20_stops_0 6 rfl rfl)
theorem dX20_stops_9 : decode cX20_stops 9 = .ok (.aload_n 0, 1) := dk_42 (dk_at dksX20_stops_0 9 rfl rfl)
theorem dX20_stops_10 : decode cX20_stops 10 = .ok (.iload_n 1, 1) := dk_27 (dk_at dksX20_stops_0 10 rfl rfl)
theorem dX20_stops_11 : decode cX20_stops 11 = .ok (.invokespecial 23, 3) := dk_183 0 23 (dk_at dksX20_stops_0 11 rfl rfl)
theorem dX20_stops_14 : decode cX20_stops 14 = .ok (.iconst 3, 1) := dk_6 (dk_at dksX20_stops_0 14 rfl rfl)
theorem dX20_stops_15 : decode cX20_stops 15 = .ok (.imul, 1) := dk_104 (dk_at dksX20_stops_0 15 rfl rfl)
theorem dX20_stops_16 : decode cX20_stops 16 = .ok (.ireturn, 1) := dk_172 (dk_at dksX20_stops_0 16 rfl rfl)
abbrev cX20_isUnder : ByteArray := prog_2_method_3_code
def yX20_isUnder : MethodName := ⟨RX20, "isUnder", "(I)Z"⟩
def dkwX20_isUnder_0 : List UInt8 := [27, 6, 159, 0, 11, 42, 27, 183, 0, 13, 153, 0, 7, 4, 167, 0, 4, 3, 172]
abbrev dktX20_isUnder_0 : List UInt8 := dkwX20_isUnder_0 ++ []
theorem dksX20_isUnder_0 : cX20_isUnder.data.toList.drop 0 = dktX20_isUnder_0 := by decide +kernel
theorem dX20_isUnder_0 : decode cX20_isUnder 0 = .ok (.iload_n 1, 1) := dk_27 (dk_at dksX20_isUnder_0 0 rfl rfl)
theorem dX20_isUnder_1 : decode cX20_isUnder 1 = .ok (.iconst 3, 1) := dk_6 (dk_at dksX20_isUnder_0 1 rfl rfl)
theorem dX20_isUnder_2 : decode cX20_isUnder 2 = .ok (.if_icmp .eq 11, 3) := dk_159 0 11 (dk_at dksX20_isUnder_0 2 rfl rfl)
theorem dX20_isUnder_5 : decode cX20_isUnder 5 = .ok (.aload_n 0, 1) := dk_42 (dk_at dksX20_isUnder_0 5 rfl rfl)
theorem dX20_isUnder_6 : decode cX20_isUnder 6 = .ok (.iload_n 1, 1) := dk_27 (dk_at dksX20_isUnder_0 6 rfl rfl)
theorem dX20_isUnder_7 : decode cX20_isUnder 7 = .ok (.invokespecial 13, 3) := dk_183 0 13 (dk_at dksX20_isUnder_0 7 rfl rfl)
theorem dX20_isUnder_10 : decode cX20_isUnder 10 = .ok (.ifCond .eq 7, 3) := dk_153 0 7 (dk_at dksX20_isUnder_0 10 rfl rfl)
theorem dX20_isUnder_13 : decode cX20_isUnder 13 = .ok (.iconst 1, 1) := dk_4 (dk_at dksX20_isUnder_0 13 rfl rfl)
theorem dX20_isUnder_14 : decode cX20_isUnder 14 = .ok (.goto 4, 3) := dk_167 0 4 (dk_at dksX20_isUnder_0 14 rfl rfl)
theorem dX20_isUnder_17 : decode cX20_isUnder 17 = .ok (.iconst 0, 1) := dk_3 (dk_at dksX20_isUnder_0 17 rfl rfl)
theorem dX20_isUnder_18 : decode cX20_isUnder 18 = .ok (.ireturn, 1) := dk_172 (dk_at dksX20_isUnder_0 18 rfl rfl)
abbrev cX20_kind : ByteArray := prog_2_method_2_code
def yX20_kind : MethodName := ⟨RX20, "kind", "()I"⟩
theorem dX20_kind_0 : decode cX20_kind 0 = .ok (.iconst 3, 1) := by decide +kernel
theorem dX20_kind_1 : decode cX20_kind 1 = .ok (.ireturn, 1) := by decide +kernel
-- two fields of one name: no nmX21
abbrev cX21_init : ByteArray := prog_27_method_1_code
def yX21_init : MethodName := ⟨RX21, "<init>", "(LSpeaksInTurn;I)V"⟩
def dkwX21_init_0 : List UInt8 := [42, 43, 181, 0, 1, 42, 43, 28, 183, 0, 7, 177]
abbrev dktX21_init_0 : List UInt8 := dkwX21_init_0 ++ []
theorem dksX21_init_0 : cX21_init.data.toList.drop 0 = dktX21_init_0 := by decide +kernel
theorem dX21_init_0 : decode cX21_init 0 = .ok (.aload_n 0, 1) := dk_42 (dk_at dksX21_init_0 0 rfl rfl)
theorem dX21_init_1 : decode cX21_init 1 = .ok (.aload_n 1, 1) := dk_43 (dk_at dksX21_init_0 1 rfl rfl)
theorem dX21_init_2 : decode cX21_init 2 = .ok (.putfield 1, 3) := dk_181 0 1 (dk_at dksX21_init_0 2 rfl rfl)
theorem dX21_init_5 : decode cX21_init 5 = .ok (.aload_n 0, 1) := dk_42 (dk_at dksX21_init_0 5 rfl rfl)
theorem dX21_init_6 : decode cX21_init 6 = .ok (.aload_n 1, 1) := dk_43 (dk_at dksX21_init_0 6 rfl rfl)
theorem dX21_init_7 : decode cX21_init 7 = .ok (.iload_n 2, 1) := dk_28 (dk_at dksX21_init_0 7 rfl rfl)
theorem dX21_init_8 : decode cX21_init 8 = .ok (.invokespecial 7, 3) := dk_183 0 7 (dk_at dksX21_init_0 8 rfl rfl)
theorem dX21_init_11 : decode cX21_init 11 = .ok (.return_, 1) := dk_177 (dk_at dksX21_init_0 11 rfl rfl)
abbrev cX21_stops : ByteArray := prog_27_method_4_code
def yX21_stops : MethodName := ⟨RX21, "stops", "(I)I"⟩
def dkwX21_stops_0 : List UInt8 := [42, 180, 0, 1, 16, 50, 182, 0, 17, 42, 27, 183, 0, 23, 61, 28, 42, 5, 182, 0, 27, 100, 172]
abbrev dktX21_stops_0 : List UInt8 := dkwX21_stops_0 ++ []
theorem dksX21_stops_0 : cX21_stops.data.toList.drop 0 = dktX21_stops_0 := by decide +kernel
theorem dX21_stops_0 : decode cX21_stops 0 = .ok (.aload_n 0, 1) := dk_42 (dk_at dksX21_stops_0 0 rfl rfl)
theorem dX21_stops_1 : decode cX21_stops 1 = .ok (.getfield 1, 3) := dk_180 0 1 (dk_at dksX21_stops_0 1 rfl rfl)
theorem dX21_stops_4 : decode cX21_stops 4 = .ok (.bipush 50, 2) := dk_16 50 (dk_at dksX21_stops_0 4 rfl rfl)
theorem dX21_stops_6 : decode cX21_stops 6 = .ok (.invokevirtual 17, 3) := dk_182 0 17 (dk_at dksX21_stops_0 6 rfl rfl)
theorem dX21_stops_9 : decode cX21_stops 9 = .ok (.aload_n 0, 1) := dk_42 (dk_at dksX21_stops_0 9 rfl rfl)
theorem dX21_stops_10 : decode cX21_stops 10 = .ok (.iload_n 1, 1) := dk_27 (dk_at dksX21_stops_0 10 rfl rfl)
theorem dX21_stops_11 : decode cX21_stops 11 = .ok (.invokespecial 23, 3) := dk_183 0 23 (dk_at dksX21_stops_0 11 rfl rfl)
theorem dX21_stops_14 : decode cX21_stops 14 = .ok (.istore_n 2, 1) := dk_61 (dk_at dksX21_stops_0 14 rfl rfl)
theorem dX21_stops_15 : decode cX21_stops 15 = .ok (.iload_n 2, 1) := dk_28 (dk_at dksX21_stops_0 15 rfl rfl)
theorem dX21_stops_16 : decode cX21_stops 16 = .ok (.aload_n 0, 1) := dk_42 (dk_at dksX21_stops_0 16 rfl rfl)
theorem dX21_stops_17 : decode cX21_stops 17 = .ok (.iconst 2, 1) := dk_5 (dk_at dksX21_stops_0 17 rfl rfl)
theorem dX21_stops_18 : decode cX21_stops 18 = .ok (.invokevirtual 27, 3) := dk_182 0 27 (dk_at dksX21_stops_0 18 rfl rfl)
theorem dX21_stops_21 : decode cX21_stops 21 = .ok (.isub, 1) := dk_100 (dk_at dksX21_stops_0 21 rfl rfl)
theorem dX21_stops_22 : decode cX21_stops 22 = .ok (.ireturn, 1) := dk_172 (dk_at dksX21_stops_0 22 rfl rfl)
abbrev cX21_isUnder : ByteArray := prog_27_method_3_code
def yX21_isUnder : MethodName := ⟨RX21, "isUnder", "(I)Z"⟩
def dkwX21_isUnder_0 : List UInt8 := [27, 7, 159, 0, 11, 42, 27, 183, 0, 13, 153, 0, 7, 4, 167, 0, 4, 3, 172]
abbrev dktX21_isUnder_0 : List UInt8 := dkwX21_isUnder_0 ++ []
theorem dksX21_isUnder_0 : cX21_isUnder.data.toList.drop 0 = dktX21_isUnder_0 := by decide +kernel
theorem dX21_isUnder_0 : decode cX21_isUnder 0 = .ok (.iload_n 1, 1) := dk_27 (dk_at dksX21_isUnder_0 0 rfl rfl)
theorem dX21_isUnder_1 : decode cX21_isUnder 1 = .ok (.iconst 4, 1) := dk_7 (dk_at dksX21_isUnder_0 1 rfl rfl)
theorem dX21_isUnder_2 : decode cX21_isUnder 2 = .ok (.if_icmp .eq 11, 3) := dk_159 0 11 (dk_at dksX21_isUnder_0 2 rfl rfl)
theorem dX21_isUnder_5 : decode cX21_isUnder 5 = .ok (.aload_n 0, 1) := dk_42 (dk_at dksX21_isUnder_0 5 rfl rfl)
theorem dX21_isUnder_6 : decode cX21_isUnder 6 = .ok (.iload_n 1, 1) := dk_27 (dk_at dksX21_isUnder_0 6 rfl rfl)
theorem dX21_isUnder_7 : decode cX21_isUnder 7 = .ok (.invokespecial 13, 3) := dk_183 0 13 (dk_at dksX21_isUnder_0 7 rfl rfl)
theorem dX21_isUnder_10 : decode cX21_isUnder 10 = .ok (.ifCond .eq 7, 3) := dk_153 0 7 (dk_at dksX21_isUnder_0 10 rfl rfl)
theorem dX21_isUnder_13 : decode cX21_isUnder 13 = .ok (.iconst 1, 1) := dk_4 (dk_at dksX21_isUnder_0 13 rfl rfl)
theorem dX21_isUnder_14 : decode cX21_isUnder 14 = .ok (.goto 4, 3) := dk_167 0 4 (dk_at dksX21_isUnder_0 14 rfl rfl)
theorem dX21_isUnder_17 : decode cX21_isUnder 17 = .ok (.iconst 0, 1) := dk_3 (dk_at dksX21_isUnder_0 17 rfl rfl)
theorem dX21_isUnder_18 : decode cX21_isUnder 18 = .ok (.ireturn, 1) := dk_172 (dk_at dksX21_isUnder_0 18 rfl rfl)
abbrev cX21_kind : ByteArray := prog_27_method_2_code
def yX21_kind : MethodName := ⟨RX21, "kind", "()I"⟩
theorem dX21_kind_0 : decode cX21_kind 0 = .ok (.iconst 4, 1) := by decide +kernel
theorem dX21_kind_1 : decode cX21_kind 1 = .ok (.ireturn, 1) := by decide +kernel
-- two fields of one name: no nmX22
abbrev cX22_init : ByteArray := prog_28_method_1_code
def yX22_init : MethodName := ⟨RX22, "<init>", "(LSpeaksInTurn;I)V"⟩
def dkwX22_init_0 : List UInt8 := [42, 43, 181, 0, 1, 42, 43, 28, 183, 0, 7, 177]
abbrev dktX22_init_0 : List UInt8 := dkwX22_init_0 ++ []
theorem dksX22_init_0 : cX22_init.data.toList.drop 0 = dktX22_init_0 := by decide +kernel
theorem dX22_init_0 : decode cX22_init 0 = .ok (.aload_n 0, 1) := dk_42 (dk_at dksX22_init_0 0 rfl rfl)
theorem dX22_init_1 : decode cX22_init 1 = .ok (.aload_n 1, 1) := dk_43 (dk_at dksX22_init_0 1 rfl rfl)
theorem dX22_init_2 : decode cX22_init 2 = .ok (.putfield 1, 3) := dk_181 0 1 (dk_at dksX22_init_0 2 rfl rfl)
theorem dX22_init_5 : decode cX22_init 5 = .ok (.aload_n 0, 1) := dk_42 (dk_at dksX22_init_0 5 rfl rfl)
theorem dX22_init_6 : decode cX22_init 6 = .ok (.aload_n 1, 1) := dk_43 (dk_at dksX22_init_0 6 rfl rfl)
theorem dX22_init_7 : decode cX22_init 7 = .ok (.iload_n 2, 1) := dk_28 (dk_at dksX22_init_0 7 rfl rfl)
theorem dX22_init_8 : decode cX22_init 8 = .ok (.invokespecial 7, 3) := dk_183 0 7 (dk_at dksX22_init_0 8 rfl rfl)
theorem dX22_init_11 : decode cX22_init 11 = .ok (.return_, 1) := dk_177 (dk_at dksX22_init_0 11 rfl rfl)
abbrev cX22_tells : ByteArray := prog_28_method_3_code
def yX22_tells : MethodName := ⟨RX22, "tells", "(I)I"⟩
def dkwX22_tells_0 : List UInt8 := [42, 180, 0, 1, 16, 60, 182, 0, 13, 42, 27, 183, 0, 19, 8, 130, 172]
abbrev dktX22_tells_0 : List UInt8 := dkwX22_tells_0 ++ []
theorem dksX22_tells_0 : cX22_tells.data.toList.drop 0 = dktX22_tells_0 := by decide +kernel
theorem dX22_tells_0 : decode cX22_tells 0 = .ok (.aload_n 0, 1) := dk_42 (dk_at dksX22_tells_0 0 rfl rfl)
theorem dX22_tells_1 : decode cX22_tells 1 = .ok (.getfield 1, 3) := dk_180 0 1 (dk_at dksX22_tells_0 1 rfl rfl)
theorem dX22_tells_4 : decode cX22_tells 4 = .ok (.bipush 60, 2) := dk_16 60 (dk_at dksX22_tells_0 4 rfl rfl)
theorem dX22_tells_6 : decode cX22_tells 6 = .ok (.invokevirtual 13, 3) := dk_182 0 13 (dk_at dksX22_tells_0 6 rfl rfl)
theorem dX22_tells_9 : decode cX22_tells 9 = .ok (.aload_n 0, 1) := dk_42 (dk_at dksX22_tells_0 9 rfl rfl)
theorem dX22_tells_10 : decode cX22_tells 10 = .ok (.iload_n 1, 1) := dk_27 (dk_at dksX22_tells_0 10 rfl rfl)
theorem dX22_tells_11 : decode cX22_tells 11 = .ok (.invokespecial 19, 3) := dk_183 0 19 (dk_at dksX22_tells_0 11 rfl rfl)
theorem dX22_tells_14 : decode cX22_tells 14 = .ok (.iconst 5, 1) := dk_8 (dk_at dksX22_tells_0 14 rfl rfl)
theorem dX22_tells_15 : decode cX22_tells 15 = .ok (.ixor, 1) := dk_130 (dk_at dksX22_tells_0 15 rfl rfl)
theorem dX22_tells_16 : decode cX22_tells 16 = .ok (.ireturn, 1) := dk_172 (dk_at dksX22_tells_0 16 rfl rfl)
abbrev cX22_kind : ByteArray := prog_28_method_2_code
def yX22_kind : MethodName := ⟨RX22, "kind", "()I"⟩
theorem dX22_kind_0 : decode cX22_kind 0 = .ok (.iconst 5, 1) := by decide +kernel
theorem dX22_kind_1 : decode cX22_kind 1 = .ok (.ireturn, 1) := by decide +kernel
-- two fields of one name: no nmX23
abbrev cX23_init : ByteArray := prog_8_method_1_code
def yX23_init : MethodName := ⟨RX23, "<init>", "(LSpeaksInTurn;I)V"⟩
def dkwX23_init_0 : List UInt8 := [42, 43, 181, 0, 1, 42, 43, 28, 183, 0, 7, 177]
abbrev dktX23_init_0 : List UInt8 := dkwX23_init_0 ++ []
theorem dksX23_init_0 : cX23_init.data.toList.drop 0 = dktX23_init_0 := by decide +kernel
theorem dX23_init_0 : decode cX23_init 0 = .ok (.aload_n 0, 1) := dk_42 (dk_at dksX23_init_0 0 rfl rfl)
theorem dX23_init_1 : decode cX23_init 1 = .ok (.aload_n 1, 1) := dk_43 (dk_at dksX23_init_0 1 rfl rfl)
theorem dX23_init_2 : decode cX23_init 2 = .ok (.putfield 1, 3) := dk_181 0 1 (dk_at dksX23_init_0 2 rfl rfl)
theorem dX23_init_5 : decode cX23_init 5 = .ok (.aload_n 0, 1) := dk_42 (dk_at dksX23_init_0 5 rfl rfl)
theorem dX23_init_6 : decode cX23_init 6 = .ok (.aload_n 1, 1) := dk_43 (dk_at dksX23_init_0 6 rfl rfl)
theorem dX23_init_7 : decode cX23_init 7 = .ok (.iload_n 2, 1) := dk_28 (dk_at dksX23_init_0 7 rfl rfl)
theorem dX23_init_8 : decode cX23_init 8 = .ok (.invokespecial 7, 3) := dk_183 0 7 (dk_at dksX23_init_0 8 rfl rfl)
theorem dX23_init_11 : decode cX23_init 11 = .ok (.return_, 1) := dk_177 (dk_at dksX23_init_0 11 rfl rfl)
abbrev cX23_knows : ByteArray := prog_8_method_3_code
def yX23_knows : MethodName := ⟨RX23, "knows", "(I)I"⟩
def dkwX23_knows_0 : List UInt8 := [42, 180, 0, 1, 16, 70, 182, 0, 13, 42, 27, 183, 0, 19, 5, 104, 172]
abbrev dktX23_knows_0 : List UInt8 := dkwX23_knows_0 ++ []
theorem dksX23_knows_0 : cX23_knows.data.toList.drop 0 = dktX23_knows_0 := by decide +kernel
theorem dX23_knows_0 : decode cX23_knows 0 = .ok (.aload_n 0, 1) := dk_42 (dk_at dksX23_knows_0 0 rfl rfl)
theorem dX23_knows_1 : decode cX23_knows 1 = .ok (.getfield 1, 3) := dk_180 0 1 (dk_at dksX23_knows_0 1 rfl rfl)
theorem dX23_knows_4 : decode cX23_knows 4 = .ok (.bipush 70, 2) := dk_16 70 (dk_at dksX23_knows_0 4 rfl rfl)
theorem dX23_knows_6 : decode cX23_knows 6 = .ok (.invokevirtual 13, 3) := dk_182 0 13 (dk_at dksX23_knows_0 6 rfl rfl)
theorem dX23_knows_9 : decode cX23_knows 9 = .ok (.aload_n 0, 1) := dk_42 (dk_at dksX23_knows_0 9 rfl rfl)
theorem dX23_knows_10 : decode cX23_knows 10 = .ok (.iload_n 1, 1) := dk_27 (dk_at dksX23_knows_0 10 rfl rfl)
theorem dX23_knows_11 : decode cX23_knows 11 = .ok (.invokespecial 19, 3) := dk_183 0 19 (dk_at dksX23_knows_0 11 rfl rfl)
theorem dX23_knows_14 : decode cX23_knows 14 = .ok (.iconst 2, 1) := dk_5 (dk_at dksX23_knows_0 14 rfl rfl)
theorem dX23_knows_15 : decode cX23_knows 15 = .ok (.imul, 1) := dk_104 (dk_at dksX23_knows_0 15 rfl rfl)
theorem dX23_knows_16 : decode cX23_knows 16 = .ok (.ireturn, 1) := dk_172 (dk_at dksX23_knows_0 16 rfl rfl)
abbrev cX23_kind : ByteArray := prog_8_method_2_code
def yX23_kind : MethodName := ⟨RX23, "kind", "()I"⟩
theorem dX23_kind_0 : decode cX23_kind 0 = .ok (.bipush 6, 2) := by decide +kernel
theorem dX23_kind_2 : decode cX23_kind 2 = .ok (.ireturn, 1) := by decide +kernel
-- two fields of one name: no nmX24
abbrev cX24_init : ByteArray := prog_32_method_1_code
def yX24_init : MethodName := ⟨RX24, "<init>", "(LSpeaksInTurn;I)V"⟩
def dkwX24_init_0 : List UInt8 := [42, 43, 181, 0, 1, 42, 43, 28, 183, 0, 7, 177]
abbrev dktX24_init_0 : List UInt8 := dkwX24_init_0 ++ []
theorem dksX24_init_0 : cX24_init.data.toList.drop 0 = dktX24_init_0 := by decide +kernel
theorem dX24_init_0 : decode cX24_init 0 = .ok (.aload_n 0, 1) := dk_42 (dk_at dksX24_init_0 0 rfl rfl)
theorem dX24_init_1 : decode cX24_init 1 = .ok (.aload_n 1, 1) := dk_43 (dk_at dksX24_init_0 1 rfl rfl)
theorem dX24_init_2 : decode cX24_init 2 = .ok (.putfield 1, 3) := dk_181 0 1 (dk_at dksX24_init_0 2 rfl rfl)
theorem dX24_init_5 : decode cX24_init 5 = .ok (.aload_n 0, 1) := dk_42 (dk_at dksX24_init_0 5 rfl rfl)
theorem dX24_init_6 : decode cX24_init 6 = .ok (.aload_n 1, 1) := dk_43 (dk_at dksX24_init_0 6 rfl rfl)
theorem dX24_init_7 : decode cX24_init 7 = .ok (.iload_n 2, 1) := dk_28 (dk_at dksX24_init_0 7 rfl rfl)
theorem dX24_init_8 : decode cX24_init 8 = .ok (.invokespecial 7, 3) := dk_183 0 7 (dk_at dksX24_init_0 8 rfl rfl)
theorem dX24_init_11 : decode cX24_init 11 = .ok (.return_, 1) := dk_177 (dk_at dksX24_init_0 11 rfl rfl)
abbrev cX24_speaks : ByteArray := prog_32_method_3_code
def yX24_speaks : MethodName := ⟨RX24, "speaks", "(I)I"⟩
def dkwX24_speaks_0 : List UInt8 := [42, 180, 0, 1, 16, 80, 182, 0, 13, 42, 27, 183, 0, 19, 61, 28, 42, 5, 182, 0, 23, 96, 172]
abbrev dktX24_speaks_0 : List UInt8 := dkwX24_speaks_0 ++ []
theorem dksX24_speaks_0 : cX24_speaks.data.toList.drop 0 = dktX24_speaks_0 := by decide +kernel
theorem dX24_speaks_0 : decode cX24_speaks 0 = .ok (.aload_n 0, 1) := dk_42 (dk_at dksX24_speaks_0 0 rfl rfl)
theorem dX24_speaks_1 : decode cX24_speaks 1 = .ok (.getfield 1, 3) := dk_180 0 1 (dk_at dksX24_speaks_0 1 rfl rfl)
theorem dX24_speaks_4 : decode cX24_speaks 4 = .ok (.bipush 80, 2) := dk_16 80 (dk_at dksX24_speaks_0 4 rfl rfl)
theorem dX24_speaks_6 : decode cX24_speaks 6 = .ok (.invokevirtual 13, 3) := dk_182 0 13 (dk_at dksX24_speaks_0 6 rfl rfl)
theorem dX24_speaks_9 : decode cX24_speaks 9 = .ok (.aload_n 0, 1) := dk_42 (dk_at dksX24_speaks_0 9 rfl rfl)
theorem dX24_speaks_10 : decode cX24_speaks 10 = .ok (.iload_n 1, 1) := dk_27 (dk_at dksX24_speaks_0 10 rfl rfl)
theorem dX24_speaks_11 : decode cX24_speaks 11 = .ok (.invokespecial 19, 3) := dk_183 0 19 (dk_at dksX24_speaks_0 11 rfl rfl)
theorem dX24_speaks_14 : decode cX24_speaks 14 = .ok (.istore_n 2, 1) := dk_61 (dk_at dksX24_speaks_0 14 rfl rfl)
theorem dX24_speaks_15 : decode cX24_speaks 15 = .ok (.iload_n 2, 1) := dk_28 (dk_at dksX24_speaks_0 15 rfl rfl)
theorem dX24_speaks_16 : decode cX24_speaks 16 = .ok (.aload_n 0, 1) := dk_42 (dk_at dksX24_speaks_0 16 rfl rfl)
theorem dX24_speaks_17 : decode cX24_speaks 17 = .ok (.iconst 2, 1) := dk_5 (dk_at dksX24_speaks_0 17 rfl rfl)
theorem dX24_speaks_18 : decode cX24_speaks 18 = .ok (.invokevirtual 23, 3) := dk_182 0 23 (dk_at dksX24_speaks_0 18 rfl rfl)
theorem dX24_speaks_21 : decode cX24_speaks 21 = .ok (.iadd, 1) := dk_96 (dk_at dksX24_speaks_0 21 rfl rfl)
theorem dX24_speaks_22 : decode cX24_speaks 22 = .ok (.ireturn, 1) := dk_172 (dk_at dksX24_speaks_0 22 rfl rfl)
abbrev cX24_tells : ByteArray := prog_32_method_4_code
def yX24_tells : MethodName := ⟨RX24, "tells", "(I)I"⟩
def dkwX24_tells_0 : List UInt8 := [42, 180, 0, 1, 16, 81, 182, 0, 13, 42, 27, 183, 0, 26, 4, 100, 172]
abbrev dktX24_tells_0 : List UInt8 := dkwX24_tells_0 ++ []
theorem dksX24_tells_0 : cX24_tells.data.toList.drop 0 = dktX24_tells_0 := by decide +kernel
theorem dX24_tells_0 : decode cX24_tells 0 = .ok (.aload_n 0, 1) := dk_42 (dk_at dksX24_tells_0 0 rfl rfl)
theorem dX24_tells_1 : decode cX24_tells 1 = .ok (.getfield 1, 3) := dk_180 0 1 (dk_at dksX24_tells_0 1 rfl rfl)
theorem dX24_tells_4 : decode cX24_tells 4 = .ok (.bipush 81, 2) := dk_16 81 (dk_at dksX24_tells_0 4 rfl rfl)
theorem dX24_tells_6 : decode cX24_tells 6 = .ok (.invokevirtual 13, 3) := dk_182 0 13 (dk_at dksX24_tells_0 6 rfl rfl)
theorem dX24_tells_9 : decode cX24_tells 9 = .ok (.aload_n 0, 1) := dk_42 (dk_at dksX24_tells_0 9 rfl rfl)
theorem dX24_tells_10 : decode cX24_tells 10 = .ok (.iload_n 1, 1) := dk_27 (dk_at dksX24_tells_0 10 rfl rfl)
theorem dX24_tells_11 : decode cX24_tells 11 = .ok (.invokespecial 26, 3) := dk_183 0 26 (dk_at dksX24_tells_0 11 rfl rfl)
theorem dX24_tells_14 : decode cX24_tells 14 = .ok (.iconst 1, 1) := dk_4 (dk_at dksX24_tells_0 14 rfl rfl)
theorem dX24_tells_15 : decode cX24_tells 15 = .ok (.isub, 1) := dk_100 (dk_at dksX24_tells_0 15 rfl rfl)
theorem dX24_tells_16 : decode cX24_tells 16 = .ok (.ireturn, 1) := dk_172 (dk_at dksX24_tells_0 16 rfl rfl)
abbrev cX24_kind : ByteArray := prog_32_method_2_code
def yX24_kind : MethodName := ⟨RX24, "kind", "()I"⟩
theorem dX24_kind_0 : decode cX24_kind 0 = .ok (.bipush 7, 2) := by decide +kernel
theorem dX24_kind_2 : decode cX24_kind 2 = .ok (.ireturn, 1) := by decide +kernel
abbrev cX25_init : ByteArray := prog_24_method_1_code
def yX25_init : MethodName := ⟨RX25, "<init>", "()V"⟩
theorem dX25_init_0 : decode cX25_init 0 = .ok (.aload_n 0, 1) := by decide +kernel
theorem dX25_init_1 : decode cX25_init 1 = .ok (.invokespecial 1, 3) := by decide +kernel
theorem dX25_init_4 : decode cX25_init 4 = .ok (.return_, 1) := by decide +kernel
abbrev cX26_size : ByteArray := prog_4_method_3_code
def yX26_size : MethodName := ⟨RX26, "size", "()I"⟩
def dkwX26_size_0 : List UInt8 := [42, 180, 0, 7, 190, 172]
abbrev dktX26_size_0 : List UInt8 := dkwX26_size_0 ++ []
theorem dksX26_size_0 : cX26_size.data.toList.drop 0 = dktX26_size_0 := by decide +kernel
theorem dX26_size_0 : decode cX26_size 0 = .ok (.aload_n 0, 1) := dk_42 (dk_at dksX26_size_0 0 rfl rfl)
theorem dX26_size_1 : decode cX26_size 1 = .ok (.getfield 7, 3) := dk_180 0 7 (dk_at dksX26_size_0 1 rfl rfl)
theorem dX26_size_4 : decode cX26_size 4 = .ok (.arraylength, 1) := dk_190 (dk_at dksX26_size_0 4 rfl rfl)
theorem dX26_size_5 : decode cX26_size 5 = .ok (.ireturn, 1) := dk_172 (dk_at dksX26_size_0 5 rfl rfl)
abbrev cX26_at : ByteArray := prog_4_method_4_code
def yX26_at : MethodName := ⟨RX26, "at", "(I)J"⟩
def dkwX26_at_0 : List UInt8 := [42, 180, 0, 7, 27, 51, 133, 173]
abbrev dktX26_at_0 : List UInt8 := dkwX26_at_0 ++ []
theorem dksX26_at_0 : cX26_at.data.toList.drop 0 = dktX26_at_0 := by decide +kernel
theorem dX26_at_0 : decode cX26_at 0 = .ok (.aload_n 0, 1) := dk_42 (dk_at dksX26_at_0 0 rfl rfl)
theorem dX26_at_1 : decode cX26_at 1 = .ok (.getfield 7, 3) := dk_180 0 7 (dk_at dksX26_at_0 1 rfl rfl)
theorem dX26_at_4 : decode cX26_at 4 = .ok (.iload_n 1, 1) := dk_27 (dk_at dksX26_at_0 4 rfl rfl)
theorem dX26_at_5 : decode cX26_at 5 = .ok (.baload, 1) := dk_51 (dk_at dksX26_at_0 5 rfl rfl)
theorem dX26_at_6 : decode cX26_at 6 = .ok (.i2l, 1) := dk_133 (dk_at dksX26_at_0 6 rfl rfl)
theorem dX26_at_7 : decode cX26_at 7 = .ok (.lreturn, 1) := dk_173 (dk_at dksX26_at_0 7 rfl rfl)
abbrev cX26_init : ByteArray := prog_4_method_1_code
def yX26_init : MethodName := ⟨RX26, "<init>", "(I)V"⟩
def dkwX26_init_0 : List UInt8 := [42, 183, 0, 1, 42, 27, 188, 8, 181, 0, 7, 177]
abbrev dktX26_init_0 : List UInt8 := dkwX26_init_0 ++ []
theorem dksX26_init_0 : cX26_init.data.toList.drop 0 = dktX26_init_0 := by decide +kernel
theorem dX26_init_0 : decode cX26_init 0 = .ok (.aload_n 0, 1) := dk_42 (dk_at dksX26_init_0 0 rfl rfl)
theorem dX26_init_1 : decode cX26_init 1 = .ok (.invokespecial 1, 3) := dk_183 0 1 (dk_at dksX26_init_0 1 rfl rfl)
theorem dX26_init_4 : decode cX26_init 4 = .ok (.aload_n 0, 1) := dk_42 (dk_at dksX26_init_0 4 rfl rfl)
theorem dX26_init_5 : decode cX26_init 5 = .ok (.iload_n 1, 1) := dk_27 (dk_at dksX26_init_0 5 rfl rfl)
theorem dX26_init_6 : decode cX26_init 6 = .ok (.newarray .byte, 2) := dk_188_8 (dk_at dksX26_init_0 6 rfl rfl)
theorem dX26_init_8 : decode cX26_init 8 = .ok (.putfield 7, 3) := dk_181 0 7 (dk_at dksX26_init_0 8 rfl rfl)
theorem dX26_init_11 : decode cX26_init 11 = .ok (.return_, 1) := dk_177 (dk_at dksX26_init_0 11 rfl rfl)
abbrev cX26_put : ByteArray := prog_4_method_5_code
def yX26_put : MethodName := ⟨RX26, "put", "(IJ)Z"⟩
def dkwX26_put_0 : List UInt8 := [42, 180, 0, 7, 27, 32, 136, 145, 84, 4, 172]
abbrev dktX26_put_0 : List UInt8 := dkwX26_put_0 ++ []
theorem dksX26_put_0 : cX26_put.data.toList.drop 0 = dktX26_put_0 := by decide +kernel
theorem dX26_put_0 : decode cX26_put 0 = .ok (.aload_n 0, 1) := dk_42 (dk_at dksX26_put_0 0 rfl rfl)
theorem dX26_put_1 : decode cX26_put 1 = .ok (.getfield 7, 3) := dk_180 0 7 (dk_at dksX26_put_0 1 rfl rfl)
theorem dX26_put_4 : decode cX26_put 4 = .ok (.iload_n 1, 1) := dk_27 (dk_at dksX26_put_0 4 rfl rfl)
theorem dX26_put_5 : decode cX26_put 5 = .ok (.lload_n 2, 1) := dk_32 (dk_at dksX26_put_0 5 rfl rfl)
theorem dX26_put_6 : decode cX26_put 6 = .ok (.l2i, 1) := dk_136 (dk_at dksX26_put_0 6 rfl rfl)
theorem dX26_put_7 : decode cX26_put 7 = .ok (.i2b, 1) := dk_145 (dk_at dksX26_put_0 7 rfl rfl)
theorem dX26_put_8 : decode cX26_put 8 = .ok (.bastore, 1) := dk_84 (dk_at dksX26_put_0 8 rfl rfl)
theorem dX26_put_9 : decode cX26_put 9 = .ok (.iconst 1, 1) := dk_4 (dk_at dksX26_put_0 9 rfl rfl)
theorem dX26_put_10 : decode cX26_put 10 = .ok (.ireturn, 1) := dk_172 (dk_at dksX26_put_0 10 rfl rfl)
abbrev cX26_copy : ByteArray := prog_4_method_6_code
def yX26_copy : MethodName := ⟨RX26, "copy", "(ILSpeaksInTurn$Row;II)V"⟩
def dkwX26_copy_0 : List UInt8 := [42, 180, 0, 7, 27, 44, 192, 0, 8, 180, 0, 7, 29, 21, 4, 184, 0, 13, 177]
abbrev dktX26_copy_0 : List UInt8 := dkwX26_copy_0 ++ []
theorem dksX26_copy_0 : cX26_copy.data.toList.drop 0 = dktX26_copy_0 := by decide +kernel
theorem dX26_copy_0 : decode cX26_copy 0 = .ok (.aload_n 0, 1) := dk_42 (dk_at dksX26_copy_0 0 rfl rfl)
theorem dX26_copy_1 : decode cX26_copy 1 = .ok (.getfield 7, 3) := dk_180 0 7 (dk_at dksX26_copy_0 1 rfl rfl)
theorem dX26_copy_4 : decode cX26_copy 4 = .ok (.iload_n 1, 1) := dk_27 (dk_at dksX26_copy_0 4 rfl rfl)
theorem dX26_copy_5 : decode cX26_copy 5 = .ok (.aload_n 2, 1) := dk_44 (dk_at dksX26_copy_0 5 rfl rfl)
theorem dX26_copy_6 : decode cX26_copy 6 = .ok (.checkcast 8, 3) := dk_192 0 8 (dk_at dksX26_copy_0 6 rfl rfl)
theorem dX26_copy_9 : decode cX26_copy 9 = .ok (.getfield 7, 3) := dk_180 0 7 (dk_at dksX26_copy_0 9 rfl rfl)
theorem dX26_copy_12 : decode cX26_copy 12 = .ok (.iload_n 3, 1) := dk_29 (dk_at dksX26_copy_0 12 rfl rfl)
theorem dX26_copy_13 : decode cX26_copy 13 = .ok (.iload 4, 2) := dk_21 4 (dk_at dksX26_copy_0 13 rfl rfl)
theorem dX26_copy_15 : decode cX26_copy 15 = .ok (.invokestatic 13, 3) := dk_184 0 13 (dk_at dksX26_copy_0 15 rfl rfl)
theorem dX26_copy_18 : decode cX26_copy 18 = .ok (.return_, 1) := dk_177 (dk_at dksX26_copy_0 18 rfl rfl)
abbrev cX27_at : ByteArray := prog_26_method_4_code
def yX27_at : MethodName := ⟨RX27, "at", "(I)J"⟩
def dkwX27_at_0 : List UInt8 := [42, 180, 0, 7, 27, 53, 133, 173]
abbrev dktX27_at_0 : List UInt8 := dkwX27_at_0 ++ []
theorem dksX27_at_0 : cX27_at.data.toList.drop 0 = dktX27_at_0 := by decide +kernel
theorem dX27_at_0 : decode cX27_at 0 = .ok (.aload_n 0, 1) := dk_42 (dk_at dksX27_at_0 0 rfl rfl)
theorem dX27_at_1 : decode cX27_at 1 = .ok (.getfield 7, 3) := dk_180 0 7 (dk_at dksX27_at_0 1 rfl rfl)
theorem dX27_at_4 : decode cX27_at 4 = .ok (.iload_n 1, 1) := dk_27 (dk_at dksX27_at_0 4 rfl rfl)
theorem dX27_at_5 : decode cX27_at 5 = .ok (.saload, 1) := dk_53 (dk_at dksX27_at_0 5 rfl rfl)
theorem dX27_at_6 : decode cX27_at 6 = .ok (.i2l, 1) := dk_133 (dk_at dksX27_at_0 6 rfl rfl)
theorem dX27_at_7 : decode cX27_at 7 = .ok (.lreturn, 1) := dk_173 (dk_at dksX27_at_0 7 rfl rfl)
abbrev cX27_init : ByteArray := prog_26_method_1_code
def yX27_init : MethodName := ⟨RX27, "<init>", "(I)V"⟩
def dkwX27_init_0 : List UInt8 := [42, 183, 0, 1, 42, 27, 188, 9, 181, 0, 7, 177]
abbrev dktX27_init_0 : List UInt8 := dkwX27_init_0 ++ []
theorem dksX27_init_0 : cX27_init.data.toList.drop 0 = dktX27_init_0 := by decide +kernel
theorem dX27_init_0 : decode cX27_init 0 = .ok (.aload_n 0, 1) := dk_42 (dk_at dksX27_init_0 0 rfl rfl)
theorem dX27_init_1 : decode cX27_init 1 = .ok (.invokespecial 1, 3) := dk_183 0 1 (dk_at dksX27_init_0 1 rfl rfl)
theorem dX27_init_4 : decode cX27_init 4 = .ok (.aload_n 0, 1) := dk_42 (dk_at dksX27_init_0 4 rfl rfl)
theorem dX27_init_5 : decode cX27_init 5 = .ok (.iload_n 1, 1) := dk_27 (dk_at dksX27_init_0 5 rfl rfl)
theorem dX27_init_6 : decode cX27_init 6 = .ok (.newarray .short, 2) := dk_188_9 (dk_at dksX27_init_0 6 rfl rfl)
theorem dX27_init_8 : decode cX27_init 8 = .ok (.putfield 7, 3) := dk_181 0 7 (dk_at dksX27_init_0 8 rfl rfl)
theorem dX27_init_11 : decode cX27_init 11 = .ok (.return_, 1) := dk_177 (dk_at dksX27_init_0 11 rfl rfl)
abbrev cX27_put : ByteArray := prog_26_method_5_code
def yX27_put : MethodName := ⟨RX27, "put", "(IJ)Z"⟩
def dkwX27_put_0 : List UInt8 := [42, 180, 0, 7, 27, 32, 136, 147, 86, 4, 172]
abbrev dktX27_put_0 : List UInt8 := dkwX27_put_0 ++ []
theorem dksX27_put_0 : cX27_put.data.toList.drop 0 = dktX27_put_0 := by decide +kernel
theorem dX27_put_0 : decode cX27_put 0 = .ok (.aload_n 0, 1) := dk_42 (dk_at dksX27_put_0 0 rfl rfl)
theorem dX27_put_1 : decode cX27_put 1 = .ok (.getfield 7, 3) := dk_180 0 7 (dk_at dksX27_put_0 1 rfl rfl)
theorem dX27_put_4 : decode cX27_put 4 = .ok (.iload_n 1, 1) := dk_27 (dk_at dksX27_put_0 4 rfl rfl)
theorem dX27_put_5 : decode cX27_put 5 = .ok (.lload_n 2, 1) := dk_32 (dk_at dksX27_put_0 5 rfl rfl)
theorem dX27_put_6 : decode cX27_put 6 = .ok (.l2i, 1) := dk_136 (dk_at dksX27_put_0 6 rfl rfl)
theorem dX27_put_7 : decode cX27_put 7 = .ok (.i2s, 1) := dk_147 (dk_at dksX27_put_0 7 rfl rfl)
theorem dX27_put_8 : decode cX27_put 8 = .ok (.sastore, 1) := dk_86 (dk_at dksX27_put_0 8 rfl rfl)
theorem dX27_put_9 : decode cX27_put 9 = .ok (.iconst 1, 1) := dk_4 (dk_at dksX27_put_0 9 rfl rfl)
theorem dX27_put_10 : decode cX27_put 10 = .ok (.ireturn, 1) := dk_172 (dk_at dksX27_put_0 10 rfl rfl)
abbrev cX27_copy : ByteArray := prog_26_method_6_code
def yX27_copy : MethodName := ⟨RX27, "copy", "(ILSpeaksInTurn$Row;II)V"⟩
def dkwX27_copy_0 : List UInt8 := [42, 180, 0, 7, 27, 44, 192, 0, 8, 180, 0, 7, 29, 21, 4, 184, 0, 13, 177]
abbrev dktX27_copy_0 : List UInt8 := dkwX27_copy_0 ++ []
theorem dksX27_copy_0 : cX27_copy.data.toList.drop 0 = dktX27_copy_0 := by decide +kernel
theorem dX27_copy_0 : decode cX27_copy 0 = .ok (.aload_n 0, 1) := dk_42 (dk_at dksX27_copy_0 0 rfl rfl)
theorem dX27_copy_1 : decode cX27_copy 1 = .ok (.getfield 7, 3) := dk_180 0 7 (dk_at dksX27_copy_0 1 rfl rfl)
theorem dX27_copy_4 : decode cX27_copy 4 = .ok (.iload_n 1, 1) := dk_27 (dk_at dksX27_copy_0 4 rfl rfl)
theorem dX27_copy_5 : decode cX27_copy 5 = .ok (.aload_n 2, 1) := dk_44 (dk_at dksX27_copy_0 5 rfl rfl)
theorem dX27_copy_6 : decode cX27_copy 6 = .ok (.checkcast 8, 3) := dk_192 0 8 (dk_at dksX27_copy_0 6 rfl rfl)
theorem dX27_copy_9 : decode cX27_copy 9 = .ok (.getfield 7, 3) := dk_180 0 7 (dk_at dksX27_copy_0 9 rfl rfl)
theorem dX27_copy_12 : decode cX27_copy 12 = .ok (.iload_n 3, 1) := dk_29 (dk_at dksX27_copy_0 12 rfl rfl)
theorem dX27_copy_13 : decode cX27_copy 13 = .ok (.iload 4, 2) := dk_21 4 (dk_at dksX27_copy_0 13 rfl rfl)
theorem dX27_copy_15 : decode cX27_copy 15 = .ok (.invokestatic 13, 3) := dk_184 0 13 (dk_at dksX27_copy_0 15 rfl rfl)
theorem dX27_copy_18 : decode cX27_copy 18 = .ok (.return_, 1) := dk_177 (dk_at dksX27_copy_0 18 rfl rfl)
abbrev cX28_init : ByteArray := prog_11_method_1_code
def yX28_init : MethodName := ⟨RX28, "<init>", "(I)V"⟩
def dkwX28_init_0 : List UInt8 := [42, 183, 0, 1, 42, 27, 188, 10, 181, 0, 7, 177]
abbrev dktX28_init_0 : List UInt8 := dkwX28_init_0 ++ []
theorem dksX28_init_0 : cX28_init.data.toList.drop 0 = dktX28_init_0 := by decide +kernel
theorem dX28_init_0 : decode cX28_init 0 = .ok (.aload_n 0, 1) := dk_42 (dk_at dksX28_init_0 0 rfl rfl)
theorem dX28_init_1 : decode cX28_init 1 = .ok (.invokespecial 1, 3) := dk_183 0 1 (dk_at dksX28_init_0 1 rfl rfl)
theorem dX28_init_4 : decode cX28_init 4 = .ok (.aload_n 0, 1) := dk_42 (dk_at dksX28_init_0 4 rfl rfl)
theorem dX28_init_5 : decode cX28_init 5 = .ok (.iload_n 1, 1) := dk_27 (dk_at dksX28_init_0 5 rfl rfl)
theorem dX28_init_6 : decode cX28_init 6 = .ok (.newarray .int, 2) := dk_188_10 (dk_at dksX28_init_0 6 rfl rfl)
theorem dX28_init_8 : decode cX28_init 8 = .ok (.putfield 7, 3) := dk_181 0 7 (dk_at dksX28_init_0 8 rfl rfl)
theorem dX28_init_11 : decode cX28_init 11 = .ok (.return_, 1) := dk_177 (dk_at dksX28_init_0 11 rfl rfl)
abbrev cX28_put : ByteArray := prog_11_method_5_code
def yX28_put : MethodName := ⟨RX28, "put", "(IJ)Z"⟩
def dkwX28_put_0 : List UInt8 := [42, 180, 0, 7, 27, 32, 136, 79, 4, 172]
abbrev dktX28_put_0 : List UInt8 := dkwX28_put_0 ++ []
theorem dksX28_put_0 : cX28_put.data.toList.drop 0 = dktX28_put_0 := by decide +kernel
theorem dX28_put_0 : decode cX28_put 0 = .ok (.aload_n 0, 1) := dk_42 (dk_at dksX28_put_0 0 rfl rfl)
theorem dX28_put_1 : decode cX28_put 1 = .ok (.getfield 7, 3) := dk_180 0 7 (dk_at dksX28_put_0 1 rfl rfl)
theorem dX28_put_4 : decode cX28_put 4 = .ok (.iload_n 1, 1) := dk_27 (dk_at dksX28_put_0 4 rfl rfl)
theorem dX28_put_5 : decode cX28_put 5 = .ok (.lload_n 2, 1) := dk_32 (dk_at dksX28_put_0 5 rfl rfl)
theorem dX28_put_6 : decode cX28_put 6 = .ok (.l2i, 1) := dk_136 (dk_at dksX28_put_0 6 rfl rfl)
theorem dX28_put_7 : decode cX28_put 7 = .ok (.iastore, 1) := dk_79 (dk_at dksX28_put_0 7 rfl rfl)
theorem dX28_put_8 : decode cX28_put 8 = .ok (.iconst 1, 1) := dk_4 (dk_at dksX28_put_0 8 rfl rfl)
theorem dX28_put_9 : decode cX28_put 9 = .ok (.ireturn, 1) := dk_172 (dk_at dksX28_put_0 9 rfl rfl)
abbrev cX28_at : ByteArray := prog_11_method_4_code
def yX28_at : MethodName := ⟨RX28, "at", "(I)J"⟩
def dkwX28_at_0 : List UInt8 := [42, 180, 0, 7, 27, 46, 133, 173]
abbrev dktX28_at_0 : List UInt8 := dkwX28_at_0 ++ []
theorem dksX28_at_0 : cX28_at.data.toList.drop 0 = dktX28_at_0 := by decide +kernel
theorem dX28_at_0 : decode cX28_at 0 = .ok (.aload_n 0, 1) := dk_42 (dk_at dksX28_at_0 0 rfl rfl)
theorem dX28_at_1 : decode cX28_at 1 = .ok (.getfield 7, 3) := dk_180 0 7 (dk_at dksX28_at_0 1 rfl rfl)
theorem dX28_at_4 : decode cX28_at 4 = .ok (.iload_n 1, 1) := dk_27 (dk_at dksX28_at_0 4 rfl rfl)
theorem dX28_at_5 : decode cX28_at 5 = .ok (.iaload, 1) := dk_46 (dk_at dksX28_at_0 5 rfl rfl)
theorem dX28_at_6 : decode cX28_at 6 = .ok (.i2l, 1) := dk_133 (dk_at dksX28_at_0 6 rfl rfl)
theorem dX28_at_7 : decode cX28_at 7 = .ok (.lreturn, 1) := dk_173 (dk_at dksX28_at_0 7 rfl rfl)
abbrev cX28_copy : ByteArray := prog_11_method_6_code
def yX28_copy : MethodName := ⟨RX28, "copy", "(ILSpeaksInTurn$Row;II)V"⟩
def dkwX28_copy_0 : List UInt8 := [42, 180, 0, 7, 27, 44, 192, 0, 8, 180, 0, 7, 29, 21, 4, 184, 0, 13, 177]
abbrev dktX28_copy_0 : List UInt8 := dkwX28_copy_0 ++ []
theorem dksX28_copy_0 : cX28_copy.data.toList.drop 0 = dktX28_copy_0 := by decide +kernel
theorem dX28_copy_0 : decode cX28_copy 0 = .ok (.aload_n 0, 1) := dk_42 (dk_at dksX28_copy_0 0 rfl rfl)
theorem dX28_copy_1 : decode cX28_copy 1 = .ok (.getfield 7, 3) := dk_180 0 7 (dk_at dksX28_copy_0 1 rfl rfl)
theorem dX28_copy_4 : decode cX28_copy 4 = .ok (.iload_n 1, 1) := dk_27 (dk_at dksX28_copy_0 4 rfl rfl)
theorem dX28_copy_5 : decode cX28_copy 5 = .ok (.aload_n 2, 1) := dk_44 (dk_at dksX28_copy_0 5 rfl rfl)
theorem dX28_copy_6 : decode cX28_copy 6 = .ok (.checkcast 8, 3) := dk_192 0 8 (dk_at dksX28_copy_0 6 rfl rfl)
theorem dX28_copy_9 : decode cX28_copy 9 = .ok (.getfield 7, 3) := dk_180 0 7 (dk_at dksX28_copy_0 9 rfl rfl)
theorem dX28_copy_12 : decode cX28_copy 12 = .ok (.iload_n 3, 1) := dk_29 (dk_at dksX28_copy_0 12 rfl rfl)
theorem dX28_copy_13 : decode cX28_copy 13 = .ok (.iload 4, 2) := dk_21 4 (dk_at dksX28_copy_0 13 rfl rfl)
theorem dX28_copy_15 : decode cX28_copy 15 = .ok (.invokestatic 13, 3) := dk_184 0 13 (dk_at dksX28_copy_0 15 rfl rfl)
theorem dX28_copy_18 : decode cX28_copy 18 = .ok (.return_, 1) := dk_177 (dk_at dksX28_copy_0 18 rfl rfl)
abbrev cX29_init : ByteArray := prog_15_method_1_code
def yX29_init : MethodName := ⟨RX29, "<init>", "(I)V"⟩
def dkwX29_init_0 : List UInt8 := [42, 183, 0, 1, 42, 27, 188, 11, 181, 0, 7, 177]
abbrev dktX29_init_0 : List UInt8 := dkwX29_init_0 ++ []
theorem dksX29_init_0 : cX29_init.data.toList.drop 0 = dktX29_init_0 := by decide +kernel
theorem dX29_init_0 : decode cX29_init 0 = .ok (.aload_n 0, 1) := dk_42 (dk_at dksX29_init_0 0 rfl rfl)
theorem dX29_init_1 : decode cX29_init 1 = .ok (.invokespecial 1, 3) := dk_183 0 1 (dk_at dksX29_init_0 1 rfl rfl)
theorem dX29_init_4 : decode cX29_init 4 = .ok (.aload_n 0, 1) := dk_42 (dk_at dksX29_init_0 4 rfl rfl)
theorem dX29_init_5 : decode cX29_init 5 = .ok (.iload_n 1, 1) := dk_27 (dk_at dksX29_init_0 5 rfl rfl)
theorem dX29_init_6 : decode cX29_init 6 = .ok (.newarray .long, 2) := dk_188_11 (dk_at dksX29_init_0 6 rfl rfl)
theorem dX29_init_8 : decode cX29_init 8 = .ok (.putfield 7, 3) := dk_181 0 7 (dk_at dksX29_init_0 8 rfl rfl)
theorem dX29_init_11 : decode cX29_init 11 = .ok (.return_, 1) := dk_177 (dk_at dksX29_init_0 11 rfl rfl)
abbrev cX29_put : ByteArray := prog_15_method_5_code
def yX29_put : MethodName := ⟨RX29, "put", "(IJ)Z"⟩
def dkwX29_put_0 : List UInt8 := [42, 180, 0, 7, 27, 32, 80, 4, 172]
abbrev dktX29_put_0 : List UInt8 := dkwX29_put_0 ++ []
theorem dksX29_put_0 : cX29_put.data.toList.drop 0 = dktX29_put_0 := by decide +kernel
theorem dX29_put_0 : decode cX29_put 0 = .ok (.aload_n 0, 1) := dk_42 (dk_at dksX29_put_0 0 rfl rfl)
theorem dX29_put_1 : decode cX29_put 1 = .ok (.getfield 7, 3) := dk_180 0 7 (dk_at dksX29_put_0 1 rfl rfl)
theorem dX29_put_4 : decode cX29_put 4 = .ok (.iload_n 1, 1) := dk_27 (dk_at dksX29_put_0 4 rfl rfl)
theorem dX29_put_5 : decode cX29_put 5 = .ok (.lload_n 2, 1) := dk_32 (dk_at dksX29_put_0 5 rfl rfl)
theorem dX29_put_6 : decode cX29_put 6 = .ok (.lastore, 1) := dk_80 (dk_at dksX29_put_0 6 rfl rfl)
theorem dX29_put_7 : decode cX29_put 7 = .ok (.iconst 1, 1) := dk_4 (dk_at dksX29_put_0 7 rfl rfl)
theorem dX29_put_8 : decode cX29_put 8 = .ok (.ireturn, 1) := dk_172 (dk_at dksX29_put_0 8 rfl rfl)
abbrev cX29_at : ByteArray := prog_15_method_4_code
def yX29_at : MethodName := ⟨RX29, "at", "(I)J"⟩
def dkwX29_at_0 : List UInt8 := [42, 180, 0, 7, 27, 47, 173]
abbrev dktX29_at_0 : List UInt8 := dkwX29_at_0 ++ []
theorem dksX29_at_0 : cX29_at.data.toList.drop 0 = dktX29_at_0 := by decide +kernel
theorem dX29_at_0 : decode cX29_at 0 = .ok (.aload_n 0, 1) := dk_42 (dk_at dksX29_at_0 0 rfl rfl)
theorem dX29_at_1 : decode cX29_at 1 = .ok (.getfield 7, 3) := dk_180 0 7 (dk_at dksX29_at_0 1 rfl rfl)
theorem dX29_at_4 : decode cX29_at 4 = .ok (.iload_n 1, 1) := dk_27 (dk_at dksX29_at_0 4 rfl rfl)
theorem dX29_at_5 : decode cX29_at 5 = .ok (.laload, 1) := dk_47 (dk_at dksX29_at_0 5 rfl rfl)
theorem dX29_at_6 : decode cX29_at 6 = .ok (.lreturn, 1) := dk_173 (dk_at dksX29_at_0 6 rfl rfl)
abbrev cX29_copy : ByteArray := prog_15_method_6_code
def yX29_copy : MethodName := ⟨RX29, "copy", "(ILSpeaksInTurn$Row;II)V"⟩
def dkwX29_copy_0 : List UInt8 := [42, 180, 0, 7, 27, 44, 192, 0, 8, 180, 0, 7, 29, 21, 4, 184, 0, 13, 177]
abbrev dktX29_copy_0 : List UInt8 := dkwX29_copy_0 ++ []
theorem dksX29_copy_0 : cX29_copy.data.toList.drop 0 = dktX29_copy_0 := by decide +kernel
theorem dX29_copy_0 : decode cX29_copy 0 = .ok (.aload_n 0, 1) := dk_42 (dk_at dksX29_copy_0 0 rfl rfl)
theorem dX29_copy_1 : decode cX29_copy 1 = .ok (.getfield 7, 3) := dk_180 0 7 (dk_at dksX29_copy_0 1 rfl rfl)
theorem dX29_copy_4 : decode cX29_copy 4 = .ok (.iload_n 1, 1) := dk_27 (dk_at dksX29_copy_0 4 rfl rfl)
theorem dX29_copy_5 : decode cX29_copy 5 = .ok (.aload_n 2, 1) := dk_44 (dk_at dksX29_copy_0 5 rfl rfl)
theorem dX29_copy_6 : decode cX29_copy 6 = .ok (.checkcast 8, 3) := dk_192 0 8 (dk_at dksX29_copy_0 6 rfl rfl)
theorem dX29_copy_9 : decode cX29_copy 9 = .ok (.getfield 7, 3) := dk_180 0 7 (dk_at dksX29_copy_0 9 rfl rfl)
theorem dX29_copy_12 : decode cX29_copy 12 = .ok (.iload_n 3, 1) := dk_29 (dk_at dksX29_copy_0 12 rfl rfl)
theorem dX29_copy_13 : decode cX29_copy 13 = .ok (.iload 4, 2) := dk_21 4 (dk_at dksX29_copy_0 13 rfl rfl)
theorem dX29_copy_15 : decode cX29_copy 15 = .ok (.invokestatic 13, 3) := dk_184 0 13 (dk_at dksX29_copy_0 15 rfl rfl)
theorem dX29_copy_18 : decode cX29_copy 18 = .ok (.return_, 1) := dk_177 (dk_at dksX29_copy_0 18 rfl rfl)
abbrev cX30_init : ByteArray := prog_3_method_1_code
def yX30_init : MethodName := ⟨RX30, "<init>", "(I)V"⟩
def dkwX30_init_0 : List UInt8 := [42, 183, 0, 1, 42, 27, 188, 4, 181, 0, 7, 177]
abbrev dktX30_init_0 : List UInt8 := dkwX30_init_0 ++ []
theorem dksX30_init_0 : cX30_init.data.toList.drop 0 = dktX30_init_0 := by decide +kernel
theorem dX30_init_0 : decode cX30_init 0 = .ok (.aload_n 0, 1) := dk_42 (dk_at dksX30_init_0 0 rfl rfl)
theorem dX30_init_1 : decode cX30_init 1 = .ok (.invokespecial 1, 3) := dk_183 0 1 (dk_at dksX30_init_0 1 rfl rfl)
theorem dX30_init_4 : decode cX30_init 4 = .ok (.aload_n 0, 1) := dk_42 (dk_at dksX30_init_0 4 rfl rfl)
theorem dX30_init_5 : decode cX30_init 5 = .ok (.iload_n 1, 1) := dk_27 (dk_at dksX30_init_0 5 rfl rfl)
theorem dX30_init_6 : decode cX30_init 6 = .ok (.newarray .boolean, 2) := dk_188_4 (dk_at dksX30_init_0 6 rfl rfl)
theorem dX30_init_8 : decode cX30_init 8 = .ok (.putfield 7, 3) := dk_181 0 7 (dk_at dksX30_init_0 8 rfl rfl)
theorem dX30_init_11 : decode cX30_init 11 = .ok (.return_, 1) := dk_177 (dk_at dksX30_init_0 11 rfl rfl)
abbrev cX30_put : ByteArray := prog_3_method_5_code
def yX30_put : MethodName := ⟨RX30, "put", "(IJ)Z"⟩
def dkwX30_put_0 : List UInt8 := [42, 180, 0, 7, 27, 32, 9, 148, 153, 0, 7, 4, 167, 0, 4, 3, 84, 4, 172]
abbrev dktX30_put_0 : List UInt8 := dkwX30_put_0 ++ []
theorem dksX30_put_0 : cX30_put.data.toList.drop 0 = dktX30_put_0 := by decide +kernel
theorem dX30_put_0 : decode cX30_put 0 = .ok (.aload_n 0, 1) := dk_42 (dk_at dksX30_put_0 0 rfl rfl)
theorem dX30_put_1 : decode cX30_put 1 = .ok (.getfield 7, 3) := dk_180 0 7 (dk_at dksX30_put_0 1 rfl rfl)
theorem dX30_put_4 : decode cX30_put 4 = .ok (.iload_n 1, 1) := dk_27 (dk_at dksX30_put_0 4 rfl rfl)
theorem dX30_put_5 : decode cX30_put 5 = .ok (.lload_n 2, 1) := dk_32 (dk_at dksX30_put_0 5 rfl rfl)
theorem dX30_put_6 : decode cX30_put 6 = .ok (.lconst 0, 1) := dk_9 (dk_at dksX30_put_0 6 rfl rfl)
theorem dX30_put_7 : decode cX30_put 7 = .ok (.lcmp, 1) := dk_148 (dk_at dksX30_put_0 7 rfl rfl)
theorem dX30_put_8 : decode cX30_put 8 = .ok (.ifCond .eq 7, 3) := dk_153 0 7 (dk_at dksX30_put_0 8 rfl rfl)
theorem dX30_put_11 : decode cX30_put 11 = .ok (.iconst 1, 1) := dk_4 (dk_at dksX30_put_0 11 rfl rfl)
theorem dX30_put_12 : decode cX30_put 12 = .ok (.goto 4, 3) := dk_167 0 4 (dk_at dksX30_put_0 12 rfl rfl)
theorem dX30_put_15 : decode cX30_put 15 = .ok (.iconst 0, 1) := dk_3 (dk_at dksX30_put_0 15 rfl rfl)
theorem dX30_put_16 : decode cX30_put 16 = .ok (.bastore, 1) := dk_84 (dk_at dksX30_put_0 16 rfl rfl)
theorem dX30_put_17 : decode cX30_put 17 = .ok (.iconst 1, 1) := dk_4 (dk_at dksX30_put_0 17 rfl rfl)
theorem dX30_put_18 : decode cX30_put 18 = .ok (.ireturn, 1) := dk_172 (dk_at dksX30_put_0 18 rfl rfl)
abbrev cX30_at : ByteArray := prog_3_method_4_code
def yX30_at : MethodName := ⟨RX30, "at", "(I)J"⟩
def dkwX30_at_0 : List UInt8 := [42, 180, 0, 7, 27, 51, 153, 0, 7, 10, 167, 0, 4, 9, 173]
abbrev dktX30_at_0 : List UInt8 := dkwX30_at_0 ++ []
theorem dksX30_at_0 : cX30_at.data.toList.drop 0 = dktX30_at_0 := by decide +kernel
theorem dX30_at_0 : decode cX30_at 0 = .ok (.aload_n 0, 1) := dk_42 (dk_at dksX30_at_0 0 rfl rfl)
theorem dX30_at_1 : decode cX30_at 1 = .ok (.getfield 7, 3) := dk_180 0 7 (dk_at dksX30_at_0 1 rfl rfl)
theorem dX30_at_4 : decode cX30_at 4 = .ok (.iload_n 1, 1) := dk_27 (dk_at dksX30_at_0 4 rfl rfl)
theorem dX30_at_5 : decode cX30_at 5 = .ok (.baload, 1) := dk_51 (dk_at dksX30_at_0 5 rfl rfl)
theorem dX30_at_6 : decode cX30_at 6 = .ok (.ifCond .eq 7, 3) := dk_153 0 7 (dk_at dksX30_at_0 6 rfl rfl)
theorem dX30_at_9 : decode cX30_at 9 = .ok (.lconst 1, 1) := dk_10 (dk_at dksX30_at_0 9 rfl rfl)
theorem dX30_at_10 : decode cX30_at 10 = .ok (.goto 4, 3) := dk_167 0 4 (dk_at dksX30_at_0 10 rfl rfl)
theorem dX30_at_13 : decode cX30_at 13 = .ok (.lconst 0, 1) := dk_9 (dk_at dksX30_at_0 13 rfl rfl)
theorem dX30_at_14 : decode cX30_at 14 = .ok (.lreturn, 1) := dk_173 (dk_at dksX30_at_0 14 rfl rfl)
abbrev cX30_copy : ByteArray := prog_3_method_6_code
def yX30_copy : MethodName := ⟨RX30, "copy", "(ILSpeaksInTurn$Row;II)V"⟩
def dkwX30_copy_0 : List UInt8 := [42, 180, 0, 7, 27, 44, 192, 0, 8, 180, 0, 7, 29, 21, 4, 184, 0, 13, 177]
abbrev dktX30_copy_0 : List UInt8 := dkwX30_copy_0 ++ []
theorem dksX30_copy_0 : cX30_copy.data.toList.drop 0 = dktX30_copy_0 := by decide +kernel
theorem dX30_copy_0 : decode cX30_copy 0 = .ok (.aload_n 0, 1) := dk_42 (dk_at dksX30_copy_0 0 rfl rfl)
theorem dX30_copy_1 : decode cX30_copy 1 = .ok (.getfield 7, 3) := dk_180 0 7 (dk_at dksX30_copy_0 1 rfl rfl)
theorem dX30_copy_4 : decode cX30_copy 4 = .ok (.iload_n 1, 1) := dk_27 (dk_at dksX30_copy_0 4 rfl rfl)
theorem dX30_copy_5 : decode cX30_copy 5 = .ok (.aload_n 2, 1) := dk_44 (dk_at dksX30_copy_0 5 rfl rfl)
theorem dX30_copy_6 : decode cX30_copy 6 = .ok (.checkcast 8, 3) := dk_192 0 8 (dk_at dksX30_copy_0 6 rfl rfl)
theorem dX30_copy_9 : decode cX30_copy 9 = .ok (.getfield 7, 3) := dk_180 0 7 (dk_at dksX30_copy_0 9 rfl rfl)
theorem dX30_copy_12 : decode cX30_copy 12 = .ok (.iload_n 3, 1) := dk_29 (dk_at dksX30_copy_0 12 rfl rfl)
theorem dX30_copy_13 : decode cX30_copy 13 = .ok (.iload 4, 2) := dk_21 4 (dk_at dksX30_copy_0 13 rfl rfl)
theorem dX30_copy_15 : decode cX30_copy 15 = .ok (.invokestatic 13, 3) := dk_184 0 13 (dk_at dksX30_copy_0 15 rfl rfl)
theorem dX30_copy_18 : decode cX30_copy 18 = .ok (.return_, 1) := dk_177 (dk_at dksX30_copy_0 18 rfl rfl)
abbrev cX4_init : ByteArray := prog_21_method_1_code
def yX4_init : MethodName := ⟨RX4, "<init>", "(IIII)V"⟩
def dkwX4_init_1 : List UInt8 := [181, 0, 19, 177]
abbrev dktX4_init_1 : List UInt8 := dkwX4_init_1 ++ []
def dkwX4_init_0 : List UInt8 := [42, 183, 0, 1, 42, 27, 181, 0, 7, 42, 28, 181, 0, 13, 42, 29, 181, 0, 16, 42, 21, 4]
abbrev dktX4_init_0 : List UInt8 := dkwX4_init_0 ++ dktX4_init_1
theorem dksX4_init_0 : cX4_init.data.toList.drop 0 = dktX4_init_0 := by decide +kernel
theorem dksX4_init_1 : cX4_init.data.toList.drop 22 = dktX4_init_1 := dk_seg dksX4_init_0 22 rfl rfl
theorem dX4_init_0 : decode cX4_init 0 = .ok (.aload_n 0, 1) := dk_42 (dk_at dksX4_init_0 0 rfl rfl)
theorem dX4_init_1 : decode cX4_init 1 = .ok (.invokespecial 1, 3) := dk_183 0 1 (dk_at dksX4_init_0 1 rfl rfl)
theorem dX4_init_4 : decode cX4_init 4 = .ok (.aload_n 0, 1) := dk_42 (dk_at dksX4_init_0 4 rfl rfl)
theorem dX4_init_5 : decode cX4_init 5 = .ok (.iload_n 1, 1) := dk_27 (dk_at dksX4_init_0 5 rfl rfl)
theorem dX4_init_6 : decode cX4_init 6 = .ok (.putfield 7, 3) := dk_181 0 7 (dk_at dksX4_init_0 6 rfl rfl)
theorem dX4_init_9 : decode cX4_init 9 = .ok (.aload_n 0, 1) := dk_42 (dk_at dksX4_init_0 9 rfl rfl)
theorem dX4_init_10 : decode cX4_init 10 = .ok (.iload_n 2, 1) := dk_28 (dk_at dksX4_init_0 10 rfl rfl)
theorem dX4_init_11 : decode cX4_init 11 = .ok (.putfield 13, 3) := dk_181 0 13 (dk_at dksX4_init_0 11 rfl rfl)
theorem dX4_init_14 : decode cX4_init 14 = .ok (.aload_n 0, 1) := dk_42 (dk_at dksX4_init_0 14 rfl rfl)
theorem dX4_init_15 : decode cX4_init 15 = .ok (.iload_n 3, 1) := dk_29 (dk_at dksX4_init_0 15 rfl rfl)
theorem dX4_init_16 : decode cX4_init 16 = .ok (.putfield 16, 3) := dk_181 0 16 (dk_at dksX4_init_0 16 rfl rfl)
theorem dX4_init_19 : decode cX4_init 19 = .ok (.aload_n 0, 1) := dk_42 (dk_at dksX4_init_0 19 rfl rfl)
theorem dX4_init_20 : decode cX4_init 20 = .ok (.iload 4, 2) := dk_21 4 (dk_at dksX4_init_0 20 rfl rfl)
theorem dX4_init_22 : decode cX4_init 22 = .ok (.putfield 19, 3) := dk_181 0 19 (dk_at dksX4_init_1 0 rfl rfl)
theorem dX4_init_25 : decode cX4_init 25 = .ok (.return_, 1) := dk_177 (dk_at dksX4_init_1 3 rfl rfl)
abbrev cX5_init : ByteArray := prog_30_method_1_code
def yX5_init : MethodName := ⟨RX5, "<init>", "(II)V"⟩
def dkwX5_init_0 : List UInt8 := [42, 183, 0, 1, 42, 27, 181, 0, 7, 42, 28, 181, 0, 13, 177]
abbrev dktX5_init_0 : List UInt8 := dkwX5_init_0 ++ []
theorem dksX5_init_0 : cX5_init.data.toList.drop 0 = dktX5_init_0 := by decide +kernel
theorem dX5_init_0 : decode cX5_init 0 = .ok (.aload_n 0, 1) := dk_42 (dk_at dksX5_init_0 0 rfl rfl)
theorem dX5_init_1 : decode cX5_init 1 = .ok (.invokespecial 1, 3) := dk_183 0 1 (dk_at dksX5_init_0 1 rfl rfl)
theorem dX5_init_4 : decode cX5_init 4 = .ok (.aload_n 0, 1) := dk_42 (dk_at dksX5_init_0 4 rfl rfl)
theorem dX5_init_5 : decode cX5_init 5 = .ok (.iload_n 1, 1) := dk_27 (dk_at dksX5_init_0 5 rfl rfl)
theorem dX5_init_6 : decode cX5_init 6 = .ok (.putfield 7, 3) := dk_181 0 7 (dk_at dksX5_init_0 6 rfl rfl)
theorem dX5_init_9 : decode cX5_init 9 = .ok (.aload_n 0, 1) := dk_42 (dk_at dksX5_init_0 9 rfl rfl)
theorem dX5_init_10 : decode cX5_init 10 = .ok (.iload_n 2, 1) := dk_28 (dk_at dksX5_init_0 10 rfl rfl)
theorem dX5_init_11 : decode cX5_init 11 = .ok (.putfield 13, 3) := dk_181 0 13 (dk_at dksX5_init_0 11 rfl rfl)
theorem dX5_init_14 : decode cX5_init 14 = .ok (.return_, 1) := dk_177 (dk_at dksX5_init_0 14 rfl rfl)
abbrev cX6_init : ByteArray := prog_5_method_1_code
def yX6_init : MethodName := ⟨RX6, "<init>", "(III)V"⟩
def dkwX6_init_0 : List UInt8 := [42, 183, 0, 1, 42, 27, 181, 0, 7, 42, 28, 181, 0, 13, 42, 29, 181, 0, 16, 177]
abbrev dktX6_init_0 : List UInt8 := dkwX6_init_0 ++ []
theorem dksX6_init_0 : cX6_init.data.toList.drop 0 = dktX6_init_0 := by decide +kernel
theorem dX6_init_0 : decode cX6_init 0 = .ok (.aload_n 0, 1) := dk_42 (dk_at dksX6_init_0 0 rfl rfl)
theorem dX6_init_1 : decode cX6_init 1 = .ok (.invokespecial 1, 3) := dk_183 0 1 (dk_at dksX6_init_0 1 rfl rfl)
theorem dX6_init_4 : decode cX6_init 4 = .ok (.aload_n 0, 1) := dk_42 (dk_at dksX6_init_0 4 rfl rfl)
theorem dX6_init_5 : decode cX6_init 5 = .ok (.iload_n 1, 1) := dk_27 (dk_at dksX6_init_0 5 rfl rfl)
theorem dX6_init_6 : decode cX6_init 6 = .ok (.putfield 7, 3) := dk_181 0 7 (dk_at dksX6_init_0 6 rfl rfl)
theorem dX6_init_9 : decode cX6_init 9 = .ok (.aload_n 0, 1) := dk_42 (dk_at dksX6_init_0 9 rfl rfl)
theorem dX6_init_10 : decode cX6_init 10 = .ok (.iload_n 2, 1) := dk_28 (dk_at dksX6_init_0 10 rfl rfl)
theorem dX6_init_11 : decode cX6_init 11 = .ok (.putfield 13, 3) := dk_181 0 13 (dk_at dksX6_init_0 11 rfl rfl)
theorem dX6_init_14 : decode cX6_init 14 = .ok (.aload_n 0, 1) := dk_42 (dk_at dksX6_init_0 14 rfl rfl)
theorem dX6_init_15 : decode cX6_init 15 = .ok (.iload_n 3, 1) := dk_29 (dk_at dksX6_init_0 15 rfl rfl)
theorem dX6_init_16 : decode cX6_init 16 = .ok (.putfield 16, 3) := dk_181 0 16 (dk_at dksX6_init_0 16 rfl rfl)
theorem dX6_init_19 : decode cX6_init 19 = .ok (.return_, 1) := dk_177 (dk_at dksX6_init_0 19 rfl rfl)
abbrev cX6_isOf : ByteArray := prog_5_method_2_code
def yX6_isOf : MethodName := ⟨RX6, "isOf", "(I)Z"⟩
def dkwX6_isOf_0 : List UInt8 := [42, 180, 0, 16, 27, 122, 4, 126, 4, 160, 0, 7, 4, 167, 0, 4, 3, 172]
abbrev dktX6_isOf_0 : List UInt8 := dkwX6_isOf_0 ++ []
theorem dksX6_isOf_0 : cX6_isOf.data.toList.drop 0 = dktX6_isOf_0 := by decide +kernel
theorem dX6_isOf_0 : decode cX6_isOf 0 = .ok (.aload_n 0, 1) := dk_42 (dk_at dksX6_isOf_0 0 rfl rfl)
theorem dX6_isOf_1 : decode cX6_isOf 1 = .ok (.getfield 16, 3) := dk_180 0 16 (dk_at dksX6_isOf_0 1 rfl rfl)
theorem dX6_isOf_4 : decode cX6_isOf 4 = .ok (.iload_n 1, 1) := dk_27 (dk_at dksX6_isOf_0 4 rfl rfl)
theorem dX6_isOf_5 : decode cX6_isOf 5 = .ok (.ishr, 1) := dk_122 (dk_at dksX6_isOf_0 5 rfl rfl)
theorem dX6_isOf_6 : decode cX6_isOf 6 = .ok (.iconst 1, 1) := dk_4 (dk_at dksX6_isOf_0 6 rfl rfl)
theorem dX6_isOf_7 : decode cX6_isOf 7 = .ok (.iand, 1) := dk_126 (dk_at dksX6_isOf_0 7 rfl rfl)
theorem dX6_isOf_8 : decode cX6_isOf 8 = .ok (.iconst 1, 1) := dk_4 (dk_at dksX6_isOf_0 8 rfl rfl)
theorem dX6_isOf_9 : decode cX6_isOf 9 = .ok (.if_icmp .ne 7, 3) := dk_160 0 7 (dk_at dksX6_isOf_0 9 rfl rfl)
theorem dX6_isOf_12 : decode cX6_isOf 12 = .ok (.iconst 1, 1) := dk_4 (dk_at dksX6_isOf_0 12 rfl rfl)
theorem dX6_isOf_13 : decode cX6_isOf 13 = .ok (.goto 4, 3) := dk_167 0 4 (dk_at dksX6_isOf_0 13 rfl rfl)
theorem dX6_isOf_16 : decode cX6_isOf 16 = .ok (.iconst 0, 1) := dk_3 (dk_at dksX6_isOf_0 16 rfl rfl)
theorem dX6_isOf_17 : decode cX6_isOf 17 = .ok (.ireturn, 1) := dk_172 (dk_at dksX6_isOf_0 17 rfl rfl)
abbrev cX8_init : ByteArray := prog_14_method_1_code
def yX8_init : MethodName := ⟨RX8, "<init>", "()V"⟩
theorem dX8_init_0 : decode cX8_init 0 = .ok (.aload_n 0, 1) := by decide +kernel
theorem dX8_init_1 : decode cX8_init 1 = .ok (.invokespecial 1, 3) := by decide +kernel
theorem dX8_init_4 : decode cX8_init 4 = .ok (.return_, 1) := by decide +kernel
abbrev cX9_init : ByteArray := prog_19_method_1_code
def yX9_init : MethodName := ⟨RX9, "<init>", "()V"⟩
theorem dX9_init_0 : decode cX9_init 0 = .ok (.aload_n 0, 1) := by decide +kernel
theorem dX9_init_1 : decode cX9_init 1 = .ok (.invokespecial 1, 3) := by decide +kernel
theorem dX9_init_4 : decode cX9_init 4 = .ok (.return_, 1) := by decide +kernel
