set_option maxRecDepth 100000
abbrev cX0_init : ByteArray := prog_1_method_1_code
def yX0_init : MethodName := ⟨RX0, "<init>", "()V"⟩
def dkwX0_init_6 : List UInt8 := [189, 0, 82, 181, 0, 84, 177]
abbrev dktX0_init_6 : List UInt8 := dkwX0_init_6 ++ []
def dkwX0_init_5 : List UInt8 := [181, 0, 70, 42, 16, 24, 188, 8, 181, 0, 73, 42, 16, 50, 189, 0, 76, 181, 0, 78, 42, 16, 6]
abbrev dktX0_init_5 : List UInt8 := dkwX0_init_5 ++ dktX0_init_6
def dkwX0_init_4 : List UInt8 := [181, 0, 61, 42, 16, 10, 188, 10, 181, 0, 64, 42, 16, 6, 188, 10, 181, 0, 67, 42, 16, 10, 188, 10]
abbrev dktX0_init_4 : List UInt8 := dkwX0_init_4 ++ dktX0_init_5
def dkwX0_init_3 : List UInt8 := [181, 0, 48, 42, 187, 0, 52, 89, 42, 183, 0, 54, 181, 0, 57, 42, 187, 0, 52, 89, 42, 183, 0, 54]
abbrev dktX0_init_3 : List UInt8 := dkwX0_init_3 ++ dktX0_init_4
def dkwX0_init_2 : List UInt8 := [16, 120, 188, 8, 181, 0, 37, 42, 187, 0, 41, 89, 183, 0, 43, 181, 0, 44, 42, 16, 6, 188, 10]
abbrev dktX0_init_2 : List UInt8 := dkwX0_init_2 ++ dktX0_init_3
def dkwX0_init_1 : List UInt8 := [16, 20, 189, 0, 21, 181, 0, 23, 42, 6, 181, 0, 27, 42, 16, 40, 189, 0, 31, 181, 0, 33, 42]
abbrev dktX0_init_1 : List UInt8 := dkwX0_init_1 ++ dktX0_init_2
def dkwX0_init_0 : List UInt8 := [42, 183, 0, 1, 42, 16, 10, 189, 0, 9, 181, 0, 11, 42, 16, 6, 189, 0, 15, 181, 0, 17, 42]
abbrev dktX0_init_0 : List UInt8 := dkwX0_init_0 ++ dktX0_init_1
theorem dksX0_init_0 : cX0_init.data.toList.drop 0 = dktX0_init_0 := by decide +kernel
theorem dksX0_init_1 : cX0_init.data.toList.drop 23 = dktX0_init_1 := dk_seg dksX0_init_0 23 rfl rfl
theorem dksX0_init_2 : cX0_init.data.toList.drop 46 = dktX0_init_2 := dk_seg dksX0_init_1 23 rfl rfl
theorem dksX0_init_3 : cX0_init.data.toList.drop 69 = dktX0_init_3 := dk_seg dksX0_init_2 23 rfl rfl
theorem dksX0_init_4 : cX0_init.data.toList.drop 93 = dktX0_init_4 := dk_seg dksX0_init_3 24 rfl rfl
theorem dksX0_init_5 : cX0_init.data.toList.drop 117 = dktX0_init_5 := dk_seg dksX0_init_4 24 rfl rfl
theorem dksX0_init_6 : cX0_init.data.toList.drop 140 = dktX0_init_6 := dk_seg dksX0_init_5 23 rfl rfl
theorem dX0_init_0 : decode cX0_init 0 = .ok (.aload_n 0, 1) := dk_42 (dk_at dksX0_init_0 0 rfl rfl)
theorem dX0_init_1 : decode cX0_init 1 = .ok (.invokespecial 1, 3) := dk_183 0 1 (dk_at dksX0_init_0 1 rfl rfl)
theorem dX0_init_4 : decode cX0_init 4 = .ok (.aload_n 0, 1) := dk_42 (dk_at dksX0_init_0 4 rfl rfl)
theorem dX0_init_5 : decode cX0_init 5 = .ok (.bipush 10, 2) := dk_16 10 (dk_at dksX0_init_0 5 rfl rfl)
theorem dX0_init_7 : decode cX0_init 7 = .ok (.anewarray 9, 3) := dk_189 0 9 (dk_at dksX0_init_0 7 rfl rfl)
theorem dX0_init_10 : decode cX0_init 10 = .ok (.putfield 11, 3) := dk_181 0 11 (dk_at dksX0_init_0 10 rfl rfl)
theorem dX0_init_13 : decode cX0_init 13 = .ok (.aload_n 0, 1) := dk_42 (dk_at dksX0_init_0 13 rfl rfl)
theorem dX0_init_14 : decode cX0_init 14 = .ok (.bipush 6, 2) := dk_16 6 (dk_at dksX0_init_0 14 rfl rfl)
theorem dX0_init_16 : decode cX0_init 16 = .ok (.anewarray 15, 3) := dk_189 0 15 (dk_at dksX0_init_0 16 rfl rfl)
theorem dX0_init_19 : decode cX0_init 19 = .ok (.putfield 17, 3) := dk_181 0 17 (dk_at dksX0_init_0 19 rfl rfl)
theorem dX0_init_22 : decode cX0_init 22 = .ok (.aload_n 0, 1) := dk_42 (dk_at dksX0_init_0 22 rfl rfl)
theorem dX0_init_23 : decode cX0_init 23 = .ok (.bipush 20, 2) := dk_16 20 (dk_at dksX0_init_1 0 rfl rfl)
theorem dX0_init_25 : decode cX0_init 25 = .ok (.anewarray 21, 3) := dk_189 0 21 (dk_at dksX0_init_1 2 rfl rfl)
theorem dX0_init_28 : decode cX0_init 28 = .ok (.putfield 23, 3) := dk_181 0 23 (dk_at dksX0_init_1 5 rfl rfl)
theorem dX0_init_31 : decode cX0_init 31 = .ok (.aload_n 0, 1) := dk_42 (dk_at dksX0_init_1 8 rfl rfl)
theorem dX0_init_32 : decode cX0_init 32 = .ok (.iconst 3, 1) := dk_6 (dk_at dksX0_init_1 9 rfl rfl)
theorem dX0_init_33 : decode cX0_init 33 = .ok (.putfield 27, 3) := dk_181 0 27 (dk_at dksX0_init_1 10 rfl rfl)
theorem dX0_init_36 : decode cX0_init 36 = .ok (.aload_n 0, 1) := dk_42 (dk_at dksX0_init_1 13 rfl rfl)
theorem dX0_init_37 : decode cX0_init 37 = .ok (.bipush 40, 2) := dk_16 40 (dk_at dksX0_init_1 14 rfl rfl)
theorem dX0_init_39 : decode cX0_init 39 = .ok (.anewarray 31, 3) := dk_189 0 31 (dk_at dksX0_init_1 16 rfl rfl)
theorem dX0_init_42 : decode cX0_init 42 = .ok (.putfield 33, 3) := dk_181 0 33 (dk_at dksX0_init_1 19 rfl rfl)
theorem dX0_init_45 : decode cX0_init 45 = .ok (.aload_n 0, 1) := dk_42 (dk_at dksX0_init_1 22 rfl rfl)
theorem dX0_init_46 : decode cX0_init 46 = .ok (.bipush 120, 2) := dk_16 120 (dk_at dksX0_init_2 0 rfl rfl)
theorem dX0_init_48 : decode cX0_init 48 = .ok (.newarray .byte, 2) := dk_188_8 (dk_at dksX0_init_2 2 rfl rfl)
theorem dX0_init_50 : decode cX0_init 50 = .ok (.putfield 37, 3) := dk_181 0 37 (dk_at dksX0_init_2 4 rfl rfl)
theorem dX0_init_53 : decode cX0_init 53 = .ok (.aload_n 0, 1) := dk_42 (dk_at dksX0_init_2 7 rfl rfl)
theorem dX0_init_54 : decode cX0_init 54 = .ok (.new 41, 3) := dk_187 0 41 (dk_at dksX0_init_2 8 rfl rfl)
theorem dX0_init_57 : decode cX0_init 57 = .ok (.dup, 1) := dk_89 (dk_at dksX0_init_2 11 rfl rfl)
theorem dX0_init_58 : decode cX0_init 58 = .ok (.invokespecial 43, 3) := dk_183 0 43 (dk_at dksX0_init_2 12 rfl rfl)
theorem dX0_init_61 : decode cX0_init 61 = .ok (.putfield 44, 3) := dk_181 0 44 (dk_at dksX0_init_2 15 rfl rfl)
theorem dX0_init_64 : decode cX0_init 64 = .ok (.aload_n 0, 1) := dk_42 (dk_at dksX0_init_2 18 rfl rfl)
theorem dX0_init_65 : decode cX0_init 65 = .ok (.bipush 6, 2) := dk_16 6 (dk_at dksX0_init_2 19 rfl rfl)
theorem dX0_init_67 : decode cX0_init 67 = .ok (.newarray .int, 2) := dk_188_10 (dk_at dksX0_init_2 21 rfl rfl)
theorem dX0_init_69 : decode cX0_init 69 = .ok (.putfield 48, 3) := dk_181 0 48 (dk_at dksX0_init_3 0 rfl rfl)
theorem dX0_init_72 : decode cX0_init 72 = .ok (.aload_n 0, 1) := dk_42 (dk_at dksX0_init_3 3 rfl rfl)
theorem dX0_init_73 : decode cX0_init 73 = .ok (.new 52, 3) := dk_187 0 52 (dk_at dksX0_init_3 4 rfl rfl)
theorem dX0_init_76 : decode cX0_init 76 = .ok (.dup, 1) := dk_89 (dk_at dksX0_init_3 7 rfl rfl)
theorem dX0_init_77 : decode cX0_init 77 = .ok (.aload_n 0, 1) := dk_42 (dk_at dksX0_init_3 8 rfl rfl)
theorem dX0_init_78 : decode cX0_init 78 = .ok (.invokespecial 54, 3) := dk_183 0 54 (dk_at dksX0_init_3 9 rfl rfl)
theorem dX0_init_81 : decode cX0_init 81 = .ok (.putfield 57, 3) := dk_181 0 57 (dk_at dksX0_init_3 12 rfl rfl)
theorem dX0_init_84 : decode cX0_init 84 = .ok (.aload_n 0, 1) := dk_42 (dk_at dksX0_init_3 15 rfl rfl)
theorem dX0_init_85 : decode cX0_init 85 = .ok (.new 52, 3) := dk_187 0 52 (dk_at dksX0_init_3 16 rfl rfl)
theorem dX0_init_88 : decode cX0_init 88 = .ok (.dup, 1) := dk_89 (dk_at dksX0_init_3 19 rfl rfl)
theorem dX0_init_89 : decode cX0_init 89 = .ok (.aload_n 0, 1) := dk_42 (dk_at dksX0_init_3 20 rfl rfl)
theorem dX0_init_90 : decode cX0_init 90 = .ok (.invokespecial 54, 3) := dk_183 0 54 (dk_at dksX0_init_3 21 rfl rfl)
theorem dX0_init_93 : decode cX0_init 93 = .ok (.putfield 61, 3) := dk_181 0 61 (dk_at dksX0_init_4 0 rfl rfl)
theorem dX0_init_96 : decode cX0_init 96 = .ok (.aload_n 0, 1) := dk_42 (dk_at dksX0_init_4 3 rfl rfl)
theorem dX0_init_97 : decode cX0_init 97 = .ok (.bipush 10, 2) := dk_16 10 (dk_at dksX0_init_4 4 rfl rfl)
theorem dX0_init_99 : decode cX0_init 99 = .ok (.newarray .int, 2) := dk_188_10 (dk_at dksX0_init_4 6 rfl rfl)
theorem dX0_init_101 : decode cX0_init 101 = .ok (.putfield 64, 3) := dk_181 0 64 (dk_at dksX0_init_4 8 rfl rfl)
theorem dX0_init_104 : decode cX0_init 104 = .ok (.aload_n 0, 1) := dk_42 (dk_at dksX0_init_4 11 rfl rfl)
theorem dX0_init_105 : decode cX0_init 105 = .ok (.bipush 6, 2) := dk_16 6 (dk_at dksX0_init_4 12 rfl rfl)
theorem dX0_init_107 : decode cX0_init 107 = .ok (.newarray .int, 2) := dk_188_10 (dk_at dksX0_init_4 14 rfl rfl)
theorem dX0_init_109 : decode cX0_init 109 = .ok (.putfield 67, 3) := dk_181 0 67 (dk_at dksX0_init_4 16 rfl rfl)
theorem dX0_init_112 : decode cX0_init 112 = .ok (.aload_n 0, 1) := dk_42 (dk_at dksX0_init_4 19 rfl rfl)
theorem dX0_init_113 : decode cX0_init 113 = .ok (.bipush 10, 2) := dk_16 10 (dk_at dksX0_init_4 20 rfl rfl)
theorem dX0_init_115 : decode cX0_init 115 = .ok (.newarray .int, 2) := dk_188_10 (dk_at dksX0_init_4 22 rfl rfl)
theorem dX0_init_117 : decode cX0_init 117 = .ok (.putfield 70, 3) := dk_181 0 70 (dk_at dksX0_init_5 0 rfl rfl)
theorem dX0_init_120 : decode cX0_init 120 = .ok (.aload_n 0, 1) := dk_42 (dk_at dksX0_init_5 3 rfl rfl)
theorem dX0_init_121 : decode cX0_init 121 = .ok (.bipush 24, 2) := dk_16 24 (dk_at dksX0_init_5 4 rfl rfl)
theorem dX0_init_123 : decode cX0_init 123 = .ok (.newarray .byte, 2) := dk_188_8 (dk_at dksX0_init_5 6 rfl rfl)
theorem dX0_init_125 : decode cX0_init 125 = .ok (.putfield 73, 3) := dk_181 0 73 (dk_at dksX0_init_5 8 rfl rfl)
theorem dX0_init_128 : decode cX0_init 128 = .ok (.aload_n 0, 1) := dk_42 (dk_at dksX0_init_5 11 rfl rfl)
theorem dX0_init_129 : decode cX0_init 129 = .ok (.bipush 50, 2) := dk_16 50 (dk_at dksX0_init_5 12 rfl rfl)
theorem dX0_init_131 : decode cX0_init 131 = .ok (.anewarray 76, 3) := dk_189 0 76 (dk_at dksX0_init_5 14 rfl rfl)
theorem dX0_init_134 : decode cX0_init 134 = .ok (.putfield 78, 3) := dk_181 0 78 (dk_at dksX0_init_5 17 rfl rfl)
theorem dX0_init_137 : decode cX0_init 137 = .ok (.aload_n 0, 1) := dk_42 (dk_at dksX0_init_5 20 rfl rfl)
theorem dX0_init_138 : decode cX0_init 138 = .ok (.bipush 6, 2) := dk_16 6 (dk_at dksX0_init_5 21 rfl rfl)
theorem dX0_init_140 : decode cX0_init 140 = .ok (.anewarray 82, 3) := dk_189 0 82 (dk_at dksX0_init_6 0 rfl rfl)
theorem dX0_init_143 : decode cX0_init 143 = .ok (.putfield 84, 3) := dk_181 0 84 (dk_at dksX0_init_6 3 rfl rfl)
theorem dX0_init_146 : decode cX0_init 146 = .ok (.return_, 1) := dk_177 (dk_at dksX0_init_6 6 rfl rfl)
abbrev cX0_person : ByteArray := prog_1_method_5_code
def yX0_person : MethodName := ⟨RX0, "person", "(II)I"⟩
def dkwX0_person_3 : List UInt8 := [4, 96, 181, 0, 88, 42, 180, 0, 88, 4, 100, 172]
abbrev dktX0_person_3 : List UInt8 := dkwX0_person_3 ++ []
def dkwX0_person_2 : List UInt8 := [16, 10, 108, 27, 16, 10, 112, 28, 16, 100, 108, 28, 16, 100, 112, 183, 0, 98, 83, 42, 89, 180, 0, 88]
abbrev dktX0_person_2 : List UInt8 := dkwX0_person_2 ++ dktX0_person_3
def dkwX0_person_1 : List UInt8 := [180, 0, 88, 16, 10, 160, 0, 6, 16, 253, 172, 42, 180, 0, 11, 42, 180, 0, 88, 187, 0, 9, 89, 27]
abbrev dktX0_person_1 : List UInt8 := dkwX0_person_1 ++ dktX0_person_2
def dkwX0_person_0 : List UInt8 := [27, 3, 16, 99, 184, 0, 91, 153, 0, 14, 28, 3, 17, 39, 15, 184, 0, 91, 154, 0, 5, 2, 172, 42]
abbrev dktX0_person_0 : List UInt8 := dkwX0_person_0 ++ dktX0_person_1
theorem dksX0_person_0 : cX0_person.data.toList.drop 0 = dktX0_person_0 := by decide +kernel
theorem dksX0_person_1 : cX0_person.data.toList.drop 24 = dktX0_person_1 := dk_seg dksX0_person_0 24 rfl rfl
theorem dksX0_person_2 : cX0_person.data.toList.drop 48 = dktX0_person_2 := dk_seg dksX0_person_1 24 rfl rfl
theorem dksX0_person_3 : cX0_person.data.toList.drop 72 = dktX0_person_3 := dk_seg dksX0_person_2 24 rfl rfl
theorem dX0_person_0 : decode cX0_person 0 = .ok (.iload_n 1, 1) := dk_27 (dk_at dksX0_person_0 0 rfl rfl)
theorem dX0_person_1 : decode cX0_person 1 = .ok (.iconst 0, 1) := dk_3 (dk_at dksX0_person_0 1 rfl rfl)
theorem dX0_person_2 : decode cX0_person 2 = .ok (.bipush 99, 2) := dk_16 99 (dk_at dksX0_person_0 2 rfl rfl)
theorem dX0_person_4 : decode cX0_person 4 = .ok (.invokestatic 91, 3) := dk_184 0 91 (dk_at dksX0_person_0 4 rfl rfl)
theorem dX0_person_7 : decode cX0_person 7 = .ok (.ifCond .eq 14, 3) := dk_153 0 14 (dk_at dksX0_person_0 7 rfl rfl)
theorem dX0_person_10 : decode cX0_person 10 = .ok (.iload_n 2, 1) := dk_28 (dk_at dksX0_person_0 10 rfl rfl)
theorem dX0_person_11 : decode cX0_person 11 = .ok (.iconst 0, 1) := dk_3 (dk_at dksX0_person_0 11 rfl rfl)
theorem dX0_person_12 : decode cX0_person 12 = .ok (.sipush 9999, 3) := dk_17 39 15 (dk_at dksX0_person_0 12 rfl rfl)
theorem dX0_person_15 : decode cX0_person 15 = .ok (.invokestatic 91, 3) := dk_184 0 91 (dk_at dksX0_person_0 15 rfl rfl)
theorem dX0_person_18 : decode cX0_person 18 = .ok (.ifCond .ne 5, 3) := dk_154 0 5 (dk_at dksX0_person_0 18 rfl rfl)
theorem dX0_person_21 : decode cX0_person 21 = .ok (.iconst (-1), 1) := dk_2 (dk_at dksX0_person_0 21 rfl rfl)
theorem dX0_person_22 : decode cX0_person 22 = .ok (.ireturn, 1) := dk_172 (dk_at dksX0_person_0 22 rfl rfl)
theorem dX0_person_23 : decode cX0_person 23 = .ok (.aload_n 0, 1) := dk_42 (dk_at dksX0_person_0 23 rfl rfl)
theorem dX0_person_24 : decode cX0_person 24 = .ok (.getfield 88, 3) := dk_180 0 88 (dk_at dksX0_person_1 0 rfl rfl)
theorem dX0_person_27 : decode cX0_person 27 = .ok (.bipush 10, 2) := dk_16 10 (dk_at dksX0_person_1 3 rfl rfl)
theorem dX0_person_29 : decode cX0_person 29 = .ok (.if_icmp .ne 6, 3) := dk_160 0 6 (dk_at dksX0_person_1 5 rfl rfl)
theorem dX0_person_32 : decode cX0_person 32 = .ok (.bipush (-3), 2) := dk_16 253 (dk_at dksX0_person_1 8 rfl rfl)
theorem dX0_person_34 : decode cX0_person 34 = .ok (.ireturn, 1) := dk_172 (dk_at dksX0_person_1 10 rfl rfl)
theorem dX0_person_35 : decode cX0_person 35 = .ok (.aload_n 0, 1) := dk_42 (dk_at dksX0_person_1 11 rfl rfl)
theorem dX0_person_36 : decode cX0_person 36 = .ok (.getfield 11, 3) := dk_180 0 11 (dk_at dksX0_person_1 12 rfl rfl)
theorem dX0_person_39 : decode cX0_person 39 = .ok (.aload_n 0, 1) := dk_42 (dk_at dksX0_person_1 15 rfl rfl)
theorem dX0_person_40 : decode cX0_person 40 = .ok (.getfield 88, 3) := dk_180 0 88 (dk_at dksX0_person_1 16 rfl rfl)
theorem dX0_person_43 : decode cX0_person 43 = .ok (.new 9, 3) := dk_187 0 9 (dk_at dksX0_person_1 19 rfl rfl)
theorem dX0_person_46 : decode cX0_person 46 = .ok (.dup, 1) := dk_89 (dk_at dksX0_person_1 22 rfl rfl)
theorem dX0_person_47 : decode cX0_person 47 = .ok (.iload_n 1, 1) := dk_27 (dk_at dksX0_person_1 23 rfl rfl)
theorem dX0_person_48 : decode cX0_person 48 = .ok (.bipush 10, 2) := dk_16 10 (dk_at dksX0_person_2 0 rfl rfl)
theorem dX0_person_50 : decode cX0_person 50 = .ok (.idiv, 1) := dk_108 (dk_at dksX0_person_2 2 rfl rfl)
theorem dX0_person_51 : decode cX0_person 51 = .ok (.iload_n 1, 1) := dk_27 (dk_at dksX0_person_2 3 rfl rfl)
theorem dX0_person_52 : decode cX0_person 52 = .ok (.bipush 10, 2) := dk_16 10 (dk_at dksX0_person_2 4 rfl rfl)
theorem dX0_person_54 : decode cX0_person 54 = .ok (.irem, 1) := dk_112 (dk_at dksX0_person_2 6 rfl rfl)
theorem dX0_person_55 : decode cX0_person 55 = .ok (.iload_n 2, 1) := dk_28 (dk_at dksX0_person_2 7 rfl rfl)
theorem dX0_person_56 : decode cX0_person 56 = .ok (.bipush 100, 2) := dk_16 100 (dk_at dksX0_person_2 8 rfl rfl)
theorem dX0_person_58 : decode cX0_person 58 = .ok (.idiv, 1) := dk_108 (dk_at dksX0_person_2 10 rfl rfl)
theorem dX0_person_59 : decode cX0_person 59 = .ok (.iload_n 2, 1) := dk_28 (dk_at dksX0_person_2 11 rfl rfl)
theorem dX0_person_60 : decode cX0_person 60 = .ok (.bipush 100, 2) := dk_16 100 (dk_at dksX0_person_2 12 rfl rfl)
theorem dX0_person_62 : decode cX0_person 62 = .ok (.irem, 1) := dk_112 (dk_at dksX0_person_2 14 rfl rfl)
theorem dX0_person_63 : decode cX0_person 63 = .ok (.invokespecial 98, 3) := dk_183 0 98 (dk_at dksX0_person_2 15 rfl rfl)
theorem dX0_person_66 : decode cX0_person 66 = .ok (.aastore, 1) := dk_83 (dk_at dksX0_person_2 18 rfl rfl)
theorem dX0_person_67 : decode cX0_person 67 = .ok (.aload_n 0, 1) := dk_42 (dk_at dksX0_person_2 19 rfl rfl)
theorem dX0_person_68 : decode cX0_person 68 = .ok (.dup, 1) := dk_89 (dk_at dksX0_person_2 20 rfl rfl)
theorem dX0_person_69 : decode cX0_person 69 = .ok (.getfield 88, 3) := dk_180 0 88 (dk_at dksX0_person_2 21 rfl rfl)
theorem dX0_person_72 : decode cX0_person 72 = .ok (.iconst 1, 1) := dk_4 (dk_at dksX0_person_3 0 rfl rfl)
theorem dX0_person_73 : decode cX0_person 73 = .ok (.iadd, 1) := dk_96 (dk_at dksX0_person_3 1 rfl rfl)
theorem dX0_person_74 : decode cX0_person 74 = .ok (.putfield 88, 3) := dk_181 0 88 (dk_at dksX0_person_3 2 rfl rfl)
theorem dX0_person_77 : decode cX0_person 77 = .ok (.aload_n 0, 1) := dk_42 (dk_at dksX0_person_3 5 rfl rfl)
theorem dX0_person_78 : decode cX0_person 78 = .ok (.getfield 88, 3) := dk_180 0 88 (dk_at dksX0_person_3 6 rfl rfl)
theorem dX0_person_81 : decode cX0_person 81 = .ok (.iconst 1, 1) := dk_4 (dk_at dksX0_person_3 9 rfl rfl)
theorem dX0_person_82 : decode cX0_person 82 = .ok (.isub, 1) := dk_100 (dk_at dksX0_person_3 10 rfl rfl)
theorem dX0_person_83 : decode cX0_person 83 = .ok (.ireturn, 1) := dk_172 (dk_at dksX0_person_3 11 rfl rfl)
abbrev cX0_in : ByteArray := prog_1_method_2_code
def yX0_in : MethodName := ⟨RX0, "in", "(III)Z"⟩
def dkwX0_in_0 : List UInt8 := [26, 27, 161, 0, 12, 26, 28, 163, 0, 7, 4, 167, 0, 4, 3, 172]
abbrev dktX0_in_0 : List UInt8 := dkwX0_in_0 ++ []
theorem dksX0_in_0 : cX0_in.data.toList.drop 0 = dktX0_in_0 := by decide +kernel
theorem dX0_in_0 : decode cX0_in 0 = .ok (.iload_n 0, 1) := dk_26 (dk_at dksX0_in_0 0 rfl rfl)
theorem dX0_in_1 : decode cX0_in 1 = .ok (.iload_n 1, 1) := dk_27 (dk_at dksX0_in_0 1 rfl rfl)
theorem dX0_in_2 : decode cX0_in 2 = .ok (.if_icmp .lt 12, 3) := dk_161 0 12 (dk_at dksX0_in_0 2 rfl rfl)
theorem dX0_in_5 : decode cX0_in 5 = .ok (.iload_n 0, 1) := dk_26 (dk_at dksX0_in_0 5 rfl rfl)
theorem dX0_in_6 : decode cX0_in 6 = .ok (.iload_n 2, 1) := dk_28 (dk_at dksX0_in_0 6 rfl rfl)
theorem dX0_in_7 : decode cX0_in 7 = .ok (.if_icmp .gt 7, 3) := dk_163 0 7 (dk_at dksX0_in_0 7 rfl rfl)
theorem dX0_in_10 : decode cX0_in 10 = .ok (.iconst 1, 1) := dk_4 (dk_at dksX0_in_0 10 rfl rfl)
theorem dX0_in_11 : decode cX0_in 11 = .ok (.goto 4, 3) := dk_167 0 4 (dk_at dksX0_in_0 11 rfl rfl)
theorem dX0_in_14 : decode cX0_in 14 = .ok (.iconst 0, 1) := dk_3 (dk_at dksX0_in_0 14 rfl rfl)
theorem dX0_in_15 : decode cX0_in 15 = .ok (.ireturn, 1) := dk_172 (dk_at dksX0_in_0 15 rfl rfl)
abbrev cX0_thing : ByteArray := prog_1_method_6_code
def yX0_thing : MethodName := ⟨RX0, "thing", "(II)I"⟩
def dkwX0_thing_2 : List UInt8 := [28, 183, 0, 101, 83, 42, 89, 180, 0, 95, 4, 96, 181, 0, 95, 42, 180, 0, 95, 4, 100, 172]
abbrev dktX0_thing_2 : List UInt8 := dkwX0_thing_2 ++ []
def dkwX0_thing_1 : List UInt8 := [180, 0, 95, 16, 6, 160, 0, 6, 16, 253, 172, 42, 180, 0, 17, 42, 180, 0, 95, 187, 0, 15, 89, 27]
abbrev dktX0_thing_1 : List UInt8 := dkwX0_thing_1 ++ dktX0_thing_2
def dkwX0_thing_0 : List UInt8 := [27, 16, 157, 16, 99, 184, 0, 91, 153, 0, 13, 28, 3, 16, 9, 184, 0, 91, 154, 0, 5, 2, 172, 42]
abbrev dktX0_thing_0 : List UInt8 := dkwX0_thing_0 ++ dktX0_thing_1
theorem dksX0_thing_0 : cX0_thing.data.toList.drop 0 = dktX0_thing_0 := by decide +kernel
theorem dksX0_thing_1 : cX0_thing.data.toList.drop 24 = dktX0_thing_1 := dk_seg dksX0_thing_0 24 rfl rfl
theorem dksX0_thing_2 : cX0_thing.data.toList.drop 48 = dktX0_thing_2 := dk_seg dksX0_thing_1 24 rfl rfl
theorem dX0_thing_0 : decode cX0_thing 0 = .ok (.iload_n 1, 1) := dk_27 (dk_at dksX0_thing_0 0 rfl rfl)
theorem dX0_thing_1 : decode cX0_thing 1 = .ok (.bipush (-99), 2) := dk_16 157 (dk_at dksX0_thing_0 1 rfl rfl)
theorem dX0_thing_3 : decode cX0_thing 3 = .ok (.bipush 99, 2) := dk_16 99 (dk_at dksX0_thing_0 3 rfl rfl)
theorem dX0_thing_5 : decode cX0_thing 5 = .ok (.invokestatic 91, 3) := dk_184 0 91 (dk_at dksX0_thing_0 5 rfl rfl)
theorem dX0_thing_8 : decode cX0_thing 8 = .ok (.ifCond .eq 13, 3) := dk_153 0 13 (dk_at dksX0_thing_0 8 rfl rfl)
theorem dX0_thing_11 : decode cX0_thing 11 = .ok (.iload_n 2, 1) := dk_28 (dk_at dksX0_thing_0 11 rfl rfl)
theorem dX0_thing_12 : decode cX0_thing 12 = .ok (.iconst 0, 1) := dk_3 (dk_at dksX0_thing_0 12 rfl rfl)
theorem dX0_thing_13 : decode cX0_thing 13 = .ok (.bipush 9, 2) := dk_16 9 (dk_at dksX0_thing_0 13 rfl rfl)
theorem dX0_thing_15 : decode cX0_thing 15 = .ok (.invokestatic 91, 3) := dk_184 0 91 (dk_at dksX0_thing_0 15 rfl rfl)
theorem dX0_thing_18 : decode cX0_thing 18 = .ok (.ifCond .ne 5, 3) := dk_154 0 5 (dk_at dksX0_thing_0 18 rfl rfl)
theorem dX0_thing_21 : decode cX0_thing 21 = .ok (.iconst (-1), 1) := dk_2 (dk_at dksX0_thing_0 21 rfl rfl)
theorem dX0_thing_22 : decode cX0_thing 22 = .ok (.ireturn, 1) := dk_172 (dk_at dksX0_thing_0 22 rfl rfl)
theorem dX0_thing_23 : decode cX0_thing 23 = .ok (.aload_n 0, 1) := dk_42 (dk_at dksX0_thing_0 23 rfl rfl)
theorem dX0_thing_24 : decode cX0_thing 24 = .ok (.getfield 95, 3) := dk_180 0 95 (dk_at dksX0_thing_1 0 rfl rfl)
theorem dX0_thing_27 : decode cX0_thing 27 = .ok (.bipush 6, 2) := dk_16 6 (dk_at dksX0_thing_1 3 rfl rfl)
theorem dX0_thing_29 : decode cX0_thing 29 = .ok (.if_icmp .ne 6, 3) := dk_160 0 6 (dk_at dksX0_thing_1 5 rfl rfl)
theorem dX0_thing_32 : decode cX0_thing 32 = .ok (.bipush (-3), 2) := dk_16 253 (dk_at dksX0_thing_1 8 rfl rfl)
theorem dX0_thing_34 : decode cX0_thing 34 = .ok (.ireturn, 1) := dk_172 (dk_at dksX0_thing_1 10 rfl rfl)
theorem dX0_thing_35 : decode cX0_thing 35 = .ok (.aload_n 0, 1) := dk_42 (dk_at dksX0_thing_1 11 rfl rfl)
theorem dX0_thing_36 : decode cX0_thing 36 = .ok (.getfield 17, 3) := dk_180 0 17 (dk_at dksX0_thing_1 12 rfl rfl)
theorem dX0_thing_39 : decode cX0_thing 39 = .ok (.aload_n 0, 1) := dk_42 (dk_at dksX0_thing_1 15 rfl rfl)
theorem dX0_thing_40 : decode cX0_thing 40 = .ok (.getfield 95, 3) := dk_180 0 95 (dk_at dksX0_thing_1 16 rfl rfl)
theorem dX0_thing_43 : decode cX0_thing 43 = .ok (.new 15, 3) := dk_187 0 15 (dk_at dksX0_thing_1 19 rfl rfl)
theorem dX0_thing_46 : decode cX0_thing 46 = .ok (.dup, 1) := dk_89 (dk_at dksX0_thing_1 22 rfl rfl)
theorem dX0_thing_47 : decode cX0_thing 47 = .ok (.iload_n 1, 1) := dk_27 (dk_at dksX0_thing_1 23 rfl rfl)
theorem dX0_thing_48 : decode cX0_thing 48 = .ok (.iload_n 2, 1) := dk_28 (dk_at dksX0_thing_2 0 rfl rfl)
theorem dX0_thing_49 : decode cX0_thing 49 = .ok (.invokespecial 101, 3) := dk_183 0 101 (dk_at dksX0_thing_2 1 rfl rfl)
theorem dX0_thing_52 : decode cX0_thing 52 = .ok (.aastore, 1) := dk_83 (dk_at dksX0_thing_2 4 rfl rfl)
theorem dX0_thing_53 : decode cX0_thing 53 = .ok (.aload_n 0, 1) := dk_42 (dk_at dksX0_thing_2 5 rfl rfl)
theorem dX0_thing_54 : decode cX0_thing 54 = .ok (.dup, 1) := dk_89 (dk_at dksX0_thing_2 6 rfl rfl)
theorem dX0_thing_55 : decode cX0_thing 55 = .ok (.getfield 95, 3) := dk_180 0 95 (dk_at dksX0_thing_2 7 rfl rfl)
theorem dX0_thing_58 : decode cX0_thing 58 = .ok (.iconst 1, 1) := dk_4 (dk_at dksX0_thing_2 10 rfl rfl)
theorem dX0_thing_59 : decode cX0_thing 59 = .ok (.iadd, 1) := dk_96 (dk_at dksX0_thing_2 11 rfl rfl)
theorem dX0_thing_60 : decode cX0_thing 60 = .ok (.putfield 95, 3) := dk_181 0 95 (dk_at dksX0_thing_2 12 rfl rfl)
theorem dX0_thing_63 : decode cX0_thing 63 = .ok (.aload_n 0, 1) := dk_42 (dk_at dksX0_thing_2 15 rfl rfl)
theorem dX0_thing_64 : decode cX0_thing 64 = .ok (.getfield 95, 3) := dk_180 0 95 (dk_at dksX0_thing_2 16 rfl rfl)
theorem dX0_thing_67 : decode cX0_thing 67 = .ok (.iconst 1, 1) := dk_4 (dk_at dksX0_thing_2 19 rfl rfl)
theorem dX0_thing_68 : decode cX0_thing 68 = .ok (.isub, 1) := dk_100 (dk_at dksX0_thing_2 20 rfl rfl)
theorem dX0_thing_69 : decode cX0_thing 69 = .ok (.ireturn, 1) := dk_172 (dk_at dksX0_thing_2 21 rfl rfl)
abbrev cX0_card : ByteArray := prog_1_method_9_code
def yX0_card : MethodName := ⟨RX0, "card", "(III)I"⟩
def dkwX0_card_1 : List UInt8 := [167, 0, 10, 42, 27, 28, 29, 182, 0, 117, 172]
abbrev dktX0_card_1 : List UInt8 := dkwX0_card_1 ++ []
def dkwX0_card_0 : List UInt8 := [42, 27, 28, 29, 182, 0, 114, 154, 0, 5, 2, 172, 42, 180, 0, 108, 16, 20, 160, 0, 8, 16, 253]
abbrev dktX0_card_0 : List UInt8 := dkwX0_card_0 ++ dktX0_card_1
theorem dksX0_card_0 : cX0_card.data.toList.drop 0 = dktX0_card_0 := by decide +kernel
theorem dksX0_card_1 : cX0_card.data.toList.drop 23 = dktX0_card_1 := dk_seg dksX0_card_0 23 rfl rfl
theorem dX0_card_0 : decode cX0_card 0 = .ok (.aload_n 0, 1) := dk_42 (dk_at dksX0_card_0 0 rfl rfl)
theorem dX0_card_1 : decode cX0_card 1 = .ok (.iload_n 1, 1) := dk_27 (dk_at dksX0_card_0 1 rfl rfl)
theorem dX0_card_2 : decode cX0_card 2 = .ok (.iload_n 2, 1) := dk_28 (dk_at dksX0_card_0 2 rfl rfl)
theorem dX0_card_3 : decode cX0_card 3 = .ok (.iload_n 3, 1) := dk_29 (dk_at dksX0_card_0 3 rfl rfl)
theorem dX0_card_4 : decode cX0_card 4 = .ok (.invokevirtual 114, 3) := dk_182 0 114 (dk_at dksX0_card_0 4 rfl rfl)
theorem dX0_card_7 : decode cX0_card 7 = .ok (.ifCond .ne 5, 3) := dk_154 0 5 (dk_at dksX0_card_0 7 rfl rfl)
theorem dX0_card_10 : decode cX0_card 10 = .ok (.iconst (-1), 1) := dk_2 (dk_at dksX0_card_0 10 rfl rfl)
theorem dX0_card_11 : decode cX0_card 11 = .ok (.ireturn, 1) := dk_172 (dk_at dksX0_card_0 11 rfl rfl)
theorem dX0_card_12 : decode cX0_card 12 = .ok (.aload_n 0, 1) := dk_42 (dk_at dksX0_card_0 12 rfl rfl)
theorem dX0_card_13 : decode cX0_card 13 = .ok (.getfield 108, 3) := dk_180 0 108 (dk_at dksX0_card_0 13 rfl rfl)
theorem dX0_card_16 : decode cX0_card 16 = .ok (.bipush 20, 2) := dk_16 20 (dk_at dksX0_card_0 16 rfl rfl)
theorem dX0_card_18 : decode cX0_card 18 = .ok (.if_icmp .ne 8, 3) := dk_160 0 8 (dk_at dksX0_card_0 18 rfl rfl)
theorem dX0_card_21 : decode cX0_card 21 = .ok (.bipush (-3), 2) := dk_16 253 (dk_at dksX0_card_0 21 rfl rfl)
theorem dX0_card_23 : decode cX0_card 23 = .ok (.goto 10, 3) := dk_167 0 10 (dk_at dksX0_card_1 0 rfl rfl)
theorem dX0_card_26 : decode cX0_card 26 = .ok (.aload_n 0, 1) := dk_42 (dk_at dksX0_card_1 3 rfl rfl)
theorem dX0_card_27 : decode cX0_card 27 = .ok (.iload_n 1, 1) := dk_27 (dk_at dksX0_card_1 4 rfl rfl)
theorem dX0_card_28 : decode cX0_card 28 = .ok (.iload_n 2, 1) := dk_28 (dk_at dksX0_card_1 5 rfl rfl)
theorem dX0_card_29 : decode cX0_card 29 = .ok (.iload_n 3, 1) := dk_29 (dk_at dksX0_card_1 6 rfl rfl)
theorem dX0_card_30 : decode cX0_card 30 = .ok (.invokevirtual 117, 3) := dk_182 0 117 (dk_at dksX0_card_1 7 rfl rfl)
theorem dX0_card_33 : decode cX0_card 33 = .ok (.ireturn, 1) := dk_172 (dk_at dksX0_card_1 10 rfl rfl)
abbrev cX0_isCardSo : ByteArray := prog_1_method_7_code
def yX0_isCardSo : MethodName := ⟨RX0, "isCardSo", "(III)Z"⟩
def dkwX0_isCardSo_1 : List UInt8 := [184, 0, 91, 153, 0, 7, 4, 167, 0, 4, 3, 172]
abbrev dktX0_isCardSo_1 : List UInt8 := dkwX0_isCardSo_1 ++ []
def dkwX0_isCardSo_0 : List UInt8 := [42, 27, 182, 0, 104, 153, 0, 29, 28, 16, 247, 16, 9, 184, 0, 91, 153, 0, 18, 29, 3, 17, 3, 255]
abbrev dktX0_isCardSo_0 : List UInt8 := dkwX0_isCardSo_0 ++ dktX0_isCardSo_1
theorem dksX0_isCardSo_0 : cX0_isCardSo.data.toList.drop 0 = dktX0_isCardSo_0 := by decide +kernel
theorem dksX0_isCardSo_1 : cX0_isCardSo.data.toList.drop 24 = dktX0_isCardSo_1 := dk_seg dksX0_isCardSo_0 24 rfl rfl
theorem dX0_isCardSo_0 : decode cX0_isCardSo 0 = .ok (.aload_n 0, 1) := dk_42 (dk_at dksX0_isCardSo_0 0 rfl rfl)
theorem dX0_isCardSo_1 : decode cX0_isCardSo 1 = .ok (.iload_n 1, 1) := dk_27 (dk_at dksX0_isCardSo_0 1 rfl rfl)
theorem dX0_isCardSo_2 : decode cX0_isCardSo 2 = .ok (.invokevirtual 104, 3) := dk_182 0 104 (dk_at dksX0_isCardSo_0 2 rfl rfl)
theorem dX0_isCardSo_5 : decode cX0_isCardSo 5 = .ok (.ifCond .eq 29, 3) := dk_153 0 29 (dk_at dksX0_isCardSo_0 5 rfl rfl)
theorem dX0_isCardSo_8 : decode cX0_isCardSo 8 = .ok (.iload_n 2, 1) := dk_28 (dk_at dksX0_isCardSo_0 8 rfl rfl)
theorem dX0_isCardSo_9 : decode cX0_isCardSo 9 = .ok (.bipush (-9), 2) := dk_16 247 (dk_at dksX0_isCardSo_0 9 rfl rfl)
theorem dX0_isCardSo_11 : decode cX0_isCardSo 11 = .ok (.bipush 9, 2) := dk_16 9 (dk_at dksX0_isCardSo_0 11 rfl rfl)
theorem dX0_isCardSo_13 : decode cX0_isCardSo 13 = .ok (.invokestatic 91, 3) := dk_184 0 91 (dk_at dksX0_isCardSo_0 13 rfl rfl)
theorem dX0_isCardSo_16 : decode cX0_isCardSo 16 = .ok (.ifCond .eq 18, 3) := dk_153 0 18 (dk_at dksX0_isCardSo_0 16 rfl rfl)
theorem dX0_isCardSo_19 : decode cX0_isCardSo 19 = .ok (.iload_n 3, 1) := dk_29 (dk_at dksX0_isCardSo_0 19 rfl rfl)
theorem dX0_isCardSo_20 : decode cX0_isCardSo 20 = .ok (.iconst 0, 1) := dk_3 (dk_at dksX0_isCardSo_0 20 rfl rfl)
theorem dX0_isCardSo_21 : decode cX0_isCardSo 21 = .ok (.sipush 1023, 3) := dk_17 3 255 (dk_at dksX0_isCardSo_0 21 rfl rfl)
theorem dX0_isCardSo_24 : decode cX0_isCardSo 24 = .ok (.invokestatic 91, 3) := dk_184 0 91 (dk_at dksX0_isCardSo_1 0 rfl rfl)
theorem dX0_isCardSo_27 : decode cX0_isCardSo 27 = .ok (.ifCond .eq 7, 3) := dk_153 0 7 (dk_at dksX0_isCardSo_1 3 rfl rfl)
theorem dX0_isCardSo_30 : decode cX0_isCardSo 30 = .ok (.iconst 1, 1) := dk_4 (dk_at dksX0_isCardSo_1 6 rfl rfl)
theorem dX0_isCardSo_31 : decode cX0_isCardSo 31 = .ok (.goto 4, 3) := dk_167 0 4 (dk_at dksX0_isCardSo_1 7 rfl rfl)
theorem dX0_isCardSo_34 : decode cX0_isCardSo 34 = .ok (.iconst 0, 1) := dk_3 (dk_at dksX0_isCardSo_1 10 rfl rfl)
theorem dX0_isCardSo_35 : decode cX0_isCardSo 35 = .ok (.ireturn, 1) := dk_172 (dk_at dksX0_isCardSo_1 11 rfl rfl)
abbrev cX0_isThing : ByteArray := prog_1_method_4_code
def yX0_isThing : MethodName := ⟨RX0, "isThing", "(I)Z"⟩
def dkwX0_isThing_0 : List UInt8 := [27, 3, 42, 180, 0, 95, 4, 100, 184, 0, 91, 172]
abbrev dktX0_isThing_0 : List UInt8 := dkwX0_isThing_0 ++ []
theorem dksX0_isThing_0 : cX0_isThing.data.toList.drop 0 = dktX0_isThing_0 := by decide +kernel
theorem dX0_isThing_0 : decode cX0_isThing 0 = .ok (.iload_n 1, 1) := dk_27 (dk_at dksX0_isThing_0 0 rfl rfl)
theorem dX0_isThing_1 : decode cX0_isThing 1 = .ok (.iconst 0, 1) := dk_3 (dk_at dksX0_isThing_0 1 rfl rfl)
theorem dX0_isThing_2 : decode cX0_isThing 2 = .ok (.aload_n 0, 1) := dk_42 (dk_at dksX0_isThing_0 2 rfl rfl)
theorem dX0_isThing_3 : decode cX0_isThing 3 = .ok (.getfield 95, 3) := dk_180 0 95 (dk_at dksX0_isThing_0 3 rfl rfl)
theorem dX0_isThing_6 : decode cX0_isThing 6 = .ok (.iconst 1, 1) := dk_4 (dk_at dksX0_isThing_0 6 rfl rfl)
theorem dX0_isThing_7 : decode cX0_isThing 7 = .ok (.isub, 1) := dk_100 (dk_at dksX0_isThing_0 7 rfl rfl)
theorem dX0_isThing_8 : decode cX0_isThing 8 = .ok (.invokestatic 91, 3) := dk_184 0 91 (dk_at dksX0_isThing_0 8 rfl rfl)
theorem dX0_isThing_11 : decode cX0_isThing 11 = .ok (.ireturn, 1) := dk_172 (dk_at dksX0_isThing_0 11 rfl rfl)
abbrev cX0_addCard : ByteArray := prog_1_method_8_code
def yX0_addCard : MethodName := ⟨RX0, "addCard", "(III)I"⟩
def dkwX0_addCard_1 : List UInt8 := [4, 96, 181, 0, 108, 42, 180, 0, 108, 4, 100, 172]
abbrev dktX0_addCard_1 : List UInt8 := dkwX0_addCard_1 ++ []
def dkwX0_addCard_0 : List UInt8 := [42, 180, 0, 23, 42, 180, 0, 108, 187, 0, 21, 89, 27, 28, 29, 183, 0, 111, 83, 42, 89, 180, 0, 108]
abbrev dktX0_addCard_0 : List UInt8 := dkwX0_addCard_0 ++ dktX0_addCard_1
theorem dksX0_addCard_0 : cX0_addCard.data.toList.drop 0 = dktX0_addCard_0 := by decide +kernel
theorem dksX0_addCard_1 : cX0_addCard.data.toList.drop 24 = dktX0_addCard_1 := dk_seg dksX0_addCard_0 24 rfl rfl
theorem dX0_addCard_0 : decode cX0_addCard 0 = .ok (.aload_n 0, 1) := dk_42 (dk_at dksX0_addCard_0 0 rfl rfl)
theorem dX0_addCard_1 : decode cX0_addCard 1 = .ok (.getfield 23, 3) := dk_180 0 23 (dk_at dksX0_addCard_0 1 rfl rfl)
theorem dX0_addCard_4 : decode cX0_addCard 4 = .ok (.aload_n 0, 1) := dk_42 (dk_at dksX0_addCard_0 4 rfl rfl)
theorem dX0_addCard_5 : decode cX0_addCard 5 = .ok (.getfield 108, 3) := dk_180 0 108 (dk_at dksX0_addCard_0 5 rfl rfl)
theorem dX0_addCard_8 : decode cX0_addCard 8 = .ok (.new 21, 3) := dk_187 0 21 (dk_at dksX0_addCard_0 8 rfl rfl)
theorem dX0_addCard_11 : decode cX0_addCard 11 = .ok (.dup, 1) := dk_89 (dk_at dksX0_addCard_0 11 rfl rfl)
theorem dX0_addCard_12 : decode cX0_addCard 12 = .ok (.iload_n 1, 1) := dk_27 (dk_at dksX0_addCard_0 12 rfl rfl)
theorem dX0_addCard_13 : decode cX0_addCard 13 = .ok (.iload_n 2, 1) := dk_28 (dk_at dksX0_addCard_0 13 rfl rfl)
theorem dX0_addCard_14 : decode cX0_addCard 14 = .ok (.iload_n 3, 1) := dk_29 (dk_at dksX0_addCard_0 14 rfl rfl)
theorem dX0_addCard_15 : decode cX0_addCard 15 = .ok (.invokespecial 111, 3) := dk_183 0 111 (dk_at dksX0_addCard_0 15 rfl rfl)
theorem dX0_addCard_18 : decode cX0_addCard 18 = .ok (.aastore, 1) := dk_83 (dk_at dksX0_addCard_0 18 rfl rfl)
theorem dX0_addCard_19 : decode cX0_addCard 19 = .ok (.aload_n 0, 1) := dk_42 (dk_at dksX0_addCard_0 19 rfl rfl)
theorem dX0_addCard_20 : decode cX0_addCard 20 = .ok (.dup, 1) := dk_89 (dk_at dksX0_addCard_0 20 rfl rfl)
theorem dX0_addCard_21 : decode cX0_addCard 21 = .ok (.getfield 108, 3) := dk_180 0 108 (dk_at dksX0_addCard_0 21 rfl rfl)
theorem dX0_addCard_24 : decode cX0_addCard 24 = .ok (.iconst 1, 1) := dk_4 (dk_at dksX0_addCard_1 0 rfl rfl)
theorem dX0_addCard_25 : decode cX0_addCard 25 = .ok (.iadd, 1) := dk_96 (dk_at dksX0_addCard_1 1 rfl rfl)
theorem dX0_addCard_26 : decode cX0_addCard 26 = .ok (.putfield 108, 3) := dk_181 0 108 (dk_at dksX0_addCard_1 2 rfl rfl)
theorem dX0_addCard_29 : decode cX0_addCard 29 = .ok (.aload_n 0, 1) := dk_42 (dk_at dksX0_addCard_1 5 rfl rfl)
theorem dX0_addCard_30 : decode cX0_addCard 30 = .ok (.getfield 108, 3) := dk_180 0 108 (dk_at dksX0_addCard_1 6 rfl rfl)
theorem dX0_addCard_33 : decode cX0_addCard 33 = .ok (.iconst 1, 1) := dk_4 (dk_at dksX0_addCard_1 9 rfl rfl)
theorem dX0_addCard_34 : decode cX0_addCard 34 = .ok (.isub, 1) := dk_100 (dk_at dksX0_addCard_1 10 rfl rfl)
theorem dX0_addCard_35 : decode cX0_addCard 35 = .ok (.ireturn, 1) := dk_172 (dk_at dksX0_addCard_1 11 rfl rfl)
abbrev cX0_cards : ByteArray := prog_1_method_10_code
def yX0_cards : MethodName := ⟨RX0, "cards", "(III)I"⟩
def dkwX0_cards_6 : List UInt8 := [21, 4, 172, 58, 5, 21, 4, 172, 21, 4, 172]
abbrev dktX0_cards_6 : List UInt8 := dkwX0_cards_6 ++ []
def dkwX0_cards_5 : List UInt8 := [182, 0, 117, 87, 132, 4, 1, 132, 6, 1, 167, 255, 166, 167, 0, 18, 58, 5, 16, 244, 172, 58, 5]
abbrev dktX0_cards_5 : List UInt8 := dkwX0_cards_5 ++ dktX0_cards_6
def dkwX0_cards_4 : List UInt8 := [42, 21, 8, 21, 9, 21, 10, 182, 0, 114, 154, 0, 6, 21, 4, 172, 42, 21, 8, 21, 9, 21, 10]
abbrev dktX0_cards_4 : List UInt8 := dkwX0_cards_4 ++ dktX0_cards_5
def dkwX0_cards_3 : List UInt8 := [25, 5, 21, 7, 4, 96, 182, 0, 126, 136, 54, 9, 25, 5, 21, 7, 5, 96, 182, 0, 126, 136, 54, 10]
abbrev dktX0_cards_3 : List UInt8 := dkwX0_cards_3 ++ dktX0_cards_4
def dkwX0_cards_2 : List UInt8 := [16, 20, 162, 0, 81, 28, 6, 21, 6, 104, 96, 54, 7, 25, 5, 21, 7, 182, 0, 126, 136, 54, 8]
abbrev dktX0_cards_2 : List UInt8 := dkwX0_cards_2 ++ dktX0_cards_3
def dkwX0_cards_1 : List UInt8 := [180, 0, 84, 27, 50, 192, 0, 124, 58, 5, 3, 54, 6, 21, 6, 29, 162, 0, 90, 42, 180, 0, 108]
abbrev dktX0_cards_1 : List UInt8 := dkwX0_cards_1 ++ dktX0_cards_2
def dkwX0_cards_0 : List UInt8 := [27, 184, 0, 121, 153, 0, 13, 29, 4, 16, 20, 184, 0, 91, 154, 0, 5, 2, 172, 3, 54, 4, 42]
abbrev dktX0_cards_0 : List UInt8 := dkwX0_cards_0 ++ dktX0_cards_1
theorem dksX0_cards_0 : cX0_cards.data.toList.drop 0 = dktX0_cards_0 := by decide +kernel
theorem dksX0_cards_1 : cX0_cards.data.toList.drop 23 = dktX0_cards_1 := dk_seg dksX0_cards_0 23 rfl rfl
theorem dksX0_cards_2 : cX0_cards.data.toList.drop 46 = dktX0_cards_2 := dk_seg dksX0_cards_1 23 rfl rfl
theorem dksX0_cards_3 : cX0_cards.data.toList.drop 69 = dktX0_cards_3 := dk_seg dksX0_cards_2 23 rfl rfl
theorem dksX0_cards_4 : cX0_cards.data.toList.drop 93 = dktX0_cards_4 := dk_seg dksX0_cards_3 24 rfl rfl
theorem dksX0_cards_5 : cX0_cards.data.toList.drop 116 = dktX0_cards_5 := dk_seg dksX0_cards_4 23 rfl rfl
theorem dksX0_cards_6 : cX0_cards.data.toList.drop 139 = dktX0_cards_6 := dk_seg dksX0_cards_5 23 rfl rfl
theorem dX0_cards_0 : decode cX0_cards 0 = .ok (.iload_n 1, 1) := dk_27 (dk_at dksX0_cards_0 0 rfl rfl)
theorem dX0_cards_1 : decode cX0_cards 1 = .ok (.invokestatic 121, 3) := dk_184 0 121 (dk_at dksX0_cards_0 1 rfl rfl)
theorem dX0_cards_4 : decode cX0_cards 4 = .ok (.ifCond .eq 13, 3) := dk_153 0 13 (dk_at dksX0_cards_0 4 rfl rfl)
theorem dX0_cards_7 : decode cX0_cards 7 = .ok (.iload_n 3, 1) := dk_29 (dk_at dksX0_cards_0 7 rfl rfl)
theorem dX0_cards_8 : decode cX0_cards 8 = .ok (.iconst 1, 1) := dk_4 (dk_at dksX0_cards_0 8 rfl rfl)
theorem dX0_cards_9 : decode cX0_cards 9 = .ok (.bipush 20, 2) := dk_16 20 (dk_at dksX0_cards_0 9 rfl rfl)
theorem dX0_cards_11 : decode cX0_cards 11 = .ok (.invokestatic 91, 3) := dk_184 0 91 (dk_at dksX0_cards_0 11 rfl rfl)
theorem dX0_cards_14 : decode cX0_cards 14 = .ok (.ifCond .ne 5, 3) := dk_154 0 5 (dk_at dksX0_cards_0 14 rfl rfl)
theorem dX0_cards_17 : decode cX0_cards 17 = .ok (.iconst (-1), 1) := dk_2 (dk_at dksX0_cards_0 17 rfl rfl)
theorem dX0_cards_18 : decode cX0_cards 18 = .ok (.ireturn, 1) := dk_172 (dk_at dksX0_cards_0 18 rfl rfl)
theorem dX0_cards_19 : decode cX0_cards 19 = .ok (.iconst 0, 1) := dk_3 (dk_at dksX0_cards_0 19 rfl rfl)
theorem dX0_cards_20 : decode cX0_cards 20 = .ok (.istore 4, 2) := dk_54 4 (dk_at dksX0_cards_0 20 rfl rfl)
theorem dX0_cards_22 : decode cX0_cards 22 = .ok (.aload_n 0, 1) := dk_42 (dk_at dksX0_cards_0 22 rfl rfl)
theorem dX0_cards_23 : decode cX0_cards 23 = .ok (.getfield 84, 3) := dk_180 0 84 (dk_at dksX0_cards_1 0 rfl rfl)
theorem dX0_cards_26 : decode cX0_cards 26 = .ok (.iload_n 1, 1) := dk_27 (dk_at dksX0_cards_1 3 rfl rfl)
theorem dX0_cards_27 : decode cX0_cards 27 = .ok (.aaload, 1) := dk_50 (dk_at dksX0_cards_1 4 rfl rfl)
theorem dX0_cards_28 : decode cX0_cards 28 = .ok (.checkcast 124, 3) := dk_192 0 124 (dk_at dksX0_cards_1 5 rfl rfl)
theorem dX0_cards_31 : decode cX0_cards 31 = .ok (.astore 5, 2) := dk_58 5 (dk_at dksX0_cards_1 8 rfl rfl)
theorem dX0_cards_33 : decode cX0_cards 33 = .ok (.iconst 0, 1) := dk_3 (dk_at dksX0_cards_1 10 rfl rfl)
theorem dX0_cards_34 : decode cX0_cards 34 = .ok (.istore 6, 2) := dk_54 6 (dk_at dksX0_cards_1 11 rfl rfl)
theorem dX0_cards_36 : decode cX0_cards 36 = .ok (.iload 6, 2) := dk_21 6 (dk_at dksX0_cards_1 13 rfl rfl)
theorem dX0_cards_38 : decode cX0_cards 38 = .ok (.iload_n 3, 1) := dk_29 (dk_at dksX0_cards_1 15 rfl rfl)
theorem dX0_cards_39 : decode cX0_cards 39 = .ok (.if_icmp .ge 90, 3) := dk_162 0 90 (dk_at dksX0_cards_1 16 rfl rfl)
theorem dX0_cards_42 : decode cX0_cards 42 = .ok (.aload_n 0, 1) := dk_42 (dk_at dksX0_cards_1 19 rfl rfl)
theorem dX0_cards_43 : decode cX0_cards 43 = .ok (.getfield 108, 3) := dk_180 0 108 (dk_at dksX0_cards_1 20 rfl rfl)
theorem dX0_cards_46 : decode cX0_cards 46 = .ok (.bipush 20, 2) := dk_16 20 (dk_at dksX0_cards_2 0 rfl rfl)
theorem dX0_cards_48 : decode cX0_cards 48 = .ok (.if_icmp .ge 81, 3) := dk_162 0 81 (dk_at dksX0_cards_2 2 rfl rfl)
theorem dX0_cards_51 : decode cX0_cards 51 = .ok (.iload_n 2, 1) := dk_28 (dk_at dksX0_cards_2 5 rfl rfl)
theorem dX0_cards_52 : decode cX0_cards 52 = .ok (.iconst 3, 1) := dk_6 (dk_at dksX0_cards_2 6 rfl rfl)
theorem dX0_cards_53 : decode cX0_cards 53 = .ok (.iload 6, 2) := dk_21 6 (dk_at dksX0_cards_2 7 rfl rfl)
theorem dX0_cards_55 : decode cX0_cards 55 = .ok (.imul, 1) := dk_104 (dk_at dksX0_cards_2 9 rfl rfl)
theorem dX0_cards_56 : decode cX0_cards 56 = .ok (.iadd, 1) := dk_96 (dk_at dksX0_cards_2 10 rfl rfl)
theorem dX0_cards_57 : decode cX0_cards 57 = .ok (.istore 7, 2) := dk_54 7 (dk_at dksX0_cards_2 11 rfl rfl)
theorem dX0_cards_59 : decode cX0_cards 59 = .ok (.aload 5, 2) := dk_25 5 (dk_at dksX0_cards_2 13 rfl rfl)
theorem dX0_cards_61 : decode cX0_cards 61 = .ok (.iload 7, 2) := dk_21 7 (dk_at dksX0_cards_2 15 rfl rfl)
theorem dX0_cards_63 : decode cX0_cards 63 = .ok (.invokevirtual 126, 3) := dk_182 0 126 (dk_at dksX0_cards_2 17 rfl rfl)
theorem dX0_cards_66 : decode cX0_cards 66 = .ok (.l2i, 1) := dk_136 (dk_at dksX0_cards_2 20 rfl rfl)
theorem dX0_cards_67 : decode cX0_cards 67 = .ok (.istore 8, 2) := dk_54 8 (dk_at dksX0_cards_2 21 rfl rfl)
theorem dX0_cards_69 : decode cX0_cards 69 = .ok (.aload 5, 2) := dk_25 5 (dk_at dksX0_cards_3 0 rfl rfl)
theorem dX0_cards_71 : decode cX0_cards 71 = .ok (.iload 7, 2) := dk_21 7 (dk_at dksX0_cards_3 2 rfl rfl)
theorem dX0_cards_73 : decode cX0_cards 73 = .ok (.iconst 1, 1) := dk_4 (dk_at dksX0_cards_3 4 rfl rfl)
theorem dX0_cards_74 : decode cX0_cards 74 = .ok (.iadd, 1) := dk_96 (dk_at dksX0_cards_3 5 rfl rfl)
theorem dX0_cards_75 : decode cX0_cards 75 = .ok (.invokevirtual 126, 3) := dk_182 0 126 (dk_at dksX0_cards_3 6 rfl rfl)
theorem dX0_cards_78 : decode cX0_cards 78 = .ok (.l2i, 1) := dk_136 (dk_at dksX0_cards_3 9 rfl rfl)
theorem dX0_cards_79 : decode cX0_cards 79 = .ok (.istore 9, 2) := dk_54 9 (dk_at dksX0_cards_3 10 rfl rfl)
theorem dX0_cards_81 : decode cX0_cards 81 = .ok (.aload 5, 2) := dk_25 5 (dk_at dksX0_cards_3 12 rfl rfl)
theorem dX0_cards_83 : decode cX0_cards 83 = .ok (.iload 7, 2) := dk_21 7 (dk_at dksX0_cards_3 14 rfl rfl)
theorem dX0_cards_85 : decode cX0_cards 85 = .ok (.iconst 2, 1) := dk_5 (dk_at dksX0_cards_3 16 rfl rfl)
theorem dX0_cards_86 : decode cX0_cards 86 = .ok (.iadd, 1) := dk_96 (dk_at dksX0_cards_3 17 rfl rfl)
theorem dX0_cards_87 : decode cX0_cards 87 = .ok (.invokevirtual 126, 3) := dk_182 0 126 (dk_at dksX0_cards_3 18 rfl rfl)
theorem dX0_cards_90 : decode cX0_cards 90 = .ok (.l2i, 1) := dk_136 (dk_at dksX0_cards_3 21 rfl rfl)
theorem dX0_cards_91 : decode cX0_cards 91 = .ok (.istore 10, 2) := dk_54 10 (dk_at dksX0_cards_3 22 rfl rfl)
theorem dX0_cards_93 : decode cX0_cards 93 = .ok (.aload_n 0, 1) := dk_42 (dk_at dksX0_cards_4 0 rfl rfl)
theorem dX0_cards_94 : decode cX0_cards 94 = .ok (.iload 8, 2) := dk_21 8 (dk_at dksX0_cards_4 1 rfl rfl)
theorem dX0_cards_96 : decode cX0_cards 96 = .ok (.iload 9, 2) := dk_21 9 (dk_at dksX0_cards_4 3 rfl rfl)
theorem dX0_cards_98 : decode cX0_cards 98 = .ok (.iload 10, 2) := dk_21 10 (dk_at dksX0_cards_4 5 rfl rfl)
theorem dX0_cards_100 : decode cX0_cards 100 = .ok (.invokevirtual 114, 3) := dk_182 0 114 (dk_at dksX0_cards_4 7 rfl rfl)
theorem dX0_cards_103 : decode cX0_cards 103 = .ok (.ifCond .ne 6, 3) := dk_154 0 6 (dk_at dksX0_cards_4 10 rfl rfl)
theorem dX0_cards_106 : decode cX0_cards 106 = .ok (.iload 4, 2) := dk_21 4 (dk_at dksX0_cards_4 13 rfl rfl)
theorem dX0_cards_108 : decode cX0_cards 108 = .ok (.ireturn, 1) := dk_172 (dk_at dksX0_cards_4 15 rfl rfl)
theorem dX0_cards_109 : decode cX0_cards 109 = .ok (.aload_n 0, 1) := dk_42 (dk_at dksX0_cards_4 16 rfl rfl)
theorem dX0_cards_110 : decode cX0_cards 110 = .ok (.iload 8, 2) := dk_21 8 (dk_at dksX0_cards_4 17 rfl rfl)
theorem dX0_cards_112 : decode cX0_cards 112 = .ok (.iload 9, 2) := dk_21 9 (dk_at dksX0_cards_4 19 rfl rfl)
theorem dX0_cards_114 : decode cX0_cards 114 = .ok (.iload 10, 2) := dk_21 10 (dk_at dksX0_cards_4 21 rfl rfl)
theorem dX0_cards_116 : decode cX0_cards 116 = .ok (.invokevirtual 117, 3) := dk_182 0 117 (dk_at dksX0_cards_5 0 rfl rfl)
theorem dX0_cards_119 : decode cX0_cards 119 = .ok (.pop, 1) := dk_87 (dk_at dksX0_cards_5 3 rfl rfl)
theorem dX0_cards_120 : decode cX0_cards 120 = .ok (.iinc 4 1, 3) := dk_132 4 1 (dk_at dksX0_cards_5 4 rfl rfl)
theorem dX0_cards_123 : decode cX0_cards 123 = .ok (.iinc 6 1, 3) := dk_132 6 1 (dk_at dksX0_cards_5 7 rfl rfl)
theorem dX0_cards_126 : decode cX0_cards 126 = .ok (.goto (-90), 3) := dk_167 255 166 (dk_at dksX0_cards_5 10 rfl rfl)
theorem dX0_cards_129 : decode cX0_cards 129 = .ok (.goto 18, 3) := dk_167 0 18 (dk_at dksX0_cards_5 13 rfl rfl)
theorem dX0_cards_132 : decode cX0_cards 132 = .ok (.astore 5, 2) := dk_58 5 (dk_at dksX0_cards_5 16 rfl rfl)
theorem dX0_cards_134 : decode cX0_cards 134 = .ok (.bipush (-12), 2) := dk_16 244 (dk_at dksX0_cards_5 18 rfl rfl)
theorem dX0_cards_136 : decode cX0_cards 136 = .ok (.ireturn, 1) := dk_172 (dk_at dksX0_cards_5 20 rfl rfl)
theorem dX0_cards_137 : decode cX0_cards 137 = .ok (.astore 5, 2) := dk_58 5 (dk_at dksX0_cards_5 21 rfl rfl)
theorem dX0_cards_139 : decode cX0_cards 139 = .ok (.iload 4, 2) := dk_21 4 (dk_at dksX0_cards_6 0 rfl rfl)
theorem dX0_cards_141 : decode cX0_cards 141 = .ok (.ireturn, 1) := dk_172 (dk_at dksX0_cards_6 2 rfl rfl)
theorem dX0_cards_142 : decode cX0_cards 142 = .ok (.astore 5, 2) := dk_58 5 (dk_at dksX0_cards_6 3 rfl rfl)
theorem dX0_cards_144 : decode cX0_cards 144 = .ok (.iload 4, 2) := dk_21 4 (dk_at dksX0_cards_6 5 rfl rfl)
theorem dX0_cards_146 : decode cX0_cards 146 = .ok (.ireturn, 1) := dk_172 (dk_at dksX0_cards_6 7 rfl rfl)
theorem dX0_cards_147 : decode cX0_cards 147 = .ok (.iload 4, 2) := dk_21 4 (dk_at dksX0_cards_6 8 rfl rfl)
theorem dX0_cards_149 : decode cX0_cards 149 = .ok (.ireturn, 1) := dk_172 (dk_at dksX0_cards_6 10 rfl rfl)
abbrev cX0_isShelf : ByteArray := prog_1_method_48_code
def yX0_isShelf : MethodName := ⟨RX0, "isShelf", "(I)Z"⟩
def dkwX0_isShelf_0 : List UInt8 := [26, 3, 8, 184, 0, 91, 172]
abbrev dktX0_isShelf_0 : List UInt8 := dkwX0_isShelf_0 ++ []
theorem dksX0_isShelf_0 : cX0_isShelf.data.toList.drop 0 = dktX0_isShelf_0 := by decide +kernel
theorem dX0_isShelf_0 : decode cX0_isShelf 0 = .ok (.iload_n 0, 1) := dk_26 (dk_at dksX0_isShelf_0 0 rfl rfl)
theorem dX0_isShelf_1 : decode cX0_isShelf 1 = .ok (.iconst 0, 1) := dk_3 (dk_at dksX0_isShelf_0 1 rfl rfl)
theorem dX0_isShelf_2 : decode cX0_isShelf 2 = .ok (.iconst 5, 1) := dk_8 (dk_at dksX0_isShelf_0 2 rfl rfl)
theorem dX0_isShelf_3 : decode cX0_isShelf 3 = .ok (.invokestatic 91, 3) := dk_184 0 91 (dk_at dksX0_isShelf_0 3 rfl rfl)
theorem dX0_isShelf_6 : decode cX0_isShelf 6 = .ok (.ireturn, 1) := dk_172 (dk_at dksX0_isShelf_0 6 rfl rfl)
abbrev cX0_set : ByteArray := prog_1_method_11_code
def yX0_set : MethodName := ⟨RX0, "set", "(II)I"⟩
def dkwX0_set_4 : List UInt8 := [16, 9, 184, 0, 91, 154, 0, 5, 2, 172, 42, 180, 0, 27, 62, 42, 28, 181, 0, 27, 29, 172, 2, 172]
abbrev dktX0_set_4 : List UInt8 := dkwX0_set_4 ++ []
def dkwX0_set_3 : List UInt8 := [3, 4, 184, 0, 91, 154, 0, 5, 2, 172, 42, 180, 0, 139, 62, 42, 28, 181, 0, 139, 29, 172, 28, 4]
abbrev dktX0_set_3 : List UInt8 := dkwX0_set_3 ++ dktX0_set_4
def dkwX0_set_2 : List UInt8 := [28, 3, 8, 184, 0, 91, 154, 0, 5, 2, 172, 42, 180, 0, 136, 62, 42, 28, 181, 0, 136, 29, 172, 28]
abbrev dktX0_set_2 : List UInt8 := dkwX0_set_2 ++ dktX0_set_3
def dkwX0_set_1 : List UInt8 := [170, 0, 0, 0, 0, 0, 97, 0, 0, 0, 0, 0, 0, 0, 2, 0, 0, 0, 27, 0, 0, 0, 50, 0, 0, 0, 73]
abbrev dktX0_set_1 : List UInt8 := dkwX0_set_1 ++ dktX0_set_2
def dkwX0_set_0 : List UInt8 := [27]
abbrev dktX0_set_0 : List UInt8 := dkwX0_set_0 ++ dktX0_set_1
theorem dksX0_set_0 : cX0_set.data.toList.drop 0 = dktX0_set_0 := by decide +kernel
theorem dksX0_set_1 : cX0_set.data.toList.drop 1 = dktX0_set_1 := dk_seg dksX0_set_0 1 rfl rfl
theorem dksX0_set_2 : cX0_set.data.toList.drop 28 = dktX0_set_2 := dk_seg dksX0_set_1 27 rfl rfl
theorem dksX0_set_3 : cX0_set.data.toList.drop 52 = dktX0_set_3 := dk_seg dksX0_set_2 24 rfl rfl
theorem dksX0_set_4 : cX0_set.data.toList.drop 76 = dktX0_set_4 := dk_seg dksX0_set_3 24 rfl rfl
theorem dX0_set_0 : decode cX0_set 0 = .ok (.iload_n 1, 1) := dk_27 (dk_at dksX0_set_0 0 rfl rfl)
theorem dX0_set_1 : decode cX0_set 1 = .ok (.tableswitch 97 0 2 #[27, 50, 73], 27) := by decide +kernel
theorem dX0_set_28 : decode cX0_set 28 = .ok (.iload_n 2, 1) := dk_28 (dk_at dksX0_set_2 0 rfl rfl)
theorem dX0_set_29 : decode cX0_set 29 = .ok (.iconst 0, 1) := dk_3 (dk_at dksX0_set_2 1 rfl rfl)
theorem dX0_set_30 : decode cX0_set 30 = .ok (.iconst 5, 1) := dk_8 (dk_at dksX0_set_2 2 rfl rfl)
theorem dX0_set_31 : decode cX0_set 31 = .ok (.invokestatic 91, 3) := dk_184 0 91 (dk_at dksX0_set_2 3 rfl rfl)
theorem dX0_set_34 : decode cX0_set 34 = .ok (.ifCond .ne 5, 3) := dk_154 0 5 (dk_at dksX0_set_2 6 rfl rfl)
theorem dX0_set_37 : decode cX0_set 37 = .ok (.iconst (-1), 1) := dk_2 (dk_at dksX0_set_2 9 rfl rfl)
theorem dX0_set_38 : decode cX0_set 38 = .ok (.ireturn, 1) := dk_172 (dk_at dksX0_set_2 10 rfl rfl)
theorem dX0_set_39 : decode cX0_set 39 = .ok (.aload_n 0, 1) := dk_42 (dk_at dksX0_set_2 11 rfl rfl)
theorem dX0_set_40 : decode cX0_set 40 = .ok (.getfield 136, 3) := dk_180 0 136 (dk_at dksX0_set_2 12 rfl rfl)
theorem dX0_set_43 : decode cX0_set 43 = .ok (.istore_n 3, 1) := dk_62 (dk_at dksX0_set_2 15 rfl rfl)
theorem dX0_set_44 : decode cX0_set 44 = .ok (.aload_n 0, 1) := dk_42 (dk_at dksX0_set_2 16 rfl rfl)
theorem dX0_set_45 : decode cX0_set 45 = .ok (.iload_n 2, 1) := dk_28 (dk_at dksX0_set_2 17 rfl rfl)
theorem dX0_set_46 : decode cX0_set 46 = .ok (.putfield 136, 3) := dk_181 0 136 (dk_at dksX0_set_2 18 rfl rfl)
theorem dX0_set_49 : decode cX0_set 49 = .ok (.iload_n 3, 1) := dk_29 (dk_at dksX0_set_2 21 rfl rfl)
theorem dX0_set_50 : decode cX0_set 50 = .ok (.ireturn, 1) := dk_172 (dk_at dksX0_set_2 22 rfl rfl)
theorem dX0_set_51 : decode cX0_set 51 = .ok (.iload_n 2, 1) := dk_28 (dk_at dksX0_set_2 23 rfl rfl)
theorem dX0_set_52 : decode cX0_set 52 = .ok (.iconst 0, 1) := dk_3 (dk_at dksX0_set_3 0 rfl rfl)
theorem dX0_set_53 : decode cX0_set 53 = .ok (.iconst 1, 1) := dk_4 (dk_at dksX0_set_3 1 rfl rfl)
theorem dX0_set_54 : decode cX0_set 54 = .ok (.invokestatic 91, 3) := dk_184 0 91 (dk_at dksX0_set_3 2 rfl rfl)
theorem dX0_set_57 : decode cX0_set 57 = .ok (.ifCond .ne 5, 3) := dk_154 0 5 (dk_at dksX0_set_3 5 rfl rfl)
theorem dX0_set_60 : decode cX0_set 60 = .ok (.iconst (-1), 1) := dk_2 (dk_at dksX0_set_3 8 rfl rfl)
theorem dX0_set_61 : decode cX0_set 61 = .ok (.ireturn, 1) := dk_172 (dk_at dksX0_set_3 9 rfl rfl)
theorem dX0_set_62 : decode cX0_set 62 = .ok (.aload_n 0, 1) := dk_42 (dk_at dksX0_set_3 10 rfl rfl)
theorem dX0_set_63 : decode cX0_set 63 = .ok (.getfield 139, 3) := dk_180 0 139 (dk_at dksX0_set_3 11 rfl rfl)
theorem dX0_set_66 : decode cX0_set 66 = .ok (.istore_n 3, 1) := dk_62 (dk_at dksX0_set_3 14 rfl rfl)
theorem dX0_set_67 : decode cX0_set 67 = .ok (.aload_n 0, 1) := dk_42 (dk_at dksX0_set_3 15 rfl rfl)
theorem dX0_set_68 : decode cX0_set 68 = .ok (.iload_n 2, 1) := dk_28 (dk_at dksX0_set_3 16 rfl rfl)
theorem dX0_set_69 : decode cX0_set 69 = .ok (.putfield 139, 3) := dk_181 0 139 (dk_at dksX0_set_3 17 rfl rfl)
theorem dX0_set_72 : decode cX0_set 72 = .ok (.iload_n 3, 1) := dk_29 (dk_at dksX0_set_3 20 rfl rfl)
theorem dX0_set_73 : decode cX0_set 73 = .ok (.ireturn, 1) := dk_172 (dk_at dksX0_set_3 21 rfl rfl)
theorem dX0_set_74 : decode cX0_set 74 = .ok (.iload_n 2, 1) := dk_28 (dk_at dksX0_set_3 22 rfl rfl)
theorem dX0_set_75 : decode cX0_set 75 = .ok (.iconst 1, 1) := dk_4 (dk_at dksX0_set_3 23 rfl rfl)
theorem dX0_set_76 : decode cX0_set 76 = .ok (.bipush 9, 2) := dk_16 9 (dk_at dksX0_set_4 0 rfl rfl)
theorem dX0_set_78 : decode cX0_set 78 = .ok (.invokestatic 91, 3) := dk_184 0 91 (dk_at dksX0_set_4 2 rfl rfl)
theorem dX0_set_81 : decode cX0_set 81 = .ok (.ifCond .ne 5, 3) := dk_154 0 5 (dk_at dksX0_set_4 5 rfl rfl)
theorem dX0_set_84 : decode cX0_set 84 = .ok (.iconst (-1), 1) := dk_2 (dk_at dksX0_set_4 8 rfl rfl)
theorem dX0_set_85 : decode cX0_set 85 = .ok (.ireturn, 1) := dk_172 (dk_at dksX0_set_4 9 rfl rfl)
theorem dX0_set_86 : decode cX0_set 86 = .ok (.aload_n 0, 1) := dk_42 (dk_at dksX0_set_4 10 rfl rfl)
theorem dX0_set_87 : decode cX0_set 87 = .ok (.getfield 27, 3) := dk_180 0 27 (dk_at dksX0_set_4 11 rfl rfl)
theorem dX0_set_90 : decode cX0_set 90 = .ok (.istore_n 3, 1) := dk_62 (dk_at dksX0_set_4 14 rfl rfl)
theorem dX0_set_91 : decode cX0_set 91 = .ok (.aload_n 0, 1) := dk_42 (dk_at dksX0_set_4 15 rfl rfl)
theorem dX0_set_92 : decode cX0_set 92 = .ok (.iload_n 2, 1) := dk_28 (dk_at dksX0_set_4 16 rfl rfl)
theorem dX0_set_93 : decode cX0_set 93 = .ok (.putfield 27, 3) := dk_181 0 27 (dk_at dksX0_set_4 17 rfl rfl)
theorem dX0_set_96 : decode cX0_set 96 = .ok (.iload_n 3, 1) := dk_29 (dk_at dksX0_set_4 20 rfl rfl)
theorem dX0_set_97 : decode cX0_set 97 = .ok (.ireturn, 1) := dk_172 (dk_at dksX0_set_4 21 rfl rfl)
theorem dX0_set_98 : decode cX0_set 98 = .ok (.iconst (-1), 1) := dk_2 (dk_at dksX0_set_4 22 rfl rfl)
theorem dX0_set_99 : decode cX0_set 99 = .ok (.ireturn, 1) := dk_172 (dk_at dksX0_set_4 23 rfl rfl)
abbrev cX0_of : ByteArray := prog_1_method_12_code
def yX0_of : MethodName := ⟨RX0, "of", "(II)I"⟩
def dkwX0_of_7 : List UInt8 := [167, 0, 20, 28, 16, 21, 160, 0, 10, 45, 180, 0, 167, 167, 0, 7, 45, 180, 0, 170, 172]
abbrev dktX0_of_7 : List UInt8 := dkwX0_of_7 ++ []
def dkwX0_of_6 : List UInt8 := [154, 0, 6, 18, 145, 172, 42, 180, 0, 23, 27, 50, 78, 28, 16, 20, 160, 0, 10, 45, 180, 0, 164]
abbrev dktX0_of_6 : List UInt8 := dkwX0_of_6 ++ dktX0_of_7
def dkwX0_of_5 : List UInt8 := [172, 28, 16, 20, 16, 22, 184, 0, 91, 153, 0, 17, 27, 3, 42, 180, 0, 108, 4, 100, 184, 0, 91]
abbrev dktX0_of_5 : List UInt8 := dkwX0_of_5 ++ dktX0_of_6
def dkwX0_of_4 : List UInt8 := [160, 0, 15, 42, 180, 0, 17, 27, 50, 180, 0, 158, 167, 0, 12, 42, 180, 0, 17, 27, 50, 180, 0, 161]
abbrev dktX0_of_4 : List UInt8 := dkwX0_of_4 ++ dktX0_of_5
def dkwX0_of_3 : List UInt8 := [16, 11, 184, 0, 91, 153, 0, 44, 42, 27, 182, 0, 104, 154, 0, 8, 18, 145, 167, 0, 30, 28, 16, 10]
abbrev dktX0_of_3 : List UInt8 := dkwX0_of_3 ++ dktX0_of_4
def dkwX0_of_2 : List UInt8 := [167, 0, 19, 28, 5, 160, 0, 10, 45, 180, 0, 152, 167, 0, 7, 45, 180, 0, 155, 172, 28, 16, 10]
abbrev dktX0_of_2 : List UInt8 := dkwX0_of_2 ++ dktX0_of_3
def dkwX0_of_1 : List UInt8 := [27, 50, 78, 28, 154, 0, 10, 45, 180, 0, 146, 167, 0, 31, 28, 4, 160, 0, 10, 45, 180, 0, 149]
abbrev dktX0_of_1 : List UInt8 := dkwX0_of_1 ++ dktX0_of_2
def dkwX0_of_0 : List UInt8 := [28, 3, 6, 184, 0, 91, 153, 0, 61, 42, 27, 182, 0, 142, 154, 0, 6, 18, 145, 172, 42, 180, 0, 11]
abbrev dktX0_of_0 : List UInt8 := dkwX0_of_0 ++ dktX0_of_1
theorem dksX0_of_0 : cX0_of.data.toList.drop 0 = dktX0_of_0 := by decide +kernel
theorem dksX0_of_1 : cX0_of.data.toList.drop 24 = dktX0_of_1 := dk_seg dksX0_of_0 24 rfl rfl
theorem dksX0_of_2 : cX0_of.data.toList.drop 47 = dktX0_of_2 := dk_seg dksX0_of_1 23 rfl rfl
theorem dksX0_of_3 : cX0_of.data.toList.drop 70 = dktX0_of_3 := dk_seg dksX0_of_2 23 rfl rfl
theorem dksX0_of_4 : cX0_of.data.toList.drop 94 = dktX0_of_4 := dk_seg dksX0_of_3 24 rfl rfl
theorem dksX0_of_5 : cX0_of.data.toList.drop 118 = dktX0_of_5 := dk_seg dksX0_of_4 24 rfl rfl
theorem dksX0_of_6 : cX0_of.data.toList.drop 141 = dktX0_of_6 := dk_seg dksX0_of_5 23 rfl rfl
theorem dksX0_of_7 : cX0_of.data.toList.drop 164 = dktX0_of_7 := dk_seg dksX0_of_6 23 rfl rfl
theorem dX0_of_0 : decode cX0_of 0 = .ok (.iload_n 2, 1) := dk_28 (dk_at dksX0_of_0 0 rfl rfl)
theorem dX0_of_1 : decode cX0_of 1 = .ok (.iconst 0, 1) := dk_3 (dk_at dksX0_of_0 1 rfl rfl)
theorem dX0_of_2 : decode cX0_of 2 = .ok (.iconst 3, 1) := dk_6 (dk_at dksX0_of_0 2 rfl rfl)
theorem dX0_of_3 : decode cX0_of 3 = .ok (.invokestatic 91, 3) := dk_184 0 91 (dk_at dksX0_of_0 3 rfl rfl)
theorem dX0_of_6 : decode cX0_of 6 = .ok (.ifCond .eq 61, 3) := dk_153 0 61 (dk_at dksX0_of_0 6 rfl rfl)
theorem dX0_of_9 : decode cX0_of 9 = .ok (.aload_n 0, 1) := dk_42 (dk_at dksX0_of_0 9 rfl rfl)
theorem dX0_of_10 : decode cX0_of 10 = .ok (.iload_n 1, 1) := dk_27 (dk_at dksX0_of_0 10 rfl rfl)
theorem dX0_of_11 : decode cX0_of 11 = .ok (.invokevirtual 142, 3) := dk_182 0 142 (dk_at dksX0_of_0 11 rfl rfl)
theorem dX0_of_14 : decode cX0_of 14 = .ok (.ifCond .ne 6, 3) := dk_154 0 6 (dk_at dksX0_of_0 14 rfl rfl)
theorem dX0_of_17 : decode cX0_of 17 = .ok (.ldc 145, 2) := dk_18 145 (dk_at dksX0_of_0 17 rfl rfl)
theorem dX0_of_19 : decode cX0_of 19 = .ok (.ireturn, 1) := dk_172 (dk_at dksX0_of_0 19 rfl rfl)
theorem dX0_of_20 : decode cX0_of 20 = .ok (.aload_n 0, 1) := dk_42 (dk_at dksX0_of_0 20 rfl rfl)
theorem dX0_of_21 : decode cX0_of 21 = .ok (.getfield 11, 3) := dk_180 0 11 (dk_at dksX0_of_0 21 rfl rfl)
theorem dX0_of_24 : decode cX0_of 24 = .ok (.iload_n 1, 1) := dk_27 (dk_at dksX0_of_1 0 rfl rfl)
theorem dX0_of_25 : decode cX0_of 25 = .ok (.aaload, 1) := dk_50 (dk_at dksX0_of_1 1 rfl rfl)
theorem dX0_of_26 : decode cX0_of 26 = .ok (.astore_n 3, 1) := dk_78 (dk_at dksX0_of_1 2 rfl rfl)
theorem dX0_of_27 : decode cX0_of 27 = .ok (.iload_n 2, 1) := dk_28 (dk_at dksX0_of_1 3 rfl rfl)
theorem dX0_of_28 : decode cX0_of 28 = .ok (.ifCond .ne 10, 3) := dk_154 0 10 (dk_at dksX0_of_1 4 rfl rfl)
theorem dX0_of_31 : decode cX0_of 31 = .ok (.aload_n 3, 1) := dk_45 (dk_at dksX0_of_1 7 rfl rfl)
theorem dX0_of_32 : decode cX0_of 32 = .ok (.getfield 146, 3) := dk_180 0 146 (dk_at dksX0_of_1 8 rfl rfl)
theorem dX0_of_35 : decode cX0_of 35 = .ok (.goto 31, 3) := dk_167 0 31 (dk_at dksX0_of_1 11 rfl rfl)
theorem dX0_of_38 : decode cX0_of 38 = .ok (.iload_n 2, 1) := dk_28 (dk_at dksX0_of_1 14 rfl rfl)
theorem dX0_of_39 : decode cX0_of 39 = .ok (.iconst 1, 1) := dk_4 (dk_at dksX0_of_1 15 rfl rfl)
theorem dX0_of_40 : decode cX0_of 40 = .ok (.if_icmp .ne 10, 3) := dk_160 0 10 (dk_at dksX0_of_1 16 rfl rfl)
theorem dX0_of_43 : decode cX0_of 43 = .ok (.aload_n 3, 1) := dk_45 (dk_at dksX0_of_1 19 rfl rfl)
theorem dX0_of_44 : decode cX0_of 44 = .ok (.getfield 149, 3) := dk_180 0 149 (dk_at dksX0_of_1 20 rfl rfl)
theorem dX0_of_47 : decode cX0_of 47 = .ok (.goto 19, 3) := dk_167 0 19 (dk_at dksX0_of_2 0 rfl rfl)
theorem dX0_of_50 : decode cX0_of 50 = .ok (.iload_n 2, 1) := dk_28 (dk_at dksX0_of_2 3 rfl rfl)
theorem dX0_of_51 : decode cX0_of 51 = .ok (.iconst 2, 1) := dk_5 (dk_at dksX0_of_2 4 rfl rfl)
theorem dX0_of_52 : decode cX0_of 52 = .ok (.if_icmp .ne 10, 3) := dk_160 0 10 (dk_at dksX0_of_2 5 rfl rfl)
theorem dX0_of_55 : decode cX0_of 55 = .ok (.aload_n 3, 1) := dk_45 (dk_at dksX0_of_2 8 rfl rfl)
theorem dX0_of_56 : decode cX0_of 56 = .ok (.getfield 152, 3) := dk_180 0 152 (dk_at dksX0_of_2 9 rfl rfl)
theorem dX0_of_59 : decode cX0_of 59 = .ok (.goto 7, 3) := dk_167 0 7 (dk_at dksX0_of_2 12 rfl rfl)
theorem dX0_of_62 : decode cX0_of 62 = .ok (.aload_n 3, 1) := dk_45 (dk_at dksX0_of_2 15 rfl rfl)
theorem dX0_of_63 : decode cX0_of 63 = .ok (.getfield 155, 3) := dk_180 0 155 (dk_at dksX0_of_2 16 rfl rfl)
theorem dX0_of_66 : decode cX0_of 66 = .ok (.ireturn, 1) := dk_172 (dk_at dksX0_of_2 19 rfl rfl)
theorem dX0_of_67 : decode cX0_of 67 = .ok (.iload_n 2, 1) := dk_28 (dk_at dksX0_of_2 20 rfl rfl)
theorem dX0_of_68 : decode cX0_of 68 = .ok (.bipush 10, 2) := dk_16 10 (dk_at dksX0_of_2 21 rfl rfl)
theorem dX0_of_70 : decode cX0_of 70 = .ok (.bipush 11, 2) := dk_16 11 (dk_at dksX0_of_3 0 rfl rfl)
theorem dX0_of_72 : decode cX0_of 72 = .ok (.invokestatic 91, 3) := dk_184 0 91 (dk_at dksX0_of_3 2 rfl rfl)
theorem dX0_of_75 : decode cX0_of 75 = .ok (.ifCond .eq 44, 3) := dk_153 0 44 (dk_at dksX0_of_3 5 rfl rfl)
theorem dX0_of_78 : decode cX0_of 78 = .ok (.aload_n 0, 1) := dk_42 (dk_at dksX0_of_3 8 rfl rfl)
theorem dX0_of_79 : decode cX0_of 79 = .ok (.iload_n 1, 1) := dk_27 (dk_at dksX0_of_3 9 rfl rfl)
theorem dX0_of_80 : decode cX0_of 80 = .ok (.invokevirtual 104, 3) := dk_182 0 104 (dk_at dksX0_of_3 10 rfl rfl)
theorem dX0_of_83 : decode cX0_of 83 = .ok (.ifCond .ne 8, 3) := dk_154 0 8 (dk_at dksX0_of_3 13 rfl rfl)
theorem dX0_of_86 : decode cX0_of 86 = .ok (.ldc 145, 2) := dk_18 145 (dk_at dksX0_of_3 16 rfl rfl)
theorem dX0_of_88 : decode cX0_of 88 = .ok (.goto 30, 3) := dk_167 0 30 (dk_at dksX0_of_3 18 rfl rfl)
theorem dX0_of_91 : decode cX0_of 91 = .ok (.iload_n 2, 1) := dk_28 (dk_at dksX0_of_3 21 rfl rfl)
theorem dX0_of_92 : decode cX0_of 92 = .ok (.bipush 10, 2) := dk_16 10 (dk_at dksX0_of_3 22 rfl rfl)
theorem dX0_of_94 : decode cX0_of 94 = .ok (.if_icmp .ne 15, 3) := dk_160 0 15 (dk_at dksX0_of_4 0 rfl rfl)
theorem dX0_of_97 : decode cX0_of 97 = .ok (.aload_n 0, 1) := dk_42 (dk_at dksX0_of_4 3 rfl rfl)
theorem dX0_of_98 : decode cX0_of 98 = .ok (.getfield 17, 3) := dk_180 0 17 (dk_at dksX0_of_4 4 rfl rfl)
theorem dX0_of_101 : decode cX0_of 101 = .ok (.iload_n 1, 1) := dk_27 (dk_at dksX0_of_4 7 rfl rfl)
theorem dX0_of_102 : decode cX0_of 102 = .ok (.aaload, 1) := dk_50 (dk_at dksX0_of_4 8 rfl rfl)
theorem dX0_of_103 : decode cX0_of 103 = .ok (.getfield 158, 3) := dk_180 0 158 (dk_at dksX0_of_4 9 rfl rfl)
theorem dX0_of_106 : decode cX0_of 106 = .ok (.goto 12, 3) := dk_167 0 12 (dk_at dksX0_of_4 12 rfl rfl)
theorem dX0_of_109 : decode cX0_of 109 = .ok (.aload_n 0, 1) := dk_42 (dk_at dksX0_of_4 15 rfl rfl)
theorem dX0_of_110 : decode cX0_of 110 = .ok (.getfield 17, 3) := dk_180 0 17 (dk_at dksX0_of_4 16 rfl rfl)
theorem dX0_of_113 : decode cX0_of 113 = .ok (.iload_n 1, 1) := dk_27 (dk_at dksX0_of_4 19 rfl rfl)
theorem dX0_of_114 : decode cX0_of 114 = .ok (.aaload, 1) := dk_50 (dk_at dksX0_of_4 20 rfl rfl)
theorem dX0_of_115 : decode cX0_of 115 = .ok (.getfield 161, 3) := dk_180 0 161 (dk_at dksX0_of_4 21 rfl rfl)
theorem dX0_of_118 : decode cX0_of 118 = .ok (.ireturn, 1) := dk_172 (dk_at dksX0_of_5 0 rfl rfl)
theorem dX0_of_119 : decode cX0_of 119 = .ok (.iload_n 2, 1) := dk_28 (dk_at dksX0_of_5 1 rfl rfl)
theorem dX0_of_120 : decode cX0_of 120 = .ok (.bipush 20, 2) := dk_16 20 (dk_at dksX0_of_5 2 rfl rfl)
theorem dX0_of_122 : decode cX0_of 122 = .ok (.bipush 22, 2) := dk_16 22 (dk_at dksX0_of_5 4 rfl rfl)
theorem dX0_of_124 : decode cX0_of 124 = .ok (.invokestatic 91, 3) := dk_184 0 91 (dk_at dksX0_of_5 6 rfl rfl)
theorem dX0_of_127 : decode cX0_of 127 = .ok (.ifCond .eq 17, 3) := dk_153 0 17 (dk_at dksX0_of_5 9 rfl rfl)
theorem dX0_of_130 : decode cX0_of 130 = .ok (.iload_n 1, 1) := dk_27 (dk_at dksX0_of_5 12 rfl rfl)
theorem dX0_of_131 : decode cX0_of 131 = .ok (.iconst 0, 1) := dk_3 (dk_at dksX0_of_5 13 rfl rfl)
theorem dX0_of_132 : decode cX0_of 132 = .ok (.aload_n 0, 1) := dk_42 (dk_at dksX0_of_5 14 rfl rfl)
theorem dX0_of_133 : decode cX0_of 133 = .ok (.getfield 108, 3) := dk_180 0 108 (dk_at dksX0_of_5 15 rfl rfl)
theorem dX0_of_136 : decode cX0_of 136 = .ok (.iconst 1, 1) := dk_4 (dk_at dksX0_of_5 18 rfl rfl)
theorem dX0_of_137 : decode cX0_of 137 = .ok (.isub, 1) := dk_100 (dk_at dksX0_of_5 19 rfl rfl)
theorem dX0_of_138 : decode cX0_of 138 = .ok (.invokestatic 91, 3) := dk_184 0 91 (dk_at dksX0_of_5 20 rfl rfl)
theorem dX0_of_141 : decode cX0_of 141 = .ok (.ifCond .ne 6, 3) := dk_154 0 6 (dk_at dksX0_of_6 0 rfl rfl)
theorem dX0_of_144 : decode cX0_of 144 = .ok (.ldc 145, 2) := dk_18 145 (dk_at dksX0_of_6 3 rfl rfl)
theorem dX0_of_146 : decode cX0_of 146 = .ok (.ireturn, 1) := dk_172 (dk_at dksX0_of_6 5 rfl rfl)
theorem dX0_of_147 : decode cX0_of 147 = .ok (.aload_n 0, 1) := dk_42 (dk_at dksX0_of_6 6 rfl rfl)
theorem dX0_of_148 : decode cX0_of 148 = .ok (.getfield 23, 3) := dk_180 0 23 (dk_at dksX0_of_6 7 rfl rfl)
theorem dX0_of_151 : decode cX0_of 151 = .ok (.iload_n 1, 1) := dk_27 (dk_at dksX0_of_6 10 rfl rfl)
theorem dX0_of_152 : decode cX0_of 152 = .ok (.aaload, 1) := dk_50 (dk_at dksX0_of_6 11 rfl rfl)
theorem dX0_of_153 : decode cX0_of 153 = .ok (.astore_n 3, 1) := dk_78 (dk_at dksX0_of_6 12 rfl rfl)
theorem dX0_of_154 : decode cX0_of 154 = .ok (.iload_n 2, 1) := dk_28 (dk_at dksX0_of_6 13 rfl rfl)
theorem dX0_of_155 : decode cX0_of 155 = .ok (.bipush 20, 2) := dk_16 20 (dk_at dksX0_of_6 14 rfl rfl)
theorem dX0_of_157 : decode cX0_of 157 = .ok (.if_icmp .ne 10, 3) := dk_160 0 10 (dk_at dksX0_of_6 16 rfl rfl)
theorem dX0_of_160 : decode cX0_of 160 = .ok (.aload_n 3, 1) := dk_45 (dk_at dksX0_of_6 19 rfl rfl)
theorem dX0_of_161 : decode cX0_of 161 = .ok (.getfield 164, 3) := dk_180 0 164 (dk_at dksX0_of_6 20 rfl rfl)
theorem dX0_of_164 : decode cX0_of 164 = .ok (.goto 20, 3) := dk_167 0 20 (dk_at dksX0_of_7 0 rfl rfl)
theorem dX0_of_167 : decode cX0_of 167 = .ok (.iload_n 2, 1) := dk_28 (dk_at dksX0_of_7 3 rfl rfl)
theorem dX0_of_168 : decode cX0_of 168 = .ok (.bipush 21, 2) := dk_16 21 (dk_at dksX0_of_7 4 rfl rfl)
theorem dX0_of_170 : decode cX0_of 170 = .ok (.if_icmp .ne 10, 3) := dk_160 0 10 (dk_at dksX0_of_7 6 rfl rfl)
theorem dX0_of_173 : decode cX0_of 173 = .ok (.aload_n 3, 1) := dk_45 (dk_at dksX0_of_7 9 rfl rfl)
theorem dX0_of_174 : decode cX0_of 174 = .ok (.getfield 167, 3) := dk_180 0 167 (dk_at dksX0_of_7 10 rfl rfl)
theorem dX0_of_177 : decode cX0_of 177 = .ok (.goto 7, 3) := dk_167 0 7 (dk_at dksX0_of_7 13 rfl rfl)
theorem dX0_of_180 : decode cX0_of 180 = .ok (.aload_n 3, 1) := dk_45 (dk_at dksX0_of_7 16 rfl rfl)
theorem dX0_of_181 : decode cX0_of 181 = .ok (.getfield 170, 3) := dk_180 0 170 (dk_at dksX0_of_7 17 rfl rfl)
theorem dX0_of_184 : decode cX0_of 184 = .ok (.ireturn, 1) := dk_172 (dk_at dksX0_of_7 20 rfl rfl)
abbrev cX0_isPerson : ByteArray := prog_1_method_3_code
def yX0_isPerson : MethodName := ⟨RX0, "isPerson", "(I)Z"⟩
def dkwX0_isPerson_0 : List UInt8 := [27, 3, 42, 180, 0, 88, 4, 100, 184, 0, 91, 172]
abbrev dktX0_isPerson_0 : List UInt8 := dkwX0_isPerson_0 ++ []
theorem dksX0_isPerson_0 : cX0_isPerson.data.toList.drop 0 = dktX0_isPerson_0 := by decide +kernel
theorem dX0_isPerson_0 : decode cX0_isPerson 0 = .ok (.iload_n 1, 1) := dk_27 (dk_at dksX0_isPerson_0 0 rfl rfl)
theorem dX0_isPerson_1 : decode cX0_isPerson 1 = .ok (.iconst 0, 1) := dk_3 (dk_at dksX0_isPerson_0 1 rfl rfl)
theorem dX0_isPerson_2 : decode cX0_isPerson 2 = .ok (.aload_n 0, 1) := dk_42 (dk_at dksX0_isPerson_0 2 rfl rfl)
theorem dX0_isPerson_3 : decode cX0_isPerson 3 = .ok (.getfield 88, 3) := dk_180 0 88 (dk_at dksX0_isPerson_0 3 rfl rfl)
theorem dX0_isPerson_6 : decode cX0_isPerson 6 = .ok (.iconst 1, 1) := dk_4 (dk_at dksX0_isPerson_0 6 rfl rfl)
theorem dX0_isPerson_7 : decode cX0_isPerson 7 = .ok (.isub, 1) := dk_100 (dk_at dksX0_isPerson_0 7 rfl rfl)
theorem dX0_isPerson_8 : decode cX0_isPerson 8 = .ok (.invokestatic 91, 3) := dk_184 0 91 (dk_at dksX0_isPerson_0 8 rfl rfl)
theorem dX0_isPerson_11 : decode cX0_isPerson 11 = .ok (.ireturn, 1) := dk_172 (dk_at dksX0_isPerson_0 11 rfl rfl)
abbrev cX0_undo : ByteArray := prog_1_method_15_code
def yX0_undo : MethodName := ⟨RX0, "undo", "()I"⟩
def dkwX0_undo_3 : List UInt8 := [182, 0, 180, 42, 180, 0, 176, 172]
abbrev dktX0_undo_3 : List UInt8 := dkwX0_undo_3 ++ []
def dkwX0_undo_2 : List UInt8 := [180, 0, 33, 42, 180, 0, 176, 50, 180, 0, 186, 42, 180, 0, 33, 42, 180, 0, 176, 50, 180, 0, 188]
abbrev dktX0_undo_2 : List UInt8 := dkwX0_undo_2 ++ dktX0_undo_3
def dkwX0_undo_1 : List UInt8 := [180, 0, 173, 4, 96, 181, 0, 173, 42, 42, 180, 0, 33, 42, 180, 0, 176, 50, 180, 0, 183, 42]
abbrev dktX0_undo_1 : List UInt8 := dkwX0_undo_1 ++ dktX0_undo_2
def dkwX0_undo_0 : List UInt8 := [42, 180, 0, 176, 154, 0, 6, 16, 251, 172, 42, 89, 180, 0, 176, 4, 100, 181, 0, 176, 42, 89]
abbrev dktX0_undo_0 : List UInt8 := dkwX0_undo_0 ++ dktX0_undo_1
theorem dksX0_undo_0 : cX0_undo.data.toList.drop 0 = dktX0_undo_0 := by decide +kernel
theorem dksX0_undo_1 : cX0_undo.data.toList.drop 22 = dktX0_undo_1 := dk_seg dksX0_undo_0 22 rfl rfl
theorem dksX0_undo_2 : cX0_undo.data.toList.drop 44 = dktX0_undo_2 := dk_seg dksX0_undo_1 22 rfl rfl
theorem dksX0_undo_3 : cX0_undo.data.toList.drop 67 = dktX0_undo_3 := dk_seg dksX0_undo_2 23 rfl rfl
theorem dX0_undo_0 : decode cX0_undo 0 = .ok (.aload_n 0, 1) := dk_42 (dk_at dksX0_undo_0 0 rfl rfl)
theorem dX0_undo_1 : decode cX0_undo 1 = .ok (.getfield 176, 3) := dk_180 0 176 (dk_at dksX0_undo_0 1 rfl rfl)
theorem dX0_undo_4 : decode cX0_undo 4 = .ok (.ifCond .ne 6, 3) := dk_154 0 6 (dk_at dksX0_undo_0 4 rfl rfl)
theorem dX0_undo_7 : decode cX0_undo 7 = .ok (.bipush (-5), 2) := dk_16 251 (dk_at dksX0_undo_0 7 rfl rfl)
theorem dX0_undo_9 : decode cX0_undo 9 = .ok (.ireturn, 1) := dk_172 (dk_at dksX0_undo_0 9 rfl rfl)
theorem dX0_undo_10 : decode cX0_undo 10 = .ok (.aload_n 0, 1) := dk_42 (dk_at dksX0_undo_0 10 rfl rfl)
theorem dX0_undo_11 : decode cX0_undo 11 = .ok (.dup, 1) := dk_89 (dk_at dksX0_undo_0 11 rfl rfl)
theorem dX0_undo_12 : decode cX0_undo 12 = .ok (.getfield 176, 3) := dk_180 0 176 (dk_at dksX0_undo_0 12 rfl rfl)
theorem dX0_undo_15 : decode cX0_undo 15 = .ok (.iconst 1, 1) := dk_4 (dk_at dksX0_undo_0 15 rfl rfl)
theorem dX0_undo_16 : decode cX0_undo 16 = .ok (.isub, 1) := dk_100 (dk_at dksX0_undo_0 16 rfl rfl)
theorem dX0_undo_17 : decode cX0_undo 17 = .ok (.putfield 176, 3) := dk_181 0 176 (dk_at dksX0_undo_0 17 rfl rfl)
theorem dX0_undo_20 : decode cX0_undo 20 = .ok (.aload_n 0, 1) := dk_42 (dk_at dksX0_undo_0 20 rfl rfl)
theorem dX0_undo_21 : decode cX0_undo 21 = .ok (.dup, 1) := dk_89 (dk_at dksX0_undo_0 21 rfl rfl)
theorem dX0_undo_22 : decode cX0_undo 22 = .ok (.getfield 173, 3) := dk_180 0 173 (dk_at dksX0_undo_1 0 rfl rfl)
theorem dX0_undo_25 : decode cX0_undo 25 = .ok (.iconst 1, 1) := dk_4 (dk_at dksX0_undo_1 3 rfl rfl)
theorem dX0_undo_26 : decode cX0_undo 26 = .ok (.iadd, 1) := dk_96 (dk_at dksX0_undo_1 4 rfl rfl)
theorem dX0_undo_27 : decode cX0_undo 27 = .ok (.putfield 173, 3) := dk_181 0 173 (dk_at dksX0_undo_1 5 rfl rfl)
theorem dX0_undo_30 : decode cX0_undo 30 = .ok (.aload_n 0, 1) := dk_42 (dk_at dksX0_undo_1 8 rfl rfl)
theorem dX0_undo_31 : decode cX0_undo 31 = .ok (.aload_n 0, 1) := dk_42 (dk_at dksX0_undo_1 9 rfl rfl)
theorem dX0_undo_32 : decode cX0_undo 32 = .ok (.getfield 33, 3) := dk_180 0 33 (dk_at dksX0_undo_1 10 rfl rfl)
theorem dX0_undo_35 : decode cX0_undo 35 = .ok (.aload_n 0, 1) := dk_42 (dk_at dksX0_undo_1 13 rfl rfl)
theorem dX0_undo_36 : decode cX0_undo 36 = .ok (.getfield 176, 3) := dk_180 0 176 (dk_at dksX0_undo_1 14 rfl rfl)
theorem dX0_undo_39 : decode cX0_undo 39 = .ok (.aaload, 1) := dk_50 (dk_at dksX0_undo_1 17 rfl rfl)
theorem dX0_undo_40 : decode cX0_undo 40 = .ok (.getfield 183, 3) := dk_180 0 183 (dk_at dksX0_undo_1 18 rfl rfl)
theorem dX0_undo_43 : decode cX0_undo 43 = .ok (.aload_n 0, 1) := dk_42 (dk_at dksX0_undo_1 21 rfl rfl)
theorem dX0_undo_44 : decode cX0_undo 44 = .ok (.getfield 33, 3) := dk_180 0 33 (dk_at dksX0_undo_2 0 rfl rfl)
theorem dX0_undo_47 : decode cX0_undo 47 = .ok (.aload_n 0, 1) := dk_42 (dk_at dksX0_undo_2 3 rfl rfl)
theorem dX0_undo_48 : decode cX0_undo 48 = .ok (.getfield 176, 3) := dk_180 0 176 (dk_at dksX0_undo_2 4 rfl rfl)
theorem dX0_undo_51 : decode cX0_undo 51 = .ok (.aaload, 1) := dk_50 (dk_at dksX0_undo_2 7 rfl rfl)
theorem dX0_undo_52 : decode cX0_undo 52 = .ok (.getfield 186, 3) := dk_180 0 186 (dk_at dksX0_undo_2 8 rfl rfl)
theorem dX0_undo_55 : decode cX0_undo 55 = .ok (.aload_n 0, 1) := dk_42 (dk_at dksX0_undo_2 11 rfl rfl)
theorem dX0_undo_56 : decode cX0_undo 56 = .ok (.getfield 33, 3) := dk_180 0 33 (dk_at dksX0_undo_2 12 rfl rfl)
theorem dX0_undo_59 : decode cX0_undo 59 = .ok (.aload_n 0, 1) := dk_42 (dk_at dksX0_undo_2 15 rfl rfl)
theorem dX0_undo_60 : decode cX0_undo 60 = .ok (.getfield 176, 3) := dk_180 0 176 (dk_at dksX0_undo_2 16 rfl rfl)
theorem dX0_undo_63 : decode cX0_undo 63 = .ok (.aaload, 1) := dk_50 (dk_at dksX0_undo_2 19 rfl rfl)
theorem dX0_undo_64 : decode cX0_undo 64 = .ok (.getfield 188, 3) := dk_180 0 188 (dk_at dksX0_undo_2 20 rfl rfl)
theorem dX0_undo_67 : decode cX0_undo 67 = .ok (.invokevirtual 180, 3) := dk_182 0 180 (dk_at dksX0_undo_3 0 rfl rfl)
theorem dX0_undo_70 : decode cX0_undo 70 = .ok (.aload_n 0, 1) := dk_42 (dk_at dksX0_undo_3 3 rfl rfl)
theorem dX0_undo_71 : decode cX0_undo 71 = .ok (.getfield 176, 3) := dk_180 0 176 (dk_at dksX0_undo_3 4 rfl rfl)
theorem dX0_undo_74 : decode cX0_undo 74 = .ok (.ireturn, 1) := dk_172 (dk_at dksX0_undo_3 7 rfl rfl)
abbrev cX0_setTo : ByteArray := prog_1_method_13_code
def yX0_setTo : MethodName := ⟨RX0, "setTo", "(III)V"⟩
def dkwX0_setTo_4 : List UInt8 := [181, 0, 158, 167, 0, 13, 42, 180, 0, 17, 28, 50, 29, 181, 0, 161, 177]
abbrev dktX0_setTo_4 : List UInt8 := dkwX0_setTo_4 ++ []
def dkwX0_setTo_3 : List UInt8 := [167, 0, 39, 42, 180, 0, 11, 28, 50, 29, 181, 0, 155, 167, 0, 26, 42, 180, 0, 17, 28, 50, 29]
abbrev dktX0_setTo_3 : List UInt8 := dkwX0_setTo_3 ++ dktX0_setTo_4
def dkwX0_setTo_2 : List UInt8 := [42, 180, 0, 11, 28, 50, 29, 181, 0, 146, 167, 0, 52, 42, 180, 0, 11, 28, 50, 29, 181, 0, 149]
abbrev dktX0_setTo_2 : List UInt8 := dkwX0_setTo_2 ++ dktX0_setTo_3
def dkwX0_setTo_1 : List UInt8 := [170, 0, 0, 0, 0, 0, 83, 0, 0, 0, 0, 0, 0, 0, 3, 0, 0, 0, 31, 0, 0, 0, 44, 0, 0, 0, 57, 0, 0, 0, 70]
abbrev dktX0_setTo_1 : List UInt8 := dkwX0_setTo_1 ++ dktX0_setTo_2
def dkwX0_setTo_0 : List UInt8 := [27]
abbrev dktX0_setTo_0 : List UInt8 := dkwX0_setTo_0 ++ dktX0_setTo_1
theorem dksX0_setTo_0 : cX0_setTo.data.toList.drop 0 = dktX0_setTo_0 := by decide +kernel
theorem dksX0_setTo_1 : cX0_setTo.data.toList.drop 1 = dktX0_setTo_1 := dk_seg dksX0_setTo_0 1 rfl rfl
theorem dksX0_setTo_2 : cX0_setTo.data.toList.drop 32 = dktX0_setTo_2 := dk_seg dksX0_setTo_1 31 rfl rfl
theorem dksX0_setTo_3 : cX0_setTo.data.toList.drop 55 = dktX0_setTo_3 := dk_seg dksX0_setTo_2 23 rfl rfl
theorem dksX0_setTo_4 : cX0_setTo.data.toList.drop 78 = dktX0_setTo_4 := dk_seg dksX0_setTo_3 23 rfl rfl
theorem dX0_setTo_0 : decode cX0_setTo 0 = .ok (.iload_n 1, 1) := dk_27 (dk_at dksX0_setTo_0 0 rfl rfl)
theorem dX0_setTo_1 : decode cX0_setTo 1 = .ok (.tableswitch 83 0 3 #[31, 44, 57, 70], 31) := by decide +kernel
theorem dX0_setTo_32 : decode cX0_setTo 32 = .ok (.aload_n 0, 1) := dk_42 (dk_at dksX0_setTo_2 0 rfl rfl)
theorem dX0_setTo_33 : decode cX0_setTo 33 = .ok (.getfield 11, 3) := dk_180 0 11 (dk_at dksX0_setTo_2 1 rfl rfl)
theorem dX0_setTo_36 : decode cX0_setTo 36 = .ok (.iload_n 2, 1) := dk_28 (dk_at dksX0_setTo_2 4 rfl rfl)
theorem dX0_setTo_37 : decode cX0_setTo 37 = .ok (.aaload, 1) := dk_50 (dk_at dksX0_setTo_2 5 rfl rfl)
theorem dX0_setTo_38 : decode cX0_setTo 38 = .ok (.iload_n 3, 1) := dk_29 (dk_at dksX0_setTo_2 6 rfl rfl)
theorem dX0_setTo_39 : decode cX0_setTo 39 = .ok (.putfield 146, 3) := dk_181 0 146 (dk_at dksX0_setTo_2 7 rfl rfl)
theorem dX0_setTo_42 : decode cX0_setTo 42 = .ok (.goto 52, 3) := dk_167 0 52 (dk_at dksX0_setTo_2 10 rfl rfl)
theorem dX0_setTo_45 : decode cX0_setTo 45 = .ok (.aload_n 0, 1) := dk_42 (dk_at dksX0_setTo_2 13 rfl rfl)
theorem dX0_setTo_46 : decode cX0_setTo 46 = .ok (.getfield 11, 3) := dk_180 0 11 (dk_at dksX0_setTo_2 14 rfl rfl)
theorem dX0_setTo_49 : decode cX0_setTo 49 = .ok (.iload_n 2, 1) := dk_28 (dk_at dksX0_setTo_2 17 rfl rfl)
theorem dX0_setTo_50 : decode cX0_setTo 50 = .ok (.aaload, 1) := dk_50 (dk_at dksX0_setTo_2 18 rfl rfl)
theorem dX0_setTo_51 : decode cX0_setTo 51 = .ok (.iload_n 3, 1) := dk_29 (dk_at dksX0_setTo_2 19 rfl rfl)
theorem dX0_setTo_52 : decode cX0_setTo 52 = .ok (.putfield 149, 3) := dk_181 0 149 (dk_at dksX0_setTo_2 20 rfl rfl)
theorem dX0_setTo_55 : decode cX0_setTo 55 = .ok (.goto 39, 3) := dk_167 0 39 (dk_at dksX0_setTo_3 0 rfl rfl)
theorem dX0_setTo_58 : decode cX0_setTo 58 = .ok (.aload_n 0, 1) := dk_42 (dk_at dksX0_setTo_3 3 rfl rfl)
theorem dX0_setTo_59 : decode cX0_setTo 59 = .ok (.getfield 11, 3) := dk_180 0 11 (dk_at dksX0_setTo_3 4 rfl rfl)
theorem dX0_setTo_62 : decode cX0_setTo 62 = .ok (.iload_n 2, 1) := dk_28 (dk_at dksX0_setTo_3 7 rfl rfl)
theorem dX0_setTo_63 : decode cX0_setTo 63 = .ok (.aaload, 1) := dk_50 (dk_at dksX0_setTo_3 8 rfl rfl)
theorem dX0_setTo_64 : decode cX0_setTo 64 = .ok (.iload_n 3, 1) := dk_29 (dk_at dksX0_setTo_3 9 rfl rfl)
theorem dX0_setTo_65 : decode cX0_setTo 65 = .ok (.putfield 155, 3) := dk_181 0 155 (dk_at dksX0_setTo_3 10 rfl rfl)
theorem dX0_setTo_68 : decode cX0_setTo 68 = .ok (.goto 26, 3) := dk_167 0 26 (dk_at dksX0_setTo_3 13 rfl rfl)
theorem dX0_setTo_71 : decode cX0_setTo 71 = .ok (.aload_n 0, 1) := dk_42 (dk_at dksX0_setTo_3 16 rfl rfl)
theorem dX0_setTo_72 : decode cX0_setTo 72 = .ok (.getfield 17, 3) := dk_180 0 17 (dk_at dksX0_setTo_3 17 rfl rfl)
theorem dX0_setTo_75 : decode cX0_setTo 75 = .ok (.iload_n 2, 1) := dk_28 (dk_at dksX0_setTo_3 20 rfl rfl)
theorem dX0_setTo_76 : decode cX0_setTo 76 = .ok (.aaload, 1) := dk_50 (dk_at dksX0_setTo_3 21 rfl rfl)
theorem dX0_setTo_77 : decode cX0_setTo 77 = .ok (.iload_n 3, 1) := dk_29 (dk_at dksX0_setTo_3 22 rfl rfl)
theorem dX0_setTo_78 : decode cX0_setTo 78 = .ok (.putfield 158, 3) := dk_181 0 158 (dk_at dksX0_setTo_4 0 rfl rfl)
theorem dX0_setTo_81 : decode cX0_setTo 81 = .ok (.goto 13, 3) := dk_167 0 13 (dk_at dksX0_setTo_4 3 rfl rfl)
theorem dX0_setTo_84 : decode cX0_setTo 84 = .ok (.aload_n 0, 1) := dk_42 (dk_at dksX0_setTo_4 6 rfl rfl)
theorem dX0_setTo_85 : decode cX0_setTo 85 = .ok (.getfield 17, 3) := dk_180 0 17 (dk_at dksX0_setTo_4 7 rfl rfl)
theorem dX0_setTo_88 : decode cX0_setTo 88 = .ok (.iload_n 2, 1) := dk_28 (dk_at dksX0_setTo_4 10 rfl rfl)
theorem dX0_setTo_89 : decode cX0_setTo 89 = .ok (.aaload, 1) := dk_50 (dk_at dksX0_setTo_4 11 rfl rfl)
theorem dX0_setTo_90 : decode cX0_setTo 90 = .ok (.iload_n 3, 1) := dk_29 (dk_at dksX0_setTo_4 12 rfl rfl)
theorem dX0_setTo_91 : decode cX0_setTo 91 = .ok (.putfield 161, 3) := dk_181 0 161 (dk_at dksX0_setTo_4 13 rfl rfl)
theorem dX0_setTo_94 : decode cX0_setTo 94 = .ok (.return_, 1) := dk_177 (dk_at dksX0_setTo_4 16 rfl rfl)
abbrev cX0_redo : ByteArray := prog_1_method_16_code
def yX0_redo : MethodName := ⟨RX0, "redo", "()I"⟩
def dkwX0_redo_3 : List UInt8 := [180, 0, 173, 172]
abbrev dktX0_redo_3 : List UInt8 := dkwX0_redo_3 ++ []
def dkwX0_redo_2 : List UInt8 := [182, 0, 180, 42, 89, 180, 0, 176, 4, 96, 181, 0, 176, 42, 89, 180, 0, 173, 4, 100, 181, 0, 173, 42]
abbrev dktX0_redo_2 : List UInt8 := dkwX0_redo_2 ++ dktX0_redo_3
def dkwX0_redo_1 : List UInt8 := [180, 0, 33, 42, 180, 0, 176, 50, 180, 0, 186, 42, 180, 0, 33, 42, 180, 0, 176, 50, 180, 0, 191]
abbrev dktX0_redo_1 : List UInt8 := dkwX0_redo_1 ++ dktX0_redo_2
def dkwX0_redo_0 : List UInt8 := [42, 180, 0, 173, 154, 0, 6, 16, 251, 172, 42, 42, 180, 0, 33, 42, 180, 0, 176, 50, 180, 0, 183, 42]
abbrev dktX0_redo_0 : List UInt8 := dkwX0_redo_0 ++ dktX0_redo_1
theorem dksX0_redo_0 : cX0_redo.data.toList.drop 0 = dktX0_redo_0 := by decide +kernel
theorem dksX0_redo_1 : cX0_redo.data.toList.drop 24 = dktX0_redo_1 := dk_seg dksX0_redo_0 24 rfl rfl
theorem dksX0_redo_2 : cX0_redo.data.toList.drop 47 = dktX0_redo_2 := dk_seg dksX0_redo_1 23 rfl rfl
theorem dksX0_redo_3 : cX0_redo.data.toList.drop 71 = dktX0_redo_3 := dk_seg dksX0_redo_2 24 rfl rfl
theorem dX0_redo_0 : decode cX0_redo 0 = .ok (.aload_n 0, 1) := dk_42 (dk_at dksX0_redo_0 0 rfl rfl)
theorem dX0_redo_1 : decode cX0_redo 1 = .ok (.getfield 173, 3) := dk_180 0 173 (dk_at dksX0_redo_0 1 rfl rfl)
theorem dX0_redo_4 : decode cX0_redo 4 = .ok (.ifCond .ne 6, 3) := dk_154 0 6 (dk_at dksX0_redo_0 4 rfl rfl)
theorem dX0_redo_7 : decode cX0_redo 7 = .ok (.bipush (-5), 2) := dk_16 251 (dk_at dksX0_redo_0 7 rfl rfl)
theorem dX0_redo_9 : decode cX0_redo 9 = .ok (.ireturn, 1) := dk_172 (dk_at dksX0_redo_0 9 rfl rfl)
theorem dX0_redo_10 : decode cX0_redo 10 = .ok (.aload_n 0, 1) := dk_42 (dk_at dksX0_redo_0 10 rfl rfl)
theorem dX0_redo_11 : decode cX0_redo 11 = .ok (.aload_n 0, 1) := dk_42 (dk_at dksX0_redo_0 11 rfl rfl)
theorem dX0_redo_12 : decode cX0_redo 12 = .ok (.getfield 33, 3) := dk_180 0 33 (dk_at dksX0_redo_0 12 rfl rfl)
theorem dX0_redo_15 : decode cX0_redo 15 = .ok (.aload_n 0, 1) := dk_42 (dk_at dksX0_redo_0 15 rfl rfl)
theorem dX0_redo_16 : decode cX0_redo 16 = .ok (.getfield 176, 3) := dk_180 0 176 (dk_at dksX0_redo_0 16 rfl rfl)
theorem dX0_redo_19 : decode cX0_redo 19 = .ok (.aaload, 1) := dk_50 (dk_at dksX0_redo_0 19 rfl rfl)
theorem dX0_redo_20 : decode cX0_redo 20 = .ok (.getfield 183, 3) := dk_180 0 183 (dk_at dksX0_redo_0 20 rfl rfl)
theorem dX0_redo_23 : decode cX0_redo 23 = .ok (.aload_n 0, 1) := dk_42 (dk_at dksX0_redo_0 23 rfl rfl)
theorem dX0_redo_24 : decode cX0_redo 24 = .ok (.getfield 33, 3) := dk_180 0 33 (dk_at dksX0_redo_1 0 rfl rfl)
theorem dX0_redo_27 : decode cX0_redo 27 = .ok (.aload_n 0, 1) := dk_42 (dk_at dksX0_redo_1 3 rfl rfl)
theorem dX0_redo_28 : decode cX0_redo 28 = .ok (.getfield 176, 3) := dk_180 0 176 (dk_at dksX0_redo_1 4 rfl rfl)
theorem dX0_redo_31 : decode cX0_redo 31 = .ok (.aaload, 1) := dk_50 (dk_at dksX0_redo_1 7 rfl rfl)
theorem dX0_redo_32 : decode cX0_redo 32 = .ok (.getfield 186, 3) := dk_180 0 186 (dk_at dksX0_redo_1 8 rfl rfl)
theorem dX0_redo_35 : decode cX0_redo 35 = .ok (.aload_n 0, 1) := dk_42 (dk_at dksX0_redo_1 11 rfl rfl)
theorem dX0_redo_36 : decode cX0_redo 36 = .ok (.getfield 33, 3) := dk_180 0 33 (dk_at dksX0_redo_1 12 rfl rfl)
theorem dX0_redo_39 : decode cX0_redo 39 = .ok (.aload_n 0, 1) := dk_42 (dk_at dksX0_redo_1 15 rfl rfl)
theorem dX0_redo_40 : decode cX0_redo 40 = .ok (.getfield 176, 3) := dk_180 0 176 (dk_at dksX0_redo_1 16 rfl rfl)
theorem dX0_redo_43 : decode cX0_redo 43 = .ok (.aaload, 1) := dk_50 (dk_at dksX0_redo_1 19 rfl rfl)
theorem dX0_redo_44 : decode cX0_redo 44 = .ok (.getfield 191, 3) := dk_180 0 191 (dk_at dksX0_redo_1 20 rfl rfl)
theorem dX0_redo_47 : decode cX0_redo 47 = .ok (.invokevirtual 180, 3) := dk_182 0 180 (dk_at dksX0_redo_2 0 rfl rfl)
theorem dX0_redo_50 : decode cX0_redo 50 = .ok (.aload_n 0, 1) := dk_42 (dk_at dksX0_redo_2 3 rfl rfl)
theorem dX0_redo_51 : decode cX0_redo 51 = .ok (.dup, 1) := dk_89 (dk_at dksX0_redo_2 4 rfl rfl)
theorem dX0_redo_52 : decode cX0_redo 52 = .ok (.getfield 176, 3) := dk_180 0 176 (dk_at dksX0_redo_2 5 rfl rfl)
theorem dX0_redo_55 : decode cX0_redo 55 = .ok (.iconst 1, 1) := dk_4 (dk_at dksX0_redo_2 8 rfl rfl)
theorem dX0_redo_56 : decode cX0_redo 56 = .ok (.iadd, 1) := dk_96 (dk_at dksX0_redo_2 9 rfl rfl)
theorem dX0_redo_57 : decode cX0_redo 57 = .ok (.putfield 176, 3) := dk_181 0 176 (dk_at dksX0_redo_2 10 rfl rfl)
theorem dX0_redo_60 : decode cX0_redo 60 = .ok (.aload_n 0, 1) := dk_42 (dk_at dksX0_redo_2 13 rfl rfl)
theorem dX0_redo_61 : decode cX0_redo 61 = .ok (.dup, 1) := dk_89 (dk_at dksX0_redo_2 14 rfl rfl)
theorem dX0_redo_62 : decode cX0_redo 62 = .ok (.getfield 173, 3) := dk_180 0 173 (dk_at dksX0_redo_2 15 rfl rfl)
theorem dX0_redo_65 : decode cX0_redo 65 = .ok (.iconst 1, 1) := dk_4 (dk_at dksX0_redo_2 18 rfl rfl)
theorem dX0_redo_66 : decode cX0_redo 66 = .ok (.isub, 1) := dk_100 (dk_at dksX0_redo_2 19 rfl rfl)
theorem dX0_redo_67 : decode cX0_redo 67 = .ok (.putfield 173, 3) := dk_181 0 173 (dk_at dksX0_redo_2 20 rfl rfl)
theorem dX0_redo_70 : decode cX0_redo 70 = .ok (.aload_n 0, 1) := dk_42 (dk_at dksX0_redo_2 23 rfl rfl)
theorem dX0_redo_71 : decode cX0_redo 71 = .ok (.getfield 173, 3) := dk_180 0 173 (dk_at dksX0_redo_3 0 rfl rfl)
theorem dX0_redo_74 : decode cX0_redo 74 = .ok (.ireturn, 1) := dk_172 (dk_at dksX0_redo_3 3 rfl rfl)
abbrev cX0_mend : ByteArray := prog_1_method_17_code
def yX0_mend : MethodName := ⟨RX0, "mend", "(III)I"⟩
def dkwX0_mend_10 : List UInt8 := [180, 0, 17, 27, 50, 180, 0, 161, 29, 182, 0, 194, 167, 0, 5, 18, 145, 172, 18, 145, 172]
abbrev dktX0_mend_10 : List UInt8 := dkwX0_mend_10 ++ []
def dkwX0_mend_9 : List UInt8 := [172, 42, 27, 182, 0, 104, 153, 0, 32, 29, 3, 16, 9, 184, 0, 91, 153, 0, 22, 42, 7, 27, 42]
abbrev dktX0_mend_9 : List UInt8 := dkwX0_mend_9 ++ dktX0_mend_10
def dkwX0_mend_8 : List UInt8 := [153, 0, 22, 42, 6, 27, 42, 180, 0, 17, 27, 50, 180, 0, 158, 29, 182, 0, 194, 167, 0, 5, 18, 145]
abbrev dktX0_mend_8 : List UInt8 := dkwX0_mend_8 ++ dktX0_mend_9
def dkwX0_mend_7 : List UInt8 := [167, 0, 5, 18, 145, 172, 42, 27, 182, 0, 104, 153, 0, 33, 29, 16, 157, 16, 99, 184, 0, 91]
abbrev dktX0_mend_7 : List UInt8 := dkwX0_mend_7 ++ dktX0_mend_8
def dkwX0_mend_6 : List UInt8 := [16, 99, 184, 0, 91, 153, 0, 22, 42, 5, 27, 42, 180, 0, 11, 27, 50, 180, 0, 155, 29, 182, 0, 194]
abbrev dktX0_mend_6 : List UInt8 := dkwX0_mend_6 ++ dktX0_mend_7
def dkwX0_mend_5 : List UInt8 := [180, 0, 149, 29, 182, 0, 194, 167, 0, 5, 18, 145, 172, 42, 27, 182, 0, 142, 153, 0, 32, 29, 3]
abbrev dktX0_mend_5 : List UInt8 := dkwX0_mend_5 ++ dktX0_mend_6
def dkwX0_mend_4 : List UInt8 := [153, 0, 32, 29, 3, 16, 9, 184, 0, 91, 153, 0, 22, 42, 4, 27, 42, 180, 0, 11, 27, 50]
abbrev dktX0_mend_4 : List UInt8 := dkwX0_mend_4 ++ dktX0_mend_5
def dkwX0_mend_3 : List UInt8 := [180, 0, 11, 27, 50, 180, 0, 146, 29, 182, 0, 194, 167, 0, 5, 18, 145, 172, 42, 27, 182, 0, 142]
abbrev dktX0_mend_3 : List UInt8 := dkwX0_mend_3 ++ dktX0_mend_4
def dkwX0_mend_2 : List UInt8 := [42, 27, 182, 0, 142, 153, 0, 32, 29, 3, 16, 9, 184, 0, 91, 153, 0, 22, 42, 3, 27, 42]
abbrev dktX0_mend_2 : List UInt8 := dkwX0_mend_2 ++ dktX0_mend_3
def dkwX0_mend_1 : List UInt8 := [170, 0, 0, 0, 0, 0, 236, 0, 0, 0, 0, 0, 0, 0, 4, 0, 0, 0, 35, 0, 0, 0, 75, 0, 0, 0, 115, 0, 0, 0, 155, 0, 0, 0, 196]
abbrev dktX0_mend_1 : List UInt8 := dkwX0_mend_1 ++ dktX0_mend_2
def dkwX0_mend_0 : List UInt8 := [28]
abbrev dktX0_mend_0 : List UInt8 := dkwX0_mend_0 ++ dktX0_mend_1
theorem dksX0_mend_0 : cX0_mend.data.toList.drop 0 = dktX0_mend_0 := by decide +kernel
theorem dksX0_mend_1 : cX0_mend.data.toList.drop 1 = dktX0_mend_1 := dk_seg dksX0_mend_0 1 rfl rfl
theorem dksX0_mend_2 : cX0_mend.data.toList.drop 36 = dktX0_mend_2 := dk_seg dksX0_mend_1 35 rfl rfl
theorem dksX0_mend_3 : cX0_mend.data.toList.drop 58 = dktX0_mend_3 := dk_seg dksX0_mend_2 22 rfl rfl
theorem dksX0_mend_4 : cX0_mend.data.toList.drop 81 = dktX0_mend_4 := dk_seg dksX0_mend_3 23 rfl rfl
theorem dksX0_mend_5 : cX0_mend.data.toList.drop 103 = dktX0_mend_5 := dk_seg dksX0_mend_4 22 rfl rfl
theorem dksX0_mend_6 : cX0_mend.data.toList.drop 126 = dktX0_mend_6 := dk_seg dksX0_mend_5 23 rfl rfl
theorem dksX0_mend_7 : cX0_mend.data.toList.drop 150 = dktX0_mend_7 := dk_seg dksX0_mend_6 24 rfl rfl
theorem dksX0_mend_8 : cX0_mend.data.toList.drop 172 = dktX0_mend_8 := dk_seg dksX0_mend_7 22 rfl rfl
theorem dksX0_mend_9 : cX0_mend.data.toList.drop 196 = dktX0_mend_9 := dk_seg dksX0_mend_8 24 rfl rfl
theorem dksX0_mend_10 : cX0_mend.data.toList.drop 219 = dktX0_mend_10 := dk_seg dksX0_mend_9 23 rfl rfl
theorem dX0_mend_0 : decode cX0_mend 0 = .ok (.iload_n 2, 1) := dk_28 (dk_at dksX0_mend_0 0 rfl rfl)
theorem dX0_mend_1 : decode cX0_mend 1 = .ok (.tableswitch 236 0 4 #[35, 75, 115, 155, 196], 35) := by decide +kernel
theorem dX0_mend_36 : decode cX0_mend 36 = .ok (.aload_n 0, 1) := dk_42 (dk_at dksX0_mend_2 0 rfl rfl)
theorem dX0_mend_37 : decode cX0_mend 37 = .ok (.iload_n 1, 1) := dk_27 (dk_at dksX0_mend_2 1 rfl rfl)
theorem dX0_mend_38 : decode cX0_mend 38 = .ok (.invokevirtual 142, 3) := dk_182 0 142 (dk_at dksX0_mend_2 2 rfl rfl)
theorem dX0_mend_41 : decode cX0_mend 41 = .ok (.ifCond .eq 32, 3) := dk_153 0 32 (dk_at dksX0_mend_2 5 rfl rfl)
theorem dX0_mend_44 : decode cX0_mend 44 = .ok (.iload_n 3, 1) := dk_29 (dk_at dksX0_mend_2 8 rfl rfl)
theorem dX0_mend_45 : decode cX0_mend 45 = .ok (.iconst 0, 1) := dk_3 (dk_at dksX0_mend_2 9 rfl rfl)
theorem dX0_mend_46 : decode cX0_mend 46 = .ok (.bipush 9, 2) := dk_16 9 (dk_at dksX0_mend_2 10 rfl rfl)
theorem dX0_mend_48 : decode cX0_mend 48 = .ok (.invokestatic 91, 3) := dk_184 0 91 (dk_at dksX0_mend_2 12 rfl rfl)
theorem dX0_mend_51 : decode cX0_mend 51 = .ok (.ifCond .eq 22, 3) := dk_153 0 22 (dk_at dksX0_mend_2 15 rfl rfl)
theorem dX0_mend_54 : decode cX0_mend 54 = .ok (.aload_n 0, 1) := dk_42 (dk_at dksX0_mend_2 18 rfl rfl)
theorem dX0_mend_55 : decode cX0_mend 55 = .ok (.iconst 0, 1) := dk_3 (dk_at dksX0_mend_2 19 rfl rfl)
theorem dX0_mend_56 : decode cX0_mend 56 = .ok (.iload_n 1, 1) := dk_27 (dk_at dksX0_mend_2 20 rfl rfl)
theorem dX0_mend_57 : decode cX0_mend 57 = .ok (.aload_n 0, 1) := dk_42 (dk_at dksX0_mend_2 21 rfl rfl)
theorem dX0_mend_58 : decode cX0_mend 58 = .ok (.getfield 11, 3) := dk_180 0 11 (dk_at dksX0_mend_3 0 rfl rfl)
theorem dX0_mend_61 : decode cX0_mend 61 = .ok (.iload_n 1, 1) := dk_27 (dk_at dksX0_mend_3 3 rfl rfl)
theorem dX0_mend_62 : decode cX0_mend 62 = .ok (.aaload, 1) := dk_50 (dk_at dksX0_mend_3 4 rfl rfl)
theorem dX0_mend_63 : decode cX0_mend 63 = .ok (.getfield 146, 3) := dk_180 0 146 (dk_at dksX0_mend_3 5 rfl rfl)
theorem dX0_mend_66 : decode cX0_mend 66 = .ok (.iload_n 3, 1) := dk_29 (dk_at dksX0_mend_3 8 rfl rfl)
theorem dX0_mend_67 : decode cX0_mend 67 = .ok (.invokevirtual 194, 3) := dk_182 0 194 (dk_at dksX0_mend_3 9 rfl rfl)
theorem dX0_mend_70 : decode cX0_mend 70 = .ok (.goto 5, 3) := dk_167 0 5 (dk_at dksX0_mend_3 12 rfl rfl)
theorem dX0_mend_73 : decode cX0_mend 73 = .ok (.ldc 145, 2) := dk_18 145 (dk_at dksX0_mend_3 15 rfl rfl)
theorem dX0_mend_75 : decode cX0_mend 75 = .ok (.ireturn, 1) := dk_172 (dk_at dksX0_mend_3 17 rfl rfl)
theorem dX0_mend_76 : decode cX0_mend 76 = .ok (.aload_n 0, 1) := dk_42 (dk_at dksX0_mend_3 18 rfl rfl)
theorem dX0_mend_77 : decode cX0_mend 77 = .ok (.iload_n 1, 1) := dk_27 (dk_at dksX0_mend_3 19 rfl rfl)
theorem dX0_mend_78 : decode cX0_mend 78 = .ok (.invokevirtual 142, 3) := dk_182 0 142 (dk_at dksX0_mend_3 20 rfl rfl)
theorem dX0_mend_81 : decode cX0_mend 81 = .ok (.ifCond .eq 32, 3) := dk_153 0 32 (dk_at dksX0_mend_4 0 rfl rfl)
theorem dX0_mend_84 : decode cX0_mend 84 = .ok (.iload_n 3, 1) := dk_29 (dk_at dksX0_mend_4 3 rfl rfl)
theorem dX0_mend_85 : decode cX0_mend 85 = .ok (.iconst 0, 1) := dk_3 (dk_at dksX0_mend_4 4 rfl rfl)
theorem dX0_mend_86 : decode cX0_mend 86 = .ok (.bipush 9, 2) := dk_16 9 (dk_at dksX0_mend_4 5 rfl rfl)
theorem dX0_mend_88 : decode cX0_mend 88 = .ok (.invokestatic 91, 3) := dk_184 0 91 (dk_at dksX0_mend_4 7 rfl rfl)
theorem dX0_mend_91 : decode cX0_mend 91 = .ok (.ifCond .eq 22, 3) := dk_153 0 22 (dk_at dksX0_mend_4 10 rfl rfl)
theorem dX0_mend_94 : decode cX0_mend 94 = .ok (.aload_n 0, 1) := dk_42 (dk_at dksX0_mend_4 13 rfl rfl)
theorem dX0_mend_95 : decode cX0_mend 95 = .ok (.iconst 1, 1) := dk_4 (dk_at dksX0_mend_4 14 rfl rfl)
theorem dX0_mend_96 : decode cX0_mend 96 = .ok (.iload_n 1, 1) := dk_27 (dk_at dksX0_mend_4 15 rfl rfl)
theorem dX0_mend_97 : decode cX0_mend 97 = .ok (.aload_n 0, 1) := dk_42 (dk_at dksX0_mend_4 16 rfl rfl)
theorem dX0_mend_98 : decode cX0_mend 98 = .ok (.getfield 11, 3) := dk_180 0 11 (dk_at dksX0_mend_4 17 rfl rfl)
theorem dX0_mend_101 : decode cX0_mend 101 = .ok (.iload_n 1, 1) := dk_27 (dk_at dksX0_mend_4 20 rfl rfl)
theorem dX0_mend_102 : decode cX0_mend 102 = .ok (.aaload, 1) := dk_50 (dk_at dksX0_mend_4 21 rfl rfl)
theorem dX0_mend_103 : decode cX0_mend 103 = .ok (.getfield 149, 3) := dk_180 0 149 (dk_at dksX0_mend_5 0 rfl rfl)
theorem dX0_mend_106 : decode cX0_mend 106 = .ok (.iload_n 3, 1) := dk_29 (dk_at dksX0_mend_5 3 rfl rfl)
theorem dX0_mend_107 : decode cX0_mend 107 = .ok (.invokevirtual 194, 3) := dk_182 0 194 (dk_at dksX0_mend_5 4 rfl rfl)
theorem dX0_mend_110 : decode cX0_mend 110 = .ok (.goto 5, 3) := dk_167 0 5 (dk_at dksX0_mend_5 7 rfl rfl)
theorem dX0_mend_113 : decode cX0_mend 113 = .ok (.ldc 145, 2) := dk_18 145 (dk_at dksX0_mend_5 10 rfl rfl)
theorem dX0_mend_115 : decode cX0_mend 115 = .ok (.ireturn, 1) := dk_172 (dk_at dksX0_mend_5 12 rfl rfl)
theorem dX0_mend_116 : decode cX0_mend 116 = .ok (.aload_n 0, 1) := dk_42 (dk_at dksX0_mend_5 13 rfl rfl)
theorem dX0_mend_117 : decode cX0_mend 117 = .ok (.iload_n 1, 1) := dk_27 (dk_at dksX0_mend_5 14 rfl rfl)
theorem dX0_mend_118 : decode cX0_mend 118 = .ok (.invokevirtual 142, 3) := dk_182 0 142 (dk_at dksX0_mend_5 15 rfl rfl)
theorem dX0_mend_121 : decode cX0_mend 121 = .ok (.ifCond .eq 32, 3) := dk_153 0 32 (dk_at dksX0_mend_5 18 rfl rfl)
theorem dX0_mend_124 : decode cX0_mend 124 = .ok (.iload_n 3, 1) := dk_29 (dk_at dksX0_mend_5 21 rfl rfl)
theorem dX0_mend_125 : decode cX0_mend 125 = .ok (.iconst 0, 1) := dk_3 (dk_at dksX0_mend_5 22 rfl rfl)
theorem dX0_mend_126 : decode cX0_mend 126 = .ok (.bipush 99, 2) := dk_16 99 (dk_at dksX0_mend_6 0 rfl rfl)
theorem dX0_mend_128 : decode cX0_mend 128 = .ok (.invokestatic 91, 3) := dk_184 0 91 (dk_at dksX0_mend_6 2 rfl rfl)
theorem dX0_mend_131 : decode cX0_mend 131 = .ok (.ifCond .eq 22, 3) := dk_153 0 22 (dk_at dksX0_mend_6 5 rfl rfl)
theorem dX0_mend_134 : decode cX0_mend 134 = .ok (.aload_n 0, 1) := dk_42 (dk_at dksX0_mend_6 8 rfl rfl)
theorem dX0_mend_135 : decode cX0_mend 135 = .ok (.iconst 2, 1) := dk_5 (dk_at dksX0_mend_6 9 rfl rfl)
theorem dX0_mend_136 : decode cX0_mend 136 = .ok (.iload_n 1, 1) := dk_27 (dk_at dksX0_mend_6 10 rfl rfl)
theorem dX0_mend_137 : decode cX0_mend 137 = .ok (.aload_n 0, 1) := dk_42 (dk_at dksX0_mend_6 11 rfl rfl)
theorem dX0_mend_138 : decode cX0_mend 138 = .ok (.getfield 11, 3) := dk_180 0 11 (dk_at dksX0_mend_6 12 rfl rfl)
theorem dX0_mend_141 : decode cX0_mend 141 = .ok (.iload_n 1, 1) := dk_27 (dk_at dksX0_mend_6 15 rfl rfl)
theorem dX0_mend_142 : decode cX0_mend 142 = .ok (.aaload, 1) := dk_50 (dk_at dksX0_mend_6 16 rfl rfl)
theorem dX0_mend_143 : decode cX0_mend 143 = .ok (.getfield 155, 3) := dk_180 0 155 (dk_at dksX0_mend_6 17 rfl rfl)
theorem dX0_mend_146 : decode cX0_mend 146 = .ok (.iload_n 3, 1) := dk_29 (dk_at dksX0_mend_6 20 rfl rfl)
theorem dX0_mend_147 : decode cX0_mend 147 = .ok (.invokevirtual 194, 3) := dk_182 0 194 (dk_at dksX0_mend_6 21 rfl rfl)
theorem dX0_mend_150 : decode cX0_mend 150 = .ok (.goto 5, 3) := dk_167 0 5 (dk_at dksX0_mend_7 0 rfl rfl)
theorem dX0_mend_153 : decode cX0_mend 153 = .ok (.ldc 145, 2) := dk_18 145 (dk_at dksX0_mend_7 3 rfl rfl)
theorem dX0_mend_155 : decode cX0_mend 155 = .ok (.ireturn, 1) := dk_172 (dk_at dksX0_mend_7 5 rfl rfl)
theorem dX0_mend_156 : decode cX0_mend 156 = .ok (.aload_n 0, 1) := dk_42 (dk_at dksX0_mend_7 6 rfl rfl)
theorem dX0_mend_157 : decode cX0_mend 157 = .ok (.iload_n 1, 1) := dk_27 (dk_at dksX0_mend_7 7 rfl rfl)
theorem dX0_mend_158 : decode cX0_mend 158 = .ok (.invokevirtual 104, 3) := dk_182 0 104 (dk_at dksX0_mend_7 8 rfl rfl)
theorem dX0_mend_161 : decode cX0_mend 161 = .ok (.ifCond .eq 33, 3) := dk_153 0 33 (dk_at dksX0_mend_7 11 rfl rfl)
theorem dX0_mend_164 : decode cX0_mend 164 = .ok (.iload_n 3, 1) := dk_29 (dk_at dksX0_mend_7 14 rfl rfl)
theorem dX0_mend_165 : decode cX0_mend 165 = .ok (.bipush (-99), 2) := dk_16 157 (dk_at dksX0_mend_7 15 rfl rfl)
theorem dX0_mend_167 : decode cX0_mend 167 = .ok (.bipush 99, 2) := dk_16 99 (dk_at dksX0_mend_7 17 rfl rfl)
theorem dX0_mend_169 : decode cX0_mend 169 = .ok (.invokestatic 91, 3) := dk_184 0 91 (dk_at dksX0_mend_7 19 rfl rfl)
theorem dX0_mend_172 : decode cX0_mend 172 = .ok (.ifCond .eq 22, 3) := dk_153 0 22 (dk_at dksX0_mend_8 0 rfl rfl)
theorem dX0_mend_175 : decode cX0_mend 175 = .ok (.aload_n 0, 1) := dk_42 (dk_at dksX0_mend_8 3 rfl rfl)
theorem dX0_mend_176 : decode cX0_mend 176 = .ok (.iconst 3, 1) := dk_6 (dk_at dksX0_mend_8 4 rfl rfl)
theorem dX0_mend_177 : decode cX0_mend 177 = .ok (.iload_n 1, 1) := dk_27 (dk_at dksX0_mend_8 5 rfl rfl)
theorem dX0_mend_178 : decode cX0_mend 178 = .ok (.aload_n 0, 1) := dk_42 (dk_at dksX0_mend_8 6 rfl rfl)
theorem dX0_mend_179 : decode cX0_mend 179 = .ok (.getfield 17, 3) := dk_180 0 17 (dk_at dksX0_mend_8 7 rfl rfl)
theorem dX0_mend_182 : decode cX0_mend 182 = .ok (.iload_n 1, 1) := dk_27 (dk_at dksX0_mend_8 10 rfl rfl)
theorem dX0_mend_183 : decode cX0_mend 183 = .ok (.aaload, 1) := dk_50 (dk_at dksX0_mend_8 11 rfl rfl)
theorem dX0_mend_184 : decode cX0_mend 184 = .ok (.getfield 158, 3) := dk_180 0 158 (dk_at dksX0_mend_8 12 rfl rfl)
theorem dX0_mend_187 : decode cX0_mend 187 = .ok (.iload_n 3, 1) := dk_29 (dk_at dksX0_mend_8 15 rfl rfl)
theorem dX0_mend_188 : decode cX0_mend 188 = .ok (.invokevirtual 194, 3) := dk_182 0 194 (dk_at dksX0_mend_8 16 rfl rfl)
theorem dX0_mend_191 : decode cX0_mend 191 = .ok (.goto 5, 3) := dk_167 0 5 (dk_at dksX0_mend_8 19 rfl rfl)
theorem dX0_mend_194 : decode cX0_mend 194 = .ok (.ldc 145, 2) := dk_18 145 (dk_at dksX0_mend_8 22 rfl rfl)
theorem dX0_mend_196 : decode cX0_mend 196 = .ok (.ireturn, 1) := dk_172 (dk_at dksX0_mend_9 0 rfl rfl)
theorem dX0_mend_197 : decode cX0_mend 197 = .ok (.aload_n 0, 1) := dk_42 (dk_at dksX0_mend_9 1 rfl rfl)
theorem dX0_mend_198 : decode cX0_mend 198 = .ok (.iload_n 1, 1) := dk_27 (dk_at dksX0_mend_9 2 rfl rfl)
theorem dX0_mend_199 : decode cX0_mend 199 = .ok (.invokevirtual 104, 3) := dk_182 0 104 (dk_at dksX0_mend_9 3 rfl rfl)
theorem dX0_mend_202 : decode cX0_mend 202 = .ok (.ifCond .eq 32, 3) := dk_153 0 32 (dk_at dksX0_mend_9 6 rfl rfl)
theorem dX0_mend_205 : decode cX0_mend 205 = .ok (.iload_n 3, 1) := dk_29 (dk_at dksX0_mend_9 9 rfl rfl)
theorem dX0_mend_206 : decode cX0_mend 206 = .ok (.iconst 0, 1) := dk_3 (dk_at dksX0_mend_9 10 rfl rfl)
theorem dX0_mend_207 : decode cX0_mend 207 = .ok (.bipush 9, 2) := dk_16 9 (dk_at dksX0_mend_9 11 rfl rfl)
theorem dX0_mend_209 : decode cX0_mend 209 = .ok (.invokestatic 91, 3) := dk_184 0 91 (dk_at dksX0_mend_9 13 rfl rfl)
theorem dX0_mend_212 : decode cX0_mend 212 = .ok (.ifCond .eq 22, 3) := dk_153 0 22 (dk_at dksX0_mend_9 16 rfl rfl)
theorem dX0_mend_215 : decode cX0_mend 215 = .ok (.aload_n 0, 1) := dk_42 (dk_at dksX0_mend_9 19 rfl rfl)
theorem dX0_mend_216 : decode cX0_mend 216 = .ok (.iconst 4, 1) := dk_7 (dk_at dksX0_mend_9 20 rfl rfl)
theorem dX0_mend_217 : decode cX0_mend 217 = .ok (.iload_n 1, 1) := dk_27 (dk_at dksX0_mend_9 21 rfl rfl)
theorem dX0_mend_218 : decode cX0_mend 218 = .ok (.aload_n 0, 1) := dk_42 (dk_at dksX0_mend_9 22 rfl rfl)
theorem dX0_mend_219 : decode cX0_mend 219 = .ok (.getfield 17, 3) := dk_180 0 17 (dk_at dksX0_mend_10 0 rfl rfl)
theorem dX0_mend_222 : decode cX0_mend 222 = .ok (.iload_n 1, 1) := dk_27 (dk_at dksX0_mend_10 3 rfl rfl)
theorem dX0_mend_223 : decode cX0_mend 223 = .ok (.aaload, 1) := dk_50 (dk_at dksX0_mend_10 4 rfl rfl)
theorem dX0_mend_224 : decode cX0_mend 224 = .ok (.getfield 161, 3) := dk_180 0 161 (dk_at dksX0_mend_10 5 rfl rfl)
theorem dX0_mend_227 : decode cX0_mend 227 = .ok (.iload_n 3, 1) := dk_29 (dk_at dksX0_mend_10 8 rfl rfl)
theorem dX0_mend_228 : decode cX0_mend 228 = .ok (.invokevirtual 194, 3) := dk_182 0 194 (dk_at dksX0_mend_10 9 rfl rfl)
theorem dX0_mend_231 : decode cX0_mend 231 = .ok (.goto 5, 3) := dk_167 0 5 (dk_at dksX0_mend_10 12 rfl rfl)
theorem dX0_mend_234 : decode cX0_mend 234 = .ok (.ldc 145, 2) := dk_18 145 (dk_at dksX0_mend_10 15 rfl rfl)
theorem dX0_mend_236 : decode cX0_mend 236 = .ok (.ireturn, 1) := dk_172 (dk_at dksX0_mend_10 17 rfl rfl)
theorem dX0_mend_237 : decode cX0_mend 237 = .ok (.ldc 145, 2) := dk_18 145 (dk_at dksX0_mend_10 18 rfl rfl)
theorem dX0_mend_239 : decode cX0_mend 239 = .ok (.ireturn, 1) := dk_172 (dk_at dksX0_mend_10 20 rfl rfl)
abbrev cX0_become : ByteArray := prog_1_method_14_code
def yX0_become : MethodName := ⟨RX0, "become", "(IIII)I"⟩
def dkwX0_become_4 : List UInt8 := [181, 0, 176, 42, 27, 28, 21, 4, 182, 0, 180, 29, 172]
abbrev dktX0_become_4 : List UInt8 := dkwX0_become_4 ++ []
def dkwX0_become_3 : List UInt8 := [180, 0, 176, 187, 0, 31, 89, 27, 28, 29, 21, 4, 183, 0, 179, 83, 42, 89, 180, 0, 176, 4, 96]
abbrev dktX0_become_3 : List UInt8 := dkwX0_become_3 ++ dktX0_become_4
def dkwX0_become_2 : List UInt8 := [83, 132, 5, 1, 167, 255, 230, 42, 89, 180, 0, 176, 4, 100, 181, 0, 176, 42, 180, 0, 33, 42]
abbrev dktX0_become_2 : List UInt8 := dkwX0_become_2 ++ dktX0_become_3
def dkwX0_become_1 : List UInt8 := [54, 5, 21, 5, 16, 40, 162, 0, 25, 42, 180, 0, 33, 21, 5, 4, 100, 42, 180, 0, 33, 21, 5, 50]
abbrev dktX0_become_1 : List UInt8 := dkwX0_become_1 ++ dktX0_become_2
def dkwX0_become_0 : List UInt8 := [29, 21, 4, 160, 0, 5, 29, 172, 42, 3, 181, 0, 173, 42, 180, 0, 176, 16, 40, 160, 0, 45, 4]
abbrev dktX0_become_0 : List UInt8 := dkwX0_become_0 ++ dktX0_become_1
theorem dksX0_become_0 : cX0_become.data.toList.drop 0 = dktX0_become_0 := by decide +kernel
theorem dksX0_become_1 : cX0_become.data.toList.drop 23 = dktX0_become_1 := dk_seg dksX0_become_0 23 rfl rfl
theorem dksX0_become_2 : cX0_become.data.toList.drop 47 = dktX0_become_2 := dk_seg dksX0_become_1 24 rfl rfl
theorem dksX0_become_3 : cX0_become.data.toList.drop 69 = dktX0_become_3 := dk_seg dksX0_become_2 22 rfl rfl
theorem dksX0_become_4 : cX0_become.data.toList.drop 92 = dktX0_become_4 := dk_seg dksX0_become_3 23 rfl rfl
theorem dX0_become_0 : decode cX0_become 0 = .ok (.iload_n 3, 1) := dk_29 (dk_at dksX0_become_0 0 rfl rfl)
theorem dX0_become_1 : decode cX0_become 1 = .ok (.iload 4, 2) := dk_21 4 (dk_at dksX0_become_0 1 rfl rfl)
theorem dX0_become_3 : decode cX0_become 3 = .ok (.if_icmp .ne 5, 3) := dk_160 0 5 (dk_at dksX0_become_0 3 rfl rfl)
theorem dX0_become_6 : decode cX0_become 6 = .ok (.iload_n 3, 1) := dk_29 (dk_at dksX0_become_0 6 rfl rfl)
theorem dX0_become_7 : decode cX0_become 7 = .ok (.ireturn, 1) := dk_172 (dk_at dksX0_become_0 7 rfl rfl)
theorem dX0_become_8 : decode cX0_become 8 = .ok (.aload_n 0, 1) := dk_42 (dk_at dksX0_become_0 8 rfl rfl)
theorem dX0_become_9 : decode cX0_become 9 = .ok (.iconst 0, 1) := dk_3 (dk_at dksX0_become_0 9 rfl rfl)
theorem dX0_become_10 : decode cX0_become 10 = .ok (.putfield 173, 3) := dk_181 0 173 (dk_at dksX0_become_0 10 rfl rfl)
theorem dX0_become_13 : decode cX0_become 13 = .ok (.aload_n 0, 1) := dk_42 (dk_at dksX0_become_0 13 rfl rfl)
theorem dX0_become_14 : decode cX0_become 14 = .ok (.getfield 176, 3) := dk_180 0 176 (dk_at dksX0_become_0 14 rfl rfl)
theorem dX0_become_17 : decode cX0_become 17 = .ok (.bipush 40, 2) := dk_16 40 (dk_at dksX0_become_0 17 rfl rfl)
theorem dX0_become_19 : decode cX0_become 19 = .ok (.if_icmp .ne 45, 3) := dk_160 0 45 (dk_at dksX0_become_0 19 rfl rfl)
theorem dX0_become_22 : decode cX0_become 22 = .ok (.iconst 1, 1) := dk_4 (dk_at dksX0_become_0 22 rfl rfl)
theorem dX0_become_23 : decode cX0_become 23 = .ok (.istore 5, 2) := dk_54 5 (dk_at dksX0_become_1 0 rfl rfl)
theorem dX0_become_25 : decode cX0_become 25 = .ok (.iload 5, 2) := dk_21 5 (dk_at dksX0_become_1 2 rfl rfl)
theorem dX0_become_27 : decode cX0_become 27 = .ok (.bipush 40, 2) := dk_16 40 (dk_at dksX0_become_1 4 rfl rfl)
theorem dX0_become_29 : decode cX0_become 29 = .ok (.if_icmp .ge 25, 3) := dk_162 0 25 (dk_at dksX0_become_1 6 rfl rfl)
theorem dX0_become_32 : decode cX0_become 32 = .ok (.aload_n 0, 1) := dk_42 (dk_at dksX0_become_1 9 rfl rfl)
theorem dX0_become_33 : decode cX0_become 33 = .ok (.getfield 33, 3) := dk_180 0 33 (dk_at dksX0_become_1 10 rfl rfl)
theorem dX0_become_36 : decode cX0_become 36 = .ok (.iload 5, 2) := dk_21 5 (dk_at dksX0_become_1 13 rfl rfl)
theorem dX0_become_38 : decode cX0_become 38 = .ok (.iconst 1, 1) := dk_4 (dk_at dksX0_become_1 15 rfl rfl)
theorem dX0_become_39 : decode cX0_become 39 = .ok (.isub, 1) := dk_100 (dk_at dksX0_become_1 16 rfl rfl)
theorem dX0_become_40 : decode cX0_become 40 = .ok (.aload_n 0, 1) := dk_42 (dk_at dksX0_become_1 17 rfl rfl)
theorem dX0_become_41 : decode cX0_become 41 = .ok (.getfield 33, 3) := dk_180 0 33 (dk_at dksX0_become_1 18 rfl rfl)
theorem dX0_become_44 : decode cX0_become 44 = .ok (.iload 5, 2) := dk_21 5 (dk_at dksX0_become_1 21 rfl rfl)
theorem dX0_become_46 : decode cX0_become 46 = .ok (.aaload, 1) := dk_50 (dk_at dksX0_become_1 23 rfl rfl)
theorem dX0_become_47 : decode cX0_become 47 = .ok (.aastore, 1) := dk_83 (dk_at dksX0_become_2 0 rfl rfl)
theorem dX0_become_48 : decode cX0_become 48 = .ok (.iinc 5 1, 3) := dk_132 5 1 (dk_at dksX0_become_2 1 rfl rfl)
theorem dX0_become_51 : decode cX0_become 51 = .ok (.goto (-26), 3) := dk_167 255 230 (dk_at dksX0_become_2 4 rfl rfl)
theorem dX0_become_54 : decode cX0_become 54 = .ok (.aload_n 0, 1) := dk_42 (dk_at dksX0_become_2 7 rfl rfl)
theorem dX0_become_55 : decode cX0_become 55 = .ok (.dup, 1) := dk_89 (dk_at dksX0_become_2 8 rfl rfl)
theorem dX0_become_56 : decode cX0_become 56 = .ok (.getfield 176, 3) := dk_180 0 176 (dk_at dksX0_become_2 9 rfl rfl)
theorem dX0_become_59 : decode cX0_become 59 = .ok (.iconst 1, 1) := dk_4 (dk_at dksX0_become_2 12 rfl rfl)
theorem dX0_become_60 : decode cX0_become 60 = .ok (.isub, 1) := dk_100 (dk_at dksX0_become_2 13 rfl rfl)
theorem dX0_become_61 : decode cX0_become 61 = .ok (.putfield 176, 3) := dk_181 0 176 (dk_at dksX0_become_2 14 rfl rfl)
theorem dX0_become_64 : decode cX0_become 64 = .ok (.aload_n 0, 1) := dk_42 (dk_at dksX0_become_2 17 rfl rfl)
theorem dX0_become_65 : decode cX0_become 65 = .ok (.getfield 33, 3) := dk_180 0 33 (dk_at dksX0_become_2 18 rfl rfl)
theorem dX0_become_68 : decode cX0_become 68 = .ok (.aload_n 0, 1) := dk_42 (dk_at dksX0_become_2 21 rfl rfl)
theorem dX0_become_69 : decode cX0_become 69 = .ok (.getfield 176, 3) := dk_180 0 176 (dk_at dksX0_become_3 0 rfl rfl)
theorem dX0_become_72 : decode cX0_become 72 = .ok (.new 31, 3) := dk_187 0 31 (dk_at dksX0_become_3 3 rfl rfl)
theorem dX0_become_75 : decode cX0_become 75 = .ok (.dup, 1) := dk_89 (dk_at dksX0_become_3 6 rfl rfl)
theorem dX0_become_76 : decode cX0_become 76 = .ok (.iload_n 1, 1) := dk_27 (dk_at dksX0_become_3 7 rfl rfl)
theorem dX0_become_77 : decode cX0_become 77 = .ok (.iload_n 2, 1) := dk_28 (dk_at dksX0_become_3 8 rfl rfl)
theorem dX0_become_78 : decode cX0_become 78 = .ok (.iload_n 3, 1) := dk_29 (dk_at dksX0_become_3 9 rfl rfl)
theorem dX0_become_79 : decode cX0_become 79 = .ok (.iload 4, 2) := dk_21 4 (dk_at dksX0_become_3 10 rfl rfl)
theorem dX0_become_81 : decode cX0_become 81 = .ok (.invokespecial 179, 3) := dk_183 0 179 (dk_at dksX0_become_3 12 rfl rfl)
theorem dX0_become_84 : decode cX0_become 84 = .ok (.aastore, 1) := dk_83 (dk_at dksX0_become_3 15 rfl rfl)
theorem dX0_become_85 : decode cX0_become 85 = .ok (.aload_n 0, 1) := dk_42 (dk_at dksX0_become_3 16 rfl rfl)
theorem dX0_become_86 : decode cX0_become 86 = .ok (.dup, 1) := dk_89 (dk_at dksX0_become_3 17 rfl rfl)
theorem dX0_become_87 : decode cX0_become 87 = .ok (.getfield 176, 3) := dk_180 0 176 (dk_at dksX0_become_3 18 rfl rfl)
theorem dX0_become_90 : decode cX0_become 90 = .ok (.iconst 1, 1) := dk_4 (dk_at dksX0_become_3 21 rfl rfl)
theorem dX0_become_91 : decode cX0_become 91 = .ok (.iadd, 1) := dk_96 (dk_at dksX0_become_3 22 rfl rfl)
theorem dX0_become_92 : decode cX0_become 92 = .ok (.putfield 176, 3) := dk_181 0 176 (dk_at dksX0_become_4 0 rfl rfl)
theorem dX0_become_95 : decode cX0_become 95 = .ok (.aload_n 0, 1) := dk_42 (dk_at dksX0_become_4 3 rfl rfl)
theorem dX0_become_96 : decode cX0_become 96 = .ok (.iload_n 1, 1) := dk_27 (dk_at dksX0_become_4 4 rfl rfl)
theorem dX0_become_97 : decode cX0_become 97 = .ok (.iload_n 2, 1) := dk_28 (dk_at dksX0_become_4 5 rfl rfl)
theorem dX0_become_98 : decode cX0_become 98 = .ok (.iload 4, 2) := dk_21 4 (dk_at dksX0_become_4 6 rfl rfl)
theorem dX0_become_100 : decode cX0_become 100 = .ok (.invokevirtual 180, 3) := dk_182 0 180 (dk_at dksX0_become_4 8 rfl rfl)
theorem dX0_become_103 : decode cX0_become 103 = .ok (.iload_n 3, 1) := dk_29 (dk_at dksX0_become_4 11 rfl rfl)
theorem dX0_become_104 : decode cX0_become 104 = .ok (.ireturn, 1) := dk_172 (dk_at dksX0_become_4 12 rfl rfl)
abbrev cX0_feed : ByteArray := prog_1_method_18_code
def yX0_feed : MethodName := ⟨RX0, "feed", "(I)I"⟩
def dkwX0_feed_2 : List UInt8 := [180, 0, 198, 172]
abbrev dktX0_feed_2 : List UInt8 := dkwX0_feed_2 ++ []
def dkwX0_feed_1 : List UInt8 := [172, 42, 180, 0, 37, 42, 180, 0, 198, 27, 145, 84, 42, 89, 180, 0, 198, 4, 96, 181, 0, 198, 42]
abbrev dktX0_feed_1 : List UInt8 := dkwX0_feed_1 ++ dktX0_feed_2
def dkwX0_feed_0 : List UInt8 := [27, 3, 17, 0, 255, 184, 0, 91, 154, 0, 5, 2, 172, 42, 180, 0, 198, 16, 120, 160, 0, 6, 16, 253]
abbrev dktX0_feed_0 : List UInt8 := dkwX0_feed_0 ++ dktX0_feed_1
theorem dksX0_feed_0 : cX0_feed.data.toList.drop 0 = dktX0_feed_0 := by decide +kernel
theorem dksX0_feed_1 : cX0_feed.data.toList.drop 24 = dktX0_feed_1 := dk_seg dksX0_feed_0 24 rfl rfl
theorem dksX0_feed_2 : cX0_feed.data.toList.drop 47 = dktX0_feed_2 := dk_seg dksX0_feed_1 23 rfl rfl
theorem dX0_feed_0 : decode cX0_feed 0 = .ok (.iload_n 1, 1) := dk_27 (dk_at dksX0_feed_0 0 rfl rfl)
theorem dX0_feed_1 : decode cX0_feed 1 = .ok (.iconst 0, 1) := dk_3 (dk_at dksX0_feed_0 1 rfl rfl)
theorem dX0_feed_2 : decode cX0_feed 2 = .ok (.sipush 255, 3) := dk_17 0 255 (dk_at dksX0_feed_0 2 rfl rfl)
theorem dX0_feed_5 : decode cX0_feed 5 = .ok (.invokestatic 91, 3) := dk_184 0 91 (dk_at dksX0_feed_0 5 rfl rfl)
theorem dX0_feed_8 : decode cX0_feed 8 = .ok (.ifCond .ne 5, 3) := dk_154 0 5 (dk_at dksX0_feed_0 8 rfl rfl)
theorem dX0_feed_11 : decode cX0_feed 11 = .ok (.iconst (-1), 1) := dk_2 (dk_at dksX0_feed_0 11 rfl rfl)
theorem dX0_feed_12 : decode cX0_feed 12 = .ok (.ireturn, 1) := dk_172 (dk_at dksX0_feed_0 12 rfl rfl)
theorem dX0_feed_13 : decode cX0_feed 13 = .ok (.aload_n 0, 1) := dk_42 (dk_at dksX0_feed_0 13 rfl rfl)
theorem dX0_feed_14 : decode cX0_feed 14 = .ok (.getfield 198, 3) := dk_180 0 198 (dk_at dksX0_feed_0 14 rfl rfl)
theorem dX0_feed_17 : decode cX0_feed 17 = .ok (.bipush 120, 2) := dk_16 120 (dk_at dksX0_feed_0 17 rfl rfl)
theorem dX0_feed_19 : decode cX0_feed 19 = .ok (.if_icmp .ne 6, 3) := dk_160 0 6 (dk_at dksX0_feed_0 19 rfl rfl)
theorem dX0_feed_22 : decode cX0_feed 22 = .ok (.bipush (-3), 2) := dk_16 253 (dk_at dksX0_feed_0 22 rfl rfl)
theorem dX0_feed_24 : decode cX0_feed 24 = .ok (.ireturn, 1) := dk_172 (dk_at dksX0_feed_1 0 rfl rfl)
theorem dX0_feed_25 : decode cX0_feed 25 = .ok (.aload_n 0, 1) := dk_42 (dk_at dksX0_feed_1 1 rfl rfl)
theorem dX0_feed_26 : decode cX0_feed 26 = .ok (.getfield 37, 3) := dk_180 0 37 (dk_at dksX0_feed_1 2 rfl rfl)
theorem dX0_feed_29 : decode cX0_feed 29 = .ok (.aload_n 0, 1) := dk_42 (dk_at dksX0_feed_1 5 rfl rfl)
theorem dX0_feed_30 : decode cX0_feed 30 = .ok (.getfield 198, 3) := dk_180 0 198 (dk_at dksX0_feed_1 6 rfl rfl)
theorem dX0_feed_33 : decode cX0_feed 33 = .ok (.iload_n 1, 1) := dk_27 (dk_at dksX0_feed_1 9 rfl rfl)
theorem dX0_feed_34 : decode cX0_feed 34 = .ok (.i2b, 1) := dk_145 (dk_at dksX0_feed_1 10 rfl rfl)
theorem dX0_feed_35 : decode cX0_feed 35 = .ok (.bastore, 1) := dk_84 (dk_at dksX0_feed_1 11 rfl rfl)
theorem dX0_feed_36 : decode cX0_feed 36 = .ok (.aload_n 0, 1) := dk_42 (dk_at dksX0_feed_1 12 rfl rfl)
theorem dX0_feed_37 : decode cX0_feed 37 = .ok (.dup, 1) := dk_89 (dk_at dksX0_feed_1 13 rfl rfl)
theorem dX0_feed_38 : decode cX0_feed 38 = .ok (.getfield 198, 3) := dk_180 0 198 (dk_at dksX0_feed_1 14 rfl rfl)
theorem dX0_feed_41 : decode cX0_feed 41 = .ok (.iconst 1, 1) := dk_4 (dk_at dksX0_feed_1 17 rfl rfl)
theorem dX0_feed_42 : decode cX0_feed 42 = .ok (.iadd, 1) := dk_96 (dk_at dksX0_feed_1 18 rfl rfl)
theorem dX0_feed_43 : decode cX0_feed 43 = .ok (.putfield 198, 3) := dk_181 0 198 (dk_at dksX0_feed_1 19 rfl rfl)
theorem dX0_feed_46 : decode cX0_feed 46 = .ok (.aload_n 0, 1) := dk_42 (dk_at dksX0_feed_1 22 rfl rfl)
theorem dX0_feed_47 : decode cX0_feed 47 = .ok (.getfield 198, 3) := dk_180 0 198 (dk_at dksX0_feed_2 0 rfl rfl)
theorem dX0_feed_50 : decode cX0_feed 50 = .ok (.ireturn, 1) := dk_172 (dk_at dksX0_feed_2 3 rfl rfl)
abbrev cX0_law : ByteArray := prog_1_method_19_code
def yX0_law : MethodName := ⟨RX0, "law", "()I"⟩
def dkwX0_law_1 : List UInt8 := [155, 0, 11, 16, 156, 43, 180, 0, 208, 100, 172, 42, 44, 181, 0, 211, 4, 172]
abbrev dktX0_law_1 : List UInt8 := dkwX0_law_1 ++ []
def dkwX0_law_0 : List UInt8 := [187, 0, 201, 89, 42, 183, 0, 203, 76, 43, 182, 0, 204, 77, 42, 3, 181, 0, 198, 43, 180, 0, 208]
abbrev dktX0_law_0 : List UInt8 := dkwX0_law_0 ++ dktX0_law_1
theorem dksX0_law_0 : cX0_law.data.toList.drop 0 = dktX0_law_0 := by decide +kernel
theorem dksX0_law_1 : cX0_law.data.toList.drop 23 = dktX0_law_1 := dk_seg dksX0_law_0 23 rfl rfl
theorem dX0_law_0 : decode cX0_law 0 = .ok (.new 201, 3) := dk_187 0 201 (dk_at dksX0_law_0 0 rfl rfl)
theorem dX0_law_3 : decode cX0_law 3 = .ok (.dup, 1) := dk_89 (dk_at dksX0_law_0 3 rfl rfl)
theorem dX0_law_4 : decode cX0_law 4 = .ok (.aload_n 0, 1) := dk_42 (dk_at dksX0_law_0 4 rfl rfl)
theorem dX0_law_5 : decode cX0_law 5 = .ok (.invokespecial 203, 3) := dk_183 0 203 (dk_at dksX0_law_0 5 rfl rfl)
theorem dX0_law_8 : decode cX0_law 8 = .ok (.astore_n 1, 1) := dk_76 (dk_at dksX0_law_0 8 rfl rfl)
theorem dX0_law_9 : decode cX0_law 9 = .ok (.aload_n 1, 1) := dk_43 (dk_at dksX0_law_0 9 rfl rfl)
theorem dX0_law_10 : decode cX0_law 10 = .ok (.invokevirtual 204, 3) := dk_182 0 204 (dk_at dksX0_law_0 10 rfl rfl)
theorem dX0_law_13 : decode cX0_law 13 = .ok (.astore_n 2, 1) := dk_77 (dk_at dksX0_law_0 13 rfl rfl)
theorem dX0_law_14 : decode cX0_law 14 = .ok (.aload_n 0, 1) := dk_42 (dk_at dksX0_law_0 14 rfl rfl)
theorem dX0_law_15 : decode cX0_law 15 = .ok (.iconst 0, 1) := dk_3 (dk_at dksX0_law_0 15 rfl rfl)
theorem dX0_law_16 : decode cX0_law 16 = .ok (.putfield 198, 3) := dk_181 0 198 (dk_at dksX0_law_0 16 rfl rfl)
theorem dX0_law_19 : decode cX0_law 19 = .ok (.aload_n 1, 1) := dk_43 (dk_at dksX0_law_0 19 rfl rfl)
theorem dX0_law_20 : decode cX0_law 20 = .ok (.getfield 208, 3) := dk_180 0 208 (dk_at dksX0_law_0 20 rfl rfl)
theorem dX0_law_23 : decode cX0_law 23 = .ok (.ifCond .lt 11, 3) := dk_155 0 11 (dk_at dksX0_law_1 0 rfl rfl)
theorem dX0_law_26 : decode cX0_law 26 = .ok (.bipush (-100), 2) := dk_16 156 (dk_at dksX0_law_1 3 rfl rfl)
theorem dX0_law_28 : decode cX0_law 28 = .ok (.aload_n 1, 1) := dk_43 (dk_at dksX0_law_1 5 rfl rfl)
theorem dX0_law_29 : decode cX0_law 29 = .ok (.getfield 208, 3) := dk_180 0 208 (dk_at dksX0_law_1 6 rfl rfl)
theorem dX0_law_32 : decode cX0_law 32 = .ok (.isub, 1) := dk_100 (dk_at dksX0_law_1 9 rfl rfl)
theorem dX0_law_33 : decode cX0_law 33 = .ok (.ireturn, 1) := dk_172 (dk_at dksX0_law_1 10 rfl rfl)
theorem dX0_law_34 : decode cX0_law 34 = .ok (.aload_n 0, 1) := dk_42 (dk_at dksX0_law_1 11 rfl rfl)
theorem dX0_law_35 : decode cX0_law 35 = .ok (.aload_n 2, 1) := dk_44 (dk_at dksX0_law_1 12 rfl rfl)
theorem dX0_law_36 : decode cX0_law 36 = .ok (.putfield 211, 3) := dk_181 0 211 (dk_at dksX0_law_1 13 rfl rfl)
theorem dX0_law_39 : decode cX0_law 39 = .ok (.iconst 1, 1) := dk_4 (dk_at dksX0_law_1 16 rfl rfl)
theorem dX0_law_40 : decode cX0_law 40 = .ok (.ireturn, 1) := dk_172 (dk_at dksX0_law_1 17 rfl rfl)
abbrev cX0_meet : ByteArray := prog_1_method_27_code
def yX0_meet : MethodName := ⟨RX0, "meet", "(I)I"⟩
def dkwX0_meet_12 : List UInt8 := [180, 1, 17, 172]
abbrev dktX0_meet_12 : List UInt8 := dkwX0_meet_12 ++ []
def dkwX0_meet_11 : List UInt8 := [42, 180, 0, 70, 28, 42, 180, 0, 57, 28, 182, 1, 51, 79, 132, 2, 1, 167, 255, 231, 42, 180, 0, 57]
abbrev dktX0_meet_11 : List UInt8 := dkwX0_meet_11 ++ dktX0_meet_12
def dkwX0_meet_10 : List UInt8 := [180, 0, 57, 28, 182, 1, 48, 79, 132, 2, 1, 167, 255, 231, 3, 61, 28, 42, 180, 0, 88, 162, 0, 23]
abbrev dktX0_meet_10 : List UInt8 := dkwX0_meet_10 ++ dktX0_meet_11
def dkwX0_meet_9 : List UInt8 := [5, 46, 182, 1, 45, 79, 3, 61, 28, 42, 180, 0, 95, 162, 0, 23, 42, 180, 0, 67, 28, 42]
abbrev dktX0_meet_9 : List UInt8 := dkwX0_meet_9 ++ dktX0_meet_10
def dkwX0_meet_8 : List UInt8 := [180, 0, 64, 16, 8, 42, 180, 0, 57, 182, 1, 42, 79, 42, 180, 0, 64, 16, 9, 42, 42, 180, 0, 64]
abbrev dktX0_meet_8 : List UInt8 := dkwX0_meet_8 ++ dktX0_meet_9
def dkwX0_meet_7 : List UInt8 := [16, 6, 42, 2, 182, 1, 35, 79, 42, 180, 0, 64, 16, 7, 42, 180, 0, 57, 182, 1, 39, 79, 42]
abbrev dktX0_meet_7 : List UInt8 := dkwX0_meet_7 ++ dktX0_meet_8
def dkwX0_meet_6 : List UInt8 := [130, 79, 42, 180, 0, 64, 8, 42, 42, 180, 0, 57, 180, 1, 32, 182, 1, 35, 79, 42, 180, 0, 64]
abbrev dktX0_meet_6 : List UInt8 := dkwX0_meet_6 ++ dktX0_meet_7
def dkwX0_meet_5 : List UInt8 := [6, 42, 180, 0, 57, 182, 1, 26, 79, 42, 180, 0, 64, 7, 42, 180, 0, 64, 5, 46, 42, 182, 1, 29]
abbrev dktX0_meet_5 : List UInt8 := dkwX0_meet_5 ++ dktX0_meet_6
def dkwX0_meet_4 : List UInt8 := [180, 0, 57, 180, 1, 20, 79, 42, 180, 0, 64, 5, 42, 180, 0, 57, 182, 1, 23, 79, 42, 180, 0, 64]
abbrev dktX0_meet_4 : List UInt8 := dkwX0_meet_4 ++ dktX0_meet_5
def dkwX0_meet_3 : List UInt8 := [181, 1, 14, 42, 180, 0, 64, 3, 42, 180, 0, 57, 180, 1, 17, 79, 42, 180, 0, 64, 4, 42]
abbrev dktX0_meet_3 : List UInt8 := dkwX0_meet_3 ++ dktX0_meet_4
def dkwX0_meet_2 : List UInt8 := [181, 1, 4, 42, 42, 180, 0, 88, 181, 1, 8, 42, 42, 180, 0, 95, 181, 1, 11, 42, 42, 180, 0, 108]
abbrev dktX0_meet_2 : List UInt8 := dkwX0_meet_2 ++ dktX0_meet_3
def dkwX0_meet_1 : List UInt8 := [42, 180, 0, 57, 42, 180, 0, 48, 42, 180, 0, 136, 42, 180, 0, 27, 2, 182, 1, 0, 42, 4]
abbrev dktX0_meet_1 : List UInt8 := dkwX0_meet_1 ++ dktX0_meet_2
def dkwX0_meet_0 : List UInt8 := [27, 155, 0, 11, 42, 27, 182, 0, 249, 154, 0, 5, 2, 172, 42, 182, 0, 252, 153, 0, 6, 16, 251, 172]
abbrev dktX0_meet_0 : List UInt8 := dkwX0_meet_0 ++ dktX0_meet_1
theorem dksX0_meet_0 : cX0_meet.data.toList.drop 0 = dktX0_meet_0 := by decide +kernel
theorem dksX0_meet_1 : cX0_meet.data.toList.drop 24 = dktX0_meet_1 := dk_seg dksX0_meet_0 24 rfl rfl
theorem dksX0_meet_2 : cX0_meet.data.toList.drop 46 = dktX0_meet_2 := dk_seg dksX0_meet_1 22 rfl rfl
theorem dksX0_meet_3 : cX0_meet.data.toList.drop 70 = dktX0_meet_3 := dk_seg dksX0_meet_2 24 rfl rfl
theorem dksX0_meet_4 : cX0_meet.data.toList.drop 92 = dktX0_meet_4 := dk_seg dksX0_meet_3 22 rfl rfl
theorem dksX0_meet_5 : cX0_meet.data.toList.drop 116 = dktX0_meet_5 := dk_seg dksX0_meet_4 24 rfl rfl
theorem dksX0_meet_6 : cX0_meet.data.toList.drop 140 = dktX0_meet_6 := dk_seg dksX0_meet_5 24 rfl rfl
theorem dksX0_meet_7 : cX0_meet.data.toList.drop 163 = dktX0_meet_7 := dk_seg dksX0_meet_6 23 rfl rfl
theorem dksX0_meet_8 : cX0_meet.data.toList.drop 186 = dktX0_meet_8 := dk_seg dksX0_meet_7 23 rfl rfl
theorem dksX0_meet_9 : cX0_meet.data.toList.drop 210 = dktX0_meet_9 := dk_seg dksX0_meet_8 24 rfl rfl
theorem dksX0_meet_10 : cX0_meet.data.toList.drop 232 = dktX0_meet_10 := dk_seg dksX0_meet_9 22 rfl rfl
theorem dksX0_meet_11 : cX0_meet.data.toList.drop 256 = dktX0_meet_11 := dk_seg dksX0_meet_10 24 rfl rfl
theorem dksX0_meet_12 : cX0_meet.data.toList.drop 280 = dktX0_meet_12 := dk_seg dksX0_meet_11 24 rfl rfl
theorem dX0_meet_0 : decode cX0_meet 0 = .ok (.iload_n 1, 1) := dk_27 (dk_at dksX0_meet_0 0 rfl rfl)
theorem dX0_meet_1 : decode cX0_meet 1 = .ok (.ifCond .lt 11, 3) := dk_155 0 11 (dk_at dksX0_meet_0 1 rfl rfl)
theorem dX0_meet_4 : decode cX0_meet 4 = .ok (.aload_n 0, 1) := dk_42 (dk_at dksX0_meet_0 4 rfl rfl)
theorem dX0_meet_5 : decode cX0_meet 5 = .ok (.iload_n 1, 1) := dk_27 (dk_at dksX0_meet_0 5 rfl rfl)
theorem dX0_meet_6 : decode cX0_meet 6 = .ok (.invokevirtual 249, 3) := dk_182 0 249 (dk_at dksX0_meet_0 6 rfl rfl)
theorem dX0_meet_9 : decode cX0_meet 9 = .ok (.ifCond .ne 5, 3) := dk_154 0 5 (dk_at dksX0_meet_0 9 rfl rfl)
theorem dX0_meet_12 : decode cX0_meet 12 = .ok (.iconst (-1), 1) := dk_2 (dk_at dksX0_meet_0 12 rfl rfl)
theorem dX0_meet_13 : decode cX0_meet 13 = .ok (.ireturn, 1) := dk_172 (dk_at dksX0_meet_0 13 rfl rfl)
theorem dX0_meet_14 : decode cX0_meet 14 = .ok (.aload_n 0, 1) := dk_42 (dk_at dksX0_meet_0 14 rfl rfl)
theorem dX0_meet_15 : decode cX0_meet 15 = .ok (.invokevirtual 252, 3) := dk_182 0 252 (dk_at dksX0_meet_0 15 rfl rfl)
theorem dX0_meet_18 : decode cX0_meet 18 = .ok (.ifCond .eq 6, 3) := dk_153 0 6 (dk_at dksX0_meet_0 18 rfl rfl)
theorem dX0_meet_21 : decode cX0_meet 21 = .ok (.bipush (-5), 2) := dk_16 251 (dk_at dksX0_meet_0 21 rfl rfl)
theorem dX0_meet_23 : decode cX0_meet 23 = .ok (.ireturn, 1) := dk_172 (dk_at dksX0_meet_0 23 rfl rfl)
theorem dX0_meet_24 : decode cX0_meet 24 = .ok (.aload_n 0, 1) := dk_42 (dk_at dksX0_meet_1 0 rfl rfl)
theorem dX0_meet_25 : decode cX0_meet 25 = .ok (.getfield 57, 3) := dk_180 0 57 (dk_at dksX0_meet_1 1 rfl rfl)
theorem dX0_meet_28 : decode cX0_meet 28 = .ok (.aload_n 0, 1) := dk_42 (dk_at dksX0_meet_1 4 rfl rfl)
theorem dX0_meet_29 : decode cX0_meet 29 = .ok (.getfield 48, 3) := dk_180 0 48 (dk_at dksX0_meet_1 5 rfl rfl)
theorem dX0_meet_32 : decode cX0_meet 32 = .ok (.aload_n 0, 1) := dk_42 (dk_at dksX0_meet_1 8 rfl rfl)
theorem dX0_meet_33 : decode cX0_meet 33 = .ok (.getfield 136, 3) := dk_180 0 136 (dk_at dksX0_meet_1 9 rfl rfl)
theorem dX0_meet_36 : decode cX0_meet 36 = .ok (.aload_n 0, 1) := dk_42 (dk_at dksX0_meet_1 12 rfl rfl)
theorem dX0_meet_37 : decode cX0_meet 37 = .ok (.getfield 27, 3) := dk_180 0 27 (dk_at dksX0_meet_1 13 rfl rfl)
theorem dX0_meet_40 : decode cX0_meet 40 = .ok (.iconst (-1), 1) := dk_2 (dk_at dksX0_meet_1 16 rfl rfl)
theorem dX0_meet_41 : decode cX0_meet 41 = .ok (.invokevirtual 256, 3) := dk_182 1 0 (dk_at dksX0_meet_1 17 rfl rfl)
theorem dX0_meet_44 : decode cX0_meet 44 = .ok (.aload_n 0, 1) := dk_42 (dk_at dksX0_meet_1 20 rfl rfl)
theorem dX0_meet_45 : decode cX0_meet 45 = .ok (.iconst 1, 1) := dk_4 (dk_at dksX0_meet_1 21 rfl rfl)
theorem dX0_meet_46 : decode cX0_meet 46 = .ok (.putfield 260, 3) := dk_181 1 4 (dk_at dksX0_meet_2 0 rfl rfl)
theorem dX0_meet_49 : decode cX0_meet 49 = .ok (.aload_n 0, 1) := dk_42 (dk_at dksX0_meet_2 3 rfl rfl)
theorem dX0_meet_50 : decode cX0_meet 50 = .ok (.aload_n 0, 1) := dk_42 (dk_at dksX0_meet_2 4 rfl rfl)
theorem dX0_meet_51 : decode cX0_meet 51 = .ok (.getfield 88, 3) := dk_180 0 88 (dk_at dksX0_meet_2 5 rfl rfl)
theorem dX0_meet_54 : decode cX0_meet 54 = .ok (.putfield 264, 3) := dk_181 1 8 (dk_at dksX0_meet_2 8 rfl rfl)
theorem dX0_meet_57 : decode cX0_meet 57 = .ok (.aload_n 0, 1) := dk_42 (dk_at dksX0_meet_2 11 rfl rfl)
theorem dX0_meet_58 : decode cX0_meet 58 = .ok (.aload_n 0, 1) := dk_42 (dk_at dksX0_meet_2 12 rfl rfl)
theorem dX0_meet_59 : decode cX0_meet 59 = .ok (.getfield 95, 3) := dk_180 0 95 (dk_at dksX0_meet_2 13 rfl rfl)
theorem dX0_meet_62 : decode cX0_meet 62 = .ok (.putfield 267, 3) := dk_181 1 11 (dk_at dksX0_meet_2 16 rfl rfl)
theorem dX0_meet_65 : decode cX0_meet 65 = .ok (.aload_n 0, 1) := dk_42 (dk_at dksX0_meet_2 19 rfl rfl)
theorem dX0_meet_66 : decode cX0_meet 66 = .ok (.aload_n 0, 1) := dk_42 (dk_at dksX0_meet_2 20 rfl rfl)
theorem dX0_meet_67 : decode cX0_meet 67 = .ok (.getfield 108, 3) := dk_180 0 108 (dk_at dksX0_meet_2 21 rfl rfl)
theorem dX0_meet_70 : decode cX0_meet 70 = .ok (.putfield 270, 3) := dk_181 1 14 (dk_at dksX0_meet_3 0 rfl rfl)
theorem dX0_meet_73 : decode cX0_meet 73 = .ok (.aload_n 0, 1) := dk_42 (dk_at dksX0_meet_3 3 rfl rfl)
theorem dX0_meet_74 : decode cX0_meet 74 = .ok (.getfield 64, 3) := dk_180 0 64 (dk_at dksX0_meet_3 4 rfl rfl)
theorem dX0_meet_77 : decode cX0_meet 77 = .ok (.iconst 0, 1) := dk_3 (dk_at dksX0_meet_3 7 rfl rfl)
theorem dX0_meet_78 : decode cX0_meet 78 = .ok (.aload_n 0, 1) := dk_42 (dk_at dksX0_meet_3 8 rfl rfl)
theorem dX0_meet_79 : decode cX0_meet 79 = .ok (.getfield 57, 3) := dk_180 0 57 (dk_at dksX0_meet_3 9 rfl rfl)
theorem dX0_meet_82 : decode cX0_meet 82 = .ok (.getfield 273, 3) := dk_180 1 17 (dk_at dksX0_meet_3 12 rfl rfl)
theorem dX0_meet_85 : decode cX0_meet 85 = .ok (.iastore, 1) := dk_79 (dk_at dksX0_meet_3 15 rfl rfl)
theorem dX0_meet_86 : decode cX0_meet 86 = .ok (.aload_n 0, 1) := dk_42 (dk_at dksX0_meet_3 16 rfl rfl)
theorem dX0_meet_87 : decode cX0_meet 87 = .ok (.getfield 64, 3) := dk_180 0 64 (dk_at dksX0_meet_3 17 rfl rfl)
theorem dX0_meet_90 : decode cX0_meet 90 = .ok (.iconst 1, 1) := dk_4 (dk_at dksX0_meet_3 20 rfl rfl)
theorem dX0_meet_91 : decode cX0_meet 91 = .ok (.aload_n 0, 1) := dk_42 (dk_at dksX0_meet_3 21 rfl rfl)
theorem dX0_meet_92 : decode cX0_meet 92 = .ok (.getfield 57, 3) := dk_180 0 57 (dk_at dksX0_meet_4 0 rfl rfl)
theorem dX0_meet_95 : decode cX0_meet 95 = .ok (.getfield 276, 3) := dk_180 1 20 (dk_at dksX0_meet_4 3 rfl rfl)
theorem dX0_meet_98 : decode cX0_meet 98 = .ok (.iastore, 1) := dk_79 (dk_at dksX0_meet_4 6 rfl rfl)
theorem dX0_meet_99 : decode cX0_meet 99 = .ok (.aload_n 0, 1) := dk_42 (dk_at dksX0_meet_4 7 rfl rfl)
theorem dX0_meet_100 : decode cX0_meet 100 = .ok (.getfield 64, 3) := dk_180 0 64 (dk_at dksX0_meet_4 8 rfl rfl)
theorem dX0_meet_103 : decode cX0_meet 103 = .ok (.iconst 2, 1) := dk_5 (dk_at dksX0_meet_4 11 rfl rfl)
theorem dX0_meet_104 : decode cX0_meet 104 = .ok (.aload_n 0, 1) := dk_42 (dk_at dksX0_meet_4 12 rfl rfl)
theorem dX0_meet_105 : decode cX0_meet 105 = .ok (.getfield 57, 3) := dk_180 0 57 (dk_at dksX0_meet_4 13 rfl rfl)
theorem dX0_meet_108 : decode cX0_meet 108 = .ok (.invokevirtual 279, 3) := dk_182 1 23 (dk_at dksX0_meet_4 16 rfl rfl)
theorem dX0_meet_111 : decode cX0_meet 111 = .ok (.iastore, 1) := dk_79 (dk_at dksX0_meet_4 19 rfl rfl)
theorem dX0_meet_112 : decode cX0_meet 112 = .ok (.aload_n 0, 1) := dk_42 (dk_at dksX0_meet_4 20 rfl rfl)
theorem dX0_meet_113 : decode cX0_meet 113 = .ok (.getfield 64, 3) := dk_180 0 64 (dk_at dksX0_meet_4 21 rfl rfl)
theorem dX0_meet_116 : decode cX0_meet 116 = .ok (.iconst 3, 1) := dk_6 (dk_at dksX0_meet_5 0 rfl rfl)
theorem dX0_meet_117 : decode cX0_meet 117 = .ok (.aload_n 0, 1) := dk_42 (dk_at dksX0_meet_5 1 rfl rfl)
theorem dX0_meet_118 : decode cX0_meet 118 = .ok (.getfield 57, 3) := dk_180 0 57 (dk_at dksX0_meet_5 2 rfl rfl)
theorem dX0_meet_121 : decode cX0_meet 121 = .ok (.invokevirtual 282, 3) := dk_182 1 26 (dk_at dksX0_meet_5 5 rfl rfl)
theorem dX0_meet_124 : decode cX0_meet 124 = .ok (.iastore, 1) := dk_79 (dk_at dksX0_meet_5 8 rfl rfl)
theorem dX0_meet_125 : decode cX0_meet 125 = .ok (.aload_n 0, 1) := dk_42 (dk_at dksX0_meet_5 9 rfl rfl)
theorem dX0_meet_126 : decode cX0_meet 126 = .ok (.getfield 64, 3) := dk_180 0 64 (dk_at dksX0_meet_5 10 rfl rfl)
theorem dX0_meet_129 : decode cX0_meet 129 = .ok (.iconst 4, 1) := dk_7 (dk_at dksX0_meet_5 13 rfl rfl)
theorem dX0_meet_130 : decode cX0_meet 130 = .ok (.aload_n 0, 1) := dk_42 (dk_at dksX0_meet_5 14 rfl rfl)
theorem dX0_meet_131 : decode cX0_meet 131 = .ok (.getfield 64, 3) := dk_180 0 64 (dk_at dksX0_meet_5 15 rfl rfl)
theorem dX0_meet_134 : decode cX0_meet 134 = .ok (.iconst 2, 1) := dk_5 (dk_at dksX0_meet_5 18 rfl rfl)
theorem dX0_meet_135 : decode cX0_meet 135 = .ok (.iaload, 1) := dk_46 (dk_at dksX0_meet_5 19 rfl rfl)
theorem dX0_meet_136 : decode cX0_meet 136 = .ok (.aload_n 0, 1) := dk_42 (dk_at dksX0_meet_5 20 rfl rfl)
theorem dX0_meet_137 : decode cX0_meet 137 = .ok (.invokevirtual 285, 3) := dk_182 1 29 (dk_at dksX0_meet_5 21 rfl rfl)
theorem dX0_meet_140 : decode cX0_meet 140 = .ok (.ixor, 1) := dk_130 (dk_at dksX0_meet_6 0 rfl rfl)
theorem dX0_meet_141 : decode cX0_meet 141 = .ok (.iastore, 1) := dk_79 (dk_at dksX0_meet_6 1 rfl rfl)
theorem dX0_meet_142 : decode cX0_meet 142 = .ok (.aload_n 0, 1) := dk_42 (dk_at dksX0_meet_6 2 rfl rfl)
theorem dX0_meet_143 : decode cX0_meet 143 = .ok (.getfield 64, 3) := dk_180 0 64 (dk_at dksX0_meet_6 3 rfl rfl)
theorem dX0_meet_146 : decode cX0_meet 146 = .ok (.iconst 5, 1) := dk_8 (dk_at dksX0_meet_6 6 rfl rfl)
theorem dX0_meet_147 : decode cX0_meet 147 = .ok (.aload_n 0, 1) := dk_42 (dk_at dksX0_meet_6 7 rfl rfl)
theorem dX0_meet_148 : decode cX0_meet 148 = .ok (.aload_n 0, 1) := dk_42 (dk_at dksX0_meet_6 8 rfl rfl)
theorem dX0_meet_149 : decode cX0_meet 149 = .ok (.getfield 57, 3) := dk_180 0 57 (dk_at dksX0_meet_6 9 rfl rfl)
theorem dX0_meet_152 : decode cX0_meet 152 = .ok (.getfield 288, 3) := dk_180 1 32 (dk_at dksX0_meet_6 12 rfl rfl)
theorem dX0_meet_155 : decode cX0_meet 155 = .ok (.invokevirtual 291, 3) := dk_182 1 35 (dk_at dksX0_meet_6 15 rfl rfl)
theorem dX0_meet_158 : decode cX0_meet 158 = .ok (.iastore, 1) := dk_79 (dk_at dksX0_meet_6 18 rfl rfl)
theorem dX0_meet_159 : decode cX0_meet 159 = .ok (.aload_n 0, 1) := dk_42 (dk_at dksX0_meet_6 19 rfl rfl)
theorem dX0_meet_160 : decode cX0_meet 160 = .ok (.getfield 64, 3) := dk_180 0 64 (dk_at dksX0_meet_6 20 rfl rfl)
theorem dX0_meet_163 : decode cX0_meet 163 = .ok (.bipush 6, 2) := dk_16 6 (dk_at dksX0_meet_7 0 rfl rfl)
theorem dX0_meet_165 : decode cX0_meet 165 = .ok (.aload_n 0, 1) := dk_42 (dk_at dksX0_meet_7 2 rfl rfl)
theorem dX0_meet_166 : decode cX0_meet 166 = .ok (.iconst (-1), 1) := dk_2 (dk_at dksX0_meet_7 3 rfl rfl)
theorem dX0_meet_167 : decode cX0_meet 167 = .ok (.invokevirtual 291, 3) := dk_182 1 35 (dk_at dksX0_meet_7 4 rfl rfl)
theorem dX0_meet_170 : decode cX0_meet 170 = .ok (.iastore, 1) := dk_79 (dk_at dksX0_meet_7 7 rfl rfl)
theorem dX0_meet_171 : decode cX0_meet 171 = .ok (.aload_n 0, 1) := dk_42 (dk_at dksX0_meet_7 8 rfl rfl)
theorem dX0_meet_172 : decode cX0_meet 172 = .ok (.getfield 64, 3) := dk_180 0 64 (dk_at dksX0_meet_7 9 rfl rfl)
theorem dX0_meet_175 : decode cX0_meet 175 = .ok (.bipush 7, 2) := dk_16 7 (dk_at dksX0_meet_7 12 rfl rfl)
theorem dX0_meet_177 : decode cX0_meet 177 = .ok (.aload_n 0, 1) := dk_42 (dk_at dksX0_meet_7 14 rfl rfl)
theorem dX0_meet_178 : decode cX0_meet 178 = .ok (.getfield 57, 3) := dk_180 0 57 (dk_at dksX0_meet_7 15 rfl rfl)
theorem dX0_meet_181 : decode cX0_meet 181 = .ok (.invokevirtual 295, 3) := dk_182 1 39 (dk_at dksX0_meet_7 18 rfl rfl)
theorem dX0_meet_184 : decode cX0_meet 184 = .ok (.iastore, 1) := dk_79 (dk_at dksX0_meet_7 21 rfl rfl)
theorem dX0_meet_185 : decode cX0_meet 185 = .ok (.aload_n 0, 1) := dk_42 (dk_at dksX0_meet_7 22 rfl rfl)
theorem dX0_meet_186 : decode cX0_meet 186 = .ok (.getfield 64, 3) := dk_180 0 64 (dk_at dksX0_meet_8 0 rfl rfl)
theorem dX0_meet_189 : decode cX0_meet 189 = .ok (.bipush 8, 2) := dk_16 8 (dk_at dksX0_meet_8 3 rfl rfl)
theorem dX0_meet_191 : decode cX0_meet 191 = .ok (.aload_n 0, 1) := dk_42 (dk_at dksX0_meet_8 5 rfl rfl)
theorem dX0_meet_192 : decode cX0_meet 192 = .ok (.getfield 57, 3) := dk_180 0 57 (dk_at dksX0_meet_8 6 rfl rfl)
theorem dX0_meet_195 : decode cX0_meet 195 = .ok (.invokevirtual 298, 3) := dk_182 1 42 (dk_at dksX0_meet_8 9 rfl rfl)
theorem dX0_meet_198 : decode cX0_meet 198 = .ok (.iastore, 1) := dk_79 (dk_at dksX0_meet_8 12 rfl rfl)
theorem dX0_meet_199 : decode cX0_meet 199 = .ok (.aload_n 0, 1) := dk_42 (dk_at dksX0_meet_8 13 rfl rfl)
theorem dX0_meet_200 : decode cX0_meet 200 = .ok (.getfield 64, 3) := dk_180 0 64 (dk_at dksX0_meet_8 14 rfl rfl)
theorem dX0_meet_203 : decode cX0_meet 203 = .ok (.bipush 9, 2) := dk_16 9 (dk_at dksX0_meet_8 17 rfl rfl)
theorem dX0_meet_205 : decode cX0_meet 205 = .ok (.aload_n 0, 1) := dk_42 (dk_at dksX0_meet_8 19 rfl rfl)
theorem dX0_meet_206 : decode cX0_meet 206 = .ok (.aload_n 0, 1) := dk_42 (dk_at dksX0_meet_8 20 rfl rfl)
theorem dX0_meet_207 : decode cX0_meet 207 = .ok (.getfield 64, 3) := dk_180 0 64 (dk_at dksX0_meet_8 21 rfl rfl)
theorem dX0_meet_210 : decode cX0_meet 210 = .ok (.iconst 2, 1) := dk_5 (dk_at dksX0_meet_9 0 rfl rfl)
theorem dX0_meet_211 : decode cX0_meet 211 = .ok (.iaload, 1) := dk_46 (dk_at dksX0_meet_9 1 rfl rfl)
theorem dX0_meet_212 : decode cX0_meet 212 = .ok (.invokevirtual 301, 3) := dk_182 1 45 (dk_at dksX0_meet_9 2 rfl rfl)
theorem dX0_meet_215 : decode cX0_meet 215 = .ok (.iastore, 1) := dk_79 (dk_at dksX0_meet_9 5 rfl rfl)
theorem dX0_meet_216 : decode cX0_meet 216 = .ok (.iconst 0, 1) := dk_3 (dk_at dksX0_meet_9 6 rfl rfl)
theorem dX0_meet_217 : decode cX0_meet 217 = .ok (.istore_n 2, 1) := dk_61 (dk_at dksX0_meet_9 7 rfl rfl)
theorem dX0_meet_218 : decode cX0_meet 218 = .ok (.iload_n 2, 1) := dk_28 (dk_at dksX0_meet_9 8 rfl rfl)
theorem dX0_meet_219 : decode cX0_meet 219 = .ok (.aload_n 0, 1) := dk_42 (dk_at dksX0_meet_9 9 rfl rfl)
theorem dX0_meet_220 : decode cX0_meet 220 = .ok (.getfield 95, 3) := dk_180 0 95 (dk_at dksX0_meet_9 10 rfl rfl)
theorem dX0_meet_223 : decode cX0_meet 223 = .ok (.if_icmp .ge 23, 3) := dk_162 0 23 (dk_at dksX0_meet_9 13 rfl rfl)
theorem dX0_meet_226 : decode cX0_meet 226 = .ok (.aload_n 0, 1) := dk_42 (dk_at dksX0_meet_9 16 rfl rfl)
theorem dX0_meet_227 : decode cX0_meet 227 = .ok (.getfield 67, 3) := dk_180 0 67 (dk_at dksX0_meet_9 17 rfl rfl)
theorem dX0_meet_230 : decode cX0_meet 230 = .ok (.iload_n 2, 1) := dk_28 (dk_at dksX0_meet_9 20 rfl rfl)
theorem dX0_meet_231 : decode cX0_meet 231 = .ok (.aload_n 0, 1) := dk_42 (dk_at dksX0_meet_9 21 rfl rfl)
theorem dX0_meet_232 : decode cX0_meet 232 = .ok (.getfield 57, 3) := dk_180 0 57 (dk_at dksX0_meet_10 0 rfl rfl)
theorem dX0_meet_235 : decode cX0_meet 235 = .ok (.iload_n 2, 1) := dk_28 (dk_at dksX0_meet_10 3 rfl rfl)
theorem dX0_meet_236 : decode cX0_meet 236 = .ok (.invokevirtual 304, 3) := dk_182 1 48 (dk_at dksX0_meet_10 4 rfl rfl)
theorem dX0_meet_239 : decode cX0_meet 239 = .ok (.iastore, 1) := dk_79 (dk_at dksX0_meet_10 7 rfl rfl)
theorem dX0_meet_240 : decode cX0_meet 240 = .ok (.iinc 2 1, 3) := dk_132 2 1 (dk_at dksX0_meet_10 8 rfl rfl)
theorem dX0_meet_243 : decode cX0_meet 243 = .ok (.goto (-25), 3) := dk_167 255 231 (dk_at dksX0_meet_10 11 rfl rfl)
theorem dX0_meet_246 : decode cX0_meet 246 = .ok (.iconst 0, 1) := dk_3 (dk_at dksX0_meet_10 14 rfl rfl)
theorem dX0_meet_247 : decode cX0_meet 247 = .ok (.istore_n 2, 1) := dk_61 (dk_at dksX0_meet_10 15 rfl rfl)
theorem dX0_meet_248 : decode cX0_meet 248 = .ok (.iload_n 2, 1) := dk_28 (dk_at dksX0_meet_10 16 rfl rfl)
theorem dX0_meet_249 : decode cX0_meet 249 = .ok (.aload_n 0, 1) := dk_42 (dk_at dksX0_meet_10 17 rfl rfl)
theorem dX0_meet_250 : decode cX0_meet 250 = .ok (.getfield 88, 3) := dk_180 0 88 (dk_at dksX0_meet_10 18 rfl rfl)
theorem dX0_meet_253 : decode cX0_meet 253 = .ok (.if_icmp .ge 23, 3) := dk_162 0 23 (dk_at dksX0_meet_10 21 rfl rfl)
theorem dX0_meet_256 : decode cX0_meet 256 = .ok (.aload_n 0, 1) := dk_42 (dk_at dksX0_meet_11 0 rfl rfl)
theorem dX0_meet_257 : decode cX0_meet 257 = .ok (.getfield 70, 3) := dk_180 0 70 (dk_at dksX0_meet_11 1 rfl rfl)
theorem dX0_meet_260 : decode cX0_meet 260 = .ok (.iload_n 2, 1) := dk_28 (dk_at dksX0_meet_11 4 rfl rfl)
theorem dX0_meet_261 : decode cX0_meet 261 = .ok (.aload_n 0, 1) := dk_42 (dk_at dksX0_meet_11 5 rfl rfl)
theorem dX0_meet_262 : decode cX0_meet 262 = .ok (.getfield 57, 3) := dk_180 0 57 (dk_at dksX0_meet_11 6 rfl rfl)
theorem dX0_meet_265 : decode cX0_meet 265 = .ok (.iload_n 2, 1) := dk_28 (dk_at dksX0_meet_11 9 rfl rfl)
theorem dX0_meet_266 : decode cX0_meet 266 = .ok (.invokevirtual 307, 3) := dk_182 1 51 (dk_at dksX0_meet_11 10 rfl rfl)
theorem dX0_meet_269 : decode cX0_meet 269 = .ok (.iastore, 1) := dk_79 (dk_at dksX0_meet_11 13 rfl rfl)
theorem dX0_meet_270 : decode cX0_meet 270 = .ok (.iinc 2 1, 3) := dk_132 2 1 (dk_at dksX0_meet_11 14 rfl rfl)
theorem dX0_meet_273 : decode cX0_meet 273 = .ok (.goto (-25), 3) := dk_167 255 231 (dk_at dksX0_meet_11 17 rfl rfl)
theorem dX0_meet_276 : decode cX0_meet 276 = .ok (.aload_n 0, 1) := dk_42 (dk_at dksX0_meet_11 20 rfl rfl)
theorem dX0_meet_277 : decode cX0_meet 277 = .ok (.getfield 57, 3) := dk_180 0 57 (dk_at dksX0_meet_11 21 rfl rfl)
theorem dX0_meet_280 : decode cX0_meet 280 = .ok (.getfield 273, 3) := dk_180 1 17 (dk_at dksX0_meet_12 0 rfl rfl)
theorem dX0_meet_283 : decode cX0_meet 283 = .ok (.ireturn, 1) := dk_172 (dk_at dksX0_meet_12 3 rfl rfl)
abbrev cX0_isOrder : ByteArray := prog_1_method_25_code
def yX0_isOrder : MethodName := ⟨RX0, "isOrder", "(I)Z"⟩
def dkwX0_isOrder_3 : List UInt8 := [180, 0, 48, 21, 4, 21, 5, 79, 132, 4, 255, 167, 255, 198, 28, 154, 0, 7, 4, 167, 0, 4, 3, 172]
abbrev dktX0_isOrder_3 : List UInt8 := dkwX0_isOrder_3 ++ []
def dkwX0_isOrder_2 : List UInt8 := [153, 0, 13, 29, 21, 5, 122, 4, 126, 4, 160, 0, 5, 3, 172, 29, 4, 21, 5, 120, 128, 62, 42]
abbrev dktX0_isOrder_2 : List UInt8 := dkwX0_isOrder_2 ++ dktX0_isOrder_3
def dkwX0_isOrder_1 : List UInt8 := [155, 0, 59, 28, 16, 10, 112, 4, 100, 54, 5, 28, 16, 10, 108, 61, 42, 21, 5, 182, 0, 104]
abbrev dktX0_isOrder_1 : List UInt8 := dkwX0_isOrder_1 ++ dktX0_isOrder_2
def dkwX0_isOrder_0 : List UInt8 := [42, 182, 0, 246, 27, 154, 0, 5, 4, 172, 27, 61, 3, 62, 42, 180, 0, 95, 4, 100, 54, 4, 21, 4]
abbrev dktX0_isOrder_0 : List UInt8 := dkwX0_isOrder_0 ++ dktX0_isOrder_1
theorem dksX0_isOrder_0 : cX0_isOrder.data.toList.drop 0 = dktX0_isOrder_0 := by decide +kernel
theorem dksX0_isOrder_1 : cX0_isOrder.data.toList.drop 24 = dktX0_isOrder_1 := dk_seg dksX0_isOrder_0 24 rfl rfl
theorem dksX0_isOrder_2 : cX0_isOrder.data.toList.drop 46 = dktX0_isOrder_2 := dk_seg dksX0_isOrder_1 22 rfl rfl
theorem dksX0_isOrder_3 : cX0_isOrder.data.toList.drop 69 = dktX0_isOrder_3 := dk_seg dksX0_isOrder_2 23 rfl rfl
theorem dX0_isOrder_0 : decode cX0_isOrder 0 = .ok (.aload_n 0, 1) := dk_42 (dk_at dksX0_isOrder_0 0 rfl rfl)
theorem dX0_isOrder_1 : decode cX0_isOrder 1 = .ok (.invokevirtual 246, 3) := dk_182 0 246 (dk_at dksX0_isOrder_0 1 rfl rfl)
theorem dX0_isOrder_4 : decode cX0_isOrder 4 = .ok (.iload_n 1, 1) := dk_27 (dk_at dksX0_isOrder_0 4 rfl rfl)
theorem dX0_isOrder_5 : decode cX0_isOrder 5 = .ok (.ifCond .ne 5, 3) := dk_154 0 5 (dk_at dksX0_isOrder_0 5 rfl rfl)
theorem dX0_isOrder_8 : decode cX0_isOrder 8 = .ok (.iconst 1, 1) := dk_4 (dk_at dksX0_isOrder_0 8 rfl rfl)
theorem dX0_isOrder_9 : decode cX0_isOrder 9 = .ok (.ireturn, 1) := dk_172 (dk_at dksX0_isOrder_0 9 rfl rfl)
theorem dX0_isOrder_10 : decode cX0_isOrder 10 = .ok (.iload_n 1, 1) := dk_27 (dk_at dksX0_isOrder_0 10 rfl rfl)
theorem dX0_isOrder_11 : decode cX0_isOrder 11 = .ok (.istore_n 2, 1) := dk_61 (dk_at dksX0_isOrder_0 11 rfl rfl)
theorem dX0_isOrder_12 : decode cX0_isOrder 12 = .ok (.iconst 0, 1) := dk_3 (dk_at dksX0_isOrder_0 12 rfl rfl)
theorem dX0_isOrder_13 : decode cX0_isOrder 13 = .ok (.istore_n 3, 1) := dk_62 (dk_at dksX0_isOrder_0 13 rfl rfl)
theorem dX0_isOrder_14 : decode cX0_isOrder 14 = .ok (.aload_n 0, 1) := dk_42 (dk_at dksX0_isOrder_0 14 rfl rfl)
theorem dX0_isOrder_15 : decode cX0_isOrder 15 = .ok (.getfield 95, 3) := dk_180 0 95 (dk_at dksX0_isOrder_0 15 rfl rfl)
theorem dX0_isOrder_18 : decode cX0_isOrder 18 = .ok (.iconst 1, 1) := dk_4 (dk_at dksX0_isOrder_0 18 rfl rfl)
theorem dX0_isOrder_19 : decode cX0_isOrder 19 = .ok (.isub, 1) := dk_100 (dk_at dksX0_isOrder_0 19 rfl rfl)
theorem dX0_isOrder_20 : decode cX0_isOrder 20 = .ok (.istore 4, 2) := dk_54 4 (dk_at dksX0_isOrder_0 20 rfl rfl)
theorem dX0_isOrder_22 : decode cX0_isOrder 22 = .ok (.iload 4, 2) := dk_21 4 (dk_at dksX0_isOrder_0 22 rfl rfl)
theorem dX0_isOrder_24 : decode cX0_isOrder 24 = .ok (.ifCond .lt 59, 3) := dk_155 0 59 (dk_at dksX0_isOrder_1 0 rfl rfl)
theorem dX0_isOrder_27 : decode cX0_isOrder 27 = .ok (.iload_n 2, 1) := dk_28 (dk_at dksX0_isOrder_1 3 rfl rfl)
theorem dX0_isOrder_28 : decode cX0_isOrder 28 = .ok (.bipush 10, 2) := dk_16 10 (dk_at dksX0_isOrder_1 4 rfl rfl)
theorem dX0_isOrder_30 : decode cX0_isOrder 30 = .ok (.irem, 1) := dk_112 (dk_at dksX0_isOrder_1 6 rfl rfl)
theorem dX0_isOrder_31 : decode cX0_isOrder 31 = .ok (.iconst 1, 1) := dk_4 (dk_at dksX0_isOrder_1 7 rfl rfl)
theorem dX0_isOrder_32 : decode cX0_isOrder 32 = .ok (.isub, 1) := dk_100 (dk_at dksX0_isOrder_1 8 rfl rfl)
theorem dX0_isOrder_33 : decode cX0_isOrder 33 = .ok (.istore 5, 2) := dk_54 5 (dk_at dksX0_isOrder_1 9 rfl rfl)
theorem dX0_isOrder_35 : decode cX0_isOrder 35 = .ok (.iload_n 2, 1) := dk_28 (dk_at dksX0_isOrder_1 11 rfl rfl)
theorem dX0_isOrder_36 : decode cX0_isOrder 36 = .ok (.bipush 10, 2) := dk_16 10 (dk_at dksX0_isOrder_1 12 rfl rfl)
theorem dX0_isOrder_38 : decode cX0_isOrder 38 = .ok (.idiv, 1) := dk_108 (dk_at dksX0_isOrder_1 14 rfl rfl)
theorem dX0_isOrder_39 : decode cX0_isOrder 39 = .ok (.istore_n 2, 1) := dk_61 (dk_at dksX0_isOrder_1 15 rfl rfl)
theorem dX0_isOrder_40 : decode cX0_isOrder 40 = .ok (.aload_n 0, 1) := dk_42 (dk_at dksX0_isOrder_1 16 rfl rfl)
theorem dX0_isOrder_41 : decode cX0_isOrder 41 = .ok (.iload 5, 2) := dk_21 5 (dk_at dksX0_isOrder_1 17 rfl rfl)
theorem dX0_isOrder_43 : decode cX0_isOrder 43 = .ok (.invokevirtual 104, 3) := dk_182 0 104 (dk_at dksX0_isOrder_1 19 rfl rfl)
theorem dX0_isOrder_46 : decode cX0_isOrder 46 = .ok (.ifCond .eq 13, 3) := dk_153 0 13 (dk_at dksX0_isOrder_2 0 rfl rfl)
theorem dX0_isOrder_49 : decode cX0_isOrder 49 = .ok (.iload_n 3, 1) := dk_29 (dk_at dksX0_isOrder_2 3 rfl rfl)
theorem dX0_isOrder_50 : decode cX0_isOrder 50 = .ok (.iload 5, 2) := dk_21 5 (dk_at dksX0_isOrder_2 4 rfl rfl)
theorem dX0_isOrder_52 : decode cX0_isOrder 52 = .ok (.ishr, 1) := dk_122 (dk_at dksX0_isOrder_2 6 rfl rfl)
theorem dX0_isOrder_53 : decode cX0_isOrder 53 = .ok (.iconst 1, 1) := dk_4 (dk_at dksX0_isOrder_2 7 rfl rfl)
theorem dX0_isOrder_54 : decode cX0_isOrder 54 = .ok (.iand, 1) := dk_126 (dk_at dksX0_isOrder_2 8 rfl rfl)
theorem dX0_isOrder_55 : decode cX0_isOrder 55 = .ok (.iconst 1, 1) := dk_4 (dk_at dksX0_isOrder_2 9 rfl rfl)
theorem dX0_isOrder_56 : decode cX0_isOrder 56 = .ok (.if_icmp .ne 5, 3) := dk_160 0 5 (dk_at dksX0_isOrder_2 10 rfl rfl)
theorem dX0_isOrder_59 : decode cX0_isOrder 59 = .ok (.iconst 0, 1) := dk_3 (dk_at dksX0_isOrder_2 13 rfl rfl)
theorem dX0_isOrder_60 : decode cX0_isOrder 60 = .ok (.ireturn, 1) := dk_172 (dk_at dksX0_isOrder_2 14 rfl rfl)
theorem dX0_isOrder_61 : decode cX0_isOrder 61 = .ok (.iload_n 3, 1) := dk_29 (dk_at dksX0_isOrder_2 15 rfl rfl)
theorem dX0_isOrder_62 : decode cX0_isOrder 62 = .ok (.iconst 1, 1) := dk_4 (dk_at dksX0_isOrder_2 16 rfl rfl)
theorem dX0_isOrder_63 : decode cX0_isOrder 63 = .ok (.iload 5, 2) := dk_21 5 (dk_at dksX0_isOrder_2 17 rfl rfl)
theorem dX0_isOrder_65 : decode cX0_isOrder 65 = .ok (.ishl, 1) := dk_120 (dk_at dksX0_isOrder_2 19 rfl rfl)
theorem dX0_isOrder_66 : decode cX0_isOrder 66 = .ok (.ior, 1) := dk_128 (dk_at dksX0_isOrder_2 20 rfl rfl)
theorem dX0_isOrder_67 : decode cX0_isOrder 67 = .ok (.istore_n 3, 1) := dk_62 (dk_at dksX0_isOrder_2 21 rfl rfl)
theorem dX0_isOrder_68 : decode cX0_isOrder 68 = .ok (.aload_n 0, 1) := dk_42 (dk_at dksX0_isOrder_2 22 rfl rfl)
theorem dX0_isOrder_69 : decode cX0_isOrder 69 = .ok (.getfield 48, 3) := dk_180 0 48 (dk_at dksX0_isOrder_3 0 rfl rfl)
theorem dX0_isOrder_72 : decode cX0_isOrder 72 = .ok (.iload 4, 2) := dk_21 4 (dk_at dksX0_isOrder_3 3 rfl rfl)
theorem dX0_isOrder_74 : decode cX0_isOrder 74 = .ok (.iload 5, 2) := dk_21 5 (dk_at dksX0_isOrder_3 5 rfl rfl)
theorem dX0_isOrder_76 : decode cX0_isOrder 76 = .ok (.iastore, 1) := dk_79 (dk_at dksX0_isOrder_3 7 rfl rfl)
theorem dX0_isOrder_77 : decode cX0_isOrder 77 = .ok (.iinc 4 (-1), 3) := dk_132 4 255 (dk_at dksX0_isOrder_3 8 rfl rfl)
theorem dX0_isOrder_80 : decode cX0_isOrder 80 = .ok (.goto (-58), 3) := dk_167 255 198 (dk_at dksX0_isOrder_3 11 rfl rfl)
theorem dX0_isOrder_83 : decode cX0_isOrder 83 = .ok (.iload_n 2, 1) := dk_28 (dk_at dksX0_isOrder_3 14 rfl rfl)
theorem dX0_isOrder_84 : decode cX0_isOrder 84 = .ok (.ifCond .ne 7, 3) := dk_154 0 7 (dk_at dksX0_isOrder_3 15 rfl rfl)
theorem dX0_isOrder_87 : decode cX0_isOrder 87 = .ok (.iconst 1, 1) := dk_4 (dk_at dksX0_isOrder_3 18 rfl rfl)
theorem dX0_isOrder_88 : decode cX0_isOrder 88 = .ok (.goto 4, 3) := dk_167 0 4 (dk_at dksX0_isOrder_3 19 rfl rfl)
theorem dX0_isOrder_91 : decode cX0_isOrder 91 = .ok (.iconst 0, 1) := dk_3 (dk_at dksX0_isOrder_3 22 rfl rfl)
theorem dX0_isOrder_92 : decode cX0_isOrder 92 = .ok (.ireturn, 1) := dk_172 (dk_at dksX0_isOrder_3 23 rfl rfl)
abbrev cX0_asTheyCame : ByteArray := prog_1_method_24_code
def yX0_asTheyCame : MethodName := ⟨RX0, "asTheyCame", "()V"⟩
def dkwX0_asTheyCame_0 : List UInt8 := [3, 60, 27, 16, 6, 162, 0, 16, 42, 180, 0, 48, 27, 27, 79, 132, 1, 1, 167, 255, 240, 177]
abbrev dktX0_asTheyCame_0 : List UInt8 := dkwX0_asTheyCame_0 ++ []
theorem dksX0_asTheyCame_0 : cX0_asTheyCame.data.toList.drop 0 = dktX0_asTheyCame_0 := by decide +kernel
theorem dX0_asTheyCame_0 : decode cX0_asTheyCame 0 = .ok (.iconst 0, 1) := dk_3 (dk_at dksX0_asTheyCame_0 0 rfl rfl)
theorem dX0_asTheyCame_1 : decode cX0_asTheyCame 1 = .ok (.istore_n 1, 1) := dk_60 (dk_at dksX0_asTheyCame_0 1 rfl rfl)
theorem dX0_asTheyCame_2 : decode cX0_asTheyCame 2 = .ok (.iload_n 1, 1) := dk_27 (dk_at dksX0_asTheyCame_0 2 rfl rfl)
theorem dX0_asTheyCame_3 : decode cX0_asTheyCame 3 = .ok (.bipush 6, 2) := dk_16 6 (dk_at dksX0_asTheyCame_0 3 rfl rfl)
theorem dX0_asTheyCame_5 : decode cX0_asTheyCame 5 = .ok (.if_icmp .ge 16, 3) := dk_162 0 16 (dk_at dksX0_asTheyCame_0 5 rfl rfl)
theorem dX0_asTheyCame_8 : decode cX0_asTheyCame 8 = .ok (.aload_n 0, 1) := dk_42 (dk_at dksX0_asTheyCame_0 8 rfl rfl)
theorem dX0_asTheyCame_9 : decode cX0_asTheyCame 9 = .ok (.getfield 48, 3) := dk_180 0 48 (dk_at dksX0_asTheyCame_0 9 rfl rfl)
theorem dX0_asTheyCame_12 : decode cX0_asTheyCame 12 = .ok (.iload_n 1, 1) := dk_27 (dk_at dksX0_asTheyCame_0 12 rfl rfl)
theorem dX0_asTheyCame_13 : decode cX0_asTheyCame 13 = .ok (.iload_n 1, 1) := dk_27 (dk_at dksX0_asTheyCame_0 13 rfl rfl)
theorem dX0_asTheyCame_14 : decode cX0_asTheyCame 14 = .ok (.iastore, 1) := dk_79 (dk_at dksX0_asTheyCame_0 14 rfl rfl)
theorem dX0_asTheyCame_15 : decode cX0_asTheyCame 15 = .ok (.iinc 1 1, 3) := dk_132 1 1 (dk_at dksX0_asTheyCame_0 15 rfl rfl)
theorem dX0_asTheyCame_18 : decode cX0_asTheyCame 18 = .ok (.goto (-16), 3) := dk_167 255 240 (dk_at dksX0_asTheyCame_0 18 rfl rfl)
theorem dX0_asTheyCame_21 : decode cX0_asTheyCame 21 = .ok (.return_, 1) := dk_177 (dk_at dksX0_asTheyCame_0 21 rfl rfl)
abbrev cX0_isEmpty : ByteArray := prog_1_method_26_code
def yX0_isEmpty : MethodName := ⟨RX0, "isEmpty", "()Z"⟩
def dkwX0_isEmpty_0 : List UInt8 := [42, 180, 0, 88, 153, 0, 10, 42, 180, 0, 95, 154, 0, 7, 4, 167, 0, 4, 3, 172]
abbrev dktX0_isEmpty_0 : List UInt8 := dkwX0_isEmpty_0 ++ []
theorem dksX0_isEmpty_0 : cX0_isEmpty.data.toList.drop 0 = dktX0_isEmpty_0 := by decide +kernel
theorem dX0_isEmpty_0 : decode cX0_isEmpty 0 = .ok (.aload_n 0, 1) := dk_42 (dk_at dksX0_isEmpty_0 0 rfl rfl)
theorem dX0_isEmpty_1 : decode cX0_isEmpty 1 = .ok (.getfield 88, 3) := dk_180 0 88 (dk_at dksX0_isEmpty_0 1 rfl rfl)
theorem dX0_isEmpty_4 : decode cX0_isEmpty 4 = .ok (.ifCond .eq 10, 3) := dk_153 0 10 (dk_at dksX0_isEmpty_0 4 rfl rfl)
theorem dX0_isEmpty_7 : decode cX0_isEmpty 7 = .ok (.aload_n 0, 1) := dk_42 (dk_at dksX0_isEmpty_0 7 rfl rfl)
theorem dX0_isEmpty_8 : decode cX0_isEmpty 8 = .ok (.getfield 95, 3) := dk_180 0 95 (dk_at dksX0_isEmpty_0 8 rfl rfl)
theorem dX0_isEmpty_11 : decode cX0_isEmpty 11 = .ok (.ifCond .ne 7, 3) := dk_154 0 7 (dk_at dksX0_isEmpty_0 11 rfl rfl)
theorem dX0_isEmpty_14 : decode cX0_isEmpty 14 = .ok (.iconst 1, 1) := dk_4 (dk_at dksX0_isEmpty_0 14 rfl rfl)
theorem dX0_isEmpty_15 : decode cX0_isEmpty 15 = .ok (.goto 4, 3) := dk_167 0 4 (dk_at dksX0_isEmpty_0 15 rfl rfl)
theorem dX0_isEmpty_18 : decode cX0_isEmpty 18 = .ok (.iconst 0, 1) := dk_3 (dk_at dksX0_isEmpty_0 18 rfl rfl)
theorem dX0_isEmpty_19 : decode cX0_isEmpty 19 = .ok (.ireturn, 1) := dk_172 (dk_at dksX0_isEmpty_0 19 rfl rfl)
abbrev cX0_wishOf : ByteArray := prog_1_method_21_code
def yX0_wishOf : MethodName := ⟨RX0, "wishOf", "(IIIIII)I"⟩
def dkwX0_wishOf_6 : List UInt8 := [27, 79, 42, 180, 0, 44, 180, 0, 236, 16, 108, 21, 6, 79, 42, 182, 0, 239, 172]
abbrev dktX0_wishOf_6 : List UInt8 := dkwX0_wishOf_6 ++ []
def dkwX0_wishOf_5 : List UInt8 := [21, 4, 79, 42, 180, 0, 44, 180, 0, 236, 16, 116, 21, 5, 79, 42, 180, 0, 44, 180, 0, 236, 16, 112]
abbrev dktX0_wishOf_5 : List UInt8 := dkwX0_wishOf_5 ++ dktX0_wishOf_6
def dkwX0_wishOf_4 : List UInt8 := [21, 7, 79, 42, 180, 0, 44, 180, 0, 236, 16, 110, 29, 79, 42, 180, 0, 44, 180, 0, 236, 16, 115]
abbrev dktX0_wishOf_4 : List UInt8 := dkwX0_wishOf_4 ++ dktX0_wishOf_5
def dkwX0_wishOf_3 : List UInt8 := [180, 0, 236, 16, 118, 42, 180, 0, 11, 27, 50, 180, 0, 149, 79, 42, 180, 0, 44, 180, 0, 236, 16, 101]
abbrev dktX0_wishOf_3 : List UInt8 := dkwX0_wishOf_3 ++ dktX0_wishOf_4
def dkwX0_wishOf_2 : List UInt8 := [42, 180, 0, 44, 180, 0, 236, 16, 114, 42, 180, 0, 11, 27, 50, 180, 0, 146, 79, 42, 180, 0, 44]
abbrev dktX0_wishOf_2 : List UInt8 := dkwX0_wishOf_2 ++ dktX0_wishOf_3
def dkwX0_wishOf_1 : List UInt8 := [96, 42, 180, 0, 11, 27, 50, 180, 0, 149, 96, 8, 21, 4, 104, 100, 172, 42, 180, 0, 44, 182, 0, 233]
abbrev dktX0_wishOf_1 : List UInt8 := dkwX0_wishOf_1 ++ dktX0_wishOf_2
def dkwX0_wishOf_0 : List UInt8 := [42, 180, 0, 17, 28, 50, 180, 0, 161, 54, 7, 42, 180, 0, 211, 199, 0, 26, 16, 10, 29, 104, 21, 7]
abbrev dktX0_wishOf_0 : List UInt8 := dkwX0_wishOf_0 ++ dktX0_wishOf_1
theorem dksX0_wishOf_0 : cX0_wishOf.data.toList.drop 0 = dktX0_wishOf_0 := by decide +kernel
theorem dksX0_wishOf_1 : cX0_wishOf.data.toList.drop 24 = dktX0_wishOf_1 := dk_seg dksX0_wishOf_0 24 rfl rfl
theorem dksX0_wishOf_2 : cX0_wishOf.data.toList.drop 48 = dktX0_wishOf_2 := dk_seg dksX0_wishOf_1 24 rfl rfl
theorem dksX0_wishOf_3 : cX0_wishOf.data.toList.drop 71 = dktX0_wishOf_3 := dk_seg dksX0_wishOf_2 23 rfl rfl
theorem dksX0_wishOf_4 : cX0_wishOf.data.toList.drop 95 = dktX0_wishOf_4 := dk_seg dksX0_wishOf_3 24 rfl rfl
theorem dksX0_wishOf_5 : cX0_wishOf.data.toList.drop 118 = dktX0_wishOf_5 := dk_seg dksX0_wishOf_4 23 rfl rfl
theorem dksX0_wishOf_6 : cX0_wishOf.data.toList.drop 142 = dktX0_wishOf_6 := dk_seg dksX0_wishOf_5 24 rfl rfl
theorem dX0_wishOf_0 : decode cX0_wishOf 0 = .ok (.aload_n 0, 1) := dk_42 (dk_at dksX0_wishOf_0 0 rfl rfl)
theorem dX0_wishOf_1 : decode cX0_wishOf 1 = .ok (.getfield 17, 3) := dk_180 0 17 (dk_at dksX0_wishOf_0 1 rfl rfl)
theorem dX0_wishOf_4 : decode cX0_wishOf 4 = .ok (.iload_n 2, 1) := dk_28 (dk_at dksX0_wishOf_0 4 rfl rfl)
theorem dX0_wishOf_5 : decode cX0_wishOf 5 = .ok (.aaload, 1) := dk_50 (dk_at dksX0_wishOf_0 5 rfl rfl)
theorem dX0_wishOf_6 : decode cX0_wishOf 6 = .ok (.getfield 161, 3) := dk_180 0 161 (dk_at dksX0_wishOf_0 6 rfl rfl)
theorem dX0_wishOf_9 : decode cX0_wishOf 9 = .ok (.istore 7, 2) := dk_54 7 (dk_at dksX0_wishOf_0 9 rfl rfl)
theorem dX0_wishOf_11 : decode cX0_wishOf 11 = .ok (.aload_n 0, 1) := dk_42 (dk_at dksX0_wishOf_0 11 rfl rfl)
theorem dX0_wishOf_12 : decode cX0_wishOf 12 = .ok (.getfield 211, 3) := dk_180 0 211 (dk_at dksX0_wishOf_0 12 rfl rfl)
theorem dX0_wishOf_15 : decode cX0_wishOf 15 = .ok (.ifnonnull 26, 3) := dk_199 0 26 (dk_at dksX0_wishOf_0 15 rfl rfl)
theorem dX0_wishOf_18 : decode cX0_wishOf 18 = .ok (.bipush 10, 2) := dk_16 10 (dk_at dksX0_wishOf_0 18 rfl rfl)
theorem dX0_wishOf_20 : decode cX0_wishOf 20 = .ok (.iload_n 3, 1) := dk_29 (dk_at dksX0_wishOf_0 20 rfl rfl)
theorem dX0_wishOf_21 : decode cX0_wishOf 21 = .ok (.imul, 1) := dk_104 (dk_at dksX0_wishOf_0 21 rfl rfl)
theorem dX0_wishOf_22 : decode cX0_wishOf 22 = .ok (.iload 7, 2) := dk_21 7 (dk_at dksX0_wishOf_0 22 rfl rfl)
theorem dX0_wishOf_24 : decode cX0_wishOf 24 = .ok (.iadd, 1) := dk_96 (dk_at dksX0_wishOf_1 0 rfl rfl)
theorem dX0_wishOf_25 : decode cX0_wishOf 25 = .ok (.aload_n 0, 1) := dk_42 (dk_at dksX0_wishOf_1 1 rfl rfl)
theorem dX0_wishOf_26 : decode cX0_wishOf 26 = .ok (.getfield 11, 3) := dk_180 0 11 (dk_at dksX0_wishOf_1 2 rfl rfl)
theorem dX0_wishOf_29 : decode cX0_wishOf 29 = .ok (.iload_n 1, 1) := dk_27 (dk_at dksX0_wishOf_1 5 rfl rfl)
theorem dX0_wishOf_30 : decode cX0_wishOf 30 = .ok (.aaload, 1) := dk_50 (dk_at dksX0_wishOf_1 6 rfl rfl)
theorem dX0_wishOf_31 : decode cX0_wishOf 31 = .ok (.getfield 149, 3) := dk_180 0 149 (dk_at dksX0_wishOf_1 7 rfl rfl)
theorem dX0_wishOf_34 : decode cX0_wishOf 34 = .ok (.iadd, 1) := dk_96 (dk_at dksX0_wishOf_1 10 rfl rfl)
theorem dX0_wishOf_35 : decode cX0_wishOf 35 = .ok (.iconst 5, 1) := dk_8 (dk_at dksX0_wishOf_1 11 rfl rfl)
theorem dX0_wishOf_36 : decode cX0_wishOf 36 = .ok (.iload 4, 2) := dk_21 4 (dk_at dksX0_wishOf_1 12 rfl rfl)
theorem dX0_wishOf_38 : decode cX0_wishOf 38 = .ok (.imul, 1) := dk_104 (dk_at dksX0_wishOf_1 14 rfl rfl)
theorem dX0_wishOf_39 : decode cX0_wishOf 39 = .ok (.isub, 1) := dk_100 (dk_at dksX0_wishOf_1 15 rfl rfl)
theorem dX0_wishOf_40 : decode cX0_wishOf 40 = .ok (.ireturn, 1) := dk_172 (dk_at dksX0_wishOf_1 16 rfl rfl)
theorem dX0_wishOf_41 : decode cX0_wishOf 41 = .ok (.aload_n 0, 1) := dk_42 (dk_at dksX0_wishOf_1 17 rfl rfl)
theorem dX0_wishOf_42 : decode cX0_wishOf 42 = .ok (.getfield 44, 3) := dk_180 0 44 (dk_at dksX0_wishOf_1 18 rfl rfl)
theorem dX0_wishOf_45 : decode cX0_wishOf 45 = .ok (.invokevirtual 233, 3) := dk_182 0 233 (dk_at dksX0_wishOf_1 21 rfl rfl)
theorem dX0_wishOf_48 : decode cX0_wishOf 48 = .ok (.aload_n 0, 1) := dk_42 (dk_at dksX0_wishOf_2 0 rfl rfl)
theorem dX0_wishOf_49 : decode cX0_wishOf 49 = .ok (.getfield 44, 3) := dk_180 0 44 (dk_at dksX0_wishOf_2 1 rfl rfl)
theorem dX0_wishOf_52 : decode cX0_wishOf 52 = .ok (.getfield 236, 3) := dk_180 0 236 (dk_at dksX0_wishOf_2 4 rfl rfl)
theorem dX0_wishOf_55 : decode cX0_wishOf 55 = .ok (.bipush 114, 2) := dk_16 114 (dk_at dksX0_wishOf_2 7 rfl rfl)
theorem dX0_wishOf_57 : decode cX0_wishOf 57 = .ok (.aload_n 0, 1) := dk_42 (dk_at dksX0_wishOf_2 9 rfl rfl)
theorem dX0_wishOf_58 : decode cX0_wishOf 58 = .ok (.getfield 11, 3) := dk_180 0 11 (dk_at dksX0_wishOf_2 10 rfl rfl)
theorem dX0_wishOf_61 : decode cX0_wishOf 61 = .ok (.iload_n 1, 1) := dk_27 (dk_at dksX0_wishOf_2 13 rfl rfl)
theorem dX0_wishOf_62 : decode cX0_wishOf 62 = .ok (.aaload, 1) := dk_50 (dk_at dksX0_wishOf_2 14 rfl rfl)
theorem dX0_wishOf_63 : decode cX0_wishOf 63 = .ok (.getfield 146, 3) := dk_180 0 146 (dk_at dksX0_wishOf_2 15 rfl rfl)
theorem dX0_wishOf_66 : decode cX0_wishOf 66 = .ok (.iastore, 1) := dk_79 (dk_at dksX0_wishOf_2 18 rfl rfl)
theorem dX0_wishOf_67 : decode cX0_wishOf 67 = .ok (.aload_n 0, 1) := dk_42 (dk_at dksX0_wishOf_2 19 rfl rfl)
theorem dX0_wishOf_68 : decode cX0_wishOf 68 = .ok (.getfield 44, 3) := dk_180 0 44 (dk_at dksX0_wishOf_2 20 rfl rfl)
theorem dX0_wishOf_71 : decode cX0_wishOf 71 = .ok (.getfield 236, 3) := dk_180 0 236 (dk_at dksX0_wishOf_3 0 rfl rfl)
theorem dX0_wishOf_74 : decode cX0_wishOf 74 = .ok (.bipush 118, 2) := dk_16 118 (dk_at dksX0_wishOf_3 3 rfl rfl)
theorem dX0_wishOf_76 : decode cX0_wishOf 76 = .ok (.aload_n 0, 1) := dk_42 (dk_at dksX0_wishOf_3 5 rfl rfl)
theorem dX0_wishOf_77 : decode cX0_wishOf 77 = .ok (.getfield 11, 3) := dk_180 0 11 (dk_at dksX0_wishOf_3 6 rfl rfl)
theorem dX0_wishOf_80 : decode cX0_wishOf 80 = .ok (.iload_n 1, 1) := dk_27 (dk_at dksX0_wishOf_3 9 rfl rfl)
theorem dX0_wishOf_81 : decode cX0_wishOf 81 = .ok (.aaload, 1) := dk_50 (dk_at dksX0_wishOf_3 10 rfl rfl)
theorem dX0_wishOf_82 : decode cX0_wishOf 82 = .ok (.getfield 149, 3) := dk_180 0 149 (dk_at dksX0_wishOf_3 11 rfl rfl)
theorem dX0_wishOf_85 : decode cX0_wishOf 85 = .ok (.iastore, 1) := dk_79 (dk_at dksX0_wishOf_3 14 rfl rfl)
theorem dX0_wishOf_86 : decode cX0_wishOf 86 = .ok (.aload_n 0, 1) := dk_42 (dk_at dksX0_wishOf_3 15 rfl rfl)
theorem dX0_wishOf_87 : decode cX0_wishOf 87 = .ok (.getfield 44, 3) := dk_180 0 44 (dk_at dksX0_wishOf_3 16 rfl rfl)
theorem dX0_wishOf_90 : decode cX0_wishOf 90 = .ok (.getfield 236, 3) := dk_180 0 236 (dk_at dksX0_wishOf_3 19 rfl rfl)
theorem dX0_wishOf_93 : decode cX0_wishOf 93 = .ok (.bipush 101, 2) := dk_16 101 (dk_at dksX0_wishOf_3 22 rfl rfl)
theorem dX0_wishOf_95 : decode cX0_wishOf 95 = .ok (.iload 7, 2) := dk_21 7 (dk_at dksX0_wishOf_4 0 rfl rfl)
theorem dX0_wishOf_97 : decode cX0_wishOf 97 = .ok (.iastore, 1) := dk_79 (dk_at dksX0_wishOf_4 2 rfl rfl)
theorem dX0_wishOf_98 : decode cX0_wishOf 98 = .ok (.aload_n 0, 1) := dk_42 (dk_at dksX0_wishOf_4 3 rfl rfl)
theorem dX0_wishOf_99 : decode cX0_wishOf 99 = .ok (.getfield 44, 3) := dk_180 0 44 (dk_at dksX0_wishOf_4 4 rfl rfl)
theorem dX0_wishOf_102 : decode cX0_wishOf 102 = .ok (.getfield 236, 3) := dk_180 0 236 (dk_at dksX0_wishOf_4 7 rfl rfl)
theorem dX0_wishOf_105 : decode cX0_wishOf 105 = .ok (.bipush 110, 2) := dk_16 110 (dk_at dksX0_wishOf_4 10 rfl rfl)
theorem dX0_wishOf_107 : decode cX0_wishOf 107 = .ok (.iload_n 3, 1) := dk_29 (dk_at dksX0_wishOf_4 12 rfl rfl)
theorem dX0_wishOf_108 : decode cX0_wishOf 108 = .ok (.iastore, 1) := dk_79 (dk_at dksX0_wishOf_4 13 rfl rfl)
theorem dX0_wishOf_109 : decode cX0_wishOf 109 = .ok (.aload_n 0, 1) := dk_42 (dk_at dksX0_wishOf_4 14 rfl rfl)
theorem dX0_wishOf_110 : decode cX0_wishOf 110 = .ok (.getfield 44, 3) := dk_180 0 44 (dk_at dksX0_wishOf_4 15 rfl rfl)
theorem dX0_wishOf_113 : decode cX0_wishOf 113 = .ok (.getfield 236, 3) := dk_180 0 236 (dk_at dksX0_wishOf_4 18 rfl rfl)
theorem dX0_wishOf_116 : decode cX0_wishOf 116 = .ok (.bipush 115, 2) := dk_16 115 (dk_at dksX0_wishOf_4 21 rfl rfl)
theorem dX0_wishOf_118 : decode cX0_wishOf 118 = .ok (.iload 4, 2) := dk_21 4 (dk_at dksX0_wishOf_5 0 rfl rfl)
theorem dX0_wishOf_120 : decode cX0_wishOf 120 = .ok (.iastore, 1) := dk_79 (dk_at dksX0_wishOf_5 2 rfl rfl)
theorem dX0_wishOf_121 : decode cX0_wishOf 121 = .ok (.aload_n 0, 1) := dk_42 (dk_at dksX0_wishOf_5 3 rfl rfl)
theorem dX0_wishOf_122 : decode cX0_wishOf 122 = .ok (.getfield 44, 3) := dk_180 0 44 (dk_at dksX0_wishOf_5 4 rfl rfl)
theorem dX0_wishOf_125 : decode cX0_wishOf 125 = .ok (.getfield 236, 3) := dk_180 0 236 (dk_at dksX0_wishOf_5 7 rfl rfl)
theorem dX0_wishOf_128 : decode cX0_wishOf 128 = .ok (.bipush 116, 2) := dk_16 116 (dk_at dksX0_wishOf_5 10 rfl rfl)
theorem dX0_wishOf_130 : decode cX0_wishOf 130 = .ok (.iload 5, 2) := dk_21 5 (dk_at dksX0_wishOf_5 12 rfl rfl)
theorem dX0_wishOf_132 : decode cX0_wishOf 132 = .ok (.iastore, 1) := dk_79 (dk_at dksX0_wishOf_5 14 rfl rfl)
theorem dX0_wishOf_133 : decode cX0_wishOf 133 = .ok (.aload_n 0, 1) := dk_42 (dk_at dksX0_wishOf_5 15 rfl rfl)
theorem dX0_wishOf_134 : decode cX0_wishOf 134 = .ok (.getfield 44, 3) := dk_180 0 44 (dk_at dksX0_wishOf_5 16 rfl rfl)
theorem dX0_wishOf_137 : decode cX0_wishOf 137 = .ok (.getfield 236, 3) := dk_180 0 236 (dk_at dksX0_wishOf_5 19 rfl rfl)
theorem dX0_wishOf_140 : decode cX0_wishOf 140 = .ok (.bipush 112, 2) := dk_16 112 (dk_at dksX0_wishOf_5 22 rfl rfl)
theorem dX0_wishOf_142 : decode cX0_wishOf 142 = .ok (.iload_n 1, 1) := dk_27 (dk_at dksX0_wishOf_6 0 rfl rfl)
theorem dX0_wishOf_143 : decode cX0_wishOf 143 = .ok (.iastore, 1) := dk_79 (dk_at dksX0_wishOf_6 1 rfl rfl)
theorem dX0_wishOf_144 : decode cX0_wishOf 144 = .ok (.aload_n 0, 1) := dk_42 (dk_at dksX0_wishOf_6 2 rfl rfl)
theorem dX0_wishOf_145 : decode cX0_wishOf 145 = .ok (.getfield 44, 3) := dk_180 0 44 (dk_at dksX0_wishOf_6 3 rfl rfl)
theorem dX0_wishOf_148 : decode cX0_wishOf 148 = .ok (.getfield 236, 3) := dk_180 0 236 (dk_at dksX0_wishOf_6 6 rfl rfl)
theorem dX0_wishOf_151 : decode cX0_wishOf 151 = .ok (.bipush 108, 2) := dk_16 108 (dk_at dksX0_wishOf_6 9 rfl rfl)
theorem dX0_wishOf_153 : decode cX0_wishOf 153 = .ok (.iload 6, 2) := dk_21 6 (dk_at dksX0_wishOf_6 11 rfl rfl)
theorem dX0_wishOf_155 : decode cX0_wishOf 155 = .ok (.iastore, 1) := dk_79 (dk_at dksX0_wishOf_6 13 rfl rfl)
theorem dX0_wishOf_156 : decode cX0_wishOf 156 = .ok (.aload_n 0, 1) := dk_42 (dk_at dksX0_wishOf_6 14 rfl rfl)
theorem dX0_wishOf_157 : decode cX0_wishOf 157 = .ok (.invokevirtual 239, 3) := dk_182 0 239 (dk_at dksX0_wishOf_6 15 rfl rfl)
theorem dX0_wishOf_160 : decode cX0_wishOf 160 = .ok (.ireturn, 1) := dk_172 (dk_at dksX0_wishOf_6 18 rfl rfl)
abbrev cX0_gives : ByteArray := prog_1_method_20_code
def yX0_gives : MethodName := ⟨RX0, "gives", "()I"⟩
def dkwX0_gives_2 : List UInt8 := [167, 255, 214, 3, 172]
abbrev dktX0_gives_2 : List UInt8 := dkwX0_gives_2 ++ []
def dkwX0_gives_1 : List UInt8 := [182, 0, 221, 153, 0, 15, 43, 180, 0, 227, 42, 180, 0, 44, 182, 0, 221, 172, 43, 180, 0, 230, 76]
abbrev dktX0_gives_1 : List UInt8 := dkwX0_gives_1 ++ dktX0_gives_2
def dkwX0_gives_0 : List UInt8 := [42, 180, 0, 211, 76, 43, 198, 0, 44, 43, 180, 0, 215, 198, 0, 17, 43, 180, 0, 215, 42, 180, 0, 44]
abbrev dktX0_gives_0 : List UInt8 := dkwX0_gives_0 ++ dktX0_gives_1
theorem dksX0_gives_0 : cX0_gives.data.toList.drop 0 = dktX0_gives_0 := by decide +kernel
theorem dksX0_gives_1 : cX0_gives.data.toList.drop 24 = dktX0_gives_1 := dk_seg dksX0_gives_0 24 rfl rfl
theorem dksX0_gives_2 : cX0_gives.data.toList.drop 47 = dktX0_gives_2 := dk_seg dksX0_gives_1 23 rfl rfl
theorem dX0_gives_0 : decode cX0_gives 0 = .ok (.aload_n 0, 1) := dk_42 (dk_at dksX0_gives_0 0 rfl rfl)
theorem dX0_gives_1 : decode cX0_gives 1 = .ok (.getfield 211, 3) := dk_180 0 211 (dk_at dksX0_gives_0 1 rfl rfl)
theorem dX0_gives_4 : decode cX0_gives 4 = .ok (.astore_n 1, 1) := dk_76 (dk_at dksX0_gives_0 4 rfl rfl)
theorem dX0_gives_5 : decode cX0_gives 5 = .ok (.aload_n 1, 1) := dk_43 (dk_at dksX0_gives_0 5 rfl rfl)
theorem dX0_gives_6 : decode cX0_gives 6 = .ok (.ifnull 44, 3) := dk_198 0 44 (dk_at dksX0_gives_0 6 rfl rfl)
theorem dX0_gives_9 : decode cX0_gives 9 = .ok (.aload_n 1, 1) := dk_43 (dk_at dksX0_gives_0 9 rfl rfl)
theorem dX0_gives_10 : decode cX0_gives 10 = .ok (.getfield 215, 3) := dk_180 0 215 (dk_at dksX0_gives_0 10 rfl rfl)
theorem dX0_gives_13 : decode cX0_gives 13 = .ok (.ifnull 17, 3) := dk_198 0 17 (dk_at dksX0_gives_0 13 rfl rfl)
theorem dX0_gives_16 : decode cX0_gives 16 = .ok (.aload_n 1, 1) := dk_43 (dk_at dksX0_gives_0 16 rfl rfl)
theorem dX0_gives_17 : decode cX0_gives 17 = .ok (.getfield 215, 3) := dk_180 0 215 (dk_at dksX0_gives_0 17 rfl rfl)
theorem dX0_gives_20 : decode cX0_gives 20 = .ok (.aload_n 0, 1) := dk_42 (dk_at dksX0_gives_0 20 rfl rfl)
theorem dX0_gives_21 : decode cX0_gives 21 = .ok (.getfield 44, 3) := dk_180 0 44 (dk_at dksX0_gives_0 21 rfl rfl)
theorem dX0_gives_24 : decode cX0_gives 24 = .ok (.invokevirtual 221, 3) := dk_182 0 221 (dk_at dksX0_gives_1 0 rfl rfl)
theorem dX0_gives_27 : decode cX0_gives 27 = .ok (.ifCond .eq 15, 3) := dk_153 0 15 (dk_at dksX0_gives_1 3 rfl rfl)
theorem dX0_gives_30 : decode cX0_gives 30 = .ok (.aload_n 1, 1) := dk_43 (dk_at dksX0_gives_1 6 rfl rfl)
theorem dX0_gives_31 : decode cX0_gives 31 = .ok (.getfield 227, 3) := dk_180 0 227 (dk_at dksX0_gives_1 7 rfl rfl)
theorem dX0_gives_34 : decode cX0_gives 34 = .ok (.aload_n 0, 1) := dk_42 (dk_at dksX0_gives_1 10 rfl rfl)
theorem dX0_gives_35 : decode cX0_gives 35 = .ok (.getfield 44, 3) := dk_180 0 44 (dk_at dksX0_gives_1 11 rfl rfl)
theorem dX0_gives_38 : decode cX0_gives 38 = .ok (.invokevirtual 221, 3) := dk_182 0 221 (dk_at dksX0_gives_1 14 rfl rfl)
theorem dX0_gives_41 : decode cX0_gives 41 = .ok (.ireturn, 1) := dk_172 (dk_at dksX0_gives_1 17 rfl rfl)
theorem dX0_gives_42 : decode cX0_gives 42 = .ok (.aload_n 1, 1) := dk_43 (dk_at dksX0_gives_1 18 rfl rfl)
theorem dX0_gives_43 : decode cX0_gives 43 = .ok (.getfield 230, 3) := dk_180 0 230 (dk_at dksX0_gives_1 19 rfl rfl)
theorem dX0_gives_46 : decode cX0_gives 46 = .ok (.astore_n 1, 1) := dk_76 (dk_at dksX0_gives_1 22 rfl rfl)
theorem dX0_gives_47 : decode cX0_gives 47 = .ok (.goto (-42), 3) := dk_167 255 214 (dk_at dksX0_gives_2 0 rfl rfl)
theorem dX0_gives_50 : decode cX0_gives 50 = .ok (.iconst 0, 1) := dk_3 (dk_at dksX0_gives_2 3 rfl rfl)
theorem dX0_gives_51 : decode cX0_gives 51 = .ok (.ireturn, 1) := dk_172 (dk_at dksX0_gives_2 4 rfl rfl)
