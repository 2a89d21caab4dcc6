set_option maxRecDepth 100000
abbrev cX2_init : ByteArray := prog_16_method_1_code
def yX2_init : MethodName := ⟨RX2, "<init>", "(LSpeaksInTurn;)V"⟩
def dkwX2_init_6 : List UInt8 := [188, 10, 181, 0, 61, 177]
abbrev dktX2_init_6 : List UInt8 := dkwX2_init_6 ++ []
def dkwX2_init_5 : List UInt8 := [188, 10, 181, 0, 52, 42, 16, 10, 188, 10, 181, 0, 55, 42, 16, 10, 188, 10, 181, 0, 58, 42, 16, 10]
abbrev dktX2_init_5 : List UInt8 := dkwX2_init_5 ++ dktX2_init_6
def dkwX2_init_4 : List UInt8 := [188, 10, 181, 0, 43, 42, 16, 10, 188, 10, 181, 0, 46, 42, 16, 10, 188, 10, 181, 0, 49, 42, 16, 10]
abbrev dktX2_init_4 : List UInt8 := dkwX2_init_4 ++ dktX2_init_5
def dkwX2_init_3 : List UInt8 := [181, 0, 34, 42, 17, 0, 200, 188, 10, 181, 0, 37, 42, 16, 20, 188, 10, 181, 0, 40, 42, 16, 20]
abbrev dktX2_init_3 : List UInt8 := dkwX2_init_3 ++ dktX2_init_4
def dkwX2_init_2 : List UInt8 := [17, 0, 200, 188, 10, 181, 0, 28, 42, 17, 0, 200, 188, 10, 181, 0, 31, 42, 17, 0, 200, 188, 10]
abbrev dktX2_init_2 : List UInt8 := dkwX2_init_2 ++ dktX2_init_3
def dkwX2_init_1 : List UInt8 := [181, 0, 19, 42, 17, 0, 200, 188, 10, 181, 0, 22, 42, 17, 0, 200, 188, 10, 181, 0, 25, 42]
abbrev dktX2_init_1 : List UInt8 := dkwX2_init_1 ++ dktX2_init_2
def dkwX2_init_0 : List UInt8 := [42, 43, 181, 0, 3, 42, 183, 0, 9, 42, 16, 6, 188, 10, 181, 0, 15, 42, 17, 0, 200, 188, 10]
abbrev dktX2_init_0 : List UInt8 := dkwX2_init_0 ++ dktX2_init_1
theorem dksX2_init_0 : cX2_init.data.toList.drop 0 = dktX2_init_0 := by decide +kernel
theorem dksX2_init_1 : cX2_init.data.toList.drop 23 = dktX2_init_1 := dk_seg dksX2_init_0 23 rfl rfl
theorem dksX2_init_2 : cX2_init.data.toList.drop 45 = dktX2_init_2 := dk_seg dksX2_init_1 22 rfl rfl
theorem dksX2_init_3 : cX2_init.data.toList.drop 68 = dktX2_init_3 := dk_seg dksX2_init_2 23 rfl rfl
theorem dksX2_init_4 : cX2_init.data.toList.drop 91 = dktX2_init_4 := dk_seg dksX2_init_3 23 rfl rfl
theorem dksX2_init_5 : cX2_init.data.toList.drop 115 = dktX2_init_5 := dk_seg dksX2_init_4 24 rfl rfl
theorem dksX2_init_6 : cX2_init.data.toList.drop 139 = dktX2_init_6 := dk_seg dksX2_init_5 24 rfl rfl
theorem dX2_init_0 : decode cX2_init 0 = .ok (.aload_n 0, 1) := dk_42 (dk_at dksX2_init_0 0 rfl rfl)
theorem dX2_init_1 : decode cX2_init 1 = .ok (.aload_n 1, 1) := dk_43 (dk_at dksX2_init_0 1 rfl rfl)
theorem dX2_init_2 : decode cX2_init 2 = .ok (.putfield 3, 3) := dk_181 0 3 (dk_at dksX2_init_0 2 rfl rfl)
theorem dX2_init_5 : decode cX2_init 5 = .ok (.aload_n 0, 1) := dk_42 (dk_at dksX2_init_0 5 rfl rfl)
theorem dX2_init_6 : decode cX2_init 6 = .ok (.invokespecial 9, 3) := dk_183 0 9 (dk_at dksX2_init_0 6 rfl rfl)
theorem dX2_init_9 : decode cX2_init 9 = .ok (.aload_n 0, 1) := dk_42 (dk_at dksX2_init_0 9 rfl rfl)
theorem dX2_init_10 : decode cX2_init 10 = .ok (.bipush 6, 2) := dk_16 6 (dk_at dksX2_init_0 10 rfl rfl)
theorem dX2_init_12 : decode cX2_init 12 = .ok (.newarray .int, 2) := dk_188_10 (dk_at dksX2_init_0 12 rfl rfl)
theorem dX2_init_14 : decode cX2_init 14 = .ok (.putfield 15, 3) := dk_181 0 15 (dk_at dksX2_init_0 14 rfl rfl)
theorem dX2_init_17 : decode cX2_init 17 = .ok (.aload_n 0, 1) := dk_42 (dk_at dksX2_init_0 17 rfl rfl)
theorem dX2_init_18 : decode cX2_init 18 = .ok (.sipush 200, 3) := dk_17 0 200 (dk_at dksX2_init_0 18 rfl rfl)
theorem dX2_init_21 : decode cX2_init 21 = .ok (.newarray .int, 2) := dk_188_10 (dk_at dksX2_init_0 21 rfl rfl)
theorem dX2_init_23 : decode cX2_init 23 = .ok (.putfield 19, 3) := dk_181 0 19 (dk_at dksX2_init_1 0 rfl rfl)
theorem dX2_init_26 : decode cX2_init 26 = .ok (.aload_n 0, 1) := dk_42 (dk_at dksX2_init_1 3 rfl rfl)
theorem dX2_init_27 : decode cX2_init 27 = .ok (.sipush 200, 3) := dk_17 0 200 (dk_at dksX2_init_1 4 rfl rfl)
theorem dX2_init_30 : decode cX2_init 30 = .ok (.newarray .int, 2) := dk_188_10 (dk_at dksX2_init_1 7 rfl rfl)
theorem dX2_init_32 : decode cX2_init 32 = .ok (.putfield 22, 3) := dk_181 0 22 (dk_at dksX2_init_1 9 rfl rfl)
theorem dX2_init_35 : decode cX2_init 35 = .ok (.aload_n 0, 1) := dk_42 (dk_at dksX2_init_1 12 rfl rfl)
theorem dX2_init_36 : decode cX2_init 36 = .ok (.sipush 200, 3) := dk_17 0 200 (dk_at dksX2_init_1 13 rfl rfl)
theorem dX2_init_39 : decode cX2_init 39 = .ok (.newarray .int, 2) := dk_188_10 (dk_at dksX2_init_1 16 rfl rfl)
theorem dX2_init_41 : decode cX2_init 41 = .ok (.putfield 25, 3) := dk_181 0 25 (dk_at dksX2_init_1 18 rfl rfl)
theorem dX2_init_44 : decode cX2_init 44 = .ok (.aload_n 0, 1) := dk_42 (dk_at dksX2_init_1 21 rfl rfl)
theorem dX2_init_45 : decode cX2_init 45 = .ok (.sipush 200, 3) := dk_17 0 200 (dk_at dksX2_init_2 0 rfl rfl)
theorem dX2_init_48 : decode cX2_init 48 = .ok (.newarray .int, 2) := dk_188_10 (dk_at dksX2_init_2 3 rfl rfl)
theorem dX2_init_50 : decode cX2_init 50 = .ok (.putfield 28, 3) := dk_181 0 28 (dk_at dksX2_init_2 5 rfl rfl)
theorem dX2_init_53 : decode cX2_init 53 = .ok (.aload_n 0, 1) := dk_42 (dk_at dksX2_init_2 8 rfl rfl)
theorem dX2_init_54 : decode cX2_init 54 = .ok (.sipush 200, 3) := dk_17 0 200 (dk_at dksX2_init_2 9 rfl rfl)
theorem dX2_init_57 : decode cX2_init 57 = .ok (.newarray .int, 2) := dk_188_10 (dk_at dksX2_init_2 12 rfl rfl)
theorem dX2_init_59 : decode cX2_init 59 = .ok (.putfield 31, 3) := dk_181 0 31 (dk_at dksX2_init_2 14 rfl rfl)
theorem dX2_init_62 : decode cX2_init 62 = .ok (.aload_n 0, 1) := dk_42 (dk_at dksX2_init_2 17 rfl rfl)
theorem dX2_init_63 : decode cX2_init 63 = .ok (.sipush 200, 3) := dk_17 0 200 (dk_at dksX2_init_2 18 rfl rfl)
theorem dX2_init_66 : decode cX2_init 66 = .ok (.newarray .int, 2) := dk_188_10 (dk_at dksX2_init_2 21 rfl rfl)
theorem dX2_init_68 : decode cX2_init 68 = .ok (.putfield 34, 3) := dk_181 0 34 (dk_at dksX2_init_3 0 rfl rfl)
theorem dX2_init_71 : decode cX2_init 71 = .ok (.aload_n 0, 1) := dk_42 (dk_at dksX2_init_3 3 rfl rfl)
theorem dX2_init_72 : decode cX2_init 72 = .ok (.sipush 200, 3) := dk_17 0 200 (dk_at dksX2_init_3 4 rfl rfl)
theorem dX2_init_75 : decode cX2_init 75 = .ok (.newarray .int, 2) := dk_188_10 (dk_at dksX2_init_3 7 rfl rfl)
theorem dX2_init_77 : decode cX2_init 77 = .ok (.putfield 37, 3) := dk_181 0 37 (dk_at dksX2_init_3 9 rfl rfl)
theorem dX2_init_80 : decode cX2_init 80 = .ok (.aload_n 0, 1) := dk_42 (dk_at dksX2_init_3 12 rfl rfl)
theorem dX2_init_81 : decode cX2_init 81 = .ok (.bipush 20, 2) := dk_16 20 (dk_at dksX2_init_3 13 rfl rfl)
theorem dX2_init_83 : decode cX2_init 83 = .ok (.newarray .int, 2) := dk_188_10 (dk_at dksX2_init_3 15 rfl rfl)
theorem dX2_init_85 : decode cX2_init 85 = .ok (.putfield 40, 3) := dk_181 0 40 (dk_at dksX2_init_3 17 rfl rfl)
theorem dX2_init_88 : decode cX2_init 88 = .ok (.aload_n 0, 1) := dk_42 (dk_at dksX2_init_3 20 rfl rfl)
theorem dX2_init_89 : decode cX2_init 89 = .ok (.bipush 20, 2) := dk_16 20 (dk_at dksX2_init_3 21 rfl rfl)
theorem dX2_init_91 : decode cX2_init 91 = .ok (.newarray .int, 2) := dk_188_10 (dk_at dksX2_init_4 0 rfl rfl)
theorem dX2_init_93 : decode cX2_init 93 = .ok (.putfield 43, 3) := dk_181 0 43 (dk_at dksX2_init_4 2 rfl rfl)
theorem dX2_init_96 : decode cX2_init 96 = .ok (.aload_n 0, 1) := dk_42 (dk_at dksX2_init_4 5 rfl rfl)
theorem dX2_init_97 : decode cX2_init 97 = .ok (.bipush 10, 2) := dk_16 10 (dk_at dksX2_init_4 6 rfl rfl)
theorem dX2_init_99 : decode cX2_init 99 = .ok (.newarray .int, 2) := dk_188_10 (dk_at dksX2_init_4 8 rfl rfl)
theorem dX2_init_101 : decode cX2_init 101 = .ok (.putfield 46, 3) := dk_181 0 46 (dk_at dksX2_init_4 10 rfl rfl)
theorem dX2_init_104 : decode cX2_init 104 = .ok (.aload_n 0, 1) := dk_42 (dk_at dksX2_init_4 13 rfl rfl)
theorem dX2_init_105 : decode cX2_init 105 = .ok (.bipush 10, 2) := dk_16 10 (dk_at dksX2_init_4 14 rfl rfl)
theorem dX2_init_107 : decode cX2_init 107 = .ok (.newarray .int, 2) := dk_188_10 (dk_at dksX2_init_4 16 rfl rfl)
theorem dX2_init_109 : decode cX2_init 109 = .ok (.putfield 49, 3) := dk_181 0 49 (dk_at dksX2_init_4 18 rfl rfl)
theorem dX2_init_112 : decode cX2_init 112 = .ok (.aload_n 0, 1) := dk_42 (dk_at dksX2_init_4 21 rfl rfl)
theorem dX2_init_113 : decode cX2_init 113 = .ok (.bipush 10, 2) := dk_16 10 (dk_at dksX2_init_4 22 rfl rfl)
theorem dX2_init_115 : decode cX2_init 115 = .ok (.newarray .int, 2) := dk_188_10 (dk_at dksX2_init_5 0 rfl rfl)
theorem dX2_init_117 : decode cX2_init 117 = .ok (.putfield 52, 3) := dk_181 0 52 (dk_at dksX2_init_5 2 rfl rfl)
theorem dX2_init_120 : decode cX2_init 120 = .ok (.aload_n 0, 1) := dk_42 (dk_at dksX2_init_5 5 rfl rfl)
theorem dX2_init_121 : decode cX2_init 121 = .ok (.bipush 10, 2) := dk_16 10 (dk_at dksX2_init_5 6 rfl rfl)
theorem dX2_init_123 : decode cX2_init 123 = .ok (.newarray .int, 2) := dk_188_10 (dk_at dksX2_init_5 8 rfl rfl)
theorem dX2_init_125 : decode cX2_init 125 = .ok (.putfield 55, 3) := dk_181 0 55 (dk_at dksX2_init_5 10 rfl rfl)
theorem dX2_init_128 : decode cX2_init 128 = .ok (.aload_n 0, 1) := dk_42 (dk_at dksX2_init_5 13 rfl rfl)
theorem dX2_init_129 : decode cX2_init 129 = .ok (.bipush 10, 2) := dk_16 10 (dk_at dksX2_init_5 14 rfl rfl)
theorem dX2_init_131 : decode cX2_init 131 = .ok (.newarray .int, 2) := dk_188_10 (dk_at dksX2_init_5 16 rfl rfl)
theorem dX2_init_133 : decode cX2_init 133 = .ok (.putfield 58, 3) := dk_181 0 58 (dk_at dksX2_init_5 18 rfl rfl)
theorem dX2_init_136 : decode cX2_init 136 = .ok (.aload_n 0, 1) := dk_42 (dk_at dksX2_init_5 21 rfl rfl)
theorem dX2_init_137 : decode cX2_init 137 = .ok (.bipush 10, 2) := dk_16 10 (dk_at dksX2_init_5 22 rfl rfl)
theorem dX2_init_139 : decode cX2_init 139 = .ok (.newarray .int, 2) := dk_188_10 (dk_at dksX2_init_6 0 rfl rfl)
theorem dX2_init_141 : decode cX2_init 141 = .ok (.putfield 61, 3) := dk_181 0 61 (dk_at dksX2_init_6 2 rfl rfl)
theorem dX2_init_144 : decode cX2_init 144 = .ok (.return_, 1) := dk_177 (dk_at dksX2_init_6 5 rfl rfl)
abbrev cX2_go : ByteArray := prog_16_method_3_code
def yX2_go : MethodName := ⟨RX2, "go", "([IIII)V"⟩
def dkwX2_go_7 : List UInt8 := [167, 255, 231, 177]
abbrev dktX2_go_7 : List UInt8 := dkwX2_go_7 ++ []
def dkwX2_go_6 : List UInt8 := [180, 0, 3, 180, 0, 89, 162, 0, 19, 42, 43, 21, 5, 46, 28, 29, 182, 0, 92, 132, 5, 1]
abbrev dktX2_go_6 : List UInt8 := dkwX2_go_6 ++ dktX2_go_7
def dkwX2_go_5 : List UInt8 := [79, 42, 180, 0, 43, 21, 5, 16, 254, 79, 132, 5, 1, 167, 255, 228, 3, 54, 5, 21, 5, 42]
abbrev dktX2_go_5 : List UInt8 := dkwX2_go_5 ++ dktX2_go_6
def dkwX2_go_4 : List UInt8 := [132, 5, 1, 167, 255, 214, 3, 54, 5, 21, 5, 16, 20, 162, 0, 27, 42, 180, 0, 40, 21, 5, 16, 254]
abbrev dktX2_go_4 : List UInt8 := dkwX2_go_4 ++ dktX2_go_5
def dkwX2_go_3 : List UInt8 := [180, 0, 49, 21, 5, 3, 79, 42, 180, 0, 52, 21, 5, 3, 79, 42, 180, 0, 55, 21, 5, 2, 79]
abbrev dktX2_go_3 : List UInt8 := dkwX2_go_3 ++ dktX2_go_4
def dkwX2_go_2 : List UInt8 := [167, 255, 238, 3, 54, 5, 21, 5, 16, 10, 162, 0, 41, 42, 180, 0, 46, 21, 5, 3, 79, 42]
abbrev dktX2_go_2 : List UInt8 := dkwX2_go_2 ++ dktX2_go_3
def dkwX2_go_1 : List UInt8 := [181, 0, 86, 3, 54, 5, 21, 5, 16, 6, 162, 0, 17, 42, 180, 0, 15, 21, 5, 3, 79, 132, 5, 1]
abbrev dktX2_go_1 : List UInt8 := dkwX2_go_1 ++ dktX2_go_2
def dkwX2_go_0 : List UInt8 := [42, 21, 4, 181, 0, 64, 42, 3, 181, 0, 77, 42, 3, 181, 0, 80, 42, 3, 181, 0, 83, 42, 2]
abbrev dktX2_go_0 : List UInt8 := dkwX2_go_0 ++ dktX2_go_1
theorem dksX2_go_0 : cX2_go.data.toList.drop 0 = dktX2_go_0 := by decide +kernel
theorem dksX2_go_1 : cX2_go.data.toList.drop 23 = dktX2_go_1 := dk_seg dksX2_go_0 23 rfl rfl
theorem dksX2_go_2 : cX2_go.data.toList.drop 47 = dktX2_go_2 := dk_seg dksX2_go_1 24 rfl rfl
theorem dksX2_go_3 : cX2_go.data.toList.drop 69 = dktX2_go_3 := dk_seg dksX2_go_2 22 rfl rfl
theorem dksX2_go_4 : cX2_go.data.toList.drop 92 = dktX2_go_4 := dk_seg dksX2_go_3 23 rfl rfl
theorem dksX2_go_5 : cX2_go.data.toList.drop 116 = dktX2_go_5 := dk_seg dksX2_go_4 24 rfl rfl
theorem dksX2_go_6 : cX2_go.data.toList.drop 138 = dktX2_go_6 := dk_seg dksX2_go_5 22 rfl rfl
theorem dksX2_go_7 : cX2_go.data.toList.drop 160 = dktX2_go_7 := dk_seg dksX2_go_6 22 rfl rfl
theorem dX2_go_0 : decode cX2_go 0 = .ok (.aload_n 0, 1) := dk_42 (dk_at dksX2_go_0 0 rfl rfl)
theorem dX2_go_1 : decode cX2_go 1 = .ok (.iload 4, 2) := dk_21 4 (dk_at dksX2_go_0 1 rfl rfl)
theorem dX2_go_3 : decode cX2_go 3 = .ok (.putfield 64, 3) := dk_181 0 64 (dk_at dksX2_go_0 3 rfl rfl)
theorem dX2_go_6 : decode cX2_go 6 = .ok (.aload_n 0, 1) := dk_42 (dk_at dksX2_go_0 6 rfl rfl)
theorem dX2_go_7 : decode cX2_go 7 = .ok (.iconst 0, 1) := dk_3 (dk_at dksX2_go_0 7 rfl rfl)
theorem dX2_go_8 : decode cX2_go 8 = .ok (.putfield 77, 3) := dk_181 0 77 (dk_at dksX2_go_0 8 rfl rfl)
theorem dX2_go_11 : decode cX2_go 11 = .ok (.aload_n 0, 1) := dk_42 (dk_at dksX2_go_0 11 rfl rfl)
theorem dX2_go_12 : decode cX2_go 12 = .ok (.iconst 0, 1) := dk_3 (dk_at dksX2_go_0 12 rfl rfl)
theorem dX2_go_13 : decode cX2_go 13 = .ok (.putfield 80, 3) := dk_181 0 80 (dk_at dksX2_go_0 13 rfl rfl)
theorem dX2_go_16 : decode cX2_go 16 = .ok (.aload_n 0, 1) := dk_42 (dk_at dksX2_go_0 16 rfl rfl)
theorem dX2_go_17 : decode cX2_go 17 = .ok (.iconst 0, 1) := dk_3 (dk_at dksX2_go_0 17 rfl rfl)
theorem dX2_go_18 : decode cX2_go 18 = .ok (.putfield 83, 3) := dk_181 0 83 (dk_at dksX2_go_0 18 rfl rfl)
theorem dX2_go_21 : decode cX2_go 21 = .ok (.aload_n 0, 1) := dk_42 (dk_at dksX2_go_0 21 rfl rfl)
theorem dX2_go_22 : decode cX2_go 22 = .ok (.iconst (-1), 1) := dk_2 (dk_at dksX2_go_0 22 rfl rfl)
theorem dX2_go_23 : decode cX2_go 23 = .ok (.putfield 86, 3) := dk_181 0 86 (dk_at dksX2_go_1 0 rfl rfl)
theorem dX2_go_26 : decode cX2_go 26 = .ok (.iconst 0, 1) := dk_3 (dk_at dksX2_go_1 3 rfl rfl)
theorem dX2_go_27 : decode cX2_go 27 = .ok (.istore 5, 2) := dk_54 5 (dk_at dksX2_go_1 4 rfl rfl)
theorem dX2_go_29 : decode cX2_go 29 = .ok (.iload 5, 2) := dk_21 5 (dk_at dksX2_go_1 6 rfl rfl)
theorem dX2_go_31 : decode cX2_go 31 = .ok (.bipush 6, 2) := dk_16 6 (dk_at dksX2_go_1 8 rfl rfl)
theorem dX2_go_33 : decode cX2_go 33 = .ok (.if_icmp .ge 17, 3) := dk_162 0 17 (dk_at dksX2_go_1 10 rfl rfl)
theorem dX2_go_36 : decode cX2_go 36 = .ok (.aload_n 0, 1) := dk_42 (dk_at dksX2_go_1 13 rfl rfl)
theorem dX2_go_37 : decode cX2_go 37 = .ok (.getfield 15, 3) := dk_180 0 15 (dk_at dksX2_go_1 14 rfl rfl)
theorem dX2_go_40 : decode cX2_go 40 = .ok (.iload 5, 2) := dk_21 5 (dk_at dksX2_go_1 17 rfl rfl)
theorem dX2_go_42 : decode cX2_go 42 = .ok (.iconst 0, 1) := dk_3 (dk_at dksX2_go_1 19 rfl rfl)
theorem dX2_go_43 : decode cX2_go 43 = .ok (.iastore, 1) := dk_79 (dk_at dksX2_go_1 20 rfl rfl)
theorem dX2_go_44 : decode cX2_go 44 = .ok (.iinc 5 1, 3) := dk_132 5 1 (dk_at dksX2_go_1 21 rfl rfl)
theorem dX2_go_47 : decode cX2_go 47 = .ok (.goto (-18), 3) := dk_167 255 238 (dk_at dksX2_go_2 0 rfl rfl)
theorem dX2_go_50 : decode cX2_go 50 = .ok (.iconst 0, 1) := dk_3 (dk_at dksX2_go_2 3 rfl rfl)
theorem dX2_go_51 : decode cX2_go 51 = .ok (.istore 5, 2) := dk_54 5 (dk_at dksX2_go_2 4 rfl rfl)
theorem dX2_go_53 : decode cX2_go 53 = .ok (.iload 5, 2) := dk_21 5 (dk_at dksX2_go_2 6 rfl rfl)
theorem dX2_go_55 : decode cX2_go 55 = .ok (.bipush 10, 2) := dk_16 10 (dk_at dksX2_go_2 8 rfl rfl)
theorem dX2_go_57 : decode cX2_go 57 = .ok (.if_icmp .ge 41, 3) := dk_162 0 41 (dk_at dksX2_go_2 10 rfl rfl)
theorem dX2_go_60 : decode cX2_go 60 = .ok (.aload_n 0, 1) := dk_42 (dk_at dksX2_go_2 13 rfl rfl)
theorem dX2_go_61 : decode cX2_go 61 = .ok (.getfield 46, 3) := dk_180 0 46 (dk_at dksX2_go_2 14 rfl rfl)
theorem dX2_go_64 : decode cX2_go 64 = .ok (.iload 5, 2) := dk_21 5 (dk_at dksX2_go_2 17 rfl rfl)
theorem dX2_go_66 : decode cX2_go 66 = .ok (.iconst 0, 1) := dk_3 (dk_at dksX2_go_2 19 rfl rfl)
theorem dX2_go_67 : decode cX2_go 67 = .ok (.iastore, 1) := dk_79 (dk_at dksX2_go_2 20 rfl rfl)
theorem dX2_go_68 : decode cX2_go 68 = .ok (.aload_n 0, 1) := dk_42 (dk_at dksX2_go_2 21 rfl rfl)
theorem dX2_go_69 : decode cX2_go 69 = .ok (.getfield 49, 3) := dk_180 0 49 (dk_at dksX2_go_3 0 rfl rfl)
theorem dX2_go_72 : decode cX2_go 72 = .ok (.iload 5, 2) := dk_21 5 (dk_at dksX2_go_3 3 rfl rfl)
theorem dX2_go_74 : decode cX2_go 74 = .ok (.iconst 0, 1) := dk_3 (dk_at dksX2_go_3 5 rfl rfl)
theorem dX2_go_75 : decode cX2_go 75 = .ok (.iastore, 1) := dk_79 (dk_at dksX2_go_3 6 rfl rfl)
theorem dX2_go_76 : decode cX2_go 76 = .ok (.aload_n 0, 1) := dk_42 (dk_at dksX2_go_3 7 rfl rfl)
theorem dX2_go_77 : decode cX2_go 77 = .ok (.getfield 52, 3) := dk_180 0 52 (dk_at dksX2_go_3 8 rfl rfl)
theorem dX2_go_80 : decode cX2_go 80 = .ok (.iload 5, 2) := dk_21 5 (dk_at dksX2_go_3 11 rfl rfl)
theorem dX2_go_82 : decode cX2_go 82 = .ok (.iconst 0, 1) := dk_3 (dk_at dksX2_go_3 13 rfl rfl)
theorem dX2_go_83 : decode cX2_go 83 = .ok (.iastore, 1) := dk_79 (dk_at dksX2_go_3 14 rfl rfl)
theorem dX2_go_84 : decode cX2_go 84 = .ok (.aload_n 0, 1) := dk_42 (dk_at dksX2_go_3 15 rfl rfl)
theorem dX2_go_85 : decode cX2_go 85 = .ok (.getfield 55, 3) := dk_180 0 55 (dk_at dksX2_go_3 16 rfl rfl)
theorem dX2_go_88 : decode cX2_go 88 = .ok (.iload 5, 2) := dk_21 5 (dk_at dksX2_go_3 19 rfl rfl)
theorem dX2_go_90 : decode cX2_go 90 = .ok (.iconst (-1), 1) := dk_2 (dk_at dksX2_go_3 21 rfl rfl)
theorem dX2_go_91 : decode cX2_go 91 = .ok (.iastore, 1) := dk_79 (dk_at dksX2_go_3 22 rfl rfl)
theorem dX2_go_92 : decode cX2_go 92 = .ok (.iinc 5 1, 3) := dk_132 5 1 (dk_at dksX2_go_4 0 rfl rfl)
theorem dX2_go_95 : decode cX2_go 95 = .ok (.goto (-42), 3) := dk_167 255 214 (dk_at dksX2_go_4 3 rfl rfl)
theorem dX2_go_98 : decode cX2_go 98 = .ok (.iconst 0, 1) := dk_3 (dk_at dksX2_go_4 6 rfl rfl)
theorem dX2_go_99 : decode cX2_go 99 = .ok (.istore 5, 2) := dk_54 5 (dk_at dksX2_go_4 7 rfl rfl)
theorem dX2_go_101 : decode cX2_go 101 = .ok (.iload 5, 2) := dk_21 5 (dk_at dksX2_go_4 9 rfl rfl)
theorem dX2_go_103 : decode cX2_go 103 = .ok (.bipush 20, 2) := dk_16 20 (dk_at dksX2_go_4 11 rfl rfl)
theorem dX2_go_105 : decode cX2_go 105 = .ok (.if_icmp .ge 27, 3) := dk_162 0 27 (dk_at dksX2_go_4 13 rfl rfl)
theorem dX2_go_108 : decode cX2_go 108 = .ok (.aload_n 0, 1) := dk_42 (dk_at dksX2_go_4 16 rfl rfl)
theorem dX2_go_109 : decode cX2_go 109 = .ok (.getfield 40, 3) := dk_180 0 40 (dk_at dksX2_go_4 17 rfl rfl)
theorem dX2_go_112 : decode cX2_go 112 = .ok (.iload 5, 2) := dk_21 5 (dk_at dksX2_go_4 20 rfl rfl)
theorem dX2_go_114 : decode cX2_go 114 = .ok (.bipush (-2), 2) := dk_16 254 (dk_at dksX2_go_4 22 rfl rfl)
theorem dX2_go_116 : decode cX2_go 116 = .ok (.iastore, 1) := dk_79 (dk_at dksX2_go_5 0 rfl rfl)
theorem dX2_go_117 : decode cX2_go 117 = .ok (.aload_n 0, 1) := dk_42 (dk_at dksX2_go_5 1 rfl rfl)
theorem dX2_go_118 : decode cX2_go 118 = .ok (.getfield 43, 3) := dk_180 0 43 (dk_at dksX2_go_5 2 rfl rfl)
theorem dX2_go_121 : decode cX2_go 121 = .ok (.iload 5, 2) := dk_21 5 (dk_at dksX2_go_5 5 rfl rfl)
theorem dX2_go_123 : decode cX2_go 123 = .ok (.bipush (-2), 2) := dk_16 254 (dk_at dksX2_go_5 7 rfl rfl)
theorem dX2_go_125 : decode cX2_go 125 = .ok (.iastore, 1) := dk_79 (dk_at dksX2_go_5 9 rfl rfl)
theorem dX2_go_126 : decode cX2_go 126 = .ok (.iinc 5 1, 3) := dk_132 5 1 (dk_at dksX2_go_5 10 rfl rfl)
theorem dX2_go_129 : decode cX2_go 129 = .ok (.goto (-28), 3) := dk_167 255 228 (dk_at dksX2_go_5 13 rfl rfl)
theorem dX2_go_132 : decode cX2_go 132 = .ok (.iconst 0, 1) := dk_3 (dk_at dksX2_go_5 16 rfl rfl)
theorem dX2_go_133 : decode cX2_go 133 = .ok (.istore 5, 2) := dk_54 5 (dk_at dksX2_go_5 17 rfl rfl)
theorem dX2_go_135 : decode cX2_go 135 = .ok (.iload 5, 2) := dk_21 5 (dk_at dksX2_go_5 19 rfl rfl)
theorem dX2_go_137 : decode cX2_go 137 = .ok (.aload_n 0, 1) := dk_42 (dk_at dksX2_go_5 21 rfl rfl)
theorem dX2_go_138 : decode cX2_go 138 = .ok (.getfield 3, 3) := dk_180 0 3 (dk_at dksX2_go_6 0 rfl rfl)
theorem dX2_go_141 : decode cX2_go 141 = .ok (.getfield 89, 3) := dk_180 0 89 (dk_at dksX2_go_6 3 rfl rfl)
theorem dX2_go_144 : decode cX2_go 144 = .ok (.if_icmp .ge 19, 3) := dk_162 0 19 (dk_at dksX2_go_6 6 rfl rfl)
theorem dX2_go_147 : decode cX2_go 147 = .ok (.aload_n 0, 1) := dk_42 (dk_at dksX2_go_6 9 rfl rfl)
theorem dX2_go_148 : decode cX2_go 148 = .ok (.aload_n 1, 1) := dk_43 (dk_at dksX2_go_6 10 rfl rfl)
theorem dX2_go_149 : decode cX2_go 149 = .ok (.iload 5, 2) := dk_21 5 (dk_at dksX2_go_6 11 rfl rfl)
theorem dX2_go_151 : decode cX2_go 151 = .ok (.iaload, 1) := dk_46 (dk_at dksX2_go_6 13 rfl rfl)
theorem dX2_go_152 : decode cX2_go 152 = .ok (.iload_n 2, 1) := dk_28 (dk_at dksX2_go_6 14 rfl rfl)
theorem dX2_go_153 : decode cX2_go 153 = .ok (.iload_n 3, 1) := dk_29 (dk_at dksX2_go_6 15 rfl rfl)
theorem dX2_go_154 : decode cX2_go 154 = .ok (.invokevirtual 92, 3) := dk_182 0 92 (dk_at dksX2_go_6 16 rfl rfl)
theorem dX2_go_157 : decode cX2_go 157 = .ok (.iinc 5 1, 3) := dk_132 5 1 (dk_at dksX2_go_6 19 rfl rfl)
theorem dX2_go_160 : decode cX2_go 160 = .ok (.goto (-25), 3) := dk_167 255 231 (dk_at dksX2_go_7 0 rfl rfl)
theorem dX2_go_163 : decode cX2_go 163 = .ok (.return_, 1) := dk_177 (dk_at dksX2_go_7 3 rfl rfl)
abbrev cX2_talk : ByteArray := prog_16_method_8_code
def yX2_talk : MethodName := ⟨RX2, "talk", "(III)V"⟩
def dkwX2_talk_3 : List UInt8 := [156, 0, 4, 177, 42, 21, 4, 27, 29, 182, 0, 141, 167, 255, 209, 177]
abbrev dktX2_talk_3 : List UInt8 := dkwX2_talk_3 ++ []
def dkwX2_talk_2 : List UInt8 := [180, 0, 80, 17, 0, 200, 162, 0, 32, 42, 27, 182, 0, 134, 42, 28, 182, 0, 137, 54, 4, 21, 4]
abbrev dktX2_talk_2 : List UInt8 := dkwX2_talk_2 ++ dktX2_talk_3
def dkwX2_talk_1 : List UInt8 := [28, 8, 160, 0, 8, 42, 27, 182, 0, 130, 42, 180, 0, 15, 27, 46, 16, 60, 162, 0, 42, 42]
abbrev dktX2_talk_1 : List UInt8 := dkwX2_talk_1 ++ dktX2_talk_2
def dkwX2_talk_0 : List UInt8 := [3, 54, 4, 21, 4, 16, 10, 162, 0, 17, 42, 180, 0, 58, 21, 4, 3, 79, 132, 4, 1, 167, 255, 238]
abbrev dktX2_talk_0 : List UInt8 := dkwX2_talk_0 ++ dktX2_talk_1
theorem dksX2_talk_0 : cX2_talk.data.toList.drop 0 = dktX2_talk_0 := by decide +kernel
theorem dksX2_talk_1 : cX2_talk.data.toList.drop 24 = dktX2_talk_1 := dk_seg dksX2_talk_0 24 rfl rfl
theorem dksX2_talk_2 : cX2_talk.data.toList.drop 46 = dktX2_talk_2 := dk_seg dksX2_talk_1 22 rfl rfl
theorem dksX2_talk_3 : cX2_talk.data.toList.drop 69 = dktX2_talk_3 := dk_seg dksX2_talk_2 23 rfl rfl
theorem dX2_talk_0 : decode cX2_talk 0 = .ok (.iconst 0, 1) := dk_3 (dk_at dksX2_talk_0 0 rfl rfl)
theorem dX2_talk_1 : decode cX2_talk 1 = .ok (.istore 4, 2) := dk_54 4 (dk_at dksX2_talk_0 1 rfl rfl)
theorem dX2_talk_3 : decode cX2_talk 3 = .ok (.iload 4, 2) := dk_21 4 (dk_at dksX2_talk_0 3 rfl rfl)
theorem dX2_talk_5 : decode cX2_talk 5 = .ok (.bipush 10, 2) := dk_16 10 (dk_at dksX2_talk_0 5 rfl rfl)
theorem dX2_talk_7 : decode cX2_talk 7 = .ok (.if_icmp .ge 17, 3) := dk_162 0 17 (dk_at dksX2_talk_0 7 rfl rfl)
theorem dX2_talk_10 : decode cX2_talk 10 = .ok (.aload_n 0, 1) := dk_42 (dk_at dksX2_talk_0 10 rfl rfl)
theorem dX2_talk_11 : decode cX2_talk 11 = .ok (.getfield 58, 3) := dk_180 0 58 (dk_at dksX2_talk_0 11 rfl rfl)
theorem dX2_talk_14 : decode cX2_talk 14 = .ok (.iload 4, 2) := dk_21 4 (dk_at dksX2_talk_0 14 rfl rfl)
theorem dX2_talk_16 : decode cX2_talk 16 = .ok (.iconst 0, 1) := dk_3 (dk_at dksX2_talk_0 16 rfl rfl)
theorem dX2_talk_17 : decode cX2_talk 17 = .ok (.iastore, 1) := dk_79 (dk_at dksX2_talk_0 17 rfl rfl)
theorem dX2_talk_18 : decode cX2_talk 18 = .ok (.iinc 4 1, 3) := dk_132 4 1 (dk_at dksX2_talk_0 18 rfl rfl)
theorem dX2_talk_21 : decode cX2_talk 21 = .ok (.goto (-18), 3) := dk_167 255 238 (dk_at dksX2_talk_0 21 rfl rfl)
theorem dX2_talk_24 : decode cX2_talk 24 = .ok (.iload_n 2, 1) := dk_28 (dk_at dksX2_talk_1 0 rfl rfl)
theorem dX2_talk_25 : decode cX2_talk 25 = .ok (.iconst 5, 1) := dk_8 (dk_at dksX2_talk_1 1 rfl rfl)
theorem dX2_talk_26 : decode cX2_talk 26 = .ok (.if_icmp .ne 8, 3) := dk_160 0 8 (dk_at dksX2_talk_1 2 rfl rfl)
theorem dX2_talk_29 : decode cX2_talk 29 = .ok (.aload_n 0, 1) := dk_42 (dk_at dksX2_talk_1 5 rfl rfl)
theorem dX2_talk_30 : decode cX2_talk 30 = .ok (.iload_n 1, 1) := dk_27 (dk_at dksX2_talk_1 6 rfl rfl)
theorem dX2_talk_31 : decode cX2_talk 31 = .ok (.invokevirtual 130, 3) := dk_182 0 130 (dk_at dksX2_talk_1 7 rfl rfl)
theorem dX2_talk_34 : decode cX2_talk 34 = .ok (.aload_n 0, 1) := dk_42 (dk_at dksX2_talk_1 10 rfl rfl)
theorem dX2_talk_35 : decode cX2_talk 35 = .ok (.getfield 15, 3) := dk_180 0 15 (dk_at dksX2_talk_1 11 rfl rfl)
theorem dX2_talk_38 : decode cX2_talk 38 = .ok (.iload_n 1, 1) := dk_27 (dk_at dksX2_talk_1 14 rfl rfl)
theorem dX2_talk_39 : decode cX2_talk 39 = .ok (.iaload, 1) := dk_46 (dk_at dksX2_talk_1 15 rfl rfl)
theorem dX2_talk_40 : decode cX2_talk 40 = .ok (.bipush 60, 2) := dk_16 60 (dk_at dksX2_talk_1 16 rfl rfl)
theorem dX2_talk_42 : decode cX2_talk 42 = .ok (.if_icmp .ge 42, 3) := dk_162 0 42 (dk_at dksX2_talk_1 18 rfl rfl)
theorem dX2_talk_45 : decode cX2_talk 45 = .ok (.aload_n 0, 1) := dk_42 (dk_at dksX2_talk_1 21 rfl rfl)
theorem dX2_talk_46 : decode cX2_talk 46 = .ok (.getfield 80, 3) := dk_180 0 80 (dk_at dksX2_talk_2 0 rfl rfl)
theorem dX2_talk_49 : decode cX2_talk 49 = .ok (.sipush 200, 3) := dk_17 0 200 (dk_at dksX2_talk_2 3 rfl rfl)
theorem dX2_talk_52 : decode cX2_talk 52 = .ok (.if_icmp .ge 32, 3) := dk_162 0 32 (dk_at dksX2_talk_2 6 rfl rfl)
theorem dX2_talk_55 : decode cX2_talk 55 = .ok (.aload_n 0, 1) := dk_42 (dk_at dksX2_talk_2 9 rfl rfl)
theorem dX2_talk_56 : decode cX2_talk 56 = .ok (.iload_n 1, 1) := dk_27 (dk_at dksX2_talk_2 10 rfl rfl)
theorem dX2_talk_57 : decode cX2_talk 57 = .ok (.invokevirtual 134, 3) := dk_182 0 134 (dk_at dksX2_talk_2 11 rfl rfl)
theorem dX2_talk_60 : decode cX2_talk 60 = .ok (.aload_n 0, 1) := dk_42 (dk_at dksX2_talk_2 14 rfl rfl)
theorem dX2_talk_61 : decode cX2_talk 61 = .ok (.iload_n 2, 1) := dk_28 (dk_at dksX2_talk_2 15 rfl rfl)
theorem dX2_talk_62 : decode cX2_talk 62 = .ok (.invokevirtual 137, 3) := dk_182 0 137 (dk_at dksX2_talk_2 16 rfl rfl)
theorem dX2_talk_65 : decode cX2_talk 65 = .ok (.istore 4, 2) := dk_54 4 (dk_at dksX2_talk_2 19 rfl rfl)
theorem dX2_talk_67 : decode cX2_talk 67 = .ok (.iload 4, 2) := dk_21 4 (dk_at dksX2_talk_2 21 rfl rfl)
theorem dX2_talk_69 : decode cX2_talk 69 = .ok (.ifCond .ge 4, 3) := dk_156 0 4 (dk_at dksX2_talk_3 0 rfl rfl)
theorem dX2_talk_72 : decode cX2_talk 72 = .ok (.return_, 1) := dk_177 (dk_at dksX2_talk_3 3 rfl rfl)
theorem dX2_talk_73 : decode cX2_talk 73 = .ok (.aload_n 0, 1) := dk_42 (dk_at dksX2_talk_3 4 rfl rfl)
theorem dX2_talk_74 : decode cX2_talk 74 = .ok (.iload 4, 2) := dk_21 4 (dk_at dksX2_talk_3 5 rfl rfl)
theorem dX2_talk_76 : decode cX2_talk 76 = .ok (.iload_n 1, 1) := dk_27 (dk_at dksX2_talk_3 7 rfl rfl)
theorem dX2_talk_77 : decode cX2_talk 77 = .ok (.iload_n 3, 1) := dk_29 (dk_at dksX2_talk_3 8 rfl rfl)
theorem dX2_talk_78 : decode cX2_talk 78 = .ok (.invokevirtual 141, 3) := dk_182 0 141 (dk_at dksX2_talk_3 9 rfl rfl)
theorem dX2_talk_81 : decode cX2_talk 81 = .ok (.goto (-47), 3) := dk_167 255 209 (dk_at dksX2_talk_3 12 rfl rfl)
theorem dX2_talk_84 : decode cX2_talk 84 = .ok (.return_, 1) := dk_177 (dk_at dksX2_talk_3 15 rfl rfl)
abbrev cX2_layPaper : ByteArray := prog_16_method_5_code
def yX2_layPaper : MethodName := ⟨RX2, "layPaper", "(I)V"⟩
def dkwX2_layPaper_3 : List UInt8 := [180, 0, 43, 28, 2, 79, 132, 2, 1, 167, 255, 181, 177]
abbrev dktX2_layPaper_3 : List UInt8 := dkwX2_layPaper_3 ++ []
def dkwX2_layPaper_2 : List UInt8 := [167, 0, 29, 42, 89, 180, 0, 83, 4, 28, 120, 128, 181, 0, 83, 42, 180, 0, 40, 28, 2, 79, 42]
abbrev dktX2_layPaper_2 : List UInt8 := dkwX2_layPaper_2 ++ dktX2_layPaper_3
def dkwX2_layPaper_1 : List UInt8 := [180, 0, 115, 27, 160, 0, 48, 42, 42, 180, 0, 3, 180, 0, 111, 28, 50, 182, 0, 118, 154, 0, 6]
abbrev dktX2_layPaper_1 : List UInt8 := dkwX2_layPaper_1 ++ dktX2_layPaper_2
def dkwX2_layPaper_0 : List UInt8 := [3, 61, 28, 42, 180, 0, 3, 180, 0, 108, 162, 0, 70, 42, 180, 0, 3, 180, 0, 111, 28, 50]
abbrev dktX2_layPaper_0 : List UInt8 := dkwX2_layPaper_0 ++ dktX2_layPaper_1
theorem dksX2_layPaper_0 : cX2_layPaper.data.toList.drop 0 = dktX2_layPaper_0 := by decide +kernel
theorem dksX2_layPaper_1 : cX2_layPaper.data.toList.drop 22 = dktX2_layPaper_1 := dk_seg dksX2_layPaper_0 22 rfl rfl
theorem dksX2_layPaper_2 : cX2_layPaper.data.toList.drop 45 = dktX2_layPaper_2 := dk_seg dksX2_layPaper_1 23 rfl rfl
theorem dksX2_layPaper_3 : cX2_layPaper.data.toList.drop 68 = dktX2_layPaper_3 := dk_seg dksX2_layPaper_2 23 rfl rfl
theorem dX2_layPaper_0 : decode cX2_layPaper 0 = .ok (.iconst 0, 1) := dk_3 (dk_at dksX2_layPaper_0 0 rfl rfl)
theorem dX2_layPaper_1 : decode cX2_layPaper 1 = .ok (.istore_n 2, 1) := dk_61 (dk_at dksX2_layPaper_0 1 rfl rfl)
theorem dX2_layPaper_2 : decode cX2_layPaper 2 = .ok (.iload_n 2, 1) := dk_28 (dk_at dksX2_layPaper_0 2 rfl rfl)
theorem dX2_layPaper_3 : decode cX2_layPaper 3 = .ok (.aload_n 0, 1) := dk_42 (dk_at dksX2_layPaper_0 3 rfl rfl)
theorem dX2_layPaper_4 : decode cX2_layPaper 4 = .ok (.getfield 3, 3) := dk_180 0 3 (dk_at dksX2_layPaper_0 4 rfl rfl)
theorem dX2_layPaper_7 : decode cX2_layPaper 7 = .ok (.getfield 108, 3) := dk_180 0 108 (dk_at dksX2_layPaper_0 7 rfl rfl)
theorem dX2_layPaper_10 : decode cX2_layPaper 10 = .ok (.if_icmp .ge 70, 3) := dk_162 0 70 (dk_at dksX2_layPaper_0 10 rfl rfl)
theorem dX2_layPaper_13 : decode cX2_layPaper 13 = .ok (.aload_n 0, 1) := dk_42 (dk_at dksX2_layPaper_0 13 rfl rfl)
theorem dX2_layPaper_14 : decode cX2_layPaper 14 = .ok (.getfield 3, 3) := dk_180 0 3 (dk_at dksX2_layPaper_0 14 rfl rfl)
theorem dX2_layPaper_17 : decode cX2_layPaper 17 = .ok (.getfield 111, 3) := dk_180 0 111 (dk_at dksX2_layPaper_0 17 rfl rfl)
theorem dX2_layPaper_20 : decode cX2_layPaper 20 = .ok (.iload_n 2, 1) := dk_28 (dk_at dksX2_layPaper_0 20 rfl rfl)
theorem dX2_layPaper_21 : decode cX2_layPaper 21 = .ok (.aaload, 1) := dk_50 (dk_at dksX2_layPaper_0 21 rfl rfl)
theorem dX2_layPaper_22 : decode cX2_layPaper 22 = .ok (.getfield 115, 3) := dk_180 0 115 (dk_at dksX2_layPaper_1 0 rfl rfl)
theorem dX2_layPaper_25 : decode cX2_layPaper 25 = .ok (.iload_n 1, 1) := dk_27 (dk_at dksX2_layPaper_1 3 rfl rfl)
theorem dX2_layPaper_26 : decode cX2_layPaper 26 = .ok (.if_icmp .ne 48, 3) := dk_160 0 48 (dk_at dksX2_layPaper_1 4 rfl rfl)
theorem dX2_layPaper_29 : decode cX2_layPaper 29 = .ok (.aload_n 0, 1) := dk_42 (dk_at dksX2_layPaper_1 7 rfl rfl)
theorem dX2_layPaper_30 : decode cX2_layPaper 30 = .ok (.aload_n 0, 1) := dk_42 (dk_at dksX2_layPaper_1 8 rfl rfl)
theorem dX2_layPaper_31 : decode cX2_layPaper 31 = .ok (.getfield 3, 3) := dk_180 0 3 (dk_at dksX2_layPaper_1 9 rfl rfl)
theorem dX2_layPaper_34 : decode cX2_layPaper 34 = .ok (.getfield 111, 3) := dk_180 0 111 (dk_at dksX2_layPaper_1 12 rfl rfl)
theorem dX2_layPaper_37 : decode cX2_layPaper 37 = .ok (.iload_n 2, 1) := dk_28 (dk_at dksX2_layPaper_1 15 rfl rfl)
theorem dX2_layPaper_38 : decode cX2_layPaper 38 = .ok (.aaload, 1) := dk_50 (dk_at dksX2_layPaper_1 16 rfl rfl)
theorem dX2_layPaper_39 : decode cX2_layPaper 39 = .ok (.invokevirtual 118, 3) := dk_182 0 118 (dk_at dksX2_layPaper_1 17 rfl rfl)
theorem dX2_layPaper_42 : decode cX2_layPaper 42 = .ok (.ifCond .ne 6, 3) := dk_154 0 6 (dk_at dksX2_layPaper_1 20 rfl rfl)
theorem dX2_layPaper_45 : decode cX2_layPaper 45 = .ok (.goto 29, 3) := dk_167 0 29 (dk_at dksX2_layPaper_2 0 rfl rfl)
theorem dX2_layPaper_48 : decode cX2_layPaper 48 = .ok (.aload_n 0, 1) := dk_42 (dk_at dksX2_layPaper_2 3 rfl rfl)
theorem dX2_layPaper_49 : decode cX2_layPaper 49 = .ok (.dup, 1) := dk_89 (dk_at dksX2_layPaper_2 4 rfl rfl)
theorem dX2_layPaper_50 : decode cX2_layPaper 50 = .ok (.getfield 83, 3) := dk_180 0 83 (dk_at dksX2_layPaper_2 5 rfl rfl)
theorem dX2_layPaper_53 : decode cX2_layPaper 53 = .ok (.iconst 1, 1) := dk_4 (dk_at dksX2_layPaper_2 8 rfl rfl)
theorem dX2_layPaper_54 : decode cX2_layPaper 54 = .ok (.iload_n 2, 1) := dk_28 (dk_at dksX2_layPaper_2 9 rfl rfl)
theorem dX2_layPaper_55 : decode cX2_layPaper 55 = .ok (.ishl, 1) := dk_120 (dk_at dksX2_layPaper_2 10 rfl rfl)
theorem dX2_layPaper_56 : decode cX2_layPaper 56 = .ok (.ior, 1) := dk_128 (dk_at dksX2_layPaper_2 11 rfl rfl)
theorem dX2_layPaper_57 : decode cX2_layPaper 57 = .ok (.putfield 83, 3) := dk_181 0 83 (dk_at dksX2_layPaper_2 12 rfl rfl)
theorem dX2_layPaper_60 : decode cX2_layPaper 60 = .ok (.aload_n 0, 1) := dk_42 (dk_at dksX2_layPaper_2 15 rfl rfl)
theorem dX2_layPaper_61 : decode cX2_layPaper 61 = .ok (.getfield 40, 3) := dk_180 0 40 (dk_at dksX2_layPaper_2 16 rfl rfl)
theorem dX2_layPaper_64 : decode cX2_layPaper 64 = .ok (.iload_n 2, 1) := dk_28 (dk_at dksX2_layPaper_2 19 rfl rfl)
theorem dX2_layPaper_65 : decode cX2_layPaper 65 = .ok (.iconst (-1), 1) := dk_2 (dk_at dksX2_layPaper_2 20 rfl rfl)
theorem dX2_layPaper_66 : decode cX2_layPaper 66 = .ok (.iastore, 1) := dk_79 (dk_at dksX2_layPaper_2 21 rfl rfl)
theorem dX2_layPaper_67 : decode cX2_layPaper 67 = .ok (.aload_n 0, 1) := dk_42 (dk_at dksX2_layPaper_2 22 rfl rfl)
theorem dX2_layPaper_68 : decode cX2_layPaper 68 = .ok (.getfield 43, 3) := dk_180 0 43 (dk_at dksX2_layPaper_3 0 rfl rfl)
theorem dX2_layPaper_71 : decode cX2_layPaper 71 = .ok (.iload_n 2, 1) := dk_28 (dk_at dksX2_layPaper_3 3 rfl rfl)
theorem dX2_layPaper_72 : decode cX2_layPaper 72 = .ok (.iconst (-1), 1) := dk_2 (dk_at dksX2_layPaper_3 4 rfl rfl)
theorem dX2_layPaper_73 : decode cX2_layPaper 73 = .ok (.iastore, 1) := dk_79 (dk_at dksX2_layPaper_3 5 rfl rfl)
theorem dX2_layPaper_74 : decode cX2_layPaper 74 = .ok (.iinc 2 1, 3) := dk_132 2 1 (dk_at dksX2_layPaper_3 6 rfl rfl)
theorem dX2_layPaper_77 : decode cX2_layPaper 77 = .ok (.goto (-75), 3) := dk_167 255 181 (dk_at dksX2_layPaper_3 9 rfl rfl)
theorem dX2_layPaper_80 : decode cX2_layPaper 80 = .ok (.return_, 1) := dk_177 (dk_at dksX2_layPaper_3 12 rfl rfl)
abbrev cX2_isKnownHere : ByteArray := prog_16_method_4_code
def yX2_isKnownHere : MethodName := ⟨RX2, "isKnownHere", "(LSpeaksInTurn$Card;)Z"⟩
def dkwX2_isKnownHere_1 : List UInt8 := [182, 0, 103, 153, 0, 5, 4, 172, 132, 2, 1, 167, 255, 224, 3, 172]
abbrev dktX2_isKnownHere_1 : List UInt8 := dkwX2_isKnownHere_1 ++ []
def dkwX2_isKnownHere_0 : List UInt8 := [3, 61, 28, 42, 180, 0, 3, 180, 0, 96, 162, 0, 27, 42, 28, 182, 0, 99, 153, 0, 13, 43, 28]
abbrev dktX2_isKnownHere_0 : List UInt8 := dkwX2_isKnownHere_0 ++ dktX2_isKnownHere_1
theorem dksX2_isKnownHere_0 : cX2_isKnownHere.data.toList.drop 0 = dktX2_isKnownHere_0 := by decide +kernel
theorem dksX2_isKnownHere_1 : cX2_isKnownHere.data.toList.drop 23 = dktX2_isKnownHere_1 := dk_seg dksX2_isKnownHere_0 23 rfl rfl
theorem dX2_isKnownHere_0 : decode cX2_isKnownHere 0 = .ok (.iconst 0, 1) := dk_3 (dk_at dksX2_isKnownHere_0 0 rfl rfl)
theorem dX2_isKnownHere_1 : decode cX2_isKnownHere 1 = .ok (.istore_n 2, 1) := dk_61 (dk_at dksX2_isKnownHere_0 1 rfl rfl)
theorem dX2_isKnownHere_2 : decode cX2_isKnownHere 2 = .ok (.iload_n 2, 1) := dk_28 (dk_at dksX2_isKnownHere_0 2 rfl rfl)
theorem dX2_isKnownHere_3 : decode cX2_isKnownHere 3 = .ok (.aload_n 0, 1) := dk_42 (dk_at dksX2_isKnownHere_0 3 rfl rfl)
theorem dX2_isKnownHere_4 : decode cX2_isKnownHere 4 = .ok (.getfield 3, 3) := dk_180 0 3 (dk_at dksX2_isKnownHere_0 4 rfl rfl)
theorem dX2_isKnownHere_7 : decode cX2_isKnownHere 7 = .ok (.getfield 96, 3) := dk_180 0 96 (dk_at dksX2_isKnownHere_0 7 rfl rfl)
theorem dX2_isKnownHere_10 : decode cX2_isKnownHere 10 = .ok (.if_icmp .ge 27, 3) := dk_162 0 27 (dk_at dksX2_isKnownHere_0 10 rfl rfl)
theorem dX2_isKnownHere_13 : decode cX2_isKnownHere 13 = .ok (.aload_n 0, 1) := dk_42 (dk_at dksX2_isKnownHere_0 13 rfl rfl)
theorem dX2_isKnownHere_14 : decode cX2_isKnownHere 14 = .ok (.iload_n 2, 1) := dk_28 (dk_at dksX2_isKnownHere_0 14 rfl rfl)
theorem dX2_isKnownHere_15 : decode cX2_isKnownHere 15 = .ok (.invokevirtual 99, 3) := dk_182 0 99 (dk_at dksX2_isKnownHere_0 15 rfl rfl)
theorem dX2_isKnownHere_18 : decode cX2_isKnownHere 18 = .ok (.ifCond .eq 13, 3) := dk_153 0 13 (dk_at dksX2_isKnownHere_0 18 rfl rfl)
theorem dX2_isKnownHere_21 : decode cX2_isKnownHere 21 = .ok (.aload_n 1, 1) := dk_43 (dk_at dksX2_isKnownHere_0 21 rfl rfl)
theorem dX2_isKnownHere_22 : decode cX2_isKnownHere 22 = .ok (.iload_n 2, 1) := dk_28 (dk_at dksX2_isKnownHere_0 22 rfl rfl)
theorem dX2_isKnownHere_23 : decode cX2_isKnownHere 23 = .ok (.invokevirtual 103, 3) := dk_182 0 103 (dk_at dksX2_isKnownHere_1 0 rfl rfl)
theorem dX2_isKnownHere_26 : decode cX2_isKnownHere 26 = .ok (.ifCond .eq 5, 3) := dk_153 0 5 (dk_at dksX2_isKnownHere_1 3 rfl rfl)
theorem dX2_isKnownHere_29 : decode cX2_isKnownHere 29 = .ok (.iconst 1, 1) := dk_4 (dk_at dksX2_isKnownHere_1 6 rfl rfl)
theorem dX2_isKnownHere_30 : decode cX2_isKnownHere 30 = .ok (.ireturn, 1) := dk_172 (dk_at dksX2_isKnownHere_1 7 rfl rfl)
theorem dX2_isKnownHere_31 : decode cX2_isKnownHere 31 = .ok (.iinc 2 1, 3) := dk_132 2 1 (dk_at dksX2_isKnownHere_1 8 rfl rfl)
theorem dX2_isKnownHere_34 : decode cX2_isKnownHere 34 = .ok (.goto (-32), 3) := dk_167 255 224 (dk_at dksX2_isKnownHere_1 11 rfl rfl)
theorem dX2_isKnownHere_37 : decode cX2_isKnownHere 37 = .ok (.iconst 0, 1) := dk_3 (dk_at dksX2_isKnownHere_1 14 rfl rfl)
theorem dX2_isKnownHere_38 : decode cX2_isKnownHere 38 = .ok (.ireturn, 1) := dk_172 (dk_at dksX2_isKnownHere_1 15 rfl rfl)
abbrev cX2_isThere : ByteArray := prog_16_method_2_code
def yX2_isThere : MethodName := ⟨RX2, "isThere", "(I)Z"⟩
def dkwX2_isThere_1 : List UInt8 := [163, 0, 7, 4, 167, 0, 4, 3, 172]
abbrev dktX2_isThere_1 : List UInt8 := dkwX2_isThere_1 ++ []
def dkwX2_isThere_0 : List UInt8 := [27, 42, 180, 0, 64, 159, 0, 26, 42, 180, 0, 3, 180, 0, 68, 27, 50, 180, 0, 72, 42, 180, 0, 77]
abbrev dktX2_isThere_0 : List UInt8 := dkwX2_isThere_0 ++ dktX2_isThere_1
theorem dksX2_isThere_0 : cX2_isThere.data.toList.drop 0 = dktX2_isThere_0 := by decide +kernel
theorem dksX2_isThere_1 : cX2_isThere.data.toList.drop 24 = dktX2_isThere_1 := dk_seg dksX2_isThere_0 24 rfl rfl
theorem dX2_isThere_0 : decode cX2_isThere 0 = .ok (.iload_n 1, 1) := dk_27 (dk_at dksX2_isThere_0 0 rfl rfl)
theorem dX2_isThere_1 : decode cX2_isThere 1 = .ok (.aload_n 0, 1) := dk_42 (dk_at dksX2_isThere_0 1 rfl rfl)
theorem dX2_isThere_2 : decode cX2_isThere 2 = .ok (.getfield 64, 3) := dk_180 0 64 (dk_at dksX2_isThere_0 2 rfl rfl)
theorem dX2_isThere_5 : decode cX2_isThere 5 = .ok (.if_icmp .eq 26, 3) := dk_159 0 26 (dk_at dksX2_isThere_0 5 rfl rfl)
theorem dX2_isThere_8 : decode cX2_isThere 8 = .ok (.aload_n 0, 1) := dk_42 (dk_at dksX2_isThere_0 8 rfl rfl)
theorem dX2_isThere_9 : decode cX2_isThere 9 = .ok (.getfield 3, 3) := dk_180 0 3 (dk_at dksX2_isThere_0 9 rfl rfl)
theorem dX2_isThere_12 : decode cX2_isThere 12 = .ok (.getfield 68, 3) := dk_180 0 68 (dk_at dksX2_isThere_0 12 rfl rfl)
theorem dX2_isThere_15 : decode cX2_isThere 15 = .ok (.iload_n 1, 1) := dk_27 (dk_at dksX2_isThere_0 15 rfl rfl)
theorem dX2_isThere_16 : decode cX2_isThere 16 = .ok (.aaload, 1) := dk_50 (dk_at dksX2_isThere_0 16 rfl rfl)
theorem dX2_isThere_17 : decode cX2_isThere 17 = .ok (.getfield 72, 3) := dk_180 0 72 (dk_at dksX2_isThere_0 17 rfl rfl)
theorem dX2_isThere_20 : decode cX2_isThere 20 = .ok (.aload_n 0, 1) := dk_42 (dk_at dksX2_isThere_0 20 rfl rfl)
theorem dX2_isThere_21 : decode cX2_isThere 21 = .ok (.getfield 77, 3) := dk_180 0 77 (dk_at dksX2_isThere_0 21 rfl rfl)
theorem dX2_isThere_24 : decode cX2_isThere 24 = .ok (.if_icmp .gt 7, 3) := dk_163 0 7 (dk_at dksX2_isThere_1 0 rfl rfl)
theorem dX2_isThere_27 : decode cX2_isThere 27 = .ok (.iconst 1, 1) := dk_4 (dk_at dksX2_isThere_1 3 rfl rfl)
theorem dX2_isThere_28 : decode cX2_isThere 28 = .ok (.goto 4, 3) := dk_167 0 4 (dk_at dksX2_isThere_1 4 rfl rfl)
theorem dX2_isThere_31 : decode cX2_isThere 31 = .ok (.iconst 0, 1) := dk_3 (dk_at dksX2_isThere_1 7 rfl rfl)
theorem dX2_isThere_32 : decode cX2_isThere 32 = .ok (.ireturn, 1) := dk_172 (dk_at dksX2_isThere_1 8 rfl rfl)
abbrev cX2_findWishes : ByteArray := prog_16_method_7_code
def yX2_findWishes : MethodName := ⟨RX2, "findWishes", "(I)V"⟩
def dkwX2_findWishes_3 : List UInt8 := [3, 79, 132, 2, 1, 167, 255, 184, 177]
abbrev dktX2_findWishes_3 : List UInt8 := dkwX2_findWishes_3 ++ []
def dkwX2_findWishes_2 : List UInt8 := [180, 0, 15, 27, 46, 28, 42, 180, 0, 86, 160, 0, 7, 4, 167, 0, 4, 3, 182, 0, 126, 167, 0, 4]
abbrev dktX2_findWishes_2 : List UInt8 := dkwX2_findWishes_2 ++ dktX2_findWishes_3
def dkwX2_findWishes_1 : List UInt8 := [153, 0, 46, 42, 180, 0, 3, 28, 27, 42, 28, 27, 182, 0, 122, 42, 180, 0, 58, 28, 46, 42]
abbrev dktX2_findWishes_1 : List UInt8 := dkwX2_findWishes_1 ++ dktX2_findWishes_2
def dkwX2_findWishes_0 : List UInt8 := [3, 61, 28, 42, 180, 0, 3, 180, 0, 96, 162, 0, 67, 42, 180, 0, 61, 28, 42, 28, 182, 0, 99]
abbrev dktX2_findWishes_0 : List UInt8 := dkwX2_findWishes_0 ++ dktX2_findWishes_1
theorem dksX2_findWishes_0 : cX2_findWishes.data.toList.drop 0 = dktX2_findWishes_0 := by decide +kernel
theorem dksX2_findWishes_1 : cX2_findWishes.data.toList.drop 23 = dktX2_findWishes_1 := dk_seg dksX2_findWishes_0 23 rfl rfl
theorem dksX2_findWishes_2 : cX2_findWishes.data.toList.drop 45 = dktX2_findWishes_2 := dk_seg dksX2_findWishes_1 22 rfl rfl
theorem dksX2_findWishes_3 : cX2_findWishes.data.toList.drop 69 = dktX2_findWishes_3 := dk_seg dksX2_findWishes_2 24 rfl rfl
theorem dX2_findWishes_0 : decode cX2_findWishes 0 = .ok (.iconst 0, 1) := dk_3 (dk_at dksX2_findWishes_0 0 rfl rfl)
theorem dX2_findWishes_1 : decode cX2_findWishes 1 = .ok (.istore_n 2, 1) := dk_61 (dk_at dksX2_findWishes_0 1 rfl rfl)
theorem dX2_findWishes_2 : decode cX2_findWishes 2 = .ok (.iload_n 2, 1) := dk_28 (dk_at dksX2_findWishes_0 2 rfl rfl)
theorem dX2_findWishes_3 : decode cX2_findWishes 3 = .ok (.aload_n 0, 1) := dk_42 (dk_at dksX2_findWishes_0 3 rfl rfl)
theorem dX2_findWishes_4 : decode cX2_findWishes 4 = .ok (.getfield 3, 3) := dk_180 0 3 (dk_at dksX2_findWishes_0 4 rfl rfl)
theorem dX2_findWishes_7 : decode cX2_findWishes 7 = .ok (.getfield 96, 3) := dk_180 0 96 (dk_at dksX2_findWishes_0 7 rfl rfl)
theorem dX2_findWishes_10 : decode cX2_findWishes 10 = .ok (.if_icmp .ge 67, 3) := dk_162 0 67 (dk_at dksX2_findWishes_0 10 rfl rfl)
theorem dX2_findWishes_13 : decode cX2_findWishes 13 = .ok (.aload_n 0, 1) := dk_42 (dk_at dksX2_findWishes_0 13 rfl rfl)
theorem dX2_findWishes_14 : decode cX2_findWishes 14 = .ok (.getfield 61, 3) := dk_180 0 61 (dk_at dksX2_findWishes_0 14 rfl rfl)
theorem dX2_findWishes_17 : decode cX2_findWishes 17 = .ok (.iload_n 2, 1) := dk_28 (dk_at dksX2_findWishes_0 17 rfl rfl)
theorem dX2_findWishes_18 : decode cX2_findWishes 18 = .ok (.aload_n 0, 1) := dk_42 (dk_at dksX2_findWishes_0 18 rfl rfl)
theorem dX2_findWishes_19 : decode cX2_findWishes 19 = .ok (.iload_n 2, 1) := dk_28 (dk_at dksX2_findWishes_0 19 rfl rfl)
theorem dX2_findWishes_20 : decode cX2_findWishes 20 = .ok (.invokevirtual 99, 3) := dk_182 0 99 (dk_at dksX2_findWishes_0 20 rfl rfl)
theorem dX2_findWishes_23 : decode cX2_findWishes 23 = .ok (.ifCond .eq 46, 3) := dk_153 0 46 (dk_at dksX2_findWishes_1 0 rfl rfl)
theorem dX2_findWishes_26 : decode cX2_findWishes 26 = .ok (.aload_n 0, 1) := dk_42 (dk_at dksX2_findWishes_1 3 rfl rfl)
theorem dX2_findWishes_27 : decode cX2_findWishes 27 = .ok (.getfield 3, 3) := dk_180 0 3 (dk_at dksX2_findWishes_1 4 rfl rfl)
theorem dX2_findWishes_30 : decode cX2_findWishes 30 = .ok (.iload_n 2, 1) := dk_28 (dk_at dksX2_findWishes_1 7 rfl rfl)
theorem dX2_findWishes_31 : decode cX2_findWishes 31 = .ok (.iload_n 1, 1) := dk_27 (dk_at dksX2_findWishes_1 8 rfl rfl)
theorem dX2_findWishes_32 : decode cX2_findWishes 32 = .ok (.aload_n 0, 1) := dk_42 (dk_at dksX2_findWishes_1 9 rfl rfl)
theorem dX2_findWishes_33 : decode cX2_findWishes 33 = .ok (.iload_n 2, 1) := dk_28 (dk_at dksX2_findWishes_1 10 rfl rfl)
theorem dX2_findWishes_34 : decode cX2_findWishes 34 = .ok (.iload_n 1, 1) := dk_27 (dk_at dksX2_findWishes_1 11 rfl rfl)
theorem dX2_findWishes_35 : decode cX2_findWishes 35 = .ok (.invokevirtual 122, 3) := dk_182 0 122 (dk_at dksX2_findWishes_1 12 rfl rfl)
theorem dX2_findWishes_38 : decode cX2_findWishes 38 = .ok (.aload_n 0, 1) := dk_42 (dk_at dksX2_findWishes_1 15 rfl rfl)
theorem dX2_findWishes_39 : decode cX2_findWishes 39 = .ok (.getfield 58, 3) := dk_180 0 58 (dk_at dksX2_findWishes_1 16 rfl rfl)
theorem dX2_findWishes_42 : decode cX2_findWishes 42 = .ok (.iload_n 2, 1) := dk_28 (dk_at dksX2_findWishes_1 19 rfl rfl)
theorem dX2_findWishes_43 : decode cX2_findWishes 43 = .ok (.iaload, 1) := dk_46 (dk_at dksX2_findWishes_1 20 rfl rfl)
theorem dX2_findWishes_44 : decode cX2_findWishes 44 = .ok (.aload_n 0, 1) := dk_42 (dk_at dksX2_findWishes_1 21 rfl rfl)
theorem dX2_findWishes_45 : decode cX2_findWishes 45 = .ok (.getfield 15, 3) := dk_180 0 15 (dk_at dksX2_findWishes_2 0 rfl rfl)
theorem dX2_findWishes_48 : decode cX2_findWishes 48 = .ok (.iload_n 1, 1) := dk_27 (dk_at dksX2_findWishes_2 3 rfl rfl)
theorem dX2_findWishes_49 : decode cX2_findWishes 49 = .ok (.iaload, 1) := dk_46 (dk_at dksX2_findWishes_2 4 rfl rfl)
theorem dX2_findWishes_50 : decode cX2_findWishes 50 = .ok (.iload_n 2, 1) := dk_28 (dk_at dksX2_findWishes_2 5 rfl rfl)
theorem dX2_findWishes_51 : decode cX2_findWishes 51 = .ok (.aload_n 0, 1) := dk_42 (dk_at dksX2_findWishes_2 6 rfl rfl)
theorem dX2_findWishes_52 : decode cX2_findWishes 52 = .ok (.getfield 86, 3) := dk_180 0 86 (dk_at dksX2_findWishes_2 7 rfl rfl)
theorem dX2_findWishes_55 : decode cX2_findWishes 55 = .ok (.if_icmp .ne 7, 3) := dk_160 0 7 (dk_at dksX2_findWishes_2 10 rfl rfl)
theorem dX2_findWishes_58 : decode cX2_findWishes 58 = .ok (.iconst 1, 1) := dk_4 (dk_at dksX2_findWishes_2 13 rfl rfl)
theorem dX2_findWishes_59 : decode cX2_findWishes 59 = .ok (.goto 4, 3) := dk_167 0 4 (dk_at dksX2_findWishes_2 14 rfl rfl)
theorem dX2_findWishes_62 : decode cX2_findWishes 62 = .ok (.iconst 0, 1) := dk_3 (dk_at dksX2_findWishes_2 17 rfl rfl)
theorem dX2_findWishes_63 : decode cX2_findWishes 63 = .ok (.invokevirtual 126, 3) := dk_182 0 126 (dk_at dksX2_findWishes_2 18 rfl rfl)
theorem dX2_findWishes_66 : decode cX2_findWishes 66 = .ok (.goto 4, 3) := dk_167 0 4 (dk_at dksX2_findWishes_2 21 rfl rfl)
theorem dX2_findWishes_69 : decode cX2_findWishes 69 = .ok (.iconst 0, 1) := dk_3 (dk_at dksX2_findWishes_3 0 rfl rfl)
theorem dX2_findWishes_70 : decode cX2_findWishes 70 = .ok (.iastore, 1) := dk_79 (dk_at dksX2_findWishes_3 1 rfl rfl)
theorem dX2_findWishes_71 : decode cX2_findWishes 71 = .ok (.iinc 2 1, 3) := dk_132 2 1 (dk_at dksX2_findWishes_3 2 rfl rfl)
theorem dX2_findWishes_74 : decode cX2_findWishes 74 = .ok (.goto (-72), 3) := dk_167 255 184 (dk_at dksX2_findWishes_3 5 rfl rfl)
theorem dX2_findWishes_77 : decode cX2_findWishes 77 = .ok (.return_, 1) := dk_177 (dk_at dksX2_findWishes_3 8 rfl rfl)
abbrev cX2_unsaid : ByteArray := prog_16_method_6_code
def yX2_unsaid : MethodName := ⟨RX2, "unsaid", "(II)I"⟩
def dkwX2_unsaid_3 : List UInt8 := [62, 132, 4, 1, 167, 255, 187, 29, 172]
abbrev dktX2_unsaid_3 : List UInt8 := dkwX2_unsaid_3 ++ []
def dkwX2_unsaid_2 : List UInt8 := [182, 0, 103, 153, 0, 19, 42, 180, 0, 83, 21, 4, 122, 4, 126, 154, 0, 7, 4, 167, 0, 4, 3, 96]
abbrev dktX2_unsaid_2 : List UInt8 := dkwX2_unsaid_2 ++ dktX2_unsaid_3
def dkwX2_unsaid_1 : List UInt8 := [180, 0, 111, 21, 4, 50, 180, 0, 115, 28, 160, 0, 36, 42, 180, 0, 3, 180, 0, 111, 21, 4, 50, 27]
abbrev dktX2_unsaid_1 : List UInt8 := dkwX2_unsaid_1 ++ dktX2_unsaid_2
def dkwX2_unsaid_0 : List UInt8 := [3, 62, 3, 54, 4, 21, 4, 42, 180, 0, 3, 180, 0, 108, 162, 0, 63, 29, 42, 180, 0, 3]
abbrev dktX2_unsaid_0 : List UInt8 := dkwX2_unsaid_0 ++ dktX2_unsaid_1
theorem dksX2_unsaid_0 : cX2_unsaid.data.toList.drop 0 = dktX2_unsaid_0 := by decide +kernel
theorem dksX2_unsaid_1 : cX2_unsaid.data.toList.drop 22 = dktX2_unsaid_1 := dk_seg dksX2_unsaid_0 22 rfl rfl
theorem dksX2_unsaid_2 : cX2_unsaid.data.toList.drop 46 = dktX2_unsaid_2 := dk_seg dksX2_unsaid_1 24 rfl rfl
theorem dksX2_unsaid_3 : cX2_unsaid.data.toList.drop 70 = dktX2_unsaid_3 := dk_seg dksX2_unsaid_2 24 rfl rfl
theorem dX2_unsaid_0 : decode cX2_unsaid 0 = .ok (.iconst 0, 1) := dk_3 (dk_at dksX2_unsaid_0 0 rfl rfl)
theorem dX2_unsaid_1 : decode cX2_unsaid 1 = .ok (.istore_n 3, 1) := dk_62 (dk_at dksX2_unsaid_0 1 rfl rfl)
theorem dX2_unsaid_2 : decode cX2_unsaid 2 = .ok (.iconst 0, 1) := dk_3 (dk_at dksX2_unsaid_0 2 rfl rfl)
theorem dX2_unsaid_3 : decode cX2_unsaid 3 = .ok (.istore 4, 2) := dk_54 4 (dk_at dksX2_unsaid_0 3 rfl rfl)
theorem dX2_unsaid_5 : decode cX2_unsaid 5 = .ok (.iload 4, 2) := dk_21 4 (dk_at dksX2_unsaid_0 5 rfl rfl)
theorem dX2_unsaid_7 : decode cX2_unsaid 7 = .ok (.aload_n 0, 1) := dk_42 (dk_at dksX2_unsaid_0 7 rfl rfl)
theorem dX2_unsaid_8 : decode cX2_unsaid 8 = .ok (.getfield 3, 3) := dk_180 0 3 (dk_at dksX2_unsaid_0 8 rfl rfl)
theorem dX2_unsaid_11 : decode cX2_unsaid 11 = .ok (.getfield 108, 3) := dk_180 0 108 (dk_at dksX2_unsaid_0 11 rfl rfl)
theorem dX2_unsaid_14 : decode cX2_unsaid 14 = .ok (.if_icmp .ge 63, 3) := dk_162 0 63 (dk_at dksX2_unsaid_0 14 rfl rfl)
theorem dX2_unsaid_17 : decode cX2_unsaid 17 = .ok (.iload_n 3, 1) := dk_29 (dk_at dksX2_unsaid_0 17 rfl rfl)
theorem dX2_unsaid_18 : decode cX2_unsaid 18 = .ok (.aload_n 0, 1) := dk_42 (dk_at dksX2_unsaid_0 18 rfl rfl)
theorem dX2_unsaid_19 : decode cX2_unsaid 19 = .ok (.getfield 3, 3) := dk_180 0 3 (dk_at dksX2_unsaid_0 19 rfl rfl)
theorem dX2_unsaid_22 : decode cX2_unsaid 22 = .ok (.getfield 111, 3) := dk_180 0 111 (dk_at dksX2_unsaid_1 0 rfl rfl)
theorem dX2_unsaid_25 : decode cX2_unsaid 25 = .ok (.iload 4, 2) := dk_21 4 (dk_at dksX2_unsaid_1 3 rfl rfl)
theorem dX2_unsaid_27 : decode cX2_unsaid 27 = .ok (.aaload, 1) := dk_50 (dk_at dksX2_unsaid_1 5 rfl rfl)
theorem dX2_unsaid_28 : decode cX2_unsaid 28 = .ok (.getfield 115, 3) := dk_180 0 115 (dk_at dksX2_unsaid_1 6 rfl rfl)
theorem dX2_unsaid_31 : decode cX2_unsaid 31 = .ok (.iload_n 2, 1) := dk_28 (dk_at dksX2_unsaid_1 9 rfl rfl)
theorem dX2_unsaid_32 : decode cX2_unsaid 32 = .ok (.if_icmp .ne 36, 3) := dk_160 0 36 (dk_at dksX2_unsaid_1 10 rfl rfl)
theorem dX2_unsaid_35 : decode cX2_unsaid 35 = .ok (.aload_n 0, 1) := dk_42 (dk_at dksX2_unsaid_1 13 rfl rfl)
theorem dX2_unsaid_36 : decode cX2_unsaid 36 = .ok (.getfield 3, 3) := dk_180 0 3 (dk_at dksX2_unsaid_1 14 rfl rfl)
theorem dX2_unsaid_39 : decode cX2_unsaid 39 = .ok (.getfield 111, 3) := dk_180 0 111 (dk_at dksX2_unsaid_1 17 rfl rfl)
theorem dX2_unsaid_42 : decode cX2_unsaid 42 = .ok (.iload 4, 2) := dk_21 4 (dk_at dksX2_unsaid_1 20 rfl rfl)
theorem dX2_unsaid_44 : decode cX2_unsaid 44 = .ok (.aaload, 1) := dk_50 (dk_at dksX2_unsaid_1 22 rfl rfl)
theorem dX2_unsaid_45 : decode cX2_unsaid 45 = .ok (.iload_n 1, 1) := dk_27 (dk_at dksX2_unsaid_1 23 rfl rfl)
theorem dX2_unsaid_46 : decode cX2_unsaid 46 = .ok (.invokevirtual 103, 3) := dk_182 0 103 (dk_at dksX2_unsaid_2 0 rfl rfl)
theorem dX2_unsaid_49 : decode cX2_unsaid 49 = .ok (.ifCond .eq 19, 3) := dk_153 0 19 (dk_at dksX2_unsaid_2 3 rfl rfl)
theorem dX2_unsaid_52 : decode cX2_unsaid 52 = .ok (.aload_n 0, 1) := dk_42 (dk_at dksX2_unsaid_2 6 rfl rfl)
theorem dX2_unsaid_53 : decode cX2_unsaid 53 = .ok (.getfield 83, 3) := dk_180 0 83 (dk_at dksX2_unsaid_2 7 rfl rfl)
theorem dX2_unsaid_56 : decode cX2_unsaid 56 = .ok (.iload 4, 2) := dk_21 4 (dk_at dksX2_unsaid_2 10 rfl rfl)
theorem dX2_unsaid_58 : decode cX2_unsaid 58 = .ok (.ishr, 1) := dk_122 (dk_at dksX2_unsaid_2 12 rfl rfl)
theorem dX2_unsaid_59 : decode cX2_unsaid 59 = .ok (.iconst 1, 1) := dk_4 (dk_at dksX2_unsaid_2 13 rfl rfl)
theorem dX2_unsaid_60 : decode cX2_unsaid 60 = .ok (.iand, 1) := dk_126 (dk_at dksX2_unsaid_2 14 rfl rfl)
theorem dX2_unsaid_61 : decode cX2_unsaid 61 = .ok (.ifCond .ne 7, 3) := dk_154 0 7 (dk_at dksX2_unsaid_2 15 rfl rfl)
theorem dX2_unsaid_64 : decode cX2_unsaid 64 = .ok (.iconst 1, 1) := dk_4 (dk_at dksX2_unsaid_2 18 rfl rfl)
theorem dX2_unsaid_65 : decode cX2_unsaid 65 = .ok (.goto 4, 3) := dk_167 0 4 (dk_at dksX2_unsaid_2 19 rfl rfl)
theorem dX2_unsaid_68 : decode cX2_unsaid 68 = .ok (.iconst 0, 1) := dk_3 (dk_at dksX2_unsaid_2 22 rfl rfl)
theorem dX2_unsaid_69 : decode cX2_unsaid 69 = .ok (.iadd, 1) := dk_96 (dk_at dksX2_unsaid_2 23 rfl rfl)
theorem dX2_unsaid_70 : decode cX2_unsaid 70 = .ok (.istore_n 3, 1) := dk_62 (dk_at dksX2_unsaid_3 0 rfl rfl)
theorem dX2_unsaid_71 : decode cX2_unsaid 71 = .ok (.iinc 4 1, 3) := dk_132 4 1 (dk_at dksX2_unsaid_3 1 rfl rfl)
theorem dX2_unsaid_74 : decode cX2_unsaid 74 = .ok (.goto (-69), 3) := dk_167 255 187 (dk_at dksX2_unsaid_3 4 rfl rfl)
theorem dX2_unsaid_77 : decode cX2_unsaid 77 = .ok (.iload_n 3, 1) := dk_29 (dk_at dksX2_unsaid_3 7 rfl rfl)
theorem dX2_unsaid_78 : decode cX2_unsaid 78 = .ok (.ireturn, 1) := dk_172 (dk_at dksX2_unsaid_3 8 rfl rfl)
abbrev cX2_next : ByteArray := prog_16_method_9_code
def yX2_next : MethodName := ⟨RX2, "next", "(I)I"⟩
def dkwX2_next_4 : List UInt8 := [42, 2, 182, 0, 154, 172]
abbrev dktX2_next_4 : List UInt8 := dkwX2_next_4 ++ []
def dkwX2_next_3 : List UInt8 := [180, 0, 86, 46, 158, 0, 10, 42, 180, 0, 86, 167, 0, 7, 42, 182, 0, 144, 172, 42, 182, 0, 151, 172]
abbrev dktX2_next_3 : List UInt8 := dkwX2_next_3 ++ dktX2_next_4
def dkwX2_next_2 : List UInt8 := [42, 182, 0, 144, 172, 42, 182, 0, 148, 172, 42, 180, 0, 86, 155, 0, 22, 42, 180, 0, 61, 42]
abbrev dktX2_next_2 : List UInt8 := dkwX2_next_2 ++ dktX2_next_3
def dkwX2_next_1 : List UInt8 := [170, 0, 0, 0, 0, 0, 77, 0, 0, 0, 1, 0, 0, 0, 4, 0, 0, 0, 31, 0, 0, 0, 36, 0, 0, 0, 41, 0, 0, 0, 72]
abbrev dktX2_next_1 : List UInt8 := dkwX2_next_1 ++ dktX2_next_2
def dkwX2_next_0 : List UInt8 := [27]
abbrev dktX2_next_0 : List UInt8 := dkwX2_next_0 ++ dktX2_next_1
theorem dksX2_next_0 : cX2_next.data.toList.drop 0 = dktX2_next_0 := by decide +kernel
theorem dksX2_next_1 : cX2_next.data.toList.drop 1 = dktX2_next_1 := dk_seg dksX2_next_0 1 rfl rfl
theorem dksX2_next_2 : cX2_next.data.toList.drop 32 = dktX2_next_2 := dk_seg dksX2_next_1 31 rfl rfl
theorem dksX2_next_3 : cX2_next.data.toList.drop 54 = dktX2_next_3 := dk_seg dksX2_next_2 22 rfl rfl
theorem dksX2_next_4 : cX2_next.data.toList.drop 78 = dktX2_next_4 := dk_seg dksX2_next_3 24 rfl rfl
theorem dX2_next_0 : decode cX2_next 0 = .ok (.iload_n 1, 1) := dk_27 (dk_at dksX2_next_0 0 rfl rfl)
theorem dX2_next_1 : decode cX2_next 1 = .ok (.tableswitch 77 1 4 #[31, 36, 41, 72], 31) := by decide +kernel
theorem dX2_next_32 : decode cX2_next 32 = .ok (.aload_n 0, 1) := dk_42 (dk_at dksX2_next_2 0 rfl rfl)
theorem dX2_next_33 : decode cX2_next 33 = .ok (.invokevirtual 144, 3) := dk_182 0 144 (dk_at dksX2_next_2 1 rfl rfl)
theorem dX2_next_36 : decode cX2_next 36 = .ok (.ireturn, 1) := dk_172 (dk_at dksX2_next_2 4 rfl rfl)
theorem dX2_next_37 : decode cX2_next 37 = .ok (.aload_n 0, 1) := dk_42 (dk_at dksX2_next_2 5 rfl rfl)
theorem dX2_next_38 : decode cX2_next 38 = .ok (.invokevirtual 148, 3) := dk_182 0 148 (dk_at dksX2_next_2 6 rfl rfl)
theorem dX2_next_41 : decode cX2_next 41 = .ok (.ireturn, 1) := dk_172 (dk_at dksX2_next_2 9 rfl rfl)
theorem dX2_next_42 : decode cX2_next 42 = .ok (.aload_n 0, 1) := dk_42 (dk_at dksX2_next_2 10 rfl rfl)
theorem dX2_next_43 : decode cX2_next 43 = .ok (.getfield 86, 3) := dk_180 0 86 (dk_at dksX2_next_2 11 rfl rfl)
theorem dX2_next_46 : decode cX2_next 46 = .ok (.ifCond .lt 22, 3) := dk_155 0 22 (dk_at dksX2_next_2 14 rfl rfl)
theorem dX2_next_49 : decode cX2_next 49 = .ok (.aload_n 0, 1) := dk_42 (dk_at dksX2_next_2 17 rfl rfl)
theorem dX2_next_50 : decode cX2_next 50 = .ok (.getfield 61, 3) := dk_180 0 61 (dk_at dksX2_next_2 18 rfl rfl)
theorem dX2_next_53 : decode cX2_next 53 = .ok (.aload_n 0, 1) := dk_42 (dk_at dksX2_next_2 21 rfl rfl)
theorem dX2_next_54 : decode cX2_next 54 = .ok (.getfield 86, 3) := dk_180 0 86 (dk_at dksX2_next_3 0 rfl rfl)
theorem dX2_next_57 : decode cX2_next 57 = .ok (.iaload, 1) := dk_46 (dk_at dksX2_next_3 3 rfl rfl)
theorem dX2_next_58 : decode cX2_next 58 = .ok (.ifCond .le 10, 3) := dk_158 0 10 (dk_at dksX2_next_3 4 rfl rfl)
theorem dX2_next_61 : decode cX2_next 61 = .ok (.aload_n 0, 1) := dk_42 (dk_at dksX2_next_3 7 rfl rfl)
theorem dX2_next_62 : decode cX2_next 62 = .ok (.getfield 86, 3) := dk_180 0 86 (dk_at dksX2_next_3 8 rfl rfl)
theorem dX2_next_65 : decode cX2_next 65 = .ok (.goto 7, 3) := dk_167 0 7 (dk_at dksX2_next_3 11 rfl rfl)
theorem dX2_next_68 : decode cX2_next 68 = .ok (.aload_n 0, 1) := dk_42 (dk_at dksX2_next_3 14 rfl rfl)
theorem dX2_next_69 : decode cX2_next 69 = .ok (.invokevirtual 144, 3) := dk_182 0 144 (dk_at dksX2_next_3 15 rfl rfl)
theorem dX2_next_72 : decode cX2_next 72 = .ok (.ireturn, 1) := dk_172 (dk_at dksX2_next_3 18 rfl rfl)
theorem dX2_next_73 : decode cX2_next 73 = .ok (.aload_n 0, 1) := dk_42 (dk_at dksX2_next_3 19 rfl rfl)
theorem dX2_next_74 : decode cX2_next 74 = .ok (.invokevirtual 151, 3) := dk_182 0 151 (dk_at dksX2_next_3 20 rfl rfl)
theorem dX2_next_77 : decode cX2_next 77 = .ok (.ireturn, 1) := dk_172 (dk_at dksX2_next_3 23 rfl rfl)
theorem dX2_next_78 : decode cX2_next 78 = .ok (.aload_n 0, 1) := dk_42 (dk_at dksX2_next_4 0 rfl rfl)
theorem dX2_next_79 : decode cX2_next 79 = .ok (.iconst (-1), 1) := dk_2 (dk_at dksX2_next_4 1 rfl rfl)
theorem dX2_next_80 : decode cX2_next 80 = .ok (.invokevirtual 154, 3) := dk_182 0 154 (dk_at dksX2_next_4 2 rfl rfl)
theorem dX2_next_83 : decode cX2_next 83 = .ok (.ireturn, 1) := dk_172 (dk_at dksX2_next_4 5 rfl rfl)
abbrev cX2_inTurn : ByteArray := prog_16_method_10_code
def yX2_inTurn : MethodName := ⟨RX2, "inTurn", "()I"⟩
def dkwX2_inTurn_1 : List UInt8 := [180, 0, 96, 112, 61, 42, 180, 0, 61, 28, 46, 158, 0, 5, 28, 172, 132, 1, 1, 167, 255, 216, 2, 172]
abbrev dktX2_inTurn_1 : List UInt8 := dkwX2_inTurn_1 ++ []
def dkwX2_inTurn_0 : List UInt8 := [4, 60, 27, 42, 180, 0, 3, 180, 0, 96, 163, 0, 35, 42, 180, 0, 86, 27, 96, 42, 180, 0, 3]
abbrev dktX2_inTurn_0 : List UInt8 := dkwX2_inTurn_0 ++ dktX2_inTurn_1
theorem dksX2_inTurn_0 : cX2_inTurn.data.toList.drop 0 = dktX2_inTurn_0 := by decide +kernel
theorem dksX2_inTurn_1 : cX2_inTurn.data.toList.drop 23 = dktX2_inTurn_1 := dk_seg dksX2_inTurn_0 23 rfl rfl
theorem dX2_inTurn_0 : decode cX2_inTurn 0 = .ok (.iconst 1, 1) := dk_4 (dk_at dksX2_inTurn_0 0 rfl rfl)
theorem dX2_inTurn_1 : decode cX2_inTurn 1 = .ok (.istore_n 1, 1) := dk_60 (dk_at dksX2_inTurn_0 1 rfl rfl)
theorem dX2_inTurn_2 : decode cX2_inTurn 2 = .ok (.iload_n 1, 1) := dk_27 (dk_at dksX2_inTurn_0 2 rfl rfl)
theorem dX2_inTurn_3 : decode cX2_inTurn 3 = .ok (.aload_n 0, 1) := dk_42 (dk_at dksX2_inTurn_0 3 rfl rfl)
theorem dX2_inTurn_4 : decode cX2_inTurn 4 = .ok (.getfield 3, 3) := dk_180 0 3 (dk_at dksX2_inTurn_0 4 rfl rfl)
theorem dX2_inTurn_7 : decode cX2_inTurn 7 = .ok (.getfield 96, 3) := dk_180 0 96 (dk_at dksX2_inTurn_0 7 rfl rfl)
theorem dX2_inTurn_10 : decode cX2_inTurn 10 = .ok (.if_icmp .gt 35, 3) := dk_163 0 35 (dk_at dksX2_inTurn_0 10 rfl rfl)
theorem dX2_inTurn_13 : decode cX2_inTurn 13 = .ok (.aload_n 0, 1) := dk_42 (dk_at dksX2_inTurn_0 13 rfl rfl)
theorem dX2_inTurn_14 : decode cX2_inTurn 14 = .ok (.getfield 86, 3) := dk_180 0 86 (dk_at dksX2_inTurn_0 14 rfl rfl)
theorem dX2_inTurn_17 : decode cX2_inTurn 17 = .ok (.iload_n 1, 1) := dk_27 (dk_at dksX2_inTurn_0 17 rfl rfl)
theorem dX2_inTurn_18 : decode cX2_inTurn 18 = .ok (.iadd, 1) := dk_96 (dk_at dksX2_inTurn_0 18 rfl rfl)
theorem dX2_inTurn_19 : decode cX2_inTurn 19 = .ok (.aload_n 0, 1) := dk_42 (dk_at dksX2_inTurn_0 19 rfl rfl)
theorem dX2_inTurn_20 : decode cX2_inTurn 20 = .ok (.getfield 3, 3) := dk_180 0 3 (dk_at dksX2_inTurn_0 20 rfl rfl)
theorem dX2_inTurn_23 : decode cX2_inTurn 23 = .ok (.getfield 96, 3) := dk_180 0 96 (dk_at dksX2_inTurn_1 0 rfl rfl)
theorem dX2_inTurn_26 : decode cX2_inTurn 26 = .ok (.irem, 1) := dk_112 (dk_at dksX2_inTurn_1 3 rfl rfl)
theorem dX2_inTurn_27 : decode cX2_inTurn 27 = .ok (.istore_n 2, 1) := dk_61 (dk_at dksX2_inTurn_1 4 rfl rfl)
theorem dX2_inTurn_28 : decode cX2_inTurn 28 = .ok (.aload_n 0, 1) := dk_42 (dk_at dksX2_inTurn_1 5 rfl rfl)
theorem dX2_inTurn_29 : decode cX2_inTurn 29 = .ok (.getfield 61, 3) := dk_180 0 61 (dk_at dksX2_inTurn_1 6 rfl rfl)
theorem dX2_inTurn_32 : decode cX2_inTurn 32 = .ok (.iload_n 2, 1) := dk_28 (dk_at dksX2_inTurn_1 9 rfl rfl)
theorem dX2_inTurn_33 : decode cX2_inTurn 33 = .ok (.iaload, 1) := dk_46 (dk_at dksX2_inTurn_1 10 rfl rfl)
theorem dX2_inTurn_34 : decode cX2_inTurn 34 = .ok (.ifCond .le 5, 3) := dk_158 0 5 (dk_at dksX2_inTurn_1 11 rfl rfl)
theorem dX2_inTurn_37 : decode cX2_inTurn 37 = .ok (.iload_n 2, 1) := dk_28 (dk_at dksX2_inTurn_1 14 rfl rfl)
theorem dX2_inTurn_38 : decode cX2_inTurn 38 = .ok (.ireturn, 1) := dk_172 (dk_at dksX2_inTurn_1 15 rfl rfl)
theorem dX2_inTurn_39 : decode cX2_inTurn 39 = .ok (.iinc 1 1, 3) := dk_132 1 1 (dk_at dksX2_inTurn_1 16 rfl rfl)
theorem dX2_inTurn_42 : decode cX2_inTurn 42 = .ok (.goto (-40), 3) := dk_167 255 216 (dk_at dksX2_inTurn_1 19 rfl rfl)
theorem dX2_inTurn_45 : decode cX2_inTurn 45 = .ok (.iconst (-1), 1) := dk_2 (dk_at dksX2_inTurn_1 22 rfl rfl)
theorem dX2_inTurn_46 : decode cX2_inTurn 46 = .ok (.ireturn, 1) := dk_172 (dk_at dksX2_inTurn_1 23 rfl rfl)
abbrev cX2_leastOften : ByteArray := prog_16_method_11_code
def yX2_leastOften : MethodName := ⟨RX2, "leastOften", "()I"⟩
def dkwX2_leastOften_3 : List UInt8 := [27, 46, 164, 0, 5, 28, 60, 132, 2, 1, 167, 255, 179, 27, 172]
abbrev dktX2_leastOften_3 : List UInt8 := dkwX2_leastOften_3 ++ []
def dkwX2_leastOften_2 : List UInt8 := [180, 0, 58, 28, 46, 42, 180, 0, 58, 27, 46, 160, 0, 20, 42, 180, 0, 61, 28, 46, 42, 180, 0, 61]
abbrev dktX2_leastOften_2 : List UInt8 := dkwX2_leastOften_2 ++ dktX2_leastOften_3
def dkwX2_leastOften_1 : List UInt8 := [167, 0, 54, 27, 155, 0, 48, 42, 180, 0, 58, 28, 46, 42, 180, 0, 58, 27, 46, 161, 0, 33, 42]
abbrev dktX2_leastOften_1 : List UInt8 := dkwX2_leastOften_1 ++ dktX2_leastOften_2
def dkwX2_leastOften_0 : List UInt8 := [2, 60, 3, 61, 28, 42, 180, 0, 3, 180, 0, 96, 162, 0, 72, 42, 180, 0, 61, 28, 46, 157, 0, 6]
abbrev dktX2_leastOften_0 : List UInt8 := dkwX2_leastOften_0 ++ dktX2_leastOften_1
theorem dksX2_leastOften_0 : cX2_leastOften.data.toList.drop 0 = dktX2_leastOften_0 := by decide +kernel
theorem dksX2_leastOften_1 : cX2_leastOften.data.toList.drop 24 = dktX2_leastOften_1 := dk_seg dksX2_leastOften_0 24 rfl rfl
theorem dksX2_leastOften_2 : cX2_leastOften.data.toList.drop 47 = dktX2_leastOften_2 := dk_seg dksX2_leastOften_1 23 rfl rfl
theorem dksX2_leastOften_3 : cX2_leastOften.data.toList.drop 71 = dktX2_leastOften_3 := dk_seg dksX2_leastOften_2 24 rfl rfl
theorem dX2_leastOften_0 : decode cX2_leastOften 0 = .ok (.iconst (-1), 1) := dk_2 (dk_at dksX2_leastOften_0 0 rfl rfl)
theorem dX2_leastOften_1 : decode cX2_leastOften 1 = .ok (.istore_n 1, 1) := dk_60 (dk_at dksX2_leastOften_0 1 rfl rfl)
theorem dX2_leastOften_2 : decode cX2_leastOften 2 = .ok (.iconst 0, 1) := dk_3 (dk_at dksX2_leastOften_0 2 rfl rfl)
theorem dX2_leastOften_3 : decode cX2_leastOften 3 = .ok (.istore_n 2, 1) := dk_61 (dk_at dksX2_leastOften_0 3 rfl rfl)
theorem dX2_leastOften_4 : decode cX2_leastOften 4 = .ok (.iload_n 2, 1) := dk_28 (dk_at dksX2_leastOften_0 4 rfl rfl)
theorem dX2_leastOften_5 : decode cX2_leastOften 5 = .ok (.aload_n 0, 1) := dk_42 (dk_at dksX2_leastOften_0 5 rfl rfl)
theorem dX2_leastOften_6 : decode cX2_leastOften 6 = .ok (.getfield 3, 3) := dk_180 0 3 (dk_at dksX2_leastOften_0 6 rfl rfl)
theorem dX2_leastOften_9 : decode cX2_leastOften 9 = .ok (.getfield 96, 3) := dk_180 0 96 (dk_at dksX2_leastOften_0 9 rfl rfl)
theorem dX2_leastOften_12 : decode cX2_leastOften 12 = .ok (.if_icmp .ge 72, 3) := dk_162 0 72 (dk_at dksX2_leastOften_0 12 rfl rfl)
theorem dX2_leastOften_15 : decode cX2_leastOften 15 = .ok (.aload_n 0, 1) := dk_42 (dk_at dksX2_leastOften_0 15 rfl rfl)
theorem dX2_leastOften_16 : decode cX2_leastOften 16 = .ok (.getfield 61, 3) := dk_180 0 61 (dk_at dksX2_leastOften_0 16 rfl rfl)
theorem dX2_leastOften_19 : decode cX2_leastOften 19 = .ok (.iload_n 2, 1) := dk_28 (dk_at dksX2_leastOften_0 19 rfl rfl)
theorem dX2_leastOften_20 : decode cX2_leastOften 20 = .ok (.iaload, 1) := dk_46 (dk_at dksX2_leastOften_0 20 rfl rfl)
theorem dX2_leastOften_21 : decode cX2_leastOften 21 = .ok (.ifCond .gt 6, 3) := dk_157 0 6 (dk_at dksX2_leastOften_0 21 rfl rfl)
theorem dX2_leastOften_24 : decode cX2_leastOften 24 = .ok (.goto 54, 3) := dk_167 0 54 (dk_at dksX2_leastOften_1 0 rfl rfl)
theorem dX2_leastOften_27 : decode cX2_leastOften 27 = .ok (.iload_n 1, 1) := dk_27 (dk_at dksX2_leastOften_1 3 rfl rfl)
theorem dX2_leastOften_28 : decode cX2_leastOften 28 = .ok (.ifCond .lt 48, 3) := dk_155 0 48 (dk_at dksX2_leastOften_1 4 rfl rfl)
theorem dX2_leastOften_31 : decode cX2_leastOften 31 = .ok (.aload_n 0, 1) := dk_42 (dk_at dksX2_leastOften_1 7 rfl rfl)
theorem dX2_leastOften_32 : decode cX2_leastOften 32 = .ok (.getfield 58, 3) := dk_180 0 58 (dk_at dksX2_leastOften_1 8 rfl rfl)
theorem dX2_leastOften_35 : decode cX2_leastOften 35 = .ok (.iload_n 2, 1) := dk_28 (dk_at dksX2_leastOften_1 11 rfl rfl)
theorem dX2_leastOften_36 : decode cX2_leastOften 36 = .ok (.iaload, 1) := dk_46 (dk_at dksX2_leastOften_1 12 rfl rfl)
theorem dX2_leastOften_37 : decode cX2_leastOften 37 = .ok (.aload_n 0, 1) := dk_42 (dk_at dksX2_leastOften_1 13 rfl rfl)
theorem dX2_leastOften_38 : decode cX2_leastOften 38 = .ok (.getfield 58, 3) := dk_180 0 58 (dk_at dksX2_leastOften_1 14 rfl rfl)
theorem dX2_leastOften_41 : decode cX2_leastOften 41 = .ok (.iload_n 1, 1) := dk_27 (dk_at dksX2_leastOften_1 17 rfl rfl)
theorem dX2_leastOften_42 : decode cX2_leastOften 42 = .ok (.iaload, 1) := dk_46 (dk_at dksX2_leastOften_1 18 rfl rfl)
theorem dX2_leastOften_43 : decode cX2_leastOften 43 = .ok (.if_icmp .lt 33, 3) := dk_161 0 33 (dk_at dksX2_leastOften_1 19 rfl rfl)
theorem dX2_leastOften_46 : decode cX2_leastOften 46 = .ok (.aload_n 0, 1) := dk_42 (dk_at dksX2_leastOften_1 22 rfl rfl)
theorem dX2_leastOften_47 : decode cX2_leastOften 47 = .ok (.getfield 58, 3) := dk_180 0 58 (dk_at dksX2_leastOften_2 0 rfl rfl)
theorem dX2_leastOften_50 : decode cX2_leastOften 50 = .ok (.iload_n 2, 1) := dk_28 (dk_at dksX2_leastOften_2 3 rfl rfl)
theorem dX2_leastOften_51 : decode cX2_leastOften 51 = .ok (.iaload, 1) := dk_46 (dk_at dksX2_leastOften_2 4 rfl rfl)
theorem dX2_leastOften_52 : decode cX2_leastOften 52 = .ok (.aload_n 0, 1) := dk_42 (dk_at dksX2_leastOften_2 5 rfl rfl)
theorem dX2_leastOften_53 : decode cX2_leastOften 53 = .ok (.getfield 58, 3) := dk_180 0 58 (dk_at dksX2_leastOften_2 6 rfl rfl)
theorem dX2_leastOften_56 : decode cX2_leastOften 56 = .ok (.iload_n 1, 1) := dk_27 (dk_at dksX2_leastOften_2 9 rfl rfl)
theorem dX2_leastOften_57 : decode cX2_leastOften 57 = .ok (.iaload, 1) := dk_46 (dk_at dksX2_leastOften_2 10 rfl rfl)
theorem dX2_leastOften_58 : decode cX2_leastOften 58 = .ok (.if_icmp .ne 20, 3) := dk_160 0 20 (dk_at dksX2_leastOften_2 11 rfl rfl)
theorem dX2_leastOften_61 : decode cX2_leastOften 61 = .ok (.aload_n 0, 1) := dk_42 (dk_at dksX2_leastOften_2 14 rfl rfl)
theorem dX2_leastOften_62 : decode cX2_leastOften 62 = .ok (.getfield 61, 3) := dk_180 0 61 (dk_at dksX2_leastOften_2 15 rfl rfl)
theorem dX2_leastOften_65 : decode cX2_leastOften 65 = .ok (.iload_n 2, 1) := dk_28 (dk_at dksX2_leastOften_2 18 rfl rfl)
theorem dX2_leastOften_66 : decode cX2_leastOften 66 = .ok (.iaload, 1) := dk_46 (dk_at dksX2_leastOften_2 19 rfl rfl)
theorem dX2_leastOften_67 : decode cX2_leastOften 67 = .ok (.aload_n 0, 1) := dk_42 (dk_at dksX2_leastOften_2 20 rfl rfl)
theorem dX2_leastOften_68 : decode cX2_leastOften 68 = .ok (.getfield 61, 3) := dk_180 0 61 (dk_at dksX2_leastOften_2 21 rfl rfl)
theorem dX2_leastOften_71 : decode cX2_leastOften 71 = .ok (.iload_n 1, 1) := dk_27 (dk_at dksX2_leastOften_3 0 rfl rfl)
theorem dX2_leastOften_72 : decode cX2_leastOften 72 = .ok (.iaload, 1) := dk_46 (dk_at dksX2_leastOften_3 1 rfl rfl)
theorem dX2_leastOften_73 : decode cX2_leastOften 73 = .ok (.if_icmp .le 5, 3) := dk_164 0 5 (dk_at dksX2_leastOften_3 2 rfl rfl)
theorem dX2_leastOften_76 : decode cX2_leastOften 76 = .ok (.iload_n 2, 1) := dk_28 (dk_at dksX2_leastOften_3 5 rfl rfl)
theorem dX2_leastOften_77 : decode cX2_leastOften 77 = .ok (.istore_n 1, 1) := dk_60 (dk_at dksX2_leastOften_3 6 rfl rfl)
theorem dX2_leastOften_78 : decode cX2_leastOften 78 = .ok (.iinc 2 1, 3) := dk_132 2 1 (dk_at dksX2_leastOften_3 7 rfl rfl)
theorem dX2_leastOften_81 : decode cX2_leastOften 81 = .ok (.goto (-77), 3) := dk_167 255 179 (dk_at dksX2_leastOften_3 10 rfl rfl)
theorem dX2_leastOften_84 : decode cX2_leastOften 84 = .ok (.iload_n 1, 1) := dk_27 (dk_at dksX2_leastOften_3 13 rfl rfl)
theorem dX2_leastOften_85 : decode cX2_leastOften 85 = .ok (.ireturn, 1) := dk_172 (dk_at dksX2_leastOften_3 14 rfl rfl)
abbrev cX2_chiefLast : ByteArray := prog_16_method_13_code
def yX2_chiefLast : MethodName := ⟨RX2, "chiefLast", "()I"⟩
def dkwX2_chiefLast_2 : List UInt8 := [182, 0, 154, 61, 28, 155, 0, 7, 28, 167, 0, 8, 42, 2, 182, 0, 154, 172]
abbrev dktX2_chiefLast_2 : List UInt8 := dkwX2_chiefLast_2 ++ []
def dkwX2_chiefLast_1 : List UInt8 := [42, 180, 0, 3, 180, 0, 68, 28, 50, 180, 0, 157, 184, 0, 160, 60, 132, 2, 1, 167, 255, 217, 42, 27]
abbrev dktX2_chiefLast_1 : List UInt8 := dkwX2_chiefLast_1 ++ dktX2_chiefLast_2
def dkwX2_chiefLast_0 : List UInt8 := [2, 60, 3, 61, 28, 42, 180, 0, 3, 180, 0, 96, 162, 0, 34, 42, 28, 182, 0, 99, 153, 0, 20, 27]
abbrev dktX2_chiefLast_0 : List UInt8 := dkwX2_chiefLast_0 ++ dktX2_chiefLast_1
theorem dksX2_chiefLast_0 : cX2_chiefLast.data.toList.drop 0 = dktX2_chiefLast_0 := by decide +kernel
theorem dksX2_chiefLast_1 : cX2_chiefLast.data.toList.drop 24 = dktX2_chiefLast_1 := dk_seg dksX2_chiefLast_0 24 rfl rfl
theorem dksX2_chiefLast_2 : cX2_chiefLast.data.toList.drop 48 = dktX2_chiefLast_2 := dk_seg dksX2_chiefLast_1 24 rfl rfl
theorem dX2_chiefLast_0 : decode cX2_chiefLast 0 = .ok (.iconst (-1), 1) := dk_2 (dk_at dksX2_chiefLast_0 0 rfl rfl)
theorem dX2_chiefLast_1 : decode cX2_chiefLast 1 = .ok (.istore_n 1, 1) := dk_60 (dk_at dksX2_chiefLast_0 1 rfl rfl)
theorem dX2_chiefLast_2 : decode cX2_chiefLast 2 = .ok (.iconst 0, 1) := dk_3 (dk_at dksX2_chiefLast_0 2 rfl rfl)
theorem dX2_chiefLast_3 : decode cX2_chiefLast 3 = .ok (.istore_n 2, 1) := dk_61 (dk_at dksX2_chiefLast_0 3 rfl rfl)
theorem dX2_chiefLast_4 : decode cX2_chiefLast 4 = .ok (.iload_n 2, 1) := dk_28 (dk_at dksX2_chiefLast_0 4 rfl rfl)
theorem dX2_chiefLast_5 : decode cX2_chiefLast 5 = .ok (.aload_n 0, 1) := dk_42 (dk_at dksX2_chiefLast_0 5 rfl rfl)
theorem dX2_chiefLast_6 : decode cX2_chiefLast 6 = .ok (.getfield 3, 3) := dk_180 0 3 (dk_at dksX2_chiefLast_0 6 rfl rfl)
theorem dX2_chiefLast_9 : decode cX2_chiefLast 9 = .ok (.getfield 96, 3) := dk_180 0 96 (dk_at dksX2_chiefLast_0 9 rfl rfl)
theorem dX2_chiefLast_12 : decode cX2_chiefLast 12 = .ok (.if_icmp .ge 34, 3) := dk_162 0 34 (dk_at dksX2_chiefLast_0 12 rfl rfl)
theorem dX2_chiefLast_15 : decode cX2_chiefLast 15 = .ok (.aload_n 0, 1) := dk_42 (dk_at dksX2_chiefLast_0 15 rfl rfl)
theorem dX2_chiefLast_16 : decode cX2_chiefLast 16 = .ok (.iload_n 2, 1) := dk_28 (dk_at dksX2_chiefLast_0 16 rfl rfl)
theorem dX2_chiefLast_17 : decode cX2_chiefLast 17 = .ok (.invokevirtual 99, 3) := dk_182 0 99 (dk_at dksX2_chiefLast_0 17 rfl rfl)
theorem dX2_chiefLast_20 : decode cX2_chiefLast 20 = .ok (.ifCond .eq 20, 3) := dk_153 0 20 (dk_at dksX2_chiefLast_0 20 rfl rfl)
theorem dX2_chiefLast_23 : decode cX2_chiefLast 23 = .ok (.iload_n 1, 1) := dk_27 (dk_at dksX2_chiefLast_0 23 rfl rfl)
theorem dX2_chiefLast_24 : decode cX2_chiefLast 24 = .ok (.aload_n 0, 1) := dk_42 (dk_at dksX2_chiefLast_1 0 rfl rfl)
theorem dX2_chiefLast_25 : decode cX2_chiefLast 25 = .ok (.getfield 3, 3) := dk_180 0 3 (dk_at dksX2_chiefLast_1 1 rfl rfl)
theorem dX2_chiefLast_28 : decode cX2_chiefLast 28 = .ok (.getfield 68, 3) := dk_180 0 68 (dk_at dksX2_chiefLast_1 4 rfl rfl)
theorem dX2_chiefLast_31 : decode cX2_chiefLast 31 = .ok (.iload_n 2, 1) := dk_28 (dk_at dksX2_chiefLast_1 7 rfl rfl)
theorem dX2_chiefLast_32 : decode cX2_chiefLast 32 = .ok (.aaload, 1) := dk_50 (dk_at dksX2_chiefLast_1 8 rfl rfl)
theorem dX2_chiefLast_33 : decode cX2_chiefLast 33 = .ok (.getfield 157, 3) := dk_180 0 157 (dk_at dksX2_chiefLast_1 9 rfl rfl)
theorem dX2_chiefLast_36 : decode cX2_chiefLast 36 = .ok (.invokestatic 160, 3) := dk_184 0 160 (dk_at dksX2_chiefLast_1 12 rfl rfl)
theorem dX2_chiefLast_39 : decode cX2_chiefLast 39 = .ok (.istore_n 1, 1) := dk_60 (dk_at dksX2_chiefLast_1 15 rfl rfl)
theorem dX2_chiefLast_40 : decode cX2_chiefLast 40 = .ok (.iinc 2 1, 3) := dk_132 2 1 (dk_at dksX2_chiefLast_1 16 rfl rfl)
theorem dX2_chiefLast_43 : decode cX2_chiefLast 43 = .ok (.goto (-39), 3) := dk_167 255 217 (dk_at dksX2_chiefLast_1 19 rfl rfl)
theorem dX2_chiefLast_46 : decode cX2_chiefLast 46 = .ok (.aload_n 0, 1) := dk_42 (dk_at dksX2_chiefLast_1 22 rfl rfl)
theorem dX2_chiefLast_47 : decode cX2_chiefLast 47 = .ok (.iload_n 1, 1) := dk_27 (dk_at dksX2_chiefLast_1 23 rfl rfl)
theorem dX2_chiefLast_48 : decode cX2_chiefLast 48 = .ok (.invokevirtual 154, 3) := dk_182 0 154 (dk_at dksX2_chiefLast_2 0 rfl rfl)
theorem dX2_chiefLast_51 : decode cX2_chiefLast 51 = .ok (.istore_n 2, 1) := dk_61 (dk_at dksX2_chiefLast_2 3 rfl rfl)
theorem dX2_chiefLast_52 : decode cX2_chiefLast 52 = .ok (.iload_n 2, 1) := dk_28 (dk_at dksX2_chiefLast_2 4 rfl rfl)
theorem dX2_chiefLast_53 : decode cX2_chiefLast 53 = .ok (.ifCond .lt 7, 3) := dk_155 0 7 (dk_at dksX2_chiefLast_2 5 rfl rfl)
theorem dX2_chiefLast_56 : decode cX2_chiefLast 56 = .ok (.iload_n 2, 1) := dk_28 (dk_at dksX2_chiefLast_2 8 rfl rfl)
theorem dX2_chiefLast_57 : decode cX2_chiefLast 57 = .ok (.goto 8, 3) := dk_167 0 8 (dk_at dksX2_chiefLast_2 9 rfl rfl)
theorem dX2_chiefLast_60 : decode cX2_chiefLast 60 = .ok (.aload_n 0, 1) := dk_42 (dk_at dksX2_chiefLast_2 12 rfl rfl)
theorem dX2_chiefLast_61 : decode cX2_chiefLast 61 = .ok (.iconst (-1), 1) := dk_2 (dk_at dksX2_chiefLast_2 13 rfl rfl)
theorem dX2_chiefLast_62 : decode cX2_chiefLast 62 = .ok (.invokevirtual 154, 3) := dk_182 0 154 (dk_at dksX2_chiefLast_2 14 rfl rfl)
theorem dX2_chiefLast_65 : decode cX2_chiefLast 65 = .ok (.ireturn, 1) := dk_172 (dk_at dksX2_chiefLast_2 17 rfl rfl)
abbrev cX2_mostWishing : ByteArray := prog_16_method_12_code
def yX2_mostWishing : MethodName := ⟨RX2, "mostWishing", "(I)I"⟩
def dkwX2_mostWishing_2 : List UInt8 := [29, 46, 42, 180, 0, 61, 28, 46, 164, 0, 5, 29, 61, 132, 3, 1, 167, 255, 196, 28, 172]
abbrev dktX2_mostWishing_2 : List UInt8 := dkwX2_mostWishing_2 ++ []
def dkwX2_mostWishing_1 : List UInt8 := [42, 180, 0, 3, 180, 0, 68, 29, 50, 180, 0, 157, 27, 159, 0, 24, 28, 155, 0, 18, 42, 180, 0, 61]
abbrev dktX2_mostWishing_1 : List UInt8 := dkwX2_mostWishing_1 ++ dktX2_mostWishing_2
def dkwX2_mostWishing_0 : List UInt8 := [2, 61, 3, 62, 29, 42, 180, 0, 3, 180, 0, 96, 162, 0, 55, 42, 180, 0, 61, 29, 46, 158, 0, 40]
abbrev dktX2_mostWishing_0 : List UInt8 := dkwX2_mostWishing_0 ++ dktX2_mostWishing_1
theorem dksX2_mostWishing_0 : cX2_mostWishing.data.toList.drop 0 = dktX2_mostWishing_0 := by decide +kernel
theorem dksX2_mostWishing_1 : cX2_mostWishing.data.toList.drop 24 = dktX2_mostWishing_1 := dk_seg dksX2_mostWishing_0 24 rfl rfl
theorem dksX2_mostWishing_2 : cX2_mostWishing.data.toList.drop 48 = dktX2_mostWishing_2 := dk_seg dksX2_mostWishing_1 24 rfl rfl
theorem dX2_mostWishing_0 : decode cX2_mostWishing 0 = .ok (.iconst (-1), 1) := dk_2 (dk_at dksX2_mostWishing_0 0 rfl rfl)
theorem dX2_mostWishing_1 : decode cX2_mostWishing 1 = .ok (.istore_n 2, 1) := dk_61 (dk_at dksX2_mostWishing_0 1 rfl rfl)
theorem dX2_mostWishing_2 : decode cX2_mostWishing 2 = .ok (.iconst 0, 1) := dk_3 (dk_at dksX2_mostWishing_0 2 rfl rfl)
theorem dX2_mostWishing_3 : decode cX2_mostWishing 3 = .ok (.istore_n 3, 1) := dk_62 (dk_at dksX2_mostWishing_0 3 rfl rfl)
theorem dX2_mostWishing_4 : decode cX2_mostWishing 4 = .ok (.iload_n 3, 1) := dk_29 (dk_at dksX2_mostWishing_0 4 rfl rfl)
theorem dX2_mostWishing_5 : decode cX2_mostWishing 5 = .ok (.aload_n 0, 1) := dk_42 (dk_at dksX2_mostWishing_0 5 rfl rfl)
theorem dX2_mostWishing_6 : decode cX2_mostWishing 6 = .ok (.getfield 3, 3) := dk_180 0 3 (dk_at dksX2_mostWishing_0 6 rfl rfl)
theorem dX2_mostWishing_9 : decode cX2_mostWishing 9 = .ok (.getfield 96, 3) := dk_180 0 96 (dk_at dksX2_mostWishing_0 9 rfl rfl)
theorem dX2_mostWishing_12 : decode cX2_mostWishing 12 = .ok (.if_icmp .ge 55, 3) := dk_162 0 55 (dk_at dksX2_mostWishing_0 12 rfl rfl)
theorem dX2_mostWishing_15 : decode cX2_mostWishing 15 = .ok (.aload_n 0, 1) := dk_42 (dk_at dksX2_mostWishing_0 15 rfl rfl)
theorem dX2_mostWishing_16 : decode cX2_mostWishing 16 = .ok (.getfield 61, 3) := dk_180 0 61 (dk_at dksX2_mostWishing_0 16 rfl rfl)
theorem dX2_mostWishing_19 : decode cX2_mostWishing 19 = .ok (.iload_n 3, 1) := dk_29 (dk_at dksX2_mostWishing_0 19 rfl rfl)
theorem dX2_mostWishing_20 : decode cX2_mostWishing 20 = .ok (.iaload, 1) := dk_46 (dk_at dksX2_mostWishing_0 20 rfl rfl)
theorem dX2_mostWishing_21 : decode cX2_mostWishing 21 = .ok (.ifCond .le 40, 3) := dk_158 0 40 (dk_at dksX2_mostWishing_0 21 rfl rfl)
theorem dX2_mostWishing_24 : decode cX2_mostWishing 24 = .ok (.aload_n 0, 1) := dk_42 (dk_at dksX2_mostWishing_1 0 rfl rfl)
theorem dX2_mostWishing_25 : decode cX2_mostWishing 25 = .ok (.getfield 3, 3) := dk_180 0 3 (dk_at dksX2_mostWishing_1 1 rfl rfl)
theorem dX2_mostWishing_28 : decode cX2_mostWishing 28 = .ok (.getfield 68, 3) := dk_180 0 68 (dk_at dksX2_mostWishing_1 4 rfl rfl)
theorem dX2_mostWishing_31 : decode cX2_mostWishing 31 = .ok (.iload_n 3, 1) := dk_29 (dk_at dksX2_mostWishing_1 7 rfl rfl)
theorem dX2_mostWishing_32 : decode cX2_mostWishing 32 = .ok (.aaload, 1) := dk_50 (dk_at dksX2_mostWishing_1 8 rfl rfl)
theorem dX2_mostWishing_33 : decode cX2_mostWishing 33 = .ok (.getfield 157, 3) := dk_180 0 157 (dk_at dksX2_mostWishing_1 9 rfl rfl)
theorem dX2_mostWishing_36 : decode cX2_mostWishing 36 = .ok (.iload_n 1, 1) := dk_27 (dk_at dksX2_mostWishing_1 12 rfl rfl)
theorem dX2_mostWishing_37 : decode cX2_mostWishing 37 = .ok (.if_icmp .eq 24, 3) := dk_159 0 24 (dk_at dksX2_mostWishing_1 13 rfl rfl)
theorem dX2_mostWishing_40 : decode cX2_mostWishing 40 = .ok (.iload_n 2, 1) := dk_28 (dk_at dksX2_mostWishing_1 16 rfl rfl)
theorem dX2_mostWishing_41 : decode cX2_mostWishing 41 = .ok (.ifCond .lt 18, 3) := dk_155 0 18 (dk_at dksX2_mostWishing_1 17 rfl rfl)
theorem dX2_mostWishing_44 : decode cX2_mostWishing 44 = .ok (.aload_n 0, 1) := dk_42 (dk_at dksX2_mostWishing_1 20 rfl rfl)
theorem dX2_mostWishing_45 : decode cX2_mostWishing 45 = .ok (.getfield 61, 3) := dk_180 0 61 (dk_at dksX2_mostWishing_1 21 rfl rfl)
theorem dX2_mostWishing_48 : decode cX2_mostWishing 48 = .ok (.iload_n 3, 1) := dk_29 (dk_at dksX2_mostWishing_2 0 rfl rfl)
theorem dX2_mostWishing_49 : decode cX2_mostWishing 49 = .ok (.iaload, 1) := dk_46 (dk_at dksX2_mostWishing_2 1 rfl rfl)
theorem dX2_mostWishing_50 : decode cX2_mostWishing 50 = .ok (.aload_n 0, 1) := dk_42 (dk_at dksX2_mostWishing_2 2 rfl rfl)
theorem dX2_mostWishing_51 : decode cX2_mostWishing 51 = .ok (.getfield 61, 3) := dk_180 0 61 (dk_at dksX2_mostWishing_2 3 rfl rfl)
theorem dX2_mostWishing_54 : decode cX2_mostWishing 54 = .ok (.iload_n 2, 1) := dk_28 (dk_at dksX2_mostWishing_2 6 rfl rfl)
theorem dX2_mostWishing_55 : decode cX2_mostWishing 55 = .ok (.iaload, 1) := dk_46 (dk_at dksX2_mostWishing_2 7 rfl rfl)
theorem dX2_mostWishing_56 : decode cX2_mostWishing 56 = .ok (.if_icmp .le 5, 3) := dk_164 0 5 (dk_at dksX2_mostWishing_2 8 rfl rfl)
theorem dX2_mostWishing_59 : decode cX2_mostWishing 59 = .ok (.iload_n 3, 1) := dk_29 (dk_at dksX2_mostWishing_2 11 rfl rfl)
theorem dX2_mostWishing_60 : decode cX2_mostWishing 60 = .ok (.istore_n 2, 1) := dk_61 (dk_at dksX2_mostWishing_2 12 rfl rfl)
theorem dX2_mostWishing_61 : decode cX2_mostWishing 61 = .ok (.iinc 3 1, 3) := dk_132 3 1 (dk_at dksX2_mostWishing_2 13 rfl rfl)
theorem dX2_mostWishing_64 : decode cX2_mostWishing 64 = .ok (.goto (-60), 3) := dk_167 255 196 (dk_at dksX2_mostWishing_2 16 rfl rfl)
theorem dX2_mostWishing_67 : decode cX2_mostWishing 67 = .ok (.iload_n 2, 1) := dk_28 (dk_at dksX2_mostWishing_2 19 rfl rfl)
theorem dX2_mostWishing_68 : decode cX2_mostWishing 68 = .ok (.ireturn, 1) := dk_172 (dk_at dksX2_mostWishing_2 20 rfl rfl)
abbrev cX2_speak : ByteArray := prog_16_method_15_code
def yX2_speak : MethodName := ⟨RX2, "speak", "(III)V"⟩
def dkwX2_speak_18 : List UInt8 := [181, 0, 86, 42, 89, 180, 0, 80, 4, 96, 181, 0, 80, 177]
abbrev dktX2_speak_18 : List UInt8 := dkwX2_speak_18 ++ []
def dkwX2_speak_17 : List UInt8 := [79, 42, 180, 0, 46, 27, 92, 46, 21, 7, 96, 79, 42, 180, 0, 58, 27, 92, 46, 4, 96, 79, 42, 27]
abbrev dktX2_speak_17 : List UInt8 := dkwX2_speak_17 ++ dktX2_speak_18
def dkwX2_speak_16 : List UInt8 := [181, 0, 83, 42, 89, 180, 0, 77, 21, 7, 96, 181, 0, 77, 42, 180, 0, 15, 28, 92, 46, 21, 7, 96]
abbrev dktX2_speak_16 : List UInt8 := dkwX2_speak_16 ++ dktX2_speak_17
def dkwX2_speak_15 : List UInt8 := [180, 0, 52, 27, 92, 46, 4, 96, 79, 42, 89, 180, 0, 83, 42, 180, 0, 31, 42, 180, 0, 80, 46, 128]
abbrev dktX2_speak_15 : List UInt8 := dkwX2_speak_15 ++ dktX2_speak_16
def dkwX2_speak_14 : List UInt8 := [155, 0, 31, 42, 180, 0, 40, 42, 180, 0, 34, 42, 180, 0, 80, 46, 46, 27, 159, 0, 13, 42]
abbrev dktX2_speak_14 : List UInt8 := dkwX2_speak_14 ++ dktX2_speak_15
def dkwX2_speak_13 : List UInt8 := [42, 180, 0, 80, 46, 155, 0, 48, 42, 180, 0, 40, 42, 180, 0, 34, 42, 180, 0, 80, 46, 46]
abbrev dktX2_speak_13 : List UInt8 := dkwX2_speak_13 ++ dktX2_speak_14
def dkwX2_speak_12 : List UInt8 := [42, 180, 0, 80, 46, 154, 0, 12, 42, 27, 28, 182, 0, 177, 167, 0, 5, 16, 254, 79, 42, 180, 0, 34]
abbrev dktX2_speak_12 : List UInt8 := dkwX2_speak_12 ++ dktX2_speak_13
def dkwX2_speak_11 : List UInt8 := [120, 128, 79, 132, 6, 255, 132, 8, 1, 167, 255, 148, 42, 180, 0, 34, 42, 180, 0, 80, 42, 180, 0, 31]
abbrev dktX2_speak_11 : List UInt8 := dkwX2_speak_11 ++ dktX2_speak_12
def dkwX2_speak_10 : List UInt8 := [42, 180, 0, 43, 21, 8, 42, 180, 0, 80, 79, 42, 180, 0, 31, 42, 180, 0, 80, 92, 46, 4, 21, 8]
abbrev dktX2_speak_10 : List UInt8 := dkwX2_speak_10 ++ dktX2_speak_11
def dkwX2_speak_9 : List UInt8 := [42, 180, 0, 83, 21, 8, 122, 4, 126, 4, 160, 0, 6, 167, 0, 41, 42, 180, 0, 40, 21, 8, 27, 79]
abbrev dktX2_speak_9 : List UInt8 := dkwX2_speak_9 ++ dktX2_speak_10
def dkwX2_speak_8 : List UInt8 := [180, 0, 115, 28, 160, 0, 74, 42, 180, 0, 3, 180, 0, 111, 21, 8, 50, 27, 182, 0, 103, 153, 0, 57]
abbrev dktX2_speak_8 : List UInt8 := dkwX2_speak_8 ++ dktX2_speak_9
def dkwX2_speak_7 : List UInt8 := [180, 0, 3, 180, 0, 108, 162, 0, 102, 21, 6, 158, 0, 97, 42, 180, 0, 3, 180, 0, 111, 21, 8, 50]
abbrev dktX2_speak_7 : List UInt8 := dkwX2_speak_7 ++ dktX2_speak_8
def dkwX2_speak_6 : List UInt8 := [180, 0, 80, 3, 79, 42, 180, 0, 37, 42, 180, 0, 80, 21, 4, 79, 3, 54, 8, 21, 8, 42]
abbrev dktX2_speak_6 : List UInt8 := dkwX2_speak_6 ++ dktX2_speak_7
def dkwX2_speak_5 : List UInt8 := [180, 0, 80, 42, 180, 0, 77, 79, 42, 180, 0, 28, 42, 180, 0, 80, 21, 7, 79, 42, 180, 0, 31, 42]
abbrev dktX2_speak_5 : List UInt8 := dkwX2_speak_5 ++ dktX2_speak_6
def dkwX2_speak_4 : List UInt8 := [180, 0, 22, 42, 180, 0, 80, 27, 79, 42, 180, 0, 25, 42, 180, 0, 80, 28, 79, 42, 180, 0, 19, 42]
abbrev dktX2_speak_4 : List UInt8 := dkwX2_speak_4 ++ dktX2_speak_5
def dkwX2_speak_3 : List UInt8 := [54, 7, 42, 180, 0, 49, 21, 4, 92, 46, 4, 96, 79, 42, 180, 0, 55, 27, 21, 4, 79, 42]
abbrev dktX2_speak_3 : List UInt8 := dkwX2_speak_3 ++ dktX2_speak_4
def dkwX2_speak_2 : List UInt8 := [21, 7, 104, 5, 96, 6, 108, 54, 7, 21, 4, 155, 0, 25, 21, 6, 4, 184, 0, 171, 54, 6, 4]
abbrev dktX2_speak_2 : List UInt8 := dkwX2_speak_2 ++ dktX2_speak_3
def dkwX2_speak_1 : List UInt8 := [54, 6, 29, 4, 21, 5, 96, 184, 0, 171, 54, 7, 42, 180, 0, 3, 180, 0, 174, 4, 160, 0, 13, 5]
abbrev dktX2_speak_1 : List UInt8 := dkwX2_speak_1 ++ dktX2_speak_2
def dkwX2_speak_0 : List UInt8 := [42, 27, 182, 0, 168, 54, 4, 42, 27, 28, 182, 0, 122, 54, 5, 21, 5, 29, 4, 100, 184, 0, 171]
abbrev dktX2_speak_0 : List UInt8 := dkwX2_speak_0 ++ dktX2_speak_1
theorem dksX2_speak_0 : cX2_speak.data.toList.drop 0 = dktX2_speak_0 := by decide +kernel
theorem dksX2_speak_1 : cX2_speak.data.toList.drop 23 = dktX2_speak_1 := dk_seg dksX2_speak_0 23 rfl rfl
theorem dksX2_speak_2 : cX2_speak.data.toList.drop 47 = dktX2_speak_2 := dk_seg dksX2_speak_1 24 rfl rfl
theorem dksX2_speak_3 : cX2_speak.data.toList.drop 70 = dktX2_speak_3 := dk_seg dksX2_speak_2 23 rfl rfl
theorem dksX2_speak_4 : cX2_speak.data.toList.drop 92 = dktX2_speak_4 := dk_seg dksX2_speak_3 22 rfl rfl
theorem dksX2_speak_5 : cX2_speak.data.toList.drop 116 = dktX2_speak_5 := dk_seg dksX2_speak_4 24 rfl rfl
theorem dksX2_speak_6 : cX2_speak.data.toList.drop 140 = dktX2_speak_6 := dk_seg dksX2_speak_5 24 rfl rfl
theorem dksX2_speak_7 : cX2_speak.data.toList.drop 162 = dktX2_speak_7 := dk_seg dksX2_speak_6 22 rfl rfl
theorem dksX2_speak_8 : cX2_speak.data.toList.drop 186 = dktX2_speak_8 := dk_seg dksX2_speak_7 24 rfl rfl
theorem dksX2_speak_9 : cX2_speak.data.toList.drop 210 = dktX2_speak_9 := dk_seg dksX2_speak_8 24 rfl rfl
theorem dksX2_speak_10 : cX2_speak.data.toList.drop 234 = dktX2_speak_10 := dk_seg dksX2_speak_9 24 rfl rfl
theorem dksX2_speak_11 : cX2_speak.data.toList.drop 258 = dktX2_speak_11 := dk_seg dksX2_speak_10 24 rfl rfl
theorem dksX2_speak_12 : cX2_speak.data.toList.drop 282 = dktX2_speak_12 := dk_seg dksX2_speak_11 24 rfl rfl
theorem dksX2_speak_13 : cX2_speak.data.toList.drop 306 = dktX2_speak_13 := dk_seg dksX2_speak_12 24 rfl rfl
theorem dksX2_speak_14 : cX2_speak.data.toList.drop 328 = dktX2_speak_14 := dk_seg dksX2_speak_13 22 rfl rfl
theorem dksX2_speak_15 : cX2_speak.data.toList.drop 350 = dktX2_speak_15 := dk_seg dksX2_speak_14 22 rfl rfl
theorem dksX2_speak_16 : cX2_speak.data.toList.drop 374 = dktX2_speak_16 := dk_seg dksX2_speak_15 24 rfl rfl
theorem dksX2_speak_17 : cX2_speak.data.toList.drop 398 = dktX2_speak_17 := dk_seg dksX2_speak_16 24 rfl rfl
theorem dksX2_speak_18 : cX2_speak.data.toList.drop 422 = dktX2_speak_18 := dk_seg dksX2_speak_17 24 rfl rfl
theorem dX2_speak_0 : decode cX2_speak 0 = .ok (.aload_n 0, 1) := dk_42 (dk_at dksX2_speak_0 0 rfl rfl)
theorem dX2_speak_1 : decode cX2_speak 1 = .ok (.iload_n 1, 1) := dk_27 (dk_at dksX2_speak_0 1 rfl rfl)
theorem dX2_speak_2 : decode cX2_speak 2 = .ok (.invokevirtual 168, 3) := dk_182 0 168 (dk_at dksX2_speak_0 2 rfl rfl)
theorem dX2_speak_5 : decode cX2_speak 5 = .ok (.istore 4, 2) := dk_54 4 (dk_at dksX2_speak_0 5 rfl rfl)
theorem dX2_speak_7 : decode cX2_speak 7 = .ok (.aload_n 0, 1) := dk_42 (dk_at dksX2_speak_0 7 rfl rfl)
theorem dX2_speak_8 : decode cX2_speak 8 = .ok (.iload_n 1, 1) := dk_27 (dk_at dksX2_speak_0 8 rfl rfl)
theorem dX2_speak_9 : decode cX2_speak 9 = .ok (.iload_n 2, 1) := dk_28 (dk_at dksX2_speak_0 9 rfl rfl)
theorem dX2_speak_10 : decode cX2_speak 10 = .ok (.invokevirtual 122, 3) := dk_182 0 122 (dk_at dksX2_speak_0 10 rfl rfl)
theorem dX2_speak_13 : decode cX2_speak 13 = .ok (.istore 5, 2) := dk_54 5 (dk_at dksX2_speak_0 13 rfl rfl)
theorem dX2_speak_15 : decode cX2_speak 15 = .ok (.iload 5, 2) := dk_21 5 (dk_at dksX2_speak_0 15 rfl rfl)
theorem dX2_speak_17 : decode cX2_speak 17 = .ok (.iload_n 3, 1) := dk_29 (dk_at dksX2_speak_0 17 rfl rfl)
theorem dX2_speak_18 : decode cX2_speak 18 = .ok (.iconst 1, 1) := dk_4 (dk_at dksX2_speak_0 18 rfl rfl)
theorem dX2_speak_19 : decode cX2_speak 19 = .ok (.isub, 1) := dk_100 (dk_at dksX2_speak_0 19 rfl rfl)
theorem dX2_speak_20 : decode cX2_speak 20 = .ok (.invokestatic 171, 3) := dk_184 0 171 (dk_at dksX2_speak_0 20 rfl rfl)
theorem dX2_speak_23 : decode cX2_speak 23 = .ok (.istore 6, 2) := dk_54 6 (dk_at dksX2_speak_1 0 rfl rfl)
theorem dX2_speak_25 : decode cX2_speak 25 = .ok (.iload_n 3, 1) := dk_29 (dk_at dksX2_speak_1 2 rfl rfl)
theorem dX2_speak_26 : decode cX2_speak 26 = .ok (.iconst 1, 1) := dk_4 (dk_at dksX2_speak_1 3 rfl rfl)
theorem dX2_speak_27 : decode cX2_speak 27 = .ok (.iload 5, 2) := dk_21 5 (dk_at dksX2_speak_1 4 rfl rfl)
theorem dX2_speak_29 : decode cX2_speak 29 = .ok (.iadd, 1) := dk_96 (dk_at dksX2_speak_1 6 rfl rfl)
theorem dX2_speak_30 : decode cX2_speak 30 = .ok (.invokestatic 171, 3) := dk_184 0 171 (dk_at dksX2_speak_1 7 rfl rfl)
theorem dX2_speak_33 : decode cX2_speak 33 = .ok (.istore 7, 2) := dk_54 7 (dk_at dksX2_speak_1 10 rfl rfl)
theorem dX2_speak_35 : decode cX2_speak 35 = .ok (.aload_n 0, 1) := dk_42 (dk_at dksX2_speak_1 12 rfl rfl)
theorem dX2_speak_36 : decode cX2_speak 36 = .ok (.getfield 3, 3) := dk_180 0 3 (dk_at dksX2_speak_1 13 rfl rfl)
theorem dX2_speak_39 : decode cX2_speak 39 = .ok (.getfield 174, 3) := dk_180 0 174 (dk_at dksX2_speak_1 16 rfl rfl)
theorem dX2_speak_42 : decode cX2_speak 42 = .ok (.iconst 1, 1) := dk_4 (dk_at dksX2_speak_1 19 rfl rfl)
theorem dX2_speak_43 : decode cX2_speak 43 = .ok (.if_icmp .ne 13, 3) := dk_160 0 13 (dk_at dksX2_speak_1 20 rfl rfl)
theorem dX2_speak_46 : decode cX2_speak 46 = .ok (.iconst 2, 1) := dk_5 (dk_at dksX2_speak_1 23 rfl rfl)
theorem dX2_speak_47 : decode cX2_speak 47 = .ok (.iload 7, 2) := dk_21 7 (dk_at dksX2_speak_2 0 rfl rfl)
theorem dX2_speak_49 : decode cX2_speak 49 = .ok (.imul, 1) := dk_104 (dk_at dksX2_speak_2 2 rfl rfl)
theorem dX2_speak_50 : decode cX2_speak 50 = .ok (.iconst 2, 1) := dk_5 (dk_at dksX2_speak_2 3 rfl rfl)
theorem dX2_speak_51 : decode cX2_speak 51 = .ok (.iadd, 1) := dk_96 (dk_at dksX2_speak_2 4 rfl rfl)
theorem dX2_speak_52 : decode cX2_speak 52 = .ok (.iconst 3, 1) := dk_6 (dk_at dksX2_speak_2 5 rfl rfl)
theorem dX2_speak_53 : decode cX2_speak 53 = .ok (.idiv, 1) := dk_108 (dk_at dksX2_speak_2 6 rfl rfl)
theorem dX2_speak_54 : decode cX2_speak 54 = .ok (.istore 7, 2) := dk_54 7 (dk_at dksX2_speak_2 7 rfl rfl)
theorem dX2_speak_56 : decode cX2_speak 56 = .ok (.iload 4, 2) := dk_21 4 (dk_at dksX2_speak_2 9 rfl rfl)
theorem dX2_speak_58 : decode cX2_speak 58 = .ok (.ifCond .lt 25, 3) := dk_155 0 25 (dk_at dksX2_speak_2 11 rfl rfl)
theorem dX2_speak_61 : decode cX2_speak 61 = .ok (.iload 6, 2) := dk_21 6 (dk_at dksX2_speak_2 14 rfl rfl)
theorem dX2_speak_63 : decode cX2_speak 63 = .ok (.iconst 1, 1) := dk_4 (dk_at dksX2_speak_2 16 rfl rfl)
theorem dX2_speak_64 : decode cX2_speak 64 = .ok (.invokestatic 171, 3) := dk_184 0 171 (dk_at dksX2_speak_2 17 rfl rfl)
theorem dX2_speak_67 : decode cX2_speak 67 = .ok (.istore 6, 2) := dk_54 6 (dk_at dksX2_speak_2 20 rfl rfl)
theorem dX2_speak_69 : decode cX2_speak 69 = .ok (.iconst 1, 1) := dk_4 (dk_at dksX2_speak_2 22 rfl rfl)
theorem dX2_speak_70 : decode cX2_speak 70 = .ok (.istore 7, 2) := dk_54 7 (dk_at dksX2_speak_3 0 rfl rfl)
theorem dX2_speak_72 : decode cX2_speak 72 = .ok (.aload_n 0, 1) := dk_42 (dk_at dksX2_speak_3 2 rfl rfl)
theorem dX2_speak_73 : decode cX2_speak 73 = .ok (.getfield 49, 3) := dk_180 0 49 (dk_at dksX2_speak_3 3 rfl rfl)
theorem dX2_speak_76 : decode cX2_speak 76 = .ok (.iload 4, 2) := dk_21 4 (dk_at dksX2_speak_3 6 rfl rfl)
theorem dX2_speak_78 : decode cX2_speak 78 = .ok (.dup2, 1) := dk_92 (dk_at dksX2_speak_3 8 rfl rfl)
theorem dX2_speak_79 : decode cX2_speak 79 = .ok (.iaload, 1) := dk_46 (dk_at dksX2_speak_3 9 rfl rfl)
theorem dX2_speak_80 : decode cX2_speak 80 = .ok (.iconst 1, 1) := dk_4 (dk_at dksX2_speak_3 10 rfl rfl)
theorem dX2_speak_81 : decode cX2_speak 81 = .ok (.iadd, 1) := dk_96 (dk_at dksX2_speak_3 11 rfl rfl)
theorem dX2_speak_82 : decode cX2_speak 82 = .ok (.iastore, 1) := dk_79 (dk_at dksX2_speak_3 12 rfl rfl)
theorem dX2_speak_83 : decode cX2_speak 83 = .ok (.aload_n 0, 1) := dk_42 (dk_at dksX2_speak_3 13 rfl rfl)
theorem dX2_speak_84 : decode cX2_speak 84 = .ok (.getfield 55, 3) := dk_180 0 55 (dk_at dksX2_speak_3 14 rfl rfl)
theorem dX2_speak_87 : decode cX2_speak 87 = .ok (.iload_n 1, 1) := dk_27 (dk_at dksX2_speak_3 17 rfl rfl)
theorem dX2_speak_88 : decode cX2_speak 88 = .ok (.iload 4, 2) := dk_21 4 (dk_at dksX2_speak_3 18 rfl rfl)
theorem dX2_speak_90 : decode cX2_speak 90 = .ok (.iastore, 1) := dk_79 (dk_at dksX2_speak_3 20 rfl rfl)
theorem dX2_speak_91 : decode cX2_speak 91 = .ok (.aload_n 0, 1) := dk_42 (dk_at dksX2_speak_3 21 rfl rfl)
theorem dX2_speak_92 : decode cX2_speak 92 = .ok (.getfield 22, 3) := dk_180 0 22 (dk_at dksX2_speak_4 0 rfl rfl)
theorem dX2_speak_95 : decode cX2_speak 95 = .ok (.aload_n 0, 1) := dk_42 (dk_at dksX2_speak_4 3 rfl rfl)
theorem dX2_speak_96 : decode cX2_speak 96 = .ok (.getfield 80, 3) := dk_180 0 80 (dk_at dksX2_speak_4 4 rfl rfl)
theorem dX2_speak_99 : decode cX2_speak 99 = .ok (.iload_n 1, 1) := dk_27 (dk_at dksX2_speak_4 7 rfl rfl)
theorem dX2_speak_100 : decode cX2_speak 100 = .ok (.iastore, 1) := dk_79 (dk_at dksX2_speak_4 8 rfl rfl)
theorem dX2_speak_101 : decode cX2_speak 101 = .ok (.aload_n 0, 1) := dk_42 (dk_at dksX2_speak_4 9 rfl rfl)
theorem dX2_speak_102 : decode cX2_speak 102 = .ok (.getfield 25, 3) := dk_180 0 25 (dk_at dksX2_speak_4 10 rfl rfl)
theorem dX2_speak_105 : decode cX2_speak 105 = .ok (.aload_n 0, 1) := dk_42 (dk_at dksX2_speak_4 13 rfl rfl)
theorem dX2_speak_106 : decode cX2_speak 106 = .ok (.getfield 80, 3) := dk_180 0 80 (dk_at dksX2_speak_4 14 rfl rfl)
theorem dX2_speak_109 : decode cX2_speak 109 = .ok (.iload_n 2, 1) := dk_28 (dk_at dksX2_speak_4 17 rfl rfl)
theorem dX2_speak_110 : decode cX2_speak 110 = .ok (.iastore, 1) := dk_79 (dk_at dksX2_speak_4 18 rfl rfl)
theorem dX2_speak_111 : decode cX2_speak 111 = .ok (.aload_n 0, 1) := dk_42 (dk_at dksX2_speak_4 19 rfl rfl)
theorem dX2_speak_112 : decode cX2_speak 112 = .ok (.getfield 19, 3) := dk_180 0 19 (dk_at dksX2_speak_4 20 rfl rfl)
theorem dX2_speak_115 : decode cX2_speak 115 = .ok (.aload_n 0, 1) := dk_42 (dk_at dksX2_speak_4 23 rfl rfl)
theorem dX2_speak_116 : decode cX2_speak 116 = .ok (.getfield 80, 3) := dk_180 0 80 (dk_at dksX2_speak_5 0 rfl rfl)
theorem dX2_speak_119 : decode cX2_speak 119 = .ok (.aload_n 0, 1) := dk_42 (dk_at dksX2_speak_5 3 rfl rfl)
theorem dX2_speak_120 : decode cX2_speak 120 = .ok (.getfield 77, 3) := dk_180 0 77 (dk_at dksX2_speak_5 4 rfl rfl)
theorem dX2_speak_123 : decode cX2_speak 123 = .ok (.iastore, 1) := dk_79 (dk_at dksX2_speak_5 7 rfl rfl)
theorem dX2_speak_124 : decode cX2_speak 124 = .ok (.aload_n 0, 1) := dk_42 (dk_at dksX2_speak_5 8 rfl rfl)
theorem dX2_speak_125 : decode cX2_speak 125 = .ok (.getfield 28, 3) := dk_180 0 28 (dk_at dksX2_speak_5 9 rfl rfl)
theorem dX2_speak_128 : decode cX2_speak 128 = .ok (.aload_n 0, 1) := dk_42 (dk_at dksX2_speak_5 12 rfl rfl)
theorem dX2_speak_129 : decode cX2_speak 129 = .ok (.getfield 80, 3) := dk_180 0 80 (dk_at dksX2_speak_5 13 rfl rfl)
theorem dX2_speak_132 : decode cX2_speak 132 = .ok (.iload 7, 2) := dk_21 7 (dk_at dksX2_speak_5 16 rfl rfl)
theorem dX2_speak_134 : decode cX2_speak 134 = .ok (.iastore, 1) := dk_79 (dk_at dksX2_speak_5 18 rfl rfl)
theorem dX2_speak_135 : decode cX2_speak 135 = .ok (.aload_n 0, 1) := dk_42 (dk_at dksX2_speak_5 19 rfl rfl)
theorem dX2_speak_136 : decode cX2_speak 136 = .ok (.getfield 31, 3) := dk_180 0 31 (dk_at dksX2_speak_5 20 rfl rfl)
theorem dX2_speak_139 : decode cX2_speak 139 = .ok (.aload_n 0, 1) := dk_42 (dk_at dksX2_speak_5 23 rfl rfl)
theorem dX2_speak_140 : decode cX2_speak 140 = .ok (.getfield 80, 3) := dk_180 0 80 (dk_at dksX2_speak_6 0 rfl rfl)
theorem dX2_speak_143 : decode cX2_speak 143 = .ok (.iconst 0, 1) := dk_3 (dk_at dksX2_speak_6 3 rfl rfl)
theorem dX2_speak_144 : decode cX2_speak 144 = .ok (.iastore, 1) := dk_79 (dk_at dksX2_speak_6 4 rfl rfl)
theorem dX2_speak_145 : decode cX2_speak 145 = .ok (.aload_n 0, 1) := dk_42 (dk_at dksX2_speak_6 5 rfl rfl)
theorem dX2_speak_146 : decode cX2_speak 146 = .ok (.getfield 37, 3) := dk_180 0 37 (dk_at dksX2_speak_6 6 rfl rfl)
theorem dX2_speak_149 : decode cX2_speak 149 = .ok (.aload_n 0, 1) := dk_42 (dk_at dksX2_speak_6 9 rfl rfl)
theorem dX2_speak_150 : decode cX2_speak 150 = .ok (.getfield 80, 3) := dk_180 0 80 (dk_at dksX2_speak_6 10 rfl rfl)
theorem dX2_speak_153 : decode cX2_speak 153 = .ok (.iload 4, 2) := dk_21 4 (dk_at dksX2_speak_6 13 rfl rfl)
theorem dX2_speak_155 : decode cX2_speak 155 = .ok (.iastore, 1) := dk_79 (dk_at dksX2_speak_6 15 rfl rfl)
theorem dX2_speak_156 : decode cX2_speak 156 = .ok (.iconst 0, 1) := dk_3 (dk_at dksX2_speak_6 16 rfl rfl)
theorem dX2_speak_157 : decode cX2_speak 157 = .ok (.istore 8, 2) := dk_54 8 (dk_at dksX2_speak_6 17 rfl rfl)
theorem dX2_speak_159 : decode cX2_speak 159 = .ok (.iload 8, 2) := dk_21 8 (dk_at dksX2_speak_6 19 rfl rfl)
theorem dX2_speak_161 : decode cX2_speak 161 = .ok (.aload_n 0, 1) := dk_42 (dk_at dksX2_speak_6 21 rfl rfl)
theorem dX2_speak_162 : decode cX2_speak 162 = .ok (.getfield 3, 3) := dk_180 0 3 (dk_at dksX2_speak_7 0 rfl rfl)
theorem dX2_speak_165 : decode cX2_speak 165 = .ok (.getfield 108, 3) := dk_180 0 108 (dk_at dksX2_speak_7 3 rfl rfl)
theorem dX2_speak_168 : decode cX2_speak 168 = .ok (.if_icmp .ge 102, 3) := dk_162 0 102 (dk_at dksX2_speak_7 6 rfl rfl)
theorem dX2_speak_171 : decode cX2_speak 171 = .ok (.iload 6, 2) := dk_21 6 (dk_at dksX2_speak_7 9 rfl rfl)
theorem dX2_speak_173 : decode cX2_speak 173 = .ok (.ifCond .le 97, 3) := dk_158 0 97 (dk_at dksX2_speak_7 11 rfl rfl)
theorem dX2_speak_176 : decode cX2_speak 176 = .ok (.aload_n 0, 1) := dk_42 (dk_at dksX2_speak_7 14 rfl rfl)
theorem dX2_speak_177 : decode cX2_speak 177 = .ok (.getfield 3, 3) := dk_180 0 3 (dk_at dksX2_speak_7 15 rfl rfl)
theorem dX2_speak_180 : decode cX2_speak 180 = .ok (.getfield 111, 3) := dk_180 0 111 (dk_at dksX2_speak_7 18 rfl rfl)
theorem dX2_speak_183 : decode cX2_speak 183 = .ok (.iload 8, 2) := dk_21 8 (dk_at dksX2_speak_7 21 rfl rfl)
theorem dX2_speak_185 : decode cX2_speak 185 = .ok (.aaload, 1) := dk_50 (dk_at dksX2_speak_7 23 rfl rfl)
theorem dX2_speak_186 : decode cX2_speak 186 = .ok (.getfield 115, 3) := dk_180 0 115 (dk_at dksX2_speak_8 0 rfl rfl)
theorem dX2_speak_189 : decode cX2_speak 189 = .ok (.iload_n 2, 1) := dk_28 (dk_at dksX2_speak_8 3 rfl rfl)
theorem dX2_speak_190 : decode cX2_speak 190 = .ok (.if_icmp .ne 74, 3) := dk_160 0 74 (dk_at dksX2_speak_8 4 rfl rfl)
theorem dX2_speak_193 : decode cX2_speak 193 = .ok (.aload_n 0, 1) := dk_42 (dk_at dksX2_speak_8 7 rfl rfl)
theorem dX2_speak_194 : decode cX2_speak 194 = .ok (.getfield 3, 3) := dk_180 0 3 (dk_at dksX2_speak_8 8 rfl rfl)
theorem dX2_speak_197 : decode cX2_speak 197 = .ok (.getfield 111, 3) := dk_180 0 111 (dk_at dksX2_speak_8 11 rfl rfl)
theorem dX2_speak_200 : decode cX2_speak 200 = .ok (.iload 8, 2) := dk_21 8 (dk_at dksX2_speak_8 14 rfl rfl)
theorem dX2_speak_202 : decode cX2_speak 202 = .ok (.aaload, 1) := dk_50 (dk_at dksX2_speak_8 16 rfl rfl)
theorem dX2_speak_203 : decode cX2_speak 203 = .ok (.iload_n 1, 1) := dk_27 (dk_at dksX2_speak_8 17 rfl rfl)
theorem dX2_speak_204 : decode cX2_speak 204 = .ok (.invokevirtual 103, 3) := dk_182 0 103 (dk_at dksX2_speak_8 18 rfl rfl)
theorem dX2_speak_207 : decode cX2_speak 207 = .ok (.ifCond .eq 57, 3) := dk_153 0 57 (dk_at dksX2_speak_8 21 rfl rfl)
theorem dX2_speak_210 : decode cX2_speak 210 = .ok (.aload_n 0, 1) := dk_42 (dk_at dksX2_speak_9 0 rfl rfl)
theorem dX2_speak_211 : decode cX2_speak 211 = .ok (.getfield 83, 3) := dk_180 0 83 (dk_at dksX2_speak_9 1 rfl rfl)
theorem dX2_speak_214 : decode cX2_speak 214 = .ok (.iload 8, 2) := dk_21 8 (dk_at dksX2_speak_9 4 rfl rfl)
theorem dX2_speak_216 : decode cX2_speak 216 = .ok (.ishr, 1) := dk_122 (dk_at dksX2_speak_9 6 rfl rfl)
theorem dX2_speak_217 : decode cX2_speak 217 = .ok (.iconst 1, 1) := dk_4 (dk_at dksX2_speak_9 7 rfl rfl)
theorem dX2_speak_218 : decode cX2_speak 218 = .ok (.iand, 1) := dk_126 (dk_at dksX2_speak_9 8 rfl rfl)
theorem dX2_speak_219 : decode cX2_speak 219 = .ok (.iconst 1, 1) := dk_4 (dk_at dksX2_speak_9 9 rfl rfl)
theorem dX2_speak_220 : decode cX2_speak 220 = .ok (.if_icmp .ne 6, 3) := dk_160 0 6 (dk_at dksX2_speak_9 10 rfl rfl)
theorem dX2_speak_223 : decode cX2_speak 223 = .ok (.goto 41, 3) := dk_167 0 41 (dk_at dksX2_speak_9 13 rfl rfl)
theorem dX2_speak_226 : decode cX2_speak 226 = .ok (.aload_n 0, 1) := dk_42 (dk_at dksX2_speak_9 16 rfl rfl)
theorem dX2_speak_227 : decode cX2_speak 227 = .ok (.getfield 40, 3) := dk_180 0 40 (dk_at dksX2_speak_9 17 rfl rfl)
theorem dX2_speak_230 : decode cX2_speak 230 = .ok (.iload 8, 2) := dk_21 8 (dk_at dksX2_speak_9 20 rfl rfl)
theorem dX2_speak_232 : decode cX2_speak 232 = .ok (.iload_n 1, 1) := dk_27 (dk_at dksX2_speak_9 22 rfl rfl)
theorem dX2_speak_233 : decode cX2_speak 233 = .ok (.iastore, 1) := dk_79 (dk_at dksX2_speak_9 23 rfl rfl)
theorem dX2_speak_234 : decode cX2_speak 234 = .ok (.aload_n 0, 1) := dk_42 (dk_at dksX2_speak_10 0 rfl rfl)
theorem dX2_speak_235 : decode cX2_speak 235 = .ok (.getfield 43, 3) := dk_180 0 43 (dk_at dksX2_speak_10 1 rfl rfl)
theorem dX2_speak_238 : decode cX2_speak 238 = .ok (.iload 8, 2) := dk_21 8 (dk_at dksX2_speak_10 4 rfl rfl)
theorem dX2_speak_240 : decode cX2_speak 240 = .ok (.aload_n 0, 1) := dk_42 (dk_at dksX2_speak_10 6 rfl rfl)
theorem dX2_speak_241 : decode cX2_speak 241 = .ok (.getfield 80, 3) := dk_180 0 80 (dk_at dksX2_speak_10 7 rfl rfl)
theorem dX2_speak_244 : decode cX2_speak 244 = .ok (.iastore, 1) := dk_79 (dk_at dksX2_speak_10 10 rfl rfl)
theorem dX2_speak_245 : decode cX2_speak 245 = .ok (.aload_n 0, 1) := dk_42 (dk_at dksX2_speak_10 11 rfl rfl)
theorem dX2_speak_246 : decode cX2_speak 246 = .ok (.getfield 31, 3) := dk_180 0 31 (dk_at dksX2_speak_10 12 rfl rfl)
theorem dX2_speak_249 : decode cX2_speak 249 = .ok (.aload_n 0, 1) := dk_42 (dk_at dksX2_speak_10 15 rfl rfl)
theorem dX2_speak_250 : decode cX2_speak 250 = .ok (.getfield 80, 3) := dk_180 0 80 (dk_at dksX2_speak_10 16 rfl rfl)
theorem dX2_speak_253 : decode cX2_speak 253 = .ok (.dup2, 1) := dk_92 (dk_at dksX2_speak_10 19 rfl rfl)
theorem dX2_speak_254 : decode cX2_speak 254 = .ok (.iaload, 1) := dk_46 (dk_at dksX2_speak_10 20 rfl rfl)
theorem dX2_speak_255 : decode cX2_speak 255 = .ok (.iconst 1, 1) := dk_4 (dk_at dksX2_speak_10 21 rfl rfl)
theorem dX2_speak_256 : decode cX2_speak 256 = .ok (.iload 8, 2) := dk_21 8 (dk_at dksX2_speak_10 22 rfl rfl)
theorem dX2_speak_258 : decode cX2_speak 258 = .ok (.ishl, 1) := dk_120 (dk_at dksX2_speak_11 0 rfl rfl)
theorem dX2_speak_259 : decode cX2_speak 259 = .ok (.ior, 1) := dk_128 (dk_at dksX2_speak_11 1 rfl rfl)
theorem dX2_speak_260 : decode cX2_speak 260 = .ok (.iastore, 1) := dk_79 (dk_at dksX2_speak_11 2 rfl rfl)
theorem dX2_speak_261 : decode cX2_speak 261 = .ok (.iinc 6 (-1), 3) := dk_132 6 255 (dk_at dksX2_speak_11 3 rfl rfl)
theorem dX2_speak_264 : decode cX2_speak 264 = .ok (.iinc 8 1, 3) := dk_132 8 1 (dk_at dksX2_speak_11 6 rfl rfl)
theorem dX2_speak_267 : decode cX2_speak 267 = .ok (.goto (-108), 3) := dk_167 255 148 (dk_at dksX2_speak_11 9 rfl rfl)
theorem dX2_speak_270 : decode cX2_speak 270 = .ok (.aload_n 0, 1) := dk_42 (dk_at dksX2_speak_11 12 rfl rfl)
theorem dX2_speak_271 : decode cX2_speak 271 = .ok (.getfield 34, 3) := dk_180 0 34 (dk_at dksX2_speak_11 13 rfl rfl)
theorem dX2_speak_274 : decode cX2_speak 274 = .ok (.aload_n 0, 1) := dk_42 (dk_at dksX2_speak_11 16 rfl rfl)
theorem dX2_speak_275 : decode cX2_speak 275 = .ok (.getfield 80, 3) := dk_180 0 80 (dk_at dksX2_speak_11 17 rfl rfl)
theorem dX2_speak_278 : decode cX2_speak 278 = .ok (.aload_n 0, 1) := dk_42 (dk_at dksX2_speak_11 20 rfl rfl)
theorem dX2_speak_279 : decode cX2_speak 279 = .ok (.getfield 31, 3) := dk_180 0 31 (dk_at dksX2_speak_11 21 rfl rfl)
theorem dX2_speak_282 : decode cX2_speak 282 = .ok (.aload_n 0, 1) := dk_42 (dk_at dksX2_speak_12 0 rfl rfl)
theorem dX2_speak_283 : decode cX2_speak 283 = .ok (.getfield 80, 3) := dk_180 0 80 (dk_at dksX2_speak_12 1 rfl rfl)
theorem dX2_speak_286 : decode cX2_speak 286 = .ok (.iaload, 1) := dk_46 (dk_at dksX2_speak_12 4 rfl rfl)
theorem dX2_speak_287 : decode cX2_speak 287 = .ok (.ifCond .ne 12, 3) := dk_154 0 12 (dk_at dksX2_speak_12 5 rfl rfl)
theorem dX2_speak_290 : decode cX2_speak 290 = .ok (.aload_n 0, 1) := dk_42 (dk_at dksX2_speak_12 8 rfl rfl)
theorem dX2_speak_291 : decode cX2_speak 291 = .ok (.iload_n 1, 1) := dk_27 (dk_at dksX2_speak_12 9 rfl rfl)
theorem dX2_speak_292 : decode cX2_speak 292 = .ok (.iload_n 2, 1) := dk_28 (dk_at dksX2_speak_12 10 rfl rfl)
theorem dX2_speak_293 : decode cX2_speak 293 = .ok (.invokevirtual 177, 3) := dk_182 0 177 (dk_at dksX2_speak_12 11 rfl rfl)
theorem dX2_speak_296 : decode cX2_speak 296 = .ok (.goto 5, 3) := dk_167 0 5 (dk_at dksX2_speak_12 14 rfl rfl)
theorem dX2_speak_299 : decode cX2_speak 299 = .ok (.bipush (-2), 2) := dk_16 254 (dk_at dksX2_speak_12 17 rfl rfl)
theorem dX2_speak_301 : decode cX2_speak 301 = .ok (.iastore, 1) := dk_79 (dk_at dksX2_speak_12 19 rfl rfl)
theorem dX2_speak_302 : decode cX2_speak 302 = .ok (.aload_n 0, 1) := dk_42 (dk_at dksX2_speak_12 20 rfl rfl)
theorem dX2_speak_303 : decode cX2_speak 303 = .ok (.getfield 34, 3) := dk_180 0 34 (dk_at dksX2_speak_12 21 rfl rfl)
theorem dX2_speak_306 : decode cX2_speak 306 = .ok (.aload_n 0, 1) := dk_42 (dk_at dksX2_speak_13 0 rfl rfl)
theorem dX2_speak_307 : decode cX2_speak 307 = .ok (.getfield 80, 3) := dk_180 0 80 (dk_at dksX2_speak_13 1 rfl rfl)
theorem dX2_speak_310 : decode cX2_speak 310 = .ok (.iaload, 1) := dk_46 (dk_at dksX2_speak_13 4 rfl rfl)
theorem dX2_speak_311 : decode cX2_speak 311 = .ok (.ifCond .lt 48, 3) := dk_155 0 48 (dk_at dksX2_speak_13 5 rfl rfl)
theorem dX2_speak_314 : decode cX2_speak 314 = .ok (.aload_n 0, 1) := dk_42 (dk_at dksX2_speak_13 8 rfl rfl)
theorem dX2_speak_315 : decode cX2_speak 315 = .ok (.getfield 40, 3) := dk_180 0 40 (dk_at dksX2_speak_13 9 rfl rfl)
theorem dX2_speak_318 : decode cX2_speak 318 = .ok (.aload_n 0, 1) := dk_42 (dk_at dksX2_speak_13 12 rfl rfl)
theorem dX2_speak_319 : decode cX2_speak 319 = .ok (.getfield 34, 3) := dk_180 0 34 (dk_at dksX2_speak_13 13 rfl rfl)
theorem dX2_speak_322 : decode cX2_speak 322 = .ok (.aload_n 0, 1) := dk_42 (dk_at dksX2_speak_13 16 rfl rfl)
theorem dX2_speak_323 : decode cX2_speak 323 = .ok (.getfield 80, 3) := dk_180 0 80 (dk_at dksX2_speak_13 17 rfl rfl)
theorem dX2_speak_326 : decode cX2_speak 326 = .ok (.iaload, 1) := dk_46 (dk_at dksX2_speak_13 20 rfl rfl)
theorem dX2_speak_327 : decode cX2_speak 327 = .ok (.iaload, 1) := dk_46 (dk_at dksX2_speak_13 21 rfl rfl)
theorem dX2_speak_328 : decode cX2_speak 328 = .ok (.ifCond .lt 31, 3) := dk_155 0 31 (dk_at dksX2_speak_14 0 rfl rfl)
theorem dX2_speak_331 : decode cX2_speak 331 = .ok (.aload_n 0, 1) := dk_42 (dk_at dksX2_speak_14 3 rfl rfl)
theorem dX2_speak_332 : decode cX2_speak 332 = .ok (.getfield 40, 3) := dk_180 0 40 (dk_at dksX2_speak_14 4 rfl rfl)
theorem dX2_speak_335 : decode cX2_speak 335 = .ok (.aload_n 0, 1) := dk_42 (dk_at dksX2_speak_14 7 rfl rfl)
theorem dX2_speak_336 : decode cX2_speak 336 = .ok (.getfield 34, 3) := dk_180 0 34 (dk_at dksX2_speak_14 8 rfl rfl)
theorem dX2_speak_339 : decode cX2_speak 339 = .ok (.aload_n 0, 1) := dk_42 (dk_at dksX2_speak_14 11 rfl rfl)
theorem dX2_speak_340 : decode cX2_speak 340 = .ok (.getfield 80, 3) := dk_180 0 80 (dk_at dksX2_speak_14 12 rfl rfl)
theorem dX2_speak_343 : decode cX2_speak 343 = .ok (.iaload, 1) := dk_46 (dk_at dksX2_speak_14 15 rfl rfl)
theorem dX2_speak_344 : decode cX2_speak 344 = .ok (.iaload, 1) := dk_46 (dk_at dksX2_speak_14 16 rfl rfl)
theorem dX2_speak_345 : decode cX2_speak 345 = .ok (.iload_n 1, 1) := dk_27 (dk_at dksX2_speak_14 17 rfl rfl)
theorem dX2_speak_346 : decode cX2_speak 346 = .ok (.if_icmp .eq 13, 3) := dk_159 0 13 (dk_at dksX2_speak_14 18 rfl rfl)
theorem dX2_speak_349 : decode cX2_speak 349 = .ok (.aload_n 0, 1) := dk_42 (dk_at dksX2_speak_14 21 rfl rfl)
theorem dX2_speak_350 : decode cX2_speak 350 = .ok (.getfield 52, 3) := dk_180 0 52 (dk_at dksX2_speak_15 0 rfl rfl)
theorem dX2_speak_353 : decode cX2_speak 353 = .ok (.iload_n 1, 1) := dk_27 (dk_at dksX2_speak_15 3 rfl rfl)
theorem dX2_speak_354 : decode cX2_speak 354 = .ok (.dup2, 1) := dk_92 (dk_at dksX2_speak_15 4 rfl rfl)
theorem dX2_speak_355 : decode cX2_speak 355 = .ok (.iaload, 1) := dk_46 (dk_at dksX2_speak_15 5 rfl rfl)
theorem dX2_speak_356 : decode cX2_speak 356 = .ok (.iconst 1, 1) := dk_4 (dk_at dksX2_speak_15 6 rfl rfl)
theorem dX2_speak_357 : decode cX2_speak 357 = .ok (.iadd, 1) := dk_96 (dk_at dksX2_speak_15 7 rfl rfl)
theorem dX2_speak_358 : decode cX2_speak 358 = .ok (.iastore, 1) := dk_79 (dk_at dksX2_speak_15 8 rfl rfl)
theorem dX2_speak_359 : decode cX2_speak 359 = .ok (.aload_n 0, 1) := dk_42 (dk_at dksX2_speak_15 9 rfl rfl)
theorem dX2_speak_360 : decode cX2_speak 360 = .ok (.dup, 1) := dk_89 (dk_at dksX2_speak_15 10 rfl rfl)
theorem dX2_speak_361 : decode cX2_speak 361 = .ok (.getfield 83, 3) := dk_180 0 83 (dk_at dksX2_speak_15 11 rfl rfl)
theorem dX2_speak_364 : decode cX2_speak 364 = .ok (.aload_n 0, 1) := dk_42 (dk_at dksX2_speak_15 14 rfl rfl)
theorem dX2_speak_365 : decode cX2_speak 365 = .ok (.getfield 31, 3) := dk_180 0 31 (dk_at dksX2_speak_15 15 rfl rfl)
theorem dX2_speak_368 : decode cX2_speak 368 = .ok (.aload_n 0, 1) := dk_42 (dk_at dksX2_speak_15 18 rfl rfl)
theorem dX2_speak_369 : decode cX2_speak 369 = .ok (.getfield 80, 3) := dk_180 0 80 (dk_at dksX2_speak_15 19 rfl rfl)
theorem dX2_speak_372 : decode cX2_speak 372 = .ok (.iaload, 1) := dk_46 (dk_at dksX2_speak_15 22 rfl rfl)
theorem dX2_speak_373 : decode cX2_speak 373 = .ok (.ior, 1) := dk_128 (dk_at dksX2_speak_15 23 rfl rfl)
theorem dX2_speak_374 : decode cX2_speak 374 = .ok (.putfield 83, 3) := dk_181 0 83 (dk_at dksX2_speak_16 0 rfl rfl)
theorem dX2_speak_377 : decode cX2_speak 377 = .ok (.aload_n 0, 1) := dk_42 (dk_at dksX2_speak_16 3 rfl rfl)
theorem dX2_speak_378 : decode cX2_speak 378 = .ok (.dup, 1) := dk_89 (dk_at dksX2_speak_16 4 rfl rfl)
theorem dX2_speak_379 : decode cX2_speak 379 = .ok (.getfield 77, 3) := dk_180 0 77 (dk_at dksX2_speak_16 5 rfl rfl)
theorem dX2_speak_382 : decode cX2_speak 382 = .ok (.iload 7, 2) := dk_21 7 (dk_at dksX2_speak_16 8 rfl rfl)
theorem dX2_speak_384 : decode cX2_speak 384 = .ok (.iadd, 1) := dk_96 (dk_at dksX2_speak_16 10 rfl rfl)
theorem dX2_speak_385 : decode cX2_speak 385 = .ok (.putfield 77, 3) := dk_181 0 77 (dk_at dksX2_speak_16 11 rfl rfl)
theorem dX2_speak_388 : decode cX2_speak 388 = .ok (.aload_n 0, 1) := dk_42 (dk_at dksX2_speak_16 14 rfl rfl)
theorem dX2_speak_389 : decode cX2_speak 389 = .ok (.getfield 15, 3) := dk_180 0 15 (dk_at dksX2_speak_16 15 rfl rfl)
theorem dX2_speak_392 : decode cX2_speak 392 = .ok (.iload_n 2, 1) := dk_28 (dk_at dksX2_speak_16 18 rfl rfl)
theorem dX2_speak_393 : decode cX2_speak 393 = .ok (.dup2, 1) := dk_92 (dk_at dksX2_speak_16 19 rfl rfl)
theorem dX2_speak_394 : decode cX2_speak 394 = .ok (.iaload, 1) := dk_46 (dk_at dksX2_speak_16 20 rfl rfl)
theorem dX2_speak_395 : decode cX2_speak 395 = .ok (.iload 7, 2) := dk_21 7 (dk_at dksX2_speak_16 21 rfl rfl)
theorem dX2_speak_397 : decode cX2_speak 397 = .ok (.iadd, 1) := dk_96 (dk_at dksX2_speak_16 23 rfl rfl)
theorem dX2_speak_398 : decode cX2_speak 398 = .ok (.iastore, 1) := dk_79 (dk_at dksX2_speak_17 0 rfl rfl)
theorem dX2_speak_399 : decode cX2_speak 399 = .ok (.aload_n 0, 1) := dk_42 (dk_at dksX2_speak_17 1 rfl rfl)
theorem dX2_speak_400 : decode cX2_speak 400 = .ok (.getfield 46, 3) := dk_180 0 46 (dk_at dksX2_speak_17 2 rfl rfl)
theorem dX2_speak_403 : decode cX2_speak 403 = .ok (.iload_n 1, 1) := dk_27 (dk_at dksX2_speak_17 5 rfl rfl)
theorem dX2_speak_404 : decode cX2_speak 404 = .ok (.dup2, 1) := dk_92 (dk_at dksX2_speak_17 6 rfl rfl)
theorem dX2_speak_405 : decode cX2_speak 405 = .ok (.iaload, 1) := dk_46 (dk_at dksX2_speak_17 7 rfl rfl)
theorem dX2_speak_406 : decode cX2_speak 406 = .ok (.iload 7, 2) := dk_21 7 (dk_at dksX2_speak_17 8 rfl rfl)
theorem dX2_speak_408 : decode cX2_speak 408 = .ok (.iadd, 1) := dk_96 (dk_at dksX2_speak_17 10 rfl rfl)
theorem dX2_speak_409 : decode cX2_speak 409 = .ok (.iastore, 1) := dk_79 (dk_at dksX2_speak_17 11 rfl rfl)
theorem dX2_speak_410 : decode cX2_speak 410 = .ok (.aload_n 0, 1) := dk_42 (dk_at dksX2_speak_17 12 rfl rfl)
theorem dX2_speak_411 : decode cX2_speak 411 = .ok (.getfield 58, 3) := dk_180 0 58 (dk_at dksX2_speak_17 13 rfl rfl)
theorem dX2_speak_414 : decode cX2_speak 414 = .ok (.iload_n 1, 1) := dk_27 (dk_at dksX2_speak_17 16 rfl rfl)
theorem dX2_speak_415 : decode cX2_speak 415 = .ok (.dup2, 1) := dk_92 (dk_at dksX2_speak_17 17 rfl rfl)
theorem dX2_speak_416 : decode cX2_speak 416 = .ok (.iaload, 1) := dk_46 (dk_at dksX2_speak_17 18 rfl rfl)
theorem dX2_speak_417 : decode cX2_speak 417 = .ok (.iconst 1, 1) := dk_4 (dk_at dksX2_speak_17 19 rfl rfl)
theorem dX2_speak_418 : decode cX2_speak 418 = .ok (.iadd, 1) := dk_96 (dk_at dksX2_speak_17 20 rfl rfl)
theorem dX2_speak_419 : decode cX2_speak 419 = .ok (.iastore, 1) := dk_79 (dk_at dksX2_speak_17 21 rfl rfl)
theorem dX2_speak_420 : decode cX2_speak 420 = .ok (.aload_n 0, 1) := dk_42 (dk_at dksX2_speak_17 22 rfl rfl)
theorem dX2_speak_421 : decode cX2_speak 421 = .ok (.iload_n 1, 1) := dk_27 (dk_at dksX2_speak_17 23 rfl rfl)
theorem dX2_speak_422 : decode cX2_speak 422 = .ok (.putfield 86, 3) := dk_181 0 86 (dk_at dksX2_speak_18 0 rfl rfl)
theorem dX2_speak_425 : decode cX2_speak 425 = .ok (.aload_n 0, 1) := dk_42 (dk_at dksX2_speak_18 3 rfl rfl)
theorem dX2_speak_426 : decode cX2_speak 426 = .ok (.dup, 1) := dk_89 (dk_at dksX2_speak_18 4 rfl rfl)
theorem dX2_speak_427 : decode cX2_speak 427 = .ok (.getfield 80, 3) := dk_180 0 80 (dk_at dksX2_speak_18 5 rfl rfl)
theorem dX2_speak_430 : decode cX2_speak 430 = .ok (.iconst 1, 1) := dk_4 (dk_at dksX2_speak_18 8 rfl rfl)
theorem dX2_speak_431 : decode cX2_speak 431 = .ok (.iadd, 1) := dk_96 (dk_at dksX2_speak_18 9 rfl rfl)
theorem dX2_speak_432 : decode cX2_speak 432 = .ok (.putfield 80, 3) := dk_181 0 80 (dk_at dksX2_speak_18 10 rfl rfl)
theorem dX2_speak_435 : decode cX2_speak 435 = .ok (.return_, 1) := dk_177 (dk_at dksX2_speak_18 13 rfl rfl)
abbrev cX2_stopperOf : ByteArray := prog_16_method_14_code
def yX2_stopperOf : MethodName := ⟨RX2, "stopperOf", "(I)I"⟩
def dkwX2_stopperOf_3 : List UInt8 := [180, 0, 61, 27, 46, 164, 0, 5, 28, 172, 132, 2, 1, 167, 255, 173, 16, 254, 172]
abbrev dktX2_stopperOf_3 : List UInt8 := dkwX2_stopperOf_3 ++ []
def dkwX2_stopperOf_2 : List UInt8 := [42, 180, 0, 3, 180, 0, 68, 27, 50, 180, 0, 165, 6, 96, 161, 0, 20, 42, 180, 0, 61, 28, 46, 42]
abbrev dktX2_stopperOf_2 : List UInt8 := dkwX2_stopperOf_2 ++ dktX2_stopperOf_3
def dkwX2_stopperOf_1 : List UInt8 := [46, 159, 0, 57, 42, 28, 182, 0, 99, 153, 0, 49, 42, 180, 0, 3, 180, 0, 68, 28, 50, 180, 0, 165]
abbrev dktX2_stopperOf_1 : List UInt8 := dkwX2_stopperOf_1 ++ dktX2_stopperOf_2
def dkwX2_stopperOf_0 : List UInt8 := [3, 61, 28, 42, 180, 0, 3, 180, 0, 96, 162, 0, 78, 28, 27, 159, 0, 67, 28, 42, 180, 0, 55, 27]
abbrev dktX2_stopperOf_0 : List UInt8 := dkwX2_stopperOf_0 ++ dktX2_stopperOf_1
theorem dksX2_stopperOf_0 : cX2_stopperOf.data.toList.drop 0 = dktX2_stopperOf_0 := by decide +kernel
theorem dksX2_stopperOf_1 : cX2_stopperOf.data.toList.drop 24 = dktX2_stopperOf_1 := dk_seg dksX2_stopperOf_0 24 rfl rfl
theorem dksX2_stopperOf_2 : cX2_stopperOf.data.toList.drop 48 = dktX2_stopperOf_2 := dk_seg dksX2_stopperOf_1 24 rfl rfl
theorem dksX2_stopperOf_3 : cX2_stopperOf.data.toList.drop 72 = dktX2_stopperOf_3 := dk_seg dksX2_stopperOf_2 24 rfl rfl
theorem dX2_stopperOf_0 : decode cX2_stopperOf 0 = .ok (.iconst 0, 1) := dk_3 (dk_at dksX2_stopperOf_0 0 rfl rfl)
theorem dX2_stopperOf_1 : decode cX2_stopperOf 1 = .ok (.istore_n 2, 1) := dk_61 (dk_at dksX2_stopperOf_0 1 rfl rfl)
theorem dX2_stopperOf_2 : decode cX2_stopperOf 2 = .ok (.iload_n 2, 1) := dk_28 (dk_at dksX2_stopperOf_0 2 rfl rfl)
theorem dX2_stopperOf_3 : decode cX2_stopperOf 3 = .ok (.aload_n 0, 1) := dk_42 (dk_at dksX2_stopperOf_0 3 rfl rfl)
theorem dX2_stopperOf_4 : decode cX2_stopperOf 4 = .ok (.getfield 3, 3) := dk_180 0 3 (dk_at dksX2_stopperOf_0 4 rfl rfl)
theorem dX2_stopperOf_7 : decode cX2_stopperOf 7 = .ok (.getfield 96, 3) := dk_180 0 96 (dk_at dksX2_stopperOf_0 7 rfl rfl)
theorem dX2_stopperOf_10 : decode cX2_stopperOf 10 = .ok (.if_icmp .ge 78, 3) := dk_162 0 78 (dk_at dksX2_stopperOf_0 10 rfl rfl)
theorem dX2_stopperOf_13 : decode cX2_stopperOf 13 = .ok (.iload_n 2, 1) := dk_28 (dk_at dksX2_stopperOf_0 13 rfl rfl)
theorem dX2_stopperOf_14 : decode cX2_stopperOf 14 = .ok (.iload_n 1, 1) := dk_27 (dk_at dksX2_stopperOf_0 14 rfl rfl)
theorem dX2_stopperOf_15 : decode cX2_stopperOf 15 = .ok (.if_icmp .eq 67, 3) := dk_159 0 67 (dk_at dksX2_stopperOf_0 15 rfl rfl)
theorem dX2_stopperOf_18 : decode cX2_stopperOf 18 = .ok (.iload_n 2, 1) := dk_28 (dk_at dksX2_stopperOf_0 18 rfl rfl)
theorem dX2_stopperOf_19 : decode cX2_stopperOf 19 = .ok (.aload_n 0, 1) := dk_42 (dk_at dksX2_stopperOf_0 19 rfl rfl)
theorem dX2_stopperOf_20 : decode cX2_stopperOf 20 = .ok (.getfield 55, 3) := dk_180 0 55 (dk_at dksX2_stopperOf_0 20 rfl rfl)
theorem dX2_stopperOf_23 : decode cX2_stopperOf 23 = .ok (.iload_n 1, 1) := dk_27 (dk_at dksX2_stopperOf_0 23 rfl rfl)
theorem dX2_stopperOf_24 : decode cX2_stopperOf 24 = .ok (.iaload, 1) := dk_46 (dk_at dksX2_stopperOf_1 0 rfl rfl)
theorem dX2_stopperOf_25 : decode cX2_stopperOf 25 = .ok (.if_icmp .eq 57, 3) := dk_159 0 57 (dk_at dksX2_stopperOf_1 1 rfl rfl)
theorem dX2_stopperOf_28 : decode cX2_stopperOf 28 = .ok (.aload_n 0, 1) := dk_42 (dk_at dksX2_stopperOf_1 4 rfl rfl)
theorem dX2_stopperOf_29 : decode cX2_stopperOf 29 = .ok (.iload_n 2, 1) := dk_28 (dk_at dksX2_stopperOf_1 5 rfl rfl)
theorem dX2_stopperOf_30 : decode cX2_stopperOf 30 = .ok (.invokevirtual 99, 3) := dk_182 0 99 (dk_at dksX2_stopperOf_1 6 rfl rfl)
theorem dX2_stopperOf_33 : decode cX2_stopperOf 33 = .ok (.ifCond .eq 49, 3) := dk_153 0 49 (dk_at dksX2_stopperOf_1 9 rfl rfl)
theorem dX2_stopperOf_36 : decode cX2_stopperOf 36 = .ok (.aload_n 0, 1) := dk_42 (dk_at dksX2_stopperOf_1 12 rfl rfl)
theorem dX2_stopperOf_37 : decode cX2_stopperOf 37 = .ok (.getfield 3, 3) := dk_180 0 3 (dk_at dksX2_stopperOf_1 13 rfl rfl)
theorem dX2_stopperOf_40 : decode cX2_stopperOf 40 = .ok (.getfield 68, 3) := dk_180 0 68 (dk_at dksX2_stopperOf_1 16 rfl rfl)
theorem dX2_stopperOf_43 : decode cX2_stopperOf 43 = .ok (.iload_n 2, 1) := dk_28 (dk_at dksX2_stopperOf_1 19 rfl rfl)
theorem dX2_stopperOf_44 : decode cX2_stopperOf 44 = .ok (.aaload, 1) := dk_50 (dk_at dksX2_stopperOf_1 20 rfl rfl)
theorem dX2_stopperOf_45 : decode cX2_stopperOf 45 = .ok (.getfield 165, 3) := dk_180 0 165 (dk_at dksX2_stopperOf_1 21 rfl rfl)
theorem dX2_stopperOf_48 : decode cX2_stopperOf 48 = .ok (.aload_n 0, 1) := dk_42 (dk_at dksX2_stopperOf_2 0 rfl rfl)
theorem dX2_stopperOf_49 : decode cX2_stopperOf 49 = .ok (.getfield 3, 3) := dk_180 0 3 (dk_at dksX2_stopperOf_2 1 rfl rfl)
theorem dX2_stopperOf_52 : decode cX2_stopperOf 52 = .ok (.getfield 68, 3) := dk_180 0 68 (dk_at dksX2_stopperOf_2 4 rfl rfl)
theorem dX2_stopperOf_55 : decode cX2_stopperOf 55 = .ok (.iload_n 1, 1) := dk_27 (dk_at dksX2_stopperOf_2 7 rfl rfl)
theorem dX2_stopperOf_56 : decode cX2_stopperOf 56 = .ok (.aaload, 1) := dk_50 (dk_at dksX2_stopperOf_2 8 rfl rfl)
theorem dX2_stopperOf_57 : decode cX2_stopperOf 57 = .ok (.getfield 165, 3) := dk_180 0 165 (dk_at dksX2_stopperOf_2 9 rfl rfl)
theorem dX2_stopperOf_60 : decode cX2_stopperOf 60 = .ok (.iconst 3, 1) := dk_6 (dk_at dksX2_stopperOf_2 12 rfl rfl)
theorem dX2_stopperOf_61 : decode cX2_stopperOf 61 = .ok (.iadd, 1) := dk_96 (dk_at dksX2_stopperOf_2 13 rfl rfl)
theorem dX2_stopperOf_62 : decode cX2_stopperOf 62 = .ok (.if_icmp .lt 20, 3) := dk_161 0 20 (dk_at dksX2_stopperOf_2 14 rfl rfl)
theorem dX2_stopperOf_65 : decode cX2_stopperOf 65 = .ok (.aload_n 0, 1) := dk_42 (dk_at dksX2_stopperOf_2 17 rfl rfl)
theorem dX2_stopperOf_66 : decode cX2_stopperOf 66 = .ok (.getfield 61, 3) := dk_180 0 61 (dk_at dksX2_stopperOf_2 18 rfl rfl)
theorem dX2_stopperOf_69 : decode cX2_stopperOf 69 = .ok (.iload_n 2, 1) := dk_28 (dk_at dksX2_stopperOf_2 21 rfl rfl)
theorem dX2_stopperOf_70 : decode cX2_stopperOf 70 = .ok (.iaload, 1) := dk_46 (dk_at dksX2_stopperOf_2 22 rfl rfl)
theorem dX2_stopperOf_71 : decode cX2_stopperOf 71 = .ok (.aload_n 0, 1) := dk_42 (dk_at dksX2_stopperOf_2 23 rfl rfl)
theorem dX2_stopperOf_72 : decode cX2_stopperOf 72 = .ok (.getfield 61, 3) := dk_180 0 61 (dk_at dksX2_stopperOf_3 0 rfl rfl)
theorem dX2_stopperOf_75 : decode cX2_stopperOf 75 = .ok (.iload_n 1, 1) := dk_27 (dk_at dksX2_stopperOf_3 3 rfl rfl)
theorem dX2_stopperOf_76 : decode cX2_stopperOf 76 = .ok (.iaload, 1) := dk_46 (dk_at dksX2_stopperOf_3 4 rfl rfl)
theorem dX2_stopperOf_77 : decode cX2_stopperOf 77 = .ok (.if_icmp .le 5, 3) := dk_164 0 5 (dk_at dksX2_stopperOf_3 5 rfl rfl)
theorem dX2_stopperOf_80 : decode cX2_stopperOf 80 = .ok (.iload_n 2, 1) := dk_28 (dk_at dksX2_stopperOf_3 8 rfl rfl)
theorem dX2_stopperOf_81 : decode cX2_stopperOf 81 = .ok (.ireturn, 1) := dk_172 (dk_at dksX2_stopperOf_3 9 rfl rfl)
theorem dX2_stopperOf_82 : decode cX2_stopperOf 82 = .ok (.iinc 2 1, 3) := dk_132 2 1 (dk_at dksX2_stopperOf_3 10 rfl rfl)
theorem dX2_stopperOf_85 : decode cX2_stopperOf 85 = .ok (.goto (-83), 3) := dk_167 255 173 (dk_at dksX2_stopperOf_3 13 rfl rfl)
theorem dX2_stopperOf_88 : decode cX2_stopperOf 88 = .ok (.bipush (-2), 2) := dk_16 254 (dk_at dksX2_stopperOf_3 16 rfl rfl)
theorem dX2_stopperOf_90 : decode cX2_stopperOf 90 = .ok (.ireturn, 1) := dk_172 (dk_at dksX2_stopperOf_3 18 rfl rfl)
abbrev cX2_againOf : ByteArray := prog_16_method_16_code
def yX2_againOf : MethodName := ⟨RX2, "againOf", "(II)I"⟩
def dkwX2_againOf_2 : List UInt8 := [180, 0, 83, 29, 122, 4, 126, 4, 160, 0, 5, 29, 172, 132, 3, 1, 167, 255, 196, 16, 254, 172]
abbrev dktX2_againOf_2 : List UInt8 := dkwX2_againOf_2 ++ []
def dkwX2_againOf_1 : List UInt8 := [180, 0, 115, 28, 160, 0, 33, 42, 180, 0, 3, 180, 0, 111, 29, 50, 27, 182, 0, 103, 153, 0, 17, 42]
abbrev dktX2_againOf_1 : List UInt8 := dkwX2_againOf_1 ++ dktX2_againOf_2
def dkwX2_againOf_0 : List UInt8 := [3, 62, 29, 42, 180, 0, 3, 180, 0, 108, 162, 0, 55, 42, 180, 0, 3, 180, 0, 111, 29, 50]
abbrev dktX2_againOf_0 : List UInt8 := dkwX2_againOf_0 ++ dktX2_againOf_1
theorem dksX2_againOf_0 : cX2_againOf.data.toList.drop 0 = dktX2_againOf_0 := by decide +kernel
theorem dksX2_againOf_1 : cX2_againOf.data.toList.drop 22 = dktX2_againOf_1 := dk_seg dksX2_againOf_0 22 rfl rfl
theorem dksX2_againOf_2 : cX2_againOf.data.toList.drop 46 = dktX2_againOf_2 := dk_seg dksX2_againOf_1 24 rfl rfl
theorem dX2_againOf_0 : decode cX2_againOf 0 = .ok (.iconst 0, 1) := dk_3 (dk_at dksX2_againOf_0 0 rfl rfl)
theorem dX2_againOf_1 : decode cX2_againOf 1 = .ok (.istore_n 3, 1) := dk_62 (dk_at dksX2_againOf_0 1 rfl rfl)
theorem dX2_againOf_2 : decode cX2_againOf 2 = .ok (.iload_n 3, 1) := dk_29 (dk_at dksX2_againOf_0 2 rfl rfl)
theorem dX2_againOf_3 : decode cX2_againOf 3 = .ok (.aload_n 0, 1) := dk_42 (dk_at dksX2_againOf_0 3 rfl rfl)
theorem dX2_againOf_4 : decode cX2_againOf 4 = .ok (.getfield 3, 3) := dk_180 0 3 (dk_at dksX2_againOf_0 4 rfl rfl)
theorem dX2_againOf_7 : decode cX2_againOf 7 = .ok (.getfield 108, 3) := dk_180 0 108 (dk_at dksX2_againOf_0 7 rfl rfl)
theorem dX2_againOf_10 : decode cX2_againOf 10 = .ok (.if_icmp .ge 55, 3) := dk_162 0 55 (dk_at dksX2_againOf_0 10 rfl rfl)
theorem dX2_againOf_13 : decode cX2_againOf 13 = .ok (.aload_n 0, 1) := dk_42 (dk_at dksX2_againOf_0 13 rfl rfl)
theorem dX2_againOf_14 : decode cX2_againOf 14 = .ok (.getfield 3, 3) := dk_180 0 3 (dk_at dksX2_againOf_0 14 rfl rfl)
theorem dX2_againOf_17 : decode cX2_againOf 17 = .ok (.getfield 111, 3) := dk_180 0 111 (dk_at dksX2_againOf_0 17 rfl rfl)
theorem dX2_againOf_20 : decode cX2_againOf 20 = .ok (.iload_n 3, 1) := dk_29 (dk_at dksX2_againOf_0 20 rfl rfl)
theorem dX2_againOf_21 : decode cX2_againOf 21 = .ok (.aaload, 1) := dk_50 (dk_at dksX2_againOf_0 21 rfl rfl)
theorem dX2_againOf_22 : decode cX2_againOf 22 = .ok (.getfield 115, 3) := dk_180 0 115 (dk_at dksX2_againOf_1 0 rfl rfl)
theorem dX2_againOf_25 : decode cX2_againOf 25 = .ok (.iload_n 2, 1) := dk_28 (dk_at dksX2_againOf_1 3 rfl rfl)
theorem dX2_againOf_26 : decode cX2_againOf 26 = .ok (.if_icmp .ne 33, 3) := dk_160 0 33 (dk_at dksX2_againOf_1 4 rfl rfl)
theorem dX2_againOf_29 : decode cX2_againOf 29 = .ok (.aload_n 0, 1) := dk_42 (dk_at dksX2_againOf_1 7 rfl rfl)
theorem dX2_againOf_30 : decode cX2_againOf 30 = .ok (.getfield 3, 3) := dk_180 0 3 (dk_at dksX2_againOf_1 8 rfl rfl)
theorem dX2_againOf_33 : decode cX2_againOf 33 = .ok (.getfield 111, 3) := dk_180 0 111 (dk_at dksX2_againOf_1 11 rfl rfl)
theorem dX2_againOf_36 : decode cX2_againOf 36 = .ok (.iload_n 3, 1) := dk_29 (dk_at dksX2_againOf_1 14 rfl rfl)
theorem dX2_againOf_37 : decode cX2_againOf 37 = .ok (.aaload, 1) := dk_50 (dk_at dksX2_againOf_1 15 rfl rfl)
theorem dX2_againOf_38 : decode cX2_againOf 38 = .ok (.iload_n 1, 1) := dk_27 (dk_at dksX2_againOf_1 16 rfl rfl)
theorem dX2_againOf_39 : decode cX2_againOf 39 = .ok (.invokevirtual 103, 3) := dk_182 0 103 (dk_at dksX2_againOf_1 17 rfl rfl)
theorem dX2_againOf_42 : decode cX2_againOf 42 = .ok (.ifCond .eq 17, 3) := dk_153 0 17 (dk_at dksX2_againOf_1 20 rfl rfl)
theorem dX2_againOf_45 : decode cX2_againOf 45 = .ok (.aload_n 0, 1) := dk_42 (dk_at dksX2_againOf_1 23 rfl rfl)
theorem dX2_againOf_46 : decode cX2_againOf 46 = .ok (.getfield 83, 3) := dk_180 0 83 (dk_at dksX2_againOf_2 0 rfl rfl)
theorem dX2_againOf_49 : decode cX2_againOf 49 = .ok (.iload_n 3, 1) := dk_29 (dk_at dksX2_againOf_2 3 rfl rfl)
theorem dX2_againOf_50 : decode cX2_againOf 50 = .ok (.ishr, 1) := dk_122 (dk_at dksX2_againOf_2 4 rfl rfl)
theorem dX2_againOf_51 : decode cX2_againOf 51 = .ok (.iconst 1, 1) := dk_4 (dk_at dksX2_againOf_2 5 rfl rfl)
theorem dX2_againOf_52 : decode cX2_againOf 52 = .ok (.iand, 1) := dk_126 (dk_at dksX2_againOf_2 6 rfl rfl)
theorem dX2_againOf_53 : decode cX2_againOf 53 = .ok (.iconst 1, 1) := dk_4 (dk_at dksX2_againOf_2 7 rfl rfl)
theorem dX2_againOf_54 : decode cX2_againOf 54 = .ok (.if_icmp .ne 5, 3) := dk_160 0 5 (dk_at dksX2_againOf_2 8 rfl rfl)
theorem dX2_againOf_57 : decode cX2_againOf 57 = .ok (.iload_n 3, 1) := dk_29 (dk_at dksX2_againOf_2 11 rfl rfl)
theorem dX2_againOf_58 : decode cX2_againOf 58 = .ok (.ireturn, 1) := dk_172 (dk_at dksX2_againOf_2 12 rfl rfl)
theorem dX2_againOf_59 : decode cX2_againOf 59 = .ok (.iinc 3 1, 3) := dk_132 3 1 (dk_at dksX2_againOf_2 13 rfl rfl)
theorem dX2_againOf_62 : decode cX2_againOf 62 = .ok (.goto (-60), 3) := dk_167 255 196 (dk_at dksX2_againOf_2 16 rfl rfl)
theorem dX2_againOf_65 : decode cX2_againOf 65 = .ok (.bipush (-2), 2) := dk_16 254 (dk_at dksX2_againOf_2 19 rfl rfl)
theorem dX2_againOf_67 : decode cX2_againOf 67 = .ok (.ireturn, 1) := dk_172 (dk_at dksX2_againOf_2 21 rfl rfl)
abbrev cX2_decided : ByteArray := prog_16_method_18_code
def yX2_decided : MethodName := ⟨RX2, "decided", "()I"⟩
def dkwX2_decided_1 : List UInt8 := [4, 28, 120, 128, 60, 132, 2, 1, 167, 255, 228, 27, 172]
abbrev dktX2_decided_1 : List UInt8 := dkwX2_decided_1 ++ []
def dkwX2_decided_0 : List UInt8 := [3, 60, 3, 61, 28, 42, 180, 0, 3, 180, 0, 89, 162, 0, 23, 42, 28, 182, 0, 192, 158, 0, 9, 27]
abbrev dktX2_decided_0 : List UInt8 := dkwX2_decided_0 ++ dktX2_decided_1
theorem dksX2_decided_0 : cX2_decided.data.toList.drop 0 = dktX2_decided_0 := by decide +kernel
theorem dksX2_decided_1 : cX2_decided.data.toList.drop 24 = dktX2_decided_1 := dk_seg dksX2_decided_0 24 rfl rfl
theorem dX2_decided_0 : decode cX2_decided 0 = .ok (.iconst 0, 1) := dk_3 (dk_at dksX2_decided_0 0 rfl rfl)
theorem dX2_decided_1 : decode cX2_decided 1 = .ok (.istore_n 1, 1) := dk_60 (dk_at dksX2_decided_0 1 rfl rfl)
theorem dX2_decided_2 : decode cX2_decided 2 = .ok (.iconst 0, 1) := dk_3 (dk_at dksX2_decided_0 2 rfl rfl)
theorem dX2_decided_3 : decode cX2_decided 3 = .ok (.istore_n 2, 1) := dk_61 (dk_at dksX2_decided_0 3 rfl rfl)
theorem dX2_decided_4 : decode cX2_decided 4 = .ok (.iload_n 2, 1) := dk_28 (dk_at dksX2_decided_0 4 rfl rfl)
theorem dX2_decided_5 : decode cX2_decided 5 = .ok (.aload_n 0, 1) := dk_42 (dk_at dksX2_decided_0 5 rfl rfl)
theorem dX2_decided_6 : decode cX2_decided 6 = .ok (.getfield 3, 3) := dk_180 0 3 (dk_at dksX2_decided_0 6 rfl rfl)
theorem dX2_decided_9 : decode cX2_decided 9 = .ok (.getfield 89, 3) := dk_180 0 89 (dk_at dksX2_decided_0 9 rfl rfl)
theorem dX2_decided_12 : decode cX2_decided 12 = .ok (.if_icmp .ge 23, 3) := dk_162 0 23 (dk_at dksX2_decided_0 12 rfl rfl)
theorem dX2_decided_15 : decode cX2_decided 15 = .ok (.aload_n 0, 1) := dk_42 (dk_at dksX2_decided_0 15 rfl rfl)
theorem dX2_decided_16 : decode cX2_decided 16 = .ok (.iload_n 2, 1) := dk_28 (dk_at dksX2_decided_0 16 rfl rfl)
theorem dX2_decided_17 : decode cX2_decided 17 = .ok (.invokevirtual 192, 3) := dk_182 0 192 (dk_at dksX2_decided_0 17 rfl rfl)
theorem dX2_decided_20 : decode cX2_decided 20 = .ok (.ifCond .le 9, 3) := dk_158 0 9 (dk_at dksX2_decided_0 20 rfl rfl)
theorem dX2_decided_23 : decode cX2_decided 23 = .ok (.iload_n 1, 1) := dk_27 (dk_at dksX2_decided_0 23 rfl rfl)
theorem dX2_decided_24 : decode cX2_decided 24 = .ok (.iconst 1, 1) := dk_4 (dk_at dksX2_decided_1 0 rfl rfl)
theorem dX2_decided_25 : decode cX2_decided 25 = .ok (.iload_n 2, 1) := dk_28 (dk_at dksX2_decided_1 1 rfl rfl)
theorem dX2_decided_26 : decode cX2_decided 26 = .ok (.ishl, 1) := dk_120 (dk_at dksX2_decided_1 2 rfl rfl)
theorem dX2_decided_27 : decode cX2_decided 27 = .ok (.ior, 1) := dk_128 (dk_at dksX2_decided_1 3 rfl rfl)
theorem dX2_decided_28 : decode cX2_decided 28 = .ok (.istore_n 1, 1) := dk_60 (dk_at dksX2_decided_1 4 rfl rfl)
theorem dX2_decided_29 : decode cX2_decided 29 = .ok (.iinc 2 1, 3) := dk_132 2 1 (dk_at dksX2_decided_1 5 rfl rfl)
theorem dX2_decided_32 : decode cX2_decided 32 = .ok (.goto (-28), 3) := dk_167 255 228 (dk_at dksX2_decided_1 8 rfl rfl)
theorem dX2_decided_35 : decode cX2_decided 35 = .ok (.iload_n 1, 1) := dk_27 (dk_at dksX2_decided_1 11 rfl rfl)
theorem dX2_decided_36 : decode cX2_decided 36 = .ok (.ireturn, 1) := dk_172 (dk_at dksX2_decided_1 12 rfl rfl)
abbrev cX2_sumOf : ByteArray := prog_16_method_17_code
def yX2_sumOf : MethodName := ⟨RX2, "sumOf", "(I)I"⟩
def dkwX2_sumOf_3 : List UInt8 := [132, 3, 1, 167, 255, 199, 28, 172]
abbrev dktX2_sumOf_3 : List UInt8 := dkwX2_sumOf_3 ++ []
def dkwX2_sumOf_2 : List UInt8 := [122, 4, 126, 4, 160, 0, 18, 28, 42, 180, 0, 3, 180, 0, 111, 29, 50, 180, 0, 189, 96, 61]
abbrev dktX2_sumOf_2 : List UInt8 := dkwX2_sumOf_2 ++ dktX2_sumOf_3
def dkwX2_sumOf_1 : List UInt8 := [162, 0, 52, 42, 180, 0, 3, 180, 0, 111, 29, 50, 180, 0, 115, 27, 160, 0, 30, 42, 180, 0, 83, 29]
abbrev dktX2_sumOf_1 : List UInt8 := dkwX2_sumOf_1 ++ dktX2_sumOf_2
def dkwX2_sumOf_0 : List UInt8 := [42, 180, 0, 3, 180, 0, 180, 27, 50, 180, 0, 184, 61, 3, 62, 29, 42, 180, 0, 3, 180, 0, 108]
abbrev dktX2_sumOf_0 : List UInt8 := dkwX2_sumOf_0 ++ dktX2_sumOf_1
theorem dksX2_sumOf_0 : cX2_sumOf.data.toList.drop 0 = dktX2_sumOf_0 := by decide +kernel
theorem dksX2_sumOf_1 : cX2_sumOf.data.toList.drop 23 = dktX2_sumOf_1 := dk_seg dksX2_sumOf_0 23 rfl rfl
theorem dksX2_sumOf_2 : cX2_sumOf.data.toList.drop 47 = dktX2_sumOf_2 := dk_seg dksX2_sumOf_1 24 rfl rfl
theorem dksX2_sumOf_3 : cX2_sumOf.data.toList.drop 69 = dktX2_sumOf_3 := dk_seg dksX2_sumOf_2 22 rfl rfl
theorem dX2_sumOf_0 : decode cX2_sumOf 0 = .ok (.aload_n 0, 1) := dk_42 (dk_at dksX2_sumOf_0 0 rfl rfl)
theorem dX2_sumOf_1 : decode cX2_sumOf 1 = .ok (.getfield 3, 3) := dk_180 0 3 (dk_at dksX2_sumOf_0 1 rfl rfl)
theorem dX2_sumOf_4 : decode cX2_sumOf 4 = .ok (.getfield 180, 3) := dk_180 0 180 (dk_at dksX2_sumOf_0 4 rfl rfl)
theorem dX2_sumOf_7 : decode cX2_sumOf 7 = .ok (.iload_n 1, 1) := dk_27 (dk_at dksX2_sumOf_0 7 rfl rfl)
theorem dX2_sumOf_8 : decode cX2_sumOf 8 = .ok (.aaload, 1) := dk_50 (dk_at dksX2_sumOf_0 8 rfl rfl)
theorem dX2_sumOf_9 : decode cX2_sumOf 9 = .ok (.getfield 184, 3) := dk_180 0 184 (dk_at dksX2_sumOf_0 9 rfl rfl)
theorem dX2_sumOf_12 : decode cX2_sumOf 12 = .ok (.istore_n 2, 1) := dk_61 (dk_at dksX2_sumOf_0 12 rfl rfl)
theorem dX2_sumOf_13 : decode cX2_sumOf 13 = .ok (.iconst 0, 1) := dk_3 (dk_at dksX2_sumOf_0 13 rfl rfl)
theorem dX2_sumOf_14 : decode cX2_sumOf 14 = .ok (.istore_n 3, 1) := dk_62 (dk_at dksX2_sumOf_0 14 rfl rfl)
theorem dX2_sumOf_15 : decode cX2_sumOf 15 = .ok (.iload_n 3, 1) := dk_29 (dk_at dksX2_sumOf_0 15 rfl rfl)
theorem dX2_sumOf_16 : decode cX2_sumOf 16 = .ok (.aload_n 0, 1) := dk_42 (dk_at dksX2_sumOf_0 16 rfl rfl)
theorem dX2_sumOf_17 : decode cX2_sumOf 17 = .ok (.getfield 3, 3) := dk_180 0 3 (dk_at dksX2_sumOf_0 17 rfl rfl)
theorem dX2_sumOf_20 : decode cX2_sumOf 20 = .ok (.getfield 108, 3) := dk_180 0 108 (dk_at dksX2_sumOf_0 20 rfl rfl)
theorem dX2_sumOf_23 : decode cX2_sumOf 23 = .ok (.if_icmp .ge 52, 3) := dk_162 0 52 (dk_at dksX2_sumOf_1 0 rfl rfl)
theorem dX2_sumOf_26 : decode cX2_sumOf 26 = .ok (.aload_n 0, 1) := dk_42 (dk_at dksX2_sumOf_1 3 rfl rfl)
theorem dX2_sumOf_27 : decode cX2_sumOf 27 = .ok (.getfield 3, 3) := dk_180 0 3 (dk_at dksX2_sumOf_1 4 rfl rfl)
theorem dX2_sumOf_30 : decode cX2_sumOf 30 = .ok (.getfield 111, 3) := dk_180 0 111 (dk_at dksX2_sumOf_1 7 rfl rfl)
theorem dX2_sumOf_33 : decode cX2_sumOf 33 = .ok (.iload_n 3, 1) := dk_29 (dk_at dksX2_sumOf_1 10 rfl rfl)
theorem dX2_sumOf_34 : decode cX2_sumOf 34 = .ok (.aaload, 1) := dk_50 (dk_at dksX2_sumOf_1 11 rfl rfl)
theorem dX2_sumOf_35 : decode cX2_sumOf 35 = .ok (.getfield 115, 3) := dk_180 0 115 (dk_at dksX2_sumOf_1 12 rfl rfl)
theorem dX2_sumOf_38 : decode cX2_sumOf 38 = .ok (.iload_n 1, 1) := dk_27 (dk_at dksX2_sumOf_1 15 rfl rfl)
theorem dX2_sumOf_39 : decode cX2_sumOf 39 = .ok (.if_icmp .ne 30, 3) := dk_160 0 30 (dk_at dksX2_sumOf_1 16 rfl rfl)
theorem dX2_sumOf_42 : decode cX2_sumOf 42 = .ok (.aload_n 0, 1) := dk_42 (dk_at dksX2_sumOf_1 19 rfl rfl)
theorem dX2_sumOf_43 : decode cX2_sumOf 43 = .ok (.getfield 83, 3) := dk_180 0 83 (dk_at dksX2_sumOf_1 20 rfl rfl)
theorem dX2_sumOf_46 : decode cX2_sumOf 46 = .ok (.iload_n 3, 1) := dk_29 (dk_at dksX2_sumOf_1 23 rfl rfl)
theorem dX2_sumOf_47 : decode cX2_sumOf 47 = .ok (.ishr, 1) := dk_122 (dk_at dksX2_sumOf_2 0 rfl rfl)
theorem dX2_sumOf_48 : decode cX2_sumOf 48 = .ok (.iconst 1, 1) := dk_4 (dk_at dksX2_sumOf_2 1 rfl rfl)
theorem dX2_sumOf_49 : decode cX2_sumOf 49 = .ok (.iand, 1) := dk_126 (dk_at dksX2_sumOf_2 2 rfl rfl)
theorem dX2_sumOf_50 : decode cX2_sumOf 50 = .ok (.iconst 1, 1) := dk_4 (dk_at dksX2_sumOf_2 3 rfl rfl)
theorem dX2_sumOf_51 : decode cX2_sumOf 51 = .ok (.if_icmp .ne 18, 3) := dk_160 0 18 (dk_at dksX2_sumOf_2 4 rfl rfl)
theorem dX2_sumOf_54 : decode cX2_sumOf 54 = .ok (.iload_n 2, 1) := dk_28 (dk_at dksX2_sumOf_2 7 rfl rfl)
theorem dX2_sumOf_55 : decode cX2_sumOf 55 = .ok (.aload_n 0, 1) := dk_42 (dk_at dksX2_sumOf_2 8 rfl rfl)
theorem dX2_sumOf_56 : decode cX2_sumOf 56 = .ok (.getfield 3, 3) := dk_180 0 3 (dk_at dksX2_sumOf_2 9 rfl rfl)
theorem dX2_sumOf_59 : decode cX2_sumOf 59 = .ok (.getfield 111, 3) := dk_180 0 111 (dk_at dksX2_sumOf_2 12 rfl rfl)
theorem dX2_sumOf_62 : decode cX2_sumOf 62 = .ok (.iload_n 3, 1) := dk_29 (dk_at dksX2_sumOf_2 15 rfl rfl)
theorem dX2_sumOf_63 : decode cX2_sumOf 63 = .ok (.aaload, 1) := dk_50 (dk_at dksX2_sumOf_2 16 rfl rfl)
theorem dX2_sumOf_64 : decode cX2_sumOf 64 = .ok (.getfield 189, 3) := dk_180 0 189 (dk_at dksX2_sumOf_2 17 rfl rfl)
theorem dX2_sumOf_67 : decode cX2_sumOf 67 = .ok (.iadd, 1) := dk_96 (dk_at dksX2_sumOf_2 20 rfl rfl)
theorem dX2_sumOf_68 : decode cX2_sumOf 68 = .ok (.istore_n 2, 1) := dk_61 (dk_at dksX2_sumOf_2 21 rfl rfl)
theorem dX2_sumOf_69 : decode cX2_sumOf 69 = .ok (.iinc 3 1, 3) := dk_132 3 1 (dk_at dksX2_sumOf_3 0 rfl rfl)
theorem dX2_sumOf_72 : decode cX2_sumOf 72 = .ok (.goto (-57), 3) := dk_167 255 199 (dk_at dksX2_sumOf_3 3 rfl rfl)
theorem dX2_sumOf_75 : decode cX2_sumOf 75 = .ok (.iload_n 2, 1) := dk_28 (dk_at dksX2_sumOf_3 6 rfl rfl)
theorem dX2_sumOf_76 : decode cX2_sumOf 76 = .ok (.ireturn, 1) := dk_172 (dk_at dksX2_sumOf_3 7 rfl rfl)
abbrev cX2_heldBack : ByteArray := prog_16_method_19_code
def yX2_heldBack : MethodName := ⟨RX2, "heldBack", "()I"⟩
def dkwX2_heldBack_2 : List UInt8 := [60, 132, 2, 1, 167, 255, 209, 27, 172]
abbrev dktX2_heldBack_2 : List UInt8 := dkwX2_heldBack_2 ++ []
def dkwX2_heldBack_1 : List UInt8 := [154, 0, 25, 42, 42, 180, 0, 3, 180, 0, 111, 28, 50, 182, 0, 118, 153, 0, 9, 27, 4, 28, 120, 128]
abbrev dktX2_heldBack_1 : List UInt8 := dkwX2_heldBack_1 ++ dktX2_heldBack_2
def dkwX2_heldBack_0 : List UInt8 := [3, 60, 3, 61, 28, 42, 180, 0, 3, 180, 0, 108, 162, 0, 42, 42, 180, 0, 83, 28, 122, 4, 126]
abbrev dktX2_heldBack_0 : List UInt8 := dkwX2_heldBack_0 ++ dktX2_heldBack_1
theorem dksX2_heldBack_0 : cX2_heldBack.data.toList.drop 0 = dktX2_heldBack_0 := by decide +kernel
theorem dksX2_heldBack_1 : cX2_heldBack.data.toList.drop 23 = dktX2_heldBack_1 := dk_seg dksX2_heldBack_0 23 rfl rfl
theorem dksX2_heldBack_2 : cX2_heldBack.data.toList.drop 47 = dktX2_heldBack_2 := dk_seg dksX2_heldBack_1 24 rfl rfl
theorem dX2_heldBack_0 : decode cX2_heldBack 0 = .ok (.iconst 0, 1) := dk_3 (dk_at dksX2_heldBack_0 0 rfl rfl)
theorem dX2_heldBack_1 : decode cX2_heldBack 1 = .ok (.istore_n 1, 1) := dk_60 (dk_at dksX2_heldBack_0 1 rfl rfl)
theorem dX2_heldBack_2 : decode cX2_heldBack 2 = .ok (.iconst 0, 1) := dk_3 (dk_at dksX2_heldBack_0 2 rfl rfl)
theorem dX2_heldBack_3 : decode cX2_heldBack 3 = .ok (.istore_n 2, 1) := dk_61 (dk_at dksX2_heldBack_0 3 rfl rfl)
theorem dX2_heldBack_4 : decode cX2_heldBack 4 = .ok (.iload_n 2, 1) := dk_28 (dk_at dksX2_heldBack_0 4 rfl rfl)
theorem dX2_heldBack_5 : decode cX2_heldBack 5 = .ok (.aload_n 0, 1) := dk_42 (dk_at dksX2_heldBack_0 5 rfl rfl)
theorem dX2_heldBack_6 : decode cX2_heldBack 6 = .ok (.getfield 3, 3) := dk_180 0 3 (dk_at dksX2_heldBack_0 6 rfl rfl)
theorem dX2_heldBack_9 : decode cX2_heldBack 9 = .ok (.getfield 108, 3) := dk_180 0 108 (dk_at dksX2_heldBack_0 9 rfl rfl)
theorem dX2_heldBack_12 : decode cX2_heldBack 12 = .ok (.if_icmp .ge 42, 3) := dk_162 0 42 (dk_at dksX2_heldBack_0 12 rfl rfl)
theorem dX2_heldBack_15 : decode cX2_heldBack 15 = .ok (.aload_n 0, 1) := dk_42 (dk_at dksX2_heldBack_0 15 rfl rfl)
theorem dX2_heldBack_16 : decode cX2_heldBack 16 = .ok (.getfield 83, 3) := dk_180 0 83 (dk_at dksX2_heldBack_0 16 rfl rfl)
theorem dX2_heldBack_19 : decode cX2_heldBack 19 = .ok (.iload_n 2, 1) := dk_28 (dk_at dksX2_heldBack_0 19 rfl rfl)
theorem dX2_heldBack_20 : decode cX2_heldBack 20 = .ok (.ishr, 1) := dk_122 (dk_at dksX2_heldBack_0 20 rfl rfl)
theorem dX2_heldBack_21 : decode cX2_heldBack 21 = .ok (.iconst 1, 1) := dk_4 (dk_at dksX2_heldBack_0 21 rfl rfl)
theorem dX2_heldBack_22 : decode cX2_heldBack 22 = .ok (.iand, 1) := dk_126 (dk_at dksX2_heldBack_0 22 rfl rfl)
theorem dX2_heldBack_23 : decode cX2_heldBack 23 = .ok (.ifCond .ne 25, 3) := dk_154 0 25 (dk_at dksX2_heldBack_1 0 rfl rfl)
theorem dX2_heldBack_26 : decode cX2_heldBack 26 = .ok (.aload_n 0, 1) := dk_42 (dk_at dksX2_heldBack_1 3 rfl rfl)
theorem dX2_heldBack_27 : decode cX2_heldBack 27 = .ok (.aload_n 0, 1) := dk_42 (dk_at dksX2_heldBack_1 4 rfl rfl)
theorem dX2_heldBack_28 : decode cX2_heldBack 28 = .ok (.getfield 3, 3) := dk_180 0 3 (dk_at dksX2_heldBack_1 5 rfl rfl)
theorem dX2_heldBack_31 : decode cX2_heldBack 31 = .ok (.getfield 111, 3) := dk_180 0 111 (dk_at dksX2_heldBack_1 8 rfl rfl)
theorem dX2_heldBack_34 : decode cX2_heldBack 34 = .ok (.iload_n 2, 1) := dk_28 (dk_at dksX2_heldBack_1 11 rfl rfl)
theorem dX2_heldBack_35 : decode cX2_heldBack 35 = .ok (.aaload, 1) := dk_50 (dk_at dksX2_heldBack_1 12 rfl rfl)
theorem dX2_heldBack_36 : decode cX2_heldBack 36 = .ok (.invokevirtual 118, 3) := dk_182 0 118 (dk_at dksX2_heldBack_1 13 rfl rfl)
theorem dX2_heldBack_39 : decode cX2_heldBack 39 = .ok (.ifCond .eq 9, 3) := dk_153 0 9 (dk_at dksX2_heldBack_1 16 rfl rfl)
theorem dX2_heldBack_42 : decode cX2_heldBack 42 = .ok (.iload_n 1, 1) := dk_27 (dk_at dksX2_heldBack_1 19 rfl rfl)
theorem dX2_heldBack_43 : decode cX2_heldBack 43 = .ok (.iconst 1, 1) := dk_4 (dk_at dksX2_heldBack_1 20 rfl rfl)
theorem dX2_heldBack_44 : decode cX2_heldBack 44 = .ok (.iload_n 2, 1) := dk_28 (dk_at dksX2_heldBack_1 21 rfl rfl)
theorem dX2_heldBack_45 : decode cX2_heldBack 45 = .ok (.ishl, 1) := dk_120 (dk_at dksX2_heldBack_1 22 rfl rfl)
theorem dX2_heldBack_46 : decode cX2_heldBack 46 = .ok (.ior, 1) := dk_128 (dk_at dksX2_heldBack_1 23 rfl rfl)
theorem dX2_heldBack_47 : decode cX2_heldBack 47 = .ok (.istore_n 1, 1) := dk_60 (dk_at dksX2_heldBack_2 0 rfl rfl)
theorem dX2_heldBack_48 : decode cX2_heldBack 48 = .ok (.iinc 2 1, 3) := dk_132 2 1 (dk_at dksX2_heldBack_2 1 rfl rfl)
theorem dX2_heldBack_51 : decode cX2_heldBack 51 = .ok (.goto (-47), 3) := dk_167 255 209 (dk_at dksX2_heldBack_2 4 rfl rfl)
theorem dX2_heldBack_54 : decode cX2_heldBack 54 = .ok (.iload_n 1, 1) := dk_27 (dk_at dksX2_heldBack_2 7 rfl rfl)
theorem dX2_heldBack_55 : decode cX2_heldBack 55 = .ok (.ireturn, 1) := dk_172 (dk_at dksX2_heldBack_2 8 rfl rfl)
abbrev cX2_cost : ByteArray := prog_16_method_21_code
def yX2_cost : MethodName := ⟨RX2, "cost", "()I"⟩
def dkwX2_cost_1 : List UInt8 := [50, 180, 0, 195, 42, 28, 182, 0, 198, 104, 96, 60, 132, 2, 1, 167, 255, 221, 27, 172]
abbrev dktX2_cost_1 : List UInt8 := dkwX2_cost_1 ++ []
def dkwX2_cost_0 : List UInt8 := [3, 60, 3, 61, 28, 42, 180, 0, 3, 180, 0, 96, 162, 0, 30, 27, 42, 180, 0, 3, 180, 0, 68, 28]
abbrev dktX2_cost_0 : List UInt8 := dkwX2_cost_0 ++ dktX2_cost_1
theorem dksX2_cost_0 : cX2_cost.data.toList.drop 0 = dktX2_cost_0 := by decide +kernel
theorem dksX2_cost_1 : cX2_cost.data.toList.drop 24 = dktX2_cost_1 := dk_seg dksX2_cost_0 24 rfl rfl
theorem dX2_cost_0 : decode cX2_cost 0 = .ok (.iconst 0, 1) := dk_3 (dk_at dksX2_cost_0 0 rfl rfl)
theorem dX2_cost_1 : decode cX2_cost 1 = .ok (.istore_n 1, 1) := dk_60 (dk_at dksX2_cost_0 1 rfl rfl)
theorem dX2_cost_2 : decode cX2_cost 2 = .ok (.iconst 0, 1) := dk_3 (dk_at dksX2_cost_0 2 rfl rfl)
theorem dX2_cost_3 : decode cX2_cost 3 = .ok (.istore_n 2, 1) := dk_61 (dk_at dksX2_cost_0 3 rfl rfl)
theorem dX2_cost_4 : decode cX2_cost 4 = .ok (.iload_n 2, 1) := dk_28 (dk_at dksX2_cost_0 4 rfl rfl)
theorem dX2_cost_5 : decode cX2_cost 5 = .ok (.aload_n 0, 1) := dk_42 (dk_at dksX2_cost_0 5 rfl rfl)
theorem dX2_cost_6 : decode cX2_cost 6 = .ok (.getfield 3, 3) := dk_180 0 3 (dk_at dksX2_cost_0 6 rfl rfl)
theorem dX2_cost_9 : decode cX2_cost 9 = .ok (.getfield 96, 3) := dk_180 0 96 (dk_at dksX2_cost_0 9 rfl rfl)
theorem dX2_cost_12 : decode cX2_cost 12 = .ok (.if_icmp .ge 30, 3) := dk_162 0 30 (dk_at dksX2_cost_0 12 rfl rfl)
theorem dX2_cost_15 : decode cX2_cost 15 = .ok (.iload_n 1, 1) := dk_27 (dk_at dksX2_cost_0 15 rfl rfl)
theorem dX2_cost_16 : decode cX2_cost 16 = .ok (.aload_n 0, 1) := dk_42 (dk_at dksX2_cost_0 16 rfl rfl)
theorem dX2_cost_17 : decode cX2_cost 17 = .ok (.getfield 3, 3) := dk_180 0 3 (dk_at dksX2_cost_0 17 rfl rfl)
theorem dX2_cost_20 : decode cX2_cost 20 = .ok (.getfield 68, 3) := dk_180 0 68 (dk_at dksX2_cost_0 20 rfl rfl)
theorem dX2_cost_23 : decode cX2_cost 23 = .ok (.iload_n 2, 1) := dk_28 (dk_at dksX2_cost_0 23 rfl rfl)
theorem dX2_cost_24 : decode cX2_cost 24 = .ok (.aaload, 1) := dk_50 (dk_at dksX2_cost_1 0 rfl rfl)
theorem dX2_cost_25 : decode cX2_cost 25 = .ok (.getfield 195, 3) := dk_180 0 195 (dk_at dksX2_cost_1 1 rfl rfl)
theorem dX2_cost_28 : decode cX2_cost 28 = .ok (.aload_n 0, 1) := dk_42 (dk_at dksX2_cost_1 4 rfl rfl)
theorem dX2_cost_29 : decode cX2_cost 29 = .ok (.iload_n 2, 1) := dk_28 (dk_at dksX2_cost_1 5 rfl rfl)
theorem dX2_cost_30 : decode cX2_cost 30 = .ok (.invokevirtual 198, 3) := dk_182 0 198 (dk_at dksX2_cost_1 6 rfl rfl)
theorem dX2_cost_33 : decode cX2_cost 33 = .ok (.imul, 1) := dk_104 (dk_at dksX2_cost_1 9 rfl rfl)
theorem dX2_cost_34 : decode cX2_cost 34 = .ok (.iadd, 1) := dk_96 (dk_at dksX2_cost_1 10 rfl rfl)
theorem dX2_cost_35 : decode cX2_cost 35 = .ok (.istore_n 1, 1) := dk_60 (dk_at dksX2_cost_1 11 rfl rfl)
theorem dX2_cost_36 : decode cX2_cost 36 = .ok (.iinc 2 1, 3) := dk_132 2 1 (dk_at dksX2_cost_1 12 rfl rfl)
theorem dX2_cost_39 : decode cX2_cost 39 = .ok (.goto (-35), 3) := dk_167 255 221 (dk_at dksX2_cost_1 15 rfl rfl)
theorem dX2_cost_42 : decode cX2_cost 42 = .ok (.iload_n 1, 1) := dk_27 (dk_at dksX2_cost_1 18 rfl rfl)
theorem dX2_cost_43 : decode cX2_cost 43 = .ok (.ireturn, 1) := dk_172 (dk_at dksX2_cost_1 19 rfl rfl)
abbrev cX2_thereFor : ByteArray := prog_16_method_20_code
def yX2_thereFor : MethodName := ⟨RX2, "thereFor", "(I)I"⟩
def dkwX2_thereFor_1 : List UInt8 := [27, 50, 180, 0, 72, 100, 184, 0, 160, 172]
abbrev dktX2_thereFor_1 : List UInt8 := dkwX2_thereFor_1 ++ []
def dkwX2_thereFor_0 : List UInt8 := [27, 42, 180, 0, 64, 160, 0, 7, 3, 167, 0, 24, 3, 42, 180, 0, 77, 42, 180, 0, 3, 180, 0, 68]
abbrev dktX2_thereFor_0 : List UInt8 := dkwX2_thereFor_0 ++ dktX2_thereFor_1
theorem dksX2_thereFor_0 : cX2_thereFor.data.toList.drop 0 = dktX2_thereFor_0 := by decide +kernel
theorem dksX2_thereFor_1 : cX2_thereFor.data.toList.drop 24 = dktX2_thereFor_1 := dk_seg dksX2_thereFor_0 24 rfl rfl
theorem dX2_thereFor_0 : decode cX2_thereFor 0 = .ok (.iload_n 1, 1) := dk_27 (dk_at dksX2_thereFor_0 0 rfl rfl)
theorem dX2_thereFor_1 : decode cX2_thereFor 1 = .ok (.aload_n 0, 1) := dk_42 (dk_at dksX2_thereFor_0 1 rfl rfl)
theorem dX2_thereFor_2 : decode cX2_thereFor 2 = .ok (.getfield 64, 3) := dk_180 0 64 (dk_at dksX2_thereFor_0 2 rfl rfl)
theorem dX2_thereFor_5 : decode cX2_thereFor 5 = .ok (.if_icmp .ne 7, 3) := dk_160 0 7 (dk_at dksX2_thereFor_0 5 rfl rfl)
theorem dX2_thereFor_8 : decode cX2_thereFor 8 = .ok (.iconst 0, 1) := dk_3 (dk_at dksX2_thereFor_0 8 rfl rfl)
theorem dX2_thereFor_9 : decode cX2_thereFor 9 = .ok (.goto 24, 3) := dk_167 0 24 (dk_at dksX2_thereFor_0 9 rfl rfl)
theorem dX2_thereFor_12 : decode cX2_thereFor 12 = .ok (.iconst 0, 1) := dk_3 (dk_at dksX2_thereFor_0 12 rfl rfl)
theorem dX2_thereFor_13 : decode cX2_thereFor 13 = .ok (.aload_n 0, 1) := dk_42 (dk_at dksX2_thereFor_0 13 rfl rfl)
theorem dX2_thereFor_14 : decode cX2_thereFor 14 = .ok (.getfield 77, 3) := dk_180 0 77 (dk_at dksX2_thereFor_0 14 rfl rfl)
theorem dX2_thereFor_17 : decode cX2_thereFor 17 = .ok (.aload_n 0, 1) := dk_42 (dk_at dksX2_thereFor_0 17 rfl rfl)
theorem dX2_thereFor_18 : decode cX2_thereFor 18 = .ok (.getfield 3, 3) := dk_180 0 3 (dk_at dksX2_thereFor_0 18 rfl rfl)
theorem dX2_thereFor_21 : decode cX2_thereFor 21 = .ok (.getfield 68, 3) := dk_180 0 68 (dk_at dksX2_thereFor_0 21 rfl rfl)
theorem dX2_thereFor_24 : decode cX2_thereFor 24 = .ok (.iload_n 1, 1) := dk_27 (dk_at dksX2_thereFor_1 0 rfl rfl)
theorem dX2_thereFor_25 : decode cX2_thereFor 25 = .ok (.aaload, 1) := dk_50 (dk_at dksX2_thereFor_1 1 rfl rfl)
theorem dX2_thereFor_26 : decode cX2_thereFor 26 = .ok (.getfield 72, 3) := dk_180 0 72 (dk_at dksX2_thereFor_1 2 rfl rfl)
theorem dX2_thereFor_29 : decode cX2_thereFor 29 = .ok (.isub, 1) := dk_100 (dk_at dksX2_thereFor_1 5 rfl rfl)
theorem dX2_thereFor_30 : decode cX2_thereFor 30 = .ok (.invokestatic 160, 3) := dk_184 0 160 (dk_at dksX2_thereFor_1 6 rfl rfl)
theorem dX2_thereFor_33 : decode cX2_thereFor 33 = .ok (.ireturn, 1) := dk_172 (dk_at dksX2_thereFor_1 9 rfl rfl)
abbrev cX2_shed : ByteArray := prog_16_method_22_code
def yX2_shed : MethodName := ⟨RX2, "shed", "()I"⟩
def dkwX2_shed_2 : List UInt8 := [21, 4, 28, 163, 0, 6, 167, 0, 8, 29, 60, 21, 4, 61, 132, 3, 1, 167, 255, 198, 27, 172]
abbrev dktX2_shed_2 : List UInt8 := dkwX2_shed_2 ++ []
def dkwX2_shed_1 : List UInt8 := [29, 46, 104, 42, 180, 0, 3, 180, 0, 180, 29, 50, 180, 0, 184, 184, 0, 201, 4, 96, 108, 54, 4]
abbrev dktX2_shed_1 : List UInt8 := dkwX2_shed_1 ++ dktX2_shed_2
def dkwX2_shed_0 : List UInt8 := [3, 60, 2, 61, 3, 62, 29, 42, 180, 0, 3, 180, 0, 89, 162, 0, 53, 17, 3, 232, 42, 180, 0, 15]
abbrev dktX2_shed_0 : List UInt8 := dkwX2_shed_0 ++ dktX2_shed_1
theorem dksX2_shed_0 : cX2_shed.data.toList.drop 0 = dktX2_shed_0 := by decide +kernel
theorem dksX2_shed_1 : cX2_shed.data.toList.drop 24 = dktX2_shed_1 := dk_seg dksX2_shed_0 24 rfl rfl
theorem dksX2_shed_2 : cX2_shed.data.toList.drop 47 = dktX2_shed_2 := dk_seg dksX2_shed_1 23 rfl rfl
theorem dX2_shed_0 : decode cX2_shed 0 = .ok (.iconst 0, 1) := dk_3 (dk_at dksX2_shed_0 0 rfl rfl)
theorem dX2_shed_1 : decode cX2_shed 1 = .ok (.istore_n 1, 1) := dk_60 (dk_at dksX2_shed_0 1 rfl rfl)
theorem dX2_shed_2 : decode cX2_shed 2 = .ok (.iconst (-1), 1) := dk_2 (dk_at dksX2_shed_0 2 rfl rfl)
theorem dX2_shed_3 : decode cX2_shed 3 = .ok (.istore_n 2, 1) := dk_61 (dk_at dksX2_shed_0 3 rfl rfl)
theorem dX2_shed_4 : decode cX2_shed 4 = .ok (.iconst 0, 1) := dk_3 (dk_at dksX2_shed_0 4 rfl rfl)
theorem dX2_shed_5 : decode cX2_shed 5 = .ok (.istore_n 3, 1) := dk_62 (dk_at dksX2_shed_0 5 rfl rfl)
theorem dX2_shed_6 : decode cX2_shed 6 = .ok (.iload_n 3, 1) := dk_29 (dk_at dksX2_shed_0 6 rfl rfl)
theorem dX2_shed_7 : decode cX2_shed 7 = .ok (.aload_n 0, 1) := dk_42 (dk_at dksX2_shed_0 7 rfl rfl)
theorem dX2_shed_8 : decode cX2_shed 8 = .ok (.getfield 3, 3) := dk_180 0 3 (dk_at dksX2_shed_0 8 rfl rfl)
theorem dX2_shed_11 : decode cX2_shed 11 = .ok (.getfield 89, 3) := dk_180 0 89 (dk_at dksX2_shed_0 11 rfl rfl)
theorem dX2_shed_14 : decode cX2_shed 14 = .ok (.if_icmp .ge 53, 3) := dk_162 0 53 (dk_at dksX2_shed_0 14 rfl rfl)
theorem dX2_shed_17 : decode cX2_shed 17 = .ok (.sipush 1000, 3) := dk_17 3 232 (dk_at dksX2_shed_0 17 rfl rfl)
theorem dX2_shed_20 : decode cX2_shed 20 = .ok (.aload_n 0, 1) := dk_42 (dk_at dksX2_shed_0 20 rfl rfl)
theorem dX2_shed_21 : decode cX2_shed 21 = .ok (.getfield 15, 3) := dk_180 0 15 (dk_at dksX2_shed_0 21 rfl rfl)
theorem dX2_shed_24 : decode cX2_shed 24 = .ok (.iload_n 3, 1) := dk_29 (dk_at dksX2_shed_1 0 rfl rfl)
theorem dX2_shed_25 : decode cX2_shed 25 = .ok (.iaload, 1) := dk_46 (dk_at dksX2_shed_1 1 rfl rfl)
theorem dX2_shed_26 : decode cX2_shed 26 = .ok (.imul, 1) := dk_104 (dk_at dksX2_shed_1 2 rfl rfl)
theorem dX2_shed_27 : decode cX2_shed 27 = .ok (.aload_n 0, 1) := dk_42 (dk_at dksX2_shed_1 3 rfl rfl)
theorem dX2_shed_28 : decode cX2_shed 28 = .ok (.getfield 3, 3) := dk_180 0 3 (dk_at dksX2_shed_1 4 rfl rfl)
theorem dX2_shed_31 : decode cX2_shed 31 = .ok (.getfield 180, 3) := dk_180 0 180 (dk_at dksX2_shed_1 7 rfl rfl)
theorem dX2_shed_34 : decode cX2_shed 34 = .ok (.iload_n 3, 1) := dk_29 (dk_at dksX2_shed_1 10 rfl rfl)
theorem dX2_shed_35 : decode cX2_shed 35 = .ok (.aaload, 1) := dk_50 (dk_at dksX2_shed_1 11 rfl rfl)
theorem dX2_shed_36 : decode cX2_shed 36 = .ok (.getfield 184, 3) := dk_180 0 184 (dk_at dksX2_shed_1 12 rfl rfl)
theorem dX2_shed_39 : decode cX2_shed 39 = .ok (.invokestatic 201, 3) := dk_184 0 201 (dk_at dksX2_shed_1 15 rfl rfl)
theorem dX2_shed_42 : decode cX2_shed 42 = .ok (.iconst 1, 1) := dk_4 (dk_at dksX2_shed_1 18 rfl rfl)
theorem dX2_shed_43 : decode cX2_shed 43 = .ok (.iadd, 1) := dk_96 (dk_at dksX2_shed_1 19 rfl rfl)
theorem dX2_shed_44 : decode cX2_shed 44 = .ok (.idiv, 1) := dk_108 (dk_at dksX2_shed_1 20 rfl rfl)
theorem dX2_shed_45 : decode cX2_shed 45 = .ok (.istore 4, 2) := dk_54 4 (dk_at dksX2_shed_1 21 rfl rfl)
theorem dX2_shed_47 : decode cX2_shed 47 = .ok (.iload 4, 2) := dk_21 4 (dk_at dksX2_shed_2 0 rfl rfl)
theorem dX2_shed_49 : decode cX2_shed 49 = .ok (.iload_n 2, 1) := dk_28 (dk_at dksX2_shed_2 2 rfl rfl)
theorem dX2_shed_50 : decode cX2_shed 50 = .ok (.if_icmp .gt 6, 3) := dk_163 0 6 (dk_at dksX2_shed_2 3 rfl rfl)
theorem dX2_shed_53 : decode cX2_shed 53 = .ok (.goto 8, 3) := dk_167 0 8 (dk_at dksX2_shed_2 6 rfl rfl)
theorem dX2_shed_56 : decode cX2_shed 56 = .ok (.iload_n 3, 1) := dk_29 (dk_at dksX2_shed_2 9 rfl rfl)
theorem dX2_shed_57 : decode cX2_shed 57 = .ok (.istore_n 1, 1) := dk_60 (dk_at dksX2_shed_2 10 rfl rfl)
theorem dX2_shed_58 : decode cX2_shed 58 = .ok (.iload 4, 2) := dk_21 4 (dk_at dksX2_shed_2 11 rfl rfl)
theorem dX2_shed_60 : decode cX2_shed 60 = .ok (.istore_n 2, 1) := dk_61 (dk_at dksX2_shed_2 13 rfl rfl)
theorem dX2_shed_61 : decode cX2_shed 61 = .ok (.iinc 3 1, 3) := dk_132 3 1 (dk_at dksX2_shed_2 14 rfl rfl)
theorem dX2_shed_64 : decode cX2_shed 64 = .ok (.goto (-58), 3) := dk_167 255 198 (dk_at dksX2_shed_2 17 rfl rfl)
theorem dX2_shed_67 : decode cX2_shed 67 = .ok (.iload_n 1, 1) := dk_27 (dk_at dksX2_shed_2 20 rfl rfl)
theorem dX2_shed_68 : decode cX2_shed 68 = .ok (.ireturn, 1) := dk_172 (dk_at dksX2_shed_2 21 rfl rfl)
